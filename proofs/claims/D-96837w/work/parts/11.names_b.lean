/-! names, decode rows, words: out of claim/names -/
set_option maxRecDepth 100000
abbrev cX0_init : ByteArray := prog_1_method_5_code
def yX0_init : MethodName := ⟨RX0, "<init>", "()V"⟩
def dkwX0_init_5 : List UInt8 := [167, 255, 235, 177]
abbrev dktX0_init_5 : List UInt8 := dkwX0_init_5 ++ []
def dkwX0_init_4 : List UInt8 := [60, 27, 7, 162, 0, 22, 42, 180, 0, 69, 27, 187, 0, 67, 89, 183, 0, 80, 83, 132, 1, 1]
abbrev dktX0_init_4 : List UInt8 := dkwX0_init_4 ++ dktX0_init_5
def dkwX0_init_3 : List UInt8 := [189, 0, 67, 181, 0, 69, 42, 17, 1, 0, 188, 4, 181, 0, 73, 42, 16, 8, 188, 10, 181, 0, 77, 3]
abbrev dktX0_init_3 : List UInt8 := dkwX0_init_3 ++ dktX0_init_4
def dkwX0_init_2 : List UInt8 := [181, 0, 53, 42, 187, 0, 56, 89, 183, 0, 58, 181, 0, 59, 42, 16, 6, 188, 10, 181, 0, 63, 42, 7]
abbrev dktX0_init_2 : List UInt8 := dkwX0_init_2 ++ dktX0_init_3
def dkwX0_init_1 : List UInt8 := [181, 0, 46, 42, 187, 0, 43, 89, 183, 0, 45, 181, 0, 50, 42, 187, 0, 43, 89, 183, 0, 45]
abbrev dktX0_init_1 : List UInt8 := dkwX0_init_1 ++ dktX0_init_2
def dkwX0_init_0 : List UInt8 := [42, 183, 0, 37, 42, 187, 0, 8, 89, 183, 0, 42, 181, 0, 1, 42, 187, 0, 43, 89, 183, 0, 45]
abbrev dktX0_init_0 : List UInt8 := dkwX0_init_0 ++ dktX0_init_1
theorem dksX0_init_0 : cX0_init.data.toList.drop 0 = dktX0_init_0 := by decide +kernel
theorem dksX0_init_1 : cX0_init.data.toList.drop 23 = dktX0_init_1 := dk_seg dksX0_init_0 23 rfl rfl
theorem dksX0_init_2 : cX0_init.data.toList.drop 45 = dktX0_init_2 := dk_seg dksX0_init_1 22 rfl rfl
theorem dksX0_init_3 : cX0_init.data.toList.drop 69 = dktX0_init_3 := dk_seg dksX0_init_2 24 rfl rfl
theorem dksX0_init_4 : cX0_init.data.toList.drop 93 = dktX0_init_4 := dk_seg dksX0_init_3 24 rfl rfl
theorem dksX0_init_5 : cX0_init.data.toList.drop 115 = dktX0_init_5 := dk_seg dksX0_init_4 22 rfl rfl
theorem dX0_init_0 : decode cX0_init 0 = .ok (.aload_n 0, 1) := dk_42 (dk_at dksX0_init_0 0 rfl rfl)
theorem dX0_init_1 : decode cX0_init 1 = .ok (.invokespecial 37, 3) := dk_183 0 37 (dk_at dksX0_init_0 1 rfl rfl)
theorem dX0_init_4 : decode cX0_init 4 = .ok (.aload_n 0, 1) := dk_42 (dk_at dksX0_init_0 4 rfl rfl)
theorem dX0_init_5 : decode cX0_init 5 = .ok (.new 8, 3) := dk_187 0 8 (dk_at dksX0_init_0 5 rfl rfl)
theorem dX0_init_8 : decode cX0_init 8 = .ok (.dup, 1) := dk_89 (dk_at dksX0_init_0 8 rfl rfl)
theorem dX0_init_9 : decode cX0_init 9 = .ok (.invokespecial 42, 3) := dk_183 0 42 (dk_at dksX0_init_0 9 rfl rfl)
theorem dX0_init_12 : decode cX0_init 12 = .ok (.putfield 1, 3) := dk_181 0 1 (dk_at dksX0_init_0 12 rfl rfl)
theorem dX0_init_15 : decode cX0_init 15 = .ok (.aload_n 0, 1) := dk_42 (dk_at dksX0_init_0 15 rfl rfl)
theorem dX0_init_16 : decode cX0_init 16 = .ok (.new 43, 3) := dk_187 0 43 (dk_at dksX0_init_0 16 rfl rfl)
theorem dX0_init_19 : decode cX0_init 19 = .ok (.dup, 1) := dk_89 (dk_at dksX0_init_0 19 rfl rfl)
theorem dX0_init_20 : decode cX0_init 20 = .ok (.invokespecial 45, 3) := dk_183 0 45 (dk_at dksX0_init_0 20 rfl rfl)
theorem dX0_init_23 : decode cX0_init 23 = .ok (.putfield 46, 3) := dk_181 0 46 (dk_at dksX0_init_1 0 rfl rfl)
theorem dX0_init_26 : decode cX0_init 26 = .ok (.aload_n 0, 1) := dk_42 (dk_at dksX0_init_1 3 rfl rfl)
theorem dX0_init_27 : decode cX0_init 27 = .ok (.new 43, 3) := dk_187 0 43 (dk_at dksX0_init_1 4 rfl rfl)
theorem dX0_init_30 : decode cX0_init 30 = .ok (.dup, 1) := dk_89 (dk_at dksX0_init_1 7 rfl rfl)
theorem dX0_init_31 : decode cX0_init 31 = .ok (.invokespecial 45, 3) := dk_183 0 45 (dk_at dksX0_init_1 8 rfl rfl)
theorem dX0_init_34 : decode cX0_init 34 = .ok (.putfield 50, 3) := dk_181 0 50 (dk_at dksX0_init_1 11 rfl rfl)
theorem dX0_init_37 : decode cX0_init 37 = .ok (.aload_n 0, 1) := dk_42 (dk_at dksX0_init_1 14 rfl rfl)
theorem dX0_init_38 : decode cX0_init 38 = .ok (.new 43, 3) := dk_187 0 43 (dk_at dksX0_init_1 15 rfl rfl)
theorem dX0_init_41 : decode cX0_init 41 = .ok (.dup, 1) := dk_89 (dk_at dksX0_init_1 18 rfl rfl)
theorem dX0_init_42 : decode cX0_init 42 = .ok (.invokespecial 45, 3) := dk_183 0 45 (dk_at dksX0_init_1 19 rfl rfl)
theorem dX0_init_45 : decode cX0_init 45 = .ok (.putfield 53, 3) := dk_181 0 53 (dk_at dksX0_init_2 0 rfl rfl)
theorem dX0_init_48 : decode cX0_init 48 = .ok (.aload_n 0, 1) := dk_42 (dk_at dksX0_init_2 3 rfl rfl)
theorem dX0_init_49 : decode cX0_init 49 = .ok (.new 56, 3) := dk_187 0 56 (dk_at dksX0_init_2 4 rfl rfl)
theorem dX0_init_52 : decode cX0_init 52 = .ok (.dup, 1) := dk_89 (dk_at dksX0_init_2 7 rfl rfl)
theorem dX0_init_53 : decode cX0_init 53 = .ok (.invokespecial 58, 3) := dk_183 0 58 (dk_at dksX0_init_2 8 rfl rfl)
theorem dX0_init_56 : decode cX0_init 56 = .ok (.putfield 59, 3) := dk_181 0 59 (dk_at dksX0_init_2 11 rfl rfl)
theorem dX0_init_59 : decode cX0_init 59 = .ok (.aload_n 0, 1) := dk_42 (dk_at dksX0_init_2 14 rfl rfl)
theorem dX0_init_60 : decode cX0_init 60 = .ok (.bipush 6, 2) := dk_16 6 (dk_at dksX0_init_2 15 rfl rfl)
theorem dX0_init_62 : decode cX0_init 62 = .ok (.newarray .int, 2) := dk_188_10 (dk_at dksX0_init_2 17 rfl rfl)
theorem dX0_init_64 : decode cX0_init 64 = .ok (.putfield 63, 3) := dk_181 0 63 (dk_at dksX0_init_2 19 rfl rfl)
theorem dX0_init_67 : decode cX0_init 67 = .ok (.aload_n 0, 1) := dk_42 (dk_at dksX0_init_2 22 rfl rfl)
theorem dX0_init_68 : decode cX0_init 68 = .ok (.iconst 4, 1) := dk_7 (dk_at dksX0_init_2 23 rfl rfl)
theorem dX0_init_69 : decode cX0_init 69 = .ok (.anewarray 67, 3) := dk_189 0 67 (dk_at dksX0_init_3 0 rfl rfl)
theorem dX0_init_72 : decode cX0_init 72 = .ok (.putfield 69, 3) := dk_181 0 69 (dk_at dksX0_init_3 3 rfl rfl)
theorem dX0_init_75 : decode cX0_init 75 = .ok (.aload_n 0, 1) := dk_42 (dk_at dksX0_init_3 6 rfl rfl)
theorem dX0_init_76 : decode cX0_init 76 = .ok (.sipush 256, 3) := dk_17 1 0 (dk_at dksX0_init_3 7 rfl rfl)
theorem dX0_init_79 : decode cX0_init 79 = .ok (.newarray .boolean, 2) := dk_188_4 (dk_at dksX0_init_3 10 rfl rfl)
theorem dX0_init_81 : decode cX0_init 81 = .ok (.putfield 73, 3) := dk_181 0 73 (dk_at dksX0_init_3 12 rfl rfl)
theorem dX0_init_84 : decode cX0_init 84 = .ok (.aload_n 0, 1) := dk_42 (dk_at dksX0_init_3 15 rfl rfl)
theorem dX0_init_85 : decode cX0_init 85 = .ok (.bipush 8, 2) := dk_16 8 (dk_at dksX0_init_3 16 rfl rfl)
theorem dX0_init_87 : decode cX0_init 87 = .ok (.newarray .int, 2) := dk_188_10 (dk_at dksX0_init_3 18 rfl rfl)
theorem dX0_init_89 : decode cX0_init 89 = .ok (.putfield 77, 3) := dk_181 0 77 (dk_at dksX0_init_3 20 rfl rfl)
theorem dX0_init_92 : decode cX0_init 92 = .ok (.iconst 0, 1) := dk_3 (dk_at dksX0_init_3 23 rfl rfl)
theorem dX0_init_93 : decode cX0_init 93 = .ok (.istore_n 1, 1) := dk_60 (dk_at dksX0_init_4 0 rfl rfl)
theorem dX0_init_94 : decode cX0_init 94 = .ok (.iload_n 1, 1) := dk_27 (dk_at dksX0_init_4 1 rfl rfl)
theorem dX0_init_95 : decode cX0_init 95 = .ok (.iconst 4, 1) := dk_7 (dk_at dksX0_init_4 2 rfl rfl)
theorem dX0_init_96 : decode cX0_init 96 = .ok (.if_icmp .ge 22, 3) := dk_162 0 22 (dk_at dksX0_init_4 3 rfl rfl)
theorem dX0_init_99 : decode cX0_init 99 = .ok (.aload_n 0, 1) := dk_42 (dk_at dksX0_init_4 6 rfl rfl)
theorem dX0_init_100 : decode cX0_init 100 = .ok (.getfield 69, 3) := dk_180 0 69 (dk_at dksX0_init_4 7 rfl rfl)
theorem dX0_init_103 : decode cX0_init 103 = .ok (.iload_n 1, 1) := dk_27 (dk_at dksX0_init_4 10 rfl rfl)
theorem dX0_init_104 : decode cX0_init 104 = .ok (.new 67, 3) := dk_187 0 67 (dk_at dksX0_init_4 11 rfl rfl)
theorem dX0_init_107 : decode cX0_init 107 = .ok (.dup, 1) := dk_89 (dk_at dksX0_init_4 14 rfl rfl)
theorem dX0_init_108 : decode cX0_init 108 = .ok (.invokespecial 80, 3) := dk_183 0 80 (dk_at dksX0_init_4 15 rfl rfl)
theorem dX0_init_111 : decode cX0_init 111 = .ok (.aastore, 1) := dk_83 (dk_at dksX0_init_4 18 rfl rfl)
theorem dX0_init_112 : decode cX0_init 112 = .ok (.iinc 1 1, 3) := dk_132 1 1 (dk_at dksX0_init_4 19 rfl rfl)
theorem dX0_init_115 : decode cX0_init 115 = .ok (.goto (-21), 3) := dk_167 255 235 (dk_at dksX0_init_5 0 rfl rfl)
theorem dX0_init_118 : decode cX0_init 118 = .ok (.return_, 1) := dk_177 (dk_at dksX0_init_5 3 rfl rfl)
abbrev cX0_person : ByteArray := prog_1_method_13_code
def yX0_person : MethodName := ⟨RX0, "person", "(II)I"⟩
def dkwX0_person_7 : List UInt8 := [180, 0, 46, 89, 180, 0, 100, 4, 96, 181, 0, 100, 29, 172, 78, 42, 45, 182, 0, 131, 172]
abbrev dktX0_person_7 : List UInt8 := dkwX0_person_7 ++ []
def dkwX0_person_6 : List UInt8 := [42, 180, 0, 46, 180, 0, 124, 21, 4, 29, 184, 0, 127, 3, 79, 132, 4, 1, 167, 255, 216, 42]
abbrev dktX0_person_6 : List UInt8 := dkwX0_person_6 ++ dktX0_person_7
def dkwX0_person_5 : List UInt8 := [54, 4, 21, 4, 16, 8, 162, 0, 39, 42, 180, 0, 46, 180, 0, 124, 29, 21, 4, 184, 0, 127, 3, 79]
abbrev dktX0_person_5 : List UInt8 := dkwX0_person_5 ++ dktX0_person_6
def dkwX0_person_4 : List UInt8 := [29, 28, 79, 42, 180, 0, 46, 180, 0, 118, 29, 3, 79, 42, 180, 0, 46, 180, 0, 121, 29, 3, 79, 3]
abbrev dktX0_person_4 : List UInt8 := dkwX0_person_4 ++ dktX0_person_5
def dkwX0_person_3 : List UInt8 := [27, 16, 10, 108, 42, 180, 0, 59, 29, 27, 16, 10, 112, 184, 0, 111, 83, 42, 180, 0, 46, 180, 0, 115]
abbrev dktX0_person_3 : List UInt8 := dkwX0_person_3 ++ dktX0_person_4
def dkwX0_person_2 : List UInt8 := [167, 0, 4, 3, 7, 182, 0, 94, 42, 180, 0, 46, 180, 0, 100, 62, 42, 180, 0, 46, 180, 0, 107, 29]
abbrev dktX0_person_2 : List UInt8 := dkwX0_person_2 ++ dktX0_person_3
def dkwX0_person_1 : List UInt8 := [167, 0, 4, 3, 4, 182, 0, 94, 42, 42, 180, 0, 46, 180, 0, 100, 16, 8, 162, 0, 7, 4]
abbrev dktX0_person_1 : List UInt8 := dkwX0_person_1 ++ dktX0_person_2
def dkwX0_person_0 : List UInt8 := [42, 27, 3, 16, 69, 184, 0, 86, 153, 0, 17, 28, 3, 16, 15, 184, 0, 86, 153, 0, 7, 4]
abbrev dktX0_person_0 : List UInt8 := dkwX0_person_0 ++ dktX0_person_1
theorem dksX0_person_0 : cX0_person.data.toList.drop 0 = dktX0_person_0 := by decide +kernel
theorem dksX0_person_1 : cX0_person.data.toList.drop 22 = dktX0_person_1 := dk_seg dksX0_person_0 22 rfl rfl
theorem dksX0_person_2 : cX0_person.data.toList.drop 44 = dktX0_person_2 := dk_seg dksX0_person_1 22 rfl rfl
theorem dksX0_person_3 : cX0_person.data.toList.drop 68 = dktX0_person_3 := dk_seg dksX0_person_2 24 rfl rfl
theorem dksX0_person_4 : cX0_person.data.toList.drop 92 = dktX0_person_4 := dk_seg dksX0_person_3 24 rfl rfl
theorem dksX0_person_5 : cX0_person.data.toList.drop 116 = dktX0_person_5 := dk_seg dksX0_person_4 24 rfl rfl
theorem dksX0_person_6 : cX0_person.data.toList.drop 140 = dktX0_person_6 := dk_seg dksX0_person_5 24 rfl rfl
theorem dksX0_person_7 : cX0_person.data.toList.drop 162 = dktX0_person_7 := dk_seg dksX0_person_6 22 rfl rfl
theorem dX0_person_0 : decode cX0_person 0 = .ok (.aload_n 0, 1) := dk_42 (dk_at dksX0_person_0 0 rfl rfl)
theorem dX0_person_1 : decode cX0_person 1 = .ok (.iload_n 1, 1) := dk_27 (dk_at dksX0_person_0 1 rfl rfl)
theorem dX0_person_2 : decode cX0_person 2 = .ok (.iconst 0, 1) := dk_3 (dk_at dksX0_person_0 2 rfl rfl)
theorem dX0_person_3 : decode cX0_person 3 = .ok (.bipush 69, 2) := dk_16 69 (dk_at dksX0_person_0 3 rfl rfl)
theorem dX0_person_5 : decode cX0_person 5 = .ok (.invokestatic 86, 3) := dk_184 0 86 (dk_at dksX0_person_0 5 rfl rfl)
theorem dX0_person_8 : decode cX0_person 8 = .ok (.ifCond .eq 17, 3) := dk_153 0 17 (dk_at dksX0_person_0 8 rfl rfl)
theorem dX0_person_11 : decode cX0_person 11 = .ok (.iload_n 2, 1) := dk_28 (dk_at dksX0_person_0 11 rfl rfl)
theorem dX0_person_12 : decode cX0_person 12 = .ok (.iconst 0, 1) := dk_3 (dk_at dksX0_person_0 12 rfl rfl)
theorem dX0_person_13 : decode cX0_person 13 = .ok (.bipush 15, 2) := dk_16 15 (dk_at dksX0_person_0 13 rfl rfl)
theorem dX0_person_15 : decode cX0_person 15 = .ok (.invokestatic 86, 3) := dk_184 0 86 (dk_at dksX0_person_0 15 rfl rfl)
theorem dX0_person_18 : decode cX0_person 18 = .ok (.ifCond .eq 7, 3) := dk_153 0 7 (dk_at dksX0_person_0 18 rfl rfl)
theorem dX0_person_21 : decode cX0_person 21 = .ok (.iconst 1, 1) := dk_4 (dk_at dksX0_person_0 21 rfl rfl)
theorem dX0_person_22 : decode cX0_person 22 = .ok (.goto 4, 3) := dk_167 0 4 (dk_at dksX0_person_1 0 rfl rfl)
theorem dX0_person_25 : decode cX0_person 25 = .ok (.iconst 0, 1) := dk_3 (dk_at dksX0_person_1 3 rfl rfl)
theorem dX0_person_26 : decode cX0_person 26 = .ok (.iconst 1, 1) := dk_4 (dk_at dksX0_person_1 4 rfl rfl)
theorem dX0_person_27 : decode cX0_person 27 = .ok (.invokevirtual 94, 3) := dk_182 0 94 (dk_at dksX0_person_1 5 rfl rfl)
theorem dX0_person_30 : decode cX0_person 30 = .ok (.aload_n 0, 1) := dk_42 (dk_at dksX0_person_1 8 rfl rfl)
theorem dX0_person_31 : decode cX0_person 31 = .ok (.aload_n 0, 1) := dk_42 (dk_at dksX0_person_1 9 rfl rfl)
theorem dX0_person_32 : decode cX0_person 32 = .ok (.getfield 46, 3) := dk_180 0 46 (dk_at dksX0_person_1 10 rfl rfl)
theorem dX0_person_35 : decode cX0_person 35 = .ok (.getfield 100, 3) := dk_180 0 100 (dk_at dksX0_person_1 13 rfl rfl)
theorem dX0_person_38 : decode cX0_person 38 = .ok (.bipush 8, 2) := dk_16 8 (dk_at dksX0_person_1 16 rfl rfl)
theorem dX0_person_40 : decode cX0_person 40 = .ok (.if_icmp .ge 7, 3) := dk_162 0 7 (dk_at dksX0_person_1 18 rfl rfl)
theorem dX0_person_43 : decode cX0_person 43 = .ok (.iconst 1, 1) := dk_4 (dk_at dksX0_person_1 21 rfl rfl)
theorem dX0_person_44 : decode cX0_person 44 = .ok (.goto 4, 3) := dk_167 0 4 (dk_at dksX0_person_2 0 rfl rfl)
theorem dX0_person_47 : decode cX0_person 47 = .ok (.iconst 0, 1) := dk_3 (dk_at dksX0_person_2 3 rfl rfl)
theorem dX0_person_48 : decode cX0_person 48 = .ok (.iconst 4, 1) := dk_7 (dk_at dksX0_person_2 4 rfl rfl)
theorem dX0_person_49 : decode cX0_person 49 = .ok (.invokevirtual 94, 3) := dk_182 0 94 (dk_at dksX0_person_2 5 rfl rfl)
theorem dX0_person_52 : decode cX0_person 52 = .ok (.aload_n 0, 1) := dk_42 (dk_at dksX0_person_2 8 rfl rfl)
theorem dX0_person_53 : decode cX0_person 53 = .ok (.getfield 46, 3) := dk_180 0 46 (dk_at dksX0_person_2 9 rfl rfl)
theorem dX0_person_56 : decode cX0_person 56 = .ok (.getfield 100, 3) := dk_180 0 100 (dk_at dksX0_person_2 12 rfl rfl)
theorem dX0_person_59 : decode cX0_person 59 = .ok (.istore_n 3, 1) := dk_62 (dk_at dksX0_person_2 15 rfl rfl)
theorem dX0_person_60 : decode cX0_person 60 = .ok (.aload_n 0, 1) := dk_42 (dk_at dksX0_person_2 16 rfl rfl)
theorem dX0_person_61 : decode cX0_person 61 = .ok (.getfield 46, 3) := dk_180 0 46 (dk_at dksX0_person_2 17 rfl rfl)
theorem dX0_person_64 : decode cX0_person 64 = .ok (.getfield 107, 3) := dk_180 0 107 (dk_at dksX0_person_2 20 rfl rfl)
theorem dX0_person_67 : decode cX0_person 67 = .ok (.iload_n 3, 1) := dk_29 (dk_at dksX0_person_2 23 rfl rfl)
theorem dX0_person_68 : decode cX0_person 68 = .ok (.iload_n 1, 1) := dk_27 (dk_at dksX0_person_3 0 rfl rfl)
theorem dX0_person_69 : decode cX0_person 69 = .ok (.bipush 10, 2) := dk_16 10 (dk_at dksX0_person_3 1 rfl rfl)
theorem dX0_person_71 : decode cX0_person 71 = .ok (.idiv, 1) := dk_108 (dk_at dksX0_person_3 3 rfl rfl)
theorem dX0_person_72 : decode cX0_person 72 = .ok (.aload_n 0, 1) := dk_42 (dk_at dksX0_person_3 4 rfl rfl)
theorem dX0_person_73 : decode cX0_person 73 = .ok (.getfield 59, 3) := dk_180 0 59 (dk_at dksX0_person_3 5 rfl rfl)
theorem dX0_person_76 : decode cX0_person 76 = .ok (.iload_n 3, 1) := dk_29 (dk_at dksX0_person_3 8 rfl rfl)
theorem dX0_person_77 : decode cX0_person 77 = .ok (.iload_n 1, 1) := dk_27 (dk_at dksX0_person_3 9 rfl rfl)
theorem dX0_person_78 : decode cX0_person 78 = .ok (.bipush 10, 2) := dk_16 10 (dk_at dksX0_person_3 10 rfl rfl)
theorem dX0_person_80 : decode cX0_person 80 = .ok (.irem, 1) := dk_112 (dk_at dksX0_person_3 12 rfl rfl)
theorem dX0_person_81 : decode cX0_person 81 = .ok (.invokestatic 111, 3) := dk_184 0 111 (dk_at dksX0_person_3 13 rfl rfl)
theorem dX0_person_84 : decode cX0_person 84 = .ok (.aastore, 1) := dk_83 (dk_at dksX0_person_3 16 rfl rfl)
theorem dX0_person_85 : decode cX0_person 85 = .ok (.aload_n 0, 1) := dk_42 (dk_at dksX0_person_3 17 rfl rfl)
theorem dX0_person_86 : decode cX0_person 86 = .ok (.getfield 46, 3) := dk_180 0 46 (dk_at dksX0_person_3 18 rfl rfl)
theorem dX0_person_89 : decode cX0_person 89 = .ok (.getfield 115, 3) := dk_180 0 115 (dk_at dksX0_person_3 21 rfl rfl)
theorem dX0_person_92 : decode cX0_person 92 = .ok (.iload_n 3, 1) := dk_29 (dk_at dksX0_person_4 0 rfl rfl)
theorem dX0_person_93 : decode cX0_person 93 = .ok (.iload_n 2, 1) := dk_28 (dk_at dksX0_person_4 1 rfl rfl)
theorem dX0_person_94 : decode cX0_person 94 = .ok (.iastore, 1) := dk_79 (dk_at dksX0_person_4 2 rfl rfl)
theorem dX0_person_95 : decode cX0_person 95 = .ok (.aload_n 0, 1) := dk_42 (dk_at dksX0_person_4 3 rfl rfl)
theorem dX0_person_96 : decode cX0_person 96 = .ok (.getfield 46, 3) := dk_180 0 46 (dk_at dksX0_person_4 4 rfl rfl)
theorem dX0_person_99 : decode cX0_person 99 = .ok (.getfield 118, 3) := dk_180 0 118 (dk_at dksX0_person_4 7 rfl rfl)
theorem dX0_person_102 : decode cX0_person 102 = .ok (.iload_n 3, 1) := dk_29 (dk_at dksX0_person_4 10 rfl rfl)
theorem dX0_person_103 : decode cX0_person 103 = .ok (.iconst 0, 1) := dk_3 (dk_at dksX0_person_4 11 rfl rfl)
theorem dX0_person_104 : decode cX0_person 104 = .ok (.iastore, 1) := dk_79 (dk_at dksX0_person_4 12 rfl rfl)
theorem dX0_person_105 : decode cX0_person 105 = .ok (.aload_n 0, 1) := dk_42 (dk_at dksX0_person_4 13 rfl rfl)
theorem dX0_person_106 : decode cX0_person 106 = .ok (.getfield 46, 3) := dk_180 0 46 (dk_at dksX0_person_4 14 rfl rfl)
theorem dX0_person_109 : decode cX0_person 109 = .ok (.getfield 121, 3) := dk_180 0 121 (dk_at dksX0_person_4 17 rfl rfl)
theorem dX0_person_112 : decode cX0_person 112 = .ok (.iload_n 3, 1) := dk_29 (dk_at dksX0_person_4 20 rfl rfl)
theorem dX0_person_113 : decode cX0_person 113 = .ok (.iconst 0, 1) := dk_3 (dk_at dksX0_person_4 21 rfl rfl)
theorem dX0_person_114 : decode cX0_person 114 = .ok (.iastore, 1) := dk_79 (dk_at dksX0_person_4 22 rfl rfl)
theorem dX0_person_115 : decode cX0_person 115 = .ok (.iconst 0, 1) := dk_3 (dk_at dksX0_person_4 23 rfl rfl)
theorem dX0_person_116 : decode cX0_person 116 = .ok (.istore 4, 2) := dk_54 4 (dk_at dksX0_person_5 0 rfl rfl)
theorem dX0_person_118 : decode cX0_person 118 = .ok (.iload 4, 2) := dk_21 4 (dk_at dksX0_person_5 2 rfl rfl)
theorem dX0_person_120 : decode cX0_person 120 = .ok (.bipush 8, 2) := dk_16 8 (dk_at dksX0_person_5 4 rfl rfl)
theorem dX0_person_122 : decode cX0_person 122 = .ok (.if_icmp .ge 39, 3) := dk_162 0 39 (dk_at dksX0_person_5 6 rfl rfl)
theorem dX0_person_125 : decode cX0_person 125 = .ok (.aload_n 0, 1) := dk_42 (dk_at dksX0_person_5 9 rfl rfl)
theorem dX0_person_126 : decode cX0_person 126 = .ok (.getfield 46, 3) := dk_180 0 46 (dk_at dksX0_person_5 10 rfl rfl)
theorem dX0_person_129 : decode cX0_person 129 = .ok (.getfield 124, 3) := dk_180 0 124 (dk_at dksX0_person_5 13 rfl rfl)
theorem dX0_person_132 : decode cX0_person 132 = .ok (.iload_n 3, 1) := dk_29 (dk_at dksX0_person_5 16 rfl rfl)
theorem dX0_person_133 : decode cX0_person 133 = .ok (.iload 4, 2) := dk_21 4 (dk_at dksX0_person_5 17 rfl rfl)
theorem dX0_person_135 : decode cX0_person 135 = .ok (.invokestatic 127, 3) := dk_184 0 127 (dk_at dksX0_person_5 19 rfl rfl)
theorem dX0_person_138 : decode cX0_person 138 = .ok (.iconst 0, 1) := dk_3 (dk_at dksX0_person_5 22 rfl rfl)
theorem dX0_person_139 : decode cX0_person 139 = .ok (.iastore, 1) := dk_79 (dk_at dksX0_person_5 23 rfl rfl)
theorem dX0_person_140 : decode cX0_person 140 = .ok (.aload_n 0, 1) := dk_42 (dk_at dksX0_person_6 0 rfl rfl)
theorem dX0_person_141 : decode cX0_person 141 = .ok (.getfield 46, 3) := dk_180 0 46 (dk_at dksX0_person_6 1 rfl rfl)
theorem dX0_person_144 : decode cX0_person 144 = .ok (.getfield 124, 3) := dk_180 0 124 (dk_at dksX0_person_6 4 rfl rfl)
theorem dX0_person_147 : decode cX0_person 147 = .ok (.iload 4, 2) := dk_21 4 (dk_at dksX0_person_6 7 rfl rfl)
theorem dX0_person_149 : decode cX0_person 149 = .ok (.iload_n 3, 1) := dk_29 (dk_at dksX0_person_6 9 rfl rfl)
theorem dX0_person_150 : decode cX0_person 150 = .ok (.invokestatic 127, 3) := dk_184 0 127 (dk_at dksX0_person_6 10 rfl rfl)
theorem dX0_person_153 : decode cX0_person 153 = .ok (.iconst 0, 1) := dk_3 (dk_at dksX0_person_6 13 rfl rfl)
theorem dX0_person_154 : decode cX0_person 154 = .ok (.iastore, 1) := dk_79 (dk_at dksX0_person_6 14 rfl rfl)
theorem dX0_person_155 : decode cX0_person 155 = .ok (.iinc 4 1, 3) := dk_132 4 1 (dk_at dksX0_person_6 15 rfl rfl)
theorem dX0_person_158 : decode cX0_person 158 = .ok (.goto (-40), 3) := dk_167 255 216 (dk_at dksX0_person_6 18 rfl rfl)
theorem dX0_person_161 : decode cX0_person 161 = .ok (.aload_n 0, 1) := dk_42 (dk_at dksX0_person_6 21 rfl rfl)
theorem dX0_person_162 : decode cX0_person 162 = .ok (.getfield 46, 3) := dk_180 0 46 (dk_at dksX0_person_7 0 rfl rfl)
theorem dX0_person_165 : decode cX0_person 165 = .ok (.dup, 1) := dk_89 (dk_at dksX0_person_7 3 rfl rfl)
theorem dX0_person_166 : decode cX0_person 166 = .ok (.getfield 100, 3) := dk_180 0 100 (dk_at dksX0_person_7 4 rfl rfl)
theorem dX0_person_169 : decode cX0_person 169 = .ok (.iconst 1, 1) := dk_4 (dk_at dksX0_person_7 7 rfl rfl)
theorem dX0_person_170 : decode cX0_person 170 = .ok (.iadd, 1) := dk_96 (dk_at dksX0_person_7 8 rfl rfl)
theorem dX0_person_171 : decode cX0_person 171 = .ok (.putfield 100, 3) := dk_181 0 100 (dk_at dksX0_person_7 9 rfl rfl)
theorem dX0_person_174 : decode cX0_person 174 = .ok (.iload_n 3, 1) := dk_29 (dk_at dksX0_person_7 12 rfl rfl)
theorem dX0_person_175 : decode cX0_person 175 = .ok (.ireturn, 1) := dk_172 (dk_at dksX0_person_7 13 rfl rfl)
theorem dX0_person_176 : decode cX0_person 176 = .ok (.astore_n 3, 1) := dk_78 (dk_at dksX0_person_7 14 rfl rfl)
theorem dX0_person_177 : decode cX0_person 177 = .ok (.aload_n 0, 1) := dk_42 (dk_at dksX0_person_7 15 rfl rfl)
theorem dX0_person_178 : decode cX0_person 178 = .ok (.aload_n 3, 1) := dk_45 (dk_at dksX0_person_7 16 rfl rfl)
theorem dX0_person_179 : decode cX0_person 179 = .ok (.invokevirtual 131, 3) := dk_182 0 131 (dk_at dksX0_person_7 17 rfl rfl)
theorem dX0_person_182 : decode cX0_person 182 = .ok (.ireturn, 1) := dk_172 (dk_at dksX0_person_7 20 rfl rfl)
abbrev cX0_in : ByteArray := prog_1_method_1_code
def yX0_in : MethodName := ⟨RX0, "in", "(III)Z"⟩
def dkwX0_in_0 : List UInt8 := [26, 27, 161, 0, 12, 26, 28, 163, 0, 7, 4, 167, 0, 4, 3, 172]
abbrev dktX0_in_0 : List UInt8 := dkwX0_in_0 ++ []
theorem dksX0_in_0 : cX0_in.data.toList.drop 0 = dktX0_in_0 := by decide +kernel
theorem dX0_in_0 : decode cX0_in 0 = .ok (.iload_n 0, 1) := dk_26 (dk_at dksX0_in_0 0 rfl rfl)
theorem dX0_in_1 : decode cX0_in 1 = .ok (.iload_n 1, 1) := dk_27 (dk_at dksX0_in_0 1 rfl rfl)
theorem dX0_in_2 : decode cX0_in 2 = .ok (.if_icmp .lt 12, 3) := dk_161 0 12 (dk_at dksX0_in_0 2 rfl rfl)
theorem dX0_in_5 : decode cX0_in 5 = .ok (.iload_n 0, 1) := dk_26 (dk_at dksX0_in_0 5 rfl rfl)
theorem dX0_in_6 : decode cX0_in 6 = .ok (.iload_n 2, 1) := dk_28 (dk_at dksX0_in_0 6 rfl rfl)
theorem dX0_in_7 : decode cX0_in 7 = .ok (.if_icmp .gt 7, 3) := dk_163 0 7 (dk_at dksX0_in_0 7 rfl rfl)
theorem dX0_in_10 : decode cX0_in 10 = .ok (.iconst 1, 1) := dk_4 (dk_at dksX0_in_0 10 rfl rfl)
theorem dX0_in_11 : decode cX0_in 11 = .ok (.goto 4, 3) := dk_167 0 4 (dk_at dksX0_in_0 11 rfl rfl)
theorem dX0_in_14 : decode cX0_in 14 = .ok (.iconst 0, 1) := dk_3 (dk_at dksX0_in_0 14 rfl rfl)
theorem dX0_in_15 : decode cX0_in 15 = .ok (.ireturn, 1) := dk_172 (dk_at dksX0_in_0 15 rfl rfl)
abbrev cX0_need : ByteArray := prog_1_method_3_code
def yX0_need : MethodName := ⟨RX0, "need", "(ZI)V"⟩
def dkwX0_need_0 : List UInt8 := [27, 154, 0, 12, 42, 180, 0, 1, 28, 182, 0, 7, 191, 177]
abbrev dktX0_need_0 : List UInt8 := dkwX0_need_0 ++ []
theorem dksX0_need_0 : cX0_need.data.toList.drop 0 = dktX0_need_0 := by decide +kernel
theorem dX0_need_0 : decode cX0_need 0 = .ok (.iload_n 1, 1) := dk_27 (dk_at dksX0_need_0 0 rfl rfl)
theorem dX0_need_1 : decode cX0_need 1 = .ok (.ifCond .ne 12, 3) := dk_154 0 12 (dk_at dksX0_need_0 1 rfl rfl)
theorem dX0_need_4 : decode cX0_need 4 = .ok (.aload_n 0, 1) := dk_42 (dk_at dksX0_need_0 4 rfl rfl)
theorem dX0_need_5 : decode cX0_need 5 = .ok (.getfield 1, 3) := dk_180 0 1 (dk_at dksX0_need_0 5 rfl rfl)
theorem dX0_need_8 : decode cX0_need 8 = .ok (.iload_n 2, 1) := dk_28 (dk_at dksX0_need_0 8 rfl rfl)
theorem dX0_need_9 : decode cX0_need 9 = .ok (.invokevirtual 7, 3) := dk_182 0 7 (dk_at dksX0_need_0 9 rfl rfl)
theorem dX0_need_12 : decode cX0_need 12 = .ok (.athrow, 1) := dk_191 (dk_at dksX0_need_0 12 rfl rfl)
theorem dX0_need_13 : decode cX0_need 13 = .ok (.return_, 1) := dk_177 (dk_at dksX0_need_0 13 rfl rfl)
abbrev cX0_oneOf : ByteArray := prog_1_method_4_code
def yX0_oneOf : MethodName := ⟨RX0, "oneOf", "(ILWellRefuses$Trace;II)LWellRefuses$One;"⟩
def dkwX0_oneOf_5 : List UInt8 := [187, 0, 34, 89, 43, 28, 29, 183, 0, 36, 176]
abbrev dktX0_oneOf_5 : List UInt8 := dkwX0_oneOf_5 ++ []
def dkwX0_oneOf_4 : List UInt8 := [187, 0, 28, 89, 43, 28, 29, 183, 0, 30, 176, 187, 0, 31, 89, 43, 28, 29, 183, 0, 33, 176]
abbrev dktX0_oneOf_4 : List UInt8 := dkwX0_oneOf_4 ++ dktX0_oneOf_5
def dkwX0_oneOf_3 : List UInt8 := [187, 0, 22, 89, 43, 28, 29, 183, 0, 24, 176, 187, 0, 25, 89, 43, 28, 29, 183, 0, 27, 176]
abbrev dktX0_oneOf_3 : List UInt8 := dkwX0_oneOf_3 ++ dktX0_oneOf_4
def dkwX0_oneOf_2 : List UInt8 := [187, 0, 13, 89, 43, 28, 29, 183, 0, 15, 176, 187, 0, 19, 89, 43, 28, 29, 183, 0, 21, 176]
abbrev dktX0_oneOf_2 : List UInt8 := dkwX0_oneOf_2 ++ dktX0_oneOf_3
def dkwX0_oneOf_1 : List UInt8 := [170, 0, 0, 0, 0, 0, 105, 0, 0, 0, 1, 0, 0, 0, 6, 0, 0, 0, 39, 0, 0, 0, 50, 0, 0, 0, 61, 0, 0, 0, 72, 0, 0, 0, 83, 0, 0, 0, 94]
abbrev dktX0_oneOf_1 : List UInt8 := dkwX0_oneOf_1 ++ dktX0_oneOf_2
def dkwX0_oneOf_0 : List UInt8 := [26]
abbrev dktX0_oneOf_0 : List UInt8 := dkwX0_oneOf_0 ++ dktX0_oneOf_1
theorem dksX0_oneOf_0 : cX0_oneOf.data.toList.drop 0 = dktX0_oneOf_0 := by decide +kernel
theorem dksX0_oneOf_1 : cX0_oneOf.data.toList.drop 1 = dktX0_oneOf_1 := dk_seg dksX0_oneOf_0 1 rfl rfl
theorem dksX0_oneOf_2 : cX0_oneOf.data.toList.drop 40 = dktX0_oneOf_2 := dk_seg dksX0_oneOf_1 39 rfl rfl
theorem dksX0_oneOf_3 : cX0_oneOf.data.toList.drop 62 = dktX0_oneOf_3 := dk_seg dksX0_oneOf_2 22 rfl rfl
theorem dksX0_oneOf_4 : cX0_oneOf.data.toList.drop 84 = dktX0_oneOf_4 := dk_seg dksX0_oneOf_3 22 rfl rfl
theorem dksX0_oneOf_5 : cX0_oneOf.data.toList.drop 106 = dktX0_oneOf_5 := dk_seg dksX0_oneOf_4 22 rfl rfl
theorem dX0_oneOf_0 : decode cX0_oneOf 0 = .ok (.iload_n 0, 1) := dk_26 (dk_at dksX0_oneOf_0 0 rfl rfl)
theorem dX0_oneOf_1 : decode cX0_oneOf 1 = .ok (.tableswitch 105 1 6 #[39, 50, 61, 72, 83, 94], 39) := by decide +kernel
theorem dX0_oneOf_40 : decode cX0_oneOf 40 = .ok (.new 13, 3) := dk_187 0 13 (dk_at dksX0_oneOf_2 0 rfl rfl)
theorem dX0_oneOf_43 : decode cX0_oneOf 43 = .ok (.dup, 1) := dk_89 (dk_at dksX0_oneOf_2 3 rfl rfl)
theorem dX0_oneOf_44 : decode cX0_oneOf 44 = .ok (.aload_n 1, 1) := dk_43 (dk_at dksX0_oneOf_2 4 rfl rfl)
theorem dX0_oneOf_45 : decode cX0_oneOf 45 = .ok (.iload_n 2, 1) := dk_28 (dk_at dksX0_oneOf_2 5 rfl rfl)
theorem dX0_oneOf_46 : decode cX0_oneOf 46 = .ok (.iload_n 3, 1) := dk_29 (dk_at dksX0_oneOf_2 6 rfl rfl)
theorem dX0_oneOf_47 : decode cX0_oneOf 47 = .ok (.invokespecial 15, 3) := dk_183 0 15 (dk_at dksX0_oneOf_2 7 rfl rfl)
theorem dX0_oneOf_50 : decode cX0_oneOf 50 = .ok (.areturn, 1) := dk_176 (dk_at dksX0_oneOf_2 10 rfl rfl)
theorem dX0_oneOf_51 : decode cX0_oneOf 51 = .ok (.new 19, 3) := dk_187 0 19 (dk_at dksX0_oneOf_2 11 rfl rfl)
theorem dX0_oneOf_54 : decode cX0_oneOf 54 = .ok (.dup, 1) := dk_89 (dk_at dksX0_oneOf_2 14 rfl rfl)
theorem dX0_oneOf_55 : decode cX0_oneOf 55 = .ok (.aload_n 1, 1) := dk_43 (dk_at dksX0_oneOf_2 15 rfl rfl)
theorem dX0_oneOf_56 : decode cX0_oneOf 56 = .ok (.iload_n 2, 1) := dk_28 (dk_at dksX0_oneOf_2 16 rfl rfl)
theorem dX0_oneOf_57 : decode cX0_oneOf 57 = .ok (.iload_n 3, 1) := dk_29 (dk_at dksX0_oneOf_2 17 rfl rfl)
theorem dX0_oneOf_58 : decode cX0_oneOf 58 = .ok (.invokespecial 21, 3) := dk_183 0 21 (dk_at dksX0_oneOf_2 18 rfl rfl)
theorem dX0_oneOf_61 : decode cX0_oneOf 61 = .ok (.areturn, 1) := dk_176 (dk_at dksX0_oneOf_2 21 rfl rfl)
theorem dX0_oneOf_62 : decode cX0_oneOf 62 = .ok (.new 22, 3) := dk_187 0 22 (dk_at dksX0_oneOf_3 0 rfl rfl)
theorem dX0_oneOf_65 : decode cX0_oneOf 65 = .ok (.dup, 1) := dk_89 (dk_at dksX0_oneOf_3 3 rfl rfl)
theorem dX0_oneOf_66 : decode cX0_oneOf 66 = .ok (.aload_n 1, 1) := dk_43 (dk_at dksX0_oneOf_3 4 rfl rfl)
theorem dX0_oneOf_67 : decode cX0_oneOf 67 = .ok (.iload_n 2, 1) := dk_28 (dk_at dksX0_oneOf_3 5 rfl rfl)
theorem dX0_oneOf_68 : decode cX0_oneOf 68 = .ok (.iload_n 3, 1) := dk_29 (dk_at dksX0_oneOf_3 6 rfl rfl)
theorem dX0_oneOf_69 : decode cX0_oneOf 69 = .ok (.invokespecial 24, 3) := dk_183 0 24 (dk_at dksX0_oneOf_3 7 rfl rfl)
theorem dX0_oneOf_72 : decode cX0_oneOf 72 = .ok (.areturn, 1) := dk_176 (dk_at dksX0_oneOf_3 10 rfl rfl)
theorem dX0_oneOf_73 : decode cX0_oneOf 73 = .ok (.new 25, 3) := dk_187 0 25 (dk_at dksX0_oneOf_3 11 rfl rfl)
theorem dX0_oneOf_76 : decode cX0_oneOf 76 = .ok (.dup, 1) := dk_89 (dk_at dksX0_oneOf_3 14 rfl rfl)
theorem dX0_oneOf_77 : decode cX0_oneOf 77 = .ok (.aload_n 1, 1) := dk_43 (dk_at dksX0_oneOf_3 15 rfl rfl)
theorem dX0_oneOf_78 : decode cX0_oneOf 78 = .ok (.iload_n 2, 1) := dk_28 (dk_at dksX0_oneOf_3 16 rfl rfl)
theorem dX0_oneOf_79 : decode cX0_oneOf 79 = .ok (.iload_n 3, 1) := dk_29 (dk_at dksX0_oneOf_3 17 rfl rfl)
theorem dX0_oneOf_80 : decode cX0_oneOf 80 = .ok (.invokespecial 27, 3) := dk_183 0 27 (dk_at dksX0_oneOf_3 18 rfl rfl)
theorem dX0_oneOf_83 : decode cX0_oneOf 83 = .ok (.areturn, 1) := dk_176 (dk_at dksX0_oneOf_3 21 rfl rfl)
theorem dX0_oneOf_84 : decode cX0_oneOf 84 = .ok (.new 28, 3) := dk_187 0 28 (dk_at dksX0_oneOf_4 0 rfl rfl)
theorem dX0_oneOf_87 : decode cX0_oneOf 87 = .ok (.dup, 1) := dk_89 (dk_at dksX0_oneOf_4 3 rfl rfl)
theorem dX0_oneOf_88 : decode cX0_oneOf 88 = .ok (.aload_n 1, 1) := dk_43 (dk_at dksX0_oneOf_4 4 rfl rfl)
theorem dX0_oneOf_89 : decode cX0_oneOf 89 = .ok (.iload_n 2, 1) := dk_28 (dk_at dksX0_oneOf_4 5 rfl rfl)
theorem dX0_oneOf_90 : decode cX0_oneOf 90 = .ok (.iload_n 3, 1) := dk_29 (dk_at dksX0_oneOf_4 6 rfl rfl)
theorem dX0_oneOf_91 : decode cX0_oneOf 91 = .ok (.invokespecial 30, 3) := dk_183 0 30 (dk_at dksX0_oneOf_4 7 rfl rfl)
theorem dX0_oneOf_94 : decode cX0_oneOf 94 = .ok (.areturn, 1) := dk_176 (dk_at dksX0_oneOf_4 10 rfl rfl)
theorem dX0_oneOf_95 : decode cX0_oneOf 95 = .ok (.new 31, 3) := dk_187 0 31 (dk_at dksX0_oneOf_4 11 rfl rfl)
theorem dX0_oneOf_98 : decode cX0_oneOf 98 = .ok (.dup, 1) := dk_89 (dk_at dksX0_oneOf_4 14 rfl rfl)
theorem dX0_oneOf_99 : decode cX0_oneOf 99 = .ok (.aload_n 1, 1) := dk_43 (dk_at dksX0_oneOf_4 15 rfl rfl)
theorem dX0_oneOf_100 : decode cX0_oneOf 100 = .ok (.iload_n 2, 1) := dk_28 (dk_at dksX0_oneOf_4 16 rfl rfl)
theorem dX0_oneOf_101 : decode cX0_oneOf 101 = .ok (.iload_n 3, 1) := dk_29 (dk_at dksX0_oneOf_4 17 rfl rfl)
theorem dX0_oneOf_102 : decode cX0_oneOf 102 = .ok (.invokespecial 33, 3) := dk_183 0 33 (dk_at dksX0_oneOf_4 18 rfl rfl)
theorem dX0_oneOf_105 : decode cX0_oneOf 105 = .ok (.areturn, 1) := dk_176 (dk_at dksX0_oneOf_4 21 rfl rfl)
theorem dX0_oneOf_106 : decode cX0_oneOf 106 = .ok (.new 34, 3) := dk_187 0 34 (dk_at dksX0_oneOf_5 0 rfl rfl)
theorem dX0_oneOf_109 : decode cX0_oneOf 109 = .ok (.dup, 1) := dk_89 (dk_at dksX0_oneOf_5 3 rfl rfl)
theorem dX0_oneOf_110 : decode cX0_oneOf 110 = .ok (.aload_n 1, 1) := dk_43 (dk_at dksX0_oneOf_5 4 rfl rfl)
theorem dX0_oneOf_111 : decode cX0_oneOf 111 = .ok (.iload_n 2, 1) := dk_28 (dk_at dksX0_oneOf_5 5 rfl rfl)
theorem dX0_oneOf_112 : decode cX0_oneOf 112 = .ok (.iload_n 3, 1) := dk_29 (dk_at dksX0_oneOf_5 6 rfl rfl)
theorem dX0_oneOf_113 : decode cX0_oneOf 113 = .ok (.invokespecial 36, 3) := dk_183 0 36 (dk_at dksX0_oneOf_5 7 rfl rfl)
theorem dX0_oneOf_116 : decode cX0_oneOf 116 = .ok (.areturn, 1) := dk_176 (dk_at dksX0_oneOf_5 10 rfl rfl)
abbrev cX0_finds : ByteArray := prog_1_method_6_code
def yX0_finds : MethodName := ⟨RX0, "finds", "(LWellRefuses$Finding;)I"⟩
def dkwX0_finds_0 : List UInt8 := [42, 180, 0, 63, 43, 180, 0, 81, 92, 46, 4, 96, 79, 18, 85, 43, 180, 0, 81, 100, 172]
abbrev dktX0_finds_0 : List UInt8 := dkwX0_finds_0 ++ []
theorem dksX0_finds_0 : cX0_finds.data.toList.drop 0 = dktX0_finds_0 := by decide +kernel
theorem dX0_finds_0 : decode cX0_finds 0 = .ok (.aload_n 0, 1) := dk_42 (dk_at dksX0_finds_0 0 rfl rfl)
theorem dX0_finds_1 : decode cX0_finds 1 = .ok (.getfield 63, 3) := dk_180 0 63 (dk_at dksX0_finds_0 1 rfl rfl)
theorem dX0_finds_4 : decode cX0_finds 4 = .ok (.aload_n 1, 1) := dk_43 (dk_at dksX0_finds_0 4 rfl rfl)
theorem dX0_finds_5 : decode cX0_finds 5 = .ok (.getfield 81, 3) := dk_180 0 81 (dk_at dksX0_finds_0 5 rfl rfl)
theorem dX0_finds_8 : decode cX0_finds 8 = .ok (.dup2, 1) := dk_92 (dk_at dksX0_finds_0 8 rfl rfl)
theorem dX0_finds_9 : decode cX0_finds 9 = .ok (.iaload, 1) := dk_46 (dk_at dksX0_finds_0 9 rfl rfl)
theorem dX0_finds_10 : decode cX0_finds 10 = .ok (.iconst 1, 1) := dk_4 (dk_at dksX0_finds_0 10 rfl rfl)
theorem dX0_finds_11 : decode cX0_finds 11 = .ok (.iadd, 1) := dk_96 (dk_at dksX0_finds_0 11 rfl rfl)
theorem dX0_finds_12 : decode cX0_finds 12 = .ok (.iastore, 1) := dk_79 (dk_at dksX0_finds_0 12 rfl rfl)
theorem dX0_finds_13 : decode cX0_finds 13 = .ok (.ldc 85, 2) := dk_18 85 (dk_at dksX0_finds_0 13 rfl rfl)
theorem dX0_finds_15 : decode cX0_finds 15 = .ok (.aload_n 1, 1) := dk_43 (dk_at dksX0_finds_0 15 rfl rfl)
theorem dX0_finds_16 : decode cX0_finds 16 = .ok (.getfield 81, 3) := dk_180 0 81 (dk_at dksX0_finds_0 16 rfl rfl)
theorem dX0_finds_19 : decode cX0_finds 19 = .ok (.isub, 1) := dk_100 (dk_at dksX0_finds_0 19 rfl rfl)
theorem dX0_finds_20 : decode cX0_finds 20 = .ok (.ireturn, 1) := dk_172 (dk_at dksX0_finds_0 20 rfl rfl)
abbrev cX0_ofPerson : ByteArray := prog_1_method_14_code
def yX0_ofPerson : MethodName := ⟨RX0, "ofPerson", "(II)I"⟩
def dkwX0_ofPerson_5 : List UInt8 := [182, 0, 131, 172]
abbrev dktX0_ofPerson_5 : List UInt8 := dkwX0_ofPerson_5 ++ []
def dkwX0_ofPerson_4 : List UInt8 := [182, 0, 149, 172, 42, 180, 0, 46, 27, 182, 0, 152, 153, 0, 7, 4, 167, 0, 4, 3, 172, 78, 42, 45]
abbrev dktX0_ofPerson_4 : List UInt8 := dkwX0_ofPerson_4 ++ dktX0_ofPerson_5
def dkwX0_ofPerson_3 : List UInt8 := [180, 0, 118, 27, 46, 172, 42, 180, 0, 46, 180, 0, 121, 27, 46, 172, 45, 182, 0, 146, 172, 45]
abbrev dktX0_ofPerson_3 : List UInt8 := dkwX0_ofPerson_3 ++ dktX0_ofPerson_4
def dkwX0_ofPerson_2 : List UInt8 := [45, 182, 0, 139, 172, 45, 180, 0, 143, 172, 42, 180, 0, 46, 180, 0, 115, 27, 46, 172, 42, 180, 0, 46]
abbrev dktX0_ofPerson_2 : List UInt8 := dkwX0_ofPerson_2 ++ dktX0_ofPerson_3
def dkwX0_ofPerson_1 : List UInt8 := [170, 0, 0, 0, 0, 92, 0, 0, 0, 0, 0, 0, 0, 6, 0, 0, 0, 42, 0, 0, 0, 47, 0, 0, 0, 52, 0, 0, 0, 62, 0, 0, 0, 72, 0, 0, 0, 82, 0, 0, 0, 87]
abbrev dktX0_ofPerson_1 : List UInt8 := dkwX0_ofPerson_1 ++ dktX0_ofPerson_2
def dkwX0_ofPerson_0 : List UInt8 := [42, 27, 28, 3, 16, 7, 184, 0, 86, 182, 0, 135, 78, 28]
abbrev dktX0_ofPerson_0 : List UInt8 := dkwX0_ofPerson_0 ++ dktX0_ofPerson_1
theorem dksX0_ofPerson_0 : cX0_ofPerson.data.toList.drop 0 = dktX0_ofPerson_0 := by decide +kernel
theorem dksX0_ofPerson_1 : cX0_ofPerson.data.toList.drop 14 = dktX0_ofPerson_1 := dk_seg dksX0_ofPerson_0 14 rfl rfl
theorem dksX0_ofPerson_2 : cX0_ofPerson.data.toList.drop 56 = dktX0_ofPerson_2 := dk_seg dksX0_ofPerson_1 42 rfl rfl
theorem dksX0_ofPerson_3 : cX0_ofPerson.data.toList.drop 80 = dktX0_ofPerson_3 := dk_seg dksX0_ofPerson_2 24 rfl rfl
theorem dksX0_ofPerson_4 : cX0_ofPerson.data.toList.drop 102 = dktX0_ofPerson_4 := dk_seg dksX0_ofPerson_3 22 rfl rfl
theorem dksX0_ofPerson_5 : cX0_ofPerson.data.toList.drop 126 = dktX0_ofPerson_5 := dk_seg dksX0_ofPerson_4 24 rfl rfl
theorem dX0_ofPerson_0 : decode cX0_ofPerson 0 = .ok (.aload_n 0, 1) := dk_42 (dk_at dksX0_ofPerson_0 0 rfl rfl)
theorem dX0_ofPerson_1 : decode cX0_ofPerson 1 = .ok (.iload_n 1, 1) := dk_27 (dk_at dksX0_ofPerson_0 1 rfl rfl)
theorem dX0_ofPerson_2 : decode cX0_ofPerson 2 = .ok (.iload_n 2, 1) := dk_28 (dk_at dksX0_ofPerson_0 2 rfl rfl)
theorem dX0_ofPerson_3 : decode cX0_ofPerson 3 = .ok (.iconst 0, 1) := dk_3 (dk_at dksX0_ofPerson_0 3 rfl rfl)
theorem dX0_ofPerson_4 : decode cX0_ofPerson 4 = .ok (.bipush 7, 2) := dk_16 7 (dk_at dksX0_ofPerson_0 4 rfl rfl)
theorem dX0_ofPerson_6 : decode cX0_ofPerson 6 = .ok (.invokestatic 86, 3) := dk_184 0 86 (dk_at dksX0_ofPerson_0 6 rfl rfl)
theorem dX0_ofPerson_9 : decode cX0_ofPerson 9 = .ok (.invokevirtual 135, 3) := dk_182 0 135 (dk_at dksX0_ofPerson_0 9 rfl rfl)
theorem dX0_ofPerson_12 : decode cX0_ofPerson 12 = .ok (.astore_n 3, 1) := dk_78 (dk_at dksX0_ofPerson_0 12 rfl rfl)
theorem dX0_ofPerson_13 : decode cX0_ofPerson 13 = .ok (.iload_n 2, 1) := dk_28 (dk_at dksX0_ofPerson_0 13 rfl rfl)
theorem dX0_ofPerson_14 : decode cX0_ofPerson 14 = .ok (.tableswitch 92 0 6 #[42, 47, 52, 62, 72, 82, 87], 42) := by decide +kernel
theorem dX0_ofPerson_56 : decode cX0_ofPerson 56 = .ok (.aload_n 3, 1) := dk_45 (dk_at dksX0_ofPerson_2 0 rfl rfl)
theorem dX0_ofPerson_57 : decode cX0_ofPerson 57 = .ok (.invokevirtual 139, 3) := dk_182 0 139 (dk_at dksX0_ofPerson_2 1 rfl rfl)
theorem dX0_ofPerson_60 : decode cX0_ofPerson 60 = .ok (.ireturn, 1) := dk_172 (dk_at dksX0_ofPerson_2 4 rfl rfl)
theorem dX0_ofPerson_61 : decode cX0_ofPerson 61 = .ok (.aload_n 3, 1) := dk_45 (dk_at dksX0_ofPerson_2 5 rfl rfl)
theorem dX0_ofPerson_62 : decode cX0_ofPerson 62 = .ok (.getfield 143, 3) := dk_180 0 143 (dk_at dksX0_ofPerson_2 6 rfl rfl)
theorem dX0_ofPerson_65 : decode cX0_ofPerson 65 = .ok (.ireturn, 1) := dk_172 (dk_at dksX0_ofPerson_2 9 rfl rfl)
theorem dX0_ofPerson_66 : decode cX0_ofPerson 66 = .ok (.aload_n 0, 1) := dk_42 (dk_at dksX0_ofPerson_2 10 rfl rfl)
theorem dX0_ofPerson_67 : decode cX0_ofPerson 67 = .ok (.getfield 46, 3) := dk_180 0 46 (dk_at dksX0_ofPerson_2 11 rfl rfl)
theorem dX0_ofPerson_70 : decode cX0_ofPerson 70 = .ok (.getfield 115, 3) := dk_180 0 115 (dk_at dksX0_ofPerson_2 14 rfl rfl)
theorem dX0_ofPerson_73 : decode cX0_ofPerson 73 = .ok (.iload_n 1, 1) := dk_27 (dk_at dksX0_ofPerson_2 17 rfl rfl)
theorem dX0_ofPerson_74 : decode cX0_ofPerson 74 = .ok (.iaload, 1) := dk_46 (dk_at dksX0_ofPerson_2 18 rfl rfl)
theorem dX0_ofPerson_75 : decode cX0_ofPerson 75 = .ok (.ireturn, 1) := dk_172 (dk_at dksX0_ofPerson_2 19 rfl rfl)
theorem dX0_ofPerson_76 : decode cX0_ofPerson 76 = .ok (.aload_n 0, 1) := dk_42 (dk_at dksX0_ofPerson_2 20 rfl rfl)
theorem dX0_ofPerson_77 : decode cX0_ofPerson 77 = .ok (.getfield 46, 3) := dk_180 0 46 (dk_at dksX0_ofPerson_2 21 rfl rfl)
theorem dX0_ofPerson_80 : decode cX0_ofPerson 80 = .ok (.getfield 118, 3) := dk_180 0 118 (dk_at dksX0_ofPerson_3 0 rfl rfl)
theorem dX0_ofPerson_83 : decode cX0_ofPerson 83 = .ok (.iload_n 1, 1) := dk_27 (dk_at dksX0_ofPerson_3 3 rfl rfl)
theorem dX0_ofPerson_84 : decode cX0_ofPerson 84 = .ok (.iaload, 1) := dk_46 (dk_at dksX0_ofPerson_3 4 rfl rfl)
theorem dX0_ofPerson_85 : decode cX0_ofPerson 85 = .ok (.ireturn, 1) := dk_172 (dk_at dksX0_ofPerson_3 5 rfl rfl)
theorem dX0_ofPerson_86 : decode cX0_ofPerson 86 = .ok (.aload_n 0, 1) := dk_42 (dk_at dksX0_ofPerson_3 6 rfl rfl)
theorem dX0_ofPerson_87 : decode cX0_ofPerson 87 = .ok (.getfield 46, 3) := dk_180 0 46 (dk_at dksX0_ofPerson_3 7 rfl rfl)
theorem dX0_ofPerson_90 : decode cX0_ofPerson 90 = .ok (.getfield 121, 3) := dk_180 0 121 (dk_at dksX0_ofPerson_3 10 rfl rfl)
theorem dX0_ofPerson_93 : decode cX0_ofPerson 93 = .ok (.iload_n 1, 1) := dk_27 (dk_at dksX0_ofPerson_3 13 rfl rfl)
theorem dX0_ofPerson_94 : decode cX0_ofPerson 94 = .ok (.iaload, 1) := dk_46 (dk_at dksX0_ofPerson_3 14 rfl rfl)
theorem dX0_ofPerson_95 : decode cX0_ofPerson 95 = .ok (.ireturn, 1) := dk_172 (dk_at dksX0_ofPerson_3 15 rfl rfl)
theorem dX0_ofPerson_96 : decode cX0_ofPerson 96 = .ok (.aload_n 3, 1) := dk_45 (dk_at dksX0_ofPerson_3 16 rfl rfl)
theorem dX0_ofPerson_97 : decode cX0_ofPerson 97 = .ok (.invokevirtual 146, 3) := dk_182 0 146 (dk_at dksX0_ofPerson_3 17 rfl rfl)
theorem dX0_ofPerson_100 : decode cX0_ofPerson 100 = .ok (.ireturn, 1) := dk_172 (dk_at dksX0_ofPerson_3 20 rfl rfl)
theorem dX0_ofPerson_101 : decode cX0_ofPerson 101 = .ok (.aload_n 3, 1) := dk_45 (dk_at dksX0_ofPerson_3 21 rfl rfl)
theorem dX0_ofPerson_102 : decode cX0_ofPerson 102 = .ok (.invokevirtual 149, 3) := dk_182 0 149 (dk_at dksX0_ofPerson_4 0 rfl rfl)
theorem dX0_ofPerson_105 : decode cX0_ofPerson 105 = .ok (.ireturn, 1) := dk_172 (dk_at dksX0_ofPerson_4 3 rfl rfl)
theorem dX0_ofPerson_106 : decode cX0_ofPerson 106 = .ok (.aload_n 0, 1) := dk_42 (dk_at dksX0_ofPerson_4 4 rfl rfl)
theorem dX0_ofPerson_107 : decode cX0_ofPerson 107 = .ok (.getfield 46, 3) := dk_180 0 46 (dk_at dksX0_ofPerson_4 5 rfl rfl)
theorem dX0_ofPerson_110 : decode cX0_ofPerson 110 = .ok (.iload_n 1, 1) := dk_27 (dk_at dksX0_ofPerson_4 8 rfl rfl)
theorem dX0_ofPerson_111 : decode cX0_ofPerson 111 = .ok (.invokevirtual 152, 3) := dk_182 0 152 (dk_at dksX0_ofPerson_4 9 rfl rfl)
theorem dX0_ofPerson_114 : decode cX0_ofPerson 114 = .ok (.ifCond .eq 7, 3) := dk_153 0 7 (dk_at dksX0_ofPerson_4 12 rfl rfl)
theorem dX0_ofPerson_117 : decode cX0_ofPerson 117 = .ok (.iconst 1, 1) := dk_4 (dk_at dksX0_ofPerson_4 15 rfl rfl)
theorem dX0_ofPerson_118 : decode cX0_ofPerson 118 = .ok (.goto 4, 3) := dk_167 0 4 (dk_at dksX0_ofPerson_4 16 rfl rfl)
theorem dX0_ofPerson_121 : decode cX0_ofPerson 121 = .ok (.iconst 0, 1) := dk_3 (dk_at dksX0_ofPerson_4 19 rfl rfl)
theorem dX0_ofPerson_122 : decode cX0_ofPerson 122 = .ok (.ireturn, 1) := dk_172 (dk_at dksX0_ofPerson_4 20 rfl rfl)
theorem dX0_ofPerson_123 : decode cX0_ofPerson 123 = .ok (.astore_n 3, 1) := dk_78 (dk_at dksX0_ofPerson_4 21 rfl rfl)
theorem dX0_ofPerson_124 : decode cX0_ofPerson 124 = .ok (.aload_n 0, 1) := dk_42 (dk_at dksX0_ofPerson_4 22 rfl rfl)
theorem dX0_ofPerson_125 : decode cX0_ofPerson 125 = .ok (.aload_n 3, 1) := dk_45 (dk_at dksX0_ofPerson_4 23 rfl rfl)
theorem dX0_ofPerson_126 : decode cX0_ofPerson 126 = .ok (.invokevirtual 131, 3) := dk_182 0 131 (dk_at dksX0_ofPerson_5 0 rfl rfl)
theorem dX0_ofPerson_129 : decode cX0_ofPerson 129 = .ok (.ireturn, 1) := dk_172 (dk_at dksX0_ofPerson_5 3 rfl rfl)
abbrev cX0_personAt : ByteArray := prog_1_method_18_code
def yX0_personAt : MethodName := ⟨RX0, "personAt", "(IZ)LWellRefuses$One;"⟩
def dkwX0_personAt_1 : List UInt8 := [180, 0, 46, 180, 0, 107, 27, 50, 176]
abbrev dktX0_personAt_1 : List UInt8 := dkwX0_personAt_1 ++ []
def dkwX0_personAt_0 : List UInt8 := [42, 42, 27, 182, 0, 103, 153, 0, 11, 28, 153, 0, 7, 4, 167, 0, 4, 3, 4, 182, 0, 94, 42]
abbrev dktX0_personAt_0 : List UInt8 := dkwX0_personAt_0 ++ dktX0_personAt_1
theorem dksX0_personAt_0 : cX0_personAt.data.toList.drop 0 = dktX0_personAt_0 := by decide +kernel
theorem dksX0_personAt_1 : cX0_personAt.data.toList.drop 23 = dktX0_personAt_1 := dk_seg dksX0_personAt_0 23 rfl rfl
theorem dX0_personAt_0 : decode cX0_personAt 0 = .ok (.aload_n 0, 1) := dk_42 (dk_at dksX0_personAt_0 0 rfl rfl)
theorem dX0_personAt_1 : decode cX0_personAt 1 = .ok (.aload_n 0, 1) := dk_42 (dk_at dksX0_personAt_0 1 rfl rfl)
theorem dX0_personAt_2 : decode cX0_personAt 2 = .ok (.iload_n 1, 1) := dk_27 (dk_at dksX0_personAt_0 2 rfl rfl)
theorem dX0_personAt_3 : decode cX0_personAt 3 = .ok (.invokevirtual 103, 3) := dk_182 0 103 (dk_at dksX0_personAt_0 3 rfl rfl)
theorem dX0_personAt_6 : decode cX0_personAt 6 = .ok (.ifCond .eq 11, 3) := dk_153 0 11 (dk_at dksX0_personAt_0 6 rfl rfl)
theorem dX0_personAt_9 : decode cX0_personAt 9 = .ok (.iload_n 2, 1) := dk_28 (dk_at dksX0_personAt_0 9 rfl rfl)
theorem dX0_personAt_10 : decode cX0_personAt 10 = .ok (.ifCond .eq 7, 3) := dk_153 0 7 (dk_at dksX0_personAt_0 10 rfl rfl)
theorem dX0_personAt_13 : decode cX0_personAt 13 = .ok (.iconst 1, 1) := dk_4 (dk_at dksX0_personAt_0 13 rfl rfl)
theorem dX0_personAt_14 : decode cX0_personAt 14 = .ok (.goto 4, 3) := dk_167 0 4 (dk_at dksX0_personAt_0 14 rfl rfl)
theorem dX0_personAt_17 : decode cX0_personAt 17 = .ok (.iconst 0, 1) := dk_3 (dk_at dksX0_personAt_0 17 rfl rfl)
theorem dX0_personAt_18 : decode cX0_personAt 18 = .ok (.iconst 1, 1) := dk_4 (dk_at dksX0_personAt_0 18 rfl rfl)
theorem dX0_personAt_19 : decode cX0_personAt 19 = .ok (.invokevirtual 94, 3) := dk_182 0 94 (dk_at dksX0_personAt_0 19 rfl rfl)
theorem dX0_personAt_22 : decode cX0_personAt 22 = .ok (.aload_n 0, 1) := dk_42 (dk_at dksX0_personAt_0 22 rfl rfl)
theorem dX0_personAt_23 : decode cX0_personAt 23 = .ok (.getfield 46, 3) := dk_180 0 46 (dk_at dksX0_personAt_1 0 rfl rfl)
theorem dX0_personAt_26 : decode cX0_personAt 26 = .ok (.getfield 107, 3) := dk_180 0 107 (dk_at dksX0_personAt_1 3 rfl rfl)
theorem dX0_personAt_29 : decode cX0_personAt 29 = .ok (.iload_n 1, 1) := dk_27 (dk_at dksX0_personAt_1 6 rfl rfl)
theorem dX0_personAt_30 : decode cX0_personAt 30 = .ok (.aaload, 1) := dk_50 (dk_at dksX0_personAt_1 7 rfl rfl)
theorem dX0_personAt_31 : decode cX0_personAt 31 = .ok (.areturn, 1) := dk_176 (dk_at dksX0_personAt_1 8 rfl rfl)
abbrev cX0_isPerson : ByteArray := prog_1_method_11_code
def yX0_isPerson : MethodName := ⟨RX0, "isPerson", "(I)Z"⟩
def dkwX0_isPerson_0 : List UInt8 := [27, 3, 42, 180, 0, 46, 180, 0, 100, 4, 100, 184, 0, 86, 172]
abbrev dktX0_isPerson_0 : List UInt8 := dkwX0_isPerson_0 ++ []
theorem dksX0_isPerson_0 : cX0_isPerson.data.toList.drop 0 = dktX0_isPerson_0 := by decide +kernel
theorem dX0_isPerson_0 : decode cX0_isPerson 0 = .ok (.iload_n 1, 1) := dk_27 (dk_at dksX0_isPerson_0 0 rfl rfl)
theorem dX0_isPerson_1 : decode cX0_isPerson 1 = .ok (.iconst 0, 1) := dk_3 (dk_at dksX0_isPerson_0 1 rfl rfl)
theorem dX0_isPerson_2 : decode cX0_isPerson 2 = .ok (.aload_n 0, 1) := dk_42 (dk_at dksX0_isPerson_0 2 rfl rfl)
theorem dX0_isPerson_3 : decode cX0_isPerson 3 = .ok (.getfield 46, 3) := dk_180 0 46 (dk_at dksX0_isPerson_0 3 rfl rfl)
theorem dX0_isPerson_6 : decode cX0_isPerson 6 = .ok (.getfield 100, 3) := dk_180 0 100 (dk_at dksX0_isPerson_0 6 rfl rfl)
theorem dX0_isPerson_9 : decode cX0_isPerson 9 = .ok (.iconst 1, 1) := dk_4 (dk_at dksX0_isPerson_0 9 rfl rfl)
theorem dX0_isPerson_10 : decode cX0_isPerson 10 = .ok (.isub, 1) := dk_100 (dk_at dksX0_isPerson_0 10 rfl rfl)
theorem dX0_isPerson_11 : decode cX0_isPerson 11 = .ok (.invokestatic 86, 3) := dk_184 0 86 (dk_at dksX0_isPerson_0 11 rfl rfl)
theorem dX0_isPerson_14 : decode cX0_isPerson 14 = .ok (.ireturn, 1) := dk_172 (dk_at dksX0_isPerson_0 14 rfl rfl)
abbrev cX0_change : ByteArray := prog_1_method_15_code
def yX0_change : MethodName := ⟨RX0, "change", "(III)I"⟩
def dkwX0_change_4 : List UInt8 := [25, 4, 27, 46, 54, 5, 25, 4, 27, 29, 79, 21, 5, 172, 58, 4, 42, 25, 4, 182, 0, 131, 172]
abbrev dktX0_change_4 : List UInt8 := dkwX0_change_4 ++ []
def dkwX0_change_3 : List UInt8 := [4, 160, 0, 13, 42, 180, 0, 46, 180, 0, 118, 167, 0, 10, 42, 180, 0, 46, 180, 0, 121, 58, 4]
abbrev dktX0_change_3 : List UInt8 := dkwX0_change_3 ++ dktX0_change_4
def dkwX0_change_2 : List UInt8 := [4, 167, 0, 4, 3, 4, 182, 0, 94, 28, 154, 0, 13, 42, 180, 0, 46, 180, 0, 115, 167, 0, 25, 28]
abbrev dktX0_change_2 : List UInt8 := dkwX0_change_2 ++ dktX0_change_3
def dkwX0_change_1 : List UInt8 := [16, 15, 167, 0, 16, 28, 4, 160, 0, 9, 17, 3, 231, 167, 0, 5, 16, 99, 184, 0, 86, 153, 0, 7]
abbrev dktX0_change_1 : List UInt8 := dkwX0_change_1 ++ dktX0_change_2
def dkwX0_change_0 : List UInt8 := [42, 42, 27, 182, 0, 103, 153, 0, 46, 28, 3, 5, 184, 0, 86, 153, 0, 37, 29, 3, 28, 154, 0, 8]
abbrev dktX0_change_0 : List UInt8 := dkwX0_change_0 ++ dktX0_change_1
theorem dksX0_change_0 : cX0_change.data.toList.drop 0 = dktX0_change_0 := by decide +kernel
theorem dksX0_change_1 : cX0_change.data.toList.drop 24 = dktX0_change_1 := dk_seg dksX0_change_0 24 rfl rfl
theorem dksX0_change_2 : cX0_change.data.toList.drop 48 = dktX0_change_2 := dk_seg dksX0_change_1 24 rfl rfl
theorem dksX0_change_3 : cX0_change.data.toList.drop 72 = dktX0_change_3 := dk_seg dksX0_change_2 24 rfl rfl
theorem dksX0_change_4 : cX0_change.data.toList.drop 95 = dktX0_change_4 := dk_seg dksX0_change_3 23 rfl rfl
theorem dX0_change_0 : decode cX0_change 0 = .ok (.aload_n 0, 1) := dk_42 (dk_at dksX0_change_0 0 rfl rfl)
theorem dX0_change_1 : decode cX0_change 1 = .ok (.aload_n 0, 1) := dk_42 (dk_at dksX0_change_0 1 rfl rfl)
theorem dX0_change_2 : decode cX0_change 2 = .ok (.iload_n 1, 1) := dk_27 (dk_at dksX0_change_0 2 rfl rfl)
theorem dX0_change_3 : decode cX0_change 3 = .ok (.invokevirtual 103, 3) := dk_182 0 103 (dk_at dksX0_change_0 3 rfl rfl)
theorem dX0_change_6 : decode cX0_change 6 = .ok (.ifCond .eq 46, 3) := dk_153 0 46 (dk_at dksX0_change_0 6 rfl rfl)
theorem dX0_change_9 : decode cX0_change 9 = .ok (.iload_n 2, 1) := dk_28 (dk_at dksX0_change_0 9 rfl rfl)
theorem dX0_change_10 : decode cX0_change 10 = .ok (.iconst 0, 1) := dk_3 (dk_at dksX0_change_0 10 rfl rfl)
theorem dX0_change_11 : decode cX0_change 11 = .ok (.iconst 2, 1) := dk_5 (dk_at dksX0_change_0 11 rfl rfl)
theorem dX0_change_12 : decode cX0_change 12 = .ok (.invokestatic 86, 3) := dk_184 0 86 (dk_at dksX0_change_0 12 rfl rfl)
theorem dX0_change_15 : decode cX0_change 15 = .ok (.ifCond .eq 37, 3) := dk_153 0 37 (dk_at dksX0_change_0 15 rfl rfl)
theorem dX0_change_18 : decode cX0_change 18 = .ok (.iload_n 3, 1) := dk_29 (dk_at dksX0_change_0 18 rfl rfl)
theorem dX0_change_19 : decode cX0_change 19 = .ok (.iconst 0, 1) := dk_3 (dk_at dksX0_change_0 19 rfl rfl)
theorem dX0_change_20 : decode cX0_change 20 = .ok (.iload_n 2, 1) := dk_28 (dk_at dksX0_change_0 20 rfl rfl)
theorem dX0_change_21 : decode cX0_change 21 = .ok (.ifCond .ne 8, 3) := dk_154 0 8 (dk_at dksX0_change_0 21 rfl rfl)
theorem dX0_change_24 : decode cX0_change 24 = .ok (.bipush 15, 2) := dk_16 15 (dk_at dksX0_change_1 0 rfl rfl)
theorem dX0_change_26 : decode cX0_change 26 = .ok (.goto 16, 3) := dk_167 0 16 (dk_at dksX0_change_1 2 rfl rfl)
theorem dX0_change_29 : decode cX0_change 29 = .ok (.iload_n 2, 1) := dk_28 (dk_at dksX0_change_1 5 rfl rfl)
theorem dX0_change_30 : decode cX0_change 30 = .ok (.iconst 1, 1) := dk_4 (dk_at dksX0_change_1 6 rfl rfl)
theorem dX0_change_31 : decode cX0_change 31 = .ok (.if_icmp .ne 9, 3) := dk_160 0 9 (dk_at dksX0_change_1 7 rfl rfl)
theorem dX0_change_34 : decode cX0_change 34 = .ok (.sipush 999, 3) := dk_17 3 231 (dk_at dksX0_change_1 10 rfl rfl)
theorem dX0_change_37 : decode cX0_change 37 = .ok (.goto 5, 3) := dk_167 0 5 (dk_at dksX0_change_1 13 rfl rfl)
theorem dX0_change_40 : decode cX0_change 40 = .ok (.bipush 99, 2) := dk_16 99 (dk_at dksX0_change_1 16 rfl rfl)
theorem dX0_change_42 : decode cX0_change 42 = .ok (.invokestatic 86, 3) := dk_184 0 86 (dk_at dksX0_change_1 18 rfl rfl)
theorem dX0_change_45 : decode cX0_change 45 = .ok (.ifCond .eq 7, 3) := dk_153 0 7 (dk_at dksX0_change_1 21 rfl rfl)
theorem dX0_change_48 : decode cX0_change 48 = .ok (.iconst 1, 1) := dk_4 (dk_at dksX0_change_2 0 rfl rfl)
theorem dX0_change_49 : decode cX0_change 49 = .ok (.goto 4, 3) := dk_167 0 4 (dk_at dksX0_change_2 1 rfl rfl)
theorem dX0_change_52 : decode cX0_change 52 = .ok (.iconst 0, 1) := dk_3 (dk_at dksX0_change_2 4 rfl rfl)
theorem dX0_change_53 : decode cX0_change 53 = .ok (.iconst 1, 1) := dk_4 (dk_at dksX0_change_2 5 rfl rfl)
theorem dX0_change_54 : decode cX0_change 54 = .ok (.invokevirtual 94, 3) := dk_182 0 94 (dk_at dksX0_change_2 6 rfl rfl)
theorem dX0_change_57 : decode cX0_change 57 = .ok (.iload_n 2, 1) := dk_28 (dk_at dksX0_change_2 9 rfl rfl)
theorem dX0_change_58 : decode cX0_change 58 = .ok (.ifCond .ne 13, 3) := dk_154 0 13 (dk_at dksX0_change_2 10 rfl rfl)
theorem dX0_change_61 : decode cX0_change 61 = .ok (.aload_n 0, 1) := dk_42 (dk_at dksX0_change_2 13 rfl rfl)
theorem dX0_change_62 : decode cX0_change 62 = .ok (.getfield 46, 3) := dk_180 0 46 (dk_at dksX0_change_2 14 rfl rfl)
theorem dX0_change_65 : decode cX0_change 65 = .ok (.getfield 115, 3) := dk_180 0 115 (dk_at dksX0_change_2 17 rfl rfl)
theorem dX0_change_68 : decode cX0_change 68 = .ok (.goto 25, 3) := dk_167 0 25 (dk_at dksX0_change_2 20 rfl rfl)
theorem dX0_change_71 : decode cX0_change 71 = .ok (.iload_n 2, 1) := dk_28 (dk_at dksX0_change_2 23 rfl rfl)
theorem dX0_change_72 : decode cX0_change 72 = .ok (.iconst 1, 1) := dk_4 (dk_at dksX0_change_3 0 rfl rfl)
theorem dX0_change_73 : decode cX0_change 73 = .ok (.if_icmp .ne 13, 3) := dk_160 0 13 (dk_at dksX0_change_3 1 rfl rfl)
theorem dX0_change_76 : decode cX0_change 76 = .ok (.aload_n 0, 1) := dk_42 (dk_at dksX0_change_3 4 rfl rfl)
theorem dX0_change_77 : decode cX0_change 77 = .ok (.getfield 46, 3) := dk_180 0 46 (dk_at dksX0_change_3 5 rfl rfl)
theorem dX0_change_80 : decode cX0_change 80 = .ok (.getfield 118, 3) := dk_180 0 118 (dk_at dksX0_change_3 8 rfl rfl)
theorem dX0_change_83 : decode cX0_change 83 = .ok (.goto 10, 3) := dk_167 0 10 (dk_at dksX0_change_3 11 rfl rfl)
theorem dX0_change_86 : decode cX0_change 86 = .ok (.aload_n 0, 1) := dk_42 (dk_at dksX0_change_3 14 rfl rfl)
theorem dX0_change_87 : decode cX0_change 87 = .ok (.getfield 46, 3) := dk_180 0 46 (dk_at dksX0_change_3 15 rfl rfl)
theorem dX0_change_90 : decode cX0_change 90 = .ok (.getfield 121, 3) := dk_180 0 121 (dk_at dksX0_change_3 18 rfl rfl)
theorem dX0_change_93 : decode cX0_change 93 = .ok (.astore 4, 2) := dk_58 4 (dk_at dksX0_change_3 21 rfl rfl)
theorem dX0_change_95 : decode cX0_change 95 = .ok (.aload 4, 2) := dk_25 4 (dk_at dksX0_change_4 0 rfl rfl)
theorem dX0_change_97 : decode cX0_change 97 = .ok (.iload_n 1, 1) := dk_27 (dk_at dksX0_change_4 2 rfl rfl)
theorem dX0_change_98 : decode cX0_change 98 = .ok (.iaload, 1) := dk_46 (dk_at dksX0_change_4 3 rfl rfl)
theorem dX0_change_99 : decode cX0_change 99 = .ok (.istore 5, 2) := dk_54 5 (dk_at dksX0_change_4 4 rfl rfl)
theorem dX0_change_101 : decode cX0_change 101 = .ok (.aload 4, 2) := dk_25 4 (dk_at dksX0_change_4 6 rfl rfl)
theorem dX0_change_103 : decode cX0_change 103 = .ok (.iload_n 1, 1) := dk_27 (dk_at dksX0_change_4 8 rfl rfl)
theorem dX0_change_104 : decode cX0_change 104 = .ok (.iload_n 3, 1) := dk_29 (dk_at dksX0_change_4 9 rfl rfl)
theorem dX0_change_105 : decode cX0_change 105 = .ok (.iastore, 1) := dk_79 (dk_at dksX0_change_4 10 rfl rfl)
theorem dX0_change_106 : decode cX0_change 106 = .ok (.iload 5, 2) := dk_21 5 (dk_at dksX0_change_4 11 rfl rfl)
theorem dX0_change_108 : decode cX0_change 108 = .ok (.ireturn, 1) := dk_172 (dk_at dksX0_change_4 13 rfl rfl)
theorem dX0_change_109 : decode cX0_change 109 = .ok (.astore 4, 2) := dk_58 4 (dk_at dksX0_change_4 14 rfl rfl)
theorem dX0_change_111 : decode cX0_change 111 = .ok (.aload_n 0, 1) := dk_42 (dk_at dksX0_change_4 16 rfl rfl)
theorem dX0_change_112 : decode cX0_change 112 = .ok (.aload 4, 2) := dk_25 4 (dk_at dksX0_change_4 17 rfl rfl)
theorem dX0_change_114 : decode cX0_change 114 = .ok (.invokevirtual 131, 3) := dk_182 0 131 (dk_at dksX0_change_4 19 rfl rfl)
theorem dX0_change_117 : decode cX0_change 117 = .ok (.ireturn, 1) := dk_172 (dk_at dksX0_change_4 22 rfl rfl)
abbrev cX0_owe : ByteArray := prog_1_method_16_code
def yX0_owe : MethodName := ⟨RX0, "owe", "(III)I"⟩
def dkwX0_owe_2 : List UInt8 := [180, 0, 124, 27, 28, 184, 0, 127, 29, 79, 21, 4, 172, 58, 4, 42, 25, 4, 182, 0, 131, 172]
abbrev dktX0_owe_2 : List UInt8 := dkwX0_owe_2 ++ []
def dkwX0_owe_1 : List UInt8 := [3, 4, 182, 0, 94, 42, 180, 0, 46, 180, 0, 124, 27, 28, 184, 0, 127, 46, 54, 4, 42, 180, 0, 46]
abbrev dktX0_owe_1 : List UInt8 := dkwX0_owe_1 ++ dktX0_owe_2
def dkwX0_owe_0 : List UInt8 := [42, 42, 27, 28, 182, 0, 155, 153, 0, 17, 29, 3, 16, 99, 184, 0, 86, 153, 0, 7, 4, 167, 0, 4]
abbrev dktX0_owe_0 : List UInt8 := dkwX0_owe_0 ++ dktX0_owe_1
theorem dksX0_owe_0 : cX0_owe.data.toList.drop 0 = dktX0_owe_0 := by decide +kernel
theorem dksX0_owe_1 : cX0_owe.data.toList.drop 24 = dktX0_owe_1 := dk_seg dksX0_owe_0 24 rfl rfl
theorem dksX0_owe_2 : cX0_owe.data.toList.drop 48 = dktX0_owe_2 := dk_seg dksX0_owe_1 24 rfl rfl
theorem dX0_owe_0 : decode cX0_owe 0 = .ok (.aload_n 0, 1) := dk_42 (dk_at dksX0_owe_0 0 rfl rfl)
theorem dX0_owe_1 : decode cX0_owe 1 = .ok (.aload_n 0, 1) := dk_42 (dk_at dksX0_owe_0 1 rfl rfl)
theorem dX0_owe_2 : decode cX0_owe 2 = .ok (.iload_n 1, 1) := dk_27 (dk_at dksX0_owe_0 2 rfl rfl)
theorem dX0_owe_3 : decode cX0_owe 3 = .ok (.iload_n 2, 1) := dk_28 (dk_at dksX0_owe_0 3 rfl rfl)
theorem dX0_owe_4 : decode cX0_owe 4 = .ok (.invokevirtual 155, 3) := dk_182 0 155 (dk_at dksX0_owe_0 4 rfl rfl)
theorem dX0_owe_7 : decode cX0_owe 7 = .ok (.ifCond .eq 17, 3) := dk_153 0 17 (dk_at dksX0_owe_0 7 rfl rfl)
theorem dX0_owe_10 : decode cX0_owe 10 = .ok (.iload_n 3, 1) := dk_29 (dk_at dksX0_owe_0 10 rfl rfl)
theorem dX0_owe_11 : decode cX0_owe 11 = .ok (.iconst 0, 1) := dk_3 (dk_at dksX0_owe_0 11 rfl rfl)
theorem dX0_owe_12 : decode cX0_owe 12 = .ok (.bipush 99, 2) := dk_16 99 (dk_at dksX0_owe_0 12 rfl rfl)
theorem dX0_owe_14 : decode cX0_owe 14 = .ok (.invokestatic 86, 3) := dk_184 0 86 (dk_at dksX0_owe_0 14 rfl rfl)
theorem dX0_owe_17 : decode cX0_owe 17 = .ok (.ifCond .eq 7, 3) := dk_153 0 7 (dk_at dksX0_owe_0 17 rfl rfl)
theorem dX0_owe_20 : decode cX0_owe 20 = .ok (.iconst 1, 1) := dk_4 (dk_at dksX0_owe_0 20 rfl rfl)
theorem dX0_owe_21 : decode cX0_owe 21 = .ok (.goto 4, 3) := dk_167 0 4 (dk_at dksX0_owe_0 21 rfl rfl)
theorem dX0_owe_24 : decode cX0_owe 24 = .ok (.iconst 0, 1) := dk_3 (dk_at dksX0_owe_1 0 rfl rfl)
theorem dX0_owe_25 : decode cX0_owe 25 = .ok (.iconst 1, 1) := dk_4 (dk_at dksX0_owe_1 1 rfl rfl)
theorem dX0_owe_26 : decode cX0_owe 26 = .ok (.invokevirtual 94, 3) := dk_182 0 94 (dk_at dksX0_owe_1 2 rfl rfl)
theorem dX0_owe_29 : decode cX0_owe 29 = .ok (.aload_n 0, 1) := dk_42 (dk_at dksX0_owe_1 5 rfl rfl)
theorem dX0_owe_30 : decode cX0_owe 30 = .ok (.getfield 46, 3) := dk_180 0 46 (dk_at dksX0_owe_1 6 rfl rfl)
theorem dX0_owe_33 : decode cX0_owe 33 = .ok (.getfield 124, 3) := dk_180 0 124 (dk_at dksX0_owe_1 9 rfl rfl)
theorem dX0_owe_36 : decode cX0_owe 36 = .ok (.iload_n 1, 1) := dk_27 (dk_at dksX0_owe_1 12 rfl rfl)
theorem dX0_owe_37 : decode cX0_owe 37 = .ok (.iload_n 2, 1) := dk_28 (dk_at dksX0_owe_1 13 rfl rfl)
theorem dX0_owe_38 : decode cX0_owe 38 = .ok (.invokestatic 127, 3) := dk_184 0 127 (dk_at dksX0_owe_1 14 rfl rfl)
theorem dX0_owe_41 : decode cX0_owe 41 = .ok (.iaload, 1) := dk_46 (dk_at dksX0_owe_1 17 rfl rfl)
theorem dX0_owe_42 : decode cX0_owe 42 = .ok (.istore 4, 2) := dk_54 4 (dk_at dksX0_owe_1 18 rfl rfl)
theorem dX0_owe_44 : decode cX0_owe 44 = .ok (.aload_n 0, 1) := dk_42 (dk_at dksX0_owe_1 20 rfl rfl)
theorem dX0_owe_45 : decode cX0_owe 45 = .ok (.getfield 46, 3) := dk_180 0 46 (dk_at dksX0_owe_1 21 rfl rfl)
theorem dX0_owe_48 : decode cX0_owe 48 = .ok (.getfield 124, 3) := dk_180 0 124 (dk_at dksX0_owe_2 0 rfl rfl)
theorem dX0_owe_51 : decode cX0_owe 51 = .ok (.iload_n 1, 1) := dk_27 (dk_at dksX0_owe_2 3 rfl rfl)
theorem dX0_owe_52 : decode cX0_owe 52 = .ok (.iload_n 2, 1) := dk_28 (dk_at dksX0_owe_2 4 rfl rfl)
theorem dX0_owe_53 : decode cX0_owe 53 = .ok (.invokestatic 127, 3) := dk_184 0 127 (dk_at dksX0_owe_2 5 rfl rfl)
theorem dX0_owe_56 : decode cX0_owe 56 = .ok (.iload_n 3, 1) := dk_29 (dk_at dksX0_owe_2 8 rfl rfl)
theorem dX0_owe_57 : decode cX0_owe 57 = .ok (.iastore, 1) := dk_79 (dk_at dksX0_owe_2 9 rfl rfl)
theorem dX0_owe_58 : decode cX0_owe 58 = .ok (.iload 4, 2) := dk_21 4 (dk_at dksX0_owe_2 10 rfl rfl)
theorem dX0_owe_60 : decode cX0_owe 60 = .ok (.ireturn, 1) := dk_172 (dk_at dksX0_owe_2 12 rfl rfl)
theorem dX0_owe_61 : decode cX0_owe 61 = .ok (.astore 4, 2) := dk_58 4 (dk_at dksX0_owe_2 13 rfl rfl)
theorem dX0_owe_63 : decode cX0_owe 63 = .ok (.aload_n 0, 1) := dk_42 (dk_at dksX0_owe_2 15 rfl rfl)
theorem dX0_owe_64 : decode cX0_owe 64 = .ok (.aload 4, 2) := dk_25 4 (dk_at dksX0_owe_2 16 rfl rfl)
theorem dX0_owe_66 : decode cX0_owe 66 = .ok (.invokevirtual 131, 3) := dk_182 0 131 (dk_at dksX0_owe_2 18 rfl rfl)
theorem dX0_owe_69 : decode cX0_owe 69 = .ok (.ireturn, 1) := dk_172 (dk_at dksX0_owe_2 21 rfl rfl)
abbrev cX0_areTwo : ByteArray := prog_1_method_12_code
def yX0_areTwo : MethodName := ⟨RX0, "areTwo", "(II)Z"⟩
def dkwX0_areTwo_1 : List UInt8 := [167, 0, 4, 3, 172]
abbrev dktX0_areTwo_1 : List UInt8 := dkwX0_areTwo_1 ++ []
def dkwX0_areTwo_0 : List UInt8 := [42, 27, 182, 0, 103, 153, 0, 20, 42, 28, 182, 0, 103, 153, 0, 12, 27, 28, 159, 0, 7, 4]
abbrev dktX0_areTwo_0 : List UInt8 := dkwX0_areTwo_0 ++ dktX0_areTwo_1
theorem dksX0_areTwo_0 : cX0_areTwo.data.toList.drop 0 = dktX0_areTwo_0 := by decide +kernel
theorem dksX0_areTwo_1 : cX0_areTwo.data.toList.drop 22 = dktX0_areTwo_1 := dk_seg dksX0_areTwo_0 22 rfl rfl
theorem dX0_areTwo_0 : decode cX0_areTwo 0 = .ok (.aload_n 0, 1) := dk_42 (dk_at dksX0_areTwo_0 0 rfl rfl)
theorem dX0_areTwo_1 : decode cX0_areTwo 1 = .ok (.iload_n 1, 1) := dk_27 (dk_at dksX0_areTwo_0 1 rfl rfl)
theorem dX0_areTwo_2 : decode cX0_areTwo 2 = .ok (.invokevirtual 103, 3) := dk_182 0 103 (dk_at dksX0_areTwo_0 2 rfl rfl)
theorem dX0_areTwo_5 : decode cX0_areTwo 5 = .ok (.ifCond .eq 20, 3) := dk_153 0 20 (dk_at dksX0_areTwo_0 5 rfl rfl)
theorem dX0_areTwo_8 : decode cX0_areTwo 8 = .ok (.aload_n 0, 1) := dk_42 (dk_at dksX0_areTwo_0 8 rfl rfl)
theorem dX0_areTwo_9 : decode cX0_areTwo 9 = .ok (.iload_n 2, 1) := dk_28 (dk_at dksX0_areTwo_0 9 rfl rfl)
theorem dX0_areTwo_10 : decode cX0_areTwo 10 = .ok (.invokevirtual 103, 3) := dk_182 0 103 (dk_at dksX0_areTwo_0 10 rfl rfl)
theorem dX0_areTwo_13 : decode cX0_areTwo 13 = .ok (.ifCond .eq 12, 3) := dk_153 0 12 (dk_at dksX0_areTwo_0 13 rfl rfl)
theorem dX0_areTwo_16 : decode cX0_areTwo 16 = .ok (.iload_n 1, 1) := dk_27 (dk_at dksX0_areTwo_0 16 rfl rfl)
theorem dX0_areTwo_17 : decode cX0_areTwo 17 = .ok (.iload_n 2, 1) := dk_28 (dk_at dksX0_areTwo_0 17 rfl rfl)
theorem dX0_areTwo_18 : decode cX0_areTwo 18 = .ok (.if_icmp .eq 7, 3) := dk_159 0 7 (dk_at dksX0_areTwo_0 18 rfl rfl)
theorem dX0_areTwo_21 : decode cX0_areTwo 21 = .ok (.iconst 1, 1) := dk_4 (dk_at dksX0_areTwo_0 21 rfl rfl)
theorem dX0_areTwo_22 : decode cX0_areTwo 22 = .ok (.goto 4, 3) := dk_167 0 4 (dk_at dksX0_areTwo_1 0 rfl rfl)
theorem dX0_areTwo_25 : decode cX0_areTwo 25 = .ok (.iconst 0, 1) := dk_3 (dk_at dksX0_areTwo_1 3 rfl rfl)
theorem dX0_areTwo_26 : decode cX0_areTwo 26 = .ok (.ireturn, 1) := dk_172 (dk_at dksX0_areTwo_1 4 rfl rfl)
abbrev cX0_owes : ByteArray := prog_1_method_17_code
def yX0_owes : MethodName := ⟨RX0, "owes", "(II)I"⟩
def dkwX0_owes_1 : List UInt8 := [172, 78, 42, 45, 182, 0, 131, 172]
abbrev dktX0_owes_1 : List UInt8 := dkwX0_owes_1 ++ []
def dkwX0_owes_0 : List UInt8 := [42, 42, 27, 28, 182, 0, 155, 4, 182, 0, 94, 42, 180, 0, 46, 180, 0, 124, 27, 28, 184, 0, 127, 46]
abbrev dktX0_owes_0 : List UInt8 := dkwX0_owes_0 ++ dktX0_owes_1
theorem dksX0_owes_0 : cX0_owes.data.toList.drop 0 = dktX0_owes_0 := by decide +kernel
theorem dksX0_owes_1 : cX0_owes.data.toList.drop 24 = dktX0_owes_1 := dk_seg dksX0_owes_0 24 rfl rfl
theorem dX0_owes_0 : decode cX0_owes 0 = .ok (.aload_n 0, 1) := dk_42 (dk_at dksX0_owes_0 0 rfl rfl)
theorem dX0_owes_1 : decode cX0_owes 1 = .ok (.aload_n 0, 1) := dk_42 (dk_at dksX0_owes_0 1 rfl rfl)
theorem dX0_owes_2 : decode cX0_owes 2 = .ok (.iload_n 1, 1) := dk_27 (dk_at dksX0_owes_0 2 rfl rfl)
theorem dX0_owes_3 : decode cX0_owes 3 = .ok (.iload_n 2, 1) := dk_28 (dk_at dksX0_owes_0 3 rfl rfl)
theorem dX0_owes_4 : decode cX0_owes 4 = .ok (.invokevirtual 155, 3) := dk_182 0 155 (dk_at dksX0_owes_0 4 rfl rfl)
theorem dX0_owes_7 : decode cX0_owes 7 = .ok (.iconst 1, 1) := dk_4 (dk_at dksX0_owes_0 7 rfl rfl)
theorem dX0_owes_8 : decode cX0_owes 8 = .ok (.invokevirtual 94, 3) := dk_182 0 94 (dk_at dksX0_owes_0 8 rfl rfl)
theorem dX0_owes_11 : decode cX0_owes 11 = .ok (.aload_n 0, 1) := dk_42 (dk_at dksX0_owes_0 11 rfl rfl)
theorem dX0_owes_12 : decode cX0_owes 12 = .ok (.getfield 46, 3) := dk_180 0 46 (dk_at dksX0_owes_0 12 rfl rfl)
theorem dX0_owes_15 : decode cX0_owes 15 = .ok (.getfield 124, 3) := dk_180 0 124 (dk_at dksX0_owes_0 15 rfl rfl)
theorem dX0_owes_18 : decode cX0_owes 18 = .ok (.iload_n 1, 1) := dk_27 (dk_at dksX0_owes_0 18 rfl rfl)
theorem dX0_owes_19 : decode cX0_owes 19 = .ok (.iload_n 2, 1) := dk_28 (dk_at dksX0_owes_0 19 rfl rfl)
theorem dX0_owes_20 : decode cX0_owes 20 = .ok (.invokestatic 127, 3) := dk_184 0 127 (dk_at dksX0_owes_0 20 rfl rfl)
theorem dX0_owes_23 : decode cX0_owes 23 = .ok (.iaload, 1) := dk_46 (dk_at dksX0_owes_0 23 rfl rfl)
theorem dX0_owes_24 : decode cX0_owes 24 = .ok (.ireturn, 1) := dk_172 (dk_at dksX0_owes_1 0 rfl rfl)
theorem dX0_owes_25 : decode cX0_owes 25 = .ok (.astore_n 3, 1) := dk_78 (dk_at dksX0_owes_1 1 rfl rfl)
theorem dX0_owes_26 : decode cX0_owes 26 = .ok (.aload_n 0, 1) := dk_42 (dk_at dksX0_owes_1 2 rfl rfl)
theorem dX0_owes_27 : decode cX0_owes 27 = .ok (.aload_n 3, 1) := dk_45 (dk_at dksX0_owes_1 3 rfl rfl)
theorem dX0_owes_28 : decode cX0_owes 28 = .ok (.invokevirtual 131, 3) := dk_182 0 131 (dk_at dksX0_owes_1 4 rfl rfl)
theorem dX0_owes_31 : decode cX0_owes 31 = .ok (.ireturn, 1) := dk_172 (dk_at dksX0_owes_1 7 rfl rfl)
abbrev cX0_become : ByteArray := prog_1_method_19_code
def yX0_become : MethodName := ⟨RX0, "become", "(II)I"⟩
def dkwX0_become_2 : List UInt8 := [182, 0, 131, 172]
abbrev dktX0_become_2 : List UInt8 := dkwX0_become_2 ++ []
def dkwX0_become_1 : List UInt8 := [108, 42, 180, 0, 59, 27, 28, 16, 10, 112, 184, 0, 111, 83, 45, 182, 0, 139, 172, 78, 42, 45]
abbrev dktX0_become_1 : List UInt8 := dkwX0_become_1 ++ dktX0_become_2
def dkwX0_become_0 : List UInt8 := [42, 27, 28, 3, 16, 69, 184, 0, 86, 182, 0, 135, 78, 42, 180, 0, 46, 180, 0, 107, 27, 28, 16, 10]
abbrev dktX0_become_0 : List UInt8 := dkwX0_become_0 ++ dktX0_become_1
theorem dksX0_become_0 : cX0_become.data.toList.drop 0 = dktX0_become_0 := by decide +kernel
theorem dksX0_become_1 : cX0_become.data.toList.drop 24 = dktX0_become_1 := dk_seg dksX0_become_0 24 rfl rfl
theorem dksX0_become_2 : cX0_become.data.toList.drop 46 = dktX0_become_2 := dk_seg dksX0_become_1 22 rfl rfl
theorem dX0_become_0 : decode cX0_become 0 = .ok (.aload_n 0, 1) := dk_42 (dk_at dksX0_become_0 0 rfl rfl)
theorem dX0_become_1 : decode cX0_become 1 = .ok (.iload_n 1, 1) := dk_27 (dk_at dksX0_become_0 1 rfl rfl)
theorem dX0_become_2 : decode cX0_become 2 = .ok (.iload_n 2, 1) := dk_28 (dk_at dksX0_become_0 2 rfl rfl)
theorem dX0_become_3 : decode cX0_become 3 = .ok (.iconst 0, 1) := dk_3 (dk_at dksX0_become_0 3 rfl rfl)
theorem dX0_become_4 : decode cX0_become 4 = .ok (.bipush 69, 2) := dk_16 69 (dk_at dksX0_become_0 4 rfl rfl)
theorem dX0_become_6 : decode cX0_become 6 = .ok (.invokestatic 86, 3) := dk_184 0 86 (dk_at dksX0_become_0 6 rfl rfl)
theorem dX0_become_9 : decode cX0_become 9 = .ok (.invokevirtual 135, 3) := dk_182 0 135 (dk_at dksX0_become_0 9 rfl rfl)
theorem dX0_become_12 : decode cX0_become 12 = .ok (.astore_n 3, 1) := dk_78 (dk_at dksX0_become_0 12 rfl rfl)
theorem dX0_become_13 : decode cX0_become 13 = .ok (.aload_n 0, 1) := dk_42 (dk_at dksX0_become_0 13 rfl rfl)
theorem dX0_become_14 : decode cX0_become 14 = .ok (.getfield 46, 3) := dk_180 0 46 (dk_at dksX0_become_0 14 rfl rfl)
theorem dX0_become_17 : decode cX0_become 17 = .ok (.getfield 107, 3) := dk_180 0 107 (dk_at dksX0_become_0 17 rfl rfl)
theorem dX0_become_20 : decode cX0_become 20 = .ok (.iload_n 1, 1) := dk_27 (dk_at dksX0_become_0 20 rfl rfl)
theorem dX0_become_21 : decode cX0_become 21 = .ok (.iload_n 2, 1) := dk_28 (dk_at dksX0_become_0 21 rfl rfl)
theorem dX0_become_22 : decode cX0_become 22 = .ok (.bipush 10, 2) := dk_16 10 (dk_at dksX0_become_0 22 rfl rfl)
theorem dX0_become_24 : decode cX0_become 24 = .ok (.idiv, 1) := dk_108 (dk_at dksX0_become_1 0 rfl rfl)
theorem dX0_become_25 : decode cX0_become 25 = .ok (.aload_n 0, 1) := dk_42 (dk_at dksX0_become_1 1 rfl rfl)
theorem dX0_become_26 : decode cX0_become 26 = .ok (.getfield 59, 3) := dk_180 0 59 (dk_at dksX0_become_1 2 rfl rfl)
theorem dX0_become_29 : decode cX0_become 29 = .ok (.iload_n 1, 1) := dk_27 (dk_at dksX0_become_1 5 rfl rfl)
theorem dX0_become_30 : decode cX0_become 30 = .ok (.iload_n 2, 1) := dk_28 (dk_at dksX0_become_1 6 rfl rfl)
theorem dX0_become_31 : decode cX0_become 31 = .ok (.bipush 10, 2) := dk_16 10 (dk_at dksX0_become_1 7 rfl rfl)
theorem dX0_become_33 : decode cX0_become 33 = .ok (.irem, 1) := dk_112 (dk_at dksX0_become_1 9 rfl rfl)
theorem dX0_become_34 : decode cX0_become 34 = .ok (.invokestatic 111, 3) := dk_184 0 111 (dk_at dksX0_become_1 10 rfl rfl)
theorem dX0_become_37 : decode cX0_become 37 = .ok (.aastore, 1) := dk_83 (dk_at dksX0_become_1 13 rfl rfl)
theorem dX0_become_38 : decode cX0_become 38 = .ok (.aload_n 3, 1) := dk_45 (dk_at dksX0_become_1 14 rfl rfl)
theorem dX0_become_39 : decode cX0_become 39 = .ok (.invokevirtual 139, 3) := dk_182 0 139 (dk_at dksX0_become_1 15 rfl rfl)
theorem dX0_become_42 : decode cX0_become 42 = .ok (.ireturn, 1) := dk_172 (dk_at dksX0_become_1 18 rfl rfl)
theorem dX0_become_43 : decode cX0_become 43 = .ok (.astore_n 3, 1) := dk_78 (dk_at dksX0_become_1 19 rfl rfl)
theorem dX0_become_44 : decode cX0_become 44 = .ok (.aload_n 0, 1) := dk_42 (dk_at dksX0_become_1 20 rfl rfl)
theorem dX0_become_45 : decode cX0_become 45 = .ok (.aload_n 3, 1) := dk_45 (dk_at dksX0_become_1 21 rfl rfl)
theorem dX0_become_46 : decode cX0_become 46 = .ok (.invokevirtual 131, 3) := dk_182 0 131 (dk_at dksX0_become_2 0 rfl rfl)
theorem dX0_become_49 : decode cX0_become 49 = .ok (.ireturn, 1) := dk_172 (dk_at dksX0_become_2 3 rfl rfl)
abbrev cX0_as : ByteArray := prog_1_method_20_code
def yX0_as : MethodName := ⟨RX0, "as", "(II)I"⟩
def dkwX0_as_1 : List UInt8 := [180, 0, 143, 172, 78, 42, 45, 182, 0, 131, 172]
abbrev dktX0_as_1 : List UInt8 := dkwX0_as_1 ++ []
def dkwX0_as_0 : List UInt8 := [42, 27, 28, 3, 16, 6, 184, 0, 86, 182, 0, 135, 78, 42, 45, 28, 182, 0, 159, 8, 182, 0, 94, 45]
abbrev dktX0_as_0 : List UInt8 := dkwX0_as_0 ++ dktX0_as_1
theorem dksX0_as_0 : cX0_as.data.toList.drop 0 = dktX0_as_0 := by decide +kernel
theorem dksX0_as_1 : cX0_as.data.toList.drop 24 = dktX0_as_1 := dk_seg dksX0_as_0 24 rfl rfl
theorem dX0_as_0 : decode cX0_as 0 = .ok (.aload_n 0, 1) := dk_42 (dk_at dksX0_as_0 0 rfl rfl)
theorem dX0_as_1 : decode cX0_as 1 = .ok (.iload_n 1, 1) := dk_27 (dk_at dksX0_as_0 1 rfl rfl)
theorem dX0_as_2 : decode cX0_as 2 = .ok (.iload_n 2, 1) := dk_28 (dk_at dksX0_as_0 2 rfl rfl)
theorem dX0_as_3 : decode cX0_as 3 = .ok (.iconst 0, 1) := dk_3 (dk_at dksX0_as_0 3 rfl rfl)
theorem dX0_as_4 : decode cX0_as 4 = .ok (.bipush 6, 2) := dk_16 6 (dk_at dksX0_as_0 4 rfl rfl)
theorem dX0_as_6 : decode cX0_as 6 = .ok (.invokestatic 86, 3) := dk_184 0 86 (dk_at dksX0_as_0 6 rfl rfl)
theorem dX0_as_9 : decode cX0_as 9 = .ok (.invokevirtual 135, 3) := dk_182 0 135 (dk_at dksX0_as_0 9 rfl rfl)
theorem dX0_as_12 : decode cX0_as 12 = .ok (.astore_n 3, 1) := dk_78 (dk_at dksX0_as_0 12 rfl rfl)
theorem dX0_as_13 : decode cX0_as 13 = .ok (.aload_n 0, 1) := dk_42 (dk_at dksX0_as_0 13 rfl rfl)
theorem dX0_as_14 : decode cX0_as 14 = .ok (.aload_n 3, 1) := dk_45 (dk_at dksX0_as_0 14 rfl rfl)
theorem dX0_as_15 : decode cX0_as 15 = .ok (.iload_n 2, 1) := dk_28 (dk_at dksX0_as_0 15 rfl rfl)
theorem dX0_as_16 : decode cX0_as 16 = .ok (.invokevirtual 159, 3) := dk_182 0 159 (dk_at dksX0_as_0 16 rfl rfl)
theorem dX0_as_19 : decode cX0_as 19 = .ok (.iconst 5, 1) := dk_8 (dk_at dksX0_as_0 19 rfl rfl)
theorem dX0_as_20 : decode cX0_as 20 = .ok (.invokevirtual 94, 3) := dk_182 0 94 (dk_at dksX0_as_0 20 rfl rfl)
theorem dX0_as_23 : decode cX0_as 23 = .ok (.aload_n 3, 1) := dk_45 (dk_at dksX0_as_0 23 rfl rfl)
theorem dX0_as_24 : decode cX0_as 24 = .ok (.getfield 143, 3) := dk_180 0 143 (dk_at dksX0_as_1 0 rfl rfl)
theorem dX0_as_27 : decode cX0_as 27 = .ok (.ireturn, 1) := dk_172 (dk_at dksX0_as_1 3 rfl rfl)
theorem dX0_as_28 : decode cX0_as 28 = .ok (.astore_n 3, 1) := dk_78 (dk_at dksX0_as_1 4 rfl rfl)
theorem dX0_as_29 : decode cX0_as 29 = .ok (.aload_n 0, 1) := dk_42 (dk_at dksX0_as_1 5 rfl rfl)
theorem dX0_as_30 : decode cX0_as 30 = .ok (.aload_n 3, 1) := dk_45 (dk_at dksX0_as_1 6 rfl rfl)
theorem dX0_as_31 : decode cX0_as 31 = .ok (.invokevirtual 131, 3) := dk_182 0 131 (dk_at dksX0_as_1 7 rfl rfl)
theorem dX0_as_34 : decode cX0_as 34 = .ok (.ireturn, 1) := dk_172 (dk_at dksX0_as_1 10 rfl rfl)
abbrev cX0_feed : ByteArray := prog_1_method_21_code
def yX0_feed : MethodName := ⟨RX0, "feed", "(JI)I"⟩
def dkwX0_feed_4 : List UInt8 := [180, 0, 162, 172, 58, 4, 42, 25, 4, 182, 0, 131, 172]
abbrev dktX0_feed_4 : List UInt8 := dkwX0_feed_4 ++ []
def dkwX0_feed_3 : List UInt8 := [180, 0, 46, 89, 180, 0, 162, 4, 96, 181, 0, 162, 132, 4, 1, 167, 255, 210, 42, 180, 0, 46]
abbrev dktX0_feed_3 : List UInt8 := dkwX0_feed_3 ++ dktX0_feed_4
def dkwX0_feed_2 : List UInt8 := [180, 0, 46, 180, 0, 165, 42, 180, 0, 46, 180, 0, 162, 31, 16, 8, 21, 4, 104, 123, 136, 145, 84, 42]
abbrev dktX0_feed_2 : List UInt8 := dkwX0_feed_2 ++ dktX0_feed_3
def dkwX0_feed_1 : List UInt8 := [163, 0, 7, 4, 167, 0, 4, 3, 7, 182, 0, 94, 3, 54, 4, 21, 4, 29, 162, 0, 46, 42]
abbrev dktX0_feed_1 : List UInt8 := dkwX0_feed_1 ++ dktX0_feed_2
def dkwX0_feed_0 : List UInt8 := [42, 29, 4, 16, 8, 184, 0, 86, 4, 182, 0, 94, 42, 42, 180, 0, 46, 180, 0, 162, 29, 96, 16, 50]
abbrev dktX0_feed_0 : List UInt8 := dkwX0_feed_0 ++ dktX0_feed_1
theorem dksX0_feed_0 : cX0_feed.data.toList.drop 0 = dktX0_feed_0 := by decide +kernel
theorem dksX0_feed_1 : cX0_feed.data.toList.drop 24 = dktX0_feed_1 := dk_seg dksX0_feed_0 24 rfl rfl
theorem dksX0_feed_2 : cX0_feed.data.toList.drop 46 = dktX0_feed_2 := dk_seg dksX0_feed_1 22 rfl rfl
theorem dksX0_feed_3 : cX0_feed.data.toList.drop 70 = dktX0_feed_3 := dk_seg dksX0_feed_2 24 rfl rfl
theorem dksX0_feed_4 : cX0_feed.data.toList.drop 92 = dktX0_feed_4 := dk_seg dksX0_feed_3 22 rfl rfl
theorem dX0_feed_0 : decode cX0_feed 0 = .ok (.aload_n 0, 1) := dk_42 (dk_at dksX0_feed_0 0 rfl rfl)
theorem dX0_feed_1 : decode cX0_feed 1 = .ok (.iload_n 3, 1) := dk_29 (dk_at dksX0_feed_0 1 rfl rfl)
theorem dX0_feed_2 : decode cX0_feed 2 = .ok (.iconst 1, 1) := dk_4 (dk_at dksX0_feed_0 2 rfl rfl)
theorem dX0_feed_3 : decode cX0_feed 3 = .ok (.bipush 8, 2) := dk_16 8 (dk_at dksX0_feed_0 3 rfl rfl)
theorem dX0_feed_5 : decode cX0_feed 5 = .ok (.invokestatic 86, 3) := dk_184 0 86 (dk_at dksX0_feed_0 5 rfl rfl)
theorem dX0_feed_8 : decode cX0_feed 8 = .ok (.iconst 1, 1) := dk_4 (dk_at dksX0_feed_0 8 rfl rfl)
theorem dX0_feed_9 : decode cX0_feed 9 = .ok (.invokevirtual 94, 3) := dk_182 0 94 (dk_at dksX0_feed_0 9 rfl rfl)
theorem dX0_feed_12 : decode cX0_feed 12 = .ok (.aload_n 0, 1) := dk_42 (dk_at dksX0_feed_0 12 rfl rfl)
theorem dX0_feed_13 : decode cX0_feed 13 = .ok (.aload_n 0, 1) := dk_42 (dk_at dksX0_feed_0 13 rfl rfl)
theorem dX0_feed_14 : decode cX0_feed 14 = .ok (.getfield 46, 3) := dk_180 0 46 (dk_at dksX0_feed_0 14 rfl rfl)
theorem dX0_feed_17 : decode cX0_feed 17 = .ok (.getfield 162, 3) := dk_180 0 162 (dk_at dksX0_feed_0 17 rfl rfl)
theorem dX0_feed_20 : decode cX0_feed 20 = .ok (.iload_n 3, 1) := dk_29 (dk_at dksX0_feed_0 20 rfl rfl)
theorem dX0_feed_21 : decode cX0_feed 21 = .ok (.iadd, 1) := dk_96 (dk_at dksX0_feed_0 21 rfl rfl)
theorem dX0_feed_22 : decode cX0_feed 22 = .ok (.bipush 50, 2) := dk_16 50 (dk_at dksX0_feed_0 22 rfl rfl)
theorem dX0_feed_24 : decode cX0_feed 24 = .ok (.if_icmp .gt 7, 3) := dk_163 0 7 (dk_at dksX0_feed_1 0 rfl rfl)
theorem dX0_feed_27 : decode cX0_feed 27 = .ok (.iconst 1, 1) := dk_4 (dk_at dksX0_feed_1 3 rfl rfl)
theorem dX0_feed_28 : decode cX0_feed 28 = .ok (.goto 4, 3) := dk_167 0 4 (dk_at dksX0_feed_1 4 rfl rfl)
theorem dX0_feed_31 : decode cX0_feed 31 = .ok (.iconst 0, 1) := dk_3 (dk_at dksX0_feed_1 7 rfl rfl)
theorem dX0_feed_32 : decode cX0_feed 32 = .ok (.iconst 4, 1) := dk_7 (dk_at dksX0_feed_1 8 rfl rfl)
theorem dX0_feed_33 : decode cX0_feed 33 = .ok (.invokevirtual 94, 3) := dk_182 0 94 (dk_at dksX0_feed_1 9 rfl rfl)
theorem dX0_feed_36 : decode cX0_feed 36 = .ok (.iconst 0, 1) := dk_3 (dk_at dksX0_feed_1 12 rfl rfl)
theorem dX0_feed_37 : decode cX0_feed 37 = .ok (.istore 4, 2) := dk_54 4 (dk_at dksX0_feed_1 13 rfl rfl)
theorem dX0_feed_39 : decode cX0_feed 39 = .ok (.iload 4, 2) := dk_21 4 (dk_at dksX0_feed_1 15 rfl rfl)
theorem dX0_feed_41 : decode cX0_feed 41 = .ok (.iload_n 3, 1) := dk_29 (dk_at dksX0_feed_1 17 rfl rfl)
theorem dX0_feed_42 : decode cX0_feed 42 = .ok (.if_icmp .ge 46, 3) := dk_162 0 46 (dk_at dksX0_feed_1 18 rfl rfl)
theorem dX0_feed_45 : decode cX0_feed 45 = .ok (.aload_n 0, 1) := dk_42 (dk_at dksX0_feed_1 21 rfl rfl)
theorem dX0_feed_46 : decode cX0_feed 46 = .ok (.getfield 46, 3) := dk_180 0 46 (dk_at dksX0_feed_2 0 rfl rfl)
theorem dX0_feed_49 : decode cX0_feed 49 = .ok (.getfield 165, 3) := dk_180 0 165 (dk_at dksX0_feed_2 3 rfl rfl)
theorem dX0_feed_52 : decode cX0_feed 52 = .ok (.aload_n 0, 1) := dk_42 (dk_at dksX0_feed_2 6 rfl rfl)
theorem dX0_feed_53 : decode cX0_feed 53 = .ok (.getfield 46, 3) := dk_180 0 46 (dk_at dksX0_feed_2 7 rfl rfl)
theorem dX0_feed_56 : decode cX0_feed 56 = .ok (.getfield 162, 3) := dk_180 0 162 (dk_at dksX0_feed_2 10 rfl rfl)
theorem dX0_feed_59 : decode cX0_feed 59 = .ok (.lload_n 1, 1) := dk_31 (dk_at dksX0_feed_2 13 rfl rfl)
theorem dX0_feed_60 : decode cX0_feed 60 = .ok (.bipush 8, 2) := dk_16 8 (dk_at dksX0_feed_2 14 rfl rfl)
theorem dX0_feed_62 : decode cX0_feed 62 = .ok (.iload 4, 2) := dk_21 4 (dk_at dksX0_feed_2 16 rfl rfl)
theorem dX0_feed_64 : decode cX0_feed 64 = .ok (.imul, 1) := dk_104 (dk_at dksX0_feed_2 18 rfl rfl)
theorem dX0_feed_65 : decode cX0_feed 65 = .ok (.lshr, 1) := dk_123 (dk_at dksX0_feed_2 19 rfl rfl)
theorem dX0_feed_66 : decode cX0_feed 66 = .ok (.l2i, 1) := dk_136 (dk_at dksX0_feed_2 20 rfl rfl)
theorem dX0_feed_67 : decode cX0_feed 67 = .ok (.i2b, 1) := dk_145 (dk_at dksX0_feed_2 21 rfl rfl)
theorem dX0_feed_68 : decode cX0_feed 68 = .ok (.bastore, 1) := dk_84 (dk_at dksX0_feed_2 22 rfl rfl)
theorem dX0_feed_69 : decode cX0_feed 69 = .ok (.aload_n 0, 1) := dk_42 (dk_at dksX0_feed_2 23 rfl rfl)
theorem dX0_feed_70 : decode cX0_feed 70 = .ok (.getfield 46, 3) := dk_180 0 46 (dk_at dksX0_feed_3 0 rfl rfl)
theorem dX0_feed_73 : decode cX0_feed 73 = .ok (.dup, 1) := dk_89 (dk_at dksX0_feed_3 3 rfl rfl)
theorem dX0_feed_74 : decode cX0_feed 74 = .ok (.getfield 162, 3) := dk_180 0 162 (dk_at dksX0_feed_3 4 rfl rfl)
theorem dX0_feed_77 : decode cX0_feed 77 = .ok (.iconst 1, 1) := dk_4 (dk_at dksX0_feed_3 7 rfl rfl)
theorem dX0_feed_78 : decode cX0_feed 78 = .ok (.iadd, 1) := dk_96 (dk_at dksX0_feed_3 8 rfl rfl)
theorem dX0_feed_79 : decode cX0_feed 79 = .ok (.putfield 162, 3) := dk_181 0 162 (dk_at dksX0_feed_3 9 rfl rfl)
theorem dX0_feed_82 : decode cX0_feed 82 = .ok (.iinc 4 1, 3) := dk_132 4 1 (dk_at dksX0_feed_3 12 rfl rfl)
theorem dX0_feed_85 : decode cX0_feed 85 = .ok (.goto (-46), 3) := dk_167 255 210 (dk_at dksX0_feed_3 15 rfl rfl)
theorem dX0_feed_88 : decode cX0_feed 88 = .ok (.aload_n 0, 1) := dk_42 (dk_at dksX0_feed_3 18 rfl rfl)
theorem dX0_feed_89 : decode cX0_feed 89 = .ok (.getfield 46, 3) := dk_180 0 46 (dk_at dksX0_feed_3 19 rfl rfl)
theorem dX0_feed_92 : decode cX0_feed 92 = .ok (.getfield 162, 3) := dk_180 0 162 (dk_at dksX0_feed_4 0 rfl rfl)
theorem dX0_feed_95 : decode cX0_feed 95 = .ok (.ireturn, 1) := dk_172 (dk_at dksX0_feed_4 3 rfl rfl)
theorem dX0_feed_96 : decode cX0_feed 96 = .ok (.astore 4, 2) := dk_58 4 (dk_at dksX0_feed_4 4 rfl rfl)
theorem dX0_feed_98 : decode cX0_feed 98 = .ok (.aload_n 0, 1) := dk_42 (dk_at dksX0_feed_4 6 rfl rfl)
theorem dX0_feed_99 : decode cX0_feed 99 = .ok (.aload 4, 2) := dk_25 4 (dk_at dksX0_feed_4 7 rfl rfl)
theorem dX0_feed_101 : decode cX0_feed 101 = .ok (.invokevirtual 131, 3) := dk_182 0 131 (dk_at dksX0_feed_4 9 rfl rfl)
theorem dX0_feed_104 : decode cX0_feed 104 = .ok (.ireturn, 1) := dk_172 (dk_at dksX0_feed_4 12 rfl rfl)
abbrev cX0_text : ByteArray := prog_1_method_22_code
def yX0_text : MethodName := ⟨RX0, "text", "(I)I"⟩
def dkwX0_text_3 : List UInt8 := [180, 0, 188, 100, 172, 77, 42, 44, 182, 0, 131, 172]
abbrev dktX0_text_3 : List UInt8 := dkwX0_text_3 ++ []
def dkwX0_text_2 : List UInt8 := [18, 177, 42, 180, 0, 46, 180, 0, 165, 28, 183, 0, 179, 182, 0, 182, 83, 4, 172, 77, 16, 246, 44]
abbrev dktX0_text_2 : List UInt8 := dkwX0_text_2 ++ dktX0_text_3
def dkwX0_text_1 : List UInt8 := [181, 0, 162, 42, 180, 0, 46, 180, 0, 169, 27, 187, 0, 173, 89, 27, 154, 0, 8, 18, 175, 167, 0, 5]
abbrev dktX0_text_1 : List UInt8 := dkwX0_text_1 ++ dktX0_text_2
def dkwX0_text_0 : List UInt8 := [42, 27, 3, 4, 184, 0, 86, 4, 182, 0, 94, 42, 180, 0, 46, 180, 0, 162, 61, 42, 180, 0, 46, 3]
abbrev dktX0_text_0 : List UInt8 := dkwX0_text_0 ++ dktX0_text_1
theorem dksX0_text_0 : cX0_text.data.toList.drop 0 = dktX0_text_0 := by decide +kernel
theorem dksX0_text_1 : cX0_text.data.toList.drop 24 = dktX0_text_1 := dk_seg dksX0_text_0 24 rfl rfl
theorem dksX0_text_2 : cX0_text.data.toList.drop 48 = dktX0_text_2 := dk_seg dksX0_text_1 24 rfl rfl
theorem dksX0_text_3 : cX0_text.data.toList.drop 71 = dktX0_text_3 := dk_seg dksX0_text_2 23 rfl rfl
theorem dX0_text_0 : decode cX0_text 0 = .ok (.aload_n 0, 1) := dk_42 (dk_at dksX0_text_0 0 rfl rfl)
theorem dX0_text_1 : decode cX0_text 1 = .ok (.iload_n 1, 1) := dk_27 (dk_at dksX0_text_0 1 rfl rfl)
theorem dX0_text_2 : decode cX0_text 2 = .ok (.iconst 0, 1) := dk_3 (dk_at dksX0_text_0 2 rfl rfl)
theorem dX0_text_3 : decode cX0_text 3 = .ok (.iconst 1, 1) := dk_4 (dk_at dksX0_text_0 3 rfl rfl)
theorem dX0_text_4 : decode cX0_text 4 = .ok (.invokestatic 86, 3) := dk_184 0 86 (dk_at dksX0_text_0 4 rfl rfl)
theorem dX0_text_7 : decode cX0_text 7 = .ok (.iconst 1, 1) := dk_4 (dk_at dksX0_text_0 7 rfl rfl)
theorem dX0_text_8 : decode cX0_text 8 = .ok (.invokevirtual 94, 3) := dk_182 0 94 (dk_at dksX0_text_0 8 rfl rfl)
theorem dX0_text_11 : decode cX0_text 11 = .ok (.aload_n 0, 1) := dk_42 (dk_at dksX0_text_0 11 rfl rfl)
theorem dX0_text_12 : decode cX0_text 12 = .ok (.getfield 46, 3) := dk_180 0 46 (dk_at dksX0_text_0 12 rfl rfl)
theorem dX0_text_15 : decode cX0_text 15 = .ok (.getfield 162, 3) := dk_180 0 162 (dk_at dksX0_text_0 15 rfl rfl)
theorem dX0_text_18 : decode cX0_text 18 = .ok (.istore_n 2, 1) := dk_61 (dk_at dksX0_text_0 18 rfl rfl)
theorem dX0_text_19 : decode cX0_text 19 = .ok (.aload_n 0, 1) := dk_42 (dk_at dksX0_text_0 19 rfl rfl)
theorem dX0_text_20 : decode cX0_text 20 = .ok (.getfield 46, 3) := dk_180 0 46 (dk_at dksX0_text_0 20 rfl rfl)
theorem dX0_text_23 : decode cX0_text 23 = .ok (.iconst 0, 1) := dk_3 (dk_at dksX0_text_0 23 rfl rfl)
theorem dX0_text_24 : decode cX0_text 24 = .ok (.putfield 162, 3) := dk_181 0 162 (dk_at dksX0_text_1 0 rfl rfl)
theorem dX0_text_27 : decode cX0_text 27 = .ok (.aload_n 0, 1) := dk_42 (dk_at dksX0_text_1 3 rfl rfl)
theorem dX0_text_28 : decode cX0_text 28 = .ok (.getfield 46, 3) := dk_180 0 46 (dk_at dksX0_text_1 4 rfl rfl)
theorem dX0_text_31 : decode cX0_text 31 = .ok (.getfield 169, 3) := dk_180 0 169 (dk_at dksX0_text_1 7 rfl rfl)
theorem dX0_text_34 : decode cX0_text 34 = .ok (.iload_n 1, 1) := dk_27 (dk_at dksX0_text_1 10 rfl rfl)
theorem dX0_text_35 : decode cX0_text 35 = .ok (.new 173, 3) := dk_187 0 173 (dk_at dksX0_text_1 11 rfl rfl)
theorem dX0_text_38 : decode cX0_text 38 = .ok (.dup, 1) := dk_89 (dk_at dksX0_text_1 14 rfl rfl)
theorem dX0_text_39 : decode cX0_text 39 = .ok (.iload_n 1, 1) := dk_27 (dk_at dksX0_text_1 15 rfl rfl)
theorem dX0_text_40 : decode cX0_text 40 = .ok (.ifCond .ne 8, 3) := dk_154 0 8 (dk_at dksX0_text_1 16 rfl rfl)
theorem dX0_text_43 : decode cX0_text 43 = .ok (.ldc 175, 2) := dk_18 175 (dk_at dksX0_text_1 19 rfl rfl)
theorem dX0_text_45 : decode cX0_text 45 = .ok (.goto 5, 3) := dk_167 0 5 (dk_at dksX0_text_1 21 rfl rfl)
theorem dX0_text_48 : decode cX0_text 48 = .ok (.ldc 177, 2) := dk_18 177 (dk_at dksX0_text_2 0 rfl rfl)
theorem dX0_text_50 : decode cX0_text 50 = .ok (.aload_n 0, 1) := dk_42 (dk_at dksX0_text_2 2 rfl rfl)
theorem dX0_text_51 : decode cX0_text 51 = .ok (.getfield 46, 3) := dk_180 0 46 (dk_at dksX0_text_2 3 rfl rfl)
theorem dX0_text_54 : decode cX0_text 54 = .ok (.getfield 165, 3) := dk_180 0 165 (dk_at dksX0_text_2 6 rfl rfl)
theorem dX0_text_57 : decode cX0_text 57 = .ok (.iload_n 2, 1) := dk_28 (dk_at dksX0_text_2 9 rfl rfl)
theorem dX0_text_58 : decode cX0_text 58 = .ok (.invokespecial 179, 3) := dk_183 0 179 (dk_at dksX0_text_2 10 rfl rfl)
theorem dX0_text_61 : decode cX0_text 61 = .ok (.invokevirtual 182, 3) := dk_182 0 182 (dk_at dksX0_text_2 13 rfl rfl)
theorem dX0_text_64 : decode cX0_text 64 = .ok (.aastore, 1) := dk_83 (dk_at dksX0_text_2 16 rfl rfl)
theorem dX0_text_65 : decode cX0_text 65 = .ok (.iconst 1, 1) := dk_4 (dk_at dksX0_text_2 17 rfl rfl)
theorem dX0_text_66 : decode cX0_text 66 = .ok (.ireturn, 1) := dk_172 (dk_at dksX0_text_2 18 rfl rfl)
theorem dX0_text_67 : decode cX0_text 67 = .ok (.astore_n 2, 1) := dk_77 (dk_at dksX0_text_2 19 rfl rfl)
theorem dX0_text_68 : decode cX0_text 68 = .ok (.bipush (-10), 2) := dk_16 246 (dk_at dksX0_text_2 20 rfl rfl)
theorem dX0_text_70 : decode cX0_text 70 = .ok (.aload_n 2, 1) := dk_44 (dk_at dksX0_text_2 22 rfl rfl)
theorem dX0_text_71 : decode cX0_text 71 = .ok (.getfield 188, 3) := dk_180 0 188 (dk_at dksX0_text_3 0 rfl rfl)
theorem dX0_text_74 : decode cX0_text 74 = .ok (.isub, 1) := dk_100 (dk_at dksX0_text_3 3 rfl rfl)
theorem dX0_text_75 : decode cX0_text 75 = .ok (.ireturn, 1) := dk_172 (dk_at dksX0_text_3 4 rfl rfl)
theorem dX0_text_76 : decode cX0_text 76 = .ok (.astore_n 2, 1) := dk_77 (dk_at dksX0_text_3 5 rfl rfl)
theorem dX0_text_77 : decode cX0_text 77 = .ok (.aload_n 0, 1) := dk_42 (dk_at dksX0_text_3 6 rfl rfl)
theorem dX0_text_78 : decode cX0_text 78 = .ok (.aload_n 2, 1) := dk_44 (dk_at dksX0_text_3 7 rfl rfl)
theorem dX0_text_79 : decode cX0_text 79 = .ok (.invokevirtual 131, 3) := dk_182 0 131 (dk_at dksX0_text_3 8 rfl rfl)
theorem dX0_text_82 : decode cX0_text 82 = .ok (.ireturn, 1) := dk_172 (dk_at dksX0_text_3 11 rfl rfl)
abbrev cX0_law : ByteArray := prog_1_method_23_code
def yX0_law : MethodName := ⟨RX0, "law", "(IIII)I"⟩
def dkwX0_law_2 : List UInt8 := [182, 0, 131, 172]
abbrev dktX0_law_2 : List UInt8 := dkwX0_law_2 ++ []
def dkwX0_law_1 : List UInt8 := [182, 0, 190, 167, 0, 14, 42, 180, 0, 46, 28, 29, 21, 4, 182, 0, 194, 172, 58, 5, 42, 25, 5]
abbrev dktX0_law_1 : List UInt8 := dkwX0_law_1 ++ dktX0_law_2
def dkwX0_law_0 : List UInt8 := [42, 27, 3, 4, 184, 0, 86, 4, 182, 0, 94, 27, 154, 0, 17, 42, 180, 0, 46, 28, 29, 21, 4]
abbrev dktX0_law_0 : List UInt8 := dkwX0_law_0 ++ dktX0_law_1
theorem dksX0_law_0 : cX0_law.data.toList.drop 0 = dktX0_law_0 := by decide +kernel
theorem dksX0_law_1 : cX0_law.data.toList.drop 23 = dktX0_law_1 := dk_seg dksX0_law_0 23 rfl rfl
theorem dksX0_law_2 : cX0_law.data.toList.drop 46 = dktX0_law_2 := dk_seg dksX0_law_1 23 rfl rfl
theorem dX0_law_0 : decode cX0_law 0 = .ok (.aload_n 0, 1) := dk_42 (dk_at dksX0_law_0 0 rfl rfl)
theorem dX0_law_1 : decode cX0_law 1 = .ok (.iload_n 1, 1) := dk_27 (dk_at dksX0_law_0 1 rfl rfl)
theorem dX0_law_2 : decode cX0_law 2 = .ok (.iconst 0, 1) := dk_3 (dk_at dksX0_law_0 2 rfl rfl)
theorem dX0_law_3 : decode cX0_law 3 = .ok (.iconst 1, 1) := dk_4 (dk_at dksX0_law_0 3 rfl rfl)
theorem dX0_law_4 : decode cX0_law 4 = .ok (.invokestatic 86, 3) := dk_184 0 86 (dk_at dksX0_law_0 4 rfl rfl)
theorem dX0_law_7 : decode cX0_law 7 = .ok (.iconst 1, 1) := dk_4 (dk_at dksX0_law_0 7 rfl rfl)
theorem dX0_law_8 : decode cX0_law 8 = .ok (.invokevirtual 94, 3) := dk_182 0 94 (dk_at dksX0_law_0 8 rfl rfl)
theorem dX0_law_11 : decode cX0_law 11 = .ok (.iload_n 1, 1) := dk_27 (dk_at dksX0_law_0 11 rfl rfl)
theorem dX0_law_12 : decode cX0_law 12 = .ok (.ifCond .ne 17, 3) := dk_154 0 17 (dk_at dksX0_law_0 12 rfl rfl)
theorem dX0_law_15 : decode cX0_law 15 = .ok (.aload_n 0, 1) := dk_42 (dk_at dksX0_law_0 15 rfl rfl)
theorem dX0_law_16 : decode cX0_law 16 = .ok (.getfield 46, 3) := dk_180 0 46 (dk_at dksX0_law_0 16 rfl rfl)
theorem dX0_law_19 : decode cX0_law 19 = .ok (.iload_n 2, 1) := dk_28 (dk_at dksX0_law_0 19 rfl rfl)
theorem dX0_law_20 : decode cX0_law 20 = .ok (.iload_n 3, 1) := dk_29 (dk_at dksX0_law_0 20 rfl rfl)
theorem dX0_law_21 : decode cX0_law 21 = .ok (.iload 4, 2) := dk_21 4 (dk_at dksX0_law_0 21 rfl rfl)
theorem dX0_law_23 : decode cX0_law 23 = .ok (.invokevirtual 190, 3) := dk_182 0 190 (dk_at dksX0_law_1 0 rfl rfl)
theorem dX0_law_26 : decode cX0_law 26 = .ok (.goto 14, 3) := dk_167 0 14 (dk_at dksX0_law_1 3 rfl rfl)
theorem dX0_law_29 : decode cX0_law 29 = .ok (.aload_n 0, 1) := dk_42 (dk_at dksX0_law_1 6 rfl rfl)
theorem dX0_law_30 : decode cX0_law 30 = .ok (.getfield 46, 3) := dk_180 0 46 (dk_at dksX0_law_1 7 rfl rfl)
theorem dX0_law_33 : decode cX0_law 33 = .ok (.iload_n 2, 1) := dk_28 (dk_at dksX0_law_1 10 rfl rfl)
theorem dX0_law_34 : decode cX0_law 34 = .ok (.iload_n 3, 1) := dk_29 (dk_at dksX0_law_1 11 rfl rfl)
theorem dX0_law_35 : decode cX0_law 35 = .ok (.iload 4, 2) := dk_21 4 (dk_at dksX0_law_1 12 rfl rfl)
theorem dX0_law_37 : decode cX0_law 37 = .ok (.invokevirtual 194, 3) := dk_182 0 194 (dk_at dksX0_law_1 14 rfl rfl)
theorem dX0_law_40 : decode cX0_law 40 = .ok (.ireturn, 1) := dk_172 (dk_at dksX0_law_1 17 rfl rfl)
theorem dX0_law_41 : decode cX0_law 41 = .ok (.astore 5, 2) := dk_58 5 (dk_at dksX0_law_1 18 rfl rfl)
theorem dX0_law_43 : decode cX0_law 43 = .ok (.aload_n 0, 1) := dk_42 (dk_at dksX0_law_1 20 rfl rfl)
theorem dX0_law_44 : decode cX0_law 44 = .ok (.aload 5, 2) := dk_25 5 (dk_at dksX0_law_1 21 rfl rfl)
theorem dX0_law_46 : decode cX0_law 46 = .ok (.invokevirtual 131, 3) := dk_182 0 131 (dk_at dksX0_law_2 0 rfl rfl)
theorem dX0_law_49 : decode cX0_law 49 = .ok (.ireturn, 1) := dk_172 (dk_at dksX0_law_2 3 rfl rfl)
abbrev cX0_days : ByteArray := prog_1_method_25_code
def yX0_days : MethodName := ⟨RX0, "days", "(I)I"⟩
def dkwX0_days_1 : List UInt8 := [182, 0, 131, 172]
abbrev dktX0_days_1 : List UInt8 := dkwX0_days_1 ++ []
def dkwX0_days_0 : List UInt8 := [42, 27, 16, 60, 182, 0, 200, 42, 180, 0, 46, 27, 182, 0, 204, 182, 0, 208, 172, 77, 42, 44]
abbrev dktX0_days_0 : List UInt8 := dkwX0_days_0 ++ dktX0_days_1
theorem dksX0_days_0 : cX0_days.data.toList.drop 0 = dktX0_days_0 := by decide +kernel
theorem dksX0_days_1 : cX0_days.data.toList.drop 22 = dktX0_days_1 := dk_seg dksX0_days_0 22 rfl rfl
theorem dX0_days_0 : decode cX0_days 0 = .ok (.aload_n 0, 1) := dk_42 (dk_at dksX0_days_0 0 rfl rfl)
theorem dX0_days_1 : decode cX0_days 1 = .ok (.iload_n 1, 1) := dk_27 (dk_at dksX0_days_0 1 rfl rfl)
theorem dX0_days_2 : decode cX0_days 2 = .ok (.bipush 60, 2) := dk_16 60 (dk_at dksX0_days_0 2 rfl rfl)
theorem dX0_days_4 : decode cX0_days 4 = .ok (.invokevirtual 200, 3) := dk_182 0 200 (dk_at dksX0_days_0 4 rfl rfl)
theorem dX0_days_7 : decode cX0_days 7 = .ok (.aload_n 0, 1) := dk_42 (dk_at dksX0_days_0 7 rfl rfl)
theorem dX0_days_8 : decode cX0_days 8 = .ok (.getfield 46, 3) := dk_180 0 46 (dk_at dksX0_days_0 8 rfl rfl)
theorem dX0_days_11 : decode cX0_days 11 = .ok (.iload_n 1, 1) := dk_27 (dk_at dksX0_days_0 11 rfl rfl)
theorem dX0_days_12 : decode cX0_days 12 = .ok (.invokevirtual 204, 3) := dk_182 0 204 (dk_at dksX0_days_0 12 rfl rfl)
theorem dX0_days_15 : decode cX0_days 15 = .ok (.invokevirtual 208, 3) := dk_182 0 208 (dk_at dksX0_days_0 15 rfl rfl)
theorem dX0_days_18 : decode cX0_days 18 = .ok (.ireturn, 1) := dk_172 (dk_at dksX0_days_0 18 rfl rfl)
theorem dX0_days_19 : decode cX0_days 19 = .ok (.astore_n 2, 1) := dk_77 (dk_at dksX0_days_0 19 rfl rfl)
theorem dX0_days_20 : decode cX0_days 20 = .ok (.aload_n 0, 1) := dk_42 (dk_at dksX0_days_0 20 rfl rfl)
theorem dX0_days_21 : decode cX0_days 21 = .ok (.aload_n 2, 1) := dk_44 (dk_at dksX0_days_0 21 rfl rfl)
theorem dX0_days_22 : decode cX0_days 22 = .ok (.invokevirtual 131, 3) := dk_182 0 131 (dk_at dksX0_days_1 0 rfl rfl)
theorem dX0_days_25 : decode cX0_days 25 = .ok (.ireturn, 1) := dk_172 (dk_at dksX0_days_1 3 rfl rfl)
abbrev cX0_mustGo : ByteArray := prog_1_method_24_code
def yX0_mustGo : MethodName := ⟨RX0, "mustGo", "(II)V"⟩
def dkwX0_mustGo_1 : List UInt8 := [163, 0, 7, 4, 167, 0, 4, 3, 6, 182, 0, 94, 177]
abbrev dktX0_mustGo_1 : List UInt8 := dkwX0_mustGo_1 ++ []
def dkwX0_mustGo_0 : List UInt8 := [42, 27, 4, 28, 184, 0, 86, 4, 182, 0, 94, 42, 42, 180, 0, 46, 180, 0, 197, 27, 96, 17, 39, 15]
abbrev dktX0_mustGo_0 : List UInt8 := dkwX0_mustGo_0 ++ dktX0_mustGo_1
theorem dksX0_mustGo_0 : cX0_mustGo.data.toList.drop 0 = dktX0_mustGo_0 := by decide +kernel
theorem dksX0_mustGo_1 : cX0_mustGo.data.toList.drop 24 = dktX0_mustGo_1 := dk_seg dksX0_mustGo_0 24 rfl rfl
theorem dX0_mustGo_0 : decode cX0_mustGo 0 = .ok (.aload_n 0, 1) := dk_42 (dk_at dksX0_mustGo_0 0 rfl rfl)
theorem dX0_mustGo_1 : decode cX0_mustGo 1 = .ok (.iload_n 1, 1) := dk_27 (dk_at dksX0_mustGo_0 1 rfl rfl)
theorem dX0_mustGo_2 : decode cX0_mustGo 2 = .ok (.iconst 1, 1) := dk_4 (dk_at dksX0_mustGo_0 2 rfl rfl)
theorem dX0_mustGo_3 : decode cX0_mustGo 3 = .ok (.iload_n 2, 1) := dk_28 (dk_at dksX0_mustGo_0 3 rfl rfl)
theorem dX0_mustGo_4 : decode cX0_mustGo 4 = .ok (.invokestatic 86, 3) := dk_184 0 86 (dk_at dksX0_mustGo_0 4 rfl rfl)
theorem dX0_mustGo_7 : decode cX0_mustGo 7 = .ok (.iconst 1, 1) := dk_4 (dk_at dksX0_mustGo_0 7 rfl rfl)
theorem dX0_mustGo_8 : decode cX0_mustGo 8 = .ok (.invokevirtual 94, 3) := dk_182 0 94 (dk_at dksX0_mustGo_0 8 rfl rfl)
theorem dX0_mustGo_11 : decode cX0_mustGo 11 = .ok (.aload_n 0, 1) := dk_42 (dk_at dksX0_mustGo_0 11 rfl rfl)
theorem dX0_mustGo_12 : decode cX0_mustGo 12 = .ok (.aload_n 0, 1) := dk_42 (dk_at dksX0_mustGo_0 12 rfl rfl)
theorem dX0_mustGo_13 : decode cX0_mustGo 13 = .ok (.getfield 46, 3) := dk_180 0 46 (dk_at dksX0_mustGo_0 13 rfl rfl)
theorem dX0_mustGo_16 : decode cX0_mustGo 16 = .ok (.getfield 197, 3) := dk_180 0 197 (dk_at dksX0_mustGo_0 16 rfl rfl)
theorem dX0_mustGo_19 : decode cX0_mustGo 19 = .ok (.iload_n 1, 1) := dk_27 (dk_at dksX0_mustGo_0 19 rfl rfl)
theorem dX0_mustGo_20 : decode cX0_mustGo 20 = .ok (.iadd, 1) := dk_96 (dk_at dksX0_mustGo_0 20 rfl rfl)
theorem dX0_mustGo_21 : decode cX0_mustGo 21 = .ok (.sipush 9999, 3) := dk_17 39 15 (dk_at dksX0_mustGo_0 21 rfl rfl)
theorem dX0_mustGo_24 : decode cX0_mustGo 24 = .ok (.if_icmp .gt 7, 3) := dk_163 0 7 (dk_at dksX0_mustGo_1 0 rfl rfl)
theorem dX0_mustGo_27 : decode cX0_mustGo 27 = .ok (.iconst 1, 1) := dk_4 (dk_at dksX0_mustGo_1 3 rfl rfl)
theorem dX0_mustGo_28 : decode cX0_mustGo 28 = .ok (.goto 4, 3) := dk_167 0 4 (dk_at dksX0_mustGo_1 4 rfl rfl)
theorem dX0_mustGo_31 : decode cX0_mustGo 31 = .ok (.iconst 0, 1) := dk_3 (dk_at dksX0_mustGo_1 7 rfl rfl)
theorem dX0_mustGo_32 : decode cX0_mustGo 32 = .ok (.iconst 3, 1) := dk_6 (dk_at dksX0_mustGo_1 8 rfl rfl)
theorem dX0_mustGo_33 : decode cX0_mustGo 33 = .ok (.invokevirtual 94, 3) := dk_182 0 94 (dk_at dksX0_mustGo_1 9 rfl rfl)
theorem dX0_mustGo_36 : decode cX0_mustGo 36 = .ok (.return_, 1) := dk_177 (dk_at dksX0_mustGo_1 12 rfl rfl)
abbrev cX0_loose : ByteArray := prog_1_method_26_code
def yX0_loose : MethodName := ⟨RX0, "loose", "(I)I"⟩
def dkwX0_loose_1 : List UInt8 := [167, 255, 241, 42, 180, 0, 46, 182, 0, 208, 172, 77, 42, 44, 182, 0, 131, 172]
abbrev dktX0_loose_1 : List UInt8 := dkwX0_loose_1 ++ []
def dkwX0_loose_0 : List UInt8 := [42, 27, 16, 40, 182, 0, 200, 3, 61, 28, 27, 162, 0, 16, 42, 180, 0, 46, 182, 0, 211, 132, 2, 1]
abbrev dktX0_loose_0 : List UInt8 := dkwX0_loose_0 ++ dktX0_loose_1
theorem dksX0_loose_0 : cX0_loose.data.toList.drop 0 = dktX0_loose_0 := by decide +kernel
theorem dksX0_loose_1 : cX0_loose.data.toList.drop 24 = dktX0_loose_1 := dk_seg dksX0_loose_0 24 rfl rfl
theorem dX0_loose_0 : decode cX0_loose 0 = .ok (.aload_n 0, 1) := dk_42 (dk_at dksX0_loose_0 0 rfl rfl)
theorem dX0_loose_1 : decode cX0_loose 1 = .ok (.iload_n 1, 1) := dk_27 (dk_at dksX0_loose_0 1 rfl rfl)
theorem dX0_loose_2 : decode cX0_loose 2 = .ok (.bipush 40, 2) := dk_16 40 (dk_at dksX0_loose_0 2 rfl rfl)
theorem dX0_loose_4 : decode cX0_loose 4 = .ok (.invokevirtual 200, 3) := dk_182 0 200 (dk_at dksX0_loose_0 4 rfl rfl)
theorem dX0_loose_7 : decode cX0_loose 7 = .ok (.iconst 0, 1) := dk_3 (dk_at dksX0_loose_0 7 rfl rfl)
theorem dX0_loose_8 : decode cX0_loose 8 = .ok (.istore_n 2, 1) := dk_61 (dk_at dksX0_loose_0 8 rfl rfl)
theorem dX0_loose_9 : decode cX0_loose 9 = .ok (.iload_n 2, 1) := dk_28 (dk_at dksX0_loose_0 9 rfl rfl)
theorem dX0_loose_10 : decode cX0_loose 10 = .ok (.iload_n 1, 1) := dk_27 (dk_at dksX0_loose_0 10 rfl rfl)
theorem dX0_loose_11 : decode cX0_loose 11 = .ok (.if_icmp .ge 16, 3) := dk_162 0 16 (dk_at dksX0_loose_0 11 rfl rfl)
theorem dX0_loose_14 : decode cX0_loose 14 = .ok (.aload_n 0, 1) := dk_42 (dk_at dksX0_loose_0 14 rfl rfl)
theorem dX0_loose_15 : decode cX0_loose 15 = .ok (.getfield 46, 3) := dk_180 0 46 (dk_at dksX0_loose_0 15 rfl rfl)
theorem dX0_loose_18 : decode cX0_loose 18 = .ok (.invokevirtual 211, 3) := dk_182 0 211 (dk_at dksX0_loose_0 18 rfl rfl)
theorem dX0_loose_21 : decode cX0_loose 21 = .ok (.iinc 2 1, 3) := dk_132 2 1 (dk_at dksX0_loose_0 21 rfl rfl)
theorem dX0_loose_24 : decode cX0_loose 24 = .ok (.goto (-15), 3) := dk_167 255 241 (dk_at dksX0_loose_1 0 rfl rfl)
theorem dX0_loose_27 : decode cX0_loose 27 = .ok (.aload_n 0, 1) := dk_42 (dk_at dksX0_loose_1 3 rfl rfl)
theorem dX0_loose_28 : decode cX0_loose 28 = .ok (.getfield 46, 3) := dk_180 0 46 (dk_at dksX0_loose_1 4 rfl rfl)
theorem dX0_loose_31 : decode cX0_loose 31 = .ok (.invokevirtual 208, 3) := dk_182 0 208 (dk_at dksX0_loose_1 7 rfl rfl)
theorem dX0_loose_34 : decode cX0_loose 34 = .ok (.ireturn, 1) := dk_172 (dk_at dksX0_loose_1 10 rfl rfl)
theorem dX0_loose_35 : decode cX0_loose 35 = .ok (.astore_n 2, 1) := dk_77 (dk_at dksX0_loose_1 11 rfl rfl)
theorem dX0_loose_36 : decode cX0_loose 36 = .ok (.aload_n 0, 1) := dk_42 (dk_at dksX0_loose_1 12 rfl rfl)
theorem dX0_loose_37 : decode cX0_loose 37 = .ok (.aload_n 2, 1) := dk_44 (dk_at dksX0_loose_1 13 rfl rfl)
theorem dX0_loose_38 : decode cX0_loose 38 = .ok (.invokevirtual 131, 3) := dk_182 0 131 (dk_at dksX0_loose_1 14 rfl rfl)
theorem dX0_loose_41 : decode cX0_loose 41 = .ok (.ireturn, 1) := dk_172 (dk_at dksX0_loose_1 17 rfl rfl)
abbrev cX0_strike : ByteArray := prog_1_method_27_code
def yX0_strike : MethodName := ⟨RX0, "strike", "()I"⟩
def dkwX0_strike_0 : List UInt8 := [42, 180, 0, 46, 182, 0, 214, 172]
abbrev dktX0_strike_0 : List UInt8 := dkwX0_strike_0 ++ []
theorem dksX0_strike_0 : cX0_strike.data.toList.drop 0 = dktX0_strike_0 := by decide +kernel
theorem dX0_strike_0 : decode cX0_strike 0 = .ok (.aload_n 0, 1) := dk_42 (dk_at dksX0_strike_0 0 rfl rfl)
theorem dX0_strike_1 : decode cX0_strike 1 = .ok (.getfield 46, 3) := dk_180 0 46 (dk_at dksX0_strike_0 1 rfl rfl)
theorem dX0_strike_4 : decode cX0_strike 4 = .ok (.invokevirtual 214, 3) := dk_182 0 214 (dk_at dksX0_strike_0 4 rfl rfl)
theorem dX0_strike_7 : decode cX0_strike 7 = .ok (.ireturn, 1) := dk_172 (dk_at dksX0_strike_0 7 rfl rfl)
abbrev cX0_then : ByteArray := prog_1_method_28_code
def yX0_then : MethodName := ⟨RX0, "then", "(III)I"⟩
def dkwX0_then_3 : List UInt8 := [180, 0, 121, 28, 46, 172, 58, 4, 42, 25, 4, 182, 0, 131, 172]
abbrev dktX0_then_3 : List UInt8 := dkwX0_then_3 ++ []
def dkwX0_then_2 : List UInt8 := [182, 0, 204, 87, 29, 154, 0, 15, 42, 180, 0, 53, 180, 0, 118, 28, 46, 167, 0, 12, 42, 180, 0, 53]
abbrev dktX0_then_2 : List UInt8 := dkwX0_then_2 ++ dktX0_then_3
def dkwX0_then_1 : List UInt8 := [153, 0, 7, 4, 167, 0, 4, 3, 4, 182, 0, 94, 42, 180, 0, 53, 42, 180, 0, 46, 182, 0, 220, 27]
abbrev dktX0_then_1 : List UInt8 := dkwX0_then_1 ++ dktX0_then_2
def dkwX0_then_0 : List UInt8 := [42, 27, 184, 0, 217, 153, 0, 24, 42, 28, 182, 0, 103, 153, 0, 16, 29, 3, 4, 184, 0, 86]
abbrev dktX0_then_0 : List UInt8 := dkwX0_then_0 ++ dktX0_then_1
theorem dksX0_then_0 : cX0_then.data.toList.drop 0 = dktX0_then_0 := by decide +kernel
theorem dksX0_then_1 : cX0_then.data.toList.drop 22 = dktX0_then_1 := dk_seg dksX0_then_0 22 rfl rfl
theorem dksX0_then_2 : cX0_then.data.toList.drop 46 = dktX0_then_2 := dk_seg dksX0_then_1 24 rfl rfl
theorem dksX0_then_3 : cX0_then.data.toList.drop 70 = dktX0_then_3 := dk_seg dksX0_then_2 24 rfl rfl
theorem dX0_then_0 : decode cX0_then 0 = .ok (.aload_n 0, 1) := dk_42 (dk_at dksX0_then_0 0 rfl rfl)
theorem dX0_then_1 : decode cX0_then 1 = .ok (.iload_n 1, 1) := dk_27 (dk_at dksX0_then_0 1 rfl rfl)
theorem dX0_then_2 : decode cX0_then 2 = .ok (.invokestatic 217, 3) := dk_184 0 217 (dk_at dksX0_then_0 2 rfl rfl)
theorem dX0_then_5 : decode cX0_then 5 = .ok (.ifCond .eq 24, 3) := dk_153 0 24 (dk_at dksX0_then_0 5 rfl rfl)
theorem dX0_then_8 : decode cX0_then 8 = .ok (.aload_n 0, 1) := dk_42 (dk_at dksX0_then_0 8 rfl rfl)
theorem dX0_then_9 : decode cX0_then 9 = .ok (.iload_n 2, 1) := dk_28 (dk_at dksX0_then_0 9 rfl rfl)
theorem dX0_then_10 : decode cX0_then 10 = .ok (.invokevirtual 103, 3) := dk_182 0 103 (dk_at dksX0_then_0 10 rfl rfl)
theorem dX0_then_13 : decode cX0_then 13 = .ok (.ifCond .eq 16, 3) := dk_153 0 16 (dk_at dksX0_then_0 13 rfl rfl)
theorem dX0_then_16 : decode cX0_then 16 = .ok (.iload_n 3, 1) := dk_29 (dk_at dksX0_then_0 16 rfl rfl)
theorem dX0_then_17 : decode cX0_then 17 = .ok (.iconst 0, 1) := dk_3 (dk_at dksX0_then_0 17 rfl rfl)
theorem dX0_then_18 : decode cX0_then 18 = .ok (.iconst 1, 1) := dk_4 (dk_at dksX0_then_0 18 rfl rfl)
theorem dX0_then_19 : decode cX0_then 19 = .ok (.invokestatic 86, 3) := dk_184 0 86 (dk_at dksX0_then_0 19 rfl rfl)
theorem dX0_then_22 : decode cX0_then 22 = .ok (.ifCond .eq 7, 3) := dk_153 0 7 (dk_at dksX0_then_1 0 rfl rfl)
theorem dX0_then_25 : decode cX0_then 25 = .ok (.iconst 1, 1) := dk_4 (dk_at dksX0_then_1 3 rfl rfl)
theorem dX0_then_26 : decode cX0_then 26 = .ok (.goto 4, 3) := dk_167 0 4 (dk_at dksX0_then_1 4 rfl rfl)
theorem dX0_then_29 : decode cX0_then 29 = .ok (.iconst 0, 1) := dk_3 (dk_at dksX0_then_1 7 rfl rfl)
theorem dX0_then_30 : decode cX0_then 30 = .ok (.iconst 1, 1) := dk_4 (dk_at dksX0_then_1 8 rfl rfl)
theorem dX0_then_31 : decode cX0_then 31 = .ok (.invokevirtual 94, 3) := dk_182 0 94 (dk_at dksX0_then_1 9 rfl rfl)
theorem dX0_then_34 : decode cX0_then 34 = .ok (.aload_n 0, 1) := dk_42 (dk_at dksX0_then_1 12 rfl rfl)
theorem dX0_then_35 : decode cX0_then 35 = .ok (.getfield 53, 3) := dk_180 0 53 (dk_at dksX0_then_1 13 rfl rfl)
theorem dX0_then_38 : decode cX0_then 38 = .ok (.aload_n 0, 1) := dk_42 (dk_at dksX0_then_1 16 rfl rfl)
theorem dX0_then_39 : decode cX0_then 39 = .ok (.getfield 46, 3) := dk_180 0 46 (dk_at dksX0_then_1 17 rfl rfl)
theorem dX0_then_42 : decode cX0_then 42 = .ok (.invokevirtual 220, 3) := dk_182 0 220 (dk_at dksX0_then_1 20 rfl rfl)
theorem dX0_then_45 : decode cX0_then 45 = .ok (.iload_n 1, 1) := dk_27 (dk_at dksX0_then_1 23 rfl rfl)
theorem dX0_then_46 : decode cX0_then 46 = .ok (.invokevirtual 204, 3) := dk_182 0 204 (dk_at dksX0_then_2 0 rfl rfl)
theorem dX0_then_49 : decode cX0_then 49 = .ok (.pop, 1) := dk_87 (dk_at dksX0_then_2 3 rfl rfl)
theorem dX0_then_50 : decode cX0_then 50 = .ok (.iload_n 3, 1) := dk_29 (dk_at dksX0_then_2 4 rfl rfl)
theorem dX0_then_51 : decode cX0_then 51 = .ok (.ifCond .ne 15, 3) := dk_154 0 15 (dk_at dksX0_then_2 5 rfl rfl)
theorem dX0_then_54 : decode cX0_then 54 = .ok (.aload_n 0, 1) := dk_42 (dk_at dksX0_then_2 8 rfl rfl)
theorem dX0_then_55 : decode cX0_then 55 = .ok (.getfield 53, 3) := dk_180 0 53 (dk_at dksX0_then_2 9 rfl rfl)
theorem dX0_then_58 : decode cX0_then 58 = .ok (.getfield 118, 3) := dk_180 0 118 (dk_at dksX0_then_2 12 rfl rfl)
theorem dX0_then_61 : decode cX0_then 61 = .ok (.iload_n 2, 1) := dk_28 (dk_at dksX0_then_2 15 rfl rfl)
theorem dX0_then_62 : decode cX0_then 62 = .ok (.iaload, 1) := dk_46 (dk_at dksX0_then_2 16 rfl rfl)
theorem dX0_then_63 : decode cX0_then 63 = .ok (.goto 12, 3) := dk_167 0 12 (dk_at dksX0_then_2 17 rfl rfl)
theorem dX0_then_66 : decode cX0_then 66 = .ok (.aload_n 0, 1) := dk_42 (dk_at dksX0_then_2 20 rfl rfl)
theorem dX0_then_67 : decode cX0_then 67 = .ok (.getfield 53, 3) := dk_180 0 53 (dk_at dksX0_then_2 21 rfl rfl)
theorem dX0_then_70 : decode cX0_then 70 = .ok (.getfield 121, 3) := dk_180 0 121 (dk_at dksX0_then_3 0 rfl rfl)
theorem dX0_then_73 : decode cX0_then 73 = .ok (.iload_n 2, 1) := dk_28 (dk_at dksX0_then_3 3 rfl rfl)
theorem dX0_then_74 : decode cX0_then 74 = .ok (.iaload, 1) := dk_46 (dk_at dksX0_then_3 4 rfl rfl)
theorem dX0_then_75 : decode cX0_then 75 = .ok (.ireturn, 1) := dk_172 (dk_at dksX0_then_3 5 rfl rfl)
theorem dX0_then_76 : decode cX0_then 76 = .ok (.astore 4, 2) := dk_58 4 (dk_at dksX0_then_3 6 rfl rfl)
theorem dX0_then_78 : decode cX0_then 78 = .ok (.aload_n 0, 1) := dk_42 (dk_at dksX0_then_3 8 rfl rfl)
theorem dX0_then_79 : decode cX0_then 79 = .ok (.aload 4, 2) := dk_25 4 (dk_at dksX0_then_3 9 rfl rfl)
theorem dX0_then_81 : decode cX0_then 81 = .ok (.invokevirtual 131, 3) := dk_182 0 131 (dk_at dksX0_then_3 11 rfl rfl)
theorem dX0_then_84 : decode cX0_then 84 = .ok (.ireturn, 1) := dk_172 (dk_at dksX0_then_3 14 rfl rfl)
abbrev cX0_isAhead : ByteArray := prog_1_method_7_code
def yX0_isAhead : MethodName := ⟨RX0, "isAhead", "(I)Z"⟩
def dkwX0_isAhead_0 : List UInt8 := [26, 3, 16, 60, 184, 0, 86, 172]
abbrev dktX0_isAhead_0 : List UInt8 := dkwX0_isAhead_0 ++ []
theorem dksX0_isAhead_0 : cX0_isAhead.data.toList.drop 0 = dktX0_isAhead_0 := by decide +kernel
theorem dX0_isAhead_0 : decode cX0_isAhead 0 = .ok (.iload_n 0, 1) := dk_26 (dk_at dksX0_isAhead_0 0 rfl rfl)
theorem dX0_isAhead_1 : decode cX0_isAhead 1 = .ok (.iconst 0, 1) := dk_3 (dk_at dksX0_isAhead_0 1 rfl rfl)
theorem dX0_isAhead_2 : decode cX0_isAhead 2 = .ok (.bipush 60, 2) := dk_16 60 (dk_at dksX0_isAhead_0 2 rfl rfl)
theorem dX0_isAhead_4 : decode cX0_isAhead 4 = .ok (.invokestatic 86, 3) := dk_184 0 86 (dk_at dksX0_isAhead_0 4 rfl rfl)
theorem dX0_isAhead_7 : decode cX0_isAhead 7 = .ok (.ireturn, 1) := dk_172 (dk_at dksX0_isAhead_0 7 rfl rfl)
abbrev cX0_first : ByteArray := prog_1_method_30_code
def yX0_first : MethodName := ⟨RX0, "first", "(II)I"⟩
def dkwX0_first_4 : List UInt8 := [167, 0, 8, 42, 27, 182, 0, 224, 172, 78, 42, 45, 182, 0, 131, 172]
abbrev dktX0_first_4 : List UInt8 := dkwX0_first_4 ++ []
def dkwX0_first_3 : List UInt8 := [167, 255, 231, 42, 29, 16, 60, 163, 0, 7, 4, 167, 0, 4, 3, 5, 182, 0, 94, 28, 154, 0, 7, 29]
abbrev dktX0_first_3 : List UInt8 := dkwX0_first_3 ++ dktX0_first_4
def dkwX0_first_2 : List UInt8 := [163, 0, 25, 42, 27, 182, 0, 224, 2, 160, 0, 16, 42, 180, 0, 53, 182, 0, 228, 132, 3, 1]
abbrev dktX0_first_2 : List UInt8 := dkwX0_first_2 ++ dktX0_first_3
def dkwX0_first_1 : List UInt8 := [3, 4, 182, 0, 94, 42, 180, 0, 53, 42, 180, 0, 46, 182, 0, 220, 87, 3, 62, 29, 16, 60]
abbrev dktX0_first_1 : List UInt8 := dkwX0_first_1 ++ dktX0_first_2
def dkwX0_first_0 : List UInt8 := [42, 27, 4, 16, 99, 184, 0, 86, 153, 0, 16, 28, 3, 4, 184, 0, 86, 153, 0, 7, 4, 167, 0, 4]
abbrev dktX0_first_0 : List UInt8 := dkwX0_first_0 ++ dktX0_first_1
theorem dksX0_first_0 : cX0_first.data.toList.drop 0 = dktX0_first_0 := by decide +kernel
theorem dksX0_first_1 : cX0_first.data.toList.drop 24 = dktX0_first_1 := dk_seg dksX0_first_0 24 rfl rfl
theorem dksX0_first_2 : cX0_first.data.toList.drop 46 = dktX0_first_2 := dk_seg dksX0_first_1 22 rfl rfl
theorem dksX0_first_3 : cX0_first.data.toList.drop 68 = dktX0_first_3 := dk_seg dksX0_first_2 22 rfl rfl
theorem dksX0_first_4 : cX0_first.data.toList.drop 92 = dktX0_first_4 := dk_seg dksX0_first_3 24 rfl rfl
theorem dX0_first_0 : decode cX0_first 0 = .ok (.aload_n 0, 1) := dk_42 (dk_at dksX0_first_0 0 rfl rfl)
theorem dX0_first_1 : decode cX0_first 1 = .ok (.iload_n 1, 1) := dk_27 (dk_at dksX0_first_0 1 rfl rfl)
theorem dX0_first_2 : decode cX0_first 2 = .ok (.iconst 1, 1) := dk_4 (dk_at dksX0_first_0 2 rfl rfl)
theorem dX0_first_3 : decode cX0_first 3 = .ok (.bipush 99, 2) := dk_16 99 (dk_at dksX0_first_0 3 rfl rfl)
theorem dX0_first_5 : decode cX0_first 5 = .ok (.invokestatic 86, 3) := dk_184 0 86 (dk_at dksX0_first_0 5 rfl rfl)
theorem dX0_first_8 : decode cX0_first 8 = .ok (.ifCond .eq 16, 3) := dk_153 0 16 (dk_at dksX0_first_0 8 rfl rfl)
theorem dX0_first_11 : decode cX0_first 11 = .ok (.iload_n 2, 1) := dk_28 (dk_at dksX0_first_0 11 rfl rfl)
theorem dX0_first_12 : decode cX0_first 12 = .ok (.iconst 0, 1) := dk_3 (dk_at dksX0_first_0 12 rfl rfl)
theorem dX0_first_13 : decode cX0_first 13 = .ok (.iconst 1, 1) := dk_4 (dk_at dksX0_first_0 13 rfl rfl)
theorem dX0_first_14 : decode cX0_first 14 = .ok (.invokestatic 86, 3) := dk_184 0 86 (dk_at dksX0_first_0 14 rfl rfl)
theorem dX0_first_17 : decode cX0_first 17 = .ok (.ifCond .eq 7, 3) := dk_153 0 7 (dk_at dksX0_first_0 17 rfl rfl)
theorem dX0_first_20 : decode cX0_first 20 = .ok (.iconst 1, 1) := dk_4 (dk_at dksX0_first_0 20 rfl rfl)
theorem dX0_first_21 : decode cX0_first 21 = .ok (.goto 4, 3) := dk_167 0 4 (dk_at dksX0_first_0 21 rfl rfl)
theorem dX0_first_24 : decode cX0_first 24 = .ok (.iconst 0, 1) := dk_3 (dk_at dksX0_first_1 0 rfl rfl)
theorem dX0_first_25 : decode cX0_first 25 = .ok (.iconst 1, 1) := dk_4 (dk_at dksX0_first_1 1 rfl rfl)
theorem dX0_first_26 : decode cX0_first 26 = .ok (.invokevirtual 94, 3) := dk_182 0 94 (dk_at dksX0_first_1 2 rfl rfl)
theorem dX0_first_29 : decode cX0_first 29 = .ok (.aload_n 0, 1) := dk_42 (dk_at dksX0_first_1 5 rfl rfl)
theorem dX0_first_30 : decode cX0_first 30 = .ok (.getfield 53, 3) := dk_180 0 53 (dk_at dksX0_first_1 6 rfl rfl)
theorem dX0_first_33 : decode cX0_first 33 = .ok (.aload_n 0, 1) := dk_42 (dk_at dksX0_first_1 9 rfl rfl)
theorem dX0_first_34 : decode cX0_first 34 = .ok (.getfield 46, 3) := dk_180 0 46 (dk_at dksX0_first_1 10 rfl rfl)
theorem dX0_first_37 : decode cX0_first 37 = .ok (.invokevirtual 220, 3) := dk_182 0 220 (dk_at dksX0_first_1 13 rfl rfl)
theorem dX0_first_40 : decode cX0_first 40 = .ok (.pop, 1) := dk_87 (dk_at dksX0_first_1 16 rfl rfl)
theorem dX0_first_41 : decode cX0_first 41 = .ok (.iconst 0, 1) := dk_3 (dk_at dksX0_first_1 17 rfl rfl)
theorem dX0_first_42 : decode cX0_first 42 = .ok (.istore_n 3, 1) := dk_62 (dk_at dksX0_first_1 18 rfl rfl)
theorem dX0_first_43 : decode cX0_first 43 = .ok (.iload_n 3, 1) := dk_29 (dk_at dksX0_first_1 19 rfl rfl)
theorem dX0_first_44 : decode cX0_first 44 = .ok (.bipush 60, 2) := dk_16 60 (dk_at dksX0_first_1 20 rfl rfl)
theorem dX0_first_46 : decode cX0_first 46 = .ok (.if_icmp .gt 25, 3) := dk_163 0 25 (dk_at dksX0_first_2 0 rfl rfl)
theorem dX0_first_49 : decode cX0_first 49 = .ok (.aload_n 0, 1) := dk_42 (dk_at dksX0_first_2 3 rfl rfl)
theorem dX0_first_50 : decode cX0_first 50 = .ok (.iload_n 1, 1) := dk_27 (dk_at dksX0_first_2 4 rfl rfl)
theorem dX0_first_51 : decode cX0_first 51 = .ok (.invokevirtual 224, 3) := dk_182 0 224 (dk_at dksX0_first_2 5 rfl rfl)
theorem dX0_first_54 : decode cX0_first 54 = .ok (.iconst (-1), 1) := dk_2 (dk_at dksX0_first_2 8 rfl rfl)
theorem dX0_first_55 : decode cX0_first 55 = .ok (.if_icmp .ne 16, 3) := dk_160 0 16 (dk_at dksX0_first_2 9 rfl rfl)
theorem dX0_first_58 : decode cX0_first 58 = .ok (.aload_n 0, 1) := dk_42 (dk_at dksX0_first_2 12 rfl rfl)
theorem dX0_first_59 : decode cX0_first 59 = .ok (.getfield 53, 3) := dk_180 0 53 (dk_at dksX0_first_2 13 rfl rfl)
theorem dX0_first_62 : decode cX0_first 62 = .ok (.invokevirtual 228, 3) := dk_182 0 228 (dk_at dksX0_first_2 16 rfl rfl)
theorem dX0_first_65 : decode cX0_first 65 = .ok (.iinc 3 1, 3) := dk_132 3 1 (dk_at dksX0_first_2 19 rfl rfl)
theorem dX0_first_68 : decode cX0_first 68 = .ok (.goto (-25), 3) := dk_167 255 231 (dk_at dksX0_first_3 0 rfl rfl)
theorem dX0_first_71 : decode cX0_first 71 = .ok (.aload_n 0, 1) := dk_42 (dk_at dksX0_first_3 3 rfl rfl)
theorem dX0_first_72 : decode cX0_first 72 = .ok (.iload_n 3, 1) := dk_29 (dk_at dksX0_first_3 4 rfl rfl)
theorem dX0_first_73 : decode cX0_first 73 = .ok (.bipush 60, 2) := dk_16 60 (dk_at dksX0_first_3 5 rfl rfl)
theorem dX0_first_75 : decode cX0_first 75 = .ok (.if_icmp .gt 7, 3) := dk_163 0 7 (dk_at dksX0_first_3 7 rfl rfl)
theorem dX0_first_78 : decode cX0_first 78 = .ok (.iconst 1, 1) := dk_4 (dk_at dksX0_first_3 10 rfl rfl)
theorem dX0_first_79 : decode cX0_first 79 = .ok (.goto 4, 3) := dk_167 0 4 (dk_at dksX0_first_3 11 rfl rfl)
theorem dX0_first_82 : decode cX0_first 82 = .ok (.iconst 0, 1) := dk_3 (dk_at dksX0_first_3 14 rfl rfl)
theorem dX0_first_83 : decode cX0_first 83 = .ok (.iconst 2, 1) := dk_5 (dk_at dksX0_first_3 15 rfl rfl)
theorem dX0_first_84 : decode cX0_first 84 = .ok (.invokevirtual 94, 3) := dk_182 0 94 (dk_at dksX0_first_3 16 rfl rfl)
theorem dX0_first_87 : decode cX0_first 87 = .ok (.iload_n 2, 1) := dk_28 (dk_at dksX0_first_3 19 rfl rfl)
theorem dX0_first_88 : decode cX0_first 88 = .ok (.ifCond .ne 7, 3) := dk_154 0 7 (dk_at dksX0_first_3 20 rfl rfl)
theorem dX0_first_91 : decode cX0_first 91 = .ok (.iload_n 3, 1) := dk_29 (dk_at dksX0_first_3 23 rfl rfl)
theorem dX0_first_92 : decode cX0_first 92 = .ok (.goto 8, 3) := dk_167 0 8 (dk_at dksX0_first_4 0 rfl rfl)
theorem dX0_first_95 : decode cX0_first 95 = .ok (.aload_n 0, 1) := dk_42 (dk_at dksX0_first_4 3 rfl rfl)
theorem dX0_first_96 : decode cX0_first 96 = .ok (.iload_n 1, 1) := dk_27 (dk_at dksX0_first_4 4 rfl rfl)
theorem dX0_first_97 : decode cX0_first 97 = .ok (.invokevirtual 224, 3) := dk_182 0 224 (dk_at dksX0_first_4 5 rfl rfl)
theorem dX0_first_100 : decode cX0_first 100 = .ok (.ireturn, 1) := dk_172 (dk_at dksX0_first_4 8 rfl rfl)
theorem dX0_first_101 : decode cX0_first 101 = .ok (.astore_n 3, 1) := dk_78 (dk_at dksX0_first_4 9 rfl rfl)
theorem dX0_first_102 : decode cX0_first 102 = .ok (.aload_n 0, 1) := dk_42 (dk_at dksX0_first_4 10 rfl rfl)
theorem dX0_first_103 : decode cX0_first 103 = .ok (.aload_n 3, 1) := dk_45 (dk_at dksX0_first_4 11 rfl rfl)
theorem dX0_first_104 : decode cX0_first 104 = .ok (.invokevirtual 131, 3) := dk_182 0 131 (dk_at dksX0_first_4 12 rfl rfl)
theorem dX0_first_107 : decode cX0_first 107 = .ok (.ireturn, 1) := dk_172 (dk_at dksX0_first_4 15 rfl rfl)
abbrev cX0_thirsty : ByteArray := prog_1_method_29_code
def yX0_thirsty : MethodName := ⟨RX0, "thirsty", "(I)I"⟩
def dkwX0_thirsty_2 : List UInt8 := [2, 172]
abbrev dktX0_thirsty_2 : List UInt8 := dkwX0_thirsty_2 ++ []
def dkwX0_thirsty_1 : List UInt8 := [162, 0, 9, 132, 2, 1, 167, 255, 229, 28, 42, 180, 0, 53, 180, 0, 100, 162, 0, 7, 28, 167, 0, 4]
abbrev dktX0_thirsty_1 : List UInt8 := dkwX0_thirsty_1 ++ dktX0_thirsty_2
def dkwX0_thirsty_0 : List UInt8 := [3, 61, 28, 42, 180, 0, 53, 180, 0, 100, 162, 0, 22, 42, 180, 0, 53, 180, 0, 121, 28, 46, 27]
abbrev dktX0_thirsty_0 : List UInt8 := dkwX0_thirsty_0 ++ dktX0_thirsty_1
theorem dksX0_thirsty_0 : cX0_thirsty.data.toList.drop 0 = dktX0_thirsty_0 := by decide +kernel
theorem dksX0_thirsty_1 : cX0_thirsty.data.toList.drop 23 = dktX0_thirsty_1 := dk_seg dksX0_thirsty_0 23 rfl rfl
theorem dksX0_thirsty_2 : cX0_thirsty.data.toList.drop 47 = dktX0_thirsty_2 := dk_seg dksX0_thirsty_1 24 rfl rfl
theorem dX0_thirsty_0 : decode cX0_thirsty 0 = .ok (.iconst 0, 1) := dk_3 (dk_at dksX0_thirsty_0 0 rfl rfl)
theorem dX0_thirsty_1 : decode cX0_thirsty 1 = .ok (.istore_n 2, 1) := dk_61 (dk_at dksX0_thirsty_0 1 rfl rfl)
theorem dX0_thirsty_2 : decode cX0_thirsty 2 = .ok (.iload_n 2, 1) := dk_28 (dk_at dksX0_thirsty_0 2 rfl rfl)
theorem dX0_thirsty_3 : decode cX0_thirsty 3 = .ok (.aload_n 0, 1) := dk_42 (dk_at dksX0_thirsty_0 3 rfl rfl)
theorem dX0_thirsty_4 : decode cX0_thirsty 4 = .ok (.getfield 53, 3) := dk_180 0 53 (dk_at dksX0_thirsty_0 4 rfl rfl)
theorem dX0_thirsty_7 : decode cX0_thirsty 7 = .ok (.getfield 100, 3) := dk_180 0 100 (dk_at dksX0_thirsty_0 7 rfl rfl)
theorem dX0_thirsty_10 : decode cX0_thirsty 10 = .ok (.if_icmp .ge 22, 3) := dk_162 0 22 (dk_at dksX0_thirsty_0 10 rfl rfl)
theorem dX0_thirsty_13 : decode cX0_thirsty 13 = .ok (.aload_n 0, 1) := dk_42 (dk_at dksX0_thirsty_0 13 rfl rfl)
theorem dX0_thirsty_14 : decode cX0_thirsty 14 = .ok (.getfield 53, 3) := dk_180 0 53 (dk_at dksX0_thirsty_0 14 rfl rfl)
theorem dX0_thirsty_17 : decode cX0_thirsty 17 = .ok (.getfield 121, 3) := dk_180 0 121 (dk_at dksX0_thirsty_0 17 rfl rfl)
theorem dX0_thirsty_20 : decode cX0_thirsty 20 = .ok (.iload_n 2, 1) := dk_28 (dk_at dksX0_thirsty_0 20 rfl rfl)
theorem dX0_thirsty_21 : decode cX0_thirsty 21 = .ok (.iaload, 1) := dk_46 (dk_at dksX0_thirsty_0 21 rfl rfl)
theorem dX0_thirsty_22 : decode cX0_thirsty 22 = .ok (.iload_n 1, 1) := dk_27 (dk_at dksX0_thirsty_0 22 rfl rfl)
theorem dX0_thirsty_23 : decode cX0_thirsty 23 = .ok (.if_icmp .ge 9, 3) := dk_162 0 9 (dk_at dksX0_thirsty_1 0 rfl rfl)
theorem dX0_thirsty_26 : decode cX0_thirsty 26 = .ok (.iinc 2 1, 3) := dk_132 2 1 (dk_at dksX0_thirsty_1 3 rfl rfl)
theorem dX0_thirsty_29 : decode cX0_thirsty 29 = .ok (.goto (-27), 3) := dk_167 255 229 (dk_at dksX0_thirsty_1 6 rfl rfl)
theorem dX0_thirsty_32 : decode cX0_thirsty 32 = .ok (.iload_n 2, 1) := dk_28 (dk_at dksX0_thirsty_1 9 rfl rfl)
theorem dX0_thirsty_33 : decode cX0_thirsty 33 = .ok (.aload_n 0, 1) := dk_42 (dk_at dksX0_thirsty_1 10 rfl rfl)
theorem dX0_thirsty_34 : decode cX0_thirsty 34 = .ok (.getfield 53, 3) := dk_180 0 53 (dk_at dksX0_thirsty_1 11 rfl rfl)
theorem dX0_thirsty_37 : decode cX0_thirsty 37 = .ok (.getfield 100, 3) := dk_180 0 100 (dk_at dksX0_thirsty_1 14 rfl rfl)
theorem dX0_thirsty_40 : decode cX0_thirsty 40 = .ok (.if_icmp .ge 7, 3) := dk_162 0 7 (dk_at dksX0_thirsty_1 17 rfl rfl)
theorem dX0_thirsty_43 : decode cX0_thirsty 43 = .ok (.iload_n 2, 1) := dk_28 (dk_at dksX0_thirsty_1 20 rfl rfl)
theorem dX0_thirsty_44 : decode cX0_thirsty 44 = .ok (.goto 4, 3) := dk_167 0 4 (dk_at dksX0_thirsty_1 21 rfl rfl)
theorem dX0_thirsty_47 : decode cX0_thirsty 47 = .ok (.iconst (-1), 1) := dk_2 (dk_at dksX0_thirsty_2 0 rfl rfl)
theorem dX0_thirsty_48 : decode cX0_thirsty 48 = .ok (.ireturn, 1) := dk_172 (dk_at dksX0_thirsty_2 1 rfl rfl)
abbrev cX0_rules : ByteArray := prog_1_method_38_code
def yX0_rules : MethodName := ⟨RX0, "rules", "(II)I"⟩
def dkwX0_rules_3 : List UInt8 := [182, 1, 10, 167, 0, 7, 42, 182, 1, 13, 172, 78, 42, 45, 182, 0, 131, 172]
abbrev dktX0_rules_3 : List UInt8 := dkwX0_rules_3 ++ []
def dkwX0_rules_2 : List UInt8 := [167, 0, 4, 3, 5, 182, 0, 94, 28, 154, 0, 7, 29, 167, 0, 19, 28, 4, 160, 0, 10, 42]
abbrev dktX0_rules_2 : List UInt8 := dkwX0_rules_2 ++ dktX0_rules_3
def dkwX0_rules_1 : List UInt8 := [182, 0, 94, 42, 42, 27, 182, 1, 2, 182, 1, 6, 62, 42, 28, 4, 160, 0, 7, 29, 158, 0, 7, 4]
abbrev dktX0_rules_1 : List UInt8 := dkwX0_rules_1 ++ dktX0_rules_2
def dkwX0_rules_0 : List UInt8 := [42, 27, 184, 0, 255, 153, 0, 16, 28, 3, 5, 184, 0, 86, 153, 0, 7, 4, 167, 0, 4, 3, 4]
abbrev dktX0_rules_0 : List UInt8 := dkwX0_rules_0 ++ dktX0_rules_1
theorem dksX0_rules_0 : cX0_rules.data.toList.drop 0 = dktX0_rules_0 := by decide +kernel
theorem dksX0_rules_1 : cX0_rules.data.toList.drop 23 = dktX0_rules_1 := dk_seg dksX0_rules_0 23 rfl rfl
theorem dksX0_rules_2 : cX0_rules.data.toList.drop 47 = dktX0_rules_2 := dk_seg dksX0_rules_1 24 rfl rfl
theorem dksX0_rules_3 : cX0_rules.data.toList.drop 69 = dktX0_rules_3 := dk_seg dksX0_rules_2 22 rfl rfl
theorem dX0_rules_0 : decode cX0_rules 0 = .ok (.aload_n 0, 1) := dk_42 (dk_at dksX0_rules_0 0 rfl rfl)
theorem dX0_rules_1 : decode cX0_rules 1 = .ok (.iload_n 1, 1) := dk_27 (dk_at dksX0_rules_0 1 rfl rfl)
theorem dX0_rules_2 : decode cX0_rules 2 = .ok (.invokestatic 255, 3) := dk_184 0 255 (dk_at dksX0_rules_0 2 rfl rfl)
theorem dX0_rules_5 : decode cX0_rules 5 = .ok (.ifCond .eq 16, 3) := dk_153 0 16 (dk_at dksX0_rules_0 5 rfl rfl)
theorem dX0_rules_8 : decode cX0_rules 8 = .ok (.iload_n 2, 1) := dk_28 (dk_at dksX0_rules_0 8 rfl rfl)
theorem dX0_rules_9 : decode cX0_rules 9 = .ok (.iconst 0, 1) := dk_3 (dk_at dksX0_rules_0 9 rfl rfl)
theorem dX0_rules_10 : decode cX0_rules 10 = .ok (.iconst 2, 1) := dk_5 (dk_at dksX0_rules_0 10 rfl rfl)
theorem dX0_rules_11 : decode cX0_rules 11 = .ok (.invokestatic 86, 3) := dk_184 0 86 (dk_at dksX0_rules_0 11 rfl rfl)
theorem dX0_rules_14 : decode cX0_rules 14 = .ok (.ifCond .eq 7, 3) := dk_153 0 7 (dk_at dksX0_rules_0 14 rfl rfl)
theorem dX0_rules_17 : decode cX0_rules 17 = .ok (.iconst 1, 1) := dk_4 (dk_at dksX0_rules_0 17 rfl rfl)
theorem dX0_rules_18 : decode cX0_rules 18 = .ok (.goto 4, 3) := dk_167 0 4 (dk_at dksX0_rules_0 18 rfl rfl)
theorem dX0_rules_21 : decode cX0_rules 21 = .ok (.iconst 0, 1) := dk_3 (dk_at dksX0_rules_0 21 rfl rfl)
theorem dX0_rules_22 : decode cX0_rules 22 = .ok (.iconst 1, 1) := dk_4 (dk_at dksX0_rules_0 22 rfl rfl)
theorem dX0_rules_23 : decode cX0_rules 23 = .ok (.invokevirtual 94, 3) := dk_182 0 94 (dk_at dksX0_rules_1 0 rfl rfl)
theorem dX0_rules_26 : decode cX0_rules 26 = .ok (.aload_n 0, 1) := dk_42 (dk_at dksX0_rules_1 3 rfl rfl)
theorem dX0_rules_27 : decode cX0_rules 27 = .ok (.aload_n 0, 1) := dk_42 (dk_at dksX0_rules_1 4 rfl rfl)
theorem dX0_rules_28 : decode cX0_rules 28 = .ok (.iload_n 1, 1) := dk_27 (dk_at dksX0_rules_1 5 rfl rfl)
theorem dX0_rules_29 : decode cX0_rules 29 = .ok (.invokevirtual 258, 3) := dk_182 1 2 (dk_at dksX0_rules_1 6 rfl rfl)
theorem dX0_rules_32 : decode cX0_rules 32 = .ok (.invokevirtual 262, 3) := dk_182 1 6 (dk_at dksX0_rules_1 9 rfl rfl)
theorem dX0_rules_35 : decode cX0_rules 35 = .ok (.istore_n 3, 1) := dk_62 (dk_at dksX0_rules_1 12 rfl rfl)
theorem dX0_rules_36 : decode cX0_rules 36 = .ok (.aload_n 0, 1) := dk_42 (dk_at dksX0_rules_1 13 rfl rfl)
theorem dX0_rules_37 : decode cX0_rules 37 = .ok (.iload_n 2, 1) := dk_28 (dk_at dksX0_rules_1 14 rfl rfl)
theorem dX0_rules_38 : decode cX0_rules 38 = .ok (.iconst 1, 1) := dk_4 (dk_at dksX0_rules_1 15 rfl rfl)
theorem dX0_rules_39 : decode cX0_rules 39 = .ok (.if_icmp .ne 7, 3) := dk_160 0 7 (dk_at dksX0_rules_1 16 rfl rfl)
theorem dX0_rules_42 : decode cX0_rules 42 = .ok (.iload_n 3, 1) := dk_29 (dk_at dksX0_rules_1 19 rfl rfl)
theorem dX0_rules_43 : decode cX0_rules 43 = .ok (.ifCond .le 7, 3) := dk_158 0 7 (dk_at dksX0_rules_1 20 rfl rfl)
theorem dX0_rules_46 : decode cX0_rules 46 = .ok (.iconst 1, 1) := dk_4 (dk_at dksX0_rules_1 23 rfl rfl)
theorem dX0_rules_47 : decode cX0_rules 47 = .ok (.goto 4, 3) := dk_167 0 4 (dk_at dksX0_rules_2 0 rfl rfl)
theorem dX0_rules_50 : decode cX0_rules 50 = .ok (.iconst 0, 1) := dk_3 (dk_at dksX0_rules_2 3 rfl rfl)
theorem dX0_rules_51 : decode cX0_rules 51 = .ok (.iconst 2, 1) := dk_5 (dk_at dksX0_rules_2 4 rfl rfl)
theorem dX0_rules_52 : decode cX0_rules 52 = .ok (.invokevirtual 94, 3) := dk_182 0 94 (dk_at dksX0_rules_2 5 rfl rfl)
theorem dX0_rules_55 : decode cX0_rules 55 = .ok (.iload_n 2, 1) := dk_28 (dk_at dksX0_rules_2 8 rfl rfl)
theorem dX0_rules_56 : decode cX0_rules 56 = .ok (.ifCond .ne 7, 3) := dk_154 0 7 (dk_at dksX0_rules_2 9 rfl rfl)
theorem dX0_rules_59 : decode cX0_rules 59 = .ok (.iload_n 3, 1) := dk_29 (dk_at dksX0_rules_2 12 rfl rfl)
theorem dX0_rules_60 : decode cX0_rules 60 = .ok (.goto 19, 3) := dk_167 0 19 (dk_at dksX0_rules_2 13 rfl rfl)
theorem dX0_rules_63 : decode cX0_rules 63 = .ok (.iload_n 2, 1) := dk_28 (dk_at dksX0_rules_2 16 rfl rfl)
theorem dX0_rules_64 : decode cX0_rules 64 = .ok (.iconst 1, 1) := dk_4 (dk_at dksX0_rules_2 17 rfl rfl)
theorem dX0_rules_65 : decode cX0_rules 65 = .ok (.if_icmp .ne 10, 3) := dk_160 0 10 (dk_at dksX0_rules_2 18 rfl rfl)
theorem dX0_rules_68 : decode cX0_rules 68 = .ok (.aload_n 0, 1) := dk_42 (dk_at dksX0_rules_2 21 rfl rfl)
theorem dX0_rules_69 : decode cX0_rules 69 = .ok (.invokevirtual 266, 3) := dk_182 1 10 (dk_at dksX0_rules_3 0 rfl rfl)
theorem dX0_rules_72 : decode cX0_rules 72 = .ok (.goto 7, 3) := dk_167 0 7 (dk_at dksX0_rules_3 3 rfl rfl)
theorem dX0_rules_75 : decode cX0_rules 75 = .ok (.aload_n 0, 1) := dk_42 (dk_at dksX0_rules_3 6 rfl rfl)
theorem dX0_rules_76 : decode cX0_rules 76 = .ok (.invokevirtual 269, 3) := dk_182 1 13 (dk_at dksX0_rules_3 7 rfl rfl)
theorem dX0_rules_79 : decode cX0_rules 79 = .ok (.ireturn, 1) := dk_172 (dk_at dksX0_rules_3 10 rfl rfl)
theorem dX0_rules_80 : decode cX0_rules 80 = .ok (.astore_n 3, 1) := dk_78 (dk_at dksX0_rules_3 11 rfl rfl)
theorem dX0_rules_81 : decode cX0_rules 81 = .ok (.aload_n 0, 1) := dk_42 (dk_at dksX0_rules_3 12 rfl rfl)
theorem dX0_rules_82 : decode cX0_rules 82 = .ok (.aload_n 3, 1) := dk_45 (dk_at dksX0_rules_3 13 rfl rfl)
theorem dX0_rules_83 : decode cX0_rules 83 = .ok (.invokevirtual 131, 3) := dk_182 0 131 (dk_at dksX0_rules_3 14 rfl rfl)
theorem dX0_rules_86 : decode cX0_rules 86 = .ok (.ireturn, 1) := dk_172 (dk_at dksX0_rules_3 17 rfl rfl)
abbrev cX0_isSheet : ByteArray := prog_1_method_8_code
def yX0_isSheet : MethodName := ⟨RX0, "isSheet", "(I)Z"⟩
def dkwX0_isSheet_0 : List UInt8 := [26, 3, 6, 184, 0, 86, 172]
abbrev dktX0_isSheet_0 : List UInt8 := dkwX0_isSheet_0 ++ []
theorem dksX0_isSheet_0 : cX0_isSheet.data.toList.drop 0 = dktX0_isSheet_0 := by decide +kernel
theorem dX0_isSheet_0 : decode cX0_isSheet 0 = .ok (.iload_n 0, 1) := dk_26 (dk_at dksX0_isSheet_0 0 rfl rfl)
theorem dX0_isSheet_1 : decode cX0_isSheet 1 = .ok (.iconst 0, 1) := dk_3 (dk_at dksX0_isSheet_0 1 rfl rfl)
theorem dX0_isSheet_2 : decode cX0_isSheet 2 = .ok (.iconst 3, 1) := dk_6 (dk_at dksX0_isSheet_0 2 rfl rfl)
theorem dX0_isSheet_3 : decode cX0_isSheet 3 = .ok (.invokestatic 86, 3) := dk_184 0 86 (dk_at dksX0_isSheet_0 3 rfl rfl)
theorem dX0_isSheet_6 : decode cX0_isSheet 6 = .ok (.ireturn, 1) := dk_172 (dk_at dksX0_isSheet_0 6 rfl rfl)
abbrev cX0_sheetAt : ByteArray := prog_1_method_10_code
def yX0_sheetAt : MethodName := ⟨RX0, "sheetAt", "(I)LWellRefuses$Sheet;"⟩
def dkwX0_sheetAt_1 : List UInt8 := [180, 0, 69, 27, 50, 180, 0, 90, 192, 0, 98, 176]
abbrev dktX0_sheetAt_1 : List UInt8 := dkwX0_sheetAt_1 ++ []
def dkwX0_sheetAt_0 : List UInt8 := [42, 42, 180, 0, 69, 27, 50, 180, 0, 90, 198, 0, 7, 4, 167, 0, 4, 3, 5, 182, 0, 94, 42]
abbrev dktX0_sheetAt_0 : List UInt8 := dkwX0_sheetAt_0 ++ dktX0_sheetAt_1
theorem dksX0_sheetAt_0 : cX0_sheetAt.data.toList.drop 0 = dktX0_sheetAt_0 := by decide +kernel
theorem dksX0_sheetAt_1 : cX0_sheetAt.data.toList.drop 23 = dktX0_sheetAt_1 := dk_seg dksX0_sheetAt_0 23 rfl rfl
theorem dX0_sheetAt_0 : decode cX0_sheetAt 0 = .ok (.aload_n 0, 1) := dk_42 (dk_at dksX0_sheetAt_0 0 rfl rfl)
theorem dX0_sheetAt_1 : decode cX0_sheetAt 1 = .ok (.aload_n 0, 1) := dk_42 (dk_at dksX0_sheetAt_0 1 rfl rfl)
theorem dX0_sheetAt_2 : decode cX0_sheetAt 2 = .ok (.getfield 69, 3) := dk_180 0 69 (dk_at dksX0_sheetAt_0 2 rfl rfl)
theorem dX0_sheetAt_5 : decode cX0_sheetAt 5 = .ok (.iload_n 1, 1) := dk_27 (dk_at dksX0_sheetAt_0 5 rfl rfl)
theorem dX0_sheetAt_6 : decode cX0_sheetAt 6 = .ok (.aaload, 1) := dk_50 (dk_at dksX0_sheetAt_0 6 rfl rfl)
theorem dX0_sheetAt_7 : decode cX0_sheetAt 7 = .ok (.getfield 90, 3) := dk_180 0 90 (dk_at dksX0_sheetAt_0 7 rfl rfl)
theorem dX0_sheetAt_10 : decode cX0_sheetAt 10 = .ok (.ifnull 7, 3) := dk_198 0 7 (dk_at dksX0_sheetAt_0 10 rfl rfl)
theorem dX0_sheetAt_13 : decode cX0_sheetAt 13 = .ok (.iconst 1, 1) := dk_4 (dk_at dksX0_sheetAt_0 13 rfl rfl)
theorem dX0_sheetAt_14 : decode cX0_sheetAt 14 = .ok (.goto 4, 3) := dk_167 0 4 (dk_at dksX0_sheetAt_0 14 rfl rfl)
theorem dX0_sheetAt_17 : decode cX0_sheetAt 17 = .ok (.iconst 0, 1) := dk_3 (dk_at dksX0_sheetAt_0 17 rfl rfl)
theorem dX0_sheetAt_18 : decode cX0_sheetAt 18 = .ok (.iconst 2, 1) := dk_5 (dk_at dksX0_sheetAt_0 18 rfl rfl)
theorem dX0_sheetAt_19 : decode cX0_sheetAt 19 = .ok (.invokevirtual 94, 3) := dk_182 0 94 (dk_at dksX0_sheetAt_0 19 rfl rfl)
theorem dX0_sheetAt_22 : decode cX0_sheetAt 22 = .ok (.aload_n 0, 1) := dk_42 (dk_at dksX0_sheetAt_0 22 rfl rfl)
theorem dX0_sheetAt_23 : decode cX0_sheetAt 23 = .ok (.getfield 69, 3) := dk_180 0 69 (dk_at dksX0_sheetAt_1 0 rfl rfl)
theorem dX0_sheetAt_26 : decode cX0_sheetAt 26 = .ok (.iload_n 1, 1) := dk_27 (dk_at dksX0_sheetAt_1 3 rfl rfl)
theorem dX0_sheetAt_27 : decode cX0_sheetAt 27 = .ok (.aaload, 1) := dk_50 (dk_at dksX0_sheetAt_1 4 rfl rfl)
theorem dX0_sheetAt_28 : decode cX0_sheetAt 28 = .ok (.getfield 90, 3) := dk_180 0 90 (dk_at dksX0_sheetAt_1 5 rfl rfl)
theorem dX0_sheetAt_31 : decode cX0_sheetAt 31 = .ok (.checkcast 98, 3) := dk_192 0 98 (dk_at dksX0_sheetAt_1 8 rfl rfl)
theorem dX0_sheetAt_34 : decode cX0_sheetAt 34 = .ok (.areturn, 1) := dk_176 (dk_at dksX0_sheetAt_1 11 rfl rfl)
abbrev cX0_findRules : ByteArray := prog_1_method_34_code
def yX0_findRules : MethodName := ⟨RX0, "findRules", "(LWellRefuses$Sheet;)I"⟩
def dkwX0_findRules_2 : List UInt8 := [28, 172]
abbrev dktX0_findRules_2 : List UInt8 := dkwX0_findRules_2 ++ []
def dkwX0_findRules_1 : List UInt8 := [84, 28, 42, 180, 0, 73, 29, 51, 153, 0, 7, 4, 167, 0, 4, 3, 96, 61, 132, 3, 1, 167, 255, 215]
abbrev dktX0_findRules_1 : List UInt8 := dkwX0_findRules_1 ++ dktX0_findRules_2
def dkwX0_findRules_0 : List UInt8 := [3, 61, 3, 62, 29, 42, 180, 0, 73, 190, 162, 0, 38, 42, 180, 0, 73, 29, 42, 43, 29, 182, 0, 243]
abbrev dktX0_findRules_0 : List UInt8 := dkwX0_findRules_0 ++ dktX0_findRules_1
theorem dksX0_findRules_0 : cX0_findRules.data.toList.drop 0 = dktX0_findRules_0 := by decide +kernel
theorem dksX0_findRules_1 : cX0_findRules.data.toList.drop 24 = dktX0_findRules_1 := dk_seg dksX0_findRules_0 24 rfl rfl
theorem dksX0_findRules_2 : cX0_findRules.data.toList.drop 48 = dktX0_findRules_2 := dk_seg dksX0_findRules_1 24 rfl rfl
theorem dX0_findRules_0 : decode cX0_findRules 0 = .ok (.iconst 0, 1) := dk_3 (dk_at dksX0_findRules_0 0 rfl rfl)
theorem dX0_findRules_1 : decode cX0_findRules 1 = .ok (.istore_n 2, 1) := dk_61 (dk_at dksX0_findRules_0 1 rfl rfl)
theorem dX0_findRules_2 : decode cX0_findRules 2 = .ok (.iconst 0, 1) := dk_3 (dk_at dksX0_findRules_0 2 rfl rfl)
theorem dX0_findRules_3 : decode cX0_findRules 3 = .ok (.istore_n 3, 1) := dk_62 (dk_at dksX0_findRules_0 3 rfl rfl)
theorem dX0_findRules_4 : decode cX0_findRules 4 = .ok (.iload_n 3, 1) := dk_29 (dk_at dksX0_findRules_0 4 rfl rfl)
theorem dX0_findRules_5 : decode cX0_findRules 5 = .ok (.aload_n 0, 1) := dk_42 (dk_at dksX0_findRules_0 5 rfl rfl)
theorem dX0_findRules_6 : decode cX0_findRules 6 = .ok (.getfield 73, 3) := dk_180 0 73 (dk_at dksX0_findRules_0 6 rfl rfl)
theorem dX0_findRules_9 : decode cX0_findRules 9 = .ok (.arraylength, 1) := dk_190 (dk_at dksX0_findRules_0 9 rfl rfl)
theorem dX0_findRules_10 : decode cX0_findRules 10 = .ok (.if_icmp .ge 38, 3) := dk_162 0 38 (dk_at dksX0_findRules_0 10 rfl rfl)
theorem dX0_findRules_13 : decode cX0_findRules 13 = .ok (.aload_n 0, 1) := dk_42 (dk_at dksX0_findRules_0 13 rfl rfl)
theorem dX0_findRules_14 : decode cX0_findRules 14 = .ok (.getfield 73, 3) := dk_180 0 73 (dk_at dksX0_findRules_0 14 rfl rfl)
theorem dX0_findRules_17 : decode cX0_findRules 17 = .ok (.iload_n 3, 1) := dk_29 (dk_at dksX0_findRules_0 17 rfl rfl)
theorem dX0_findRules_18 : decode cX0_findRules 18 = .ok (.aload_n 0, 1) := dk_42 (dk_at dksX0_findRules_0 18 rfl rfl)
theorem dX0_findRules_19 : decode cX0_findRules 19 = .ok (.aload_n 1, 1) := dk_43 (dk_at dksX0_findRules_0 19 rfl rfl)
theorem dX0_findRules_20 : decode cX0_findRules 20 = .ok (.iload_n 3, 1) := dk_29 (dk_at dksX0_findRules_0 20 rfl rfl)
theorem dX0_findRules_21 : decode cX0_findRules 21 = .ok (.invokevirtual 243, 3) := dk_182 0 243 (dk_at dksX0_findRules_0 21 rfl rfl)
theorem dX0_findRules_24 : decode cX0_findRules 24 = .ok (.bastore, 1) := dk_84 (dk_at dksX0_findRules_1 0 rfl rfl)
theorem dX0_findRules_25 : decode cX0_findRules 25 = .ok (.iload_n 2, 1) := dk_28 (dk_at dksX0_findRules_1 1 rfl rfl)
theorem dX0_findRules_26 : decode cX0_findRules 26 = .ok (.aload_n 0, 1) := dk_42 (dk_at dksX0_findRules_1 2 rfl rfl)
theorem dX0_findRules_27 : decode cX0_findRules 27 = .ok (.getfield 73, 3) := dk_180 0 73 (dk_at dksX0_findRules_1 3 rfl rfl)
theorem dX0_findRules_30 : decode cX0_findRules 30 = .ok (.iload_n 3, 1) := dk_29 (dk_at dksX0_findRules_1 6 rfl rfl)
theorem dX0_findRules_31 : decode cX0_findRules 31 = .ok (.baload, 1) := dk_51 (dk_at dksX0_findRules_1 7 rfl rfl)
theorem dX0_findRules_32 : decode cX0_findRules 32 = .ok (.ifCond .eq 7, 3) := dk_153 0 7 (dk_at dksX0_findRules_1 8 rfl rfl)
theorem dX0_findRules_35 : decode cX0_findRules 35 = .ok (.iconst 1, 1) := dk_4 (dk_at dksX0_findRules_1 11 rfl rfl)
theorem dX0_findRules_36 : decode cX0_findRules 36 = .ok (.goto 4, 3) := dk_167 0 4 (dk_at dksX0_findRules_1 12 rfl rfl)
theorem dX0_findRules_39 : decode cX0_findRules 39 = .ok (.iconst 0, 1) := dk_3 (dk_at dksX0_findRules_1 15 rfl rfl)
theorem dX0_findRules_40 : decode cX0_findRules 40 = .ok (.iadd, 1) := dk_96 (dk_at dksX0_findRules_1 16 rfl rfl)
theorem dX0_findRules_41 : decode cX0_findRules 41 = .ok (.istore_n 2, 1) := dk_61 (dk_at dksX0_findRules_1 17 rfl rfl)
theorem dX0_findRules_42 : decode cX0_findRules 42 = .ok (.iinc 3 1, 3) := dk_132 3 1 (dk_at dksX0_findRules_1 18 rfl rfl)
theorem dX0_findRules_45 : decode cX0_findRules 45 = .ok (.goto (-41), 3) := dk_167 255 215 (dk_at dksX0_findRules_1 21 rfl rfl)
theorem dX0_findRules_48 : decode cX0_findRules 48 = .ok (.iload_n 2, 1) := dk_28 (dk_at dksX0_findRules_2 0 rfl rfl)
theorem dX0_findRules_49 : decode cX0_findRules 49 = .ok (.ireturn, 1) := dk_172 (dk_at dksX0_findRules_2 1 rfl rfl)
abbrev cX0_doesFit : ByteArray := prog_1_method_33_code
def yX0_doesFit : MethodName := ⟨RX0, "doesFit", "(LWellRefuses$Sheet;I)Z"⟩
def dkwX0_doesFit_3 : List UInt8 := [4, 167, 0, 4, 3, 160, 0, 7, 4, 167, 0, 4, 3, 62, 132, 4, 1, 167, 255, 176, 29, 172]
abbrev dktX0_doesFit_3 : List UInt8 := dkwX0_doesFit_3 ++ []
def dkwX0_doesFit_2 : List UInt8 := [28, 42, 180, 0, 46, 180, 0, 115, 21, 4, 46, 184, 0, 240, 43, 21, 4, 182, 0, 237, 4, 160, 0, 7]
abbrev dktX0_doesFit_2 : List UInt8 := dkwX0_doesFit_2 ++ dktX0_doesFit_3
def dkwX0_doesFit_1 : List UInt8 := [182, 0, 234, 162, 0, 65, 29, 153, 0, 61, 43, 21, 4, 182, 0, 237, 3, 4, 184, 0, 86, 153, 0, 35]
abbrev dktX0_doesFit_1 : List UInt8 := dkwX0_doesFit_1 ++ dktX0_doesFit_2
def dkwX0_doesFit_0 : List UInt8 := [28, 184, 0, 231, 62, 3, 54, 4, 21, 4, 42, 180, 0, 46, 180, 0, 100, 162, 0, 74, 21, 4, 43]
abbrev dktX0_doesFit_0 : List UInt8 := dkwX0_doesFit_0 ++ dktX0_doesFit_1
theorem dksX0_doesFit_0 : cX0_doesFit.data.toList.drop 0 = dktX0_doesFit_0 := by decide +kernel
theorem dksX0_doesFit_1 : cX0_doesFit.data.toList.drop 23 = dktX0_doesFit_1 := dk_seg dksX0_doesFit_0 23 rfl rfl
theorem dksX0_doesFit_2 : cX0_doesFit.data.toList.drop 47 = dktX0_doesFit_2 := dk_seg dksX0_doesFit_1 24 rfl rfl
theorem dksX0_doesFit_3 : cX0_doesFit.data.toList.drop 71 = dktX0_doesFit_3 := dk_seg dksX0_doesFit_2 24 rfl rfl
theorem dX0_doesFit_0 : decode cX0_doesFit 0 = .ok (.iload_n 2, 1) := dk_28 (dk_at dksX0_doesFit_0 0 rfl rfl)
theorem dX0_doesFit_1 : decode cX0_doesFit 1 = .ok (.invokestatic 231, 3) := dk_184 0 231 (dk_at dksX0_doesFit_0 1 rfl rfl)
theorem dX0_doesFit_4 : decode cX0_doesFit 4 = .ok (.istore_n 3, 1) := dk_62 (dk_at dksX0_doesFit_0 4 rfl rfl)
theorem dX0_doesFit_5 : decode cX0_doesFit 5 = .ok (.iconst 0, 1) := dk_3 (dk_at dksX0_doesFit_0 5 rfl rfl)
theorem dX0_doesFit_6 : decode cX0_doesFit 6 = .ok (.istore 4, 2) := dk_54 4 (dk_at dksX0_doesFit_0 6 rfl rfl)
theorem dX0_doesFit_8 : decode cX0_doesFit 8 = .ok (.iload 4, 2) := dk_21 4 (dk_at dksX0_doesFit_0 8 rfl rfl)
theorem dX0_doesFit_10 : decode cX0_doesFit 10 = .ok (.aload_n 0, 1) := dk_42 (dk_at dksX0_doesFit_0 10 rfl rfl)
theorem dX0_doesFit_11 : decode cX0_doesFit 11 = .ok (.getfield 46, 3) := dk_180 0 46 (dk_at dksX0_doesFit_0 11 rfl rfl)
theorem dX0_doesFit_14 : decode cX0_doesFit 14 = .ok (.getfield 100, 3) := dk_180 0 100 (dk_at dksX0_doesFit_0 14 rfl rfl)
theorem dX0_doesFit_17 : decode cX0_doesFit 17 = .ok (.if_icmp .ge 74, 3) := dk_162 0 74 (dk_at dksX0_doesFit_0 17 rfl rfl)
theorem dX0_doesFit_20 : decode cX0_doesFit 20 = .ok (.iload 4, 2) := dk_21 4 (dk_at dksX0_doesFit_0 20 rfl rfl)
theorem dX0_doesFit_22 : decode cX0_doesFit 22 = .ok (.aload_n 1, 1) := dk_43 (dk_at dksX0_doesFit_0 22 rfl rfl)
theorem dX0_doesFit_23 : decode cX0_doesFit 23 = .ok (.invokevirtual 234, 3) := dk_182 0 234 (dk_at dksX0_doesFit_1 0 rfl rfl)
theorem dX0_doesFit_26 : decode cX0_doesFit 26 = .ok (.if_icmp .ge 65, 3) := dk_162 0 65 (dk_at dksX0_doesFit_1 3 rfl rfl)
theorem dX0_doesFit_29 : decode cX0_doesFit 29 = .ok (.iload_n 3, 1) := dk_29 (dk_at dksX0_doesFit_1 6 rfl rfl)
theorem dX0_doesFit_30 : decode cX0_doesFit 30 = .ok (.ifCond .eq 61, 3) := dk_153 0 61 (dk_at dksX0_doesFit_1 7 rfl rfl)
theorem dX0_doesFit_33 : decode cX0_doesFit 33 = .ok (.aload_n 1, 1) := dk_43 (dk_at dksX0_doesFit_1 10 rfl rfl)
theorem dX0_doesFit_34 : decode cX0_doesFit 34 = .ok (.iload 4, 2) := dk_21 4 (dk_at dksX0_doesFit_1 11 rfl rfl)
theorem dX0_doesFit_36 : decode cX0_doesFit 36 = .ok (.invokevirtual 237, 3) := dk_182 0 237 (dk_at dksX0_doesFit_1 13 rfl rfl)
theorem dX0_doesFit_39 : decode cX0_doesFit 39 = .ok (.iconst 0, 1) := dk_3 (dk_at dksX0_doesFit_1 16 rfl rfl)
theorem dX0_doesFit_40 : decode cX0_doesFit 40 = .ok (.iconst 1, 1) := dk_4 (dk_at dksX0_doesFit_1 17 rfl rfl)
theorem dX0_doesFit_41 : decode cX0_doesFit 41 = .ok (.invokestatic 86, 3) := dk_184 0 86 (dk_at dksX0_doesFit_1 18 rfl rfl)
theorem dX0_doesFit_44 : decode cX0_doesFit 44 = .ok (.ifCond .eq 35, 3) := dk_153 0 35 (dk_at dksX0_doesFit_1 21 rfl rfl)
theorem dX0_doesFit_47 : decode cX0_doesFit 47 = .ok (.iload_n 2, 1) := dk_28 (dk_at dksX0_doesFit_2 0 rfl rfl)
theorem dX0_doesFit_48 : decode cX0_doesFit 48 = .ok (.aload_n 0, 1) := dk_42 (dk_at dksX0_doesFit_2 1 rfl rfl)
theorem dX0_doesFit_49 : decode cX0_doesFit 49 = .ok (.getfield 46, 3) := dk_180 0 46 (dk_at dksX0_doesFit_2 2 rfl rfl)
theorem dX0_doesFit_52 : decode cX0_doesFit 52 = .ok (.getfield 115, 3) := dk_180 0 115 (dk_at dksX0_doesFit_2 5 rfl rfl)
theorem dX0_doesFit_55 : decode cX0_doesFit 55 = .ok (.iload 4, 2) := dk_21 4 (dk_at dksX0_doesFit_2 8 rfl rfl)
theorem dX0_doesFit_57 : decode cX0_doesFit 57 = .ok (.iaload, 1) := dk_46 (dk_at dksX0_doesFit_2 10 rfl rfl)
theorem dX0_doesFit_58 : decode cX0_doesFit 58 = .ok (.invokestatic 240, 3) := dk_184 0 240 (dk_at dksX0_doesFit_2 11 rfl rfl)
theorem dX0_doesFit_61 : decode cX0_doesFit 61 = .ok (.aload_n 1, 1) := dk_43 (dk_at dksX0_doesFit_2 14 rfl rfl)
theorem dX0_doesFit_62 : decode cX0_doesFit 62 = .ok (.iload 4, 2) := dk_21 4 (dk_at dksX0_doesFit_2 15 rfl rfl)
theorem dX0_doesFit_64 : decode cX0_doesFit 64 = .ok (.invokevirtual 237, 3) := dk_182 0 237 (dk_at dksX0_doesFit_2 17 rfl rfl)
theorem dX0_doesFit_67 : decode cX0_doesFit 67 = .ok (.iconst 1, 1) := dk_4 (dk_at dksX0_doesFit_2 20 rfl rfl)
theorem dX0_doesFit_68 : decode cX0_doesFit 68 = .ok (.if_icmp .ne 7, 3) := dk_160 0 7 (dk_at dksX0_doesFit_2 21 rfl rfl)
theorem dX0_doesFit_71 : decode cX0_doesFit 71 = .ok (.iconst 1, 1) := dk_4 (dk_at dksX0_doesFit_3 0 rfl rfl)
theorem dX0_doesFit_72 : decode cX0_doesFit 72 = .ok (.goto 4, 3) := dk_167 0 4 (dk_at dksX0_doesFit_3 1 rfl rfl)
theorem dX0_doesFit_75 : decode cX0_doesFit 75 = .ok (.iconst 0, 1) := dk_3 (dk_at dksX0_doesFit_3 4 rfl rfl)
theorem dX0_doesFit_76 : decode cX0_doesFit 76 = .ok (.if_icmp .ne 7, 3) := dk_160 0 7 (dk_at dksX0_doesFit_3 5 rfl rfl)
theorem dX0_doesFit_79 : decode cX0_doesFit 79 = .ok (.iconst 1, 1) := dk_4 (dk_at dksX0_doesFit_3 8 rfl rfl)
theorem dX0_doesFit_80 : decode cX0_doesFit 80 = .ok (.goto 4, 3) := dk_167 0 4 (dk_at dksX0_doesFit_3 9 rfl rfl)
theorem dX0_doesFit_83 : decode cX0_doesFit 83 = .ok (.iconst 0, 1) := dk_3 (dk_at dksX0_doesFit_3 12 rfl rfl)
theorem dX0_doesFit_84 : decode cX0_doesFit 84 = .ok (.istore_n 3, 1) := dk_62 (dk_at dksX0_doesFit_3 13 rfl rfl)
theorem dX0_doesFit_85 : decode cX0_doesFit 85 = .ok (.iinc 4 1, 3) := dk_132 4 1 (dk_at dksX0_doesFit_3 14 rfl rfl)
theorem dX0_doesFit_88 : decode cX0_doesFit 88 = .ok (.goto (-80), 3) := dk_167 255 176 (dk_at dksX0_doesFit_3 17 rfl rfl)
theorem dX0_doesFit_91 : decode cX0_doesFit 91 = .ok (.iload_n 3, 1) := dk_29 (dk_at dksX0_doesFit_3 20 rfl rfl)
theorem dX0_doesFit_92 : decode cX0_doesFit 92 = .ok (.ireturn, 1) := dk_172 (dk_at dksX0_doesFit_3 21 rfl rfl)
abbrev cX0_isRule : ByteArray := prog_1_method_31_code
def yX0_isRule : MethodName := ⟨RX0, "isRule", "(I)Z"⟩
def dkwX0_isRule_0 : List UInt8 := [26, 16, 16, 112, 26, 16, 16, 108, 2, 130, 126, 154, 0, 7, 4, 167, 0, 4, 3, 172]
abbrev dktX0_isRule_0 : List UInt8 := dkwX0_isRule_0 ++ []
theorem dksX0_isRule_0 : cX0_isRule.data.toList.drop 0 = dktX0_isRule_0 := by decide +kernel
theorem dX0_isRule_0 : decode cX0_isRule 0 = .ok (.iload_n 0, 1) := dk_26 (dk_at dksX0_isRule_0 0 rfl rfl)
theorem dX0_isRule_1 : decode cX0_isRule 1 = .ok (.bipush 16, 2) := dk_16 16 (dk_at dksX0_isRule_0 1 rfl rfl)
theorem dX0_isRule_3 : decode cX0_isRule 3 = .ok (.irem, 1) := dk_112 (dk_at dksX0_isRule_0 3 rfl rfl)
theorem dX0_isRule_4 : decode cX0_isRule 4 = .ok (.iload_n 0, 1) := dk_26 (dk_at dksX0_isRule_0 4 rfl rfl)
theorem dX0_isRule_5 : decode cX0_isRule 5 = .ok (.bipush 16, 2) := dk_16 16 (dk_at dksX0_isRule_0 5 rfl rfl)
theorem dX0_isRule_7 : decode cX0_isRule 7 = .ok (.idiv, 1) := dk_108 (dk_at dksX0_isRule_0 7 rfl rfl)
theorem dX0_isRule_8 : decode cX0_isRule 8 = .ok (.iconst (-1), 1) := dk_2 (dk_at dksX0_isRule_0 8 rfl rfl)
theorem dX0_isRule_9 : decode cX0_isRule 9 = .ok (.ixor, 1) := dk_130 (dk_at dksX0_isRule_0 9 rfl rfl)
theorem dX0_isRule_10 : decode cX0_isRule 10 = .ok (.iand, 1) := dk_126 (dk_at dksX0_isRule_0 10 rfl rfl)
theorem dX0_isRule_11 : decode cX0_isRule 11 = .ok (.ifCond .ne 7, 3) := dk_154 0 7 (dk_at dksX0_isRule_0 11 rfl rfl)
theorem dX0_isRule_14 : decode cX0_isRule 14 = .ok (.iconst 1, 1) := dk_4 (dk_at dksX0_isRule_0 14 rfl rfl)
theorem dX0_isRule_15 : decode cX0_isRule 15 = .ok (.goto 4, 3) := dk_167 0 4 (dk_at dksX0_isRule_0 15 rfl rfl)
theorem dX0_isRule_18 : decode cX0_isRule 18 = .ok (.iconst 0, 1) := dk_3 (dk_at dksX0_isRule_0 18 rfl rfl)
theorem dX0_isRule_19 : decode cX0_isRule 19 = .ok (.ireturn, 1) := dk_172 (dk_at dksX0_isRule_0 19 rfl rfl)
abbrev cX0_doesGive : ByteArray := prog_1_method_32_code
def yX0_doesGive : MethodName := ⟨RX0, "doesGive", "(II)Z"⟩
def dkwX0_doesGive_0 : List UInt8 := [27, 26, 16, 16, 108, 126, 26, 16, 16, 112, 160, 0, 7, 4, 167, 0, 4, 3, 172]
abbrev dktX0_doesGive_0 : List UInt8 := dkwX0_doesGive_0 ++ []
theorem dksX0_doesGive_0 : cX0_doesGive.data.toList.drop 0 = dktX0_doesGive_0 := by decide +kernel
theorem dX0_doesGive_0 : decode cX0_doesGive 0 = .ok (.iload_n 1, 1) := dk_27 (dk_at dksX0_doesGive_0 0 rfl rfl)
theorem dX0_doesGive_1 : decode cX0_doesGive 1 = .ok (.iload_n 0, 1) := dk_26 (dk_at dksX0_doesGive_0 1 rfl rfl)
theorem dX0_doesGive_2 : decode cX0_doesGive 2 = .ok (.bipush 16, 2) := dk_16 16 (dk_at dksX0_doesGive_0 2 rfl rfl)
theorem dX0_doesGive_4 : decode cX0_doesGive 4 = .ok (.idiv, 1) := dk_108 (dk_at dksX0_doesGive_0 4 rfl rfl)
theorem dX0_doesGive_5 : decode cX0_doesGive 5 = .ok (.iand, 1) := dk_126 (dk_at dksX0_doesGive_0 5 rfl rfl)
theorem dX0_doesGive_6 : decode cX0_doesGive 6 = .ok (.iload_n 0, 1) := dk_26 (dk_at dksX0_doesGive_0 6 rfl rfl)
theorem dX0_doesGive_7 : decode cX0_doesGive 7 = .ok (.bipush 16, 2) := dk_16 16 (dk_at dksX0_doesGive_0 7 rfl rfl)
theorem dX0_doesGive_9 : decode cX0_doesGive 9 = .ok (.irem, 1) := dk_112 (dk_at dksX0_doesGive_0 9 rfl rfl)
theorem dX0_doesGive_10 : decode cX0_doesGive 10 = .ok (.if_icmp .ne 7, 3) := dk_160 0 7 (dk_at dksX0_doesGive_0 10 rfl rfl)
theorem dX0_doesGive_13 : decode cX0_doesGive 13 = .ok (.iconst 1, 1) := dk_4 (dk_at dksX0_doesGive_0 13 rfl rfl)
theorem dX0_doesGive_14 : decode cX0_doesGive 14 = .ok (.goto 4, 3) := dk_167 0 4 (dk_at dksX0_doesGive_0 14 rfl rfl)
theorem dX0_doesGive_17 : decode cX0_doesGive 17 = .ok (.iconst 0, 1) := dk_3 (dk_at dksX0_doesGive_0 17 rfl rfl)
theorem dX0_doesGive_18 : decode cX0_doesGive 18 = .ok (.ireturn, 1) := dk_172 (dk_at dksX0_doesGive_0 18 rfl rfl)
abbrev cX0_leastRule : ByteArray := prog_1_method_35_code
def yX0_leastRule : MethodName := ⟨RX0, "leastRule", "()I"⟩
def dkwX0_leastRule_0 : List UInt8 := [3, 60, 42, 180, 0, 73, 27, 51, 154, 0, 9, 132, 1, 1, 167, 255, 244, 27, 172]
abbrev dktX0_leastRule_0 : List UInt8 := dkwX0_leastRule_0 ++ []
theorem dksX0_leastRule_0 : cX0_leastRule.data.toList.drop 0 = dktX0_leastRule_0 := by decide +kernel
theorem dX0_leastRule_0 : decode cX0_leastRule 0 = .ok (.iconst 0, 1) := dk_3 (dk_at dksX0_leastRule_0 0 rfl rfl)
theorem dX0_leastRule_1 : decode cX0_leastRule 1 = .ok (.istore_n 1, 1) := dk_60 (dk_at dksX0_leastRule_0 1 rfl rfl)
theorem dX0_leastRule_2 : decode cX0_leastRule 2 = .ok (.aload_n 0, 1) := dk_42 (dk_at dksX0_leastRule_0 2 rfl rfl)
theorem dX0_leastRule_3 : decode cX0_leastRule 3 = .ok (.getfield 73, 3) := dk_180 0 73 (dk_at dksX0_leastRule_0 3 rfl rfl)
theorem dX0_leastRule_6 : decode cX0_leastRule 6 = .ok (.iload_n 1, 1) := dk_27 (dk_at dksX0_leastRule_0 6 rfl rfl)
theorem dX0_leastRule_7 : decode cX0_leastRule 7 = .ok (.baload, 1) := dk_51 (dk_at dksX0_leastRule_0 7 rfl rfl)
theorem dX0_leastRule_8 : decode cX0_leastRule 8 = .ok (.ifCond .ne 9, 3) := dk_154 0 9 (dk_at dksX0_leastRule_0 8 rfl rfl)
theorem dX0_leastRule_11 : decode cX0_leastRule 11 = .ok (.iinc 1 1, 3) := dk_132 1 1 (dk_at dksX0_leastRule_0 11 rfl rfl)
theorem dX0_leastRule_14 : decode cX0_leastRule 14 = .ok (.goto (-12), 3) := dk_167 255 244 (dk_at dksX0_leastRule_0 14 rfl rfl)
theorem dX0_leastRule_17 : decode cX0_leastRule 17 = .ok (.iload_n 1, 1) := dk_27 (dk_at dksX0_leastRule_0 17 rfl rfl)
theorem dX0_leastRule_18 : decode cX0_leastRule 18 = .ok (.ireturn, 1) := dk_172 (dk_at dksX0_leastRule_0 18 rfl rfl)
abbrev cX0_toSend : ByteArray := prog_1_method_37_code
def yX0_toSend : MethodName := ⟨RX0, "toSend", "()I"⟩
def dkwX0_toSend_1 : List UInt8 := [167, 0, 4, 27, 60, 132, 2, 1, 167, 255, 228, 27, 172]
abbrev dktX0_toSend_1 : List UInt8 := dkwX0_toSend_1 ++ []
def dkwX0_toSend_0 : List UInt8 := [3, 60, 4, 61, 28, 16, 16, 162, 0, 28, 42, 28, 182, 0, 252, 42, 27, 182, 0, 252, 162, 0, 7, 28]
abbrev dktX0_toSend_0 : List UInt8 := dkwX0_toSend_0 ++ dktX0_toSend_1
theorem dksX0_toSend_0 : cX0_toSend.data.toList.drop 0 = dktX0_toSend_0 := by decide +kernel
theorem dksX0_toSend_1 : cX0_toSend.data.toList.drop 24 = dktX0_toSend_1 := dk_seg dksX0_toSend_0 24 rfl rfl
theorem dX0_toSend_0 : decode cX0_toSend 0 = .ok (.iconst 0, 1) := dk_3 (dk_at dksX0_toSend_0 0 rfl rfl)
theorem dX0_toSend_1 : decode cX0_toSend 1 = .ok (.istore_n 1, 1) := dk_60 (dk_at dksX0_toSend_0 1 rfl rfl)
theorem dX0_toSend_2 : decode cX0_toSend 2 = .ok (.iconst 1, 1) := dk_4 (dk_at dksX0_toSend_0 2 rfl rfl)
theorem dX0_toSend_3 : decode cX0_toSend 3 = .ok (.istore_n 2, 1) := dk_61 (dk_at dksX0_toSend_0 3 rfl rfl)
theorem dX0_toSend_4 : decode cX0_toSend 4 = .ok (.iload_n 2, 1) := dk_28 (dk_at dksX0_toSend_0 4 rfl rfl)
theorem dX0_toSend_5 : decode cX0_toSend 5 = .ok (.bipush 16, 2) := dk_16 16 (dk_at dksX0_toSend_0 5 rfl rfl)
theorem dX0_toSend_7 : decode cX0_toSend 7 = .ok (.if_icmp .ge 28, 3) := dk_162 0 28 (dk_at dksX0_toSend_0 7 rfl rfl)
theorem dX0_toSend_10 : decode cX0_toSend 10 = .ok (.aload_n 0, 1) := dk_42 (dk_at dksX0_toSend_0 10 rfl rfl)
theorem dX0_toSend_11 : decode cX0_toSend 11 = .ok (.iload_n 2, 1) := dk_28 (dk_at dksX0_toSend_0 11 rfl rfl)
theorem dX0_toSend_12 : decode cX0_toSend 12 = .ok (.invokevirtual 252, 3) := dk_182 0 252 (dk_at dksX0_toSend_0 12 rfl rfl)
theorem dX0_toSend_15 : decode cX0_toSend 15 = .ok (.aload_n 0, 1) := dk_42 (dk_at dksX0_toSend_0 15 rfl rfl)
theorem dX0_toSend_16 : decode cX0_toSend 16 = .ok (.iload_n 1, 1) := dk_27 (dk_at dksX0_toSend_0 16 rfl rfl)
theorem dX0_toSend_17 : decode cX0_toSend 17 = .ok (.invokevirtual 252, 3) := dk_182 0 252 (dk_at dksX0_toSend_0 17 rfl rfl)
theorem dX0_toSend_20 : decode cX0_toSend 20 = .ok (.if_icmp .ge 7, 3) := dk_162 0 7 (dk_at dksX0_toSend_0 20 rfl rfl)
theorem dX0_toSend_23 : decode cX0_toSend 23 = .ok (.iload_n 2, 1) := dk_28 (dk_at dksX0_toSend_0 23 rfl rfl)
theorem dX0_toSend_24 : decode cX0_toSend 24 = .ok (.goto 4, 3) := dk_167 0 4 (dk_at dksX0_toSend_1 0 rfl rfl)
theorem dX0_toSend_27 : decode cX0_toSend 27 = .ok (.iload_n 1, 1) := dk_27 (dk_at dksX0_toSend_1 3 rfl rfl)
theorem dX0_toSend_28 : decode cX0_toSend 28 = .ok (.istore_n 1, 1) := dk_60 (dk_at dksX0_toSend_1 4 rfl rfl)
theorem dX0_toSend_29 : decode cX0_toSend 29 = .ok (.iinc 2 1, 3) := dk_132 2 1 (dk_at dksX0_toSend_1 5 rfl rfl)
theorem dX0_toSend_32 : decode cX0_toSend 32 = .ok (.goto (-28), 3) := dk_167 255 228 (dk_at dksX0_toSend_1 8 rfl rfl)
theorem dX0_toSend_35 : decode cX0_toSend 35 = .ok (.iload_n 1, 1) := dk_27 (dk_at dksX0_toSend_1 11 rfl rfl)
theorem dX0_toSend_36 : decode cX0_toSend 36 = .ok (.ireturn, 1) := dk_172 (dk_at dksX0_toSend_1 12 rfl rfl)
abbrev cX0_unevenBy : ByteArray := prog_1_method_36_code
def yX0_unevenBy : MethodName := ⟨RX0, "unevenBy", "(I)I"⟩
def dkwX0_unevenBy_2 : List UInt8 := [28, 184, 0, 247, 172]
abbrev dktX0_unevenBy_2 : List UInt8 := dkwX0_unevenBy_2 ++ []
def dkwX0_unevenBy_1 : List UInt8 := [27, 184, 0, 240, 153, 0, 7, 4, 167, 0, 8, 2, 167, 0, 4, 3, 96, 61, 132, 3, 1, 167, 255, 215]
abbrev dktX0_unevenBy_1 : List UInt8 := dkwX0_unevenBy_1 ++ dktX0_unevenBy_2
def dkwX0_unevenBy_0 : List UInt8 := [3, 61, 3, 62, 29, 42, 180, 0, 73, 190, 162, 0, 38, 28, 42, 180, 0, 73, 29, 51, 153, 0, 19, 29]
abbrev dktX0_unevenBy_0 : List UInt8 := dkwX0_unevenBy_0 ++ dktX0_unevenBy_1
theorem dksX0_unevenBy_0 : cX0_unevenBy.data.toList.drop 0 = dktX0_unevenBy_0 := by decide +kernel
theorem dksX0_unevenBy_1 : cX0_unevenBy.data.toList.drop 24 = dktX0_unevenBy_1 := dk_seg dksX0_unevenBy_0 24 rfl rfl
theorem dksX0_unevenBy_2 : cX0_unevenBy.data.toList.drop 48 = dktX0_unevenBy_2 := dk_seg dksX0_unevenBy_1 24 rfl rfl
theorem dX0_unevenBy_0 : decode cX0_unevenBy 0 = .ok (.iconst 0, 1) := dk_3 (dk_at dksX0_unevenBy_0 0 rfl rfl)
theorem dX0_unevenBy_1 : decode cX0_unevenBy 1 = .ok (.istore_n 2, 1) := dk_61 (dk_at dksX0_unevenBy_0 1 rfl rfl)
theorem dX0_unevenBy_2 : decode cX0_unevenBy 2 = .ok (.iconst 0, 1) := dk_3 (dk_at dksX0_unevenBy_0 2 rfl rfl)
theorem dX0_unevenBy_3 : decode cX0_unevenBy 3 = .ok (.istore_n 3, 1) := dk_62 (dk_at dksX0_unevenBy_0 3 rfl rfl)
theorem dX0_unevenBy_4 : decode cX0_unevenBy 4 = .ok (.iload_n 3, 1) := dk_29 (dk_at dksX0_unevenBy_0 4 rfl rfl)
theorem dX0_unevenBy_5 : decode cX0_unevenBy 5 = .ok (.aload_n 0, 1) := dk_42 (dk_at dksX0_unevenBy_0 5 rfl rfl)
theorem dX0_unevenBy_6 : decode cX0_unevenBy 6 = .ok (.getfield 73, 3) := dk_180 0 73 (dk_at dksX0_unevenBy_0 6 rfl rfl)
theorem dX0_unevenBy_9 : decode cX0_unevenBy 9 = .ok (.arraylength, 1) := dk_190 (dk_at dksX0_unevenBy_0 9 rfl rfl)
theorem dX0_unevenBy_10 : decode cX0_unevenBy 10 = .ok (.if_icmp .ge 38, 3) := dk_162 0 38 (dk_at dksX0_unevenBy_0 10 rfl rfl)
theorem dX0_unevenBy_13 : decode cX0_unevenBy 13 = .ok (.iload_n 2, 1) := dk_28 (dk_at dksX0_unevenBy_0 13 rfl rfl)
theorem dX0_unevenBy_14 : decode cX0_unevenBy 14 = .ok (.aload_n 0, 1) := dk_42 (dk_at dksX0_unevenBy_0 14 rfl rfl)
theorem dX0_unevenBy_15 : decode cX0_unevenBy 15 = .ok (.getfield 73, 3) := dk_180 0 73 (dk_at dksX0_unevenBy_0 15 rfl rfl)
theorem dX0_unevenBy_18 : decode cX0_unevenBy 18 = .ok (.iload_n 3, 1) := dk_29 (dk_at dksX0_unevenBy_0 18 rfl rfl)
theorem dX0_unevenBy_19 : decode cX0_unevenBy 19 = .ok (.baload, 1) := dk_51 (dk_at dksX0_unevenBy_0 19 rfl rfl)
theorem dX0_unevenBy_20 : decode cX0_unevenBy 20 = .ok (.ifCond .eq 19, 3) := dk_153 0 19 (dk_at dksX0_unevenBy_0 20 rfl rfl)
theorem dX0_unevenBy_23 : decode cX0_unevenBy 23 = .ok (.iload_n 3, 1) := dk_29 (dk_at dksX0_unevenBy_0 23 rfl rfl)
theorem dX0_unevenBy_24 : decode cX0_unevenBy 24 = .ok (.iload_n 1, 1) := dk_27 (dk_at dksX0_unevenBy_1 0 rfl rfl)
theorem dX0_unevenBy_25 : decode cX0_unevenBy 25 = .ok (.invokestatic 240, 3) := dk_184 0 240 (dk_at dksX0_unevenBy_1 1 rfl rfl)
theorem dX0_unevenBy_28 : decode cX0_unevenBy 28 = .ok (.ifCond .eq 7, 3) := dk_153 0 7 (dk_at dksX0_unevenBy_1 4 rfl rfl)
theorem dX0_unevenBy_31 : decode cX0_unevenBy 31 = .ok (.iconst 1, 1) := dk_4 (dk_at dksX0_unevenBy_1 7 rfl rfl)
theorem dX0_unevenBy_32 : decode cX0_unevenBy 32 = .ok (.goto 8, 3) := dk_167 0 8 (dk_at dksX0_unevenBy_1 8 rfl rfl)
theorem dX0_unevenBy_35 : decode cX0_unevenBy 35 = .ok (.iconst (-1), 1) := dk_2 (dk_at dksX0_unevenBy_1 11 rfl rfl)
theorem dX0_unevenBy_36 : decode cX0_unevenBy 36 = .ok (.goto 4, 3) := dk_167 0 4 (dk_at dksX0_unevenBy_1 12 rfl rfl)
theorem dX0_unevenBy_39 : decode cX0_unevenBy 39 = .ok (.iconst 0, 1) := dk_3 (dk_at dksX0_unevenBy_1 15 rfl rfl)
theorem dX0_unevenBy_40 : decode cX0_unevenBy 40 = .ok (.iadd, 1) := dk_96 (dk_at dksX0_unevenBy_1 16 rfl rfl)
theorem dX0_unevenBy_41 : decode cX0_unevenBy 41 = .ok (.istore_n 2, 1) := dk_61 (dk_at dksX0_unevenBy_1 17 rfl rfl)
theorem dX0_unevenBy_42 : decode cX0_unevenBy 42 = .ok (.iinc 3 1, 3) := dk_132 3 1 (dk_at dksX0_unevenBy_1 18 rfl rfl)
theorem dX0_unevenBy_45 : decode cX0_unevenBy 45 = .ok (.goto (-41), 3) := dk_167 255 215 (dk_at dksX0_unevenBy_1 21 rfl rfl)
theorem dX0_unevenBy_48 : decode cX0_unevenBy 48 = .ok (.iload_n 2, 1) := dk_28 (dk_at dksX0_unevenBy_2 0 rfl rfl)
theorem dX0_unevenBy_49 : decode cX0_unevenBy 49 = .ok (.invokestatic 247, 3) := dk_184 0 247 (dk_at dksX0_unevenBy_2 1 rfl rfl)
theorem dX0_unevenBy_52 : decode cX0_unevenBy 52 = .ok (.ireturn, 1) := dk_172 (dk_at dksX0_unevenBy_2 4 rfl rfl)
abbrev cX0_turn : ByteArray := prog_1_method_40_code
def yX0_turn : MethodName := ⟨RX0, "turn", "(II)I"⟩
def dkwX0_turn_4 : List UInt8 := [45, 182, 0, 131, 172]
abbrev dktX0_turn_4 : List UInt8 := dkwX0_turn_4 ++ []
def dkwX0_turn_3 : List UInt8 := [184, 1, 22, 54, 4, 132, 5, 1, 167, 255, 214, 28, 154, 0, 7, 29, 167, 0, 5, 21, 4, 172, 78, 42]
abbrev dktX0_turn_3 : List UInt8 := dkwX0_turn_3 ++ dktX0_turn_4
def dkwX0_turn_2 : List UInt8 := [182, 1, 19, 54, 6, 21, 6, 21, 4, 164, 0, 8, 21, 5, 167, 0, 4, 29, 62, 21, 4, 21, 6]
abbrev dktX0_turn_2 : List UInt8 := dkwX0_turn_2 ++ dktX0_turn_3
def dkwX0_turn_1 : List UInt8 := [182, 0, 94, 3, 62, 2, 54, 4, 3, 54, 5, 21, 5, 16, 16, 162, 0, 41, 42, 27, 21, 5]
abbrev dktX0_turn_1 : List UInt8 := dkwX0_turn_1 ++ dktX0_turn_2
def dkwX0_turn_0 : List UInt8 := [42, 42, 27, 182, 0, 103, 153, 0, 16, 28, 3, 4, 184, 0, 86, 153, 0, 7, 4, 167, 0, 4, 3, 4]
abbrev dktX0_turn_0 : List UInt8 := dkwX0_turn_0 ++ dktX0_turn_1
theorem dksX0_turn_0 : cX0_turn.data.toList.drop 0 = dktX0_turn_0 := by decide +kernel
theorem dksX0_turn_1 : cX0_turn.data.toList.drop 24 = dktX0_turn_1 := dk_seg dksX0_turn_0 24 rfl rfl
theorem dksX0_turn_2 : cX0_turn.data.toList.drop 46 = dktX0_turn_2 := dk_seg dksX0_turn_1 22 rfl rfl
theorem dksX0_turn_3 : cX0_turn.data.toList.drop 69 = dktX0_turn_3 := dk_seg dksX0_turn_2 23 rfl rfl
theorem dksX0_turn_4 : cX0_turn.data.toList.drop 93 = dktX0_turn_4 := dk_seg dksX0_turn_3 24 rfl rfl
theorem dX0_turn_0 : decode cX0_turn 0 = .ok (.aload_n 0, 1) := dk_42 (dk_at dksX0_turn_0 0 rfl rfl)
theorem dX0_turn_1 : decode cX0_turn 1 = .ok (.aload_n 0, 1) := dk_42 (dk_at dksX0_turn_0 1 rfl rfl)
theorem dX0_turn_2 : decode cX0_turn 2 = .ok (.iload_n 1, 1) := dk_27 (dk_at dksX0_turn_0 2 rfl rfl)
theorem dX0_turn_3 : decode cX0_turn 3 = .ok (.invokevirtual 103, 3) := dk_182 0 103 (dk_at dksX0_turn_0 3 rfl rfl)
theorem dX0_turn_6 : decode cX0_turn 6 = .ok (.ifCond .eq 16, 3) := dk_153 0 16 (dk_at dksX0_turn_0 6 rfl rfl)
theorem dX0_turn_9 : decode cX0_turn 9 = .ok (.iload_n 2, 1) := dk_28 (dk_at dksX0_turn_0 9 rfl rfl)
theorem dX0_turn_10 : decode cX0_turn 10 = .ok (.iconst 0, 1) := dk_3 (dk_at dksX0_turn_0 10 rfl rfl)
theorem dX0_turn_11 : decode cX0_turn 11 = .ok (.iconst 1, 1) := dk_4 (dk_at dksX0_turn_0 11 rfl rfl)
theorem dX0_turn_12 : decode cX0_turn 12 = .ok (.invokestatic 86, 3) := dk_184 0 86 (dk_at dksX0_turn_0 12 rfl rfl)
theorem dX0_turn_15 : decode cX0_turn 15 = .ok (.ifCond .eq 7, 3) := dk_153 0 7 (dk_at dksX0_turn_0 15 rfl rfl)
theorem dX0_turn_18 : decode cX0_turn 18 = .ok (.iconst 1, 1) := dk_4 (dk_at dksX0_turn_0 18 rfl rfl)
theorem dX0_turn_19 : decode cX0_turn 19 = .ok (.goto 4, 3) := dk_167 0 4 (dk_at dksX0_turn_0 19 rfl rfl)
theorem dX0_turn_22 : decode cX0_turn 22 = .ok (.iconst 0, 1) := dk_3 (dk_at dksX0_turn_0 22 rfl rfl)
theorem dX0_turn_23 : decode cX0_turn 23 = .ok (.iconst 1, 1) := dk_4 (dk_at dksX0_turn_0 23 rfl rfl)
theorem dX0_turn_24 : decode cX0_turn 24 = .ok (.invokevirtual 94, 3) := dk_182 0 94 (dk_at dksX0_turn_1 0 rfl rfl)
theorem dX0_turn_27 : decode cX0_turn 27 = .ok (.iconst 0, 1) := dk_3 (dk_at dksX0_turn_1 3 rfl rfl)
theorem dX0_turn_28 : decode cX0_turn 28 = .ok (.istore_n 3, 1) := dk_62 (dk_at dksX0_turn_1 4 rfl rfl)
theorem dX0_turn_29 : decode cX0_turn 29 = .ok (.iconst (-1), 1) := dk_2 (dk_at dksX0_turn_1 5 rfl rfl)
theorem dX0_turn_30 : decode cX0_turn 30 = .ok (.istore 4, 2) := dk_54 4 (dk_at dksX0_turn_1 6 rfl rfl)
theorem dX0_turn_32 : decode cX0_turn 32 = .ok (.iconst 0, 1) := dk_3 (dk_at dksX0_turn_1 8 rfl rfl)
theorem dX0_turn_33 : decode cX0_turn 33 = .ok (.istore 5, 2) := dk_54 5 (dk_at dksX0_turn_1 9 rfl rfl)
theorem dX0_turn_35 : decode cX0_turn 35 = .ok (.iload 5, 2) := dk_21 5 (dk_at dksX0_turn_1 11 rfl rfl)
theorem dX0_turn_37 : decode cX0_turn 37 = .ok (.bipush 16, 2) := dk_16 16 (dk_at dksX0_turn_1 13 rfl rfl)
theorem dX0_turn_39 : decode cX0_turn 39 = .ok (.if_icmp .ge 41, 3) := dk_162 0 41 (dk_at dksX0_turn_1 15 rfl rfl)
theorem dX0_turn_42 : decode cX0_turn 42 = .ok (.aload_n 0, 1) := dk_42 (dk_at dksX0_turn_1 18 rfl rfl)
theorem dX0_turn_43 : decode cX0_turn 43 = .ok (.iload_n 1, 1) := dk_27 (dk_at dksX0_turn_1 19 rfl rfl)
theorem dX0_turn_44 : decode cX0_turn 44 = .ok (.iload 5, 2) := dk_21 5 (dk_at dksX0_turn_1 20 rfl rfl)
theorem dX0_turn_46 : decode cX0_turn 46 = .ok (.invokevirtual 275, 3) := dk_182 1 19 (dk_at dksX0_turn_2 0 rfl rfl)
theorem dX0_turn_49 : decode cX0_turn 49 = .ok (.istore 6, 2) := dk_54 6 (dk_at dksX0_turn_2 3 rfl rfl)
theorem dX0_turn_51 : decode cX0_turn 51 = .ok (.iload 6, 2) := dk_21 6 (dk_at dksX0_turn_2 5 rfl rfl)
theorem dX0_turn_53 : decode cX0_turn 53 = .ok (.iload 4, 2) := dk_21 4 (dk_at dksX0_turn_2 7 rfl rfl)
theorem dX0_turn_55 : decode cX0_turn 55 = .ok (.if_icmp .le 8, 3) := dk_164 0 8 (dk_at dksX0_turn_2 9 rfl rfl)
theorem dX0_turn_58 : decode cX0_turn 58 = .ok (.iload 5, 2) := dk_21 5 (dk_at dksX0_turn_2 12 rfl rfl)
theorem dX0_turn_60 : decode cX0_turn 60 = .ok (.goto 4, 3) := dk_167 0 4 (dk_at dksX0_turn_2 14 rfl rfl)
theorem dX0_turn_63 : decode cX0_turn 63 = .ok (.iload_n 3, 1) := dk_29 (dk_at dksX0_turn_2 17 rfl rfl)
theorem dX0_turn_64 : decode cX0_turn 64 = .ok (.istore_n 3, 1) := dk_62 (dk_at dksX0_turn_2 18 rfl rfl)
theorem dX0_turn_65 : decode cX0_turn 65 = .ok (.iload 4, 2) := dk_21 4 (dk_at dksX0_turn_2 19 rfl rfl)
theorem dX0_turn_67 : decode cX0_turn 67 = .ok (.iload 6, 2) := dk_21 6 (dk_at dksX0_turn_2 21 rfl rfl)
theorem dX0_turn_69 : decode cX0_turn 69 = .ok (.invokestatic 278, 3) := dk_184 1 22 (dk_at dksX0_turn_3 0 rfl rfl)
theorem dX0_turn_72 : decode cX0_turn 72 = .ok (.istore 4, 2) := dk_54 4 (dk_at dksX0_turn_3 3 rfl rfl)
theorem dX0_turn_74 : decode cX0_turn 74 = .ok (.iinc 5 1, 3) := dk_132 5 1 (dk_at dksX0_turn_3 5 rfl rfl)
theorem dX0_turn_77 : decode cX0_turn 77 = .ok (.goto (-42), 3) := dk_167 255 214 (dk_at dksX0_turn_3 8 rfl rfl)
theorem dX0_turn_80 : decode cX0_turn 80 = .ok (.iload_n 2, 1) := dk_28 (dk_at dksX0_turn_3 11 rfl rfl)
theorem dX0_turn_81 : decode cX0_turn 81 = .ok (.ifCond .ne 7, 3) := dk_154 0 7 (dk_at dksX0_turn_3 12 rfl rfl)
theorem dX0_turn_84 : decode cX0_turn 84 = .ok (.iload_n 3, 1) := dk_29 (dk_at dksX0_turn_3 15 rfl rfl)
theorem dX0_turn_85 : decode cX0_turn 85 = .ok (.goto 5, 3) := dk_167 0 5 (dk_at dksX0_turn_3 16 rfl rfl)
theorem dX0_turn_88 : decode cX0_turn 88 = .ok (.iload 4, 2) := dk_21 4 (dk_at dksX0_turn_3 19 rfl rfl)
theorem dX0_turn_90 : decode cX0_turn 90 = .ok (.ireturn, 1) := dk_172 (dk_at dksX0_turn_3 21 rfl rfl)
theorem dX0_turn_91 : decode cX0_turn 91 = .ok (.astore_n 3, 1) := dk_78 (dk_at dksX0_turn_3 22 rfl rfl)
theorem dX0_turn_92 : decode cX0_turn 92 = .ok (.aload_n 0, 1) := dk_42 (dk_at dksX0_turn_3 23 rfl rfl)
theorem dX0_turn_93 : decode cX0_turn 93 = .ok (.aload_n 3, 1) := dk_45 (dk_at dksX0_turn_4 0 rfl rfl)
theorem dX0_turn_94 : decode cX0_turn 94 = .ok (.invokevirtual 131, 3) := dk_182 0 131 (dk_at dksX0_turn_4 1 rfl rfl)
theorem dX0_turn_97 : decode cX0_turn 97 = .ok (.ireturn, 1) := dk_172 (dk_at dksX0_turn_4 4 rfl rfl)
abbrev cX0_oftenWith : ByteArray := prog_1_method_39_code
def yX0_oftenWith : MethodName := ⟨RX0, "oftenWith", "(II)I"⟩
def dkwX0_oftenWith_2 : List UInt8 := [167, 255, 216, 29, 172]
abbrev dktX0_oftenWith_2 : List UInt8 := dkwX0_oftenWith_2 ++ []
def dkwX0_oftenWith_1 : List UInt8 := [180, 0, 197, 21, 4, 96, 182, 1, 16, 153, 0, 7, 4, 167, 0, 4, 3, 96, 62, 132, 4, 1]
abbrev dktX0_oftenWith_1 : List UInt8 := dkwX0_oftenWith_1 ++ dktX0_oftenWith_2
def dkwX0_oftenWith_0 : List UInt8 := [3, 62, 3, 54, 4, 21, 4, 16, 7, 162, 0, 39, 29, 42, 180, 0, 46, 27, 28, 42, 180, 0, 46]
abbrev dktX0_oftenWith_0 : List UInt8 := dkwX0_oftenWith_0 ++ dktX0_oftenWith_1
theorem dksX0_oftenWith_0 : cX0_oftenWith.data.toList.drop 0 = dktX0_oftenWith_0 := by decide +kernel
theorem dksX0_oftenWith_1 : cX0_oftenWith.data.toList.drop 23 = dktX0_oftenWith_1 := dk_seg dksX0_oftenWith_0 23 rfl rfl
theorem dksX0_oftenWith_2 : cX0_oftenWith.data.toList.drop 45 = dktX0_oftenWith_2 := dk_seg dksX0_oftenWith_1 22 rfl rfl
theorem dX0_oftenWith_0 : decode cX0_oftenWith 0 = .ok (.iconst 0, 1) := dk_3 (dk_at dksX0_oftenWith_0 0 rfl rfl)
theorem dX0_oftenWith_1 : decode cX0_oftenWith 1 = .ok (.istore_n 3, 1) := dk_62 (dk_at dksX0_oftenWith_0 1 rfl rfl)
theorem dX0_oftenWith_2 : decode cX0_oftenWith 2 = .ok (.iconst 0, 1) := dk_3 (dk_at dksX0_oftenWith_0 2 rfl rfl)
theorem dX0_oftenWith_3 : decode cX0_oftenWith 3 = .ok (.istore 4, 2) := dk_54 4 (dk_at dksX0_oftenWith_0 3 rfl rfl)
theorem dX0_oftenWith_5 : decode cX0_oftenWith 5 = .ok (.iload 4, 2) := dk_21 4 (dk_at dksX0_oftenWith_0 5 rfl rfl)
theorem dX0_oftenWith_7 : decode cX0_oftenWith 7 = .ok (.bipush 7, 2) := dk_16 7 (dk_at dksX0_oftenWith_0 7 rfl rfl)
theorem dX0_oftenWith_9 : decode cX0_oftenWith 9 = .ok (.if_icmp .ge 39, 3) := dk_162 0 39 (dk_at dksX0_oftenWith_0 9 rfl rfl)
theorem dX0_oftenWith_12 : decode cX0_oftenWith 12 = .ok (.iload_n 3, 1) := dk_29 (dk_at dksX0_oftenWith_0 12 rfl rfl)
theorem dX0_oftenWith_13 : decode cX0_oftenWith 13 = .ok (.aload_n 0, 1) := dk_42 (dk_at dksX0_oftenWith_0 13 rfl rfl)
theorem dX0_oftenWith_14 : decode cX0_oftenWith 14 = .ok (.getfield 46, 3) := dk_180 0 46 (dk_at dksX0_oftenWith_0 14 rfl rfl)
theorem dX0_oftenWith_17 : decode cX0_oftenWith 17 = .ok (.iload_n 1, 1) := dk_27 (dk_at dksX0_oftenWith_0 17 rfl rfl)
theorem dX0_oftenWith_18 : decode cX0_oftenWith 18 = .ok (.iload_n 2, 1) := dk_28 (dk_at dksX0_oftenWith_0 18 rfl rfl)
theorem dX0_oftenWith_19 : decode cX0_oftenWith 19 = .ok (.aload_n 0, 1) := dk_42 (dk_at dksX0_oftenWith_0 19 rfl rfl)
theorem dX0_oftenWith_20 : decode cX0_oftenWith 20 = .ok (.getfield 46, 3) := dk_180 0 46 (dk_at dksX0_oftenWith_0 20 rfl rfl)
theorem dX0_oftenWith_23 : decode cX0_oftenWith 23 = .ok (.getfield 197, 3) := dk_180 0 197 (dk_at dksX0_oftenWith_1 0 rfl rfl)
theorem dX0_oftenWith_26 : decode cX0_oftenWith 26 = .ok (.iload 4, 2) := dk_21 4 (dk_at dksX0_oftenWith_1 3 rfl rfl)
theorem dX0_oftenWith_28 : decode cX0_oftenWith 28 = .ok (.iadd, 1) := dk_96 (dk_at dksX0_oftenWith_1 5 rfl rfl)
theorem dX0_oftenWith_29 : decode cX0_oftenWith 29 = .ok (.invokevirtual 272, 3) := dk_182 1 16 (dk_at dksX0_oftenWith_1 6 rfl rfl)
theorem dX0_oftenWith_32 : decode cX0_oftenWith 32 = .ok (.ifCond .eq 7, 3) := dk_153 0 7 (dk_at dksX0_oftenWith_1 9 rfl rfl)
theorem dX0_oftenWith_35 : decode cX0_oftenWith 35 = .ok (.iconst 1, 1) := dk_4 (dk_at dksX0_oftenWith_1 12 rfl rfl)
theorem dX0_oftenWith_36 : decode cX0_oftenWith 36 = .ok (.goto 4, 3) := dk_167 0 4 (dk_at dksX0_oftenWith_1 13 rfl rfl)
theorem dX0_oftenWith_39 : decode cX0_oftenWith 39 = .ok (.iconst 0, 1) := dk_3 (dk_at dksX0_oftenWith_1 16 rfl rfl)
theorem dX0_oftenWith_40 : decode cX0_oftenWith 40 = .ok (.iadd, 1) := dk_96 (dk_at dksX0_oftenWith_1 17 rfl rfl)
theorem dX0_oftenWith_41 : decode cX0_oftenWith 41 = .ok (.istore_n 3, 1) := dk_62 (dk_at dksX0_oftenWith_1 18 rfl rfl)
theorem dX0_oftenWith_42 : decode cX0_oftenWith 42 = .ok (.iinc 4 1, 3) := dk_132 4 1 (dk_at dksX0_oftenWith_1 19 rfl rfl)
theorem dX0_oftenWith_45 : decode cX0_oftenWith 45 = .ok (.goto (-40), 3) := dk_167 255 216 (dk_at dksX0_oftenWith_2 0 rfl rfl)
theorem dX0_oftenWith_48 : decode cX0_oftenWith 48 = .ok (.iload_n 3, 1) := dk_29 (dk_at dksX0_oftenWith_2 3 rfl rfl)
theorem dX0_oftenWith_49 : decode cX0_oftenWith 49 = .ok (.ireturn, 1) := dk_172 (dk_at dksX0_oftenWith_2 4 rfl rfl)
abbrev cX0_cover : ByteArray := prog_1_method_43_code
def yX0_cover : MethodName := ⟨RX0, "cover", "()I"⟩
def dkwX0_cover_4 : List UInt8 := [5, 182, 0, 94, 29, 172, 76, 42, 43, 182, 0, 131, 172]
abbrev dktX0_cover_4 : List UInt8 := dkwX0_cover_4 ++ []
def dkwX0_cover_3 : List UInt8 := [21, 4, 167, 0, 4, 29, 62, 132, 4, 1, 167, 255, 192, 42, 29, 2, 159, 0, 7, 4, 167, 0, 4, 3]
abbrev dktX0_cover_3 : List UInt8 := dkwX0_cover_3 ++ dktX0_cover_4
def dkwX0_cover_2 : List UInt8 := [21, 4, 27, 2, 130, 126, 154, 0, 23, 21, 5, 153, 0, 18, 42, 21, 4, 182, 1, 39, 28, 161, 0, 8]
abbrev dktX0_cover_2 : List UInt8 := dkwX0_cover_2 ++ dktX0_cover_3
def dkwX0_cover_1 : List UInt8 := [29, 2, 159, 0, 15, 21, 4, 184, 1, 34, 29, 184, 1, 34, 162, 0, 7, 4, 167, 0, 4, 3, 54, 5]
abbrev dktX0_cover_1 : List UInt8 := dkwX0_cover_1 ++ dktX0_cover_2
def dkwX0_cover_0 : List UInt8 := [42, 180, 0, 46, 182, 1, 28, 60, 42, 182, 1, 31, 61, 2, 62, 3, 54, 4, 21, 4, 27, 163, 0, 64]
abbrev dktX0_cover_0 : List UInt8 := dkwX0_cover_0 ++ dktX0_cover_1
theorem dksX0_cover_0 : cX0_cover.data.toList.drop 0 = dktX0_cover_0 := by decide +kernel
theorem dksX0_cover_1 : cX0_cover.data.toList.drop 24 = dktX0_cover_1 := dk_seg dksX0_cover_0 24 rfl rfl
theorem dksX0_cover_2 : cX0_cover.data.toList.drop 48 = dktX0_cover_2 := dk_seg dksX0_cover_1 24 rfl rfl
theorem dksX0_cover_3 : cX0_cover.data.toList.drop 72 = dktX0_cover_3 := dk_seg dksX0_cover_2 24 rfl rfl
theorem dksX0_cover_4 : cX0_cover.data.toList.drop 96 = dktX0_cover_4 := dk_seg dksX0_cover_3 24 rfl rfl
theorem dX0_cover_0 : decode cX0_cover 0 = .ok (.aload_n 0, 1) := dk_42 (dk_at dksX0_cover_0 0 rfl rfl)
theorem dX0_cover_1 : decode cX0_cover 1 = .ok (.getfield 46, 3) := dk_180 0 46 (dk_at dksX0_cover_0 1 rfl rfl)
theorem dX0_cover_4 : decode cX0_cover 4 = .ok (.invokevirtual 284, 3) := dk_182 1 28 (dk_at dksX0_cover_0 4 rfl rfl)
theorem dX0_cover_7 : decode cX0_cover 7 = .ok (.istore_n 1, 1) := dk_60 (dk_at dksX0_cover_0 7 rfl rfl)
theorem dX0_cover_8 : decode cX0_cover 8 = .ok (.aload_n 0, 1) := dk_42 (dk_at dksX0_cover_0 8 rfl rfl)
theorem dX0_cover_9 : decode cX0_cover 9 = .ok (.invokevirtual 287, 3) := dk_182 1 31 (dk_at dksX0_cover_0 9 rfl rfl)
theorem dX0_cover_12 : decode cX0_cover 12 = .ok (.istore_n 2, 1) := dk_61 (dk_at dksX0_cover_0 12 rfl rfl)
theorem dX0_cover_13 : decode cX0_cover 13 = .ok (.iconst (-1), 1) := dk_2 (dk_at dksX0_cover_0 13 rfl rfl)
theorem dX0_cover_14 : decode cX0_cover 14 = .ok (.istore_n 3, 1) := dk_62 (dk_at dksX0_cover_0 14 rfl rfl)
theorem dX0_cover_15 : decode cX0_cover 15 = .ok (.iconst 0, 1) := dk_3 (dk_at dksX0_cover_0 15 rfl rfl)
theorem dX0_cover_16 : decode cX0_cover 16 = .ok (.istore 4, 2) := dk_54 4 (dk_at dksX0_cover_0 16 rfl rfl)
theorem dX0_cover_18 : decode cX0_cover 18 = .ok (.iload 4, 2) := dk_21 4 (dk_at dksX0_cover_0 18 rfl rfl)
theorem dX0_cover_20 : decode cX0_cover 20 = .ok (.iload_n 1, 1) := dk_27 (dk_at dksX0_cover_0 20 rfl rfl)
theorem dX0_cover_21 : decode cX0_cover 21 = .ok (.if_icmp .gt 64, 3) := dk_163 0 64 (dk_at dksX0_cover_0 21 rfl rfl)
theorem dX0_cover_24 : decode cX0_cover 24 = .ok (.iload_n 3, 1) := dk_29 (dk_at dksX0_cover_1 0 rfl rfl)
theorem dX0_cover_25 : decode cX0_cover 25 = .ok (.iconst (-1), 1) := dk_2 (dk_at dksX0_cover_1 1 rfl rfl)
theorem dX0_cover_26 : decode cX0_cover 26 = .ok (.if_icmp .eq 15, 3) := dk_159 0 15 (dk_at dksX0_cover_1 2 rfl rfl)
theorem dX0_cover_29 : decode cX0_cover 29 = .ok (.iload 4, 2) := dk_21 4 (dk_at dksX0_cover_1 5 rfl rfl)
theorem dX0_cover_31 : decode cX0_cover 31 = .ok (.invokestatic 290, 3) := dk_184 1 34 (dk_at dksX0_cover_1 7 rfl rfl)
theorem dX0_cover_34 : decode cX0_cover 34 = .ok (.iload_n 3, 1) := dk_29 (dk_at dksX0_cover_1 10 rfl rfl)
theorem dX0_cover_35 : decode cX0_cover 35 = .ok (.invokestatic 290, 3) := dk_184 1 34 (dk_at dksX0_cover_1 11 rfl rfl)
theorem dX0_cover_38 : decode cX0_cover 38 = .ok (.if_icmp .ge 7, 3) := dk_162 0 7 (dk_at dksX0_cover_1 14 rfl rfl)
theorem dX0_cover_41 : decode cX0_cover 41 = .ok (.iconst 1, 1) := dk_4 (dk_at dksX0_cover_1 17 rfl rfl)
theorem dX0_cover_42 : decode cX0_cover 42 = .ok (.goto 4, 3) := dk_167 0 4 (dk_at dksX0_cover_1 18 rfl rfl)
theorem dX0_cover_45 : decode cX0_cover 45 = .ok (.iconst 0, 1) := dk_3 (dk_at dksX0_cover_1 21 rfl rfl)
theorem dX0_cover_46 : decode cX0_cover 46 = .ok (.istore 5, 2) := dk_54 5 (dk_at dksX0_cover_1 22 rfl rfl)
theorem dX0_cover_48 : decode cX0_cover 48 = .ok (.iload 4, 2) := dk_21 4 (dk_at dksX0_cover_2 0 rfl rfl)
theorem dX0_cover_50 : decode cX0_cover 50 = .ok (.iload_n 1, 1) := dk_27 (dk_at dksX0_cover_2 2 rfl rfl)
theorem dX0_cover_51 : decode cX0_cover 51 = .ok (.iconst (-1), 1) := dk_2 (dk_at dksX0_cover_2 3 rfl rfl)
theorem dX0_cover_52 : decode cX0_cover 52 = .ok (.ixor, 1) := dk_130 (dk_at dksX0_cover_2 4 rfl rfl)
theorem dX0_cover_53 : decode cX0_cover 53 = .ok (.iand, 1) := dk_126 (dk_at dksX0_cover_2 5 rfl rfl)
theorem dX0_cover_54 : decode cX0_cover 54 = .ok (.ifCond .ne 23, 3) := dk_154 0 23 (dk_at dksX0_cover_2 6 rfl rfl)
theorem dX0_cover_57 : decode cX0_cover 57 = .ok (.iload 5, 2) := dk_21 5 (dk_at dksX0_cover_2 9 rfl rfl)
theorem dX0_cover_59 : decode cX0_cover 59 = .ok (.ifCond .eq 18, 3) := dk_153 0 18 (dk_at dksX0_cover_2 11 rfl rfl)
theorem dX0_cover_62 : decode cX0_cover 62 = .ok (.aload_n 0, 1) := dk_42 (dk_at dksX0_cover_2 14 rfl rfl)
theorem dX0_cover_63 : decode cX0_cover 63 = .ok (.iload 4, 2) := dk_21 4 (dk_at dksX0_cover_2 15 rfl rfl)
theorem dX0_cover_65 : decode cX0_cover 65 = .ok (.invokevirtual 295, 3) := dk_182 1 39 (dk_at dksX0_cover_2 17 rfl rfl)
theorem dX0_cover_68 : decode cX0_cover 68 = .ok (.iload_n 2, 1) := dk_28 (dk_at dksX0_cover_2 20 rfl rfl)
theorem dX0_cover_69 : decode cX0_cover 69 = .ok (.if_icmp .lt 8, 3) := dk_161 0 8 (dk_at dksX0_cover_2 21 rfl rfl)
theorem dX0_cover_72 : decode cX0_cover 72 = .ok (.iload 4, 2) := dk_21 4 (dk_at dksX0_cover_3 0 rfl rfl)
theorem dX0_cover_74 : decode cX0_cover 74 = .ok (.goto 4, 3) := dk_167 0 4 (dk_at dksX0_cover_3 2 rfl rfl)
theorem dX0_cover_77 : decode cX0_cover 77 = .ok (.iload_n 3, 1) := dk_29 (dk_at dksX0_cover_3 5 rfl rfl)
theorem dX0_cover_78 : decode cX0_cover 78 = .ok (.istore_n 3, 1) := dk_62 (dk_at dksX0_cover_3 6 rfl rfl)
theorem dX0_cover_79 : decode cX0_cover 79 = .ok (.iinc 4 1, 3) := dk_132 4 1 (dk_at dksX0_cover_3 7 rfl rfl)
theorem dX0_cover_82 : decode cX0_cover 82 = .ok (.goto (-64), 3) := dk_167 255 192 (dk_at dksX0_cover_3 10 rfl rfl)
theorem dX0_cover_85 : decode cX0_cover 85 = .ok (.aload_n 0, 1) := dk_42 (dk_at dksX0_cover_3 13 rfl rfl)
theorem dX0_cover_86 : decode cX0_cover 86 = .ok (.iload_n 3, 1) := dk_29 (dk_at dksX0_cover_3 14 rfl rfl)
theorem dX0_cover_87 : decode cX0_cover 87 = .ok (.iconst (-1), 1) := dk_2 (dk_at dksX0_cover_3 15 rfl rfl)
theorem dX0_cover_88 : decode cX0_cover 88 = .ok (.if_icmp .eq 7, 3) := dk_159 0 7 (dk_at dksX0_cover_3 16 rfl rfl)
theorem dX0_cover_91 : decode cX0_cover 91 = .ok (.iconst 1, 1) := dk_4 (dk_at dksX0_cover_3 19 rfl rfl)
theorem dX0_cover_92 : decode cX0_cover 92 = .ok (.goto 4, 3) := dk_167 0 4 (dk_at dksX0_cover_3 20 rfl rfl)
theorem dX0_cover_95 : decode cX0_cover 95 = .ok (.iconst 0, 1) := dk_3 (dk_at dksX0_cover_3 23 rfl rfl)
theorem dX0_cover_96 : decode cX0_cover 96 = .ok (.iconst 2, 1) := dk_5 (dk_at dksX0_cover_4 0 rfl rfl)
theorem dX0_cover_97 : decode cX0_cover 97 = .ok (.invokevirtual 94, 3) := dk_182 0 94 (dk_at dksX0_cover_4 1 rfl rfl)
theorem dX0_cover_100 : decode cX0_cover 100 = .ok (.iload_n 3, 1) := dk_29 (dk_at dksX0_cover_4 4 rfl rfl)
theorem dX0_cover_101 : decode cX0_cover 101 = .ok (.ireturn, 1) := dk_172 (dk_at dksX0_cover_4 5 rfl rfl)
theorem dX0_cover_102 : decode cX0_cover 102 = .ok (.astore_n 1, 1) := dk_76 (dk_at dksX0_cover_4 6 rfl rfl)
theorem dX0_cover_103 : decode cX0_cover 103 = .ok (.aload_n 0, 1) := dk_42 (dk_at dksX0_cover_4 7 rfl rfl)
theorem dX0_cover_104 : decode cX0_cover 104 = .ok (.aload_n 1, 1) := dk_43 (dk_at dksX0_cover_4 8 rfl rfl)
theorem dX0_cover_105 : decode cX0_cover 105 = .ok (.invokevirtual 131, 3) := dk_182 0 131 (dk_at dksX0_cover_4 9 rfl rfl)
theorem dX0_cover_108 : decode cX0_cover 108 = .ok (.ireturn, 1) := dk_172 (dk_at dksX0_cover_4 12 rfl rfl)
abbrev cX0_drinkAll : ByteArray := prog_1_method_41_code
def yX0_drinkAll : MethodName := ⟨RX0, "drinkAll", "()I"⟩
def dkwX0_drinkAll_1 : List UInt8 := [50, 182, 0, 149, 96, 60, 132, 2, 1, 167, 255, 227, 27, 172]
abbrev dktX0_drinkAll_1 : List UInt8 := dkwX0_drinkAll_1 ++ []
def dkwX0_drinkAll_0 : List UInt8 := [3, 60, 3, 61, 28, 42, 180, 0, 46, 180, 0, 100, 162, 0, 24, 27, 42, 180, 0, 46, 180, 0, 107, 28]
abbrev dktX0_drinkAll_0 : List UInt8 := dkwX0_drinkAll_0 ++ dktX0_drinkAll_1
theorem dksX0_drinkAll_0 : cX0_drinkAll.data.toList.drop 0 = dktX0_drinkAll_0 := by decide +kernel
theorem dksX0_drinkAll_1 : cX0_drinkAll.data.toList.drop 24 = dktX0_drinkAll_1 := dk_seg dksX0_drinkAll_0 24 rfl rfl
theorem dX0_drinkAll_0 : decode cX0_drinkAll 0 = .ok (.iconst 0, 1) := dk_3 (dk_at dksX0_drinkAll_0 0 rfl rfl)
theorem dX0_drinkAll_1 : decode cX0_drinkAll 1 = .ok (.istore_n 1, 1) := dk_60 (dk_at dksX0_drinkAll_0 1 rfl rfl)
theorem dX0_drinkAll_2 : decode cX0_drinkAll 2 = .ok (.iconst 0, 1) := dk_3 (dk_at dksX0_drinkAll_0 2 rfl rfl)
theorem dX0_drinkAll_3 : decode cX0_drinkAll 3 = .ok (.istore_n 2, 1) := dk_61 (dk_at dksX0_drinkAll_0 3 rfl rfl)
theorem dX0_drinkAll_4 : decode cX0_drinkAll 4 = .ok (.iload_n 2, 1) := dk_28 (dk_at dksX0_drinkAll_0 4 rfl rfl)
theorem dX0_drinkAll_5 : decode cX0_drinkAll 5 = .ok (.aload_n 0, 1) := dk_42 (dk_at dksX0_drinkAll_0 5 rfl rfl)
theorem dX0_drinkAll_6 : decode cX0_drinkAll 6 = .ok (.getfield 46, 3) := dk_180 0 46 (dk_at dksX0_drinkAll_0 6 rfl rfl)
theorem dX0_drinkAll_9 : decode cX0_drinkAll 9 = .ok (.getfield 100, 3) := dk_180 0 100 (dk_at dksX0_drinkAll_0 9 rfl rfl)
theorem dX0_drinkAll_12 : decode cX0_drinkAll 12 = .ok (.if_icmp .ge 24, 3) := dk_162 0 24 (dk_at dksX0_drinkAll_0 12 rfl rfl)
theorem dX0_drinkAll_15 : decode cX0_drinkAll 15 = .ok (.iload_n 1, 1) := dk_27 (dk_at dksX0_drinkAll_0 15 rfl rfl)
theorem dX0_drinkAll_16 : decode cX0_drinkAll 16 = .ok (.aload_n 0, 1) := dk_42 (dk_at dksX0_drinkAll_0 16 rfl rfl)
theorem dX0_drinkAll_17 : decode cX0_drinkAll 17 = .ok (.getfield 46, 3) := dk_180 0 46 (dk_at dksX0_drinkAll_0 17 rfl rfl)
theorem dX0_drinkAll_20 : decode cX0_drinkAll 20 = .ok (.getfield 107, 3) := dk_180 0 107 (dk_at dksX0_drinkAll_0 20 rfl rfl)
theorem dX0_drinkAll_23 : decode cX0_drinkAll 23 = .ok (.iload_n 2, 1) := dk_28 (dk_at dksX0_drinkAll_0 23 rfl rfl)
theorem dX0_drinkAll_24 : decode cX0_drinkAll 24 = .ok (.aaload, 1) := dk_50 (dk_at dksX0_drinkAll_1 0 rfl rfl)
theorem dX0_drinkAll_25 : decode cX0_drinkAll 25 = .ok (.invokevirtual 149, 3) := dk_182 0 149 (dk_at dksX0_drinkAll_1 1 rfl rfl)
theorem dX0_drinkAll_28 : decode cX0_drinkAll 28 = .ok (.iadd, 1) := dk_96 (dk_at dksX0_drinkAll_1 4 rfl rfl)
theorem dX0_drinkAll_29 : decode cX0_drinkAll 29 = .ok (.istore_n 1, 1) := dk_60 (dk_at dksX0_drinkAll_1 5 rfl rfl)
theorem dX0_drinkAll_30 : decode cX0_drinkAll 30 = .ok (.iinc 2 1, 3) := dk_132 2 1 (dk_at dksX0_drinkAll_1 6 rfl rfl)
theorem dX0_drinkAll_33 : decode cX0_drinkAll 33 = .ok (.goto (-29), 3) := dk_167 255 227 (dk_at dksX0_drinkAll_1 9 rfl rfl)
theorem dX0_drinkAll_36 : decode cX0_drinkAll 36 = .ok (.iload_n 1, 1) := dk_27 (dk_at dksX0_drinkAll_1 12 rfl rfl)
theorem dX0_drinkAll_37 : decode cX0_drinkAll 37 = .ok (.ireturn, 1) := dk_172 (dk_at dksX0_drinkAll_1 13 rfl rfl)
abbrev cX0_fillAll : ByteArray := prog_1_method_42_code
def yX0_fillAll : MethodName := ⟨RX0, "fillAll", "(I)I"⟩
def dkwX0_fillAll_2 : List UInt8 := [28, 172]
abbrev dktX0_fillAll_2 : List UInt8 := dkwX0_fillAll_2 ++ []
def dkwX0_fillAll_1 : List UInt8 := [42, 180, 0, 46, 180, 0, 107, 29, 50, 182, 0, 146, 167, 0, 4, 3, 96, 61, 132, 3, 1, 167, 255, 215]
abbrev dktX0_fillAll_1 : List UInt8 := dkwX0_fillAll_1 ++ dktX0_fillAll_2
def dkwX0_fillAll_0 : List UInt8 := [3, 61, 3, 62, 29, 42, 180, 0, 46, 180, 0, 100, 162, 0, 36, 28, 27, 29, 184, 1, 25, 153, 0, 18]
abbrev dktX0_fillAll_0 : List UInt8 := dkwX0_fillAll_0 ++ dktX0_fillAll_1
theorem dksX0_fillAll_0 : cX0_fillAll.data.toList.drop 0 = dktX0_fillAll_0 := by decide +kernel
theorem dksX0_fillAll_1 : cX0_fillAll.data.toList.drop 24 = dktX0_fillAll_1 := dk_seg dksX0_fillAll_0 24 rfl rfl
theorem dksX0_fillAll_2 : cX0_fillAll.data.toList.drop 48 = dktX0_fillAll_2 := dk_seg dksX0_fillAll_1 24 rfl rfl
theorem dX0_fillAll_0 : decode cX0_fillAll 0 = .ok (.iconst 0, 1) := dk_3 (dk_at dksX0_fillAll_0 0 rfl rfl)
theorem dX0_fillAll_1 : decode cX0_fillAll 1 = .ok (.istore_n 2, 1) := dk_61 (dk_at dksX0_fillAll_0 1 rfl rfl)
theorem dX0_fillAll_2 : decode cX0_fillAll 2 = .ok (.iconst 0, 1) := dk_3 (dk_at dksX0_fillAll_0 2 rfl rfl)
theorem dX0_fillAll_3 : decode cX0_fillAll 3 = .ok (.istore_n 3, 1) := dk_62 (dk_at dksX0_fillAll_0 3 rfl rfl)
theorem dX0_fillAll_4 : decode cX0_fillAll 4 = .ok (.iload_n 3, 1) := dk_29 (dk_at dksX0_fillAll_0 4 rfl rfl)
theorem dX0_fillAll_5 : decode cX0_fillAll 5 = .ok (.aload_n 0, 1) := dk_42 (dk_at dksX0_fillAll_0 5 rfl rfl)
theorem dX0_fillAll_6 : decode cX0_fillAll 6 = .ok (.getfield 46, 3) := dk_180 0 46 (dk_at dksX0_fillAll_0 6 rfl rfl)
theorem dX0_fillAll_9 : decode cX0_fillAll 9 = .ok (.getfield 100, 3) := dk_180 0 100 (dk_at dksX0_fillAll_0 9 rfl rfl)
theorem dX0_fillAll_12 : decode cX0_fillAll 12 = .ok (.if_icmp .ge 36, 3) := dk_162 0 36 (dk_at dksX0_fillAll_0 12 rfl rfl)
theorem dX0_fillAll_15 : decode cX0_fillAll 15 = .ok (.iload_n 2, 1) := dk_28 (dk_at dksX0_fillAll_0 15 rfl rfl)
theorem dX0_fillAll_16 : decode cX0_fillAll 16 = .ok (.iload_n 1, 1) := dk_27 (dk_at dksX0_fillAll_0 16 rfl rfl)
theorem dX0_fillAll_17 : decode cX0_fillAll 17 = .ok (.iload_n 3, 1) := dk_29 (dk_at dksX0_fillAll_0 17 rfl rfl)
theorem dX0_fillAll_18 : decode cX0_fillAll 18 = .ok (.invokestatic 281, 3) := dk_184 1 25 (dk_at dksX0_fillAll_0 18 rfl rfl)
theorem dX0_fillAll_21 : decode cX0_fillAll 21 = .ok (.ifCond .eq 18, 3) := dk_153 0 18 (dk_at dksX0_fillAll_0 21 rfl rfl)
theorem dX0_fillAll_24 : decode cX0_fillAll 24 = .ok (.aload_n 0, 1) := dk_42 (dk_at dksX0_fillAll_1 0 rfl rfl)
theorem dX0_fillAll_25 : decode cX0_fillAll 25 = .ok (.getfield 46, 3) := dk_180 0 46 (dk_at dksX0_fillAll_1 1 rfl rfl)
theorem dX0_fillAll_28 : decode cX0_fillAll 28 = .ok (.getfield 107, 3) := dk_180 0 107 (dk_at dksX0_fillAll_1 4 rfl rfl)
theorem dX0_fillAll_31 : decode cX0_fillAll 31 = .ok (.iload_n 3, 1) := dk_29 (dk_at dksX0_fillAll_1 7 rfl rfl)
theorem dX0_fillAll_32 : decode cX0_fillAll 32 = .ok (.aaload, 1) := dk_50 (dk_at dksX0_fillAll_1 8 rfl rfl)
theorem dX0_fillAll_33 : decode cX0_fillAll 33 = .ok (.invokevirtual 146, 3) := dk_182 0 146 (dk_at dksX0_fillAll_1 9 rfl rfl)
theorem dX0_fillAll_36 : decode cX0_fillAll 36 = .ok (.goto 4, 3) := dk_167 0 4 (dk_at dksX0_fillAll_1 12 rfl rfl)
theorem dX0_fillAll_39 : decode cX0_fillAll 39 = .ok (.iconst 0, 1) := dk_3 (dk_at dksX0_fillAll_1 15 rfl rfl)
theorem dX0_fillAll_40 : decode cX0_fillAll 40 = .ok (.iadd, 1) := dk_96 (dk_at dksX0_fillAll_1 16 rfl rfl)
theorem dX0_fillAll_41 : decode cX0_fillAll 41 = .ok (.istore_n 2, 1) := dk_61 (dk_at dksX0_fillAll_1 17 rfl rfl)
theorem dX0_fillAll_42 : decode cX0_fillAll 42 = .ok (.iinc 3 1, 3) := dk_132 3 1 (dk_at dksX0_fillAll_1 18 rfl rfl)
theorem dX0_fillAll_45 : decode cX0_fillAll 45 = .ok (.goto (-41), 3) := dk_167 255 215 (dk_at dksX0_fillAll_1 21 rfl rfl)
theorem dX0_fillAll_48 : decode cX0_fillAll 48 = .ok (.iload_n 2, 1) := dk_28 (dk_at dksX0_fillAll_2 0 rfl rfl)
theorem dX0_fillAll_49 : decode cX0_fillAll 49 = .ok (.ireturn, 1) := dk_172 (dk_at dksX0_fillAll_2 1 rfl rfl)
abbrev cX0_hasBit : ByteArray := prog_1_method_2_code
def yX0_hasBit : MethodName := ⟨RX0, "hasBit", "(II)Z"⟩
def dkwX0_hasBit_0 : List UInt8 := [26, 27, 122, 4, 126, 4, 160, 0, 7, 4, 167, 0, 4, 3, 172]
abbrev dktX0_hasBit_0 : List UInt8 := dkwX0_hasBit_0 ++ []
theorem dksX0_hasBit_0 : cX0_hasBit.data.toList.drop 0 = dktX0_hasBit_0 := by decide +kernel
theorem dX0_hasBit_0 : decode cX0_hasBit 0 = .ok (.iload_n 0, 1) := dk_26 (dk_at dksX0_hasBit_0 0 rfl rfl)
theorem dX0_hasBit_1 : decode cX0_hasBit 1 = .ok (.iload_n 1, 1) := dk_27 (dk_at dksX0_hasBit_0 1 rfl rfl)
theorem dX0_hasBit_2 : decode cX0_hasBit 2 = .ok (.ishr, 1) := dk_122 (dk_at dksX0_hasBit_0 2 rfl rfl)
theorem dX0_hasBit_3 : decode cX0_hasBit 3 = .ok (.iconst 1, 1) := dk_4 (dk_at dksX0_hasBit_0 3 rfl rfl)
theorem dX0_hasBit_4 : decode cX0_hasBit 4 = .ok (.iand, 1) := dk_126 (dk_at dksX0_hasBit_0 4 rfl rfl)
theorem dX0_hasBit_5 : decode cX0_hasBit 5 = .ok (.iconst 1, 1) := dk_4 (dk_at dksX0_hasBit_0 5 rfl rfl)
theorem dX0_hasBit_6 : decode cX0_hasBit 6 = .ok (.if_icmp .ne 7, 3) := dk_160 0 7 (dk_at dksX0_hasBit_0 6 rfl rfl)
theorem dX0_hasBit_9 : decode cX0_hasBit 9 = .ok (.iconst 1, 1) := dk_4 (dk_at dksX0_hasBit_0 9 rfl rfl)
theorem dX0_hasBit_10 : decode cX0_hasBit 10 = .ok (.goto 4, 3) := dk_167 0 4 (dk_at dksX0_hasBit_0 10 rfl rfl)
theorem dX0_hasBit_13 : decode cX0_hasBit 13 = .ok (.iconst 0, 1) := dk_3 (dk_at dksX0_hasBit_0 13 rfl rfl)
theorem dX0_hasBit_14 : decode cX0_hasBit 14 = .ok (.ireturn, 1) := dk_172 (dk_at dksX0_hasBit_0 14 rfl rfl)
abbrev cX0_kept : ByteArray := prog_1_method_44_code
def yX0_kept : MethodName := ⟨RX0, "kept", "(II)I"⟩
def dkwX0_kept_6 : List UInt8 := [78, 42, 45, 182, 0, 131, 172]
abbrev dktX0_kept_6 : List UInt8 := dkwX0_kept_6 ++ []
def dkwX0_kept_5 : List UInt8 := [21, 4, 46, 164, 0, 10, 4, 21, 4, 120, 167, 0, 4, 3, 128, 62, 132, 4, 1, 167, 255, 204, 29, 172]
abbrev dktX0_kept_5 : List UInt8 := dkwX0_kept_5 ++ dktX0_kept_6
def dkwX0_kept_4 : List UInt8 := [162, 0, 46, 29, 21, 4, 27, 159, 0, 30, 42, 180, 0, 53, 180, 0, 121, 21, 4, 46, 42, 180, 0, 77]
abbrev dktX0_kept_4 : List UInt8 := dkwX0_kept_4 ++ dktX0_kept_5
def dkwX0_kept_3 : List UInt8 := [42, 180, 0, 53, 28, 182, 0, 204, 87, 3, 62, 3, 54, 4, 21, 4, 42, 180, 0, 46, 180, 0, 100]
abbrev dktX0_kept_3 : List UInt8 := dkwX0_kept_3 ++ dktX0_kept_4
def dkwX0_kept_2 : List UInt8 := [180, 0, 77, 3, 16, 8, 184, 1, 42, 42, 180, 0, 53, 42, 180, 0, 46, 182, 0, 220, 27, 181, 1, 48]
abbrev dktX0_kept_2 : List UInt8 := dkwX0_kept_2 ++ dktX0_kept_3
def dkwX0_kept_1 : List UInt8 := [182, 0, 94, 42, 180, 0, 53, 42, 180, 0, 46, 182, 0, 220, 28, 182, 0, 204, 180, 0, 121, 3, 42]
abbrev dktX0_kept_1 : List UInt8 := dkwX0_kept_1 ++ dktX0_kept_2
def dkwX0_kept_0 : List UInt8 := [42, 42, 27, 182, 0, 103, 153, 0, 14, 28, 184, 0, 217, 153, 0, 7, 4, 167, 0, 4, 3, 4]
abbrev dktX0_kept_0 : List UInt8 := dkwX0_kept_0 ++ dktX0_kept_1
theorem dksX0_kept_0 : cX0_kept.data.toList.drop 0 = dktX0_kept_0 := by decide +kernel
theorem dksX0_kept_1 : cX0_kept.data.toList.drop 22 = dktX0_kept_1 := dk_seg dksX0_kept_0 22 rfl rfl
theorem dksX0_kept_2 : cX0_kept.data.toList.drop 45 = dktX0_kept_2 := dk_seg dksX0_kept_1 23 rfl rfl
theorem dksX0_kept_3 : cX0_kept.data.toList.drop 69 = dktX0_kept_3 := dk_seg dksX0_kept_2 24 rfl rfl
theorem dksX0_kept_4 : cX0_kept.data.toList.drop 92 = dktX0_kept_4 := dk_seg dksX0_kept_3 23 rfl rfl
theorem dksX0_kept_5 : cX0_kept.data.toList.drop 116 = dktX0_kept_5 := dk_seg dksX0_kept_4 24 rfl rfl
theorem dksX0_kept_6 : cX0_kept.data.toList.drop 140 = dktX0_kept_6 := dk_seg dksX0_kept_5 24 rfl rfl
theorem dX0_kept_0 : decode cX0_kept 0 = .ok (.aload_n 0, 1) := dk_42 (dk_at dksX0_kept_0 0 rfl rfl)
theorem dX0_kept_1 : decode cX0_kept 1 = .ok (.aload_n 0, 1) := dk_42 (dk_at dksX0_kept_0 1 rfl rfl)
theorem dX0_kept_2 : decode cX0_kept 2 = .ok (.iload_n 1, 1) := dk_27 (dk_at dksX0_kept_0 2 rfl rfl)
theorem dX0_kept_3 : decode cX0_kept 3 = .ok (.invokevirtual 103, 3) := dk_182 0 103 (dk_at dksX0_kept_0 3 rfl rfl)
theorem dX0_kept_6 : decode cX0_kept 6 = .ok (.ifCond .eq 14, 3) := dk_153 0 14 (dk_at dksX0_kept_0 6 rfl rfl)
theorem dX0_kept_9 : decode cX0_kept 9 = .ok (.iload_n 2, 1) := dk_28 (dk_at dksX0_kept_0 9 rfl rfl)
theorem dX0_kept_10 : decode cX0_kept 10 = .ok (.invokestatic 217, 3) := dk_184 0 217 (dk_at dksX0_kept_0 10 rfl rfl)
theorem dX0_kept_13 : decode cX0_kept 13 = .ok (.ifCond .eq 7, 3) := dk_153 0 7 (dk_at dksX0_kept_0 13 rfl rfl)
theorem dX0_kept_16 : decode cX0_kept 16 = .ok (.iconst 1, 1) := dk_4 (dk_at dksX0_kept_0 16 rfl rfl)
theorem dX0_kept_17 : decode cX0_kept 17 = .ok (.goto 4, 3) := dk_167 0 4 (dk_at dksX0_kept_0 17 rfl rfl)
theorem dX0_kept_20 : decode cX0_kept 20 = .ok (.iconst 0, 1) := dk_3 (dk_at dksX0_kept_0 20 rfl rfl)
theorem dX0_kept_21 : decode cX0_kept 21 = .ok (.iconst 1, 1) := dk_4 (dk_at dksX0_kept_0 21 rfl rfl)
theorem dX0_kept_22 : decode cX0_kept 22 = .ok (.invokevirtual 94, 3) := dk_182 0 94 (dk_at dksX0_kept_1 0 rfl rfl)
theorem dX0_kept_25 : decode cX0_kept 25 = .ok (.aload_n 0, 1) := dk_42 (dk_at dksX0_kept_1 3 rfl rfl)
theorem dX0_kept_26 : decode cX0_kept 26 = .ok (.getfield 53, 3) := dk_180 0 53 (dk_at dksX0_kept_1 4 rfl rfl)
theorem dX0_kept_29 : decode cX0_kept 29 = .ok (.aload_n 0, 1) := dk_42 (dk_at dksX0_kept_1 7 rfl rfl)
theorem dX0_kept_30 : decode cX0_kept 30 = .ok (.getfield 46, 3) := dk_180 0 46 (dk_at dksX0_kept_1 8 rfl rfl)
theorem dX0_kept_33 : decode cX0_kept 33 = .ok (.invokevirtual 220, 3) := dk_182 0 220 (dk_at dksX0_kept_1 11 rfl rfl)
theorem dX0_kept_36 : decode cX0_kept 36 = .ok (.iload_n 2, 1) := dk_28 (dk_at dksX0_kept_1 14 rfl rfl)
theorem dX0_kept_37 : decode cX0_kept 37 = .ok (.invokevirtual 204, 3) := dk_182 0 204 (dk_at dksX0_kept_1 15 rfl rfl)
theorem dX0_kept_40 : decode cX0_kept 40 = .ok (.getfield 121, 3) := dk_180 0 121 (dk_at dksX0_kept_1 18 rfl rfl)
theorem dX0_kept_43 : decode cX0_kept 43 = .ok (.iconst 0, 1) := dk_3 (dk_at dksX0_kept_1 21 rfl rfl)
theorem dX0_kept_44 : decode cX0_kept 44 = .ok (.aload_n 0, 1) := dk_42 (dk_at dksX0_kept_1 22 rfl rfl)
theorem dX0_kept_45 : decode cX0_kept 45 = .ok (.getfield 77, 3) := dk_180 0 77 (dk_at dksX0_kept_2 0 rfl rfl)
theorem dX0_kept_48 : decode cX0_kept 48 = .ok (.iconst 0, 1) := dk_3 (dk_at dksX0_kept_2 3 rfl rfl)
theorem dX0_kept_49 : decode cX0_kept 49 = .ok (.bipush 8, 2) := dk_16 8 (dk_at dksX0_kept_2 4 rfl rfl)
theorem dX0_kept_51 : decode cX0_kept 51 = .ok (.invokestatic 298, 3) := dk_184 1 42 (dk_at dksX0_kept_2 6 rfl rfl)
theorem dX0_kept_54 : decode cX0_kept 54 = .ok (.aload_n 0, 1) := dk_42 (dk_at dksX0_kept_2 9 rfl rfl)
theorem dX0_kept_55 : decode cX0_kept 55 = .ok (.getfield 53, 3) := dk_180 0 53 (dk_at dksX0_kept_2 10 rfl rfl)
theorem dX0_kept_58 : decode cX0_kept 58 = .ok (.aload_n 0, 1) := dk_42 (dk_at dksX0_kept_2 13 rfl rfl)
theorem dX0_kept_59 : decode cX0_kept 59 = .ok (.getfield 46, 3) := dk_180 0 46 (dk_at dksX0_kept_2 14 rfl rfl)
theorem dX0_kept_62 : decode cX0_kept 62 = .ok (.invokevirtual 220, 3) := dk_182 0 220 (dk_at dksX0_kept_2 17 rfl rfl)
theorem dX0_kept_65 : decode cX0_kept 65 = .ok (.iload_n 1, 1) := dk_27 (dk_at dksX0_kept_2 20 rfl rfl)
theorem dX0_kept_66 : decode cX0_kept 66 = .ok (.putfield 304, 3) := dk_181 1 48 (dk_at dksX0_kept_2 21 rfl rfl)
theorem dX0_kept_69 : decode cX0_kept 69 = .ok (.aload_n 0, 1) := dk_42 (dk_at dksX0_kept_3 0 rfl rfl)
theorem dX0_kept_70 : decode cX0_kept 70 = .ok (.getfield 53, 3) := dk_180 0 53 (dk_at dksX0_kept_3 1 rfl rfl)
theorem dX0_kept_73 : decode cX0_kept 73 = .ok (.iload_n 2, 1) := dk_28 (dk_at dksX0_kept_3 4 rfl rfl)
theorem dX0_kept_74 : decode cX0_kept 74 = .ok (.invokevirtual 204, 3) := dk_182 0 204 (dk_at dksX0_kept_3 5 rfl rfl)
theorem dX0_kept_77 : decode cX0_kept 77 = .ok (.pop, 1) := dk_87 (dk_at dksX0_kept_3 8 rfl rfl)
theorem dX0_kept_78 : decode cX0_kept 78 = .ok (.iconst 0, 1) := dk_3 (dk_at dksX0_kept_3 9 rfl rfl)
theorem dX0_kept_79 : decode cX0_kept 79 = .ok (.istore_n 3, 1) := dk_62 (dk_at dksX0_kept_3 10 rfl rfl)
theorem dX0_kept_80 : decode cX0_kept 80 = .ok (.iconst 0, 1) := dk_3 (dk_at dksX0_kept_3 11 rfl rfl)
theorem dX0_kept_81 : decode cX0_kept 81 = .ok (.istore 4, 2) := dk_54 4 (dk_at dksX0_kept_3 12 rfl rfl)
theorem dX0_kept_83 : decode cX0_kept 83 = .ok (.iload 4, 2) := dk_21 4 (dk_at dksX0_kept_3 14 rfl rfl)
theorem dX0_kept_85 : decode cX0_kept 85 = .ok (.aload_n 0, 1) := dk_42 (dk_at dksX0_kept_3 16 rfl rfl)
theorem dX0_kept_86 : decode cX0_kept 86 = .ok (.getfield 46, 3) := dk_180 0 46 (dk_at dksX0_kept_3 17 rfl rfl)
theorem dX0_kept_89 : decode cX0_kept 89 = .ok (.getfield 100, 3) := dk_180 0 100 (dk_at dksX0_kept_3 20 rfl rfl)
theorem dX0_kept_92 : decode cX0_kept 92 = .ok (.if_icmp .ge 46, 3) := dk_162 0 46 (dk_at dksX0_kept_4 0 rfl rfl)
theorem dX0_kept_95 : decode cX0_kept 95 = .ok (.iload_n 3, 1) := dk_29 (dk_at dksX0_kept_4 3 rfl rfl)
theorem dX0_kept_96 : decode cX0_kept 96 = .ok (.iload 4, 2) := dk_21 4 (dk_at dksX0_kept_4 4 rfl rfl)
theorem dX0_kept_98 : decode cX0_kept 98 = .ok (.iload_n 1, 1) := dk_27 (dk_at dksX0_kept_4 6 rfl rfl)
theorem dX0_kept_99 : decode cX0_kept 99 = .ok (.if_icmp .eq 30, 3) := dk_159 0 30 (dk_at dksX0_kept_4 7 rfl rfl)
theorem dX0_kept_102 : decode cX0_kept 102 = .ok (.aload_n 0, 1) := dk_42 (dk_at dksX0_kept_4 10 rfl rfl)
theorem dX0_kept_103 : decode cX0_kept 103 = .ok (.getfield 53, 3) := dk_180 0 53 (dk_at dksX0_kept_4 11 rfl rfl)
theorem dX0_kept_106 : decode cX0_kept 106 = .ok (.getfield 121, 3) := dk_180 0 121 (dk_at dksX0_kept_4 14 rfl rfl)
theorem dX0_kept_109 : decode cX0_kept 109 = .ok (.iload 4, 2) := dk_21 4 (dk_at dksX0_kept_4 17 rfl rfl)
theorem dX0_kept_111 : decode cX0_kept 111 = .ok (.iaload, 1) := dk_46 (dk_at dksX0_kept_4 19 rfl rfl)
theorem dX0_kept_112 : decode cX0_kept 112 = .ok (.aload_n 0, 1) := dk_42 (dk_at dksX0_kept_4 20 rfl rfl)
theorem dX0_kept_113 : decode cX0_kept 113 = .ok (.getfield 77, 3) := dk_180 0 77 (dk_at dksX0_kept_4 21 rfl rfl)
theorem dX0_kept_116 : decode cX0_kept 116 = .ok (.iload 4, 2) := dk_21 4 (dk_at dksX0_kept_5 0 rfl rfl)
theorem dX0_kept_118 : decode cX0_kept 118 = .ok (.iaload, 1) := dk_46 (dk_at dksX0_kept_5 2 rfl rfl)
theorem dX0_kept_119 : decode cX0_kept 119 = .ok (.if_icmp .le 10, 3) := dk_164 0 10 (dk_at dksX0_kept_5 3 rfl rfl)
theorem dX0_kept_122 : decode cX0_kept 122 = .ok (.iconst 1, 1) := dk_4 (dk_at dksX0_kept_5 6 rfl rfl)
theorem dX0_kept_123 : decode cX0_kept 123 = .ok (.iload 4, 2) := dk_21 4 (dk_at dksX0_kept_5 7 rfl rfl)
theorem dX0_kept_125 : decode cX0_kept 125 = .ok (.ishl, 1) := dk_120 (dk_at dksX0_kept_5 9 rfl rfl)
theorem dX0_kept_126 : decode cX0_kept 126 = .ok (.goto 4, 3) := dk_167 0 4 (dk_at dksX0_kept_5 10 rfl rfl)
theorem dX0_kept_129 : decode cX0_kept 129 = .ok (.iconst 0, 1) := dk_3 (dk_at dksX0_kept_5 13 rfl rfl)
theorem dX0_kept_130 : decode cX0_kept 130 = .ok (.ior, 1) := dk_128 (dk_at dksX0_kept_5 14 rfl rfl)
theorem dX0_kept_131 : decode cX0_kept 131 = .ok (.istore_n 3, 1) := dk_62 (dk_at dksX0_kept_5 15 rfl rfl)
theorem dX0_kept_132 : decode cX0_kept 132 = .ok (.iinc 4 1, 3) := dk_132 4 1 (dk_at dksX0_kept_5 16 rfl rfl)
theorem dX0_kept_135 : decode cX0_kept 135 = .ok (.goto (-52), 3) := dk_167 255 204 (dk_at dksX0_kept_5 19 rfl rfl)
theorem dX0_kept_138 : decode cX0_kept 138 = .ok (.iload_n 3, 1) := dk_29 (dk_at dksX0_kept_5 22 rfl rfl)
theorem dX0_kept_139 : decode cX0_kept 139 = .ok (.ireturn, 1) := dk_172 (dk_at dksX0_kept_5 23 rfl rfl)
theorem dX0_kept_140 : decode cX0_kept 140 = .ok (.astore_n 3, 1) := dk_78 (dk_at dksX0_kept_6 0 rfl rfl)
theorem dX0_kept_141 : decode cX0_kept 141 = .ok (.aload_n 0, 1) := dk_42 (dk_at dksX0_kept_6 1 rfl rfl)
theorem dX0_kept_142 : decode cX0_kept 142 = .ok (.aload_n 3, 1) := dk_45 (dk_at dksX0_kept_6 2 rfl rfl)
theorem dX0_kept_143 : decode cX0_kept 143 = .ok (.invokevirtual 131, 3) := dk_182 0 131 (dk_at dksX0_kept_6 3 rfl rfl)
theorem dX0_kept_146 : decode cX0_kept 146 = .ok (.ireturn, 1) := dk_172 (dk_at dksX0_kept_6 6 rfl rfl)
abbrev cX0_net : ByteArray := prog_1_method_45_code
def yX0_net : MethodName := ⟨RX0, "net", "(I)I"⟩
def dkwX0_net_2 : List UInt8 := [27, 29, 184, 0, 127, 46, 100, 96, 61, 132, 3, 1, 167, 255, 212, 28, 172, 77, 42, 44, 182, 0, 131, 172]
abbrev dktX0_net_2 : List UInt8 := dkwX0_net_2 ++ []
def dkwX0_net_1 : List UInt8 := [162, 0, 39, 28, 42, 180, 0, 46, 180, 0, 124, 29, 27, 184, 0, 127, 46, 42, 180, 0, 46, 180, 0, 124]
abbrev dktX0_net_1 : List UInt8 := dkwX0_net_1 ++ dktX0_net_2
def dkwX0_net_0 : List UInt8 := [42, 42, 27, 182, 0, 103, 4, 182, 0, 94, 3, 61, 3, 62, 29, 42, 180, 0, 46, 180, 0, 100]
abbrev dktX0_net_0 : List UInt8 := dkwX0_net_0 ++ dktX0_net_1
theorem dksX0_net_0 : cX0_net.data.toList.drop 0 = dktX0_net_0 := by decide +kernel
theorem dksX0_net_1 : cX0_net.data.toList.drop 22 = dktX0_net_1 := dk_seg dksX0_net_0 22 rfl rfl
theorem dksX0_net_2 : cX0_net.data.toList.drop 46 = dktX0_net_2 := dk_seg dksX0_net_1 24 rfl rfl
theorem dX0_net_0 : decode cX0_net 0 = .ok (.aload_n 0, 1) := dk_42 (dk_at dksX0_net_0 0 rfl rfl)
theorem dX0_net_1 : decode cX0_net 1 = .ok (.aload_n 0, 1) := dk_42 (dk_at dksX0_net_0 1 rfl rfl)
theorem dX0_net_2 : decode cX0_net 2 = .ok (.iload_n 1, 1) := dk_27 (dk_at dksX0_net_0 2 rfl rfl)
theorem dX0_net_3 : decode cX0_net 3 = .ok (.invokevirtual 103, 3) := dk_182 0 103 (dk_at dksX0_net_0 3 rfl rfl)
theorem dX0_net_6 : decode cX0_net 6 = .ok (.iconst 1, 1) := dk_4 (dk_at dksX0_net_0 6 rfl rfl)
theorem dX0_net_7 : decode cX0_net 7 = .ok (.invokevirtual 94, 3) := dk_182 0 94 (dk_at dksX0_net_0 7 rfl rfl)
theorem dX0_net_10 : decode cX0_net 10 = .ok (.iconst 0, 1) := dk_3 (dk_at dksX0_net_0 10 rfl rfl)
theorem dX0_net_11 : decode cX0_net 11 = .ok (.istore_n 2, 1) := dk_61 (dk_at dksX0_net_0 11 rfl rfl)
theorem dX0_net_12 : decode cX0_net 12 = .ok (.iconst 0, 1) := dk_3 (dk_at dksX0_net_0 12 rfl rfl)
theorem dX0_net_13 : decode cX0_net 13 = .ok (.istore_n 3, 1) := dk_62 (dk_at dksX0_net_0 13 rfl rfl)
theorem dX0_net_14 : decode cX0_net 14 = .ok (.iload_n 3, 1) := dk_29 (dk_at dksX0_net_0 14 rfl rfl)
theorem dX0_net_15 : decode cX0_net 15 = .ok (.aload_n 0, 1) := dk_42 (dk_at dksX0_net_0 15 rfl rfl)
theorem dX0_net_16 : decode cX0_net 16 = .ok (.getfield 46, 3) := dk_180 0 46 (dk_at dksX0_net_0 16 rfl rfl)
theorem dX0_net_19 : decode cX0_net 19 = .ok (.getfield 100, 3) := dk_180 0 100 (dk_at dksX0_net_0 19 rfl rfl)
theorem dX0_net_22 : decode cX0_net 22 = .ok (.if_icmp .ge 39, 3) := dk_162 0 39 (dk_at dksX0_net_1 0 rfl rfl)
theorem dX0_net_25 : decode cX0_net 25 = .ok (.iload_n 2, 1) := dk_28 (dk_at dksX0_net_1 3 rfl rfl)
theorem dX0_net_26 : decode cX0_net 26 = .ok (.aload_n 0, 1) := dk_42 (dk_at dksX0_net_1 4 rfl rfl)
theorem dX0_net_27 : decode cX0_net 27 = .ok (.getfield 46, 3) := dk_180 0 46 (dk_at dksX0_net_1 5 rfl rfl)
theorem dX0_net_30 : decode cX0_net 30 = .ok (.getfield 124, 3) := dk_180 0 124 (dk_at dksX0_net_1 8 rfl rfl)
theorem dX0_net_33 : decode cX0_net 33 = .ok (.iload_n 3, 1) := dk_29 (dk_at dksX0_net_1 11 rfl rfl)
theorem dX0_net_34 : decode cX0_net 34 = .ok (.iload_n 1, 1) := dk_27 (dk_at dksX0_net_1 12 rfl rfl)
theorem dX0_net_35 : decode cX0_net 35 = .ok (.invokestatic 127, 3) := dk_184 0 127 (dk_at dksX0_net_1 13 rfl rfl)
theorem dX0_net_38 : decode cX0_net 38 = .ok (.iaload, 1) := dk_46 (dk_at dksX0_net_1 16 rfl rfl)
theorem dX0_net_39 : decode cX0_net 39 = .ok (.aload_n 0, 1) := dk_42 (dk_at dksX0_net_1 17 rfl rfl)
theorem dX0_net_40 : decode cX0_net 40 = .ok (.getfield 46, 3) := dk_180 0 46 (dk_at dksX0_net_1 18 rfl rfl)
theorem dX0_net_43 : decode cX0_net 43 = .ok (.getfield 124, 3) := dk_180 0 124 (dk_at dksX0_net_1 21 rfl rfl)
theorem dX0_net_46 : decode cX0_net 46 = .ok (.iload_n 1, 1) := dk_27 (dk_at dksX0_net_2 0 rfl rfl)
theorem dX0_net_47 : decode cX0_net 47 = .ok (.iload_n 3, 1) := dk_29 (dk_at dksX0_net_2 1 rfl rfl)
theorem dX0_net_48 : decode cX0_net 48 = .ok (.invokestatic 127, 3) := dk_184 0 127 (dk_at dksX0_net_2 2 rfl rfl)
theorem dX0_net_51 : decode cX0_net 51 = .ok (.iaload, 1) := dk_46 (dk_at dksX0_net_2 5 rfl rfl)
theorem dX0_net_52 : decode cX0_net 52 = .ok (.isub, 1) := dk_100 (dk_at dksX0_net_2 6 rfl rfl)
theorem dX0_net_53 : decode cX0_net 53 = .ok (.iadd, 1) := dk_96 (dk_at dksX0_net_2 7 rfl rfl)
theorem dX0_net_54 : decode cX0_net 54 = .ok (.istore_n 2, 1) := dk_61 (dk_at dksX0_net_2 8 rfl rfl)
theorem dX0_net_55 : decode cX0_net 55 = .ok (.iinc 3 1, 3) := dk_132 3 1 (dk_at dksX0_net_2 9 rfl rfl)
theorem dX0_net_58 : decode cX0_net 58 = .ok (.goto (-44), 3) := dk_167 255 212 (dk_at dksX0_net_2 12 rfl rfl)
theorem dX0_net_61 : decode cX0_net 61 = .ok (.iload_n 2, 1) := dk_28 (dk_at dksX0_net_2 15 rfl rfl)
theorem dX0_net_62 : decode cX0_net 62 = .ok (.ireturn, 1) := dk_172 (dk_at dksX0_net_2 16 rfl rfl)
theorem dX0_net_63 : decode cX0_net 63 = .ok (.astore_n 2, 1) := dk_77 (dk_at dksX0_net_2 17 rfl rfl)
theorem dX0_net_64 : decode cX0_net 64 = .ok (.aload_n 0, 1) := dk_42 (dk_at dksX0_net_2 18 rfl rfl)
theorem dX0_net_65 : decode cX0_net 65 = .ok (.aload_n 2, 1) := dk_44 (dk_at dksX0_net_2 19 rfl rfl)
theorem dX0_net_66 : decode cX0_net 66 = .ok (.invokevirtual 131, 3) := dk_182 0 131 (dk_at dksX0_net_2 20 rfl rfl)
theorem dX0_net_69 : decode cX0_net 69 = .ok (.ireturn, 1) := dk_172 (dk_at dksX0_net_2 23 rfl rfl)
abbrev cX0_struck : ByteArray := prog_1_method_46_code
def yX0_struck : MethodName := ⟨RX0, "struck", "(I)I"⟩
def dkwX0_struck_2 : List UInt8 := [182, 0, 131, 172]
abbrev dktX0_struck_2 : List UInt8 := dkwX0_struck_2 ++ []
def dkwX0_struck_1 : List UInt8 := [182, 0, 214, 61, 27, 154, 0, 7, 28, 167, 0, 10, 42, 180, 0, 53, 182, 1, 51, 172, 77, 42, 44]
abbrev dktX0_struck_1 : List UInt8 := dkwX0_struck_1 ++ dktX0_struck_2
def dkwX0_struck_0 : List UInt8 := [42, 27, 3, 4, 184, 0, 86, 4, 182, 0, 94, 42, 180, 0, 53, 42, 180, 0, 46, 182, 0, 220]
abbrev dktX0_struck_0 : List UInt8 := dkwX0_struck_0 ++ dktX0_struck_1
theorem dksX0_struck_0 : cX0_struck.data.toList.drop 0 = dktX0_struck_0 := by decide +kernel
theorem dksX0_struck_1 : cX0_struck.data.toList.drop 22 = dktX0_struck_1 := dk_seg dksX0_struck_0 22 rfl rfl
theorem dksX0_struck_2 : cX0_struck.data.toList.drop 45 = dktX0_struck_2 := dk_seg dksX0_struck_1 23 rfl rfl
theorem dX0_struck_0 : decode cX0_struck 0 = .ok (.aload_n 0, 1) := dk_42 (dk_at dksX0_struck_0 0 rfl rfl)
theorem dX0_struck_1 : decode cX0_struck 1 = .ok (.iload_n 1, 1) := dk_27 (dk_at dksX0_struck_0 1 rfl rfl)
theorem dX0_struck_2 : decode cX0_struck 2 = .ok (.iconst 0, 1) := dk_3 (dk_at dksX0_struck_0 2 rfl rfl)
theorem dX0_struck_3 : decode cX0_struck 3 = .ok (.iconst 1, 1) := dk_4 (dk_at dksX0_struck_0 3 rfl rfl)
theorem dX0_struck_4 : decode cX0_struck 4 = .ok (.invokestatic 86, 3) := dk_184 0 86 (dk_at dksX0_struck_0 4 rfl rfl)
theorem dX0_struck_7 : decode cX0_struck 7 = .ok (.iconst 1, 1) := dk_4 (dk_at dksX0_struck_0 7 rfl rfl)
theorem dX0_struck_8 : decode cX0_struck 8 = .ok (.invokevirtual 94, 3) := dk_182 0 94 (dk_at dksX0_struck_0 8 rfl rfl)
theorem dX0_struck_11 : decode cX0_struck 11 = .ok (.aload_n 0, 1) := dk_42 (dk_at dksX0_struck_0 11 rfl rfl)
theorem dX0_struck_12 : decode cX0_struck 12 = .ok (.getfield 53, 3) := dk_180 0 53 (dk_at dksX0_struck_0 12 rfl rfl)
theorem dX0_struck_15 : decode cX0_struck 15 = .ok (.aload_n 0, 1) := dk_42 (dk_at dksX0_struck_0 15 rfl rfl)
theorem dX0_struck_16 : decode cX0_struck 16 = .ok (.getfield 46, 3) := dk_180 0 46 (dk_at dksX0_struck_0 16 rfl rfl)
theorem dX0_struck_19 : decode cX0_struck 19 = .ok (.invokevirtual 220, 3) := dk_182 0 220 (dk_at dksX0_struck_0 19 rfl rfl)
theorem dX0_struck_22 : decode cX0_struck 22 = .ok (.invokevirtual 214, 3) := dk_182 0 214 (dk_at dksX0_struck_1 0 rfl rfl)
theorem dX0_struck_25 : decode cX0_struck 25 = .ok (.istore_n 2, 1) := dk_61 (dk_at dksX0_struck_1 3 rfl rfl)
theorem dX0_struck_26 : decode cX0_struck 26 = .ok (.iload_n 1, 1) := dk_27 (dk_at dksX0_struck_1 4 rfl rfl)
theorem dX0_struck_27 : decode cX0_struck 27 = .ok (.ifCond .ne 7, 3) := dk_154 0 7 (dk_at dksX0_struck_1 5 rfl rfl)
theorem dX0_struck_30 : decode cX0_struck 30 = .ok (.iload_n 2, 1) := dk_28 (dk_at dksX0_struck_1 8 rfl rfl)
theorem dX0_struck_31 : decode cX0_struck 31 = .ok (.goto 10, 3) := dk_167 0 10 (dk_at dksX0_struck_1 9 rfl rfl)
theorem dX0_struck_34 : decode cX0_struck 34 = .ok (.aload_n 0, 1) := dk_42 (dk_at dksX0_struck_1 12 rfl rfl)
theorem dX0_struck_35 : decode cX0_struck 35 = .ok (.getfield 53, 3) := dk_180 0 53 (dk_at dksX0_struck_1 13 rfl rfl)
theorem dX0_struck_38 : decode cX0_struck 38 = .ok (.invokevirtual 307, 3) := dk_182 1 51 (dk_at dksX0_struck_1 16 rfl rfl)
theorem dX0_struck_41 : decode cX0_struck 41 = .ok (.ireturn, 1) := dk_172 (dk_at dksX0_struck_1 19 rfl rfl)
theorem dX0_struck_42 : decode cX0_struck 42 = .ok (.astore_n 2, 1) := dk_77 (dk_at dksX0_struck_1 20 rfl rfl)
theorem dX0_struck_43 : decode cX0_struck 43 = .ok (.aload_n 0, 1) := dk_42 (dk_at dksX0_struck_1 21 rfl rfl)
theorem dX0_struck_44 : decode cX0_struck 44 = .ok (.aload_n 2, 1) := dk_44 (dk_at dksX0_struck_1 22 rfl rfl)
theorem dX0_struck_45 : decode cX0_struck 45 = .ok (.invokevirtual 131, 3) := dk_182 0 131 (dk_at dksX0_struck_2 0 rfl rfl)
theorem dX0_struck_48 : decode cX0_struck 48 = .ok (.ireturn, 1) := dk_172 (dk_at dksX0_struck_2 3 rfl rfl)
abbrev cX0_odds : ByteArray := prog_1_method_48_code
def yX0_odds : MethodName := ⟨RX0, "odds", "(II)I"⟩
def dkwX0_odds_3 : List UInt8 := [182, 0, 131, 172]
abbrev dktX0_odds_3 : List UInt8 := dkwX0_odds_3 ++ []
def dkwX0_odds_2 : List UInt8 := [54, 4, 28, 154, 0, 10, 29, 21, 4, 108, 167, 0, 8, 16, 7, 21, 4, 108, 172, 78, 42, 45]
abbrev dktX0_odds_2 : List UInt8 := dkwX0_odds_2 ++ dktX0_odds_3
def dkwX0_odds_1 : List UInt8 := [182, 0, 94, 42, 27, 42, 180, 0, 46, 180, 0, 115, 27, 46, 182, 1, 19, 62, 29, 16, 7, 184, 1, 54]
abbrev dktX0_odds_1 : List UInt8 := dkwX0_odds_1 ++ dktX0_odds_2
def dkwX0_odds_0 : List UInt8 := [42, 42, 27, 182, 0, 103, 153, 0, 16, 28, 3, 4, 184, 0, 86, 153, 0, 7, 4, 167, 0, 4, 3, 4]
abbrev dktX0_odds_0 : List UInt8 := dkwX0_odds_0 ++ dktX0_odds_1
theorem dksX0_odds_0 : cX0_odds.data.toList.drop 0 = dktX0_odds_0 := by decide +kernel
theorem dksX0_odds_1 : cX0_odds.data.toList.drop 24 = dktX0_odds_1 := dk_seg dksX0_odds_0 24 rfl rfl
theorem dksX0_odds_2 : cX0_odds.data.toList.drop 48 = dktX0_odds_2 := dk_seg dksX0_odds_1 24 rfl rfl
theorem dksX0_odds_3 : cX0_odds.data.toList.drop 70 = dktX0_odds_3 := dk_seg dksX0_odds_2 22 rfl rfl
theorem dX0_odds_0 : decode cX0_odds 0 = .ok (.aload_n 0, 1) := dk_42 (dk_at dksX0_odds_0 0 rfl rfl)
theorem dX0_odds_1 : decode cX0_odds 1 = .ok (.aload_n 0, 1) := dk_42 (dk_at dksX0_odds_0 1 rfl rfl)
theorem dX0_odds_2 : decode cX0_odds 2 = .ok (.iload_n 1, 1) := dk_27 (dk_at dksX0_odds_0 2 rfl rfl)
theorem dX0_odds_3 : decode cX0_odds 3 = .ok (.invokevirtual 103, 3) := dk_182 0 103 (dk_at dksX0_odds_0 3 rfl rfl)
theorem dX0_odds_6 : decode cX0_odds 6 = .ok (.ifCond .eq 16, 3) := dk_153 0 16 (dk_at dksX0_odds_0 6 rfl rfl)
theorem dX0_odds_9 : decode cX0_odds 9 = .ok (.iload_n 2, 1) := dk_28 (dk_at dksX0_odds_0 9 rfl rfl)
theorem dX0_odds_10 : decode cX0_odds 10 = .ok (.iconst 0, 1) := dk_3 (dk_at dksX0_odds_0 10 rfl rfl)
theorem dX0_odds_11 : decode cX0_odds 11 = .ok (.iconst 1, 1) := dk_4 (dk_at dksX0_odds_0 11 rfl rfl)
theorem dX0_odds_12 : decode cX0_odds 12 = .ok (.invokestatic 86, 3) := dk_184 0 86 (dk_at dksX0_odds_0 12 rfl rfl)
theorem dX0_odds_15 : decode cX0_odds 15 = .ok (.ifCond .eq 7, 3) := dk_153 0 7 (dk_at dksX0_odds_0 15 rfl rfl)
theorem dX0_odds_18 : decode cX0_odds 18 = .ok (.iconst 1, 1) := dk_4 (dk_at dksX0_odds_0 18 rfl rfl)
theorem dX0_odds_19 : decode cX0_odds 19 = .ok (.goto 4, 3) := dk_167 0 4 (dk_at dksX0_odds_0 19 rfl rfl)
theorem dX0_odds_22 : decode cX0_odds 22 = .ok (.iconst 0, 1) := dk_3 (dk_at dksX0_odds_0 22 rfl rfl)
theorem dX0_odds_23 : decode cX0_odds 23 = .ok (.iconst 1, 1) := dk_4 (dk_at dksX0_odds_0 23 rfl rfl)
theorem dX0_odds_24 : decode cX0_odds 24 = .ok (.invokevirtual 94, 3) := dk_182 0 94 (dk_at dksX0_odds_1 0 rfl rfl)
theorem dX0_odds_27 : decode cX0_odds 27 = .ok (.aload_n 0, 1) := dk_42 (dk_at dksX0_odds_1 3 rfl rfl)
theorem dX0_odds_28 : decode cX0_odds 28 = .ok (.iload_n 1, 1) := dk_27 (dk_at dksX0_odds_1 4 rfl rfl)
theorem dX0_odds_29 : decode cX0_odds 29 = .ok (.aload_n 0, 1) := dk_42 (dk_at dksX0_odds_1 5 rfl rfl)
theorem dX0_odds_30 : decode cX0_odds 30 = .ok (.getfield 46, 3) := dk_180 0 46 (dk_at dksX0_odds_1 6 rfl rfl)
theorem dX0_odds_33 : decode cX0_odds 33 = .ok (.getfield 115, 3) := dk_180 0 115 (dk_at dksX0_odds_1 9 rfl rfl)
theorem dX0_odds_36 : decode cX0_odds 36 = .ok (.iload_n 1, 1) := dk_27 (dk_at dksX0_odds_1 12 rfl rfl)
theorem dX0_odds_37 : decode cX0_odds 37 = .ok (.iaload, 1) := dk_46 (dk_at dksX0_odds_1 13 rfl rfl)
theorem dX0_odds_38 : decode cX0_odds 38 = .ok (.invokevirtual 275, 3) := dk_182 1 19 (dk_at dksX0_odds_1 14 rfl rfl)
theorem dX0_odds_41 : decode cX0_odds 41 = .ok (.istore_n 3, 1) := dk_62 (dk_at dksX0_odds_1 17 rfl rfl)
theorem dX0_odds_42 : decode cX0_odds 42 = .ok (.iload_n 3, 1) := dk_29 (dk_at dksX0_odds_1 18 rfl rfl)
theorem dX0_odds_43 : decode cX0_odds 43 = .ok (.bipush 7, 2) := dk_16 7 (dk_at dksX0_odds_1 19 rfl rfl)
theorem dX0_odds_45 : decode cX0_odds 45 = .ok (.invokestatic 310, 3) := dk_184 1 54 (dk_at dksX0_odds_1 21 rfl rfl)
theorem dX0_odds_48 : decode cX0_odds 48 = .ok (.istore 4, 2) := dk_54 4 (dk_at dksX0_odds_2 0 rfl rfl)
theorem dX0_odds_50 : decode cX0_odds 50 = .ok (.iload_n 2, 1) := dk_28 (dk_at dksX0_odds_2 2 rfl rfl)
theorem dX0_odds_51 : decode cX0_odds 51 = .ok (.ifCond .ne 10, 3) := dk_154 0 10 (dk_at dksX0_odds_2 3 rfl rfl)
theorem dX0_odds_54 : decode cX0_odds 54 = .ok (.iload_n 3, 1) := dk_29 (dk_at dksX0_odds_2 6 rfl rfl)
theorem dX0_odds_55 : decode cX0_odds 55 = .ok (.iload 4, 2) := dk_21 4 (dk_at dksX0_odds_2 7 rfl rfl)
theorem dX0_odds_57 : decode cX0_odds 57 = .ok (.idiv, 1) := dk_108 (dk_at dksX0_odds_2 9 rfl rfl)
theorem dX0_odds_58 : decode cX0_odds 58 = .ok (.goto 8, 3) := dk_167 0 8 (dk_at dksX0_odds_2 10 rfl rfl)
theorem dX0_odds_61 : decode cX0_odds 61 = .ok (.bipush 7, 2) := dk_16 7 (dk_at dksX0_odds_2 13 rfl rfl)
theorem dX0_odds_63 : decode cX0_odds 63 = .ok (.iload 4, 2) := dk_21 4 (dk_at dksX0_odds_2 15 rfl rfl)
theorem dX0_odds_65 : decode cX0_odds 65 = .ok (.idiv, 1) := dk_108 (dk_at dksX0_odds_2 17 rfl rfl)
theorem dX0_odds_66 : decode cX0_odds 66 = .ok (.ireturn, 1) := dk_172 (dk_at dksX0_odds_2 18 rfl rfl)
theorem dX0_odds_67 : decode cX0_odds 67 = .ok (.astore_n 3, 1) := dk_78 (dk_at dksX0_odds_2 19 rfl rfl)
theorem dX0_odds_68 : decode cX0_odds 68 = .ok (.aload_n 0, 1) := dk_42 (dk_at dksX0_odds_2 20 rfl rfl)
theorem dX0_odds_69 : decode cX0_odds 69 = .ok (.aload_n 3, 1) := dk_45 (dk_at dksX0_odds_2 21 rfl rfl)
theorem dX0_odds_70 : decode cX0_odds 70 = .ok (.invokevirtual 131, 3) := dk_182 0 131 (dk_at dksX0_odds_3 0 rfl rfl)
theorem dX0_odds_73 : decode cX0_odds 73 = .ok (.ireturn, 1) := dk_172 (dk_at dksX0_odds_3 3 rfl rfl)
abbrev cX0_common : ByteArray := prog_1_method_47_code
def yX0_common : MethodName := ⟨RX0, "common", "(II)I"⟩
def dkwX0_common_0 : List UInt8 := [26, 61, 27, 62, 29, 153, 0, 16, 28, 29, 112, 54, 4, 29, 61, 21, 4, 62, 167, 255, 242, 28, 172]
abbrev dktX0_common_0 : List UInt8 := dkwX0_common_0 ++ []
theorem dksX0_common_0 : cX0_common.data.toList.drop 0 = dktX0_common_0 := by decide +kernel
theorem dX0_common_0 : decode cX0_common 0 = .ok (.iload_n 0, 1) := dk_26 (dk_at dksX0_common_0 0 rfl rfl)
theorem dX0_common_1 : decode cX0_common 1 = .ok (.istore_n 2, 1) := dk_61 (dk_at dksX0_common_0 1 rfl rfl)
theorem dX0_common_2 : decode cX0_common 2 = .ok (.iload_n 1, 1) := dk_27 (dk_at dksX0_common_0 2 rfl rfl)
theorem dX0_common_3 : decode cX0_common 3 = .ok (.istore_n 3, 1) := dk_62 (dk_at dksX0_common_0 3 rfl rfl)
theorem dX0_common_4 : decode cX0_common 4 = .ok (.iload_n 3, 1) := dk_29 (dk_at dksX0_common_0 4 rfl rfl)
theorem dX0_common_5 : decode cX0_common 5 = .ok (.ifCond .eq 16, 3) := dk_153 0 16 (dk_at dksX0_common_0 5 rfl rfl)
theorem dX0_common_8 : decode cX0_common 8 = .ok (.iload_n 2, 1) := dk_28 (dk_at dksX0_common_0 8 rfl rfl)
theorem dX0_common_9 : decode cX0_common 9 = .ok (.iload_n 3, 1) := dk_29 (dk_at dksX0_common_0 9 rfl rfl)
theorem dX0_common_10 : decode cX0_common 10 = .ok (.irem, 1) := dk_112 (dk_at dksX0_common_0 10 rfl rfl)
theorem dX0_common_11 : decode cX0_common 11 = .ok (.istore 4, 2) := dk_54 4 (dk_at dksX0_common_0 11 rfl rfl)
theorem dX0_common_13 : decode cX0_common 13 = .ok (.iload_n 3, 1) := dk_29 (dk_at dksX0_common_0 13 rfl rfl)
theorem dX0_common_14 : decode cX0_common 14 = .ok (.istore_n 2, 1) := dk_61 (dk_at dksX0_common_0 14 rfl rfl)
theorem dX0_common_15 : decode cX0_common 15 = .ok (.iload 4, 2) := dk_21 4 (dk_at dksX0_common_0 15 rfl rfl)
theorem dX0_common_17 : decode cX0_common 17 = .ok (.istore_n 3, 1) := dk_62 (dk_at dksX0_common_0 17 rfl rfl)
theorem dX0_common_18 : decode cX0_common 18 = .ok (.goto (-14), 3) := dk_167 255 242 (dk_at dksX0_common_0 18 rfl rfl)
theorem dX0_common_21 : decode cX0_common 21 = .ok (.iload_n 2, 1) := dk_28 (dk_at dksX0_common_0 21 rfl rfl)
theorem dX0_common_22 : decode cX0_common 22 = .ok (.ireturn, 1) := dk_172 (dk_at dksX0_common_0 22 rfl rfl)
abbrev cX0_dry : ByteArray := prog_1_method_49_code
def yX0_dry : MethodName := ⟨RX0, "dry", "()I"⟩
def dkwX0_dry_2 : List UInt8 := [163, 0, 7, 4, 167, 0, 4, 3, 5, 182, 0, 94, 27, 172, 76, 42, 43, 182, 0, 131, 172]
abbrev dktX0_dry_2 : List UInt8 := dkwX0_dry_2 ++ []
def dkwX0_dry_1 : List UInt8 := [182, 1, 28, 153, 0, 16, 42, 180, 0, 53, 182, 0, 228, 132, 1, 1, 167, 255, 230, 42, 27, 16, 60]
abbrev dktX0_dry_1 : List UInt8 := dkwX0_dry_1 ++ dktX0_dry_2
def dkwX0_dry_0 : List UInt8 := [42, 180, 0, 53, 42, 180, 0, 46, 182, 0, 220, 87, 3, 60, 27, 16, 60, 163, 0, 26, 42, 180, 0, 53]
abbrev dktX0_dry_0 : List UInt8 := dkwX0_dry_0 ++ dktX0_dry_1
theorem dksX0_dry_0 : cX0_dry.data.toList.drop 0 = dktX0_dry_0 := by decide +kernel
theorem dksX0_dry_1 : cX0_dry.data.toList.drop 24 = dktX0_dry_1 := dk_seg dksX0_dry_0 24 rfl rfl
theorem dksX0_dry_2 : cX0_dry.data.toList.drop 47 = dktX0_dry_2 := dk_seg dksX0_dry_1 23 rfl rfl
theorem dX0_dry_0 : decode cX0_dry 0 = .ok (.aload_n 0, 1) := dk_42 (dk_at dksX0_dry_0 0 rfl rfl)
theorem dX0_dry_1 : decode cX0_dry 1 = .ok (.getfield 53, 3) := dk_180 0 53 (dk_at dksX0_dry_0 1 rfl rfl)
theorem dX0_dry_4 : decode cX0_dry 4 = .ok (.aload_n 0, 1) := dk_42 (dk_at dksX0_dry_0 4 rfl rfl)
theorem dX0_dry_5 : decode cX0_dry 5 = .ok (.getfield 46, 3) := dk_180 0 46 (dk_at dksX0_dry_0 5 rfl rfl)
theorem dX0_dry_8 : decode cX0_dry 8 = .ok (.invokevirtual 220, 3) := dk_182 0 220 (dk_at dksX0_dry_0 8 rfl rfl)
theorem dX0_dry_11 : decode cX0_dry 11 = .ok (.pop, 1) := dk_87 (dk_at dksX0_dry_0 11 rfl rfl)
theorem dX0_dry_12 : decode cX0_dry 12 = .ok (.iconst 0, 1) := dk_3 (dk_at dksX0_dry_0 12 rfl rfl)
theorem dX0_dry_13 : decode cX0_dry 13 = .ok (.istore_n 1, 1) := dk_60 (dk_at dksX0_dry_0 13 rfl rfl)
theorem dX0_dry_14 : decode cX0_dry 14 = .ok (.iload_n 1, 1) := dk_27 (dk_at dksX0_dry_0 14 rfl rfl)
theorem dX0_dry_15 : decode cX0_dry 15 = .ok (.bipush 60, 2) := dk_16 60 (dk_at dksX0_dry_0 15 rfl rfl)
theorem dX0_dry_17 : decode cX0_dry 17 = .ok (.if_icmp .gt 26, 3) := dk_163 0 26 (dk_at dksX0_dry_0 17 rfl rfl)
theorem dX0_dry_20 : decode cX0_dry 20 = .ok (.aload_n 0, 1) := dk_42 (dk_at dksX0_dry_0 20 rfl rfl)
theorem dX0_dry_21 : decode cX0_dry 21 = .ok (.getfield 53, 3) := dk_180 0 53 (dk_at dksX0_dry_0 21 rfl rfl)
theorem dX0_dry_24 : decode cX0_dry 24 = .ok (.invokevirtual 284, 3) := dk_182 1 28 (dk_at dksX0_dry_1 0 rfl rfl)
theorem dX0_dry_27 : decode cX0_dry 27 = .ok (.ifCond .eq 16, 3) := dk_153 0 16 (dk_at dksX0_dry_1 3 rfl rfl)
theorem dX0_dry_30 : decode cX0_dry 30 = .ok (.aload_n 0, 1) := dk_42 (dk_at dksX0_dry_1 6 rfl rfl)
theorem dX0_dry_31 : decode cX0_dry 31 = .ok (.getfield 53, 3) := dk_180 0 53 (dk_at dksX0_dry_1 7 rfl rfl)
theorem dX0_dry_34 : decode cX0_dry 34 = .ok (.invokevirtual 228, 3) := dk_182 0 228 (dk_at dksX0_dry_1 10 rfl rfl)
theorem dX0_dry_37 : decode cX0_dry 37 = .ok (.iinc 1 1, 3) := dk_132 1 1 (dk_at dksX0_dry_1 13 rfl rfl)
theorem dX0_dry_40 : decode cX0_dry 40 = .ok (.goto (-26), 3) := dk_167 255 230 (dk_at dksX0_dry_1 16 rfl rfl)
theorem dX0_dry_43 : decode cX0_dry 43 = .ok (.aload_n 0, 1) := dk_42 (dk_at dksX0_dry_1 19 rfl rfl)
theorem dX0_dry_44 : decode cX0_dry 44 = .ok (.iload_n 1, 1) := dk_27 (dk_at dksX0_dry_1 20 rfl rfl)
theorem dX0_dry_45 : decode cX0_dry 45 = .ok (.bipush 60, 2) := dk_16 60 (dk_at dksX0_dry_1 21 rfl rfl)
theorem dX0_dry_47 : decode cX0_dry 47 = .ok (.if_icmp .gt 7, 3) := dk_163 0 7 (dk_at dksX0_dry_2 0 rfl rfl)
theorem dX0_dry_50 : decode cX0_dry 50 = .ok (.iconst 1, 1) := dk_4 (dk_at dksX0_dry_2 3 rfl rfl)
theorem dX0_dry_51 : decode cX0_dry 51 = .ok (.goto 4, 3) := dk_167 0 4 (dk_at dksX0_dry_2 4 rfl rfl)
theorem dX0_dry_54 : decode cX0_dry 54 = .ok (.iconst 0, 1) := dk_3 (dk_at dksX0_dry_2 7 rfl rfl)
theorem dX0_dry_55 : decode cX0_dry 55 = .ok (.iconst 2, 1) := dk_5 (dk_at dksX0_dry_2 8 rfl rfl)
theorem dX0_dry_56 : decode cX0_dry 56 = .ok (.invokevirtual 94, 3) := dk_182 0 94 (dk_at dksX0_dry_2 9 rfl rfl)
theorem dX0_dry_59 : decode cX0_dry 59 = .ok (.iload_n 1, 1) := dk_27 (dk_at dksX0_dry_2 12 rfl rfl)
theorem dX0_dry_60 : decode cX0_dry 60 = .ok (.ireturn, 1) := dk_172 (dk_at dksX0_dry_2 13 rfl rfl)
theorem dX0_dry_61 : decode cX0_dry 61 = .ok (.astore_n 1, 1) := dk_76 (dk_at dksX0_dry_2 14 rfl rfl)
theorem dX0_dry_62 : decode cX0_dry 62 = .ok (.aload_n 0, 1) := dk_42 (dk_at dksX0_dry_2 15 rfl rfl)
theorem dX0_dry_63 : decode cX0_dry 63 = .ok (.aload_n 1, 1) := dk_43 (dk_at dksX0_dry_2 16 rfl rfl)
theorem dX0_dry_64 : decode cX0_dry 64 = .ok (.invokevirtual 131, 3) := dk_182 0 131 (dk_at dksX0_dry_2 17 rfl rfl)
theorem dX0_dry_67 : decode cX0_dry 67 = .ok (.ireturn, 1) := dk_172 (dk_at dksX0_dry_2 20 rfl rfl)
abbrev cX0_seed : ByteArray := prog_1_method_50_code
def yX0_seed : MethodName := ⟨RX0, "seed", "(I)I"⟩
def dkwX0_seed_0 : List UInt8 := [42, 180, 0, 46, 180, 1, 57, 61, 42, 180, 0, 46, 27, 181, 1, 57, 28, 172]
abbrev dktX0_seed_0 : List UInt8 := dkwX0_seed_0 ++ []
theorem dksX0_seed_0 : cX0_seed.data.toList.drop 0 = dktX0_seed_0 := by decide +kernel
theorem dX0_seed_0 : decode cX0_seed 0 = .ok (.aload_n 0, 1) := dk_42 (dk_at dksX0_seed_0 0 rfl rfl)
theorem dX0_seed_1 : decode cX0_seed 1 = .ok (.getfield 46, 3) := dk_180 0 46 (dk_at dksX0_seed_0 1 rfl rfl)
theorem dX0_seed_4 : decode cX0_seed 4 = .ok (.getfield 313, 3) := dk_180 1 57 (dk_at dksX0_seed_0 4 rfl rfl)
theorem dX0_seed_7 : decode cX0_seed 7 = .ok (.istore_n 2, 1) := dk_61 (dk_at dksX0_seed_0 7 rfl rfl)
theorem dX0_seed_8 : decode cX0_seed 8 = .ok (.aload_n 0, 1) := dk_42 (dk_at dksX0_seed_0 8 rfl rfl)
theorem dX0_seed_9 : decode cX0_seed 9 = .ok (.getfield 46, 3) := dk_180 0 46 (dk_at dksX0_seed_0 9 rfl rfl)
theorem dX0_seed_12 : decode cX0_seed 12 = .ok (.iload_n 1, 1) := dk_27 (dk_at dksX0_seed_0 12 rfl rfl)
theorem dX0_seed_13 : decode cX0_seed 13 = .ok (.putfield 313, 3) := dk_181 1 57 (dk_at dksX0_seed_0 13 rfl rfl)
theorem dX0_seed_16 : decode cX0_seed 16 = .ok (.iload_n 2, 1) := dk_28 (dk_at dksX0_seed_0 16 rfl rfl)
theorem dX0_seed_17 : decode cX0_seed 17 = .ok (.ireturn, 1) := dk_172 (dk_at dksX0_seed_0 17 rfl rfl)
abbrev cX0_voice : ByteArray := prog_1_method_51_code
def yX0_voice : MethodName := ⟨RX0, "voice", "(III)I"⟩
def dkwX0_voice_3 : List UInt8 := [185, 1, 73, 2, 0, 172, 25, 4, 29, 185, 1, 78, 2, 0, 172, 58, 4, 42, 25, 4, 182, 0, 131, 172]
abbrev dktX0_voice_3 : List UInt8 := dkwX0_voice_3 ++ []
def dkwX0_voice_2 : List UInt8 := [25, 4, 29, 185, 1, 63, 2, 0, 172, 25, 4, 29, 185, 1, 68, 2, 0, 172, 25, 4, 29]
abbrev dktX0_voice_2 : List UInt8 := dkwX0_voice_2 ++ dktX0_voice_3
def dkwX0_voice_1 : List UInt8 := [170, 0, 0, 0, 0, 53, 0, 0, 0, 0, 0, 0, 0, 2, 0, 0, 0, 26, 0, 0, 0, 35, 0, 0, 0, 44]
abbrev dktX0_voice_1 : List UInt8 := dkwX0_voice_1 ++ dktX0_voice_2
def dkwX0_voice_0 : List UInt8 := [42, 27, 28, 3, 6, 184, 0, 86, 182, 0, 135, 58, 4, 42, 180, 0, 59, 3, 181, 1, 60, 28]
abbrev dktX0_voice_0 : List UInt8 := dkwX0_voice_0 ++ dktX0_voice_1
theorem dksX0_voice_0 : cX0_voice.data.toList.drop 0 = dktX0_voice_0 := by decide +kernel
theorem dksX0_voice_1 : cX0_voice.data.toList.drop 22 = dktX0_voice_1 := dk_seg dksX0_voice_0 22 rfl rfl
theorem dksX0_voice_2 : cX0_voice.data.toList.drop 48 = dktX0_voice_2 := dk_seg dksX0_voice_1 26 rfl rfl
theorem dksX0_voice_3 : cX0_voice.data.toList.drop 69 = dktX0_voice_3 := dk_seg dksX0_voice_2 21 rfl rfl
theorem dX0_voice_0 : decode cX0_voice 0 = .ok (.aload_n 0, 1) := dk_42 (dk_at dksX0_voice_0 0 rfl rfl)
theorem dX0_voice_1 : decode cX0_voice 1 = .ok (.iload_n 1, 1) := dk_27 (dk_at dksX0_voice_0 1 rfl rfl)
theorem dX0_voice_2 : decode cX0_voice 2 = .ok (.iload_n 2, 1) := dk_28 (dk_at dksX0_voice_0 2 rfl rfl)
theorem dX0_voice_3 : decode cX0_voice 3 = .ok (.iconst 0, 1) := dk_3 (dk_at dksX0_voice_0 3 rfl rfl)
theorem dX0_voice_4 : decode cX0_voice 4 = .ok (.iconst 3, 1) := dk_6 (dk_at dksX0_voice_0 4 rfl rfl)
theorem dX0_voice_5 : decode cX0_voice 5 = .ok (.invokestatic 86, 3) := dk_184 0 86 (dk_at dksX0_voice_0 5 rfl rfl)
theorem dX0_voice_8 : decode cX0_voice 8 = .ok (.invokevirtual 135, 3) := dk_182 0 135 (dk_at dksX0_voice_0 8 rfl rfl)
theorem dX0_voice_11 : decode cX0_voice 11 = .ok (.astore 4, 2) := dk_58 4 (dk_at dksX0_voice_0 11 rfl rfl)
theorem dX0_voice_13 : decode cX0_voice 13 = .ok (.aload_n 0, 1) := dk_42 (dk_at dksX0_voice_0 13 rfl rfl)
theorem dX0_voice_14 : decode cX0_voice 14 = .ok (.getfield 59, 3) := dk_180 0 59 (dk_at dksX0_voice_0 14 rfl rfl)
theorem dX0_voice_17 : decode cX0_voice 17 = .ok (.iconst 0, 1) := dk_3 (dk_at dksX0_voice_0 17 rfl rfl)
theorem dX0_voice_18 : decode cX0_voice 18 = .ok (.putfield 316, 3) := dk_181 1 60 (dk_at dksX0_voice_0 18 rfl rfl)
theorem dX0_voice_21 : decode cX0_voice 21 = .ok (.iload_n 2, 1) := dk_28 (dk_at dksX0_voice_0 21 rfl rfl)
theorem dX0_voice_22 : decode cX0_voice 22 = .ok (.tableswitch 53 0 2 #[26, 35, 44], 26) := by decide +kernel
theorem dX0_voice_48 : decode cX0_voice 48 = .ok (.aload 4, 2) := dk_25 4 (dk_at dksX0_voice_2 0 rfl rfl)
theorem dX0_voice_50 : decode cX0_voice 50 = .ok (.iload_n 3, 1) := dk_29 (dk_at dksX0_voice_2 2 rfl rfl)
theorem dX0_voice_51 : decode cX0_voice 51 = .ok (.invokeinterface 319 2, 5) := by decide +kernel
theorem dX0_voice_56 : decode cX0_voice 56 = .ok (.ireturn, 1) := dk_172 (dk_at dksX0_voice_2 8 rfl rfl)
theorem dX0_voice_57 : decode cX0_voice 57 = .ok (.aload 4, 2) := dk_25 4 (dk_at dksX0_voice_2 9 rfl rfl)
theorem dX0_voice_59 : decode cX0_voice 59 = .ok (.iload_n 3, 1) := dk_29 (dk_at dksX0_voice_2 11 rfl rfl)
theorem dX0_voice_60 : decode cX0_voice 60 = .ok (.invokeinterface 324 2, 5) := by decide +kernel
theorem dX0_voice_65 : decode cX0_voice 65 = .ok (.ireturn, 1) := dk_172 (dk_at dksX0_voice_2 17 rfl rfl)
theorem dX0_voice_66 : decode cX0_voice 66 = .ok (.aload 4, 2) := dk_25 4 (dk_at dksX0_voice_2 18 rfl rfl)
theorem dX0_voice_68 : decode cX0_voice 68 = .ok (.iload_n 3, 1) := dk_29 (dk_at dksX0_voice_2 20 rfl rfl)
theorem dX0_voice_69 : decode cX0_voice 69 = .ok (.invokeinterface 329 2, 5) := by decide +kernel
theorem dX0_voice_74 : decode cX0_voice 74 = .ok (.ireturn, 1) := dk_172 (dk_at dksX0_voice_3 5 rfl rfl)
theorem dX0_voice_75 : decode cX0_voice 75 = .ok (.aload 4, 2) := dk_25 4 (dk_at dksX0_voice_3 6 rfl rfl)
theorem dX0_voice_77 : decode cX0_voice 77 = .ok (.iload_n 3, 1) := dk_29 (dk_at dksX0_voice_3 8 rfl rfl)
theorem dX0_voice_78 : decode cX0_voice 78 = .ok (.invokeinterface 334 2, 5) := by decide +kernel
theorem dX0_voice_83 : decode cX0_voice 83 = .ok (.ireturn, 1) := dk_172 (dk_at dksX0_voice_3 14 rfl rfl)
theorem dX0_voice_84 : decode cX0_voice 84 = .ok (.astore 4, 2) := dk_58 4 (dk_at dksX0_voice_3 15 rfl rfl)
theorem dX0_voice_86 : decode cX0_voice 86 = .ok (.aload_n 0, 1) := dk_42 (dk_at dksX0_voice_3 17 rfl rfl)
theorem dX0_voice_87 : decode cX0_voice 87 = .ok (.aload 4, 2) := dk_25 4 (dk_at dksX0_voice_3 18 rfl rfl)
theorem dX0_voice_89 : decode cX0_voice 89 = .ok (.invokevirtual 131, 3) := dk_182 0 131 (dk_at dksX0_voice_3 20 rfl rfl)
theorem dX0_voice_92 : decode cX0_voice 92 = .ok (.ireturn, 1) := dk_172 (dk_at dksX0_voice_3 23 rfl rfl)
abbrev cX0_trace : ByteArray := prog_1_method_52_code
def yX0_trace : MethodName := ⟨RX0, "trace", "(I)I"⟩
def dkwX0_trace_1 : List UInt8 := [180, 1, 83, 27, 46, 172, 77, 42, 44, 182, 0, 131, 172]
abbrev dktX0_trace_1 : List UInt8 := dkwX0_trace_1 ++ []
def dkwX0_trace_0 : List UInt8 := [42, 27, 3, 42, 180, 0, 59, 180, 1, 60, 4, 100, 184, 0, 86, 5, 182, 0, 94, 42, 180, 0, 59]
abbrev dktX0_trace_0 : List UInt8 := dkwX0_trace_0 ++ dktX0_trace_1
theorem dksX0_trace_0 : cX0_trace.data.toList.drop 0 = dktX0_trace_0 := by decide +kernel
theorem dksX0_trace_1 : cX0_trace.data.toList.drop 23 = dktX0_trace_1 := dk_seg dksX0_trace_0 23 rfl rfl
theorem dX0_trace_0 : decode cX0_trace 0 = .ok (.aload_n 0, 1) := dk_42 (dk_at dksX0_trace_0 0 rfl rfl)
theorem dX0_trace_1 : decode cX0_trace 1 = .ok (.iload_n 1, 1) := dk_27 (dk_at dksX0_trace_0 1 rfl rfl)
theorem dX0_trace_2 : decode cX0_trace 2 = .ok (.iconst 0, 1) := dk_3 (dk_at dksX0_trace_0 2 rfl rfl)
theorem dX0_trace_3 : decode cX0_trace 3 = .ok (.aload_n 0, 1) := dk_42 (dk_at dksX0_trace_0 3 rfl rfl)
theorem dX0_trace_4 : decode cX0_trace 4 = .ok (.getfield 59, 3) := dk_180 0 59 (dk_at dksX0_trace_0 4 rfl rfl)
theorem dX0_trace_7 : decode cX0_trace 7 = .ok (.getfield 316, 3) := dk_180 1 60 (dk_at dksX0_trace_0 7 rfl rfl)
theorem dX0_trace_10 : decode cX0_trace 10 = .ok (.iconst 1, 1) := dk_4 (dk_at dksX0_trace_0 10 rfl rfl)
theorem dX0_trace_11 : decode cX0_trace 11 = .ok (.isub, 1) := dk_100 (dk_at dksX0_trace_0 11 rfl rfl)
theorem dX0_trace_12 : decode cX0_trace 12 = .ok (.invokestatic 86, 3) := dk_184 0 86 (dk_at dksX0_trace_0 12 rfl rfl)
theorem dX0_trace_15 : decode cX0_trace 15 = .ok (.iconst 2, 1) := dk_5 (dk_at dksX0_trace_0 15 rfl rfl)
theorem dX0_trace_16 : decode cX0_trace 16 = .ok (.invokevirtual 94, 3) := dk_182 0 94 (dk_at dksX0_trace_0 16 rfl rfl)
theorem dX0_trace_19 : decode cX0_trace 19 = .ok (.aload_n 0, 1) := dk_42 (dk_at dksX0_trace_0 19 rfl rfl)
theorem dX0_trace_20 : decode cX0_trace 20 = .ok (.getfield 59, 3) := dk_180 0 59 (dk_at dksX0_trace_0 20 rfl rfl)
theorem dX0_trace_23 : decode cX0_trace 23 = .ok (.getfield 339, 3) := dk_180 1 83 (dk_at dksX0_trace_1 0 rfl rfl)
theorem dX0_trace_26 : decode cX0_trace 26 = .ok (.iload_n 1, 1) := dk_27 (dk_at dksX0_trace_1 3 rfl rfl)
theorem dX0_trace_27 : decode cX0_trace 27 = .ok (.iaload, 1) := dk_46 (dk_at dksX0_trace_1 4 rfl rfl)
theorem dX0_trace_28 : decode cX0_trace 28 = .ok (.ireturn, 1) := dk_172 (dk_at dksX0_trace_1 5 rfl rfl)
theorem dX0_trace_29 : decode cX0_trace 29 = .ok (.astore_n 2, 1) := dk_77 (dk_at dksX0_trace_1 6 rfl rfl)
theorem dX0_trace_30 : decode cX0_trace 30 = .ok (.aload_n 0, 1) := dk_42 (dk_at dksX0_trace_1 7 rfl rfl)
theorem dX0_trace_31 : decode cX0_trace 31 = .ok (.aload_n 2, 1) := dk_44 (dk_at dksX0_trace_1 8 rfl rfl)
theorem dX0_trace_32 : decode cX0_trace 32 = .ok (.invokevirtual 131, 3) := dk_182 0 131 (dk_at dksX0_trace_1 9 rfl rfl)
theorem dX0_trace_35 : decode cX0_trace 35 = .ok (.ireturn, 1) := dk_172 (dk_at dksX0_trace_1 12 rfl rfl)
abbrev cX0_traits : ByteArray := prog_1_method_53_code
def yX0_traits : MethodName := ⟨RX0, "traits", "(I)I"⟩
def dkwX0_traits_3 : List UInt8 := [172, 77, 42, 44, 182, 0, 131, 172]
abbrev dktX0_traits_3 : List UInt8 := dkwX0_traits_3 ++ []
def dkwX0_traits_2 : List UInt8 := [153, 0, 23, 42, 180, 0, 46, 180, 0, 115, 29, 44, 29, 182, 0, 237, 79, 132, 3, 1, 167, 255, 209, 29]
abbrev dktX0_traits_2 : List UInt8 := dkwX0_traits_2 ++ dktX0_traits_3
def dkwX0_traits_1 : List UInt8 := [162, 0, 45, 42, 29, 182, 0, 103, 153, 0, 37, 44, 29, 182, 0, 237, 3, 16, 15, 184, 0, 86]
abbrev dktX0_traits_1 : List UInt8 := dkwX0_traits_1 ++ dktX0_traits_2
def dkwX0_traits_0 : List UInt8 := [42, 27, 184, 0, 255, 4, 182, 0, 94, 42, 27, 182, 1, 2, 77, 3, 62, 29, 44, 182, 0, 234]
abbrev dktX0_traits_0 : List UInt8 := dkwX0_traits_0 ++ dktX0_traits_1
theorem dksX0_traits_0 : cX0_traits.data.toList.drop 0 = dktX0_traits_0 := by decide +kernel
theorem dksX0_traits_1 : cX0_traits.data.toList.drop 22 = dktX0_traits_1 := dk_seg dksX0_traits_0 22 rfl rfl
theorem dksX0_traits_2 : cX0_traits.data.toList.drop 44 = dktX0_traits_2 := dk_seg dksX0_traits_1 22 rfl rfl
theorem dksX0_traits_3 : cX0_traits.data.toList.drop 68 = dktX0_traits_3 := dk_seg dksX0_traits_2 24 rfl rfl
theorem dX0_traits_0 : decode cX0_traits 0 = .ok (.aload_n 0, 1) := dk_42 (dk_at dksX0_traits_0 0 rfl rfl)
theorem dX0_traits_1 : decode cX0_traits 1 = .ok (.iload_n 1, 1) := dk_27 (dk_at dksX0_traits_0 1 rfl rfl)
theorem dX0_traits_2 : decode cX0_traits 2 = .ok (.invokestatic 255, 3) := dk_184 0 255 (dk_at dksX0_traits_0 2 rfl rfl)
theorem dX0_traits_5 : decode cX0_traits 5 = .ok (.iconst 1, 1) := dk_4 (dk_at dksX0_traits_0 5 rfl rfl)
theorem dX0_traits_6 : decode cX0_traits 6 = .ok (.invokevirtual 94, 3) := dk_182 0 94 (dk_at dksX0_traits_0 6 rfl rfl)
theorem dX0_traits_9 : decode cX0_traits 9 = .ok (.aload_n 0, 1) := dk_42 (dk_at dksX0_traits_0 9 rfl rfl)
theorem dX0_traits_10 : decode cX0_traits 10 = .ok (.iload_n 1, 1) := dk_27 (dk_at dksX0_traits_0 10 rfl rfl)
theorem dX0_traits_11 : decode cX0_traits 11 = .ok (.invokevirtual 258, 3) := dk_182 1 2 (dk_at dksX0_traits_0 11 rfl rfl)
theorem dX0_traits_14 : decode cX0_traits 14 = .ok (.astore_n 2, 1) := dk_77 (dk_at dksX0_traits_0 14 rfl rfl)
theorem dX0_traits_15 : decode cX0_traits 15 = .ok (.iconst 0, 1) := dk_3 (dk_at dksX0_traits_0 15 rfl rfl)
theorem dX0_traits_16 : decode cX0_traits 16 = .ok (.istore_n 3, 1) := dk_62 (dk_at dksX0_traits_0 16 rfl rfl)
theorem dX0_traits_17 : decode cX0_traits 17 = .ok (.iload_n 3, 1) := dk_29 (dk_at dksX0_traits_0 17 rfl rfl)
theorem dX0_traits_18 : decode cX0_traits 18 = .ok (.aload_n 2, 1) := dk_44 (dk_at dksX0_traits_0 18 rfl rfl)
theorem dX0_traits_19 : decode cX0_traits 19 = .ok (.invokevirtual 234, 3) := dk_182 0 234 (dk_at dksX0_traits_0 19 rfl rfl)
theorem dX0_traits_22 : decode cX0_traits 22 = .ok (.if_icmp .ge 45, 3) := dk_162 0 45 (dk_at dksX0_traits_1 0 rfl rfl)
theorem dX0_traits_25 : decode cX0_traits 25 = .ok (.aload_n 0, 1) := dk_42 (dk_at dksX0_traits_1 3 rfl rfl)
theorem dX0_traits_26 : decode cX0_traits 26 = .ok (.iload_n 3, 1) := dk_29 (dk_at dksX0_traits_1 4 rfl rfl)
theorem dX0_traits_27 : decode cX0_traits 27 = .ok (.invokevirtual 103, 3) := dk_182 0 103 (dk_at dksX0_traits_1 5 rfl rfl)
theorem dX0_traits_30 : decode cX0_traits 30 = .ok (.ifCond .eq 37, 3) := dk_153 0 37 (dk_at dksX0_traits_1 8 rfl rfl)
theorem dX0_traits_33 : decode cX0_traits 33 = .ok (.aload_n 2, 1) := dk_44 (dk_at dksX0_traits_1 11 rfl rfl)
theorem dX0_traits_34 : decode cX0_traits 34 = .ok (.iload_n 3, 1) := dk_29 (dk_at dksX0_traits_1 12 rfl rfl)
theorem dX0_traits_35 : decode cX0_traits 35 = .ok (.invokevirtual 237, 3) := dk_182 0 237 (dk_at dksX0_traits_1 13 rfl rfl)
theorem dX0_traits_38 : decode cX0_traits 38 = .ok (.iconst 0, 1) := dk_3 (dk_at dksX0_traits_1 16 rfl rfl)
theorem dX0_traits_39 : decode cX0_traits 39 = .ok (.bipush 15, 2) := dk_16 15 (dk_at dksX0_traits_1 17 rfl rfl)
theorem dX0_traits_41 : decode cX0_traits 41 = .ok (.invokestatic 86, 3) := dk_184 0 86 (dk_at dksX0_traits_1 19 rfl rfl)
theorem dX0_traits_44 : decode cX0_traits 44 = .ok (.ifCond .eq 23, 3) := dk_153 0 23 (dk_at dksX0_traits_2 0 rfl rfl)
theorem dX0_traits_47 : decode cX0_traits 47 = .ok (.aload_n 0, 1) := dk_42 (dk_at dksX0_traits_2 3 rfl rfl)
theorem dX0_traits_48 : decode cX0_traits 48 = .ok (.getfield 46, 3) := dk_180 0 46 (dk_at dksX0_traits_2 4 rfl rfl)
theorem dX0_traits_51 : decode cX0_traits 51 = .ok (.getfield 115, 3) := dk_180 0 115 (dk_at dksX0_traits_2 7 rfl rfl)
theorem dX0_traits_54 : decode cX0_traits 54 = .ok (.iload_n 3, 1) := dk_29 (dk_at dksX0_traits_2 10 rfl rfl)
theorem dX0_traits_55 : decode cX0_traits 55 = .ok (.aload_n 2, 1) := dk_44 (dk_at dksX0_traits_2 11 rfl rfl)
theorem dX0_traits_56 : decode cX0_traits 56 = .ok (.iload_n 3, 1) := dk_29 (dk_at dksX0_traits_2 12 rfl rfl)
theorem dX0_traits_57 : decode cX0_traits 57 = .ok (.invokevirtual 237, 3) := dk_182 0 237 (dk_at dksX0_traits_2 13 rfl rfl)
theorem dX0_traits_60 : decode cX0_traits 60 = .ok (.iastore, 1) := dk_79 (dk_at dksX0_traits_2 16 rfl rfl)
theorem dX0_traits_61 : decode cX0_traits 61 = .ok (.iinc 3 1, 3) := dk_132 3 1 (dk_at dksX0_traits_2 17 rfl rfl)
theorem dX0_traits_64 : decode cX0_traits 64 = .ok (.goto (-47), 3) := dk_167 255 209 (dk_at dksX0_traits_2 20 rfl rfl)
theorem dX0_traits_67 : decode cX0_traits 67 = .ok (.iload_n 3, 1) := dk_29 (dk_at dksX0_traits_2 23 rfl rfl)
theorem dX0_traits_68 : decode cX0_traits 68 = .ok (.ireturn, 1) := dk_172 (dk_at dksX0_traits_3 0 rfl rfl)
theorem dX0_traits_69 : decode cX0_traits 69 = .ok (.astore_n 2, 1) := dk_77 (dk_at dksX0_traits_3 1 rfl rfl)
theorem dX0_traits_70 : decode cX0_traits 70 = .ok (.aload_n 0, 1) := dk_42 (dk_at dksX0_traits_3 2 rfl rfl)
theorem dX0_traits_71 : decode cX0_traits 71 = .ok (.aload_n 2, 1) := dk_44 (dk_at dksX0_traits_3 3 rfl rfl)
theorem dX0_traits_72 : decode cX0_traits 72 = .ok (.invokevirtual 131, 3) := dk_182 0 131 (dk_at dksX0_traits_3 4 rfl rfl)
theorem dX0_traits_75 : decode cX0_traits 75 = .ok (.ireturn, 1) := dk_172 (dk_at dksX0_traits_3 7 rfl rfl)
abbrev cX0_judge : ByteArray := prog_1_method_54_code
def yX0_judge : MethodName := ⟨RX0, "judge", "(I)I"⟩
def dkwX0_judge_3 : List UInt8 := [180, 0, 100, 160, 0, 7, 2, 167, 0, 4, 29, 172, 77, 42, 44, 182, 0, 131, 172]
abbrev dktX0_judge_3 : List UInt8 := dkwX0_judge_3 ++ []
def dkwX0_judge_2 : List UInt8 := [46, 160, 0, 9, 132, 3, 1, 167, 255, 220, 29, 44, 182, 0, 234, 160, 0, 18, 29, 42, 180, 0, 46]
abbrev dktX0_judge_2 : List UInt8 := dkwX0_judge_2 ++ dktX0_judge_3
def dkwX0_judge_1 : List UInt8 := [162, 0, 34, 42, 29, 182, 0, 103, 153, 0, 26, 44, 29, 182, 0, 237, 42, 180, 0, 46, 180, 0, 118, 29]
abbrev dktX0_judge_1 : List UInt8 := dkwX0_judge_1 ++ dktX0_judge_2
def dkwX0_judge_0 : List UInt8 := [42, 27, 184, 0, 255, 4, 182, 0, 94, 42, 27, 182, 1, 2, 77, 3, 62, 29, 44, 182, 0, 234]
abbrev dktX0_judge_0 : List UInt8 := dkwX0_judge_0 ++ dktX0_judge_1
theorem dksX0_judge_0 : cX0_judge.data.toList.drop 0 = dktX0_judge_0 := by decide +kernel
theorem dksX0_judge_1 : cX0_judge.data.toList.drop 22 = dktX0_judge_1 := dk_seg dksX0_judge_0 22 rfl rfl
theorem dksX0_judge_2 : cX0_judge.data.toList.drop 46 = dktX0_judge_2 := dk_seg dksX0_judge_1 24 rfl rfl
theorem dksX0_judge_3 : cX0_judge.data.toList.drop 69 = dktX0_judge_3 := dk_seg dksX0_judge_2 23 rfl rfl
theorem dX0_judge_0 : decode cX0_judge 0 = .ok (.aload_n 0, 1) := dk_42 (dk_at dksX0_judge_0 0 rfl rfl)
theorem dX0_judge_1 : decode cX0_judge 1 = .ok (.iload_n 1, 1) := dk_27 (dk_at dksX0_judge_0 1 rfl rfl)
theorem dX0_judge_2 : decode cX0_judge 2 = .ok (.invokestatic 255, 3) := dk_184 0 255 (dk_at dksX0_judge_0 2 rfl rfl)
theorem dX0_judge_5 : decode cX0_judge 5 = .ok (.iconst 1, 1) := dk_4 (dk_at dksX0_judge_0 5 rfl rfl)
theorem dX0_judge_6 : decode cX0_judge 6 = .ok (.invokevirtual 94, 3) := dk_182 0 94 (dk_at dksX0_judge_0 6 rfl rfl)
theorem dX0_judge_9 : decode cX0_judge 9 = .ok (.aload_n 0, 1) := dk_42 (dk_at dksX0_judge_0 9 rfl rfl)
theorem dX0_judge_10 : decode cX0_judge 10 = .ok (.iload_n 1, 1) := dk_27 (dk_at dksX0_judge_0 10 rfl rfl)
theorem dX0_judge_11 : decode cX0_judge 11 = .ok (.invokevirtual 258, 3) := dk_182 1 2 (dk_at dksX0_judge_0 11 rfl rfl)
theorem dX0_judge_14 : decode cX0_judge 14 = .ok (.astore_n 2, 1) := dk_77 (dk_at dksX0_judge_0 14 rfl rfl)
theorem dX0_judge_15 : decode cX0_judge 15 = .ok (.iconst 0, 1) := dk_3 (dk_at dksX0_judge_0 15 rfl rfl)
theorem dX0_judge_16 : decode cX0_judge 16 = .ok (.istore_n 3, 1) := dk_62 (dk_at dksX0_judge_0 16 rfl rfl)
theorem dX0_judge_17 : decode cX0_judge 17 = .ok (.iload_n 3, 1) := dk_29 (dk_at dksX0_judge_0 17 rfl rfl)
theorem dX0_judge_18 : decode cX0_judge 18 = .ok (.aload_n 2, 1) := dk_44 (dk_at dksX0_judge_0 18 rfl rfl)
theorem dX0_judge_19 : decode cX0_judge 19 = .ok (.invokevirtual 234, 3) := dk_182 0 234 (dk_at dksX0_judge_0 19 rfl rfl)
theorem dX0_judge_22 : decode cX0_judge 22 = .ok (.if_icmp .ge 34, 3) := dk_162 0 34 (dk_at dksX0_judge_1 0 rfl rfl)
theorem dX0_judge_25 : decode cX0_judge 25 = .ok (.aload_n 0, 1) := dk_42 (dk_at dksX0_judge_1 3 rfl rfl)
theorem dX0_judge_26 : decode cX0_judge 26 = .ok (.iload_n 3, 1) := dk_29 (dk_at dksX0_judge_1 4 rfl rfl)
theorem dX0_judge_27 : decode cX0_judge 27 = .ok (.invokevirtual 103, 3) := dk_182 0 103 (dk_at dksX0_judge_1 5 rfl rfl)
theorem dX0_judge_30 : decode cX0_judge 30 = .ok (.ifCond .eq 26, 3) := dk_153 0 26 (dk_at dksX0_judge_1 8 rfl rfl)
theorem dX0_judge_33 : decode cX0_judge 33 = .ok (.aload_n 2, 1) := dk_44 (dk_at dksX0_judge_1 11 rfl rfl)
theorem dX0_judge_34 : decode cX0_judge 34 = .ok (.iload_n 3, 1) := dk_29 (dk_at dksX0_judge_1 12 rfl rfl)
theorem dX0_judge_35 : decode cX0_judge 35 = .ok (.invokevirtual 237, 3) := dk_182 0 237 (dk_at dksX0_judge_1 13 rfl rfl)
theorem dX0_judge_38 : decode cX0_judge 38 = .ok (.aload_n 0, 1) := dk_42 (dk_at dksX0_judge_1 16 rfl rfl)
theorem dX0_judge_39 : decode cX0_judge 39 = .ok (.getfield 46, 3) := dk_180 0 46 (dk_at dksX0_judge_1 17 rfl rfl)
theorem dX0_judge_42 : decode cX0_judge 42 = .ok (.getfield 118, 3) := dk_180 0 118 (dk_at dksX0_judge_1 20 rfl rfl)
theorem dX0_judge_45 : decode cX0_judge 45 = .ok (.iload_n 3, 1) := dk_29 (dk_at dksX0_judge_1 23 rfl rfl)
theorem dX0_judge_46 : decode cX0_judge 46 = .ok (.iaload, 1) := dk_46 (dk_at dksX0_judge_2 0 rfl rfl)
theorem dX0_judge_47 : decode cX0_judge 47 = .ok (.if_icmp .ne 9, 3) := dk_160 0 9 (dk_at dksX0_judge_2 1 rfl rfl)
theorem dX0_judge_50 : decode cX0_judge 50 = .ok (.iinc 3 1, 3) := dk_132 3 1 (dk_at dksX0_judge_2 4 rfl rfl)
theorem dX0_judge_53 : decode cX0_judge 53 = .ok (.goto (-36), 3) := dk_167 255 220 (dk_at dksX0_judge_2 7 rfl rfl)
theorem dX0_judge_56 : decode cX0_judge 56 = .ok (.iload_n 3, 1) := dk_29 (dk_at dksX0_judge_2 10 rfl rfl)
theorem dX0_judge_57 : decode cX0_judge 57 = .ok (.aload_n 2, 1) := dk_44 (dk_at dksX0_judge_2 11 rfl rfl)
theorem dX0_judge_58 : decode cX0_judge 58 = .ok (.invokevirtual 234, 3) := dk_182 0 234 (dk_at dksX0_judge_2 12 rfl rfl)
theorem dX0_judge_61 : decode cX0_judge 61 = .ok (.if_icmp .ne 18, 3) := dk_160 0 18 (dk_at dksX0_judge_2 15 rfl rfl)
theorem dX0_judge_64 : decode cX0_judge 64 = .ok (.iload_n 3, 1) := dk_29 (dk_at dksX0_judge_2 18 rfl rfl)
theorem dX0_judge_65 : decode cX0_judge 65 = .ok (.aload_n 0, 1) := dk_42 (dk_at dksX0_judge_2 19 rfl rfl)
theorem dX0_judge_66 : decode cX0_judge 66 = .ok (.getfield 46, 3) := dk_180 0 46 (dk_at dksX0_judge_2 20 rfl rfl)
theorem dX0_judge_69 : decode cX0_judge 69 = .ok (.getfield 100, 3) := dk_180 0 100 (dk_at dksX0_judge_3 0 rfl rfl)
theorem dX0_judge_72 : decode cX0_judge 72 = .ok (.if_icmp .ne 7, 3) := dk_160 0 7 (dk_at dksX0_judge_3 3 rfl rfl)
theorem dX0_judge_75 : decode cX0_judge 75 = .ok (.iconst (-1), 1) := dk_2 (dk_at dksX0_judge_3 6 rfl rfl)
theorem dX0_judge_76 : decode cX0_judge 76 = .ok (.goto 4, 3) := dk_167 0 4 (dk_at dksX0_judge_3 7 rfl rfl)
theorem dX0_judge_79 : decode cX0_judge 79 = .ok (.iload_n 3, 1) := dk_29 (dk_at dksX0_judge_3 10 rfl rfl)
theorem dX0_judge_80 : decode cX0_judge 80 = .ok (.ireturn, 1) := dk_172 (dk_at dksX0_judge_3 11 rfl rfl)
theorem dX0_judge_81 : decode cX0_judge 81 = .ok (.astore_n 2, 1) := dk_77 (dk_at dksX0_judge_3 12 rfl rfl)
theorem dX0_judge_82 : decode cX0_judge 82 = .ok (.aload_n 0, 1) := dk_42 (dk_at dksX0_judge_3 13 rfl rfl)
theorem dX0_judge_83 : decode cX0_judge 83 = .ok (.aload_n 2, 1) := dk_44 (dk_at dksX0_judge_3 14 rfl rfl)
theorem dX0_judge_84 : decode cX0_judge 84 = .ok (.invokevirtual 131, 3) := dk_182 0 131 (dk_at dksX0_judge_3 15 rfl rfl)
theorem dX0_judge_87 : decode cX0_judge 87 = .ok (.ireturn, 1) := dk_172 (dk_at dksX0_judge_3 18 rfl rfl)
abbrev cX0_sheet : ByteArray := prog_1_method_55_code
def yX0_sheet : MethodName := ⟨RX0, "sheet", "(III)I"⟩
def dkwX0_sheet_5 : List UInt8 := [29, 183, 1, 99, 181, 0, 90, 4, 172, 58, 4, 42, 25, 4, 182, 0, 131, 172]
abbrev dktX0_sheet_5 : List UInt8 := dkwX0_sheet_5 ++ []
def dkwX0_sheet_4 : List UInt8 := [167, 0, 28, 28, 16, 16, 160, 0, 14, 187, 1, 94, 89, 29, 183, 1, 96, 167, 0, 11, 187, 1, 97, 89]
abbrev dktX0_sheet_4 : List UInt8 := dkwX0_sheet_4 ++ dktX0_sheet_5
def dkwX0_sheet_3 : List UInt8 := [4, 182, 0, 94, 42, 180, 0, 69, 27, 50, 28, 16, 8, 160, 0, 14, 187, 1, 89, 89, 29, 183, 1, 91]
abbrev dktX0_sheet_3 : List UInt8 := dkwX0_sheet_3 ++ dktX0_sheet_4
def dkwX0_sheet_2 : List UInt8 := [155, 0, 7, 4, 167, 0, 4, 3, 6, 182, 0, 94, 42, 29, 16, 40, 163, 0, 7, 4, 167, 0, 4, 3]
abbrev dktX0_sheet_2 : List UInt8 := dkwX0_sheet_2 ++ dktX0_sheet_3
def dkwX0_sheet_1 : List UInt8 := [4, 182, 0, 94, 28, 154, 0, 15, 42, 180, 0, 69, 27, 50, 1, 181, 0, 90, 4, 172, 42, 29]
abbrev dktX0_sheet_1 : List UInt8 := dkwX0_sheet_1 ++ dktX0_sheet_2
def dkwX0_sheet_0 : List UInt8 := [42, 27, 184, 0, 255, 153, 0, 18, 28, 153, 0, 10, 28, 184, 1, 86, 153, 0, 7, 4, 167, 0, 4, 3]
abbrev dktX0_sheet_0 : List UInt8 := dkwX0_sheet_0 ++ dktX0_sheet_1
theorem dksX0_sheet_0 : cX0_sheet.data.toList.drop 0 = dktX0_sheet_0 := by decide +kernel
theorem dksX0_sheet_1 : cX0_sheet.data.toList.drop 24 = dktX0_sheet_1 := dk_seg dksX0_sheet_0 24 rfl rfl
theorem dksX0_sheet_2 : cX0_sheet.data.toList.drop 46 = dktX0_sheet_2 := dk_seg dksX0_sheet_1 22 rfl rfl
theorem dksX0_sheet_3 : cX0_sheet.data.toList.drop 70 = dktX0_sheet_3 := dk_seg dksX0_sheet_2 24 rfl rfl
theorem dksX0_sheet_4 : cX0_sheet.data.toList.drop 94 = dktX0_sheet_4 := dk_seg dksX0_sheet_3 24 rfl rfl
theorem dksX0_sheet_5 : cX0_sheet.data.toList.drop 118 = dktX0_sheet_5 := dk_seg dksX0_sheet_4 24 rfl rfl
theorem dX0_sheet_0 : decode cX0_sheet 0 = .ok (.aload_n 0, 1) := dk_42 (dk_at dksX0_sheet_0 0 rfl rfl)
theorem dX0_sheet_1 : decode cX0_sheet 1 = .ok (.iload_n 1, 1) := dk_27 (dk_at dksX0_sheet_0 1 rfl rfl)
theorem dX0_sheet_2 : decode cX0_sheet 2 = .ok (.invokestatic 255, 3) := dk_184 0 255 (dk_at dksX0_sheet_0 2 rfl rfl)
theorem dX0_sheet_5 : decode cX0_sheet 5 = .ok (.ifCond .eq 18, 3) := dk_153 0 18 (dk_at dksX0_sheet_0 5 rfl rfl)
theorem dX0_sheet_8 : decode cX0_sheet 8 = .ok (.iload_n 2, 1) := dk_28 (dk_at dksX0_sheet_0 8 rfl rfl)
theorem dX0_sheet_9 : decode cX0_sheet 9 = .ok (.ifCond .eq 10, 3) := dk_153 0 10 (dk_at dksX0_sheet_0 9 rfl rfl)
theorem dX0_sheet_12 : decode cX0_sheet 12 = .ok (.iload_n 2, 1) := dk_28 (dk_at dksX0_sheet_0 12 rfl rfl)
theorem dX0_sheet_13 : decode cX0_sheet 13 = .ok (.invokestatic 342, 3) := dk_184 1 86 (dk_at dksX0_sheet_0 13 rfl rfl)
theorem dX0_sheet_16 : decode cX0_sheet 16 = .ok (.ifCond .eq 7, 3) := dk_153 0 7 (dk_at dksX0_sheet_0 16 rfl rfl)
theorem dX0_sheet_19 : decode cX0_sheet 19 = .ok (.iconst 1, 1) := dk_4 (dk_at dksX0_sheet_0 19 rfl rfl)
theorem dX0_sheet_20 : decode cX0_sheet 20 = .ok (.goto 4, 3) := dk_167 0 4 (dk_at dksX0_sheet_0 20 rfl rfl)
theorem dX0_sheet_23 : decode cX0_sheet 23 = .ok (.iconst 0, 1) := dk_3 (dk_at dksX0_sheet_0 23 rfl rfl)
theorem dX0_sheet_24 : decode cX0_sheet 24 = .ok (.iconst 1, 1) := dk_4 (dk_at dksX0_sheet_1 0 rfl rfl)
theorem dX0_sheet_25 : decode cX0_sheet 25 = .ok (.invokevirtual 94, 3) := dk_182 0 94 (dk_at dksX0_sheet_1 1 rfl rfl)
theorem dX0_sheet_28 : decode cX0_sheet 28 = .ok (.iload_n 2, 1) := dk_28 (dk_at dksX0_sheet_1 4 rfl rfl)
theorem dX0_sheet_29 : decode cX0_sheet 29 = .ok (.ifCond .ne 15, 3) := dk_154 0 15 (dk_at dksX0_sheet_1 5 rfl rfl)
theorem dX0_sheet_32 : decode cX0_sheet 32 = .ok (.aload_n 0, 1) := dk_42 (dk_at dksX0_sheet_1 8 rfl rfl)
theorem dX0_sheet_33 : decode cX0_sheet 33 = .ok (.getfield 69, 3) := dk_180 0 69 (dk_at dksX0_sheet_1 9 rfl rfl)
theorem dX0_sheet_36 : decode cX0_sheet 36 = .ok (.iload_n 1, 1) := dk_27 (dk_at dksX0_sheet_1 12 rfl rfl)
theorem dX0_sheet_37 : decode cX0_sheet 37 = .ok (.aaload, 1) := dk_50 (dk_at dksX0_sheet_1 13 rfl rfl)
theorem dX0_sheet_38 : decode cX0_sheet 38 = .ok (.aconst_null, 1) := dk_1 (dk_at dksX0_sheet_1 14 rfl rfl)
theorem dX0_sheet_39 : decode cX0_sheet 39 = .ok (.putfield 90, 3) := dk_181 0 90 (dk_at dksX0_sheet_1 15 rfl rfl)
theorem dX0_sheet_42 : decode cX0_sheet 42 = .ok (.iconst 1, 1) := dk_4 (dk_at dksX0_sheet_1 18 rfl rfl)
theorem dX0_sheet_43 : decode cX0_sheet 43 = .ok (.ireturn, 1) := dk_172 (dk_at dksX0_sheet_1 19 rfl rfl)
theorem dX0_sheet_44 : decode cX0_sheet 44 = .ok (.aload_n 0, 1) := dk_42 (dk_at dksX0_sheet_1 20 rfl rfl)
theorem dX0_sheet_45 : decode cX0_sheet 45 = .ok (.iload_n 3, 1) := dk_29 (dk_at dksX0_sheet_1 21 rfl rfl)
theorem dX0_sheet_46 : decode cX0_sheet 46 = .ok (.ifCond .lt 7, 3) := dk_155 0 7 (dk_at dksX0_sheet_2 0 rfl rfl)
theorem dX0_sheet_49 : decode cX0_sheet 49 = .ok (.iconst 1, 1) := dk_4 (dk_at dksX0_sheet_2 3 rfl rfl)
theorem dX0_sheet_50 : decode cX0_sheet 50 = .ok (.goto 4, 3) := dk_167 0 4 (dk_at dksX0_sheet_2 4 rfl rfl)
theorem dX0_sheet_53 : decode cX0_sheet 53 = .ok (.iconst 0, 1) := dk_3 (dk_at dksX0_sheet_2 7 rfl rfl)
theorem dX0_sheet_54 : decode cX0_sheet 54 = .ok (.iconst 3, 1) := dk_6 (dk_at dksX0_sheet_2 8 rfl rfl)
theorem dX0_sheet_55 : decode cX0_sheet 55 = .ok (.invokevirtual 94, 3) := dk_182 0 94 (dk_at dksX0_sheet_2 9 rfl rfl)
theorem dX0_sheet_58 : decode cX0_sheet 58 = .ok (.aload_n 0, 1) := dk_42 (dk_at dksX0_sheet_2 12 rfl rfl)
theorem dX0_sheet_59 : decode cX0_sheet 59 = .ok (.iload_n 3, 1) := dk_29 (dk_at dksX0_sheet_2 13 rfl rfl)
theorem dX0_sheet_60 : decode cX0_sheet 60 = .ok (.bipush 40, 2) := dk_16 40 (dk_at dksX0_sheet_2 14 rfl rfl)
theorem dX0_sheet_62 : decode cX0_sheet 62 = .ok (.if_icmp .gt 7, 3) := dk_163 0 7 (dk_at dksX0_sheet_2 16 rfl rfl)
theorem dX0_sheet_65 : decode cX0_sheet 65 = .ok (.iconst 1, 1) := dk_4 (dk_at dksX0_sheet_2 19 rfl rfl)
theorem dX0_sheet_66 : decode cX0_sheet 66 = .ok (.goto 4, 3) := dk_167 0 4 (dk_at dksX0_sheet_2 20 rfl rfl)
theorem dX0_sheet_69 : decode cX0_sheet 69 = .ok (.iconst 0, 1) := dk_3 (dk_at dksX0_sheet_2 23 rfl rfl)
theorem dX0_sheet_70 : decode cX0_sheet 70 = .ok (.iconst 1, 1) := dk_4 (dk_at dksX0_sheet_3 0 rfl rfl)
theorem dX0_sheet_71 : decode cX0_sheet 71 = .ok (.invokevirtual 94, 3) := dk_182 0 94 (dk_at dksX0_sheet_3 1 rfl rfl)
theorem dX0_sheet_74 : decode cX0_sheet 74 = .ok (.aload_n 0, 1) := dk_42 (dk_at dksX0_sheet_3 4 rfl rfl)
theorem dX0_sheet_75 : decode cX0_sheet 75 = .ok (.getfield 69, 3) := dk_180 0 69 (dk_at dksX0_sheet_3 5 rfl rfl)
theorem dX0_sheet_78 : decode cX0_sheet 78 = .ok (.iload_n 1, 1) := dk_27 (dk_at dksX0_sheet_3 8 rfl rfl)
theorem dX0_sheet_79 : decode cX0_sheet 79 = .ok (.aaload, 1) := dk_50 (dk_at dksX0_sheet_3 9 rfl rfl)
theorem dX0_sheet_80 : decode cX0_sheet 80 = .ok (.iload_n 2, 1) := dk_28 (dk_at dksX0_sheet_3 10 rfl rfl)
theorem dX0_sheet_81 : decode cX0_sheet 81 = .ok (.bipush 8, 2) := dk_16 8 (dk_at dksX0_sheet_3 11 rfl rfl)
theorem dX0_sheet_83 : decode cX0_sheet 83 = .ok (.if_icmp .ne 14, 3) := dk_160 0 14 (dk_at dksX0_sheet_3 13 rfl rfl)
theorem dX0_sheet_86 : decode cX0_sheet 86 = .ok (.new 345, 3) := dk_187 1 89 (dk_at dksX0_sheet_3 16 rfl rfl)
theorem dX0_sheet_89 : decode cX0_sheet 89 = .ok (.dup, 1) := dk_89 (dk_at dksX0_sheet_3 19 rfl rfl)
theorem dX0_sheet_90 : decode cX0_sheet 90 = .ok (.iload_n 3, 1) := dk_29 (dk_at dksX0_sheet_3 20 rfl rfl)
theorem dX0_sheet_91 : decode cX0_sheet 91 = .ok (.invokespecial 347, 3) := dk_183 1 91 (dk_at dksX0_sheet_3 21 rfl rfl)
theorem dX0_sheet_94 : decode cX0_sheet 94 = .ok (.goto 28, 3) := dk_167 0 28 (dk_at dksX0_sheet_4 0 rfl rfl)
theorem dX0_sheet_97 : decode cX0_sheet 97 = .ok (.iload_n 2, 1) := dk_28 (dk_at dksX0_sheet_4 3 rfl rfl)
theorem dX0_sheet_98 : decode cX0_sheet 98 = .ok (.bipush 16, 2) := dk_16 16 (dk_at dksX0_sheet_4 4 rfl rfl)
theorem dX0_sheet_100 : decode cX0_sheet 100 = .ok (.if_icmp .ne 14, 3) := dk_160 0 14 (dk_at dksX0_sheet_4 6 rfl rfl)
theorem dX0_sheet_103 : decode cX0_sheet 103 = .ok (.new 350, 3) := dk_187 1 94 (dk_at dksX0_sheet_4 9 rfl rfl)
theorem dX0_sheet_106 : decode cX0_sheet 106 = .ok (.dup, 1) := dk_89 (dk_at dksX0_sheet_4 12 rfl rfl)
theorem dX0_sheet_107 : decode cX0_sheet 107 = .ok (.iload_n 3, 1) := dk_29 (dk_at dksX0_sheet_4 13 rfl rfl)
theorem dX0_sheet_108 : decode cX0_sheet 108 = .ok (.invokespecial 352, 3) := dk_183 1 96 (dk_at dksX0_sheet_4 14 rfl rfl)
theorem dX0_sheet_111 : decode cX0_sheet 111 = .ok (.goto 11, 3) := dk_167 0 11 (dk_at dksX0_sheet_4 17 rfl rfl)
theorem dX0_sheet_114 : decode cX0_sheet 114 = .ok (.new 353, 3) := dk_187 1 97 (dk_at dksX0_sheet_4 20 rfl rfl)
theorem dX0_sheet_117 : decode cX0_sheet 117 = .ok (.dup, 1) := dk_89 (dk_at dksX0_sheet_4 23 rfl rfl)
theorem dX0_sheet_118 : decode cX0_sheet 118 = .ok (.iload_n 3, 1) := dk_29 (dk_at dksX0_sheet_5 0 rfl rfl)
theorem dX0_sheet_119 : decode cX0_sheet 119 = .ok (.invokespecial 355, 3) := dk_183 1 99 (dk_at dksX0_sheet_5 1 rfl rfl)
theorem dX0_sheet_122 : decode cX0_sheet 122 = .ok (.putfield 90, 3) := dk_181 0 90 (dk_at dksX0_sheet_5 4 rfl rfl)
theorem dX0_sheet_125 : decode cX0_sheet 125 = .ok (.iconst 1, 1) := dk_4 (dk_at dksX0_sheet_5 7 rfl rfl)
theorem dX0_sheet_126 : decode cX0_sheet 126 = .ok (.ireturn, 1) := dk_172 (dk_at dksX0_sheet_5 8 rfl rfl)
theorem dX0_sheet_127 : decode cX0_sheet 127 = .ok (.astore 4, 2) := dk_58 4 (dk_at dksX0_sheet_5 9 rfl rfl)
theorem dX0_sheet_129 : decode cX0_sheet 129 = .ok (.aload_n 0, 1) := dk_42 (dk_at dksX0_sheet_5 11 rfl rfl)
theorem dX0_sheet_130 : decode cX0_sheet 130 = .ok (.aload 4, 2) := dk_25 4 (dk_at dksX0_sheet_5 12 rfl rfl)
theorem dX0_sheet_132 : decode cX0_sheet 132 = .ok (.invokevirtual 131, 3) := dk_182 0 131 (dk_at dksX0_sheet_5 14 rfl rfl)
theorem dX0_sheet_135 : decode cX0_sheet 135 = .ok (.ireturn, 1) := dk_172 (dk_at dksX0_sheet_5 17 rfl rfl)
abbrev cX0_isWidth : ByteArray := prog_1_method_9_code
def yX0_isWidth : MethodName := ⟨RX0, "isWidth", "(I)Z"⟩
def dkwX0_isWidth_0 : List UInt8 := [26, 16, 8, 159, 0, 15, 26, 16, 16, 159, 0, 9, 26, 16, 32, 160, 0, 7, 4, 167, 0, 4, 3, 172]
abbrev dktX0_isWidth_0 : List UInt8 := dkwX0_isWidth_0 ++ []
theorem dksX0_isWidth_0 : cX0_isWidth.data.toList.drop 0 = dktX0_isWidth_0 := by decide +kernel
theorem dX0_isWidth_0 : decode cX0_isWidth 0 = .ok (.iload_n 0, 1) := dk_26 (dk_at dksX0_isWidth_0 0 rfl rfl)
theorem dX0_isWidth_1 : decode cX0_isWidth 1 = .ok (.bipush 8, 2) := dk_16 8 (dk_at dksX0_isWidth_0 1 rfl rfl)
theorem dX0_isWidth_3 : decode cX0_isWidth 3 = .ok (.if_icmp .eq 15, 3) := dk_159 0 15 (dk_at dksX0_isWidth_0 3 rfl rfl)
theorem dX0_isWidth_6 : decode cX0_isWidth 6 = .ok (.iload_n 0, 1) := dk_26 (dk_at dksX0_isWidth_0 6 rfl rfl)
theorem dX0_isWidth_7 : decode cX0_isWidth 7 = .ok (.bipush 16, 2) := dk_16 16 (dk_at dksX0_isWidth_0 7 rfl rfl)
theorem dX0_isWidth_9 : decode cX0_isWidth 9 = .ok (.if_icmp .eq 9, 3) := dk_159 0 9 (dk_at dksX0_isWidth_0 9 rfl rfl)
theorem dX0_isWidth_12 : decode cX0_isWidth 12 = .ok (.iload_n 0, 1) := dk_26 (dk_at dksX0_isWidth_0 12 rfl rfl)
theorem dX0_isWidth_13 : decode cX0_isWidth 13 = .ok (.bipush 32, 2) := dk_16 32 (dk_at dksX0_isWidth_0 13 rfl rfl)
theorem dX0_isWidth_15 : decode cX0_isWidth 15 = .ok (.if_icmp .ne 7, 3) := dk_160 0 7 (dk_at dksX0_isWidth_0 15 rfl rfl)
theorem dX0_isWidth_18 : decode cX0_isWidth 18 = .ok (.iconst 1, 1) := dk_4 (dk_at dksX0_isWidth_0 18 rfl rfl)
theorem dX0_isWidth_19 : decode cX0_isWidth 19 = .ok (.goto 4, 3) := dk_167 0 4 (dk_at dksX0_isWidth_0 19 rfl rfl)
theorem dX0_isWidth_22 : decode cX0_isWidth 22 = .ok (.iconst 0, 1) := dk_3 (dk_at dksX0_isWidth_0 22 rfl rfl)
theorem dX0_isWidth_23 : decode cX0_isWidth 23 = .ok (.ireturn, 1) := dk_172 (dk_at dksX0_isWidth_0 23 rfl rfl)
abbrev cX0_put : ByteArray := prog_1_method_56_code
def yX0_put : MethodName := ⟨RX0, "put", "(III)I"⟩
def dkwX0_put_2 : List UInt8 := [182, 0, 131, 172]
abbrev dktX0_put_2 : List UInt8 := dkwX0_put_2 ++ []
def dkwX0_put_1 : List UInt8 := [4, 100, 184, 0, 86, 4, 182, 0, 94, 25, 4, 28, 29, 182, 1, 100, 4, 172, 58, 4, 42, 25, 4]
abbrev dktX0_put_1 : List UInt8 := dkwX0_put_1 ++ dktX0_put_2
def dkwX0_put_0 : List UInt8 := [42, 27, 184, 0, 255, 4, 182, 0, 94, 42, 27, 182, 1, 2, 58, 4, 42, 28, 3, 25, 4, 182, 0, 234]
abbrev dktX0_put_0 : List UInt8 := dkwX0_put_0 ++ dktX0_put_1
theorem dksX0_put_0 : cX0_put.data.toList.drop 0 = dktX0_put_0 := by decide +kernel
theorem dksX0_put_1 : cX0_put.data.toList.drop 24 = dktX0_put_1 := dk_seg dksX0_put_0 24 rfl rfl
theorem dksX0_put_2 : cX0_put.data.toList.drop 47 = dktX0_put_2 := dk_seg dksX0_put_1 23 rfl rfl
theorem dX0_put_0 : decode cX0_put 0 = .ok (.aload_n 0, 1) := dk_42 (dk_at dksX0_put_0 0 rfl rfl)
theorem dX0_put_1 : decode cX0_put 1 = .ok (.iload_n 1, 1) := dk_27 (dk_at dksX0_put_0 1 rfl rfl)
theorem dX0_put_2 : decode cX0_put 2 = .ok (.invokestatic 255, 3) := dk_184 0 255 (dk_at dksX0_put_0 2 rfl rfl)
theorem dX0_put_5 : decode cX0_put 5 = .ok (.iconst 1, 1) := dk_4 (dk_at dksX0_put_0 5 rfl rfl)
theorem dX0_put_6 : decode cX0_put 6 = .ok (.invokevirtual 94, 3) := dk_182 0 94 (dk_at dksX0_put_0 6 rfl rfl)
theorem dX0_put_9 : decode cX0_put 9 = .ok (.aload_n 0, 1) := dk_42 (dk_at dksX0_put_0 9 rfl rfl)
theorem dX0_put_10 : decode cX0_put 10 = .ok (.iload_n 1, 1) := dk_27 (dk_at dksX0_put_0 10 rfl rfl)
theorem dX0_put_11 : decode cX0_put 11 = .ok (.invokevirtual 258, 3) := dk_182 1 2 (dk_at dksX0_put_0 11 rfl rfl)
theorem dX0_put_14 : decode cX0_put 14 = .ok (.astore 4, 2) := dk_58 4 (dk_at dksX0_put_0 14 rfl rfl)
theorem dX0_put_16 : decode cX0_put 16 = .ok (.aload_n 0, 1) := dk_42 (dk_at dksX0_put_0 16 rfl rfl)
theorem dX0_put_17 : decode cX0_put 17 = .ok (.iload_n 2, 1) := dk_28 (dk_at dksX0_put_0 17 rfl rfl)
theorem dX0_put_18 : decode cX0_put 18 = .ok (.iconst 0, 1) := dk_3 (dk_at dksX0_put_0 18 rfl rfl)
theorem dX0_put_19 : decode cX0_put 19 = .ok (.aload 4, 2) := dk_25 4 (dk_at dksX0_put_0 19 rfl rfl)
theorem dX0_put_21 : decode cX0_put 21 = .ok (.invokevirtual 234, 3) := dk_182 0 234 (dk_at dksX0_put_0 21 rfl rfl)
theorem dX0_put_24 : decode cX0_put 24 = .ok (.iconst 1, 1) := dk_4 (dk_at dksX0_put_1 0 rfl rfl)
theorem dX0_put_25 : decode cX0_put 25 = .ok (.isub, 1) := dk_100 (dk_at dksX0_put_1 1 rfl rfl)
theorem dX0_put_26 : decode cX0_put 26 = .ok (.invokestatic 86, 3) := dk_184 0 86 (dk_at dksX0_put_1 2 rfl rfl)
theorem dX0_put_29 : decode cX0_put 29 = .ok (.iconst 1, 1) := dk_4 (dk_at dksX0_put_1 5 rfl rfl)
theorem dX0_put_30 : decode cX0_put 30 = .ok (.invokevirtual 94, 3) := dk_182 0 94 (dk_at dksX0_put_1 6 rfl rfl)
theorem dX0_put_33 : decode cX0_put 33 = .ok (.aload 4, 2) := dk_25 4 (dk_at dksX0_put_1 9 rfl rfl)
theorem dX0_put_35 : decode cX0_put 35 = .ok (.iload_n 2, 1) := dk_28 (dk_at dksX0_put_1 11 rfl rfl)
theorem dX0_put_36 : decode cX0_put 36 = .ok (.iload_n 3, 1) := dk_29 (dk_at dksX0_put_1 12 rfl rfl)
theorem dX0_put_37 : decode cX0_put 37 = .ok (.invokevirtual 356, 3) := dk_182 1 100 (dk_at dksX0_put_1 13 rfl rfl)
theorem dX0_put_40 : decode cX0_put 40 = .ok (.iconst 1, 1) := dk_4 (dk_at dksX0_put_1 16 rfl rfl)
theorem dX0_put_41 : decode cX0_put 41 = .ok (.ireturn, 1) := dk_172 (dk_at dksX0_put_1 17 rfl rfl)
theorem dX0_put_42 : decode cX0_put 42 = .ok (.astore 4, 2) := dk_58 4 (dk_at dksX0_put_1 18 rfl rfl)
theorem dX0_put_44 : decode cX0_put 44 = .ok (.aload_n 0, 1) := dk_42 (dk_at dksX0_put_1 20 rfl rfl)
theorem dX0_put_45 : decode cX0_put 45 = .ok (.aload 4, 2) := dk_25 4 (dk_at dksX0_put_1 21 rfl rfl)
theorem dX0_put_47 : decode cX0_put 47 = .ok (.invokevirtual 131, 3) := dk_182 0 131 (dk_at dksX0_put_2 0 rfl rfl)
theorem dX0_put_50 : decode cX0_put 50 = .ok (.ireturn, 1) := dk_172 (dk_at dksX0_put_2 3 rfl rfl)
abbrev cX0_move : ByteArray := prog_1_method_57_code
def yX0_move : MethodName := ⟨RX0, "move", "(IIIII)I"⟩
def dkwX0_move_6 : List UInt8 := [96, 46, 182, 1, 100, 132, 9, 1, 167, 255, 229, 21, 5, 172, 58, 6, 42, 25, 6, 182, 0, 131, 172]
abbrev dktX0_move_6 : List UInt8 := dkwX0_move_6 ++ []
def dkwX0_move_5 : List UInt8 := [58, 8, 3, 54, 9, 21, 9, 21, 5, 162, 0, 26, 25, 7, 21, 4, 21, 9, 96, 25, 8, 28, 21, 9]
abbrev dktX0_move_5 : List UInt8 := dkwX0_move_5 ++ dktX0_move_6
def dkwX0_move_4 : List UInt8 := [182, 0, 234, 21, 5, 100, 163, 0, 7, 4, 167, 0, 4, 3, 4, 182, 0, 94, 25, 6, 182, 1, 106]
abbrev dktX0_move_4 : List UInt8 := dkwX0_move_4 ++ dktX0_move_5
def dkwX0_move_3 : List UInt8 := [155, 0, 37, 21, 4, 155, 0, 32, 28, 25, 6, 182, 0, 234, 21, 5, 100, 163, 0, 20, 21, 4, 25, 7]
abbrev dktX0_move_3 : List UInt8 := dkwX0_move_3 ++ dktX0_move_4
def dkwX0_move_2 : List UInt8 := [182, 1, 103, 160, 0, 7, 4, 167, 0, 4, 3, 8, 182, 0, 94, 42, 21, 5, 155, 0, 41, 28]
abbrev dktX0_move_2 : List UInt8 := dkwX0_move_2 ++ dktX0_move_3
def dkwX0_move_1 : List UInt8 := [42, 27, 182, 1, 2, 58, 6, 42, 29, 182, 1, 2, 58, 7, 42, 25, 6, 182, 1, 103, 25, 7]
abbrev dktX0_move_1 : List UInt8 := dkwX0_move_1 ++ dktX0_move_2
def dkwX0_move_0 : List UInt8 := [42, 27, 184, 0, 255, 153, 0, 14, 29, 184, 0, 255, 153, 0, 7, 4, 167, 0, 4, 3, 4, 182, 0, 94]
abbrev dktX0_move_0 : List UInt8 := dkwX0_move_0 ++ dktX0_move_1
theorem dksX0_move_0 : cX0_move.data.toList.drop 0 = dktX0_move_0 := by decide +kernel
theorem dksX0_move_1 : cX0_move.data.toList.drop 24 = dktX0_move_1 := dk_seg dksX0_move_0 24 rfl rfl
theorem dksX0_move_2 : cX0_move.data.toList.drop 46 = dktX0_move_2 := dk_seg dksX0_move_1 22 rfl rfl
theorem dksX0_move_3 : cX0_move.data.toList.drop 68 = dktX0_move_3 := dk_seg dksX0_move_2 22 rfl rfl
theorem dksX0_move_4 : cX0_move.data.toList.drop 92 = dktX0_move_4 := dk_seg dksX0_move_3 24 rfl rfl
theorem dksX0_move_5 : cX0_move.data.toList.drop 115 = dktX0_move_5 := dk_seg dksX0_move_4 23 rfl rfl
theorem dksX0_move_6 : cX0_move.data.toList.drop 139 = dktX0_move_6 := dk_seg dksX0_move_5 24 rfl rfl
theorem dX0_move_0 : decode cX0_move 0 = .ok (.aload_n 0, 1) := dk_42 (dk_at dksX0_move_0 0 rfl rfl)
theorem dX0_move_1 : decode cX0_move 1 = .ok (.iload_n 1, 1) := dk_27 (dk_at dksX0_move_0 1 rfl rfl)
theorem dX0_move_2 : decode cX0_move 2 = .ok (.invokestatic 255, 3) := dk_184 0 255 (dk_at dksX0_move_0 2 rfl rfl)
theorem dX0_move_5 : decode cX0_move 5 = .ok (.ifCond .eq 14, 3) := dk_153 0 14 (dk_at dksX0_move_0 5 rfl rfl)
theorem dX0_move_8 : decode cX0_move 8 = .ok (.iload_n 3, 1) := dk_29 (dk_at dksX0_move_0 8 rfl rfl)
theorem dX0_move_9 : decode cX0_move 9 = .ok (.invokestatic 255, 3) := dk_184 0 255 (dk_at dksX0_move_0 9 rfl rfl)
theorem dX0_move_12 : decode cX0_move 12 = .ok (.ifCond .eq 7, 3) := dk_153 0 7 (dk_at dksX0_move_0 12 rfl rfl)
theorem dX0_move_15 : decode cX0_move 15 = .ok (.iconst 1, 1) := dk_4 (dk_at dksX0_move_0 15 rfl rfl)
theorem dX0_move_16 : decode cX0_move 16 = .ok (.goto 4, 3) := dk_167 0 4 (dk_at dksX0_move_0 16 rfl rfl)
theorem dX0_move_19 : decode cX0_move 19 = .ok (.iconst 0, 1) := dk_3 (dk_at dksX0_move_0 19 rfl rfl)
theorem dX0_move_20 : decode cX0_move 20 = .ok (.iconst 1, 1) := dk_4 (dk_at dksX0_move_0 20 rfl rfl)
theorem dX0_move_21 : decode cX0_move 21 = .ok (.invokevirtual 94, 3) := dk_182 0 94 (dk_at dksX0_move_0 21 rfl rfl)
theorem dX0_move_24 : decode cX0_move 24 = .ok (.aload_n 0, 1) := dk_42 (dk_at dksX0_move_1 0 rfl rfl)
theorem dX0_move_25 : decode cX0_move 25 = .ok (.iload_n 1, 1) := dk_27 (dk_at dksX0_move_1 1 rfl rfl)
theorem dX0_move_26 : decode cX0_move 26 = .ok (.invokevirtual 258, 3) := dk_182 1 2 (dk_at dksX0_move_1 2 rfl rfl)
theorem dX0_move_29 : decode cX0_move 29 = .ok (.astore 6, 2) := dk_58 6 (dk_at dksX0_move_1 5 rfl rfl)
theorem dX0_move_31 : decode cX0_move 31 = .ok (.aload_n 0, 1) := dk_42 (dk_at dksX0_move_1 7 rfl rfl)
theorem dX0_move_32 : decode cX0_move 32 = .ok (.iload_n 3, 1) := dk_29 (dk_at dksX0_move_1 8 rfl rfl)
theorem dX0_move_33 : decode cX0_move 33 = .ok (.invokevirtual 258, 3) := dk_182 1 2 (dk_at dksX0_move_1 9 rfl rfl)
theorem dX0_move_36 : decode cX0_move 36 = .ok (.astore 7, 2) := dk_58 7 (dk_at dksX0_move_1 12 rfl rfl)
theorem dX0_move_38 : decode cX0_move 38 = .ok (.aload_n 0, 1) := dk_42 (dk_at dksX0_move_1 14 rfl rfl)
theorem dX0_move_39 : decode cX0_move 39 = .ok (.aload 6, 2) := dk_25 6 (dk_at dksX0_move_1 15 rfl rfl)
theorem dX0_move_41 : decode cX0_move 41 = .ok (.invokevirtual 359, 3) := dk_182 1 103 (dk_at dksX0_move_1 17 rfl rfl)
theorem dX0_move_44 : decode cX0_move 44 = .ok (.aload 7, 2) := dk_25 7 (dk_at dksX0_move_1 20 rfl rfl)
theorem dX0_move_46 : decode cX0_move 46 = .ok (.invokevirtual 359, 3) := dk_182 1 103 (dk_at dksX0_move_2 0 rfl rfl)
theorem dX0_move_49 : decode cX0_move 49 = .ok (.if_icmp .ne 7, 3) := dk_160 0 7 (dk_at dksX0_move_2 3 rfl rfl)
theorem dX0_move_52 : decode cX0_move 52 = .ok (.iconst 1, 1) := dk_4 (dk_at dksX0_move_2 6 rfl rfl)
theorem dX0_move_53 : decode cX0_move 53 = .ok (.goto 4, 3) := dk_167 0 4 (dk_at dksX0_move_2 7 rfl rfl)
theorem dX0_move_56 : decode cX0_move 56 = .ok (.iconst 0, 1) := dk_3 (dk_at dksX0_move_2 10 rfl rfl)
theorem dX0_move_57 : decode cX0_move 57 = .ok (.iconst 5, 1) := dk_8 (dk_at dksX0_move_2 11 rfl rfl)
theorem dX0_move_58 : decode cX0_move 58 = .ok (.invokevirtual 94, 3) := dk_182 0 94 (dk_at dksX0_move_2 12 rfl rfl)
theorem dX0_move_61 : decode cX0_move 61 = .ok (.aload_n 0, 1) := dk_42 (dk_at dksX0_move_2 15 rfl rfl)
theorem dX0_move_62 : decode cX0_move 62 = .ok (.iload 5, 2) := dk_21 5 (dk_at dksX0_move_2 16 rfl rfl)
theorem dX0_move_64 : decode cX0_move 64 = .ok (.ifCond .lt 41, 3) := dk_155 0 41 (dk_at dksX0_move_2 18 rfl rfl)
theorem dX0_move_67 : decode cX0_move 67 = .ok (.iload_n 2, 1) := dk_28 (dk_at dksX0_move_2 21 rfl rfl)
theorem dX0_move_68 : decode cX0_move 68 = .ok (.ifCond .lt 37, 3) := dk_155 0 37 (dk_at dksX0_move_3 0 rfl rfl)
theorem dX0_move_71 : decode cX0_move 71 = .ok (.iload 4, 2) := dk_21 4 (dk_at dksX0_move_3 3 rfl rfl)
theorem dX0_move_73 : decode cX0_move 73 = .ok (.ifCond .lt 32, 3) := dk_155 0 32 (dk_at dksX0_move_3 5 rfl rfl)
theorem dX0_move_76 : decode cX0_move 76 = .ok (.iload_n 2, 1) := dk_28 (dk_at dksX0_move_3 8 rfl rfl)
theorem dX0_move_77 : decode cX0_move 77 = .ok (.aload 6, 2) := dk_25 6 (dk_at dksX0_move_3 9 rfl rfl)
theorem dX0_move_79 : decode cX0_move 79 = .ok (.invokevirtual 234, 3) := dk_182 0 234 (dk_at dksX0_move_3 11 rfl rfl)
theorem dX0_move_82 : decode cX0_move 82 = .ok (.iload 5, 2) := dk_21 5 (dk_at dksX0_move_3 14 rfl rfl)
theorem dX0_move_84 : decode cX0_move 84 = .ok (.isub, 1) := dk_100 (dk_at dksX0_move_3 16 rfl rfl)
theorem dX0_move_85 : decode cX0_move 85 = .ok (.if_icmp .gt 20, 3) := dk_163 0 20 (dk_at dksX0_move_3 17 rfl rfl)
theorem dX0_move_88 : decode cX0_move 88 = .ok (.iload 4, 2) := dk_21 4 (dk_at dksX0_move_3 20 rfl rfl)
theorem dX0_move_90 : decode cX0_move 90 = .ok (.aload 7, 2) := dk_25 7 (dk_at dksX0_move_3 22 rfl rfl)
theorem dX0_move_92 : decode cX0_move 92 = .ok (.invokevirtual 234, 3) := dk_182 0 234 (dk_at dksX0_move_4 0 rfl rfl)
theorem dX0_move_95 : decode cX0_move 95 = .ok (.iload 5, 2) := dk_21 5 (dk_at dksX0_move_4 3 rfl rfl)
theorem dX0_move_97 : decode cX0_move 97 = .ok (.isub, 1) := dk_100 (dk_at dksX0_move_4 5 rfl rfl)
theorem dX0_move_98 : decode cX0_move 98 = .ok (.if_icmp .gt 7, 3) := dk_163 0 7 (dk_at dksX0_move_4 6 rfl rfl)
theorem dX0_move_101 : decode cX0_move 101 = .ok (.iconst 1, 1) := dk_4 (dk_at dksX0_move_4 9 rfl rfl)
theorem dX0_move_102 : decode cX0_move 102 = .ok (.goto 4, 3) := dk_167 0 4 (dk_at dksX0_move_4 10 rfl rfl)
theorem dX0_move_105 : decode cX0_move 105 = .ok (.iconst 0, 1) := dk_3 (dk_at dksX0_move_4 13 rfl rfl)
theorem dX0_move_106 : decode cX0_move 106 = .ok (.iconst 1, 1) := dk_4 (dk_at dksX0_move_4 14 rfl rfl)
theorem dX0_move_107 : decode cX0_move 107 = .ok (.invokevirtual 94, 3) := dk_182 0 94 (dk_at dksX0_move_4 15 rfl rfl)
theorem dX0_move_110 : decode cX0_move 110 = .ok (.aload 6, 2) := dk_25 6 (dk_at dksX0_move_4 18 rfl rfl)
theorem dX0_move_112 : decode cX0_move 112 = .ok (.invokevirtual 362, 3) := dk_182 1 106 (dk_at dksX0_move_4 20 rfl rfl)
theorem dX0_move_115 : decode cX0_move 115 = .ok (.astore 8, 2) := dk_58 8 (dk_at dksX0_move_5 0 rfl rfl)
theorem dX0_move_117 : decode cX0_move 117 = .ok (.iconst 0, 1) := dk_3 (dk_at dksX0_move_5 2 rfl rfl)
theorem dX0_move_118 : decode cX0_move 118 = .ok (.istore 9, 2) := dk_54 9 (dk_at dksX0_move_5 3 rfl rfl)
theorem dX0_move_120 : decode cX0_move 120 = .ok (.iload 9, 2) := dk_21 9 (dk_at dksX0_move_5 5 rfl rfl)
theorem dX0_move_122 : decode cX0_move 122 = .ok (.iload 5, 2) := dk_21 5 (dk_at dksX0_move_5 7 rfl rfl)
theorem dX0_move_124 : decode cX0_move 124 = .ok (.if_icmp .ge 26, 3) := dk_162 0 26 (dk_at dksX0_move_5 9 rfl rfl)
theorem dX0_move_127 : decode cX0_move 127 = .ok (.aload 7, 2) := dk_25 7 (dk_at dksX0_move_5 12 rfl rfl)
theorem dX0_move_129 : decode cX0_move 129 = .ok (.iload 4, 2) := dk_21 4 (dk_at dksX0_move_5 14 rfl rfl)
theorem dX0_move_131 : decode cX0_move 131 = .ok (.iload 9, 2) := dk_21 9 (dk_at dksX0_move_5 16 rfl rfl)
theorem dX0_move_133 : decode cX0_move 133 = .ok (.iadd, 1) := dk_96 (dk_at dksX0_move_5 18 rfl rfl)
theorem dX0_move_134 : decode cX0_move 134 = .ok (.aload 8, 2) := dk_25 8 (dk_at dksX0_move_5 19 rfl rfl)
theorem dX0_move_136 : decode cX0_move 136 = .ok (.iload_n 2, 1) := dk_28 (dk_at dksX0_move_5 21 rfl rfl)
theorem dX0_move_137 : decode cX0_move 137 = .ok (.iload 9, 2) := dk_21 9 (dk_at dksX0_move_5 22 rfl rfl)
theorem dX0_move_139 : decode cX0_move 139 = .ok (.iadd, 1) := dk_96 (dk_at dksX0_move_6 0 rfl rfl)
theorem dX0_move_140 : decode cX0_move 140 = .ok (.iaload, 1) := dk_46 (dk_at dksX0_move_6 1 rfl rfl)
theorem dX0_move_141 : decode cX0_move 141 = .ok (.invokevirtual 356, 3) := dk_182 1 100 (dk_at dksX0_move_6 2 rfl rfl)
theorem dX0_move_144 : decode cX0_move 144 = .ok (.iinc 9 1, 3) := dk_132 9 1 (dk_at dksX0_move_6 5 rfl rfl)
theorem dX0_move_147 : decode cX0_move 147 = .ok (.goto (-27), 3) := dk_167 255 229 (dk_at dksX0_move_6 8 rfl rfl)
theorem dX0_move_150 : decode cX0_move 150 = .ok (.iload 5, 2) := dk_21 5 (dk_at dksX0_move_6 11 rfl rfl)
theorem dX0_move_152 : decode cX0_move 152 = .ok (.ireturn, 1) := dk_172 (dk_at dksX0_move_6 13 rfl rfl)
theorem dX0_move_153 : decode cX0_move 153 = .ok (.astore 6, 2) := dk_58 6 (dk_at dksX0_move_6 14 rfl rfl)
theorem dX0_move_155 : decode cX0_move 155 = .ok (.aload_n 0, 1) := dk_42 (dk_at dksX0_move_6 16 rfl rfl)
theorem dX0_move_156 : decode cX0_move 156 = .ok (.aload 6, 2) := dk_25 6 (dk_at dksX0_move_6 17 rfl rfl)
theorem dX0_move_158 : decode cX0_move 158 = .ok (.invokevirtual 131, 3) := dk_182 0 131 (dk_at dksX0_move_6 19 rfl rfl)
theorem dX0_move_161 : decode cX0_move 161 = .ok (.ireturn, 1) := dk_172 (dk_at dksX0_move_6 22 rfl rfl)
abbrev cX0_image : ByteArray := prog_1_method_58_code
def yX0_image : MethodName := ⟨RX0, "image", "()I"⟩
def dkwX0_image_1 : List UInt8 := [180, 1, 110, 172]
abbrev dktX0_image_1 : List UInt8 := dkwX0_image_1 ++ []
def dkwX0_image_0 : List UInt8 := [42, 180, 0, 50, 42, 180, 0, 46, 182, 0, 220, 76, 42, 89, 180, 1, 110, 4, 96, 181, 1, 110, 42]
abbrev dktX0_image_0 : List UInt8 := dkwX0_image_0 ++ dktX0_image_1
theorem dksX0_image_0 : cX0_image.data.toList.drop 0 = dktX0_image_0 := by decide +kernel
theorem dksX0_image_1 : cX0_image.data.toList.drop 23 = dktX0_image_1 := dk_seg dksX0_image_0 23 rfl rfl
theorem dX0_image_0 : decode cX0_image 0 = .ok (.aload_n 0, 1) := dk_42 (dk_at dksX0_image_0 0 rfl rfl)
theorem dX0_image_1 : decode cX0_image 1 = .ok (.getfield 50, 3) := dk_180 0 50 (dk_at dksX0_image_0 1 rfl rfl)
theorem dX0_image_4 : decode cX0_image 4 = .ok (.aload_n 0, 1) := dk_42 (dk_at dksX0_image_0 4 rfl rfl)
theorem dX0_image_5 : decode cX0_image 5 = .ok (.getfield 46, 3) := dk_180 0 46 (dk_at dksX0_image_0 5 rfl rfl)
theorem dX0_image_8 : decode cX0_image 8 = .ok (.invokevirtual 220, 3) := dk_182 0 220 (dk_at dksX0_image_0 8 rfl rfl)
theorem dX0_image_11 : decode cX0_image 11 = .ok (.astore_n 1, 1) := dk_76 (dk_at dksX0_image_0 11 rfl rfl)
theorem dX0_image_12 : decode cX0_image 12 = .ok (.aload_n 0, 1) := dk_42 (dk_at dksX0_image_0 12 rfl rfl)
theorem dX0_image_13 : decode cX0_image 13 = .ok (.dup, 1) := dk_89 (dk_at dksX0_image_0 13 rfl rfl)
theorem dX0_image_14 : decode cX0_image 14 = .ok (.getfield 366, 3) := dk_180 1 110 (dk_at dksX0_image_0 14 rfl rfl)
theorem dX0_image_17 : decode cX0_image 17 = .ok (.iconst 1, 1) := dk_4 (dk_at dksX0_image_0 17 rfl rfl)
theorem dX0_image_18 : decode cX0_image 18 = .ok (.iadd, 1) := dk_96 (dk_at dksX0_image_0 18 rfl rfl)
theorem dX0_image_19 : decode cX0_image 19 = .ok (.putfield 366, 3) := dk_181 1 110 (dk_at dksX0_image_0 19 rfl rfl)
theorem dX0_image_22 : decode cX0_image 22 = .ok (.aload_n 0, 1) := dk_42 (dk_at dksX0_image_0 22 rfl rfl)
theorem dX0_image_23 : decode cX0_image 23 = .ok (.getfield 366, 3) := dk_180 1 110 (dk_at dksX0_image_1 0 rfl rfl)
theorem dX0_image_26 : decode cX0_image 26 = .ok (.ireturn, 1) := dk_172 (dk_at dksX0_image_1 3 rfl rfl)
abbrev cX0_restore : ByteArray := prog_1_method_59_code
def yX0_restore : MethodName := ⟨RX0, "restore", "()I"⟩
def dkwX0_restore_1 : List UInt8 := [180, 0, 50, 182, 0, 220, 180, 0, 197, 172, 76, 42, 43, 182, 0, 131, 172]
abbrev dktX0_restore_1 : List UInt8 := dkwX0_restore_1 ++ []
def dkwX0_restore_0 : List UInt8 := [42, 42, 180, 1, 110, 158, 0, 7, 4, 167, 0, 4, 3, 5, 182, 0, 94, 42, 180, 0, 46, 42]
abbrev dktX0_restore_0 : List UInt8 := dkwX0_restore_0 ++ dktX0_restore_1
theorem dksX0_restore_0 : cX0_restore.data.toList.drop 0 = dktX0_restore_0 := by decide +kernel
theorem dksX0_restore_1 : cX0_restore.data.toList.drop 22 = dktX0_restore_1 := dk_seg dksX0_restore_0 22 rfl rfl
theorem dX0_restore_0 : decode cX0_restore 0 = .ok (.aload_n 0, 1) := dk_42 (dk_at dksX0_restore_0 0 rfl rfl)
theorem dX0_restore_1 : decode cX0_restore 1 = .ok (.aload_n 0, 1) := dk_42 (dk_at dksX0_restore_0 1 rfl rfl)
theorem dX0_restore_2 : decode cX0_restore 2 = .ok (.getfield 366, 3) := dk_180 1 110 (dk_at dksX0_restore_0 2 rfl rfl)
theorem dX0_restore_5 : decode cX0_restore 5 = .ok (.ifCond .le 7, 3) := dk_158 0 7 (dk_at dksX0_restore_0 5 rfl rfl)
theorem dX0_restore_8 : decode cX0_restore 8 = .ok (.iconst 1, 1) := dk_4 (dk_at dksX0_restore_0 8 rfl rfl)
theorem dX0_restore_9 : decode cX0_restore 9 = .ok (.goto 4, 3) := dk_167 0 4 (dk_at dksX0_restore_0 9 rfl rfl)
theorem dX0_restore_12 : decode cX0_restore 12 = .ok (.iconst 0, 1) := dk_3 (dk_at dksX0_restore_0 12 rfl rfl)
theorem dX0_restore_13 : decode cX0_restore 13 = .ok (.iconst 2, 1) := dk_5 (dk_at dksX0_restore_0 13 rfl rfl)
theorem dX0_restore_14 : decode cX0_restore 14 = .ok (.invokevirtual 94, 3) := dk_182 0 94 (dk_at dksX0_restore_0 14 rfl rfl)
theorem dX0_restore_17 : decode cX0_restore 17 = .ok (.aload_n 0, 1) := dk_42 (dk_at dksX0_restore_0 17 rfl rfl)
theorem dX0_restore_18 : decode cX0_restore 18 = .ok (.getfield 46, 3) := dk_180 0 46 (dk_at dksX0_restore_0 18 rfl rfl)
theorem dX0_restore_21 : decode cX0_restore 21 = .ok (.aload_n 0, 1) := dk_42 (dk_at dksX0_restore_0 21 rfl rfl)
theorem dX0_restore_22 : decode cX0_restore 22 = .ok (.getfield 50, 3) := dk_180 0 50 (dk_at dksX0_restore_1 0 rfl rfl)
theorem dX0_restore_25 : decode cX0_restore 25 = .ok (.invokevirtual 220, 3) := dk_182 0 220 (dk_at dksX0_restore_1 3 rfl rfl)
theorem dX0_restore_28 : decode cX0_restore 28 = .ok (.getfield 197, 3) := dk_180 0 197 (dk_at dksX0_restore_1 6 rfl rfl)
theorem dX0_restore_31 : decode cX0_restore 31 = .ok (.ireturn, 1) := dk_172 (dk_at dksX0_restore_1 9 rfl rfl)
theorem dX0_restore_32 : decode cX0_restore 32 = .ok (.astore_n 1, 1) := dk_76 (dk_at dksX0_restore_1 10 rfl rfl)
theorem dX0_restore_33 : decode cX0_restore 33 = .ok (.aload_n 0, 1) := dk_42 (dk_at dksX0_restore_1 11 rfl rfl)
theorem dX0_restore_34 : decode cX0_restore 34 = .ok (.aload_n 1, 1) := dk_43 (dk_at dksX0_restore_1 12 rfl rfl)
theorem dX0_restore_35 : decode cX0_restore 35 = .ok (.invokevirtual 131, 3) := dk_182 0 131 (dk_at dksX0_restore_1 13 rfl rfl)
theorem dX0_restore_38 : decode cX0_restore 38 = .ok (.ireturn, 1) := dk_172 (dk_at dksX0_restore_1 16 rfl rfl)
abbrev cX0_tell : ByteArray := prog_1_method_60_code
def yX0_tell : MethodName := ⟨RX0, "tell", "(I)I"⟩
def dkwX0_tell_2 : List UInt8 := [96, 181, 1, 113, 42, 180, 0, 46, 180, 1, 113, 172, 77, 42, 44, 182, 0, 131, 172]
abbrev dktX0_tell_2 : List UInt8 := dkwX0_tell_2 ++ []
def dkwX0_tell_1 : List UInt8 := [180, 0, 46, 180, 1, 116, 42, 180, 0, 46, 180, 1, 113, 27, 79, 42, 180, 0, 46, 89, 180, 1, 113, 4]
abbrev dktX0_tell_1 : List UInt8 := dkwX0_tell_1 ++ dktX0_tell_2
def dkwX0_tell_0 : List UInt8 := [42, 42, 180, 0, 46, 180, 1, 113, 16, 20, 162, 0, 7, 4, 167, 0, 4, 3, 7, 182, 0, 94, 42]
abbrev dktX0_tell_0 : List UInt8 := dkwX0_tell_0 ++ dktX0_tell_1
theorem dksX0_tell_0 : cX0_tell.data.toList.drop 0 = dktX0_tell_0 := by decide +kernel
theorem dksX0_tell_1 : cX0_tell.data.toList.drop 23 = dktX0_tell_1 := dk_seg dksX0_tell_0 23 rfl rfl
theorem dksX0_tell_2 : cX0_tell.data.toList.drop 47 = dktX0_tell_2 := dk_seg dksX0_tell_1 24 rfl rfl
theorem dX0_tell_0 : decode cX0_tell 0 = .ok (.aload_n 0, 1) := dk_42 (dk_at dksX0_tell_0 0 rfl rfl)
theorem dX0_tell_1 : decode cX0_tell 1 = .ok (.aload_n 0, 1) := dk_42 (dk_at dksX0_tell_0 1 rfl rfl)
theorem dX0_tell_2 : decode cX0_tell 2 = .ok (.getfield 46, 3) := dk_180 0 46 (dk_at dksX0_tell_0 2 rfl rfl)
theorem dX0_tell_5 : decode cX0_tell 5 = .ok (.getfield 369, 3) := dk_180 1 113 (dk_at dksX0_tell_0 5 rfl rfl)
theorem dX0_tell_8 : decode cX0_tell 8 = .ok (.bipush 20, 2) := dk_16 20 (dk_at dksX0_tell_0 8 rfl rfl)
theorem dX0_tell_10 : decode cX0_tell 10 = .ok (.if_icmp .ge 7, 3) := dk_162 0 7 (dk_at dksX0_tell_0 10 rfl rfl)
theorem dX0_tell_13 : decode cX0_tell 13 = .ok (.iconst 1, 1) := dk_4 (dk_at dksX0_tell_0 13 rfl rfl)
theorem dX0_tell_14 : decode cX0_tell 14 = .ok (.goto 4, 3) := dk_167 0 4 (dk_at dksX0_tell_0 14 rfl rfl)
theorem dX0_tell_17 : decode cX0_tell 17 = .ok (.iconst 0, 1) := dk_3 (dk_at dksX0_tell_0 17 rfl rfl)
theorem dX0_tell_18 : decode cX0_tell 18 = .ok (.iconst 4, 1) := dk_7 (dk_at dksX0_tell_0 18 rfl rfl)
theorem dX0_tell_19 : decode cX0_tell 19 = .ok (.invokevirtual 94, 3) := dk_182 0 94 (dk_at dksX0_tell_0 19 rfl rfl)
theorem dX0_tell_22 : decode cX0_tell 22 = .ok (.aload_n 0, 1) := dk_42 (dk_at dksX0_tell_0 22 rfl rfl)
theorem dX0_tell_23 : decode cX0_tell 23 = .ok (.getfield 46, 3) := dk_180 0 46 (dk_at dksX0_tell_1 0 rfl rfl)
theorem dX0_tell_26 : decode cX0_tell 26 = .ok (.getfield 372, 3) := dk_180 1 116 (dk_at dksX0_tell_1 3 rfl rfl)
theorem dX0_tell_29 : decode cX0_tell 29 = .ok (.aload_n 0, 1) := dk_42 (dk_at dksX0_tell_1 6 rfl rfl)
theorem dX0_tell_30 : decode cX0_tell 30 = .ok (.getfield 46, 3) := dk_180 0 46 (dk_at dksX0_tell_1 7 rfl rfl)
theorem dX0_tell_33 : decode cX0_tell 33 = .ok (.getfield 369, 3) := dk_180 1 113 (dk_at dksX0_tell_1 10 rfl rfl)
theorem dX0_tell_36 : decode cX0_tell 36 = .ok (.iload_n 1, 1) := dk_27 (dk_at dksX0_tell_1 13 rfl rfl)
theorem dX0_tell_37 : decode cX0_tell 37 = .ok (.iastore, 1) := dk_79 (dk_at dksX0_tell_1 14 rfl rfl)
theorem dX0_tell_38 : decode cX0_tell 38 = .ok (.aload_n 0, 1) := dk_42 (dk_at dksX0_tell_1 15 rfl rfl)
theorem dX0_tell_39 : decode cX0_tell 39 = .ok (.getfield 46, 3) := dk_180 0 46 (dk_at dksX0_tell_1 16 rfl rfl)
theorem dX0_tell_42 : decode cX0_tell 42 = .ok (.dup, 1) := dk_89 (dk_at dksX0_tell_1 19 rfl rfl)
theorem dX0_tell_43 : decode cX0_tell 43 = .ok (.getfield 369, 3) := dk_180 1 113 (dk_at dksX0_tell_1 20 rfl rfl)
theorem dX0_tell_46 : decode cX0_tell 46 = .ok (.iconst 1, 1) := dk_4 (dk_at dksX0_tell_1 23 rfl rfl)
theorem dX0_tell_47 : decode cX0_tell 47 = .ok (.iadd, 1) := dk_96 (dk_at dksX0_tell_2 0 rfl rfl)
theorem dX0_tell_48 : decode cX0_tell 48 = .ok (.putfield 369, 3) := dk_181 1 113 (dk_at dksX0_tell_2 1 rfl rfl)
theorem dX0_tell_51 : decode cX0_tell 51 = .ok (.aload_n 0, 1) := dk_42 (dk_at dksX0_tell_2 4 rfl rfl)
theorem dX0_tell_52 : decode cX0_tell 52 = .ok (.getfield 46, 3) := dk_180 0 46 (dk_at dksX0_tell_2 5 rfl rfl)
theorem dX0_tell_55 : decode cX0_tell 55 = .ok (.getfield 369, 3) := dk_180 1 113 (dk_at dksX0_tell_2 8 rfl rfl)
theorem dX0_tell_58 : decode cX0_tell 58 = .ok (.ireturn, 1) := dk_172 (dk_at dksX0_tell_2 11 rfl rfl)
theorem dX0_tell_59 : decode cX0_tell 59 = .ok (.astore_n 2, 1) := dk_77 (dk_at dksX0_tell_2 12 rfl rfl)
theorem dX0_tell_60 : decode cX0_tell 60 = .ok (.aload_n 0, 1) := dk_42 (dk_at dksX0_tell_2 13 rfl rfl)
theorem dX0_tell_61 : decode cX0_tell 61 = .ok (.aload_n 2, 1) := dk_44 (dk_at dksX0_tell_2 14 rfl rfl)
theorem dX0_tell_62 : decode cX0_tell 62 = .ok (.invokevirtual 131, 3) := dk_182 0 131 (dk_at dksX0_tell_2 15 rfl rfl)
theorem dX0_tell_65 : decode cX0_tell 65 = .ok (.ireturn, 1) := dk_172 (dk_at dksX0_tell_2 18 rfl rfl)
abbrev cX0_check : ByteArray := prog_1_method_61_code
def yX0_check : MethodName := ⟨RX0, "check", "()I"⟩
def dkwX0_check_4 : List UInt8 := [172]
abbrev dktX0_check_4 : List UInt8 := dkwX0_check_4 ++ []
def dkwX0_check_3 : List UInt8 := [153, 0, 7, 4, 167, 0, 4, 3, 96, 61, 167, 255, 206, 29, 153, 0, 7, 3, 167, 0, 6, 4, 28, 96]
abbrev dktX0_check_3 : List UInt8 := dkwX0_check_3 ++ dktX0_check_4
def dkwX0_check_2 : List UInt8 := [28, 46, 42, 180, 0, 53, 4, 182, 0, 204, 182, 0, 208, 160, 0, 7, 4, 167, 0, 4, 3, 62, 28, 29]
abbrev dktX0_check_2 : List UInt8 := dkwX0_check_2 ++ dktX0_check_3
def dkwX0_check_1 : List UInt8 := [182, 0, 220, 87, 3, 61, 4, 62, 28, 27, 162, 0, 51, 29, 153, 0, 47, 42, 180, 0, 46, 180, 1, 116]
abbrev dktX0_check_1 : List UInt8 := dkwX0_check_1 ++ dktX0_check_2
def dkwX0_check_0 : List UInt8 := [42, 180, 0, 46, 180, 1, 113, 60, 42, 180, 0, 46, 3, 181, 1, 113, 42, 180, 0, 53, 42, 180, 0, 46]
abbrev dktX0_check_0 : List UInt8 := dkwX0_check_0 ++ dktX0_check_1
theorem dksX0_check_0 : cX0_check.data.toList.drop 0 = dktX0_check_0 := by decide +kernel
theorem dksX0_check_1 : cX0_check.data.toList.drop 24 = dktX0_check_1 := dk_seg dksX0_check_0 24 rfl rfl
theorem dksX0_check_2 : cX0_check.data.toList.drop 48 = dktX0_check_2 := dk_seg dksX0_check_1 24 rfl rfl
theorem dksX0_check_3 : cX0_check.data.toList.drop 72 = dktX0_check_3 := dk_seg dksX0_check_2 24 rfl rfl
theorem dksX0_check_4 : cX0_check.data.toList.drop 96 = dktX0_check_4 := dk_seg dksX0_check_3 24 rfl rfl
theorem dX0_check_0 : decode cX0_check 0 = .ok (.aload_n 0, 1) := dk_42 (dk_at dksX0_check_0 0 rfl rfl)
theorem dX0_check_1 : decode cX0_check 1 = .ok (.getfield 46, 3) := dk_180 0 46 (dk_at dksX0_check_0 1 rfl rfl)
theorem dX0_check_4 : decode cX0_check 4 = .ok (.getfield 369, 3) := dk_180 1 113 (dk_at dksX0_check_0 4 rfl rfl)
theorem dX0_check_7 : decode cX0_check 7 = .ok (.istore_n 1, 1) := dk_60 (dk_at dksX0_check_0 7 rfl rfl)
theorem dX0_check_8 : decode cX0_check 8 = .ok (.aload_n 0, 1) := dk_42 (dk_at dksX0_check_0 8 rfl rfl)
theorem dX0_check_9 : decode cX0_check 9 = .ok (.getfield 46, 3) := dk_180 0 46 (dk_at dksX0_check_0 9 rfl rfl)
theorem dX0_check_12 : decode cX0_check 12 = .ok (.iconst 0, 1) := dk_3 (dk_at dksX0_check_0 12 rfl rfl)
theorem dX0_check_13 : decode cX0_check 13 = .ok (.putfield 369, 3) := dk_181 1 113 (dk_at dksX0_check_0 13 rfl rfl)
theorem dX0_check_16 : decode cX0_check 16 = .ok (.aload_n 0, 1) := dk_42 (dk_at dksX0_check_0 16 rfl rfl)
theorem dX0_check_17 : decode cX0_check 17 = .ok (.getfield 53, 3) := dk_180 0 53 (dk_at dksX0_check_0 17 rfl rfl)
theorem dX0_check_20 : decode cX0_check 20 = .ok (.aload_n 0, 1) := dk_42 (dk_at dksX0_check_0 20 rfl rfl)
theorem dX0_check_21 : decode cX0_check 21 = .ok (.getfield 46, 3) := dk_180 0 46 (dk_at dksX0_check_0 21 rfl rfl)
theorem dX0_check_24 : decode cX0_check 24 = .ok (.invokevirtual 220, 3) := dk_182 0 220 (dk_at dksX0_check_1 0 rfl rfl)
theorem dX0_check_27 : decode cX0_check 27 = .ok (.pop, 1) := dk_87 (dk_at dksX0_check_1 3 rfl rfl)
theorem dX0_check_28 : decode cX0_check 28 = .ok (.iconst 0, 1) := dk_3 (dk_at dksX0_check_1 4 rfl rfl)
theorem dX0_check_29 : decode cX0_check 29 = .ok (.istore_n 2, 1) := dk_61 (dk_at dksX0_check_1 5 rfl rfl)
theorem dX0_check_30 : decode cX0_check 30 = .ok (.iconst 1, 1) := dk_4 (dk_at dksX0_check_1 6 rfl rfl)
theorem dX0_check_31 : decode cX0_check 31 = .ok (.istore_n 3, 1) := dk_62 (dk_at dksX0_check_1 7 rfl rfl)
theorem dX0_check_32 : decode cX0_check 32 = .ok (.iload_n 2, 1) := dk_28 (dk_at dksX0_check_1 8 rfl rfl)
theorem dX0_check_33 : decode cX0_check 33 = .ok (.iload_n 1, 1) := dk_27 (dk_at dksX0_check_1 9 rfl rfl)
theorem dX0_check_34 : decode cX0_check 34 = .ok (.if_icmp .ge 51, 3) := dk_162 0 51 (dk_at dksX0_check_1 10 rfl rfl)
theorem dX0_check_37 : decode cX0_check 37 = .ok (.iload_n 3, 1) := dk_29 (dk_at dksX0_check_1 13 rfl rfl)
theorem dX0_check_38 : decode cX0_check 38 = .ok (.ifCond .eq 47, 3) := dk_153 0 47 (dk_at dksX0_check_1 14 rfl rfl)
theorem dX0_check_41 : decode cX0_check 41 = .ok (.aload_n 0, 1) := dk_42 (dk_at dksX0_check_1 17 rfl rfl)
theorem dX0_check_42 : decode cX0_check 42 = .ok (.getfield 46, 3) := dk_180 0 46 (dk_at dksX0_check_1 18 rfl rfl)
theorem dX0_check_45 : decode cX0_check 45 = .ok (.getfield 372, 3) := dk_180 1 116 (dk_at dksX0_check_1 21 rfl rfl)
theorem dX0_check_48 : decode cX0_check 48 = .ok (.iload_n 2, 1) := dk_28 (dk_at dksX0_check_2 0 rfl rfl)
theorem dX0_check_49 : decode cX0_check 49 = .ok (.iaload, 1) := dk_46 (dk_at dksX0_check_2 1 rfl rfl)
theorem dX0_check_50 : decode cX0_check 50 = .ok (.aload_n 0, 1) := dk_42 (dk_at dksX0_check_2 2 rfl rfl)
theorem dX0_check_51 : decode cX0_check 51 = .ok (.getfield 53, 3) := dk_180 0 53 (dk_at dksX0_check_2 3 rfl rfl)
theorem dX0_check_54 : decode cX0_check 54 = .ok (.iconst 1, 1) := dk_4 (dk_at dksX0_check_2 6 rfl rfl)
theorem dX0_check_55 : decode cX0_check 55 = .ok (.invokevirtual 204, 3) := dk_182 0 204 (dk_at dksX0_check_2 7 rfl rfl)
theorem dX0_check_58 : decode cX0_check 58 = .ok (.invokevirtual 208, 3) := dk_182 0 208 (dk_at dksX0_check_2 10 rfl rfl)
theorem dX0_check_61 : decode cX0_check 61 = .ok (.if_icmp .ne 7, 3) := dk_160 0 7 (dk_at dksX0_check_2 13 rfl rfl)
theorem dX0_check_64 : decode cX0_check 64 = .ok (.iconst 1, 1) := dk_4 (dk_at dksX0_check_2 16 rfl rfl)
theorem dX0_check_65 : decode cX0_check 65 = .ok (.goto 4, 3) := dk_167 0 4 (dk_at dksX0_check_2 17 rfl rfl)
theorem dX0_check_68 : decode cX0_check 68 = .ok (.iconst 0, 1) := dk_3 (dk_at dksX0_check_2 20 rfl rfl)
theorem dX0_check_69 : decode cX0_check 69 = .ok (.istore_n 3, 1) := dk_62 (dk_at dksX0_check_2 21 rfl rfl)
theorem dX0_check_70 : decode cX0_check 70 = .ok (.iload_n 2, 1) := dk_28 (dk_at dksX0_check_2 22 rfl rfl)
theorem dX0_check_71 : decode cX0_check 71 = .ok (.iload_n 3, 1) := dk_29 (dk_at dksX0_check_2 23 rfl rfl)
theorem dX0_check_72 : decode cX0_check 72 = .ok (.ifCond .eq 7, 3) := dk_153 0 7 (dk_at dksX0_check_3 0 rfl rfl)
theorem dX0_check_75 : decode cX0_check 75 = .ok (.iconst 1, 1) := dk_4 (dk_at dksX0_check_3 3 rfl rfl)
theorem dX0_check_76 : decode cX0_check 76 = .ok (.goto 4, 3) := dk_167 0 4 (dk_at dksX0_check_3 4 rfl rfl)
theorem dX0_check_79 : decode cX0_check 79 = .ok (.iconst 0, 1) := dk_3 (dk_at dksX0_check_3 7 rfl rfl)
theorem dX0_check_80 : decode cX0_check 80 = .ok (.iadd, 1) := dk_96 (dk_at dksX0_check_3 8 rfl rfl)
theorem dX0_check_81 : decode cX0_check 81 = .ok (.istore_n 2, 1) := dk_61 (dk_at dksX0_check_3 9 rfl rfl)
theorem dX0_check_82 : decode cX0_check 82 = .ok (.goto (-50), 3) := dk_167 255 206 (dk_at dksX0_check_3 10 rfl rfl)
theorem dX0_check_85 : decode cX0_check 85 = .ok (.iload_n 3, 1) := dk_29 (dk_at dksX0_check_3 13 rfl rfl)
theorem dX0_check_86 : decode cX0_check 86 = .ok (.ifCond .eq 7, 3) := dk_153 0 7 (dk_at dksX0_check_3 14 rfl rfl)
theorem dX0_check_89 : decode cX0_check 89 = .ok (.iconst 0, 1) := dk_3 (dk_at dksX0_check_3 17 rfl rfl)
theorem dX0_check_90 : decode cX0_check 90 = .ok (.goto 6, 3) := dk_167 0 6 (dk_at dksX0_check_3 18 rfl rfl)
theorem dX0_check_93 : decode cX0_check 93 = .ok (.iconst 1, 1) := dk_4 (dk_at dksX0_check_3 21 rfl rfl)
theorem dX0_check_94 : decode cX0_check 94 = .ok (.iload_n 2, 1) := dk_28 (dk_at dksX0_check_3 22 rfl rfl)
theorem dX0_check_95 : decode cX0_check 95 = .ok (.iadd, 1) := dk_96 (dk_at dksX0_check_3 23 rfl rfl)
theorem dX0_check_96 : decode cX0_check 96 = .ok (.ireturn, 1) := dk_172 (dk_at dksX0_check_4 0 rfl rfl)
abbrev cX0_count : ByteArray := prog_1_method_62_code
def yX0_count : MethodName := ⟨RX0, "count", "(I)I"⟩
def dkwX0_count_6 : List UInt8 := [182, 0, 131, 172]
abbrev dktX0_count_6 : List UInt8 := dkwX0_count_6 ++ []
def dkwX0_count_5 : List UInt8 := [180, 1, 113, 172, 42, 180, 0, 59, 180, 1, 60, 172, 42, 180, 0, 46, 180, 1, 57, 172, 77, 42, 44]
abbrev dktX0_count_5 : List UInt8 := dkwX0_count_5 ++ dktX0_count_6
def dkwX0_count_4 : List UInt8 := [182, 1, 51, 172, 42, 180, 0, 46, 182, 1, 28, 172, 42, 180, 0, 46, 180, 0, 162, 172, 42, 180, 0, 46]
abbrev dktX0_count_4 : List UInt8 := dkwX0_count_4 ++ dktX0_count_5
def dkwX0_count_3 : List UInt8 := [42, 180, 0, 46, 180, 0, 121, 42, 180, 0, 46, 180, 0, 100, 184, 1, 119, 172, 42, 180, 0, 46]
abbrev dktX0_count_3 : List UInt8 := dkwX0_count_3 ++ dktX0_count_4
def dkwX0_count_2 : List UInt8 := [42, 180, 0, 46, 180, 0, 100, 172, 42, 180, 0, 46, 180, 0, 197, 172, 42, 180, 0, 46, 182, 0, 208, 172]
abbrev dktX0_count_2 : List UInt8 := dkwX0_count_2 ++ dktX0_count_3
def dkwX0_count_1 : List UInt8 := [170, 0, 0, 0, 0, 0, 133, 0, 0, 0, 0, 0, 0, 0, 8, 0, 0, 0, 51, 0, 0, 0, 59, 0, 0, 0, 67, 0, 0, 0, 75, 0, 0, 0, 93, 0, 0, 0, 101, 0, 0, 0, 109, 0, 0, 0, 117, 0, 0, 0, 125]
abbrev dktX0_count_1 : List UInt8 := dkwX0_count_1 ++ dktX0_count_2
def dkwX0_count_0 : List UInt8 := [42, 27, 3, 16, 9, 184, 0, 86, 4, 182, 0, 94, 27]
abbrev dktX0_count_0 : List UInt8 := dkwX0_count_0 ++ dktX0_count_1
theorem dksX0_count_0 : cX0_count.data.toList.drop 0 = dktX0_count_0 := by decide +kernel
theorem dksX0_count_1 : cX0_count.data.toList.drop 13 = dktX0_count_1 := dk_seg dksX0_count_0 13 rfl rfl
theorem dksX0_count_2 : cX0_count.data.toList.drop 64 = dktX0_count_2 := dk_seg dksX0_count_1 51 rfl rfl
theorem dksX0_count_3 : cX0_count.data.toList.drop 88 = dktX0_count_3 := dk_seg dksX0_count_2 24 rfl rfl
theorem dksX0_count_4 : cX0_count.data.toList.drop 110 = dktX0_count_4 := dk_seg dksX0_count_3 22 rfl rfl
theorem dksX0_count_5 : cX0_count.data.toList.drop 134 = dktX0_count_5 := dk_seg dksX0_count_4 24 rfl rfl
theorem dksX0_count_6 : cX0_count.data.toList.drop 157 = dktX0_count_6 := dk_seg dksX0_count_5 23 rfl rfl
theorem dX0_count_0 : decode cX0_count 0 = .ok (.aload_n 0, 1) := dk_42 (dk_at dksX0_count_0 0 rfl rfl)
theorem dX0_count_1 : decode cX0_count 1 = .ok (.iload_n 1, 1) := dk_27 (dk_at dksX0_count_0 1 rfl rfl)
theorem dX0_count_2 : decode cX0_count 2 = .ok (.iconst 0, 1) := dk_3 (dk_at dksX0_count_0 2 rfl rfl)
theorem dX0_count_3 : decode cX0_count 3 = .ok (.bipush 9, 2) := dk_16 9 (dk_at dksX0_count_0 3 rfl rfl)
theorem dX0_count_5 : decode cX0_count 5 = .ok (.invokestatic 86, 3) := dk_184 0 86 (dk_at dksX0_count_0 5 rfl rfl)
theorem dX0_count_8 : decode cX0_count 8 = .ok (.iconst 1, 1) := dk_4 (dk_at dksX0_count_0 8 rfl rfl)
theorem dX0_count_9 : decode cX0_count 9 = .ok (.invokevirtual 94, 3) := dk_182 0 94 (dk_at dksX0_count_0 9 rfl rfl)
theorem dX0_count_12 : decode cX0_count 12 = .ok (.iload_n 1, 1) := dk_27 (dk_at dksX0_count_0 12 rfl rfl)
theorem dX0_count_13 : decode cX0_count 13 = .ok (.tableswitch 133 0 8 #[51, 59, 67, 75, 93, 101, 109, 117, 125], 51) := by decide +kernel
theorem dX0_count_64 : decode cX0_count 64 = .ok (.aload_n 0, 1) := dk_42 (dk_at dksX0_count_2 0 rfl rfl)
theorem dX0_count_65 : decode cX0_count 65 = .ok (.getfield 46, 3) := dk_180 0 46 (dk_at dksX0_count_2 1 rfl rfl)
theorem dX0_count_68 : decode cX0_count 68 = .ok (.getfield 100, 3) := dk_180 0 100 (dk_at dksX0_count_2 4 rfl rfl)
theorem dX0_count_71 : decode cX0_count 71 = .ok (.ireturn, 1) := dk_172 (dk_at dksX0_count_2 7 rfl rfl)
theorem dX0_count_72 : decode cX0_count 72 = .ok (.aload_n 0, 1) := dk_42 (dk_at dksX0_count_2 8 rfl rfl)
theorem dX0_count_73 : decode cX0_count 73 = .ok (.getfield 46, 3) := dk_180 0 46 (dk_at dksX0_count_2 9 rfl rfl)
theorem dX0_count_76 : decode cX0_count 76 = .ok (.getfield 197, 3) := dk_180 0 197 (dk_at dksX0_count_2 12 rfl rfl)
theorem dX0_count_79 : decode cX0_count 79 = .ok (.ireturn, 1) := dk_172 (dk_at dksX0_count_2 15 rfl rfl)
theorem dX0_count_80 : decode cX0_count 80 = .ok (.aload_n 0, 1) := dk_42 (dk_at dksX0_count_2 16 rfl rfl)
theorem dX0_count_81 : decode cX0_count 81 = .ok (.getfield 46, 3) := dk_180 0 46 (dk_at dksX0_count_2 17 rfl rfl)
theorem dX0_count_84 : decode cX0_count 84 = .ok (.invokevirtual 208, 3) := dk_182 0 208 (dk_at dksX0_count_2 20 rfl rfl)
theorem dX0_count_87 : decode cX0_count 87 = .ok (.ireturn, 1) := dk_172 (dk_at dksX0_count_2 23 rfl rfl)
theorem dX0_count_88 : decode cX0_count 88 = .ok (.aload_n 0, 1) := dk_42 (dk_at dksX0_count_3 0 rfl rfl)
theorem dX0_count_89 : decode cX0_count 89 = .ok (.getfield 46, 3) := dk_180 0 46 (dk_at dksX0_count_3 1 rfl rfl)
theorem dX0_count_92 : decode cX0_count 92 = .ok (.getfield 121, 3) := dk_180 0 121 (dk_at dksX0_count_3 4 rfl rfl)
theorem dX0_count_95 : decode cX0_count 95 = .ok (.aload_n 0, 1) := dk_42 (dk_at dksX0_count_3 7 rfl rfl)
theorem dX0_count_96 : decode cX0_count 96 = .ok (.getfield 46, 3) := dk_180 0 46 (dk_at dksX0_count_3 8 rfl rfl)
theorem dX0_count_99 : decode cX0_count 99 = .ok (.getfield 100, 3) := dk_180 0 100 (dk_at dksX0_count_3 11 rfl rfl)
theorem dX0_count_102 : decode cX0_count 102 = .ok (.invokestatic 375, 3) := dk_184 1 119 (dk_at dksX0_count_3 14 rfl rfl)
theorem dX0_count_105 : decode cX0_count 105 = .ok (.ireturn, 1) := dk_172 (dk_at dksX0_count_3 17 rfl rfl)
theorem dX0_count_106 : decode cX0_count 106 = .ok (.aload_n 0, 1) := dk_42 (dk_at dksX0_count_3 18 rfl rfl)
theorem dX0_count_107 : decode cX0_count 107 = .ok (.getfield 46, 3) := dk_180 0 46 (dk_at dksX0_count_3 19 rfl rfl)
theorem dX0_count_110 : decode cX0_count 110 = .ok (.invokevirtual 307, 3) := dk_182 1 51 (dk_at dksX0_count_4 0 rfl rfl)
theorem dX0_count_113 : decode cX0_count 113 = .ok (.ireturn, 1) := dk_172 (dk_at dksX0_count_4 3 rfl rfl)
theorem dX0_count_114 : decode cX0_count 114 = .ok (.aload_n 0, 1) := dk_42 (dk_at dksX0_count_4 4 rfl rfl)
theorem dX0_count_115 : decode cX0_count 115 = .ok (.getfield 46, 3) := dk_180 0 46 (dk_at dksX0_count_4 5 rfl rfl)
theorem dX0_count_118 : decode cX0_count 118 = .ok (.invokevirtual 284, 3) := dk_182 1 28 (dk_at dksX0_count_4 8 rfl rfl)
theorem dX0_count_121 : decode cX0_count 121 = .ok (.ireturn, 1) := dk_172 (dk_at dksX0_count_4 11 rfl rfl)
theorem dX0_count_122 : decode cX0_count 122 = .ok (.aload_n 0, 1) := dk_42 (dk_at dksX0_count_4 12 rfl rfl)
theorem dX0_count_123 : decode cX0_count 123 = .ok (.getfield 46, 3) := dk_180 0 46 (dk_at dksX0_count_4 13 rfl rfl)
theorem dX0_count_126 : decode cX0_count 126 = .ok (.getfield 162, 3) := dk_180 0 162 (dk_at dksX0_count_4 16 rfl rfl)
theorem dX0_count_129 : decode cX0_count 129 = .ok (.ireturn, 1) := dk_172 (dk_at dksX0_count_4 19 rfl rfl)
theorem dX0_count_130 : decode cX0_count 130 = .ok (.aload_n 0, 1) := dk_42 (dk_at dksX0_count_4 20 rfl rfl)
theorem dX0_count_131 : decode cX0_count 131 = .ok (.getfield 46, 3) := dk_180 0 46 (dk_at dksX0_count_4 21 rfl rfl)
theorem dX0_count_134 : decode cX0_count 134 = .ok (.getfield 369, 3) := dk_180 1 113 (dk_at dksX0_count_5 0 rfl rfl)
theorem dX0_count_137 : decode cX0_count 137 = .ok (.ireturn, 1) := dk_172 (dk_at dksX0_count_5 3 rfl rfl)
theorem dX0_count_138 : decode cX0_count 138 = .ok (.aload_n 0, 1) := dk_42 (dk_at dksX0_count_5 4 rfl rfl)
theorem dX0_count_139 : decode cX0_count 139 = .ok (.getfield 59, 3) := dk_180 0 59 (dk_at dksX0_count_5 5 rfl rfl)
theorem dX0_count_142 : decode cX0_count 142 = .ok (.getfield 316, 3) := dk_180 1 60 (dk_at dksX0_count_5 8 rfl rfl)
theorem dX0_count_145 : decode cX0_count 145 = .ok (.ireturn, 1) := dk_172 (dk_at dksX0_count_5 11 rfl rfl)
theorem dX0_count_146 : decode cX0_count 146 = .ok (.aload_n 0, 1) := dk_42 (dk_at dksX0_count_5 12 rfl rfl)
theorem dX0_count_147 : decode cX0_count 147 = .ok (.getfield 46, 3) := dk_180 0 46 (dk_at dksX0_count_5 13 rfl rfl)
theorem dX0_count_150 : decode cX0_count 150 = .ok (.getfield 313, 3) := dk_180 1 57 (dk_at dksX0_count_5 16 rfl rfl)
theorem dX0_count_153 : decode cX0_count 153 = .ok (.ireturn, 1) := dk_172 (dk_at dksX0_count_5 19 rfl rfl)
theorem dX0_count_154 : decode cX0_count 154 = .ok (.astore_n 2, 1) := dk_77 (dk_at dksX0_count_5 20 rfl rfl)
theorem dX0_count_155 : decode cX0_count 155 = .ok (.aload_n 0, 1) := dk_42 (dk_at dksX0_count_5 21 rfl rfl)
theorem dX0_count_156 : decode cX0_count 156 = .ok (.aload_n 2, 1) := dk_44 (dk_at dksX0_count_5 22 rfl rfl)
theorem dX0_count_157 : decode cX0_count 157 = .ok (.invokevirtual 131, 3) := dk_182 0 131 (dk_at dksX0_count_6 0 rfl rfl)
theorem dX0_count_160 : decode cX0_count 160 = .ok (.ireturn, 1) := dk_172 (dk_at dksX0_count_6 3 rfl rfl)
abbrev cX0_told : ByteArray := prog_1_method_63_code
def yX0_told : MethodName := ⟨RX0, "told", "(I)I"⟩
def dkwX0_told_1 : List UInt8 := [172]
abbrev dktX0_told_1 : List UInt8 := dkwX0_told_1 ++ []
def dkwX0_told_0 : List UInt8 := [42, 27, 4, 8, 184, 0, 86, 4, 182, 0, 94, 42, 180, 0, 63, 27, 46, 172, 77, 42, 44, 182, 0, 131]
abbrev dktX0_told_0 : List UInt8 := dkwX0_told_0 ++ dktX0_told_1
theorem dksX0_told_0 : cX0_told.data.toList.drop 0 = dktX0_told_0 := by decide +kernel
theorem dksX0_told_1 : cX0_told.data.toList.drop 24 = dktX0_told_1 := dk_seg dksX0_told_0 24 rfl rfl
theorem dX0_told_0 : decode cX0_told 0 = .ok (.aload_n 0, 1) := dk_42 (dk_at dksX0_told_0 0 rfl rfl)
theorem dX0_told_1 : decode cX0_told 1 = .ok (.iload_n 1, 1) := dk_27 (dk_at dksX0_told_0 1 rfl rfl)
theorem dX0_told_2 : decode cX0_told 2 = .ok (.iconst 1, 1) := dk_4 (dk_at dksX0_told_0 2 rfl rfl)
theorem dX0_told_3 : decode cX0_told 3 = .ok (.iconst 5, 1) := dk_8 (dk_at dksX0_told_0 3 rfl rfl)
theorem dX0_told_4 : decode cX0_told 4 = .ok (.invokestatic 86, 3) := dk_184 0 86 (dk_at dksX0_told_0 4 rfl rfl)
theorem dX0_told_7 : decode cX0_told 7 = .ok (.iconst 1, 1) := dk_4 (dk_at dksX0_told_0 7 rfl rfl)
theorem dX0_told_8 : decode cX0_told 8 = .ok (.invokevirtual 94, 3) := dk_182 0 94 (dk_at dksX0_told_0 8 rfl rfl)
theorem dX0_told_11 : decode cX0_told 11 = .ok (.aload_n 0, 1) := dk_42 (dk_at dksX0_told_0 11 rfl rfl)
theorem dX0_told_12 : decode cX0_told 12 = .ok (.getfield 63, 3) := dk_180 0 63 (dk_at dksX0_told_0 12 rfl rfl)
theorem dX0_told_15 : decode cX0_told 15 = .ok (.iload_n 1, 1) := dk_27 (dk_at dksX0_told_0 15 rfl rfl)
theorem dX0_told_16 : decode cX0_told 16 = .ok (.iaload, 1) := dk_46 (dk_at dksX0_told_0 16 rfl rfl)
theorem dX0_told_17 : decode cX0_told 17 = .ok (.ireturn, 1) := dk_172 (dk_at dksX0_told_0 17 rfl rfl)
theorem dX0_told_18 : decode cX0_told 18 = .ok (.astore_n 2, 1) := dk_77 (dk_at dksX0_told_0 18 rfl rfl)
theorem dX0_told_19 : decode cX0_told 19 = .ok (.aload_n 0, 1) := dk_42 (dk_at dksX0_told_0 19 rfl rfl)
theorem dX0_told_20 : decode cX0_told 20 = .ok (.aload_n 2, 1) := dk_44 (dk_at dksX0_told_0 20 rfl rfl)
theorem dX0_told_21 : decode cX0_told 21 = .ok (.invokevirtual 131, 3) := dk_182 0 131 (dk_at dksX0_told_0 21 rfl rfl)
theorem dX0_told_24 : decode cX0_told 24 = .ok (.ireturn, 1) := dk_172 (dk_at dksX0_told_1 0 rfl rfl)
theorem q82 : (Jvm.Cond.initialized "WellRefuses") ∈ lw_all := lw_g (lw_at lw_m1 1 rfl) rfl
theorem q119 : (Jvm.Cond.instantiable "WellRefuses" (10 : Nat)) ∈ lw_all := lw_g (lw_at lw_m1 38 rfl) rfl
theorem q121 : (Jvm.Cond.instanceMethod ({ cls := "WellRefuses", name := "<init>", desc := "()V" } : Jvm.MethodName)) ∈ lw_all := lw_g (lw_at lw_m1 40 rfl) rfl
theorem q122 : (Jvm.Cond.code ({ cls := "WellRefuses", name := "<init>", desc := "()V" } : Jvm.MethodName) prog_1_method_5_code (2 : Nat) (Option.none : Option Jvm.ClassFile.FieldType)) ∈ lw_all := lw_g (lw_at lw_m1 41 rfl) rfl
theorem q123 : (Jvm.Cond.methodLink "WellRefuses" (37 : Nat) ({ cls := "java/lang/Object", name := "<init>", desc := "()V" } : Jvm.MethodName)) ∈ lw_all := lw_g (lw_at lw_m1 42 rfl) rfl
theorem q126 : (Jvm.Cond.classLink "WellRefuses" (8 : Nat) "WellRefuses$Finding") ∈ lw_all := lw_g (lw_at lw_m1 45 rfl) rfl
theorem q166 : (Jvm.Cond.methodLink "WellRefuses" (42 : Nat) ({ cls := "WellRefuses$Finding", name := "<init>", desc := "()V" } : Jvm.MethodName)) ∈ lw_all := lw_g (lw_at lw_m1 85 rfl) rfl
theorem q179 : (Jvm.Cond.fieldLinkNest "WellRefuses" (81 : Nat) "WellRefuses$Finding" "code" "I" "WellRefuses") ∈ lw_tbl := lw_at lw_m1 98 rfl
theorem q195 : (Jvm.Cond.classLink "WellRefuses" (43 : Nat) "WellRefuses$Land") ∈ lw_all := lw_g (lw_at lw_m1 114 rfl) rfl
theorem q197 : (Jvm.Cond.methodLinkNest "WellRefuses" (45 : Nat) ({ cls := "WellRefuses$Land", name := "<init>", desc := "()V" } : Jvm.MethodName) "WellRefuses") ∈ lw_tbl := lw_at lw_m1 116 rfl
theorem q219 : (Jvm.Cond.fieldLinkNest "WellRefuses" (100 : Nat) "WellRefuses$Land" "people" "I" "WellRefuses") ∈ lw_tbl := lw_at lw_m1 138 rfl
theorem q221 : (Jvm.Cond.fieldLinkNest "WellRefuses" (107 : Nat) "WellRefuses$Land" "person" "[LWellRefuses$One;" "WellRefuses") ∈ lw_tbl := lw_at lw_m1 140 rfl
theorem q223 : (Jvm.Cond.fieldLinkNest "WellRefuses" (115 : Nat) "WellRefuses$Land" "traits" "[I" "WellRefuses") ∈ lw_tbl := lw_at lw_m1 142 rfl
theorem q225 : (Jvm.Cond.fieldLinkNest "WellRefuses" (118 : Nat) "WellRefuses$Land" "water" "[I" "WellRefuses") ∈ lw_tbl := lw_at lw_m1 144 rfl
theorem q227 : (Jvm.Cond.fieldLinkNest "WellRefuses" (121 : Nat) "WellRefuses$Land" "thirst" "[I" "WellRefuses") ∈ lw_tbl := lw_at lw_m1 146 rfl
theorem q229 : (Jvm.Cond.fieldLinkNest "WellRefuses" (124 : Nat) "WellRefuses$Land" "owed" "[I" "WellRefuses") ∈ lw_tbl := lw_at lw_m1 148 rfl
theorem q231 : (Jvm.Cond.fieldLinkNest "WellRefuses" (197 : Nat) "WellRefuses$Land" "day" "I" "WellRefuses") ∈ lw_tbl := lw_at lw_m1 150 rfl
theorem q233 : (Jvm.Cond.fieldLinkNest "WellRefuses" (304 : Nat) "WellRefuses$Land" "tight" "I" "WellRefuses") ∈ lw_tbl := lw_at lw_m1 152 rfl
theorem q235 : (Jvm.Cond.fieldLinkNest "WellRefuses" (169 : Nat) "WellRefuses$Land" "text" "[LWellRefuses$Term;" "WellRefuses") ∈ lw_tbl := lw_at lw_m1 154 rfl
theorem q237 : (Jvm.Cond.fieldLinkNest "WellRefuses" (313 : Nat) "WellRefuses$Land" "z" "I" "WellRefuses") ∈ lw_tbl := lw_at lw_m1 156 rfl
theorem q239 : (Jvm.Cond.fieldLinkNest "WellRefuses" (165 : Nat) "WellRefuses$Land" "tape" "[B" "WellRefuses") ∈ lw_tbl := lw_at lw_m1 158 rfl
theorem q241 : (Jvm.Cond.fieldLinkNest "WellRefuses" (162 : Nat) "WellRefuses$Land" "taped" "I" "WellRefuses") ∈ lw_tbl := lw_at lw_m1 160 rfl
theorem q243 : (Jvm.Cond.fieldLinkNest "WellRefuses" (372 : Nat) "WellRefuses$Land" "waiting" "[I" "WellRefuses") ∈ lw_tbl := lw_at lw_m1 162 rfl
theorem q245 : (Jvm.Cond.fieldLinkNest "WellRefuses" (369 : Nat) "WellRefuses$Land" "waits" "I" "WellRefuses") ∈ lw_tbl := lw_at lw_m1 164 rfl
theorem q278 : (Jvm.Cond.classLink "WellRefuses" (56 : Nat) "WellRefuses$Trace") ∈ lw_all := lw_g (lw_at lw_m1 197 rfl) rfl
theorem q280 : (Jvm.Cond.methodLinkNest "WellRefuses" (58 : Nat) ({ cls := "WellRefuses$Trace", name := "<init>", desc := "()V" } : Jvm.MethodName) "WellRefuses") ∈ lw_tbl := lw_at lw_m1 199 rfl
theorem q285 : (Jvm.Cond.fieldLinkNest "WellRefuses" (339 : Nat) "WellRefuses$Trace" "ran" "[I" "WellRefuses") ∈ lw_tbl := lw_at lw_m1 204 rfl
theorem q287 : (Jvm.Cond.fieldLinkNest "WellRefuses" (316 : Nat) "WellRefuses$Trace" "many" "I" "WellRefuses") ∈ lw_tbl := lw_at lw_m1 206 rfl
theorem q293 : (Jvm.Cond.classLink "WellRefuses" (67 : Nat) "WellRefuses$Shelf") ∈ lw_all := lw_g (lw_at lw_m1 212 rfl) rfl
theorem q296 : (Jvm.Cond.methodLinkNest "WellRefuses" (80 : Nat) ({ cls := "WellRefuses$Shelf", name := "<init>", desc := "()V" } : Jvm.MethodName) "WellRefuses") ∈ lw_tbl := lw_at lw_m1 215 rfl
theorem q300 : (Jvm.Cond.fieldLinkNest "WellRefuses" (90 : Nat) "WellRefuses$Shelf" "held" "Ljava/lang/Object;" "WellRefuses") ∈ lw_tbl := lw_at lw_m1 219 rfl
theorem q305 : (Jvm.Cond.fieldLink "WellRefuses" (1 : Nat) "WellRefuses" "finding" "LWellRefuses$Finding;") ∈ lw_all := lw_g (lw_at lw_m1 224 rfl) rfl
theorem q306 : (Jvm.Cond.fieldLink "WellRefuses" (46 : Nat) "WellRefuses" "land" "LWellRefuses$Land;") ∈ lw_all := lw_g (lw_at lw_m1 225 rfl) rfl
theorem q307 : (Jvm.Cond.fieldLink "WellRefuses" (50 : Nat) "WellRefuses" "image" "LWellRefuses$Land;") ∈ lw_all := lw_g (lw_at lw_m1 226 rfl) rfl
theorem q308 : (Jvm.Cond.fieldLink "WellRefuses" (53 : Nat) "WellRefuses" "tried" "LWellRefuses$Land;") ∈ lw_all := lw_g (lw_at lw_m1 227 rfl) rfl
theorem q309 : (Jvm.Cond.fieldLink "WellRefuses" (366 : Nat) "WellRefuses" "images" "I") ∈ lw_all := lw_g (lw_at lw_m1 228 rfl) rfl
theorem q310 : (Jvm.Cond.fieldLink "WellRefuses" (59 : Nat) "WellRefuses" "trace" "LWellRefuses$Trace;") ∈ lw_all := lw_g (lw_at lw_m1 229 rfl) rfl
theorem q311 : (Jvm.Cond.fieldLink "WellRefuses" (63 : Nat) "WellRefuses" "errors" "[I") ∈ lw_all := lw_g (lw_at lw_m1 230 rfl) rfl
theorem q312 : (Jvm.Cond.fieldLink "WellRefuses" (69 : Nat) "WellRefuses" "sheets" "[LWellRefuses$Shelf;") ∈ lw_all := lw_g (lw_at lw_m1 231 rfl) rfl
theorem q313 : (Jvm.Cond.fieldLink "WellRefuses" (73 : Nat) "WellRefuses" "fits" "[Z") ∈ lw_all := lw_g (lw_at lw_m1 232 rfl) rfl
theorem q314 : (Jvm.Cond.fieldLink "WellRefuses" (77 : Nat) "WellRefuses" "thirstThen" "[I") ∈ lw_all := lw_g (lw_at lw_m1 233 rfl) rfl
theorem q315 : (Jvm.Cond.laysFinal "WellRefuses" "WellRefuses" "finding" "LWellRefuses$Finding;") ∈ lw_all := lw_g (lw_at lw_m1 234 rfl) rfl
theorem q316 : (Jvm.Cond.soleField "WellRefuses" "finding") ∈ lw_all := lw_g (lw_at lw_m1 235 rfl) rfl
theorem q317 : (Jvm.Cond.laysFinal "WellRefuses" "WellRefuses" "land" "LWellRefuses$Land;") ∈ lw_all := lw_g (lw_at lw_m1 236 rfl) rfl
theorem q318 : (Jvm.Cond.soleField "WellRefuses" "land") ∈ lw_all := lw_g (lw_at lw_m1 237 rfl) rfl
theorem q319 : (Jvm.Cond.laysFinal "WellRefuses" "WellRefuses" "image" "LWellRefuses$Land;") ∈ lw_all := lw_g (lw_at lw_m1 238 rfl) rfl
theorem q320 : (Jvm.Cond.soleField "WellRefuses" "image") ∈ lw_all := lw_g (lw_at lw_m1 239 rfl) rfl
theorem q321 : (Jvm.Cond.laysFinal "WellRefuses" "WellRefuses" "tried" "LWellRefuses$Land;") ∈ lw_all := lw_g (lw_at lw_m2 0 rfl) rfl
theorem q322 : (Jvm.Cond.soleField "WellRefuses" "tried") ∈ lw_all := lw_g (lw_at lw_m2 1 rfl) rfl
theorem q323 : (Jvm.Cond.lays "WellRefuses" "WellRefuses" "images" "I") ∈ lw_all := lw_g (lw_at lw_m2 2 rfl) rfl
theorem q324 : (Jvm.Cond.soleField "WellRefuses" "images") ∈ lw_all := lw_g (lw_at lw_m2 3 rfl) rfl
theorem q325 : (Jvm.Cond.laysFinal "WellRefuses" "WellRefuses" "trace" "LWellRefuses$Trace;") ∈ lw_all := lw_g (lw_at lw_m2 4 rfl) rfl
theorem q326 : (Jvm.Cond.soleField "WellRefuses" "trace") ∈ lw_all := lw_g (lw_at lw_m2 5 rfl) rfl
theorem q327 : (Jvm.Cond.laysFinal "WellRefuses" "WellRefuses" "errors" "[I") ∈ lw_all := lw_g (lw_at lw_m2 6 rfl) rfl
theorem q328 : (Jvm.Cond.soleField "WellRefuses" "errors") ∈ lw_all := lw_g (lw_at lw_m2 7 rfl) rfl
theorem q329 : (Jvm.Cond.laysFinal "WellRefuses" "WellRefuses" "sheets" "[LWellRefuses$Shelf;") ∈ lw_all := lw_g (lw_at lw_m2 8 rfl) rfl
theorem q330 : (Jvm.Cond.soleField "WellRefuses" "sheets") ∈ lw_all := lw_g (lw_at lw_m2 9 rfl) rfl
theorem q331 : (Jvm.Cond.laysFinal "WellRefuses" "WellRefuses" "fits" "[Z") ∈ lw_all := lw_g (lw_at lw_m2 10 rfl) rfl
theorem q332 : (Jvm.Cond.soleField "WellRefuses" "fits") ∈ lw_all := lw_g (lw_at lw_m2 11 rfl) rfl
theorem q333 : (Jvm.Cond.laysFinal "WellRefuses" "WellRefuses" "thirstThen" "[I") ∈ lw_all := lw_g (lw_at lw_m2 12 rfl) rfl
theorem q334 : (Jvm.Cond.soleField "WellRefuses" "thirstThen") ∈ lw_all := lw_g (lw_at lw_m2 13 rfl) rfl
theorem q335 : (Jvm.Cond.superclass "WellRefuses" "java/lang/Object") ∈ lw_all := lw_g (lw_at lw_m2 14 rfl) rfl
theorem q337 : (Jvm.Cond.instanceMethod ({ cls := "WellRefuses", name := "person", desc := "(II)I" } : Jvm.MethodName)) ∈ lw_all := lw_g (lw_at lw_m2 16 rfl) rfl
theorem q338 : (Jvm.Cond.selects "WellRefuses" ({ cls := "WellRefuses", name := "person", desc := "(II)I" } : Jvm.MethodName) ({ cls := "WellRefuses", name := "person", desc := "(II)I" } : Jvm.MethodName)) ∈ lw_all := lw_g (lw_at lw_m2 17 rfl) rfl
theorem q339 : (Jvm.Cond.codeWith ({ cls := "WellRefuses", name := "person", desc := "(II)I" } : Jvm.MethodName) prog_1_method_13_code (5 : Nat) (Option.some Jvm.ClassFile.FieldType.int) [((0 : Nat), (175 : Nat), (176 : Nat), (8 : Nat))]) ∈ lw_all := lw_g (lw_at lw_m2 18 rfl) rfl
theorem q340 : (Jvm.Cond.methodLink "WellRefuses" (86 : Nat) ({ cls := "WellRefuses", name := "in", desc := "(III)Z" } : Jvm.MethodName)) ∈ lw_all := lw_g (lw_at lw_m2 19 rfl) rfl
theorem q341 : (Jvm.Cond.static ({ cls := "WellRefuses", name := "in", desc := "(III)Z" } : Jvm.MethodName)) ∈ lw_all := lw_g (lw_at lw_m2 20 rfl) rfl
theorem q342 : (Jvm.Cond.code ({ cls := "WellRefuses", name := "in", desc := "(III)Z" } : Jvm.MethodName) prog_1_method_1_code (3 : Nat) (Option.some Jvm.ClassFile.FieldType.boolean)) ∈ lw_all := lw_g (lw_at lw_m2 21 rfl) rfl
theorem q343 : (Jvm.Cond.methodLink "WellRefuses" (94 : Nat) ({ cls := "WellRefuses", name := "need", desc := "(ZI)V" } : Jvm.MethodName)) ∈ lw_all := lw_g (lw_at lw_m2 22 rfl) rfl
theorem q344 : (Jvm.Cond.privateMethod ({ cls := "WellRefuses", name := "need", desc := "(ZI)V" } : Jvm.MethodName)) ∈ lw_tbl := lw_at lw_m2 23 rfl
theorem q345 : (Jvm.Cond.instanceMethod ({ cls := "WellRefuses", name := "need", desc := "(ZI)V" } : Jvm.MethodName)) ∈ lw_all := lw_g (lw_at lw_m2 24 rfl) rfl
theorem q346 : (Jvm.Cond.code ({ cls := "WellRefuses", name := "need", desc := "(ZI)V" } : Jvm.MethodName) prog_1_method_3_code (3 : Nat) (Option.none : Option Jvm.ClassFile.FieldType)) ∈ lw_all := lw_g (lw_at lw_m2 25 rfl) rfl
theorem q347 : (Jvm.Cond.methodLink "WellRefuses" (7 : Nat) ({ cls := "WellRefuses$Finding", name := "of", desc := "(I)LWellRefuses$Finding;" } : Jvm.MethodName)) ∈ lw_all := lw_g (lw_at lw_m2 26 rfl) rfl
theorem q351 : (Jvm.Cond.methodLink "WellRefuses" (111 : Nat) ({ cls := "WellRefuses", name := "oneOf", desc := "(ILWellRefuses$Trace;II)LWellRefuses$One;" } : Jvm.MethodName)) ∈ lw_all := lw_g (lw_at lw_m2 30 rfl) rfl
theorem q352 : (Jvm.Cond.static ({ cls := "WellRefuses", name := "oneOf", desc := "(ILWellRefuses$Trace;II)LWellRefuses$One;" } : Jvm.MethodName)) ∈ lw_all := lw_g (lw_at lw_m2 31 rfl) rfl
theorem q353 : (Jvm.Cond.code ({ cls := "WellRefuses", name := "oneOf", desc := "(ILWellRefuses$Trace;II)LWellRefuses$One;" } : Jvm.MethodName) prog_1_method_4_code (4 : Nat) (Option.some (Jvm.ClassFile.FieldType.object "WellRefuses$One"))) ∈ lw_all := lw_g (lw_at lw_m2 32 rfl) rfl
theorem q354 : (Jvm.Cond.classLink "WellRefuses" (13 : Nat) "WellRefuses$Saint") ∈ lw_all := lw_g (lw_at lw_m2 33 rfl) rfl
theorem q356 : (Jvm.Cond.methodLink "WellRefuses" (15 : Nat) ({ cls := "WellRefuses$Saint", name := "<init>", desc := "(LWellRefuses$Trace;II)V" } : Jvm.MethodName)) ∈ lw_all := lw_g (lw_at lw_m2 35 rfl) rfl
theorem q385 : (Jvm.Cond.fieldLink "WellRefuses" (143 : Nat) "WellRefuses$One" "m" "I") ∈ lw_all := lw_g (lw_at lw_m2 64 rfl) rfl
theorem q393 : (Jvm.Cond.classLink "WellRefuses" (19 : Nat) "WellRefuses$Farmer") ∈ lw_all := lw_g (lw_at lw_m2 72 rfl) rfl
theorem q395 : (Jvm.Cond.methodLink "WellRefuses" (21 : Nat) ({ cls := "WellRefuses$Farmer", name := "<init>", desc := "(LWellRefuses$Trace;II)V" } : Jvm.MethodName)) ∈ lw_all := lw_g (lw_at lw_m2 74 rfl) rfl
theorem q403 : (Jvm.Cond.classLink "WellRefuses" (22 : Nat) "WellRefuses$Stranger") ∈ lw_all := lw_g (lw_at lw_m2 82 rfl) rfl
theorem q405 : (Jvm.Cond.methodLink "WellRefuses" (24 : Nat) ({ cls := "WellRefuses$Stranger", name := "<init>", desc := "(LWellRefuses$Trace;II)V" } : Jvm.MethodName)) ∈ lw_all := lw_g (lw_at lw_m2 84 rfl) rfl
theorem q413 : (Jvm.Cond.classLink "WellRefuses" (25 : Nat) "WellRefuses$Bride") ∈ lw_all := lw_g (lw_at lw_m2 92 rfl) rfl
theorem q415 : (Jvm.Cond.methodLink "WellRefuses" (27 : Nat) ({ cls := "WellRefuses$Bride", name := "<init>", desc := "(LWellRefuses$Trace;II)V" } : Jvm.MethodName)) ∈ lw_all := lw_g (lw_at lw_m2 94 rfl) rfl
theorem q423 : (Jvm.Cond.classLink "WellRefuses" (28 : Nat) "WellRefuses$Boy") ∈ lw_all := lw_g (lw_at lw_m2 102 rfl) rfl
theorem q425 : (Jvm.Cond.methodLink "WellRefuses" (30 : Nat) ({ cls := "WellRefuses$Boy", name := "<init>", desc := "(LWellRefuses$Trace;II)V" } : Jvm.MethodName)) ∈ lw_all := lw_g (lw_at lw_m2 104 rfl) rfl
theorem q433 : (Jvm.Cond.classLink "WellRefuses" (31 : Nat) "WellRefuses$Twin") ∈ lw_all := lw_g (lw_at lw_m2 112 rfl) rfl
theorem q435 : (Jvm.Cond.methodLink "WellRefuses" (33 : Nat) ({ cls := "WellRefuses$Twin", name := "<init>", desc := "(LWellRefuses$Trace;II)V" } : Jvm.MethodName)) ∈ lw_all := lw_g (lw_at lw_m2 114 rfl) rfl
theorem q443 : (Jvm.Cond.classLink "WellRefuses" (34 : Nat) "WellRefuses$One") ∈ lw_all := lw_g (lw_at lw_m2 122 rfl) rfl
theorem q445 : (Jvm.Cond.methodLink "WellRefuses" (36 : Nat) ({ cls := "WellRefuses$One", name := "<init>", desc := "(LWellRefuses$Trace;II)V" } : Jvm.MethodName)) ∈ lw_all := lw_g (lw_at lw_m2 124 rfl) rfl
theorem q450 : (Jvm.Cond.methodLink "WellRefuses" (127 : Nat) ({ cls := "WellRefuses$Land", name := "place", desc := "(II)I" } : Jvm.MethodName)) ∈ lw_all := lw_g (lw_at lw_m2 129 rfl) rfl
theorem q453 : (Jvm.Cond.methodLink "WellRefuses" (131 : Nat) ({ cls := "WellRefuses", name := "finds", desc := "(LWellRefuses$Finding;)I" } : Jvm.MethodName)) ∈ lw_all := lw_g (lw_at lw_m2 132 rfl) rfl
theorem q454 : (Jvm.Cond.privateMethod ({ cls := "WellRefuses", name := "finds", desc := "(LWellRefuses$Finding;)I" } : Jvm.MethodName)) ∈ lw_tbl := lw_at lw_m2 133 rfl
theorem q455 : (Jvm.Cond.instanceMethod ({ cls := "WellRefuses", name := "finds", desc := "(LWellRefuses$Finding;)I" } : Jvm.MethodName)) ∈ lw_all := lw_g (lw_at lw_m2 134 rfl) rfl
theorem q456 : (Jvm.Cond.code ({ cls := "WellRefuses", name := "finds", desc := "(LWellRefuses$Finding;)I" } : Jvm.MethodName) prog_1_method_6_code (2 : Nat) (Option.some Jvm.ClassFile.FieldType.int)) ∈ lw_all := lw_g (lw_at lw_m2 135 rfl) rfl
theorem q457 : (Jvm.Cond.constant "WellRefuses" (85 : Nat) (-1000000000 : Int32)) ∈ lw_all := lw_g (lw_at lw_m2 136 rfl) rfl
theorem q459 : (Jvm.Cond.instanceMethod ({ cls := "WellRefuses", name := "ofPerson", desc := "(II)I" } : Jvm.MethodName)) ∈ lw_all := lw_g (lw_at lw_m2 138 rfl) rfl
theorem q460 : (Jvm.Cond.selects "WellRefuses" ({ cls := "WellRefuses", name := "ofPerson", desc := "(II)I" } : Jvm.MethodName) ({ cls := "WellRefuses", name := "ofPerson", desc := "(II)I" } : Jvm.MethodName)) ∈ lw_all := lw_g (lw_at lw_m2 139 rfl) rfl
theorem q461 : (Jvm.Cond.codeWith ({ cls := "WellRefuses", name := "ofPerson", desc := "(II)I" } : Jvm.MethodName) prog_1_method_14_code (4 : Nat) (Option.some Jvm.ClassFile.FieldType.int) [((0 : Nat), (60 : Nat), (123 : Nat), (8 : Nat)), ((61 : Nat), (65 : Nat), (123 : Nat), (8 : Nat)), ((66 : Nat), (75 : Nat), (123 : Nat), (8 : Nat)), ((76 : Nat), (85 : Nat), (123 : Nat), (8 : Nat)), ((86 : Nat), (95 : Nat), (123 : Nat), (8 : Nat)), ((96 : Nat), (100 : Nat), (123 : Nat), (8 : Nat)), ((101 : Nat), (105 : Nat), (123 : Nat), (8 : Nat)), ((106 : Nat), (122 : Nat), (123 : Nat), (8 : Nat))]) ∈ lw_all := lw_g (lw_at lw_m2 140 rfl) rfl
theorem q462 : (Jvm.Cond.methodLink "WellRefuses" (135 : Nat) ({ cls := "WellRefuses", name := "personAt", desc := "(IZ)LWellRefuses$One;" } : Jvm.MethodName)) ∈ lw_all := lw_g (lw_at lw_m2 141 rfl) rfl
theorem q463 : (Jvm.Cond.privateMethod ({ cls := "WellRefuses", name := "personAt", desc := "(IZ)LWellRefuses$One;" } : Jvm.MethodName)) ∈ lw_tbl := lw_at lw_m2 142 rfl
theorem q464 : (Jvm.Cond.instanceMethod ({ cls := "WellRefuses", name := "personAt", desc := "(IZ)LWellRefuses$One;" } : Jvm.MethodName)) ∈ lw_all := lw_g (lw_at lw_m2 143 rfl) rfl
theorem q465 : (Jvm.Cond.code ({ cls := "WellRefuses", name := "personAt", desc := "(IZ)LWellRefuses$One;" } : Jvm.MethodName) prog_1_method_18_code (3 : Nat) (Option.some (Jvm.ClassFile.FieldType.object "WellRefuses$One"))) ∈ lw_all := lw_g (lw_at lw_m2 144 rfl) rfl
theorem q466 : (Jvm.Cond.methodLink "WellRefuses" (103 : Nat) ({ cls := "WellRefuses", name := "isPerson", desc := "(I)Z" } : Jvm.MethodName)) ∈ lw_all := lw_g (lw_at lw_m2 145 rfl) rfl
theorem q467 : (Jvm.Cond.privateMethod ({ cls := "WellRefuses", name := "isPerson", desc := "(I)Z" } : Jvm.MethodName)) ∈ lw_tbl := lw_at lw_m2 146 rfl
theorem q468 : (Jvm.Cond.instanceMethod ({ cls := "WellRefuses", name := "isPerson", desc := "(I)Z" } : Jvm.MethodName)) ∈ lw_all := lw_g (lw_at lw_m2 147 rfl) rfl
theorem q469 : (Jvm.Cond.code ({ cls := "WellRefuses", name := "isPerson", desc := "(I)Z" } : Jvm.MethodName) prog_1_method_11_code (2 : Nat) (Option.some Jvm.ClassFile.FieldType.boolean)) ∈ lw_all := lw_g (lw_at lw_m2 148 rfl) rfl
theorem q470 : (Jvm.Cond.methodLink "WellRefuses" (139 : Nat) ({ cls := "WellRefuses$One", name := "kind", desc := "()I" } : Jvm.MethodName)) ∈ lw_all := lw_g (lw_at lw_m2 149 rfl) rfl
theorem q493 : (Jvm.Cond.methodLink "WellRefuses" (146 : Nat) ({ cls := "WellRefuses$One", name := "bucket", desc := "()I" } : Jvm.MethodName)) ∈ lw_all := lw_g (lw_at lw_m2 172 rfl) rfl
theorem q521 : (Jvm.Cond.methodLink "WellRefuses" (149 : Nat) ({ cls := "WellRefuses$One", name := "drinks", desc := "()I" } : Jvm.MethodName)) ∈ lw_all := lw_g (lw_at lw_m2 200 rfl) rfl
theorem q540 : (Jvm.Cond.methodLink "WellRefuses" (152 : Nat) ({ cls := "WellRefuses$Land", name := "isGivenNow", desc := "(I)Z" } : Jvm.MethodName)) ∈ lw_all := lw_g (lw_at lw_m2 219 rfl) rfl
theorem q586 : (Jvm.Cond.instanceMethod ({ cls := "WellRefuses", name := "change", desc := "(III)I" } : Jvm.MethodName)) ∈ lw_all := lw_g (lw_at lw_m3 25 rfl) rfl
theorem q587 : (Jvm.Cond.selects "WellRefuses" ({ cls := "WellRefuses", name := "change", desc := "(III)I" } : Jvm.MethodName) ({ cls := "WellRefuses", name := "change", desc := "(III)I" } : Jvm.MethodName)) ∈ lw_all := lw_g (lw_at lw_m3 26 rfl) rfl
theorem q588 : (Jvm.Cond.codeWith ({ cls := "WellRefuses", name := "change", desc := "(III)I" } : Jvm.MethodName) prog_1_method_15_code (6 : Nat) (Option.some Jvm.ClassFile.FieldType.int) [((0 : Nat), (108 : Nat), (109 : Nat), (8 : Nat))]) ∈ lw_all := lw_g (lw_at lw_m3 27 rfl) rfl
theorem q590 : (Jvm.Cond.instanceMethod ({ cls := "WellRefuses", name := "owe", desc := "(III)I" } : Jvm.MethodName)) ∈ lw_all := lw_g (lw_at lw_m3 29 rfl) rfl
theorem q591 : (Jvm.Cond.selects "WellRefuses" ({ cls := "WellRefuses", name := "owe", desc := "(III)I" } : Jvm.MethodName) ({ cls := "WellRefuses", name := "owe", desc := "(III)I" } : Jvm.MethodName)) ∈ lw_all := lw_g (lw_at lw_m3 30 rfl) rfl
theorem q592 : (Jvm.Cond.codeWith ({ cls := "WellRefuses", name := "owe", desc := "(III)I" } : Jvm.MethodName) prog_1_method_16_code (5 : Nat) (Option.some Jvm.ClassFile.FieldType.int) [((0 : Nat), (60 : Nat), (61 : Nat), (8 : Nat))]) ∈ lw_all := lw_g (lw_at lw_m3 31 rfl) rfl
theorem q593 : (Jvm.Cond.methodLink "WellRefuses" (155 : Nat) ({ cls := "WellRefuses", name := "areTwo", desc := "(II)Z" } : Jvm.MethodName)) ∈ lw_all := lw_g (lw_at lw_m3 32 rfl) rfl
theorem q594 : (Jvm.Cond.privateMethod ({ cls := "WellRefuses", name := "areTwo", desc := "(II)Z" } : Jvm.MethodName)) ∈ lw_tbl := lw_at lw_m3 33 rfl
theorem q595 : (Jvm.Cond.instanceMethod ({ cls := "WellRefuses", name := "areTwo", desc := "(II)Z" } : Jvm.MethodName)) ∈ lw_all := lw_g (lw_at lw_m3 34 rfl) rfl
theorem q596 : (Jvm.Cond.code ({ cls := "WellRefuses", name := "areTwo", desc := "(II)Z" } : Jvm.MethodName) prog_1_method_12_code (3 : Nat) (Option.some Jvm.ClassFile.FieldType.boolean)) ∈ lw_all := lw_g (lw_at lw_m3 35 rfl) rfl
theorem q598 : (Jvm.Cond.instanceMethod ({ cls := "WellRefuses", name := "owes", desc := "(II)I" } : Jvm.MethodName)) ∈ lw_all := lw_g (lw_at lw_m3 37 rfl) rfl
theorem q599 : (Jvm.Cond.selects "WellRefuses" ({ cls := "WellRefuses", name := "owes", desc := "(II)I" } : Jvm.MethodName) ({ cls := "WellRefuses", name := "owes", desc := "(II)I" } : Jvm.MethodName)) ∈ lw_all := lw_g (lw_at lw_m3 38 rfl) rfl
theorem q600 : (Jvm.Cond.codeWith ({ cls := "WellRefuses", name := "owes", desc := "(II)I" } : Jvm.MethodName) prog_1_method_17_code (4 : Nat) (Option.some Jvm.ClassFile.FieldType.int) [((0 : Nat), (24 : Nat), (25 : Nat), (8 : Nat))]) ∈ lw_all := lw_g (lw_at lw_m3 39 rfl) rfl
theorem q602 : (Jvm.Cond.instanceMethod ({ cls := "WellRefuses", name := "become", desc := "(II)I" } : Jvm.MethodName)) ∈ lw_all := lw_g (lw_at lw_m3 41 rfl) rfl
theorem q603 : (Jvm.Cond.selects "WellRefuses" ({ cls := "WellRefuses", name := "become", desc := "(II)I" } : Jvm.MethodName) ({ cls := "WellRefuses", name := "become", desc := "(II)I" } : Jvm.MethodName)) ∈ lw_all := lw_g (lw_at lw_m3 42 rfl) rfl
theorem q604 : (Jvm.Cond.codeWith ({ cls := "WellRefuses", name := "become", desc := "(II)I" } : Jvm.MethodName) prog_1_method_19_code (4 : Nat) (Option.some Jvm.ClassFile.FieldType.int) [((0 : Nat), (42 : Nat), (43 : Nat), (8 : Nat))]) ∈ lw_all := lw_g (lw_at lw_m3 43 rfl) rfl
theorem q606 : (Jvm.Cond.instanceMethod ({ cls := "WellRefuses", name := "as", desc := "(II)I" } : Jvm.MethodName)) ∈ lw_all := lw_g (lw_at lw_m3 45 rfl) rfl
theorem q607 : (Jvm.Cond.selects "WellRefuses" ({ cls := "WellRefuses", name := "as", desc := "(II)I" } : Jvm.MethodName) ({ cls := "WellRefuses", name := "as", desc := "(II)I" } : Jvm.MethodName)) ∈ lw_all := lw_g (lw_at lw_m3 46 rfl) rfl
theorem q608 : (Jvm.Cond.codeWith ({ cls := "WellRefuses", name := "as", desc := "(II)I" } : Jvm.MethodName) prog_1_method_20_code (4 : Nat) (Option.some Jvm.ClassFile.FieldType.int) [((0 : Nat), (27 : Nat), (28 : Nat), (8 : Nat))]) ∈ lw_all := lw_g (lw_at lw_m3 47 rfl) rfl
theorem q609 : (Jvm.Cond.methodLink "WellRefuses" (159 : Nat) ({ cls := "WellRefuses$One", name := "isOf", desc := "(I)Z" } : Jvm.MethodName)) ∈ lw_all := lw_g (lw_at lw_m3 48 rfl) rfl
theorem q639 : (Jvm.Cond.instanceMethod ({ cls := "WellRefuses", name := "feed", desc := "(JI)I" } : Jvm.MethodName)) ∈ lw_all := lw_g (lw_at lw_m3 78 rfl) rfl
theorem q640 : (Jvm.Cond.selects "WellRefuses" ({ cls := "WellRefuses", name := "feed", desc := "(JI)I" } : Jvm.MethodName) ({ cls := "WellRefuses", name := "feed", desc := "(JI)I" } : Jvm.MethodName)) ∈ lw_all := lw_g (lw_at lw_m3 79 rfl) rfl
theorem q641 : (Jvm.Cond.codeWith ({ cls := "WellRefuses", name := "feed", desc := "(JI)I" } : Jvm.MethodName) prog_1_method_21_code (5 : Nat) (Option.some Jvm.ClassFile.FieldType.int) [((0 : Nat), (95 : Nat), (96 : Nat), (8 : Nat))]) ∈ lw_all := lw_g (lw_at lw_m3 80 rfl) rfl
theorem q643 : (Jvm.Cond.instanceMethod ({ cls := "WellRefuses", name := "text", desc := "(I)I" } : Jvm.MethodName)) ∈ lw_all := lw_g (lw_at lw_m3 82 rfl) rfl
theorem q644 : (Jvm.Cond.selects "WellRefuses" ({ cls := "WellRefuses", name := "text", desc := "(I)I" } : Jvm.MethodName) ({ cls := "WellRefuses", name := "text", desc := "(I)I" } : Jvm.MethodName)) ∈ lw_all := lw_g (lw_at lw_m3 83 rfl) rfl
theorem q645 : (Jvm.Cond.codeWith ({ cls := "WellRefuses", name := "text", desc := "(I)I" } : Jvm.MethodName) prog_1_method_22_code (3 : Nat) (Option.some Jvm.ClassFile.FieldType.int) [((0 : Nat), (66 : Nat), (67 : Nat), (186 : Nat)), ((0 : Nat), (66 : Nat), (76 : Nat), (8 : Nat))]) ∈ lw_all := lw_g (lw_at lw_m3 84 rfl) rfl
theorem q646 : (Jvm.Cond.classLink "WellRefuses" (186 : Nat) "WellRefuses$Fault") ∈ lw_all := lw_g (lw_at lw_m3 85 rfl) rfl
theorem q647 : (Jvm.Cond.classLink "WellRefuses" (173 : Nat) "WellRefuses$Reader") ∈ lw_all := lw_g (lw_at lw_m3 86 rfl) rfl
theorem q649 : (Jvm.Cond.stringRef "WellRefuses" (175 : Nat) "tdw") ∈ lw_tbl := lw_at lw_m3 88 rfl
theorem q650 : (Jvm.Cond.stringRef "WellRefuses" (177 : Nat) "wom") ∈ lw_tbl := lw_at lw_m3 89 rfl
theorem q651 : (Jvm.Cond.methodLink "WellRefuses" (179 : Nat) ({ cls := "WellRefuses$Reader", name := "<init>", desc := "(Ljava/lang/String;[BI)V" } : Jvm.MethodName)) ∈ lw_all := lw_g (lw_at lw_m3 90 rfl) rfl
theorem q671 : (Jvm.Cond.methodLink "WellRefuses" (182 : Nat) ({ cls := "WellRefuses$Reader", name := "read", desc := "()LWellRefuses$Term;" } : Jvm.MethodName)) ∈ lw_all := lw_g (lw_at lw_m3 110 rfl) rfl
theorem q825 : (Jvm.Cond.fieldLinkNest "WellRefuses" (188 : Nat) "WellRefuses$Fault" "place" "I" "WellRefuses") ∈ lw_tbl := lw_at lw_m4 24 rfl
theorem q874 : (Jvm.Cond.instanceMethod ({ cls := "WellRefuses", name := "law", desc := "(IIII)I" } : Jvm.MethodName)) ∈ lw_all := lw_g (lw_at lw_m4 73 rfl) rfl
theorem q875 : (Jvm.Cond.selects "WellRefuses" ({ cls := "WellRefuses", name := "law", desc := "(IIII)I" } : Jvm.MethodName) ({ cls := "WellRefuses", name := "law", desc := "(IIII)I" } : Jvm.MethodName)) ∈ lw_all := lw_g (lw_at lw_m4 74 rfl) rfl
theorem q876 : (Jvm.Cond.codeWith ({ cls := "WellRefuses", name := "law", desc := "(IIII)I" } : Jvm.MethodName) prog_1_method_23_code (6 : Nat) (Option.some Jvm.ClassFile.FieldType.int) [((0 : Nat), (40 : Nat), (41 : Nat), (8 : Nat))]) ∈ lw_all := lw_g (lw_at lw_m4 75 rfl) rfl
theorem q877 : (Jvm.Cond.methodLink "WellRefuses" (190 : Nat) ({ cls := "WellRefuses$Land", name := "givesBy", desc := "(III)I" } : Jvm.MethodName)) ∈ lw_all := lw_g (lw_at lw_m4 76 rfl) rfl
theorem q878 : (Jvm.Cond.methodLink "WellRefuses" (194 : Nat) ({ cls := "WellRefuses$Land", name := "lendsBy", desc := "(III)I" } : Jvm.MethodName)) ∈ lw_all := lw_g (lw_at lw_m4 77 rfl) rfl
theorem q883 : (Jvm.Cond.instanceMethod ({ cls := "WellRefuses", name := "days", desc := "(I)I" } : Jvm.MethodName)) ∈ lw_all := lw_g (lw_at lw_m4 82 rfl) rfl
theorem q884 : (Jvm.Cond.selects "WellRefuses" ({ cls := "WellRefuses", name := "days", desc := "(I)I" } : Jvm.MethodName) ({ cls := "WellRefuses", name := "days", desc := "(I)I" } : Jvm.MethodName)) ∈ lw_all := lw_g (lw_at lw_m4 83 rfl) rfl
theorem q885 : (Jvm.Cond.codeWith ({ cls := "WellRefuses", name := "days", desc := "(I)I" } : Jvm.MethodName) prog_1_method_25_code (3 : Nat) (Option.some Jvm.ClassFile.FieldType.int) [((0 : Nat), (18 : Nat), (19 : Nat), (8 : Nat))]) ∈ lw_all := lw_g (lw_at lw_m4 84 rfl) rfl
theorem q886 : (Jvm.Cond.methodLink "WellRefuses" (200 : Nat) ({ cls := "WellRefuses", name := "mustGo", desc := "(II)V" } : Jvm.MethodName)) ∈ lw_all := lw_g (lw_at lw_m4 85 rfl) rfl
theorem q887 : (Jvm.Cond.privateMethod ({ cls := "WellRefuses", name := "mustGo", desc := "(II)V" } : Jvm.MethodName)) ∈ lw_tbl := lw_at lw_m4 86 rfl
theorem q888 : (Jvm.Cond.instanceMethod ({ cls := "WellRefuses", name := "mustGo", desc := "(II)V" } : Jvm.MethodName)) ∈ lw_all := lw_g (lw_at lw_m4 87 rfl) rfl
theorem q889 : (Jvm.Cond.code ({ cls := "WellRefuses", name := "mustGo", desc := "(II)V" } : Jvm.MethodName) prog_1_method_24_code (3 : Nat) (Option.none : Option Jvm.ClassFile.FieldType)) ∈ lw_all := lw_g (lw_at lw_m4 88 rfl) rfl
theorem q890 : (Jvm.Cond.methodLink "WellRefuses" (204 : Nat) ({ cls := "WellRefuses$Land", name := "goes", desc := "(I)LWellRefuses$Land;" } : Jvm.MethodName)) ∈ lw_all := lw_g (lw_at lw_m4 89 rfl) rfl
theorem q923 : (Jvm.Cond.methodLink "WellRefuses" (208 : Nat) ({ cls := "WellRefuses$Land", name := "allWater", desc := "()I" } : Jvm.MethodName)) ∈ lw_all := lw_g (lw_at lw_m4 122 rfl) rfl
theorem q931 : (Jvm.Cond.instanceMethod ({ cls := "WellRefuses", name := "loose", desc := "(I)I" } : Jvm.MethodName)) ∈ lw_all := lw_g (lw_at lw_m4 130 rfl) rfl
theorem q932 : (Jvm.Cond.selects "WellRefuses" ({ cls := "WellRefuses", name := "loose", desc := "(I)I" } : Jvm.MethodName) ({ cls := "WellRefuses", name := "loose", desc := "(I)I" } : Jvm.MethodName)) ∈ lw_all := lw_g (lw_at lw_m4 131 rfl) rfl
theorem q933 : (Jvm.Cond.codeWith ({ cls := "WellRefuses", name := "loose", desc := "(I)I" } : Jvm.MethodName) prog_1_method_26_code (3 : Nat) (Option.some Jvm.ClassFile.FieldType.int) [((0 : Nat), (34 : Nat), (35 : Nat), (8 : Nat))]) ∈ lw_all := lw_g (lw_at lw_m4 132 rfl) rfl
theorem q934 : (Jvm.Cond.methodLink "WellRefuses" (211 : Nat) ({ cls := "WellRefuses$Land", name := "goesLoose", desc := "()V" } : Jvm.MethodName)) ∈ lw_all := lw_g (lw_at lw_m4 133 rfl) rfl
theorem q944 : (Jvm.Cond.instanceMethod ({ cls := "WellRefuses", name := "strike", desc := "()I" } : Jvm.MethodName)) ∈ lw_all := lw_g (lw_at lw_m4 143 rfl) rfl
theorem q945 : (Jvm.Cond.selects "WellRefuses" ({ cls := "WellRefuses", name := "strike", desc := "()I" } : Jvm.MethodName) ({ cls := "WellRefuses", name := "strike", desc := "()I" } : Jvm.MethodName)) ∈ lw_all := lw_g (lw_at lw_m4 144 rfl) rfl
theorem q946 : (Jvm.Cond.code ({ cls := "WellRefuses", name := "strike", desc := "()I" } : Jvm.MethodName) prog_1_method_27_code (1 : Nat) (Option.some Jvm.ClassFile.FieldType.int)) ∈ lw_all := lw_g (lw_at lw_m4 145 rfl) rfl
theorem q947 : (Jvm.Cond.methodLink "WellRefuses" (214 : Nat) ({ cls := "WellRefuses$Land", name := "strikes", desc := "()I" } : Jvm.MethodName)) ∈ lw_all := lw_g (lw_at lw_m4 146 rfl) rfl
theorem q964 : (Jvm.Cond.instanceMethod ({ cls := "WellRefuses", name := "then", desc := "(III)I" } : Jvm.MethodName)) ∈ lw_all := lw_g (lw_at lw_m4 163 rfl) rfl
theorem q965 : (Jvm.Cond.selects "WellRefuses" ({ cls := "WellRefuses", name := "then", desc := "(III)I" } : Jvm.MethodName) ({ cls := "WellRefuses", name := "then", desc := "(III)I" } : Jvm.MethodName)) ∈ lw_all := lw_g (lw_at lw_m4 164 rfl) rfl
theorem q966 : (Jvm.Cond.codeWith ({ cls := "WellRefuses", name := "then", desc := "(III)I" } : Jvm.MethodName) prog_1_method_28_code (5 : Nat) (Option.some Jvm.ClassFile.FieldType.int) [((0 : Nat), (75 : Nat), (76 : Nat), (8 : Nat))]) ∈ lw_all := lw_g (lw_at lw_m4 165 rfl) rfl
theorem q967 : (Jvm.Cond.methodLink "WellRefuses" (217 : Nat) ({ cls := "WellRefuses", name := "isAhead", desc := "(I)Z" } : Jvm.MethodName)) ∈ lw_all := lw_g (lw_at lw_m4 166 rfl) rfl
theorem q968 : (Jvm.Cond.static ({ cls := "WellRefuses", name := "isAhead", desc := "(I)Z" } : Jvm.MethodName)) ∈ lw_all := lw_g (lw_at lw_m4 167 rfl) rfl
theorem q969 : (Jvm.Cond.code ({ cls := "WellRefuses", name := "isAhead", desc := "(I)Z" } : Jvm.MethodName) prog_1_method_7_code (1 : Nat) (Option.some Jvm.ClassFile.FieldType.boolean)) ∈ lw_all := lw_g (lw_at lw_m4 168 rfl) rfl
theorem q970 : (Jvm.Cond.methodLink "WellRefuses" (220 : Nat) ({ cls := "WellRefuses$Land", name := "become", desc := "(LWellRefuses$Land;)LWellRefuses$Land;" } : Jvm.MethodName)) ∈ lw_all := lw_g (lw_at lw_m4 169 rfl) rfl
theorem q978 : (Jvm.Cond.instanceMethod ({ cls := "WellRefuses", name := "first", desc := "(II)I" } : Jvm.MethodName)) ∈ lw_all := lw_g (lw_at lw_m4 177 rfl) rfl
theorem q979 : (Jvm.Cond.selects "WellRefuses" ({ cls := "WellRefuses", name := "first", desc := "(II)I" } : Jvm.MethodName) ({ cls := "WellRefuses", name := "first", desc := "(II)I" } : Jvm.MethodName)) ∈ lw_all := lw_g (lw_at lw_m4 178 rfl) rfl
theorem q980 : (Jvm.Cond.codeWith ({ cls := "WellRefuses", name := "first", desc := "(II)I" } : Jvm.MethodName) prog_1_method_30_code (4 : Nat) (Option.some Jvm.ClassFile.FieldType.int) [((0 : Nat), (100 : Nat), (101 : Nat), (8 : Nat))]) ∈ lw_all := lw_g (lw_at lw_m4 179 rfl) rfl
theorem q981 : (Jvm.Cond.methodLink "WellRefuses" (224 : Nat) ({ cls := "WellRefuses", name := "thirsty", desc := "(I)I" } : Jvm.MethodName)) ∈ lw_all := lw_g (lw_at lw_m4 180 rfl) rfl
theorem q982 : (Jvm.Cond.privateMethod ({ cls := "WellRefuses", name := "thirsty", desc := "(I)I" } : Jvm.MethodName)) ∈ lw_tbl := lw_at lw_m4 181 rfl
theorem q983 : (Jvm.Cond.instanceMethod ({ cls := "WellRefuses", name := "thirsty", desc := "(I)I" } : Jvm.MethodName)) ∈ lw_all := lw_g (lw_at lw_m4 182 rfl) rfl
theorem q984 : (Jvm.Cond.code ({ cls := "WellRefuses", name := "thirsty", desc := "(I)I" } : Jvm.MethodName) prog_1_method_29_code (3 : Nat) (Option.some Jvm.ClassFile.FieldType.int)) ∈ lw_all := lw_g (lw_at lw_m4 183 rfl) rfl
theorem q985 : (Jvm.Cond.methodLink "WellRefuses" (228 : Nat) ({ cls := "WellRefuses$Land", name := "passes", desc := "()V" } : Jvm.MethodName)) ∈ lw_all := lw_g (lw_at lw_m4 184 rfl) rfl
theorem q987 : (Jvm.Cond.instanceMethod ({ cls := "WellRefuses", name := "rules", desc := "(II)I" } : Jvm.MethodName)) ∈ lw_all := lw_g (lw_at lw_m4 186 rfl) rfl
theorem q988 : (Jvm.Cond.selects "WellRefuses" ({ cls := "WellRefuses", name := "rules", desc := "(II)I" } : Jvm.MethodName) ({ cls := "WellRefuses", name := "rules", desc := "(II)I" } : Jvm.MethodName)) ∈ lw_all := lw_g (lw_at lw_m4 187 rfl) rfl
theorem q989 : (Jvm.Cond.codeWith ({ cls := "WellRefuses", name := "rules", desc := "(II)I" } : Jvm.MethodName) prog_1_method_38_code (4 : Nat) (Option.some Jvm.ClassFile.FieldType.int) [((0 : Nat), (79 : Nat), (80 : Nat), (8 : Nat))]) ∈ lw_all := lw_g (lw_at lw_m4 188 rfl) rfl
theorem q990 : (Jvm.Cond.methodLink "WellRefuses" (255 : Nat) ({ cls := "WellRefuses", name := "isSheet", desc := "(I)Z" } : Jvm.MethodName)) ∈ lw_all := lw_g (lw_at lw_m4 189 rfl) rfl
theorem q991 : (Jvm.Cond.static ({ cls := "WellRefuses", name := "isSheet", desc := "(I)Z" } : Jvm.MethodName)) ∈ lw_all := lw_g (lw_at lw_m4 190 rfl) rfl
theorem q992 : (Jvm.Cond.code ({ cls := "WellRefuses", name := "isSheet", desc := "(I)Z" } : Jvm.MethodName) prog_1_method_8_code (1 : Nat) (Option.some Jvm.ClassFile.FieldType.boolean)) ∈ lw_all := lw_g (lw_at lw_m4 191 rfl) rfl
theorem q993 : (Jvm.Cond.methodLink "WellRefuses" (258 : Nat) ({ cls := "WellRefuses", name := "sheetAt", desc := "(I)LWellRefuses$Sheet;" } : Jvm.MethodName)) ∈ lw_all := lw_g (lw_at lw_m4 192 rfl) rfl
theorem q994 : (Jvm.Cond.privateMethod ({ cls := "WellRefuses", name := "sheetAt", desc := "(I)LWellRefuses$Sheet;" } : Jvm.MethodName)) ∈ lw_tbl := lw_at lw_m4 193 rfl
theorem q995 : (Jvm.Cond.instanceMethod ({ cls := "WellRefuses", name := "sheetAt", desc := "(I)LWellRefuses$Sheet;" } : Jvm.MethodName)) ∈ lw_all := lw_g (lw_at lw_m4 194 rfl) rfl
theorem q996 : (Jvm.Cond.code ({ cls := "WellRefuses", name := "sheetAt", desc := "(I)LWellRefuses$Sheet;" } : Jvm.MethodName) prog_1_method_10_code (2 : Nat) (Option.some (Jvm.ClassFile.FieldType.object "WellRefuses$Sheet"))) ∈ lw_all := lw_g (lw_at lw_m4 195 rfl) rfl
theorem q997 : (Jvm.Cond.classLink "WellRefuses" (98 : Nat) "WellRefuses$Sheet") ∈ lw_all := lw_g (lw_at lw_m4 196 rfl) rfl
theorem q998 : (Jvm.Cond.methodLink "WellRefuses" (262 : Nat) ({ cls := "WellRefuses", name := "findRules", desc := "(LWellRefuses$Sheet;)I" } : Jvm.MethodName)) ∈ lw_all := lw_g (lw_at lw_m4 197 rfl) rfl
theorem q999 : (Jvm.Cond.privateMethod ({ cls := "WellRefuses", name := "findRules", desc := "(LWellRefuses$Sheet;)I" } : Jvm.MethodName)) ∈ lw_tbl := lw_at lw_m4 198 rfl
theorem q1000 : (Jvm.Cond.instanceMethod ({ cls := "WellRefuses", name := "findRules", desc := "(LWellRefuses$Sheet;)I" } : Jvm.MethodName)) ∈ lw_all := lw_g (lw_at lw_m4 199 rfl) rfl
theorem q1001 : (Jvm.Cond.code ({ cls := "WellRefuses", name := "findRules", desc := "(LWellRefuses$Sheet;)I" } : Jvm.MethodName) prog_1_method_34_code (4 : Nat) (Option.some Jvm.ClassFile.FieldType.int)) ∈ lw_all := lw_g (lw_at lw_m4 200 rfl) rfl
theorem q1002 : (Jvm.Cond.methodLink "WellRefuses" (243 : Nat) ({ cls := "WellRefuses", name := "doesFit", desc := "(LWellRefuses$Sheet;I)Z" } : Jvm.MethodName)) ∈ lw_all := lw_g (lw_at lw_m4 201 rfl) rfl
theorem q1003 : (Jvm.Cond.privateMethod ({ cls := "WellRefuses", name := "doesFit", desc := "(LWellRefuses$Sheet;I)Z" } : Jvm.MethodName)) ∈ lw_tbl := lw_at lw_m4 202 rfl
theorem q1004 : (Jvm.Cond.instanceMethod ({ cls := "WellRefuses", name := "doesFit", desc := "(LWellRefuses$Sheet;I)Z" } : Jvm.MethodName)) ∈ lw_all := lw_g (lw_at lw_m4 203 rfl) rfl
theorem q1005 : (Jvm.Cond.code ({ cls := "WellRefuses", name := "doesFit", desc := "(LWellRefuses$Sheet;I)Z" } : Jvm.MethodName) prog_1_method_33_code (5 : Nat) (Option.some Jvm.ClassFile.FieldType.boolean)) ∈ lw_all := lw_g (lw_at lw_m4 204 rfl) rfl
theorem q1006 : (Jvm.Cond.methodLink "WellRefuses" (231 : Nat) ({ cls := "WellRefuses", name := "isRule", desc := "(I)Z" } : Jvm.MethodName)) ∈ lw_all := lw_g (lw_at lw_m4 205 rfl) rfl
theorem q1007 : (Jvm.Cond.static ({ cls := "WellRefuses", name := "isRule", desc := "(I)Z" } : Jvm.MethodName)) ∈ lw_all := lw_g (lw_at lw_m4 206 rfl) rfl
theorem q1008 : (Jvm.Cond.code ({ cls := "WellRefuses", name := "isRule", desc := "(I)Z" } : Jvm.MethodName) prog_1_method_31_code (1 : Nat) (Option.some Jvm.ClassFile.FieldType.boolean)) ∈ lw_all := lw_g (lw_at lw_m4 207 rfl) rfl
theorem q1009 : (Jvm.Cond.methodLink "WellRefuses" (234 : Nat) ({ cls := "WellRefuses$Sheet", name := "size", desc := "()I" } : Jvm.MethodName)) ∈ lw_all := lw_g (lw_at lw_m4 208 rfl) rfl
theorem q1021 : (Jvm.Cond.methodLink "WellRefuses" (237 : Nat) ({ cls := "WellRefuses$Sheet", name := "get", desc := "(I)I" } : Jvm.MethodName)) ∈ lw_all := lw_g (lw_at lw_m4 220 rfl) rfl
theorem q1033 : (Jvm.Cond.methodLink "WellRefuses" (240 : Nat) ({ cls := "WellRefuses", name := "doesGive", desc := "(II)Z" } : Jvm.MethodName)) ∈ lw_all := lw_g (lw_at lw_m4 232 rfl) rfl
theorem q1034 : (Jvm.Cond.static ({ cls := "WellRefuses", name := "doesGive", desc := "(II)Z" } : Jvm.MethodName)) ∈ lw_all := lw_g (lw_at lw_m4 233 rfl) rfl
theorem q1035 : (Jvm.Cond.code ({ cls := "WellRefuses", name := "doesGive", desc := "(II)Z" } : Jvm.MethodName) prog_1_method_32_code (2 : Nat) (Option.some Jvm.ClassFile.FieldType.boolean)) ∈ lw_all := lw_g (lw_at lw_m4 234 rfl) rfl
theorem q1036 : (Jvm.Cond.methodLink "WellRefuses" (266 : Nat) ({ cls := "WellRefuses", name := "leastRule", desc := "()I" } : Jvm.MethodName)) ∈ lw_all := lw_g (lw_at lw_m4 235 rfl) rfl
theorem q1037 : (Jvm.Cond.privateMethod ({ cls := "WellRefuses", name := "leastRule", desc := "()I" } : Jvm.MethodName)) ∈ lw_tbl := lw_at lw_m4 236 rfl
theorem q1038 : (Jvm.Cond.instanceMethod ({ cls := "WellRefuses", name := "leastRule", desc := "()I" } : Jvm.MethodName)) ∈ lw_all := lw_g (lw_at lw_m4 237 rfl) rfl
theorem q1039 : (Jvm.Cond.code ({ cls := "WellRefuses", name := "leastRule", desc := "()I" } : Jvm.MethodName) prog_1_method_35_code (2 : Nat) (Option.some Jvm.ClassFile.FieldType.int)) ∈ lw_all := lw_g (lw_at lw_m4 238 rfl) rfl
theorem q1040 : (Jvm.Cond.methodLink "WellRefuses" (269 : Nat) ({ cls := "WellRefuses", name := "toSend", desc := "()I" } : Jvm.MethodName)) ∈ lw_all := lw_g (lw_at lw_m4 239 rfl) rfl
theorem q1041 : (Jvm.Cond.privateMethod ({ cls := "WellRefuses", name := "toSend", desc := "()I" } : Jvm.MethodName)) ∈ lw_tbl := lw_at lw_m5 0 rfl
theorem q1042 : (Jvm.Cond.instanceMethod ({ cls := "WellRefuses", name := "toSend", desc := "()I" } : Jvm.MethodName)) ∈ lw_all := lw_g (lw_at lw_m5 1 rfl) rfl
theorem q1043 : (Jvm.Cond.code ({ cls := "WellRefuses", name := "toSend", desc := "()I" } : Jvm.MethodName) prog_1_method_37_code (3 : Nat) (Option.some Jvm.ClassFile.FieldType.int)) ∈ lw_all := lw_g (lw_at lw_m5 2 rfl) rfl
theorem q1044 : (Jvm.Cond.methodLink "WellRefuses" (252 : Nat) ({ cls := "WellRefuses", name := "unevenBy", desc := "(I)I" } : Jvm.MethodName)) ∈ lw_all := lw_g (lw_at lw_m5 3 rfl) rfl
theorem q1045 : (Jvm.Cond.privateMethod ({ cls := "WellRefuses", name := "unevenBy", desc := "(I)I" } : Jvm.MethodName)) ∈ lw_tbl := lw_at lw_m5 4 rfl
theorem q1046 : (Jvm.Cond.instanceMethod ({ cls := "WellRefuses", name := "unevenBy", desc := "(I)I" } : Jvm.MethodName)) ∈ lw_all := lw_g (lw_at lw_m5 5 rfl) rfl
theorem q1047 : (Jvm.Cond.code ({ cls := "WellRefuses", name := "unevenBy", desc := "(I)I" } : Jvm.MethodName) prog_1_method_36_code (4 : Nat) (Option.some Jvm.ClassFile.FieldType.int)) ∈ lw_all := lw_g (lw_at lw_m5 6 rfl) rfl
theorem q1048 : (Jvm.Cond.methodLink "WellRefuses" (247 : Nat) ({ cls := "java/lang/Math", name := "abs", desc := "(I)I" } : Jvm.MethodName)) ∈ lw_all := lw_g (lw_at lw_m5 7 rfl) rfl
theorem q1052 : (Jvm.Cond.instanceMethod ({ cls := "WellRefuses", name := "turn", desc := "(II)I" } : Jvm.MethodName)) ∈ lw_all := lw_g (lw_at lw_m5 11 rfl) rfl
theorem q1053 : (Jvm.Cond.selects "WellRefuses" ({ cls := "WellRefuses", name := "turn", desc := "(II)I" } : Jvm.MethodName) ({ cls := "WellRefuses", name := "turn", desc := "(II)I" } : Jvm.MethodName)) ∈ lw_all := lw_g (lw_at lw_m5 12 rfl) rfl
theorem q1054 : (Jvm.Cond.codeWith ({ cls := "WellRefuses", name := "turn", desc := "(II)I" } : Jvm.MethodName) prog_1_method_40_code (7 : Nat) (Option.some Jvm.ClassFile.FieldType.int) [((0 : Nat), (90 : Nat), (91 : Nat), (8 : Nat))]) ∈ lw_all := lw_g (lw_at lw_m5 13 rfl) rfl
theorem q1055 : (Jvm.Cond.methodLink "WellRefuses" (275 : Nat) ({ cls := "WellRefuses", name := "oftenWith", desc := "(II)I" } : Jvm.MethodName)) ∈ lw_all := lw_g (lw_at lw_m5 14 rfl) rfl
theorem q1056 : (Jvm.Cond.privateMethod ({ cls := "WellRefuses", name := "oftenWith", desc := "(II)I" } : Jvm.MethodName)) ∈ lw_tbl := lw_at lw_m5 15 rfl
theorem q1057 : (Jvm.Cond.instanceMethod ({ cls := "WellRefuses", name := "oftenWith", desc := "(II)I" } : Jvm.MethodName)) ∈ lw_all := lw_g (lw_at lw_m5 16 rfl) rfl
theorem q1058 : (Jvm.Cond.code ({ cls := "WellRefuses", name := "oftenWith", desc := "(II)I" } : Jvm.MethodName) prog_1_method_39_code (5 : Nat) (Option.some Jvm.ClassFile.FieldType.int)) ∈ lw_all := lw_g (lw_at lw_m5 17 rfl) rfl
theorem q1059 : (Jvm.Cond.methodLink "WellRefuses" (272 : Nat) ({ cls := "WellRefuses$Land", name := "isGiven", desc := "(III)Z" } : Jvm.MethodName)) ∈ lw_all := lw_g (lw_at lw_m5 18 rfl) rfl
theorem q1060 : (Jvm.Cond.methodLink "WellRefuses" (278 : Nat) ({ cls := "java/lang/Math", name := "max", desc := "(II)I" } : Jvm.MethodName)) ∈ lw_all := lw_g (lw_at lw_m5 19 rfl) rfl
theorem q1062 : (Jvm.Cond.instanceMethod ({ cls := "WellRefuses", name := "cover", desc := "()I" } : Jvm.MethodName)) ∈ lw_all := lw_g (lw_at lw_m5 21 rfl) rfl
theorem q1063 : (Jvm.Cond.selects "WellRefuses" ({ cls := "WellRefuses", name := "cover", desc := "()I" } : Jvm.MethodName) ({ cls := "WellRefuses", name := "cover", desc := "()I" } : Jvm.MethodName)) ∈ lw_all := lw_g (lw_at lw_m5 22 rfl) rfl
theorem q1064 : (Jvm.Cond.codeWith ({ cls := "WellRefuses", name := "cover", desc := "()I" } : Jvm.MethodName) prog_1_method_43_code (6 : Nat) (Option.some Jvm.ClassFile.FieldType.int) [((0 : Nat), (101 : Nat), (102 : Nat), (8 : Nat))]) ∈ lw_all := lw_g (lw_at lw_m5 23 rfl) rfl
theorem q1065 : (Jvm.Cond.methodLink "WellRefuses" (284 : Nat) ({ cls := "WellRefuses$Land", name := "whoAreGiven", desc := "()I" } : Jvm.MethodName)) ∈ lw_all := lw_g (lw_at lw_m5 24 rfl) rfl
theorem q1069 : (Jvm.Cond.methodLink "WellRefuses" (287 : Nat) ({ cls := "WellRefuses", name := "drinkAll", desc := "()I" } : Jvm.MethodName)) ∈ lw_all := lw_g (lw_at lw_m5 28 rfl) rfl
theorem q1070 : (Jvm.Cond.privateMethod ({ cls := "WellRefuses", name := "drinkAll", desc := "()I" } : Jvm.MethodName)) ∈ lw_tbl := lw_at lw_m5 29 rfl
theorem q1071 : (Jvm.Cond.instanceMethod ({ cls := "WellRefuses", name := "drinkAll", desc := "()I" } : Jvm.MethodName)) ∈ lw_all := lw_g (lw_at lw_m5 30 rfl) rfl
theorem q1072 : (Jvm.Cond.code ({ cls := "WellRefuses", name := "drinkAll", desc := "()I" } : Jvm.MethodName) prog_1_method_41_code (3 : Nat) (Option.some Jvm.ClassFile.FieldType.int)) ∈ lw_all := lw_g (lw_at lw_m5 31 rfl) rfl
theorem q1073 : (Jvm.Cond.methodLink "WellRefuses" (290 : Nat) ({ cls := "java/lang/Integer", name := "bitCount", desc := "(I)I" } : Jvm.MethodName)) ∈ lw_all := lw_g (lw_at lw_m5 32 rfl) rfl
theorem q1079 : (Jvm.Cond.methodLink "WellRefuses" (295 : Nat) ({ cls := "WellRefuses", name := "fillAll", desc := "(I)I" } : Jvm.MethodName)) ∈ lw_all := lw_g (lw_at lw_m5 38 rfl) rfl
theorem q1080 : (Jvm.Cond.privateMethod ({ cls := "WellRefuses", name := "fillAll", desc := "(I)I" } : Jvm.MethodName)) ∈ lw_tbl := lw_at lw_m5 39 rfl
theorem q1081 : (Jvm.Cond.instanceMethod ({ cls := "WellRefuses", name := "fillAll", desc := "(I)I" } : Jvm.MethodName)) ∈ lw_all := lw_g (lw_at lw_m5 40 rfl) rfl
theorem q1082 : (Jvm.Cond.code ({ cls := "WellRefuses", name := "fillAll", desc := "(I)I" } : Jvm.MethodName) prog_1_method_42_code (4 : Nat) (Option.some Jvm.ClassFile.FieldType.int)) ∈ lw_all := lw_g (lw_at lw_m5 41 rfl) rfl
theorem q1083 : (Jvm.Cond.methodLink "WellRefuses" (281 : Nat) ({ cls := "WellRefuses", name := "hasBit", desc := "(II)Z" } : Jvm.MethodName)) ∈ lw_all := lw_g (lw_at lw_m5 42 rfl) rfl
theorem q1084 : (Jvm.Cond.static ({ cls := "WellRefuses", name := "hasBit", desc := "(II)Z" } : Jvm.MethodName)) ∈ lw_all := lw_g (lw_at lw_m5 43 rfl) rfl
theorem q1085 : (Jvm.Cond.code ({ cls := "WellRefuses", name := "hasBit", desc := "(II)Z" } : Jvm.MethodName) prog_1_method_2_code (2 : Nat) (Option.some Jvm.ClassFile.FieldType.boolean)) ∈ lw_all := lw_g (lw_at lw_m5 44 rfl) rfl
theorem q1087 : (Jvm.Cond.instanceMethod ({ cls := "WellRefuses", name := "kept", desc := "(II)I" } : Jvm.MethodName)) ∈ lw_all := lw_g (lw_at lw_m5 46 rfl) rfl
theorem q1088 : (Jvm.Cond.selects "WellRefuses" ({ cls := "WellRefuses", name := "kept", desc := "(II)I" } : Jvm.MethodName) ({ cls := "WellRefuses", name := "kept", desc := "(II)I" } : Jvm.MethodName)) ∈ lw_all := lw_g (lw_at lw_m5 47 rfl) rfl
theorem q1089 : (Jvm.Cond.codeWith ({ cls := "WellRefuses", name := "kept", desc := "(II)I" } : Jvm.MethodName) prog_1_method_44_code (5 : Nat) (Option.some Jvm.ClassFile.FieldType.int) [((0 : Nat), (139 : Nat), (140 : Nat), (8 : Nat))]) ∈ lw_all := lw_g (lw_at lw_m5 48 rfl) rfl
theorem q1090 : (Jvm.Cond.methodLink "WellRefuses" (298 : Nat) ({ cls := "java/lang/System", name := "arraycopy", desc := "(Ljava/lang/Object;ILjava/lang/Object;II)V" } : Jvm.MethodName)) ∈ lw_all := lw_g (lw_at lw_m5 49 rfl) rfl
theorem q1092 : (Jvm.Cond.instanceMethod ({ cls := "WellRefuses", name := "net", desc := "(I)I" } : Jvm.MethodName)) ∈ lw_all := lw_g (lw_at lw_m5 51 rfl) rfl
theorem q1093 : (Jvm.Cond.selects "WellRefuses" ({ cls := "WellRefuses", name := "net", desc := "(I)I" } : Jvm.MethodName) ({ cls := "WellRefuses", name := "net", desc := "(I)I" } : Jvm.MethodName)) ∈ lw_all := lw_g (lw_at lw_m5 52 rfl) rfl
theorem q1094 : (Jvm.Cond.codeWith ({ cls := "WellRefuses", name := "net", desc := "(I)I" } : Jvm.MethodName) prog_1_method_45_code (4 : Nat) (Option.some Jvm.ClassFile.FieldType.int) [((0 : Nat), (62 : Nat), (63 : Nat), (8 : Nat))]) ∈ lw_all := lw_g (lw_at lw_m5 53 rfl) rfl
theorem q1096 : (Jvm.Cond.instanceMethod ({ cls := "WellRefuses", name := "struck", desc := "(I)I" } : Jvm.MethodName)) ∈ lw_all := lw_g (lw_at lw_m5 55 rfl) rfl
theorem q1097 : (Jvm.Cond.selects "WellRefuses" ({ cls := "WellRefuses", name := "struck", desc := "(I)I" } : Jvm.MethodName) ({ cls := "WellRefuses", name := "struck", desc := "(I)I" } : Jvm.MethodName)) ∈ lw_all := lw_g (lw_at lw_m5 56 rfl) rfl
theorem q1098 : (Jvm.Cond.codeWith ({ cls := "WellRefuses", name := "struck", desc := "(I)I" } : Jvm.MethodName) prog_1_method_46_code (3 : Nat) (Option.some Jvm.ClassFile.FieldType.int) [((0 : Nat), (41 : Nat), (42 : Nat), (8 : Nat))]) ∈ lw_all := lw_g (lw_at lw_m5 57 rfl) rfl
theorem q1099 : (Jvm.Cond.methodLink "WellRefuses" (307 : Nat) ({ cls := "WellRefuses$Land", name := "allOwed", desc := "()I" } : Jvm.MethodName)) ∈ lw_all := lw_g (lw_at lw_m5 58 rfl) rfl
theorem q1104 : (Jvm.Cond.instanceMethod ({ cls := "WellRefuses", name := "odds", desc := "(II)I" } : Jvm.MethodName)) ∈ lw_all := lw_g (lw_at lw_m5 63 rfl) rfl
theorem q1105 : (Jvm.Cond.selects "WellRefuses" ({ cls := "WellRefuses", name := "odds", desc := "(II)I" } : Jvm.MethodName) ({ cls := "WellRefuses", name := "odds", desc := "(II)I" } : Jvm.MethodName)) ∈ lw_all := lw_g (lw_at lw_m5 64 rfl) rfl
theorem q1106 : (Jvm.Cond.codeWith ({ cls := "WellRefuses", name := "odds", desc := "(II)I" } : Jvm.MethodName) prog_1_method_48_code (5 : Nat) (Option.some Jvm.ClassFile.FieldType.int) [((0 : Nat), (66 : Nat), (67 : Nat), (8 : Nat))]) ∈ lw_all := lw_g (lw_at lw_m5 65 rfl) rfl
theorem q1107 : (Jvm.Cond.methodLink "WellRefuses" (310 : Nat) ({ cls := "WellRefuses", name := "common", desc := "(II)I" } : Jvm.MethodName)) ∈ lw_all := lw_g (lw_at lw_m5 66 rfl) rfl
theorem q1108 : (Jvm.Cond.static ({ cls := "WellRefuses", name := "common", desc := "(II)I" } : Jvm.MethodName)) ∈ lw_all := lw_g (lw_at lw_m5 67 rfl) rfl
theorem q1109 : (Jvm.Cond.code ({ cls := "WellRefuses", name := "common", desc := "(II)I" } : Jvm.MethodName) prog_1_method_47_code (5 : Nat) (Option.some Jvm.ClassFile.FieldType.int)) ∈ lw_all := lw_g (lw_at lw_m5 68 rfl) rfl
theorem q1111 : (Jvm.Cond.instanceMethod ({ cls := "WellRefuses", name := "dry", desc := "()I" } : Jvm.MethodName)) ∈ lw_all := lw_g (lw_at lw_m5 70 rfl) rfl
theorem q1112 : (Jvm.Cond.selects "WellRefuses" ({ cls := "WellRefuses", name := "dry", desc := "()I" } : Jvm.MethodName) ({ cls := "WellRefuses", name := "dry", desc := "()I" } : Jvm.MethodName)) ∈ lw_all := lw_g (lw_at lw_m5 71 rfl) rfl
theorem q1113 : (Jvm.Cond.codeWith ({ cls := "WellRefuses", name := "dry", desc := "()I" } : Jvm.MethodName) prog_1_method_49_code (2 : Nat) (Option.some Jvm.ClassFile.FieldType.int) [((0 : Nat), (60 : Nat), (61 : Nat), (8 : Nat))]) ∈ lw_all := lw_g (lw_at lw_m5 72 rfl) rfl
theorem q1115 : (Jvm.Cond.instanceMethod ({ cls := "WellRefuses", name := "seed", desc := "(I)I" } : Jvm.MethodName)) ∈ lw_all := lw_g (lw_at lw_m5 74 rfl) rfl
theorem q1116 : (Jvm.Cond.selects "WellRefuses" ({ cls := "WellRefuses", name := "seed", desc := "(I)I" } : Jvm.MethodName) ({ cls := "WellRefuses", name := "seed", desc := "(I)I" } : Jvm.MethodName)) ∈ lw_all := lw_g (lw_at lw_m5 75 rfl) rfl
theorem q1117 : (Jvm.Cond.code ({ cls := "WellRefuses", name := "seed", desc := "(I)I" } : Jvm.MethodName) prog_1_method_50_code (3 : Nat) (Option.some Jvm.ClassFile.FieldType.int)) ∈ lw_all := lw_g (lw_at lw_m5 76 rfl) rfl
theorem q1119 : (Jvm.Cond.instanceMethod ({ cls := "WellRefuses", name := "voice", desc := "(III)I" } : Jvm.MethodName)) ∈ lw_all := lw_g (lw_at lw_m5 78 rfl) rfl
theorem q1120 : (Jvm.Cond.selects "WellRefuses" ({ cls := "WellRefuses", name := "voice", desc := "(III)I" } : Jvm.MethodName) ({ cls := "WellRefuses", name := "voice", desc := "(III)I" } : Jvm.MethodName)) ∈ lw_all := lw_g (lw_at lw_m5 79 rfl) rfl
theorem q1121 : (Jvm.Cond.codeWith ({ cls := "WellRefuses", name := "voice", desc := "(III)I" } : Jvm.MethodName) prog_1_method_51_code (5 : Nat) (Option.some Jvm.ClassFile.FieldType.int) [((0 : Nat), (56 : Nat), (84 : Nat), (8 : Nat)), ((57 : Nat), (65 : Nat), (84 : Nat), (8 : Nat)), ((66 : Nat), (74 : Nat), (84 : Nat), (8 : Nat)), ((75 : Nat), (83 : Nat), (84 : Nat), (8 : Nat))]) ∈ lw_all := lw_g (lw_at lw_m5 80 rfl) rfl
theorem q1122 : (Jvm.Cond.interfaceEntry "WellRefuses" (319 : Nat)) ∈ lw_tbl := lw_at lw_m5 81 rfl
theorem q1123 : (Jvm.Cond.methodLink "WellRefuses" (319 : Nat) ({ cls := "WellRefuses$Lets", name := "lets", desc := "(I)I" } : Jvm.MethodName)) ∈ lw_all := lw_g (lw_at lw_m5 82 rfl) rfl
theorem q1159 : (Jvm.Cond.interfaceEntry "WellRefuses" (324 : Nat)) ∈ lw_tbl := lw_at lw_m5 118 rfl
theorem q1160 : (Jvm.Cond.methodLink "WellRefuses" (324 : Nat) ({ cls := "WellRefuses$Fills", name := "fills", desc := "(I)I" } : Jvm.MethodName)) ∈ lw_all := lw_g (lw_at lw_m5 119 rfl) rfl
theorem q1205 : (Jvm.Cond.interfaceEntry "WellRefuses" (329 : Nat)) ∈ lw_tbl := lw_at lw_m5 164 rfl
theorem q1206 : (Jvm.Cond.methodLink "WellRefuses" (329 : Nat) ({ cls := "WellRefuses$Lends", name := "lends", desc := "(I)I" } : Jvm.MethodName)) ∈ lw_all := lw_g (lw_at lw_m5 165 rfl) rfl
theorem q1241 : (Jvm.Cond.interfaceEntry "WellRefuses" (334 : Nat)) ∈ lw_tbl := lw_at lw_m5 200 rfl
theorem q1242 : (Jvm.Cond.methodLink "WellRefuses" (334 : Nat) ({ cls := "WellRefuses$Says", name := "tells", desc := "(I)I" } : Jvm.MethodName)) ∈ lw_all := lw_g (lw_at lw_m5 201 rfl) rfl
theorem q1292 : (Jvm.Cond.instanceMethod ({ cls := "WellRefuses", name := "trace", desc := "(I)I" } : Jvm.MethodName)) ∈ lw_all := lw_g (lw_at lw_m6 11 rfl) rfl
theorem q1293 : (Jvm.Cond.selects "WellRefuses" ({ cls := "WellRefuses", name := "trace", desc := "(I)I" } : Jvm.MethodName) ({ cls := "WellRefuses", name := "trace", desc := "(I)I" } : Jvm.MethodName)) ∈ lw_all := lw_g (lw_at lw_m6 12 rfl) rfl
theorem q1294 : (Jvm.Cond.codeWith ({ cls := "WellRefuses", name := "trace", desc := "(I)I" } : Jvm.MethodName) prog_1_method_52_code (3 : Nat) (Option.some Jvm.ClassFile.FieldType.int) [((0 : Nat), (28 : Nat), (29 : Nat), (8 : Nat))]) ∈ lw_all := lw_g (lw_at lw_m6 13 rfl) rfl
theorem q1296 : (Jvm.Cond.instanceMethod ({ cls := "WellRefuses", name := "traits", desc := "(I)I" } : Jvm.MethodName)) ∈ lw_all := lw_g (lw_at lw_m6 15 rfl) rfl
theorem q1297 : (Jvm.Cond.selects "WellRefuses" ({ cls := "WellRefuses", name := "traits", desc := "(I)I" } : Jvm.MethodName) ({ cls := "WellRefuses", name := "traits", desc := "(I)I" } : Jvm.MethodName)) ∈ lw_all := lw_g (lw_at lw_m6 16 rfl) rfl
theorem q1298 : (Jvm.Cond.codeWith ({ cls := "WellRefuses", name := "traits", desc := "(I)I" } : Jvm.MethodName) prog_1_method_53_code (4 : Nat) (Option.some Jvm.ClassFile.FieldType.int) [((0 : Nat), (68 : Nat), (69 : Nat), (8 : Nat))]) ∈ lw_all := lw_g (lw_at lw_m6 17 rfl) rfl
theorem q1300 : (Jvm.Cond.instanceMethod ({ cls := "WellRefuses", name := "judge", desc := "(I)I" } : Jvm.MethodName)) ∈ lw_all := lw_g (lw_at lw_m6 19 rfl) rfl
theorem q1301 : (Jvm.Cond.selects "WellRefuses" ({ cls := "WellRefuses", name := "judge", desc := "(I)I" } : Jvm.MethodName) ({ cls := "WellRefuses", name := "judge", desc := "(I)I" } : Jvm.MethodName)) ∈ lw_all := lw_g (lw_at lw_m6 20 rfl) rfl
theorem q1302 : (Jvm.Cond.codeWith ({ cls := "WellRefuses", name := "judge", desc := "(I)I" } : Jvm.MethodName) prog_1_method_54_code (4 : Nat) (Option.some Jvm.ClassFile.FieldType.int) [((0 : Nat), (80 : Nat), (81 : Nat), (8 : Nat))]) ∈ lw_all := lw_g (lw_at lw_m6 21 rfl) rfl
theorem q1304 : (Jvm.Cond.instanceMethod ({ cls := "WellRefuses", name := "sheet", desc := "(III)I" } : Jvm.MethodName)) ∈ lw_all := lw_g (lw_at lw_m6 23 rfl) rfl
theorem q1305 : (Jvm.Cond.selects "WellRefuses" ({ cls := "WellRefuses", name := "sheet", desc := "(III)I" } : Jvm.MethodName) ({ cls := "WellRefuses", name := "sheet", desc := "(III)I" } : Jvm.MethodName)) ∈ lw_all := lw_g (lw_at lw_m6 24 rfl) rfl
theorem q1306 : (Jvm.Cond.codeWith ({ cls := "WellRefuses", name := "sheet", desc := "(III)I" } : Jvm.MethodName) prog_1_method_55_code (5 : Nat) (Option.some Jvm.ClassFile.FieldType.int) [((0 : Nat), (43 : Nat), (127 : Nat), (8 : Nat)), ((44 : Nat), (126 : Nat), (127 : Nat), (8 : Nat))]) ∈ lw_all := lw_g (lw_at lw_m6 25 rfl) rfl
theorem q1307 : (Jvm.Cond.methodLink "WellRefuses" (342 : Nat) ({ cls := "WellRefuses", name := "isWidth", desc := "(I)Z" } : Jvm.MethodName)) ∈ lw_all := lw_g (lw_at lw_m6 26 rfl) rfl
theorem q1308 : (Jvm.Cond.static ({ cls := "WellRefuses", name := "isWidth", desc := "(I)Z" } : Jvm.MethodName)) ∈ lw_all := lw_g (lw_at lw_m6 27 rfl) rfl
theorem q1309 : (Jvm.Cond.code ({ cls := "WellRefuses", name := "isWidth", desc := "(I)Z" } : Jvm.MethodName) prog_1_method_9_code (1 : Nat) (Option.some Jvm.ClassFile.FieldType.boolean)) ∈ lw_all := lw_g (lw_at lw_m6 28 rfl) rfl
theorem q1310 : (Jvm.Cond.classLink "WellRefuses" (345 : Nat) "WellRefuses$Bytes") ∈ lw_all := lw_g (lw_at lw_m6 29 rfl) rfl
theorem q1312 : (Jvm.Cond.methodLink "WellRefuses" (347 : Nat) ({ cls := "WellRefuses$Bytes", name := "<init>", desc := "(I)V" } : Jvm.MethodName)) ∈ lw_all := lw_g (lw_at lw_m6 31 rfl) rfl
theorem q1323 : (Jvm.Cond.classLink "WellRefuses" (350 : Nat) "WellRefuses$Shorts") ∈ lw_all := lw_g (lw_at lw_m6 42 rfl) rfl
theorem q1325 : (Jvm.Cond.methodLink "WellRefuses" (352 : Nat) ({ cls := "WellRefuses$Shorts", name := "<init>", desc := "(I)V" } : Jvm.MethodName)) ∈ lw_all := lw_g (lw_at lw_m6 44 rfl) rfl
theorem q1334 : (Jvm.Cond.classLink "WellRefuses" (353 : Nat) "WellRefuses$Ints") ∈ lw_all := lw_g (lw_at lw_m6 53 rfl) rfl
theorem q1336 : (Jvm.Cond.methodLink "WellRefuses" (355 : Nat) ({ cls := "WellRefuses$Ints", name := "<init>", desc := "(I)V" } : Jvm.MethodName)) ∈ lw_all := lw_g (lw_at lw_m6 55 rfl) rfl
theorem q1345 : (Jvm.Cond.instanceMethod ({ cls := "WellRefuses", name := "put", desc := "(III)I" } : Jvm.MethodName)) ∈ lw_all := lw_g (lw_at lw_m6 64 rfl) rfl
theorem q1346 : (Jvm.Cond.selects "WellRefuses" ({ cls := "WellRefuses", name := "put", desc := "(III)I" } : Jvm.MethodName) ({ cls := "WellRefuses", name := "put", desc := "(III)I" } : Jvm.MethodName)) ∈ lw_all := lw_g (lw_at lw_m6 65 rfl) rfl
theorem q1347 : (Jvm.Cond.codeWith ({ cls := "WellRefuses", name := "put", desc := "(III)I" } : Jvm.MethodName) prog_1_method_56_code (5 : Nat) (Option.some Jvm.ClassFile.FieldType.int) [((0 : Nat), (41 : Nat), (42 : Nat), (8 : Nat))]) ∈ lw_all := lw_g (lw_at lw_m6 66 rfl) rfl
theorem q1348 : (Jvm.Cond.methodLink "WellRefuses" (356 : Nat) ({ cls := "WellRefuses$Sheet", name := "put", desc := "(II)V" } : Jvm.MethodName)) ∈ lw_all := lw_g (lw_at lw_m6 67 rfl) rfl
theorem q1361 : (Jvm.Cond.instanceMethod ({ cls := "WellRefuses", name := "move", desc := "(IIIII)I" } : Jvm.MethodName)) ∈ lw_all := lw_g (lw_at lw_m6 80 rfl) rfl
theorem q1362 : (Jvm.Cond.selects "WellRefuses" ({ cls := "WellRefuses", name := "move", desc := "(IIIII)I" } : Jvm.MethodName) ({ cls := "WellRefuses", name := "move", desc := "(IIIII)I" } : Jvm.MethodName)) ∈ lw_all := lw_g (lw_at lw_m6 81 rfl) rfl
theorem q1363 : (Jvm.Cond.codeWith ({ cls := "WellRefuses", name := "move", desc := "(IIIII)I" } : Jvm.MethodName) prog_1_method_57_code (10 : Nat) (Option.some Jvm.ClassFile.FieldType.int) [((0 : Nat), (152 : Nat), (153 : Nat), (8 : Nat))]) ∈ lw_all := lw_g (lw_at lw_m6 82 rfl) rfl
theorem q1364 : (Jvm.Cond.methodLink "WellRefuses" (359 : Nat) ({ cls := "WellRefuses$Sheet", name := "width", desc := "()I" } : Jvm.MethodName)) ∈ lw_all := lw_g (lw_at lw_m6 83 rfl) rfl
theorem q1376 : (Jvm.Cond.methodLink "WellRefuses" (362 : Nat) ({ cls := "WellRefuses$Sheet", name := "row", desc := "()[I" } : Jvm.MethodName)) ∈ lw_all := lw_g (lw_at lw_m6 95 rfl) rfl
theorem q1386 : (Jvm.Cond.instanceMethod ({ cls := "WellRefuses", name := "image", desc := "()I" } : Jvm.MethodName)) ∈ lw_all := lw_g (lw_at lw_m6 105 rfl) rfl
theorem q1387 : (Jvm.Cond.selects "WellRefuses" ({ cls := "WellRefuses", name := "image", desc := "()I" } : Jvm.MethodName) ({ cls := "WellRefuses", name := "image", desc := "()I" } : Jvm.MethodName)) ∈ lw_all := lw_g (lw_at lw_m6 106 rfl) rfl
theorem q1388 : (Jvm.Cond.code ({ cls := "WellRefuses", name := "image", desc := "()I" } : Jvm.MethodName) prog_1_method_58_code (2 : Nat) (Option.some Jvm.ClassFile.FieldType.int)) ∈ lw_all := lw_g (lw_at lw_m6 107 rfl) rfl
theorem q1390 : (Jvm.Cond.instanceMethod ({ cls := "WellRefuses", name := "restore", desc := "()I" } : Jvm.MethodName)) ∈ lw_all := lw_g (lw_at lw_m6 109 rfl) rfl
theorem q1391 : (Jvm.Cond.selects "WellRefuses" ({ cls := "WellRefuses", name := "restore", desc := "()I" } : Jvm.MethodName) ({ cls := "WellRefuses", name := "restore", desc := "()I" } : Jvm.MethodName)) ∈ lw_all := lw_g (lw_at lw_m6 110 rfl) rfl
theorem q1392 : (Jvm.Cond.codeWith ({ cls := "WellRefuses", name := "restore", desc := "()I" } : Jvm.MethodName) prog_1_method_59_code (2 : Nat) (Option.some Jvm.ClassFile.FieldType.int) [((0 : Nat), (31 : Nat), (32 : Nat), (8 : Nat))]) ∈ lw_all := lw_g (lw_at lw_m6 111 rfl) rfl
theorem q1394 : (Jvm.Cond.instanceMethod ({ cls := "WellRefuses", name := "tell", desc := "(I)I" } : Jvm.MethodName)) ∈ lw_all := lw_g (lw_at lw_m6 113 rfl) rfl
theorem q1395 : (Jvm.Cond.selects "WellRefuses" ({ cls := "WellRefuses", name := "tell", desc := "(I)I" } : Jvm.MethodName) ({ cls := "WellRefuses", name := "tell", desc := "(I)I" } : Jvm.MethodName)) ∈ lw_all := lw_g (lw_at lw_m6 114 rfl) rfl
theorem q1396 : (Jvm.Cond.codeWith ({ cls := "WellRefuses", name := "tell", desc := "(I)I" } : Jvm.MethodName) prog_1_method_60_code (3 : Nat) (Option.some Jvm.ClassFile.FieldType.int) [((0 : Nat), (58 : Nat), (59 : Nat), (8 : Nat))]) ∈ lw_all := lw_g (lw_at lw_m6 115 rfl) rfl
theorem q1398 : (Jvm.Cond.instanceMethod ({ cls := "WellRefuses", name := "check", desc := "()I" } : Jvm.MethodName)) ∈ lw_all := lw_g (lw_at lw_m6 117 rfl) rfl
theorem q1399 : (Jvm.Cond.selects "WellRefuses" ({ cls := "WellRefuses", name := "check", desc := "()I" } : Jvm.MethodName) ({ cls := "WellRefuses", name := "check", desc := "()I" } : Jvm.MethodName)) ∈ lw_all := lw_g (lw_at lw_m6 118 rfl) rfl
theorem q1400 : (Jvm.Cond.code ({ cls := "WellRefuses", name := "check", desc := "()I" } : Jvm.MethodName) prog_1_method_61_code (4 : Nat) (Option.some Jvm.ClassFile.FieldType.int)) ∈ lw_all := lw_g (lw_at lw_m6 119 rfl) rfl
theorem q1402 : (Jvm.Cond.instanceMethod ({ cls := "WellRefuses", name := "count", desc := "(I)I" } : Jvm.MethodName)) ∈ lw_all := lw_g (lw_at lw_m6 121 rfl) rfl
theorem q1403 : (Jvm.Cond.selects "WellRefuses" ({ cls := "WellRefuses", name := "count", desc := "(I)I" } : Jvm.MethodName) ({ cls := "WellRefuses", name := "count", desc := "(I)I" } : Jvm.MethodName)) ∈ lw_all := lw_g (lw_at lw_m6 122 rfl) rfl
theorem q1404 : (Jvm.Cond.codeWith ({ cls := "WellRefuses", name := "count", desc := "(I)I" } : Jvm.MethodName) prog_1_method_62_code (3 : Nat) (Option.some Jvm.ClassFile.FieldType.int) [((0 : Nat), (71 : Nat), (154 : Nat), (8 : Nat)), ((72 : Nat), (79 : Nat), (154 : Nat), (8 : Nat)), ((80 : Nat), (87 : Nat), (154 : Nat), (8 : Nat)), ((88 : Nat), (105 : Nat), (154 : Nat), (8 : Nat)), ((106 : Nat), (113 : Nat), (154 : Nat), (8 : Nat)), ((114 : Nat), (121 : Nat), (154 : Nat), (8 : Nat)), ((122 : Nat), (129 : Nat), (154 : Nat), (8 : Nat)), ((130 : Nat), (137 : Nat), (154 : Nat), (8 : Nat)), ((138 : Nat), (145 : Nat), (154 : Nat), (8 : Nat)), ((146 : Nat), (153 : Nat), (154 : Nat), (8 : Nat))]) ∈ lw_all := lw_g (lw_at lw_m6 123 rfl) rfl
theorem q1405 : (Jvm.Cond.methodLink "WellRefuses" (375 : Nat) ({ cls := "WellRefuses$Land", name := "sumOf", desc := "([II)I" } : Jvm.MethodName)) ∈ lw_all := lw_g (lw_at lw_m6 124 rfl) rfl
theorem q1407 : (Jvm.Cond.instanceMethod ({ cls := "WellRefuses", name := "told", desc := "(I)I" } : Jvm.MethodName)) ∈ lw_all := lw_g (lw_at lw_m6 126 rfl) rfl
theorem q1408 : (Jvm.Cond.selects "WellRefuses" ({ cls := "WellRefuses", name := "told", desc := "(I)I" } : Jvm.MethodName) ({ cls := "WellRefuses", name := "told", desc := "(I)I" } : Jvm.MethodName)) ∈ lw_all := lw_g (lw_at lw_m6 127 rfl) rfl
theorem q1409 : (Jvm.Cond.codeWith ({ cls := "WellRefuses", name := "told", desc := "(I)I" } : Jvm.MethodName) prog_1_method_63_code (3 : Nat) (Option.some Jvm.ClassFile.FieldType.int) [((0 : Nat), (17 : Nat), (18 : Nat), (8 : Nat))]) ∈ lw_all := lw_g (lw_at lw_m6 128 rfl) rfl

