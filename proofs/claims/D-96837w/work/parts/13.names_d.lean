/-! names, decode rows, words: out of claim/names -/
set_option maxRecDepth 100000
abbrev cX6_init : ByteArray := prog_30_method_1_code
def yX6_init : MethodName := ⟨RX6, "<init>", "()V"⟩
def dkwX6_init_5 : List UInt8 := [180, 0, 7, 16, 6, 2, 79, 177]
abbrev dktX6_init_5 : List UInt8 := dkwX6_init_5 ++ []
def dkwX6_init_4 : List UInt8 := [42, 16, 40, 188, 10, 181, 0, 44, 42, 180, 0, 7, 4, 4, 79, 42, 180, 0, 7, 8, 2, 79, 42]
abbrev dktX6_init_4 : List UInt8 := dkwX6_init_4 ++ dktX6_init_5
def dkwX6_init_3 : List UInt8 := [17, 0, 160, 188, 10, 181, 0, 35, 42, 16, 40, 188, 10, 181, 0, 38, 42, 16, 8, 188, 10, 181, 0, 41]
abbrev dktX6_init_3 : List UInt8 := dkwX6_init_3 ++ dktX6_init_4
def dkwX6_init_2 : List UInt8 := [181, 0, 22, 42, 2, 181, 0, 25, 42, 7, 188, 10, 181, 0, 29, 42, 7, 188, 10, 181, 0, 32, 42]
abbrev dktX6_init_2 : List UInt8 := dkwX6_init_2 ++ dktX6_init_3
def dkwX6_init_1 : List UInt8 := [17, 1, 25, 188, 10, 181, 0, 16, 42, 17, 1, 25, 188, 10, 181, 0, 19, 42, 16, 6, 188, 10]
abbrev dktX6_init_1 : List UInt8 := dkwX6_init_1 ++ dktX6_init_2
def dkwX6_init_0 : List UInt8 := [42, 183, 0, 1, 42, 17, 1, 25, 188, 10, 181, 0, 7, 42, 17, 1, 25, 188, 10, 181, 0, 13, 42]
abbrev dktX6_init_0 : List UInt8 := dkwX6_init_0 ++ dktX6_init_1
theorem dksX6_init_0 : cX6_init.data.toList.drop 0 = dktX6_init_0 := by decide +kernel
theorem dksX6_init_1 : cX6_init.data.toList.drop 23 = dktX6_init_1 := dk_seg dksX6_init_0 23 rfl rfl
theorem dksX6_init_2 : cX6_init.data.toList.drop 45 = dktX6_init_2 := dk_seg dksX6_init_1 22 rfl rfl
theorem dksX6_init_3 : cX6_init.data.toList.drop 68 = dktX6_init_3 := dk_seg dksX6_init_2 23 rfl rfl
theorem dksX6_init_4 : cX6_init.data.toList.drop 92 = dktX6_init_4 := dk_seg dksX6_init_3 24 rfl rfl
theorem dksX6_init_5 : cX6_init.data.toList.drop 115 = dktX6_init_5 := dk_seg dksX6_init_4 23 rfl rfl
theorem dX6_init_0 : decode cX6_init 0 = .ok (.aload_n 0, 1) := dk_42 (dk_at dksX6_init_0 0 rfl rfl)
theorem dX6_init_1 : decode cX6_init 1 = .ok (.invokespecial 1, 3) := dk_183 0 1 (dk_at dksX6_init_0 1 rfl rfl)
theorem dX6_init_4 : decode cX6_init 4 = .ok (.aload_n 0, 1) := dk_42 (dk_at dksX6_init_0 4 rfl rfl)
theorem dX6_init_5 : decode cX6_init 5 = .ok (.sipush 281, 3) := dk_17 1 25 (dk_at dksX6_init_0 5 rfl rfl)
theorem dX6_init_8 : decode cX6_init 8 = .ok (.newarray .int, 2) := dk_188_10 (dk_at dksX6_init_0 8 rfl rfl)
theorem dX6_init_10 : decode cX6_init 10 = .ok (.putfield 7, 3) := dk_181 0 7 (dk_at dksX6_init_0 10 rfl rfl)
theorem dX6_init_13 : decode cX6_init 13 = .ok (.aload_n 0, 1) := dk_42 (dk_at dksX6_init_0 13 rfl rfl)
theorem dX6_init_14 : decode cX6_init 14 = .ok (.sipush 281, 3) := dk_17 1 25 (dk_at dksX6_init_0 14 rfl rfl)
theorem dX6_init_17 : decode cX6_init 17 = .ok (.newarray .int, 2) := dk_188_10 (dk_at dksX6_init_0 17 rfl rfl)
theorem dX6_init_19 : decode cX6_init 19 = .ok (.putfield 13, 3) := dk_181 0 13 (dk_at dksX6_init_0 19 rfl rfl)
theorem dX6_init_22 : decode cX6_init 22 = .ok (.aload_n 0, 1) := dk_42 (dk_at dksX6_init_0 22 rfl rfl)
theorem dX6_init_23 : decode cX6_init 23 = .ok (.sipush 281, 3) := dk_17 1 25 (dk_at dksX6_init_1 0 rfl rfl)
theorem dX6_init_26 : decode cX6_init 26 = .ok (.newarray .int, 2) := dk_188_10 (dk_at dksX6_init_1 3 rfl rfl)
theorem dX6_init_28 : decode cX6_init 28 = .ok (.putfield 16, 3) := dk_181 0 16 (dk_at dksX6_init_1 5 rfl rfl)
theorem dX6_init_31 : decode cX6_init 31 = .ok (.aload_n 0, 1) := dk_42 (dk_at dksX6_init_1 8 rfl rfl)
theorem dX6_init_32 : decode cX6_init 32 = .ok (.sipush 281, 3) := dk_17 1 25 (dk_at dksX6_init_1 9 rfl rfl)
theorem dX6_init_35 : decode cX6_init 35 = .ok (.newarray .int, 2) := dk_188_10 (dk_at dksX6_init_1 12 rfl rfl)
theorem dX6_init_37 : decode cX6_init 37 = .ok (.putfield 19, 3) := dk_181 0 19 (dk_at dksX6_init_1 14 rfl rfl)
theorem dX6_init_40 : decode cX6_init 40 = .ok (.aload_n 0, 1) := dk_42 (dk_at dksX6_init_1 17 rfl rfl)
theorem dX6_init_41 : decode cX6_init 41 = .ok (.bipush 6, 2) := dk_16 6 (dk_at dksX6_init_1 18 rfl rfl)
theorem dX6_init_43 : decode cX6_init 43 = .ok (.newarray .int, 2) := dk_188_10 (dk_at dksX6_init_1 20 rfl rfl)
theorem dX6_init_45 : decode cX6_init 45 = .ok (.putfield 22, 3) := dk_181 0 22 (dk_at dksX6_init_2 0 rfl rfl)
theorem dX6_init_48 : decode cX6_init 48 = .ok (.aload_n 0, 1) := dk_42 (dk_at dksX6_init_2 3 rfl rfl)
theorem dX6_init_49 : decode cX6_init 49 = .ok (.iconst (-1), 1) := dk_2 (dk_at dksX6_init_2 4 rfl rfl)
theorem dX6_init_50 : decode cX6_init 50 = .ok (.putfield 25, 3) := dk_181 0 25 (dk_at dksX6_init_2 5 rfl rfl)
theorem dX6_init_53 : decode cX6_init 53 = .ok (.aload_n 0, 1) := dk_42 (dk_at dksX6_init_2 8 rfl rfl)
theorem dX6_init_54 : decode cX6_init 54 = .ok (.iconst 4, 1) := dk_7 (dk_at dksX6_init_2 9 rfl rfl)
theorem dX6_init_55 : decode cX6_init 55 = .ok (.newarray .int, 2) := dk_188_10 (dk_at dksX6_init_2 10 rfl rfl)
theorem dX6_init_57 : decode cX6_init 57 = .ok (.putfield 29, 3) := dk_181 0 29 (dk_at dksX6_init_2 12 rfl rfl)
theorem dX6_init_60 : decode cX6_init 60 = .ok (.aload_n 0, 1) := dk_42 (dk_at dksX6_init_2 15 rfl rfl)
theorem dX6_init_61 : decode cX6_init 61 = .ok (.iconst 4, 1) := dk_7 (dk_at dksX6_init_2 16 rfl rfl)
theorem dX6_init_62 : decode cX6_init 62 = .ok (.newarray .int, 2) := dk_188_10 (dk_at dksX6_init_2 17 rfl rfl)
theorem dX6_init_64 : decode cX6_init 64 = .ok (.putfield 32, 3) := dk_181 0 32 (dk_at dksX6_init_2 19 rfl rfl)
theorem dX6_init_67 : decode cX6_init 67 = .ok (.aload_n 0, 1) := dk_42 (dk_at dksX6_init_2 22 rfl rfl)
theorem dX6_init_68 : decode cX6_init 68 = .ok (.sipush 160, 3) := dk_17 0 160 (dk_at dksX6_init_3 0 rfl rfl)
theorem dX6_init_71 : decode cX6_init 71 = .ok (.newarray .int, 2) := dk_188_10 (dk_at dksX6_init_3 3 rfl rfl)
theorem dX6_init_73 : decode cX6_init 73 = .ok (.putfield 35, 3) := dk_181 0 35 (dk_at dksX6_init_3 5 rfl rfl)
theorem dX6_init_76 : decode cX6_init 76 = .ok (.aload_n 0, 1) := dk_42 (dk_at dksX6_init_3 8 rfl rfl)
theorem dX6_init_77 : decode cX6_init 77 = .ok (.bipush 40, 2) := dk_16 40 (dk_at dksX6_init_3 9 rfl rfl)
theorem dX6_init_79 : decode cX6_init 79 = .ok (.newarray .int, 2) := dk_188_10 (dk_at dksX6_init_3 11 rfl rfl)
theorem dX6_init_81 : decode cX6_init 81 = .ok (.putfield 38, 3) := dk_181 0 38 (dk_at dksX6_init_3 13 rfl rfl)
theorem dX6_init_84 : decode cX6_init 84 = .ok (.aload_n 0, 1) := dk_42 (dk_at dksX6_init_3 16 rfl rfl)
theorem dX6_init_85 : decode cX6_init 85 = .ok (.bipush 8, 2) := dk_16 8 (dk_at dksX6_init_3 17 rfl rfl)
theorem dX6_init_87 : decode cX6_init 87 = .ok (.newarray .int, 2) := dk_188_10 (dk_at dksX6_init_3 19 rfl rfl)
theorem dX6_init_89 : decode cX6_init 89 = .ok (.putfield 41, 3) := dk_181 0 41 (dk_at dksX6_init_3 21 rfl rfl)
theorem dX6_init_92 : decode cX6_init 92 = .ok (.aload_n 0, 1) := dk_42 (dk_at dksX6_init_4 0 rfl rfl)
theorem dX6_init_93 : decode cX6_init 93 = .ok (.bipush 40, 2) := dk_16 40 (dk_at dksX6_init_4 1 rfl rfl)
theorem dX6_init_95 : decode cX6_init 95 = .ok (.newarray .int, 2) := dk_188_10 (dk_at dksX6_init_4 3 rfl rfl)
theorem dX6_init_97 : decode cX6_init 97 = .ok (.putfield 44, 3) := dk_181 0 44 (dk_at dksX6_init_4 5 rfl rfl)
theorem dX6_init_100 : decode cX6_init 100 = .ok (.aload_n 0, 1) := dk_42 (dk_at dksX6_init_4 8 rfl rfl)
theorem dX6_init_101 : decode cX6_init 101 = .ok (.getfield 7, 3) := dk_180 0 7 (dk_at dksX6_init_4 9 rfl rfl)
theorem dX6_init_104 : decode cX6_init 104 = .ok (.iconst 1, 1) := dk_4 (dk_at dksX6_init_4 12 rfl rfl)
theorem dX6_init_105 : decode cX6_init 105 = .ok (.iconst 1, 1) := dk_4 (dk_at dksX6_init_4 13 rfl rfl)
theorem dX6_init_106 : decode cX6_init 106 = .ok (.iastore, 1) := dk_79 (dk_at dksX6_init_4 14 rfl rfl)
theorem dX6_init_107 : decode cX6_init 107 = .ok (.aload_n 0, 1) := dk_42 (dk_at dksX6_init_4 15 rfl rfl)
theorem dX6_init_108 : decode cX6_init 108 = .ok (.getfield 7, 3) := dk_180 0 7 (dk_at dksX6_init_4 16 rfl rfl)
theorem dX6_init_111 : decode cX6_init 111 = .ok (.iconst 5, 1) := dk_8 (dk_at dksX6_init_4 19 rfl rfl)
theorem dX6_init_112 : decode cX6_init 112 = .ok (.iconst (-1), 1) := dk_2 (dk_at dksX6_init_4 20 rfl rfl)
theorem dX6_init_113 : decode cX6_init 113 = .ok (.iastore, 1) := dk_79 (dk_at dksX6_init_4 21 rfl rfl)
theorem dX6_init_114 : decode cX6_init 114 = .ok (.aload_n 0, 1) := dk_42 (dk_at dksX6_init_4 22 rfl rfl)
theorem dX6_init_115 : decode cX6_init 115 = .ok (.getfield 7, 3) := dk_180 0 7 (dk_at dksX6_init_5 0 rfl rfl)
theorem dX6_init_118 : decode cX6_init 118 = .ok (.bipush 6, 2) := dk_16 6 (dk_at dksX6_init_5 3 rfl rfl)
theorem dX6_init_120 : decode cX6_init 120 = .ok (.iconst (-1), 1) := dk_2 (dk_at dksX6_init_5 5 rfl rfl)
theorem dX6_init_121 : decode cX6_init 121 = .ok (.iastore, 1) := dk_79 (dk_at dksX6_init_5 6 rfl rfl)
theorem dX6_init_122 : decode cX6_init 122 = .ok (.return_, 1) := dk_177 (dk_at dksX6_init_5 7 rfl rfl)
abbrev cX6_person : ByteArray := prog_30_method_12_code
def yX6_person : MethodName := ⟨RX6, "person", "(II)I"⟩
def dkwX6_person_6 : List UInt8 := [42, 180, 0, 7, 5, 92, 46, 4, 96, 79, 29, 172]
abbrev dktX6_person_6 : List UInt8 := dkwX6_person_6 ++ []
def dkwX6_person_5 : List UInt8 := [3, 79, 42, 180, 0, 7, 16, 47, 16, 8, 21, 4, 104, 96, 29, 96, 3, 79, 132, 4, 1, 167, 255, 214]
abbrev dktX6_person_5 : List UInt8 := dkwX6_person_5 ++ dktX6_person_6
def dkwX6_person_4 : List UInt8 := [3, 54, 4, 21, 4, 16, 8, 162, 0, 41, 42, 180, 0, 7, 16, 47, 16, 8, 29, 104, 96, 21, 4, 96]
abbrev dktX6_person_4 : List UInt8 := dkwX6_person_4 ++ dktX6_person_5
def dkwX6_person_3 : List UInt8 := [182, 0, 58, 42, 29, 5, 28, 182, 0, 58, 42, 29, 6, 3, 182, 0, 58, 42, 29, 7, 3, 182, 0, 58]
abbrev dktX6_person_3 : List UInt8 := dkwX6_person_3 ++ dktX6_person_4
def dkwX6_person_2 : List UInt8 := [180, 0, 7, 5, 46, 62, 42, 29, 3, 27, 16, 10, 108, 182, 0, 58, 42, 29, 4, 27, 16, 10, 112]
abbrev dktX6_person_2 : List UInt8 := dkwX6_person_2 ++ dktX6_person_3
def dkwX6_person_1 : List UInt8 := [182, 0, 53, 172, 42, 180, 0, 7, 5, 46, 16, 8, 160, 0, 10, 42, 18, 57, 182, 0, 53, 172, 42]
abbrev dktX6_person_1 : List UInt8 := dkwX6_person_1 ++ dktX6_person_2
def dkwX6_person_0 : List UInt8 := [27, 3, 16, 69, 184, 0, 48, 153, 0, 13, 28, 3, 16, 15, 184, 0, 48, 154, 0, 10, 42, 18, 52]
abbrev dktX6_person_0 : List UInt8 := dkwX6_person_0 ++ dktX6_person_1
theorem dksX6_person_0 : cX6_person.data.toList.drop 0 = dktX6_person_0 := by decide +kernel
theorem dksX6_person_1 : cX6_person.data.toList.drop 23 = dktX6_person_1 := dk_seg dksX6_person_0 23 rfl rfl
theorem dksX6_person_2 : cX6_person.data.toList.drop 46 = dktX6_person_2 := dk_seg dksX6_person_1 23 rfl rfl
theorem dksX6_person_3 : cX6_person.data.toList.drop 69 = dktX6_person_3 := dk_seg dksX6_person_2 23 rfl rfl
theorem dksX6_person_4 : cX6_person.data.toList.drop 93 = dktX6_person_4 := dk_seg dksX6_person_3 24 rfl rfl
theorem dksX6_person_5 : cX6_person.data.toList.drop 117 = dktX6_person_5 := dk_seg dksX6_person_4 24 rfl rfl
theorem dksX6_person_6 : cX6_person.data.toList.drop 141 = dktX6_person_6 := dk_seg dksX6_person_5 24 rfl rfl
theorem dX6_person_0 : decode cX6_person 0 = .ok (.iload_n 1, 1) := dk_27 (dk_at dksX6_person_0 0 rfl rfl)
theorem dX6_person_1 : decode cX6_person 1 = .ok (.iconst 0, 1) := dk_3 (dk_at dksX6_person_0 1 rfl rfl)
theorem dX6_person_2 : decode cX6_person 2 = .ok (.bipush 69, 2) := dk_16 69 (dk_at dksX6_person_0 2 rfl rfl)
theorem dX6_person_4 : decode cX6_person 4 = .ok (.invokestatic 48, 3) := dk_184 0 48 (dk_at dksX6_person_0 4 rfl rfl)
theorem dX6_person_7 : decode cX6_person 7 = .ok (.ifCond .eq 13, 3) := dk_153 0 13 (dk_at dksX6_person_0 7 rfl rfl)
theorem dX6_person_10 : decode cX6_person 10 = .ok (.iload_n 2, 1) := dk_28 (dk_at dksX6_person_0 10 rfl rfl)
theorem dX6_person_11 : decode cX6_person 11 = .ok (.iconst 0, 1) := dk_3 (dk_at dksX6_person_0 11 rfl rfl)
theorem dX6_person_12 : decode cX6_person 12 = .ok (.bipush 15, 2) := dk_16 15 (dk_at dksX6_person_0 12 rfl rfl)
theorem dX6_person_14 : decode cX6_person 14 = .ok (.invokestatic 48, 3) := dk_184 0 48 (dk_at dksX6_person_0 14 rfl rfl)
theorem dX6_person_17 : decode cX6_person 17 = .ok (.ifCond .ne 10, 3) := dk_154 0 10 (dk_at dksX6_person_0 17 rfl rfl)
theorem dX6_person_20 : decode cX6_person 20 = .ok (.aload_n 0, 1) := dk_42 (dk_at dksX6_person_0 20 rfl rfl)
theorem dX6_person_21 : decode cX6_person 21 = .ok (.ldc 52, 2) := dk_18 52 (dk_at dksX6_person_0 21 rfl rfl)
theorem dX6_person_23 : decode cX6_person 23 = .ok (.invokevirtual 53, 3) := dk_182 0 53 (dk_at dksX6_person_1 0 rfl rfl)
theorem dX6_person_26 : decode cX6_person 26 = .ok (.ireturn, 1) := dk_172 (dk_at dksX6_person_1 3 rfl rfl)
theorem dX6_person_27 : decode cX6_person 27 = .ok (.aload_n 0, 1) := dk_42 (dk_at dksX6_person_1 4 rfl rfl)
theorem dX6_person_28 : decode cX6_person 28 = .ok (.getfield 7, 3) := dk_180 0 7 (dk_at dksX6_person_1 5 rfl rfl)
theorem dX6_person_31 : decode cX6_person 31 = .ok (.iconst 2, 1) := dk_5 (dk_at dksX6_person_1 8 rfl rfl)
theorem dX6_person_32 : decode cX6_person 32 = .ok (.iaload, 1) := dk_46 (dk_at dksX6_person_1 9 rfl rfl)
theorem dX6_person_33 : decode cX6_person 33 = .ok (.bipush 8, 2) := dk_16 8 (dk_at dksX6_person_1 10 rfl rfl)
theorem dX6_person_35 : decode cX6_person 35 = .ok (.if_icmp .ne 10, 3) := dk_160 0 10 (dk_at dksX6_person_1 12 rfl rfl)
theorem dX6_person_38 : decode cX6_person 38 = .ok (.aload_n 0, 1) := dk_42 (dk_at dksX6_person_1 15 rfl rfl)
theorem dX6_person_39 : decode cX6_person 39 = .ok (.ldc 57, 2) := dk_18 57 (dk_at dksX6_person_1 16 rfl rfl)
theorem dX6_person_41 : decode cX6_person 41 = .ok (.invokevirtual 53, 3) := dk_182 0 53 (dk_at dksX6_person_1 18 rfl rfl)
theorem dX6_person_44 : decode cX6_person 44 = .ok (.ireturn, 1) := dk_172 (dk_at dksX6_person_1 21 rfl rfl)
theorem dX6_person_45 : decode cX6_person 45 = .ok (.aload_n 0, 1) := dk_42 (dk_at dksX6_person_1 22 rfl rfl)
theorem dX6_person_46 : decode cX6_person 46 = .ok (.getfield 7, 3) := dk_180 0 7 (dk_at dksX6_person_2 0 rfl rfl)
theorem dX6_person_49 : decode cX6_person 49 = .ok (.iconst 2, 1) := dk_5 (dk_at dksX6_person_2 3 rfl rfl)
theorem dX6_person_50 : decode cX6_person 50 = .ok (.iaload, 1) := dk_46 (dk_at dksX6_person_2 4 rfl rfl)
theorem dX6_person_51 : decode cX6_person 51 = .ok (.istore_n 3, 1) := dk_62 (dk_at dksX6_person_2 5 rfl rfl)
theorem dX6_person_52 : decode cX6_person 52 = .ok (.aload_n 0, 1) := dk_42 (dk_at dksX6_person_2 6 rfl rfl)
theorem dX6_person_53 : decode cX6_person 53 = .ok (.iload_n 3, 1) := dk_29 (dk_at dksX6_person_2 7 rfl rfl)
theorem dX6_person_54 : decode cX6_person 54 = .ok (.iconst 0, 1) := dk_3 (dk_at dksX6_person_2 8 rfl rfl)
theorem dX6_person_55 : decode cX6_person 55 = .ok (.iload_n 1, 1) := dk_27 (dk_at dksX6_person_2 9 rfl rfl)
theorem dX6_person_56 : decode cX6_person 56 = .ok (.bipush 10, 2) := dk_16 10 (dk_at dksX6_person_2 10 rfl rfl)
theorem dX6_person_58 : decode cX6_person 58 = .ok (.idiv, 1) := dk_108 (dk_at dksX6_person_2 12 rfl rfl)
theorem dX6_person_59 : decode cX6_person 59 = .ok (.invokevirtual 58, 3) := dk_182 0 58 (dk_at dksX6_person_2 13 rfl rfl)
theorem dX6_person_62 : decode cX6_person 62 = .ok (.aload_n 0, 1) := dk_42 (dk_at dksX6_person_2 16 rfl rfl)
theorem dX6_person_63 : decode cX6_person 63 = .ok (.iload_n 3, 1) := dk_29 (dk_at dksX6_person_2 17 rfl rfl)
theorem dX6_person_64 : decode cX6_person 64 = .ok (.iconst 1, 1) := dk_4 (dk_at dksX6_person_2 18 rfl rfl)
theorem dX6_person_65 : decode cX6_person 65 = .ok (.iload_n 1, 1) := dk_27 (dk_at dksX6_person_2 19 rfl rfl)
theorem dX6_person_66 : decode cX6_person 66 = .ok (.bipush 10, 2) := dk_16 10 (dk_at dksX6_person_2 20 rfl rfl)
theorem dX6_person_68 : decode cX6_person 68 = .ok (.irem, 1) := dk_112 (dk_at dksX6_person_2 22 rfl rfl)
theorem dX6_person_69 : decode cX6_person 69 = .ok (.invokevirtual 58, 3) := dk_182 0 58 (dk_at dksX6_person_3 0 rfl rfl)
theorem dX6_person_72 : decode cX6_person 72 = .ok (.aload_n 0, 1) := dk_42 (dk_at dksX6_person_3 3 rfl rfl)
theorem dX6_person_73 : decode cX6_person 73 = .ok (.iload_n 3, 1) := dk_29 (dk_at dksX6_person_3 4 rfl rfl)
theorem dX6_person_74 : decode cX6_person 74 = .ok (.iconst 2, 1) := dk_5 (dk_at dksX6_person_3 5 rfl rfl)
theorem dX6_person_75 : decode cX6_person 75 = .ok (.iload_n 2, 1) := dk_28 (dk_at dksX6_person_3 6 rfl rfl)
theorem dX6_person_76 : decode cX6_person 76 = .ok (.invokevirtual 58, 3) := dk_182 0 58 (dk_at dksX6_person_3 7 rfl rfl)
theorem dX6_person_79 : decode cX6_person 79 = .ok (.aload_n 0, 1) := dk_42 (dk_at dksX6_person_3 10 rfl rfl)
theorem dX6_person_80 : decode cX6_person 80 = .ok (.iload_n 3, 1) := dk_29 (dk_at dksX6_person_3 11 rfl rfl)
theorem dX6_person_81 : decode cX6_person 81 = .ok (.iconst 3, 1) := dk_6 (dk_at dksX6_person_3 12 rfl rfl)
theorem dX6_person_82 : decode cX6_person 82 = .ok (.iconst 0, 1) := dk_3 (dk_at dksX6_person_3 13 rfl rfl)
theorem dX6_person_83 : decode cX6_person 83 = .ok (.invokevirtual 58, 3) := dk_182 0 58 (dk_at dksX6_person_3 14 rfl rfl)
theorem dX6_person_86 : decode cX6_person 86 = .ok (.aload_n 0, 1) := dk_42 (dk_at dksX6_person_3 17 rfl rfl)
theorem dX6_person_87 : decode cX6_person 87 = .ok (.iload_n 3, 1) := dk_29 (dk_at dksX6_person_3 18 rfl rfl)
theorem dX6_person_88 : decode cX6_person 88 = .ok (.iconst 4, 1) := dk_7 (dk_at dksX6_person_3 19 rfl rfl)
theorem dX6_person_89 : decode cX6_person 89 = .ok (.iconst 0, 1) := dk_3 (dk_at dksX6_person_3 20 rfl rfl)
theorem dX6_person_90 : decode cX6_person 90 = .ok (.invokevirtual 58, 3) := dk_182 0 58 (dk_at dksX6_person_3 21 rfl rfl)
theorem dX6_person_93 : decode cX6_person 93 = .ok (.iconst 0, 1) := dk_3 (dk_at dksX6_person_4 0 rfl rfl)
theorem dX6_person_94 : decode cX6_person 94 = .ok (.istore 4, 2) := dk_54 4 (dk_at dksX6_person_4 1 rfl rfl)
theorem dX6_person_96 : decode cX6_person 96 = .ok (.iload 4, 2) := dk_21 4 (dk_at dksX6_person_4 3 rfl rfl)
theorem dX6_person_98 : decode cX6_person 98 = .ok (.bipush 8, 2) := dk_16 8 (dk_at dksX6_person_4 5 rfl rfl)
theorem dX6_person_100 : decode cX6_person 100 = .ok (.if_icmp .ge 41, 3) := dk_162 0 41 (dk_at dksX6_person_4 7 rfl rfl)
theorem dX6_person_103 : decode cX6_person 103 = .ok (.aload_n 0, 1) := dk_42 (dk_at dksX6_person_4 10 rfl rfl)
theorem dX6_person_104 : decode cX6_person 104 = .ok (.getfield 7, 3) := dk_180 0 7 (dk_at dksX6_person_4 11 rfl rfl)
theorem dX6_person_107 : decode cX6_person 107 = .ok (.bipush 47, 2) := dk_16 47 (dk_at dksX6_person_4 14 rfl rfl)
theorem dX6_person_109 : decode cX6_person 109 = .ok (.bipush 8, 2) := dk_16 8 (dk_at dksX6_person_4 16 rfl rfl)
theorem dX6_person_111 : decode cX6_person 111 = .ok (.iload_n 3, 1) := dk_29 (dk_at dksX6_person_4 18 rfl rfl)
theorem dX6_person_112 : decode cX6_person 112 = .ok (.imul, 1) := dk_104 (dk_at dksX6_person_4 19 rfl rfl)
theorem dX6_person_113 : decode cX6_person 113 = .ok (.iadd, 1) := dk_96 (dk_at dksX6_person_4 20 rfl rfl)
theorem dX6_person_114 : decode cX6_person 114 = .ok (.iload 4, 2) := dk_21 4 (dk_at dksX6_person_4 21 rfl rfl)
theorem dX6_person_116 : decode cX6_person 116 = .ok (.iadd, 1) := dk_96 (dk_at dksX6_person_4 23 rfl rfl)
theorem dX6_person_117 : decode cX6_person 117 = .ok (.iconst 0, 1) := dk_3 (dk_at dksX6_person_5 0 rfl rfl)
theorem dX6_person_118 : decode cX6_person 118 = .ok (.iastore, 1) := dk_79 (dk_at dksX6_person_5 1 rfl rfl)
theorem dX6_person_119 : decode cX6_person 119 = .ok (.aload_n 0, 1) := dk_42 (dk_at dksX6_person_5 2 rfl rfl)
theorem dX6_person_120 : decode cX6_person 120 = .ok (.getfield 7, 3) := dk_180 0 7 (dk_at dksX6_person_5 3 rfl rfl)
theorem dX6_person_123 : decode cX6_person 123 = .ok (.bipush 47, 2) := dk_16 47 (dk_at dksX6_person_5 6 rfl rfl)
theorem dX6_person_125 : decode cX6_person 125 = .ok (.bipush 8, 2) := dk_16 8 (dk_at dksX6_person_5 8 rfl rfl)
theorem dX6_person_127 : decode cX6_person 127 = .ok (.iload 4, 2) := dk_21 4 (dk_at dksX6_person_5 10 rfl rfl)
theorem dX6_person_129 : decode cX6_person 129 = .ok (.imul, 1) := dk_104 (dk_at dksX6_person_5 12 rfl rfl)
theorem dX6_person_130 : decode cX6_person 130 = .ok (.iadd, 1) := dk_96 (dk_at dksX6_person_5 13 rfl rfl)
theorem dX6_person_131 : decode cX6_person 131 = .ok (.iload_n 3, 1) := dk_29 (dk_at dksX6_person_5 14 rfl rfl)
theorem dX6_person_132 : decode cX6_person 132 = .ok (.iadd, 1) := dk_96 (dk_at dksX6_person_5 15 rfl rfl)
theorem dX6_person_133 : decode cX6_person 133 = .ok (.iconst 0, 1) := dk_3 (dk_at dksX6_person_5 16 rfl rfl)
theorem dX6_person_134 : decode cX6_person 134 = .ok (.iastore, 1) := dk_79 (dk_at dksX6_person_5 17 rfl rfl)
theorem dX6_person_135 : decode cX6_person 135 = .ok (.iinc 4 1, 3) := dk_132 4 1 (dk_at dksX6_person_5 18 rfl rfl)
theorem dX6_person_138 : decode cX6_person 138 = .ok (.goto (-42), 3) := dk_167 255 214 (dk_at dksX6_person_5 21 rfl rfl)
theorem dX6_person_141 : decode cX6_person 141 = .ok (.aload_n 0, 1) := dk_42 (dk_at dksX6_person_6 0 rfl rfl)
theorem dX6_person_142 : decode cX6_person 142 = .ok (.getfield 7, 3) := dk_180 0 7 (dk_at dksX6_person_6 1 rfl rfl)
theorem dX6_person_145 : decode cX6_person 145 = .ok (.iconst 2, 1) := dk_5 (dk_at dksX6_person_6 4 rfl rfl)
theorem dX6_person_146 : decode cX6_person 146 = .ok (.dup2, 1) := dk_92 (dk_at dksX6_person_6 5 rfl rfl)
theorem dX6_person_147 : decode cX6_person 147 = .ok (.iaload, 1) := dk_46 (dk_at dksX6_person_6 6 rfl rfl)
theorem dX6_person_148 : decode cX6_person 148 = .ok (.iconst 1, 1) := dk_4 (dk_at dksX6_person_6 7 rfl rfl)
theorem dX6_person_149 : decode cX6_person 149 = .ok (.iadd, 1) := dk_96 (dk_at dksX6_person_6 8 rfl rfl)
theorem dX6_person_150 : decode cX6_person 150 = .ok (.iastore, 1) := dk_79 (dk_at dksX6_person_6 9 rfl rfl)
theorem dX6_person_151 : decode cX6_person 151 = .ok (.iload_n 3, 1) := dk_29 (dk_at dksX6_person_6 10 rfl rfl)
theorem dX6_person_152 : decode cX6_person 152 = .ok (.ireturn, 1) := dk_172 (dk_at dksX6_person_6 11 rfl rfl)
abbrev cX6_in : ByteArray := prog_30_method_2_code
def yX6_in : MethodName := ⟨RX6, "in", "(III)Z"⟩
def dkwX6_in_0 : List UInt8 := [26, 27, 161, 0, 12, 26, 28, 163, 0, 7, 4, 167, 0, 4, 3, 172]
abbrev dktX6_in_0 : List UInt8 := dkwX6_in_0 ++ []
theorem dksX6_in_0 : cX6_in.data.toList.drop 0 = dktX6_in_0 := by decide +kernel
theorem dX6_in_0 : decode cX6_in 0 = .ok (.iload_n 0, 1) := dk_26 (dk_at dksX6_in_0 0 rfl rfl)
theorem dX6_in_1 : decode cX6_in 1 = .ok (.iload_n 1, 1) := dk_27 (dk_at dksX6_in_0 1 rfl rfl)
theorem dX6_in_2 : decode cX6_in 2 = .ok (.if_icmp .lt 12, 3) := dk_161 0 12 (dk_at dksX6_in_0 2 rfl rfl)
theorem dX6_in_5 : decode cX6_in 5 = .ok (.iload_n 0, 1) := dk_26 (dk_at dksX6_in_0 5 rfl rfl)
theorem dX6_in_6 : decode cX6_in 6 = .ok (.iload_n 2, 1) := dk_28 (dk_at dksX6_in_0 6 rfl rfl)
theorem dX6_in_7 : decode cX6_in 7 = .ok (.if_icmp .gt 7, 3) := dk_163 0 7 (dk_at dksX6_in_0 7 rfl rfl)
theorem dX6_in_10 : decode cX6_in 10 = .ok (.iconst 1, 1) := dk_4 (dk_at dksX6_in_0 10 rfl rfl)
theorem dX6_in_11 : decode cX6_in 11 = .ok (.goto 4, 3) := dk_167 0 4 (dk_at dksX6_in_0 11 rfl rfl)
theorem dX6_in_14 : decode cX6_in 14 = .ok (.iconst 0, 1) := dk_3 (dk_at dksX6_in_0 14 rfl rfl)
theorem dX6_in_15 : decode cX6_in 15 = .ok (.ireturn, 1) := dk_172 (dk_at dksX6_in_0 15 rfl rfl)
abbrev cX6_errs : ByteArray := prog_30_method_3_code
def yX6_errs : MethodName := ⟨RX6, "errs", "(I)I"⟩
def dkwX6_errs_0 : List UInt8 := [42, 180, 0, 22, 18, 47, 27, 100, 92, 46, 4, 96, 79, 27, 172]
abbrev dktX6_errs_0 : List UInt8 := dkwX6_errs_0 ++ []
theorem dksX6_errs_0 : cX6_errs.data.toList.drop 0 = dktX6_errs_0 := by decide +kernel
theorem dX6_errs_0 : decode cX6_errs 0 = .ok (.aload_n 0, 1) := dk_42 (dk_at dksX6_errs_0 0 rfl rfl)
theorem dX6_errs_1 : decode cX6_errs 1 = .ok (.getfield 22, 3) := dk_180 0 22 (dk_at dksX6_errs_0 1 rfl rfl)
theorem dX6_errs_4 : decode cX6_errs 4 = .ok (.ldc 47, 2) := dk_18 47 (dk_at dksX6_errs_0 4 rfl rfl)
theorem dX6_errs_6 : decode cX6_errs 6 = .ok (.iload_n 1, 1) := dk_27 (dk_at dksX6_errs_0 6 rfl rfl)
theorem dX6_errs_7 : decode cX6_errs 7 = .ok (.isub, 1) := dk_100 (dk_at dksX6_errs_0 7 rfl rfl)
theorem dX6_errs_8 : decode cX6_errs 8 = .ok (.dup2, 1) := dk_92 (dk_at dksX6_errs_0 8 rfl rfl)
theorem dX6_errs_9 : decode cX6_errs 9 = .ok (.iaload, 1) := dk_46 (dk_at dksX6_errs_0 9 rfl rfl)
theorem dX6_errs_10 : decode cX6_errs 10 = .ok (.iconst 1, 1) := dk_4 (dk_at dksX6_errs_0 10 rfl rfl)
theorem dX6_errs_11 : decode cX6_errs 11 = .ok (.iadd, 1) := dk_96 (dk_at dksX6_errs_0 11 rfl rfl)
theorem dX6_errs_12 : decode cX6_errs 12 = .ok (.iastore, 1) := dk_79 (dk_at dksX6_errs_0 12 rfl rfl)
theorem dX6_errs_13 : decode cX6_errs 13 = .ok (.iload_n 1, 1) := dk_27 (dk_at dksX6_errs_0 13 rfl rfl)
theorem dX6_errs_14 : decode cX6_errs 14 = .ok (.ireturn, 1) := dk_172 (dk_at dksX6_errs_0 14 rfl rfl)
abbrev cX6_gets : ByteArray := prog_30_method_8_code
def yX6_gets : MethodName := ⟨RX6, "gets", "(III)V"⟩
def dkwX6_gets_0 : List UInt8 := [42, 180, 0, 7, 16, 7, 8, 27, 104, 96, 28, 96, 29, 79, 177]
abbrev dktX6_gets_0 : List UInt8 := dkwX6_gets_0 ++ []
theorem dksX6_gets_0 : cX6_gets.data.toList.drop 0 = dktX6_gets_0 := by decide +kernel
theorem dX6_gets_0 : decode cX6_gets 0 = .ok (.aload_n 0, 1) := dk_42 (dk_at dksX6_gets_0 0 rfl rfl)
theorem dX6_gets_1 : decode cX6_gets 1 = .ok (.getfield 7, 3) := dk_180 0 7 (dk_at dksX6_gets_0 1 rfl rfl)
theorem dX6_gets_4 : decode cX6_gets 4 = .ok (.bipush 7, 2) := dk_16 7 (dk_at dksX6_gets_0 4 rfl rfl)
theorem dX6_gets_6 : decode cX6_gets 6 = .ok (.iconst 5, 1) := dk_8 (dk_at dksX6_gets_0 6 rfl rfl)
theorem dX6_gets_7 : decode cX6_gets 7 = .ok (.iload_n 1, 1) := dk_27 (dk_at dksX6_gets_0 7 rfl rfl)
theorem dX6_gets_8 : decode cX6_gets 8 = .ok (.imul, 1) := dk_104 (dk_at dksX6_gets_0 8 rfl rfl)
theorem dX6_gets_9 : decode cX6_gets 9 = .ok (.iadd, 1) := dk_96 (dk_at dksX6_gets_0 9 rfl rfl)
theorem dX6_gets_10 : decode cX6_gets 10 = .ok (.iload_n 2, 1) := dk_28 (dk_at dksX6_gets_0 10 rfl rfl)
theorem dX6_gets_11 : decode cX6_gets 11 = .ok (.iadd, 1) := dk_96 (dk_at dksX6_gets_0 11 rfl rfl)
theorem dX6_gets_12 : decode cX6_gets 12 = .ok (.iload_n 3, 1) := dk_29 (dk_at dksX6_gets_0 12 rfl rfl)
theorem dX6_gets_13 : decode cX6_gets 13 = .ok (.iastore, 1) := dk_79 (dk_at dksX6_gets_0 13 rfl rfl)
theorem dX6_gets_14 : decode cX6_gets 14 = .ok (.return_, 1) := dk_177 (dk_at dksX6_gets_0 14 rfl rfl)
abbrev cX6_ofPerson : ByteArray := prog_30_method_13_code
def yX6_ofPerson : MethodName := ⟨RX6, "ofPerson", "(II)I"⟩
def dkwX6_ofPerson_4 : List UInt8 := [3, 172, 42, 27, 28, 182, 0, 75, 172]
abbrev dktX6_ofPerson_4 : List UInt8 := dkwX6_ofPerson_4 ++ []
def dkwX6_ofPerson_3 : List UInt8 := [42, 27, 182, 0, 66, 172, 42, 27, 182, 0, 69, 172, 42, 27, 182, 0, 72, 153, 0, 7, 4, 167, 0, 4]
abbrev dktX6_ofPerson_3 : List UInt8 := dkwX6_ofPerson_3 ++ dktX6_ofPerson_4
def dkwX6_ofPerson_2 : List UInt8 := [170, 0, 0, 0, 0, 52, 0, 0, 0, 5, 0, 0, 0, 7, 0, 0, 0, 26, 0, 0, 0, 32, 0, 0, 0, 38]
abbrev dktX6_ofPerson_2 : List UInt8 := dkwX6_ofPerson_2 ++ dktX6_ofPerson_3
def dkwX6_ofPerson_1 : List UInt8 := [172, 28]
abbrev dktX6_ofPerson_1 : List UInt8 := dkwX6_ofPerson_1 ++ dktX6_ofPerson_2
def dkwX6_ofPerson_0 : List UInt8 := [42, 27, 182, 0, 62, 153, 0, 13, 28, 3, 16, 7, 184, 0, 48, 154, 0, 10, 42, 18, 52, 182, 0, 53]
abbrev dktX6_ofPerson_0 : List UInt8 := dkwX6_ofPerson_0 ++ dktX6_ofPerson_1
theorem dksX6_ofPerson_0 : cX6_ofPerson.data.toList.drop 0 = dktX6_ofPerson_0 := by decide +kernel
theorem dksX6_ofPerson_1 : cX6_ofPerson.data.toList.drop 24 = dktX6_ofPerson_1 := dk_seg dksX6_ofPerson_0 24 rfl rfl
theorem dksX6_ofPerson_2 : cX6_ofPerson.data.toList.drop 26 = dktX6_ofPerson_2 := dk_seg dksX6_ofPerson_1 2 rfl rfl
theorem dksX6_ofPerson_3 : cX6_ofPerson.data.toList.drop 52 = dktX6_ofPerson_3 := dk_seg dksX6_ofPerson_2 26 rfl rfl
theorem dksX6_ofPerson_4 : cX6_ofPerson.data.toList.drop 76 = dktX6_ofPerson_4 := dk_seg dksX6_ofPerson_3 24 rfl rfl
theorem dX6_ofPerson_0 : decode cX6_ofPerson 0 = .ok (.aload_n 0, 1) := dk_42 (dk_at dksX6_ofPerson_0 0 rfl rfl)
theorem dX6_ofPerson_1 : decode cX6_ofPerson 1 = .ok (.iload_n 1, 1) := dk_27 (dk_at dksX6_ofPerson_0 1 rfl rfl)
theorem dX6_ofPerson_2 : decode cX6_ofPerson 2 = .ok (.invokevirtual 62, 3) := dk_182 0 62 (dk_at dksX6_ofPerson_0 2 rfl rfl)
theorem dX6_ofPerson_5 : decode cX6_ofPerson 5 = .ok (.ifCond .eq 13, 3) := dk_153 0 13 (dk_at dksX6_ofPerson_0 5 rfl rfl)
theorem dX6_ofPerson_8 : decode cX6_ofPerson 8 = .ok (.iload_n 2, 1) := dk_28 (dk_at dksX6_ofPerson_0 8 rfl rfl)
theorem dX6_ofPerson_9 : decode cX6_ofPerson 9 = .ok (.iconst 0, 1) := dk_3 (dk_at dksX6_ofPerson_0 9 rfl rfl)
theorem dX6_ofPerson_10 : decode cX6_ofPerson 10 = .ok (.bipush 7, 2) := dk_16 7 (dk_at dksX6_ofPerson_0 10 rfl rfl)
theorem dX6_ofPerson_12 : decode cX6_ofPerson 12 = .ok (.invokestatic 48, 3) := dk_184 0 48 (dk_at dksX6_ofPerson_0 12 rfl rfl)
theorem dX6_ofPerson_15 : decode cX6_ofPerson 15 = .ok (.ifCond .ne 10, 3) := dk_154 0 10 (dk_at dksX6_ofPerson_0 15 rfl rfl)
theorem dX6_ofPerson_18 : decode cX6_ofPerson 18 = .ok (.aload_n 0, 1) := dk_42 (dk_at dksX6_ofPerson_0 18 rfl rfl)
theorem dX6_ofPerson_19 : decode cX6_ofPerson 19 = .ok (.ldc 52, 2) := dk_18 52 (dk_at dksX6_ofPerson_0 19 rfl rfl)
theorem dX6_ofPerson_21 : decode cX6_ofPerson 21 = .ok (.invokevirtual 53, 3) := dk_182 0 53 (dk_at dksX6_ofPerson_0 21 rfl rfl)
theorem dX6_ofPerson_24 : decode cX6_ofPerson 24 = .ok (.ireturn, 1) := dk_172 (dk_at dksX6_ofPerson_1 0 rfl rfl)
theorem dX6_ofPerson_25 : decode cX6_ofPerson 25 = .ok (.iload_n 2, 1) := dk_28 (dk_at dksX6_ofPerson_1 1 rfl rfl)
theorem dX6_ofPerson_26 : decode cX6_ofPerson 26 = .ok (.tableswitch 52 5 7 #[26, 32, 38], 26) := by decide +kernel
theorem dX6_ofPerson_52 : decode cX6_ofPerson 52 = .ok (.aload_n 0, 1) := dk_42 (dk_at dksX6_ofPerson_3 0 rfl rfl)
theorem dX6_ofPerson_53 : decode cX6_ofPerson 53 = .ok (.iload_n 1, 1) := dk_27 (dk_at dksX6_ofPerson_3 1 rfl rfl)
theorem dX6_ofPerson_54 : decode cX6_ofPerson 54 = .ok (.invokevirtual 66, 3) := dk_182 0 66 (dk_at dksX6_ofPerson_3 2 rfl rfl)
theorem dX6_ofPerson_57 : decode cX6_ofPerson 57 = .ok (.ireturn, 1) := dk_172 (dk_at dksX6_ofPerson_3 5 rfl rfl)
theorem dX6_ofPerson_58 : decode cX6_ofPerson 58 = .ok (.aload_n 0, 1) := dk_42 (dk_at dksX6_ofPerson_3 6 rfl rfl)
theorem dX6_ofPerson_59 : decode cX6_ofPerson 59 = .ok (.iload_n 1, 1) := dk_27 (dk_at dksX6_ofPerson_3 7 rfl rfl)
theorem dX6_ofPerson_60 : decode cX6_ofPerson 60 = .ok (.invokevirtual 69, 3) := dk_182 0 69 (dk_at dksX6_ofPerson_3 8 rfl rfl)
theorem dX6_ofPerson_63 : decode cX6_ofPerson 63 = .ok (.ireturn, 1) := dk_172 (dk_at dksX6_ofPerson_3 11 rfl rfl)
theorem dX6_ofPerson_64 : decode cX6_ofPerson 64 = .ok (.aload_n 0, 1) := dk_42 (dk_at dksX6_ofPerson_3 12 rfl rfl)
theorem dX6_ofPerson_65 : decode cX6_ofPerson 65 = .ok (.iload_n 1, 1) := dk_27 (dk_at dksX6_ofPerson_3 13 rfl rfl)
theorem dX6_ofPerson_66 : decode cX6_ofPerson 66 = .ok (.invokevirtual 72, 3) := dk_182 0 72 (dk_at dksX6_ofPerson_3 14 rfl rfl)
theorem dX6_ofPerson_69 : decode cX6_ofPerson 69 = .ok (.ifCond .eq 7, 3) := dk_153 0 7 (dk_at dksX6_ofPerson_3 17 rfl rfl)
theorem dX6_ofPerson_72 : decode cX6_ofPerson 72 = .ok (.iconst 1, 1) := dk_4 (dk_at dksX6_ofPerson_3 20 rfl rfl)
theorem dX6_ofPerson_73 : decode cX6_ofPerson 73 = .ok (.goto 4, 3) := dk_167 0 4 (dk_at dksX6_ofPerson_3 21 rfl rfl)
theorem dX6_ofPerson_76 : decode cX6_ofPerson 76 = .ok (.iconst 0, 1) := dk_3 (dk_at dksX6_ofPerson_4 0 rfl rfl)
theorem dX6_ofPerson_77 : decode cX6_ofPerson 77 = .ok (.ireturn, 1) := dk_172 (dk_at dksX6_ofPerson_4 1 rfl rfl)
theorem dX6_ofPerson_78 : decode cX6_ofPerson 78 = .ok (.aload_n 0, 1) := dk_42 (dk_at dksX6_ofPerson_4 2 rfl rfl)
theorem dX6_ofPerson_79 : decode cX6_ofPerson 79 = .ok (.iload_n 1, 1) := dk_27 (dk_at dksX6_ofPerson_4 3 rfl rfl)
theorem dX6_ofPerson_80 : decode cX6_ofPerson 80 = .ok (.iload_n 2, 1) := dk_28 (dk_at dksX6_ofPerson_4 4 rfl rfl)
theorem dX6_ofPerson_81 : decode cX6_ofPerson 81 = .ok (.invokevirtual 75, 3) := dk_182 0 75 (dk_at dksX6_ofPerson_4 5 rfl rfl)
theorem dX6_ofPerson_84 : decode cX6_ofPerson 84 = .ok (.ireturn, 1) := dk_172 (dk_at dksX6_ofPerson_4 8 rfl rfl)
abbrev cX6_isOne : ByteArray := prog_30_method_9_code
def yX6_isOne : MethodName := ⟨RX6, "isOne", "(I)Z"⟩
def dkwX6_isOne_0 : List UInt8 := [27, 3, 42, 180, 0, 7, 5, 46, 4, 100, 184, 0, 48, 172]
abbrev dktX6_isOne_0 : List UInt8 := dkwX6_isOne_0 ++ []
theorem dksX6_isOne_0 : cX6_isOne.data.toList.drop 0 = dktX6_isOne_0 := by decide +kernel
theorem dX6_isOne_0 : decode cX6_isOne 0 = .ok (.iload_n 1, 1) := dk_27 (dk_at dksX6_isOne_0 0 rfl rfl)
theorem dX6_isOne_1 : decode cX6_isOne 1 = .ok (.iconst 0, 1) := dk_3 (dk_at dksX6_isOne_0 1 rfl rfl)
theorem dX6_isOne_2 : decode cX6_isOne 2 = .ok (.aload_n 0, 1) := dk_42 (dk_at dksX6_isOne_0 2 rfl rfl)
theorem dX6_isOne_3 : decode cX6_isOne 3 = .ok (.getfield 7, 3) := dk_180 0 7 (dk_at dksX6_isOne_0 3 rfl rfl)
theorem dX6_isOne_6 : decode cX6_isOne 6 = .ok (.iconst 2, 1) := dk_5 (dk_at dksX6_isOne_0 6 rfl rfl)
theorem dX6_isOne_7 : decode cX6_isOne 7 = .ok (.iaload, 1) := dk_46 (dk_at dksX6_isOne_0 7 rfl rfl)
theorem dX6_isOne_8 : decode cX6_isOne 8 = .ok (.iconst 1, 1) := dk_4 (dk_at dksX6_isOne_0 8 rfl rfl)
theorem dX6_isOne_9 : decode cX6_isOne 9 = .ok (.isub, 1) := dk_100 (dk_at dksX6_isOne_0 9 rfl rfl)
theorem dX6_isOne_10 : decode cX6_isOne 10 = .ok (.invokestatic 48, 3) := dk_184 0 48 (dk_at dksX6_isOne_0 10 rfl rfl)
theorem dX6_isOne_13 : decode cX6_isOne 13 = .ok (.ireturn, 1) := dk_172 (dk_at dksX6_isOne_0 13 rfl rfl)
abbrev cX6_fills : ByteArray := prog_30_method_37_code
def yX6_fills : MethodName := ⟨RX6, "fills", "(I)I"⟩
def dkwX6_fills_3 : List UInt8 := [6, 172]
abbrev dktX6_fills_3 : List UInt8 := dkwX6_fills_3 ++ []
def dkwX6_fills_2 : List UInt8 := [6, 28, 6, 112, 96, 172, 16, 8, 28, 6, 112, 96, 172, 16, 6, 172, 16, 9, 172, 16, 9, 28, 100, 172]
abbrev dktX6_fills_2 : List UInt8 := dkwX6_fills_2 ++ dktX6_fills_3
def dkwX6_fills_1 : List UInt8 := [170, 0, 0, 0, 0, 0, 63, 0, 0, 0, 1, 0, 0, 0, 6, 0, 0, 0, 39, 0, 0, 0, 52, 0, 0, 0, 55, 0, 0, 0, 45, 0, 0, 0, 63, 0, 0, 0, 58]
abbrev dktX6_fills_1 : List UInt8 := dkwX6_fills_1 ++ dktX6_fills_2
def dkwX6_fills_0 : List UInt8 := [42, 27, 4, 182, 0, 75, 61, 42, 27, 3, 182, 0, 75]
abbrev dktX6_fills_0 : List UInt8 := dkwX6_fills_0 ++ dktX6_fills_1
theorem dksX6_fills_0 : cX6_fills.data.toList.drop 0 = dktX6_fills_0 := by decide +kernel
theorem dksX6_fills_1 : cX6_fills.data.toList.drop 13 = dktX6_fills_1 := dk_seg dksX6_fills_0 13 rfl rfl
theorem dksX6_fills_2 : cX6_fills.data.toList.drop 52 = dktX6_fills_2 := dk_seg dksX6_fills_1 39 rfl rfl
theorem dksX6_fills_3 : cX6_fills.data.toList.drop 76 = dktX6_fills_3 := dk_seg dksX6_fills_2 24 rfl rfl
theorem dX6_fills_0 : decode cX6_fills 0 = .ok (.aload_n 0, 1) := dk_42 (dk_at dksX6_fills_0 0 rfl rfl)
theorem dX6_fills_1 : decode cX6_fills 1 = .ok (.iload_n 1, 1) := dk_27 (dk_at dksX6_fills_0 1 rfl rfl)
theorem dX6_fills_2 : decode cX6_fills 2 = .ok (.iconst 1, 1) := dk_4 (dk_at dksX6_fills_0 2 rfl rfl)
theorem dX6_fills_3 : decode cX6_fills 3 = .ok (.invokevirtual 75, 3) := dk_182 0 75 (dk_at dksX6_fills_0 3 rfl rfl)
theorem dX6_fills_6 : decode cX6_fills 6 = .ok (.istore_n 2, 1) := dk_61 (dk_at dksX6_fills_0 6 rfl rfl)
theorem dX6_fills_7 : decode cX6_fills 7 = .ok (.aload_n 0, 1) := dk_42 (dk_at dksX6_fills_0 7 rfl rfl)
theorem dX6_fills_8 : decode cX6_fills 8 = .ok (.iload_n 1, 1) := dk_27 (dk_at dksX6_fills_0 8 rfl rfl)
theorem dX6_fills_9 : decode cX6_fills 9 = .ok (.iconst 0, 1) := dk_3 (dk_at dksX6_fills_0 9 rfl rfl)
theorem dX6_fills_10 : decode cX6_fills 10 = .ok (.invokevirtual 75, 3) := dk_182 0 75 (dk_at dksX6_fills_0 10 rfl rfl)
theorem dX6_fills_13 : decode cX6_fills 13 = .ok (.tableswitch 63 1 6 #[39, 52, 55, 45, 63, 58], 39) := by decide +kernel
theorem dX6_fills_52 : decode cX6_fills 52 = .ok (.iconst 3, 1) := dk_6 (dk_at dksX6_fills_2 0 rfl rfl)
theorem dX6_fills_53 : decode cX6_fills 53 = .ok (.iload_n 2, 1) := dk_28 (dk_at dksX6_fills_2 1 rfl rfl)
theorem dX6_fills_54 : decode cX6_fills 54 = .ok (.iconst 3, 1) := dk_6 (dk_at dksX6_fills_2 2 rfl rfl)
theorem dX6_fills_55 : decode cX6_fills 55 = .ok (.irem, 1) := dk_112 (dk_at dksX6_fills_2 3 rfl rfl)
theorem dX6_fills_56 : decode cX6_fills 56 = .ok (.iadd, 1) := dk_96 (dk_at dksX6_fills_2 4 rfl rfl)
theorem dX6_fills_57 : decode cX6_fills 57 = .ok (.ireturn, 1) := dk_172 (dk_at dksX6_fills_2 5 rfl rfl)
theorem dX6_fills_58 : decode cX6_fills 58 = .ok (.bipush 8, 2) := dk_16 8 (dk_at dksX6_fills_2 6 rfl rfl)
theorem dX6_fills_60 : decode cX6_fills 60 = .ok (.iload_n 2, 1) := dk_28 (dk_at dksX6_fills_2 8 rfl rfl)
theorem dX6_fills_61 : decode cX6_fills 61 = .ok (.iconst 3, 1) := dk_6 (dk_at dksX6_fills_2 9 rfl rfl)
theorem dX6_fills_62 : decode cX6_fills 62 = .ok (.irem, 1) := dk_112 (dk_at dksX6_fills_2 10 rfl rfl)
theorem dX6_fills_63 : decode cX6_fills 63 = .ok (.iadd, 1) := dk_96 (dk_at dksX6_fills_2 11 rfl rfl)
theorem dX6_fills_64 : decode cX6_fills 64 = .ok (.ireturn, 1) := dk_172 (dk_at dksX6_fills_2 12 rfl rfl)
theorem dX6_fills_65 : decode cX6_fills 65 = .ok (.bipush 6, 2) := dk_16 6 (dk_at dksX6_fills_2 13 rfl rfl)
theorem dX6_fills_67 : decode cX6_fills 67 = .ok (.ireturn, 1) := dk_172 (dk_at dksX6_fills_2 15 rfl rfl)
theorem dX6_fills_68 : decode cX6_fills 68 = .ok (.bipush 9, 2) := dk_16 9 (dk_at dksX6_fills_2 16 rfl rfl)
theorem dX6_fills_70 : decode cX6_fills 70 = .ok (.ireturn, 1) := dk_172 (dk_at dksX6_fills_2 18 rfl rfl)
theorem dX6_fills_71 : decode cX6_fills 71 = .ok (.bipush 9, 2) := dk_16 9 (dk_at dksX6_fills_2 19 rfl rfl)
theorem dX6_fills_73 : decode cX6_fills 73 = .ok (.iload_n 2, 1) := dk_28 (dk_at dksX6_fills_2 21 rfl rfl)
theorem dX6_fills_74 : decode cX6_fills 74 = .ok (.isub, 1) := dk_100 (dk_at dksX6_fills_2 22 rfl rfl)
theorem dX6_fills_75 : decode cX6_fills 75 = .ok (.ireturn, 1) := dk_172 (dk_at dksX6_fills_2 23 rfl rfl)
theorem dX6_fills_76 : decode cX6_fills 76 = .ok (.iconst 3, 1) := dk_6 (dk_at dksX6_fills_3 0 rfl rfl)
theorem dX6_fills_77 : decode cX6_fills 77 = .ok (.ireturn, 1) := dk_172 (dk_at dksX6_fills_3 1 rfl rfl)
abbrev cX6_its : ByteArray := prog_30_method_7_code
def yX6_its : MethodName := ⟨RX6, "its", "(II)I"⟩
def dkwX6_its_0 : List UInt8 := [42, 180, 0, 7, 16, 7, 8, 27, 104, 96, 28, 96, 46, 172]
abbrev dktX6_its_0 : List UInt8 := dkwX6_its_0 ++ []
theorem dksX6_its_0 : cX6_its.data.toList.drop 0 = dktX6_its_0 := by decide +kernel
theorem dX6_its_0 : decode cX6_its 0 = .ok (.aload_n 0, 1) := dk_42 (dk_at dksX6_its_0 0 rfl rfl)
theorem dX6_its_1 : decode cX6_its 1 = .ok (.getfield 7, 3) := dk_180 0 7 (dk_at dksX6_its_0 1 rfl rfl)
theorem dX6_its_4 : decode cX6_its 4 = .ok (.bipush 7, 2) := dk_16 7 (dk_at dksX6_its_0 4 rfl rfl)
theorem dX6_its_6 : decode cX6_its 6 = .ok (.iconst 5, 1) := dk_8 (dk_at dksX6_its_0 6 rfl rfl)
theorem dX6_its_7 : decode cX6_its 7 = .ok (.iload_n 1, 1) := dk_27 (dk_at dksX6_its_0 7 rfl rfl)
theorem dX6_its_8 : decode cX6_its 8 = .ok (.imul, 1) := dk_104 (dk_at dksX6_its_0 8 rfl rfl)
theorem dX6_its_9 : decode cX6_its 9 = .ok (.iadd, 1) := dk_96 (dk_at dksX6_its_0 9 rfl rfl)
theorem dX6_its_10 : decode cX6_its 10 = .ok (.iload_n 2, 1) := dk_28 (dk_at dksX6_its_0 10 rfl rfl)
theorem dX6_its_11 : decode cX6_its 11 = .ok (.iadd, 1) := dk_96 (dk_at dksX6_its_0 11 rfl rfl)
theorem dX6_its_12 : decode cX6_its 12 = .ok (.iaload, 1) := dk_46 (dk_at dksX6_its_0 12 rfl rfl)
theorem dX6_its_13 : decode cX6_its 13 = .ok (.ireturn, 1) := dk_172 (dk_at dksX6_its_0 13 rfl rfl)
abbrev cX6_drinks : ByteArray := prog_30_method_38_code
def yX6_drinks : MethodName := ⟨RX6, "drinks", "(I)I"⟩
def dkwX6_drinks_2 : List UInt8 := [4, 172, 6, 172, 5, 172]
abbrev dktX6_drinks_2 : List UInt8 := dkwX6_drinks_2 ++ []
def dkwX6_drinks_1 : List UInt8 := [170, 0, 0, 0, 0, 34, 0, 0, 0, 1, 0, 0, 0, 4, 0, 0, 0, 30, 0, 0, 0, 32, 0, 0, 0, 34, 0, 0, 0, 30]
abbrev dktX6_drinks_1 : List UInt8 := dkwX6_drinks_1 ++ dktX6_drinks_2
def dkwX6_drinks_0 : List UInt8 := [42, 27, 3, 182, 0, 75]
abbrev dktX6_drinks_0 : List UInt8 := dkwX6_drinks_0 ++ dktX6_drinks_1
theorem dksX6_drinks_0 : cX6_drinks.data.toList.drop 0 = dktX6_drinks_0 := by decide +kernel
theorem dksX6_drinks_1 : cX6_drinks.data.toList.drop 6 = dktX6_drinks_1 := dk_seg dksX6_drinks_0 6 rfl rfl
theorem dksX6_drinks_2 : cX6_drinks.data.toList.drop 36 = dktX6_drinks_2 := dk_seg dksX6_drinks_1 30 rfl rfl
theorem dX6_drinks_0 : decode cX6_drinks 0 = .ok (.aload_n 0, 1) := dk_42 (dk_at dksX6_drinks_0 0 rfl rfl)
theorem dX6_drinks_1 : decode cX6_drinks 1 = .ok (.iload_n 1, 1) := dk_27 (dk_at dksX6_drinks_0 1 rfl rfl)
theorem dX6_drinks_2 : decode cX6_drinks 2 = .ok (.iconst 0, 1) := dk_3 (dk_at dksX6_drinks_0 2 rfl rfl)
theorem dX6_drinks_3 : decode cX6_drinks 3 = .ok (.invokevirtual 75, 3) := dk_182 0 75 (dk_at dksX6_drinks_0 3 rfl rfl)
theorem dX6_drinks_6 : decode cX6_drinks 6 = .ok (.tableswitch 34 1 4 #[30, 32, 34, 30], 30) := by decide +kernel
theorem dX6_drinks_36 : decode cX6_drinks 36 = .ok (.iconst 1, 1) := dk_4 (dk_at dksX6_drinks_2 0 rfl rfl)
theorem dX6_drinks_37 : decode cX6_drinks 37 = .ok (.ireturn, 1) := dk_172 (dk_at dksX6_drinks_2 1 rfl rfl)
theorem dX6_drinks_38 : decode cX6_drinks 38 = .ok (.iconst 3, 1) := dk_6 (dk_at dksX6_drinks_2 2 rfl rfl)
theorem dX6_drinks_39 : decode cX6_drinks 39 = .ok (.ireturn, 1) := dk_172 (dk_at dksX6_drinks_2 3 rfl rfl)
theorem dX6_drinks_40 : decode cX6_drinks 40 = .ok (.iconst 2, 1) := dk_5 (dk_at dksX6_drinks_2 4 rfl rfl)
theorem dX6_drinks_41 : decode cX6_drinks 41 = .ok (.ireturn, 1) := dk_172 (dk_at dksX6_drinks_2 5 rfl rfl)
abbrev cX6_isGiven : ByteArray := prog_30_method_40_code
def yX6_isGiven : MethodName := ⟨RX6, "isGiven", "(I)Z"⟩
def dkwX6_isGiven_0 : List UInt8 := [42, 27, 42, 27, 5, 182, 0, 75, 42, 180, 0, 7, 3, 46, 182, 0, 169, 172]
abbrev dktX6_isGiven_0 : List UInt8 := dkwX6_isGiven_0 ++ []
theorem dksX6_isGiven_0 : cX6_isGiven.data.toList.drop 0 = dktX6_isGiven_0 := by decide +kernel
theorem dX6_isGiven_0 : decode cX6_isGiven 0 = .ok (.aload_n 0, 1) := dk_42 (dk_at dksX6_isGiven_0 0 rfl rfl)
theorem dX6_isGiven_1 : decode cX6_isGiven 1 = .ok (.iload_n 1, 1) := dk_27 (dk_at dksX6_isGiven_0 1 rfl rfl)
theorem dX6_isGiven_2 : decode cX6_isGiven 2 = .ok (.aload_n 0, 1) := dk_42 (dk_at dksX6_isGiven_0 2 rfl rfl)
theorem dX6_isGiven_3 : decode cX6_isGiven 3 = .ok (.iload_n 1, 1) := dk_27 (dk_at dksX6_isGiven_0 3 rfl rfl)
theorem dX6_isGiven_4 : decode cX6_isGiven 4 = .ok (.iconst 2, 1) := dk_5 (dk_at dksX6_isGiven_0 4 rfl rfl)
theorem dX6_isGiven_5 : decode cX6_isGiven 5 = .ok (.invokevirtual 75, 3) := dk_182 0 75 (dk_at dksX6_isGiven_0 5 rfl rfl)
theorem dX6_isGiven_8 : decode cX6_isGiven 8 = .ok (.aload_n 0, 1) := dk_42 (dk_at dksX6_isGiven_0 8 rfl rfl)
theorem dX6_isGiven_9 : decode cX6_isGiven 9 = .ok (.getfield 7, 3) := dk_180 0 7 (dk_at dksX6_isGiven_0 9 rfl rfl)
theorem dX6_isGiven_12 : decode cX6_isGiven 12 = .ok (.iconst 0, 1) := dk_3 (dk_at dksX6_isGiven_0 12 rfl rfl)
theorem dX6_isGiven_13 : decode cX6_isGiven 13 = .ok (.iaload, 1) := dk_46 (dk_at dksX6_isGiven_0 13 rfl rfl)
theorem dX6_isGiven_14 : decode cX6_isGiven 14 = .ok (.invokevirtual 169, 3) := dk_182 0 169 (dk_at dksX6_isGiven_0 14 rfl rfl)
theorem dX6_isGiven_17 : decode cX6_isGiven 17 = .ok (.ireturn, 1) := dk_172 (dk_at dksX6_isGiven_0 17 rfl rfl)
abbrev cX6_isGivenOn : ByteArray := prog_30_method_39_code
def yX6_isGivenOn : MethodName := ⟨RX6, "isGivenOn", "(III)Z"⟩
def dkwX6_isGivenOn_1 : List UInt8 := [172]
abbrev dktX6_isGivenOn_1 : List UInt8 := dkwX6_isGivenOn_1 ++ []
def dkwX6_isGivenOn_0 : List UInt8 := [42, 3, 28, 29, 16, 7, 112, 42, 27, 6, 182, 0, 75, 182, 0, 160, 153, 0, 7, 4, 167, 0, 4, 3]
abbrev dktX6_isGivenOn_0 : List UInt8 := dkwX6_isGivenOn_0 ++ dktX6_isGivenOn_1
theorem dksX6_isGivenOn_0 : cX6_isGivenOn.data.toList.drop 0 = dktX6_isGivenOn_0 := by decide +kernel
theorem dksX6_isGivenOn_1 : cX6_isGivenOn.data.toList.drop 24 = dktX6_isGivenOn_1 := dk_seg dksX6_isGivenOn_0 24 rfl rfl
theorem dX6_isGivenOn_0 : decode cX6_isGivenOn 0 = .ok (.aload_n 0, 1) := dk_42 (dk_at dksX6_isGivenOn_0 0 rfl rfl)
theorem dX6_isGivenOn_1 : decode cX6_isGivenOn 1 = .ok (.iconst 0, 1) := dk_3 (dk_at dksX6_isGivenOn_0 1 rfl rfl)
theorem dX6_isGivenOn_2 : decode cX6_isGivenOn 2 = .ok (.iload_n 2, 1) := dk_28 (dk_at dksX6_isGivenOn_0 2 rfl rfl)
theorem dX6_isGivenOn_3 : decode cX6_isGivenOn 3 = .ok (.iload_n 3, 1) := dk_29 (dk_at dksX6_isGivenOn_0 3 rfl rfl)
theorem dX6_isGivenOn_4 : decode cX6_isGivenOn 4 = .ok (.bipush 7, 2) := dk_16 7 (dk_at dksX6_isGivenOn_0 4 rfl rfl)
theorem dX6_isGivenOn_6 : decode cX6_isGivenOn 6 = .ok (.irem, 1) := dk_112 (dk_at dksX6_isGivenOn_0 6 rfl rfl)
theorem dX6_isGivenOn_7 : decode cX6_isGivenOn 7 = .ok (.aload_n 0, 1) := dk_42 (dk_at dksX6_isGivenOn_0 7 rfl rfl)
theorem dX6_isGivenOn_8 : decode cX6_isGivenOn 8 = .ok (.iload_n 1, 1) := dk_27 (dk_at dksX6_isGivenOn_0 8 rfl rfl)
theorem dX6_isGivenOn_9 : decode cX6_isGivenOn 9 = .ok (.iconst 3, 1) := dk_6 (dk_at dksX6_isGivenOn_0 9 rfl rfl)
theorem dX6_isGivenOn_10 : decode cX6_isGivenOn 10 = .ok (.invokevirtual 75, 3) := dk_182 0 75 (dk_at dksX6_isGivenOn_0 10 rfl rfl)
theorem dX6_isGivenOn_13 : decode cX6_isGivenOn 13 = .ok (.invokevirtual 160, 3) := dk_182 0 160 (dk_at dksX6_isGivenOn_0 13 rfl rfl)
theorem dX6_isGivenOn_16 : decode cX6_isGivenOn 16 = .ok (.ifCond .eq 7, 3) := dk_153 0 7 (dk_at dksX6_isGivenOn_0 16 rfl rfl)
theorem dX6_isGivenOn_19 : decode cX6_isGivenOn 19 = .ok (.iconst 1, 1) := dk_4 (dk_at dksX6_isGivenOn_0 19 rfl rfl)
theorem dX6_isGivenOn_20 : decode cX6_isGivenOn 20 = .ok (.goto 4, 3) := dk_167 0 4 (dk_at dksX6_isGivenOn_0 20 rfl rfl)
theorem dX6_isGivenOn_23 : decode cX6_isGivenOn 23 = .ok (.iconst 0, 1) := dk_3 (dk_at dksX6_isGivenOn_0 23 rfl rfl)
theorem dX6_isGivenOn_24 : decode cX6_isGivenOn 24 = .ok (.ireturn, 1) := dk_172 (dk_at dksX6_isGivenOn_1 0 rfl rfl)
abbrev cX6_lawOf : ByteArray := prog_30_method_33_code
def yX6_lawOf : MethodName := ⟨RX6, "lawOf", "(IIII)I"⟩
def dkwX6_lawOf_2 : List UInt8 := [4, 167, 0, 4, 3, 172]
abbrev dktX6_lawOf_2 : List UInt8 := dkwX6_lawOf_2 ++ []
def dkwX6_lawOf_1 : List UInt8 := [184, 0, 156, 172, 27, 154, 0, 14, 28, 5, 112, 3, 4, 184, 0, 156, 167, 0, 13, 28, 6, 164, 0, 7]
abbrev dktX6_lawOf_1 : List UInt8 := dkwX6_lawOf_1 ++ dktX6_lawOf_2
def dkwX6_lawOf_0 : List UInt8 := [42, 180, 0, 7, 8, 27, 96, 46, 155, 0, 18, 42, 27, 28, 29, 21, 4, 182, 0, 152, 3, 4]
abbrev dktX6_lawOf_0 : List UInt8 := dkwX6_lawOf_0 ++ dktX6_lawOf_1
theorem dksX6_lawOf_0 : cX6_lawOf.data.toList.drop 0 = dktX6_lawOf_0 := by decide +kernel
theorem dksX6_lawOf_1 : cX6_lawOf.data.toList.drop 22 = dktX6_lawOf_1 := dk_seg dksX6_lawOf_0 22 rfl rfl
theorem dksX6_lawOf_2 : cX6_lawOf.data.toList.drop 46 = dktX6_lawOf_2 := dk_seg dksX6_lawOf_1 24 rfl rfl
theorem dX6_lawOf_0 : decode cX6_lawOf 0 = .ok (.aload_n 0, 1) := dk_42 (dk_at dksX6_lawOf_0 0 rfl rfl)
theorem dX6_lawOf_1 : decode cX6_lawOf 1 = .ok (.getfield 7, 3) := dk_180 0 7 (dk_at dksX6_lawOf_0 1 rfl rfl)
theorem dX6_lawOf_4 : decode cX6_lawOf 4 = .ok (.iconst 5, 1) := dk_8 (dk_at dksX6_lawOf_0 4 rfl rfl)
theorem dX6_lawOf_5 : decode cX6_lawOf 5 = .ok (.iload_n 1, 1) := dk_27 (dk_at dksX6_lawOf_0 5 rfl rfl)
theorem dX6_lawOf_6 : decode cX6_lawOf 6 = .ok (.iadd, 1) := dk_96 (dk_at dksX6_lawOf_0 6 rfl rfl)
theorem dX6_lawOf_7 : decode cX6_lawOf 7 = .ok (.iaload, 1) := dk_46 (dk_at dksX6_lawOf_0 7 rfl rfl)
theorem dX6_lawOf_8 : decode cX6_lawOf 8 = .ok (.ifCond .lt 18, 3) := dk_155 0 18 (dk_at dksX6_lawOf_0 8 rfl rfl)
theorem dX6_lawOf_11 : decode cX6_lawOf 11 = .ok (.aload_n 0, 1) := dk_42 (dk_at dksX6_lawOf_0 11 rfl rfl)
theorem dX6_lawOf_12 : decode cX6_lawOf 12 = .ok (.iload_n 1, 1) := dk_27 (dk_at dksX6_lawOf_0 12 rfl rfl)
theorem dX6_lawOf_13 : decode cX6_lawOf 13 = .ok (.iload_n 2, 1) := dk_28 (dk_at dksX6_lawOf_0 13 rfl rfl)
theorem dX6_lawOf_14 : decode cX6_lawOf 14 = .ok (.iload_n 3, 1) := dk_29 (dk_at dksX6_lawOf_0 14 rfl rfl)
theorem dX6_lawOf_15 : decode cX6_lawOf 15 = .ok (.iload 4, 2) := dk_21 4 (dk_at dksX6_lawOf_0 15 rfl rfl)
theorem dX6_lawOf_17 : decode cX6_lawOf 17 = .ok (.invokevirtual 152, 3) := dk_182 0 152 (dk_at dksX6_lawOf_0 17 rfl rfl)
theorem dX6_lawOf_20 : decode cX6_lawOf 20 = .ok (.iconst 0, 1) := dk_3 (dk_at dksX6_lawOf_0 20 rfl rfl)
theorem dX6_lawOf_21 : decode cX6_lawOf 21 = .ok (.iconst 1, 1) := dk_4 (dk_at dksX6_lawOf_0 21 rfl rfl)
theorem dX6_lawOf_22 : decode cX6_lawOf 22 = .ok (.invokestatic 156, 3) := dk_184 0 156 (dk_at dksX6_lawOf_1 0 rfl rfl)
theorem dX6_lawOf_25 : decode cX6_lawOf 25 = .ok (.ireturn, 1) := dk_172 (dk_at dksX6_lawOf_1 3 rfl rfl)
theorem dX6_lawOf_26 : decode cX6_lawOf 26 = .ok (.iload_n 1, 1) := dk_27 (dk_at dksX6_lawOf_1 4 rfl rfl)
theorem dX6_lawOf_27 : decode cX6_lawOf 27 = .ok (.ifCond .ne 14, 3) := dk_154 0 14 (dk_at dksX6_lawOf_1 5 rfl rfl)
theorem dX6_lawOf_30 : decode cX6_lawOf 30 = .ok (.iload_n 2, 1) := dk_28 (dk_at dksX6_lawOf_1 8 rfl rfl)
theorem dX6_lawOf_31 : decode cX6_lawOf 31 = .ok (.iconst 2, 1) := dk_5 (dk_at dksX6_lawOf_1 9 rfl rfl)
theorem dX6_lawOf_32 : decode cX6_lawOf 32 = .ok (.irem, 1) := dk_112 (dk_at dksX6_lawOf_1 10 rfl rfl)
theorem dX6_lawOf_33 : decode cX6_lawOf 33 = .ok (.iconst 0, 1) := dk_3 (dk_at dksX6_lawOf_1 11 rfl rfl)
theorem dX6_lawOf_34 : decode cX6_lawOf 34 = .ok (.iconst 1, 1) := dk_4 (dk_at dksX6_lawOf_1 12 rfl rfl)
theorem dX6_lawOf_35 : decode cX6_lawOf 35 = .ok (.invokestatic 156, 3) := dk_184 0 156 (dk_at dksX6_lawOf_1 13 rfl rfl)
theorem dX6_lawOf_38 : decode cX6_lawOf 38 = .ok (.goto 13, 3) := dk_167 0 13 (dk_at dksX6_lawOf_1 16 rfl rfl)
theorem dX6_lawOf_41 : decode cX6_lawOf 41 = .ok (.iload_n 2, 1) := dk_28 (dk_at dksX6_lawOf_1 19 rfl rfl)
theorem dX6_lawOf_42 : decode cX6_lawOf 42 = .ok (.iconst 3, 1) := dk_6 (dk_at dksX6_lawOf_1 20 rfl rfl)
theorem dX6_lawOf_43 : decode cX6_lawOf 43 = .ok (.if_icmp .le 7, 3) := dk_164 0 7 (dk_at dksX6_lawOf_1 21 rfl rfl)
theorem dX6_lawOf_46 : decode cX6_lawOf 46 = .ok (.iconst 1, 1) := dk_4 (dk_at dksX6_lawOf_2 0 rfl rfl)
theorem dX6_lawOf_47 : decode cX6_lawOf 47 = .ok (.goto 4, 3) := dk_167 0 4 (dk_at dksX6_lawOf_2 1 rfl rfl)
theorem dX6_lawOf_50 : decode cX6_lawOf 50 = .ok (.iconst 0, 1) := dk_3 (dk_at dksX6_lawOf_2 4 rfl rfl)
theorem dX6_lawOf_51 : decode cX6_lawOf 51 = .ok (.ireturn, 1) := dk_172 (dk_at dksX6_lawOf_2 5 rfl rfl)
abbrev cX6_walks : ByteArray := prog_30_method_32_code
def yX6_walks : MethodName := ⟨RX6, "walks", "(IIII)I"⟩
def dkwX6_walks_3 : List UInt8 := [160, 0, 7, 4, 167, 0, 4, 3, 181, 0, 99, 21, 5, 172]
abbrev dktX6_walks_3 : List UInt8 := dkwX6_walks_3 ++ []
def dkwX6_walks_2 : List UInt8 := [42, 182, 0, 137, 54, 5, 42, 42, 180, 0, 99, 153, 0, 18, 42, 180, 0, 103, 42, 180, 0, 93]
abbrev dktX6_walks_2 : List UInt8 := dkwX6_walks_2 ++ dktX6_walks_3
def dkwX6_walks_1 : List UInt8 := [181, 0, 131, 42, 4, 181, 0, 99, 42, 28, 181, 0, 116, 42, 29, 181, 0, 119, 42, 21, 4, 181, 0, 122]
abbrev dktX6_walks_1 : List UInt8 := dkwX6_walks_1 ++ dktX6_walks_2
def dkwX6_walks_0 : List UInt8 := [42, 27, 181, 0, 96, 42, 3, 181, 0, 103, 42, 42, 180, 0, 7, 8, 27, 96, 46, 181, 0, 93, 42, 3]
abbrev dktX6_walks_0 : List UInt8 := dkwX6_walks_0 ++ dktX6_walks_1
theorem dksX6_walks_0 : cX6_walks.data.toList.drop 0 = dktX6_walks_0 := by decide +kernel
theorem dksX6_walks_1 : cX6_walks.data.toList.drop 24 = dktX6_walks_1 := dk_seg dksX6_walks_0 24 rfl rfl
theorem dksX6_walks_2 : cX6_walks.data.toList.drop 48 = dktX6_walks_2 := dk_seg dksX6_walks_1 24 rfl rfl
theorem dksX6_walks_3 : cX6_walks.data.toList.drop 70 = dktX6_walks_3 := dk_seg dksX6_walks_2 22 rfl rfl
theorem dX6_walks_0 : decode cX6_walks 0 = .ok (.aload_n 0, 1) := dk_42 (dk_at dksX6_walks_0 0 rfl rfl)
theorem dX6_walks_1 : decode cX6_walks 1 = .ok (.iload_n 1, 1) := dk_27 (dk_at dksX6_walks_0 1 rfl rfl)
theorem dX6_walks_2 : decode cX6_walks 2 = .ok (.putfield 96, 3) := dk_181 0 96 (dk_at dksX6_walks_0 2 rfl rfl)
theorem dX6_walks_5 : decode cX6_walks 5 = .ok (.aload_n 0, 1) := dk_42 (dk_at dksX6_walks_0 5 rfl rfl)
theorem dX6_walks_6 : decode cX6_walks 6 = .ok (.iconst 0, 1) := dk_3 (dk_at dksX6_walks_0 6 rfl rfl)
theorem dX6_walks_7 : decode cX6_walks 7 = .ok (.putfield 103, 3) := dk_181 0 103 (dk_at dksX6_walks_0 7 rfl rfl)
theorem dX6_walks_10 : decode cX6_walks 10 = .ok (.aload_n 0, 1) := dk_42 (dk_at dksX6_walks_0 10 rfl rfl)
theorem dX6_walks_11 : decode cX6_walks 11 = .ok (.aload_n 0, 1) := dk_42 (dk_at dksX6_walks_0 11 rfl rfl)
theorem dX6_walks_12 : decode cX6_walks 12 = .ok (.getfield 7, 3) := dk_180 0 7 (dk_at dksX6_walks_0 12 rfl rfl)
theorem dX6_walks_15 : decode cX6_walks 15 = .ok (.iconst 5, 1) := dk_8 (dk_at dksX6_walks_0 15 rfl rfl)
theorem dX6_walks_16 : decode cX6_walks 16 = .ok (.iload_n 1, 1) := dk_27 (dk_at dksX6_walks_0 16 rfl rfl)
theorem dX6_walks_17 : decode cX6_walks 17 = .ok (.iadd, 1) := dk_96 (dk_at dksX6_walks_0 17 rfl rfl)
theorem dX6_walks_18 : decode cX6_walks 18 = .ok (.iaload, 1) := dk_46 (dk_at dksX6_walks_0 18 rfl rfl)
theorem dX6_walks_19 : decode cX6_walks 19 = .ok (.putfield 93, 3) := dk_181 0 93 (dk_at dksX6_walks_0 19 rfl rfl)
theorem dX6_walks_22 : decode cX6_walks 22 = .ok (.aload_n 0, 1) := dk_42 (dk_at dksX6_walks_0 22 rfl rfl)
theorem dX6_walks_23 : decode cX6_walks 23 = .ok (.iconst 0, 1) := dk_3 (dk_at dksX6_walks_0 23 rfl rfl)
theorem dX6_walks_24 : decode cX6_walks 24 = .ok (.putfield 131, 3) := dk_181 0 131 (dk_at dksX6_walks_1 0 rfl rfl)
theorem dX6_walks_27 : decode cX6_walks 27 = .ok (.aload_n 0, 1) := dk_42 (dk_at dksX6_walks_1 3 rfl rfl)
theorem dX6_walks_28 : decode cX6_walks 28 = .ok (.iconst 1, 1) := dk_4 (dk_at dksX6_walks_1 4 rfl rfl)
theorem dX6_walks_29 : decode cX6_walks 29 = .ok (.putfield 99, 3) := dk_181 0 99 (dk_at dksX6_walks_1 5 rfl rfl)
theorem dX6_walks_32 : decode cX6_walks 32 = .ok (.aload_n 0, 1) := dk_42 (dk_at dksX6_walks_1 8 rfl rfl)
theorem dX6_walks_33 : decode cX6_walks 33 = .ok (.iload_n 2, 1) := dk_28 (dk_at dksX6_walks_1 9 rfl rfl)
theorem dX6_walks_34 : decode cX6_walks 34 = .ok (.putfield 116, 3) := dk_181 0 116 (dk_at dksX6_walks_1 10 rfl rfl)
theorem dX6_walks_37 : decode cX6_walks 37 = .ok (.aload_n 0, 1) := dk_42 (dk_at dksX6_walks_1 13 rfl rfl)
theorem dX6_walks_38 : decode cX6_walks 38 = .ok (.iload_n 3, 1) := dk_29 (dk_at dksX6_walks_1 14 rfl rfl)
theorem dX6_walks_39 : decode cX6_walks 39 = .ok (.putfield 119, 3) := dk_181 0 119 (dk_at dksX6_walks_1 15 rfl rfl)
theorem dX6_walks_42 : decode cX6_walks 42 = .ok (.aload_n 0, 1) := dk_42 (dk_at dksX6_walks_1 18 rfl rfl)
theorem dX6_walks_43 : decode cX6_walks 43 = .ok (.iload 4, 2) := dk_21 4 (dk_at dksX6_walks_1 19 rfl rfl)
theorem dX6_walks_45 : decode cX6_walks 45 = .ok (.putfield 122, 3) := dk_181 0 122 (dk_at dksX6_walks_1 21 rfl rfl)
theorem dX6_walks_48 : decode cX6_walks 48 = .ok (.aload_n 0, 1) := dk_42 (dk_at dksX6_walks_2 0 rfl rfl)
theorem dX6_walks_49 : decode cX6_walks 49 = .ok (.invokevirtual 137, 3) := dk_182 0 137 (dk_at dksX6_walks_2 1 rfl rfl)
theorem dX6_walks_52 : decode cX6_walks 52 = .ok (.istore 5, 2) := dk_54 5 (dk_at dksX6_walks_2 4 rfl rfl)
theorem dX6_walks_54 : decode cX6_walks 54 = .ok (.aload_n 0, 1) := dk_42 (dk_at dksX6_walks_2 6 rfl rfl)
theorem dX6_walks_55 : decode cX6_walks 55 = .ok (.aload_n 0, 1) := dk_42 (dk_at dksX6_walks_2 7 rfl rfl)
theorem dX6_walks_56 : decode cX6_walks 56 = .ok (.getfield 99, 3) := dk_180 0 99 (dk_at dksX6_walks_2 8 rfl rfl)
theorem dX6_walks_59 : decode cX6_walks 59 = .ok (.ifCond .eq 18, 3) := dk_153 0 18 (dk_at dksX6_walks_2 11 rfl rfl)
theorem dX6_walks_62 : decode cX6_walks 62 = .ok (.aload_n 0, 1) := dk_42 (dk_at dksX6_walks_2 14 rfl rfl)
theorem dX6_walks_63 : decode cX6_walks 63 = .ok (.getfield 103, 3) := dk_180 0 103 (dk_at dksX6_walks_2 15 rfl rfl)
theorem dX6_walks_66 : decode cX6_walks 66 = .ok (.aload_n 0, 1) := dk_42 (dk_at dksX6_walks_2 18 rfl rfl)
theorem dX6_walks_67 : decode cX6_walks 67 = .ok (.getfield 93, 3) := dk_180 0 93 (dk_at dksX6_walks_2 19 rfl rfl)
theorem dX6_walks_70 : decode cX6_walks 70 = .ok (.if_icmp .ne 7, 3) := dk_160 0 7 (dk_at dksX6_walks_3 0 rfl rfl)
theorem dX6_walks_73 : decode cX6_walks 73 = .ok (.iconst 1, 1) := dk_4 (dk_at dksX6_walks_3 3 rfl rfl)
theorem dX6_walks_74 : decode cX6_walks 74 = .ok (.goto 4, 3) := dk_167 0 4 (dk_at dksX6_walks_3 4 rfl rfl)
theorem dX6_walks_77 : decode cX6_walks 77 = .ok (.iconst 0, 1) := dk_3 (dk_at dksX6_walks_3 7 rfl rfl)
theorem dX6_walks_78 : decode cX6_walks 78 = .ok (.putfield 99, 3) := dk_181 0 99 (dk_at dksX6_walks_3 8 rfl rfl)
theorem dX6_walks_81 : decode cX6_walks 81 = .ok (.iload 5, 2) := dk_21 5 (dk_at dksX6_walks_3 11 rfl rfl)
theorem dX6_walks_83 : decode cX6_walks 83 = .ok (.ireturn, 1) := dk_172 (dk_at dksX6_walks_3 13 rfl rfl)
abbrev cX6_whole : ByteArray := prog_30_method_31_code
def yX6_whole : MethodName := ⟨RX6, "whole", "()I"⟩
def dkwX6_whole_2 : List UInt8 := [153, 0, 7, 4, 167, 0, 4, 3, 60, 167, 255, 207, 27, 172]
abbrev dktX6_whole_2 : List UInt8 := dkwX6_whole_2 ++ []
def dkwX6_whole_1 : List UInt8 := [160, 0, 35, 42, 89, 180, 0, 103, 4, 96, 181, 0, 103, 42, 182, 0, 149, 61, 27, 154, 0, 7, 28]
abbrev dktX6_whole_1 : List UInt8 := dkwX6_whole_1 ++ dktX6_whole_2
def dkwX6_whole_0 : List UInt8 := [42, 182, 0, 149, 60, 42, 180, 0, 99, 153, 0, 48, 42, 42, 180, 0, 103, 182, 0, 106, 16, 124]
abbrev dktX6_whole_0 : List UInt8 := dkwX6_whole_0 ++ dktX6_whole_1
theorem dksX6_whole_0 : cX6_whole.data.toList.drop 0 = dktX6_whole_0 := by decide +kernel
theorem dksX6_whole_1 : cX6_whole.data.toList.drop 22 = dktX6_whole_1 := dk_seg dksX6_whole_0 22 rfl rfl
theorem dksX6_whole_2 : cX6_whole.data.toList.drop 45 = dktX6_whole_2 := dk_seg dksX6_whole_1 23 rfl rfl
theorem dX6_whole_0 : decode cX6_whole 0 = .ok (.aload_n 0, 1) := dk_42 (dk_at dksX6_whole_0 0 rfl rfl)
theorem dX6_whole_1 : decode cX6_whole 1 = .ok (.invokevirtual 149, 3) := dk_182 0 149 (dk_at dksX6_whole_0 1 rfl rfl)
theorem dX6_whole_4 : decode cX6_whole 4 = .ok (.istore_n 1, 1) := dk_60 (dk_at dksX6_whole_0 4 rfl rfl)
theorem dX6_whole_5 : decode cX6_whole 5 = .ok (.aload_n 0, 1) := dk_42 (dk_at dksX6_whole_0 5 rfl rfl)
theorem dX6_whole_6 : decode cX6_whole 6 = .ok (.getfield 99, 3) := dk_180 0 99 (dk_at dksX6_whole_0 6 rfl rfl)
theorem dX6_whole_9 : decode cX6_whole 9 = .ok (.ifCond .eq 48, 3) := dk_153 0 48 (dk_at dksX6_whole_0 9 rfl rfl)
theorem dX6_whole_12 : decode cX6_whole 12 = .ok (.aload_n 0, 1) := dk_42 (dk_at dksX6_whole_0 12 rfl rfl)
theorem dX6_whole_13 : decode cX6_whole 13 = .ok (.aload_n 0, 1) := dk_42 (dk_at dksX6_whole_0 13 rfl rfl)
theorem dX6_whole_14 : decode cX6_whole 14 = .ok (.getfield 103, 3) := dk_180 0 103 (dk_at dksX6_whole_0 14 rfl rfl)
theorem dX6_whole_17 : decode cX6_whole 17 = .ok (.invokevirtual 106, 3) := dk_182 0 106 (dk_at dksX6_whole_0 17 rfl rfl)
theorem dX6_whole_20 : decode cX6_whole 20 = .ok (.bipush 124, 2) := dk_16 124 (dk_at dksX6_whole_0 20 rfl rfl)
theorem dX6_whole_22 : decode cX6_whole 22 = .ok (.if_icmp .ne 35, 3) := dk_160 0 35 (dk_at dksX6_whole_1 0 rfl rfl)
theorem dX6_whole_25 : decode cX6_whole 25 = .ok (.aload_n 0, 1) := dk_42 (dk_at dksX6_whole_1 3 rfl rfl)
theorem dX6_whole_26 : decode cX6_whole 26 = .ok (.dup, 1) := dk_89 (dk_at dksX6_whole_1 4 rfl rfl)
theorem dX6_whole_27 : decode cX6_whole 27 = .ok (.getfield 103, 3) := dk_180 0 103 (dk_at dksX6_whole_1 5 rfl rfl)
theorem dX6_whole_30 : decode cX6_whole 30 = .ok (.iconst 1, 1) := dk_4 (dk_at dksX6_whole_1 8 rfl rfl)
theorem dX6_whole_31 : decode cX6_whole 31 = .ok (.iadd, 1) := dk_96 (dk_at dksX6_whole_1 9 rfl rfl)
theorem dX6_whole_32 : decode cX6_whole 32 = .ok (.putfield 103, 3) := dk_181 0 103 (dk_at dksX6_whole_1 10 rfl rfl)
theorem dX6_whole_35 : decode cX6_whole 35 = .ok (.aload_n 0, 1) := dk_42 (dk_at dksX6_whole_1 13 rfl rfl)
theorem dX6_whole_36 : decode cX6_whole 36 = .ok (.invokevirtual 149, 3) := dk_182 0 149 (dk_at dksX6_whole_1 14 rfl rfl)
theorem dX6_whole_39 : decode cX6_whole 39 = .ok (.istore_n 2, 1) := dk_61 (dk_at dksX6_whole_1 17 rfl rfl)
theorem dX6_whole_40 : decode cX6_whole 40 = .ok (.iload_n 1, 1) := dk_27 (dk_at dksX6_whole_1 18 rfl rfl)
theorem dX6_whole_41 : decode cX6_whole 41 = .ok (.ifCond .ne 7, 3) := dk_154 0 7 (dk_at dksX6_whole_1 19 rfl rfl)
theorem dX6_whole_44 : decode cX6_whole 44 = .ok (.iload_n 2, 1) := dk_28 (dk_at dksX6_whole_1 22 rfl rfl)
theorem dX6_whole_45 : decode cX6_whole 45 = .ok (.ifCond .eq 7, 3) := dk_153 0 7 (dk_at dksX6_whole_2 0 rfl rfl)
theorem dX6_whole_48 : decode cX6_whole 48 = .ok (.iconst 1, 1) := dk_4 (dk_at dksX6_whole_2 3 rfl rfl)
theorem dX6_whole_49 : decode cX6_whole 49 = .ok (.goto 4, 3) := dk_167 0 4 (dk_at dksX6_whole_2 4 rfl rfl)
theorem dX6_whole_52 : decode cX6_whole 52 = .ok (.iconst 0, 1) := dk_3 (dk_at dksX6_whole_2 7 rfl rfl)
theorem dX6_whole_53 : decode cX6_whole 53 = .ok (.istore_n 1, 1) := dk_60 (dk_at dksX6_whole_2 8 rfl rfl)
theorem dX6_whole_54 : decode cX6_whole 54 = .ok (.goto (-49), 3) := dk_167 255 207 (dk_at dksX6_whole_2 9 rfl rfl)
theorem dX6_whole_57 : decode cX6_whole 57 = .ok (.iload_n 1, 1) := dk_27 (dk_at dksX6_whole_2 12 rfl rfl)
theorem dX6_whole_58 : decode cX6_whole 58 = .ok (.ireturn, 1) := dk_172 (dk_at dksX6_whole_2 13 rfl rfl)
abbrev cX6_both : ByteArray := prog_30_method_30_code
def yX6_both : MethodName := ⟨RX6, "both", "()I"⟩
def dkwX6_both_2 : List UInt8 := [153, 0, 7, 4, 167, 0, 4, 3, 60, 167, 255, 207, 27, 172]
abbrev dktX6_both_2 : List UInt8 := dkwX6_both_2 ++ []
def dkwX6_both_1 : List UInt8 := [160, 0, 35, 42, 89, 180, 0, 103, 4, 96, 181, 0, 103, 42, 182, 0, 146, 61, 27, 153, 0, 11, 28]
abbrev dktX6_both_1 : List UInt8 := dkwX6_both_1 ++ dktX6_both_2
def dkwX6_both_0 : List UInt8 := [42, 182, 0, 146, 60, 42, 180, 0, 99, 153, 0, 48, 42, 42, 180, 0, 103, 182, 0, 106, 16, 38]
abbrev dktX6_both_0 : List UInt8 := dkwX6_both_0 ++ dktX6_both_1
theorem dksX6_both_0 : cX6_both.data.toList.drop 0 = dktX6_both_0 := by decide +kernel
theorem dksX6_both_1 : cX6_both.data.toList.drop 22 = dktX6_both_1 := dk_seg dksX6_both_0 22 rfl rfl
theorem dksX6_both_2 : cX6_both.data.toList.drop 45 = dktX6_both_2 := dk_seg dksX6_both_1 23 rfl rfl
theorem dX6_both_0 : decode cX6_both 0 = .ok (.aload_n 0, 1) := dk_42 (dk_at dksX6_both_0 0 rfl rfl)
theorem dX6_both_1 : decode cX6_both 1 = .ok (.invokevirtual 146, 3) := dk_182 0 146 (dk_at dksX6_both_0 1 rfl rfl)
theorem dX6_both_4 : decode cX6_both 4 = .ok (.istore_n 1, 1) := dk_60 (dk_at dksX6_both_0 4 rfl rfl)
theorem dX6_both_5 : decode cX6_both 5 = .ok (.aload_n 0, 1) := dk_42 (dk_at dksX6_both_0 5 rfl rfl)
theorem dX6_both_6 : decode cX6_both 6 = .ok (.getfield 99, 3) := dk_180 0 99 (dk_at dksX6_both_0 6 rfl rfl)
theorem dX6_both_9 : decode cX6_both 9 = .ok (.ifCond .eq 48, 3) := dk_153 0 48 (dk_at dksX6_both_0 9 rfl rfl)
theorem dX6_both_12 : decode cX6_both 12 = .ok (.aload_n 0, 1) := dk_42 (dk_at dksX6_both_0 12 rfl rfl)
theorem dX6_both_13 : decode cX6_both 13 = .ok (.aload_n 0, 1) := dk_42 (dk_at dksX6_both_0 13 rfl rfl)
theorem dX6_both_14 : decode cX6_both 14 = .ok (.getfield 103, 3) := dk_180 0 103 (dk_at dksX6_both_0 14 rfl rfl)
theorem dX6_both_17 : decode cX6_both 17 = .ok (.invokevirtual 106, 3) := dk_182 0 106 (dk_at dksX6_both_0 17 rfl rfl)
theorem dX6_both_20 : decode cX6_both 20 = .ok (.bipush 38, 2) := dk_16 38 (dk_at dksX6_both_0 20 rfl rfl)
theorem dX6_both_22 : decode cX6_both 22 = .ok (.if_icmp .ne 35, 3) := dk_160 0 35 (dk_at dksX6_both_1 0 rfl rfl)
theorem dX6_both_25 : decode cX6_both 25 = .ok (.aload_n 0, 1) := dk_42 (dk_at dksX6_both_1 3 rfl rfl)
theorem dX6_both_26 : decode cX6_both 26 = .ok (.dup, 1) := dk_89 (dk_at dksX6_both_1 4 rfl rfl)
theorem dX6_both_27 : decode cX6_both 27 = .ok (.getfield 103, 3) := dk_180 0 103 (dk_at dksX6_both_1 5 rfl rfl)
theorem dX6_both_30 : decode cX6_both 30 = .ok (.iconst 1, 1) := dk_4 (dk_at dksX6_both_1 8 rfl rfl)
theorem dX6_both_31 : decode cX6_both 31 = .ok (.iadd, 1) := dk_96 (dk_at dksX6_both_1 9 rfl rfl)
theorem dX6_both_32 : decode cX6_both 32 = .ok (.putfield 103, 3) := dk_181 0 103 (dk_at dksX6_both_1 10 rfl rfl)
theorem dX6_both_35 : decode cX6_both 35 = .ok (.aload_n 0, 1) := dk_42 (dk_at dksX6_both_1 13 rfl rfl)
theorem dX6_both_36 : decode cX6_both 36 = .ok (.invokevirtual 146, 3) := dk_182 0 146 (dk_at dksX6_both_1 14 rfl rfl)
theorem dX6_both_39 : decode cX6_both 39 = .ok (.istore_n 2, 1) := dk_61 (dk_at dksX6_both_1 17 rfl rfl)
theorem dX6_both_40 : decode cX6_both 40 = .ok (.iload_n 1, 1) := dk_27 (dk_at dksX6_both_1 18 rfl rfl)
theorem dX6_both_41 : decode cX6_both 41 = .ok (.ifCond .eq 11, 3) := dk_153 0 11 (dk_at dksX6_both_1 19 rfl rfl)
theorem dX6_both_44 : decode cX6_both 44 = .ok (.iload_n 2, 1) := dk_28 (dk_at dksX6_both_1 22 rfl rfl)
theorem dX6_both_45 : decode cX6_both 45 = .ok (.ifCond .eq 7, 3) := dk_153 0 7 (dk_at dksX6_both_2 0 rfl rfl)
theorem dX6_both_48 : decode cX6_both 48 = .ok (.iconst 1, 1) := dk_4 (dk_at dksX6_both_2 3 rfl rfl)
theorem dX6_both_49 : decode cX6_both 49 = .ok (.goto 4, 3) := dk_167 0 4 (dk_at dksX6_both_2 4 rfl rfl)
theorem dX6_both_52 : decode cX6_both 52 = .ok (.iconst 0, 1) := dk_3 (dk_at dksX6_both_2 7 rfl rfl)
theorem dX6_both_53 : decode cX6_both 53 = .ok (.istore_n 1, 1) := dk_60 (dk_at dksX6_both_2 8 rfl rfl)
theorem dX6_both_54 : decode cX6_both 54 = .ok (.goto (-49), 3) := dk_167 255 207 (dk_at dksX6_both_2 9 rfl rfl)
theorem dX6_both_57 : decode cX6_both 57 = .ok (.iload_n 1, 1) := dk_27 (dk_at dksX6_both_2 12 rfl rfl)
theorem dX6_both_58 : decode cX6_both 58 = .ok (.ireturn, 1) := dk_172 (dk_at dksX6_both_2 13 rfl rfl)
abbrev cX6_compared : ByteArray := prog_30_method_29_code
def yX6_compared : MethodName := ⟨RX6, "compared", "()I"⟩
def dkwX6_compared_5 : List UInt8 := [3, 172]
abbrev dktX6_compared_5 : List UInt8 := dkwX6_compared_5 ++ []
def dkwX6_compared_4 : List UInt8 := [167, 0, 13, 27, 29, 164, 0, 7, 4, 167, 0, 4, 3, 54, 4, 21, 4, 153, 0, 7, 4, 167, 0, 4]
abbrev dktX6_compared_4 : List UInt8 := dkwX6_compared_4 ++ dktX6_compared_5
def dkwX6_compared_3 : List UInt8 := [4, 167, 0, 36, 3, 167, 0, 32, 28, 16, 61, 160, 0, 16, 27, 29, 160, 0, 7, 4, 167, 0, 17, 3]
abbrev dktX6_compared_3 : List UInt8 := dkwX6_compared_3 ++ dktX6_compared_4
def dkwX6_compared_2 : List UInt8 := [180, 0, 103, 4, 96, 181, 0, 103, 42, 182, 0, 143, 62, 28, 16, 60, 160, 0, 16, 27, 29, 162, 0, 7]
abbrev dktX6_compared_2 : List UInt8 := dkwX6_compared_2 ++ dktX6_compared_3
def dkwX6_compared_1 : List UInt8 := [61, 28, 16, 60, 159, 0, 17, 28, 16, 61, 159, 0, 11, 28, 16, 62, 159, 0, 5, 27, 172, 42, 89]
abbrev dktX6_compared_1 : List UInt8 := dkwX6_compared_1 ++ dktX6_compared_2
def dkwX6_compared_0 : List UInt8 := [42, 182, 0, 143, 60, 42, 180, 0, 99, 153, 0, 14, 42, 42, 180, 0, 103, 182, 0, 106, 167, 0, 4, 2]
abbrev dktX6_compared_0 : List UInt8 := dkwX6_compared_0 ++ dktX6_compared_1
theorem dksX6_compared_0 : cX6_compared.data.toList.drop 0 = dktX6_compared_0 := by decide +kernel
theorem dksX6_compared_1 : cX6_compared.data.toList.drop 24 = dktX6_compared_1 := dk_seg dksX6_compared_0 24 rfl rfl
theorem dksX6_compared_2 : cX6_compared.data.toList.drop 47 = dktX6_compared_2 := dk_seg dksX6_compared_1 23 rfl rfl
theorem dksX6_compared_3 : cX6_compared.data.toList.drop 71 = dktX6_compared_3 := dk_seg dksX6_compared_2 24 rfl rfl
theorem dksX6_compared_4 : cX6_compared.data.toList.drop 95 = dktX6_compared_4 := dk_seg dksX6_compared_3 24 rfl rfl
theorem dksX6_compared_5 : cX6_compared.data.toList.drop 119 = dktX6_compared_5 := dk_seg dksX6_compared_4 24 rfl rfl
theorem dX6_compared_0 : decode cX6_compared 0 = .ok (.aload_n 0, 1) := dk_42 (dk_at dksX6_compared_0 0 rfl rfl)
theorem dX6_compared_1 : decode cX6_compared 1 = .ok (.invokevirtual 143, 3) := dk_182 0 143 (dk_at dksX6_compared_0 1 rfl rfl)
theorem dX6_compared_4 : decode cX6_compared 4 = .ok (.istore_n 1, 1) := dk_60 (dk_at dksX6_compared_0 4 rfl rfl)
theorem dX6_compared_5 : decode cX6_compared 5 = .ok (.aload_n 0, 1) := dk_42 (dk_at dksX6_compared_0 5 rfl rfl)
theorem dX6_compared_6 : decode cX6_compared 6 = .ok (.getfield 99, 3) := dk_180 0 99 (dk_at dksX6_compared_0 6 rfl rfl)
theorem dX6_compared_9 : decode cX6_compared 9 = .ok (.ifCond .eq 14, 3) := dk_153 0 14 (dk_at dksX6_compared_0 9 rfl rfl)
theorem dX6_compared_12 : decode cX6_compared 12 = .ok (.aload_n 0, 1) := dk_42 (dk_at dksX6_compared_0 12 rfl rfl)
theorem dX6_compared_13 : decode cX6_compared 13 = .ok (.aload_n 0, 1) := dk_42 (dk_at dksX6_compared_0 13 rfl rfl)
theorem dX6_compared_14 : decode cX6_compared 14 = .ok (.getfield 103, 3) := dk_180 0 103 (dk_at dksX6_compared_0 14 rfl rfl)
theorem dX6_compared_17 : decode cX6_compared 17 = .ok (.invokevirtual 106, 3) := dk_182 0 106 (dk_at dksX6_compared_0 17 rfl rfl)
theorem dX6_compared_20 : decode cX6_compared 20 = .ok (.goto 4, 3) := dk_167 0 4 (dk_at dksX6_compared_0 20 rfl rfl)
theorem dX6_compared_23 : decode cX6_compared 23 = .ok (.iconst (-1), 1) := dk_2 (dk_at dksX6_compared_0 23 rfl rfl)
theorem dX6_compared_24 : decode cX6_compared 24 = .ok (.istore_n 2, 1) := dk_61 (dk_at dksX6_compared_1 0 rfl rfl)
theorem dX6_compared_25 : decode cX6_compared 25 = .ok (.iload_n 2, 1) := dk_28 (dk_at dksX6_compared_1 1 rfl rfl)
theorem dX6_compared_26 : decode cX6_compared 26 = .ok (.bipush 60, 2) := dk_16 60 (dk_at dksX6_compared_1 2 rfl rfl)
theorem dX6_compared_28 : decode cX6_compared 28 = .ok (.if_icmp .eq 17, 3) := dk_159 0 17 (dk_at dksX6_compared_1 4 rfl rfl)
theorem dX6_compared_31 : decode cX6_compared 31 = .ok (.iload_n 2, 1) := dk_28 (dk_at dksX6_compared_1 7 rfl rfl)
theorem dX6_compared_32 : decode cX6_compared 32 = .ok (.bipush 61, 2) := dk_16 61 (dk_at dksX6_compared_1 8 rfl rfl)
theorem dX6_compared_34 : decode cX6_compared 34 = .ok (.if_icmp .eq 11, 3) := dk_159 0 11 (dk_at dksX6_compared_1 10 rfl rfl)
theorem dX6_compared_37 : decode cX6_compared 37 = .ok (.iload_n 2, 1) := dk_28 (dk_at dksX6_compared_1 13 rfl rfl)
theorem dX6_compared_38 : decode cX6_compared 38 = .ok (.bipush 62, 2) := dk_16 62 (dk_at dksX6_compared_1 14 rfl rfl)
theorem dX6_compared_40 : decode cX6_compared 40 = .ok (.if_icmp .eq 5, 3) := dk_159 0 5 (dk_at dksX6_compared_1 16 rfl rfl)
theorem dX6_compared_43 : decode cX6_compared 43 = .ok (.iload_n 1, 1) := dk_27 (dk_at dksX6_compared_1 19 rfl rfl)
theorem dX6_compared_44 : decode cX6_compared 44 = .ok (.ireturn, 1) := dk_172 (dk_at dksX6_compared_1 20 rfl rfl)
theorem dX6_compared_45 : decode cX6_compared 45 = .ok (.aload_n 0, 1) := dk_42 (dk_at dksX6_compared_1 21 rfl rfl)
theorem dX6_compared_46 : decode cX6_compared 46 = .ok (.dup, 1) := dk_89 (dk_at dksX6_compared_1 22 rfl rfl)
theorem dX6_compared_47 : decode cX6_compared 47 = .ok (.getfield 103, 3) := dk_180 0 103 (dk_at dksX6_compared_2 0 rfl rfl)
theorem dX6_compared_50 : decode cX6_compared 50 = .ok (.iconst 1, 1) := dk_4 (dk_at dksX6_compared_2 3 rfl rfl)
theorem dX6_compared_51 : decode cX6_compared 51 = .ok (.iadd, 1) := dk_96 (dk_at dksX6_compared_2 4 rfl rfl)
theorem dX6_compared_52 : decode cX6_compared 52 = .ok (.putfield 103, 3) := dk_181 0 103 (dk_at dksX6_compared_2 5 rfl rfl)
theorem dX6_compared_55 : decode cX6_compared 55 = .ok (.aload_n 0, 1) := dk_42 (dk_at dksX6_compared_2 8 rfl rfl)
theorem dX6_compared_56 : decode cX6_compared 56 = .ok (.invokevirtual 143, 3) := dk_182 0 143 (dk_at dksX6_compared_2 9 rfl rfl)
theorem dX6_compared_59 : decode cX6_compared 59 = .ok (.istore_n 3, 1) := dk_62 (dk_at dksX6_compared_2 12 rfl rfl)
theorem dX6_compared_60 : decode cX6_compared 60 = .ok (.iload_n 2, 1) := dk_28 (dk_at dksX6_compared_2 13 rfl rfl)
theorem dX6_compared_61 : decode cX6_compared 61 = .ok (.bipush 60, 2) := dk_16 60 (dk_at dksX6_compared_2 14 rfl rfl)
theorem dX6_compared_63 : decode cX6_compared 63 = .ok (.if_icmp .ne 16, 3) := dk_160 0 16 (dk_at dksX6_compared_2 16 rfl rfl)
theorem dX6_compared_66 : decode cX6_compared 66 = .ok (.iload_n 1, 1) := dk_27 (dk_at dksX6_compared_2 19 rfl rfl)
theorem dX6_compared_67 : decode cX6_compared 67 = .ok (.iload_n 3, 1) := dk_29 (dk_at dksX6_compared_2 20 rfl rfl)
theorem dX6_compared_68 : decode cX6_compared 68 = .ok (.if_icmp .ge 7, 3) := dk_162 0 7 (dk_at dksX6_compared_2 21 rfl rfl)
theorem dX6_compared_71 : decode cX6_compared 71 = .ok (.iconst 1, 1) := dk_4 (dk_at dksX6_compared_3 0 rfl rfl)
theorem dX6_compared_72 : decode cX6_compared 72 = .ok (.goto 36, 3) := dk_167 0 36 (dk_at dksX6_compared_3 1 rfl rfl)
theorem dX6_compared_75 : decode cX6_compared 75 = .ok (.iconst 0, 1) := dk_3 (dk_at dksX6_compared_3 4 rfl rfl)
theorem dX6_compared_76 : decode cX6_compared 76 = .ok (.goto 32, 3) := dk_167 0 32 (dk_at dksX6_compared_3 5 rfl rfl)
theorem dX6_compared_79 : decode cX6_compared 79 = .ok (.iload_n 2, 1) := dk_28 (dk_at dksX6_compared_3 8 rfl rfl)
theorem dX6_compared_80 : decode cX6_compared 80 = .ok (.bipush 61, 2) := dk_16 61 (dk_at dksX6_compared_3 9 rfl rfl)
theorem dX6_compared_82 : decode cX6_compared 82 = .ok (.if_icmp .ne 16, 3) := dk_160 0 16 (dk_at dksX6_compared_3 11 rfl rfl)
theorem dX6_compared_85 : decode cX6_compared 85 = .ok (.iload_n 1, 1) := dk_27 (dk_at dksX6_compared_3 14 rfl rfl)
theorem dX6_compared_86 : decode cX6_compared 86 = .ok (.iload_n 3, 1) := dk_29 (dk_at dksX6_compared_3 15 rfl rfl)
theorem dX6_compared_87 : decode cX6_compared 87 = .ok (.if_icmp .ne 7, 3) := dk_160 0 7 (dk_at dksX6_compared_3 16 rfl rfl)
theorem dX6_compared_90 : decode cX6_compared 90 = .ok (.iconst 1, 1) := dk_4 (dk_at dksX6_compared_3 19 rfl rfl)
theorem dX6_compared_91 : decode cX6_compared 91 = .ok (.goto 17, 3) := dk_167 0 17 (dk_at dksX6_compared_3 20 rfl rfl)
theorem dX6_compared_94 : decode cX6_compared 94 = .ok (.iconst 0, 1) := dk_3 (dk_at dksX6_compared_3 23 rfl rfl)
theorem dX6_compared_95 : decode cX6_compared 95 = .ok (.goto 13, 3) := dk_167 0 13 (dk_at dksX6_compared_4 0 rfl rfl)
theorem dX6_compared_98 : decode cX6_compared 98 = .ok (.iload_n 1, 1) := dk_27 (dk_at dksX6_compared_4 3 rfl rfl)
theorem dX6_compared_99 : decode cX6_compared 99 = .ok (.iload_n 3, 1) := dk_29 (dk_at dksX6_compared_4 4 rfl rfl)
theorem dX6_compared_100 : decode cX6_compared 100 = .ok (.if_icmp .le 7, 3) := dk_164 0 7 (dk_at dksX6_compared_4 5 rfl rfl)
theorem dX6_compared_103 : decode cX6_compared 103 = .ok (.iconst 1, 1) := dk_4 (dk_at dksX6_compared_4 8 rfl rfl)
theorem dX6_compared_104 : decode cX6_compared 104 = .ok (.goto 4, 3) := dk_167 0 4 (dk_at dksX6_compared_4 9 rfl rfl)
theorem dX6_compared_107 : decode cX6_compared 107 = .ok (.iconst 0, 1) := dk_3 (dk_at dksX6_compared_4 12 rfl rfl)
theorem dX6_compared_108 : decode cX6_compared 108 = .ok (.istore 4, 2) := dk_54 4 (dk_at dksX6_compared_4 13 rfl rfl)
theorem dX6_compared_110 : decode cX6_compared 110 = .ok (.iload 4, 2) := dk_21 4 (dk_at dksX6_compared_4 15 rfl rfl)
theorem dX6_compared_112 : decode cX6_compared 112 = .ok (.ifCond .eq 7, 3) := dk_153 0 7 (dk_at dksX6_compared_4 17 rfl rfl)
theorem dX6_compared_115 : decode cX6_compared 115 = .ok (.iconst 1, 1) := dk_4 (dk_at dksX6_compared_4 20 rfl rfl)
theorem dX6_compared_116 : decode cX6_compared 116 = .ok (.goto 4, 3) := dk_167 0 4 (dk_at dksX6_compared_4 21 rfl rfl)
theorem dX6_compared_119 : decode cX6_compared 119 = .ok (.iconst 0, 1) := dk_3 (dk_at dksX6_compared_5 0 rfl rfl)
theorem dX6_compared_120 : decode cX6_compared 120 = .ok (.ireturn, 1) := dk_172 (dk_at dksX6_compared_5 1 rfl rfl)
abbrev cX6_sum : ByteArray := prog_30_method_28_code
def yX6_sum : MethodName := ⟨RX6, "sum", "()I"⟩
def dkwX6_sum_3 : List UInt8 := [96, 167, 0, 6, 27, 29, 100, 60, 167, 255, 183, 27, 172]
abbrev dktX6_sum_3 : List UInt8 := dkwX6_sum_3 ++ []
def dkwX6_sum_2 : List UInt8 := [61, 42, 89, 180, 0, 103, 4, 96, 181, 0, 103, 42, 182, 0, 140, 62, 28, 16, 43, 160, 0, 9, 27, 29]
abbrev dktX6_sum_2 : List UInt8 := dkwX6_sum_2 ++ dktX6_sum_3
def dkwX6_sum_1 : List UInt8 := [159, 0, 16, 42, 42, 180, 0, 103, 182, 0, 106, 16, 45, 160, 0, 46, 42, 42, 180, 0, 103, 182, 0, 106]
abbrev dktX6_sum_1 : List UInt8 := dkwX6_sum_1 ++ dktX6_sum_2
def dkwX6_sum_0 : List UInt8 := [42, 182, 0, 140, 60, 42, 180, 0, 99, 153, 0, 72, 42, 42, 180, 0, 103, 182, 0, 106, 16, 43]
abbrev dktX6_sum_0 : List UInt8 := dkwX6_sum_0 ++ dktX6_sum_1
theorem dksX6_sum_0 : cX6_sum.data.toList.drop 0 = dktX6_sum_0 := by decide +kernel
theorem dksX6_sum_1 : cX6_sum.data.toList.drop 22 = dktX6_sum_1 := dk_seg dksX6_sum_0 22 rfl rfl
theorem dksX6_sum_2 : cX6_sum.data.toList.drop 46 = dktX6_sum_2 := dk_seg dksX6_sum_1 24 rfl rfl
theorem dksX6_sum_3 : cX6_sum.data.toList.drop 70 = dktX6_sum_3 := dk_seg dksX6_sum_2 24 rfl rfl
theorem dX6_sum_0 : decode cX6_sum 0 = .ok (.aload_n 0, 1) := dk_42 (dk_at dksX6_sum_0 0 rfl rfl)
theorem dX6_sum_1 : decode cX6_sum 1 = .ok (.invokevirtual 140, 3) := dk_182 0 140 (dk_at dksX6_sum_0 1 rfl rfl)
theorem dX6_sum_4 : decode cX6_sum 4 = .ok (.istore_n 1, 1) := dk_60 (dk_at dksX6_sum_0 4 rfl rfl)
theorem dX6_sum_5 : decode cX6_sum 5 = .ok (.aload_n 0, 1) := dk_42 (dk_at dksX6_sum_0 5 rfl rfl)
theorem dX6_sum_6 : decode cX6_sum 6 = .ok (.getfield 99, 3) := dk_180 0 99 (dk_at dksX6_sum_0 6 rfl rfl)
theorem dX6_sum_9 : decode cX6_sum 9 = .ok (.ifCond .eq 72, 3) := dk_153 0 72 (dk_at dksX6_sum_0 9 rfl rfl)
theorem dX6_sum_12 : decode cX6_sum 12 = .ok (.aload_n 0, 1) := dk_42 (dk_at dksX6_sum_0 12 rfl rfl)
theorem dX6_sum_13 : decode cX6_sum 13 = .ok (.aload_n 0, 1) := dk_42 (dk_at dksX6_sum_0 13 rfl rfl)
theorem dX6_sum_14 : decode cX6_sum 14 = .ok (.getfield 103, 3) := dk_180 0 103 (dk_at dksX6_sum_0 14 rfl rfl)
theorem dX6_sum_17 : decode cX6_sum 17 = .ok (.invokevirtual 106, 3) := dk_182 0 106 (dk_at dksX6_sum_0 17 rfl rfl)
theorem dX6_sum_20 : decode cX6_sum 20 = .ok (.bipush 43, 2) := dk_16 43 (dk_at dksX6_sum_0 20 rfl rfl)
theorem dX6_sum_22 : decode cX6_sum 22 = .ok (.if_icmp .eq 16, 3) := dk_159 0 16 (dk_at dksX6_sum_1 0 rfl rfl)
theorem dX6_sum_25 : decode cX6_sum 25 = .ok (.aload_n 0, 1) := dk_42 (dk_at dksX6_sum_1 3 rfl rfl)
theorem dX6_sum_26 : decode cX6_sum 26 = .ok (.aload_n 0, 1) := dk_42 (dk_at dksX6_sum_1 4 rfl rfl)
theorem dX6_sum_27 : decode cX6_sum 27 = .ok (.getfield 103, 3) := dk_180 0 103 (dk_at dksX6_sum_1 5 rfl rfl)
theorem dX6_sum_30 : decode cX6_sum 30 = .ok (.invokevirtual 106, 3) := dk_182 0 106 (dk_at dksX6_sum_1 8 rfl rfl)
theorem dX6_sum_33 : decode cX6_sum 33 = .ok (.bipush 45, 2) := dk_16 45 (dk_at dksX6_sum_1 11 rfl rfl)
theorem dX6_sum_35 : decode cX6_sum 35 = .ok (.if_icmp .ne 46, 3) := dk_160 0 46 (dk_at dksX6_sum_1 13 rfl rfl)
theorem dX6_sum_38 : decode cX6_sum 38 = .ok (.aload_n 0, 1) := dk_42 (dk_at dksX6_sum_1 16 rfl rfl)
theorem dX6_sum_39 : decode cX6_sum 39 = .ok (.aload_n 0, 1) := dk_42 (dk_at dksX6_sum_1 17 rfl rfl)
theorem dX6_sum_40 : decode cX6_sum 40 = .ok (.getfield 103, 3) := dk_180 0 103 (dk_at dksX6_sum_1 18 rfl rfl)
theorem dX6_sum_43 : decode cX6_sum 43 = .ok (.invokevirtual 106, 3) := dk_182 0 106 (dk_at dksX6_sum_1 21 rfl rfl)
theorem dX6_sum_46 : decode cX6_sum 46 = .ok (.istore_n 2, 1) := dk_61 (dk_at dksX6_sum_2 0 rfl rfl)
theorem dX6_sum_47 : decode cX6_sum 47 = .ok (.aload_n 0, 1) := dk_42 (dk_at dksX6_sum_2 1 rfl rfl)
theorem dX6_sum_48 : decode cX6_sum 48 = .ok (.dup, 1) := dk_89 (dk_at dksX6_sum_2 2 rfl rfl)
theorem dX6_sum_49 : decode cX6_sum 49 = .ok (.getfield 103, 3) := dk_180 0 103 (dk_at dksX6_sum_2 3 rfl rfl)
theorem dX6_sum_52 : decode cX6_sum 52 = .ok (.iconst 1, 1) := dk_4 (dk_at dksX6_sum_2 6 rfl rfl)
theorem dX6_sum_53 : decode cX6_sum 53 = .ok (.iadd, 1) := dk_96 (dk_at dksX6_sum_2 7 rfl rfl)
theorem dX6_sum_54 : decode cX6_sum 54 = .ok (.putfield 103, 3) := dk_181 0 103 (dk_at dksX6_sum_2 8 rfl rfl)
theorem dX6_sum_57 : decode cX6_sum 57 = .ok (.aload_n 0, 1) := dk_42 (dk_at dksX6_sum_2 11 rfl rfl)
theorem dX6_sum_58 : decode cX6_sum 58 = .ok (.invokevirtual 140, 3) := dk_182 0 140 (dk_at dksX6_sum_2 12 rfl rfl)
theorem dX6_sum_61 : decode cX6_sum 61 = .ok (.istore_n 3, 1) := dk_62 (dk_at dksX6_sum_2 15 rfl rfl)
theorem dX6_sum_62 : decode cX6_sum 62 = .ok (.iload_n 2, 1) := dk_28 (dk_at dksX6_sum_2 16 rfl rfl)
theorem dX6_sum_63 : decode cX6_sum 63 = .ok (.bipush 43, 2) := dk_16 43 (dk_at dksX6_sum_2 17 rfl rfl)
theorem dX6_sum_65 : decode cX6_sum 65 = .ok (.if_icmp .ne 9, 3) := dk_160 0 9 (dk_at dksX6_sum_2 19 rfl rfl)
theorem dX6_sum_68 : decode cX6_sum 68 = .ok (.iload_n 1, 1) := dk_27 (dk_at dksX6_sum_2 22 rfl rfl)
theorem dX6_sum_69 : decode cX6_sum 69 = .ok (.iload_n 3, 1) := dk_29 (dk_at dksX6_sum_2 23 rfl rfl)
theorem dX6_sum_70 : decode cX6_sum 70 = .ok (.iadd, 1) := dk_96 (dk_at dksX6_sum_3 0 rfl rfl)
theorem dX6_sum_71 : decode cX6_sum 71 = .ok (.goto 6, 3) := dk_167 0 6 (dk_at dksX6_sum_3 1 rfl rfl)
theorem dX6_sum_74 : decode cX6_sum 74 = .ok (.iload_n 1, 1) := dk_27 (dk_at dksX6_sum_3 4 rfl rfl)
theorem dX6_sum_75 : decode cX6_sum 75 = .ok (.iload_n 3, 1) := dk_29 (dk_at dksX6_sum_3 5 rfl rfl)
theorem dX6_sum_76 : decode cX6_sum 76 = .ok (.isub, 1) := dk_100 (dk_at dksX6_sum_3 6 rfl rfl)
theorem dX6_sum_77 : decode cX6_sum 77 = .ok (.istore_n 1, 1) := dk_60 (dk_at dksX6_sum_3 7 rfl rfl)
theorem dX6_sum_78 : decode cX6_sum 78 = .ok (.goto (-73), 3) := dk_167 255 183 (dk_at dksX6_sum_3 8 rfl rfl)
theorem dX6_sum_81 : decode cX6_sum 81 = .ok (.iload_n 1, 1) := dk_27 (dk_at dksX6_sum_3 11 rfl rfl)
theorem dX6_sum_82 : decode cX6_sum 82 = .ok (.ireturn, 1) := dk_172 (dk_at dksX6_sum_3 12 rfl rfl)
abbrev cX6_product : ByteArray := prog_30_method_27_code
def yX6_product : MethodName := ⟨RX6, "product", "()I"⟩
def dkwX6_product_4 : List UInt8 := [167, 0, 18, 28, 16, 47, 160, 0, 9, 27, 29, 108, 167, 0, 6, 27, 29, 112, 60, 167, 255, 150, 27, 172]
abbrev dktX6_product_4 : List UInt8 := dkwX6_product_4 ++ []
def dkwX6_product_3 : List UInt8 := [42, 182, 0, 134, 62, 28, 16, 42, 160, 0, 9, 27, 29, 104, 167, 0, 26, 29, 154, 0, 7, 3]
abbrev dktX6_product_3 : List UInt8 := dkwX6_product_3 ++ dktX6_product_4
def dkwX6_product_2 : List UInt8 := [16, 37, 160, 0, 66, 42, 42, 180, 0, 103, 182, 0, 106, 61, 42, 89, 180, 0, 103, 4, 96, 181, 0, 103]
abbrev dktX6_product_2 : List UInt8 := dkwX6_product_2 ++ dktX6_product_3
def dkwX6_product_1 : List UInt8 := [159, 0, 29, 42, 42, 180, 0, 103, 182, 0, 106, 16, 47, 159, 0, 16, 42, 42, 180, 0, 103, 182, 0, 106]
abbrev dktX6_product_1 : List UInt8 := dkwX6_product_1 ++ dktX6_product_2
def dkwX6_product_0 : List UInt8 := [42, 182, 0, 134, 60, 42, 180, 0, 99, 153, 0, 105, 42, 42, 180, 0, 103, 182, 0, 106, 16, 42]
abbrev dktX6_product_0 : List UInt8 := dkwX6_product_0 ++ dktX6_product_1
theorem dksX6_product_0 : cX6_product.data.toList.drop 0 = dktX6_product_0 := by decide +kernel
theorem dksX6_product_1 : cX6_product.data.toList.drop 22 = dktX6_product_1 := dk_seg dksX6_product_0 22 rfl rfl
theorem dksX6_product_2 : cX6_product.data.toList.drop 46 = dktX6_product_2 := dk_seg dksX6_product_1 24 rfl rfl
theorem dksX6_product_3 : cX6_product.data.toList.drop 70 = dktX6_product_3 := dk_seg dksX6_product_2 24 rfl rfl
theorem dksX6_product_4 : cX6_product.data.toList.drop 92 = dktX6_product_4 := dk_seg dksX6_product_3 22 rfl rfl
theorem dX6_product_0 : decode cX6_product 0 = .ok (.aload_n 0, 1) := dk_42 (dk_at dksX6_product_0 0 rfl rfl)
theorem dX6_product_1 : decode cX6_product 1 = .ok (.invokevirtual 134, 3) := dk_182 0 134 (dk_at dksX6_product_0 1 rfl rfl)
theorem dX6_product_4 : decode cX6_product 4 = .ok (.istore_n 1, 1) := dk_60 (dk_at dksX6_product_0 4 rfl rfl)
theorem dX6_product_5 : decode cX6_product 5 = .ok (.aload_n 0, 1) := dk_42 (dk_at dksX6_product_0 5 rfl rfl)
theorem dX6_product_6 : decode cX6_product 6 = .ok (.getfield 99, 3) := dk_180 0 99 (dk_at dksX6_product_0 6 rfl rfl)
theorem dX6_product_9 : decode cX6_product 9 = .ok (.ifCond .eq 105, 3) := dk_153 0 105 (dk_at dksX6_product_0 9 rfl rfl)
theorem dX6_product_12 : decode cX6_product 12 = .ok (.aload_n 0, 1) := dk_42 (dk_at dksX6_product_0 12 rfl rfl)
theorem dX6_product_13 : decode cX6_product 13 = .ok (.aload_n 0, 1) := dk_42 (dk_at dksX6_product_0 13 rfl rfl)
theorem dX6_product_14 : decode cX6_product 14 = .ok (.getfield 103, 3) := dk_180 0 103 (dk_at dksX6_product_0 14 rfl rfl)
theorem dX6_product_17 : decode cX6_product 17 = .ok (.invokevirtual 106, 3) := dk_182 0 106 (dk_at dksX6_product_0 17 rfl rfl)
theorem dX6_product_20 : decode cX6_product 20 = .ok (.bipush 42, 2) := dk_16 42 (dk_at dksX6_product_0 20 rfl rfl)
theorem dX6_product_22 : decode cX6_product 22 = .ok (.if_icmp .eq 29, 3) := dk_159 0 29 (dk_at dksX6_product_1 0 rfl rfl)
theorem dX6_product_25 : decode cX6_product 25 = .ok (.aload_n 0, 1) := dk_42 (dk_at dksX6_product_1 3 rfl rfl)
theorem dX6_product_26 : decode cX6_product 26 = .ok (.aload_n 0, 1) := dk_42 (dk_at dksX6_product_1 4 rfl rfl)
theorem dX6_product_27 : decode cX6_product 27 = .ok (.getfield 103, 3) := dk_180 0 103 (dk_at dksX6_product_1 5 rfl rfl)
theorem dX6_product_30 : decode cX6_product 30 = .ok (.invokevirtual 106, 3) := dk_182 0 106 (dk_at dksX6_product_1 8 rfl rfl)
theorem dX6_product_33 : decode cX6_product 33 = .ok (.bipush 47, 2) := dk_16 47 (dk_at dksX6_product_1 11 rfl rfl)
theorem dX6_product_35 : decode cX6_product 35 = .ok (.if_icmp .eq 16, 3) := dk_159 0 16 (dk_at dksX6_product_1 13 rfl rfl)
theorem dX6_product_38 : decode cX6_product 38 = .ok (.aload_n 0, 1) := dk_42 (dk_at dksX6_product_1 16 rfl rfl)
theorem dX6_product_39 : decode cX6_product 39 = .ok (.aload_n 0, 1) := dk_42 (dk_at dksX6_product_1 17 rfl rfl)
theorem dX6_product_40 : decode cX6_product 40 = .ok (.getfield 103, 3) := dk_180 0 103 (dk_at dksX6_product_1 18 rfl rfl)
theorem dX6_product_43 : decode cX6_product 43 = .ok (.invokevirtual 106, 3) := dk_182 0 106 (dk_at dksX6_product_1 21 rfl rfl)
theorem dX6_product_46 : decode cX6_product 46 = .ok (.bipush 37, 2) := dk_16 37 (dk_at dksX6_product_2 0 rfl rfl)
theorem dX6_product_48 : decode cX6_product 48 = .ok (.if_icmp .ne 66, 3) := dk_160 0 66 (dk_at dksX6_product_2 2 rfl rfl)
theorem dX6_product_51 : decode cX6_product 51 = .ok (.aload_n 0, 1) := dk_42 (dk_at dksX6_product_2 5 rfl rfl)
theorem dX6_product_52 : decode cX6_product 52 = .ok (.aload_n 0, 1) := dk_42 (dk_at dksX6_product_2 6 rfl rfl)
theorem dX6_product_53 : decode cX6_product 53 = .ok (.getfield 103, 3) := dk_180 0 103 (dk_at dksX6_product_2 7 rfl rfl)
theorem dX6_product_56 : decode cX6_product 56 = .ok (.invokevirtual 106, 3) := dk_182 0 106 (dk_at dksX6_product_2 10 rfl rfl)
theorem dX6_product_59 : decode cX6_product 59 = .ok (.istore_n 2, 1) := dk_61 (dk_at dksX6_product_2 13 rfl rfl)
theorem dX6_product_60 : decode cX6_product 60 = .ok (.aload_n 0, 1) := dk_42 (dk_at dksX6_product_2 14 rfl rfl)
theorem dX6_product_61 : decode cX6_product 61 = .ok (.dup, 1) := dk_89 (dk_at dksX6_product_2 15 rfl rfl)
theorem dX6_product_62 : decode cX6_product 62 = .ok (.getfield 103, 3) := dk_180 0 103 (dk_at dksX6_product_2 16 rfl rfl)
theorem dX6_product_65 : decode cX6_product 65 = .ok (.iconst 1, 1) := dk_4 (dk_at dksX6_product_2 19 rfl rfl)
theorem dX6_product_66 : decode cX6_product 66 = .ok (.iadd, 1) := dk_96 (dk_at dksX6_product_2 20 rfl rfl)
theorem dX6_product_67 : decode cX6_product 67 = .ok (.putfield 103, 3) := dk_181 0 103 (dk_at dksX6_product_2 21 rfl rfl)
theorem dX6_product_70 : decode cX6_product 70 = .ok (.aload_n 0, 1) := dk_42 (dk_at dksX6_product_3 0 rfl rfl)
theorem dX6_product_71 : decode cX6_product 71 = .ok (.invokevirtual 134, 3) := dk_182 0 134 (dk_at dksX6_product_3 1 rfl rfl)
theorem dX6_product_74 : decode cX6_product 74 = .ok (.istore_n 3, 1) := dk_62 (dk_at dksX6_product_3 4 rfl rfl)
theorem dX6_product_75 : decode cX6_product 75 = .ok (.iload_n 2, 1) := dk_28 (dk_at dksX6_product_3 5 rfl rfl)
theorem dX6_product_76 : decode cX6_product 76 = .ok (.bipush 42, 2) := dk_16 42 (dk_at dksX6_product_3 6 rfl rfl)
theorem dX6_product_78 : decode cX6_product 78 = .ok (.if_icmp .ne 9, 3) := dk_160 0 9 (dk_at dksX6_product_3 8 rfl rfl)
theorem dX6_product_81 : decode cX6_product 81 = .ok (.iload_n 1, 1) := dk_27 (dk_at dksX6_product_3 11 rfl rfl)
theorem dX6_product_82 : decode cX6_product 82 = .ok (.iload_n 3, 1) := dk_29 (dk_at dksX6_product_3 12 rfl rfl)
theorem dX6_product_83 : decode cX6_product 83 = .ok (.imul, 1) := dk_104 (dk_at dksX6_product_3 13 rfl rfl)
theorem dX6_product_84 : decode cX6_product 84 = .ok (.goto 26, 3) := dk_167 0 26 (dk_at dksX6_product_3 14 rfl rfl)
theorem dX6_product_87 : decode cX6_product 87 = .ok (.iload_n 3, 1) := dk_29 (dk_at dksX6_product_3 17 rfl rfl)
theorem dX6_product_88 : decode cX6_product 88 = .ok (.ifCond .ne 7, 3) := dk_154 0 7 (dk_at dksX6_product_3 18 rfl rfl)
theorem dX6_product_91 : decode cX6_product 91 = .ok (.iconst 0, 1) := dk_3 (dk_at dksX6_product_3 21 rfl rfl)
theorem dX6_product_92 : decode cX6_product 92 = .ok (.goto 18, 3) := dk_167 0 18 (dk_at dksX6_product_4 0 rfl rfl)
theorem dX6_product_95 : decode cX6_product 95 = .ok (.iload_n 2, 1) := dk_28 (dk_at dksX6_product_4 3 rfl rfl)
theorem dX6_product_96 : decode cX6_product 96 = .ok (.bipush 47, 2) := dk_16 47 (dk_at dksX6_product_4 4 rfl rfl)
theorem dX6_product_98 : decode cX6_product 98 = .ok (.if_icmp .ne 9, 3) := dk_160 0 9 (dk_at dksX6_product_4 6 rfl rfl)
theorem dX6_product_101 : decode cX6_product 101 = .ok (.iload_n 1, 1) := dk_27 (dk_at dksX6_product_4 9 rfl rfl)
theorem dX6_product_102 : decode cX6_product 102 = .ok (.iload_n 3, 1) := dk_29 (dk_at dksX6_product_4 10 rfl rfl)
theorem dX6_product_103 : decode cX6_product 103 = .ok (.idiv, 1) := dk_108 (dk_at dksX6_product_4 11 rfl rfl)
theorem dX6_product_104 : decode cX6_product 104 = .ok (.goto 6, 3) := dk_167 0 6 (dk_at dksX6_product_4 12 rfl rfl)
theorem dX6_product_107 : decode cX6_product 107 = .ok (.iload_n 1, 1) := dk_27 (dk_at dksX6_product_4 15 rfl rfl)
theorem dX6_product_108 : decode cX6_product 108 = .ok (.iload_n 3, 1) := dk_29 (dk_at dksX6_product_4 16 rfl rfl)
theorem dX6_product_109 : decode cX6_product 109 = .ok (.irem, 1) := dk_112 (dk_at dksX6_product_4 17 rfl rfl)
theorem dX6_product_110 : decode cX6_product 110 = .ok (.istore_n 1, 1) := dk_60 (dk_at dksX6_product_4 18 rfl rfl)
theorem dX6_product_111 : decode cX6_product 111 = .ok (.goto (-106), 3) := dk_167 255 150 (dk_at dksX6_product_4 19 rfl rfl)
theorem dX6_product_114 : decode cX6_product 114 = .ok (.iload_n 1, 1) := dk_27 (dk_at dksX6_product_4 22 rfl rfl)
theorem dX6_product_115 : decode cX6_product 115 = .ok (.ireturn, 1) := dk_172 (dk_at dksX6_product_4 23 rfl rfl)
abbrev cX6_factor : ByteArray := prog_30_method_26_code
def yX6_factor : MethodName := ⟨RX6, "factor", "()I"⟩
def dkwX6_factor_6 : List UInt8 := [181, 0, 103, 28, 172, 42, 182, 0, 112, 172]
abbrev dktX6_factor_6 : List UInt8 := dkwX6_factor_6 ++ []
def dkwX6_factor_5 : List UInt8 := [153, 0, 28, 42, 42, 180, 0, 103, 182, 0, 106, 16, 41, 160, 0, 15, 42, 89, 180, 0, 103, 4, 96]
abbrev dktX6_factor_5 : List UInt8 := dkwX6_factor_5 ++ dktX6_factor_6
def dkwX6_factor_4 : List UInt8 := [100, 181, 0, 131, 27, 16, 33, 160, 0, 13, 28, 154, 0, 7, 4, 167, 0, 4, 3, 172, 42, 180, 0, 99]
abbrev dktX6_factor_4 : List UInt8 := dkwX6_factor_4 ++ dktX6_factor_5
def dkwX6_factor_3 : List UInt8 := [27, 16, 33, 160, 0, 10, 42, 182, 0, 134, 167, 0, 7, 42, 182, 0, 137, 61, 42, 89, 180, 0, 131, 4]
abbrev dktX6_factor_3 : List UInt8 := dkwX6_factor_3 ++ dktX6_factor_4
def dkwX6_factor_2 : List UInt8 := [182, 0, 112, 172, 42, 89, 180, 0, 131, 4, 96, 181, 0, 131, 42, 89, 180, 0, 103, 4, 96, 181, 0, 103]
abbrev dktX6_factor_2 : List UInt8 := dkwX6_factor_2 ++ dktX6_factor_3
def dkwX6_factor_1 : List UInt8 := [159, 0, 15, 27, 16, 40, 159, 0, 9, 42, 27, 182, 0, 128, 172, 42, 180, 0, 131, 8, 160, 0, 8, 42]
abbrev dktX6_factor_1 : List UInt8 := dkwX6_factor_1 ++ dktX6_factor_2
def dkwX6_factor_0 : List UInt8 := [42, 42, 180, 0, 103, 182, 0, 106, 60, 27, 184, 0, 109, 153, 0, 8, 42, 182, 0, 125, 172, 27, 16, 33]
abbrev dktX6_factor_0 : List UInt8 := dkwX6_factor_0 ++ dktX6_factor_1
theorem dksX6_factor_0 : cX6_factor.data.toList.drop 0 = dktX6_factor_0 := by decide +kernel
theorem dksX6_factor_1 : cX6_factor.data.toList.drop 24 = dktX6_factor_1 := dk_seg dksX6_factor_0 24 rfl rfl
theorem dksX6_factor_2 : cX6_factor.data.toList.drop 48 = dktX6_factor_2 := dk_seg dksX6_factor_1 24 rfl rfl
theorem dksX6_factor_3 : cX6_factor.data.toList.drop 72 = dktX6_factor_3 := dk_seg dksX6_factor_2 24 rfl rfl
theorem dksX6_factor_4 : cX6_factor.data.toList.drop 96 = dktX6_factor_4 := dk_seg dksX6_factor_3 24 rfl rfl
theorem dksX6_factor_5 : cX6_factor.data.toList.drop 120 = dktX6_factor_5 := dk_seg dksX6_factor_4 24 rfl rfl
theorem dksX6_factor_6 : cX6_factor.data.toList.drop 143 = dktX6_factor_6 := dk_seg dksX6_factor_5 23 rfl rfl
theorem dX6_factor_0 : decode cX6_factor 0 = .ok (.aload_n 0, 1) := dk_42 (dk_at dksX6_factor_0 0 rfl rfl)
theorem dX6_factor_1 : decode cX6_factor 1 = .ok (.aload_n 0, 1) := dk_42 (dk_at dksX6_factor_0 1 rfl rfl)
theorem dX6_factor_2 : decode cX6_factor 2 = .ok (.getfield 103, 3) := dk_180 0 103 (dk_at dksX6_factor_0 2 rfl rfl)
theorem dX6_factor_5 : decode cX6_factor 5 = .ok (.invokevirtual 106, 3) := dk_182 0 106 (dk_at dksX6_factor_0 5 rfl rfl)
theorem dX6_factor_8 : decode cX6_factor 8 = .ok (.istore_n 1, 1) := dk_60 (dk_at dksX6_factor_0 8 rfl rfl)
theorem dX6_factor_9 : decode cX6_factor 9 = .ok (.iload_n 1, 1) := dk_27 (dk_at dksX6_factor_0 9 rfl rfl)
theorem dX6_factor_10 : decode cX6_factor 10 = .ok (.invokestatic 109, 3) := dk_184 0 109 (dk_at dksX6_factor_0 10 rfl rfl)
theorem dX6_factor_13 : decode cX6_factor 13 = .ok (.ifCond .eq 8, 3) := dk_153 0 8 (dk_at dksX6_factor_0 13 rfl rfl)
theorem dX6_factor_16 : decode cX6_factor 16 = .ok (.aload_n 0, 1) := dk_42 (dk_at dksX6_factor_0 16 rfl rfl)
theorem dX6_factor_17 : decode cX6_factor 17 = .ok (.invokevirtual 125, 3) := dk_182 0 125 (dk_at dksX6_factor_0 17 rfl rfl)
theorem dX6_factor_20 : decode cX6_factor 20 = .ok (.ireturn, 1) := dk_172 (dk_at dksX6_factor_0 20 rfl rfl)
theorem dX6_factor_21 : decode cX6_factor 21 = .ok (.iload_n 1, 1) := dk_27 (dk_at dksX6_factor_0 21 rfl rfl)
theorem dX6_factor_22 : decode cX6_factor 22 = .ok (.bipush 33, 2) := dk_16 33 (dk_at dksX6_factor_0 22 rfl rfl)
theorem dX6_factor_24 : decode cX6_factor 24 = .ok (.if_icmp .eq 15, 3) := dk_159 0 15 (dk_at dksX6_factor_1 0 rfl rfl)
theorem dX6_factor_27 : decode cX6_factor 27 = .ok (.iload_n 1, 1) := dk_27 (dk_at dksX6_factor_1 3 rfl rfl)
theorem dX6_factor_28 : decode cX6_factor 28 = .ok (.bipush 40, 2) := dk_16 40 (dk_at dksX6_factor_1 4 rfl rfl)
theorem dX6_factor_30 : decode cX6_factor 30 = .ok (.if_icmp .eq 9, 3) := dk_159 0 9 (dk_at dksX6_factor_1 6 rfl rfl)
theorem dX6_factor_33 : decode cX6_factor 33 = .ok (.aload_n 0, 1) := dk_42 (dk_at dksX6_factor_1 9 rfl rfl)
theorem dX6_factor_34 : decode cX6_factor 34 = .ok (.iload_n 1, 1) := dk_27 (dk_at dksX6_factor_1 10 rfl rfl)
theorem dX6_factor_35 : decode cX6_factor 35 = .ok (.invokevirtual 128, 3) := dk_182 0 128 (dk_at dksX6_factor_1 11 rfl rfl)
theorem dX6_factor_38 : decode cX6_factor 38 = .ok (.ireturn, 1) := dk_172 (dk_at dksX6_factor_1 14 rfl rfl)
theorem dX6_factor_39 : decode cX6_factor 39 = .ok (.aload_n 0, 1) := dk_42 (dk_at dksX6_factor_1 15 rfl rfl)
theorem dX6_factor_40 : decode cX6_factor 40 = .ok (.getfield 131, 3) := dk_180 0 131 (dk_at dksX6_factor_1 16 rfl rfl)
theorem dX6_factor_43 : decode cX6_factor 43 = .ok (.iconst 5, 1) := dk_8 (dk_at dksX6_factor_1 19 rfl rfl)
theorem dX6_factor_44 : decode cX6_factor 44 = .ok (.if_icmp .ne 8, 3) := dk_160 0 8 (dk_at dksX6_factor_1 20 rfl rfl)
theorem dX6_factor_47 : decode cX6_factor 47 = .ok (.aload_n 0, 1) := dk_42 (dk_at dksX6_factor_1 23 rfl rfl)
theorem dX6_factor_48 : decode cX6_factor 48 = .ok (.invokevirtual 112, 3) := dk_182 0 112 (dk_at dksX6_factor_2 0 rfl rfl)
theorem dX6_factor_51 : decode cX6_factor 51 = .ok (.ireturn, 1) := dk_172 (dk_at dksX6_factor_2 3 rfl rfl)
theorem dX6_factor_52 : decode cX6_factor 52 = .ok (.aload_n 0, 1) := dk_42 (dk_at dksX6_factor_2 4 rfl rfl)
theorem dX6_factor_53 : decode cX6_factor 53 = .ok (.dup, 1) := dk_89 (dk_at dksX6_factor_2 5 rfl rfl)
theorem dX6_factor_54 : decode cX6_factor 54 = .ok (.getfield 131, 3) := dk_180 0 131 (dk_at dksX6_factor_2 6 rfl rfl)
theorem dX6_factor_57 : decode cX6_factor 57 = .ok (.iconst 1, 1) := dk_4 (dk_at dksX6_factor_2 9 rfl rfl)
theorem dX6_factor_58 : decode cX6_factor 58 = .ok (.iadd, 1) := dk_96 (dk_at dksX6_factor_2 10 rfl rfl)
theorem dX6_factor_59 : decode cX6_factor 59 = .ok (.putfield 131, 3) := dk_181 0 131 (dk_at dksX6_factor_2 11 rfl rfl)
theorem dX6_factor_62 : decode cX6_factor 62 = .ok (.aload_n 0, 1) := dk_42 (dk_at dksX6_factor_2 14 rfl rfl)
theorem dX6_factor_63 : decode cX6_factor 63 = .ok (.dup, 1) := dk_89 (dk_at dksX6_factor_2 15 rfl rfl)
theorem dX6_factor_64 : decode cX6_factor 64 = .ok (.getfield 103, 3) := dk_180 0 103 (dk_at dksX6_factor_2 16 rfl rfl)
theorem dX6_factor_67 : decode cX6_factor 67 = .ok (.iconst 1, 1) := dk_4 (dk_at dksX6_factor_2 19 rfl rfl)
theorem dX6_factor_68 : decode cX6_factor 68 = .ok (.iadd, 1) := dk_96 (dk_at dksX6_factor_2 20 rfl rfl)
theorem dX6_factor_69 : decode cX6_factor 69 = .ok (.putfield 103, 3) := dk_181 0 103 (dk_at dksX6_factor_2 21 rfl rfl)
theorem dX6_factor_72 : decode cX6_factor 72 = .ok (.iload_n 1, 1) := dk_27 (dk_at dksX6_factor_3 0 rfl rfl)
theorem dX6_factor_73 : decode cX6_factor 73 = .ok (.bipush 33, 2) := dk_16 33 (dk_at dksX6_factor_3 1 rfl rfl)
theorem dX6_factor_75 : decode cX6_factor 75 = .ok (.if_icmp .ne 10, 3) := dk_160 0 10 (dk_at dksX6_factor_3 3 rfl rfl)
theorem dX6_factor_78 : decode cX6_factor 78 = .ok (.aload_n 0, 1) := dk_42 (dk_at dksX6_factor_3 6 rfl rfl)
theorem dX6_factor_79 : decode cX6_factor 79 = .ok (.invokevirtual 134, 3) := dk_182 0 134 (dk_at dksX6_factor_3 7 rfl rfl)
theorem dX6_factor_82 : decode cX6_factor 82 = .ok (.goto 7, 3) := dk_167 0 7 (dk_at dksX6_factor_3 10 rfl rfl)
theorem dX6_factor_85 : decode cX6_factor 85 = .ok (.aload_n 0, 1) := dk_42 (dk_at dksX6_factor_3 13 rfl rfl)
theorem dX6_factor_86 : decode cX6_factor 86 = .ok (.invokevirtual 137, 3) := dk_182 0 137 (dk_at dksX6_factor_3 14 rfl rfl)
theorem dX6_factor_89 : decode cX6_factor 89 = .ok (.istore_n 2, 1) := dk_61 (dk_at dksX6_factor_3 17 rfl rfl)
theorem dX6_factor_90 : decode cX6_factor 90 = .ok (.aload_n 0, 1) := dk_42 (dk_at dksX6_factor_3 18 rfl rfl)
theorem dX6_factor_91 : decode cX6_factor 91 = .ok (.dup, 1) := dk_89 (dk_at dksX6_factor_3 19 rfl rfl)
theorem dX6_factor_92 : decode cX6_factor 92 = .ok (.getfield 131, 3) := dk_180 0 131 (dk_at dksX6_factor_3 20 rfl rfl)
theorem dX6_factor_95 : decode cX6_factor 95 = .ok (.iconst 1, 1) := dk_4 (dk_at dksX6_factor_3 23 rfl rfl)
theorem dX6_factor_96 : decode cX6_factor 96 = .ok (.isub, 1) := dk_100 (dk_at dksX6_factor_4 0 rfl rfl)
theorem dX6_factor_97 : decode cX6_factor 97 = .ok (.putfield 131, 3) := dk_181 0 131 (dk_at dksX6_factor_4 1 rfl rfl)
theorem dX6_factor_100 : decode cX6_factor 100 = .ok (.iload_n 1, 1) := dk_27 (dk_at dksX6_factor_4 4 rfl rfl)
theorem dX6_factor_101 : decode cX6_factor 101 = .ok (.bipush 33, 2) := dk_16 33 (dk_at dksX6_factor_4 5 rfl rfl)
theorem dX6_factor_103 : decode cX6_factor 103 = .ok (.if_icmp .ne 13, 3) := dk_160 0 13 (dk_at dksX6_factor_4 7 rfl rfl)
theorem dX6_factor_106 : decode cX6_factor 106 = .ok (.iload_n 2, 1) := dk_28 (dk_at dksX6_factor_4 10 rfl rfl)
theorem dX6_factor_107 : decode cX6_factor 107 = .ok (.ifCond .ne 7, 3) := dk_154 0 7 (dk_at dksX6_factor_4 11 rfl rfl)
theorem dX6_factor_110 : decode cX6_factor 110 = .ok (.iconst 1, 1) := dk_4 (dk_at dksX6_factor_4 14 rfl rfl)
theorem dX6_factor_111 : decode cX6_factor 111 = .ok (.goto 4, 3) := dk_167 0 4 (dk_at dksX6_factor_4 15 rfl rfl)
theorem dX6_factor_114 : decode cX6_factor 114 = .ok (.iconst 0, 1) := dk_3 (dk_at dksX6_factor_4 18 rfl rfl)
theorem dX6_factor_115 : decode cX6_factor 115 = .ok (.ireturn, 1) := dk_172 (dk_at dksX6_factor_4 19 rfl rfl)
theorem dX6_factor_116 : decode cX6_factor 116 = .ok (.aload_n 0, 1) := dk_42 (dk_at dksX6_factor_4 20 rfl rfl)
theorem dX6_factor_117 : decode cX6_factor 117 = .ok (.getfield 99, 3) := dk_180 0 99 (dk_at dksX6_factor_4 21 rfl rfl)
theorem dX6_factor_120 : decode cX6_factor 120 = .ok (.ifCond .eq 28, 3) := dk_153 0 28 (dk_at dksX6_factor_5 0 rfl rfl)
theorem dX6_factor_123 : decode cX6_factor 123 = .ok (.aload_n 0, 1) := dk_42 (dk_at dksX6_factor_5 3 rfl rfl)
theorem dX6_factor_124 : decode cX6_factor 124 = .ok (.aload_n 0, 1) := dk_42 (dk_at dksX6_factor_5 4 rfl rfl)
theorem dX6_factor_125 : decode cX6_factor 125 = .ok (.getfield 103, 3) := dk_180 0 103 (dk_at dksX6_factor_5 5 rfl rfl)
theorem dX6_factor_128 : decode cX6_factor 128 = .ok (.invokevirtual 106, 3) := dk_182 0 106 (dk_at dksX6_factor_5 8 rfl rfl)
theorem dX6_factor_131 : decode cX6_factor 131 = .ok (.bipush 41, 2) := dk_16 41 (dk_at dksX6_factor_5 11 rfl rfl)
theorem dX6_factor_133 : decode cX6_factor 133 = .ok (.if_icmp .ne 15, 3) := dk_160 0 15 (dk_at dksX6_factor_5 13 rfl rfl)
theorem dX6_factor_136 : decode cX6_factor 136 = .ok (.aload_n 0, 1) := dk_42 (dk_at dksX6_factor_5 16 rfl rfl)
theorem dX6_factor_137 : decode cX6_factor 137 = .ok (.dup, 1) := dk_89 (dk_at dksX6_factor_5 17 rfl rfl)
theorem dX6_factor_138 : decode cX6_factor 138 = .ok (.getfield 103, 3) := dk_180 0 103 (dk_at dksX6_factor_5 18 rfl rfl)
theorem dX6_factor_141 : decode cX6_factor 141 = .ok (.iconst 1, 1) := dk_4 (dk_at dksX6_factor_5 21 rfl rfl)
theorem dX6_factor_142 : decode cX6_factor 142 = .ok (.iadd, 1) := dk_96 (dk_at dksX6_factor_5 22 rfl rfl)
theorem dX6_factor_143 : decode cX6_factor 143 = .ok (.putfield 103, 3) := dk_181 0 103 (dk_at dksX6_factor_6 0 rfl rfl)
theorem dX6_factor_146 : decode cX6_factor 146 = .ok (.iload_n 2, 1) := dk_28 (dk_at dksX6_factor_6 3 rfl rfl)
theorem dX6_factor_147 : decode cX6_factor 147 = .ok (.ireturn, 1) := dk_172 (dk_at dksX6_factor_6 4 rfl rfl)
theorem dX6_factor_148 : decode cX6_factor 148 = .ok (.aload_n 0, 1) := dk_42 (dk_at dksX6_factor_6 5 rfl rfl)
theorem dX6_factor_149 : decode cX6_factor 149 = .ok (.invokevirtual 112, 3) := dk_182 0 112 (dk_at dksX6_factor_6 6 rfl rfl)
theorem dX6_factor_152 : decode cX6_factor 152 = .ok (.ireturn, 1) := dk_172 (dk_at dksX6_factor_6 9 rfl rfl)
abbrev cX6_byteAt : ByteArray := prog_30_method_21_code
def yX6_byteAt : MethodName := ⟨RX6, "byteAt", "(I)I"⟩
def dkwX6_byteAt_1 : List UInt8 := [96, 46, 167, 0, 4, 2, 172]
abbrev dktX6_byteAt_1 : List UInt8 := dkwX6_byteAt_1 ++ []
def dkwX6_byteAt_0 : List UInt8 := [27, 42, 180, 0, 93, 162, 0, 24, 42, 180, 0, 7, 17, 0, 181, 16, 50, 42, 180, 0, 96, 104, 96, 27]
abbrev dktX6_byteAt_0 : List UInt8 := dkwX6_byteAt_0 ++ dktX6_byteAt_1
theorem dksX6_byteAt_0 : cX6_byteAt.data.toList.drop 0 = dktX6_byteAt_0 := by decide +kernel
theorem dksX6_byteAt_1 : cX6_byteAt.data.toList.drop 24 = dktX6_byteAt_1 := dk_seg dksX6_byteAt_0 24 rfl rfl
theorem dX6_byteAt_0 : decode cX6_byteAt 0 = .ok (.iload_n 1, 1) := dk_27 (dk_at dksX6_byteAt_0 0 rfl rfl)
theorem dX6_byteAt_1 : decode cX6_byteAt 1 = .ok (.aload_n 0, 1) := dk_42 (dk_at dksX6_byteAt_0 1 rfl rfl)
theorem dX6_byteAt_2 : decode cX6_byteAt 2 = .ok (.getfield 93, 3) := dk_180 0 93 (dk_at dksX6_byteAt_0 2 rfl rfl)
theorem dX6_byteAt_5 : decode cX6_byteAt 5 = .ok (.if_icmp .ge 24, 3) := dk_162 0 24 (dk_at dksX6_byteAt_0 5 rfl rfl)
theorem dX6_byteAt_8 : decode cX6_byteAt 8 = .ok (.aload_n 0, 1) := dk_42 (dk_at dksX6_byteAt_0 8 rfl rfl)
theorem dX6_byteAt_9 : decode cX6_byteAt 9 = .ok (.getfield 7, 3) := dk_180 0 7 (dk_at dksX6_byteAt_0 9 rfl rfl)
theorem dX6_byteAt_12 : decode cX6_byteAt 12 = .ok (.sipush 181, 3) := dk_17 0 181 (dk_at dksX6_byteAt_0 12 rfl rfl)
theorem dX6_byteAt_15 : decode cX6_byteAt 15 = .ok (.bipush 50, 2) := dk_16 50 (dk_at dksX6_byteAt_0 15 rfl rfl)
theorem dX6_byteAt_17 : decode cX6_byteAt 17 = .ok (.aload_n 0, 1) := dk_42 (dk_at dksX6_byteAt_0 17 rfl rfl)
theorem dX6_byteAt_18 : decode cX6_byteAt 18 = .ok (.getfield 96, 3) := dk_180 0 96 (dk_at dksX6_byteAt_0 18 rfl rfl)
theorem dX6_byteAt_21 : decode cX6_byteAt 21 = .ok (.imul, 1) := dk_104 (dk_at dksX6_byteAt_0 21 rfl rfl)
theorem dX6_byteAt_22 : decode cX6_byteAt 22 = .ok (.iadd, 1) := dk_96 (dk_at dksX6_byteAt_0 22 rfl rfl)
theorem dX6_byteAt_23 : decode cX6_byteAt 23 = .ok (.iload_n 1, 1) := dk_27 (dk_at dksX6_byteAt_0 23 rfl rfl)
theorem dX6_byteAt_24 : decode cX6_byteAt 24 = .ok (.iadd, 1) := dk_96 (dk_at dksX6_byteAt_1 0 rfl rfl)
theorem dX6_byteAt_25 : decode cX6_byteAt 25 = .ok (.iaload, 1) := dk_46 (dk_at dksX6_byteAt_1 1 rfl rfl)
theorem dX6_byteAt_26 : decode cX6_byteAt 26 = .ok (.goto 4, 3) := dk_167 0 4 (dk_at dksX6_byteAt_1 2 rfl rfl)
theorem dX6_byteAt_29 : decode cX6_byteAt 29 = .ok (.iconst (-1), 1) := dk_2 (dk_at dksX6_byteAt_1 5 rfl rfl)
theorem dX6_byteAt_30 : decode cX6_byteAt 30 = .ok (.ireturn, 1) := dk_172 (dk_at dksX6_byteAt_1 6 rfl rfl)
abbrev cX6_isDigit : ByteArray := prog_30_method_22_code
def yX6_isDigit : MethodName := ⟨RX6, "isDigit", "(I)Z"⟩
def dkwX6_isDigit_0 : List UInt8 := [26, 16, 48, 16, 57, 184, 0, 48, 172]
abbrev dktX6_isDigit_0 : List UInt8 := dkwX6_isDigit_0 ++ []
theorem dksX6_isDigit_0 : cX6_isDigit.data.toList.drop 0 = dktX6_isDigit_0 := by decide +kernel
theorem dX6_isDigit_0 : decode cX6_isDigit 0 = .ok (.iload_n 0, 1) := dk_26 (dk_at dksX6_isDigit_0 0 rfl rfl)
theorem dX6_isDigit_1 : decode cX6_isDigit 1 = .ok (.bipush 48, 2) := dk_16 48 (dk_at dksX6_isDigit_0 1 rfl rfl)
theorem dX6_isDigit_3 : decode cX6_isDigit 3 = .ok (.bipush 57, 2) := dk_16 57 (dk_at dksX6_isDigit_0 3 rfl rfl)
theorem dX6_isDigit_5 : decode cX6_isDigit 5 = .ok (.invokestatic 48, 3) := dk_184 0 48 (dk_at dksX6_isDigit_0 5 rfl rfl)
theorem dX6_isDigit_8 : decode cX6_isDigit 8 = .ok (.ireturn, 1) := dk_172 (dk_at dksX6_isDigit_0 8 rfl rfl)
abbrev cX6_number : ByteArray := prog_30_method_24_code
def yX6_number : MethodName := ⟨RX6, "number", "()I"⟩
def dkwX6_number_2 : List UInt8 := [181, 0, 103, 132, 2, 1, 167, 255, 207, 27, 172]
abbrev dktX6_number_2 : List UInt8 := dkwX6_number_2 ++ []
def dkwX6_number_1 : List UInt8 := [16, 10, 27, 104, 42, 42, 180, 0, 103, 182, 0, 106, 96, 16, 48, 100, 60, 42, 89, 180, 0, 103, 4, 96]
abbrev dktX6_number_1 : List UInt8 := dkwX6_number_1 ++ dktX6_number_2
def dkwX6_number_0 : List UInt8 := [3, 60, 3, 61, 28, 7, 162, 0, 50, 42, 42, 180, 0, 103, 182, 0, 106, 184, 0, 109, 153, 0, 36]
abbrev dktX6_number_0 : List UInt8 := dkwX6_number_0 ++ dktX6_number_1
theorem dksX6_number_0 : cX6_number.data.toList.drop 0 = dktX6_number_0 := by decide +kernel
theorem dksX6_number_1 : cX6_number.data.toList.drop 23 = dktX6_number_1 := dk_seg dksX6_number_0 23 rfl rfl
theorem dksX6_number_2 : cX6_number.data.toList.drop 47 = dktX6_number_2 := dk_seg dksX6_number_1 24 rfl rfl
theorem dX6_number_0 : decode cX6_number 0 = .ok (.iconst 0, 1) := dk_3 (dk_at dksX6_number_0 0 rfl rfl)
theorem dX6_number_1 : decode cX6_number 1 = .ok (.istore_n 1, 1) := dk_60 (dk_at dksX6_number_0 1 rfl rfl)
theorem dX6_number_2 : decode cX6_number 2 = .ok (.iconst 0, 1) := dk_3 (dk_at dksX6_number_0 2 rfl rfl)
theorem dX6_number_3 : decode cX6_number 3 = .ok (.istore_n 2, 1) := dk_61 (dk_at dksX6_number_0 3 rfl rfl)
theorem dX6_number_4 : decode cX6_number 4 = .ok (.iload_n 2, 1) := dk_28 (dk_at dksX6_number_0 4 rfl rfl)
theorem dX6_number_5 : decode cX6_number 5 = .ok (.iconst 4, 1) := dk_7 (dk_at dksX6_number_0 5 rfl rfl)
theorem dX6_number_6 : decode cX6_number 6 = .ok (.if_icmp .ge 50, 3) := dk_162 0 50 (dk_at dksX6_number_0 6 rfl rfl)
theorem dX6_number_9 : decode cX6_number 9 = .ok (.aload_n 0, 1) := dk_42 (dk_at dksX6_number_0 9 rfl rfl)
theorem dX6_number_10 : decode cX6_number 10 = .ok (.aload_n 0, 1) := dk_42 (dk_at dksX6_number_0 10 rfl rfl)
theorem dX6_number_11 : decode cX6_number 11 = .ok (.getfield 103, 3) := dk_180 0 103 (dk_at dksX6_number_0 11 rfl rfl)
theorem dX6_number_14 : decode cX6_number 14 = .ok (.invokevirtual 106, 3) := dk_182 0 106 (dk_at dksX6_number_0 14 rfl rfl)
theorem dX6_number_17 : decode cX6_number 17 = .ok (.invokestatic 109, 3) := dk_184 0 109 (dk_at dksX6_number_0 17 rfl rfl)
theorem dX6_number_20 : decode cX6_number 20 = .ok (.ifCond .eq 36, 3) := dk_153 0 36 (dk_at dksX6_number_0 20 rfl rfl)
theorem dX6_number_23 : decode cX6_number 23 = .ok (.bipush 10, 2) := dk_16 10 (dk_at dksX6_number_1 0 rfl rfl)
theorem dX6_number_25 : decode cX6_number 25 = .ok (.iload_n 1, 1) := dk_27 (dk_at dksX6_number_1 2 rfl rfl)
theorem dX6_number_26 : decode cX6_number 26 = .ok (.imul, 1) := dk_104 (dk_at dksX6_number_1 3 rfl rfl)
theorem dX6_number_27 : decode cX6_number 27 = .ok (.aload_n 0, 1) := dk_42 (dk_at dksX6_number_1 4 rfl rfl)
theorem dX6_number_28 : decode cX6_number 28 = .ok (.aload_n 0, 1) := dk_42 (dk_at dksX6_number_1 5 rfl rfl)
theorem dX6_number_29 : decode cX6_number 29 = .ok (.getfield 103, 3) := dk_180 0 103 (dk_at dksX6_number_1 6 rfl rfl)
theorem dX6_number_32 : decode cX6_number 32 = .ok (.invokevirtual 106, 3) := dk_182 0 106 (dk_at dksX6_number_1 9 rfl rfl)
theorem dX6_number_35 : decode cX6_number 35 = .ok (.iadd, 1) := dk_96 (dk_at dksX6_number_1 12 rfl rfl)
theorem dX6_number_36 : decode cX6_number 36 = .ok (.bipush 48, 2) := dk_16 48 (dk_at dksX6_number_1 13 rfl rfl)
theorem dX6_number_38 : decode cX6_number 38 = .ok (.isub, 1) := dk_100 (dk_at dksX6_number_1 15 rfl rfl)
theorem dX6_number_39 : decode cX6_number 39 = .ok (.istore_n 1, 1) := dk_60 (dk_at dksX6_number_1 16 rfl rfl)
theorem dX6_number_40 : decode cX6_number 40 = .ok (.aload_n 0, 1) := dk_42 (dk_at dksX6_number_1 17 rfl rfl)
theorem dX6_number_41 : decode cX6_number 41 = .ok (.dup, 1) := dk_89 (dk_at dksX6_number_1 18 rfl rfl)
theorem dX6_number_42 : decode cX6_number 42 = .ok (.getfield 103, 3) := dk_180 0 103 (dk_at dksX6_number_1 19 rfl rfl)
theorem dX6_number_45 : decode cX6_number 45 = .ok (.iconst 1, 1) := dk_4 (dk_at dksX6_number_1 22 rfl rfl)
theorem dX6_number_46 : decode cX6_number 46 = .ok (.iadd, 1) := dk_96 (dk_at dksX6_number_1 23 rfl rfl)
theorem dX6_number_47 : decode cX6_number 47 = .ok (.putfield 103, 3) := dk_181 0 103 (dk_at dksX6_number_2 0 rfl rfl)
theorem dX6_number_50 : decode cX6_number 50 = .ok (.iinc 2 1, 3) := dk_132 2 1 (dk_at dksX6_number_2 3 rfl rfl)
theorem dX6_number_53 : decode cX6_number 53 = .ok (.goto (-49), 3) := dk_167 255 207 (dk_at dksX6_number_2 6 rfl rfl)
theorem dX6_number_56 : decode cX6_number 56 = .ok (.iload_n 1, 1) := dk_27 (dk_at dksX6_number_2 9 rfl rfl)
theorem dX6_number_57 : decode cX6_number 57 = .ok (.ireturn, 1) := dk_172 (dk_at dksX6_number_2 10 rfl rfl)
abbrev cX6_named : ByteArray := prog_30_method_25_code
def yX6_named : MethodName := ⟨RX6, "named", "(I)I"⟩
def dkwX6_named_5 : List UInt8 := [180, 0, 119, 167, 0, 7, 42, 180, 0, 122, 172]
abbrev dktX6_named_5 : List UInt8 := dkwX6_named_5 ++ []
def dkwX6_named_4 : List UInt8 := [180, 0, 103, 4, 96, 181, 0, 103, 28, 153, 0, 10, 42, 180, 0, 116, 167, 0, 18, 29, 153, 0, 10, 42]
abbrev dktX6_named_4 : List UInt8 := dkwX6_named_4 ++ dktX6_named_5
def dkwX6_named_3 : List UInt8 := [54, 4, 28, 154, 0, 17, 29, 154, 0, 13, 21, 4, 154, 0, 8, 42, 182, 0, 112, 172, 42, 89]
abbrev dktX6_named_3 : List UInt8 := dkwX6_named_3 ++ dktX6_named_4
def dkwX6_named_2 : List UInt8 := [27, 42, 180, 0, 96, 154, 0, 8, 16, 119, 167, 0, 5, 16, 109, 160, 0, 7, 4, 167, 0, 4, 3]
abbrev dktX6_named_2 : List UInt8 := dkwX6_named_2 ++ dktX6_named_3
def dkwX6_named_1 : List UInt8 := [27, 42, 180, 0, 96, 154, 0, 8, 16, 100, 167, 0, 5, 16, 111, 160, 0, 7, 4, 167, 0, 4, 3, 62]
abbrev dktX6_named_1 : List UInt8 := dkwX6_named_1 ++ dktX6_named_2
def dkwX6_named_0 : List UInt8 := [27, 42, 180, 0, 96, 154, 0, 8, 16, 116, 167, 0, 5, 16, 119, 160, 0, 7, 4, 167, 0, 4, 3, 61]
abbrev dktX6_named_0 : List UInt8 := dkwX6_named_0 ++ dktX6_named_1
theorem dksX6_named_0 : cX6_named.data.toList.drop 0 = dktX6_named_0 := by decide +kernel
theorem dksX6_named_1 : cX6_named.data.toList.drop 24 = dktX6_named_1 := dk_seg dksX6_named_0 24 rfl rfl
theorem dksX6_named_2 : cX6_named.data.toList.drop 48 = dktX6_named_2 := dk_seg dksX6_named_1 24 rfl rfl
theorem dksX6_named_3 : cX6_named.data.toList.drop 71 = dktX6_named_3 := dk_seg dksX6_named_2 23 rfl rfl
theorem dksX6_named_4 : cX6_named.data.toList.drop 93 = dktX6_named_4 := dk_seg dksX6_named_3 22 rfl rfl
theorem dksX6_named_5 : cX6_named.data.toList.drop 117 = dktX6_named_5 := dk_seg dksX6_named_4 24 rfl rfl
theorem dX6_named_0 : decode cX6_named 0 = .ok (.iload_n 1, 1) := dk_27 (dk_at dksX6_named_0 0 rfl rfl)
theorem dX6_named_1 : decode cX6_named 1 = .ok (.aload_n 0, 1) := dk_42 (dk_at dksX6_named_0 1 rfl rfl)
theorem dX6_named_2 : decode cX6_named 2 = .ok (.getfield 96, 3) := dk_180 0 96 (dk_at dksX6_named_0 2 rfl rfl)
theorem dX6_named_5 : decode cX6_named 5 = .ok (.ifCond .ne 8, 3) := dk_154 0 8 (dk_at dksX6_named_0 5 rfl rfl)
theorem dX6_named_8 : decode cX6_named 8 = .ok (.bipush 116, 2) := dk_16 116 (dk_at dksX6_named_0 8 rfl rfl)
theorem dX6_named_10 : decode cX6_named 10 = .ok (.goto 5, 3) := dk_167 0 5 (dk_at dksX6_named_0 10 rfl rfl)
theorem dX6_named_13 : decode cX6_named 13 = .ok (.bipush 119, 2) := dk_16 119 (dk_at dksX6_named_0 13 rfl rfl)
theorem dX6_named_15 : decode cX6_named 15 = .ok (.if_icmp .ne 7, 3) := dk_160 0 7 (dk_at dksX6_named_0 15 rfl rfl)
theorem dX6_named_18 : decode cX6_named 18 = .ok (.iconst 1, 1) := dk_4 (dk_at dksX6_named_0 18 rfl rfl)
theorem dX6_named_19 : decode cX6_named 19 = .ok (.goto 4, 3) := dk_167 0 4 (dk_at dksX6_named_0 19 rfl rfl)
theorem dX6_named_22 : decode cX6_named 22 = .ok (.iconst 0, 1) := dk_3 (dk_at dksX6_named_0 22 rfl rfl)
theorem dX6_named_23 : decode cX6_named 23 = .ok (.istore_n 2, 1) := dk_61 (dk_at dksX6_named_0 23 rfl rfl)
theorem dX6_named_24 : decode cX6_named 24 = .ok (.iload_n 1, 1) := dk_27 (dk_at dksX6_named_1 0 rfl rfl)
theorem dX6_named_25 : decode cX6_named 25 = .ok (.aload_n 0, 1) := dk_42 (dk_at dksX6_named_1 1 rfl rfl)
theorem dX6_named_26 : decode cX6_named 26 = .ok (.getfield 96, 3) := dk_180 0 96 (dk_at dksX6_named_1 2 rfl rfl)
theorem dX6_named_29 : decode cX6_named 29 = .ok (.ifCond .ne 8, 3) := dk_154 0 8 (dk_at dksX6_named_1 5 rfl rfl)
theorem dX6_named_32 : decode cX6_named 32 = .ok (.bipush 100, 2) := dk_16 100 (dk_at dksX6_named_1 8 rfl rfl)
theorem dX6_named_34 : decode cX6_named 34 = .ok (.goto 5, 3) := dk_167 0 5 (dk_at dksX6_named_1 10 rfl rfl)
theorem dX6_named_37 : decode cX6_named 37 = .ok (.bipush 111, 2) := dk_16 111 (dk_at dksX6_named_1 13 rfl rfl)
theorem dX6_named_39 : decode cX6_named 39 = .ok (.if_icmp .ne 7, 3) := dk_160 0 7 (dk_at dksX6_named_1 15 rfl rfl)
theorem dX6_named_42 : decode cX6_named 42 = .ok (.iconst 1, 1) := dk_4 (dk_at dksX6_named_1 18 rfl rfl)
theorem dX6_named_43 : decode cX6_named 43 = .ok (.goto 4, 3) := dk_167 0 4 (dk_at dksX6_named_1 19 rfl rfl)
theorem dX6_named_46 : decode cX6_named 46 = .ok (.iconst 0, 1) := dk_3 (dk_at dksX6_named_1 22 rfl rfl)
theorem dX6_named_47 : decode cX6_named 47 = .ok (.istore_n 3, 1) := dk_62 (dk_at dksX6_named_1 23 rfl rfl)
theorem dX6_named_48 : decode cX6_named 48 = .ok (.iload_n 1, 1) := dk_27 (dk_at dksX6_named_2 0 rfl rfl)
theorem dX6_named_49 : decode cX6_named 49 = .ok (.aload_n 0, 1) := dk_42 (dk_at dksX6_named_2 1 rfl rfl)
theorem dX6_named_50 : decode cX6_named 50 = .ok (.getfield 96, 3) := dk_180 0 96 (dk_at dksX6_named_2 2 rfl rfl)
theorem dX6_named_53 : decode cX6_named 53 = .ok (.ifCond .ne 8, 3) := dk_154 0 8 (dk_at dksX6_named_2 5 rfl rfl)
theorem dX6_named_56 : decode cX6_named 56 = .ok (.bipush 119, 2) := dk_16 119 (dk_at dksX6_named_2 8 rfl rfl)
theorem dX6_named_58 : decode cX6_named 58 = .ok (.goto 5, 3) := dk_167 0 5 (dk_at dksX6_named_2 10 rfl rfl)
theorem dX6_named_61 : decode cX6_named 61 = .ok (.bipush 109, 2) := dk_16 109 (dk_at dksX6_named_2 13 rfl rfl)
theorem dX6_named_63 : decode cX6_named 63 = .ok (.if_icmp .ne 7, 3) := dk_160 0 7 (dk_at dksX6_named_2 15 rfl rfl)
theorem dX6_named_66 : decode cX6_named 66 = .ok (.iconst 1, 1) := dk_4 (dk_at dksX6_named_2 18 rfl rfl)
theorem dX6_named_67 : decode cX6_named 67 = .ok (.goto 4, 3) := dk_167 0 4 (dk_at dksX6_named_2 19 rfl rfl)
theorem dX6_named_70 : decode cX6_named 70 = .ok (.iconst 0, 1) := dk_3 (dk_at dksX6_named_2 22 rfl rfl)
theorem dX6_named_71 : decode cX6_named 71 = .ok (.istore 4, 2) := dk_54 4 (dk_at dksX6_named_3 0 rfl rfl)
theorem dX6_named_73 : decode cX6_named 73 = .ok (.iload_n 2, 1) := dk_28 (dk_at dksX6_named_3 2 rfl rfl)
theorem dX6_named_74 : decode cX6_named 74 = .ok (.ifCond .ne 17, 3) := dk_154 0 17 (dk_at dksX6_named_3 3 rfl rfl)
theorem dX6_named_77 : decode cX6_named 77 = .ok (.iload_n 3, 1) := dk_29 (dk_at dksX6_named_3 6 rfl rfl)
theorem dX6_named_78 : decode cX6_named 78 = .ok (.ifCond .ne 13, 3) := dk_154 0 13 (dk_at dksX6_named_3 7 rfl rfl)
theorem dX6_named_81 : decode cX6_named 81 = .ok (.iload 4, 2) := dk_21 4 (dk_at dksX6_named_3 10 rfl rfl)
theorem dX6_named_83 : decode cX6_named 83 = .ok (.ifCond .ne 8, 3) := dk_154 0 8 (dk_at dksX6_named_3 12 rfl rfl)
theorem dX6_named_86 : decode cX6_named 86 = .ok (.aload_n 0, 1) := dk_42 (dk_at dksX6_named_3 15 rfl rfl)
theorem dX6_named_87 : decode cX6_named 87 = .ok (.invokevirtual 112, 3) := dk_182 0 112 (dk_at dksX6_named_3 16 rfl rfl)
theorem dX6_named_90 : decode cX6_named 90 = .ok (.ireturn, 1) := dk_172 (dk_at dksX6_named_3 19 rfl rfl)
theorem dX6_named_91 : decode cX6_named 91 = .ok (.aload_n 0, 1) := dk_42 (dk_at dksX6_named_3 20 rfl rfl)
theorem dX6_named_92 : decode cX6_named 92 = .ok (.dup, 1) := dk_89 (dk_at dksX6_named_3 21 rfl rfl)
theorem dX6_named_93 : decode cX6_named 93 = .ok (.getfield 103, 3) := dk_180 0 103 (dk_at dksX6_named_4 0 rfl rfl)
theorem dX6_named_96 : decode cX6_named 96 = .ok (.iconst 1, 1) := dk_4 (dk_at dksX6_named_4 3 rfl rfl)
theorem dX6_named_97 : decode cX6_named 97 = .ok (.iadd, 1) := dk_96 (dk_at dksX6_named_4 4 rfl rfl)
theorem dX6_named_98 : decode cX6_named 98 = .ok (.putfield 103, 3) := dk_181 0 103 (dk_at dksX6_named_4 5 rfl rfl)
theorem dX6_named_101 : decode cX6_named 101 = .ok (.iload_n 2, 1) := dk_28 (dk_at dksX6_named_4 8 rfl rfl)
theorem dX6_named_102 : decode cX6_named 102 = .ok (.ifCond .eq 10, 3) := dk_153 0 10 (dk_at dksX6_named_4 9 rfl rfl)
theorem dX6_named_105 : decode cX6_named 105 = .ok (.aload_n 0, 1) := dk_42 (dk_at dksX6_named_4 12 rfl rfl)
theorem dX6_named_106 : decode cX6_named 106 = .ok (.getfield 116, 3) := dk_180 0 116 (dk_at dksX6_named_4 13 rfl rfl)
theorem dX6_named_109 : decode cX6_named 109 = .ok (.goto 18, 3) := dk_167 0 18 (dk_at dksX6_named_4 16 rfl rfl)
theorem dX6_named_112 : decode cX6_named 112 = .ok (.iload_n 3, 1) := dk_29 (dk_at dksX6_named_4 19 rfl rfl)
theorem dX6_named_113 : decode cX6_named 113 = .ok (.ifCond .eq 10, 3) := dk_153 0 10 (dk_at dksX6_named_4 20 rfl rfl)
theorem dX6_named_116 : decode cX6_named 116 = .ok (.aload_n 0, 1) := dk_42 (dk_at dksX6_named_4 23 rfl rfl)
theorem dX6_named_117 : decode cX6_named 117 = .ok (.getfield 119, 3) := dk_180 0 119 (dk_at dksX6_named_5 0 rfl rfl)
theorem dX6_named_120 : decode cX6_named 120 = .ok (.goto 7, 3) := dk_167 0 7 (dk_at dksX6_named_5 3 rfl rfl)
theorem dX6_named_123 : decode cX6_named 123 = .ok (.aload_n 0, 1) := dk_42 (dk_at dksX6_named_5 6 rfl rfl)
theorem dX6_named_124 : decode cX6_named 124 = .ok (.getfield 122, 3) := dk_180 0 122 (dk_at dksX6_named_5 7 rfl rfl)
theorem dX6_named_127 : decode cX6_named 127 = .ok (.ireturn, 1) := dk_172 (dk_at dksX6_named_5 10 rfl rfl)
abbrev cX6_fails : ByteArray := prog_30_method_23_code
def yX6_fails : MethodName := ⟨RX6, "fails", "()I"⟩
def dkwX6_fails_0 : List UInt8 := [42, 3, 181, 0, 99, 3, 172]
abbrev dktX6_fails_0 : List UInt8 := dkwX6_fails_0 ++ []
theorem dksX6_fails_0 : cX6_fails.data.toList.drop 0 = dktX6_fails_0 := by decide +kernel
theorem dX6_fails_0 : decode cX6_fails 0 = .ok (.aload_n 0, 1) := dk_42 (dk_at dksX6_fails_0 0 rfl rfl)
theorem dX6_fails_1 : decode cX6_fails 1 = .ok (.iconst 0, 1) := dk_3 (dk_at dksX6_fails_0 1 rfl rfl)
theorem dX6_fails_2 : decode cX6_fails 2 = .ok (.putfield 99, 3) := dk_181 0 99 (dk_at dksX6_fails_0 2 rfl rfl)
theorem dX6_fails_5 : decode cX6_fails 5 = .ok (.iconst 0, 1) := dk_3 (dk_at dksX6_fails_0 5 rfl rfl)
theorem dX6_fails_6 : decode cX6_fails 6 = .ok (.ireturn, 1) := dk_172 (dk_at dksX6_fails_0 6 rfl rfl)
abbrev cX6_held : ByteArray := prog_30_method_4_code
def yX6_held : MethodName := ⟨RX6, "held", "(III)I"⟩
def dkwX6_held_0 : List UInt8 := [26, 27, 162, 0, 7, 27, 167, 0, 13, 26, 28, 164, 0, 7, 28, 167, 0, 4, 26, 172]
abbrev dktX6_held_0 : List UInt8 := dkwX6_held_0 ++ []
theorem dksX6_held_0 : cX6_held.data.toList.drop 0 = dktX6_held_0 := by decide +kernel
theorem dX6_held_0 : decode cX6_held 0 = .ok (.iload_n 0, 1) := dk_26 (dk_at dksX6_held_0 0 rfl rfl)
theorem dX6_held_1 : decode cX6_held 1 = .ok (.iload_n 1, 1) := dk_27 (dk_at dksX6_held_0 1 rfl rfl)
theorem dX6_held_2 : decode cX6_held 2 = .ok (.if_icmp .ge 7, 3) := dk_162 0 7 (dk_at dksX6_held_0 2 rfl rfl)
theorem dX6_held_5 : decode cX6_held 5 = .ok (.iload_n 1, 1) := dk_27 (dk_at dksX6_held_0 5 rfl rfl)
theorem dX6_held_6 : decode cX6_held 6 = .ok (.goto 13, 3) := dk_167 0 13 (dk_at dksX6_held_0 6 rfl rfl)
theorem dX6_held_9 : decode cX6_held 9 = .ok (.iload_n 0, 1) := dk_26 (dk_at dksX6_held_0 9 rfl rfl)
theorem dX6_held_10 : decode cX6_held 10 = .ok (.iload_n 2, 1) := dk_28 (dk_at dksX6_held_0 10 rfl rfl)
theorem dX6_held_11 : decode cX6_held 11 = .ok (.if_icmp .le 7, 3) := dk_164 0 7 (dk_at dksX6_held_0 11 rfl rfl)
theorem dX6_held_14 : decode cX6_held 14 = .ok (.iload_n 2, 1) := dk_28 (dk_at dksX6_held_0 14 rfl rfl)
theorem dX6_held_15 : decode cX6_held 15 = .ok (.goto 4, 3) := dk_167 0 4 (dk_at dksX6_held_0 15 rfl rfl)
theorem dX6_held_18 : decode cX6_held 18 = .ok (.iload_n 0, 1) := dk_26 (dk_at dksX6_held_0 18 rfl rfl)
theorem dX6_held_19 : decode cX6_held 19 = .ok (.ireturn, 1) := dk_172 (dk_at dksX6_held_0 19 rfl rfl)
abbrev cX6_change : ByteArray := prog_30_method_14_code
def yX6_change : MethodName := ⟨RX6, "change", "(III)I"⟩
def dkwX6_change_3 : List UInt8 := [104, 96, 5, 96, 28, 96, 29, 182, 0, 79, 167, 0, 9, 42, 18, 52, 182, 0, 53, 172]
abbrev dktX6_change_3 : List UInt8 := dkwX6_change_3 ++ []
def dkwX6_change_2 : List UInt8 := [167, 0, 4, 3, 54, 4, 42, 27, 182, 0, 62, 153, 0, 26, 21, 4, 153, 0, 21, 42, 16, 7, 8, 27]
abbrev dktX6_change_2 : List UInt8 := dkwX6_change_2 ++ dktX6_change_3
def dkwX6_change_1 : List UInt8 := [184, 0, 48, 167, 0, 23, 28, 5, 160, 0, 17, 29, 3, 16, 99, 184, 0, 48, 153, 0, 7, 4]
abbrev dktX6_change_1 : List UInt8 := dkwX6_change_1 ++ dktX6_change_2
def dkwX6_change_0 : List UInt8 := [28, 154, 0, 13, 29, 3, 16, 15, 184, 0, 48, 167, 0, 39, 28, 4, 160, 0, 14, 29, 3, 17, 3, 231]
abbrev dktX6_change_0 : List UInt8 := dkwX6_change_0 ++ dktX6_change_1
theorem dksX6_change_0 : cX6_change.data.toList.drop 0 = dktX6_change_0 := by decide +kernel
theorem dksX6_change_1 : cX6_change.data.toList.drop 24 = dktX6_change_1 := dk_seg dksX6_change_0 24 rfl rfl
theorem dksX6_change_2 : cX6_change.data.toList.drop 46 = dktX6_change_2 := dk_seg dksX6_change_1 22 rfl rfl
theorem dksX6_change_3 : cX6_change.data.toList.drop 70 = dktX6_change_3 := dk_seg dksX6_change_2 24 rfl rfl
theorem dX6_change_0 : decode cX6_change 0 = .ok (.iload_n 2, 1) := dk_28 (dk_at dksX6_change_0 0 rfl rfl)
theorem dX6_change_1 : decode cX6_change 1 = .ok (.ifCond .ne 13, 3) := dk_154 0 13 (dk_at dksX6_change_0 1 rfl rfl)
theorem dX6_change_4 : decode cX6_change 4 = .ok (.iload_n 3, 1) := dk_29 (dk_at dksX6_change_0 4 rfl rfl)
theorem dX6_change_5 : decode cX6_change 5 = .ok (.iconst 0, 1) := dk_3 (dk_at dksX6_change_0 5 rfl rfl)
theorem dX6_change_6 : decode cX6_change 6 = .ok (.bipush 15, 2) := dk_16 15 (dk_at dksX6_change_0 6 rfl rfl)
theorem dX6_change_8 : decode cX6_change 8 = .ok (.invokestatic 48, 3) := dk_184 0 48 (dk_at dksX6_change_0 8 rfl rfl)
theorem dX6_change_11 : decode cX6_change 11 = .ok (.goto 39, 3) := dk_167 0 39 (dk_at dksX6_change_0 11 rfl rfl)
theorem dX6_change_14 : decode cX6_change 14 = .ok (.iload_n 2, 1) := dk_28 (dk_at dksX6_change_0 14 rfl rfl)
theorem dX6_change_15 : decode cX6_change 15 = .ok (.iconst 1, 1) := dk_4 (dk_at dksX6_change_0 15 rfl rfl)
theorem dX6_change_16 : decode cX6_change 16 = .ok (.if_icmp .ne 14, 3) := dk_160 0 14 (dk_at dksX6_change_0 16 rfl rfl)
theorem dX6_change_19 : decode cX6_change 19 = .ok (.iload_n 3, 1) := dk_29 (dk_at dksX6_change_0 19 rfl rfl)
theorem dX6_change_20 : decode cX6_change 20 = .ok (.iconst 0, 1) := dk_3 (dk_at dksX6_change_0 20 rfl rfl)
theorem dX6_change_21 : decode cX6_change 21 = .ok (.sipush 999, 3) := dk_17 3 231 (dk_at dksX6_change_0 21 rfl rfl)
theorem dX6_change_24 : decode cX6_change 24 = .ok (.invokestatic 48, 3) := dk_184 0 48 (dk_at dksX6_change_1 0 rfl rfl)
theorem dX6_change_27 : decode cX6_change 27 = .ok (.goto 23, 3) := dk_167 0 23 (dk_at dksX6_change_1 3 rfl rfl)
theorem dX6_change_30 : decode cX6_change 30 = .ok (.iload_n 2, 1) := dk_28 (dk_at dksX6_change_1 6 rfl rfl)
theorem dX6_change_31 : decode cX6_change 31 = .ok (.iconst 2, 1) := dk_5 (dk_at dksX6_change_1 7 rfl rfl)
theorem dX6_change_32 : decode cX6_change 32 = .ok (.if_icmp .ne 17, 3) := dk_160 0 17 (dk_at dksX6_change_1 8 rfl rfl)
theorem dX6_change_35 : decode cX6_change 35 = .ok (.iload_n 3, 1) := dk_29 (dk_at dksX6_change_1 11 rfl rfl)
theorem dX6_change_36 : decode cX6_change 36 = .ok (.iconst 0, 1) := dk_3 (dk_at dksX6_change_1 12 rfl rfl)
theorem dX6_change_37 : decode cX6_change 37 = .ok (.bipush 99, 2) := dk_16 99 (dk_at dksX6_change_1 13 rfl rfl)
theorem dX6_change_39 : decode cX6_change 39 = .ok (.invokestatic 48, 3) := dk_184 0 48 (dk_at dksX6_change_1 15 rfl rfl)
theorem dX6_change_42 : decode cX6_change 42 = .ok (.ifCond .eq 7, 3) := dk_153 0 7 (dk_at dksX6_change_1 18 rfl rfl)
theorem dX6_change_45 : decode cX6_change 45 = .ok (.iconst 1, 1) := dk_4 (dk_at dksX6_change_1 21 rfl rfl)
theorem dX6_change_46 : decode cX6_change 46 = .ok (.goto 4, 3) := dk_167 0 4 (dk_at dksX6_change_2 0 rfl rfl)
theorem dX6_change_49 : decode cX6_change 49 = .ok (.iconst 0, 1) := dk_3 (dk_at dksX6_change_2 3 rfl rfl)
theorem dX6_change_50 : decode cX6_change 50 = .ok (.istore 4, 2) := dk_54 4 (dk_at dksX6_change_2 4 rfl rfl)
theorem dX6_change_52 : decode cX6_change 52 = .ok (.aload_n 0, 1) := dk_42 (dk_at dksX6_change_2 6 rfl rfl)
theorem dX6_change_53 : decode cX6_change 53 = .ok (.iload_n 1, 1) := dk_27 (dk_at dksX6_change_2 7 rfl rfl)
theorem dX6_change_54 : decode cX6_change 54 = .ok (.invokevirtual 62, 3) := dk_182 0 62 (dk_at dksX6_change_2 8 rfl rfl)
theorem dX6_change_57 : decode cX6_change 57 = .ok (.ifCond .eq 26, 3) := dk_153 0 26 (dk_at dksX6_change_2 11 rfl rfl)
theorem dX6_change_60 : decode cX6_change 60 = .ok (.iload 4, 2) := dk_21 4 (dk_at dksX6_change_2 14 rfl rfl)
theorem dX6_change_62 : decode cX6_change 62 = .ok (.ifCond .eq 21, 3) := dk_153 0 21 (dk_at dksX6_change_2 16 rfl rfl)
theorem dX6_change_65 : decode cX6_change 65 = .ok (.aload_n 0, 1) := dk_42 (dk_at dksX6_change_2 19 rfl rfl)
theorem dX6_change_66 : decode cX6_change 66 = .ok (.bipush 7, 2) := dk_16 7 (dk_at dksX6_change_2 20 rfl rfl)
theorem dX6_change_68 : decode cX6_change 68 = .ok (.iconst 5, 1) := dk_8 (dk_at dksX6_change_2 22 rfl rfl)
theorem dX6_change_69 : decode cX6_change 69 = .ok (.iload_n 1, 1) := dk_27 (dk_at dksX6_change_2 23 rfl rfl)
theorem dX6_change_70 : decode cX6_change 70 = .ok (.imul, 1) := dk_104 (dk_at dksX6_change_3 0 rfl rfl)
theorem dX6_change_71 : decode cX6_change 71 = .ok (.iadd, 1) := dk_96 (dk_at dksX6_change_3 1 rfl rfl)
theorem dX6_change_72 : decode cX6_change 72 = .ok (.iconst 2, 1) := dk_5 (dk_at dksX6_change_3 2 rfl rfl)
theorem dX6_change_73 : decode cX6_change 73 = .ok (.iadd, 1) := dk_96 (dk_at dksX6_change_3 3 rfl rfl)
theorem dX6_change_74 : decode cX6_change 74 = .ok (.iload_n 2, 1) := dk_28 (dk_at dksX6_change_3 4 rfl rfl)
theorem dX6_change_75 : decode cX6_change 75 = .ok (.iadd, 1) := dk_96 (dk_at dksX6_change_3 5 rfl rfl)
theorem dX6_change_76 : decode cX6_change 76 = .ok (.iload_n 3, 1) := dk_29 (dk_at dksX6_change_3 6 rfl rfl)
theorem dX6_change_77 : decode cX6_change 77 = .ok (.invokevirtual 79, 3) := dk_182 0 79 (dk_at dksX6_change_3 7 rfl rfl)
theorem dX6_change_80 : decode cX6_change 80 = .ok (.goto 9, 3) := dk_167 0 9 (dk_at dksX6_change_3 10 rfl rfl)
theorem dX6_change_83 : decode cX6_change 83 = .ok (.aload_n 0, 1) := dk_42 (dk_at dksX6_change_3 13 rfl rfl)
theorem dX6_change_84 : decode cX6_change 84 = .ok (.ldc 52, 2) := dk_18 52 (dk_at dksX6_change_3 14 rfl rfl)
theorem dX6_change_86 : decode cX6_change 86 = .ok (.invokevirtual 53, 3) := dk_182 0 53 (dk_at dksX6_change_3 16 rfl rfl)
theorem dX6_change_89 : decode cX6_change 89 = .ok (.ireturn, 1) := dk_172 (dk_at dksX6_change_3 19 rfl rfl)
abbrev cX6_becomes : ByteArray := prog_30_method_11_code
def yX6_becomes : MethodName := ⟨RX6, "becomes", "(II)I"⟩
def dkwX6_becomes_0 : List UInt8 := [42, 180, 0, 7, 27, 46, 62, 42, 180, 0, 7, 27, 28, 79, 29, 172]
abbrev dktX6_becomes_0 : List UInt8 := dkwX6_becomes_0 ++ []
theorem dksX6_becomes_0 : cX6_becomes.data.toList.drop 0 = dktX6_becomes_0 := by decide +kernel
theorem dX6_becomes_0 : decode cX6_becomes 0 = .ok (.aload_n 0, 1) := dk_42 (dk_at dksX6_becomes_0 0 rfl rfl)
theorem dX6_becomes_1 : decode cX6_becomes 1 = .ok (.getfield 7, 3) := dk_180 0 7 (dk_at dksX6_becomes_0 1 rfl rfl)
theorem dX6_becomes_4 : decode cX6_becomes 4 = .ok (.iload_n 1, 1) := dk_27 (dk_at dksX6_becomes_0 4 rfl rfl)
theorem dX6_becomes_5 : decode cX6_becomes 5 = .ok (.iaload, 1) := dk_46 (dk_at dksX6_becomes_0 5 rfl rfl)
theorem dX6_becomes_6 : decode cX6_becomes 6 = .ok (.istore_n 3, 1) := dk_62 (dk_at dksX6_becomes_0 6 rfl rfl)
theorem dX6_becomes_7 : decode cX6_becomes 7 = .ok (.aload_n 0, 1) := dk_42 (dk_at dksX6_becomes_0 7 rfl rfl)
theorem dX6_becomes_8 : decode cX6_becomes 8 = .ok (.getfield 7, 3) := dk_180 0 7 (dk_at dksX6_becomes_0 8 rfl rfl)
theorem dX6_becomes_11 : decode cX6_becomes 11 = .ok (.iload_n 1, 1) := dk_27 (dk_at dksX6_becomes_0 11 rfl rfl)
theorem dX6_becomes_12 : decode cX6_becomes 12 = .ok (.iload_n 2, 1) := dk_28 (dk_at dksX6_becomes_0 12 rfl rfl)
theorem dX6_becomes_13 : decode cX6_becomes 13 = .ok (.iastore, 1) := dk_79 (dk_at dksX6_becomes_0 13 rfl rfl)
theorem dX6_becomes_14 : decode cX6_becomes 14 = .ok (.iload_n 3, 1) := dk_29 (dk_at dksX6_becomes_0 14 rfl rfl)
theorem dX6_becomes_15 : decode cX6_becomes 15 = .ok (.ireturn, 1) := dk_172 (dk_at dksX6_becomes_0 15 rfl rfl)
abbrev cX6_owe : ByteArray := prog_30_method_16_code
def yX6_owe : MethodName := ⟨RX6, "owe", "(III)I"⟩
def dkwX6_owe_1 : List UInt8 := [27, 104, 96, 28, 96, 29, 182, 0, 79, 167, 0, 9, 42, 18, 52, 182, 0, 53, 172]
abbrev dktX6_owe_1 : List UInt8 := dkwX6_owe_1 ++ []
def dkwX6_owe_0 : List UInt8 := [42, 27, 28, 182, 0, 82, 153, 0, 30, 29, 3, 16, 99, 184, 0, 48, 153, 0, 20, 42, 16, 47, 16, 8]
abbrev dktX6_owe_0 : List UInt8 := dkwX6_owe_0 ++ dktX6_owe_1
theorem dksX6_owe_0 : cX6_owe.data.toList.drop 0 = dktX6_owe_0 := by decide +kernel
theorem dksX6_owe_1 : cX6_owe.data.toList.drop 24 = dktX6_owe_1 := dk_seg dksX6_owe_0 24 rfl rfl
theorem dX6_owe_0 : decode cX6_owe 0 = .ok (.aload_n 0, 1) := dk_42 (dk_at dksX6_owe_0 0 rfl rfl)
theorem dX6_owe_1 : decode cX6_owe 1 = .ok (.iload_n 1, 1) := dk_27 (dk_at dksX6_owe_0 1 rfl rfl)
theorem dX6_owe_2 : decode cX6_owe 2 = .ok (.iload_n 2, 1) := dk_28 (dk_at dksX6_owe_0 2 rfl rfl)
theorem dX6_owe_3 : decode cX6_owe 3 = .ok (.invokevirtual 82, 3) := dk_182 0 82 (dk_at dksX6_owe_0 3 rfl rfl)
theorem dX6_owe_6 : decode cX6_owe 6 = .ok (.ifCond .eq 30, 3) := dk_153 0 30 (dk_at dksX6_owe_0 6 rfl rfl)
theorem dX6_owe_9 : decode cX6_owe 9 = .ok (.iload_n 3, 1) := dk_29 (dk_at dksX6_owe_0 9 rfl rfl)
theorem dX6_owe_10 : decode cX6_owe 10 = .ok (.iconst 0, 1) := dk_3 (dk_at dksX6_owe_0 10 rfl rfl)
theorem dX6_owe_11 : decode cX6_owe 11 = .ok (.bipush 99, 2) := dk_16 99 (dk_at dksX6_owe_0 11 rfl rfl)
theorem dX6_owe_13 : decode cX6_owe 13 = .ok (.invokestatic 48, 3) := dk_184 0 48 (dk_at dksX6_owe_0 13 rfl rfl)
theorem dX6_owe_16 : decode cX6_owe 16 = .ok (.ifCond .eq 20, 3) := dk_153 0 20 (dk_at dksX6_owe_0 16 rfl rfl)
theorem dX6_owe_19 : decode cX6_owe 19 = .ok (.aload_n 0, 1) := dk_42 (dk_at dksX6_owe_0 19 rfl rfl)
theorem dX6_owe_20 : decode cX6_owe 20 = .ok (.bipush 47, 2) := dk_16 47 (dk_at dksX6_owe_0 20 rfl rfl)
theorem dX6_owe_22 : decode cX6_owe 22 = .ok (.bipush 8, 2) := dk_16 8 (dk_at dksX6_owe_0 22 rfl rfl)
theorem dX6_owe_24 : decode cX6_owe 24 = .ok (.iload_n 1, 1) := dk_27 (dk_at dksX6_owe_1 0 rfl rfl)
theorem dX6_owe_25 : decode cX6_owe 25 = .ok (.imul, 1) := dk_104 (dk_at dksX6_owe_1 1 rfl rfl)
theorem dX6_owe_26 : decode cX6_owe 26 = .ok (.iadd, 1) := dk_96 (dk_at dksX6_owe_1 2 rfl rfl)
theorem dX6_owe_27 : decode cX6_owe 27 = .ok (.iload_n 2, 1) := dk_28 (dk_at dksX6_owe_1 3 rfl rfl)
theorem dX6_owe_28 : decode cX6_owe 28 = .ok (.iadd, 1) := dk_96 (dk_at dksX6_owe_1 4 rfl rfl)
theorem dX6_owe_29 : decode cX6_owe 29 = .ok (.iload_n 3, 1) := dk_29 (dk_at dksX6_owe_1 5 rfl rfl)
theorem dX6_owe_30 : decode cX6_owe 30 = .ok (.invokevirtual 79, 3) := dk_182 0 79 (dk_at dksX6_owe_1 6 rfl rfl)
theorem dX6_owe_33 : decode cX6_owe 33 = .ok (.goto 9, 3) := dk_167 0 9 (dk_at dksX6_owe_1 9 rfl rfl)
theorem dX6_owe_36 : decode cX6_owe 36 = .ok (.aload_n 0, 1) := dk_42 (dk_at dksX6_owe_1 12 rfl rfl)
theorem dX6_owe_37 : decode cX6_owe 37 = .ok (.ldc 52, 2) := dk_18 52 (dk_at dksX6_owe_1 13 rfl rfl)
theorem dX6_owe_39 : decode cX6_owe 39 = .ok (.invokevirtual 53, 3) := dk_182 0 53 (dk_at dksX6_owe_1 15 rfl rfl)
theorem dX6_owe_42 : decode cX6_owe 42 = .ok (.ireturn, 1) := dk_172 (dk_at dksX6_owe_1 18 rfl rfl)
abbrev cX6_areTwo : ByteArray := prog_30_method_15_code
def yX6_areTwo : MethodName := ⟨RX6, "areTwo", "(II)Z"⟩
def dkwX6_areTwo_1 : List UInt8 := [167, 0, 4, 3, 172]
abbrev dktX6_areTwo_1 : List UInt8 := dkwX6_areTwo_1 ++ []
def dkwX6_areTwo_0 : List UInt8 := [42, 27, 182, 0, 62, 153, 0, 20, 42, 28, 182, 0, 62, 153, 0, 12, 27, 28, 159, 0, 7, 4]
abbrev dktX6_areTwo_0 : List UInt8 := dkwX6_areTwo_0 ++ dktX6_areTwo_1
theorem dksX6_areTwo_0 : cX6_areTwo.data.toList.drop 0 = dktX6_areTwo_0 := by decide +kernel
theorem dksX6_areTwo_1 : cX6_areTwo.data.toList.drop 22 = dktX6_areTwo_1 := dk_seg dksX6_areTwo_0 22 rfl rfl
theorem dX6_areTwo_0 : decode cX6_areTwo 0 = .ok (.aload_n 0, 1) := dk_42 (dk_at dksX6_areTwo_0 0 rfl rfl)
theorem dX6_areTwo_1 : decode cX6_areTwo 1 = .ok (.iload_n 1, 1) := dk_27 (dk_at dksX6_areTwo_0 1 rfl rfl)
theorem dX6_areTwo_2 : decode cX6_areTwo 2 = .ok (.invokevirtual 62, 3) := dk_182 0 62 (dk_at dksX6_areTwo_0 2 rfl rfl)
theorem dX6_areTwo_5 : decode cX6_areTwo 5 = .ok (.ifCond .eq 20, 3) := dk_153 0 20 (dk_at dksX6_areTwo_0 5 rfl rfl)
theorem dX6_areTwo_8 : decode cX6_areTwo 8 = .ok (.aload_n 0, 1) := dk_42 (dk_at dksX6_areTwo_0 8 rfl rfl)
theorem dX6_areTwo_9 : decode cX6_areTwo 9 = .ok (.iload_n 2, 1) := dk_28 (dk_at dksX6_areTwo_0 9 rfl rfl)
theorem dX6_areTwo_10 : decode cX6_areTwo 10 = .ok (.invokevirtual 62, 3) := dk_182 0 62 (dk_at dksX6_areTwo_0 10 rfl rfl)
theorem dX6_areTwo_13 : decode cX6_areTwo 13 = .ok (.ifCond .eq 12, 3) := dk_153 0 12 (dk_at dksX6_areTwo_0 13 rfl rfl)
theorem dX6_areTwo_16 : decode cX6_areTwo 16 = .ok (.iload_n 1, 1) := dk_27 (dk_at dksX6_areTwo_0 16 rfl rfl)
theorem dX6_areTwo_17 : decode cX6_areTwo 17 = .ok (.iload_n 2, 1) := dk_28 (dk_at dksX6_areTwo_0 17 rfl rfl)
theorem dX6_areTwo_18 : decode cX6_areTwo 18 = .ok (.if_icmp .eq 7, 3) := dk_159 0 7 (dk_at dksX6_areTwo_0 18 rfl rfl)
theorem dX6_areTwo_21 : decode cX6_areTwo 21 = .ok (.iconst 1, 1) := dk_4 (dk_at dksX6_areTwo_0 21 rfl rfl)
theorem dX6_areTwo_22 : decode cX6_areTwo 22 = .ok (.goto 4, 3) := dk_167 0 4 (dk_at dksX6_areTwo_1 0 rfl rfl)
theorem dX6_areTwo_25 : decode cX6_areTwo 25 = .ok (.iconst 0, 1) := dk_3 (dk_at dksX6_areTwo_1 3 rfl rfl)
theorem dX6_areTwo_26 : decode cX6_areTwo 26 = .ok (.ireturn, 1) := dk_172 (dk_at dksX6_areTwo_1 4 rfl rfl)
abbrev cX6_owes : ByteArray := prog_30_method_17_code
def yX6_owes : MethodName := ⟨RX6, "owes", "(II)I"⟩
def dkwX6_owes_1 : List UInt8 := [172]
abbrev dktX6_owes_1 : List UInt8 := dkwX6_owes_1 ++ []
def dkwX6_owes_0 : List UInt8 := [42, 27, 28, 182, 0, 82, 153, 0, 12, 42, 27, 28, 182, 0, 86, 167, 0, 9, 42, 18, 52, 182, 0, 53]
abbrev dktX6_owes_0 : List UInt8 := dkwX6_owes_0 ++ dktX6_owes_1
theorem dksX6_owes_0 : cX6_owes.data.toList.drop 0 = dktX6_owes_0 := by decide +kernel
theorem dksX6_owes_1 : cX6_owes.data.toList.drop 24 = dktX6_owes_1 := dk_seg dksX6_owes_0 24 rfl rfl
theorem dX6_owes_0 : decode cX6_owes 0 = .ok (.aload_n 0, 1) := dk_42 (dk_at dksX6_owes_0 0 rfl rfl)
theorem dX6_owes_1 : decode cX6_owes 1 = .ok (.iload_n 1, 1) := dk_27 (dk_at dksX6_owes_0 1 rfl rfl)
theorem dX6_owes_2 : decode cX6_owes 2 = .ok (.iload_n 2, 1) := dk_28 (dk_at dksX6_owes_0 2 rfl rfl)
theorem dX6_owes_3 : decode cX6_owes 3 = .ok (.invokevirtual 82, 3) := dk_182 0 82 (dk_at dksX6_owes_0 3 rfl rfl)
theorem dX6_owes_6 : decode cX6_owes 6 = .ok (.ifCond .eq 12, 3) := dk_153 0 12 (dk_at dksX6_owes_0 6 rfl rfl)
theorem dX6_owes_9 : decode cX6_owes 9 = .ok (.aload_n 0, 1) := dk_42 (dk_at dksX6_owes_0 9 rfl rfl)
theorem dX6_owes_10 : decode cX6_owes 10 = .ok (.iload_n 1, 1) := dk_27 (dk_at dksX6_owes_0 10 rfl rfl)
theorem dX6_owes_11 : decode cX6_owes 11 = .ok (.iload_n 2, 1) := dk_28 (dk_at dksX6_owes_0 11 rfl rfl)
theorem dX6_owes_12 : decode cX6_owes 12 = .ok (.invokevirtual 86, 3) := dk_182 0 86 (dk_at dksX6_owes_0 12 rfl rfl)
theorem dX6_owes_15 : decode cX6_owes 15 = .ok (.goto 9, 3) := dk_167 0 9 (dk_at dksX6_owes_0 15 rfl rfl)
theorem dX6_owes_18 : decode cX6_owes 18 = .ok (.aload_n 0, 1) := dk_42 (dk_at dksX6_owes_0 18 rfl rfl)
theorem dX6_owes_19 : decode cX6_owes 19 = .ok (.ldc 52, 2) := dk_18 52 (dk_at dksX6_owes_0 19 rfl rfl)
theorem dX6_owes_21 : decode cX6_owes 21 = .ok (.invokevirtual 53, 3) := dk_182 0 53 (dk_at dksX6_owes_0 21 rfl rfl)
theorem dX6_owes_24 : decode cX6_owes 24 = .ok (.ireturn, 1) := dk_172 (dk_at dksX6_owes_1 0 rfl rfl)
abbrev cX6_debt : ByteArray := prog_30_method_10_code
def yX6_debt : MethodName := ⟨RX6, "debt", "(II)I"⟩
def dkwX6_debt_0 : List UInt8 := [42, 180, 0, 7, 16, 47, 16, 8, 27, 104, 96, 28, 96, 46, 172]
abbrev dktX6_debt_0 : List UInt8 := dkwX6_debt_0 ++ []
theorem dksX6_debt_0 : cX6_debt.data.toList.drop 0 = dktX6_debt_0 := by decide +kernel
theorem dX6_debt_0 : decode cX6_debt 0 = .ok (.aload_n 0, 1) := dk_42 (dk_at dksX6_debt_0 0 rfl rfl)
theorem dX6_debt_1 : decode cX6_debt 1 = .ok (.getfield 7, 3) := dk_180 0 7 (dk_at dksX6_debt_0 1 rfl rfl)
theorem dX6_debt_4 : decode cX6_debt 4 = .ok (.bipush 47, 2) := dk_16 47 (dk_at dksX6_debt_0 4 rfl rfl)
theorem dX6_debt_6 : decode cX6_debt 6 = .ok (.bipush 8, 2) := dk_16 8 (dk_at dksX6_debt_0 6 rfl rfl)
theorem dX6_debt_8 : decode cX6_debt 8 = .ok (.iload_n 1, 1) := dk_27 (dk_at dksX6_debt_0 8 rfl rfl)
theorem dX6_debt_9 : decode cX6_debt 9 = .ok (.imul, 1) := dk_104 (dk_at dksX6_debt_0 9 rfl rfl)
theorem dX6_debt_10 : decode cX6_debt 10 = .ok (.iadd, 1) := dk_96 (dk_at dksX6_debt_0 10 rfl rfl)
theorem dX6_debt_11 : decode cX6_debt 11 = .ok (.iload_n 2, 1) := dk_28 (dk_at dksX6_debt_0 11 rfl rfl)
theorem dX6_debt_12 : decode cX6_debt 12 = .ok (.iadd, 1) := dk_96 (dk_at dksX6_debt_0 12 rfl rfl)
theorem dX6_debt_13 : decode cX6_debt 13 = .ok (.iaload, 1) := dk_46 (dk_at dksX6_debt_0 13 rfl rfl)
theorem dX6_debt_14 : decode cX6_debt 14 = .ok (.ireturn, 1) := dk_172 (dk_at dksX6_debt_0 14 rfl rfl)
abbrev cX6_become : ByteArray := prog_30_method_18_code
def yX6_become : MethodName := ⟨RX6, "become", "(II)I"⟩
def dkwX6_become_2 : List UInt8 := [182, 0, 79, 172]
abbrev dktX6_become_2 : List UInt8 := dkwX6_become_2 ++ []
def dkwX6_become_1 : List UInt8 := [172, 42, 27, 4, 28, 16, 10, 112, 182, 0, 58, 42, 16, 7, 8, 27, 104, 96, 28, 16, 10, 108]
abbrev dktX6_become_1 : List UInt8 := dkwX6_become_1 ++ dktX6_become_2
def dkwX6_become_0 : List UInt8 := [42, 27, 182, 0, 62, 153, 0, 13, 28, 3, 16, 69, 184, 0, 48, 154, 0, 10, 42, 18, 52, 182, 0, 53]
abbrev dktX6_become_0 : List UInt8 := dkwX6_become_0 ++ dktX6_become_1
theorem dksX6_become_0 : cX6_become.data.toList.drop 0 = dktX6_become_0 := by decide +kernel
theorem dksX6_become_1 : cX6_become.data.toList.drop 24 = dktX6_become_1 := dk_seg dksX6_become_0 24 rfl rfl
theorem dksX6_become_2 : cX6_become.data.toList.drop 46 = dktX6_become_2 := dk_seg dksX6_become_1 22 rfl rfl
theorem dX6_become_0 : decode cX6_become 0 = .ok (.aload_n 0, 1) := dk_42 (dk_at dksX6_become_0 0 rfl rfl)
theorem dX6_become_1 : decode cX6_become 1 = .ok (.iload_n 1, 1) := dk_27 (dk_at dksX6_become_0 1 rfl rfl)
theorem dX6_become_2 : decode cX6_become 2 = .ok (.invokevirtual 62, 3) := dk_182 0 62 (dk_at dksX6_become_0 2 rfl rfl)
theorem dX6_become_5 : decode cX6_become 5 = .ok (.ifCond .eq 13, 3) := dk_153 0 13 (dk_at dksX6_become_0 5 rfl rfl)
theorem dX6_become_8 : decode cX6_become 8 = .ok (.iload_n 2, 1) := dk_28 (dk_at dksX6_become_0 8 rfl rfl)
theorem dX6_become_9 : decode cX6_become 9 = .ok (.iconst 0, 1) := dk_3 (dk_at dksX6_become_0 9 rfl rfl)
theorem dX6_become_10 : decode cX6_become 10 = .ok (.bipush 69, 2) := dk_16 69 (dk_at dksX6_become_0 10 rfl rfl)
theorem dX6_become_12 : decode cX6_become 12 = .ok (.invokestatic 48, 3) := dk_184 0 48 (dk_at dksX6_become_0 12 rfl rfl)
theorem dX6_become_15 : decode cX6_become 15 = .ok (.ifCond .ne 10, 3) := dk_154 0 10 (dk_at dksX6_become_0 15 rfl rfl)
theorem dX6_become_18 : decode cX6_become 18 = .ok (.aload_n 0, 1) := dk_42 (dk_at dksX6_become_0 18 rfl rfl)
theorem dX6_become_19 : decode cX6_become 19 = .ok (.ldc 52, 2) := dk_18 52 (dk_at dksX6_become_0 19 rfl rfl)
theorem dX6_become_21 : decode cX6_become 21 = .ok (.invokevirtual 53, 3) := dk_182 0 53 (dk_at dksX6_become_0 21 rfl rfl)
theorem dX6_become_24 : decode cX6_become 24 = .ok (.ireturn, 1) := dk_172 (dk_at dksX6_become_1 0 rfl rfl)
theorem dX6_become_25 : decode cX6_become 25 = .ok (.aload_n 0, 1) := dk_42 (dk_at dksX6_become_1 1 rfl rfl)
theorem dX6_become_26 : decode cX6_become 26 = .ok (.iload_n 1, 1) := dk_27 (dk_at dksX6_become_1 2 rfl rfl)
theorem dX6_become_27 : decode cX6_become 27 = .ok (.iconst 1, 1) := dk_4 (dk_at dksX6_become_1 3 rfl rfl)
theorem dX6_become_28 : decode cX6_become 28 = .ok (.iload_n 2, 1) := dk_28 (dk_at dksX6_become_1 4 rfl rfl)
theorem dX6_become_29 : decode cX6_become 29 = .ok (.bipush 10, 2) := dk_16 10 (dk_at dksX6_become_1 5 rfl rfl)
theorem dX6_become_31 : decode cX6_become 31 = .ok (.irem, 1) := dk_112 (dk_at dksX6_become_1 7 rfl rfl)
theorem dX6_become_32 : decode cX6_become 32 = .ok (.invokevirtual 58, 3) := dk_182 0 58 (dk_at dksX6_become_1 8 rfl rfl)
theorem dX6_become_35 : decode cX6_become 35 = .ok (.aload_n 0, 1) := dk_42 (dk_at dksX6_become_1 11 rfl rfl)
theorem dX6_become_36 : decode cX6_become 36 = .ok (.bipush 7, 2) := dk_16 7 (dk_at dksX6_become_1 12 rfl rfl)
theorem dX6_become_38 : decode cX6_become 38 = .ok (.iconst 5, 1) := dk_8 (dk_at dksX6_become_1 14 rfl rfl)
theorem dX6_become_39 : decode cX6_become 39 = .ok (.iload_n 1, 1) := dk_27 (dk_at dksX6_become_1 15 rfl rfl)
theorem dX6_become_40 : decode cX6_become 40 = .ok (.imul, 1) := dk_104 (dk_at dksX6_become_1 16 rfl rfl)
theorem dX6_become_41 : decode cX6_become 41 = .ok (.iadd, 1) := dk_96 (dk_at dksX6_become_1 17 rfl rfl)
theorem dX6_become_42 : decode cX6_become 42 = .ok (.iload_n 2, 1) := dk_28 (dk_at dksX6_become_1 18 rfl rfl)
theorem dX6_become_43 : decode cX6_become 43 = .ok (.bipush 10, 2) := dk_16 10 (dk_at dksX6_become_1 19 rfl rfl)
theorem dX6_become_45 : decode cX6_become 45 = .ok (.idiv, 1) := dk_108 (dk_at dksX6_become_1 21 rfl rfl)
theorem dX6_become_46 : decode cX6_become 46 = .ok (.invokevirtual 79, 3) := dk_182 0 79 (dk_at dksX6_become_2 0 rfl rfl)
theorem dX6_become_49 : decode cX6_become 49 = .ok (.ireturn, 1) := dk_172 (dk_at dksX6_become_2 3 rfl rfl)
abbrev cX6_as : ByteArray := prog_30_method_20_code
def yX6_as : MethodName := ⟨RX6, "as", "(II)I"⟩
def dkwX6_as_2 : List UInt8 := [167, 255, 242, 29, 156, 0, 12, 42, 18, 92, 182, 0, 53, 167, 0, 9, 42, 27, 4, 182, 0, 75, 172]
abbrev dktX6_as_2 : List UInt8 := dkwX6_as_2 ++ []
def dkwX6_as_1 : List UInt8 := [172, 42, 27, 3, 182, 0, 75, 62, 29, 155, 0, 16, 29, 28, 159, 0, 11, 29, 184, 0, 89, 62]
abbrev dktX6_as_1 : List UInt8 := dkwX6_as_1 ++ dktX6_as_2
def dkwX6_as_0 : List UInt8 := [42, 27, 182, 0, 62, 153, 0, 13, 28, 3, 16, 6, 184, 0, 48, 154, 0, 10, 42, 18, 52, 182, 0, 53]
abbrev dktX6_as_0 : List UInt8 := dkwX6_as_0 ++ dktX6_as_1
theorem dksX6_as_0 : cX6_as.data.toList.drop 0 = dktX6_as_0 := by decide +kernel
theorem dksX6_as_1 : cX6_as.data.toList.drop 24 = dktX6_as_1 := dk_seg dksX6_as_0 24 rfl rfl
theorem dksX6_as_2 : cX6_as.data.toList.drop 46 = dktX6_as_2 := dk_seg dksX6_as_1 22 rfl rfl
theorem dX6_as_0 : decode cX6_as 0 = .ok (.aload_n 0, 1) := dk_42 (dk_at dksX6_as_0 0 rfl rfl)
theorem dX6_as_1 : decode cX6_as 1 = .ok (.iload_n 1, 1) := dk_27 (dk_at dksX6_as_0 1 rfl rfl)
theorem dX6_as_2 : decode cX6_as 2 = .ok (.invokevirtual 62, 3) := dk_182 0 62 (dk_at dksX6_as_0 2 rfl rfl)
theorem dX6_as_5 : decode cX6_as 5 = .ok (.ifCond .eq 13, 3) := dk_153 0 13 (dk_at dksX6_as_0 5 rfl rfl)
theorem dX6_as_8 : decode cX6_as 8 = .ok (.iload_n 2, 1) := dk_28 (dk_at dksX6_as_0 8 rfl rfl)
theorem dX6_as_9 : decode cX6_as 9 = .ok (.iconst 0, 1) := dk_3 (dk_at dksX6_as_0 9 rfl rfl)
theorem dX6_as_10 : decode cX6_as 10 = .ok (.bipush 6, 2) := dk_16 6 (dk_at dksX6_as_0 10 rfl rfl)
theorem dX6_as_12 : decode cX6_as 12 = .ok (.invokestatic 48, 3) := dk_184 0 48 (dk_at dksX6_as_0 12 rfl rfl)
theorem dX6_as_15 : decode cX6_as 15 = .ok (.ifCond .ne 10, 3) := dk_154 0 10 (dk_at dksX6_as_0 15 rfl rfl)
theorem dX6_as_18 : decode cX6_as 18 = .ok (.aload_n 0, 1) := dk_42 (dk_at dksX6_as_0 18 rfl rfl)
theorem dX6_as_19 : decode cX6_as 19 = .ok (.ldc 52, 2) := dk_18 52 (dk_at dksX6_as_0 19 rfl rfl)
theorem dX6_as_21 : decode cX6_as 21 = .ok (.invokevirtual 53, 3) := dk_182 0 53 (dk_at dksX6_as_0 21 rfl rfl)
theorem dX6_as_24 : decode cX6_as 24 = .ok (.ireturn, 1) := dk_172 (dk_at dksX6_as_1 0 rfl rfl)
theorem dX6_as_25 : decode cX6_as 25 = .ok (.aload_n 0, 1) := dk_42 (dk_at dksX6_as_1 1 rfl rfl)
theorem dX6_as_26 : decode cX6_as 26 = .ok (.iload_n 1, 1) := dk_27 (dk_at dksX6_as_1 2 rfl rfl)
theorem dX6_as_27 : decode cX6_as 27 = .ok (.iconst 0, 1) := dk_3 (dk_at dksX6_as_1 3 rfl rfl)
theorem dX6_as_28 : decode cX6_as 28 = .ok (.invokevirtual 75, 3) := dk_182 0 75 (dk_at dksX6_as_1 4 rfl rfl)
theorem dX6_as_31 : decode cX6_as 31 = .ok (.istore_n 3, 1) := dk_62 (dk_at dksX6_as_1 7 rfl rfl)
theorem dX6_as_32 : decode cX6_as 32 = .ok (.iload_n 3, 1) := dk_29 (dk_at dksX6_as_1 8 rfl rfl)
theorem dX6_as_33 : decode cX6_as 33 = .ok (.ifCond .lt 16, 3) := dk_155 0 16 (dk_at dksX6_as_1 9 rfl rfl)
theorem dX6_as_36 : decode cX6_as 36 = .ok (.iload_n 3, 1) := dk_29 (dk_at dksX6_as_1 12 rfl rfl)
theorem dX6_as_37 : decode cX6_as 37 = .ok (.iload_n 2, 1) := dk_28 (dk_at dksX6_as_1 13 rfl rfl)
theorem dX6_as_38 : decode cX6_as 38 = .ok (.if_icmp .eq 11, 3) := dk_159 0 11 (dk_at dksX6_as_1 14 rfl rfl)
theorem dX6_as_41 : decode cX6_as 41 = .ok (.iload_n 3, 1) := dk_29 (dk_at dksX6_as_1 17 rfl rfl)
theorem dX6_as_42 : decode cX6_as 42 = .ok (.invokestatic 89, 3) := dk_184 0 89 (dk_at dksX6_as_1 18 rfl rfl)
theorem dX6_as_45 : decode cX6_as 45 = .ok (.istore_n 3, 1) := dk_62 (dk_at dksX6_as_1 21 rfl rfl)
theorem dX6_as_46 : decode cX6_as 46 = .ok (.goto (-14), 3) := dk_167 255 242 (dk_at dksX6_as_2 0 rfl rfl)
theorem dX6_as_49 : decode cX6_as 49 = .ok (.iload_n 3, 1) := dk_29 (dk_at dksX6_as_2 3 rfl rfl)
theorem dX6_as_50 : decode cX6_as 50 = .ok (.ifCond .ge 12, 3) := dk_156 0 12 (dk_at dksX6_as_2 4 rfl rfl)
theorem dX6_as_53 : decode cX6_as 53 = .ok (.aload_n 0, 1) := dk_42 (dk_at dksX6_as_2 7 rfl rfl)
theorem dX6_as_54 : decode cX6_as 54 = .ok (.ldc 92, 2) := dk_18 92 (dk_at dksX6_as_2 8 rfl rfl)
theorem dX6_as_56 : decode cX6_as 56 = .ok (.invokevirtual 53, 3) := dk_182 0 53 (dk_at dksX6_as_2 10 rfl rfl)
theorem dX6_as_59 : decode cX6_as 59 = .ok (.goto 9, 3) := dk_167 0 9 (dk_at dksX6_as_2 13 rfl rfl)
theorem dX6_as_62 : decode cX6_as 62 = .ok (.aload_n 0, 1) := dk_42 (dk_at dksX6_as_2 16 rfl rfl)
theorem dX6_as_63 : decode cX6_as 63 = .ok (.iload_n 1, 1) := dk_27 (dk_at dksX6_as_2 17 rfl rfl)
theorem dX6_as_64 : decode cX6_as 64 = .ok (.iconst 1, 1) := dk_4 (dk_at dksX6_as_2 18 rfl rfl)
theorem dX6_as_65 : decode cX6_as 65 = .ok (.invokevirtual 75, 3) := dk_182 0 75 (dk_at dksX6_as_2 19 rfl rfl)
theorem dX6_as_68 : decode cX6_as 68 = .ok (.ireturn, 1) := dk_172 (dk_at dksX6_as_2 22 rfl rfl)
abbrev cX6_above : ByteArray := prog_30_method_19_code
def yX6_above : MethodName := ⟨RX6, "above", "(I)I"⟩
def dkwX6_above_0 : List UInt8 := [26, 154, 0, 7, 2, 167, 0, 15, 26, 6, 164, 0, 9, 26, 6, 100, 167, 0, 4, 3, 172]
abbrev dktX6_above_0 : List UInt8 := dkwX6_above_0 ++ []
theorem dksX6_above_0 : cX6_above.data.toList.drop 0 = dktX6_above_0 := by decide +kernel
theorem dX6_above_0 : decode cX6_above 0 = .ok (.iload_n 0, 1) := dk_26 (dk_at dksX6_above_0 0 rfl rfl)
theorem dX6_above_1 : decode cX6_above 1 = .ok (.ifCond .ne 7, 3) := dk_154 0 7 (dk_at dksX6_above_0 1 rfl rfl)
theorem dX6_above_4 : decode cX6_above 4 = .ok (.iconst (-1), 1) := dk_2 (dk_at dksX6_above_0 4 rfl rfl)
theorem dX6_above_5 : decode cX6_above 5 = .ok (.goto 15, 3) := dk_167 0 15 (dk_at dksX6_above_0 5 rfl rfl)
theorem dX6_above_8 : decode cX6_above 8 = .ok (.iload_n 0, 1) := dk_26 (dk_at dksX6_above_0 8 rfl rfl)
theorem dX6_above_9 : decode cX6_above 9 = .ok (.iconst 3, 1) := dk_6 (dk_at dksX6_above_0 9 rfl rfl)
theorem dX6_above_10 : decode cX6_above 10 = .ok (.if_icmp .le 9, 3) := dk_164 0 9 (dk_at dksX6_above_0 10 rfl rfl)
theorem dX6_above_13 : decode cX6_above 13 = .ok (.iload_n 0, 1) := dk_26 (dk_at dksX6_above_0 13 rfl rfl)
theorem dX6_above_14 : decode cX6_above 14 = .ok (.iconst 3, 1) := dk_6 (dk_at dksX6_above_0 14 rfl rfl)
theorem dX6_above_15 : decode cX6_above 15 = .ok (.isub, 1) := dk_100 (dk_at dksX6_above_0 15 rfl rfl)
theorem dX6_above_16 : decode cX6_above 16 = .ok (.goto 4, 3) := dk_167 0 4 (dk_at dksX6_above_0 16 rfl rfl)
theorem dX6_above_19 : decode cX6_above 19 = .ok (.iconst 0, 1) := dk_3 (dk_at dksX6_above_0 19 rfl rfl)
theorem dX6_above_20 : decode cX6_above 20 = .ok (.ireturn, 1) := dk_172 (dk_at dksX6_above_0 20 rfl rfl)
abbrev cX6_law : ByteArray := prog_30_method_34_code
def yX6_law : MethodName := ⟨RX6, "law", "(IIII)I"⟩
def dkwX6_law_1 : List UInt8 := [182, 0, 53, 172]
abbrev dktX6_law_1 : List UInt8 := dkwX6_law_1 ++ []
def dkwX6_law_0 : List UInt8 := [27, 3, 4, 184, 0, 48, 153, 0, 15, 42, 27, 28, 29, 21, 4, 182, 0, 160, 167, 0, 9, 42, 18, 52]
abbrev dktX6_law_0 : List UInt8 := dkwX6_law_0 ++ dktX6_law_1
theorem dksX6_law_0 : cX6_law.data.toList.drop 0 = dktX6_law_0 := by decide +kernel
theorem dksX6_law_1 : cX6_law.data.toList.drop 24 = dktX6_law_1 := dk_seg dksX6_law_0 24 rfl rfl
theorem dX6_law_0 : decode cX6_law 0 = .ok (.iload_n 1, 1) := dk_27 (dk_at dksX6_law_0 0 rfl rfl)
theorem dX6_law_1 : decode cX6_law 1 = .ok (.iconst 0, 1) := dk_3 (dk_at dksX6_law_0 1 rfl rfl)
theorem dX6_law_2 : decode cX6_law 2 = .ok (.iconst 1, 1) := dk_4 (dk_at dksX6_law_0 2 rfl rfl)
theorem dX6_law_3 : decode cX6_law 3 = .ok (.invokestatic 48, 3) := dk_184 0 48 (dk_at dksX6_law_0 3 rfl rfl)
theorem dX6_law_6 : decode cX6_law 6 = .ok (.ifCond .eq 15, 3) := dk_153 0 15 (dk_at dksX6_law_0 6 rfl rfl)
theorem dX6_law_9 : decode cX6_law 9 = .ok (.aload_n 0, 1) := dk_42 (dk_at dksX6_law_0 9 rfl rfl)
theorem dX6_law_10 : decode cX6_law 10 = .ok (.iload_n 1, 1) := dk_27 (dk_at dksX6_law_0 10 rfl rfl)
theorem dX6_law_11 : decode cX6_law 11 = .ok (.iload_n 2, 1) := dk_28 (dk_at dksX6_law_0 11 rfl rfl)
theorem dX6_law_12 : decode cX6_law 12 = .ok (.iload_n 3, 1) := dk_29 (dk_at dksX6_law_0 12 rfl rfl)
theorem dX6_law_13 : decode cX6_law 13 = .ok (.iload 4, 2) := dk_21 4 (dk_at dksX6_law_0 13 rfl rfl)
theorem dX6_law_15 : decode cX6_law 15 = .ok (.invokevirtual 160, 3) := dk_182 0 160 (dk_at dksX6_law_0 15 rfl rfl)
theorem dX6_law_18 : decode cX6_law 18 = .ok (.goto 9, 3) := dk_167 0 9 (dk_at dksX6_law_0 18 rfl rfl)
theorem dX6_law_21 : decode cX6_law 21 = .ok (.aload_n 0, 1) := dk_42 (dk_at dksX6_law_0 21 rfl rfl)
theorem dX6_law_22 : decode cX6_law 22 = .ok (.ldc 52, 2) := dk_18 52 (dk_at dksX6_law_0 22 rfl rfl)
theorem dX6_law_24 : decode cX6_law 24 = .ok (.invokevirtual 53, 3) := dk_182 0 53 (dk_at dksX6_law_1 0 rfl rfl)
theorem dX6_law_27 : decode cX6_law 27 = .ok (.ireturn, 1) := dk_172 (dk_at dksX6_law_1 3 rfl rfl)
abbrev cX6_feed : ByteArray := prog_30_method_35_code
def yX6_feed : MethodName := ⟨RX6, "feed", "(JI)I"⟩
def dkwX6_feed_3 : List UInt8 := [79, 42, 180, 0, 7, 6, 92, 46, 4, 96, 79, 132, 4, 1, 167, 255, 211, 42, 180, 0, 7, 6, 46, 172]
abbrev dktX6_feed_3 : List UInt8 := dkwX6_feed_3 ++ []
def dkwX6_feed_2 : List UInt8 := [180, 0, 7, 16, 111, 42, 180, 0, 7, 6, 46, 96, 31, 16, 8, 21, 4, 104, 123, 20, 0, 163, 127, 136]
abbrev dktX6_feed_2 : List UInt8 := dkwX6_feed_2 ++ dktX6_feed_3
def dkwX6_feed_1 : List UInt8 := [96, 16, 50, 164, 0, 10, 42, 18, 57, 182, 0, 53, 172, 3, 54, 4, 21, 4, 29, 162, 0, 45, 42]
abbrev dktX6_feed_1 : List UInt8 := dkwX6_feed_1 ++ dktX6_feed_2
def dkwX6_feed_0 : List UInt8 := [29, 4, 16, 8, 184, 0, 48, 154, 0, 10, 42, 18, 52, 182, 0, 53, 172, 42, 180, 0, 7, 6, 46, 29]
abbrev dktX6_feed_0 : List UInt8 := dkwX6_feed_0 ++ dktX6_feed_1
theorem dksX6_feed_0 : cX6_feed.data.toList.drop 0 = dktX6_feed_0 := by decide +kernel
theorem dksX6_feed_1 : cX6_feed.data.toList.drop 24 = dktX6_feed_1 := dk_seg dksX6_feed_0 24 rfl rfl
theorem dksX6_feed_2 : cX6_feed.data.toList.drop 47 = dktX6_feed_2 := dk_seg dksX6_feed_1 23 rfl rfl
theorem dksX6_feed_3 : cX6_feed.data.toList.drop 71 = dktX6_feed_3 := dk_seg dksX6_feed_2 24 rfl rfl
theorem dX6_feed_0 : decode cX6_feed 0 = .ok (.iload_n 3, 1) := dk_29 (dk_at dksX6_feed_0 0 rfl rfl)
theorem dX6_feed_1 : decode cX6_feed 1 = .ok (.iconst 1, 1) := dk_4 (dk_at dksX6_feed_0 1 rfl rfl)
theorem dX6_feed_2 : decode cX6_feed 2 = .ok (.bipush 8, 2) := dk_16 8 (dk_at dksX6_feed_0 2 rfl rfl)
theorem dX6_feed_4 : decode cX6_feed 4 = .ok (.invokestatic 48, 3) := dk_184 0 48 (dk_at dksX6_feed_0 4 rfl rfl)
theorem dX6_feed_7 : decode cX6_feed 7 = .ok (.ifCond .ne 10, 3) := dk_154 0 10 (dk_at dksX6_feed_0 7 rfl rfl)
theorem dX6_feed_10 : decode cX6_feed 10 = .ok (.aload_n 0, 1) := dk_42 (dk_at dksX6_feed_0 10 rfl rfl)
theorem dX6_feed_11 : decode cX6_feed 11 = .ok (.ldc 52, 2) := dk_18 52 (dk_at dksX6_feed_0 11 rfl rfl)
theorem dX6_feed_13 : decode cX6_feed 13 = .ok (.invokevirtual 53, 3) := dk_182 0 53 (dk_at dksX6_feed_0 13 rfl rfl)
theorem dX6_feed_16 : decode cX6_feed 16 = .ok (.ireturn, 1) := dk_172 (dk_at dksX6_feed_0 16 rfl rfl)
theorem dX6_feed_17 : decode cX6_feed 17 = .ok (.aload_n 0, 1) := dk_42 (dk_at dksX6_feed_0 17 rfl rfl)
theorem dX6_feed_18 : decode cX6_feed 18 = .ok (.getfield 7, 3) := dk_180 0 7 (dk_at dksX6_feed_0 18 rfl rfl)
theorem dX6_feed_21 : decode cX6_feed 21 = .ok (.iconst 3, 1) := dk_6 (dk_at dksX6_feed_0 21 rfl rfl)
theorem dX6_feed_22 : decode cX6_feed 22 = .ok (.iaload, 1) := dk_46 (dk_at dksX6_feed_0 22 rfl rfl)
theorem dX6_feed_23 : decode cX6_feed 23 = .ok (.iload_n 3, 1) := dk_29 (dk_at dksX6_feed_0 23 rfl rfl)
theorem dX6_feed_24 : decode cX6_feed 24 = .ok (.iadd, 1) := dk_96 (dk_at dksX6_feed_1 0 rfl rfl)
theorem dX6_feed_25 : decode cX6_feed 25 = .ok (.bipush 50, 2) := dk_16 50 (dk_at dksX6_feed_1 1 rfl rfl)
theorem dX6_feed_27 : decode cX6_feed 27 = .ok (.if_icmp .le 10, 3) := dk_164 0 10 (dk_at dksX6_feed_1 3 rfl rfl)
theorem dX6_feed_30 : decode cX6_feed 30 = .ok (.aload_n 0, 1) := dk_42 (dk_at dksX6_feed_1 6 rfl rfl)
theorem dX6_feed_31 : decode cX6_feed 31 = .ok (.ldc 57, 2) := dk_18 57 (dk_at dksX6_feed_1 7 rfl rfl)
theorem dX6_feed_33 : decode cX6_feed 33 = .ok (.invokevirtual 53, 3) := dk_182 0 53 (dk_at dksX6_feed_1 9 rfl rfl)
theorem dX6_feed_36 : decode cX6_feed 36 = .ok (.ireturn, 1) := dk_172 (dk_at dksX6_feed_1 12 rfl rfl)
theorem dX6_feed_37 : decode cX6_feed 37 = .ok (.iconst 0, 1) := dk_3 (dk_at dksX6_feed_1 13 rfl rfl)
theorem dX6_feed_38 : decode cX6_feed 38 = .ok (.istore 4, 2) := dk_54 4 (dk_at dksX6_feed_1 14 rfl rfl)
theorem dX6_feed_40 : decode cX6_feed 40 = .ok (.iload 4, 2) := dk_21 4 (dk_at dksX6_feed_1 16 rfl rfl)
theorem dX6_feed_42 : decode cX6_feed 42 = .ok (.iload_n 3, 1) := dk_29 (dk_at dksX6_feed_1 18 rfl rfl)
theorem dX6_feed_43 : decode cX6_feed 43 = .ok (.if_icmp .ge 45, 3) := dk_162 0 45 (dk_at dksX6_feed_1 19 rfl rfl)
theorem dX6_feed_46 : decode cX6_feed 46 = .ok (.aload_n 0, 1) := dk_42 (dk_at dksX6_feed_1 22 rfl rfl)
theorem dX6_feed_47 : decode cX6_feed 47 = .ok (.getfield 7, 3) := dk_180 0 7 (dk_at dksX6_feed_2 0 rfl rfl)
theorem dX6_feed_50 : decode cX6_feed 50 = .ok (.bipush 111, 2) := dk_16 111 (dk_at dksX6_feed_2 3 rfl rfl)
theorem dX6_feed_52 : decode cX6_feed 52 = .ok (.aload_n 0, 1) := dk_42 (dk_at dksX6_feed_2 5 rfl rfl)
theorem dX6_feed_53 : decode cX6_feed 53 = .ok (.getfield 7, 3) := dk_180 0 7 (dk_at dksX6_feed_2 6 rfl rfl)
theorem dX6_feed_56 : decode cX6_feed 56 = .ok (.iconst 3, 1) := dk_6 (dk_at dksX6_feed_2 9 rfl rfl)
theorem dX6_feed_57 : decode cX6_feed 57 = .ok (.iaload, 1) := dk_46 (dk_at dksX6_feed_2 10 rfl rfl)
theorem dX6_feed_58 : decode cX6_feed 58 = .ok (.iadd, 1) := dk_96 (dk_at dksX6_feed_2 11 rfl rfl)
theorem dX6_feed_59 : decode cX6_feed 59 = .ok (.lload_n 1, 1) := dk_31 (dk_at dksX6_feed_2 12 rfl rfl)
theorem dX6_feed_60 : decode cX6_feed 60 = .ok (.bipush 8, 2) := dk_16 8 (dk_at dksX6_feed_2 13 rfl rfl)
theorem dX6_feed_62 : decode cX6_feed 62 = .ok (.iload 4, 2) := dk_21 4 (dk_at dksX6_feed_2 15 rfl rfl)
theorem dX6_feed_64 : decode cX6_feed 64 = .ok (.imul, 1) := dk_104 (dk_at dksX6_feed_2 17 rfl rfl)
theorem dX6_feed_65 : decode cX6_feed 65 = .ok (.lshr, 1) := dk_123 (dk_at dksX6_feed_2 18 rfl rfl)
theorem dX6_feed_66 : decode cX6_feed 66 = .ok (.ldc2_w 163, 3) := dk_20 0 163 (dk_at dksX6_feed_2 19 rfl rfl)
theorem dX6_feed_69 : decode cX6_feed 69 = .ok (.land, 1) := dk_127 (dk_at dksX6_feed_2 22 rfl rfl)
theorem dX6_feed_70 : decode cX6_feed 70 = .ok (.l2i, 1) := dk_136 (dk_at dksX6_feed_2 23 rfl rfl)
theorem dX6_feed_71 : decode cX6_feed 71 = .ok (.iastore, 1) := dk_79 (dk_at dksX6_feed_3 0 rfl rfl)
theorem dX6_feed_72 : decode cX6_feed 72 = .ok (.aload_n 0, 1) := dk_42 (dk_at dksX6_feed_3 1 rfl rfl)
theorem dX6_feed_73 : decode cX6_feed 73 = .ok (.getfield 7, 3) := dk_180 0 7 (dk_at dksX6_feed_3 2 rfl rfl)
theorem dX6_feed_76 : decode cX6_feed 76 = .ok (.iconst 3, 1) := dk_6 (dk_at dksX6_feed_3 5 rfl rfl)
theorem dX6_feed_77 : decode cX6_feed 77 = .ok (.dup2, 1) := dk_92 (dk_at dksX6_feed_3 6 rfl rfl)
theorem dX6_feed_78 : decode cX6_feed 78 = .ok (.iaload, 1) := dk_46 (dk_at dksX6_feed_3 7 rfl rfl)
theorem dX6_feed_79 : decode cX6_feed 79 = .ok (.iconst 1, 1) := dk_4 (dk_at dksX6_feed_3 8 rfl rfl)
theorem dX6_feed_80 : decode cX6_feed 80 = .ok (.iadd, 1) := dk_96 (dk_at dksX6_feed_3 9 rfl rfl)
theorem dX6_feed_81 : decode cX6_feed 81 = .ok (.iastore, 1) := dk_79 (dk_at dksX6_feed_3 10 rfl rfl)
theorem dX6_feed_82 : decode cX6_feed 82 = .ok (.iinc 4 1, 3) := dk_132 4 1 (dk_at dksX6_feed_3 11 rfl rfl)
theorem dX6_feed_85 : decode cX6_feed 85 = .ok (.goto (-45), 3) := dk_167 255 211 (dk_at dksX6_feed_3 14 rfl rfl)
theorem dX6_feed_88 : decode cX6_feed 88 = .ok (.aload_n 0, 1) := dk_42 (dk_at dksX6_feed_3 17 rfl rfl)
theorem dX6_feed_89 : decode cX6_feed 89 = .ok (.getfield 7, 3) := dk_180 0 7 (dk_at dksX6_feed_3 18 rfl rfl)
theorem dX6_feed_92 : decode cX6_feed 92 = .ok (.iconst 3, 1) := dk_6 (dk_at dksX6_feed_3 21 rfl rfl)
theorem dX6_feed_93 : decode cX6_feed 93 = .ok (.iaload, 1) := dk_46 (dk_at dksX6_feed_3 22 rfl rfl)
theorem dX6_feed_94 : decode cX6_feed 94 = .ok (.ireturn, 1) := dk_172 (dk_at dksX6_feed_3 23 rfl rfl)
abbrev cX6_text : ByteArray := prog_30_method_36_code
def yX6_text : MethodName := ⟨RX6, "text", "(I)I"⟩
def dkwX6_text_6 : List UInt8 := [167, 0, 8, 16, 246, 21, 4, 100, 172]
abbrev dktX6_text_6 : List UInt8 := dkwX6_text_6 ++ []
def dkwX6_text_5 : List UInt8 := [42, 42, 180, 0, 19, 42, 180, 0, 7, 182, 0, 165, 42, 180, 0, 7, 6, 3, 79, 29, 153, 0, 7, 4]
abbrev dktX6_text_5 : List UInt8 := dkwX6_text_5 ++ dktX6_text_6
def dkwX6_text_4 : List UInt8 := [153, 0, 12, 28, 28, 160, 0, 7, 4, 167, 0, 4, 3, 62, 42, 180, 0, 103, 54, 4, 29, 154, 0, 15]
abbrev dktX6_text_4 : List UInt8 := dkwX6_text_4 ++ dktX6_text_5
def dkwX6_text_3 : List UInt8 := [8, 27, 96, 42, 180, 0, 7, 6, 46, 79, 42, 27, 4, 4, 4, 182, 0, 152, 61, 42, 180, 0, 99]
abbrev dktX6_text_3 : List UInt8 := dkwX6_text_3 ++ dktX6_text_4
def dkwX6_text_2 : List UInt8 := [104, 96, 28, 96, 42, 180, 0, 7, 16, 111, 28, 96, 46, 79, 132, 2, 1, 167, 255, 223, 42, 180, 0, 7]
abbrev dktX6_text_2 : List UInt8 := dkwX6_text_2 ++ dktX6_text_3
def dkwX6_text_1 : List UInt8 := [180, 0, 19, 182, 0, 165, 3, 61, 28, 16, 50, 162, 0, 33, 42, 180, 0, 7, 17, 0, 181, 16, 50, 27]
abbrev dktX6_text_1 : List UInt8 := dkwX6_text_1 ++ dktX6_text_2
def dkwX6_text_0 : List UInt8 := [27, 3, 4, 184, 0, 48, 154, 0, 10, 42, 18, 52, 182, 0, 53, 172, 42, 42, 180, 0, 7, 42]
abbrev dktX6_text_0 : List UInt8 := dkwX6_text_0 ++ dktX6_text_1
theorem dksX6_text_0 : cX6_text.data.toList.drop 0 = dktX6_text_0 := by decide +kernel
theorem dksX6_text_1 : cX6_text.data.toList.drop 22 = dktX6_text_1 := dk_seg dksX6_text_0 22 rfl rfl
theorem dksX6_text_2 : cX6_text.data.toList.drop 46 = dktX6_text_2 := dk_seg dksX6_text_1 24 rfl rfl
theorem dksX6_text_3 : cX6_text.data.toList.drop 70 = dktX6_text_3 := dk_seg dksX6_text_2 24 rfl rfl
theorem dksX6_text_4 : cX6_text.data.toList.drop 93 = dktX6_text_4 := dk_seg dksX6_text_3 23 rfl rfl
theorem dksX6_text_5 : cX6_text.data.toList.drop 117 = dktX6_text_5 := dk_seg dksX6_text_4 24 rfl rfl
theorem dksX6_text_6 : cX6_text.data.toList.drop 141 = dktX6_text_6 := dk_seg dksX6_text_5 24 rfl rfl
theorem dX6_text_0 : decode cX6_text 0 = .ok (.iload_n 1, 1) := dk_27 (dk_at dksX6_text_0 0 rfl rfl)
theorem dX6_text_1 : decode cX6_text 1 = .ok (.iconst 0, 1) := dk_3 (dk_at dksX6_text_0 1 rfl rfl)
theorem dX6_text_2 : decode cX6_text 2 = .ok (.iconst 1, 1) := dk_4 (dk_at dksX6_text_0 2 rfl rfl)
theorem dX6_text_3 : decode cX6_text 3 = .ok (.invokestatic 48, 3) := dk_184 0 48 (dk_at dksX6_text_0 3 rfl rfl)
theorem dX6_text_6 : decode cX6_text 6 = .ok (.ifCond .ne 10, 3) := dk_154 0 10 (dk_at dksX6_text_0 6 rfl rfl)
theorem dX6_text_9 : decode cX6_text 9 = .ok (.aload_n 0, 1) := dk_42 (dk_at dksX6_text_0 9 rfl rfl)
theorem dX6_text_10 : decode cX6_text 10 = .ok (.ldc 52, 2) := dk_18 52 (dk_at dksX6_text_0 10 rfl rfl)
theorem dX6_text_12 : decode cX6_text 12 = .ok (.invokevirtual 53, 3) := dk_182 0 53 (dk_at dksX6_text_0 12 rfl rfl)
theorem dX6_text_15 : decode cX6_text 15 = .ok (.ireturn, 1) := dk_172 (dk_at dksX6_text_0 15 rfl rfl)
theorem dX6_text_16 : decode cX6_text 16 = .ok (.aload_n 0, 1) := dk_42 (dk_at dksX6_text_0 16 rfl rfl)
theorem dX6_text_17 : decode cX6_text 17 = .ok (.aload_n 0, 1) := dk_42 (dk_at dksX6_text_0 17 rfl rfl)
theorem dX6_text_18 : decode cX6_text 18 = .ok (.getfield 7, 3) := dk_180 0 7 (dk_at dksX6_text_0 18 rfl rfl)
theorem dX6_text_21 : decode cX6_text 21 = .ok (.aload_n 0, 1) := dk_42 (dk_at dksX6_text_0 21 rfl rfl)
theorem dX6_text_22 : decode cX6_text 22 = .ok (.getfield 19, 3) := dk_180 0 19 (dk_at dksX6_text_1 0 rfl rfl)
theorem dX6_text_25 : decode cX6_text 25 = .ok (.invokevirtual 165, 3) := dk_182 0 165 (dk_at dksX6_text_1 3 rfl rfl)
theorem dX6_text_28 : decode cX6_text 28 = .ok (.iconst 0, 1) := dk_3 (dk_at dksX6_text_1 6 rfl rfl)
theorem dX6_text_29 : decode cX6_text 29 = .ok (.istore_n 2, 1) := dk_61 (dk_at dksX6_text_1 7 rfl rfl)
theorem dX6_text_30 : decode cX6_text 30 = .ok (.iload_n 2, 1) := dk_28 (dk_at dksX6_text_1 8 rfl rfl)
theorem dX6_text_31 : decode cX6_text 31 = .ok (.bipush 50, 2) := dk_16 50 (dk_at dksX6_text_1 9 rfl rfl)
theorem dX6_text_33 : decode cX6_text 33 = .ok (.if_icmp .ge 33, 3) := dk_162 0 33 (dk_at dksX6_text_1 11 rfl rfl)
theorem dX6_text_36 : decode cX6_text 36 = .ok (.aload_n 0, 1) := dk_42 (dk_at dksX6_text_1 14 rfl rfl)
theorem dX6_text_37 : decode cX6_text 37 = .ok (.getfield 7, 3) := dk_180 0 7 (dk_at dksX6_text_1 15 rfl rfl)
theorem dX6_text_40 : decode cX6_text 40 = .ok (.sipush 181, 3) := dk_17 0 181 (dk_at dksX6_text_1 18 rfl rfl)
theorem dX6_text_43 : decode cX6_text 43 = .ok (.bipush 50, 2) := dk_16 50 (dk_at dksX6_text_1 21 rfl rfl)
theorem dX6_text_45 : decode cX6_text 45 = .ok (.iload_n 1, 1) := dk_27 (dk_at dksX6_text_1 23 rfl rfl)
theorem dX6_text_46 : decode cX6_text 46 = .ok (.imul, 1) := dk_104 (dk_at dksX6_text_2 0 rfl rfl)
theorem dX6_text_47 : decode cX6_text 47 = .ok (.iadd, 1) := dk_96 (dk_at dksX6_text_2 1 rfl rfl)
theorem dX6_text_48 : decode cX6_text 48 = .ok (.iload_n 2, 1) := dk_28 (dk_at dksX6_text_2 2 rfl rfl)
theorem dX6_text_49 : decode cX6_text 49 = .ok (.iadd, 1) := dk_96 (dk_at dksX6_text_2 3 rfl rfl)
theorem dX6_text_50 : decode cX6_text 50 = .ok (.aload_n 0, 1) := dk_42 (dk_at dksX6_text_2 4 rfl rfl)
theorem dX6_text_51 : decode cX6_text 51 = .ok (.getfield 7, 3) := dk_180 0 7 (dk_at dksX6_text_2 5 rfl rfl)
theorem dX6_text_54 : decode cX6_text 54 = .ok (.bipush 111, 2) := dk_16 111 (dk_at dksX6_text_2 8 rfl rfl)
theorem dX6_text_56 : decode cX6_text 56 = .ok (.iload_n 2, 1) := dk_28 (dk_at dksX6_text_2 10 rfl rfl)
theorem dX6_text_57 : decode cX6_text 57 = .ok (.iadd, 1) := dk_96 (dk_at dksX6_text_2 11 rfl rfl)
theorem dX6_text_58 : decode cX6_text 58 = .ok (.iaload, 1) := dk_46 (dk_at dksX6_text_2 12 rfl rfl)
theorem dX6_text_59 : decode cX6_text 59 = .ok (.iastore, 1) := dk_79 (dk_at dksX6_text_2 13 rfl rfl)
theorem dX6_text_60 : decode cX6_text 60 = .ok (.iinc 2 1, 3) := dk_132 2 1 (dk_at dksX6_text_2 14 rfl rfl)
theorem dX6_text_63 : decode cX6_text 63 = .ok (.goto (-33), 3) := dk_167 255 223 (dk_at dksX6_text_2 17 rfl rfl)
theorem dX6_text_66 : decode cX6_text 66 = .ok (.aload_n 0, 1) := dk_42 (dk_at dksX6_text_2 20 rfl rfl)
theorem dX6_text_67 : decode cX6_text 67 = .ok (.getfield 7, 3) := dk_180 0 7 (dk_at dksX6_text_2 21 rfl rfl)
theorem dX6_text_70 : decode cX6_text 70 = .ok (.iconst 5, 1) := dk_8 (dk_at dksX6_text_3 0 rfl rfl)
theorem dX6_text_71 : decode cX6_text 71 = .ok (.iload_n 1, 1) := dk_27 (dk_at dksX6_text_3 1 rfl rfl)
theorem dX6_text_72 : decode cX6_text 72 = .ok (.iadd, 1) := dk_96 (dk_at dksX6_text_3 2 rfl rfl)
theorem dX6_text_73 : decode cX6_text 73 = .ok (.aload_n 0, 1) := dk_42 (dk_at dksX6_text_3 3 rfl rfl)
theorem dX6_text_74 : decode cX6_text 74 = .ok (.getfield 7, 3) := dk_180 0 7 (dk_at dksX6_text_3 4 rfl rfl)
theorem dX6_text_77 : decode cX6_text 77 = .ok (.iconst 3, 1) := dk_6 (dk_at dksX6_text_3 7 rfl rfl)
theorem dX6_text_78 : decode cX6_text 78 = .ok (.iaload, 1) := dk_46 (dk_at dksX6_text_3 8 rfl rfl)
theorem dX6_text_79 : decode cX6_text 79 = .ok (.iastore, 1) := dk_79 (dk_at dksX6_text_3 9 rfl rfl)
theorem dX6_text_80 : decode cX6_text 80 = .ok (.aload_n 0, 1) := dk_42 (dk_at dksX6_text_3 10 rfl rfl)
theorem dX6_text_81 : decode cX6_text 81 = .ok (.iload_n 1, 1) := dk_27 (dk_at dksX6_text_3 11 rfl rfl)
theorem dX6_text_82 : decode cX6_text 82 = .ok (.iconst 1, 1) := dk_4 (dk_at dksX6_text_3 12 rfl rfl)
theorem dX6_text_83 : decode cX6_text 83 = .ok (.iconst 1, 1) := dk_4 (dk_at dksX6_text_3 13 rfl rfl)
theorem dX6_text_84 : decode cX6_text 84 = .ok (.iconst 1, 1) := dk_4 (dk_at dksX6_text_3 14 rfl rfl)
theorem dX6_text_85 : decode cX6_text 85 = .ok (.invokevirtual 152, 3) := dk_182 0 152 (dk_at dksX6_text_3 15 rfl rfl)
theorem dX6_text_88 : decode cX6_text 88 = .ok (.istore_n 2, 1) := dk_61 (dk_at dksX6_text_3 18 rfl rfl)
theorem dX6_text_89 : decode cX6_text 89 = .ok (.aload_n 0, 1) := dk_42 (dk_at dksX6_text_3 19 rfl rfl)
theorem dX6_text_90 : decode cX6_text 90 = .ok (.getfield 99, 3) := dk_180 0 99 (dk_at dksX6_text_3 20 rfl rfl)
theorem dX6_text_93 : decode cX6_text 93 = .ok (.ifCond .eq 12, 3) := dk_153 0 12 (dk_at dksX6_text_4 0 rfl rfl)
theorem dX6_text_96 : decode cX6_text 96 = .ok (.iload_n 2, 1) := dk_28 (dk_at dksX6_text_4 3 rfl rfl)
theorem dX6_text_97 : decode cX6_text 97 = .ok (.iload_n 2, 1) := dk_28 (dk_at dksX6_text_4 4 rfl rfl)
theorem dX6_text_98 : decode cX6_text 98 = .ok (.if_icmp .ne 7, 3) := dk_160 0 7 (dk_at dksX6_text_4 5 rfl rfl)
theorem dX6_text_101 : decode cX6_text 101 = .ok (.iconst 1, 1) := dk_4 (dk_at dksX6_text_4 8 rfl rfl)
theorem dX6_text_102 : decode cX6_text 102 = .ok (.goto 4, 3) := dk_167 0 4 (dk_at dksX6_text_4 9 rfl rfl)
theorem dX6_text_105 : decode cX6_text 105 = .ok (.iconst 0, 1) := dk_3 (dk_at dksX6_text_4 12 rfl rfl)
theorem dX6_text_106 : decode cX6_text 106 = .ok (.istore_n 3, 1) := dk_62 (dk_at dksX6_text_4 13 rfl rfl)
theorem dX6_text_107 : decode cX6_text 107 = .ok (.aload_n 0, 1) := dk_42 (dk_at dksX6_text_4 14 rfl rfl)
theorem dX6_text_108 : decode cX6_text 108 = .ok (.getfield 103, 3) := dk_180 0 103 (dk_at dksX6_text_4 15 rfl rfl)
theorem dX6_text_111 : decode cX6_text 111 = .ok (.istore 4, 2) := dk_54 4 (dk_at dksX6_text_4 18 rfl rfl)
theorem dX6_text_113 : decode cX6_text 113 = .ok (.iload_n 3, 1) := dk_29 (dk_at dksX6_text_4 20 rfl rfl)
theorem dX6_text_114 : decode cX6_text 114 = .ok (.ifCond .ne 15, 3) := dk_154 0 15 (dk_at dksX6_text_4 21 rfl rfl)
theorem dX6_text_117 : decode cX6_text 117 = .ok (.aload_n 0, 1) := dk_42 (dk_at dksX6_text_5 0 rfl rfl)
theorem dX6_text_118 : decode cX6_text 118 = .ok (.aload_n 0, 1) := dk_42 (dk_at dksX6_text_5 1 rfl rfl)
theorem dX6_text_119 : decode cX6_text 119 = .ok (.getfield 19, 3) := dk_180 0 19 (dk_at dksX6_text_5 2 rfl rfl)
theorem dX6_text_122 : decode cX6_text 122 = .ok (.aload_n 0, 1) := dk_42 (dk_at dksX6_text_5 5 rfl rfl)
theorem dX6_text_123 : decode cX6_text 123 = .ok (.getfield 7, 3) := dk_180 0 7 (dk_at dksX6_text_5 6 rfl rfl)
theorem dX6_text_126 : decode cX6_text 126 = .ok (.invokevirtual 165, 3) := dk_182 0 165 (dk_at dksX6_text_5 9 rfl rfl)
theorem dX6_text_129 : decode cX6_text 129 = .ok (.aload_n 0, 1) := dk_42 (dk_at dksX6_text_5 12 rfl rfl)
theorem dX6_text_130 : decode cX6_text 130 = .ok (.getfield 7, 3) := dk_180 0 7 (dk_at dksX6_text_5 13 rfl rfl)
theorem dX6_text_133 : decode cX6_text 133 = .ok (.iconst 3, 1) := dk_6 (dk_at dksX6_text_5 16 rfl rfl)
theorem dX6_text_134 : decode cX6_text 134 = .ok (.iconst 0, 1) := dk_3 (dk_at dksX6_text_5 17 rfl rfl)
theorem dX6_text_135 : decode cX6_text 135 = .ok (.iastore, 1) := dk_79 (dk_at dksX6_text_5 18 rfl rfl)
theorem dX6_text_136 : decode cX6_text 136 = .ok (.iload_n 3, 1) := dk_29 (dk_at dksX6_text_5 19 rfl rfl)
theorem dX6_text_137 : decode cX6_text 137 = .ok (.ifCond .eq 7, 3) := dk_153 0 7 (dk_at dksX6_text_5 20 rfl rfl)
theorem dX6_text_140 : decode cX6_text 140 = .ok (.iconst 1, 1) := dk_4 (dk_at dksX6_text_5 23 rfl rfl)
theorem dX6_text_141 : decode cX6_text 141 = .ok (.goto 8, 3) := dk_167 0 8 (dk_at dksX6_text_6 0 rfl rfl)
theorem dX6_text_144 : decode cX6_text 144 = .ok (.bipush (-10), 2) := dk_16 246 (dk_at dksX6_text_6 3 rfl rfl)
theorem dX6_text_146 : decode cX6_text 146 = .ok (.iload 4, 2) := dk_21 4 (dk_at dksX6_text_6 5 rfl rfl)
theorem dX6_text_148 : decode cX6_text 148 = .ok (.isub, 1) := dk_100 (dk_at dksX6_text_6 7 rfl rfl)
theorem dX6_text_149 : decode cX6_text 149 = .ok (.ireturn, 1) := dk_172 (dk_at dksX6_text_6 8 rfl rfl)
abbrev cX6_moveAll : ByteArray := prog_30_method_5_code
def yX6_moveAll : MethodName := ⟨RX6, "moveAll", "([I[I)V"⟩
def dkwX6_moveAll_0 : List UInt8 := [3, 62, 29, 17, 1, 25, 162, 0, 15, 44, 29, 43, 29, 46, 79, 132, 3, 1, 167, 255, 240, 177]
abbrev dktX6_moveAll_0 : List UInt8 := dkwX6_moveAll_0 ++ []
theorem dksX6_moveAll_0 : cX6_moveAll.data.toList.drop 0 = dktX6_moveAll_0 := by decide +kernel
theorem dX6_moveAll_0 : decode cX6_moveAll 0 = .ok (.iconst 0, 1) := dk_3 (dk_at dksX6_moveAll_0 0 rfl rfl)
theorem dX6_moveAll_1 : decode cX6_moveAll 1 = .ok (.istore_n 3, 1) := dk_62 (dk_at dksX6_moveAll_0 1 rfl rfl)
theorem dX6_moveAll_2 : decode cX6_moveAll 2 = .ok (.iload_n 3, 1) := dk_29 (dk_at dksX6_moveAll_0 2 rfl rfl)
theorem dX6_moveAll_3 : decode cX6_moveAll 3 = .ok (.sipush 281, 3) := dk_17 1 25 (dk_at dksX6_moveAll_0 3 rfl rfl)
theorem dX6_moveAll_6 : decode cX6_moveAll 6 = .ok (.if_icmp .ge 15, 3) := dk_162 0 15 (dk_at dksX6_moveAll_0 6 rfl rfl)
theorem dX6_moveAll_9 : decode cX6_moveAll 9 = .ok (.aload_n 2, 1) := dk_44 (dk_at dksX6_moveAll_0 9 rfl rfl)
theorem dX6_moveAll_10 : decode cX6_moveAll 10 = .ok (.iload_n 3, 1) := dk_29 (dk_at dksX6_moveAll_0 10 rfl rfl)
theorem dX6_moveAll_11 : decode cX6_moveAll 11 = .ok (.aload_n 1, 1) := dk_43 (dk_at dksX6_moveAll_0 11 rfl rfl)
theorem dX6_moveAll_12 : decode cX6_moveAll 12 = .ok (.iload_n 3, 1) := dk_29 (dk_at dksX6_moveAll_0 12 rfl rfl)
theorem dX6_moveAll_13 : decode cX6_moveAll 13 = .ok (.iaload, 1) := dk_46 (dk_at dksX6_moveAll_0 13 rfl rfl)
theorem dX6_moveAll_14 : decode cX6_moveAll 14 = .ok (.iastore, 1) := dk_79 (dk_at dksX6_moveAll_0 14 rfl rfl)
theorem dX6_moveAll_15 : decode cX6_moveAll 15 = .ok (.iinc 3 1, 3) := dk_132 3 1 (dk_at dksX6_moveAll_0 15 rfl rfl)
theorem dX6_moveAll_18 : decode cX6_moveAll 18 = .ok (.goto (-16), 3) := dk_167 255 240 (dk_at dksX6_moveAll_0 18 rfl rfl)
theorem dX6_moveAll_21 : decode cX6_moveAll 21 = .ok (.return_, 1) := dk_177 (dk_at dksX6_moveAll_0 21 rfl rfl)
abbrev cX6_days : ByteArray := prog_30_method_46_code
def yX6_days : MethodName := ⟨RX6, "days", "(I)I"⟩
def dkwX6_days_2 : List UInt8 := [172]
abbrev dktX6_days_2 : List UInt8 := dkwX6_days_2 ++ []
def dkwX6_days_1 : List UInt8 := [96, 17, 39, 15, 164, 0, 10, 42, 18, 182, 182, 0, 53, 172, 42, 27, 182, 0, 183, 42, 6, 182, 0, 186]
abbrev dktX6_days_1 : List UInt8 := dkwX6_days_1 ++ dktX6_days_2
def dkwX6_days_0 : List UInt8 := [27, 4, 16, 60, 184, 0, 48, 154, 0, 10, 42, 18, 52, 182, 0, 53, 172, 42, 180, 0, 7, 3, 46, 27]
abbrev dktX6_days_0 : List UInt8 := dkwX6_days_0 ++ dktX6_days_1
theorem dksX6_days_0 : cX6_days.data.toList.drop 0 = dktX6_days_0 := by decide +kernel
theorem dksX6_days_1 : cX6_days.data.toList.drop 24 = dktX6_days_1 := dk_seg dksX6_days_0 24 rfl rfl
theorem dksX6_days_2 : cX6_days.data.toList.drop 48 = dktX6_days_2 := dk_seg dksX6_days_1 24 rfl rfl
theorem dX6_days_0 : decode cX6_days 0 = .ok (.iload_n 1, 1) := dk_27 (dk_at dksX6_days_0 0 rfl rfl)
theorem dX6_days_1 : decode cX6_days 1 = .ok (.iconst 1, 1) := dk_4 (dk_at dksX6_days_0 1 rfl rfl)
theorem dX6_days_2 : decode cX6_days 2 = .ok (.bipush 60, 2) := dk_16 60 (dk_at dksX6_days_0 2 rfl rfl)
theorem dX6_days_4 : decode cX6_days 4 = .ok (.invokestatic 48, 3) := dk_184 0 48 (dk_at dksX6_days_0 4 rfl rfl)
theorem dX6_days_7 : decode cX6_days 7 = .ok (.ifCond .ne 10, 3) := dk_154 0 10 (dk_at dksX6_days_0 7 rfl rfl)
theorem dX6_days_10 : decode cX6_days 10 = .ok (.aload_n 0, 1) := dk_42 (dk_at dksX6_days_0 10 rfl rfl)
theorem dX6_days_11 : decode cX6_days 11 = .ok (.ldc 52, 2) := dk_18 52 (dk_at dksX6_days_0 11 rfl rfl)
theorem dX6_days_13 : decode cX6_days 13 = .ok (.invokevirtual 53, 3) := dk_182 0 53 (dk_at dksX6_days_0 13 rfl rfl)
theorem dX6_days_16 : decode cX6_days 16 = .ok (.ireturn, 1) := dk_172 (dk_at dksX6_days_0 16 rfl rfl)
theorem dX6_days_17 : decode cX6_days 17 = .ok (.aload_n 0, 1) := dk_42 (dk_at dksX6_days_0 17 rfl rfl)
theorem dX6_days_18 : decode cX6_days 18 = .ok (.getfield 7, 3) := dk_180 0 7 (dk_at dksX6_days_0 18 rfl rfl)
theorem dX6_days_21 : decode cX6_days 21 = .ok (.iconst 0, 1) := dk_3 (dk_at dksX6_days_0 21 rfl rfl)
theorem dX6_days_22 : decode cX6_days 22 = .ok (.iaload, 1) := dk_46 (dk_at dksX6_days_0 22 rfl rfl)
theorem dX6_days_23 : decode cX6_days 23 = .ok (.iload_n 1, 1) := dk_27 (dk_at dksX6_days_0 23 rfl rfl)
theorem dX6_days_24 : decode cX6_days 24 = .ok (.iadd, 1) := dk_96 (dk_at dksX6_days_1 0 rfl rfl)
theorem dX6_days_25 : decode cX6_days 25 = .ok (.sipush 9999, 3) := dk_17 39 15 (dk_at dksX6_days_1 1 rfl rfl)
theorem dX6_days_28 : decode cX6_days 28 = .ok (.if_icmp .le 10, 3) := dk_164 0 10 (dk_at dksX6_days_1 4 rfl rfl)
theorem dX6_days_31 : decode cX6_days 31 = .ok (.aload_n 0, 1) := dk_42 (dk_at dksX6_days_1 7 rfl rfl)
theorem dX6_days_32 : decode cX6_days 32 = .ok (.ldc 182, 2) := dk_18 182 (dk_at dksX6_days_1 8 rfl rfl)
theorem dX6_days_34 : decode cX6_days 34 = .ok (.invokevirtual 53, 3) := dk_182 0 53 (dk_at dksX6_days_1 10 rfl rfl)
theorem dX6_days_37 : decode cX6_days 37 = .ok (.ireturn, 1) := dk_172 (dk_at dksX6_days_1 13 rfl rfl)
theorem dX6_days_38 : decode cX6_days 38 = .ok (.aload_n 0, 1) := dk_42 (dk_at dksX6_days_1 14 rfl rfl)
theorem dX6_days_39 : decode cX6_days 39 = .ok (.iload_n 1, 1) := dk_27 (dk_at dksX6_days_1 15 rfl rfl)
theorem dX6_days_40 : decode cX6_days 40 = .ok (.invokevirtual 183, 3) := dk_182 0 183 (dk_at dksX6_days_1 16 rfl rfl)
theorem dX6_days_43 : decode cX6_days 43 = .ok (.aload_n 0, 1) := dk_42 (dk_at dksX6_days_1 19 rfl rfl)
theorem dX6_days_44 : decode cX6_days 44 = .ok (.iconst 3, 1) := dk_6 (dk_at dksX6_days_1 20 rfl rfl)
theorem dX6_days_45 : decode cX6_days 45 = .ok (.invokevirtual 186, 3) := dk_182 0 186 (dk_at dksX6_days_1 21 rfl rfl)
theorem dX6_days_48 : decode cX6_days 48 = .ok (.ireturn, 1) := dk_172 (dk_at dksX6_days_2 0 rfl rfl)
abbrev cX6_passes : ByteArray := prog_30_method_44_code
def yX6_passes : MethodName := ⟨RX6, "passes", "(I)V"⟩
def dkwX6_passes_0 : List UInt8 := [3, 61, 28, 27, 162, 0, 13, 42, 182, 0, 179, 132, 2, 1, 167, 255, 244, 177]
abbrev dktX6_passes_0 : List UInt8 := dkwX6_passes_0 ++ []
theorem dksX6_passes_0 : cX6_passes.data.toList.drop 0 = dktX6_passes_0 := by decide +kernel
theorem dX6_passes_0 : decode cX6_passes 0 = .ok (.iconst 0, 1) := dk_3 (dk_at dksX6_passes_0 0 rfl rfl)
theorem dX6_passes_1 : decode cX6_passes 1 = .ok (.istore_n 2, 1) := dk_61 (dk_at dksX6_passes_0 1 rfl rfl)
theorem dX6_passes_2 : decode cX6_passes 2 = .ok (.iload_n 2, 1) := dk_28 (dk_at dksX6_passes_0 2 rfl rfl)
theorem dX6_passes_3 : decode cX6_passes 3 = .ok (.iload_n 1, 1) := dk_27 (dk_at dksX6_passes_0 3 rfl rfl)
theorem dX6_passes_4 : decode cX6_passes 4 = .ok (.if_icmp .ge 13, 3) := dk_162 0 13 (dk_at dksX6_passes_0 4 rfl rfl)
theorem dX6_passes_7 : decode cX6_passes 7 = .ok (.aload_n 0, 1) := dk_42 (dk_at dksX6_passes_0 7 rfl rfl)
theorem dX6_passes_8 : decode cX6_passes 8 = .ok (.invokevirtual 179, 3) := dk_182 0 179 (dk_at dksX6_passes_0 8 rfl rfl)
theorem dX6_passes_11 : decode cX6_passes 11 = .ok (.iinc 2 1, 3) := dk_132 2 1 (dk_at dksX6_passes_0 11 rfl rfl)
theorem dX6_passes_14 : decode cX6_passes 14 = .ok (.goto (-12), 3) := dk_167 255 244 (dk_at dksX6_passes_0 14 rfl rfl)
theorem dX6_passes_17 : decode cX6_passes 17 = .ok (.return_, 1) := dk_177 (dk_at dksX6_passes_0 17 rfl rfl)
abbrev cX6_oneDay : ByteArray := prog_30_method_43_code
def yX6_oneDay : MethodName := ⟨RX6, "oneDay", "()V"⟩
def dkwX6_oneDay_5 : List UInt8 := [167, 0, 4, 3, 182, 0, 58, 132, 1, 1, 167, 255, 187, 42, 180, 0, 7, 3, 92, 46, 4, 96, 79, 177]
abbrev dktX6_oneDay_5 : List UInt8 := dkwX6_oneDay_5 ++ []
def dkwX6_oneDay_4 : List UInt8 := [182, 0, 58, 42, 27, 7, 28, 156, 0, 20, 42, 27, 7, 182, 0, 75, 28, 100, 3, 16, 99, 184, 0, 156]
abbrev dktX6_oneDay_4 : List UInt8 := dkwX6_oneDay_4 ++ dktX6_oneDay_5
def dkwX6_oneDay_3 : List UInt8 := [27, 6, 182, 0, 75, 42, 27, 182, 0, 69, 100, 61, 42, 27, 6, 28, 156, 0, 7, 3, 167, 0, 4, 28]
abbrev dktX6_oneDay_3 : List UInt8 := dkwX6_oneDay_3 ++ dktX6_oneDay_4
def dkwX6_oneDay_2 : List UInt8 := [42, 27, 182, 0, 175, 132, 1, 1, 167, 255, 202, 3, 60, 27, 42, 180, 0, 7, 5, 46, 162, 0, 65, 42]
abbrev dktX6_oneDay_2 : List UInt8 := dkwX6_oneDay_2 ++ dktX6_oneDay_3
def dkwX6_oneDay_1 : List UInt8 := [27, 6, 182, 0, 75, 42, 27, 182, 0, 66, 96, 3, 17, 3, 231, 184, 0, 156, 182, 0, 58, 167, 0, 8]
abbrev dktX6_oneDay_1 : List UInt8 := dkwX6_oneDay_1 ++ dktX6_oneDay_2
def dkwX6_oneDay_0 : List UInt8 := [3, 60, 27, 42, 180, 0, 7, 5, 46, 162, 0, 50, 42, 27, 182, 0, 72, 153, 0, 31, 42, 27, 6, 42]
abbrev dktX6_oneDay_0 : List UInt8 := dkwX6_oneDay_0 ++ dktX6_oneDay_1
theorem dksX6_oneDay_0 : cX6_oneDay.data.toList.drop 0 = dktX6_oneDay_0 := by decide +kernel
theorem dksX6_oneDay_1 : cX6_oneDay.data.toList.drop 24 = dktX6_oneDay_1 := dk_seg dksX6_oneDay_0 24 rfl rfl
theorem dksX6_oneDay_2 : cX6_oneDay.data.toList.drop 48 = dktX6_oneDay_2 := dk_seg dksX6_oneDay_1 24 rfl rfl
theorem dksX6_oneDay_3 : cX6_oneDay.data.toList.drop 72 = dktX6_oneDay_3 := dk_seg dksX6_oneDay_2 24 rfl rfl
theorem dksX6_oneDay_4 : cX6_oneDay.data.toList.drop 96 = dktX6_oneDay_4 := dk_seg dksX6_oneDay_3 24 rfl rfl
theorem dksX6_oneDay_5 : cX6_oneDay.data.toList.drop 120 = dktX6_oneDay_5 := dk_seg dksX6_oneDay_4 24 rfl rfl
theorem dX6_oneDay_0 : decode cX6_oneDay 0 = .ok (.iconst 0, 1) := dk_3 (dk_at dksX6_oneDay_0 0 rfl rfl)
theorem dX6_oneDay_1 : decode cX6_oneDay 1 = .ok (.istore_n 1, 1) := dk_60 (dk_at dksX6_oneDay_0 1 rfl rfl)
theorem dX6_oneDay_2 : decode cX6_oneDay 2 = .ok (.iload_n 1, 1) := dk_27 (dk_at dksX6_oneDay_0 2 rfl rfl)
theorem dX6_oneDay_3 : decode cX6_oneDay 3 = .ok (.aload_n 0, 1) := dk_42 (dk_at dksX6_oneDay_0 3 rfl rfl)
theorem dX6_oneDay_4 : decode cX6_oneDay 4 = .ok (.getfield 7, 3) := dk_180 0 7 (dk_at dksX6_oneDay_0 4 rfl rfl)
theorem dX6_oneDay_7 : decode cX6_oneDay 7 = .ok (.iconst 2, 1) := dk_5 (dk_at dksX6_oneDay_0 7 rfl rfl)
theorem dX6_oneDay_8 : decode cX6_oneDay 8 = .ok (.iaload, 1) := dk_46 (dk_at dksX6_oneDay_0 8 rfl rfl)
theorem dX6_oneDay_9 : decode cX6_oneDay 9 = .ok (.if_icmp .ge 50, 3) := dk_162 0 50 (dk_at dksX6_oneDay_0 9 rfl rfl)
theorem dX6_oneDay_12 : decode cX6_oneDay 12 = .ok (.aload_n 0, 1) := dk_42 (dk_at dksX6_oneDay_0 12 rfl rfl)
theorem dX6_oneDay_13 : decode cX6_oneDay 13 = .ok (.iload_n 1, 1) := dk_27 (dk_at dksX6_oneDay_0 13 rfl rfl)
theorem dX6_oneDay_14 : decode cX6_oneDay 14 = .ok (.invokevirtual 72, 3) := dk_182 0 72 (dk_at dksX6_oneDay_0 14 rfl rfl)
theorem dX6_oneDay_17 : decode cX6_oneDay 17 = .ok (.ifCond .eq 31, 3) := dk_153 0 31 (dk_at dksX6_oneDay_0 17 rfl rfl)
theorem dX6_oneDay_20 : decode cX6_oneDay 20 = .ok (.aload_n 0, 1) := dk_42 (dk_at dksX6_oneDay_0 20 rfl rfl)
theorem dX6_oneDay_21 : decode cX6_oneDay 21 = .ok (.iload_n 1, 1) := dk_27 (dk_at dksX6_oneDay_0 21 rfl rfl)
theorem dX6_oneDay_22 : decode cX6_oneDay 22 = .ok (.iconst 3, 1) := dk_6 (dk_at dksX6_oneDay_0 22 rfl rfl)
theorem dX6_oneDay_23 : decode cX6_oneDay 23 = .ok (.aload_n 0, 1) := dk_42 (dk_at dksX6_oneDay_0 23 rfl rfl)
theorem dX6_oneDay_24 : decode cX6_oneDay 24 = .ok (.iload_n 1, 1) := dk_27 (dk_at dksX6_oneDay_1 0 rfl rfl)
theorem dX6_oneDay_25 : decode cX6_oneDay 25 = .ok (.iconst 3, 1) := dk_6 (dk_at dksX6_oneDay_1 1 rfl rfl)
theorem dX6_oneDay_26 : decode cX6_oneDay 26 = .ok (.invokevirtual 75, 3) := dk_182 0 75 (dk_at dksX6_oneDay_1 2 rfl rfl)
theorem dX6_oneDay_29 : decode cX6_oneDay 29 = .ok (.aload_n 0, 1) := dk_42 (dk_at dksX6_oneDay_1 5 rfl rfl)
theorem dX6_oneDay_30 : decode cX6_oneDay 30 = .ok (.iload_n 1, 1) := dk_27 (dk_at dksX6_oneDay_1 6 rfl rfl)
theorem dX6_oneDay_31 : decode cX6_oneDay 31 = .ok (.invokevirtual 66, 3) := dk_182 0 66 (dk_at dksX6_oneDay_1 7 rfl rfl)
theorem dX6_oneDay_34 : decode cX6_oneDay 34 = .ok (.iadd, 1) := dk_96 (dk_at dksX6_oneDay_1 10 rfl rfl)
theorem dX6_oneDay_35 : decode cX6_oneDay 35 = .ok (.iconst 0, 1) := dk_3 (dk_at dksX6_oneDay_1 11 rfl rfl)
theorem dX6_oneDay_36 : decode cX6_oneDay 36 = .ok (.sipush 999, 3) := dk_17 3 231 (dk_at dksX6_oneDay_1 12 rfl rfl)
theorem dX6_oneDay_39 : decode cX6_oneDay 39 = .ok (.invokestatic 156, 3) := dk_184 0 156 (dk_at dksX6_oneDay_1 15 rfl rfl)
theorem dX6_oneDay_42 : decode cX6_oneDay 42 = .ok (.invokevirtual 58, 3) := dk_182 0 58 (dk_at dksX6_oneDay_1 18 rfl rfl)
theorem dX6_oneDay_45 : decode cX6_oneDay 45 = .ok (.goto 8, 3) := dk_167 0 8 (dk_at dksX6_oneDay_1 21 rfl rfl)
theorem dX6_oneDay_48 : decode cX6_oneDay 48 = .ok (.aload_n 0, 1) := dk_42 (dk_at dksX6_oneDay_2 0 rfl rfl)
theorem dX6_oneDay_49 : decode cX6_oneDay 49 = .ok (.iload_n 1, 1) := dk_27 (dk_at dksX6_oneDay_2 1 rfl rfl)
theorem dX6_oneDay_50 : decode cX6_oneDay 50 = .ok (.invokevirtual 175, 3) := dk_182 0 175 (dk_at dksX6_oneDay_2 2 rfl rfl)
theorem dX6_oneDay_53 : decode cX6_oneDay 53 = .ok (.iinc 1 1, 3) := dk_132 1 1 (dk_at dksX6_oneDay_2 5 rfl rfl)
theorem dX6_oneDay_56 : decode cX6_oneDay 56 = .ok (.goto (-54), 3) := dk_167 255 202 (dk_at dksX6_oneDay_2 8 rfl rfl)
theorem dX6_oneDay_59 : decode cX6_oneDay 59 = .ok (.iconst 0, 1) := dk_3 (dk_at dksX6_oneDay_2 11 rfl rfl)
theorem dX6_oneDay_60 : decode cX6_oneDay 60 = .ok (.istore_n 1, 1) := dk_60 (dk_at dksX6_oneDay_2 12 rfl rfl)
theorem dX6_oneDay_61 : decode cX6_oneDay 61 = .ok (.iload_n 1, 1) := dk_27 (dk_at dksX6_oneDay_2 13 rfl rfl)
theorem dX6_oneDay_62 : decode cX6_oneDay 62 = .ok (.aload_n 0, 1) := dk_42 (dk_at dksX6_oneDay_2 14 rfl rfl)
theorem dX6_oneDay_63 : decode cX6_oneDay 63 = .ok (.getfield 7, 3) := dk_180 0 7 (dk_at dksX6_oneDay_2 15 rfl rfl)
theorem dX6_oneDay_66 : decode cX6_oneDay 66 = .ok (.iconst 2, 1) := dk_5 (dk_at dksX6_oneDay_2 18 rfl rfl)
theorem dX6_oneDay_67 : decode cX6_oneDay 67 = .ok (.iaload, 1) := dk_46 (dk_at dksX6_oneDay_2 19 rfl rfl)
theorem dX6_oneDay_68 : decode cX6_oneDay 68 = .ok (.if_icmp .ge 65, 3) := dk_162 0 65 (dk_at dksX6_oneDay_2 20 rfl rfl)
theorem dX6_oneDay_71 : decode cX6_oneDay 71 = .ok (.aload_n 0, 1) := dk_42 (dk_at dksX6_oneDay_2 23 rfl rfl)
theorem dX6_oneDay_72 : decode cX6_oneDay 72 = .ok (.iload_n 1, 1) := dk_27 (dk_at dksX6_oneDay_3 0 rfl rfl)
theorem dX6_oneDay_73 : decode cX6_oneDay 73 = .ok (.iconst 3, 1) := dk_6 (dk_at dksX6_oneDay_3 1 rfl rfl)
theorem dX6_oneDay_74 : decode cX6_oneDay 74 = .ok (.invokevirtual 75, 3) := dk_182 0 75 (dk_at dksX6_oneDay_3 2 rfl rfl)
theorem dX6_oneDay_77 : decode cX6_oneDay 77 = .ok (.aload_n 0, 1) := dk_42 (dk_at dksX6_oneDay_3 5 rfl rfl)
theorem dX6_oneDay_78 : decode cX6_oneDay 78 = .ok (.iload_n 1, 1) := dk_27 (dk_at dksX6_oneDay_3 6 rfl rfl)
theorem dX6_oneDay_79 : decode cX6_oneDay 79 = .ok (.invokevirtual 69, 3) := dk_182 0 69 (dk_at dksX6_oneDay_3 7 rfl rfl)
theorem dX6_oneDay_82 : decode cX6_oneDay 82 = .ok (.isub, 1) := dk_100 (dk_at dksX6_oneDay_3 10 rfl rfl)
theorem dX6_oneDay_83 : decode cX6_oneDay 83 = .ok (.istore_n 2, 1) := dk_61 (dk_at dksX6_oneDay_3 11 rfl rfl)
theorem dX6_oneDay_84 : decode cX6_oneDay 84 = .ok (.aload_n 0, 1) := dk_42 (dk_at dksX6_oneDay_3 12 rfl rfl)
theorem dX6_oneDay_85 : decode cX6_oneDay 85 = .ok (.iload_n 1, 1) := dk_27 (dk_at dksX6_oneDay_3 13 rfl rfl)
theorem dX6_oneDay_86 : decode cX6_oneDay 86 = .ok (.iconst 3, 1) := dk_6 (dk_at dksX6_oneDay_3 14 rfl rfl)
theorem dX6_oneDay_87 : decode cX6_oneDay 87 = .ok (.iload_n 2, 1) := dk_28 (dk_at dksX6_oneDay_3 15 rfl rfl)
theorem dX6_oneDay_88 : decode cX6_oneDay 88 = .ok (.ifCond .ge 7, 3) := dk_156 0 7 (dk_at dksX6_oneDay_3 16 rfl rfl)
theorem dX6_oneDay_91 : decode cX6_oneDay 91 = .ok (.iconst 0, 1) := dk_3 (dk_at dksX6_oneDay_3 19 rfl rfl)
theorem dX6_oneDay_92 : decode cX6_oneDay 92 = .ok (.goto 4, 3) := dk_167 0 4 (dk_at dksX6_oneDay_3 20 rfl rfl)
theorem dX6_oneDay_95 : decode cX6_oneDay 95 = .ok (.iload_n 2, 1) := dk_28 (dk_at dksX6_oneDay_3 23 rfl rfl)
theorem dX6_oneDay_96 : decode cX6_oneDay 96 = .ok (.invokevirtual 58, 3) := dk_182 0 58 (dk_at dksX6_oneDay_4 0 rfl rfl)
theorem dX6_oneDay_99 : decode cX6_oneDay 99 = .ok (.aload_n 0, 1) := dk_42 (dk_at dksX6_oneDay_4 3 rfl rfl)
theorem dX6_oneDay_100 : decode cX6_oneDay 100 = .ok (.iload_n 1, 1) := dk_27 (dk_at dksX6_oneDay_4 4 rfl rfl)
theorem dX6_oneDay_101 : decode cX6_oneDay 101 = .ok (.iconst 4, 1) := dk_7 (dk_at dksX6_oneDay_4 5 rfl rfl)
theorem dX6_oneDay_102 : decode cX6_oneDay 102 = .ok (.iload_n 2, 1) := dk_28 (dk_at dksX6_oneDay_4 6 rfl rfl)
theorem dX6_oneDay_103 : decode cX6_oneDay 103 = .ok (.ifCond .ge 20, 3) := dk_156 0 20 (dk_at dksX6_oneDay_4 7 rfl rfl)
theorem dX6_oneDay_106 : decode cX6_oneDay 106 = .ok (.aload_n 0, 1) := dk_42 (dk_at dksX6_oneDay_4 10 rfl rfl)
theorem dX6_oneDay_107 : decode cX6_oneDay 107 = .ok (.iload_n 1, 1) := dk_27 (dk_at dksX6_oneDay_4 11 rfl rfl)
theorem dX6_oneDay_108 : decode cX6_oneDay 108 = .ok (.iconst 4, 1) := dk_7 (dk_at dksX6_oneDay_4 12 rfl rfl)
theorem dX6_oneDay_109 : decode cX6_oneDay 109 = .ok (.invokevirtual 75, 3) := dk_182 0 75 (dk_at dksX6_oneDay_4 13 rfl rfl)
theorem dX6_oneDay_112 : decode cX6_oneDay 112 = .ok (.iload_n 2, 1) := dk_28 (dk_at dksX6_oneDay_4 16 rfl rfl)
theorem dX6_oneDay_113 : decode cX6_oneDay 113 = .ok (.isub, 1) := dk_100 (dk_at dksX6_oneDay_4 17 rfl rfl)
theorem dX6_oneDay_114 : decode cX6_oneDay 114 = .ok (.iconst 0, 1) := dk_3 (dk_at dksX6_oneDay_4 18 rfl rfl)
theorem dX6_oneDay_115 : decode cX6_oneDay 115 = .ok (.bipush 99, 2) := dk_16 99 (dk_at dksX6_oneDay_4 19 rfl rfl)
theorem dX6_oneDay_117 : decode cX6_oneDay 117 = .ok (.invokestatic 156, 3) := dk_184 0 156 (dk_at dksX6_oneDay_4 21 rfl rfl)
theorem dX6_oneDay_120 : decode cX6_oneDay 120 = .ok (.goto 4, 3) := dk_167 0 4 (dk_at dksX6_oneDay_5 0 rfl rfl)
theorem dX6_oneDay_123 : decode cX6_oneDay 123 = .ok (.iconst 0, 1) := dk_3 (dk_at dksX6_oneDay_5 3 rfl rfl)
theorem dX6_oneDay_124 : decode cX6_oneDay 124 = .ok (.invokevirtual 58, 3) := dk_182 0 58 (dk_at dksX6_oneDay_5 4 rfl rfl)
theorem dX6_oneDay_127 : decode cX6_oneDay 127 = .ok (.iinc 1 1, 3) := dk_132 1 1 (dk_at dksX6_oneDay_5 7 rfl rfl)
theorem dX6_oneDay_130 : decode cX6_oneDay 130 = .ok (.goto (-69), 3) := dk_167 255 187 (dk_at dksX6_oneDay_5 10 rfl rfl)
theorem dX6_oneDay_133 : decode cX6_oneDay 133 = .ok (.aload_n 0, 1) := dk_42 (dk_at dksX6_oneDay_5 13 rfl rfl)
theorem dX6_oneDay_134 : decode cX6_oneDay 134 = .ok (.getfield 7, 3) := dk_180 0 7 (dk_at dksX6_oneDay_5 14 rfl rfl)
theorem dX6_oneDay_137 : decode cX6_oneDay 137 = .ok (.iconst 0, 1) := dk_3 (dk_at dksX6_oneDay_5 17 rfl rfl)
theorem dX6_oneDay_138 : decode cX6_oneDay 138 = .ok (.dup2, 1) := dk_92 (dk_at dksX6_oneDay_5 18 rfl rfl)
theorem dX6_oneDay_139 : decode cX6_oneDay 139 = .ok (.iaload, 1) := dk_46 (dk_at dksX6_oneDay_5 19 rfl rfl)
theorem dX6_oneDay_140 : decode cX6_oneDay 140 = .ok (.iconst 1, 1) := dk_4 (dk_at dksX6_oneDay_5 20 rfl rfl)
theorem dX6_oneDay_141 : decode cX6_oneDay 141 = .ok (.iadd, 1) := dk_96 (dk_at dksX6_oneDay_5 21 rfl rfl)
theorem dX6_oneDay_142 : decode cX6_oneDay 142 = .ok (.iastore, 1) := dk_79 (dk_at dksX6_oneDay_5 22 rfl rfl)
theorem dX6_oneDay_143 : decode cX6_oneDay 143 = .ok (.return_, 1) := dk_177 (dk_at dksX6_oneDay_5 23 rfl rfl)
abbrev cX6_begs : ByteArray := prog_30_method_42_code
def yX6_begs : MethodName := ⟨RX6, "begs", "(I)V"⟩
def dkwX6_begs_4 : List UInt8 := [16, 8, 27, 104, 96, 28, 96, 42, 27, 28, 182, 0, 86, 4, 96, 3, 16, 99, 184, 0, 156, 79, 177]
abbrev dktX6_begs_4 : List UInt8 := dkwX6_begs_4 ++ []
def dkwX6_begs_3 : List UInt8 := [42, 27, 6, 182, 0, 75, 4, 96, 3, 17, 3, 231, 184, 0, 156, 182, 0, 58, 42, 180, 0, 7, 16, 47]
abbrev dktX6_begs_3 : List UInt8 := dkwX6_begs_3 ++ dktX6_begs_4
def dkwX6_begs_2 : List UInt8 := [167, 255, 213, 28, 155, 0, 66, 42, 28, 6, 42, 28, 6, 182, 0, 75, 4, 100, 182, 0, 58, 42, 27, 6]
abbrev dktX6_begs_2 : List UInt8 := dkwX6_begs_2 ++ dktX6_begs_3
def dkwX6_begs_1 : List UInt8 := [155, 0, 18, 42, 29, 6, 182, 0, 75, 42, 28, 6, 182, 0, 75, 164, 0, 5, 29, 61, 132, 3, 1]
abbrev dktX6_begs_1 : List UInt8 := dkwX6_begs_1 ++ dktX6_begs_2
def dkwX6_begs_0 : List UInt8 := [2, 61, 3, 62, 29, 42, 180, 0, 7, 5, 46, 162, 0, 39, 42, 29, 27, 182, 0, 172, 153, 0, 24, 28]
abbrev dktX6_begs_0 : List UInt8 := dkwX6_begs_0 ++ dktX6_begs_1
theorem dksX6_begs_0 : cX6_begs.data.toList.drop 0 = dktX6_begs_0 := by decide +kernel
theorem dksX6_begs_1 : cX6_begs.data.toList.drop 24 = dktX6_begs_1 := dk_seg dksX6_begs_0 24 rfl rfl
theorem dksX6_begs_2 : cX6_begs.data.toList.drop 47 = dktX6_begs_2 := dk_seg dksX6_begs_1 23 rfl rfl
theorem dksX6_begs_3 : cX6_begs.data.toList.drop 71 = dktX6_begs_3 := dk_seg dksX6_begs_2 24 rfl rfl
theorem dksX6_begs_4 : cX6_begs.data.toList.drop 95 = dktX6_begs_4 := dk_seg dksX6_begs_3 24 rfl rfl
theorem dX6_begs_0 : decode cX6_begs 0 = .ok (.iconst (-1), 1) := dk_2 (dk_at dksX6_begs_0 0 rfl rfl)
theorem dX6_begs_1 : decode cX6_begs 1 = .ok (.istore_n 2, 1) := dk_61 (dk_at dksX6_begs_0 1 rfl rfl)
theorem dX6_begs_2 : decode cX6_begs 2 = .ok (.iconst 0, 1) := dk_3 (dk_at dksX6_begs_0 2 rfl rfl)
theorem dX6_begs_3 : decode cX6_begs 3 = .ok (.istore_n 3, 1) := dk_62 (dk_at dksX6_begs_0 3 rfl rfl)
theorem dX6_begs_4 : decode cX6_begs 4 = .ok (.iload_n 3, 1) := dk_29 (dk_at dksX6_begs_0 4 rfl rfl)
theorem dX6_begs_5 : decode cX6_begs 5 = .ok (.aload_n 0, 1) := dk_42 (dk_at dksX6_begs_0 5 rfl rfl)
theorem dX6_begs_6 : decode cX6_begs 6 = .ok (.getfield 7, 3) := dk_180 0 7 (dk_at dksX6_begs_0 6 rfl rfl)
theorem dX6_begs_9 : decode cX6_begs 9 = .ok (.iconst 2, 1) := dk_5 (dk_at dksX6_begs_0 9 rfl rfl)
theorem dX6_begs_10 : decode cX6_begs 10 = .ok (.iaload, 1) := dk_46 (dk_at dksX6_begs_0 10 rfl rfl)
theorem dX6_begs_11 : decode cX6_begs 11 = .ok (.if_icmp .ge 39, 3) := dk_162 0 39 (dk_at dksX6_begs_0 11 rfl rfl)
theorem dX6_begs_14 : decode cX6_begs 14 = .ok (.aload_n 0, 1) := dk_42 (dk_at dksX6_begs_0 14 rfl rfl)
theorem dX6_begs_15 : decode cX6_begs 15 = .ok (.iload_n 3, 1) := dk_29 (dk_at dksX6_begs_0 15 rfl rfl)
theorem dX6_begs_16 : decode cX6_begs 16 = .ok (.iload_n 1, 1) := dk_27 (dk_at dksX6_begs_0 16 rfl rfl)
theorem dX6_begs_17 : decode cX6_begs 17 = .ok (.invokevirtual 172, 3) := dk_182 0 172 (dk_at dksX6_begs_0 17 rfl rfl)
theorem dX6_begs_20 : decode cX6_begs 20 = .ok (.ifCond .eq 24, 3) := dk_153 0 24 (dk_at dksX6_begs_0 20 rfl rfl)
theorem dX6_begs_23 : decode cX6_begs 23 = .ok (.iload_n 2, 1) := dk_28 (dk_at dksX6_begs_0 23 rfl rfl)
theorem dX6_begs_24 : decode cX6_begs 24 = .ok (.ifCond .lt 18, 3) := dk_155 0 18 (dk_at dksX6_begs_1 0 rfl rfl)
theorem dX6_begs_27 : decode cX6_begs 27 = .ok (.aload_n 0, 1) := dk_42 (dk_at dksX6_begs_1 3 rfl rfl)
theorem dX6_begs_28 : decode cX6_begs 28 = .ok (.iload_n 3, 1) := dk_29 (dk_at dksX6_begs_1 4 rfl rfl)
theorem dX6_begs_29 : decode cX6_begs 29 = .ok (.iconst 3, 1) := dk_6 (dk_at dksX6_begs_1 5 rfl rfl)
theorem dX6_begs_30 : decode cX6_begs 30 = .ok (.invokevirtual 75, 3) := dk_182 0 75 (dk_at dksX6_begs_1 6 rfl rfl)
theorem dX6_begs_33 : decode cX6_begs 33 = .ok (.aload_n 0, 1) := dk_42 (dk_at dksX6_begs_1 9 rfl rfl)
theorem dX6_begs_34 : decode cX6_begs 34 = .ok (.iload_n 2, 1) := dk_28 (dk_at dksX6_begs_1 10 rfl rfl)
theorem dX6_begs_35 : decode cX6_begs 35 = .ok (.iconst 3, 1) := dk_6 (dk_at dksX6_begs_1 11 rfl rfl)
theorem dX6_begs_36 : decode cX6_begs 36 = .ok (.invokevirtual 75, 3) := dk_182 0 75 (dk_at dksX6_begs_1 12 rfl rfl)
theorem dX6_begs_39 : decode cX6_begs 39 = .ok (.if_icmp .le 5, 3) := dk_164 0 5 (dk_at dksX6_begs_1 15 rfl rfl)
theorem dX6_begs_42 : decode cX6_begs 42 = .ok (.iload_n 3, 1) := dk_29 (dk_at dksX6_begs_1 18 rfl rfl)
theorem dX6_begs_43 : decode cX6_begs 43 = .ok (.istore_n 2, 1) := dk_61 (dk_at dksX6_begs_1 19 rfl rfl)
theorem dX6_begs_44 : decode cX6_begs 44 = .ok (.iinc 3 1, 3) := dk_132 3 1 (dk_at dksX6_begs_1 20 rfl rfl)
theorem dX6_begs_47 : decode cX6_begs 47 = .ok (.goto (-43), 3) := dk_167 255 213 (dk_at dksX6_begs_2 0 rfl rfl)
theorem dX6_begs_50 : decode cX6_begs 50 = .ok (.iload_n 2, 1) := dk_28 (dk_at dksX6_begs_2 3 rfl rfl)
theorem dX6_begs_51 : decode cX6_begs 51 = .ok (.ifCond .lt 66, 3) := dk_155 0 66 (dk_at dksX6_begs_2 4 rfl rfl)
theorem dX6_begs_54 : decode cX6_begs 54 = .ok (.aload_n 0, 1) := dk_42 (dk_at dksX6_begs_2 7 rfl rfl)
theorem dX6_begs_55 : decode cX6_begs 55 = .ok (.iload_n 2, 1) := dk_28 (dk_at dksX6_begs_2 8 rfl rfl)
theorem dX6_begs_56 : decode cX6_begs 56 = .ok (.iconst 3, 1) := dk_6 (dk_at dksX6_begs_2 9 rfl rfl)
theorem dX6_begs_57 : decode cX6_begs 57 = .ok (.aload_n 0, 1) := dk_42 (dk_at dksX6_begs_2 10 rfl rfl)
theorem dX6_begs_58 : decode cX6_begs 58 = .ok (.iload_n 2, 1) := dk_28 (dk_at dksX6_begs_2 11 rfl rfl)
theorem dX6_begs_59 : decode cX6_begs 59 = .ok (.iconst 3, 1) := dk_6 (dk_at dksX6_begs_2 12 rfl rfl)
theorem dX6_begs_60 : decode cX6_begs 60 = .ok (.invokevirtual 75, 3) := dk_182 0 75 (dk_at dksX6_begs_2 13 rfl rfl)
theorem dX6_begs_63 : decode cX6_begs 63 = .ok (.iconst 1, 1) := dk_4 (dk_at dksX6_begs_2 16 rfl rfl)
theorem dX6_begs_64 : decode cX6_begs 64 = .ok (.isub, 1) := dk_100 (dk_at dksX6_begs_2 17 rfl rfl)
theorem dX6_begs_65 : decode cX6_begs 65 = .ok (.invokevirtual 58, 3) := dk_182 0 58 (dk_at dksX6_begs_2 18 rfl rfl)
theorem dX6_begs_68 : decode cX6_begs 68 = .ok (.aload_n 0, 1) := dk_42 (dk_at dksX6_begs_2 21 rfl rfl)
theorem dX6_begs_69 : decode cX6_begs 69 = .ok (.iload_n 1, 1) := dk_27 (dk_at dksX6_begs_2 22 rfl rfl)
theorem dX6_begs_70 : decode cX6_begs 70 = .ok (.iconst 3, 1) := dk_6 (dk_at dksX6_begs_2 23 rfl rfl)
theorem dX6_begs_71 : decode cX6_begs 71 = .ok (.aload_n 0, 1) := dk_42 (dk_at dksX6_begs_3 0 rfl rfl)
theorem dX6_begs_72 : decode cX6_begs 72 = .ok (.iload_n 1, 1) := dk_27 (dk_at dksX6_begs_3 1 rfl rfl)
theorem dX6_begs_73 : decode cX6_begs 73 = .ok (.iconst 3, 1) := dk_6 (dk_at dksX6_begs_3 2 rfl rfl)
theorem dX6_begs_74 : decode cX6_begs 74 = .ok (.invokevirtual 75, 3) := dk_182 0 75 (dk_at dksX6_begs_3 3 rfl rfl)
theorem dX6_begs_77 : decode cX6_begs 77 = .ok (.iconst 1, 1) := dk_4 (dk_at dksX6_begs_3 6 rfl rfl)
theorem dX6_begs_78 : decode cX6_begs 78 = .ok (.iadd, 1) := dk_96 (dk_at dksX6_begs_3 7 rfl rfl)
theorem dX6_begs_79 : decode cX6_begs 79 = .ok (.iconst 0, 1) := dk_3 (dk_at dksX6_begs_3 8 rfl rfl)
theorem dX6_begs_80 : decode cX6_begs 80 = .ok (.sipush 999, 3) := dk_17 3 231 (dk_at dksX6_begs_3 9 rfl rfl)
theorem dX6_begs_83 : decode cX6_begs 83 = .ok (.invokestatic 156, 3) := dk_184 0 156 (dk_at dksX6_begs_3 12 rfl rfl)
theorem dX6_begs_86 : decode cX6_begs 86 = .ok (.invokevirtual 58, 3) := dk_182 0 58 (dk_at dksX6_begs_3 15 rfl rfl)
theorem dX6_begs_89 : decode cX6_begs 89 = .ok (.aload_n 0, 1) := dk_42 (dk_at dksX6_begs_3 18 rfl rfl)
theorem dX6_begs_90 : decode cX6_begs 90 = .ok (.getfield 7, 3) := dk_180 0 7 (dk_at dksX6_begs_3 19 rfl rfl)
theorem dX6_begs_93 : decode cX6_begs 93 = .ok (.bipush 47, 2) := dk_16 47 (dk_at dksX6_begs_3 22 rfl rfl)
theorem dX6_begs_95 : decode cX6_begs 95 = .ok (.bipush 8, 2) := dk_16 8 (dk_at dksX6_begs_4 0 rfl rfl)
theorem dX6_begs_97 : decode cX6_begs 97 = .ok (.iload_n 1, 1) := dk_27 (dk_at dksX6_begs_4 2 rfl rfl)
theorem dX6_begs_98 : decode cX6_begs 98 = .ok (.imul, 1) := dk_104 (dk_at dksX6_begs_4 3 rfl rfl)
theorem dX6_begs_99 : decode cX6_begs 99 = .ok (.iadd, 1) := dk_96 (dk_at dksX6_begs_4 4 rfl rfl)
theorem dX6_begs_100 : decode cX6_begs 100 = .ok (.iload_n 2, 1) := dk_28 (dk_at dksX6_begs_4 5 rfl rfl)
theorem dX6_begs_101 : decode cX6_begs 101 = .ok (.iadd, 1) := dk_96 (dk_at dksX6_begs_4 6 rfl rfl)
theorem dX6_begs_102 : decode cX6_begs 102 = .ok (.aload_n 0, 1) := dk_42 (dk_at dksX6_begs_4 7 rfl rfl)
theorem dX6_begs_103 : decode cX6_begs 103 = .ok (.iload_n 1, 1) := dk_27 (dk_at dksX6_begs_4 8 rfl rfl)
theorem dX6_begs_104 : decode cX6_begs 104 = .ok (.iload_n 2, 1) := dk_28 (dk_at dksX6_begs_4 9 rfl rfl)
theorem dX6_begs_105 : decode cX6_begs 105 = .ok (.invokevirtual 86, 3) := dk_182 0 86 (dk_at dksX6_begs_4 10 rfl rfl)
theorem dX6_begs_108 : decode cX6_begs 108 = .ok (.iconst 1, 1) := dk_4 (dk_at dksX6_begs_4 13 rfl rfl)
theorem dX6_begs_109 : decode cX6_begs 109 = .ok (.iadd, 1) := dk_96 (dk_at dksX6_begs_4 14 rfl rfl)
theorem dX6_begs_110 : decode cX6_begs 110 = .ok (.iconst 0, 1) := dk_3 (dk_at dksX6_begs_4 15 rfl rfl)
theorem dX6_begs_111 : decode cX6_begs 111 = .ok (.bipush 99, 2) := dk_16 99 (dk_at dksX6_begs_4 16 rfl rfl)
theorem dX6_begs_113 : decode cX6_begs 113 = .ok (.invokestatic 156, 3) := dk_184 0 156 (dk_at dksX6_begs_4 18 rfl rfl)
theorem dX6_begs_116 : decode cX6_begs 116 = .ok (.iastore, 1) := dk_79 (dk_at dksX6_begs_4 21 rfl rfl)
theorem dX6_begs_117 : decode cX6_begs 117 = .ok (.return_, 1) := dk_177 (dk_at dksX6_begs_4 22 rfl rfl)
abbrev cX6_lends : ByteArray := prog_30_method_41_code
def yX6_lends : MethodName := ⟨RX6, "lends", "(II)Z"⟩
def dkwX6_lends_2 : List UInt8 := [4, 167, 0, 4, 3, 172]
abbrev dktX6_lends_2 : List UInt8 := dkwX6_lends_2 ++ []
def dkwX6_lends_1 : List UInt8 := [42, 27, 6, 182, 0, 75, 42, 28, 27, 182, 0, 86, 42, 27, 4, 182, 0, 75, 182, 0, 160, 153, 0, 7]
abbrev dktX6_lends_1 : List UInt8 := dkwX6_lends_1 ++ dktX6_lends_2
def dkwX6_lends_0 : List UInt8 := [27, 28, 159, 0, 50, 27, 42, 180, 0, 25, 159, 0, 42, 42, 27, 6, 182, 0, 75, 158, 0, 33, 42, 4]
abbrev dktX6_lends_0 : List UInt8 := dkwX6_lends_0 ++ dktX6_lends_1
theorem dksX6_lends_0 : cX6_lends.data.toList.drop 0 = dktX6_lends_0 := by decide +kernel
theorem dksX6_lends_1 : cX6_lends.data.toList.drop 24 = dktX6_lends_1 := dk_seg dksX6_lends_0 24 rfl rfl
theorem dksX6_lends_2 : cX6_lends.data.toList.drop 48 = dktX6_lends_2 := dk_seg dksX6_lends_1 24 rfl rfl
theorem dX6_lends_0 : decode cX6_lends 0 = .ok (.iload_n 1, 1) := dk_27 (dk_at dksX6_lends_0 0 rfl rfl)
theorem dX6_lends_1 : decode cX6_lends 1 = .ok (.iload_n 2, 1) := dk_28 (dk_at dksX6_lends_0 1 rfl rfl)
theorem dX6_lends_2 : decode cX6_lends 2 = .ok (.if_icmp .eq 50, 3) := dk_159 0 50 (dk_at dksX6_lends_0 2 rfl rfl)
theorem dX6_lends_5 : decode cX6_lends 5 = .ok (.iload_n 1, 1) := dk_27 (dk_at dksX6_lends_0 5 rfl rfl)
theorem dX6_lends_6 : decode cX6_lends 6 = .ok (.aload_n 0, 1) := dk_42 (dk_at dksX6_lends_0 6 rfl rfl)
theorem dX6_lends_7 : decode cX6_lends 7 = .ok (.getfield 25, 3) := dk_180 0 25 (dk_at dksX6_lends_0 7 rfl rfl)
theorem dX6_lends_10 : decode cX6_lends 10 = .ok (.if_icmp .eq 42, 3) := dk_159 0 42 (dk_at dksX6_lends_0 10 rfl rfl)
theorem dX6_lends_13 : decode cX6_lends 13 = .ok (.aload_n 0, 1) := dk_42 (dk_at dksX6_lends_0 13 rfl rfl)
theorem dX6_lends_14 : decode cX6_lends 14 = .ok (.iload_n 1, 1) := dk_27 (dk_at dksX6_lends_0 14 rfl rfl)
theorem dX6_lends_15 : decode cX6_lends 15 = .ok (.iconst 3, 1) := dk_6 (dk_at dksX6_lends_0 15 rfl rfl)
theorem dX6_lends_16 : decode cX6_lends 16 = .ok (.invokevirtual 75, 3) := dk_182 0 75 (dk_at dksX6_lends_0 16 rfl rfl)
theorem dX6_lends_19 : decode cX6_lends 19 = .ok (.ifCond .le 33, 3) := dk_158 0 33 (dk_at dksX6_lends_0 19 rfl rfl)
theorem dX6_lends_22 : decode cX6_lends 22 = .ok (.aload_n 0, 1) := dk_42 (dk_at dksX6_lends_0 22 rfl rfl)
theorem dX6_lends_23 : decode cX6_lends 23 = .ok (.iconst 1, 1) := dk_4 (dk_at dksX6_lends_0 23 rfl rfl)
theorem dX6_lends_24 : decode cX6_lends 24 = .ok (.aload_n 0, 1) := dk_42 (dk_at dksX6_lends_1 0 rfl rfl)
theorem dX6_lends_25 : decode cX6_lends 25 = .ok (.iload_n 1, 1) := dk_27 (dk_at dksX6_lends_1 1 rfl rfl)
theorem dX6_lends_26 : decode cX6_lends 26 = .ok (.iconst 3, 1) := dk_6 (dk_at dksX6_lends_1 2 rfl rfl)
theorem dX6_lends_27 : decode cX6_lends 27 = .ok (.invokevirtual 75, 3) := dk_182 0 75 (dk_at dksX6_lends_1 3 rfl rfl)
theorem dX6_lends_30 : decode cX6_lends 30 = .ok (.aload_n 0, 1) := dk_42 (dk_at dksX6_lends_1 6 rfl rfl)
theorem dX6_lends_31 : decode cX6_lends 31 = .ok (.iload_n 2, 1) := dk_28 (dk_at dksX6_lends_1 7 rfl rfl)
theorem dX6_lends_32 : decode cX6_lends 32 = .ok (.iload_n 1, 1) := dk_27 (dk_at dksX6_lends_1 8 rfl rfl)
theorem dX6_lends_33 : decode cX6_lends 33 = .ok (.invokevirtual 86, 3) := dk_182 0 86 (dk_at dksX6_lends_1 9 rfl rfl)
theorem dX6_lends_36 : decode cX6_lends 36 = .ok (.aload_n 0, 1) := dk_42 (dk_at dksX6_lends_1 12 rfl rfl)
theorem dX6_lends_37 : decode cX6_lends 37 = .ok (.iload_n 1, 1) := dk_27 (dk_at dksX6_lends_1 13 rfl rfl)
theorem dX6_lends_38 : decode cX6_lends 38 = .ok (.iconst 1, 1) := dk_4 (dk_at dksX6_lends_1 14 rfl rfl)
theorem dX6_lends_39 : decode cX6_lends 39 = .ok (.invokevirtual 75, 3) := dk_182 0 75 (dk_at dksX6_lends_1 15 rfl rfl)
theorem dX6_lends_42 : decode cX6_lends 42 = .ok (.invokevirtual 160, 3) := dk_182 0 160 (dk_at dksX6_lends_1 18 rfl rfl)
theorem dX6_lends_45 : decode cX6_lends 45 = .ok (.ifCond .eq 7, 3) := dk_153 0 7 (dk_at dksX6_lends_1 21 rfl rfl)
theorem dX6_lends_48 : decode cX6_lends 48 = .ok (.iconst 1, 1) := dk_4 (dk_at dksX6_lends_2 0 rfl rfl)
theorem dX6_lends_49 : decode cX6_lends 49 = .ok (.goto 4, 3) := dk_167 0 4 (dk_at dksX6_lends_2 1 rfl rfl)
theorem dX6_lends_52 : decode cX6_lends 52 = .ok (.iconst 0, 1) := dk_3 (dk_at dksX6_lends_2 4 rfl rfl)
theorem dX6_lends_53 : decode cX6_lends 53 = .ok (.ireturn, 1) := dk_172 (dk_at dksX6_lends_2 5 rfl rfl)
abbrev cX6_sumOf : ByteArray := prog_30_method_45_code
def yX6_sumOf : MethodName := ⟨RX6, "sumOf", "(I)I"⟩
def dkwX6_sumOf_1 : List UInt8 := [132, 3, 1, 167, 255, 234, 28, 172]
abbrev dktX6_sumOf_1 : List UInt8 := dkwX6_sumOf_1 ++ []
def dkwX6_sumOf_0 : List UInt8 := [3, 61, 3, 62, 29, 42, 180, 0, 7, 5, 46, 162, 0, 18, 28, 42, 29, 27, 182, 0, 75, 96, 61]
abbrev dktX6_sumOf_0 : List UInt8 := dkwX6_sumOf_0 ++ dktX6_sumOf_1
theorem dksX6_sumOf_0 : cX6_sumOf.data.toList.drop 0 = dktX6_sumOf_0 := by decide +kernel
theorem dksX6_sumOf_1 : cX6_sumOf.data.toList.drop 23 = dktX6_sumOf_1 := dk_seg dksX6_sumOf_0 23 rfl rfl
theorem dX6_sumOf_0 : decode cX6_sumOf 0 = .ok (.iconst 0, 1) := dk_3 (dk_at dksX6_sumOf_0 0 rfl rfl)
theorem dX6_sumOf_1 : decode cX6_sumOf 1 = .ok (.istore_n 2, 1) := dk_61 (dk_at dksX6_sumOf_0 1 rfl rfl)
theorem dX6_sumOf_2 : decode cX6_sumOf 2 = .ok (.iconst 0, 1) := dk_3 (dk_at dksX6_sumOf_0 2 rfl rfl)
theorem dX6_sumOf_3 : decode cX6_sumOf 3 = .ok (.istore_n 3, 1) := dk_62 (dk_at dksX6_sumOf_0 3 rfl rfl)
theorem dX6_sumOf_4 : decode cX6_sumOf 4 = .ok (.iload_n 3, 1) := dk_29 (dk_at dksX6_sumOf_0 4 rfl rfl)
theorem dX6_sumOf_5 : decode cX6_sumOf 5 = .ok (.aload_n 0, 1) := dk_42 (dk_at dksX6_sumOf_0 5 rfl rfl)
theorem dX6_sumOf_6 : decode cX6_sumOf 6 = .ok (.getfield 7, 3) := dk_180 0 7 (dk_at dksX6_sumOf_0 6 rfl rfl)
theorem dX6_sumOf_9 : decode cX6_sumOf 9 = .ok (.iconst 2, 1) := dk_5 (dk_at dksX6_sumOf_0 9 rfl rfl)
theorem dX6_sumOf_10 : decode cX6_sumOf 10 = .ok (.iaload, 1) := dk_46 (dk_at dksX6_sumOf_0 10 rfl rfl)
theorem dX6_sumOf_11 : decode cX6_sumOf 11 = .ok (.if_icmp .ge 18, 3) := dk_162 0 18 (dk_at dksX6_sumOf_0 11 rfl rfl)
theorem dX6_sumOf_14 : decode cX6_sumOf 14 = .ok (.iload_n 2, 1) := dk_28 (dk_at dksX6_sumOf_0 14 rfl rfl)
theorem dX6_sumOf_15 : decode cX6_sumOf 15 = .ok (.aload_n 0, 1) := dk_42 (dk_at dksX6_sumOf_0 15 rfl rfl)
theorem dX6_sumOf_16 : decode cX6_sumOf 16 = .ok (.iload_n 3, 1) := dk_29 (dk_at dksX6_sumOf_0 16 rfl rfl)
theorem dX6_sumOf_17 : decode cX6_sumOf 17 = .ok (.iload_n 1, 1) := dk_27 (dk_at dksX6_sumOf_0 17 rfl rfl)
theorem dX6_sumOf_18 : decode cX6_sumOf 18 = .ok (.invokevirtual 75, 3) := dk_182 0 75 (dk_at dksX6_sumOf_0 18 rfl rfl)
theorem dX6_sumOf_21 : decode cX6_sumOf 21 = .ok (.iadd, 1) := dk_96 (dk_at dksX6_sumOf_0 21 rfl rfl)
theorem dX6_sumOf_22 : decode cX6_sumOf 22 = .ok (.istore_n 2, 1) := dk_61 (dk_at dksX6_sumOf_0 22 rfl rfl)
theorem dX6_sumOf_23 : decode cX6_sumOf 23 = .ok (.iinc 3 1, 3) := dk_132 3 1 (dk_at dksX6_sumOf_1 0 rfl rfl)
theorem dX6_sumOf_26 : decode cX6_sumOf 26 = .ok (.goto (-22), 3) := dk_167 255 234 (dk_at dksX6_sumOf_1 3 rfl rfl)
theorem dX6_sumOf_29 : decode cX6_sumOf 29 = .ok (.iload_n 2, 1) := dk_28 (dk_at dksX6_sumOf_1 6 rfl rfl)
theorem dX6_sumOf_30 : decode cX6_sumOf 30 = .ok (.ireturn, 1) := dk_172 (dk_at dksX6_sumOf_1 7 rfl rfl)
abbrev cX6_loose : ByteArray := prog_30_method_48_code
def yX6_loose : MethodName := ⟨RX6, "loose", "(I)I"⟩
def dkwX6_loose_5 : List UInt8 := [6, 182, 0, 186, 172]
abbrev dktX6_loose_5 : List UInt8 := dkwX6_loose_5 ++ []
def dkwX6_loose_4 : List UInt8 := [5, 182, 0, 75, 182, 0, 58, 132, 3, 1, 167, 255, 198, 42, 182, 0, 179, 132, 2, 1, 167, 255, 181, 42]
abbrev dktX6_loose_4 : List UInt8 := dkwX6_loose_4 ++ dktX6_loose_5
def dkwX6_loose_3 : List UInt8 := [154, 0, 22, 42, 29, 5, 182, 0, 75, 4, 21, 4, 16, 8, 108, 7, 112, 120, 130, 167, 0, 9, 42, 29]
abbrev dktX6_loose_3 : List UInt8 := dkwX6_loose_3 ++ dktX6_loose_4
def dkwX6_loose_2 : List UInt8 := [42, 180, 0, 7, 5, 46, 162, 0, 54, 42, 182, 0, 190, 54, 4, 42, 29, 5, 21, 4, 16, 8, 112]
abbrev dktX6_loose_2 : List UInt8 := dkwX6_loose_2 ++ dktX6_loose_3
def dkwX6_loose_1 : List UInt8 := [96, 17, 39, 15, 164, 0, 10, 42, 18, 182, 182, 0, 53, 172, 3, 61, 28, 27, 162, 0, 76, 3, 62, 29]
abbrev dktX6_loose_1 : List UInt8 := dkwX6_loose_1 ++ dktX6_loose_2
def dkwX6_loose_0 : List UInt8 := [27, 4, 16, 40, 184, 0, 48, 154, 0, 10, 42, 18, 52, 182, 0, 53, 172, 42, 180, 0, 7, 3, 46, 27]
abbrev dktX6_loose_0 : List UInt8 := dkwX6_loose_0 ++ dktX6_loose_1
theorem dksX6_loose_0 : cX6_loose.data.toList.drop 0 = dktX6_loose_0 := by decide +kernel
theorem dksX6_loose_1 : cX6_loose.data.toList.drop 24 = dktX6_loose_1 := dk_seg dksX6_loose_0 24 rfl rfl
theorem dksX6_loose_2 : cX6_loose.data.toList.drop 48 = dktX6_loose_2 := dk_seg dksX6_loose_1 24 rfl rfl
theorem dksX6_loose_3 : cX6_loose.data.toList.drop 71 = dktX6_loose_3 := dk_seg dksX6_loose_2 23 rfl rfl
theorem dksX6_loose_4 : cX6_loose.data.toList.drop 95 = dktX6_loose_4 := dk_seg dksX6_loose_3 24 rfl rfl
theorem dksX6_loose_5 : cX6_loose.data.toList.drop 119 = dktX6_loose_5 := dk_seg dksX6_loose_4 24 rfl rfl
theorem dX6_loose_0 : decode cX6_loose 0 = .ok (.iload_n 1, 1) := dk_27 (dk_at dksX6_loose_0 0 rfl rfl)
theorem dX6_loose_1 : decode cX6_loose 1 = .ok (.iconst 1, 1) := dk_4 (dk_at dksX6_loose_0 1 rfl rfl)
theorem dX6_loose_2 : decode cX6_loose 2 = .ok (.bipush 40, 2) := dk_16 40 (dk_at dksX6_loose_0 2 rfl rfl)
theorem dX6_loose_4 : decode cX6_loose 4 = .ok (.invokestatic 48, 3) := dk_184 0 48 (dk_at dksX6_loose_0 4 rfl rfl)
theorem dX6_loose_7 : decode cX6_loose 7 = .ok (.ifCond .ne 10, 3) := dk_154 0 10 (dk_at dksX6_loose_0 7 rfl rfl)
theorem dX6_loose_10 : decode cX6_loose 10 = .ok (.aload_n 0, 1) := dk_42 (dk_at dksX6_loose_0 10 rfl rfl)
theorem dX6_loose_11 : decode cX6_loose 11 = .ok (.ldc 52, 2) := dk_18 52 (dk_at dksX6_loose_0 11 rfl rfl)
theorem dX6_loose_13 : decode cX6_loose 13 = .ok (.invokevirtual 53, 3) := dk_182 0 53 (dk_at dksX6_loose_0 13 rfl rfl)
theorem dX6_loose_16 : decode cX6_loose 16 = .ok (.ireturn, 1) := dk_172 (dk_at dksX6_loose_0 16 rfl rfl)
theorem dX6_loose_17 : decode cX6_loose 17 = .ok (.aload_n 0, 1) := dk_42 (dk_at dksX6_loose_0 17 rfl rfl)
theorem dX6_loose_18 : decode cX6_loose 18 = .ok (.getfield 7, 3) := dk_180 0 7 (dk_at dksX6_loose_0 18 rfl rfl)
theorem dX6_loose_21 : decode cX6_loose 21 = .ok (.iconst 0, 1) := dk_3 (dk_at dksX6_loose_0 21 rfl rfl)
theorem dX6_loose_22 : decode cX6_loose 22 = .ok (.iaload, 1) := dk_46 (dk_at dksX6_loose_0 22 rfl rfl)
theorem dX6_loose_23 : decode cX6_loose 23 = .ok (.iload_n 1, 1) := dk_27 (dk_at dksX6_loose_0 23 rfl rfl)
theorem dX6_loose_24 : decode cX6_loose 24 = .ok (.iadd, 1) := dk_96 (dk_at dksX6_loose_1 0 rfl rfl)
theorem dX6_loose_25 : decode cX6_loose 25 = .ok (.sipush 9999, 3) := dk_17 39 15 (dk_at dksX6_loose_1 1 rfl rfl)
theorem dX6_loose_28 : decode cX6_loose 28 = .ok (.if_icmp .le 10, 3) := dk_164 0 10 (dk_at dksX6_loose_1 4 rfl rfl)
theorem dX6_loose_31 : decode cX6_loose 31 = .ok (.aload_n 0, 1) := dk_42 (dk_at dksX6_loose_1 7 rfl rfl)
theorem dX6_loose_32 : decode cX6_loose 32 = .ok (.ldc 182, 2) := dk_18 182 (dk_at dksX6_loose_1 8 rfl rfl)
theorem dX6_loose_34 : decode cX6_loose 34 = .ok (.invokevirtual 53, 3) := dk_182 0 53 (dk_at dksX6_loose_1 10 rfl rfl)
theorem dX6_loose_37 : decode cX6_loose 37 = .ok (.ireturn, 1) := dk_172 (dk_at dksX6_loose_1 13 rfl rfl)
theorem dX6_loose_38 : decode cX6_loose 38 = .ok (.iconst 0, 1) := dk_3 (dk_at dksX6_loose_1 14 rfl rfl)
theorem dX6_loose_39 : decode cX6_loose 39 = .ok (.istore_n 2, 1) := dk_61 (dk_at dksX6_loose_1 15 rfl rfl)
theorem dX6_loose_40 : decode cX6_loose 40 = .ok (.iload_n 2, 1) := dk_28 (dk_at dksX6_loose_1 16 rfl rfl)
theorem dX6_loose_41 : decode cX6_loose 41 = .ok (.iload_n 1, 1) := dk_27 (dk_at dksX6_loose_1 17 rfl rfl)
theorem dX6_loose_42 : decode cX6_loose 42 = .ok (.if_icmp .ge 76, 3) := dk_162 0 76 (dk_at dksX6_loose_1 18 rfl rfl)
theorem dX6_loose_45 : decode cX6_loose 45 = .ok (.iconst 0, 1) := dk_3 (dk_at dksX6_loose_1 21 rfl rfl)
theorem dX6_loose_46 : decode cX6_loose 46 = .ok (.istore_n 3, 1) := dk_62 (dk_at dksX6_loose_1 22 rfl rfl)
theorem dX6_loose_47 : decode cX6_loose 47 = .ok (.iload_n 3, 1) := dk_29 (dk_at dksX6_loose_1 23 rfl rfl)
theorem dX6_loose_48 : decode cX6_loose 48 = .ok (.aload_n 0, 1) := dk_42 (dk_at dksX6_loose_2 0 rfl rfl)
theorem dX6_loose_49 : decode cX6_loose 49 = .ok (.getfield 7, 3) := dk_180 0 7 (dk_at dksX6_loose_2 1 rfl rfl)
theorem dX6_loose_52 : decode cX6_loose 52 = .ok (.iconst 2, 1) := dk_5 (dk_at dksX6_loose_2 4 rfl rfl)
theorem dX6_loose_53 : decode cX6_loose 53 = .ok (.iaload, 1) := dk_46 (dk_at dksX6_loose_2 5 rfl rfl)
theorem dX6_loose_54 : decode cX6_loose 54 = .ok (.if_icmp .ge 54, 3) := dk_162 0 54 (dk_at dksX6_loose_2 6 rfl rfl)
theorem dX6_loose_57 : decode cX6_loose 57 = .ok (.aload_n 0, 1) := dk_42 (dk_at dksX6_loose_2 9 rfl rfl)
theorem dX6_loose_58 : decode cX6_loose 58 = .ok (.invokevirtual 190, 3) := dk_182 0 190 (dk_at dksX6_loose_2 10 rfl rfl)
theorem dX6_loose_61 : decode cX6_loose 61 = .ok (.istore 4, 2) := dk_54 4 (dk_at dksX6_loose_2 13 rfl rfl)
theorem dX6_loose_63 : decode cX6_loose 63 = .ok (.aload_n 0, 1) := dk_42 (dk_at dksX6_loose_2 15 rfl rfl)
theorem dX6_loose_64 : decode cX6_loose 64 = .ok (.iload_n 3, 1) := dk_29 (dk_at dksX6_loose_2 16 rfl rfl)
theorem dX6_loose_65 : decode cX6_loose 65 = .ok (.iconst 2, 1) := dk_5 (dk_at dksX6_loose_2 17 rfl rfl)
theorem dX6_loose_66 : decode cX6_loose 66 = .ok (.iload 4, 2) := dk_21 4 (dk_at dksX6_loose_2 18 rfl rfl)
theorem dX6_loose_68 : decode cX6_loose 68 = .ok (.bipush 8, 2) := dk_16 8 (dk_at dksX6_loose_2 20 rfl rfl)
theorem dX6_loose_70 : decode cX6_loose 70 = .ok (.irem, 1) := dk_112 (dk_at dksX6_loose_2 22 rfl rfl)
theorem dX6_loose_71 : decode cX6_loose 71 = .ok (.ifCond .ne 22, 3) := dk_154 0 22 (dk_at dksX6_loose_3 0 rfl rfl)
theorem dX6_loose_74 : decode cX6_loose 74 = .ok (.aload_n 0, 1) := dk_42 (dk_at dksX6_loose_3 3 rfl rfl)
theorem dX6_loose_75 : decode cX6_loose 75 = .ok (.iload_n 3, 1) := dk_29 (dk_at dksX6_loose_3 4 rfl rfl)
theorem dX6_loose_76 : decode cX6_loose 76 = .ok (.iconst 2, 1) := dk_5 (dk_at dksX6_loose_3 5 rfl rfl)
theorem dX6_loose_77 : decode cX6_loose 77 = .ok (.invokevirtual 75, 3) := dk_182 0 75 (dk_at dksX6_loose_3 6 rfl rfl)
theorem dX6_loose_80 : decode cX6_loose 80 = .ok (.iconst 1, 1) := dk_4 (dk_at dksX6_loose_3 9 rfl rfl)
theorem dX6_loose_81 : decode cX6_loose 81 = .ok (.iload 4, 2) := dk_21 4 (dk_at dksX6_loose_3 10 rfl rfl)
theorem dX6_loose_83 : decode cX6_loose 83 = .ok (.bipush 8, 2) := dk_16 8 (dk_at dksX6_loose_3 12 rfl rfl)
theorem dX6_loose_85 : decode cX6_loose 85 = .ok (.idiv, 1) := dk_108 (dk_at dksX6_loose_3 14 rfl rfl)
theorem dX6_loose_86 : decode cX6_loose 86 = .ok (.iconst 4, 1) := dk_7 (dk_at dksX6_loose_3 15 rfl rfl)
theorem dX6_loose_87 : decode cX6_loose 87 = .ok (.irem, 1) := dk_112 (dk_at dksX6_loose_3 16 rfl rfl)
theorem dX6_loose_88 : decode cX6_loose 88 = .ok (.ishl, 1) := dk_120 (dk_at dksX6_loose_3 17 rfl rfl)
theorem dX6_loose_89 : decode cX6_loose 89 = .ok (.ixor, 1) := dk_130 (dk_at dksX6_loose_3 18 rfl rfl)
theorem dX6_loose_90 : decode cX6_loose 90 = .ok (.goto 9, 3) := dk_167 0 9 (dk_at dksX6_loose_3 19 rfl rfl)
theorem dX6_loose_93 : decode cX6_loose 93 = .ok (.aload_n 0, 1) := dk_42 (dk_at dksX6_loose_3 22 rfl rfl)
theorem dX6_loose_94 : decode cX6_loose 94 = .ok (.iload_n 3, 1) := dk_29 (dk_at dksX6_loose_3 23 rfl rfl)
theorem dX6_loose_95 : decode cX6_loose 95 = .ok (.iconst 2, 1) := dk_5 (dk_at dksX6_loose_4 0 rfl rfl)
theorem dX6_loose_96 : decode cX6_loose 96 = .ok (.invokevirtual 75, 3) := dk_182 0 75 (dk_at dksX6_loose_4 1 rfl rfl)
theorem dX6_loose_99 : decode cX6_loose 99 = .ok (.invokevirtual 58, 3) := dk_182 0 58 (dk_at dksX6_loose_4 4 rfl rfl)
theorem dX6_loose_102 : decode cX6_loose 102 = .ok (.iinc 3 1, 3) := dk_132 3 1 (dk_at dksX6_loose_4 7 rfl rfl)
theorem dX6_loose_105 : decode cX6_loose 105 = .ok (.goto (-58), 3) := dk_167 255 198 (dk_at dksX6_loose_4 10 rfl rfl)
theorem dX6_loose_108 : decode cX6_loose 108 = .ok (.aload_n 0, 1) := dk_42 (dk_at dksX6_loose_4 13 rfl rfl)
theorem dX6_loose_109 : decode cX6_loose 109 = .ok (.invokevirtual 179, 3) := dk_182 0 179 (dk_at dksX6_loose_4 14 rfl rfl)
theorem dX6_loose_112 : decode cX6_loose 112 = .ok (.iinc 2 1, 3) := dk_132 2 1 (dk_at dksX6_loose_4 17 rfl rfl)
theorem dX6_loose_115 : decode cX6_loose 115 = .ok (.goto (-75), 3) := dk_167 255 181 (dk_at dksX6_loose_4 20 rfl rfl)
theorem dX6_loose_118 : decode cX6_loose 118 = .ok (.aload_n 0, 1) := dk_42 (dk_at dksX6_loose_4 23 rfl rfl)
theorem dX6_loose_119 : decode cX6_loose 119 = .ok (.iconst 3, 1) := dk_6 (dk_at dksX6_loose_5 0 rfl rfl)
theorem dX6_loose_120 : decode cX6_loose 120 = .ok (.invokevirtual 186, 3) := dk_182 0 186 (dk_at dksX6_loose_5 1 rfl rfl)
theorem dX6_loose_123 : decode cX6_loose 123 = .ok (.ireturn, 1) := dk_172 (dk_at dksX6_loose_5 4 rfl rfl)
abbrev cX6_drawn : ByteArray := prog_30_method_47_code
def yX6_drawn : MethodName := ⟨RX6, "drawn", "()I"⟩
def dkwX6_drawn_1 : List UInt8 := [46, 16, 8, 124, 172]
abbrev dktX6_drawn_1 : List UInt8 := dkwX6_drawn_1 ++ []
def dkwX6_drawn_0 : List UInt8 := [42, 180, 0, 7, 4, 42, 180, 0, 7, 4, 46, 18, 189, 104, 17, 48, 57, 96, 79, 42, 180, 0, 7, 4]
abbrev dktX6_drawn_0 : List UInt8 := dkwX6_drawn_0 ++ dktX6_drawn_1
theorem dksX6_drawn_0 : cX6_drawn.data.toList.drop 0 = dktX6_drawn_0 := by decide +kernel
theorem dksX6_drawn_1 : cX6_drawn.data.toList.drop 24 = dktX6_drawn_1 := dk_seg dksX6_drawn_0 24 rfl rfl
theorem dX6_drawn_0 : decode cX6_drawn 0 = .ok (.aload_n 0, 1) := dk_42 (dk_at dksX6_drawn_0 0 rfl rfl)
theorem dX6_drawn_1 : decode cX6_drawn 1 = .ok (.getfield 7, 3) := dk_180 0 7 (dk_at dksX6_drawn_0 1 rfl rfl)
theorem dX6_drawn_4 : decode cX6_drawn 4 = .ok (.iconst 1, 1) := dk_4 (dk_at dksX6_drawn_0 4 rfl rfl)
theorem dX6_drawn_5 : decode cX6_drawn 5 = .ok (.aload_n 0, 1) := dk_42 (dk_at dksX6_drawn_0 5 rfl rfl)
theorem dX6_drawn_6 : decode cX6_drawn 6 = .ok (.getfield 7, 3) := dk_180 0 7 (dk_at dksX6_drawn_0 6 rfl rfl)
theorem dX6_drawn_9 : decode cX6_drawn 9 = .ok (.iconst 1, 1) := dk_4 (dk_at dksX6_drawn_0 9 rfl rfl)
theorem dX6_drawn_10 : decode cX6_drawn 10 = .ok (.iaload, 1) := dk_46 (dk_at dksX6_drawn_0 10 rfl rfl)
theorem dX6_drawn_11 : decode cX6_drawn 11 = .ok (.ldc 189, 2) := dk_18 189 (dk_at dksX6_drawn_0 11 rfl rfl)
theorem dX6_drawn_13 : decode cX6_drawn 13 = .ok (.imul, 1) := dk_104 (dk_at dksX6_drawn_0 13 rfl rfl)
theorem dX6_drawn_14 : decode cX6_drawn 14 = .ok (.sipush 12345, 3) := dk_17 48 57 (dk_at dksX6_drawn_0 14 rfl rfl)
theorem dX6_drawn_17 : decode cX6_drawn 17 = .ok (.iadd, 1) := dk_96 (dk_at dksX6_drawn_0 17 rfl rfl)
theorem dX6_drawn_18 : decode cX6_drawn 18 = .ok (.iastore, 1) := dk_79 (dk_at dksX6_drawn_0 18 rfl rfl)
theorem dX6_drawn_19 : decode cX6_drawn 19 = .ok (.aload_n 0, 1) := dk_42 (dk_at dksX6_drawn_0 19 rfl rfl)
theorem dX6_drawn_20 : decode cX6_drawn 20 = .ok (.getfield 7, 3) := dk_180 0 7 (dk_at dksX6_drawn_0 20 rfl rfl)
theorem dX6_drawn_23 : decode cX6_drawn 23 = .ok (.iconst 1, 1) := dk_4 (dk_at dksX6_drawn_0 23 rfl rfl)
theorem dX6_drawn_24 : decode cX6_drawn 24 = .ok (.iaload, 1) := dk_46 (dk_at dksX6_drawn_1 0 rfl rfl)
theorem dX6_drawn_25 : decode cX6_drawn 25 = .ok (.bipush 8, 2) := dk_16 8 (dk_at dksX6_drawn_1 1 rfl rfl)
theorem dX6_drawn_27 : decode cX6_drawn 27 = .ok (.iushr, 1) := dk_124 (dk_at dksX6_drawn_1 3 rfl rfl)
theorem dX6_drawn_28 : decode cX6_drawn 28 = .ok (.ireturn, 1) := dk_172 (dk_at dksX6_drawn_1 4 rfl rfl)
abbrev cX6_strike : ByteArray := prog_30_method_54_code
def yX6_strike : MethodName := ⟨RX6, "strike", "()I"⟩
theorem dX6_strike_0 : decode cX6_strike 0 = .ok (.aload_n 0, 1) := by decide +kernel
theorem dX6_strike_1 : decode cX6_strike 1 = .ok (.invokevirtual 215, 3) := by decide +kernel
theorem dX6_strike_4 : decode cX6_strike 4 = .ok (.ireturn, 1) := by decide +kernel
abbrev cX6_strikes : ByteArray := prog_30_method_53_code
def yX6_strikes : MethodName := ⟨RX6, "strikes", "()I"⟩
def dkwX6_strikes_7 : List UInt8 := [167, 255, 95, 27, 172]
abbrev dktX6_strikes_7 : List UInt8 := dkwX6_strikes_7 ++ []
def dkwX6_strikes_6 : List UInt8 := [180, 0, 193, 42, 180, 0, 196, 29, 182, 0, 212, 42, 42, 180, 0, 196, 28, 29, 182, 0, 212, 132, 1, 1]
abbrev dktX6_strikes_6 : List UInt8 := dkwX6_strikes_6 ++ dktX6_strikes_7
def dkwX6_strikes_5 : List UInt8 := [182, 0, 86, 167, 0, 4, 29, 62, 42, 42, 180, 0, 199, 42, 180, 0, 193, 29, 182, 0, 212, 42, 42]
abbrev dktX6_strikes_5 : List UInt8 := dkwX6_strikes_5 ++ dktX6_strikes_6
def dkwX6_strikes_4 : List UInt8 := [180, 0, 199, 42, 180, 0, 193, 182, 0, 86, 29, 162, 0, 18, 42, 42, 180, 0, 199, 42, 180, 0, 193]
abbrev dktX6_strikes_4 : List UInt8 := dkwX6_strikes_4 ++ dktX6_strikes_5
def dkwX6_strikes_3 : List UInt8 := [167, 0, 12, 42, 42, 180, 0, 196, 28, 182, 0, 86, 62, 42, 180, 0, 199, 155, 0, 49, 42, 42]
abbrev dktX6_strikes_3 : List UInt8 := dkwX6_strikes_3 ++ dktX6_strikes_4
def dkwX6_strikes_2 : List UInt8 := [42, 180, 0, 196, 28, 182, 0, 86, 162, 0, 18, 42, 42, 180, 0, 193, 42, 180, 0, 196, 182, 0, 86]
abbrev dktX6_strikes_2 : List UInt8 := dkwX6_strikes_2 ++ dktX6_strikes_3
def dkwX6_strikes_1 : List UInt8 := [180, 0, 193, 167, 0, 7, 42, 180, 0, 199, 61, 42, 42, 180, 0, 193, 42, 180, 0, 196, 182, 0, 86, 42]
abbrev dktX6_strikes_1 : List UInt8 := dkwX6_strikes_1 ++ dktX6_strikes_2
def dkwX6_strikes_0 : List UInt8 := [3, 60, 42, 182, 0, 205, 154, 0, 10, 42, 182, 0, 209, 153, 0, 153, 42, 180, 0, 199, 156, 0, 10, 42]
abbrev dktX6_strikes_0 : List UInt8 := dkwX6_strikes_0 ++ dktX6_strikes_1
theorem dksX6_strikes_0 : cX6_strikes.data.toList.drop 0 = dktX6_strikes_0 := by decide +kernel
theorem dksX6_strikes_1 : cX6_strikes.data.toList.drop 24 = dktX6_strikes_1 := dk_seg dksX6_strikes_0 24 rfl rfl
theorem dksX6_strikes_2 : cX6_strikes.data.toList.drop 48 = dktX6_strikes_2 := dk_seg dksX6_strikes_1 24 rfl rfl
theorem dksX6_strikes_3 : cX6_strikes.data.toList.drop 71 = dktX6_strikes_3 := dk_seg dksX6_strikes_2 23 rfl rfl
theorem dksX6_strikes_4 : cX6_strikes.data.toList.drop 93 = dktX6_strikes_4 := dk_seg dksX6_strikes_3 22 rfl rfl
theorem dksX6_strikes_5 : cX6_strikes.data.toList.drop 116 = dktX6_strikes_5 := dk_seg dksX6_strikes_4 23 rfl rfl
theorem dksX6_strikes_6 : cX6_strikes.data.toList.drop 139 = dktX6_strikes_6 := dk_seg dksX6_strikes_5 23 rfl rfl
theorem dksX6_strikes_7 : cX6_strikes.data.toList.drop 163 = dktX6_strikes_7 := dk_seg dksX6_strikes_6 24 rfl rfl
theorem dX6_strikes_0 : decode cX6_strikes 0 = .ok (.iconst 0, 1) := dk_3 (dk_at dksX6_strikes_0 0 rfl rfl)
theorem dX6_strikes_1 : decode cX6_strikes 1 = .ok (.istore_n 1, 1) := dk_60 (dk_at dksX6_strikes_0 1 rfl rfl)
theorem dX6_strikes_2 : decode cX6_strikes 2 = .ok (.aload_n 0, 1) := dk_42 (dk_at dksX6_strikes_0 2 rfl rfl)
theorem dX6_strikes_3 : decode cX6_strikes 3 = .ok (.invokevirtual 205, 3) := dk_182 0 205 (dk_at dksX6_strikes_0 3 rfl rfl)
theorem dX6_strikes_6 : decode cX6_strikes 6 = .ok (.ifCond .ne 10, 3) := dk_154 0 10 (dk_at dksX6_strikes_0 6 rfl rfl)
theorem dX6_strikes_9 : decode cX6_strikes 9 = .ok (.aload_n 0, 1) := dk_42 (dk_at dksX6_strikes_0 9 rfl rfl)
theorem dX6_strikes_10 : decode cX6_strikes 10 = .ok (.invokevirtual 209, 3) := dk_182 0 209 (dk_at dksX6_strikes_0 10 rfl rfl)
theorem dX6_strikes_13 : decode cX6_strikes 13 = .ok (.ifCond .eq 153, 3) := dk_153 0 153 (dk_at dksX6_strikes_0 13 rfl rfl)
theorem dX6_strikes_16 : decode cX6_strikes 16 = .ok (.aload_n 0, 1) := dk_42 (dk_at dksX6_strikes_0 16 rfl rfl)
theorem dX6_strikes_17 : decode cX6_strikes 17 = .ok (.getfield 199, 3) := dk_180 0 199 (dk_at dksX6_strikes_0 17 rfl rfl)
theorem dX6_strikes_20 : decode cX6_strikes 20 = .ok (.ifCond .ge 10, 3) := dk_156 0 10 (dk_at dksX6_strikes_0 20 rfl rfl)
theorem dX6_strikes_23 : decode cX6_strikes 23 = .ok (.aload_n 0, 1) := dk_42 (dk_at dksX6_strikes_0 23 rfl rfl)
theorem dX6_strikes_24 : decode cX6_strikes 24 = .ok (.getfield 193, 3) := dk_180 0 193 (dk_at dksX6_strikes_1 0 rfl rfl)
theorem dX6_strikes_27 : decode cX6_strikes 27 = .ok (.goto 7, 3) := dk_167 0 7 (dk_at dksX6_strikes_1 3 rfl rfl)
theorem dX6_strikes_30 : decode cX6_strikes 30 = .ok (.aload_n 0, 1) := dk_42 (dk_at dksX6_strikes_1 6 rfl rfl)
theorem dX6_strikes_31 : decode cX6_strikes 31 = .ok (.getfield 199, 3) := dk_180 0 199 (dk_at dksX6_strikes_1 7 rfl rfl)
theorem dX6_strikes_34 : decode cX6_strikes 34 = .ok (.istore_n 2, 1) := dk_61 (dk_at dksX6_strikes_1 10 rfl rfl)
theorem dX6_strikes_35 : decode cX6_strikes 35 = .ok (.aload_n 0, 1) := dk_42 (dk_at dksX6_strikes_1 11 rfl rfl)
theorem dX6_strikes_36 : decode cX6_strikes 36 = .ok (.aload_n 0, 1) := dk_42 (dk_at dksX6_strikes_1 12 rfl rfl)
theorem dX6_strikes_37 : decode cX6_strikes 37 = .ok (.getfield 193, 3) := dk_180 0 193 (dk_at dksX6_strikes_1 13 rfl rfl)
theorem dX6_strikes_40 : decode cX6_strikes 40 = .ok (.aload_n 0, 1) := dk_42 (dk_at dksX6_strikes_1 16 rfl rfl)
theorem dX6_strikes_41 : decode cX6_strikes 41 = .ok (.getfield 196, 3) := dk_180 0 196 (dk_at dksX6_strikes_1 17 rfl rfl)
theorem dX6_strikes_44 : decode cX6_strikes 44 = .ok (.invokevirtual 86, 3) := dk_182 0 86 (dk_at dksX6_strikes_1 20 rfl rfl)
theorem dX6_strikes_47 : decode cX6_strikes 47 = .ok (.aload_n 0, 1) := dk_42 (dk_at dksX6_strikes_1 23 rfl rfl)
theorem dX6_strikes_48 : decode cX6_strikes 48 = .ok (.aload_n 0, 1) := dk_42 (dk_at dksX6_strikes_2 0 rfl rfl)
theorem dX6_strikes_49 : decode cX6_strikes 49 = .ok (.getfield 196, 3) := dk_180 0 196 (dk_at dksX6_strikes_2 1 rfl rfl)
theorem dX6_strikes_52 : decode cX6_strikes 52 = .ok (.iload_n 2, 1) := dk_28 (dk_at dksX6_strikes_2 4 rfl rfl)
theorem dX6_strikes_53 : decode cX6_strikes 53 = .ok (.invokevirtual 86, 3) := dk_182 0 86 (dk_at dksX6_strikes_2 5 rfl rfl)
theorem dX6_strikes_56 : decode cX6_strikes 56 = .ok (.if_icmp .ge 18, 3) := dk_162 0 18 (dk_at dksX6_strikes_2 8 rfl rfl)
theorem dX6_strikes_59 : decode cX6_strikes 59 = .ok (.aload_n 0, 1) := dk_42 (dk_at dksX6_strikes_2 11 rfl rfl)
theorem dX6_strikes_60 : decode cX6_strikes 60 = .ok (.aload_n 0, 1) := dk_42 (dk_at dksX6_strikes_2 12 rfl rfl)
theorem dX6_strikes_61 : decode cX6_strikes 61 = .ok (.getfield 193, 3) := dk_180 0 193 (dk_at dksX6_strikes_2 13 rfl rfl)
theorem dX6_strikes_64 : decode cX6_strikes 64 = .ok (.aload_n 0, 1) := dk_42 (dk_at dksX6_strikes_2 16 rfl rfl)
theorem dX6_strikes_65 : decode cX6_strikes 65 = .ok (.getfield 196, 3) := dk_180 0 196 (dk_at dksX6_strikes_2 17 rfl rfl)
theorem dX6_strikes_68 : decode cX6_strikes 68 = .ok (.invokevirtual 86, 3) := dk_182 0 86 (dk_at dksX6_strikes_2 20 rfl rfl)
theorem dX6_strikes_71 : decode cX6_strikes 71 = .ok (.goto 12, 3) := dk_167 0 12 (dk_at dksX6_strikes_3 0 rfl rfl)
theorem dX6_strikes_74 : decode cX6_strikes 74 = .ok (.aload_n 0, 1) := dk_42 (dk_at dksX6_strikes_3 3 rfl rfl)
theorem dX6_strikes_75 : decode cX6_strikes 75 = .ok (.aload_n 0, 1) := dk_42 (dk_at dksX6_strikes_3 4 rfl rfl)
theorem dX6_strikes_76 : decode cX6_strikes 76 = .ok (.getfield 196, 3) := dk_180 0 196 (dk_at dksX6_strikes_3 5 rfl rfl)
theorem dX6_strikes_79 : decode cX6_strikes 79 = .ok (.iload_n 2, 1) := dk_28 (dk_at dksX6_strikes_3 8 rfl rfl)
theorem dX6_strikes_80 : decode cX6_strikes 80 = .ok (.invokevirtual 86, 3) := dk_182 0 86 (dk_at dksX6_strikes_3 9 rfl rfl)
theorem dX6_strikes_83 : decode cX6_strikes 83 = .ok (.istore_n 3, 1) := dk_62 (dk_at dksX6_strikes_3 12 rfl rfl)
theorem dX6_strikes_84 : decode cX6_strikes 84 = .ok (.aload_n 0, 1) := dk_42 (dk_at dksX6_strikes_3 13 rfl rfl)
theorem dX6_strikes_85 : decode cX6_strikes 85 = .ok (.getfield 199, 3) := dk_180 0 199 (dk_at dksX6_strikes_3 14 rfl rfl)
theorem dX6_strikes_88 : decode cX6_strikes 88 = .ok (.ifCond .lt 49, 3) := dk_155 0 49 (dk_at dksX6_strikes_3 17 rfl rfl)
theorem dX6_strikes_91 : decode cX6_strikes 91 = .ok (.aload_n 0, 1) := dk_42 (dk_at dksX6_strikes_3 20 rfl rfl)
theorem dX6_strikes_92 : decode cX6_strikes 92 = .ok (.aload_n 0, 1) := dk_42 (dk_at dksX6_strikes_3 21 rfl rfl)
theorem dX6_strikes_93 : decode cX6_strikes 93 = .ok (.getfield 199, 3) := dk_180 0 199 (dk_at dksX6_strikes_4 0 rfl rfl)
theorem dX6_strikes_96 : decode cX6_strikes 96 = .ok (.aload_n 0, 1) := dk_42 (dk_at dksX6_strikes_4 3 rfl rfl)
theorem dX6_strikes_97 : decode cX6_strikes 97 = .ok (.getfield 193, 3) := dk_180 0 193 (dk_at dksX6_strikes_4 4 rfl rfl)
theorem dX6_strikes_100 : decode cX6_strikes 100 = .ok (.invokevirtual 86, 3) := dk_182 0 86 (dk_at dksX6_strikes_4 7 rfl rfl)
theorem dX6_strikes_103 : decode cX6_strikes 103 = .ok (.iload_n 3, 1) := dk_29 (dk_at dksX6_strikes_4 10 rfl rfl)
theorem dX6_strikes_104 : decode cX6_strikes 104 = .ok (.if_icmp .ge 18, 3) := dk_162 0 18 (dk_at dksX6_strikes_4 11 rfl rfl)
theorem dX6_strikes_107 : decode cX6_strikes 107 = .ok (.aload_n 0, 1) := dk_42 (dk_at dksX6_strikes_4 14 rfl rfl)
theorem dX6_strikes_108 : decode cX6_strikes 108 = .ok (.aload_n 0, 1) := dk_42 (dk_at dksX6_strikes_4 15 rfl rfl)
theorem dX6_strikes_109 : decode cX6_strikes 109 = .ok (.getfield 199, 3) := dk_180 0 199 (dk_at dksX6_strikes_4 16 rfl rfl)
theorem dX6_strikes_112 : decode cX6_strikes 112 = .ok (.aload_n 0, 1) := dk_42 (dk_at dksX6_strikes_4 19 rfl rfl)
theorem dX6_strikes_113 : decode cX6_strikes 113 = .ok (.getfield 193, 3) := dk_180 0 193 (dk_at dksX6_strikes_4 20 rfl rfl)
theorem dX6_strikes_116 : decode cX6_strikes 116 = .ok (.invokevirtual 86, 3) := dk_182 0 86 (dk_at dksX6_strikes_5 0 rfl rfl)
theorem dX6_strikes_119 : decode cX6_strikes 119 = .ok (.goto 4, 3) := dk_167 0 4 (dk_at dksX6_strikes_5 3 rfl rfl)
theorem dX6_strikes_122 : decode cX6_strikes 122 = .ok (.iload_n 3, 1) := dk_29 (dk_at dksX6_strikes_5 6 rfl rfl)
theorem dX6_strikes_123 : decode cX6_strikes 123 = .ok (.istore_n 3, 1) := dk_62 (dk_at dksX6_strikes_5 7 rfl rfl)
theorem dX6_strikes_124 : decode cX6_strikes 124 = .ok (.aload_n 0, 1) := dk_42 (dk_at dksX6_strikes_5 8 rfl rfl)
theorem dX6_strikes_125 : decode cX6_strikes 125 = .ok (.aload_n 0, 1) := dk_42 (dk_at dksX6_strikes_5 9 rfl rfl)
theorem dX6_strikes_126 : decode cX6_strikes 126 = .ok (.getfield 199, 3) := dk_180 0 199 (dk_at dksX6_strikes_5 10 rfl rfl)
theorem dX6_strikes_129 : decode cX6_strikes 129 = .ok (.aload_n 0, 1) := dk_42 (dk_at dksX6_strikes_5 13 rfl rfl)
theorem dX6_strikes_130 : decode cX6_strikes 130 = .ok (.getfield 193, 3) := dk_180 0 193 (dk_at dksX6_strikes_5 14 rfl rfl)
theorem dX6_strikes_133 : decode cX6_strikes 133 = .ok (.iload_n 3, 1) := dk_29 (dk_at dksX6_strikes_5 17 rfl rfl)
theorem dX6_strikes_134 : decode cX6_strikes 134 = .ok (.invokevirtual 212, 3) := dk_182 0 212 (dk_at dksX6_strikes_5 18 rfl rfl)
theorem dX6_strikes_137 : decode cX6_strikes 137 = .ok (.aload_n 0, 1) := dk_42 (dk_at dksX6_strikes_5 21 rfl rfl)
theorem dX6_strikes_138 : decode cX6_strikes 138 = .ok (.aload_n 0, 1) := dk_42 (dk_at dksX6_strikes_5 22 rfl rfl)
theorem dX6_strikes_139 : decode cX6_strikes 139 = .ok (.getfield 193, 3) := dk_180 0 193 (dk_at dksX6_strikes_6 0 rfl rfl)
theorem dX6_strikes_142 : decode cX6_strikes 142 = .ok (.aload_n 0, 1) := dk_42 (dk_at dksX6_strikes_6 3 rfl rfl)
theorem dX6_strikes_143 : decode cX6_strikes 143 = .ok (.getfield 196, 3) := dk_180 0 196 (dk_at dksX6_strikes_6 4 rfl rfl)
theorem dX6_strikes_146 : decode cX6_strikes 146 = .ok (.iload_n 3, 1) := dk_29 (dk_at dksX6_strikes_6 7 rfl rfl)
theorem dX6_strikes_147 : decode cX6_strikes 147 = .ok (.invokevirtual 212, 3) := dk_182 0 212 (dk_at dksX6_strikes_6 8 rfl rfl)
theorem dX6_strikes_150 : decode cX6_strikes 150 = .ok (.aload_n 0, 1) := dk_42 (dk_at dksX6_strikes_6 11 rfl rfl)
theorem dX6_strikes_151 : decode cX6_strikes 151 = .ok (.aload_n 0, 1) := dk_42 (dk_at dksX6_strikes_6 12 rfl rfl)
theorem dX6_strikes_152 : decode cX6_strikes 152 = .ok (.getfield 196, 3) := dk_180 0 196 (dk_at dksX6_strikes_6 13 rfl rfl)
theorem dX6_strikes_155 : decode cX6_strikes 155 = .ok (.iload_n 2, 1) := dk_28 (dk_at dksX6_strikes_6 16 rfl rfl)
theorem dX6_strikes_156 : decode cX6_strikes 156 = .ok (.iload_n 3, 1) := dk_29 (dk_at dksX6_strikes_6 17 rfl rfl)
theorem dX6_strikes_157 : decode cX6_strikes 157 = .ok (.invokevirtual 212, 3) := dk_182 0 212 (dk_at dksX6_strikes_6 18 rfl rfl)
theorem dX6_strikes_160 : decode cX6_strikes 160 = .ok (.iinc 1 1, 3) := dk_132 1 1 (dk_at dksX6_strikes_6 21 rfl rfl)
theorem dX6_strikes_163 : decode cX6_strikes 163 = .ok (.goto (-161), 3) := dk_167 255 95 (dk_at dksX6_strikes_7 0 rfl rfl)
theorem dX6_strikes_166 : decode cX6_strikes 166 = .ok (.iload_n 1, 1) := dk_27 (dk_at dksX6_strikes_7 3 rfl rfl)
theorem dX6_strikes_167 : decode cX6_strikes 167 = .ok (.ireturn, 1) := dk_172 (dk_at dksX6_strikes_7 4 rfl rfl)
abbrev cX6_findTwo : ByteArray := prog_30_method_50_code
def yX6_findTwo : MethodName := ⟨RX6, "findTwo", "()Z"⟩
def dkwX6_findTwo_4 : List UInt8 := [132, 1, 1, 167, 255, 164, 3, 172]
abbrev dktX6_findTwo_4 : List UInt8 := dkwX6_findTwo_4 ++ []
def dkwX6_findTwo_3 : List UInt8 := [182, 0, 202, 153, 0, 20, 42, 42, 180, 0, 196, 42, 180, 0, 193, 182, 0, 202, 153, 0, 5, 4, 172]
abbrev dktX6_findTwo_3 : List UInt8 := dkwX6_findTwo_3 ++ dktX6_findTwo_4
def dkwX6_findTwo_2 : List UInt8 := [181, 0, 199, 42, 180, 0, 196, 42, 180, 0, 193, 164, 0, 35, 42, 42, 180, 0, 193, 42, 180, 0, 196]
abbrev dktX6_findTwo_2 : List UInt8 := dkwX6_findTwo_2 ++ dktX6_findTwo_3
def dkwX6_findTwo_1 : List UInt8 := [180, 0, 7, 5, 46, 108, 181, 0, 193, 42, 27, 42, 180, 0, 7, 5, 46, 112, 181, 0, 196, 42, 2]
abbrev dktX6_findTwo_1 : List UInt8 := dkwX6_findTwo_1 ++ dktX6_findTwo_2
def dkwX6_findTwo_0 : List UInt8 := [3, 60, 27, 42, 180, 0, 7, 5, 46, 42, 180, 0, 7, 5, 46, 104, 162, 0, 81, 42, 27, 42]
abbrev dktX6_findTwo_0 : List UInt8 := dkwX6_findTwo_0 ++ dktX6_findTwo_1
theorem dksX6_findTwo_0 : cX6_findTwo.data.toList.drop 0 = dktX6_findTwo_0 := by decide +kernel
theorem dksX6_findTwo_1 : cX6_findTwo.data.toList.drop 22 = dktX6_findTwo_1 := dk_seg dksX6_findTwo_0 22 rfl rfl
theorem dksX6_findTwo_2 : cX6_findTwo.data.toList.drop 45 = dktX6_findTwo_2 := dk_seg dksX6_findTwo_1 23 rfl rfl
theorem dksX6_findTwo_3 : cX6_findTwo.data.toList.drop 68 = dktX6_findTwo_3 := dk_seg dksX6_findTwo_2 23 rfl rfl
theorem dksX6_findTwo_4 : cX6_findTwo.data.toList.drop 91 = dktX6_findTwo_4 := dk_seg dksX6_findTwo_3 23 rfl rfl
theorem dX6_findTwo_0 : decode cX6_findTwo 0 = .ok (.iconst 0, 1) := dk_3 (dk_at dksX6_findTwo_0 0 rfl rfl)
theorem dX6_findTwo_1 : decode cX6_findTwo 1 = .ok (.istore_n 1, 1) := dk_60 (dk_at dksX6_findTwo_0 1 rfl rfl)
theorem dX6_findTwo_2 : decode cX6_findTwo 2 = .ok (.iload_n 1, 1) := dk_27 (dk_at dksX6_findTwo_0 2 rfl rfl)
theorem dX6_findTwo_3 : decode cX6_findTwo 3 = .ok (.aload_n 0, 1) := dk_42 (dk_at dksX6_findTwo_0 3 rfl rfl)
theorem dX6_findTwo_4 : decode cX6_findTwo 4 = .ok (.getfield 7, 3) := dk_180 0 7 (dk_at dksX6_findTwo_0 4 rfl rfl)
theorem dX6_findTwo_7 : decode cX6_findTwo 7 = .ok (.iconst 2, 1) := dk_5 (dk_at dksX6_findTwo_0 7 rfl rfl)
theorem dX6_findTwo_8 : decode cX6_findTwo 8 = .ok (.iaload, 1) := dk_46 (dk_at dksX6_findTwo_0 8 rfl rfl)
theorem dX6_findTwo_9 : decode cX6_findTwo 9 = .ok (.aload_n 0, 1) := dk_42 (dk_at dksX6_findTwo_0 9 rfl rfl)
theorem dX6_findTwo_10 : decode cX6_findTwo 10 = .ok (.getfield 7, 3) := dk_180 0 7 (dk_at dksX6_findTwo_0 10 rfl rfl)
theorem dX6_findTwo_13 : decode cX6_findTwo 13 = .ok (.iconst 2, 1) := dk_5 (dk_at dksX6_findTwo_0 13 rfl rfl)
theorem dX6_findTwo_14 : decode cX6_findTwo 14 = .ok (.iaload, 1) := dk_46 (dk_at dksX6_findTwo_0 14 rfl rfl)
theorem dX6_findTwo_15 : decode cX6_findTwo 15 = .ok (.imul, 1) := dk_104 (dk_at dksX6_findTwo_0 15 rfl rfl)
theorem dX6_findTwo_16 : decode cX6_findTwo 16 = .ok (.if_icmp .ge 81, 3) := dk_162 0 81 (dk_at dksX6_findTwo_0 16 rfl rfl)
theorem dX6_findTwo_19 : decode cX6_findTwo 19 = .ok (.aload_n 0, 1) := dk_42 (dk_at dksX6_findTwo_0 19 rfl rfl)
theorem dX6_findTwo_20 : decode cX6_findTwo 20 = .ok (.iload_n 1, 1) := dk_27 (dk_at dksX6_findTwo_0 20 rfl rfl)
theorem dX6_findTwo_21 : decode cX6_findTwo 21 = .ok (.aload_n 0, 1) := dk_42 (dk_at dksX6_findTwo_0 21 rfl rfl)
theorem dX6_findTwo_22 : decode cX6_findTwo 22 = .ok (.getfield 7, 3) := dk_180 0 7 (dk_at dksX6_findTwo_1 0 rfl rfl)
theorem dX6_findTwo_25 : decode cX6_findTwo 25 = .ok (.iconst 2, 1) := dk_5 (dk_at dksX6_findTwo_1 3 rfl rfl)
theorem dX6_findTwo_26 : decode cX6_findTwo 26 = .ok (.iaload, 1) := dk_46 (dk_at dksX6_findTwo_1 4 rfl rfl)
theorem dX6_findTwo_27 : decode cX6_findTwo 27 = .ok (.idiv, 1) := dk_108 (dk_at dksX6_findTwo_1 5 rfl rfl)
theorem dX6_findTwo_28 : decode cX6_findTwo 28 = .ok (.putfield 193, 3) := dk_181 0 193 (dk_at dksX6_findTwo_1 6 rfl rfl)
theorem dX6_findTwo_31 : decode cX6_findTwo 31 = .ok (.aload_n 0, 1) := dk_42 (dk_at dksX6_findTwo_1 9 rfl rfl)
theorem dX6_findTwo_32 : decode cX6_findTwo 32 = .ok (.iload_n 1, 1) := dk_27 (dk_at dksX6_findTwo_1 10 rfl rfl)
theorem dX6_findTwo_33 : decode cX6_findTwo 33 = .ok (.aload_n 0, 1) := dk_42 (dk_at dksX6_findTwo_1 11 rfl rfl)
theorem dX6_findTwo_34 : decode cX6_findTwo 34 = .ok (.getfield 7, 3) := dk_180 0 7 (dk_at dksX6_findTwo_1 12 rfl rfl)
theorem dX6_findTwo_37 : decode cX6_findTwo 37 = .ok (.iconst 2, 1) := dk_5 (dk_at dksX6_findTwo_1 15 rfl rfl)
theorem dX6_findTwo_38 : decode cX6_findTwo 38 = .ok (.iaload, 1) := dk_46 (dk_at dksX6_findTwo_1 16 rfl rfl)
theorem dX6_findTwo_39 : decode cX6_findTwo 39 = .ok (.irem, 1) := dk_112 (dk_at dksX6_findTwo_1 17 rfl rfl)
theorem dX6_findTwo_40 : decode cX6_findTwo 40 = .ok (.putfield 196, 3) := dk_181 0 196 (dk_at dksX6_findTwo_1 18 rfl rfl)
theorem dX6_findTwo_43 : decode cX6_findTwo 43 = .ok (.aload_n 0, 1) := dk_42 (dk_at dksX6_findTwo_1 21 rfl rfl)
theorem dX6_findTwo_44 : decode cX6_findTwo 44 = .ok (.iconst (-1), 1) := dk_2 (dk_at dksX6_findTwo_1 22 rfl rfl)
theorem dX6_findTwo_45 : decode cX6_findTwo 45 = .ok (.putfield 199, 3) := dk_181 0 199 (dk_at dksX6_findTwo_2 0 rfl rfl)
theorem dX6_findTwo_48 : decode cX6_findTwo 48 = .ok (.aload_n 0, 1) := dk_42 (dk_at dksX6_findTwo_2 3 rfl rfl)
theorem dX6_findTwo_49 : decode cX6_findTwo 49 = .ok (.getfield 196, 3) := dk_180 0 196 (dk_at dksX6_findTwo_2 4 rfl rfl)
theorem dX6_findTwo_52 : decode cX6_findTwo 52 = .ok (.aload_n 0, 1) := dk_42 (dk_at dksX6_findTwo_2 7 rfl rfl)
theorem dX6_findTwo_53 : decode cX6_findTwo 53 = .ok (.getfield 193, 3) := dk_180 0 193 (dk_at dksX6_findTwo_2 8 rfl rfl)
theorem dX6_findTwo_56 : decode cX6_findTwo 56 = .ok (.if_icmp .le 35, 3) := dk_164 0 35 (dk_at dksX6_findTwo_2 11 rfl rfl)
theorem dX6_findTwo_59 : decode cX6_findTwo 59 = .ok (.aload_n 0, 1) := dk_42 (dk_at dksX6_findTwo_2 14 rfl rfl)
theorem dX6_findTwo_60 : decode cX6_findTwo 60 = .ok (.aload_n 0, 1) := dk_42 (dk_at dksX6_findTwo_2 15 rfl rfl)
theorem dX6_findTwo_61 : decode cX6_findTwo 61 = .ok (.getfield 193, 3) := dk_180 0 193 (dk_at dksX6_findTwo_2 16 rfl rfl)
theorem dX6_findTwo_64 : decode cX6_findTwo 64 = .ok (.aload_n 0, 1) := dk_42 (dk_at dksX6_findTwo_2 19 rfl rfl)
theorem dX6_findTwo_65 : decode cX6_findTwo 65 = .ok (.getfield 196, 3) := dk_180 0 196 (dk_at dksX6_findTwo_2 20 rfl rfl)
theorem dX6_findTwo_68 : decode cX6_findTwo 68 = .ok (.invokevirtual 202, 3) := dk_182 0 202 (dk_at dksX6_findTwo_3 0 rfl rfl)
theorem dX6_findTwo_71 : decode cX6_findTwo 71 = .ok (.ifCond .eq 20, 3) := dk_153 0 20 (dk_at dksX6_findTwo_3 3 rfl rfl)
theorem dX6_findTwo_74 : decode cX6_findTwo 74 = .ok (.aload_n 0, 1) := dk_42 (dk_at dksX6_findTwo_3 6 rfl rfl)
theorem dX6_findTwo_75 : decode cX6_findTwo 75 = .ok (.aload_n 0, 1) := dk_42 (dk_at dksX6_findTwo_3 7 rfl rfl)
theorem dX6_findTwo_76 : decode cX6_findTwo 76 = .ok (.getfield 196, 3) := dk_180 0 196 (dk_at dksX6_findTwo_3 8 rfl rfl)
theorem dX6_findTwo_79 : decode cX6_findTwo 79 = .ok (.aload_n 0, 1) := dk_42 (dk_at dksX6_findTwo_3 11 rfl rfl)
theorem dX6_findTwo_80 : decode cX6_findTwo 80 = .ok (.getfield 193, 3) := dk_180 0 193 (dk_at dksX6_findTwo_3 12 rfl rfl)
theorem dX6_findTwo_83 : decode cX6_findTwo 83 = .ok (.invokevirtual 202, 3) := dk_182 0 202 (dk_at dksX6_findTwo_3 15 rfl rfl)
theorem dX6_findTwo_86 : decode cX6_findTwo 86 = .ok (.ifCond .eq 5, 3) := dk_153 0 5 (dk_at dksX6_findTwo_3 18 rfl rfl)
theorem dX6_findTwo_89 : decode cX6_findTwo 89 = .ok (.iconst 1, 1) := dk_4 (dk_at dksX6_findTwo_3 21 rfl rfl)
theorem dX6_findTwo_90 : decode cX6_findTwo 90 = .ok (.ireturn, 1) := dk_172 (dk_at dksX6_findTwo_3 22 rfl rfl)
theorem dX6_findTwo_91 : decode cX6_findTwo 91 = .ok (.iinc 1 1, 3) := dk_132 1 1 (dk_at dksX6_findTwo_4 0 rfl rfl)
theorem dX6_findTwo_94 : decode cX6_findTwo 94 = .ok (.goto (-92), 3) := dk_167 255 164 (dk_at dksX6_findTwo_4 3 rfl rfl)
theorem dX6_findTwo_97 : decode cX6_findTwo 97 = .ok (.iconst 0, 1) := dk_3 (dk_at dksX6_findTwo_4 6 rfl rfl)
theorem dX6_findTwo_98 : decode cX6_findTwo 98 = .ok (.ireturn, 1) := dk_172 (dk_at dksX6_findTwo_4 7 rfl rfl)
abbrev cX6_owe1 : ByteArray := prog_30_method_49_code
def yX6_owe1 : MethodName := ⟨RX6, "owe1", "(II)Z"⟩
def dkwX6_owe1_0 : List UInt8 := [27, 28, 159, 0, 16, 42, 27, 28, 182, 0, 86, 158, 0, 7, 4, 167, 0, 4, 3, 172]
abbrev dktX6_owe1_0 : List UInt8 := dkwX6_owe1_0 ++ []
theorem dksX6_owe1_0 : cX6_owe1.data.toList.drop 0 = dktX6_owe1_0 := by decide +kernel
theorem dX6_owe1_0 : decode cX6_owe1 0 = .ok (.iload_n 1, 1) := dk_27 (dk_at dksX6_owe1_0 0 rfl rfl)
theorem dX6_owe1_1 : decode cX6_owe1 1 = .ok (.iload_n 2, 1) := dk_28 (dk_at dksX6_owe1_0 1 rfl rfl)
theorem dX6_owe1_2 : decode cX6_owe1 2 = .ok (.if_icmp .eq 16, 3) := dk_159 0 16 (dk_at dksX6_owe1_0 2 rfl rfl)
theorem dX6_owe1_5 : decode cX6_owe1 5 = .ok (.aload_n 0, 1) := dk_42 (dk_at dksX6_owe1_0 5 rfl rfl)
theorem dX6_owe1_6 : decode cX6_owe1 6 = .ok (.iload_n 1, 1) := dk_27 (dk_at dksX6_owe1_0 6 rfl rfl)
theorem dX6_owe1_7 : decode cX6_owe1 7 = .ok (.iload_n 2, 1) := dk_28 (dk_at dksX6_owe1_0 7 rfl rfl)
theorem dX6_owe1_8 : decode cX6_owe1 8 = .ok (.invokevirtual 86, 3) := dk_182 0 86 (dk_at dksX6_owe1_0 8 rfl rfl)
theorem dX6_owe1_11 : decode cX6_owe1 11 = .ok (.ifCond .le 7, 3) := dk_158 0 7 (dk_at dksX6_owe1_0 11 rfl rfl)
theorem dX6_owe1_14 : decode cX6_owe1 14 = .ok (.iconst 1, 1) := dk_4 (dk_at dksX6_owe1_0 14 rfl rfl)
theorem dX6_owe1_15 : decode cX6_owe1 15 = .ok (.goto 4, 3) := dk_167 0 4 (dk_at dksX6_owe1_0 15 rfl rfl)
theorem dX6_owe1_18 : decode cX6_owe1 18 = .ok (.iconst 0, 1) := dk_3 (dk_at dksX6_owe1_0 18 rfl rfl)
theorem dX6_owe1_19 : decode cX6_owe1 19 = .ok (.ireturn, 1) := dk_172 (dk_at dksX6_owe1_0 19 rfl rfl)
abbrev cX6_findThree : ByteArray := prog_30_method_51_code
def yX6_findThree : MethodName := ⟨RX6, "findThree", "()Z"⟩
def dkwX6_findThree_5 : List UInt8 := [172]
abbrev dktX6_findThree_5 : List UInt8 := dkwX6_findThree_5 ++ []
def dkwX6_findThree_4 : List UInt8 := [42, 42, 180, 0, 199, 42, 180, 0, 193, 182, 0, 202, 153, 0, 5, 4, 172, 132, 2, 1, 167, 255, 150, 3]
abbrev dktX6_findThree_4 : List UInt8 := dkwX6_findThree_4 ++ dktX6_findThree_5
def dkwX6_findThree_3 : List UInt8 := [180, 0, 196, 182, 0, 202, 153, 0, 35, 42, 42, 180, 0, 196, 42, 180, 0, 199, 182, 0, 202, 153, 0, 20]
abbrev dktX6_findThree_3 : List UInt8 := dkwX6_findThree_3 ++ dktX6_findThree_4
def dkwX6_findThree_2 : List UInt8 := [180, 0, 193, 164, 0, 61, 42, 180, 0, 199, 42, 180, 0, 193, 164, 0, 50, 42, 42, 180, 0, 193, 42]
abbrev dktX6_findThree_2 : List UInt8 := dkwX6_findThree_2 ++ dktX6_findThree_3
def dkwX6_findThree_1 : List UInt8 := [181, 0, 193, 42, 28, 27, 108, 27, 112, 181, 0, 196, 42, 28, 27, 112, 181, 0, 199, 42, 180, 0, 196, 42]
abbrev dktX6_findThree_1 : List UInt8 := dkwX6_findThree_1 ++ dktX6_findThree_2
def dkwX6_findThree_0 : List UInt8 := [42, 180, 0, 7, 5, 46, 60, 3, 61, 28, 27, 27, 104, 27, 104, 162, 0, 103, 42, 28, 27, 27, 104, 108]
abbrev dktX6_findThree_0 : List UInt8 := dkwX6_findThree_0 ++ dktX6_findThree_1
theorem dksX6_findThree_0 : cX6_findThree.data.toList.drop 0 = dktX6_findThree_0 := by decide +kernel
theorem dksX6_findThree_1 : cX6_findThree.data.toList.drop 24 = dktX6_findThree_1 := dk_seg dksX6_findThree_0 24 rfl rfl
theorem dksX6_findThree_2 : cX6_findThree.data.toList.drop 48 = dktX6_findThree_2 := dk_seg dksX6_findThree_1 24 rfl rfl
theorem dksX6_findThree_3 : cX6_findThree.data.toList.drop 71 = dktX6_findThree_3 := dk_seg dksX6_findThree_2 23 rfl rfl
theorem dksX6_findThree_4 : cX6_findThree.data.toList.drop 95 = dktX6_findThree_4 := dk_seg dksX6_findThree_3 24 rfl rfl
theorem dksX6_findThree_5 : cX6_findThree.data.toList.drop 119 = dktX6_findThree_5 := dk_seg dksX6_findThree_4 24 rfl rfl
theorem dX6_findThree_0 : decode cX6_findThree 0 = .ok (.aload_n 0, 1) := dk_42 (dk_at dksX6_findThree_0 0 rfl rfl)
theorem dX6_findThree_1 : decode cX6_findThree 1 = .ok (.getfield 7, 3) := dk_180 0 7 (dk_at dksX6_findThree_0 1 rfl rfl)
theorem dX6_findThree_4 : decode cX6_findThree 4 = .ok (.iconst 2, 1) := dk_5 (dk_at dksX6_findThree_0 4 rfl rfl)
theorem dX6_findThree_5 : decode cX6_findThree 5 = .ok (.iaload, 1) := dk_46 (dk_at dksX6_findThree_0 5 rfl rfl)
theorem dX6_findThree_6 : decode cX6_findThree 6 = .ok (.istore_n 1, 1) := dk_60 (dk_at dksX6_findThree_0 6 rfl rfl)
theorem dX6_findThree_7 : decode cX6_findThree 7 = .ok (.iconst 0, 1) := dk_3 (dk_at dksX6_findThree_0 7 rfl rfl)
theorem dX6_findThree_8 : decode cX6_findThree 8 = .ok (.istore_n 2, 1) := dk_61 (dk_at dksX6_findThree_0 8 rfl rfl)
theorem dX6_findThree_9 : decode cX6_findThree 9 = .ok (.iload_n 2, 1) := dk_28 (dk_at dksX6_findThree_0 9 rfl rfl)
theorem dX6_findThree_10 : decode cX6_findThree 10 = .ok (.iload_n 1, 1) := dk_27 (dk_at dksX6_findThree_0 10 rfl rfl)
theorem dX6_findThree_11 : decode cX6_findThree 11 = .ok (.iload_n 1, 1) := dk_27 (dk_at dksX6_findThree_0 11 rfl rfl)
theorem dX6_findThree_12 : decode cX6_findThree 12 = .ok (.imul, 1) := dk_104 (dk_at dksX6_findThree_0 12 rfl rfl)
theorem dX6_findThree_13 : decode cX6_findThree 13 = .ok (.iload_n 1, 1) := dk_27 (dk_at dksX6_findThree_0 13 rfl rfl)
theorem dX6_findThree_14 : decode cX6_findThree 14 = .ok (.imul, 1) := dk_104 (dk_at dksX6_findThree_0 14 rfl rfl)
theorem dX6_findThree_15 : decode cX6_findThree 15 = .ok (.if_icmp .ge 103, 3) := dk_162 0 103 (dk_at dksX6_findThree_0 15 rfl rfl)
theorem dX6_findThree_18 : decode cX6_findThree 18 = .ok (.aload_n 0, 1) := dk_42 (dk_at dksX6_findThree_0 18 rfl rfl)
theorem dX6_findThree_19 : decode cX6_findThree 19 = .ok (.iload_n 2, 1) := dk_28 (dk_at dksX6_findThree_0 19 rfl rfl)
theorem dX6_findThree_20 : decode cX6_findThree 20 = .ok (.iload_n 1, 1) := dk_27 (dk_at dksX6_findThree_0 20 rfl rfl)
theorem dX6_findThree_21 : decode cX6_findThree 21 = .ok (.iload_n 1, 1) := dk_27 (dk_at dksX6_findThree_0 21 rfl rfl)
theorem dX6_findThree_22 : decode cX6_findThree 22 = .ok (.imul, 1) := dk_104 (dk_at dksX6_findThree_0 22 rfl rfl)
theorem dX6_findThree_23 : decode cX6_findThree 23 = .ok (.idiv, 1) := dk_108 (dk_at dksX6_findThree_0 23 rfl rfl)
theorem dX6_findThree_24 : decode cX6_findThree 24 = .ok (.putfield 193, 3) := dk_181 0 193 (dk_at dksX6_findThree_1 0 rfl rfl)
theorem dX6_findThree_27 : decode cX6_findThree 27 = .ok (.aload_n 0, 1) := dk_42 (dk_at dksX6_findThree_1 3 rfl rfl)
theorem dX6_findThree_28 : decode cX6_findThree 28 = .ok (.iload_n 2, 1) := dk_28 (dk_at dksX6_findThree_1 4 rfl rfl)
theorem dX6_findThree_29 : decode cX6_findThree 29 = .ok (.iload_n 1, 1) := dk_27 (dk_at dksX6_findThree_1 5 rfl rfl)
theorem dX6_findThree_30 : decode cX6_findThree 30 = .ok (.idiv, 1) := dk_108 (dk_at dksX6_findThree_1 6 rfl rfl)
theorem dX6_findThree_31 : decode cX6_findThree 31 = .ok (.iload_n 1, 1) := dk_27 (dk_at dksX6_findThree_1 7 rfl rfl)
theorem dX6_findThree_32 : decode cX6_findThree 32 = .ok (.irem, 1) := dk_112 (dk_at dksX6_findThree_1 8 rfl rfl)
theorem dX6_findThree_33 : decode cX6_findThree 33 = .ok (.putfield 196, 3) := dk_181 0 196 (dk_at dksX6_findThree_1 9 rfl rfl)
theorem dX6_findThree_36 : decode cX6_findThree 36 = .ok (.aload_n 0, 1) := dk_42 (dk_at dksX6_findThree_1 12 rfl rfl)
theorem dX6_findThree_37 : decode cX6_findThree 37 = .ok (.iload_n 2, 1) := dk_28 (dk_at dksX6_findThree_1 13 rfl rfl)
theorem dX6_findThree_38 : decode cX6_findThree 38 = .ok (.iload_n 1, 1) := dk_27 (dk_at dksX6_findThree_1 14 rfl rfl)
theorem dX6_findThree_39 : decode cX6_findThree 39 = .ok (.irem, 1) := dk_112 (dk_at dksX6_findThree_1 15 rfl rfl)
theorem dX6_findThree_40 : decode cX6_findThree 40 = .ok (.putfield 199, 3) := dk_181 0 199 (dk_at dksX6_findThree_1 16 rfl rfl)
theorem dX6_findThree_43 : decode cX6_findThree 43 = .ok (.aload_n 0, 1) := dk_42 (dk_at dksX6_findThree_1 19 rfl rfl)
theorem dX6_findThree_44 : decode cX6_findThree 44 = .ok (.getfield 196, 3) := dk_180 0 196 (dk_at dksX6_findThree_1 20 rfl rfl)
theorem dX6_findThree_47 : decode cX6_findThree 47 = .ok (.aload_n 0, 1) := dk_42 (dk_at dksX6_findThree_1 23 rfl rfl)
theorem dX6_findThree_48 : decode cX6_findThree 48 = .ok (.getfield 193, 3) := dk_180 0 193 (dk_at dksX6_findThree_2 0 rfl rfl)
theorem dX6_findThree_51 : decode cX6_findThree 51 = .ok (.if_icmp .le 61, 3) := dk_164 0 61 (dk_at dksX6_findThree_2 3 rfl rfl)
theorem dX6_findThree_54 : decode cX6_findThree 54 = .ok (.aload_n 0, 1) := dk_42 (dk_at dksX6_findThree_2 6 rfl rfl)
theorem dX6_findThree_55 : decode cX6_findThree 55 = .ok (.getfield 199, 3) := dk_180 0 199 (dk_at dksX6_findThree_2 7 rfl rfl)
theorem dX6_findThree_58 : decode cX6_findThree 58 = .ok (.aload_n 0, 1) := dk_42 (dk_at dksX6_findThree_2 10 rfl rfl)
theorem dX6_findThree_59 : decode cX6_findThree 59 = .ok (.getfield 193, 3) := dk_180 0 193 (dk_at dksX6_findThree_2 11 rfl rfl)
theorem dX6_findThree_62 : decode cX6_findThree 62 = .ok (.if_icmp .le 50, 3) := dk_164 0 50 (dk_at dksX6_findThree_2 14 rfl rfl)
theorem dX6_findThree_65 : decode cX6_findThree 65 = .ok (.aload_n 0, 1) := dk_42 (dk_at dksX6_findThree_2 17 rfl rfl)
theorem dX6_findThree_66 : decode cX6_findThree 66 = .ok (.aload_n 0, 1) := dk_42 (dk_at dksX6_findThree_2 18 rfl rfl)
theorem dX6_findThree_67 : decode cX6_findThree 67 = .ok (.getfield 193, 3) := dk_180 0 193 (dk_at dksX6_findThree_2 19 rfl rfl)
theorem dX6_findThree_70 : decode cX6_findThree 70 = .ok (.aload_n 0, 1) := dk_42 (dk_at dksX6_findThree_2 22 rfl rfl)
theorem dX6_findThree_71 : decode cX6_findThree 71 = .ok (.getfield 196, 3) := dk_180 0 196 (dk_at dksX6_findThree_3 0 rfl rfl)
theorem dX6_findThree_74 : decode cX6_findThree 74 = .ok (.invokevirtual 202, 3) := dk_182 0 202 (dk_at dksX6_findThree_3 3 rfl rfl)
theorem dX6_findThree_77 : decode cX6_findThree 77 = .ok (.ifCond .eq 35, 3) := dk_153 0 35 (dk_at dksX6_findThree_3 6 rfl rfl)
theorem dX6_findThree_80 : decode cX6_findThree 80 = .ok (.aload_n 0, 1) := dk_42 (dk_at dksX6_findThree_3 9 rfl rfl)
theorem dX6_findThree_81 : decode cX6_findThree 81 = .ok (.aload_n 0, 1) := dk_42 (dk_at dksX6_findThree_3 10 rfl rfl)
theorem dX6_findThree_82 : decode cX6_findThree 82 = .ok (.getfield 196, 3) := dk_180 0 196 (dk_at dksX6_findThree_3 11 rfl rfl)
theorem dX6_findThree_85 : decode cX6_findThree 85 = .ok (.aload_n 0, 1) := dk_42 (dk_at dksX6_findThree_3 14 rfl rfl)
theorem dX6_findThree_86 : decode cX6_findThree 86 = .ok (.getfield 199, 3) := dk_180 0 199 (dk_at dksX6_findThree_3 15 rfl rfl)
theorem dX6_findThree_89 : decode cX6_findThree 89 = .ok (.invokevirtual 202, 3) := dk_182 0 202 (dk_at dksX6_findThree_3 18 rfl rfl)
theorem dX6_findThree_92 : decode cX6_findThree 92 = .ok (.ifCond .eq 20, 3) := dk_153 0 20 (dk_at dksX6_findThree_3 21 rfl rfl)
theorem dX6_findThree_95 : decode cX6_findThree 95 = .ok (.aload_n 0, 1) := dk_42 (dk_at dksX6_findThree_4 0 rfl rfl)
theorem dX6_findThree_96 : decode cX6_findThree 96 = .ok (.aload_n 0, 1) := dk_42 (dk_at dksX6_findThree_4 1 rfl rfl)
theorem dX6_findThree_97 : decode cX6_findThree 97 = .ok (.getfield 199, 3) := dk_180 0 199 (dk_at dksX6_findThree_4 2 rfl rfl)
theorem dX6_findThree_100 : decode cX6_findThree 100 = .ok (.aload_n 0, 1) := dk_42 (dk_at dksX6_findThree_4 5 rfl rfl)
theorem dX6_findThree_101 : decode cX6_findThree 101 = .ok (.getfield 193, 3) := dk_180 0 193 (dk_at dksX6_findThree_4 6 rfl rfl)
theorem dX6_findThree_104 : decode cX6_findThree 104 = .ok (.invokevirtual 202, 3) := dk_182 0 202 (dk_at dksX6_findThree_4 9 rfl rfl)
theorem dX6_findThree_107 : decode cX6_findThree 107 = .ok (.ifCond .eq 5, 3) := dk_153 0 5 (dk_at dksX6_findThree_4 12 rfl rfl)
theorem dX6_findThree_110 : decode cX6_findThree 110 = .ok (.iconst 1, 1) := dk_4 (dk_at dksX6_findThree_4 15 rfl rfl)
theorem dX6_findThree_111 : decode cX6_findThree 111 = .ok (.ireturn, 1) := dk_172 (dk_at dksX6_findThree_4 16 rfl rfl)
theorem dX6_findThree_112 : decode cX6_findThree 112 = .ok (.iinc 2 1, 3) := dk_132 2 1 (dk_at dksX6_findThree_4 17 rfl rfl)
theorem dX6_findThree_115 : decode cX6_findThree 115 = .ok (.goto (-106), 3) := dk_167 255 150 (dk_at dksX6_findThree_4 20 rfl rfl)
theorem dX6_findThree_118 : decode cX6_findThree 118 = .ok (.iconst 0, 1) := dk_3 (dk_at dksX6_findThree_4 23 rfl rfl)
theorem dX6_findThree_119 : decode cX6_findThree 119 = .ok (.ireturn, 1) := dk_172 (dk_at dksX6_findThree_5 0 rfl rfl)
abbrev cX6_lessBy : ByteArray := prog_30_method_52_code
def yX6_lessBy : MethodName := ⟨RX6, "lessBy", "(III)V"⟩
def dkwX6_lessBy_0 : List UInt8 := [42, 180, 0, 7, 16, 47, 16, 8, 27, 104, 96, 28, 96, 92, 46, 29, 100, 79, 177]
abbrev dktX6_lessBy_0 : List UInt8 := dkwX6_lessBy_0 ++ []
theorem dksX6_lessBy_0 : cX6_lessBy.data.toList.drop 0 = dktX6_lessBy_0 := by decide +kernel
theorem dX6_lessBy_0 : decode cX6_lessBy 0 = .ok (.aload_n 0, 1) := dk_42 (dk_at dksX6_lessBy_0 0 rfl rfl)
theorem dX6_lessBy_1 : decode cX6_lessBy 1 = .ok (.getfield 7, 3) := dk_180 0 7 (dk_at dksX6_lessBy_0 1 rfl rfl)
theorem dX6_lessBy_4 : decode cX6_lessBy 4 = .ok (.bipush 47, 2) := dk_16 47 (dk_at dksX6_lessBy_0 4 rfl rfl)
theorem dX6_lessBy_6 : decode cX6_lessBy 6 = .ok (.bipush 8, 2) := dk_16 8 (dk_at dksX6_lessBy_0 6 rfl rfl)
theorem dX6_lessBy_8 : decode cX6_lessBy 8 = .ok (.iload_n 1, 1) := dk_27 (dk_at dksX6_lessBy_0 8 rfl rfl)
theorem dX6_lessBy_9 : decode cX6_lessBy 9 = .ok (.imul, 1) := dk_104 (dk_at dksX6_lessBy_0 9 rfl rfl)
theorem dX6_lessBy_10 : decode cX6_lessBy 10 = .ok (.iadd, 1) := dk_96 (dk_at dksX6_lessBy_0 10 rfl rfl)
theorem dX6_lessBy_11 : decode cX6_lessBy 11 = .ok (.iload_n 2, 1) := dk_28 (dk_at dksX6_lessBy_0 11 rfl rfl)
theorem dX6_lessBy_12 : decode cX6_lessBy 12 = .ok (.iadd, 1) := dk_96 (dk_at dksX6_lessBy_0 12 rfl rfl)
theorem dX6_lessBy_13 : decode cX6_lessBy 13 = .ok (.dup2, 1) := dk_92 (dk_at dksX6_lessBy_0 13 rfl rfl)
theorem dX6_lessBy_14 : decode cX6_lessBy 14 = .ok (.iaload, 1) := dk_46 (dk_at dksX6_lessBy_0 14 rfl rfl)
theorem dX6_lessBy_15 : decode cX6_lessBy 15 = .ok (.iload_n 3, 1) := dk_29 (dk_at dksX6_lessBy_0 15 rfl rfl)
theorem dX6_lessBy_16 : decode cX6_lessBy 16 = .ok (.isub, 1) := dk_100 (dk_at dksX6_lessBy_0 16 rfl rfl)
theorem dX6_lessBy_17 : decode cX6_lessBy 17 = .ok (.iastore, 1) := dk_79 (dk_at dksX6_lessBy_0 17 rfl rfl)
theorem dX6_lessBy_18 : decode cX6_lessBy 18 = .ok (.return_, 1) := dk_177 (dk_at dksX6_lessBy_0 18 rfl rfl)
abbrev cX6_struck : ByteArray := prog_30_method_56_code
def yX6_struck : MethodName := ⟨RX6, "struck", "(I)I"⟩
def dkwX6_struck_2 : List UInt8 := [180, 0, 7, 182, 0, 165, 27, 154, 0, 7, 28, 167, 0, 4, 29, 172]
abbrev dktX6_struck_2 : List UInt8 := dkwX6_struck_2 ++ []
def dkwX6_struck_1 : List UInt8 := [180, 0, 16, 182, 0, 165, 42, 182, 0, 215, 61, 42, 182, 0, 218, 62, 42, 42, 180, 0, 16, 42]
abbrev dktX6_struck_1 : List UInt8 := dkwX6_struck_1 ++ dktX6_struck_2
def dkwX6_struck_0 : List UInt8 := [27, 3, 4, 184, 0, 48, 154, 0, 10, 42, 18, 52, 182, 0, 53, 172, 42, 42, 180, 0, 7, 42]
abbrev dktX6_struck_0 : List UInt8 := dkwX6_struck_0 ++ dktX6_struck_1
theorem dksX6_struck_0 : cX6_struck.data.toList.drop 0 = dktX6_struck_0 := by decide +kernel
theorem dksX6_struck_1 : cX6_struck.data.toList.drop 22 = dktX6_struck_1 := dk_seg dksX6_struck_0 22 rfl rfl
theorem dksX6_struck_2 : cX6_struck.data.toList.drop 44 = dktX6_struck_2 := dk_seg dksX6_struck_1 22 rfl rfl
theorem dX6_struck_0 : decode cX6_struck 0 = .ok (.iload_n 1, 1) := dk_27 (dk_at dksX6_struck_0 0 rfl rfl)
theorem dX6_struck_1 : decode cX6_struck 1 = .ok (.iconst 0, 1) := dk_3 (dk_at dksX6_struck_0 1 rfl rfl)
theorem dX6_struck_2 : decode cX6_struck 2 = .ok (.iconst 1, 1) := dk_4 (dk_at dksX6_struck_0 2 rfl rfl)
theorem dX6_struck_3 : decode cX6_struck 3 = .ok (.invokestatic 48, 3) := dk_184 0 48 (dk_at dksX6_struck_0 3 rfl rfl)
theorem dX6_struck_6 : decode cX6_struck 6 = .ok (.ifCond .ne 10, 3) := dk_154 0 10 (dk_at dksX6_struck_0 6 rfl rfl)
theorem dX6_struck_9 : decode cX6_struck 9 = .ok (.aload_n 0, 1) := dk_42 (dk_at dksX6_struck_0 9 rfl rfl)
theorem dX6_struck_10 : decode cX6_struck 10 = .ok (.ldc 52, 2) := dk_18 52 (dk_at dksX6_struck_0 10 rfl rfl)
theorem dX6_struck_12 : decode cX6_struck 12 = .ok (.invokevirtual 53, 3) := dk_182 0 53 (dk_at dksX6_struck_0 12 rfl rfl)
theorem dX6_struck_15 : decode cX6_struck 15 = .ok (.ireturn, 1) := dk_172 (dk_at dksX6_struck_0 15 rfl rfl)
theorem dX6_struck_16 : decode cX6_struck 16 = .ok (.aload_n 0, 1) := dk_42 (dk_at dksX6_struck_0 16 rfl rfl)
theorem dX6_struck_17 : decode cX6_struck 17 = .ok (.aload_n 0, 1) := dk_42 (dk_at dksX6_struck_0 17 rfl rfl)
theorem dX6_struck_18 : decode cX6_struck 18 = .ok (.getfield 7, 3) := dk_180 0 7 (dk_at dksX6_struck_0 18 rfl rfl)
theorem dX6_struck_21 : decode cX6_struck 21 = .ok (.aload_n 0, 1) := dk_42 (dk_at dksX6_struck_0 21 rfl rfl)
theorem dX6_struck_22 : decode cX6_struck 22 = .ok (.getfield 16, 3) := dk_180 0 16 (dk_at dksX6_struck_1 0 rfl rfl)
theorem dX6_struck_25 : decode cX6_struck 25 = .ok (.invokevirtual 165, 3) := dk_182 0 165 (dk_at dksX6_struck_1 3 rfl rfl)
theorem dX6_struck_28 : decode cX6_struck 28 = .ok (.aload_n 0, 1) := dk_42 (dk_at dksX6_struck_1 6 rfl rfl)
theorem dX6_struck_29 : decode cX6_struck 29 = .ok (.invokevirtual 215, 3) := dk_182 0 215 (dk_at dksX6_struck_1 7 rfl rfl)
theorem dX6_struck_32 : decode cX6_struck 32 = .ok (.istore_n 2, 1) := dk_61 (dk_at dksX6_struck_1 10 rfl rfl)
theorem dX6_struck_33 : decode cX6_struck 33 = .ok (.aload_n 0, 1) := dk_42 (dk_at dksX6_struck_1 11 rfl rfl)
theorem dX6_struck_34 : decode cX6_struck 34 = .ok (.invokevirtual 218, 3) := dk_182 0 218 (dk_at dksX6_struck_1 12 rfl rfl)
theorem dX6_struck_37 : decode cX6_struck 37 = .ok (.istore_n 3, 1) := dk_62 (dk_at dksX6_struck_1 15 rfl rfl)
theorem dX6_struck_38 : decode cX6_struck 38 = .ok (.aload_n 0, 1) := dk_42 (dk_at dksX6_struck_1 16 rfl rfl)
theorem dX6_struck_39 : decode cX6_struck 39 = .ok (.aload_n 0, 1) := dk_42 (dk_at dksX6_struck_1 17 rfl rfl)
theorem dX6_struck_40 : decode cX6_struck 40 = .ok (.getfield 16, 3) := dk_180 0 16 (dk_at dksX6_struck_1 18 rfl rfl)
theorem dX6_struck_43 : decode cX6_struck 43 = .ok (.aload_n 0, 1) := dk_42 (dk_at dksX6_struck_1 21 rfl rfl)
theorem dX6_struck_44 : decode cX6_struck 44 = .ok (.getfield 7, 3) := dk_180 0 7 (dk_at dksX6_struck_2 0 rfl rfl)
theorem dX6_struck_47 : decode cX6_struck 47 = .ok (.invokevirtual 165, 3) := dk_182 0 165 (dk_at dksX6_struck_2 3 rfl rfl)
theorem dX6_struck_50 : decode cX6_struck 50 = .ok (.iload_n 1, 1) := dk_27 (dk_at dksX6_struck_2 6 rfl rfl)
theorem dX6_struck_51 : decode cX6_struck 51 = .ok (.ifCond .ne 7, 3) := dk_154 0 7 (dk_at dksX6_struck_2 7 rfl rfl)
theorem dX6_struck_54 : decode cX6_struck 54 = .ok (.iload_n 2, 1) := dk_28 (dk_at dksX6_struck_2 10 rfl rfl)
theorem dX6_struck_55 : decode cX6_struck 55 = .ok (.goto 4, 3) := dk_167 0 4 (dk_at dksX6_struck_2 11 rfl rfl)
theorem dX6_struck_58 : decode cX6_struck 58 = .ok (.iload_n 3, 1) := dk_29 (dk_at dksX6_struck_2 14 rfl rfl)
theorem dX6_struck_59 : decode cX6_struck 59 = .ok (.ireturn, 1) := dk_172 (dk_at dksX6_struck_2 15 rfl rfl)
abbrev cX6_owed : ByteArray := prog_30_method_55_code
def yX6_owed : MethodName := ⟨RX6, "owed", "()I"⟩
def dkwX6_owed_1 : List UInt8 := [132, 2, 1, 167, 255, 235, 27, 172]
abbrev dktX6_owed_1 : List UInt8 := dkwX6_owed_1 ++ []
def dkwX6_owed_0 : List UInt8 := [3, 60, 3, 61, 28, 16, 64, 162, 0, 21, 27, 42, 180, 0, 7, 16, 47, 28, 96, 46, 96, 60]
abbrev dktX6_owed_0 : List UInt8 := dkwX6_owed_0 ++ dktX6_owed_1
theorem dksX6_owed_0 : cX6_owed.data.toList.drop 0 = dktX6_owed_0 := by decide +kernel
theorem dksX6_owed_1 : cX6_owed.data.toList.drop 22 = dktX6_owed_1 := dk_seg dksX6_owed_0 22 rfl rfl
theorem dX6_owed_0 : decode cX6_owed 0 = .ok (.iconst 0, 1) := dk_3 (dk_at dksX6_owed_0 0 rfl rfl)
theorem dX6_owed_1 : decode cX6_owed 1 = .ok (.istore_n 1, 1) := dk_60 (dk_at dksX6_owed_0 1 rfl rfl)
theorem dX6_owed_2 : decode cX6_owed 2 = .ok (.iconst 0, 1) := dk_3 (dk_at dksX6_owed_0 2 rfl rfl)
theorem dX6_owed_3 : decode cX6_owed 3 = .ok (.istore_n 2, 1) := dk_61 (dk_at dksX6_owed_0 3 rfl rfl)
theorem dX6_owed_4 : decode cX6_owed 4 = .ok (.iload_n 2, 1) := dk_28 (dk_at dksX6_owed_0 4 rfl rfl)
theorem dX6_owed_5 : decode cX6_owed 5 = .ok (.bipush 64, 2) := dk_16 64 (dk_at dksX6_owed_0 5 rfl rfl)
theorem dX6_owed_7 : decode cX6_owed 7 = .ok (.if_icmp .ge 21, 3) := dk_162 0 21 (dk_at dksX6_owed_0 7 rfl rfl)
theorem dX6_owed_10 : decode cX6_owed 10 = .ok (.iload_n 1, 1) := dk_27 (dk_at dksX6_owed_0 10 rfl rfl)
theorem dX6_owed_11 : decode cX6_owed 11 = .ok (.aload_n 0, 1) := dk_42 (dk_at dksX6_owed_0 11 rfl rfl)
theorem dX6_owed_12 : decode cX6_owed 12 = .ok (.getfield 7, 3) := dk_180 0 7 (dk_at dksX6_owed_0 12 rfl rfl)
theorem dX6_owed_15 : decode cX6_owed 15 = .ok (.bipush 47, 2) := dk_16 47 (dk_at dksX6_owed_0 15 rfl rfl)
theorem dX6_owed_17 : decode cX6_owed 17 = .ok (.iload_n 2, 1) := dk_28 (dk_at dksX6_owed_0 17 rfl rfl)
theorem dX6_owed_18 : decode cX6_owed 18 = .ok (.iadd, 1) := dk_96 (dk_at dksX6_owed_0 18 rfl rfl)
theorem dX6_owed_19 : decode cX6_owed 19 = .ok (.iaload, 1) := dk_46 (dk_at dksX6_owed_0 19 rfl rfl)
theorem dX6_owed_20 : decode cX6_owed 20 = .ok (.iadd, 1) := dk_96 (dk_at dksX6_owed_0 20 rfl rfl)
theorem dX6_owed_21 : decode cX6_owed 21 = .ok (.istore_n 1, 1) := dk_60 (dk_at dksX6_owed_0 21 rfl rfl)
theorem dX6_owed_22 : decode cX6_owed 22 = .ok (.iinc 2 1, 3) := dk_132 2 1 (dk_at dksX6_owed_1 0 rfl rfl)
theorem dX6_owed_25 : decode cX6_owed 25 = .ok (.goto (-21), 3) := dk_167 255 235 (dk_at dksX6_owed_1 3 rfl rfl)
theorem dX6_owed_28 : decode cX6_owed 28 = .ok (.iload_n 1, 1) := dk_27 (dk_at dksX6_owed_1 6 rfl rfl)
theorem dX6_owed_29 : decode cX6_owed 29 = .ok (.ireturn, 1) := dk_172 (dk_at dksX6_owed_1 7 rfl rfl)
abbrev cX6_then : ByteArray := prog_30_method_57_code
def yX6_then : MethodName := ⟨RX6, "then", "(III)I"⟩
def dkwX6_then_3 : List UInt8 := [182, 0, 165, 21, 4, 172]
abbrev dktX6_then_3 : List UInt8 := dkwX6_then_3 ++ []
def dkwX6_then_2 : List UInt8 := [182, 0, 183, 42, 28, 6, 29, 96, 182, 0, 75, 54, 4, 42, 42, 180, 0, 16, 42, 180, 0, 7]
abbrev dktX6_then_2 : List UInt8 := dkwX6_then_2 ++ dktX6_then_3
def dkwX6_then_1 : List UInt8 := [154, 0, 10, 42, 18, 52, 182, 0, 53, 172, 42, 42, 180, 0, 7, 42, 180, 0, 16, 182, 0, 165, 42, 27]
abbrev dktX6_then_1 : List UInt8 := dkwX6_then_1 ++ dktX6_then_2
def dkwX6_then_0 : List UInt8 := [27, 3, 16, 60, 184, 0, 48, 153, 0, 20, 42, 28, 182, 0, 62, 153, 0, 12, 29, 3, 4, 184, 0, 48]
abbrev dktX6_then_0 : List UInt8 := dkwX6_then_0 ++ dktX6_then_1
theorem dksX6_then_0 : cX6_then.data.toList.drop 0 = dktX6_then_0 := by decide +kernel
theorem dksX6_then_1 : cX6_then.data.toList.drop 24 = dktX6_then_1 := dk_seg dksX6_then_0 24 rfl rfl
theorem dksX6_then_2 : cX6_then.data.toList.drop 48 = dktX6_then_2 := dk_seg dksX6_then_1 24 rfl rfl
theorem dksX6_then_3 : cX6_then.data.toList.drop 70 = dktX6_then_3 := dk_seg dksX6_then_2 22 rfl rfl
theorem dX6_then_0 : decode cX6_then 0 = .ok (.iload_n 1, 1) := dk_27 (dk_at dksX6_then_0 0 rfl rfl)
theorem dX6_then_1 : decode cX6_then 1 = .ok (.iconst 0, 1) := dk_3 (dk_at dksX6_then_0 1 rfl rfl)
theorem dX6_then_2 : decode cX6_then 2 = .ok (.bipush 60, 2) := dk_16 60 (dk_at dksX6_then_0 2 rfl rfl)
theorem dX6_then_4 : decode cX6_then 4 = .ok (.invokestatic 48, 3) := dk_184 0 48 (dk_at dksX6_then_0 4 rfl rfl)
theorem dX6_then_7 : decode cX6_then 7 = .ok (.ifCond .eq 20, 3) := dk_153 0 20 (dk_at dksX6_then_0 7 rfl rfl)
theorem dX6_then_10 : decode cX6_then 10 = .ok (.aload_n 0, 1) := dk_42 (dk_at dksX6_then_0 10 rfl rfl)
theorem dX6_then_11 : decode cX6_then 11 = .ok (.iload_n 2, 1) := dk_28 (dk_at dksX6_then_0 11 rfl rfl)
theorem dX6_then_12 : decode cX6_then 12 = .ok (.invokevirtual 62, 3) := dk_182 0 62 (dk_at dksX6_then_0 12 rfl rfl)
theorem dX6_then_15 : decode cX6_then 15 = .ok (.ifCond .eq 12, 3) := dk_153 0 12 (dk_at dksX6_then_0 15 rfl rfl)
theorem dX6_then_18 : decode cX6_then 18 = .ok (.iload_n 3, 1) := dk_29 (dk_at dksX6_then_0 18 rfl rfl)
theorem dX6_then_19 : decode cX6_then 19 = .ok (.iconst 0, 1) := dk_3 (dk_at dksX6_then_0 19 rfl rfl)
theorem dX6_then_20 : decode cX6_then 20 = .ok (.iconst 1, 1) := dk_4 (dk_at dksX6_then_0 20 rfl rfl)
theorem dX6_then_21 : decode cX6_then 21 = .ok (.invokestatic 48, 3) := dk_184 0 48 (dk_at dksX6_then_0 21 rfl rfl)
theorem dX6_then_24 : decode cX6_then 24 = .ok (.ifCond .ne 10, 3) := dk_154 0 10 (dk_at dksX6_then_1 0 rfl rfl)
theorem dX6_then_27 : decode cX6_then 27 = .ok (.aload_n 0, 1) := dk_42 (dk_at dksX6_then_1 3 rfl rfl)
theorem dX6_then_28 : decode cX6_then 28 = .ok (.ldc 52, 2) := dk_18 52 (dk_at dksX6_then_1 4 rfl rfl)
theorem dX6_then_30 : decode cX6_then 30 = .ok (.invokevirtual 53, 3) := dk_182 0 53 (dk_at dksX6_then_1 6 rfl rfl)
theorem dX6_then_33 : decode cX6_then 33 = .ok (.ireturn, 1) := dk_172 (dk_at dksX6_then_1 9 rfl rfl)
theorem dX6_then_34 : decode cX6_then 34 = .ok (.aload_n 0, 1) := dk_42 (dk_at dksX6_then_1 10 rfl rfl)
theorem dX6_then_35 : decode cX6_then 35 = .ok (.aload_n 0, 1) := dk_42 (dk_at dksX6_then_1 11 rfl rfl)
theorem dX6_then_36 : decode cX6_then 36 = .ok (.getfield 7, 3) := dk_180 0 7 (dk_at dksX6_then_1 12 rfl rfl)
theorem dX6_then_39 : decode cX6_then 39 = .ok (.aload_n 0, 1) := dk_42 (dk_at dksX6_then_1 15 rfl rfl)
theorem dX6_then_40 : decode cX6_then 40 = .ok (.getfield 16, 3) := dk_180 0 16 (dk_at dksX6_then_1 16 rfl rfl)
theorem dX6_then_43 : decode cX6_then 43 = .ok (.invokevirtual 165, 3) := dk_182 0 165 (dk_at dksX6_then_1 19 rfl rfl)
theorem dX6_then_46 : decode cX6_then 46 = .ok (.aload_n 0, 1) := dk_42 (dk_at dksX6_then_1 22 rfl rfl)
theorem dX6_then_47 : decode cX6_then 47 = .ok (.iload_n 1, 1) := dk_27 (dk_at dksX6_then_1 23 rfl rfl)
theorem dX6_then_48 : decode cX6_then 48 = .ok (.invokevirtual 183, 3) := dk_182 0 183 (dk_at dksX6_then_2 0 rfl rfl)
theorem dX6_then_51 : decode cX6_then 51 = .ok (.aload_n 0, 1) := dk_42 (dk_at dksX6_then_2 3 rfl rfl)
theorem dX6_then_52 : decode cX6_then 52 = .ok (.iload_n 2, 1) := dk_28 (dk_at dksX6_then_2 4 rfl rfl)
theorem dX6_then_53 : decode cX6_then 53 = .ok (.iconst 3, 1) := dk_6 (dk_at dksX6_then_2 5 rfl rfl)
theorem dX6_then_54 : decode cX6_then 54 = .ok (.iload_n 3, 1) := dk_29 (dk_at dksX6_then_2 6 rfl rfl)
theorem dX6_then_55 : decode cX6_then 55 = .ok (.iadd, 1) := dk_96 (dk_at dksX6_then_2 7 rfl rfl)
theorem dX6_then_56 : decode cX6_then 56 = .ok (.invokevirtual 75, 3) := dk_182 0 75 (dk_at dksX6_then_2 8 rfl rfl)
theorem dX6_then_59 : decode cX6_then 59 = .ok (.istore 4, 2) := dk_54 4 (dk_at dksX6_then_2 11 rfl rfl)
theorem dX6_then_61 : decode cX6_then 61 = .ok (.aload_n 0, 1) := dk_42 (dk_at dksX6_then_2 13 rfl rfl)
theorem dX6_then_62 : decode cX6_then 62 = .ok (.aload_n 0, 1) := dk_42 (dk_at dksX6_then_2 14 rfl rfl)
theorem dX6_then_63 : decode cX6_then 63 = .ok (.getfield 16, 3) := dk_180 0 16 (dk_at dksX6_then_2 15 rfl rfl)
theorem dX6_then_66 : decode cX6_then 66 = .ok (.aload_n 0, 1) := dk_42 (dk_at dksX6_then_2 18 rfl rfl)
theorem dX6_then_67 : decode cX6_then 67 = .ok (.getfield 7, 3) := dk_180 0 7 (dk_at dksX6_then_2 19 rfl rfl)
theorem dX6_then_70 : decode cX6_then 70 = .ok (.invokevirtual 165, 3) := dk_182 0 165 (dk_at dksX6_then_3 0 rfl rfl)
theorem dX6_then_73 : decode cX6_then 73 = .ok (.iload 4, 2) := dk_21 4 (dk_at dksX6_then_3 3 rfl rfl)
theorem dX6_then_75 : decode cX6_then 75 = .ok (.ireturn, 1) := dk_172 (dk_at dksX6_then_3 5 rfl rfl)
abbrev cX6_first : ByteArray := prog_30_method_59_code
def yX6_first : MethodName := ⟨RX6, "first", "(II)I"⟩
def dkwX6_first_4 : List UInt8 := [164, 0, 10, 42, 18, 224, 182, 0, 53, 172, 28, 154, 0, 7, 29, 167, 0, 5, 21, 4, 172]
abbrev dktX6_first_4 : List UInt8 := dkwX6_first_4 ++ []
def dkwX6_first_3 : List UInt8 := [42, 27, 182, 0, 221, 54, 4, 42, 42, 180, 0, 16, 42, 180, 0, 7, 182, 0, 165, 29, 16, 60]
abbrev dktX6_first_3 : List UInt8 := dkwX6_first_3 ++ dktX6_first_4
def dkwX6_first_2 : List UInt8 := [42, 27, 182, 0, 221, 42, 180, 0, 7, 5, 46, 160, 0, 13, 42, 182, 0, 179, 132, 3, 1, 167, 255, 229]
abbrev dktX6_first_2 : List UInt8 := dkwX6_first_2 ++ dktX6_first_3
def dkwX6_first_1 : List UInt8 := [182, 0, 53, 172, 42, 42, 180, 0, 7, 42, 180, 0, 16, 182, 0, 165, 3, 62, 29, 16, 60, 163, 0, 27]
abbrev dktX6_first_1 : List UInt8 := dkwX6_first_1 ++ dktX6_first_2
def dkwX6_first_0 : List UInt8 := [27, 4, 16, 99, 184, 0, 48, 153, 0, 12, 28, 3, 4, 184, 0, 48, 154, 0, 10, 42, 18, 52]
abbrev dktX6_first_0 : List UInt8 := dkwX6_first_0 ++ dktX6_first_1
theorem dksX6_first_0 : cX6_first.data.toList.drop 0 = dktX6_first_0 := by decide +kernel
theorem dksX6_first_1 : cX6_first.data.toList.drop 22 = dktX6_first_1 := dk_seg dksX6_first_0 22 rfl rfl
theorem dksX6_first_2 : cX6_first.data.toList.drop 46 = dktX6_first_2 := dk_seg dksX6_first_1 24 rfl rfl
theorem dksX6_first_3 : cX6_first.data.toList.drop 70 = dktX6_first_3 := dk_seg dksX6_first_2 24 rfl rfl
theorem dksX6_first_4 : cX6_first.data.toList.drop 92 = dktX6_first_4 := dk_seg dksX6_first_3 22 rfl rfl
theorem dX6_first_0 : decode cX6_first 0 = .ok (.iload_n 1, 1) := dk_27 (dk_at dksX6_first_0 0 rfl rfl)
theorem dX6_first_1 : decode cX6_first 1 = .ok (.iconst 1, 1) := dk_4 (dk_at dksX6_first_0 1 rfl rfl)
theorem dX6_first_2 : decode cX6_first 2 = .ok (.bipush 99, 2) := dk_16 99 (dk_at dksX6_first_0 2 rfl rfl)
theorem dX6_first_4 : decode cX6_first 4 = .ok (.invokestatic 48, 3) := dk_184 0 48 (dk_at dksX6_first_0 4 rfl rfl)
theorem dX6_first_7 : decode cX6_first 7 = .ok (.ifCond .eq 12, 3) := dk_153 0 12 (dk_at dksX6_first_0 7 rfl rfl)
theorem dX6_first_10 : decode cX6_first 10 = .ok (.iload_n 2, 1) := dk_28 (dk_at dksX6_first_0 10 rfl rfl)
theorem dX6_first_11 : decode cX6_first 11 = .ok (.iconst 0, 1) := dk_3 (dk_at dksX6_first_0 11 rfl rfl)
theorem dX6_first_12 : decode cX6_first 12 = .ok (.iconst 1, 1) := dk_4 (dk_at dksX6_first_0 12 rfl rfl)
theorem dX6_first_13 : decode cX6_first 13 = .ok (.invokestatic 48, 3) := dk_184 0 48 (dk_at dksX6_first_0 13 rfl rfl)
theorem dX6_first_16 : decode cX6_first 16 = .ok (.ifCond .ne 10, 3) := dk_154 0 10 (dk_at dksX6_first_0 16 rfl rfl)
theorem dX6_first_19 : decode cX6_first 19 = .ok (.aload_n 0, 1) := dk_42 (dk_at dksX6_first_0 19 rfl rfl)
theorem dX6_first_20 : decode cX6_first 20 = .ok (.ldc 52, 2) := dk_18 52 (dk_at dksX6_first_0 20 rfl rfl)
theorem dX6_first_22 : decode cX6_first 22 = .ok (.invokevirtual 53, 3) := dk_182 0 53 (dk_at dksX6_first_1 0 rfl rfl)
theorem dX6_first_25 : decode cX6_first 25 = .ok (.ireturn, 1) := dk_172 (dk_at dksX6_first_1 3 rfl rfl)
theorem dX6_first_26 : decode cX6_first 26 = .ok (.aload_n 0, 1) := dk_42 (dk_at dksX6_first_1 4 rfl rfl)
theorem dX6_first_27 : decode cX6_first 27 = .ok (.aload_n 0, 1) := dk_42 (dk_at dksX6_first_1 5 rfl rfl)
theorem dX6_first_28 : decode cX6_first 28 = .ok (.getfield 7, 3) := dk_180 0 7 (dk_at dksX6_first_1 6 rfl rfl)
theorem dX6_first_31 : decode cX6_first 31 = .ok (.aload_n 0, 1) := dk_42 (dk_at dksX6_first_1 9 rfl rfl)
theorem dX6_first_32 : decode cX6_first 32 = .ok (.getfield 16, 3) := dk_180 0 16 (dk_at dksX6_first_1 10 rfl rfl)
theorem dX6_first_35 : decode cX6_first 35 = .ok (.invokevirtual 165, 3) := dk_182 0 165 (dk_at dksX6_first_1 13 rfl rfl)
theorem dX6_first_38 : decode cX6_first 38 = .ok (.iconst 0, 1) := dk_3 (dk_at dksX6_first_1 16 rfl rfl)
theorem dX6_first_39 : decode cX6_first 39 = .ok (.istore_n 3, 1) := dk_62 (dk_at dksX6_first_1 17 rfl rfl)
theorem dX6_first_40 : decode cX6_first 40 = .ok (.iload_n 3, 1) := dk_29 (dk_at dksX6_first_1 18 rfl rfl)
theorem dX6_first_41 : decode cX6_first 41 = .ok (.bipush 60, 2) := dk_16 60 (dk_at dksX6_first_1 19 rfl rfl)
theorem dX6_first_43 : decode cX6_first 43 = .ok (.if_icmp .gt 27, 3) := dk_163 0 27 (dk_at dksX6_first_1 21 rfl rfl)
theorem dX6_first_46 : decode cX6_first 46 = .ok (.aload_n 0, 1) := dk_42 (dk_at dksX6_first_2 0 rfl rfl)
theorem dX6_first_47 : decode cX6_first 47 = .ok (.iload_n 1, 1) := dk_27 (dk_at dksX6_first_2 1 rfl rfl)
theorem dX6_first_48 : decode cX6_first 48 = .ok (.invokevirtual 221, 3) := dk_182 0 221 (dk_at dksX6_first_2 2 rfl rfl)
theorem dX6_first_51 : decode cX6_first 51 = .ok (.aload_n 0, 1) := dk_42 (dk_at dksX6_first_2 5 rfl rfl)
theorem dX6_first_52 : decode cX6_first 52 = .ok (.getfield 7, 3) := dk_180 0 7 (dk_at dksX6_first_2 6 rfl rfl)
theorem dX6_first_55 : decode cX6_first 55 = .ok (.iconst 2, 1) := dk_5 (dk_at dksX6_first_2 9 rfl rfl)
theorem dX6_first_56 : decode cX6_first 56 = .ok (.iaload, 1) := dk_46 (dk_at dksX6_first_2 10 rfl rfl)
theorem dX6_first_57 : decode cX6_first 57 = .ok (.if_icmp .ne 13, 3) := dk_160 0 13 (dk_at dksX6_first_2 11 rfl rfl)
theorem dX6_first_60 : decode cX6_first 60 = .ok (.aload_n 0, 1) := dk_42 (dk_at dksX6_first_2 14 rfl rfl)
theorem dX6_first_61 : decode cX6_first 61 = .ok (.invokevirtual 179, 3) := dk_182 0 179 (dk_at dksX6_first_2 15 rfl rfl)
theorem dX6_first_64 : decode cX6_first 64 = .ok (.iinc 3 1, 3) := dk_132 3 1 (dk_at dksX6_first_2 18 rfl rfl)
theorem dX6_first_67 : decode cX6_first 67 = .ok (.goto (-27), 3) := dk_167 255 229 (dk_at dksX6_first_2 21 rfl rfl)
theorem dX6_first_70 : decode cX6_first 70 = .ok (.aload_n 0, 1) := dk_42 (dk_at dksX6_first_3 0 rfl rfl)
theorem dX6_first_71 : decode cX6_first 71 = .ok (.iload_n 1, 1) := dk_27 (dk_at dksX6_first_3 1 rfl rfl)
theorem dX6_first_72 : decode cX6_first 72 = .ok (.invokevirtual 221, 3) := dk_182 0 221 (dk_at dksX6_first_3 2 rfl rfl)
theorem dX6_first_75 : decode cX6_first 75 = .ok (.istore 4, 2) := dk_54 4 (dk_at dksX6_first_3 5 rfl rfl)
theorem dX6_first_77 : decode cX6_first 77 = .ok (.aload_n 0, 1) := dk_42 (dk_at dksX6_first_3 7 rfl rfl)
theorem dX6_first_78 : decode cX6_first 78 = .ok (.aload_n 0, 1) := dk_42 (dk_at dksX6_first_3 8 rfl rfl)
theorem dX6_first_79 : decode cX6_first 79 = .ok (.getfield 16, 3) := dk_180 0 16 (dk_at dksX6_first_3 9 rfl rfl)
theorem dX6_first_82 : decode cX6_first 82 = .ok (.aload_n 0, 1) := dk_42 (dk_at dksX6_first_3 12 rfl rfl)
theorem dX6_first_83 : decode cX6_first 83 = .ok (.getfield 7, 3) := dk_180 0 7 (dk_at dksX6_first_3 13 rfl rfl)
theorem dX6_first_86 : decode cX6_first 86 = .ok (.invokevirtual 165, 3) := dk_182 0 165 (dk_at dksX6_first_3 16 rfl rfl)
theorem dX6_first_89 : decode cX6_first 89 = .ok (.iload_n 3, 1) := dk_29 (dk_at dksX6_first_3 19 rfl rfl)
theorem dX6_first_90 : decode cX6_first 90 = .ok (.bipush 60, 2) := dk_16 60 (dk_at dksX6_first_3 20 rfl rfl)
theorem dX6_first_92 : decode cX6_first 92 = .ok (.if_icmp .le 10, 3) := dk_164 0 10 (dk_at dksX6_first_4 0 rfl rfl)
theorem dX6_first_95 : decode cX6_first 95 = .ok (.aload_n 0, 1) := dk_42 (dk_at dksX6_first_4 3 rfl rfl)
theorem dX6_first_96 : decode cX6_first 96 = .ok (.ldc 224, 2) := dk_18 224 (dk_at dksX6_first_4 4 rfl rfl)
theorem dX6_first_98 : decode cX6_first 98 = .ok (.invokevirtual 53, 3) := dk_182 0 53 (dk_at dksX6_first_4 6 rfl rfl)
theorem dX6_first_101 : decode cX6_first 101 = .ok (.ireturn, 1) := dk_172 (dk_at dksX6_first_4 9 rfl rfl)
theorem dX6_first_102 : decode cX6_first 102 = .ok (.iload_n 2, 1) := dk_28 (dk_at dksX6_first_4 10 rfl rfl)
theorem dX6_first_103 : decode cX6_first 103 = .ok (.ifCond .ne 7, 3) := dk_154 0 7 (dk_at dksX6_first_4 11 rfl rfl)
theorem dX6_first_106 : decode cX6_first 106 = .ok (.iload_n 3, 1) := dk_29 (dk_at dksX6_first_4 14 rfl rfl)
theorem dX6_first_107 : decode cX6_first 107 = .ok (.goto 5, 3) := dk_167 0 5 (dk_at dksX6_first_4 15 rfl rfl)
theorem dX6_first_110 : decode cX6_first 110 = .ok (.iload 4, 2) := dk_21 4 (dk_at dksX6_first_4 18 rfl rfl)
theorem dX6_first_112 : decode cX6_first 112 = .ok (.ireturn, 1) := dk_172 (dk_at dksX6_first_4 20 rfl rfl)
abbrev cX6_thirsty : ByteArray := prog_30_method_58_code
def yX6_thirsty : MethodName := ⟨RX6, "thirsty", "(I)I"⟩
def dkwX6_thirsty_1 : List UInt8 := [132, 2, 1, 167, 255, 233, 28, 172]
abbrev dktX6_thirsty_1 : List UInt8 := dkwX6_thirsty_1 ++ []
def dkwX6_thirsty_0 : List UInt8 := [3, 61, 28, 42, 180, 0, 7, 5, 46, 162, 0, 19, 42, 28, 7, 182, 0, 75, 27, 162, 0, 9]
abbrev dktX6_thirsty_0 : List UInt8 := dkwX6_thirsty_0 ++ dktX6_thirsty_1
theorem dksX6_thirsty_0 : cX6_thirsty.data.toList.drop 0 = dktX6_thirsty_0 := by decide +kernel
theorem dksX6_thirsty_1 : cX6_thirsty.data.toList.drop 22 = dktX6_thirsty_1 := dk_seg dksX6_thirsty_0 22 rfl rfl
theorem dX6_thirsty_0 : decode cX6_thirsty 0 = .ok (.iconst 0, 1) := dk_3 (dk_at dksX6_thirsty_0 0 rfl rfl)
theorem dX6_thirsty_1 : decode cX6_thirsty 1 = .ok (.istore_n 2, 1) := dk_61 (dk_at dksX6_thirsty_0 1 rfl rfl)
theorem dX6_thirsty_2 : decode cX6_thirsty 2 = .ok (.iload_n 2, 1) := dk_28 (dk_at dksX6_thirsty_0 2 rfl rfl)
theorem dX6_thirsty_3 : decode cX6_thirsty 3 = .ok (.aload_n 0, 1) := dk_42 (dk_at dksX6_thirsty_0 3 rfl rfl)
theorem dX6_thirsty_4 : decode cX6_thirsty 4 = .ok (.getfield 7, 3) := dk_180 0 7 (dk_at dksX6_thirsty_0 4 rfl rfl)
theorem dX6_thirsty_7 : decode cX6_thirsty 7 = .ok (.iconst 2, 1) := dk_5 (dk_at dksX6_thirsty_0 7 rfl rfl)
theorem dX6_thirsty_8 : decode cX6_thirsty 8 = .ok (.iaload, 1) := dk_46 (dk_at dksX6_thirsty_0 8 rfl rfl)
theorem dX6_thirsty_9 : decode cX6_thirsty 9 = .ok (.if_icmp .ge 19, 3) := dk_162 0 19 (dk_at dksX6_thirsty_0 9 rfl rfl)
theorem dX6_thirsty_12 : decode cX6_thirsty 12 = .ok (.aload_n 0, 1) := dk_42 (dk_at dksX6_thirsty_0 12 rfl rfl)
theorem dX6_thirsty_13 : decode cX6_thirsty 13 = .ok (.iload_n 2, 1) := dk_28 (dk_at dksX6_thirsty_0 13 rfl rfl)
theorem dX6_thirsty_14 : decode cX6_thirsty 14 = .ok (.iconst 4, 1) := dk_7 (dk_at dksX6_thirsty_0 14 rfl rfl)
theorem dX6_thirsty_15 : decode cX6_thirsty 15 = .ok (.invokevirtual 75, 3) := dk_182 0 75 (dk_at dksX6_thirsty_0 15 rfl rfl)
theorem dX6_thirsty_18 : decode cX6_thirsty 18 = .ok (.iload_n 1, 1) := dk_27 (dk_at dksX6_thirsty_0 18 rfl rfl)
theorem dX6_thirsty_19 : decode cX6_thirsty 19 = .ok (.if_icmp .ge 9, 3) := dk_162 0 9 (dk_at dksX6_thirsty_0 19 rfl rfl)
theorem dX6_thirsty_22 : decode cX6_thirsty 22 = .ok (.iinc 2 1, 3) := dk_132 2 1 (dk_at dksX6_thirsty_1 0 rfl rfl)
theorem dX6_thirsty_25 : decode cX6_thirsty 25 = .ok (.goto (-23), 3) := dk_167 255 233 (dk_at dksX6_thirsty_1 3 rfl rfl)
theorem dX6_thirsty_28 : decode cX6_thirsty 28 = .ok (.iload_n 2, 1) := dk_28 (dk_at dksX6_thirsty_1 6 rfl rfl)
theorem dX6_thirsty_29 : decode cX6_thirsty 29 = .ok (.ireturn, 1) := dk_172 (dk_at dksX6_thirsty_1 7 rfl rfl)
abbrev cX6_rules : ByteArray := prog_30_method_63_code
def yX6_rules : MethodName := ⟨RX6, "rules", "(II)I"⟩
def dkwX6_rules_4 : List UInt8 := [154, 0, 7, 29, 167, 0, 18, 28, 4, 160, 0, 8, 21, 4, 167, 0, 8, 42, 27, 182, 0, 234, 172]
abbrev dktX6_rules_4 : List UInt8 := dkwX6_rules_4 ++ []
def dkwX6_rules_3 : List UInt8 := [132, 5, 255, 167, 255, 231, 28, 4, 160, 0, 14, 29, 154, 0, 10, 42, 18, 224, 182, 0, 53, 172, 28]
abbrev dktX6_rules_3 : List UInt8 := dkwX6_rules_3 ++ dktX6_rules_4
def dkwX6_rules_2 : List UInt8 := [54, 5, 21, 5, 155, 0, 26, 42, 27, 21, 5, 182, 0, 231, 153, 0, 10, 132, 3, 1, 21, 5, 54, 4]
abbrev dktX6_rules_2 : List UInt8 := dkwX6_rules_2 ++ dktX6_rules_3
def dkwX6_rules_1 : List UInt8 := [180, 0, 29, 27, 46, 154, 0, 10, 42, 18, 224, 182, 0, 53, 172, 3, 62, 3, 54, 4, 17, 0, 255]
abbrev dktX6_rules_1 : List UInt8 := dkwX6_rules_1 ++ dktX6_rules_2
def dkwX6_rules_0 : List UInt8 := [27, 184, 0, 228, 153, 0, 12, 28, 3, 5, 184, 0, 48, 154, 0, 10, 42, 18, 52, 182, 0, 53, 172, 42]
abbrev dktX6_rules_0 : List UInt8 := dkwX6_rules_0 ++ dktX6_rules_1
theorem dksX6_rules_0 : cX6_rules.data.toList.drop 0 = dktX6_rules_0 := by decide +kernel
theorem dksX6_rules_1 : cX6_rules.data.toList.drop 24 = dktX6_rules_1 := dk_seg dksX6_rules_0 24 rfl rfl
theorem dksX6_rules_2 : cX6_rules.data.toList.drop 47 = dktX6_rules_2 := dk_seg dksX6_rules_1 23 rfl rfl
theorem dksX6_rules_3 : cX6_rules.data.toList.drop 71 = dktX6_rules_3 := dk_seg dksX6_rules_2 24 rfl rfl
theorem dksX6_rules_4 : cX6_rules.data.toList.drop 94 = dktX6_rules_4 := dk_seg dksX6_rules_3 23 rfl rfl
theorem dX6_rules_0 : decode cX6_rules 0 = .ok (.iload_n 1, 1) := dk_27 (dk_at dksX6_rules_0 0 rfl rfl)
theorem dX6_rules_1 : decode cX6_rules 1 = .ok (.invokestatic 228, 3) := dk_184 0 228 (dk_at dksX6_rules_0 1 rfl rfl)
theorem dX6_rules_4 : decode cX6_rules 4 = .ok (.ifCond .eq 12, 3) := dk_153 0 12 (dk_at dksX6_rules_0 4 rfl rfl)
theorem dX6_rules_7 : decode cX6_rules 7 = .ok (.iload_n 2, 1) := dk_28 (dk_at dksX6_rules_0 7 rfl rfl)
theorem dX6_rules_8 : decode cX6_rules 8 = .ok (.iconst 0, 1) := dk_3 (dk_at dksX6_rules_0 8 rfl rfl)
theorem dX6_rules_9 : decode cX6_rules 9 = .ok (.iconst 2, 1) := dk_5 (dk_at dksX6_rules_0 9 rfl rfl)
theorem dX6_rules_10 : decode cX6_rules 10 = .ok (.invokestatic 48, 3) := dk_184 0 48 (dk_at dksX6_rules_0 10 rfl rfl)
theorem dX6_rules_13 : decode cX6_rules 13 = .ok (.ifCond .ne 10, 3) := dk_154 0 10 (dk_at dksX6_rules_0 13 rfl rfl)
theorem dX6_rules_16 : decode cX6_rules 16 = .ok (.aload_n 0, 1) := dk_42 (dk_at dksX6_rules_0 16 rfl rfl)
theorem dX6_rules_17 : decode cX6_rules 17 = .ok (.ldc 52, 2) := dk_18 52 (dk_at dksX6_rules_0 17 rfl rfl)
theorem dX6_rules_19 : decode cX6_rules 19 = .ok (.invokevirtual 53, 3) := dk_182 0 53 (dk_at dksX6_rules_0 19 rfl rfl)
theorem dX6_rules_22 : decode cX6_rules 22 = .ok (.ireturn, 1) := dk_172 (dk_at dksX6_rules_0 22 rfl rfl)
theorem dX6_rules_23 : decode cX6_rules 23 = .ok (.aload_n 0, 1) := dk_42 (dk_at dksX6_rules_0 23 rfl rfl)
theorem dX6_rules_24 : decode cX6_rules 24 = .ok (.getfield 29, 3) := dk_180 0 29 (dk_at dksX6_rules_1 0 rfl rfl)
theorem dX6_rules_27 : decode cX6_rules 27 = .ok (.iload_n 1, 1) := dk_27 (dk_at dksX6_rules_1 3 rfl rfl)
theorem dX6_rules_28 : decode cX6_rules 28 = .ok (.iaload, 1) := dk_46 (dk_at dksX6_rules_1 4 rfl rfl)
theorem dX6_rules_29 : decode cX6_rules 29 = .ok (.ifCond .ne 10, 3) := dk_154 0 10 (dk_at dksX6_rules_1 5 rfl rfl)
theorem dX6_rules_32 : decode cX6_rules 32 = .ok (.aload_n 0, 1) := dk_42 (dk_at dksX6_rules_1 8 rfl rfl)
theorem dX6_rules_33 : decode cX6_rules 33 = .ok (.ldc 224, 2) := dk_18 224 (dk_at dksX6_rules_1 9 rfl rfl)
theorem dX6_rules_35 : decode cX6_rules 35 = .ok (.invokevirtual 53, 3) := dk_182 0 53 (dk_at dksX6_rules_1 11 rfl rfl)
theorem dX6_rules_38 : decode cX6_rules 38 = .ok (.ireturn, 1) := dk_172 (dk_at dksX6_rules_1 14 rfl rfl)
theorem dX6_rules_39 : decode cX6_rules 39 = .ok (.iconst 0, 1) := dk_3 (dk_at dksX6_rules_1 15 rfl rfl)
theorem dX6_rules_40 : decode cX6_rules 40 = .ok (.istore_n 3, 1) := dk_62 (dk_at dksX6_rules_1 16 rfl rfl)
theorem dX6_rules_41 : decode cX6_rules 41 = .ok (.iconst 0, 1) := dk_3 (dk_at dksX6_rules_1 17 rfl rfl)
theorem dX6_rules_42 : decode cX6_rules 42 = .ok (.istore 4, 2) := dk_54 4 (dk_at dksX6_rules_1 18 rfl rfl)
theorem dX6_rules_44 : decode cX6_rules 44 = .ok (.sipush 255, 3) := dk_17 0 255 (dk_at dksX6_rules_1 20 rfl rfl)
theorem dX6_rules_47 : decode cX6_rules 47 = .ok (.istore 5, 2) := dk_54 5 (dk_at dksX6_rules_2 0 rfl rfl)
theorem dX6_rules_49 : decode cX6_rules 49 = .ok (.iload 5, 2) := dk_21 5 (dk_at dksX6_rules_2 2 rfl rfl)
theorem dX6_rules_51 : decode cX6_rules 51 = .ok (.ifCond .lt 26, 3) := dk_155 0 26 (dk_at dksX6_rules_2 4 rfl rfl)
theorem dX6_rules_54 : decode cX6_rules 54 = .ok (.aload_n 0, 1) := dk_42 (dk_at dksX6_rules_2 7 rfl rfl)
theorem dX6_rules_55 : decode cX6_rules 55 = .ok (.iload_n 1, 1) := dk_27 (dk_at dksX6_rules_2 8 rfl rfl)
theorem dX6_rules_56 : decode cX6_rules 56 = .ok (.iload 5, 2) := dk_21 5 (dk_at dksX6_rules_2 9 rfl rfl)
theorem dX6_rules_58 : decode cX6_rules 58 = .ok (.invokevirtual 231, 3) := dk_182 0 231 (dk_at dksX6_rules_2 11 rfl rfl)
theorem dX6_rules_61 : decode cX6_rules 61 = .ok (.ifCond .eq 10, 3) := dk_153 0 10 (dk_at dksX6_rules_2 14 rfl rfl)
theorem dX6_rules_64 : decode cX6_rules 64 = .ok (.iinc 3 1, 3) := dk_132 3 1 (dk_at dksX6_rules_2 17 rfl rfl)
theorem dX6_rules_67 : decode cX6_rules 67 = .ok (.iload 5, 2) := dk_21 5 (dk_at dksX6_rules_2 20 rfl rfl)
theorem dX6_rules_69 : decode cX6_rules 69 = .ok (.istore 4, 2) := dk_54 4 (dk_at dksX6_rules_2 22 rfl rfl)
theorem dX6_rules_71 : decode cX6_rules 71 = .ok (.iinc 5 (-1), 3) := dk_132 5 255 (dk_at dksX6_rules_3 0 rfl rfl)
theorem dX6_rules_74 : decode cX6_rules 74 = .ok (.goto (-25), 3) := dk_167 255 231 (dk_at dksX6_rules_3 3 rfl rfl)
theorem dX6_rules_77 : decode cX6_rules 77 = .ok (.iload_n 2, 1) := dk_28 (dk_at dksX6_rules_3 6 rfl rfl)
theorem dX6_rules_78 : decode cX6_rules 78 = .ok (.iconst 1, 1) := dk_4 (dk_at dksX6_rules_3 7 rfl rfl)
theorem dX6_rules_79 : decode cX6_rules 79 = .ok (.if_icmp .ne 14, 3) := dk_160 0 14 (dk_at dksX6_rules_3 8 rfl rfl)
theorem dX6_rules_82 : decode cX6_rules 82 = .ok (.iload_n 3, 1) := dk_29 (dk_at dksX6_rules_3 11 rfl rfl)
theorem dX6_rules_83 : decode cX6_rules 83 = .ok (.ifCond .ne 10, 3) := dk_154 0 10 (dk_at dksX6_rules_3 12 rfl rfl)
theorem dX6_rules_86 : decode cX6_rules 86 = .ok (.aload_n 0, 1) := dk_42 (dk_at dksX6_rules_3 15 rfl rfl)
theorem dX6_rules_87 : decode cX6_rules 87 = .ok (.ldc 224, 2) := dk_18 224 (dk_at dksX6_rules_3 16 rfl rfl)
theorem dX6_rules_89 : decode cX6_rules 89 = .ok (.invokevirtual 53, 3) := dk_182 0 53 (dk_at dksX6_rules_3 18 rfl rfl)
theorem dX6_rules_92 : decode cX6_rules 92 = .ok (.ireturn, 1) := dk_172 (dk_at dksX6_rules_3 21 rfl rfl)
theorem dX6_rules_93 : decode cX6_rules 93 = .ok (.iload_n 2, 1) := dk_28 (dk_at dksX6_rules_3 22 rfl rfl)
theorem dX6_rules_94 : decode cX6_rules 94 = .ok (.ifCond .ne 7, 3) := dk_154 0 7 (dk_at dksX6_rules_4 0 rfl rfl)
theorem dX6_rules_97 : decode cX6_rules 97 = .ok (.iload_n 3, 1) := dk_29 (dk_at dksX6_rules_4 3 rfl rfl)
theorem dX6_rules_98 : decode cX6_rules 98 = .ok (.goto 18, 3) := dk_167 0 18 (dk_at dksX6_rules_4 4 rfl rfl)
theorem dX6_rules_101 : decode cX6_rules 101 = .ok (.iload_n 2, 1) := dk_28 (dk_at dksX6_rules_4 7 rfl rfl)
theorem dX6_rules_102 : decode cX6_rules 102 = .ok (.iconst 1, 1) := dk_4 (dk_at dksX6_rules_4 8 rfl rfl)
theorem dX6_rules_103 : decode cX6_rules 103 = .ok (.if_icmp .ne 8, 3) := dk_160 0 8 (dk_at dksX6_rules_4 9 rfl rfl)
theorem dX6_rules_106 : decode cX6_rules 106 = .ok (.iload 4, 2) := dk_21 4 (dk_at dksX6_rules_4 12 rfl rfl)
theorem dX6_rules_108 : decode cX6_rules 108 = .ok (.goto 8, 3) := dk_167 0 8 (dk_at dksX6_rules_4 14 rfl rfl)
theorem dX6_rules_111 : decode cX6_rules 111 = .ok (.aload_n 0, 1) := dk_42 (dk_at dksX6_rules_4 17 rfl rfl)
theorem dX6_rules_112 : decode cX6_rules 112 = .ok (.iload_n 1, 1) := dk_27 (dk_at dksX6_rules_4 18 rfl rfl)
theorem dX6_rules_113 : decode cX6_rules 113 = .ok (.invokevirtual 234, 3) := dk_182 0 234 (dk_at dksX6_rules_4 19 rfl rfl)
theorem dX6_rules_116 : decode cX6_rules 116 = .ok (.ireturn, 1) := dk_172 (dk_at dksX6_rules_4 22 rfl rfl)
abbrev cX6_isSheet : ByteArray := prog_30_method_60_code
def yX6_isSheet : MethodName := ⟨RX6, "isSheet", "(I)Z"⟩
def dkwX6_isSheet_0 : List UInt8 := [26, 3, 6, 184, 0, 48, 172]
abbrev dktX6_isSheet_0 : List UInt8 := dkwX6_isSheet_0 ++ []
theorem dksX6_isSheet_0 : cX6_isSheet.data.toList.drop 0 = dktX6_isSheet_0 := by decide +kernel
theorem dX6_isSheet_0 : decode cX6_isSheet 0 = .ok (.iload_n 0, 1) := dk_26 (dk_at dksX6_isSheet_0 0 rfl rfl)
theorem dX6_isSheet_1 : decode cX6_isSheet 1 = .ok (.iconst 0, 1) := dk_3 (dk_at dksX6_isSheet_0 1 rfl rfl)
theorem dX6_isSheet_2 : decode cX6_isSheet 2 = .ok (.iconst 3, 1) := dk_6 (dk_at dksX6_isSheet_0 2 rfl rfl)
theorem dX6_isSheet_3 : decode cX6_isSheet 3 = .ok (.invokestatic 48, 3) := dk_184 0 48 (dk_at dksX6_isSheet_0 3 rfl rfl)
theorem dX6_isSheet_6 : decode cX6_isSheet 6 = .ok (.ireturn, 1) := dk_172 (dk_at dksX6_isSheet_0 6 rfl rfl)
abbrev cX6_fits : ByteArray := prog_30_method_62_code
def yX6_fits : MethodName := ⟨RX6, "fits", "(II)Z"⟩
def dkwX6_fits_4 : List UInt8 := [160, 0, 7, 4, 167, 0, 4, 3, 62, 132, 4, 1, 167, 255, 172, 29, 172]
abbrev dktX6_fits_4 : List UInt8 := dkwX6_fits_4 ++ []
def dkwX6_fits_3 : List UInt8 := [28, 42, 21, 4, 5, 182, 0, 75, 184, 0, 225, 21, 5, 4, 160, 0, 7, 4, 167, 0, 4, 3]
abbrev dktX6_fits_3 : List UInt8 := dkwX6_fits_3 ++ dktX6_fits_4
def dkwX6_fits_2 : List UInt8 := [42, 180, 0, 35, 16, 40, 27, 104, 21, 4, 96, 46, 54, 5, 21, 5, 3, 4, 184, 0, 48, 153, 0, 28]
abbrev dktX6_fits_2 : List UInt8 := dkwX6_fits_2 ++ dktX6_fits_3
def dkwX6_fits_1 : List UInt8 := [42, 180, 0, 7, 5, 46, 162, 0, 79, 21, 4, 42, 180, 0, 32, 27, 46, 162, 0, 68, 29, 153, 0, 64]
abbrev dktX6_fits_1 : List UInt8 := dkwX6_fits_1 ++ dktX6_fits_2
def dkwX6_fits_0 : List UInt8 := [28, 16, 15, 126, 28, 7, 122, 2, 130, 126, 154, 0, 7, 4, 167, 0, 4, 3, 62, 3, 54, 4, 21, 4]
abbrev dktX6_fits_0 : List UInt8 := dkwX6_fits_0 ++ dktX6_fits_1
theorem dksX6_fits_0 : cX6_fits.data.toList.drop 0 = dktX6_fits_0 := by decide +kernel
theorem dksX6_fits_1 : cX6_fits.data.toList.drop 24 = dktX6_fits_1 := dk_seg dksX6_fits_0 24 rfl rfl
theorem dksX6_fits_2 : cX6_fits.data.toList.drop 48 = dktX6_fits_2 := dk_seg dksX6_fits_1 24 rfl rfl
theorem dksX6_fits_3 : cX6_fits.data.toList.drop 72 = dktX6_fits_3 := dk_seg dksX6_fits_2 24 rfl rfl
theorem dksX6_fits_4 : cX6_fits.data.toList.drop 94 = dktX6_fits_4 := dk_seg dksX6_fits_3 22 rfl rfl
theorem dX6_fits_0 : decode cX6_fits 0 = .ok (.iload_n 2, 1) := dk_28 (dk_at dksX6_fits_0 0 rfl rfl)
theorem dX6_fits_1 : decode cX6_fits 1 = .ok (.bipush 15, 2) := dk_16 15 (dk_at dksX6_fits_0 1 rfl rfl)
theorem dX6_fits_3 : decode cX6_fits 3 = .ok (.iand, 1) := dk_126 (dk_at dksX6_fits_0 3 rfl rfl)
theorem dX6_fits_4 : decode cX6_fits 4 = .ok (.iload_n 2, 1) := dk_28 (dk_at dksX6_fits_0 4 rfl rfl)
theorem dX6_fits_5 : decode cX6_fits 5 = .ok (.iconst 4, 1) := dk_7 (dk_at dksX6_fits_0 5 rfl rfl)
theorem dX6_fits_6 : decode cX6_fits 6 = .ok (.ishr, 1) := dk_122 (dk_at dksX6_fits_0 6 rfl rfl)
theorem dX6_fits_7 : decode cX6_fits 7 = .ok (.iconst (-1), 1) := dk_2 (dk_at dksX6_fits_0 7 rfl rfl)
theorem dX6_fits_8 : decode cX6_fits 8 = .ok (.ixor, 1) := dk_130 (dk_at dksX6_fits_0 8 rfl rfl)
theorem dX6_fits_9 : decode cX6_fits 9 = .ok (.iand, 1) := dk_126 (dk_at dksX6_fits_0 9 rfl rfl)
theorem dX6_fits_10 : decode cX6_fits 10 = .ok (.ifCond .ne 7, 3) := dk_154 0 7 (dk_at dksX6_fits_0 10 rfl rfl)
theorem dX6_fits_13 : decode cX6_fits 13 = .ok (.iconst 1, 1) := dk_4 (dk_at dksX6_fits_0 13 rfl rfl)
theorem dX6_fits_14 : decode cX6_fits 14 = .ok (.goto 4, 3) := dk_167 0 4 (dk_at dksX6_fits_0 14 rfl rfl)
theorem dX6_fits_17 : decode cX6_fits 17 = .ok (.iconst 0, 1) := dk_3 (dk_at dksX6_fits_0 17 rfl rfl)
theorem dX6_fits_18 : decode cX6_fits 18 = .ok (.istore_n 3, 1) := dk_62 (dk_at dksX6_fits_0 18 rfl rfl)
theorem dX6_fits_19 : decode cX6_fits 19 = .ok (.iconst 0, 1) := dk_3 (dk_at dksX6_fits_0 19 rfl rfl)
theorem dX6_fits_20 : decode cX6_fits 20 = .ok (.istore 4, 2) := dk_54 4 (dk_at dksX6_fits_0 20 rfl rfl)
theorem dX6_fits_22 : decode cX6_fits 22 = .ok (.iload 4, 2) := dk_21 4 (dk_at dksX6_fits_0 22 rfl rfl)
theorem dX6_fits_24 : decode cX6_fits 24 = .ok (.aload_n 0, 1) := dk_42 (dk_at dksX6_fits_1 0 rfl rfl)
theorem dX6_fits_25 : decode cX6_fits 25 = .ok (.getfield 7, 3) := dk_180 0 7 (dk_at dksX6_fits_1 1 rfl rfl)
theorem dX6_fits_28 : decode cX6_fits 28 = .ok (.iconst 2, 1) := dk_5 (dk_at dksX6_fits_1 4 rfl rfl)
theorem dX6_fits_29 : decode cX6_fits 29 = .ok (.iaload, 1) := dk_46 (dk_at dksX6_fits_1 5 rfl rfl)
theorem dX6_fits_30 : decode cX6_fits 30 = .ok (.if_icmp .ge 79, 3) := dk_162 0 79 (dk_at dksX6_fits_1 6 rfl rfl)
theorem dX6_fits_33 : decode cX6_fits 33 = .ok (.iload 4, 2) := dk_21 4 (dk_at dksX6_fits_1 9 rfl rfl)
theorem dX6_fits_35 : decode cX6_fits 35 = .ok (.aload_n 0, 1) := dk_42 (dk_at dksX6_fits_1 11 rfl rfl)
theorem dX6_fits_36 : decode cX6_fits 36 = .ok (.getfield 32, 3) := dk_180 0 32 (dk_at dksX6_fits_1 12 rfl rfl)
theorem dX6_fits_39 : decode cX6_fits 39 = .ok (.iload_n 1, 1) := dk_27 (dk_at dksX6_fits_1 15 rfl rfl)
theorem dX6_fits_40 : decode cX6_fits 40 = .ok (.iaload, 1) := dk_46 (dk_at dksX6_fits_1 16 rfl rfl)
theorem dX6_fits_41 : decode cX6_fits 41 = .ok (.if_icmp .ge 68, 3) := dk_162 0 68 (dk_at dksX6_fits_1 17 rfl rfl)
theorem dX6_fits_44 : decode cX6_fits 44 = .ok (.iload_n 3, 1) := dk_29 (dk_at dksX6_fits_1 20 rfl rfl)
theorem dX6_fits_45 : decode cX6_fits 45 = .ok (.ifCond .eq 64, 3) := dk_153 0 64 (dk_at dksX6_fits_1 21 rfl rfl)
theorem dX6_fits_48 : decode cX6_fits 48 = .ok (.aload_n 0, 1) := dk_42 (dk_at dksX6_fits_2 0 rfl rfl)
theorem dX6_fits_49 : decode cX6_fits 49 = .ok (.getfield 35, 3) := dk_180 0 35 (dk_at dksX6_fits_2 1 rfl rfl)
theorem dX6_fits_52 : decode cX6_fits 52 = .ok (.bipush 40, 2) := dk_16 40 (dk_at dksX6_fits_2 4 rfl rfl)
theorem dX6_fits_54 : decode cX6_fits 54 = .ok (.iload_n 1, 1) := dk_27 (dk_at dksX6_fits_2 6 rfl rfl)
theorem dX6_fits_55 : decode cX6_fits 55 = .ok (.imul, 1) := dk_104 (dk_at dksX6_fits_2 7 rfl rfl)
theorem dX6_fits_56 : decode cX6_fits 56 = .ok (.iload 4, 2) := dk_21 4 (dk_at dksX6_fits_2 8 rfl rfl)
theorem dX6_fits_58 : decode cX6_fits 58 = .ok (.iadd, 1) := dk_96 (dk_at dksX6_fits_2 10 rfl rfl)
theorem dX6_fits_59 : decode cX6_fits 59 = .ok (.iaload, 1) := dk_46 (dk_at dksX6_fits_2 11 rfl rfl)
theorem dX6_fits_60 : decode cX6_fits 60 = .ok (.istore 5, 2) := dk_54 5 (dk_at dksX6_fits_2 12 rfl rfl)
theorem dX6_fits_62 : decode cX6_fits 62 = .ok (.iload 5, 2) := dk_21 5 (dk_at dksX6_fits_2 14 rfl rfl)
theorem dX6_fits_64 : decode cX6_fits 64 = .ok (.iconst 0, 1) := dk_3 (dk_at dksX6_fits_2 16 rfl rfl)
theorem dX6_fits_65 : decode cX6_fits 65 = .ok (.iconst 1, 1) := dk_4 (dk_at dksX6_fits_2 17 rfl rfl)
theorem dX6_fits_66 : decode cX6_fits 66 = .ok (.invokestatic 48, 3) := dk_184 0 48 (dk_at dksX6_fits_2 18 rfl rfl)
theorem dX6_fits_69 : decode cX6_fits 69 = .ok (.ifCond .eq 28, 3) := dk_153 0 28 (dk_at dksX6_fits_2 21 rfl rfl)
theorem dX6_fits_72 : decode cX6_fits 72 = .ok (.iload_n 2, 1) := dk_28 (dk_at dksX6_fits_3 0 rfl rfl)
theorem dX6_fits_73 : decode cX6_fits 73 = .ok (.aload_n 0, 1) := dk_42 (dk_at dksX6_fits_3 1 rfl rfl)
theorem dX6_fits_74 : decode cX6_fits 74 = .ok (.iload 4, 2) := dk_21 4 (dk_at dksX6_fits_3 2 rfl rfl)
theorem dX6_fits_76 : decode cX6_fits 76 = .ok (.iconst 2, 1) := dk_5 (dk_at dksX6_fits_3 4 rfl rfl)
theorem dX6_fits_77 : decode cX6_fits 77 = .ok (.invokevirtual 75, 3) := dk_182 0 75 (dk_at dksX6_fits_3 5 rfl rfl)
theorem dX6_fits_80 : decode cX6_fits 80 = .ok (.invokestatic 225, 3) := dk_184 0 225 (dk_at dksX6_fits_3 8 rfl rfl)
theorem dX6_fits_83 : decode cX6_fits 83 = .ok (.iload 5, 2) := dk_21 5 (dk_at dksX6_fits_3 11 rfl rfl)
theorem dX6_fits_85 : decode cX6_fits 85 = .ok (.iconst 1, 1) := dk_4 (dk_at dksX6_fits_3 13 rfl rfl)
theorem dX6_fits_86 : decode cX6_fits 86 = .ok (.if_icmp .ne 7, 3) := dk_160 0 7 (dk_at dksX6_fits_3 14 rfl rfl)
theorem dX6_fits_89 : decode cX6_fits 89 = .ok (.iconst 1, 1) := dk_4 (dk_at dksX6_fits_3 17 rfl rfl)
theorem dX6_fits_90 : decode cX6_fits 90 = .ok (.goto 4, 3) := dk_167 0 4 (dk_at dksX6_fits_3 18 rfl rfl)
theorem dX6_fits_93 : decode cX6_fits 93 = .ok (.iconst 0, 1) := dk_3 (dk_at dksX6_fits_3 21 rfl rfl)
theorem dX6_fits_94 : decode cX6_fits 94 = .ok (.if_icmp .ne 7, 3) := dk_160 0 7 (dk_at dksX6_fits_4 0 rfl rfl)
theorem dX6_fits_97 : decode cX6_fits 97 = .ok (.iconst 1, 1) := dk_4 (dk_at dksX6_fits_4 3 rfl rfl)
theorem dX6_fits_98 : decode cX6_fits 98 = .ok (.goto 4, 3) := dk_167 0 4 (dk_at dksX6_fits_4 4 rfl rfl)
theorem dX6_fits_101 : decode cX6_fits 101 = .ok (.iconst 0, 1) := dk_3 (dk_at dksX6_fits_4 7 rfl rfl)
theorem dX6_fits_102 : decode cX6_fits 102 = .ok (.istore_n 3, 1) := dk_62 (dk_at dksX6_fits_4 8 rfl rfl)
theorem dX6_fits_103 : decode cX6_fits 103 = .ok (.iinc 4 1, 3) := dk_132 4 1 (dk_at dksX6_fits_4 9 rfl rfl)
theorem dX6_fits_106 : decode cX6_fits 106 = .ok (.goto (-84), 3) := dk_167 255 172 (dk_at dksX6_fits_4 12 rfl rfl)
theorem dX6_fits_109 : decode cX6_fits 109 = .ok (.iload_n 3, 1) := dk_29 (dk_at dksX6_fits_4 15 rfl rfl)
theorem dX6_fits_110 : decode cX6_fits 110 = .ok (.ireturn, 1) := dk_172 (dk_at dksX6_fits_4 16 rfl rfl)
abbrev cX6_gives : ByteArray := prog_30_method_61_code
def yX6_gives : MethodName := ⟨RX6, "gives", "(II)Z"⟩
def dkwX6_gives_0 : List UInt8 := [26, 7, 122, 27, 126, 26, 16, 15, 126, 160, 0, 7, 4, 167, 0, 4, 3, 172]
abbrev dktX6_gives_0 : List UInt8 := dkwX6_gives_0 ++ []
theorem dksX6_gives_0 : cX6_gives.data.toList.drop 0 = dktX6_gives_0 := by decide +kernel
theorem dX6_gives_0 : decode cX6_gives 0 = .ok (.iload_n 0, 1) := dk_26 (dk_at dksX6_gives_0 0 rfl rfl)
theorem dX6_gives_1 : decode cX6_gives 1 = .ok (.iconst 4, 1) := dk_7 (dk_at dksX6_gives_0 1 rfl rfl)
theorem dX6_gives_2 : decode cX6_gives 2 = .ok (.ishr, 1) := dk_122 (dk_at dksX6_gives_0 2 rfl rfl)
theorem dX6_gives_3 : decode cX6_gives 3 = .ok (.iload_n 1, 1) := dk_27 (dk_at dksX6_gives_0 3 rfl rfl)
theorem dX6_gives_4 : decode cX6_gives 4 = .ok (.iand, 1) := dk_126 (dk_at dksX6_gives_0 4 rfl rfl)
theorem dX6_gives_5 : decode cX6_gives 5 = .ok (.iload_n 0, 1) := dk_26 (dk_at dksX6_gives_0 5 rfl rfl)
theorem dX6_gives_6 : decode cX6_gives 6 = .ok (.bipush 15, 2) := dk_16 15 (dk_at dksX6_gives_0 6 rfl rfl)
theorem dX6_gives_8 : decode cX6_gives 8 = .ok (.iand, 1) := dk_126 (dk_at dksX6_gives_0 8 rfl rfl)
theorem dX6_gives_9 : decode cX6_gives 9 = .ok (.if_icmp .ne 7, 3) := dk_160 0 7 (dk_at dksX6_gives_0 9 rfl rfl)
theorem dX6_gives_12 : decode cX6_gives 12 = .ok (.iconst 1, 1) := dk_4 (dk_at dksX6_gives_0 12 rfl rfl)
theorem dX6_gives_13 : decode cX6_gives 13 = .ok (.goto 4, 3) := dk_167 0 4 (dk_at dksX6_gives_0 13 rfl rfl)
theorem dX6_gives_16 : decode cX6_gives 16 = .ok (.iconst 0, 1) := dk_3 (dk_at dksX6_gives_0 16 rfl rfl)
theorem dX6_gives_17 : decode cX6_gives 17 = .ok (.ireturn, 1) := dk_172 (dk_at dksX6_gives_0 17 rfl rfl)
abbrev cX6_evenest : ByteArray := prog_30_method_64_code
def yX6_evenest : MethodName := ⟨RX6, "evenest", "(I)I"⟩
def dkwX6_evenest_5 : List UInt8 := [28, 172]
abbrev dktX6_evenest_5 : List UInt8 := dkwX6_evenest_5 ++ []
def dkwX6_evenest_4 : List UInt8 := [167, 0, 4, 28, 61, 21, 5, 29, 162, 0, 8, 21, 5, 167, 0, 4, 29, 62, 132, 4, 1, 167, 255, 151]
abbrev dktX6_evenest_4 : List UInt8 := dkwX6_evenest_4 ++ dktX6_evenest_5
def dkwX6_evenest_3 : List UInt8 := [21, 5, 156, 0, 9, 21, 5, 116, 167, 0, 5, 21, 5, 54, 5, 21, 5, 29, 162, 0, 8, 21, 4]
abbrev dktX6_evenest_3 : List UInt8 := dkwX6_evenest_3 ++ dktX6_evenest_4
def dkwX6_evenest_2 : List UInt8 := [184, 0, 225, 153, 0, 7, 4, 167, 0, 8, 2, 167, 0, 4, 3, 96, 54, 5, 132, 6, 1, 167, 255, 211]
abbrev dktX6_evenest_2 : List UInt8 := dkwX6_evenest_2 ++ dktX6_evenest_3
def dkwX6_evenest_1 : List UInt8 := [17, 1, 0, 162, 0, 43, 21, 5, 42, 27, 21, 6, 182, 0, 231, 153, 0, 21, 21, 6, 21, 4]
abbrev dktX6_evenest_1 : List UInt8 := dkwX6_evenest_1 ++ dktX6_evenest_2
def dkwX6_evenest_0 : List UInt8 := [3, 61, 17, 3, 232, 62, 3, 54, 4, 21, 4, 16, 15, 163, 0, 104, 3, 54, 5, 3, 54, 6, 21, 6]
abbrev dktX6_evenest_0 : List UInt8 := dkwX6_evenest_0 ++ dktX6_evenest_1
theorem dksX6_evenest_0 : cX6_evenest.data.toList.drop 0 = dktX6_evenest_0 := by decide +kernel
theorem dksX6_evenest_1 : cX6_evenest.data.toList.drop 24 = dktX6_evenest_1 := dk_seg dksX6_evenest_0 24 rfl rfl
theorem dksX6_evenest_2 : cX6_evenest.data.toList.drop 46 = dktX6_evenest_2 := dk_seg dksX6_evenest_1 22 rfl rfl
theorem dksX6_evenest_3 : cX6_evenest.data.toList.drop 70 = dktX6_evenest_3 := dk_seg dksX6_evenest_2 24 rfl rfl
theorem dksX6_evenest_4 : cX6_evenest.data.toList.drop 93 = dktX6_evenest_4 := dk_seg dksX6_evenest_3 23 rfl rfl
theorem dksX6_evenest_5 : cX6_evenest.data.toList.drop 117 = dktX6_evenest_5 := dk_seg dksX6_evenest_4 24 rfl rfl
theorem dX6_evenest_0 : decode cX6_evenest 0 = .ok (.iconst 0, 1) := dk_3 (dk_at dksX6_evenest_0 0 rfl rfl)
theorem dX6_evenest_1 : decode cX6_evenest 1 = .ok (.istore_n 2, 1) := dk_61 (dk_at dksX6_evenest_0 1 rfl rfl)
theorem dX6_evenest_2 : decode cX6_evenest 2 = .ok (.sipush 1000, 3) := dk_17 3 232 (dk_at dksX6_evenest_0 2 rfl rfl)
theorem dX6_evenest_5 : decode cX6_evenest 5 = .ok (.istore_n 3, 1) := dk_62 (dk_at dksX6_evenest_0 5 rfl rfl)
theorem dX6_evenest_6 : decode cX6_evenest 6 = .ok (.iconst 0, 1) := dk_3 (dk_at dksX6_evenest_0 6 rfl rfl)
theorem dX6_evenest_7 : decode cX6_evenest 7 = .ok (.istore 4, 2) := dk_54 4 (dk_at dksX6_evenest_0 7 rfl rfl)
theorem dX6_evenest_9 : decode cX6_evenest 9 = .ok (.iload 4, 2) := dk_21 4 (dk_at dksX6_evenest_0 9 rfl rfl)
theorem dX6_evenest_11 : decode cX6_evenest 11 = .ok (.bipush 15, 2) := dk_16 15 (dk_at dksX6_evenest_0 11 rfl rfl)
theorem dX6_evenest_13 : decode cX6_evenest 13 = .ok (.if_icmp .gt 104, 3) := dk_163 0 104 (dk_at dksX6_evenest_0 13 rfl rfl)
theorem dX6_evenest_16 : decode cX6_evenest 16 = .ok (.iconst 0, 1) := dk_3 (dk_at dksX6_evenest_0 16 rfl rfl)
theorem dX6_evenest_17 : decode cX6_evenest 17 = .ok (.istore 5, 2) := dk_54 5 (dk_at dksX6_evenest_0 17 rfl rfl)
theorem dX6_evenest_19 : decode cX6_evenest 19 = .ok (.iconst 0, 1) := dk_3 (dk_at dksX6_evenest_0 19 rfl rfl)
theorem dX6_evenest_20 : decode cX6_evenest 20 = .ok (.istore 6, 2) := dk_54 6 (dk_at dksX6_evenest_0 20 rfl rfl)
theorem dX6_evenest_22 : decode cX6_evenest 22 = .ok (.iload 6, 2) := dk_21 6 (dk_at dksX6_evenest_0 22 rfl rfl)
theorem dX6_evenest_24 : decode cX6_evenest 24 = .ok (.sipush 256, 3) := dk_17 1 0 (dk_at dksX6_evenest_1 0 rfl rfl)
theorem dX6_evenest_27 : decode cX6_evenest 27 = .ok (.if_icmp .ge 43, 3) := dk_162 0 43 (dk_at dksX6_evenest_1 3 rfl rfl)
theorem dX6_evenest_30 : decode cX6_evenest 30 = .ok (.iload 5, 2) := dk_21 5 (dk_at dksX6_evenest_1 6 rfl rfl)
theorem dX6_evenest_32 : decode cX6_evenest 32 = .ok (.aload_n 0, 1) := dk_42 (dk_at dksX6_evenest_1 8 rfl rfl)
theorem dX6_evenest_33 : decode cX6_evenest 33 = .ok (.iload_n 1, 1) := dk_27 (dk_at dksX6_evenest_1 9 rfl rfl)
theorem dX6_evenest_34 : decode cX6_evenest 34 = .ok (.iload 6, 2) := dk_21 6 (dk_at dksX6_evenest_1 10 rfl rfl)
theorem dX6_evenest_36 : decode cX6_evenest 36 = .ok (.invokevirtual 231, 3) := dk_182 0 231 (dk_at dksX6_evenest_1 12 rfl rfl)
theorem dX6_evenest_39 : decode cX6_evenest 39 = .ok (.ifCond .eq 21, 3) := dk_153 0 21 (dk_at dksX6_evenest_1 15 rfl rfl)
theorem dX6_evenest_42 : decode cX6_evenest 42 = .ok (.iload 6, 2) := dk_21 6 (dk_at dksX6_evenest_1 18 rfl rfl)
theorem dX6_evenest_44 : decode cX6_evenest 44 = .ok (.iload 4, 2) := dk_21 4 (dk_at dksX6_evenest_1 20 rfl rfl)
theorem dX6_evenest_46 : decode cX6_evenest 46 = .ok (.invokestatic 225, 3) := dk_184 0 225 (dk_at dksX6_evenest_2 0 rfl rfl)
theorem dX6_evenest_49 : decode cX6_evenest 49 = .ok (.ifCond .eq 7, 3) := dk_153 0 7 (dk_at dksX6_evenest_2 3 rfl rfl)
theorem dX6_evenest_52 : decode cX6_evenest 52 = .ok (.iconst 1, 1) := dk_4 (dk_at dksX6_evenest_2 6 rfl rfl)
theorem dX6_evenest_53 : decode cX6_evenest 53 = .ok (.goto 8, 3) := dk_167 0 8 (dk_at dksX6_evenest_2 7 rfl rfl)
theorem dX6_evenest_56 : decode cX6_evenest 56 = .ok (.iconst (-1), 1) := dk_2 (dk_at dksX6_evenest_2 10 rfl rfl)
theorem dX6_evenest_57 : decode cX6_evenest 57 = .ok (.goto 4, 3) := dk_167 0 4 (dk_at dksX6_evenest_2 11 rfl rfl)
theorem dX6_evenest_60 : decode cX6_evenest 60 = .ok (.iconst 0, 1) := dk_3 (dk_at dksX6_evenest_2 14 rfl rfl)
theorem dX6_evenest_61 : decode cX6_evenest 61 = .ok (.iadd, 1) := dk_96 (dk_at dksX6_evenest_2 15 rfl rfl)
theorem dX6_evenest_62 : decode cX6_evenest 62 = .ok (.istore 5, 2) := dk_54 5 (dk_at dksX6_evenest_2 16 rfl rfl)
theorem dX6_evenest_64 : decode cX6_evenest 64 = .ok (.iinc 6 1, 3) := dk_132 6 1 (dk_at dksX6_evenest_2 18 rfl rfl)
theorem dX6_evenest_67 : decode cX6_evenest 67 = .ok (.goto (-45), 3) := dk_167 255 211 (dk_at dksX6_evenest_2 21 rfl rfl)
theorem dX6_evenest_70 : decode cX6_evenest 70 = .ok (.iload 5, 2) := dk_21 5 (dk_at dksX6_evenest_3 0 rfl rfl)
theorem dX6_evenest_72 : decode cX6_evenest 72 = .ok (.ifCond .ge 9, 3) := dk_156 0 9 (dk_at dksX6_evenest_3 2 rfl rfl)
theorem dX6_evenest_75 : decode cX6_evenest 75 = .ok (.iload 5, 2) := dk_21 5 (dk_at dksX6_evenest_3 5 rfl rfl)
theorem dX6_evenest_77 : decode cX6_evenest 77 = .ok (.ineg, 1) := dk_116 (dk_at dksX6_evenest_3 7 rfl rfl)
theorem dX6_evenest_78 : decode cX6_evenest 78 = .ok (.goto 5, 3) := dk_167 0 5 (dk_at dksX6_evenest_3 8 rfl rfl)
theorem dX6_evenest_81 : decode cX6_evenest 81 = .ok (.iload 5, 2) := dk_21 5 (dk_at dksX6_evenest_3 11 rfl rfl)
theorem dX6_evenest_83 : decode cX6_evenest 83 = .ok (.istore 5, 2) := dk_54 5 (dk_at dksX6_evenest_3 13 rfl rfl)
theorem dX6_evenest_85 : decode cX6_evenest 85 = .ok (.iload 5, 2) := dk_21 5 (dk_at dksX6_evenest_3 15 rfl rfl)
theorem dX6_evenest_87 : decode cX6_evenest 87 = .ok (.iload_n 3, 1) := dk_29 (dk_at dksX6_evenest_3 17 rfl rfl)
theorem dX6_evenest_88 : decode cX6_evenest 88 = .ok (.if_icmp .ge 8, 3) := dk_162 0 8 (dk_at dksX6_evenest_3 18 rfl rfl)
theorem dX6_evenest_91 : decode cX6_evenest 91 = .ok (.iload 4, 2) := dk_21 4 (dk_at dksX6_evenest_3 21 rfl rfl)
theorem dX6_evenest_93 : decode cX6_evenest 93 = .ok (.goto 4, 3) := dk_167 0 4 (dk_at dksX6_evenest_4 0 rfl rfl)
theorem dX6_evenest_96 : decode cX6_evenest 96 = .ok (.iload_n 2, 1) := dk_28 (dk_at dksX6_evenest_4 3 rfl rfl)
theorem dX6_evenest_97 : decode cX6_evenest 97 = .ok (.istore_n 2, 1) := dk_61 (dk_at dksX6_evenest_4 4 rfl rfl)
theorem dX6_evenest_98 : decode cX6_evenest 98 = .ok (.iload 5, 2) := dk_21 5 (dk_at dksX6_evenest_4 5 rfl rfl)
theorem dX6_evenest_100 : decode cX6_evenest 100 = .ok (.iload_n 3, 1) := dk_29 (dk_at dksX6_evenest_4 7 rfl rfl)
theorem dX6_evenest_101 : decode cX6_evenest 101 = .ok (.if_icmp .ge 8, 3) := dk_162 0 8 (dk_at dksX6_evenest_4 8 rfl rfl)
theorem dX6_evenest_104 : decode cX6_evenest 104 = .ok (.iload 5, 2) := dk_21 5 (dk_at dksX6_evenest_4 11 rfl rfl)
theorem dX6_evenest_106 : decode cX6_evenest 106 = .ok (.goto 4, 3) := dk_167 0 4 (dk_at dksX6_evenest_4 13 rfl rfl)
theorem dX6_evenest_109 : decode cX6_evenest 109 = .ok (.iload_n 3, 1) := dk_29 (dk_at dksX6_evenest_4 16 rfl rfl)
theorem dX6_evenest_110 : decode cX6_evenest 110 = .ok (.istore_n 3, 1) := dk_62 (dk_at dksX6_evenest_4 17 rfl rfl)
theorem dX6_evenest_111 : decode cX6_evenest 111 = .ok (.iinc 4 1, 3) := dk_132 4 1 (dk_at dksX6_evenest_4 18 rfl rfl)
theorem dX6_evenest_114 : decode cX6_evenest 114 = .ok (.goto (-105), 3) := dk_167 255 151 (dk_at dksX6_evenest_4 21 rfl rfl)
theorem dX6_evenest_117 : decode cX6_evenest 117 = .ok (.iload_n 2, 1) := dk_28 (dk_at dksX6_evenest_5 0 rfl rfl)
theorem dX6_evenest_118 : decode cX6_evenest 118 = .ok (.ireturn, 1) := dk_172 (dk_at dksX6_evenest_5 1 rfl rfl)
abbrev cX6_turn : ByteArray := prog_30_method_66_code
def yX6_turn : MethodName := ⟨RX6, "turn", "(II)I"⟩
def dkwX6_turn_3 : List UInt8 := [167, 0, 5, 21, 4, 54, 4, 132, 5, 1, 167, 255, 207, 28, 154, 0, 7, 29, 167, 0, 5, 21, 4, 172]
abbrev dktX6_turn_3 : List UInt8 := dkwX6_turn_3 ++ []
def dkwX6_turn_2 : List UInt8 := [21, 6, 21, 4, 164, 0, 8, 21, 5, 167, 0, 4, 29, 62, 21, 6, 21, 4, 164, 0, 8, 21, 6]
abbrev dktX6_turn_2 : List UInt8 := dkwX6_turn_2 ++ dktX6_turn_3
def dkwX6_turn_1 : List UInt8 := [3, 62, 2, 54, 4, 3, 54, 5, 21, 5, 16, 15, 163, 0, 48, 42, 27, 21, 5, 182, 0, 237, 54, 6]
abbrev dktX6_turn_1 : List UInt8 := dkwX6_turn_1 ++ dktX6_turn_2
def dkwX6_turn_0 : List UInt8 := [42, 27, 182, 0, 62, 153, 0, 12, 28, 3, 4, 184, 0, 48, 154, 0, 10, 42, 18, 52, 182, 0, 53, 172]
abbrev dktX6_turn_0 : List UInt8 := dkwX6_turn_0 ++ dktX6_turn_1
theorem dksX6_turn_0 : cX6_turn.data.toList.drop 0 = dktX6_turn_0 := by decide +kernel
theorem dksX6_turn_1 : cX6_turn.data.toList.drop 24 = dktX6_turn_1 := dk_seg dksX6_turn_0 24 rfl rfl
theorem dksX6_turn_2 : cX6_turn.data.toList.drop 48 = dktX6_turn_2 := dk_seg dksX6_turn_1 24 rfl rfl
theorem dksX6_turn_3 : cX6_turn.data.toList.drop 71 = dktX6_turn_3 := dk_seg dksX6_turn_2 23 rfl rfl
theorem dX6_turn_0 : decode cX6_turn 0 = .ok (.aload_n 0, 1) := dk_42 (dk_at dksX6_turn_0 0 rfl rfl)
theorem dX6_turn_1 : decode cX6_turn 1 = .ok (.iload_n 1, 1) := dk_27 (dk_at dksX6_turn_0 1 rfl rfl)
theorem dX6_turn_2 : decode cX6_turn 2 = .ok (.invokevirtual 62, 3) := dk_182 0 62 (dk_at dksX6_turn_0 2 rfl rfl)
theorem dX6_turn_5 : decode cX6_turn 5 = .ok (.ifCond .eq 12, 3) := dk_153 0 12 (dk_at dksX6_turn_0 5 rfl rfl)
theorem dX6_turn_8 : decode cX6_turn 8 = .ok (.iload_n 2, 1) := dk_28 (dk_at dksX6_turn_0 8 rfl rfl)
theorem dX6_turn_9 : decode cX6_turn 9 = .ok (.iconst 0, 1) := dk_3 (dk_at dksX6_turn_0 9 rfl rfl)
theorem dX6_turn_10 : decode cX6_turn 10 = .ok (.iconst 1, 1) := dk_4 (dk_at dksX6_turn_0 10 rfl rfl)
theorem dX6_turn_11 : decode cX6_turn 11 = .ok (.invokestatic 48, 3) := dk_184 0 48 (dk_at dksX6_turn_0 11 rfl rfl)
theorem dX6_turn_14 : decode cX6_turn 14 = .ok (.ifCond .ne 10, 3) := dk_154 0 10 (dk_at dksX6_turn_0 14 rfl rfl)
theorem dX6_turn_17 : decode cX6_turn 17 = .ok (.aload_n 0, 1) := dk_42 (dk_at dksX6_turn_0 17 rfl rfl)
theorem dX6_turn_18 : decode cX6_turn 18 = .ok (.ldc 52, 2) := dk_18 52 (dk_at dksX6_turn_0 18 rfl rfl)
theorem dX6_turn_20 : decode cX6_turn 20 = .ok (.invokevirtual 53, 3) := dk_182 0 53 (dk_at dksX6_turn_0 20 rfl rfl)
theorem dX6_turn_23 : decode cX6_turn 23 = .ok (.ireturn, 1) := dk_172 (dk_at dksX6_turn_0 23 rfl rfl)
theorem dX6_turn_24 : decode cX6_turn 24 = .ok (.iconst 0, 1) := dk_3 (dk_at dksX6_turn_1 0 rfl rfl)
theorem dX6_turn_25 : decode cX6_turn 25 = .ok (.istore_n 3, 1) := dk_62 (dk_at dksX6_turn_1 1 rfl rfl)
theorem dX6_turn_26 : decode cX6_turn 26 = .ok (.iconst (-1), 1) := dk_2 (dk_at dksX6_turn_1 2 rfl rfl)
theorem dX6_turn_27 : decode cX6_turn 27 = .ok (.istore 4, 2) := dk_54 4 (dk_at dksX6_turn_1 3 rfl rfl)
theorem dX6_turn_29 : decode cX6_turn 29 = .ok (.iconst 0, 1) := dk_3 (dk_at dksX6_turn_1 5 rfl rfl)
theorem dX6_turn_30 : decode cX6_turn 30 = .ok (.istore 5, 2) := dk_54 5 (dk_at dksX6_turn_1 6 rfl rfl)
theorem dX6_turn_32 : decode cX6_turn 32 = .ok (.iload 5, 2) := dk_21 5 (dk_at dksX6_turn_1 8 rfl rfl)
theorem dX6_turn_34 : decode cX6_turn 34 = .ok (.bipush 15, 2) := dk_16 15 (dk_at dksX6_turn_1 10 rfl rfl)
theorem dX6_turn_36 : decode cX6_turn 36 = .ok (.if_icmp .gt 48, 3) := dk_163 0 48 (dk_at dksX6_turn_1 12 rfl rfl)
theorem dX6_turn_39 : decode cX6_turn 39 = .ok (.aload_n 0, 1) := dk_42 (dk_at dksX6_turn_1 15 rfl rfl)
theorem dX6_turn_40 : decode cX6_turn 40 = .ok (.iload_n 1, 1) := dk_27 (dk_at dksX6_turn_1 16 rfl rfl)
theorem dX6_turn_41 : decode cX6_turn 41 = .ok (.iload 5, 2) := dk_21 5 (dk_at dksX6_turn_1 17 rfl rfl)
theorem dX6_turn_43 : decode cX6_turn 43 = .ok (.invokevirtual 237, 3) := dk_182 0 237 (dk_at dksX6_turn_1 19 rfl rfl)
theorem dX6_turn_46 : decode cX6_turn 46 = .ok (.istore 6, 2) := dk_54 6 (dk_at dksX6_turn_1 22 rfl rfl)
theorem dX6_turn_48 : decode cX6_turn 48 = .ok (.iload 6, 2) := dk_21 6 (dk_at dksX6_turn_2 0 rfl rfl)
theorem dX6_turn_50 : decode cX6_turn 50 = .ok (.iload 4, 2) := dk_21 4 (dk_at dksX6_turn_2 2 rfl rfl)
theorem dX6_turn_52 : decode cX6_turn 52 = .ok (.if_icmp .le 8, 3) := dk_164 0 8 (dk_at dksX6_turn_2 4 rfl rfl)
theorem dX6_turn_55 : decode cX6_turn 55 = .ok (.iload 5, 2) := dk_21 5 (dk_at dksX6_turn_2 7 rfl rfl)
theorem dX6_turn_57 : decode cX6_turn 57 = .ok (.goto 4, 3) := dk_167 0 4 (dk_at dksX6_turn_2 9 rfl rfl)
theorem dX6_turn_60 : decode cX6_turn 60 = .ok (.iload_n 3, 1) := dk_29 (dk_at dksX6_turn_2 12 rfl rfl)
theorem dX6_turn_61 : decode cX6_turn 61 = .ok (.istore_n 3, 1) := dk_62 (dk_at dksX6_turn_2 13 rfl rfl)
theorem dX6_turn_62 : decode cX6_turn 62 = .ok (.iload 6, 2) := dk_21 6 (dk_at dksX6_turn_2 14 rfl rfl)
theorem dX6_turn_64 : decode cX6_turn 64 = .ok (.iload 4, 2) := dk_21 4 (dk_at dksX6_turn_2 16 rfl rfl)
theorem dX6_turn_66 : decode cX6_turn 66 = .ok (.if_icmp .le 8, 3) := dk_164 0 8 (dk_at dksX6_turn_2 18 rfl rfl)
theorem dX6_turn_69 : decode cX6_turn 69 = .ok (.iload 6, 2) := dk_21 6 (dk_at dksX6_turn_2 21 rfl rfl)
theorem dX6_turn_71 : decode cX6_turn 71 = .ok (.goto 5, 3) := dk_167 0 5 (dk_at dksX6_turn_3 0 rfl rfl)
theorem dX6_turn_74 : decode cX6_turn 74 = .ok (.iload 4, 2) := dk_21 4 (dk_at dksX6_turn_3 3 rfl rfl)
theorem dX6_turn_76 : decode cX6_turn 76 = .ok (.istore 4, 2) := dk_54 4 (dk_at dksX6_turn_3 5 rfl rfl)
theorem dX6_turn_78 : decode cX6_turn 78 = .ok (.iinc 5 1, 3) := dk_132 5 1 (dk_at dksX6_turn_3 7 rfl rfl)
theorem dX6_turn_81 : decode cX6_turn 81 = .ok (.goto (-49), 3) := dk_167 255 207 (dk_at dksX6_turn_3 10 rfl rfl)
theorem dX6_turn_84 : decode cX6_turn 84 = .ok (.iload_n 2, 1) := dk_28 (dk_at dksX6_turn_3 13 rfl rfl)
theorem dX6_turn_85 : decode cX6_turn 85 = .ok (.ifCond .ne 7, 3) := dk_154 0 7 (dk_at dksX6_turn_3 14 rfl rfl)
theorem dX6_turn_88 : decode cX6_turn 88 = .ok (.iload_n 3, 1) := dk_29 (dk_at dksX6_turn_3 17 rfl rfl)
theorem dX6_turn_89 : decode cX6_turn 89 = .ok (.goto 5, 3) := dk_167 0 5 (dk_at dksX6_turn_3 18 rfl rfl)
theorem dX6_turn_92 : decode cX6_turn 92 = .ok (.iload 4, 2) := dk_21 4 (dk_at dksX6_turn_3 21 rfl rfl)
theorem dX6_turn_94 : decode cX6_turn 94 = .ok (.ireturn, 1) := dk_172 (dk_at dksX6_turn_3 23 rfl rfl)
abbrev cX6_weekOf : ByteArray := prog_30_method_65_code
def yX6_weekOf : MethodName := ⟨RX6, "weekOf", "(II)I"⟩
def dkwX6_weekOf_1 : List UInt8 := [96, 182, 0, 169, 153, 0, 7, 4, 167, 0, 4, 3, 96, 62, 132, 4, 1, 167, 255, 220, 29, 172]
abbrev dktX6_weekOf_1 : List UInt8 := dkwX6_weekOf_1 ++ []
def dkwX6_weekOf_0 : List UInt8 := [3, 62, 3, 54, 4, 21, 4, 16, 7, 162, 0, 35, 29, 42, 27, 28, 42, 180, 0, 7, 3, 46, 21, 4]
abbrev dktX6_weekOf_0 : List UInt8 := dkwX6_weekOf_0 ++ dktX6_weekOf_1
theorem dksX6_weekOf_0 : cX6_weekOf.data.toList.drop 0 = dktX6_weekOf_0 := by decide +kernel
theorem dksX6_weekOf_1 : cX6_weekOf.data.toList.drop 24 = dktX6_weekOf_1 := dk_seg dksX6_weekOf_0 24 rfl rfl
theorem dX6_weekOf_0 : decode cX6_weekOf 0 = .ok (.iconst 0, 1) := dk_3 (dk_at dksX6_weekOf_0 0 rfl rfl)
theorem dX6_weekOf_1 : decode cX6_weekOf 1 = .ok (.istore_n 3, 1) := dk_62 (dk_at dksX6_weekOf_0 1 rfl rfl)
theorem dX6_weekOf_2 : decode cX6_weekOf 2 = .ok (.iconst 0, 1) := dk_3 (dk_at dksX6_weekOf_0 2 rfl rfl)
theorem dX6_weekOf_3 : decode cX6_weekOf 3 = .ok (.istore 4, 2) := dk_54 4 (dk_at dksX6_weekOf_0 3 rfl rfl)
theorem dX6_weekOf_5 : decode cX6_weekOf 5 = .ok (.iload 4, 2) := dk_21 4 (dk_at dksX6_weekOf_0 5 rfl rfl)
theorem dX6_weekOf_7 : decode cX6_weekOf 7 = .ok (.bipush 7, 2) := dk_16 7 (dk_at dksX6_weekOf_0 7 rfl rfl)
theorem dX6_weekOf_9 : decode cX6_weekOf 9 = .ok (.if_icmp .ge 35, 3) := dk_162 0 35 (dk_at dksX6_weekOf_0 9 rfl rfl)
theorem dX6_weekOf_12 : decode cX6_weekOf 12 = .ok (.iload_n 3, 1) := dk_29 (dk_at dksX6_weekOf_0 12 rfl rfl)
theorem dX6_weekOf_13 : decode cX6_weekOf 13 = .ok (.aload_n 0, 1) := dk_42 (dk_at dksX6_weekOf_0 13 rfl rfl)
theorem dX6_weekOf_14 : decode cX6_weekOf 14 = .ok (.iload_n 1, 1) := dk_27 (dk_at dksX6_weekOf_0 14 rfl rfl)
theorem dX6_weekOf_15 : decode cX6_weekOf 15 = .ok (.iload_n 2, 1) := dk_28 (dk_at dksX6_weekOf_0 15 rfl rfl)
theorem dX6_weekOf_16 : decode cX6_weekOf 16 = .ok (.aload_n 0, 1) := dk_42 (dk_at dksX6_weekOf_0 16 rfl rfl)
theorem dX6_weekOf_17 : decode cX6_weekOf 17 = .ok (.getfield 7, 3) := dk_180 0 7 (dk_at dksX6_weekOf_0 17 rfl rfl)
theorem dX6_weekOf_20 : decode cX6_weekOf 20 = .ok (.iconst 0, 1) := dk_3 (dk_at dksX6_weekOf_0 20 rfl rfl)
theorem dX6_weekOf_21 : decode cX6_weekOf 21 = .ok (.iaload, 1) := dk_46 (dk_at dksX6_weekOf_0 21 rfl rfl)
theorem dX6_weekOf_22 : decode cX6_weekOf 22 = .ok (.iload 4, 2) := dk_21 4 (dk_at dksX6_weekOf_0 22 rfl rfl)
theorem dX6_weekOf_24 : decode cX6_weekOf 24 = .ok (.iadd, 1) := dk_96 (dk_at dksX6_weekOf_1 0 rfl rfl)
theorem dX6_weekOf_25 : decode cX6_weekOf 25 = .ok (.invokevirtual 169, 3) := dk_182 0 169 (dk_at dksX6_weekOf_1 1 rfl rfl)
theorem dX6_weekOf_28 : decode cX6_weekOf 28 = .ok (.ifCond .eq 7, 3) := dk_153 0 7 (dk_at dksX6_weekOf_1 4 rfl rfl)
theorem dX6_weekOf_31 : decode cX6_weekOf 31 = .ok (.iconst 1, 1) := dk_4 (dk_at dksX6_weekOf_1 7 rfl rfl)
theorem dX6_weekOf_32 : decode cX6_weekOf 32 = .ok (.goto 4, 3) := dk_167 0 4 (dk_at dksX6_weekOf_1 8 rfl rfl)
theorem dX6_weekOf_35 : decode cX6_weekOf 35 = .ok (.iconst 0, 1) := dk_3 (dk_at dksX6_weekOf_1 11 rfl rfl)
theorem dX6_weekOf_36 : decode cX6_weekOf 36 = .ok (.iadd, 1) := dk_96 (dk_at dksX6_weekOf_1 12 rfl rfl)
theorem dX6_weekOf_37 : decode cX6_weekOf 37 = .ok (.istore_n 3, 1) := dk_62 (dk_at dksX6_weekOf_1 13 rfl rfl)
theorem dX6_weekOf_38 : decode cX6_weekOf 38 = .ok (.iinc 4 1, 3) := dk_132 4 1 (dk_at dksX6_weekOf_1 14 rfl rfl)
theorem dX6_weekOf_41 : decode cX6_weekOf 41 = .ok (.goto (-36), 3) := dk_167 255 220 (dk_at dksX6_weekOf_1 17 rfl rfl)
theorem dX6_weekOf_44 : decode cX6_weekOf 44 = .ok (.iload_n 3, 1) := dk_29 (dk_at dksX6_weekOf_1 20 rfl rfl)
theorem dX6_weekOf_45 : decode cX6_weekOf 45 = .ok (.ireturn, 1) := dk_172 (dk_at dksX6_weekOf_1 21 rfl rfl)
abbrev cX6_cover : ByteArray := prog_30_method_68_code
def yX6_cover : MethodName := ⟨RX6, "cover", "()I"⟩
def dkwX6_cover_6 : List UInt8 := [29, 156, 0, 12, 42, 18, 224, 182, 0, 53, 167, 0, 4, 29, 172]
abbrev dktX6_cover_6 : List UInt8 := dkwX6_cover_6 ++ []
def dkwX6_cover_5 : List UInt8 := [155, 0, 15, 21, 4, 184, 0, 243, 29, 184, 0, 243, 162, 0, 6, 21, 4, 62, 132, 4, 1, 167, 255, 157]
abbrev dktX6_cover_5 : List UInt8 := dkwX6_cover_5 ++ dktX6_cover_6
def dkwX6_cover_4 : List UInt8 := [132, 6, 1, 167, 255, 216, 21, 4, 27, 2, 130, 126, 154, 0, 28, 21, 5, 28, 161, 0, 22, 29]
abbrev dktX6_cover_4 : List UInt8 := dkwX6_cover_4 ++ dktX6_cover_5
def dkwX6_cover_3 : List UInt8 := [21, 4, 21, 6, 122, 4, 126, 4, 160, 0, 12, 42, 21, 6, 182, 0, 66, 167, 0, 4, 3, 96, 54, 5]
abbrev dktX6_cover_3 : List UInt8 := dkwX6_cover_3 ++ dktX6_cover_4
def dkwX6_cover_2 : List UInt8 := [46, 120, 162, 0, 92, 3, 54, 5, 3, 54, 6, 21, 6, 42, 180, 0, 7, 5, 46, 162, 0, 35, 21, 5]
abbrev dktX6_cover_2 : List UInt8 := dkwX6_cover_2 ++ dktX6_cover_3
def dkwX6_cover_1 : List UInt8 := [182, 0, 69, 96, 61, 132, 3, 1, 167, 255, 235, 2, 62, 3, 54, 4, 21, 4, 4, 42, 180, 0, 7, 5]
abbrev dktX6_cover_1 : List UInt8 := dkwX6_cover_1 ++ dktX6_cover_2
def dkwX6_cover_0 : List UInt8 := [42, 182, 0, 240, 60, 3, 61, 3, 62, 29, 42, 180, 0, 7, 5, 46, 162, 0, 17, 28, 42, 29]
abbrev dktX6_cover_0 : List UInt8 := dkwX6_cover_0 ++ dktX6_cover_1
theorem dksX6_cover_0 : cX6_cover.data.toList.drop 0 = dktX6_cover_0 := by decide +kernel
theorem dksX6_cover_1 : cX6_cover.data.toList.drop 22 = dktX6_cover_1 := dk_seg dksX6_cover_0 22 rfl rfl
theorem dksX6_cover_2 : cX6_cover.data.toList.drop 46 = dktX6_cover_2 := dk_seg dksX6_cover_1 24 rfl rfl
theorem dksX6_cover_3 : cX6_cover.data.toList.drop 70 = dktX6_cover_3 := dk_seg dksX6_cover_2 24 rfl rfl
theorem dksX6_cover_4 : cX6_cover.data.toList.drop 94 = dktX6_cover_4 := dk_seg dksX6_cover_3 24 rfl rfl
theorem dksX6_cover_5 : cX6_cover.data.toList.drop 116 = dktX6_cover_5 := dk_seg dksX6_cover_4 22 rfl rfl
theorem dksX6_cover_6 : cX6_cover.data.toList.drop 140 = dktX6_cover_6 := dk_seg dksX6_cover_5 24 rfl rfl
theorem dX6_cover_0 : decode cX6_cover 0 = .ok (.aload_n 0, 1) := dk_42 (dk_at dksX6_cover_0 0 rfl rfl)
theorem dX6_cover_1 : decode cX6_cover 1 = .ok (.invokevirtual 240, 3) := dk_182 0 240 (dk_at dksX6_cover_0 1 rfl rfl)
theorem dX6_cover_4 : decode cX6_cover 4 = .ok (.istore_n 1, 1) := dk_60 (dk_at dksX6_cover_0 4 rfl rfl)
theorem dX6_cover_5 : decode cX6_cover 5 = .ok (.iconst 0, 1) := dk_3 (dk_at dksX6_cover_0 5 rfl rfl)
theorem dX6_cover_6 : decode cX6_cover 6 = .ok (.istore_n 2, 1) := dk_61 (dk_at dksX6_cover_0 6 rfl rfl)
theorem dX6_cover_7 : decode cX6_cover 7 = .ok (.iconst 0, 1) := dk_3 (dk_at dksX6_cover_0 7 rfl rfl)
theorem dX6_cover_8 : decode cX6_cover 8 = .ok (.istore_n 3, 1) := dk_62 (dk_at dksX6_cover_0 8 rfl rfl)
theorem dX6_cover_9 : decode cX6_cover 9 = .ok (.iload_n 3, 1) := dk_29 (dk_at dksX6_cover_0 9 rfl rfl)
theorem dX6_cover_10 : decode cX6_cover 10 = .ok (.aload_n 0, 1) := dk_42 (dk_at dksX6_cover_0 10 rfl rfl)
theorem dX6_cover_11 : decode cX6_cover 11 = .ok (.getfield 7, 3) := dk_180 0 7 (dk_at dksX6_cover_0 11 rfl rfl)
theorem dX6_cover_14 : decode cX6_cover 14 = .ok (.iconst 2, 1) := dk_5 (dk_at dksX6_cover_0 14 rfl rfl)
theorem dX6_cover_15 : decode cX6_cover 15 = .ok (.iaload, 1) := dk_46 (dk_at dksX6_cover_0 15 rfl rfl)
theorem dX6_cover_16 : decode cX6_cover 16 = .ok (.if_icmp .ge 17, 3) := dk_162 0 17 (dk_at dksX6_cover_0 16 rfl rfl)
theorem dX6_cover_19 : decode cX6_cover 19 = .ok (.iload_n 2, 1) := dk_28 (dk_at dksX6_cover_0 19 rfl rfl)
theorem dX6_cover_20 : decode cX6_cover 20 = .ok (.aload_n 0, 1) := dk_42 (dk_at dksX6_cover_0 20 rfl rfl)
theorem dX6_cover_21 : decode cX6_cover 21 = .ok (.iload_n 3, 1) := dk_29 (dk_at dksX6_cover_0 21 rfl rfl)
theorem dX6_cover_22 : decode cX6_cover 22 = .ok (.invokevirtual 69, 3) := dk_182 0 69 (dk_at dksX6_cover_1 0 rfl rfl)
theorem dX6_cover_25 : decode cX6_cover 25 = .ok (.iadd, 1) := dk_96 (dk_at dksX6_cover_1 3 rfl rfl)
theorem dX6_cover_26 : decode cX6_cover 26 = .ok (.istore_n 2, 1) := dk_61 (dk_at dksX6_cover_1 4 rfl rfl)
theorem dX6_cover_27 : decode cX6_cover 27 = .ok (.iinc 3 1, 3) := dk_132 3 1 (dk_at dksX6_cover_1 5 rfl rfl)
theorem dX6_cover_30 : decode cX6_cover 30 = .ok (.goto (-21), 3) := dk_167 255 235 (dk_at dksX6_cover_1 8 rfl rfl)
theorem dX6_cover_33 : decode cX6_cover 33 = .ok (.iconst (-1), 1) := dk_2 (dk_at dksX6_cover_1 11 rfl rfl)
theorem dX6_cover_34 : decode cX6_cover 34 = .ok (.istore_n 3, 1) := dk_62 (dk_at dksX6_cover_1 12 rfl rfl)
theorem dX6_cover_35 : decode cX6_cover 35 = .ok (.iconst 0, 1) := dk_3 (dk_at dksX6_cover_1 13 rfl rfl)
theorem dX6_cover_36 : decode cX6_cover 36 = .ok (.istore 4, 2) := dk_54 4 (dk_at dksX6_cover_1 14 rfl rfl)
theorem dX6_cover_38 : decode cX6_cover 38 = .ok (.iload 4, 2) := dk_21 4 (dk_at dksX6_cover_1 16 rfl rfl)
theorem dX6_cover_40 : decode cX6_cover 40 = .ok (.iconst 1, 1) := dk_4 (dk_at dksX6_cover_1 18 rfl rfl)
theorem dX6_cover_41 : decode cX6_cover 41 = .ok (.aload_n 0, 1) := dk_42 (dk_at dksX6_cover_1 19 rfl rfl)
theorem dX6_cover_42 : decode cX6_cover 42 = .ok (.getfield 7, 3) := dk_180 0 7 (dk_at dksX6_cover_1 20 rfl rfl)
theorem dX6_cover_45 : decode cX6_cover 45 = .ok (.iconst 2, 1) := dk_5 (dk_at dksX6_cover_1 23 rfl rfl)
theorem dX6_cover_46 : decode cX6_cover 46 = .ok (.iaload, 1) := dk_46 (dk_at dksX6_cover_2 0 rfl rfl)
theorem dX6_cover_47 : decode cX6_cover 47 = .ok (.ishl, 1) := dk_120 (dk_at dksX6_cover_2 1 rfl rfl)
theorem dX6_cover_48 : decode cX6_cover 48 = .ok (.if_icmp .ge 92, 3) := dk_162 0 92 (dk_at dksX6_cover_2 2 rfl rfl)
theorem dX6_cover_51 : decode cX6_cover 51 = .ok (.iconst 0, 1) := dk_3 (dk_at dksX6_cover_2 5 rfl rfl)
theorem dX6_cover_52 : decode cX6_cover 52 = .ok (.istore 5, 2) := dk_54 5 (dk_at dksX6_cover_2 6 rfl rfl)
theorem dX6_cover_54 : decode cX6_cover 54 = .ok (.iconst 0, 1) := dk_3 (dk_at dksX6_cover_2 8 rfl rfl)
theorem dX6_cover_55 : decode cX6_cover 55 = .ok (.istore 6, 2) := dk_54 6 (dk_at dksX6_cover_2 9 rfl rfl)
theorem dX6_cover_57 : decode cX6_cover 57 = .ok (.iload 6, 2) := dk_21 6 (dk_at dksX6_cover_2 11 rfl rfl)
theorem dX6_cover_59 : decode cX6_cover 59 = .ok (.aload_n 0, 1) := dk_42 (dk_at dksX6_cover_2 13 rfl rfl)
theorem dX6_cover_60 : decode cX6_cover 60 = .ok (.getfield 7, 3) := dk_180 0 7 (dk_at dksX6_cover_2 14 rfl rfl)
theorem dX6_cover_63 : decode cX6_cover 63 = .ok (.iconst 2, 1) := dk_5 (dk_at dksX6_cover_2 17 rfl rfl)
theorem dX6_cover_64 : decode cX6_cover 64 = .ok (.iaload, 1) := dk_46 (dk_at dksX6_cover_2 18 rfl rfl)
theorem dX6_cover_65 : decode cX6_cover 65 = .ok (.if_icmp .ge 35, 3) := dk_162 0 35 (dk_at dksX6_cover_2 19 rfl rfl)
theorem dX6_cover_68 : decode cX6_cover 68 = .ok (.iload 5, 2) := dk_21 5 (dk_at dksX6_cover_2 22 rfl rfl)
theorem dX6_cover_70 : decode cX6_cover 70 = .ok (.iload 4, 2) := dk_21 4 (dk_at dksX6_cover_3 0 rfl rfl)
theorem dX6_cover_72 : decode cX6_cover 72 = .ok (.iload 6, 2) := dk_21 6 (dk_at dksX6_cover_3 2 rfl rfl)
theorem dX6_cover_74 : decode cX6_cover 74 = .ok (.ishr, 1) := dk_122 (dk_at dksX6_cover_3 4 rfl rfl)
theorem dX6_cover_75 : decode cX6_cover 75 = .ok (.iconst 1, 1) := dk_4 (dk_at dksX6_cover_3 5 rfl rfl)
theorem dX6_cover_76 : decode cX6_cover 76 = .ok (.iand, 1) := dk_126 (dk_at dksX6_cover_3 6 rfl rfl)
theorem dX6_cover_77 : decode cX6_cover 77 = .ok (.iconst 1, 1) := dk_4 (dk_at dksX6_cover_3 7 rfl rfl)
theorem dX6_cover_78 : decode cX6_cover 78 = .ok (.if_icmp .ne 12, 3) := dk_160 0 12 (dk_at dksX6_cover_3 8 rfl rfl)
theorem dX6_cover_81 : decode cX6_cover 81 = .ok (.aload_n 0, 1) := dk_42 (dk_at dksX6_cover_3 11 rfl rfl)
theorem dX6_cover_82 : decode cX6_cover 82 = .ok (.iload 6, 2) := dk_21 6 (dk_at dksX6_cover_3 12 rfl rfl)
theorem dX6_cover_84 : decode cX6_cover 84 = .ok (.invokevirtual 66, 3) := dk_182 0 66 (dk_at dksX6_cover_3 14 rfl rfl)
theorem dX6_cover_87 : decode cX6_cover 87 = .ok (.goto 4, 3) := dk_167 0 4 (dk_at dksX6_cover_3 17 rfl rfl)
theorem dX6_cover_90 : decode cX6_cover 90 = .ok (.iconst 0, 1) := dk_3 (dk_at dksX6_cover_3 20 rfl rfl)
theorem dX6_cover_91 : decode cX6_cover 91 = .ok (.iadd, 1) := dk_96 (dk_at dksX6_cover_3 21 rfl rfl)
theorem dX6_cover_92 : decode cX6_cover 92 = .ok (.istore 5, 2) := dk_54 5 (dk_at dksX6_cover_3 22 rfl rfl)
theorem dX6_cover_94 : decode cX6_cover 94 = .ok (.iinc 6 1, 3) := dk_132 6 1 (dk_at dksX6_cover_4 0 rfl rfl)
theorem dX6_cover_97 : decode cX6_cover 97 = .ok (.goto (-40), 3) := dk_167 255 216 (dk_at dksX6_cover_4 3 rfl rfl)
theorem dX6_cover_100 : decode cX6_cover 100 = .ok (.iload 4, 2) := dk_21 4 (dk_at dksX6_cover_4 6 rfl rfl)
theorem dX6_cover_102 : decode cX6_cover 102 = .ok (.iload_n 1, 1) := dk_27 (dk_at dksX6_cover_4 8 rfl rfl)
theorem dX6_cover_103 : decode cX6_cover 103 = .ok (.iconst (-1), 1) := dk_2 (dk_at dksX6_cover_4 9 rfl rfl)
theorem dX6_cover_104 : decode cX6_cover 104 = .ok (.ixor, 1) := dk_130 (dk_at dksX6_cover_4 10 rfl rfl)
theorem dX6_cover_105 : decode cX6_cover 105 = .ok (.iand, 1) := dk_126 (dk_at dksX6_cover_4 11 rfl rfl)
theorem dX6_cover_106 : decode cX6_cover 106 = .ok (.ifCond .ne 28, 3) := dk_154 0 28 (dk_at dksX6_cover_4 12 rfl rfl)
theorem dX6_cover_109 : decode cX6_cover 109 = .ok (.iload 5, 2) := dk_21 5 (dk_at dksX6_cover_4 15 rfl rfl)
theorem dX6_cover_111 : decode cX6_cover 111 = .ok (.iload_n 2, 1) := dk_28 (dk_at dksX6_cover_4 17 rfl rfl)
theorem dX6_cover_112 : decode cX6_cover 112 = .ok (.if_icmp .lt 22, 3) := dk_161 0 22 (dk_at dksX6_cover_4 18 rfl rfl)
theorem dX6_cover_115 : decode cX6_cover 115 = .ok (.iload_n 3, 1) := dk_29 (dk_at dksX6_cover_4 21 rfl rfl)
theorem dX6_cover_116 : decode cX6_cover 116 = .ok (.ifCond .lt 15, 3) := dk_155 0 15 (dk_at dksX6_cover_5 0 rfl rfl)
theorem dX6_cover_119 : decode cX6_cover 119 = .ok (.iload 4, 2) := dk_21 4 (dk_at dksX6_cover_5 3 rfl rfl)
theorem dX6_cover_121 : decode cX6_cover 121 = .ok (.invokestatic 243, 3) := dk_184 0 243 (dk_at dksX6_cover_5 5 rfl rfl)
theorem dX6_cover_124 : decode cX6_cover 124 = .ok (.iload_n 3, 1) := dk_29 (dk_at dksX6_cover_5 8 rfl rfl)
theorem dX6_cover_125 : decode cX6_cover 125 = .ok (.invokestatic 243, 3) := dk_184 0 243 (dk_at dksX6_cover_5 9 rfl rfl)
theorem dX6_cover_128 : decode cX6_cover 128 = .ok (.if_icmp .ge 6, 3) := dk_162 0 6 (dk_at dksX6_cover_5 12 rfl rfl)
theorem dX6_cover_131 : decode cX6_cover 131 = .ok (.iload 4, 2) := dk_21 4 (dk_at dksX6_cover_5 15 rfl rfl)
theorem dX6_cover_133 : decode cX6_cover 133 = .ok (.istore_n 3, 1) := dk_62 (dk_at dksX6_cover_5 17 rfl rfl)
theorem dX6_cover_134 : decode cX6_cover 134 = .ok (.iinc 4 1, 3) := dk_132 4 1 (dk_at dksX6_cover_5 18 rfl rfl)
theorem dX6_cover_137 : decode cX6_cover 137 = .ok (.goto (-99), 3) := dk_167 255 157 (dk_at dksX6_cover_5 21 rfl rfl)
theorem dX6_cover_140 : decode cX6_cover 140 = .ok (.iload_n 3, 1) := dk_29 (dk_at dksX6_cover_6 0 rfl rfl)
theorem dX6_cover_141 : decode cX6_cover 141 = .ok (.ifCond .ge 12, 3) := dk_156 0 12 (dk_at dksX6_cover_6 1 rfl rfl)
theorem dX6_cover_144 : decode cX6_cover 144 = .ok (.aload_n 0, 1) := dk_42 (dk_at dksX6_cover_6 4 rfl rfl)
theorem dX6_cover_145 : decode cX6_cover 145 = .ok (.ldc 224, 2) := dk_18 224 (dk_at dksX6_cover_6 5 rfl rfl)
theorem dX6_cover_147 : decode cX6_cover 147 = .ok (.invokevirtual 53, 3) := dk_182 0 53 (dk_at dksX6_cover_6 7 rfl rfl)
theorem dX6_cover_150 : decode cX6_cover 150 = .ok (.goto 4, 3) := dk_167 0 4 (dk_at dksX6_cover_6 10 rfl rfl)
theorem dX6_cover_153 : decode cX6_cover 153 = .ok (.iload_n 3, 1) := dk_29 (dk_at dksX6_cover_6 13 rfl rfl)
theorem dX6_cover_154 : decode cX6_cover 154 = .ok (.ireturn, 1) := dk_172 (dk_at dksX6_cover_6 14 rfl rfl)
abbrev cX6_givenSet : ByteArray := prog_30_method_67_code
def yX6_givenSet : MethodName := ⟨RX6, "givenSet", "()I"⟩
def dkwX6_givenSet_1 : List UInt8 := [28, 120, 167, 0, 4, 3, 128, 60, 132, 2, 1, 167, 255, 225, 27, 172]
abbrev dktX6_givenSet_1 : List UInt8 := dkwX6_givenSet_1 ++ []
def dkwX6_givenSet_0 : List UInt8 := [3, 60, 3, 61, 28, 42, 180, 0, 7, 5, 46, 162, 0, 27, 27, 42, 28, 182, 0, 72, 153, 0, 9, 4]
abbrev dktX6_givenSet_0 : List UInt8 := dkwX6_givenSet_0 ++ dktX6_givenSet_1
theorem dksX6_givenSet_0 : cX6_givenSet.data.toList.drop 0 = dktX6_givenSet_0 := by decide +kernel
theorem dksX6_givenSet_1 : cX6_givenSet.data.toList.drop 24 = dktX6_givenSet_1 := dk_seg dksX6_givenSet_0 24 rfl rfl
theorem dX6_givenSet_0 : decode cX6_givenSet 0 = .ok (.iconst 0, 1) := dk_3 (dk_at dksX6_givenSet_0 0 rfl rfl)
theorem dX6_givenSet_1 : decode cX6_givenSet 1 = .ok (.istore_n 1, 1) := dk_60 (dk_at dksX6_givenSet_0 1 rfl rfl)
theorem dX6_givenSet_2 : decode cX6_givenSet 2 = .ok (.iconst 0, 1) := dk_3 (dk_at dksX6_givenSet_0 2 rfl rfl)
theorem dX6_givenSet_3 : decode cX6_givenSet 3 = .ok (.istore_n 2, 1) := dk_61 (dk_at dksX6_givenSet_0 3 rfl rfl)
theorem dX6_givenSet_4 : decode cX6_givenSet 4 = .ok (.iload_n 2, 1) := dk_28 (dk_at dksX6_givenSet_0 4 rfl rfl)
theorem dX6_givenSet_5 : decode cX6_givenSet 5 = .ok (.aload_n 0, 1) := dk_42 (dk_at dksX6_givenSet_0 5 rfl rfl)
theorem dX6_givenSet_6 : decode cX6_givenSet 6 = .ok (.getfield 7, 3) := dk_180 0 7 (dk_at dksX6_givenSet_0 6 rfl rfl)
theorem dX6_givenSet_9 : decode cX6_givenSet 9 = .ok (.iconst 2, 1) := dk_5 (dk_at dksX6_givenSet_0 9 rfl rfl)
theorem dX6_givenSet_10 : decode cX6_givenSet 10 = .ok (.iaload, 1) := dk_46 (dk_at dksX6_givenSet_0 10 rfl rfl)
theorem dX6_givenSet_11 : decode cX6_givenSet 11 = .ok (.if_icmp .ge 27, 3) := dk_162 0 27 (dk_at dksX6_givenSet_0 11 rfl rfl)
theorem dX6_givenSet_14 : decode cX6_givenSet 14 = .ok (.iload_n 1, 1) := dk_27 (dk_at dksX6_givenSet_0 14 rfl rfl)
theorem dX6_givenSet_15 : decode cX6_givenSet 15 = .ok (.aload_n 0, 1) := dk_42 (dk_at dksX6_givenSet_0 15 rfl rfl)
theorem dX6_givenSet_16 : decode cX6_givenSet 16 = .ok (.iload_n 2, 1) := dk_28 (dk_at dksX6_givenSet_0 16 rfl rfl)
theorem dX6_givenSet_17 : decode cX6_givenSet 17 = .ok (.invokevirtual 72, 3) := dk_182 0 72 (dk_at dksX6_givenSet_0 17 rfl rfl)
theorem dX6_givenSet_20 : decode cX6_givenSet 20 = .ok (.ifCond .eq 9, 3) := dk_153 0 9 (dk_at dksX6_givenSet_0 20 rfl rfl)
theorem dX6_givenSet_23 : decode cX6_givenSet 23 = .ok (.iconst 1, 1) := dk_4 (dk_at dksX6_givenSet_0 23 rfl rfl)
theorem dX6_givenSet_24 : decode cX6_givenSet 24 = .ok (.iload_n 2, 1) := dk_28 (dk_at dksX6_givenSet_1 0 rfl rfl)
theorem dX6_givenSet_25 : decode cX6_givenSet 25 = .ok (.ishl, 1) := dk_120 (dk_at dksX6_givenSet_1 1 rfl rfl)
theorem dX6_givenSet_26 : decode cX6_givenSet 26 = .ok (.goto 4, 3) := dk_167 0 4 (dk_at dksX6_givenSet_1 2 rfl rfl)
theorem dX6_givenSet_29 : decode cX6_givenSet 29 = .ok (.iconst 0, 1) := dk_3 (dk_at dksX6_givenSet_1 5 rfl rfl)
theorem dX6_givenSet_30 : decode cX6_givenSet 30 = .ok (.ior, 1) := dk_128 (dk_at dksX6_givenSet_1 6 rfl rfl)
theorem dX6_givenSet_31 : decode cX6_givenSet 31 = .ok (.istore_n 1, 1) := dk_60 (dk_at dksX6_givenSet_1 7 rfl rfl)
theorem dX6_givenSet_32 : decode cX6_givenSet 32 = .ok (.iinc 2 1, 3) := dk_132 2 1 (dk_at dksX6_givenSet_1 8 rfl rfl)
theorem dX6_givenSet_35 : decode cX6_givenSet 35 = .ok (.goto (-31), 3) := dk_167 255 225 (dk_at dksX6_givenSet_1 11 rfl rfl)
theorem dX6_givenSet_38 : decode cX6_givenSet 38 = .ok (.iload_n 1, 1) := dk_27 (dk_at dksX6_givenSet_1 14 rfl rfl)
theorem dX6_givenSet_39 : decode cX6_givenSet 39 = .ok (.ireturn, 1) := dk_172 (dk_at dksX6_givenSet_1 15 rfl rfl)
abbrev cX6_bits : ByteArray := prog_30_method_6_code
def yX6_bits : MethodName := ⟨RX6, "bits", "(I)I"⟩
def dkwX6_bits_0 : List UInt8 := [3, 60, 26, 61, 28, 153, 0, 15, 132, 1, 1, 28, 28, 4, 100, 126, 61, 167, 255, 243, 27, 172]
abbrev dktX6_bits_0 : List UInt8 := dkwX6_bits_0 ++ []
theorem dksX6_bits_0 : cX6_bits.data.toList.drop 0 = dktX6_bits_0 := by decide +kernel
theorem dX6_bits_0 : decode cX6_bits 0 = .ok (.iconst 0, 1) := dk_3 (dk_at dksX6_bits_0 0 rfl rfl)
theorem dX6_bits_1 : decode cX6_bits 1 = .ok (.istore_n 1, 1) := dk_60 (dk_at dksX6_bits_0 1 rfl rfl)
theorem dX6_bits_2 : decode cX6_bits 2 = .ok (.iload_n 0, 1) := dk_26 (dk_at dksX6_bits_0 2 rfl rfl)
theorem dX6_bits_3 : decode cX6_bits 3 = .ok (.istore_n 2, 1) := dk_61 (dk_at dksX6_bits_0 3 rfl rfl)
theorem dX6_bits_4 : decode cX6_bits 4 = .ok (.iload_n 2, 1) := dk_28 (dk_at dksX6_bits_0 4 rfl rfl)
theorem dX6_bits_5 : decode cX6_bits 5 = .ok (.ifCond .eq 15, 3) := dk_153 0 15 (dk_at dksX6_bits_0 5 rfl rfl)
theorem dX6_bits_8 : decode cX6_bits 8 = .ok (.iinc 1 1, 3) := dk_132 1 1 (dk_at dksX6_bits_0 8 rfl rfl)
theorem dX6_bits_11 : decode cX6_bits 11 = .ok (.iload_n 2, 1) := dk_28 (dk_at dksX6_bits_0 11 rfl rfl)
theorem dX6_bits_12 : decode cX6_bits 12 = .ok (.iload_n 2, 1) := dk_28 (dk_at dksX6_bits_0 12 rfl rfl)
theorem dX6_bits_13 : decode cX6_bits 13 = .ok (.iconst 1, 1) := dk_4 (dk_at dksX6_bits_0 13 rfl rfl)
theorem dX6_bits_14 : decode cX6_bits 14 = .ok (.isub, 1) := dk_100 (dk_at dksX6_bits_0 14 rfl rfl)
theorem dX6_bits_15 : decode cX6_bits 15 = .ok (.iand, 1) := dk_126 (dk_at dksX6_bits_0 15 rfl rfl)
theorem dX6_bits_16 : decode cX6_bits 16 = .ok (.istore_n 2, 1) := dk_61 (dk_at dksX6_bits_0 16 rfl rfl)
theorem dX6_bits_17 : decode cX6_bits 17 = .ok (.goto (-13), 3) := dk_167 255 243 (dk_at dksX6_bits_0 17 rfl rfl)
theorem dX6_bits_20 : decode cX6_bits 20 = .ok (.iload_n 1, 1) := dk_27 (dk_at dksX6_bits_0 20 rfl rfl)
theorem dX6_bits_21 : decode cX6_bits 21 = .ok (.ireturn, 1) := dk_172 (dk_at dksX6_bits_0 21 rfl rfl)
abbrev cX6_kept : ByteArray := prog_30_method_69_code
def yX6_kept : MethodName := ⟨RX6, "kept", "(II)I"⟩
def dkwX6_kept_7 : List UInt8 := [180, 0, 7, 182, 0, 165, 29, 172]
abbrev dktX6_kept_7 : List UInt8 := dkwX6_kept_7 ++ []
def dkwX6_kept_6 : List UInt8 := [4, 21, 4, 120, 167, 0, 4, 3, 128, 62, 132, 4, 1, 167, 255, 208, 42, 42, 180, 0, 16, 42]
abbrev dktX6_kept_6 : List UInt8 := dkwX6_kept_6 ++ dktX6_kept_7
def dkwX6_kept_5 : List UInt8 := [29, 21, 4, 27, 159, 0, 27, 42, 21, 4, 7, 182, 0, 75, 42, 180, 0, 41, 21, 4, 46, 164, 0, 10]
abbrev dktX6_kept_5 : List UInt8 := dkwX6_kept_5 ++ dktX6_kept_6
def dkwX6_kept_4 : List UInt8 := [182, 0, 183, 42, 2, 181, 0, 25, 3, 62, 3, 54, 4, 21, 4, 42, 180, 0, 7, 5, 46, 162, 0, 43]
abbrev dktX6_kept_4 : List UInt8 := dkwX6_kept_4 ++ dktX6_kept_5
def dkwX6_kept_3 : List UInt8 := [167, 255, 231, 42, 42, 180, 0, 16, 42, 180, 0, 7, 182, 0, 165, 42, 27, 181, 0, 25, 42, 28]
abbrev dktX6_kept_3 : List UInt8 := dkwX6_kept_3 ++ dktX6_kept_4
def dkwX6_kept_2 : List UInt8 := [180, 0, 7, 5, 46, 162, 0, 21, 42, 180, 0, 41, 29, 42, 29, 7, 182, 0, 75, 79, 132, 3, 1]
abbrev dktX6_kept_2 : List UInt8 := dkwX6_kept_2 ++ dktX6_kept_3
def dkwX6_kept_1 : List UInt8 := [172, 42, 42, 180, 0, 7, 42, 180, 0, 16, 182, 0, 165, 42, 28, 182, 0, 183, 3, 62, 29, 42]
abbrev dktX6_kept_1 : List UInt8 := dkwX6_kept_1 ++ dktX6_kept_2
def dkwX6_kept_0 : List UInt8 := [42, 27, 182, 0, 62, 153, 0, 13, 28, 3, 16, 60, 184, 0, 48, 154, 0, 10, 42, 18, 52, 182, 0, 53]
abbrev dktX6_kept_0 : List UInt8 := dkwX6_kept_0 ++ dktX6_kept_1
theorem dksX6_kept_0 : cX6_kept.data.toList.drop 0 = dktX6_kept_0 := by decide +kernel
theorem dksX6_kept_1 : cX6_kept.data.toList.drop 24 = dktX6_kept_1 := dk_seg dksX6_kept_0 24 rfl rfl
theorem dksX6_kept_2 : cX6_kept.data.toList.drop 46 = dktX6_kept_2 := dk_seg dksX6_kept_1 22 rfl rfl
theorem dksX6_kept_3 : cX6_kept.data.toList.drop 69 = dktX6_kept_3 := dk_seg dksX6_kept_2 23 rfl rfl
theorem dksX6_kept_4 : cX6_kept.data.toList.drop 91 = dktX6_kept_4 := dk_seg dksX6_kept_3 22 rfl rfl
theorem dksX6_kept_5 : cX6_kept.data.toList.drop 115 = dktX6_kept_5 := dk_seg dksX6_kept_4 24 rfl rfl
theorem dksX6_kept_6 : cX6_kept.data.toList.drop 139 = dktX6_kept_6 := dk_seg dksX6_kept_5 24 rfl rfl
theorem dksX6_kept_7 : cX6_kept.data.toList.drop 161 = dktX6_kept_7 := dk_seg dksX6_kept_6 22 rfl rfl
theorem dX6_kept_0 : decode cX6_kept 0 = .ok (.aload_n 0, 1) := dk_42 (dk_at dksX6_kept_0 0 rfl rfl)
theorem dX6_kept_1 : decode cX6_kept 1 = .ok (.iload_n 1, 1) := dk_27 (dk_at dksX6_kept_0 1 rfl rfl)
theorem dX6_kept_2 : decode cX6_kept 2 = .ok (.invokevirtual 62, 3) := dk_182 0 62 (dk_at dksX6_kept_0 2 rfl rfl)
theorem dX6_kept_5 : decode cX6_kept 5 = .ok (.ifCond .eq 13, 3) := dk_153 0 13 (dk_at dksX6_kept_0 5 rfl rfl)
theorem dX6_kept_8 : decode cX6_kept 8 = .ok (.iload_n 2, 1) := dk_28 (dk_at dksX6_kept_0 8 rfl rfl)
theorem dX6_kept_9 : decode cX6_kept 9 = .ok (.iconst 0, 1) := dk_3 (dk_at dksX6_kept_0 9 rfl rfl)
theorem dX6_kept_10 : decode cX6_kept 10 = .ok (.bipush 60, 2) := dk_16 60 (dk_at dksX6_kept_0 10 rfl rfl)
theorem dX6_kept_12 : decode cX6_kept 12 = .ok (.invokestatic 48, 3) := dk_184 0 48 (dk_at dksX6_kept_0 12 rfl rfl)
theorem dX6_kept_15 : decode cX6_kept 15 = .ok (.ifCond .ne 10, 3) := dk_154 0 10 (dk_at dksX6_kept_0 15 rfl rfl)
theorem dX6_kept_18 : decode cX6_kept 18 = .ok (.aload_n 0, 1) := dk_42 (dk_at dksX6_kept_0 18 rfl rfl)
theorem dX6_kept_19 : decode cX6_kept 19 = .ok (.ldc 52, 2) := dk_18 52 (dk_at dksX6_kept_0 19 rfl rfl)
theorem dX6_kept_21 : decode cX6_kept 21 = .ok (.invokevirtual 53, 3) := dk_182 0 53 (dk_at dksX6_kept_0 21 rfl rfl)
theorem dX6_kept_24 : decode cX6_kept 24 = .ok (.ireturn, 1) := dk_172 (dk_at dksX6_kept_1 0 rfl rfl)
theorem dX6_kept_25 : decode cX6_kept 25 = .ok (.aload_n 0, 1) := dk_42 (dk_at dksX6_kept_1 1 rfl rfl)
theorem dX6_kept_26 : decode cX6_kept 26 = .ok (.aload_n 0, 1) := dk_42 (dk_at dksX6_kept_1 2 rfl rfl)
theorem dX6_kept_27 : decode cX6_kept 27 = .ok (.getfield 7, 3) := dk_180 0 7 (dk_at dksX6_kept_1 3 rfl rfl)
theorem dX6_kept_30 : decode cX6_kept 30 = .ok (.aload_n 0, 1) := dk_42 (dk_at dksX6_kept_1 6 rfl rfl)
theorem dX6_kept_31 : decode cX6_kept 31 = .ok (.getfield 16, 3) := dk_180 0 16 (dk_at dksX6_kept_1 7 rfl rfl)
theorem dX6_kept_34 : decode cX6_kept 34 = .ok (.invokevirtual 165, 3) := dk_182 0 165 (dk_at dksX6_kept_1 10 rfl rfl)
theorem dX6_kept_37 : decode cX6_kept 37 = .ok (.aload_n 0, 1) := dk_42 (dk_at dksX6_kept_1 13 rfl rfl)
theorem dX6_kept_38 : decode cX6_kept 38 = .ok (.iload_n 2, 1) := dk_28 (dk_at dksX6_kept_1 14 rfl rfl)
theorem dX6_kept_39 : decode cX6_kept 39 = .ok (.invokevirtual 183, 3) := dk_182 0 183 (dk_at dksX6_kept_1 15 rfl rfl)
theorem dX6_kept_42 : decode cX6_kept 42 = .ok (.iconst 0, 1) := dk_3 (dk_at dksX6_kept_1 18 rfl rfl)
theorem dX6_kept_43 : decode cX6_kept 43 = .ok (.istore_n 3, 1) := dk_62 (dk_at dksX6_kept_1 19 rfl rfl)
theorem dX6_kept_44 : decode cX6_kept 44 = .ok (.iload_n 3, 1) := dk_29 (dk_at dksX6_kept_1 20 rfl rfl)
theorem dX6_kept_45 : decode cX6_kept 45 = .ok (.aload_n 0, 1) := dk_42 (dk_at dksX6_kept_1 21 rfl rfl)
theorem dX6_kept_46 : decode cX6_kept 46 = .ok (.getfield 7, 3) := dk_180 0 7 (dk_at dksX6_kept_2 0 rfl rfl)
theorem dX6_kept_49 : decode cX6_kept 49 = .ok (.iconst 2, 1) := dk_5 (dk_at dksX6_kept_2 3 rfl rfl)
theorem dX6_kept_50 : decode cX6_kept 50 = .ok (.iaload, 1) := dk_46 (dk_at dksX6_kept_2 4 rfl rfl)
theorem dX6_kept_51 : decode cX6_kept 51 = .ok (.if_icmp .ge 21, 3) := dk_162 0 21 (dk_at dksX6_kept_2 5 rfl rfl)
theorem dX6_kept_54 : decode cX6_kept 54 = .ok (.aload_n 0, 1) := dk_42 (dk_at dksX6_kept_2 8 rfl rfl)
theorem dX6_kept_55 : decode cX6_kept 55 = .ok (.getfield 41, 3) := dk_180 0 41 (dk_at dksX6_kept_2 9 rfl rfl)
theorem dX6_kept_58 : decode cX6_kept 58 = .ok (.iload_n 3, 1) := dk_29 (dk_at dksX6_kept_2 12 rfl rfl)
theorem dX6_kept_59 : decode cX6_kept 59 = .ok (.aload_n 0, 1) := dk_42 (dk_at dksX6_kept_2 13 rfl rfl)
theorem dX6_kept_60 : decode cX6_kept 60 = .ok (.iload_n 3, 1) := dk_29 (dk_at dksX6_kept_2 14 rfl rfl)
theorem dX6_kept_61 : decode cX6_kept 61 = .ok (.iconst 4, 1) := dk_7 (dk_at dksX6_kept_2 15 rfl rfl)
theorem dX6_kept_62 : decode cX6_kept 62 = .ok (.invokevirtual 75, 3) := dk_182 0 75 (dk_at dksX6_kept_2 16 rfl rfl)
theorem dX6_kept_65 : decode cX6_kept 65 = .ok (.iastore, 1) := dk_79 (dk_at dksX6_kept_2 19 rfl rfl)
theorem dX6_kept_66 : decode cX6_kept 66 = .ok (.iinc 3 1, 3) := dk_132 3 1 (dk_at dksX6_kept_2 20 rfl rfl)
theorem dX6_kept_69 : decode cX6_kept 69 = .ok (.goto (-25), 3) := dk_167 255 231 (dk_at dksX6_kept_3 0 rfl rfl)
theorem dX6_kept_72 : decode cX6_kept 72 = .ok (.aload_n 0, 1) := dk_42 (dk_at dksX6_kept_3 3 rfl rfl)
theorem dX6_kept_73 : decode cX6_kept 73 = .ok (.aload_n 0, 1) := dk_42 (dk_at dksX6_kept_3 4 rfl rfl)
theorem dX6_kept_74 : decode cX6_kept 74 = .ok (.getfield 16, 3) := dk_180 0 16 (dk_at dksX6_kept_3 5 rfl rfl)
theorem dX6_kept_77 : decode cX6_kept 77 = .ok (.aload_n 0, 1) := dk_42 (dk_at dksX6_kept_3 8 rfl rfl)
theorem dX6_kept_78 : decode cX6_kept 78 = .ok (.getfield 7, 3) := dk_180 0 7 (dk_at dksX6_kept_3 9 rfl rfl)
theorem dX6_kept_81 : decode cX6_kept 81 = .ok (.invokevirtual 165, 3) := dk_182 0 165 (dk_at dksX6_kept_3 12 rfl rfl)
theorem dX6_kept_84 : decode cX6_kept 84 = .ok (.aload_n 0, 1) := dk_42 (dk_at dksX6_kept_3 15 rfl rfl)
theorem dX6_kept_85 : decode cX6_kept 85 = .ok (.iload_n 1, 1) := dk_27 (dk_at dksX6_kept_3 16 rfl rfl)
theorem dX6_kept_86 : decode cX6_kept 86 = .ok (.putfield 25, 3) := dk_181 0 25 (dk_at dksX6_kept_3 17 rfl rfl)
theorem dX6_kept_89 : decode cX6_kept 89 = .ok (.aload_n 0, 1) := dk_42 (dk_at dksX6_kept_3 20 rfl rfl)
theorem dX6_kept_90 : decode cX6_kept 90 = .ok (.iload_n 2, 1) := dk_28 (dk_at dksX6_kept_3 21 rfl rfl)
theorem dX6_kept_91 : decode cX6_kept 91 = .ok (.invokevirtual 183, 3) := dk_182 0 183 (dk_at dksX6_kept_4 0 rfl rfl)
theorem dX6_kept_94 : decode cX6_kept 94 = .ok (.aload_n 0, 1) := dk_42 (dk_at dksX6_kept_4 3 rfl rfl)
theorem dX6_kept_95 : decode cX6_kept 95 = .ok (.iconst (-1), 1) := dk_2 (dk_at dksX6_kept_4 4 rfl rfl)
theorem dX6_kept_96 : decode cX6_kept 96 = .ok (.putfield 25, 3) := dk_181 0 25 (dk_at dksX6_kept_4 5 rfl rfl)
theorem dX6_kept_99 : decode cX6_kept 99 = .ok (.iconst 0, 1) := dk_3 (dk_at dksX6_kept_4 8 rfl rfl)
theorem dX6_kept_100 : decode cX6_kept 100 = .ok (.istore_n 3, 1) := dk_62 (dk_at dksX6_kept_4 9 rfl rfl)
theorem dX6_kept_101 : decode cX6_kept 101 = .ok (.iconst 0, 1) := dk_3 (dk_at dksX6_kept_4 10 rfl rfl)
theorem dX6_kept_102 : decode cX6_kept 102 = .ok (.istore 4, 2) := dk_54 4 (dk_at dksX6_kept_4 11 rfl rfl)
theorem dX6_kept_104 : decode cX6_kept 104 = .ok (.iload 4, 2) := dk_21 4 (dk_at dksX6_kept_4 13 rfl rfl)
theorem dX6_kept_106 : decode cX6_kept 106 = .ok (.aload_n 0, 1) := dk_42 (dk_at dksX6_kept_4 15 rfl rfl)
theorem dX6_kept_107 : decode cX6_kept 107 = .ok (.getfield 7, 3) := dk_180 0 7 (dk_at dksX6_kept_4 16 rfl rfl)
theorem dX6_kept_110 : decode cX6_kept 110 = .ok (.iconst 2, 1) := dk_5 (dk_at dksX6_kept_4 19 rfl rfl)
theorem dX6_kept_111 : decode cX6_kept 111 = .ok (.iaload, 1) := dk_46 (dk_at dksX6_kept_4 20 rfl rfl)
theorem dX6_kept_112 : decode cX6_kept 112 = .ok (.if_icmp .ge 43, 3) := dk_162 0 43 (dk_at dksX6_kept_4 21 rfl rfl)
theorem dX6_kept_115 : decode cX6_kept 115 = .ok (.iload_n 3, 1) := dk_29 (dk_at dksX6_kept_5 0 rfl rfl)
theorem dX6_kept_116 : decode cX6_kept 116 = .ok (.iload 4, 2) := dk_21 4 (dk_at dksX6_kept_5 1 rfl rfl)
theorem dX6_kept_118 : decode cX6_kept 118 = .ok (.iload_n 1, 1) := dk_27 (dk_at dksX6_kept_5 3 rfl rfl)
theorem dX6_kept_119 : decode cX6_kept 119 = .ok (.if_icmp .eq 27, 3) := dk_159 0 27 (dk_at dksX6_kept_5 4 rfl rfl)
theorem dX6_kept_122 : decode cX6_kept 122 = .ok (.aload_n 0, 1) := dk_42 (dk_at dksX6_kept_5 7 rfl rfl)
theorem dX6_kept_123 : decode cX6_kept 123 = .ok (.iload 4, 2) := dk_21 4 (dk_at dksX6_kept_5 8 rfl rfl)
theorem dX6_kept_125 : decode cX6_kept 125 = .ok (.iconst 4, 1) := dk_7 (dk_at dksX6_kept_5 10 rfl rfl)
theorem dX6_kept_126 : decode cX6_kept 126 = .ok (.invokevirtual 75, 3) := dk_182 0 75 (dk_at dksX6_kept_5 11 rfl rfl)
theorem dX6_kept_129 : decode cX6_kept 129 = .ok (.aload_n 0, 1) := dk_42 (dk_at dksX6_kept_5 14 rfl rfl)
theorem dX6_kept_130 : decode cX6_kept 130 = .ok (.getfield 41, 3) := dk_180 0 41 (dk_at dksX6_kept_5 15 rfl rfl)
theorem dX6_kept_133 : decode cX6_kept 133 = .ok (.iload 4, 2) := dk_21 4 (dk_at dksX6_kept_5 18 rfl rfl)
theorem dX6_kept_135 : decode cX6_kept 135 = .ok (.iaload, 1) := dk_46 (dk_at dksX6_kept_5 20 rfl rfl)
theorem dX6_kept_136 : decode cX6_kept 136 = .ok (.if_icmp .le 10, 3) := dk_164 0 10 (dk_at dksX6_kept_5 21 rfl rfl)
theorem dX6_kept_139 : decode cX6_kept 139 = .ok (.iconst 1, 1) := dk_4 (dk_at dksX6_kept_6 0 rfl rfl)
theorem dX6_kept_140 : decode cX6_kept 140 = .ok (.iload 4, 2) := dk_21 4 (dk_at dksX6_kept_6 1 rfl rfl)
theorem dX6_kept_142 : decode cX6_kept 142 = .ok (.ishl, 1) := dk_120 (dk_at dksX6_kept_6 3 rfl rfl)
theorem dX6_kept_143 : decode cX6_kept 143 = .ok (.goto 4, 3) := dk_167 0 4 (dk_at dksX6_kept_6 4 rfl rfl)
theorem dX6_kept_146 : decode cX6_kept 146 = .ok (.iconst 0, 1) := dk_3 (dk_at dksX6_kept_6 7 rfl rfl)
theorem dX6_kept_147 : decode cX6_kept 147 = .ok (.ior, 1) := dk_128 (dk_at dksX6_kept_6 8 rfl rfl)
theorem dX6_kept_148 : decode cX6_kept 148 = .ok (.istore_n 3, 1) := dk_62 (dk_at dksX6_kept_6 9 rfl rfl)
theorem dX6_kept_149 : decode cX6_kept 149 = .ok (.iinc 4 1, 3) := dk_132 4 1 (dk_at dksX6_kept_6 10 rfl rfl)
theorem dX6_kept_152 : decode cX6_kept 152 = .ok (.goto (-48), 3) := dk_167 255 208 (dk_at dksX6_kept_6 13 rfl rfl)
theorem dX6_kept_155 : decode cX6_kept 155 = .ok (.aload_n 0, 1) := dk_42 (dk_at dksX6_kept_6 16 rfl rfl)
theorem dX6_kept_156 : decode cX6_kept 156 = .ok (.aload_n 0, 1) := dk_42 (dk_at dksX6_kept_6 17 rfl rfl)
theorem dX6_kept_157 : decode cX6_kept 157 = .ok (.getfield 16, 3) := dk_180 0 16 (dk_at dksX6_kept_6 18 rfl rfl)
theorem dX6_kept_160 : decode cX6_kept 160 = .ok (.aload_n 0, 1) := dk_42 (dk_at dksX6_kept_6 21 rfl rfl)
theorem dX6_kept_161 : decode cX6_kept 161 = .ok (.getfield 7, 3) := dk_180 0 7 (dk_at dksX6_kept_7 0 rfl rfl)
theorem dX6_kept_164 : decode cX6_kept 164 = .ok (.invokevirtual 165, 3) := dk_182 0 165 (dk_at dksX6_kept_7 3 rfl rfl)
theorem dX6_kept_167 : decode cX6_kept 167 = .ok (.iload_n 3, 1) := dk_29 (dk_at dksX6_kept_7 6 rfl rfl)
theorem dX6_kept_168 : decode cX6_kept 168 = .ok (.ireturn, 1) := dk_172 (dk_at dksX6_kept_7 7 rfl rfl)
abbrev cX6_net : ByteArray := prog_30_method_70_code
def yX6_net : MethodName := ⟨RX6, "net", "(I)I"⟩
def dkwX6_net_2 : List UInt8 := [167, 255, 227, 28, 172]
abbrev dktX6_net_2 : List UInt8 := dkwX6_net_2 ++ []
def dkwX6_net_1 : List UInt8 := [5, 46, 162, 0, 25, 28, 42, 29, 27, 182, 0, 86, 42, 27, 29, 182, 0, 86, 100, 96, 61, 132, 3, 1]
abbrev dktX6_net_1 : List UInt8 := dkwX6_net_1 ++ dktX6_net_2
def dkwX6_net_0 : List UInt8 := [42, 27, 182, 0, 62, 154, 0, 10, 42, 18, 52, 182, 0, 53, 172, 3, 61, 3, 62, 29, 42, 180, 0, 7]
abbrev dktX6_net_0 : List UInt8 := dkwX6_net_0 ++ dktX6_net_1
theorem dksX6_net_0 : cX6_net.data.toList.drop 0 = dktX6_net_0 := by decide +kernel
theorem dksX6_net_1 : cX6_net.data.toList.drop 24 = dktX6_net_1 := dk_seg dksX6_net_0 24 rfl rfl
theorem dksX6_net_2 : cX6_net.data.toList.drop 48 = dktX6_net_2 := dk_seg dksX6_net_1 24 rfl rfl
theorem dX6_net_0 : decode cX6_net 0 = .ok (.aload_n 0, 1) := dk_42 (dk_at dksX6_net_0 0 rfl rfl)
theorem dX6_net_1 : decode cX6_net 1 = .ok (.iload_n 1, 1) := dk_27 (dk_at dksX6_net_0 1 rfl rfl)
theorem dX6_net_2 : decode cX6_net 2 = .ok (.invokevirtual 62, 3) := dk_182 0 62 (dk_at dksX6_net_0 2 rfl rfl)
theorem dX6_net_5 : decode cX6_net 5 = .ok (.ifCond .ne 10, 3) := dk_154 0 10 (dk_at dksX6_net_0 5 rfl rfl)
theorem dX6_net_8 : decode cX6_net 8 = .ok (.aload_n 0, 1) := dk_42 (dk_at dksX6_net_0 8 rfl rfl)
theorem dX6_net_9 : decode cX6_net 9 = .ok (.ldc 52, 2) := dk_18 52 (dk_at dksX6_net_0 9 rfl rfl)
theorem dX6_net_11 : decode cX6_net 11 = .ok (.invokevirtual 53, 3) := dk_182 0 53 (dk_at dksX6_net_0 11 rfl rfl)
theorem dX6_net_14 : decode cX6_net 14 = .ok (.ireturn, 1) := dk_172 (dk_at dksX6_net_0 14 rfl rfl)
theorem dX6_net_15 : decode cX6_net 15 = .ok (.iconst 0, 1) := dk_3 (dk_at dksX6_net_0 15 rfl rfl)
theorem dX6_net_16 : decode cX6_net 16 = .ok (.istore_n 2, 1) := dk_61 (dk_at dksX6_net_0 16 rfl rfl)
theorem dX6_net_17 : decode cX6_net 17 = .ok (.iconst 0, 1) := dk_3 (dk_at dksX6_net_0 17 rfl rfl)
theorem dX6_net_18 : decode cX6_net 18 = .ok (.istore_n 3, 1) := dk_62 (dk_at dksX6_net_0 18 rfl rfl)
theorem dX6_net_19 : decode cX6_net 19 = .ok (.iload_n 3, 1) := dk_29 (dk_at dksX6_net_0 19 rfl rfl)
theorem dX6_net_20 : decode cX6_net 20 = .ok (.aload_n 0, 1) := dk_42 (dk_at dksX6_net_0 20 rfl rfl)
theorem dX6_net_21 : decode cX6_net 21 = .ok (.getfield 7, 3) := dk_180 0 7 (dk_at dksX6_net_0 21 rfl rfl)
theorem dX6_net_24 : decode cX6_net 24 = .ok (.iconst 2, 1) := dk_5 (dk_at dksX6_net_1 0 rfl rfl)
theorem dX6_net_25 : decode cX6_net 25 = .ok (.iaload, 1) := dk_46 (dk_at dksX6_net_1 1 rfl rfl)
theorem dX6_net_26 : decode cX6_net 26 = .ok (.if_icmp .ge 25, 3) := dk_162 0 25 (dk_at dksX6_net_1 2 rfl rfl)
theorem dX6_net_29 : decode cX6_net 29 = .ok (.iload_n 2, 1) := dk_28 (dk_at dksX6_net_1 5 rfl rfl)
theorem dX6_net_30 : decode cX6_net 30 = .ok (.aload_n 0, 1) := dk_42 (dk_at dksX6_net_1 6 rfl rfl)
theorem dX6_net_31 : decode cX6_net 31 = .ok (.iload_n 3, 1) := dk_29 (dk_at dksX6_net_1 7 rfl rfl)
theorem dX6_net_32 : decode cX6_net 32 = .ok (.iload_n 1, 1) := dk_27 (dk_at dksX6_net_1 8 rfl rfl)
theorem dX6_net_33 : decode cX6_net 33 = .ok (.invokevirtual 86, 3) := dk_182 0 86 (dk_at dksX6_net_1 9 rfl rfl)
theorem dX6_net_36 : decode cX6_net 36 = .ok (.aload_n 0, 1) := dk_42 (dk_at dksX6_net_1 12 rfl rfl)
theorem dX6_net_37 : decode cX6_net 37 = .ok (.iload_n 1, 1) := dk_27 (dk_at dksX6_net_1 13 rfl rfl)
theorem dX6_net_38 : decode cX6_net 38 = .ok (.iload_n 3, 1) := dk_29 (dk_at dksX6_net_1 14 rfl rfl)
theorem dX6_net_39 : decode cX6_net 39 = .ok (.invokevirtual 86, 3) := dk_182 0 86 (dk_at dksX6_net_1 15 rfl rfl)
theorem dX6_net_42 : decode cX6_net 42 = .ok (.isub, 1) := dk_100 (dk_at dksX6_net_1 18 rfl rfl)
theorem dX6_net_43 : decode cX6_net 43 = .ok (.iadd, 1) := dk_96 (dk_at dksX6_net_1 19 rfl rfl)
theorem dX6_net_44 : decode cX6_net 44 = .ok (.istore_n 2, 1) := dk_61 (dk_at dksX6_net_1 20 rfl rfl)
theorem dX6_net_45 : decode cX6_net 45 = .ok (.iinc 3 1, 3) := dk_132 3 1 (dk_at dksX6_net_1 21 rfl rfl)
theorem dX6_net_48 : decode cX6_net 48 = .ok (.goto (-29), 3) := dk_167 255 227 (dk_at dksX6_net_2 0 rfl rfl)
theorem dX6_net_51 : decode cX6_net 51 = .ok (.iload_n 2, 1) := dk_28 (dk_at dksX6_net_2 3 rfl rfl)
theorem dX6_net_52 : decode cX6_net 52 = .ok (.ireturn, 1) := dk_172 (dk_at dksX6_net_2 4 rfl rfl)
abbrev cX6_odds : ByteArray := prog_30_method_72_code
def yX6_odds : MethodName := ⟨RX6, "odds", "(II)I"⟩
def dkwX6_odds_2 : List UInt8 := [29, 21, 4, 108, 167, 0, 8, 16, 7, 21, 4, 108, 172]
abbrev dktX6_odds_2 : List UInt8 := dkwX6_odds_2 ++ []
def dkwX6_odds_1 : List UInt8 := [42, 27, 42, 27, 5, 182, 0, 75, 182, 0, 237, 62, 29, 16, 7, 184, 0, 246, 54, 4, 28, 154, 0, 10]
abbrev dktX6_odds_1 : List UInt8 := dkwX6_odds_1 ++ dktX6_odds_2
def dkwX6_odds_0 : List UInt8 := [42, 27, 182, 0, 62, 153, 0, 12, 28, 3, 4, 184, 0, 48, 154, 0, 10, 42, 18, 52, 182, 0, 53, 172]
abbrev dktX6_odds_0 : List UInt8 := dkwX6_odds_0 ++ dktX6_odds_1
theorem dksX6_odds_0 : cX6_odds.data.toList.drop 0 = dktX6_odds_0 := by decide +kernel
theorem dksX6_odds_1 : cX6_odds.data.toList.drop 24 = dktX6_odds_1 := dk_seg dksX6_odds_0 24 rfl rfl
theorem dksX6_odds_2 : cX6_odds.data.toList.drop 48 = dktX6_odds_2 := dk_seg dksX6_odds_1 24 rfl rfl
theorem dX6_odds_0 : decode cX6_odds 0 = .ok (.aload_n 0, 1) := dk_42 (dk_at dksX6_odds_0 0 rfl rfl)
theorem dX6_odds_1 : decode cX6_odds 1 = .ok (.iload_n 1, 1) := dk_27 (dk_at dksX6_odds_0 1 rfl rfl)
theorem dX6_odds_2 : decode cX6_odds 2 = .ok (.invokevirtual 62, 3) := dk_182 0 62 (dk_at dksX6_odds_0 2 rfl rfl)
theorem dX6_odds_5 : decode cX6_odds 5 = .ok (.ifCond .eq 12, 3) := dk_153 0 12 (dk_at dksX6_odds_0 5 rfl rfl)
theorem dX6_odds_8 : decode cX6_odds 8 = .ok (.iload_n 2, 1) := dk_28 (dk_at dksX6_odds_0 8 rfl rfl)
theorem dX6_odds_9 : decode cX6_odds 9 = .ok (.iconst 0, 1) := dk_3 (dk_at dksX6_odds_0 9 rfl rfl)
theorem dX6_odds_10 : decode cX6_odds 10 = .ok (.iconst 1, 1) := dk_4 (dk_at dksX6_odds_0 10 rfl rfl)
theorem dX6_odds_11 : decode cX6_odds 11 = .ok (.invokestatic 48, 3) := dk_184 0 48 (dk_at dksX6_odds_0 11 rfl rfl)
theorem dX6_odds_14 : decode cX6_odds 14 = .ok (.ifCond .ne 10, 3) := dk_154 0 10 (dk_at dksX6_odds_0 14 rfl rfl)
theorem dX6_odds_17 : decode cX6_odds 17 = .ok (.aload_n 0, 1) := dk_42 (dk_at dksX6_odds_0 17 rfl rfl)
theorem dX6_odds_18 : decode cX6_odds 18 = .ok (.ldc 52, 2) := dk_18 52 (dk_at dksX6_odds_0 18 rfl rfl)
theorem dX6_odds_20 : decode cX6_odds 20 = .ok (.invokevirtual 53, 3) := dk_182 0 53 (dk_at dksX6_odds_0 20 rfl rfl)
theorem dX6_odds_23 : decode cX6_odds 23 = .ok (.ireturn, 1) := dk_172 (dk_at dksX6_odds_0 23 rfl rfl)
theorem dX6_odds_24 : decode cX6_odds 24 = .ok (.aload_n 0, 1) := dk_42 (dk_at dksX6_odds_1 0 rfl rfl)
theorem dX6_odds_25 : decode cX6_odds 25 = .ok (.iload_n 1, 1) := dk_27 (dk_at dksX6_odds_1 1 rfl rfl)
theorem dX6_odds_26 : decode cX6_odds 26 = .ok (.aload_n 0, 1) := dk_42 (dk_at dksX6_odds_1 2 rfl rfl)
theorem dX6_odds_27 : decode cX6_odds 27 = .ok (.iload_n 1, 1) := dk_27 (dk_at dksX6_odds_1 3 rfl rfl)
theorem dX6_odds_28 : decode cX6_odds 28 = .ok (.iconst 2, 1) := dk_5 (dk_at dksX6_odds_1 4 rfl rfl)
theorem dX6_odds_29 : decode cX6_odds 29 = .ok (.invokevirtual 75, 3) := dk_182 0 75 (dk_at dksX6_odds_1 5 rfl rfl)
theorem dX6_odds_32 : decode cX6_odds 32 = .ok (.invokevirtual 237, 3) := dk_182 0 237 (dk_at dksX6_odds_1 8 rfl rfl)
theorem dX6_odds_35 : decode cX6_odds 35 = .ok (.istore_n 3, 1) := dk_62 (dk_at dksX6_odds_1 11 rfl rfl)
theorem dX6_odds_36 : decode cX6_odds 36 = .ok (.iload_n 3, 1) := dk_29 (dk_at dksX6_odds_1 12 rfl rfl)
theorem dX6_odds_37 : decode cX6_odds 37 = .ok (.bipush 7, 2) := dk_16 7 (dk_at dksX6_odds_1 13 rfl rfl)
theorem dX6_odds_39 : decode cX6_odds 39 = .ok (.invokestatic 246, 3) := dk_184 0 246 (dk_at dksX6_odds_1 15 rfl rfl)
theorem dX6_odds_42 : decode cX6_odds 42 = .ok (.istore 4, 2) := dk_54 4 (dk_at dksX6_odds_1 18 rfl rfl)
theorem dX6_odds_44 : decode cX6_odds 44 = .ok (.iload_n 2, 1) := dk_28 (dk_at dksX6_odds_1 20 rfl rfl)
theorem dX6_odds_45 : decode cX6_odds 45 = .ok (.ifCond .ne 10, 3) := dk_154 0 10 (dk_at dksX6_odds_1 21 rfl rfl)
theorem dX6_odds_48 : decode cX6_odds 48 = .ok (.iload_n 3, 1) := dk_29 (dk_at dksX6_odds_2 0 rfl rfl)
theorem dX6_odds_49 : decode cX6_odds 49 = .ok (.iload 4, 2) := dk_21 4 (dk_at dksX6_odds_2 1 rfl rfl)
theorem dX6_odds_51 : decode cX6_odds 51 = .ok (.idiv, 1) := dk_108 (dk_at dksX6_odds_2 3 rfl rfl)
theorem dX6_odds_52 : decode cX6_odds 52 = .ok (.goto 8, 3) := dk_167 0 8 (dk_at dksX6_odds_2 4 rfl rfl)
theorem dX6_odds_55 : decode cX6_odds 55 = .ok (.bipush 7, 2) := dk_16 7 (dk_at dksX6_odds_2 7 rfl rfl)
theorem dX6_odds_57 : decode cX6_odds 57 = .ok (.iload 4, 2) := dk_21 4 (dk_at dksX6_odds_2 9 rfl rfl)
theorem dX6_odds_59 : decode cX6_odds 59 = .ok (.idiv, 1) := dk_108 (dk_at dksX6_odds_2 11 rfl rfl)
theorem dX6_odds_60 : decode cX6_odds 60 = .ok (.ireturn, 1) := dk_172 (dk_at dksX6_odds_2 12 rfl rfl)
abbrev cX6_divisor : ByteArray := prog_30_method_71_code
def yX6_divisor : MethodName := ⟨RX6, "divisor", "(II)I"⟩
def dkwX6_divisor_0 : List UInt8 := [26, 61, 27, 62, 29, 153, 0, 16, 28, 29, 112, 54, 4, 29, 61, 21, 4, 62, 167, 255, 242, 28, 172]
abbrev dktX6_divisor_0 : List UInt8 := dkwX6_divisor_0 ++ []
theorem dksX6_divisor_0 : cX6_divisor.data.toList.drop 0 = dktX6_divisor_0 := by decide +kernel
theorem dX6_divisor_0 : decode cX6_divisor 0 = .ok (.iload_n 0, 1) := dk_26 (dk_at dksX6_divisor_0 0 rfl rfl)
theorem dX6_divisor_1 : decode cX6_divisor 1 = .ok (.istore_n 2, 1) := dk_61 (dk_at dksX6_divisor_0 1 rfl rfl)
theorem dX6_divisor_2 : decode cX6_divisor 2 = .ok (.iload_n 1, 1) := dk_27 (dk_at dksX6_divisor_0 2 rfl rfl)
theorem dX6_divisor_3 : decode cX6_divisor 3 = .ok (.istore_n 3, 1) := dk_62 (dk_at dksX6_divisor_0 3 rfl rfl)
theorem dX6_divisor_4 : decode cX6_divisor 4 = .ok (.iload_n 3, 1) := dk_29 (dk_at dksX6_divisor_0 4 rfl rfl)
theorem dX6_divisor_5 : decode cX6_divisor 5 = .ok (.ifCond .eq 16, 3) := dk_153 0 16 (dk_at dksX6_divisor_0 5 rfl rfl)
theorem dX6_divisor_8 : decode cX6_divisor 8 = .ok (.iload_n 2, 1) := dk_28 (dk_at dksX6_divisor_0 8 rfl rfl)
theorem dX6_divisor_9 : decode cX6_divisor 9 = .ok (.iload_n 3, 1) := dk_29 (dk_at dksX6_divisor_0 9 rfl rfl)
theorem dX6_divisor_10 : decode cX6_divisor 10 = .ok (.irem, 1) := dk_112 (dk_at dksX6_divisor_0 10 rfl rfl)
theorem dX6_divisor_11 : decode cX6_divisor 11 = .ok (.istore 4, 2) := dk_54 4 (dk_at dksX6_divisor_0 11 rfl rfl)
theorem dX6_divisor_13 : decode cX6_divisor 13 = .ok (.iload_n 3, 1) := dk_29 (dk_at dksX6_divisor_0 13 rfl rfl)
theorem dX6_divisor_14 : decode cX6_divisor 14 = .ok (.istore_n 2, 1) := dk_61 (dk_at dksX6_divisor_0 14 rfl rfl)
theorem dX6_divisor_15 : decode cX6_divisor 15 = .ok (.iload 4, 2) := dk_21 4 (dk_at dksX6_divisor_0 15 rfl rfl)
theorem dX6_divisor_17 : decode cX6_divisor 17 = .ok (.istore_n 3, 1) := dk_62 (dk_at dksX6_divisor_0 17 rfl rfl)
theorem dX6_divisor_18 : decode cX6_divisor 18 = .ok (.goto (-14), 3) := dk_167 255 242 (dk_at dksX6_divisor_0 18 rfl rfl)
theorem dX6_divisor_21 : decode cX6_divisor 21 = .ok (.iload_n 2, 1) := dk_28 (dk_at dksX6_divisor_0 21 rfl rfl)
theorem dX6_divisor_22 : decode cX6_divisor 22 = .ok (.ireturn, 1) := dk_172 (dk_at dksX6_divisor_0 22 rfl rfl)
abbrev cX6_dry : ByteArray := prog_30_method_73_code
def yX6_dry : MethodName := ⟨RX6, "dry", "()I"⟩
def dkwX6_dry_2 : List UInt8 := [182, 0, 165, 27, 16, 60, 164, 0, 12, 42, 18, 224, 182, 0, 53, 167, 0, 4, 27, 172]
abbrev dktX6_dry_2 : List UInt8 := dkwX6_dry_2 ++ []
def dkwX6_dry_1 : List UInt8 := [153, 0, 13, 42, 182, 0, 179, 132, 1, 1, 167, 255, 236, 42, 42, 180, 0, 16, 42, 180, 0, 7]
abbrev dktX6_dry_1 : List UInt8 := dkwX6_dry_1 ++ dktX6_dry_2
def dkwX6_dry_0 : List UInt8 := [42, 42, 180, 0, 7, 42, 180, 0, 16, 182, 0, 165, 3, 60, 27, 16, 60, 163, 0, 20, 42, 182, 0, 240]
abbrev dktX6_dry_0 : List UInt8 := dkwX6_dry_0 ++ dktX6_dry_1
theorem dksX6_dry_0 : cX6_dry.data.toList.drop 0 = dktX6_dry_0 := by decide +kernel
theorem dksX6_dry_1 : cX6_dry.data.toList.drop 24 = dktX6_dry_1 := dk_seg dksX6_dry_0 24 rfl rfl
theorem dksX6_dry_2 : cX6_dry.data.toList.drop 46 = dktX6_dry_2 := dk_seg dksX6_dry_1 22 rfl rfl
theorem dX6_dry_0 : decode cX6_dry 0 = .ok (.aload_n 0, 1) := dk_42 (dk_at dksX6_dry_0 0 rfl rfl)
theorem dX6_dry_1 : decode cX6_dry 1 = .ok (.aload_n 0, 1) := dk_42 (dk_at dksX6_dry_0 1 rfl rfl)
theorem dX6_dry_2 : decode cX6_dry 2 = .ok (.getfield 7, 3) := dk_180 0 7 (dk_at dksX6_dry_0 2 rfl rfl)
theorem dX6_dry_5 : decode cX6_dry 5 = .ok (.aload_n 0, 1) := dk_42 (dk_at dksX6_dry_0 5 rfl rfl)
theorem dX6_dry_6 : decode cX6_dry 6 = .ok (.getfield 16, 3) := dk_180 0 16 (dk_at dksX6_dry_0 6 rfl rfl)
theorem dX6_dry_9 : decode cX6_dry 9 = .ok (.invokevirtual 165, 3) := dk_182 0 165 (dk_at dksX6_dry_0 9 rfl rfl)
theorem dX6_dry_12 : decode cX6_dry 12 = .ok (.iconst 0, 1) := dk_3 (dk_at dksX6_dry_0 12 rfl rfl)
theorem dX6_dry_13 : decode cX6_dry 13 = .ok (.istore_n 1, 1) := dk_60 (dk_at dksX6_dry_0 13 rfl rfl)
theorem dX6_dry_14 : decode cX6_dry 14 = .ok (.iload_n 1, 1) := dk_27 (dk_at dksX6_dry_0 14 rfl rfl)
theorem dX6_dry_15 : decode cX6_dry 15 = .ok (.bipush 60, 2) := dk_16 60 (dk_at dksX6_dry_0 15 rfl rfl)
theorem dX6_dry_17 : decode cX6_dry 17 = .ok (.if_icmp .gt 20, 3) := dk_163 0 20 (dk_at dksX6_dry_0 17 rfl rfl)
theorem dX6_dry_20 : decode cX6_dry 20 = .ok (.aload_n 0, 1) := dk_42 (dk_at dksX6_dry_0 20 rfl rfl)
theorem dX6_dry_21 : decode cX6_dry 21 = .ok (.invokevirtual 240, 3) := dk_182 0 240 (dk_at dksX6_dry_0 21 rfl rfl)
theorem dX6_dry_24 : decode cX6_dry 24 = .ok (.ifCond .eq 13, 3) := dk_153 0 13 (dk_at dksX6_dry_1 0 rfl rfl)
theorem dX6_dry_27 : decode cX6_dry 27 = .ok (.aload_n 0, 1) := dk_42 (dk_at dksX6_dry_1 3 rfl rfl)
theorem dX6_dry_28 : decode cX6_dry 28 = .ok (.invokevirtual 179, 3) := dk_182 0 179 (dk_at dksX6_dry_1 4 rfl rfl)
theorem dX6_dry_31 : decode cX6_dry 31 = .ok (.iinc 1 1, 3) := dk_132 1 1 (dk_at dksX6_dry_1 7 rfl rfl)
theorem dX6_dry_34 : decode cX6_dry 34 = .ok (.goto (-20), 3) := dk_167 255 236 (dk_at dksX6_dry_1 10 rfl rfl)
theorem dX6_dry_37 : decode cX6_dry 37 = .ok (.aload_n 0, 1) := dk_42 (dk_at dksX6_dry_1 13 rfl rfl)
theorem dX6_dry_38 : decode cX6_dry 38 = .ok (.aload_n 0, 1) := dk_42 (dk_at dksX6_dry_1 14 rfl rfl)
theorem dX6_dry_39 : decode cX6_dry 39 = .ok (.getfield 16, 3) := dk_180 0 16 (dk_at dksX6_dry_1 15 rfl rfl)
theorem dX6_dry_42 : decode cX6_dry 42 = .ok (.aload_n 0, 1) := dk_42 (dk_at dksX6_dry_1 18 rfl rfl)
theorem dX6_dry_43 : decode cX6_dry 43 = .ok (.getfield 7, 3) := dk_180 0 7 (dk_at dksX6_dry_1 19 rfl rfl)
theorem dX6_dry_46 : decode cX6_dry 46 = .ok (.invokevirtual 165, 3) := dk_182 0 165 (dk_at dksX6_dry_2 0 rfl rfl)
theorem dX6_dry_49 : decode cX6_dry 49 = .ok (.iload_n 1, 1) := dk_27 (dk_at dksX6_dry_2 3 rfl rfl)
theorem dX6_dry_50 : decode cX6_dry 50 = .ok (.bipush 60, 2) := dk_16 60 (dk_at dksX6_dry_2 4 rfl rfl)
theorem dX6_dry_52 : decode cX6_dry 52 = .ok (.if_icmp .le 12, 3) := dk_164 0 12 (dk_at dksX6_dry_2 6 rfl rfl)
theorem dX6_dry_55 : decode cX6_dry 55 = .ok (.aload_n 0, 1) := dk_42 (dk_at dksX6_dry_2 9 rfl rfl)
theorem dX6_dry_56 : decode cX6_dry 56 = .ok (.ldc 224, 2) := dk_18 224 (dk_at dksX6_dry_2 10 rfl rfl)
theorem dX6_dry_58 : decode cX6_dry 58 = .ok (.invokevirtual 53, 3) := dk_182 0 53 (dk_at dksX6_dry_2 12 rfl rfl)
theorem dX6_dry_61 : decode cX6_dry 61 = .ok (.goto 4, 3) := dk_167 0 4 (dk_at dksX6_dry_2 15 rfl rfl)
theorem dX6_dry_64 : decode cX6_dry 64 = .ok (.iload_n 1, 1) := dk_27 (dk_at dksX6_dry_2 18 rfl rfl)
theorem dX6_dry_65 : decode cX6_dry 65 = .ok (.ireturn, 1) := dk_172 (dk_at dksX6_dry_2 19 rfl rfl)
abbrev cX6_seed : ByteArray := prog_30_method_74_code
def yX6_seed : MethodName := ⟨RX6, "seed", "(I)I"⟩
def dkwX6_seed_0 : List UInt8 := [42, 180, 0, 7, 4, 46, 61, 42, 180, 0, 7, 4, 27, 79, 28, 172]
abbrev dktX6_seed_0 : List UInt8 := dkwX6_seed_0 ++ []
theorem dksX6_seed_0 : cX6_seed.data.toList.drop 0 = dktX6_seed_0 := by decide +kernel
theorem dX6_seed_0 : decode cX6_seed 0 = .ok (.aload_n 0, 1) := dk_42 (dk_at dksX6_seed_0 0 rfl rfl)
theorem dX6_seed_1 : decode cX6_seed 1 = .ok (.getfield 7, 3) := dk_180 0 7 (dk_at dksX6_seed_0 1 rfl rfl)
theorem dX6_seed_4 : decode cX6_seed 4 = .ok (.iconst 1, 1) := dk_4 (dk_at dksX6_seed_0 4 rfl rfl)
theorem dX6_seed_5 : decode cX6_seed 5 = .ok (.iaload, 1) := dk_46 (dk_at dksX6_seed_0 5 rfl rfl)
theorem dX6_seed_6 : decode cX6_seed 6 = .ok (.istore_n 2, 1) := dk_61 (dk_at dksX6_seed_0 6 rfl rfl)
theorem dX6_seed_7 : decode cX6_seed 7 = .ok (.aload_n 0, 1) := dk_42 (dk_at dksX6_seed_0 7 rfl rfl)
theorem dX6_seed_8 : decode cX6_seed 8 = .ok (.getfield 7, 3) := dk_180 0 7 (dk_at dksX6_seed_0 8 rfl rfl)
theorem dX6_seed_11 : decode cX6_seed 11 = .ok (.iconst 1, 1) := dk_4 (dk_at dksX6_seed_0 11 rfl rfl)
theorem dX6_seed_12 : decode cX6_seed 12 = .ok (.iload_n 1, 1) := dk_27 (dk_at dksX6_seed_0 12 rfl rfl)
theorem dX6_seed_13 : decode cX6_seed 13 = .ok (.iastore, 1) := dk_79 (dk_at dksX6_seed_0 13 rfl rfl)
theorem dX6_seed_14 : decode cX6_seed 14 = .ok (.iload_n 2, 1) := dk_28 (dk_at dksX6_seed_0 14 rfl rfl)
theorem dX6_seed_15 : decode cX6_seed 15 = .ok (.ireturn, 1) := dk_172 (dk_at dksX6_seed_0 15 rfl rfl)
abbrev cX6_voice : ByteArray := prog_30_method_80_code
def yX6_voice : MethodName := ⟨RX6, "voice", "(III)I"⟩
def dkwX6_voice_5 : List UInt8 := [180, 1, 11, 29, 182, 1, 8, 172, 42, 42, 180, 1, 11, 29, 182, 1, 17, 172]
abbrev dktX6_voice_5 : List UInt8 := dkwX6_voice_5 ++ []
def dkwX6_voice_4 : List UInt8 := [42, 42, 180, 1, 11, 29, 182, 1, 2, 172, 42, 42, 180, 1, 11, 29, 182, 1, 14, 172, 42, 42]
abbrev dktX6_voice_4 : List UInt8 := dkwX6_voice_4 ++ dktX6_voice_5
def dkwX6_voice_3 : List UInt8 := [170, 0, 0, 0, 55, 0, 0, 0, 0, 0, 0, 0, 2, 0, 0, 0, 25, 0, 0, 0, 35, 0, 0, 0, 45]
abbrev dktX6_voice_3 : List UInt8 := dkwX6_voice_3 ++ dktX6_voice_4
def dkwX6_voice_2 : List UInt8 := [182, 0, 75, 181, 1, 5, 28]
abbrev dktX6_voice_2 : List UInt8 := dkwX6_voice_2 ++ dktX6_voice_3
def dkwX6_voice_1 : List UInt8 := [42, 3, 181, 0, 249, 42, 42, 27, 3, 182, 0, 75, 181, 1, 11, 42, 27, 181, 0, 255, 42, 42, 27, 4]
abbrev dktX6_voice_1 : List UInt8 := dkwX6_voice_1 ++ dktX6_voice_2
def dkwX6_voice_0 : List UInt8 := [42, 27, 182, 0, 62, 153, 0, 12, 28, 3, 6, 184, 0, 48, 154, 0, 10, 42, 18, 52, 182, 0, 53, 172]
abbrev dktX6_voice_0 : List UInt8 := dkwX6_voice_0 ++ dktX6_voice_1
theorem dksX6_voice_0 : cX6_voice.data.toList.drop 0 = dktX6_voice_0 := by decide +kernel
theorem dksX6_voice_1 : cX6_voice.data.toList.drop 24 = dktX6_voice_1 := dk_seg dksX6_voice_0 24 rfl rfl
theorem dksX6_voice_2 : cX6_voice.data.toList.drop 48 = dktX6_voice_2 := dk_seg dksX6_voice_1 24 rfl rfl
theorem dksX6_voice_3 : cX6_voice.data.toList.drop 55 = dktX6_voice_3 := dk_seg dksX6_voice_2 7 rfl rfl
theorem dksX6_voice_4 : cX6_voice.data.toList.drop 80 = dktX6_voice_4 := dk_seg dksX6_voice_3 25 rfl rfl
theorem dksX6_voice_5 : cX6_voice.data.toList.drop 102 = dktX6_voice_5 := dk_seg dksX6_voice_4 22 rfl rfl
theorem dX6_voice_0 : decode cX6_voice 0 = .ok (.aload_n 0, 1) := dk_42 (dk_at dksX6_voice_0 0 rfl rfl)
theorem dX6_voice_1 : decode cX6_voice 1 = .ok (.iload_n 1, 1) := dk_27 (dk_at dksX6_voice_0 1 rfl rfl)
theorem dX6_voice_2 : decode cX6_voice 2 = .ok (.invokevirtual 62, 3) := dk_182 0 62 (dk_at dksX6_voice_0 2 rfl rfl)
theorem dX6_voice_5 : decode cX6_voice 5 = .ok (.ifCond .eq 12, 3) := dk_153 0 12 (dk_at dksX6_voice_0 5 rfl rfl)
theorem dX6_voice_8 : decode cX6_voice 8 = .ok (.iload_n 2, 1) := dk_28 (dk_at dksX6_voice_0 8 rfl rfl)
theorem dX6_voice_9 : decode cX6_voice 9 = .ok (.iconst 0, 1) := dk_3 (dk_at dksX6_voice_0 9 rfl rfl)
theorem dX6_voice_10 : decode cX6_voice 10 = .ok (.iconst 3, 1) := dk_6 (dk_at dksX6_voice_0 10 rfl rfl)
theorem dX6_voice_11 : decode cX6_voice 11 = .ok (.invokestatic 48, 3) := dk_184 0 48 (dk_at dksX6_voice_0 11 rfl rfl)
theorem dX6_voice_14 : decode cX6_voice 14 = .ok (.ifCond .ne 10, 3) := dk_154 0 10 (dk_at dksX6_voice_0 14 rfl rfl)
theorem dX6_voice_17 : decode cX6_voice 17 = .ok (.aload_n 0, 1) := dk_42 (dk_at dksX6_voice_0 17 rfl rfl)
theorem dX6_voice_18 : decode cX6_voice 18 = .ok (.ldc 52, 2) := dk_18 52 (dk_at dksX6_voice_0 18 rfl rfl)
theorem dX6_voice_20 : decode cX6_voice 20 = .ok (.invokevirtual 53, 3) := dk_182 0 53 (dk_at dksX6_voice_0 20 rfl rfl)
theorem dX6_voice_23 : decode cX6_voice 23 = .ok (.ireturn, 1) := dk_172 (dk_at dksX6_voice_0 23 rfl rfl)
theorem dX6_voice_24 : decode cX6_voice 24 = .ok (.aload_n 0, 1) := dk_42 (dk_at dksX6_voice_1 0 rfl rfl)
theorem dX6_voice_25 : decode cX6_voice 25 = .ok (.iconst 0, 1) := dk_3 (dk_at dksX6_voice_1 1 rfl rfl)
theorem dX6_voice_26 : decode cX6_voice 26 = .ok (.putfield 249, 3) := dk_181 0 249 (dk_at dksX6_voice_1 2 rfl rfl)
theorem dX6_voice_29 : decode cX6_voice 29 = .ok (.aload_n 0, 1) := dk_42 (dk_at dksX6_voice_1 5 rfl rfl)
theorem dX6_voice_30 : decode cX6_voice 30 = .ok (.aload_n 0, 1) := dk_42 (dk_at dksX6_voice_1 6 rfl rfl)
theorem dX6_voice_31 : decode cX6_voice 31 = .ok (.iload_n 1, 1) := dk_27 (dk_at dksX6_voice_1 7 rfl rfl)
theorem dX6_voice_32 : decode cX6_voice 32 = .ok (.iconst 0, 1) := dk_3 (dk_at dksX6_voice_1 8 rfl rfl)
theorem dX6_voice_33 : decode cX6_voice 33 = .ok (.invokevirtual 75, 3) := dk_182 0 75 (dk_at dksX6_voice_1 9 rfl rfl)
theorem dX6_voice_36 : decode cX6_voice 36 = .ok (.putfield 267, 3) := dk_181 1 11 (dk_at dksX6_voice_1 12 rfl rfl)
theorem dX6_voice_39 : decode cX6_voice 39 = .ok (.aload_n 0, 1) := dk_42 (dk_at dksX6_voice_1 15 rfl rfl)
theorem dX6_voice_40 : decode cX6_voice 40 = .ok (.iload_n 1, 1) := dk_27 (dk_at dksX6_voice_1 16 rfl rfl)
theorem dX6_voice_41 : decode cX6_voice 41 = .ok (.putfield 255, 3) := dk_181 0 255 (dk_at dksX6_voice_1 17 rfl rfl)
theorem dX6_voice_44 : decode cX6_voice 44 = .ok (.aload_n 0, 1) := dk_42 (dk_at dksX6_voice_1 20 rfl rfl)
theorem dX6_voice_45 : decode cX6_voice 45 = .ok (.aload_n 0, 1) := dk_42 (dk_at dksX6_voice_1 21 rfl rfl)
theorem dX6_voice_46 : decode cX6_voice 46 = .ok (.iload_n 1, 1) := dk_27 (dk_at dksX6_voice_1 22 rfl rfl)
theorem dX6_voice_47 : decode cX6_voice 47 = .ok (.iconst 1, 1) := dk_4 (dk_at dksX6_voice_1 23 rfl rfl)
theorem dX6_voice_48 : decode cX6_voice 48 = .ok (.invokevirtual 75, 3) := dk_182 0 75 (dk_at dksX6_voice_2 0 rfl rfl)
theorem dX6_voice_51 : decode cX6_voice 51 = .ok (.putfield 261, 3) := dk_181 1 5 (dk_at dksX6_voice_2 3 rfl rfl)
theorem dX6_voice_54 : decode cX6_voice 54 = .ok (.iload_n 2, 1) := dk_28 (dk_at dksX6_voice_2 6 rfl rfl)
theorem dX6_voice_55 : decode cX6_voice 55 = .ok (.tableswitch 55 0 2 #[25, 35, 45], 25) := by decide +kernel
theorem dX6_voice_80 : decode cX6_voice 80 = .ok (.aload_n 0, 1) := dk_42 (dk_at dksX6_voice_4 0 rfl rfl)
theorem dX6_voice_81 : decode cX6_voice 81 = .ok (.aload_n 0, 1) := dk_42 (dk_at dksX6_voice_4 1 rfl rfl)
theorem dX6_voice_82 : decode cX6_voice 82 = .ok (.getfield 267, 3) := dk_180 1 11 (dk_at dksX6_voice_4 2 rfl rfl)
theorem dX6_voice_85 : decode cX6_voice 85 = .ok (.iload_n 3, 1) := dk_29 (dk_at dksX6_voice_4 5 rfl rfl)
theorem dX6_voice_86 : decode cX6_voice 86 = .ok (.invokevirtual 258, 3) := dk_182 1 2 (dk_at dksX6_voice_4 6 rfl rfl)
theorem dX6_voice_89 : decode cX6_voice 89 = .ok (.ireturn, 1) := dk_172 (dk_at dksX6_voice_4 9 rfl rfl)
theorem dX6_voice_90 : decode cX6_voice 90 = .ok (.aload_n 0, 1) := dk_42 (dk_at dksX6_voice_4 10 rfl rfl)
theorem dX6_voice_91 : decode cX6_voice 91 = .ok (.aload_n 0, 1) := dk_42 (dk_at dksX6_voice_4 11 rfl rfl)
theorem dX6_voice_92 : decode cX6_voice 92 = .ok (.getfield 267, 3) := dk_180 1 11 (dk_at dksX6_voice_4 12 rfl rfl)
theorem dX6_voice_95 : decode cX6_voice 95 = .ok (.iload_n 3, 1) := dk_29 (dk_at dksX6_voice_4 15 rfl rfl)
theorem dX6_voice_96 : decode cX6_voice 96 = .ok (.invokevirtual 270, 3) := dk_182 1 14 (dk_at dksX6_voice_4 16 rfl rfl)
theorem dX6_voice_99 : decode cX6_voice 99 = .ok (.ireturn, 1) := dk_172 (dk_at dksX6_voice_4 19 rfl rfl)
theorem dX6_voice_100 : decode cX6_voice 100 = .ok (.aload_n 0, 1) := dk_42 (dk_at dksX6_voice_4 20 rfl rfl)
theorem dX6_voice_101 : decode cX6_voice 101 = .ok (.aload_n 0, 1) := dk_42 (dk_at dksX6_voice_4 21 rfl rfl)
theorem dX6_voice_102 : decode cX6_voice 102 = .ok (.getfield 267, 3) := dk_180 1 11 (dk_at dksX6_voice_5 0 rfl rfl)
theorem dX6_voice_105 : decode cX6_voice 105 = .ok (.iload_n 3, 1) := dk_29 (dk_at dksX6_voice_5 3 rfl rfl)
theorem dX6_voice_106 : decode cX6_voice 106 = .ok (.invokevirtual 264, 3) := dk_182 1 8 (dk_at dksX6_voice_5 4 rfl rfl)
theorem dX6_voice_109 : decode cX6_voice 109 = .ok (.ireturn, 1) := dk_172 (dk_at dksX6_voice_5 7 rfl rfl)
theorem dX6_voice_110 : decode cX6_voice 110 = .ok (.aload_n 0, 1) := dk_42 (dk_at dksX6_voice_5 8 rfl rfl)
theorem dX6_voice_111 : decode cX6_voice 111 = .ok (.aload_n 0, 1) := dk_42 (dk_at dksX6_voice_5 9 rfl rfl)
theorem dX6_voice_112 : decode cX6_voice 112 = .ok (.getfield 267, 3) := dk_180 1 11 (dk_at dksX6_voice_5 10 rfl rfl)
theorem dX6_voice_115 : decode cX6_voice 115 = .ok (.iload_n 3, 1) := dk_29 (dk_at dksX6_voice_5 13 rfl rfl)
theorem dX6_voice_116 : decode cX6_voice 116 = .ok (.invokevirtual 273, 3) := dk_182 1 17 (dk_at dksX6_voice_5 14 rfl rfl)
theorem dX6_voice_119 : decode cX6_voice 119 = .ok (.ireturn, 1) := dk_172 (dk_at dksX6_voice_5 17 rfl rfl)
abbrev cX6_letsIn : ByteArray := prog_30_method_76_code
def yX6_letsIn : MethodName := ⟨RX6, "letsIn", "(II)I"⟩
def dkwX6_letsIn_1 : List UInt8 := [16, 20, 182, 0, 252, 42, 3, 28, 182, 1, 2, 6, 104, 172, 42, 27, 184, 0, 89, 28, 182, 1, 2, 172]
abbrev dktX6_letsIn_1 : List UInt8 := dkwX6_letsIn_1 ++ []
def dkwX6_letsIn_0 : List UInt8 := [27, 154, 0, 16, 42, 16, 10, 182, 0, 252, 28, 42, 180, 0, 255, 96, 172, 27, 4, 160, 0, 18, 42]
abbrev dktX6_letsIn_0 : List UInt8 := dkwX6_letsIn_0 ++ dktX6_letsIn_1
theorem dksX6_letsIn_0 : cX6_letsIn.data.toList.drop 0 = dktX6_letsIn_0 := by decide +kernel
theorem dksX6_letsIn_1 : cX6_letsIn.data.toList.drop 23 = dktX6_letsIn_1 := dk_seg dksX6_letsIn_0 23 rfl rfl
theorem dX6_letsIn_0 : decode cX6_letsIn 0 = .ok (.iload_n 1, 1) := dk_27 (dk_at dksX6_letsIn_0 0 rfl rfl)
theorem dX6_letsIn_1 : decode cX6_letsIn 1 = .ok (.ifCond .ne 16, 3) := dk_154 0 16 (dk_at dksX6_letsIn_0 1 rfl rfl)
theorem dX6_letsIn_4 : decode cX6_letsIn 4 = .ok (.aload_n 0, 1) := dk_42 (dk_at dksX6_letsIn_0 4 rfl rfl)
theorem dX6_letsIn_5 : decode cX6_letsIn 5 = .ok (.bipush 10, 2) := dk_16 10 (dk_at dksX6_letsIn_0 5 rfl rfl)
theorem dX6_letsIn_7 : decode cX6_letsIn 7 = .ok (.invokevirtual 252, 3) := dk_182 0 252 (dk_at dksX6_letsIn_0 7 rfl rfl)
theorem dX6_letsIn_10 : decode cX6_letsIn 10 = .ok (.iload_n 2, 1) := dk_28 (dk_at dksX6_letsIn_0 10 rfl rfl)
theorem dX6_letsIn_11 : decode cX6_letsIn 11 = .ok (.aload_n 0, 1) := dk_42 (dk_at dksX6_letsIn_0 11 rfl rfl)
theorem dX6_letsIn_12 : decode cX6_letsIn 12 = .ok (.getfield 255, 3) := dk_180 0 255 (dk_at dksX6_letsIn_0 12 rfl rfl)
theorem dX6_letsIn_15 : decode cX6_letsIn 15 = .ok (.iadd, 1) := dk_96 (dk_at dksX6_letsIn_0 15 rfl rfl)
theorem dX6_letsIn_16 : decode cX6_letsIn 16 = .ok (.ireturn, 1) := dk_172 (dk_at dksX6_letsIn_0 16 rfl rfl)
theorem dX6_letsIn_17 : decode cX6_letsIn 17 = .ok (.iload_n 1, 1) := dk_27 (dk_at dksX6_letsIn_0 17 rfl rfl)
theorem dX6_letsIn_18 : decode cX6_letsIn 18 = .ok (.iconst 1, 1) := dk_4 (dk_at dksX6_letsIn_0 18 rfl rfl)
theorem dX6_letsIn_19 : decode cX6_letsIn 19 = .ok (.if_icmp .ne 18, 3) := dk_160 0 18 (dk_at dksX6_letsIn_0 19 rfl rfl)
theorem dX6_letsIn_22 : decode cX6_letsIn 22 = .ok (.aload_n 0, 1) := dk_42 (dk_at dksX6_letsIn_0 22 rfl rfl)
theorem dX6_letsIn_23 : decode cX6_letsIn 23 = .ok (.bipush 20, 2) := dk_16 20 (dk_at dksX6_letsIn_1 0 rfl rfl)
theorem dX6_letsIn_25 : decode cX6_letsIn 25 = .ok (.invokevirtual 252, 3) := dk_182 0 252 (dk_at dksX6_letsIn_1 2 rfl rfl)
theorem dX6_letsIn_28 : decode cX6_letsIn 28 = .ok (.aload_n 0, 1) := dk_42 (dk_at dksX6_letsIn_1 5 rfl rfl)
theorem dX6_letsIn_29 : decode cX6_letsIn 29 = .ok (.iconst 0, 1) := dk_3 (dk_at dksX6_letsIn_1 6 rfl rfl)
theorem dX6_letsIn_30 : decode cX6_letsIn 30 = .ok (.iload_n 2, 1) := dk_28 (dk_at dksX6_letsIn_1 7 rfl rfl)
theorem dX6_letsIn_31 : decode cX6_letsIn 31 = .ok (.invokevirtual 258, 3) := dk_182 1 2 (dk_at dksX6_letsIn_1 8 rfl rfl)
theorem dX6_letsIn_34 : decode cX6_letsIn 34 = .ok (.iconst 3, 1) := dk_6 (dk_at dksX6_letsIn_1 11 rfl rfl)
theorem dX6_letsIn_35 : decode cX6_letsIn 35 = .ok (.imul, 1) := dk_104 (dk_at dksX6_letsIn_1 12 rfl rfl)
theorem dX6_letsIn_36 : decode cX6_letsIn 36 = .ok (.ireturn, 1) := dk_172 (dk_at dksX6_letsIn_1 13 rfl rfl)
theorem dX6_letsIn_37 : decode cX6_letsIn 37 = .ok (.aload_n 0, 1) := dk_42 (dk_at dksX6_letsIn_1 14 rfl rfl)
theorem dX6_letsIn_38 : decode cX6_letsIn 38 = .ok (.iload_n 1, 1) := dk_27 (dk_at dksX6_letsIn_1 15 rfl rfl)
theorem dX6_letsIn_39 : decode cX6_letsIn 39 = .ok (.invokestatic 89, 3) := dk_184 0 89 (dk_at dksX6_letsIn_1 16 rfl rfl)
theorem dX6_letsIn_42 : decode cX6_letsIn 42 = .ok (.iload_n 2, 1) := dk_28 (dk_at dksX6_letsIn_1 19 rfl rfl)
theorem dX6_letsIn_43 : decode cX6_letsIn 43 = .ok (.invokevirtual 258, 3) := dk_182 1 2 (dk_at dksX6_letsIn_1 20 rfl rfl)
theorem dX6_letsIn_46 : decode cX6_letsIn 46 = .ok (.ireturn, 1) := dk_172 (dk_at dksX6_letsIn_1 23 rfl rfl)
abbrev cX6_ran : ByteArray := prog_30_method_75_code
def yX6_ran : MethodName := ⟨RX6, "ran", "(I)V"⟩
def dkwX6_ran_1 : List UInt8 := [4, 96, 181, 0, 249, 177]
abbrev dktX6_ran_1 : List UInt8 := dkwX6_ran_1 ++ []
def dkwX6_ran_0 : List UInt8 := [42, 180, 0, 249, 16, 40, 162, 0, 23, 42, 180, 0, 44, 42, 180, 0, 249, 27, 79, 42, 89, 180, 0, 249]
abbrev dktX6_ran_0 : List UInt8 := dkwX6_ran_0 ++ dktX6_ran_1
theorem dksX6_ran_0 : cX6_ran.data.toList.drop 0 = dktX6_ran_0 := by decide +kernel
theorem dksX6_ran_1 : cX6_ran.data.toList.drop 24 = dktX6_ran_1 := dk_seg dksX6_ran_0 24 rfl rfl
theorem dX6_ran_0 : decode cX6_ran 0 = .ok (.aload_n 0, 1) := dk_42 (dk_at dksX6_ran_0 0 rfl rfl)
theorem dX6_ran_1 : decode cX6_ran 1 = .ok (.getfield 249, 3) := dk_180 0 249 (dk_at dksX6_ran_0 1 rfl rfl)
theorem dX6_ran_4 : decode cX6_ran 4 = .ok (.bipush 40, 2) := dk_16 40 (dk_at dksX6_ran_0 4 rfl rfl)
theorem dX6_ran_6 : decode cX6_ran 6 = .ok (.if_icmp .ge 23, 3) := dk_162 0 23 (dk_at dksX6_ran_0 6 rfl rfl)
theorem dX6_ran_9 : decode cX6_ran 9 = .ok (.aload_n 0, 1) := dk_42 (dk_at dksX6_ran_0 9 rfl rfl)
theorem dX6_ran_10 : decode cX6_ran 10 = .ok (.getfield 44, 3) := dk_180 0 44 (dk_at dksX6_ran_0 10 rfl rfl)
theorem dX6_ran_13 : decode cX6_ran 13 = .ok (.aload_n 0, 1) := dk_42 (dk_at dksX6_ran_0 13 rfl rfl)
theorem dX6_ran_14 : decode cX6_ran 14 = .ok (.getfield 249, 3) := dk_180 0 249 (dk_at dksX6_ran_0 14 rfl rfl)
theorem dX6_ran_17 : decode cX6_ran 17 = .ok (.iload_n 1, 1) := dk_27 (dk_at dksX6_ran_0 17 rfl rfl)
theorem dX6_ran_18 : decode cX6_ran 18 = .ok (.iastore, 1) := dk_79 (dk_at dksX6_ran_0 18 rfl rfl)
theorem dX6_ran_19 : decode cX6_ran 19 = .ok (.aload_n 0, 1) := dk_42 (dk_at dksX6_ran_0 19 rfl rfl)
theorem dX6_ran_20 : decode cX6_ran 20 = .ok (.dup, 1) := dk_89 (dk_at dksX6_ran_0 20 rfl rfl)
theorem dX6_ran_21 : decode cX6_ran 21 = .ok (.getfield 249, 3) := dk_180 0 249 (dk_at dksX6_ran_0 21 rfl rfl)
theorem dX6_ran_24 : decode cX6_ran 24 = .ok (.iconst 1, 1) := dk_4 (dk_at dksX6_ran_1 0 rfl rfl)
theorem dX6_ran_25 : decode cX6_ran 25 = .ok (.iadd, 1) := dk_96 (dk_at dksX6_ran_1 1 rfl rfl)
theorem dX6_ran_26 : decode cX6_ran 26 = .ok (.putfield 249, 3) := dk_181 0 249 (dk_at dksX6_ran_1 2 rfl rfl)
theorem dX6_ran_29 : decode cX6_ran 29 = .ok (.return_, 1) := dk_177 (dk_at dksX6_ran_1 5 rfl rfl)
abbrev cX6_fillsIn : ByteArray := prog_30_method_78_code
def yX6_fillsIn : MethodName := ⟨RX6, "fillsIn", "(II)I"⟩
def dkwX6_fillsIn_3 : List UInt8 := [172, 42, 27, 184, 0, 89, 28, 182, 1, 14, 172]
abbrev dktX6_fillsIn_3 : List UInt8 := dkwX6_fillsIn_3 ++ []
def dkwX6_fillsIn_2 : List UInt8 := [182, 1, 8, 100, 172, 27, 8, 160, 0, 18, 42, 16, 60, 182, 0, 252, 42, 5, 28, 4, 96, 182, 1, 14]
abbrev dktX6_fillsIn_2 : List UInt8 := dkwX6_fillsIn_2 ++ dktX6_fillsIn_3
def dkwX6_fillsIn_1 : List UInt8 := [160, 0, 28, 42, 16, 30, 182, 0, 252, 42, 3, 28, 182, 1, 14, 62, 29, 42, 42, 180, 1, 11, 4]
abbrev dktX6_fillsIn_1 : List UInt8 := dkwX6_fillsIn_1 ++ dktX6_fillsIn_2
def dkwX6_fillsIn_0 : List UInt8 := [27, 154, 0, 21, 42, 16, 11, 182, 0, 252, 42, 42, 180, 1, 11, 28, 182, 1, 2, 5, 104, 172, 27, 5]
abbrev dktX6_fillsIn_0 : List UInt8 := dkwX6_fillsIn_0 ++ dktX6_fillsIn_1
theorem dksX6_fillsIn_0 : cX6_fillsIn.data.toList.drop 0 = dktX6_fillsIn_0 := by decide +kernel
theorem dksX6_fillsIn_1 : cX6_fillsIn.data.toList.drop 24 = dktX6_fillsIn_1 := dk_seg dksX6_fillsIn_0 24 rfl rfl
theorem dksX6_fillsIn_2 : cX6_fillsIn.data.toList.drop 47 = dktX6_fillsIn_2 := dk_seg dksX6_fillsIn_1 23 rfl rfl
theorem dksX6_fillsIn_3 : cX6_fillsIn.data.toList.drop 71 = dktX6_fillsIn_3 := dk_seg dksX6_fillsIn_2 24 rfl rfl
theorem dX6_fillsIn_0 : decode cX6_fillsIn 0 = .ok (.iload_n 1, 1) := dk_27 (dk_at dksX6_fillsIn_0 0 rfl rfl)
theorem dX6_fillsIn_1 : decode cX6_fillsIn 1 = .ok (.ifCond .ne 21, 3) := dk_154 0 21 (dk_at dksX6_fillsIn_0 1 rfl rfl)
theorem dX6_fillsIn_4 : decode cX6_fillsIn 4 = .ok (.aload_n 0, 1) := dk_42 (dk_at dksX6_fillsIn_0 4 rfl rfl)
theorem dX6_fillsIn_5 : decode cX6_fillsIn 5 = .ok (.bipush 11, 2) := dk_16 11 (dk_at dksX6_fillsIn_0 5 rfl rfl)
theorem dX6_fillsIn_7 : decode cX6_fillsIn 7 = .ok (.invokevirtual 252, 3) := dk_182 0 252 (dk_at dksX6_fillsIn_0 7 rfl rfl)
theorem dX6_fillsIn_10 : decode cX6_fillsIn 10 = .ok (.aload_n 0, 1) := dk_42 (dk_at dksX6_fillsIn_0 10 rfl rfl)
theorem dX6_fillsIn_11 : decode cX6_fillsIn 11 = .ok (.aload_n 0, 1) := dk_42 (dk_at dksX6_fillsIn_0 11 rfl rfl)
theorem dX6_fillsIn_12 : decode cX6_fillsIn 12 = .ok (.getfield 267, 3) := dk_180 1 11 (dk_at dksX6_fillsIn_0 12 rfl rfl)
theorem dX6_fillsIn_15 : decode cX6_fillsIn 15 = .ok (.iload_n 2, 1) := dk_28 (dk_at dksX6_fillsIn_0 15 rfl rfl)
theorem dX6_fillsIn_16 : decode cX6_fillsIn 16 = .ok (.invokevirtual 258, 3) := dk_182 1 2 (dk_at dksX6_fillsIn_0 16 rfl rfl)
theorem dX6_fillsIn_19 : decode cX6_fillsIn 19 = .ok (.iconst 2, 1) := dk_5 (dk_at dksX6_fillsIn_0 19 rfl rfl)
theorem dX6_fillsIn_20 : decode cX6_fillsIn 20 = .ok (.imul, 1) := dk_104 (dk_at dksX6_fillsIn_0 20 rfl rfl)
theorem dX6_fillsIn_21 : decode cX6_fillsIn 21 = .ok (.ireturn, 1) := dk_172 (dk_at dksX6_fillsIn_0 21 rfl rfl)
theorem dX6_fillsIn_22 : decode cX6_fillsIn 22 = .ok (.iload_n 1, 1) := dk_27 (dk_at dksX6_fillsIn_0 22 rfl rfl)
theorem dX6_fillsIn_23 : decode cX6_fillsIn 23 = .ok (.iconst 2, 1) := dk_5 (dk_at dksX6_fillsIn_0 23 rfl rfl)
theorem dX6_fillsIn_24 : decode cX6_fillsIn 24 = .ok (.if_icmp .ne 28, 3) := dk_160 0 28 (dk_at dksX6_fillsIn_1 0 rfl rfl)
theorem dX6_fillsIn_27 : decode cX6_fillsIn 27 = .ok (.aload_n 0, 1) := dk_42 (dk_at dksX6_fillsIn_1 3 rfl rfl)
theorem dX6_fillsIn_28 : decode cX6_fillsIn 28 = .ok (.bipush 30, 2) := dk_16 30 (dk_at dksX6_fillsIn_1 4 rfl rfl)
theorem dX6_fillsIn_30 : decode cX6_fillsIn 30 = .ok (.invokevirtual 252, 3) := dk_182 0 252 (dk_at dksX6_fillsIn_1 6 rfl rfl)
theorem dX6_fillsIn_33 : decode cX6_fillsIn 33 = .ok (.aload_n 0, 1) := dk_42 (dk_at dksX6_fillsIn_1 9 rfl rfl)
theorem dX6_fillsIn_34 : decode cX6_fillsIn 34 = .ok (.iconst 0, 1) := dk_3 (dk_at dksX6_fillsIn_1 10 rfl rfl)
theorem dX6_fillsIn_35 : decode cX6_fillsIn 35 = .ok (.iload_n 2, 1) := dk_28 (dk_at dksX6_fillsIn_1 11 rfl rfl)
theorem dX6_fillsIn_36 : decode cX6_fillsIn 36 = .ok (.invokevirtual 270, 3) := dk_182 1 14 (dk_at dksX6_fillsIn_1 12 rfl rfl)
theorem dX6_fillsIn_39 : decode cX6_fillsIn 39 = .ok (.istore_n 3, 1) := dk_62 (dk_at dksX6_fillsIn_1 15 rfl rfl)
theorem dX6_fillsIn_40 : decode cX6_fillsIn 40 = .ok (.iload_n 3, 1) := dk_29 (dk_at dksX6_fillsIn_1 16 rfl rfl)
theorem dX6_fillsIn_41 : decode cX6_fillsIn 41 = .ok (.aload_n 0, 1) := dk_42 (dk_at dksX6_fillsIn_1 17 rfl rfl)
theorem dX6_fillsIn_42 : decode cX6_fillsIn 42 = .ok (.aload_n 0, 1) := dk_42 (dk_at dksX6_fillsIn_1 18 rfl rfl)
theorem dX6_fillsIn_43 : decode cX6_fillsIn 43 = .ok (.getfield 267, 3) := dk_180 1 11 (dk_at dksX6_fillsIn_1 19 rfl rfl)
theorem dX6_fillsIn_46 : decode cX6_fillsIn 46 = .ok (.iconst 1, 1) := dk_4 (dk_at dksX6_fillsIn_1 22 rfl rfl)
theorem dX6_fillsIn_47 : decode cX6_fillsIn 47 = .ok (.invokevirtual 264, 3) := dk_182 1 8 (dk_at dksX6_fillsIn_2 0 rfl rfl)
theorem dX6_fillsIn_50 : decode cX6_fillsIn 50 = .ok (.isub, 1) := dk_100 (dk_at dksX6_fillsIn_2 3 rfl rfl)
theorem dX6_fillsIn_51 : decode cX6_fillsIn 51 = .ok (.ireturn, 1) := dk_172 (dk_at dksX6_fillsIn_2 4 rfl rfl)
theorem dX6_fillsIn_52 : decode cX6_fillsIn 52 = .ok (.iload_n 1, 1) := dk_27 (dk_at dksX6_fillsIn_2 5 rfl rfl)
theorem dX6_fillsIn_53 : decode cX6_fillsIn 53 = .ok (.iconst 5, 1) := dk_8 (dk_at dksX6_fillsIn_2 6 rfl rfl)
theorem dX6_fillsIn_54 : decode cX6_fillsIn 54 = .ok (.if_icmp .ne 18, 3) := dk_160 0 18 (dk_at dksX6_fillsIn_2 7 rfl rfl)
theorem dX6_fillsIn_57 : decode cX6_fillsIn 57 = .ok (.aload_n 0, 1) := dk_42 (dk_at dksX6_fillsIn_2 10 rfl rfl)
theorem dX6_fillsIn_58 : decode cX6_fillsIn 58 = .ok (.bipush 60, 2) := dk_16 60 (dk_at dksX6_fillsIn_2 11 rfl rfl)
theorem dX6_fillsIn_60 : decode cX6_fillsIn 60 = .ok (.invokevirtual 252, 3) := dk_182 0 252 (dk_at dksX6_fillsIn_2 13 rfl rfl)
theorem dX6_fillsIn_63 : decode cX6_fillsIn 63 = .ok (.aload_n 0, 1) := dk_42 (dk_at dksX6_fillsIn_2 16 rfl rfl)
theorem dX6_fillsIn_64 : decode cX6_fillsIn 64 = .ok (.iconst 2, 1) := dk_5 (dk_at dksX6_fillsIn_2 17 rfl rfl)
theorem dX6_fillsIn_65 : decode cX6_fillsIn 65 = .ok (.iload_n 2, 1) := dk_28 (dk_at dksX6_fillsIn_2 18 rfl rfl)
theorem dX6_fillsIn_66 : decode cX6_fillsIn 66 = .ok (.iconst 1, 1) := dk_4 (dk_at dksX6_fillsIn_2 19 rfl rfl)
theorem dX6_fillsIn_67 : decode cX6_fillsIn 67 = .ok (.iadd, 1) := dk_96 (dk_at dksX6_fillsIn_2 20 rfl rfl)
theorem dX6_fillsIn_68 : decode cX6_fillsIn 68 = .ok (.invokevirtual 270, 3) := dk_182 1 14 (dk_at dksX6_fillsIn_2 21 rfl rfl)
theorem dX6_fillsIn_71 : decode cX6_fillsIn 71 = .ok (.ireturn, 1) := dk_172 (dk_at dksX6_fillsIn_3 0 rfl rfl)
theorem dX6_fillsIn_72 : decode cX6_fillsIn 72 = .ok (.aload_n 0, 1) := dk_42 (dk_at dksX6_fillsIn_3 1 rfl rfl)
theorem dX6_fillsIn_73 : decode cX6_fillsIn 73 = .ok (.iload_n 1, 1) := dk_27 (dk_at dksX6_fillsIn_3 2 rfl rfl)
theorem dX6_fillsIn_74 : decode cX6_fillsIn 74 = .ok (.invokestatic 89, 3) := dk_184 0 89 (dk_at dksX6_fillsIn_3 3 rfl rfl)
theorem dX6_fillsIn_77 : decode cX6_fillsIn 77 = .ok (.iload_n 2, 1) := dk_28 (dk_at dksX6_fillsIn_3 6 rfl rfl)
theorem dX6_fillsIn_78 : decode cX6_fillsIn 78 = .ok (.invokevirtual 270, 3) := dk_182 1 14 (dk_at dksX6_fillsIn_3 7 rfl rfl)
theorem dX6_fillsIn_81 : decode cX6_fillsIn 81 = .ok (.ireturn, 1) := dk_172 (dk_at dksX6_fillsIn_3 10 rfl rfl)
abbrev cX6_lendsIn : ByteArray := prog_30_method_77_code
def yX6_lendsIn : MethodName := ⟨RX6, "lendsIn", "(II)I"⟩
def dkwX6_lendsIn_3 : List UInt8 := [172]
abbrev dktX6_lendsIn_3 : List UInt8 := dkwX6_lendsIn_3 ++ []
def dkwX6_lendsIn_2 : List UInt8 := [182, 0, 252, 42, 6, 28, 182, 1, 8, 42, 180, 0, 255, 130, 172, 42, 27, 184, 0, 89, 28, 182, 1, 8]
abbrev dktX6_lendsIn_2 : List UInt8 := dkwX6_lendsIn_2 ++ dktX6_lendsIn_3
def dkwX6_lendsIn_1 : List UInt8 := [16, 40, 182, 0, 252, 42, 3, 28, 182, 1, 8, 116, 172, 27, 16, 6, 160, 0, 21, 42, 16, 70]
abbrev dktX6_lendsIn_1 : List UInt8 := dkwX6_lendsIn_1 ++ dktX6_lendsIn_2
def dkwX6_lendsIn_0 : List UInt8 := [27, 154, 0, 16, 42, 16, 12, 182, 0, 252, 28, 42, 180, 1, 5, 100, 172, 27, 6, 160, 0, 17, 42]
abbrev dktX6_lendsIn_0 : List UInt8 := dkwX6_lendsIn_0 ++ dktX6_lendsIn_1
theorem dksX6_lendsIn_0 : cX6_lendsIn.data.toList.drop 0 = dktX6_lendsIn_0 := by decide +kernel
theorem dksX6_lendsIn_1 : cX6_lendsIn.data.toList.drop 23 = dktX6_lendsIn_1 := dk_seg dksX6_lendsIn_0 23 rfl rfl
theorem dksX6_lendsIn_2 : cX6_lendsIn.data.toList.drop 45 = dktX6_lendsIn_2 := dk_seg dksX6_lendsIn_1 22 rfl rfl
theorem dksX6_lendsIn_3 : cX6_lendsIn.data.toList.drop 69 = dktX6_lendsIn_3 := dk_seg dksX6_lendsIn_2 24 rfl rfl
theorem dX6_lendsIn_0 : decode cX6_lendsIn 0 = .ok (.iload_n 1, 1) := dk_27 (dk_at dksX6_lendsIn_0 0 rfl rfl)
theorem dX6_lendsIn_1 : decode cX6_lendsIn 1 = .ok (.ifCond .ne 16, 3) := dk_154 0 16 (dk_at dksX6_lendsIn_0 1 rfl rfl)
theorem dX6_lendsIn_4 : decode cX6_lendsIn 4 = .ok (.aload_n 0, 1) := dk_42 (dk_at dksX6_lendsIn_0 4 rfl rfl)
theorem dX6_lendsIn_5 : decode cX6_lendsIn 5 = .ok (.bipush 12, 2) := dk_16 12 (dk_at dksX6_lendsIn_0 5 rfl rfl)
theorem dX6_lendsIn_7 : decode cX6_lendsIn 7 = .ok (.invokevirtual 252, 3) := dk_182 0 252 (dk_at dksX6_lendsIn_0 7 rfl rfl)
theorem dX6_lendsIn_10 : decode cX6_lendsIn 10 = .ok (.iload_n 2, 1) := dk_28 (dk_at dksX6_lendsIn_0 10 rfl rfl)
theorem dX6_lendsIn_11 : decode cX6_lendsIn 11 = .ok (.aload_n 0, 1) := dk_42 (dk_at dksX6_lendsIn_0 11 rfl rfl)
theorem dX6_lendsIn_12 : decode cX6_lendsIn 12 = .ok (.getfield 261, 3) := dk_180 1 5 (dk_at dksX6_lendsIn_0 12 rfl rfl)
theorem dX6_lendsIn_15 : decode cX6_lendsIn 15 = .ok (.isub, 1) := dk_100 (dk_at dksX6_lendsIn_0 15 rfl rfl)
theorem dX6_lendsIn_16 : decode cX6_lendsIn 16 = .ok (.ireturn, 1) := dk_172 (dk_at dksX6_lendsIn_0 16 rfl rfl)
theorem dX6_lendsIn_17 : decode cX6_lendsIn 17 = .ok (.iload_n 1, 1) := dk_27 (dk_at dksX6_lendsIn_0 17 rfl rfl)
theorem dX6_lendsIn_18 : decode cX6_lendsIn 18 = .ok (.iconst 3, 1) := dk_6 (dk_at dksX6_lendsIn_0 18 rfl rfl)
theorem dX6_lendsIn_19 : decode cX6_lendsIn 19 = .ok (.if_icmp .ne 17, 3) := dk_160 0 17 (dk_at dksX6_lendsIn_0 19 rfl rfl)
theorem dX6_lendsIn_22 : decode cX6_lendsIn 22 = .ok (.aload_n 0, 1) := dk_42 (dk_at dksX6_lendsIn_0 22 rfl rfl)
theorem dX6_lendsIn_23 : decode cX6_lendsIn 23 = .ok (.bipush 40, 2) := dk_16 40 (dk_at dksX6_lendsIn_1 0 rfl rfl)
theorem dX6_lendsIn_25 : decode cX6_lendsIn 25 = .ok (.invokevirtual 252, 3) := dk_182 0 252 (dk_at dksX6_lendsIn_1 2 rfl rfl)
theorem dX6_lendsIn_28 : decode cX6_lendsIn 28 = .ok (.aload_n 0, 1) := dk_42 (dk_at dksX6_lendsIn_1 5 rfl rfl)
theorem dX6_lendsIn_29 : decode cX6_lendsIn 29 = .ok (.iconst 0, 1) := dk_3 (dk_at dksX6_lendsIn_1 6 rfl rfl)
theorem dX6_lendsIn_30 : decode cX6_lendsIn 30 = .ok (.iload_n 2, 1) := dk_28 (dk_at dksX6_lendsIn_1 7 rfl rfl)
theorem dX6_lendsIn_31 : decode cX6_lendsIn 31 = .ok (.invokevirtual 264, 3) := dk_182 1 8 (dk_at dksX6_lendsIn_1 8 rfl rfl)
theorem dX6_lendsIn_34 : decode cX6_lendsIn 34 = .ok (.ineg, 1) := dk_116 (dk_at dksX6_lendsIn_1 11 rfl rfl)
theorem dX6_lendsIn_35 : decode cX6_lendsIn 35 = .ok (.ireturn, 1) := dk_172 (dk_at dksX6_lendsIn_1 12 rfl rfl)
theorem dX6_lendsIn_36 : decode cX6_lendsIn 36 = .ok (.iload_n 1, 1) := dk_27 (dk_at dksX6_lendsIn_1 13 rfl rfl)
theorem dX6_lendsIn_37 : decode cX6_lendsIn 37 = .ok (.bipush 6, 2) := dk_16 6 (dk_at dksX6_lendsIn_1 14 rfl rfl)
theorem dX6_lendsIn_39 : decode cX6_lendsIn 39 = .ok (.if_icmp .ne 21, 3) := dk_160 0 21 (dk_at dksX6_lendsIn_1 16 rfl rfl)
theorem dX6_lendsIn_42 : decode cX6_lendsIn 42 = .ok (.aload_n 0, 1) := dk_42 (dk_at dksX6_lendsIn_1 19 rfl rfl)
theorem dX6_lendsIn_43 : decode cX6_lendsIn 43 = .ok (.bipush 70, 2) := dk_16 70 (dk_at dksX6_lendsIn_1 20 rfl rfl)
theorem dX6_lendsIn_45 : decode cX6_lendsIn 45 = .ok (.invokevirtual 252, 3) := dk_182 0 252 (dk_at dksX6_lendsIn_2 0 rfl rfl)
theorem dX6_lendsIn_48 : decode cX6_lendsIn 48 = .ok (.aload_n 0, 1) := dk_42 (dk_at dksX6_lendsIn_2 3 rfl rfl)
theorem dX6_lendsIn_49 : decode cX6_lendsIn 49 = .ok (.iconst 3, 1) := dk_6 (dk_at dksX6_lendsIn_2 4 rfl rfl)
theorem dX6_lendsIn_50 : decode cX6_lendsIn 50 = .ok (.iload_n 2, 1) := dk_28 (dk_at dksX6_lendsIn_2 5 rfl rfl)
theorem dX6_lendsIn_51 : decode cX6_lendsIn 51 = .ok (.invokevirtual 264, 3) := dk_182 1 8 (dk_at dksX6_lendsIn_2 6 rfl rfl)
theorem dX6_lendsIn_54 : decode cX6_lendsIn 54 = .ok (.aload_n 0, 1) := dk_42 (dk_at dksX6_lendsIn_2 9 rfl rfl)
theorem dX6_lendsIn_55 : decode cX6_lendsIn 55 = .ok (.getfield 255, 3) := dk_180 0 255 (dk_at dksX6_lendsIn_2 10 rfl rfl)
theorem dX6_lendsIn_58 : decode cX6_lendsIn 58 = .ok (.ixor, 1) := dk_130 (dk_at dksX6_lendsIn_2 13 rfl rfl)
theorem dX6_lendsIn_59 : decode cX6_lendsIn 59 = .ok (.ireturn, 1) := dk_172 (dk_at dksX6_lendsIn_2 14 rfl rfl)
theorem dX6_lendsIn_60 : decode cX6_lendsIn 60 = .ok (.aload_n 0, 1) := dk_42 (dk_at dksX6_lendsIn_2 15 rfl rfl)
theorem dX6_lendsIn_61 : decode cX6_lendsIn 61 = .ok (.iload_n 1, 1) := dk_27 (dk_at dksX6_lendsIn_2 16 rfl rfl)
theorem dX6_lendsIn_62 : decode cX6_lendsIn 62 = .ok (.invokestatic 89, 3) := dk_184 0 89 (dk_at dksX6_lendsIn_2 17 rfl rfl)
theorem dX6_lendsIn_65 : decode cX6_lendsIn 65 = .ok (.iload_n 2, 1) := dk_28 (dk_at dksX6_lendsIn_2 20 rfl rfl)
theorem dX6_lendsIn_66 : decode cX6_lendsIn 66 = .ok (.invokevirtual 264, 3) := dk_182 1 8 (dk_at dksX6_lendsIn_2 21 rfl rfl)
theorem dX6_lendsIn_69 : decode cX6_lendsIn 69 = .ok (.ireturn, 1) := dk_172 (dk_at dksX6_lendsIn_3 0 rfl rfl)
abbrev cX6_tellsIn : ByteArray := prog_30_method_79_code
def yX6_tellsIn : MethodName := ⟨RX6, "tellsIn", "(II)I"⟩
def dkwX6_tellsIn_4 : List UInt8 := [42, 27, 184, 0, 89, 28, 182, 1, 17, 172]
abbrev dktX6_tellsIn_4 : List UInt8 := dkwX6_tellsIn_4 ++ []
def dkwX6_tellsIn_3 : List UInt8 := [16, 71, 182, 0, 252, 42, 42, 180, 1, 11, 28, 182, 1, 14, 62, 29, 42, 6, 28, 182, 1, 17, 100, 172]
abbrev dktX6_tellsIn_3 : List UInt8 := dkwX6_tellsIn_3 ++ dktX6_tellsIn_4
def dkwX6_tellsIn_2 : List UInt8 := [182, 1, 17, 62, 29, 42, 42, 180, 1, 11, 5, 182, 1, 2, 100, 172, 27, 16, 6, 160, 0, 28, 42]
abbrev dktX6_tellsIn_2 : List UInt8 := dkwX6_tellsIn_2 ++ dktX6_tellsIn_3
def dkwX6_tellsIn_1 : List UInt8 := [180, 1, 11, 28, 182, 1, 8, 130, 172, 27, 7, 160, 0, 28, 42, 16, 50, 182, 0, 252, 42, 4, 28]
abbrev dktX6_tellsIn_1 : List UInt8 := dkwX6_tellsIn_1 ++ dktX6_tellsIn_2
def dkwX6_tellsIn_0 : List UInt8 := [27, 154, 0, 31, 42, 16, 13, 182, 0, 252, 42, 42, 180, 1, 11, 28, 182, 1, 14, 62, 29, 42, 42]
abbrev dktX6_tellsIn_0 : List UInt8 := dkwX6_tellsIn_0 ++ dktX6_tellsIn_1
theorem dksX6_tellsIn_0 : cX6_tellsIn.data.toList.drop 0 = dktX6_tellsIn_0 := by decide +kernel
theorem dksX6_tellsIn_1 : cX6_tellsIn.data.toList.drop 23 = dktX6_tellsIn_1 := dk_seg dksX6_tellsIn_0 23 rfl rfl
theorem dksX6_tellsIn_2 : cX6_tellsIn.data.toList.drop 46 = dktX6_tellsIn_2 := dk_seg dksX6_tellsIn_1 23 rfl rfl
theorem dksX6_tellsIn_3 : cX6_tellsIn.data.toList.drop 69 = dktX6_tellsIn_3 := dk_seg dksX6_tellsIn_2 23 rfl rfl
theorem dksX6_tellsIn_4 : cX6_tellsIn.data.toList.drop 93 = dktX6_tellsIn_4 := dk_seg dksX6_tellsIn_3 24 rfl rfl
theorem dX6_tellsIn_0 : decode cX6_tellsIn 0 = .ok (.iload_n 1, 1) := dk_27 (dk_at dksX6_tellsIn_0 0 rfl rfl)
theorem dX6_tellsIn_1 : decode cX6_tellsIn 1 = .ok (.ifCond .ne 31, 3) := dk_154 0 31 (dk_at dksX6_tellsIn_0 1 rfl rfl)
theorem dX6_tellsIn_4 : decode cX6_tellsIn 4 = .ok (.aload_n 0, 1) := dk_42 (dk_at dksX6_tellsIn_0 4 rfl rfl)
theorem dX6_tellsIn_5 : decode cX6_tellsIn 5 = .ok (.bipush 13, 2) := dk_16 13 (dk_at dksX6_tellsIn_0 5 rfl rfl)
theorem dX6_tellsIn_7 : decode cX6_tellsIn 7 = .ok (.invokevirtual 252, 3) := dk_182 0 252 (dk_at dksX6_tellsIn_0 7 rfl rfl)
theorem dX6_tellsIn_10 : decode cX6_tellsIn 10 = .ok (.aload_n 0, 1) := dk_42 (dk_at dksX6_tellsIn_0 10 rfl rfl)
theorem dX6_tellsIn_11 : decode cX6_tellsIn 11 = .ok (.aload_n 0, 1) := dk_42 (dk_at dksX6_tellsIn_0 11 rfl rfl)
theorem dX6_tellsIn_12 : decode cX6_tellsIn 12 = .ok (.getfield 267, 3) := dk_180 1 11 (dk_at dksX6_tellsIn_0 12 rfl rfl)
theorem dX6_tellsIn_15 : decode cX6_tellsIn 15 = .ok (.iload_n 2, 1) := dk_28 (dk_at dksX6_tellsIn_0 15 rfl rfl)
theorem dX6_tellsIn_16 : decode cX6_tellsIn 16 = .ok (.invokevirtual 270, 3) := dk_182 1 14 (dk_at dksX6_tellsIn_0 16 rfl rfl)
theorem dX6_tellsIn_19 : decode cX6_tellsIn 19 = .ok (.istore_n 3, 1) := dk_62 (dk_at dksX6_tellsIn_0 19 rfl rfl)
theorem dX6_tellsIn_20 : decode cX6_tellsIn 20 = .ok (.iload_n 3, 1) := dk_29 (dk_at dksX6_tellsIn_0 20 rfl rfl)
theorem dX6_tellsIn_21 : decode cX6_tellsIn 21 = .ok (.aload_n 0, 1) := dk_42 (dk_at dksX6_tellsIn_0 21 rfl rfl)
theorem dX6_tellsIn_22 : decode cX6_tellsIn 22 = .ok (.aload_n 0, 1) := dk_42 (dk_at dksX6_tellsIn_0 22 rfl rfl)
theorem dX6_tellsIn_23 : decode cX6_tellsIn 23 = .ok (.getfield 267, 3) := dk_180 1 11 (dk_at dksX6_tellsIn_1 0 rfl rfl)
theorem dX6_tellsIn_26 : decode cX6_tellsIn 26 = .ok (.iload_n 2, 1) := dk_28 (dk_at dksX6_tellsIn_1 3 rfl rfl)
theorem dX6_tellsIn_27 : decode cX6_tellsIn 27 = .ok (.invokevirtual 264, 3) := dk_182 1 8 (dk_at dksX6_tellsIn_1 4 rfl rfl)
theorem dX6_tellsIn_30 : decode cX6_tellsIn 30 = .ok (.ixor, 1) := dk_130 (dk_at dksX6_tellsIn_1 7 rfl rfl)
theorem dX6_tellsIn_31 : decode cX6_tellsIn 31 = .ok (.ireturn, 1) := dk_172 (dk_at dksX6_tellsIn_1 8 rfl rfl)
theorem dX6_tellsIn_32 : decode cX6_tellsIn 32 = .ok (.iload_n 1, 1) := dk_27 (dk_at dksX6_tellsIn_1 9 rfl rfl)
theorem dX6_tellsIn_33 : decode cX6_tellsIn 33 = .ok (.iconst 4, 1) := dk_7 (dk_at dksX6_tellsIn_1 10 rfl rfl)
theorem dX6_tellsIn_34 : decode cX6_tellsIn 34 = .ok (.if_icmp .ne 28, 3) := dk_160 0 28 (dk_at dksX6_tellsIn_1 11 rfl rfl)
theorem dX6_tellsIn_37 : decode cX6_tellsIn 37 = .ok (.aload_n 0, 1) := dk_42 (dk_at dksX6_tellsIn_1 14 rfl rfl)
theorem dX6_tellsIn_38 : decode cX6_tellsIn 38 = .ok (.bipush 50, 2) := dk_16 50 (dk_at dksX6_tellsIn_1 15 rfl rfl)
theorem dX6_tellsIn_40 : decode cX6_tellsIn 40 = .ok (.invokevirtual 252, 3) := dk_182 0 252 (dk_at dksX6_tellsIn_1 17 rfl rfl)
theorem dX6_tellsIn_43 : decode cX6_tellsIn 43 = .ok (.aload_n 0, 1) := dk_42 (dk_at dksX6_tellsIn_1 20 rfl rfl)
theorem dX6_tellsIn_44 : decode cX6_tellsIn 44 = .ok (.iconst 1, 1) := dk_4 (dk_at dksX6_tellsIn_1 21 rfl rfl)
theorem dX6_tellsIn_45 : decode cX6_tellsIn 45 = .ok (.iload_n 2, 1) := dk_28 (dk_at dksX6_tellsIn_1 22 rfl rfl)
theorem dX6_tellsIn_46 : decode cX6_tellsIn 46 = .ok (.invokevirtual 273, 3) := dk_182 1 17 (dk_at dksX6_tellsIn_2 0 rfl rfl)
theorem dX6_tellsIn_49 : decode cX6_tellsIn 49 = .ok (.istore_n 3, 1) := dk_62 (dk_at dksX6_tellsIn_2 3 rfl rfl)
theorem dX6_tellsIn_50 : decode cX6_tellsIn 50 = .ok (.iload_n 3, 1) := dk_29 (dk_at dksX6_tellsIn_2 4 rfl rfl)
theorem dX6_tellsIn_51 : decode cX6_tellsIn 51 = .ok (.aload_n 0, 1) := dk_42 (dk_at dksX6_tellsIn_2 5 rfl rfl)
theorem dX6_tellsIn_52 : decode cX6_tellsIn 52 = .ok (.aload_n 0, 1) := dk_42 (dk_at dksX6_tellsIn_2 6 rfl rfl)
theorem dX6_tellsIn_53 : decode cX6_tellsIn 53 = .ok (.getfield 267, 3) := dk_180 1 11 (dk_at dksX6_tellsIn_2 7 rfl rfl)
theorem dX6_tellsIn_56 : decode cX6_tellsIn 56 = .ok (.iconst 2, 1) := dk_5 (dk_at dksX6_tellsIn_2 10 rfl rfl)
theorem dX6_tellsIn_57 : decode cX6_tellsIn 57 = .ok (.invokevirtual 258, 3) := dk_182 1 2 (dk_at dksX6_tellsIn_2 11 rfl rfl)
theorem dX6_tellsIn_60 : decode cX6_tellsIn 60 = .ok (.isub, 1) := dk_100 (dk_at dksX6_tellsIn_2 14 rfl rfl)
theorem dX6_tellsIn_61 : decode cX6_tellsIn 61 = .ok (.ireturn, 1) := dk_172 (dk_at dksX6_tellsIn_2 15 rfl rfl)
theorem dX6_tellsIn_62 : decode cX6_tellsIn 62 = .ok (.iload_n 1, 1) := dk_27 (dk_at dksX6_tellsIn_2 16 rfl rfl)
theorem dX6_tellsIn_63 : decode cX6_tellsIn 63 = .ok (.bipush 6, 2) := dk_16 6 (dk_at dksX6_tellsIn_2 17 rfl rfl)
theorem dX6_tellsIn_65 : decode cX6_tellsIn 65 = .ok (.if_icmp .ne 28, 3) := dk_160 0 28 (dk_at dksX6_tellsIn_2 19 rfl rfl)
theorem dX6_tellsIn_68 : decode cX6_tellsIn 68 = .ok (.aload_n 0, 1) := dk_42 (dk_at dksX6_tellsIn_2 22 rfl rfl)
theorem dX6_tellsIn_69 : decode cX6_tellsIn 69 = .ok (.bipush 71, 2) := dk_16 71 (dk_at dksX6_tellsIn_3 0 rfl rfl)
theorem dX6_tellsIn_71 : decode cX6_tellsIn 71 = .ok (.invokevirtual 252, 3) := dk_182 0 252 (dk_at dksX6_tellsIn_3 2 rfl rfl)
theorem dX6_tellsIn_74 : decode cX6_tellsIn 74 = .ok (.aload_n 0, 1) := dk_42 (dk_at dksX6_tellsIn_3 5 rfl rfl)
theorem dX6_tellsIn_75 : decode cX6_tellsIn 75 = .ok (.aload_n 0, 1) := dk_42 (dk_at dksX6_tellsIn_3 6 rfl rfl)
theorem dX6_tellsIn_76 : decode cX6_tellsIn 76 = .ok (.getfield 267, 3) := dk_180 1 11 (dk_at dksX6_tellsIn_3 7 rfl rfl)
theorem dX6_tellsIn_79 : decode cX6_tellsIn 79 = .ok (.iload_n 2, 1) := dk_28 (dk_at dksX6_tellsIn_3 10 rfl rfl)
theorem dX6_tellsIn_80 : decode cX6_tellsIn 80 = .ok (.invokevirtual 270, 3) := dk_182 1 14 (dk_at dksX6_tellsIn_3 11 rfl rfl)
theorem dX6_tellsIn_83 : decode cX6_tellsIn 83 = .ok (.istore_n 3, 1) := dk_62 (dk_at dksX6_tellsIn_3 14 rfl rfl)
theorem dX6_tellsIn_84 : decode cX6_tellsIn 84 = .ok (.iload_n 3, 1) := dk_29 (dk_at dksX6_tellsIn_3 15 rfl rfl)
theorem dX6_tellsIn_85 : decode cX6_tellsIn 85 = .ok (.aload_n 0, 1) := dk_42 (dk_at dksX6_tellsIn_3 16 rfl rfl)
theorem dX6_tellsIn_86 : decode cX6_tellsIn 86 = .ok (.iconst 3, 1) := dk_6 (dk_at dksX6_tellsIn_3 17 rfl rfl)
theorem dX6_tellsIn_87 : decode cX6_tellsIn 87 = .ok (.iload_n 2, 1) := dk_28 (dk_at dksX6_tellsIn_3 18 rfl rfl)
theorem dX6_tellsIn_88 : decode cX6_tellsIn 88 = .ok (.invokevirtual 273, 3) := dk_182 1 17 (dk_at dksX6_tellsIn_3 19 rfl rfl)
theorem dX6_tellsIn_91 : decode cX6_tellsIn 91 = .ok (.isub, 1) := dk_100 (dk_at dksX6_tellsIn_3 22 rfl rfl)
theorem dX6_tellsIn_92 : decode cX6_tellsIn 92 = .ok (.ireturn, 1) := dk_172 (dk_at dksX6_tellsIn_3 23 rfl rfl)
theorem dX6_tellsIn_93 : decode cX6_tellsIn 93 = .ok (.aload_n 0, 1) := dk_42 (dk_at dksX6_tellsIn_4 0 rfl rfl)
theorem dX6_tellsIn_94 : decode cX6_tellsIn 94 = .ok (.iload_n 1, 1) := dk_27 (dk_at dksX6_tellsIn_4 1 rfl rfl)
theorem dX6_tellsIn_95 : decode cX6_tellsIn 95 = .ok (.invokestatic 89, 3) := dk_184 0 89 (dk_at dksX6_tellsIn_4 2 rfl rfl)
theorem dX6_tellsIn_98 : decode cX6_tellsIn 98 = .ok (.iload_n 2, 1) := dk_28 (dk_at dksX6_tellsIn_4 5 rfl rfl)
theorem dX6_tellsIn_99 : decode cX6_tellsIn 99 = .ok (.invokevirtual 273, 3) := dk_182 1 17 (dk_at dksX6_tellsIn_4 6 rfl rfl)
theorem dX6_tellsIn_102 : decode cX6_tellsIn 102 = .ok (.ireturn, 1) := dk_172 (dk_at dksX6_tellsIn_4 9 rfl rfl)
abbrev cX6_trace : ByteArray := prog_30_method_81_code
def yX6_trace : MethodName := ⟨RX6, "trace", "(I)I"⟩
def dkwX6_trace_1 : List UInt8 := [18, 224, 182, 0, 53, 172]
abbrev dktX6_trace_1 : List UInt8 := dkwX6_trace_1 ++ []
def dkwX6_trace_0 : List UInt8 := [27, 3, 42, 180, 0, 249, 4, 100, 184, 0, 48, 153, 0, 12, 42, 180, 0, 44, 27, 46, 167, 0, 9, 42]
abbrev dktX6_trace_0 : List UInt8 := dkwX6_trace_0 ++ dktX6_trace_1
theorem dksX6_trace_0 : cX6_trace.data.toList.drop 0 = dktX6_trace_0 := by decide +kernel
theorem dksX6_trace_1 : cX6_trace.data.toList.drop 24 = dktX6_trace_1 := dk_seg dksX6_trace_0 24 rfl rfl
theorem dX6_trace_0 : decode cX6_trace 0 = .ok (.iload_n 1, 1) := dk_27 (dk_at dksX6_trace_0 0 rfl rfl)
theorem dX6_trace_1 : decode cX6_trace 1 = .ok (.iconst 0, 1) := dk_3 (dk_at dksX6_trace_0 1 rfl rfl)
theorem dX6_trace_2 : decode cX6_trace 2 = .ok (.aload_n 0, 1) := dk_42 (dk_at dksX6_trace_0 2 rfl rfl)
theorem dX6_trace_3 : decode cX6_trace 3 = .ok (.getfield 249, 3) := dk_180 0 249 (dk_at dksX6_trace_0 3 rfl rfl)
theorem dX6_trace_6 : decode cX6_trace 6 = .ok (.iconst 1, 1) := dk_4 (dk_at dksX6_trace_0 6 rfl rfl)
theorem dX6_trace_7 : decode cX6_trace 7 = .ok (.isub, 1) := dk_100 (dk_at dksX6_trace_0 7 rfl rfl)
theorem dX6_trace_8 : decode cX6_trace 8 = .ok (.invokestatic 48, 3) := dk_184 0 48 (dk_at dksX6_trace_0 8 rfl rfl)
theorem dX6_trace_11 : decode cX6_trace 11 = .ok (.ifCond .eq 12, 3) := dk_153 0 12 (dk_at dksX6_trace_0 11 rfl rfl)
theorem dX6_trace_14 : decode cX6_trace 14 = .ok (.aload_n 0, 1) := dk_42 (dk_at dksX6_trace_0 14 rfl rfl)
theorem dX6_trace_15 : decode cX6_trace 15 = .ok (.getfield 44, 3) := dk_180 0 44 (dk_at dksX6_trace_0 15 rfl rfl)
theorem dX6_trace_18 : decode cX6_trace 18 = .ok (.iload_n 1, 1) := dk_27 (dk_at dksX6_trace_0 18 rfl rfl)
theorem dX6_trace_19 : decode cX6_trace 19 = .ok (.iaload, 1) := dk_46 (dk_at dksX6_trace_0 19 rfl rfl)
theorem dX6_trace_20 : decode cX6_trace 20 = .ok (.goto 9, 3) := dk_167 0 9 (dk_at dksX6_trace_0 20 rfl rfl)
theorem dX6_trace_23 : decode cX6_trace 23 = .ok (.aload_n 0, 1) := dk_42 (dk_at dksX6_trace_0 23 rfl rfl)
theorem dX6_trace_24 : decode cX6_trace 24 = .ok (.ldc 224, 2) := dk_18 224 (dk_at dksX6_trace_1 0 rfl rfl)
theorem dX6_trace_26 : decode cX6_trace 26 = .ok (.invokevirtual 53, 3) := dk_182 0 53 (dk_at dksX6_trace_1 2 rfl rfl)
theorem dX6_trace_29 : decode cX6_trace 29 = .ok (.ireturn, 1) := dk_172 (dk_at dksX6_trace_1 5 rfl rfl)
abbrev cX6_sheet : ByteArray := prog_30_method_83_code
def yX6_sheet : MethodName := ⟨RX6, "sheet", "(III)I"⟩
def dkwX6_sheet_5 : List UInt8 := [167, 255, 233, 4, 172]
abbrev dktX6_sheet_5 : List UInt8 := dkwX6_sheet_5 ++ []
def dkwX6_sheet_4 : List UInt8 := [21, 4, 16, 40, 162, 0, 22, 42, 180, 0, 35, 16, 40, 27, 104, 21, 4, 96, 3, 79, 132, 4, 1]
abbrev dktX6_sheet_4 : List UInt8 := dkwX6_sheet_4 ++ dktX6_sheet_5
def dkwX6_sheet_3 : List UInt8 := [180, 0, 29, 27, 28, 79, 42, 180, 0, 32, 27, 28, 154, 0, 7, 3, 167, 0, 4, 29, 79, 3, 54, 4]
abbrev dktX6_sheet_3 : List UInt8 := dkwX6_sheet_3 ++ dktX6_sheet_4
def dkwX6_sheet_2 : List UInt8 := [182, 0, 53, 172, 28, 153, 0, 16, 29, 16, 40, 164, 0, 10, 42, 18, 52, 182, 0, 53, 172, 42]
abbrev dktX6_sheet_2 : List UInt8 := dkwX6_sheet_2 ++ dktX6_sheet_3
def dkwX6_sheet_1 : List UInt8 := [16, 32, 159, 0, 10, 42, 18, 52, 182, 0, 53, 172, 28, 153, 0, 14, 29, 156, 0, 10, 42, 18, 182]
abbrev dktX6_sheet_1 : List UInt8 := dkwX6_sheet_1 ++ dktX6_sheet_2
def dkwX6_sheet_0 : List UInt8 := [27, 184, 0, 228, 153, 0, 25, 28, 153, 0, 28, 28, 16, 8, 159, 0, 22, 28, 16, 16, 159, 0, 16, 28]
abbrev dktX6_sheet_0 : List UInt8 := dkwX6_sheet_0 ++ dktX6_sheet_1
theorem dksX6_sheet_0 : cX6_sheet.data.toList.drop 0 = dktX6_sheet_0 := by decide +kernel
theorem dksX6_sheet_1 : cX6_sheet.data.toList.drop 24 = dktX6_sheet_1 := dk_seg dksX6_sheet_0 24 rfl rfl
theorem dksX6_sheet_2 : cX6_sheet.data.toList.drop 47 = dktX6_sheet_2 := dk_seg dksX6_sheet_1 23 rfl rfl
theorem dksX6_sheet_3 : cX6_sheet.data.toList.drop 69 = dktX6_sheet_3 := dk_seg dksX6_sheet_2 22 rfl rfl
theorem dksX6_sheet_4 : cX6_sheet.data.toList.drop 93 = dktX6_sheet_4 := dk_seg dksX6_sheet_3 24 rfl rfl
theorem dksX6_sheet_5 : cX6_sheet.data.toList.drop 116 = dktX6_sheet_5 := dk_seg dksX6_sheet_4 23 rfl rfl
theorem dX6_sheet_0 : decode cX6_sheet 0 = .ok (.iload_n 1, 1) := dk_27 (dk_at dksX6_sheet_0 0 rfl rfl)
theorem dX6_sheet_1 : decode cX6_sheet 1 = .ok (.invokestatic 228, 3) := dk_184 0 228 (dk_at dksX6_sheet_0 1 rfl rfl)
theorem dX6_sheet_4 : decode cX6_sheet 4 = .ok (.ifCond .eq 25, 3) := dk_153 0 25 (dk_at dksX6_sheet_0 4 rfl rfl)
theorem dX6_sheet_7 : decode cX6_sheet 7 = .ok (.iload_n 2, 1) := dk_28 (dk_at dksX6_sheet_0 7 rfl rfl)
theorem dX6_sheet_8 : decode cX6_sheet 8 = .ok (.ifCond .eq 28, 3) := dk_153 0 28 (dk_at dksX6_sheet_0 8 rfl rfl)
theorem dX6_sheet_11 : decode cX6_sheet 11 = .ok (.iload_n 2, 1) := dk_28 (dk_at dksX6_sheet_0 11 rfl rfl)
theorem dX6_sheet_12 : decode cX6_sheet 12 = .ok (.bipush 8, 2) := dk_16 8 (dk_at dksX6_sheet_0 12 rfl rfl)
theorem dX6_sheet_14 : decode cX6_sheet 14 = .ok (.if_icmp .eq 22, 3) := dk_159 0 22 (dk_at dksX6_sheet_0 14 rfl rfl)
theorem dX6_sheet_17 : decode cX6_sheet 17 = .ok (.iload_n 2, 1) := dk_28 (dk_at dksX6_sheet_0 17 rfl rfl)
theorem dX6_sheet_18 : decode cX6_sheet 18 = .ok (.bipush 16, 2) := dk_16 16 (dk_at dksX6_sheet_0 18 rfl rfl)
theorem dX6_sheet_20 : decode cX6_sheet 20 = .ok (.if_icmp .eq 16, 3) := dk_159 0 16 (dk_at dksX6_sheet_0 20 rfl rfl)
theorem dX6_sheet_23 : decode cX6_sheet 23 = .ok (.iload_n 2, 1) := dk_28 (dk_at dksX6_sheet_0 23 rfl rfl)
theorem dX6_sheet_24 : decode cX6_sheet 24 = .ok (.bipush 32, 2) := dk_16 32 (dk_at dksX6_sheet_1 0 rfl rfl)
theorem dX6_sheet_26 : decode cX6_sheet 26 = .ok (.if_icmp .eq 10, 3) := dk_159 0 10 (dk_at dksX6_sheet_1 2 rfl rfl)
theorem dX6_sheet_29 : decode cX6_sheet 29 = .ok (.aload_n 0, 1) := dk_42 (dk_at dksX6_sheet_1 5 rfl rfl)
theorem dX6_sheet_30 : decode cX6_sheet 30 = .ok (.ldc 52, 2) := dk_18 52 (dk_at dksX6_sheet_1 6 rfl rfl)
theorem dX6_sheet_32 : decode cX6_sheet 32 = .ok (.invokevirtual 53, 3) := dk_182 0 53 (dk_at dksX6_sheet_1 8 rfl rfl)
theorem dX6_sheet_35 : decode cX6_sheet 35 = .ok (.ireturn, 1) := dk_172 (dk_at dksX6_sheet_1 11 rfl rfl)
theorem dX6_sheet_36 : decode cX6_sheet 36 = .ok (.iload_n 2, 1) := dk_28 (dk_at dksX6_sheet_1 12 rfl rfl)
theorem dX6_sheet_37 : decode cX6_sheet 37 = .ok (.ifCond .eq 14, 3) := dk_153 0 14 (dk_at dksX6_sheet_1 13 rfl rfl)
theorem dX6_sheet_40 : decode cX6_sheet 40 = .ok (.iload_n 3, 1) := dk_29 (dk_at dksX6_sheet_1 16 rfl rfl)
theorem dX6_sheet_41 : decode cX6_sheet 41 = .ok (.ifCond .ge 10, 3) := dk_156 0 10 (dk_at dksX6_sheet_1 17 rfl rfl)
theorem dX6_sheet_44 : decode cX6_sheet 44 = .ok (.aload_n 0, 1) := dk_42 (dk_at dksX6_sheet_1 20 rfl rfl)
theorem dX6_sheet_45 : decode cX6_sheet 45 = .ok (.ldc 182, 2) := dk_18 182 (dk_at dksX6_sheet_1 21 rfl rfl)
theorem dX6_sheet_47 : decode cX6_sheet 47 = .ok (.invokevirtual 53, 3) := dk_182 0 53 (dk_at dksX6_sheet_2 0 rfl rfl)
theorem dX6_sheet_50 : decode cX6_sheet 50 = .ok (.ireturn, 1) := dk_172 (dk_at dksX6_sheet_2 3 rfl rfl)
theorem dX6_sheet_51 : decode cX6_sheet 51 = .ok (.iload_n 2, 1) := dk_28 (dk_at dksX6_sheet_2 4 rfl rfl)
theorem dX6_sheet_52 : decode cX6_sheet 52 = .ok (.ifCond .eq 16, 3) := dk_153 0 16 (dk_at dksX6_sheet_2 5 rfl rfl)
theorem dX6_sheet_55 : decode cX6_sheet 55 = .ok (.iload_n 3, 1) := dk_29 (dk_at dksX6_sheet_2 8 rfl rfl)
theorem dX6_sheet_56 : decode cX6_sheet 56 = .ok (.bipush 40, 2) := dk_16 40 (dk_at dksX6_sheet_2 9 rfl rfl)
theorem dX6_sheet_58 : decode cX6_sheet 58 = .ok (.if_icmp .le 10, 3) := dk_164 0 10 (dk_at dksX6_sheet_2 11 rfl rfl)
theorem dX6_sheet_61 : decode cX6_sheet 61 = .ok (.aload_n 0, 1) := dk_42 (dk_at dksX6_sheet_2 14 rfl rfl)
theorem dX6_sheet_62 : decode cX6_sheet 62 = .ok (.ldc 52, 2) := dk_18 52 (dk_at dksX6_sheet_2 15 rfl rfl)
theorem dX6_sheet_64 : decode cX6_sheet 64 = .ok (.invokevirtual 53, 3) := dk_182 0 53 (dk_at dksX6_sheet_2 17 rfl rfl)
theorem dX6_sheet_67 : decode cX6_sheet 67 = .ok (.ireturn, 1) := dk_172 (dk_at dksX6_sheet_2 20 rfl rfl)
theorem dX6_sheet_68 : decode cX6_sheet 68 = .ok (.aload_n 0, 1) := dk_42 (dk_at dksX6_sheet_2 21 rfl rfl)
theorem dX6_sheet_69 : decode cX6_sheet 69 = .ok (.getfield 29, 3) := dk_180 0 29 (dk_at dksX6_sheet_3 0 rfl rfl)
theorem dX6_sheet_72 : decode cX6_sheet 72 = .ok (.iload_n 1, 1) := dk_27 (dk_at dksX6_sheet_3 3 rfl rfl)
theorem dX6_sheet_73 : decode cX6_sheet 73 = .ok (.iload_n 2, 1) := dk_28 (dk_at dksX6_sheet_3 4 rfl rfl)
theorem dX6_sheet_74 : decode cX6_sheet 74 = .ok (.iastore, 1) := dk_79 (dk_at dksX6_sheet_3 5 rfl rfl)
theorem dX6_sheet_75 : decode cX6_sheet 75 = .ok (.aload_n 0, 1) := dk_42 (dk_at dksX6_sheet_3 6 rfl rfl)
theorem dX6_sheet_76 : decode cX6_sheet 76 = .ok (.getfield 32, 3) := dk_180 0 32 (dk_at dksX6_sheet_3 7 rfl rfl)
theorem dX6_sheet_79 : decode cX6_sheet 79 = .ok (.iload_n 1, 1) := dk_27 (dk_at dksX6_sheet_3 10 rfl rfl)
theorem dX6_sheet_80 : decode cX6_sheet 80 = .ok (.iload_n 2, 1) := dk_28 (dk_at dksX6_sheet_3 11 rfl rfl)
theorem dX6_sheet_81 : decode cX6_sheet 81 = .ok (.ifCond .ne 7, 3) := dk_154 0 7 (dk_at dksX6_sheet_3 12 rfl rfl)
theorem dX6_sheet_84 : decode cX6_sheet 84 = .ok (.iconst 0, 1) := dk_3 (dk_at dksX6_sheet_3 15 rfl rfl)
theorem dX6_sheet_85 : decode cX6_sheet 85 = .ok (.goto 4, 3) := dk_167 0 4 (dk_at dksX6_sheet_3 16 rfl rfl)
theorem dX6_sheet_88 : decode cX6_sheet 88 = .ok (.iload_n 3, 1) := dk_29 (dk_at dksX6_sheet_3 19 rfl rfl)
theorem dX6_sheet_89 : decode cX6_sheet 89 = .ok (.iastore, 1) := dk_79 (dk_at dksX6_sheet_3 20 rfl rfl)
theorem dX6_sheet_90 : decode cX6_sheet 90 = .ok (.iconst 0, 1) := dk_3 (dk_at dksX6_sheet_3 21 rfl rfl)
theorem dX6_sheet_91 : decode cX6_sheet 91 = .ok (.istore 4, 2) := dk_54 4 (dk_at dksX6_sheet_3 22 rfl rfl)
theorem dX6_sheet_93 : decode cX6_sheet 93 = .ok (.iload 4, 2) := dk_21 4 (dk_at dksX6_sheet_4 0 rfl rfl)
theorem dX6_sheet_95 : decode cX6_sheet 95 = .ok (.bipush 40, 2) := dk_16 40 (dk_at dksX6_sheet_4 2 rfl rfl)
theorem dX6_sheet_97 : decode cX6_sheet 97 = .ok (.if_icmp .ge 22, 3) := dk_162 0 22 (dk_at dksX6_sheet_4 4 rfl rfl)
theorem dX6_sheet_100 : decode cX6_sheet 100 = .ok (.aload_n 0, 1) := dk_42 (dk_at dksX6_sheet_4 7 rfl rfl)
theorem dX6_sheet_101 : decode cX6_sheet 101 = .ok (.getfield 35, 3) := dk_180 0 35 (dk_at dksX6_sheet_4 8 rfl rfl)
theorem dX6_sheet_104 : decode cX6_sheet 104 = .ok (.bipush 40, 2) := dk_16 40 (dk_at dksX6_sheet_4 11 rfl rfl)
theorem dX6_sheet_106 : decode cX6_sheet 106 = .ok (.iload_n 1, 1) := dk_27 (dk_at dksX6_sheet_4 13 rfl rfl)
theorem dX6_sheet_107 : decode cX6_sheet 107 = .ok (.imul, 1) := dk_104 (dk_at dksX6_sheet_4 14 rfl rfl)
theorem dX6_sheet_108 : decode cX6_sheet 108 = .ok (.iload 4, 2) := dk_21 4 (dk_at dksX6_sheet_4 15 rfl rfl)
theorem dX6_sheet_110 : decode cX6_sheet 110 = .ok (.iadd, 1) := dk_96 (dk_at dksX6_sheet_4 17 rfl rfl)
theorem dX6_sheet_111 : decode cX6_sheet 111 = .ok (.iconst 0, 1) := dk_3 (dk_at dksX6_sheet_4 18 rfl rfl)
theorem dX6_sheet_112 : decode cX6_sheet 112 = .ok (.iastore, 1) := dk_79 (dk_at dksX6_sheet_4 19 rfl rfl)
theorem dX6_sheet_113 : decode cX6_sheet 113 = .ok (.iinc 4 1, 3) := dk_132 4 1 (dk_at dksX6_sheet_4 20 rfl rfl)
theorem dX6_sheet_116 : decode cX6_sheet 116 = .ok (.goto (-23), 3) := dk_167 255 233 (dk_at dksX6_sheet_5 0 rfl rfl)
theorem dX6_sheet_119 : decode cX6_sheet 119 = .ok (.iconst 1, 1) := dk_4 (dk_at dksX6_sheet_5 3 rfl rfl)
theorem dX6_sheet_120 : decode cX6_sheet 120 = .ok (.ireturn, 1) := dk_172 (dk_at dksX6_sheet_5 4 rfl rfl)
abbrev cX6_put : ByteArray := prog_30_method_84_code
def yX6_put : MethodName := ⟨RX6, "put", "(III)I"⟩
def dkwX6_put_3 : List UInt8 := [184, 1, 20, 79, 4, 172]
abbrev dktX6_put_3 : List UInt8 := dkwX6_put_3 ++ []
def dkwX6_put_2 : List UInt8 := [18, 52, 182, 0, 53, 172, 42, 180, 0, 35, 16, 40, 27, 104, 28, 96, 42, 180, 0, 29, 27, 46, 29]
abbrev dktX6_put_2 : List UInt8 := dkwX6_put_2 ++ dktX6_put_3
def dkwX6_put_1 : List UInt8 := [18, 224, 182, 0, 53, 172, 28, 3, 42, 180, 0, 32, 27, 46, 4, 100, 184, 0, 48, 154, 0, 10, 42]
abbrev dktX6_put_1 : List UInt8 := dkwX6_put_1 ++ dktX6_put_2
def dkwX6_put_0 : List UInt8 := [27, 184, 0, 228, 154, 0, 10, 42, 18, 52, 182, 0, 53, 172, 42, 180, 0, 29, 27, 46, 154, 0, 10, 42]
abbrev dktX6_put_0 : List UInt8 := dkwX6_put_0 ++ dktX6_put_1
theorem dksX6_put_0 : cX6_put.data.toList.drop 0 = dktX6_put_0 := by decide +kernel
theorem dksX6_put_1 : cX6_put.data.toList.drop 24 = dktX6_put_1 := dk_seg dksX6_put_0 24 rfl rfl
theorem dksX6_put_2 : cX6_put.data.toList.drop 47 = dktX6_put_2 := dk_seg dksX6_put_1 23 rfl rfl
theorem dksX6_put_3 : cX6_put.data.toList.drop 70 = dktX6_put_3 := dk_seg dksX6_put_2 23 rfl rfl
theorem dX6_put_0 : decode cX6_put 0 = .ok (.iload_n 1, 1) := dk_27 (dk_at dksX6_put_0 0 rfl rfl)
theorem dX6_put_1 : decode cX6_put 1 = .ok (.invokestatic 228, 3) := dk_184 0 228 (dk_at dksX6_put_0 1 rfl rfl)
theorem dX6_put_4 : decode cX6_put 4 = .ok (.ifCond .ne 10, 3) := dk_154 0 10 (dk_at dksX6_put_0 4 rfl rfl)
theorem dX6_put_7 : decode cX6_put 7 = .ok (.aload_n 0, 1) := dk_42 (dk_at dksX6_put_0 7 rfl rfl)
theorem dX6_put_8 : decode cX6_put 8 = .ok (.ldc 52, 2) := dk_18 52 (dk_at dksX6_put_0 8 rfl rfl)
theorem dX6_put_10 : decode cX6_put 10 = .ok (.invokevirtual 53, 3) := dk_182 0 53 (dk_at dksX6_put_0 10 rfl rfl)
theorem dX6_put_13 : decode cX6_put 13 = .ok (.ireturn, 1) := dk_172 (dk_at dksX6_put_0 13 rfl rfl)
theorem dX6_put_14 : decode cX6_put 14 = .ok (.aload_n 0, 1) := dk_42 (dk_at dksX6_put_0 14 rfl rfl)
theorem dX6_put_15 : decode cX6_put 15 = .ok (.getfield 29, 3) := dk_180 0 29 (dk_at dksX6_put_0 15 rfl rfl)
theorem dX6_put_18 : decode cX6_put 18 = .ok (.iload_n 1, 1) := dk_27 (dk_at dksX6_put_0 18 rfl rfl)
theorem dX6_put_19 : decode cX6_put 19 = .ok (.iaload, 1) := dk_46 (dk_at dksX6_put_0 19 rfl rfl)
theorem dX6_put_20 : decode cX6_put 20 = .ok (.ifCond .ne 10, 3) := dk_154 0 10 (dk_at dksX6_put_0 20 rfl rfl)
theorem dX6_put_23 : decode cX6_put 23 = .ok (.aload_n 0, 1) := dk_42 (dk_at dksX6_put_0 23 rfl rfl)
theorem dX6_put_24 : decode cX6_put 24 = .ok (.ldc 224, 2) := dk_18 224 (dk_at dksX6_put_1 0 rfl rfl)
theorem dX6_put_26 : decode cX6_put 26 = .ok (.invokevirtual 53, 3) := dk_182 0 53 (dk_at dksX6_put_1 2 rfl rfl)
theorem dX6_put_29 : decode cX6_put 29 = .ok (.ireturn, 1) := dk_172 (dk_at dksX6_put_1 5 rfl rfl)
theorem dX6_put_30 : decode cX6_put 30 = .ok (.iload_n 2, 1) := dk_28 (dk_at dksX6_put_1 6 rfl rfl)
theorem dX6_put_31 : decode cX6_put 31 = .ok (.iconst 0, 1) := dk_3 (dk_at dksX6_put_1 7 rfl rfl)
theorem dX6_put_32 : decode cX6_put 32 = .ok (.aload_n 0, 1) := dk_42 (dk_at dksX6_put_1 8 rfl rfl)
theorem dX6_put_33 : decode cX6_put 33 = .ok (.getfield 32, 3) := dk_180 0 32 (dk_at dksX6_put_1 9 rfl rfl)
theorem dX6_put_36 : decode cX6_put 36 = .ok (.iload_n 1, 1) := dk_27 (dk_at dksX6_put_1 12 rfl rfl)
theorem dX6_put_37 : decode cX6_put 37 = .ok (.iaload, 1) := dk_46 (dk_at dksX6_put_1 13 rfl rfl)
theorem dX6_put_38 : decode cX6_put 38 = .ok (.iconst 1, 1) := dk_4 (dk_at dksX6_put_1 14 rfl rfl)
theorem dX6_put_39 : decode cX6_put 39 = .ok (.isub, 1) := dk_100 (dk_at dksX6_put_1 15 rfl rfl)
theorem dX6_put_40 : decode cX6_put 40 = .ok (.invokestatic 48, 3) := dk_184 0 48 (dk_at dksX6_put_1 16 rfl rfl)
theorem dX6_put_43 : decode cX6_put 43 = .ok (.ifCond .ne 10, 3) := dk_154 0 10 (dk_at dksX6_put_1 19 rfl rfl)
theorem dX6_put_46 : decode cX6_put 46 = .ok (.aload_n 0, 1) := dk_42 (dk_at dksX6_put_1 22 rfl rfl)
theorem dX6_put_47 : decode cX6_put 47 = .ok (.ldc 52, 2) := dk_18 52 (dk_at dksX6_put_2 0 rfl rfl)
theorem dX6_put_49 : decode cX6_put 49 = .ok (.invokevirtual 53, 3) := dk_182 0 53 (dk_at dksX6_put_2 2 rfl rfl)
theorem dX6_put_52 : decode cX6_put 52 = .ok (.ireturn, 1) := dk_172 (dk_at dksX6_put_2 5 rfl rfl)
theorem dX6_put_53 : decode cX6_put 53 = .ok (.aload_n 0, 1) := dk_42 (dk_at dksX6_put_2 6 rfl rfl)
theorem dX6_put_54 : decode cX6_put 54 = .ok (.getfield 35, 3) := dk_180 0 35 (dk_at dksX6_put_2 7 rfl rfl)
theorem dX6_put_57 : decode cX6_put 57 = .ok (.bipush 40, 2) := dk_16 40 (dk_at dksX6_put_2 10 rfl rfl)
theorem dX6_put_59 : decode cX6_put 59 = .ok (.iload_n 1, 1) := dk_27 (dk_at dksX6_put_2 12 rfl rfl)
theorem dX6_put_60 : decode cX6_put 60 = .ok (.imul, 1) := dk_104 (dk_at dksX6_put_2 13 rfl rfl)
theorem dX6_put_61 : decode cX6_put 61 = .ok (.iload_n 2, 1) := dk_28 (dk_at dksX6_put_2 14 rfl rfl)
theorem dX6_put_62 : decode cX6_put 62 = .ok (.iadd, 1) := dk_96 (dk_at dksX6_put_2 15 rfl rfl)
theorem dX6_put_63 : decode cX6_put 63 = .ok (.aload_n 0, 1) := dk_42 (dk_at dksX6_put_2 16 rfl rfl)
theorem dX6_put_64 : decode cX6_put 64 = .ok (.getfield 29, 3) := dk_180 0 29 (dk_at dksX6_put_2 17 rfl rfl)
theorem dX6_put_67 : decode cX6_put 67 = .ok (.iload_n 1, 1) := dk_27 (dk_at dksX6_put_2 20 rfl rfl)
theorem dX6_put_68 : decode cX6_put 68 = .ok (.iaload, 1) := dk_46 (dk_at dksX6_put_2 21 rfl rfl)
theorem dX6_put_69 : decode cX6_put 69 = .ok (.iload_n 3, 1) := dk_29 (dk_at dksX6_put_2 22 rfl rfl)
theorem dX6_put_70 : decode cX6_put 70 = .ok (.invokestatic 276, 3) := dk_184 1 20 (dk_at dksX6_put_3 0 rfl rfl)
theorem dX6_put_73 : decode cX6_put 73 = .ok (.iastore, 1) := dk_79 (dk_at dksX6_put_3 3 rfl rfl)
theorem dX6_put_74 : decode cX6_put 74 = .ok (.iconst 1, 1) := dk_4 (dk_at dksX6_put_3 4 rfl rfl)
theorem dX6_put_75 : decode cX6_put 75 = .ok (.ireturn, 1) := dk_172 (dk_at dksX6_put_3 5 rfl rfl)
abbrev cX6_narrow : ByteArray := prog_30_method_82_code
def yX6_narrow : MethodName := ⟨RX6, "narrow", "(II)I"⟩
def dkwX6_narrow_0 : List UInt8 := [26, 16, 8, 160, 0, 8, 27, 145, 167, 0, 15, 26, 16, 16, 160, 0, 8, 27, 147, 167, 0, 4, 27, 172]
abbrev dktX6_narrow_0 : List UInt8 := dkwX6_narrow_0 ++ []
theorem dksX6_narrow_0 : cX6_narrow.data.toList.drop 0 = dktX6_narrow_0 := by decide +kernel
theorem dX6_narrow_0 : decode cX6_narrow 0 = .ok (.iload_n 0, 1) := dk_26 (dk_at dksX6_narrow_0 0 rfl rfl)
theorem dX6_narrow_1 : decode cX6_narrow 1 = .ok (.bipush 8, 2) := dk_16 8 (dk_at dksX6_narrow_0 1 rfl rfl)
theorem dX6_narrow_3 : decode cX6_narrow 3 = .ok (.if_icmp .ne 8, 3) := dk_160 0 8 (dk_at dksX6_narrow_0 3 rfl rfl)
theorem dX6_narrow_6 : decode cX6_narrow 6 = .ok (.iload_n 1, 1) := dk_27 (dk_at dksX6_narrow_0 6 rfl rfl)
theorem dX6_narrow_7 : decode cX6_narrow 7 = .ok (.i2b, 1) := dk_145 (dk_at dksX6_narrow_0 7 rfl rfl)
theorem dX6_narrow_8 : decode cX6_narrow 8 = .ok (.goto 15, 3) := dk_167 0 15 (dk_at dksX6_narrow_0 8 rfl rfl)
theorem dX6_narrow_11 : decode cX6_narrow 11 = .ok (.iload_n 0, 1) := dk_26 (dk_at dksX6_narrow_0 11 rfl rfl)
theorem dX6_narrow_12 : decode cX6_narrow 12 = .ok (.bipush 16, 2) := dk_16 16 (dk_at dksX6_narrow_0 12 rfl rfl)
theorem dX6_narrow_14 : decode cX6_narrow 14 = .ok (.if_icmp .ne 8, 3) := dk_160 0 8 (dk_at dksX6_narrow_0 14 rfl rfl)
theorem dX6_narrow_17 : decode cX6_narrow 17 = .ok (.iload_n 1, 1) := dk_27 (dk_at dksX6_narrow_0 17 rfl rfl)
theorem dX6_narrow_18 : decode cX6_narrow 18 = .ok (.i2s, 1) := dk_147 (dk_at dksX6_narrow_0 18 rfl rfl)
theorem dX6_narrow_19 : decode cX6_narrow 19 = .ok (.goto 4, 3) := dk_167 0 4 (dk_at dksX6_narrow_0 19 rfl rfl)
theorem dX6_narrow_22 : decode cX6_narrow 22 = .ok (.iload_n 1, 1) := dk_27 (dk_at dksX6_narrow_0 22 rfl rfl)
theorem dX6_narrow_23 : decode cX6_narrow 23 = .ok (.ireturn, 1) := dk_172 (dk_at dksX6_narrow_0 23 rfl rfl)
abbrev cX6_move : ByteArray := prog_30_method_85_code
def yX6_move : MethodName := ⟨RX6, "move", "(IIIII)I"⟩
def dkwX6_move_8 : List UInt8 := [167, 255, 224, 21, 5, 172]
abbrev dktX6_move_8 : List UInt8 := dkwX6_move_8 ++ []
def dkwX6_move_7 : List UInt8 := [180, 0, 35, 16, 40, 29, 104, 21, 4, 96, 21, 6, 96, 42, 180, 0, 38, 21, 6, 46, 79, 132, 6, 1]
abbrev dktX6_move_7 : List UInt8 := dkwX6_move_7 ++ dktX6_move_8
def dkwX6_move_6 : List UInt8 := [28, 96, 21, 6, 96, 46, 79, 132, 6, 1, 167, 255, 225, 3, 54, 6, 21, 6, 21, 5, 162, 0, 31, 42]
abbrev dktX6_move_6 : List UInt8 := dkwX6_move_6 ++ dktX6_move_7
def dkwX6_move_5 : List UInt8 := [3, 54, 6, 21, 6, 21, 5, 162, 0, 30, 42, 180, 0, 38, 21, 6, 42, 180, 0, 35, 16, 40, 27, 104]
abbrev dktX6_move_5 : List UInt8 := dkwX6_move_5 ++ dktX6_move_6
def dkwX6_move_4 : List UInt8 := [163, 0, 17, 21, 4, 42, 180, 0, 32, 29, 46, 21, 5, 100, 164, 0, 10, 42, 18, 52, 182, 0, 53, 172]
abbrev dktX6_move_4 : List UInt8 := dkwX6_move_4 ++ dktX6_move_5
def dkwX6_move_3 : List UInt8 := [155, 0, 39, 28, 155, 0, 35, 21, 4, 155, 0, 30, 28, 42, 180, 0, 32, 27, 46, 21, 5, 100]
abbrev dktX6_move_3 : List UInt8 := dkwX6_move_3 ++ dktX6_move_4
def dkwX6_move_2 : List UInt8 := [42, 180, 0, 29, 27, 46, 42, 180, 0, 29, 29, 46, 159, 0, 10, 42, 18, 92, 182, 0, 53, 172, 21, 5]
abbrev dktX6_move_2 : List UInt8 := dkwX6_move_2 ++ dktX6_move_3
def dkwX6_move_1 : List UInt8 := [180, 0, 29, 27, 46, 153, 0, 12, 42, 180, 0, 29, 29, 46, 154, 0, 10, 42, 18, 224, 182, 0, 53, 172]
abbrev dktX6_move_1 : List UInt8 := dkwX6_move_1 ++ dktX6_move_2
def dkwX6_move_0 : List UInt8 := [27, 184, 0, 228, 153, 0, 10, 29, 184, 0, 228, 154, 0, 10, 42, 18, 52, 182, 0, 53, 172, 42]
abbrev dktX6_move_0 : List UInt8 := dkwX6_move_0 ++ dktX6_move_1
theorem dksX6_move_0 : cX6_move.data.toList.drop 0 = dktX6_move_0 := by decide +kernel
theorem dksX6_move_1 : cX6_move.data.toList.drop 22 = dktX6_move_1 := dk_seg dksX6_move_0 22 rfl rfl
theorem dksX6_move_2 : cX6_move.data.toList.drop 46 = dktX6_move_2 := dk_seg dksX6_move_1 24 rfl rfl
theorem dksX6_move_3 : cX6_move.data.toList.drop 70 = dktX6_move_3 := dk_seg dksX6_move_2 24 rfl rfl
theorem dksX6_move_4 : cX6_move.data.toList.drop 92 = dktX6_move_4 := dk_seg dksX6_move_3 22 rfl rfl
theorem dksX6_move_5 : cX6_move.data.toList.drop 116 = dktX6_move_5 := dk_seg dksX6_move_4 24 rfl rfl
theorem dksX6_move_6 : cX6_move.data.toList.drop 140 = dktX6_move_6 := dk_seg dksX6_move_5 24 rfl rfl
theorem dksX6_move_7 : cX6_move.data.toList.drop 164 = dktX6_move_7 := dk_seg dksX6_move_6 24 rfl rfl
theorem dksX6_move_8 : cX6_move.data.toList.drop 188 = dktX6_move_8 := dk_seg dksX6_move_7 24 rfl rfl
theorem dX6_move_0 : decode cX6_move 0 = .ok (.iload_n 1, 1) := dk_27 (dk_at dksX6_move_0 0 rfl rfl)
theorem dX6_move_1 : decode cX6_move 1 = .ok (.invokestatic 228, 3) := dk_184 0 228 (dk_at dksX6_move_0 1 rfl rfl)
theorem dX6_move_4 : decode cX6_move 4 = .ok (.ifCond .eq 10, 3) := dk_153 0 10 (dk_at dksX6_move_0 4 rfl rfl)
theorem dX6_move_7 : decode cX6_move 7 = .ok (.iload_n 3, 1) := dk_29 (dk_at dksX6_move_0 7 rfl rfl)
theorem dX6_move_8 : decode cX6_move 8 = .ok (.invokestatic 228, 3) := dk_184 0 228 (dk_at dksX6_move_0 8 rfl rfl)
theorem dX6_move_11 : decode cX6_move 11 = .ok (.ifCond .ne 10, 3) := dk_154 0 10 (dk_at dksX6_move_0 11 rfl rfl)
theorem dX6_move_14 : decode cX6_move 14 = .ok (.aload_n 0, 1) := dk_42 (dk_at dksX6_move_0 14 rfl rfl)
theorem dX6_move_15 : decode cX6_move 15 = .ok (.ldc 52, 2) := dk_18 52 (dk_at dksX6_move_0 15 rfl rfl)
theorem dX6_move_17 : decode cX6_move 17 = .ok (.invokevirtual 53, 3) := dk_182 0 53 (dk_at dksX6_move_0 17 rfl rfl)
theorem dX6_move_20 : decode cX6_move 20 = .ok (.ireturn, 1) := dk_172 (dk_at dksX6_move_0 20 rfl rfl)
theorem dX6_move_21 : decode cX6_move 21 = .ok (.aload_n 0, 1) := dk_42 (dk_at dksX6_move_0 21 rfl rfl)
theorem dX6_move_22 : decode cX6_move 22 = .ok (.getfield 29, 3) := dk_180 0 29 (dk_at dksX6_move_1 0 rfl rfl)
theorem dX6_move_25 : decode cX6_move 25 = .ok (.iload_n 1, 1) := dk_27 (dk_at dksX6_move_1 3 rfl rfl)
theorem dX6_move_26 : decode cX6_move 26 = .ok (.iaload, 1) := dk_46 (dk_at dksX6_move_1 4 rfl rfl)
theorem dX6_move_27 : decode cX6_move 27 = .ok (.ifCond .eq 12, 3) := dk_153 0 12 (dk_at dksX6_move_1 5 rfl rfl)
theorem dX6_move_30 : decode cX6_move 30 = .ok (.aload_n 0, 1) := dk_42 (dk_at dksX6_move_1 8 rfl rfl)
theorem dX6_move_31 : decode cX6_move 31 = .ok (.getfield 29, 3) := dk_180 0 29 (dk_at dksX6_move_1 9 rfl rfl)
theorem dX6_move_34 : decode cX6_move 34 = .ok (.iload_n 3, 1) := dk_29 (dk_at dksX6_move_1 12 rfl rfl)
theorem dX6_move_35 : decode cX6_move 35 = .ok (.iaload, 1) := dk_46 (dk_at dksX6_move_1 13 rfl rfl)
theorem dX6_move_36 : decode cX6_move 36 = .ok (.ifCond .ne 10, 3) := dk_154 0 10 (dk_at dksX6_move_1 14 rfl rfl)
theorem dX6_move_39 : decode cX6_move 39 = .ok (.aload_n 0, 1) := dk_42 (dk_at dksX6_move_1 17 rfl rfl)
theorem dX6_move_40 : decode cX6_move 40 = .ok (.ldc 224, 2) := dk_18 224 (dk_at dksX6_move_1 18 rfl rfl)
theorem dX6_move_42 : decode cX6_move 42 = .ok (.invokevirtual 53, 3) := dk_182 0 53 (dk_at dksX6_move_1 20 rfl rfl)
theorem dX6_move_45 : decode cX6_move 45 = .ok (.ireturn, 1) := dk_172 (dk_at dksX6_move_1 23 rfl rfl)
theorem dX6_move_46 : decode cX6_move 46 = .ok (.aload_n 0, 1) := dk_42 (dk_at dksX6_move_2 0 rfl rfl)
theorem dX6_move_47 : decode cX6_move 47 = .ok (.getfield 29, 3) := dk_180 0 29 (dk_at dksX6_move_2 1 rfl rfl)
theorem dX6_move_50 : decode cX6_move 50 = .ok (.iload_n 1, 1) := dk_27 (dk_at dksX6_move_2 4 rfl rfl)
theorem dX6_move_51 : decode cX6_move 51 = .ok (.iaload, 1) := dk_46 (dk_at dksX6_move_2 5 rfl rfl)
theorem dX6_move_52 : decode cX6_move 52 = .ok (.aload_n 0, 1) := dk_42 (dk_at dksX6_move_2 6 rfl rfl)
theorem dX6_move_53 : decode cX6_move 53 = .ok (.getfield 29, 3) := dk_180 0 29 (dk_at dksX6_move_2 7 rfl rfl)
theorem dX6_move_56 : decode cX6_move 56 = .ok (.iload_n 3, 1) := dk_29 (dk_at dksX6_move_2 10 rfl rfl)
theorem dX6_move_57 : decode cX6_move 57 = .ok (.iaload, 1) := dk_46 (dk_at dksX6_move_2 11 rfl rfl)
theorem dX6_move_58 : decode cX6_move 58 = .ok (.if_icmp .eq 10, 3) := dk_159 0 10 (dk_at dksX6_move_2 12 rfl rfl)
theorem dX6_move_61 : decode cX6_move 61 = .ok (.aload_n 0, 1) := dk_42 (dk_at dksX6_move_2 15 rfl rfl)
theorem dX6_move_62 : decode cX6_move 62 = .ok (.ldc 92, 2) := dk_18 92 (dk_at dksX6_move_2 16 rfl rfl)
theorem dX6_move_64 : decode cX6_move 64 = .ok (.invokevirtual 53, 3) := dk_182 0 53 (dk_at dksX6_move_2 18 rfl rfl)
theorem dX6_move_67 : decode cX6_move 67 = .ok (.ireturn, 1) := dk_172 (dk_at dksX6_move_2 21 rfl rfl)
theorem dX6_move_68 : decode cX6_move 68 = .ok (.iload 5, 2) := dk_21 5 (dk_at dksX6_move_2 22 rfl rfl)
theorem dX6_move_70 : decode cX6_move 70 = .ok (.ifCond .lt 39, 3) := dk_155 0 39 (dk_at dksX6_move_3 0 rfl rfl)
theorem dX6_move_73 : decode cX6_move 73 = .ok (.iload_n 2, 1) := dk_28 (dk_at dksX6_move_3 3 rfl rfl)
theorem dX6_move_74 : decode cX6_move 74 = .ok (.ifCond .lt 35, 3) := dk_155 0 35 (dk_at dksX6_move_3 4 rfl rfl)
theorem dX6_move_77 : decode cX6_move 77 = .ok (.iload 4, 2) := dk_21 4 (dk_at dksX6_move_3 7 rfl rfl)
theorem dX6_move_79 : decode cX6_move 79 = .ok (.ifCond .lt 30, 3) := dk_155 0 30 (dk_at dksX6_move_3 9 rfl rfl)
theorem dX6_move_82 : decode cX6_move 82 = .ok (.iload_n 2, 1) := dk_28 (dk_at dksX6_move_3 12 rfl rfl)
theorem dX6_move_83 : decode cX6_move 83 = .ok (.aload_n 0, 1) := dk_42 (dk_at dksX6_move_3 13 rfl rfl)
theorem dX6_move_84 : decode cX6_move 84 = .ok (.getfield 32, 3) := dk_180 0 32 (dk_at dksX6_move_3 14 rfl rfl)
theorem dX6_move_87 : decode cX6_move 87 = .ok (.iload_n 1, 1) := dk_27 (dk_at dksX6_move_3 17 rfl rfl)
theorem dX6_move_88 : decode cX6_move 88 = .ok (.iaload, 1) := dk_46 (dk_at dksX6_move_3 18 rfl rfl)
theorem dX6_move_89 : decode cX6_move 89 = .ok (.iload 5, 2) := dk_21 5 (dk_at dksX6_move_3 19 rfl rfl)
theorem dX6_move_91 : decode cX6_move 91 = .ok (.isub, 1) := dk_100 (dk_at dksX6_move_3 21 rfl rfl)
theorem dX6_move_92 : decode cX6_move 92 = .ok (.if_icmp .gt 17, 3) := dk_163 0 17 (dk_at dksX6_move_4 0 rfl rfl)
theorem dX6_move_95 : decode cX6_move 95 = .ok (.iload 4, 2) := dk_21 4 (dk_at dksX6_move_4 3 rfl rfl)
theorem dX6_move_97 : decode cX6_move 97 = .ok (.aload_n 0, 1) := dk_42 (dk_at dksX6_move_4 5 rfl rfl)
theorem dX6_move_98 : decode cX6_move 98 = .ok (.getfield 32, 3) := dk_180 0 32 (dk_at dksX6_move_4 6 rfl rfl)
theorem dX6_move_101 : decode cX6_move 101 = .ok (.iload_n 3, 1) := dk_29 (dk_at dksX6_move_4 9 rfl rfl)
theorem dX6_move_102 : decode cX6_move 102 = .ok (.iaload, 1) := dk_46 (dk_at dksX6_move_4 10 rfl rfl)
theorem dX6_move_103 : decode cX6_move 103 = .ok (.iload 5, 2) := dk_21 5 (dk_at dksX6_move_4 11 rfl rfl)
theorem dX6_move_105 : decode cX6_move 105 = .ok (.isub, 1) := dk_100 (dk_at dksX6_move_4 13 rfl rfl)
theorem dX6_move_106 : decode cX6_move 106 = .ok (.if_icmp .le 10, 3) := dk_164 0 10 (dk_at dksX6_move_4 14 rfl rfl)
theorem dX6_move_109 : decode cX6_move 109 = .ok (.aload_n 0, 1) := dk_42 (dk_at dksX6_move_4 17 rfl rfl)
theorem dX6_move_110 : decode cX6_move 110 = .ok (.ldc 52, 2) := dk_18 52 (dk_at dksX6_move_4 18 rfl rfl)
theorem dX6_move_112 : decode cX6_move 112 = .ok (.invokevirtual 53, 3) := dk_182 0 53 (dk_at dksX6_move_4 20 rfl rfl)
theorem dX6_move_115 : decode cX6_move 115 = .ok (.ireturn, 1) := dk_172 (dk_at dksX6_move_4 23 rfl rfl)
theorem dX6_move_116 : decode cX6_move 116 = .ok (.iconst 0, 1) := dk_3 (dk_at dksX6_move_5 0 rfl rfl)
theorem dX6_move_117 : decode cX6_move 117 = .ok (.istore 6, 2) := dk_54 6 (dk_at dksX6_move_5 1 rfl rfl)
theorem dX6_move_119 : decode cX6_move 119 = .ok (.iload 6, 2) := dk_21 6 (dk_at dksX6_move_5 3 rfl rfl)
theorem dX6_move_121 : decode cX6_move 121 = .ok (.iload 5, 2) := dk_21 5 (dk_at dksX6_move_5 5 rfl rfl)
theorem dX6_move_123 : decode cX6_move 123 = .ok (.if_icmp .ge 30, 3) := dk_162 0 30 (dk_at dksX6_move_5 7 rfl rfl)
theorem dX6_move_126 : decode cX6_move 126 = .ok (.aload_n 0, 1) := dk_42 (dk_at dksX6_move_5 10 rfl rfl)
theorem dX6_move_127 : decode cX6_move 127 = .ok (.getfield 38, 3) := dk_180 0 38 (dk_at dksX6_move_5 11 rfl rfl)
theorem dX6_move_130 : decode cX6_move 130 = .ok (.iload 6, 2) := dk_21 6 (dk_at dksX6_move_5 14 rfl rfl)
theorem dX6_move_132 : decode cX6_move 132 = .ok (.aload_n 0, 1) := dk_42 (dk_at dksX6_move_5 16 rfl rfl)
theorem dX6_move_133 : decode cX6_move 133 = .ok (.getfield 35, 3) := dk_180 0 35 (dk_at dksX6_move_5 17 rfl rfl)
theorem dX6_move_136 : decode cX6_move 136 = .ok (.bipush 40, 2) := dk_16 40 (dk_at dksX6_move_5 20 rfl rfl)
theorem dX6_move_138 : decode cX6_move 138 = .ok (.iload_n 1, 1) := dk_27 (dk_at dksX6_move_5 22 rfl rfl)
theorem dX6_move_139 : decode cX6_move 139 = .ok (.imul, 1) := dk_104 (dk_at dksX6_move_5 23 rfl rfl)
theorem dX6_move_140 : decode cX6_move 140 = .ok (.iload_n 2, 1) := dk_28 (dk_at dksX6_move_6 0 rfl rfl)
theorem dX6_move_141 : decode cX6_move 141 = .ok (.iadd, 1) := dk_96 (dk_at dksX6_move_6 1 rfl rfl)
theorem dX6_move_142 : decode cX6_move 142 = .ok (.iload 6, 2) := dk_21 6 (dk_at dksX6_move_6 2 rfl rfl)
theorem dX6_move_144 : decode cX6_move 144 = .ok (.iadd, 1) := dk_96 (dk_at dksX6_move_6 4 rfl rfl)
theorem dX6_move_145 : decode cX6_move 145 = .ok (.iaload, 1) := dk_46 (dk_at dksX6_move_6 5 rfl rfl)
theorem dX6_move_146 : decode cX6_move 146 = .ok (.iastore, 1) := dk_79 (dk_at dksX6_move_6 6 rfl rfl)
theorem dX6_move_147 : decode cX6_move 147 = .ok (.iinc 6 1, 3) := dk_132 6 1 (dk_at dksX6_move_6 7 rfl rfl)
theorem dX6_move_150 : decode cX6_move 150 = .ok (.goto (-31), 3) := dk_167 255 225 (dk_at dksX6_move_6 10 rfl rfl)
theorem dX6_move_153 : decode cX6_move 153 = .ok (.iconst 0, 1) := dk_3 (dk_at dksX6_move_6 13 rfl rfl)
theorem dX6_move_154 : decode cX6_move 154 = .ok (.istore 6, 2) := dk_54 6 (dk_at dksX6_move_6 14 rfl rfl)
theorem dX6_move_156 : decode cX6_move 156 = .ok (.iload 6, 2) := dk_21 6 (dk_at dksX6_move_6 16 rfl rfl)
theorem dX6_move_158 : decode cX6_move 158 = .ok (.iload 5, 2) := dk_21 5 (dk_at dksX6_move_6 18 rfl rfl)
theorem dX6_move_160 : decode cX6_move 160 = .ok (.if_icmp .ge 31, 3) := dk_162 0 31 (dk_at dksX6_move_6 20 rfl rfl)
theorem dX6_move_163 : decode cX6_move 163 = .ok (.aload_n 0, 1) := dk_42 (dk_at dksX6_move_6 23 rfl rfl)
theorem dX6_move_164 : decode cX6_move 164 = .ok (.getfield 35, 3) := dk_180 0 35 (dk_at dksX6_move_7 0 rfl rfl)
theorem dX6_move_167 : decode cX6_move 167 = .ok (.bipush 40, 2) := dk_16 40 (dk_at dksX6_move_7 3 rfl rfl)
theorem dX6_move_169 : decode cX6_move 169 = .ok (.iload_n 3, 1) := dk_29 (dk_at dksX6_move_7 5 rfl rfl)
theorem dX6_move_170 : decode cX6_move 170 = .ok (.imul, 1) := dk_104 (dk_at dksX6_move_7 6 rfl rfl)
theorem dX6_move_171 : decode cX6_move 171 = .ok (.iload 4, 2) := dk_21 4 (dk_at dksX6_move_7 7 rfl rfl)
theorem dX6_move_173 : decode cX6_move 173 = .ok (.iadd, 1) := dk_96 (dk_at dksX6_move_7 9 rfl rfl)
theorem dX6_move_174 : decode cX6_move 174 = .ok (.iload 6, 2) := dk_21 6 (dk_at dksX6_move_7 10 rfl rfl)
theorem dX6_move_176 : decode cX6_move 176 = .ok (.iadd, 1) := dk_96 (dk_at dksX6_move_7 12 rfl rfl)
theorem dX6_move_177 : decode cX6_move 177 = .ok (.aload_n 0, 1) := dk_42 (dk_at dksX6_move_7 13 rfl rfl)
theorem dX6_move_178 : decode cX6_move 178 = .ok (.getfield 38, 3) := dk_180 0 38 (dk_at dksX6_move_7 14 rfl rfl)
theorem dX6_move_181 : decode cX6_move 181 = .ok (.iload 6, 2) := dk_21 6 (dk_at dksX6_move_7 17 rfl rfl)
theorem dX6_move_183 : decode cX6_move 183 = .ok (.iaload, 1) := dk_46 (dk_at dksX6_move_7 19 rfl rfl)
theorem dX6_move_184 : decode cX6_move 184 = .ok (.iastore, 1) := dk_79 (dk_at dksX6_move_7 20 rfl rfl)
theorem dX6_move_185 : decode cX6_move 185 = .ok (.iinc 6 1, 3) := dk_132 6 1 (dk_at dksX6_move_7 21 rfl rfl)
theorem dX6_move_188 : decode cX6_move 188 = .ok (.goto (-32), 3) := dk_167 255 224 (dk_at dksX6_move_8 0 rfl rfl)
theorem dX6_move_191 : decode cX6_move 191 = .ok (.iload 5, 2) := dk_21 5 (dk_at dksX6_move_8 3 rfl rfl)
theorem dX6_move_193 : decode cX6_move 193 = .ok (.ireturn, 1) := dk_172 (dk_at dksX6_move_8 5 rfl rfl)
abbrev cX6_traits : ByteArray := prog_30_method_86_code
def yX6_traits : MethodName := ⟨RX6, "traits", "(I)I"⟩
def dkwX6_traits_3 : List UInt8 := [28, 5, 42, 180, 0, 35, 16, 40, 27, 104, 28, 96, 46, 182, 0, 58, 132, 2, 1, 167, 255, 198, 28, 172]
abbrev dktX6_traits_3 : List UInt8 := dkwX6_traits_3 ++ []
def dkwX6_traits_2 : List UInt8 := [153, 0, 46, 42, 180, 0, 35, 16, 40, 27, 104, 28, 96, 46, 3, 16, 15, 184, 0, 48, 153, 0, 26, 42]
abbrev dktX6_traits_2 : List UInt8 := dkwX6_traits_2 ++ dktX6_traits_3
def dkwX6_traits_1 : List UInt8 := [18, 224, 182, 0, 53, 172, 3, 61, 28, 42, 180, 0, 32, 27, 46, 162, 0, 54, 42, 28, 182, 0, 62]
abbrev dktX6_traits_1 : List UInt8 := dkwX6_traits_1 ++ dktX6_traits_2
def dkwX6_traits_0 : List UInt8 := [27, 184, 0, 228, 154, 0, 10, 42, 18, 52, 182, 0, 53, 172, 42, 180, 0, 29, 27, 46, 154, 0, 10, 42]
abbrev dktX6_traits_0 : List UInt8 := dkwX6_traits_0 ++ dktX6_traits_1
theorem dksX6_traits_0 : cX6_traits.data.toList.drop 0 = dktX6_traits_0 := by decide +kernel
theorem dksX6_traits_1 : cX6_traits.data.toList.drop 24 = dktX6_traits_1 := dk_seg dksX6_traits_0 24 rfl rfl
theorem dksX6_traits_2 : cX6_traits.data.toList.drop 47 = dktX6_traits_2 := dk_seg dksX6_traits_1 23 rfl rfl
theorem dksX6_traits_3 : cX6_traits.data.toList.drop 71 = dktX6_traits_3 := dk_seg dksX6_traits_2 24 rfl rfl
theorem dX6_traits_0 : decode cX6_traits 0 = .ok (.iload_n 1, 1) := dk_27 (dk_at dksX6_traits_0 0 rfl rfl)
theorem dX6_traits_1 : decode cX6_traits 1 = .ok (.invokestatic 228, 3) := dk_184 0 228 (dk_at dksX6_traits_0 1 rfl rfl)
theorem dX6_traits_4 : decode cX6_traits 4 = .ok (.ifCond .ne 10, 3) := dk_154 0 10 (dk_at dksX6_traits_0 4 rfl rfl)
theorem dX6_traits_7 : decode cX6_traits 7 = .ok (.aload_n 0, 1) := dk_42 (dk_at dksX6_traits_0 7 rfl rfl)
theorem dX6_traits_8 : decode cX6_traits 8 = .ok (.ldc 52, 2) := dk_18 52 (dk_at dksX6_traits_0 8 rfl rfl)
theorem dX6_traits_10 : decode cX6_traits 10 = .ok (.invokevirtual 53, 3) := dk_182 0 53 (dk_at dksX6_traits_0 10 rfl rfl)
theorem dX6_traits_13 : decode cX6_traits 13 = .ok (.ireturn, 1) := dk_172 (dk_at dksX6_traits_0 13 rfl rfl)
theorem dX6_traits_14 : decode cX6_traits 14 = .ok (.aload_n 0, 1) := dk_42 (dk_at dksX6_traits_0 14 rfl rfl)
theorem dX6_traits_15 : decode cX6_traits 15 = .ok (.getfield 29, 3) := dk_180 0 29 (dk_at dksX6_traits_0 15 rfl rfl)
theorem dX6_traits_18 : decode cX6_traits 18 = .ok (.iload_n 1, 1) := dk_27 (dk_at dksX6_traits_0 18 rfl rfl)
theorem dX6_traits_19 : decode cX6_traits 19 = .ok (.iaload, 1) := dk_46 (dk_at dksX6_traits_0 19 rfl rfl)
theorem dX6_traits_20 : decode cX6_traits 20 = .ok (.ifCond .ne 10, 3) := dk_154 0 10 (dk_at dksX6_traits_0 20 rfl rfl)
theorem dX6_traits_23 : decode cX6_traits 23 = .ok (.aload_n 0, 1) := dk_42 (dk_at dksX6_traits_0 23 rfl rfl)
theorem dX6_traits_24 : decode cX6_traits 24 = .ok (.ldc 224, 2) := dk_18 224 (dk_at dksX6_traits_1 0 rfl rfl)
theorem dX6_traits_26 : decode cX6_traits 26 = .ok (.invokevirtual 53, 3) := dk_182 0 53 (dk_at dksX6_traits_1 2 rfl rfl)
theorem dX6_traits_29 : decode cX6_traits 29 = .ok (.ireturn, 1) := dk_172 (dk_at dksX6_traits_1 5 rfl rfl)
theorem dX6_traits_30 : decode cX6_traits 30 = .ok (.iconst 0, 1) := dk_3 (dk_at dksX6_traits_1 6 rfl rfl)
theorem dX6_traits_31 : decode cX6_traits 31 = .ok (.istore_n 2, 1) := dk_61 (dk_at dksX6_traits_1 7 rfl rfl)
theorem dX6_traits_32 : decode cX6_traits 32 = .ok (.iload_n 2, 1) := dk_28 (dk_at dksX6_traits_1 8 rfl rfl)
theorem dX6_traits_33 : decode cX6_traits 33 = .ok (.aload_n 0, 1) := dk_42 (dk_at dksX6_traits_1 9 rfl rfl)
theorem dX6_traits_34 : decode cX6_traits 34 = .ok (.getfield 32, 3) := dk_180 0 32 (dk_at dksX6_traits_1 10 rfl rfl)
theorem dX6_traits_37 : decode cX6_traits 37 = .ok (.iload_n 1, 1) := dk_27 (dk_at dksX6_traits_1 13 rfl rfl)
theorem dX6_traits_38 : decode cX6_traits 38 = .ok (.iaload, 1) := dk_46 (dk_at dksX6_traits_1 14 rfl rfl)
theorem dX6_traits_39 : decode cX6_traits 39 = .ok (.if_icmp .ge 54, 3) := dk_162 0 54 (dk_at dksX6_traits_1 15 rfl rfl)
theorem dX6_traits_42 : decode cX6_traits 42 = .ok (.aload_n 0, 1) := dk_42 (dk_at dksX6_traits_1 18 rfl rfl)
theorem dX6_traits_43 : decode cX6_traits 43 = .ok (.iload_n 2, 1) := dk_28 (dk_at dksX6_traits_1 19 rfl rfl)
theorem dX6_traits_44 : decode cX6_traits 44 = .ok (.invokevirtual 62, 3) := dk_182 0 62 (dk_at dksX6_traits_1 20 rfl rfl)
theorem dX6_traits_47 : decode cX6_traits 47 = .ok (.ifCond .eq 46, 3) := dk_153 0 46 (dk_at dksX6_traits_2 0 rfl rfl)
theorem dX6_traits_50 : decode cX6_traits 50 = .ok (.aload_n 0, 1) := dk_42 (dk_at dksX6_traits_2 3 rfl rfl)
theorem dX6_traits_51 : decode cX6_traits 51 = .ok (.getfield 35, 3) := dk_180 0 35 (dk_at dksX6_traits_2 4 rfl rfl)
theorem dX6_traits_54 : decode cX6_traits 54 = .ok (.bipush 40, 2) := dk_16 40 (dk_at dksX6_traits_2 7 rfl rfl)
theorem dX6_traits_56 : decode cX6_traits 56 = .ok (.iload_n 1, 1) := dk_27 (dk_at dksX6_traits_2 9 rfl rfl)
theorem dX6_traits_57 : decode cX6_traits 57 = .ok (.imul, 1) := dk_104 (dk_at dksX6_traits_2 10 rfl rfl)
theorem dX6_traits_58 : decode cX6_traits 58 = .ok (.iload_n 2, 1) := dk_28 (dk_at dksX6_traits_2 11 rfl rfl)
theorem dX6_traits_59 : decode cX6_traits 59 = .ok (.iadd, 1) := dk_96 (dk_at dksX6_traits_2 12 rfl rfl)
theorem dX6_traits_60 : decode cX6_traits 60 = .ok (.iaload, 1) := dk_46 (dk_at dksX6_traits_2 13 rfl rfl)
theorem dX6_traits_61 : decode cX6_traits 61 = .ok (.iconst 0, 1) := dk_3 (dk_at dksX6_traits_2 14 rfl rfl)
theorem dX6_traits_62 : decode cX6_traits 62 = .ok (.bipush 15, 2) := dk_16 15 (dk_at dksX6_traits_2 15 rfl rfl)
theorem dX6_traits_64 : decode cX6_traits 64 = .ok (.invokestatic 48, 3) := dk_184 0 48 (dk_at dksX6_traits_2 17 rfl rfl)
theorem dX6_traits_67 : decode cX6_traits 67 = .ok (.ifCond .eq 26, 3) := dk_153 0 26 (dk_at dksX6_traits_2 20 rfl rfl)
theorem dX6_traits_70 : decode cX6_traits 70 = .ok (.aload_n 0, 1) := dk_42 (dk_at dksX6_traits_2 23 rfl rfl)
theorem dX6_traits_71 : decode cX6_traits 71 = .ok (.iload_n 2, 1) := dk_28 (dk_at dksX6_traits_3 0 rfl rfl)
theorem dX6_traits_72 : decode cX6_traits 72 = .ok (.iconst 2, 1) := dk_5 (dk_at dksX6_traits_3 1 rfl rfl)
theorem dX6_traits_73 : decode cX6_traits 73 = .ok (.aload_n 0, 1) := dk_42 (dk_at dksX6_traits_3 2 rfl rfl)
theorem dX6_traits_74 : decode cX6_traits 74 = .ok (.getfield 35, 3) := dk_180 0 35 (dk_at dksX6_traits_3 3 rfl rfl)
theorem dX6_traits_77 : decode cX6_traits 77 = .ok (.bipush 40, 2) := dk_16 40 (dk_at dksX6_traits_3 6 rfl rfl)
theorem dX6_traits_79 : decode cX6_traits 79 = .ok (.iload_n 1, 1) := dk_27 (dk_at dksX6_traits_3 8 rfl rfl)
theorem dX6_traits_80 : decode cX6_traits 80 = .ok (.imul, 1) := dk_104 (dk_at dksX6_traits_3 9 rfl rfl)
theorem dX6_traits_81 : decode cX6_traits 81 = .ok (.iload_n 2, 1) := dk_28 (dk_at dksX6_traits_3 10 rfl rfl)
theorem dX6_traits_82 : decode cX6_traits 82 = .ok (.iadd, 1) := dk_96 (dk_at dksX6_traits_3 11 rfl rfl)
theorem dX6_traits_83 : decode cX6_traits 83 = .ok (.iaload, 1) := dk_46 (dk_at dksX6_traits_3 12 rfl rfl)
theorem dX6_traits_84 : decode cX6_traits 84 = .ok (.invokevirtual 58, 3) := dk_182 0 58 (dk_at dksX6_traits_3 13 rfl rfl)
theorem dX6_traits_87 : decode cX6_traits 87 = .ok (.iinc 2 1, 3) := dk_132 2 1 (dk_at dksX6_traits_3 16 rfl rfl)
theorem dX6_traits_90 : decode cX6_traits 90 = .ok (.goto (-58), 3) := dk_167 255 198 (dk_at dksX6_traits_3 19 rfl rfl)
theorem dX6_traits_93 : decode cX6_traits 93 = .ok (.iload_n 2, 1) := dk_28 (dk_at dksX6_traits_3 22 rfl rfl)
theorem dX6_traits_94 : decode cX6_traits 94 = .ok (.ireturn, 1) := dk_172 (dk_at dksX6_traits_3 23 rfl rfl)
abbrev cX6_judge : ByteArray := prog_30_method_87_code
def yX6_judge : MethodName := ⟨RX6, "judge", "(I)I"⟩
def dkwX6_judge_4 : List UInt8 := [160, 0, 7, 2, 167, 0, 4, 28, 172]
abbrev dktX6_judge_4 : List UInt8 := dkwX6_judge_4 ++ []
def dkwX6_judge_3 : List UInt8 := [132, 2, 1, 167, 255, 213, 28, 42, 180, 0, 7, 5, 46, 160, 0, 17, 28, 42, 180, 0, 32, 27, 46]
abbrev dktX6_judge_3 : List UInt8 := dkwX6_judge_3 ++ dktX6_judge_4
def dkwX6_judge_2 : List UInt8 := [46, 162, 0, 29, 42, 180, 0, 35, 16, 40, 27, 104, 28, 96, 46, 42, 28, 6, 182, 0, 75, 160, 0, 9]
abbrev dktX6_judge_2 : List UInt8 := dkwX6_judge_2 ++ dktX6_judge_3
def dkwX6_judge_1 : List UInt8 := [18, 224, 182, 0, 53, 172, 3, 61, 28, 42, 180, 0, 7, 5, 46, 162, 0, 39, 28, 42, 180, 0, 32, 27]
abbrev dktX6_judge_1 : List UInt8 := dkwX6_judge_1 ++ dktX6_judge_2
def dkwX6_judge_0 : List UInt8 := [27, 184, 0, 228, 154, 0, 10, 42, 18, 52, 182, 0, 53, 172, 42, 180, 0, 29, 27, 46, 154, 0, 10, 42]
abbrev dktX6_judge_0 : List UInt8 := dkwX6_judge_0 ++ dktX6_judge_1
theorem dksX6_judge_0 : cX6_judge.data.toList.drop 0 = dktX6_judge_0 := by decide +kernel
theorem dksX6_judge_1 : cX6_judge.data.toList.drop 24 = dktX6_judge_1 := dk_seg dksX6_judge_0 24 rfl rfl
theorem dksX6_judge_2 : cX6_judge.data.toList.drop 48 = dktX6_judge_2 := dk_seg dksX6_judge_1 24 rfl rfl
theorem dksX6_judge_3 : cX6_judge.data.toList.drop 72 = dktX6_judge_3 := dk_seg dksX6_judge_2 24 rfl rfl
theorem dksX6_judge_4 : cX6_judge.data.toList.drop 95 = dktX6_judge_4 := dk_seg dksX6_judge_3 23 rfl rfl
theorem dX6_judge_0 : decode cX6_judge 0 = .ok (.iload_n 1, 1) := dk_27 (dk_at dksX6_judge_0 0 rfl rfl)
theorem dX6_judge_1 : decode cX6_judge 1 = .ok (.invokestatic 228, 3) := dk_184 0 228 (dk_at dksX6_judge_0 1 rfl rfl)
theorem dX6_judge_4 : decode cX6_judge 4 = .ok (.ifCond .ne 10, 3) := dk_154 0 10 (dk_at dksX6_judge_0 4 rfl rfl)
theorem dX6_judge_7 : decode cX6_judge 7 = .ok (.aload_n 0, 1) := dk_42 (dk_at dksX6_judge_0 7 rfl rfl)
theorem dX6_judge_8 : decode cX6_judge 8 = .ok (.ldc 52, 2) := dk_18 52 (dk_at dksX6_judge_0 8 rfl rfl)
theorem dX6_judge_10 : decode cX6_judge 10 = .ok (.invokevirtual 53, 3) := dk_182 0 53 (dk_at dksX6_judge_0 10 rfl rfl)
theorem dX6_judge_13 : decode cX6_judge 13 = .ok (.ireturn, 1) := dk_172 (dk_at dksX6_judge_0 13 rfl rfl)
theorem dX6_judge_14 : decode cX6_judge 14 = .ok (.aload_n 0, 1) := dk_42 (dk_at dksX6_judge_0 14 rfl rfl)
theorem dX6_judge_15 : decode cX6_judge 15 = .ok (.getfield 29, 3) := dk_180 0 29 (dk_at dksX6_judge_0 15 rfl rfl)
theorem dX6_judge_18 : decode cX6_judge 18 = .ok (.iload_n 1, 1) := dk_27 (dk_at dksX6_judge_0 18 rfl rfl)
theorem dX6_judge_19 : decode cX6_judge 19 = .ok (.iaload, 1) := dk_46 (dk_at dksX6_judge_0 19 rfl rfl)
theorem dX6_judge_20 : decode cX6_judge 20 = .ok (.ifCond .ne 10, 3) := dk_154 0 10 (dk_at dksX6_judge_0 20 rfl rfl)
theorem dX6_judge_23 : decode cX6_judge 23 = .ok (.aload_n 0, 1) := dk_42 (dk_at dksX6_judge_0 23 rfl rfl)
theorem dX6_judge_24 : decode cX6_judge 24 = .ok (.ldc 224, 2) := dk_18 224 (dk_at dksX6_judge_1 0 rfl rfl)
theorem dX6_judge_26 : decode cX6_judge 26 = .ok (.invokevirtual 53, 3) := dk_182 0 53 (dk_at dksX6_judge_1 2 rfl rfl)
theorem dX6_judge_29 : decode cX6_judge 29 = .ok (.ireturn, 1) := dk_172 (dk_at dksX6_judge_1 5 rfl rfl)
theorem dX6_judge_30 : decode cX6_judge 30 = .ok (.iconst 0, 1) := dk_3 (dk_at dksX6_judge_1 6 rfl rfl)
theorem dX6_judge_31 : decode cX6_judge 31 = .ok (.istore_n 2, 1) := dk_61 (dk_at dksX6_judge_1 7 rfl rfl)
theorem dX6_judge_32 : decode cX6_judge 32 = .ok (.iload_n 2, 1) := dk_28 (dk_at dksX6_judge_1 8 rfl rfl)
theorem dX6_judge_33 : decode cX6_judge 33 = .ok (.aload_n 0, 1) := dk_42 (dk_at dksX6_judge_1 9 rfl rfl)
theorem dX6_judge_34 : decode cX6_judge 34 = .ok (.getfield 7, 3) := dk_180 0 7 (dk_at dksX6_judge_1 10 rfl rfl)
theorem dX6_judge_37 : decode cX6_judge 37 = .ok (.iconst 2, 1) := dk_5 (dk_at dksX6_judge_1 13 rfl rfl)
theorem dX6_judge_38 : decode cX6_judge 38 = .ok (.iaload, 1) := dk_46 (dk_at dksX6_judge_1 14 rfl rfl)
theorem dX6_judge_39 : decode cX6_judge 39 = .ok (.if_icmp .ge 39, 3) := dk_162 0 39 (dk_at dksX6_judge_1 15 rfl rfl)
theorem dX6_judge_42 : decode cX6_judge 42 = .ok (.iload_n 2, 1) := dk_28 (dk_at dksX6_judge_1 18 rfl rfl)
theorem dX6_judge_43 : decode cX6_judge 43 = .ok (.aload_n 0, 1) := dk_42 (dk_at dksX6_judge_1 19 rfl rfl)
theorem dX6_judge_44 : decode cX6_judge 44 = .ok (.getfield 32, 3) := dk_180 0 32 (dk_at dksX6_judge_1 20 rfl rfl)
theorem dX6_judge_47 : decode cX6_judge 47 = .ok (.iload_n 1, 1) := dk_27 (dk_at dksX6_judge_1 23 rfl rfl)
theorem dX6_judge_48 : decode cX6_judge 48 = .ok (.iaload, 1) := dk_46 (dk_at dksX6_judge_2 0 rfl rfl)
theorem dX6_judge_49 : decode cX6_judge 49 = .ok (.if_icmp .ge 29, 3) := dk_162 0 29 (dk_at dksX6_judge_2 1 rfl rfl)
theorem dX6_judge_52 : decode cX6_judge 52 = .ok (.aload_n 0, 1) := dk_42 (dk_at dksX6_judge_2 4 rfl rfl)
theorem dX6_judge_53 : decode cX6_judge 53 = .ok (.getfield 35, 3) := dk_180 0 35 (dk_at dksX6_judge_2 5 rfl rfl)
theorem dX6_judge_56 : decode cX6_judge 56 = .ok (.bipush 40, 2) := dk_16 40 (dk_at dksX6_judge_2 8 rfl rfl)
theorem dX6_judge_58 : decode cX6_judge 58 = .ok (.iload_n 1, 1) := dk_27 (dk_at dksX6_judge_2 10 rfl rfl)
theorem dX6_judge_59 : decode cX6_judge 59 = .ok (.imul, 1) := dk_104 (dk_at dksX6_judge_2 11 rfl rfl)
theorem dX6_judge_60 : decode cX6_judge 60 = .ok (.iload_n 2, 1) := dk_28 (dk_at dksX6_judge_2 12 rfl rfl)
theorem dX6_judge_61 : decode cX6_judge 61 = .ok (.iadd, 1) := dk_96 (dk_at dksX6_judge_2 13 rfl rfl)
theorem dX6_judge_62 : decode cX6_judge 62 = .ok (.iaload, 1) := dk_46 (dk_at dksX6_judge_2 14 rfl rfl)
theorem dX6_judge_63 : decode cX6_judge 63 = .ok (.aload_n 0, 1) := dk_42 (dk_at dksX6_judge_2 15 rfl rfl)
theorem dX6_judge_64 : decode cX6_judge 64 = .ok (.iload_n 2, 1) := dk_28 (dk_at dksX6_judge_2 16 rfl rfl)
theorem dX6_judge_65 : decode cX6_judge 65 = .ok (.iconst 3, 1) := dk_6 (dk_at dksX6_judge_2 17 rfl rfl)
theorem dX6_judge_66 : decode cX6_judge 66 = .ok (.invokevirtual 75, 3) := dk_182 0 75 (dk_at dksX6_judge_2 18 rfl rfl)
theorem dX6_judge_69 : decode cX6_judge 69 = .ok (.if_icmp .ne 9, 3) := dk_160 0 9 (dk_at dksX6_judge_2 21 rfl rfl)
theorem dX6_judge_72 : decode cX6_judge 72 = .ok (.iinc 2 1, 3) := dk_132 2 1 (dk_at dksX6_judge_3 0 rfl rfl)
theorem dX6_judge_75 : decode cX6_judge 75 = .ok (.goto (-43), 3) := dk_167 255 213 (dk_at dksX6_judge_3 3 rfl rfl)
theorem dX6_judge_78 : decode cX6_judge 78 = .ok (.iload_n 2, 1) := dk_28 (dk_at dksX6_judge_3 6 rfl rfl)
theorem dX6_judge_79 : decode cX6_judge 79 = .ok (.aload_n 0, 1) := dk_42 (dk_at dksX6_judge_3 7 rfl rfl)
theorem dX6_judge_80 : decode cX6_judge 80 = .ok (.getfield 7, 3) := dk_180 0 7 (dk_at dksX6_judge_3 8 rfl rfl)
theorem dX6_judge_83 : decode cX6_judge 83 = .ok (.iconst 2, 1) := dk_5 (dk_at dksX6_judge_3 11 rfl rfl)
theorem dX6_judge_84 : decode cX6_judge 84 = .ok (.iaload, 1) := dk_46 (dk_at dksX6_judge_3 12 rfl rfl)
theorem dX6_judge_85 : decode cX6_judge 85 = .ok (.if_icmp .ne 17, 3) := dk_160 0 17 (dk_at dksX6_judge_3 13 rfl rfl)
theorem dX6_judge_88 : decode cX6_judge 88 = .ok (.iload_n 2, 1) := dk_28 (dk_at dksX6_judge_3 16 rfl rfl)
theorem dX6_judge_89 : decode cX6_judge 89 = .ok (.aload_n 0, 1) := dk_42 (dk_at dksX6_judge_3 17 rfl rfl)
theorem dX6_judge_90 : decode cX6_judge 90 = .ok (.getfield 32, 3) := dk_180 0 32 (dk_at dksX6_judge_3 18 rfl rfl)
theorem dX6_judge_93 : decode cX6_judge 93 = .ok (.iload_n 1, 1) := dk_27 (dk_at dksX6_judge_3 21 rfl rfl)
theorem dX6_judge_94 : decode cX6_judge 94 = .ok (.iaload, 1) := dk_46 (dk_at dksX6_judge_3 22 rfl rfl)
theorem dX6_judge_95 : decode cX6_judge 95 = .ok (.if_icmp .ne 7, 3) := dk_160 0 7 (dk_at dksX6_judge_4 0 rfl rfl)
theorem dX6_judge_98 : decode cX6_judge 98 = .ok (.iconst (-1), 1) := dk_2 (dk_at dksX6_judge_4 3 rfl rfl)
theorem dX6_judge_99 : decode cX6_judge 99 = .ok (.goto 4, 3) := dk_167 0 4 (dk_at dksX6_judge_4 4 rfl rfl)
theorem dX6_judge_102 : decode cX6_judge 102 = .ok (.iload_n 2, 1) := dk_28 (dk_at dksX6_judge_4 7 rfl rfl)
theorem dX6_judge_103 : decode cX6_judge 103 = .ok (.ireturn, 1) := dk_172 (dk_at dksX6_judge_4 8 rfl rfl)
abbrev cX6_image : ByteArray := prog_30_method_88_code
def yX6_image : MethodName := ⟨RX6, "image", "()I"⟩
def dkwX6_image_1 : List UInt8 := [181, 1, 26, 42, 180, 1, 26, 172]
abbrev dktX6_image_1 : List UInt8 := dkwX6_image_1 ++ []
def dkwX6_image_0 : List UInt8 := [42, 42, 180, 0, 7, 42, 180, 0, 13, 182, 0, 165, 42, 4, 181, 1, 23, 42, 89, 180, 1, 26, 4, 96]
abbrev dktX6_image_0 : List UInt8 := dkwX6_image_0 ++ dktX6_image_1
theorem dksX6_image_0 : cX6_image.data.toList.drop 0 = dktX6_image_0 := by decide +kernel
theorem dksX6_image_1 : cX6_image.data.toList.drop 24 = dktX6_image_1 := dk_seg dksX6_image_0 24 rfl rfl
theorem dX6_image_0 : decode cX6_image 0 = .ok (.aload_n 0, 1) := dk_42 (dk_at dksX6_image_0 0 rfl rfl)
theorem dX6_image_1 : decode cX6_image 1 = .ok (.aload_n 0, 1) := dk_42 (dk_at dksX6_image_0 1 rfl rfl)
theorem dX6_image_2 : decode cX6_image 2 = .ok (.getfield 7, 3) := dk_180 0 7 (dk_at dksX6_image_0 2 rfl rfl)
theorem dX6_image_5 : decode cX6_image 5 = .ok (.aload_n 0, 1) := dk_42 (dk_at dksX6_image_0 5 rfl rfl)
theorem dX6_image_6 : decode cX6_image 6 = .ok (.getfield 13, 3) := dk_180 0 13 (dk_at dksX6_image_0 6 rfl rfl)
theorem dX6_image_9 : decode cX6_image 9 = .ok (.invokevirtual 165, 3) := dk_182 0 165 (dk_at dksX6_image_0 9 rfl rfl)
theorem dX6_image_12 : decode cX6_image 12 = .ok (.aload_n 0, 1) := dk_42 (dk_at dksX6_image_0 12 rfl rfl)
theorem dX6_image_13 : decode cX6_image 13 = .ok (.iconst 1, 1) := dk_4 (dk_at dksX6_image_0 13 rfl rfl)
theorem dX6_image_14 : decode cX6_image 14 = .ok (.putfield 279, 3) := dk_181 1 23 (dk_at dksX6_image_0 14 rfl rfl)
theorem dX6_image_17 : decode cX6_image 17 = .ok (.aload_n 0, 1) := dk_42 (dk_at dksX6_image_0 17 rfl rfl)
theorem dX6_image_18 : decode cX6_image 18 = .ok (.dup, 1) := dk_89 (dk_at dksX6_image_0 18 rfl rfl)
theorem dX6_image_19 : decode cX6_image 19 = .ok (.getfield 282, 3) := dk_180 1 26 (dk_at dksX6_image_0 19 rfl rfl)
theorem dX6_image_22 : decode cX6_image 22 = .ok (.iconst 1, 1) := dk_4 (dk_at dksX6_image_0 22 rfl rfl)
theorem dX6_image_23 : decode cX6_image 23 = .ok (.iadd, 1) := dk_96 (dk_at dksX6_image_0 23 rfl rfl)
theorem dX6_image_24 : decode cX6_image 24 = .ok (.putfield 282, 3) := dk_181 1 26 (dk_at dksX6_image_1 0 rfl rfl)
theorem dX6_image_27 : decode cX6_image 27 = .ok (.aload_n 0, 1) := dk_42 (dk_at dksX6_image_1 3 rfl rfl)
theorem dX6_image_28 : decode cX6_image 28 = .ok (.getfield 282, 3) := dk_180 1 26 (dk_at dksX6_image_1 4 rfl rfl)
theorem dX6_image_31 : decode cX6_image 31 = .ok (.ireturn, 1) := dk_172 (dk_at dksX6_image_1 7 rfl rfl)
abbrev cX6_restore : ByteArray := prog_30_method_89_code
def yX6_restore : MethodName := ⟨RX6, "restore", "()I"⟩
def dkwX6_restore_1 : List UInt8 := [182, 0, 165, 42, 180, 0, 7, 3, 46, 172]
abbrev dktX6_restore_1 : List UInt8 := dkwX6_restore_1 ++ []
def dkwX6_restore_0 : List UInt8 := [42, 180, 1, 23, 154, 0, 10, 42, 18, 224, 182, 0, 53, 172, 42, 42, 180, 0, 13, 42, 180, 0, 7]
abbrev dktX6_restore_0 : List UInt8 := dkwX6_restore_0 ++ dktX6_restore_1
theorem dksX6_restore_0 : cX6_restore.data.toList.drop 0 = dktX6_restore_0 := by decide +kernel
theorem dksX6_restore_1 : cX6_restore.data.toList.drop 23 = dktX6_restore_1 := dk_seg dksX6_restore_0 23 rfl rfl
theorem dX6_restore_0 : decode cX6_restore 0 = .ok (.aload_n 0, 1) := dk_42 (dk_at dksX6_restore_0 0 rfl rfl)
theorem dX6_restore_1 : decode cX6_restore 1 = .ok (.getfield 279, 3) := dk_180 1 23 (dk_at dksX6_restore_0 1 rfl rfl)
theorem dX6_restore_4 : decode cX6_restore 4 = .ok (.ifCond .ne 10, 3) := dk_154 0 10 (dk_at dksX6_restore_0 4 rfl rfl)
theorem dX6_restore_7 : decode cX6_restore 7 = .ok (.aload_n 0, 1) := dk_42 (dk_at dksX6_restore_0 7 rfl rfl)
theorem dX6_restore_8 : decode cX6_restore 8 = .ok (.ldc 224, 2) := dk_18 224 (dk_at dksX6_restore_0 8 rfl rfl)
theorem dX6_restore_10 : decode cX6_restore 10 = .ok (.invokevirtual 53, 3) := dk_182 0 53 (dk_at dksX6_restore_0 10 rfl rfl)
theorem dX6_restore_13 : decode cX6_restore 13 = .ok (.ireturn, 1) := dk_172 (dk_at dksX6_restore_0 13 rfl rfl)
theorem dX6_restore_14 : decode cX6_restore 14 = .ok (.aload_n 0, 1) := dk_42 (dk_at dksX6_restore_0 14 rfl rfl)
theorem dX6_restore_15 : decode cX6_restore 15 = .ok (.aload_n 0, 1) := dk_42 (dk_at dksX6_restore_0 15 rfl rfl)
theorem dX6_restore_16 : decode cX6_restore 16 = .ok (.getfield 13, 3) := dk_180 0 13 (dk_at dksX6_restore_0 16 rfl rfl)
theorem dX6_restore_19 : decode cX6_restore 19 = .ok (.aload_n 0, 1) := dk_42 (dk_at dksX6_restore_0 19 rfl rfl)
theorem dX6_restore_20 : decode cX6_restore 20 = .ok (.getfield 7, 3) := dk_180 0 7 (dk_at dksX6_restore_0 20 rfl rfl)
theorem dX6_restore_23 : decode cX6_restore 23 = .ok (.invokevirtual 165, 3) := dk_182 0 165 (dk_at dksX6_restore_1 0 rfl rfl)
theorem dX6_restore_26 : decode cX6_restore 26 = .ok (.aload_n 0, 1) := dk_42 (dk_at dksX6_restore_1 3 rfl rfl)
theorem dX6_restore_27 : decode cX6_restore 27 = .ok (.getfield 7, 3) := dk_180 0 7 (dk_at dksX6_restore_1 4 rfl rfl)
theorem dX6_restore_30 : decode cX6_restore 30 = .ok (.iconst 0, 1) := dk_3 (dk_at dksX6_restore_1 7 rfl rfl)
theorem dX6_restore_31 : decode cX6_restore 31 = .ok (.iaload, 1) := dk_46 (dk_at dksX6_restore_1 8 rfl rfl)
theorem dX6_restore_32 : decode cX6_restore 32 = .ok (.ireturn, 1) := dk_172 (dk_at dksX6_restore_1 9 rfl rfl)
abbrev cX6_tell : ByteArray := prog_30_method_90_code
def yX6_tell : MethodName := ⟨RX6, "tell", "(I)I"⟩
def dkwX6_tell_2 : List UInt8 := [180, 0, 7, 7, 46, 172]
abbrev dktX6_tell_2 : List UInt8 := dkwX6_tell_2 ++ []
def dkwX6_tell_1 : List UInt8 := [17, 0, 161, 42, 180, 0, 7, 7, 46, 96, 27, 79, 42, 180, 0, 7, 7, 92, 46, 4, 96, 79, 42]
abbrev dktX6_tell_1 : List UInt8 := dkwX6_tell_1 ++ dktX6_tell_2
def dkwX6_tell_0 : List UInt8 := [42, 180, 0, 7, 7, 46, 16, 20, 160, 0, 10, 42, 18, 57, 182, 0, 53, 172, 42, 180, 0, 7]
abbrev dktX6_tell_0 : List UInt8 := dkwX6_tell_0 ++ dktX6_tell_1
theorem dksX6_tell_0 : cX6_tell.data.toList.drop 0 = dktX6_tell_0 := by decide +kernel
theorem dksX6_tell_1 : cX6_tell.data.toList.drop 22 = dktX6_tell_1 := dk_seg dksX6_tell_0 22 rfl rfl
theorem dksX6_tell_2 : cX6_tell.data.toList.drop 45 = dktX6_tell_2 := dk_seg dksX6_tell_1 23 rfl rfl
theorem dX6_tell_0 : decode cX6_tell 0 = .ok (.aload_n 0, 1) := dk_42 (dk_at dksX6_tell_0 0 rfl rfl)
theorem dX6_tell_1 : decode cX6_tell 1 = .ok (.getfield 7, 3) := dk_180 0 7 (dk_at dksX6_tell_0 1 rfl rfl)
theorem dX6_tell_4 : decode cX6_tell 4 = .ok (.iconst 4, 1) := dk_7 (dk_at dksX6_tell_0 4 rfl rfl)
theorem dX6_tell_5 : decode cX6_tell 5 = .ok (.iaload, 1) := dk_46 (dk_at dksX6_tell_0 5 rfl rfl)
theorem dX6_tell_6 : decode cX6_tell 6 = .ok (.bipush 20, 2) := dk_16 20 (dk_at dksX6_tell_0 6 rfl rfl)
theorem dX6_tell_8 : decode cX6_tell 8 = .ok (.if_icmp .ne 10, 3) := dk_160 0 10 (dk_at dksX6_tell_0 8 rfl rfl)
theorem dX6_tell_11 : decode cX6_tell 11 = .ok (.aload_n 0, 1) := dk_42 (dk_at dksX6_tell_0 11 rfl rfl)
theorem dX6_tell_12 : decode cX6_tell 12 = .ok (.ldc 57, 2) := dk_18 57 (dk_at dksX6_tell_0 12 rfl rfl)
theorem dX6_tell_14 : decode cX6_tell 14 = .ok (.invokevirtual 53, 3) := dk_182 0 53 (dk_at dksX6_tell_0 14 rfl rfl)
theorem dX6_tell_17 : decode cX6_tell 17 = .ok (.ireturn, 1) := dk_172 (dk_at dksX6_tell_0 17 rfl rfl)
theorem dX6_tell_18 : decode cX6_tell 18 = .ok (.aload_n 0, 1) := dk_42 (dk_at dksX6_tell_0 18 rfl rfl)
theorem dX6_tell_19 : decode cX6_tell 19 = .ok (.getfield 7, 3) := dk_180 0 7 (dk_at dksX6_tell_0 19 rfl rfl)
theorem dX6_tell_22 : decode cX6_tell 22 = .ok (.sipush 161, 3) := dk_17 0 161 (dk_at dksX6_tell_1 0 rfl rfl)
theorem dX6_tell_25 : decode cX6_tell 25 = .ok (.aload_n 0, 1) := dk_42 (dk_at dksX6_tell_1 3 rfl rfl)
theorem dX6_tell_26 : decode cX6_tell 26 = .ok (.getfield 7, 3) := dk_180 0 7 (dk_at dksX6_tell_1 4 rfl rfl)
theorem dX6_tell_29 : decode cX6_tell 29 = .ok (.iconst 4, 1) := dk_7 (dk_at dksX6_tell_1 7 rfl rfl)
theorem dX6_tell_30 : decode cX6_tell 30 = .ok (.iaload, 1) := dk_46 (dk_at dksX6_tell_1 8 rfl rfl)
theorem dX6_tell_31 : decode cX6_tell 31 = .ok (.iadd, 1) := dk_96 (dk_at dksX6_tell_1 9 rfl rfl)
theorem dX6_tell_32 : decode cX6_tell 32 = .ok (.iload_n 1, 1) := dk_27 (dk_at dksX6_tell_1 10 rfl rfl)
theorem dX6_tell_33 : decode cX6_tell 33 = .ok (.iastore, 1) := dk_79 (dk_at dksX6_tell_1 11 rfl rfl)
theorem dX6_tell_34 : decode cX6_tell 34 = .ok (.aload_n 0, 1) := dk_42 (dk_at dksX6_tell_1 12 rfl rfl)
theorem dX6_tell_35 : decode cX6_tell 35 = .ok (.getfield 7, 3) := dk_180 0 7 (dk_at dksX6_tell_1 13 rfl rfl)
theorem dX6_tell_38 : decode cX6_tell 38 = .ok (.iconst 4, 1) := dk_7 (dk_at dksX6_tell_1 16 rfl rfl)
theorem dX6_tell_39 : decode cX6_tell 39 = .ok (.dup2, 1) := dk_92 (dk_at dksX6_tell_1 17 rfl rfl)
theorem dX6_tell_40 : decode cX6_tell 40 = .ok (.iaload, 1) := dk_46 (dk_at dksX6_tell_1 18 rfl rfl)
theorem dX6_tell_41 : decode cX6_tell 41 = .ok (.iconst 1, 1) := dk_4 (dk_at dksX6_tell_1 19 rfl rfl)
theorem dX6_tell_42 : decode cX6_tell 42 = .ok (.iadd, 1) := dk_96 (dk_at dksX6_tell_1 20 rfl rfl)
theorem dX6_tell_43 : decode cX6_tell 43 = .ok (.iastore, 1) := dk_79 (dk_at dksX6_tell_1 21 rfl rfl)
theorem dX6_tell_44 : decode cX6_tell 44 = .ok (.aload_n 0, 1) := dk_42 (dk_at dksX6_tell_1 22 rfl rfl)
theorem dX6_tell_45 : decode cX6_tell 45 = .ok (.getfield 7, 3) := dk_180 0 7 (dk_at dksX6_tell_2 0 rfl rfl)
theorem dX6_tell_48 : decode cX6_tell 48 = .ok (.iconst 4, 1) := dk_7 (dk_at dksX6_tell_2 3 rfl rfl)
theorem dX6_tell_49 : decode cX6_tell 49 = .ok (.iaload, 1) := dk_46 (dk_at dksX6_tell_2 4 rfl rfl)
theorem dX6_tell_50 : decode cX6_tell 50 = .ok (.ireturn, 1) := dk_172 (dk_at dksX6_tell_2 5 rfl rfl)
abbrev cX6_check : ByteArray := prog_30_method_91_code
def yX6_check : MethodName := ⟨RX6, "check", "()I"⟩
def dkwX6_check_4 : List UInt8 := [182, 0, 165, 29, 153, 0, 7, 3, 167, 0, 6, 4, 28, 96, 172]
abbrev dktX6_check_4 : List UInt8 := dkwX6_check_4 ++ []
def dkwX6_check_3 : List UInt8 := [153, 0, 7, 4, 167, 0, 4, 3, 96, 61, 167, 255, 207, 42, 42, 180, 0, 16, 42, 180, 0, 7]
abbrev dktX6_check_3 : List UInt8 := dkwX6_check_3 ++ dktX6_check_4
def dkwX6_check_2 : List UInt8 := [182, 0, 186, 42, 180, 0, 7, 17, 0, 161, 28, 96, 46, 160, 0, 7, 4, 167, 0, 4, 3, 62, 28, 29]
abbrev dktX6_check_2 : List UInt8 := dkwX6_check_2 ++ dktX6_check_3
def dkwX6_check_1 : List UInt8 := [182, 0, 165, 3, 61, 4, 62, 28, 27, 162, 0, 50, 29, 153, 0, 46, 42, 182, 0, 179, 42, 6]
abbrev dktX6_check_1 : List UInt8 := dkwX6_check_1 ++ dktX6_check_2
def dkwX6_check_0 : List UInt8 := [42, 180, 0, 7, 7, 46, 60, 42, 180, 0, 7, 7, 3, 79, 42, 42, 180, 0, 7, 42, 180, 0, 16]
abbrev dktX6_check_0 : List UInt8 := dkwX6_check_0 ++ dktX6_check_1
theorem dksX6_check_0 : cX6_check.data.toList.drop 0 = dktX6_check_0 := by decide +kernel
theorem dksX6_check_1 : cX6_check.data.toList.drop 23 = dktX6_check_1 := dk_seg dksX6_check_0 23 rfl rfl
theorem dksX6_check_2 : cX6_check.data.toList.drop 45 = dktX6_check_2 := dk_seg dksX6_check_1 22 rfl rfl
theorem dksX6_check_3 : cX6_check.data.toList.drop 69 = dktX6_check_3 := dk_seg dksX6_check_2 24 rfl rfl
theorem dksX6_check_4 : cX6_check.data.toList.drop 91 = dktX6_check_4 := dk_seg dksX6_check_3 22 rfl rfl
theorem dX6_check_0 : decode cX6_check 0 = .ok (.aload_n 0, 1) := dk_42 (dk_at dksX6_check_0 0 rfl rfl)
theorem dX6_check_1 : decode cX6_check 1 = .ok (.getfield 7, 3) := dk_180 0 7 (dk_at dksX6_check_0 1 rfl rfl)
theorem dX6_check_4 : decode cX6_check 4 = .ok (.iconst 4, 1) := dk_7 (dk_at dksX6_check_0 4 rfl rfl)
theorem dX6_check_5 : decode cX6_check 5 = .ok (.iaload, 1) := dk_46 (dk_at dksX6_check_0 5 rfl rfl)
theorem dX6_check_6 : decode cX6_check 6 = .ok (.istore_n 1, 1) := dk_60 (dk_at dksX6_check_0 6 rfl rfl)
theorem dX6_check_7 : decode cX6_check 7 = .ok (.aload_n 0, 1) := dk_42 (dk_at dksX6_check_0 7 rfl rfl)
theorem dX6_check_8 : decode cX6_check 8 = .ok (.getfield 7, 3) := dk_180 0 7 (dk_at dksX6_check_0 8 rfl rfl)
theorem dX6_check_11 : decode cX6_check 11 = .ok (.iconst 4, 1) := dk_7 (dk_at dksX6_check_0 11 rfl rfl)
theorem dX6_check_12 : decode cX6_check 12 = .ok (.iconst 0, 1) := dk_3 (dk_at dksX6_check_0 12 rfl rfl)
theorem dX6_check_13 : decode cX6_check 13 = .ok (.iastore, 1) := dk_79 (dk_at dksX6_check_0 13 rfl rfl)
theorem dX6_check_14 : decode cX6_check 14 = .ok (.aload_n 0, 1) := dk_42 (dk_at dksX6_check_0 14 rfl rfl)
theorem dX6_check_15 : decode cX6_check 15 = .ok (.aload_n 0, 1) := dk_42 (dk_at dksX6_check_0 15 rfl rfl)
theorem dX6_check_16 : decode cX6_check 16 = .ok (.getfield 7, 3) := dk_180 0 7 (dk_at dksX6_check_0 16 rfl rfl)
theorem dX6_check_19 : decode cX6_check 19 = .ok (.aload_n 0, 1) := dk_42 (dk_at dksX6_check_0 19 rfl rfl)
theorem dX6_check_20 : decode cX6_check 20 = .ok (.getfield 16, 3) := dk_180 0 16 (dk_at dksX6_check_0 20 rfl rfl)
theorem dX6_check_23 : decode cX6_check 23 = .ok (.invokevirtual 165, 3) := dk_182 0 165 (dk_at dksX6_check_1 0 rfl rfl)
theorem dX6_check_26 : decode cX6_check 26 = .ok (.iconst 0, 1) := dk_3 (dk_at dksX6_check_1 3 rfl rfl)
theorem dX6_check_27 : decode cX6_check 27 = .ok (.istore_n 2, 1) := dk_61 (dk_at dksX6_check_1 4 rfl rfl)
theorem dX6_check_28 : decode cX6_check 28 = .ok (.iconst 1, 1) := dk_4 (dk_at dksX6_check_1 5 rfl rfl)
theorem dX6_check_29 : decode cX6_check 29 = .ok (.istore_n 3, 1) := dk_62 (dk_at dksX6_check_1 6 rfl rfl)
theorem dX6_check_30 : decode cX6_check 30 = .ok (.iload_n 2, 1) := dk_28 (dk_at dksX6_check_1 7 rfl rfl)
theorem dX6_check_31 : decode cX6_check 31 = .ok (.iload_n 1, 1) := dk_27 (dk_at dksX6_check_1 8 rfl rfl)
theorem dX6_check_32 : decode cX6_check 32 = .ok (.if_icmp .ge 50, 3) := dk_162 0 50 (dk_at dksX6_check_1 9 rfl rfl)
theorem dX6_check_35 : decode cX6_check 35 = .ok (.iload_n 3, 1) := dk_29 (dk_at dksX6_check_1 12 rfl rfl)
theorem dX6_check_36 : decode cX6_check 36 = .ok (.ifCond .eq 46, 3) := dk_153 0 46 (dk_at dksX6_check_1 13 rfl rfl)
theorem dX6_check_39 : decode cX6_check 39 = .ok (.aload_n 0, 1) := dk_42 (dk_at dksX6_check_1 16 rfl rfl)
theorem dX6_check_40 : decode cX6_check 40 = .ok (.invokevirtual 179, 3) := dk_182 0 179 (dk_at dksX6_check_1 17 rfl rfl)
theorem dX6_check_43 : decode cX6_check 43 = .ok (.aload_n 0, 1) := dk_42 (dk_at dksX6_check_1 20 rfl rfl)
theorem dX6_check_44 : decode cX6_check 44 = .ok (.iconst 3, 1) := dk_6 (dk_at dksX6_check_1 21 rfl rfl)
theorem dX6_check_45 : decode cX6_check 45 = .ok (.invokevirtual 186, 3) := dk_182 0 186 (dk_at dksX6_check_2 0 rfl rfl)
theorem dX6_check_48 : decode cX6_check 48 = .ok (.aload_n 0, 1) := dk_42 (dk_at dksX6_check_2 3 rfl rfl)
theorem dX6_check_49 : decode cX6_check 49 = .ok (.getfield 7, 3) := dk_180 0 7 (dk_at dksX6_check_2 4 rfl rfl)
theorem dX6_check_52 : decode cX6_check 52 = .ok (.sipush 161, 3) := dk_17 0 161 (dk_at dksX6_check_2 7 rfl rfl)
theorem dX6_check_55 : decode cX6_check 55 = .ok (.iload_n 2, 1) := dk_28 (dk_at dksX6_check_2 10 rfl rfl)
theorem dX6_check_56 : decode cX6_check 56 = .ok (.iadd, 1) := dk_96 (dk_at dksX6_check_2 11 rfl rfl)
theorem dX6_check_57 : decode cX6_check 57 = .ok (.iaload, 1) := dk_46 (dk_at dksX6_check_2 12 rfl rfl)
theorem dX6_check_58 : decode cX6_check 58 = .ok (.if_icmp .ne 7, 3) := dk_160 0 7 (dk_at dksX6_check_2 13 rfl rfl)
theorem dX6_check_61 : decode cX6_check 61 = .ok (.iconst 1, 1) := dk_4 (dk_at dksX6_check_2 16 rfl rfl)
theorem dX6_check_62 : decode cX6_check 62 = .ok (.goto 4, 3) := dk_167 0 4 (dk_at dksX6_check_2 17 rfl rfl)
theorem dX6_check_65 : decode cX6_check 65 = .ok (.iconst 0, 1) := dk_3 (dk_at dksX6_check_2 20 rfl rfl)
theorem dX6_check_66 : decode cX6_check 66 = .ok (.istore_n 3, 1) := dk_62 (dk_at dksX6_check_2 21 rfl rfl)
theorem dX6_check_67 : decode cX6_check 67 = .ok (.iload_n 2, 1) := dk_28 (dk_at dksX6_check_2 22 rfl rfl)
theorem dX6_check_68 : decode cX6_check 68 = .ok (.iload_n 3, 1) := dk_29 (dk_at dksX6_check_2 23 rfl rfl)
theorem dX6_check_69 : decode cX6_check 69 = .ok (.ifCond .eq 7, 3) := dk_153 0 7 (dk_at dksX6_check_3 0 rfl rfl)
theorem dX6_check_72 : decode cX6_check 72 = .ok (.iconst 1, 1) := dk_4 (dk_at dksX6_check_3 3 rfl rfl)
theorem dX6_check_73 : decode cX6_check 73 = .ok (.goto 4, 3) := dk_167 0 4 (dk_at dksX6_check_3 4 rfl rfl)
theorem dX6_check_76 : decode cX6_check 76 = .ok (.iconst 0, 1) := dk_3 (dk_at dksX6_check_3 7 rfl rfl)
theorem dX6_check_77 : decode cX6_check 77 = .ok (.iadd, 1) := dk_96 (dk_at dksX6_check_3 8 rfl rfl)
theorem dX6_check_78 : decode cX6_check 78 = .ok (.istore_n 2, 1) := dk_61 (dk_at dksX6_check_3 9 rfl rfl)
theorem dX6_check_79 : decode cX6_check 79 = .ok (.goto (-49), 3) := dk_167 255 207 (dk_at dksX6_check_3 10 rfl rfl)
theorem dX6_check_82 : decode cX6_check 82 = .ok (.aload_n 0, 1) := dk_42 (dk_at dksX6_check_3 13 rfl rfl)
theorem dX6_check_83 : decode cX6_check 83 = .ok (.aload_n 0, 1) := dk_42 (dk_at dksX6_check_3 14 rfl rfl)
theorem dX6_check_84 : decode cX6_check 84 = .ok (.getfield 16, 3) := dk_180 0 16 (dk_at dksX6_check_3 15 rfl rfl)
theorem dX6_check_87 : decode cX6_check 87 = .ok (.aload_n 0, 1) := dk_42 (dk_at dksX6_check_3 18 rfl rfl)
theorem dX6_check_88 : decode cX6_check 88 = .ok (.getfield 7, 3) := dk_180 0 7 (dk_at dksX6_check_3 19 rfl rfl)
theorem dX6_check_91 : decode cX6_check 91 = .ok (.invokevirtual 165, 3) := dk_182 0 165 (dk_at dksX6_check_4 0 rfl rfl)
theorem dX6_check_94 : decode cX6_check 94 = .ok (.iload_n 3, 1) := dk_29 (dk_at dksX6_check_4 3 rfl rfl)
theorem dX6_check_95 : decode cX6_check 95 = .ok (.ifCond .eq 7, 3) := dk_153 0 7 (dk_at dksX6_check_4 4 rfl rfl)
theorem dX6_check_98 : decode cX6_check 98 = .ok (.iconst 0, 1) := dk_3 (dk_at dksX6_check_4 7 rfl rfl)
theorem dX6_check_99 : decode cX6_check 99 = .ok (.goto 6, 3) := dk_167 0 6 (dk_at dksX6_check_4 8 rfl rfl)
theorem dX6_check_102 : decode cX6_check 102 = .ok (.iconst 1, 1) := dk_4 (dk_at dksX6_check_4 11 rfl rfl)
theorem dX6_check_103 : decode cX6_check 103 = .ok (.iload_n 2, 1) := dk_28 (dk_at dksX6_check_4 12 rfl rfl)
theorem dX6_check_104 : decode cX6_check 104 = .ok (.iadd, 1) := dk_96 (dk_at dksX6_check_4 13 rfl rfl)
theorem dX6_check_105 : decode cX6_check 105 = .ok (.ireturn, 1) := dk_172 (dk_at dksX6_check_4 14 rfl rfl)
abbrev cX6_count : ByteArray := prog_30_method_92_code
def yX6_count : MethodName := ⟨RX6, "count", "(I)I"⟩
def dkwX6_count_5 : List UInt8 := [172]
abbrev dktX6_count_5 : List UInt8 := dkwX6_count_5 ++ []
def dkwX6_count_4 : List UInt8 := [180, 0, 7, 7, 46, 172, 42, 180, 0, 249, 172, 42, 180, 0, 7, 4, 46, 172, 42, 18, 52, 182, 0, 53]
abbrev dktX6_count_4 : List UInt8 := dkwX6_count_4 ++ dktX6_count_5
def dkwX6_count_3 : List UInt8 := [182, 0, 186, 172, 42, 182, 0, 218, 172, 42, 182, 0, 240, 172, 42, 180, 0, 7, 6, 46, 172, 42]
abbrev dktX6_count_3 : List UInt8 := dkwX6_count_3 ++ dktX6_count_4
def dkwX6_count_2 : List UInt8 := [42, 180, 0, 7, 5, 46, 172, 42, 180, 0, 7, 3, 46, 172, 42, 6, 182, 0, 186, 172, 42, 7]
abbrev dktX6_count_2 : List UInt8 := dkwX6_count_2 ++ dktX6_count_3
def dkwX6_count_1 : List UInt8 := [170, 0, 0, 0, 0, 0, 117, 0, 0, 0, 0, 0, 0, 0, 9, 0, 0, 0, 55, 0, 0, 0, 62, 0, 0, 0, 69, 0, 0, 0, 75, 0, 0, 0, 81, 0, 0, 0, 86, 0, 0, 0, 91, 0, 0, 0, 98, 0, 0, 0, 105, 0, 0, 0, 110]
abbrev dktX6_count_1 : List UInt8 := dkwX6_count_1 ++ dktX6_count_2
def dkwX6_count_0 : List UInt8 := [27]
abbrev dktX6_count_0 : List UInt8 := dkwX6_count_0 ++ dktX6_count_1
theorem dksX6_count_0 : cX6_count.data.toList.drop 0 = dktX6_count_0 := by decide +kernel
theorem dksX6_count_1 : cX6_count.data.toList.drop 1 = dktX6_count_1 := dk_seg dksX6_count_0 1 rfl rfl
theorem dksX6_count_2 : cX6_count.data.toList.drop 56 = dktX6_count_2 := dk_seg dksX6_count_1 55 rfl rfl
theorem dksX6_count_3 : cX6_count.data.toList.drop 78 = dktX6_count_3 := dk_seg dksX6_count_2 22 rfl rfl
theorem dksX6_count_4 : cX6_count.data.toList.drop 100 = dktX6_count_4 := dk_seg dksX6_count_3 22 rfl rfl
theorem dksX6_count_5 : cX6_count.data.toList.drop 124 = dktX6_count_5 := dk_seg dksX6_count_4 24 rfl rfl
theorem dX6_count_0 : decode cX6_count 0 = .ok (.iload_n 1, 1) := dk_27 (dk_at dksX6_count_0 0 rfl rfl)
theorem dX6_count_1 : decode cX6_count 1 = .ok (.tableswitch 117 0 9 #[55, 62, 69, 75, 81, 86, 91, 98, 105, 110], 55) := by decide +kernel
theorem dX6_count_56 : decode cX6_count 56 = .ok (.aload_n 0, 1) := dk_42 (dk_at dksX6_count_2 0 rfl rfl)
theorem dX6_count_57 : decode cX6_count 57 = .ok (.getfield 7, 3) := dk_180 0 7 (dk_at dksX6_count_2 1 rfl rfl)
theorem dX6_count_60 : decode cX6_count 60 = .ok (.iconst 2, 1) := dk_5 (dk_at dksX6_count_2 4 rfl rfl)
theorem dX6_count_61 : decode cX6_count 61 = .ok (.iaload, 1) := dk_46 (dk_at dksX6_count_2 5 rfl rfl)
theorem dX6_count_62 : decode cX6_count 62 = .ok (.ireturn, 1) := dk_172 (dk_at dksX6_count_2 6 rfl rfl)
theorem dX6_count_63 : decode cX6_count 63 = .ok (.aload_n 0, 1) := dk_42 (dk_at dksX6_count_2 7 rfl rfl)
theorem dX6_count_64 : decode cX6_count 64 = .ok (.getfield 7, 3) := dk_180 0 7 (dk_at dksX6_count_2 8 rfl rfl)
theorem dX6_count_67 : decode cX6_count 67 = .ok (.iconst 0, 1) := dk_3 (dk_at dksX6_count_2 11 rfl rfl)
theorem dX6_count_68 : decode cX6_count 68 = .ok (.iaload, 1) := dk_46 (dk_at dksX6_count_2 12 rfl rfl)
theorem dX6_count_69 : decode cX6_count 69 = .ok (.ireturn, 1) := dk_172 (dk_at dksX6_count_2 13 rfl rfl)
theorem dX6_count_70 : decode cX6_count 70 = .ok (.aload_n 0, 1) := dk_42 (dk_at dksX6_count_2 14 rfl rfl)
theorem dX6_count_71 : decode cX6_count 71 = .ok (.iconst 3, 1) := dk_6 (dk_at dksX6_count_2 15 rfl rfl)
theorem dX6_count_72 : decode cX6_count 72 = .ok (.invokevirtual 186, 3) := dk_182 0 186 (dk_at dksX6_count_2 16 rfl rfl)
theorem dX6_count_75 : decode cX6_count 75 = .ok (.ireturn, 1) := dk_172 (dk_at dksX6_count_2 19 rfl rfl)
theorem dX6_count_76 : decode cX6_count 76 = .ok (.aload_n 0, 1) := dk_42 (dk_at dksX6_count_2 20 rfl rfl)
theorem dX6_count_77 : decode cX6_count 77 = .ok (.iconst 4, 1) := dk_7 (dk_at dksX6_count_2 21 rfl rfl)
theorem dX6_count_78 : decode cX6_count 78 = .ok (.invokevirtual 186, 3) := dk_182 0 186 (dk_at dksX6_count_3 0 rfl rfl)
theorem dX6_count_81 : decode cX6_count 81 = .ok (.ireturn, 1) := dk_172 (dk_at dksX6_count_3 3 rfl rfl)
theorem dX6_count_82 : decode cX6_count 82 = .ok (.aload_n 0, 1) := dk_42 (dk_at dksX6_count_3 4 rfl rfl)
theorem dX6_count_83 : decode cX6_count 83 = .ok (.invokevirtual 218, 3) := dk_182 0 218 (dk_at dksX6_count_3 5 rfl rfl)
theorem dX6_count_86 : decode cX6_count 86 = .ok (.ireturn, 1) := dk_172 (dk_at dksX6_count_3 8 rfl rfl)
theorem dX6_count_87 : decode cX6_count 87 = .ok (.aload_n 0, 1) := dk_42 (dk_at dksX6_count_3 9 rfl rfl)
theorem dX6_count_88 : decode cX6_count 88 = .ok (.invokevirtual 240, 3) := dk_182 0 240 (dk_at dksX6_count_3 10 rfl rfl)
theorem dX6_count_91 : decode cX6_count 91 = .ok (.ireturn, 1) := dk_172 (dk_at dksX6_count_3 13 rfl rfl)
theorem dX6_count_92 : decode cX6_count 92 = .ok (.aload_n 0, 1) := dk_42 (dk_at dksX6_count_3 14 rfl rfl)
theorem dX6_count_93 : decode cX6_count 93 = .ok (.getfield 7, 3) := dk_180 0 7 (dk_at dksX6_count_3 15 rfl rfl)
theorem dX6_count_96 : decode cX6_count 96 = .ok (.iconst 3, 1) := dk_6 (dk_at dksX6_count_3 18 rfl rfl)
theorem dX6_count_97 : decode cX6_count 97 = .ok (.iaload, 1) := dk_46 (dk_at dksX6_count_3 19 rfl rfl)
theorem dX6_count_98 : decode cX6_count 98 = .ok (.ireturn, 1) := dk_172 (dk_at dksX6_count_3 20 rfl rfl)
theorem dX6_count_99 : decode cX6_count 99 = .ok (.aload_n 0, 1) := dk_42 (dk_at dksX6_count_3 21 rfl rfl)
theorem dX6_count_100 : decode cX6_count 100 = .ok (.getfield 7, 3) := dk_180 0 7 (dk_at dksX6_count_4 0 rfl rfl)
theorem dX6_count_103 : decode cX6_count 103 = .ok (.iconst 4, 1) := dk_7 (dk_at dksX6_count_4 3 rfl rfl)
theorem dX6_count_104 : decode cX6_count 104 = .ok (.iaload, 1) := dk_46 (dk_at dksX6_count_4 4 rfl rfl)
theorem dX6_count_105 : decode cX6_count 105 = .ok (.ireturn, 1) := dk_172 (dk_at dksX6_count_4 5 rfl rfl)
theorem dX6_count_106 : decode cX6_count 106 = .ok (.aload_n 0, 1) := dk_42 (dk_at dksX6_count_4 6 rfl rfl)
theorem dX6_count_107 : decode cX6_count 107 = .ok (.getfield 249, 3) := dk_180 0 249 (dk_at dksX6_count_4 7 rfl rfl)
theorem dX6_count_110 : decode cX6_count 110 = .ok (.ireturn, 1) := dk_172 (dk_at dksX6_count_4 10 rfl rfl)
theorem dX6_count_111 : decode cX6_count 111 = .ok (.aload_n 0, 1) := dk_42 (dk_at dksX6_count_4 11 rfl rfl)
theorem dX6_count_112 : decode cX6_count 112 = .ok (.getfield 7, 3) := dk_180 0 7 (dk_at dksX6_count_4 12 rfl rfl)
theorem dX6_count_115 : decode cX6_count 115 = .ok (.iconst 1, 1) := dk_4 (dk_at dksX6_count_4 15 rfl rfl)
theorem dX6_count_116 : decode cX6_count 116 = .ok (.iaload, 1) := dk_46 (dk_at dksX6_count_4 16 rfl rfl)
theorem dX6_count_117 : decode cX6_count 117 = .ok (.ireturn, 1) := dk_172 (dk_at dksX6_count_4 17 rfl rfl)
theorem dX6_count_118 : decode cX6_count 118 = .ok (.aload_n 0, 1) := dk_42 (dk_at dksX6_count_4 18 rfl rfl)
theorem dX6_count_119 : decode cX6_count 119 = .ok (.ldc 52, 2) := dk_18 52 (dk_at dksX6_count_4 19 rfl rfl)
theorem dX6_count_121 : decode cX6_count 121 = .ok (.invokevirtual 53, 3) := dk_182 0 53 (dk_at dksX6_count_4 21 rfl rfl)
theorem dX6_count_124 : decode cX6_count 124 = .ok (.ireturn, 1) := dk_172 (dk_at dksX6_count_5 0 rfl rfl)
abbrev cX6_told : ByteArray := prog_30_method_93_code
def yX6_told : MethodName := ⟨RX6, "told", "(I)I"⟩
def dkwX6_told_1 : List UInt8 := [172]
abbrev dktX6_told_1 : List UInt8 := dkwX6_told_1 ++ []
def dkwX6_told_0 : List UInt8 := [27, 4, 8, 184, 0, 48, 153, 0, 12, 42, 180, 0, 22, 27, 46, 167, 0, 9, 42, 18, 52, 182, 0, 53]
abbrev dktX6_told_0 : List UInt8 := dkwX6_told_0 ++ dktX6_told_1
theorem dksX6_told_0 : cX6_told.data.toList.drop 0 = dktX6_told_0 := by decide +kernel
theorem dksX6_told_1 : cX6_told.data.toList.drop 24 = dktX6_told_1 := dk_seg dksX6_told_0 24 rfl rfl
theorem dX6_told_0 : decode cX6_told 0 = .ok (.iload_n 1, 1) := dk_27 (dk_at dksX6_told_0 0 rfl rfl)
theorem dX6_told_1 : decode cX6_told 1 = .ok (.iconst 1, 1) := dk_4 (dk_at dksX6_told_0 1 rfl rfl)
theorem dX6_told_2 : decode cX6_told 2 = .ok (.iconst 5, 1) := dk_8 (dk_at dksX6_told_0 2 rfl rfl)
theorem dX6_told_3 : decode cX6_told 3 = .ok (.invokestatic 48, 3) := dk_184 0 48 (dk_at dksX6_told_0 3 rfl rfl)
theorem dX6_told_6 : decode cX6_told 6 = .ok (.ifCond .eq 12, 3) := dk_153 0 12 (dk_at dksX6_told_0 6 rfl rfl)
theorem dX6_told_9 : decode cX6_told 9 = .ok (.aload_n 0, 1) := dk_42 (dk_at dksX6_told_0 9 rfl rfl)
theorem dX6_told_10 : decode cX6_told 10 = .ok (.getfield 22, 3) := dk_180 0 22 (dk_at dksX6_told_0 10 rfl rfl)
theorem dX6_told_13 : decode cX6_told 13 = .ok (.iload_n 1, 1) := dk_27 (dk_at dksX6_told_0 13 rfl rfl)
theorem dX6_told_14 : decode cX6_told 14 = .ok (.iaload, 1) := dk_46 (dk_at dksX6_told_0 14 rfl rfl)
theorem dX6_told_15 : decode cX6_told 15 = .ok (.goto 9, 3) := dk_167 0 9 (dk_at dksX6_told_0 15 rfl rfl)
theorem dX6_told_18 : decode cX6_told 18 = .ok (.aload_n 0, 1) := dk_42 (dk_at dksX6_told_0 18 rfl rfl)
theorem dX6_told_19 : decode cX6_told 19 = .ok (.ldc 52, 2) := dk_18 52 (dk_at dksX6_told_0 19 rfl rfl)
theorem dX6_told_21 : decode cX6_told 21 = .ok (.invokevirtual 53, 3) := dk_182 0 53 (dk_at dksX6_told_0 21 rfl rfl)
theorem dX6_told_24 : decode cX6_told 24 = .ok (.ireturn, 1) := dk_172 (dk_at dksX6_told_1 0 rfl rfl)
theorem q91 : (Jvm.Cond.initialized "WellRefusesModel") ∈ lw_all := lw_g (lw_at lw_m1 10 rfl) rfl
theorem q1411 : (Jvm.Cond.instantiable "WellRefusesModel" (29 : Nat)) ∈ lw_all := lw_g (lw_at lw_m6 130 rfl) rfl
theorem q1413 : (Jvm.Cond.instanceMethod ({ cls := "WellRefusesModel", name := "<init>", desc := "()V" } : Jvm.MethodName)) ∈ lw_all := lw_g (lw_at lw_m6 132 rfl) rfl
theorem q1414 : (Jvm.Cond.code ({ cls := "WellRefusesModel", name := "<init>", desc := "()V" } : Jvm.MethodName) prog_30_method_1_code (1 : Nat) (Option.none : Option Jvm.ClassFile.FieldType)) ∈ lw_all := lw_g (lw_at lw_m6 133 rfl) rfl
theorem q1415 : (Jvm.Cond.methodLink "WellRefusesModel" (1 : Nat) ({ cls := "java/lang/Object", name := "<init>", desc := "()V" } : Jvm.MethodName)) ∈ lw_all := lw_g (lw_at lw_m6 134 rfl) rfl
theorem q1416 : (Jvm.Cond.fieldLink "WellRefusesModel" (7 : Nat) "WellRefusesModel" "row" "[I") ∈ lw_all := lw_g (lw_at lw_m6 135 rfl) rfl
theorem q1417 : (Jvm.Cond.fieldLink "WellRefusesModel" (13 : Nat) "WellRefusesModel" "kept" "[I") ∈ lw_all := lw_g (lw_at lw_m6 136 rfl) rfl
theorem q1418 : (Jvm.Cond.fieldLink "WellRefusesModel" (16 : Nat) "WellRefusesModel" "tried" "[I") ∈ lw_all := lw_g (lw_at lw_m6 137 rfl) rfl
theorem q1419 : (Jvm.Cond.fieldLink "WellRefusesModel" (19 : Nat) "WellRefusesModel" "before" "[I") ∈ lw_all := lw_g (lw_at lw_m6 138 rfl) rfl
theorem q1420 : (Jvm.Cond.fieldLink "WellRefusesModel" (279 : Nat) "WellRefusesModel" "isKept" "Z") ∈ lw_all := lw_g (lw_at lw_m6 139 rfl) rfl
theorem q1421 : (Jvm.Cond.fieldLink "WellRefusesModel" (282 : Nat) "WellRefusesModel" "images" "I") ∈ lw_all := lw_g (lw_at lw_m6 140 rfl) rfl
theorem q1422 : (Jvm.Cond.fieldLink "WellRefusesModel" (22 : Nat) "WellRefusesModel" "found" "[I") ∈ lw_all := lw_g (lw_at lw_m6 141 rfl) rfl
theorem q1423 : (Jvm.Cond.fieldLink "WellRefusesModel" (96 : Nat) "WellRefusesModel" "use" "I") ∈ lw_all := lw_g (lw_at lw_m6 142 rfl) rfl
theorem q1424 : (Jvm.Cond.fieldLink "WellRefusesModel" (103 : Nat) "WellRefusesModel" "at" "I") ∈ lw_all := lw_g (lw_at lw_m6 143 rfl) rfl
theorem q1425 : (Jvm.Cond.fieldLink "WellRefusesModel" (93 : Nat) "WellRefusesModel" "end" "I") ∈ lw_all := lw_g (lw_at lw_m6 144 rfl) rfl
theorem q1426 : (Jvm.Cond.fieldLink "WellRefusesModel" (131 : Nat) "WellRefusesModel" "open" "I") ∈ lw_all := lw_g (lw_at lw_m6 145 rfl) rfl
theorem q1427 : (Jvm.Cond.fieldLink "WellRefusesModel" (116 : Nat) "WellRefusesModel" "namedA" "I") ∈ lw_all := lw_g (lw_at lw_m6 146 rfl) rfl
theorem q1428 : (Jvm.Cond.fieldLink "WellRefusesModel" (119 : Nat) "WellRefusesModel" "namedB" "I") ∈ lw_all := lw_g (lw_at lw_m6 147 rfl) rfl
theorem q1429 : (Jvm.Cond.fieldLink "WellRefusesModel" (122 : Nat) "WellRefusesModel" "namedC" "I") ∈ lw_all := lw_g (lw_at lw_m6 148 rfl) rfl
theorem q1430 : (Jvm.Cond.fieldLink "WellRefusesModel" (99 : Nat) "WellRefusesModel" "good" "Z") ∈ lw_all := lw_g (lw_at lw_m6 149 rfl) rfl
theorem q1431 : (Jvm.Cond.fieldLink "WellRefusesModel" (25 : Nat) "WellRefusesModel" "mean" "I") ∈ lw_all := lw_g (lw_at lw_m6 150 rfl) rfl
theorem q1432 : (Jvm.Cond.fieldLink "WellRefusesModel" (193 : Nat) "WellRefusesModel" "ringA" "I") ∈ lw_all := lw_g (lw_at lw_m6 151 rfl) rfl
theorem q1433 : (Jvm.Cond.fieldLink "WellRefusesModel" (196 : Nat) "WellRefusesModel" "ringB" "I") ∈ lw_all := lw_g (lw_at lw_m6 152 rfl) rfl
theorem q1434 : (Jvm.Cond.fieldLink "WellRefusesModel" (199 : Nat) "WellRefusesModel" "ringC" "I") ∈ lw_all := lw_g (lw_at lw_m6 153 rfl) rfl
theorem q1435 : (Jvm.Cond.fieldLink "WellRefusesModel" (29 : Nat) "WellRefusesModel" "bitsOf" "[I") ∈ lw_all := lw_g (lw_at lw_m6 154 rfl) rfl
theorem q1436 : (Jvm.Cond.fieldLink "WellRefusesModel" (32 : Nat) "WellRefusesModel" "sizeOf" "[I") ∈ lw_all := lw_g (lw_at lw_m6 155 rfl) rfl
theorem q1437 : (Jvm.Cond.fieldLink "WellRefusesModel" (35 : Nat) "WellRefusesModel" "sheets" "[I") ∈ lw_all := lw_g (lw_at lw_m6 156 rfl) rfl
theorem q1438 : (Jvm.Cond.fieldLink "WellRefusesModel" (38 : Nat) "WellRefusesModel" "moved" "[I") ∈ lw_all := lw_g (lw_at lw_m6 157 rfl) rfl
theorem q1439 : (Jvm.Cond.fieldLink "WellRefusesModel" (41 : Nat) "WellRefusesModel" "thirsts" "[I") ∈ lw_all := lw_g (lw_at lw_m6 158 rfl) rfl
theorem q1440 : (Jvm.Cond.fieldLink "WellRefusesModel" (44 : Nat) "WellRefusesModel" "traced" "[I") ∈ lw_all := lw_g (lw_at lw_m6 159 rfl) rfl
theorem q1441 : (Jvm.Cond.fieldLink "WellRefusesModel" (249 : Nat) "WellRefusesModel" "tracedMany" "I") ∈ lw_all := lw_g (lw_at lw_m6 160 rfl) rfl
theorem q1442 : (Jvm.Cond.fieldLink "WellRefusesModel" (267 : Nat) "WellRefusesModel" "voiceKind" "I") ∈ lw_all := lw_g (lw_at lw_m6 161 rfl) rfl
theorem q1443 : (Jvm.Cond.fieldLink "WellRefusesModel" (255 : Nat) "WellRefusesModel" "voiceN" "I") ∈ lw_all := lw_g (lw_at lw_m6 162 rfl) rfl
theorem q1444 : (Jvm.Cond.fieldLink "WellRefusesModel" (261 : Nat) "WellRefusesModel" "voiceM" "I") ∈ lw_all := lw_g (lw_at lw_m6 163 rfl) rfl
theorem q1445 : (Jvm.Cond.laysFinal "WellRefusesModel" "WellRefusesModel" "row" "[I") ∈ lw_all := lw_g (lw_at lw_m6 164 rfl) rfl
theorem q1446 : (Jvm.Cond.soleField "WellRefusesModel" "row") ∈ lw_all := lw_g (lw_at lw_m6 165 rfl) rfl
theorem q1447 : (Jvm.Cond.laysFinal "WellRefusesModel" "WellRefusesModel" "kept" "[I") ∈ lw_all := lw_g (lw_at lw_m6 166 rfl) rfl
theorem q1448 : (Jvm.Cond.soleField "WellRefusesModel" "kept") ∈ lw_all := lw_g (lw_at lw_m6 167 rfl) rfl
theorem q1449 : (Jvm.Cond.laysFinal "WellRefusesModel" "WellRefusesModel" "tried" "[I") ∈ lw_all := lw_g (lw_at lw_m6 168 rfl) rfl
theorem q1450 : (Jvm.Cond.soleField "WellRefusesModel" "tried") ∈ lw_all := lw_g (lw_at lw_m6 169 rfl) rfl
theorem q1451 : (Jvm.Cond.laysFinal "WellRefusesModel" "WellRefusesModel" "before" "[I") ∈ lw_all := lw_g (lw_at lw_m6 170 rfl) rfl
theorem q1452 : (Jvm.Cond.soleField "WellRefusesModel" "before") ∈ lw_all := lw_g (lw_at lw_m6 171 rfl) rfl
theorem q1453 : (Jvm.Cond.lays "WellRefusesModel" "WellRefusesModel" "isKept" "Z") ∈ lw_all := lw_g (lw_at lw_m6 172 rfl) rfl
theorem q1454 : (Jvm.Cond.soleField "WellRefusesModel" "isKept") ∈ lw_all := lw_g (lw_at lw_m6 173 rfl) rfl
theorem q1455 : (Jvm.Cond.lays "WellRefusesModel" "WellRefusesModel" "images" "I") ∈ lw_all := lw_g (lw_at lw_m6 174 rfl) rfl
theorem q1456 : (Jvm.Cond.soleField "WellRefusesModel" "images") ∈ lw_all := lw_g (lw_at lw_m6 175 rfl) rfl
theorem q1457 : (Jvm.Cond.laysFinal "WellRefusesModel" "WellRefusesModel" "found" "[I") ∈ lw_all := lw_g (lw_at lw_m6 176 rfl) rfl
theorem q1458 : (Jvm.Cond.soleField "WellRefusesModel" "found") ∈ lw_all := lw_g (lw_at lw_m6 177 rfl) rfl
theorem q1459 : (Jvm.Cond.lays "WellRefusesModel" "WellRefusesModel" "use" "I") ∈ lw_all := lw_g (lw_at lw_m6 178 rfl) rfl
theorem q1460 : (Jvm.Cond.soleField "WellRefusesModel" "use") ∈ lw_all := lw_g (lw_at lw_m6 179 rfl) rfl
theorem q1461 : (Jvm.Cond.lays "WellRefusesModel" "WellRefusesModel" "at" "I") ∈ lw_all := lw_g (lw_at lw_m6 180 rfl) rfl
theorem q1462 : (Jvm.Cond.soleField "WellRefusesModel" "at") ∈ lw_all := lw_g (lw_at lw_m6 181 rfl) rfl
theorem q1463 : (Jvm.Cond.lays "WellRefusesModel" "WellRefusesModel" "end" "I") ∈ lw_all := lw_g (lw_at lw_m6 182 rfl) rfl
theorem q1464 : (Jvm.Cond.soleField "WellRefusesModel" "end") ∈ lw_all := lw_g (lw_at lw_m6 183 rfl) rfl
theorem q1465 : (Jvm.Cond.lays "WellRefusesModel" "WellRefusesModel" "open" "I") ∈ lw_all := lw_g (lw_at lw_m6 184 rfl) rfl
theorem q1466 : (Jvm.Cond.soleField "WellRefusesModel" "open") ∈ lw_all := lw_g (lw_at lw_m6 185 rfl) rfl
theorem q1467 : (Jvm.Cond.lays "WellRefusesModel" "WellRefusesModel" "namedA" "I") ∈ lw_all := lw_g (lw_at lw_m6 186 rfl) rfl
theorem q1468 : (Jvm.Cond.soleField "WellRefusesModel" "namedA") ∈ lw_all := lw_g (lw_at lw_m6 187 rfl) rfl
theorem q1469 : (Jvm.Cond.lays "WellRefusesModel" "WellRefusesModel" "namedB" "I") ∈ lw_all := lw_g (lw_at lw_m6 188 rfl) rfl
theorem q1470 : (Jvm.Cond.soleField "WellRefusesModel" "namedB") ∈ lw_all := lw_g (lw_at lw_m6 189 rfl) rfl
theorem q1471 : (Jvm.Cond.lays "WellRefusesModel" "WellRefusesModel" "namedC" "I") ∈ lw_all := lw_g (lw_at lw_m6 190 rfl) rfl
theorem q1472 : (Jvm.Cond.soleField "WellRefusesModel" "namedC") ∈ lw_all := lw_g (lw_at lw_m6 191 rfl) rfl
theorem q1473 : (Jvm.Cond.lays "WellRefusesModel" "WellRefusesModel" "good" "Z") ∈ lw_all := lw_g (lw_at lw_m6 192 rfl) rfl
theorem q1474 : (Jvm.Cond.soleField "WellRefusesModel" "good") ∈ lw_all := lw_g (lw_at lw_m6 193 rfl) rfl
theorem q1475 : (Jvm.Cond.lays "WellRefusesModel" "WellRefusesModel" "mean" "I") ∈ lw_all := lw_g (lw_at lw_m6 194 rfl) rfl
theorem q1476 : (Jvm.Cond.soleField "WellRefusesModel" "mean") ∈ lw_all := lw_g (lw_at lw_m6 195 rfl) rfl
theorem q1477 : (Jvm.Cond.lays "WellRefusesModel" "WellRefusesModel" "ringA" "I") ∈ lw_all := lw_g (lw_at lw_m6 196 rfl) rfl
theorem q1478 : (Jvm.Cond.soleField "WellRefusesModel" "ringA") ∈ lw_all := lw_g (lw_at lw_m6 197 rfl) rfl
theorem q1479 : (Jvm.Cond.lays "WellRefusesModel" "WellRefusesModel" "ringB" "I") ∈ lw_all := lw_g (lw_at lw_m6 198 rfl) rfl
theorem q1480 : (Jvm.Cond.soleField "WellRefusesModel" "ringB") ∈ lw_all := lw_g (lw_at lw_m6 199 rfl) rfl
theorem q1481 : (Jvm.Cond.lays "WellRefusesModel" "WellRefusesModel" "ringC" "I") ∈ lw_all := lw_g (lw_at lw_m6 200 rfl) rfl
theorem q1482 : (Jvm.Cond.soleField "WellRefusesModel" "ringC") ∈ lw_all := lw_g (lw_at lw_m6 201 rfl) rfl
theorem q1483 : (Jvm.Cond.laysFinal "WellRefusesModel" "WellRefusesModel" "bitsOf" "[I") ∈ lw_all := lw_g (lw_at lw_m6 202 rfl) rfl
theorem q1484 : (Jvm.Cond.soleField "WellRefusesModel" "bitsOf") ∈ lw_all := lw_g (lw_at lw_m6 203 rfl) rfl
theorem q1485 : (Jvm.Cond.laysFinal "WellRefusesModel" "WellRefusesModel" "sizeOf" "[I") ∈ lw_all := lw_g (lw_at lw_m6 204 rfl) rfl
theorem q1486 : (Jvm.Cond.soleField "WellRefusesModel" "sizeOf") ∈ lw_all := lw_g (lw_at lw_m6 205 rfl) rfl
theorem q1487 : (Jvm.Cond.laysFinal "WellRefusesModel" "WellRefusesModel" "sheets" "[I") ∈ lw_all := lw_g (lw_at lw_m6 206 rfl) rfl
theorem q1488 : (Jvm.Cond.soleField "WellRefusesModel" "sheets") ∈ lw_all := lw_g (lw_at lw_m6 207 rfl) rfl
theorem q1489 : (Jvm.Cond.laysFinal "WellRefusesModel" "WellRefusesModel" "moved" "[I") ∈ lw_all := lw_g (lw_at lw_m6 208 rfl) rfl
theorem q1490 : (Jvm.Cond.soleField "WellRefusesModel" "moved") ∈ lw_all := lw_g (lw_at lw_m6 209 rfl) rfl
theorem q1491 : (Jvm.Cond.laysFinal "WellRefusesModel" "WellRefusesModel" "thirsts" "[I") ∈ lw_all := lw_g (lw_at lw_m6 210 rfl) rfl
theorem q1492 : (Jvm.Cond.soleField "WellRefusesModel" "thirsts") ∈ lw_all := lw_g (lw_at lw_m6 211 rfl) rfl
theorem q1493 : (Jvm.Cond.laysFinal "WellRefusesModel" "WellRefusesModel" "traced" "[I") ∈ lw_all := lw_g (lw_at lw_m6 212 rfl) rfl
theorem q1494 : (Jvm.Cond.soleField "WellRefusesModel" "traced") ∈ lw_all := lw_g (lw_at lw_m6 213 rfl) rfl
theorem q1495 : (Jvm.Cond.lays "WellRefusesModel" "WellRefusesModel" "tracedMany" "I") ∈ lw_all := lw_g (lw_at lw_m6 214 rfl) rfl
theorem q1496 : (Jvm.Cond.soleField "WellRefusesModel" "tracedMany") ∈ lw_all := lw_g (lw_at lw_m6 215 rfl) rfl
theorem q1497 : (Jvm.Cond.lays "WellRefusesModel" "WellRefusesModel" "voiceKind" "I") ∈ lw_all := lw_g (lw_at lw_m6 216 rfl) rfl
theorem q1498 : (Jvm.Cond.soleField "WellRefusesModel" "voiceKind") ∈ lw_all := lw_g (lw_at lw_m6 217 rfl) rfl
theorem q1499 : (Jvm.Cond.lays "WellRefusesModel" "WellRefusesModel" "voiceN" "I") ∈ lw_all := lw_g (lw_at lw_m6 218 rfl) rfl
theorem q1500 : (Jvm.Cond.soleField "WellRefusesModel" "voiceN") ∈ lw_all := lw_g (lw_at lw_m6 219 rfl) rfl
theorem q1501 : (Jvm.Cond.lays "WellRefusesModel" "WellRefusesModel" "voiceM" "I") ∈ lw_all := lw_g (lw_at lw_m6 220 rfl) rfl
theorem q1502 : (Jvm.Cond.soleField "WellRefusesModel" "voiceM") ∈ lw_all := lw_g (lw_at lw_m6 221 rfl) rfl
theorem q1503 : (Jvm.Cond.superclass "WellRefusesModel" "java/lang/Object") ∈ lw_all := lw_g (lw_at lw_m6 222 rfl) rfl
theorem q1505 : (Jvm.Cond.instanceMethod ({ cls := "WellRefusesModel", name := "person", desc := "(II)I" } : Jvm.MethodName)) ∈ lw_all := lw_g (lw_at lw_m6 224 rfl) rfl
theorem q1506 : (Jvm.Cond.selects "WellRefusesModel" ({ cls := "WellRefusesModel", name := "person", desc := "(II)I" } : Jvm.MethodName) ({ cls := "WellRefusesModel", name := "person", desc := "(II)I" } : Jvm.MethodName)) ∈ lw_all := lw_g (lw_at lw_m6 225 rfl) rfl
theorem q1507 : (Jvm.Cond.code ({ cls := "WellRefusesModel", name := "person", desc := "(II)I" } : Jvm.MethodName) prog_30_method_12_code (5 : Nat) (Option.some Jvm.ClassFile.FieldType.int)) ∈ lw_all := lw_g (lw_at lw_m6 226 rfl) rfl
theorem q1508 : (Jvm.Cond.methodLink "WellRefusesModel" (48 : Nat) ({ cls := "WellRefusesModel", name := "in", desc := "(III)Z" } : Jvm.MethodName)) ∈ lw_all := lw_g (lw_at lw_m6 227 rfl) rfl
theorem q1509 : (Jvm.Cond.static ({ cls := "WellRefusesModel", name := "in", desc := "(III)Z" } : Jvm.MethodName)) ∈ lw_all := lw_g (lw_at lw_m6 228 rfl) rfl
theorem q1510 : (Jvm.Cond.code ({ cls := "WellRefusesModel", name := "in", desc := "(III)Z" } : Jvm.MethodName) prog_30_method_2_code (3 : Nat) (Option.some Jvm.ClassFile.FieldType.boolean)) ∈ lw_all := lw_g (lw_at lw_m6 229 rfl) rfl
theorem q1511 : (Jvm.Cond.constant "WellRefusesModel" (52 : Nat) (-1000000001 : Int32)) ∈ lw_all := lw_g (lw_at lw_m6 230 rfl) rfl
theorem q1512 : (Jvm.Cond.methodLink "WellRefusesModel" (53 : Nat) ({ cls := "WellRefusesModel", name := "errs", desc := "(I)I" } : Jvm.MethodName)) ∈ lw_all := lw_g (lw_at lw_m6 231 rfl) rfl
theorem q1513 : (Jvm.Cond.privateMethod ({ cls := "WellRefusesModel", name := "errs", desc := "(I)I" } : Jvm.MethodName)) ∈ lw_tbl := lw_at lw_m6 232 rfl
theorem q1514 : (Jvm.Cond.instanceMethod ({ cls := "WellRefusesModel", name := "errs", desc := "(I)I" } : Jvm.MethodName)) ∈ lw_all := lw_g (lw_at lw_m6 233 rfl) rfl
theorem q1515 : (Jvm.Cond.code ({ cls := "WellRefusesModel", name := "errs", desc := "(I)I" } : Jvm.MethodName) prog_30_method_3_code (2 : Nat) (Option.some Jvm.ClassFile.FieldType.int)) ∈ lw_all := lw_g (lw_at lw_m6 234 rfl) rfl
theorem q1516 : (Jvm.Cond.constant "WellRefusesModel" (47 : Nat) (-1000000000 : Int32)) ∈ lw_all := lw_g (lw_at lw_m6 235 rfl) rfl
theorem q1517 : (Jvm.Cond.constant "WellRefusesModel" (57 : Nat) (-1000000004 : Int32)) ∈ lw_all := lw_g (lw_at lw_m6 236 rfl) rfl
theorem q1518 : (Jvm.Cond.methodLink "WellRefusesModel" (58 : Nat) ({ cls := "WellRefusesModel", name := "gets", desc := "(III)V" } : Jvm.MethodName)) ∈ lw_all := lw_g (lw_at lw_m6 237 rfl) rfl
theorem q1519 : (Jvm.Cond.privateMethod ({ cls := "WellRefusesModel", name := "gets", desc := "(III)V" } : Jvm.MethodName)) ∈ lw_tbl := lw_at lw_m6 238 rfl
theorem q1520 : (Jvm.Cond.instanceMethod ({ cls := "WellRefusesModel", name := "gets", desc := "(III)V" } : Jvm.MethodName)) ∈ lw_all := lw_g (lw_at lw_m6 239 rfl) rfl
theorem q1521 : (Jvm.Cond.code ({ cls := "WellRefusesModel", name := "gets", desc := "(III)V" } : Jvm.MethodName) prog_30_method_8_code (4 : Nat) (Option.none : Option Jvm.ClassFile.FieldType)) ∈ lw_all := lw_g (lw_at lw_m7 0 rfl) rfl
theorem q1523 : (Jvm.Cond.instanceMethod ({ cls := "WellRefusesModel", name := "ofPerson", desc := "(II)I" } : Jvm.MethodName)) ∈ lw_all := lw_g (lw_at lw_m7 2 rfl) rfl
theorem q1524 : (Jvm.Cond.selects "WellRefusesModel" ({ cls := "WellRefusesModel", name := "ofPerson", desc := "(II)I" } : Jvm.MethodName) ({ cls := "WellRefusesModel", name := "ofPerson", desc := "(II)I" } : Jvm.MethodName)) ∈ lw_all := lw_g (lw_at lw_m7 3 rfl) rfl
theorem q1525 : (Jvm.Cond.code ({ cls := "WellRefusesModel", name := "ofPerson", desc := "(II)I" } : Jvm.MethodName) prog_30_method_13_code (3 : Nat) (Option.some Jvm.ClassFile.FieldType.int)) ∈ lw_all := lw_g (lw_at lw_m7 4 rfl) rfl
theorem q1526 : (Jvm.Cond.methodLink "WellRefusesModel" (62 : Nat) ({ cls := "WellRefusesModel", name := "isOne", desc := "(I)Z" } : Jvm.MethodName)) ∈ lw_all := lw_g (lw_at lw_m7 5 rfl) rfl
theorem q1527 : (Jvm.Cond.privateMethod ({ cls := "WellRefusesModel", name := "isOne", desc := "(I)Z" } : Jvm.MethodName)) ∈ lw_tbl := lw_at lw_m7 6 rfl
theorem q1528 : (Jvm.Cond.instanceMethod ({ cls := "WellRefusesModel", name := "isOne", desc := "(I)Z" } : Jvm.MethodName)) ∈ lw_all := lw_g (lw_at lw_m7 7 rfl) rfl
theorem q1529 : (Jvm.Cond.code ({ cls := "WellRefusesModel", name := "isOne", desc := "(I)Z" } : Jvm.MethodName) prog_30_method_9_code (2 : Nat) (Option.some Jvm.ClassFile.FieldType.boolean)) ∈ lw_all := lw_g (lw_at lw_m7 8 rfl) rfl
theorem q1530 : (Jvm.Cond.methodLink "WellRefusesModel" (66 : Nat) ({ cls := "WellRefusesModel", name := "fills", desc := "(I)I" } : Jvm.MethodName)) ∈ lw_all := lw_g (lw_at lw_m7 9 rfl) rfl
theorem q1531 : (Jvm.Cond.privateMethod ({ cls := "WellRefusesModel", name := "fills", desc := "(I)I" } : Jvm.MethodName)) ∈ lw_tbl := lw_at lw_m7 10 rfl
theorem q1532 : (Jvm.Cond.instanceMethod ({ cls := "WellRefusesModel", name := "fills", desc := "(I)I" } : Jvm.MethodName)) ∈ lw_all := lw_g (lw_at lw_m7 11 rfl) rfl
theorem q1533 : (Jvm.Cond.code ({ cls := "WellRefusesModel", name := "fills", desc := "(I)I" } : Jvm.MethodName) prog_30_method_37_code (3 : Nat) (Option.some Jvm.ClassFile.FieldType.int)) ∈ lw_all := lw_g (lw_at lw_m7 12 rfl) rfl
theorem q1534 : (Jvm.Cond.methodLink "WellRefusesModel" (75 : Nat) ({ cls := "WellRefusesModel", name := "its", desc := "(II)I" } : Jvm.MethodName)) ∈ lw_all := lw_g (lw_at lw_m7 13 rfl) rfl
theorem q1535 : (Jvm.Cond.privateMethod ({ cls := "WellRefusesModel", name := "its", desc := "(II)I" } : Jvm.MethodName)) ∈ lw_tbl := lw_at lw_m7 14 rfl
theorem q1536 : (Jvm.Cond.instanceMethod ({ cls := "WellRefusesModel", name := "its", desc := "(II)I" } : Jvm.MethodName)) ∈ lw_all := lw_g (lw_at lw_m7 15 rfl) rfl
theorem q1537 : (Jvm.Cond.code ({ cls := "WellRefusesModel", name := "its", desc := "(II)I" } : Jvm.MethodName) prog_30_method_7_code (3 : Nat) (Option.some Jvm.ClassFile.FieldType.int)) ∈ lw_all := lw_g (lw_at lw_m7 16 rfl) rfl
theorem q1538 : (Jvm.Cond.methodLink "WellRefusesModel" (69 : Nat) ({ cls := "WellRefusesModel", name := "drinks", desc := "(I)I" } : Jvm.MethodName)) ∈ lw_all := lw_g (lw_at lw_m7 17 rfl) rfl
theorem q1539 : (Jvm.Cond.privateMethod ({ cls := "WellRefusesModel", name := "drinks", desc := "(I)I" } : Jvm.MethodName)) ∈ lw_tbl := lw_at lw_m7 18 rfl
theorem q1540 : (Jvm.Cond.instanceMethod ({ cls := "WellRefusesModel", name := "drinks", desc := "(I)I" } : Jvm.MethodName)) ∈ lw_all := lw_g (lw_at lw_m7 19 rfl) rfl
theorem q1541 : (Jvm.Cond.code ({ cls := "WellRefusesModel", name := "drinks", desc := "(I)I" } : Jvm.MethodName) prog_30_method_38_code (2 : Nat) (Option.some Jvm.ClassFile.FieldType.int)) ∈ lw_all := lw_g (lw_at lw_m7 20 rfl) rfl
theorem q1542 : (Jvm.Cond.methodLink "WellRefusesModel" (72 : Nat) ({ cls := "WellRefusesModel", name := "isGiven", desc := "(I)Z" } : Jvm.MethodName)) ∈ lw_all := lw_g (lw_at lw_m7 21 rfl) rfl
theorem q1543 : (Jvm.Cond.privateMethod ({ cls := "WellRefusesModel", name := "isGiven", desc := "(I)Z" } : Jvm.MethodName)) ∈ lw_tbl := lw_at lw_m7 22 rfl
theorem q1544 : (Jvm.Cond.instanceMethod ({ cls := "WellRefusesModel", name := "isGiven", desc := "(I)Z" } : Jvm.MethodName)) ∈ lw_all := lw_g (lw_at lw_m7 23 rfl) rfl
theorem q1545 : (Jvm.Cond.code ({ cls := "WellRefusesModel", name := "isGiven", desc := "(I)Z" } : Jvm.MethodName) prog_30_method_40_code (2 : Nat) (Option.some Jvm.ClassFile.FieldType.boolean)) ∈ lw_all := lw_g (lw_at lw_m7 24 rfl) rfl
theorem q1546 : (Jvm.Cond.methodLink "WellRefusesModel" (169 : Nat) ({ cls := "WellRefusesModel", name := "isGivenOn", desc := "(III)Z" } : Jvm.MethodName)) ∈ lw_all := lw_g (lw_at lw_m7 25 rfl) rfl
theorem q1547 : (Jvm.Cond.privateMethod ({ cls := "WellRefusesModel", name := "isGivenOn", desc := "(III)Z" } : Jvm.MethodName)) ∈ lw_tbl := lw_at lw_m7 26 rfl
theorem q1548 : (Jvm.Cond.instanceMethod ({ cls := "WellRefusesModel", name := "isGivenOn", desc := "(III)Z" } : Jvm.MethodName)) ∈ lw_all := lw_g (lw_at lw_m7 27 rfl) rfl
theorem q1549 : (Jvm.Cond.code ({ cls := "WellRefusesModel", name := "isGivenOn", desc := "(III)Z" } : Jvm.MethodName) prog_30_method_39_code (4 : Nat) (Option.some Jvm.ClassFile.FieldType.boolean)) ∈ lw_all := lw_g (lw_at lw_m7 28 rfl) rfl
theorem q1550 : (Jvm.Cond.methodLink "WellRefusesModel" (160 : Nat) ({ cls := "WellRefusesModel", name := "lawOf", desc := "(IIII)I" } : Jvm.MethodName)) ∈ lw_all := lw_g (lw_at lw_m7 29 rfl) rfl
theorem q1551 : (Jvm.Cond.privateMethod ({ cls := "WellRefusesModel", name := "lawOf", desc := "(IIII)I" } : Jvm.MethodName)) ∈ lw_tbl := lw_at lw_m7 30 rfl
theorem q1552 : (Jvm.Cond.instanceMethod ({ cls := "WellRefusesModel", name := "lawOf", desc := "(IIII)I" } : Jvm.MethodName)) ∈ lw_all := lw_g (lw_at lw_m7 31 rfl) rfl
theorem q1553 : (Jvm.Cond.code ({ cls := "WellRefusesModel", name := "lawOf", desc := "(IIII)I" } : Jvm.MethodName) prog_30_method_33_code (5 : Nat) (Option.some Jvm.ClassFile.FieldType.int)) ∈ lw_all := lw_g (lw_at lw_m7 32 rfl) rfl
theorem q1554 : (Jvm.Cond.methodLink "WellRefusesModel" (152 : Nat) ({ cls := "WellRefusesModel", name := "walks", desc := "(IIII)I" } : Jvm.MethodName)) ∈ lw_all := lw_g (lw_at lw_m7 33 rfl) rfl
theorem q1555 : (Jvm.Cond.privateMethod ({ cls := "WellRefusesModel", name := "walks", desc := "(IIII)I" } : Jvm.MethodName)) ∈ lw_tbl := lw_at lw_m7 34 rfl
theorem q1556 : (Jvm.Cond.instanceMethod ({ cls := "WellRefusesModel", name := "walks", desc := "(IIII)I" } : Jvm.MethodName)) ∈ lw_all := lw_g (lw_at lw_m7 35 rfl) rfl
theorem q1557 : (Jvm.Cond.code ({ cls := "WellRefusesModel", name := "walks", desc := "(IIII)I" } : Jvm.MethodName) prog_30_method_32_code (6 : Nat) (Option.some Jvm.ClassFile.FieldType.int)) ∈ lw_all := lw_g (lw_at lw_m7 36 rfl) rfl
theorem q1558 : (Jvm.Cond.methodLink "WellRefusesModel" (137 : Nat) ({ cls := "WellRefusesModel", name := "whole", desc := "()I" } : Jvm.MethodName)) ∈ lw_all := lw_g (lw_at lw_m7 37 rfl) rfl
theorem q1559 : (Jvm.Cond.privateMethod ({ cls := "WellRefusesModel", name := "whole", desc := "()I" } : Jvm.MethodName)) ∈ lw_tbl := lw_at lw_m7 38 rfl
theorem q1560 : (Jvm.Cond.instanceMethod ({ cls := "WellRefusesModel", name := "whole", desc := "()I" } : Jvm.MethodName)) ∈ lw_all := lw_g (lw_at lw_m7 39 rfl) rfl
theorem q1561 : (Jvm.Cond.code ({ cls := "WellRefusesModel", name := "whole", desc := "()I" } : Jvm.MethodName) prog_30_method_31_code (3 : Nat) (Option.some Jvm.ClassFile.FieldType.int)) ∈ lw_all := lw_g (lw_at lw_m7 40 rfl) rfl
theorem q1562 : (Jvm.Cond.methodLink "WellRefusesModel" (149 : Nat) ({ cls := "WellRefusesModel", name := "both", desc := "()I" } : Jvm.MethodName)) ∈ lw_all := lw_g (lw_at lw_m7 41 rfl) rfl
theorem q1563 : (Jvm.Cond.privateMethod ({ cls := "WellRefusesModel", name := "both", desc := "()I" } : Jvm.MethodName)) ∈ lw_tbl := lw_at lw_m7 42 rfl
theorem q1564 : (Jvm.Cond.instanceMethod ({ cls := "WellRefusesModel", name := "both", desc := "()I" } : Jvm.MethodName)) ∈ lw_all := lw_g (lw_at lw_m7 43 rfl) rfl
theorem q1565 : (Jvm.Cond.code ({ cls := "WellRefusesModel", name := "both", desc := "()I" } : Jvm.MethodName) prog_30_method_30_code (3 : Nat) (Option.some Jvm.ClassFile.FieldType.int)) ∈ lw_all := lw_g (lw_at lw_m7 44 rfl) rfl
theorem q1566 : (Jvm.Cond.methodLink "WellRefusesModel" (146 : Nat) ({ cls := "WellRefusesModel", name := "compared", desc := "()I" } : Jvm.MethodName)) ∈ lw_all := lw_g (lw_at lw_m7 45 rfl) rfl
theorem q1567 : (Jvm.Cond.privateMethod ({ cls := "WellRefusesModel", name := "compared", desc := "()I" } : Jvm.MethodName)) ∈ lw_tbl := lw_at lw_m7 46 rfl
theorem q1568 : (Jvm.Cond.instanceMethod ({ cls := "WellRefusesModel", name := "compared", desc := "()I" } : Jvm.MethodName)) ∈ lw_all := lw_g (lw_at lw_m7 47 rfl) rfl
theorem q1569 : (Jvm.Cond.code ({ cls := "WellRefusesModel", name := "compared", desc := "()I" } : Jvm.MethodName) prog_30_method_29_code (5 : Nat) (Option.some Jvm.ClassFile.FieldType.int)) ∈ lw_all := lw_g (lw_at lw_m7 48 rfl) rfl
theorem q1570 : (Jvm.Cond.methodLink "WellRefusesModel" (143 : Nat) ({ cls := "WellRefusesModel", name := "sum", desc := "()I" } : Jvm.MethodName)) ∈ lw_all := lw_g (lw_at lw_m7 49 rfl) rfl
theorem q1571 : (Jvm.Cond.privateMethod ({ cls := "WellRefusesModel", name := "sum", desc := "()I" } : Jvm.MethodName)) ∈ lw_tbl := lw_at lw_m7 50 rfl
theorem q1572 : (Jvm.Cond.instanceMethod ({ cls := "WellRefusesModel", name := "sum", desc := "()I" } : Jvm.MethodName)) ∈ lw_all := lw_g (lw_at lw_m7 51 rfl) rfl
theorem q1573 : (Jvm.Cond.code ({ cls := "WellRefusesModel", name := "sum", desc := "()I" } : Jvm.MethodName) prog_30_method_28_code (4 : Nat) (Option.some Jvm.ClassFile.FieldType.int)) ∈ lw_all := lw_g (lw_at lw_m7 52 rfl) rfl
theorem q1574 : (Jvm.Cond.methodLink "WellRefusesModel" (140 : Nat) ({ cls := "WellRefusesModel", name := "product", desc := "()I" } : Jvm.MethodName)) ∈ lw_all := lw_g (lw_at lw_m7 53 rfl) rfl
theorem q1575 : (Jvm.Cond.privateMethod ({ cls := "WellRefusesModel", name := "product", desc := "()I" } : Jvm.MethodName)) ∈ lw_tbl := lw_at lw_m7 54 rfl
theorem q1576 : (Jvm.Cond.instanceMethod ({ cls := "WellRefusesModel", name := "product", desc := "()I" } : Jvm.MethodName)) ∈ lw_all := lw_g (lw_at lw_m7 55 rfl) rfl
theorem q1577 : (Jvm.Cond.code ({ cls := "WellRefusesModel", name := "product", desc := "()I" } : Jvm.MethodName) prog_30_method_27_code (4 : Nat) (Option.some Jvm.ClassFile.FieldType.int)) ∈ lw_all := lw_g (lw_at lw_m7 56 rfl) rfl
theorem q1578 : (Jvm.Cond.methodLink "WellRefusesModel" (134 : Nat) ({ cls := "WellRefusesModel", name := "factor", desc := "()I" } : Jvm.MethodName)) ∈ lw_all := lw_g (lw_at lw_m7 57 rfl) rfl
theorem q1579 : (Jvm.Cond.privateMethod ({ cls := "WellRefusesModel", name := "factor", desc := "()I" } : Jvm.MethodName)) ∈ lw_tbl := lw_at lw_m7 58 rfl
theorem q1580 : (Jvm.Cond.instanceMethod ({ cls := "WellRefusesModel", name := "factor", desc := "()I" } : Jvm.MethodName)) ∈ lw_all := lw_g (lw_at lw_m7 59 rfl) rfl
theorem q1581 : (Jvm.Cond.code ({ cls := "WellRefusesModel", name := "factor", desc := "()I" } : Jvm.MethodName) prog_30_method_26_code (3 : Nat) (Option.some Jvm.ClassFile.FieldType.int)) ∈ lw_all := lw_g (lw_at lw_m7 60 rfl) rfl
theorem q1582 : (Jvm.Cond.methodLink "WellRefusesModel" (106 : Nat) ({ cls := "WellRefusesModel", name := "byteAt", desc := "(I)I" } : Jvm.MethodName)) ∈ lw_all := lw_g (lw_at lw_m7 61 rfl) rfl
theorem q1583 : (Jvm.Cond.privateMethod ({ cls := "WellRefusesModel", name := "byteAt", desc := "(I)I" } : Jvm.MethodName)) ∈ lw_tbl := lw_at lw_m7 62 rfl
theorem q1584 : (Jvm.Cond.instanceMethod ({ cls := "WellRefusesModel", name := "byteAt", desc := "(I)I" } : Jvm.MethodName)) ∈ lw_all := lw_g (lw_at lw_m7 63 rfl) rfl
theorem q1585 : (Jvm.Cond.code ({ cls := "WellRefusesModel", name := "byteAt", desc := "(I)I" } : Jvm.MethodName) prog_30_method_21_code (2 : Nat) (Option.some Jvm.ClassFile.FieldType.int)) ∈ lw_all := lw_g (lw_at lw_m7 64 rfl) rfl
theorem q1586 : (Jvm.Cond.methodLink "WellRefusesModel" (109 : Nat) ({ cls := "WellRefusesModel", name := "isDigit", desc := "(I)Z" } : Jvm.MethodName)) ∈ lw_all := lw_g (lw_at lw_m7 65 rfl) rfl
theorem q1587 : (Jvm.Cond.static ({ cls := "WellRefusesModel", name := "isDigit", desc := "(I)Z" } : Jvm.MethodName)) ∈ lw_all := lw_g (lw_at lw_m7 66 rfl) rfl
theorem q1588 : (Jvm.Cond.code ({ cls := "WellRefusesModel", name := "isDigit", desc := "(I)Z" } : Jvm.MethodName) prog_30_method_22_code (1 : Nat) (Option.some Jvm.ClassFile.FieldType.boolean)) ∈ lw_all := lw_g (lw_at lw_m7 67 rfl) rfl
theorem q1589 : (Jvm.Cond.methodLink "WellRefusesModel" (125 : Nat) ({ cls := "WellRefusesModel", name := "number", desc := "()I" } : Jvm.MethodName)) ∈ lw_all := lw_g (lw_at lw_m7 68 rfl) rfl
theorem q1590 : (Jvm.Cond.privateMethod ({ cls := "WellRefusesModel", name := "number", desc := "()I" } : Jvm.MethodName)) ∈ lw_tbl := lw_at lw_m7 69 rfl
theorem q1591 : (Jvm.Cond.instanceMethod ({ cls := "WellRefusesModel", name := "number", desc := "()I" } : Jvm.MethodName)) ∈ lw_all := lw_g (lw_at lw_m7 70 rfl) rfl
theorem q1592 : (Jvm.Cond.code ({ cls := "WellRefusesModel", name := "number", desc := "()I" } : Jvm.MethodName) prog_30_method_24_code (3 : Nat) (Option.some Jvm.ClassFile.FieldType.int)) ∈ lw_all := lw_g (lw_at lw_m7 71 rfl) rfl
theorem q1593 : (Jvm.Cond.methodLink "WellRefusesModel" (128 : Nat) ({ cls := "WellRefusesModel", name := "named", desc := "(I)I" } : Jvm.MethodName)) ∈ lw_all := lw_g (lw_at lw_m7 72 rfl) rfl
theorem q1594 : (Jvm.Cond.privateMethod ({ cls := "WellRefusesModel", name := "named", desc := "(I)I" } : Jvm.MethodName)) ∈ lw_tbl := lw_at lw_m7 73 rfl
theorem q1595 : (Jvm.Cond.instanceMethod ({ cls := "WellRefusesModel", name := "named", desc := "(I)I" } : Jvm.MethodName)) ∈ lw_all := lw_g (lw_at lw_m7 74 rfl) rfl
theorem q1596 : (Jvm.Cond.code ({ cls := "WellRefusesModel", name := "named", desc := "(I)I" } : Jvm.MethodName) prog_30_method_25_code (5 : Nat) (Option.some Jvm.ClassFile.FieldType.int)) ∈ lw_all := lw_g (lw_at lw_m7 75 rfl) rfl
theorem q1597 : (Jvm.Cond.methodLink "WellRefusesModel" (112 : Nat) ({ cls := "WellRefusesModel", name := "fails", desc := "()I" } : Jvm.MethodName)) ∈ lw_all := lw_g (lw_at lw_m7 76 rfl) rfl
theorem q1598 : (Jvm.Cond.privateMethod ({ cls := "WellRefusesModel", name := "fails", desc := "()I" } : Jvm.MethodName)) ∈ lw_tbl := lw_at lw_m7 77 rfl
theorem q1599 : (Jvm.Cond.instanceMethod ({ cls := "WellRefusesModel", name := "fails", desc := "()I" } : Jvm.MethodName)) ∈ lw_all := lw_g (lw_at lw_m7 78 rfl) rfl
theorem q1600 : (Jvm.Cond.code ({ cls := "WellRefusesModel", name := "fails", desc := "()I" } : Jvm.MethodName) prog_30_method_23_code (1 : Nat) (Option.some Jvm.ClassFile.FieldType.int)) ∈ lw_all := lw_g (lw_at lw_m7 79 rfl) rfl
theorem q1601 : (Jvm.Cond.methodLink "WellRefusesModel" (156 : Nat) ({ cls := "WellRefusesModel", name := "held", desc := "(III)I" } : Jvm.MethodName)) ∈ lw_all := lw_g (lw_at lw_m7 80 rfl) rfl
theorem q1602 : (Jvm.Cond.static ({ cls := "WellRefusesModel", name := "held", desc := "(III)I" } : Jvm.MethodName)) ∈ lw_all := lw_g (lw_at lw_m7 81 rfl) rfl
theorem q1603 : (Jvm.Cond.code ({ cls := "WellRefusesModel", name := "held", desc := "(III)I" } : Jvm.MethodName) prog_30_method_4_code (3 : Nat) (Option.some Jvm.ClassFile.FieldType.int)) ∈ lw_all := lw_g (lw_at lw_m7 82 rfl) rfl
theorem q1605 : (Jvm.Cond.instanceMethod ({ cls := "WellRefusesModel", name := "change", desc := "(III)I" } : Jvm.MethodName)) ∈ lw_all := lw_g (lw_at lw_m7 84 rfl) rfl
theorem q1606 : (Jvm.Cond.selects "WellRefusesModel" ({ cls := "WellRefusesModel", name := "change", desc := "(III)I" } : Jvm.MethodName) ({ cls := "WellRefusesModel", name := "change", desc := "(III)I" } : Jvm.MethodName)) ∈ lw_all := lw_g (lw_at lw_m7 85 rfl) rfl
theorem q1607 : (Jvm.Cond.code ({ cls := "WellRefusesModel", name := "change", desc := "(III)I" } : Jvm.MethodName) prog_30_method_14_code (5 : Nat) (Option.some Jvm.ClassFile.FieldType.int)) ∈ lw_all := lw_g (lw_at lw_m7 86 rfl) rfl
theorem q1608 : (Jvm.Cond.methodLink "WellRefusesModel" (79 : Nat) ({ cls := "WellRefusesModel", name := "becomes", desc := "(II)I" } : Jvm.MethodName)) ∈ lw_all := lw_g (lw_at lw_m7 87 rfl) rfl
theorem q1609 : (Jvm.Cond.privateMethod ({ cls := "WellRefusesModel", name := "becomes", desc := "(II)I" } : Jvm.MethodName)) ∈ lw_tbl := lw_at lw_m7 88 rfl
theorem q1610 : (Jvm.Cond.instanceMethod ({ cls := "WellRefusesModel", name := "becomes", desc := "(II)I" } : Jvm.MethodName)) ∈ lw_all := lw_g (lw_at lw_m7 89 rfl) rfl
theorem q1611 : (Jvm.Cond.code ({ cls := "WellRefusesModel", name := "becomes", desc := "(II)I" } : Jvm.MethodName) prog_30_method_11_code (4 : Nat) (Option.some Jvm.ClassFile.FieldType.int)) ∈ lw_all := lw_g (lw_at lw_m7 90 rfl) rfl
theorem q1613 : (Jvm.Cond.instanceMethod ({ cls := "WellRefusesModel", name := "owe", desc := "(III)I" } : Jvm.MethodName)) ∈ lw_all := lw_g (lw_at lw_m7 92 rfl) rfl
theorem q1614 : (Jvm.Cond.selects "WellRefusesModel" ({ cls := "WellRefusesModel", name := "owe", desc := "(III)I" } : Jvm.MethodName) ({ cls := "WellRefusesModel", name := "owe", desc := "(III)I" } : Jvm.MethodName)) ∈ lw_all := lw_g (lw_at lw_m7 93 rfl) rfl
theorem q1615 : (Jvm.Cond.code ({ cls := "WellRefusesModel", name := "owe", desc := "(III)I" } : Jvm.MethodName) prog_30_method_16_code (4 : Nat) (Option.some Jvm.ClassFile.FieldType.int)) ∈ lw_all := lw_g (lw_at lw_m7 94 rfl) rfl
theorem q1616 : (Jvm.Cond.methodLink "WellRefusesModel" (82 : Nat) ({ cls := "WellRefusesModel", name := "areTwo", desc := "(II)Z" } : Jvm.MethodName)) ∈ lw_all := lw_g (lw_at lw_m7 95 rfl) rfl
theorem q1617 : (Jvm.Cond.privateMethod ({ cls := "WellRefusesModel", name := "areTwo", desc := "(II)Z" } : Jvm.MethodName)) ∈ lw_tbl := lw_at lw_m7 96 rfl
theorem q1618 : (Jvm.Cond.instanceMethod ({ cls := "WellRefusesModel", name := "areTwo", desc := "(II)Z" } : Jvm.MethodName)) ∈ lw_all := lw_g (lw_at lw_m7 97 rfl) rfl
theorem q1619 : (Jvm.Cond.code ({ cls := "WellRefusesModel", name := "areTwo", desc := "(II)Z" } : Jvm.MethodName) prog_30_method_15_code (3 : Nat) (Option.some Jvm.ClassFile.FieldType.boolean)) ∈ lw_all := lw_g (lw_at lw_m7 98 rfl) rfl
theorem q1621 : (Jvm.Cond.instanceMethod ({ cls := "WellRefusesModel", name := "owes", desc := "(II)I" } : Jvm.MethodName)) ∈ lw_all := lw_g (lw_at lw_m7 100 rfl) rfl
theorem q1622 : (Jvm.Cond.selects "WellRefusesModel" ({ cls := "WellRefusesModel", name := "owes", desc := "(II)I" } : Jvm.MethodName) ({ cls := "WellRefusesModel", name := "owes", desc := "(II)I" } : Jvm.MethodName)) ∈ lw_all := lw_g (lw_at lw_m7 101 rfl) rfl
theorem q1623 : (Jvm.Cond.code ({ cls := "WellRefusesModel", name := "owes", desc := "(II)I" } : Jvm.MethodName) prog_30_method_17_code (3 : Nat) (Option.some Jvm.ClassFile.FieldType.int)) ∈ lw_all := lw_g (lw_at lw_m7 102 rfl) rfl
theorem q1624 : (Jvm.Cond.methodLink "WellRefusesModel" (86 : Nat) ({ cls := "WellRefusesModel", name := "debt", desc := "(II)I" } : Jvm.MethodName)) ∈ lw_all := lw_g (lw_at lw_m7 103 rfl) rfl
theorem q1625 : (Jvm.Cond.privateMethod ({ cls := "WellRefusesModel", name := "debt", desc := "(II)I" } : Jvm.MethodName)) ∈ lw_tbl := lw_at lw_m7 104 rfl
theorem q1626 : (Jvm.Cond.instanceMethod ({ cls := "WellRefusesModel", name := "debt", desc := "(II)I" } : Jvm.MethodName)) ∈ lw_all := lw_g (lw_at lw_m7 105 rfl) rfl
theorem q1627 : (Jvm.Cond.code ({ cls := "WellRefusesModel", name := "debt", desc := "(II)I" } : Jvm.MethodName) prog_30_method_10_code (3 : Nat) (Option.some Jvm.ClassFile.FieldType.int)) ∈ lw_all := lw_g (lw_at lw_m7 106 rfl) rfl
theorem q1629 : (Jvm.Cond.instanceMethod ({ cls := "WellRefusesModel", name := "become", desc := "(II)I" } : Jvm.MethodName)) ∈ lw_all := lw_g (lw_at lw_m7 108 rfl) rfl
theorem q1630 : (Jvm.Cond.selects "WellRefusesModel" ({ cls := "WellRefusesModel", name := "become", desc := "(II)I" } : Jvm.MethodName) ({ cls := "WellRefusesModel", name := "become", desc := "(II)I" } : Jvm.MethodName)) ∈ lw_all := lw_g (lw_at lw_m7 109 rfl) rfl
theorem q1631 : (Jvm.Cond.code ({ cls := "WellRefusesModel", name := "become", desc := "(II)I" } : Jvm.MethodName) prog_30_method_18_code (3 : Nat) (Option.some Jvm.ClassFile.FieldType.int)) ∈ lw_all := lw_g (lw_at lw_m7 110 rfl) rfl
theorem q1633 : (Jvm.Cond.instanceMethod ({ cls := "WellRefusesModel", name := "as", desc := "(II)I" } : Jvm.MethodName)) ∈ lw_all := lw_g (lw_at lw_m7 112 rfl) rfl
theorem q1634 : (Jvm.Cond.selects "WellRefusesModel" ({ cls := "WellRefusesModel", name := "as", desc := "(II)I" } : Jvm.MethodName) ({ cls := "WellRefusesModel", name := "as", desc := "(II)I" } : Jvm.MethodName)) ∈ lw_all := lw_g (lw_at lw_m7 113 rfl) rfl
theorem q1635 : (Jvm.Cond.code ({ cls := "WellRefusesModel", name := "as", desc := "(II)I" } : Jvm.MethodName) prog_30_method_20_code (4 : Nat) (Option.some Jvm.ClassFile.FieldType.int)) ∈ lw_all := lw_g (lw_at lw_m7 114 rfl) rfl
theorem q1636 : (Jvm.Cond.methodLink "WellRefusesModel" (89 : Nat) ({ cls := "WellRefusesModel", name := "above", desc := "(I)I" } : Jvm.MethodName)) ∈ lw_all := lw_g (lw_at lw_m7 115 rfl) rfl
theorem q1637 : (Jvm.Cond.static ({ cls := "WellRefusesModel", name := "above", desc := "(I)I" } : Jvm.MethodName)) ∈ lw_all := lw_g (lw_at lw_m7 116 rfl) rfl
theorem q1638 : (Jvm.Cond.code ({ cls := "WellRefusesModel", name := "above", desc := "(I)I" } : Jvm.MethodName) prog_30_method_19_code (1 : Nat) (Option.some Jvm.ClassFile.FieldType.int)) ∈ lw_all := lw_g (lw_at lw_m7 117 rfl) rfl
theorem q1639 : (Jvm.Cond.constant "WellRefusesModel" (92 : Nat) (-1000000005 : Int32)) ∈ lw_all := lw_g (lw_at lw_m7 118 rfl) rfl
theorem q1641 : (Jvm.Cond.instanceMethod ({ cls := "WellRefusesModel", name := "law", desc := "(IIII)I" } : Jvm.MethodName)) ∈ lw_all := lw_g (lw_at lw_m7 120 rfl) rfl
theorem q1642 : (Jvm.Cond.selects "WellRefusesModel" ({ cls := "WellRefusesModel", name := "law", desc := "(IIII)I" } : Jvm.MethodName) ({ cls := "WellRefusesModel", name := "law", desc := "(IIII)I" } : Jvm.MethodName)) ∈ lw_all := lw_g (lw_at lw_m7 121 rfl) rfl
theorem q1643 : (Jvm.Cond.code ({ cls := "WellRefusesModel", name := "law", desc := "(IIII)I" } : Jvm.MethodName) prog_30_method_34_code (5 : Nat) (Option.some Jvm.ClassFile.FieldType.int)) ∈ lw_all := lw_g (lw_at lw_m7 122 rfl) rfl
theorem q1645 : (Jvm.Cond.instanceMethod ({ cls := "WellRefusesModel", name := "feed", desc := "(JI)I" } : Jvm.MethodName)) ∈ lw_all := lw_g (lw_at lw_m7 124 rfl) rfl
theorem q1646 : (Jvm.Cond.selects "WellRefusesModel" ({ cls := "WellRefusesModel", name := "feed", desc := "(JI)I" } : Jvm.MethodName) ({ cls := "WellRefusesModel", name := "feed", desc := "(JI)I" } : Jvm.MethodName)) ∈ lw_all := lw_g (lw_at lw_m7 125 rfl) rfl
theorem q1647 : (Jvm.Cond.code ({ cls := "WellRefusesModel", name := "feed", desc := "(JI)I" } : Jvm.MethodName) prog_30_method_35_code (5 : Nat) (Option.some Jvm.ClassFile.FieldType.int)) ∈ lw_all := lw_g (lw_at lw_m7 126 rfl) rfl
theorem q1648 : (Jvm.Cond.constantLong "WellRefusesModel" (163 : Nat) (255 : Int64)) ∈ lw_all := lw_g (lw_at lw_m7 127 rfl) rfl
theorem q1650 : (Jvm.Cond.instanceMethod ({ cls := "WellRefusesModel", name := "text", desc := "(I)I" } : Jvm.MethodName)) ∈ lw_all := lw_g (lw_at lw_m7 129 rfl) rfl
theorem q1651 : (Jvm.Cond.selects "WellRefusesModel" ({ cls := "WellRefusesModel", name := "text", desc := "(I)I" } : Jvm.MethodName) ({ cls := "WellRefusesModel", name := "text", desc := "(I)I" } : Jvm.MethodName)) ∈ lw_all := lw_g (lw_at lw_m7 130 rfl) rfl
theorem q1652 : (Jvm.Cond.code ({ cls := "WellRefusesModel", name := "text", desc := "(I)I" } : Jvm.MethodName) prog_30_method_36_code (5 : Nat) (Option.some Jvm.ClassFile.FieldType.int)) ∈ lw_all := lw_g (lw_at lw_m7 131 rfl) rfl
theorem q1653 : (Jvm.Cond.methodLink "WellRefusesModel" (165 : Nat) ({ cls := "WellRefusesModel", name := "moveAll", desc := "([I[I)V" } : Jvm.MethodName)) ∈ lw_all := lw_g (lw_at lw_m7 132 rfl) rfl
theorem q1654 : (Jvm.Cond.privateMethod ({ cls := "WellRefusesModel", name := "moveAll", desc := "([I[I)V" } : Jvm.MethodName)) ∈ lw_tbl := lw_at lw_m7 133 rfl
theorem q1655 : (Jvm.Cond.instanceMethod ({ cls := "WellRefusesModel", name := "moveAll", desc := "([I[I)V" } : Jvm.MethodName)) ∈ lw_all := lw_g (lw_at lw_m7 134 rfl) rfl
theorem q1656 : (Jvm.Cond.code ({ cls := "WellRefusesModel", name := "moveAll", desc := "([I[I)V" } : Jvm.MethodName) prog_30_method_5_code (4 : Nat) (Option.none : Option Jvm.ClassFile.FieldType)) ∈ lw_all := lw_g (lw_at lw_m7 135 rfl) rfl
theorem q1658 : (Jvm.Cond.instanceMethod ({ cls := "WellRefusesModel", name := "days", desc := "(I)I" } : Jvm.MethodName)) ∈ lw_all := lw_g (lw_at lw_m7 137 rfl) rfl
theorem q1659 : (Jvm.Cond.selects "WellRefusesModel" ({ cls := "WellRefusesModel", name := "days", desc := "(I)I" } : Jvm.MethodName) ({ cls := "WellRefusesModel", name := "days", desc := "(I)I" } : Jvm.MethodName)) ∈ lw_all := lw_g (lw_at lw_m7 138 rfl) rfl
theorem q1660 : (Jvm.Cond.code ({ cls := "WellRefusesModel", name := "days", desc := "(I)I" } : Jvm.MethodName) prog_30_method_46_code (2 : Nat) (Option.some Jvm.ClassFile.FieldType.int)) ∈ lw_all := lw_g (lw_at lw_m7 139 rfl) rfl
theorem q1661 : (Jvm.Cond.constant "WellRefusesModel" (182 : Nat) (-1000000003 : Int32)) ∈ lw_all := lw_g (lw_at lw_m7 140 rfl) rfl
theorem q1662 : (Jvm.Cond.methodLink "WellRefusesModel" (183 : Nat) ({ cls := "WellRefusesModel", name := "passes", desc := "(I)V" } : Jvm.MethodName)) ∈ lw_all := lw_g (lw_at lw_m7 141 rfl) rfl
theorem q1663 : (Jvm.Cond.privateMethod ({ cls := "WellRefusesModel", name := "passes", desc := "(I)V" } : Jvm.MethodName)) ∈ lw_tbl := lw_at lw_m7 142 rfl
theorem q1664 : (Jvm.Cond.instanceMethod ({ cls := "WellRefusesModel", name := "passes", desc := "(I)V" } : Jvm.MethodName)) ∈ lw_all := lw_g (lw_at lw_m7 143 rfl) rfl
theorem q1665 : (Jvm.Cond.code ({ cls := "WellRefusesModel", name := "passes", desc := "(I)V" } : Jvm.MethodName) prog_30_method_44_code (3 : Nat) (Option.none : Option Jvm.ClassFile.FieldType)) ∈ lw_all := lw_g (lw_at lw_m7 144 rfl) rfl
theorem q1666 : (Jvm.Cond.methodLink "WellRefusesModel" (179 : Nat) ({ cls := "WellRefusesModel", name := "oneDay", desc := "()V" } : Jvm.MethodName)) ∈ lw_all := lw_g (lw_at lw_m7 145 rfl) rfl
theorem q1667 : (Jvm.Cond.privateMethod ({ cls := "WellRefusesModel", name := "oneDay", desc := "()V" } : Jvm.MethodName)) ∈ lw_tbl := lw_at lw_m7 146 rfl
theorem q1668 : (Jvm.Cond.instanceMethod ({ cls := "WellRefusesModel", name := "oneDay", desc := "()V" } : Jvm.MethodName)) ∈ lw_all := lw_g (lw_at lw_m7 147 rfl) rfl
theorem q1669 : (Jvm.Cond.code ({ cls := "WellRefusesModel", name := "oneDay", desc := "()V" } : Jvm.MethodName) prog_30_method_43_code (3 : Nat) (Option.none : Option Jvm.ClassFile.FieldType)) ∈ lw_all := lw_g (lw_at lw_m7 148 rfl) rfl
theorem q1670 : (Jvm.Cond.methodLink "WellRefusesModel" (175 : Nat) ({ cls := "WellRefusesModel", name := "begs", desc := "(I)V" } : Jvm.MethodName)) ∈ lw_all := lw_g (lw_at lw_m7 149 rfl) rfl
theorem q1671 : (Jvm.Cond.privateMethod ({ cls := "WellRefusesModel", name := "begs", desc := "(I)V" } : Jvm.MethodName)) ∈ lw_tbl := lw_at lw_m7 150 rfl
theorem q1672 : (Jvm.Cond.instanceMethod ({ cls := "WellRefusesModel", name := "begs", desc := "(I)V" } : Jvm.MethodName)) ∈ lw_all := lw_g (lw_at lw_m7 151 rfl) rfl
theorem q1673 : (Jvm.Cond.code ({ cls := "WellRefusesModel", name := "begs", desc := "(I)V" } : Jvm.MethodName) prog_30_method_42_code (4 : Nat) (Option.none : Option Jvm.ClassFile.FieldType)) ∈ lw_all := lw_g (lw_at lw_m7 152 rfl) rfl
theorem q1674 : (Jvm.Cond.methodLink "WellRefusesModel" (172 : Nat) ({ cls := "WellRefusesModel", name := "lends", desc := "(II)Z" } : Jvm.MethodName)) ∈ lw_all := lw_g (lw_at lw_m7 153 rfl) rfl
theorem q1675 : (Jvm.Cond.privateMethod ({ cls := "WellRefusesModel", name := "lends", desc := "(II)Z" } : Jvm.MethodName)) ∈ lw_tbl := lw_at lw_m7 154 rfl
theorem q1676 : (Jvm.Cond.instanceMethod ({ cls := "WellRefusesModel", name := "lends", desc := "(II)Z" } : Jvm.MethodName)) ∈ lw_all := lw_g (lw_at lw_m7 155 rfl) rfl
theorem q1677 : (Jvm.Cond.code ({ cls := "WellRefusesModel", name := "lends", desc := "(II)Z" } : Jvm.MethodName) prog_30_method_41_code (3 : Nat) (Option.some Jvm.ClassFile.FieldType.boolean)) ∈ lw_all := lw_g (lw_at lw_m7 156 rfl) rfl
theorem q1678 : (Jvm.Cond.methodLink "WellRefusesModel" (186 : Nat) ({ cls := "WellRefusesModel", name := "sumOf", desc := "(I)I" } : Jvm.MethodName)) ∈ lw_all := lw_g (lw_at lw_m7 157 rfl) rfl
theorem q1679 : (Jvm.Cond.privateMethod ({ cls := "WellRefusesModel", name := "sumOf", desc := "(I)I" } : Jvm.MethodName)) ∈ lw_tbl := lw_at lw_m7 158 rfl
theorem q1680 : (Jvm.Cond.instanceMethod ({ cls := "WellRefusesModel", name := "sumOf", desc := "(I)I" } : Jvm.MethodName)) ∈ lw_all := lw_g (lw_at lw_m7 159 rfl) rfl
theorem q1681 : (Jvm.Cond.code ({ cls := "WellRefusesModel", name := "sumOf", desc := "(I)I" } : Jvm.MethodName) prog_30_method_45_code (4 : Nat) (Option.some Jvm.ClassFile.FieldType.int)) ∈ lw_all := lw_g (lw_at lw_m7 160 rfl) rfl
theorem q1683 : (Jvm.Cond.instanceMethod ({ cls := "WellRefusesModel", name := "loose", desc := "(I)I" } : Jvm.MethodName)) ∈ lw_all := lw_g (lw_at lw_m7 162 rfl) rfl
theorem q1684 : (Jvm.Cond.selects "WellRefusesModel" ({ cls := "WellRefusesModel", name := "loose", desc := "(I)I" } : Jvm.MethodName) ({ cls := "WellRefusesModel", name := "loose", desc := "(I)I" } : Jvm.MethodName)) ∈ lw_all := lw_g (lw_at lw_m7 163 rfl) rfl
theorem q1685 : (Jvm.Cond.code ({ cls := "WellRefusesModel", name := "loose", desc := "(I)I" } : Jvm.MethodName) prog_30_method_48_code (5 : Nat) (Option.some Jvm.ClassFile.FieldType.int)) ∈ lw_all := lw_g (lw_at lw_m7 164 rfl) rfl
theorem q1686 : (Jvm.Cond.methodLink "WellRefusesModel" (190 : Nat) ({ cls := "WellRefusesModel", name := "drawn", desc := "()I" } : Jvm.MethodName)) ∈ lw_all := lw_g (lw_at lw_m7 165 rfl) rfl
theorem q1687 : (Jvm.Cond.privateMethod ({ cls := "WellRefusesModel", name := "drawn", desc := "()I" } : Jvm.MethodName)) ∈ lw_tbl := lw_at lw_m7 166 rfl
theorem q1688 : (Jvm.Cond.instanceMethod ({ cls := "WellRefusesModel", name := "drawn", desc := "()I" } : Jvm.MethodName)) ∈ lw_all := lw_g (lw_at lw_m7 167 rfl) rfl
theorem q1689 : (Jvm.Cond.code ({ cls := "WellRefusesModel", name := "drawn", desc := "()I" } : Jvm.MethodName) prog_30_method_47_code (1 : Nat) (Option.some Jvm.ClassFile.FieldType.int)) ∈ lw_all := lw_g (lw_at lw_m7 168 rfl) rfl
theorem q1690 : (Jvm.Cond.constant "WellRefusesModel" (189 : Nat) (1103515245 : Int32)) ∈ lw_all := lw_g (lw_at lw_m7 169 rfl) rfl
theorem q1692 : (Jvm.Cond.instanceMethod ({ cls := "WellRefusesModel", name := "strike", desc := "()I" } : Jvm.MethodName)) ∈ lw_all := lw_g (lw_at lw_m7 171 rfl) rfl
theorem q1693 : (Jvm.Cond.selects "WellRefusesModel" ({ cls := "WellRefusesModel", name := "strike", desc := "()I" } : Jvm.MethodName) ({ cls := "WellRefusesModel", name := "strike", desc := "()I" } : Jvm.MethodName)) ∈ lw_all := lw_g (lw_at lw_m7 172 rfl) rfl
theorem q1694 : (Jvm.Cond.code ({ cls := "WellRefusesModel", name := "strike", desc := "()I" } : Jvm.MethodName) prog_30_method_54_code (1 : Nat) (Option.some Jvm.ClassFile.FieldType.int)) ∈ lw_all := lw_g (lw_at lw_m7 173 rfl) rfl
theorem q1695 : (Jvm.Cond.methodLink "WellRefusesModel" (215 : Nat) ({ cls := "WellRefusesModel", name := "strikes", desc := "()I" } : Jvm.MethodName)) ∈ lw_all := lw_g (lw_at lw_m7 174 rfl) rfl
theorem q1696 : (Jvm.Cond.privateMethod ({ cls := "WellRefusesModel", name := "strikes", desc := "()I" } : Jvm.MethodName)) ∈ lw_tbl := lw_at lw_m7 175 rfl
theorem q1697 : (Jvm.Cond.instanceMethod ({ cls := "WellRefusesModel", name := "strikes", desc := "()I" } : Jvm.MethodName)) ∈ lw_all := lw_g (lw_at lw_m7 176 rfl) rfl
theorem q1698 : (Jvm.Cond.code ({ cls := "WellRefusesModel", name := "strikes", desc := "()I" } : Jvm.MethodName) prog_30_method_53_code (4 : Nat) (Option.some Jvm.ClassFile.FieldType.int)) ∈ lw_all := lw_g (lw_at lw_m7 177 rfl) rfl
theorem q1699 : (Jvm.Cond.methodLink "WellRefusesModel" (205 : Nat) ({ cls := "WellRefusesModel", name := "findTwo", desc := "()Z" } : Jvm.MethodName)) ∈ lw_all := lw_g (lw_at lw_m7 178 rfl) rfl
theorem q1700 : (Jvm.Cond.privateMethod ({ cls := "WellRefusesModel", name := "findTwo", desc := "()Z" } : Jvm.MethodName)) ∈ lw_tbl := lw_at lw_m7 179 rfl
theorem q1701 : (Jvm.Cond.instanceMethod ({ cls := "WellRefusesModel", name := "findTwo", desc := "()Z" } : Jvm.MethodName)) ∈ lw_all := lw_g (lw_at lw_m7 180 rfl) rfl
theorem q1702 : (Jvm.Cond.code ({ cls := "WellRefusesModel", name := "findTwo", desc := "()Z" } : Jvm.MethodName) prog_30_method_50_code (2 : Nat) (Option.some Jvm.ClassFile.FieldType.boolean)) ∈ lw_all := lw_g (lw_at lw_m7 181 rfl) rfl
theorem q1703 : (Jvm.Cond.methodLink "WellRefusesModel" (202 : Nat) ({ cls := "WellRefusesModel", name := "owe1", desc := "(II)Z" } : Jvm.MethodName)) ∈ lw_all := lw_g (lw_at lw_m7 182 rfl) rfl
theorem q1704 : (Jvm.Cond.privateMethod ({ cls := "WellRefusesModel", name := "owe1", desc := "(II)Z" } : Jvm.MethodName)) ∈ lw_tbl := lw_at lw_m7 183 rfl
theorem q1705 : (Jvm.Cond.instanceMethod ({ cls := "WellRefusesModel", name := "owe1", desc := "(II)Z" } : Jvm.MethodName)) ∈ lw_all := lw_g (lw_at lw_m7 184 rfl) rfl
theorem q1706 : (Jvm.Cond.code ({ cls := "WellRefusesModel", name := "owe1", desc := "(II)Z" } : Jvm.MethodName) prog_30_method_49_code (3 : Nat) (Option.some Jvm.ClassFile.FieldType.boolean)) ∈ lw_all := lw_g (lw_at lw_m7 185 rfl) rfl
theorem q1707 : (Jvm.Cond.methodLink "WellRefusesModel" (209 : Nat) ({ cls := "WellRefusesModel", name := "findThree", desc := "()Z" } : Jvm.MethodName)) ∈ lw_all := lw_g (lw_at lw_m7 186 rfl) rfl
theorem q1708 : (Jvm.Cond.privateMethod ({ cls := "WellRefusesModel", name := "findThree", desc := "()Z" } : Jvm.MethodName)) ∈ lw_tbl := lw_at lw_m7 187 rfl
theorem q1709 : (Jvm.Cond.instanceMethod ({ cls := "WellRefusesModel", name := "findThree", desc := "()Z" } : Jvm.MethodName)) ∈ lw_all := lw_g (lw_at lw_m7 188 rfl) rfl
theorem q1710 : (Jvm.Cond.code ({ cls := "WellRefusesModel", name := "findThree", desc := "()Z" } : Jvm.MethodName) prog_30_method_51_code (3 : Nat) (Option.some Jvm.ClassFile.FieldType.boolean)) ∈ lw_all := lw_g (lw_at lw_m7 189 rfl) rfl
theorem q1711 : (Jvm.Cond.methodLink "WellRefusesModel" (212 : Nat) ({ cls := "WellRefusesModel", name := "lessBy", desc := "(III)V" } : Jvm.MethodName)) ∈ lw_all := lw_g (lw_at lw_m7 190 rfl) rfl
theorem q1712 : (Jvm.Cond.privateMethod ({ cls := "WellRefusesModel", name := "lessBy", desc := "(III)V" } : Jvm.MethodName)) ∈ lw_tbl := lw_at lw_m7 191 rfl
theorem q1713 : (Jvm.Cond.instanceMethod ({ cls := "WellRefusesModel", name := "lessBy", desc := "(III)V" } : Jvm.MethodName)) ∈ lw_all := lw_g (lw_at lw_m7 192 rfl) rfl
theorem q1714 : (Jvm.Cond.code ({ cls := "WellRefusesModel", name := "lessBy", desc := "(III)V" } : Jvm.MethodName) prog_30_method_52_code (4 : Nat) (Option.none : Option Jvm.ClassFile.FieldType)) ∈ lw_all := lw_g (lw_at lw_m7 193 rfl) rfl
theorem q1716 : (Jvm.Cond.instanceMethod ({ cls := "WellRefusesModel", name := "struck", desc := "(I)I" } : Jvm.MethodName)) ∈ lw_all := lw_g (lw_at lw_m7 195 rfl) rfl
theorem q1717 : (Jvm.Cond.selects "WellRefusesModel" ({ cls := "WellRefusesModel", name := "struck", desc := "(I)I" } : Jvm.MethodName) ({ cls := "WellRefusesModel", name := "struck", desc := "(I)I" } : Jvm.MethodName)) ∈ lw_all := lw_g (lw_at lw_m7 196 rfl) rfl
theorem q1718 : (Jvm.Cond.code ({ cls := "WellRefusesModel", name := "struck", desc := "(I)I" } : Jvm.MethodName) prog_30_method_56_code (4 : Nat) (Option.some Jvm.ClassFile.FieldType.int)) ∈ lw_all := lw_g (lw_at lw_m7 197 rfl) rfl
theorem q1719 : (Jvm.Cond.methodLink "WellRefusesModel" (218 : Nat) ({ cls := "WellRefusesModel", name := "owed", desc := "()I" } : Jvm.MethodName)) ∈ lw_all := lw_g (lw_at lw_m7 198 rfl) rfl
theorem q1720 : (Jvm.Cond.privateMethod ({ cls := "WellRefusesModel", name := "owed", desc := "()I" } : Jvm.MethodName)) ∈ lw_tbl := lw_at lw_m7 199 rfl
theorem q1721 : (Jvm.Cond.instanceMethod ({ cls := "WellRefusesModel", name := "owed", desc := "()I" } : Jvm.MethodName)) ∈ lw_all := lw_g (lw_at lw_m7 200 rfl) rfl
theorem q1722 : (Jvm.Cond.code ({ cls := "WellRefusesModel", name := "owed", desc := "()I" } : Jvm.MethodName) prog_30_method_55_code (3 : Nat) (Option.some Jvm.ClassFile.FieldType.int)) ∈ lw_all := lw_g (lw_at lw_m7 201 rfl) rfl
theorem q1724 : (Jvm.Cond.instanceMethod ({ cls := "WellRefusesModel", name := "then", desc := "(III)I" } : Jvm.MethodName)) ∈ lw_all := lw_g (lw_at lw_m7 203 rfl) rfl
theorem q1725 : (Jvm.Cond.selects "WellRefusesModel" ({ cls := "WellRefusesModel", name := "then", desc := "(III)I" } : Jvm.MethodName) ({ cls := "WellRefusesModel", name := "then", desc := "(III)I" } : Jvm.MethodName)) ∈ lw_all := lw_g (lw_at lw_m7 204 rfl) rfl
theorem q1726 : (Jvm.Cond.code ({ cls := "WellRefusesModel", name := "then", desc := "(III)I" } : Jvm.MethodName) prog_30_method_57_code (5 : Nat) (Option.some Jvm.ClassFile.FieldType.int)) ∈ lw_all := lw_g (lw_at lw_m7 205 rfl) rfl
theorem q1728 : (Jvm.Cond.instanceMethod ({ cls := "WellRefusesModel", name := "first", desc := "(II)I" } : Jvm.MethodName)) ∈ lw_all := lw_g (lw_at lw_m7 207 rfl) rfl
theorem q1729 : (Jvm.Cond.selects "WellRefusesModel" ({ cls := "WellRefusesModel", name := "first", desc := "(II)I" } : Jvm.MethodName) ({ cls := "WellRefusesModel", name := "first", desc := "(II)I" } : Jvm.MethodName)) ∈ lw_all := lw_g (lw_at lw_m7 208 rfl) rfl
theorem q1730 : (Jvm.Cond.code ({ cls := "WellRefusesModel", name := "first", desc := "(II)I" } : Jvm.MethodName) prog_30_method_59_code (5 : Nat) (Option.some Jvm.ClassFile.FieldType.int)) ∈ lw_all := lw_g (lw_at lw_m7 209 rfl) rfl
theorem q1731 : (Jvm.Cond.methodLink "WellRefusesModel" (221 : Nat) ({ cls := "WellRefusesModel", name := "thirsty", desc := "(I)I" } : Jvm.MethodName)) ∈ lw_all := lw_g (lw_at lw_m7 210 rfl) rfl
theorem q1732 : (Jvm.Cond.privateMethod ({ cls := "WellRefusesModel", name := "thirsty", desc := "(I)I" } : Jvm.MethodName)) ∈ lw_tbl := lw_at lw_m7 211 rfl
theorem q1733 : (Jvm.Cond.instanceMethod ({ cls := "WellRefusesModel", name := "thirsty", desc := "(I)I" } : Jvm.MethodName)) ∈ lw_all := lw_g (lw_at lw_m7 212 rfl) rfl
theorem q1734 : (Jvm.Cond.code ({ cls := "WellRefusesModel", name := "thirsty", desc := "(I)I" } : Jvm.MethodName) prog_30_method_58_code (3 : Nat) (Option.some Jvm.ClassFile.FieldType.int)) ∈ lw_all := lw_g (lw_at lw_m7 213 rfl) rfl
theorem q1735 : (Jvm.Cond.constant "WellRefusesModel" (224 : Nat) (-1000000002 : Int32)) ∈ lw_all := lw_g (lw_at lw_m7 214 rfl) rfl
theorem q1737 : (Jvm.Cond.instanceMethod ({ cls := "WellRefusesModel", name := "rules", desc := "(II)I" } : Jvm.MethodName)) ∈ lw_all := lw_g (lw_at lw_m7 216 rfl) rfl
theorem q1738 : (Jvm.Cond.selects "WellRefusesModel" ({ cls := "WellRefusesModel", name := "rules", desc := "(II)I" } : Jvm.MethodName) ({ cls := "WellRefusesModel", name := "rules", desc := "(II)I" } : Jvm.MethodName)) ∈ lw_all := lw_g (lw_at lw_m7 217 rfl) rfl
theorem q1739 : (Jvm.Cond.code ({ cls := "WellRefusesModel", name := "rules", desc := "(II)I" } : Jvm.MethodName) prog_30_method_63_code (6 : Nat) (Option.some Jvm.ClassFile.FieldType.int)) ∈ lw_all := lw_g (lw_at lw_m7 218 rfl) rfl
theorem q1740 : (Jvm.Cond.methodLink "WellRefusesModel" (228 : Nat) ({ cls := "WellRefusesModel", name := "isSheet", desc := "(I)Z" } : Jvm.MethodName)) ∈ lw_all := lw_g (lw_at lw_m7 219 rfl) rfl
theorem q1741 : (Jvm.Cond.static ({ cls := "WellRefusesModel", name := "isSheet", desc := "(I)Z" } : Jvm.MethodName)) ∈ lw_all := lw_g (lw_at lw_m7 220 rfl) rfl
theorem q1742 : (Jvm.Cond.code ({ cls := "WellRefusesModel", name := "isSheet", desc := "(I)Z" } : Jvm.MethodName) prog_30_method_60_code (1 : Nat) (Option.some Jvm.ClassFile.FieldType.boolean)) ∈ lw_all := lw_g (lw_at lw_m7 221 rfl) rfl
theorem q1743 : (Jvm.Cond.methodLink "WellRefusesModel" (231 : Nat) ({ cls := "WellRefusesModel", name := "fits", desc := "(II)Z" } : Jvm.MethodName)) ∈ lw_all := lw_g (lw_at lw_m7 222 rfl) rfl
theorem q1744 : (Jvm.Cond.privateMethod ({ cls := "WellRefusesModel", name := "fits", desc := "(II)Z" } : Jvm.MethodName)) ∈ lw_tbl := lw_at lw_m7 223 rfl
theorem q1745 : (Jvm.Cond.instanceMethod ({ cls := "WellRefusesModel", name := "fits", desc := "(II)Z" } : Jvm.MethodName)) ∈ lw_all := lw_g (lw_at lw_m7 224 rfl) rfl
theorem q1746 : (Jvm.Cond.code ({ cls := "WellRefusesModel", name := "fits", desc := "(II)Z" } : Jvm.MethodName) prog_30_method_62_code (6 : Nat) (Option.some Jvm.ClassFile.FieldType.boolean)) ∈ lw_all := lw_g (lw_at lw_m7 225 rfl) rfl
theorem q1747 : (Jvm.Cond.methodLink "WellRefusesModel" (225 : Nat) ({ cls := "WellRefusesModel", name := "gives", desc := "(II)Z" } : Jvm.MethodName)) ∈ lw_all := lw_g (lw_at lw_m7 226 rfl) rfl
theorem q1748 : (Jvm.Cond.static ({ cls := "WellRefusesModel", name := "gives", desc := "(II)Z" } : Jvm.MethodName)) ∈ lw_all := lw_g (lw_at lw_m7 227 rfl) rfl
theorem q1749 : (Jvm.Cond.code ({ cls := "WellRefusesModel", name := "gives", desc := "(II)Z" } : Jvm.MethodName) prog_30_method_61_code (2 : Nat) (Option.some Jvm.ClassFile.FieldType.boolean)) ∈ lw_all := lw_g (lw_at lw_m7 228 rfl) rfl
theorem q1750 : (Jvm.Cond.methodLink "WellRefusesModel" (234 : Nat) ({ cls := "WellRefusesModel", name := "evenest", desc := "(I)I" } : Jvm.MethodName)) ∈ lw_all := lw_g (lw_at lw_m7 229 rfl) rfl
theorem q1751 : (Jvm.Cond.privateMethod ({ cls := "WellRefusesModel", name := "evenest", desc := "(I)I" } : Jvm.MethodName)) ∈ lw_tbl := lw_at lw_m7 230 rfl
theorem q1752 : (Jvm.Cond.instanceMethod ({ cls := "WellRefusesModel", name := "evenest", desc := "(I)I" } : Jvm.MethodName)) ∈ lw_all := lw_g (lw_at lw_m7 231 rfl) rfl
theorem q1753 : (Jvm.Cond.code ({ cls := "WellRefusesModel", name := "evenest", desc := "(I)I" } : Jvm.MethodName) prog_30_method_64_code (7 : Nat) (Option.some Jvm.ClassFile.FieldType.int)) ∈ lw_all := lw_g (lw_at lw_m7 232 rfl) rfl
theorem q1755 : (Jvm.Cond.instanceMethod ({ cls := "WellRefusesModel", name := "turn", desc := "(II)I" } : Jvm.MethodName)) ∈ lw_all := lw_g (lw_at lw_m7 234 rfl) rfl
theorem q1756 : (Jvm.Cond.selects "WellRefusesModel" ({ cls := "WellRefusesModel", name := "turn", desc := "(II)I" } : Jvm.MethodName) ({ cls := "WellRefusesModel", name := "turn", desc := "(II)I" } : Jvm.MethodName)) ∈ lw_all := lw_g (lw_at lw_m7 235 rfl) rfl
theorem q1757 : (Jvm.Cond.code ({ cls := "WellRefusesModel", name := "turn", desc := "(II)I" } : Jvm.MethodName) prog_30_method_66_code (7 : Nat) (Option.some Jvm.ClassFile.FieldType.int)) ∈ lw_all := lw_g (lw_at lw_m7 236 rfl) rfl
theorem q1758 : (Jvm.Cond.methodLink "WellRefusesModel" (237 : Nat) ({ cls := "WellRefusesModel", name := "weekOf", desc := "(II)I" } : Jvm.MethodName)) ∈ lw_all := lw_g (lw_at lw_m7 237 rfl) rfl
theorem q1759 : (Jvm.Cond.privateMethod ({ cls := "WellRefusesModel", name := "weekOf", desc := "(II)I" } : Jvm.MethodName)) ∈ lw_tbl := lw_at lw_m7 238 rfl
theorem q1760 : (Jvm.Cond.instanceMethod ({ cls := "WellRefusesModel", name := "weekOf", desc := "(II)I" } : Jvm.MethodName)) ∈ lw_all := lw_g (lw_at lw_m7 239 rfl) rfl
theorem q1761 : (Jvm.Cond.code ({ cls := "WellRefusesModel", name := "weekOf", desc := "(II)I" } : Jvm.MethodName) prog_30_method_65_code (5 : Nat) (Option.some Jvm.ClassFile.FieldType.int)) ∈ lw_all := lw_g (lw_at lw_m8 0 rfl) rfl
theorem q1763 : (Jvm.Cond.instanceMethod ({ cls := "WellRefusesModel", name := "cover", desc := "()I" } : Jvm.MethodName)) ∈ lw_all := lw_g (lw_at lw_m8 2 rfl) rfl
theorem q1764 : (Jvm.Cond.selects "WellRefusesModel" ({ cls := "WellRefusesModel", name := "cover", desc := "()I" } : Jvm.MethodName) ({ cls := "WellRefusesModel", name := "cover", desc := "()I" } : Jvm.MethodName)) ∈ lw_all := lw_g (lw_at lw_m8 3 rfl) rfl
theorem q1765 : (Jvm.Cond.code ({ cls := "WellRefusesModel", name := "cover", desc := "()I" } : Jvm.MethodName) prog_30_method_68_code (7 : Nat) (Option.some Jvm.ClassFile.FieldType.int)) ∈ lw_all := lw_g (lw_at lw_m8 4 rfl) rfl
theorem q1766 : (Jvm.Cond.methodLink "WellRefusesModel" (240 : Nat) ({ cls := "WellRefusesModel", name := "givenSet", desc := "()I" } : Jvm.MethodName)) ∈ lw_all := lw_g (lw_at lw_m8 5 rfl) rfl
theorem q1767 : (Jvm.Cond.privateMethod ({ cls := "WellRefusesModel", name := "givenSet", desc := "()I" } : Jvm.MethodName)) ∈ lw_tbl := lw_at lw_m8 6 rfl
theorem q1768 : (Jvm.Cond.instanceMethod ({ cls := "WellRefusesModel", name := "givenSet", desc := "()I" } : Jvm.MethodName)) ∈ lw_all := lw_g (lw_at lw_m8 7 rfl) rfl
theorem q1769 : (Jvm.Cond.code ({ cls := "WellRefusesModel", name := "givenSet", desc := "()I" } : Jvm.MethodName) prog_30_method_67_code (3 : Nat) (Option.some Jvm.ClassFile.FieldType.int)) ∈ lw_all := lw_g (lw_at lw_m8 8 rfl) rfl
theorem q1770 : (Jvm.Cond.methodLink "WellRefusesModel" (243 : Nat) ({ cls := "WellRefusesModel", name := "bits", desc := "(I)I" } : Jvm.MethodName)) ∈ lw_all := lw_g (lw_at lw_m8 9 rfl) rfl
theorem q1771 : (Jvm.Cond.static ({ cls := "WellRefusesModel", name := "bits", desc := "(I)I" } : Jvm.MethodName)) ∈ lw_all := lw_g (lw_at lw_m8 10 rfl) rfl
theorem q1772 : (Jvm.Cond.code ({ cls := "WellRefusesModel", name := "bits", desc := "(I)I" } : Jvm.MethodName) prog_30_method_6_code (3 : Nat) (Option.some Jvm.ClassFile.FieldType.int)) ∈ lw_all := lw_g (lw_at lw_m8 11 rfl) rfl
theorem q1774 : (Jvm.Cond.instanceMethod ({ cls := "WellRefusesModel", name := "kept", desc := "(II)I" } : Jvm.MethodName)) ∈ lw_all := lw_g (lw_at lw_m8 13 rfl) rfl
theorem q1775 : (Jvm.Cond.selects "WellRefusesModel" ({ cls := "WellRefusesModel", name := "kept", desc := "(II)I" } : Jvm.MethodName) ({ cls := "WellRefusesModel", name := "kept", desc := "(II)I" } : Jvm.MethodName)) ∈ lw_all := lw_g (lw_at lw_m8 14 rfl) rfl
theorem q1776 : (Jvm.Cond.code ({ cls := "WellRefusesModel", name := "kept", desc := "(II)I" } : Jvm.MethodName) prog_30_method_69_code (5 : Nat) (Option.some Jvm.ClassFile.FieldType.int)) ∈ lw_all := lw_g (lw_at lw_m8 15 rfl) rfl
theorem q1778 : (Jvm.Cond.instanceMethod ({ cls := "WellRefusesModel", name := "net", desc := "(I)I" } : Jvm.MethodName)) ∈ lw_all := lw_g (lw_at lw_m8 17 rfl) rfl
theorem q1779 : (Jvm.Cond.selects "WellRefusesModel" ({ cls := "WellRefusesModel", name := "net", desc := "(I)I" } : Jvm.MethodName) ({ cls := "WellRefusesModel", name := "net", desc := "(I)I" } : Jvm.MethodName)) ∈ lw_all := lw_g (lw_at lw_m8 18 rfl) rfl
theorem q1780 : (Jvm.Cond.code ({ cls := "WellRefusesModel", name := "net", desc := "(I)I" } : Jvm.MethodName) prog_30_method_70_code (4 : Nat) (Option.some Jvm.ClassFile.FieldType.int)) ∈ lw_all := lw_g (lw_at lw_m8 19 rfl) rfl
theorem q1782 : (Jvm.Cond.instanceMethod ({ cls := "WellRefusesModel", name := "odds", desc := "(II)I" } : Jvm.MethodName)) ∈ lw_all := lw_g (lw_at lw_m8 21 rfl) rfl
theorem q1783 : (Jvm.Cond.selects "WellRefusesModel" ({ cls := "WellRefusesModel", name := "odds", desc := "(II)I" } : Jvm.MethodName) ({ cls := "WellRefusesModel", name := "odds", desc := "(II)I" } : Jvm.MethodName)) ∈ lw_all := lw_g (lw_at lw_m8 22 rfl) rfl
theorem q1784 : (Jvm.Cond.code ({ cls := "WellRefusesModel", name := "odds", desc := "(II)I" } : Jvm.MethodName) prog_30_method_72_code (5 : Nat) (Option.some Jvm.ClassFile.FieldType.int)) ∈ lw_all := lw_g (lw_at lw_m8 23 rfl) rfl
theorem q1785 : (Jvm.Cond.methodLink "WellRefusesModel" (246 : Nat) ({ cls := "WellRefusesModel", name := "divisor", desc := "(II)I" } : Jvm.MethodName)) ∈ lw_all := lw_g (lw_at lw_m8 24 rfl) rfl
theorem q1786 : (Jvm.Cond.static ({ cls := "WellRefusesModel", name := "divisor", desc := "(II)I" } : Jvm.MethodName)) ∈ lw_all := lw_g (lw_at lw_m8 25 rfl) rfl
theorem q1787 : (Jvm.Cond.code ({ cls := "WellRefusesModel", name := "divisor", desc := "(II)I" } : Jvm.MethodName) prog_30_method_71_code (5 : Nat) (Option.some Jvm.ClassFile.FieldType.int)) ∈ lw_all := lw_g (lw_at lw_m8 26 rfl) rfl
theorem q1789 : (Jvm.Cond.instanceMethod ({ cls := "WellRefusesModel", name := "dry", desc := "()I" } : Jvm.MethodName)) ∈ lw_all := lw_g (lw_at lw_m8 28 rfl) rfl
theorem q1790 : (Jvm.Cond.selects "WellRefusesModel" ({ cls := "WellRefusesModel", name := "dry", desc := "()I" } : Jvm.MethodName) ({ cls := "WellRefusesModel", name := "dry", desc := "()I" } : Jvm.MethodName)) ∈ lw_all := lw_g (lw_at lw_m8 29 rfl) rfl
theorem q1791 : (Jvm.Cond.code ({ cls := "WellRefusesModel", name := "dry", desc := "()I" } : Jvm.MethodName) prog_30_method_73_code (2 : Nat) (Option.some Jvm.ClassFile.FieldType.int)) ∈ lw_all := lw_g (lw_at lw_m8 30 rfl) rfl
theorem q1793 : (Jvm.Cond.instanceMethod ({ cls := "WellRefusesModel", name := "seed", desc := "(I)I" } : Jvm.MethodName)) ∈ lw_all := lw_g (lw_at lw_m8 32 rfl) rfl
theorem q1794 : (Jvm.Cond.selects "WellRefusesModel" ({ cls := "WellRefusesModel", name := "seed", desc := "(I)I" } : Jvm.MethodName) ({ cls := "WellRefusesModel", name := "seed", desc := "(I)I" } : Jvm.MethodName)) ∈ lw_all := lw_g (lw_at lw_m8 33 rfl) rfl
theorem q1795 : (Jvm.Cond.code ({ cls := "WellRefusesModel", name := "seed", desc := "(I)I" } : Jvm.MethodName) prog_30_method_74_code (3 : Nat) (Option.some Jvm.ClassFile.FieldType.int)) ∈ lw_all := lw_g (lw_at lw_m8 34 rfl) rfl
theorem q1797 : (Jvm.Cond.instanceMethod ({ cls := "WellRefusesModel", name := "voice", desc := "(III)I" } : Jvm.MethodName)) ∈ lw_all := lw_g (lw_at lw_m8 36 rfl) rfl
theorem q1798 : (Jvm.Cond.selects "WellRefusesModel" ({ cls := "WellRefusesModel", name := "voice", desc := "(III)I" } : Jvm.MethodName) ({ cls := "WellRefusesModel", name := "voice", desc := "(III)I" } : Jvm.MethodName)) ∈ lw_all := lw_g (lw_at lw_m8 37 rfl) rfl
theorem q1799 : (Jvm.Cond.code ({ cls := "WellRefusesModel", name := "voice", desc := "(III)I" } : Jvm.MethodName) prog_30_method_80_code (4 : Nat) (Option.some Jvm.ClassFile.FieldType.int)) ∈ lw_all := lw_g (lw_at lw_m8 38 rfl) rfl
theorem q1800 : (Jvm.Cond.methodLink "WellRefusesModel" (258 : Nat) ({ cls := "WellRefusesModel", name := "letsIn", desc := "(II)I" } : Jvm.MethodName)) ∈ lw_all := lw_g (lw_at lw_m8 39 rfl) rfl
theorem q1801 : (Jvm.Cond.privateMethod ({ cls := "WellRefusesModel", name := "letsIn", desc := "(II)I" } : Jvm.MethodName)) ∈ lw_tbl := lw_at lw_m8 40 rfl
theorem q1802 : (Jvm.Cond.instanceMethod ({ cls := "WellRefusesModel", name := "letsIn", desc := "(II)I" } : Jvm.MethodName)) ∈ lw_all := lw_g (lw_at lw_m8 41 rfl) rfl
theorem q1803 : (Jvm.Cond.code ({ cls := "WellRefusesModel", name := "letsIn", desc := "(II)I" } : Jvm.MethodName) prog_30_method_76_code (3 : Nat) (Option.some Jvm.ClassFile.FieldType.int)) ∈ lw_all := lw_g (lw_at lw_m8 42 rfl) rfl
theorem q1804 : (Jvm.Cond.methodLink "WellRefusesModel" (252 : Nat) ({ cls := "WellRefusesModel", name := "ran", desc := "(I)V" } : Jvm.MethodName)) ∈ lw_all := lw_g (lw_at lw_m8 43 rfl) rfl
theorem q1805 : (Jvm.Cond.privateMethod ({ cls := "WellRefusesModel", name := "ran", desc := "(I)V" } : Jvm.MethodName)) ∈ lw_tbl := lw_at lw_m8 44 rfl
theorem q1806 : (Jvm.Cond.instanceMethod ({ cls := "WellRefusesModel", name := "ran", desc := "(I)V" } : Jvm.MethodName)) ∈ lw_all := lw_g (lw_at lw_m8 45 rfl) rfl
theorem q1807 : (Jvm.Cond.code ({ cls := "WellRefusesModel", name := "ran", desc := "(I)V" } : Jvm.MethodName) prog_30_method_75_code (2 : Nat) (Option.none : Option Jvm.ClassFile.FieldType)) ∈ lw_all := lw_g (lw_at lw_m8 46 rfl) rfl
theorem q1808 : (Jvm.Cond.methodLink "WellRefusesModel" (270 : Nat) ({ cls := "WellRefusesModel", name := "fillsIn", desc := "(II)I" } : Jvm.MethodName)) ∈ lw_all := lw_g (lw_at lw_m8 47 rfl) rfl
theorem q1809 : (Jvm.Cond.privateMethod ({ cls := "WellRefusesModel", name := "fillsIn", desc := "(II)I" } : Jvm.MethodName)) ∈ lw_tbl := lw_at lw_m8 48 rfl
theorem q1810 : (Jvm.Cond.instanceMethod ({ cls := "WellRefusesModel", name := "fillsIn", desc := "(II)I" } : Jvm.MethodName)) ∈ lw_all := lw_g (lw_at lw_m8 49 rfl) rfl
theorem q1811 : (Jvm.Cond.code ({ cls := "WellRefusesModel", name := "fillsIn", desc := "(II)I" } : Jvm.MethodName) prog_30_method_78_code (4 : Nat) (Option.some Jvm.ClassFile.FieldType.int)) ∈ lw_all := lw_g (lw_at lw_m8 50 rfl) rfl
theorem q1812 : (Jvm.Cond.methodLink "WellRefusesModel" (264 : Nat) ({ cls := "WellRefusesModel", name := "lendsIn", desc := "(II)I" } : Jvm.MethodName)) ∈ lw_all := lw_g (lw_at lw_m8 51 rfl) rfl
theorem q1813 : (Jvm.Cond.privateMethod ({ cls := "WellRefusesModel", name := "lendsIn", desc := "(II)I" } : Jvm.MethodName)) ∈ lw_tbl := lw_at lw_m8 52 rfl
theorem q1814 : (Jvm.Cond.instanceMethod ({ cls := "WellRefusesModel", name := "lendsIn", desc := "(II)I" } : Jvm.MethodName)) ∈ lw_all := lw_g (lw_at lw_m8 53 rfl) rfl
theorem q1815 : (Jvm.Cond.code ({ cls := "WellRefusesModel", name := "lendsIn", desc := "(II)I" } : Jvm.MethodName) prog_30_method_77_code (3 : Nat) (Option.some Jvm.ClassFile.FieldType.int)) ∈ lw_all := lw_g (lw_at lw_m8 54 rfl) rfl
theorem q1816 : (Jvm.Cond.methodLink "WellRefusesModel" (273 : Nat) ({ cls := "WellRefusesModel", name := "tellsIn", desc := "(II)I" } : Jvm.MethodName)) ∈ lw_all := lw_g (lw_at lw_m8 55 rfl) rfl
theorem q1817 : (Jvm.Cond.privateMethod ({ cls := "WellRefusesModel", name := "tellsIn", desc := "(II)I" } : Jvm.MethodName)) ∈ lw_tbl := lw_at lw_m8 56 rfl
theorem q1818 : (Jvm.Cond.instanceMethod ({ cls := "WellRefusesModel", name := "tellsIn", desc := "(II)I" } : Jvm.MethodName)) ∈ lw_all := lw_g (lw_at lw_m8 57 rfl) rfl
theorem q1819 : (Jvm.Cond.code ({ cls := "WellRefusesModel", name := "tellsIn", desc := "(II)I" } : Jvm.MethodName) prog_30_method_79_code (4 : Nat) (Option.some Jvm.ClassFile.FieldType.int)) ∈ lw_all := lw_g (lw_at lw_m8 58 rfl) rfl
theorem q1821 : (Jvm.Cond.instanceMethod ({ cls := "WellRefusesModel", name := "trace", desc := "(I)I" } : Jvm.MethodName)) ∈ lw_all := lw_g (lw_at lw_m8 60 rfl) rfl
theorem q1822 : (Jvm.Cond.selects "WellRefusesModel" ({ cls := "WellRefusesModel", name := "trace", desc := "(I)I" } : Jvm.MethodName) ({ cls := "WellRefusesModel", name := "trace", desc := "(I)I" } : Jvm.MethodName)) ∈ lw_all := lw_g (lw_at lw_m8 61 rfl) rfl
theorem q1823 : (Jvm.Cond.code ({ cls := "WellRefusesModel", name := "trace", desc := "(I)I" } : Jvm.MethodName) prog_30_method_81_code (2 : Nat) (Option.some Jvm.ClassFile.FieldType.int)) ∈ lw_all := lw_g (lw_at lw_m8 62 rfl) rfl
theorem q1825 : (Jvm.Cond.instanceMethod ({ cls := "WellRefusesModel", name := "sheet", desc := "(III)I" } : Jvm.MethodName)) ∈ lw_all := lw_g (lw_at lw_m8 64 rfl) rfl
theorem q1826 : (Jvm.Cond.selects "WellRefusesModel" ({ cls := "WellRefusesModel", name := "sheet", desc := "(III)I" } : Jvm.MethodName) ({ cls := "WellRefusesModel", name := "sheet", desc := "(III)I" } : Jvm.MethodName)) ∈ lw_all := lw_g (lw_at lw_m8 65 rfl) rfl
theorem q1827 : (Jvm.Cond.code ({ cls := "WellRefusesModel", name := "sheet", desc := "(III)I" } : Jvm.MethodName) prog_30_method_83_code (5 : Nat) (Option.some Jvm.ClassFile.FieldType.int)) ∈ lw_all := lw_g (lw_at lw_m8 66 rfl) rfl
theorem q1829 : (Jvm.Cond.instanceMethod ({ cls := "WellRefusesModel", name := "put", desc := "(III)I" } : Jvm.MethodName)) ∈ lw_all := lw_g (lw_at lw_m8 68 rfl) rfl
theorem q1830 : (Jvm.Cond.selects "WellRefusesModel" ({ cls := "WellRefusesModel", name := "put", desc := "(III)I" } : Jvm.MethodName) ({ cls := "WellRefusesModel", name := "put", desc := "(III)I" } : Jvm.MethodName)) ∈ lw_all := lw_g (lw_at lw_m8 69 rfl) rfl
theorem q1831 : (Jvm.Cond.code ({ cls := "WellRefusesModel", name := "put", desc := "(III)I" } : Jvm.MethodName) prog_30_method_84_code (4 : Nat) (Option.some Jvm.ClassFile.FieldType.int)) ∈ lw_all := lw_g (lw_at lw_m8 70 rfl) rfl
theorem q1832 : (Jvm.Cond.methodLink "WellRefusesModel" (276 : Nat) ({ cls := "WellRefusesModel", name := "narrow", desc := "(II)I" } : Jvm.MethodName)) ∈ lw_all := lw_g (lw_at lw_m8 71 rfl) rfl
theorem q1833 : (Jvm.Cond.static ({ cls := "WellRefusesModel", name := "narrow", desc := "(II)I" } : Jvm.MethodName)) ∈ lw_all := lw_g (lw_at lw_m8 72 rfl) rfl
theorem q1834 : (Jvm.Cond.code ({ cls := "WellRefusesModel", name := "narrow", desc := "(II)I" } : Jvm.MethodName) prog_30_method_82_code (2 : Nat) (Option.some Jvm.ClassFile.FieldType.int)) ∈ lw_all := lw_g (lw_at lw_m8 73 rfl) rfl
theorem q1836 : (Jvm.Cond.instanceMethod ({ cls := "WellRefusesModel", name := "move", desc := "(IIIII)I" } : Jvm.MethodName)) ∈ lw_all := lw_g (lw_at lw_m8 75 rfl) rfl
theorem q1837 : (Jvm.Cond.selects "WellRefusesModel" ({ cls := "WellRefusesModel", name := "move", desc := "(IIIII)I" } : Jvm.MethodName) ({ cls := "WellRefusesModel", name := "move", desc := "(IIIII)I" } : Jvm.MethodName)) ∈ lw_all := lw_g (lw_at lw_m8 76 rfl) rfl
theorem q1838 : (Jvm.Cond.code ({ cls := "WellRefusesModel", name := "move", desc := "(IIIII)I" } : Jvm.MethodName) prog_30_method_85_code (7 : Nat) (Option.some Jvm.ClassFile.FieldType.int)) ∈ lw_all := lw_g (lw_at lw_m8 77 rfl) rfl
theorem q1840 : (Jvm.Cond.instanceMethod ({ cls := "WellRefusesModel", name := "traits", desc := "(I)I" } : Jvm.MethodName)) ∈ lw_all := lw_g (lw_at lw_m8 79 rfl) rfl
theorem q1841 : (Jvm.Cond.selects "WellRefusesModel" ({ cls := "WellRefusesModel", name := "traits", desc := "(I)I" } : Jvm.MethodName) ({ cls := "WellRefusesModel", name := "traits", desc := "(I)I" } : Jvm.MethodName)) ∈ lw_all := lw_g (lw_at lw_m8 80 rfl) rfl
theorem q1842 : (Jvm.Cond.code ({ cls := "WellRefusesModel", name := "traits", desc := "(I)I" } : Jvm.MethodName) prog_30_method_86_code (3 : Nat) (Option.some Jvm.ClassFile.FieldType.int)) ∈ lw_all := lw_g (lw_at lw_m8 81 rfl) rfl
theorem q1844 : (Jvm.Cond.instanceMethod ({ cls := "WellRefusesModel", name := "judge", desc := "(I)I" } : Jvm.MethodName)) ∈ lw_all := lw_g (lw_at lw_m8 83 rfl) rfl
theorem q1845 : (Jvm.Cond.selects "WellRefusesModel" ({ cls := "WellRefusesModel", name := "judge", desc := "(I)I" } : Jvm.MethodName) ({ cls := "WellRefusesModel", name := "judge", desc := "(I)I" } : Jvm.MethodName)) ∈ lw_all := lw_g (lw_at lw_m8 84 rfl) rfl
theorem q1846 : (Jvm.Cond.code ({ cls := "WellRefusesModel", name := "judge", desc := "(I)I" } : Jvm.MethodName) prog_30_method_87_code (3 : Nat) (Option.some Jvm.ClassFile.FieldType.int)) ∈ lw_all := lw_g (lw_at lw_m8 85 rfl) rfl
theorem q1848 : (Jvm.Cond.instanceMethod ({ cls := "WellRefusesModel", name := "image", desc := "()I" } : Jvm.MethodName)) ∈ lw_all := lw_g (lw_at lw_m8 87 rfl) rfl
theorem q1849 : (Jvm.Cond.selects "WellRefusesModel" ({ cls := "WellRefusesModel", name := "image", desc := "()I" } : Jvm.MethodName) ({ cls := "WellRefusesModel", name := "image", desc := "()I" } : Jvm.MethodName)) ∈ lw_all := lw_g (lw_at lw_m8 88 rfl) rfl
theorem q1850 : (Jvm.Cond.code ({ cls := "WellRefusesModel", name := "image", desc := "()I" } : Jvm.MethodName) prog_30_method_88_code (1 : Nat) (Option.some Jvm.ClassFile.FieldType.int)) ∈ lw_all := lw_g (lw_at lw_m8 89 rfl) rfl
theorem q1852 : (Jvm.Cond.instanceMethod ({ cls := "WellRefusesModel", name := "restore", desc := "()I" } : Jvm.MethodName)) ∈ lw_all := lw_g (lw_at lw_m8 91 rfl) rfl
theorem q1853 : (Jvm.Cond.selects "WellRefusesModel" ({ cls := "WellRefusesModel", name := "restore", desc := "()I" } : Jvm.MethodName) ({ cls := "WellRefusesModel", name := "restore", desc := "()I" } : Jvm.MethodName)) ∈ lw_all := lw_g (lw_at lw_m8 92 rfl) rfl
theorem q1854 : (Jvm.Cond.code ({ cls := "WellRefusesModel", name := "restore", desc := "()I" } : Jvm.MethodName) prog_30_method_89_code (1 : Nat) (Option.some Jvm.ClassFile.FieldType.int)) ∈ lw_all := lw_g (lw_at lw_m8 93 rfl) rfl
theorem q1856 : (Jvm.Cond.instanceMethod ({ cls := "WellRefusesModel", name := "tell", desc := "(I)I" } : Jvm.MethodName)) ∈ lw_all := lw_g (lw_at lw_m8 95 rfl) rfl
theorem q1857 : (Jvm.Cond.selects "WellRefusesModel" ({ cls := "WellRefusesModel", name := "tell", desc := "(I)I" } : Jvm.MethodName) ({ cls := "WellRefusesModel", name := "tell", desc := "(I)I" } : Jvm.MethodName)) ∈ lw_all := lw_g (lw_at lw_m8 96 rfl) rfl
theorem q1858 : (Jvm.Cond.code ({ cls := "WellRefusesModel", name := "tell", desc := "(I)I" } : Jvm.MethodName) prog_30_method_90_code (2 : Nat) (Option.some Jvm.ClassFile.FieldType.int)) ∈ lw_all := lw_g (lw_at lw_m8 97 rfl) rfl
theorem q1860 : (Jvm.Cond.instanceMethod ({ cls := "WellRefusesModel", name := "check", desc := "()I" } : Jvm.MethodName)) ∈ lw_all := lw_g (lw_at lw_m8 99 rfl) rfl
theorem q1861 : (Jvm.Cond.selects "WellRefusesModel" ({ cls := "WellRefusesModel", name := "check", desc := "()I" } : Jvm.MethodName) ({ cls := "WellRefusesModel", name := "check", desc := "()I" } : Jvm.MethodName)) ∈ lw_all := lw_g (lw_at lw_m8 100 rfl) rfl
theorem q1862 : (Jvm.Cond.code ({ cls := "WellRefusesModel", name := "check", desc := "()I" } : Jvm.MethodName) prog_30_method_91_code (4 : Nat) (Option.some Jvm.ClassFile.FieldType.int)) ∈ lw_all := lw_g (lw_at lw_m8 101 rfl) rfl
theorem q1864 : (Jvm.Cond.instanceMethod ({ cls := "WellRefusesModel", name := "count", desc := "(I)I" } : Jvm.MethodName)) ∈ lw_all := lw_g (lw_at lw_m8 103 rfl) rfl
theorem q1865 : (Jvm.Cond.selects "WellRefusesModel" ({ cls := "WellRefusesModel", name := "count", desc := "(I)I" } : Jvm.MethodName) ({ cls := "WellRefusesModel", name := "count", desc := "(I)I" } : Jvm.MethodName)) ∈ lw_all := lw_g (lw_at lw_m8 104 rfl) rfl
theorem q1866 : (Jvm.Cond.code ({ cls := "WellRefusesModel", name := "count", desc := "(I)I" } : Jvm.MethodName) prog_30_method_92_code (2 : Nat) (Option.some Jvm.ClassFile.FieldType.int)) ∈ lw_all := lw_g (lw_at lw_m8 105 rfl) rfl
theorem q1868 : (Jvm.Cond.instanceMethod ({ cls := "WellRefusesModel", name := "told", desc := "(I)I" } : Jvm.MethodName)) ∈ lw_all := lw_g (lw_at lw_m8 107 rfl) rfl
theorem q1869 : (Jvm.Cond.selects "WellRefusesModel" ({ cls := "WellRefusesModel", name := "told", desc := "(I)I" } : Jvm.MethodName) ({ cls := "WellRefusesModel", name := "told", desc := "(I)I" } : Jvm.MethodName)) ∈ lw_all := lw_g (lw_at lw_m8 108 rfl) rfl
theorem q1870 : (Jvm.Cond.code ({ cls := "WellRefusesModel", name := "told", desc := "(I)I" } : Jvm.MethodName) prog_30_method_93_code (2 : Nat) (Option.some Jvm.ClassFile.FieldType.int)) ∈ lw_all := lw_g (lw_at lw_m8 109 rfl) rfl

