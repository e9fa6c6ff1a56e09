/-! names, decode rows, words: out of claim/names -/
set_option maxRecDepth 100000
abbrev cX2_init : ByteArray := prog_12_method_1_code
def yX2_init : MethodName := ⟨RX2, "<init>", "()V"⟩
def dkwX2_init_3 : List UInt8 := [42, 16, 20, 188, 10, 181, 0, 47, 42, 187, 0, 50, 89, 183, 0, 52, 181, 0, 53, 177]
abbrev dktX2_init_3 : List UInt8 := dkwX2_init_3 ++ []
def dkwX2_init_2 : List UInt8 := [181, 0, 30, 42, 5, 189, 0, 34, 181, 0, 36, 42, 4, 181, 0, 40, 42, 16, 50, 188, 8, 181, 0, 43]
abbrev dktX2_init_2 : List UInt8 := dkwX2_init_2 ++ dktX2_init_3
def dkwX2_init_1 : List UInt8 := [188, 10, 181, 0, 21, 42, 16, 8, 188, 10, 181, 0, 24, 42, 16, 64, 188, 10, 181, 0, 27, 42, 2]
abbrev dktX2_init_1 : List UInt8 := dkwX2_init_1 ++ dktX2_init_2
def dkwX2_init_0 : List UInt8 := [42, 183, 0, 3, 42, 16, 8, 189, 0, 9, 181, 0, 11, 42, 16, 8, 188, 10, 181, 0, 17, 42, 16, 8]
abbrev dktX2_init_0 : List UInt8 := dkwX2_init_0 ++ dktX2_init_1
theorem dksX2_init_0 : cX2_init.data.toList.drop 0 = dktX2_init_0 := by decide +kernel
theorem dksX2_init_1 : cX2_init.data.toList.drop 24 = dktX2_init_1 := dk_seg dksX2_init_0 24 rfl rfl
theorem dksX2_init_2 : cX2_init.data.toList.drop 47 = dktX2_init_2 := dk_seg dksX2_init_1 23 rfl rfl
theorem dksX2_init_3 : cX2_init.data.toList.drop 71 = dktX2_init_3 := dk_seg dksX2_init_2 24 rfl rfl
theorem dX2_init_0 : decode cX2_init 0 = .ok (.aload_n 0, 1) := dk_42 (dk_at dksX2_init_0 0 rfl rfl)
theorem dX2_init_1 : decode cX2_init 1 = .ok (.invokespecial 3, 3) := dk_183 0 3 (dk_at dksX2_init_0 1 rfl rfl)
theorem dX2_init_4 : decode cX2_init 4 = .ok (.aload_n 0, 1) := dk_42 (dk_at dksX2_init_0 4 rfl rfl)
theorem dX2_init_5 : decode cX2_init 5 = .ok (.bipush 8, 2) := dk_16 8 (dk_at dksX2_init_0 5 rfl rfl)
theorem dX2_init_7 : decode cX2_init 7 = .ok (.anewarray 9, 3) := dk_189 0 9 (dk_at dksX2_init_0 7 rfl rfl)
theorem dX2_init_10 : decode cX2_init 10 = .ok (.putfield 11, 3) := dk_181 0 11 (dk_at dksX2_init_0 10 rfl rfl)
theorem dX2_init_13 : decode cX2_init 13 = .ok (.aload_n 0, 1) := dk_42 (dk_at dksX2_init_0 13 rfl rfl)
theorem dX2_init_14 : decode cX2_init 14 = .ok (.bipush 8, 2) := dk_16 8 (dk_at dksX2_init_0 14 rfl rfl)
theorem dX2_init_16 : decode cX2_init 16 = .ok (.newarray .int, 2) := dk_188_10 (dk_at dksX2_init_0 16 rfl rfl)
theorem dX2_init_18 : decode cX2_init 18 = .ok (.putfield 17, 3) := dk_181 0 17 (dk_at dksX2_init_0 18 rfl rfl)
theorem dX2_init_21 : decode cX2_init 21 = .ok (.aload_n 0, 1) := dk_42 (dk_at dksX2_init_0 21 rfl rfl)
theorem dX2_init_22 : decode cX2_init 22 = .ok (.bipush 8, 2) := dk_16 8 (dk_at dksX2_init_0 22 rfl rfl)
theorem dX2_init_24 : decode cX2_init 24 = .ok (.newarray .int, 2) := dk_188_10 (dk_at dksX2_init_1 0 rfl rfl)
theorem dX2_init_26 : decode cX2_init 26 = .ok (.putfield 21, 3) := dk_181 0 21 (dk_at dksX2_init_1 2 rfl rfl)
theorem dX2_init_29 : decode cX2_init 29 = .ok (.aload_n 0, 1) := dk_42 (dk_at dksX2_init_1 5 rfl rfl)
theorem dX2_init_30 : decode cX2_init 30 = .ok (.bipush 8, 2) := dk_16 8 (dk_at dksX2_init_1 6 rfl rfl)
theorem dX2_init_32 : decode cX2_init 32 = .ok (.newarray .int, 2) := dk_188_10 (dk_at dksX2_init_1 8 rfl rfl)
theorem dX2_init_34 : decode cX2_init 34 = .ok (.putfield 24, 3) := dk_181 0 24 (dk_at dksX2_init_1 10 rfl rfl)
theorem dX2_init_37 : decode cX2_init 37 = .ok (.aload_n 0, 1) := dk_42 (dk_at dksX2_init_1 13 rfl rfl)
theorem dX2_init_38 : decode cX2_init 38 = .ok (.bipush 64, 2) := dk_16 64 (dk_at dksX2_init_1 14 rfl rfl)
theorem dX2_init_40 : decode cX2_init 40 = .ok (.newarray .int, 2) := dk_188_10 (dk_at dksX2_init_1 16 rfl rfl)
theorem dX2_init_42 : decode cX2_init 42 = .ok (.putfield 27, 3) := dk_181 0 27 (dk_at dksX2_init_1 18 rfl rfl)
theorem dX2_init_45 : decode cX2_init 45 = .ok (.aload_n 0, 1) := dk_42 (dk_at dksX2_init_1 21 rfl rfl)
theorem dX2_init_46 : decode cX2_init 46 = .ok (.iconst (-1), 1) := dk_2 (dk_at dksX2_init_1 22 rfl rfl)
theorem dX2_init_47 : decode cX2_init 47 = .ok (.putfield 30, 3) := dk_181 0 30 (dk_at dksX2_init_2 0 rfl rfl)
theorem dX2_init_50 : decode cX2_init 50 = .ok (.aload_n 0, 1) := dk_42 (dk_at dksX2_init_2 3 rfl rfl)
theorem dX2_init_51 : decode cX2_init 51 = .ok (.iconst 2, 1) := dk_5 (dk_at dksX2_init_2 4 rfl rfl)
theorem dX2_init_52 : decode cX2_init 52 = .ok (.anewarray 34, 3) := dk_189 0 34 (dk_at dksX2_init_2 5 rfl rfl)
theorem dX2_init_55 : decode cX2_init 55 = .ok (.putfield 36, 3) := dk_181 0 36 (dk_at dksX2_init_2 8 rfl rfl)
theorem dX2_init_58 : decode cX2_init 58 = .ok (.aload_n 0, 1) := dk_42 (dk_at dksX2_init_2 11 rfl rfl)
theorem dX2_init_59 : decode cX2_init 59 = .ok (.iconst 1, 1) := dk_4 (dk_at dksX2_init_2 12 rfl rfl)
theorem dX2_init_60 : decode cX2_init 60 = .ok (.putfield 40, 3) := dk_181 0 40 (dk_at dksX2_init_2 13 rfl rfl)
theorem dX2_init_63 : decode cX2_init 63 = .ok (.aload_n 0, 1) := dk_42 (dk_at dksX2_init_2 16 rfl rfl)
theorem dX2_init_64 : decode cX2_init 64 = .ok (.bipush 50, 2) := dk_16 50 (dk_at dksX2_init_2 17 rfl rfl)
theorem dX2_init_66 : decode cX2_init 66 = .ok (.newarray .byte, 2) := dk_188_8 (dk_at dksX2_init_2 19 rfl rfl)
theorem dX2_init_68 : decode cX2_init 68 = .ok (.putfield 43, 3) := dk_181 0 43 (dk_at dksX2_init_2 21 rfl rfl)
theorem dX2_init_71 : decode cX2_init 71 = .ok (.aload_n 0, 1) := dk_42 (dk_at dksX2_init_3 0 rfl rfl)
theorem dX2_init_72 : decode cX2_init 72 = .ok (.bipush 20, 2) := dk_16 20 (dk_at dksX2_init_3 1 rfl rfl)
theorem dX2_init_74 : decode cX2_init 74 = .ok (.newarray .int, 2) := dk_188_10 (dk_at dksX2_init_3 3 rfl rfl)
theorem dX2_init_76 : decode cX2_init 76 = .ok (.putfield 47, 3) := dk_181 0 47 (dk_at dksX2_init_3 5 rfl rfl)
theorem dX2_init_79 : decode cX2_init 79 = .ok (.aload_n 0, 1) := dk_42 (dk_at dksX2_init_3 8 rfl rfl)
theorem dX2_init_80 : decode cX2_init 80 = .ok (.new 50, 3) := dk_187 0 50 (dk_at dksX2_init_3 9 rfl rfl)
theorem dX2_init_83 : decode cX2_init 83 = .ok (.dup, 1) := dk_89 (dk_at dksX2_init_3 12 rfl rfl)
theorem dX2_init_84 : decode cX2_init 84 = .ok (.invokespecial 52, 3) := dk_183 0 52 (dk_at dksX2_init_3 13 rfl rfl)
theorem dX2_init_87 : decode cX2_init 87 = .ok (.putfield 53, 3) := dk_181 0 53 (dk_at dksX2_init_3 16 rfl rfl)
theorem dX2_init_90 : decode cX2_init 90 = .ok (.return_, 1) := dk_177 (dk_at dksX2_init_3 19 rfl rfl)
abbrev cX2_place : ByteArray := prog_12_method_9_code
def yX2_place : MethodName := ⟨RX2, "place", "(II)I"⟩
def dkwX2_place_0 : List UInt8 := [16, 8, 26, 104, 27, 96, 172]
abbrev dktX2_place_0 : List UInt8 := dkwX2_place_0 ++ []
theorem dksX2_place_0 : cX2_place.data.toList.drop 0 = dktX2_place_0 := by decide +kernel
theorem dX2_place_0 : decode cX2_place 0 = .ok (.bipush 8, 2) := dk_16 8 (dk_at dksX2_place_0 0 rfl rfl)
theorem dX2_place_2 : decode cX2_place 2 = .ok (.iload_n 0, 1) := dk_26 (dk_at dksX2_place_0 2 rfl rfl)
theorem dX2_place_3 : decode cX2_place 3 = .ok (.imul, 1) := dk_104 (dk_at dksX2_place_0 3 rfl rfl)
theorem dX2_place_4 : decode cX2_place 4 = .ok (.iload_n 1, 1) := dk_27 (dk_at dksX2_place_0 4 rfl rfl)
theorem dX2_place_5 : decode cX2_place 5 = .ok (.iadd, 1) := dk_96 (dk_at dksX2_place_0 5 rfl rfl)
theorem dX2_place_6 : decode cX2_place 6 = .ok (.ireturn, 1) := dk_172 (dk_at dksX2_place_0 6 rfl rfl)
abbrev cX2_isGivenNow : ByteArray := prog_12_method_7_code
def yX2_isGivenNow : MethodName := ⟨RX2, "isGivenNow", "(I)Z"⟩
def dkwX2_isGivenNow_0 : List UInt8 := [42, 27, 42, 180, 0, 17, 27, 46, 42, 180, 0, 66, 182, 0, 99, 172]
abbrev dktX2_isGivenNow_0 : List UInt8 := dkwX2_isGivenNow_0 ++ []
theorem dksX2_isGivenNow_0 : cX2_isGivenNow.data.toList.drop 0 = dktX2_isGivenNow_0 := by decide +kernel
theorem dX2_isGivenNow_0 : decode cX2_isGivenNow 0 = .ok (.aload_n 0, 1) := dk_42 (dk_at dksX2_isGivenNow_0 0 rfl rfl)
theorem dX2_isGivenNow_1 : decode cX2_isGivenNow 1 = .ok (.iload_n 1, 1) := dk_27 (dk_at dksX2_isGivenNow_0 1 rfl rfl)
theorem dX2_isGivenNow_2 : decode cX2_isGivenNow 2 = .ok (.aload_n 0, 1) := dk_42 (dk_at dksX2_isGivenNow_0 2 rfl rfl)
theorem dX2_isGivenNow_3 : decode cX2_isGivenNow 3 = .ok (.getfield 17, 3) := dk_180 0 17 (dk_at dksX2_isGivenNow_0 3 rfl rfl)
theorem dX2_isGivenNow_6 : decode cX2_isGivenNow 6 = .ok (.iload_n 1, 1) := dk_27 (dk_at dksX2_isGivenNow_0 6 rfl rfl)
theorem dX2_isGivenNow_7 : decode cX2_isGivenNow 7 = .ok (.iaload, 1) := dk_46 (dk_at dksX2_isGivenNow_0 7 rfl rfl)
theorem dX2_isGivenNow_8 : decode cX2_isGivenNow 8 = .ok (.aload_n 0, 1) := dk_42 (dk_at dksX2_isGivenNow_0 8 rfl rfl)
theorem dX2_isGivenNow_9 : decode cX2_isGivenNow 9 = .ok (.getfield 66, 3) := dk_180 0 66 (dk_at dksX2_isGivenNow_0 9 rfl rfl)
theorem dX2_isGivenNow_12 : decode cX2_isGivenNow 12 = .ok (.invokevirtual 99, 3) := dk_182 0 99 (dk_at dksX2_isGivenNow_0 12 rfl rfl)
theorem dX2_isGivenNow_15 : decode cX2_isGivenNow 15 = .ok (.ireturn, 1) := dk_172 (dk_at dksX2_isGivenNow_0 15 rfl rfl)
abbrev cX2_isGiven : ByteArray := prog_12_method_6_code
def yX2_isGiven : MethodName := ⟨RX2, "isGiven", "(III)Z"⟩
def dkwX2_isGiven_0 : List UInt8 := [42, 28, 29, 16, 7, 112, 42, 180, 0, 21, 27, 46, 182, 0, 96, 153, 0, 7, 4, 167, 0, 4, 3, 172]
abbrev dktX2_isGiven_0 : List UInt8 := dkwX2_isGiven_0 ++ []
theorem dksX2_isGiven_0 : cX2_isGiven.data.toList.drop 0 = dktX2_isGiven_0 := by decide +kernel
theorem dX2_isGiven_0 : decode cX2_isGiven 0 = .ok (.aload_n 0, 1) := dk_42 (dk_at dksX2_isGiven_0 0 rfl rfl)
theorem dX2_isGiven_1 : decode cX2_isGiven 1 = .ok (.iload_n 2, 1) := dk_28 (dk_at dksX2_isGiven_0 1 rfl rfl)
theorem dX2_isGiven_2 : decode cX2_isGiven 2 = .ok (.iload_n 3, 1) := dk_29 (dk_at dksX2_isGiven_0 2 rfl rfl)
theorem dX2_isGiven_3 : decode cX2_isGiven 3 = .ok (.bipush 7, 2) := dk_16 7 (dk_at dksX2_isGiven_0 3 rfl rfl)
theorem dX2_isGiven_5 : decode cX2_isGiven 5 = .ok (.irem, 1) := dk_112 (dk_at dksX2_isGiven_0 5 rfl rfl)
theorem dX2_isGiven_6 : decode cX2_isGiven 6 = .ok (.aload_n 0, 1) := dk_42 (dk_at dksX2_isGiven_0 6 rfl rfl)
theorem dX2_isGiven_7 : decode cX2_isGiven 7 = .ok (.getfield 21, 3) := dk_180 0 21 (dk_at dksX2_isGiven_0 7 rfl rfl)
theorem dX2_isGiven_10 : decode cX2_isGiven 10 = .ok (.iload_n 1, 1) := dk_27 (dk_at dksX2_isGiven_0 10 rfl rfl)
theorem dX2_isGiven_11 : decode cX2_isGiven 11 = .ok (.iaload, 1) := dk_46 (dk_at dksX2_isGiven_0 11 rfl rfl)
theorem dX2_isGiven_12 : decode cX2_isGiven 12 = .ok (.invokevirtual 96, 3) := dk_182 0 96 (dk_at dksX2_isGiven_0 12 rfl rfl)
theorem dX2_isGiven_15 : decode cX2_isGiven 15 = .ok (.ifCond .eq 7, 3) := dk_153 0 7 (dk_at dksX2_isGiven_0 15 rfl rfl)
theorem dX2_isGiven_18 : decode cX2_isGiven 18 = .ok (.iconst 1, 1) := dk_4 (dk_at dksX2_isGiven_0 18 rfl rfl)
theorem dX2_isGiven_19 : decode cX2_isGiven 19 = .ok (.goto 4, 3) := dk_167 0 4 (dk_at dksX2_isGiven_0 19 rfl rfl)
theorem dX2_isGiven_22 : decode cX2_isGiven 22 = .ok (.iconst 0, 1) := dk_3 (dk_at dksX2_isGiven_0 22 rfl rfl)
theorem dX2_isGiven_23 : decode cX2_isGiven 23 = .ok (.ireturn, 1) := dk_172 (dk_at dksX2_isGiven_0 23 rfl rfl)
abbrev cX2_givesBy : ByteArray := prog_12_method_4_code
def yX2_givesBy : MethodName := ⟨RX2, "givesBy", "(III)I"⟩
def dkwX2_givesBy_2 : List UInt8 := [54, 4, 21, 4, 3, 4, 184, 0, 92, 172]
abbrev dktX2_givesBy_2 : List UInt8 := dkwX2_givesBy_2 ++ []
def dkwX2_givesBy_1 : List UInt8 := [180, 0, 53, 16, 116, 27, 182, 0, 84, 16, 100, 28, 182, 0, 84, 16, 119, 29, 182, 0, 84, 182, 0, 88]
abbrev dktX2_givesBy_1 : List UInt8 := dkwX2_givesBy_1 ++ dktX2_givesBy_2
def dkwX2_givesBy_0 : List UInt8 := [42, 180, 0, 36, 3, 50, 199, 0, 9, 27, 5, 112, 167, 0, 34, 42, 180, 0, 36, 3, 50, 42]
abbrev dktX2_givesBy_0 : List UInt8 := dkwX2_givesBy_0 ++ dktX2_givesBy_1
theorem dksX2_givesBy_0 : cX2_givesBy.data.toList.drop 0 = dktX2_givesBy_0 := by decide +kernel
theorem dksX2_givesBy_1 : cX2_givesBy.data.toList.drop 22 = dktX2_givesBy_1 := dk_seg dksX2_givesBy_0 22 rfl rfl
theorem dksX2_givesBy_2 : cX2_givesBy.data.toList.drop 46 = dktX2_givesBy_2 := dk_seg dksX2_givesBy_1 24 rfl rfl
theorem dX2_givesBy_0 : decode cX2_givesBy 0 = .ok (.aload_n 0, 1) := dk_42 (dk_at dksX2_givesBy_0 0 rfl rfl)
theorem dX2_givesBy_1 : decode cX2_givesBy 1 = .ok (.getfield 36, 3) := dk_180 0 36 (dk_at dksX2_givesBy_0 1 rfl rfl)
theorem dX2_givesBy_4 : decode cX2_givesBy 4 = .ok (.iconst 0, 1) := dk_3 (dk_at dksX2_givesBy_0 4 rfl rfl)
theorem dX2_givesBy_5 : decode cX2_givesBy 5 = .ok (.aaload, 1) := dk_50 (dk_at dksX2_givesBy_0 5 rfl rfl)
theorem dX2_givesBy_6 : decode cX2_givesBy 6 = .ok (.ifnonnull 9, 3) := dk_199 0 9 (dk_at dksX2_givesBy_0 6 rfl rfl)
theorem dX2_givesBy_9 : decode cX2_givesBy 9 = .ok (.iload_n 1, 1) := dk_27 (dk_at dksX2_givesBy_0 9 rfl rfl)
theorem dX2_givesBy_10 : decode cX2_givesBy 10 = .ok (.iconst 2, 1) := dk_5 (dk_at dksX2_givesBy_0 10 rfl rfl)
theorem dX2_givesBy_11 : decode cX2_givesBy 11 = .ok (.irem, 1) := dk_112 (dk_at dksX2_givesBy_0 11 rfl rfl)
theorem dX2_givesBy_12 : decode cX2_givesBy 12 = .ok (.goto 34, 3) := dk_167 0 34 (dk_at dksX2_givesBy_0 12 rfl rfl)
theorem dX2_givesBy_15 : decode cX2_givesBy 15 = .ok (.aload_n 0, 1) := dk_42 (dk_at dksX2_givesBy_0 15 rfl rfl)
theorem dX2_givesBy_16 : decode cX2_givesBy 16 = .ok (.getfield 36, 3) := dk_180 0 36 (dk_at dksX2_givesBy_0 16 rfl rfl)
theorem dX2_givesBy_19 : decode cX2_givesBy 19 = .ok (.iconst 0, 1) := dk_3 (dk_at dksX2_givesBy_0 19 rfl rfl)
theorem dX2_givesBy_20 : decode cX2_givesBy 20 = .ok (.aaload, 1) := dk_50 (dk_at dksX2_givesBy_0 20 rfl rfl)
theorem dX2_givesBy_21 : decode cX2_givesBy 21 = .ok (.aload_n 0, 1) := dk_42 (dk_at dksX2_givesBy_0 21 rfl rfl)
theorem dX2_givesBy_22 : decode cX2_givesBy 22 = .ok (.getfield 53, 3) := dk_180 0 53 (dk_at dksX2_givesBy_1 0 rfl rfl)
theorem dX2_givesBy_25 : decode cX2_givesBy 25 = .ok (.bipush 116, 2) := dk_16 116 (dk_at dksX2_givesBy_1 3 rfl rfl)
theorem dX2_givesBy_27 : decode cX2_givesBy 27 = .ok (.iload_n 1, 1) := dk_27 (dk_at dksX2_givesBy_1 5 rfl rfl)
theorem dX2_givesBy_28 : decode cX2_givesBy 28 = .ok (.invokevirtual 84, 3) := dk_182 0 84 (dk_at dksX2_givesBy_1 6 rfl rfl)
theorem dX2_givesBy_31 : decode cX2_givesBy 31 = .ok (.bipush 100, 2) := dk_16 100 (dk_at dksX2_givesBy_1 9 rfl rfl)
theorem dX2_givesBy_33 : decode cX2_givesBy 33 = .ok (.iload_n 2, 1) := dk_28 (dk_at dksX2_givesBy_1 11 rfl rfl)
theorem dX2_givesBy_34 : decode cX2_givesBy 34 = .ok (.invokevirtual 84, 3) := dk_182 0 84 (dk_at dksX2_givesBy_1 12 rfl rfl)
theorem dX2_givesBy_37 : decode cX2_givesBy 37 = .ok (.bipush 119, 2) := dk_16 119 (dk_at dksX2_givesBy_1 15 rfl rfl)
theorem dX2_givesBy_39 : decode cX2_givesBy 39 = .ok (.iload_n 3, 1) := dk_29 (dk_at dksX2_givesBy_1 17 rfl rfl)
theorem dX2_givesBy_40 : decode cX2_givesBy 40 = .ok (.invokevirtual 84, 3) := dk_182 0 84 (dk_at dksX2_givesBy_1 18 rfl rfl)
theorem dX2_givesBy_43 : decode cX2_givesBy 43 = .ok (.invokevirtual 88, 3) := dk_182 0 88 (dk_at dksX2_givesBy_1 21 rfl rfl)
theorem dX2_givesBy_46 : decode cX2_givesBy 46 = .ok (.istore 4, 2) := dk_54 4 (dk_at dksX2_givesBy_2 0 rfl rfl)
theorem dX2_givesBy_48 : decode cX2_givesBy 48 = .ok (.iload 4, 2) := dk_21 4 (dk_at dksX2_givesBy_2 2 rfl rfl)
theorem dX2_givesBy_50 : decode cX2_givesBy 50 = .ok (.iconst 0, 1) := dk_3 (dk_at dksX2_givesBy_2 4 rfl rfl)
theorem dX2_givesBy_51 : decode cX2_givesBy 51 = .ok (.iconst 1, 1) := dk_4 (dk_at dksX2_givesBy_2 5 rfl rfl)
theorem dX2_givesBy_52 : decode cX2_givesBy 52 = .ok (.invokestatic 92, 3) := dk_184 0 92 (dk_at dksX2_givesBy_2 6 rfl rfl)
theorem dX2_givesBy_55 : decode cX2_givesBy 55 = .ok (.ireturn, 1) := dk_172 (dk_at dksX2_givesBy_2 9 rfl rfl)
abbrev cX2_held : ByteArray := prog_12_method_3_code
def yX2_held : MethodName := ⟨RX2, "held", "(III)I"⟩
def dkwX2_held_0 : List UInt8 := [27, 28, 26, 184, 0, 75, 184, 0, 81, 172]
abbrev dktX2_held_0 : List UInt8 := dkwX2_held_0 ++ []
theorem dksX2_held_0 : cX2_held.data.toList.drop 0 = dktX2_held_0 := by decide +kernel
theorem dX2_held_0 : decode cX2_held 0 = .ok (.iload_n 1, 1) := dk_27 (dk_at dksX2_held_0 0 rfl rfl)
theorem dX2_held_1 : decode cX2_held 1 = .ok (.iload_n 2, 1) := dk_28 (dk_at dksX2_held_0 1 rfl rfl)
theorem dX2_held_2 : decode cX2_held 2 = .ok (.iload_n 0, 1) := dk_26 (dk_at dksX2_held_0 2 rfl rfl)
theorem dX2_held_3 : decode cX2_held 3 = .ok (.invokestatic 75, 3) := dk_184 0 75 (dk_at dksX2_held_0 3 rfl rfl)
theorem dX2_held_6 : decode cX2_held 6 = .ok (.invokestatic 81, 3) := dk_184 0 81 (dk_at dksX2_held_0 6 rfl rfl)
theorem dX2_held_9 : decode cX2_held 9 = .ok (.ireturn, 1) := dk_172 (dk_at dksX2_held_0 9 rfl rfl)
abbrev cX2_lendsBy : ByteArray := prog_12_method_5_code
def yX2_lendsBy : MethodName := ⟨RX2, "lendsBy", "(III)I"⟩
def dkwX2_lendsBy_2 : List UInt8 := [182, 0, 84, 182, 0, 88, 54, 4, 21, 4, 3, 4, 184, 0, 92, 172]
abbrev dktX2_lendsBy_2 : List UInt8 := dkwX2_lendsBy_2 ++ []
def dkwX2_lendsBy_1 : List UInt8 := [180, 0, 36, 4, 50, 42, 180, 0, 53, 16, 119, 27, 182, 0, 84, 16, 111, 28, 182, 0, 84, 16, 109, 29]
abbrev dktX2_lendsBy_1 : List UInt8 := dkwX2_lendsBy_1 ++ dktX2_lendsBy_2
def dkwX2_lendsBy_0 : List UInt8 := [42, 180, 0, 36, 4, 50, 199, 0, 16, 27, 6, 164, 0, 7, 4, 167, 0, 38, 3, 167, 0, 34, 42]
abbrev dktX2_lendsBy_0 : List UInt8 := dkwX2_lendsBy_0 ++ dktX2_lendsBy_1
theorem dksX2_lendsBy_0 : cX2_lendsBy.data.toList.drop 0 = dktX2_lendsBy_0 := by decide +kernel
theorem dksX2_lendsBy_1 : cX2_lendsBy.data.toList.drop 23 = dktX2_lendsBy_1 := dk_seg dksX2_lendsBy_0 23 rfl rfl
theorem dksX2_lendsBy_2 : cX2_lendsBy.data.toList.drop 47 = dktX2_lendsBy_2 := dk_seg dksX2_lendsBy_1 24 rfl rfl
theorem dX2_lendsBy_0 : decode cX2_lendsBy 0 = .ok (.aload_n 0, 1) := dk_42 (dk_at dksX2_lendsBy_0 0 rfl rfl)
theorem dX2_lendsBy_1 : decode cX2_lendsBy 1 = .ok (.getfield 36, 3) := dk_180 0 36 (dk_at dksX2_lendsBy_0 1 rfl rfl)
theorem dX2_lendsBy_4 : decode cX2_lendsBy 4 = .ok (.iconst 1, 1) := dk_4 (dk_at dksX2_lendsBy_0 4 rfl rfl)
theorem dX2_lendsBy_5 : decode cX2_lendsBy 5 = .ok (.aaload, 1) := dk_50 (dk_at dksX2_lendsBy_0 5 rfl rfl)
theorem dX2_lendsBy_6 : decode cX2_lendsBy 6 = .ok (.ifnonnull 16, 3) := dk_199 0 16 (dk_at dksX2_lendsBy_0 6 rfl rfl)
theorem dX2_lendsBy_9 : decode cX2_lendsBy 9 = .ok (.iload_n 1, 1) := dk_27 (dk_at dksX2_lendsBy_0 9 rfl rfl)
theorem dX2_lendsBy_10 : decode cX2_lendsBy 10 = .ok (.iconst 3, 1) := dk_6 (dk_at dksX2_lendsBy_0 10 rfl rfl)
theorem dX2_lendsBy_11 : decode cX2_lendsBy 11 = .ok (.if_icmp .le 7, 3) := dk_164 0 7 (dk_at dksX2_lendsBy_0 11 rfl rfl)
theorem dX2_lendsBy_14 : decode cX2_lendsBy 14 = .ok (.iconst 1, 1) := dk_4 (dk_at dksX2_lendsBy_0 14 rfl rfl)
theorem dX2_lendsBy_15 : decode cX2_lendsBy 15 = .ok (.goto 38, 3) := dk_167 0 38 (dk_at dksX2_lendsBy_0 15 rfl rfl)
theorem dX2_lendsBy_18 : decode cX2_lendsBy 18 = .ok (.iconst 0, 1) := dk_3 (dk_at dksX2_lendsBy_0 18 rfl rfl)
theorem dX2_lendsBy_19 : decode cX2_lendsBy 19 = .ok (.goto 34, 3) := dk_167 0 34 (dk_at dksX2_lendsBy_0 19 rfl rfl)
theorem dX2_lendsBy_22 : decode cX2_lendsBy 22 = .ok (.aload_n 0, 1) := dk_42 (dk_at dksX2_lendsBy_0 22 rfl rfl)
theorem dX2_lendsBy_23 : decode cX2_lendsBy 23 = .ok (.getfield 36, 3) := dk_180 0 36 (dk_at dksX2_lendsBy_1 0 rfl rfl)
theorem dX2_lendsBy_26 : decode cX2_lendsBy 26 = .ok (.iconst 1, 1) := dk_4 (dk_at dksX2_lendsBy_1 3 rfl rfl)
theorem dX2_lendsBy_27 : decode cX2_lendsBy 27 = .ok (.aaload, 1) := dk_50 (dk_at dksX2_lendsBy_1 4 rfl rfl)
theorem dX2_lendsBy_28 : decode cX2_lendsBy 28 = .ok (.aload_n 0, 1) := dk_42 (dk_at dksX2_lendsBy_1 5 rfl rfl)
theorem dX2_lendsBy_29 : decode cX2_lendsBy 29 = .ok (.getfield 53, 3) := dk_180 0 53 (dk_at dksX2_lendsBy_1 6 rfl rfl)
theorem dX2_lendsBy_32 : decode cX2_lendsBy 32 = .ok (.bipush 119, 2) := dk_16 119 (dk_at dksX2_lendsBy_1 9 rfl rfl)
theorem dX2_lendsBy_34 : decode cX2_lendsBy 34 = .ok (.iload_n 1, 1) := dk_27 (dk_at dksX2_lendsBy_1 11 rfl rfl)
theorem dX2_lendsBy_35 : decode cX2_lendsBy 35 = .ok (.invokevirtual 84, 3) := dk_182 0 84 (dk_at dksX2_lendsBy_1 12 rfl rfl)
theorem dX2_lendsBy_38 : decode cX2_lendsBy 38 = .ok (.bipush 111, 2) := dk_16 111 (dk_at dksX2_lendsBy_1 15 rfl rfl)
theorem dX2_lendsBy_40 : decode cX2_lendsBy 40 = .ok (.iload_n 2, 1) := dk_28 (dk_at dksX2_lendsBy_1 17 rfl rfl)
theorem dX2_lendsBy_41 : decode cX2_lendsBy 41 = .ok (.invokevirtual 84, 3) := dk_182 0 84 (dk_at dksX2_lendsBy_1 18 rfl rfl)
theorem dX2_lendsBy_44 : decode cX2_lendsBy 44 = .ok (.bipush 109, 2) := dk_16 109 (dk_at dksX2_lendsBy_1 21 rfl rfl)
theorem dX2_lendsBy_46 : decode cX2_lendsBy 46 = .ok (.iload_n 3, 1) := dk_29 (dk_at dksX2_lendsBy_1 23 rfl rfl)
theorem dX2_lendsBy_47 : decode cX2_lendsBy 47 = .ok (.invokevirtual 84, 3) := dk_182 0 84 (dk_at dksX2_lendsBy_2 0 rfl rfl)
theorem dX2_lendsBy_50 : decode cX2_lendsBy 50 = .ok (.invokevirtual 88, 3) := dk_182 0 88 (dk_at dksX2_lendsBy_2 3 rfl rfl)
theorem dX2_lendsBy_53 : decode cX2_lendsBy 53 = .ok (.istore 4, 2) := dk_54 4 (dk_at dksX2_lendsBy_2 6 rfl rfl)
theorem dX2_lendsBy_55 : decode cX2_lendsBy 55 = .ok (.iload 4, 2) := dk_21 4 (dk_at dksX2_lendsBy_2 8 rfl rfl)
theorem dX2_lendsBy_57 : decode cX2_lendsBy 57 = .ok (.iconst 0, 1) := dk_3 (dk_at dksX2_lendsBy_2 10 rfl rfl)
theorem dX2_lendsBy_58 : decode cX2_lendsBy 58 = .ok (.iconst 1, 1) := dk_4 (dk_at dksX2_lendsBy_2 11 rfl rfl)
theorem dX2_lendsBy_59 : decode cX2_lendsBy 59 = .ok (.invokestatic 92, 3) := dk_184 0 92 (dk_at dksX2_lendsBy_2 12 rfl rfl)
theorem dX2_lendsBy_62 : decode cX2_lendsBy 62 = .ok (.ireturn, 1) := dk_172 (dk_at dksX2_lendsBy_2 15 rfl rfl)
abbrev cX2_goes : ByteArray := prog_12_method_16_code
def yX2_goes : MethodName := ⟨RX2, "goes", "(I)LWellRefuses$Land;"⟩
def dkwX2_goes_0 : List UInt8 := [3, 61, 28, 27, 162, 0, 13, 42, 182, 0, 140, 132, 2, 1, 167, 255, 244, 42, 176]
abbrev dktX2_goes_0 : List UInt8 := dkwX2_goes_0 ++ []
theorem dksX2_goes_0 : cX2_goes.data.toList.drop 0 = dktX2_goes_0 := by decide +kernel
theorem dX2_goes_0 : decode cX2_goes 0 = .ok (.iconst 0, 1) := dk_3 (dk_at dksX2_goes_0 0 rfl rfl)
theorem dX2_goes_1 : decode cX2_goes 1 = .ok (.istore_n 2, 1) := dk_61 (dk_at dksX2_goes_0 1 rfl rfl)
theorem dX2_goes_2 : decode cX2_goes 2 = .ok (.iload_n 2, 1) := dk_28 (dk_at dksX2_goes_0 2 rfl rfl)
theorem dX2_goes_3 : decode cX2_goes 3 = .ok (.iload_n 1, 1) := dk_27 (dk_at dksX2_goes_0 3 rfl rfl)
theorem dX2_goes_4 : decode cX2_goes 4 = .ok (.if_icmp .ge 13, 3) := dk_162 0 13 (dk_at dksX2_goes_0 4 rfl rfl)
theorem dX2_goes_7 : decode cX2_goes 7 = .ok (.aload_n 0, 1) := dk_42 (dk_at dksX2_goes_0 7 rfl rfl)
theorem dX2_goes_8 : decode cX2_goes 8 = .ok (.invokevirtual 140, 3) := dk_182 0 140 (dk_at dksX2_goes_0 8 rfl rfl)
theorem dX2_goes_11 : decode cX2_goes 11 = .ok (.iinc 2 1, 3) := dk_132 2 1 (dk_at dksX2_goes_0 11 rfl rfl)
theorem dX2_goes_14 : decode cX2_goes 14 = .ok (.goto (-12), 3) := dk_167 255 244 (dk_at dksX2_goes_0 14 rfl rfl)
theorem dX2_goes_17 : decode cX2_goes 17 = .ok (.aload_n 0, 1) := dk_42 (dk_at dksX2_goes_0 17 rfl rfl)
theorem dX2_goes_18 : decode cX2_goes 18 = .ok (.areturn, 1) := dk_176 (dk_at dksX2_goes_0 18 rfl rfl)
abbrev cX2_passes : ByteArray := prog_12_method_15_code
def yX2_passes : MethodName := ⟨RX2, "passes", "()V"⟩
def dkwX2_passes_2 : List UInt8 := [96, 181, 0, 66, 177]
abbrev dktX2_passes_2 : List UInt8 := dkwX2_passes_2 ++ []
def dkwX2_passes_1 : List UInt8 := [42, 180, 0, 57, 162, 0, 14, 42, 27, 182, 0, 138, 132, 1, 1, 167, 255, 240, 42, 89, 180, 0, 66, 4]
abbrev dktX2_passes_1 : List UInt8 := dkwX2_passes_1 ++ dktX2_passes_2
def dkwX2_passes_0 : List UInt8 := [3, 60, 27, 42, 180, 0, 57, 162, 0, 14, 42, 27, 182, 0, 135, 132, 1, 1, 167, 255, 240, 3, 60, 27]
abbrev dktX2_passes_0 : List UInt8 := dkwX2_passes_0 ++ dktX2_passes_1
theorem dksX2_passes_0 : cX2_passes.data.toList.drop 0 = dktX2_passes_0 := by decide +kernel
theorem dksX2_passes_1 : cX2_passes.data.toList.drop 24 = dktX2_passes_1 := dk_seg dksX2_passes_0 24 rfl rfl
theorem dksX2_passes_2 : cX2_passes.data.toList.drop 48 = dktX2_passes_2 := dk_seg dksX2_passes_1 24 rfl rfl
theorem dX2_passes_0 : decode cX2_passes 0 = .ok (.iconst 0, 1) := dk_3 (dk_at dksX2_passes_0 0 rfl rfl)
theorem dX2_passes_1 : decode cX2_passes 1 = .ok (.istore_n 1, 1) := dk_60 (dk_at dksX2_passes_0 1 rfl rfl)
theorem dX2_passes_2 : decode cX2_passes 2 = .ok (.iload_n 1, 1) := dk_27 (dk_at dksX2_passes_0 2 rfl rfl)
theorem dX2_passes_3 : decode cX2_passes 3 = .ok (.aload_n 0, 1) := dk_42 (dk_at dksX2_passes_0 3 rfl rfl)
theorem dX2_passes_4 : decode cX2_passes 4 = .ok (.getfield 57, 3) := dk_180 0 57 (dk_at dksX2_passes_0 4 rfl rfl)
theorem dX2_passes_7 : decode cX2_passes 7 = .ok (.if_icmp .ge 14, 3) := dk_162 0 14 (dk_at dksX2_passes_0 7 rfl rfl)
theorem dX2_passes_10 : decode cX2_passes 10 = .ok (.aload_n 0, 1) := dk_42 (dk_at dksX2_passes_0 10 rfl rfl)
theorem dX2_passes_11 : decode cX2_passes 11 = .ok (.iload_n 1, 1) := dk_27 (dk_at dksX2_passes_0 11 rfl rfl)
theorem dX2_passes_12 : decode cX2_passes 12 = .ok (.invokevirtual 135, 3) := dk_182 0 135 (dk_at dksX2_passes_0 12 rfl rfl)
theorem dX2_passes_15 : decode cX2_passes 15 = .ok (.iinc 1 1, 3) := dk_132 1 1 (dk_at dksX2_passes_0 15 rfl rfl)
theorem dX2_passes_18 : decode cX2_passes 18 = .ok (.goto (-16), 3) := dk_167 255 240 (dk_at dksX2_passes_0 18 rfl rfl)
theorem dX2_passes_21 : decode cX2_passes 21 = .ok (.iconst 0, 1) := dk_3 (dk_at dksX2_passes_0 21 rfl rfl)
theorem dX2_passes_22 : decode cX2_passes 22 = .ok (.istore_n 1, 1) := dk_60 (dk_at dksX2_passes_0 22 rfl rfl)
theorem dX2_passes_23 : decode cX2_passes 23 = .ok (.iload_n 1, 1) := dk_27 (dk_at dksX2_passes_0 23 rfl rfl)
theorem dX2_passes_24 : decode cX2_passes 24 = .ok (.aload_n 0, 1) := dk_42 (dk_at dksX2_passes_1 0 rfl rfl)
theorem dX2_passes_25 : decode cX2_passes 25 = .ok (.getfield 57, 3) := dk_180 0 57 (dk_at dksX2_passes_1 1 rfl rfl)
theorem dX2_passes_28 : decode cX2_passes 28 = .ok (.if_icmp .ge 14, 3) := dk_162 0 14 (dk_at dksX2_passes_1 4 rfl rfl)
theorem dX2_passes_31 : decode cX2_passes 31 = .ok (.aload_n 0, 1) := dk_42 (dk_at dksX2_passes_1 7 rfl rfl)
theorem dX2_passes_32 : decode cX2_passes 32 = .ok (.iload_n 1, 1) := dk_27 (dk_at dksX2_passes_1 8 rfl rfl)
theorem dX2_passes_33 : decode cX2_passes 33 = .ok (.invokevirtual 138, 3) := dk_182 0 138 (dk_at dksX2_passes_1 9 rfl rfl)
theorem dX2_passes_36 : decode cX2_passes 36 = .ok (.iinc 1 1, 3) := dk_132 1 1 (dk_at dksX2_passes_1 12 rfl rfl)
theorem dX2_passes_39 : decode cX2_passes 39 = .ok (.goto (-16), 3) := dk_167 255 240 (dk_at dksX2_passes_1 15 rfl rfl)
theorem dX2_passes_42 : decode cX2_passes 42 = .ok (.aload_n 0, 1) := dk_42 (dk_at dksX2_passes_1 18 rfl rfl)
theorem dX2_passes_43 : decode cX2_passes 43 = .ok (.dup, 1) := dk_89 (dk_at dksX2_passes_1 19 rfl rfl)
theorem dX2_passes_44 : decode cX2_passes 44 = .ok (.getfield 66, 3) := dk_180 0 66 (dk_at dksX2_passes_1 20 rfl rfl)
theorem dX2_passes_47 : decode cX2_passes 47 = .ok (.iconst 1, 1) := dk_4 (dk_at dksX2_passes_1 23 rfl rfl)
theorem dX2_passes_48 : decode cX2_passes 48 = .ok (.iadd, 1) := dk_96 (dk_at dksX2_passes_2 0 rfl rfl)
theorem dX2_passes_49 : decode cX2_passes 49 = .ok (.putfield 66, 3) := dk_181 0 66 (dk_at dksX2_passes_2 1 rfl rfl)
theorem dX2_passes_52 : decode cX2_passes 52 = .ok (.return_, 1) := dk_177 (dk_at dksX2_passes_2 4 rfl rfl)
abbrev cX2_goesToIt : ByteArray := prog_12_method_13_code
def yX2_goesToIt : MethodName := ⟨RX2, "goesToIt", "(I)V"⟩
def dkwX2_goesToIt_1 : List UInt8 := [180, 0, 11, 27, 50, 182, 0, 124, 96, 184, 0, 75, 79, 167, 0, 8, 42, 27, 182, 0, 128, 177]
abbrev dktX2_goesToIt_1 : List UInt8 := dkwX2_goesToIt_1 ++ []
def dkwX2_goesToIt_0 : List UInt8 := [42, 27, 182, 0, 103, 153, 0, 34, 42, 180, 0, 21, 27, 17, 3, 231, 42, 180, 0, 21, 27, 46, 42]
abbrev dktX2_goesToIt_0 : List UInt8 := dkwX2_goesToIt_0 ++ dktX2_goesToIt_1
theorem dksX2_goesToIt_0 : cX2_goesToIt.data.toList.drop 0 = dktX2_goesToIt_0 := by decide +kernel
theorem dksX2_goesToIt_1 : cX2_goesToIt.data.toList.drop 23 = dktX2_goesToIt_1 := dk_seg dksX2_goesToIt_0 23 rfl rfl
theorem dX2_goesToIt_0 : decode cX2_goesToIt 0 = .ok (.aload_n 0, 1) := dk_42 (dk_at dksX2_goesToIt_0 0 rfl rfl)
theorem dX2_goesToIt_1 : decode cX2_goesToIt 1 = .ok (.iload_n 1, 1) := dk_27 (dk_at dksX2_goesToIt_0 1 rfl rfl)
theorem dX2_goesToIt_2 : decode cX2_goesToIt 2 = .ok (.invokevirtual 103, 3) := dk_182 0 103 (dk_at dksX2_goesToIt_0 2 rfl rfl)
theorem dX2_goesToIt_5 : decode cX2_goesToIt 5 = .ok (.ifCond .eq 34, 3) := dk_153 0 34 (dk_at dksX2_goesToIt_0 5 rfl rfl)
theorem dX2_goesToIt_8 : decode cX2_goesToIt 8 = .ok (.aload_n 0, 1) := dk_42 (dk_at dksX2_goesToIt_0 8 rfl rfl)
theorem dX2_goesToIt_9 : decode cX2_goesToIt 9 = .ok (.getfield 21, 3) := dk_180 0 21 (dk_at dksX2_goesToIt_0 9 rfl rfl)
theorem dX2_goesToIt_12 : decode cX2_goesToIt 12 = .ok (.iload_n 1, 1) := dk_27 (dk_at dksX2_goesToIt_0 12 rfl rfl)
theorem dX2_goesToIt_13 : decode cX2_goesToIt 13 = .ok (.sipush 999, 3) := dk_17 3 231 (dk_at dksX2_goesToIt_0 13 rfl rfl)
theorem dX2_goesToIt_16 : decode cX2_goesToIt 16 = .ok (.aload_n 0, 1) := dk_42 (dk_at dksX2_goesToIt_0 16 rfl rfl)
theorem dX2_goesToIt_17 : decode cX2_goesToIt 17 = .ok (.getfield 21, 3) := dk_180 0 21 (dk_at dksX2_goesToIt_0 17 rfl rfl)
theorem dX2_goesToIt_20 : decode cX2_goesToIt 20 = .ok (.iload_n 1, 1) := dk_27 (dk_at dksX2_goesToIt_0 20 rfl rfl)
theorem dX2_goesToIt_21 : decode cX2_goesToIt 21 = .ok (.iaload, 1) := dk_46 (dk_at dksX2_goesToIt_0 21 rfl rfl)
theorem dX2_goesToIt_22 : decode cX2_goesToIt 22 = .ok (.aload_n 0, 1) := dk_42 (dk_at dksX2_goesToIt_0 22 rfl rfl)
theorem dX2_goesToIt_23 : decode cX2_goesToIt 23 = .ok (.getfield 11, 3) := dk_180 0 11 (dk_at dksX2_goesToIt_1 0 rfl rfl)
theorem dX2_goesToIt_26 : decode cX2_goesToIt 26 = .ok (.iload_n 1, 1) := dk_27 (dk_at dksX2_goesToIt_1 3 rfl rfl)
theorem dX2_goesToIt_27 : decode cX2_goesToIt 27 = .ok (.aaload, 1) := dk_50 (dk_at dksX2_goesToIt_1 4 rfl rfl)
theorem dX2_goesToIt_28 : decode cX2_goesToIt 28 = .ok (.invokevirtual 124, 3) := dk_182 0 124 (dk_at dksX2_goesToIt_1 5 rfl rfl)
theorem dX2_goesToIt_31 : decode cX2_goesToIt 31 = .ok (.iadd, 1) := dk_96 (dk_at dksX2_goesToIt_1 8 rfl rfl)
theorem dX2_goesToIt_32 : decode cX2_goesToIt 32 = .ok (.invokestatic 75, 3) := dk_184 0 75 (dk_at dksX2_goesToIt_1 9 rfl rfl)
theorem dX2_goesToIt_35 : decode cX2_goesToIt 35 = .ok (.iastore, 1) := dk_79 (dk_at dksX2_goesToIt_1 12 rfl rfl)
theorem dX2_goesToIt_36 : decode cX2_goesToIt 36 = .ok (.goto 8, 3) := dk_167 0 8 (dk_at dksX2_goesToIt_1 13 rfl rfl)
theorem dX2_goesToIt_39 : decode cX2_goesToIt 39 = .ok (.aload_n 0, 1) := dk_42 (dk_at dksX2_goesToIt_1 16 rfl rfl)
theorem dX2_goesToIt_40 : decode cX2_goesToIt 40 = .ok (.iload_n 1, 1) := dk_27 (dk_at dksX2_goesToIt_1 17 rfl rfl)
theorem dX2_goesToIt_41 : decode cX2_goesToIt 41 = .ok (.invokevirtual 128, 3) := dk_182 0 128 (dk_at dksX2_goesToIt_1 18 rfl rfl)
theorem dX2_goesToIt_44 : decode cX2_goesToIt 44 = .ok (.return_, 1) := dk_177 (dk_at dksX2_goesToIt_1 21 rfl rfl)
abbrev cX2_begs : ByteArray := prog_12_method_12_code
def yX2_begs : MethodName := ⟨RX2, "begs", "(I)V"⟩
def dkwX2_begs_2 : List UInt8 := [28, 184, 0, 107, 16, 99, 42, 180, 0, 27, 27, 28, 184, 0, 107, 46, 4, 96, 184, 0, 75, 79, 177]
abbrev dktX2_begs_2 : List UInt8 := dkwX2_begs_2 ++ []
def dkwX2_begs_1 : List UInt8 := [180, 0, 21, 27, 17, 3, 231, 42, 180, 0, 21, 27, 46, 4, 96, 184, 0, 75, 79, 42, 180, 0, 27, 27]
abbrev dktX2_begs_1 : List UInt8 := dkwX2_begs_1 ++ dktX2_begs_2
def dkwX2_begs_0 : List UInt8 := [42, 27, 182, 0, 120, 61, 28, 2, 159, 0, 60, 42, 180, 0, 21, 28, 92, 46, 4, 100, 79, 42]
abbrev dktX2_begs_0 : List UInt8 := dkwX2_begs_0 ++ dktX2_begs_1
theorem dksX2_begs_0 : cX2_begs.data.toList.drop 0 = dktX2_begs_0 := by decide +kernel
theorem dksX2_begs_1 : cX2_begs.data.toList.drop 22 = dktX2_begs_1 := dk_seg dksX2_begs_0 22 rfl rfl
theorem dksX2_begs_2 : cX2_begs.data.toList.drop 46 = dktX2_begs_2 := dk_seg dksX2_begs_1 24 rfl rfl
theorem dX2_begs_0 : decode cX2_begs 0 = .ok (.aload_n 0, 1) := dk_42 (dk_at dksX2_begs_0 0 rfl rfl)
theorem dX2_begs_1 : decode cX2_begs 1 = .ok (.iload_n 1, 1) := dk_27 (dk_at dksX2_begs_0 1 rfl rfl)
theorem dX2_begs_2 : decode cX2_begs 2 = .ok (.invokevirtual 120, 3) := dk_182 0 120 (dk_at dksX2_begs_0 2 rfl rfl)
theorem dX2_begs_5 : decode cX2_begs 5 = .ok (.istore_n 2, 1) := dk_61 (dk_at dksX2_begs_0 5 rfl rfl)
theorem dX2_begs_6 : decode cX2_begs 6 = .ok (.iload_n 2, 1) := dk_28 (dk_at dksX2_begs_0 6 rfl rfl)
theorem dX2_begs_7 : decode cX2_begs 7 = .ok (.iconst (-1), 1) := dk_2 (dk_at dksX2_begs_0 7 rfl rfl)
theorem dX2_begs_8 : decode cX2_begs 8 = .ok (.if_icmp .eq 60, 3) := dk_159 0 60 (dk_at dksX2_begs_0 8 rfl rfl)
theorem dX2_begs_11 : decode cX2_begs 11 = .ok (.aload_n 0, 1) := dk_42 (dk_at dksX2_begs_0 11 rfl rfl)
theorem dX2_begs_12 : decode cX2_begs 12 = .ok (.getfield 21, 3) := dk_180 0 21 (dk_at dksX2_begs_0 12 rfl rfl)
theorem dX2_begs_15 : decode cX2_begs 15 = .ok (.iload_n 2, 1) := dk_28 (dk_at dksX2_begs_0 15 rfl rfl)
theorem dX2_begs_16 : decode cX2_begs 16 = .ok (.dup2, 1) := dk_92 (dk_at dksX2_begs_0 16 rfl rfl)
theorem dX2_begs_17 : decode cX2_begs 17 = .ok (.iaload, 1) := dk_46 (dk_at dksX2_begs_0 17 rfl rfl)
theorem dX2_begs_18 : decode cX2_begs 18 = .ok (.iconst 1, 1) := dk_4 (dk_at dksX2_begs_0 18 rfl rfl)
theorem dX2_begs_19 : decode cX2_begs 19 = .ok (.isub, 1) := dk_100 (dk_at dksX2_begs_0 19 rfl rfl)
theorem dX2_begs_20 : decode cX2_begs 20 = .ok (.iastore, 1) := dk_79 (dk_at dksX2_begs_0 20 rfl rfl)
theorem dX2_begs_21 : decode cX2_begs 21 = .ok (.aload_n 0, 1) := dk_42 (dk_at dksX2_begs_0 21 rfl rfl)
theorem dX2_begs_22 : decode cX2_begs 22 = .ok (.getfield 21, 3) := dk_180 0 21 (dk_at dksX2_begs_1 0 rfl rfl)
theorem dX2_begs_25 : decode cX2_begs 25 = .ok (.iload_n 1, 1) := dk_27 (dk_at dksX2_begs_1 3 rfl rfl)
theorem dX2_begs_26 : decode cX2_begs 26 = .ok (.sipush 999, 3) := dk_17 3 231 (dk_at dksX2_begs_1 4 rfl rfl)
theorem dX2_begs_29 : decode cX2_begs 29 = .ok (.aload_n 0, 1) := dk_42 (dk_at dksX2_begs_1 7 rfl rfl)
theorem dX2_begs_30 : decode cX2_begs 30 = .ok (.getfield 21, 3) := dk_180 0 21 (dk_at dksX2_begs_1 8 rfl rfl)
theorem dX2_begs_33 : decode cX2_begs 33 = .ok (.iload_n 1, 1) := dk_27 (dk_at dksX2_begs_1 11 rfl rfl)
theorem dX2_begs_34 : decode cX2_begs 34 = .ok (.iaload, 1) := dk_46 (dk_at dksX2_begs_1 12 rfl rfl)
theorem dX2_begs_35 : decode cX2_begs 35 = .ok (.iconst 1, 1) := dk_4 (dk_at dksX2_begs_1 13 rfl rfl)
theorem dX2_begs_36 : decode cX2_begs 36 = .ok (.iadd, 1) := dk_96 (dk_at dksX2_begs_1 14 rfl rfl)
theorem dX2_begs_37 : decode cX2_begs 37 = .ok (.invokestatic 75, 3) := dk_184 0 75 (dk_at dksX2_begs_1 15 rfl rfl)
theorem dX2_begs_40 : decode cX2_begs 40 = .ok (.iastore, 1) := dk_79 (dk_at dksX2_begs_1 18 rfl rfl)
theorem dX2_begs_41 : decode cX2_begs 41 = .ok (.aload_n 0, 1) := dk_42 (dk_at dksX2_begs_1 19 rfl rfl)
theorem dX2_begs_42 : decode cX2_begs 42 = .ok (.getfield 27, 3) := dk_180 0 27 (dk_at dksX2_begs_1 20 rfl rfl)
theorem dX2_begs_45 : decode cX2_begs 45 = .ok (.iload_n 1, 1) := dk_27 (dk_at dksX2_begs_1 23 rfl rfl)
theorem dX2_begs_46 : decode cX2_begs 46 = .ok (.iload_n 2, 1) := dk_28 (dk_at dksX2_begs_2 0 rfl rfl)
theorem dX2_begs_47 : decode cX2_begs 47 = .ok (.invokestatic 107, 3) := dk_184 0 107 (dk_at dksX2_begs_2 1 rfl rfl)
theorem dX2_begs_50 : decode cX2_begs 50 = .ok (.bipush 99, 2) := dk_16 99 (dk_at dksX2_begs_2 4 rfl rfl)
theorem dX2_begs_52 : decode cX2_begs 52 = .ok (.aload_n 0, 1) := dk_42 (dk_at dksX2_begs_2 6 rfl rfl)
theorem dX2_begs_53 : decode cX2_begs 53 = .ok (.getfield 27, 3) := dk_180 0 27 (dk_at dksX2_begs_2 7 rfl rfl)
theorem dX2_begs_56 : decode cX2_begs 56 = .ok (.iload_n 1, 1) := dk_27 (dk_at dksX2_begs_2 10 rfl rfl)
theorem dX2_begs_57 : decode cX2_begs 57 = .ok (.iload_n 2, 1) := dk_28 (dk_at dksX2_begs_2 11 rfl rfl)
theorem dX2_begs_58 : decode cX2_begs 58 = .ok (.invokestatic 107, 3) := dk_184 0 107 (dk_at dksX2_begs_2 12 rfl rfl)
theorem dX2_begs_61 : decode cX2_begs 61 = .ok (.iaload, 1) := dk_46 (dk_at dksX2_begs_2 15 rfl rfl)
theorem dX2_begs_62 : decode cX2_begs 62 = .ok (.iconst 1, 1) := dk_4 (dk_at dksX2_begs_2 16 rfl rfl)
theorem dX2_begs_63 : decode cX2_begs 63 = .ok (.iadd, 1) := dk_96 (dk_at dksX2_begs_2 17 rfl rfl)
theorem dX2_begs_64 : decode cX2_begs 64 = .ok (.invokestatic 75, 3) := dk_184 0 75 (dk_at dksX2_begs_2 18 rfl rfl)
theorem dX2_begs_67 : decode cX2_begs 67 = .ok (.iastore, 1) := dk_79 (dk_at dksX2_begs_2 21 rfl rfl)
theorem dX2_begs_68 : decode cX2_begs 68 = .ok (.return_, 1) := dk_177 (dk_at dksX2_begs_2 22 rfl rfl)
abbrev cX2_lender : ByteArray := prog_12_method_11_code
def yX2_lender : MethodName := ⟨RX2, "lender", "(I)I"⟩
def dkwX2_lender_2 : List UInt8 := [182, 0, 116, 153, 0, 7, 29, 167, 0, 4, 28, 61, 132, 3, 1, 167, 255, 198, 28, 172]
abbrev dktX2_lender_2 : List UInt8 := dkwX2_lender_2 ++ []
def dkwX2_lender_1 : List UInt8 := [180, 0, 21, 28, 46, 164, 0, 7, 4, 167, 0, 4, 3, 54, 4, 21, 4, 153, 0, 16, 42, 29, 27]
abbrev dktX2_lender_1 : List UInt8 := dkwX2_lender_1 ++ dktX2_lender_2
def dkwX2_lender_0 : List UInt8 := [2, 61, 3, 62, 29, 42, 180, 0, 57, 162, 0, 56, 28, 2, 159, 0, 18, 42, 180, 0, 21, 29, 46, 42]
abbrev dktX2_lender_0 : List UInt8 := dkwX2_lender_0 ++ dktX2_lender_1
theorem dksX2_lender_0 : cX2_lender.data.toList.drop 0 = dktX2_lender_0 := by decide +kernel
theorem dksX2_lender_1 : cX2_lender.data.toList.drop 24 = dktX2_lender_1 := dk_seg dksX2_lender_0 24 rfl rfl
theorem dksX2_lender_2 : cX2_lender.data.toList.drop 47 = dktX2_lender_2 := dk_seg dksX2_lender_1 23 rfl rfl
theorem dX2_lender_0 : decode cX2_lender 0 = .ok (.iconst (-1), 1) := dk_2 (dk_at dksX2_lender_0 0 rfl rfl)
theorem dX2_lender_1 : decode cX2_lender 1 = .ok (.istore_n 2, 1) := dk_61 (dk_at dksX2_lender_0 1 rfl rfl)
theorem dX2_lender_2 : decode cX2_lender 2 = .ok (.iconst 0, 1) := dk_3 (dk_at dksX2_lender_0 2 rfl rfl)
theorem dX2_lender_3 : decode cX2_lender 3 = .ok (.istore_n 3, 1) := dk_62 (dk_at dksX2_lender_0 3 rfl rfl)
theorem dX2_lender_4 : decode cX2_lender 4 = .ok (.iload_n 3, 1) := dk_29 (dk_at dksX2_lender_0 4 rfl rfl)
theorem dX2_lender_5 : decode cX2_lender 5 = .ok (.aload_n 0, 1) := dk_42 (dk_at dksX2_lender_0 5 rfl rfl)
theorem dX2_lender_6 : decode cX2_lender 6 = .ok (.getfield 57, 3) := dk_180 0 57 (dk_at dksX2_lender_0 6 rfl rfl)
theorem dX2_lender_9 : decode cX2_lender 9 = .ok (.if_icmp .ge 56, 3) := dk_162 0 56 (dk_at dksX2_lender_0 9 rfl rfl)
theorem dX2_lender_12 : decode cX2_lender 12 = .ok (.iload_n 2, 1) := dk_28 (dk_at dksX2_lender_0 12 rfl rfl)
theorem dX2_lender_13 : decode cX2_lender 13 = .ok (.iconst (-1), 1) := dk_2 (dk_at dksX2_lender_0 13 rfl rfl)
theorem dX2_lender_14 : decode cX2_lender 14 = .ok (.if_icmp .eq 18, 3) := dk_159 0 18 (dk_at dksX2_lender_0 14 rfl rfl)
theorem dX2_lender_17 : decode cX2_lender 17 = .ok (.aload_n 0, 1) := dk_42 (dk_at dksX2_lender_0 17 rfl rfl)
theorem dX2_lender_18 : decode cX2_lender 18 = .ok (.getfield 21, 3) := dk_180 0 21 (dk_at dksX2_lender_0 18 rfl rfl)
theorem dX2_lender_21 : decode cX2_lender 21 = .ok (.iload_n 3, 1) := dk_29 (dk_at dksX2_lender_0 21 rfl rfl)
theorem dX2_lender_22 : decode cX2_lender 22 = .ok (.iaload, 1) := dk_46 (dk_at dksX2_lender_0 22 rfl rfl)
theorem dX2_lender_23 : decode cX2_lender 23 = .ok (.aload_n 0, 1) := dk_42 (dk_at dksX2_lender_0 23 rfl rfl)
theorem dX2_lender_24 : decode cX2_lender 24 = .ok (.getfield 21, 3) := dk_180 0 21 (dk_at dksX2_lender_1 0 rfl rfl)
theorem dX2_lender_27 : decode cX2_lender 27 = .ok (.iload_n 2, 1) := dk_28 (dk_at dksX2_lender_1 3 rfl rfl)
theorem dX2_lender_28 : decode cX2_lender 28 = .ok (.iaload, 1) := dk_46 (dk_at dksX2_lender_1 4 rfl rfl)
theorem dX2_lender_29 : decode cX2_lender 29 = .ok (.if_icmp .le 7, 3) := dk_164 0 7 (dk_at dksX2_lender_1 5 rfl rfl)
theorem dX2_lender_32 : decode cX2_lender 32 = .ok (.iconst 1, 1) := dk_4 (dk_at dksX2_lender_1 8 rfl rfl)
theorem dX2_lender_33 : decode cX2_lender 33 = .ok (.goto 4, 3) := dk_167 0 4 (dk_at dksX2_lender_1 9 rfl rfl)
theorem dX2_lender_36 : decode cX2_lender 36 = .ok (.iconst 0, 1) := dk_3 (dk_at dksX2_lender_1 12 rfl rfl)
theorem dX2_lender_37 : decode cX2_lender 37 = .ok (.istore 4, 2) := dk_54 4 (dk_at dksX2_lender_1 13 rfl rfl)
theorem dX2_lender_39 : decode cX2_lender 39 = .ok (.iload 4, 2) := dk_21 4 (dk_at dksX2_lender_1 15 rfl rfl)
theorem dX2_lender_41 : decode cX2_lender 41 = .ok (.ifCond .eq 16, 3) := dk_153 0 16 (dk_at dksX2_lender_1 17 rfl rfl)
theorem dX2_lender_44 : decode cX2_lender 44 = .ok (.aload_n 0, 1) := dk_42 (dk_at dksX2_lender_1 20 rfl rfl)
theorem dX2_lender_45 : decode cX2_lender 45 = .ok (.iload_n 3, 1) := dk_29 (dk_at dksX2_lender_1 21 rfl rfl)
theorem dX2_lender_46 : decode cX2_lender 46 = .ok (.iload_n 1, 1) := dk_27 (dk_at dksX2_lender_1 22 rfl rfl)
theorem dX2_lender_47 : decode cX2_lender 47 = .ok (.invokevirtual 116, 3) := dk_182 0 116 (dk_at dksX2_lender_2 0 rfl rfl)
theorem dX2_lender_50 : decode cX2_lender 50 = .ok (.ifCond .eq 7, 3) := dk_153 0 7 (dk_at dksX2_lender_2 3 rfl rfl)
theorem dX2_lender_53 : decode cX2_lender 53 = .ok (.iload_n 3, 1) := dk_29 (dk_at dksX2_lender_2 6 rfl rfl)
theorem dX2_lender_54 : decode cX2_lender 54 = .ok (.goto 4, 3) := dk_167 0 4 (dk_at dksX2_lender_2 7 rfl rfl)
theorem dX2_lender_57 : decode cX2_lender 57 = .ok (.iload_n 2, 1) := dk_28 (dk_at dksX2_lender_2 10 rfl rfl)
theorem dX2_lender_58 : decode cX2_lender 58 = .ok (.istore_n 2, 1) := dk_61 (dk_at dksX2_lender_2 11 rfl rfl)
theorem dX2_lender_59 : decode cX2_lender 59 = .ok (.iinc 3 1, 3) := dk_132 3 1 (dk_at dksX2_lender_2 12 rfl rfl)
theorem dX2_lender_62 : decode cX2_lender 62 = .ok (.goto (-58), 3) := dk_167 255 198 (dk_at dksX2_lender_2 15 rfl rfl)
theorem dX2_lender_65 : decode cX2_lender 65 = .ok (.iload_n 2, 1) := dk_28 (dk_at dksX2_lender_2 18 rfl rfl)
theorem dX2_lender_66 : decode cX2_lender 66 = .ok (.ireturn, 1) := dk_172 (dk_at dksX2_lender_2 19 rfl rfl)
abbrev cX2_doesLend : ByteArray := prog_12_method_10_code
def yX2_doesLend : MethodName := ⟨RX2, "doesLend", "(II)Z"⟩
def dkwX2_doesLend_2 : List UInt8 := [182, 0, 113, 153, 0, 7, 4, 167, 0, 4, 3, 172]
abbrev dktX2_doesLend_2 : List UInt8 := dkwX2_doesLend_2 ++ []
def dkwX2_doesLend_1 : List UInt8 := [180, 0, 21, 27, 46, 42, 180, 0, 27, 28, 27, 184, 0, 107, 46, 42, 180, 0, 11, 27, 50, 180, 0, 110]
abbrev dktX2_doesLend_1 : List UInt8 := dkwX2_doesLend_1 ++ dktX2_doesLend_2
def dkwX2_doesLend_0 : List UInt8 := [27, 28, 159, 0, 56, 27, 42, 180, 0, 30, 159, 0, 48, 42, 180, 0, 21, 27, 46, 158, 0, 39, 42, 42]
abbrev dktX2_doesLend_0 : List UInt8 := dkwX2_doesLend_0 ++ dktX2_doesLend_1
theorem dksX2_doesLend_0 : cX2_doesLend.data.toList.drop 0 = dktX2_doesLend_0 := by decide +kernel
theorem dksX2_doesLend_1 : cX2_doesLend.data.toList.drop 24 = dktX2_doesLend_1 := dk_seg dksX2_doesLend_0 24 rfl rfl
theorem dksX2_doesLend_2 : cX2_doesLend.data.toList.drop 48 = dktX2_doesLend_2 := dk_seg dksX2_doesLend_1 24 rfl rfl
theorem dX2_doesLend_0 : decode cX2_doesLend 0 = .ok (.iload_n 1, 1) := dk_27 (dk_at dksX2_doesLend_0 0 rfl rfl)
theorem dX2_doesLend_1 : decode cX2_doesLend 1 = .ok (.iload_n 2, 1) := dk_28 (dk_at dksX2_doesLend_0 1 rfl rfl)
theorem dX2_doesLend_2 : decode cX2_doesLend 2 = .ok (.if_icmp .eq 56, 3) := dk_159 0 56 (dk_at dksX2_doesLend_0 2 rfl rfl)
theorem dX2_doesLend_5 : decode cX2_doesLend 5 = .ok (.iload_n 1, 1) := dk_27 (dk_at dksX2_doesLend_0 5 rfl rfl)
theorem dX2_doesLend_6 : decode cX2_doesLend 6 = .ok (.aload_n 0, 1) := dk_42 (dk_at dksX2_doesLend_0 6 rfl rfl)
theorem dX2_doesLend_7 : decode cX2_doesLend 7 = .ok (.getfield 30, 3) := dk_180 0 30 (dk_at dksX2_doesLend_0 7 rfl rfl)
theorem dX2_doesLend_10 : decode cX2_doesLend 10 = .ok (.if_icmp .eq 48, 3) := dk_159 0 48 (dk_at dksX2_doesLend_0 10 rfl rfl)
theorem dX2_doesLend_13 : decode cX2_doesLend 13 = .ok (.aload_n 0, 1) := dk_42 (dk_at dksX2_doesLend_0 13 rfl rfl)
theorem dX2_doesLend_14 : decode cX2_doesLend 14 = .ok (.getfield 21, 3) := dk_180 0 21 (dk_at dksX2_doesLend_0 14 rfl rfl)
theorem dX2_doesLend_17 : decode cX2_doesLend 17 = .ok (.iload_n 1, 1) := dk_27 (dk_at dksX2_doesLend_0 17 rfl rfl)
theorem dX2_doesLend_18 : decode cX2_doesLend 18 = .ok (.iaload, 1) := dk_46 (dk_at dksX2_doesLend_0 18 rfl rfl)
theorem dX2_doesLend_19 : decode cX2_doesLend 19 = .ok (.ifCond .le 39, 3) := dk_158 0 39 (dk_at dksX2_doesLend_0 19 rfl rfl)
theorem dX2_doesLend_22 : decode cX2_doesLend 22 = .ok (.aload_n 0, 1) := dk_42 (dk_at dksX2_doesLend_0 22 rfl rfl)
theorem dX2_doesLend_23 : decode cX2_doesLend 23 = .ok (.aload_n 0, 1) := dk_42 (dk_at dksX2_doesLend_0 23 rfl rfl)
theorem dX2_doesLend_24 : decode cX2_doesLend 24 = .ok (.getfield 21, 3) := dk_180 0 21 (dk_at dksX2_doesLend_1 0 rfl rfl)
theorem dX2_doesLend_27 : decode cX2_doesLend 27 = .ok (.iload_n 1, 1) := dk_27 (dk_at dksX2_doesLend_1 3 rfl rfl)
theorem dX2_doesLend_28 : decode cX2_doesLend 28 = .ok (.iaload, 1) := dk_46 (dk_at dksX2_doesLend_1 4 rfl rfl)
theorem dX2_doesLend_29 : decode cX2_doesLend 29 = .ok (.aload_n 0, 1) := dk_42 (dk_at dksX2_doesLend_1 5 rfl rfl)
theorem dX2_doesLend_30 : decode cX2_doesLend 30 = .ok (.getfield 27, 3) := dk_180 0 27 (dk_at dksX2_doesLend_1 6 rfl rfl)
theorem dX2_doesLend_33 : decode cX2_doesLend 33 = .ok (.iload_n 2, 1) := dk_28 (dk_at dksX2_doesLend_1 9 rfl rfl)
theorem dX2_doesLend_34 : decode cX2_doesLend 34 = .ok (.iload_n 1, 1) := dk_27 (dk_at dksX2_doesLend_1 10 rfl rfl)
theorem dX2_doesLend_35 : decode cX2_doesLend 35 = .ok (.invokestatic 107, 3) := dk_184 0 107 (dk_at dksX2_doesLend_1 11 rfl rfl)
theorem dX2_doesLend_38 : decode cX2_doesLend 38 = .ok (.iaload, 1) := dk_46 (dk_at dksX2_doesLend_1 14 rfl rfl)
theorem dX2_doesLend_39 : decode cX2_doesLend 39 = .ok (.aload_n 0, 1) := dk_42 (dk_at dksX2_doesLend_1 15 rfl rfl)
theorem dX2_doesLend_40 : decode cX2_doesLend 40 = .ok (.getfield 11, 3) := dk_180 0 11 (dk_at dksX2_doesLend_1 16 rfl rfl)
theorem dX2_doesLend_43 : decode cX2_doesLend 43 = .ok (.iload_n 1, 1) := dk_27 (dk_at dksX2_doesLend_1 19 rfl rfl)
theorem dX2_doesLend_44 : decode cX2_doesLend 44 = .ok (.aaload, 1) := dk_50 (dk_at dksX2_doesLend_1 20 rfl rfl)
theorem dX2_doesLend_45 : decode cX2_doesLend 45 = .ok (.getfield 110, 3) := dk_180 0 110 (dk_at dksX2_doesLend_1 21 rfl rfl)
theorem dX2_doesLend_48 : decode cX2_doesLend 48 = .ok (.invokevirtual 113, 3) := dk_182 0 113 (dk_at dksX2_doesLend_2 0 rfl rfl)
theorem dX2_doesLend_51 : decode cX2_doesLend 51 = .ok (.ifCond .eq 7, 3) := dk_153 0 7 (dk_at dksX2_doesLend_2 3 rfl rfl)
theorem dX2_doesLend_54 : decode cX2_doesLend 54 = .ok (.iconst 1, 1) := dk_4 (dk_at dksX2_doesLend_2 6 rfl rfl)
theorem dX2_doesLend_55 : decode cX2_doesLend 55 = .ok (.goto 4, 3) := dk_167 0 4 (dk_at dksX2_doesLend_2 7 rfl rfl)
theorem dX2_doesLend_58 : decode cX2_doesLend 58 = .ok (.iconst 0, 1) := dk_3 (dk_at dksX2_doesLend_2 10 rfl rfl)
theorem dX2_doesLend_59 : decode cX2_doesLend 59 = .ok (.ireturn, 1) := dk_172 (dk_at dksX2_doesLend_2 11 rfl rfl)
abbrev cX2_drinks : ByteArray := prog_12_method_14_code
def yX2_drinks : MethodName := ⟨RX2, "drinks", "(I)V"⟩
def dkwX2_drinks_3 : List UInt8 := [167, 0, 4, 3, 79, 177]
abbrev dktX2_drinks_3 : List UInt8 := dkwX2_drinks_3 ++ []
def dkwX2_drinks_2 : List UInt8 := [79, 42, 180, 0, 24, 27, 28, 158, 0, 19, 16, 99, 42, 180, 0, 24, 27, 46, 28, 96, 184, 0, 75]
abbrev dktX2_drinks_2 : List UInt8 := dkwX2_drinks_2 ++ dktX2_drinks_3
def dkwX2_drinks_1 : List UInt8 := [180, 0, 21, 27, 3, 42, 180, 0, 21, 27, 46, 42, 180, 0, 11, 27, 50, 182, 0, 132, 100, 184, 0, 81]
abbrev dktX2_drinks_1 : List UInt8 := dkwX2_drinks_1 ++ dktX2_drinks_2
def dkwX2_drinks_0 : List UInt8 := [3, 42, 180, 0, 11, 27, 50, 182, 0, 132, 42, 180, 0, 21, 27, 46, 100, 184, 0, 81, 61, 42]
abbrev dktX2_drinks_0 : List UInt8 := dkwX2_drinks_0 ++ dktX2_drinks_1
theorem dksX2_drinks_0 : cX2_drinks.data.toList.drop 0 = dktX2_drinks_0 := by decide +kernel
theorem dksX2_drinks_1 : cX2_drinks.data.toList.drop 22 = dktX2_drinks_1 := dk_seg dksX2_drinks_0 22 rfl rfl
theorem dksX2_drinks_2 : cX2_drinks.data.toList.drop 46 = dktX2_drinks_2 := dk_seg dksX2_drinks_1 24 rfl rfl
theorem dksX2_drinks_3 : cX2_drinks.data.toList.drop 69 = dktX2_drinks_3 := dk_seg dksX2_drinks_2 23 rfl rfl
theorem dX2_drinks_0 : decode cX2_drinks 0 = .ok (.iconst 0, 1) := dk_3 (dk_at dksX2_drinks_0 0 rfl rfl)
theorem dX2_drinks_1 : decode cX2_drinks 1 = .ok (.aload_n 0, 1) := dk_42 (dk_at dksX2_drinks_0 1 rfl rfl)
theorem dX2_drinks_2 : decode cX2_drinks 2 = .ok (.getfield 11, 3) := dk_180 0 11 (dk_at dksX2_drinks_0 2 rfl rfl)
theorem dX2_drinks_5 : decode cX2_drinks 5 = .ok (.iload_n 1, 1) := dk_27 (dk_at dksX2_drinks_0 5 rfl rfl)
theorem dX2_drinks_6 : decode cX2_drinks 6 = .ok (.aaload, 1) := dk_50 (dk_at dksX2_drinks_0 6 rfl rfl)
theorem dX2_drinks_7 : decode cX2_drinks 7 = .ok (.invokevirtual 132, 3) := dk_182 0 132 (dk_at dksX2_drinks_0 7 rfl rfl)
theorem dX2_drinks_10 : decode cX2_drinks 10 = .ok (.aload_n 0, 1) := dk_42 (dk_at dksX2_drinks_0 10 rfl rfl)
theorem dX2_drinks_11 : decode cX2_drinks 11 = .ok (.getfield 21, 3) := dk_180 0 21 (dk_at dksX2_drinks_0 11 rfl rfl)
theorem dX2_drinks_14 : decode cX2_drinks 14 = .ok (.iload_n 1, 1) := dk_27 (dk_at dksX2_drinks_0 14 rfl rfl)
theorem dX2_drinks_15 : decode cX2_drinks 15 = .ok (.iaload, 1) := dk_46 (dk_at dksX2_drinks_0 15 rfl rfl)
theorem dX2_drinks_16 : decode cX2_drinks 16 = .ok (.isub, 1) := dk_100 (dk_at dksX2_drinks_0 16 rfl rfl)
theorem dX2_drinks_17 : decode cX2_drinks 17 = .ok (.invokestatic 81, 3) := dk_184 0 81 (dk_at dksX2_drinks_0 17 rfl rfl)
theorem dX2_drinks_20 : decode cX2_drinks 20 = .ok (.istore_n 2, 1) := dk_61 (dk_at dksX2_drinks_0 20 rfl rfl)
theorem dX2_drinks_21 : decode cX2_drinks 21 = .ok (.aload_n 0, 1) := dk_42 (dk_at dksX2_drinks_0 21 rfl rfl)
theorem dX2_drinks_22 : decode cX2_drinks 22 = .ok (.getfield 21, 3) := dk_180 0 21 (dk_at dksX2_drinks_1 0 rfl rfl)
theorem dX2_drinks_25 : decode cX2_drinks 25 = .ok (.iload_n 1, 1) := dk_27 (dk_at dksX2_drinks_1 3 rfl rfl)
theorem dX2_drinks_26 : decode cX2_drinks 26 = .ok (.iconst 0, 1) := dk_3 (dk_at dksX2_drinks_1 4 rfl rfl)
theorem dX2_drinks_27 : decode cX2_drinks 27 = .ok (.aload_n 0, 1) := dk_42 (dk_at dksX2_drinks_1 5 rfl rfl)
theorem dX2_drinks_28 : decode cX2_drinks 28 = .ok (.getfield 21, 3) := dk_180 0 21 (dk_at dksX2_drinks_1 6 rfl rfl)
theorem dX2_drinks_31 : decode cX2_drinks 31 = .ok (.iload_n 1, 1) := dk_27 (dk_at dksX2_drinks_1 9 rfl rfl)
theorem dX2_drinks_32 : decode cX2_drinks 32 = .ok (.iaload, 1) := dk_46 (dk_at dksX2_drinks_1 10 rfl rfl)
theorem dX2_drinks_33 : decode cX2_drinks 33 = .ok (.aload_n 0, 1) := dk_42 (dk_at dksX2_drinks_1 11 rfl rfl)
theorem dX2_drinks_34 : decode cX2_drinks 34 = .ok (.getfield 11, 3) := dk_180 0 11 (dk_at dksX2_drinks_1 12 rfl rfl)
theorem dX2_drinks_37 : decode cX2_drinks 37 = .ok (.iload_n 1, 1) := dk_27 (dk_at dksX2_drinks_1 15 rfl rfl)
theorem dX2_drinks_38 : decode cX2_drinks 38 = .ok (.aaload, 1) := dk_50 (dk_at dksX2_drinks_1 16 rfl rfl)
theorem dX2_drinks_39 : decode cX2_drinks 39 = .ok (.invokevirtual 132, 3) := dk_182 0 132 (dk_at dksX2_drinks_1 17 rfl rfl)
theorem dX2_drinks_42 : decode cX2_drinks 42 = .ok (.isub, 1) := dk_100 (dk_at dksX2_drinks_1 20 rfl rfl)
theorem dX2_drinks_43 : decode cX2_drinks 43 = .ok (.invokestatic 81, 3) := dk_184 0 81 (dk_at dksX2_drinks_1 21 rfl rfl)
theorem dX2_drinks_46 : decode cX2_drinks 46 = .ok (.iastore, 1) := dk_79 (dk_at dksX2_drinks_2 0 rfl rfl)
theorem dX2_drinks_47 : decode cX2_drinks 47 = .ok (.aload_n 0, 1) := dk_42 (dk_at dksX2_drinks_2 1 rfl rfl)
theorem dX2_drinks_48 : decode cX2_drinks 48 = .ok (.getfield 24, 3) := dk_180 0 24 (dk_at dksX2_drinks_2 2 rfl rfl)
theorem dX2_drinks_51 : decode cX2_drinks 51 = .ok (.iload_n 1, 1) := dk_27 (dk_at dksX2_drinks_2 5 rfl rfl)
theorem dX2_drinks_52 : decode cX2_drinks 52 = .ok (.iload_n 2, 1) := dk_28 (dk_at dksX2_drinks_2 6 rfl rfl)
theorem dX2_drinks_53 : decode cX2_drinks 53 = .ok (.ifCond .le 19, 3) := dk_158 0 19 (dk_at dksX2_drinks_2 7 rfl rfl)
theorem dX2_drinks_56 : decode cX2_drinks 56 = .ok (.bipush 99, 2) := dk_16 99 (dk_at dksX2_drinks_2 10 rfl rfl)
theorem dX2_drinks_58 : decode cX2_drinks 58 = .ok (.aload_n 0, 1) := dk_42 (dk_at dksX2_drinks_2 12 rfl rfl)
theorem dX2_drinks_59 : decode cX2_drinks 59 = .ok (.getfield 24, 3) := dk_180 0 24 (dk_at dksX2_drinks_2 13 rfl rfl)
theorem dX2_drinks_62 : decode cX2_drinks 62 = .ok (.iload_n 1, 1) := dk_27 (dk_at dksX2_drinks_2 16 rfl rfl)
theorem dX2_drinks_63 : decode cX2_drinks 63 = .ok (.iaload, 1) := dk_46 (dk_at dksX2_drinks_2 17 rfl rfl)
theorem dX2_drinks_64 : decode cX2_drinks 64 = .ok (.iload_n 2, 1) := dk_28 (dk_at dksX2_drinks_2 18 rfl rfl)
theorem dX2_drinks_65 : decode cX2_drinks 65 = .ok (.iadd, 1) := dk_96 (dk_at dksX2_drinks_2 19 rfl rfl)
theorem dX2_drinks_66 : decode cX2_drinks 66 = .ok (.invokestatic 75, 3) := dk_184 0 75 (dk_at dksX2_drinks_2 20 rfl rfl)
theorem dX2_drinks_69 : decode cX2_drinks 69 = .ok (.goto 4, 3) := dk_167 0 4 (dk_at dksX2_drinks_3 0 rfl rfl)
theorem dX2_drinks_72 : decode cX2_drinks 72 = .ok (.iconst 0, 1) := dk_3 (dk_at dksX2_drinks_3 3 rfl rfl)
theorem dX2_drinks_73 : decode cX2_drinks 73 = .ok (.iastore, 1) := dk_79 (dk_at dksX2_drinks_3 4 rfl rfl)
theorem dX2_drinks_74 : decode cX2_drinks 74 = .ok (.return_, 1) := dk_177 (dk_at dksX2_drinks_3 5 rfl rfl)
abbrev cX2_allWater : ByteArray := prog_12_method_24_code
def yX2_allWater : MethodName := ⟨RX2, "allWater", "()I"⟩
def dkwX2_allWater_0 : List UInt8 := [42, 180, 0, 21, 42, 180, 0, 57, 184, 0, 157, 172]
abbrev dktX2_allWater_0 : List UInt8 := dkwX2_allWater_0 ++ []
theorem dksX2_allWater_0 : cX2_allWater.data.toList.drop 0 = dktX2_allWater_0 := by decide +kernel
theorem dX2_allWater_0 : decode cX2_allWater 0 = .ok (.aload_n 0, 1) := dk_42 (dk_at dksX2_allWater_0 0 rfl rfl)
theorem dX2_allWater_1 : decode cX2_allWater 1 = .ok (.getfield 21, 3) := dk_180 0 21 (dk_at dksX2_allWater_0 1 rfl rfl)
theorem dX2_allWater_4 : decode cX2_allWater 4 = .ok (.aload_n 0, 1) := dk_42 (dk_at dksX2_allWater_0 4 rfl rfl)
theorem dX2_allWater_5 : decode cX2_allWater 5 = .ok (.getfield 57, 3) := dk_180 0 57 (dk_at dksX2_allWater_0 5 rfl rfl)
theorem dX2_allWater_8 : decode cX2_allWater 8 = .ok (.invokestatic 157, 3) := dk_184 0 157 (dk_at dksX2_allWater_0 8 rfl rfl)
theorem dX2_allWater_11 : decode cX2_allWater 11 = .ok (.ireturn, 1) := dk_172 (dk_at dksX2_allWater_0 11 rfl rfl)
abbrev cX2_sumOf : ByteArray := prog_12_method_23_code
def yX2_sumOf : MethodName := ⟨RX2, "sumOf", "([II)I"⟩
def dkwX2_sumOf_0 : List UInt8 := [3, 61, 3, 62, 29, 27, 162, 0, 15, 28, 42, 29, 46, 96, 61, 132, 3, 1, 167, 255, 242, 28, 172]
abbrev dktX2_sumOf_0 : List UInt8 := dkwX2_sumOf_0 ++ []
theorem dksX2_sumOf_0 : cX2_sumOf.data.toList.drop 0 = dktX2_sumOf_0 := by decide +kernel
theorem dX2_sumOf_0 : decode cX2_sumOf 0 = .ok (.iconst 0, 1) := dk_3 (dk_at dksX2_sumOf_0 0 rfl rfl)
theorem dX2_sumOf_1 : decode cX2_sumOf 1 = .ok (.istore_n 2, 1) := dk_61 (dk_at dksX2_sumOf_0 1 rfl rfl)
theorem dX2_sumOf_2 : decode cX2_sumOf 2 = .ok (.iconst 0, 1) := dk_3 (dk_at dksX2_sumOf_0 2 rfl rfl)
theorem dX2_sumOf_3 : decode cX2_sumOf 3 = .ok (.istore_n 3, 1) := dk_62 (dk_at dksX2_sumOf_0 3 rfl rfl)
theorem dX2_sumOf_4 : decode cX2_sumOf 4 = .ok (.iload_n 3, 1) := dk_29 (dk_at dksX2_sumOf_0 4 rfl rfl)
theorem dX2_sumOf_5 : decode cX2_sumOf 5 = .ok (.iload_n 1, 1) := dk_27 (dk_at dksX2_sumOf_0 5 rfl rfl)
theorem dX2_sumOf_6 : decode cX2_sumOf 6 = .ok (.if_icmp .ge 15, 3) := dk_162 0 15 (dk_at dksX2_sumOf_0 6 rfl rfl)
theorem dX2_sumOf_9 : decode cX2_sumOf 9 = .ok (.iload_n 2, 1) := dk_28 (dk_at dksX2_sumOf_0 9 rfl rfl)
theorem dX2_sumOf_10 : decode cX2_sumOf 10 = .ok (.aload_n 0, 1) := dk_42 (dk_at dksX2_sumOf_0 10 rfl rfl)
theorem dX2_sumOf_11 : decode cX2_sumOf 11 = .ok (.iload_n 3, 1) := dk_29 (dk_at dksX2_sumOf_0 11 rfl rfl)
theorem dX2_sumOf_12 : decode cX2_sumOf 12 = .ok (.iaload, 1) := dk_46 (dk_at dksX2_sumOf_0 12 rfl rfl)
theorem dX2_sumOf_13 : decode cX2_sumOf 13 = .ok (.iadd, 1) := dk_96 (dk_at dksX2_sumOf_0 13 rfl rfl)
theorem dX2_sumOf_14 : decode cX2_sumOf 14 = .ok (.istore_n 2, 1) := dk_61 (dk_at dksX2_sumOf_0 14 rfl rfl)
theorem dX2_sumOf_15 : decode cX2_sumOf 15 = .ok (.iinc 3 1, 3) := dk_132 3 1 (dk_at dksX2_sumOf_0 15 rfl rfl)
theorem dX2_sumOf_18 : decode cX2_sumOf 18 = .ok (.goto (-14), 3) := dk_167 255 242 (dk_at dksX2_sumOf_0 18 rfl rfl)
theorem dX2_sumOf_21 : decode cX2_sumOf 21 = .ok (.iload_n 2, 1) := dk_28 (dk_at dksX2_sumOf_0 21 rfl rfl)
theorem dX2_sumOf_22 : decode cX2_sumOf 22 = .ok (.ireturn, 1) := dk_172 (dk_at dksX2_sumOf_0 22 rfl rfl)
abbrev cX2_goesLoose : ByteArray := prog_12_method_18_code
def yX2_goesLoose : MethodName := ⟨RX2, "goesLoose", "()V"⟩
def dkwX2_goesLoose_2 : List UInt8 := [167, 255, 212, 42, 182, 0, 140, 177]
abbrev dktX2_goesLoose_2 : List UInt8 := dkwX2_goesLoose_2 ++ []
def dkwX2_goesLoose_1 : List UInt8 := [16, 8, 112, 154, 0, 14, 4, 28, 16, 8, 108, 7, 112, 120, 167, 0, 4, 3, 130, 79, 132, 1, 1]
abbrev dktX2_goesLoose_1 : List UInt8 := dkwX2_goesLoose_1 ++ dktX2_goesLoose_2
def dkwX2_goesLoose_0 : List UInt8 := [3, 60, 27, 42, 180, 0, 57, 162, 0, 42, 42, 182, 0, 144, 61, 42, 180, 0, 17, 27, 92, 46, 28]
abbrev dktX2_goesLoose_0 : List UInt8 := dkwX2_goesLoose_0 ++ dktX2_goesLoose_1
theorem dksX2_goesLoose_0 : cX2_goesLoose.data.toList.drop 0 = dktX2_goesLoose_0 := by decide +kernel
theorem dksX2_goesLoose_1 : cX2_goesLoose.data.toList.drop 23 = dktX2_goesLoose_1 := dk_seg dksX2_goesLoose_0 23 rfl rfl
theorem dksX2_goesLoose_2 : cX2_goesLoose.data.toList.drop 46 = dktX2_goesLoose_2 := dk_seg dksX2_goesLoose_1 23 rfl rfl
theorem dX2_goesLoose_0 : decode cX2_goesLoose 0 = .ok (.iconst 0, 1) := dk_3 (dk_at dksX2_goesLoose_0 0 rfl rfl)
theorem dX2_goesLoose_1 : decode cX2_goesLoose 1 = .ok (.istore_n 1, 1) := dk_60 (dk_at dksX2_goesLoose_0 1 rfl rfl)
theorem dX2_goesLoose_2 : decode cX2_goesLoose 2 = .ok (.iload_n 1, 1) := dk_27 (dk_at dksX2_goesLoose_0 2 rfl rfl)
theorem dX2_goesLoose_3 : decode cX2_goesLoose 3 = .ok (.aload_n 0, 1) := dk_42 (dk_at dksX2_goesLoose_0 3 rfl rfl)
theorem dX2_goesLoose_4 : decode cX2_goesLoose 4 = .ok (.getfield 57, 3) := dk_180 0 57 (dk_at dksX2_goesLoose_0 4 rfl rfl)
theorem dX2_goesLoose_7 : decode cX2_goesLoose 7 = .ok (.if_icmp .ge 42, 3) := dk_162 0 42 (dk_at dksX2_goesLoose_0 7 rfl rfl)
theorem dX2_goesLoose_10 : decode cX2_goesLoose 10 = .ok (.aload_n 0, 1) := dk_42 (dk_at dksX2_goesLoose_0 10 rfl rfl)
theorem dX2_goesLoose_11 : decode cX2_goesLoose 11 = .ok (.invokevirtual 144, 3) := dk_182 0 144 (dk_at dksX2_goesLoose_0 11 rfl rfl)
theorem dX2_goesLoose_14 : decode cX2_goesLoose 14 = .ok (.istore_n 2, 1) := dk_61 (dk_at dksX2_goesLoose_0 14 rfl rfl)
theorem dX2_goesLoose_15 : decode cX2_goesLoose 15 = .ok (.aload_n 0, 1) := dk_42 (dk_at dksX2_goesLoose_0 15 rfl rfl)
theorem dX2_goesLoose_16 : decode cX2_goesLoose 16 = .ok (.getfield 17, 3) := dk_180 0 17 (dk_at dksX2_goesLoose_0 16 rfl rfl)
theorem dX2_goesLoose_19 : decode cX2_goesLoose 19 = .ok (.iload_n 1, 1) := dk_27 (dk_at dksX2_goesLoose_0 19 rfl rfl)
theorem dX2_goesLoose_20 : decode cX2_goesLoose 20 = .ok (.dup2, 1) := dk_92 (dk_at dksX2_goesLoose_0 20 rfl rfl)
theorem dX2_goesLoose_21 : decode cX2_goesLoose 21 = .ok (.iaload, 1) := dk_46 (dk_at dksX2_goesLoose_0 21 rfl rfl)
theorem dX2_goesLoose_22 : decode cX2_goesLoose 22 = .ok (.iload_n 2, 1) := dk_28 (dk_at dksX2_goesLoose_0 22 rfl rfl)
theorem dX2_goesLoose_23 : decode cX2_goesLoose 23 = .ok (.bipush 8, 2) := dk_16 8 (dk_at dksX2_goesLoose_1 0 rfl rfl)
theorem dX2_goesLoose_25 : decode cX2_goesLoose 25 = .ok (.irem, 1) := dk_112 (dk_at dksX2_goesLoose_1 2 rfl rfl)
theorem dX2_goesLoose_26 : decode cX2_goesLoose 26 = .ok (.ifCond .ne 14, 3) := dk_154 0 14 (dk_at dksX2_goesLoose_1 3 rfl rfl)
theorem dX2_goesLoose_29 : decode cX2_goesLoose 29 = .ok (.iconst 1, 1) := dk_4 (dk_at dksX2_goesLoose_1 6 rfl rfl)
theorem dX2_goesLoose_30 : decode cX2_goesLoose 30 = .ok (.iload_n 2, 1) := dk_28 (dk_at dksX2_goesLoose_1 7 rfl rfl)
theorem dX2_goesLoose_31 : decode cX2_goesLoose 31 = .ok (.bipush 8, 2) := dk_16 8 (dk_at dksX2_goesLoose_1 8 rfl rfl)
theorem dX2_goesLoose_33 : decode cX2_goesLoose 33 = .ok (.idiv, 1) := dk_108 (dk_at dksX2_goesLoose_1 10 rfl rfl)
theorem dX2_goesLoose_34 : decode cX2_goesLoose 34 = .ok (.iconst 4, 1) := dk_7 (dk_at dksX2_goesLoose_1 11 rfl rfl)
theorem dX2_goesLoose_35 : decode cX2_goesLoose 35 = .ok (.irem, 1) := dk_112 (dk_at dksX2_goesLoose_1 12 rfl rfl)
theorem dX2_goesLoose_36 : decode cX2_goesLoose 36 = .ok (.ishl, 1) := dk_120 (dk_at dksX2_goesLoose_1 13 rfl rfl)
theorem dX2_goesLoose_37 : decode cX2_goesLoose 37 = .ok (.goto 4, 3) := dk_167 0 4 (dk_at dksX2_goesLoose_1 14 rfl rfl)
theorem dX2_goesLoose_40 : decode cX2_goesLoose 40 = .ok (.iconst 0, 1) := dk_3 (dk_at dksX2_goesLoose_1 17 rfl rfl)
theorem dX2_goesLoose_41 : decode cX2_goesLoose 41 = .ok (.ixor, 1) := dk_130 (dk_at dksX2_goesLoose_1 18 rfl rfl)
theorem dX2_goesLoose_42 : decode cX2_goesLoose 42 = .ok (.iastore, 1) := dk_79 (dk_at dksX2_goesLoose_1 19 rfl rfl)
theorem dX2_goesLoose_43 : decode cX2_goesLoose 43 = .ok (.iinc 1 1, 3) := dk_132 1 1 (dk_at dksX2_goesLoose_1 20 rfl rfl)
theorem dX2_goesLoose_46 : decode cX2_goesLoose 46 = .ok (.goto (-44), 3) := dk_167 255 212 (dk_at dksX2_goesLoose_2 0 rfl rfl)
theorem dX2_goesLoose_49 : decode cX2_goesLoose 49 = .ok (.aload_n 0, 1) := dk_42 (dk_at dksX2_goesLoose_2 3 rfl rfl)
theorem dX2_goesLoose_50 : decode cX2_goesLoose 50 = .ok (.invokevirtual 140, 3) := dk_182 0 140 (dk_at dksX2_goesLoose_2 4 rfl rfl)
theorem dX2_goesLoose_53 : decode cX2_goesLoose 53 = .ok (.return_, 1) := dk_177 (dk_at dksX2_goesLoose_2 7 rfl rfl)
abbrev cX2_draw : ByteArray := prog_12_method_17_code
def yX2_draw : MethodName := ⟨RX2, "draw", "()I"⟩
def dkwX2_draw_0 : List UInt8 := [42, 42, 180, 0, 40, 18, 143, 104, 17, 48, 57, 96, 181, 0, 40, 42, 180, 0, 40, 16, 8, 124, 172]
abbrev dktX2_draw_0 : List UInt8 := dkwX2_draw_0 ++ []
theorem dksX2_draw_0 : cX2_draw.data.toList.drop 0 = dktX2_draw_0 := by decide +kernel
theorem dX2_draw_0 : decode cX2_draw 0 = .ok (.aload_n 0, 1) := dk_42 (dk_at dksX2_draw_0 0 rfl rfl)
theorem dX2_draw_1 : decode cX2_draw 1 = .ok (.aload_n 0, 1) := dk_42 (dk_at dksX2_draw_0 1 rfl rfl)
theorem dX2_draw_2 : decode cX2_draw 2 = .ok (.getfield 40, 3) := dk_180 0 40 (dk_at dksX2_draw_0 2 rfl rfl)
theorem dX2_draw_5 : decode cX2_draw 5 = .ok (.ldc 143, 2) := dk_18 143 (dk_at dksX2_draw_0 5 rfl rfl)
theorem dX2_draw_7 : decode cX2_draw 7 = .ok (.imul, 1) := dk_104 (dk_at dksX2_draw_0 7 rfl rfl)
theorem dX2_draw_8 : decode cX2_draw 8 = .ok (.sipush 12345, 3) := dk_17 48 57 (dk_at dksX2_draw_0 8 rfl rfl)
theorem dX2_draw_11 : decode cX2_draw 11 = .ok (.iadd, 1) := dk_96 (dk_at dksX2_draw_0 11 rfl rfl)
theorem dX2_draw_12 : decode cX2_draw 12 = .ok (.putfield 40, 3) := dk_181 0 40 (dk_at dksX2_draw_0 12 rfl rfl)
theorem dX2_draw_15 : decode cX2_draw 15 = .ok (.aload_n 0, 1) := dk_42 (dk_at dksX2_draw_0 15 rfl rfl)
theorem dX2_draw_16 : decode cX2_draw 16 = .ok (.getfield 40, 3) := dk_180 0 40 (dk_at dksX2_draw_0 16 rfl rfl)
theorem dX2_draw_19 : decode cX2_draw 19 = .ok (.bipush 8, 2) := dk_16 8 (dk_at dksX2_draw_0 19 rfl rfl)
theorem dX2_draw_21 : decode cX2_draw 21 = .ok (.iushr, 1) := dk_124 (dk_at dksX2_draw_0 21 rfl rfl)
theorem dX2_draw_22 : decode cX2_draw 22 = .ok (.ireturn, 1) := dk_172 (dk_at dksX2_draw_0 22 rfl rfl)
abbrev cX2_strikes : ByteArray := prog_12_method_22_code
def yX2_strikes : MethodName := ⟨RX2, "strikes", "()I"⟩
def dkwX2_strikes_0 : List UInt8 := [3, 60, 42, 182, 0, 150, 154, 0, 10, 42, 182, 0, 154, 153, 0, 9, 132, 1, 1, 167, 255, 239, 27, 172]
abbrev dktX2_strikes_0 : List UInt8 := dkwX2_strikes_0 ++ []
theorem dksX2_strikes_0 : cX2_strikes.data.toList.drop 0 = dktX2_strikes_0 := by decide +kernel
theorem dX2_strikes_0 : decode cX2_strikes 0 = .ok (.iconst 0, 1) := dk_3 (dk_at dksX2_strikes_0 0 rfl rfl)
theorem dX2_strikes_1 : decode cX2_strikes 1 = .ok (.istore_n 1, 1) := dk_60 (dk_at dksX2_strikes_0 1 rfl rfl)
theorem dX2_strikes_2 : decode cX2_strikes 2 = .ok (.aload_n 0, 1) := dk_42 (dk_at dksX2_strikes_0 2 rfl rfl)
theorem dX2_strikes_3 : decode cX2_strikes 3 = .ok (.invokevirtual 150, 3) := dk_182 0 150 (dk_at dksX2_strikes_0 3 rfl rfl)
theorem dX2_strikes_6 : decode cX2_strikes 6 = .ok (.ifCond .ne 10, 3) := dk_154 0 10 (dk_at dksX2_strikes_0 6 rfl rfl)
theorem dX2_strikes_9 : decode cX2_strikes 9 = .ok (.aload_n 0, 1) := dk_42 (dk_at dksX2_strikes_0 9 rfl rfl)
theorem dX2_strikes_10 : decode cX2_strikes 10 = .ok (.invokevirtual 154, 3) := dk_182 0 154 (dk_at dksX2_strikes_0 10 rfl rfl)
theorem dX2_strikes_13 : decode cX2_strikes 13 = .ok (.ifCond .eq 9, 3) := dk_153 0 9 (dk_at dksX2_strikes_0 13 rfl rfl)
theorem dX2_strikes_16 : decode cX2_strikes 16 = .ok (.iinc 1 1, 3) := dk_132 1 1 (dk_at dksX2_strikes_0 16 rfl rfl)
theorem dX2_strikes_19 : decode cX2_strikes 19 = .ok (.goto (-17), 3) := dk_167 255 239 (dk_at dksX2_strikes_0 19 rfl rfl)
theorem dX2_strikes_22 : decode cX2_strikes 22 = .ok (.iload_n 1, 1) := dk_27 (dk_at dksX2_strikes_0 22 rfl rfl)
theorem dX2_strikes_23 : decode cX2_strikes 23 = .ok (.ireturn, 1) := dk_172 (dk_at dksX2_strikes_0 23 rfl rfl)
abbrev cX2_strikesTwo : ByteArray := prog_12_method_19_code
def yX2_strikesTwo : MethodName := ⟨RX2, "strikesTwo", "()Z"⟩
def dkwX2_strikesTwo_3 : List UInt8 := [184, 0, 107, 92, 46, 29, 100, 79, 4, 172, 132, 2, 1, 167, 255, 187, 132, 1, 1, 167, 255, 169, 3, 172]
abbrev dktX2_strikesTwo_3 : List UInt8 := dkwX2_strikesTwo_3 ++ []
def dkwX2_strikesTwo_2 : List UInt8 := [158, 0, 33, 42, 180, 0, 27, 27, 28, 184, 0, 107, 92, 46, 29, 100, 79, 42, 180, 0, 27, 28, 27]
abbrev dktX2_strikesTwo_2 : List UInt8 := dkwX2_strikesTwo_2 ++ dktX2_strikesTwo_3
def dkwX2_strikesTwo_1 : List UInt8 := [180, 0, 27, 27, 28, 184, 0, 107, 46, 42, 180, 0, 27, 28, 27, 184, 0, 107, 46, 184, 0, 75, 62, 29]
abbrev dktX2_strikesTwo_1 : List UInt8 := dkwX2_strikesTwo_1 ++ dktX2_strikesTwo_2
def dkwX2_strikesTwo_0 : List UInt8 := [3, 60, 27, 42, 180, 0, 57, 162, 0, 85, 27, 4, 96, 61, 28, 42, 180, 0, 57, 162, 0, 67, 42]
abbrev dktX2_strikesTwo_0 : List UInt8 := dkwX2_strikesTwo_0 ++ dktX2_strikesTwo_1
theorem dksX2_strikesTwo_0 : cX2_strikesTwo.data.toList.drop 0 = dktX2_strikesTwo_0 := by decide +kernel
theorem dksX2_strikesTwo_1 : cX2_strikesTwo.data.toList.drop 23 = dktX2_strikesTwo_1 := dk_seg dksX2_strikesTwo_0 23 rfl rfl
theorem dksX2_strikesTwo_2 : cX2_strikesTwo.data.toList.drop 47 = dktX2_strikesTwo_2 := dk_seg dksX2_strikesTwo_1 24 rfl rfl
theorem dksX2_strikesTwo_3 : cX2_strikesTwo.data.toList.drop 70 = dktX2_strikesTwo_3 := dk_seg dksX2_strikesTwo_2 23 rfl rfl
theorem dX2_strikesTwo_0 : decode cX2_strikesTwo 0 = .ok (.iconst 0, 1) := dk_3 (dk_at dksX2_strikesTwo_0 0 rfl rfl)
theorem dX2_strikesTwo_1 : decode cX2_strikesTwo 1 = .ok (.istore_n 1, 1) := dk_60 (dk_at dksX2_strikesTwo_0 1 rfl rfl)
theorem dX2_strikesTwo_2 : decode cX2_strikesTwo 2 = .ok (.iload_n 1, 1) := dk_27 (dk_at dksX2_strikesTwo_0 2 rfl rfl)
theorem dX2_strikesTwo_3 : decode cX2_strikesTwo 3 = .ok (.aload_n 0, 1) := dk_42 (dk_at dksX2_strikesTwo_0 3 rfl rfl)
theorem dX2_strikesTwo_4 : decode cX2_strikesTwo 4 = .ok (.getfield 57, 3) := dk_180 0 57 (dk_at dksX2_strikesTwo_0 4 rfl rfl)
theorem dX2_strikesTwo_7 : decode cX2_strikesTwo 7 = .ok (.if_icmp .ge 85, 3) := dk_162 0 85 (dk_at dksX2_strikesTwo_0 7 rfl rfl)
theorem dX2_strikesTwo_10 : decode cX2_strikesTwo 10 = .ok (.iload_n 1, 1) := dk_27 (dk_at dksX2_strikesTwo_0 10 rfl rfl)
theorem dX2_strikesTwo_11 : decode cX2_strikesTwo 11 = .ok (.iconst 1, 1) := dk_4 (dk_at dksX2_strikesTwo_0 11 rfl rfl)
theorem dX2_strikesTwo_12 : decode cX2_strikesTwo 12 = .ok (.iadd, 1) := dk_96 (dk_at dksX2_strikesTwo_0 12 rfl rfl)
theorem dX2_strikesTwo_13 : decode cX2_strikesTwo 13 = .ok (.istore_n 2, 1) := dk_61 (dk_at dksX2_strikesTwo_0 13 rfl rfl)
theorem dX2_strikesTwo_14 : decode cX2_strikesTwo 14 = .ok (.iload_n 2, 1) := dk_28 (dk_at dksX2_strikesTwo_0 14 rfl rfl)
theorem dX2_strikesTwo_15 : decode cX2_strikesTwo 15 = .ok (.aload_n 0, 1) := dk_42 (dk_at dksX2_strikesTwo_0 15 rfl rfl)
theorem dX2_strikesTwo_16 : decode cX2_strikesTwo 16 = .ok (.getfield 57, 3) := dk_180 0 57 (dk_at dksX2_strikesTwo_0 16 rfl rfl)
theorem dX2_strikesTwo_19 : decode cX2_strikesTwo 19 = .ok (.if_icmp .ge 67, 3) := dk_162 0 67 (dk_at dksX2_strikesTwo_0 19 rfl rfl)
theorem dX2_strikesTwo_22 : decode cX2_strikesTwo 22 = .ok (.aload_n 0, 1) := dk_42 (dk_at dksX2_strikesTwo_0 22 rfl rfl)
theorem dX2_strikesTwo_23 : decode cX2_strikesTwo 23 = .ok (.getfield 27, 3) := dk_180 0 27 (dk_at dksX2_strikesTwo_1 0 rfl rfl)
theorem dX2_strikesTwo_26 : decode cX2_strikesTwo 26 = .ok (.iload_n 1, 1) := dk_27 (dk_at dksX2_strikesTwo_1 3 rfl rfl)
theorem dX2_strikesTwo_27 : decode cX2_strikesTwo 27 = .ok (.iload_n 2, 1) := dk_28 (dk_at dksX2_strikesTwo_1 4 rfl rfl)
theorem dX2_strikesTwo_28 : decode cX2_strikesTwo 28 = .ok (.invokestatic 107, 3) := dk_184 0 107 (dk_at dksX2_strikesTwo_1 5 rfl rfl)
theorem dX2_strikesTwo_31 : decode cX2_strikesTwo 31 = .ok (.iaload, 1) := dk_46 (dk_at dksX2_strikesTwo_1 8 rfl rfl)
theorem dX2_strikesTwo_32 : decode cX2_strikesTwo 32 = .ok (.aload_n 0, 1) := dk_42 (dk_at dksX2_strikesTwo_1 9 rfl rfl)
theorem dX2_strikesTwo_33 : decode cX2_strikesTwo 33 = .ok (.getfield 27, 3) := dk_180 0 27 (dk_at dksX2_strikesTwo_1 10 rfl rfl)
theorem dX2_strikesTwo_36 : decode cX2_strikesTwo 36 = .ok (.iload_n 2, 1) := dk_28 (dk_at dksX2_strikesTwo_1 13 rfl rfl)
theorem dX2_strikesTwo_37 : decode cX2_strikesTwo 37 = .ok (.iload_n 1, 1) := dk_27 (dk_at dksX2_strikesTwo_1 14 rfl rfl)
theorem dX2_strikesTwo_38 : decode cX2_strikesTwo 38 = .ok (.invokestatic 107, 3) := dk_184 0 107 (dk_at dksX2_strikesTwo_1 15 rfl rfl)
theorem dX2_strikesTwo_41 : decode cX2_strikesTwo 41 = .ok (.iaload, 1) := dk_46 (dk_at dksX2_strikesTwo_1 18 rfl rfl)
theorem dX2_strikesTwo_42 : decode cX2_strikesTwo 42 = .ok (.invokestatic 75, 3) := dk_184 0 75 (dk_at dksX2_strikesTwo_1 19 rfl rfl)
theorem dX2_strikesTwo_45 : decode cX2_strikesTwo 45 = .ok (.istore_n 3, 1) := dk_62 (dk_at dksX2_strikesTwo_1 22 rfl rfl)
theorem dX2_strikesTwo_46 : decode cX2_strikesTwo 46 = .ok (.iload_n 3, 1) := dk_29 (dk_at dksX2_strikesTwo_1 23 rfl rfl)
theorem dX2_strikesTwo_47 : decode cX2_strikesTwo 47 = .ok (.ifCond .le 33, 3) := dk_158 0 33 (dk_at dksX2_strikesTwo_2 0 rfl rfl)
theorem dX2_strikesTwo_50 : decode cX2_strikesTwo 50 = .ok (.aload_n 0, 1) := dk_42 (dk_at dksX2_strikesTwo_2 3 rfl rfl)
theorem dX2_strikesTwo_51 : decode cX2_strikesTwo 51 = .ok (.getfield 27, 3) := dk_180 0 27 (dk_at dksX2_strikesTwo_2 4 rfl rfl)
theorem dX2_strikesTwo_54 : decode cX2_strikesTwo 54 = .ok (.iload_n 1, 1) := dk_27 (dk_at dksX2_strikesTwo_2 7 rfl rfl)
theorem dX2_strikesTwo_55 : decode cX2_strikesTwo 55 = .ok (.iload_n 2, 1) := dk_28 (dk_at dksX2_strikesTwo_2 8 rfl rfl)
theorem dX2_strikesTwo_56 : decode cX2_strikesTwo 56 = .ok (.invokestatic 107, 3) := dk_184 0 107 (dk_at dksX2_strikesTwo_2 9 rfl rfl)
theorem dX2_strikesTwo_59 : decode cX2_strikesTwo 59 = .ok (.dup2, 1) := dk_92 (dk_at dksX2_strikesTwo_2 12 rfl rfl)
theorem dX2_strikesTwo_60 : decode cX2_strikesTwo 60 = .ok (.iaload, 1) := dk_46 (dk_at dksX2_strikesTwo_2 13 rfl rfl)
theorem dX2_strikesTwo_61 : decode cX2_strikesTwo 61 = .ok (.iload_n 3, 1) := dk_29 (dk_at dksX2_strikesTwo_2 14 rfl rfl)
theorem dX2_strikesTwo_62 : decode cX2_strikesTwo 62 = .ok (.isub, 1) := dk_100 (dk_at dksX2_strikesTwo_2 15 rfl rfl)
theorem dX2_strikesTwo_63 : decode cX2_strikesTwo 63 = .ok (.iastore, 1) := dk_79 (dk_at dksX2_strikesTwo_2 16 rfl rfl)
theorem dX2_strikesTwo_64 : decode cX2_strikesTwo 64 = .ok (.aload_n 0, 1) := dk_42 (dk_at dksX2_strikesTwo_2 17 rfl rfl)
theorem dX2_strikesTwo_65 : decode cX2_strikesTwo 65 = .ok (.getfield 27, 3) := dk_180 0 27 (dk_at dksX2_strikesTwo_2 18 rfl rfl)
theorem dX2_strikesTwo_68 : decode cX2_strikesTwo 68 = .ok (.iload_n 2, 1) := dk_28 (dk_at dksX2_strikesTwo_2 21 rfl rfl)
theorem dX2_strikesTwo_69 : decode cX2_strikesTwo 69 = .ok (.iload_n 1, 1) := dk_27 (dk_at dksX2_strikesTwo_2 22 rfl rfl)
theorem dX2_strikesTwo_70 : decode cX2_strikesTwo 70 = .ok (.invokestatic 107, 3) := dk_184 0 107 (dk_at dksX2_strikesTwo_3 0 rfl rfl)
theorem dX2_strikesTwo_73 : decode cX2_strikesTwo 73 = .ok (.dup2, 1) := dk_92 (dk_at dksX2_strikesTwo_3 3 rfl rfl)
theorem dX2_strikesTwo_74 : decode cX2_strikesTwo 74 = .ok (.iaload, 1) := dk_46 (dk_at dksX2_strikesTwo_3 4 rfl rfl)
theorem dX2_strikesTwo_75 : decode cX2_strikesTwo 75 = .ok (.iload_n 3, 1) := dk_29 (dk_at dksX2_strikesTwo_3 5 rfl rfl)
theorem dX2_strikesTwo_76 : decode cX2_strikesTwo 76 = .ok (.isub, 1) := dk_100 (dk_at dksX2_strikesTwo_3 6 rfl rfl)
theorem dX2_strikesTwo_77 : decode cX2_strikesTwo 77 = .ok (.iastore, 1) := dk_79 (dk_at dksX2_strikesTwo_3 7 rfl rfl)
theorem dX2_strikesTwo_78 : decode cX2_strikesTwo 78 = .ok (.iconst 1, 1) := dk_4 (dk_at dksX2_strikesTwo_3 8 rfl rfl)
theorem dX2_strikesTwo_79 : decode cX2_strikesTwo 79 = .ok (.ireturn, 1) := dk_172 (dk_at dksX2_strikesTwo_3 9 rfl rfl)
theorem dX2_strikesTwo_80 : decode cX2_strikesTwo 80 = .ok (.iinc 2 1, 3) := dk_132 2 1 (dk_at dksX2_strikesTwo_3 10 rfl rfl)
theorem dX2_strikesTwo_83 : decode cX2_strikesTwo 83 = .ok (.goto (-69), 3) := dk_167 255 187 (dk_at dksX2_strikesTwo_3 13 rfl rfl)
theorem dX2_strikesTwo_86 : decode cX2_strikesTwo 86 = .ok (.iinc 1 1, 3) := dk_132 1 1 (dk_at dksX2_strikesTwo_3 16 rfl rfl)
theorem dX2_strikesTwo_89 : decode cX2_strikesTwo 89 = .ok (.goto (-87), 3) := dk_167 255 169 (dk_at dksX2_strikesTwo_3 19 rfl rfl)
theorem dX2_strikesTwo_92 : decode cX2_strikesTwo 92 = .ok (.iconst 0, 1) := dk_3 (dk_at dksX2_strikesTwo_3 22 rfl rfl)
theorem dX2_strikesTwo_93 : decode cX2_strikesTwo 93 = .ok (.ireturn, 1) := dk_172 (dk_at dksX2_strikesTwo_3 23 rfl rfl)
abbrev cX2_strikesThree : ByteArray := prog_12_method_21_code
def yX2_strikesThree : MethodName := ⟨RX2, "strikesThree", "()Z"⟩
def dkwX2_strikesThree_2 : List UInt8 := [132, 3, 1, 167, 255, 233, 132, 2, 1, 167, 255, 215, 132, 1, 1, 167, 255, 197, 3, 172]
abbrev dktX2_strikesThree_2 : List UInt8 := dkwX2_strikesThree_2 ++ []
def dkwX2_strikesThree_1 : List UInt8 := [96, 62, 29, 42, 180, 0, 57, 162, 0, 21, 42, 27, 28, 29, 182, 0, 147, 153, 0, 5, 4, 172]
abbrev dktX2_strikesThree_1 : List UInt8 := dkwX2_strikesThree_1 ++ dktX2_strikesThree_2
def dkwX2_strikesThree_0 : List UInt8 := [3, 60, 27, 42, 180, 0, 57, 162, 0, 57, 27, 4, 96, 61, 28, 42, 180, 0, 57, 162, 0, 39, 27, 4]
abbrev dktX2_strikesThree_0 : List UInt8 := dkwX2_strikesThree_0 ++ dktX2_strikesThree_1
theorem dksX2_strikesThree_0 : cX2_strikesThree.data.toList.drop 0 = dktX2_strikesThree_0 := by decide +kernel
theorem dksX2_strikesThree_1 : cX2_strikesThree.data.toList.drop 24 = dktX2_strikesThree_1 := dk_seg dksX2_strikesThree_0 24 rfl rfl
theorem dksX2_strikesThree_2 : cX2_strikesThree.data.toList.drop 46 = dktX2_strikesThree_2 := dk_seg dksX2_strikesThree_1 22 rfl rfl
theorem dX2_strikesThree_0 : decode cX2_strikesThree 0 = .ok (.iconst 0, 1) := dk_3 (dk_at dksX2_strikesThree_0 0 rfl rfl)
theorem dX2_strikesThree_1 : decode cX2_strikesThree 1 = .ok (.istore_n 1, 1) := dk_60 (dk_at dksX2_strikesThree_0 1 rfl rfl)
theorem dX2_strikesThree_2 : decode cX2_strikesThree 2 = .ok (.iload_n 1, 1) := dk_27 (dk_at dksX2_strikesThree_0 2 rfl rfl)
theorem dX2_strikesThree_3 : decode cX2_strikesThree 3 = .ok (.aload_n 0, 1) := dk_42 (dk_at dksX2_strikesThree_0 3 rfl rfl)
theorem dX2_strikesThree_4 : decode cX2_strikesThree 4 = .ok (.getfield 57, 3) := dk_180 0 57 (dk_at dksX2_strikesThree_0 4 rfl rfl)
theorem dX2_strikesThree_7 : decode cX2_strikesThree 7 = .ok (.if_icmp .ge 57, 3) := dk_162 0 57 (dk_at dksX2_strikesThree_0 7 rfl rfl)
theorem dX2_strikesThree_10 : decode cX2_strikesThree 10 = .ok (.iload_n 1, 1) := dk_27 (dk_at dksX2_strikesThree_0 10 rfl rfl)
theorem dX2_strikesThree_11 : decode cX2_strikesThree 11 = .ok (.iconst 1, 1) := dk_4 (dk_at dksX2_strikesThree_0 11 rfl rfl)
theorem dX2_strikesThree_12 : decode cX2_strikesThree 12 = .ok (.iadd, 1) := dk_96 (dk_at dksX2_strikesThree_0 12 rfl rfl)
theorem dX2_strikesThree_13 : decode cX2_strikesThree 13 = .ok (.istore_n 2, 1) := dk_61 (dk_at dksX2_strikesThree_0 13 rfl rfl)
theorem dX2_strikesThree_14 : decode cX2_strikesThree 14 = .ok (.iload_n 2, 1) := dk_28 (dk_at dksX2_strikesThree_0 14 rfl rfl)
theorem dX2_strikesThree_15 : decode cX2_strikesThree 15 = .ok (.aload_n 0, 1) := dk_42 (dk_at dksX2_strikesThree_0 15 rfl rfl)
theorem dX2_strikesThree_16 : decode cX2_strikesThree 16 = .ok (.getfield 57, 3) := dk_180 0 57 (dk_at dksX2_strikesThree_0 16 rfl rfl)
theorem dX2_strikesThree_19 : decode cX2_strikesThree 19 = .ok (.if_icmp .ge 39, 3) := dk_162 0 39 (dk_at dksX2_strikesThree_0 19 rfl rfl)
theorem dX2_strikesThree_22 : decode cX2_strikesThree 22 = .ok (.iload_n 1, 1) := dk_27 (dk_at dksX2_strikesThree_0 22 rfl rfl)
theorem dX2_strikesThree_23 : decode cX2_strikesThree 23 = .ok (.iconst 1, 1) := dk_4 (dk_at dksX2_strikesThree_0 23 rfl rfl)
theorem dX2_strikesThree_24 : decode cX2_strikesThree 24 = .ok (.iadd, 1) := dk_96 (dk_at dksX2_strikesThree_1 0 rfl rfl)
theorem dX2_strikesThree_25 : decode cX2_strikesThree 25 = .ok (.istore_n 3, 1) := dk_62 (dk_at dksX2_strikesThree_1 1 rfl rfl)
theorem dX2_strikesThree_26 : decode cX2_strikesThree 26 = .ok (.iload_n 3, 1) := dk_29 (dk_at dksX2_strikesThree_1 2 rfl rfl)
theorem dX2_strikesThree_27 : decode cX2_strikesThree 27 = .ok (.aload_n 0, 1) := dk_42 (dk_at dksX2_strikesThree_1 3 rfl rfl)
theorem dX2_strikesThree_28 : decode cX2_strikesThree 28 = .ok (.getfield 57, 3) := dk_180 0 57 (dk_at dksX2_strikesThree_1 4 rfl rfl)
theorem dX2_strikesThree_31 : decode cX2_strikesThree 31 = .ok (.if_icmp .ge 21, 3) := dk_162 0 21 (dk_at dksX2_strikesThree_1 7 rfl rfl)
theorem dX2_strikesThree_34 : decode cX2_strikesThree 34 = .ok (.aload_n 0, 1) := dk_42 (dk_at dksX2_strikesThree_1 10 rfl rfl)
theorem dX2_strikesThree_35 : decode cX2_strikesThree 35 = .ok (.iload_n 1, 1) := dk_27 (dk_at dksX2_strikesThree_1 11 rfl rfl)
theorem dX2_strikesThree_36 : decode cX2_strikesThree 36 = .ok (.iload_n 2, 1) := dk_28 (dk_at dksX2_strikesThree_1 12 rfl rfl)
theorem dX2_strikesThree_37 : decode cX2_strikesThree 37 = .ok (.iload_n 3, 1) := dk_29 (dk_at dksX2_strikesThree_1 13 rfl rfl)
theorem dX2_strikesThree_38 : decode cX2_strikesThree 38 = .ok (.invokevirtual 147, 3) := dk_182 0 147 (dk_at dksX2_strikesThree_1 14 rfl rfl)
theorem dX2_strikesThree_41 : decode cX2_strikesThree 41 = .ok (.ifCond .eq 5, 3) := dk_153 0 5 (dk_at dksX2_strikesThree_1 17 rfl rfl)
theorem dX2_strikesThree_44 : decode cX2_strikesThree 44 = .ok (.iconst 1, 1) := dk_4 (dk_at dksX2_strikesThree_1 20 rfl rfl)
theorem dX2_strikesThree_45 : decode cX2_strikesThree 45 = .ok (.ireturn, 1) := dk_172 (dk_at dksX2_strikesThree_1 21 rfl rfl)
theorem dX2_strikesThree_46 : decode cX2_strikesThree 46 = .ok (.iinc 3 1, 3) := dk_132 3 1 (dk_at dksX2_strikesThree_2 0 rfl rfl)
theorem dX2_strikesThree_49 : decode cX2_strikesThree 49 = .ok (.goto (-23), 3) := dk_167 255 233 (dk_at dksX2_strikesThree_2 3 rfl rfl)
theorem dX2_strikesThree_52 : decode cX2_strikesThree 52 = .ok (.iinc 2 1, 3) := dk_132 2 1 (dk_at dksX2_strikesThree_2 6 rfl rfl)
theorem dX2_strikesThree_55 : decode cX2_strikesThree 55 = .ok (.goto (-41), 3) := dk_167 255 215 (dk_at dksX2_strikesThree_2 9 rfl rfl)
theorem dX2_strikesThree_58 : decode cX2_strikesThree 58 = .ok (.iinc 1 1, 3) := dk_132 1 1 (dk_at dksX2_strikesThree_2 12 rfl rfl)
theorem dX2_strikesThree_61 : decode cX2_strikesThree 61 = .ok (.goto (-59), 3) := dk_167 255 197 (dk_at dksX2_strikesThree_2 15 rfl rfl)
theorem dX2_strikesThree_64 : decode cX2_strikesThree 64 = .ok (.iconst 0, 1) := dk_3 (dk_at dksX2_strikesThree_2 18 rfl rfl)
theorem dX2_strikesThree_65 : decode cX2_strikesThree 65 = .ok (.ireturn, 1) := dk_172 (dk_at dksX2_strikesThree_2 19 rfl rfl)
abbrev cX2_strikesThreeOf : ByteArray := prog_12_method_20_code
def yX2_strikesThreeOf : MethodName := ⟨RX2, "strikesThreeOf", "(III)Z"⟩
def dkwX2_strikesThreeOf_4 : List UInt8 := [172]
abbrev dktX2_strikesThreeOf_4 : List UInt8 := dkwX2_strikesThreeOf_4 ++ []
def dkwX2_strikesThreeOf_3 : List UInt8 := [92, 46, 21, 4, 100, 79, 42, 180, 0, 27, 29, 27, 184, 0, 107, 92, 46, 21, 4, 100, 79, 4, 172, 3]
abbrev dktX2_strikesThreeOf_3 : List UInt8 := dkwX2_strikesThreeOf_3 ++ dktX2_strikesThreeOf_4
def dkwX2_strikesThreeOf_2 : List UInt8 := [42, 180, 0, 27, 27, 28, 184, 0, 107, 92, 46, 21, 4, 100, 79, 42, 180, 0, 27, 28, 29, 184, 0, 107]
abbrev dktX2_strikesThreeOf_2 : List UInt8 := dkwX2_strikesThreeOf_2 ++ dktX2_strikesThreeOf_3
def dkwX2_strikesThreeOf_1 : List UInt8 := [29, 27, 184, 0, 107, 46, 184, 0, 75, 184, 0, 75, 54, 4, 28, 29, 159, 0, 55, 21, 4, 158, 0, 50]
abbrev dktX2_strikesThreeOf_1 : List UInt8 := dkwX2_strikesThreeOf_1 ++ dktX2_strikesThreeOf_2
def dkwX2_strikesThreeOf_0 : List UInt8 := [42, 180, 0, 27, 27, 28, 184, 0, 107, 46, 42, 180, 0, 27, 28, 29, 184, 0, 107, 46, 42, 180, 0, 27]
abbrev dktX2_strikesThreeOf_0 : List UInt8 := dkwX2_strikesThreeOf_0 ++ dktX2_strikesThreeOf_1
theorem dksX2_strikesThreeOf_0 : cX2_strikesThreeOf.data.toList.drop 0 = dktX2_strikesThreeOf_0 := by decide +kernel
theorem dksX2_strikesThreeOf_1 : cX2_strikesThreeOf.data.toList.drop 24 = dktX2_strikesThreeOf_1 := dk_seg dksX2_strikesThreeOf_0 24 rfl rfl
theorem dksX2_strikesThreeOf_2 : cX2_strikesThreeOf.data.toList.drop 48 = dktX2_strikesThreeOf_2 := dk_seg dksX2_strikesThreeOf_1 24 rfl rfl
theorem dksX2_strikesThreeOf_3 : cX2_strikesThreeOf.data.toList.drop 72 = dktX2_strikesThreeOf_3 := dk_seg dksX2_strikesThreeOf_2 24 rfl rfl
theorem dksX2_strikesThreeOf_4 : cX2_strikesThreeOf.data.toList.drop 96 = dktX2_strikesThreeOf_4 := dk_seg dksX2_strikesThreeOf_3 24 rfl rfl
theorem dX2_strikesThreeOf_0 : decode cX2_strikesThreeOf 0 = .ok (.aload_n 0, 1) := dk_42 (dk_at dksX2_strikesThreeOf_0 0 rfl rfl)
theorem dX2_strikesThreeOf_1 : decode cX2_strikesThreeOf 1 = .ok (.getfield 27, 3) := dk_180 0 27 (dk_at dksX2_strikesThreeOf_0 1 rfl rfl)
theorem dX2_strikesThreeOf_4 : decode cX2_strikesThreeOf 4 = .ok (.iload_n 1, 1) := dk_27 (dk_at dksX2_strikesThreeOf_0 4 rfl rfl)
theorem dX2_strikesThreeOf_5 : decode cX2_strikesThreeOf 5 = .ok (.iload_n 2, 1) := dk_28 (dk_at dksX2_strikesThreeOf_0 5 rfl rfl)
theorem dX2_strikesThreeOf_6 : decode cX2_strikesThreeOf 6 = .ok (.invokestatic 107, 3) := dk_184 0 107 (dk_at dksX2_strikesThreeOf_0 6 rfl rfl)
theorem dX2_strikesThreeOf_9 : decode cX2_strikesThreeOf 9 = .ok (.iaload, 1) := dk_46 (dk_at dksX2_strikesThreeOf_0 9 rfl rfl)
theorem dX2_strikesThreeOf_10 : decode cX2_strikesThreeOf 10 = .ok (.aload_n 0, 1) := dk_42 (dk_at dksX2_strikesThreeOf_0 10 rfl rfl)
theorem dX2_strikesThreeOf_11 : decode cX2_strikesThreeOf 11 = .ok (.getfield 27, 3) := dk_180 0 27 (dk_at dksX2_strikesThreeOf_0 11 rfl rfl)
theorem dX2_strikesThreeOf_14 : decode cX2_strikesThreeOf 14 = .ok (.iload_n 2, 1) := dk_28 (dk_at dksX2_strikesThreeOf_0 14 rfl rfl)
theorem dX2_strikesThreeOf_15 : decode cX2_strikesThreeOf 15 = .ok (.iload_n 3, 1) := dk_29 (dk_at dksX2_strikesThreeOf_0 15 rfl rfl)
theorem dX2_strikesThreeOf_16 : decode cX2_strikesThreeOf 16 = .ok (.invokestatic 107, 3) := dk_184 0 107 (dk_at dksX2_strikesThreeOf_0 16 rfl rfl)
theorem dX2_strikesThreeOf_19 : decode cX2_strikesThreeOf 19 = .ok (.iaload, 1) := dk_46 (dk_at dksX2_strikesThreeOf_0 19 rfl rfl)
theorem dX2_strikesThreeOf_20 : decode cX2_strikesThreeOf 20 = .ok (.aload_n 0, 1) := dk_42 (dk_at dksX2_strikesThreeOf_0 20 rfl rfl)
theorem dX2_strikesThreeOf_21 : decode cX2_strikesThreeOf 21 = .ok (.getfield 27, 3) := dk_180 0 27 (dk_at dksX2_strikesThreeOf_0 21 rfl rfl)
theorem dX2_strikesThreeOf_24 : decode cX2_strikesThreeOf 24 = .ok (.iload_n 3, 1) := dk_29 (dk_at dksX2_strikesThreeOf_1 0 rfl rfl)
theorem dX2_strikesThreeOf_25 : decode cX2_strikesThreeOf 25 = .ok (.iload_n 1, 1) := dk_27 (dk_at dksX2_strikesThreeOf_1 1 rfl rfl)
theorem dX2_strikesThreeOf_26 : decode cX2_strikesThreeOf 26 = .ok (.invokestatic 107, 3) := dk_184 0 107 (dk_at dksX2_strikesThreeOf_1 2 rfl rfl)
theorem dX2_strikesThreeOf_29 : decode cX2_strikesThreeOf 29 = .ok (.iaload, 1) := dk_46 (dk_at dksX2_strikesThreeOf_1 5 rfl rfl)
theorem dX2_strikesThreeOf_30 : decode cX2_strikesThreeOf 30 = .ok (.invokestatic 75, 3) := dk_184 0 75 (dk_at dksX2_strikesThreeOf_1 6 rfl rfl)
theorem dX2_strikesThreeOf_33 : decode cX2_strikesThreeOf 33 = .ok (.invokestatic 75, 3) := dk_184 0 75 (dk_at dksX2_strikesThreeOf_1 9 rfl rfl)
theorem dX2_strikesThreeOf_36 : decode cX2_strikesThreeOf 36 = .ok (.istore 4, 2) := dk_54 4 (dk_at dksX2_strikesThreeOf_1 12 rfl rfl)
theorem dX2_strikesThreeOf_38 : decode cX2_strikesThreeOf 38 = .ok (.iload_n 2, 1) := dk_28 (dk_at dksX2_strikesThreeOf_1 14 rfl rfl)
theorem dX2_strikesThreeOf_39 : decode cX2_strikesThreeOf 39 = .ok (.iload_n 3, 1) := dk_29 (dk_at dksX2_strikesThreeOf_1 15 rfl rfl)
theorem dX2_strikesThreeOf_40 : decode cX2_strikesThreeOf 40 = .ok (.if_icmp .eq 55, 3) := dk_159 0 55 (dk_at dksX2_strikesThreeOf_1 16 rfl rfl)
theorem dX2_strikesThreeOf_43 : decode cX2_strikesThreeOf 43 = .ok (.iload 4, 2) := dk_21 4 (dk_at dksX2_strikesThreeOf_1 19 rfl rfl)
theorem dX2_strikesThreeOf_45 : decode cX2_strikesThreeOf 45 = .ok (.ifCond .le 50, 3) := dk_158 0 50 (dk_at dksX2_strikesThreeOf_1 21 rfl rfl)
theorem dX2_strikesThreeOf_48 : decode cX2_strikesThreeOf 48 = .ok (.aload_n 0, 1) := dk_42 (dk_at dksX2_strikesThreeOf_2 0 rfl rfl)
theorem dX2_strikesThreeOf_49 : decode cX2_strikesThreeOf 49 = .ok (.getfield 27, 3) := dk_180 0 27 (dk_at dksX2_strikesThreeOf_2 1 rfl rfl)
theorem dX2_strikesThreeOf_52 : decode cX2_strikesThreeOf 52 = .ok (.iload_n 1, 1) := dk_27 (dk_at dksX2_strikesThreeOf_2 4 rfl rfl)
theorem dX2_strikesThreeOf_53 : decode cX2_strikesThreeOf 53 = .ok (.iload_n 2, 1) := dk_28 (dk_at dksX2_strikesThreeOf_2 5 rfl rfl)
theorem dX2_strikesThreeOf_54 : decode cX2_strikesThreeOf 54 = .ok (.invokestatic 107, 3) := dk_184 0 107 (dk_at dksX2_strikesThreeOf_2 6 rfl rfl)
theorem dX2_strikesThreeOf_57 : decode cX2_strikesThreeOf 57 = .ok (.dup2, 1) := dk_92 (dk_at dksX2_strikesThreeOf_2 9 rfl rfl)
theorem dX2_strikesThreeOf_58 : decode cX2_strikesThreeOf 58 = .ok (.iaload, 1) := dk_46 (dk_at dksX2_strikesThreeOf_2 10 rfl rfl)
theorem dX2_strikesThreeOf_59 : decode cX2_strikesThreeOf 59 = .ok (.iload 4, 2) := dk_21 4 (dk_at dksX2_strikesThreeOf_2 11 rfl rfl)
theorem dX2_strikesThreeOf_61 : decode cX2_strikesThreeOf 61 = .ok (.isub, 1) := dk_100 (dk_at dksX2_strikesThreeOf_2 13 rfl rfl)
theorem dX2_strikesThreeOf_62 : decode cX2_strikesThreeOf 62 = .ok (.iastore, 1) := dk_79 (dk_at dksX2_strikesThreeOf_2 14 rfl rfl)
theorem dX2_strikesThreeOf_63 : decode cX2_strikesThreeOf 63 = .ok (.aload_n 0, 1) := dk_42 (dk_at dksX2_strikesThreeOf_2 15 rfl rfl)
theorem dX2_strikesThreeOf_64 : decode cX2_strikesThreeOf 64 = .ok (.getfield 27, 3) := dk_180 0 27 (dk_at dksX2_strikesThreeOf_2 16 rfl rfl)
theorem dX2_strikesThreeOf_67 : decode cX2_strikesThreeOf 67 = .ok (.iload_n 2, 1) := dk_28 (dk_at dksX2_strikesThreeOf_2 19 rfl rfl)
theorem dX2_strikesThreeOf_68 : decode cX2_strikesThreeOf 68 = .ok (.iload_n 3, 1) := dk_29 (dk_at dksX2_strikesThreeOf_2 20 rfl rfl)
theorem dX2_strikesThreeOf_69 : decode cX2_strikesThreeOf 69 = .ok (.invokestatic 107, 3) := dk_184 0 107 (dk_at dksX2_strikesThreeOf_2 21 rfl rfl)
theorem dX2_strikesThreeOf_72 : decode cX2_strikesThreeOf 72 = .ok (.dup2, 1) := dk_92 (dk_at dksX2_strikesThreeOf_3 0 rfl rfl)
theorem dX2_strikesThreeOf_73 : decode cX2_strikesThreeOf 73 = .ok (.iaload, 1) := dk_46 (dk_at dksX2_strikesThreeOf_3 1 rfl rfl)
theorem dX2_strikesThreeOf_74 : decode cX2_strikesThreeOf 74 = .ok (.iload 4, 2) := dk_21 4 (dk_at dksX2_strikesThreeOf_3 2 rfl rfl)
theorem dX2_strikesThreeOf_76 : decode cX2_strikesThreeOf 76 = .ok (.isub, 1) := dk_100 (dk_at dksX2_strikesThreeOf_3 4 rfl rfl)
theorem dX2_strikesThreeOf_77 : decode cX2_strikesThreeOf 77 = .ok (.iastore, 1) := dk_79 (dk_at dksX2_strikesThreeOf_3 5 rfl rfl)
theorem dX2_strikesThreeOf_78 : decode cX2_strikesThreeOf 78 = .ok (.aload_n 0, 1) := dk_42 (dk_at dksX2_strikesThreeOf_3 6 rfl rfl)
theorem dX2_strikesThreeOf_79 : decode cX2_strikesThreeOf 79 = .ok (.getfield 27, 3) := dk_180 0 27 (dk_at dksX2_strikesThreeOf_3 7 rfl rfl)
theorem dX2_strikesThreeOf_82 : decode cX2_strikesThreeOf 82 = .ok (.iload_n 3, 1) := dk_29 (dk_at dksX2_strikesThreeOf_3 10 rfl rfl)
theorem dX2_strikesThreeOf_83 : decode cX2_strikesThreeOf 83 = .ok (.iload_n 1, 1) := dk_27 (dk_at dksX2_strikesThreeOf_3 11 rfl rfl)
theorem dX2_strikesThreeOf_84 : decode cX2_strikesThreeOf 84 = .ok (.invokestatic 107, 3) := dk_184 0 107 (dk_at dksX2_strikesThreeOf_3 12 rfl rfl)
theorem dX2_strikesThreeOf_87 : decode cX2_strikesThreeOf 87 = .ok (.dup2, 1) := dk_92 (dk_at dksX2_strikesThreeOf_3 15 rfl rfl)
theorem dX2_strikesThreeOf_88 : decode cX2_strikesThreeOf 88 = .ok (.iaload, 1) := dk_46 (dk_at dksX2_strikesThreeOf_3 16 rfl rfl)
theorem dX2_strikesThreeOf_89 : decode cX2_strikesThreeOf 89 = .ok (.iload 4, 2) := dk_21 4 (dk_at dksX2_strikesThreeOf_3 17 rfl rfl)
theorem dX2_strikesThreeOf_91 : decode cX2_strikesThreeOf 91 = .ok (.isub, 1) := dk_100 (dk_at dksX2_strikesThreeOf_3 19 rfl rfl)
theorem dX2_strikesThreeOf_92 : decode cX2_strikesThreeOf 92 = .ok (.iastore, 1) := dk_79 (dk_at dksX2_strikesThreeOf_3 20 rfl rfl)
theorem dX2_strikesThreeOf_93 : decode cX2_strikesThreeOf 93 = .ok (.iconst 1, 1) := dk_4 (dk_at dksX2_strikesThreeOf_3 21 rfl rfl)
theorem dX2_strikesThreeOf_94 : decode cX2_strikesThreeOf 94 = .ok (.ireturn, 1) := dk_172 (dk_at dksX2_strikesThreeOf_3 22 rfl rfl)
theorem dX2_strikesThreeOf_95 : decode cX2_strikesThreeOf 95 = .ok (.iconst 0, 1) := dk_3 (dk_at dksX2_strikesThreeOf_3 23 rfl rfl)
theorem dX2_strikesThreeOf_96 : decode cX2_strikesThreeOf 96 = .ok (.ireturn, 1) := dk_172 (dk_at dksX2_strikesThreeOf_4 0 rfl rfl)
abbrev cX2_become : ByteArray := prog_12_method_2_code
def yX2_become : MethodName := ⟨RX2, "become", "(LWellRefuses$Land;)LWellRefuses$Land;"⟩
def dkwX2_become_6 : List UInt8 := [180, 0, 47, 3, 42, 180, 0, 47, 3, 16, 20, 184, 0, 60, 42, 43, 180, 0, 72, 181, 0, 72, 42, 176]
abbrev dktX2_become_6 : List UInt8 := dkwX2_become_6 ++ []
def dkwX2_become_5 : List UInt8 := [180, 0, 43, 3, 42, 180, 0, 43, 3, 16, 50, 184, 0, 60, 42, 43, 180, 0, 69, 181, 0, 69, 43]
abbrev dktX2_become_5 : List UInt8 := dkwX2_become_5 ++ dktX2_become_6
def dkwX2_become_4 : List UInt8 := [43, 180, 0, 36, 3, 42, 180, 0, 36, 3, 5, 184, 0, 60, 42, 43, 180, 0, 40, 181, 0, 40, 43]
abbrev dktX2_become_4 : List UInt8 := dkwX2_become_4 ++ dktX2_become_5
def dkwX2_become_3 : List UInt8 := [3, 42, 180, 0, 27, 3, 16, 64, 184, 0, 60, 42, 43, 180, 0, 66, 181, 0, 66, 42, 2, 181, 0, 30]
abbrev dktX2_become_3 : List UInt8 := dkwX2_become_3 ++ dktX2_become_4
def dkwX2_become_2 : List UInt8 := [16, 8, 184, 0, 60, 43, 180, 0, 24, 3, 42, 180, 0, 24, 3, 16, 8, 184, 0, 60, 43, 180, 0, 27]
abbrev dktX2_become_2 : List UInt8 := dkwX2_become_2 ++ dktX2_become_3
def dkwX2_become_1 : List UInt8 := [180, 0, 17, 3, 42, 180, 0, 17, 3, 16, 8, 184, 0, 60, 43, 180, 0, 21, 3, 42, 180, 0, 21, 3]
abbrev dktX2_become_1 : List UInt8 := dkwX2_become_1 ++ dktX2_become_2
def dkwX2_become_0 : List UInt8 := [42, 43, 180, 0, 57, 181, 0, 57, 43, 180, 0, 11, 3, 42, 180, 0, 11, 3, 16, 8, 184, 0, 60, 43]
abbrev dktX2_become_0 : List UInt8 := dkwX2_become_0 ++ dktX2_become_1
theorem dksX2_become_0 : cX2_become.data.toList.drop 0 = dktX2_become_0 := by decide +kernel
theorem dksX2_become_1 : cX2_become.data.toList.drop 24 = dktX2_become_1 := dk_seg dksX2_become_0 24 rfl rfl
theorem dksX2_become_2 : cX2_become.data.toList.drop 48 = dktX2_become_2 := dk_seg dksX2_become_1 24 rfl rfl
theorem dksX2_become_3 : cX2_become.data.toList.drop 72 = dktX2_become_3 := dk_seg dksX2_become_2 24 rfl rfl
theorem dksX2_become_4 : cX2_become.data.toList.drop 96 = dktX2_become_4 := dk_seg dksX2_become_3 24 rfl rfl
theorem dksX2_become_5 : cX2_become.data.toList.drop 119 = dktX2_become_5 := dk_seg dksX2_become_4 23 rfl rfl
theorem dksX2_become_6 : cX2_become.data.toList.drop 142 = dktX2_become_6 := dk_seg dksX2_become_5 23 rfl rfl
theorem dX2_become_0 : decode cX2_become 0 = .ok (.aload_n 0, 1) := dk_42 (dk_at dksX2_become_0 0 rfl rfl)
theorem dX2_become_1 : decode cX2_become 1 = .ok (.aload_n 1, 1) := dk_43 (dk_at dksX2_become_0 1 rfl rfl)
theorem dX2_become_2 : decode cX2_become 2 = .ok (.getfield 57, 3) := dk_180 0 57 (dk_at dksX2_become_0 2 rfl rfl)
theorem dX2_become_5 : decode cX2_become 5 = .ok (.putfield 57, 3) := dk_181 0 57 (dk_at dksX2_become_0 5 rfl rfl)
theorem dX2_become_8 : decode cX2_become 8 = .ok (.aload_n 1, 1) := dk_43 (dk_at dksX2_become_0 8 rfl rfl)
theorem dX2_become_9 : decode cX2_become 9 = .ok (.getfield 11, 3) := dk_180 0 11 (dk_at dksX2_become_0 9 rfl rfl)
theorem dX2_become_12 : decode cX2_become 12 = .ok (.iconst 0, 1) := dk_3 (dk_at dksX2_become_0 12 rfl rfl)
theorem dX2_become_13 : decode cX2_become 13 = .ok (.aload_n 0, 1) := dk_42 (dk_at dksX2_become_0 13 rfl rfl)
theorem dX2_become_14 : decode cX2_become 14 = .ok (.getfield 11, 3) := dk_180 0 11 (dk_at dksX2_become_0 14 rfl rfl)
theorem dX2_become_17 : decode cX2_become 17 = .ok (.iconst 0, 1) := dk_3 (dk_at dksX2_become_0 17 rfl rfl)
theorem dX2_become_18 : decode cX2_become 18 = .ok (.bipush 8, 2) := dk_16 8 (dk_at dksX2_become_0 18 rfl rfl)
theorem dX2_become_20 : decode cX2_become 20 = .ok (.invokestatic 60, 3) := dk_184 0 60 (dk_at dksX2_become_0 20 rfl rfl)
theorem dX2_become_23 : decode cX2_become 23 = .ok (.aload_n 1, 1) := dk_43 (dk_at dksX2_become_0 23 rfl rfl)
theorem dX2_become_24 : decode cX2_become 24 = .ok (.getfield 17, 3) := dk_180 0 17 (dk_at dksX2_become_1 0 rfl rfl)
theorem dX2_become_27 : decode cX2_become 27 = .ok (.iconst 0, 1) := dk_3 (dk_at dksX2_become_1 3 rfl rfl)
theorem dX2_become_28 : decode cX2_become 28 = .ok (.aload_n 0, 1) := dk_42 (dk_at dksX2_become_1 4 rfl rfl)
theorem dX2_become_29 : decode cX2_become 29 = .ok (.getfield 17, 3) := dk_180 0 17 (dk_at dksX2_become_1 5 rfl rfl)
theorem dX2_become_32 : decode cX2_become 32 = .ok (.iconst 0, 1) := dk_3 (dk_at dksX2_become_1 8 rfl rfl)
theorem dX2_become_33 : decode cX2_become 33 = .ok (.bipush 8, 2) := dk_16 8 (dk_at dksX2_become_1 9 rfl rfl)
theorem dX2_become_35 : decode cX2_become 35 = .ok (.invokestatic 60, 3) := dk_184 0 60 (dk_at dksX2_become_1 11 rfl rfl)
theorem dX2_become_38 : decode cX2_become 38 = .ok (.aload_n 1, 1) := dk_43 (dk_at dksX2_become_1 14 rfl rfl)
theorem dX2_become_39 : decode cX2_become 39 = .ok (.getfield 21, 3) := dk_180 0 21 (dk_at dksX2_become_1 15 rfl rfl)
theorem dX2_become_42 : decode cX2_become 42 = .ok (.iconst 0, 1) := dk_3 (dk_at dksX2_become_1 18 rfl rfl)
theorem dX2_become_43 : decode cX2_become 43 = .ok (.aload_n 0, 1) := dk_42 (dk_at dksX2_become_1 19 rfl rfl)
theorem dX2_become_44 : decode cX2_become 44 = .ok (.getfield 21, 3) := dk_180 0 21 (dk_at dksX2_become_1 20 rfl rfl)
theorem dX2_become_47 : decode cX2_become 47 = .ok (.iconst 0, 1) := dk_3 (dk_at dksX2_become_1 23 rfl rfl)
theorem dX2_become_48 : decode cX2_become 48 = .ok (.bipush 8, 2) := dk_16 8 (dk_at dksX2_become_2 0 rfl rfl)
theorem dX2_become_50 : decode cX2_become 50 = .ok (.invokestatic 60, 3) := dk_184 0 60 (dk_at dksX2_become_2 2 rfl rfl)
theorem dX2_become_53 : decode cX2_become 53 = .ok (.aload_n 1, 1) := dk_43 (dk_at dksX2_become_2 5 rfl rfl)
theorem dX2_become_54 : decode cX2_become 54 = .ok (.getfield 24, 3) := dk_180 0 24 (dk_at dksX2_become_2 6 rfl rfl)
theorem dX2_become_57 : decode cX2_become 57 = .ok (.iconst 0, 1) := dk_3 (dk_at dksX2_become_2 9 rfl rfl)
theorem dX2_become_58 : decode cX2_become 58 = .ok (.aload_n 0, 1) := dk_42 (dk_at dksX2_become_2 10 rfl rfl)
theorem dX2_become_59 : decode cX2_become 59 = .ok (.getfield 24, 3) := dk_180 0 24 (dk_at dksX2_become_2 11 rfl rfl)
theorem dX2_become_62 : decode cX2_become 62 = .ok (.iconst 0, 1) := dk_3 (dk_at dksX2_become_2 14 rfl rfl)
theorem dX2_become_63 : decode cX2_become 63 = .ok (.bipush 8, 2) := dk_16 8 (dk_at dksX2_become_2 15 rfl rfl)
theorem dX2_become_65 : decode cX2_become 65 = .ok (.invokestatic 60, 3) := dk_184 0 60 (dk_at dksX2_become_2 17 rfl rfl)
theorem dX2_become_68 : decode cX2_become 68 = .ok (.aload_n 1, 1) := dk_43 (dk_at dksX2_become_2 20 rfl rfl)
theorem dX2_become_69 : decode cX2_become 69 = .ok (.getfield 27, 3) := dk_180 0 27 (dk_at dksX2_become_2 21 rfl rfl)
theorem dX2_become_72 : decode cX2_become 72 = .ok (.iconst 0, 1) := dk_3 (dk_at dksX2_become_3 0 rfl rfl)
theorem dX2_become_73 : decode cX2_become 73 = .ok (.aload_n 0, 1) := dk_42 (dk_at dksX2_become_3 1 rfl rfl)
theorem dX2_become_74 : decode cX2_become 74 = .ok (.getfield 27, 3) := dk_180 0 27 (dk_at dksX2_become_3 2 rfl rfl)
theorem dX2_become_77 : decode cX2_become 77 = .ok (.iconst 0, 1) := dk_3 (dk_at dksX2_become_3 5 rfl rfl)
theorem dX2_become_78 : decode cX2_become 78 = .ok (.bipush 64, 2) := dk_16 64 (dk_at dksX2_become_3 6 rfl rfl)
theorem dX2_become_80 : decode cX2_become 80 = .ok (.invokestatic 60, 3) := dk_184 0 60 (dk_at dksX2_become_3 8 rfl rfl)
theorem dX2_become_83 : decode cX2_become 83 = .ok (.aload_n 0, 1) := dk_42 (dk_at dksX2_become_3 11 rfl rfl)
theorem dX2_become_84 : decode cX2_become 84 = .ok (.aload_n 1, 1) := dk_43 (dk_at dksX2_become_3 12 rfl rfl)
theorem dX2_become_85 : decode cX2_become 85 = .ok (.getfield 66, 3) := dk_180 0 66 (dk_at dksX2_become_3 13 rfl rfl)
theorem dX2_become_88 : decode cX2_become 88 = .ok (.putfield 66, 3) := dk_181 0 66 (dk_at dksX2_become_3 16 rfl rfl)
theorem dX2_become_91 : decode cX2_become 91 = .ok (.aload_n 0, 1) := dk_42 (dk_at dksX2_become_3 19 rfl rfl)
theorem dX2_become_92 : decode cX2_become 92 = .ok (.iconst (-1), 1) := dk_2 (dk_at dksX2_become_3 20 rfl rfl)
theorem dX2_become_93 : decode cX2_become 93 = .ok (.putfield 30, 3) := dk_181 0 30 (dk_at dksX2_become_3 21 rfl rfl)
theorem dX2_become_96 : decode cX2_become 96 = .ok (.aload_n 1, 1) := dk_43 (dk_at dksX2_become_4 0 rfl rfl)
theorem dX2_become_97 : decode cX2_become 97 = .ok (.getfield 36, 3) := dk_180 0 36 (dk_at dksX2_become_4 1 rfl rfl)
theorem dX2_become_100 : decode cX2_become 100 = .ok (.iconst 0, 1) := dk_3 (dk_at dksX2_become_4 4 rfl rfl)
theorem dX2_become_101 : decode cX2_become 101 = .ok (.aload_n 0, 1) := dk_42 (dk_at dksX2_become_4 5 rfl rfl)
theorem dX2_become_102 : decode cX2_become 102 = .ok (.getfield 36, 3) := dk_180 0 36 (dk_at dksX2_become_4 6 rfl rfl)
theorem dX2_become_105 : decode cX2_become 105 = .ok (.iconst 0, 1) := dk_3 (dk_at dksX2_become_4 9 rfl rfl)
theorem dX2_become_106 : decode cX2_become 106 = .ok (.iconst 2, 1) := dk_5 (dk_at dksX2_become_4 10 rfl rfl)
theorem dX2_become_107 : decode cX2_become 107 = .ok (.invokestatic 60, 3) := dk_184 0 60 (dk_at dksX2_become_4 11 rfl rfl)
theorem dX2_become_110 : decode cX2_become 110 = .ok (.aload_n 0, 1) := dk_42 (dk_at dksX2_become_4 14 rfl rfl)
theorem dX2_become_111 : decode cX2_become 111 = .ok (.aload_n 1, 1) := dk_43 (dk_at dksX2_become_4 15 rfl rfl)
theorem dX2_become_112 : decode cX2_become 112 = .ok (.getfield 40, 3) := dk_180 0 40 (dk_at dksX2_become_4 16 rfl rfl)
theorem dX2_become_115 : decode cX2_become 115 = .ok (.putfield 40, 3) := dk_181 0 40 (dk_at dksX2_become_4 19 rfl rfl)
theorem dX2_become_118 : decode cX2_become 118 = .ok (.aload_n 1, 1) := dk_43 (dk_at dksX2_become_4 22 rfl rfl)
theorem dX2_become_119 : decode cX2_become 119 = .ok (.getfield 43, 3) := dk_180 0 43 (dk_at dksX2_become_5 0 rfl rfl)
theorem dX2_become_122 : decode cX2_become 122 = .ok (.iconst 0, 1) := dk_3 (dk_at dksX2_become_5 3 rfl rfl)
theorem dX2_become_123 : decode cX2_become 123 = .ok (.aload_n 0, 1) := dk_42 (dk_at dksX2_become_5 4 rfl rfl)
theorem dX2_become_124 : decode cX2_become 124 = .ok (.getfield 43, 3) := dk_180 0 43 (dk_at dksX2_become_5 5 rfl rfl)
theorem dX2_become_127 : decode cX2_become 127 = .ok (.iconst 0, 1) := dk_3 (dk_at dksX2_become_5 8 rfl rfl)
theorem dX2_become_128 : decode cX2_become 128 = .ok (.bipush 50, 2) := dk_16 50 (dk_at dksX2_become_5 9 rfl rfl)
theorem dX2_become_130 : decode cX2_become 130 = .ok (.invokestatic 60, 3) := dk_184 0 60 (dk_at dksX2_become_5 11 rfl rfl)
theorem dX2_become_133 : decode cX2_become 133 = .ok (.aload_n 0, 1) := dk_42 (dk_at dksX2_become_5 14 rfl rfl)
theorem dX2_become_134 : decode cX2_become 134 = .ok (.aload_n 1, 1) := dk_43 (dk_at dksX2_become_5 15 rfl rfl)
theorem dX2_become_135 : decode cX2_become 135 = .ok (.getfield 69, 3) := dk_180 0 69 (dk_at dksX2_become_5 16 rfl rfl)
theorem dX2_become_138 : decode cX2_become 138 = .ok (.putfield 69, 3) := dk_181 0 69 (dk_at dksX2_become_5 19 rfl rfl)
theorem dX2_become_141 : decode cX2_become 141 = .ok (.aload_n 1, 1) := dk_43 (dk_at dksX2_become_5 22 rfl rfl)
theorem dX2_become_142 : decode cX2_become 142 = .ok (.getfield 47, 3) := dk_180 0 47 (dk_at dksX2_become_6 0 rfl rfl)
theorem dX2_become_145 : decode cX2_become 145 = .ok (.iconst 0, 1) := dk_3 (dk_at dksX2_become_6 3 rfl rfl)
theorem dX2_become_146 : decode cX2_become 146 = .ok (.aload_n 0, 1) := dk_42 (dk_at dksX2_become_6 4 rfl rfl)
theorem dX2_become_147 : decode cX2_become 147 = .ok (.getfield 47, 3) := dk_180 0 47 (dk_at dksX2_become_6 5 rfl rfl)
theorem dX2_become_150 : decode cX2_become 150 = .ok (.iconst 0, 1) := dk_3 (dk_at dksX2_become_6 8 rfl rfl)
theorem dX2_become_151 : decode cX2_become 151 = .ok (.bipush 20, 2) := dk_16 20 (dk_at dksX2_become_6 9 rfl rfl)
theorem dX2_become_153 : decode cX2_become 153 = .ok (.invokestatic 60, 3) := dk_184 0 60 (dk_at dksX2_become_6 11 rfl rfl)
theorem dX2_become_156 : decode cX2_become 156 = .ok (.aload_n 0, 1) := dk_42 (dk_at dksX2_become_6 14 rfl rfl)
theorem dX2_become_157 : decode cX2_become 157 = .ok (.aload_n 1, 1) := dk_43 (dk_at dksX2_become_6 15 rfl rfl)
theorem dX2_become_158 : decode cX2_become 158 = .ok (.getfield 72, 3) := dk_180 0 72 (dk_at dksX2_become_6 16 rfl rfl)
theorem dX2_become_161 : decode cX2_become 161 = .ok (.putfield 72, 3) := dk_181 0 72 (dk_at dksX2_become_6 19 rfl rfl)
theorem dX2_become_164 : decode cX2_become 164 = .ok (.aload_n 0, 1) := dk_42 (dk_at dksX2_become_6 22 rfl rfl)
theorem dX2_become_165 : decode cX2_become 165 = .ok (.areturn, 1) := dk_176 (dk_at dksX2_become_6 23 rfl rfl)
abbrev cX2_whoAreGiven : ByteArray := prog_12_method_8_code
def yX2_whoAreGiven : MethodName := ⟨RX2, "whoAreGiven", "()I"⟩
def dkwX2_whoAreGiven_1 : List UInt8 := [167, 0, 4, 3, 128, 60, 132, 2, 1, 167, 255, 227, 27, 172]
abbrev dktX2_whoAreGiven_1 : List UInt8 := dkwX2_whoAreGiven_1 ++ []
def dkwX2_whoAreGiven_0 : List UInt8 := [3, 60, 3, 61, 28, 42, 180, 0, 57, 162, 0, 27, 27, 42, 28, 182, 0, 103, 153, 0, 9, 4, 28, 120]
abbrev dktX2_whoAreGiven_0 : List UInt8 := dkwX2_whoAreGiven_0 ++ dktX2_whoAreGiven_1
theorem dksX2_whoAreGiven_0 : cX2_whoAreGiven.data.toList.drop 0 = dktX2_whoAreGiven_0 := by decide +kernel
theorem dksX2_whoAreGiven_1 : cX2_whoAreGiven.data.toList.drop 24 = dktX2_whoAreGiven_1 := dk_seg dksX2_whoAreGiven_0 24 rfl rfl
theorem dX2_whoAreGiven_0 : decode cX2_whoAreGiven 0 = .ok (.iconst 0, 1) := dk_3 (dk_at dksX2_whoAreGiven_0 0 rfl rfl)
theorem dX2_whoAreGiven_1 : decode cX2_whoAreGiven 1 = .ok (.istore_n 1, 1) := dk_60 (dk_at dksX2_whoAreGiven_0 1 rfl rfl)
theorem dX2_whoAreGiven_2 : decode cX2_whoAreGiven 2 = .ok (.iconst 0, 1) := dk_3 (dk_at dksX2_whoAreGiven_0 2 rfl rfl)
theorem dX2_whoAreGiven_3 : decode cX2_whoAreGiven 3 = .ok (.istore_n 2, 1) := dk_61 (dk_at dksX2_whoAreGiven_0 3 rfl rfl)
theorem dX2_whoAreGiven_4 : decode cX2_whoAreGiven 4 = .ok (.iload_n 2, 1) := dk_28 (dk_at dksX2_whoAreGiven_0 4 rfl rfl)
theorem dX2_whoAreGiven_5 : decode cX2_whoAreGiven 5 = .ok (.aload_n 0, 1) := dk_42 (dk_at dksX2_whoAreGiven_0 5 rfl rfl)
theorem dX2_whoAreGiven_6 : decode cX2_whoAreGiven 6 = .ok (.getfield 57, 3) := dk_180 0 57 (dk_at dksX2_whoAreGiven_0 6 rfl rfl)
theorem dX2_whoAreGiven_9 : decode cX2_whoAreGiven 9 = .ok (.if_icmp .ge 27, 3) := dk_162 0 27 (dk_at dksX2_whoAreGiven_0 9 rfl rfl)
theorem dX2_whoAreGiven_12 : decode cX2_whoAreGiven 12 = .ok (.iload_n 1, 1) := dk_27 (dk_at dksX2_whoAreGiven_0 12 rfl rfl)
theorem dX2_whoAreGiven_13 : decode cX2_whoAreGiven 13 = .ok (.aload_n 0, 1) := dk_42 (dk_at dksX2_whoAreGiven_0 13 rfl rfl)
theorem dX2_whoAreGiven_14 : decode cX2_whoAreGiven 14 = .ok (.iload_n 2, 1) := dk_28 (dk_at dksX2_whoAreGiven_0 14 rfl rfl)
theorem dX2_whoAreGiven_15 : decode cX2_whoAreGiven 15 = .ok (.invokevirtual 103, 3) := dk_182 0 103 (dk_at dksX2_whoAreGiven_0 15 rfl rfl)
theorem dX2_whoAreGiven_18 : decode cX2_whoAreGiven 18 = .ok (.ifCond .eq 9, 3) := dk_153 0 9 (dk_at dksX2_whoAreGiven_0 18 rfl rfl)
theorem dX2_whoAreGiven_21 : decode cX2_whoAreGiven 21 = .ok (.iconst 1, 1) := dk_4 (dk_at dksX2_whoAreGiven_0 21 rfl rfl)
theorem dX2_whoAreGiven_22 : decode cX2_whoAreGiven 22 = .ok (.iload_n 2, 1) := dk_28 (dk_at dksX2_whoAreGiven_0 22 rfl rfl)
theorem dX2_whoAreGiven_23 : decode cX2_whoAreGiven 23 = .ok (.ishl, 1) := dk_120 (dk_at dksX2_whoAreGiven_0 23 rfl rfl)
theorem dX2_whoAreGiven_24 : decode cX2_whoAreGiven 24 = .ok (.goto 4, 3) := dk_167 0 4 (dk_at dksX2_whoAreGiven_1 0 rfl rfl)
theorem dX2_whoAreGiven_27 : decode cX2_whoAreGiven 27 = .ok (.iconst 0, 1) := dk_3 (dk_at dksX2_whoAreGiven_1 3 rfl rfl)
theorem dX2_whoAreGiven_28 : decode cX2_whoAreGiven 28 = .ok (.ior, 1) := dk_128 (dk_at dksX2_whoAreGiven_1 4 rfl rfl)
theorem dX2_whoAreGiven_29 : decode cX2_whoAreGiven 29 = .ok (.istore_n 1, 1) := dk_60 (dk_at dksX2_whoAreGiven_1 5 rfl rfl)
theorem dX2_whoAreGiven_30 : decode cX2_whoAreGiven 30 = .ok (.iinc 2 1, 3) := dk_132 2 1 (dk_at dksX2_whoAreGiven_1 6 rfl rfl)
theorem dX2_whoAreGiven_33 : decode cX2_whoAreGiven 33 = .ok (.goto (-29), 3) := dk_167 255 227 (dk_at dksX2_whoAreGiven_1 9 rfl rfl)
theorem dX2_whoAreGiven_36 : decode cX2_whoAreGiven 36 = .ok (.iload_n 1, 1) := dk_27 (dk_at dksX2_whoAreGiven_1 12 rfl rfl)
theorem dX2_whoAreGiven_37 : decode cX2_whoAreGiven 37 = .ok (.ireturn, 1) := dk_172 (dk_at dksX2_whoAreGiven_1 13 rfl rfl)
abbrev cX2_allOwed : ByteArray := prog_12_method_25_code
def yX2_allOwed : MethodName := ⟨RX2, "allOwed", "()I"⟩
def dkwX2_allOwed_0 : List UInt8 := [42, 180, 0, 27, 16, 64, 184, 0, 157, 172]
abbrev dktX2_allOwed_0 : List UInt8 := dkwX2_allOwed_0 ++ []
theorem dksX2_allOwed_0 : cX2_allOwed.data.toList.drop 0 = dktX2_allOwed_0 := by decide +kernel
theorem dX2_allOwed_0 : decode cX2_allOwed 0 = .ok (.aload_n 0, 1) := dk_42 (dk_at dksX2_allOwed_0 0 rfl rfl)
theorem dX2_allOwed_1 : decode cX2_allOwed 1 = .ok (.getfield 27, 3) := dk_180 0 27 (dk_at dksX2_allOwed_0 1 rfl rfl)
theorem dX2_allOwed_4 : decode cX2_allOwed 4 = .ok (.bipush 64, 2) := dk_16 64 (dk_at dksX2_allOwed_0 4 rfl rfl)
theorem dX2_allOwed_6 : decode cX2_allOwed 6 = .ok (.invokestatic 157, 3) := dk_184 0 157 (dk_at dksX2_allOwed_0 6 rfl rfl)
theorem dX2_allOwed_9 : decode cX2_allOwed 9 = .ok (.ireturn, 1) := dk_172 (dk_at dksX2_allOwed_0 9 rfl rfl)
theorem q87 : (Jvm.Cond.initialized "WellRefuses$Land") ∈ lw_all := lw_g (lw_at lw_m1 6 rfl) rfl
theorem q196 : (Jvm.Cond.instantiable "WellRefuses$Land" (15 : Nat)) ∈ lw_all := lw_g (lw_at lw_m1 115 rfl) rfl
theorem q198 : (Jvm.Cond.instanceMethod ({ cls := "WellRefuses$Land", name := "<init>", desc := "()V" } : Jvm.MethodName)) ∈ lw_all := lw_g (lw_at lw_m1 117 rfl) rfl
theorem q199 : (Jvm.Cond.code ({ cls := "WellRefuses$Land", name := "<init>", desc := "()V" } : Jvm.MethodName) prog_12_method_1_code (1 : Nat) (Option.none : Option Jvm.ClassFile.FieldType)) ∈ lw_all := lw_g (lw_at lw_m1 118 rfl) rfl
theorem q200 : (Jvm.Cond.methodLink "WellRefuses$Land" (3 : Nat) ({ cls := "java/lang/Object", name := "<init>", desc := "()V" } : Jvm.MethodName)) ∈ lw_all := lw_g (lw_at lw_m1 119 rfl) rfl
theorem q201 : (Jvm.Cond.classLink "WellRefuses$Land" (9 : Nat) "WellRefuses$One") ∈ lw_all := lw_g (lw_at lw_m1 120 rfl) rfl
theorem q203 : (Jvm.Cond.classLink "WellRefuses$Land" (34 : Nat) "WellRefuses$Term") ∈ lw_all := lw_g (lw_at lw_m1 122 rfl) rfl
theorem q205 : (Jvm.Cond.classLink "WellRefuses$Land" (50 : Nat) "WellRefuses$Facts") ∈ lw_all := lw_g (lw_at lw_m1 124 rfl) rfl
theorem q207 : (Jvm.Cond.methodLinkNest "WellRefuses$Land" (52 : Nat) ({ cls := "WellRefuses$Facts", name := "<init>", desc := "()V" } : Jvm.MethodName) "WellRefuses") ∈ lw_tbl := lw_at lw_m1 126 rfl
theorem q218 : (Jvm.Cond.fieldLink "WellRefuses$Land" (57 : Nat) "WellRefuses$Land" "people" "I") ∈ lw_all := lw_g (lw_at lw_m1 137 rfl) rfl
theorem q220 : (Jvm.Cond.fieldLink "WellRefuses$Land" (11 : Nat) "WellRefuses$Land" "person" "[LWellRefuses$One;") ∈ lw_all := lw_g (lw_at lw_m1 139 rfl) rfl
theorem q222 : (Jvm.Cond.fieldLink "WellRefuses$Land" (17 : Nat) "WellRefuses$Land" "traits" "[I") ∈ lw_all := lw_g (lw_at lw_m1 141 rfl) rfl
theorem q224 : (Jvm.Cond.fieldLink "WellRefuses$Land" (21 : Nat) "WellRefuses$Land" "water" "[I") ∈ lw_all := lw_g (lw_at lw_m1 143 rfl) rfl
theorem q226 : (Jvm.Cond.fieldLink "WellRefuses$Land" (24 : Nat) "WellRefuses$Land" "thirst" "[I") ∈ lw_all := lw_g (lw_at lw_m1 145 rfl) rfl
theorem q228 : (Jvm.Cond.fieldLink "WellRefuses$Land" (27 : Nat) "WellRefuses$Land" "owed" "[I") ∈ lw_all := lw_g (lw_at lw_m1 147 rfl) rfl
theorem q230 : (Jvm.Cond.fieldLink "WellRefuses$Land" (66 : Nat) "WellRefuses$Land" "day" "I") ∈ lw_all := lw_g (lw_at lw_m1 149 rfl) rfl
theorem q232 : (Jvm.Cond.fieldLink "WellRefuses$Land" (30 : Nat) "WellRefuses$Land" "tight" "I") ∈ lw_all := lw_g (lw_at lw_m1 151 rfl) rfl
theorem q234 : (Jvm.Cond.fieldLink "WellRefuses$Land" (36 : Nat) "WellRefuses$Land" "text" "[LWellRefuses$Term;") ∈ lw_all := lw_g (lw_at lw_m1 153 rfl) rfl
theorem q236 : (Jvm.Cond.fieldLink "WellRefuses$Land" (40 : Nat) "WellRefuses$Land" "z" "I") ∈ lw_all := lw_g (lw_at lw_m1 155 rfl) rfl
theorem q238 : (Jvm.Cond.fieldLink "WellRefuses$Land" (43 : Nat) "WellRefuses$Land" "tape" "[B") ∈ lw_all := lw_g (lw_at lw_m1 157 rfl) rfl
theorem q240 : (Jvm.Cond.fieldLink "WellRefuses$Land" (69 : Nat) "WellRefuses$Land" "taped" "I") ∈ lw_all := lw_g (lw_at lw_m1 159 rfl) rfl
theorem q242 : (Jvm.Cond.fieldLink "WellRefuses$Land" (47 : Nat) "WellRefuses$Land" "waiting" "[I") ∈ lw_all := lw_g (lw_at lw_m1 161 rfl) rfl
theorem q244 : (Jvm.Cond.fieldLink "WellRefuses$Land" (72 : Nat) "WellRefuses$Land" "waits" "I") ∈ lw_all := lw_g (lw_at lw_m1 163 rfl) rfl
theorem q246 : (Jvm.Cond.fieldLink "WellRefuses$Land" (53 : Nat) "WellRefuses$Land" "facts" "LWellRefuses$Facts;") ∈ lw_all := lw_g (lw_at lw_m1 165 rfl) rfl
theorem q247 : (Jvm.Cond.lays "WellRefuses$Land" "WellRefuses$Land" "people" "I") ∈ lw_all := lw_g (lw_at lw_m1 166 rfl) rfl
theorem q248 : (Jvm.Cond.soleField "WellRefuses$Land" "people") ∈ lw_all := lw_g (lw_at lw_m1 167 rfl) rfl
theorem q249 : (Jvm.Cond.laysFinal "WellRefuses$Land" "WellRefuses$Land" "person" "[LWellRefuses$One;") ∈ lw_all := lw_g (lw_at lw_m1 168 rfl) rfl
theorem q250 : (Jvm.Cond.soleField "WellRefuses$Land" "person") ∈ lw_all := lw_g (lw_at lw_m1 169 rfl) rfl
theorem q251 : (Jvm.Cond.laysFinal "WellRefuses$Land" "WellRefuses$Land" "traits" "[I") ∈ lw_all := lw_g (lw_at lw_m1 170 rfl) rfl
theorem q252 : (Jvm.Cond.soleField "WellRefuses$Land" "traits") ∈ lw_all := lw_g (lw_at lw_m1 171 rfl) rfl
theorem q253 : (Jvm.Cond.laysFinal "WellRefuses$Land" "WellRefuses$Land" "water" "[I") ∈ lw_all := lw_g (lw_at lw_m1 172 rfl) rfl
theorem q254 : (Jvm.Cond.soleField "WellRefuses$Land" "water") ∈ lw_all := lw_g (lw_at lw_m1 173 rfl) rfl
theorem q255 : (Jvm.Cond.laysFinal "WellRefuses$Land" "WellRefuses$Land" "thirst" "[I") ∈ lw_all := lw_g (lw_at lw_m1 174 rfl) rfl
theorem q256 : (Jvm.Cond.soleField "WellRefuses$Land" "thirst") ∈ lw_all := lw_g (lw_at lw_m1 175 rfl) rfl
theorem q257 : (Jvm.Cond.laysFinal "WellRefuses$Land" "WellRefuses$Land" "owed" "[I") ∈ lw_all := lw_g (lw_at lw_m1 176 rfl) rfl
theorem q258 : (Jvm.Cond.soleField "WellRefuses$Land" "owed") ∈ lw_all := lw_g (lw_at lw_m1 177 rfl) rfl
theorem q259 : (Jvm.Cond.lays "WellRefuses$Land" "WellRefuses$Land" "day" "I") ∈ lw_all := lw_g (lw_at lw_m1 178 rfl) rfl
theorem q260 : (Jvm.Cond.soleField "WellRefuses$Land" "day") ∈ lw_all := lw_g (lw_at lw_m1 179 rfl) rfl
theorem q261 : (Jvm.Cond.lays "WellRefuses$Land" "WellRefuses$Land" "tight" "I") ∈ lw_all := lw_g (lw_at lw_m1 180 rfl) rfl
theorem q262 : (Jvm.Cond.soleField "WellRefuses$Land" "tight") ∈ lw_all := lw_g (lw_at lw_m1 181 rfl) rfl
theorem q263 : (Jvm.Cond.laysFinal "WellRefuses$Land" "WellRefuses$Land" "text" "[LWellRefuses$Term;") ∈ lw_all := lw_g (lw_at lw_m1 182 rfl) rfl
theorem q264 : (Jvm.Cond.soleField "WellRefuses$Land" "text") ∈ lw_all := lw_g (lw_at lw_m1 183 rfl) rfl
theorem q265 : (Jvm.Cond.lays "WellRefuses$Land" "WellRefuses$Land" "z" "I") ∈ lw_all := lw_g (lw_at lw_m1 184 rfl) rfl
theorem q266 : (Jvm.Cond.soleField "WellRefuses$Land" "z") ∈ lw_all := lw_g (lw_at lw_m1 185 rfl) rfl
theorem q267 : (Jvm.Cond.laysFinal "WellRefuses$Land" "WellRefuses$Land" "tape" "[B") ∈ lw_all := lw_g (lw_at lw_m1 186 rfl) rfl
theorem q268 : (Jvm.Cond.soleField "WellRefuses$Land" "tape") ∈ lw_all := lw_g (lw_at lw_m1 187 rfl) rfl
theorem q269 : (Jvm.Cond.lays "WellRefuses$Land" "WellRefuses$Land" "taped" "I") ∈ lw_all := lw_g (lw_at lw_m1 188 rfl) rfl
theorem q270 : (Jvm.Cond.soleField "WellRefuses$Land" "taped") ∈ lw_all := lw_g (lw_at lw_m1 189 rfl) rfl
theorem q271 : (Jvm.Cond.laysFinal "WellRefuses$Land" "WellRefuses$Land" "waiting" "[I") ∈ lw_all := lw_g (lw_at lw_m1 190 rfl) rfl
theorem q272 : (Jvm.Cond.soleField "WellRefuses$Land" "waiting") ∈ lw_all := lw_g (lw_at lw_m1 191 rfl) rfl
theorem q273 : (Jvm.Cond.lays "WellRefuses$Land" "WellRefuses$Land" "waits" "I") ∈ lw_all := lw_g (lw_at lw_m1 192 rfl) rfl
theorem q274 : (Jvm.Cond.soleField "WellRefuses$Land" "waits") ∈ lw_all := lw_g (lw_at lw_m1 193 rfl) rfl
theorem q275 : (Jvm.Cond.laysFinal "WellRefuses$Land" "WellRefuses$Land" "facts" "LWellRefuses$Facts;") ∈ lw_all := lw_g (lw_at lw_m1 194 rfl) rfl
theorem q276 : (Jvm.Cond.soleField "WellRefuses$Land" "facts") ∈ lw_all := lw_g (lw_at lw_m1 195 rfl) rfl
theorem q277 : (Jvm.Cond.superclass "WellRefuses$Land" "java/lang/Object") ∈ lw_all := lw_g (lw_at lw_m1 196 rfl) rfl
theorem q384 : (Jvm.Cond.fieldLink "WellRefuses$Land" (110 : Nat) "WellRefuses$One" "m" "I") ∈ lw_all := lw_g (lw_at lw_m2 63 rfl) rfl
theorem q451 : (Jvm.Cond.static ({ cls := "WellRefuses$Land", name := "place", desc := "(II)I" } : Jvm.MethodName)) ∈ lw_all := lw_g (lw_at lw_m2 130 rfl) rfl
theorem q452 : (Jvm.Cond.code ({ cls := "WellRefuses$Land", name := "place", desc := "(II)I" } : Jvm.MethodName) prog_12_method_9_code (2 : Nat) (Option.some Jvm.ClassFile.FieldType.int)) ∈ lw_all := lw_g (lw_at lw_m2 131 rfl) rfl
theorem q541 : (Jvm.Cond.instanceMethod ({ cls := "WellRefuses$Land", name := "isGivenNow", desc := "(I)Z" } : Jvm.MethodName)) ∈ lw_all := lw_g (lw_at lw_m2 220 rfl) rfl
theorem q542 : (Jvm.Cond.selects "WellRefuses$Land" ({ cls := "WellRefuses$Land", name := "isGivenNow", desc := "(I)Z" } : Jvm.MethodName) ({ cls := "WellRefuses$Land", name := "isGivenNow", desc := "(I)Z" } : Jvm.MethodName)) ∈ lw_all := lw_g (lw_at lw_m2 221 rfl) rfl
theorem q543 : (Jvm.Cond.code ({ cls := "WellRefuses$Land", name := "isGivenNow", desc := "(I)Z" } : Jvm.MethodName) prog_12_method_7_code (2 : Nat) (Option.some Jvm.ClassFile.FieldType.boolean)) ∈ lw_all := lw_g (lw_at lw_m2 222 rfl) rfl
theorem q544 : (Jvm.Cond.methodLink "WellRefuses$Land" (99 : Nat) ({ cls := "WellRefuses$Land", name := "isGiven", desc := "(III)Z" } : Jvm.MethodName)) ∈ lw_all := lw_g (lw_at lw_m2 223 rfl) rfl
theorem q545 : (Jvm.Cond.instanceMethod ({ cls := "WellRefuses$Land", name := "isGiven", desc := "(III)Z" } : Jvm.MethodName)) ∈ lw_all := lw_g (lw_at lw_m2 224 rfl) rfl
theorem q546 : (Jvm.Cond.selects "WellRefuses$Land" ({ cls := "WellRefuses$Land", name := "isGiven", desc := "(III)Z" } : Jvm.MethodName) ({ cls := "WellRefuses$Land", name := "isGiven", desc := "(III)Z" } : Jvm.MethodName)) ∈ lw_all := lw_g (lw_at lw_m2 225 rfl) rfl
theorem q547 : (Jvm.Cond.code ({ cls := "WellRefuses$Land", name := "isGiven", desc := "(III)Z" } : Jvm.MethodName) prog_12_method_6_code (4 : Nat) (Option.some Jvm.ClassFile.FieldType.boolean)) ∈ lw_all := lw_g (lw_at lw_m2 226 rfl) rfl
theorem q548 : (Jvm.Cond.methodLink "WellRefuses$Land" (96 : Nat) ({ cls := "WellRefuses$Land", name := "givesBy", desc := "(III)I" } : Jvm.MethodName)) ∈ lw_all := lw_g (lw_at lw_m2 227 rfl) rfl
theorem q549 : (Jvm.Cond.instanceMethod ({ cls := "WellRefuses$Land", name := "givesBy", desc := "(III)I" } : Jvm.MethodName)) ∈ lw_all := lw_g (lw_at lw_m2 228 rfl) rfl
theorem q550 : (Jvm.Cond.selects "WellRefuses$Land" ({ cls := "WellRefuses$Land", name := "givesBy", desc := "(III)I" } : Jvm.MethodName) ({ cls := "WellRefuses$Land", name := "givesBy", desc := "(III)I" } : Jvm.MethodName)) ∈ lw_all := lw_g (lw_at lw_m2 229 rfl) rfl
theorem q551 : (Jvm.Cond.code ({ cls := "WellRefuses$Land", name := "givesBy", desc := "(III)I" } : Jvm.MethodName) prog_12_method_4_code (5 : Nat) (Option.some Jvm.ClassFile.FieldType.int)) ∈ lw_all := lw_g (lw_at lw_m2 230 rfl) rfl
theorem q552 : (Jvm.Cond.methodLink "WellRefuses$Land" (84 : Nat) ({ cls := "WellRefuses$Facts", name := "with", desc := "(CI)LWellRefuses$Facts;" } : Jvm.MethodName)) ∈ lw_all := lw_g (lw_at lw_m2 231 rfl) rfl
theorem q556 : (Jvm.Cond.methodLink "WellRefuses$Land" (88 : Nat) ({ cls := "WellRefuses$Term", name := "value", desc := "(LWellRefuses$Facts;)I" } : Jvm.MethodName)) ∈ lw_all := lw_g (lw_at lw_m2 235 rfl) rfl
theorem q576 : (Jvm.Cond.methodLink "WellRefuses$Land" (92 : Nat) ({ cls := "WellRefuses$Land", name := "held", desc := "(III)I" } : Jvm.MethodName)) ∈ lw_all := lw_g (lw_at lw_m3 15 rfl) rfl
theorem q577 : (Jvm.Cond.static ({ cls := "WellRefuses$Land", name := "held", desc := "(III)I" } : Jvm.MethodName)) ∈ lw_all := lw_g (lw_at lw_m3 16 rfl) rfl
theorem q578 : (Jvm.Cond.code ({ cls := "WellRefuses$Land", name := "held", desc := "(III)I" } : Jvm.MethodName) prog_12_method_3_code (3 : Nat) (Option.some Jvm.ClassFile.FieldType.int)) ∈ lw_all := lw_g (lw_at lw_m3 17 rfl) rfl
theorem q579 : (Jvm.Cond.methodLink "WellRefuses$Land" (75 : Nat) ({ cls := "java/lang/Math", name := "min", desc := "(II)I" } : Jvm.MethodName)) ∈ lw_all := lw_g (lw_at lw_m3 18 rfl) rfl
theorem q582 : (Jvm.Cond.methodLink "WellRefuses$Land" (81 : Nat) ({ cls := "java/lang/Math", name := "max", desc := "(II)I" } : Jvm.MethodName)) ∈ lw_all := lw_g (lw_at lw_m3 21 rfl) rfl
theorem q879 : (Jvm.Cond.instanceMethod ({ cls := "WellRefuses$Land", name := "lendsBy", desc := "(III)I" } : Jvm.MethodName)) ∈ lw_all := lw_g (lw_at lw_m4 78 rfl) rfl
theorem q880 : (Jvm.Cond.selects "WellRefuses$Land" ({ cls := "WellRefuses$Land", name := "lendsBy", desc := "(III)I" } : Jvm.MethodName) ({ cls := "WellRefuses$Land", name := "lendsBy", desc := "(III)I" } : Jvm.MethodName)) ∈ lw_all := lw_g (lw_at lw_m4 79 rfl) rfl
theorem q881 : (Jvm.Cond.code ({ cls := "WellRefuses$Land", name := "lendsBy", desc := "(III)I" } : Jvm.MethodName) prog_12_method_5_code (5 : Nat) (Option.some Jvm.ClassFile.FieldType.int)) ∈ lw_all := lw_g (lw_at lw_m4 80 rfl) rfl
theorem q891 : (Jvm.Cond.instanceMethod ({ cls := "WellRefuses$Land", name := "goes", desc := "(I)LWellRefuses$Land;" } : Jvm.MethodName)) ∈ lw_all := lw_g (lw_at lw_m4 90 rfl) rfl
theorem q892 : (Jvm.Cond.selects "WellRefuses$Land" ({ cls := "WellRefuses$Land", name := "goes", desc := "(I)LWellRefuses$Land;" } : Jvm.MethodName) ({ cls := "WellRefuses$Land", name := "goes", desc := "(I)LWellRefuses$Land;" } : Jvm.MethodName)) ∈ lw_all := lw_g (lw_at lw_m4 91 rfl) rfl
theorem q893 : (Jvm.Cond.code ({ cls := "WellRefuses$Land", name := "goes", desc := "(I)LWellRefuses$Land;" } : Jvm.MethodName) prog_12_method_16_code (3 : Nat) (Option.some (Jvm.ClassFile.FieldType.object "WellRefuses$Land"))) ∈ lw_all := lw_g (lw_at lw_m4 92 rfl) rfl
theorem q894 : (Jvm.Cond.methodLink "WellRefuses$Land" (140 : Nat) ({ cls := "WellRefuses$Land", name := "passes", desc := "()V" } : Jvm.MethodName)) ∈ lw_all := lw_g (lw_at lw_m4 93 rfl) rfl
theorem q895 : (Jvm.Cond.instanceMethod ({ cls := "WellRefuses$Land", name := "passes", desc := "()V" } : Jvm.MethodName)) ∈ lw_all := lw_g (lw_at lw_m4 94 rfl) rfl
theorem q896 : (Jvm.Cond.selects "WellRefuses$Land" ({ cls := "WellRefuses$Land", name := "passes", desc := "()V" } : Jvm.MethodName) ({ cls := "WellRefuses$Land", name := "passes", desc := "()V" } : Jvm.MethodName)) ∈ lw_all := lw_g (lw_at lw_m4 95 rfl) rfl
theorem q897 : (Jvm.Cond.code ({ cls := "WellRefuses$Land", name := "passes", desc := "()V" } : Jvm.MethodName) prog_12_method_15_code (2 : Nat) (Option.none : Option Jvm.ClassFile.FieldType)) ∈ lw_all := lw_g (lw_at lw_m4 96 rfl) rfl
theorem q898 : (Jvm.Cond.methodLink "WellRefuses$Land" (135 : Nat) ({ cls := "WellRefuses$Land", name := "goesToIt", desc := "(I)V" } : Jvm.MethodName)) ∈ lw_all := lw_g (lw_at lw_m4 97 rfl) rfl
theorem q899 : (Jvm.Cond.privateMethod ({ cls := "WellRefuses$Land", name := "goesToIt", desc := "(I)V" } : Jvm.MethodName)) ∈ lw_tbl := lw_at lw_m4 98 rfl
theorem q900 : (Jvm.Cond.instanceMethod ({ cls := "WellRefuses$Land", name := "goesToIt", desc := "(I)V" } : Jvm.MethodName)) ∈ lw_all := lw_g (lw_at lw_m4 99 rfl) rfl
theorem q901 : (Jvm.Cond.code ({ cls := "WellRefuses$Land", name := "goesToIt", desc := "(I)V" } : Jvm.MethodName) prog_12_method_13_code (2 : Nat) (Option.none : Option Jvm.ClassFile.FieldType)) ∈ lw_all := lw_g (lw_at lw_m4 100 rfl) rfl
theorem q902 : (Jvm.Cond.methodLink "WellRefuses$Land" (103 : Nat) ({ cls := "WellRefuses$Land", name := "isGivenNow", desc := "(I)Z" } : Jvm.MethodName)) ∈ lw_all := lw_g (lw_at lw_m4 101 rfl) rfl
theorem q903 : (Jvm.Cond.methodLink "WellRefuses$Land" (124 : Nat) ({ cls := "WellRefuses$One", name := "bucket", desc := "()I" } : Jvm.MethodName)) ∈ lw_all := lw_g (lw_at lw_m4 102 rfl) rfl
theorem q904 : (Jvm.Cond.methodLink "WellRefuses$Land" (128 : Nat) ({ cls := "WellRefuses$Land", name := "begs", desc := "(I)V" } : Jvm.MethodName)) ∈ lw_all := lw_g (lw_at lw_m4 103 rfl) rfl
theorem q905 : (Jvm.Cond.privateMethod ({ cls := "WellRefuses$Land", name := "begs", desc := "(I)V" } : Jvm.MethodName)) ∈ lw_tbl := lw_at lw_m4 104 rfl
theorem q906 : (Jvm.Cond.instanceMethod ({ cls := "WellRefuses$Land", name := "begs", desc := "(I)V" } : Jvm.MethodName)) ∈ lw_all := lw_g (lw_at lw_m4 105 rfl) rfl
theorem q907 : (Jvm.Cond.code ({ cls := "WellRefuses$Land", name := "begs", desc := "(I)V" } : Jvm.MethodName) prog_12_method_12_code (3 : Nat) (Option.none : Option Jvm.ClassFile.FieldType)) ∈ lw_all := lw_g (lw_at lw_m4 106 rfl) rfl
theorem q908 : (Jvm.Cond.methodLink "WellRefuses$Land" (120 : Nat) ({ cls := "WellRefuses$Land", name := "lender", desc := "(I)I" } : Jvm.MethodName)) ∈ lw_all := lw_g (lw_at lw_m4 107 rfl) rfl
theorem q909 : (Jvm.Cond.privateMethod ({ cls := "WellRefuses$Land", name := "lender", desc := "(I)I" } : Jvm.MethodName)) ∈ lw_tbl := lw_at lw_m4 108 rfl
theorem q910 : (Jvm.Cond.instanceMethod ({ cls := "WellRefuses$Land", name := "lender", desc := "(I)I" } : Jvm.MethodName)) ∈ lw_all := lw_g (lw_at lw_m4 109 rfl) rfl
theorem q911 : (Jvm.Cond.code ({ cls := "WellRefuses$Land", name := "lender", desc := "(I)I" } : Jvm.MethodName) prog_12_method_11_code (5 : Nat) (Option.some Jvm.ClassFile.FieldType.int)) ∈ lw_all := lw_g (lw_at lw_m4 110 rfl) rfl
theorem q912 : (Jvm.Cond.methodLink "WellRefuses$Land" (116 : Nat) ({ cls := "WellRefuses$Land", name := "doesLend", desc := "(II)Z" } : Jvm.MethodName)) ∈ lw_all := lw_g (lw_at lw_m4 111 rfl) rfl
theorem q913 : (Jvm.Cond.privateMethod ({ cls := "WellRefuses$Land", name := "doesLend", desc := "(II)Z" } : Jvm.MethodName)) ∈ lw_tbl := lw_at lw_m4 112 rfl
theorem q914 : (Jvm.Cond.instanceMethod ({ cls := "WellRefuses$Land", name := "doesLend", desc := "(II)Z" } : Jvm.MethodName)) ∈ lw_all := lw_g (lw_at lw_m4 113 rfl) rfl
theorem q915 : (Jvm.Cond.code ({ cls := "WellRefuses$Land", name := "doesLend", desc := "(II)Z" } : Jvm.MethodName) prog_12_method_10_code (3 : Nat) (Option.some Jvm.ClassFile.FieldType.boolean)) ∈ lw_all := lw_g (lw_at lw_m4 114 rfl) rfl
theorem q916 : (Jvm.Cond.methodLink "WellRefuses$Land" (107 : Nat) ({ cls := "WellRefuses$Land", name := "place", desc := "(II)I" } : Jvm.MethodName)) ∈ lw_all := lw_g (lw_at lw_m4 115 rfl) rfl
theorem q917 : (Jvm.Cond.methodLink "WellRefuses$Land" (113 : Nat) ({ cls := "WellRefuses$Land", name := "lendsBy", desc := "(III)I" } : Jvm.MethodName)) ∈ lw_all := lw_g (lw_at lw_m4 116 rfl) rfl
theorem q918 : (Jvm.Cond.methodLink "WellRefuses$Land" (138 : Nat) ({ cls := "WellRefuses$Land", name := "drinks", desc := "(I)V" } : Jvm.MethodName)) ∈ lw_all := lw_g (lw_at lw_m4 117 rfl) rfl
theorem q919 : (Jvm.Cond.privateMethod ({ cls := "WellRefuses$Land", name := "drinks", desc := "(I)V" } : Jvm.MethodName)) ∈ lw_tbl := lw_at lw_m4 118 rfl
theorem q920 : (Jvm.Cond.instanceMethod ({ cls := "WellRefuses$Land", name := "drinks", desc := "(I)V" } : Jvm.MethodName)) ∈ lw_all := lw_g (lw_at lw_m4 119 rfl) rfl
theorem q921 : (Jvm.Cond.code ({ cls := "WellRefuses$Land", name := "drinks", desc := "(I)V" } : Jvm.MethodName) prog_12_method_14_code (3 : Nat) (Option.none : Option Jvm.ClassFile.FieldType)) ∈ lw_all := lw_g (lw_at lw_m4 120 rfl) rfl
theorem q922 : (Jvm.Cond.methodLink "WellRefuses$Land" (132 : Nat) ({ cls := "WellRefuses$One", name := "drinks", desc := "()I" } : Jvm.MethodName)) ∈ lw_all := lw_g (lw_at lw_m4 121 rfl) rfl
theorem q924 : (Jvm.Cond.instanceMethod ({ cls := "WellRefuses$Land", name := "allWater", desc := "()I" } : Jvm.MethodName)) ∈ lw_all := lw_g (lw_at lw_m4 123 rfl) rfl
theorem q925 : (Jvm.Cond.selects "WellRefuses$Land" ({ cls := "WellRefuses$Land", name := "allWater", desc := "()I" } : Jvm.MethodName) ({ cls := "WellRefuses$Land", name := "allWater", desc := "()I" } : Jvm.MethodName)) ∈ lw_all := lw_g (lw_at lw_m4 124 rfl) rfl
theorem q926 : (Jvm.Cond.code ({ cls := "WellRefuses$Land", name := "allWater", desc := "()I" } : Jvm.MethodName) prog_12_method_24_code (1 : Nat) (Option.some Jvm.ClassFile.FieldType.int)) ∈ lw_all := lw_g (lw_at lw_m4 125 rfl) rfl
theorem q927 : (Jvm.Cond.methodLink "WellRefuses$Land" (157 : Nat) ({ cls := "WellRefuses$Land", name := "sumOf", desc := "([II)I" } : Jvm.MethodName)) ∈ lw_all := lw_g (lw_at lw_m4 126 rfl) rfl
theorem q928 : (Jvm.Cond.static ({ cls := "WellRefuses$Land", name := "sumOf", desc := "([II)I" } : Jvm.MethodName)) ∈ lw_all := lw_g (lw_at lw_m4 127 rfl) rfl
theorem q929 : (Jvm.Cond.code ({ cls := "WellRefuses$Land", name := "sumOf", desc := "([II)I" } : Jvm.MethodName) prog_12_method_23_code (4 : Nat) (Option.some Jvm.ClassFile.FieldType.int)) ∈ lw_all := lw_g (lw_at lw_m4 128 rfl) rfl
theorem q935 : (Jvm.Cond.instanceMethod ({ cls := "WellRefuses$Land", name := "goesLoose", desc := "()V" } : Jvm.MethodName)) ∈ lw_all := lw_g (lw_at lw_m4 134 rfl) rfl
theorem q936 : (Jvm.Cond.selects "WellRefuses$Land" ({ cls := "WellRefuses$Land", name := "goesLoose", desc := "()V" } : Jvm.MethodName) ({ cls := "WellRefuses$Land", name := "goesLoose", desc := "()V" } : Jvm.MethodName)) ∈ lw_all := lw_g (lw_at lw_m4 135 rfl) rfl
theorem q937 : (Jvm.Cond.code ({ cls := "WellRefuses$Land", name := "goesLoose", desc := "()V" } : Jvm.MethodName) prog_12_method_18_code (3 : Nat) (Option.none : Option Jvm.ClassFile.FieldType)) ∈ lw_all := lw_g (lw_at lw_m4 136 rfl) rfl
theorem q938 : (Jvm.Cond.methodLink "WellRefuses$Land" (144 : Nat) ({ cls := "WellRefuses$Land", name := "draw", desc := "()I" } : Jvm.MethodName)) ∈ lw_all := lw_g (lw_at lw_m4 137 rfl) rfl
theorem q939 : (Jvm.Cond.instanceMethod ({ cls := "WellRefuses$Land", name := "draw", desc := "()I" } : Jvm.MethodName)) ∈ lw_all := lw_g (lw_at lw_m4 138 rfl) rfl
theorem q940 : (Jvm.Cond.selects "WellRefuses$Land" ({ cls := "WellRefuses$Land", name := "draw", desc := "()I" } : Jvm.MethodName) ({ cls := "WellRefuses$Land", name := "draw", desc := "()I" } : Jvm.MethodName)) ∈ lw_all := lw_g (lw_at lw_m4 139 rfl) rfl
theorem q941 : (Jvm.Cond.code ({ cls := "WellRefuses$Land", name := "draw", desc := "()I" } : Jvm.MethodName) prog_12_method_17_code (1 : Nat) (Option.some Jvm.ClassFile.FieldType.int)) ∈ lw_all := lw_g (lw_at lw_m4 140 rfl) rfl
theorem q942 : (Jvm.Cond.constant "WellRefuses$Land" (143 : Nat) (1103515245 : Int32)) ∈ lw_all := lw_g (lw_at lw_m4 141 rfl) rfl
theorem q948 : (Jvm.Cond.instanceMethod ({ cls := "WellRefuses$Land", name := "strikes", desc := "()I" } : Jvm.MethodName)) ∈ lw_all := lw_g (lw_at lw_m4 147 rfl) rfl
theorem q949 : (Jvm.Cond.selects "WellRefuses$Land" ({ cls := "WellRefuses$Land", name := "strikes", desc := "()I" } : Jvm.MethodName) ({ cls := "WellRefuses$Land", name := "strikes", desc := "()I" } : Jvm.MethodName)) ∈ lw_all := lw_g (lw_at lw_m4 148 rfl) rfl
theorem q950 : (Jvm.Cond.code ({ cls := "WellRefuses$Land", name := "strikes", desc := "()I" } : Jvm.MethodName) prog_12_method_22_code (2 : Nat) (Option.some Jvm.ClassFile.FieldType.int)) ∈ lw_all := lw_g (lw_at lw_m4 149 rfl) rfl
theorem q951 : (Jvm.Cond.methodLink "WellRefuses$Land" (150 : Nat) ({ cls := "WellRefuses$Land", name := "strikesTwo", desc := "()Z" } : Jvm.MethodName)) ∈ lw_all := lw_g (lw_at lw_m4 150 rfl) rfl
theorem q952 : (Jvm.Cond.privateMethod ({ cls := "WellRefuses$Land", name := "strikesTwo", desc := "()Z" } : Jvm.MethodName)) ∈ lw_tbl := lw_at lw_m4 151 rfl
theorem q953 : (Jvm.Cond.instanceMethod ({ cls := "WellRefuses$Land", name := "strikesTwo", desc := "()Z" } : Jvm.MethodName)) ∈ lw_all := lw_g (lw_at lw_m4 152 rfl) rfl
theorem q954 : (Jvm.Cond.code ({ cls := "WellRefuses$Land", name := "strikesTwo", desc := "()Z" } : Jvm.MethodName) prog_12_method_19_code (4 : Nat) (Option.some Jvm.ClassFile.FieldType.boolean)) ∈ lw_all := lw_g (lw_at lw_m4 153 rfl) rfl
theorem q955 : (Jvm.Cond.methodLink "WellRefuses$Land" (154 : Nat) ({ cls := "WellRefuses$Land", name := "strikesThree", desc := "()Z" } : Jvm.MethodName)) ∈ lw_all := lw_g (lw_at lw_m4 154 rfl) rfl
theorem q956 : (Jvm.Cond.privateMethod ({ cls := "WellRefuses$Land", name := "strikesThree", desc := "()Z" } : Jvm.MethodName)) ∈ lw_tbl := lw_at lw_m4 155 rfl
theorem q957 : (Jvm.Cond.instanceMethod ({ cls := "WellRefuses$Land", name := "strikesThree", desc := "()Z" } : Jvm.MethodName)) ∈ lw_all := lw_g (lw_at lw_m4 156 rfl) rfl
theorem q958 : (Jvm.Cond.code ({ cls := "WellRefuses$Land", name := "strikesThree", desc := "()Z" } : Jvm.MethodName) prog_12_method_21_code (4 : Nat) (Option.some Jvm.ClassFile.FieldType.boolean)) ∈ lw_all := lw_g (lw_at lw_m4 157 rfl) rfl
theorem q959 : (Jvm.Cond.methodLink "WellRefuses$Land" (147 : Nat) ({ cls := "WellRefuses$Land", name := "strikesThreeOf", desc := "(III)Z" } : Jvm.MethodName)) ∈ lw_all := lw_g (lw_at lw_m4 158 rfl) rfl
theorem q960 : (Jvm.Cond.privateMethod ({ cls := "WellRefuses$Land", name := "strikesThreeOf", desc := "(III)Z" } : Jvm.MethodName)) ∈ lw_tbl := lw_at lw_m4 159 rfl
theorem q961 : (Jvm.Cond.instanceMethod ({ cls := "WellRefuses$Land", name := "strikesThreeOf", desc := "(III)Z" } : Jvm.MethodName)) ∈ lw_all := lw_g (lw_at lw_m4 160 rfl) rfl
theorem q962 : (Jvm.Cond.code ({ cls := "WellRefuses$Land", name := "strikesThreeOf", desc := "(III)Z" } : Jvm.MethodName) prog_12_method_20_code (5 : Nat) (Option.some Jvm.ClassFile.FieldType.boolean)) ∈ lw_all := lw_g (lw_at lw_m4 161 rfl) rfl
theorem q971 : (Jvm.Cond.instanceMethod ({ cls := "WellRefuses$Land", name := "become", desc := "(LWellRefuses$Land;)LWellRefuses$Land;" } : Jvm.MethodName)) ∈ lw_all := lw_g (lw_at lw_m4 170 rfl) rfl
theorem q972 : (Jvm.Cond.selects "WellRefuses$Land" ({ cls := "WellRefuses$Land", name := "become", desc := "(LWellRefuses$Land;)LWellRefuses$Land;" } : Jvm.MethodName) ({ cls := "WellRefuses$Land", name := "become", desc := "(LWellRefuses$Land;)LWellRefuses$Land;" } : Jvm.MethodName)) ∈ lw_all := lw_g (lw_at lw_m4 171 rfl) rfl
theorem q973 : (Jvm.Cond.code ({ cls := "WellRefuses$Land", name := "become", desc := "(LWellRefuses$Land;)LWellRefuses$Land;" } : Jvm.MethodName) prog_12_method_2_code (2 : Nat) (Option.some (Jvm.ClassFile.FieldType.object "WellRefuses$Land"))) ∈ lw_all := lw_g (lw_at lw_m4 172 rfl) rfl
theorem q974 : (Jvm.Cond.methodLink "WellRefuses$Land" (60 : Nat) ({ cls := "java/lang/System", name := "arraycopy", desc := "(Ljava/lang/Object;ILjava/lang/Object;II)V" } : Jvm.MethodName)) ∈ lw_all := lw_g (lw_at lw_m4 173 rfl) rfl
theorem q1066 : (Jvm.Cond.instanceMethod ({ cls := "WellRefuses$Land", name := "whoAreGiven", desc := "()I" } : Jvm.MethodName)) ∈ lw_all := lw_g (lw_at lw_m5 25 rfl) rfl
theorem q1067 : (Jvm.Cond.selects "WellRefuses$Land" ({ cls := "WellRefuses$Land", name := "whoAreGiven", desc := "()I" } : Jvm.MethodName) ({ cls := "WellRefuses$Land", name := "whoAreGiven", desc := "()I" } : Jvm.MethodName)) ∈ lw_all := lw_g (lw_at lw_m5 26 rfl) rfl
theorem q1068 : (Jvm.Cond.code ({ cls := "WellRefuses$Land", name := "whoAreGiven", desc := "()I" } : Jvm.MethodName) prog_12_method_8_code (3 : Nat) (Option.some Jvm.ClassFile.FieldType.int)) ∈ lw_all := lw_g (lw_at lw_m5 27 rfl) rfl
theorem q1100 : (Jvm.Cond.instanceMethod ({ cls := "WellRefuses$Land", name := "allOwed", desc := "()I" } : Jvm.MethodName)) ∈ lw_all := lw_g (lw_at lw_m5 59 rfl) rfl
theorem q1101 : (Jvm.Cond.selects "WellRefuses$Land" ({ cls := "WellRefuses$Land", name := "allOwed", desc := "()I" } : Jvm.MethodName) ({ cls := "WellRefuses$Land", name := "allOwed", desc := "()I" } : Jvm.MethodName)) ∈ lw_all := lw_g (lw_at lw_m5 60 rfl) rfl
theorem q1102 : (Jvm.Cond.code ({ cls := "WellRefuses$Land", name := "allOwed", desc := "()I" } : Jvm.MethodName) prog_12_method_25_code (1 : Nat) (Option.some Jvm.ClassFile.FieldType.int)) ∈ lw_all := lw_g (lw_at lw_m5 61 rfl) rfl
abbrev cX16_init : ByteArray := prog_17_method_1_code
def yX16_init : MethodName := ⟨RX16, "<init>", "(Ljava/lang/String;[BI)V"⟩
def dkwX16_init_0 : List UInt8 := [42, 183, 0, 3, 42, 43, 181, 0, 9, 42, 44, 181, 0, 15, 42, 29, 181, 0, 19, 177]
abbrev dktX16_init_0 : List UInt8 := dkwX16_init_0 ++ []
theorem dksX16_init_0 : cX16_init.data.toList.drop 0 = dktX16_init_0 := by decide +kernel
theorem dX16_init_0 : decode cX16_init 0 = .ok (.aload_n 0, 1) := dk_42 (dk_at dksX16_init_0 0 rfl rfl)
theorem dX16_init_1 : decode cX16_init 1 = .ok (.invokespecial 3, 3) := dk_183 0 3 (dk_at dksX16_init_0 1 rfl rfl)
theorem dX16_init_4 : decode cX16_init 4 = .ok (.aload_n 0, 1) := dk_42 (dk_at dksX16_init_0 4 rfl rfl)
theorem dX16_init_5 : decode cX16_init 5 = .ok (.aload_n 1, 1) := dk_43 (dk_at dksX16_init_0 5 rfl rfl)
theorem dX16_init_6 : decode cX16_init 6 = .ok (.putfield 9, 3) := dk_181 0 9 (dk_at dksX16_init_0 6 rfl rfl)
theorem dX16_init_9 : decode cX16_init 9 = .ok (.aload_n 0, 1) := dk_42 (dk_at dksX16_init_0 9 rfl rfl)
theorem dX16_init_10 : decode cX16_init 10 = .ok (.aload_n 2, 1) := dk_44 (dk_at dksX16_init_0 10 rfl rfl)
theorem dX16_init_11 : decode cX16_init 11 = .ok (.putfield 15, 3) := dk_181 0 15 (dk_at dksX16_init_0 11 rfl rfl)
theorem dX16_init_14 : decode cX16_init 14 = .ok (.aload_n 0, 1) := dk_42 (dk_at dksX16_init_0 14 rfl rfl)
theorem dX16_init_15 : decode cX16_init 15 = .ok (.iload_n 3, 1) := dk_29 (dk_at dksX16_init_0 15 rfl rfl)
theorem dX16_init_16 : decode cX16_init 16 = .ok (.putfield 19, 3) := dk_181 0 19 (dk_at dksX16_init_0 16 rfl rfl)
theorem dX16_init_19 : decode cX16_init 19 = .ok (.return_, 1) := dk_177 (dk_at dksX16_init_0 19 rfl rfl)
abbrev cX16_read : ByteArray := prog_17_method_2_code
def yX16_read : MethodName := ⟨RX16, "read", "()LWellRefuses$Term;"⟩
def dkwX16_read_1 : List UInt8 := [182, 0, 30, 43, 176]
abbrev dktX16_read_1 : List UInt8 := dkwX16_read_1 ++ []
def dkwX16_read_0 : List UInt8 := [42, 182, 0, 23, 76, 42, 42, 180, 0, 27, 42, 180, 0, 19, 160, 0, 7, 4, 167, 0, 4, 3]
abbrev dktX16_read_0 : List UInt8 := dkwX16_read_0 ++ dktX16_read_1
theorem dksX16_read_0 : cX16_read.data.toList.drop 0 = dktX16_read_0 := by decide +kernel
theorem dksX16_read_1 : cX16_read.data.toList.drop 22 = dktX16_read_1 := dk_seg dksX16_read_0 22 rfl rfl
theorem dX16_read_0 : decode cX16_read 0 = .ok (.aload_n 0, 1) := dk_42 (dk_at dksX16_read_0 0 rfl rfl)
theorem dX16_read_1 : decode cX16_read 1 = .ok (.invokevirtual 23, 3) := dk_182 0 23 (dk_at dksX16_read_0 1 rfl rfl)
theorem dX16_read_4 : decode cX16_read 4 = .ok (.astore_n 1, 1) := dk_76 (dk_at dksX16_read_0 4 rfl rfl)
theorem dX16_read_5 : decode cX16_read 5 = .ok (.aload_n 0, 1) := dk_42 (dk_at dksX16_read_0 5 rfl rfl)
theorem dX16_read_6 : decode cX16_read 6 = .ok (.aload_n 0, 1) := dk_42 (dk_at dksX16_read_0 6 rfl rfl)
theorem dX16_read_7 : decode cX16_read 7 = .ok (.getfield 27, 3) := dk_180 0 27 (dk_at dksX16_read_0 7 rfl rfl)
theorem dX16_read_10 : decode cX16_read 10 = .ok (.aload_n 0, 1) := dk_42 (dk_at dksX16_read_0 10 rfl rfl)
theorem dX16_read_11 : decode cX16_read 11 = .ok (.getfield 19, 3) := dk_180 0 19 (dk_at dksX16_read_0 11 rfl rfl)
theorem dX16_read_14 : decode cX16_read 14 = .ok (.if_icmp .ne 7, 3) := dk_160 0 7 (dk_at dksX16_read_0 14 rfl rfl)
theorem dX16_read_17 : decode cX16_read 17 = .ok (.iconst 1, 1) := dk_4 (dk_at dksX16_read_0 17 rfl rfl)
theorem dX16_read_18 : decode cX16_read 18 = .ok (.goto 4, 3) := dk_167 0 4 (dk_at dksX16_read_0 18 rfl rfl)
theorem dX16_read_21 : decode cX16_read 21 = .ok (.iconst 0, 1) := dk_3 (dk_at dksX16_read_0 21 rfl rfl)
theorem dX16_read_22 : decode cX16_read 22 = .ok (.invokevirtual 30, 3) := dk_182 0 30 (dk_at dksX16_read_1 0 rfl rfl)
theorem dX16_read_25 : decode cX16_read 25 = .ok (.aload_n 1, 1) := dk_43 (dk_at dksX16_read_1 3 rfl rfl)
theorem dX16_read_26 : decode cX16_read 26 = .ok (.areturn, 1) := dk_176 (dk_at dksX16_read_1 4 rfl rfl)
abbrev cX16_either : ByteArray := prog_17_method_6_code
def yX16_either : MethodName := ⟨RX16, "either", "()LWellRefuses$Term;"⟩
def dkwX16_either_1 : List UInt8 := [187, 0, 58, 89, 16, 124, 43, 42, 182, 0, 49, 183, 0, 60, 76, 167, 255, 222, 43, 176]
abbrev dktX16_either_1 : List UInt8 := dkwX16_either_1 ++ []
def dkwX16_either_0 : List UInt8 := [42, 182, 0, 49, 76, 42, 18, 52, 182, 0, 54, 153, 0, 31, 42, 89, 180, 0, 27, 4, 96, 181, 0, 27]
abbrev dktX16_either_0 : List UInt8 := dkwX16_either_0 ++ dktX16_either_1
theorem dksX16_either_0 : cX16_either.data.toList.drop 0 = dktX16_either_0 := by decide +kernel
theorem dksX16_either_1 : cX16_either.data.toList.drop 24 = dktX16_either_1 := dk_seg dksX16_either_0 24 rfl rfl
theorem dX16_either_0 : decode cX16_either 0 = .ok (.aload_n 0, 1) := dk_42 (dk_at dksX16_either_0 0 rfl rfl)
theorem dX16_either_1 : decode cX16_either 1 = .ok (.invokevirtual 49, 3) := dk_182 0 49 (dk_at dksX16_either_0 1 rfl rfl)
theorem dX16_either_4 : decode cX16_either 4 = .ok (.astore_n 1, 1) := dk_76 (dk_at dksX16_either_0 4 rfl rfl)
theorem dX16_either_5 : decode cX16_either 5 = .ok (.aload_n 0, 1) := dk_42 (dk_at dksX16_either_0 5 rfl rfl)
theorem dX16_either_6 : decode cX16_either 6 = .ok (.ldc 52, 2) := dk_18 52 (dk_at dksX16_either_0 6 rfl rfl)
theorem dX16_either_8 : decode cX16_either 8 = .ok (.invokevirtual 54, 3) := dk_182 0 54 (dk_at dksX16_either_0 8 rfl rfl)
theorem dX16_either_11 : decode cX16_either 11 = .ok (.ifCond .eq 31, 3) := dk_153 0 31 (dk_at dksX16_either_0 11 rfl rfl)
theorem dX16_either_14 : decode cX16_either 14 = .ok (.aload_n 0, 1) := dk_42 (dk_at dksX16_either_0 14 rfl rfl)
theorem dX16_either_15 : decode cX16_either 15 = .ok (.dup, 1) := dk_89 (dk_at dksX16_either_0 15 rfl rfl)
theorem dX16_either_16 : decode cX16_either 16 = .ok (.getfield 27, 3) := dk_180 0 27 (dk_at dksX16_either_0 16 rfl rfl)
theorem dX16_either_19 : decode cX16_either 19 = .ok (.iconst 1, 1) := dk_4 (dk_at dksX16_either_0 19 rfl rfl)
theorem dX16_either_20 : decode cX16_either 20 = .ok (.iadd, 1) := dk_96 (dk_at dksX16_either_0 20 rfl rfl)
theorem dX16_either_21 : decode cX16_either 21 = .ok (.putfield 27, 3) := dk_181 0 27 (dk_at dksX16_either_0 21 rfl rfl)
theorem dX16_either_24 : decode cX16_either 24 = .ok (.new 58, 3) := dk_187 0 58 (dk_at dksX16_either_1 0 rfl rfl)
theorem dX16_either_27 : decode cX16_either 27 = .ok (.dup, 1) := dk_89 (dk_at dksX16_either_1 3 rfl rfl)
theorem dX16_either_28 : decode cX16_either 28 = .ok (.bipush 124, 2) := dk_16 124 (dk_at dksX16_either_1 4 rfl rfl)
theorem dX16_either_30 : decode cX16_either 30 = .ok (.aload_n 1, 1) := dk_43 (dk_at dksX16_either_1 6 rfl rfl)
theorem dX16_either_31 : decode cX16_either 31 = .ok (.aload_n 0, 1) := dk_42 (dk_at dksX16_either_1 7 rfl rfl)
theorem dX16_either_32 : decode cX16_either 32 = .ok (.invokevirtual 49, 3) := dk_182 0 49 (dk_at dksX16_either_1 8 rfl rfl)
theorem dX16_either_35 : decode cX16_either 35 = .ok (.invokespecial 60, 3) := dk_183 0 60 (dk_at dksX16_either_1 11 rfl rfl)
theorem dX16_either_38 : decode cX16_either 38 = .ok (.astore_n 1, 1) := dk_76 (dk_at dksX16_either_1 14 rfl rfl)
theorem dX16_either_39 : decode cX16_either 39 = .ok (.goto (-34), 3) := dk_167 255 222 (dk_at dksX16_either_1 15 rfl rfl)
theorem dX16_either_42 : decode cX16_either 42 = .ok (.aload_n 1, 1) := dk_43 (dk_at dksX16_either_1 18 rfl rfl)
theorem dX16_either_43 : decode cX16_either 43 = .ok (.areturn, 1) := dk_176 (dk_at dksX16_either_1 19 rfl rfl)
abbrev cX16_both : ByteArray := prog_17_method_7_code
def yX16_both : MethodName := ⟨RX16, "both", "()LWellRefuses$Term;"⟩
def dkwX16_both_1 : List UInt8 := [187, 0, 58, 89, 16, 38, 43, 42, 182, 0, 63, 183, 0, 60, 76, 167, 255, 222, 43, 176]
abbrev dktX16_both_1 : List UInt8 := dkwX16_both_1 ++ []
def dkwX16_both_0 : List UInt8 := [42, 182, 0, 63, 76, 42, 18, 66, 182, 0, 54, 153, 0, 31, 42, 89, 180, 0, 27, 4, 96, 181, 0, 27]
abbrev dktX16_both_0 : List UInt8 := dkwX16_both_0 ++ dktX16_both_1
theorem dksX16_both_0 : cX16_both.data.toList.drop 0 = dktX16_both_0 := by decide +kernel
theorem dksX16_both_1 : cX16_both.data.toList.drop 24 = dktX16_both_1 := dk_seg dksX16_both_0 24 rfl rfl
theorem dX16_both_0 : decode cX16_both 0 = .ok (.aload_n 0, 1) := dk_42 (dk_at dksX16_both_0 0 rfl rfl)
theorem dX16_both_1 : decode cX16_both 1 = .ok (.invokevirtual 63, 3) := dk_182 0 63 (dk_at dksX16_both_0 1 rfl rfl)
theorem dX16_both_4 : decode cX16_both 4 = .ok (.astore_n 1, 1) := dk_76 (dk_at dksX16_both_0 4 rfl rfl)
theorem dX16_both_5 : decode cX16_both 5 = .ok (.aload_n 0, 1) := dk_42 (dk_at dksX16_both_0 5 rfl rfl)
theorem dX16_both_6 : decode cX16_both 6 = .ok (.ldc 66, 2) := dk_18 66 (dk_at dksX16_both_0 6 rfl rfl)
theorem dX16_both_8 : decode cX16_both 8 = .ok (.invokevirtual 54, 3) := dk_182 0 54 (dk_at dksX16_both_0 8 rfl rfl)
theorem dX16_both_11 : decode cX16_both 11 = .ok (.ifCond .eq 31, 3) := dk_153 0 31 (dk_at dksX16_both_0 11 rfl rfl)
theorem dX16_both_14 : decode cX16_both 14 = .ok (.aload_n 0, 1) := dk_42 (dk_at dksX16_both_0 14 rfl rfl)
theorem dX16_both_15 : decode cX16_both 15 = .ok (.dup, 1) := dk_89 (dk_at dksX16_both_0 15 rfl rfl)
theorem dX16_both_16 : decode cX16_both 16 = .ok (.getfield 27, 3) := dk_180 0 27 (dk_at dksX16_both_0 16 rfl rfl)
theorem dX16_both_19 : decode cX16_both 19 = .ok (.iconst 1, 1) := dk_4 (dk_at dksX16_both_0 19 rfl rfl)
theorem dX16_both_20 : decode cX16_both 20 = .ok (.iadd, 1) := dk_96 (dk_at dksX16_both_0 20 rfl rfl)
theorem dX16_both_21 : decode cX16_both 21 = .ok (.putfield 27, 3) := dk_181 0 27 (dk_at dksX16_both_0 21 rfl rfl)
theorem dX16_both_24 : decode cX16_both 24 = .ok (.new 58, 3) := dk_187 0 58 (dk_at dksX16_both_1 0 rfl rfl)
theorem dX16_both_27 : decode cX16_both 27 = .ok (.dup, 1) := dk_89 (dk_at dksX16_both_1 3 rfl rfl)
theorem dX16_both_28 : decode cX16_both 28 = .ok (.bipush 38, 2) := dk_16 38 (dk_at dksX16_both_1 4 rfl rfl)
theorem dX16_both_30 : decode cX16_both 30 = .ok (.aload_n 1, 1) := dk_43 (dk_at dksX16_both_1 6 rfl rfl)
theorem dX16_both_31 : decode cX16_both 31 = .ok (.aload_n 0, 1) := dk_42 (dk_at dksX16_both_1 7 rfl rfl)
theorem dX16_both_32 : decode cX16_both 32 = .ok (.invokevirtual 63, 3) := dk_182 0 63 (dk_at dksX16_both_1 8 rfl rfl)
theorem dX16_both_35 : decode cX16_both 35 = .ok (.invokespecial 60, 3) := dk_183 0 60 (dk_at dksX16_both_1 11 rfl rfl)
theorem dX16_both_38 : decode cX16_both 38 = .ok (.astore_n 1, 1) := dk_76 (dk_at dksX16_both_1 14 rfl rfl)
theorem dX16_both_39 : decode cX16_both 39 = .ok (.goto (-34), 3) := dk_167 255 222 (dk_at dksX16_both_1 15 rfl rfl)
theorem dX16_both_42 : decode cX16_both 42 = .ok (.aload_n 1, 1) := dk_43 (dk_at dksX16_both_1 18 rfl rfl)
theorem dX16_both_43 : decode cX16_both 43 = .ok (.areturn, 1) := dk_176 (dk_at dksX16_both_1 19 rfl rfl)
abbrev cX16_relation : ByteArray := prog_17_method_8_code
def yX16_relation : MethodName := ⟨RX16, "relation", "()LWellRefuses$Term;"⟩
def dkwX16_relation_1 : List UInt8 := [180, 0, 27, 4, 96, 181, 0, 27, 187, 0, 58, 89, 28, 43, 42, 182, 0, 68, 183, 0, 60, 176]
abbrev dktX16_relation_1 : List UInt8 := dkwX16_relation_1 ++ []
def dkwX16_relation_0 : List UInt8 := [42, 182, 0, 68, 76, 42, 18, 71, 182, 0, 54, 154, 0, 5, 43, 176, 42, 182, 0, 39, 61, 42, 89]
abbrev dktX16_relation_0 : List UInt8 := dkwX16_relation_0 ++ dktX16_relation_1
theorem dksX16_relation_0 : cX16_relation.data.toList.drop 0 = dktX16_relation_0 := by decide +kernel
theorem dksX16_relation_1 : cX16_relation.data.toList.drop 23 = dktX16_relation_1 := dk_seg dksX16_relation_0 23 rfl rfl
theorem dX16_relation_0 : decode cX16_relation 0 = .ok (.aload_n 0, 1) := dk_42 (dk_at dksX16_relation_0 0 rfl rfl)
theorem dX16_relation_1 : decode cX16_relation 1 = .ok (.invokevirtual 68, 3) := dk_182 0 68 (dk_at dksX16_relation_0 1 rfl rfl)
theorem dX16_relation_4 : decode cX16_relation 4 = .ok (.astore_n 1, 1) := dk_76 (dk_at dksX16_relation_0 4 rfl rfl)
theorem dX16_relation_5 : decode cX16_relation 5 = .ok (.aload_n 0, 1) := dk_42 (dk_at dksX16_relation_0 5 rfl rfl)
theorem dX16_relation_6 : decode cX16_relation 6 = .ok (.ldc 71, 2) := dk_18 71 (dk_at dksX16_relation_0 6 rfl rfl)
theorem dX16_relation_8 : decode cX16_relation 8 = .ok (.invokevirtual 54, 3) := dk_182 0 54 (dk_at dksX16_relation_0 8 rfl rfl)
theorem dX16_relation_11 : decode cX16_relation 11 = .ok (.ifCond .ne 5, 3) := dk_154 0 5 (dk_at dksX16_relation_0 11 rfl rfl)
theorem dX16_relation_14 : decode cX16_relation 14 = .ok (.aload_n 1, 1) := dk_43 (dk_at dksX16_relation_0 14 rfl rfl)
theorem dX16_relation_15 : decode cX16_relation 15 = .ok (.areturn, 1) := dk_176 (dk_at dksX16_relation_0 15 rfl rfl)
theorem dX16_relation_16 : decode cX16_relation 16 = .ok (.aload_n 0, 1) := dk_42 (dk_at dksX16_relation_0 16 rfl rfl)
theorem dX16_relation_17 : decode cX16_relation 17 = .ok (.invokevirtual 39, 3) := dk_182 0 39 (dk_at dksX16_relation_0 17 rfl rfl)
theorem dX16_relation_20 : decode cX16_relation 20 = .ok (.istore_n 2, 1) := dk_61 (dk_at dksX16_relation_0 20 rfl rfl)
theorem dX16_relation_21 : decode cX16_relation 21 = .ok (.aload_n 0, 1) := dk_42 (dk_at dksX16_relation_0 21 rfl rfl)
theorem dX16_relation_22 : decode cX16_relation 22 = .ok (.dup, 1) := dk_89 (dk_at dksX16_relation_0 22 rfl rfl)
theorem dX16_relation_23 : decode cX16_relation 23 = .ok (.getfield 27, 3) := dk_180 0 27 (dk_at dksX16_relation_1 0 rfl rfl)
theorem dX16_relation_26 : decode cX16_relation 26 = .ok (.iconst 1, 1) := dk_4 (dk_at dksX16_relation_1 3 rfl rfl)
theorem dX16_relation_27 : decode cX16_relation 27 = .ok (.iadd, 1) := dk_96 (dk_at dksX16_relation_1 4 rfl rfl)
theorem dX16_relation_28 : decode cX16_relation 28 = .ok (.putfield 27, 3) := dk_181 0 27 (dk_at dksX16_relation_1 5 rfl rfl)
theorem dX16_relation_31 : decode cX16_relation 31 = .ok (.new 58, 3) := dk_187 0 58 (dk_at dksX16_relation_1 8 rfl rfl)
theorem dX16_relation_34 : decode cX16_relation 34 = .ok (.dup, 1) := dk_89 (dk_at dksX16_relation_1 11 rfl rfl)
theorem dX16_relation_35 : decode cX16_relation 35 = .ok (.iload_n 2, 1) := dk_28 (dk_at dksX16_relation_1 12 rfl rfl)
theorem dX16_relation_36 : decode cX16_relation 36 = .ok (.aload_n 1, 1) := dk_43 (dk_at dksX16_relation_1 13 rfl rfl)
theorem dX16_relation_37 : decode cX16_relation 37 = .ok (.aload_n 0, 1) := dk_42 (dk_at dksX16_relation_1 14 rfl rfl)
theorem dX16_relation_38 : decode cX16_relation 38 = .ok (.invokevirtual 68, 3) := dk_182 0 68 (dk_at dksX16_relation_1 15 rfl rfl)
theorem dX16_relation_41 : decode cX16_relation 41 = .ok (.invokespecial 60, 3) := dk_183 0 60 (dk_at dksX16_relation_1 18 rfl rfl)
theorem dX16_relation_44 : decode cX16_relation 44 = .ok (.areturn, 1) := dk_176 (dk_at dksX16_relation_1 21 rfl rfl)
abbrev cX16_sum : ByteArray := prog_17_method_9_code
def yX16_sum : MethodName := ⟨RX16, "sum", "()LWellRefuses$Term;"⟩
def dkwX16_sum_1 : List UInt8 := [4, 96, 181, 0, 27, 187, 0, 58, 89, 28, 43, 42, 182, 0, 73, 183, 0, 60, 76, 167, 255, 218, 43, 176]
abbrev dktX16_sum_1 : List UInt8 := dkwX16_sum_1 ++ []
def dkwX16_sum_0 : List UInt8 := [42, 182, 0, 73, 76, 42, 18, 76, 182, 0, 54, 153, 0, 35, 42, 182, 0, 39, 61, 42, 89, 180, 0, 27]
abbrev dktX16_sum_0 : List UInt8 := dkwX16_sum_0 ++ dktX16_sum_1
theorem dksX16_sum_0 : cX16_sum.data.toList.drop 0 = dktX16_sum_0 := by decide +kernel
theorem dksX16_sum_1 : cX16_sum.data.toList.drop 24 = dktX16_sum_1 := dk_seg dksX16_sum_0 24 rfl rfl
theorem dX16_sum_0 : decode cX16_sum 0 = .ok (.aload_n 0, 1) := dk_42 (dk_at dksX16_sum_0 0 rfl rfl)
theorem dX16_sum_1 : decode cX16_sum 1 = .ok (.invokevirtual 73, 3) := dk_182 0 73 (dk_at dksX16_sum_0 1 rfl rfl)
theorem dX16_sum_4 : decode cX16_sum 4 = .ok (.astore_n 1, 1) := dk_76 (dk_at dksX16_sum_0 4 rfl rfl)
theorem dX16_sum_5 : decode cX16_sum 5 = .ok (.aload_n 0, 1) := dk_42 (dk_at dksX16_sum_0 5 rfl rfl)
theorem dX16_sum_6 : decode cX16_sum 6 = .ok (.ldc 76, 2) := dk_18 76 (dk_at dksX16_sum_0 6 rfl rfl)
theorem dX16_sum_8 : decode cX16_sum 8 = .ok (.invokevirtual 54, 3) := dk_182 0 54 (dk_at dksX16_sum_0 8 rfl rfl)
theorem dX16_sum_11 : decode cX16_sum 11 = .ok (.ifCond .eq 35, 3) := dk_153 0 35 (dk_at dksX16_sum_0 11 rfl rfl)
theorem dX16_sum_14 : decode cX16_sum 14 = .ok (.aload_n 0, 1) := dk_42 (dk_at dksX16_sum_0 14 rfl rfl)
theorem dX16_sum_15 : decode cX16_sum 15 = .ok (.invokevirtual 39, 3) := dk_182 0 39 (dk_at dksX16_sum_0 15 rfl rfl)
theorem dX16_sum_18 : decode cX16_sum 18 = .ok (.istore_n 2, 1) := dk_61 (dk_at dksX16_sum_0 18 rfl rfl)
theorem dX16_sum_19 : decode cX16_sum 19 = .ok (.aload_n 0, 1) := dk_42 (dk_at dksX16_sum_0 19 rfl rfl)
theorem dX16_sum_20 : decode cX16_sum 20 = .ok (.dup, 1) := dk_89 (dk_at dksX16_sum_0 20 rfl rfl)
theorem dX16_sum_21 : decode cX16_sum 21 = .ok (.getfield 27, 3) := dk_180 0 27 (dk_at dksX16_sum_0 21 rfl rfl)
theorem dX16_sum_24 : decode cX16_sum 24 = .ok (.iconst 1, 1) := dk_4 (dk_at dksX16_sum_1 0 rfl rfl)
theorem dX16_sum_25 : decode cX16_sum 25 = .ok (.iadd, 1) := dk_96 (dk_at dksX16_sum_1 1 rfl rfl)
theorem dX16_sum_26 : decode cX16_sum 26 = .ok (.putfield 27, 3) := dk_181 0 27 (dk_at dksX16_sum_1 2 rfl rfl)
theorem dX16_sum_29 : decode cX16_sum 29 = .ok (.new 58, 3) := dk_187 0 58 (dk_at dksX16_sum_1 5 rfl rfl)
theorem dX16_sum_32 : decode cX16_sum 32 = .ok (.dup, 1) := dk_89 (dk_at dksX16_sum_1 8 rfl rfl)
theorem dX16_sum_33 : decode cX16_sum 33 = .ok (.iload_n 2, 1) := dk_28 (dk_at dksX16_sum_1 9 rfl rfl)
theorem dX16_sum_34 : decode cX16_sum 34 = .ok (.aload_n 1, 1) := dk_43 (dk_at dksX16_sum_1 10 rfl rfl)
theorem dX16_sum_35 : decode cX16_sum 35 = .ok (.aload_n 0, 1) := dk_42 (dk_at dksX16_sum_1 11 rfl rfl)
theorem dX16_sum_36 : decode cX16_sum 36 = .ok (.invokevirtual 73, 3) := dk_182 0 73 (dk_at dksX16_sum_1 12 rfl rfl)
theorem dX16_sum_39 : decode cX16_sum 39 = .ok (.invokespecial 60, 3) := dk_183 0 60 (dk_at dksX16_sum_1 15 rfl rfl)
theorem dX16_sum_42 : decode cX16_sum 42 = .ok (.astore_n 1, 1) := dk_76 (dk_at dksX16_sum_1 18 rfl rfl)
theorem dX16_sum_43 : decode cX16_sum 43 = .ok (.goto (-38), 3) := dk_167 255 218 (dk_at dksX16_sum_1 19 rfl rfl)
theorem dX16_sum_46 : decode cX16_sum 46 = .ok (.aload_n 1, 1) := dk_43 (dk_at dksX16_sum_1 22 rfl rfl)
theorem dX16_sum_47 : decode cX16_sum 47 = .ok (.areturn, 1) := dk_176 (dk_at dksX16_sum_1 23 rfl rfl)
abbrev cX16_product : ByteArray := prog_17_method_10_code
def yX16_product : MethodName := ⟨RX16, "product", "()LWellRefuses$Term;"⟩
def dkwX16_product_1 : List UInt8 := [4, 96, 181, 0, 27, 187, 0, 58, 89, 28, 43, 42, 182, 0, 78, 183, 0, 60, 76, 167, 255, 218, 43, 176]
abbrev dktX16_product_1 : List UInt8 := dkwX16_product_1 ++ []
def dkwX16_product_0 : List UInt8 := [42, 182, 0, 78, 76, 42, 18, 81, 182, 0, 54, 153, 0, 35, 42, 182, 0, 39, 61, 42, 89, 180, 0, 27]
abbrev dktX16_product_0 : List UInt8 := dkwX16_product_0 ++ dktX16_product_1
theorem dksX16_product_0 : cX16_product.data.toList.drop 0 = dktX16_product_0 := by decide +kernel
theorem dksX16_product_1 : cX16_product.data.toList.drop 24 = dktX16_product_1 := dk_seg dksX16_product_0 24 rfl rfl
theorem dX16_product_0 : decode cX16_product 0 = .ok (.aload_n 0, 1) := dk_42 (dk_at dksX16_product_0 0 rfl rfl)
theorem dX16_product_1 : decode cX16_product 1 = .ok (.invokevirtual 78, 3) := dk_182 0 78 (dk_at dksX16_product_0 1 rfl rfl)
theorem dX16_product_4 : decode cX16_product 4 = .ok (.astore_n 1, 1) := dk_76 (dk_at dksX16_product_0 4 rfl rfl)
theorem dX16_product_5 : decode cX16_product 5 = .ok (.aload_n 0, 1) := dk_42 (dk_at dksX16_product_0 5 rfl rfl)
theorem dX16_product_6 : decode cX16_product 6 = .ok (.ldc 81, 2) := dk_18 81 (dk_at dksX16_product_0 6 rfl rfl)
theorem dX16_product_8 : decode cX16_product 8 = .ok (.invokevirtual 54, 3) := dk_182 0 54 (dk_at dksX16_product_0 8 rfl rfl)
theorem dX16_product_11 : decode cX16_product 11 = .ok (.ifCond .eq 35, 3) := dk_153 0 35 (dk_at dksX16_product_0 11 rfl rfl)
theorem dX16_product_14 : decode cX16_product 14 = .ok (.aload_n 0, 1) := dk_42 (dk_at dksX16_product_0 14 rfl rfl)
theorem dX16_product_15 : decode cX16_product 15 = .ok (.invokevirtual 39, 3) := dk_182 0 39 (dk_at dksX16_product_0 15 rfl rfl)
theorem dX16_product_18 : decode cX16_product 18 = .ok (.istore_n 2, 1) := dk_61 (dk_at dksX16_product_0 18 rfl rfl)
theorem dX16_product_19 : decode cX16_product 19 = .ok (.aload_n 0, 1) := dk_42 (dk_at dksX16_product_0 19 rfl rfl)
theorem dX16_product_20 : decode cX16_product 20 = .ok (.dup, 1) := dk_89 (dk_at dksX16_product_0 20 rfl rfl)
theorem dX16_product_21 : decode cX16_product 21 = .ok (.getfield 27, 3) := dk_180 0 27 (dk_at dksX16_product_0 21 rfl rfl)
theorem dX16_product_24 : decode cX16_product 24 = .ok (.iconst 1, 1) := dk_4 (dk_at dksX16_product_1 0 rfl rfl)
theorem dX16_product_25 : decode cX16_product 25 = .ok (.iadd, 1) := dk_96 (dk_at dksX16_product_1 1 rfl rfl)
theorem dX16_product_26 : decode cX16_product 26 = .ok (.putfield 27, 3) := dk_181 0 27 (dk_at dksX16_product_1 2 rfl rfl)
theorem dX16_product_29 : decode cX16_product 29 = .ok (.new 58, 3) := dk_187 0 58 (dk_at dksX16_product_1 5 rfl rfl)
theorem dX16_product_32 : decode cX16_product 32 = .ok (.dup, 1) := dk_89 (dk_at dksX16_product_1 8 rfl rfl)
theorem dX16_product_33 : decode cX16_product 33 = .ok (.iload_n 2, 1) := dk_28 (dk_at dksX16_product_1 9 rfl rfl)
theorem dX16_product_34 : decode cX16_product 34 = .ok (.aload_n 1, 1) := dk_43 (dk_at dksX16_product_1 10 rfl rfl)
theorem dX16_product_35 : decode cX16_product 35 = .ok (.aload_n 0, 1) := dk_42 (dk_at dksX16_product_1 11 rfl rfl)
theorem dX16_product_36 : decode cX16_product 36 = .ok (.invokevirtual 78, 3) := dk_182 0 78 (dk_at dksX16_product_1 12 rfl rfl)
theorem dX16_product_39 : decode cX16_product 39 = .ok (.invokespecial 60, 3) := dk_183 0 60 (dk_at dksX16_product_1 15 rfl rfl)
theorem dX16_product_42 : decode cX16_product 42 = .ok (.astore_n 1, 1) := dk_76 (dk_at dksX16_product_1 18 rfl rfl)
theorem dX16_product_43 : decode cX16_product 43 = .ok (.goto (-38), 3) := dk_167 255 218 (dk_at dksX16_product_1 19 rfl rfl)
theorem dX16_product_46 : decode cX16_product 46 = .ok (.aload_n 1, 1) := dk_43 (dk_at dksX16_product_1 22 rfl rfl)
theorem dX16_product_47 : decode cX16_product 47 = .ok (.areturn, 1) := dk_176 (dk_at dksX16_product_1 23 rfl rfl)
abbrev cX16_single : ByteArray := prog_17_method_12_code
def yX16_single : MethodName := ⟨RX16, "single", "()LWellRefuses$Term;"⟩
def dkwX16_single_9 : List UInt8 := [183, 0, 107, 176]
abbrev dktX16_single_9 : List UInt8 := dkwX16_single_9 ++ []
def dkwX16_single_8 : List UInt8 := [100, 60, 42, 89, 180, 0, 27, 4, 96, 181, 0, 27, 132, 2, 1, 167, 255, 211, 187, 0, 105, 89, 27]
abbrev dktX16_single_8 : List UInt8 := dkwX16_single_8 ++ dktX16_single_9
def dkwX16_single_7 : List UInt8 := [182, 0, 39, 16, 48, 16, 57, 184, 0, 101, 153, 0, 32, 16, 10, 27, 104, 42, 182, 0, 39, 96, 16, 48]
abbrev dktX16_single_7 : List UInt8 := dkwX16_single_7 ++ dktX16_single_8
def dkwX16_single_6 : List UInt8 := [182, 0, 39, 16, 48, 16, 57, 184, 0, 101, 182, 0, 30, 3, 60, 3, 61, 28, 7, 162, 0, 46, 42]
abbrev dktX16_single_6 : List UInt8 := dkwX16_single_6 ++ dktX16_single_7
def dkwX16_single_5 : List UInt8 := [180, 0, 27, 4, 96, 181, 0, 27, 42, 89, 180, 0, 83, 4, 100, 181, 0, 83, 43, 176, 42, 42]
abbrev dktX16_single_5 : List UInt8 := dkwX16_single_5 ++ dktX16_single_6
def dkwX16_single_4 : List UInt8 := [182, 0, 23, 76, 42, 42, 182, 0, 39, 16, 41, 160, 0, 7, 4, 167, 0, 4, 3, 182, 0, 30, 42, 89]
abbrev dktX16_single_4 : List UInt8 := dkwX16_single_4 ++ dktX16_single_5
def dkwX16_single_3 : List UInt8 := [187, 0, 94, 89, 43, 183, 0, 96, 176, 42, 18, 99, 182, 0, 54, 153, 0, 52, 42, 182, 0, 91, 42]
abbrev dktX16_single_3 : List UInt8 := dkwX16_single_3 ++ dktX16_single_4
def dkwX16_single_2 : List UInt8 := [153, 0, 31, 42, 182, 0, 91, 42, 182, 0, 78, 76, 42, 89, 180, 0, 83, 4, 100, 181, 0, 83]
abbrev dktX16_single_2 : List UInt8 := dkwX16_single_2 ++ dktX16_single_3
def dkwX16_single_1 : List UInt8 := [89, 42, 180, 0, 15, 42, 180, 0, 27, 4, 100, 51, 183, 0, 88, 176, 42, 18, 89, 182, 0, 54]
abbrev dktX16_single_1 : List UInt8 := dkwX16_single_1 ++ dktX16_single_2
def dkwX16_single_0 : List UInt8 := [42, 42, 180, 0, 9, 182, 0, 54, 153, 0, 32, 42, 89, 180, 0, 27, 4, 96, 181, 0, 27, 187, 0, 86]
abbrev dktX16_single_0 : List UInt8 := dkwX16_single_0 ++ dktX16_single_1
theorem dksX16_single_0 : cX16_single.data.toList.drop 0 = dktX16_single_0 := by decide +kernel
theorem dksX16_single_1 : cX16_single.data.toList.drop 24 = dktX16_single_1 := dk_seg dksX16_single_0 24 rfl rfl
theorem dksX16_single_2 : cX16_single.data.toList.drop 46 = dktX16_single_2 := dk_seg dksX16_single_1 22 rfl rfl
theorem dksX16_single_3 : cX16_single.data.toList.drop 68 = dktX16_single_3 := dk_seg dksX16_single_2 22 rfl rfl
theorem dksX16_single_4 : cX16_single.data.toList.drop 91 = dktX16_single_4 := dk_seg dksX16_single_3 23 rfl rfl
theorem dksX16_single_5 : cX16_single.data.toList.drop 115 = dktX16_single_5 := dk_seg dksX16_single_4 24 rfl rfl
theorem dksX16_single_6 : cX16_single.data.toList.drop 137 = dktX16_single_6 := dk_seg dksX16_single_5 22 rfl rfl
theorem dksX16_single_7 : cX16_single.data.toList.drop 160 = dktX16_single_7 := dk_seg dksX16_single_6 23 rfl rfl
theorem dksX16_single_8 : cX16_single.data.toList.drop 184 = dktX16_single_8 := dk_seg dksX16_single_7 24 rfl rfl
theorem dksX16_single_9 : cX16_single.data.toList.drop 207 = dktX16_single_9 := dk_seg dksX16_single_8 23 rfl rfl
theorem dX16_single_0 : decode cX16_single 0 = .ok (.aload_n 0, 1) := dk_42 (dk_at dksX16_single_0 0 rfl rfl)
theorem dX16_single_1 : decode cX16_single 1 = .ok (.aload_n 0, 1) := dk_42 (dk_at dksX16_single_0 1 rfl rfl)
theorem dX16_single_2 : decode cX16_single 2 = .ok (.getfield 9, 3) := dk_180 0 9 (dk_at dksX16_single_0 2 rfl rfl)
theorem dX16_single_5 : decode cX16_single 5 = .ok (.invokevirtual 54, 3) := dk_182 0 54 (dk_at dksX16_single_0 5 rfl rfl)
theorem dX16_single_8 : decode cX16_single 8 = .ok (.ifCond .eq 32, 3) := dk_153 0 32 (dk_at dksX16_single_0 8 rfl rfl)
theorem dX16_single_11 : decode cX16_single 11 = .ok (.aload_n 0, 1) := dk_42 (dk_at dksX16_single_0 11 rfl rfl)
theorem dX16_single_12 : decode cX16_single 12 = .ok (.dup, 1) := dk_89 (dk_at dksX16_single_0 12 rfl rfl)
theorem dX16_single_13 : decode cX16_single 13 = .ok (.getfield 27, 3) := dk_180 0 27 (dk_at dksX16_single_0 13 rfl rfl)
theorem dX16_single_16 : decode cX16_single 16 = .ok (.iconst 1, 1) := dk_4 (dk_at dksX16_single_0 16 rfl rfl)
theorem dX16_single_17 : decode cX16_single 17 = .ok (.iadd, 1) := dk_96 (dk_at dksX16_single_0 17 rfl rfl)
theorem dX16_single_18 : decode cX16_single 18 = .ok (.putfield 27, 3) := dk_181 0 27 (dk_at dksX16_single_0 18 rfl rfl)
theorem dX16_single_21 : decode cX16_single 21 = .ok (.new 86, 3) := dk_187 0 86 (dk_at dksX16_single_0 21 rfl rfl)
theorem dX16_single_24 : decode cX16_single 24 = .ok (.dup, 1) := dk_89 (dk_at dksX16_single_1 0 rfl rfl)
theorem dX16_single_25 : decode cX16_single 25 = .ok (.aload_n 0, 1) := dk_42 (dk_at dksX16_single_1 1 rfl rfl)
theorem dX16_single_26 : decode cX16_single 26 = .ok (.getfield 15, 3) := dk_180 0 15 (dk_at dksX16_single_1 2 rfl rfl)
theorem dX16_single_29 : decode cX16_single 29 = .ok (.aload_n 0, 1) := dk_42 (dk_at dksX16_single_1 5 rfl rfl)
theorem dX16_single_30 : decode cX16_single 30 = .ok (.getfield 27, 3) := dk_180 0 27 (dk_at dksX16_single_1 6 rfl rfl)
theorem dX16_single_33 : decode cX16_single 33 = .ok (.iconst 1, 1) := dk_4 (dk_at dksX16_single_1 9 rfl rfl)
theorem dX16_single_34 : decode cX16_single 34 = .ok (.isub, 1) := dk_100 (dk_at dksX16_single_1 10 rfl rfl)
theorem dX16_single_35 : decode cX16_single 35 = .ok (.baload, 1) := dk_51 (dk_at dksX16_single_1 11 rfl rfl)
theorem dX16_single_36 : decode cX16_single 36 = .ok (.invokespecial 88, 3) := dk_183 0 88 (dk_at dksX16_single_1 12 rfl rfl)
theorem dX16_single_39 : decode cX16_single 39 = .ok (.areturn, 1) := dk_176 (dk_at dksX16_single_1 15 rfl rfl)
theorem dX16_single_40 : decode cX16_single 40 = .ok (.aload_n 0, 1) := dk_42 (dk_at dksX16_single_1 16 rfl rfl)
theorem dX16_single_41 : decode cX16_single 41 = .ok (.ldc 89, 2) := dk_18 89 (dk_at dksX16_single_1 17 rfl rfl)
theorem dX16_single_43 : decode cX16_single 43 = .ok (.invokevirtual 54, 3) := dk_182 0 54 (dk_at dksX16_single_1 19 rfl rfl)
theorem dX16_single_46 : decode cX16_single 46 = .ok (.ifCond .eq 31, 3) := dk_153 0 31 (dk_at dksX16_single_2 0 rfl rfl)
theorem dX16_single_49 : decode cX16_single 49 = .ok (.aload_n 0, 1) := dk_42 (dk_at dksX16_single_2 3 rfl rfl)
theorem dX16_single_50 : decode cX16_single 50 = .ok (.invokevirtual 91, 3) := dk_182 0 91 (dk_at dksX16_single_2 4 rfl rfl)
theorem dX16_single_53 : decode cX16_single 53 = .ok (.aload_n 0, 1) := dk_42 (dk_at dksX16_single_2 7 rfl rfl)
theorem dX16_single_54 : decode cX16_single 54 = .ok (.invokevirtual 78, 3) := dk_182 0 78 (dk_at dksX16_single_2 8 rfl rfl)
theorem dX16_single_57 : decode cX16_single 57 = .ok (.astore_n 1, 1) := dk_76 (dk_at dksX16_single_2 11 rfl rfl)
theorem dX16_single_58 : decode cX16_single 58 = .ok (.aload_n 0, 1) := dk_42 (dk_at dksX16_single_2 12 rfl rfl)
theorem dX16_single_59 : decode cX16_single 59 = .ok (.dup, 1) := dk_89 (dk_at dksX16_single_2 13 rfl rfl)
theorem dX16_single_60 : decode cX16_single 60 = .ok (.getfield 83, 3) := dk_180 0 83 (dk_at dksX16_single_2 14 rfl rfl)
theorem dX16_single_63 : decode cX16_single 63 = .ok (.iconst 1, 1) := dk_4 (dk_at dksX16_single_2 17 rfl rfl)
theorem dX16_single_64 : decode cX16_single 64 = .ok (.isub, 1) := dk_100 (dk_at dksX16_single_2 18 rfl rfl)
theorem dX16_single_65 : decode cX16_single 65 = .ok (.putfield 83, 3) := dk_181 0 83 (dk_at dksX16_single_2 19 rfl rfl)
theorem dX16_single_68 : decode cX16_single 68 = .ok (.new 94, 3) := dk_187 0 94 (dk_at dksX16_single_3 0 rfl rfl)
theorem dX16_single_71 : decode cX16_single 71 = .ok (.dup, 1) := dk_89 (dk_at dksX16_single_3 3 rfl rfl)
theorem dX16_single_72 : decode cX16_single 72 = .ok (.aload_n 1, 1) := dk_43 (dk_at dksX16_single_3 4 rfl rfl)
theorem dX16_single_73 : decode cX16_single 73 = .ok (.invokespecial 96, 3) := dk_183 0 96 (dk_at dksX16_single_3 5 rfl rfl)
theorem dX16_single_76 : decode cX16_single 76 = .ok (.areturn, 1) := dk_176 (dk_at dksX16_single_3 8 rfl rfl)
theorem dX16_single_77 : decode cX16_single 77 = .ok (.aload_n 0, 1) := dk_42 (dk_at dksX16_single_3 9 rfl rfl)
theorem dX16_single_78 : decode cX16_single 78 = .ok (.ldc 99, 2) := dk_18 99 (dk_at dksX16_single_3 10 rfl rfl)
theorem dX16_single_80 : decode cX16_single 80 = .ok (.invokevirtual 54, 3) := dk_182 0 54 (dk_at dksX16_single_3 12 rfl rfl)
theorem dX16_single_83 : decode cX16_single 83 = .ok (.ifCond .eq 52, 3) := dk_153 0 52 (dk_at dksX16_single_3 15 rfl rfl)
theorem dX16_single_86 : decode cX16_single 86 = .ok (.aload_n 0, 1) := dk_42 (dk_at dksX16_single_3 18 rfl rfl)
theorem dX16_single_87 : decode cX16_single 87 = .ok (.invokevirtual 91, 3) := dk_182 0 91 (dk_at dksX16_single_3 19 rfl rfl)
theorem dX16_single_90 : decode cX16_single 90 = .ok (.aload_n 0, 1) := dk_42 (dk_at dksX16_single_3 22 rfl rfl)
theorem dX16_single_91 : decode cX16_single 91 = .ok (.invokevirtual 23, 3) := dk_182 0 23 (dk_at dksX16_single_4 0 rfl rfl)
theorem dX16_single_94 : decode cX16_single 94 = .ok (.astore_n 1, 1) := dk_76 (dk_at dksX16_single_4 3 rfl rfl)
theorem dX16_single_95 : decode cX16_single 95 = .ok (.aload_n 0, 1) := dk_42 (dk_at dksX16_single_4 4 rfl rfl)
theorem dX16_single_96 : decode cX16_single 96 = .ok (.aload_n 0, 1) := dk_42 (dk_at dksX16_single_4 5 rfl rfl)
theorem dX16_single_97 : decode cX16_single 97 = .ok (.invokevirtual 39, 3) := dk_182 0 39 (dk_at dksX16_single_4 6 rfl rfl)
theorem dX16_single_100 : decode cX16_single 100 = .ok (.bipush 41, 2) := dk_16 41 (dk_at dksX16_single_4 9 rfl rfl)
theorem dX16_single_102 : decode cX16_single 102 = .ok (.if_icmp .ne 7, 3) := dk_160 0 7 (dk_at dksX16_single_4 11 rfl rfl)
theorem dX16_single_105 : decode cX16_single 105 = .ok (.iconst 1, 1) := dk_4 (dk_at dksX16_single_4 14 rfl rfl)
theorem dX16_single_106 : decode cX16_single 106 = .ok (.goto 4, 3) := dk_167 0 4 (dk_at dksX16_single_4 15 rfl rfl)
theorem dX16_single_109 : decode cX16_single 109 = .ok (.iconst 0, 1) := dk_3 (dk_at dksX16_single_4 18 rfl rfl)
theorem dX16_single_110 : decode cX16_single 110 = .ok (.invokevirtual 30, 3) := dk_182 0 30 (dk_at dksX16_single_4 19 rfl rfl)
theorem dX16_single_113 : decode cX16_single 113 = .ok (.aload_n 0, 1) := dk_42 (dk_at dksX16_single_4 22 rfl rfl)
theorem dX16_single_114 : decode cX16_single 114 = .ok (.dup, 1) := dk_89 (dk_at dksX16_single_4 23 rfl rfl)
theorem dX16_single_115 : decode cX16_single 115 = .ok (.getfield 27, 3) := dk_180 0 27 (dk_at dksX16_single_5 0 rfl rfl)
theorem dX16_single_118 : decode cX16_single 118 = .ok (.iconst 1, 1) := dk_4 (dk_at dksX16_single_5 3 rfl rfl)
theorem dX16_single_119 : decode cX16_single 119 = .ok (.iadd, 1) := dk_96 (dk_at dksX16_single_5 4 rfl rfl)
theorem dX16_single_120 : decode cX16_single 120 = .ok (.putfield 27, 3) := dk_181 0 27 (dk_at dksX16_single_5 5 rfl rfl)
theorem dX16_single_123 : decode cX16_single 123 = .ok (.aload_n 0, 1) := dk_42 (dk_at dksX16_single_5 8 rfl rfl)
theorem dX16_single_124 : decode cX16_single 124 = .ok (.dup, 1) := dk_89 (dk_at dksX16_single_5 9 rfl rfl)
theorem dX16_single_125 : decode cX16_single 125 = .ok (.getfield 83, 3) := dk_180 0 83 (dk_at dksX16_single_5 10 rfl rfl)
theorem dX16_single_128 : decode cX16_single 128 = .ok (.iconst 1, 1) := dk_4 (dk_at dksX16_single_5 13 rfl rfl)
theorem dX16_single_129 : decode cX16_single 129 = .ok (.isub, 1) := dk_100 (dk_at dksX16_single_5 14 rfl rfl)
theorem dX16_single_130 : decode cX16_single 130 = .ok (.putfield 83, 3) := dk_181 0 83 (dk_at dksX16_single_5 15 rfl rfl)
theorem dX16_single_133 : decode cX16_single 133 = .ok (.aload_n 1, 1) := dk_43 (dk_at dksX16_single_5 18 rfl rfl)
theorem dX16_single_134 : decode cX16_single 134 = .ok (.areturn, 1) := dk_176 (dk_at dksX16_single_5 19 rfl rfl)
theorem dX16_single_135 : decode cX16_single 135 = .ok (.aload_n 0, 1) := dk_42 (dk_at dksX16_single_5 20 rfl rfl)
theorem dX16_single_136 : decode cX16_single 136 = .ok (.aload_n 0, 1) := dk_42 (dk_at dksX16_single_5 21 rfl rfl)
theorem dX16_single_137 : decode cX16_single 137 = .ok (.invokevirtual 39, 3) := dk_182 0 39 (dk_at dksX16_single_6 0 rfl rfl)
theorem dX16_single_140 : decode cX16_single 140 = .ok (.bipush 48, 2) := dk_16 48 (dk_at dksX16_single_6 3 rfl rfl)
theorem dX16_single_142 : decode cX16_single 142 = .ok (.bipush 57, 2) := dk_16 57 (dk_at dksX16_single_6 5 rfl rfl)
theorem dX16_single_144 : decode cX16_single 144 = .ok (.invokestatic 101, 3) := dk_184 0 101 (dk_at dksX16_single_6 7 rfl rfl)
theorem dX16_single_147 : decode cX16_single 147 = .ok (.invokevirtual 30, 3) := dk_182 0 30 (dk_at dksX16_single_6 10 rfl rfl)
theorem dX16_single_150 : decode cX16_single 150 = .ok (.iconst 0, 1) := dk_3 (dk_at dksX16_single_6 13 rfl rfl)
theorem dX16_single_151 : decode cX16_single 151 = .ok (.istore_n 1, 1) := dk_60 (dk_at dksX16_single_6 14 rfl rfl)
theorem dX16_single_152 : decode cX16_single 152 = .ok (.iconst 0, 1) := dk_3 (dk_at dksX16_single_6 15 rfl rfl)
theorem dX16_single_153 : decode cX16_single 153 = .ok (.istore_n 2, 1) := dk_61 (dk_at dksX16_single_6 16 rfl rfl)
theorem dX16_single_154 : decode cX16_single 154 = .ok (.iload_n 2, 1) := dk_28 (dk_at dksX16_single_6 17 rfl rfl)
theorem dX16_single_155 : decode cX16_single 155 = .ok (.iconst 4, 1) := dk_7 (dk_at dksX16_single_6 18 rfl rfl)
theorem dX16_single_156 : decode cX16_single 156 = .ok (.if_icmp .ge 46, 3) := dk_162 0 46 (dk_at dksX16_single_6 19 rfl rfl)
theorem dX16_single_159 : decode cX16_single 159 = .ok (.aload_n 0, 1) := dk_42 (dk_at dksX16_single_6 22 rfl rfl)
theorem dX16_single_160 : decode cX16_single 160 = .ok (.invokevirtual 39, 3) := dk_182 0 39 (dk_at dksX16_single_7 0 rfl rfl)
theorem dX16_single_163 : decode cX16_single 163 = .ok (.bipush 48, 2) := dk_16 48 (dk_at dksX16_single_7 3 rfl rfl)
theorem dX16_single_165 : decode cX16_single 165 = .ok (.bipush 57, 2) := dk_16 57 (dk_at dksX16_single_7 5 rfl rfl)
theorem dX16_single_167 : decode cX16_single 167 = .ok (.invokestatic 101, 3) := dk_184 0 101 (dk_at dksX16_single_7 7 rfl rfl)
theorem dX16_single_170 : decode cX16_single 170 = .ok (.ifCond .eq 32, 3) := dk_153 0 32 (dk_at dksX16_single_7 10 rfl rfl)
theorem dX16_single_173 : decode cX16_single 173 = .ok (.bipush 10, 2) := dk_16 10 (dk_at dksX16_single_7 13 rfl rfl)
theorem dX16_single_175 : decode cX16_single 175 = .ok (.iload_n 1, 1) := dk_27 (dk_at dksX16_single_7 15 rfl rfl)
theorem dX16_single_176 : decode cX16_single 176 = .ok (.imul, 1) := dk_104 (dk_at dksX16_single_7 16 rfl rfl)
theorem dX16_single_177 : decode cX16_single 177 = .ok (.aload_n 0, 1) := dk_42 (dk_at dksX16_single_7 17 rfl rfl)
theorem dX16_single_178 : decode cX16_single 178 = .ok (.invokevirtual 39, 3) := dk_182 0 39 (dk_at dksX16_single_7 18 rfl rfl)
theorem dX16_single_181 : decode cX16_single 181 = .ok (.iadd, 1) := dk_96 (dk_at dksX16_single_7 21 rfl rfl)
theorem dX16_single_182 : decode cX16_single 182 = .ok (.bipush 48, 2) := dk_16 48 (dk_at dksX16_single_7 22 rfl rfl)
theorem dX16_single_184 : decode cX16_single 184 = .ok (.isub, 1) := dk_100 (dk_at dksX16_single_8 0 rfl rfl)
theorem dX16_single_185 : decode cX16_single 185 = .ok (.istore_n 1, 1) := dk_60 (dk_at dksX16_single_8 1 rfl rfl)
theorem dX16_single_186 : decode cX16_single 186 = .ok (.aload_n 0, 1) := dk_42 (dk_at dksX16_single_8 2 rfl rfl)
theorem dX16_single_187 : decode cX16_single 187 = .ok (.dup, 1) := dk_89 (dk_at dksX16_single_8 3 rfl rfl)
theorem dX16_single_188 : decode cX16_single 188 = .ok (.getfield 27, 3) := dk_180 0 27 (dk_at dksX16_single_8 4 rfl rfl)
theorem dX16_single_191 : decode cX16_single 191 = .ok (.iconst 1, 1) := dk_4 (dk_at dksX16_single_8 7 rfl rfl)
theorem dX16_single_192 : decode cX16_single 192 = .ok (.iadd, 1) := dk_96 (dk_at dksX16_single_8 8 rfl rfl)
theorem dX16_single_193 : decode cX16_single 193 = .ok (.putfield 27, 3) := dk_181 0 27 (dk_at dksX16_single_8 9 rfl rfl)
theorem dX16_single_196 : decode cX16_single 196 = .ok (.iinc 2 1, 3) := dk_132 2 1 (dk_at dksX16_single_8 12 rfl rfl)
theorem dX16_single_199 : decode cX16_single 199 = .ok (.goto (-45), 3) := dk_167 255 211 (dk_at dksX16_single_8 15 rfl rfl)
theorem dX16_single_202 : decode cX16_single 202 = .ok (.new 105, 3) := dk_187 0 105 (dk_at dksX16_single_8 18 rfl rfl)
theorem dX16_single_205 : decode cX16_single 205 = .ok (.dup, 1) := dk_89 (dk_at dksX16_single_8 21 rfl rfl)
theorem dX16_single_206 : decode cX16_single 206 = .ok (.iload_n 1, 1) := dk_27 (dk_at dksX16_single_8 22 rfl rfl)
theorem dX16_single_207 : decode cX16_single 207 = .ok (.invokespecial 107, 3) := dk_183 0 107 (dk_at dksX16_single_9 0 rfl rfl)
theorem dX16_single_210 : decode cX16_single 210 = .ok (.areturn, 1) := dk_176 (dk_at dksX16_single_9 3 rfl rfl)
abbrev cX16_isOne : ByteArray := prog_17_method_5_code
def yX16_isOne : MethodName := ⟨RX16, "isOne", "(Ljava/lang/String;)Z"⟩
def dkwX16_isOne_0 : List UInt8 := [42, 182, 0, 39, 155, 0, 18, 43, 42, 182, 0, 39, 182, 0, 43, 155, 0, 7, 4, 167, 0, 4, 3, 172]
abbrev dktX16_isOne_0 : List UInt8 := dkwX16_isOne_0 ++ []
theorem dksX16_isOne_0 : cX16_isOne.data.toList.drop 0 = dktX16_isOne_0 := by decide +kernel
theorem dX16_isOne_0 : decode cX16_isOne 0 = .ok (.aload_n 0, 1) := dk_42 (dk_at dksX16_isOne_0 0 rfl rfl)
theorem dX16_isOne_1 : decode cX16_isOne 1 = .ok (.invokevirtual 39, 3) := dk_182 0 39 (dk_at dksX16_isOne_0 1 rfl rfl)
theorem dX16_isOne_4 : decode cX16_isOne 4 = .ok (.ifCond .lt 18, 3) := dk_155 0 18 (dk_at dksX16_isOne_0 4 rfl rfl)
theorem dX16_isOne_7 : decode cX16_isOne 7 = .ok (.aload_n 1, 1) := dk_43 (dk_at dksX16_isOne_0 7 rfl rfl)
theorem dX16_isOne_8 : decode cX16_isOne 8 = .ok (.aload_n 0, 1) := dk_42 (dk_at dksX16_isOne_0 8 rfl rfl)
theorem dX16_isOne_9 : decode cX16_isOne 9 = .ok (.invokevirtual 39, 3) := dk_182 0 39 (dk_at dksX16_isOne_0 9 rfl rfl)
theorem dX16_isOne_12 : decode cX16_isOne 12 = .ok (.invokevirtual 43, 3) := dk_182 0 43 (dk_at dksX16_isOne_0 12 rfl rfl)
theorem dX16_isOne_15 : decode cX16_isOne 15 = .ok (.ifCond .lt 7, 3) := dk_155 0 7 (dk_at dksX16_isOne_0 15 rfl rfl)
theorem dX16_isOne_18 : decode cX16_isOne 18 = .ok (.iconst 1, 1) := dk_4 (dk_at dksX16_isOne_0 18 rfl rfl)
theorem dX16_isOne_19 : decode cX16_isOne 19 = .ok (.goto 4, 3) := dk_167 0 4 (dk_at dksX16_isOne_0 19 rfl rfl)
theorem dX16_isOne_22 : decode cX16_isOne 22 = .ok (.iconst 0, 1) := dk_3 (dk_at dksX16_isOne_0 22 rfl rfl)
theorem dX16_isOne_23 : decode cX16_isOne 23 = .ok (.ireturn, 1) := dk_172 (dk_at dksX16_isOne_0 23 rfl rfl)
abbrev cX16_look : ByteArray := prog_17_method_3_code
def yX16_look : MethodName := ⟨RX16, "look", "()I"⟩
def dkwX16_look_1 : List UInt8 := [167, 0, 4, 2, 172]
abbrev dktX16_look_1 : List UInt8 := dkwX16_look_1 ++ []
def dkwX16_look_0 : List UInt8 := [42, 180, 0, 27, 42, 180, 0, 19, 162, 0, 19, 42, 180, 0, 15, 42, 180, 0, 27, 51, 17, 0, 255, 126]
abbrev dktX16_look_0 : List UInt8 := dkwX16_look_0 ++ dktX16_look_1
theorem dksX16_look_0 : cX16_look.data.toList.drop 0 = dktX16_look_0 := by decide +kernel
theorem dksX16_look_1 : cX16_look.data.toList.drop 24 = dktX16_look_1 := dk_seg dksX16_look_0 24 rfl rfl
theorem dX16_look_0 : decode cX16_look 0 = .ok (.aload_n 0, 1) := dk_42 (dk_at dksX16_look_0 0 rfl rfl)
theorem dX16_look_1 : decode cX16_look 1 = .ok (.getfield 27, 3) := dk_180 0 27 (dk_at dksX16_look_0 1 rfl rfl)
theorem dX16_look_4 : decode cX16_look 4 = .ok (.aload_n 0, 1) := dk_42 (dk_at dksX16_look_0 4 rfl rfl)
theorem dX16_look_5 : decode cX16_look 5 = .ok (.getfield 19, 3) := dk_180 0 19 (dk_at dksX16_look_0 5 rfl rfl)
theorem dX16_look_8 : decode cX16_look 8 = .ok (.if_icmp .ge 19, 3) := dk_162 0 19 (dk_at dksX16_look_0 8 rfl rfl)
theorem dX16_look_11 : decode cX16_look 11 = .ok (.aload_n 0, 1) := dk_42 (dk_at dksX16_look_0 11 rfl rfl)
theorem dX16_look_12 : decode cX16_look 12 = .ok (.getfield 15, 3) := dk_180 0 15 (dk_at dksX16_look_0 12 rfl rfl)
theorem dX16_look_15 : decode cX16_look 15 = .ok (.aload_n 0, 1) := dk_42 (dk_at dksX16_look_0 15 rfl rfl)
theorem dX16_look_16 : decode cX16_look 16 = .ok (.getfield 27, 3) := dk_180 0 27 (dk_at dksX16_look_0 16 rfl rfl)
theorem dX16_look_19 : decode cX16_look 19 = .ok (.baload, 1) := dk_51 (dk_at dksX16_look_0 19 rfl rfl)
theorem dX16_look_20 : decode cX16_look 20 = .ok (.sipush 255, 3) := dk_17 0 255 (dk_at dksX16_look_0 20 rfl rfl)
theorem dX16_look_23 : decode cX16_look 23 = .ok (.iand, 1) := dk_126 (dk_at dksX16_look_0 23 rfl rfl)
theorem dX16_look_24 : decode cX16_look 24 = .ok (.goto 4, 3) := dk_167 0 4 (dk_at dksX16_look_1 0 rfl rfl)
theorem dX16_look_27 : decode cX16_look 27 = .ok (.iconst (-1), 1) := dk_2 (dk_at dksX16_look_1 3 rfl rfl)
theorem dX16_look_28 : decode cX16_look 28 = .ok (.ireturn, 1) := dk_172 (dk_at dksX16_look_1 4 rfl rfl)
abbrev cX16_opens : ByteArray := prog_17_method_11_code
def yX16_opens : MethodName := ⟨RX16, "opens", "()V"⟩
def dkwX16_opens_1 : List UInt8 := [181, 0, 83, 42, 89, 180, 0, 27, 4, 96, 181, 0, 27, 177]
abbrev dktX16_opens_1 : List UInt8 := dkwX16_opens_1 ++ []
def dkwX16_opens_0 : List UInt8 := [42, 42, 180, 0, 83, 8, 162, 0, 7, 4, 167, 0, 4, 3, 182, 0, 30, 42, 89, 180, 0, 83, 4, 96]
abbrev dktX16_opens_0 : List UInt8 := dkwX16_opens_0 ++ dktX16_opens_1
theorem dksX16_opens_0 : cX16_opens.data.toList.drop 0 = dktX16_opens_0 := by decide +kernel
theorem dksX16_opens_1 : cX16_opens.data.toList.drop 24 = dktX16_opens_1 := dk_seg dksX16_opens_0 24 rfl rfl
theorem dX16_opens_0 : decode cX16_opens 0 = .ok (.aload_n 0, 1) := dk_42 (dk_at dksX16_opens_0 0 rfl rfl)
theorem dX16_opens_1 : decode cX16_opens 1 = .ok (.aload_n 0, 1) := dk_42 (dk_at dksX16_opens_0 1 rfl rfl)
theorem dX16_opens_2 : decode cX16_opens 2 = .ok (.getfield 83, 3) := dk_180 0 83 (dk_at dksX16_opens_0 2 rfl rfl)
theorem dX16_opens_5 : decode cX16_opens 5 = .ok (.iconst 5, 1) := dk_8 (dk_at dksX16_opens_0 5 rfl rfl)
theorem dX16_opens_6 : decode cX16_opens 6 = .ok (.if_icmp .ge 7, 3) := dk_162 0 7 (dk_at dksX16_opens_0 6 rfl rfl)
theorem dX16_opens_9 : decode cX16_opens 9 = .ok (.iconst 1, 1) := dk_4 (dk_at dksX16_opens_0 9 rfl rfl)
theorem dX16_opens_10 : decode cX16_opens 10 = .ok (.goto 4, 3) := dk_167 0 4 (dk_at dksX16_opens_0 10 rfl rfl)
theorem dX16_opens_13 : decode cX16_opens 13 = .ok (.iconst 0, 1) := dk_3 (dk_at dksX16_opens_0 13 rfl rfl)
theorem dX16_opens_14 : decode cX16_opens 14 = .ok (.invokevirtual 30, 3) := dk_182 0 30 (dk_at dksX16_opens_0 14 rfl rfl)
theorem dX16_opens_17 : decode cX16_opens 17 = .ok (.aload_n 0, 1) := dk_42 (dk_at dksX16_opens_0 17 rfl rfl)
theorem dX16_opens_18 : decode cX16_opens 18 = .ok (.dup, 1) := dk_89 (dk_at dksX16_opens_0 18 rfl rfl)
theorem dX16_opens_19 : decode cX16_opens 19 = .ok (.getfield 83, 3) := dk_180 0 83 (dk_at dksX16_opens_0 19 rfl rfl)
theorem dX16_opens_22 : decode cX16_opens 22 = .ok (.iconst 1, 1) := dk_4 (dk_at dksX16_opens_0 22 rfl rfl)
theorem dX16_opens_23 : decode cX16_opens 23 = .ok (.iadd, 1) := dk_96 (dk_at dksX16_opens_0 23 rfl rfl)
theorem dX16_opens_24 : decode cX16_opens 24 = .ok (.putfield 83, 3) := dk_181 0 83 (dk_at dksX16_opens_1 0 rfl rfl)
theorem dX16_opens_27 : decode cX16_opens 27 = .ok (.aload_n 0, 1) := dk_42 (dk_at dksX16_opens_1 3 rfl rfl)
theorem dX16_opens_28 : decode cX16_opens 28 = .ok (.dup, 1) := dk_89 (dk_at dksX16_opens_1 4 rfl rfl)
theorem dX16_opens_29 : decode cX16_opens 29 = .ok (.getfield 27, 3) := dk_180 0 27 (dk_at dksX16_opens_1 5 rfl rfl)
theorem dX16_opens_32 : decode cX16_opens 32 = .ok (.iconst 1, 1) := dk_4 (dk_at dksX16_opens_1 8 rfl rfl)
theorem dX16_opens_33 : decode cX16_opens 33 = .ok (.iadd, 1) := dk_96 (dk_at dksX16_opens_1 9 rfl rfl)
theorem dX16_opens_34 : decode cX16_opens 34 = .ok (.putfield 27, 3) := dk_181 0 27 (dk_at dksX16_opens_1 10 rfl rfl)
theorem dX16_opens_37 : decode cX16_opens 37 = .ok (.return_, 1) := dk_177 (dk_at dksX16_opens_1 13 rfl rfl)
abbrev cX16_fault : ByteArray := prog_17_method_4_code
def yX16_fault : MethodName := ⟨RX16, "fault", "(Z)V"⟩
def dkwX16_fault_0 : List UInt8 := [27, 154, 0, 15, 187, 0, 34, 89, 42, 180, 0, 27, 183, 0, 36, 191, 177]
abbrev dktX16_fault_0 : List UInt8 := dkwX16_fault_0 ++ []
theorem dksX16_fault_0 : cX16_fault.data.toList.drop 0 = dktX16_fault_0 := by decide +kernel
theorem dX16_fault_0 : decode cX16_fault 0 = .ok (.iload_n 1, 1) := dk_27 (dk_at dksX16_fault_0 0 rfl rfl)
theorem dX16_fault_1 : decode cX16_fault 1 = .ok (.ifCond .ne 15, 3) := dk_154 0 15 (dk_at dksX16_fault_0 1 rfl rfl)
theorem dX16_fault_4 : decode cX16_fault 4 = .ok (.new 34, 3) := dk_187 0 34 (dk_at dksX16_fault_0 4 rfl rfl)
theorem dX16_fault_7 : decode cX16_fault 7 = .ok (.dup, 1) := dk_89 (dk_at dksX16_fault_0 7 rfl rfl)
theorem dX16_fault_8 : decode cX16_fault 8 = .ok (.aload_n 0, 1) := dk_42 (dk_at dksX16_fault_0 8 rfl rfl)
theorem dX16_fault_9 : decode cX16_fault 9 = .ok (.getfield 27, 3) := dk_180 0 27 (dk_at dksX16_fault_0 9 rfl rfl)
theorem dX16_fault_12 : decode cX16_fault 12 = .ok (.invokespecial 36, 3) := dk_183 0 36 (dk_at dksX16_fault_0 12 rfl rfl)
theorem dX16_fault_15 : decode cX16_fault 15 = .ok (.athrow, 1) := dk_191 (dk_at dksX16_fault_0 15 rfl rfl)
theorem dX16_fault_16 : decode cX16_fault 16 = .ok (.return_, 1) := dk_177 (dk_at dksX16_fault_0 16 rfl rfl)
theorem q102 : (Jvm.Cond.initialized "WellRefuses$Reader") ∈ lw_all := lw_g (lw_at lw_m1 21 rfl) rfl
theorem q648 : (Jvm.Cond.instantiable "WellRefuses$Reader" (5 : Nat)) ∈ lw_all := lw_g (lw_at lw_m3 87 rfl) rfl
theorem q652 : (Jvm.Cond.instanceMethod ({ cls := "WellRefuses$Reader", name := "<init>", desc := "(Ljava/lang/String;[BI)V" } : Jvm.MethodName)) ∈ lw_all := lw_g (lw_at lw_m3 91 rfl) rfl
theorem q653 : (Jvm.Cond.code ({ cls := "WellRefuses$Reader", name := "<init>", desc := "(Ljava/lang/String;[BI)V" } : Jvm.MethodName) prog_17_method_1_code (4 : Nat) (Option.none : Option Jvm.ClassFile.FieldType)) ∈ lw_all := lw_g (lw_at lw_m3 92 rfl) rfl
theorem q654 : (Jvm.Cond.methodLink "WellRefuses$Reader" (3 : Nat) ({ cls := "java/lang/Object", name := "<init>", desc := "()V" } : Jvm.MethodName)) ∈ lw_all := lw_g (lw_at lw_m3 93 rfl) rfl
theorem q655 : (Jvm.Cond.fieldLink "WellRefuses$Reader" (9 : Nat) "WellRefuses$Reader" "names" "Ljava/lang/String;") ∈ lw_all := lw_g (lw_at lw_m3 94 rfl) rfl
theorem q656 : (Jvm.Cond.fieldLink "WellRefuses$Reader" (15 : Nat) "WellRefuses$Reader" "bytes" "[B") ∈ lw_all := lw_g (lw_at lw_m3 95 rfl) rfl
theorem q657 : (Jvm.Cond.fieldLink "WellRefuses$Reader" (19 : Nat) "WellRefuses$Reader" "size" "I") ∈ lw_all := lw_g (lw_at lw_m3 96 rfl) rfl
theorem q658 : (Jvm.Cond.fieldLink "WellRefuses$Reader" (27 : Nat) "WellRefuses$Reader" "at" "I") ∈ lw_all := lw_g (lw_at lw_m3 97 rfl) rfl
theorem q659 : (Jvm.Cond.fieldLink "WellRefuses$Reader" (83 : Nat) "WellRefuses$Reader" "open" "I") ∈ lw_all := lw_g (lw_at lw_m3 98 rfl) rfl
theorem q660 : (Jvm.Cond.laysFinal "WellRefuses$Reader" "WellRefuses$Reader" "names" "Ljava/lang/String;") ∈ lw_all := lw_g (lw_at lw_m3 99 rfl) rfl
theorem q661 : (Jvm.Cond.soleField "WellRefuses$Reader" "names") ∈ lw_all := lw_g (lw_at lw_m3 100 rfl) rfl
theorem q662 : (Jvm.Cond.laysFinal "WellRefuses$Reader" "WellRefuses$Reader" "bytes" "[B") ∈ lw_all := lw_g (lw_at lw_m3 101 rfl) rfl
theorem q663 : (Jvm.Cond.soleField "WellRefuses$Reader" "bytes") ∈ lw_all := lw_g (lw_at lw_m3 102 rfl) rfl
theorem q664 : (Jvm.Cond.laysFinal "WellRefuses$Reader" "WellRefuses$Reader" "size" "I") ∈ lw_all := lw_g (lw_at lw_m3 103 rfl) rfl
theorem q665 : (Jvm.Cond.soleField "WellRefuses$Reader" "size") ∈ lw_all := lw_g (lw_at lw_m3 104 rfl) rfl
theorem q666 : (Jvm.Cond.lays "WellRefuses$Reader" "WellRefuses$Reader" "at" "I") ∈ lw_all := lw_g (lw_at lw_m3 105 rfl) rfl
theorem q667 : (Jvm.Cond.soleField "WellRefuses$Reader" "at") ∈ lw_all := lw_g (lw_at lw_m3 106 rfl) rfl
theorem q668 : (Jvm.Cond.lays "WellRefuses$Reader" "WellRefuses$Reader" "open" "I") ∈ lw_all := lw_g (lw_at lw_m3 107 rfl) rfl
theorem q669 : (Jvm.Cond.soleField "WellRefuses$Reader" "open") ∈ lw_all := lw_g (lw_at lw_m3 108 rfl) rfl
theorem q670 : (Jvm.Cond.superclass "WellRefuses$Reader" "java/lang/Object") ∈ lw_all := lw_g (lw_at lw_m3 109 rfl) rfl
theorem q672 : (Jvm.Cond.instanceMethod ({ cls := "WellRefuses$Reader", name := "read", desc := "()LWellRefuses$Term;" } : Jvm.MethodName)) ∈ lw_all := lw_g (lw_at lw_m3 111 rfl) rfl
theorem q673 : (Jvm.Cond.selects "WellRefuses$Reader" ({ cls := "WellRefuses$Reader", name := "read", desc := "()LWellRefuses$Term;" } : Jvm.MethodName) ({ cls := "WellRefuses$Reader", name := "read", desc := "()LWellRefuses$Term;" } : Jvm.MethodName)) ∈ lw_all := lw_g (lw_at lw_m3 112 rfl) rfl
theorem q674 : (Jvm.Cond.code ({ cls := "WellRefuses$Reader", name := "read", desc := "()LWellRefuses$Term;" } : Jvm.MethodName) prog_17_method_2_code (2 : Nat) (Option.some (Jvm.ClassFile.FieldType.object "WellRefuses$Term"))) ∈ lw_all := lw_g (lw_at lw_m3 113 rfl) rfl
theorem q675 : (Jvm.Cond.methodLink "WellRefuses$Reader" (23 : Nat) ({ cls := "WellRefuses$Reader", name := "either", desc := "()LWellRefuses$Term;" } : Jvm.MethodName)) ∈ lw_all := lw_g (lw_at lw_m3 114 rfl) rfl
theorem q676 : (Jvm.Cond.privateMethod ({ cls := "WellRefuses$Reader", name := "either", desc := "()LWellRefuses$Term;" } : Jvm.MethodName)) ∈ lw_tbl := lw_at lw_m3 115 rfl
theorem q677 : (Jvm.Cond.instanceMethod ({ cls := "WellRefuses$Reader", name := "either", desc := "()LWellRefuses$Term;" } : Jvm.MethodName)) ∈ lw_all := lw_g (lw_at lw_m3 116 rfl) rfl
theorem q678 : (Jvm.Cond.code ({ cls := "WellRefuses$Reader", name := "either", desc := "()LWellRefuses$Term;" } : Jvm.MethodName) prog_17_method_6_code (2 : Nat) (Option.some (Jvm.ClassFile.FieldType.object "WellRefuses$Term"))) ∈ lw_all := lw_g (lw_at lw_m3 117 rfl) rfl
theorem q679 : (Jvm.Cond.methodLink "WellRefuses$Reader" (49 : Nat) ({ cls := "WellRefuses$Reader", name := "both", desc := "()LWellRefuses$Term;" } : Jvm.MethodName)) ∈ lw_all := lw_g (lw_at lw_m3 118 rfl) rfl
theorem q680 : (Jvm.Cond.privateMethod ({ cls := "WellRefuses$Reader", name := "both", desc := "()LWellRefuses$Term;" } : Jvm.MethodName)) ∈ lw_tbl := lw_at lw_m3 119 rfl
theorem q681 : (Jvm.Cond.instanceMethod ({ cls := "WellRefuses$Reader", name := "both", desc := "()LWellRefuses$Term;" } : Jvm.MethodName)) ∈ lw_all := lw_g (lw_at lw_m3 120 rfl) rfl
theorem q682 : (Jvm.Cond.code ({ cls := "WellRefuses$Reader", name := "both", desc := "()LWellRefuses$Term;" } : Jvm.MethodName) prog_17_method_7_code (2 : Nat) (Option.some (Jvm.ClassFile.FieldType.object "WellRefuses$Term"))) ∈ lw_all := lw_g (lw_at lw_m3 121 rfl) rfl
theorem q683 : (Jvm.Cond.methodLink "WellRefuses$Reader" (63 : Nat) ({ cls := "WellRefuses$Reader", name := "relation", desc := "()LWellRefuses$Term;" } : Jvm.MethodName)) ∈ lw_all := lw_g (lw_at lw_m3 122 rfl) rfl
theorem q684 : (Jvm.Cond.privateMethod ({ cls := "WellRefuses$Reader", name := "relation", desc := "()LWellRefuses$Term;" } : Jvm.MethodName)) ∈ lw_tbl := lw_at lw_m3 123 rfl
theorem q685 : (Jvm.Cond.instanceMethod ({ cls := "WellRefuses$Reader", name := "relation", desc := "()LWellRefuses$Term;" } : Jvm.MethodName)) ∈ lw_all := lw_g (lw_at lw_m3 124 rfl) rfl
theorem q686 : (Jvm.Cond.code ({ cls := "WellRefuses$Reader", name := "relation", desc := "()LWellRefuses$Term;" } : Jvm.MethodName) prog_17_method_8_code (3 : Nat) (Option.some (Jvm.ClassFile.FieldType.object "WellRefuses$Term"))) ∈ lw_all := lw_g (lw_at lw_m3 125 rfl) rfl
theorem q687 : (Jvm.Cond.methodLink "WellRefuses$Reader" (68 : Nat) ({ cls := "WellRefuses$Reader", name := "sum", desc := "()LWellRefuses$Term;" } : Jvm.MethodName)) ∈ lw_all := lw_g (lw_at lw_m3 126 rfl) rfl
theorem q688 : (Jvm.Cond.privateMethod ({ cls := "WellRefuses$Reader", name := "sum", desc := "()LWellRefuses$Term;" } : Jvm.MethodName)) ∈ lw_tbl := lw_at lw_m3 127 rfl
theorem q689 : (Jvm.Cond.instanceMethod ({ cls := "WellRefuses$Reader", name := "sum", desc := "()LWellRefuses$Term;" } : Jvm.MethodName)) ∈ lw_all := lw_g (lw_at lw_m3 128 rfl) rfl
theorem q690 : (Jvm.Cond.code ({ cls := "WellRefuses$Reader", name := "sum", desc := "()LWellRefuses$Term;" } : Jvm.MethodName) prog_17_method_9_code (3 : Nat) (Option.some (Jvm.ClassFile.FieldType.object "WellRefuses$Term"))) ∈ lw_all := lw_g (lw_at lw_m3 129 rfl) rfl
theorem q691 : (Jvm.Cond.methodLink "WellRefuses$Reader" (73 : Nat) ({ cls := "WellRefuses$Reader", name := "product", desc := "()LWellRefuses$Term;" } : Jvm.MethodName)) ∈ lw_all := lw_g (lw_at lw_m3 130 rfl) rfl
theorem q692 : (Jvm.Cond.privateMethod ({ cls := "WellRefuses$Reader", name := "product", desc := "()LWellRefuses$Term;" } : Jvm.MethodName)) ∈ lw_tbl := lw_at lw_m3 131 rfl
theorem q693 : (Jvm.Cond.instanceMethod ({ cls := "WellRefuses$Reader", name := "product", desc := "()LWellRefuses$Term;" } : Jvm.MethodName)) ∈ lw_all := lw_g (lw_at lw_m3 132 rfl) rfl
theorem q694 : (Jvm.Cond.code ({ cls := "WellRefuses$Reader", name := "product", desc := "()LWellRefuses$Term;" } : Jvm.MethodName) prog_17_method_10_code (3 : Nat) (Option.some (Jvm.ClassFile.FieldType.object "WellRefuses$Term"))) ∈ lw_all := lw_g (lw_at lw_m3 133 rfl) rfl
theorem q695 : (Jvm.Cond.methodLink "WellRefuses$Reader" (78 : Nat) ({ cls := "WellRefuses$Reader", name := "single", desc := "()LWellRefuses$Term;" } : Jvm.MethodName)) ∈ lw_all := lw_g (lw_at lw_m3 134 rfl) rfl
theorem q696 : (Jvm.Cond.privateMethod ({ cls := "WellRefuses$Reader", name := "single", desc := "()LWellRefuses$Term;" } : Jvm.MethodName)) ∈ lw_tbl := lw_at lw_m3 135 rfl
theorem q697 : (Jvm.Cond.instanceMethod ({ cls := "WellRefuses$Reader", name := "single", desc := "()LWellRefuses$Term;" } : Jvm.MethodName)) ∈ lw_all := lw_g (lw_at lw_m3 136 rfl) rfl
theorem q698 : (Jvm.Cond.code ({ cls := "WellRefuses$Reader", name := "single", desc := "()LWellRefuses$Term;" } : Jvm.MethodName) prog_17_method_12_code (3 : Nat) (Option.some (Jvm.ClassFile.FieldType.object "WellRefuses$Term"))) ∈ lw_all := lw_g (lw_at lw_m3 137 rfl) rfl
theorem q699 : (Jvm.Cond.methodLink "WellRefuses$Reader" (54 : Nat) ({ cls := "WellRefuses$Reader", name := "isOne", desc := "(Ljava/lang/String;)Z" } : Jvm.MethodName)) ∈ lw_all := lw_g (lw_at lw_m3 138 rfl) rfl
theorem q700 : (Jvm.Cond.privateMethod ({ cls := "WellRefuses$Reader", name := "isOne", desc := "(Ljava/lang/String;)Z" } : Jvm.MethodName)) ∈ lw_tbl := lw_at lw_m3 139 rfl
theorem q701 : (Jvm.Cond.instanceMethod ({ cls := "WellRefuses$Reader", name := "isOne", desc := "(Ljava/lang/String;)Z" } : Jvm.MethodName)) ∈ lw_all := lw_g (lw_at lw_m3 140 rfl) rfl
theorem q702 : (Jvm.Cond.code ({ cls := "WellRefuses$Reader", name := "isOne", desc := "(Ljava/lang/String;)Z" } : Jvm.MethodName) prog_17_method_5_code (2 : Nat) (Option.some Jvm.ClassFile.FieldType.boolean)) ∈ lw_all := lw_g (lw_at lw_m3 141 rfl) rfl
theorem q703 : (Jvm.Cond.methodLink "WellRefuses$Reader" (39 : Nat) ({ cls := "WellRefuses$Reader", name := "look", desc := "()I" } : Jvm.MethodName)) ∈ lw_all := lw_g (lw_at lw_m3 142 rfl) rfl
theorem q704 : (Jvm.Cond.privateMethod ({ cls := "WellRefuses$Reader", name := "look", desc := "()I" } : Jvm.MethodName)) ∈ lw_tbl := lw_at lw_m3 143 rfl
theorem q705 : (Jvm.Cond.instanceMethod ({ cls := "WellRefuses$Reader", name := "look", desc := "()I" } : Jvm.MethodName)) ∈ lw_all := lw_g (lw_at lw_m3 144 rfl) rfl
theorem q706 : (Jvm.Cond.code ({ cls := "WellRefuses$Reader", name := "look", desc := "()I" } : Jvm.MethodName) prog_17_method_3_code (1 : Nat) (Option.some Jvm.ClassFile.FieldType.int)) ∈ lw_all := lw_g (lw_at lw_m3 145 rfl) rfl
theorem q707 : (Jvm.Cond.methodLink "WellRefuses$Reader" (43 : Nat) ({ cls := "java/lang/String", name := "indexOf", desc := "(I)I" } : Jvm.MethodName)) ∈ lw_all := lw_g (lw_at lw_m3 146 rfl) rfl
theorem q789 : (Jvm.Cond.classLink "WellRefuses$Reader" (86 : Nat) "WellRefuses$Named") ∈ lw_all := lw_g (lw_at lw_m3 228 rfl) rfl
theorem q791 : (Jvm.Cond.methodLink "WellRefuses$Reader" (88 : Nat) ({ cls := "WellRefuses$Named", name := "<init>", desc := "(I)V" } : Jvm.MethodName)) ∈ lw_all := lw_g (lw_at lw_m3 230 rfl) rfl
theorem q802 : (Jvm.Cond.stringRef "WellRefuses$Reader" (89 : Nat) "!") ∈ lw_tbl := lw_at lw_m4 1 rfl
theorem q803 : (Jvm.Cond.methodLink "WellRefuses$Reader" (91 : Nat) ({ cls := "WellRefuses$Reader", name := "opens", desc := "()V" } : Jvm.MethodName)) ∈ lw_all := lw_g (lw_at lw_m4 2 rfl) rfl
theorem q804 : (Jvm.Cond.privateMethod ({ cls := "WellRefuses$Reader", name := "opens", desc := "()V" } : Jvm.MethodName)) ∈ lw_tbl := lw_at lw_m4 3 rfl
theorem q805 : (Jvm.Cond.instanceMethod ({ cls := "WellRefuses$Reader", name := "opens", desc := "()V" } : Jvm.MethodName)) ∈ lw_all := lw_g (lw_at lw_m4 4 rfl) rfl
theorem q806 : (Jvm.Cond.code ({ cls := "WellRefuses$Reader", name := "opens", desc := "()V" } : Jvm.MethodName) prog_17_method_11_code (1 : Nat) (Option.none : Option Jvm.ClassFile.FieldType)) ∈ lw_all := lw_g (lw_at lw_m4 5 rfl) rfl
theorem q807 : (Jvm.Cond.methodLink "WellRefuses$Reader" (30 : Nat) ({ cls := "WellRefuses$Reader", name := "fault", desc := "(Z)V" } : Jvm.MethodName)) ∈ lw_all := lw_g (lw_at lw_m4 6 rfl) rfl
theorem q808 : (Jvm.Cond.privateMethod ({ cls := "WellRefuses$Reader", name := "fault", desc := "(Z)V" } : Jvm.MethodName)) ∈ lw_tbl := lw_at lw_m4 7 rfl
theorem q809 : (Jvm.Cond.instanceMethod ({ cls := "WellRefuses$Reader", name := "fault", desc := "(Z)V" } : Jvm.MethodName)) ∈ lw_all := lw_g (lw_at lw_m4 8 rfl) rfl
theorem q810 : (Jvm.Cond.code ({ cls := "WellRefuses$Reader", name := "fault", desc := "(Z)V" } : Jvm.MethodName) prog_17_method_4_code (2 : Nat) (Option.none : Option Jvm.ClassFile.FieldType)) ∈ lw_all := lw_g (lw_at lw_m4 9 rfl) rfl
theorem q811 : (Jvm.Cond.classLink "WellRefuses$Reader" (34 : Nat) "WellRefuses$Fault") ∈ lw_all := lw_g (lw_at lw_m4 10 rfl) rfl
theorem q820 : (Jvm.Cond.methodLink "WellRefuses$Reader" (36 : Nat) ({ cls := "WellRefuses$Fault", name := "<init>", desc := "(I)V" } : Jvm.MethodName)) ∈ lw_all := lw_g (lw_at lw_m4 19 rfl) rfl
theorem q830 : (Jvm.Cond.classLink "WellRefuses$Reader" (94 : Nat) "WellRefuses$Turned") ∈ lw_all := lw_g (lw_at lw_m4 29 rfl) rfl
theorem q832 : (Jvm.Cond.methodLink "WellRefuses$Reader" (96 : Nat) ({ cls := "WellRefuses$Turned", name := "<init>", desc := "(LWellRefuses$Term;)V" } : Jvm.MethodName)) ∈ lw_all := lw_g (lw_at lw_m4 31 rfl) rfl
theorem q840 : (Jvm.Cond.stringRef "WellRefuses$Reader" (99 : Nat) "(") ∈ lw_tbl := lw_at lw_m4 39 rfl
theorem q841 : (Jvm.Cond.methodLinkNest "WellRefuses$Reader" (101 : Nat) ({ cls := "WellRefuses", name := "in", desc := "(III)Z" } : Jvm.MethodName) "WellRefuses") ∈ lw_tbl := lw_at lw_m4 40 rfl
theorem q842 : (Jvm.Cond.classLink "WellRefuses$Reader" (105 : Nat) "WellRefuses$Figure") ∈ lw_all := lw_g (lw_at lw_m4 41 rfl) rfl
theorem q844 : (Jvm.Cond.methodLink "WellRefuses$Reader" (107 : Nat) ({ cls := "WellRefuses$Figure", name := "<init>", desc := "(I)V" } : Jvm.MethodName)) ∈ lw_all := lw_g (lw_at lw_m4 43 rfl) rfl
theorem q852 : (Jvm.Cond.stringRef "WellRefuses$Reader" (81 : Nat) "*/%") ∈ lw_tbl := lw_at lw_m4 51 rfl
theorem q853 : (Jvm.Cond.classLink "WellRefuses$Reader" (58 : Nat) "WellRefuses$Two") ∈ lw_all := lw_g (lw_at lw_m4 52 rfl) rfl
theorem q855 : (Jvm.Cond.methodLink "WellRefuses$Reader" (60 : Nat) ({ cls := "WellRefuses$Two", name := "<init>", desc := "(ILWellRefuses$Term;LWellRefuses$Term;)V" } : Jvm.MethodName)) ∈ lw_all := lw_g (lw_at lw_m4 54 rfl) rfl
theorem q869 : (Jvm.Cond.stringRef "WellRefuses$Reader" (76 : Nat) "+-") ∈ lw_tbl := lw_at lw_m4 68 rfl
theorem q870 : (Jvm.Cond.stringRef "WellRefuses$Reader" (71 : Nat) "<=>") ∈ lw_tbl := lw_at lw_m4 69 rfl
theorem q871 : (Jvm.Cond.stringRef "WellRefuses$Reader" (66 : Nat) "&") ∈ lw_tbl := lw_at lw_m4 70 rfl
theorem q872 : (Jvm.Cond.stringRef "WellRefuses$Reader" (52 : Nat) "|") ∈ lw_tbl := lw_at lw_m4 71 rfl

