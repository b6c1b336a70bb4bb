/-! LimbBenches$State -/
set_option maxRecDepth 100000
set_option maxRecDepth 100000 in
set_option maxRecDepth 100000 in
abbrev cX2_init : ByteArray := prog_25_method_1_code
def yX2_init : MethodName := ⟨RX2, "<init>", "()V"⟩
def dkwX2_init_6 : List UInt8 := [181, 0, 54, 177]
abbrev dktX2_init_6 : List UInt8 := dkwX2_init_6 ++ []
def dkwX2_init_5 : List UInt8 := [183, 0, 11, 181, 0, 44, 42, 16, 6, 188, 10, 181, 0, 47, 42, 16, 12, 188, 10, 181, 0, 51, 42, 4]
abbrev dktX2_init_5 : List UInt8 := dkwX2_init_5 ++ dktX2_init_6
def dkwX2_init_4 : List UInt8 := [183, 0, 11, 181, 0, 38, 42, 187, 0, 9, 89, 4, 183, 0, 11, 181, 0, 41, 42, 187, 0, 9, 89, 4]
abbrev dktX2_init_4 : List UInt8 := dkwX2_init_4 ++ dktX2_init_5
def dkwX2_init_3 : List UInt8 := [183, 0, 11, 181, 0, 32, 42, 187, 0, 9, 89, 4, 183, 0, 11, 181, 0, 35, 42, 187, 0, 9, 89, 4]
abbrev dktX2_init_3 : List UInt8 := dkwX2_init_3 ++ dktX2_init_4
def dkwX2_init_2 : List UInt8 := [183, 0, 11, 181, 0, 26, 42, 187, 0, 9, 89, 4, 183, 0, 11, 181, 0, 29, 42, 187, 0, 9, 89, 4]
abbrev dktX2_init_2 : List UInt8 := dkwX2_init_2 ++ dktX2_init_3
def dkwX2_init_1 : List UInt8 := [183, 0, 11, 181, 0, 20, 42, 187, 0, 9, 89, 4, 183, 0, 11, 181, 0, 23, 42, 187, 0, 9, 89, 4]
abbrev dktX2_init_1 : List UInt8 := dkwX2_init_1 ++ dktX2_init_2
def dkwX2_init_0 : List UInt8 := [42, 183, 0, 3, 42, 187, 0, 9, 89, 4, 183, 0, 11, 181, 0, 14, 42, 187, 0, 9, 89, 4]
abbrev dktX2_init_0 : List UInt8 := dkwX2_init_0 ++ dktX2_init_1
theorem dksX2_init_0 : cX2_init.data.toList.drop 0 = dktX2_init_0 := by decide +kernel
theorem dksX2_init_1 : cX2_init.data.toList.drop 22 = dktX2_init_1 := dk_seg dksX2_init_0 22 rfl rfl
theorem dksX2_init_2 : cX2_init.data.toList.drop 46 = dktX2_init_2 := dk_seg dksX2_init_1 24 rfl rfl
theorem dksX2_init_3 : cX2_init.data.toList.drop 70 = dktX2_init_3 := dk_seg dksX2_init_2 24 rfl rfl
theorem dksX2_init_4 : cX2_init.data.toList.drop 94 = dktX2_init_4 := dk_seg dksX2_init_3 24 rfl rfl
theorem dksX2_init_5 : cX2_init.data.toList.drop 118 = dktX2_init_5 := dk_seg dksX2_init_4 24 rfl rfl
theorem dksX2_init_6 : cX2_init.data.toList.drop 142 = dktX2_init_6 := dk_seg dksX2_init_5 24 rfl rfl
theorem dX2_init_0 : decode cX2_init 0 = .ok (.aload_n 0, 1) := dk_42 (dk_at dksX2_init_0 0 rfl rfl)
theorem dX2_init_1 : decode cX2_init 1 = .ok (.invokespecial 3, 3) := dk_183 0 3 (dk_at dksX2_init_0 1 rfl rfl)
theorem dX2_init_4 : decode cX2_init 4 = .ok (.aload_n 0, 1) := dk_42 (dk_at dksX2_init_0 4 rfl rfl)
theorem dX2_init_5 : decode cX2_init 5 = .ok (.new 9, 3) := dk_187 0 9 (dk_at dksX2_init_0 5 rfl rfl)
theorem dX2_init_8 : decode cX2_init 8 = .ok (.dup, 1) := dk_89 (dk_at dksX2_init_0 8 rfl rfl)
theorem dX2_init_9 : decode cX2_init 9 = .ok (.iconst 1, 1) := dk_4 (dk_at dksX2_init_0 9 rfl rfl)
theorem dX2_init_10 : decode cX2_init 10 = .ok (.invokespecial 11, 3) := dk_183 0 11 (dk_at dksX2_init_0 10 rfl rfl)
theorem dX2_init_13 : decode cX2_init 13 = .ok (.putfield 14, 3) := dk_181 0 14 (dk_at dksX2_init_0 13 rfl rfl)
theorem dX2_init_16 : decode cX2_init 16 = .ok (.aload_n 0, 1) := dk_42 (dk_at dksX2_init_0 16 rfl rfl)
theorem dX2_init_17 : decode cX2_init 17 = .ok (.new 9, 3) := dk_187 0 9 (dk_at dksX2_init_0 17 rfl rfl)
theorem dX2_init_20 : decode cX2_init 20 = .ok (.dup, 1) := dk_89 (dk_at dksX2_init_0 20 rfl rfl)
theorem dX2_init_21 : decode cX2_init 21 = .ok (.iconst 1, 1) := dk_4 (dk_at dksX2_init_0 21 rfl rfl)
theorem dX2_init_22 : decode cX2_init 22 = .ok (.invokespecial 11, 3) := dk_183 0 11 (dk_at dksX2_init_1 0 rfl rfl)
theorem dX2_init_25 : decode cX2_init 25 = .ok (.putfield 20, 3) := dk_181 0 20 (dk_at dksX2_init_1 3 rfl rfl)
theorem dX2_init_28 : decode cX2_init 28 = .ok (.aload_n 0, 1) := dk_42 (dk_at dksX2_init_1 6 rfl rfl)
theorem dX2_init_29 : decode cX2_init 29 = .ok (.new 9, 3) := dk_187 0 9 (dk_at dksX2_init_1 7 rfl rfl)
theorem dX2_init_32 : decode cX2_init 32 = .ok (.dup, 1) := dk_89 (dk_at dksX2_init_1 10 rfl rfl)
theorem dX2_init_33 : decode cX2_init 33 = .ok (.iconst 1, 1) := dk_4 (dk_at dksX2_init_1 11 rfl rfl)
theorem dX2_init_34 : decode cX2_init 34 = .ok (.invokespecial 11, 3) := dk_183 0 11 (dk_at dksX2_init_1 12 rfl rfl)
theorem dX2_init_37 : decode cX2_init 37 = .ok (.putfield 23, 3) := dk_181 0 23 (dk_at dksX2_init_1 15 rfl rfl)
theorem dX2_init_40 : decode cX2_init 40 = .ok (.aload_n 0, 1) := dk_42 (dk_at dksX2_init_1 18 rfl rfl)
theorem dX2_init_41 : decode cX2_init 41 = .ok (.new 9, 3) := dk_187 0 9 (dk_at dksX2_init_1 19 rfl rfl)
theorem dX2_init_44 : decode cX2_init 44 = .ok (.dup, 1) := dk_89 (dk_at dksX2_init_1 22 rfl rfl)
theorem dX2_init_45 : decode cX2_init 45 = .ok (.iconst 1, 1) := dk_4 (dk_at dksX2_init_1 23 rfl rfl)
theorem dX2_init_46 : decode cX2_init 46 = .ok (.invokespecial 11, 3) := dk_183 0 11 (dk_at dksX2_init_2 0 rfl rfl)
theorem dX2_init_49 : decode cX2_init 49 = .ok (.putfield 26, 3) := dk_181 0 26 (dk_at dksX2_init_2 3 rfl rfl)
theorem dX2_init_52 : decode cX2_init 52 = .ok (.aload_n 0, 1) := dk_42 (dk_at dksX2_init_2 6 rfl rfl)
theorem dX2_init_53 : decode cX2_init 53 = .ok (.new 9, 3) := dk_187 0 9 (dk_at dksX2_init_2 7 rfl rfl)
theorem dX2_init_56 : decode cX2_init 56 = .ok (.dup, 1) := dk_89 (dk_at dksX2_init_2 10 rfl rfl)
theorem dX2_init_57 : decode cX2_init 57 = .ok (.iconst 1, 1) := dk_4 (dk_at dksX2_init_2 11 rfl rfl)
theorem dX2_init_58 : decode cX2_init 58 = .ok (.invokespecial 11, 3) := dk_183 0 11 (dk_at dksX2_init_2 12 rfl rfl)
theorem dX2_init_61 : decode cX2_init 61 = .ok (.putfield 29, 3) := dk_181 0 29 (dk_at dksX2_init_2 15 rfl rfl)
theorem dX2_init_64 : decode cX2_init 64 = .ok (.aload_n 0, 1) := dk_42 (dk_at dksX2_init_2 18 rfl rfl)
theorem dX2_init_65 : decode cX2_init 65 = .ok (.new 9, 3) := dk_187 0 9 (dk_at dksX2_init_2 19 rfl rfl)
theorem dX2_init_68 : decode cX2_init 68 = .ok (.dup, 1) := dk_89 (dk_at dksX2_init_2 22 rfl rfl)
theorem dX2_init_69 : decode cX2_init 69 = .ok (.iconst 1, 1) := dk_4 (dk_at dksX2_init_2 23 rfl rfl)
theorem dX2_init_70 : decode cX2_init 70 = .ok (.invokespecial 11, 3) := dk_183 0 11 (dk_at dksX2_init_3 0 rfl rfl)
theorem dX2_init_73 : decode cX2_init 73 = .ok (.putfield 32, 3) := dk_181 0 32 (dk_at dksX2_init_3 3 rfl rfl)
theorem dX2_init_76 : decode cX2_init 76 = .ok (.aload_n 0, 1) := dk_42 (dk_at dksX2_init_3 6 rfl rfl)
theorem dX2_init_77 : decode cX2_init 77 = .ok (.new 9, 3) := dk_187 0 9 (dk_at dksX2_init_3 7 rfl rfl)
theorem dX2_init_80 : decode cX2_init 80 = .ok (.dup, 1) := dk_89 (dk_at dksX2_init_3 10 rfl rfl)
theorem dX2_init_81 : decode cX2_init 81 = .ok (.iconst 1, 1) := dk_4 (dk_at dksX2_init_3 11 rfl rfl)
theorem dX2_init_82 : decode cX2_init 82 = .ok (.invokespecial 11, 3) := dk_183 0 11 (dk_at dksX2_init_3 12 rfl rfl)
theorem dX2_init_85 : decode cX2_init 85 = .ok (.putfield 35, 3) := dk_181 0 35 (dk_at dksX2_init_3 15 rfl rfl)
theorem dX2_init_88 : decode cX2_init 88 = .ok (.aload_n 0, 1) := dk_42 (dk_at dksX2_init_3 18 rfl rfl)
theorem dX2_init_89 : decode cX2_init 89 = .ok (.new 9, 3) := dk_187 0 9 (dk_at dksX2_init_3 19 rfl rfl)
theorem dX2_init_92 : decode cX2_init 92 = .ok (.dup, 1) := dk_89 (dk_at dksX2_init_3 22 rfl rfl)
theorem dX2_init_93 : decode cX2_init 93 = .ok (.iconst 1, 1) := dk_4 (dk_at dksX2_init_3 23 rfl rfl)
theorem dX2_init_94 : decode cX2_init 94 = .ok (.invokespecial 11, 3) := dk_183 0 11 (dk_at dksX2_init_4 0 rfl rfl)
theorem dX2_init_97 : decode cX2_init 97 = .ok (.putfield 38, 3) := dk_181 0 38 (dk_at dksX2_init_4 3 rfl rfl)
theorem dX2_init_100 : decode cX2_init 100 = .ok (.aload_n 0, 1) := dk_42 (dk_at dksX2_init_4 6 rfl rfl)
theorem dX2_init_101 : decode cX2_init 101 = .ok (.new 9, 3) := dk_187 0 9 (dk_at dksX2_init_4 7 rfl rfl)
theorem dX2_init_104 : decode cX2_init 104 = .ok (.dup, 1) := dk_89 (dk_at dksX2_init_4 10 rfl rfl)
theorem dX2_init_105 : decode cX2_init 105 = .ok (.iconst 1, 1) := dk_4 (dk_at dksX2_init_4 11 rfl rfl)
theorem dX2_init_106 : decode cX2_init 106 = .ok (.invokespecial 11, 3) := dk_183 0 11 (dk_at dksX2_init_4 12 rfl rfl)
theorem dX2_init_109 : decode cX2_init 109 = .ok (.putfield 41, 3) := dk_181 0 41 (dk_at dksX2_init_4 15 rfl rfl)
theorem dX2_init_112 : decode cX2_init 112 = .ok (.aload_n 0, 1) := dk_42 (dk_at dksX2_init_4 18 rfl rfl)
theorem dX2_init_113 : decode cX2_init 113 = .ok (.new 9, 3) := dk_187 0 9 (dk_at dksX2_init_4 19 rfl rfl)
theorem dX2_init_116 : decode cX2_init 116 = .ok (.dup, 1) := dk_89 (dk_at dksX2_init_4 22 rfl rfl)
theorem dX2_init_117 : decode cX2_init 117 = .ok (.iconst 1, 1) := dk_4 (dk_at dksX2_init_4 23 rfl rfl)
theorem dX2_init_118 : decode cX2_init 118 = .ok (.invokespecial 11, 3) := dk_183 0 11 (dk_at dksX2_init_5 0 rfl rfl)
theorem dX2_init_121 : decode cX2_init 121 = .ok (.putfield 44, 3) := dk_181 0 44 (dk_at dksX2_init_5 3 rfl rfl)
theorem dX2_init_124 : decode cX2_init 124 = .ok (.aload_n 0, 1) := dk_42 (dk_at dksX2_init_5 6 rfl rfl)
theorem dX2_init_125 : decode cX2_init 125 = .ok (.bipush 6, 2) := dk_16 6 (dk_at dksX2_init_5 7 rfl rfl)
theorem dX2_init_127 : decode cX2_init 127 = .ok (.newarray .int, 2) := dk_188_10 (dk_at dksX2_init_5 9 rfl rfl)
theorem dX2_init_129 : decode cX2_init 129 = .ok (.putfield 47, 3) := dk_181 0 47 (dk_at dksX2_init_5 11 rfl rfl)
theorem dX2_init_132 : decode cX2_init 132 = .ok (.aload_n 0, 1) := dk_42 (dk_at dksX2_init_5 14 rfl rfl)
theorem dX2_init_133 : decode cX2_init 133 = .ok (.bipush 12, 2) := dk_16 12 (dk_at dksX2_init_5 15 rfl rfl)
theorem dX2_init_135 : decode cX2_init 135 = .ok (.newarray .int, 2) := dk_188_10 (dk_at dksX2_init_5 17 rfl rfl)
theorem dX2_init_137 : decode cX2_init 137 = .ok (.putfield 51, 3) := dk_181 0 51 (dk_at dksX2_init_5 19 rfl rfl)
theorem dX2_init_140 : decode cX2_init 140 = .ok (.aload_n 0, 1) := dk_42 (dk_at dksX2_init_5 22 rfl rfl)
theorem dX2_init_141 : decode cX2_init 141 = .ok (.iconst 1, 1) := dk_4 (dk_at dksX2_init_5 23 rfl rfl)
theorem dX2_init_142 : decode cX2_init 142 = .ok (.putfield 54, 3) := dk_181 0 54 (dk_at dksX2_init_6 0 rfl rfl)
theorem dX2_init_145 : decode cX2_init 145 = .ok (.return_, 1) := dk_177 (dk_at dksX2_init_6 3 rfl rfl)
abbrev cX2_like : ByteArray := prog_25_method_2_code
def yX2_like : MethodName := ⟨RX2, "like", "()LLimbBenches$State;"⟩
def dkwX2_like_20 : List UInt8 := [180, 0, 116, 181, 0, 116, 43, 42, 180, 0, 119, 181, 0, 119, 43, 176]
abbrev dktX2_like_20 : List UInt8 := dkwX2_like_20 ++ []
def dkwX2_like_19 : List UInt8 := [180, 0, 54, 181, 0, 54, 43, 42, 180, 0, 110, 181, 0, 110, 43, 42, 180, 0, 113, 181, 0, 113, 43, 42]
abbrev dktX2_like_19 : List UInt8 := dkwX2_like_19 ++ dktX2_like_20
def dkwX2_like_18 : List UInt8 := [16, 12, 184, 0, 98, 43, 42, 180, 0, 104, 181, 0, 104, 43, 42, 180, 0, 107, 181, 0, 107, 43, 42]
abbrev dktX2_like_18 : List UInt8 := dkwX2_like_18 ++ dktX2_like_19
def dkwX2_like_17 : List UInt8 := [180, 0, 47, 3, 43, 180, 0, 47, 3, 16, 6, 184, 0, 98, 42, 180, 0, 51, 3, 43, 180, 0, 51, 3]
abbrev dktX2_like_17 : List UInt8 := dkwX2_like_17 ++ dktX2_like_18
def dkwX2_like_16 : List UInt8 := [42, 180, 0, 44, 28, 182, 0, 63, 192, 0, 96, 182, 0, 69, 87, 132, 2, 1, 167, 255, 223, 42]
abbrev dktX2_like_16 : List UInt8 := dkwX2_like_16 ++ dktX2_like_17
def dkwX2_like_15 : List UInt8 := [87, 132, 2, 1, 167, 255, 223, 3, 61, 28, 42, 180, 0, 44, 182, 0, 59, 162, 0, 28, 43, 180, 0, 44]
abbrev dktX2_like_15 : List UInt8 := dkwX2_like_15 ++ dktX2_like_16
def dkwX2_like_14 : List UInt8 := [182, 0, 59, 162, 0, 28, 43, 180, 0, 41, 42, 180, 0, 41, 28, 182, 0, 63, 192, 0, 94, 182, 0, 69]
abbrev dktX2_like_14 : List UInt8 := dkwX2_like_14 ++ dktX2_like_15
def dkwX2_like_13 : List UInt8 := [182, 0, 63, 192, 0, 92, 182, 0, 69, 87, 132, 2, 1, 167, 255, 223, 3, 61, 28, 42, 180, 0, 41]
abbrev dktX2_like_13 : List UInt8 := dkwX2_like_13 ++ dktX2_like_14
def dkwX2_like_12 : List UInt8 := [3, 61, 28, 42, 180, 0, 38, 182, 0, 59, 162, 0, 28, 43, 180, 0, 38, 42, 180, 0, 38, 28]
abbrev dktX2_like_12 : List UInt8 := dkwX2_like_12 ++ dktX2_like_13
def dkwX2_like_11 : List UInt8 := [42, 180, 0, 35, 28, 182, 0, 63, 192, 0, 87, 182, 0, 89, 182, 0, 69, 87, 132, 2, 1, 167, 255, 220]
abbrev dktX2_like_11 : List UInt8 := dkwX2_like_11 ++ dktX2_like_12
def dkwX2_like_10 : List UInt8 := [87, 132, 2, 1, 167, 255, 223, 3, 61, 28, 42, 180, 0, 35, 182, 0, 59, 162, 0, 31, 43, 180, 0, 35]
abbrev dktX2_like_10 : List UInt8 := dkwX2_like_10 ++ dktX2_like_11
def dkwX2_like_9 : List UInt8 := [182, 0, 59, 162, 0, 28, 43, 180, 0, 32, 42, 180, 0, 32, 28, 182, 0, 63, 192, 0, 85, 182, 0, 69]
abbrev dktX2_like_9 : List UInt8 := dkwX2_like_9 ++ dktX2_like_10
def dkwX2_like_8 : List UInt8 := [182, 0, 63, 192, 0, 83, 182, 0, 69, 87, 132, 2, 1, 167, 255, 223, 3, 61, 28, 42, 180, 0, 32]
abbrev dktX2_like_8 : List UInt8 := dkwX2_like_8 ++ dktX2_like_9
def dkwX2_like_7 : List UInt8 := [3, 61, 28, 42, 180, 0, 29, 182, 0, 59, 162, 0, 28, 43, 180, 0, 29, 42, 180, 0, 29, 28]
abbrev dktX2_like_7 : List UInt8 := dkwX2_like_7 ++ dktX2_like_8
def dkwX2_like_6 : List UInt8 := [180, 0, 26, 42, 180, 0, 26, 28, 182, 0, 63, 192, 0, 81, 182, 0, 69, 87, 132, 2, 1, 167, 255, 223]
abbrev dktX2_like_6 : List UInt8 := dkwX2_like_6 ++ dktX2_like_7
def dkwX2_like_5 : List UInt8 := [182, 0, 69, 87, 132, 2, 1, 167, 255, 223, 3, 61, 28, 42, 180, 0, 26, 182, 0, 59, 162, 0, 28, 43]
abbrev dktX2_like_5 : List UInt8 := dkwX2_like_5 ++ dktX2_like_6
def dkwX2_like_4 : List UInt8 := [180, 0, 23, 182, 0, 59, 162, 0, 28, 43, 180, 0, 23, 42, 180, 0, 23, 28, 182, 0, 63, 192, 0, 79]
abbrev dktX2_like_4 : List UInt8 := dkwX2_like_4 ++ dktX2_like_5
def dkwX2_like_3 : List UInt8 := [182, 0, 63, 192, 0, 73, 182, 0, 75, 182, 0, 69, 87, 132, 2, 1, 167, 255, 220, 3, 61, 28, 42]
abbrev dktX2_like_3 : List UInt8 := dkwX2_like_3 ++ dktX2_like_4
def dkwX2_like_2 : List UInt8 := [3, 61, 28, 42, 180, 0, 20, 182, 0, 59, 162, 0, 31, 43, 180, 0, 20, 42, 180, 0, 20, 28]
abbrev dktX2_like_2 : List UInt8 := dkwX2_like_2 ++ dktX2_like_3
def dkwX2_like_1 : List UInt8 := [180, 0, 14, 42, 180, 0, 14, 28, 182, 0, 63, 192, 0, 67, 182, 0, 69, 87, 132, 2, 1, 167, 255, 223]
abbrev dktX2_like_1 : List UInt8 := dkwX2_like_1 ++ dktX2_like_2
def dkwX2_like_0 : List UInt8 := [187, 0, 15, 89, 183, 0, 58, 76, 3, 61, 28, 42, 180, 0, 14, 182, 0, 59, 162, 0, 28, 43]
abbrev dktX2_like_0 : List UInt8 := dkwX2_like_0 ++ dktX2_like_1
theorem dksX2_like_0 : cX2_like.data.toList.drop 0 = dktX2_like_0 := by decide +kernel
theorem dksX2_like_1 : cX2_like.data.toList.drop 22 = dktX2_like_1 := dk_seg dksX2_like_0 22 rfl rfl
theorem dksX2_like_2 : cX2_like.data.toList.drop 46 = dktX2_like_2 := dk_seg dksX2_like_1 24 rfl rfl
theorem dksX2_like_3 : cX2_like.data.toList.drop 68 = dktX2_like_3 := dk_seg dksX2_like_2 22 rfl rfl
theorem dksX2_like_4 : cX2_like.data.toList.drop 91 = dktX2_like_4 := dk_seg dksX2_like_3 23 rfl rfl
theorem dksX2_like_5 : cX2_like.data.toList.drop 115 = dktX2_like_5 := dk_seg dksX2_like_4 24 rfl rfl
theorem dksX2_like_6 : cX2_like.data.toList.drop 139 = dktX2_like_6 := dk_seg dksX2_like_5 24 rfl rfl
theorem dksX2_like_7 : cX2_like.data.toList.drop 163 = dktX2_like_7 := dk_seg dksX2_like_6 24 rfl rfl
theorem dksX2_like_8 : cX2_like.data.toList.drop 185 = dktX2_like_8 := dk_seg dksX2_like_7 22 rfl rfl
theorem dksX2_like_9 : cX2_like.data.toList.drop 208 = dktX2_like_9 := dk_seg dksX2_like_8 23 rfl rfl
theorem dksX2_like_10 : cX2_like.data.toList.drop 232 = dktX2_like_10 := dk_seg dksX2_like_9 24 rfl rfl
theorem dksX2_like_11 : cX2_like.data.toList.drop 256 = dktX2_like_11 := dk_seg dksX2_like_10 24 rfl rfl
theorem dksX2_like_12 : cX2_like.data.toList.drop 280 = dktX2_like_12 := dk_seg dksX2_like_11 24 rfl rfl
theorem dksX2_like_13 : cX2_like.data.toList.drop 302 = dktX2_like_13 := dk_seg dksX2_like_12 22 rfl rfl
theorem dksX2_like_14 : cX2_like.data.toList.drop 325 = dktX2_like_14 := dk_seg dksX2_like_13 23 rfl rfl
theorem dksX2_like_15 : cX2_like.data.toList.drop 349 = dktX2_like_15 := dk_seg dksX2_like_14 24 rfl rfl
theorem dksX2_like_16 : cX2_like.data.toList.drop 373 = dktX2_like_16 := dk_seg dksX2_like_15 24 rfl rfl
theorem dksX2_like_17 : cX2_like.data.toList.drop 395 = dktX2_like_17 := dk_seg dksX2_like_16 22 rfl rfl
theorem dksX2_like_18 : cX2_like.data.toList.drop 419 = dktX2_like_18 := dk_seg dksX2_like_17 24 rfl rfl
theorem dksX2_like_19 : cX2_like.data.toList.drop 442 = dktX2_like_19 := dk_seg dksX2_like_18 23 rfl rfl
theorem dksX2_like_20 : cX2_like.data.toList.drop 466 = dktX2_like_20 := dk_seg dksX2_like_19 24 rfl rfl
theorem dX2_like_0 : decode cX2_like 0 = .ok (.new 15, 3) := dk_187 0 15 (dk_at dksX2_like_0 0 rfl rfl)
theorem dX2_like_3 : decode cX2_like 3 = .ok (.dup, 1) := dk_89 (dk_at dksX2_like_0 3 rfl rfl)
theorem dX2_like_4 : decode cX2_like 4 = .ok (.invokespecial 58, 3) := dk_183 0 58 (dk_at dksX2_like_0 4 rfl rfl)
theorem dX2_like_7 : decode cX2_like 7 = .ok (.astore_n 1, 1) := dk_76 (dk_at dksX2_like_0 7 rfl rfl)
theorem dX2_like_8 : decode cX2_like 8 = .ok (.iconst 0, 1) := dk_3 (dk_at dksX2_like_0 8 rfl rfl)
theorem dX2_like_9 : decode cX2_like 9 = .ok (.istore_n 2, 1) := dk_61 (dk_at dksX2_like_0 9 rfl rfl)
theorem dX2_like_10 : decode cX2_like 10 = .ok (.iload_n 2, 1) := dk_28 (dk_at dksX2_like_0 10 rfl rfl)
theorem dX2_like_11 : decode cX2_like 11 = .ok (.aload_n 0, 1) := dk_42 (dk_at dksX2_like_0 11 rfl rfl)
theorem dX2_like_12 : decode cX2_like 12 = .ok (.getfield 14, 3) := dk_180 0 14 (dk_at dksX2_like_0 12 rfl rfl)
theorem dX2_like_15 : decode cX2_like 15 = .ok (.invokevirtual 59, 3) := dk_182 0 59 (dk_at dksX2_like_0 15 rfl rfl)
theorem dX2_like_18 : decode cX2_like 18 = .ok (.if_icmp .ge 28, 3) := dk_162 0 28 (dk_at dksX2_like_0 18 rfl rfl)
theorem dX2_like_21 : decode cX2_like 21 = .ok (.aload_n 1, 1) := dk_43 (dk_at dksX2_like_0 21 rfl rfl)
theorem dX2_like_22 : decode cX2_like 22 = .ok (.getfield 14, 3) := dk_180 0 14 (dk_at dksX2_like_1 0 rfl rfl)
theorem dX2_like_25 : decode cX2_like 25 = .ok (.aload_n 0, 1) := dk_42 (dk_at dksX2_like_1 3 rfl rfl)
theorem dX2_like_26 : decode cX2_like 26 = .ok (.getfield 14, 3) := dk_180 0 14 (dk_at dksX2_like_1 4 rfl rfl)
theorem dX2_like_29 : decode cX2_like 29 = .ok (.iload_n 2, 1) := dk_28 (dk_at dksX2_like_1 7 rfl rfl)
theorem dX2_like_30 : decode cX2_like 30 = .ok (.invokevirtual 63, 3) := dk_182 0 63 (dk_at dksX2_like_1 8 rfl rfl)
theorem dX2_like_33 : decode cX2_like 33 = .ok (.checkcast 67, 3) := dk_192 0 67 (dk_at dksX2_like_1 11 rfl rfl)
theorem dX2_like_36 : decode cX2_like 36 = .ok (.invokevirtual 69, 3) := dk_182 0 69 (dk_at dksX2_like_1 14 rfl rfl)
theorem dX2_like_39 : decode cX2_like 39 = .ok (.pop, 1) := dk_87 (dk_at dksX2_like_1 17 rfl rfl)
theorem dX2_like_40 : decode cX2_like 40 = .ok (.iinc 2 1, 3) := dk_132 2 1 (dk_at dksX2_like_1 18 rfl rfl)
theorem dX2_like_43 : decode cX2_like 43 = .ok (.goto (-33), 3) := dk_167 255 223 (dk_at dksX2_like_1 21 rfl rfl)
theorem dX2_like_46 : decode cX2_like 46 = .ok (.iconst 0, 1) := dk_3 (dk_at dksX2_like_2 0 rfl rfl)
theorem dX2_like_47 : decode cX2_like 47 = .ok (.istore_n 2, 1) := dk_61 (dk_at dksX2_like_2 1 rfl rfl)
theorem dX2_like_48 : decode cX2_like 48 = .ok (.iload_n 2, 1) := dk_28 (dk_at dksX2_like_2 2 rfl rfl)
theorem dX2_like_49 : decode cX2_like 49 = .ok (.aload_n 0, 1) := dk_42 (dk_at dksX2_like_2 3 rfl rfl)
theorem dX2_like_50 : decode cX2_like 50 = .ok (.getfield 20, 3) := dk_180 0 20 (dk_at dksX2_like_2 4 rfl rfl)
theorem dX2_like_53 : decode cX2_like 53 = .ok (.invokevirtual 59, 3) := dk_182 0 59 (dk_at dksX2_like_2 7 rfl rfl)
theorem dX2_like_56 : decode cX2_like 56 = .ok (.if_icmp .ge 31, 3) := dk_162 0 31 (dk_at dksX2_like_2 10 rfl rfl)
theorem dX2_like_59 : decode cX2_like 59 = .ok (.aload_n 1, 1) := dk_43 (dk_at dksX2_like_2 13 rfl rfl)
theorem dX2_like_60 : decode cX2_like 60 = .ok (.getfield 20, 3) := dk_180 0 20 (dk_at dksX2_like_2 14 rfl rfl)
theorem dX2_like_63 : decode cX2_like 63 = .ok (.aload_n 0, 1) := dk_42 (dk_at dksX2_like_2 17 rfl rfl)
theorem dX2_like_64 : decode cX2_like 64 = .ok (.getfield 20, 3) := dk_180 0 20 (dk_at dksX2_like_2 18 rfl rfl)
theorem dX2_like_67 : decode cX2_like 67 = .ok (.iload_n 2, 1) := dk_28 (dk_at dksX2_like_2 21 rfl rfl)
theorem dX2_like_68 : decode cX2_like 68 = .ok (.invokevirtual 63, 3) := dk_182 0 63 (dk_at dksX2_like_3 0 rfl rfl)
theorem dX2_like_71 : decode cX2_like 71 = .ok (.checkcast 73, 3) := dk_192 0 73 (dk_at dksX2_like_3 3 rfl rfl)
theorem dX2_like_74 : decode cX2_like 74 = .ok (.invokevirtual 75, 3) := dk_182 0 75 (dk_at dksX2_like_3 6 rfl rfl)
theorem dX2_like_77 : decode cX2_like 77 = .ok (.invokevirtual 69, 3) := dk_182 0 69 (dk_at dksX2_like_3 9 rfl rfl)
theorem dX2_like_80 : decode cX2_like 80 = .ok (.pop, 1) := dk_87 (dk_at dksX2_like_3 12 rfl rfl)
theorem dX2_like_81 : decode cX2_like 81 = .ok (.iinc 2 1, 3) := dk_132 2 1 (dk_at dksX2_like_3 13 rfl rfl)
theorem dX2_like_84 : decode cX2_like 84 = .ok (.goto (-36), 3) := dk_167 255 220 (dk_at dksX2_like_3 16 rfl rfl)
theorem dX2_like_87 : decode cX2_like 87 = .ok (.iconst 0, 1) := dk_3 (dk_at dksX2_like_3 19 rfl rfl)
theorem dX2_like_88 : decode cX2_like 88 = .ok (.istore_n 2, 1) := dk_61 (dk_at dksX2_like_3 20 rfl rfl)
theorem dX2_like_89 : decode cX2_like 89 = .ok (.iload_n 2, 1) := dk_28 (dk_at dksX2_like_3 21 rfl rfl)
theorem dX2_like_90 : decode cX2_like 90 = .ok (.aload_n 0, 1) := dk_42 (dk_at dksX2_like_3 22 rfl rfl)
theorem dX2_like_91 : decode cX2_like 91 = .ok (.getfield 23, 3) := dk_180 0 23 (dk_at dksX2_like_4 0 rfl rfl)
theorem dX2_like_94 : decode cX2_like 94 = .ok (.invokevirtual 59, 3) := dk_182 0 59 (dk_at dksX2_like_4 3 rfl rfl)
theorem dX2_like_97 : decode cX2_like 97 = .ok (.if_icmp .ge 28, 3) := dk_162 0 28 (dk_at dksX2_like_4 6 rfl rfl)
theorem dX2_like_100 : decode cX2_like 100 = .ok (.aload_n 1, 1) := dk_43 (dk_at dksX2_like_4 9 rfl rfl)
theorem dX2_like_101 : decode cX2_like 101 = .ok (.getfield 23, 3) := dk_180 0 23 (dk_at dksX2_like_4 10 rfl rfl)
theorem dX2_like_104 : decode cX2_like 104 = .ok (.aload_n 0, 1) := dk_42 (dk_at dksX2_like_4 13 rfl rfl)
theorem dX2_like_105 : decode cX2_like 105 = .ok (.getfield 23, 3) := dk_180 0 23 (dk_at dksX2_like_4 14 rfl rfl)
theorem dX2_like_108 : decode cX2_like 108 = .ok (.iload_n 2, 1) := dk_28 (dk_at dksX2_like_4 17 rfl rfl)
theorem dX2_like_109 : decode cX2_like 109 = .ok (.invokevirtual 63, 3) := dk_182 0 63 (dk_at dksX2_like_4 18 rfl rfl)
theorem dX2_like_112 : decode cX2_like 112 = .ok (.checkcast 79, 3) := dk_192 0 79 (dk_at dksX2_like_4 21 rfl rfl)
theorem dX2_like_115 : decode cX2_like 115 = .ok (.invokevirtual 69, 3) := dk_182 0 69 (dk_at dksX2_like_5 0 rfl rfl)
theorem dX2_like_118 : decode cX2_like 118 = .ok (.pop, 1) := dk_87 (dk_at dksX2_like_5 3 rfl rfl)
theorem dX2_like_119 : decode cX2_like 119 = .ok (.iinc 2 1, 3) := dk_132 2 1 (dk_at dksX2_like_5 4 rfl rfl)
theorem dX2_like_122 : decode cX2_like 122 = .ok (.goto (-33), 3) := dk_167 255 223 (dk_at dksX2_like_5 7 rfl rfl)
theorem dX2_like_125 : decode cX2_like 125 = .ok (.iconst 0, 1) := dk_3 (dk_at dksX2_like_5 10 rfl rfl)
theorem dX2_like_126 : decode cX2_like 126 = .ok (.istore_n 2, 1) := dk_61 (dk_at dksX2_like_5 11 rfl rfl)
theorem dX2_like_127 : decode cX2_like 127 = .ok (.iload_n 2, 1) := dk_28 (dk_at dksX2_like_5 12 rfl rfl)
theorem dX2_like_128 : decode cX2_like 128 = .ok (.aload_n 0, 1) := dk_42 (dk_at dksX2_like_5 13 rfl rfl)
theorem dX2_like_129 : decode cX2_like 129 = .ok (.getfield 26, 3) := dk_180 0 26 (dk_at dksX2_like_5 14 rfl rfl)
theorem dX2_like_132 : decode cX2_like 132 = .ok (.invokevirtual 59, 3) := dk_182 0 59 (dk_at dksX2_like_5 17 rfl rfl)
theorem dX2_like_135 : decode cX2_like 135 = .ok (.if_icmp .ge 28, 3) := dk_162 0 28 (dk_at dksX2_like_5 20 rfl rfl)
theorem dX2_like_138 : decode cX2_like 138 = .ok (.aload_n 1, 1) := dk_43 (dk_at dksX2_like_5 23 rfl rfl)
theorem dX2_like_139 : decode cX2_like 139 = .ok (.getfield 26, 3) := dk_180 0 26 (dk_at dksX2_like_6 0 rfl rfl)
theorem dX2_like_142 : decode cX2_like 142 = .ok (.aload_n 0, 1) := dk_42 (dk_at dksX2_like_6 3 rfl rfl)
theorem dX2_like_143 : decode cX2_like 143 = .ok (.getfield 26, 3) := dk_180 0 26 (dk_at dksX2_like_6 4 rfl rfl)
theorem dX2_like_146 : decode cX2_like 146 = .ok (.iload_n 2, 1) := dk_28 (dk_at dksX2_like_6 7 rfl rfl)
theorem dX2_like_147 : decode cX2_like 147 = .ok (.invokevirtual 63, 3) := dk_182 0 63 (dk_at dksX2_like_6 8 rfl rfl)
theorem dX2_like_150 : decode cX2_like 150 = .ok (.checkcast 81, 3) := dk_192 0 81 (dk_at dksX2_like_6 11 rfl rfl)
theorem dX2_like_153 : decode cX2_like 153 = .ok (.invokevirtual 69, 3) := dk_182 0 69 (dk_at dksX2_like_6 14 rfl rfl)
theorem dX2_like_156 : decode cX2_like 156 = .ok (.pop, 1) := dk_87 (dk_at dksX2_like_6 17 rfl rfl)
theorem dX2_like_157 : decode cX2_like 157 = .ok (.iinc 2 1, 3) := dk_132 2 1 (dk_at dksX2_like_6 18 rfl rfl)
theorem dX2_like_160 : decode cX2_like 160 = .ok (.goto (-33), 3) := dk_167 255 223 (dk_at dksX2_like_6 21 rfl rfl)
theorem dX2_like_163 : decode cX2_like 163 = .ok (.iconst 0, 1) := dk_3 (dk_at dksX2_like_7 0 rfl rfl)
theorem dX2_like_164 : decode cX2_like 164 = .ok (.istore_n 2, 1) := dk_61 (dk_at dksX2_like_7 1 rfl rfl)
theorem dX2_like_165 : decode cX2_like 165 = .ok (.iload_n 2, 1) := dk_28 (dk_at dksX2_like_7 2 rfl rfl)
theorem dX2_like_166 : decode cX2_like 166 = .ok (.aload_n 0, 1) := dk_42 (dk_at dksX2_like_7 3 rfl rfl)
theorem dX2_like_167 : decode cX2_like 167 = .ok (.getfield 29, 3) := dk_180 0 29 (dk_at dksX2_like_7 4 rfl rfl)
theorem dX2_like_170 : decode cX2_like 170 = .ok (.invokevirtual 59, 3) := dk_182 0 59 (dk_at dksX2_like_7 7 rfl rfl)
theorem dX2_like_173 : decode cX2_like 173 = .ok (.if_icmp .ge 28, 3) := dk_162 0 28 (dk_at dksX2_like_7 10 rfl rfl)
theorem dX2_like_176 : decode cX2_like 176 = .ok (.aload_n 1, 1) := dk_43 (dk_at dksX2_like_7 13 rfl rfl)
theorem dX2_like_177 : decode cX2_like 177 = .ok (.getfield 29, 3) := dk_180 0 29 (dk_at dksX2_like_7 14 rfl rfl)
theorem dX2_like_180 : decode cX2_like 180 = .ok (.aload_n 0, 1) := dk_42 (dk_at dksX2_like_7 17 rfl rfl)
theorem dX2_like_181 : decode cX2_like 181 = .ok (.getfield 29, 3) := dk_180 0 29 (dk_at dksX2_like_7 18 rfl rfl)
theorem dX2_like_184 : decode cX2_like 184 = .ok (.iload_n 2, 1) := dk_28 (dk_at dksX2_like_7 21 rfl rfl)
theorem dX2_like_185 : decode cX2_like 185 = .ok (.invokevirtual 63, 3) := dk_182 0 63 (dk_at dksX2_like_8 0 rfl rfl)
theorem dX2_like_188 : decode cX2_like 188 = .ok (.checkcast 83, 3) := dk_192 0 83 (dk_at dksX2_like_8 3 rfl rfl)
theorem dX2_like_191 : decode cX2_like 191 = .ok (.invokevirtual 69, 3) := dk_182 0 69 (dk_at dksX2_like_8 6 rfl rfl)
theorem dX2_like_194 : decode cX2_like 194 = .ok (.pop, 1) := dk_87 (dk_at dksX2_like_8 9 rfl rfl)
theorem dX2_like_195 : decode cX2_like 195 = .ok (.iinc 2 1, 3) := dk_132 2 1 (dk_at dksX2_like_8 10 rfl rfl)
theorem dX2_like_198 : decode cX2_like 198 = .ok (.goto (-33), 3) := dk_167 255 223 (dk_at dksX2_like_8 13 rfl rfl)
theorem dX2_like_201 : decode cX2_like 201 = .ok (.iconst 0, 1) := dk_3 (dk_at dksX2_like_8 16 rfl rfl)
theorem dX2_like_202 : decode cX2_like 202 = .ok (.istore_n 2, 1) := dk_61 (dk_at dksX2_like_8 17 rfl rfl)
theorem dX2_like_203 : decode cX2_like 203 = .ok (.iload_n 2, 1) := dk_28 (dk_at dksX2_like_8 18 rfl rfl)
theorem dX2_like_204 : decode cX2_like 204 = .ok (.aload_n 0, 1) := dk_42 (dk_at dksX2_like_8 19 rfl rfl)
theorem dX2_like_205 : decode cX2_like 205 = .ok (.getfield 32, 3) := dk_180 0 32 (dk_at dksX2_like_8 20 rfl rfl)
theorem dX2_like_208 : decode cX2_like 208 = .ok (.invokevirtual 59, 3) := dk_182 0 59 (dk_at dksX2_like_9 0 rfl rfl)
theorem dX2_like_211 : decode cX2_like 211 = .ok (.if_icmp .ge 28, 3) := dk_162 0 28 (dk_at dksX2_like_9 3 rfl rfl)
theorem dX2_like_214 : decode cX2_like 214 = .ok (.aload_n 1, 1) := dk_43 (dk_at dksX2_like_9 6 rfl rfl)
theorem dX2_like_215 : decode cX2_like 215 = .ok (.getfield 32, 3) := dk_180 0 32 (dk_at dksX2_like_9 7 rfl rfl)
theorem dX2_like_218 : decode cX2_like 218 = .ok (.aload_n 0, 1) := dk_42 (dk_at dksX2_like_9 10 rfl rfl)
theorem dX2_like_219 : decode cX2_like 219 = .ok (.getfield 32, 3) := dk_180 0 32 (dk_at dksX2_like_9 11 rfl rfl)
theorem dX2_like_222 : decode cX2_like 222 = .ok (.iload_n 2, 1) := dk_28 (dk_at dksX2_like_9 14 rfl rfl)
theorem dX2_like_223 : decode cX2_like 223 = .ok (.invokevirtual 63, 3) := dk_182 0 63 (dk_at dksX2_like_9 15 rfl rfl)
theorem dX2_like_226 : decode cX2_like 226 = .ok (.checkcast 85, 3) := dk_192 0 85 (dk_at dksX2_like_9 18 rfl rfl)
theorem dX2_like_229 : decode cX2_like 229 = .ok (.invokevirtual 69, 3) := dk_182 0 69 (dk_at dksX2_like_9 21 rfl rfl)
theorem dX2_like_232 : decode cX2_like 232 = .ok (.pop, 1) := dk_87 (dk_at dksX2_like_10 0 rfl rfl)
theorem dX2_like_233 : decode cX2_like 233 = .ok (.iinc 2 1, 3) := dk_132 2 1 (dk_at dksX2_like_10 1 rfl rfl)
theorem dX2_like_236 : decode cX2_like 236 = .ok (.goto (-33), 3) := dk_167 255 223 (dk_at dksX2_like_10 4 rfl rfl)
theorem dX2_like_239 : decode cX2_like 239 = .ok (.iconst 0, 1) := dk_3 (dk_at dksX2_like_10 7 rfl rfl)
theorem dX2_like_240 : decode cX2_like 240 = .ok (.istore_n 2, 1) := dk_61 (dk_at dksX2_like_10 8 rfl rfl)
theorem dX2_like_241 : decode cX2_like 241 = .ok (.iload_n 2, 1) := dk_28 (dk_at dksX2_like_10 9 rfl rfl)
theorem dX2_like_242 : decode cX2_like 242 = .ok (.aload_n 0, 1) := dk_42 (dk_at dksX2_like_10 10 rfl rfl)
theorem dX2_like_243 : decode cX2_like 243 = .ok (.getfield 35, 3) := dk_180 0 35 (dk_at dksX2_like_10 11 rfl rfl)
theorem dX2_like_246 : decode cX2_like 246 = .ok (.invokevirtual 59, 3) := dk_182 0 59 (dk_at dksX2_like_10 14 rfl rfl)
theorem dX2_like_249 : decode cX2_like 249 = .ok (.if_icmp .ge 31, 3) := dk_162 0 31 (dk_at dksX2_like_10 17 rfl rfl)
theorem dX2_like_252 : decode cX2_like 252 = .ok (.aload_n 1, 1) := dk_43 (dk_at dksX2_like_10 20 rfl rfl)
theorem dX2_like_253 : decode cX2_like 253 = .ok (.getfield 35, 3) := dk_180 0 35 (dk_at dksX2_like_10 21 rfl rfl)
theorem dX2_like_256 : decode cX2_like 256 = .ok (.aload_n 0, 1) := dk_42 (dk_at dksX2_like_11 0 rfl rfl)
theorem dX2_like_257 : decode cX2_like 257 = .ok (.getfield 35, 3) := dk_180 0 35 (dk_at dksX2_like_11 1 rfl rfl)
theorem dX2_like_260 : decode cX2_like 260 = .ok (.iload_n 2, 1) := dk_28 (dk_at dksX2_like_11 4 rfl rfl)
theorem dX2_like_261 : decode cX2_like 261 = .ok (.invokevirtual 63, 3) := dk_182 0 63 (dk_at dksX2_like_11 5 rfl rfl)
theorem dX2_like_264 : decode cX2_like 264 = .ok (.checkcast 87, 3) := dk_192 0 87 (dk_at dksX2_like_11 8 rfl rfl)
theorem dX2_like_267 : decode cX2_like 267 = .ok (.invokevirtual 89, 3) := dk_182 0 89 (dk_at dksX2_like_11 11 rfl rfl)
theorem dX2_like_270 : decode cX2_like 270 = .ok (.invokevirtual 69, 3) := dk_182 0 69 (dk_at dksX2_like_11 14 rfl rfl)
theorem dX2_like_273 : decode cX2_like 273 = .ok (.pop, 1) := dk_87 (dk_at dksX2_like_11 17 rfl rfl)
theorem dX2_like_274 : decode cX2_like 274 = .ok (.iinc 2 1, 3) := dk_132 2 1 (dk_at dksX2_like_11 18 rfl rfl)
theorem dX2_like_277 : decode cX2_like 277 = .ok (.goto (-36), 3) := dk_167 255 220 (dk_at dksX2_like_11 21 rfl rfl)
theorem dX2_like_280 : decode cX2_like 280 = .ok (.iconst 0, 1) := dk_3 (dk_at dksX2_like_12 0 rfl rfl)
theorem dX2_like_281 : decode cX2_like 281 = .ok (.istore_n 2, 1) := dk_61 (dk_at dksX2_like_12 1 rfl rfl)
theorem dX2_like_282 : decode cX2_like 282 = .ok (.iload_n 2, 1) := dk_28 (dk_at dksX2_like_12 2 rfl rfl)
theorem dX2_like_283 : decode cX2_like 283 = .ok (.aload_n 0, 1) := dk_42 (dk_at dksX2_like_12 3 rfl rfl)
theorem dX2_like_284 : decode cX2_like 284 = .ok (.getfield 38, 3) := dk_180 0 38 (dk_at dksX2_like_12 4 rfl rfl)
theorem dX2_like_287 : decode cX2_like 287 = .ok (.invokevirtual 59, 3) := dk_182 0 59 (dk_at dksX2_like_12 7 rfl rfl)
theorem dX2_like_290 : decode cX2_like 290 = .ok (.if_icmp .ge 28, 3) := dk_162 0 28 (dk_at dksX2_like_12 10 rfl rfl)
theorem dX2_like_293 : decode cX2_like 293 = .ok (.aload_n 1, 1) := dk_43 (dk_at dksX2_like_12 13 rfl rfl)
theorem dX2_like_294 : decode cX2_like 294 = .ok (.getfield 38, 3) := dk_180 0 38 (dk_at dksX2_like_12 14 rfl rfl)
theorem dX2_like_297 : decode cX2_like 297 = .ok (.aload_n 0, 1) := dk_42 (dk_at dksX2_like_12 17 rfl rfl)
theorem dX2_like_298 : decode cX2_like 298 = .ok (.getfield 38, 3) := dk_180 0 38 (dk_at dksX2_like_12 18 rfl rfl)
theorem dX2_like_301 : decode cX2_like 301 = .ok (.iload_n 2, 1) := dk_28 (dk_at dksX2_like_12 21 rfl rfl)
theorem dX2_like_302 : decode cX2_like 302 = .ok (.invokevirtual 63, 3) := dk_182 0 63 (dk_at dksX2_like_13 0 rfl rfl)
theorem dX2_like_305 : decode cX2_like 305 = .ok (.checkcast 92, 3) := dk_192 0 92 (dk_at dksX2_like_13 3 rfl rfl)
theorem dX2_like_308 : decode cX2_like 308 = .ok (.invokevirtual 69, 3) := dk_182 0 69 (dk_at dksX2_like_13 6 rfl rfl)
theorem dX2_like_311 : decode cX2_like 311 = .ok (.pop, 1) := dk_87 (dk_at dksX2_like_13 9 rfl rfl)
theorem dX2_like_312 : decode cX2_like 312 = .ok (.iinc 2 1, 3) := dk_132 2 1 (dk_at dksX2_like_13 10 rfl rfl)
theorem dX2_like_315 : decode cX2_like 315 = .ok (.goto (-33), 3) := dk_167 255 223 (dk_at dksX2_like_13 13 rfl rfl)
theorem dX2_like_318 : decode cX2_like 318 = .ok (.iconst 0, 1) := dk_3 (dk_at dksX2_like_13 16 rfl rfl)
theorem dX2_like_319 : decode cX2_like 319 = .ok (.istore_n 2, 1) := dk_61 (dk_at dksX2_like_13 17 rfl rfl)
theorem dX2_like_320 : decode cX2_like 320 = .ok (.iload_n 2, 1) := dk_28 (dk_at dksX2_like_13 18 rfl rfl)
theorem dX2_like_321 : decode cX2_like 321 = .ok (.aload_n 0, 1) := dk_42 (dk_at dksX2_like_13 19 rfl rfl)
theorem dX2_like_322 : decode cX2_like 322 = .ok (.getfield 41, 3) := dk_180 0 41 (dk_at dksX2_like_13 20 rfl rfl)
theorem dX2_like_325 : decode cX2_like 325 = .ok (.invokevirtual 59, 3) := dk_182 0 59 (dk_at dksX2_like_14 0 rfl rfl)
theorem dX2_like_328 : decode cX2_like 328 = .ok (.if_icmp .ge 28, 3) := dk_162 0 28 (dk_at dksX2_like_14 3 rfl rfl)
theorem dX2_like_331 : decode cX2_like 331 = .ok (.aload_n 1, 1) := dk_43 (dk_at dksX2_like_14 6 rfl rfl)
theorem dX2_like_332 : decode cX2_like 332 = .ok (.getfield 41, 3) := dk_180 0 41 (dk_at dksX2_like_14 7 rfl rfl)
theorem dX2_like_335 : decode cX2_like 335 = .ok (.aload_n 0, 1) := dk_42 (dk_at dksX2_like_14 10 rfl rfl)
theorem dX2_like_336 : decode cX2_like 336 = .ok (.getfield 41, 3) := dk_180 0 41 (dk_at dksX2_like_14 11 rfl rfl)
theorem dX2_like_339 : decode cX2_like 339 = .ok (.iload_n 2, 1) := dk_28 (dk_at dksX2_like_14 14 rfl rfl)
theorem dX2_like_340 : decode cX2_like 340 = .ok (.invokevirtual 63, 3) := dk_182 0 63 (dk_at dksX2_like_14 15 rfl rfl)
theorem dX2_like_343 : decode cX2_like 343 = .ok (.checkcast 94, 3) := dk_192 0 94 (dk_at dksX2_like_14 18 rfl rfl)
theorem dX2_like_346 : decode cX2_like 346 = .ok (.invokevirtual 69, 3) := dk_182 0 69 (dk_at dksX2_like_14 21 rfl rfl)
theorem dX2_like_349 : decode cX2_like 349 = .ok (.pop, 1) := dk_87 (dk_at dksX2_like_15 0 rfl rfl)
theorem dX2_like_350 : decode cX2_like 350 = .ok (.iinc 2 1, 3) := dk_132 2 1 (dk_at dksX2_like_15 1 rfl rfl)
theorem dX2_like_353 : decode cX2_like 353 = .ok (.goto (-33), 3) := dk_167 255 223 (dk_at dksX2_like_15 4 rfl rfl)
theorem dX2_like_356 : decode cX2_like 356 = .ok (.iconst 0, 1) := dk_3 (dk_at dksX2_like_15 7 rfl rfl)
theorem dX2_like_357 : decode cX2_like 357 = .ok (.istore_n 2, 1) := dk_61 (dk_at dksX2_like_15 8 rfl rfl)
theorem dX2_like_358 : decode cX2_like 358 = .ok (.iload_n 2, 1) := dk_28 (dk_at dksX2_like_15 9 rfl rfl)
theorem dX2_like_359 : decode cX2_like 359 = .ok (.aload_n 0, 1) := dk_42 (dk_at dksX2_like_15 10 rfl rfl)
theorem dX2_like_360 : decode cX2_like 360 = .ok (.getfield 44, 3) := dk_180 0 44 (dk_at dksX2_like_15 11 rfl rfl)
theorem dX2_like_363 : decode cX2_like 363 = .ok (.invokevirtual 59, 3) := dk_182 0 59 (dk_at dksX2_like_15 14 rfl rfl)
theorem dX2_like_366 : decode cX2_like 366 = .ok (.if_icmp .ge 28, 3) := dk_162 0 28 (dk_at dksX2_like_15 17 rfl rfl)
theorem dX2_like_369 : decode cX2_like 369 = .ok (.aload_n 1, 1) := dk_43 (dk_at dksX2_like_15 20 rfl rfl)
theorem dX2_like_370 : decode cX2_like 370 = .ok (.getfield 44, 3) := dk_180 0 44 (dk_at dksX2_like_15 21 rfl rfl)
theorem dX2_like_373 : decode cX2_like 373 = .ok (.aload_n 0, 1) := dk_42 (dk_at dksX2_like_16 0 rfl rfl)
theorem dX2_like_374 : decode cX2_like 374 = .ok (.getfield 44, 3) := dk_180 0 44 (dk_at dksX2_like_16 1 rfl rfl)
theorem dX2_like_377 : decode cX2_like 377 = .ok (.iload_n 2, 1) := dk_28 (dk_at dksX2_like_16 4 rfl rfl)
theorem dX2_like_378 : decode cX2_like 378 = .ok (.invokevirtual 63, 3) := dk_182 0 63 (dk_at dksX2_like_16 5 rfl rfl)
theorem dX2_like_381 : decode cX2_like 381 = .ok (.checkcast 96, 3) := dk_192 0 96 (dk_at dksX2_like_16 8 rfl rfl)
theorem dX2_like_384 : decode cX2_like 384 = .ok (.invokevirtual 69, 3) := dk_182 0 69 (dk_at dksX2_like_16 11 rfl rfl)
theorem dX2_like_387 : decode cX2_like 387 = .ok (.pop, 1) := dk_87 (dk_at dksX2_like_16 14 rfl rfl)
theorem dX2_like_388 : decode cX2_like 388 = .ok (.iinc 2 1, 3) := dk_132 2 1 (dk_at dksX2_like_16 15 rfl rfl)
theorem dX2_like_391 : decode cX2_like 391 = .ok (.goto (-33), 3) := dk_167 255 223 (dk_at dksX2_like_16 18 rfl rfl)
theorem dX2_like_394 : decode cX2_like 394 = .ok (.aload_n 0, 1) := dk_42 (dk_at dksX2_like_16 21 rfl rfl)
theorem dX2_like_395 : decode cX2_like 395 = .ok (.getfield 47, 3) := dk_180 0 47 (dk_at dksX2_like_17 0 rfl rfl)
theorem dX2_like_398 : decode cX2_like 398 = .ok (.iconst 0, 1) := dk_3 (dk_at dksX2_like_17 3 rfl rfl)
theorem dX2_like_399 : decode cX2_like 399 = .ok (.aload_n 1, 1) := dk_43 (dk_at dksX2_like_17 4 rfl rfl)
theorem dX2_like_400 : decode cX2_like 400 = .ok (.getfield 47, 3) := dk_180 0 47 (dk_at dksX2_like_17 5 rfl rfl)
theorem dX2_like_403 : decode cX2_like 403 = .ok (.iconst 0, 1) := dk_3 (dk_at dksX2_like_17 8 rfl rfl)
theorem dX2_like_404 : decode cX2_like 404 = .ok (.bipush 6, 2) := dk_16 6 (dk_at dksX2_like_17 9 rfl rfl)
theorem dX2_like_406 : decode cX2_like 406 = .ok (.invokestatic 98, 3) := dk_184 0 98 (dk_at dksX2_like_17 11 rfl rfl)
theorem dX2_like_409 : decode cX2_like 409 = .ok (.aload_n 0, 1) := dk_42 (dk_at dksX2_like_17 14 rfl rfl)
theorem dX2_like_410 : decode cX2_like 410 = .ok (.getfield 51, 3) := dk_180 0 51 (dk_at dksX2_like_17 15 rfl rfl)
theorem dX2_like_413 : decode cX2_like 413 = .ok (.iconst 0, 1) := dk_3 (dk_at dksX2_like_17 18 rfl rfl)
theorem dX2_like_414 : decode cX2_like 414 = .ok (.aload_n 1, 1) := dk_43 (dk_at dksX2_like_17 19 rfl rfl)
theorem dX2_like_415 : decode cX2_like 415 = .ok (.getfield 51, 3) := dk_180 0 51 (dk_at dksX2_like_17 20 rfl rfl)
theorem dX2_like_418 : decode cX2_like 418 = .ok (.iconst 0, 1) := dk_3 (dk_at dksX2_like_17 23 rfl rfl)
theorem dX2_like_419 : decode cX2_like 419 = .ok (.bipush 12, 2) := dk_16 12 (dk_at dksX2_like_18 0 rfl rfl)
theorem dX2_like_421 : decode cX2_like 421 = .ok (.invokestatic 98, 3) := dk_184 0 98 (dk_at dksX2_like_18 2 rfl rfl)
theorem dX2_like_424 : decode cX2_like 424 = .ok (.aload_n 1, 1) := dk_43 (dk_at dksX2_like_18 5 rfl rfl)
theorem dX2_like_425 : decode cX2_like 425 = .ok (.aload_n 0, 1) := dk_42 (dk_at dksX2_like_18 6 rfl rfl)
theorem dX2_like_426 : decode cX2_like 426 = .ok (.getfield 104, 3) := dk_180 0 104 (dk_at dksX2_like_18 7 rfl rfl)
theorem dX2_like_429 : decode cX2_like 429 = .ok (.putfield 104, 3) := dk_181 0 104 (dk_at dksX2_like_18 10 rfl rfl)
theorem dX2_like_432 : decode cX2_like 432 = .ok (.aload_n 1, 1) := dk_43 (dk_at dksX2_like_18 13 rfl rfl)
theorem dX2_like_433 : decode cX2_like 433 = .ok (.aload_n 0, 1) := dk_42 (dk_at dksX2_like_18 14 rfl rfl)
theorem dX2_like_434 : decode cX2_like 434 = .ok (.getfield 107, 3) := dk_180 0 107 (dk_at dksX2_like_18 15 rfl rfl)
theorem dX2_like_437 : decode cX2_like 437 = .ok (.putfield 107, 3) := dk_181 0 107 (dk_at dksX2_like_18 18 rfl rfl)
theorem dX2_like_440 : decode cX2_like 440 = .ok (.aload_n 1, 1) := dk_43 (dk_at dksX2_like_18 21 rfl rfl)
theorem dX2_like_441 : decode cX2_like 441 = .ok (.aload_n 0, 1) := dk_42 (dk_at dksX2_like_18 22 rfl rfl)
theorem dX2_like_442 : decode cX2_like 442 = .ok (.getfield 54, 3) := dk_180 0 54 (dk_at dksX2_like_19 0 rfl rfl)
theorem dX2_like_445 : decode cX2_like 445 = .ok (.putfield 54, 3) := dk_181 0 54 (dk_at dksX2_like_19 3 rfl rfl)
theorem dX2_like_448 : decode cX2_like 448 = .ok (.aload_n 1, 1) := dk_43 (dk_at dksX2_like_19 6 rfl rfl)
theorem dX2_like_449 : decode cX2_like 449 = .ok (.aload_n 0, 1) := dk_42 (dk_at dksX2_like_19 7 rfl rfl)
theorem dX2_like_450 : decode cX2_like 450 = .ok (.getfield 110, 3) := dk_180 0 110 (dk_at dksX2_like_19 8 rfl rfl)
theorem dX2_like_453 : decode cX2_like 453 = .ok (.putfield 110, 3) := dk_181 0 110 (dk_at dksX2_like_19 11 rfl rfl)
theorem dX2_like_456 : decode cX2_like 456 = .ok (.aload_n 1, 1) := dk_43 (dk_at dksX2_like_19 14 rfl rfl)
theorem dX2_like_457 : decode cX2_like 457 = .ok (.aload_n 0, 1) := dk_42 (dk_at dksX2_like_19 15 rfl rfl)
theorem dX2_like_458 : decode cX2_like 458 = .ok (.getfield 113, 3) := dk_180 0 113 (dk_at dksX2_like_19 16 rfl rfl)
theorem dX2_like_461 : decode cX2_like 461 = .ok (.putfield 113, 3) := dk_181 0 113 (dk_at dksX2_like_19 19 rfl rfl)
theorem dX2_like_464 : decode cX2_like 464 = .ok (.aload_n 1, 1) := dk_43 (dk_at dksX2_like_19 22 rfl rfl)
theorem dX2_like_465 : decode cX2_like 465 = .ok (.aload_n 0, 1) := dk_42 (dk_at dksX2_like_19 23 rfl rfl)
theorem dX2_like_466 : decode cX2_like 466 = .ok (.getfield 116, 3) := dk_180 0 116 (dk_at dksX2_like_20 0 rfl rfl)
theorem dX2_like_469 : decode cX2_like 469 = .ok (.putfield 116, 3) := dk_181 0 116 (dk_at dksX2_like_20 3 rfl rfl)
theorem dX2_like_472 : decode cX2_like 472 = .ok (.aload_n 1, 1) := dk_43 (dk_at dksX2_like_20 6 rfl rfl)
theorem dX2_like_473 : decode cX2_like 473 = .ok (.aload_n 0, 1) := dk_42 (dk_at dksX2_like_20 7 rfl rfl)
theorem dX2_like_474 : decode cX2_like 474 = .ok (.getfield 119, 3) := dk_180 0 119 (dk_at dksX2_like_20 8 rfl rfl)
theorem dX2_like_477 : decode cX2_like 477 = .ok (.putfield 119, 3) := dk_181 0 119 (dk_at dksX2_like_20 11 rfl rfl)
theorem dX2_like_480 : decode cX2_like 480 = .ok (.aload_n 1, 1) := dk_43 (dk_at dksX2_like_20 14 rfl rfl)
theorem dX2_like_481 : decode cX2_like 481 = .ok (.areturn, 1) := dk_176 (dk_at dksX2_like_20 15 rfl rfl)
theorem q130 : (Jvm.Cond.initialized "LimbBenches$State") ∈ lw_all := lw_g (lw_at lw_m1 2 rfl) rfl
theorem q194 : (Jvm.Cond.instanceMethod ({ cls := "LimbBenches$State", name := "<init>", desc := "()V" } : Jvm.MethodName)) ∈ lw_all := lw_g (lw_at lw_m1 66 rfl) rfl
theorem q195 : (Jvm.Cond.code ({ cls := "LimbBenches$State", name := "<init>", desc := "()V" } : Jvm.MethodName) prog_25_method_1_code (1 : Nat) (Option.none : Option Jvm.ClassFile.FieldType)) ∈ lw_all := lw_g (lw_at lw_m1 67 rfl) rfl
theorem q196 : (Jvm.Cond.methodLink "LimbBenches$State" (3 : Nat) ({ cls := "java/lang/Object", name := "<init>", desc := "()V" } : Jvm.MethodName)) ∈ lw_all := lw_g (lw_at lw_m1 68 rfl) rfl
theorem q197 : (Jvm.Cond.classLink "LimbBenches$State" (9 : Nat) "java/util/ArrayList") ∈ lw_all := lw_g (lw_at lw_m1 69 rfl) rfl
theorem q199 : (Jvm.Cond.methodLink "LimbBenches$State" (11 : Nat) ({ cls := "java/util/ArrayList", name := "<init>", desc := "(I)V" } : Jvm.MethodName)) ∈ lw_all := lw_g (lw_at lw_m1 71 rfl) rfl
theorem q542 : (Jvm.Cond.fieldLink "LimbBenches$State" (14 : Nat) "LimbBenches$State" "models" "Ljava/util/ArrayList;") ∈ lw_all := lw_g (lw_at lw_m2 174 rfl) rfl
theorem q544 : (Jvm.Cond.fieldLink "LimbBenches$State" (20 : Nat) "LimbBenches$State" "persons" "Ljava/util/ArrayList;") ∈ lw_all := lw_g (lw_at lw_m2 176 rfl) rfl
theorem q546 : (Jvm.Cond.fieldLink "LimbBenches$State" (23 : Nat) "LimbBenches$State" "jobs" "Ljava/util/ArrayList;") ∈ lw_all := lw_g (lw_at lw_m2 178 rfl) rfl
theorem q548 : (Jvm.Cond.fieldLink "LimbBenches$State" (26 : Nat) "LimbBenches$State" "walks" "Ljava/util/ArrayList;") ∈ lw_all := lw_g (lw_at lw_m2 180 rfl) rfl
theorem q550 : (Jvm.Cond.fieldLink "LimbBenches$State" (29 : Nat) "LimbBenches$State" "causes" "Ljava/util/ArrayList;") ∈ lw_all := lw_g (lw_at lw_m2 182 rfl) rfl
theorem q552 : (Jvm.Cond.fieldLink "LimbBenches$State" (32 : Nat) "LimbBenches$State" "fittings" "Ljava/util/ArrayList;") ∈ lw_all := lw_g (lw_at lw_m2 184 rfl) rfl
theorem q554 : (Jvm.Cond.fieldLink "LimbBenches$State" (35 : Nat) "LimbBenches$State" "makers" "Ljava/util/ArrayList;") ∈ lw_all := lw_g (lw_at lw_m2 186 rfl) rfl
theorem q556 : (Jvm.Cond.fieldLink "LimbBenches$State" (38 : Nat) "LimbBenches$State" "ordered" "Ljava/util/ArrayList;") ∈ lw_all := lw_g (lw_at lw_m2 188 rfl) rfl
theorem q558 : (Jvm.Cond.fieldLink "LimbBenches$State" (41 : Nat) "LimbBenches$State" "measures" "Ljava/util/ArrayList;") ∈ lw_all := lw_g (lw_at lw_m2 190 rfl) rfl
theorem q560 : (Jvm.Cond.fieldLink "LimbBenches$State" (44 : Nat) "LimbBenches$State" "pairs" "Ljava/util/ArrayList;") ∈ lw_all := lw_g (lw_at lw_m2 192 rfl) rfl
theorem q562 : (Jvm.Cond.fieldLink "LimbBenches$State" (47 : Nat) "LimbBenches$State" "spares" "[I") ∈ lw_all := lw_g (lw_at lw_m2 194 rfl) rfl
theorem q564 : (Jvm.Cond.fieldLink "LimbBenches$State" (51 : Nat) "LimbBenches$State" "stock" "[I") ∈ lw_all := lw_g (lw_at lw_m2 196 rfl) rfl
theorem q566 : (Jvm.Cond.fieldLink "LimbBenches$State" (110 : Nat) "LimbBenches$State" "today" "I") ∈ lw_all := lw_g (lw_at lw_m2 198 rfl) rfl
theorem q568 : (Jvm.Cond.fieldLink "LimbBenches$State" (113 : Nat) "LimbBenches$State" "spareMany" "I") ∈ lw_all := lw_g (lw_at lw_m2 200 rfl) rfl
theorem q570 : (Jvm.Cond.fieldLink "LimbBenches$State" (116 : Nat) "LimbBenches$State" "are" "I") ∈ lw_all := lw_g (lw_at lw_m2 202 rfl) rfl
theorem q572 : (Jvm.Cond.fieldLink "LimbBenches$State" (119 : Nat) "LimbBenches$State" "not" "I") ∈ lw_all := lw_g (lw_at lw_m2 204 rfl) rfl
theorem q574 : (Jvm.Cond.fieldLink "LimbBenches$State" (104 : Nat) "LimbBenches$State" "fitter" "I") ∈ lw_all := lw_g (lw_at lw_m2 206 rfl) rfl
theorem q576 : (Jvm.Cond.fieldLink "LimbBenches$State" (107 : Nat) "LimbBenches$State" "blisters" "I") ∈ lw_all := lw_g (lw_at lw_m2 208 rfl) rfl
theorem q578 : (Jvm.Cond.fieldLink "LimbBenches$State" (54 : Nat) "LimbBenches$State" "benches" "I") ∈ lw_all := lw_g (lw_at lw_m2 210 rfl) rfl
theorem q580 : (Jvm.Cond.laysFinal "LimbBenches$State" "LimbBenches$State" "models" "Ljava/util/ArrayList;") ∈ lw_all := lw_g (lw_at lw_m2 212 rfl) rfl
theorem q581 : (Jvm.Cond.soleField "LimbBenches$State" "models") ∈ lw_all := lw_g (lw_at lw_m2 213 rfl) rfl
theorem q582 : (Jvm.Cond.laysFinal "LimbBenches$State" "LimbBenches$State" "persons" "Ljava/util/ArrayList;") ∈ lw_all := lw_g (lw_at lw_m2 214 rfl) rfl
theorem q583 : (Jvm.Cond.soleField "LimbBenches$State" "persons") ∈ lw_all := lw_g (lw_at lw_m2 215 rfl) rfl
theorem q584 : (Jvm.Cond.laysFinal "LimbBenches$State" "LimbBenches$State" "jobs" "Ljava/util/ArrayList;") ∈ lw_all := lw_g (lw_at lw_m2 216 rfl) rfl
theorem q585 : (Jvm.Cond.soleField "LimbBenches$State" "jobs") ∈ lw_all := lw_g (lw_at lw_m2 217 rfl) rfl
theorem q586 : (Jvm.Cond.laysFinal "LimbBenches$State" "LimbBenches$State" "walks" "Ljava/util/ArrayList;") ∈ lw_all := lw_g (lw_at lw_m2 218 rfl) rfl
theorem q587 : (Jvm.Cond.soleField "LimbBenches$State" "walks") ∈ lw_all := lw_g (lw_at lw_m2 219 rfl) rfl
theorem q588 : (Jvm.Cond.laysFinal "LimbBenches$State" "LimbBenches$State" "causes" "Ljava/util/ArrayList;") ∈ lw_all := lw_g (lw_at lw_m2 220 rfl) rfl
theorem q589 : (Jvm.Cond.soleField "LimbBenches$State" "causes") ∈ lw_all := lw_g (lw_at lw_m2 221 rfl) rfl
theorem q590 : (Jvm.Cond.laysFinal "LimbBenches$State" "LimbBenches$State" "fittings" "Ljava/util/ArrayList;") ∈ lw_all := lw_g (lw_at lw_m2 222 rfl) rfl
theorem q591 : (Jvm.Cond.soleField "LimbBenches$State" "fittings") ∈ lw_all := lw_g (lw_at lw_m2 223 rfl) rfl
theorem q592 : (Jvm.Cond.laysFinal "LimbBenches$State" "LimbBenches$State" "makers" "Ljava/util/ArrayList;") ∈ lw_all := lw_g (lw_at lw_m2 224 rfl) rfl
theorem q593 : (Jvm.Cond.soleField "LimbBenches$State" "makers") ∈ lw_all := lw_g (lw_at lw_m2 225 rfl) rfl
theorem q594 : (Jvm.Cond.laysFinal "LimbBenches$State" "LimbBenches$State" "ordered" "Ljava/util/ArrayList;") ∈ lw_all := lw_g (lw_at lw_m2 226 rfl) rfl
theorem q595 : (Jvm.Cond.soleField "LimbBenches$State" "ordered") ∈ lw_all := lw_g (lw_at lw_m2 227 rfl) rfl
theorem q596 : (Jvm.Cond.laysFinal "LimbBenches$State" "LimbBenches$State" "measures" "Ljava/util/ArrayList;") ∈ lw_all := lw_g (lw_at lw_m2 228 rfl) rfl
theorem q597 : (Jvm.Cond.soleField "LimbBenches$State" "measures") ∈ lw_all := lw_g (lw_at lw_m2 229 rfl) rfl
theorem q598 : (Jvm.Cond.laysFinal "LimbBenches$State" "LimbBenches$State" "pairs" "Ljava/util/ArrayList;") ∈ lw_all := lw_g (lw_at lw_m2 230 rfl) rfl
theorem q599 : (Jvm.Cond.soleField "LimbBenches$State" "pairs") ∈ lw_all := lw_g (lw_at lw_m2 231 rfl) rfl
theorem q600 : (Jvm.Cond.laysFinal "LimbBenches$State" "LimbBenches$State" "spares" "[I") ∈ lw_all := lw_g (lw_at lw_m2 232 rfl) rfl
theorem q601 : (Jvm.Cond.soleField "LimbBenches$State" "spares") ∈ lw_all := lw_g (lw_at lw_m2 233 rfl) rfl
theorem q602 : (Jvm.Cond.laysFinal "LimbBenches$State" "LimbBenches$State" "stock" "[I") ∈ lw_all := lw_g (lw_at lw_m2 234 rfl) rfl
theorem q603 : (Jvm.Cond.soleField "LimbBenches$State" "stock") ∈ lw_all := lw_g (lw_at lw_m2 235 rfl) rfl
theorem q604 : (Jvm.Cond.lays "LimbBenches$State" "LimbBenches$State" "today" "I") ∈ lw_all := lw_g (lw_at lw_m2 236 rfl) rfl
theorem q605 : (Jvm.Cond.soleField "LimbBenches$State" "today") ∈ lw_all := lw_g (lw_at lw_m2 237 rfl) rfl
theorem q606 : (Jvm.Cond.lays "LimbBenches$State" "LimbBenches$State" "spareMany" "I") ∈ lw_all := lw_g (lw_at lw_m2 238 rfl) rfl
theorem q607 : (Jvm.Cond.soleField "LimbBenches$State" "spareMany") ∈ lw_all := lw_g (lw_at lw_m2 239 rfl) rfl
theorem q608 : (Jvm.Cond.lays "LimbBenches$State" "LimbBenches$State" "are" "I") ∈ lw_all := lw_g (lw_at lw_m3 0 rfl) rfl
theorem q609 : (Jvm.Cond.soleField "LimbBenches$State" "are") ∈ lw_all := lw_g (lw_at lw_m3 1 rfl) rfl
theorem q610 : (Jvm.Cond.lays "LimbBenches$State" "LimbBenches$State" "not" "I") ∈ lw_all := lw_g (lw_at lw_m3 2 rfl) rfl
theorem q611 : (Jvm.Cond.soleField "LimbBenches$State" "not") ∈ lw_all := lw_g (lw_at lw_m3 3 rfl) rfl
theorem q612 : (Jvm.Cond.lays "LimbBenches$State" "LimbBenches$State" "fitter" "I") ∈ lw_all := lw_g (lw_at lw_m3 4 rfl) rfl
theorem q613 : (Jvm.Cond.soleField "LimbBenches$State" "fitter") ∈ lw_all := lw_g (lw_at lw_m3 5 rfl) rfl
theorem q614 : (Jvm.Cond.lays "LimbBenches$State" "LimbBenches$State" "blisters" "I") ∈ lw_all := lw_g (lw_at lw_m3 6 rfl) rfl
theorem q615 : (Jvm.Cond.soleField "LimbBenches$State" "blisters") ∈ lw_all := lw_g (lw_at lw_m3 7 rfl) rfl
theorem q616 : (Jvm.Cond.lays "LimbBenches$State" "LimbBenches$State" "benches" "I") ∈ lw_all := lw_g (lw_at lw_m3 8 rfl) rfl
theorem q617 : (Jvm.Cond.soleField "LimbBenches$State" "benches") ∈ lw_all := lw_g (lw_at lw_m3 9 rfl) rfl
theorem q618 : (Jvm.Cond.superclass "LimbBenches$State" "java/lang/Object") ∈ lw_all := lw_g (lw_at lw_m3 10 rfl) rfl
theorem q976 : (Jvm.Cond.instanceMethod ({ cls := "LimbBenches$State", name := "like", desc := "()LLimbBenches$State;" } : Jvm.MethodName)) ∈ lw_all := lw_g (lw_at lw_m4 128 rfl) rfl
theorem q977 : (Jvm.Cond.selects "LimbBenches$State" ({ cls := "LimbBenches$State", name := "like", desc := "()LLimbBenches$State;" } : Jvm.MethodName) ({ cls := "LimbBenches$State", name := "like", desc := "()LLimbBenches$State;" } : Jvm.MethodName)) ∈ lw_all := lw_g (lw_at lw_m4 129 rfl) rfl
theorem q978 : (Jvm.Cond.code ({ cls := "LimbBenches$State", name := "like", desc := "()LLimbBenches$State;" } : Jvm.MethodName) prog_25_method_2_code (3 : Nat) (Option.some (Jvm.ClassFile.FieldType.object "LimbBenches$State"))) ∈ lw_all := lw_g (lw_at lw_m4 130 rfl) rfl
theorem q979 : (Jvm.Cond.classLink "LimbBenches$State" (15 : Nat) "LimbBenches$State") ∈ lw_all := lw_g (lw_at lw_m4 131 rfl) rfl
theorem q980 : (Jvm.Cond.methodLink "LimbBenches$State" (58 : Nat) ({ cls := "LimbBenches$State", name := "<init>", desc := "()V" } : Jvm.MethodName)) ∈ lw_all := lw_g (lw_at lw_m4 132 rfl) rfl
theorem q981 : (Jvm.Cond.methodLink "LimbBenches$State" (59 : Nat) ({ cls := "java/util/ArrayList", name := "size", desc := "()I" } : Jvm.MethodName)) ∈ lw_all := lw_g (lw_at lw_m4 133 rfl) rfl
theorem q982 : (Jvm.Cond.methodLink "LimbBenches$State" (63 : Nat) ({ cls := "java/util/ArrayList", name := "get", desc := "(I)Ljava/lang/Object;" } : Jvm.MethodName)) ∈ lw_all := lw_g (lw_at lw_m4 134 rfl) rfl
theorem q983 : (Jvm.Cond.classLink "LimbBenches$State" (67 : Nat) "LimbBenches$Model") ∈ lw_all := lw_g (lw_at lw_m4 135 rfl) rfl
theorem q984 : (Jvm.Cond.methodLink "LimbBenches$State" (69 : Nat) ({ cls := "java/util/ArrayList", name := "add", desc := "(Ljava/lang/Object;)Z" } : Jvm.MethodName)) ∈ lw_all := lw_g (lw_at lw_m4 136 rfl) rfl
theorem q1030 : (Jvm.Cond.selects "LimbBenches$State" ({ cls := "java/lang/Object", name := "getClass", desc := "()Ljava/lang/Class;" } : Jvm.MethodName) ({ cls := "java/lang/Object", name := "getClass", desc := "()Ljava/lang/Class;" } : Jvm.MethodName)) ∈ lw_all := lw_g (lw_at lw_m4 182 rfl) rfl
theorem q1053 : (Jvm.Cond.classLink "LimbBenches$State" (73 : Nat) "LimbBenches$Person") ∈ lw_all := lw_g (lw_at lw_m4 205 rfl) rfl
theorem q1054 : (Jvm.Cond.methodLink "LimbBenches$State" (75 : Nat) ({ cls := "LimbBenches$Person", name := "like", desc := "()LLimbBenches$Person;" } : Jvm.MethodName)) ∈ lw_all := lw_g (lw_at lw_m4 206 rfl) rfl
theorem q1116 : (Jvm.Cond.classLink "LimbBenches$State" (79 : Nat) "LimbBenches$Job") ∈ lw_all := lw_g (lw_at lw_m5 28 rfl) rfl
theorem q1117 : (Jvm.Cond.classLink "LimbBenches$State" (81 : Nat) "LimbBenches$Walk") ∈ lw_all := lw_g (lw_at lw_m5 29 rfl) rfl
theorem q1118 : (Jvm.Cond.classLink "LimbBenches$State" (83 : Nat) "LimbBenches$Cause") ∈ lw_all := lw_g (lw_at lw_m5 30 rfl) rfl
theorem q1119 : (Jvm.Cond.classLink "LimbBenches$State" (85 : Nat) "LimbBenches$Fitting") ∈ lw_all := lw_g (lw_at lw_m5 31 rfl) rfl
theorem q1120 : (Jvm.Cond.classLink "LimbBenches$State" (87 : Nat) "LimbBenches$Maker") ∈ lw_all := lw_g (lw_at lw_m5 32 rfl) rfl
theorem q1121 : (Jvm.Cond.methodLink "LimbBenches$State" (89 : Nat) ({ cls := "LimbBenches$Maker", name := "like", desc := "()LLimbBenches$Maker;" } : Jvm.MethodName)) ∈ lw_all := lw_g (lw_at lw_m5 33 rfl) rfl
theorem q1156 : (Jvm.Cond.classLink "LimbBenches$State" (92 : Nat) "LimbBenches$Ordered") ∈ lw_all := lw_g (lw_at lw_m5 68 rfl) rfl
theorem q1157 : (Jvm.Cond.classLink "LimbBenches$State" (94 : Nat) "LimbBenches$Measure") ∈ lw_all := lw_g (lw_at lw_m5 69 rfl) rfl
theorem q1158 : (Jvm.Cond.classLink "LimbBenches$State" (96 : Nat) "LimbBenches$Pair") ∈ lw_all := lw_g (lw_at lw_m5 70 rfl) rfl
theorem q1159 : (Jvm.Cond.methodLink "LimbBenches$State" (98 : Nat) ({ cls := "java/lang/System", name := "arraycopy", desc := "(Ljava/lang/Object;ILjava/lang/Object;II)V" } : Jvm.MethodName)) ∈ lw_all := lw_g (lw_at lw_m5 71 rfl) rfl
theorem q3197 : (Jvm.Cond.castable "LimbBenches$State" "java/lang/Object") ∈ lw_tbl := lw_at lw_m13 189 rfl

/-! LimbBenches$Rules -/
set_option maxRecDepth 100000
abbrev cX4_init : ByteArray := prog_24_method_1_code
def yX4_init : MethodName := ⟨RX4, "<init>", "(ILjava/util/ArrayList;)V"⟩
def dkwX4_init_0 : List UInt8 := [42, 183, 0, 1, 42, 27, 181, 0, 7, 42, 44, 181, 0, 13, 177]
abbrev dktX4_init_0 : List UInt8 := dkwX4_init_0 ++ []
theorem dksX4_init_0 : cX4_init.data.toList.drop 0 = dktX4_init_0 := by decide +kernel
theorem dX4_init_0 : decode cX4_init 0 = .ok (.aload_n 0, 1) := dk_42 (dk_at dksX4_init_0 0 rfl rfl)
theorem dX4_init_1 : decode cX4_init 1 = .ok (.invokespecial 1, 3) := dk_183 0 1 (dk_at dksX4_init_0 1 rfl rfl)
theorem dX4_init_4 : decode cX4_init 4 = .ok (.aload_n 0, 1) := dk_42 (dk_at dksX4_init_0 4 rfl rfl)
theorem dX4_init_5 : decode cX4_init 5 = .ok (.iload_n 1, 1) := dk_27 (dk_at dksX4_init_0 5 rfl rfl)
theorem dX4_init_6 : decode cX4_init 6 = .ok (.putfield 7, 3) := dk_181 0 7 (dk_at dksX4_init_0 6 rfl rfl)
theorem dX4_init_9 : decode cX4_init 9 = .ok (.aload_n 0, 1) := dk_42 (dk_at dksX4_init_0 9 rfl rfl)
theorem dX4_init_10 : decode cX4_init 10 = .ok (.aload_n 2, 1) := dk_44 (dk_at dksX4_init_0 10 rfl rfl)
theorem dX4_init_11 : decode cX4_init 11 = .ok (.putfield 13, 3) := dk_181 0 13 (dk_at dksX4_init_0 11 rfl rfl)
theorem dX4_init_14 : decode cX4_init 14 = .ok (.return_, 1) := dk_177 (dk_at dksX4_init_0 14 rfl rfl)
theorem q151 : (Jvm.Cond.initialized "LimbBenches$Rules") ∈ lw_all := lw_g (lw_at lw_m1 23 rfl) rfl
theorem q1029 : (Jvm.Cond.selects "LimbBenches$Rules" ({ cls := "java/lang/Object", name := "getClass", desc := "()Ljava/lang/Class;" } : Jvm.MethodName) ({ cls := "java/lang/Object", name := "getClass", desc := "()Ljava/lang/Class;" } : Jvm.MethodName)) ∈ lw_all := lw_g (lw_at lw_m4 181 rfl) rfl
theorem q1593 : (Jvm.Cond.instanceMethod ({ cls := "LimbBenches$Rules", name := "<init>", desc := "(ILjava/util/ArrayList;)V" } : Jvm.MethodName)) ∈ lw_all := lw_g (lw_at lw_m7 25 rfl) rfl
theorem q1594 : (Jvm.Cond.code ({ cls := "LimbBenches$Rules", name := "<init>", desc := "(ILjava/util/ArrayList;)V" } : Jvm.MethodName) prog_24_method_1_code (3 : Nat) (Option.none : Option Jvm.ClassFile.FieldType)) ∈ lw_all := lw_g (lw_at lw_m7 26 rfl) rfl
theorem q1595 : (Jvm.Cond.methodLink "LimbBenches$Rules" (1 : Nat) ({ cls := "java/lang/Object", name := "<init>", desc := "()V" } : Jvm.MethodName)) ∈ lw_all := lw_g (lw_at lw_m7 27 rfl) rfl
theorem q1596 : (Jvm.Cond.fieldLink "LimbBenches$Rules" (7 : Nat) "LimbBenches$Rules" "from" "I") ∈ lw_all := lw_g (lw_at lw_m7 28 rfl) rfl
theorem q1598 : (Jvm.Cond.fieldLink "LimbBenches$Rules" (13 : Nat) "LimbBenches$Rules" "clauses" "Ljava/util/ArrayList;") ∈ lw_all := lw_g (lw_at lw_m7 30 rfl) rfl
theorem q1600 : (Jvm.Cond.laysFinal "LimbBenches$Rules" "LimbBenches$Rules" "from" "I") ∈ lw_all := lw_g (lw_at lw_m7 32 rfl) rfl
theorem q1601 : (Jvm.Cond.soleField "LimbBenches$Rules" "from") ∈ lw_all := lw_g (lw_at lw_m7 33 rfl) rfl
theorem q1602 : (Jvm.Cond.laysFinal "LimbBenches$Rules" "LimbBenches$Rules" "clauses" "Ljava/util/ArrayList;") ∈ lw_all := lw_g (lw_at lw_m7 34 rfl) rfl
theorem q1603 : (Jvm.Cond.soleField "LimbBenches$Rules" "clauses") ∈ lw_all := lw_g (lw_at lw_m7 35 rfl) rfl
theorem q1604 : (Jvm.Cond.superclass "LimbBenches$Rules" "java/lang/Object") ∈ lw_all := lw_g (lw_at lw_m7 36 rfl) rfl
theorem q3205 : (Jvm.Cond.castable "LimbBenches$Rules" "java/lang/Object") ∈ lw_tbl := lw_at lw_m13 197 rfl

/-! LimbBenches$Reader -/
set_option maxRecDepth 100000
abbrev cX5_init : ByteArray := prog_22_method_1_code
def yX5_init : MethodName := ⟨RX5, "<init>", "([BI)V"⟩
def dkwX5_init_0 : List UInt8 := [42, 183, 0, 3, 42, 43, 181, 0, 9, 42, 28, 181, 0, 15, 177]
abbrev dktX5_init_0 : List UInt8 := dkwX5_init_0 ++ []
theorem dksX5_init_0 : cX5_init.data.toList.drop 0 = dktX5_init_0 := by decide +kernel
theorem dX5_init_0 : decode cX5_init 0 = .ok (.aload_n 0, 1) := dk_42 (dk_at dksX5_init_0 0 rfl rfl)
theorem dX5_init_1 : decode cX5_init 1 = .ok (.invokespecial 3, 3) := dk_183 0 3 (dk_at dksX5_init_0 1 rfl rfl)
theorem dX5_init_4 : decode cX5_init 4 = .ok (.aload_n 0, 1) := dk_42 (dk_at dksX5_init_0 4 rfl rfl)
theorem dX5_init_5 : decode cX5_init 5 = .ok (.aload_n 1, 1) := dk_43 (dk_at dksX5_init_0 5 rfl rfl)
theorem dX5_init_6 : decode cX5_init 6 = .ok (.putfield 9, 3) := dk_181 0 9 (dk_at dksX5_init_0 6 rfl rfl)
theorem dX5_init_9 : decode cX5_init 9 = .ok (.aload_n 0, 1) := dk_42 (dk_at dksX5_init_0 9 rfl rfl)
theorem dX5_init_10 : decode cX5_init 10 = .ok (.iload_n 2, 1) := dk_28 (dk_at dksX5_init_0 10 rfl rfl)
theorem dX5_init_11 : decode cX5_init 11 = .ok (.putfield 15, 3) := dk_181 0 15 (dk_at dksX5_init_0 11 rfl rfl)
theorem dX5_init_14 : decode cX5_init 14 = .ok (.return_, 1) := dk_177 (dk_at dksX5_init_0 14 rfl rfl)
abbrev cX5_reads : ByteArray := prog_22_method_12_code
def yX5_reads : MethodName := ⟨RX5, "reads", "()Ljava/util/ArrayList;"⟩
def dkwX5_reads_3 : List UInt8 := [167, 255, 202, 43, 176]
abbrev dktX5_reads_3 : List UInt8 := dkwX5_reads_3 ++ []
def dkwX5_reads_2 : List UInt8 := [182, 0, 95, 181, 0, 99, 42, 16, 59, 182, 0, 66, 43, 44, 182, 0, 105, 87, 42, 182, 0, 22, 87]
abbrev dktX5_reads_2 : List UInt8 := dkwX5_reads_2 ++ dktX5_reads_3
def dkwX5_reads_1 : List UInt8 := [162, 0, 49, 42, 43, 182, 0, 83, 182, 0, 85, 77, 42, 18, 89, 182, 0, 91, 153, 0, 11, 44, 42]
abbrev dktX5_reads_1 : List UInt8 := dkwX5_reads_1 ++ dktX5_reads_2
def dkwX5_reads_0 : List UInt8 := [187, 0, 79, 89, 4, 183, 0, 81, 76, 42, 182, 0, 22, 87, 42, 180, 0, 19, 42, 180, 0, 15]
abbrev dktX5_reads_0 : List UInt8 := dkwX5_reads_0 ++ dktX5_reads_1
theorem dksX5_reads_0 : cX5_reads.data.toList.drop 0 = dktX5_reads_0 := by decide +kernel
theorem dksX5_reads_1 : cX5_reads.data.toList.drop 22 = dktX5_reads_1 := dk_seg dksX5_reads_0 22 rfl rfl
theorem dksX5_reads_2 : cX5_reads.data.toList.drop 45 = dktX5_reads_2 := dk_seg dksX5_reads_1 23 rfl rfl
theorem dksX5_reads_3 : cX5_reads.data.toList.drop 68 = dktX5_reads_3 := dk_seg dksX5_reads_2 23 rfl rfl
theorem dX5_reads_0 : decode cX5_reads 0 = .ok (.new 79, 3) := dk_187 0 79 (dk_at dksX5_reads_0 0 rfl rfl)
theorem dX5_reads_3 : decode cX5_reads 3 = .ok (.dup, 1) := dk_89 (dk_at dksX5_reads_0 3 rfl rfl)
theorem dX5_reads_4 : decode cX5_reads 4 = .ok (.iconst 1, 1) := dk_4 (dk_at dksX5_reads_0 4 rfl rfl)
theorem dX5_reads_5 : decode cX5_reads 5 = .ok (.invokespecial 81, 3) := dk_183 0 81 (dk_at dksX5_reads_0 5 rfl rfl)
theorem dX5_reads_8 : decode cX5_reads 8 = .ok (.astore_n 1, 1) := dk_76 (dk_at dksX5_reads_0 8 rfl rfl)
theorem dX5_reads_9 : decode cX5_reads 9 = .ok (.aload_n 0, 1) := dk_42 (dk_at dksX5_reads_0 9 rfl rfl)
theorem dX5_reads_10 : decode cX5_reads 10 = .ok (.invokevirtual 22, 3) := dk_182 0 22 (dk_at dksX5_reads_0 10 rfl rfl)
theorem dX5_reads_13 : decode cX5_reads 13 = .ok (.pop, 1) := dk_87 (dk_at dksX5_reads_0 13 rfl rfl)
theorem dX5_reads_14 : decode cX5_reads 14 = .ok (.aload_n 0, 1) := dk_42 (dk_at dksX5_reads_0 14 rfl rfl)
theorem dX5_reads_15 : decode cX5_reads 15 = .ok (.getfield 19, 3) := dk_180 0 19 (dk_at dksX5_reads_0 15 rfl rfl)
theorem dX5_reads_18 : decode cX5_reads 18 = .ok (.aload_n 0, 1) := dk_42 (dk_at dksX5_reads_0 18 rfl rfl)
theorem dX5_reads_19 : decode cX5_reads 19 = .ok (.getfield 15, 3) := dk_180 0 15 (dk_at dksX5_reads_0 19 rfl rfl)
theorem dX5_reads_22 : decode cX5_reads 22 = .ok (.if_icmp .ge 49, 3) := dk_162 0 49 (dk_at dksX5_reads_1 0 rfl rfl)
theorem dX5_reads_25 : decode cX5_reads 25 = .ok (.aload_n 0, 1) := dk_42 (dk_at dksX5_reads_1 3 rfl rfl)
theorem dX5_reads_26 : decode cX5_reads 26 = .ok (.aload_n 1, 1) := dk_43 (dk_at dksX5_reads_1 4 rfl rfl)
theorem dX5_reads_27 : decode cX5_reads 27 = .ok (.invokevirtual 83, 3) := dk_182 0 83 (dk_at dksX5_reads_1 5 rfl rfl)
theorem dX5_reads_30 : decode cX5_reads 30 = .ok (.invokevirtual 85, 3) := dk_182 0 85 (dk_at dksX5_reads_1 8 rfl rfl)
theorem dX5_reads_33 : decode cX5_reads 33 = .ok (.astore_n 2, 1) := dk_77 (dk_at dksX5_reads_1 11 rfl rfl)
theorem dX5_reads_34 : decode cX5_reads 34 = .ok (.aload_n 0, 1) := dk_42 (dk_at dksX5_reads_1 12 rfl rfl)
theorem dX5_reads_35 : decode cX5_reads 35 = .ok (.ldc 89, 2) := dk_18 89 (dk_at dksX5_reads_1 13 rfl rfl)
theorem dX5_reads_37 : decode cX5_reads 37 = .ok (.invokevirtual 91, 3) := dk_182 0 91 (dk_at dksX5_reads_1 15 rfl rfl)
theorem dX5_reads_40 : decode cX5_reads 40 = .ok (.ifCond .eq 11, 3) := dk_153 0 11 (dk_at dksX5_reads_1 18 rfl rfl)
theorem dX5_reads_43 : decode cX5_reads 43 = .ok (.aload_n 2, 1) := dk_44 (dk_at dksX5_reads_1 21 rfl rfl)
theorem dX5_reads_44 : decode cX5_reads 44 = .ok (.aload_n 0, 1) := dk_42 (dk_at dksX5_reads_1 22 rfl rfl)
theorem dX5_reads_45 : decode cX5_reads 45 = .ok (.invokevirtual 95, 3) := dk_182 0 95 (dk_at dksX5_reads_2 0 rfl rfl)
theorem dX5_reads_48 : decode cX5_reads 48 = .ok (.putfield 99, 3) := dk_181 0 99 (dk_at dksX5_reads_2 3 rfl rfl)
theorem dX5_reads_51 : decode cX5_reads 51 = .ok (.aload_n 0, 1) := dk_42 (dk_at dksX5_reads_2 6 rfl rfl)
theorem dX5_reads_52 : decode cX5_reads 52 = .ok (.bipush 59, 2) := dk_16 59 (dk_at dksX5_reads_2 7 rfl rfl)
theorem dX5_reads_54 : decode cX5_reads 54 = .ok (.invokevirtual 66, 3) := dk_182 0 66 (dk_at dksX5_reads_2 9 rfl rfl)
theorem dX5_reads_57 : decode cX5_reads 57 = .ok (.aload_n 1, 1) := dk_43 (dk_at dksX5_reads_2 12 rfl rfl)
theorem dX5_reads_58 : decode cX5_reads 58 = .ok (.aload_n 2, 1) := dk_44 (dk_at dksX5_reads_2 13 rfl rfl)
theorem dX5_reads_59 : decode cX5_reads 59 = .ok (.invokevirtual 105, 3) := dk_182 0 105 (dk_at dksX5_reads_2 14 rfl rfl)
theorem dX5_reads_62 : decode cX5_reads 62 = .ok (.pop, 1) := dk_87 (dk_at dksX5_reads_2 17 rfl rfl)
theorem dX5_reads_63 : decode cX5_reads 63 = .ok (.aload_n 0, 1) := dk_42 (dk_at dksX5_reads_2 18 rfl rfl)
theorem dX5_reads_64 : decode cX5_reads 64 = .ok (.invokevirtual 22, 3) := dk_182 0 22 (dk_at dksX5_reads_2 19 rfl rfl)
theorem dX5_reads_67 : decode cX5_reads 67 = .ok (.pop, 1) := dk_87 (dk_at dksX5_reads_2 22 rfl rfl)
theorem dX5_reads_68 : decode cX5_reads 68 = .ok (.goto (-54), 3) := dk_167 255 202 (dk_at dksX5_reads_3 0 rfl rfl)
theorem dX5_reads_71 : decode cX5_reads 71 = .ok (.aload_n 1, 1) := dk_43 (dk_at dksX5_reads_3 3 rfl rfl)
theorem dX5_reads_72 : decode cX5_reads 72 = .ok (.areturn, 1) := dk_176 (dk_at dksX5_reads_3 4 rfl rfl)
abbrev cX5_sign : ByteArray := prog_22_method_2_code
def yX5_sign : MethodName := ⟨RX5, "sign", "()I"⟩
def dkwX5_sign_2 : List UInt8 := [162, 0, 15, 42, 180, 0, 9, 42, 180, 0, 19, 51, 167, 0, 4, 3, 172]
abbrev dktX5_sign_2 : List UInt8 := dkwX5_sign_2 ++ []
def dkwX5_sign_1 : List UInt8 := [160, 0, 16, 42, 89, 180, 0, 19, 4, 96, 181, 0, 19, 167, 255, 221, 42, 180, 0, 19, 42, 180, 0, 15]
abbrev dktX5_sign_1 : List UInt8 := dkwX5_sign_1 ++ dktX5_sign_2
def dkwX5_sign_0 : List UInt8 := [42, 180, 0, 19, 42, 180, 0, 15, 162, 0, 30, 42, 180, 0, 9, 42, 180, 0, 19, 51, 16, 32]
abbrev dktX5_sign_0 : List UInt8 := dkwX5_sign_0 ++ dktX5_sign_1
theorem dksX5_sign_0 : cX5_sign.data.toList.drop 0 = dktX5_sign_0 := by decide +kernel
theorem dksX5_sign_1 : cX5_sign.data.toList.drop 22 = dktX5_sign_1 := dk_seg dksX5_sign_0 22 rfl rfl
theorem dksX5_sign_2 : cX5_sign.data.toList.drop 46 = dktX5_sign_2 := dk_seg dksX5_sign_1 24 rfl rfl
theorem dX5_sign_0 : decode cX5_sign 0 = .ok (.aload_n 0, 1) := dk_42 (dk_at dksX5_sign_0 0 rfl rfl)
theorem dX5_sign_1 : decode cX5_sign 1 = .ok (.getfield 19, 3) := dk_180 0 19 (dk_at dksX5_sign_0 1 rfl rfl)
theorem dX5_sign_4 : decode cX5_sign 4 = .ok (.aload_n 0, 1) := dk_42 (dk_at dksX5_sign_0 4 rfl rfl)
theorem dX5_sign_5 : decode cX5_sign 5 = .ok (.getfield 15, 3) := dk_180 0 15 (dk_at dksX5_sign_0 5 rfl rfl)
theorem dX5_sign_8 : decode cX5_sign 8 = .ok (.if_icmp .ge 30, 3) := dk_162 0 30 (dk_at dksX5_sign_0 8 rfl rfl)
theorem dX5_sign_11 : decode cX5_sign 11 = .ok (.aload_n 0, 1) := dk_42 (dk_at dksX5_sign_0 11 rfl rfl)
theorem dX5_sign_12 : decode cX5_sign 12 = .ok (.getfield 9, 3) := dk_180 0 9 (dk_at dksX5_sign_0 12 rfl rfl)
theorem dX5_sign_15 : decode cX5_sign 15 = .ok (.aload_n 0, 1) := dk_42 (dk_at dksX5_sign_0 15 rfl rfl)
theorem dX5_sign_16 : decode cX5_sign 16 = .ok (.getfield 19, 3) := dk_180 0 19 (dk_at dksX5_sign_0 16 rfl rfl)
theorem dX5_sign_19 : decode cX5_sign 19 = .ok (.baload, 1) := dk_51 (dk_at dksX5_sign_0 19 rfl rfl)
theorem dX5_sign_20 : decode cX5_sign 20 = .ok (.bipush 32, 2) := dk_16 32 (dk_at dksX5_sign_0 20 rfl rfl)
theorem dX5_sign_22 : decode cX5_sign 22 = .ok (.if_icmp .ne 16, 3) := dk_160 0 16 (dk_at dksX5_sign_1 0 rfl rfl)
theorem dX5_sign_25 : decode cX5_sign 25 = .ok (.aload_n 0, 1) := dk_42 (dk_at dksX5_sign_1 3 rfl rfl)
theorem dX5_sign_26 : decode cX5_sign 26 = .ok (.dup, 1) := dk_89 (dk_at dksX5_sign_1 4 rfl rfl)
theorem dX5_sign_27 : decode cX5_sign 27 = .ok (.getfield 19, 3) := dk_180 0 19 (dk_at dksX5_sign_1 5 rfl rfl)
theorem dX5_sign_30 : decode cX5_sign 30 = .ok (.iconst 1, 1) := dk_4 (dk_at dksX5_sign_1 8 rfl rfl)
theorem dX5_sign_31 : decode cX5_sign 31 = .ok (.iadd, 1) := dk_96 (dk_at dksX5_sign_1 9 rfl rfl)
theorem dX5_sign_32 : decode cX5_sign 32 = .ok (.putfield 19, 3) := dk_181 0 19 (dk_at dksX5_sign_1 10 rfl rfl)
theorem dX5_sign_35 : decode cX5_sign 35 = .ok (.goto (-35), 3) := dk_167 255 221 (dk_at dksX5_sign_1 13 rfl rfl)
theorem dX5_sign_38 : decode cX5_sign 38 = .ok (.aload_n 0, 1) := dk_42 (dk_at dksX5_sign_1 16 rfl rfl)
theorem dX5_sign_39 : decode cX5_sign 39 = .ok (.getfield 19, 3) := dk_180 0 19 (dk_at dksX5_sign_1 17 rfl rfl)
theorem dX5_sign_42 : decode cX5_sign 42 = .ok (.aload_n 0, 1) := dk_42 (dk_at dksX5_sign_1 20 rfl rfl)
theorem dX5_sign_43 : decode cX5_sign 43 = .ok (.getfield 15, 3) := dk_180 0 15 (dk_at dksX5_sign_1 21 rfl rfl)
theorem dX5_sign_46 : decode cX5_sign 46 = .ok (.if_icmp .ge 15, 3) := dk_162 0 15 (dk_at dksX5_sign_2 0 rfl rfl)
theorem dX5_sign_49 : decode cX5_sign 49 = .ok (.aload_n 0, 1) := dk_42 (dk_at dksX5_sign_2 3 rfl rfl)
theorem dX5_sign_50 : decode cX5_sign 50 = .ok (.getfield 9, 3) := dk_180 0 9 (dk_at dksX5_sign_2 4 rfl rfl)
theorem dX5_sign_53 : decode cX5_sign 53 = .ok (.aload_n 0, 1) := dk_42 (dk_at dksX5_sign_2 7 rfl rfl)
theorem dX5_sign_54 : decode cX5_sign 54 = .ok (.getfield 19, 3) := dk_180 0 19 (dk_at dksX5_sign_2 8 rfl rfl)
theorem dX5_sign_57 : decode cX5_sign 57 = .ok (.baload, 1) := dk_51 (dk_at dksX5_sign_2 11 rfl rfl)
theorem dX5_sign_58 : decode cX5_sign 58 = .ok (.goto 4, 3) := dk_167 0 4 (dk_at dksX5_sign_2 12 rfl rfl)
theorem dX5_sign_61 : decode cX5_sign 61 = .ok (.iconst 0, 1) := dk_3 (dk_at dksX5_sign_2 15 rfl rfl)
theorem dX5_sign_62 : decode cX5_sign 62 = .ok (.ireturn, 1) := dk_172 (dk_at dksX5_sign_2 16 rfl rfl)
abbrev cX5_clause : ByteArray := prog_22_method_13_code
def yX5_clause : MethodName := ⟨RX5, "clause", "(I)LLimbBenches$Clause;"⟩
def dkwX5_clause_24 : List UInt8 := [182, 0, 124, 183, 0, 150, 176]
abbrev dktX5_clause_24 : List UInt8 := dkwX5_clause_24 ++ []
def dkwX5_clause_23 : List UInt8 := [89, 44, 3, 182, 0, 144, 3, 42, 182, 0, 132, 183, 0, 136, 176, 187, 0, 148, 89, 42, 3, 6]
abbrev dktX5_clause_23 : List UInt8 := dkwX5_clause_23 ++ dktX5_clause_24
def dkwX5_clause_22 : List UInt8 := [187, 0, 139, 89, 21, 5, 21, 6, 42, 21, 6, 17, 39, 15, 182, 0, 124, 183, 0, 141, 176, 187, 0, 130]
abbrev dktX5_clause_22 : List UInt8 := dkwX5_clause_22 ++ dktX5_clause_23
def dkwX5_clause_21 : List UInt8 := [183, 0, 136, 176, 42, 3, 16, 11, 182, 0, 124, 54, 5, 42, 3, 17, 39, 15, 182, 0, 124, 54, 6]
abbrev dktX5_clause_21 : List UInt8 := dkwX5_clause_21 ++ dktX5_clause_22
def dkwX5_clause_20 : List UInt8 := [44, 18, 113, 182, 0, 43, 153, 0, 8, 16, 108, 167, 0, 5, 16, 117, 21, 5, 42, 182, 0, 132]
abbrev dktX5_clause_20 : List UInt8 := dkwX5_clause_20 ++ dktX5_clause_21
def dkwX5_clause_19 : List UInt8 := [187, 0, 127, 89, 21, 5, 21, 7, 183, 0, 129, 176, 42, 3, 6, 182, 0, 124, 54, 5, 187, 0, 130, 89]
abbrev dktX5_clause_19 : List UInt8 := dkwX5_clause_19 ++ dktX5_clause_20
def dkwX5_clause_18 : List UInt8 := [182, 0, 124, 54, 7, 21, 5, 21, 7, 160, 0, 14, 187, 0, 50, 89, 5, 21, 6, 183, 0, 52, 191]
abbrev dktX5_clause_18 : List UInt8 := dkwX5_clause_18 ++ dktX5_clause_19
def dkwX5_clause_17 : List UInt8 := [42, 3, 16, 11, 182, 0, 124, 54, 5, 42, 182, 0, 22, 87, 42, 180, 0, 19, 54, 6, 42, 3, 16, 11]
abbrev dktX5_clause_17 : List UInt8 := dkwX5_clause_17 ++ dktX5_clause_18
def dkwX5_clause_16 : List UInt8 := [170, 0, 0, 0, 0, 0, 194, 0, 0, 0, 0, 0, 0, 0, 5, 0, 0, 0, 39, 0, 0, 0, 98, 0, 0, 0, 98, 0, 0, 0, 136, 0, 0, 0, 176, 0, 0, 0, 176]
abbrev dktX5_clause_16 : List UInt8 := dkwX5_clause_16 ++ dktX5_clause_17
def dkwX5_clause_15 : List UInt8 := [167, 0, 15, 45, 18, 122, 182, 0, 43, 153, 0, 6, 8, 54, 4, 21, 4]
abbrev dktX5_clause_15 : List UInt8 := dkwX5_clause_15 ++ dktX5_clause_16
def dkwX5_clause_14 : List UInt8 := [182, 0, 43, 153, 0, 36, 6, 54, 4, 167, 0, 30, 45, 18, 115, 182, 0, 43, 153, 0, 21, 7, 54, 4]
abbrev dktX5_clause_14 : List UInt8 := dkwX5_clause_14 ++ dktX5_clause_15
def dkwX5_clause_13 : List UInt8 := [4, 54, 4, 167, 0, 60, 45, 18, 118, 182, 0, 43, 153, 0, 51, 5, 54, 4, 167, 0, 45, 45, 18, 120]
abbrev dktX5_clause_13 : List UInt8 := dkwX5_clause_13 ++ dktX5_clause_14
def dkwX5_clause_12 : List UInt8 := [45, 18, 111, 182, 0, 43, 153, 0, 81, 3, 54, 4, 167, 0, 75, 45, 18, 113, 182, 0, 43, 153, 0, 66]
abbrev dktX5_clause_12 : List UInt8 := dkwX5_clause_12 ++ dktX5_clause_13
def dkwX5_clause_11 : List UInt8 := [171, 0, 0, 0, 0, 0, 146, 0, 0, 0, 6, 200, 70, 55, 17, 0, 0, 0, 104, 0, 1, 124, 19, 0, 0, 0, 59, 0, 50, 174, 252, 0, 0, 0, 74, 0, 55, 145, 117, 0, 0, 0, 134, 6, 118, 38, 116, 0, 0, 0, 89, 6, 119, 194, 28, 0, 0, 0, 119]
abbrev dktX5_clause_11 : List UInt8 := dkwX5_clause_11 ++ dktX5_clause_12
def dkwX5_clause_10 : List UInt8 := [182, 0, 108]
abbrev dktX5_clause_10 : List UInt8 := dkwX5_clause_10 ++ dktX5_clause_11
def dkwX5_clause_9 : List UInt8 := [183, 0, 52, 191, 42, 89, 180, 0, 19, 44, 182, 0, 49, 96, 181, 0, 19, 44, 78, 2, 54, 4, 45]
abbrev dktX5_clause_9 : List UInt8 := dkwX5_clause_9 ++ dktX5_clause_10
def dkwX5_clause_8 : List UInt8 := [167, 0, 8, 42, 182, 0, 55, 191, 27, 16, 20, 160, 0, 16, 187, 0, 50, 89, 6, 42, 180, 0, 19]
abbrev dktX5_clause_8 : List UInt8 := dkwX5_clause_8 ++ dktX5_clause_9
def dkwX5_clause_7 : List UInt8 := [170, 0, 0, 0, 0, 0, 46, 0, 0, 0, 0, 0, 0, 0, 6, 0, 0, 0, 43, 0, 0, 0, 43, 0, 0, 0, 43, 0, 0, 0, 43, 0, 0, 0, 43, 0, 0, 0, 43, 0, 0, 0, 43]
abbrev dktX5_clause_7 : List UInt8 := dkwX5_clause_7 ++ dktX5_clause_8
def dkwX5_clause_6 : List UInt8 := [153, 0, 7, 16, 6, 54, 4, 21, 4]
abbrev dktX5_clause_6 : List UInt8 := dkwX5_clause_6 ++ dktX5_clause_7
def dkwX5_clause_5 : List UInt8 := [167, 0, 31, 45, 18, 120, 182, 0, 43, 153, 0, 22, 8, 54, 4, 167, 0, 16, 45, 18, 122, 182, 0, 43]
abbrev dktX5_clause_5 : List UInt8 := dkwX5_clause_5 ++ dktX5_clause_6
def dkwX5_clause_4 : List UInt8 := [182, 0, 43, 153, 0, 52, 6, 54, 4, 167, 0, 46, 45, 18, 118, 182, 0, 43, 153, 0, 37, 7, 54, 4]
abbrev dktX5_clause_4 : List UInt8 := dkwX5_clause_4 ++ dktX5_clause_5
def dkwX5_clause_3 : List UInt8 := [4, 54, 4, 167, 0, 76, 45, 18, 115, 182, 0, 43, 153, 0, 67, 5, 54, 4, 167, 0, 61, 45, 18, 117]
abbrev dktX5_clause_3 : List UInt8 := dkwX5_clause_3 ++ dktX5_clause_4
def dkwX5_clause_2 : List UInt8 := [45, 18, 111, 182, 0, 43, 153, 0, 97, 3, 54, 4, 167, 0, 91, 45, 18, 113, 182, 0, 43, 153, 0, 82]
abbrev dktX5_clause_2 : List UInt8 := dkwX5_clause_2 ++ dktX5_clause_3
def dkwX5_clause_1 : List UInt8 := [171, 0, 0, 0, 0, 169, 0, 0, 0, 7, 200, 70, 55, 17, 0, 0, 0, 141, 0, 1, 124, 19, 0, 0, 0, 66, 0, 50, 174, 252, 0, 0, 0, 81, 0, 51, 136, 150, 0, 0, 0, 111, 0, 55, 145, 117, 0, 0, 0, 156, 6, 118, 38, 116, 0, 0, 0, 126, 6, 119, 194, 28, 0, 0, 0, 96]
abbrev dktX5_clause_1 : List UInt8 := dkwX5_clause_1 ++ dktX5_clause_2
def dkwX5_clause_0 : List UInt8 := [42, 182, 0, 40, 77, 44, 78, 2, 54, 4, 45, 182, 0, 108]
abbrev dktX5_clause_0 : List UInt8 := dkwX5_clause_0 ++ dktX5_clause_1
theorem dksX5_clause_0 : cX5_clause.data.toList.drop 0 = dktX5_clause_0 := by decide +kernel
theorem dksX5_clause_1 : cX5_clause.data.toList.drop 14 = dktX5_clause_1 := dk_seg dksX5_clause_0 14 rfl rfl
theorem dksX5_clause_2 : cX5_clause.data.toList.drop 80 = dktX5_clause_2 := dk_seg dksX5_clause_1 66 rfl rfl
theorem dksX5_clause_3 : cX5_clause.data.toList.drop 104 = dktX5_clause_3 := dk_seg dksX5_clause_2 24 rfl rfl
theorem dksX5_clause_4 : cX5_clause.data.toList.drop 128 = dktX5_clause_4 := dk_seg dksX5_clause_3 24 rfl rfl
theorem dksX5_clause_5 : cX5_clause.data.toList.drop 152 = dktX5_clause_5 := dk_seg dksX5_clause_4 24 rfl rfl
theorem dksX5_clause_6 : cX5_clause.data.toList.drop 176 = dktX5_clause_6 := dk_seg dksX5_clause_5 24 rfl rfl
theorem dksX5_clause_7 : cX5_clause.data.toList.drop 185 = dktX5_clause_7 := dk_seg dksX5_clause_6 9 rfl rfl
theorem dksX5_clause_8 : cX5_clause.data.toList.drop 228 = dktX5_clause_8 := dk_seg dksX5_clause_7 43 rfl rfl
theorem dksX5_clause_9 : cX5_clause.data.toList.drop 251 = dktX5_clause_9 := dk_seg dksX5_clause_8 23 rfl rfl
theorem dksX5_clause_10 : cX5_clause.data.toList.drop 274 = dktX5_clause_10 := dk_seg dksX5_clause_9 23 rfl rfl
theorem dksX5_clause_11 : cX5_clause.data.toList.drop 277 = dktX5_clause_11 := dk_seg dksX5_clause_10 3 rfl rfl
theorem dksX5_clause_12 : cX5_clause.data.toList.drop 336 = dktX5_clause_12 := dk_seg dksX5_clause_11 59 rfl rfl
theorem dksX5_clause_13 : cX5_clause.data.toList.drop 360 = dktX5_clause_13 := dk_seg dksX5_clause_12 24 rfl rfl
theorem dksX5_clause_14 : cX5_clause.data.toList.drop 384 = dktX5_clause_14 := dk_seg dksX5_clause_13 24 rfl rfl
theorem dksX5_clause_15 : cX5_clause.data.toList.drop 408 = dktX5_clause_15 := dk_seg dksX5_clause_14 24 rfl rfl
theorem dksX5_clause_16 : cX5_clause.data.toList.drop 425 = dktX5_clause_16 := dk_seg dksX5_clause_15 17 rfl rfl
theorem dksX5_clause_17 : cX5_clause.data.toList.drop 464 = dktX5_clause_17 := dk_seg dksX5_clause_16 39 rfl rfl
theorem dksX5_clause_18 : cX5_clause.data.toList.drop 488 = dktX5_clause_18 := dk_seg dksX5_clause_17 24 rfl rfl
theorem dksX5_clause_19 : cX5_clause.data.toList.drop 511 = dktX5_clause_19 := dk_seg dksX5_clause_18 23 rfl rfl
theorem dksX5_clause_20 : cX5_clause.data.toList.drop 535 = dktX5_clause_20 := dk_seg dksX5_clause_19 24 rfl rfl
theorem dksX5_clause_21 : cX5_clause.data.toList.drop 557 = dktX5_clause_21 := dk_seg dksX5_clause_20 22 rfl rfl
theorem dksX5_clause_22 : cX5_clause.data.toList.drop 580 = dktX5_clause_22 := dk_seg dksX5_clause_21 23 rfl rfl
theorem dksX5_clause_23 : cX5_clause.data.toList.drop 604 = dktX5_clause_23 := dk_seg dksX5_clause_22 24 rfl rfl
theorem dksX5_clause_24 : cX5_clause.data.toList.drop 626 = dktX5_clause_24 := dk_seg dksX5_clause_23 22 rfl rfl
theorem dX5_clause_0 : decode cX5_clause 0 = .ok (.aload_n 0, 1) := dk_42 (dk_at dksX5_clause_0 0 rfl rfl)
theorem dX5_clause_1 : decode cX5_clause 1 = .ok (.invokevirtual 40, 3) := dk_182 0 40 (dk_at dksX5_clause_0 1 rfl rfl)
theorem dX5_clause_4 : decode cX5_clause 4 = .ok (.astore_n 2, 1) := dk_77 (dk_at dksX5_clause_0 4 rfl rfl)
theorem dX5_clause_5 : decode cX5_clause 5 = .ok (.aload_n 2, 1) := dk_44 (dk_at dksX5_clause_0 5 rfl rfl)
theorem dX5_clause_6 : decode cX5_clause 6 = .ok (.astore_n 3, 1) := dk_78 (dk_at dksX5_clause_0 6 rfl rfl)
theorem dX5_clause_7 : decode cX5_clause 7 = .ok (.iconst (-1), 1) := dk_2 (dk_at dksX5_clause_0 7 rfl rfl)
theorem dX5_clause_8 : decode cX5_clause 8 = .ok (.istore 4, 2) := dk_54 4 (dk_at dksX5_clause_0 8 rfl rfl)
theorem dX5_clause_10 : decode cX5_clause 10 = .ok (.aload_n 3, 1) := dk_45 (dk_at dksX5_clause_0 10 rfl rfl)
theorem dX5_clause_11 : decode cX5_clause 11 = .ok (.invokevirtual 108, 3) := dk_182 0 108 (dk_at dksX5_clause_0 11 rfl rfl)
theorem dX5_clause_14 : decode cX5_clause 14 = .ok (.lookupswitch 169 #[(-934922479, 141), (97299, 66), (3321596, 81), (3377302, 111), (3641717, 156), (108406388, 126), (108511772, 96)], 66) := by decide +kernel
theorem dX5_clause_80 : decode cX5_clause 80 = .ok (.aload_n 3, 1) := dk_45 (dk_at dksX5_clause_2 0 rfl rfl)
theorem dX5_clause_81 : decode cX5_clause 81 = .ok (.ldc 111, 2) := dk_18 111 (dk_at dksX5_clause_2 1 rfl rfl)
theorem dX5_clause_83 : decode cX5_clause 83 = .ok (.invokevirtual 43, 3) := dk_182 0 43 (dk_at dksX5_clause_2 3 rfl rfl)
theorem dX5_clause_86 : decode cX5_clause 86 = .ok (.ifCond .eq 97, 3) := dk_153 0 97 (dk_at dksX5_clause_2 6 rfl rfl)
theorem dX5_clause_89 : decode cX5_clause 89 = .ok (.iconst 0, 1) := dk_3 (dk_at dksX5_clause_2 9 rfl rfl)
theorem dX5_clause_90 : decode cX5_clause 90 = .ok (.istore 4, 2) := dk_54 4 (dk_at dksX5_clause_2 10 rfl rfl)
theorem dX5_clause_92 : decode cX5_clause 92 = .ok (.goto 91, 3) := dk_167 0 91 (dk_at dksX5_clause_2 12 rfl rfl)
theorem dX5_clause_95 : decode cX5_clause 95 = .ok (.aload_n 3, 1) := dk_45 (dk_at dksX5_clause_2 15 rfl rfl)
theorem dX5_clause_96 : decode cX5_clause 96 = .ok (.ldc 113, 2) := dk_18 113 (dk_at dksX5_clause_2 16 rfl rfl)
theorem dX5_clause_98 : decode cX5_clause 98 = .ok (.invokevirtual 43, 3) := dk_182 0 43 (dk_at dksX5_clause_2 18 rfl rfl)
theorem dX5_clause_101 : decode cX5_clause 101 = .ok (.ifCond .eq 82, 3) := dk_153 0 82 (dk_at dksX5_clause_2 21 rfl rfl)
theorem dX5_clause_104 : decode cX5_clause 104 = .ok (.iconst 1, 1) := dk_4 (dk_at dksX5_clause_3 0 rfl rfl)
theorem dX5_clause_105 : decode cX5_clause 105 = .ok (.istore 4, 2) := dk_54 4 (dk_at dksX5_clause_3 1 rfl rfl)
theorem dX5_clause_107 : decode cX5_clause 107 = .ok (.goto 76, 3) := dk_167 0 76 (dk_at dksX5_clause_3 3 rfl rfl)
theorem dX5_clause_110 : decode cX5_clause 110 = .ok (.aload_n 3, 1) := dk_45 (dk_at dksX5_clause_3 6 rfl rfl)
theorem dX5_clause_111 : decode cX5_clause 111 = .ok (.ldc 115, 2) := dk_18 115 (dk_at dksX5_clause_3 7 rfl rfl)
theorem dX5_clause_113 : decode cX5_clause 113 = .ok (.invokevirtual 43, 3) := dk_182 0 43 (dk_at dksX5_clause_3 9 rfl rfl)
theorem dX5_clause_116 : decode cX5_clause 116 = .ok (.ifCond .eq 67, 3) := dk_153 0 67 (dk_at dksX5_clause_3 12 rfl rfl)
theorem dX5_clause_119 : decode cX5_clause 119 = .ok (.iconst 2, 1) := dk_5 (dk_at dksX5_clause_3 15 rfl rfl)
theorem dX5_clause_120 : decode cX5_clause 120 = .ok (.istore 4, 2) := dk_54 4 (dk_at dksX5_clause_3 16 rfl rfl)
theorem dX5_clause_122 : decode cX5_clause 122 = .ok (.goto 61, 3) := dk_167 0 61 (dk_at dksX5_clause_3 18 rfl rfl)
theorem dX5_clause_125 : decode cX5_clause 125 = .ok (.aload_n 3, 1) := dk_45 (dk_at dksX5_clause_3 21 rfl rfl)
theorem dX5_clause_126 : decode cX5_clause 126 = .ok (.ldc 117, 2) := dk_18 117 (dk_at dksX5_clause_3 22 rfl rfl)
theorem dX5_clause_128 : decode cX5_clause 128 = .ok (.invokevirtual 43, 3) := dk_182 0 43 (dk_at dksX5_clause_4 0 rfl rfl)
theorem dX5_clause_131 : decode cX5_clause 131 = .ok (.ifCond .eq 52, 3) := dk_153 0 52 (dk_at dksX5_clause_4 3 rfl rfl)
theorem dX5_clause_134 : decode cX5_clause 134 = .ok (.iconst 3, 1) := dk_6 (dk_at dksX5_clause_4 6 rfl rfl)
theorem dX5_clause_135 : decode cX5_clause 135 = .ok (.istore 4, 2) := dk_54 4 (dk_at dksX5_clause_4 7 rfl rfl)
theorem dX5_clause_137 : decode cX5_clause 137 = .ok (.goto 46, 3) := dk_167 0 46 (dk_at dksX5_clause_4 9 rfl rfl)
theorem dX5_clause_140 : decode cX5_clause 140 = .ok (.aload_n 3, 1) := dk_45 (dk_at dksX5_clause_4 12 rfl rfl)
theorem dX5_clause_141 : decode cX5_clause 141 = .ok (.ldc 118, 2) := dk_18 118 (dk_at dksX5_clause_4 13 rfl rfl)
theorem dX5_clause_143 : decode cX5_clause 143 = .ok (.invokevirtual 43, 3) := dk_182 0 43 (dk_at dksX5_clause_4 15 rfl rfl)
theorem dX5_clause_146 : decode cX5_clause 146 = .ok (.ifCond .eq 37, 3) := dk_153 0 37 (dk_at dksX5_clause_4 18 rfl rfl)
theorem dX5_clause_149 : decode cX5_clause 149 = .ok (.iconst 4, 1) := dk_7 (dk_at dksX5_clause_4 21 rfl rfl)
theorem dX5_clause_150 : decode cX5_clause 150 = .ok (.istore 4, 2) := dk_54 4 (dk_at dksX5_clause_4 22 rfl rfl)
theorem dX5_clause_152 : decode cX5_clause 152 = .ok (.goto 31, 3) := dk_167 0 31 (dk_at dksX5_clause_5 0 rfl rfl)
theorem dX5_clause_155 : decode cX5_clause 155 = .ok (.aload_n 3, 1) := dk_45 (dk_at dksX5_clause_5 3 rfl rfl)
theorem dX5_clause_156 : decode cX5_clause 156 = .ok (.ldc 120, 2) := dk_18 120 (dk_at dksX5_clause_5 4 rfl rfl)
theorem dX5_clause_158 : decode cX5_clause 158 = .ok (.invokevirtual 43, 3) := dk_182 0 43 (dk_at dksX5_clause_5 6 rfl rfl)
theorem dX5_clause_161 : decode cX5_clause 161 = .ok (.ifCond .eq 22, 3) := dk_153 0 22 (dk_at dksX5_clause_5 9 rfl rfl)
theorem dX5_clause_164 : decode cX5_clause 164 = .ok (.iconst 5, 1) := dk_8 (dk_at dksX5_clause_5 12 rfl rfl)
theorem dX5_clause_165 : decode cX5_clause 165 = .ok (.istore 4, 2) := dk_54 4 (dk_at dksX5_clause_5 13 rfl rfl)
theorem dX5_clause_167 : decode cX5_clause 167 = .ok (.goto 16, 3) := dk_167 0 16 (dk_at dksX5_clause_5 15 rfl rfl)
theorem dX5_clause_170 : decode cX5_clause 170 = .ok (.aload_n 3, 1) := dk_45 (dk_at dksX5_clause_5 18 rfl rfl)
theorem dX5_clause_171 : decode cX5_clause 171 = .ok (.ldc 122, 2) := dk_18 122 (dk_at dksX5_clause_5 19 rfl rfl)
theorem dX5_clause_173 : decode cX5_clause 173 = .ok (.invokevirtual 43, 3) := dk_182 0 43 (dk_at dksX5_clause_5 21 rfl rfl)
theorem dX5_clause_176 : decode cX5_clause 176 = .ok (.ifCond .eq 7, 3) := dk_153 0 7 (dk_at dksX5_clause_6 0 rfl rfl)
theorem dX5_clause_179 : decode cX5_clause 179 = .ok (.bipush 6, 2) := dk_16 6 (dk_at dksX5_clause_6 3 rfl rfl)
theorem dX5_clause_181 : decode cX5_clause 181 = .ok (.istore 4, 2) := dk_54 4 (dk_at dksX5_clause_6 5 rfl rfl)
theorem dX5_clause_183 : decode cX5_clause 183 = .ok (.iload 4, 2) := dk_21 4 (dk_at dksX5_clause_6 7 rfl rfl)
theorem dX5_clause_185 : decode cX5_clause 185 = .ok (.tableswitch 46 0 6 #[43, 43, 43, 43, 43, 43, 43], 43) := by decide +kernel
theorem dX5_clause_228 : decode cX5_clause 228 = .ok (.goto 8, 3) := dk_167 0 8 (dk_at dksX5_clause_8 0 rfl rfl)
theorem dX5_clause_231 : decode cX5_clause 231 = .ok (.aload_n 0, 1) := dk_42 (dk_at dksX5_clause_8 3 rfl rfl)
theorem dX5_clause_232 : decode cX5_clause 232 = .ok (.invokevirtual 55, 3) := dk_182 0 55 (dk_at dksX5_clause_8 4 rfl rfl)
theorem dX5_clause_235 : decode cX5_clause 235 = .ok (.athrow, 1) := dk_191 (dk_at dksX5_clause_8 7 rfl rfl)
theorem dX5_clause_236 : decode cX5_clause 236 = .ok (.iload_n 1, 1) := dk_27 (dk_at dksX5_clause_8 8 rfl rfl)
theorem dX5_clause_237 : decode cX5_clause 237 = .ok (.bipush 20, 2) := dk_16 20 (dk_at dksX5_clause_8 9 rfl rfl)
theorem dX5_clause_239 : decode cX5_clause 239 = .ok (.if_icmp .ne 16, 3) := dk_160 0 16 (dk_at dksX5_clause_8 11 rfl rfl)
theorem dX5_clause_242 : decode cX5_clause 242 = .ok (.new 50, 3) := dk_187 0 50 (dk_at dksX5_clause_8 14 rfl rfl)
theorem dX5_clause_245 : decode cX5_clause 245 = .ok (.dup, 1) := dk_89 (dk_at dksX5_clause_8 17 rfl rfl)
theorem dX5_clause_246 : decode cX5_clause 246 = .ok (.iconst 3, 1) := dk_6 (dk_at dksX5_clause_8 18 rfl rfl)
theorem dX5_clause_247 : decode cX5_clause 247 = .ok (.aload_n 0, 1) := dk_42 (dk_at dksX5_clause_8 19 rfl rfl)
theorem dX5_clause_248 : decode cX5_clause 248 = .ok (.getfield 19, 3) := dk_180 0 19 (dk_at dksX5_clause_8 20 rfl rfl)
theorem dX5_clause_251 : decode cX5_clause 251 = .ok (.invokespecial 52, 3) := dk_183 0 52 (dk_at dksX5_clause_9 0 rfl rfl)
theorem dX5_clause_254 : decode cX5_clause 254 = .ok (.athrow, 1) := dk_191 (dk_at dksX5_clause_9 3 rfl rfl)
theorem dX5_clause_255 : decode cX5_clause 255 = .ok (.aload_n 0, 1) := dk_42 (dk_at dksX5_clause_9 4 rfl rfl)
theorem dX5_clause_256 : decode cX5_clause 256 = .ok (.dup, 1) := dk_89 (dk_at dksX5_clause_9 5 rfl rfl)
theorem dX5_clause_257 : decode cX5_clause 257 = .ok (.getfield 19, 3) := dk_180 0 19 (dk_at dksX5_clause_9 6 rfl rfl)
theorem dX5_clause_260 : decode cX5_clause 260 = .ok (.aload_n 2, 1) := dk_44 (dk_at dksX5_clause_9 9 rfl rfl)
theorem dX5_clause_261 : decode cX5_clause 261 = .ok (.invokevirtual 49, 3) := dk_182 0 49 (dk_at dksX5_clause_9 10 rfl rfl)
theorem dX5_clause_264 : decode cX5_clause 264 = .ok (.iadd, 1) := dk_96 (dk_at dksX5_clause_9 13 rfl rfl)
theorem dX5_clause_265 : decode cX5_clause 265 = .ok (.putfield 19, 3) := dk_181 0 19 (dk_at dksX5_clause_9 14 rfl rfl)
theorem dX5_clause_268 : decode cX5_clause 268 = .ok (.aload_n 2, 1) := dk_44 (dk_at dksX5_clause_9 17 rfl rfl)
theorem dX5_clause_269 : decode cX5_clause 269 = .ok (.astore_n 3, 1) := dk_78 (dk_at dksX5_clause_9 18 rfl rfl)
theorem dX5_clause_270 : decode cX5_clause 270 = .ok (.iconst (-1), 1) := dk_2 (dk_at dksX5_clause_9 19 rfl rfl)
theorem dX5_clause_271 : decode cX5_clause 271 = .ok (.istore 4, 2) := dk_54 4 (dk_at dksX5_clause_9 20 rfl rfl)
theorem dX5_clause_273 : decode cX5_clause 273 = .ok (.aload_n 3, 1) := dk_45 (dk_at dksX5_clause_9 22 rfl rfl)
theorem dX5_clause_274 : decode cX5_clause 274 = .ok (.invokevirtual 108, 3) := dk_182 0 108 (dk_at dksX5_clause_10 0 rfl rfl)
theorem dX5_clause_277 : decode cX5_clause 277 = .ok (.lookupswitch 146 #[(-934922479, 104), (97299, 59), (3321596, 74), (3641717, 134), (108406388, 89), (108511772, 119)], 59) := by decide +kernel
theorem dX5_clause_336 : decode cX5_clause 336 = .ok (.aload_n 3, 1) := dk_45 (dk_at dksX5_clause_12 0 rfl rfl)
theorem dX5_clause_337 : decode cX5_clause 337 = .ok (.ldc 111, 2) := dk_18 111 (dk_at dksX5_clause_12 1 rfl rfl)
theorem dX5_clause_339 : decode cX5_clause 339 = .ok (.invokevirtual 43, 3) := dk_182 0 43 (dk_at dksX5_clause_12 3 rfl rfl)
theorem dX5_clause_342 : decode cX5_clause 342 = .ok (.ifCond .eq 81, 3) := dk_153 0 81 (dk_at dksX5_clause_12 6 rfl rfl)
theorem dX5_clause_345 : decode cX5_clause 345 = .ok (.iconst 0, 1) := dk_3 (dk_at dksX5_clause_12 9 rfl rfl)
theorem dX5_clause_346 : decode cX5_clause 346 = .ok (.istore 4, 2) := dk_54 4 (dk_at dksX5_clause_12 10 rfl rfl)
theorem dX5_clause_348 : decode cX5_clause 348 = .ok (.goto 75, 3) := dk_167 0 75 (dk_at dksX5_clause_12 12 rfl rfl)
theorem dX5_clause_351 : decode cX5_clause 351 = .ok (.aload_n 3, 1) := dk_45 (dk_at dksX5_clause_12 15 rfl rfl)
theorem dX5_clause_352 : decode cX5_clause 352 = .ok (.ldc 113, 2) := dk_18 113 (dk_at dksX5_clause_12 16 rfl rfl)
theorem dX5_clause_354 : decode cX5_clause 354 = .ok (.invokevirtual 43, 3) := dk_182 0 43 (dk_at dksX5_clause_12 18 rfl rfl)
theorem dX5_clause_357 : decode cX5_clause 357 = .ok (.ifCond .eq 66, 3) := dk_153 0 66 (dk_at dksX5_clause_12 21 rfl rfl)
theorem dX5_clause_360 : decode cX5_clause 360 = .ok (.iconst 1, 1) := dk_4 (dk_at dksX5_clause_13 0 rfl rfl)
theorem dX5_clause_361 : decode cX5_clause 361 = .ok (.istore 4, 2) := dk_54 4 (dk_at dksX5_clause_13 1 rfl rfl)
theorem dX5_clause_363 : decode cX5_clause 363 = .ok (.goto 60, 3) := dk_167 0 60 (dk_at dksX5_clause_13 3 rfl rfl)
theorem dX5_clause_366 : decode cX5_clause 366 = .ok (.aload_n 3, 1) := dk_45 (dk_at dksX5_clause_13 6 rfl rfl)
theorem dX5_clause_367 : decode cX5_clause 367 = .ok (.ldc 118, 2) := dk_18 118 (dk_at dksX5_clause_13 7 rfl rfl)
theorem dX5_clause_369 : decode cX5_clause 369 = .ok (.invokevirtual 43, 3) := dk_182 0 43 (dk_at dksX5_clause_13 9 rfl rfl)
theorem dX5_clause_372 : decode cX5_clause 372 = .ok (.ifCond .eq 51, 3) := dk_153 0 51 (dk_at dksX5_clause_13 12 rfl rfl)
theorem dX5_clause_375 : decode cX5_clause 375 = .ok (.iconst 2, 1) := dk_5 (dk_at dksX5_clause_13 15 rfl rfl)
theorem dX5_clause_376 : decode cX5_clause 376 = .ok (.istore 4, 2) := dk_54 4 (dk_at dksX5_clause_13 16 rfl rfl)
theorem dX5_clause_378 : decode cX5_clause 378 = .ok (.goto 45, 3) := dk_167 0 45 (dk_at dksX5_clause_13 18 rfl rfl)
theorem dX5_clause_381 : decode cX5_clause 381 = .ok (.aload_n 3, 1) := dk_45 (dk_at dksX5_clause_13 21 rfl rfl)
theorem dX5_clause_382 : decode cX5_clause 382 = .ok (.ldc 120, 2) := dk_18 120 (dk_at dksX5_clause_13 22 rfl rfl)
theorem dX5_clause_384 : decode cX5_clause 384 = .ok (.invokevirtual 43, 3) := dk_182 0 43 (dk_at dksX5_clause_14 0 rfl rfl)
theorem dX5_clause_387 : decode cX5_clause 387 = .ok (.ifCond .eq 36, 3) := dk_153 0 36 (dk_at dksX5_clause_14 3 rfl rfl)
theorem dX5_clause_390 : decode cX5_clause 390 = .ok (.iconst 3, 1) := dk_6 (dk_at dksX5_clause_14 6 rfl rfl)
theorem dX5_clause_391 : decode cX5_clause 391 = .ok (.istore 4, 2) := dk_54 4 (dk_at dksX5_clause_14 7 rfl rfl)
theorem dX5_clause_393 : decode cX5_clause 393 = .ok (.goto 30, 3) := dk_167 0 30 (dk_at dksX5_clause_14 9 rfl rfl)
theorem dX5_clause_396 : decode cX5_clause 396 = .ok (.aload_n 3, 1) := dk_45 (dk_at dksX5_clause_14 12 rfl rfl)
theorem dX5_clause_397 : decode cX5_clause 397 = .ok (.ldc 115, 2) := dk_18 115 (dk_at dksX5_clause_14 13 rfl rfl)
theorem dX5_clause_399 : decode cX5_clause 399 = .ok (.invokevirtual 43, 3) := dk_182 0 43 (dk_at dksX5_clause_14 15 rfl rfl)
theorem dX5_clause_402 : decode cX5_clause 402 = .ok (.ifCond .eq 21, 3) := dk_153 0 21 (dk_at dksX5_clause_14 18 rfl rfl)
theorem dX5_clause_405 : decode cX5_clause 405 = .ok (.iconst 4, 1) := dk_7 (dk_at dksX5_clause_14 21 rfl rfl)
theorem dX5_clause_406 : decode cX5_clause 406 = .ok (.istore 4, 2) := dk_54 4 (dk_at dksX5_clause_14 22 rfl rfl)
theorem dX5_clause_408 : decode cX5_clause 408 = .ok (.goto 15, 3) := dk_167 0 15 (dk_at dksX5_clause_15 0 rfl rfl)
theorem dX5_clause_411 : decode cX5_clause 411 = .ok (.aload_n 3, 1) := dk_45 (dk_at dksX5_clause_15 3 rfl rfl)
theorem dX5_clause_412 : decode cX5_clause 412 = .ok (.ldc 122, 2) := dk_18 122 (dk_at dksX5_clause_15 4 rfl rfl)
theorem dX5_clause_414 : decode cX5_clause 414 = .ok (.invokevirtual 43, 3) := dk_182 0 43 (dk_at dksX5_clause_15 6 rfl rfl)
theorem dX5_clause_417 : decode cX5_clause 417 = .ok (.ifCond .eq 6, 3) := dk_153 0 6 (dk_at dksX5_clause_15 9 rfl rfl)
theorem dX5_clause_420 : decode cX5_clause 420 = .ok (.iconst 5, 1) := dk_8 (dk_at dksX5_clause_15 12 rfl rfl)
theorem dX5_clause_421 : decode cX5_clause 421 = .ok (.istore 4, 2) := dk_54 4 (dk_at dksX5_clause_15 13 rfl rfl)
theorem dX5_clause_423 : decode cX5_clause 423 = .ok (.iload 4, 2) := dk_21 4 (dk_at dksX5_clause_15 15 rfl rfl)
theorem dX5_clause_425 : decode cX5_clause 425 = .ok (.tableswitch 194 0 5 #[39, 98, 98, 136, 176, 176], 39) := by decide +kernel
theorem dX5_clause_464 : decode cX5_clause 464 = .ok (.aload_n 0, 1) := dk_42 (dk_at dksX5_clause_17 0 rfl rfl)
theorem dX5_clause_465 : decode cX5_clause 465 = .ok (.iconst 0, 1) := dk_3 (dk_at dksX5_clause_17 1 rfl rfl)
theorem dX5_clause_466 : decode cX5_clause 466 = .ok (.bipush 11, 2) := dk_16 11 (dk_at dksX5_clause_17 2 rfl rfl)
theorem dX5_clause_468 : decode cX5_clause 468 = .ok (.invokevirtual 124, 3) := dk_182 0 124 (dk_at dksX5_clause_17 4 rfl rfl)
theorem dX5_clause_471 : decode cX5_clause 471 = .ok (.istore 5, 2) := dk_54 5 (dk_at dksX5_clause_17 7 rfl rfl)
theorem dX5_clause_473 : decode cX5_clause 473 = .ok (.aload_n 0, 1) := dk_42 (dk_at dksX5_clause_17 9 rfl rfl)
theorem dX5_clause_474 : decode cX5_clause 474 = .ok (.invokevirtual 22, 3) := dk_182 0 22 (dk_at dksX5_clause_17 10 rfl rfl)
theorem dX5_clause_477 : decode cX5_clause 477 = .ok (.pop, 1) := dk_87 (dk_at dksX5_clause_17 13 rfl rfl)
theorem dX5_clause_478 : decode cX5_clause 478 = .ok (.aload_n 0, 1) := dk_42 (dk_at dksX5_clause_17 14 rfl rfl)
theorem dX5_clause_479 : decode cX5_clause 479 = .ok (.getfield 19, 3) := dk_180 0 19 (dk_at dksX5_clause_17 15 rfl rfl)
theorem dX5_clause_482 : decode cX5_clause 482 = .ok (.istore 6, 2) := dk_54 6 (dk_at dksX5_clause_17 18 rfl rfl)
theorem dX5_clause_484 : decode cX5_clause 484 = .ok (.aload_n 0, 1) := dk_42 (dk_at dksX5_clause_17 20 rfl rfl)
theorem dX5_clause_485 : decode cX5_clause 485 = .ok (.iconst 0, 1) := dk_3 (dk_at dksX5_clause_17 21 rfl rfl)
theorem dX5_clause_486 : decode cX5_clause 486 = .ok (.bipush 11, 2) := dk_16 11 (dk_at dksX5_clause_17 22 rfl rfl)
theorem dX5_clause_488 : decode cX5_clause 488 = .ok (.invokevirtual 124, 3) := dk_182 0 124 (dk_at dksX5_clause_18 0 rfl rfl)
theorem dX5_clause_491 : decode cX5_clause 491 = .ok (.istore 7, 2) := dk_54 7 (dk_at dksX5_clause_18 3 rfl rfl)
theorem dX5_clause_493 : decode cX5_clause 493 = .ok (.iload 5, 2) := dk_21 5 (dk_at dksX5_clause_18 5 rfl rfl)
theorem dX5_clause_495 : decode cX5_clause 495 = .ok (.iload 7, 2) := dk_21 7 (dk_at dksX5_clause_18 7 rfl rfl)
theorem dX5_clause_497 : decode cX5_clause 497 = .ok (.if_icmp .ne 14, 3) := dk_160 0 14 (dk_at dksX5_clause_18 9 rfl rfl)
theorem dX5_clause_500 : decode cX5_clause 500 = .ok (.new 50, 3) := dk_187 0 50 (dk_at dksX5_clause_18 12 rfl rfl)
theorem dX5_clause_503 : decode cX5_clause 503 = .ok (.dup, 1) := dk_89 (dk_at dksX5_clause_18 15 rfl rfl)
theorem dX5_clause_504 : decode cX5_clause 504 = .ok (.iconst 2, 1) := dk_5 (dk_at dksX5_clause_18 16 rfl rfl)
theorem dX5_clause_505 : decode cX5_clause 505 = .ok (.iload 6, 2) := dk_21 6 (dk_at dksX5_clause_18 17 rfl rfl)
theorem dX5_clause_507 : decode cX5_clause 507 = .ok (.invokespecial 52, 3) := dk_183 0 52 (dk_at dksX5_clause_18 19 rfl rfl)
theorem dX5_clause_510 : decode cX5_clause 510 = .ok (.athrow, 1) := dk_191 (dk_at dksX5_clause_18 22 rfl rfl)
theorem dX5_clause_511 : decode cX5_clause 511 = .ok (.new 127, 3) := dk_187 0 127 (dk_at dksX5_clause_19 0 rfl rfl)
theorem dX5_clause_514 : decode cX5_clause 514 = .ok (.dup, 1) := dk_89 (dk_at dksX5_clause_19 3 rfl rfl)
theorem dX5_clause_515 : decode cX5_clause 515 = .ok (.iload 5, 2) := dk_21 5 (dk_at dksX5_clause_19 4 rfl rfl)
theorem dX5_clause_517 : decode cX5_clause 517 = .ok (.iload 7, 2) := dk_21 7 (dk_at dksX5_clause_19 6 rfl rfl)
theorem dX5_clause_519 : decode cX5_clause 519 = .ok (.invokespecial 129, 3) := dk_183 0 129 (dk_at dksX5_clause_19 8 rfl rfl)
theorem dX5_clause_522 : decode cX5_clause 522 = .ok (.areturn, 1) := dk_176 (dk_at dksX5_clause_19 11 rfl rfl)
theorem dX5_clause_523 : decode cX5_clause 523 = .ok (.aload_n 0, 1) := dk_42 (dk_at dksX5_clause_19 12 rfl rfl)
theorem dX5_clause_524 : decode cX5_clause 524 = .ok (.iconst 0, 1) := dk_3 (dk_at dksX5_clause_19 13 rfl rfl)
theorem dX5_clause_525 : decode cX5_clause 525 = .ok (.iconst 3, 1) := dk_6 (dk_at dksX5_clause_19 14 rfl rfl)
theorem dX5_clause_526 : decode cX5_clause 526 = .ok (.invokevirtual 124, 3) := dk_182 0 124 (dk_at dksX5_clause_19 15 rfl rfl)
theorem dX5_clause_529 : decode cX5_clause 529 = .ok (.istore 5, 2) := dk_54 5 (dk_at dksX5_clause_19 18 rfl rfl)
theorem dX5_clause_531 : decode cX5_clause 531 = .ok (.new 130, 3) := dk_187 0 130 (dk_at dksX5_clause_19 20 rfl rfl)
theorem dX5_clause_534 : decode cX5_clause 534 = .ok (.dup, 1) := dk_89 (dk_at dksX5_clause_19 23 rfl rfl)
theorem dX5_clause_535 : decode cX5_clause 535 = .ok (.aload_n 2, 1) := dk_44 (dk_at dksX5_clause_20 0 rfl rfl)
theorem dX5_clause_536 : decode cX5_clause 536 = .ok (.ldc 113, 2) := dk_18 113 (dk_at dksX5_clause_20 1 rfl rfl)
theorem dX5_clause_538 : decode cX5_clause 538 = .ok (.invokevirtual 43, 3) := dk_182 0 43 (dk_at dksX5_clause_20 3 rfl rfl)
theorem dX5_clause_541 : decode cX5_clause 541 = .ok (.ifCond .eq 8, 3) := dk_153 0 8 (dk_at dksX5_clause_20 6 rfl rfl)
theorem dX5_clause_544 : decode cX5_clause 544 = .ok (.bipush 108, 2) := dk_16 108 (dk_at dksX5_clause_20 9 rfl rfl)
theorem dX5_clause_546 : decode cX5_clause 546 = .ok (.goto 5, 3) := dk_167 0 5 (dk_at dksX5_clause_20 11 rfl rfl)
theorem dX5_clause_549 : decode cX5_clause 549 = .ok (.bipush 117, 2) := dk_16 117 (dk_at dksX5_clause_20 14 rfl rfl)
theorem dX5_clause_551 : decode cX5_clause 551 = .ok (.iload 5, 2) := dk_21 5 (dk_at dksX5_clause_20 16 rfl rfl)
theorem dX5_clause_553 : decode cX5_clause 553 = .ok (.aload_n 0, 1) := dk_42 (dk_at dksX5_clause_20 18 rfl rfl)
theorem dX5_clause_554 : decode cX5_clause 554 = .ok (.invokevirtual 132, 3) := dk_182 0 132 (dk_at dksX5_clause_20 19 rfl rfl)
theorem dX5_clause_557 : decode cX5_clause 557 = .ok (.invokespecial 136, 3) := dk_183 0 136 (dk_at dksX5_clause_21 0 rfl rfl)
theorem dX5_clause_560 : decode cX5_clause 560 = .ok (.areturn, 1) := dk_176 (dk_at dksX5_clause_21 3 rfl rfl)
theorem dX5_clause_561 : decode cX5_clause 561 = .ok (.aload_n 0, 1) := dk_42 (dk_at dksX5_clause_21 4 rfl rfl)
theorem dX5_clause_562 : decode cX5_clause 562 = .ok (.iconst 0, 1) := dk_3 (dk_at dksX5_clause_21 5 rfl rfl)
theorem dX5_clause_563 : decode cX5_clause 563 = .ok (.bipush 11, 2) := dk_16 11 (dk_at dksX5_clause_21 6 rfl rfl)
theorem dX5_clause_565 : decode cX5_clause 565 = .ok (.invokevirtual 124, 3) := dk_182 0 124 (dk_at dksX5_clause_21 8 rfl rfl)
theorem dX5_clause_568 : decode cX5_clause 568 = .ok (.istore 5, 2) := dk_54 5 (dk_at dksX5_clause_21 11 rfl rfl)
theorem dX5_clause_570 : decode cX5_clause 570 = .ok (.aload_n 0, 1) := dk_42 (dk_at dksX5_clause_21 13 rfl rfl)
theorem dX5_clause_571 : decode cX5_clause 571 = .ok (.iconst 0, 1) := dk_3 (dk_at dksX5_clause_21 14 rfl rfl)
theorem dX5_clause_572 : decode cX5_clause 572 = .ok (.sipush 9999, 3) := dk_17 39 15 (dk_at dksX5_clause_21 15 rfl rfl)
theorem dX5_clause_575 : decode cX5_clause 575 = .ok (.invokevirtual 124, 3) := dk_182 0 124 (dk_at dksX5_clause_21 18 rfl rfl)
theorem dX5_clause_578 : decode cX5_clause 578 = .ok (.istore 6, 2) := dk_54 6 (dk_at dksX5_clause_21 21 rfl rfl)
theorem dX5_clause_580 : decode cX5_clause 580 = .ok (.new 139, 3) := dk_187 0 139 (dk_at dksX5_clause_22 0 rfl rfl)
theorem dX5_clause_583 : decode cX5_clause 583 = .ok (.dup, 1) := dk_89 (dk_at dksX5_clause_22 3 rfl rfl)
theorem dX5_clause_584 : decode cX5_clause 584 = .ok (.iload 5, 2) := dk_21 5 (dk_at dksX5_clause_22 4 rfl rfl)
theorem dX5_clause_586 : decode cX5_clause 586 = .ok (.iload 6, 2) := dk_21 6 (dk_at dksX5_clause_22 6 rfl rfl)
theorem dX5_clause_588 : decode cX5_clause 588 = .ok (.aload_n 0, 1) := dk_42 (dk_at dksX5_clause_22 8 rfl rfl)
theorem dX5_clause_589 : decode cX5_clause 589 = .ok (.iload 6, 2) := dk_21 6 (dk_at dksX5_clause_22 9 rfl rfl)
theorem dX5_clause_591 : decode cX5_clause 591 = .ok (.sipush 9999, 3) := dk_17 39 15 (dk_at dksX5_clause_22 11 rfl rfl)
theorem dX5_clause_594 : decode cX5_clause 594 = .ok (.invokevirtual 124, 3) := dk_182 0 124 (dk_at dksX5_clause_22 14 rfl rfl)
theorem dX5_clause_597 : decode cX5_clause 597 = .ok (.invokespecial 141, 3) := dk_183 0 141 (dk_at dksX5_clause_22 17 rfl rfl)
theorem dX5_clause_600 : decode cX5_clause 600 = .ok (.areturn, 1) := dk_176 (dk_at dksX5_clause_22 20 rfl rfl)
theorem dX5_clause_601 : decode cX5_clause 601 = .ok (.new 130, 3) := dk_187 0 130 (dk_at dksX5_clause_22 21 rfl rfl)
theorem dX5_clause_604 : decode cX5_clause 604 = .ok (.dup, 1) := dk_89 (dk_at dksX5_clause_23 0 rfl rfl)
theorem dX5_clause_605 : decode cX5_clause 605 = .ok (.aload_n 2, 1) := dk_44 (dk_at dksX5_clause_23 1 rfl rfl)
theorem dX5_clause_606 : decode cX5_clause 606 = .ok (.iconst 0, 1) := dk_3 (dk_at dksX5_clause_23 2 rfl rfl)
theorem dX5_clause_607 : decode cX5_clause 607 = .ok (.invokevirtual 144, 3) := dk_182 0 144 (dk_at dksX5_clause_23 3 rfl rfl)
theorem dX5_clause_610 : decode cX5_clause 610 = .ok (.iconst 0, 1) := dk_3 (dk_at dksX5_clause_23 6 rfl rfl)
theorem dX5_clause_611 : decode cX5_clause 611 = .ok (.aload_n 0, 1) := dk_42 (dk_at dksX5_clause_23 7 rfl rfl)
theorem dX5_clause_612 : decode cX5_clause 612 = .ok (.invokevirtual 132, 3) := dk_182 0 132 (dk_at dksX5_clause_23 8 rfl rfl)
theorem dX5_clause_615 : decode cX5_clause 615 = .ok (.invokespecial 136, 3) := dk_183 0 136 (dk_at dksX5_clause_23 11 rfl rfl)
theorem dX5_clause_618 : decode cX5_clause 618 = .ok (.areturn, 1) := dk_176 (dk_at dksX5_clause_23 14 rfl rfl)
theorem dX5_clause_619 : decode cX5_clause 619 = .ok (.new 148, 3) := dk_187 0 148 (dk_at dksX5_clause_23 15 rfl rfl)
theorem dX5_clause_622 : decode cX5_clause 622 = .ok (.dup, 1) := dk_89 (dk_at dksX5_clause_23 18 rfl rfl)
theorem dX5_clause_623 : decode cX5_clause 623 = .ok (.aload_n 0, 1) := dk_42 (dk_at dksX5_clause_23 19 rfl rfl)
theorem dX5_clause_624 : decode cX5_clause 624 = .ok (.iconst 0, 1) := dk_3 (dk_at dksX5_clause_23 20 rfl rfl)
theorem dX5_clause_625 : decode cX5_clause 625 = .ok (.iconst 3, 1) := dk_6 (dk_at dksX5_clause_23 21 rfl rfl)
theorem dX5_clause_626 : decode cX5_clause 626 = .ok (.invokevirtual 124, 3) := dk_182 0 124 (dk_at dksX5_clause_24 0 rfl rfl)
theorem dX5_clause_629 : decode cX5_clause 629 = .ok (.invokespecial 150, 3) := dk_183 0 150 (dk_at dksX5_clause_24 3 rfl rfl)
theorem dX5_clause_632 : decode cX5_clause 632 = .ok (.areturn, 1) := dk_176 (dk_at dksX5_clause_24 6 rfl rfl)
abbrev cX5_word : ByteArray := prog_22_method_4_code
def yX5_word : MethodName := ⟨RX5, "word", "()Ljava/lang/String;"⟩
def dkwX5_word_3 : List UInt8 := [132, 2, 1, 167, 255, 202, 43, 182, 0, 36, 176]
abbrev dktX5_word_3 : List UInt8 := dkwX5_word_3 ++ []
def dkwX5_word_2 : List UInt8 := [163, 0, 30, 43, 182, 0, 29, 16, 7, 162, 0, 21, 43, 42, 180, 0, 9, 28, 51, 146, 182, 0, 32, 87]
abbrev dktX5_word_2 : List UInt8 := dkwX5_word_2 ++ dktX5_word_3
def dkwX5_word_1 : List UInt8 := [162, 0, 52, 42, 180, 0, 9, 28, 51, 16, 97, 161, 0, 41, 42, 180, 0, 9, 28, 51, 16, 122]
abbrev dktX5_word_1 : List UInt8 := dkwX5_word_1 ++ dktX5_word_2
def dkwX5_word_0 : List UInt8 := [42, 182, 0, 22, 87, 187, 0, 26, 89, 183, 0, 28, 76, 42, 180, 0, 19, 61, 28, 42, 180, 0, 15]
abbrev dktX5_word_0 : List UInt8 := dkwX5_word_0 ++ dktX5_word_1
theorem dksX5_word_0 : cX5_word.data.toList.drop 0 = dktX5_word_0 := by decide +kernel
theorem dksX5_word_1 : cX5_word.data.toList.drop 23 = dktX5_word_1 := dk_seg dksX5_word_0 23 rfl rfl
theorem dksX5_word_2 : cX5_word.data.toList.drop 45 = dktX5_word_2 := dk_seg dksX5_word_1 22 rfl rfl
theorem dksX5_word_3 : cX5_word.data.toList.drop 69 = dktX5_word_3 := dk_seg dksX5_word_2 24 rfl rfl
theorem dX5_word_0 : decode cX5_word 0 = .ok (.aload_n 0, 1) := dk_42 (dk_at dksX5_word_0 0 rfl rfl)
theorem dX5_word_1 : decode cX5_word 1 = .ok (.invokevirtual 22, 3) := dk_182 0 22 (dk_at dksX5_word_0 1 rfl rfl)
theorem dX5_word_4 : decode cX5_word 4 = .ok (.pop, 1) := dk_87 (dk_at dksX5_word_0 4 rfl rfl)
theorem dX5_word_5 : decode cX5_word 5 = .ok (.new 26, 3) := dk_187 0 26 (dk_at dksX5_word_0 5 rfl rfl)
theorem dX5_word_8 : decode cX5_word 8 = .ok (.dup, 1) := dk_89 (dk_at dksX5_word_0 8 rfl rfl)
theorem dX5_word_9 : decode cX5_word 9 = .ok (.invokespecial 28, 3) := dk_183 0 28 (dk_at dksX5_word_0 9 rfl rfl)
theorem dX5_word_12 : decode cX5_word 12 = .ok (.astore_n 1, 1) := dk_76 (dk_at dksX5_word_0 12 rfl rfl)
theorem dX5_word_13 : decode cX5_word 13 = .ok (.aload_n 0, 1) := dk_42 (dk_at dksX5_word_0 13 rfl rfl)
theorem dX5_word_14 : decode cX5_word 14 = .ok (.getfield 19, 3) := dk_180 0 19 (dk_at dksX5_word_0 14 rfl rfl)
theorem dX5_word_17 : decode cX5_word 17 = .ok (.istore_n 2, 1) := dk_61 (dk_at dksX5_word_0 17 rfl rfl)
theorem dX5_word_18 : decode cX5_word 18 = .ok (.iload_n 2, 1) := dk_28 (dk_at dksX5_word_0 18 rfl rfl)
theorem dX5_word_19 : decode cX5_word 19 = .ok (.aload_n 0, 1) := dk_42 (dk_at dksX5_word_0 19 rfl rfl)
theorem dX5_word_20 : decode cX5_word 20 = .ok (.getfield 15, 3) := dk_180 0 15 (dk_at dksX5_word_0 20 rfl rfl)
theorem dX5_word_23 : decode cX5_word 23 = .ok (.if_icmp .ge 52, 3) := dk_162 0 52 (dk_at dksX5_word_1 0 rfl rfl)
theorem dX5_word_26 : decode cX5_word 26 = .ok (.aload_n 0, 1) := dk_42 (dk_at dksX5_word_1 3 rfl rfl)
theorem dX5_word_27 : decode cX5_word 27 = .ok (.getfield 9, 3) := dk_180 0 9 (dk_at dksX5_word_1 4 rfl rfl)
theorem dX5_word_30 : decode cX5_word 30 = .ok (.iload_n 2, 1) := dk_28 (dk_at dksX5_word_1 7 rfl rfl)
theorem dX5_word_31 : decode cX5_word 31 = .ok (.baload, 1) := dk_51 (dk_at dksX5_word_1 8 rfl rfl)
theorem dX5_word_32 : decode cX5_word 32 = .ok (.bipush 97, 2) := dk_16 97 (dk_at dksX5_word_1 9 rfl rfl)
theorem dX5_word_34 : decode cX5_word 34 = .ok (.if_icmp .lt 41, 3) := dk_161 0 41 (dk_at dksX5_word_1 11 rfl rfl)
theorem dX5_word_37 : decode cX5_word 37 = .ok (.aload_n 0, 1) := dk_42 (dk_at dksX5_word_1 14 rfl rfl)
theorem dX5_word_38 : decode cX5_word 38 = .ok (.getfield 9, 3) := dk_180 0 9 (dk_at dksX5_word_1 15 rfl rfl)
theorem dX5_word_41 : decode cX5_word 41 = .ok (.iload_n 2, 1) := dk_28 (dk_at dksX5_word_1 18 rfl rfl)
theorem dX5_word_42 : decode cX5_word 42 = .ok (.baload, 1) := dk_51 (dk_at dksX5_word_1 19 rfl rfl)
theorem dX5_word_43 : decode cX5_word 43 = .ok (.bipush 122, 2) := dk_16 122 (dk_at dksX5_word_1 20 rfl rfl)
theorem dX5_word_45 : decode cX5_word 45 = .ok (.if_icmp .gt 30, 3) := dk_163 0 30 (dk_at dksX5_word_2 0 rfl rfl)
theorem dX5_word_48 : decode cX5_word 48 = .ok (.aload_n 1, 1) := dk_43 (dk_at dksX5_word_2 3 rfl rfl)
theorem dX5_word_49 : decode cX5_word 49 = .ok (.invokevirtual 29, 3) := dk_182 0 29 (dk_at dksX5_word_2 4 rfl rfl)
theorem dX5_word_52 : decode cX5_word 52 = .ok (.bipush 7, 2) := dk_16 7 (dk_at dksX5_word_2 7 rfl rfl)
theorem dX5_word_54 : decode cX5_word 54 = .ok (.if_icmp .ge 21, 3) := dk_162 0 21 (dk_at dksX5_word_2 9 rfl rfl)
theorem dX5_word_57 : decode cX5_word 57 = .ok (.aload_n 1, 1) := dk_43 (dk_at dksX5_word_2 12 rfl rfl)
theorem dX5_word_58 : decode cX5_word 58 = .ok (.aload_n 0, 1) := dk_42 (dk_at dksX5_word_2 13 rfl rfl)
theorem dX5_word_59 : decode cX5_word 59 = .ok (.getfield 9, 3) := dk_180 0 9 (dk_at dksX5_word_2 14 rfl rfl)
theorem dX5_word_62 : decode cX5_word 62 = .ok (.iload_n 2, 1) := dk_28 (dk_at dksX5_word_2 17 rfl rfl)
theorem dX5_word_63 : decode cX5_word 63 = .ok (.baload, 1) := dk_51 (dk_at dksX5_word_2 18 rfl rfl)
theorem dX5_word_64 : decode cX5_word 64 = .ok (.i2c, 1) := dk_146 (dk_at dksX5_word_2 19 rfl rfl)
theorem dX5_word_65 : decode cX5_word 65 = .ok (.invokevirtual 32, 3) := dk_182 0 32 (dk_at dksX5_word_2 20 rfl rfl)
theorem dX5_word_68 : decode cX5_word 68 = .ok (.pop, 1) := dk_87 (dk_at dksX5_word_2 23 rfl rfl)
theorem dX5_word_69 : decode cX5_word 69 = .ok (.iinc 2 1, 3) := dk_132 2 1 (dk_at dksX5_word_3 0 rfl rfl)
theorem dX5_word_72 : decode cX5_word 72 = .ok (.goto (-54), 3) := dk_167 255 202 (dk_at dksX5_word_3 3 rfl rfl)
theorem dX5_word_75 : decode cX5_word 75 = .ok (.aload_n 1, 1) := dk_43 (dk_at dksX5_word_3 6 rfl rfl)
theorem dX5_word_76 : decode cX5_word 76 = .ok (.invokevirtual 36, 3) := dk_182 0 36 (dk_at dksX5_word_3 7 rfl rfl)
theorem dX5_word_79 : decode cX5_word 79 = .ok (.areturn, 1) := dk_176 (dk_at dksX5_word_3 10 rfl rfl)
abbrev cX5_wrong : ByteArray := prog_22_method_6_code
def yX5_wrong : MethodName := ⟨RX5, "wrong", "()LLimbBenches$Wrong;"⟩
def dkwX5_wrong_0 : List UInt8 := [187, 0, 50, 89, 4, 42, 180, 0, 19, 183, 0, 52, 176]
abbrev dktX5_wrong_0 : List UInt8 := dkwX5_wrong_0 ++ []
theorem dksX5_wrong_0 : cX5_wrong.data.toList.drop 0 = dktX5_wrong_0 := by decide +kernel
theorem dX5_wrong_0 : decode cX5_wrong 0 = .ok (.new 50, 3) := dk_187 0 50 (dk_at dksX5_wrong_0 0 rfl rfl)
theorem dX5_wrong_3 : decode cX5_wrong 3 = .ok (.dup, 1) := dk_89 (dk_at dksX5_wrong_0 3 rfl rfl)
theorem dX5_wrong_4 : decode cX5_wrong 4 = .ok (.iconst 1, 1) := dk_4 (dk_at dksX5_wrong_0 4 rfl rfl)
theorem dX5_wrong_5 : decode cX5_wrong 5 = .ok (.aload_n 0, 1) := dk_42 (dk_at dksX5_wrong_0 5 rfl rfl)
theorem dX5_wrong_6 : decode cX5_wrong 6 = .ok (.getfield 19, 3) := dk_180 0 19 (dk_at dksX5_wrong_0 6 rfl rfl)
theorem dX5_wrong_9 : decode cX5_wrong 9 = .ok (.invokespecial 52, 3) := dk_183 0 52 (dk_at dksX5_wrong_0 9 rfl rfl)
theorem dX5_wrong_12 : decode cX5_wrong 12 = .ok (.areturn, 1) := dk_176 (dk_at dksX5_wrong_0 12 rfl rfl)
abbrev cX5_number : ByteArray := prog_22_method_11_code
def yX5_number : MethodName := ⟨RX5, "number", "(II)I"⟩
def dkwX5_number_5 : List UInt8 := [183, 0, 52, 191, 21, 4, 172]
abbrev dktX5_number_5 : List UInt8 := dkwX5_number_5 ++ []
def dkwX5_number_4 : List UInt8 := [181, 0, 19, 167, 255, 181, 21, 4, 27, 161, 0, 9, 21, 4, 28, 164, 0, 13, 187, 0, 50, 89, 5, 29]
abbrev dktX5_number_4 : List UInt8 := dkwX5_number_4 ++ dktX5_number_5
def dkwX5_number_3 : List UInt8 := [180, 0, 19, 51, 96, 16, 48, 100, 17, 39, 16, 184, 0, 73, 54, 4, 42, 89, 180, 0, 19, 4, 96]
abbrev dktX5_number_3 : List UInt8 := dkwX5_number_3 ++ dktX5_number_4
def dkwX5_number_2 : List UInt8 := [180, 0, 9, 42, 180, 0, 19, 51, 16, 57, 163, 0, 42, 16, 10, 21, 4, 104, 42, 180, 0, 9, 42]
abbrev dktX5_number_2 : List UInt8 := dkwX5_number_2 ++ dktX5_number_3
def dkwX5_number_1 : List UInt8 := [42, 180, 0, 15, 162, 0, 70, 42, 180, 0, 9, 42, 180, 0, 19, 51, 16, 48, 161, 0, 56, 42]
abbrev dktX5_number_1 : List UInt8 := dkwX5_number_1 ++ dktX5_number_2
def dkwX5_number_0 : List UInt8 := [42, 182, 0, 69, 154, 0, 8, 42, 182, 0, 55, 191, 42, 180, 0, 19, 62, 3, 54, 4, 42, 180, 0, 19]
abbrev dktX5_number_0 : List UInt8 := dkwX5_number_0 ++ dktX5_number_1
theorem dksX5_number_0 : cX5_number.data.toList.drop 0 = dktX5_number_0 := by decide +kernel
theorem dksX5_number_1 : cX5_number.data.toList.drop 24 = dktX5_number_1 := dk_seg dksX5_number_0 24 rfl rfl
theorem dksX5_number_2 : cX5_number.data.toList.drop 46 = dktX5_number_2 := dk_seg dksX5_number_1 22 rfl rfl
theorem dksX5_number_3 : cX5_number.data.toList.drop 69 = dktX5_number_3 := dk_seg dksX5_number_2 23 rfl rfl
theorem dksX5_number_4 : cX5_number.data.toList.drop 92 = dktX5_number_4 := dk_seg dksX5_number_3 23 rfl rfl
theorem dksX5_number_5 : cX5_number.data.toList.drop 116 = dktX5_number_5 := dk_seg dksX5_number_4 24 rfl rfl
theorem dX5_number_0 : decode cX5_number 0 = .ok (.aload_n 0, 1) := dk_42 (dk_at dksX5_number_0 0 rfl rfl)
theorem dX5_number_1 : decode cX5_number 1 = .ok (.invokevirtual 69, 3) := dk_182 0 69 (dk_at dksX5_number_0 1 rfl rfl)
theorem dX5_number_4 : decode cX5_number 4 = .ok (.ifCond .ne 8, 3) := dk_154 0 8 (dk_at dksX5_number_0 4 rfl rfl)
theorem dX5_number_7 : decode cX5_number 7 = .ok (.aload_n 0, 1) := dk_42 (dk_at dksX5_number_0 7 rfl rfl)
theorem dX5_number_8 : decode cX5_number 8 = .ok (.invokevirtual 55, 3) := dk_182 0 55 (dk_at dksX5_number_0 8 rfl rfl)
theorem dX5_number_11 : decode cX5_number 11 = .ok (.athrow, 1) := dk_191 (dk_at dksX5_number_0 11 rfl rfl)
theorem dX5_number_12 : decode cX5_number 12 = .ok (.aload_n 0, 1) := dk_42 (dk_at dksX5_number_0 12 rfl rfl)
theorem dX5_number_13 : decode cX5_number 13 = .ok (.getfield 19, 3) := dk_180 0 19 (dk_at dksX5_number_0 13 rfl rfl)
theorem dX5_number_16 : decode cX5_number 16 = .ok (.istore_n 3, 1) := dk_62 (dk_at dksX5_number_0 16 rfl rfl)
theorem dX5_number_17 : decode cX5_number 17 = .ok (.iconst 0, 1) := dk_3 (dk_at dksX5_number_0 17 rfl rfl)
theorem dX5_number_18 : decode cX5_number 18 = .ok (.istore 4, 2) := dk_54 4 (dk_at dksX5_number_0 18 rfl rfl)
theorem dX5_number_20 : decode cX5_number 20 = .ok (.aload_n 0, 1) := dk_42 (dk_at dksX5_number_0 20 rfl rfl)
theorem dX5_number_21 : decode cX5_number 21 = .ok (.getfield 19, 3) := dk_180 0 19 (dk_at dksX5_number_0 21 rfl rfl)
theorem dX5_number_24 : decode cX5_number 24 = .ok (.aload_n 0, 1) := dk_42 (dk_at dksX5_number_1 0 rfl rfl)
theorem dX5_number_25 : decode cX5_number 25 = .ok (.getfield 15, 3) := dk_180 0 15 (dk_at dksX5_number_1 1 rfl rfl)
theorem dX5_number_28 : decode cX5_number 28 = .ok (.if_icmp .ge 70, 3) := dk_162 0 70 (dk_at dksX5_number_1 4 rfl rfl)
theorem dX5_number_31 : decode cX5_number 31 = .ok (.aload_n 0, 1) := dk_42 (dk_at dksX5_number_1 7 rfl rfl)
theorem dX5_number_32 : decode cX5_number 32 = .ok (.getfield 9, 3) := dk_180 0 9 (dk_at dksX5_number_1 8 rfl rfl)
theorem dX5_number_35 : decode cX5_number 35 = .ok (.aload_n 0, 1) := dk_42 (dk_at dksX5_number_1 11 rfl rfl)
theorem dX5_number_36 : decode cX5_number 36 = .ok (.getfield 19, 3) := dk_180 0 19 (dk_at dksX5_number_1 12 rfl rfl)
theorem dX5_number_39 : decode cX5_number 39 = .ok (.baload, 1) := dk_51 (dk_at dksX5_number_1 15 rfl rfl)
theorem dX5_number_40 : decode cX5_number 40 = .ok (.bipush 48, 2) := dk_16 48 (dk_at dksX5_number_1 16 rfl rfl)
theorem dX5_number_42 : decode cX5_number 42 = .ok (.if_icmp .lt 56, 3) := dk_161 0 56 (dk_at dksX5_number_1 18 rfl rfl)
theorem dX5_number_45 : decode cX5_number 45 = .ok (.aload_n 0, 1) := dk_42 (dk_at dksX5_number_1 21 rfl rfl)
theorem dX5_number_46 : decode cX5_number 46 = .ok (.getfield 9, 3) := dk_180 0 9 (dk_at dksX5_number_2 0 rfl rfl)
theorem dX5_number_49 : decode cX5_number 49 = .ok (.aload_n 0, 1) := dk_42 (dk_at dksX5_number_2 3 rfl rfl)
theorem dX5_number_50 : decode cX5_number 50 = .ok (.getfield 19, 3) := dk_180 0 19 (dk_at dksX5_number_2 4 rfl rfl)
theorem dX5_number_53 : decode cX5_number 53 = .ok (.baload, 1) := dk_51 (dk_at dksX5_number_2 7 rfl rfl)
theorem dX5_number_54 : decode cX5_number 54 = .ok (.bipush 57, 2) := dk_16 57 (dk_at dksX5_number_2 8 rfl rfl)
theorem dX5_number_56 : decode cX5_number 56 = .ok (.if_icmp .gt 42, 3) := dk_163 0 42 (dk_at dksX5_number_2 10 rfl rfl)
theorem dX5_number_59 : decode cX5_number 59 = .ok (.bipush 10, 2) := dk_16 10 (dk_at dksX5_number_2 13 rfl rfl)
theorem dX5_number_61 : decode cX5_number 61 = .ok (.iload 4, 2) := dk_21 4 (dk_at dksX5_number_2 15 rfl rfl)
theorem dX5_number_63 : decode cX5_number 63 = .ok (.imul, 1) := dk_104 (dk_at dksX5_number_2 17 rfl rfl)
theorem dX5_number_64 : decode cX5_number 64 = .ok (.aload_n 0, 1) := dk_42 (dk_at dksX5_number_2 18 rfl rfl)
theorem dX5_number_65 : decode cX5_number 65 = .ok (.getfield 9, 3) := dk_180 0 9 (dk_at dksX5_number_2 19 rfl rfl)
theorem dX5_number_68 : decode cX5_number 68 = .ok (.aload_n 0, 1) := dk_42 (dk_at dksX5_number_2 22 rfl rfl)
theorem dX5_number_69 : decode cX5_number 69 = .ok (.getfield 19, 3) := dk_180 0 19 (dk_at dksX5_number_3 0 rfl rfl)
theorem dX5_number_72 : decode cX5_number 72 = .ok (.baload, 1) := dk_51 (dk_at dksX5_number_3 3 rfl rfl)
theorem dX5_number_73 : decode cX5_number 73 = .ok (.iadd, 1) := dk_96 (dk_at dksX5_number_3 4 rfl rfl)
theorem dX5_number_74 : decode cX5_number 74 = .ok (.bipush 48, 2) := dk_16 48 (dk_at dksX5_number_3 5 rfl rfl)
theorem dX5_number_76 : decode cX5_number 76 = .ok (.isub, 1) := dk_100 (dk_at dksX5_number_3 7 rfl rfl)
theorem dX5_number_77 : decode cX5_number 77 = .ok (.sipush 10000, 3) := dk_17 39 16 (dk_at dksX5_number_3 8 rfl rfl)
theorem dX5_number_80 : decode cX5_number 80 = .ok (.invokestatic 73, 3) := dk_184 0 73 (dk_at dksX5_number_3 11 rfl rfl)
theorem dX5_number_83 : decode cX5_number 83 = .ok (.istore 4, 2) := dk_54 4 (dk_at dksX5_number_3 14 rfl rfl)
theorem dX5_number_85 : decode cX5_number 85 = .ok (.aload_n 0, 1) := dk_42 (dk_at dksX5_number_3 16 rfl rfl)
theorem dX5_number_86 : decode cX5_number 86 = .ok (.dup, 1) := dk_89 (dk_at dksX5_number_3 17 rfl rfl)
theorem dX5_number_87 : decode cX5_number 87 = .ok (.getfield 19, 3) := dk_180 0 19 (dk_at dksX5_number_3 18 rfl rfl)
theorem dX5_number_90 : decode cX5_number 90 = .ok (.iconst 1, 1) := dk_4 (dk_at dksX5_number_3 21 rfl rfl)
theorem dX5_number_91 : decode cX5_number 91 = .ok (.iadd, 1) := dk_96 (dk_at dksX5_number_3 22 rfl rfl)
theorem dX5_number_92 : decode cX5_number 92 = .ok (.putfield 19, 3) := dk_181 0 19 (dk_at dksX5_number_4 0 rfl rfl)
theorem dX5_number_95 : decode cX5_number 95 = .ok (.goto (-75), 3) := dk_167 255 181 (dk_at dksX5_number_4 3 rfl rfl)
theorem dX5_number_98 : decode cX5_number 98 = .ok (.iload 4, 2) := dk_21 4 (dk_at dksX5_number_4 6 rfl rfl)
theorem dX5_number_100 : decode cX5_number 100 = .ok (.iload_n 1, 1) := dk_27 (dk_at dksX5_number_4 8 rfl rfl)
theorem dX5_number_101 : decode cX5_number 101 = .ok (.if_icmp .lt 9, 3) := dk_161 0 9 (dk_at dksX5_number_4 9 rfl rfl)
theorem dX5_number_104 : decode cX5_number 104 = .ok (.iload 4, 2) := dk_21 4 (dk_at dksX5_number_4 12 rfl rfl)
theorem dX5_number_106 : decode cX5_number 106 = .ok (.iload_n 2, 1) := dk_28 (dk_at dksX5_number_4 14 rfl rfl)
theorem dX5_number_107 : decode cX5_number 107 = .ok (.if_icmp .le 13, 3) := dk_164 0 13 (dk_at dksX5_number_4 15 rfl rfl)
theorem dX5_number_110 : decode cX5_number 110 = .ok (.new 50, 3) := dk_187 0 50 (dk_at dksX5_number_4 18 rfl rfl)
theorem dX5_number_113 : decode cX5_number 113 = .ok (.dup, 1) := dk_89 (dk_at dksX5_number_4 21 rfl rfl)
theorem dX5_number_114 : decode cX5_number 114 = .ok (.iconst 2, 1) := dk_5 (dk_at dksX5_number_4 22 rfl rfl)
theorem dX5_number_115 : decode cX5_number 115 = .ok (.iload_n 3, 1) := dk_29 (dk_at dksX5_number_4 23 rfl rfl)
theorem dX5_number_116 : decode cX5_number 116 = .ok (.invokespecial 52, 3) := dk_183 0 52 (dk_at dksX5_number_5 0 rfl rfl)
theorem dX5_number_119 : decode cX5_number 119 = .ok (.athrow, 1) := dk_191 (dk_at dksX5_number_5 3 rfl rfl)
theorem dX5_number_120 : decode cX5_number 120 = .ok (.iload 4, 2) := dk_21 4 (dk_at dksX5_number_5 4 rfl rfl)
theorem dX5_number_122 : decode cX5_number 122 = .ok (.ireturn, 1) := dk_172 (dk_at dksX5_number_5 6 rfl rfl)
abbrev cX5_isDigit : ByteArray := prog_22_method_3_code
def yX5_isDigit : MethodName := ⟨RX5, "isDigit", "()Z"⟩
def dkwX5_isDigit_0 : List UInt8 := [42, 182, 0, 22, 60, 27, 16, 48, 161, 0, 13, 27, 16, 57, 163, 0, 7, 4, 167, 0, 4, 3, 172]
abbrev dktX5_isDigit_0 : List UInt8 := dkwX5_isDigit_0 ++ []
theorem dksX5_isDigit_0 : cX5_isDigit.data.toList.drop 0 = dktX5_isDigit_0 := by decide +kernel
theorem dX5_isDigit_0 : decode cX5_isDigit 0 = .ok (.aload_n 0, 1) := dk_42 (dk_at dksX5_isDigit_0 0 rfl rfl)
theorem dX5_isDigit_1 : decode cX5_isDigit 1 = .ok (.invokevirtual 22, 3) := dk_182 0 22 (dk_at dksX5_isDigit_0 1 rfl rfl)
theorem dX5_isDigit_4 : decode cX5_isDigit 4 = .ok (.istore_n 1, 1) := dk_60 (dk_at dksX5_isDigit_0 4 rfl rfl)
theorem dX5_isDigit_5 : decode cX5_isDigit 5 = .ok (.iload_n 1, 1) := dk_27 (dk_at dksX5_isDigit_0 5 rfl rfl)
theorem dX5_isDigit_6 : decode cX5_isDigit 6 = .ok (.bipush 48, 2) := dk_16 48 (dk_at dksX5_isDigit_0 6 rfl rfl)
theorem dX5_isDigit_8 : decode cX5_isDigit 8 = .ok (.if_icmp .lt 13, 3) := dk_161 0 13 (dk_at dksX5_isDigit_0 8 rfl rfl)
theorem dX5_isDigit_11 : decode cX5_isDigit 11 = .ok (.iload_n 1, 1) := dk_27 (dk_at dksX5_isDigit_0 11 rfl rfl)
theorem dX5_isDigit_12 : decode cX5_isDigit 12 = .ok (.bipush 57, 2) := dk_16 57 (dk_at dksX5_isDigit_0 12 rfl rfl)
theorem dX5_isDigit_14 : decode cX5_isDigit 14 = .ok (.if_icmp .gt 7, 3) := dk_163 0 7 (dk_at dksX5_isDigit_0 14 rfl rfl)
theorem dX5_isDigit_17 : decode cX5_isDigit 17 = .ok (.iconst 1, 1) := dk_4 (dk_at dksX5_isDigit_0 17 rfl rfl)
theorem dX5_isDigit_18 : decode cX5_isDigit 18 = .ok (.goto 4, 3) := dk_167 0 4 (dk_at dksX5_isDigit_0 18 rfl rfl)
theorem dX5_isDigit_21 : decode cX5_isDigit 21 = .ok (.iconst 0, 1) := dk_3 (dk_at dksX5_isDigit_0 21 rfl rfl)
theorem dX5_isDigit_22 : decode cX5_isDigit 22 = .ok (.ireturn, 1) := dk_172 (dk_at dksX5_isDigit_0 22 rfl rfl)
abbrev cX5_expr : ByteArray := prog_22_method_17_code
def yX5_expr : MethodName := ⟨RX5, "expr", "()LLimbBenches$Expr;"⟩
def dkwX5_expr_2 : List UInt8 := [182, 0, 22, 61, 167, 255, 214, 43, 176]
abbrev dktX5_expr_2 : List UInt8 := dkwX5_expr_2 ++ []
def dkwX5_expr_1 : List UInt8 := [180, 0, 19, 4, 96, 181, 0, 19, 187, 0, 184, 89, 28, 146, 43, 42, 182, 0, 181, 183, 0, 186, 76, 42]
abbrev dktX5_expr_1 : List UInt8 := dkwX5_expr_1 ++ dktX5_expr_2
def dkwX5_expr_0 : List UInt8 := [42, 182, 0, 181, 76, 42, 182, 0, 22, 61, 28, 16, 43, 159, 0, 9, 28, 16, 45, 160, 0, 36, 42, 89]
abbrev dktX5_expr_0 : List UInt8 := dkwX5_expr_0 ++ dktX5_expr_1
theorem dksX5_expr_0 : cX5_expr.data.toList.drop 0 = dktX5_expr_0 := by decide +kernel
theorem dksX5_expr_1 : cX5_expr.data.toList.drop 24 = dktX5_expr_1 := dk_seg dksX5_expr_0 24 rfl rfl
theorem dksX5_expr_2 : cX5_expr.data.toList.drop 48 = dktX5_expr_2 := dk_seg dksX5_expr_1 24 rfl rfl
theorem dX5_expr_0 : decode cX5_expr 0 = .ok (.aload_n 0, 1) := dk_42 (dk_at dksX5_expr_0 0 rfl rfl)
theorem dX5_expr_1 : decode cX5_expr 1 = .ok (.invokevirtual 181, 3) := dk_182 0 181 (dk_at dksX5_expr_0 1 rfl rfl)
theorem dX5_expr_4 : decode cX5_expr 4 = .ok (.astore_n 1, 1) := dk_76 (dk_at dksX5_expr_0 4 rfl rfl)
theorem dX5_expr_5 : decode cX5_expr 5 = .ok (.aload_n 0, 1) := dk_42 (dk_at dksX5_expr_0 5 rfl rfl)
theorem dX5_expr_6 : decode cX5_expr 6 = .ok (.invokevirtual 22, 3) := dk_182 0 22 (dk_at dksX5_expr_0 6 rfl rfl)
theorem dX5_expr_9 : decode cX5_expr 9 = .ok (.istore_n 2, 1) := dk_61 (dk_at dksX5_expr_0 9 rfl rfl)
theorem dX5_expr_10 : decode cX5_expr 10 = .ok (.iload_n 2, 1) := dk_28 (dk_at dksX5_expr_0 10 rfl rfl)
theorem dX5_expr_11 : decode cX5_expr 11 = .ok (.bipush 43, 2) := dk_16 43 (dk_at dksX5_expr_0 11 rfl rfl)
theorem dX5_expr_13 : decode cX5_expr 13 = .ok (.if_icmp .eq 9, 3) := dk_159 0 9 (dk_at dksX5_expr_0 13 rfl rfl)
theorem dX5_expr_16 : decode cX5_expr 16 = .ok (.iload_n 2, 1) := dk_28 (dk_at dksX5_expr_0 16 rfl rfl)
theorem dX5_expr_17 : decode cX5_expr 17 = .ok (.bipush 45, 2) := dk_16 45 (dk_at dksX5_expr_0 17 rfl rfl)
theorem dX5_expr_19 : decode cX5_expr 19 = .ok (.if_icmp .ne 36, 3) := dk_160 0 36 (dk_at dksX5_expr_0 19 rfl rfl)
theorem dX5_expr_22 : decode cX5_expr 22 = .ok (.aload_n 0, 1) := dk_42 (dk_at dksX5_expr_0 22 rfl rfl)
theorem dX5_expr_23 : decode cX5_expr 23 = .ok (.dup, 1) := dk_89 (dk_at dksX5_expr_0 23 rfl rfl)
theorem dX5_expr_24 : decode cX5_expr 24 = .ok (.getfield 19, 3) := dk_180 0 19 (dk_at dksX5_expr_1 0 rfl rfl)
theorem dX5_expr_27 : decode cX5_expr 27 = .ok (.iconst 1, 1) := dk_4 (dk_at dksX5_expr_1 3 rfl rfl)
theorem dX5_expr_28 : decode cX5_expr 28 = .ok (.iadd, 1) := dk_96 (dk_at dksX5_expr_1 4 rfl rfl)
theorem dX5_expr_29 : decode cX5_expr 29 = .ok (.putfield 19, 3) := dk_181 0 19 (dk_at dksX5_expr_1 5 rfl rfl)
theorem dX5_expr_32 : decode cX5_expr 32 = .ok (.new 184, 3) := dk_187 0 184 (dk_at dksX5_expr_1 8 rfl rfl)
theorem dX5_expr_35 : decode cX5_expr 35 = .ok (.dup, 1) := dk_89 (dk_at dksX5_expr_1 11 rfl rfl)
theorem dX5_expr_36 : decode cX5_expr 36 = .ok (.iload_n 2, 1) := dk_28 (dk_at dksX5_expr_1 12 rfl rfl)
theorem dX5_expr_37 : decode cX5_expr 37 = .ok (.i2c, 1) := dk_146 (dk_at dksX5_expr_1 13 rfl rfl)
theorem dX5_expr_38 : decode cX5_expr 38 = .ok (.aload_n 1, 1) := dk_43 (dk_at dksX5_expr_1 14 rfl rfl)
theorem dX5_expr_39 : decode cX5_expr 39 = .ok (.aload_n 0, 1) := dk_42 (dk_at dksX5_expr_1 15 rfl rfl)
theorem dX5_expr_40 : decode cX5_expr 40 = .ok (.invokevirtual 181, 3) := dk_182 0 181 (dk_at dksX5_expr_1 16 rfl rfl)
theorem dX5_expr_43 : decode cX5_expr 43 = .ok (.invokespecial 186, 3) := dk_183 0 186 (dk_at dksX5_expr_1 19 rfl rfl)
theorem dX5_expr_46 : decode cX5_expr 46 = .ok (.astore_n 1, 1) := dk_76 (dk_at dksX5_expr_1 22 rfl rfl)
theorem dX5_expr_47 : decode cX5_expr 47 = .ok (.aload_n 0, 1) := dk_42 (dk_at dksX5_expr_1 23 rfl rfl)
theorem dX5_expr_48 : decode cX5_expr 48 = .ok (.invokevirtual 22, 3) := dk_182 0 22 (dk_at dksX5_expr_2 0 rfl rfl)
theorem dX5_expr_51 : decode cX5_expr 51 = .ok (.istore_n 2, 1) := dk_61 (dk_at dksX5_expr_2 3 rfl rfl)
theorem dX5_expr_52 : decode cX5_expr 52 = .ok (.goto (-42), 3) := dk_167 255 214 (dk_at dksX5_expr_2 4 rfl rfl)
theorem dX5_expr_55 : decode cX5_expr 55 = .ok (.aload_n 1, 1) := dk_43 (dk_at dksX5_expr_2 7 rfl rfl)
theorem dX5_expr_56 : decode cX5_expr 56 = .ok (.areturn, 1) := dk_176 (dk_at dksX5_expr_2 8 rfl rfl)
abbrev cX5_product : ByteArray := prog_22_method_18_code
def yX5_product : MethodName := ⟨RX5, "product", "()LLimbBenches$Expr;"⟩
def dkwX5_product_2 : List UInt8 := [182, 0, 22, 61, 167, 255, 214, 43, 176]
abbrev dktX5_product_2 : List UInt8 := dkwX5_product_2 ++ []
def dkwX5_product_1 : List UInt8 := [180, 0, 19, 4, 96, 181, 0, 19, 187, 0, 184, 89, 28, 146, 43, 42, 182, 0, 187, 183, 0, 186, 76, 42]
abbrev dktX5_product_1 : List UInt8 := dkwX5_product_1 ++ dktX5_product_2
def dkwX5_product_0 : List UInt8 := [42, 182, 0, 187, 76, 42, 182, 0, 22, 61, 28, 16, 42, 159, 0, 9, 28, 16, 47, 160, 0, 36, 42, 89]
abbrev dktX5_product_0 : List UInt8 := dkwX5_product_0 ++ dktX5_product_1
theorem dksX5_product_0 : cX5_product.data.toList.drop 0 = dktX5_product_0 := by decide +kernel
theorem dksX5_product_1 : cX5_product.data.toList.drop 24 = dktX5_product_1 := dk_seg dksX5_product_0 24 rfl rfl
theorem dksX5_product_2 : cX5_product.data.toList.drop 48 = dktX5_product_2 := dk_seg dksX5_product_1 24 rfl rfl
theorem dX5_product_0 : decode cX5_product 0 = .ok (.aload_n 0, 1) := dk_42 (dk_at dksX5_product_0 0 rfl rfl)
theorem dX5_product_1 : decode cX5_product 1 = .ok (.invokevirtual 187, 3) := dk_182 0 187 (dk_at dksX5_product_0 1 rfl rfl)
theorem dX5_product_4 : decode cX5_product 4 = .ok (.astore_n 1, 1) := dk_76 (dk_at dksX5_product_0 4 rfl rfl)
theorem dX5_product_5 : decode cX5_product 5 = .ok (.aload_n 0, 1) := dk_42 (dk_at dksX5_product_0 5 rfl rfl)
theorem dX5_product_6 : decode cX5_product 6 = .ok (.invokevirtual 22, 3) := dk_182 0 22 (dk_at dksX5_product_0 6 rfl rfl)
theorem dX5_product_9 : decode cX5_product 9 = .ok (.istore_n 2, 1) := dk_61 (dk_at dksX5_product_0 9 rfl rfl)
theorem dX5_product_10 : decode cX5_product 10 = .ok (.iload_n 2, 1) := dk_28 (dk_at dksX5_product_0 10 rfl rfl)
theorem dX5_product_11 : decode cX5_product 11 = .ok (.bipush 42, 2) := dk_16 42 (dk_at dksX5_product_0 11 rfl rfl)
theorem dX5_product_13 : decode cX5_product 13 = .ok (.if_icmp .eq 9, 3) := dk_159 0 9 (dk_at dksX5_product_0 13 rfl rfl)
theorem dX5_product_16 : decode cX5_product 16 = .ok (.iload_n 2, 1) := dk_28 (dk_at dksX5_product_0 16 rfl rfl)
theorem dX5_product_17 : decode cX5_product 17 = .ok (.bipush 47, 2) := dk_16 47 (dk_at dksX5_product_0 17 rfl rfl)
theorem dX5_product_19 : decode cX5_product 19 = .ok (.if_icmp .ne 36, 3) := dk_160 0 36 (dk_at dksX5_product_0 19 rfl rfl)
theorem dX5_product_22 : decode cX5_product 22 = .ok (.aload_n 0, 1) := dk_42 (dk_at dksX5_product_0 22 rfl rfl)
theorem dX5_product_23 : decode cX5_product 23 = .ok (.dup, 1) := dk_89 (dk_at dksX5_product_0 23 rfl rfl)
theorem dX5_product_24 : decode cX5_product 24 = .ok (.getfield 19, 3) := dk_180 0 19 (dk_at dksX5_product_1 0 rfl rfl)
theorem dX5_product_27 : decode cX5_product 27 = .ok (.iconst 1, 1) := dk_4 (dk_at dksX5_product_1 3 rfl rfl)
theorem dX5_product_28 : decode cX5_product 28 = .ok (.iadd, 1) := dk_96 (dk_at dksX5_product_1 4 rfl rfl)
theorem dX5_product_29 : decode cX5_product 29 = .ok (.putfield 19, 3) := dk_181 0 19 (dk_at dksX5_product_1 5 rfl rfl)
theorem dX5_product_32 : decode cX5_product 32 = .ok (.new 184, 3) := dk_187 0 184 (dk_at dksX5_product_1 8 rfl rfl)
theorem dX5_product_35 : decode cX5_product 35 = .ok (.dup, 1) := dk_89 (dk_at dksX5_product_1 11 rfl rfl)
theorem dX5_product_36 : decode cX5_product 36 = .ok (.iload_n 2, 1) := dk_28 (dk_at dksX5_product_1 12 rfl rfl)
theorem dX5_product_37 : decode cX5_product 37 = .ok (.i2c, 1) := dk_146 (dk_at dksX5_product_1 13 rfl rfl)
theorem dX5_product_38 : decode cX5_product 38 = .ok (.aload_n 1, 1) := dk_43 (dk_at dksX5_product_1 14 rfl rfl)
theorem dX5_product_39 : decode cX5_product 39 = .ok (.aload_n 0, 1) := dk_42 (dk_at dksX5_product_1 15 rfl rfl)
theorem dX5_product_40 : decode cX5_product 40 = .ok (.invokevirtual 187, 3) := dk_182 0 187 (dk_at dksX5_product_1 16 rfl rfl)
theorem dX5_product_43 : decode cX5_product 43 = .ok (.invokespecial 186, 3) := dk_183 0 186 (dk_at dksX5_product_1 19 rfl rfl)
theorem dX5_product_46 : decode cX5_product 46 = .ok (.astore_n 1, 1) := dk_76 (dk_at dksX5_product_1 22 rfl rfl)
theorem dX5_product_47 : decode cX5_product 47 = .ok (.aload_n 0, 1) := dk_42 (dk_at dksX5_product_1 23 rfl rfl)
theorem dX5_product_48 : decode cX5_product 48 = .ok (.invokevirtual 22, 3) := dk_182 0 22 (dk_at dksX5_product_2 0 rfl rfl)
theorem dX5_product_51 : decode cX5_product 51 = .ok (.istore_n 2, 1) := dk_61 (dk_at dksX5_product_2 3 rfl rfl)
theorem dX5_product_52 : decode cX5_product 52 = .ok (.goto (-42), 3) := dk_167 255 214 (dk_at dksX5_product_2 4 rfl rfl)
theorem dX5_product_55 : decode cX5_product 55 = .ok (.aload_n 1, 1) := dk_43 (dk_at dksX5_product_2 7 rfl rfl)
theorem dX5_product_56 : decode cX5_product 56 = .ok (.areturn, 1) := dk_176 (dk_at dksX5_product_2 8 rfl rfl)
abbrev cX5_unit : ByteArray := prog_22_method_20_code
def yX5_unit : MethodName := ⟨RX5, "unit", "()LLimbBenches$Expr;"⟩
def dkwX5_unit_6 : List UInt8 := [42, 89, 180, 0, 19, 43, 182, 0, 49, 96, 181, 0, 19, 187, 0, 215, 89, 28, 183, 0, 217, 176]
abbrev dktX5_unit_6 : List UInt8 := dkwX5_unit_6 ++ []
def dkwX5_unit_5 : List UInt8 := [182, 0, 144, 44, 45, 183, 0, 186, 176, 43, 184, 0, 211, 61, 28, 2, 160, 0, 8, 42, 182, 0, 55, 191]
abbrev dktX5_unit_5 : List UInt8 := dkwX5_unit_5 ++ dktX5_unit_6
def dkwX5_unit_4 : List UInt8 := [16, 44, 182, 0, 66, 42, 182, 0, 132, 78, 42, 16, 41, 182, 0, 166, 187, 0, 184, 89, 43, 3]
abbrev dktX5_unit_4 : List UInt8 := dkwX5_unit_4 ++ dktX5_unit_5
def dkwX5_unit_3 : List UInt8 := [42, 89, 180, 0, 19, 43, 182, 0, 49, 96, 181, 0, 19, 42, 182, 0, 205, 42, 182, 0, 132, 77, 42]
abbrev dktX5_unit_3 : List UInt8 := dkwX5_unit_3 ++ dktX5_unit_4
def dkwX5_unit_2 : List UInt8 := [176, 42, 182, 0, 40, 76, 43, 18, 207, 182, 0, 43, 154, 0, 12, 43, 18, 209, 182, 0, 43, 153, 0, 57]
abbrev dktX5_unit_2 : List UInt8 := dkwX5_unit_2 ++ dktX5_unit_3
def dkwX5_unit_1 : List UInt8 := [182, 0, 22, 16, 40, 160, 0, 20, 42, 182, 0, 205, 42, 182, 0, 132, 76, 42, 16, 41, 182, 0, 166, 43]
abbrev dktX5_unit_1 : List UInt8 := dkwX5_unit_1 ++ dktX5_unit_2
def dkwX5_unit_0 : List UInt8 := [42, 182, 0, 69, 153, 0, 19, 187, 0, 202, 89, 42, 3, 17, 39, 15, 182, 0, 124, 183, 0, 204, 176, 42]
abbrev dktX5_unit_0 : List UInt8 := dkwX5_unit_0 ++ dktX5_unit_1
theorem dksX5_unit_0 : cX5_unit.data.toList.drop 0 = dktX5_unit_0 := by decide +kernel
theorem dksX5_unit_1 : cX5_unit.data.toList.drop 24 = dktX5_unit_1 := dk_seg dksX5_unit_0 24 rfl rfl
theorem dksX5_unit_2 : cX5_unit.data.toList.drop 48 = dktX5_unit_2 := dk_seg dksX5_unit_1 24 rfl rfl
theorem dksX5_unit_3 : cX5_unit.data.toList.drop 72 = dktX5_unit_3 := dk_seg dksX5_unit_2 24 rfl rfl
theorem dksX5_unit_4 : cX5_unit.data.toList.drop 95 = dktX5_unit_4 := dk_seg dksX5_unit_3 23 rfl rfl
theorem dksX5_unit_5 : cX5_unit.data.toList.drop 117 = dktX5_unit_5 := dk_seg dksX5_unit_4 22 rfl rfl
theorem dksX5_unit_6 : cX5_unit.data.toList.drop 141 = dktX5_unit_6 := dk_seg dksX5_unit_5 24 rfl rfl
theorem dX5_unit_0 : decode cX5_unit 0 = .ok (.aload_n 0, 1) := dk_42 (dk_at dksX5_unit_0 0 rfl rfl)
theorem dX5_unit_1 : decode cX5_unit 1 = .ok (.invokevirtual 69, 3) := dk_182 0 69 (dk_at dksX5_unit_0 1 rfl rfl)
theorem dX5_unit_4 : decode cX5_unit 4 = .ok (.ifCond .eq 19, 3) := dk_153 0 19 (dk_at dksX5_unit_0 4 rfl rfl)
theorem dX5_unit_7 : decode cX5_unit 7 = .ok (.new 202, 3) := dk_187 0 202 (dk_at dksX5_unit_0 7 rfl rfl)
theorem dX5_unit_10 : decode cX5_unit 10 = .ok (.dup, 1) := dk_89 (dk_at dksX5_unit_0 10 rfl rfl)
theorem dX5_unit_11 : decode cX5_unit 11 = .ok (.aload_n 0, 1) := dk_42 (dk_at dksX5_unit_0 11 rfl rfl)
theorem dX5_unit_12 : decode cX5_unit 12 = .ok (.iconst 0, 1) := dk_3 (dk_at dksX5_unit_0 12 rfl rfl)
theorem dX5_unit_13 : decode cX5_unit 13 = .ok (.sipush 9999, 3) := dk_17 39 15 (dk_at dksX5_unit_0 13 rfl rfl)
theorem dX5_unit_16 : decode cX5_unit 16 = .ok (.invokevirtual 124, 3) := dk_182 0 124 (dk_at dksX5_unit_0 16 rfl rfl)
theorem dX5_unit_19 : decode cX5_unit 19 = .ok (.invokespecial 204, 3) := dk_183 0 204 (dk_at dksX5_unit_0 19 rfl rfl)
theorem dX5_unit_22 : decode cX5_unit 22 = .ok (.areturn, 1) := dk_176 (dk_at dksX5_unit_0 22 rfl rfl)
theorem dX5_unit_23 : decode cX5_unit 23 = .ok (.aload_n 0, 1) := dk_42 (dk_at dksX5_unit_0 23 rfl rfl)
theorem dX5_unit_24 : decode cX5_unit 24 = .ok (.invokevirtual 22, 3) := dk_182 0 22 (dk_at dksX5_unit_1 0 rfl rfl)
theorem dX5_unit_27 : decode cX5_unit 27 = .ok (.bipush 40, 2) := dk_16 40 (dk_at dksX5_unit_1 3 rfl rfl)
theorem dX5_unit_29 : decode cX5_unit 29 = .ok (.if_icmp .ne 20, 3) := dk_160 0 20 (dk_at dksX5_unit_1 5 rfl rfl)
theorem dX5_unit_32 : decode cX5_unit 32 = .ok (.aload_n 0, 1) := dk_42 (dk_at dksX5_unit_1 8 rfl rfl)
theorem dX5_unit_33 : decode cX5_unit 33 = .ok (.invokevirtual 205, 3) := dk_182 0 205 (dk_at dksX5_unit_1 9 rfl rfl)
theorem dX5_unit_36 : decode cX5_unit 36 = .ok (.aload_n 0, 1) := dk_42 (dk_at dksX5_unit_1 12 rfl rfl)
theorem dX5_unit_37 : decode cX5_unit 37 = .ok (.invokevirtual 132, 3) := dk_182 0 132 (dk_at dksX5_unit_1 13 rfl rfl)
theorem dX5_unit_40 : decode cX5_unit 40 = .ok (.astore_n 1, 1) := dk_76 (dk_at dksX5_unit_1 16 rfl rfl)
theorem dX5_unit_41 : decode cX5_unit 41 = .ok (.aload_n 0, 1) := dk_42 (dk_at dksX5_unit_1 17 rfl rfl)
theorem dX5_unit_42 : decode cX5_unit 42 = .ok (.bipush 41, 2) := dk_16 41 (dk_at dksX5_unit_1 18 rfl rfl)
theorem dX5_unit_44 : decode cX5_unit 44 = .ok (.invokevirtual 166, 3) := dk_182 0 166 (dk_at dksX5_unit_1 20 rfl rfl)
theorem dX5_unit_47 : decode cX5_unit 47 = .ok (.aload_n 1, 1) := dk_43 (dk_at dksX5_unit_1 23 rfl rfl)
theorem dX5_unit_48 : decode cX5_unit 48 = .ok (.areturn, 1) := dk_176 (dk_at dksX5_unit_2 0 rfl rfl)
theorem dX5_unit_49 : decode cX5_unit 49 = .ok (.aload_n 0, 1) := dk_42 (dk_at dksX5_unit_2 1 rfl rfl)
theorem dX5_unit_50 : decode cX5_unit 50 = .ok (.invokevirtual 40, 3) := dk_182 0 40 (dk_at dksX5_unit_2 2 rfl rfl)
theorem dX5_unit_53 : decode cX5_unit 53 = .ok (.astore_n 1, 1) := dk_76 (dk_at dksX5_unit_2 5 rfl rfl)
theorem dX5_unit_54 : decode cX5_unit 54 = .ok (.aload_n 1, 1) := dk_43 (dk_at dksX5_unit_2 6 rfl rfl)
theorem dX5_unit_55 : decode cX5_unit 55 = .ok (.ldc 207, 2) := dk_18 207 (dk_at dksX5_unit_2 7 rfl rfl)
theorem dX5_unit_57 : decode cX5_unit 57 = .ok (.invokevirtual 43, 3) := dk_182 0 43 (dk_at dksX5_unit_2 9 rfl rfl)
theorem dX5_unit_60 : decode cX5_unit 60 = .ok (.ifCond .ne 12, 3) := dk_154 0 12 (dk_at dksX5_unit_2 12 rfl rfl)
theorem dX5_unit_63 : decode cX5_unit 63 = .ok (.aload_n 1, 1) := dk_43 (dk_at dksX5_unit_2 15 rfl rfl)
theorem dX5_unit_64 : decode cX5_unit 64 = .ok (.ldc 209, 2) := dk_18 209 (dk_at dksX5_unit_2 16 rfl rfl)
theorem dX5_unit_66 : decode cX5_unit 66 = .ok (.invokevirtual 43, 3) := dk_182 0 43 (dk_at dksX5_unit_2 18 rfl rfl)
theorem dX5_unit_69 : decode cX5_unit 69 = .ok (.ifCond .eq 57, 3) := dk_153 0 57 (dk_at dksX5_unit_2 21 rfl rfl)
theorem dX5_unit_72 : decode cX5_unit 72 = .ok (.aload_n 0, 1) := dk_42 (dk_at dksX5_unit_3 0 rfl rfl)
theorem dX5_unit_73 : decode cX5_unit 73 = .ok (.dup, 1) := dk_89 (dk_at dksX5_unit_3 1 rfl rfl)
theorem dX5_unit_74 : decode cX5_unit 74 = .ok (.getfield 19, 3) := dk_180 0 19 (dk_at dksX5_unit_3 2 rfl rfl)
theorem dX5_unit_77 : decode cX5_unit 77 = .ok (.aload_n 1, 1) := dk_43 (dk_at dksX5_unit_3 5 rfl rfl)
theorem dX5_unit_78 : decode cX5_unit 78 = .ok (.invokevirtual 49, 3) := dk_182 0 49 (dk_at dksX5_unit_3 6 rfl rfl)
theorem dX5_unit_81 : decode cX5_unit 81 = .ok (.iadd, 1) := dk_96 (dk_at dksX5_unit_3 9 rfl rfl)
theorem dX5_unit_82 : decode cX5_unit 82 = .ok (.putfield 19, 3) := dk_181 0 19 (dk_at dksX5_unit_3 10 rfl rfl)
theorem dX5_unit_85 : decode cX5_unit 85 = .ok (.aload_n 0, 1) := dk_42 (dk_at dksX5_unit_3 13 rfl rfl)
theorem dX5_unit_86 : decode cX5_unit 86 = .ok (.invokevirtual 205, 3) := dk_182 0 205 (dk_at dksX5_unit_3 14 rfl rfl)
theorem dX5_unit_89 : decode cX5_unit 89 = .ok (.aload_n 0, 1) := dk_42 (dk_at dksX5_unit_3 17 rfl rfl)
theorem dX5_unit_90 : decode cX5_unit 90 = .ok (.invokevirtual 132, 3) := dk_182 0 132 (dk_at dksX5_unit_3 18 rfl rfl)
theorem dX5_unit_93 : decode cX5_unit 93 = .ok (.astore_n 2, 1) := dk_77 (dk_at dksX5_unit_3 21 rfl rfl)
theorem dX5_unit_94 : decode cX5_unit 94 = .ok (.aload_n 0, 1) := dk_42 (dk_at dksX5_unit_3 22 rfl rfl)
theorem dX5_unit_95 : decode cX5_unit 95 = .ok (.bipush 44, 2) := dk_16 44 (dk_at dksX5_unit_4 0 rfl rfl)
theorem dX5_unit_97 : decode cX5_unit 97 = .ok (.invokevirtual 66, 3) := dk_182 0 66 (dk_at dksX5_unit_4 2 rfl rfl)
theorem dX5_unit_100 : decode cX5_unit 100 = .ok (.aload_n 0, 1) := dk_42 (dk_at dksX5_unit_4 5 rfl rfl)
theorem dX5_unit_101 : decode cX5_unit 101 = .ok (.invokevirtual 132, 3) := dk_182 0 132 (dk_at dksX5_unit_4 6 rfl rfl)
theorem dX5_unit_104 : decode cX5_unit 104 = .ok (.astore_n 3, 1) := dk_78 (dk_at dksX5_unit_4 9 rfl rfl)
theorem dX5_unit_105 : decode cX5_unit 105 = .ok (.aload_n 0, 1) := dk_42 (dk_at dksX5_unit_4 10 rfl rfl)
theorem dX5_unit_106 : decode cX5_unit 106 = .ok (.bipush 41, 2) := dk_16 41 (dk_at dksX5_unit_4 11 rfl rfl)
theorem dX5_unit_108 : decode cX5_unit 108 = .ok (.invokevirtual 166, 3) := dk_182 0 166 (dk_at dksX5_unit_4 13 rfl rfl)
theorem dX5_unit_111 : decode cX5_unit 111 = .ok (.new 184, 3) := dk_187 0 184 (dk_at dksX5_unit_4 16 rfl rfl)
theorem dX5_unit_114 : decode cX5_unit 114 = .ok (.dup, 1) := dk_89 (dk_at dksX5_unit_4 19 rfl rfl)
theorem dX5_unit_115 : decode cX5_unit 115 = .ok (.aload_n 1, 1) := dk_43 (dk_at dksX5_unit_4 20 rfl rfl)
theorem dX5_unit_116 : decode cX5_unit 116 = .ok (.iconst 0, 1) := dk_3 (dk_at dksX5_unit_4 21 rfl rfl)
theorem dX5_unit_117 : decode cX5_unit 117 = .ok (.invokevirtual 144, 3) := dk_182 0 144 (dk_at dksX5_unit_5 0 rfl rfl)
theorem dX5_unit_120 : decode cX5_unit 120 = .ok (.aload_n 2, 1) := dk_44 (dk_at dksX5_unit_5 3 rfl rfl)
theorem dX5_unit_121 : decode cX5_unit 121 = .ok (.aload_n 3, 1) := dk_45 (dk_at dksX5_unit_5 4 rfl rfl)
theorem dX5_unit_122 : decode cX5_unit 122 = .ok (.invokespecial 186, 3) := dk_183 0 186 (dk_at dksX5_unit_5 5 rfl rfl)
theorem dX5_unit_125 : decode cX5_unit 125 = .ok (.areturn, 1) := dk_176 (dk_at dksX5_unit_5 8 rfl rfl)
theorem dX5_unit_126 : decode cX5_unit 126 = .ok (.aload_n 1, 1) := dk_43 (dk_at dksX5_unit_5 9 rfl rfl)
theorem dX5_unit_127 : decode cX5_unit 127 = .ok (.invokestatic 211, 3) := dk_184 0 211 (dk_at dksX5_unit_5 10 rfl rfl)
theorem dX5_unit_130 : decode cX5_unit 130 = .ok (.istore_n 2, 1) := dk_61 (dk_at dksX5_unit_5 13 rfl rfl)
theorem dX5_unit_131 : decode cX5_unit 131 = .ok (.iload_n 2, 1) := dk_28 (dk_at dksX5_unit_5 14 rfl rfl)
theorem dX5_unit_132 : decode cX5_unit 132 = .ok (.iconst (-1), 1) := dk_2 (dk_at dksX5_unit_5 15 rfl rfl)
theorem dX5_unit_133 : decode cX5_unit 133 = .ok (.if_icmp .ne 8, 3) := dk_160 0 8 (dk_at dksX5_unit_5 16 rfl rfl)
theorem dX5_unit_136 : decode cX5_unit 136 = .ok (.aload_n 0, 1) := dk_42 (dk_at dksX5_unit_5 19 rfl rfl)
theorem dX5_unit_137 : decode cX5_unit 137 = .ok (.invokevirtual 55, 3) := dk_182 0 55 (dk_at dksX5_unit_5 20 rfl rfl)
theorem dX5_unit_140 : decode cX5_unit 140 = .ok (.athrow, 1) := dk_191 (dk_at dksX5_unit_5 23 rfl rfl)
theorem dX5_unit_141 : decode cX5_unit 141 = .ok (.aload_n 0, 1) := dk_42 (dk_at dksX5_unit_6 0 rfl rfl)
theorem dX5_unit_142 : decode cX5_unit 142 = .ok (.dup, 1) := dk_89 (dk_at dksX5_unit_6 1 rfl rfl)
theorem dX5_unit_143 : decode cX5_unit 143 = .ok (.getfield 19, 3) := dk_180 0 19 (dk_at dksX5_unit_6 2 rfl rfl)
theorem dX5_unit_146 : decode cX5_unit 146 = .ok (.aload_n 1, 1) := dk_43 (dk_at dksX5_unit_6 5 rfl rfl)
theorem dX5_unit_147 : decode cX5_unit 147 = .ok (.invokevirtual 49, 3) := dk_182 0 49 (dk_at dksX5_unit_6 6 rfl rfl)
theorem dX5_unit_150 : decode cX5_unit 150 = .ok (.iadd, 1) := dk_96 (dk_at dksX5_unit_6 9 rfl rfl)
theorem dX5_unit_151 : decode cX5_unit 151 = .ok (.putfield 19, 3) := dk_181 0 19 (dk_at dksX5_unit_6 10 rfl rfl)
theorem dX5_unit_154 : decode cX5_unit 154 = .ok (.new 215, 3) := dk_187 0 215 (dk_at dksX5_unit_6 13 rfl rfl)
theorem dX5_unit_157 : decode cX5_unit 157 = .ok (.dup, 1) := dk_89 (dk_at dksX5_unit_6 16 rfl rfl)
theorem dX5_unit_158 : decode cX5_unit 158 = .ok (.iload_n 2, 1) := dk_28 (dk_at dksX5_unit_6 17 rfl rfl)
theorem dX5_unit_159 : decode cX5_unit 159 = .ok (.invokespecial 217, 3) := dk_183 0 217 (dk_at dksX5_unit_6 18 rfl rfl)
theorem dX5_unit_162 : decode cX5_unit 162 = .ok (.areturn, 1) := dk_176 (dk_at dksX5_unit_6 21 rfl rfl)
abbrev cX5_opens : ByteArray := prog_22_method_9_code
def yX5_opens : MethodName := ⟨RX5, "opens", "()V"⟩
def dkwX5_opens_0 : List UInt8 := [42, 182, 0, 22, 16, 40, 159, 0, 8, 42, 182, 0, 55, 191, 42, 4, 182, 0, 62, 177]
abbrev dktX5_opens_0 : List UInt8 := dkwX5_opens_0 ++ []
theorem dksX5_opens_0 : cX5_opens.data.toList.drop 0 = dktX5_opens_0 := by decide +kernel
theorem dX5_opens_0 : decode cX5_opens 0 = .ok (.aload_n 0, 1) := dk_42 (dk_at dksX5_opens_0 0 rfl rfl)
theorem dX5_opens_1 : decode cX5_opens 1 = .ok (.invokevirtual 22, 3) := dk_182 0 22 (dk_at dksX5_opens_0 1 rfl rfl)
theorem dX5_opens_4 : decode cX5_opens 4 = .ok (.bipush 40, 2) := dk_16 40 (dk_at dksX5_opens_0 4 rfl rfl)
theorem dX5_opens_6 : decode cX5_opens 6 = .ok (.if_icmp .eq 8, 3) := dk_159 0 8 (dk_at dksX5_opens_0 6 rfl rfl)
theorem dX5_opens_9 : decode cX5_opens 9 = .ok (.aload_n 0, 1) := dk_42 (dk_at dksX5_opens_0 9 rfl rfl)
theorem dX5_opens_10 : decode cX5_opens 10 = .ok (.invokevirtual 55, 3) := dk_182 0 55 (dk_at dksX5_opens_0 10 rfl rfl)
theorem dX5_opens_13 : decode cX5_opens 13 = .ok (.athrow, 1) := dk_191 (dk_at dksX5_opens_0 13 rfl rfl)
theorem dX5_opens_14 : decode cX5_opens 14 = .ok (.aload_n 0, 1) := dk_42 (dk_at dksX5_opens_0 14 rfl rfl)
theorem dX5_opens_15 : decode cX5_opens 15 = .ok (.iconst 1, 1) := dk_4 (dk_at dksX5_opens_0 15 rfl rfl)
theorem dX5_opens_16 : decode cX5_opens 16 = .ok (.invokevirtual 62, 3) := dk_182 0 62 (dk_at dksX5_opens_0 16 rfl rfl)
theorem dX5_opens_19 : decode cX5_opens 19 = .ok (.return_, 1) := dk_177 (dk_at dksX5_opens_0 19 rfl rfl)
abbrev cX5_opens_2 : ByteArray := prog_22_method_8_code
def yX5_opens_2 : MethodName := ⟨RX5, "opens", "(I)V"⟩
def dkwX5_opens_2_1 : List UInt8 := [180, 0, 59, 4, 96, 181, 0, 59, 42, 89, 180, 0, 19, 27, 96, 181, 0, 19, 177]
abbrev dktX5_opens_2_1 : List UInt8 := dkwX5_opens_2_1 ++ []
def dkwX5_opens_2_0 : List UInt8 := [42, 180, 0, 59, 16, 6, 160, 0, 16, 187, 0, 50, 89, 6, 42, 180, 0, 19, 183, 0, 52, 191, 42, 89]
abbrev dktX5_opens_2_0 : List UInt8 := dkwX5_opens_2_0 ++ dktX5_opens_2_1
theorem dksX5_opens_2_0 : cX5_opens_2.data.toList.drop 0 = dktX5_opens_2_0 := by decide +kernel
theorem dksX5_opens_2_1 : cX5_opens_2.data.toList.drop 24 = dktX5_opens_2_1 := dk_seg dksX5_opens_2_0 24 rfl rfl
theorem dX5_opens_2_0 : decode cX5_opens_2 0 = .ok (.aload_n 0, 1) := dk_42 (dk_at dksX5_opens_2_0 0 rfl rfl)
theorem dX5_opens_2_1 : decode cX5_opens_2 1 = .ok (.getfield 59, 3) := dk_180 0 59 (dk_at dksX5_opens_2_0 1 rfl rfl)
theorem dX5_opens_2_4 : decode cX5_opens_2 4 = .ok (.bipush 6, 2) := dk_16 6 (dk_at dksX5_opens_2_0 4 rfl rfl)
theorem dX5_opens_2_6 : decode cX5_opens_2 6 = .ok (.if_icmp .ne 16, 3) := dk_160 0 16 (dk_at dksX5_opens_2_0 6 rfl rfl)
theorem dX5_opens_2_9 : decode cX5_opens_2 9 = .ok (.new 50, 3) := dk_187 0 50 (dk_at dksX5_opens_2_0 9 rfl rfl)
theorem dX5_opens_2_12 : decode cX5_opens_2 12 = .ok (.dup, 1) := dk_89 (dk_at dksX5_opens_2_0 12 rfl rfl)
theorem dX5_opens_2_13 : decode cX5_opens_2 13 = .ok (.iconst 3, 1) := dk_6 (dk_at dksX5_opens_2_0 13 rfl rfl)
theorem dX5_opens_2_14 : decode cX5_opens_2 14 = .ok (.aload_n 0, 1) := dk_42 (dk_at dksX5_opens_2_0 14 rfl rfl)
theorem dX5_opens_2_15 : decode cX5_opens_2 15 = .ok (.getfield 19, 3) := dk_180 0 19 (dk_at dksX5_opens_2_0 15 rfl rfl)
theorem dX5_opens_2_18 : decode cX5_opens_2 18 = .ok (.invokespecial 52, 3) := dk_183 0 52 (dk_at dksX5_opens_2_0 18 rfl rfl)
theorem dX5_opens_2_21 : decode cX5_opens_2 21 = .ok (.athrow, 1) := dk_191 (dk_at dksX5_opens_2_0 21 rfl rfl)
theorem dX5_opens_2_22 : decode cX5_opens_2 22 = .ok (.aload_n 0, 1) := dk_42 (dk_at dksX5_opens_2_0 22 rfl rfl)
theorem dX5_opens_2_23 : decode cX5_opens_2 23 = .ok (.dup, 1) := dk_89 (dk_at dksX5_opens_2_0 23 rfl rfl)
theorem dX5_opens_2_24 : decode cX5_opens_2 24 = .ok (.getfield 59, 3) := dk_180 0 59 (dk_at dksX5_opens_2_1 0 rfl rfl)
theorem dX5_opens_2_27 : decode cX5_opens_2 27 = .ok (.iconst 1, 1) := dk_4 (dk_at dksX5_opens_2_1 3 rfl rfl)
theorem dX5_opens_2_28 : decode cX5_opens_2 28 = .ok (.iadd, 1) := dk_96 (dk_at dksX5_opens_2_1 4 rfl rfl)
theorem dX5_opens_2_29 : decode cX5_opens_2 29 = .ok (.putfield 59, 3) := dk_181 0 59 (dk_at dksX5_opens_2_1 5 rfl rfl)
theorem dX5_opens_2_32 : decode cX5_opens_2 32 = .ok (.aload_n 0, 1) := dk_42 (dk_at dksX5_opens_2_1 8 rfl rfl)
theorem dX5_opens_2_33 : decode cX5_opens_2 33 = .ok (.dup, 1) := dk_89 (dk_at dksX5_opens_2_1 9 rfl rfl)
theorem dX5_opens_2_34 : decode cX5_opens_2 34 = .ok (.getfield 19, 3) := dk_180 0 19 (dk_at dksX5_opens_2_1 10 rfl rfl)
theorem dX5_opens_2_37 : decode cX5_opens_2 37 = .ok (.iload_n 1, 1) := dk_27 (dk_at dksX5_opens_2_1 13 rfl rfl)
theorem dX5_opens_2_38 : decode cX5_opens_2 38 = .ok (.iadd, 1) := dk_96 (dk_at dksX5_opens_2_1 14 rfl rfl)
theorem dX5_opens_2_39 : decode cX5_opens_2 39 = .ok (.putfield 19, 3) := dk_181 0 19 (dk_at dksX5_opens_2_1 15 rfl rfl)
theorem dX5_opens_2_42 : decode cX5_opens_2 42 = .ok (.return_, 1) := dk_177 (dk_at dksX5_opens_2_1 18 rfl rfl)
abbrev cX5_closes : ByteArray := prog_22_method_10_code
def yX5_closes : MethodName := ⟨RX5, "closes", "(I)V"⟩
def dkwX5_closes_0 : List UInt8 := [42, 27, 182, 0, 66, 42, 89, 180, 0, 59, 4, 100, 181, 0, 59, 177]
abbrev dktX5_closes_0 : List UInt8 := dkwX5_closes_0 ++ []
theorem dksX5_closes_0 : cX5_closes.data.toList.drop 0 = dktX5_closes_0 := by decide +kernel
theorem dX5_closes_0 : decode cX5_closes 0 = .ok (.aload_n 0, 1) := dk_42 (dk_at dksX5_closes_0 0 rfl rfl)
theorem dX5_closes_1 : decode cX5_closes 1 = .ok (.iload_n 1, 1) := dk_27 (dk_at dksX5_closes_0 1 rfl rfl)
theorem dX5_closes_2 : decode cX5_closes 2 = .ok (.invokevirtual 66, 3) := dk_182 0 66 (dk_at dksX5_closes_0 2 rfl rfl)
theorem dX5_closes_5 : decode cX5_closes 5 = .ok (.aload_n 0, 1) := dk_42 (dk_at dksX5_closes_0 5 rfl rfl)
theorem dX5_closes_6 : decode cX5_closes 6 = .ok (.dup, 1) := dk_89 (dk_at dksX5_closes_0 6 rfl rfl)
theorem dX5_closes_7 : decode cX5_closes 7 = .ok (.getfield 59, 3) := dk_180 0 59 (dk_at dksX5_closes_0 7 rfl rfl)
theorem dX5_closes_10 : decode cX5_closes 10 = .ok (.iconst 1, 1) := dk_4 (dk_at dksX5_closes_0 10 rfl rfl)
theorem dX5_closes_11 : decode cX5_closes 11 = .ok (.isub, 1) := dk_100 (dk_at dksX5_closes_0 11 rfl rfl)
theorem dX5_closes_12 : decode cX5_closes 12 = .ok (.putfield 59, 3) := dk_181 0 59 (dk_at dksX5_closes_0 12 rfl rfl)
theorem dX5_closes_15 : decode cX5_closes 15 = .ok (.return_, 1) := dk_177 (dk_at dksX5_closes_0 15 rfl rfl)
abbrev cX5_need : ByteArray := prog_22_method_7_code
def yX5_need : MethodName := ⟨RX5, "need", "(I)V"⟩
def dkwX5_need_0 : List UInt8 := [42, 182, 0, 22, 27, 159, 0, 8, 42, 182, 0, 55, 191, 42, 89, 180, 0, 19, 4, 96, 181, 0, 19, 177]
abbrev dktX5_need_0 : List UInt8 := dkwX5_need_0 ++ []
theorem dksX5_need_0 : cX5_need.data.toList.drop 0 = dktX5_need_0 := by decide +kernel
theorem dX5_need_0 : decode cX5_need 0 = .ok (.aload_n 0, 1) := dk_42 (dk_at dksX5_need_0 0 rfl rfl)
theorem dX5_need_1 : decode cX5_need 1 = .ok (.invokevirtual 22, 3) := dk_182 0 22 (dk_at dksX5_need_0 1 rfl rfl)
theorem dX5_need_4 : decode cX5_need 4 = .ok (.iload_n 1, 1) := dk_27 (dk_at dksX5_need_0 4 rfl rfl)
theorem dX5_need_5 : decode cX5_need 5 = .ok (.if_icmp .eq 8, 3) := dk_159 0 8 (dk_at dksX5_need_0 5 rfl rfl)
theorem dX5_need_8 : decode cX5_need 8 = .ok (.aload_n 0, 1) := dk_42 (dk_at dksX5_need_0 8 rfl rfl)
theorem dX5_need_9 : decode cX5_need 9 = .ok (.invokevirtual 55, 3) := dk_182 0 55 (dk_at dksX5_need_0 9 rfl rfl)
theorem dX5_need_12 : decode cX5_need 12 = .ok (.athrow, 1) := dk_191 (dk_at dksX5_need_0 12 rfl rfl)
theorem dX5_need_13 : decode cX5_need 13 = .ok (.aload_n 0, 1) := dk_42 (dk_at dksX5_need_0 13 rfl rfl)
theorem dX5_need_14 : decode cX5_need 14 = .ok (.dup, 1) := dk_89 (dk_at dksX5_need_0 14 rfl rfl)
theorem dX5_need_15 : decode cX5_need 15 = .ok (.getfield 19, 3) := dk_180 0 19 (dk_at dksX5_need_0 15 rfl rfl)
theorem dX5_need_18 : decode cX5_need 18 = .ok (.iconst 1, 1) := dk_4 (dk_at dksX5_need_0 18 rfl rfl)
theorem dX5_need_19 : decode cX5_need 19 = .ok (.iadd, 1) := dk_96 (dk_at dksX5_need_0 19 rfl rfl)
theorem dX5_need_20 : decode cX5_need 20 = .ok (.putfield 19, 3) := dk_181 0 19 (dk_at dksX5_need_0 20 rfl rfl)
theorem dX5_need_23 : decode cX5_need 23 = .ok (.return_, 1) := dk_177 (dk_at dksX5_need_0 23 rfl rfl)
abbrev cX5_nameOf : ByteArray := prog_22_method_19_code
def yX5_nameOf : MethodName := ⟨RX5, "nameOf", "(Ljava/lang/String;)I"⟩
def dkwX5_nameOf_7 : List UInt8 := [3, 172, 4, 172, 5, 172, 6, 172, 7, 172, 8, 172, 2, 172]
abbrev dktX5_nameOf_7 : List UInt8 := dkwX5_nameOf_7 ++ []
def dkwX5_nameOf_6 : List UInt8 := [170, 0, 0, 0, 0, 50, 0, 0, 0, 0, 0, 0, 0, 5, 0, 0, 0, 38, 0, 0, 0, 40, 0, 0, 0, 42, 0, 0, 0, 44, 0, 0, 0, 46, 0, 0, 0, 48]
abbrev dktX5_nameOf_6 : List UInt8 := dkwX5_nameOf_6 ++ dktX5_nameOf_7
def dkwX5_nameOf_5 : List UInt8 := [18, 200, 182, 0, 43, 153, 0, 5, 8, 61, 28]
abbrev dktX5_nameOf_5 : List UInt8 := dkwX5_nameOf_5 ++ dktX5_nameOf_6
def dkwX5_nameOf_4 : List UInt8 := [153, 0, 33, 6, 61, 167, 0, 28, 43, 18, 198, 182, 0, 43, 153, 0, 19, 7, 61, 167, 0, 14, 43]
abbrev dktX5_nameOf_4 : List UInt8 := dkwX5_nameOf_4 ++ dktX5_nameOf_5
def dkwX5_nameOf_3 : List UInt8 := [61, 167, 0, 56, 43, 18, 194, 182, 0, 43, 153, 0, 47, 5, 61, 167, 0, 42, 43, 18, 196, 182, 0, 43]
abbrev dktX5_nameOf_3 : List UInt8 := dkwX5_nameOf_3 ++ dktX5_nameOf_4
def dkwX5_nameOf_2 : List UInt8 := [43, 18, 190, 182, 0, 43, 153, 0, 75, 3, 61, 167, 0, 70, 43, 18, 192, 182, 0, 43, 153, 0, 61, 4]
abbrev dktX5_nameOf_2 : List UInt8 := dkwX5_nameOf_2 ++ dktX5_nameOf_3
def dkwX5_nameOf_1 : List UInt8 := [171, 0, 0, 0, 0, 0, 0, 141, 0, 0, 0, 6, 208, 209, 66, 120, 0, 0, 0, 60, 0, 1, 120, 255, 0, 0, 0, 88, 0, 48, 222, 65, 0, 0, 0, 102, 6, 137, 1, 110, 0, 0, 0, 130, 6, 138, 211, 39, 0, 0, 0, 116, 6, 151, 241, 100, 0, 0, 0, 74]
abbrev dktX5_nameOf_1 : List UInt8 := dkwX5_nameOf_1 ++ dktX5_nameOf_2
def dkwX5_nameOf_0 : List UInt8 := [42, 76, 2, 61, 43, 182, 0, 108]
abbrev dktX5_nameOf_0 : List UInt8 := dkwX5_nameOf_0 ++ dktX5_nameOf_1
theorem dksX5_nameOf_0 : cX5_nameOf.data.toList.drop 0 = dktX5_nameOf_0 := by decide +kernel
theorem dksX5_nameOf_1 : cX5_nameOf.data.toList.drop 8 = dktX5_nameOf_1 := dk_seg dksX5_nameOf_0 8 rfl rfl
theorem dksX5_nameOf_2 : cX5_nameOf.data.toList.drop 68 = dktX5_nameOf_2 := dk_seg dksX5_nameOf_1 60 rfl rfl
theorem dksX5_nameOf_3 : cX5_nameOf.data.toList.drop 92 = dktX5_nameOf_3 := dk_seg dksX5_nameOf_2 24 rfl rfl
theorem dksX5_nameOf_4 : cX5_nameOf.data.toList.drop 116 = dktX5_nameOf_4 := dk_seg dksX5_nameOf_3 24 rfl rfl
theorem dksX5_nameOf_5 : cX5_nameOf.data.toList.drop 139 = dktX5_nameOf_5 := dk_seg dksX5_nameOf_4 23 rfl rfl
theorem dksX5_nameOf_6 : cX5_nameOf.data.toList.drop 150 = dktX5_nameOf_6 := dk_seg dksX5_nameOf_5 11 rfl rfl
theorem dksX5_nameOf_7 : cX5_nameOf.data.toList.drop 188 = dktX5_nameOf_7 := dk_seg dksX5_nameOf_6 38 rfl rfl
theorem dX5_nameOf_0 : decode cX5_nameOf 0 = .ok (.aload_n 0, 1) := dk_42 (dk_at dksX5_nameOf_0 0 rfl rfl)
theorem dX5_nameOf_1 : decode cX5_nameOf 1 = .ok (.astore_n 1, 1) := dk_76 (dk_at dksX5_nameOf_0 1 rfl rfl)
theorem dX5_nameOf_2 : decode cX5_nameOf 2 = .ok (.iconst (-1), 1) := dk_2 (dk_at dksX5_nameOf_0 2 rfl rfl)
theorem dX5_nameOf_3 : decode cX5_nameOf 3 = .ok (.istore_n 2, 1) := dk_61 (dk_at dksX5_nameOf_0 3 rfl rfl)
theorem dX5_nameOf_4 : decode cX5_nameOf 4 = .ok (.aload_n 1, 1) := dk_43 (dk_at dksX5_nameOf_0 4 rfl rfl)
theorem dX5_nameOf_5 : decode cX5_nameOf 5 = .ok (.invokevirtual 108, 3) := dk_182 0 108 (dk_at dksX5_nameOf_0 5 rfl rfl)
theorem dX5_nameOf_8 : decode cX5_nameOf 8 = .ok (.lookupswitch 141 #[(-791592328, 60), (96511, 88), (3202625, 102), (109642094, 130), (109761319, 116), (110621028, 74)], 60) := by decide +kernel
theorem dX5_nameOf_68 : decode cX5_nameOf 68 = .ok (.aload_n 1, 1) := dk_43 (dk_at dksX5_nameOf_2 0 rfl rfl)
theorem dX5_nameOf_69 : decode cX5_nameOf 69 = .ok (.ldc 190, 2) := dk_18 190 (dk_at dksX5_nameOf_2 1 rfl rfl)
theorem dX5_nameOf_71 : decode cX5_nameOf 71 = .ok (.invokevirtual 43, 3) := dk_182 0 43 (dk_at dksX5_nameOf_2 3 rfl rfl)
theorem dX5_nameOf_74 : decode cX5_nameOf 74 = .ok (.ifCond .eq 75, 3) := dk_153 0 75 (dk_at dksX5_nameOf_2 6 rfl rfl)
theorem dX5_nameOf_77 : decode cX5_nameOf 77 = .ok (.iconst 0, 1) := dk_3 (dk_at dksX5_nameOf_2 9 rfl rfl)
theorem dX5_nameOf_78 : decode cX5_nameOf 78 = .ok (.istore_n 2, 1) := dk_61 (dk_at dksX5_nameOf_2 10 rfl rfl)
theorem dX5_nameOf_79 : decode cX5_nameOf 79 = .ok (.goto 70, 3) := dk_167 0 70 (dk_at dksX5_nameOf_2 11 rfl rfl)
theorem dX5_nameOf_82 : decode cX5_nameOf 82 = .ok (.aload_n 1, 1) := dk_43 (dk_at dksX5_nameOf_2 14 rfl rfl)
theorem dX5_nameOf_83 : decode cX5_nameOf 83 = .ok (.ldc 192, 2) := dk_18 192 (dk_at dksX5_nameOf_2 15 rfl rfl)
theorem dX5_nameOf_85 : decode cX5_nameOf 85 = .ok (.invokevirtual 43, 3) := dk_182 0 43 (dk_at dksX5_nameOf_2 17 rfl rfl)
theorem dX5_nameOf_88 : decode cX5_nameOf 88 = .ok (.ifCond .eq 61, 3) := dk_153 0 61 (dk_at dksX5_nameOf_2 20 rfl rfl)
theorem dX5_nameOf_91 : decode cX5_nameOf 91 = .ok (.iconst 1, 1) := dk_4 (dk_at dksX5_nameOf_2 23 rfl rfl)
theorem dX5_nameOf_92 : decode cX5_nameOf 92 = .ok (.istore_n 2, 1) := dk_61 (dk_at dksX5_nameOf_3 0 rfl rfl)
theorem dX5_nameOf_93 : decode cX5_nameOf 93 = .ok (.goto 56, 3) := dk_167 0 56 (dk_at dksX5_nameOf_3 1 rfl rfl)
theorem dX5_nameOf_96 : decode cX5_nameOf 96 = .ok (.aload_n 1, 1) := dk_43 (dk_at dksX5_nameOf_3 4 rfl rfl)
theorem dX5_nameOf_97 : decode cX5_nameOf 97 = .ok (.ldc 194, 2) := dk_18 194 (dk_at dksX5_nameOf_3 5 rfl rfl)
theorem dX5_nameOf_99 : decode cX5_nameOf 99 = .ok (.invokevirtual 43, 3) := dk_182 0 43 (dk_at dksX5_nameOf_3 7 rfl rfl)
theorem dX5_nameOf_102 : decode cX5_nameOf 102 = .ok (.ifCond .eq 47, 3) := dk_153 0 47 (dk_at dksX5_nameOf_3 10 rfl rfl)
theorem dX5_nameOf_105 : decode cX5_nameOf 105 = .ok (.iconst 2, 1) := dk_5 (dk_at dksX5_nameOf_3 13 rfl rfl)
theorem dX5_nameOf_106 : decode cX5_nameOf 106 = .ok (.istore_n 2, 1) := dk_61 (dk_at dksX5_nameOf_3 14 rfl rfl)
theorem dX5_nameOf_107 : decode cX5_nameOf 107 = .ok (.goto 42, 3) := dk_167 0 42 (dk_at dksX5_nameOf_3 15 rfl rfl)
theorem dX5_nameOf_110 : decode cX5_nameOf 110 = .ok (.aload_n 1, 1) := dk_43 (dk_at dksX5_nameOf_3 18 rfl rfl)
theorem dX5_nameOf_111 : decode cX5_nameOf 111 = .ok (.ldc 196, 2) := dk_18 196 (dk_at dksX5_nameOf_3 19 rfl rfl)
theorem dX5_nameOf_113 : decode cX5_nameOf 113 = .ok (.invokevirtual 43, 3) := dk_182 0 43 (dk_at dksX5_nameOf_3 21 rfl rfl)
theorem dX5_nameOf_116 : decode cX5_nameOf 116 = .ok (.ifCond .eq 33, 3) := dk_153 0 33 (dk_at dksX5_nameOf_4 0 rfl rfl)
theorem dX5_nameOf_119 : decode cX5_nameOf 119 = .ok (.iconst 3, 1) := dk_6 (dk_at dksX5_nameOf_4 3 rfl rfl)
theorem dX5_nameOf_120 : decode cX5_nameOf 120 = .ok (.istore_n 2, 1) := dk_61 (dk_at dksX5_nameOf_4 4 rfl rfl)
theorem dX5_nameOf_121 : decode cX5_nameOf 121 = .ok (.goto 28, 3) := dk_167 0 28 (dk_at dksX5_nameOf_4 5 rfl rfl)
theorem dX5_nameOf_124 : decode cX5_nameOf 124 = .ok (.aload_n 1, 1) := dk_43 (dk_at dksX5_nameOf_4 8 rfl rfl)
theorem dX5_nameOf_125 : decode cX5_nameOf 125 = .ok (.ldc 198, 2) := dk_18 198 (dk_at dksX5_nameOf_4 9 rfl rfl)
theorem dX5_nameOf_127 : decode cX5_nameOf 127 = .ok (.invokevirtual 43, 3) := dk_182 0 43 (dk_at dksX5_nameOf_4 11 rfl rfl)
theorem dX5_nameOf_130 : decode cX5_nameOf 130 = .ok (.ifCond .eq 19, 3) := dk_153 0 19 (dk_at dksX5_nameOf_4 14 rfl rfl)
theorem dX5_nameOf_133 : decode cX5_nameOf 133 = .ok (.iconst 4, 1) := dk_7 (dk_at dksX5_nameOf_4 17 rfl rfl)
theorem dX5_nameOf_134 : decode cX5_nameOf 134 = .ok (.istore_n 2, 1) := dk_61 (dk_at dksX5_nameOf_4 18 rfl rfl)
theorem dX5_nameOf_135 : decode cX5_nameOf 135 = .ok (.goto 14, 3) := dk_167 0 14 (dk_at dksX5_nameOf_4 19 rfl rfl)
theorem dX5_nameOf_138 : decode cX5_nameOf 138 = .ok (.aload_n 1, 1) := dk_43 (dk_at dksX5_nameOf_4 22 rfl rfl)
theorem dX5_nameOf_139 : decode cX5_nameOf 139 = .ok (.ldc 200, 2) := dk_18 200 (dk_at dksX5_nameOf_5 0 rfl rfl)
theorem dX5_nameOf_141 : decode cX5_nameOf 141 = .ok (.invokevirtual 43, 3) := dk_182 0 43 (dk_at dksX5_nameOf_5 2 rfl rfl)
theorem dX5_nameOf_144 : decode cX5_nameOf 144 = .ok (.ifCond .eq 5, 3) := dk_153 0 5 (dk_at dksX5_nameOf_5 5 rfl rfl)
theorem dX5_nameOf_147 : decode cX5_nameOf 147 = .ok (.iconst 5, 1) := dk_8 (dk_at dksX5_nameOf_5 8 rfl rfl)
theorem dX5_nameOf_148 : decode cX5_nameOf 148 = .ok (.istore_n 2, 1) := dk_61 (dk_at dksX5_nameOf_5 9 rfl rfl)
theorem dX5_nameOf_149 : decode cX5_nameOf 149 = .ok (.iload_n 2, 1) := dk_28 (dk_at dksX5_nameOf_5 10 rfl rfl)
theorem dX5_nameOf_150 : decode cX5_nameOf 150 = .ok (.tableswitch 50 0 5 #[38, 40, 42, 44, 46, 48], 38) := by decide +kernel
theorem dX5_nameOf_188 : decode cX5_nameOf 188 = .ok (.iconst 0, 1) := dk_3 (dk_at dksX5_nameOf_7 0 rfl rfl)
theorem dX5_nameOf_189 : decode cX5_nameOf 189 = .ok (.ireturn, 1) := dk_172 (dk_at dksX5_nameOf_7 1 rfl rfl)
theorem dX5_nameOf_190 : decode cX5_nameOf 190 = .ok (.iconst 1, 1) := dk_4 (dk_at dksX5_nameOf_7 2 rfl rfl)
theorem dX5_nameOf_191 : decode cX5_nameOf 191 = .ok (.ireturn, 1) := dk_172 (dk_at dksX5_nameOf_7 3 rfl rfl)
theorem dX5_nameOf_192 : decode cX5_nameOf 192 = .ok (.iconst 2, 1) := dk_5 (dk_at dksX5_nameOf_7 4 rfl rfl)
theorem dX5_nameOf_193 : decode cX5_nameOf 193 = .ok (.ireturn, 1) := dk_172 (dk_at dksX5_nameOf_7 5 rfl rfl)
theorem dX5_nameOf_194 : decode cX5_nameOf 194 = .ok (.iconst 3, 1) := dk_6 (dk_at dksX5_nameOf_7 6 rfl rfl)
theorem dX5_nameOf_195 : decode cX5_nameOf 195 = .ok (.ireturn, 1) := dk_172 (dk_at dksX5_nameOf_7 7 rfl rfl)
theorem dX5_nameOf_196 : decode cX5_nameOf 196 = .ok (.iconst 4, 1) := dk_7 (dk_at dksX5_nameOf_7 8 rfl rfl)
theorem dX5_nameOf_197 : decode cX5_nameOf 197 = .ok (.ireturn, 1) := dk_172 (dk_at dksX5_nameOf_7 9 rfl rfl)
theorem dX5_nameOf_198 : decode cX5_nameOf 198 = .ok (.iconst 5, 1) := dk_8 (dk_at dksX5_nameOf_7 10 rfl rfl)
theorem dX5_nameOf_199 : decode cX5_nameOf 199 = .ok (.ireturn, 1) := dk_172 (dk_at dksX5_nameOf_7 11 rfl rfl)
theorem dX5_nameOf_200 : decode cX5_nameOf 200 = .ok (.iconst (-1), 1) := dk_2 (dk_at dksX5_nameOf_7 12 rfl rfl)
theorem dX5_nameOf_201 : decode cX5_nameOf 201 = .ok (.ireturn, 1) := dk_172 (dk_at dksX5_nameOf_7 13 rfl rfl)
abbrev cX5_takes : ByteArray := prog_22_method_5_code
def yX5_takes : MethodName := ⟨RX5, "takes", "(Ljava/lang/String;)Z"⟩
def dkwX5_takes_1 : List UInt8 := [181, 0, 19, 4, 172]
abbrev dktX5_takes_1 : List UInt8 := dkwX5_takes_1 ++ []
def dkwX5_takes_0 : List UInt8 := [42, 182, 0, 40, 43, 182, 0, 43, 154, 0, 5, 3, 172, 42, 89, 180, 0, 19, 43, 182, 0, 49, 96]
abbrev dktX5_takes_0 : List UInt8 := dkwX5_takes_0 ++ dktX5_takes_1
theorem dksX5_takes_0 : cX5_takes.data.toList.drop 0 = dktX5_takes_0 := by decide +kernel
theorem dksX5_takes_1 : cX5_takes.data.toList.drop 23 = dktX5_takes_1 := dk_seg dksX5_takes_0 23 rfl rfl
theorem dX5_takes_0 : decode cX5_takes 0 = .ok (.aload_n 0, 1) := dk_42 (dk_at dksX5_takes_0 0 rfl rfl)
theorem dX5_takes_1 : decode cX5_takes 1 = .ok (.invokevirtual 40, 3) := dk_182 0 40 (dk_at dksX5_takes_0 1 rfl rfl)
theorem dX5_takes_4 : decode cX5_takes 4 = .ok (.aload_n 1, 1) := dk_43 (dk_at dksX5_takes_0 4 rfl rfl)
theorem dX5_takes_5 : decode cX5_takes 5 = .ok (.invokevirtual 43, 3) := dk_182 0 43 (dk_at dksX5_takes_0 5 rfl rfl)
theorem dX5_takes_8 : decode cX5_takes 8 = .ok (.ifCond .ne 5, 3) := dk_154 0 5 (dk_at dksX5_takes_0 8 rfl rfl)
theorem dX5_takes_11 : decode cX5_takes 11 = .ok (.iconst 0, 1) := dk_3 (dk_at dksX5_takes_0 11 rfl rfl)
theorem dX5_takes_12 : decode cX5_takes 12 = .ok (.ireturn, 1) := dk_172 (dk_at dksX5_takes_0 12 rfl rfl)
theorem dX5_takes_13 : decode cX5_takes 13 = .ok (.aload_n 0, 1) := dk_42 (dk_at dksX5_takes_0 13 rfl rfl)
theorem dX5_takes_14 : decode cX5_takes 14 = .ok (.dup, 1) := dk_89 (dk_at dksX5_takes_0 14 rfl rfl)
theorem dX5_takes_15 : decode cX5_takes 15 = .ok (.getfield 19, 3) := dk_180 0 19 (dk_at dksX5_takes_0 15 rfl rfl)
theorem dX5_takes_18 : decode cX5_takes 18 = .ok (.aload_n 1, 1) := dk_43 (dk_at dksX5_takes_0 18 rfl rfl)
theorem dX5_takes_19 : decode cX5_takes 19 = .ok (.invokevirtual 49, 3) := dk_182 0 49 (dk_at dksX5_takes_0 19 rfl rfl)
theorem dX5_takes_22 : decode cX5_takes 22 = .ok (.iadd, 1) := dk_96 (dk_at dksX5_takes_0 22 rfl rfl)
theorem dX5_takes_23 : decode cX5_takes 23 = .ok (.putfield 19, 3) := dk_181 0 19 (dk_at dksX5_takes_1 0 rfl rfl)
theorem dX5_takes_26 : decode cX5_takes 26 = .ok (.iconst 1, 1) := dk_4 (dk_at dksX5_takes_1 3 rfl rfl)
theorem dX5_takes_27 : decode cX5_takes 27 = .ok (.ireturn, 1) := dk_172 (dk_at dksX5_takes_1 4 rfl rfl)
abbrev cX5_cond : ByteArray := prog_22_method_14_code
def yX5_cond : MethodName := ⟨RX5, "cond", "()LLimbBenches$Cond;"⟩
def dkwX5_cond_1 : List UInt8 := [183, 0, 158, 76, 167, 255, 233, 43, 176]
abbrev dktX5_cond_1 : List UInt8 := dkwX5_cond_1 ++ []
def dkwX5_cond_0 : List UInt8 := [42, 182, 0, 151, 76, 42, 18, 154, 182, 0, 91, 153, 0, 20, 187, 0, 156, 89, 4, 43, 42, 182, 0, 151]
abbrev dktX5_cond_0 : List UInt8 := dkwX5_cond_0 ++ dktX5_cond_1
theorem dksX5_cond_0 : cX5_cond.data.toList.drop 0 = dktX5_cond_0 := by decide +kernel
theorem dksX5_cond_1 : cX5_cond.data.toList.drop 24 = dktX5_cond_1 := dk_seg dksX5_cond_0 24 rfl rfl
theorem dX5_cond_0 : decode cX5_cond 0 = .ok (.aload_n 0, 1) := dk_42 (dk_at dksX5_cond_0 0 rfl rfl)
theorem dX5_cond_1 : decode cX5_cond 1 = .ok (.invokevirtual 151, 3) := dk_182 0 151 (dk_at dksX5_cond_0 1 rfl rfl)
theorem dX5_cond_4 : decode cX5_cond 4 = .ok (.astore_n 1, 1) := dk_76 (dk_at dksX5_cond_0 4 rfl rfl)
theorem dX5_cond_5 : decode cX5_cond 5 = .ok (.aload_n 0, 1) := dk_42 (dk_at dksX5_cond_0 5 rfl rfl)
theorem dX5_cond_6 : decode cX5_cond 6 = .ok (.ldc 154, 2) := dk_18 154 (dk_at dksX5_cond_0 6 rfl rfl)
theorem dX5_cond_8 : decode cX5_cond 8 = .ok (.invokevirtual 91, 3) := dk_182 0 91 (dk_at dksX5_cond_0 8 rfl rfl)
theorem dX5_cond_11 : decode cX5_cond 11 = .ok (.ifCond .eq 20, 3) := dk_153 0 20 (dk_at dksX5_cond_0 11 rfl rfl)
theorem dX5_cond_14 : decode cX5_cond 14 = .ok (.new 156, 3) := dk_187 0 156 (dk_at dksX5_cond_0 14 rfl rfl)
theorem dX5_cond_17 : decode cX5_cond 17 = .ok (.dup, 1) := dk_89 (dk_at dksX5_cond_0 17 rfl rfl)
theorem dX5_cond_18 : decode cX5_cond 18 = .ok (.iconst 1, 1) := dk_4 (dk_at dksX5_cond_0 18 rfl rfl)
theorem dX5_cond_19 : decode cX5_cond 19 = .ok (.aload_n 1, 1) := dk_43 (dk_at dksX5_cond_0 19 rfl rfl)
theorem dX5_cond_20 : decode cX5_cond 20 = .ok (.aload_n 0, 1) := dk_42 (dk_at dksX5_cond_0 20 rfl rfl)
theorem dX5_cond_21 : decode cX5_cond 21 = .ok (.invokevirtual 151, 3) := dk_182 0 151 (dk_at dksX5_cond_0 21 rfl rfl)
theorem dX5_cond_24 : decode cX5_cond 24 = .ok (.invokespecial 158, 3) := dk_183 0 158 (dk_at dksX5_cond_1 0 rfl rfl)
theorem dX5_cond_27 : decode cX5_cond 27 = .ok (.astore_n 1, 1) := dk_76 (dk_at dksX5_cond_1 3 rfl rfl)
theorem dX5_cond_28 : decode cX5_cond 28 = .ok (.goto (-23), 3) := dk_167 255 233 (dk_at dksX5_cond_1 4 rfl rfl)
theorem dX5_cond_31 : decode cX5_cond 31 = .ok (.aload_n 1, 1) := dk_43 (dk_at dksX5_cond_1 7 rfl rfl)
theorem dX5_cond_32 : decode cX5_cond 32 = .ok (.areturn, 1) := dk_176 (dk_at dksX5_cond_1 8 rfl rfl)
abbrev cX5_all : ByteArray := prog_22_method_15_code
def yX5_all : MethodName := ⟨RX5, "all", "()LLimbBenches$Cond;"⟩
def dkwX5_all_1 : List UInt8 := [183, 0, 158, 76, 167, 255, 233, 43, 176]
abbrev dktX5_all_1 : List UInt8 := dkwX5_all_1 ++ []
def dkwX5_all_0 : List UInt8 := [42, 182, 0, 161, 76, 42, 18, 164, 182, 0, 91, 153, 0, 20, 187, 0, 156, 89, 3, 43, 42, 182, 0, 161]
abbrev dktX5_all_0 : List UInt8 := dkwX5_all_0 ++ dktX5_all_1
theorem dksX5_all_0 : cX5_all.data.toList.drop 0 = dktX5_all_0 := by decide +kernel
theorem dksX5_all_1 : cX5_all.data.toList.drop 24 = dktX5_all_1 := dk_seg dksX5_all_0 24 rfl rfl
theorem dX5_all_0 : decode cX5_all 0 = .ok (.aload_n 0, 1) := dk_42 (dk_at dksX5_all_0 0 rfl rfl)
theorem dX5_all_1 : decode cX5_all 1 = .ok (.invokevirtual 161, 3) := dk_182 0 161 (dk_at dksX5_all_0 1 rfl rfl)
theorem dX5_all_4 : decode cX5_all 4 = .ok (.astore_n 1, 1) := dk_76 (dk_at dksX5_all_0 4 rfl rfl)
theorem dX5_all_5 : decode cX5_all 5 = .ok (.aload_n 0, 1) := dk_42 (dk_at dksX5_all_0 5 rfl rfl)
theorem dX5_all_6 : decode cX5_all 6 = .ok (.ldc 164, 2) := dk_18 164 (dk_at dksX5_all_0 6 rfl rfl)
theorem dX5_all_8 : decode cX5_all 8 = .ok (.invokevirtual 91, 3) := dk_182 0 91 (dk_at dksX5_all_0 8 rfl rfl)
theorem dX5_all_11 : decode cX5_all 11 = .ok (.ifCond .eq 20, 3) := dk_153 0 20 (dk_at dksX5_all_0 11 rfl rfl)
theorem dX5_all_14 : decode cX5_all 14 = .ok (.new 156, 3) := dk_187 0 156 (dk_at dksX5_all_0 14 rfl rfl)
theorem dX5_all_17 : decode cX5_all 17 = .ok (.dup, 1) := dk_89 (dk_at dksX5_all_0 17 rfl rfl)
theorem dX5_all_18 : decode cX5_all 18 = .ok (.iconst 0, 1) := dk_3 (dk_at dksX5_all_0 18 rfl rfl)
theorem dX5_all_19 : decode cX5_all 19 = .ok (.aload_n 1, 1) := dk_43 (dk_at dksX5_all_0 19 rfl rfl)
theorem dX5_all_20 : decode cX5_all 20 = .ok (.aload_n 0, 1) := dk_42 (dk_at dksX5_all_0 20 rfl rfl)
theorem dX5_all_21 : decode cX5_all 21 = .ok (.invokevirtual 161, 3) := dk_182 0 161 (dk_at dksX5_all_0 21 rfl rfl)
theorem dX5_all_24 : decode cX5_all 24 = .ok (.invokespecial 158, 3) := dk_183 0 158 (dk_at dksX5_all_1 0 rfl rfl)
theorem dX5_all_27 : decode cX5_all 27 = .ok (.astore_n 1, 1) := dk_76 (dk_at dksX5_all_1 3 rfl rfl)
theorem dX5_all_28 : decode cX5_all 28 = .ok (.goto (-23), 3) := dk_167 255 233 (dk_at dksX5_all_1 4 rfl rfl)
theorem dX5_all_31 : decode cX5_all 31 = .ok (.aload_n 1, 1) := dk_43 (dk_at dksX5_all_1 7 rfl rfl)
theorem dX5_all_32 : decode cX5_all 32 = .ok (.areturn, 1) := dk_176 (dk_at dksX5_all_1 8 rfl rfl)
abbrev cX5_one : ByteArray := prog_22_method_16_code
def yX5_one : MethodName := ⟨RX5, "one", "()LLimbBenches$Cond;"⟩
def dkwX5_one_5 : List UInt8 := [43, 42, 182, 0, 132, 183, 0, 178, 176]
abbrev dktX5_one_5 : List UInt8 := dkwX5_one_5 ++ []
def dkwX5_one_4 : List UInt8 := [159, 0, 8, 42, 182, 0, 55, 191, 42, 89, 180, 0, 19, 4, 96, 181, 0, 19, 187, 0, 176, 89, 28, 146]
abbrev dktX5_one_4 : List UInt8 := dkwX5_one_4 ++ dktX5_one_5
def dkwX5_one_3 : List UInt8 := [182, 0, 132, 76, 42, 182, 0, 22, 61, 28, 16, 60, 159, 0, 20, 28, 16, 62, 159, 0, 14, 28, 16, 61]
abbrev dktX5_one_3 : List UInt8 := dkwX5_one_3 ++ dktX5_one_4
def dkwX5_one_2 : List UInt8 := [182, 0, 161, 76, 42, 89, 180, 0, 59, 4, 100, 181, 0, 59, 187, 0, 171, 89, 43, 183, 0, 173, 176, 42]
abbrev dktX5_one_2 : List UInt8 := dkwX5_one_2 ++ dktX5_one_3
def dkwX5_one_1 : List UInt8 := [182, 0, 166, 43, 176, 42, 182, 0, 40, 18, 169, 182, 0, 43, 153, 0, 32, 42, 6, 182, 0, 62, 42]
abbrev dktX5_one_1 : List UInt8 := dkwX5_one_1 ++ dktX5_one_2
def dkwX5_one_0 : List UInt8 := [42, 182, 0, 22, 16, 91, 160, 0, 21, 42, 4, 182, 0, 62, 42, 182, 0, 95, 76, 42, 16, 93]
abbrev dktX5_one_0 : List UInt8 := dkwX5_one_0 ++ dktX5_one_1
theorem dksX5_one_0 : cX5_one.data.toList.drop 0 = dktX5_one_0 := by decide +kernel
theorem dksX5_one_1 : cX5_one.data.toList.drop 22 = dktX5_one_1 := dk_seg dksX5_one_0 22 rfl rfl
theorem dksX5_one_2 : cX5_one.data.toList.drop 45 = dktX5_one_2 := dk_seg dksX5_one_1 23 rfl rfl
theorem dksX5_one_3 : cX5_one.data.toList.drop 69 = dktX5_one_3 := dk_seg dksX5_one_2 24 rfl rfl
theorem dksX5_one_4 : cX5_one.data.toList.drop 93 = dktX5_one_4 := dk_seg dksX5_one_3 24 rfl rfl
theorem dksX5_one_5 : cX5_one.data.toList.drop 117 = dktX5_one_5 := dk_seg dksX5_one_4 24 rfl rfl
theorem dX5_one_0 : decode cX5_one 0 = .ok (.aload_n 0, 1) := dk_42 (dk_at dksX5_one_0 0 rfl rfl)
theorem dX5_one_1 : decode cX5_one 1 = .ok (.invokevirtual 22, 3) := dk_182 0 22 (dk_at dksX5_one_0 1 rfl rfl)
theorem dX5_one_4 : decode cX5_one 4 = .ok (.bipush 91, 2) := dk_16 91 (dk_at dksX5_one_0 4 rfl rfl)
theorem dX5_one_6 : decode cX5_one 6 = .ok (.if_icmp .ne 21, 3) := dk_160 0 21 (dk_at dksX5_one_0 6 rfl rfl)
theorem dX5_one_9 : decode cX5_one 9 = .ok (.aload_n 0, 1) := dk_42 (dk_at dksX5_one_0 9 rfl rfl)
theorem dX5_one_10 : decode cX5_one 10 = .ok (.iconst 1, 1) := dk_4 (dk_at dksX5_one_0 10 rfl rfl)
theorem dX5_one_11 : decode cX5_one 11 = .ok (.invokevirtual 62, 3) := dk_182 0 62 (dk_at dksX5_one_0 11 rfl rfl)
theorem dX5_one_14 : decode cX5_one 14 = .ok (.aload_n 0, 1) := dk_42 (dk_at dksX5_one_0 14 rfl rfl)
theorem dX5_one_15 : decode cX5_one 15 = .ok (.invokevirtual 95, 3) := dk_182 0 95 (dk_at dksX5_one_0 15 rfl rfl)
theorem dX5_one_18 : decode cX5_one 18 = .ok (.astore_n 1, 1) := dk_76 (dk_at dksX5_one_0 18 rfl rfl)
theorem dX5_one_19 : decode cX5_one 19 = .ok (.aload_n 0, 1) := dk_42 (dk_at dksX5_one_0 19 rfl rfl)
theorem dX5_one_20 : decode cX5_one 20 = .ok (.bipush 93, 2) := dk_16 93 (dk_at dksX5_one_0 20 rfl rfl)
theorem dX5_one_22 : decode cX5_one 22 = .ok (.invokevirtual 166, 3) := dk_182 0 166 (dk_at dksX5_one_1 0 rfl rfl)
theorem dX5_one_25 : decode cX5_one 25 = .ok (.aload_n 1, 1) := dk_43 (dk_at dksX5_one_1 3 rfl rfl)
theorem dX5_one_26 : decode cX5_one 26 = .ok (.areturn, 1) := dk_176 (dk_at dksX5_one_1 4 rfl rfl)
theorem dX5_one_27 : decode cX5_one 27 = .ok (.aload_n 0, 1) := dk_42 (dk_at dksX5_one_1 5 rfl rfl)
theorem dX5_one_28 : decode cX5_one 28 = .ok (.invokevirtual 40, 3) := dk_182 0 40 (dk_at dksX5_one_1 6 rfl rfl)
theorem dX5_one_31 : decode cX5_one 31 = .ok (.ldc 169, 2) := dk_18 169 (dk_at dksX5_one_1 9 rfl rfl)
theorem dX5_one_33 : decode cX5_one 33 = .ok (.invokevirtual 43, 3) := dk_182 0 43 (dk_at dksX5_one_1 11 rfl rfl)
theorem dX5_one_36 : decode cX5_one 36 = .ok (.ifCond .eq 32, 3) := dk_153 0 32 (dk_at dksX5_one_1 14 rfl rfl)
theorem dX5_one_39 : decode cX5_one 39 = .ok (.aload_n 0, 1) := dk_42 (dk_at dksX5_one_1 17 rfl rfl)
theorem dX5_one_40 : decode cX5_one 40 = .ok (.iconst 3, 1) := dk_6 (dk_at dksX5_one_1 18 rfl rfl)
theorem dX5_one_41 : decode cX5_one 41 = .ok (.invokevirtual 62, 3) := dk_182 0 62 (dk_at dksX5_one_1 19 rfl rfl)
theorem dX5_one_44 : decode cX5_one 44 = .ok (.aload_n 0, 1) := dk_42 (dk_at dksX5_one_1 22 rfl rfl)
theorem dX5_one_45 : decode cX5_one 45 = .ok (.invokevirtual 161, 3) := dk_182 0 161 (dk_at dksX5_one_2 0 rfl rfl)
theorem dX5_one_48 : decode cX5_one 48 = .ok (.astore_n 1, 1) := dk_76 (dk_at dksX5_one_2 3 rfl rfl)
theorem dX5_one_49 : decode cX5_one 49 = .ok (.aload_n 0, 1) := dk_42 (dk_at dksX5_one_2 4 rfl rfl)
theorem dX5_one_50 : decode cX5_one 50 = .ok (.dup, 1) := dk_89 (dk_at dksX5_one_2 5 rfl rfl)
theorem dX5_one_51 : decode cX5_one 51 = .ok (.getfield 59, 3) := dk_180 0 59 (dk_at dksX5_one_2 6 rfl rfl)
theorem dX5_one_54 : decode cX5_one 54 = .ok (.iconst 1, 1) := dk_4 (dk_at dksX5_one_2 9 rfl rfl)
theorem dX5_one_55 : decode cX5_one 55 = .ok (.isub, 1) := dk_100 (dk_at dksX5_one_2 10 rfl rfl)
theorem dX5_one_56 : decode cX5_one 56 = .ok (.putfield 59, 3) := dk_181 0 59 (dk_at dksX5_one_2 11 rfl rfl)
theorem dX5_one_59 : decode cX5_one 59 = .ok (.new 171, 3) := dk_187 0 171 (dk_at dksX5_one_2 14 rfl rfl)
theorem dX5_one_62 : decode cX5_one 62 = .ok (.dup, 1) := dk_89 (dk_at dksX5_one_2 17 rfl rfl)
theorem dX5_one_63 : decode cX5_one 63 = .ok (.aload_n 1, 1) := dk_43 (dk_at dksX5_one_2 18 rfl rfl)
theorem dX5_one_64 : decode cX5_one 64 = .ok (.invokespecial 173, 3) := dk_183 0 173 (dk_at dksX5_one_2 19 rfl rfl)
theorem dX5_one_67 : decode cX5_one 67 = .ok (.areturn, 1) := dk_176 (dk_at dksX5_one_2 22 rfl rfl)
theorem dX5_one_68 : decode cX5_one 68 = .ok (.aload_n 0, 1) := dk_42 (dk_at dksX5_one_2 23 rfl rfl)
theorem dX5_one_69 : decode cX5_one 69 = .ok (.invokevirtual 132, 3) := dk_182 0 132 (dk_at dksX5_one_3 0 rfl rfl)
theorem dX5_one_72 : decode cX5_one 72 = .ok (.astore_n 1, 1) := dk_76 (dk_at dksX5_one_3 3 rfl rfl)
theorem dX5_one_73 : decode cX5_one 73 = .ok (.aload_n 0, 1) := dk_42 (dk_at dksX5_one_3 4 rfl rfl)
theorem dX5_one_74 : decode cX5_one 74 = .ok (.invokevirtual 22, 3) := dk_182 0 22 (dk_at dksX5_one_3 5 rfl rfl)
theorem dX5_one_77 : decode cX5_one 77 = .ok (.istore_n 2, 1) := dk_61 (dk_at dksX5_one_3 8 rfl rfl)
theorem dX5_one_78 : decode cX5_one 78 = .ok (.iload_n 2, 1) := dk_28 (dk_at dksX5_one_3 9 rfl rfl)
theorem dX5_one_79 : decode cX5_one 79 = .ok (.bipush 60, 2) := dk_16 60 (dk_at dksX5_one_3 10 rfl rfl)
theorem dX5_one_81 : decode cX5_one 81 = .ok (.if_icmp .eq 20, 3) := dk_159 0 20 (dk_at dksX5_one_3 12 rfl rfl)
theorem dX5_one_84 : decode cX5_one 84 = .ok (.iload_n 2, 1) := dk_28 (dk_at dksX5_one_3 15 rfl rfl)
theorem dX5_one_85 : decode cX5_one 85 = .ok (.bipush 62, 2) := dk_16 62 (dk_at dksX5_one_3 16 rfl rfl)
theorem dX5_one_87 : decode cX5_one 87 = .ok (.if_icmp .eq 14, 3) := dk_159 0 14 (dk_at dksX5_one_3 18 rfl rfl)
theorem dX5_one_90 : decode cX5_one 90 = .ok (.iload_n 2, 1) := dk_28 (dk_at dksX5_one_3 21 rfl rfl)
theorem dX5_one_91 : decode cX5_one 91 = .ok (.bipush 61, 2) := dk_16 61 (dk_at dksX5_one_3 22 rfl rfl)
theorem dX5_one_93 : decode cX5_one 93 = .ok (.if_icmp .eq 8, 3) := dk_159 0 8 (dk_at dksX5_one_4 0 rfl rfl)
theorem dX5_one_96 : decode cX5_one 96 = .ok (.aload_n 0, 1) := dk_42 (dk_at dksX5_one_4 3 rfl rfl)
theorem dX5_one_97 : decode cX5_one 97 = .ok (.invokevirtual 55, 3) := dk_182 0 55 (dk_at dksX5_one_4 4 rfl rfl)
theorem dX5_one_100 : decode cX5_one 100 = .ok (.athrow, 1) := dk_191 (dk_at dksX5_one_4 7 rfl rfl)
theorem dX5_one_101 : decode cX5_one 101 = .ok (.aload_n 0, 1) := dk_42 (dk_at dksX5_one_4 8 rfl rfl)
theorem dX5_one_102 : decode cX5_one 102 = .ok (.dup, 1) := dk_89 (dk_at dksX5_one_4 9 rfl rfl)
theorem dX5_one_103 : decode cX5_one 103 = .ok (.getfield 19, 3) := dk_180 0 19 (dk_at dksX5_one_4 10 rfl rfl)
theorem dX5_one_106 : decode cX5_one 106 = .ok (.iconst 1, 1) := dk_4 (dk_at dksX5_one_4 13 rfl rfl)
theorem dX5_one_107 : decode cX5_one 107 = .ok (.iadd, 1) := dk_96 (dk_at dksX5_one_4 14 rfl rfl)
theorem dX5_one_108 : decode cX5_one 108 = .ok (.putfield 19, 3) := dk_181 0 19 (dk_at dksX5_one_4 15 rfl rfl)
theorem dX5_one_111 : decode cX5_one 111 = .ok (.new 176, 3) := dk_187 0 176 (dk_at dksX5_one_4 18 rfl rfl)
theorem dX5_one_114 : decode cX5_one 114 = .ok (.dup, 1) := dk_89 (dk_at dksX5_one_4 21 rfl rfl)
theorem dX5_one_115 : decode cX5_one 115 = .ok (.iload_n 2, 1) := dk_28 (dk_at dksX5_one_4 22 rfl rfl)
theorem dX5_one_116 : decode cX5_one 116 = .ok (.i2c, 1) := dk_146 (dk_at dksX5_one_4 23 rfl rfl)
theorem dX5_one_117 : decode cX5_one 117 = .ok (.aload_n 1, 1) := dk_43 (dk_at dksX5_one_5 0 rfl rfl)
theorem dX5_one_118 : decode cX5_one 118 = .ok (.aload_n 0, 1) := dk_42 (dk_at dksX5_one_5 1 rfl rfl)
theorem dX5_one_119 : decode cX5_one 119 = .ok (.invokevirtual 132, 3) := dk_182 0 132 (dk_at dksX5_one_5 2 rfl rfl)
theorem dX5_one_122 : decode cX5_one 122 = .ok (.invokespecial 178, 3) := dk_183 0 178 (dk_at dksX5_one_5 5 rfl rfl)
theorem dX5_one_125 : decode cX5_one 125 = .ok (.areturn, 1) := dk_176 (dk_at dksX5_one_5 8 rfl rfl)
theorem q152 : (Jvm.Cond.initialized "LimbBenches$Reader") ∈ lw_all := lw_g (lw_at lw_m1 24 rfl) rfl
theorem q1027 : (Jvm.Cond.selects "LimbBenches$Reader" ({ cls := "java/lang/Object", name := "getClass", desc := "()Ljava/lang/Class;" } : Jvm.MethodName) ({ cls := "java/lang/Object", name := "getClass", desc := "()Ljava/lang/Class;" } : Jvm.MethodName)) ∈ lw_all := lw_g (lw_at lw_m4 179 rfl) rfl
theorem q1198 : (Jvm.Cond.instanceMethod ({ cls := "LimbBenches$Reader", name := "<init>", desc := "([BI)V" } : Jvm.MethodName)) ∈ lw_all := lw_g (lw_at lw_m5 110 rfl) rfl
theorem q1199 : (Jvm.Cond.code ({ cls := "LimbBenches$Reader", name := "<init>", desc := "([BI)V" } : Jvm.MethodName) prog_22_method_1_code (3 : Nat) (Option.none : Option Jvm.ClassFile.FieldType)) ∈ lw_all := lw_g (lw_at lw_m5 111 rfl) rfl
theorem q1200 : (Jvm.Cond.methodLink "LimbBenches$Reader" (3 : Nat) ({ cls := "java/lang/Object", name := "<init>", desc := "()V" } : Jvm.MethodName)) ∈ lw_all := lw_g (lw_at lw_m5 112 rfl) rfl
theorem q1201 : (Jvm.Cond.fieldLink "LimbBenches$Reader" (9 : Nat) "LimbBenches$Reader" "text" "[B") ∈ lw_all := lw_g (lw_at lw_m5 113 rfl) rfl
theorem q1202 : (Jvm.Cond.fieldLink "LimbBenches$Reader" (15 : Nat) "LimbBenches$Reader" "size" "I") ∈ lw_all := lw_g (lw_at lw_m5 114 rfl) rfl
theorem q1203 : (Jvm.Cond.fieldLink "LimbBenches$Reader" (19 : Nat) "LimbBenches$Reader" "next" "I") ∈ lw_all := lw_g (lw_at lw_m5 115 rfl) rfl
theorem q1204 : (Jvm.Cond.fieldLink "LimbBenches$Reader" (59 : Nat) "LimbBenches$Reader" "open" "I") ∈ lw_all := lw_g (lw_at lw_m5 116 rfl) rfl
theorem q1205 : (Jvm.Cond.laysFinal "LimbBenches$Reader" "LimbBenches$Reader" "text" "[B") ∈ lw_all := lw_g (lw_at lw_m5 117 rfl) rfl
theorem q1206 : (Jvm.Cond.soleField "LimbBenches$Reader" "text") ∈ lw_all := lw_g (lw_at lw_m5 118 rfl) rfl
theorem q1207 : (Jvm.Cond.laysFinal "LimbBenches$Reader" "LimbBenches$Reader" "size" "I") ∈ lw_all := lw_g (lw_at lw_m5 119 rfl) rfl
theorem q1208 : (Jvm.Cond.soleField "LimbBenches$Reader" "size") ∈ lw_all := lw_g (lw_at lw_m5 120 rfl) rfl
theorem q1209 : (Jvm.Cond.lays "LimbBenches$Reader" "LimbBenches$Reader" "next" "I") ∈ lw_all := lw_g (lw_at lw_m5 121 rfl) rfl
theorem q1210 : (Jvm.Cond.soleField "LimbBenches$Reader" "next") ∈ lw_all := lw_g (lw_at lw_m5 122 rfl) rfl
theorem q1211 : (Jvm.Cond.lays "LimbBenches$Reader" "LimbBenches$Reader" "open" "I") ∈ lw_all := lw_g (lw_at lw_m5 123 rfl) rfl
theorem q1212 : (Jvm.Cond.soleField "LimbBenches$Reader" "open") ∈ lw_all := lw_g (lw_at lw_m5 124 rfl) rfl
theorem q1213 : (Jvm.Cond.superclass "LimbBenches$Reader" "java/lang/Object") ∈ lw_all := lw_g (lw_at lw_m5 125 rfl) rfl
theorem q1215 : (Jvm.Cond.instanceMethod ({ cls := "LimbBenches$Reader", name := "reads", desc := "()Ljava/util/ArrayList;" } : Jvm.MethodName)) ∈ lw_all := lw_g (lw_at lw_m5 127 rfl) rfl
theorem q1216 : (Jvm.Cond.selects "LimbBenches$Reader" ({ cls := "LimbBenches$Reader", name := "reads", desc := "()Ljava/util/ArrayList;" } : Jvm.MethodName) ({ cls := "LimbBenches$Reader", name := "reads", desc := "()Ljava/util/ArrayList;" } : Jvm.MethodName)) ∈ lw_all := lw_g (lw_at lw_m5 128 rfl) rfl
theorem q1217 : (Jvm.Cond.code ({ cls := "LimbBenches$Reader", name := "reads", desc := "()Ljava/util/ArrayList;" } : Jvm.MethodName) prog_22_method_12_code (3 : Nat) (Option.some (Jvm.ClassFile.FieldType.object "java/util/ArrayList"))) ∈ lw_all := lw_g (lw_at lw_m5 129 rfl) rfl
theorem q1218 : (Jvm.Cond.classLink "LimbBenches$Reader" (79 : Nat) "java/util/ArrayList") ∈ lw_all := lw_g (lw_at lw_m5 130 rfl) rfl
theorem q1219 : (Jvm.Cond.methodLink "LimbBenches$Reader" (81 : Nat) ({ cls := "java/util/ArrayList", name := "<init>", desc := "(I)V" } : Jvm.MethodName)) ∈ lw_all := lw_g (lw_at lw_m5 131 rfl) rfl
theorem q1220 : (Jvm.Cond.methodLink "LimbBenches$Reader" (22 : Nat) ({ cls := "LimbBenches$Reader", name := "sign", desc := "()I" } : Jvm.MethodName)) ∈ lw_all := lw_g (lw_at lw_m5 132 rfl) rfl
theorem q1221 : (Jvm.Cond.privateMethod ({ cls := "LimbBenches$Reader", name := "sign", desc := "()I" } : Jvm.MethodName)) ∈ lw_tbl := lw_at lw_m5 133 rfl
theorem q1222 : (Jvm.Cond.instanceMethod ({ cls := "LimbBenches$Reader", name := "sign", desc := "()I" } : Jvm.MethodName)) ∈ lw_all := lw_g (lw_at lw_m5 134 rfl) rfl
theorem q1223 : (Jvm.Cond.code ({ cls := "LimbBenches$Reader", name := "sign", desc := "()I" } : Jvm.MethodName) prog_22_method_2_code (1 : Nat) (Option.some Jvm.ClassFile.FieldType.int)) ∈ lw_all := lw_g (lw_at lw_m5 135 rfl) rfl
theorem q1224 : (Jvm.Cond.methodLink "LimbBenches$Reader" (83 : Nat) ({ cls := "java/util/ArrayList", name := "size", desc := "()I" } : Jvm.MethodName)) ∈ lw_all := lw_g (lw_at lw_m5 136 rfl) rfl
theorem q1225 : (Jvm.Cond.methodLink "LimbBenches$Reader" (85 : Nat) ({ cls := "LimbBenches$Reader", name := "clause", desc := "(I)LLimbBenches$Clause;" } : Jvm.MethodName)) ∈ lw_all := lw_g (lw_at lw_m5 137 rfl) rfl
theorem q1226 : (Jvm.Cond.privateMethod ({ cls := "LimbBenches$Reader", name := "clause", desc := "(I)LLimbBenches$Clause;" } : Jvm.MethodName)) ∈ lw_tbl := lw_at lw_m5 138 rfl
theorem q1227 : (Jvm.Cond.instanceMethod ({ cls := "LimbBenches$Reader", name := "clause", desc := "(I)LLimbBenches$Clause;" } : Jvm.MethodName)) ∈ lw_all := lw_g (lw_at lw_m5 139 rfl) rfl
theorem q1228 : (Jvm.Cond.code ({ cls := "LimbBenches$Reader", name := "clause", desc := "(I)LLimbBenches$Clause;" } : Jvm.MethodName) prog_22_method_13_code (8 : Nat) (Option.some (Jvm.ClassFile.FieldType.object "LimbBenches$Clause"))) ∈ lw_all := lw_g (lw_at lw_m5 140 rfl) rfl
theorem q1229 : (Jvm.Cond.methodLink "LimbBenches$Reader" (40 : Nat) ({ cls := "LimbBenches$Reader", name := "word", desc := "()Ljava/lang/String;" } : Jvm.MethodName)) ∈ lw_all := lw_g (lw_at lw_m5 141 rfl) rfl
theorem q1230 : (Jvm.Cond.privateMethod ({ cls := "LimbBenches$Reader", name := "word", desc := "()Ljava/lang/String;" } : Jvm.MethodName)) ∈ lw_tbl := lw_at lw_m5 142 rfl
theorem q1231 : (Jvm.Cond.instanceMethod ({ cls := "LimbBenches$Reader", name := "word", desc := "()Ljava/lang/String;" } : Jvm.MethodName)) ∈ lw_all := lw_g (lw_at lw_m5 143 rfl) rfl
theorem q1232 : (Jvm.Cond.code ({ cls := "LimbBenches$Reader", name := "word", desc := "()Ljava/lang/String;" } : Jvm.MethodName) prog_22_method_4_code (3 : Nat) (Option.some (Jvm.ClassFile.FieldType.object "java/lang/String"))) ∈ lw_all := lw_g (lw_at lw_m5 144 rfl) rfl
theorem q1233 : (Jvm.Cond.classLink "LimbBenches$Reader" (26 : Nat) "java/lang/StringBuilder") ∈ lw_all := lw_g (lw_at lw_m5 145 rfl) rfl
theorem q1234 : (Jvm.Cond.methodLink "LimbBenches$Reader" (28 : Nat) ({ cls := "java/lang/StringBuilder", name := "<init>", desc := "()V" } : Jvm.MethodName)) ∈ lw_all := lw_g (lw_at lw_m5 146 rfl) rfl
theorem q1235 : (Jvm.Cond.methodLink "LimbBenches$Reader" (29 : Nat) ({ cls := "java/lang/StringBuilder", name := "length", desc := "()I" } : Jvm.MethodName)) ∈ lw_all := lw_g (lw_at lw_m5 147 rfl) rfl
theorem q1236 : (Jvm.Cond.methodLink "LimbBenches$Reader" (32 : Nat) ({ cls := "java/lang/StringBuilder", name := "append", desc := "(C)Ljava/lang/StringBuilder;" } : Jvm.MethodName)) ∈ lw_all := lw_g (lw_at lw_m5 148 rfl) rfl
theorem q1256 : (Jvm.Cond.methodLink "LimbBenches$Reader" (36 : Nat) ({ cls := "java/lang/StringBuilder", name := "toString", desc := "()Ljava/lang/String;" } : Jvm.MethodName)) ∈ lw_all := lw_g (lw_at lw_m5 168 rfl) rfl
theorem q1257 : (Jvm.Cond.methodLink "LimbBenches$Reader" (108 : Nat) ({ cls := "java/lang/String", name := "hashCode", desc := "()I" } : Jvm.MethodName)) ∈ lw_all := lw_g (lw_at lw_m5 169 rfl) rfl
theorem q1318 : (Jvm.Cond.stringRef "LimbBenches$Reader" (111 : Nat) "bar") ∈ lw_tbl := lw_at lw_m5 230 rfl
theorem q1319 : (Jvm.Cond.methodLink "LimbBenches$Reader" (43 : Nat) ({ cls := "java/lang/String", name := "equals", desc := "(Ljava/lang/Object;)Z" } : Jvm.MethodName)) ∈ lw_all := lw_g (lw_at lw_m5 231 rfl) rfl
theorem q1327 : (Jvm.Cond.stringRef "LimbBenches$Reader" (113 : Nat) "life") ∈ lw_tbl := lw_at lw_m5 239 rfl
theorem q1328 : (Jvm.Cond.stringRef "LimbBenches$Reader" (115 : Nat) "right") ∈ lw_tbl := lw_at lw_m6 0 rfl
theorem q1329 : (Jvm.Cond.stringRef "LimbBenches$Reader" (117 : Nat) "need") ∈ lw_tbl := lw_at lw_m6 1 rfl
theorem q1330 : (Jvm.Cond.stringRef "LimbBenches$Reader" (118 : Nat) "reuse") ∈ lw_tbl := lw_at lw_m6 2 rfl
theorem q1331 : (Jvm.Cond.stringRef "LimbBenches$Reader" (120 : Nat) "recall") ∈ lw_tbl := lw_at lw_m6 3 rfl
theorem q1332 : (Jvm.Cond.stringRef "LimbBenches$Reader" (122 : Nat) "wait") ∈ lw_tbl := lw_at lw_m6 4 rfl
theorem q1333 : (Jvm.Cond.methodLink "LimbBenches$Reader" (55 : Nat) ({ cls := "LimbBenches$Reader", name := "wrong", desc := "()LLimbBenches$Wrong;" } : Jvm.MethodName)) ∈ lw_all := lw_g (lw_at lw_m6 5 rfl) rfl
theorem q1334 : (Jvm.Cond.privateMethod ({ cls := "LimbBenches$Reader", name := "wrong", desc := "()LLimbBenches$Wrong;" } : Jvm.MethodName)) ∈ lw_tbl := lw_at lw_m6 6 rfl
theorem q1335 : (Jvm.Cond.instanceMethod ({ cls := "LimbBenches$Reader", name := "wrong", desc := "()LLimbBenches$Wrong;" } : Jvm.MethodName)) ∈ lw_all := lw_g (lw_at lw_m6 7 rfl) rfl
theorem q1336 : (Jvm.Cond.code ({ cls := "LimbBenches$Reader", name := "wrong", desc := "()LLimbBenches$Wrong;" } : Jvm.MethodName) prog_22_method_6_code (1 : Nat) (Option.some (Jvm.ClassFile.FieldType.object "LimbBenches$Wrong"))) ∈ lw_all := lw_g (lw_at lw_m6 8 rfl) rfl
theorem q1337 : (Jvm.Cond.classLink "LimbBenches$Reader" (50 : Nat) "LimbBenches$Wrong") ∈ lw_all := lw_g (lw_at lw_m6 9 rfl) rfl
theorem q1346 : (Jvm.Cond.methodLink "LimbBenches$Reader" (52 : Nat) ({ cls := "LimbBenches$Wrong", name := "<init>", desc := "(II)V" } : Jvm.MethodName)) ∈ lw_all := lw_g (lw_at lw_m6 18 rfl) rfl
theorem q1365 : (Jvm.Cond.methodLink "LimbBenches$Reader" (49 : Nat) ({ cls := "java/lang/String", name := "length", desc := "()I" } : Jvm.MethodName)) ∈ lw_all := lw_g (lw_at lw_m6 37 rfl) rfl
theorem q1366 : (Jvm.Cond.methodLink "LimbBenches$Reader" (124 : Nat) ({ cls := "LimbBenches$Reader", name := "number", desc := "(II)I" } : Jvm.MethodName)) ∈ lw_all := lw_g (lw_at lw_m6 38 rfl) rfl
theorem q1367 : (Jvm.Cond.privateMethod ({ cls := "LimbBenches$Reader", name := "number", desc := "(II)I" } : Jvm.MethodName)) ∈ lw_tbl := lw_at lw_m6 39 rfl
theorem q1368 : (Jvm.Cond.instanceMethod ({ cls := "LimbBenches$Reader", name := "number", desc := "(II)I" } : Jvm.MethodName)) ∈ lw_all := lw_g (lw_at lw_m6 40 rfl) rfl
theorem q1369 : (Jvm.Cond.code ({ cls := "LimbBenches$Reader", name := "number", desc := "(II)I" } : Jvm.MethodName) prog_22_method_11_code (5 : Nat) (Option.some Jvm.ClassFile.FieldType.int)) ∈ lw_all := lw_g (lw_at lw_m6 41 rfl) rfl
theorem q1370 : (Jvm.Cond.methodLink "LimbBenches$Reader" (69 : Nat) ({ cls := "LimbBenches$Reader", name := "isDigit", desc := "()Z" } : Jvm.MethodName)) ∈ lw_all := lw_g (lw_at lw_m6 42 rfl) rfl
theorem q1371 : (Jvm.Cond.privateMethod ({ cls := "LimbBenches$Reader", name := "isDigit", desc := "()Z" } : Jvm.MethodName)) ∈ lw_tbl := lw_at lw_m6 43 rfl
theorem q1372 : (Jvm.Cond.instanceMethod ({ cls := "LimbBenches$Reader", name := "isDigit", desc := "()Z" } : Jvm.MethodName)) ∈ lw_all := lw_g (lw_at lw_m6 44 rfl) rfl
theorem q1373 : (Jvm.Cond.code ({ cls := "LimbBenches$Reader", name := "isDigit", desc := "()Z" } : Jvm.MethodName) prog_22_method_3_code (2 : Nat) (Option.some Jvm.ClassFile.FieldType.boolean)) ∈ lw_all := lw_g (lw_at lw_m6 45 rfl) rfl
theorem q1374 : (Jvm.Cond.methodLink "LimbBenches$Reader" (73 : Nat) ({ cls := "java/lang/Math", name := "min", desc := "(II)I" } : Jvm.MethodName)) ∈ lw_all := lw_g (lw_at lw_m6 46 rfl) rfl
theorem q1375 : (Jvm.Cond.classLink "LimbBenches$Reader" (127 : Nat) "LimbBenches$Bar") ∈ lw_all := lw_g (lw_at lw_m6 47 rfl) rfl
theorem q1377 : (Jvm.Cond.methodLink "LimbBenches$Reader" (129 : Nat) ({ cls := "LimbBenches$Bar", name := "<init>", desc := "(II)V" } : Jvm.MethodName)) ∈ lw_all := lw_g (lw_at lw_m6 49 rfl) rfl
theorem q1387 : (Jvm.Cond.fieldLinkNest "LimbBenches$Reader" (99 : Nat) "LimbBenches$Clause" "c" "LLimbBenches$Cond;" "LimbBenches") ∈ lw_tbl := lw_at lw_m6 59 rfl
theorem q1395 : (Jvm.Cond.classLink "LimbBenches$Reader" (130 : Nat) "LimbBenches$Told") ∈ lw_all := lw_g (lw_at lw_m6 67 rfl) rfl
theorem q1397 : (Jvm.Cond.methodLink "LimbBenches$Reader" (132 : Nat) ({ cls := "LimbBenches$Reader", name := "expr", desc := "()LLimbBenches$Expr;" } : Jvm.MethodName)) ∈ lw_all := lw_g (lw_at lw_m6 69 rfl) rfl
theorem q1398 : (Jvm.Cond.privateMethod ({ cls := "LimbBenches$Reader", name := "expr", desc := "()LLimbBenches$Expr;" } : Jvm.MethodName)) ∈ lw_tbl := lw_at lw_m6 70 rfl
theorem q1399 : (Jvm.Cond.instanceMethod ({ cls := "LimbBenches$Reader", name := "expr", desc := "()LLimbBenches$Expr;" } : Jvm.MethodName)) ∈ lw_all := lw_g (lw_at lw_m6 71 rfl) rfl
theorem q1400 : (Jvm.Cond.code ({ cls := "LimbBenches$Reader", name := "expr", desc := "()LLimbBenches$Expr;" } : Jvm.MethodName) prog_22_method_17_code (3 : Nat) (Option.some (Jvm.ClassFile.FieldType.object "LimbBenches$Expr"))) ∈ lw_all := lw_g (lw_at lw_m6 72 rfl) rfl
theorem q1401 : (Jvm.Cond.methodLink "LimbBenches$Reader" (181 : Nat) ({ cls := "LimbBenches$Reader", name := "product", desc := "()LLimbBenches$Expr;" } : Jvm.MethodName)) ∈ lw_all := lw_g (lw_at lw_m6 73 rfl) rfl
theorem q1402 : (Jvm.Cond.privateMethod ({ cls := "LimbBenches$Reader", name := "product", desc := "()LLimbBenches$Expr;" } : Jvm.MethodName)) ∈ lw_tbl := lw_at lw_m6 74 rfl
theorem q1403 : (Jvm.Cond.instanceMethod ({ cls := "LimbBenches$Reader", name := "product", desc := "()LLimbBenches$Expr;" } : Jvm.MethodName)) ∈ lw_all := lw_g (lw_at lw_m6 75 rfl) rfl
theorem q1404 : (Jvm.Cond.code ({ cls := "LimbBenches$Reader", name := "product", desc := "()LLimbBenches$Expr;" } : Jvm.MethodName) prog_22_method_18_code (3 : Nat) (Option.some (Jvm.ClassFile.FieldType.object "LimbBenches$Expr"))) ∈ lw_all := lw_g (lw_at lw_m6 76 rfl) rfl
theorem q1405 : (Jvm.Cond.methodLink "LimbBenches$Reader" (187 : Nat) ({ cls := "LimbBenches$Reader", name := "unit", desc := "()LLimbBenches$Expr;" } : Jvm.MethodName)) ∈ lw_all := lw_g (lw_at lw_m6 77 rfl) rfl
theorem q1406 : (Jvm.Cond.privateMethod ({ cls := "LimbBenches$Reader", name := "unit", desc := "()LLimbBenches$Expr;" } : Jvm.MethodName)) ∈ lw_tbl := lw_at lw_m6 78 rfl
theorem q1407 : (Jvm.Cond.instanceMethod ({ cls := "LimbBenches$Reader", name := "unit", desc := "()LLimbBenches$Expr;" } : Jvm.MethodName)) ∈ lw_all := lw_g (lw_at lw_m6 79 rfl) rfl
theorem q1408 : (Jvm.Cond.code ({ cls := "LimbBenches$Reader", name := "unit", desc := "()LLimbBenches$Expr;" } : Jvm.MethodName) prog_22_method_20_code (4 : Nat) (Option.some (Jvm.ClassFile.FieldType.object "LimbBenches$Expr"))) ∈ lw_all := lw_g (lw_at lw_m6 80 rfl) rfl
theorem q1409 : (Jvm.Cond.classLink "LimbBenches$Reader" (202 : Nat) "LimbBenches$Num") ∈ lw_all := lw_g (lw_at lw_m6 81 rfl) rfl
theorem q1411 : (Jvm.Cond.methodLink "LimbBenches$Reader" (204 : Nat) ({ cls := "LimbBenches$Num", name := "<init>", desc := "(I)V" } : Jvm.MethodName)) ∈ lw_all := lw_g (lw_at lw_m6 83 rfl) rfl
theorem q1419 : (Jvm.Cond.methodLink "LimbBenches$Reader" (205 : Nat) ({ cls := "LimbBenches$Reader", name := "opens", desc := "()V" } : Jvm.MethodName)) ∈ lw_all := lw_g (lw_at lw_m6 91 rfl) rfl
theorem q1420 : (Jvm.Cond.privateMethod ({ cls := "LimbBenches$Reader", name := "opens", desc := "()V" } : Jvm.MethodName)) ∈ lw_tbl := lw_at lw_m6 92 rfl
theorem q1421 : (Jvm.Cond.instanceMethod ({ cls := "LimbBenches$Reader", name := "opens", desc := "()V" } : Jvm.MethodName)) ∈ lw_all := lw_g (lw_at lw_m6 93 rfl) rfl
theorem q1422 : (Jvm.Cond.code ({ cls := "LimbBenches$Reader", name := "opens", desc := "()V" } : Jvm.MethodName) prog_22_method_9_code (1 : Nat) (Option.none : Option Jvm.ClassFile.FieldType)) ∈ lw_all := lw_g (lw_at lw_m6 94 rfl) rfl
theorem q1423 : (Jvm.Cond.methodLink "LimbBenches$Reader" (62 : Nat) ({ cls := "LimbBenches$Reader", name := "opens", desc := "(I)V" } : Jvm.MethodName)) ∈ lw_all := lw_g (lw_at lw_m6 95 rfl) rfl
theorem q1424 : (Jvm.Cond.privateMethod ({ cls := "LimbBenches$Reader", name := "opens", desc := "(I)V" } : Jvm.MethodName)) ∈ lw_tbl := lw_at lw_m6 96 rfl
theorem q1425 : (Jvm.Cond.instanceMethod ({ cls := "LimbBenches$Reader", name := "opens", desc := "(I)V" } : Jvm.MethodName)) ∈ lw_all := lw_g (lw_at lw_m6 97 rfl) rfl
theorem q1426 : (Jvm.Cond.code ({ cls := "LimbBenches$Reader", name := "opens", desc := "(I)V" } : Jvm.MethodName) prog_22_method_8_code (2 : Nat) (Option.none : Option Jvm.ClassFile.FieldType)) ∈ lw_all := lw_g (lw_at lw_m6 98 rfl) rfl
theorem q1427 : (Jvm.Cond.methodLink "LimbBenches$Reader" (166 : Nat) ({ cls := "LimbBenches$Reader", name := "closes", desc := "(I)V" } : Jvm.MethodName)) ∈ lw_all := lw_g (lw_at lw_m6 99 rfl) rfl
theorem q1428 : (Jvm.Cond.privateMethod ({ cls := "LimbBenches$Reader", name := "closes", desc := "(I)V" } : Jvm.MethodName)) ∈ lw_tbl := lw_at lw_m6 100 rfl
theorem q1429 : (Jvm.Cond.instanceMethod ({ cls := "LimbBenches$Reader", name := "closes", desc := "(I)V" } : Jvm.MethodName)) ∈ lw_all := lw_g (lw_at lw_m6 101 rfl) rfl
theorem q1430 : (Jvm.Cond.code ({ cls := "LimbBenches$Reader", name := "closes", desc := "(I)V" } : Jvm.MethodName) prog_22_method_10_code (2 : Nat) (Option.none : Option Jvm.ClassFile.FieldType)) ∈ lw_all := lw_g (lw_at lw_m6 102 rfl) rfl
theorem q1431 : (Jvm.Cond.methodLink "LimbBenches$Reader" (66 : Nat) ({ cls := "LimbBenches$Reader", name := "need", desc := "(I)V" } : Jvm.MethodName)) ∈ lw_all := lw_g (lw_at lw_m6 103 rfl) rfl
theorem q1432 : (Jvm.Cond.privateMethod ({ cls := "LimbBenches$Reader", name := "need", desc := "(I)V" } : Jvm.MethodName)) ∈ lw_tbl := lw_at lw_m6 104 rfl
theorem q1433 : (Jvm.Cond.instanceMethod ({ cls := "LimbBenches$Reader", name := "need", desc := "(I)V" } : Jvm.MethodName)) ∈ lw_all := lw_g (lw_at lw_m6 105 rfl) rfl
theorem q1434 : (Jvm.Cond.code ({ cls := "LimbBenches$Reader", name := "need", desc := "(I)V" } : Jvm.MethodName) prog_22_method_7_code (2 : Nat) (Option.none : Option Jvm.ClassFile.FieldType)) ∈ lw_all := lw_g (lw_at lw_m6 106 rfl) rfl
theorem q1435 : (Jvm.Cond.stringRef "LimbBenches$Reader" (207 : Nat) "least") ∈ lw_tbl := lw_at lw_m6 107 rfl
theorem q1436 : (Jvm.Cond.stringRef "LimbBenches$Reader" (209 : Nat) "most") ∈ lw_tbl := lw_at lw_m6 108 rfl
theorem q1437 : (Jvm.Cond.classLink "LimbBenches$Reader" (184 : Nat) "LimbBenches$Two") ∈ lw_all := lw_g (lw_at lw_m6 109 rfl) rfl
theorem q1439 : (Jvm.Cond.methodLink "LimbBenches$Reader" (144 : Nat) ({ cls := "java/lang/String", name := "charAt", desc := "(I)C" } : Jvm.MethodName)) ∈ lw_all := lw_g (lw_at lw_m6 111 rfl) rfl
theorem q1450 : (Jvm.Cond.methodLink "LimbBenches$Reader" (186 : Nat) ({ cls := "LimbBenches$Two", name := "<init>", desc := "(CLLimbBenches$Expr;LLimbBenches$Expr;)V" } : Jvm.MethodName)) ∈ lw_all := lw_g (lw_at lw_m6 122 rfl) rfl
theorem q1464 : (Jvm.Cond.methodLink "LimbBenches$Reader" (211 : Nat) ({ cls := "LimbBenches$Reader", name := "nameOf", desc := "(Ljava/lang/String;)I" } : Jvm.MethodName)) ∈ lw_all := lw_g (lw_at lw_m6 136 rfl) rfl
theorem q1465 : (Jvm.Cond.static ({ cls := "LimbBenches$Reader", name := "nameOf", desc := "(Ljava/lang/String;)I" } : Jvm.MethodName)) ∈ lw_all := lw_g (lw_at lw_m6 137 rfl) rfl
theorem q1466 : (Jvm.Cond.code ({ cls := "LimbBenches$Reader", name := "nameOf", desc := "(Ljava/lang/String;)I" } : Jvm.MethodName) prog_22_method_19_code (3 : Nat) (Option.some Jvm.ClassFile.FieldType.int)) ∈ lw_all := lw_g (lw_at lw_m6 138 rfl) rfl
theorem q1467 : (Jvm.Cond.stringRef "LimbBenches$Reader" (190 : Nat) "weight") ∈ lw_tbl := lw_at lw_m6 139 rfl
theorem q1468 : (Jvm.Cond.stringRef "LimbBenches$Reader" (192 : Nat) "trade") ∈ lw_tbl := lw_at lw_m6 140 rfl
theorem q1469 : (Jvm.Cond.stringRef "LimbBenches$Reader" (194 : Nat) "age") ∈ lw_tbl := lw_at lw_m6 141 rfl
theorem q1470 : (Jvm.Cond.stringRef "LimbBenches$Reader" (196 : Nat) "hill") ∈ lw_tbl := lw_at lw_m6 142 rfl
theorem q1471 : (Jvm.Cond.stringRef "LimbBenches$Reader" (198 : Nat) "steps") ∈ lw_tbl := lw_at lw_m6 143 rfl
theorem q1472 : (Jvm.Cond.stringRef "LimbBenches$Reader" (200 : Nat) "spent") ∈ lw_tbl := lw_at lw_m6 144 rfl
theorem q1473 : (Jvm.Cond.classLink "LimbBenches$Reader" (215 : Nat) "LimbBenches$Name") ∈ lw_all := lw_g (lw_at lw_m6 145 rfl) rfl
theorem q1475 : (Jvm.Cond.methodLink "LimbBenches$Reader" (217 : Nat) ({ cls := "LimbBenches$Name", name := "<init>", desc := "(I)V" } : Jvm.MethodName)) ∈ lw_all := lw_g (lw_at lw_m6 147 rfl) rfl
theorem q1483 : (Jvm.Cond.methodLink "LimbBenches$Reader" (136 : Nat) ({ cls := "LimbBenches$Told", name := "<init>", desc := "(CILLimbBenches$Expr;)V" } : Jvm.MethodName)) ∈ lw_all := lw_g (lw_at lw_m6 155 rfl) rfl
theorem q1498 : (Jvm.Cond.classLink "LimbBenches$Reader" (139 : Nat) "LimbBenches$Recall") ∈ lw_all := lw_g (lw_at lw_m6 170 rfl) rfl
theorem q1500 : (Jvm.Cond.methodLink "LimbBenches$Reader" (141 : Nat) ({ cls := "LimbBenches$Recall", name := "<init>", desc := "(III)V" } : Jvm.MethodName)) ∈ lw_all := lw_g (lw_at lw_m6 172 rfl) rfl
theorem q1515 : (Jvm.Cond.classLink "LimbBenches$Reader" (148 : Nat) "LimbBenches$Need") ∈ lw_all := lw_g (lw_at lw_m6 187 rfl) rfl
theorem q1517 : (Jvm.Cond.methodLink "LimbBenches$Reader" (150 : Nat) ({ cls := "LimbBenches$Need", name := "<init>", desc := "(I)V" } : Jvm.MethodName)) ∈ lw_all := lw_g (lw_at lw_m6 189 rfl) rfl
theorem q1526 : (Jvm.Cond.stringRef "LimbBenches$Reader" (89 : Nat) "if") ∈ lw_tbl := lw_at lw_m6 198 rfl
theorem q1527 : (Jvm.Cond.methodLink "LimbBenches$Reader" (91 : Nat) ({ cls := "LimbBenches$Reader", name := "takes", desc := "(Ljava/lang/String;)Z" } : Jvm.MethodName)) ∈ lw_all := lw_g (lw_at lw_m6 199 rfl) rfl
theorem q1528 : (Jvm.Cond.privateMethod ({ cls := "LimbBenches$Reader", name := "takes", desc := "(Ljava/lang/String;)Z" } : Jvm.MethodName)) ∈ lw_tbl := lw_at lw_m6 200 rfl
theorem q1529 : (Jvm.Cond.instanceMethod ({ cls := "LimbBenches$Reader", name := "takes", desc := "(Ljava/lang/String;)Z" } : Jvm.MethodName)) ∈ lw_all := lw_g (lw_at lw_m6 201 rfl) rfl
theorem q1530 : (Jvm.Cond.code ({ cls := "LimbBenches$Reader", name := "takes", desc := "(Ljava/lang/String;)Z" } : Jvm.MethodName) prog_22_method_5_code (2 : Nat) (Option.some Jvm.ClassFile.FieldType.boolean)) ∈ lw_all := lw_g (lw_at lw_m6 202 rfl) rfl
theorem q1531 : (Jvm.Cond.methodLink "LimbBenches$Reader" (95 : Nat) ({ cls := "LimbBenches$Reader", name := "cond", desc := "()LLimbBenches$Cond;" } : Jvm.MethodName)) ∈ lw_all := lw_g (lw_at lw_m6 203 rfl) rfl
theorem q1532 : (Jvm.Cond.privateMethod ({ cls := "LimbBenches$Reader", name := "cond", desc := "()LLimbBenches$Cond;" } : Jvm.MethodName)) ∈ lw_tbl := lw_at lw_m6 204 rfl
theorem q1533 : (Jvm.Cond.instanceMethod ({ cls := "LimbBenches$Reader", name := "cond", desc := "()LLimbBenches$Cond;" } : Jvm.MethodName)) ∈ lw_all := lw_g (lw_at lw_m6 205 rfl) rfl
theorem q1534 : (Jvm.Cond.code ({ cls := "LimbBenches$Reader", name := "cond", desc := "()LLimbBenches$Cond;" } : Jvm.MethodName) prog_22_method_14_code (2 : Nat) (Option.some (Jvm.ClassFile.FieldType.object "LimbBenches$Cond"))) ∈ lw_all := lw_g (lw_at lw_m6 206 rfl) rfl
theorem q1535 : (Jvm.Cond.methodLink "LimbBenches$Reader" (151 : Nat) ({ cls := "LimbBenches$Reader", name := "all", desc := "()LLimbBenches$Cond;" } : Jvm.MethodName)) ∈ lw_all := lw_g (lw_at lw_m6 207 rfl) rfl
theorem q1536 : (Jvm.Cond.privateMethod ({ cls := "LimbBenches$Reader", name := "all", desc := "()LLimbBenches$Cond;" } : Jvm.MethodName)) ∈ lw_tbl := lw_at lw_m6 208 rfl
theorem q1537 : (Jvm.Cond.instanceMethod ({ cls := "LimbBenches$Reader", name := "all", desc := "()LLimbBenches$Cond;" } : Jvm.MethodName)) ∈ lw_all := lw_g (lw_at lw_m6 209 rfl) rfl
theorem q1538 : (Jvm.Cond.code ({ cls := "LimbBenches$Reader", name := "all", desc := "()LLimbBenches$Cond;" } : Jvm.MethodName) prog_22_method_15_code (2 : Nat) (Option.some (Jvm.ClassFile.FieldType.object "LimbBenches$Cond"))) ∈ lw_all := lw_g (lw_at lw_m6 210 rfl) rfl
theorem q1539 : (Jvm.Cond.methodLink "LimbBenches$Reader" (161 : Nat) ({ cls := "LimbBenches$Reader", name := "one", desc := "()LLimbBenches$Cond;" } : Jvm.MethodName)) ∈ lw_all := lw_g (lw_at lw_m6 211 rfl) rfl
theorem q1540 : (Jvm.Cond.privateMethod ({ cls := "LimbBenches$Reader", name := "one", desc := "()LLimbBenches$Cond;" } : Jvm.MethodName)) ∈ lw_tbl := lw_at lw_m6 212 rfl
theorem q1541 : (Jvm.Cond.instanceMethod ({ cls := "LimbBenches$Reader", name := "one", desc := "()LLimbBenches$Cond;" } : Jvm.MethodName)) ∈ lw_all := lw_g (lw_at lw_m6 213 rfl) rfl
theorem q1542 : (Jvm.Cond.code ({ cls := "LimbBenches$Reader", name := "one", desc := "()LLimbBenches$Cond;" } : Jvm.MethodName) prog_22_method_16_code (3 : Nat) (Option.some (Jvm.ClassFile.FieldType.object "LimbBenches$Cond"))) ∈ lw_all := lw_g (lw_at lw_m6 214 rfl) rfl
theorem q1543 : (Jvm.Cond.stringRef "LimbBenches$Reader" (169 : Nat) "not") ∈ lw_tbl := lw_at lw_m6 215 rfl
theorem q1544 : (Jvm.Cond.classLink "LimbBenches$Reader" (171 : Nat) "LimbBenches$Not") ∈ lw_all := lw_g (lw_at lw_m6 216 rfl) rfl
theorem q1546 : (Jvm.Cond.methodLink "LimbBenches$Reader" (173 : Nat) ({ cls := "LimbBenches$Not", name := "<init>", desc := "(LLimbBenches$Cond;)V" } : Jvm.MethodName)) ∈ lw_all := lw_g (lw_at lw_m6 218 rfl) rfl
theorem q1557 : (Jvm.Cond.classLink "LimbBenches$Reader" (176 : Nat) "LimbBenches$Compare") ∈ lw_all := lw_g (lw_at lw_m6 229 rfl) rfl
theorem q1559 : (Jvm.Cond.methodLink "LimbBenches$Reader" (178 : Nat) ({ cls := "LimbBenches$Compare", name := "<init>", desc := "(CLLimbBenches$Expr;LLimbBenches$Expr;)V" } : Jvm.MethodName)) ∈ lw_all := lw_g (lw_at lw_m6 231 rfl) rfl
theorem q1573 : (Jvm.Cond.stringRef "LimbBenches$Reader" (164 : Nat) "and") ∈ lw_tbl := lw_at lw_m7 5 rfl
theorem q1574 : (Jvm.Cond.classLink "LimbBenches$Reader" (156 : Nat) "LimbBenches$Both") ∈ lw_all := lw_g (lw_at lw_m7 6 rfl) rfl
theorem q1576 : (Jvm.Cond.methodLink "LimbBenches$Reader" (158 : Nat) ({ cls := "LimbBenches$Both", name := "<init>", desc := "(ZLLimbBenches$Cond;LLimbBenches$Cond;)V" } : Jvm.MethodName)) ∈ lw_all := lw_g (lw_at lw_m7 8 rfl) rfl
theorem q1590 : (Jvm.Cond.stringRef "LimbBenches$Reader" (154 : Nat) "or") ∈ lw_tbl := lw_at lw_m7 22 rfl
theorem q1591 : (Jvm.Cond.methodLink "LimbBenches$Reader" (105 : Nat) ({ cls := "java/util/ArrayList", name := "add", desc := "(Ljava/lang/Object;)Z" } : Jvm.MethodName)) ∈ lw_all := lw_g (lw_at lw_m7 23 rfl) rfl
theorem q3206 : (Jvm.Cond.castable "LimbBenches$Reader" "java/lang/Object") ∈ lw_tbl := lw_at lw_m13 198 rfl

/-! LimbBenches$Wrong -/
set_option maxRecDepth 100000
abbrev cX6_init : ByteArray := prog_29_method_1_code
def yX6_init : MethodName := ⟨RX6, "<init>", "(II)V"⟩
def dkwX6_init_0 : List UInt8 := [42, 1, 1, 3, 3, 183, 0, 1, 42, 27, 181, 0, 7, 42, 28, 181, 0, 13, 177]
abbrev dktX6_init_0 : List UInt8 := dkwX6_init_0 ++ []
theorem dksX6_init_0 : cX6_init.data.toList.drop 0 = dktX6_init_0 := by decide +kernel
theorem dX6_init_0 : decode cX6_init 0 = .ok (.aload_n 0, 1) := dk_42 (dk_at dksX6_init_0 0 rfl rfl)
theorem dX6_init_1 : decode cX6_init 1 = .ok (.aconst_null, 1) := dk_1 (dk_at dksX6_init_0 1 rfl rfl)
theorem dX6_init_2 : decode cX6_init 2 = .ok (.aconst_null, 1) := dk_1 (dk_at dksX6_init_0 2 rfl rfl)
theorem dX6_init_3 : decode cX6_init 3 = .ok (.iconst 0, 1) := dk_3 (dk_at dksX6_init_0 3 rfl rfl)
theorem dX6_init_4 : decode cX6_init 4 = .ok (.iconst 0, 1) := dk_3 (dk_at dksX6_init_0 4 rfl rfl)
theorem dX6_init_5 : decode cX6_init 5 = .ok (.invokespecial 1, 3) := dk_183 0 1 (dk_at dksX6_init_0 5 rfl rfl)
theorem dX6_init_8 : decode cX6_init 8 = .ok (.aload_n 0, 1) := dk_42 (dk_at dksX6_init_0 8 rfl rfl)
theorem dX6_init_9 : decode cX6_init 9 = .ok (.iload_n 1, 1) := dk_27 (dk_at dksX6_init_0 9 rfl rfl)
theorem dX6_init_10 : decode cX6_init 10 = .ok (.putfield 7, 3) := dk_181 0 7 (dk_at dksX6_init_0 10 rfl rfl)
theorem dX6_init_13 : decode cX6_init 13 = .ok (.aload_n 0, 1) := dk_42 (dk_at dksX6_init_0 13 rfl rfl)
theorem dX6_init_14 : decode cX6_init 14 = .ok (.iload_n 2, 1) := dk_28 (dk_at dksX6_init_0 14 rfl rfl)
theorem dX6_init_15 : decode cX6_init 15 = .ok (.putfield 13, 3) := dk_181 0 13 (dk_at dksX6_init_0 15 rfl rfl)
theorem dX6_init_18 : decode cX6_init 18 = .ok (.return_, 1) := dk_177 (dk_at dksX6_init_0 18 rfl rfl)
theorem q153 : (Jvm.Cond.initialized "LimbBenches$Wrong") ∈ lw_all := lw_g (lw_at lw_m1 25 rfl) rfl
theorem q246 : (Jvm.Cond.selects "LimbBenches$Wrong" ({ cls := "java/lang/Throwable", name := "fillInStackTrace", desc := "()Ljava/lang/Throwable;" } : Jvm.MethodName) ({ cls := "java/lang/Throwable", name := "fillInStackTrace", desc := "()Ljava/lang/Throwable;" } : Jvm.MethodName)) ∈ lw_all := lw_g (lw_at lw_m1 118 rfl) rfl
theorem q1034 : (Jvm.Cond.selects "LimbBenches$Wrong" ({ cls := "java/lang/Object", name := "getClass", desc := "()Ljava/lang/Class;" } : Jvm.MethodName) ({ cls := "java/lang/Object", name := "getClass", desc := "()Ljava/lang/Class;" } : Jvm.MethodName)) ∈ lw_all := lw_g (lw_at lw_m4 186 rfl) rfl
theorem q1339 : (Jvm.Cond.castable "LimbBenches$Wrong" "LimbBenches$Wrong") ∈ lw_tbl := lw_at lw_m6 11 rfl
theorem q1340 : (Jvm.Cond.selects "LimbBenches$Wrong" ({ cls := "java/lang/Throwable", name := "fillInStackTrace", desc := "(I)Ljava/lang/Throwable;" } : Jvm.MethodName) ({ cls := "java/lang/Throwable", name := "fillInStackTrace", desc := "(I)Ljava/lang/Throwable;" } : Jvm.MethodName)) ∈ lw_all := lw_g (lw_at lw_m6 12 rfl) rfl
theorem q1341 : (Jvm.Cond.lays "LimbBenches$Wrong" "java/lang/Throwable" "cause" "Ljava/lang/Throwable;") ∈ lw_all := lw_g (lw_at lw_m6 13 rfl) rfl
theorem q1342 : (Jvm.Cond.lays "LimbBenches$Wrong" "java/lang/Throwable" "stackTrace" "[Ljava/lang/StackTraceElement;") ∈ lw_all := lw_g (lw_at lw_m6 14 rfl) rfl
theorem q1343 : (Jvm.Cond.lays "LimbBenches$Wrong" "java/lang/Throwable" "suppressedExceptions" "Ljava/util/List;") ∈ lw_all := lw_g (lw_at lw_m6 15 rfl) rfl
theorem q1344 : (Jvm.Cond.lays "LimbBenches$Wrong" "java/lang/Throwable" "detailMessage" "Ljava/lang/String;") ∈ lw_all := lw_g (lw_at lw_m6 16 rfl) rfl
theorem q1345 : (Jvm.Cond.lays "LimbBenches$Wrong" "java/lang/Throwable" "backtrace" "Ljava/lang/Object;") ∈ lw_all := lw_g (lw_at lw_m6 17 rfl) rfl
theorem q1347 : (Jvm.Cond.instanceMethod ({ cls := "LimbBenches$Wrong", name := "<init>", desc := "(II)V" } : Jvm.MethodName)) ∈ lw_all := lw_g (lw_at lw_m6 19 rfl) rfl
theorem q1348 : (Jvm.Cond.code ({ cls := "LimbBenches$Wrong", name := "<init>", desc := "(II)V" } : Jvm.MethodName) prog_29_method_1_code (3 : Nat) (Option.none : Option Jvm.ClassFile.FieldType)) ∈ lw_all := lw_g (lw_at lw_m6 20 rfl) rfl
theorem q1349 : (Jvm.Cond.methodLink "LimbBenches$Wrong" (1 : Nat) ({ cls := "java/lang/Exception", name := "<init>", desc := "(Ljava/lang/String;Ljava/lang/Throwable;ZZ)V" } : Jvm.MethodName)) ∈ lw_all := lw_g (lw_at lw_m6 21 rfl) rfl
theorem q1355 : (Jvm.Cond.fieldLink "LimbBenches$Wrong" (7 : Nat) "LimbBenches$Wrong" "kind" "I") ∈ lw_all := lw_g (lw_at lw_m6 27 rfl) rfl
theorem q1357 : (Jvm.Cond.fieldLink "LimbBenches$Wrong" (13 : Nat) "LimbBenches$Wrong" "place" "I") ∈ lw_all := lw_g (lw_at lw_m6 29 rfl) rfl
theorem q1359 : (Jvm.Cond.laysFinal "LimbBenches$Wrong" "LimbBenches$Wrong" "kind" "I") ∈ lw_all := lw_g (lw_at lw_m6 31 rfl) rfl
theorem q1360 : (Jvm.Cond.soleField "LimbBenches$Wrong" "kind") ∈ lw_all := lw_g (lw_at lw_m6 32 rfl) rfl
theorem q1361 : (Jvm.Cond.laysFinal "LimbBenches$Wrong" "LimbBenches$Wrong" "place" "I") ∈ lw_all := lw_g (lw_at lw_m6 33 rfl) rfl
theorem q1362 : (Jvm.Cond.soleField "LimbBenches$Wrong" "place") ∈ lw_all := lw_g (lw_at lw_m6 34 rfl) rfl
theorem q1363 : (Jvm.Cond.lays "LimbBenches$Wrong" "java/lang/Throwable" "depth" "I") ∈ lw_all := lw_g (lw_at lw_m6 35 rfl) rfl
theorem q1364 : (Jvm.Cond.superclass "LimbBenches$Wrong" "java/lang/Exception") ∈ lw_all := lw_g (lw_at lw_m6 36 rfl) rfl
theorem q3208 : (Jvm.Cond.castable "LimbBenches$Wrong" "java/lang/Object") ∈ lw_tbl := lw_at lw_m13 200 rfl

/-! LimbBenches$Clause -/
set_option maxRecDepth 100000
def RX7 : String := "LimbBenches$Clause"
abbrev cX7_tells : ByteArray := prog_5_method_4_code
def yX7_tells : MethodName := ⟨RX7, "tells", "(CI)Z"⟩
theorem dX7_tells_0 : decode cX7_tells 0 = .ok (.iconst 0, 1) := by decide +kernel
theorem dX7_tells_1 : decode cX7_tells 1 = .ok (.ireturn, 1) := by decide +kernel
abbrev cX7_holds : ByteArray := prog_5_method_2_code
def yX7_holds : MethodName := ⟨RX7, "holds", "([I)Z"⟩
def dkwX7_holds_0 : List UInt8 := [42, 180, 0, 9, 198, 0, 14, 42, 180, 0, 9, 43, 182, 0, 15, 153, 0, 7, 4, 167, 0, 4, 3, 172]
abbrev dktX7_holds_0 : List UInt8 := dkwX7_holds_0 ++ []
theorem dksX7_holds_0 : cX7_holds.data.toList.drop 0 = dktX7_holds_0 := by decide +kernel
theorem dX7_holds_0 : decode cX7_holds 0 = .ok (.aload_n 0, 1) := dk_42 (dk_at dksX7_holds_0 0 rfl rfl)
theorem dX7_holds_1 : decode cX7_holds 1 = .ok (.getfield 9, 3) := dk_180 0 9 (dk_at dksX7_holds_0 1 rfl rfl)
theorem dX7_holds_4 : decode cX7_holds 4 = .ok (.ifnull 14, 3) := dk_198 0 14 (dk_at dksX7_holds_0 4 rfl rfl)
theorem dX7_holds_7 : decode cX7_holds 7 = .ok (.aload_n 0, 1) := dk_42 (dk_at dksX7_holds_0 7 rfl rfl)
theorem dX7_holds_8 : decode cX7_holds 8 = .ok (.getfield 9, 3) := dk_180 0 9 (dk_at dksX7_holds_0 8 rfl rfl)
theorem dX7_holds_11 : decode cX7_holds 11 = .ok (.aload_n 1, 1) := dk_43 (dk_at dksX7_holds_0 11 rfl rfl)
theorem dX7_holds_12 : decode cX7_holds 12 = .ok (.invokevirtual 15, 3) := dk_182 0 15 (dk_at dksX7_holds_0 12 rfl rfl)
theorem dX7_holds_15 : decode cX7_holds 15 = .ok (.ifCond .eq 7, 3) := dk_153 0 7 (dk_at dksX7_holds_0 15 rfl rfl)
theorem dX7_holds_18 : decode cX7_holds 18 = .ok (.iconst 1, 1) := dk_4 (dk_at dksX7_holds_0 18 rfl rfl)
theorem dX7_holds_19 : decode cX7_holds 19 = .ok (.goto 4, 3) := dk_167 0 4 (dk_at dksX7_holds_0 19 rfl rfl)
theorem dX7_holds_22 : decode cX7_holds 22 = .ok (.iconst 0, 1) := dk_3 (dk_at dksX7_holds_0 22 rfl rfl)
theorem dX7_holds_23 : decode cX7_holds 23 = .ok (.ireturn, 1) := dk_172 (dk_at dksX7_holds_0 23 rfl rfl)
abbrev cX7_value : ByteArray := prog_5_method_7_code
def yX7_value : MethodName := ⟨RX7, "value", "([I)I"⟩
theorem dX7_value_0 : decode cX7_value 0 = .ok (.iconst 0, 1) := by decide +kernel
theorem dX7_value_1 : decode cX7_value 1 = .ok (.ireturn, 1) := by decide +kernel
abbrev cX7_needs : ByteArray := prog_5_method_5_code
def yX7_needs : MethodName := ⟨RX7, "needs", "()I"⟩
theorem dX7_needs_0 : decode cX7_needs 0 = .ok (.iconst (-1), 1) := by decide +kernel
theorem dX7_needs_1 : decode cX7_needs 1 = .ok (.ireturn, 1) := by decide +kernel
abbrev cX7_recalls : ByteArray := prog_5_method_6_code
def yX7_recalls : MethodName := ⟨RX7, "recalls", "(LLimbBenches$Part;[I)Z"⟩
theorem dX7_recalls_0 : decode cX7_recalls 0 = .ok (.iconst 0, 1) := by decide +kernel
theorem dX7_recalls_1 : decode cX7_recalls 1 = .ok (.ireturn, 1) := by decide +kernel
abbrev cX7_init : ByteArray := prog_5_method_1_code
def yX7_init : MethodName := ⟨RX7, "<init>", "()V"⟩
theorem dX7_init_0 : decode cX7_init 0 = .ok (.aload_n 0, 1) := by decide +kernel
theorem dX7_init_1 : decode cX7_init 1 = .ok (.invokespecial 3, 3) := by decide +kernel
theorem dX7_init_4 : decode cX7_init 4 = .ok (.return_, 1) := by decide +kernel
abbrev cX7_bars : ByteArray := prog_5_method_3_code
def yX7_bars : MethodName := ⟨RX7, "bars", "(II[I)Z"⟩
theorem dX7_bars_0 : decode cX7_bars 0 = .ok (.iconst 0, 1) := by decide +kernel
theorem dX7_bars_1 : decode cX7_bars 1 = .ok (.ireturn, 1) := by decide +kernel
theorem q154 : (Jvm.Cond.initialized "LimbBenches$Clause") ∈ lw_all := lw_g (lw_at lw_m1 26 rfl) rfl
theorem q756 : (Jvm.Cond.instanceMethod ({ cls := "LimbBenches$Clause", name := "tells", desc := "(CI)Z" } : Jvm.MethodName)) ∈ lw_all := lw_g (lw_at lw_m3 148 rfl) rfl
theorem q757 : (Jvm.Cond.sameMethod "LimbBenches$Clause" "LimbBenches$Clause" "tells" "(CI)Z") ∈ lw_all := lw_g (lw_at lw_m3 149 rfl) rfl
theorem q764 : (Jvm.Cond.code ({ cls := "LimbBenches$Clause", name := "tells", desc := "(CI)Z" } : Jvm.MethodName) prog_5_method_4_code (3 : Nat) (Option.some Jvm.ClassFile.FieldType.boolean)) ∈ lw_all := lw_g (lw_at lw_m3 156 rfl) rfl
theorem q766 : (Jvm.Cond.instanceMethod ({ cls := "LimbBenches$Clause", name := "holds", desc := "([I)Z" } : Jvm.MethodName)) ∈ lw_all := lw_g (lw_at lw_m3 158 rfl) rfl
theorem q767 : (Jvm.Cond.sameMethod "LimbBenches$Clause" "LimbBenches$Clause" "holds" "([I)Z") ∈ lw_all := lw_g (lw_at lw_m3 159 rfl) rfl
theorem q772 : (Jvm.Cond.code ({ cls := "LimbBenches$Clause", name := "holds", desc := "([I)Z" } : Jvm.MethodName) prog_5_method_2_code (2 : Nat) (Option.some Jvm.ClassFile.FieldType.boolean)) ∈ lw_all := lw_g (lw_at lw_m3 164 rfl) rfl
theorem q773 : (Jvm.Cond.methodLink "LimbBenches$Clause" (15 : Nat) ({ cls := "LimbBenches$Cond", name := "holds", desc := "([I)Z" } : Jvm.MethodName)) ∈ lw_all := lw_g (lw_at lw_m3 165 rfl) rfl
theorem q814 : (Jvm.Cond.instanceMethod ({ cls := "LimbBenches$Clause", name := "value", desc := "([I)I" } : Jvm.MethodName)) ∈ lw_all := lw_g (lw_at lw_m3 206 rfl) rfl
theorem q815 : (Jvm.Cond.sameMethod "LimbBenches$Clause" "LimbBenches$Clause" "value" "([I)I") ∈ lw_all := lw_g (lw_at lw_m3 207 rfl) rfl
theorem q824 : (Jvm.Cond.code ({ cls := "LimbBenches$Clause", name := "value", desc := "([I)I" } : Jvm.MethodName) prog_5_method_7_code (2 : Nat) (Option.some Jvm.ClassFile.FieldType.int)) ∈ lw_all := lw_g (lw_at lw_m3 216 rfl) rfl
theorem q840 : (Jvm.Cond.instanceMethod ({ cls := "LimbBenches$Clause", name := "needs", desc := "()I" } : Jvm.MethodName)) ∈ lw_all := lw_g (lw_at lw_m3 232 rfl) rfl
theorem q841 : (Jvm.Cond.sameMethod "LimbBenches$Clause" "LimbBenches$Clause" "needs" "()I") ∈ lw_all := lw_g (lw_at lw_m3 233 rfl) rfl
theorem q848 : (Jvm.Cond.code ({ cls := "LimbBenches$Clause", name := "needs", desc := "()I" } : Jvm.MethodName) prog_5_method_5_code (1 : Nat) (Option.some Jvm.ClassFile.FieldType.int)) ∈ lw_all := lw_g (lw_at lw_m4 0 rfl) rfl
theorem q898 : (Jvm.Cond.instanceMethod ({ cls := "LimbBenches$Clause", name := "recalls", desc := "(LLimbBenches$Part;[I)Z" } : Jvm.MethodName)) ∈ lw_all := lw_g (lw_at lw_m4 50 rfl) rfl
theorem q899 : (Jvm.Cond.sameMethod "LimbBenches$Clause" "LimbBenches$Clause" "recalls" "(LLimbBenches$Part;[I)Z") ∈ lw_all := lw_g (lw_at lw_m4 51 rfl) rfl
theorem q907 : (Jvm.Cond.declares ({ cls := "LimbBenches$Clause", name := "holds", desc := "([I)Z" } : Jvm.MethodName)) ∈ lw_tbl := lw_at lw_m4 59 rfl
theorem q910 : (Jvm.Cond.code ({ cls := "LimbBenches$Clause", name := "recalls", desc := "(LLimbBenches$Part;[I)Z" } : Jvm.MethodName) prog_5_method_6_code (3 : Nat) (Option.some Jvm.ClassFile.FieldType.boolean)) ∈ lw_all := lw_g (lw_at lw_m4 62 rfl) rfl
theorem q1381 : (Jvm.Cond.instanceMethod ({ cls := "LimbBenches$Clause", name := "<init>", desc := "()V" } : Jvm.MethodName)) ∈ lw_all := lw_g (lw_at lw_m6 53 rfl) rfl
theorem q1382 : (Jvm.Cond.code ({ cls := "LimbBenches$Clause", name := "<init>", desc := "()V" } : Jvm.MethodName) prog_5_method_1_code (1 : Nat) (Option.none : Option Jvm.ClassFile.FieldType)) ∈ lw_all := lw_g (lw_at lw_m6 54 rfl) rfl
theorem q1383 : (Jvm.Cond.methodLink "LimbBenches$Clause" (3 : Nat) ({ cls := "java/lang/Object", name := "<init>", desc := "()V" } : Jvm.MethodName)) ∈ lw_all := lw_g (lw_at lw_m6 55 rfl) rfl
theorem q1386 : (Jvm.Cond.fieldLink "LimbBenches$Clause" (9 : Nat) "LimbBenches$Clause" "c" "LLimbBenches$Cond;") ∈ lw_all := lw_g (lw_at lw_m6 58 rfl) rfl
theorem q1393 : (Jvm.Cond.soleField "LimbBenches$Clause" "c") ∈ lw_all := lw_g (lw_at lw_m6 65 rfl) rfl
theorem q1787 : (Jvm.Cond.instanceMethod ({ cls := "LimbBenches$Clause", name := "bars", desc := "(II[I)Z" } : Jvm.MethodName)) ∈ lw_all := lw_g (lw_at lw_m7 219 rfl) rfl
theorem q1788 : (Jvm.Cond.sameMethod "LimbBenches$Clause" "LimbBenches$Clause" "bars" "(II[I)Z") ∈ lw_all := lw_g (lw_at lw_m7 220 rfl) rfl
theorem q1798 : (Jvm.Cond.code ({ cls := "LimbBenches$Clause", name := "bars", desc := "(II[I)Z" } : Jvm.MethodName) prog_5_method_3_code (4 : Nat) (Option.some Jvm.ClassFile.FieldType.boolean)) ∈ lw_all := lw_g (lw_at lw_m7 230 rfl) rfl

/-! LimbBenches$Bar -/
set_option maxRecDepth 100000
abbrev cX8_init : ByteArray := prog_2_method_1_code
def yX8_init : MethodName := ⟨RX8, "<init>", "(II)V"⟩
def dkwX8_init_0 : List UInt8 := [42, 183, 0, 1, 42, 27, 181, 0, 7, 42, 28, 181, 0, 13, 177]
abbrev dktX8_init_0 : List UInt8 := dkwX8_init_0 ++ []
theorem dksX8_init_0 : cX8_init.data.toList.drop 0 = dktX8_init_0 := by decide +kernel
theorem dX8_init_0 : decode cX8_init 0 = .ok (.aload_n 0, 1) := dk_42 (dk_at dksX8_init_0 0 rfl rfl)
theorem dX8_init_1 : decode cX8_init 1 = .ok (.invokespecial 1, 3) := dk_183 0 1 (dk_at dksX8_init_0 1 rfl rfl)
theorem dX8_init_4 : decode cX8_init 4 = .ok (.aload_n 0, 1) := dk_42 (dk_at dksX8_init_0 4 rfl rfl)
theorem dX8_init_5 : decode cX8_init 5 = .ok (.iload_n 1, 1) := dk_27 (dk_at dksX8_init_0 5 rfl rfl)
theorem dX8_init_6 : decode cX8_init 6 = .ok (.putfield 7, 3) := dk_181 0 7 (dk_at dksX8_init_0 6 rfl rfl)
theorem dX8_init_9 : decode cX8_init 9 = .ok (.aload_n 0, 1) := dk_42 (dk_at dksX8_init_0 9 rfl rfl)
theorem dX8_init_10 : decode cX8_init 10 = .ok (.iload_n 2, 1) := dk_28 (dk_at dksX8_init_0 10 rfl rfl)
theorem dX8_init_11 : decode cX8_init 11 = .ok (.putfield 13, 3) := dk_181 0 13 (dk_at dksX8_init_0 11 rfl rfl)
theorem dX8_init_14 : decode cX8_init 14 = .ok (.return_, 1) := dk_177 (dk_at dksX8_init_0 14 rfl rfl)
abbrev cX8_bars : ByteArray := prog_2_method_2_code
def yX8_bars : MethodName := ⟨RX8, "bars", "(II[I)Z"⟩
def dkwX8_bars_1 : List UInt8 := [42, 180, 0, 13, 27, 160, 0, 15, 42, 45, 182, 0, 16, 153, 0, 7, 4, 167, 0, 4, 3, 172]
abbrev dktX8_bars_1 : List UInt8 := dkwX8_bars_1 ++ []
def dkwX8_bars_0 : List UInt8 := [42, 180, 0, 7, 27, 160, 0, 11, 42, 180, 0, 13, 28, 159, 0, 19, 42, 180, 0, 7, 28, 160, 0, 23]
abbrev dktX8_bars_0 : List UInt8 := dkwX8_bars_0 ++ dktX8_bars_1
theorem dksX8_bars_0 : cX8_bars.data.toList.drop 0 = dktX8_bars_0 := by decide +kernel
theorem dksX8_bars_1 : cX8_bars.data.toList.drop 24 = dktX8_bars_1 := dk_seg dksX8_bars_0 24 rfl rfl
theorem dX8_bars_0 : decode cX8_bars 0 = .ok (.aload_n 0, 1) := dk_42 (dk_at dksX8_bars_0 0 rfl rfl)
theorem dX8_bars_1 : decode cX8_bars 1 = .ok (.getfield 7, 3) := dk_180 0 7 (dk_at dksX8_bars_0 1 rfl rfl)
theorem dX8_bars_4 : decode cX8_bars 4 = .ok (.iload_n 1, 1) := dk_27 (dk_at dksX8_bars_0 4 rfl rfl)
theorem dX8_bars_5 : decode cX8_bars 5 = .ok (.if_icmp .ne 11, 3) := dk_160 0 11 (dk_at dksX8_bars_0 5 rfl rfl)
theorem dX8_bars_8 : decode cX8_bars 8 = .ok (.aload_n 0, 1) := dk_42 (dk_at dksX8_bars_0 8 rfl rfl)
theorem dX8_bars_9 : decode cX8_bars 9 = .ok (.getfield 13, 3) := dk_180 0 13 (dk_at dksX8_bars_0 9 rfl rfl)
theorem dX8_bars_12 : decode cX8_bars 12 = .ok (.iload_n 2, 1) := dk_28 (dk_at dksX8_bars_0 12 rfl rfl)
theorem dX8_bars_13 : decode cX8_bars 13 = .ok (.if_icmp .eq 19, 3) := dk_159 0 19 (dk_at dksX8_bars_0 13 rfl rfl)
theorem dX8_bars_16 : decode cX8_bars 16 = .ok (.aload_n 0, 1) := dk_42 (dk_at dksX8_bars_0 16 rfl rfl)
theorem dX8_bars_17 : decode cX8_bars 17 = .ok (.getfield 7, 3) := dk_180 0 7 (dk_at dksX8_bars_0 17 rfl rfl)
theorem dX8_bars_20 : decode cX8_bars 20 = .ok (.iload_n 2, 1) := dk_28 (dk_at dksX8_bars_0 20 rfl rfl)
theorem dX8_bars_21 : decode cX8_bars 21 = .ok (.if_icmp .ne 23, 3) := dk_160 0 23 (dk_at dksX8_bars_0 21 rfl rfl)
theorem dX8_bars_24 : decode cX8_bars 24 = .ok (.aload_n 0, 1) := dk_42 (dk_at dksX8_bars_1 0 rfl rfl)
theorem dX8_bars_25 : decode cX8_bars 25 = .ok (.getfield 13, 3) := dk_180 0 13 (dk_at dksX8_bars_1 1 rfl rfl)
theorem dX8_bars_28 : decode cX8_bars 28 = .ok (.iload_n 1, 1) := dk_27 (dk_at dksX8_bars_1 4 rfl rfl)
theorem dX8_bars_29 : decode cX8_bars 29 = .ok (.if_icmp .ne 15, 3) := dk_160 0 15 (dk_at dksX8_bars_1 5 rfl rfl)
theorem dX8_bars_32 : decode cX8_bars 32 = .ok (.aload_n 0, 1) := dk_42 (dk_at dksX8_bars_1 8 rfl rfl)
theorem dX8_bars_33 : decode cX8_bars 33 = .ok (.aload_n 3, 1) := dk_45 (dk_at dksX8_bars_1 9 rfl rfl)
theorem dX8_bars_34 : decode cX8_bars 34 = .ok (.invokevirtual 16, 3) := dk_182 0 16 (dk_at dksX8_bars_1 10 rfl rfl)
theorem dX8_bars_37 : decode cX8_bars 37 = .ok (.ifCond .eq 7, 3) := dk_153 0 7 (dk_at dksX8_bars_1 13 rfl rfl)
theorem dX8_bars_40 : decode cX8_bars 40 = .ok (.iconst 1, 1) := dk_4 (dk_at dksX8_bars_1 16 rfl rfl)
theorem dX8_bars_41 : decode cX8_bars 41 = .ok (.goto 4, 3) := dk_167 0 4 (dk_at dksX8_bars_1 17 rfl rfl)
theorem dX8_bars_44 : decode cX8_bars 44 = .ok (.iconst 0, 1) := dk_3 (dk_at dksX8_bars_1 20 rfl rfl)
theorem dX8_bars_45 : decode cX8_bars 45 = .ok (.ireturn, 1) := dk_172 (dk_at dksX8_bars_1 21 rfl rfl)
theorem q155 : (Jvm.Cond.initialized "LimbBenches$Bar") ∈ lw_all := lw_g (lw_at lw_m1 27 rfl) rfl
theorem q758 : (Jvm.Cond.selects "LimbBenches$Bar" ({ cls := "LimbBenches$Clause", name := "tells", desc := "(CI)Z" } : Jvm.MethodName) ({ cls := "LimbBenches$Clause", name := "tells", desc := "(CI)Z" } : Jvm.MethodName)) ∈ lw_all := lw_g (lw_at lw_m3 150 rfl) rfl
theorem q768 : (Jvm.Cond.selects "LimbBenches$Bar" ({ cls := "LimbBenches$Clause", name := "holds", desc := "([I)Z" } : Jvm.MethodName) ({ cls := "LimbBenches$Clause", name := "holds", desc := "([I)Z" } : Jvm.MethodName)) ∈ lw_all := lw_g (lw_at lw_m3 160 rfl) rfl
theorem q816 : (Jvm.Cond.selects "LimbBenches$Bar" ({ cls := "LimbBenches$Clause", name := "value", desc := "([I)I" } : Jvm.MethodName) ({ cls := "LimbBenches$Clause", name := "value", desc := "([I)I" } : Jvm.MethodName)) ∈ lw_all := lw_g (lw_at lw_m3 208 rfl) rfl
theorem q842 : (Jvm.Cond.selects "LimbBenches$Bar" ({ cls := "LimbBenches$Clause", name := "needs", desc := "()I" } : Jvm.MethodName) ({ cls := "LimbBenches$Clause", name := "needs", desc := "()I" } : Jvm.MethodName)) ∈ lw_all := lw_g (lw_at lw_m3 234 rfl) rfl
theorem q900 : (Jvm.Cond.selects "LimbBenches$Bar" ({ cls := "LimbBenches$Clause", name := "recalls", desc := "(LLimbBenches$Part;[I)Z" } : Jvm.MethodName) ({ cls := "LimbBenches$Clause", name := "recalls", desc := "(LLimbBenches$Part;[I)Z" } : Jvm.MethodName)) ∈ lw_all := lw_g (lw_at lw_m4 52 rfl) rfl
theorem q1010 : (Jvm.Cond.selects "LimbBenches$Bar" ({ cls := "java/lang/Object", name := "getClass", desc := "()Ljava/lang/Class;" } : Jvm.MethodName) ({ cls := "java/lang/Object", name := "getClass", desc := "()Ljava/lang/Class;" } : Jvm.MethodName)) ∈ lw_all := lw_g (lw_at lw_m4 162 rfl) rfl
theorem q1378 : (Jvm.Cond.instanceMethod ({ cls := "LimbBenches$Bar", name := "<init>", desc := "(II)V" } : Jvm.MethodName)) ∈ lw_all := lw_g (lw_at lw_m6 50 rfl) rfl
theorem q1379 : (Jvm.Cond.code ({ cls := "LimbBenches$Bar", name := "<init>", desc := "(II)V" } : Jvm.MethodName) prog_2_method_1_code (3 : Nat) (Option.none : Option Jvm.ClassFile.FieldType)) ∈ lw_all := lw_g (lw_at lw_m6 51 rfl) rfl
theorem q1380 : (Jvm.Cond.methodLinkNest "LimbBenches$Bar" (1 : Nat) ({ cls := "LimbBenches$Clause", name := "<init>", desc := "()V" } : Jvm.MethodName) "LimbBenches") ∈ lw_tbl := lw_at lw_m6 52 rfl
theorem q1384 : (Jvm.Cond.fieldLink "LimbBenches$Bar" (7 : Nat) "LimbBenches$Bar" "one" "I") ∈ lw_all := lw_g (lw_at lw_m6 56 rfl) rfl
theorem q1385 : (Jvm.Cond.fieldLink "LimbBenches$Bar" (13 : Nat) "LimbBenches$Bar" "other" "I") ∈ lw_all := lw_g (lw_at lw_m6 57 rfl) rfl
theorem q1388 : (Jvm.Cond.laysFinal "LimbBenches$Bar" "LimbBenches$Bar" "one" "I") ∈ lw_all := lw_g (lw_at lw_m6 60 rfl) rfl
theorem q1389 : (Jvm.Cond.soleField "LimbBenches$Bar" "one") ∈ lw_all := lw_g (lw_at lw_m6 61 rfl) rfl
theorem q1390 : (Jvm.Cond.laysFinal "LimbBenches$Bar" "LimbBenches$Bar" "other" "I") ∈ lw_all := lw_g (lw_at lw_m6 62 rfl) rfl
theorem q1391 : (Jvm.Cond.soleField "LimbBenches$Bar" "other") ∈ lw_all := lw_g (lw_at lw_m6 63 rfl) rfl
theorem q1392 : (Jvm.Cond.lays "LimbBenches$Bar" "LimbBenches$Clause" "c" "LLimbBenches$Cond;") ∈ lw_all := lw_g (lw_at lw_m6 64 rfl) rfl
theorem q1394 : (Jvm.Cond.superclass "LimbBenches$Bar" "LimbBenches$Clause") ∈ lw_all := lw_g (lw_at lw_m6 66 rfl) rfl
theorem q1789 : (Jvm.Cond.selects "LimbBenches$Bar" ({ cls := "LimbBenches$Clause", name := "bars", desc := "(II[I)Z" } : Jvm.MethodName) ({ cls := "LimbBenches$Bar", name := "bars", desc := "(II[I)Z" } : Jvm.MethodName)) ∈ lw_all := lw_g (lw_at lw_m7 221 rfl) rfl
theorem q1790 : (Jvm.Cond.instanceMethod ({ cls := "LimbBenches$Bar", name := "bars", desc := "(II[I)Z" } : Jvm.MethodName)) ∈ lw_all := lw_g (lw_at lw_m7 222 rfl) rfl
theorem q1791 : (Jvm.Cond.code ({ cls := "LimbBenches$Bar", name := "bars", desc := "(II[I)Z" } : Jvm.MethodName) prog_2_method_2_code (4 : Nat) (Option.some Jvm.ClassFile.FieldType.boolean)) ∈ lw_all := lw_g (lw_at lw_m7 223 rfl) rfl
theorem q1792 : (Jvm.Cond.methodLink "LimbBenches$Bar" (16 : Nat) ({ cls := "LimbBenches$Bar", name := "holds", desc := "([I)Z" } : Jvm.MethodName)) ∈ lw_all := lw_g (lw_at lw_m7 224 rfl) rfl
theorem q1793 : (Jvm.Cond.sameMethod "LimbBenches$Bar" "LimbBenches$Clause" "holds" "([I)Z") ∈ lw_all := lw_g (lw_at lw_m7 225 rfl) rfl
theorem q1794 : (Jvm.Cond.selects "LimbBenches$Bar" ({ cls := "LimbBenches$Bar", name := "holds", desc := "([I)Z" } : Jvm.MethodName) ({ cls := "LimbBenches$Clause", name := "holds", desc := "([I)Z" } : Jvm.MethodName)) ∈ lw_all := lw_g (lw_at lw_m7 226 rfl) rfl
theorem q3193 : (Jvm.Cond.castable "LimbBenches$Bar" "LimbBenches$Clause") ∈ lw_tbl := lw_at lw_m13 185 rfl
theorem q3209 : (Jvm.Cond.castable "LimbBenches$Bar" "java/lang/Object") ∈ lw_tbl := lw_at lw_m13 201 rfl

/-! LimbBenches$Told -/
set_option maxRecDepth 100000
abbrev cX9_tells : ByteArray := prog_26_method_2_code
def yX9_tells : MethodName := ⟨RX9, "tells", "(CI)Z"⟩
def dkwX9_tells_0 : List UInt8 := [42, 180, 0, 7, 27, 160, 0, 15, 42, 180, 0, 13, 28, 160, 0, 7, 4, 167, 0, 4, 3, 172]
abbrev dktX9_tells_0 : List UInt8 := dkwX9_tells_0 ++ []
theorem dksX9_tells_0 : cX9_tells.data.toList.drop 0 = dktX9_tells_0 := by decide +kernel
theorem dX9_tells_0 : decode cX9_tells 0 = .ok (.aload_n 0, 1) := dk_42 (dk_at dksX9_tells_0 0 rfl rfl)
theorem dX9_tells_1 : decode cX9_tells 1 = .ok (.getfield 7, 3) := dk_180 0 7 (dk_at dksX9_tells_0 1 rfl rfl)
theorem dX9_tells_4 : decode cX9_tells 4 = .ok (.iload_n 1, 1) := dk_27 (dk_at dksX9_tells_0 4 rfl rfl)
theorem dX9_tells_5 : decode cX9_tells 5 = .ok (.if_icmp .ne 15, 3) := dk_160 0 15 (dk_at dksX9_tells_0 5 rfl rfl)
theorem dX9_tells_8 : decode cX9_tells 8 = .ok (.aload_n 0, 1) := dk_42 (dk_at dksX9_tells_0 8 rfl rfl)
theorem dX9_tells_9 : decode cX9_tells 9 = .ok (.getfield 13, 3) := dk_180 0 13 (dk_at dksX9_tells_0 9 rfl rfl)
theorem dX9_tells_12 : decode cX9_tells 12 = .ok (.iload_n 2, 1) := dk_28 (dk_at dksX9_tells_0 12 rfl rfl)
theorem dX9_tells_13 : decode cX9_tells 13 = .ok (.if_icmp .ne 7, 3) := dk_160 0 7 (dk_at dksX9_tells_0 13 rfl rfl)
theorem dX9_tells_16 : decode cX9_tells 16 = .ok (.iconst 1, 1) := dk_4 (dk_at dksX9_tells_0 16 rfl rfl)
theorem dX9_tells_17 : decode cX9_tells 17 = .ok (.goto 4, 3) := dk_167 0 4 (dk_at dksX9_tells_0 17 rfl rfl)
theorem dX9_tells_20 : decode cX9_tells 20 = .ok (.iconst 0, 1) := dk_3 (dk_at dksX9_tells_0 20 rfl rfl)
theorem dX9_tells_21 : decode cX9_tells 21 = .ok (.ireturn, 1) := dk_172 (dk_at dksX9_tells_0 21 rfl rfl)
abbrev cX9_value : ByteArray := prog_26_method_3_code
def yX9_value : MethodName := ⟨RX9, "value", "([I)I"⟩
def dkwX9_value_0 : List UInt8 := [42, 180, 0, 17, 43, 185, 0, 21, 2, 0, 172]
abbrev dktX9_value_0 : List UInt8 := dkwX9_value_0 ++ []
theorem dksX9_value_0 : cX9_value.data.toList.drop 0 = dktX9_value_0 := by decide +kernel
theorem dX9_value_0 : decode cX9_value 0 = .ok (.aload_n 0, 1) := dk_42 (dk_at dksX9_value_0 0 rfl rfl)
theorem dX9_value_1 : decode cX9_value 1 = .ok (.getfield 17, 3) := dk_180 0 17 (dk_at dksX9_value_0 1 rfl rfl)
theorem dX9_value_4 : decode cX9_value 4 = .ok (.aload_n 1, 1) := dk_43 (dk_at dksX9_value_0 4 rfl rfl)
theorem dX9_value_5 : decode cX9_value 5 = .ok (.invokeinterface 21 2, 5) := by decide +kernel
theorem dX9_value_10 : decode cX9_value 10 = .ok (.ireturn, 1) := dk_172 (dk_at dksX9_value_0 10 rfl rfl)
abbrev cX9_init : ByteArray := prog_26_method_1_code
def yX9_init : MethodName := ⟨RX9, "<init>", "(CILLimbBenches$Expr;)V"⟩
def dkwX9_init_0 : List UInt8 := [42, 183, 0, 1, 42, 27, 181, 0, 7, 42, 28, 181, 0, 13, 42, 45, 181, 0, 17, 177]
abbrev dktX9_init_0 : List UInt8 := dkwX9_init_0 ++ []
theorem dksX9_init_0 : cX9_init.data.toList.drop 0 = dktX9_init_0 := by decide +kernel
theorem dX9_init_0 : decode cX9_init 0 = .ok (.aload_n 0, 1) := dk_42 (dk_at dksX9_init_0 0 rfl rfl)
theorem dX9_init_1 : decode cX9_init 1 = .ok (.invokespecial 1, 3) := dk_183 0 1 (dk_at dksX9_init_0 1 rfl rfl)
theorem dX9_init_4 : decode cX9_init 4 = .ok (.aload_n 0, 1) := dk_42 (dk_at dksX9_init_0 4 rfl rfl)
theorem dX9_init_5 : decode cX9_init 5 = .ok (.iload_n 1, 1) := dk_27 (dk_at dksX9_init_0 5 rfl rfl)
theorem dX9_init_6 : decode cX9_init 6 = .ok (.putfield 7, 3) := dk_181 0 7 (dk_at dksX9_init_0 6 rfl rfl)
theorem dX9_init_9 : decode cX9_init 9 = .ok (.aload_n 0, 1) := dk_42 (dk_at dksX9_init_0 9 rfl rfl)
theorem dX9_init_10 : decode cX9_init 10 = .ok (.iload_n 2, 1) := dk_28 (dk_at dksX9_init_0 10 rfl rfl)
theorem dX9_init_11 : decode cX9_init 11 = .ok (.putfield 13, 3) := dk_181 0 13 (dk_at dksX9_init_0 11 rfl rfl)
theorem dX9_init_14 : decode cX9_init 14 = .ok (.aload_n 0, 1) := dk_42 (dk_at dksX9_init_0 14 rfl rfl)
theorem dX9_init_15 : decode cX9_init 15 = .ok (.aload_n 3, 1) := dk_45 (dk_at dksX9_init_0 15 rfl rfl)
theorem dX9_init_16 : decode cX9_init 16 = .ok (.putfield 17, 3) := dk_181 0 17 (dk_at dksX9_init_0 16 rfl rfl)
theorem dX9_init_19 : decode cX9_init 19 = .ok (.return_, 1) := dk_177 (dk_at dksX9_init_0 19 rfl rfl)
theorem q156 : (Jvm.Cond.initialized "LimbBenches$Told") ∈ lw_all := lw_g (lw_at lw_m1 28 rfl) rfl
theorem q761 : (Jvm.Cond.selects "LimbBenches$Told" ({ cls := "LimbBenches$Clause", name := "tells", desc := "(CI)Z" } : Jvm.MethodName) ({ cls := "LimbBenches$Told", name := "tells", desc := "(CI)Z" } : Jvm.MethodName)) ∈ lw_all := lw_g (lw_at lw_m3 153 rfl) rfl
theorem q762 : (Jvm.Cond.instanceMethod ({ cls := "LimbBenches$Told", name := "tells", desc := "(CI)Z" } : Jvm.MethodName)) ∈ lw_all := lw_g (lw_at lw_m3 154 rfl) rfl
theorem q763 : (Jvm.Cond.code ({ cls := "LimbBenches$Told", name := "tells", desc := "(CI)Z" } : Jvm.MethodName) prog_26_method_2_code (3 : Nat) (Option.some Jvm.ClassFile.FieldType.boolean)) ∈ lw_all := lw_g (lw_at lw_m3 155 rfl) rfl
theorem q771 : (Jvm.Cond.selects "LimbBenches$Told" ({ cls := "LimbBenches$Clause", name := "holds", desc := "([I)Z" } : Jvm.MethodName) ({ cls := "LimbBenches$Clause", name := "holds", desc := "([I)Z" } : Jvm.MethodName)) ∈ lw_all := lw_g (lw_at lw_m3 163 rfl) rfl
theorem q819 : (Jvm.Cond.selects "LimbBenches$Told" ({ cls := "LimbBenches$Clause", name := "value", desc := "([I)I" } : Jvm.MethodName) ({ cls := "LimbBenches$Told", name := "value", desc := "([I)I" } : Jvm.MethodName)) ∈ lw_all := lw_g (lw_at lw_m3 211 rfl) rfl
theorem q820 : (Jvm.Cond.instanceMethod ({ cls := "LimbBenches$Told", name := "value", desc := "([I)I" } : Jvm.MethodName)) ∈ lw_all := lw_g (lw_at lw_m3 212 rfl) rfl
theorem q821 : (Jvm.Cond.code ({ cls := "LimbBenches$Told", name := "value", desc := "([I)I" } : Jvm.MethodName) prog_26_method_3_code (2 : Nat) (Option.some Jvm.ClassFile.FieldType.int)) ∈ lw_all := lw_g (lw_at lw_m3 213 rfl) rfl
theorem q822 : (Jvm.Cond.interfaceEntry "LimbBenches$Told" (21 : Nat)) ∈ lw_tbl := lw_at lw_m3 214 rfl
theorem q823 : (Jvm.Cond.methodLink "LimbBenches$Told" (21 : Nat) ({ cls := "LimbBenches$Expr", name := "of", desc := "([I)I" } : Jvm.MethodName)) ∈ lw_all := lw_g (lw_at lw_m3 215 rfl) rfl
theorem q847 : (Jvm.Cond.selects "LimbBenches$Told" ({ cls := "LimbBenches$Clause", name := "needs", desc := "()I" } : Jvm.MethodName) ({ cls := "LimbBenches$Clause", name := "needs", desc := "()I" } : Jvm.MethodName)) ∈ lw_all := lw_g (lw_at lw_m3 239 rfl) rfl
theorem q909 : (Jvm.Cond.selects "LimbBenches$Told" ({ cls := "LimbBenches$Clause", name := "recalls", desc := "(LLimbBenches$Part;[I)Z" } : Jvm.MethodName) ({ cls := "LimbBenches$Clause", name := "recalls", desc := "(LLimbBenches$Part;[I)Z" } : Jvm.MethodName)) ∈ lw_all := lw_g (lw_at lw_m4 61 rfl) rfl
theorem q1031 : (Jvm.Cond.selects "LimbBenches$Told" ({ cls := "java/lang/Object", name := "getClass", desc := "()Ljava/lang/Class;" } : Jvm.MethodName) ({ cls := "java/lang/Object", name := "getClass", desc := "()Ljava/lang/Class;" } : Jvm.MethodName)) ∈ lw_all := lw_g (lw_at lw_m4 183 rfl) rfl
theorem q1484 : (Jvm.Cond.instanceMethod ({ cls := "LimbBenches$Told", name := "<init>", desc := "(CILLimbBenches$Expr;)V" } : Jvm.MethodName)) ∈ lw_all := lw_g (lw_at lw_m6 156 rfl) rfl
theorem q1485 : (Jvm.Cond.code ({ cls := "LimbBenches$Told", name := "<init>", desc := "(CILLimbBenches$Expr;)V" } : Jvm.MethodName) prog_26_method_1_code (4 : Nat) (Option.none : Option Jvm.ClassFile.FieldType)) ∈ lw_all := lw_g (lw_at lw_m6 157 rfl) rfl
theorem q1486 : (Jvm.Cond.methodLinkNest "LimbBenches$Told" (1 : Nat) ({ cls := "LimbBenches$Clause", name := "<init>", desc := "()V" } : Jvm.MethodName) "LimbBenches") ∈ lw_tbl := lw_at lw_m6 158 rfl
theorem q1487 : (Jvm.Cond.fieldLink "LimbBenches$Told" (7 : Nat) "LimbBenches$Told" "what" "C") ∈ lw_all := lw_g (lw_at lw_m6 159 rfl) rfl
theorem q1488 : (Jvm.Cond.fieldLink "LimbBenches$Told" (13 : Nat) "LimbBenches$Told" "kind" "I") ∈ lw_all := lw_g (lw_at lw_m6 160 rfl) rfl
theorem q1489 : (Jvm.Cond.fieldLink "LimbBenches$Told" (17 : Nat) "LimbBenches$Told" "e" "LLimbBenches$Expr;") ∈ lw_all := lw_g (lw_at lw_m6 161 rfl) rfl
theorem q1490 : (Jvm.Cond.laysFinal "LimbBenches$Told" "LimbBenches$Told" "what" "C") ∈ lw_all := lw_g (lw_at lw_m6 162 rfl) rfl
theorem q1491 : (Jvm.Cond.soleField "LimbBenches$Told" "what") ∈ lw_all := lw_g (lw_at lw_m6 163 rfl) rfl
theorem q1492 : (Jvm.Cond.laysFinal "LimbBenches$Told" "LimbBenches$Told" "kind" "I") ∈ lw_all := lw_g (lw_at lw_m6 164 rfl) rfl
theorem q1493 : (Jvm.Cond.soleField "LimbBenches$Told" "kind") ∈ lw_all := lw_g (lw_at lw_m6 165 rfl) rfl
theorem q1494 : (Jvm.Cond.laysFinal "LimbBenches$Told" "LimbBenches$Told" "e" "LLimbBenches$Expr;") ∈ lw_all := lw_g (lw_at lw_m6 166 rfl) rfl
theorem q1495 : (Jvm.Cond.soleField "LimbBenches$Told" "e") ∈ lw_all := lw_g (lw_at lw_m6 167 rfl) rfl
theorem q1496 : (Jvm.Cond.lays "LimbBenches$Told" "LimbBenches$Clause" "c" "LLimbBenches$Cond;") ∈ lw_all := lw_g (lw_at lw_m6 168 rfl) rfl
theorem q1497 : (Jvm.Cond.superclass "LimbBenches$Told" "LimbBenches$Clause") ∈ lw_all := lw_g (lw_at lw_m6 169 rfl) rfl
theorem q1797 : (Jvm.Cond.selects "LimbBenches$Told" ({ cls := "LimbBenches$Clause", name := "bars", desc := "(II[I)Z" } : Jvm.MethodName) ({ cls := "LimbBenches$Clause", name := "bars", desc := "(II[I)Z" } : Jvm.MethodName)) ∈ lw_all := lw_g (lw_at lw_m7 229 rfl) rfl
theorem q3196 : (Jvm.Cond.castable "LimbBenches$Told" "LimbBenches$Clause") ∈ lw_tbl := lw_at lw_m13 188 rfl
theorem q3210 : (Jvm.Cond.castable "LimbBenches$Told" "java/lang/Object") ∈ lw_tbl := lw_at lw_m13 202 rfl

/-! LimbBenches$Num -/
set_option maxRecDepth 100000
abbrev cX10_of : ByteArray := prog_17_method_2_code
def yX10_of : MethodName := ⟨RX10, "of", "([I)I"⟩
theorem dX10_of_0 : decode cX10_of 0 = .ok (.aload_n 0, 1) := by decide +kernel
theorem dX10_of_1 : decode cX10_of 1 = .ok (.getfield 7, 3) := by decide +kernel
theorem dX10_of_4 : decode cX10_of 4 = .ok (.ireturn, 1) := by decide +kernel
abbrev cX10_init : ByteArray := prog_17_method_1_code
def yX10_init : MethodName := ⟨RX10, "<init>", "(I)V"⟩
def dkwX10_init_0 : List UInt8 := [42, 183, 0, 1, 42, 27, 181, 0, 7, 177]
abbrev dktX10_init_0 : List UInt8 := dkwX10_init_0 ++ []
theorem dksX10_init_0 : cX10_init.data.toList.drop 0 = dktX10_init_0 := by decide +kernel
theorem dX10_init_0 : decode cX10_init 0 = .ok (.aload_n 0, 1) := dk_42 (dk_at dksX10_init_0 0 rfl rfl)
theorem dX10_init_1 : decode cX10_init 1 = .ok (.invokespecial 1, 3) := dk_183 0 1 (dk_at dksX10_init_0 1 rfl rfl)
theorem dX10_init_4 : decode cX10_init 4 = .ok (.aload_n 0, 1) := dk_42 (dk_at dksX10_init_0 4 rfl rfl)
theorem dX10_init_5 : decode cX10_init 5 = .ok (.iload_n 1, 1) := dk_27 (dk_at dksX10_init_0 5 rfl rfl)
theorem dX10_init_6 : decode cX10_init 6 = .ok (.putfield 7, 3) := dk_181 0 7 (dk_at dksX10_init_0 6 rfl rfl)
theorem dX10_init_9 : decode cX10_init 9 = .ok (.return_, 1) := dk_177 (dk_at dksX10_init_0 9 rfl rfl)
theorem q157 : (Jvm.Cond.initialized "LimbBenches$Num") ∈ lw_all := lw_g (lw_at lw_m1 29 rfl) rfl
theorem q792 : (Jvm.Cond.castable "LimbBenches$Num" "LimbBenches$Expr") ∈ lw_tbl := lw_at lw_m3 184 rfl
theorem q793 : (Jvm.Cond.selects "LimbBenches$Num" ({ cls := "LimbBenches$Expr", name := "of", desc := "([I)I" } : Jvm.MethodName) ({ cls := "LimbBenches$Num", name := "of", desc := "([I)I" } : Jvm.MethodName)) ∈ lw_all := lw_g (lw_at lw_m3 185 rfl) rfl
theorem q794 : (Jvm.Cond.unhidden "LimbBenches$Num" "of" "([I)I") ∈ lw_tbl := lw_at lw_m3 186 rfl
theorem q795 : (Jvm.Cond.instanceMethod ({ cls := "LimbBenches$Num", name := "of", desc := "([I)I" } : Jvm.MethodName)) ∈ lw_all := lw_g (lw_at lw_m3 187 rfl) rfl
theorem q796 : (Jvm.Cond.publicMethod ({ cls := "LimbBenches$Num", name := "of", desc := "([I)I" } : Jvm.MethodName)) ∈ lw_tbl := lw_at lw_m3 188 rfl
theorem q797 : (Jvm.Cond.code ({ cls := "LimbBenches$Num", name := "of", desc := "([I)I" } : Jvm.MethodName) prog_17_method_2_code (2 : Nat) (Option.some Jvm.ClassFile.FieldType.int)) ∈ lw_all := lw_g (lw_at lw_m3 189 rfl) rfl
theorem q1022 : (Jvm.Cond.selects "LimbBenches$Num" ({ cls := "java/lang/Object", name := "getClass", desc := "()Ljava/lang/Class;" } : Jvm.MethodName) ({ cls := "java/lang/Object", name := "getClass", desc := "()Ljava/lang/Class;" } : Jvm.MethodName)) ∈ lw_all := lw_g (lw_at lw_m4 174 rfl) rfl
theorem q1412 : (Jvm.Cond.instanceMethod ({ cls := "LimbBenches$Num", name := "<init>", desc := "(I)V" } : Jvm.MethodName)) ∈ lw_all := lw_g (lw_at lw_m6 84 rfl) rfl
theorem q1413 : (Jvm.Cond.code ({ cls := "LimbBenches$Num", name := "<init>", desc := "(I)V" } : Jvm.MethodName) prog_17_method_1_code (2 : Nat) (Option.none : Option Jvm.ClassFile.FieldType)) ∈ lw_all := lw_g (lw_at lw_m6 85 rfl) rfl
theorem q1414 : (Jvm.Cond.methodLink "LimbBenches$Num" (1 : Nat) ({ cls := "java/lang/Object", name := "<init>", desc := "()V" } : Jvm.MethodName)) ∈ lw_all := lw_g (lw_at lw_m6 86 rfl) rfl
theorem q1415 : (Jvm.Cond.fieldLink "LimbBenches$Num" (7 : Nat) "LimbBenches$Num" "v" "I") ∈ lw_all := lw_g (lw_at lw_m6 87 rfl) rfl
theorem q1416 : (Jvm.Cond.laysFinal "LimbBenches$Num" "LimbBenches$Num" "v" "I") ∈ lw_all := lw_g (lw_at lw_m6 88 rfl) rfl
theorem q1417 : (Jvm.Cond.soleField "LimbBenches$Num" "v") ∈ lw_all := lw_g (lw_at lw_m6 89 rfl) rfl
theorem q1418 : (Jvm.Cond.superclass "LimbBenches$Num" "java/lang/Object") ∈ lw_all := lw_g (lw_at lw_m6 90 rfl) rfl
theorem q3211 : (Jvm.Cond.castable "LimbBenches$Num" "java/lang/Object") ∈ lw_tbl := lw_at lw_m13 203 rfl

/-! LimbBenches$Two -/
set_option maxRecDepth 100000
abbrev cX11_of : ByteArray := prog_27_method_2_code
def yX11_of : MethodName := ⟨RX11, "of", "([I)I"⟩
def dkwX11_of_4 : List UInt8 := [28, 29, 184, 0, 26, 172, 28, 29, 184, 0, 32, 172]
abbrev dktX11_of_4 : List UInt8 := dkwX11_of_4 ++ []
def dkwX11_of_3 : List UInt8 := [28, 29, 96, 172, 28, 29, 100, 172, 28, 29, 104, 172, 29, 154, 0, 7, 3, 167, 0, 6, 28, 29, 108, 172]
abbrev dktX11_of_3 : List UInt8 := dkwX11_of_3 ++ dktX11_of_4
def dkwX11_of_2 : List UInt8 := [171, 0, 0, 0, 0, 80, 0, 0, 0, 5, 0, 0, 0, 42, 0, 0, 0, 58, 0, 0, 0, 43, 0, 0, 0, 50, 0, 0, 0, 45, 0, 0, 0, 54, 0, 0, 0, 47, 0, 0, 0, 62, 0, 0, 0, 108, 0, 0, 0, 74]
abbrev dktX11_of_2 : List UInt8 := dkwX11_of_2 ++ dktX11_of_3
def dkwX11_of_1 : List UInt8 := [180, 0, 7]
abbrev dktX11_of_1 : List UInt8 := dkwX11_of_1 ++ dktX11_of_2
def dkwX11_of_0 : List UInt8 := [42, 180, 0, 13, 43, 185, 0, 20, 2, 0, 61, 42, 180, 0, 17, 43, 185, 0, 20, 2, 0, 62, 42]
abbrev dktX11_of_0 : List UInt8 := dkwX11_of_0 ++ dktX11_of_1
theorem dksX11_of_0 : cX11_of.data.toList.drop 0 = dktX11_of_0 := by decide +kernel
theorem dksX11_of_1 : cX11_of.data.toList.drop 23 = dktX11_of_1 := dk_seg dksX11_of_0 23 rfl rfl
theorem dksX11_of_2 : cX11_of.data.toList.drop 26 = dktX11_of_2 := dk_seg dksX11_of_1 3 rfl rfl
theorem dksX11_of_3 : cX11_of.data.toList.drop 76 = dktX11_of_3 := dk_seg dksX11_of_2 50 rfl rfl
theorem dksX11_of_4 : cX11_of.data.toList.drop 100 = dktX11_of_4 := dk_seg dksX11_of_3 24 rfl rfl
theorem dX11_of_0 : decode cX11_of 0 = .ok (.aload_n 0, 1) := dk_42 (dk_at dksX11_of_0 0 rfl rfl)
theorem dX11_of_1 : decode cX11_of 1 = .ok (.getfield 13, 3) := dk_180 0 13 (dk_at dksX11_of_0 1 rfl rfl)
theorem dX11_of_4 : decode cX11_of 4 = .ok (.aload_n 1, 1) := dk_43 (dk_at dksX11_of_0 4 rfl rfl)
theorem dX11_of_5 : decode cX11_of 5 = .ok (.invokeinterface 20 2, 5) := by decide +kernel
theorem dX11_of_10 : decode cX11_of 10 = .ok (.istore_n 2, 1) := dk_61 (dk_at dksX11_of_0 10 rfl rfl)
theorem dX11_of_11 : decode cX11_of 11 = .ok (.aload_n 0, 1) := dk_42 (dk_at dksX11_of_0 11 rfl rfl)
theorem dX11_of_12 : decode cX11_of 12 = .ok (.getfield 17, 3) := dk_180 0 17 (dk_at dksX11_of_0 12 rfl rfl)
theorem dX11_of_15 : decode cX11_of 15 = .ok (.aload_n 1, 1) := dk_43 (dk_at dksX11_of_0 15 rfl rfl)
theorem dX11_of_16 : decode cX11_of 16 = .ok (.invokeinterface 20 2, 5) := by decide +kernel
theorem dX11_of_21 : decode cX11_of 21 = .ok (.istore_n 3, 1) := dk_62 (dk_at dksX11_of_0 21 rfl rfl)
theorem dX11_of_22 : decode cX11_of 22 = .ok (.aload_n 0, 1) := dk_42 (dk_at dksX11_of_0 22 rfl rfl)
theorem dX11_of_23 : decode cX11_of 23 = .ok (.getfield 7, 3) := dk_180 0 7 (dk_at dksX11_of_1 0 rfl rfl)
theorem dX11_of_26 : decode cX11_of 26 = .ok (.lookupswitch 80 #[(42, 58), (43, 50), (45, 54), (47, 62), (108, 74)], 50) := by decide +kernel
theorem dX11_of_76 : decode cX11_of 76 = .ok (.iload_n 2, 1) := dk_28 (dk_at dksX11_of_3 0 rfl rfl)
theorem dX11_of_77 : decode cX11_of 77 = .ok (.iload_n 3, 1) := dk_29 (dk_at dksX11_of_3 1 rfl rfl)
theorem dX11_of_78 : decode cX11_of 78 = .ok (.iadd, 1) := dk_96 (dk_at dksX11_of_3 2 rfl rfl)
theorem dX11_of_79 : decode cX11_of 79 = .ok (.ireturn, 1) := dk_172 (dk_at dksX11_of_3 3 rfl rfl)
theorem dX11_of_80 : decode cX11_of 80 = .ok (.iload_n 2, 1) := dk_28 (dk_at dksX11_of_3 4 rfl rfl)
theorem dX11_of_81 : decode cX11_of 81 = .ok (.iload_n 3, 1) := dk_29 (dk_at dksX11_of_3 5 rfl rfl)
theorem dX11_of_82 : decode cX11_of 82 = .ok (.isub, 1) := dk_100 (dk_at dksX11_of_3 6 rfl rfl)
theorem dX11_of_83 : decode cX11_of 83 = .ok (.ireturn, 1) := dk_172 (dk_at dksX11_of_3 7 rfl rfl)
theorem dX11_of_84 : decode cX11_of 84 = .ok (.iload_n 2, 1) := dk_28 (dk_at dksX11_of_3 8 rfl rfl)
theorem dX11_of_85 : decode cX11_of 85 = .ok (.iload_n 3, 1) := dk_29 (dk_at dksX11_of_3 9 rfl rfl)
theorem dX11_of_86 : decode cX11_of 86 = .ok (.imul, 1) := dk_104 (dk_at dksX11_of_3 10 rfl rfl)
theorem dX11_of_87 : decode cX11_of 87 = .ok (.ireturn, 1) := dk_172 (dk_at dksX11_of_3 11 rfl rfl)
theorem dX11_of_88 : decode cX11_of 88 = .ok (.iload_n 3, 1) := dk_29 (dk_at dksX11_of_3 12 rfl rfl)
theorem dX11_of_89 : decode cX11_of 89 = .ok (.ifCond .ne 7, 3) := dk_154 0 7 (dk_at dksX11_of_3 13 rfl rfl)
theorem dX11_of_92 : decode cX11_of 92 = .ok (.iconst 0, 1) := dk_3 (dk_at dksX11_of_3 16 rfl rfl)
theorem dX11_of_93 : decode cX11_of 93 = .ok (.goto 6, 3) := dk_167 0 6 (dk_at dksX11_of_3 17 rfl rfl)
theorem dX11_of_96 : decode cX11_of 96 = .ok (.iload_n 2, 1) := dk_28 (dk_at dksX11_of_3 20 rfl rfl)
theorem dX11_of_97 : decode cX11_of 97 = .ok (.iload_n 3, 1) := dk_29 (dk_at dksX11_of_3 21 rfl rfl)
theorem dX11_of_98 : decode cX11_of 98 = .ok (.idiv, 1) := dk_108 (dk_at dksX11_of_3 22 rfl rfl)
theorem dX11_of_99 : decode cX11_of 99 = .ok (.ireturn, 1) := dk_172 (dk_at dksX11_of_3 23 rfl rfl)
theorem dX11_of_100 : decode cX11_of 100 = .ok (.iload_n 2, 1) := dk_28 (dk_at dksX11_of_4 0 rfl rfl)
theorem dX11_of_101 : decode cX11_of 101 = .ok (.iload_n 3, 1) := dk_29 (dk_at dksX11_of_4 1 rfl rfl)
theorem dX11_of_102 : decode cX11_of 102 = .ok (.invokestatic 26, 3) := dk_184 0 26 (dk_at dksX11_of_4 2 rfl rfl)
theorem dX11_of_105 : decode cX11_of 105 = .ok (.ireturn, 1) := dk_172 (dk_at dksX11_of_4 5 rfl rfl)
theorem dX11_of_106 : decode cX11_of 106 = .ok (.iload_n 2, 1) := dk_28 (dk_at dksX11_of_4 6 rfl rfl)
theorem dX11_of_107 : decode cX11_of 107 = .ok (.iload_n 3, 1) := dk_29 (dk_at dksX11_of_4 7 rfl rfl)
theorem dX11_of_108 : decode cX11_of 108 = .ok (.invokestatic 32, 3) := dk_184 0 32 (dk_at dksX11_of_4 8 rfl rfl)
theorem dX11_of_111 : decode cX11_of 111 = .ok (.ireturn, 1) := dk_172 (dk_at dksX11_of_4 11 rfl rfl)
abbrev cX11_init : ByteArray := prog_27_method_1_code
def yX11_init : MethodName := ⟨RX11, "<init>", "(CLLimbBenches$Expr;LLimbBenches$Expr;)V"⟩
def dkwX11_init_0 : List UInt8 := [42, 183, 0, 1, 42, 27, 181, 0, 7, 42, 44, 181, 0, 13, 42, 45, 181, 0, 17, 177]
abbrev dktX11_init_0 : List UInt8 := dkwX11_init_0 ++ []
theorem dksX11_init_0 : cX11_init.data.toList.drop 0 = dktX11_init_0 := by decide +kernel
theorem dX11_init_0 : decode cX11_init 0 = .ok (.aload_n 0, 1) := dk_42 (dk_at dksX11_init_0 0 rfl rfl)
theorem dX11_init_1 : decode cX11_init 1 = .ok (.invokespecial 1, 3) := dk_183 0 1 (dk_at dksX11_init_0 1 rfl rfl)
theorem dX11_init_4 : decode cX11_init 4 = .ok (.aload_n 0, 1) := dk_42 (dk_at dksX11_init_0 4 rfl rfl)
theorem dX11_init_5 : decode cX11_init 5 = .ok (.iload_n 1, 1) := dk_27 (dk_at dksX11_init_0 5 rfl rfl)
theorem dX11_init_6 : decode cX11_init 6 = .ok (.putfield 7, 3) := dk_181 0 7 (dk_at dksX11_init_0 6 rfl rfl)
theorem dX11_init_9 : decode cX11_init 9 = .ok (.aload_n 0, 1) := dk_42 (dk_at dksX11_init_0 9 rfl rfl)
theorem dX11_init_10 : decode cX11_init 10 = .ok (.aload_n 2, 1) := dk_44 (dk_at dksX11_init_0 10 rfl rfl)
theorem dX11_init_11 : decode cX11_init 11 = .ok (.putfield 13, 3) := dk_181 0 13 (dk_at dksX11_init_0 11 rfl rfl)
theorem dX11_init_14 : decode cX11_init 14 = .ok (.aload_n 0, 1) := dk_42 (dk_at dksX11_init_0 14 rfl rfl)
theorem dX11_init_15 : decode cX11_init 15 = .ok (.aload_n 3, 1) := dk_45 (dk_at dksX11_init_0 15 rfl rfl)
theorem dX11_init_16 : decode cX11_init 16 = .ok (.putfield 17, 3) := dk_181 0 17 (dk_at dksX11_init_0 16 rfl rfl)
theorem dX11_init_19 : decode cX11_init 19 = .ok (.return_, 1) := dk_177 (dk_at dksX11_init_0 19 rfl rfl)
theorem q158 : (Jvm.Cond.initialized "LimbBenches$Two") ∈ lw_all := lw_g (lw_at lw_m1 30 rfl) rfl
theorem q798 : (Jvm.Cond.castable "LimbBenches$Two" "LimbBenches$Expr") ∈ lw_tbl := lw_at lw_m3 190 rfl
theorem q799 : (Jvm.Cond.selects "LimbBenches$Two" ({ cls := "LimbBenches$Expr", name := "of", desc := "([I)I" } : Jvm.MethodName) ({ cls := "LimbBenches$Two", name := "of", desc := "([I)I" } : Jvm.MethodName)) ∈ lw_all := lw_g (lw_at lw_m3 191 rfl) rfl
theorem q800 : (Jvm.Cond.unhidden "LimbBenches$Two" "of" "([I)I") ∈ lw_tbl := lw_at lw_m3 192 rfl
theorem q801 : (Jvm.Cond.instanceMethod ({ cls := "LimbBenches$Two", name := "of", desc := "([I)I" } : Jvm.MethodName)) ∈ lw_all := lw_g (lw_at lw_m3 193 rfl) rfl
theorem q802 : (Jvm.Cond.publicMethod ({ cls := "LimbBenches$Two", name := "of", desc := "([I)I" } : Jvm.MethodName)) ∈ lw_tbl := lw_at lw_m3 194 rfl
theorem q803 : (Jvm.Cond.code ({ cls := "LimbBenches$Two", name := "of", desc := "([I)I" } : Jvm.MethodName) prog_27_method_2_code (4 : Nat) (Option.some Jvm.ClassFile.FieldType.int)) ∈ lw_all := lw_g (lw_at lw_m3 195 rfl) rfl
theorem q804 : (Jvm.Cond.interfaceEntry "LimbBenches$Two" (20 : Nat)) ∈ lw_tbl := lw_at lw_m3 196 rfl
theorem q805 : (Jvm.Cond.methodLink "LimbBenches$Two" (20 : Nat) ({ cls := "LimbBenches$Expr", name := "of", desc := "([I)I" } : Jvm.MethodName)) ∈ lw_all := lw_g (lw_at lw_m3 197 rfl) rfl
theorem q806 : (Jvm.Cond.methodLink "LimbBenches$Two" (26 : Nat) ({ cls := "java/lang/Math", name := "min", desc := "(II)I" } : Jvm.MethodName)) ∈ lw_all := lw_g (lw_at lw_m3 198 rfl) rfl
theorem q807 : (Jvm.Cond.methodLink "LimbBenches$Two" (32 : Nat) ({ cls := "java/lang/Math", name := "max", desc := "(II)I" } : Jvm.MethodName)) ∈ lw_all := lw_g (lw_at lw_m3 199 rfl) rfl
theorem q1032 : (Jvm.Cond.selects "LimbBenches$Two" ({ cls := "java/lang/Object", name := "getClass", desc := "()Ljava/lang/Class;" } : Jvm.MethodName) ({ cls := "java/lang/Object", name := "getClass", desc := "()Ljava/lang/Class;" } : Jvm.MethodName)) ∈ lw_all := lw_g (lw_at lw_m4 184 rfl) rfl
theorem q1451 : (Jvm.Cond.instanceMethod ({ cls := "LimbBenches$Two", name := "<init>", desc := "(CLLimbBenches$Expr;LLimbBenches$Expr;)V" } : Jvm.MethodName)) ∈ lw_all := lw_g (lw_at lw_m6 123 rfl) rfl
theorem q1452 : (Jvm.Cond.code ({ cls := "LimbBenches$Two", name := "<init>", desc := "(CLLimbBenches$Expr;LLimbBenches$Expr;)V" } : Jvm.MethodName) prog_27_method_1_code (4 : Nat) (Option.none : Option Jvm.ClassFile.FieldType)) ∈ lw_all := lw_g (lw_at lw_m6 124 rfl) rfl
theorem q1453 : (Jvm.Cond.methodLink "LimbBenches$Two" (1 : Nat) ({ cls := "java/lang/Object", name := "<init>", desc := "()V" } : Jvm.MethodName)) ∈ lw_all := lw_g (lw_at lw_m6 125 rfl) rfl
theorem q1454 : (Jvm.Cond.fieldLink "LimbBenches$Two" (7 : Nat) "LimbBenches$Two" "sign" "C") ∈ lw_all := lw_g (lw_at lw_m6 126 rfl) rfl
theorem q1455 : (Jvm.Cond.fieldLink "LimbBenches$Two" (13 : Nat) "LimbBenches$Two" "a" "LLimbBenches$Expr;") ∈ lw_all := lw_g (lw_at lw_m6 127 rfl) rfl
theorem q1456 : (Jvm.Cond.fieldLink "LimbBenches$Two" (17 : Nat) "LimbBenches$Two" "b" "LLimbBenches$Expr;") ∈ lw_all := lw_g (lw_at lw_m6 128 rfl) rfl
theorem q1457 : (Jvm.Cond.laysFinal "LimbBenches$Two" "LimbBenches$Two" "sign" "C") ∈ lw_all := lw_g (lw_at lw_m6 129 rfl) rfl
theorem q1458 : (Jvm.Cond.soleField "LimbBenches$Two" "sign") ∈ lw_all := lw_g (lw_at lw_m6 130 rfl) rfl
theorem q1459 : (Jvm.Cond.laysFinal "LimbBenches$Two" "LimbBenches$Two" "a" "LLimbBenches$Expr;") ∈ lw_all := lw_g (lw_at lw_m6 131 rfl) rfl
theorem q1460 : (Jvm.Cond.soleField "LimbBenches$Two" "a") ∈ lw_all := lw_g (lw_at lw_m6 132 rfl) rfl
theorem q1461 : (Jvm.Cond.laysFinal "LimbBenches$Two" "LimbBenches$Two" "b" "LLimbBenches$Expr;") ∈ lw_all := lw_g (lw_at lw_m6 133 rfl) rfl
theorem q1462 : (Jvm.Cond.soleField "LimbBenches$Two" "b") ∈ lw_all := lw_g (lw_at lw_m6 134 rfl) rfl
theorem q1463 : (Jvm.Cond.superclass "LimbBenches$Two" "java/lang/Object") ∈ lw_all := lw_g (lw_at lw_m6 135 rfl) rfl
theorem q3212 : (Jvm.Cond.castable "LimbBenches$Two" "java/lang/Object") ∈ lw_tbl := lw_at lw_m13 204 rfl

/-! LimbBenches$Name -/
set_option maxRecDepth 100000
abbrev cX12_of : ByteArray := prog_14_method_2_code
def yX12_of : MethodName := ⟨RX12, "of", "([I)I"⟩
def dkwX12_of_0 : List UInt8 := [43, 42, 180, 0, 7, 46, 172]
abbrev dktX12_of_0 : List UInt8 := dkwX12_of_0 ++ []
theorem dksX12_of_0 : cX12_of.data.toList.drop 0 = dktX12_of_0 := by decide +kernel
theorem dX12_of_0 : decode cX12_of 0 = .ok (.aload_n 1, 1) := dk_43 (dk_at dksX12_of_0 0 rfl rfl)
theorem dX12_of_1 : decode cX12_of 1 = .ok (.aload_n 0, 1) := dk_42 (dk_at dksX12_of_0 1 rfl rfl)
theorem dX12_of_2 : decode cX12_of 2 = .ok (.getfield 7, 3) := dk_180 0 7 (dk_at dksX12_of_0 2 rfl rfl)
theorem dX12_of_5 : decode cX12_of 5 = .ok (.iaload, 1) := dk_46 (dk_at dksX12_of_0 5 rfl rfl)
theorem dX12_of_6 : decode cX12_of 6 = .ok (.ireturn, 1) := dk_172 (dk_at dksX12_of_0 6 rfl rfl)
abbrev cX12_init : ByteArray := prog_14_method_1_code
def yX12_init : MethodName := ⟨RX12, "<init>", "(I)V"⟩
def dkwX12_init_0 : List UInt8 := [42, 183, 0, 1, 42, 27, 181, 0, 7, 177]
abbrev dktX12_init_0 : List UInt8 := dkwX12_init_0 ++ []
theorem dksX12_init_0 : cX12_init.data.toList.drop 0 = dktX12_init_0 := by decide +kernel
theorem dX12_init_0 : decode cX12_init 0 = .ok (.aload_n 0, 1) := dk_42 (dk_at dksX12_init_0 0 rfl rfl)
theorem dX12_init_1 : decode cX12_init 1 = .ok (.invokespecial 1, 3) := dk_183 0 1 (dk_at dksX12_init_0 1 rfl rfl)
theorem dX12_init_4 : decode cX12_init 4 = .ok (.aload_n 0, 1) := dk_42 (dk_at dksX12_init_0 4 rfl rfl)
theorem dX12_init_5 : decode cX12_init 5 = .ok (.iload_n 1, 1) := dk_27 (dk_at dksX12_init_0 5 rfl rfl)
theorem dX12_init_6 : decode cX12_init 6 = .ok (.putfield 7, 3) := dk_181 0 7 (dk_at dksX12_init_0 6 rfl rfl)
theorem dX12_init_9 : decode cX12_init 9 = .ok (.return_, 1) := dk_177 (dk_at dksX12_init_0 9 rfl rfl)
theorem q159 : (Jvm.Cond.initialized "LimbBenches$Name") ∈ lw_all := lw_g (lw_at lw_m1 31 rfl) rfl
theorem q786 : (Jvm.Cond.castable "LimbBenches$Name" "LimbBenches$Expr") ∈ lw_tbl := lw_at lw_m3 178 rfl
theorem q787 : (Jvm.Cond.selects "LimbBenches$Name" ({ cls := "LimbBenches$Expr", name := "of", desc := "([I)I" } : Jvm.MethodName) ({ cls := "LimbBenches$Name", name := "of", desc := "([I)I" } : Jvm.MethodName)) ∈ lw_all := lw_g (lw_at lw_m3 179 rfl) rfl
theorem q788 : (Jvm.Cond.unhidden "LimbBenches$Name" "of" "([I)I") ∈ lw_tbl := lw_at lw_m3 180 rfl
theorem q789 : (Jvm.Cond.instanceMethod ({ cls := "LimbBenches$Name", name := "of", desc := "([I)I" } : Jvm.MethodName)) ∈ lw_all := lw_g (lw_at lw_m3 181 rfl) rfl
theorem q790 : (Jvm.Cond.publicMethod ({ cls := "LimbBenches$Name", name := "of", desc := "([I)I" } : Jvm.MethodName)) ∈ lw_tbl := lw_at lw_m3 182 rfl
theorem q791 : (Jvm.Cond.code ({ cls := "LimbBenches$Name", name := "of", desc := "([I)I" } : Jvm.MethodName) prog_14_method_2_code (2 : Nat) (Option.some Jvm.ClassFile.FieldType.int)) ∈ lw_all := lw_g (lw_at lw_m3 183 rfl) rfl
theorem q1019 : (Jvm.Cond.selects "LimbBenches$Name" ({ cls := "java/lang/Object", name := "getClass", desc := "()Ljava/lang/Class;" } : Jvm.MethodName) ({ cls := "java/lang/Object", name := "getClass", desc := "()Ljava/lang/Class;" } : Jvm.MethodName)) ∈ lw_all := lw_g (lw_at lw_m4 171 rfl) rfl
theorem q1476 : (Jvm.Cond.instanceMethod ({ cls := "LimbBenches$Name", name := "<init>", desc := "(I)V" } : Jvm.MethodName)) ∈ lw_all := lw_g (lw_at lw_m6 148 rfl) rfl
theorem q1477 : (Jvm.Cond.code ({ cls := "LimbBenches$Name", name := "<init>", desc := "(I)V" } : Jvm.MethodName) prog_14_method_1_code (2 : Nat) (Option.none : Option Jvm.ClassFile.FieldType)) ∈ lw_all := lw_g (lw_at lw_m6 149 rfl) rfl
theorem q1478 : (Jvm.Cond.methodLink "LimbBenches$Name" (1 : Nat) ({ cls := "java/lang/Object", name := "<init>", desc := "()V" } : Jvm.MethodName)) ∈ lw_all := lw_g (lw_at lw_m6 150 rfl) rfl
theorem q1479 : (Jvm.Cond.fieldLink "LimbBenches$Name" (7 : Nat) "LimbBenches$Name" "at" "I") ∈ lw_all := lw_g (lw_at lw_m6 151 rfl) rfl
theorem q1480 : (Jvm.Cond.laysFinal "LimbBenches$Name" "LimbBenches$Name" "at" "I") ∈ lw_all := lw_g (lw_at lw_m6 152 rfl) rfl
theorem q1481 : (Jvm.Cond.soleField "LimbBenches$Name" "at") ∈ lw_all := lw_g (lw_at lw_m6 153 rfl) rfl
theorem q1482 : (Jvm.Cond.superclass "LimbBenches$Name" "java/lang/Object") ∈ lw_all := lw_g (lw_at lw_m6 154 rfl) rfl
theorem q3213 : (Jvm.Cond.castable "LimbBenches$Name" "java/lang/Object") ∈ lw_tbl := lw_at lw_m13 205 rfl

/-! LimbBenches$Recall -/
set_option maxRecDepth 100000
abbrev cX13_recalls : ByteArray := prog_23_method_2_code
def yX13_recalls : MethodName := ⟨RX13, "recalls", "(LLimbBenches$Part;[I)Z"⟩
def dkwX13_recalls_1 : List UInt8 := [180, 0, 22, 42, 180, 0, 16, 163, 0, 15, 42, 44, 182, 0, 25, 153, 0, 7, 4, 167, 0, 4, 3, 172]
abbrev dktX13_recalls_1 : List UInt8 := dkwX13_recalls_1 ++ []
def dkwX13_recalls_0 : List UInt8 := [43, 180, 0, 19, 42, 180, 0, 7, 160, 0, 37, 43, 180, 0, 22, 42, 180, 0, 13, 161, 0, 26, 43]
abbrev dktX13_recalls_0 : List UInt8 := dkwX13_recalls_0 ++ dktX13_recalls_1
theorem dksX13_recalls_0 : cX13_recalls.data.toList.drop 0 = dktX13_recalls_0 := by decide +kernel
theorem dksX13_recalls_1 : cX13_recalls.data.toList.drop 23 = dktX13_recalls_1 := dk_seg dksX13_recalls_0 23 rfl rfl
theorem dX13_recalls_0 : decode cX13_recalls 0 = .ok (.aload_n 1, 1) := dk_43 (dk_at dksX13_recalls_0 0 rfl rfl)
theorem dX13_recalls_1 : decode cX13_recalls 1 = .ok (.getfield 19, 3) := dk_180 0 19 (dk_at dksX13_recalls_0 1 rfl rfl)
theorem dX13_recalls_4 : decode cX13_recalls 4 = .ok (.aload_n 0, 1) := dk_42 (dk_at dksX13_recalls_0 4 rfl rfl)
theorem dX13_recalls_5 : decode cX13_recalls 5 = .ok (.getfield 7, 3) := dk_180 0 7 (dk_at dksX13_recalls_0 5 rfl rfl)
theorem dX13_recalls_8 : decode cX13_recalls 8 = .ok (.if_icmp .ne 37, 3) := dk_160 0 37 (dk_at dksX13_recalls_0 8 rfl rfl)
theorem dX13_recalls_11 : decode cX13_recalls 11 = .ok (.aload_n 1, 1) := dk_43 (dk_at dksX13_recalls_0 11 rfl rfl)
theorem dX13_recalls_12 : decode cX13_recalls 12 = .ok (.getfield 22, 3) := dk_180 0 22 (dk_at dksX13_recalls_0 12 rfl rfl)
theorem dX13_recalls_15 : decode cX13_recalls 15 = .ok (.aload_n 0, 1) := dk_42 (dk_at dksX13_recalls_0 15 rfl rfl)
theorem dX13_recalls_16 : decode cX13_recalls 16 = .ok (.getfield 13, 3) := dk_180 0 13 (dk_at dksX13_recalls_0 16 rfl rfl)
theorem dX13_recalls_19 : decode cX13_recalls 19 = .ok (.if_icmp .lt 26, 3) := dk_161 0 26 (dk_at dksX13_recalls_0 19 rfl rfl)
theorem dX13_recalls_22 : decode cX13_recalls 22 = .ok (.aload_n 1, 1) := dk_43 (dk_at dksX13_recalls_0 22 rfl rfl)
theorem dX13_recalls_23 : decode cX13_recalls 23 = .ok (.getfield 22, 3) := dk_180 0 22 (dk_at dksX13_recalls_1 0 rfl rfl)
theorem dX13_recalls_26 : decode cX13_recalls 26 = .ok (.aload_n 0, 1) := dk_42 (dk_at dksX13_recalls_1 3 rfl rfl)
theorem dX13_recalls_27 : decode cX13_recalls 27 = .ok (.getfield 16, 3) := dk_180 0 16 (dk_at dksX13_recalls_1 4 rfl rfl)
theorem dX13_recalls_30 : decode cX13_recalls 30 = .ok (.if_icmp .gt 15, 3) := dk_163 0 15 (dk_at dksX13_recalls_1 7 rfl rfl)
theorem dX13_recalls_33 : decode cX13_recalls 33 = .ok (.aload_n 0, 1) := dk_42 (dk_at dksX13_recalls_1 10 rfl rfl)
theorem dX13_recalls_34 : decode cX13_recalls 34 = .ok (.aload_n 2, 1) := dk_44 (dk_at dksX13_recalls_1 11 rfl rfl)
theorem dX13_recalls_35 : decode cX13_recalls 35 = .ok (.invokevirtual 25, 3) := dk_182 0 25 (dk_at dksX13_recalls_1 12 rfl rfl)
theorem dX13_recalls_38 : decode cX13_recalls 38 = .ok (.ifCond .eq 7, 3) := dk_153 0 7 (dk_at dksX13_recalls_1 15 rfl rfl)
theorem dX13_recalls_41 : decode cX13_recalls 41 = .ok (.iconst 1, 1) := dk_4 (dk_at dksX13_recalls_1 18 rfl rfl)
theorem dX13_recalls_42 : decode cX13_recalls 42 = .ok (.goto 4, 3) := dk_167 0 4 (dk_at dksX13_recalls_1 19 rfl rfl)
theorem dX13_recalls_45 : decode cX13_recalls 45 = .ok (.iconst 0, 1) := dk_3 (dk_at dksX13_recalls_1 22 rfl rfl)
theorem dX13_recalls_46 : decode cX13_recalls 46 = .ok (.ireturn, 1) := dk_172 (dk_at dksX13_recalls_1 23 rfl rfl)
abbrev cX13_init : ByteArray := prog_23_method_1_code
def yX13_init : MethodName := ⟨RX13, "<init>", "(III)V"⟩
def dkwX13_init_0 : List UInt8 := [42, 183, 0, 1, 42, 27, 181, 0, 7, 42, 28, 181, 0, 13, 42, 29, 181, 0, 16, 177]
abbrev dktX13_init_0 : List UInt8 := dkwX13_init_0 ++ []
theorem dksX13_init_0 : cX13_init.data.toList.drop 0 = dktX13_init_0 := by decide +kernel
theorem dX13_init_0 : decode cX13_init 0 = .ok (.aload_n 0, 1) := dk_42 (dk_at dksX13_init_0 0 rfl rfl)
theorem dX13_init_1 : decode cX13_init 1 = .ok (.invokespecial 1, 3) := dk_183 0 1 (dk_at dksX13_init_0 1 rfl rfl)
theorem dX13_init_4 : decode cX13_init 4 = .ok (.aload_n 0, 1) := dk_42 (dk_at dksX13_init_0 4 rfl rfl)
theorem dX13_init_5 : decode cX13_init 5 = .ok (.iload_n 1, 1) := dk_27 (dk_at dksX13_init_0 5 rfl rfl)
theorem dX13_init_6 : decode cX13_init 6 = .ok (.putfield 7, 3) := dk_181 0 7 (dk_at dksX13_init_0 6 rfl rfl)
theorem dX13_init_9 : decode cX13_init 9 = .ok (.aload_n 0, 1) := dk_42 (dk_at dksX13_init_0 9 rfl rfl)
theorem dX13_init_10 : decode cX13_init 10 = .ok (.iload_n 2, 1) := dk_28 (dk_at dksX13_init_0 10 rfl rfl)
theorem dX13_init_11 : decode cX13_init 11 = .ok (.putfield 13, 3) := dk_181 0 13 (dk_at dksX13_init_0 11 rfl rfl)
theorem dX13_init_14 : decode cX13_init 14 = .ok (.aload_n 0, 1) := dk_42 (dk_at dksX13_init_0 14 rfl rfl)
theorem dX13_init_15 : decode cX13_init 15 = .ok (.iload_n 3, 1) := dk_29 (dk_at dksX13_init_0 15 rfl rfl)
theorem dX13_init_16 : decode cX13_init 16 = .ok (.putfield 16, 3) := dk_181 0 16 (dk_at dksX13_init_0 16 rfl rfl)
theorem dX13_init_19 : decode cX13_init 19 = .ok (.return_, 1) := dk_177 (dk_at dksX13_init_0 19 rfl rfl)
theorem q160 : (Jvm.Cond.initialized "LimbBenches$Recall") ∈ lw_all := lw_g (lw_at lw_m1 32 rfl) rfl
theorem q760 : (Jvm.Cond.selects "LimbBenches$Recall" ({ cls := "LimbBenches$Clause", name := "tells", desc := "(CI)Z" } : Jvm.MethodName) ({ cls := "LimbBenches$Clause", name := "tells", desc := "(CI)Z" } : Jvm.MethodName)) ∈ lw_all := lw_g (lw_at lw_m3 152 rfl) rfl
theorem q770 : (Jvm.Cond.selects "LimbBenches$Recall" ({ cls := "LimbBenches$Clause", name := "holds", desc := "([I)Z" } : Jvm.MethodName) ({ cls := "LimbBenches$Clause", name := "holds", desc := "([I)Z" } : Jvm.MethodName)) ∈ lw_all := lw_g (lw_at lw_m3 162 rfl) rfl
theorem q818 : (Jvm.Cond.selects "LimbBenches$Recall" ({ cls := "LimbBenches$Clause", name := "value", desc := "([I)I" } : Jvm.MethodName) ({ cls := "LimbBenches$Clause", name := "value", desc := "([I)I" } : Jvm.MethodName)) ∈ lw_all := lw_g (lw_at lw_m3 210 rfl) rfl
theorem q846 : (Jvm.Cond.selects "LimbBenches$Recall" ({ cls := "LimbBenches$Clause", name := "needs", desc := "()I" } : Jvm.MethodName) ({ cls := "LimbBenches$Clause", name := "needs", desc := "()I" } : Jvm.MethodName)) ∈ lw_all := lw_g (lw_at lw_m3 238 rfl) rfl
theorem q902 : (Jvm.Cond.selects "LimbBenches$Recall" ({ cls := "LimbBenches$Clause", name := "recalls", desc := "(LLimbBenches$Part;[I)Z" } : Jvm.MethodName) ({ cls := "LimbBenches$Recall", name := "recalls", desc := "(LLimbBenches$Part;[I)Z" } : Jvm.MethodName)) ∈ lw_all := lw_g (lw_at lw_m4 54 rfl) rfl
theorem q903 : (Jvm.Cond.instanceMethod ({ cls := "LimbBenches$Recall", name := "recalls", desc := "(LLimbBenches$Part;[I)Z" } : Jvm.MethodName)) ∈ lw_all := lw_g (lw_at lw_m4 55 rfl) rfl
theorem q904 : (Jvm.Cond.code ({ cls := "LimbBenches$Recall", name := "recalls", desc := "(LLimbBenches$Part;[I)Z" } : Jvm.MethodName) prog_23_method_2_code (3 : Nat) (Option.some Jvm.ClassFile.FieldType.boolean)) ∈ lw_all := lw_g (lw_at lw_m4 56 rfl) rfl
theorem q905 : (Jvm.Cond.methodLink "LimbBenches$Recall" (25 : Nat) ({ cls := "LimbBenches$Recall", name := "holds", desc := "([I)Z" } : Jvm.MethodName)) ∈ lw_all := lw_g (lw_at lw_m4 57 rfl) rfl
theorem q906 : (Jvm.Cond.sameMethod "LimbBenches$Recall" "LimbBenches$Clause" "holds" "([I)Z") ∈ lw_all := lw_g (lw_at lw_m4 58 rfl) rfl
theorem q908 : (Jvm.Cond.selects "LimbBenches$Recall" ({ cls := "LimbBenches$Recall", name := "holds", desc := "([I)Z" } : Jvm.MethodName) ({ cls := "LimbBenches$Clause", name := "holds", desc := "([I)Z" } : Jvm.MethodName)) ∈ lw_all := lw_g (lw_at lw_m4 60 rfl) rfl
theorem q1028 : (Jvm.Cond.selects "LimbBenches$Recall" ({ cls := "java/lang/Object", name := "getClass", desc := "()Ljava/lang/Class;" } : Jvm.MethodName) ({ cls := "java/lang/Object", name := "getClass", desc := "()Ljava/lang/Class;" } : Jvm.MethodName)) ∈ lw_all := lw_g (lw_at lw_m4 180 rfl) rfl
theorem q1501 : (Jvm.Cond.instanceMethod ({ cls := "LimbBenches$Recall", name := "<init>", desc := "(III)V" } : Jvm.MethodName)) ∈ lw_all := lw_g (lw_at lw_m6 173 rfl) rfl
theorem q1502 : (Jvm.Cond.code ({ cls := "LimbBenches$Recall", name := "<init>", desc := "(III)V" } : Jvm.MethodName) prog_23_method_1_code (4 : Nat) (Option.none : Option Jvm.ClassFile.FieldType)) ∈ lw_all := lw_g (lw_at lw_m6 174 rfl) rfl
theorem q1503 : (Jvm.Cond.methodLinkNest "LimbBenches$Recall" (1 : Nat) ({ cls := "LimbBenches$Clause", name := "<init>", desc := "()V" } : Jvm.MethodName) "LimbBenches") ∈ lw_tbl := lw_at lw_m6 175 rfl
theorem q1504 : (Jvm.Cond.fieldLink "LimbBenches$Recall" (7 : Nat) "LimbBenches$Recall" "model" "I") ∈ lw_all := lw_g (lw_at lw_m6 176 rfl) rfl
theorem q1505 : (Jvm.Cond.fieldLink "LimbBenches$Recall" (13 : Nat) "LimbBenches$Recall" "from" "I") ∈ lw_all := lw_g (lw_at lw_m6 177 rfl) rfl
theorem q1506 : (Jvm.Cond.fieldLink "LimbBenches$Recall" (16 : Nat) "LimbBenches$Recall" "to" "I") ∈ lw_all := lw_g (lw_at lw_m6 178 rfl) rfl
theorem q1507 : (Jvm.Cond.laysFinal "LimbBenches$Recall" "LimbBenches$Recall" "model" "I") ∈ lw_all := lw_g (lw_at lw_m6 179 rfl) rfl
theorem q1508 : (Jvm.Cond.soleField "LimbBenches$Recall" "model") ∈ lw_all := lw_g (lw_at lw_m6 180 rfl) rfl
theorem q1509 : (Jvm.Cond.laysFinal "LimbBenches$Recall" "LimbBenches$Recall" "from" "I") ∈ lw_all := lw_g (lw_at lw_m6 181 rfl) rfl
theorem q1510 : (Jvm.Cond.soleField "LimbBenches$Recall" "from") ∈ lw_all := lw_g (lw_at lw_m6 182 rfl) rfl
theorem q1511 : (Jvm.Cond.laysFinal "LimbBenches$Recall" "LimbBenches$Recall" "to" "I") ∈ lw_all := lw_g (lw_at lw_m6 183 rfl) rfl
theorem q1512 : (Jvm.Cond.soleField "LimbBenches$Recall" "to") ∈ lw_all := lw_g (lw_at lw_m6 184 rfl) rfl
theorem q1513 : (Jvm.Cond.lays "LimbBenches$Recall" "LimbBenches$Clause" "c" "LLimbBenches$Cond;") ∈ lw_all := lw_g (lw_at lw_m6 185 rfl) rfl
theorem q1514 : (Jvm.Cond.superclass "LimbBenches$Recall" "LimbBenches$Clause") ∈ lw_all := lw_g (lw_at lw_m6 186 rfl) rfl
theorem q1796 : (Jvm.Cond.selects "LimbBenches$Recall" ({ cls := "LimbBenches$Clause", name := "bars", desc := "(II[I)Z" } : Jvm.MethodName) ({ cls := "LimbBenches$Clause", name := "bars", desc := "(II[I)Z" } : Jvm.MethodName)) ∈ lw_all := lw_g (lw_at lw_m7 228 rfl) rfl
theorem q1828 : (Jvm.Cond.fieldLinkNest "LimbBenches$Recall" (19 : Nat) "LimbBenches$Part" "model" "I" "LimbBenches") ∈ lw_tbl := lw_at lw_m8 20 rfl
theorem q1831 : (Jvm.Cond.fieldLinkNest "LimbBenches$Recall" (22 : Nat) "LimbBenches$Part" "serial" "I" "LimbBenches") ∈ lw_tbl := lw_at lw_m8 23 rfl
theorem q3195 : (Jvm.Cond.castable "LimbBenches$Recall" "LimbBenches$Clause") ∈ lw_tbl := lw_at lw_m13 187 rfl
theorem q3214 : (Jvm.Cond.castable "LimbBenches$Recall" "java/lang/Object") ∈ lw_tbl := lw_at lw_m13 206 rfl

/-! LimbBenches$Need -/
set_option maxRecDepth 100000
abbrev cX14_needs : ByteArray := prog_15_method_2_code
def yX14_needs : MethodName := ⟨RX14, "needs", "()I"⟩
theorem dX14_needs_0 : decode cX14_needs 0 = .ok (.aload_n 0, 1) := by decide +kernel
theorem dX14_needs_1 : decode cX14_needs 1 = .ok (.getfield 7, 3) := by decide +kernel
theorem dX14_needs_4 : decode cX14_needs 4 = .ok (.ireturn, 1) := by decide +kernel
abbrev cX14_init : ByteArray := prog_15_method_1_code
def yX14_init : MethodName := ⟨RX14, "<init>", "(I)V"⟩
def dkwX14_init_0 : List UInt8 := [42, 183, 0, 1, 42, 27, 181, 0, 7, 177]
abbrev dktX14_init_0 : List UInt8 := dkwX14_init_0 ++ []
theorem dksX14_init_0 : cX14_init.data.toList.drop 0 = dktX14_init_0 := by decide +kernel
theorem dX14_init_0 : decode cX14_init 0 = .ok (.aload_n 0, 1) := dk_42 (dk_at dksX14_init_0 0 rfl rfl)
theorem dX14_init_1 : decode cX14_init 1 = .ok (.invokespecial 1, 3) := dk_183 0 1 (dk_at dksX14_init_0 1 rfl rfl)
theorem dX14_init_4 : decode cX14_init 4 = .ok (.aload_n 0, 1) := dk_42 (dk_at dksX14_init_0 4 rfl rfl)
theorem dX14_init_5 : decode cX14_init 5 = .ok (.iload_n 1, 1) := dk_27 (dk_at dksX14_init_0 5 rfl rfl)
theorem dX14_init_6 : decode cX14_init 6 = .ok (.putfield 7, 3) := dk_181 0 7 (dk_at dksX14_init_0 6 rfl rfl)
theorem dX14_init_9 : decode cX14_init 9 = .ok (.return_, 1) := dk_177 (dk_at dksX14_init_0 9 rfl rfl)
theorem q161 : (Jvm.Cond.initialized "LimbBenches$Need") ∈ lw_all := lw_g (lw_at lw_m1 33 rfl) rfl
theorem q759 : (Jvm.Cond.selects "LimbBenches$Need" ({ cls := "LimbBenches$Clause", name := "tells", desc := "(CI)Z" } : Jvm.MethodName) ({ cls := "LimbBenches$Clause", name := "tells", desc := "(CI)Z" } : Jvm.MethodName)) ∈ lw_all := lw_g (lw_at lw_m3 151 rfl) rfl
theorem q769 : (Jvm.Cond.selects "LimbBenches$Need" ({ cls := "LimbBenches$Clause", name := "holds", desc := "([I)Z" } : Jvm.MethodName) ({ cls := "LimbBenches$Clause", name := "holds", desc := "([I)Z" } : Jvm.MethodName)) ∈ lw_all := lw_g (lw_at lw_m3 161 rfl) rfl
theorem q817 : (Jvm.Cond.selects "LimbBenches$Need" ({ cls := "LimbBenches$Clause", name := "value", desc := "([I)I" } : Jvm.MethodName) ({ cls := "LimbBenches$Clause", name := "value", desc := "([I)I" } : Jvm.MethodName)) ∈ lw_all := lw_g (lw_at lw_m3 209 rfl) rfl
theorem q843 : (Jvm.Cond.selects "LimbBenches$Need" ({ cls := "LimbBenches$Clause", name := "needs", desc := "()I" } : Jvm.MethodName) ({ cls := "LimbBenches$Need", name := "needs", desc := "()I" } : Jvm.MethodName)) ∈ lw_all := lw_g (lw_at lw_m3 235 rfl) rfl
theorem q844 : (Jvm.Cond.instanceMethod ({ cls := "LimbBenches$Need", name := "needs", desc := "()I" } : Jvm.MethodName)) ∈ lw_all := lw_g (lw_at lw_m3 236 rfl) rfl
theorem q845 : (Jvm.Cond.code ({ cls := "LimbBenches$Need", name := "needs", desc := "()I" } : Jvm.MethodName) prog_15_method_2_code (1 : Nat) (Option.some Jvm.ClassFile.FieldType.int)) ∈ lw_all := lw_g (lw_at lw_m3 237 rfl) rfl
theorem q901 : (Jvm.Cond.selects "LimbBenches$Need" ({ cls := "LimbBenches$Clause", name := "recalls", desc := "(LLimbBenches$Part;[I)Z" } : Jvm.MethodName) ({ cls := "LimbBenches$Clause", name := "recalls", desc := "(LLimbBenches$Part;[I)Z" } : Jvm.MethodName)) ∈ lw_all := lw_g (lw_at lw_m4 53 rfl) rfl
theorem q1020 : (Jvm.Cond.selects "LimbBenches$Need" ({ cls := "java/lang/Object", name := "getClass", desc := "()Ljava/lang/Class;" } : Jvm.MethodName) ({ cls := "java/lang/Object", name := "getClass", desc := "()Ljava/lang/Class;" } : Jvm.MethodName)) ∈ lw_all := lw_g (lw_at lw_m4 172 rfl) rfl
theorem q1518 : (Jvm.Cond.instanceMethod ({ cls := "LimbBenches$Need", name := "<init>", desc := "(I)V" } : Jvm.MethodName)) ∈ lw_all := lw_g (lw_at lw_m6 190 rfl) rfl
theorem q1519 : (Jvm.Cond.code ({ cls := "LimbBenches$Need", name := "<init>", desc := "(I)V" } : Jvm.MethodName) prog_15_method_1_code (2 : Nat) (Option.none : Option Jvm.ClassFile.FieldType)) ∈ lw_all := lw_g (lw_at lw_m6 191 rfl) rfl
theorem q1520 : (Jvm.Cond.methodLinkNest "LimbBenches$Need" (1 : Nat) ({ cls := "LimbBenches$Clause", name := "<init>", desc := "()V" } : Jvm.MethodName) "LimbBenches") ∈ lw_tbl := lw_at lw_m6 192 rfl
theorem q1521 : (Jvm.Cond.fieldLink "LimbBenches$Need" (7 : Nat) "LimbBenches$Need" "kind" "I") ∈ lw_all := lw_g (lw_at lw_m6 193 rfl) rfl
theorem q1522 : (Jvm.Cond.laysFinal "LimbBenches$Need" "LimbBenches$Need" "kind" "I") ∈ lw_all := lw_g (lw_at lw_m6 194 rfl) rfl
theorem q1523 : (Jvm.Cond.soleField "LimbBenches$Need" "kind") ∈ lw_all := lw_g (lw_at lw_m6 195 rfl) rfl
theorem q1524 : (Jvm.Cond.lays "LimbBenches$Need" "LimbBenches$Clause" "c" "LLimbBenches$Cond;") ∈ lw_all := lw_g (lw_at lw_m6 196 rfl) rfl
theorem q1525 : (Jvm.Cond.superclass "LimbBenches$Need" "LimbBenches$Clause") ∈ lw_all := lw_g (lw_at lw_m6 197 rfl) rfl
theorem q1795 : (Jvm.Cond.selects "LimbBenches$Need" ({ cls := "LimbBenches$Clause", name := "bars", desc := "(II[I)Z" } : Jvm.MethodName) ({ cls := "LimbBenches$Clause", name := "bars", desc := "(II[I)Z" } : Jvm.MethodName)) ∈ lw_all := lw_g (lw_at lw_m7 227 rfl) rfl
theorem q3194 : (Jvm.Cond.castable "LimbBenches$Need" "LimbBenches$Clause") ∈ lw_tbl := lw_at lw_m13 186 rfl
theorem q3215 : (Jvm.Cond.castable "LimbBenches$Need" "java/lang/Object") ∈ lw_tbl := lw_at lw_m13 207 rfl

/-! LimbBenches$Cond -/
set_option maxRecDepth 100000
def RX15 : String := "LimbBenches$Cond"
abbrev cX15_init : ByteArray := prog_7_method_1_code
def yX15_init : MethodName := ⟨RX15, "<init>", "()V"⟩
theorem dX15_init_0 : decode cX15_init 0 = .ok (.aload_n 0, 1) := by decide +kernel
theorem dX15_init_1 : decode cX15_init 1 = .ok (.invokespecial 1, 3) := by decide +kernel
theorem dX15_init_4 : decode cX15_init 4 = .ok (.return_, 1) := by decide +kernel
theorem q162 : (Jvm.Cond.initialized "LimbBenches$Cond") ∈ lw_all := lw_g (lw_at lw_m1 34 rfl) rfl
theorem q774 : (Jvm.Cond.declares ({ cls := "LimbBenches$Cond", name := "holds", desc := "([I)Z" } : Jvm.MethodName)) ∈ lw_tbl := lw_at lw_m3 166 rfl
theorem q775 : (Jvm.Cond.sameMethod "LimbBenches$Cond" "LimbBenches$Cond" "holds" "([I)Z") ∈ lw_all := lw_g (lw_at lw_m3 167 rfl) rfl
theorem q1550 : (Jvm.Cond.instanceMethod ({ cls := "LimbBenches$Cond", name := "<init>", desc := "()V" } : Jvm.MethodName)) ∈ lw_all := lw_g (lw_at lw_m6 222 rfl) rfl
theorem q1551 : (Jvm.Cond.code ({ cls := "LimbBenches$Cond", name := "<init>", desc := "()V" } : Jvm.MethodName) prog_7_method_1_code (1 : Nat) (Option.none : Option Jvm.ClassFile.FieldType)) ∈ lw_all := lw_g (lw_at lw_m6 223 rfl) rfl
theorem q1552 : (Jvm.Cond.methodLink "LimbBenches$Cond" (1 : Nat) ({ cls := "java/lang/Object", name := "<init>", desc := "()V" } : Jvm.MethodName)) ∈ lw_all := lw_g (lw_at lw_m6 224 rfl) rfl

/-! LimbBenches$Not -/
set_option maxRecDepth 100000
abbrev cX16_holds : ByteArray := prog_16_method_2_code
def yX16_holds : MethodName := ⟨RX16, "holds", "([I)Z"⟩
def dkwX16_holds_0 : List UInt8 := [42, 180, 0, 7, 43, 182, 0, 13, 154, 0, 7, 4, 167, 0, 4, 3, 172]
abbrev dktX16_holds_0 : List UInt8 := dkwX16_holds_0 ++ []
theorem dksX16_holds_0 : cX16_holds.data.toList.drop 0 = dktX16_holds_0 := by decide +kernel
theorem dX16_holds_0 : decode cX16_holds 0 = .ok (.aload_n 0, 1) := dk_42 (dk_at dksX16_holds_0 0 rfl rfl)
theorem dX16_holds_1 : decode cX16_holds 1 = .ok (.getfield 7, 3) := dk_180 0 7 (dk_at dksX16_holds_0 1 rfl rfl)
theorem dX16_holds_4 : decode cX16_holds 4 = .ok (.aload_n 1, 1) := dk_43 (dk_at dksX16_holds_0 4 rfl rfl)
theorem dX16_holds_5 : decode cX16_holds 5 = .ok (.invokevirtual 13, 3) := dk_182 0 13 (dk_at dksX16_holds_0 5 rfl rfl)
theorem dX16_holds_8 : decode cX16_holds 8 = .ok (.ifCond .ne 7, 3) := dk_154 0 7 (dk_at dksX16_holds_0 8 rfl rfl)
theorem dX16_holds_11 : decode cX16_holds 11 = .ok (.iconst 1, 1) := dk_4 (dk_at dksX16_holds_0 11 rfl rfl)
theorem dX16_holds_12 : decode cX16_holds 12 = .ok (.goto 4, 3) := dk_167 0 4 (dk_at dksX16_holds_0 12 rfl rfl)
theorem dX16_holds_15 : decode cX16_holds 15 = .ok (.iconst 0, 1) := dk_3 (dk_at dksX16_holds_0 15 rfl rfl)
theorem dX16_holds_16 : decode cX16_holds 16 = .ok (.ireturn, 1) := dk_172 (dk_at dksX16_holds_0 16 rfl rfl)
abbrev cX16_init : ByteArray := prog_16_method_1_code
def yX16_init : MethodName := ⟨RX16, "<init>", "(LLimbBenches$Cond;)V"⟩
def dkwX16_init_0 : List UInt8 := [42, 183, 0, 1, 42, 43, 181, 0, 7, 177]
abbrev dktX16_init_0 : List UInt8 := dkwX16_init_0 ++ []
theorem dksX16_init_0 : cX16_init.data.toList.drop 0 = dktX16_init_0 := by decide +kernel
theorem dX16_init_0 : decode cX16_init 0 = .ok (.aload_n 0, 1) := dk_42 (dk_at dksX16_init_0 0 rfl rfl)
theorem dX16_init_1 : decode cX16_init 1 = .ok (.invokespecial 1, 3) := dk_183 0 1 (dk_at dksX16_init_0 1 rfl rfl)
theorem dX16_init_4 : decode cX16_init 4 = .ok (.aload_n 0, 1) := dk_42 (dk_at dksX16_init_0 4 rfl rfl)
theorem dX16_init_5 : decode cX16_init 5 = .ok (.aload_n 1, 1) := dk_43 (dk_at dksX16_init_0 5 rfl rfl)
theorem dX16_init_6 : decode cX16_init 6 = .ok (.putfield 7, 3) := dk_181 0 7 (dk_at dksX16_init_0 6 rfl rfl)
theorem dX16_init_9 : decode cX16_init 9 = .ok (.return_, 1) := dk_177 (dk_at dksX16_init_0 9 rfl rfl)
theorem q163 : (Jvm.Cond.initialized "LimbBenches$Not") ∈ lw_all := lw_g (lw_at lw_m1 35 rfl) rfl
theorem q808 : (Jvm.Cond.instanceMethod ({ cls := "LimbBenches$Not", name := "holds", desc := "([I)Z" } : Jvm.MethodName)) ∈ lw_all := lw_g (lw_at lw_m3 200 rfl) rfl
theorem q809 : (Jvm.Cond.code ({ cls := "LimbBenches$Not", name := "holds", desc := "([I)Z" } : Jvm.MethodName) prog_16_method_2_code (2 : Nat) (Option.some Jvm.ClassFile.FieldType.boolean)) ∈ lw_all := lw_g (lw_at lw_m3 201 rfl) rfl
theorem q810 : (Jvm.Cond.methodLink "LimbBenches$Not" (13 : Nat) ({ cls := "LimbBenches$Cond", name := "holds", desc := "([I)Z" } : Jvm.MethodName)) ∈ lw_all := lw_g (lw_at lw_m3 202 rfl) rfl
theorem q812 : (Jvm.Cond.selects "LimbBenches$Not" ({ cls := "LimbBenches$Cond", name := "holds", desc := "([I)Z" } : Jvm.MethodName) ({ cls := "LimbBenches$Not", name := "holds", desc := "([I)Z" } : Jvm.MethodName)) ∈ lw_all := lw_g (lw_at lw_m3 204 rfl) rfl
theorem q1021 : (Jvm.Cond.selects "LimbBenches$Not" ({ cls := "java/lang/Object", name := "getClass", desc := "()Ljava/lang/Class;" } : Jvm.MethodName) ({ cls := "java/lang/Object", name := "getClass", desc := "()Ljava/lang/Class;" } : Jvm.MethodName)) ∈ lw_all := lw_g (lw_at lw_m4 173 rfl) rfl
theorem q1547 : (Jvm.Cond.instanceMethod ({ cls := "LimbBenches$Not", name := "<init>", desc := "(LLimbBenches$Cond;)V" } : Jvm.MethodName)) ∈ lw_all := lw_g (lw_at lw_m6 219 rfl) rfl
theorem q1548 : (Jvm.Cond.code ({ cls := "LimbBenches$Not", name := "<init>", desc := "(LLimbBenches$Cond;)V" } : Jvm.MethodName) prog_16_method_1_code (2 : Nat) (Option.none : Option Jvm.ClassFile.FieldType)) ∈ lw_all := lw_g (lw_at lw_m6 220 rfl) rfl
theorem q1549 : (Jvm.Cond.methodLinkNest "LimbBenches$Not" (1 : Nat) ({ cls := "LimbBenches$Cond", name := "<init>", desc := "()V" } : Jvm.MethodName) "LimbBenches") ∈ lw_tbl := lw_at lw_m6 221 rfl
theorem q1553 : (Jvm.Cond.fieldLink "LimbBenches$Not" (7 : Nat) "LimbBenches$Not" "a" "LLimbBenches$Cond;") ∈ lw_all := lw_g (lw_at lw_m6 225 rfl) rfl
theorem q1554 : (Jvm.Cond.laysFinal "LimbBenches$Not" "LimbBenches$Not" "a" "LLimbBenches$Cond;") ∈ lw_all := lw_g (lw_at lw_m6 226 rfl) rfl
theorem q1555 : (Jvm.Cond.soleField "LimbBenches$Not" "a") ∈ lw_all := lw_g (lw_at lw_m6 227 rfl) rfl
theorem q1556 : (Jvm.Cond.superclass "LimbBenches$Not" "LimbBenches$Cond") ∈ lw_all := lw_g (lw_at lw_m6 228 rfl) rfl
theorem q3216 : (Jvm.Cond.castable "LimbBenches$Not" "java/lang/Object") ∈ lw_tbl := lw_at lw_m13 208 rfl

/-! LimbBenches$Compare -/
set_option maxRecDepth 100000
abbrev cX17_holds : ByteArray := prog_6_method_2_code
def yX17_holds : MethodName := ⟨RX17, "holds", "([I)Z"⟩
def dkwX17_holds_3 : List UInt8 := [160, 0, 7, 4, 167, 0, 4, 3, 172]
abbrev dktX17_holds_3 : List UInt8 := dkwX17_holds_3 ++ []
def dkwX17_holds_2 : List UInt8 := [180, 0, 7, 16, 62, 160, 0, 16, 28, 29, 164, 0, 7, 4, 167, 0, 17, 3, 167, 0, 13, 28, 29]
abbrev dktX17_holds_2 : List UInt8 := dkwX17_holds_2 ++ dktX17_holds_3
def dkwX17_holds_1 : List UInt8 := [180, 0, 7, 16, 60, 160, 0, 16, 28, 29, 162, 0, 7, 4, 167, 0, 39, 3, 167, 0, 35, 42]
abbrev dktX17_holds_1 : List UInt8 := dkwX17_holds_1 ++ dktX17_holds_2
def dkwX17_holds_0 : List UInt8 := [42, 180, 0, 13, 43, 185, 0, 20, 2, 0, 61, 42, 180, 0, 17, 43, 185, 0, 20, 2, 0, 62, 42]
abbrev dktX17_holds_0 : List UInt8 := dkwX17_holds_0 ++ dktX17_holds_1
theorem dksX17_holds_0 : cX17_holds.data.toList.drop 0 = dktX17_holds_0 := by decide +kernel
theorem dksX17_holds_1 : cX17_holds.data.toList.drop 23 = dktX17_holds_1 := dk_seg dksX17_holds_0 23 rfl rfl
theorem dksX17_holds_2 : cX17_holds.data.toList.drop 45 = dktX17_holds_2 := dk_seg dksX17_holds_1 22 rfl rfl
theorem dksX17_holds_3 : cX17_holds.data.toList.drop 68 = dktX17_holds_3 := dk_seg dksX17_holds_2 23 rfl rfl
theorem dX17_holds_0 : decode cX17_holds 0 = .ok (.aload_n 0, 1) := dk_42 (dk_at dksX17_holds_0 0 rfl rfl)
theorem dX17_holds_1 : decode cX17_holds 1 = .ok (.getfield 13, 3) := dk_180 0 13 (dk_at dksX17_holds_0 1 rfl rfl)
theorem dX17_holds_4 : decode cX17_holds 4 = .ok (.aload_n 1, 1) := dk_43 (dk_at dksX17_holds_0 4 rfl rfl)
theorem dX17_holds_5 : decode cX17_holds 5 = .ok (.invokeinterface 20 2, 5) := by decide +kernel
theorem dX17_holds_10 : decode cX17_holds 10 = .ok (.istore_n 2, 1) := dk_61 (dk_at dksX17_holds_0 10 rfl rfl)
theorem dX17_holds_11 : decode cX17_holds 11 = .ok (.aload_n 0, 1) := dk_42 (dk_at dksX17_holds_0 11 rfl rfl)
theorem dX17_holds_12 : decode cX17_holds 12 = .ok (.getfield 17, 3) := dk_180 0 17 (dk_at dksX17_holds_0 12 rfl rfl)
theorem dX17_holds_15 : decode cX17_holds 15 = .ok (.aload_n 1, 1) := dk_43 (dk_at dksX17_holds_0 15 rfl rfl)
theorem dX17_holds_16 : decode cX17_holds 16 = .ok (.invokeinterface 20 2, 5) := by decide +kernel
theorem dX17_holds_21 : decode cX17_holds 21 = .ok (.istore_n 3, 1) := dk_62 (dk_at dksX17_holds_0 21 rfl rfl)
theorem dX17_holds_22 : decode cX17_holds 22 = .ok (.aload_n 0, 1) := dk_42 (dk_at dksX17_holds_0 22 rfl rfl)
theorem dX17_holds_23 : decode cX17_holds 23 = .ok (.getfield 7, 3) := dk_180 0 7 (dk_at dksX17_holds_1 0 rfl rfl)
theorem dX17_holds_26 : decode cX17_holds 26 = .ok (.bipush 60, 2) := dk_16 60 (dk_at dksX17_holds_1 3 rfl rfl)
theorem dX17_holds_28 : decode cX17_holds 28 = .ok (.if_icmp .ne 16, 3) := dk_160 0 16 (dk_at dksX17_holds_1 5 rfl rfl)
theorem dX17_holds_31 : decode cX17_holds 31 = .ok (.iload_n 2, 1) := dk_28 (dk_at dksX17_holds_1 8 rfl rfl)
theorem dX17_holds_32 : decode cX17_holds 32 = .ok (.iload_n 3, 1) := dk_29 (dk_at dksX17_holds_1 9 rfl rfl)
theorem dX17_holds_33 : decode cX17_holds 33 = .ok (.if_icmp .ge 7, 3) := dk_162 0 7 (dk_at dksX17_holds_1 10 rfl rfl)
theorem dX17_holds_36 : decode cX17_holds 36 = .ok (.iconst 1, 1) := dk_4 (dk_at dksX17_holds_1 13 rfl rfl)
theorem dX17_holds_37 : decode cX17_holds 37 = .ok (.goto 39, 3) := dk_167 0 39 (dk_at dksX17_holds_1 14 rfl rfl)
theorem dX17_holds_40 : decode cX17_holds 40 = .ok (.iconst 0, 1) := dk_3 (dk_at dksX17_holds_1 17 rfl rfl)
theorem dX17_holds_41 : decode cX17_holds 41 = .ok (.goto 35, 3) := dk_167 0 35 (dk_at dksX17_holds_1 18 rfl rfl)
theorem dX17_holds_44 : decode cX17_holds 44 = .ok (.aload_n 0, 1) := dk_42 (dk_at dksX17_holds_1 21 rfl rfl)
theorem dX17_holds_45 : decode cX17_holds 45 = .ok (.getfield 7, 3) := dk_180 0 7 (dk_at dksX17_holds_2 0 rfl rfl)
theorem dX17_holds_48 : decode cX17_holds 48 = .ok (.bipush 62, 2) := dk_16 62 (dk_at dksX17_holds_2 3 rfl rfl)
theorem dX17_holds_50 : decode cX17_holds 50 = .ok (.if_icmp .ne 16, 3) := dk_160 0 16 (dk_at dksX17_holds_2 5 rfl rfl)
theorem dX17_holds_53 : decode cX17_holds 53 = .ok (.iload_n 2, 1) := dk_28 (dk_at dksX17_holds_2 8 rfl rfl)
theorem dX17_holds_54 : decode cX17_holds 54 = .ok (.iload_n 3, 1) := dk_29 (dk_at dksX17_holds_2 9 rfl rfl)
theorem dX17_holds_55 : decode cX17_holds 55 = .ok (.if_icmp .le 7, 3) := dk_164 0 7 (dk_at dksX17_holds_2 10 rfl rfl)
theorem dX17_holds_58 : decode cX17_holds 58 = .ok (.iconst 1, 1) := dk_4 (dk_at dksX17_holds_2 13 rfl rfl)
theorem dX17_holds_59 : decode cX17_holds 59 = .ok (.goto 17, 3) := dk_167 0 17 (dk_at dksX17_holds_2 14 rfl rfl)
theorem dX17_holds_62 : decode cX17_holds 62 = .ok (.iconst 0, 1) := dk_3 (dk_at dksX17_holds_2 17 rfl rfl)
theorem dX17_holds_63 : decode cX17_holds 63 = .ok (.goto 13, 3) := dk_167 0 13 (dk_at dksX17_holds_2 18 rfl rfl)
theorem dX17_holds_66 : decode cX17_holds 66 = .ok (.iload_n 2, 1) := dk_28 (dk_at dksX17_holds_2 21 rfl rfl)
theorem dX17_holds_67 : decode cX17_holds 67 = .ok (.iload_n 3, 1) := dk_29 (dk_at dksX17_holds_2 22 rfl rfl)
theorem dX17_holds_68 : decode cX17_holds 68 = .ok (.if_icmp .ne 7, 3) := dk_160 0 7 (dk_at dksX17_holds_3 0 rfl rfl)
theorem dX17_holds_71 : decode cX17_holds 71 = .ok (.iconst 1, 1) := dk_4 (dk_at dksX17_holds_3 3 rfl rfl)
theorem dX17_holds_72 : decode cX17_holds 72 = .ok (.goto 4, 3) := dk_167 0 4 (dk_at dksX17_holds_3 4 rfl rfl)
theorem dX17_holds_75 : decode cX17_holds 75 = .ok (.iconst 0, 1) := dk_3 (dk_at dksX17_holds_3 7 rfl rfl)
theorem dX17_holds_76 : decode cX17_holds 76 = .ok (.ireturn, 1) := dk_172 (dk_at dksX17_holds_3 8 rfl rfl)
abbrev cX17_init : ByteArray := prog_6_method_1_code
def yX17_init : MethodName := ⟨RX17, "<init>", "(CLLimbBenches$Expr;LLimbBenches$Expr;)V"⟩
def dkwX17_init_0 : List UInt8 := [42, 183, 0, 1, 42, 27, 181, 0, 7, 42, 44, 181, 0, 13, 42, 45, 181, 0, 17, 177]
abbrev dktX17_init_0 : List UInt8 := dkwX17_init_0 ++ []
theorem dksX17_init_0 : cX17_init.data.toList.drop 0 = dktX17_init_0 := by decide +kernel
theorem dX17_init_0 : decode cX17_init 0 = .ok (.aload_n 0, 1) := dk_42 (dk_at dksX17_init_0 0 rfl rfl)
theorem dX17_init_1 : decode cX17_init 1 = .ok (.invokespecial 1, 3) := dk_183 0 1 (dk_at dksX17_init_0 1 rfl rfl)
theorem dX17_init_4 : decode cX17_init 4 = .ok (.aload_n 0, 1) := dk_42 (dk_at dksX17_init_0 4 rfl rfl)
theorem dX17_init_5 : decode cX17_init 5 = .ok (.iload_n 1, 1) := dk_27 (dk_at dksX17_init_0 5 rfl rfl)
theorem dX17_init_6 : decode cX17_init 6 = .ok (.putfield 7, 3) := dk_181 0 7 (dk_at dksX17_init_0 6 rfl rfl)
theorem dX17_init_9 : decode cX17_init 9 = .ok (.aload_n 0, 1) := dk_42 (dk_at dksX17_init_0 9 rfl rfl)
theorem dX17_init_10 : decode cX17_init 10 = .ok (.aload_n 2, 1) := dk_44 (dk_at dksX17_init_0 10 rfl rfl)
theorem dX17_init_11 : decode cX17_init 11 = .ok (.putfield 13, 3) := dk_181 0 13 (dk_at dksX17_init_0 11 rfl rfl)
theorem dX17_init_14 : decode cX17_init 14 = .ok (.aload_n 0, 1) := dk_42 (dk_at dksX17_init_0 14 rfl rfl)
theorem dX17_init_15 : decode cX17_init 15 = .ok (.aload_n 3, 1) := dk_45 (dk_at dksX17_init_0 15 rfl rfl)
theorem dX17_init_16 : decode cX17_init 16 = .ok (.putfield 17, 3) := dk_181 0 17 (dk_at dksX17_init_0 16 rfl rfl)
theorem dX17_init_19 : decode cX17_init 19 = .ok (.return_, 1) := dk_177 (dk_at dksX17_init_0 19 rfl rfl)
theorem q164 : (Jvm.Cond.initialized "LimbBenches$Compare") ∈ lw_all := lw_g (lw_at lw_m1 36 rfl) rfl
theorem q780 : (Jvm.Cond.instanceMethod ({ cls := "LimbBenches$Compare", name := "holds", desc := "([I)Z" } : Jvm.MethodName)) ∈ lw_all := lw_g (lw_at lw_m3 172 rfl) rfl
theorem q781 : (Jvm.Cond.code ({ cls := "LimbBenches$Compare", name := "holds", desc := "([I)Z" } : Jvm.MethodName) prog_6_method_2_code (4 : Nat) (Option.some Jvm.ClassFile.FieldType.boolean)) ∈ lw_all := lw_g (lw_at lw_m3 173 rfl) rfl
theorem q782 : (Jvm.Cond.interfaceEntry "LimbBenches$Compare" (20 : Nat)) ∈ lw_tbl := lw_at lw_m3 174 rfl
theorem q783 : (Jvm.Cond.methodLink "LimbBenches$Compare" (20 : Nat) ({ cls := "LimbBenches$Expr", name := "of", desc := "([I)I" } : Jvm.MethodName)) ∈ lw_all := lw_g (lw_at lw_m3 175 rfl) rfl
theorem q811 : (Jvm.Cond.selects "LimbBenches$Compare" ({ cls := "LimbBenches$Cond", name := "holds", desc := "([I)Z" } : Jvm.MethodName) ({ cls := "LimbBenches$Compare", name := "holds", desc := "([I)Z" } : Jvm.MethodName)) ∈ lw_all := lw_g (lw_at lw_m3 203 rfl) rfl
theorem q1013 : (Jvm.Cond.selects "LimbBenches$Compare" ({ cls := "java/lang/Object", name := "getClass", desc := "()Ljava/lang/Class;" } : Jvm.MethodName) ({ cls := "java/lang/Object", name := "getClass", desc := "()Ljava/lang/Class;" } : Jvm.MethodName)) ∈ lw_all := lw_g (lw_at lw_m4 165 rfl) rfl
theorem q1560 : (Jvm.Cond.instanceMethod ({ cls := "LimbBenches$Compare", name := "<init>", desc := "(CLLimbBenches$Expr;LLimbBenches$Expr;)V" } : Jvm.MethodName)) ∈ lw_all := lw_g (lw_at lw_m6 232 rfl) rfl
theorem q1561 : (Jvm.Cond.code ({ cls := "LimbBenches$Compare", name := "<init>", desc := "(CLLimbBenches$Expr;LLimbBenches$Expr;)V" } : Jvm.MethodName) prog_6_method_1_code (4 : Nat) (Option.none : Option Jvm.ClassFile.FieldType)) ∈ lw_all := lw_g (lw_at lw_m6 233 rfl) rfl
theorem q1562 : (Jvm.Cond.methodLinkNest "LimbBenches$Compare" (1 : Nat) ({ cls := "LimbBenches$Cond", name := "<init>", desc := "()V" } : Jvm.MethodName) "LimbBenches") ∈ lw_tbl := lw_at lw_m6 234 rfl
theorem q1563 : (Jvm.Cond.fieldLink "LimbBenches$Compare" (7 : Nat) "LimbBenches$Compare" "sign" "C") ∈ lw_all := lw_g (lw_at lw_m6 235 rfl) rfl
theorem q1564 : (Jvm.Cond.fieldLink "LimbBenches$Compare" (13 : Nat) "LimbBenches$Compare" "a" "LLimbBenches$Expr;") ∈ lw_all := lw_g (lw_at lw_m6 236 rfl) rfl
theorem q1565 : (Jvm.Cond.fieldLink "LimbBenches$Compare" (17 : Nat) "LimbBenches$Compare" "b" "LLimbBenches$Expr;") ∈ lw_all := lw_g (lw_at lw_m6 237 rfl) rfl
theorem q1566 : (Jvm.Cond.laysFinal "LimbBenches$Compare" "LimbBenches$Compare" "sign" "C") ∈ lw_all := lw_g (lw_at lw_m6 238 rfl) rfl
theorem q1567 : (Jvm.Cond.soleField "LimbBenches$Compare" "sign") ∈ lw_all := lw_g (lw_at lw_m6 239 rfl) rfl
theorem q1568 : (Jvm.Cond.laysFinal "LimbBenches$Compare" "LimbBenches$Compare" "a" "LLimbBenches$Expr;") ∈ lw_all := lw_g (lw_at lw_m7 0 rfl) rfl
theorem q1569 : (Jvm.Cond.soleField "LimbBenches$Compare" "a") ∈ lw_all := lw_g (lw_at lw_m7 1 rfl) rfl
theorem q1570 : (Jvm.Cond.laysFinal "LimbBenches$Compare" "LimbBenches$Compare" "b" "LLimbBenches$Expr;") ∈ lw_all := lw_g (lw_at lw_m7 2 rfl) rfl
theorem q1571 : (Jvm.Cond.soleField "LimbBenches$Compare" "b") ∈ lw_all := lw_g (lw_at lw_m7 3 rfl) rfl
theorem q1572 : (Jvm.Cond.superclass "LimbBenches$Compare" "LimbBenches$Cond") ∈ lw_all := lw_g (lw_at lw_m7 4 rfl) rfl
theorem q3217 : (Jvm.Cond.castable "LimbBenches$Compare" "java/lang/Object") ∈ lw_tbl := lw_at lw_m13 209 rfl

/-! LimbBenches$Both -/
set_option maxRecDepth 100000
abbrev cX18_holds : ByteArray := prog_3_method_2_code
def yX18_holds : MethodName := ⟨RX18, "holds", "([I)Z"⟩
def dkwX18_holds_2 : List UInt8 := [153, 0, 7, 4, 167, 0, 4, 3, 172]
abbrev dktX18_holds_2 : List UInt8 := dkwX18_holds_2 ++ []
def dkwX18_holds_1 : List UInt8 := [153, 0, 19, 28, 154, 0, 7, 29, 153, 0, 7, 4, 167, 0, 20, 3, 167, 0, 16, 28, 153, 0, 11, 29]
abbrev dktX18_holds_1 : List UInt8 := dkwX18_holds_1 ++ dktX18_holds_2
def dkwX18_holds_0 : List UInt8 := [42, 180, 0, 13, 43, 182, 0, 20, 61, 42, 180, 0, 17, 43, 182, 0, 20, 62, 42, 180, 0, 7]
abbrev dktX18_holds_0 : List UInt8 := dkwX18_holds_0 ++ dktX18_holds_1
theorem dksX18_holds_0 : cX18_holds.data.toList.drop 0 = dktX18_holds_0 := by decide +kernel
theorem dksX18_holds_1 : cX18_holds.data.toList.drop 22 = dktX18_holds_1 := dk_seg dksX18_holds_0 22 rfl rfl
theorem dksX18_holds_2 : cX18_holds.data.toList.drop 46 = dktX18_holds_2 := dk_seg dksX18_holds_1 24 rfl rfl
theorem dX18_holds_0 : decode cX18_holds 0 = .ok (.aload_n 0, 1) := dk_42 (dk_at dksX18_holds_0 0 rfl rfl)
theorem dX18_holds_1 : decode cX18_holds 1 = .ok (.getfield 13, 3) := dk_180 0 13 (dk_at dksX18_holds_0 1 rfl rfl)
theorem dX18_holds_4 : decode cX18_holds 4 = .ok (.aload_n 1, 1) := dk_43 (dk_at dksX18_holds_0 4 rfl rfl)
theorem dX18_holds_5 : decode cX18_holds 5 = .ok (.invokevirtual 20, 3) := dk_182 0 20 (dk_at dksX18_holds_0 5 rfl rfl)
theorem dX18_holds_8 : decode cX18_holds 8 = .ok (.istore_n 2, 1) := dk_61 (dk_at dksX18_holds_0 8 rfl rfl)
theorem dX18_holds_9 : decode cX18_holds 9 = .ok (.aload_n 0, 1) := dk_42 (dk_at dksX18_holds_0 9 rfl rfl)
theorem dX18_holds_10 : decode cX18_holds 10 = .ok (.getfield 17, 3) := dk_180 0 17 (dk_at dksX18_holds_0 10 rfl rfl)
theorem dX18_holds_13 : decode cX18_holds 13 = .ok (.aload_n 1, 1) := dk_43 (dk_at dksX18_holds_0 13 rfl rfl)
theorem dX18_holds_14 : decode cX18_holds 14 = .ok (.invokevirtual 20, 3) := dk_182 0 20 (dk_at dksX18_holds_0 14 rfl rfl)
theorem dX18_holds_17 : decode cX18_holds 17 = .ok (.istore_n 3, 1) := dk_62 (dk_at dksX18_holds_0 17 rfl rfl)
theorem dX18_holds_18 : decode cX18_holds 18 = .ok (.aload_n 0, 1) := dk_42 (dk_at dksX18_holds_0 18 rfl rfl)
theorem dX18_holds_19 : decode cX18_holds 19 = .ok (.getfield 7, 3) := dk_180 0 7 (dk_at dksX18_holds_0 19 rfl rfl)
theorem dX18_holds_22 : decode cX18_holds 22 = .ok (.ifCond .eq 19, 3) := dk_153 0 19 (dk_at dksX18_holds_1 0 rfl rfl)
theorem dX18_holds_25 : decode cX18_holds 25 = .ok (.iload_n 2, 1) := dk_28 (dk_at dksX18_holds_1 3 rfl rfl)
theorem dX18_holds_26 : decode cX18_holds 26 = .ok (.ifCond .ne 7, 3) := dk_154 0 7 (dk_at dksX18_holds_1 4 rfl rfl)
theorem dX18_holds_29 : decode cX18_holds 29 = .ok (.iload_n 3, 1) := dk_29 (dk_at dksX18_holds_1 7 rfl rfl)
theorem dX18_holds_30 : decode cX18_holds 30 = .ok (.ifCond .eq 7, 3) := dk_153 0 7 (dk_at dksX18_holds_1 8 rfl rfl)
theorem dX18_holds_33 : decode cX18_holds 33 = .ok (.iconst 1, 1) := dk_4 (dk_at dksX18_holds_1 11 rfl rfl)
theorem dX18_holds_34 : decode cX18_holds 34 = .ok (.goto 20, 3) := dk_167 0 20 (dk_at dksX18_holds_1 12 rfl rfl)
theorem dX18_holds_37 : decode cX18_holds 37 = .ok (.iconst 0, 1) := dk_3 (dk_at dksX18_holds_1 15 rfl rfl)
theorem dX18_holds_38 : decode cX18_holds 38 = .ok (.goto 16, 3) := dk_167 0 16 (dk_at dksX18_holds_1 16 rfl rfl)
theorem dX18_holds_41 : decode cX18_holds 41 = .ok (.iload_n 2, 1) := dk_28 (dk_at dksX18_holds_1 19 rfl rfl)
theorem dX18_holds_42 : decode cX18_holds 42 = .ok (.ifCond .eq 11, 3) := dk_153 0 11 (dk_at dksX18_holds_1 20 rfl rfl)
theorem dX18_holds_45 : decode cX18_holds 45 = .ok (.iload_n 3, 1) := dk_29 (dk_at dksX18_holds_1 23 rfl rfl)
theorem dX18_holds_46 : decode cX18_holds 46 = .ok (.ifCond .eq 7, 3) := dk_153 0 7 (dk_at dksX18_holds_2 0 rfl rfl)
theorem dX18_holds_49 : decode cX18_holds 49 = .ok (.iconst 1, 1) := dk_4 (dk_at dksX18_holds_2 3 rfl rfl)
theorem dX18_holds_50 : decode cX18_holds 50 = .ok (.goto 4, 3) := dk_167 0 4 (dk_at dksX18_holds_2 4 rfl rfl)
theorem dX18_holds_53 : decode cX18_holds 53 = .ok (.iconst 0, 1) := dk_3 (dk_at dksX18_holds_2 7 rfl rfl)
theorem dX18_holds_54 : decode cX18_holds 54 = .ok (.ireturn, 1) := dk_172 (dk_at dksX18_holds_2 8 rfl rfl)
abbrev cX18_init : ByteArray := prog_3_method_1_code
def yX18_init : MethodName := ⟨RX18, "<init>", "(ZLLimbBenches$Cond;LLimbBenches$Cond;)V"⟩
def dkwX18_init_0 : List UInt8 := [42, 183, 0, 1, 42, 27, 181, 0, 7, 42, 44, 181, 0, 13, 42, 45, 181, 0, 17, 177]
abbrev dktX18_init_0 : List UInt8 := dkwX18_init_0 ++ []
theorem dksX18_init_0 : cX18_init.data.toList.drop 0 = dktX18_init_0 := by decide +kernel
theorem dX18_init_0 : decode cX18_init 0 = .ok (.aload_n 0, 1) := dk_42 (dk_at dksX18_init_0 0 rfl rfl)
theorem dX18_init_1 : decode cX18_init 1 = .ok (.invokespecial 1, 3) := dk_183 0 1 (dk_at dksX18_init_0 1 rfl rfl)
theorem dX18_init_4 : decode cX18_init 4 = .ok (.aload_n 0, 1) := dk_42 (dk_at dksX18_init_0 4 rfl rfl)
theorem dX18_init_5 : decode cX18_init 5 = .ok (.iload_n 1, 1) := dk_27 (dk_at dksX18_init_0 5 rfl rfl)
theorem dX18_init_6 : decode cX18_init 6 = .ok (.putfield 7, 3) := dk_181 0 7 (dk_at dksX18_init_0 6 rfl rfl)
theorem dX18_init_9 : decode cX18_init 9 = .ok (.aload_n 0, 1) := dk_42 (dk_at dksX18_init_0 9 rfl rfl)
theorem dX18_init_10 : decode cX18_init 10 = .ok (.aload_n 2, 1) := dk_44 (dk_at dksX18_init_0 10 rfl rfl)
theorem dX18_init_11 : decode cX18_init 11 = .ok (.putfield 13, 3) := dk_181 0 13 (dk_at dksX18_init_0 11 rfl rfl)
theorem dX18_init_14 : decode cX18_init 14 = .ok (.aload_n 0, 1) := dk_42 (dk_at dksX18_init_0 14 rfl rfl)
theorem dX18_init_15 : decode cX18_init 15 = .ok (.aload_n 3, 1) := dk_45 (dk_at dksX18_init_0 15 rfl rfl)
theorem dX18_init_16 : decode cX18_init 16 = .ok (.putfield 17, 3) := dk_181 0 17 (dk_at dksX18_init_0 16 rfl rfl)
theorem dX18_init_19 : decode cX18_init 19 = .ok (.return_, 1) := dk_177 (dk_at dksX18_init_0 19 rfl rfl)
theorem q165 : (Jvm.Cond.initialized "LimbBenches$Both") ∈ lw_all := lw_g (lw_at lw_m1 37 rfl) rfl
theorem q776 : (Jvm.Cond.selects "LimbBenches$Both" ({ cls := "LimbBenches$Cond", name := "holds", desc := "([I)Z" } : Jvm.MethodName) ({ cls := "LimbBenches$Both", name := "holds", desc := "([I)Z" } : Jvm.MethodName)) ∈ lw_all := lw_g (lw_at lw_m3 168 rfl) rfl
theorem q777 : (Jvm.Cond.instanceMethod ({ cls := "LimbBenches$Both", name := "holds", desc := "([I)Z" } : Jvm.MethodName)) ∈ lw_all := lw_g (lw_at lw_m3 169 rfl) rfl
theorem q778 : (Jvm.Cond.code ({ cls := "LimbBenches$Both", name := "holds", desc := "([I)Z" } : Jvm.MethodName) prog_3_method_2_code (4 : Nat) (Option.some Jvm.ClassFile.FieldType.boolean)) ∈ lw_all := lw_g (lw_at lw_m3 170 rfl) rfl
theorem q779 : (Jvm.Cond.methodLink "LimbBenches$Both" (20 : Nat) ({ cls := "LimbBenches$Cond", name := "holds", desc := "([I)Z" } : Jvm.MethodName)) ∈ lw_all := lw_g (lw_at lw_m3 171 rfl) rfl
theorem q1011 : (Jvm.Cond.selects "LimbBenches$Both" ({ cls := "java/lang/Object", name := "getClass", desc := "()Ljava/lang/Class;" } : Jvm.MethodName) ({ cls := "java/lang/Object", name := "getClass", desc := "()Ljava/lang/Class;" } : Jvm.MethodName)) ∈ lw_all := lw_g (lw_at lw_m4 163 rfl) rfl
theorem q1577 : (Jvm.Cond.instanceMethod ({ cls := "LimbBenches$Both", name := "<init>", desc := "(ZLLimbBenches$Cond;LLimbBenches$Cond;)V" } : Jvm.MethodName)) ∈ lw_all := lw_g (lw_at lw_m7 9 rfl) rfl
theorem q1578 : (Jvm.Cond.code ({ cls := "LimbBenches$Both", name := "<init>", desc := "(ZLLimbBenches$Cond;LLimbBenches$Cond;)V" } : Jvm.MethodName) prog_3_method_1_code (4 : Nat) (Option.none : Option Jvm.ClassFile.FieldType)) ∈ lw_all := lw_g (lw_at lw_m7 10 rfl) rfl
theorem q1579 : (Jvm.Cond.methodLinkNest "LimbBenches$Both" (1 : Nat) ({ cls := "LimbBenches$Cond", name := "<init>", desc := "()V" } : Jvm.MethodName) "LimbBenches") ∈ lw_tbl := lw_at lw_m7 11 rfl
theorem q1580 : (Jvm.Cond.fieldLink "LimbBenches$Both" (7 : Nat) "LimbBenches$Both" "or" "Z") ∈ lw_all := lw_g (lw_at lw_m7 12 rfl) rfl
theorem q1581 : (Jvm.Cond.fieldLink "LimbBenches$Both" (13 : Nat) "LimbBenches$Both" "a" "LLimbBenches$Cond;") ∈ lw_all := lw_g (lw_at lw_m7 13 rfl) rfl
theorem q1582 : (Jvm.Cond.fieldLink "LimbBenches$Both" (17 : Nat) "LimbBenches$Both" "b" "LLimbBenches$Cond;") ∈ lw_all := lw_g (lw_at lw_m7 14 rfl) rfl
theorem q1583 : (Jvm.Cond.laysFinal "LimbBenches$Both" "LimbBenches$Both" "or" "Z") ∈ lw_all := lw_g (lw_at lw_m7 15 rfl) rfl
theorem q1584 : (Jvm.Cond.soleField "LimbBenches$Both" "or") ∈ lw_all := lw_g (lw_at lw_m7 16 rfl) rfl
theorem q1585 : (Jvm.Cond.laysFinal "LimbBenches$Both" "LimbBenches$Both" "a" "LLimbBenches$Cond;") ∈ lw_all := lw_g (lw_at lw_m7 17 rfl) rfl
theorem q1586 : (Jvm.Cond.soleField "LimbBenches$Both" "a") ∈ lw_all := lw_g (lw_at lw_m7 18 rfl) rfl
theorem q1587 : (Jvm.Cond.laysFinal "LimbBenches$Both" "LimbBenches$Both" "b" "LLimbBenches$Cond;") ∈ lw_all := lw_g (lw_at lw_m7 19 rfl) rfl
theorem q1588 : (Jvm.Cond.soleField "LimbBenches$Both" "b") ∈ lw_all := lw_g (lw_at lw_m7 20 rfl) rfl
theorem q1589 : (Jvm.Cond.superclass "LimbBenches$Both" "LimbBenches$Cond") ∈ lw_all := lw_g (lw_at lw_m7 21 rfl) rfl
theorem q3218 : (Jvm.Cond.castable "LimbBenches$Both" "java/lang/Object") ∈ lw_tbl := lw_at lw_m13 210 rfl

/-! LimbBenches$Model -/
set_option maxRecDepth 100000
abbrev cX19_init : ByteArray := prog_13_method_1_code
def yX19_init : MethodName := ⟨RX19, "<init>", "(IIII)V"⟩
def dkwX19_init_2 : List UInt8 := [16, 100, 112, 79, 21, 5, 16, 100, 108, 54, 5, 132, 6, 255, 167, 255, 229, 177]
abbrev dktX19_init_2 : List UInt8 := dkwX19_init_2 ++ []
def dkwX19_init_1 : List UInt8 := [181, 0, 22, 21, 4, 54, 5, 6, 54, 6, 21, 6, 155, 0, 28, 42, 180, 0, 9, 21, 6, 21, 5]
abbrev dktX19_init_1 : List UInt8 := dkwX19_init_1 ++ dktX19_init_2
def dkwX19_init_0 : List UInt8 := [42, 183, 0, 3, 42, 7, 188, 10, 181, 0, 9, 42, 27, 181, 0, 15, 42, 28, 181, 0, 19, 42, 29]
abbrev dktX19_init_0 : List UInt8 := dkwX19_init_0 ++ dktX19_init_1
theorem dksX19_init_0 : cX19_init.data.toList.drop 0 = dktX19_init_0 := by decide +kernel
theorem dksX19_init_1 : cX19_init.data.toList.drop 23 = dktX19_init_1 := dk_seg dksX19_init_0 23 rfl rfl
theorem dksX19_init_2 : cX19_init.data.toList.drop 46 = dktX19_init_2 := dk_seg dksX19_init_1 23 rfl rfl
theorem dX19_init_0 : decode cX19_init 0 = .ok (.aload_n 0, 1) := dk_42 (dk_at dksX19_init_0 0 rfl rfl)
theorem dX19_init_1 : decode cX19_init 1 = .ok (.invokespecial 3, 3) := dk_183 0 3 (dk_at dksX19_init_0 1 rfl rfl)
theorem dX19_init_4 : decode cX19_init 4 = .ok (.aload_n 0, 1) := dk_42 (dk_at dksX19_init_0 4 rfl rfl)
theorem dX19_init_5 : decode cX19_init 5 = .ok (.iconst 4, 1) := dk_7 (dk_at dksX19_init_0 5 rfl rfl)
theorem dX19_init_6 : decode cX19_init 6 = .ok (.newarray .int, 2) := dk_188_10 (dk_at dksX19_init_0 6 rfl rfl)
theorem dX19_init_8 : decode cX19_init 8 = .ok (.putfield 9, 3) := dk_181 0 9 (dk_at dksX19_init_0 8 rfl rfl)
theorem dX19_init_11 : decode cX19_init 11 = .ok (.aload_n 0, 1) := dk_42 (dk_at dksX19_init_0 11 rfl rfl)
theorem dX19_init_12 : decode cX19_init 12 = .ok (.iload_n 1, 1) := dk_27 (dk_at dksX19_init_0 12 rfl rfl)
theorem dX19_init_13 : decode cX19_init 13 = .ok (.putfield 15, 3) := dk_181 0 15 (dk_at dksX19_init_0 13 rfl rfl)
theorem dX19_init_16 : decode cX19_init 16 = .ok (.aload_n 0, 1) := dk_42 (dk_at dksX19_init_0 16 rfl rfl)
theorem dX19_init_17 : decode cX19_init 17 = .ok (.iload_n 2, 1) := dk_28 (dk_at dksX19_init_0 17 rfl rfl)
theorem dX19_init_18 : decode cX19_init 18 = .ok (.putfield 19, 3) := dk_181 0 19 (dk_at dksX19_init_0 18 rfl rfl)
theorem dX19_init_21 : decode cX19_init 21 = .ok (.aload_n 0, 1) := dk_42 (dk_at dksX19_init_0 21 rfl rfl)
theorem dX19_init_22 : decode cX19_init 22 = .ok (.iload_n 3, 1) := dk_29 (dk_at dksX19_init_0 22 rfl rfl)
theorem dX19_init_23 : decode cX19_init 23 = .ok (.putfield 22, 3) := dk_181 0 22 (dk_at dksX19_init_1 0 rfl rfl)
theorem dX19_init_26 : decode cX19_init 26 = .ok (.iload 4, 2) := dk_21 4 (dk_at dksX19_init_1 3 rfl rfl)
theorem dX19_init_28 : decode cX19_init 28 = .ok (.istore 5, 2) := dk_54 5 (dk_at dksX19_init_1 5 rfl rfl)
theorem dX19_init_30 : decode cX19_init 30 = .ok (.iconst 3, 1) := dk_6 (dk_at dksX19_init_1 7 rfl rfl)
theorem dX19_init_31 : decode cX19_init 31 = .ok (.istore 6, 2) := dk_54 6 (dk_at dksX19_init_1 8 rfl rfl)
theorem dX19_init_33 : decode cX19_init 33 = .ok (.iload 6, 2) := dk_21 6 (dk_at dksX19_init_1 10 rfl rfl)
theorem dX19_init_35 : decode cX19_init 35 = .ok (.ifCond .lt 28, 3) := dk_155 0 28 (dk_at dksX19_init_1 12 rfl rfl)
theorem dX19_init_38 : decode cX19_init 38 = .ok (.aload_n 0, 1) := dk_42 (dk_at dksX19_init_1 15 rfl rfl)
theorem dX19_init_39 : decode cX19_init 39 = .ok (.getfield 9, 3) := dk_180 0 9 (dk_at dksX19_init_1 16 rfl rfl)
theorem dX19_init_42 : decode cX19_init 42 = .ok (.iload 6, 2) := dk_21 6 (dk_at dksX19_init_1 19 rfl rfl)
theorem dX19_init_44 : decode cX19_init 44 = .ok (.iload 5, 2) := dk_21 5 (dk_at dksX19_init_1 21 rfl rfl)
theorem dX19_init_46 : decode cX19_init 46 = .ok (.bipush 100, 2) := dk_16 100 (dk_at dksX19_init_2 0 rfl rfl)
theorem dX19_init_48 : decode cX19_init 48 = .ok (.irem, 1) := dk_112 (dk_at dksX19_init_2 2 rfl rfl)
theorem dX19_init_49 : decode cX19_init 49 = .ok (.iastore, 1) := dk_79 (dk_at dksX19_init_2 3 rfl rfl)
theorem dX19_init_50 : decode cX19_init 50 = .ok (.iload 5, 2) := dk_21 5 (dk_at dksX19_init_2 4 rfl rfl)
theorem dX19_init_52 : decode cX19_init 52 = .ok (.bipush 100, 2) := dk_16 100 (dk_at dksX19_init_2 6 rfl rfl)
theorem dX19_init_54 : decode cX19_init 54 = .ok (.idiv, 1) := dk_108 (dk_at dksX19_init_2 8 rfl rfl)
theorem dX19_init_55 : decode cX19_init 55 = .ok (.istore 5, 2) := dk_54 5 (dk_at dksX19_init_2 9 rfl rfl)
theorem dX19_init_57 : decode cX19_init 57 = .ok (.iinc 6 (-1), 3) := dk_132 6 255 (dk_at dksX19_init_2 11 rfl rfl)
theorem dX19_init_60 : decode cX19_init 60 = .ok (.goto (-27), 3) := dk_167 255 229 (dk_at dksX19_init_2 14 rfl rfl)
theorem dX19_init_63 : decode cX19_init 63 = .ok (.return_, 1) := dk_177 (dk_at dksX19_init_2 17 rfl rfl)
theorem q167 : (Jvm.Cond.initialized "LimbBenches$Model") ∈ lw_all := lw_g (lw_at lw_m1 39 rfl) rfl
theorem q1018 : (Jvm.Cond.selects "LimbBenches$Model" ({ cls := "java/lang/Object", name := "getClass", desc := "()Ljava/lang/Class;" } : Jvm.MethodName) ({ cls := "java/lang/Object", name := "getClass", desc := "()Ljava/lang/Class;" } : Jvm.MethodName)) ∈ lw_all := lw_g (lw_at lw_m4 170 rfl) rfl
theorem q1626 : (Jvm.Cond.instanceMethod ({ cls := "LimbBenches$Model", name := "<init>", desc := "(IIII)V" } : Jvm.MethodName)) ∈ lw_all := lw_g (lw_at lw_m7 58 rfl) rfl
theorem q1627 : (Jvm.Cond.code ({ cls := "LimbBenches$Model", name := "<init>", desc := "(IIII)V" } : Jvm.MethodName) prog_13_method_1_code (7 : Nat) (Option.none : Option Jvm.ClassFile.FieldType)) ∈ lw_all := lw_g (lw_at lw_m7 59 rfl) rfl
theorem q1628 : (Jvm.Cond.methodLink "LimbBenches$Model" (3 : Nat) ({ cls := "java/lang/Object", name := "<init>", desc := "()V" } : Jvm.MethodName)) ∈ lw_all := lw_g (lw_at lw_m7 60 rfl) rfl
theorem q1629 : (Jvm.Cond.fieldLink "LimbBenches$Model" (15 : Nat) "LimbBenches$Model" "kind" "I") ∈ lw_all := lw_g (lw_at lw_m7 61 rfl) rfl
theorem q1631 : (Jvm.Cond.fieldLink "LimbBenches$Model" (19 : Nat) "LimbBenches$Model" "price" "I") ∈ lw_all := lw_g (lw_at lw_m7 63 rfl) rfl
theorem q1633 : (Jvm.Cond.fieldLink "LimbBenches$Model" (22 : Nat) "LimbBenches$Model" "load" "I") ∈ lw_all := lw_g (lw_at lw_m7 65 rfl) rfl
theorem q1635 : (Jvm.Cond.fieldLink "LimbBenches$Model" (9 : Nat) "LimbBenches$Model" "worth" "[I") ∈ lw_all := lw_g (lw_at lw_m7 67 rfl) rfl
theorem q1637 : (Jvm.Cond.laysFinal "LimbBenches$Model" "LimbBenches$Model" "kind" "I") ∈ lw_all := lw_g (lw_at lw_m7 69 rfl) rfl
theorem q1638 : (Jvm.Cond.soleField "LimbBenches$Model" "kind") ∈ lw_all := lw_g (lw_at lw_m7 70 rfl) rfl
theorem q1639 : (Jvm.Cond.laysFinal "LimbBenches$Model" "LimbBenches$Model" "price" "I") ∈ lw_all := lw_g (lw_at lw_m7 71 rfl) rfl
theorem q1640 : (Jvm.Cond.soleField "LimbBenches$Model" "price") ∈ lw_all := lw_g (lw_at lw_m7 72 rfl) rfl
theorem q1641 : (Jvm.Cond.laysFinal "LimbBenches$Model" "LimbBenches$Model" "load" "I") ∈ lw_all := lw_g (lw_at lw_m7 73 rfl) rfl
theorem q1642 : (Jvm.Cond.soleField "LimbBenches$Model" "load") ∈ lw_all := lw_g (lw_at lw_m7 74 rfl) rfl
theorem q1643 : (Jvm.Cond.laysFinal "LimbBenches$Model" "LimbBenches$Model" "worth" "[I") ∈ lw_all := lw_g (lw_at lw_m7 75 rfl) rfl
theorem q1644 : (Jvm.Cond.soleField "LimbBenches$Model" "worth") ∈ lw_all := lw_g (lw_at lw_m7 76 rfl) rfl
theorem q1645 : (Jvm.Cond.superclass "LimbBenches$Model" "java/lang/Object") ∈ lw_all := lw_g (lw_at lw_m7 77 rfl) rfl
theorem q3219 : (Jvm.Cond.castable "LimbBenches$Model" "java/lang/Object") ∈ lw_tbl := lw_at lw_m13 211 rfl

/-! LimbBenches$Person -/
set_option maxRecDepth 100000
abbrev cX20_worn : ByteArray := prog_21_method_5_code
def yX20_worn : MethodName := ⟨RX20, "worn", "(II)I"⟩
def dkwX20_worn_0 : List UInt8 := [42, 27, 28, 42, 182, 0, 61, 182, 0, 65, 172]
abbrev dktX20_worn_0 : List UInt8 := dkwX20_worn_0 ++ []
theorem dksX20_worn_0 : cX20_worn.data.toList.drop 0 = dktX20_worn_0 := by decide +kernel
theorem dX20_worn_0 : decode cX20_worn 0 = .ok (.aload_n 0, 1) := dk_42 (dk_at dksX20_worn_0 0 rfl rfl)
theorem dX20_worn_1 : decode cX20_worn 1 = .ok (.iload_n 1, 1) := dk_27 (dk_at dksX20_worn_0 1 rfl rfl)
theorem dX20_worn_2 : decode cX20_worn 2 = .ok (.iload_n 2, 1) := dk_28 (dk_at dksX20_worn_0 2 rfl rfl)
theorem dX20_worn_3 : decode cX20_worn 3 = .ok (.aload_n 0, 1) := dk_42 (dk_at dksX20_worn_0 3 rfl rfl)
theorem dX20_worn_4 : decode cX20_worn 4 = .ok (.invokevirtual 61, 3) := dk_182 0 61 (dk_at dksX20_worn_0 4 rfl rfl)
theorem dX20_worn_7 : decode cX20_worn 7 = .ok (.invokevirtual 65, 3) := dk_182 0 65 (dk_at dksX20_worn_0 7 rfl rfl)
theorem dX20_worn_10 : decode cX20_worn 10 = .ok (.ireturn, 1) := dk_172 (dk_at dksX20_worn_0 10 rfl rfl)
abbrev cX20_pace : ByteArray := prog_21_method_4_code
def yX20_pace : MethodName := ⟨RX20, "pace", "()I"⟩
def dkwX20_pace_0 : List UInt8 := [42, 180, 0, 40, 4, 160, 0, 12, 5, 42, 180, 0, 37, 104, 167, 0, 7, 42, 180, 0, 37, 172]
abbrev dktX20_pace_0 : List UInt8 := dkwX20_pace_0 ++ []
theorem dksX20_pace_0 : cX20_pace.data.toList.drop 0 = dktX20_pace_0 := by decide +kernel
theorem dX20_pace_0 : decode cX20_pace 0 = .ok (.aload_n 0, 1) := dk_42 (dk_at dksX20_pace_0 0 rfl rfl)
theorem dX20_pace_1 : decode cX20_pace 1 = .ok (.getfield 40, 3) := dk_180 0 40 (dk_at dksX20_pace_0 1 rfl rfl)
theorem dX20_pace_4 : decode cX20_pace 4 = .ok (.iconst 1, 1) := dk_4 (dk_at dksX20_pace_0 4 rfl rfl)
theorem dX20_pace_5 : decode cX20_pace 5 = .ok (.if_icmp .ne 12, 3) := dk_160 0 12 (dk_at dksX20_pace_0 5 rfl rfl)
theorem dX20_pace_8 : decode cX20_pace 8 = .ok (.iconst 2, 1) := dk_5 (dk_at dksX20_pace_0 8 rfl rfl)
theorem dX20_pace_9 : decode cX20_pace 9 = .ok (.aload_n 0, 1) := dk_42 (dk_at dksX20_pace_0 9 rfl rfl)
theorem dX20_pace_10 : decode cX20_pace 10 = .ok (.getfield 37, 3) := dk_180 0 37 (dk_at dksX20_pace_0 10 rfl rfl)
theorem dX20_pace_13 : decode cX20_pace 13 = .ok (.imul, 1) := dk_104 (dk_at dksX20_pace_0 13 rfl rfl)
theorem dX20_pace_14 : decode cX20_pace 14 = .ok (.goto 7, 3) := dk_167 0 7 (dk_at dksX20_pace_0 14 rfl rfl)
theorem dX20_pace_17 : decode cX20_pace 17 = .ok (.aload_n 0, 1) := dk_42 (dk_at dksX20_pace_0 17 rfl rfl)
theorem dX20_pace_18 : decode cX20_pace 18 = .ok (.getfield 37, 3) := dk_180 0 37 (dk_at dksX20_pace_0 18 rfl rfl)
theorem dX20_pace_21 : decode cX20_pace 21 = .ok (.ireturn, 1) := dk_172 (dk_at dksX20_pace_0 21 rfl rfl)
abbrev cX20_worn_2 : ByteArray := prog_21_method_6_code
def yX20_worn_2 : MethodName := ⟨RX20, "worn", "(III)I"⟩
def dkwX20_worn_2_0 : List UInt8 := [42, 180, 0, 11, 27, 50, 180, 0, 69, 29, 28, 42, 180, 0, 11, 27, 50, 180, 0, 72, 100, 104, 96, 172]
abbrev dktX20_worn_2_0 : List UInt8 := dkwX20_worn_2_0 ++ []
theorem dksX20_worn_2_0 : cX20_worn_2.data.toList.drop 0 = dktX20_worn_2_0 := by decide +kernel
theorem dX20_worn_2_0 : decode cX20_worn_2 0 = .ok (.aload_n 0, 1) := dk_42 (dk_at dksX20_worn_2_0 0 rfl rfl)
theorem dX20_worn_2_1 : decode cX20_worn_2 1 = .ok (.getfield 11, 3) := dk_180 0 11 (dk_at dksX20_worn_2_0 1 rfl rfl)
theorem dX20_worn_2_4 : decode cX20_worn_2 4 = .ok (.iload_n 1, 1) := dk_27 (dk_at dksX20_worn_2_0 4 rfl rfl)
theorem dX20_worn_2_5 : decode cX20_worn_2 5 = .ok (.aaload, 1) := dk_50 (dk_at dksX20_worn_2_0 5 rfl rfl)
theorem dX20_worn_2_6 : decode cX20_worn_2 6 = .ok (.getfield 69, 3) := dk_180 0 69 (dk_at dksX20_worn_2_0 6 rfl rfl)
theorem dX20_worn_2_9 : decode cX20_worn_2 9 = .ok (.iload_n 3, 1) := dk_29 (dk_at dksX20_worn_2_0 9 rfl rfl)
theorem dX20_worn_2_10 : decode cX20_worn_2 10 = .ok (.iload_n 2, 1) := dk_28 (dk_at dksX20_worn_2_0 10 rfl rfl)
theorem dX20_worn_2_11 : decode cX20_worn_2 11 = .ok (.aload_n 0, 1) := dk_42 (dk_at dksX20_worn_2_0 11 rfl rfl)
theorem dX20_worn_2_12 : decode cX20_worn_2 12 = .ok (.getfield 11, 3) := dk_180 0 11 (dk_at dksX20_worn_2_0 12 rfl rfl)
theorem dX20_worn_2_15 : decode cX20_worn_2 15 = .ok (.iload_n 1, 1) := dk_27 (dk_at dksX20_worn_2_0 15 rfl rfl)
theorem dX20_worn_2_16 : decode cX20_worn_2 16 = .ok (.aaload, 1) := dk_50 (dk_at dksX20_worn_2_0 16 rfl rfl)
theorem dX20_worn_2_17 : decode cX20_worn_2 17 = .ok (.getfield 72, 3) := dk_180 0 72 (dk_at dksX20_worn_2_0 17 rfl rfl)
theorem dX20_worn_2_20 : decode cX20_worn_2 20 = .ok (.isub, 1) := dk_100 (dk_at dksX20_worn_2_0 20 rfl rfl)
theorem dX20_worn_2_21 : decode cX20_worn_2 21 = .ok (.imul, 1) := dk_104 (dk_at dksX20_worn_2_0 21 rfl rfl)
theorem dX20_worn_2_22 : decode cX20_worn_2 22 = .ok (.iadd, 1) := dk_96 (dk_at dksX20_worn_2_0 22 rfl rfl)
theorem dX20_worn_2_23 : decode cX20_worn_2 23 = .ok (.ireturn, 1) := dk_172 (dk_at dksX20_worn_2_0 23 rfl rfl)
abbrev cX20_like : ByteArray := prog_21_method_2_code
def yX20_like : MethodName := ⟨RX20, "like", "()LLimbBenches$Person;"⟩
def dkwX20_like_5 : List UInt8 := [3, 7, 184, 0, 55, 43, 176]
abbrev dktX20_like_5 : List UInt8 := dkwX20_like_5 ++ []
def dkwX20_like_4 : List UInt8 := [180, 0, 21, 3, 43, 180, 0, 21, 3, 17, 0, 220, 184, 0, 55, 42, 180, 0, 24, 3, 43, 180, 0, 24]
abbrev dktX20_like_4 : List UInt8 := dkwX20_like_4 ++ dktX20_like_5
def dkwX20_like_3 : List UInt8 := [83, 132, 2, 1, 167, 255, 236, 42, 180, 0, 17, 3, 43, 180, 0, 17, 3, 16, 55, 184, 0, 55, 42]
abbrev dktX20_like_3 : List UInt8 := dkwX20_like_3 ++ dktX20_like_4
def dkwX20_like_2 : List UInt8 := [180, 0, 52, 181, 0, 52, 3, 61, 28, 7, 162, 0, 21, 43, 180, 0, 11, 28, 42, 180, 0, 11, 28, 50]
abbrev dktX20_like_2 : List UInt8 := dkwX20_like_2 ++ dktX20_like_3
def dkwX20_like_1 : List UInt8 := [3, 183, 0, 43, 76, 43, 42, 180, 0, 46, 181, 0, 46, 43, 42, 180, 0, 49, 181, 0, 49, 43, 42]
abbrev dktX20_like_1 : List UInt8 := dkwX20_like_1 ++ dktX20_like_2
def dkwX20_like_0 : List UInt8 := [187, 0, 12, 89, 42, 180, 0, 27, 42, 180, 0, 31, 42, 180, 0, 34, 42, 180, 0, 37, 42, 180, 0, 40]
abbrev dktX20_like_0 : List UInt8 := dkwX20_like_0 ++ dktX20_like_1
theorem dksX20_like_0 : cX20_like.data.toList.drop 0 = dktX20_like_0 := by decide +kernel
theorem dksX20_like_1 : cX20_like.data.toList.drop 24 = dktX20_like_1 := dk_seg dksX20_like_0 24 rfl rfl
theorem dksX20_like_2 : cX20_like.data.toList.drop 47 = dktX20_like_2 := dk_seg dksX20_like_1 23 rfl rfl
theorem dksX20_like_3 : cX20_like.data.toList.drop 71 = dktX20_like_3 := dk_seg dksX20_like_2 24 rfl rfl
theorem dksX20_like_4 : cX20_like.data.toList.drop 94 = dktX20_like_4 := dk_seg dksX20_like_3 23 rfl rfl
theorem dksX20_like_5 : cX20_like.data.toList.drop 118 = dktX20_like_5 := dk_seg dksX20_like_4 24 rfl rfl
theorem dX20_like_0 : decode cX20_like 0 = .ok (.new 12, 3) := dk_187 0 12 (dk_at dksX20_like_0 0 rfl rfl)
theorem dX20_like_3 : decode cX20_like 3 = .ok (.dup, 1) := dk_89 (dk_at dksX20_like_0 3 rfl rfl)
theorem dX20_like_4 : decode cX20_like 4 = .ok (.aload_n 0, 1) := dk_42 (dk_at dksX20_like_0 4 rfl rfl)
theorem dX20_like_5 : decode cX20_like 5 = .ok (.getfield 27, 3) := dk_180 0 27 (dk_at dksX20_like_0 5 rfl rfl)
theorem dX20_like_8 : decode cX20_like 8 = .ok (.aload_n 0, 1) := dk_42 (dk_at dksX20_like_0 8 rfl rfl)
theorem dX20_like_9 : decode cX20_like 9 = .ok (.getfield 31, 3) := dk_180 0 31 (dk_at dksX20_like_0 9 rfl rfl)
theorem dX20_like_12 : decode cX20_like 12 = .ok (.aload_n 0, 1) := dk_42 (dk_at dksX20_like_0 12 rfl rfl)
theorem dX20_like_13 : decode cX20_like 13 = .ok (.getfield 34, 3) := dk_180 0 34 (dk_at dksX20_like_0 13 rfl rfl)
theorem dX20_like_16 : decode cX20_like 16 = .ok (.aload_n 0, 1) := dk_42 (dk_at dksX20_like_0 16 rfl rfl)
theorem dX20_like_17 : decode cX20_like 17 = .ok (.getfield 37, 3) := dk_180 0 37 (dk_at dksX20_like_0 17 rfl rfl)
theorem dX20_like_20 : decode cX20_like 20 = .ok (.aload_n 0, 1) := dk_42 (dk_at dksX20_like_0 20 rfl rfl)
theorem dX20_like_21 : decode cX20_like 21 = .ok (.getfield 40, 3) := dk_180 0 40 (dk_at dksX20_like_0 21 rfl rfl)
theorem dX20_like_24 : decode cX20_like 24 = .ok (.iconst 0, 1) := dk_3 (dk_at dksX20_like_1 0 rfl rfl)
theorem dX20_like_25 : decode cX20_like 25 = .ok (.invokespecial 43, 3) := dk_183 0 43 (dk_at dksX20_like_1 1 rfl rfl)
theorem dX20_like_28 : decode cX20_like 28 = .ok (.astore_n 1, 1) := dk_76 (dk_at dksX20_like_1 4 rfl rfl)
theorem dX20_like_29 : decode cX20_like 29 = .ok (.aload_n 1, 1) := dk_43 (dk_at dksX20_like_1 5 rfl rfl)
theorem dX20_like_30 : decode cX20_like 30 = .ok (.aload_n 0, 1) := dk_42 (dk_at dksX20_like_1 6 rfl rfl)
theorem dX20_like_31 : decode cX20_like 31 = .ok (.getfield 46, 3) := dk_180 0 46 (dk_at dksX20_like_1 7 rfl rfl)
theorem dX20_like_34 : decode cX20_like 34 = .ok (.putfield 46, 3) := dk_181 0 46 (dk_at dksX20_like_1 10 rfl rfl)
theorem dX20_like_37 : decode cX20_like 37 = .ok (.aload_n 1, 1) := dk_43 (dk_at dksX20_like_1 13 rfl rfl)
theorem dX20_like_38 : decode cX20_like 38 = .ok (.aload_n 0, 1) := dk_42 (dk_at dksX20_like_1 14 rfl rfl)
theorem dX20_like_39 : decode cX20_like 39 = .ok (.getfield 49, 3) := dk_180 0 49 (dk_at dksX20_like_1 15 rfl rfl)
theorem dX20_like_42 : decode cX20_like 42 = .ok (.putfield 49, 3) := dk_181 0 49 (dk_at dksX20_like_1 18 rfl rfl)
theorem dX20_like_45 : decode cX20_like 45 = .ok (.aload_n 1, 1) := dk_43 (dk_at dksX20_like_1 21 rfl rfl)
theorem dX20_like_46 : decode cX20_like 46 = .ok (.aload_n 0, 1) := dk_42 (dk_at dksX20_like_1 22 rfl rfl)
theorem dX20_like_47 : decode cX20_like 47 = .ok (.getfield 52, 3) := dk_180 0 52 (dk_at dksX20_like_2 0 rfl rfl)
theorem dX20_like_50 : decode cX20_like 50 = .ok (.putfield 52, 3) := dk_181 0 52 (dk_at dksX20_like_2 3 rfl rfl)
theorem dX20_like_53 : decode cX20_like 53 = .ok (.iconst 0, 1) := dk_3 (dk_at dksX20_like_2 6 rfl rfl)
theorem dX20_like_54 : decode cX20_like 54 = .ok (.istore_n 2, 1) := dk_61 (dk_at dksX20_like_2 7 rfl rfl)
theorem dX20_like_55 : decode cX20_like 55 = .ok (.iload_n 2, 1) := dk_28 (dk_at dksX20_like_2 8 rfl rfl)
theorem dX20_like_56 : decode cX20_like 56 = .ok (.iconst 4, 1) := dk_7 (dk_at dksX20_like_2 9 rfl rfl)
theorem dX20_like_57 : decode cX20_like 57 = .ok (.if_icmp .ge 21, 3) := dk_162 0 21 (dk_at dksX20_like_2 10 rfl rfl)
theorem dX20_like_60 : decode cX20_like 60 = .ok (.aload_n 1, 1) := dk_43 (dk_at dksX20_like_2 13 rfl rfl)
theorem dX20_like_61 : decode cX20_like 61 = .ok (.getfield 11, 3) := dk_180 0 11 (dk_at dksX20_like_2 14 rfl rfl)
theorem dX20_like_64 : decode cX20_like 64 = .ok (.iload_n 2, 1) := dk_28 (dk_at dksX20_like_2 17 rfl rfl)
theorem dX20_like_65 : decode cX20_like 65 = .ok (.aload_n 0, 1) := dk_42 (dk_at dksX20_like_2 18 rfl rfl)
theorem dX20_like_66 : decode cX20_like 66 = .ok (.getfield 11, 3) := dk_180 0 11 (dk_at dksX20_like_2 19 rfl rfl)
theorem dX20_like_69 : decode cX20_like 69 = .ok (.iload_n 2, 1) := dk_28 (dk_at dksX20_like_2 22 rfl rfl)
theorem dX20_like_70 : decode cX20_like 70 = .ok (.aaload, 1) := dk_50 (dk_at dksX20_like_2 23 rfl rfl)
theorem dX20_like_71 : decode cX20_like 71 = .ok (.aastore, 1) := dk_83 (dk_at dksX20_like_3 0 rfl rfl)
theorem dX20_like_72 : decode cX20_like 72 = .ok (.iinc 2 1, 3) := dk_132 2 1 (dk_at dksX20_like_3 1 rfl rfl)
theorem dX20_like_75 : decode cX20_like 75 = .ok (.goto (-20), 3) := dk_167 255 236 (dk_at dksX20_like_3 4 rfl rfl)
theorem dX20_like_78 : decode cX20_like 78 = .ok (.aload_n 0, 1) := dk_42 (dk_at dksX20_like_3 7 rfl rfl)
theorem dX20_like_79 : decode cX20_like 79 = .ok (.getfield 17, 3) := dk_180 0 17 (dk_at dksX20_like_3 8 rfl rfl)
theorem dX20_like_82 : decode cX20_like 82 = .ok (.iconst 0, 1) := dk_3 (dk_at dksX20_like_3 11 rfl rfl)
theorem dX20_like_83 : decode cX20_like 83 = .ok (.aload_n 1, 1) := dk_43 (dk_at dksX20_like_3 12 rfl rfl)
theorem dX20_like_84 : decode cX20_like 84 = .ok (.getfield 17, 3) := dk_180 0 17 (dk_at dksX20_like_3 13 rfl rfl)
theorem dX20_like_87 : decode cX20_like 87 = .ok (.iconst 0, 1) := dk_3 (dk_at dksX20_like_3 16 rfl rfl)
theorem dX20_like_88 : decode cX20_like 88 = .ok (.bipush 55, 2) := dk_16 55 (dk_at dksX20_like_3 17 rfl rfl)
theorem dX20_like_90 : decode cX20_like 90 = .ok (.invokestatic 55, 3) := dk_184 0 55 (dk_at dksX20_like_3 19 rfl rfl)
theorem dX20_like_93 : decode cX20_like 93 = .ok (.aload_n 0, 1) := dk_42 (dk_at dksX20_like_3 22 rfl rfl)
theorem dX20_like_94 : decode cX20_like 94 = .ok (.getfield 21, 3) := dk_180 0 21 (dk_at dksX20_like_4 0 rfl rfl)
theorem dX20_like_97 : decode cX20_like 97 = .ok (.iconst 0, 1) := dk_3 (dk_at dksX20_like_4 3 rfl rfl)
theorem dX20_like_98 : decode cX20_like 98 = .ok (.aload_n 1, 1) := dk_43 (dk_at dksX20_like_4 4 rfl rfl)
theorem dX20_like_99 : decode cX20_like 99 = .ok (.getfield 21, 3) := dk_180 0 21 (dk_at dksX20_like_4 5 rfl rfl)
theorem dX20_like_102 : decode cX20_like 102 = .ok (.iconst 0, 1) := dk_3 (dk_at dksX20_like_4 8 rfl rfl)
theorem dX20_like_103 : decode cX20_like 103 = .ok (.sipush 220, 3) := dk_17 0 220 (dk_at dksX20_like_4 9 rfl rfl)
theorem dX20_like_106 : decode cX20_like 106 = .ok (.invokestatic 55, 3) := dk_184 0 55 (dk_at dksX20_like_4 12 rfl rfl)
theorem dX20_like_109 : decode cX20_like 109 = .ok (.aload_n 0, 1) := dk_42 (dk_at dksX20_like_4 15 rfl rfl)
theorem dX20_like_110 : decode cX20_like 110 = .ok (.getfield 24, 3) := dk_180 0 24 (dk_at dksX20_like_4 16 rfl rfl)
theorem dX20_like_113 : decode cX20_like 113 = .ok (.iconst 0, 1) := dk_3 (dk_at dksX20_like_4 19 rfl rfl)
theorem dX20_like_114 : decode cX20_like 114 = .ok (.aload_n 1, 1) := dk_43 (dk_at dksX20_like_4 20 rfl rfl)
theorem dX20_like_115 : decode cX20_like 115 = .ok (.getfield 24, 3) := dk_180 0 24 (dk_at dksX20_like_4 21 rfl rfl)
theorem dX20_like_118 : decode cX20_like 118 = .ok (.iconst 0, 1) := dk_3 (dk_at dksX20_like_5 0 rfl rfl)
theorem dX20_like_119 : decode cX20_like 119 = .ok (.iconst 4, 1) := dk_7 (dk_at dksX20_like_5 1 rfl rfl)
theorem dX20_like_120 : decode cX20_like 120 = .ok (.invokestatic 55, 3) := dk_184 0 55 (dk_at dksX20_like_5 2 rfl rfl)
theorem dX20_like_123 : decode cX20_like 123 = .ok (.aload_n 1, 1) := dk_43 (dk_at dksX20_like_5 5 rfl rfl)
theorem dX20_like_124 : decode cX20_like 124 = .ok (.areturn, 1) := dk_176 (dk_at dksX20_like_5 6 rfl rfl)
abbrev cX20_init : ByteArray := prog_21_method_1_code
def yX20_init : MethodName := ⟨RX20, "<init>", "(IIIIII)V"⟩
def dkwX20_init_3 : List UInt8 := [42, 29, 181, 0, 34, 42, 21, 4, 181, 0, 37, 42, 21, 5, 181, 0, 40, 177]
abbrev dktX20_init_3 : List UInt8 := dkwX20_init_3 ++ []
def dkwX20_init_2 : List UInt8 := [180, 0, 24, 21, 7, 21, 6, 79, 132, 7, 1, 167, 255, 238, 42, 27, 181, 0, 27, 42, 28, 181, 0, 31]
abbrev dktX20_init_2 : List UInt8 := dkwX20_init_2 ++ dktX20_init_3
def dkwX20_init_1 : List UInt8 := [188, 10, 181, 0, 21, 42, 7, 188, 10, 181, 0, 24, 3, 54, 7, 21, 7, 7, 162, 0, 18, 42]
abbrev dktX20_init_1 : List UInt8 := dkwX20_init_1 ++ dktX20_init_2
def dkwX20_init_0 : List UInt8 := [42, 183, 0, 3, 42, 7, 189, 0, 9, 181, 0, 11, 42, 16, 55, 188, 10, 181, 0, 17, 42, 17, 0, 220]
abbrev dktX20_init_0 : List UInt8 := dkwX20_init_0 ++ dktX20_init_1
theorem dksX20_init_0 : cX20_init.data.toList.drop 0 = dktX20_init_0 := by decide +kernel
theorem dksX20_init_1 : cX20_init.data.toList.drop 24 = dktX20_init_1 := dk_seg dksX20_init_0 24 rfl rfl
theorem dksX20_init_2 : cX20_init.data.toList.drop 46 = dktX20_init_2 := dk_seg dksX20_init_1 22 rfl rfl
theorem dksX20_init_3 : cX20_init.data.toList.drop 70 = dktX20_init_3 := dk_seg dksX20_init_2 24 rfl rfl
theorem dX20_init_0 : decode cX20_init 0 = .ok (.aload_n 0, 1) := dk_42 (dk_at dksX20_init_0 0 rfl rfl)
theorem dX20_init_1 : decode cX20_init 1 = .ok (.invokespecial 3, 3) := dk_183 0 3 (dk_at dksX20_init_0 1 rfl rfl)
theorem dX20_init_4 : decode cX20_init 4 = .ok (.aload_n 0, 1) := dk_42 (dk_at dksX20_init_0 4 rfl rfl)
theorem dX20_init_5 : decode cX20_init 5 = .ok (.iconst 4, 1) := dk_7 (dk_at dksX20_init_0 5 rfl rfl)
theorem dX20_init_6 : decode cX20_init 6 = .ok (.anewarray 9, 3) := dk_189 0 9 (dk_at dksX20_init_0 6 rfl rfl)
theorem dX20_init_9 : decode cX20_init 9 = .ok (.putfield 11, 3) := dk_181 0 11 (dk_at dksX20_init_0 9 rfl rfl)
theorem dX20_init_12 : decode cX20_init 12 = .ok (.aload_n 0, 1) := dk_42 (dk_at dksX20_init_0 12 rfl rfl)
theorem dX20_init_13 : decode cX20_init 13 = .ok (.bipush 55, 2) := dk_16 55 (dk_at dksX20_init_0 13 rfl rfl)
theorem dX20_init_15 : decode cX20_init 15 = .ok (.newarray .int, 2) := dk_188_10 (dk_at dksX20_init_0 15 rfl rfl)
theorem dX20_init_17 : decode cX20_init 17 = .ok (.putfield 17, 3) := dk_181 0 17 (dk_at dksX20_init_0 17 rfl rfl)
theorem dX20_init_20 : decode cX20_init 20 = .ok (.aload_n 0, 1) := dk_42 (dk_at dksX20_init_0 20 rfl rfl)
theorem dX20_init_21 : decode cX20_init 21 = .ok (.sipush 220, 3) := dk_17 0 220 (dk_at dksX20_init_0 21 rfl rfl)
theorem dX20_init_24 : decode cX20_init 24 = .ok (.newarray .int, 2) := dk_188_10 (dk_at dksX20_init_1 0 rfl rfl)
theorem dX20_init_26 : decode cX20_init 26 = .ok (.putfield 21, 3) := dk_181 0 21 (dk_at dksX20_init_1 2 rfl rfl)
theorem dX20_init_29 : decode cX20_init 29 = .ok (.aload_n 0, 1) := dk_42 (dk_at dksX20_init_1 5 rfl rfl)
theorem dX20_init_30 : decode cX20_init 30 = .ok (.iconst 4, 1) := dk_7 (dk_at dksX20_init_1 6 rfl rfl)
theorem dX20_init_31 : decode cX20_init 31 = .ok (.newarray .int, 2) := dk_188_10 (dk_at dksX20_init_1 7 rfl rfl)
theorem dX20_init_33 : decode cX20_init 33 = .ok (.putfield 24, 3) := dk_181 0 24 (dk_at dksX20_init_1 9 rfl rfl)
theorem dX20_init_36 : decode cX20_init 36 = .ok (.iconst 0, 1) := dk_3 (dk_at dksX20_init_1 12 rfl rfl)
theorem dX20_init_37 : decode cX20_init 37 = .ok (.istore 7, 2) := dk_54 7 (dk_at dksX20_init_1 13 rfl rfl)
theorem dX20_init_39 : decode cX20_init 39 = .ok (.iload 7, 2) := dk_21 7 (dk_at dksX20_init_1 15 rfl rfl)
theorem dX20_init_41 : decode cX20_init 41 = .ok (.iconst 4, 1) := dk_7 (dk_at dksX20_init_1 17 rfl rfl)
theorem dX20_init_42 : decode cX20_init 42 = .ok (.if_icmp .ge 18, 3) := dk_162 0 18 (dk_at dksX20_init_1 18 rfl rfl)
theorem dX20_init_45 : decode cX20_init 45 = .ok (.aload_n 0, 1) := dk_42 (dk_at dksX20_init_1 21 rfl rfl)
theorem dX20_init_46 : decode cX20_init 46 = .ok (.getfield 24, 3) := dk_180 0 24 (dk_at dksX20_init_2 0 rfl rfl)
theorem dX20_init_49 : decode cX20_init 49 = .ok (.iload 7, 2) := dk_21 7 (dk_at dksX20_init_2 3 rfl rfl)
theorem dX20_init_51 : decode cX20_init 51 = .ok (.iload 6, 2) := dk_21 6 (dk_at dksX20_init_2 5 rfl rfl)
theorem dX20_init_53 : decode cX20_init 53 = .ok (.iastore, 1) := dk_79 (dk_at dksX20_init_2 7 rfl rfl)
theorem dX20_init_54 : decode cX20_init 54 = .ok (.iinc 7 1, 3) := dk_132 7 1 (dk_at dksX20_init_2 8 rfl rfl)
theorem dX20_init_57 : decode cX20_init 57 = .ok (.goto (-18), 3) := dk_167 255 238 (dk_at dksX20_init_2 11 rfl rfl)
theorem dX20_init_60 : decode cX20_init 60 = .ok (.aload_n 0, 1) := dk_42 (dk_at dksX20_init_2 14 rfl rfl)
theorem dX20_init_61 : decode cX20_init 61 = .ok (.iload_n 1, 1) := dk_27 (dk_at dksX20_init_2 15 rfl rfl)
theorem dX20_init_62 : decode cX20_init 62 = .ok (.putfield 27, 3) := dk_181 0 27 (dk_at dksX20_init_2 16 rfl rfl)
theorem dX20_init_65 : decode cX20_init 65 = .ok (.aload_n 0, 1) := dk_42 (dk_at dksX20_init_2 19 rfl rfl)
theorem dX20_init_66 : decode cX20_init 66 = .ok (.iload_n 2, 1) := dk_28 (dk_at dksX20_init_2 20 rfl rfl)
theorem dX20_init_67 : decode cX20_init 67 = .ok (.putfield 31, 3) := dk_181 0 31 (dk_at dksX20_init_2 21 rfl rfl)
theorem dX20_init_70 : decode cX20_init 70 = .ok (.aload_n 0, 1) := dk_42 (dk_at dksX20_init_3 0 rfl rfl)
theorem dX20_init_71 : decode cX20_init 71 = .ok (.iload_n 3, 1) := dk_29 (dk_at dksX20_init_3 1 rfl rfl)
theorem dX20_init_72 : decode cX20_init 72 = .ok (.putfield 34, 3) := dk_181 0 34 (dk_at dksX20_init_3 2 rfl rfl)
theorem dX20_init_75 : decode cX20_init 75 = .ok (.aload_n 0, 1) := dk_42 (dk_at dksX20_init_3 5 rfl rfl)
theorem dX20_init_76 : decode cX20_init 76 = .ok (.iload 4, 2) := dk_21 4 (dk_at dksX20_init_3 6 rfl rfl)
theorem dX20_init_78 : decode cX20_init 78 = .ok (.putfield 37, 3) := dk_181 0 37 (dk_at dksX20_init_3 8 rfl rfl)
theorem dX20_init_81 : decode cX20_init 81 = .ok (.aload_n 0, 1) := dk_42 (dk_at dksX20_init_3 11 rfl rfl)
theorem dX20_init_82 : decode cX20_init 82 = .ok (.iload 5, 2) := dk_21 5 (dk_at dksX20_init_3 12 rfl rfl)
theorem dX20_init_84 : decode cX20_init 84 = .ok (.putfield 40, 3) := dk_181 0 40 (dk_at dksX20_init_3 14 rfl rfl)
theorem dX20_init_87 : decode cX20_init 87 = .ok (.return_, 1) := dk_177 (dk_at dksX20_init_3 17 rfl rfl)
abbrev cX20_size : ByteArray := prog_21_method_3_code
def yX20_size : MethodName := ⟨RX20, "size", "(I)I"⟩
def dkwX20_size_0 : List UInt8 := [42, 180, 0, 46, 42, 180, 0, 49, 27, 42, 180, 0, 52, 100, 104, 17, 1, 109, 108, 96, 172]
abbrev dktX20_size_0 : List UInt8 := dkwX20_size_0 ++ []
theorem dksX20_size_0 : cX20_size.data.toList.drop 0 = dktX20_size_0 := by decide +kernel
theorem dX20_size_0 : decode cX20_size 0 = .ok (.aload_n 0, 1) := dk_42 (dk_at dksX20_size_0 0 rfl rfl)
theorem dX20_size_1 : decode cX20_size 1 = .ok (.getfield 46, 3) := dk_180 0 46 (dk_at dksX20_size_0 1 rfl rfl)
theorem dX20_size_4 : decode cX20_size 4 = .ok (.aload_n 0, 1) := dk_42 (dk_at dksX20_size_0 4 rfl rfl)
theorem dX20_size_5 : decode cX20_size 5 = .ok (.getfield 49, 3) := dk_180 0 49 (dk_at dksX20_size_0 5 rfl rfl)
theorem dX20_size_8 : decode cX20_size 8 = .ok (.iload_n 1, 1) := dk_27 (dk_at dksX20_size_0 8 rfl rfl)
theorem dX20_size_9 : decode cX20_size 9 = .ok (.aload_n 0, 1) := dk_42 (dk_at dksX20_size_0 9 rfl rfl)
theorem dX20_size_10 : decode cX20_size 10 = .ok (.getfield 52, 3) := dk_180 0 52 (dk_at dksX20_size_0 10 rfl rfl)
theorem dX20_size_13 : decode cX20_size 13 = .ok (.isub, 1) := dk_100 (dk_at dksX20_size_0 13 rfl rfl)
theorem dX20_size_14 : decode cX20_size 14 = .ok (.imul, 1) := dk_104 (dk_at dksX20_size_0 14 rfl rfl)
theorem dX20_size_15 : decode cX20_size 15 = .ok (.sipush 365, 3) := dk_17 1 109 (dk_at dksX20_size_0 15 rfl rfl)
theorem dX20_size_18 : decode cX20_size 18 = .ok (.idiv, 1) := dk_108 (dk_at dksX20_size_0 18 rfl rfl)
theorem dX20_size_19 : decode cX20_size 19 = .ok (.iadd, 1) := dk_96 (dk_at dksX20_size_0 19 rfl rfl)
theorem dX20_size_20 : decode cX20_size 20 = .ok (.ireturn, 1) := dk_172 (dk_at dksX20_size_0 20 rfl rfl)
theorem q169 : (Jvm.Cond.initialized "LimbBenches$Person") ∈ lw_all := lw_g (lw_at lw_m1 41 rfl) rfl
theorem q912 : (Jvm.Cond.instanceMethod ({ cls := "LimbBenches$Person", name := "worn", desc := "(II)I" } : Jvm.MethodName)) ∈ lw_all := lw_g (lw_at lw_m4 64 rfl) rfl
theorem q913 : (Jvm.Cond.selects "LimbBenches$Person" ({ cls := "LimbBenches$Person", name := "worn", desc := "(II)I" } : Jvm.MethodName) ({ cls := "LimbBenches$Person", name := "worn", desc := "(II)I" } : Jvm.MethodName)) ∈ lw_all := lw_g (lw_at lw_m4 65 rfl) rfl
theorem q914 : (Jvm.Cond.code ({ cls := "LimbBenches$Person", name := "worn", desc := "(II)I" } : Jvm.MethodName) prog_21_method_5_code (3 : Nat) (Option.some Jvm.ClassFile.FieldType.int)) ∈ lw_all := lw_g (lw_at lw_m4 66 rfl) rfl
theorem q915 : (Jvm.Cond.methodLink "LimbBenches$Person" (61 : Nat) ({ cls := "LimbBenches$Person", name := "pace", desc := "()I" } : Jvm.MethodName)) ∈ lw_all := lw_g (lw_at lw_m4 67 rfl) rfl
theorem q916 : (Jvm.Cond.instanceMethod ({ cls := "LimbBenches$Person", name := "pace", desc := "()I" } : Jvm.MethodName)) ∈ lw_all := lw_g (lw_at lw_m4 68 rfl) rfl
theorem q917 : (Jvm.Cond.selects "LimbBenches$Person" ({ cls := "LimbBenches$Person", name := "pace", desc := "()I" } : Jvm.MethodName) ({ cls := "LimbBenches$Person", name := "pace", desc := "()I" } : Jvm.MethodName)) ∈ lw_all := lw_g (lw_at lw_m4 69 rfl) rfl
theorem q918 : (Jvm.Cond.code ({ cls := "LimbBenches$Person", name := "pace", desc := "()I" } : Jvm.MethodName) prog_21_method_4_code (1 : Nat) (Option.some Jvm.ClassFile.FieldType.int)) ∈ lw_all := lw_g (lw_at lw_m4 70 rfl) rfl
theorem q919 : (Jvm.Cond.methodLink "LimbBenches$Person" (65 : Nat) ({ cls := "LimbBenches$Person", name := "worn", desc := "(III)I" } : Jvm.MethodName)) ∈ lw_all := lw_g (lw_at lw_m4 71 rfl) rfl
theorem q920 : (Jvm.Cond.instanceMethod ({ cls := "LimbBenches$Person", name := "worn", desc := "(III)I" } : Jvm.MethodName)) ∈ lw_all := lw_g (lw_at lw_m4 72 rfl) rfl
theorem q921 : (Jvm.Cond.selects "LimbBenches$Person" ({ cls := "LimbBenches$Person", name := "worn", desc := "(III)I" } : Jvm.MethodName) ({ cls := "LimbBenches$Person", name := "worn", desc := "(III)I" } : Jvm.MethodName)) ∈ lw_all := lw_g (lw_at lw_m4 73 rfl) rfl
theorem q922 : (Jvm.Cond.code ({ cls := "LimbBenches$Person", name := "worn", desc := "(III)I" } : Jvm.MethodName) prog_21_method_6_code (4 : Nat) (Option.some Jvm.ClassFile.FieldType.int)) ∈ lw_all := lw_g (lw_at lw_m4 74 rfl) rfl
theorem q1026 : (Jvm.Cond.selects "LimbBenches$Person" ({ cls := "java/lang/Object", name := "getClass", desc := "()Ljava/lang/Class;" } : Jvm.MethodName) ({ cls := "java/lang/Object", name := "getClass", desc := "()Ljava/lang/Class;" } : Jvm.MethodName)) ∈ lw_all := lw_g (lw_at lw_m4 178 rfl) rfl
theorem q1055 : (Jvm.Cond.instanceMethod ({ cls := "LimbBenches$Person", name := "like", desc := "()LLimbBenches$Person;" } : Jvm.MethodName)) ∈ lw_all := lw_g (lw_at lw_m4 207 rfl) rfl
theorem q1056 : (Jvm.Cond.selects "LimbBenches$Person" ({ cls := "LimbBenches$Person", name := "like", desc := "()LLimbBenches$Person;" } : Jvm.MethodName) ({ cls := "LimbBenches$Person", name := "like", desc := "()LLimbBenches$Person;" } : Jvm.MethodName)) ∈ lw_all := lw_g (lw_at lw_m4 208 rfl) rfl
theorem q1057 : (Jvm.Cond.code ({ cls := "LimbBenches$Person", name := "like", desc := "()LLimbBenches$Person;" } : Jvm.MethodName) prog_21_method_2_code (3 : Nat) (Option.some (Jvm.ClassFile.FieldType.object "LimbBenches$Person"))) ∈ lw_all := lw_g (lw_at lw_m4 209 rfl) rfl
theorem q1058 : (Jvm.Cond.classLink "LimbBenches$Person" (12 : Nat) "LimbBenches$Person") ∈ lw_all := lw_g (lw_at lw_m4 210 rfl) rfl
theorem q1060 : (Jvm.Cond.methodLink "LimbBenches$Person" (43 : Nat) ({ cls := "LimbBenches$Person", name := "<init>", desc := "(IIIIII)V" } : Jvm.MethodName)) ∈ lw_all := lw_g (lw_at lw_m4 212 rfl) rfl
theorem q1061 : (Jvm.Cond.instanceMethod ({ cls := "LimbBenches$Person", name := "<init>", desc := "(IIIIII)V" } : Jvm.MethodName)) ∈ lw_all := lw_g (lw_at lw_m4 213 rfl) rfl
theorem q1062 : (Jvm.Cond.code ({ cls := "LimbBenches$Person", name := "<init>", desc := "(IIIIII)V" } : Jvm.MethodName) prog_21_method_1_code (8 : Nat) (Option.none : Option Jvm.ClassFile.FieldType)) ∈ lw_all := lw_g (lw_at lw_m4 214 rfl) rfl
theorem q1063 : (Jvm.Cond.methodLink "LimbBenches$Person" (3 : Nat) ({ cls := "java/lang/Object", name := "<init>", desc := "()V" } : Jvm.MethodName)) ∈ lw_all := lw_g (lw_at lw_m4 215 rfl) rfl
theorem q1064 : (Jvm.Cond.classLink "LimbBenches$Person" (9 : Nat) "LimbBenches$Part") ∈ lw_all := lw_g (lw_at lw_m4 216 rfl) rfl
theorem q1066 : (Jvm.Cond.fieldLink "LimbBenches$Person" (27 : Nat) "LimbBenches$Person" "weight" "I") ∈ lw_all := lw_g (lw_at lw_m4 218 rfl) rfl
theorem q1068 : (Jvm.Cond.fieldLink "LimbBenches$Person" (31 : Nat) "LimbBenches$Person" "trade" "I") ∈ lw_all := lw_g (lw_at lw_m4 220 rfl) rfl
theorem q1070 : (Jvm.Cond.fieldLink "LimbBenches$Person" (37 : Nat) "LimbBenches$Person" "steps" "I") ∈ lw_all := lw_g (lw_at lw_m4 222 rfl) rfl
theorem q1072 : (Jvm.Cond.fieldLink "LimbBenches$Person" (40 : Nat) "LimbBenches$Person" "hill" "I") ∈ lw_all := lw_g (lw_at lw_m4 224 rfl) rfl
theorem q1074 : (Jvm.Cond.fieldLink "LimbBenches$Person" (46 : Nat) "LimbBenches$Person" "stump" "I") ∈ lw_all := lw_g (lw_at lw_m4 226 rfl) rfl
theorem q1076 : (Jvm.Cond.fieldLink "LimbBenches$Person" (49 : Nat) "LimbBenches$Person" "growth" "I") ∈ lw_all := lw_g (lw_at lw_m4 228 rfl) rfl
theorem q1078 : (Jvm.Cond.fieldLink "LimbBenches$Person" (52 : Nat) "LimbBenches$Person" "told" "I") ∈ lw_all := lw_g (lw_at lw_m4 230 rfl) rfl
theorem q1080 : (Jvm.Cond.fieldLink "LimbBenches$Person" (34 : Nat) "LimbBenches$Person" "born" "I") ∈ lw_all := lw_g (lw_at lw_m4 232 rfl) rfl
theorem q1082 : (Jvm.Cond.fieldLink "LimbBenches$Person" (11 : Nat) "LimbBenches$Person" "parts" "[LLimbBenches$Part;") ∈ lw_all := lw_g (lw_at lw_m4 234 rfl) rfl
theorem q1084 : (Jvm.Cond.fieldLink "LimbBenches$Person" (17 : Nat) "LimbBenches$Person" "spent" "[I") ∈ lw_all := lw_g (lw_at lw_m4 236 rfl) rfl
theorem q1086 : (Jvm.Cond.fieldLink "LimbBenches$Person" (21 : Nat) "LimbBenches$Person" "fits" "[I") ∈ lw_all := lw_g (lw_at lw_m4 238 rfl) rfl
theorem q1088 : (Jvm.Cond.fieldLink "LimbBenches$Person" (24 : Nat) "LimbBenches$Person" "gone" "[I") ∈ lw_all := lw_g (lw_at lw_m5 0 rfl) rfl
theorem q1090 : (Jvm.Cond.lays "LimbBenches$Person" "LimbBenches$Person" "weight" "I") ∈ lw_all := lw_g (lw_at lw_m5 2 rfl) rfl
theorem q1091 : (Jvm.Cond.soleField "LimbBenches$Person" "weight") ∈ lw_all := lw_g (lw_at lw_m5 3 rfl) rfl
theorem q1092 : (Jvm.Cond.lays "LimbBenches$Person" "LimbBenches$Person" "trade" "I") ∈ lw_all := lw_g (lw_at lw_m5 4 rfl) rfl
theorem q1093 : (Jvm.Cond.soleField "LimbBenches$Person" "trade") ∈ lw_all := lw_g (lw_at lw_m5 5 rfl) rfl
theorem q1094 : (Jvm.Cond.lays "LimbBenches$Person" "LimbBenches$Person" "steps" "I") ∈ lw_all := lw_g (lw_at lw_m5 6 rfl) rfl
theorem q1095 : (Jvm.Cond.soleField "LimbBenches$Person" "steps") ∈ lw_all := lw_g (lw_at lw_m5 7 rfl) rfl
theorem q1096 : (Jvm.Cond.lays "LimbBenches$Person" "LimbBenches$Person" "hill" "I") ∈ lw_all := lw_g (lw_at lw_m5 8 rfl) rfl
theorem q1097 : (Jvm.Cond.soleField "LimbBenches$Person" "hill") ∈ lw_all := lw_g (lw_at lw_m5 9 rfl) rfl
theorem q1098 : (Jvm.Cond.lays "LimbBenches$Person" "LimbBenches$Person" "stump" "I") ∈ lw_all := lw_g (lw_at lw_m5 10 rfl) rfl
theorem q1099 : (Jvm.Cond.soleField "LimbBenches$Person" "stump") ∈ lw_all := lw_g (lw_at lw_m5 11 rfl) rfl
theorem q1100 : (Jvm.Cond.lays "LimbBenches$Person" "LimbBenches$Person" "growth" "I") ∈ lw_all := lw_g (lw_at lw_m5 12 rfl) rfl
theorem q1101 : (Jvm.Cond.soleField "LimbBenches$Person" "growth") ∈ lw_all := lw_g (lw_at lw_m5 13 rfl) rfl
theorem q1102 : (Jvm.Cond.lays "LimbBenches$Person" "LimbBenches$Person" "told" "I") ∈ lw_all := lw_g (lw_at lw_m5 14 rfl) rfl
theorem q1103 : (Jvm.Cond.soleField "LimbBenches$Person" "told") ∈ lw_all := lw_g (lw_at lw_m5 15 rfl) rfl
theorem q1104 : (Jvm.Cond.laysFinal "LimbBenches$Person" "LimbBenches$Person" "born" "I") ∈ lw_all := lw_g (lw_at lw_m5 16 rfl) rfl
theorem q1105 : (Jvm.Cond.soleField "LimbBenches$Person" "born") ∈ lw_all := lw_g (lw_at lw_m5 17 rfl) rfl
theorem q1106 : (Jvm.Cond.laysFinal "LimbBenches$Person" "LimbBenches$Person" "parts" "[LLimbBenches$Part;") ∈ lw_all := lw_g (lw_at lw_m5 18 rfl) rfl
theorem q1107 : (Jvm.Cond.soleField "LimbBenches$Person" "parts") ∈ lw_all := lw_g (lw_at lw_m5 19 rfl) rfl
theorem q1108 : (Jvm.Cond.laysFinal "LimbBenches$Person" "LimbBenches$Person" "spent" "[I") ∈ lw_all := lw_g (lw_at lw_m5 20 rfl) rfl
theorem q1109 : (Jvm.Cond.soleField "LimbBenches$Person" "spent") ∈ lw_all := lw_g (lw_at lw_m5 21 rfl) rfl
theorem q1110 : (Jvm.Cond.laysFinal "LimbBenches$Person" "LimbBenches$Person" "fits" "[I") ∈ lw_all := lw_g (lw_at lw_m5 22 rfl) rfl
theorem q1111 : (Jvm.Cond.soleField "LimbBenches$Person" "fits") ∈ lw_all := lw_g (lw_at lw_m5 23 rfl) rfl
theorem q1112 : (Jvm.Cond.laysFinal "LimbBenches$Person" "LimbBenches$Person" "gone" "[I") ∈ lw_all := lw_g (lw_at lw_m5 24 rfl) rfl
theorem q1113 : (Jvm.Cond.soleField "LimbBenches$Person" "gone") ∈ lw_all := lw_g (lw_at lw_m5 25 rfl) rfl
theorem q1114 : (Jvm.Cond.superclass "LimbBenches$Person" "java/lang/Object") ∈ lw_all := lw_g (lw_at lw_m5 26 rfl) rfl
theorem q1115 : (Jvm.Cond.methodLink "LimbBenches$Person" (55 : Nat) ({ cls := "java/lang/System", name := "arraycopy", desc := "(Ljava/lang/Object;ILjava/lang/Object;II)V" } : Jvm.MethodName)) ∈ lw_all := lw_g (lw_at lw_m5 27 rfl) rfl
theorem q1708 : (Jvm.Cond.instanceMethod ({ cls := "LimbBenches$Person", name := "size", desc := "(I)I" } : Jvm.MethodName)) ∈ lw_all := lw_g (lw_at lw_m7 140 rfl) rfl
theorem q1709 : (Jvm.Cond.selects "LimbBenches$Person" ({ cls := "LimbBenches$Person", name := "size", desc := "(I)I" } : Jvm.MethodName) ({ cls := "LimbBenches$Person", name := "size", desc := "(I)I" } : Jvm.MethodName)) ∈ lw_all := lw_g (lw_at lw_m7 141 rfl) rfl
theorem q1710 : (Jvm.Cond.code ({ cls := "LimbBenches$Person", name := "size", desc := "(I)I" } : Jvm.MethodName) prog_21_method_3_code (2 : Nat) (Option.some Jvm.ClassFile.FieldType.int)) ∈ lw_all := lw_g (lw_at lw_m7 142 rfl) rfl
theorem q1834 : (Jvm.Cond.fieldLinkNest "LimbBenches$Person" (72 : Nat) "LimbBenches$Part" "day" "I" "LimbBenches") ∈ lw_tbl := lw_at lw_m8 26 rfl
theorem q1837 : (Jvm.Cond.fieldLinkNest "LimbBenches$Person" (69 : Nat) "LimbBenches$Part" "ahead" "I" "LimbBenches") ∈ lw_tbl := lw_at lw_m8 29 rfl
theorem q3221 : (Jvm.Cond.castable "LimbBenches$Person" "java/lang/Object") ∈ lw_tbl := lw_at lw_m13 213 rfl

/-! LimbBenches$Part -/
set_option maxRecDepth 100000
abbrev cX21_init : ByteArray := prog_20_method_1_code
def yX21_init : MethodName := ⟨RX21, "<init>", "(IIIIII)V"⟩
def dkwX21_init_1 : List UInt8 := [181, 0, 19, 42, 21, 5, 181, 0, 22, 42, 21, 6, 181, 0, 25, 177]
abbrev dktX21_init_1 : List UInt8 := dkwX21_init_1 ++ []
def dkwX21_init_0 : List UInt8 := [42, 183, 0, 1, 42, 27, 181, 0, 7, 42, 28, 181, 0, 13, 42, 29, 181, 0, 16, 42, 21, 4]
abbrev dktX21_init_0 : List UInt8 := dkwX21_init_0 ++ dktX21_init_1
theorem dksX21_init_0 : cX21_init.data.toList.drop 0 = dktX21_init_0 := by decide +kernel
theorem dksX21_init_1 : cX21_init.data.toList.drop 22 = dktX21_init_1 := dk_seg dksX21_init_0 22 rfl rfl
theorem dX21_init_0 : decode cX21_init 0 = .ok (.aload_n 0, 1) := dk_42 (dk_at dksX21_init_0 0 rfl rfl)
theorem dX21_init_1 : decode cX21_init 1 = .ok (.invokespecial 1, 3) := dk_183 0 1 (dk_at dksX21_init_0 1 rfl rfl)
theorem dX21_init_4 : decode cX21_init 4 = .ok (.aload_n 0, 1) := dk_42 (dk_at dksX21_init_0 4 rfl rfl)
theorem dX21_init_5 : decode cX21_init 5 = .ok (.iload_n 1, 1) := dk_27 (dk_at dksX21_init_0 5 rfl rfl)
theorem dX21_init_6 : decode cX21_init 6 = .ok (.putfield 7, 3) := dk_181 0 7 (dk_at dksX21_init_0 6 rfl rfl)
theorem dX21_init_9 : decode cX21_init 9 = .ok (.aload_n 0, 1) := dk_42 (dk_at dksX21_init_0 9 rfl rfl)
theorem dX21_init_10 : decode cX21_init 10 = .ok (.iload_n 2, 1) := dk_28 (dk_at dksX21_init_0 10 rfl rfl)
theorem dX21_init_11 : decode cX21_init 11 = .ok (.putfield 13, 3) := dk_181 0 13 (dk_at dksX21_init_0 11 rfl rfl)
theorem dX21_init_14 : decode cX21_init 14 = .ok (.aload_n 0, 1) := dk_42 (dk_at dksX21_init_0 14 rfl rfl)
theorem dX21_init_15 : decode cX21_init 15 = .ok (.iload_n 3, 1) := dk_29 (dk_at dksX21_init_0 15 rfl rfl)
theorem dX21_init_16 : decode cX21_init 16 = .ok (.putfield 16, 3) := dk_181 0 16 (dk_at dksX21_init_0 16 rfl rfl)
theorem dX21_init_19 : decode cX21_init 19 = .ok (.aload_n 0, 1) := dk_42 (dk_at dksX21_init_0 19 rfl rfl)
theorem dX21_init_20 : decode cX21_init 20 = .ok (.iload 4, 2) := dk_21 4 (dk_at dksX21_init_0 20 rfl rfl)
theorem dX21_init_22 : decode cX21_init 22 = .ok (.putfield 19, 3) := dk_181 0 19 (dk_at dksX21_init_1 0 rfl rfl)
theorem dX21_init_25 : decode cX21_init 25 = .ok (.aload_n 0, 1) := dk_42 (dk_at dksX21_init_1 3 rfl rfl)
theorem dX21_init_26 : decode cX21_init 26 = .ok (.iload 5, 2) := dk_21 5 (dk_at dksX21_init_1 4 rfl rfl)
theorem dX21_init_28 : decode cX21_init 28 = .ok (.putfield 22, 3) := dk_181 0 22 (dk_at dksX21_init_1 6 rfl rfl)
theorem dX21_init_31 : decode cX21_init 31 = .ok (.aload_n 0, 1) := dk_42 (dk_at dksX21_init_1 9 rfl rfl)
theorem dX21_init_32 : decode cX21_init 32 = .ok (.iload 6, 2) := dk_21 6 (dk_at dksX21_init_1 10 rfl rfl)
theorem dX21_init_34 : decode cX21_init 34 = .ok (.putfield 25, 3) := dk_181 0 25 (dk_at dksX21_init_1 12 rfl rfl)
theorem dX21_init_37 : decode cX21_init 37 = .ok (.return_, 1) := dk_177 (dk_at dksX21_init_1 15 rfl rfl)
theorem q173 : (Jvm.Cond.initialized "LimbBenches$Part") ∈ lw_all := lw_g (lw_at lw_m1 45 rfl) rfl
theorem q1025 : (Jvm.Cond.selects "LimbBenches$Part" ({ cls := "java/lang/Object", name := "getClass", desc := "()Ljava/lang/Class;" } : Jvm.MethodName) ({ cls := "java/lang/Object", name := "getClass", desc := "()Ljava/lang/Class;" } : Jvm.MethodName)) ∈ lw_all := lw_g (lw_at lw_m4 177 rfl) rfl
theorem q1824 : (Jvm.Cond.instanceMethod ({ cls := "LimbBenches$Part", name := "<init>", desc := "(IIIIII)V" } : Jvm.MethodName)) ∈ lw_all := lw_g (lw_at lw_m8 16 rfl) rfl
theorem q1825 : (Jvm.Cond.code ({ cls := "LimbBenches$Part", name := "<init>", desc := "(IIIIII)V" } : Jvm.MethodName) prog_20_method_1_code (7 : Nat) (Option.none : Option Jvm.ClassFile.FieldType)) ∈ lw_all := lw_g (lw_at lw_m8 17 rfl) rfl
theorem q1826 : (Jvm.Cond.methodLink "LimbBenches$Part" (1 : Nat) ({ cls := "java/lang/Object", name := "<init>", desc := "()V" } : Jvm.MethodName)) ∈ lw_all := lw_g (lw_at lw_m8 18 rfl) rfl
theorem q1827 : (Jvm.Cond.fieldLink "LimbBenches$Part" (7 : Nat) "LimbBenches$Part" "model" "I") ∈ lw_all := lw_g (lw_at lw_m8 19 rfl) rfl
theorem q1830 : (Jvm.Cond.fieldLink "LimbBenches$Part" (13 : Nat) "LimbBenches$Part" "serial" "I") ∈ lw_all := lw_g (lw_at lw_m8 22 rfl) rfl
theorem q1833 : (Jvm.Cond.fieldLink "LimbBenches$Part" (16 : Nat) "LimbBenches$Part" "day" "I") ∈ lw_all := lw_g (lw_at lw_m8 25 rfl) rfl
theorem q1836 : (Jvm.Cond.fieldLink "LimbBenches$Part" (19 : Nat) "LimbBenches$Part" "ahead" "I") ∈ lw_all := lw_g (lw_at lw_m8 28 rfl) rfl
theorem q1838 : (Jvm.Cond.fieldLink "LimbBenches$Part" (22 : Nat) "LimbBenches$Part" "size" "I") ∈ lw_all := lw_g (lw_at lw_m8 30 rfl) rfl
theorem q1840 : (Jvm.Cond.fieldLink "LimbBenches$Part" (25 : Nat) "LimbBenches$Part" "number" "I") ∈ lw_all := lw_g (lw_at lw_m8 32 rfl) rfl
theorem q1842 : (Jvm.Cond.laysFinal "LimbBenches$Part" "LimbBenches$Part" "model" "I") ∈ lw_all := lw_g (lw_at lw_m8 34 rfl) rfl
theorem q1843 : (Jvm.Cond.soleField "LimbBenches$Part" "model") ∈ lw_all := lw_g (lw_at lw_m8 35 rfl) rfl
theorem q1844 : (Jvm.Cond.laysFinal "LimbBenches$Part" "LimbBenches$Part" "serial" "I") ∈ lw_all := lw_g (lw_at lw_m8 36 rfl) rfl
theorem q1845 : (Jvm.Cond.soleField "LimbBenches$Part" "serial") ∈ lw_all := lw_g (lw_at lw_m8 37 rfl) rfl
theorem q1846 : (Jvm.Cond.laysFinal "LimbBenches$Part" "LimbBenches$Part" "day" "I") ∈ lw_all := lw_g (lw_at lw_m8 38 rfl) rfl
theorem q1847 : (Jvm.Cond.soleField "LimbBenches$Part" "day") ∈ lw_all := lw_g (lw_at lw_m8 39 rfl) rfl
theorem q1848 : (Jvm.Cond.laysFinal "LimbBenches$Part" "LimbBenches$Part" "ahead" "I") ∈ lw_all := lw_g (lw_at lw_m8 40 rfl) rfl
theorem q1849 : (Jvm.Cond.soleField "LimbBenches$Part" "ahead") ∈ lw_all := lw_g (lw_at lw_m8 41 rfl) rfl
theorem q1850 : (Jvm.Cond.laysFinal "LimbBenches$Part" "LimbBenches$Part" "size" "I") ∈ lw_all := lw_g (lw_at lw_m8 42 rfl) rfl
theorem q1851 : (Jvm.Cond.soleField "LimbBenches$Part" "size") ∈ lw_all := lw_g (lw_at lw_m8 43 rfl) rfl
theorem q1852 : (Jvm.Cond.laysFinal "LimbBenches$Part" "LimbBenches$Part" "number" "I") ∈ lw_all := lw_g (lw_at lw_m8 44 rfl) rfl
theorem q1853 : (Jvm.Cond.soleField "LimbBenches$Part" "number") ∈ lw_all := lw_g (lw_at lw_m8 45 rfl) rfl
theorem q1854 : (Jvm.Cond.superclass "LimbBenches$Part" "java/lang/Object") ∈ lw_all := lw_g (lw_at lw_m8 46 rfl) rfl
theorem q3198 : (Jvm.Cond.castable "LimbBenches$Part" "java/lang/Object") ∈ lw_tbl := lw_at lw_m13 190 rfl

/-! LimbBenches$Fitting -/
set_option maxRecDepth 100000
abbrev cX22_init : ByteArray := prog_9_method_1_code
def yX22_init : MethodName := ⟨RX22, "<init>", "(III)V"⟩
def dkwX22_init_0 : List UInt8 := [42, 183, 0, 1, 42, 27, 181, 0, 7, 42, 28, 181, 0, 13, 42, 29, 181, 0, 16, 177]
abbrev dktX22_init_0 : List UInt8 := dkwX22_init_0 ++ []
theorem dksX22_init_0 : cX22_init.data.toList.drop 0 = dktX22_init_0 := by decide +kernel
theorem dX22_init_0 : decode cX22_init 0 = .ok (.aload_n 0, 1) := dk_42 (dk_at dksX22_init_0 0 rfl rfl)
theorem dX22_init_1 : decode cX22_init 1 = .ok (.invokespecial 1, 3) := dk_183 0 1 (dk_at dksX22_init_0 1 rfl rfl)
theorem dX22_init_4 : decode cX22_init 4 = .ok (.aload_n 0, 1) := dk_42 (dk_at dksX22_init_0 4 rfl rfl)
theorem dX22_init_5 : decode cX22_init 5 = .ok (.iload_n 1, 1) := dk_27 (dk_at dksX22_init_0 5 rfl rfl)
theorem dX22_init_6 : decode cX22_init 6 = .ok (.putfield 7, 3) := dk_181 0 7 (dk_at dksX22_init_0 6 rfl rfl)
theorem dX22_init_9 : decode cX22_init 9 = .ok (.aload_n 0, 1) := dk_42 (dk_at dksX22_init_0 9 rfl rfl)
theorem dX22_init_10 : decode cX22_init 10 = .ok (.iload_n 2, 1) := dk_28 (dk_at dksX22_init_0 10 rfl rfl)
theorem dX22_init_11 : decode cX22_init 11 = .ok (.putfield 13, 3) := dk_181 0 13 (dk_at dksX22_init_0 11 rfl rfl)
theorem dX22_init_14 : decode cX22_init 14 = .ok (.aload_n 0, 1) := dk_42 (dk_at dksX22_init_0 14 rfl rfl)
theorem dX22_init_15 : decode cX22_init 15 = .ok (.iload_n 3, 1) := dk_29 (dk_at dksX22_init_0 15 rfl rfl)
theorem dX22_init_16 : decode cX22_init 16 = .ok (.putfield 16, 3) := dk_181 0 16 (dk_at dksX22_init_0 16 rfl rfl)
theorem dX22_init_19 : decode cX22_init 19 = .ok (.return_, 1) := dk_177 (dk_at dksX22_init_0 19 rfl rfl)
theorem q174 : (Jvm.Cond.initialized "LimbBenches$Fitting") ∈ lw_all := lw_g (lw_at lw_m1 46 rfl) rfl
theorem q1014 : (Jvm.Cond.selects "LimbBenches$Fitting" ({ cls := "java/lang/Object", name := "getClass", desc := "()Ljava/lang/Class;" } : Jvm.MethodName) ({ cls := "java/lang/Object", name := "getClass", desc := "()Ljava/lang/Class;" } : Jvm.MethodName)) ∈ lw_all := lw_g (lw_at lw_m4 166 rfl) rfl
theorem q1862 : (Jvm.Cond.instanceMethod ({ cls := "LimbBenches$Fitting", name := "<init>", desc := "(III)V" } : Jvm.MethodName)) ∈ lw_all := lw_g (lw_at lw_m8 54 rfl) rfl
theorem q1863 : (Jvm.Cond.code ({ cls := "LimbBenches$Fitting", name := "<init>", desc := "(III)V" } : Jvm.MethodName) prog_9_method_1_code (4 : Nat) (Option.none : Option Jvm.ClassFile.FieldType)) ∈ lw_all := lw_g (lw_at lw_m8 55 rfl) rfl
theorem q1864 : (Jvm.Cond.methodLink "LimbBenches$Fitting" (1 : Nat) ({ cls := "java/lang/Object", name := "<init>", desc := "()V" } : Jvm.MethodName)) ∈ lw_all := lw_g (lw_at lw_m8 56 rfl) rfl
theorem q1865 : (Jvm.Cond.fieldLink "LimbBenches$Fitting" (7 : Nat) "LimbBenches$Fitting" "fitter" "I") ∈ lw_all := lw_g (lw_at lw_m8 57 rfl) rfl
theorem q1867 : (Jvm.Cond.fieldLink "LimbBenches$Fitting" (13 : Nat) "LimbBenches$Fitting" "day" "I") ∈ lw_all := lw_g (lw_at lw_m8 59 rfl) rfl
theorem q1869 : (Jvm.Cond.fieldLink "LimbBenches$Fitting" (16 : Nat) "LimbBenches$Fitting" "blister" "I") ∈ lw_all := lw_g (lw_at lw_m8 61 rfl) rfl
theorem q1871 : (Jvm.Cond.laysFinal "LimbBenches$Fitting" "LimbBenches$Fitting" "fitter" "I") ∈ lw_all := lw_g (lw_at lw_m8 63 rfl) rfl
theorem q1872 : (Jvm.Cond.soleField "LimbBenches$Fitting" "fitter") ∈ lw_all := lw_g (lw_at lw_m8 64 rfl) rfl
theorem q1873 : (Jvm.Cond.laysFinal "LimbBenches$Fitting" "LimbBenches$Fitting" "day" "I") ∈ lw_all := lw_g (lw_at lw_m8 65 rfl) rfl
theorem q1874 : (Jvm.Cond.soleField "LimbBenches$Fitting" "day") ∈ lw_all := lw_g (lw_at lw_m8 66 rfl) rfl
theorem q1875 : (Jvm.Cond.laysFinal "LimbBenches$Fitting" "LimbBenches$Fitting" "blister" "I") ∈ lw_all := lw_g (lw_at lw_m8 67 rfl) rfl
theorem q1876 : (Jvm.Cond.soleField "LimbBenches$Fitting" "blister") ∈ lw_all := lw_g (lw_at lw_m8 68 rfl) rfl
theorem q1877 : (Jvm.Cond.superclass "LimbBenches$Fitting" "java/lang/Object") ∈ lw_all := lw_g (lw_at lw_m8 69 rfl) rfl
theorem q3225 : (Jvm.Cond.castable "LimbBenches$Fitting" "java/lang/Object") ∈ lw_tbl := lw_at lw_m13 217 rfl

/-! LimbBenches$Job -/
set_option maxRecDepth 100000
abbrev cX23_init : ByteArray := prog_10_method_1_code
def yX23_init : MethodName := ⟨RX23, "<init>", "(IIII)V"⟩
def dkwX23_init_1 : List UInt8 := [181, 0, 19, 177]
abbrev dktX23_init_1 : List UInt8 := dkwX23_init_1 ++ []
def dkwX23_init_0 : List UInt8 := [42, 183, 0, 1, 42, 27, 181, 0, 7, 42, 28, 181, 0, 13, 42, 29, 181, 0, 16, 42, 21, 4]
abbrev dktX23_init_0 : List UInt8 := dkwX23_init_0 ++ dktX23_init_1
theorem dksX23_init_0 : cX23_init.data.toList.drop 0 = dktX23_init_0 := by decide +kernel
theorem dksX23_init_1 : cX23_init.data.toList.drop 22 = dktX23_init_1 := dk_seg dksX23_init_0 22 rfl rfl
theorem dX23_init_0 : decode cX23_init 0 = .ok (.aload_n 0, 1) := dk_42 (dk_at dksX23_init_0 0 rfl rfl)
theorem dX23_init_1 : decode cX23_init 1 = .ok (.invokespecial 1, 3) := dk_183 0 1 (dk_at dksX23_init_0 1 rfl rfl)
theorem dX23_init_4 : decode cX23_init 4 = .ok (.aload_n 0, 1) := dk_42 (dk_at dksX23_init_0 4 rfl rfl)
theorem dX23_init_5 : decode cX23_init 5 = .ok (.iload_n 1, 1) := dk_27 (dk_at dksX23_init_0 5 rfl rfl)
theorem dX23_init_6 : decode cX23_init 6 = .ok (.putfield 7, 3) := dk_181 0 7 (dk_at dksX23_init_0 6 rfl rfl)
theorem dX23_init_9 : decode cX23_init 9 = .ok (.aload_n 0, 1) := dk_42 (dk_at dksX23_init_0 9 rfl rfl)
theorem dX23_init_10 : decode cX23_init 10 = .ok (.iload_n 2, 1) := dk_28 (dk_at dksX23_init_0 10 rfl rfl)
theorem dX23_init_11 : decode cX23_init 11 = .ok (.putfield 13, 3) := dk_181 0 13 (dk_at dksX23_init_0 11 rfl rfl)
theorem dX23_init_14 : decode cX23_init 14 = .ok (.aload_n 0, 1) := dk_42 (dk_at dksX23_init_0 14 rfl rfl)
theorem dX23_init_15 : decode cX23_init 15 = .ok (.iload_n 3, 1) := dk_29 (dk_at dksX23_init_0 15 rfl rfl)
theorem dX23_init_16 : decode cX23_init 16 = .ok (.putfield 16, 3) := dk_181 0 16 (dk_at dksX23_init_0 16 rfl rfl)
theorem dX23_init_19 : decode cX23_init 19 = .ok (.aload_n 0, 1) := dk_42 (dk_at dksX23_init_0 19 rfl rfl)
theorem dX23_init_20 : decode cX23_init 20 = .ok (.iload 4, 2) := dk_21 4 (dk_at dksX23_init_0 20 rfl rfl)
theorem dX23_init_22 : decode cX23_init 22 = .ok (.putfield 19, 3) := dk_181 0 19 (dk_at dksX23_init_1 0 rfl rfl)
theorem dX23_init_25 : decode cX23_init 25 = .ok (.return_, 1) := dk_177 (dk_at dksX23_init_1 3 rfl rfl)
theorem q175 : (Jvm.Cond.initialized "LimbBenches$Job") ∈ lw_all := lw_g (lw_at lw_m1 47 rfl) rfl
theorem q1015 : (Jvm.Cond.selects "LimbBenches$Job" ({ cls := "java/lang/Object", name := "getClass", desc := "()Ljava/lang/Class;" } : Jvm.MethodName) ({ cls := "java/lang/Object", name := "getClass", desc := "()Ljava/lang/Class;" } : Jvm.MethodName)) ∈ lw_all := lw_g (lw_at lw_m4 167 rfl) rfl
theorem q1988 : (Jvm.Cond.instanceMethod ({ cls := "LimbBenches$Job", name := "<init>", desc := "(IIII)V" } : Jvm.MethodName)) ∈ lw_all := lw_g (lw_at lw_m8 180 rfl) rfl
theorem q1989 : (Jvm.Cond.code ({ cls := "LimbBenches$Job", name := "<init>", desc := "(IIII)V" } : Jvm.MethodName) prog_10_method_1_code (5 : Nat) (Option.none : Option Jvm.ClassFile.FieldType)) ∈ lw_all := lw_g (lw_at lw_m8 181 rfl) rfl
theorem q1990 : (Jvm.Cond.methodLink "LimbBenches$Job" (1 : Nat) ({ cls := "java/lang/Object", name := "<init>", desc := "()V" } : Jvm.MethodName)) ∈ lw_all := lw_g (lw_at lw_m8 182 rfl) rfl
theorem q1991 : (Jvm.Cond.fieldLink "LimbBenches$Job" (7 : Nat) "LimbBenches$Job" "person" "I") ∈ lw_all := lw_g (lw_at lw_m8 183 rfl) rfl
theorem q1992 : (Jvm.Cond.fieldLink "LimbBenches$Job" (13 : Nat) "LimbBenches$Job" "hours" "I") ∈ lw_all := lw_g (lw_at lw_m8 184 rfl) rfl
theorem q1994 : (Jvm.Cond.fieldLink "LimbBenches$Job" (16 : Nat) "LimbBenches$Job" "pain" "I") ∈ lw_all := lw_g (lw_at lw_m8 186 rfl) rfl
theorem q1996 : (Jvm.Cond.fieldLink "LimbBenches$Job" (19 : Nat) "LimbBenches$Job" "arrives" "I") ∈ lw_all := lw_g (lw_at lw_m8 188 rfl) rfl
theorem q1998 : (Jvm.Cond.laysFinal "LimbBenches$Job" "LimbBenches$Job" "person" "I") ∈ lw_all := lw_g (lw_at lw_m8 190 rfl) rfl
theorem q1999 : (Jvm.Cond.soleField "LimbBenches$Job" "person") ∈ lw_all := lw_g (lw_at lw_m8 191 rfl) rfl
theorem q2000 : (Jvm.Cond.laysFinal "LimbBenches$Job" "LimbBenches$Job" "hours" "I") ∈ lw_all := lw_g (lw_at lw_m8 192 rfl) rfl
theorem q2001 : (Jvm.Cond.soleField "LimbBenches$Job" "hours") ∈ lw_all := lw_g (lw_at lw_m8 193 rfl) rfl
theorem q2002 : (Jvm.Cond.laysFinal "LimbBenches$Job" "LimbBenches$Job" "pain" "I") ∈ lw_all := lw_g (lw_at lw_m8 194 rfl) rfl
theorem q2003 : (Jvm.Cond.soleField "LimbBenches$Job" "pain") ∈ lw_all := lw_g (lw_at lw_m8 195 rfl) rfl
theorem q2004 : (Jvm.Cond.laysFinal "LimbBenches$Job" "LimbBenches$Job" "arrives" "I") ∈ lw_all := lw_g (lw_at lw_m8 196 rfl) rfl
theorem q2005 : (Jvm.Cond.soleField "LimbBenches$Job" "arrives") ∈ lw_all := lw_g (lw_at lw_m8 197 rfl) rfl
theorem q2006 : (Jvm.Cond.superclass "LimbBenches$Job" "java/lang/Object") ∈ lw_all := lw_g (lw_at lw_m8 198 rfl) rfl
theorem q3226 : (Jvm.Cond.castable "LimbBenches$Job" "java/lang/Object") ∈ lw_tbl := lw_at lw_m13 218 rfl

/-! LimbBenches$Maker -/
set_option maxRecDepth 100000
abbrev cX24_like : ByteArray := prog_11_method_2_code
def yX24_like : MethodName := ⟨RX24, "like", "()LLimbBenches$Maker;"⟩
def dkwX24_like_2 : List UInt8 := [180, 0, 28, 181, 0, 28, 43, 176]
abbrev dktX24_like_2 : List UInt8 := dkwX24_like_2 ++ []
def dkwX24_like_1 : List UInt8 := [180, 0, 19, 181, 0, 19, 43, 42, 180, 0, 22, 181, 0, 22, 43, 42, 180, 0, 25, 181, 0, 25, 43, 42]
abbrev dktX24_like_1 : List UInt8 := dkwX24_like_1 ++ dktX24_like_2
def dkwX24_like_0 : List UInt8 := [187, 0, 8, 89, 42, 180, 0, 7, 183, 0, 13, 76, 43, 42, 180, 0, 16, 181, 0, 16, 43, 42]
abbrev dktX24_like_0 : List UInt8 := dkwX24_like_0 ++ dktX24_like_1
theorem dksX24_like_0 : cX24_like.data.toList.drop 0 = dktX24_like_0 := by decide +kernel
theorem dksX24_like_1 : cX24_like.data.toList.drop 22 = dktX24_like_1 := dk_seg dksX24_like_0 22 rfl rfl
theorem dksX24_like_2 : cX24_like.data.toList.drop 46 = dktX24_like_2 := dk_seg dksX24_like_1 24 rfl rfl
theorem dX24_like_0 : decode cX24_like 0 = .ok (.new 8, 3) := dk_187 0 8 (dk_at dksX24_like_0 0 rfl rfl)
theorem dX24_like_3 : decode cX24_like 3 = .ok (.dup, 1) := dk_89 (dk_at dksX24_like_0 3 rfl rfl)
theorem dX24_like_4 : decode cX24_like 4 = .ok (.aload_n 0, 1) := dk_42 (dk_at dksX24_like_0 4 rfl rfl)
theorem dX24_like_5 : decode cX24_like 5 = .ok (.getfield 7, 3) := dk_180 0 7 (dk_at dksX24_like_0 5 rfl rfl)
theorem dX24_like_8 : decode cX24_like 8 = .ok (.invokespecial 13, 3) := dk_183 0 13 (dk_at dksX24_like_0 8 rfl rfl)
theorem dX24_like_11 : decode cX24_like 11 = .ok (.astore_n 1, 1) := dk_76 (dk_at dksX24_like_0 11 rfl rfl)
theorem dX24_like_12 : decode cX24_like 12 = .ok (.aload_n 1, 1) := dk_43 (dk_at dksX24_like_0 12 rfl rfl)
theorem dX24_like_13 : decode cX24_like 13 = .ok (.aload_n 0, 1) := dk_42 (dk_at dksX24_like_0 13 rfl rfl)
theorem dX24_like_14 : decode cX24_like 14 = .ok (.getfield 16, 3) := dk_180 0 16 (dk_at dksX24_like_0 14 rfl rfl)
theorem dX24_like_17 : decode cX24_like 17 = .ok (.putfield 16, 3) := dk_181 0 16 (dk_at dksX24_like_0 17 rfl rfl)
theorem dX24_like_20 : decode cX24_like 20 = .ok (.aload_n 1, 1) := dk_43 (dk_at dksX24_like_0 20 rfl rfl)
theorem dX24_like_21 : decode cX24_like 21 = .ok (.aload_n 0, 1) := dk_42 (dk_at dksX24_like_0 21 rfl rfl)
theorem dX24_like_22 : decode cX24_like 22 = .ok (.getfield 19, 3) := dk_180 0 19 (dk_at dksX24_like_1 0 rfl rfl)
theorem dX24_like_25 : decode cX24_like 25 = .ok (.putfield 19, 3) := dk_181 0 19 (dk_at dksX24_like_1 3 rfl rfl)
theorem dX24_like_28 : decode cX24_like 28 = .ok (.aload_n 1, 1) := dk_43 (dk_at dksX24_like_1 6 rfl rfl)
theorem dX24_like_29 : decode cX24_like 29 = .ok (.aload_n 0, 1) := dk_42 (dk_at dksX24_like_1 7 rfl rfl)
theorem dX24_like_30 : decode cX24_like 30 = .ok (.getfield 22, 3) := dk_180 0 22 (dk_at dksX24_like_1 8 rfl rfl)
theorem dX24_like_33 : decode cX24_like 33 = .ok (.putfield 22, 3) := dk_181 0 22 (dk_at dksX24_like_1 11 rfl rfl)
theorem dX24_like_36 : decode cX24_like 36 = .ok (.aload_n 1, 1) := dk_43 (dk_at dksX24_like_1 14 rfl rfl)
theorem dX24_like_37 : decode cX24_like 37 = .ok (.aload_n 0, 1) := dk_42 (dk_at dksX24_like_1 15 rfl rfl)
theorem dX24_like_38 : decode cX24_like 38 = .ok (.getfield 25, 3) := dk_180 0 25 (dk_at dksX24_like_1 16 rfl rfl)
theorem dX24_like_41 : decode cX24_like 41 = .ok (.putfield 25, 3) := dk_181 0 25 (dk_at dksX24_like_1 19 rfl rfl)
theorem dX24_like_44 : decode cX24_like 44 = .ok (.aload_n 1, 1) := dk_43 (dk_at dksX24_like_1 22 rfl rfl)
theorem dX24_like_45 : decode cX24_like 45 = .ok (.aload_n 0, 1) := dk_42 (dk_at dksX24_like_1 23 rfl rfl)
theorem dX24_like_46 : decode cX24_like 46 = .ok (.getfield 28, 3) := dk_180 0 28 (dk_at dksX24_like_2 0 rfl rfl)
theorem dX24_like_49 : decode cX24_like 49 = .ok (.putfield 28, 3) := dk_181 0 28 (dk_at dksX24_like_2 3 rfl rfl)
theorem dX24_like_52 : decode cX24_like 52 = .ok (.aload_n 1, 1) := dk_43 (dk_at dksX24_like_2 6 rfl rfl)
theorem dX24_like_53 : decode cX24_like 53 = .ok (.areturn, 1) := dk_176 (dk_at dksX24_like_2 7 rfl rfl)
abbrev cX24_init : ByteArray := prog_11_method_1_code
def yX24_init : MethodName := ⟨RX24, "<init>", "(I)V"⟩
def dkwX24_init_0 : List UInt8 := [42, 183, 0, 1, 42, 27, 181, 0, 7, 177]
abbrev dktX24_init_0 : List UInt8 := dkwX24_init_0 ++ []
theorem dksX24_init_0 : cX24_init.data.toList.drop 0 = dktX24_init_0 := by decide +kernel
theorem dX24_init_0 : decode cX24_init 0 = .ok (.aload_n 0, 1) := dk_42 (dk_at dksX24_init_0 0 rfl rfl)
theorem dX24_init_1 : decode cX24_init 1 = .ok (.invokespecial 1, 3) := dk_183 0 1 (dk_at dksX24_init_0 1 rfl rfl)
theorem dX24_init_4 : decode cX24_init 4 = .ok (.aload_n 0, 1) := dk_42 (dk_at dksX24_init_0 4 rfl rfl)
theorem dX24_init_5 : decode cX24_init 5 = .ok (.iload_n 1, 1) := dk_27 (dk_at dksX24_init_0 5 rfl rfl)
theorem dX24_init_6 : decode cX24_init 6 = .ok (.putfield 7, 3) := dk_181 0 7 (dk_at dksX24_init_0 6 rfl rfl)
theorem dX24_init_9 : decode cX24_init 9 = .ok (.return_, 1) := dk_177 (dk_at dksX24_init_0 9 rfl rfl)
abbrev cX24_late : ByteArray := prog_11_method_3_code
def yX24_late : MethodName := ⟨RX24, "late", "(I)V"⟩
def dkwX24_late_2 : List UInt8 := [180, 0, 22, 27, 96, 181, 0, 22, 42, 89, 180, 0, 16, 4, 96, 181, 0, 16, 177]
abbrev dktX24_late_2 : List UInt8 := dkwX24_late_2 ++ []
def dkwX24_late_1 : List UInt8 := [42, 180, 0, 16, 154, 0, 7, 27, 167, 0, 11, 42, 180, 0, 28, 27, 184, 0, 37, 181, 0, 28, 42, 89]
abbrev dktX24_late_1 : List UInt8 := dkwX24_late_1 ++ dktX24_late_2
def dkwX24_late_0 : List UInt8 := [42, 42, 180, 0, 16, 154, 0, 7, 27, 167, 0, 11, 42, 180, 0, 25, 27, 184, 0, 31, 181, 0, 25, 42]
abbrev dktX24_late_0 : List UInt8 := dkwX24_late_0 ++ dktX24_late_1
theorem dksX24_late_0 : cX24_late.data.toList.drop 0 = dktX24_late_0 := by decide +kernel
theorem dksX24_late_1 : cX24_late.data.toList.drop 24 = dktX24_late_1 := dk_seg dksX24_late_0 24 rfl rfl
theorem dksX24_late_2 : cX24_late.data.toList.drop 48 = dktX24_late_2 := dk_seg dksX24_late_1 24 rfl rfl
theorem dX24_late_0 : decode cX24_late 0 = .ok (.aload_n 0, 1) := dk_42 (dk_at dksX24_late_0 0 rfl rfl)
theorem dX24_late_1 : decode cX24_late 1 = .ok (.aload_n 0, 1) := dk_42 (dk_at dksX24_late_0 1 rfl rfl)
theorem dX24_late_2 : decode cX24_late 2 = .ok (.getfield 16, 3) := dk_180 0 16 (dk_at dksX24_late_0 2 rfl rfl)
theorem dX24_late_5 : decode cX24_late 5 = .ok (.ifCond .ne 7, 3) := dk_154 0 7 (dk_at dksX24_late_0 5 rfl rfl)
theorem dX24_late_8 : decode cX24_late 8 = .ok (.iload_n 1, 1) := dk_27 (dk_at dksX24_late_0 8 rfl rfl)
theorem dX24_late_9 : decode cX24_late 9 = .ok (.goto 11, 3) := dk_167 0 11 (dk_at dksX24_late_0 9 rfl rfl)
theorem dX24_late_12 : decode cX24_late 12 = .ok (.aload_n 0, 1) := dk_42 (dk_at dksX24_late_0 12 rfl rfl)
theorem dX24_late_13 : decode cX24_late 13 = .ok (.getfield 25, 3) := dk_180 0 25 (dk_at dksX24_late_0 13 rfl rfl)
theorem dX24_late_16 : decode cX24_late 16 = .ok (.iload_n 1, 1) := dk_27 (dk_at dksX24_late_0 16 rfl rfl)
theorem dX24_late_17 : decode cX24_late 17 = .ok (.invokestatic 31, 3) := dk_184 0 31 (dk_at dksX24_late_0 17 rfl rfl)
theorem dX24_late_20 : decode cX24_late 20 = .ok (.putfield 25, 3) := dk_181 0 25 (dk_at dksX24_late_0 20 rfl rfl)
theorem dX24_late_23 : decode cX24_late 23 = .ok (.aload_n 0, 1) := dk_42 (dk_at dksX24_late_0 23 rfl rfl)
theorem dX24_late_24 : decode cX24_late 24 = .ok (.aload_n 0, 1) := dk_42 (dk_at dksX24_late_1 0 rfl rfl)
theorem dX24_late_25 : decode cX24_late 25 = .ok (.getfield 16, 3) := dk_180 0 16 (dk_at dksX24_late_1 1 rfl rfl)
theorem dX24_late_28 : decode cX24_late 28 = .ok (.ifCond .ne 7, 3) := dk_154 0 7 (dk_at dksX24_late_1 4 rfl rfl)
theorem dX24_late_31 : decode cX24_late 31 = .ok (.iload_n 1, 1) := dk_27 (dk_at dksX24_late_1 7 rfl rfl)
theorem dX24_late_32 : decode cX24_late 32 = .ok (.goto 11, 3) := dk_167 0 11 (dk_at dksX24_late_1 8 rfl rfl)
theorem dX24_late_35 : decode cX24_late 35 = .ok (.aload_n 0, 1) := dk_42 (dk_at dksX24_late_1 11 rfl rfl)
theorem dX24_late_36 : decode cX24_late 36 = .ok (.getfield 28, 3) := dk_180 0 28 (dk_at dksX24_late_1 12 rfl rfl)
theorem dX24_late_39 : decode cX24_late 39 = .ok (.iload_n 1, 1) := dk_27 (dk_at dksX24_late_1 15 rfl rfl)
theorem dX24_late_40 : decode cX24_late 40 = .ok (.invokestatic 37, 3) := dk_184 0 37 (dk_at dksX24_late_1 16 rfl rfl)
theorem dX24_late_43 : decode cX24_late 43 = .ok (.putfield 28, 3) := dk_181 0 28 (dk_at dksX24_late_1 19 rfl rfl)
theorem dX24_late_46 : decode cX24_late 46 = .ok (.aload_n 0, 1) := dk_42 (dk_at dksX24_late_1 22 rfl rfl)
theorem dX24_late_47 : decode cX24_late 47 = .ok (.dup, 1) := dk_89 (dk_at dksX24_late_1 23 rfl rfl)
theorem dX24_late_48 : decode cX24_late 48 = .ok (.getfield 22, 3) := dk_180 0 22 (dk_at dksX24_late_2 0 rfl rfl)
theorem dX24_late_51 : decode cX24_late 51 = .ok (.iload_n 1, 1) := dk_27 (dk_at dksX24_late_2 3 rfl rfl)
theorem dX24_late_52 : decode cX24_late 52 = .ok (.iadd, 1) := dk_96 (dk_at dksX24_late_2 4 rfl rfl)
theorem dX24_late_53 : decode cX24_late 53 = .ok (.putfield 22, 3) := dk_181 0 22 (dk_at dksX24_late_2 5 rfl rfl)
theorem dX24_late_56 : decode cX24_late 56 = .ok (.aload_n 0, 1) := dk_42 (dk_at dksX24_late_2 8 rfl rfl)
theorem dX24_late_57 : decode cX24_late 57 = .ok (.dup, 1) := dk_89 (dk_at dksX24_late_2 9 rfl rfl)
theorem dX24_late_58 : decode cX24_late 58 = .ok (.getfield 16, 3) := dk_180 0 16 (dk_at dksX24_late_2 10 rfl rfl)
theorem dX24_late_61 : decode cX24_late 61 = .ok (.iconst 1, 1) := dk_4 (dk_at dksX24_late_2 13 rfl rfl)
theorem dX24_late_62 : decode cX24_late 62 = .ok (.iadd, 1) := dk_96 (dk_at dksX24_late_2 14 rfl rfl)
theorem dX24_late_63 : decode cX24_late 63 = .ok (.putfield 16, 3) := dk_181 0 16 (dk_at dksX24_late_2 15 rfl rfl)
theorem dX24_late_66 : decode cX24_late 66 = .ok (.return_, 1) := dk_177 (dk_at dksX24_late_2 18 rfl rfl)
theorem q176 : (Jvm.Cond.initialized "LimbBenches$Maker") ∈ lw_all := lw_g (lw_at lw_m1 48 rfl) rfl
theorem q1016 : (Jvm.Cond.selects "LimbBenches$Maker" ({ cls := "java/lang/Object", name := "getClass", desc := "()Ljava/lang/Class;" } : Jvm.MethodName) ({ cls := "java/lang/Object", name := "getClass", desc := "()Ljava/lang/Class;" } : Jvm.MethodName)) ∈ lw_all := lw_g (lw_at lw_m4 168 rfl) rfl
theorem q1122 : (Jvm.Cond.instanceMethod ({ cls := "LimbBenches$Maker", name := "like", desc := "()LLimbBenches$Maker;" } : Jvm.MethodName)) ∈ lw_all := lw_g (lw_at lw_m5 34 rfl) rfl
theorem q1123 : (Jvm.Cond.selects "LimbBenches$Maker" ({ cls := "LimbBenches$Maker", name := "like", desc := "()LLimbBenches$Maker;" } : Jvm.MethodName) ({ cls := "LimbBenches$Maker", name := "like", desc := "()LLimbBenches$Maker;" } : Jvm.MethodName)) ∈ lw_all := lw_g (lw_at lw_m5 35 rfl) rfl
theorem q1124 : (Jvm.Cond.code ({ cls := "LimbBenches$Maker", name := "like", desc := "()LLimbBenches$Maker;" } : Jvm.MethodName) prog_11_method_2_code (2 : Nat) (Option.some (Jvm.ClassFile.FieldType.object "LimbBenches$Maker"))) ∈ lw_all := lw_g (lw_at lw_m5 36 rfl) rfl
theorem q1125 : (Jvm.Cond.classLink "LimbBenches$Maker" (8 : Nat) "LimbBenches$Maker") ∈ lw_all := lw_g (lw_at lw_m5 37 rfl) rfl
theorem q1127 : (Jvm.Cond.methodLink "LimbBenches$Maker" (13 : Nat) ({ cls := "LimbBenches$Maker", name := "<init>", desc := "(I)V" } : Jvm.MethodName)) ∈ lw_all := lw_g (lw_at lw_m5 39 rfl) rfl
theorem q1128 : (Jvm.Cond.instanceMethod ({ cls := "LimbBenches$Maker", name := "<init>", desc := "(I)V" } : Jvm.MethodName)) ∈ lw_all := lw_g (lw_at lw_m5 40 rfl) rfl
theorem q1129 : (Jvm.Cond.code ({ cls := "LimbBenches$Maker", name := "<init>", desc := "(I)V" } : Jvm.MethodName) prog_11_method_1_code (2 : Nat) (Option.none : Option Jvm.ClassFile.FieldType)) ∈ lw_all := lw_g (lw_at lw_m5 41 rfl) rfl
theorem q1130 : (Jvm.Cond.methodLink "LimbBenches$Maker" (1 : Nat) ({ cls := "java/lang/Object", name := "<init>", desc := "()V" } : Jvm.MethodName)) ∈ lw_all := lw_g (lw_at lw_m5 42 rfl) rfl
theorem q1131 : (Jvm.Cond.fieldLink "LimbBenches$Maker" (7 : Nat) "LimbBenches$Maker" "lead" "I") ∈ lw_all := lw_g (lw_at lw_m5 43 rfl) rfl
theorem q1133 : (Jvm.Cond.fieldLink "LimbBenches$Maker" (16 : Nat) "LimbBenches$Maker" "arrived" "I") ∈ lw_all := lw_g (lw_at lw_m5 45 rfl) rfl
theorem q1135 : (Jvm.Cond.fieldLink "LimbBenches$Maker" (19 : Nat) "LimbBenches$Maker" "lost" "I") ∈ lw_all := lw_g (lw_at lw_m5 47 rfl) rfl
theorem q1137 : (Jvm.Cond.fieldLink "LimbBenches$Maker" (22 : Nat) "LimbBenches$Maker" "sum" "I") ∈ lw_all := lw_g (lw_at lw_m5 49 rfl) rfl
theorem q1139 : (Jvm.Cond.fieldLink "LimbBenches$Maker" (25 : Nat) "LimbBenches$Maker" "least" "I") ∈ lw_all := lw_g (lw_at lw_m5 51 rfl) rfl
theorem q1141 : (Jvm.Cond.fieldLink "LimbBenches$Maker" (28 : Nat) "LimbBenches$Maker" "most" "I") ∈ lw_all := lw_g (lw_at lw_m5 53 rfl) rfl
theorem q1143 : (Jvm.Cond.laysFinal "LimbBenches$Maker" "LimbBenches$Maker" "lead" "I") ∈ lw_all := lw_g (lw_at lw_m5 55 rfl) rfl
theorem q1144 : (Jvm.Cond.soleField "LimbBenches$Maker" "lead") ∈ lw_all := lw_g (lw_at lw_m5 56 rfl) rfl
theorem q1145 : (Jvm.Cond.lays "LimbBenches$Maker" "LimbBenches$Maker" "arrived" "I") ∈ lw_all := lw_g (lw_at lw_m5 57 rfl) rfl
theorem q1146 : (Jvm.Cond.soleField "LimbBenches$Maker" "arrived") ∈ lw_all := lw_g (lw_at lw_m5 58 rfl) rfl
theorem q1147 : (Jvm.Cond.lays "LimbBenches$Maker" "LimbBenches$Maker" "lost" "I") ∈ lw_all := lw_g (lw_at lw_m5 59 rfl) rfl
theorem q1148 : (Jvm.Cond.soleField "LimbBenches$Maker" "lost") ∈ lw_all := lw_g (lw_at lw_m5 60 rfl) rfl
theorem q1149 : (Jvm.Cond.lays "LimbBenches$Maker" "LimbBenches$Maker" "sum" "I") ∈ lw_all := lw_g (lw_at lw_m5 61 rfl) rfl
theorem q1150 : (Jvm.Cond.soleField "LimbBenches$Maker" "sum") ∈ lw_all := lw_g (lw_at lw_m5 62 rfl) rfl
theorem q1151 : (Jvm.Cond.lays "LimbBenches$Maker" "LimbBenches$Maker" "least" "I") ∈ lw_all := lw_g (lw_at lw_m5 63 rfl) rfl
theorem q1152 : (Jvm.Cond.soleField "LimbBenches$Maker" "least") ∈ lw_all := lw_g (lw_at lw_m5 64 rfl) rfl
theorem q1153 : (Jvm.Cond.lays "LimbBenches$Maker" "LimbBenches$Maker" "most" "I") ∈ lw_all := lw_g (lw_at lw_m5 65 rfl) rfl
theorem q1154 : (Jvm.Cond.soleField "LimbBenches$Maker" "most") ∈ lw_all := lw_g (lw_at lw_m5 66 rfl) rfl
theorem q1155 : (Jvm.Cond.superclass "LimbBenches$Maker" "java/lang/Object") ∈ lw_all := lw_g (lw_at lw_m5 67 rfl) rfl
theorem q2108 : (Jvm.Cond.instanceMethod ({ cls := "LimbBenches$Maker", name := "late", desc := "(I)V" } : Jvm.MethodName)) ∈ lw_all := lw_g (lw_at lw_m9 60 rfl) rfl
theorem q2109 : (Jvm.Cond.selects "LimbBenches$Maker" ({ cls := "LimbBenches$Maker", name := "late", desc := "(I)V" } : Jvm.MethodName) ({ cls := "LimbBenches$Maker", name := "late", desc := "(I)V" } : Jvm.MethodName)) ∈ lw_all := lw_g (lw_at lw_m9 61 rfl) rfl
theorem q2110 : (Jvm.Cond.code ({ cls := "LimbBenches$Maker", name := "late", desc := "(I)V" } : Jvm.MethodName) prog_11_method_3_code (2 : Nat) (Option.none : Option Jvm.ClassFile.FieldType)) ∈ lw_all := lw_g (lw_at lw_m9 62 rfl) rfl
theorem q2111 : (Jvm.Cond.methodLink "LimbBenches$Maker" (31 : Nat) ({ cls := "java/lang/Math", name := "min", desc := "(II)I" } : Jvm.MethodName)) ∈ lw_all := lw_g (lw_at lw_m9 63 rfl) rfl
theorem q2112 : (Jvm.Cond.methodLink "LimbBenches$Maker" (37 : Nat) ({ cls := "java/lang/Math", name := "max", desc := "(II)I" } : Jvm.MethodName)) ∈ lw_all := lw_g (lw_at lw_m9 64 rfl) rfl
theorem q3227 : (Jvm.Cond.castable "LimbBenches$Maker" "java/lang/Object") ∈ lw_tbl := lw_at lw_m13 219 rfl

/-! LimbBenches$Ordered -/
set_option maxRecDepth 100000
abbrev cX25_init : ByteArray := prog_18_method_1_code
def yX25_init : MethodName := ⟨RX25, "<init>", "(IIIZ)V"⟩
def dkwX25_init_1 : List UInt8 := [181, 0, 19, 177]
abbrev dktX25_init_1 : List UInt8 := dkwX25_init_1 ++ []
def dkwX25_init_0 : List UInt8 := [42, 183, 0, 1, 42, 27, 181, 0, 7, 42, 28, 181, 0, 13, 42, 29, 181, 0, 16, 42, 21, 4]
abbrev dktX25_init_0 : List UInt8 := dkwX25_init_0 ++ dktX25_init_1
theorem dksX25_init_0 : cX25_init.data.toList.drop 0 = dktX25_init_0 := by decide +kernel
theorem dksX25_init_1 : cX25_init.data.toList.drop 22 = dktX25_init_1 := dk_seg dksX25_init_0 22 rfl rfl
theorem dX25_init_0 : decode cX25_init 0 = .ok (.aload_n 0, 1) := dk_42 (dk_at dksX25_init_0 0 rfl rfl)
theorem dX25_init_1 : decode cX25_init 1 = .ok (.invokespecial 1, 3) := dk_183 0 1 (dk_at dksX25_init_0 1 rfl rfl)
theorem dX25_init_4 : decode cX25_init 4 = .ok (.aload_n 0, 1) := dk_42 (dk_at dksX25_init_0 4 rfl rfl)
theorem dX25_init_5 : decode cX25_init 5 = .ok (.iload_n 1, 1) := dk_27 (dk_at dksX25_init_0 5 rfl rfl)
theorem dX25_init_6 : decode cX25_init 6 = .ok (.putfield 7, 3) := dk_181 0 7 (dk_at dksX25_init_0 6 rfl rfl)
theorem dX25_init_9 : decode cX25_init 9 = .ok (.aload_n 0, 1) := dk_42 (dk_at dksX25_init_0 9 rfl rfl)
theorem dX25_init_10 : decode cX25_init 10 = .ok (.iload_n 2, 1) := dk_28 (dk_at dksX25_init_0 10 rfl rfl)
theorem dX25_init_11 : decode cX25_init 11 = .ok (.putfield 13, 3) := dk_181 0 13 (dk_at dksX25_init_0 11 rfl rfl)
theorem dX25_init_14 : decode cX25_init 14 = .ok (.aload_n 0, 1) := dk_42 (dk_at dksX25_init_0 14 rfl rfl)
theorem dX25_init_15 : decode cX25_init 15 = .ok (.iload_n 3, 1) := dk_29 (dk_at dksX25_init_0 15 rfl rfl)
theorem dX25_init_16 : decode cX25_init 16 = .ok (.putfield 16, 3) := dk_181 0 16 (dk_at dksX25_init_0 16 rfl rfl)
theorem dX25_init_19 : decode cX25_init 19 = .ok (.aload_n 0, 1) := dk_42 (dk_at dksX25_init_0 19 rfl rfl)
theorem dX25_init_20 : decode cX25_init 20 = .ok (.iload 4, 2) := dk_21 4 (dk_at dksX25_init_0 20 rfl rfl)
theorem dX25_init_22 : decode cX25_init 22 = .ok (.putfield 19, 3) := dk_181 0 19 (dk_at dksX25_init_1 0 rfl rfl)
theorem dX25_init_25 : decode cX25_init 25 = .ok (.return_, 1) := dk_177 (dk_at dksX25_init_1 3 rfl rfl)
abbrev cX25_ended : ByteArray := prog_18_method_2_code
def yX25_ended : MethodName := ⟨RX25, "ended", "()LLimbBenches$Ordered;"⟩
def dkwX25_ended_0 : List UInt8 := [187, 0, 8, 89, 42, 180, 0, 7, 42, 180, 0, 13, 42, 180, 0, 16, 3, 183, 0, 23, 176]
abbrev dktX25_ended_0 : List UInt8 := dkwX25_ended_0 ++ []
theorem dksX25_ended_0 : cX25_ended.data.toList.drop 0 = dktX25_ended_0 := by decide +kernel
theorem dX25_ended_0 : decode cX25_ended 0 = .ok (.new 8, 3) := dk_187 0 8 (dk_at dksX25_ended_0 0 rfl rfl)
theorem dX25_ended_3 : decode cX25_ended 3 = .ok (.dup, 1) := dk_89 (dk_at dksX25_ended_0 3 rfl rfl)
theorem dX25_ended_4 : decode cX25_ended 4 = .ok (.aload_n 0, 1) := dk_42 (dk_at dksX25_ended_0 4 rfl rfl)
theorem dX25_ended_5 : decode cX25_ended 5 = .ok (.getfield 7, 3) := dk_180 0 7 (dk_at dksX25_ended_0 5 rfl rfl)
theorem dX25_ended_8 : decode cX25_ended 8 = .ok (.aload_n 0, 1) := dk_42 (dk_at dksX25_ended_0 8 rfl rfl)
theorem dX25_ended_9 : decode cX25_ended 9 = .ok (.getfield 13, 3) := dk_180 0 13 (dk_at dksX25_ended_0 9 rfl rfl)
theorem dX25_ended_12 : decode cX25_ended 12 = .ok (.aload_n 0, 1) := dk_42 (dk_at dksX25_ended_0 12 rfl rfl)
theorem dX25_ended_13 : decode cX25_ended 13 = .ok (.getfield 16, 3) := dk_180 0 16 (dk_at dksX25_ended_0 13 rfl rfl)
theorem dX25_ended_16 : decode cX25_ended 16 = .ok (.iconst 0, 1) := dk_3 (dk_at dksX25_ended_0 16 rfl rfl)
theorem dX25_ended_17 : decode cX25_ended 17 = .ok (.invokespecial 23, 3) := dk_183 0 23 (dk_at dksX25_ended_0 17 rfl rfl)
theorem dX25_ended_20 : decode cX25_ended 20 = .ok (.areturn, 1) := dk_176 (dk_at dksX25_ended_0 20 rfl rfl)
theorem q177 : (Jvm.Cond.initialized "LimbBenches$Ordered") ∈ lw_all := lw_g (lw_at lw_m1 49 rfl) rfl
theorem q1023 : (Jvm.Cond.selects "LimbBenches$Ordered" ({ cls := "java/lang/Object", name := "getClass", desc := "()Ljava/lang/Class;" } : Jvm.MethodName) ({ cls := "java/lang/Object", name := "getClass", desc := "()Ljava/lang/Class;" } : Jvm.MethodName)) ∈ lw_all := lw_g (lw_at lw_m4 175 rfl) rfl
theorem q2066 : (Jvm.Cond.instanceMethod ({ cls := "LimbBenches$Ordered", name := "<init>", desc := "(IIIZ)V" } : Jvm.MethodName)) ∈ lw_all := lw_g (lw_at lw_m9 18 rfl) rfl
theorem q2067 : (Jvm.Cond.code ({ cls := "LimbBenches$Ordered", name := "<init>", desc := "(IIIZ)V" } : Jvm.MethodName) prog_18_method_1_code (5 : Nat) (Option.none : Option Jvm.ClassFile.FieldType)) ∈ lw_all := lw_g (lw_at lw_m9 19 rfl) rfl
theorem q2068 : (Jvm.Cond.methodLink "LimbBenches$Ordered" (1 : Nat) ({ cls := "java/lang/Object", name := "<init>", desc := "()V" } : Jvm.MethodName)) ∈ lw_all := lw_g (lw_at lw_m9 20 rfl) rfl
theorem q2069 : (Jvm.Cond.fieldLink "LimbBenches$Ordered" (7 : Nat) "LimbBenches$Ordered" "maker" "I") ∈ lw_all := lw_g (lw_at lw_m9 21 rfl) rfl
theorem q2071 : (Jvm.Cond.fieldLink "LimbBenches$Ordered" (13 : Nat) "LimbBenches$Ordered" "model" "I") ∈ lw_all := lw_g (lw_at lw_m9 23 rfl) rfl
theorem q2073 : (Jvm.Cond.fieldLink "LimbBenches$Ordered" (16 : Nat) "LimbBenches$Ordered" "due" "I") ∈ lw_all := lw_g (lw_at lw_m9 25 rfl) rfl
theorem q2075 : (Jvm.Cond.fieldLink "LimbBenches$Ordered" (19 : Nat) "LimbBenches$Ordered" "out" "Z") ∈ lw_all := lw_g (lw_at lw_m9 27 rfl) rfl
theorem q2077 : (Jvm.Cond.laysFinal "LimbBenches$Ordered" "LimbBenches$Ordered" "maker" "I") ∈ lw_all := lw_g (lw_at lw_m9 29 rfl) rfl
theorem q2078 : (Jvm.Cond.soleField "LimbBenches$Ordered" "maker") ∈ lw_all := lw_g (lw_at lw_m9 30 rfl) rfl
theorem q2079 : (Jvm.Cond.laysFinal "LimbBenches$Ordered" "LimbBenches$Ordered" "model" "I") ∈ lw_all := lw_g (lw_at lw_m9 31 rfl) rfl
theorem q2080 : (Jvm.Cond.soleField "LimbBenches$Ordered" "model") ∈ lw_all := lw_g (lw_at lw_m9 32 rfl) rfl
theorem q2081 : (Jvm.Cond.laysFinal "LimbBenches$Ordered" "LimbBenches$Ordered" "due" "I") ∈ lw_all := lw_g (lw_at lw_m9 33 rfl) rfl
theorem q2082 : (Jvm.Cond.soleField "LimbBenches$Ordered" "due") ∈ lw_all := lw_g (lw_at lw_m9 34 rfl) rfl
theorem q2083 : (Jvm.Cond.laysFinal "LimbBenches$Ordered" "LimbBenches$Ordered" "out" "Z") ∈ lw_all := lw_g (lw_at lw_m9 35 rfl) rfl
theorem q2084 : (Jvm.Cond.soleField "LimbBenches$Ordered" "out") ∈ lw_all := lw_g (lw_at lw_m9 36 rfl) rfl
theorem q2085 : (Jvm.Cond.superclass "LimbBenches$Ordered" "java/lang/Object") ∈ lw_all := lw_g (lw_at lw_m9 37 rfl) rfl
theorem q2098 : (Jvm.Cond.instanceMethod ({ cls := "LimbBenches$Ordered", name := "ended", desc := "()LLimbBenches$Ordered;" } : Jvm.MethodName)) ∈ lw_all := lw_g (lw_at lw_m9 50 rfl) rfl
theorem q2099 : (Jvm.Cond.selects "LimbBenches$Ordered" ({ cls := "LimbBenches$Ordered", name := "ended", desc := "()LLimbBenches$Ordered;" } : Jvm.MethodName) ({ cls := "LimbBenches$Ordered", name := "ended", desc := "()LLimbBenches$Ordered;" } : Jvm.MethodName)) ∈ lw_all := lw_g (lw_at lw_m9 51 rfl) rfl
theorem q2100 : (Jvm.Cond.code ({ cls := "LimbBenches$Ordered", name := "ended", desc := "()LLimbBenches$Ordered;" } : Jvm.MethodName) prog_18_method_2_code (1 : Nat) (Option.some (Jvm.ClassFile.FieldType.object "LimbBenches$Ordered"))) ∈ lw_all := lw_g (lw_at lw_m9 52 rfl) rfl
theorem q2101 : (Jvm.Cond.classLink "LimbBenches$Ordered" (8 : Nat) "LimbBenches$Ordered") ∈ lw_all := lw_g (lw_at lw_m9 53 rfl) rfl
theorem q2102 : (Jvm.Cond.methodLink "LimbBenches$Ordered" (23 : Nat) ({ cls := "LimbBenches$Ordered", name := "<init>", desc := "(IIIZ)V" } : Jvm.MethodName)) ∈ lw_all := lw_g (lw_at lw_m9 54 rfl) rfl
theorem q3228 : (Jvm.Cond.castable "LimbBenches$Ordered" "java/lang/Object") ∈ lw_tbl := lw_at lw_m13 220 rfl

/-! LimbBenches$Measure -/
set_option maxRecDepth 100000
abbrev cX26_init : ByteArray := prog_12_method_1_code
def yX26_init : MethodName := ⟨RX26, "<init>", "(III)V"⟩
def dkwX26_init_0 : List UInt8 := [42, 183, 0, 1, 42, 27, 181, 0, 7, 42, 28, 181, 0, 13, 42, 29, 181, 0, 16, 177]
abbrev dktX26_init_0 : List UInt8 := dkwX26_init_0 ++ []
theorem dksX26_init_0 : cX26_init.data.toList.drop 0 = dktX26_init_0 := by decide +kernel
theorem dX26_init_0 : decode cX26_init 0 = .ok (.aload_n 0, 1) := dk_42 (dk_at dksX26_init_0 0 rfl rfl)
theorem dX26_init_1 : decode cX26_init 1 = .ok (.invokespecial 1, 3) := dk_183 0 1 (dk_at dksX26_init_0 1 rfl rfl)
theorem dX26_init_4 : decode cX26_init 4 = .ok (.aload_n 0, 1) := dk_42 (dk_at dksX26_init_0 4 rfl rfl)
theorem dX26_init_5 : decode cX26_init 5 = .ok (.iload_n 1, 1) := dk_27 (dk_at dksX26_init_0 5 rfl rfl)
theorem dX26_init_6 : decode cX26_init 6 = .ok (.putfield 7, 3) := dk_181 0 7 (dk_at dksX26_init_0 6 rfl rfl)
theorem dX26_init_9 : decode cX26_init 9 = .ok (.aload_n 0, 1) := dk_42 (dk_at dksX26_init_0 9 rfl rfl)
theorem dX26_init_10 : decode cX26_init 10 = .ok (.iload_n 2, 1) := dk_28 (dk_at dksX26_init_0 10 rfl rfl)
theorem dX26_init_11 : decode cX26_init 11 = .ok (.putfield 13, 3) := dk_181 0 13 (dk_at dksX26_init_0 11 rfl rfl)
theorem dX26_init_14 : decode cX26_init 14 = .ok (.aload_n 0, 1) := dk_42 (dk_at dksX26_init_0 14 rfl rfl)
theorem dX26_init_15 : decode cX26_init 15 = .ok (.iload_n 3, 1) := dk_29 (dk_at dksX26_init_0 15 rfl rfl)
theorem dX26_init_16 : decode cX26_init 16 = .ok (.putfield 16, 3) := dk_181 0 16 (dk_at dksX26_init_0 16 rfl rfl)
theorem dX26_init_19 : decode cX26_init 19 = .ok (.return_, 1) := dk_177 (dk_at dksX26_init_0 19 rfl rfl)
theorem q178 : (Jvm.Cond.initialized "LimbBenches$Measure") ∈ lw_all := lw_g (lw_at lw_m1 50 rfl) rfl
theorem q1017 : (Jvm.Cond.selects "LimbBenches$Measure" ({ cls := "java/lang/Object", name := "getClass", desc := "()Ljava/lang/Class;" } : Jvm.MethodName) ({ cls := "java/lang/Object", name := "getClass", desc := "()Ljava/lang/Class;" } : Jvm.MethodName)) ∈ lw_all := lw_g (lw_at lw_m4 169 rfl) rfl
theorem q2183 : (Jvm.Cond.instanceMethod ({ cls := "LimbBenches$Measure", name := "<init>", desc := "(III)V" } : Jvm.MethodName)) ∈ lw_all := lw_g (lw_at lw_m9 135 rfl) rfl
theorem q2184 : (Jvm.Cond.code ({ cls := "LimbBenches$Measure", name := "<init>", desc := "(III)V" } : Jvm.MethodName) prog_12_method_1_code (4 : Nat) (Option.none : Option Jvm.ClassFile.FieldType)) ∈ lw_all := lw_g (lw_at lw_m9 136 rfl) rfl
theorem q2185 : (Jvm.Cond.methodLink "LimbBenches$Measure" (1 : Nat) ({ cls := "java/lang/Object", name := "<init>", desc := "()V" } : Jvm.MethodName)) ∈ lw_all := lw_g (lw_at lw_m9 137 rfl) rfl
theorem q2186 : (Jvm.Cond.fieldLink "LimbBenches$Measure" (7 : Nat) "LimbBenches$Measure" "person" "I") ∈ lw_all := lw_g (lw_at lw_m9 138 rfl) rfl
theorem q2188 : (Jvm.Cond.fieldLink "LimbBenches$Measure" (13 : Nat) "LimbBenches$Measure" "day" "I") ∈ lw_all := lw_g (lw_at lw_m9 140 rfl) rfl
theorem q2190 : (Jvm.Cond.fieldLink "LimbBenches$Measure" (16 : Nat) "LimbBenches$Measure" "size" "I") ∈ lw_all := lw_g (lw_at lw_m9 142 rfl) rfl
theorem q2192 : (Jvm.Cond.laysFinal "LimbBenches$Measure" "LimbBenches$Measure" "person" "I") ∈ lw_all := lw_g (lw_at lw_m9 144 rfl) rfl
theorem q2193 : (Jvm.Cond.soleField "LimbBenches$Measure" "person") ∈ lw_all := lw_g (lw_at lw_m9 145 rfl) rfl
theorem q2194 : (Jvm.Cond.laysFinal "LimbBenches$Measure" "LimbBenches$Measure" "day" "I") ∈ lw_all := lw_g (lw_at lw_m9 146 rfl) rfl
theorem q2195 : (Jvm.Cond.soleField "LimbBenches$Measure" "day") ∈ lw_all := lw_g (lw_at lw_m9 147 rfl) rfl
theorem q2196 : (Jvm.Cond.laysFinal "LimbBenches$Measure" "LimbBenches$Measure" "size" "I") ∈ lw_all := lw_g (lw_at lw_m9 148 rfl) rfl
theorem q2197 : (Jvm.Cond.soleField "LimbBenches$Measure" "size") ∈ lw_all := lw_g (lw_at lw_m9 149 rfl) rfl
theorem q2198 : (Jvm.Cond.superclass "LimbBenches$Measure" "java/lang/Object") ∈ lw_all := lw_g (lw_at lw_m9 150 rfl) rfl
theorem q3229 : (Jvm.Cond.castable "LimbBenches$Measure" "java/lang/Object") ∈ lw_tbl := lw_at lw_m13 221 rfl

/-! LimbBenches$Pair -/
set_option maxRecDepth 100000
abbrev cX27_init : ByteArray := prog_19_method_1_code
def yX27_init : MethodName := ⟨RX27, "<init>", "(II)V"⟩
def dkwX27_init_0 : List UInt8 := [42, 183, 0, 1, 42, 27, 181, 0, 7, 42, 28, 181, 0, 13, 177]
abbrev dktX27_init_0 : List UInt8 := dkwX27_init_0 ++ []
theorem dksX27_init_0 : cX27_init.data.toList.drop 0 = dktX27_init_0 := by decide +kernel
theorem dX27_init_0 : decode cX27_init 0 = .ok (.aload_n 0, 1) := dk_42 (dk_at dksX27_init_0 0 rfl rfl)
theorem dX27_init_1 : decode cX27_init 1 = .ok (.invokespecial 1, 3) := dk_183 0 1 (dk_at dksX27_init_0 1 rfl rfl)
theorem dX27_init_4 : decode cX27_init 4 = .ok (.aload_n 0, 1) := dk_42 (dk_at dksX27_init_0 4 rfl rfl)
theorem dX27_init_5 : decode cX27_init 5 = .ok (.iload_n 1, 1) := dk_27 (dk_at dksX27_init_0 5 rfl rfl)
theorem dX27_init_6 : decode cX27_init 6 = .ok (.putfield 7, 3) := dk_181 0 7 (dk_at dksX27_init_0 6 rfl rfl)
theorem dX27_init_9 : decode cX27_init 9 = .ok (.aload_n 0, 1) := dk_42 (dk_at dksX27_init_0 9 rfl rfl)
theorem dX27_init_10 : decode cX27_init 10 = .ok (.iload_n 2, 1) := dk_28 (dk_at dksX27_init_0 10 rfl rfl)
theorem dX27_init_11 : decode cX27_init 11 = .ok (.putfield 13, 3) := dk_181 0 13 (dk_at dksX27_init_0 11 rfl rfl)
theorem dX27_init_14 : decode cX27_init 14 = .ok (.return_, 1) := dk_177 (dk_at dksX27_init_0 14 rfl rfl)
theorem q180 : (Jvm.Cond.initialized "LimbBenches$Pair") ∈ lw_all := lw_g (lw_at lw_m1 52 rfl) rfl
theorem q1024 : (Jvm.Cond.selects "LimbBenches$Pair" ({ cls := "java/lang/Object", name := "getClass", desc := "()Ljava/lang/Class;" } : Jvm.MethodName) ({ cls := "java/lang/Object", name := "getClass", desc := "()Ljava/lang/Class;" } : Jvm.MethodName)) ∈ lw_all := lw_g (lw_at lw_m4 176 rfl) rfl
theorem q2314 : (Jvm.Cond.instanceMethod ({ cls := "LimbBenches$Pair", name := "<init>", desc := "(II)V" } : Jvm.MethodName)) ∈ lw_all := lw_g (lw_at lw_m10 26 rfl) rfl
theorem q2315 : (Jvm.Cond.code ({ cls := "LimbBenches$Pair", name := "<init>", desc := "(II)V" } : Jvm.MethodName) prog_19_method_1_code (3 : Nat) (Option.none : Option Jvm.ClassFile.FieldType)) ∈ lw_all := lw_g (lw_at lw_m10 27 rfl) rfl
theorem q2316 : (Jvm.Cond.methodLink "LimbBenches$Pair" (1 : Nat) ({ cls := "java/lang/Object", name := "<init>", desc := "()V" } : Jvm.MethodName)) ∈ lw_all := lw_g (lw_at lw_m10 28 rfl) rfl
theorem q2317 : (Jvm.Cond.fieldLink "LimbBenches$Pair" (7 : Nat) "LimbBenches$Pair" "old" "I") ∈ lw_all := lw_g (lw_at lw_m10 29 rfl) rfl
theorem q2319 : (Jvm.Cond.fieldLink "LimbBenches$Pair" (13 : Nat) "LimbBenches$Pair" "now" "I") ∈ lw_all := lw_g (lw_at lw_m10 31 rfl) rfl
theorem q2321 : (Jvm.Cond.laysFinal "LimbBenches$Pair" "LimbBenches$Pair" "old" "I") ∈ lw_all := lw_g (lw_at lw_m10 33 rfl) rfl
theorem q2322 : (Jvm.Cond.soleField "LimbBenches$Pair" "old") ∈ lw_all := lw_g (lw_at lw_m10 34 rfl) rfl
theorem q2323 : (Jvm.Cond.laysFinal "LimbBenches$Pair" "LimbBenches$Pair" "now" "I") ∈ lw_all := lw_g (lw_at lw_m10 35 rfl) rfl
theorem q2324 : (Jvm.Cond.soleField "LimbBenches$Pair" "now") ∈ lw_all := lw_g (lw_at lw_m10 36 rfl) rfl
theorem q2325 : (Jvm.Cond.superclass "LimbBenches$Pair" "java/lang/Object") ∈ lw_all := lw_g (lw_at lw_m10 37 rfl) rfl
theorem q3231 : (Jvm.Cond.castable "LimbBenches$Pair" "java/lang/Object") ∈ lw_tbl := lw_at lw_m13 223 rfl

/-! LimbBenches$Cause -/
set_option maxRecDepth 100000
abbrev cX28_init : ByteArray := prog_4_method_1_code
def yX28_init : MethodName := ⟨RX28, "<init>", "(II)V"⟩
def dkwX28_init_0 : List UInt8 := [42, 183, 0, 1, 42, 27, 181, 0, 7, 42, 28, 181, 0, 13, 177]
abbrev dktX28_init_0 : List UInt8 := dkwX28_init_0 ++ []
theorem dksX28_init_0 : cX28_init.data.toList.drop 0 = dktX28_init_0 := by decide +kernel
theorem dX28_init_0 : decode cX28_init 0 = .ok (.aload_n 0, 1) := dk_42 (dk_at dksX28_init_0 0 rfl rfl)
theorem dX28_init_1 : decode cX28_init 1 = .ok (.invokespecial 1, 3) := dk_183 0 1 (dk_at dksX28_init_0 1 rfl rfl)
theorem dX28_init_4 : decode cX28_init 4 = .ok (.aload_n 0, 1) := dk_42 (dk_at dksX28_init_0 4 rfl rfl)
theorem dX28_init_5 : decode cX28_init 5 = .ok (.iload_n 1, 1) := dk_27 (dk_at dksX28_init_0 5 rfl rfl)
theorem dX28_init_6 : decode cX28_init 6 = .ok (.putfield 7, 3) := dk_181 0 7 (dk_at dksX28_init_0 6 rfl rfl)
theorem dX28_init_9 : decode cX28_init 9 = .ok (.aload_n 0, 1) := dk_42 (dk_at dksX28_init_0 9 rfl rfl)
theorem dX28_init_10 : decode cX28_init 10 = .ok (.iload_n 2, 1) := dk_28 (dk_at dksX28_init_0 10 rfl rfl)
theorem dX28_init_11 : decode cX28_init 11 = .ok (.putfield 13, 3) := dk_181 0 13 (dk_at dksX28_init_0 11 rfl rfl)
theorem dX28_init_14 : decode cX28_init 14 = .ok (.return_, 1) := dk_177 (dk_at dksX28_init_0 14 rfl rfl)
theorem q181 : (Jvm.Cond.initialized "LimbBenches$Cause") ∈ lw_all := lw_g (lw_at lw_m1 53 rfl) rfl
theorem q1012 : (Jvm.Cond.selects "LimbBenches$Cause" ({ cls := "java/lang/Object", name := "getClass", desc := "()Ljava/lang/Class;" } : Jvm.MethodName) ({ cls := "java/lang/Object", name := "getClass", desc := "()Ljava/lang/Class;" } : Jvm.MethodName)) ∈ lw_all := lw_g (lw_at lw_m4 164 rfl) rfl
theorem q2338 : (Jvm.Cond.instanceMethod ({ cls := "LimbBenches$Cause", name := "<init>", desc := "(II)V" } : Jvm.MethodName)) ∈ lw_all := lw_g (lw_at lw_m10 50 rfl) rfl
theorem q2339 : (Jvm.Cond.code ({ cls := "LimbBenches$Cause", name := "<init>", desc := "(II)V" } : Jvm.MethodName) prog_4_method_1_code (3 : Nat) (Option.none : Option Jvm.ClassFile.FieldType)) ∈ lw_all := lw_g (lw_at lw_m10 51 rfl) rfl
theorem q2340 : (Jvm.Cond.methodLink "LimbBenches$Cause" (1 : Nat) ({ cls := "java/lang/Object", name := "<init>", desc := "()V" } : Jvm.MethodName)) ∈ lw_all := lw_g (lw_at lw_m10 52 rfl) rfl
theorem q2341 : (Jvm.Cond.fieldLink "LimbBenches$Cause" (7 : Nat) "LimbBenches$Cause" "always" "I") ∈ lw_all := lw_g (lw_at lw_m10 53 rfl) rfl
theorem q2343 : (Jvm.Cond.fieldLink "LimbBenches$Cause" (13 : Nat) "LimbBenches$Cause" "may" "I") ∈ lw_all := lw_g (lw_at lw_m10 55 rfl) rfl
theorem q2345 : (Jvm.Cond.laysFinal "LimbBenches$Cause" "LimbBenches$Cause" "always" "I") ∈ lw_all := lw_g (lw_at lw_m10 57 rfl) rfl
theorem q2346 : (Jvm.Cond.soleField "LimbBenches$Cause" "always") ∈ lw_all := lw_g (lw_at lw_m10 58 rfl) rfl
theorem q2347 : (Jvm.Cond.laysFinal "LimbBenches$Cause" "LimbBenches$Cause" "may" "I") ∈ lw_all := lw_g (lw_at lw_m10 59 rfl) rfl
theorem q2348 : (Jvm.Cond.soleField "LimbBenches$Cause" "may") ∈ lw_all := lw_g (lw_at lw_m10 60 rfl) rfl
theorem q2349 : (Jvm.Cond.superclass "LimbBenches$Cause" "java/lang/Object") ∈ lw_all := lw_g (lw_at lw_m10 61 rfl) rfl
theorem q3232 : (Jvm.Cond.castable "LimbBenches$Cause" "java/lang/Object") ∈ lw_tbl := lw_at lw_m13 224 rfl

/-! LimbBenches$Walk -/
set_option maxRecDepth 100000
abbrev cX29_init : ByteArray := prog_28_method_1_code
def yX29_init : MethodName := ⟨RX29, "<init>", "(III)V"⟩
def dkwX29_init_0 : List UInt8 := [42, 183, 0, 1, 42, 27, 181, 0, 7, 42, 28, 181, 0, 13, 42, 29, 181, 0, 16, 177]
abbrev dktX29_init_0 : List UInt8 := dkwX29_init_0 ++ []
theorem dksX29_init_0 : cX29_init.data.toList.drop 0 = dktX29_init_0 := by decide +kernel
theorem dX29_init_0 : decode cX29_init 0 = .ok (.aload_n 0, 1) := dk_42 (dk_at dksX29_init_0 0 rfl rfl)
theorem dX29_init_1 : decode cX29_init 1 = .ok (.invokespecial 1, 3) := dk_183 0 1 (dk_at dksX29_init_0 1 rfl rfl)
theorem dX29_init_4 : decode cX29_init 4 = .ok (.aload_n 0, 1) := dk_42 (dk_at dksX29_init_0 4 rfl rfl)
theorem dX29_init_5 : decode cX29_init 5 = .ok (.iload_n 1, 1) := dk_27 (dk_at dksX29_init_0 5 rfl rfl)
theorem dX29_init_6 : decode cX29_init 6 = .ok (.putfield 7, 3) := dk_181 0 7 (dk_at dksX29_init_0 6 rfl rfl)
theorem dX29_init_9 : decode cX29_init 9 = .ok (.aload_n 0, 1) := dk_42 (dk_at dksX29_init_0 9 rfl rfl)
theorem dX29_init_10 : decode cX29_init 10 = .ok (.iload_n 2, 1) := dk_28 (dk_at dksX29_init_0 10 rfl rfl)
theorem dX29_init_11 : decode cX29_init 11 = .ok (.putfield 13, 3) := dk_181 0 13 (dk_at dksX29_init_0 11 rfl rfl)
theorem dX29_init_14 : decode cX29_init 14 = .ok (.aload_n 0, 1) := dk_42 (dk_at dksX29_init_0 14 rfl rfl)
theorem dX29_init_15 : decode cX29_init 15 = .ok (.iload_n 3, 1) := dk_29 (dk_at dksX29_init_0 15 rfl rfl)
theorem dX29_init_16 : decode cX29_init 16 = .ok (.putfield 16, 3) := dk_181 0 16 (dk_at dksX29_init_0 16 rfl rfl)
theorem dX29_init_19 : decode cX29_init 19 = .ok (.return_, 1) := dk_177 (dk_at dksX29_init_0 19 rfl rfl)
theorem q182 : (Jvm.Cond.initialized "LimbBenches$Walk") ∈ lw_all := lw_g (lw_at lw_m1 54 rfl) rfl
theorem q1033 : (Jvm.Cond.selects "LimbBenches$Walk" ({ cls := "java/lang/Object", name := "getClass", desc := "()Ljava/lang/Class;" } : Jvm.MethodName) ({ cls := "java/lang/Object", name := "getClass", desc := "()Ljava/lang/Class;" } : Jvm.MethodName)) ∈ lw_all := lw_g (lw_at lw_m4 185 rfl) rfl
theorem q2367 : (Jvm.Cond.instanceMethod ({ cls := "LimbBenches$Walk", name := "<init>", desc := "(III)V" } : Jvm.MethodName)) ∈ lw_all := lw_g (lw_at lw_m10 79 rfl) rfl
theorem q2368 : (Jvm.Cond.code ({ cls := "LimbBenches$Walk", name := "<init>", desc := "(III)V" } : Jvm.MethodName) prog_28_method_1_code (4 : Nat) (Option.none : Option Jvm.ClassFile.FieldType)) ∈ lw_all := lw_g (lw_at lw_m10 80 rfl) rfl
theorem q2369 : (Jvm.Cond.methodLink "LimbBenches$Walk" (1 : Nat) ({ cls := "java/lang/Object", name := "<init>", desc := "()V" } : Jvm.MethodName)) ∈ lw_all := lw_g (lw_at lw_m10 81 rfl) rfl
theorem q2370 : (Jvm.Cond.fieldLink "LimbBenches$Walk" (7 : Nat) "LimbBenches$Walk" "person" "I") ∈ lw_all := lw_g (lw_at lw_m10 82 rfl) rfl
theorem q2372 : (Jvm.Cond.fieldLink "LimbBenches$Walk" (13 : Nat) "LimbBenches$Walk" "day" "I") ∈ lw_all := lw_g (lw_at lw_m10 84 rfl) rfl
theorem q2374 : (Jvm.Cond.fieldLink "LimbBenches$Walk" (16 : Nat) "LimbBenches$Walk" "lean" "I") ∈ lw_all := lw_g (lw_at lw_m10 86 rfl) rfl
theorem q2376 : (Jvm.Cond.laysFinal "LimbBenches$Walk" "LimbBenches$Walk" "person" "I") ∈ lw_all := lw_g (lw_at lw_m10 88 rfl) rfl
theorem q2377 : (Jvm.Cond.soleField "LimbBenches$Walk" "person") ∈ lw_all := lw_g (lw_at lw_m10 89 rfl) rfl
theorem q2378 : (Jvm.Cond.laysFinal "LimbBenches$Walk" "LimbBenches$Walk" "day" "I") ∈ lw_all := lw_g (lw_at lw_m10 90 rfl) rfl
theorem q2379 : (Jvm.Cond.soleField "LimbBenches$Walk" "day") ∈ lw_all := lw_g (lw_at lw_m10 91 rfl) rfl
theorem q2380 : (Jvm.Cond.laysFinal "LimbBenches$Walk" "LimbBenches$Walk" "lean" "I") ∈ lw_all := lw_g (lw_at lw_m10 92 rfl) rfl
theorem q2381 : (Jvm.Cond.soleField "LimbBenches$Walk" "lean") ∈ lw_all := lw_g (lw_at lw_m10 93 rfl) rfl
theorem q2382 : (Jvm.Cond.superclass "LimbBenches$Walk" "java/lang/Object") ∈ lw_all := lw_g (lw_at lw_m10 94 rfl) rfl
theorem q3233 : (Jvm.Cond.castable "LimbBenches$Walk" "java/lang/Object") ∈ lw_tbl := lw_at lw_m13 225 rfl

