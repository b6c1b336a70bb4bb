/-! LimbBenches -/
set_option maxRecDepth 100000
set_option maxRecDepth 100000 in
set_option maxRecDepth 100000 in
abbrev cX1_init : ByteArray := prog_1_method_1_code
def yX1_init : MethodName := ⟨RX1, "<init>", "()V"⟩
def dkwX1_init_5 : List UInt8 := [42, 16, 6, 188, 10, 181, 0, 65, 177]
abbrev dktX1_init_5 : List UInt8 := dkwX1_init_5 ++ []
def dkwX1_init_4 : List UInt8 := [181, 0, 53, 42, 16, 7, 188, 10, 181, 0, 56, 42, 2, 181, 0, 59, 42, 16, 6, 188, 10, 181, 0, 62]
abbrev dktX1_init_4 : List UInt8 := dkwX1_init_4 ++ dktX1_init_5
def dkwX1_init_3 : List UInt8 := [188, 10, 181, 0, 43, 42, 7, 188, 10, 181, 0, 47, 42, 7, 188, 10, 181, 0, 50, 42, 16, 7, 188, 10]
abbrev dktX1_init_3 : List UInt8 := dkwX1_init_3 ++ dktX1_init_4
def dkwX1_init_2 : List UInt8 := [2, 181, 0, 31, 42, 17, 1, 144, 188, 8, 181, 0, 35, 42, 6, 189, 0, 7, 181, 0, 39, 42, 16, 6]
abbrev dktX1_init_2 : List UInt8 := dkwX1_init_2 ++ dktX1_init_3
def dkwX1_init_1 : List UInt8 := [181, 0, 21, 42, 187, 0, 16, 89, 3, 183, 0, 18, 181, 0, 25, 42, 42, 180, 0, 25, 181, 0, 28, 42]
abbrev dktX1_init_1 : List UInt8 := dkwX1_init_1 ++ dktX1_init_2
def dkwX1_init_0 : List UInt8 := [42, 183, 0, 1, 42, 187, 0, 7, 89, 183, 0, 9, 181, 0, 10, 42, 187, 0, 16, 89, 4, 183, 0, 18]
abbrev dktX1_init_0 : List UInt8 := dkwX1_init_0 ++ dktX1_init_1
theorem dksX1_init_0 : cX1_init.data.toList.drop 0 = dktX1_init_0 := by decide +kernel
theorem dksX1_init_1 : cX1_init.data.toList.drop 24 = dktX1_init_1 := dk_seg dksX1_init_0 24 rfl rfl
theorem dksX1_init_2 : cX1_init.data.toList.drop 48 = dktX1_init_2 := dk_seg dksX1_init_1 24 rfl rfl
theorem dksX1_init_3 : cX1_init.data.toList.drop 72 = dktX1_init_3 := dk_seg dksX1_init_2 24 rfl rfl
theorem dksX1_init_4 : cX1_init.data.toList.drop 96 = dktX1_init_4 := dk_seg dksX1_init_3 24 rfl rfl
theorem dksX1_init_5 : cX1_init.data.toList.drop 120 = dktX1_init_5 := dk_seg dksX1_init_4 24 rfl rfl
theorem dX1_init_0 : decode cX1_init 0 = .ok (.aload_n 0, 1) := dk_42 (dk_at dksX1_init_0 0 rfl rfl)
theorem dX1_init_1 : decode cX1_init 1 = .ok (.invokespecial 1, 3) := dk_183 0 1 (dk_at dksX1_init_0 1 rfl rfl)
theorem dX1_init_4 : decode cX1_init 4 = .ok (.aload_n 0, 1) := dk_42 (dk_at dksX1_init_0 4 rfl rfl)
theorem dX1_init_5 : decode cX1_init 5 = .ok (.new 7, 3) := dk_187 0 7 (dk_at dksX1_init_0 5 rfl rfl)
theorem dX1_init_8 : decode cX1_init 8 = .ok (.dup, 1) := dk_89 (dk_at dksX1_init_0 8 rfl rfl)
theorem dX1_init_9 : decode cX1_init 9 = .ok (.invokespecial 9, 3) := dk_183 0 9 (dk_at dksX1_init_0 9 rfl rfl)
theorem dX1_init_12 : decode cX1_init 12 = .ok (.putfield 10, 3) := dk_181 0 10 (dk_at dksX1_init_0 12 rfl rfl)
theorem dX1_init_15 : decode cX1_init 15 = .ok (.aload_n 0, 1) := dk_42 (dk_at dksX1_init_0 15 rfl rfl)
theorem dX1_init_16 : decode cX1_init 16 = .ok (.new 16, 3) := dk_187 0 16 (dk_at dksX1_init_0 16 rfl rfl)
theorem dX1_init_19 : decode cX1_init 19 = .ok (.dup, 1) := dk_89 (dk_at dksX1_init_0 19 rfl rfl)
theorem dX1_init_20 : decode cX1_init 20 = .ok (.iconst 1, 1) := dk_4 (dk_at dksX1_init_0 20 rfl rfl)
theorem dX1_init_21 : decode cX1_init 21 = .ok (.invokespecial 18, 3) := dk_183 0 18 (dk_at dksX1_init_0 21 rfl rfl)
theorem dX1_init_24 : decode cX1_init 24 = .ok (.putfield 21, 3) := dk_181 0 21 (dk_at dksX1_init_1 0 rfl rfl)
theorem dX1_init_27 : decode cX1_init 27 = .ok (.aload_n 0, 1) := dk_42 (dk_at dksX1_init_1 3 rfl rfl)
theorem dX1_init_28 : decode cX1_init 28 = .ok (.new 16, 3) := dk_187 0 16 (dk_at dksX1_init_1 4 rfl rfl)
theorem dX1_init_31 : decode cX1_init 31 = .ok (.dup, 1) := dk_89 (dk_at dksX1_init_1 7 rfl rfl)
theorem dX1_init_32 : decode cX1_init 32 = .ok (.iconst 0, 1) := dk_3 (dk_at dksX1_init_1 8 rfl rfl)
theorem dX1_init_33 : decode cX1_init 33 = .ok (.invokespecial 18, 3) := dk_183 0 18 (dk_at dksX1_init_1 9 rfl rfl)
theorem dX1_init_36 : decode cX1_init 36 = .ok (.putfield 25, 3) := dk_181 0 25 (dk_at dksX1_init_1 12 rfl rfl)
theorem dX1_init_39 : decode cX1_init 39 = .ok (.aload_n 0, 1) := dk_42 (dk_at dksX1_init_1 15 rfl rfl)
theorem dX1_init_40 : decode cX1_init 40 = .ok (.aload_n 0, 1) := dk_42 (dk_at dksX1_init_1 16 rfl rfl)
theorem dX1_init_41 : decode cX1_init 41 = .ok (.getfield 25, 3) := dk_180 0 25 (dk_at dksX1_init_1 17 rfl rfl)
theorem dX1_init_44 : decode cX1_init 44 = .ok (.putfield 28, 3) := dk_181 0 28 (dk_at dksX1_init_1 20 rfl rfl)
theorem dX1_init_47 : decode cX1_init 47 = .ok (.aload_n 0, 1) := dk_42 (dk_at dksX1_init_1 23 rfl rfl)
theorem dX1_init_48 : decode cX1_init 48 = .ok (.iconst (-1), 1) := dk_2 (dk_at dksX1_init_2 0 rfl rfl)
theorem dX1_init_49 : decode cX1_init 49 = .ok (.putfield 31, 3) := dk_181 0 31 (dk_at dksX1_init_2 1 rfl rfl)
theorem dX1_init_52 : decode cX1_init 52 = .ok (.aload_n 0, 1) := dk_42 (dk_at dksX1_init_2 4 rfl rfl)
theorem dX1_init_53 : decode cX1_init 53 = .ok (.sipush 400, 3) := dk_17 1 144 (dk_at dksX1_init_2 5 rfl rfl)
theorem dX1_init_56 : decode cX1_init 56 = .ok (.newarray .byte, 2) := dk_188_8 (dk_at dksX1_init_2 8 rfl rfl)
theorem dX1_init_58 : decode cX1_init 58 = .ok (.putfield 35, 3) := dk_181 0 35 (dk_at dksX1_init_2 10 rfl rfl)
theorem dX1_init_61 : decode cX1_init 61 = .ok (.aload_n 0, 1) := dk_42 (dk_at dksX1_init_2 13 rfl rfl)
theorem dX1_init_62 : decode cX1_init 62 = .ok (.iconst 3, 1) := dk_6 (dk_at dksX1_init_2 14 rfl rfl)
theorem dX1_init_63 : decode cX1_init 63 = .ok (.anewarray 7, 3) := dk_189 0 7 (dk_at dksX1_init_2 15 rfl rfl)
theorem dX1_init_66 : decode cX1_init 66 = .ok (.putfield 39, 3) := dk_181 0 39 (dk_at dksX1_init_2 18 rfl rfl)
theorem dX1_init_69 : decode cX1_init 69 = .ok (.aload_n 0, 1) := dk_42 (dk_at dksX1_init_2 21 rfl rfl)
theorem dX1_init_70 : decode cX1_init 70 = .ok (.bipush 6, 2) := dk_16 6 (dk_at dksX1_init_2 22 rfl rfl)
theorem dX1_init_72 : decode cX1_init 72 = .ok (.newarray .int, 2) := dk_188_10 (dk_at dksX1_init_3 0 rfl rfl)
theorem dX1_init_74 : decode cX1_init 74 = .ok (.putfield 43, 3) := dk_181 0 43 (dk_at dksX1_init_3 2 rfl rfl)
theorem dX1_init_77 : decode cX1_init 77 = .ok (.aload_n 0, 1) := dk_42 (dk_at dksX1_init_3 5 rfl rfl)
theorem dX1_init_78 : decode cX1_init 78 = .ok (.iconst 4, 1) := dk_7 (dk_at dksX1_init_3 6 rfl rfl)
theorem dX1_init_79 : decode cX1_init 79 = .ok (.newarray .int, 2) := dk_188_10 (dk_at dksX1_init_3 7 rfl rfl)
theorem dX1_init_81 : decode cX1_init 81 = .ok (.putfield 47, 3) := dk_181 0 47 (dk_at dksX1_init_3 9 rfl rfl)
theorem dX1_init_84 : decode cX1_init 84 = .ok (.aload_n 0, 1) := dk_42 (dk_at dksX1_init_3 12 rfl rfl)
theorem dX1_init_85 : decode cX1_init 85 = .ok (.iconst 4, 1) := dk_7 (dk_at dksX1_init_3 13 rfl rfl)
theorem dX1_init_86 : decode cX1_init 86 = .ok (.newarray .int, 2) := dk_188_10 (dk_at dksX1_init_3 14 rfl rfl)
theorem dX1_init_88 : decode cX1_init 88 = .ok (.putfield 50, 3) := dk_181 0 50 (dk_at dksX1_init_3 16 rfl rfl)
theorem dX1_init_91 : decode cX1_init 91 = .ok (.aload_n 0, 1) := dk_42 (dk_at dksX1_init_3 19 rfl rfl)
theorem dX1_init_92 : decode cX1_init 92 = .ok (.bipush 7, 2) := dk_16 7 (dk_at dksX1_init_3 20 rfl rfl)
theorem dX1_init_94 : decode cX1_init 94 = .ok (.newarray .int, 2) := dk_188_10 (dk_at dksX1_init_3 22 rfl rfl)
theorem dX1_init_96 : decode cX1_init 96 = .ok (.putfield 53, 3) := dk_181 0 53 (dk_at dksX1_init_4 0 rfl rfl)
theorem dX1_init_99 : decode cX1_init 99 = .ok (.aload_n 0, 1) := dk_42 (dk_at dksX1_init_4 3 rfl rfl)
theorem dX1_init_100 : decode cX1_init 100 = .ok (.bipush 7, 2) := dk_16 7 (dk_at dksX1_init_4 4 rfl rfl)
theorem dX1_init_102 : decode cX1_init 102 = .ok (.newarray .int, 2) := dk_188_10 (dk_at dksX1_init_4 6 rfl rfl)
theorem dX1_init_104 : decode cX1_init 104 = .ok (.putfield 56, 3) := dk_181 0 56 (dk_at dksX1_init_4 8 rfl rfl)
theorem dX1_init_107 : decode cX1_init 107 = .ok (.aload_n 0, 1) := dk_42 (dk_at dksX1_init_4 11 rfl rfl)
theorem dX1_init_108 : decode cX1_init 108 = .ok (.iconst (-1), 1) := dk_2 (dk_at dksX1_init_4 12 rfl rfl)
theorem dX1_init_109 : decode cX1_init 109 = .ok (.putfield 59, 3) := dk_181 0 59 (dk_at dksX1_init_4 13 rfl rfl)
theorem dX1_init_112 : decode cX1_init 112 = .ok (.aload_n 0, 1) := dk_42 (dk_at dksX1_init_4 16 rfl rfl)
theorem dX1_init_113 : decode cX1_init 113 = .ok (.bipush 6, 2) := dk_16 6 (dk_at dksX1_init_4 17 rfl rfl)
theorem dX1_init_115 : decode cX1_init 115 = .ok (.newarray .int, 2) := dk_188_10 (dk_at dksX1_init_4 19 rfl rfl)
theorem dX1_init_117 : decode cX1_init 117 = .ok (.putfield 62, 3) := dk_181 0 62 (dk_at dksX1_init_4 21 rfl rfl)
theorem dX1_init_120 : decode cX1_init 120 = .ok (.aload_n 0, 1) := dk_42 (dk_at dksX1_init_5 0 rfl rfl)
theorem dX1_init_121 : decode cX1_init 121 = .ok (.bipush 6, 2) := dk_16 6 (dk_at dksX1_init_5 1 rfl rfl)
theorem dX1_init_123 : decode cX1_init 123 = .ok (.newarray .int, 2) := dk_188_10 (dk_at dksX1_init_5 3 rfl rfl)
theorem dX1_init_125 : decode cX1_init 125 = .ok (.putfield 65, 3) := dk_181 0 65 (dk_at dksX1_init_5 5 rfl rfl)
theorem dX1_init_128 : decode cX1_init 128 = .ok (.return_, 1) := dk_177 (dk_at dksX1_init_5 8 rfl rfl)
abbrev cX1_feed : ByteArray := prog_1_method_6_code
def yX1_feed : MethodName := ⟨RX1, "feed", "(IIIII)I"⟩
def dkwX1_feed_2 : List UInt8 := [172]
abbrev dktX1_feed_2 : List UInt8 := dkwX1_feed_2 ++ []
def dkwX1_feed_1 : List UInt8 := [182, 0, 98, 42, 29, 182, 0, 98, 42, 21, 4, 182, 0, 98, 42, 21, 5, 182, 0, 98, 42, 180, 0, 95]
abbrev dktX1_feed_1 : List UInt8 := dkwX1_feed_1 ++ dktX1_feed_2
def dkwX1_feed_0 : List UInt8 := [42, 180, 0, 95, 16, 20, 96, 17, 1, 144, 164, 0, 5, 2, 172, 42, 27, 182, 0, 98, 42, 28]
abbrev dktX1_feed_0 : List UInt8 := dkwX1_feed_0 ++ dktX1_feed_1
theorem dksX1_feed_0 : cX1_feed.data.toList.drop 0 = dktX1_feed_0 := by decide +kernel
theorem dksX1_feed_1 : cX1_feed.data.toList.drop 22 = dktX1_feed_1 := dk_seg dksX1_feed_0 22 rfl rfl
theorem dksX1_feed_2 : cX1_feed.data.toList.drop 46 = dktX1_feed_2 := dk_seg dksX1_feed_1 24 rfl rfl
theorem dX1_feed_0 : decode cX1_feed 0 = .ok (.aload_n 0, 1) := dk_42 (dk_at dksX1_feed_0 0 rfl rfl)
theorem dX1_feed_1 : decode cX1_feed 1 = .ok (.getfield 95, 3) := dk_180 0 95 (dk_at dksX1_feed_0 1 rfl rfl)
theorem dX1_feed_4 : decode cX1_feed 4 = .ok (.bipush 20, 2) := dk_16 20 (dk_at dksX1_feed_0 4 rfl rfl)
theorem dX1_feed_6 : decode cX1_feed 6 = .ok (.iadd, 1) := dk_96 (dk_at dksX1_feed_0 6 rfl rfl)
theorem dX1_feed_7 : decode cX1_feed 7 = .ok (.sipush 400, 3) := dk_17 1 144 (dk_at dksX1_feed_0 7 rfl rfl)
theorem dX1_feed_10 : decode cX1_feed 10 = .ok (.if_icmp .le 5, 3) := dk_164 0 5 (dk_at dksX1_feed_0 10 rfl rfl)
theorem dX1_feed_13 : decode cX1_feed 13 = .ok (.iconst (-1), 1) := dk_2 (dk_at dksX1_feed_0 13 rfl rfl)
theorem dX1_feed_14 : decode cX1_feed 14 = .ok (.ireturn, 1) := dk_172 (dk_at dksX1_feed_0 14 rfl rfl)
theorem dX1_feed_15 : decode cX1_feed 15 = .ok (.aload_n 0, 1) := dk_42 (dk_at dksX1_feed_0 15 rfl rfl)
theorem dX1_feed_16 : decode cX1_feed 16 = .ok (.iload_n 1, 1) := dk_27 (dk_at dksX1_feed_0 16 rfl rfl)
theorem dX1_feed_17 : decode cX1_feed 17 = .ok (.invokevirtual 98, 3) := dk_182 0 98 (dk_at dksX1_feed_0 17 rfl rfl)
theorem dX1_feed_20 : decode cX1_feed 20 = .ok (.aload_n 0, 1) := dk_42 (dk_at dksX1_feed_0 20 rfl rfl)
theorem dX1_feed_21 : decode cX1_feed 21 = .ok (.iload_n 2, 1) := dk_28 (dk_at dksX1_feed_0 21 rfl rfl)
theorem dX1_feed_22 : decode cX1_feed 22 = .ok (.invokevirtual 98, 3) := dk_182 0 98 (dk_at dksX1_feed_1 0 rfl rfl)
theorem dX1_feed_25 : decode cX1_feed 25 = .ok (.aload_n 0, 1) := dk_42 (dk_at dksX1_feed_1 3 rfl rfl)
theorem dX1_feed_26 : decode cX1_feed 26 = .ok (.iload_n 3, 1) := dk_29 (dk_at dksX1_feed_1 4 rfl rfl)
theorem dX1_feed_27 : decode cX1_feed 27 = .ok (.invokevirtual 98, 3) := dk_182 0 98 (dk_at dksX1_feed_1 5 rfl rfl)
theorem dX1_feed_30 : decode cX1_feed 30 = .ok (.aload_n 0, 1) := dk_42 (dk_at dksX1_feed_1 8 rfl rfl)
theorem dX1_feed_31 : decode cX1_feed 31 = .ok (.iload 4, 2) := dk_21 4 (dk_at dksX1_feed_1 9 rfl rfl)
theorem dX1_feed_33 : decode cX1_feed 33 = .ok (.invokevirtual 98, 3) := dk_182 0 98 (dk_at dksX1_feed_1 11 rfl rfl)
theorem dX1_feed_36 : decode cX1_feed 36 = .ok (.aload_n 0, 1) := dk_42 (dk_at dksX1_feed_1 14 rfl rfl)
theorem dX1_feed_37 : decode cX1_feed 37 = .ok (.iload 5, 2) := dk_21 5 (dk_at dksX1_feed_1 15 rfl rfl)
theorem dX1_feed_39 : decode cX1_feed 39 = .ok (.invokevirtual 98, 3) := dk_182 0 98 (dk_at dksX1_feed_1 17 rfl rfl)
theorem dX1_feed_42 : decode cX1_feed 42 = .ok (.aload_n 0, 1) := dk_42 (dk_at dksX1_feed_1 20 rfl rfl)
theorem dX1_feed_43 : decode cX1_feed 43 = .ok (.getfield 95, 3) := dk_180 0 95 (dk_at dksX1_feed_1 21 rfl rfl)
theorem dX1_feed_46 : decode cX1_feed 46 = .ok (.ireturn, 1) := dk_172 (dk_at dksX1_feed_2 0 rfl rfl)
abbrev cX1_put : ByteArray := prog_1_method_7_code
def yX1_put : MethodName := ⟨RX1, "put", "(I)V"⟩
def dkwX1_put_1 : List UInt8 := [180, 0, 95, 4, 96, 181, 0, 95, 132, 2, 248, 167, 255, 226, 177]
abbrev dktX1_put_1 : List UInt8 := dkwX1_put_1 ++ []
def dkwX1_put_0 : List UInt8 := [16, 24, 61, 28, 155, 0, 32, 42, 180, 0, 35, 42, 180, 0, 95, 27, 28, 122, 145, 84, 42, 89]
abbrev dktX1_put_0 : List UInt8 := dkwX1_put_0 ++ dktX1_put_1
theorem dksX1_put_0 : cX1_put.data.toList.drop 0 = dktX1_put_0 := by decide +kernel
theorem dksX1_put_1 : cX1_put.data.toList.drop 22 = dktX1_put_1 := dk_seg dksX1_put_0 22 rfl rfl
theorem dX1_put_0 : decode cX1_put 0 = .ok (.bipush 24, 2) := dk_16 24 (dk_at dksX1_put_0 0 rfl rfl)
theorem dX1_put_2 : decode cX1_put 2 = .ok (.istore_n 2, 1) := dk_61 (dk_at dksX1_put_0 2 rfl rfl)
theorem dX1_put_3 : decode cX1_put 3 = .ok (.iload_n 2, 1) := dk_28 (dk_at dksX1_put_0 3 rfl rfl)
theorem dX1_put_4 : decode cX1_put 4 = .ok (.ifCond .lt 32, 3) := dk_155 0 32 (dk_at dksX1_put_0 4 rfl rfl)
theorem dX1_put_7 : decode cX1_put 7 = .ok (.aload_n 0, 1) := dk_42 (dk_at dksX1_put_0 7 rfl rfl)
theorem dX1_put_8 : decode cX1_put 8 = .ok (.getfield 35, 3) := dk_180 0 35 (dk_at dksX1_put_0 8 rfl rfl)
theorem dX1_put_11 : decode cX1_put 11 = .ok (.aload_n 0, 1) := dk_42 (dk_at dksX1_put_0 11 rfl rfl)
theorem dX1_put_12 : decode cX1_put 12 = .ok (.getfield 95, 3) := dk_180 0 95 (dk_at dksX1_put_0 12 rfl rfl)
theorem dX1_put_15 : decode cX1_put 15 = .ok (.iload_n 1, 1) := dk_27 (dk_at dksX1_put_0 15 rfl rfl)
theorem dX1_put_16 : decode cX1_put 16 = .ok (.iload_n 2, 1) := dk_28 (dk_at dksX1_put_0 16 rfl rfl)
theorem dX1_put_17 : decode cX1_put 17 = .ok (.ishr, 1) := dk_122 (dk_at dksX1_put_0 17 rfl rfl)
theorem dX1_put_18 : decode cX1_put 18 = .ok (.i2b, 1) := dk_145 (dk_at dksX1_put_0 18 rfl rfl)
theorem dX1_put_19 : decode cX1_put 19 = .ok (.bastore, 1) := dk_84 (dk_at dksX1_put_0 19 rfl rfl)
theorem dX1_put_20 : decode cX1_put 20 = .ok (.aload_n 0, 1) := dk_42 (dk_at dksX1_put_0 20 rfl rfl)
theorem dX1_put_21 : decode cX1_put 21 = .ok (.dup, 1) := dk_89 (dk_at dksX1_put_0 21 rfl rfl)
theorem dX1_put_22 : decode cX1_put 22 = .ok (.getfield 95, 3) := dk_180 0 95 (dk_at dksX1_put_1 0 rfl rfl)
theorem dX1_put_25 : decode cX1_put 25 = .ok (.iconst 1, 1) := dk_4 (dk_at dksX1_put_1 3 rfl rfl)
theorem dX1_put_26 : decode cX1_put 26 = .ok (.iadd, 1) := dk_96 (dk_at dksX1_put_1 4 rfl rfl)
theorem dX1_put_27 : decode cX1_put 27 = .ok (.putfield 95, 3) := dk_181 0 95 (dk_at dksX1_put_1 5 rfl rfl)
theorem dX1_put_30 : decode cX1_put 30 = .ok (.iinc 2 (-8), 3) := dk_132 2 248 (dk_at dksX1_put_1 8 rfl rfl)
theorem dX1_put_33 : decode cX1_put 33 = .ok (.goto (-30), 3) := dk_167 255 226 (dk_at dksX1_put_1 11 rfl rfl)
theorem dX1_put_36 : decode cX1_put 36 = .ok (.return_, 1) := dk_177 (dk_at dksX1_put_1 14 rfl rfl)
abbrev cX1_fault : ByteArray := prog_1_method_9_code
def yX1_fault : MethodName := ⟨RX1, "fault", "()I"⟩
theorem dX1_fault_0 : decode cX1_fault 0 = .ok (.aload_n 0, 1) := by decide +kernel
theorem dX1_fault_1 : decode cX1_fault 1 = .ok (.getfield 31, 3) := by decide +kernel
theorem dX1_fault_4 : decode cX1_fault 4 = .ok (.ireturn, 1) := by decide +kernel
abbrev cX1_beyond : ByteArray := prog_1_method_47_code
def yX1_beyond : MethodName := ⟨RX1, "beyond", "()I"⟩
def dkwX1_beyond_2 : List UInt8 := [60, 132, 2, 1, 167, 255, 208, 27, 172]
abbrev dktX1_beyond_2 : List UInt8 := dkwX1_beyond_2 ++ []
def dkwX1_beyond_1 : List UInt8 := [180, 0, 71, 28, 182, 0, 81, 192, 0, 85, 182, 1, 86, 158, 0, 9, 4, 28, 120, 167, 0, 4, 3, 128]
abbrev dktX1_beyond_1 : List UInt8 := dkwX1_beyond_1 ++ dktX1_beyond_2
def dkwX1_beyond_0 : List UInt8 := [3, 60, 3, 61, 28, 42, 180, 0, 10, 180, 0, 71, 182, 0, 74, 162, 0, 40, 27, 42, 42, 180, 0, 10]
abbrev dktX1_beyond_0 : List UInt8 := dkwX1_beyond_0 ++ dktX1_beyond_1
theorem dksX1_beyond_0 : cX1_beyond.data.toList.drop 0 = dktX1_beyond_0 := by decide +kernel
theorem dksX1_beyond_1 : cX1_beyond.data.toList.drop 24 = dktX1_beyond_1 := dk_seg dksX1_beyond_0 24 rfl rfl
theorem dksX1_beyond_2 : cX1_beyond.data.toList.drop 48 = dktX1_beyond_2 := dk_seg dksX1_beyond_1 24 rfl rfl
theorem dX1_beyond_0 : decode cX1_beyond 0 = .ok (.iconst 0, 1) := dk_3 (dk_at dksX1_beyond_0 0 rfl rfl)
theorem dX1_beyond_1 : decode cX1_beyond 1 = .ok (.istore_n 1, 1) := dk_60 (dk_at dksX1_beyond_0 1 rfl rfl)
theorem dX1_beyond_2 : decode cX1_beyond 2 = .ok (.iconst 0, 1) := dk_3 (dk_at dksX1_beyond_0 2 rfl rfl)
theorem dX1_beyond_3 : decode cX1_beyond 3 = .ok (.istore_n 2, 1) := dk_61 (dk_at dksX1_beyond_0 3 rfl rfl)
theorem dX1_beyond_4 : decode cX1_beyond 4 = .ok (.iload_n 2, 1) := dk_28 (dk_at dksX1_beyond_0 4 rfl rfl)
theorem dX1_beyond_5 : decode cX1_beyond 5 = .ok (.aload_n 0, 1) := dk_42 (dk_at dksX1_beyond_0 5 rfl rfl)
theorem dX1_beyond_6 : decode cX1_beyond 6 = .ok (.getfield 10, 3) := dk_180 0 10 (dk_at dksX1_beyond_0 6 rfl rfl)
theorem dX1_beyond_9 : decode cX1_beyond 9 = .ok (.getfield 71, 3) := dk_180 0 71 (dk_at dksX1_beyond_0 9 rfl rfl)
theorem dX1_beyond_12 : decode cX1_beyond 12 = .ok (.invokevirtual 74, 3) := dk_182 0 74 (dk_at dksX1_beyond_0 12 rfl rfl)
theorem dX1_beyond_15 : decode cX1_beyond 15 = .ok (.if_icmp .ge 40, 3) := dk_162 0 40 (dk_at dksX1_beyond_0 15 rfl rfl)
theorem dX1_beyond_18 : decode cX1_beyond 18 = .ok (.iload_n 1, 1) := dk_27 (dk_at dksX1_beyond_0 18 rfl rfl)
theorem dX1_beyond_19 : decode cX1_beyond 19 = .ok (.aload_n 0, 1) := dk_42 (dk_at dksX1_beyond_0 19 rfl rfl)
theorem dX1_beyond_20 : decode cX1_beyond 20 = .ok (.aload_n 0, 1) := dk_42 (dk_at dksX1_beyond_0 20 rfl rfl)
theorem dX1_beyond_21 : decode cX1_beyond 21 = .ok (.getfield 10, 3) := dk_180 0 10 (dk_at dksX1_beyond_0 21 rfl rfl)
theorem dX1_beyond_24 : decode cX1_beyond 24 = .ok (.getfield 71, 3) := dk_180 0 71 (dk_at dksX1_beyond_1 0 rfl rfl)
theorem dX1_beyond_27 : decode cX1_beyond 27 = .ok (.iload_n 2, 1) := dk_28 (dk_at dksX1_beyond_1 3 rfl rfl)
theorem dX1_beyond_28 : decode cX1_beyond 28 = .ok (.invokevirtual 81, 3) := dk_182 0 81 (dk_at dksX1_beyond_1 4 rfl rfl)
theorem dX1_beyond_31 : decode cX1_beyond 31 = .ok (.checkcast 85, 3) := dk_192 0 85 (dk_at dksX1_beyond_1 7 rfl rfl)
theorem dX1_beyond_34 : decode cX1_beyond 34 = .ok (.invokevirtual 342, 3) := dk_182 1 86 (dk_at dksX1_beyond_1 10 rfl rfl)
theorem dX1_beyond_37 : decode cX1_beyond 37 = .ok (.ifCond .le 9, 3) := dk_158 0 9 (dk_at dksX1_beyond_1 13 rfl rfl)
theorem dX1_beyond_40 : decode cX1_beyond 40 = .ok (.iconst 1, 1) := dk_4 (dk_at dksX1_beyond_1 16 rfl rfl)
theorem dX1_beyond_41 : decode cX1_beyond 41 = .ok (.iload_n 2, 1) := dk_28 (dk_at dksX1_beyond_1 17 rfl rfl)
theorem dX1_beyond_42 : decode cX1_beyond 42 = .ok (.ishl, 1) := dk_120 (dk_at dksX1_beyond_1 18 rfl rfl)
theorem dX1_beyond_43 : decode cX1_beyond 43 = .ok (.goto 4, 3) := dk_167 0 4 (dk_at dksX1_beyond_1 19 rfl rfl)
theorem dX1_beyond_46 : decode cX1_beyond 46 = .ok (.iconst 0, 1) := dk_3 (dk_at dksX1_beyond_1 22 rfl rfl)
theorem dX1_beyond_47 : decode cX1_beyond 47 = .ok (.ior, 1) := dk_128 (dk_at dksX1_beyond_1 23 rfl rfl)
theorem dX1_beyond_48 : decode cX1_beyond 48 = .ok (.istore_n 1, 1) := dk_60 (dk_at dksX1_beyond_2 0 rfl rfl)
theorem dX1_beyond_49 : decode cX1_beyond 49 = .ok (.iinc 2 1, 3) := dk_132 2 1 (dk_at dksX1_beyond_2 1 rfl rfl)
theorem dX1_beyond_52 : decode cX1_beyond 52 = .ok (.goto (-48), 3) := dk_167 255 208 (dk_at dksX1_beyond_2 4 rfl rfl)
theorem dX1_beyond_55 : decode cX1_beyond 55 = .ok (.iload_n 1, 1) := dk_27 (dk_at dksX1_beyond_2 7 rfl rfl)
theorem dX1_beyond_56 : decode cX1_beyond 56 = .ok (.ireturn, 1) := dk_172 (dk_at dksX1_beyond_2 8 rfl rfl)
abbrev cX1_overOf : ByteArray := prog_1_method_45_code
def yX1_overOf : MethodName := ⟨RX1, "overOf", "(LLimbBenches$Person;)I"⟩
def dkwX1_overOf_1 : List UInt8 := [42, 43, 182, 1, 83, 28, 100, 172]
abbrev dktX1_overOf_1 : List UInt8 := dkwX1_overOf_1 ++ []
def dkwX1_overOf_0 : List UInt8 := [42, 43, 182, 0, 227, 42, 16, 119, 3, 18, 230, 182, 0, 231, 61, 28, 2, 160, 0, 7, 3, 167, 0, 10]
abbrev dktX1_overOf_0 : List UInt8 := dkwX1_overOf_0 ++ dktX1_overOf_1
theorem dksX1_overOf_0 : cX1_overOf.data.toList.drop 0 = dktX1_overOf_0 := by decide +kernel
theorem dksX1_overOf_1 : cX1_overOf.data.toList.drop 24 = dktX1_overOf_1 := dk_seg dksX1_overOf_0 24 rfl rfl
theorem dX1_overOf_0 : decode cX1_overOf 0 = .ok (.aload_n 0, 1) := dk_42 (dk_at dksX1_overOf_0 0 rfl rfl)
theorem dX1_overOf_1 : decode cX1_overOf 1 = .ok (.aload_n 1, 1) := dk_43 (dk_at dksX1_overOf_0 1 rfl rfl)
theorem dX1_overOf_2 : decode cX1_overOf 2 = .ok (.invokevirtual 227, 3) := dk_182 0 227 (dk_at dksX1_overOf_0 2 rfl rfl)
theorem dX1_overOf_5 : decode cX1_overOf 5 = .ok (.aload_n 0, 1) := dk_42 (dk_at dksX1_overOf_0 5 rfl rfl)
theorem dX1_overOf_6 : decode cX1_overOf 6 = .ok (.bipush 119, 2) := dk_16 119 (dk_at dksX1_overOf_0 6 rfl rfl)
theorem dX1_overOf_8 : decode cX1_overOf 8 = .ok (.iconst 0, 1) := dk_3 (dk_at dksX1_overOf_0 8 rfl rfl)
theorem dX1_overOf_9 : decode cX1_overOf 9 = .ok (.ldc 230, 2) := dk_18 230 (dk_at dksX1_overOf_0 9 rfl rfl)
theorem dX1_overOf_11 : decode cX1_overOf 11 = .ok (.invokevirtual 231, 3) := dk_182 0 231 (dk_at dksX1_overOf_0 11 rfl rfl)
theorem dX1_overOf_14 : decode cX1_overOf 14 = .ok (.istore_n 2, 1) := dk_61 (dk_at dksX1_overOf_0 14 rfl rfl)
theorem dX1_overOf_15 : decode cX1_overOf 15 = .ok (.iload_n 2, 1) := dk_28 (dk_at dksX1_overOf_0 15 rfl rfl)
theorem dX1_overOf_16 : decode cX1_overOf 16 = .ok (.iconst (-1), 1) := dk_2 (dk_at dksX1_overOf_0 16 rfl rfl)
theorem dX1_overOf_17 : decode cX1_overOf 17 = .ok (.if_icmp .ne 7, 3) := dk_160 0 7 (dk_at dksX1_overOf_0 17 rfl rfl)
theorem dX1_overOf_20 : decode cX1_overOf 20 = .ok (.iconst 0, 1) := dk_3 (dk_at dksX1_overOf_0 20 rfl rfl)
theorem dX1_overOf_21 : decode cX1_overOf 21 = .ok (.goto 10, 3) := dk_167 0 10 (dk_at dksX1_overOf_0 21 rfl rfl)
theorem dX1_overOf_24 : decode cX1_overOf 24 = .ok (.aload_n 0, 1) := dk_42 (dk_at dksX1_overOf_1 0 rfl rfl)
theorem dX1_overOf_25 : decode cX1_overOf 25 = .ok (.aload_n 1, 1) := dk_43 (dk_at dksX1_overOf_1 1 rfl rfl)
theorem dX1_overOf_26 : decode cX1_overOf 26 = .ok (.invokevirtual 339, 3) := dk_182 1 83 (dk_at dksX1_overOf_1 2 rfl rfl)
theorem dX1_overOf_29 : decode cX1_overOf 29 = .ok (.iload_n 2, 1) := dk_28 (dk_at dksX1_overOf_1 5 rfl rfl)
theorem dX1_overOf_30 : decode cX1_overOf 30 = .ok (.isub, 1) := dk_100 (dk_at dksX1_overOf_1 6 rfl rfl)
theorem dX1_overOf_31 : decode cX1_overOf 31 = .ok (.ireturn, 1) := dk_172 (dk_at dksX1_overOf_1 7 rfl rfl)
abbrev cX1_name : ByteArray := prog_1_method_22_code
def yX1_name : MethodName := ⟨RX1, "name", "(LLimbBenches$Person;)V"⟩
def dkwX1_name_0 : List UInt8 := [42, 43, 42, 180, 0, 10, 180, 0, 149, 182, 0, 196, 177]
abbrev dktX1_name_0 : List UInt8 := dkwX1_name_0 ++ []
theorem dksX1_name_0 : cX1_name.data.toList.drop 0 = dktX1_name_0 := by decide +kernel
theorem dX1_name_0 : decode cX1_name 0 = .ok (.aload_n 0, 1) := dk_42 (dk_at dksX1_name_0 0 rfl rfl)
theorem dX1_name_1 : decode cX1_name 1 = .ok (.aload_n 1, 1) := dk_43 (dk_at dksX1_name_0 1 rfl rfl)
theorem dX1_name_2 : decode cX1_name 2 = .ok (.aload_n 0, 1) := dk_42 (dk_at dksX1_name_0 2 rfl rfl)
theorem dX1_name_3 : decode cX1_name 3 = .ok (.getfield 10, 3) := dk_180 0 10 (dk_at dksX1_name_0 3 rfl rfl)
theorem dX1_name_6 : decode cX1_name 6 = .ok (.getfield 149, 3) := dk_180 0 149 (dk_at dksX1_name_0 6 rfl rfl)
theorem dX1_name_9 : decode cX1_name 9 = .ok (.invokevirtual 196, 3) := dk_182 0 196 (dk_at dksX1_name_0 9 rfl rfl)
theorem dX1_name_12 : decode cX1_name 12 = .ok (.return_, 1) := dk_177 (dk_at dksX1_name_0 12 rfl rfl)
abbrev cX1_name_2 : ByteArray := prog_1_method_21_code
def yX1_name_2 : MethodName := ⟨RX1, "name", "(LLimbBenches$Person;I)V"⟩
def dkwX1_name_2_4 : List UInt8 := [29, 182, 0, 81, 192, 0, 109, 180, 0, 195, 181, 0, 25, 177]
abbrev dktX1_name_2_4 : List UInt8 := dkwX1_name_2_4 ++ []
def dkwX1_name_2_3 : List UInt8 := [79, 42, 28, 182, 0, 138, 62, 42, 29, 2, 160, 0, 10, 42, 180, 0, 28, 167, 0, 17, 42, 180, 0, 21]
abbrev dktX1_name_2_3 : List UInt8 := dkwX1_name_2_3 ++ dktX1_name_2_4
def dkwX1_name_2_2 : List UInt8 := [180, 0, 43, 7, 43, 180, 0, 183, 79, 42, 180, 0, 43, 8, 43, 180, 0, 192, 28, 17, 1, 109, 108, 46]
abbrev dktX1_name_2_2 : List UInt8 := dkwX1_name_2_2 ++ dktX1_name_2_3
def dkwX1_name_2_1 : List UInt8 := [5, 28, 43, 180, 0, 189, 100, 17, 1, 109, 108, 79, 42, 180, 0, 43, 6, 43, 180, 0, 186, 79, 42]
abbrev dktX1_name_2_1 : List UInt8 := dkwX1_name_2_1 ++ dktX1_name_2_2
def dkwX1_name_2_0 : List UInt8 := [42, 180, 0, 43, 3, 43, 180, 0, 177, 79, 42, 180, 0, 43, 4, 43, 180, 0, 180, 79, 42, 180, 0, 43]
abbrev dktX1_name_2_0 : List UInt8 := dkwX1_name_2_0 ++ dktX1_name_2_1
theorem dksX1_name_2_0 : cX1_name_2.data.toList.drop 0 = dktX1_name_2_0 := by decide +kernel
theorem dksX1_name_2_1 : cX1_name_2.data.toList.drop 24 = dktX1_name_2_1 := dk_seg dksX1_name_2_0 24 rfl rfl
theorem dksX1_name_2_2 : cX1_name_2.data.toList.drop 47 = dktX1_name_2_2 := dk_seg dksX1_name_2_1 23 rfl rfl
theorem dksX1_name_2_3 : cX1_name_2.data.toList.drop 71 = dktX1_name_2_3 := dk_seg dksX1_name_2_2 24 rfl rfl
theorem dksX1_name_2_4 : cX1_name_2.data.toList.drop 95 = dktX1_name_2_4 := dk_seg dksX1_name_2_3 24 rfl rfl
theorem dX1_name_2_0 : decode cX1_name_2 0 = .ok (.aload_n 0, 1) := dk_42 (dk_at dksX1_name_2_0 0 rfl rfl)
theorem dX1_name_2_1 : decode cX1_name_2 1 = .ok (.getfield 43, 3) := dk_180 0 43 (dk_at dksX1_name_2_0 1 rfl rfl)
theorem dX1_name_2_4 : decode cX1_name_2 4 = .ok (.iconst 0, 1) := dk_3 (dk_at dksX1_name_2_0 4 rfl rfl)
theorem dX1_name_2_5 : decode cX1_name_2 5 = .ok (.aload_n 1, 1) := dk_43 (dk_at dksX1_name_2_0 5 rfl rfl)
theorem dX1_name_2_6 : decode cX1_name_2 6 = .ok (.getfield 177, 3) := dk_180 0 177 (dk_at dksX1_name_2_0 6 rfl rfl)
theorem dX1_name_2_9 : decode cX1_name_2 9 = .ok (.iastore, 1) := dk_79 (dk_at dksX1_name_2_0 9 rfl rfl)
theorem dX1_name_2_10 : decode cX1_name_2 10 = .ok (.aload_n 0, 1) := dk_42 (dk_at dksX1_name_2_0 10 rfl rfl)
theorem dX1_name_2_11 : decode cX1_name_2 11 = .ok (.getfield 43, 3) := dk_180 0 43 (dk_at dksX1_name_2_0 11 rfl rfl)
theorem dX1_name_2_14 : decode cX1_name_2 14 = .ok (.iconst 1, 1) := dk_4 (dk_at dksX1_name_2_0 14 rfl rfl)
theorem dX1_name_2_15 : decode cX1_name_2 15 = .ok (.aload_n 1, 1) := dk_43 (dk_at dksX1_name_2_0 15 rfl rfl)
theorem dX1_name_2_16 : decode cX1_name_2 16 = .ok (.getfield 180, 3) := dk_180 0 180 (dk_at dksX1_name_2_0 16 rfl rfl)
theorem dX1_name_2_19 : decode cX1_name_2 19 = .ok (.iastore, 1) := dk_79 (dk_at dksX1_name_2_0 19 rfl rfl)
theorem dX1_name_2_20 : decode cX1_name_2 20 = .ok (.aload_n 0, 1) := dk_42 (dk_at dksX1_name_2_0 20 rfl rfl)
theorem dX1_name_2_21 : decode cX1_name_2 21 = .ok (.getfield 43, 3) := dk_180 0 43 (dk_at dksX1_name_2_0 21 rfl rfl)
theorem dX1_name_2_24 : decode cX1_name_2 24 = .ok (.iconst 2, 1) := dk_5 (dk_at dksX1_name_2_1 0 rfl rfl)
theorem dX1_name_2_25 : decode cX1_name_2 25 = .ok (.iload_n 2, 1) := dk_28 (dk_at dksX1_name_2_1 1 rfl rfl)
theorem dX1_name_2_26 : decode cX1_name_2 26 = .ok (.aload_n 1, 1) := dk_43 (dk_at dksX1_name_2_1 2 rfl rfl)
theorem dX1_name_2_27 : decode cX1_name_2 27 = .ok (.getfield 189, 3) := dk_180 0 189 (dk_at dksX1_name_2_1 3 rfl rfl)
theorem dX1_name_2_30 : decode cX1_name_2 30 = .ok (.isub, 1) := dk_100 (dk_at dksX1_name_2_1 6 rfl rfl)
theorem dX1_name_2_31 : decode cX1_name_2 31 = .ok (.sipush 365, 3) := dk_17 1 109 (dk_at dksX1_name_2_1 7 rfl rfl)
theorem dX1_name_2_34 : decode cX1_name_2 34 = .ok (.idiv, 1) := dk_108 (dk_at dksX1_name_2_1 10 rfl rfl)
theorem dX1_name_2_35 : decode cX1_name_2 35 = .ok (.iastore, 1) := dk_79 (dk_at dksX1_name_2_1 11 rfl rfl)
theorem dX1_name_2_36 : decode cX1_name_2 36 = .ok (.aload_n 0, 1) := dk_42 (dk_at dksX1_name_2_1 12 rfl rfl)
theorem dX1_name_2_37 : decode cX1_name_2 37 = .ok (.getfield 43, 3) := dk_180 0 43 (dk_at dksX1_name_2_1 13 rfl rfl)
theorem dX1_name_2_40 : decode cX1_name_2 40 = .ok (.iconst 3, 1) := dk_6 (dk_at dksX1_name_2_1 16 rfl rfl)
theorem dX1_name_2_41 : decode cX1_name_2 41 = .ok (.aload_n 1, 1) := dk_43 (dk_at dksX1_name_2_1 17 rfl rfl)
theorem dX1_name_2_42 : decode cX1_name_2 42 = .ok (.getfield 186, 3) := dk_180 0 186 (dk_at dksX1_name_2_1 18 rfl rfl)
theorem dX1_name_2_45 : decode cX1_name_2 45 = .ok (.iastore, 1) := dk_79 (dk_at dksX1_name_2_1 21 rfl rfl)
theorem dX1_name_2_46 : decode cX1_name_2 46 = .ok (.aload_n 0, 1) := dk_42 (dk_at dksX1_name_2_1 22 rfl rfl)
theorem dX1_name_2_47 : decode cX1_name_2 47 = .ok (.getfield 43, 3) := dk_180 0 43 (dk_at dksX1_name_2_2 0 rfl rfl)
theorem dX1_name_2_50 : decode cX1_name_2 50 = .ok (.iconst 4, 1) := dk_7 (dk_at dksX1_name_2_2 3 rfl rfl)
theorem dX1_name_2_51 : decode cX1_name_2 51 = .ok (.aload_n 1, 1) := dk_43 (dk_at dksX1_name_2_2 4 rfl rfl)
theorem dX1_name_2_52 : decode cX1_name_2 52 = .ok (.getfield 183, 3) := dk_180 0 183 (dk_at dksX1_name_2_2 5 rfl rfl)
theorem dX1_name_2_55 : decode cX1_name_2 55 = .ok (.iastore, 1) := dk_79 (dk_at dksX1_name_2_2 8 rfl rfl)
theorem dX1_name_2_56 : decode cX1_name_2 56 = .ok (.aload_n 0, 1) := dk_42 (dk_at dksX1_name_2_2 9 rfl rfl)
theorem dX1_name_2_57 : decode cX1_name_2 57 = .ok (.getfield 43, 3) := dk_180 0 43 (dk_at dksX1_name_2_2 10 rfl rfl)
theorem dX1_name_2_60 : decode cX1_name_2 60 = .ok (.iconst 5, 1) := dk_8 (dk_at dksX1_name_2_2 13 rfl rfl)
theorem dX1_name_2_61 : decode cX1_name_2 61 = .ok (.aload_n 1, 1) := dk_43 (dk_at dksX1_name_2_2 14 rfl rfl)
theorem dX1_name_2_62 : decode cX1_name_2 62 = .ok (.getfield 192, 3) := dk_180 0 192 (dk_at dksX1_name_2_2 15 rfl rfl)
theorem dX1_name_2_65 : decode cX1_name_2 65 = .ok (.iload_n 2, 1) := dk_28 (dk_at dksX1_name_2_2 18 rfl rfl)
theorem dX1_name_2_66 : decode cX1_name_2 66 = .ok (.sipush 365, 3) := dk_17 1 109 (dk_at dksX1_name_2_2 19 rfl rfl)
theorem dX1_name_2_69 : decode cX1_name_2 69 = .ok (.idiv, 1) := dk_108 (dk_at dksX1_name_2_2 22 rfl rfl)
theorem dX1_name_2_70 : decode cX1_name_2 70 = .ok (.iaload, 1) := dk_46 (dk_at dksX1_name_2_2 23 rfl rfl)
theorem dX1_name_2_71 : decode cX1_name_2 71 = .ok (.iastore, 1) := dk_79 (dk_at dksX1_name_2_3 0 rfl rfl)
theorem dX1_name_2_72 : decode cX1_name_2 72 = .ok (.aload_n 0, 1) := dk_42 (dk_at dksX1_name_2_3 1 rfl rfl)
theorem dX1_name_2_73 : decode cX1_name_2 73 = .ok (.iload_n 2, 1) := dk_28 (dk_at dksX1_name_2_3 2 rfl rfl)
theorem dX1_name_2_74 : decode cX1_name_2 74 = .ok (.invokevirtual 138, 3) := dk_182 0 138 (dk_at dksX1_name_2_3 3 rfl rfl)
theorem dX1_name_2_77 : decode cX1_name_2 77 = .ok (.istore_n 3, 1) := dk_62 (dk_at dksX1_name_2_3 6 rfl rfl)
theorem dX1_name_2_78 : decode cX1_name_2 78 = .ok (.aload_n 0, 1) := dk_42 (dk_at dksX1_name_2_3 7 rfl rfl)
theorem dX1_name_2_79 : decode cX1_name_2 79 = .ok (.iload_n 3, 1) := dk_29 (dk_at dksX1_name_2_3 8 rfl rfl)
theorem dX1_name_2_80 : decode cX1_name_2 80 = .ok (.iconst (-1), 1) := dk_2 (dk_at dksX1_name_2_3 9 rfl rfl)
theorem dX1_name_2_81 : decode cX1_name_2 81 = .ok (.if_icmp .ne 10, 3) := dk_160 0 10 (dk_at dksX1_name_2_3 10 rfl rfl)
theorem dX1_name_2_84 : decode cX1_name_2 84 = .ok (.aload_n 0, 1) := dk_42 (dk_at dksX1_name_2_3 13 rfl rfl)
theorem dX1_name_2_85 : decode cX1_name_2 85 = .ok (.getfield 28, 3) := dk_180 0 28 (dk_at dksX1_name_2_3 14 rfl rfl)
theorem dX1_name_2_88 : decode cX1_name_2 88 = .ok (.goto 17, 3) := dk_167 0 17 (dk_at dksX1_name_2_3 17 rfl rfl)
theorem dX1_name_2_91 : decode cX1_name_2 91 = .ok (.aload_n 0, 1) := dk_42 (dk_at dksX1_name_2_3 20 rfl rfl)
theorem dX1_name_2_92 : decode cX1_name_2 92 = .ok (.getfield 21, 3) := dk_180 0 21 (dk_at dksX1_name_2_3 21 rfl rfl)
theorem dX1_name_2_95 : decode cX1_name_2 95 = .ok (.iload_n 3, 1) := dk_29 (dk_at dksX1_name_2_4 0 rfl rfl)
theorem dX1_name_2_96 : decode cX1_name_2 96 = .ok (.invokevirtual 81, 3) := dk_182 0 81 (dk_at dksX1_name_2_4 1 rfl rfl)
theorem dX1_name_2_99 : decode cX1_name_2 99 = .ok (.checkcast 109, 3) := dk_192 0 109 (dk_at dksX1_name_2_4 4 rfl rfl)
theorem dX1_name_2_102 : decode cX1_name_2 102 = .ok (.getfield 195, 3) := dk_180 0 195 (dk_at dksX1_name_2_4 7 rfl rfl)
theorem dX1_name_2_105 : decode cX1_name_2 105 = .ok (.putfield 25, 3) := dk_181 0 25 (dk_at dksX1_name_2_4 10 rfl rfl)
theorem dX1_name_2_108 : decode cX1_name_2 108 = .ok (.return_, 1) := dk_177 (dk_at dksX1_name_2_4 13 rfl rfl)
abbrev cX1_countsOn : ByteArray := prog_1_method_10_code
def yX1_countsOn : MethodName := ⟨RX1, "countsOn", "(I)I"⟩
def dkwX1_countsOn_3 : List UInt8 := [61, 132, 3, 1, 167, 255, 186, 28, 172]
abbrev dktX1_countsOn_3 : List UInt8 := dkwX1_countsOn_3 ++ []
def dkwX1_countsOn_2 : List UInt8 := [192, 0, 109, 180, 0, 135, 42, 180, 0, 21, 28, 182, 0, 81, 192, 0, 109, 180, 0, 135, 161, 0, 5, 29]
abbrev dktX1_countsOn_2 : List UInt8 := dkwX1_countsOn_2 ++ dktX1_countsOn_3
def dkwX1_countsOn_1 : List UInt8 := [192, 0, 109, 180, 0, 135, 27, 163, 0, 41, 28, 2, 159, 0, 34, 42, 180, 0, 21, 29, 182, 0, 81]
abbrev dktX1_countsOn_1 : List UInt8 := dkwX1_countsOn_1 ++ dktX1_countsOn_2
def dkwX1_countsOn_0 : List UInt8 := [2, 61, 3, 62, 29, 42, 180, 0, 21, 182, 0, 74, 162, 0, 65, 42, 180, 0, 21, 29, 182, 0, 81]
abbrev dktX1_countsOn_0 : List UInt8 := dkwX1_countsOn_0 ++ dktX1_countsOn_1
theorem dksX1_countsOn_0 : cX1_countsOn.data.toList.drop 0 = dktX1_countsOn_0 := by decide +kernel
theorem dksX1_countsOn_1 : cX1_countsOn.data.toList.drop 23 = dktX1_countsOn_1 := dk_seg dksX1_countsOn_0 23 rfl rfl
theorem dksX1_countsOn_2 : cX1_countsOn.data.toList.drop 46 = dktX1_countsOn_2 := dk_seg dksX1_countsOn_1 23 rfl rfl
theorem dksX1_countsOn_3 : cX1_countsOn.data.toList.drop 70 = dktX1_countsOn_3 := dk_seg dksX1_countsOn_2 24 rfl rfl
theorem dX1_countsOn_0 : decode cX1_countsOn 0 = .ok (.iconst (-1), 1) := dk_2 (dk_at dksX1_countsOn_0 0 rfl rfl)
theorem dX1_countsOn_1 : decode cX1_countsOn 1 = .ok (.istore_n 2, 1) := dk_61 (dk_at dksX1_countsOn_0 1 rfl rfl)
theorem dX1_countsOn_2 : decode cX1_countsOn 2 = .ok (.iconst 0, 1) := dk_3 (dk_at dksX1_countsOn_0 2 rfl rfl)
theorem dX1_countsOn_3 : decode cX1_countsOn 3 = .ok (.istore_n 3, 1) := dk_62 (dk_at dksX1_countsOn_0 3 rfl rfl)
theorem dX1_countsOn_4 : decode cX1_countsOn 4 = .ok (.iload_n 3, 1) := dk_29 (dk_at dksX1_countsOn_0 4 rfl rfl)
theorem dX1_countsOn_5 : decode cX1_countsOn 5 = .ok (.aload_n 0, 1) := dk_42 (dk_at dksX1_countsOn_0 5 rfl rfl)
theorem dX1_countsOn_6 : decode cX1_countsOn 6 = .ok (.getfield 21, 3) := dk_180 0 21 (dk_at dksX1_countsOn_0 6 rfl rfl)
theorem dX1_countsOn_9 : decode cX1_countsOn 9 = .ok (.invokevirtual 74, 3) := dk_182 0 74 (dk_at dksX1_countsOn_0 9 rfl rfl)
theorem dX1_countsOn_12 : decode cX1_countsOn 12 = .ok (.if_icmp .ge 65, 3) := dk_162 0 65 (dk_at dksX1_countsOn_0 12 rfl rfl)
theorem dX1_countsOn_15 : decode cX1_countsOn 15 = .ok (.aload_n 0, 1) := dk_42 (dk_at dksX1_countsOn_0 15 rfl rfl)
theorem dX1_countsOn_16 : decode cX1_countsOn 16 = .ok (.getfield 21, 3) := dk_180 0 21 (dk_at dksX1_countsOn_0 16 rfl rfl)
theorem dX1_countsOn_19 : decode cX1_countsOn 19 = .ok (.iload_n 3, 1) := dk_29 (dk_at dksX1_countsOn_0 19 rfl rfl)
theorem dX1_countsOn_20 : decode cX1_countsOn 20 = .ok (.invokevirtual 81, 3) := dk_182 0 81 (dk_at dksX1_countsOn_0 20 rfl rfl)
theorem dX1_countsOn_23 : decode cX1_countsOn 23 = .ok (.checkcast 109, 3) := dk_192 0 109 (dk_at dksX1_countsOn_1 0 rfl rfl)
theorem dX1_countsOn_26 : decode cX1_countsOn 26 = .ok (.getfield 135, 3) := dk_180 0 135 (dk_at dksX1_countsOn_1 3 rfl rfl)
theorem dX1_countsOn_29 : decode cX1_countsOn 29 = .ok (.iload_n 1, 1) := dk_27 (dk_at dksX1_countsOn_1 6 rfl rfl)
theorem dX1_countsOn_30 : decode cX1_countsOn 30 = .ok (.if_icmp .gt 41, 3) := dk_163 0 41 (dk_at dksX1_countsOn_1 7 rfl rfl)
theorem dX1_countsOn_33 : decode cX1_countsOn 33 = .ok (.iload_n 2, 1) := dk_28 (dk_at dksX1_countsOn_1 10 rfl rfl)
theorem dX1_countsOn_34 : decode cX1_countsOn 34 = .ok (.iconst (-1), 1) := dk_2 (dk_at dksX1_countsOn_1 11 rfl rfl)
theorem dX1_countsOn_35 : decode cX1_countsOn 35 = .ok (.if_icmp .eq 34, 3) := dk_159 0 34 (dk_at dksX1_countsOn_1 12 rfl rfl)
theorem dX1_countsOn_38 : decode cX1_countsOn 38 = .ok (.aload_n 0, 1) := dk_42 (dk_at dksX1_countsOn_1 15 rfl rfl)
theorem dX1_countsOn_39 : decode cX1_countsOn 39 = .ok (.getfield 21, 3) := dk_180 0 21 (dk_at dksX1_countsOn_1 16 rfl rfl)
theorem dX1_countsOn_42 : decode cX1_countsOn 42 = .ok (.iload_n 3, 1) := dk_29 (dk_at dksX1_countsOn_1 19 rfl rfl)
theorem dX1_countsOn_43 : decode cX1_countsOn 43 = .ok (.invokevirtual 81, 3) := dk_182 0 81 (dk_at dksX1_countsOn_1 20 rfl rfl)
theorem dX1_countsOn_46 : decode cX1_countsOn 46 = .ok (.checkcast 109, 3) := dk_192 0 109 (dk_at dksX1_countsOn_2 0 rfl rfl)
theorem dX1_countsOn_49 : decode cX1_countsOn 49 = .ok (.getfield 135, 3) := dk_180 0 135 (dk_at dksX1_countsOn_2 3 rfl rfl)
theorem dX1_countsOn_52 : decode cX1_countsOn 52 = .ok (.aload_n 0, 1) := dk_42 (dk_at dksX1_countsOn_2 6 rfl rfl)
theorem dX1_countsOn_53 : decode cX1_countsOn 53 = .ok (.getfield 21, 3) := dk_180 0 21 (dk_at dksX1_countsOn_2 7 rfl rfl)
theorem dX1_countsOn_56 : decode cX1_countsOn 56 = .ok (.iload_n 2, 1) := dk_28 (dk_at dksX1_countsOn_2 10 rfl rfl)
theorem dX1_countsOn_57 : decode cX1_countsOn 57 = .ok (.invokevirtual 81, 3) := dk_182 0 81 (dk_at dksX1_countsOn_2 11 rfl rfl)
theorem dX1_countsOn_60 : decode cX1_countsOn 60 = .ok (.checkcast 109, 3) := dk_192 0 109 (dk_at dksX1_countsOn_2 14 rfl rfl)
theorem dX1_countsOn_63 : decode cX1_countsOn 63 = .ok (.getfield 135, 3) := dk_180 0 135 (dk_at dksX1_countsOn_2 17 rfl rfl)
theorem dX1_countsOn_66 : decode cX1_countsOn 66 = .ok (.if_icmp .lt 5, 3) := dk_161 0 5 (dk_at dksX1_countsOn_2 20 rfl rfl)
theorem dX1_countsOn_69 : decode cX1_countsOn 69 = .ok (.iload_n 3, 1) := dk_29 (dk_at dksX1_countsOn_2 23 rfl rfl)
theorem dX1_countsOn_70 : decode cX1_countsOn 70 = .ok (.istore_n 2, 1) := dk_61 (dk_at dksX1_countsOn_3 0 rfl rfl)
theorem dX1_countsOn_71 : decode cX1_countsOn 71 = .ok (.iinc 3 1, 3) := dk_132 3 1 (dk_at dksX1_countsOn_3 1 rfl rfl)
theorem dX1_countsOn_74 : decode cX1_countsOn 74 = .ok (.goto (-70), 3) := dk_167 255 186 (dk_at dksX1_countsOn_3 4 rfl rfl)
theorem dX1_countsOn_77 : decode cX1_countsOn 77 = .ok (.iload_n 2, 1) := dk_28 (dk_at dksX1_countsOn_3 7 rfl rfl)
theorem dX1_countsOn_78 : decode cX1_countsOn 78 = .ok (.ireturn, 1) := dk_172 (dk_at dksX1_countsOn_3 8 rfl rfl)
abbrev cX1_valueOf : ByteArray := prog_1_method_24_code
def yX1_valueOf : MethodName := ⟨RX1, "valueOf", "(CII)I"⟩
def dkwX1_valueOf_1 : List UInt8 := [180, 0, 43, 182, 0, 214, 184, 0, 218, 184, 0, 224, 172]
abbrev dktX1_valueOf_1 : List UInt8 := dkwX1_valueOf_1 ++ []
def dkwX1_valueOf_0 : List UInt8 := [42, 27, 28, 182, 0, 210, 58, 4, 25, 4, 199, 0, 7, 2, 167, 0, 20, 3, 29, 25, 4, 42]
abbrev dktX1_valueOf_0 : List UInt8 := dkwX1_valueOf_0 ++ dktX1_valueOf_1
theorem dksX1_valueOf_0 : cX1_valueOf.data.toList.drop 0 = dktX1_valueOf_0 := by decide +kernel
theorem dksX1_valueOf_1 : cX1_valueOf.data.toList.drop 22 = dktX1_valueOf_1 := dk_seg dksX1_valueOf_0 22 rfl rfl
theorem dX1_valueOf_0 : decode cX1_valueOf 0 = .ok (.aload_n 0, 1) := dk_42 (dk_at dksX1_valueOf_0 0 rfl rfl)
theorem dX1_valueOf_1 : decode cX1_valueOf 1 = .ok (.iload_n 1, 1) := dk_27 (dk_at dksX1_valueOf_0 1 rfl rfl)
theorem dX1_valueOf_2 : decode cX1_valueOf 2 = .ok (.iload_n 2, 1) := dk_28 (dk_at dksX1_valueOf_0 2 rfl rfl)
theorem dX1_valueOf_3 : decode cX1_valueOf 3 = .ok (.invokevirtual 210, 3) := dk_182 0 210 (dk_at dksX1_valueOf_0 3 rfl rfl)
theorem dX1_valueOf_6 : decode cX1_valueOf 6 = .ok (.astore 4, 2) := dk_58 4 (dk_at dksX1_valueOf_0 6 rfl rfl)
theorem dX1_valueOf_8 : decode cX1_valueOf 8 = .ok (.aload 4, 2) := dk_25 4 (dk_at dksX1_valueOf_0 8 rfl rfl)
theorem dX1_valueOf_10 : decode cX1_valueOf 10 = .ok (.ifnonnull 7, 3) := dk_199 0 7 (dk_at dksX1_valueOf_0 10 rfl rfl)
theorem dX1_valueOf_13 : decode cX1_valueOf 13 = .ok (.iconst (-1), 1) := dk_2 (dk_at dksX1_valueOf_0 13 rfl rfl)
theorem dX1_valueOf_14 : decode cX1_valueOf 14 = .ok (.goto 20, 3) := dk_167 0 20 (dk_at dksX1_valueOf_0 14 rfl rfl)
theorem dX1_valueOf_17 : decode cX1_valueOf 17 = .ok (.iconst 0, 1) := dk_3 (dk_at dksX1_valueOf_0 17 rfl rfl)
theorem dX1_valueOf_18 : decode cX1_valueOf 18 = .ok (.iload_n 3, 1) := dk_29 (dk_at dksX1_valueOf_0 18 rfl rfl)
theorem dX1_valueOf_19 : decode cX1_valueOf 19 = .ok (.aload 4, 2) := dk_25 4 (dk_at dksX1_valueOf_0 19 rfl rfl)
theorem dX1_valueOf_21 : decode cX1_valueOf 21 = .ok (.aload_n 0, 1) := dk_42 (dk_at dksX1_valueOf_0 21 rfl rfl)
theorem dX1_valueOf_22 : decode cX1_valueOf 22 = .ok (.getfield 43, 3) := dk_180 0 43 (dk_at dksX1_valueOf_1 0 rfl rfl)
theorem dX1_valueOf_25 : decode cX1_valueOf 25 = .ok (.invokevirtual 214, 3) := dk_182 0 214 (dk_at dksX1_valueOf_1 3 rfl rfl)
theorem dX1_valueOf_28 : decode cX1_valueOf 28 = .ok (.invokestatic 218, 3) := dk_184 0 218 (dk_at dksX1_valueOf_1 6 rfl rfl)
theorem dX1_valueOf_31 : decode cX1_valueOf 31 = .ok (.invokestatic 224, 3) := dk_184 0 224 (dk_at dksX1_valueOf_1 9 rfl rfl)
theorem dX1_valueOf_34 : decode cX1_valueOf 34 = .ok (.ireturn, 1) := dk_172 (dk_at dksX1_valueOf_1 12 rfl rfl)
abbrev cX1_lastOf : ByteArray := prog_1_method_23_code
def yX1_lastOf : MethodName := ⟨RX1, "lastOf", "(CI)LLimbBenches$Clause;"⟩
def dkwX1_lastOf_3 : List UInt8 := [192, 0, 200, 78, 132, 4, 1, 167, 255, 186, 45, 176]
abbrev dktX1_lastOf_3 : List UInt8 := dkwX1_lastOf_3 ++ []
def dkwX1_lastOf_2 : List UInt8 := [192, 0, 200, 42, 180, 0, 43, 182, 0, 206, 153, 0, 16, 42, 180, 0, 25, 21, 4, 182, 0, 81]
abbrev dktX1_lastOf_2 : List UInt8 := dkwX1_lastOf_2 ++ dktX1_lastOf_3
def dkwX1_lastOf_1 : List UInt8 := [182, 0, 81, 192, 0, 200, 27, 28, 182, 0, 202, 153, 0, 38, 42, 180, 0, 25, 21, 4, 182, 0, 81]
abbrev dktX1_lastOf_1 : List UInt8 := dkwX1_lastOf_1 ++ dktX1_lastOf_2
def dkwX1_lastOf_0 : List UInt8 := [1, 78, 3, 54, 4, 21, 4, 42, 180, 0, 25, 182, 0, 74, 162, 0, 64, 42, 180, 0, 25, 21, 4]
abbrev dktX1_lastOf_0 : List UInt8 := dkwX1_lastOf_0 ++ dktX1_lastOf_1
theorem dksX1_lastOf_0 : cX1_lastOf.data.toList.drop 0 = dktX1_lastOf_0 := by decide +kernel
theorem dksX1_lastOf_1 : cX1_lastOf.data.toList.drop 23 = dktX1_lastOf_1 := dk_seg dksX1_lastOf_0 23 rfl rfl
theorem dksX1_lastOf_2 : cX1_lastOf.data.toList.drop 46 = dktX1_lastOf_2 := dk_seg dksX1_lastOf_1 23 rfl rfl
theorem dksX1_lastOf_3 : cX1_lastOf.data.toList.drop 68 = dktX1_lastOf_3 := dk_seg dksX1_lastOf_2 22 rfl rfl
theorem dX1_lastOf_0 : decode cX1_lastOf 0 = .ok (.aconst_null, 1) := dk_1 (dk_at dksX1_lastOf_0 0 rfl rfl)
theorem dX1_lastOf_1 : decode cX1_lastOf 1 = .ok (.astore_n 3, 1) := dk_78 (dk_at dksX1_lastOf_0 1 rfl rfl)
theorem dX1_lastOf_2 : decode cX1_lastOf 2 = .ok (.iconst 0, 1) := dk_3 (dk_at dksX1_lastOf_0 2 rfl rfl)
theorem dX1_lastOf_3 : decode cX1_lastOf 3 = .ok (.istore 4, 2) := dk_54 4 (dk_at dksX1_lastOf_0 3 rfl rfl)
theorem dX1_lastOf_5 : decode cX1_lastOf 5 = .ok (.iload 4, 2) := dk_21 4 (dk_at dksX1_lastOf_0 5 rfl rfl)
theorem dX1_lastOf_7 : decode cX1_lastOf 7 = .ok (.aload_n 0, 1) := dk_42 (dk_at dksX1_lastOf_0 7 rfl rfl)
theorem dX1_lastOf_8 : decode cX1_lastOf 8 = .ok (.getfield 25, 3) := dk_180 0 25 (dk_at dksX1_lastOf_0 8 rfl rfl)
theorem dX1_lastOf_11 : decode cX1_lastOf 11 = .ok (.invokevirtual 74, 3) := dk_182 0 74 (dk_at dksX1_lastOf_0 11 rfl rfl)
theorem dX1_lastOf_14 : decode cX1_lastOf 14 = .ok (.if_icmp .ge 64, 3) := dk_162 0 64 (dk_at dksX1_lastOf_0 14 rfl rfl)
theorem dX1_lastOf_17 : decode cX1_lastOf 17 = .ok (.aload_n 0, 1) := dk_42 (dk_at dksX1_lastOf_0 17 rfl rfl)
theorem dX1_lastOf_18 : decode cX1_lastOf 18 = .ok (.getfield 25, 3) := dk_180 0 25 (dk_at dksX1_lastOf_0 18 rfl rfl)
theorem dX1_lastOf_21 : decode cX1_lastOf 21 = .ok (.iload 4, 2) := dk_21 4 (dk_at dksX1_lastOf_0 21 rfl rfl)
theorem dX1_lastOf_23 : decode cX1_lastOf 23 = .ok (.invokevirtual 81, 3) := dk_182 0 81 (dk_at dksX1_lastOf_1 0 rfl rfl)
theorem dX1_lastOf_26 : decode cX1_lastOf 26 = .ok (.checkcast 200, 3) := dk_192 0 200 (dk_at dksX1_lastOf_1 3 rfl rfl)
theorem dX1_lastOf_29 : decode cX1_lastOf 29 = .ok (.iload_n 1, 1) := dk_27 (dk_at dksX1_lastOf_1 6 rfl rfl)
theorem dX1_lastOf_30 : decode cX1_lastOf 30 = .ok (.iload_n 2, 1) := dk_28 (dk_at dksX1_lastOf_1 7 rfl rfl)
theorem dX1_lastOf_31 : decode cX1_lastOf 31 = .ok (.invokevirtual 202, 3) := dk_182 0 202 (dk_at dksX1_lastOf_1 8 rfl rfl)
theorem dX1_lastOf_34 : decode cX1_lastOf 34 = .ok (.ifCond .eq 38, 3) := dk_153 0 38 (dk_at dksX1_lastOf_1 11 rfl rfl)
theorem dX1_lastOf_37 : decode cX1_lastOf 37 = .ok (.aload_n 0, 1) := dk_42 (dk_at dksX1_lastOf_1 14 rfl rfl)
theorem dX1_lastOf_38 : decode cX1_lastOf 38 = .ok (.getfield 25, 3) := dk_180 0 25 (dk_at dksX1_lastOf_1 15 rfl rfl)
theorem dX1_lastOf_41 : decode cX1_lastOf 41 = .ok (.iload 4, 2) := dk_21 4 (dk_at dksX1_lastOf_1 18 rfl rfl)
theorem dX1_lastOf_43 : decode cX1_lastOf 43 = .ok (.invokevirtual 81, 3) := dk_182 0 81 (dk_at dksX1_lastOf_1 20 rfl rfl)
theorem dX1_lastOf_46 : decode cX1_lastOf 46 = .ok (.checkcast 200, 3) := dk_192 0 200 (dk_at dksX1_lastOf_2 0 rfl rfl)
theorem dX1_lastOf_49 : decode cX1_lastOf 49 = .ok (.aload_n 0, 1) := dk_42 (dk_at dksX1_lastOf_2 3 rfl rfl)
theorem dX1_lastOf_50 : decode cX1_lastOf 50 = .ok (.getfield 43, 3) := dk_180 0 43 (dk_at dksX1_lastOf_2 4 rfl rfl)
theorem dX1_lastOf_53 : decode cX1_lastOf 53 = .ok (.invokevirtual 206, 3) := dk_182 0 206 (dk_at dksX1_lastOf_2 7 rfl rfl)
theorem dX1_lastOf_56 : decode cX1_lastOf 56 = .ok (.ifCond .eq 16, 3) := dk_153 0 16 (dk_at dksX1_lastOf_2 10 rfl rfl)
theorem dX1_lastOf_59 : decode cX1_lastOf 59 = .ok (.aload_n 0, 1) := dk_42 (dk_at dksX1_lastOf_2 13 rfl rfl)
theorem dX1_lastOf_60 : decode cX1_lastOf 60 = .ok (.getfield 25, 3) := dk_180 0 25 (dk_at dksX1_lastOf_2 14 rfl rfl)
theorem dX1_lastOf_63 : decode cX1_lastOf 63 = .ok (.iload 4, 2) := dk_21 4 (dk_at dksX1_lastOf_2 17 rfl rfl)
theorem dX1_lastOf_65 : decode cX1_lastOf 65 = .ok (.invokevirtual 81, 3) := dk_182 0 81 (dk_at dksX1_lastOf_2 19 rfl rfl)
theorem dX1_lastOf_68 : decode cX1_lastOf 68 = .ok (.checkcast 200, 3) := dk_192 0 200 (dk_at dksX1_lastOf_3 0 rfl rfl)
theorem dX1_lastOf_71 : decode cX1_lastOf 71 = .ok (.astore_n 3, 1) := dk_78 (dk_at dksX1_lastOf_3 3 rfl rfl)
theorem dX1_lastOf_72 : decode cX1_lastOf 72 = .ok (.iinc 4 1, 3) := dk_132 4 1 (dk_at dksX1_lastOf_3 4 rfl rfl)
theorem dX1_lastOf_75 : decode cX1_lastOf 75 = .ok (.goto (-70), 3) := dk_167 255 186 (dk_at dksX1_lastOf_3 7 rfl rfl)
theorem dX1_lastOf_78 : decode cX1_lastOf 78 = .ok (.aload_n 3, 1) := dk_45 (dk_at dksX1_lastOf_3 10 rfl rfl)
theorem dX1_lastOf_79 : decode cX1_lastOf 79 = .ok (.areturn, 1) := dk_176 (dk_at dksX1_lastOf_3 11 rfl rfl)
abbrev cX1_waitedOf : ByteArray := prog_1_method_44_code
def yX1_waitedOf : MethodName := ⟨RX1, "waitedOf", "(LLimbBenches$Person;)I"⟩
def dkwX1_waitedOf_2 : List UInt8 := [132, 4, 1, 167, 255, 217, 29, 172]
abbrev dktX1_waitedOf_2 : List UInt8 := dkwX1_waitedOf_2 ++ []
def dkwX1_waitedOf_1 : List UInt8 := [160, 0, 23, 29, 42, 180, 0, 10, 180, 0, 149, 43, 180, 1, 73, 21, 4, 46, 100, 184, 0, 224, 62]
abbrev dktX1_waitedOf_1 : List UInt8 := dkwX1_waitedOf_1 ++ dktX1_waitedOf_2
def dkwX1_waitedOf_0 : List UInt8 := [42, 43, 182, 1, 79, 61, 3, 62, 3, 54, 4, 21, 4, 7, 162, 0, 39, 28, 21, 4, 122, 4, 126, 4]
abbrev dktX1_waitedOf_0 : List UInt8 := dkwX1_waitedOf_0 ++ dktX1_waitedOf_1
theorem dksX1_waitedOf_0 : cX1_waitedOf.data.toList.drop 0 = dktX1_waitedOf_0 := by decide +kernel
theorem dksX1_waitedOf_1 : cX1_waitedOf.data.toList.drop 24 = dktX1_waitedOf_1 := dk_seg dksX1_waitedOf_0 24 rfl rfl
theorem dksX1_waitedOf_2 : cX1_waitedOf.data.toList.drop 47 = dktX1_waitedOf_2 := dk_seg dksX1_waitedOf_1 23 rfl rfl
theorem dX1_waitedOf_0 : decode cX1_waitedOf 0 = .ok (.aload_n 0, 1) := dk_42 (dk_at dksX1_waitedOf_0 0 rfl rfl)
theorem dX1_waitedOf_1 : decode cX1_waitedOf 1 = .ok (.aload_n 1, 1) := dk_43 (dk_at dksX1_waitedOf_0 1 rfl rfl)
theorem dX1_waitedOf_2 : decode cX1_waitedOf 2 = .ok (.invokevirtual 335, 3) := dk_182 1 79 (dk_at dksX1_waitedOf_0 2 rfl rfl)
theorem dX1_waitedOf_5 : decode cX1_waitedOf 5 = .ok (.istore_n 2, 1) := dk_61 (dk_at dksX1_waitedOf_0 5 rfl rfl)
theorem dX1_waitedOf_6 : decode cX1_waitedOf 6 = .ok (.iconst 0, 1) := dk_3 (dk_at dksX1_waitedOf_0 6 rfl rfl)
theorem dX1_waitedOf_7 : decode cX1_waitedOf 7 = .ok (.istore_n 3, 1) := dk_62 (dk_at dksX1_waitedOf_0 7 rfl rfl)
theorem dX1_waitedOf_8 : decode cX1_waitedOf 8 = .ok (.iconst 0, 1) := dk_3 (dk_at dksX1_waitedOf_0 8 rfl rfl)
theorem dX1_waitedOf_9 : decode cX1_waitedOf 9 = .ok (.istore 4, 2) := dk_54 4 (dk_at dksX1_waitedOf_0 9 rfl rfl)
theorem dX1_waitedOf_11 : decode cX1_waitedOf 11 = .ok (.iload 4, 2) := dk_21 4 (dk_at dksX1_waitedOf_0 11 rfl rfl)
theorem dX1_waitedOf_13 : decode cX1_waitedOf 13 = .ok (.iconst 4, 1) := dk_7 (dk_at dksX1_waitedOf_0 13 rfl rfl)
theorem dX1_waitedOf_14 : decode cX1_waitedOf 14 = .ok (.if_icmp .ge 39, 3) := dk_162 0 39 (dk_at dksX1_waitedOf_0 14 rfl rfl)
theorem dX1_waitedOf_17 : decode cX1_waitedOf 17 = .ok (.iload_n 2, 1) := dk_28 (dk_at dksX1_waitedOf_0 17 rfl rfl)
theorem dX1_waitedOf_18 : decode cX1_waitedOf 18 = .ok (.iload 4, 2) := dk_21 4 (dk_at dksX1_waitedOf_0 18 rfl rfl)
theorem dX1_waitedOf_20 : decode cX1_waitedOf 20 = .ok (.ishr, 1) := dk_122 (dk_at dksX1_waitedOf_0 20 rfl rfl)
theorem dX1_waitedOf_21 : decode cX1_waitedOf 21 = .ok (.iconst 1, 1) := dk_4 (dk_at dksX1_waitedOf_0 21 rfl rfl)
theorem dX1_waitedOf_22 : decode cX1_waitedOf 22 = .ok (.iand, 1) := dk_126 (dk_at dksX1_waitedOf_0 22 rfl rfl)
theorem dX1_waitedOf_23 : decode cX1_waitedOf 23 = .ok (.iconst 1, 1) := dk_4 (dk_at dksX1_waitedOf_0 23 rfl rfl)
theorem dX1_waitedOf_24 : decode cX1_waitedOf 24 = .ok (.if_icmp .ne 23, 3) := dk_160 0 23 (dk_at dksX1_waitedOf_1 0 rfl rfl)
theorem dX1_waitedOf_27 : decode cX1_waitedOf 27 = .ok (.iload_n 3, 1) := dk_29 (dk_at dksX1_waitedOf_1 3 rfl rfl)
theorem dX1_waitedOf_28 : decode cX1_waitedOf 28 = .ok (.aload_n 0, 1) := dk_42 (dk_at dksX1_waitedOf_1 4 rfl rfl)
theorem dX1_waitedOf_29 : decode cX1_waitedOf 29 = .ok (.getfield 10, 3) := dk_180 0 10 (dk_at dksX1_waitedOf_1 5 rfl rfl)
theorem dX1_waitedOf_32 : decode cX1_waitedOf 32 = .ok (.getfield 149, 3) := dk_180 0 149 (dk_at dksX1_waitedOf_1 8 rfl rfl)
theorem dX1_waitedOf_35 : decode cX1_waitedOf 35 = .ok (.aload_n 1, 1) := dk_43 (dk_at dksX1_waitedOf_1 11 rfl rfl)
theorem dX1_waitedOf_36 : decode cX1_waitedOf 36 = .ok (.getfield 329, 3) := dk_180 1 73 (dk_at dksX1_waitedOf_1 12 rfl rfl)
theorem dX1_waitedOf_39 : decode cX1_waitedOf 39 = .ok (.iload 4, 2) := dk_21 4 (dk_at dksX1_waitedOf_1 15 rfl rfl)
theorem dX1_waitedOf_41 : decode cX1_waitedOf 41 = .ok (.iaload, 1) := dk_46 (dk_at dksX1_waitedOf_1 17 rfl rfl)
theorem dX1_waitedOf_42 : decode cX1_waitedOf 42 = .ok (.isub, 1) := dk_100 (dk_at dksX1_waitedOf_1 18 rfl rfl)
theorem dX1_waitedOf_43 : decode cX1_waitedOf 43 = .ok (.invokestatic 224, 3) := dk_184 0 224 (dk_at dksX1_waitedOf_1 19 rfl rfl)
theorem dX1_waitedOf_46 : decode cX1_waitedOf 46 = .ok (.istore_n 3, 1) := dk_62 (dk_at dksX1_waitedOf_1 22 rfl rfl)
theorem dX1_waitedOf_47 : decode cX1_waitedOf 47 = .ok (.iinc 4 1, 3) := dk_132 4 1 (dk_at dksX1_waitedOf_2 0 rfl rfl)
theorem dX1_waitedOf_50 : decode cX1_waitedOf 50 = .ok (.goto (-39), 3) := dk_167 255 217 (dk_at dksX1_waitedOf_2 3 rfl rfl)
theorem dX1_waitedOf_53 : decode cX1_waitedOf 53 = .ok (.iload_n 3, 1) := dk_29 (dk_at dksX1_waitedOf_2 6 rfl rfl)
theorem dX1_waitedOf_54 : decode cX1_waitedOf 54 = .ok (.ireturn, 1) := dk_172 (dk_at dksX1_waitedOf_2 7 rfl rfl)
abbrev cX1_lacksOf : ByteArray := prog_1_method_43_code
def yX1_lacksOf : MethodName := ⟨RX1, "lacksOf", "(LLimbBenches$Person;)I"⟩
def dkwX1_lacksOf_2 : List UInt8 := [167, 255, 226, 28, 172]
abbrev dktX1_lacksOf_2 : List UInt8 := dkwX1_lacksOf_2 ++ []
def dkwX1_lacksOf_1 : List UInt8 := [180, 1, 3, 29, 50, 199, 0, 8, 16, 15, 167, 0, 8, 4, 29, 120, 2, 130, 126, 61, 132, 3, 1]
abbrev dktX1_lacksOf_1 : List UInt8 := dkwX1_lacksOf_1 ++ dktX1_lacksOf_2
def dkwX1_lacksOf_0 : List UInt8 := [42, 43, 42, 180, 0, 10, 180, 0, 149, 182, 0, 243, 61, 3, 62, 29, 7, 162, 0, 31, 28, 43]
abbrev dktX1_lacksOf_0 : List UInt8 := dkwX1_lacksOf_0 ++ dktX1_lacksOf_1
theorem dksX1_lacksOf_0 : cX1_lacksOf.data.toList.drop 0 = dktX1_lacksOf_0 := by decide +kernel
theorem dksX1_lacksOf_1 : cX1_lacksOf.data.toList.drop 22 = dktX1_lacksOf_1 := dk_seg dksX1_lacksOf_0 22 rfl rfl
theorem dksX1_lacksOf_2 : cX1_lacksOf.data.toList.drop 45 = dktX1_lacksOf_2 := dk_seg dksX1_lacksOf_1 23 rfl rfl
theorem dX1_lacksOf_0 : decode cX1_lacksOf 0 = .ok (.aload_n 0, 1) := dk_42 (dk_at dksX1_lacksOf_0 0 rfl rfl)
theorem dX1_lacksOf_1 : decode cX1_lacksOf 1 = .ok (.aload_n 1, 1) := dk_43 (dk_at dksX1_lacksOf_0 1 rfl rfl)
theorem dX1_lacksOf_2 : decode cX1_lacksOf 2 = .ok (.aload_n 0, 1) := dk_42 (dk_at dksX1_lacksOf_0 2 rfl rfl)
theorem dX1_lacksOf_3 : decode cX1_lacksOf 3 = .ok (.getfield 10, 3) := dk_180 0 10 (dk_at dksX1_lacksOf_0 3 rfl rfl)
theorem dX1_lacksOf_6 : decode cX1_lacksOf 6 = .ok (.getfield 149, 3) := dk_180 0 149 (dk_at dksX1_lacksOf_0 6 rfl rfl)
theorem dX1_lacksOf_9 : decode cX1_lacksOf 9 = .ok (.invokevirtual 243, 3) := dk_182 0 243 (dk_at dksX1_lacksOf_0 9 rfl rfl)
theorem dX1_lacksOf_12 : decode cX1_lacksOf 12 = .ok (.istore_n 2, 1) := dk_61 (dk_at dksX1_lacksOf_0 12 rfl rfl)
theorem dX1_lacksOf_13 : decode cX1_lacksOf 13 = .ok (.iconst 0, 1) := dk_3 (dk_at dksX1_lacksOf_0 13 rfl rfl)
theorem dX1_lacksOf_14 : decode cX1_lacksOf 14 = .ok (.istore_n 3, 1) := dk_62 (dk_at dksX1_lacksOf_0 14 rfl rfl)
theorem dX1_lacksOf_15 : decode cX1_lacksOf 15 = .ok (.iload_n 3, 1) := dk_29 (dk_at dksX1_lacksOf_0 15 rfl rfl)
theorem dX1_lacksOf_16 : decode cX1_lacksOf 16 = .ok (.iconst 4, 1) := dk_7 (dk_at dksX1_lacksOf_0 16 rfl rfl)
theorem dX1_lacksOf_17 : decode cX1_lacksOf 17 = .ok (.if_icmp .ge 31, 3) := dk_162 0 31 (dk_at dksX1_lacksOf_0 17 rfl rfl)
theorem dX1_lacksOf_20 : decode cX1_lacksOf 20 = .ok (.iload_n 2, 1) := dk_28 (dk_at dksX1_lacksOf_0 20 rfl rfl)
theorem dX1_lacksOf_21 : decode cX1_lacksOf 21 = .ok (.aload_n 1, 1) := dk_43 (dk_at dksX1_lacksOf_0 21 rfl rfl)
theorem dX1_lacksOf_22 : decode cX1_lacksOf 22 = .ok (.getfield 259, 3) := dk_180 1 3 (dk_at dksX1_lacksOf_1 0 rfl rfl)
theorem dX1_lacksOf_25 : decode cX1_lacksOf 25 = .ok (.iload_n 3, 1) := dk_29 (dk_at dksX1_lacksOf_1 3 rfl rfl)
theorem dX1_lacksOf_26 : decode cX1_lacksOf 26 = .ok (.aaload, 1) := dk_50 (dk_at dksX1_lacksOf_1 4 rfl rfl)
theorem dX1_lacksOf_27 : decode cX1_lacksOf 27 = .ok (.ifnonnull 8, 3) := dk_199 0 8 (dk_at dksX1_lacksOf_1 5 rfl rfl)
theorem dX1_lacksOf_30 : decode cX1_lacksOf 30 = .ok (.bipush 15, 2) := dk_16 15 (dk_at dksX1_lacksOf_1 8 rfl rfl)
theorem dX1_lacksOf_32 : decode cX1_lacksOf 32 = .ok (.goto 8, 3) := dk_167 0 8 (dk_at dksX1_lacksOf_1 10 rfl rfl)
theorem dX1_lacksOf_35 : decode cX1_lacksOf 35 = .ok (.iconst 1, 1) := dk_4 (dk_at dksX1_lacksOf_1 13 rfl rfl)
theorem dX1_lacksOf_36 : decode cX1_lacksOf 36 = .ok (.iload_n 3, 1) := dk_29 (dk_at dksX1_lacksOf_1 14 rfl rfl)
theorem dX1_lacksOf_37 : decode cX1_lacksOf 37 = .ok (.ishl, 1) := dk_120 (dk_at dksX1_lacksOf_1 15 rfl rfl)
theorem dX1_lacksOf_38 : decode cX1_lacksOf 38 = .ok (.iconst (-1), 1) := dk_2 (dk_at dksX1_lacksOf_1 16 rfl rfl)
theorem dX1_lacksOf_39 : decode cX1_lacksOf 39 = .ok (.ixor, 1) := dk_130 (dk_at dksX1_lacksOf_1 17 rfl rfl)
theorem dX1_lacksOf_40 : decode cX1_lacksOf 40 = .ok (.iand, 1) := dk_126 (dk_at dksX1_lacksOf_1 18 rfl rfl)
theorem dX1_lacksOf_41 : decode cX1_lacksOf 41 = .ok (.istore_n 2, 1) := dk_61 (dk_at dksX1_lacksOf_1 19 rfl rfl)
theorem dX1_lacksOf_42 : decode cX1_lacksOf 42 = .ok (.iinc 3 1, 3) := dk_132 3 1 (dk_at dksX1_lacksOf_1 20 rfl rfl)
theorem dX1_lacksOf_45 : decode cX1_lacksOf 45 = .ok (.goto (-30), 3) := dk_167 255 226 (dk_at dksX1_lacksOf_2 0 rfl rfl)
theorem dX1_lacksOf_48 : decode cX1_lacksOf 48 = .ok (.iload_n 2, 1) := dk_28 (dk_at dksX1_lacksOf_2 3 rfl rfl)
theorem dX1_lacksOf_49 : decode cX1_lacksOf 49 = .ok (.ireturn, 1) := dk_172 (dk_at dksX1_lacksOf_2 4 rfl rfl)
abbrev cX1_needsOf : ByteArray := prog_1_method_27_code
def yX1_needsOf : MethodName := ⟨RX1, "needsOf", "(LLimbBenches$Person;I)I"⟩
def dkwX1_needsOf_3 : List UInt8 := [182, 0, 81, 192, 0, 200, 182, 0, 236, 120, 128, 62, 132, 4, 1, 167, 255, 180, 29, 172]
abbrev dktX1_needsOf_3 : List UInt8 := dkwX1_needsOf_3 ++ []
def dkwX1_needsOf_2 : List UInt8 := [182, 0, 81, 192, 0, 200, 42, 180, 0, 43, 182, 0, 206, 153, 0, 23, 29, 4, 42, 180, 0, 25, 21, 4]
abbrev dktX1_needsOf_2 : List UInt8 := dkwX1_needsOf_2 ++ dktX1_needsOf_3
def dkwX1_needsOf_1 : List UInt8 := [180, 0, 25, 21, 4, 182, 0, 81, 192, 0, 200, 182, 0, 236, 2, 159, 0, 45, 42, 180, 0, 25, 21, 4]
abbrev dktX1_needsOf_1 : List UInt8 := dkwX1_needsOf_1 ++ dktX1_needsOf_2
def dkwX1_needsOf_0 : List UInt8 := [42, 43, 28, 182, 0, 196, 3, 62, 3, 54, 4, 21, 4, 42, 180, 0, 25, 182, 0, 74, 162, 0, 70, 42]
abbrev dktX1_needsOf_0 : List UInt8 := dkwX1_needsOf_0 ++ dktX1_needsOf_1
theorem dksX1_needsOf_0 : cX1_needsOf.data.toList.drop 0 = dktX1_needsOf_0 := by decide +kernel
theorem dksX1_needsOf_1 : cX1_needsOf.data.toList.drop 24 = dktX1_needsOf_1 := dk_seg dksX1_needsOf_0 24 rfl rfl
theorem dksX1_needsOf_2 : cX1_needsOf.data.toList.drop 48 = dktX1_needsOf_2 := dk_seg dksX1_needsOf_1 24 rfl rfl
theorem dksX1_needsOf_3 : cX1_needsOf.data.toList.drop 72 = dktX1_needsOf_3 := dk_seg dksX1_needsOf_2 24 rfl rfl
theorem dX1_needsOf_0 : decode cX1_needsOf 0 = .ok (.aload_n 0, 1) := dk_42 (dk_at dksX1_needsOf_0 0 rfl rfl)
theorem dX1_needsOf_1 : decode cX1_needsOf 1 = .ok (.aload_n 1, 1) := dk_43 (dk_at dksX1_needsOf_0 1 rfl rfl)
theorem dX1_needsOf_2 : decode cX1_needsOf 2 = .ok (.iload_n 2, 1) := dk_28 (dk_at dksX1_needsOf_0 2 rfl rfl)
theorem dX1_needsOf_3 : decode cX1_needsOf 3 = .ok (.invokevirtual 196, 3) := dk_182 0 196 (dk_at dksX1_needsOf_0 3 rfl rfl)
theorem dX1_needsOf_6 : decode cX1_needsOf 6 = .ok (.iconst 0, 1) := dk_3 (dk_at dksX1_needsOf_0 6 rfl rfl)
theorem dX1_needsOf_7 : decode cX1_needsOf 7 = .ok (.istore_n 3, 1) := dk_62 (dk_at dksX1_needsOf_0 7 rfl rfl)
theorem dX1_needsOf_8 : decode cX1_needsOf 8 = .ok (.iconst 0, 1) := dk_3 (dk_at dksX1_needsOf_0 8 rfl rfl)
theorem dX1_needsOf_9 : decode cX1_needsOf 9 = .ok (.istore 4, 2) := dk_54 4 (dk_at dksX1_needsOf_0 9 rfl rfl)
theorem dX1_needsOf_11 : decode cX1_needsOf 11 = .ok (.iload 4, 2) := dk_21 4 (dk_at dksX1_needsOf_0 11 rfl rfl)
theorem dX1_needsOf_13 : decode cX1_needsOf 13 = .ok (.aload_n 0, 1) := dk_42 (dk_at dksX1_needsOf_0 13 rfl rfl)
theorem dX1_needsOf_14 : decode cX1_needsOf 14 = .ok (.getfield 25, 3) := dk_180 0 25 (dk_at dksX1_needsOf_0 14 rfl rfl)
theorem dX1_needsOf_17 : decode cX1_needsOf 17 = .ok (.invokevirtual 74, 3) := dk_182 0 74 (dk_at dksX1_needsOf_0 17 rfl rfl)
theorem dX1_needsOf_20 : decode cX1_needsOf 20 = .ok (.if_icmp .ge 70, 3) := dk_162 0 70 (dk_at dksX1_needsOf_0 20 rfl rfl)
theorem dX1_needsOf_23 : decode cX1_needsOf 23 = .ok (.aload_n 0, 1) := dk_42 (dk_at dksX1_needsOf_0 23 rfl rfl)
theorem dX1_needsOf_24 : decode cX1_needsOf 24 = .ok (.getfield 25, 3) := dk_180 0 25 (dk_at dksX1_needsOf_1 0 rfl rfl)
theorem dX1_needsOf_27 : decode cX1_needsOf 27 = .ok (.iload 4, 2) := dk_21 4 (dk_at dksX1_needsOf_1 3 rfl rfl)
theorem dX1_needsOf_29 : decode cX1_needsOf 29 = .ok (.invokevirtual 81, 3) := dk_182 0 81 (dk_at dksX1_needsOf_1 5 rfl rfl)
theorem dX1_needsOf_32 : decode cX1_needsOf 32 = .ok (.checkcast 200, 3) := dk_192 0 200 (dk_at dksX1_needsOf_1 8 rfl rfl)
theorem dX1_needsOf_35 : decode cX1_needsOf 35 = .ok (.invokevirtual 236, 3) := dk_182 0 236 (dk_at dksX1_needsOf_1 11 rfl rfl)
theorem dX1_needsOf_38 : decode cX1_needsOf 38 = .ok (.iconst (-1), 1) := dk_2 (dk_at dksX1_needsOf_1 14 rfl rfl)
theorem dX1_needsOf_39 : decode cX1_needsOf 39 = .ok (.if_icmp .eq 45, 3) := dk_159 0 45 (dk_at dksX1_needsOf_1 15 rfl rfl)
theorem dX1_needsOf_42 : decode cX1_needsOf 42 = .ok (.aload_n 0, 1) := dk_42 (dk_at dksX1_needsOf_1 18 rfl rfl)
theorem dX1_needsOf_43 : decode cX1_needsOf 43 = .ok (.getfield 25, 3) := dk_180 0 25 (dk_at dksX1_needsOf_1 19 rfl rfl)
theorem dX1_needsOf_46 : decode cX1_needsOf 46 = .ok (.iload 4, 2) := dk_21 4 (dk_at dksX1_needsOf_1 22 rfl rfl)
theorem dX1_needsOf_48 : decode cX1_needsOf 48 = .ok (.invokevirtual 81, 3) := dk_182 0 81 (dk_at dksX1_needsOf_2 0 rfl rfl)
theorem dX1_needsOf_51 : decode cX1_needsOf 51 = .ok (.checkcast 200, 3) := dk_192 0 200 (dk_at dksX1_needsOf_2 3 rfl rfl)
theorem dX1_needsOf_54 : decode cX1_needsOf 54 = .ok (.aload_n 0, 1) := dk_42 (dk_at dksX1_needsOf_2 6 rfl rfl)
theorem dX1_needsOf_55 : decode cX1_needsOf 55 = .ok (.getfield 43, 3) := dk_180 0 43 (dk_at dksX1_needsOf_2 7 rfl rfl)
theorem dX1_needsOf_58 : decode cX1_needsOf 58 = .ok (.invokevirtual 206, 3) := dk_182 0 206 (dk_at dksX1_needsOf_2 10 rfl rfl)
theorem dX1_needsOf_61 : decode cX1_needsOf 61 = .ok (.ifCond .eq 23, 3) := dk_153 0 23 (dk_at dksX1_needsOf_2 13 rfl rfl)
theorem dX1_needsOf_64 : decode cX1_needsOf 64 = .ok (.iload_n 3, 1) := dk_29 (dk_at dksX1_needsOf_2 16 rfl rfl)
theorem dX1_needsOf_65 : decode cX1_needsOf 65 = .ok (.iconst 1, 1) := dk_4 (dk_at dksX1_needsOf_2 17 rfl rfl)
theorem dX1_needsOf_66 : decode cX1_needsOf 66 = .ok (.aload_n 0, 1) := dk_42 (dk_at dksX1_needsOf_2 18 rfl rfl)
theorem dX1_needsOf_67 : decode cX1_needsOf 67 = .ok (.getfield 25, 3) := dk_180 0 25 (dk_at dksX1_needsOf_2 19 rfl rfl)
theorem dX1_needsOf_70 : decode cX1_needsOf 70 = .ok (.iload 4, 2) := dk_21 4 (dk_at dksX1_needsOf_2 22 rfl rfl)
theorem dX1_needsOf_72 : decode cX1_needsOf 72 = .ok (.invokevirtual 81, 3) := dk_182 0 81 (dk_at dksX1_needsOf_3 0 rfl rfl)
theorem dX1_needsOf_75 : decode cX1_needsOf 75 = .ok (.checkcast 200, 3) := dk_192 0 200 (dk_at dksX1_needsOf_3 3 rfl rfl)
theorem dX1_needsOf_78 : decode cX1_needsOf 78 = .ok (.invokevirtual 236, 3) := dk_182 0 236 (dk_at dksX1_needsOf_3 6 rfl rfl)
theorem dX1_needsOf_81 : decode cX1_needsOf 81 = .ok (.ishl, 1) := dk_120 (dk_at dksX1_needsOf_3 9 rfl rfl)
theorem dX1_needsOf_82 : decode cX1_needsOf 82 = .ok (.ior, 1) := dk_128 (dk_at dksX1_needsOf_3 10 rfl rfl)
theorem dX1_needsOf_83 : decode cX1_needsOf 83 = .ok (.istore_n 3, 1) := dk_62 (dk_at dksX1_needsOf_3 11 rfl rfl)
theorem dX1_needsOf_84 : decode cX1_needsOf 84 = .ok (.iinc 4 1, 3) := dk_132 4 1 (dk_at dksX1_needsOf_3 12 rfl rfl)
theorem dX1_needsOf_87 : decode cX1_needsOf 87 = .ok (.goto (-76), 3) := dk_167 255 180 (dk_at dksX1_needsOf_3 15 rfl rfl)
theorem dX1_needsOf_90 : decode cX1_needsOf 90 = .ok (.iload_n 3, 1) := dk_29 (dk_at dksX1_needsOf_3 18 rfl rfl)
theorem dX1_needsOf_91 : decode cX1_needsOf 91 = .ok (.ireturn, 1) := dk_172 (dk_at dksX1_needsOf_3 19 rfl rfl)
abbrev cX1_served : ByteArray := prog_1_method_48_code
def yX1_served : MethodName := ⟨RX1, "served", "(I)I"⟩
def dkwX1_served_5 : List UInt8 := [158, 0, 11, 21, 4, 27, 160, 0, 5, 28, 172, 132, 2, 1, 167, 255, 127, 2, 172]
abbrev dktX1_served_5 : List UInt8 := dkwX1_served_5 ++ []
def dkwX1_served_4 : List UInt8 := [160, 0, 13, 21, 5, 28, 162, 0, 7, 4, 167, 0, 4, 3, 96, 54, 4, 132, 5, 1, 167, 255, 184, 29]
abbrev dktX1_served_4 : List UInt8 := dkwX1_served_4 ++ dktX1_served_5
def dkwX1_served_3 : List UInt8 := [192, 0, 85, 182, 1, 86, 54, 6, 21, 4, 21, 6, 158, 0, 25, 21, 6, 29, 163, 0, 15, 21, 6, 29]
abbrev dktX1_served_3 : List UInt8 := dkwX1_served_3 ++ dktX1_served_4
def dkwX1_served_2 : List UInt8 := [180, 0, 71, 182, 0, 74, 162, 0, 63, 42, 42, 180, 0, 10, 180, 0, 71, 21, 5, 182, 0, 81]
abbrev dktX1_served_2 : List UInt8 := dkwX1_served_2 ++ dktX1_served_3
def dkwX1_served_1 : List UInt8 := [28, 182, 0, 81, 192, 0, 85, 182, 1, 86, 62, 3, 54, 4, 3, 54, 5, 21, 5, 42, 180, 0, 10]
abbrev dktX1_served_1 : List UInt8 := dkwX1_served_1 ++ dktX1_served_2
def dkwX1_served_0 : List UInt8 := [3, 61, 28, 42, 180, 0, 10, 180, 0, 71, 182, 0, 74, 162, 0, 121, 42, 42, 180, 0, 10, 180, 0, 71]
abbrev dktX1_served_0 : List UInt8 := dkwX1_served_0 ++ dktX1_served_1
theorem dksX1_served_0 : cX1_served.data.toList.drop 0 = dktX1_served_0 := by decide +kernel
theorem dksX1_served_1 : cX1_served.data.toList.drop 24 = dktX1_served_1 := dk_seg dksX1_served_0 24 rfl rfl
theorem dksX1_served_2 : cX1_served.data.toList.drop 47 = dktX1_served_2 := dk_seg dksX1_served_1 23 rfl rfl
theorem dksX1_served_3 : cX1_served.data.toList.drop 69 = dktX1_served_3 := dk_seg dksX1_served_2 22 rfl rfl
theorem dksX1_served_4 : cX1_served.data.toList.drop 93 = dktX1_served_4 := dk_seg dksX1_served_3 24 rfl rfl
theorem dksX1_served_5 : cX1_served.data.toList.drop 117 = dktX1_served_5 := dk_seg dksX1_served_4 24 rfl rfl
theorem dX1_served_0 : decode cX1_served 0 = .ok (.iconst 0, 1) := dk_3 (dk_at dksX1_served_0 0 rfl rfl)
theorem dX1_served_1 : decode cX1_served 1 = .ok (.istore_n 2, 1) := dk_61 (dk_at dksX1_served_0 1 rfl rfl)
theorem dX1_served_2 : decode cX1_served 2 = .ok (.iload_n 2, 1) := dk_28 (dk_at dksX1_served_0 2 rfl rfl)
theorem dX1_served_3 : decode cX1_served 3 = .ok (.aload_n 0, 1) := dk_42 (dk_at dksX1_served_0 3 rfl rfl)
theorem dX1_served_4 : decode cX1_served 4 = .ok (.getfield 10, 3) := dk_180 0 10 (dk_at dksX1_served_0 4 rfl rfl)
theorem dX1_served_7 : decode cX1_served 7 = .ok (.getfield 71, 3) := dk_180 0 71 (dk_at dksX1_served_0 7 rfl rfl)
theorem dX1_served_10 : decode cX1_served 10 = .ok (.invokevirtual 74, 3) := dk_182 0 74 (dk_at dksX1_served_0 10 rfl rfl)
theorem dX1_served_13 : decode cX1_served 13 = .ok (.if_icmp .ge 121, 3) := dk_162 0 121 (dk_at dksX1_served_0 13 rfl rfl)
theorem dX1_served_16 : decode cX1_served 16 = .ok (.aload_n 0, 1) := dk_42 (dk_at dksX1_served_0 16 rfl rfl)
theorem dX1_served_17 : decode cX1_served 17 = .ok (.aload_n 0, 1) := dk_42 (dk_at dksX1_served_0 17 rfl rfl)
theorem dX1_served_18 : decode cX1_served 18 = .ok (.getfield 10, 3) := dk_180 0 10 (dk_at dksX1_served_0 18 rfl rfl)
theorem dX1_served_21 : decode cX1_served 21 = .ok (.getfield 71, 3) := dk_180 0 71 (dk_at dksX1_served_0 21 rfl rfl)
theorem dX1_served_24 : decode cX1_served 24 = .ok (.iload_n 2, 1) := dk_28 (dk_at dksX1_served_1 0 rfl rfl)
theorem dX1_served_25 : decode cX1_served 25 = .ok (.invokevirtual 81, 3) := dk_182 0 81 (dk_at dksX1_served_1 1 rfl rfl)
theorem dX1_served_28 : decode cX1_served 28 = .ok (.checkcast 85, 3) := dk_192 0 85 (dk_at dksX1_served_1 4 rfl rfl)
theorem dX1_served_31 : decode cX1_served 31 = .ok (.invokevirtual 342, 3) := dk_182 1 86 (dk_at dksX1_served_1 7 rfl rfl)
theorem dX1_served_34 : decode cX1_served 34 = .ok (.istore_n 3, 1) := dk_62 (dk_at dksX1_served_1 10 rfl rfl)
theorem dX1_served_35 : decode cX1_served 35 = .ok (.iconst 0, 1) := dk_3 (dk_at dksX1_served_1 11 rfl rfl)
theorem dX1_served_36 : decode cX1_served 36 = .ok (.istore 4, 2) := dk_54 4 (dk_at dksX1_served_1 12 rfl rfl)
theorem dX1_served_38 : decode cX1_served 38 = .ok (.iconst 0, 1) := dk_3 (dk_at dksX1_served_1 14 rfl rfl)
theorem dX1_served_39 : decode cX1_served 39 = .ok (.istore 5, 2) := dk_54 5 (dk_at dksX1_served_1 15 rfl rfl)
theorem dX1_served_41 : decode cX1_served 41 = .ok (.iload 5, 2) := dk_21 5 (dk_at dksX1_served_1 17 rfl rfl)
theorem dX1_served_43 : decode cX1_served 43 = .ok (.aload_n 0, 1) := dk_42 (dk_at dksX1_served_1 19 rfl rfl)
theorem dX1_served_44 : decode cX1_served 44 = .ok (.getfield 10, 3) := dk_180 0 10 (dk_at dksX1_served_1 20 rfl rfl)
theorem dX1_served_47 : decode cX1_served 47 = .ok (.getfield 71, 3) := dk_180 0 71 (dk_at dksX1_served_2 0 rfl rfl)
theorem dX1_served_50 : decode cX1_served 50 = .ok (.invokevirtual 74, 3) := dk_182 0 74 (dk_at dksX1_served_2 3 rfl rfl)
theorem dX1_served_53 : decode cX1_served 53 = .ok (.if_icmp .ge 63, 3) := dk_162 0 63 (dk_at dksX1_served_2 6 rfl rfl)
theorem dX1_served_56 : decode cX1_served 56 = .ok (.aload_n 0, 1) := dk_42 (dk_at dksX1_served_2 9 rfl rfl)
theorem dX1_served_57 : decode cX1_served 57 = .ok (.aload_n 0, 1) := dk_42 (dk_at dksX1_served_2 10 rfl rfl)
theorem dX1_served_58 : decode cX1_served 58 = .ok (.getfield 10, 3) := dk_180 0 10 (dk_at dksX1_served_2 11 rfl rfl)
theorem dX1_served_61 : decode cX1_served 61 = .ok (.getfield 71, 3) := dk_180 0 71 (dk_at dksX1_served_2 14 rfl rfl)
theorem dX1_served_64 : decode cX1_served 64 = .ok (.iload 5, 2) := dk_21 5 (dk_at dksX1_served_2 17 rfl rfl)
theorem dX1_served_66 : decode cX1_served 66 = .ok (.invokevirtual 81, 3) := dk_182 0 81 (dk_at dksX1_served_2 19 rfl rfl)
theorem dX1_served_69 : decode cX1_served 69 = .ok (.checkcast 85, 3) := dk_192 0 85 (dk_at dksX1_served_3 0 rfl rfl)
theorem dX1_served_72 : decode cX1_served 72 = .ok (.invokevirtual 342, 3) := dk_182 1 86 (dk_at dksX1_served_3 3 rfl rfl)
theorem dX1_served_75 : decode cX1_served 75 = .ok (.istore 6, 2) := dk_54 6 (dk_at dksX1_served_3 6 rfl rfl)
theorem dX1_served_77 : decode cX1_served 77 = .ok (.iload 4, 2) := dk_21 4 (dk_at dksX1_served_3 8 rfl rfl)
theorem dX1_served_79 : decode cX1_served 79 = .ok (.iload 6, 2) := dk_21 6 (dk_at dksX1_served_3 10 rfl rfl)
theorem dX1_served_81 : decode cX1_served 81 = .ok (.ifCond .le 25, 3) := dk_158 0 25 (dk_at dksX1_served_3 12 rfl rfl)
theorem dX1_served_84 : decode cX1_served 84 = .ok (.iload 6, 2) := dk_21 6 (dk_at dksX1_served_3 15 rfl rfl)
theorem dX1_served_86 : decode cX1_served 86 = .ok (.iload_n 3, 1) := dk_29 (dk_at dksX1_served_3 17 rfl rfl)
theorem dX1_served_87 : decode cX1_served 87 = .ok (.if_icmp .gt 15, 3) := dk_163 0 15 (dk_at dksX1_served_3 18 rfl rfl)
theorem dX1_served_90 : decode cX1_served 90 = .ok (.iload 6, 2) := dk_21 6 (dk_at dksX1_served_3 21 rfl rfl)
theorem dX1_served_92 : decode cX1_served 92 = .ok (.iload_n 3, 1) := dk_29 (dk_at dksX1_served_3 23 rfl rfl)
theorem dX1_served_93 : decode cX1_served 93 = .ok (.if_icmp .ne 13, 3) := dk_160 0 13 (dk_at dksX1_served_4 0 rfl rfl)
theorem dX1_served_96 : decode cX1_served 96 = .ok (.iload 5, 2) := dk_21 5 (dk_at dksX1_served_4 3 rfl rfl)
theorem dX1_served_98 : decode cX1_served 98 = .ok (.iload_n 2, 1) := dk_28 (dk_at dksX1_served_4 5 rfl rfl)
theorem dX1_served_99 : decode cX1_served 99 = .ok (.if_icmp .ge 7, 3) := dk_162 0 7 (dk_at dksX1_served_4 6 rfl rfl)
theorem dX1_served_102 : decode cX1_served 102 = .ok (.iconst 1, 1) := dk_4 (dk_at dksX1_served_4 9 rfl rfl)
theorem dX1_served_103 : decode cX1_served 103 = .ok (.goto 4, 3) := dk_167 0 4 (dk_at dksX1_served_4 10 rfl rfl)
theorem dX1_served_106 : decode cX1_served 106 = .ok (.iconst 0, 1) := dk_3 (dk_at dksX1_served_4 13 rfl rfl)
theorem dX1_served_107 : decode cX1_served 107 = .ok (.iadd, 1) := dk_96 (dk_at dksX1_served_4 14 rfl rfl)
theorem dX1_served_108 : decode cX1_served 108 = .ok (.istore 4, 2) := dk_54 4 (dk_at dksX1_served_4 15 rfl rfl)
theorem dX1_served_110 : decode cX1_served 110 = .ok (.iinc 5 1, 3) := dk_132 5 1 (dk_at dksX1_served_4 17 rfl rfl)
theorem dX1_served_113 : decode cX1_served 113 = .ok (.goto (-72), 3) := dk_167 255 184 (dk_at dksX1_served_4 20 rfl rfl)
theorem dX1_served_116 : decode cX1_served 116 = .ok (.iload_n 3, 1) := dk_29 (dk_at dksX1_served_4 23 rfl rfl)
theorem dX1_served_117 : decode cX1_served 117 = .ok (.ifCond .le 11, 3) := dk_158 0 11 (dk_at dksX1_served_5 0 rfl rfl)
theorem dX1_served_120 : decode cX1_served 120 = .ok (.iload 4, 2) := dk_21 4 (dk_at dksX1_served_5 3 rfl rfl)
theorem dX1_served_122 : decode cX1_served 122 = .ok (.iload_n 1, 1) := dk_27 (dk_at dksX1_served_5 5 rfl rfl)
theorem dX1_served_123 : decode cX1_served 123 = .ok (.if_icmp .ne 5, 3) := dk_160 0 5 (dk_at dksX1_served_5 6 rfl rfl)
theorem dX1_served_126 : decode cX1_served 126 = .ok (.iload_n 2, 1) := dk_28 (dk_at dksX1_served_5 9 rfl rfl)
theorem dX1_served_127 : decode cX1_served 127 = .ok (.ireturn, 1) := dk_172 (dk_at dksX1_served_5 10 rfl rfl)
theorem dX1_served_128 : decode cX1_served 128 = .ok (.iinc 2 1, 3) := dk_132 2 1 (dk_at dksX1_served_5 11 rfl rfl)
theorem dX1_served_131 : decode cX1_served 131 = .ok (.goto (-129), 3) := dk_167 255 127 (dk_at dksX1_served_5 14 rfl rfl)
theorem dX1_served_134 : decode cX1_served 134 = .ok (.iconst (-1), 1) := dk_2 (dk_at dksX1_served_5 17 rfl rfl)
theorem dX1_served_135 : decode cX1_served 135 = .ok (.ireturn, 1) := dk_172 (dk_at dksX1_served_5 18 rfl rfl)
abbrev cX1_best : ByteArray := prog_1_method_64_code
def yX1_best : MethodName := ⟨RX1, "best", "()I"⟩
def dkwX1_best_1 : List UInt8 := [16, 7, 27, 104, 42, 180, 0, 56, 28, 46, 96, 60, 132, 2, 1, 167, 255, 227, 27, 172]
abbrev dktX1_best_1 : List UInt8 := dkwX1_best_1 ++ []
def dkwX1_best_0 : List UInt8 := [42, 182, 1, 169, 87, 3, 60, 3, 61, 28, 42, 180, 0, 10, 180, 1, 128, 182, 0, 74, 162, 0, 21]
abbrev dktX1_best_0 : List UInt8 := dkwX1_best_0 ++ dktX1_best_1
theorem dksX1_best_0 : cX1_best.data.toList.drop 0 = dktX1_best_0 := by decide +kernel
theorem dksX1_best_1 : cX1_best.data.toList.drop 23 = dktX1_best_1 := dk_seg dksX1_best_0 23 rfl rfl
theorem dX1_best_0 : decode cX1_best 0 = .ok (.aload_n 0, 1) := dk_42 (dk_at dksX1_best_0 0 rfl rfl)
theorem dX1_best_1 : decode cX1_best 1 = .ok (.invokevirtual 425, 3) := dk_182 1 169 (dk_at dksX1_best_0 1 rfl rfl)
theorem dX1_best_4 : decode cX1_best 4 = .ok (.pop, 1) := dk_87 (dk_at dksX1_best_0 4 rfl rfl)
theorem dX1_best_5 : decode cX1_best 5 = .ok (.iconst 0, 1) := dk_3 (dk_at dksX1_best_0 5 rfl rfl)
theorem dX1_best_6 : decode cX1_best 6 = .ok (.istore_n 1, 1) := dk_60 (dk_at dksX1_best_0 6 rfl rfl)
theorem dX1_best_7 : decode cX1_best 7 = .ok (.iconst 0, 1) := dk_3 (dk_at dksX1_best_0 7 rfl rfl)
theorem dX1_best_8 : decode cX1_best 8 = .ok (.istore_n 2, 1) := dk_61 (dk_at dksX1_best_0 8 rfl rfl)
theorem dX1_best_9 : decode cX1_best 9 = .ok (.iload_n 2, 1) := dk_28 (dk_at dksX1_best_0 9 rfl rfl)
theorem dX1_best_10 : decode cX1_best 10 = .ok (.aload_n 0, 1) := dk_42 (dk_at dksX1_best_0 10 rfl rfl)
theorem dX1_best_11 : decode cX1_best 11 = .ok (.getfield 10, 3) := dk_180 0 10 (dk_at dksX1_best_0 11 rfl rfl)
theorem dX1_best_14 : decode cX1_best 14 = .ok (.getfield 384, 3) := dk_180 1 128 (dk_at dksX1_best_0 14 rfl rfl)
theorem dX1_best_17 : decode cX1_best 17 = .ok (.invokevirtual 74, 3) := dk_182 0 74 (dk_at dksX1_best_0 17 rfl rfl)
theorem dX1_best_20 : decode cX1_best 20 = .ok (.if_icmp .ge 21, 3) := dk_162 0 21 (dk_at dksX1_best_0 20 rfl rfl)
theorem dX1_best_23 : decode cX1_best 23 = .ok (.bipush 7, 2) := dk_16 7 (dk_at dksX1_best_1 0 rfl rfl)
theorem dX1_best_25 : decode cX1_best 25 = .ok (.iload_n 1, 1) := dk_27 (dk_at dksX1_best_1 2 rfl rfl)
theorem dX1_best_26 : decode cX1_best 26 = .ok (.imul, 1) := dk_104 (dk_at dksX1_best_1 3 rfl rfl)
theorem dX1_best_27 : decode cX1_best 27 = .ok (.aload_n 0, 1) := dk_42 (dk_at dksX1_best_1 4 rfl rfl)
theorem dX1_best_28 : decode cX1_best 28 = .ok (.getfield 56, 3) := dk_180 0 56 (dk_at dksX1_best_1 5 rfl rfl)
theorem dX1_best_31 : decode cX1_best 31 = .ok (.iload_n 2, 1) := dk_28 (dk_at dksX1_best_1 8 rfl rfl)
theorem dX1_best_32 : decode cX1_best 32 = .ok (.iaload, 1) := dk_46 (dk_at dksX1_best_1 9 rfl rfl)
theorem dX1_best_33 : decode cX1_best 33 = .ok (.iadd, 1) := dk_96 (dk_at dksX1_best_1 10 rfl rfl)
theorem dX1_best_34 : decode cX1_best 34 = .ok (.istore_n 1, 1) := dk_60 (dk_at dksX1_best_1 11 rfl rfl)
theorem dX1_best_35 : decode cX1_best 35 = .ok (.iinc 2 1, 3) := dk_132 2 1 (dk_at dksX1_best_1 12 rfl rfl)
theorem dX1_best_38 : decode cX1_best 38 = .ok (.goto (-29), 3) := dk_167 255 227 (dk_at dksX1_best_1 15 rfl rfl)
theorem dX1_best_41 : decode cX1_best 41 = .ok (.iload_n 1, 1) := dk_27 (dk_at dksX1_best_1 18 rfl rfl)
theorem dX1_best_42 : decode cX1_best 42 = .ok (.ireturn, 1) := dk_172 (dk_at dksX1_best_1 19 rfl rfl)
abbrev cX1_findBest : ByteArray := prog_1_method_59_code
def yX1_findBest : MethodName := ⟨RX1, "findBest", "()I"⟩
def dkwX1_findBest_0 : List UInt8 := [42, 2, 181, 1, 143, 42, 3, 3, 3, 42, 182, 1, 156, 3, 182, 1, 152, 42, 180, 1, 143, 172]
abbrev dktX1_findBest_0 : List UInt8 := dkwX1_findBest_0 ++ []
theorem dksX1_findBest_0 : cX1_findBest.data.toList.drop 0 = dktX1_findBest_0 := by decide +kernel
theorem dX1_findBest_0 : decode cX1_findBest 0 = .ok (.aload_n 0, 1) := dk_42 (dk_at dksX1_findBest_0 0 rfl rfl)
theorem dX1_findBest_1 : decode cX1_findBest 1 = .ok (.iconst (-1), 1) := dk_2 (dk_at dksX1_findBest_0 1 rfl rfl)
theorem dX1_findBest_2 : decode cX1_findBest 2 = .ok (.putfield 399, 3) := dk_181 1 143 (dk_at dksX1_findBest_0 2 rfl rfl)
theorem dX1_findBest_5 : decode cX1_findBest 5 = .ok (.aload_n 0, 1) := dk_42 (dk_at dksX1_findBest_0 5 rfl rfl)
theorem dX1_findBest_6 : decode cX1_findBest 6 = .ok (.iconst 0, 1) := dk_3 (dk_at dksX1_findBest_0 6 rfl rfl)
theorem dX1_findBest_7 : decode cX1_findBest 7 = .ok (.iconst 0, 1) := dk_3 (dk_at dksX1_findBest_0 7 rfl rfl)
theorem dX1_findBest_8 : decode cX1_findBest 8 = .ok (.iconst 0, 1) := dk_3 (dk_at dksX1_findBest_0 8 rfl rfl)
theorem dX1_findBest_9 : decode cX1_findBest 9 = .ok (.aload_n 0, 1) := dk_42 (dk_at dksX1_findBest_0 9 rfl rfl)
theorem dX1_findBest_10 : decode cX1_findBest 10 = .ok (.invokevirtual 412, 3) := dk_182 1 156 (dk_at dksX1_findBest_0 10 rfl rfl)
theorem dX1_findBest_13 : decode cX1_findBest 13 = .ok (.iconst 0, 1) := dk_3 (dk_at dksX1_findBest_0 13 rfl rfl)
theorem dX1_findBest_14 : decode cX1_findBest 14 = .ok (.invokevirtual 408, 3) := dk_182 1 152 (dk_at dksX1_findBest_0 14 rfl rfl)
theorem dX1_findBest_17 : decode cX1_findBest 17 = .ok (.aload_n 0, 1) := dk_42 (dk_at dksX1_findBest_0 17 rfl rfl)
theorem dX1_findBest_18 : decode cX1_findBest 18 = .ok (.getfield 399, 3) := dk_180 1 143 (dk_at dksX1_findBest_0 18 rfl rfl)
theorem dX1_findBest_21 : decode cX1_findBest 21 = .ok (.ireturn, 1) := dk_172 (dk_at dksX1_findBest_0 21 rfl rfl)
abbrev cX1_otherFree : ByteArray := prog_1_method_60_code
def yX1_otherFree : MethodName := ⟨RX1, "otherFree", "()I"⟩
def dkwX1_otherFree_0 : List UInt8 := [42, 180, 0, 10, 180, 1, 159, 5, 160, 0, 7, 3, 167, 0, 6, 19, 1, 164, 172]
abbrev dktX1_otherFree_0 : List UInt8 := dkwX1_otherFree_0 ++ []
theorem dksX1_otherFree_0 : cX1_otherFree.data.toList.drop 0 = dktX1_otherFree_0 := by decide +kernel
theorem dX1_otherFree_0 : decode cX1_otherFree 0 = .ok (.aload_n 0, 1) := dk_42 (dk_at dksX1_otherFree_0 0 rfl rfl)
theorem dX1_otherFree_1 : decode cX1_otherFree 1 = .ok (.getfield 10, 3) := dk_180 0 10 (dk_at dksX1_otherFree_0 1 rfl rfl)
theorem dX1_otherFree_4 : decode cX1_otherFree 4 = .ok (.getfield 415, 3) := dk_180 1 159 (dk_at dksX1_otherFree_0 4 rfl rfl)
theorem dX1_otherFree_7 : decode cX1_otherFree 7 = .ok (.iconst 2, 1) := dk_5 (dk_at dksX1_otherFree_0 7 rfl rfl)
theorem dX1_otherFree_8 : decode cX1_otherFree 8 = .ok (.if_icmp .ne 7, 3) := dk_160 0 7 (dk_at dksX1_otherFree_0 8 rfl rfl)
theorem dX1_otherFree_11 : decode cX1_otherFree 11 = .ok (.iconst 0, 1) := dk_3 (dk_at dksX1_otherFree_0 11 rfl rfl)
theorem dX1_otherFree_12 : decode cX1_otherFree 12 = .ok (.goto 6, 3) := dk_167 0 6 (dk_at dksX1_otherFree_0 12 rfl rfl)
theorem dX1_otherFree_15 : decode cX1_otherFree 15 = .ok (.ldc_w 420, 3) := dk_19 1 164 (dk_at dksX1_otherFree_0 15 rfl rfl)
theorem dX1_otherFree_18 : decode cX1_otherFree 18 = .ok (.ireturn, 1) := dk_172 (dk_at dksX1_otherFree_0 18 rfl rfl)
abbrev cX1_orders : ByteArray := prog_1_method_58_code
def yX1_orders : MethodName := ⟨RX1, "orders", "(IIIII)V"⟩
def dkwX1_orders_8 : List UInt8 := [180, 1, 149, 21, 9, 104, 96, 182, 1, 152, 132, 7, 1, 167, 255, 133, 177]
abbrev dktX1_orders_8 : List UInt8 := dkwX1_orders_8 ++ []
def dkwX1_orders_7 : List UInt8 := [21, 4, 167, 0, 5, 21, 9, 21, 5, 42, 180, 0, 10, 180, 1, 128, 21, 7, 182, 0, 81, 192, 1, 131]
abbrev dktX1_orders_7 : List UInt8 := dkwX1_orders_7 ++ dktX1_orders_8
def dkwX1_orders_6 : List UInt8 := [4, 96, 28, 4, 21, 7, 120, 128, 21, 8, 153, 0, 8, 21, 9, 167, 0, 4, 29, 21, 8, 153, 0, 8]
abbrev dktX1_orders_6 : List UInt8 := dkwX1_orders_6 ++ dktX1_orders_7
def dkwX1_orders_5 : List UInt8 := [3, 54, 8, 42, 21, 7, 21, 8, 153, 0, 7, 29, 167, 0, 5, 21, 4, 182, 1, 146, 54, 9, 42, 27]
abbrev dktX1_orders_5 : List UInt8 := dkwX1_orders_5 ++ dktX1_orders_6
def dkwX1_orders_4 : List UInt8 := [160, 0, 6, 167, 0, 103, 42, 180, 0, 53, 27, 21, 7, 79, 29, 21, 4, 163, 0, 7, 4, 167, 0, 4]
abbrev dktX1_orders_4 : List UInt8 := dkwX1_orders_4 ++ dktX1_orders_5
def dkwX1_orders_3 : List UInt8 := [16, 7, 184, 1, 107, 177, 3, 54, 7, 21, 7, 21, 6, 162, 0, 122, 28, 21, 7, 122, 4, 126, 4]
abbrev dktX1_orders_3 : List UInt8 := dkwX1_orders_3 ++ dktX1_orders_4
def dkwX1_orders_2 : List UInt8 := [180, 1, 143, 161, 0, 4, 177, 42, 21, 5, 181, 1, 143, 42, 180, 0, 53, 3, 42, 180, 0, 56, 3]
abbrev dktX1_orders_2 : List UInt8 := dkwX1_orders_2 ++ dktX1_orders_3
def dkwX1_orders_1 : List UInt8 := [180, 1, 143, 164, 0, 4, 177, 27, 21, 6, 160, 0, 43, 42, 180, 1, 143, 2, 159, 0, 13, 21, 5, 42]
abbrev dktX1_orders_1 : List UInt8 := dkwX1_orders_1 ++ dktX1_orders_2
def dkwX1_orders_0 : List UInt8 := [42, 180, 0, 10, 180, 1, 128, 182, 0, 74, 54, 6, 42, 180, 1, 143, 2, 159, 0, 13, 21, 5, 42]
abbrev dktX1_orders_0 : List UInt8 := dkwX1_orders_0 ++ dktX1_orders_1
theorem dksX1_orders_0 : cX1_orders.data.toList.drop 0 = dktX1_orders_0 := by decide +kernel
theorem dksX1_orders_1 : cX1_orders.data.toList.drop 23 = dktX1_orders_1 := dk_seg dksX1_orders_0 23 rfl rfl
theorem dksX1_orders_2 : cX1_orders.data.toList.drop 47 = dktX1_orders_2 := dk_seg dksX1_orders_1 24 rfl rfl
theorem dksX1_orders_3 : cX1_orders.data.toList.drop 70 = dktX1_orders_3 := dk_seg dksX1_orders_2 23 rfl rfl
theorem dksX1_orders_4 : cX1_orders.data.toList.drop 93 = dktX1_orders_4 := dk_seg dksX1_orders_3 23 rfl rfl
theorem dksX1_orders_5 : cX1_orders.data.toList.drop 117 = dktX1_orders_5 := dk_seg dksX1_orders_4 24 rfl rfl
theorem dksX1_orders_6 : cX1_orders.data.toList.drop 141 = dktX1_orders_6 := dk_seg dksX1_orders_5 24 rfl rfl
theorem dksX1_orders_7 : cX1_orders.data.toList.drop 165 = dktX1_orders_7 := dk_seg dksX1_orders_6 24 rfl rfl
theorem dksX1_orders_8 : cX1_orders.data.toList.drop 189 = dktX1_orders_8 := dk_seg dksX1_orders_7 24 rfl rfl
theorem dX1_orders_0 : decode cX1_orders 0 = .ok (.aload_n 0, 1) := dk_42 (dk_at dksX1_orders_0 0 rfl rfl)
theorem dX1_orders_1 : decode cX1_orders 1 = .ok (.getfield 10, 3) := dk_180 0 10 (dk_at dksX1_orders_0 1 rfl rfl)
theorem dX1_orders_4 : decode cX1_orders 4 = .ok (.getfield 384, 3) := dk_180 1 128 (dk_at dksX1_orders_0 4 rfl rfl)
theorem dX1_orders_7 : decode cX1_orders 7 = .ok (.invokevirtual 74, 3) := dk_182 0 74 (dk_at dksX1_orders_0 7 rfl rfl)
theorem dX1_orders_10 : decode cX1_orders 10 = .ok (.istore 6, 2) := dk_54 6 (dk_at dksX1_orders_0 10 rfl rfl)
theorem dX1_orders_12 : decode cX1_orders 12 = .ok (.aload_n 0, 1) := dk_42 (dk_at dksX1_orders_0 12 rfl rfl)
theorem dX1_orders_13 : decode cX1_orders 13 = .ok (.getfield 399, 3) := dk_180 1 143 (dk_at dksX1_orders_0 13 rfl rfl)
theorem dX1_orders_16 : decode cX1_orders 16 = .ok (.iconst (-1), 1) := dk_2 (dk_at dksX1_orders_0 16 rfl rfl)
theorem dX1_orders_17 : decode cX1_orders 17 = .ok (.if_icmp .eq 13, 3) := dk_159 0 13 (dk_at dksX1_orders_0 17 rfl rfl)
theorem dX1_orders_20 : decode cX1_orders 20 = .ok (.iload 5, 2) := dk_21 5 (dk_at dksX1_orders_0 20 rfl rfl)
theorem dX1_orders_22 : decode cX1_orders 22 = .ok (.aload_n 0, 1) := dk_42 (dk_at dksX1_orders_0 22 rfl rfl)
theorem dX1_orders_23 : decode cX1_orders 23 = .ok (.getfield 399, 3) := dk_180 1 143 (dk_at dksX1_orders_1 0 rfl rfl)
theorem dX1_orders_26 : decode cX1_orders 26 = .ok (.if_icmp .le 4, 3) := dk_164 0 4 (dk_at dksX1_orders_1 3 rfl rfl)
theorem dX1_orders_29 : decode cX1_orders 29 = .ok (.return_, 1) := dk_177 (dk_at dksX1_orders_1 6 rfl rfl)
theorem dX1_orders_30 : decode cX1_orders 30 = .ok (.iload_n 1, 1) := dk_27 (dk_at dksX1_orders_1 7 rfl rfl)
theorem dX1_orders_31 : decode cX1_orders 31 = .ok (.iload 6, 2) := dk_21 6 (dk_at dksX1_orders_1 8 rfl rfl)
theorem dX1_orders_33 : decode cX1_orders 33 = .ok (.if_icmp .ne 43, 3) := dk_160 0 43 (dk_at dksX1_orders_1 10 rfl rfl)
theorem dX1_orders_36 : decode cX1_orders 36 = .ok (.aload_n 0, 1) := dk_42 (dk_at dksX1_orders_1 13 rfl rfl)
theorem dX1_orders_37 : decode cX1_orders 37 = .ok (.getfield 399, 3) := dk_180 1 143 (dk_at dksX1_orders_1 14 rfl rfl)
theorem dX1_orders_40 : decode cX1_orders 40 = .ok (.iconst (-1), 1) := dk_2 (dk_at dksX1_orders_1 17 rfl rfl)
theorem dX1_orders_41 : decode cX1_orders 41 = .ok (.if_icmp .eq 13, 3) := dk_159 0 13 (dk_at dksX1_orders_1 18 rfl rfl)
theorem dX1_orders_44 : decode cX1_orders 44 = .ok (.iload 5, 2) := dk_21 5 (dk_at dksX1_orders_1 21 rfl rfl)
theorem dX1_orders_46 : decode cX1_orders 46 = .ok (.aload_n 0, 1) := dk_42 (dk_at dksX1_orders_1 23 rfl rfl)
theorem dX1_orders_47 : decode cX1_orders 47 = .ok (.getfield 399, 3) := dk_180 1 143 (dk_at dksX1_orders_2 0 rfl rfl)
theorem dX1_orders_50 : decode cX1_orders 50 = .ok (.if_icmp .lt 4, 3) := dk_161 0 4 (dk_at dksX1_orders_2 3 rfl rfl)
theorem dX1_orders_53 : decode cX1_orders 53 = .ok (.return_, 1) := dk_177 (dk_at dksX1_orders_2 6 rfl rfl)
theorem dX1_orders_54 : decode cX1_orders 54 = .ok (.aload_n 0, 1) := dk_42 (dk_at dksX1_orders_2 7 rfl rfl)
theorem dX1_orders_55 : decode cX1_orders 55 = .ok (.iload 5, 2) := dk_21 5 (dk_at dksX1_orders_2 8 rfl rfl)
theorem dX1_orders_57 : decode cX1_orders 57 = .ok (.putfield 399, 3) := dk_181 1 143 (dk_at dksX1_orders_2 10 rfl rfl)
theorem dX1_orders_60 : decode cX1_orders 60 = .ok (.aload_n 0, 1) := dk_42 (dk_at dksX1_orders_2 13 rfl rfl)
theorem dX1_orders_61 : decode cX1_orders 61 = .ok (.getfield 53, 3) := dk_180 0 53 (dk_at dksX1_orders_2 14 rfl rfl)
theorem dX1_orders_64 : decode cX1_orders 64 = .ok (.iconst 0, 1) := dk_3 (dk_at dksX1_orders_2 17 rfl rfl)
theorem dX1_orders_65 : decode cX1_orders 65 = .ok (.aload_n 0, 1) := dk_42 (dk_at dksX1_orders_2 18 rfl rfl)
theorem dX1_orders_66 : decode cX1_orders 66 = .ok (.getfield 56, 3) := dk_180 0 56 (dk_at dksX1_orders_2 19 rfl rfl)
theorem dX1_orders_69 : decode cX1_orders 69 = .ok (.iconst 0, 1) := dk_3 (dk_at dksX1_orders_2 22 rfl rfl)
theorem dX1_orders_70 : decode cX1_orders 70 = .ok (.bipush 7, 2) := dk_16 7 (dk_at dksX1_orders_3 0 rfl rfl)
theorem dX1_orders_72 : decode cX1_orders 72 = .ok (.invokestatic 363, 3) := dk_184 1 107 (dk_at dksX1_orders_3 2 rfl rfl)
theorem dX1_orders_75 : decode cX1_orders 75 = .ok (.return_, 1) := dk_177 (dk_at dksX1_orders_3 5 rfl rfl)
theorem dX1_orders_76 : decode cX1_orders 76 = .ok (.iconst 0, 1) := dk_3 (dk_at dksX1_orders_3 6 rfl rfl)
theorem dX1_orders_77 : decode cX1_orders 77 = .ok (.istore 7, 2) := dk_54 7 (dk_at dksX1_orders_3 7 rfl rfl)
theorem dX1_orders_79 : decode cX1_orders 79 = .ok (.iload 7, 2) := dk_21 7 (dk_at dksX1_orders_3 9 rfl rfl)
theorem dX1_orders_81 : decode cX1_orders 81 = .ok (.iload 6, 2) := dk_21 6 (dk_at dksX1_orders_3 11 rfl rfl)
theorem dX1_orders_83 : decode cX1_orders 83 = .ok (.if_icmp .ge 122, 3) := dk_162 0 122 (dk_at dksX1_orders_3 13 rfl rfl)
theorem dX1_orders_86 : decode cX1_orders 86 = .ok (.iload_n 2, 1) := dk_28 (dk_at dksX1_orders_3 16 rfl rfl)
theorem dX1_orders_87 : decode cX1_orders 87 = .ok (.iload 7, 2) := dk_21 7 (dk_at dksX1_orders_3 17 rfl rfl)
theorem dX1_orders_89 : decode cX1_orders 89 = .ok (.ishr, 1) := dk_122 (dk_at dksX1_orders_3 19 rfl rfl)
theorem dX1_orders_90 : decode cX1_orders 90 = .ok (.iconst 1, 1) := dk_4 (dk_at dksX1_orders_3 20 rfl rfl)
theorem dX1_orders_91 : decode cX1_orders 91 = .ok (.iand, 1) := dk_126 (dk_at dksX1_orders_3 21 rfl rfl)
theorem dX1_orders_92 : decode cX1_orders 92 = .ok (.iconst 1, 1) := dk_4 (dk_at dksX1_orders_3 22 rfl rfl)
theorem dX1_orders_93 : decode cX1_orders 93 = .ok (.if_icmp .ne 6, 3) := dk_160 0 6 (dk_at dksX1_orders_4 0 rfl rfl)
theorem dX1_orders_96 : decode cX1_orders 96 = .ok (.goto 103, 3) := dk_167 0 103 (dk_at dksX1_orders_4 3 rfl rfl)
theorem dX1_orders_99 : decode cX1_orders 99 = .ok (.aload_n 0, 1) := dk_42 (dk_at dksX1_orders_4 6 rfl rfl)
theorem dX1_orders_100 : decode cX1_orders 100 = .ok (.getfield 53, 3) := dk_180 0 53 (dk_at dksX1_orders_4 7 rfl rfl)
theorem dX1_orders_103 : decode cX1_orders 103 = .ok (.iload_n 1, 1) := dk_27 (dk_at dksX1_orders_4 10 rfl rfl)
theorem dX1_orders_104 : decode cX1_orders 104 = .ok (.iload 7, 2) := dk_21 7 (dk_at dksX1_orders_4 11 rfl rfl)
theorem dX1_orders_106 : decode cX1_orders 106 = .ok (.iastore, 1) := dk_79 (dk_at dksX1_orders_4 13 rfl rfl)
theorem dX1_orders_107 : decode cX1_orders 107 = .ok (.iload_n 3, 1) := dk_29 (dk_at dksX1_orders_4 14 rfl rfl)
theorem dX1_orders_108 : decode cX1_orders 108 = .ok (.iload 4, 2) := dk_21 4 (dk_at dksX1_orders_4 15 rfl rfl)
theorem dX1_orders_110 : decode cX1_orders 110 = .ok (.if_icmp .gt 7, 3) := dk_163 0 7 (dk_at dksX1_orders_4 17 rfl rfl)
theorem dX1_orders_113 : decode cX1_orders 113 = .ok (.iconst 1, 1) := dk_4 (dk_at dksX1_orders_4 20 rfl rfl)
theorem dX1_orders_114 : decode cX1_orders 114 = .ok (.goto 4, 3) := dk_167 0 4 (dk_at dksX1_orders_4 21 rfl rfl)
theorem dX1_orders_117 : decode cX1_orders 117 = .ok (.iconst 0, 1) := dk_3 (dk_at dksX1_orders_5 0 rfl rfl)
theorem dX1_orders_118 : decode cX1_orders 118 = .ok (.istore 8, 2) := dk_54 8 (dk_at dksX1_orders_5 1 rfl rfl)
theorem dX1_orders_120 : decode cX1_orders 120 = .ok (.aload_n 0, 1) := dk_42 (dk_at dksX1_orders_5 3 rfl rfl)
theorem dX1_orders_121 : decode cX1_orders 121 = .ok (.iload 7, 2) := dk_21 7 (dk_at dksX1_orders_5 4 rfl rfl)
theorem dX1_orders_123 : decode cX1_orders 123 = .ok (.iload 8, 2) := dk_21 8 (dk_at dksX1_orders_5 6 rfl rfl)
theorem dX1_orders_125 : decode cX1_orders 125 = .ok (.ifCond .eq 7, 3) := dk_153 0 7 (dk_at dksX1_orders_5 8 rfl rfl)
theorem dX1_orders_128 : decode cX1_orders 128 = .ok (.iload_n 3, 1) := dk_29 (dk_at dksX1_orders_5 11 rfl rfl)
theorem dX1_orders_129 : decode cX1_orders 129 = .ok (.goto 5, 3) := dk_167 0 5 (dk_at dksX1_orders_5 12 rfl rfl)
theorem dX1_orders_132 : decode cX1_orders 132 = .ok (.iload 4, 2) := dk_21 4 (dk_at dksX1_orders_5 15 rfl rfl)
theorem dX1_orders_134 : decode cX1_orders 134 = .ok (.invokevirtual 402, 3) := dk_182 1 146 (dk_at dksX1_orders_5 17 rfl rfl)
theorem dX1_orders_137 : decode cX1_orders 137 = .ok (.istore 9, 2) := dk_54 9 (dk_at dksX1_orders_5 20 rfl rfl)
theorem dX1_orders_139 : decode cX1_orders 139 = .ok (.aload_n 0, 1) := dk_42 (dk_at dksX1_orders_5 22 rfl rfl)
theorem dX1_orders_140 : decode cX1_orders 140 = .ok (.iload_n 1, 1) := dk_27 (dk_at dksX1_orders_5 23 rfl rfl)
theorem dX1_orders_141 : decode cX1_orders 141 = .ok (.iconst 1, 1) := dk_4 (dk_at dksX1_orders_6 0 rfl rfl)
theorem dX1_orders_142 : decode cX1_orders 142 = .ok (.iadd, 1) := dk_96 (dk_at dksX1_orders_6 1 rfl rfl)
theorem dX1_orders_143 : decode cX1_orders 143 = .ok (.iload_n 2, 1) := dk_28 (dk_at dksX1_orders_6 2 rfl rfl)
theorem dX1_orders_144 : decode cX1_orders 144 = .ok (.iconst 1, 1) := dk_4 (dk_at dksX1_orders_6 3 rfl rfl)
theorem dX1_orders_145 : decode cX1_orders 145 = .ok (.iload 7, 2) := dk_21 7 (dk_at dksX1_orders_6 4 rfl rfl)
theorem dX1_orders_147 : decode cX1_orders 147 = .ok (.ishl, 1) := dk_120 (dk_at dksX1_orders_6 6 rfl rfl)
theorem dX1_orders_148 : decode cX1_orders 148 = .ok (.ior, 1) := dk_128 (dk_at dksX1_orders_6 7 rfl rfl)
theorem dX1_orders_149 : decode cX1_orders 149 = .ok (.iload 8, 2) := dk_21 8 (dk_at dksX1_orders_6 8 rfl rfl)
theorem dX1_orders_151 : decode cX1_orders 151 = .ok (.ifCond .eq 8, 3) := dk_153 0 8 (dk_at dksX1_orders_6 10 rfl rfl)
theorem dX1_orders_154 : decode cX1_orders 154 = .ok (.iload 9, 2) := dk_21 9 (dk_at dksX1_orders_6 13 rfl rfl)
theorem dX1_orders_156 : decode cX1_orders 156 = .ok (.goto 4, 3) := dk_167 0 4 (dk_at dksX1_orders_6 15 rfl rfl)
theorem dX1_orders_159 : decode cX1_orders 159 = .ok (.iload_n 3, 1) := dk_29 (dk_at dksX1_orders_6 18 rfl rfl)
theorem dX1_orders_160 : decode cX1_orders 160 = .ok (.iload 8, 2) := dk_21 8 (dk_at dksX1_orders_6 19 rfl rfl)
theorem dX1_orders_162 : decode cX1_orders 162 = .ok (.ifCond .eq 8, 3) := dk_153 0 8 (dk_at dksX1_orders_6 21 rfl rfl)
theorem dX1_orders_165 : decode cX1_orders 165 = .ok (.iload 4, 2) := dk_21 4 (dk_at dksX1_orders_7 0 rfl rfl)
theorem dX1_orders_167 : decode cX1_orders 167 = .ok (.goto 5, 3) := dk_167 0 5 (dk_at dksX1_orders_7 2 rfl rfl)
theorem dX1_orders_170 : decode cX1_orders 170 = .ok (.iload 9, 2) := dk_21 9 (dk_at dksX1_orders_7 5 rfl rfl)
theorem dX1_orders_172 : decode cX1_orders 172 = .ok (.iload 5, 2) := dk_21 5 (dk_at dksX1_orders_7 7 rfl rfl)
theorem dX1_orders_174 : decode cX1_orders 174 = .ok (.aload_n 0, 1) := dk_42 (dk_at dksX1_orders_7 9 rfl rfl)
theorem dX1_orders_175 : decode cX1_orders 175 = .ok (.getfield 10, 3) := dk_180 0 10 (dk_at dksX1_orders_7 10 rfl rfl)
theorem dX1_orders_178 : decode cX1_orders 178 = .ok (.getfield 384, 3) := dk_180 1 128 (dk_at dksX1_orders_7 13 rfl rfl)
theorem dX1_orders_181 : decode cX1_orders 181 = .ok (.iload 7, 2) := dk_21 7 (dk_at dksX1_orders_7 16 rfl rfl)
theorem dX1_orders_183 : decode cX1_orders 183 = .ok (.invokevirtual 81, 3) := dk_182 0 81 (dk_at dksX1_orders_7 18 rfl rfl)
theorem dX1_orders_186 : decode cX1_orders 186 = .ok (.checkcast 387, 3) := dk_192 1 131 (dk_at dksX1_orders_7 21 rfl rfl)
theorem dX1_orders_189 : decode cX1_orders 189 = .ok (.getfield 405, 3) := dk_180 1 149 (dk_at dksX1_orders_8 0 rfl rfl)
theorem dX1_orders_192 : decode cX1_orders 192 = .ok (.iload 9, 2) := dk_21 9 (dk_at dksX1_orders_8 3 rfl rfl)
theorem dX1_orders_194 : decode cX1_orders 194 = .ok (.imul, 1) := dk_104 (dk_at dksX1_orders_8 5 rfl rfl)
theorem dX1_orders_195 : decode cX1_orders 195 = .ok (.iadd, 1) := dk_96 (dk_at dksX1_orders_8 6 rfl rfl)
theorem dX1_orders_196 : decode cX1_orders 196 = .ok (.invokevirtual 408, 3) := dk_182 1 152 (dk_at dksX1_orders_8 7 rfl rfl)
theorem dX1_orders_199 : decode cX1_orders 199 = .ok (.iinc 7 1, 3) := dk_132 7 1 (dk_at dksX1_orders_8 10 rfl rfl)
theorem dX1_orders_202 : decode cX1_orders 202 = .ok (.goto (-123), 3) := dk_167 255 133 (dk_at dksX1_orders_8 13 rfl rfl)
theorem dX1_orders_205 : decode cX1_orders 205 = .ok (.return_, 1) := dk_177 (dk_at dksX1_orders_8 16 rfl rfl)
abbrev cX1_doneAt : ByteArray := prog_1_method_57_code
def yX1_doneAt : MethodName := ⟨RX1, "doneAt", "(II)I"⟩
def dkwX1_doneAt_1 : List UInt8 := [180, 0, 59, 160, 0, 10, 42, 180, 1, 137, 167, 0, 4, 3, 96, 184, 0, 224, 45, 180, 1, 140, 96, 172]
abbrev dktX1_doneAt_1 : List UInt8 := dkwX1_doneAt_1 ++ []
def dkwX1_doneAt_0 : List UInt8 := [42, 180, 0, 10, 180, 1, 128, 27, 182, 0, 81, 192, 1, 131, 78, 28, 45, 180, 1, 134, 27, 42]
abbrev dktX1_doneAt_0 : List UInt8 := dkwX1_doneAt_0 ++ dktX1_doneAt_1
theorem dksX1_doneAt_0 : cX1_doneAt.data.toList.drop 0 = dktX1_doneAt_0 := by decide +kernel
theorem dksX1_doneAt_1 : cX1_doneAt.data.toList.drop 22 = dktX1_doneAt_1 := dk_seg dksX1_doneAt_0 22 rfl rfl
theorem dX1_doneAt_0 : decode cX1_doneAt 0 = .ok (.aload_n 0, 1) := dk_42 (dk_at dksX1_doneAt_0 0 rfl rfl)
theorem dX1_doneAt_1 : decode cX1_doneAt 1 = .ok (.getfield 10, 3) := dk_180 0 10 (dk_at dksX1_doneAt_0 1 rfl rfl)
theorem dX1_doneAt_4 : decode cX1_doneAt 4 = .ok (.getfield 384, 3) := dk_180 1 128 (dk_at dksX1_doneAt_0 4 rfl rfl)
theorem dX1_doneAt_7 : decode cX1_doneAt 7 = .ok (.iload_n 1, 1) := dk_27 (dk_at dksX1_doneAt_0 7 rfl rfl)
theorem dX1_doneAt_8 : decode cX1_doneAt 8 = .ok (.invokevirtual 81, 3) := dk_182 0 81 (dk_at dksX1_doneAt_0 8 rfl rfl)
theorem dX1_doneAt_11 : decode cX1_doneAt 11 = .ok (.checkcast 387, 3) := dk_192 1 131 (dk_at dksX1_doneAt_0 11 rfl rfl)
theorem dX1_doneAt_14 : decode cX1_doneAt 14 = .ok (.astore_n 3, 1) := dk_78 (dk_at dksX1_doneAt_0 14 rfl rfl)
theorem dX1_doneAt_15 : decode cX1_doneAt 15 = .ok (.iload_n 2, 1) := dk_28 (dk_at dksX1_doneAt_0 15 rfl rfl)
theorem dX1_doneAt_16 : decode cX1_doneAt 16 = .ok (.aload_n 3, 1) := dk_45 (dk_at dksX1_doneAt_0 16 rfl rfl)
theorem dX1_doneAt_17 : decode cX1_doneAt 17 = .ok (.getfield 390, 3) := dk_180 1 134 (dk_at dksX1_doneAt_0 17 rfl rfl)
theorem dX1_doneAt_20 : decode cX1_doneAt 20 = .ok (.iload_n 1, 1) := dk_27 (dk_at dksX1_doneAt_0 20 rfl rfl)
theorem dX1_doneAt_21 : decode cX1_doneAt 21 = .ok (.aload_n 0, 1) := dk_42 (dk_at dksX1_doneAt_0 21 rfl rfl)
theorem dX1_doneAt_22 : decode cX1_doneAt 22 = .ok (.getfield 59, 3) := dk_180 0 59 (dk_at dksX1_doneAt_1 0 rfl rfl)
theorem dX1_doneAt_25 : decode cX1_doneAt 25 = .ok (.if_icmp .ne 10, 3) := dk_160 0 10 (dk_at dksX1_doneAt_1 3 rfl rfl)
theorem dX1_doneAt_28 : decode cX1_doneAt 28 = .ok (.aload_n 0, 1) := dk_42 (dk_at dksX1_doneAt_1 6 rfl rfl)
theorem dX1_doneAt_29 : decode cX1_doneAt 29 = .ok (.getfield 393, 3) := dk_180 1 137 (dk_at dksX1_doneAt_1 7 rfl rfl)
theorem dX1_doneAt_32 : decode cX1_doneAt 32 = .ok (.goto 4, 3) := dk_167 0 4 (dk_at dksX1_doneAt_1 10 rfl rfl)
theorem dX1_doneAt_35 : decode cX1_doneAt 35 = .ok (.iconst 0, 1) := dk_3 (dk_at dksX1_doneAt_1 13 rfl rfl)
theorem dX1_doneAt_36 : decode cX1_doneAt 36 = .ok (.iadd, 1) := dk_96 (dk_at dksX1_doneAt_1 14 rfl rfl)
theorem dX1_doneAt_37 : decode cX1_doneAt 37 = .ok (.invokestatic 224, 3) := dk_184 0 224 (dk_at dksX1_doneAt_1 15 rfl rfl)
theorem dX1_doneAt_40 : decode cX1_doneAt 40 = .ok (.aload_n 3, 1) := dk_45 (dk_at dksX1_doneAt_1 18 rfl rfl)
theorem dX1_doneAt_41 : decode cX1_doneAt 41 = .ok (.getfield 396, 3) := dk_180 1 140 (dk_at dksX1_doneAt_1 19 rfl rfl)
theorem dX1_doneAt_44 : decode cX1_doneAt 44 = .ok (.iadd, 1) := dk_96 (dk_at dksX1_doneAt_1 22 rfl rfl)
theorem dX1_doneAt_45 : decode cX1_doneAt 45 = .ok (.ireturn, 1) := dk_172 (dk_at dksX1_doneAt_1 23 rfl rfl)
abbrev cX1_lending : ByteArray := prog_1_method_81_code
def yX1_lending : MethodName := ⟨RX1, "lending", "()I"⟩
def dkwX1_lending_0 : List UInt8 := [42, 182, 1, 248, 42, 180, 1, 242, 172]
abbrev dktX1_lending_0 : List UInt8 := dkwX1_lending_0 ++ []
theorem dksX1_lending_0 : cX1_lending.data.toList.drop 0 = dktX1_lending_0 := by decide +kernel
theorem dX1_lending_0 : decode cX1_lending 0 = .ok (.aload_n 0, 1) := dk_42 (dk_at dksX1_lending_0 0 rfl rfl)
theorem dX1_lending_1 : decode cX1_lending 1 = .ok (.invokevirtual 504, 3) := dk_182 1 248 (dk_at dksX1_lending_0 1 rfl rfl)
theorem dX1_lending_4 : decode cX1_lending 4 = .ok (.aload_n 0, 1) := dk_42 (dk_at dksX1_lending_0 4 rfl rfl)
theorem dX1_lending_5 : decode cX1_lending 5 = .ok (.getfield 498, 3) := dk_180 1 242 (dk_at dksX1_lending_0 5 rfl rfl)
theorem dX1_lending_8 : decode cX1_lending 8 = .ok (.ireturn, 1) := dk_172 (dk_at dksX1_lending_0 8 rfl rfl)
abbrev cX1_findLent : ByteArray := prog_1_method_79_code
def yX1_findLent : MethodName := ⟨RX1, "findLent", "()V"⟩
def dkwX1_findLent_0 : List UInt8 := [42, 2, 181, 1, 242, 42, 3, 3, 3, 182, 1, 245, 177]
abbrev dktX1_findLent_0 : List UInt8 := dkwX1_findLent_0 ++ []
theorem dksX1_findLent_0 : cX1_findLent.data.toList.drop 0 = dktX1_findLent_0 := by decide +kernel
theorem dX1_findLent_0 : decode cX1_findLent 0 = .ok (.aload_n 0, 1) := dk_42 (dk_at dksX1_findLent_0 0 rfl rfl)
theorem dX1_findLent_1 : decode cX1_findLent 1 = .ok (.iconst (-1), 1) := dk_2 (dk_at dksX1_findLent_0 1 rfl rfl)
theorem dX1_findLent_2 : decode cX1_findLent 2 = .ok (.putfield 498, 3) := dk_181 1 242 (dk_at dksX1_findLent_0 2 rfl rfl)
theorem dX1_findLent_5 : decode cX1_findLent 5 = .ok (.aload_n 0, 1) := dk_42 (dk_at dksX1_findLent_0 5 rfl rfl)
theorem dX1_findLent_6 : decode cX1_findLent 6 = .ok (.iconst 0, 1) := dk_3 (dk_at dksX1_findLent_0 6 rfl rfl)
theorem dX1_findLent_7 : decode cX1_findLent 7 = .ok (.iconst 0, 1) := dk_3 (dk_at dksX1_findLent_0 7 rfl rfl)
theorem dX1_findLent_8 : decode cX1_findLent 8 = .ok (.iconst 0, 1) := dk_3 (dk_at dksX1_findLent_0 8 rfl rfl)
theorem dX1_findLent_9 : decode cX1_findLent 9 = .ok (.invokevirtual 501, 3) := dk_182 1 245 (dk_at dksX1_findLent_0 9 rfl rfl)
theorem dX1_findLent_12 : decode cX1_findLent 12 = .ok (.return_, 1) := dk_177 (dk_at dksX1_findLent_0 12 rfl rfl)
abbrev cX1_lends : ByteArray := prog_1_method_78_code
def yX1_lends : MethodName := ⟨RX1, "lends", "(III)V"⟩
def dkwX1_lends_8 : List UInt8 := [2, 79, 177]
abbrev dktX1_lends_8 : List UInt8 := dkwX1_lends_8 ++ []
def dkwX1_lends_7 : List UInt8 := [180, 1, 121, 25, 6, 180, 0, 180, 46, 96, 182, 1, 245, 132, 5, 1, 167, 255, 161, 42, 180, 0, 62, 27]
abbrev dktX1_lends_7 : List UInt8 := dkwX1_lends_7 ++ dktX1_lends_8
def dkwX1_lends_6 : List UInt8 := [167, 0, 37, 42, 180, 0, 62, 27, 21, 5, 79, 42, 27, 4, 96, 28, 4, 21, 5, 120, 128, 29, 25, 4]
abbrev dktX1_lends_6 : List UInt8 := dkwX1_lends_6 ++ dktX1_lends_7
def dkwX1_lends_5 : List UInt8 := [21, 5, 122, 4, 126, 4, 159, 0, 53, 25, 4, 180, 1, 30, 25, 6, 180, 0, 177, 162, 0, 6]
abbrev dktX1_lends_5 : List UInt8 := dkwX1_lends_5 ++ dktX1_lends_6
def dkwX1_lends_4 : List UInt8 := [182, 0, 74, 162, 0, 86, 42, 180, 0, 10, 180, 0, 71, 21, 5, 182, 0, 81, 192, 0, 85, 58, 6, 28]
abbrev dktX1_lends_4 : List UInt8 := dkwX1_lends_4 ++ dktX1_lends_5
def dkwX1_lends_3 : List UInt8 := [27, 2, 79, 42, 27, 4, 96, 28, 29, 182, 1, 245, 3, 54, 5, 21, 5, 42, 180, 0, 10, 180, 0, 71]
abbrev dktX1_lends_3 : List UInt8 := dkwX1_lends_3 ++ dktX1_lends_4
def dkwX1_lends_2 : List UInt8 := [180, 0, 87, 42, 180, 0, 10, 180, 1, 239, 27, 46, 182, 0, 81, 192, 0, 93, 58, 4, 42, 180, 0, 62]
abbrev dktX1_lends_2 : List UInt8 := dkwX1_lends_2 ++ dktX1_lends_3
def dkwX1_lends_1 : List UInt8 := [181, 1, 242, 42, 180, 0, 62, 3, 42, 180, 0, 65, 3, 16, 6, 184, 1, 107, 177, 42, 180, 0, 10]
abbrev dktX1_lends_1 : List UInt8 := dkwX1_lends_1 ++ dktX1_lends_2
def dkwX1_lends_0 : List UInt8 := [27, 42, 180, 0, 10, 180, 1, 236, 160, 0, 33, 29, 42, 180, 1, 242, 163, 0, 4, 177, 42, 29]
abbrev dktX1_lends_0 : List UInt8 := dkwX1_lends_0 ++ dktX1_lends_1
theorem dksX1_lends_0 : cX1_lends.data.toList.drop 0 = dktX1_lends_0 := by decide +kernel
theorem dksX1_lends_1 : cX1_lends.data.toList.drop 22 = dktX1_lends_1 := dk_seg dksX1_lends_0 22 rfl rfl
theorem dksX1_lends_2 : cX1_lends.data.toList.drop 45 = dktX1_lends_2 := dk_seg dksX1_lends_1 23 rfl rfl
theorem dksX1_lends_3 : cX1_lends.data.toList.drop 69 = dktX1_lends_3 := dk_seg dksX1_lends_2 24 rfl rfl
theorem dksX1_lends_4 : cX1_lends.data.toList.drop 93 = dktX1_lends_4 := dk_seg dksX1_lends_3 24 rfl rfl
theorem dksX1_lends_5 : cX1_lends.data.toList.drop 117 = dktX1_lends_5 := dk_seg dksX1_lends_4 24 rfl rfl
theorem dksX1_lends_6 : cX1_lends.data.toList.drop 139 = dktX1_lends_6 := dk_seg dksX1_lends_5 22 rfl rfl
theorem dksX1_lends_7 : cX1_lends.data.toList.drop 163 = dktX1_lends_7 := dk_seg dksX1_lends_6 24 rfl rfl
theorem dksX1_lends_8 : cX1_lends.data.toList.drop 187 = dktX1_lends_8 := dk_seg dksX1_lends_7 24 rfl rfl
theorem dX1_lends_0 : decode cX1_lends 0 = .ok (.iload_n 1, 1) := dk_27 (dk_at dksX1_lends_0 0 rfl rfl)
theorem dX1_lends_1 : decode cX1_lends 1 = .ok (.aload_n 0, 1) := dk_42 (dk_at dksX1_lends_0 1 rfl rfl)
theorem dX1_lends_2 : decode cX1_lends 2 = .ok (.getfield 10, 3) := dk_180 0 10 (dk_at dksX1_lends_0 2 rfl rfl)
theorem dX1_lends_5 : decode cX1_lends 5 = .ok (.getfield 492, 3) := dk_180 1 236 (dk_at dksX1_lends_0 5 rfl rfl)
theorem dX1_lends_8 : decode cX1_lends 8 = .ok (.if_icmp .ne 33, 3) := dk_160 0 33 (dk_at dksX1_lends_0 8 rfl rfl)
theorem dX1_lends_11 : decode cX1_lends 11 = .ok (.iload_n 3, 1) := dk_29 (dk_at dksX1_lends_0 11 rfl rfl)
theorem dX1_lends_12 : decode cX1_lends 12 = .ok (.aload_n 0, 1) := dk_42 (dk_at dksX1_lends_0 12 rfl rfl)
theorem dX1_lends_13 : decode cX1_lends 13 = .ok (.getfield 498, 3) := dk_180 1 242 (dk_at dksX1_lends_0 13 rfl rfl)
theorem dX1_lends_16 : decode cX1_lends 16 = .ok (.if_icmp .gt 4, 3) := dk_163 0 4 (dk_at dksX1_lends_0 16 rfl rfl)
theorem dX1_lends_19 : decode cX1_lends 19 = .ok (.return_, 1) := dk_177 (dk_at dksX1_lends_0 19 rfl rfl)
theorem dX1_lends_20 : decode cX1_lends 20 = .ok (.aload_n 0, 1) := dk_42 (dk_at dksX1_lends_0 20 rfl rfl)
theorem dX1_lends_21 : decode cX1_lends 21 = .ok (.iload_n 3, 1) := dk_29 (dk_at dksX1_lends_0 21 rfl rfl)
theorem dX1_lends_22 : decode cX1_lends 22 = .ok (.putfield 498, 3) := dk_181 1 242 (dk_at dksX1_lends_1 0 rfl rfl)
theorem dX1_lends_25 : decode cX1_lends 25 = .ok (.aload_n 0, 1) := dk_42 (dk_at dksX1_lends_1 3 rfl rfl)
theorem dX1_lends_26 : decode cX1_lends 26 = .ok (.getfield 62, 3) := dk_180 0 62 (dk_at dksX1_lends_1 4 rfl rfl)
theorem dX1_lends_29 : decode cX1_lends 29 = .ok (.iconst 0, 1) := dk_3 (dk_at dksX1_lends_1 7 rfl rfl)
theorem dX1_lends_30 : decode cX1_lends 30 = .ok (.aload_n 0, 1) := dk_42 (dk_at dksX1_lends_1 8 rfl rfl)
theorem dX1_lends_31 : decode cX1_lends 31 = .ok (.getfield 65, 3) := dk_180 0 65 (dk_at dksX1_lends_1 9 rfl rfl)
theorem dX1_lends_34 : decode cX1_lends 34 = .ok (.iconst 0, 1) := dk_3 (dk_at dksX1_lends_1 12 rfl rfl)
theorem dX1_lends_35 : decode cX1_lends 35 = .ok (.bipush 6, 2) := dk_16 6 (dk_at dksX1_lends_1 13 rfl rfl)
theorem dX1_lends_37 : decode cX1_lends 37 = .ok (.invokestatic 363, 3) := dk_184 1 107 (dk_at dksX1_lends_1 15 rfl rfl)
theorem dX1_lends_40 : decode cX1_lends 40 = .ok (.return_, 1) := dk_177 (dk_at dksX1_lends_1 18 rfl rfl)
theorem dX1_lends_41 : decode cX1_lends 41 = .ok (.aload_n 0, 1) := dk_42 (dk_at dksX1_lends_1 19 rfl rfl)
theorem dX1_lends_42 : decode cX1_lends 42 = .ok (.getfield 10, 3) := dk_180 0 10 (dk_at dksX1_lends_1 20 rfl rfl)
theorem dX1_lends_45 : decode cX1_lends 45 = .ok (.getfield 87, 3) := dk_180 0 87 (dk_at dksX1_lends_2 0 rfl rfl)
theorem dX1_lends_48 : decode cX1_lends 48 = .ok (.aload_n 0, 1) := dk_42 (dk_at dksX1_lends_2 3 rfl rfl)
theorem dX1_lends_49 : decode cX1_lends 49 = .ok (.getfield 10, 3) := dk_180 0 10 (dk_at dksX1_lends_2 4 rfl rfl)
theorem dX1_lends_52 : decode cX1_lends 52 = .ok (.getfield 495, 3) := dk_180 1 239 (dk_at dksX1_lends_2 7 rfl rfl)
theorem dX1_lends_55 : decode cX1_lends 55 = .ok (.iload_n 1, 1) := dk_27 (dk_at dksX1_lends_2 10 rfl rfl)
theorem dX1_lends_56 : decode cX1_lends 56 = .ok (.iaload, 1) := dk_46 (dk_at dksX1_lends_2 11 rfl rfl)
theorem dX1_lends_57 : decode cX1_lends 57 = .ok (.invokevirtual 81, 3) := dk_182 0 81 (dk_at dksX1_lends_2 12 rfl rfl)
theorem dX1_lends_60 : decode cX1_lends 60 = .ok (.checkcast 93, 3) := dk_192 0 93 (dk_at dksX1_lends_2 15 rfl rfl)
theorem dX1_lends_63 : decode cX1_lends 63 = .ok (.astore 4, 2) := dk_58 4 (dk_at dksX1_lends_2 18 rfl rfl)
theorem dX1_lends_65 : decode cX1_lends 65 = .ok (.aload_n 0, 1) := dk_42 (dk_at dksX1_lends_2 20 rfl rfl)
theorem dX1_lends_66 : decode cX1_lends 66 = .ok (.getfield 62, 3) := dk_180 0 62 (dk_at dksX1_lends_2 21 rfl rfl)
theorem dX1_lends_69 : decode cX1_lends 69 = .ok (.iload_n 1, 1) := dk_27 (dk_at dksX1_lends_3 0 rfl rfl)
theorem dX1_lends_70 : decode cX1_lends 70 = .ok (.iconst (-1), 1) := dk_2 (dk_at dksX1_lends_3 1 rfl rfl)
theorem dX1_lends_71 : decode cX1_lends 71 = .ok (.iastore, 1) := dk_79 (dk_at dksX1_lends_3 2 rfl rfl)
theorem dX1_lends_72 : decode cX1_lends 72 = .ok (.aload_n 0, 1) := dk_42 (dk_at dksX1_lends_3 3 rfl rfl)
theorem dX1_lends_73 : decode cX1_lends 73 = .ok (.iload_n 1, 1) := dk_27 (dk_at dksX1_lends_3 4 rfl rfl)
theorem dX1_lends_74 : decode cX1_lends 74 = .ok (.iconst 1, 1) := dk_4 (dk_at dksX1_lends_3 5 rfl rfl)
theorem dX1_lends_75 : decode cX1_lends 75 = .ok (.iadd, 1) := dk_96 (dk_at dksX1_lends_3 6 rfl rfl)
theorem dX1_lends_76 : decode cX1_lends 76 = .ok (.iload_n 2, 1) := dk_28 (dk_at dksX1_lends_3 7 rfl rfl)
theorem dX1_lends_77 : decode cX1_lends 77 = .ok (.iload_n 3, 1) := dk_29 (dk_at dksX1_lends_3 8 rfl rfl)
theorem dX1_lends_78 : decode cX1_lends 78 = .ok (.invokevirtual 501, 3) := dk_182 1 245 (dk_at dksX1_lends_3 9 rfl rfl)
theorem dX1_lends_81 : decode cX1_lends 81 = .ok (.iconst 0, 1) := dk_3 (dk_at dksX1_lends_3 12 rfl rfl)
theorem dX1_lends_82 : decode cX1_lends 82 = .ok (.istore 5, 2) := dk_54 5 (dk_at dksX1_lends_3 13 rfl rfl)
theorem dX1_lends_84 : decode cX1_lends 84 = .ok (.iload 5, 2) := dk_21 5 (dk_at dksX1_lends_3 15 rfl rfl)
theorem dX1_lends_86 : decode cX1_lends 86 = .ok (.aload_n 0, 1) := dk_42 (dk_at dksX1_lends_3 17 rfl rfl)
theorem dX1_lends_87 : decode cX1_lends 87 = .ok (.getfield 10, 3) := dk_180 0 10 (dk_at dksX1_lends_3 18 rfl rfl)
theorem dX1_lends_90 : decode cX1_lends 90 = .ok (.getfield 71, 3) := dk_180 0 71 (dk_at dksX1_lends_3 21 rfl rfl)
theorem dX1_lends_93 : decode cX1_lends 93 = .ok (.invokevirtual 74, 3) := dk_182 0 74 (dk_at dksX1_lends_4 0 rfl rfl)
theorem dX1_lends_96 : decode cX1_lends 96 = .ok (.if_icmp .ge 86, 3) := dk_162 0 86 (dk_at dksX1_lends_4 3 rfl rfl)
theorem dX1_lends_99 : decode cX1_lends 99 = .ok (.aload_n 0, 1) := dk_42 (dk_at dksX1_lends_4 6 rfl rfl)
theorem dX1_lends_100 : decode cX1_lends 100 = .ok (.getfield 10, 3) := dk_180 0 10 (dk_at dksX1_lends_4 7 rfl rfl)
theorem dX1_lends_103 : decode cX1_lends 103 = .ok (.getfield 71, 3) := dk_180 0 71 (dk_at dksX1_lends_4 10 rfl rfl)
theorem dX1_lends_106 : decode cX1_lends 106 = .ok (.iload 5, 2) := dk_21 5 (dk_at dksX1_lends_4 13 rfl rfl)
theorem dX1_lends_108 : decode cX1_lends 108 = .ok (.invokevirtual 81, 3) := dk_182 0 81 (dk_at dksX1_lends_4 15 rfl rfl)
theorem dX1_lends_111 : decode cX1_lends 111 = .ok (.checkcast 85, 3) := dk_192 0 85 (dk_at dksX1_lends_4 18 rfl rfl)
theorem dX1_lends_114 : decode cX1_lends 114 = .ok (.astore 6, 2) := dk_58 6 (dk_at dksX1_lends_4 21 rfl rfl)
theorem dX1_lends_116 : decode cX1_lends 116 = .ok (.iload_n 2, 1) := dk_28 (dk_at dksX1_lends_4 23 rfl rfl)
theorem dX1_lends_117 : decode cX1_lends 117 = .ok (.iload 5, 2) := dk_21 5 (dk_at dksX1_lends_5 0 rfl rfl)
theorem dX1_lends_119 : decode cX1_lends 119 = .ok (.ishr, 1) := dk_122 (dk_at dksX1_lends_5 2 rfl rfl)
theorem dX1_lends_120 : decode cX1_lends 120 = .ok (.iconst 1, 1) := dk_4 (dk_at dksX1_lends_5 3 rfl rfl)
theorem dX1_lends_121 : decode cX1_lends 121 = .ok (.iand, 1) := dk_126 (dk_at dksX1_lends_5 4 rfl rfl)
theorem dX1_lends_122 : decode cX1_lends 122 = .ok (.iconst 1, 1) := dk_4 (dk_at dksX1_lends_5 5 rfl rfl)
theorem dX1_lends_123 : decode cX1_lends 123 = .ok (.if_icmp .eq 53, 3) := dk_159 0 53 (dk_at dksX1_lends_5 6 rfl rfl)
theorem dX1_lends_126 : decode cX1_lends 126 = .ok (.aload 4, 2) := dk_25 4 (dk_at dksX1_lends_5 9 rfl rfl)
theorem dX1_lends_128 : decode cX1_lends 128 = .ok (.getfield 286, 3) := dk_180 1 30 (dk_at dksX1_lends_5 11 rfl rfl)
theorem dX1_lends_131 : decode cX1_lends 131 = .ok (.aload 6, 2) := dk_25 6 (dk_at dksX1_lends_5 14 rfl rfl)
theorem dX1_lends_133 : decode cX1_lends 133 = .ok (.getfield 177, 3) := dk_180 0 177 (dk_at dksX1_lends_5 16 rfl rfl)
theorem dX1_lends_136 : decode cX1_lends 136 = .ok (.if_icmp .ge 6, 3) := dk_162 0 6 (dk_at dksX1_lends_5 19 rfl rfl)
theorem dX1_lends_139 : decode cX1_lends 139 = .ok (.goto 37, 3) := dk_167 0 37 (dk_at dksX1_lends_6 0 rfl rfl)
theorem dX1_lends_142 : decode cX1_lends 142 = .ok (.aload_n 0, 1) := dk_42 (dk_at dksX1_lends_6 3 rfl rfl)
theorem dX1_lends_143 : decode cX1_lends 143 = .ok (.getfield 62, 3) := dk_180 0 62 (dk_at dksX1_lends_6 4 rfl rfl)
theorem dX1_lends_146 : decode cX1_lends 146 = .ok (.iload_n 1, 1) := dk_27 (dk_at dksX1_lends_6 7 rfl rfl)
theorem dX1_lends_147 : decode cX1_lends 147 = .ok (.iload 5, 2) := dk_21 5 (dk_at dksX1_lends_6 8 rfl rfl)
theorem dX1_lends_149 : decode cX1_lends 149 = .ok (.iastore, 1) := dk_79 (dk_at dksX1_lends_6 10 rfl rfl)
theorem dX1_lends_150 : decode cX1_lends 150 = .ok (.aload_n 0, 1) := dk_42 (dk_at dksX1_lends_6 11 rfl rfl)
theorem dX1_lends_151 : decode cX1_lends 151 = .ok (.iload_n 1, 1) := dk_27 (dk_at dksX1_lends_6 12 rfl rfl)
theorem dX1_lends_152 : decode cX1_lends 152 = .ok (.iconst 1, 1) := dk_4 (dk_at dksX1_lends_6 13 rfl rfl)
theorem dX1_lends_153 : decode cX1_lends 153 = .ok (.iadd, 1) := dk_96 (dk_at dksX1_lends_6 14 rfl rfl)
theorem dX1_lends_154 : decode cX1_lends 154 = .ok (.iload_n 2, 1) := dk_28 (dk_at dksX1_lends_6 15 rfl rfl)
theorem dX1_lends_155 : decode cX1_lends 155 = .ok (.iconst 1, 1) := dk_4 (dk_at dksX1_lends_6 16 rfl rfl)
theorem dX1_lends_156 : decode cX1_lends 156 = .ok (.iload 5, 2) := dk_21 5 (dk_at dksX1_lends_6 17 rfl rfl)
theorem dX1_lends_158 : decode cX1_lends 158 = .ok (.ishl, 1) := dk_120 (dk_at dksX1_lends_6 19 rfl rfl)
theorem dX1_lends_159 : decode cX1_lends 159 = .ok (.ior, 1) := dk_128 (dk_at dksX1_lends_6 20 rfl rfl)
theorem dX1_lends_160 : decode cX1_lends 160 = .ok (.iload_n 3, 1) := dk_29 (dk_at dksX1_lends_6 21 rfl rfl)
theorem dX1_lends_161 : decode cX1_lends 161 = .ok (.aload 4, 2) := dk_25 4 (dk_at dksX1_lends_6 22 rfl rfl)
theorem dX1_lends_163 : decode cX1_lends 163 = .ok (.getfield 377, 3) := dk_180 1 121 (dk_at dksX1_lends_7 0 rfl rfl)
theorem dX1_lends_166 : decode cX1_lends 166 = .ok (.aload 6, 2) := dk_25 6 (dk_at dksX1_lends_7 3 rfl rfl)
theorem dX1_lends_168 : decode cX1_lends 168 = .ok (.getfield 180, 3) := dk_180 0 180 (dk_at dksX1_lends_7 5 rfl rfl)
theorem dX1_lends_171 : decode cX1_lends 171 = .ok (.iaload, 1) := dk_46 (dk_at dksX1_lends_7 8 rfl rfl)
theorem dX1_lends_172 : decode cX1_lends 172 = .ok (.iadd, 1) := dk_96 (dk_at dksX1_lends_7 9 rfl rfl)
theorem dX1_lends_173 : decode cX1_lends 173 = .ok (.invokevirtual 501, 3) := dk_182 1 245 (dk_at dksX1_lends_7 10 rfl rfl)
theorem dX1_lends_176 : decode cX1_lends 176 = .ok (.iinc 5 1, 3) := dk_132 5 1 (dk_at dksX1_lends_7 13 rfl rfl)
theorem dX1_lends_179 : decode cX1_lends 179 = .ok (.goto (-95), 3) := dk_167 255 161 (dk_at dksX1_lends_7 16 rfl rfl)
theorem dX1_lends_182 : decode cX1_lends 182 = .ok (.aload_n 0, 1) := dk_42 (dk_at dksX1_lends_7 19 rfl rfl)
theorem dX1_lends_183 : decode cX1_lends 183 = .ok (.getfield 62, 3) := dk_180 0 62 (dk_at dksX1_lends_7 20 rfl rfl)
theorem dX1_lends_186 : decode cX1_lends 186 = .ok (.iload_n 1, 1) := dk_27 (dk_at dksX1_lends_7 23 rfl rfl)
theorem dX1_lends_187 : decode cX1_lends 187 = .ok (.iconst (-1), 1) := dk_2 (dk_at dksX1_lends_8 0 rfl rfl)
theorem dX1_lends_188 : decode cX1_lends 188 = .ok (.iastore, 1) := dk_79 (dk_at dksX1_lends_8 1 rfl rfl)
theorem dX1_lends_189 : decode cX1_lends 189 = .ok (.return_, 1) := dk_177 (dk_at dksX1_lends_8 2 rfl rfl)
abbrev cX1_recalled : ByteArray := prog_1_method_84_code
def yX1_recalled : MethodName := ⟨RX1, "recalled", "()I"⟩
def dkwX1_recalled_2 : List UInt8 := [128, 60, 132, 2, 1, 167, 255, 207, 27, 172]
abbrev dktX1_recalled_2 : List UInt8 := dkwX1_recalled_2 ++ []
def dkwX1_recalled_1 : List UInt8 := [180, 0, 71, 28, 182, 0, 81, 192, 0, 85, 182, 1, 255, 2, 159, 0, 9, 4, 28, 120, 167, 0, 4, 3]
abbrev dktX1_recalled_1 : List UInt8 := dkwX1_recalled_1 ++ dktX1_recalled_2
def dkwX1_recalled_0 : List UInt8 := [3, 60, 3, 61, 28, 42, 180, 0, 10, 180, 0, 71, 182, 0, 74, 162, 0, 41, 27, 42, 42, 180, 0, 10]
abbrev dktX1_recalled_0 : List UInt8 := dkwX1_recalled_0 ++ dktX1_recalled_1
theorem dksX1_recalled_0 : cX1_recalled.data.toList.drop 0 = dktX1_recalled_0 := by decide +kernel
theorem dksX1_recalled_1 : cX1_recalled.data.toList.drop 24 = dktX1_recalled_1 := dk_seg dksX1_recalled_0 24 rfl rfl
theorem dksX1_recalled_2 : cX1_recalled.data.toList.drop 48 = dktX1_recalled_2 := dk_seg dksX1_recalled_1 24 rfl rfl
theorem dX1_recalled_0 : decode cX1_recalled 0 = .ok (.iconst 0, 1) := dk_3 (dk_at dksX1_recalled_0 0 rfl rfl)
theorem dX1_recalled_1 : decode cX1_recalled 1 = .ok (.istore_n 1, 1) := dk_60 (dk_at dksX1_recalled_0 1 rfl rfl)
theorem dX1_recalled_2 : decode cX1_recalled 2 = .ok (.iconst 0, 1) := dk_3 (dk_at dksX1_recalled_0 2 rfl rfl)
theorem dX1_recalled_3 : decode cX1_recalled 3 = .ok (.istore_n 2, 1) := dk_61 (dk_at dksX1_recalled_0 3 rfl rfl)
theorem dX1_recalled_4 : decode cX1_recalled 4 = .ok (.iload_n 2, 1) := dk_28 (dk_at dksX1_recalled_0 4 rfl rfl)
theorem dX1_recalled_5 : decode cX1_recalled 5 = .ok (.aload_n 0, 1) := dk_42 (dk_at dksX1_recalled_0 5 rfl rfl)
theorem dX1_recalled_6 : decode cX1_recalled 6 = .ok (.getfield 10, 3) := dk_180 0 10 (dk_at dksX1_recalled_0 6 rfl rfl)
theorem dX1_recalled_9 : decode cX1_recalled 9 = .ok (.getfield 71, 3) := dk_180 0 71 (dk_at dksX1_recalled_0 9 rfl rfl)
theorem dX1_recalled_12 : decode cX1_recalled 12 = .ok (.invokevirtual 74, 3) := dk_182 0 74 (dk_at dksX1_recalled_0 12 rfl rfl)
theorem dX1_recalled_15 : decode cX1_recalled 15 = .ok (.if_icmp .ge 41, 3) := dk_162 0 41 (dk_at dksX1_recalled_0 15 rfl rfl)
theorem dX1_recalled_18 : decode cX1_recalled 18 = .ok (.iload_n 1, 1) := dk_27 (dk_at dksX1_recalled_0 18 rfl rfl)
theorem dX1_recalled_19 : decode cX1_recalled 19 = .ok (.aload_n 0, 1) := dk_42 (dk_at dksX1_recalled_0 19 rfl rfl)
theorem dX1_recalled_20 : decode cX1_recalled 20 = .ok (.aload_n 0, 1) := dk_42 (dk_at dksX1_recalled_0 20 rfl rfl)
theorem dX1_recalled_21 : decode cX1_recalled 21 = .ok (.getfield 10, 3) := dk_180 0 10 (dk_at dksX1_recalled_0 21 rfl rfl)
theorem dX1_recalled_24 : decode cX1_recalled 24 = .ok (.getfield 71, 3) := dk_180 0 71 (dk_at dksX1_recalled_1 0 rfl rfl)
theorem dX1_recalled_27 : decode cX1_recalled 27 = .ok (.iload_n 2, 1) := dk_28 (dk_at dksX1_recalled_1 3 rfl rfl)
theorem dX1_recalled_28 : decode cX1_recalled 28 = .ok (.invokevirtual 81, 3) := dk_182 0 81 (dk_at dksX1_recalled_1 4 rfl rfl)
theorem dX1_recalled_31 : decode cX1_recalled 31 = .ok (.checkcast 85, 3) := dk_192 0 85 (dk_at dksX1_recalled_1 7 rfl rfl)
theorem dX1_recalled_34 : decode cX1_recalled 34 = .ok (.invokevirtual 511, 3) := dk_182 1 255 (dk_at dksX1_recalled_1 10 rfl rfl)
theorem dX1_recalled_37 : decode cX1_recalled 37 = .ok (.iconst (-1), 1) := dk_2 (dk_at dksX1_recalled_1 13 rfl rfl)
theorem dX1_recalled_38 : decode cX1_recalled 38 = .ok (.if_icmp .eq 9, 3) := dk_159 0 9 (dk_at dksX1_recalled_1 14 rfl rfl)
theorem dX1_recalled_41 : decode cX1_recalled 41 = .ok (.iconst 1, 1) := dk_4 (dk_at dksX1_recalled_1 17 rfl rfl)
theorem dX1_recalled_42 : decode cX1_recalled 42 = .ok (.iload_n 2, 1) := dk_28 (dk_at dksX1_recalled_1 18 rfl rfl)
theorem dX1_recalled_43 : decode cX1_recalled 43 = .ok (.ishl, 1) := dk_120 (dk_at dksX1_recalled_1 19 rfl rfl)
theorem dX1_recalled_44 : decode cX1_recalled 44 = .ok (.goto 4, 3) := dk_167 0 4 (dk_at dksX1_recalled_1 20 rfl rfl)
theorem dX1_recalled_47 : decode cX1_recalled 47 = .ok (.iconst 0, 1) := dk_3 (dk_at dksX1_recalled_1 23 rfl rfl)
theorem dX1_recalled_48 : decode cX1_recalled 48 = .ok (.ior, 1) := dk_128 (dk_at dksX1_recalled_2 0 rfl rfl)
theorem dX1_recalled_49 : decode cX1_recalled 49 = .ok (.istore_n 1, 1) := dk_60 (dk_at dksX1_recalled_2 1 rfl rfl)
theorem dX1_recalled_50 : decode cX1_recalled 50 = .ok (.iinc 2 1, 3) := dk_132 2 1 (dk_at dksX1_recalled_2 2 rfl rfl)
theorem dX1_recalled_53 : decode cX1_recalled 53 = .ok (.goto (-49), 3) := dk_167 255 207 (dk_at dksX1_recalled_2 5 rfl rfl)
theorem dX1_recalled_56 : decode cX1_recalled 56 = .ok (.iload_n 1, 1) := dk_27 (dk_at dksX1_recalled_2 8 rfl rfl)
theorem dX1_recalled_57 : decode cX1_recalled 57 = .ok (.ireturn, 1) := dk_172 (dk_at dksX1_recalled_2 9 rfl rfl)
abbrev cX1_wornRecalled : ByteArray := prog_1_method_83_code
def yX1_wornRecalled : MethodName := ⟨RX1, "wornRecalled", "(LLimbBenches$Person;)I"⟩
def dkwX1_wornRecalled_5 : List UInt8 := [167, 255, 150, 28, 172]
abbrev dktX1_wornRecalled_5 : List UInt8 := dkwX1_wornRecalled_5 ++ []
def dkwX1_wornRecalled_4 : List UInt8 := [153, 0, 20, 28, 43, 29, 42, 180, 0, 10, 180, 0, 149, 182, 1, 65, 184, 0, 224, 61, 132, 3, 1]
abbrev dktX1_wornRecalled_4 : List UInt8 := dkwX1_wornRecalled_4 ++ dktX1_wornRecalled_5
def dkwX1_wornRecalled_3 : List UInt8 := [180, 0, 43, 182, 1, 251, 153, 0, 7, 4, 167, 0, 4, 3, 54, 4, 132, 5, 1, 167, 255, 201, 21, 4]
abbrev dktX1_wornRecalled_3 : List UInt8 := dkwX1_wornRecalled_3 ++ dktX1_wornRecalled_4
def dkwX1_wornRecalled_2 : List UInt8 := [154, 0, 31, 42, 180, 0, 25, 21, 5, 182, 0, 81, 192, 0, 200, 43, 180, 1, 3, 29, 50, 42]
abbrev dktX1_wornRecalled_2 : List UInt8 := dkwX1_wornRecalled_2 ++ dktX1_wornRecalled_3
def dkwX1_wornRecalled_1 : List UInt8 := [167, 0, 89, 3, 54, 4, 3, 54, 5, 21, 5, 42, 180, 0, 25, 182, 0, 74, 162, 0, 49, 21, 4]
abbrev dktX1_wornRecalled_1 : List UInt8 := dkwX1_wornRecalled_1 ++ dktX1_wornRecalled_2
def dkwX1_wornRecalled_0 : List UInt8 := [42, 43, 182, 0, 227, 2, 61, 3, 62, 29, 7, 162, 0, 107, 43, 180, 1, 3, 29, 50, 199, 0, 6]
abbrev dktX1_wornRecalled_0 : List UInt8 := dkwX1_wornRecalled_0 ++ dktX1_wornRecalled_1
theorem dksX1_wornRecalled_0 : cX1_wornRecalled.data.toList.drop 0 = dktX1_wornRecalled_0 := by decide +kernel
theorem dksX1_wornRecalled_1 : cX1_wornRecalled.data.toList.drop 23 = dktX1_wornRecalled_1 := dk_seg dksX1_wornRecalled_0 23 rfl rfl
theorem dksX1_wornRecalled_2 : cX1_wornRecalled.data.toList.drop 46 = dktX1_wornRecalled_2 := dk_seg dksX1_wornRecalled_1 23 rfl rfl
theorem dksX1_wornRecalled_3 : cX1_wornRecalled.data.toList.drop 68 = dktX1_wornRecalled_3 := dk_seg dksX1_wornRecalled_2 22 rfl rfl
theorem dksX1_wornRecalled_4 : cX1_wornRecalled.data.toList.drop 92 = dktX1_wornRecalled_4 := dk_seg dksX1_wornRecalled_3 24 rfl rfl
theorem dksX1_wornRecalled_5 : cX1_wornRecalled.data.toList.drop 115 = dktX1_wornRecalled_5 := dk_seg dksX1_wornRecalled_4 23 rfl rfl
theorem dX1_wornRecalled_0 : decode cX1_wornRecalled 0 = .ok (.aload_n 0, 1) := dk_42 (dk_at dksX1_wornRecalled_0 0 rfl rfl)
theorem dX1_wornRecalled_1 : decode cX1_wornRecalled 1 = .ok (.aload_n 1, 1) := dk_43 (dk_at dksX1_wornRecalled_0 1 rfl rfl)
theorem dX1_wornRecalled_2 : decode cX1_wornRecalled 2 = .ok (.invokevirtual 227, 3) := dk_182 0 227 (dk_at dksX1_wornRecalled_0 2 rfl rfl)
theorem dX1_wornRecalled_5 : decode cX1_wornRecalled 5 = .ok (.iconst (-1), 1) := dk_2 (dk_at dksX1_wornRecalled_0 5 rfl rfl)
theorem dX1_wornRecalled_6 : decode cX1_wornRecalled 6 = .ok (.istore_n 2, 1) := dk_61 (dk_at dksX1_wornRecalled_0 6 rfl rfl)
theorem dX1_wornRecalled_7 : decode cX1_wornRecalled 7 = .ok (.iconst 0, 1) := dk_3 (dk_at dksX1_wornRecalled_0 7 rfl rfl)
theorem dX1_wornRecalled_8 : decode cX1_wornRecalled 8 = .ok (.istore_n 3, 1) := dk_62 (dk_at dksX1_wornRecalled_0 8 rfl rfl)
theorem dX1_wornRecalled_9 : decode cX1_wornRecalled 9 = .ok (.iload_n 3, 1) := dk_29 (dk_at dksX1_wornRecalled_0 9 rfl rfl)
theorem dX1_wornRecalled_10 : decode cX1_wornRecalled 10 = .ok (.iconst 4, 1) := dk_7 (dk_at dksX1_wornRecalled_0 10 rfl rfl)
theorem dX1_wornRecalled_11 : decode cX1_wornRecalled 11 = .ok (.if_icmp .ge 107, 3) := dk_162 0 107 (dk_at dksX1_wornRecalled_0 11 rfl rfl)
theorem dX1_wornRecalled_14 : decode cX1_wornRecalled 14 = .ok (.aload_n 1, 1) := dk_43 (dk_at dksX1_wornRecalled_0 14 rfl rfl)
theorem dX1_wornRecalled_15 : decode cX1_wornRecalled 15 = .ok (.getfield 259, 3) := dk_180 1 3 (dk_at dksX1_wornRecalled_0 15 rfl rfl)
theorem dX1_wornRecalled_18 : decode cX1_wornRecalled 18 = .ok (.iload_n 3, 1) := dk_29 (dk_at dksX1_wornRecalled_0 18 rfl rfl)
theorem dX1_wornRecalled_19 : decode cX1_wornRecalled 19 = .ok (.aaload, 1) := dk_50 (dk_at dksX1_wornRecalled_0 19 rfl rfl)
theorem dX1_wornRecalled_20 : decode cX1_wornRecalled 20 = .ok (.ifnonnull 6, 3) := dk_199 0 6 (dk_at dksX1_wornRecalled_0 20 rfl rfl)
theorem dX1_wornRecalled_23 : decode cX1_wornRecalled 23 = .ok (.goto 89, 3) := dk_167 0 89 (dk_at dksX1_wornRecalled_1 0 rfl rfl)
theorem dX1_wornRecalled_26 : decode cX1_wornRecalled 26 = .ok (.iconst 0, 1) := dk_3 (dk_at dksX1_wornRecalled_1 3 rfl rfl)
theorem dX1_wornRecalled_27 : decode cX1_wornRecalled 27 = .ok (.istore 4, 2) := dk_54 4 (dk_at dksX1_wornRecalled_1 4 rfl rfl)
theorem dX1_wornRecalled_29 : decode cX1_wornRecalled 29 = .ok (.iconst 0, 1) := dk_3 (dk_at dksX1_wornRecalled_1 6 rfl rfl)
theorem dX1_wornRecalled_30 : decode cX1_wornRecalled 30 = .ok (.istore 5, 2) := dk_54 5 (dk_at dksX1_wornRecalled_1 7 rfl rfl)
theorem dX1_wornRecalled_32 : decode cX1_wornRecalled 32 = .ok (.iload 5, 2) := dk_21 5 (dk_at dksX1_wornRecalled_1 9 rfl rfl)
theorem dX1_wornRecalled_34 : decode cX1_wornRecalled 34 = .ok (.aload_n 0, 1) := dk_42 (dk_at dksX1_wornRecalled_1 11 rfl rfl)
theorem dX1_wornRecalled_35 : decode cX1_wornRecalled 35 = .ok (.getfield 25, 3) := dk_180 0 25 (dk_at dksX1_wornRecalled_1 12 rfl rfl)
theorem dX1_wornRecalled_38 : decode cX1_wornRecalled 38 = .ok (.invokevirtual 74, 3) := dk_182 0 74 (dk_at dksX1_wornRecalled_1 15 rfl rfl)
theorem dX1_wornRecalled_41 : decode cX1_wornRecalled 41 = .ok (.if_icmp .ge 49, 3) := dk_162 0 49 (dk_at dksX1_wornRecalled_1 18 rfl rfl)
theorem dX1_wornRecalled_44 : decode cX1_wornRecalled 44 = .ok (.iload 4, 2) := dk_21 4 (dk_at dksX1_wornRecalled_1 21 rfl rfl)
theorem dX1_wornRecalled_46 : decode cX1_wornRecalled 46 = .ok (.ifCond .ne 31, 3) := dk_154 0 31 (dk_at dksX1_wornRecalled_2 0 rfl rfl)
theorem dX1_wornRecalled_49 : decode cX1_wornRecalled 49 = .ok (.aload_n 0, 1) := dk_42 (dk_at dksX1_wornRecalled_2 3 rfl rfl)
theorem dX1_wornRecalled_50 : decode cX1_wornRecalled 50 = .ok (.getfield 25, 3) := dk_180 0 25 (dk_at dksX1_wornRecalled_2 4 rfl rfl)
theorem dX1_wornRecalled_53 : decode cX1_wornRecalled 53 = .ok (.iload 5, 2) := dk_21 5 (dk_at dksX1_wornRecalled_2 7 rfl rfl)
theorem dX1_wornRecalled_55 : decode cX1_wornRecalled 55 = .ok (.invokevirtual 81, 3) := dk_182 0 81 (dk_at dksX1_wornRecalled_2 9 rfl rfl)
theorem dX1_wornRecalled_58 : decode cX1_wornRecalled 58 = .ok (.checkcast 200, 3) := dk_192 0 200 (dk_at dksX1_wornRecalled_2 12 rfl rfl)
theorem dX1_wornRecalled_61 : decode cX1_wornRecalled 61 = .ok (.aload_n 1, 1) := dk_43 (dk_at dksX1_wornRecalled_2 15 rfl rfl)
theorem dX1_wornRecalled_62 : decode cX1_wornRecalled 62 = .ok (.getfield 259, 3) := dk_180 1 3 (dk_at dksX1_wornRecalled_2 16 rfl rfl)
theorem dX1_wornRecalled_65 : decode cX1_wornRecalled 65 = .ok (.iload_n 3, 1) := dk_29 (dk_at dksX1_wornRecalled_2 19 rfl rfl)
theorem dX1_wornRecalled_66 : decode cX1_wornRecalled 66 = .ok (.aaload, 1) := dk_50 (dk_at dksX1_wornRecalled_2 20 rfl rfl)
theorem dX1_wornRecalled_67 : decode cX1_wornRecalled 67 = .ok (.aload_n 0, 1) := dk_42 (dk_at dksX1_wornRecalled_2 21 rfl rfl)
theorem dX1_wornRecalled_68 : decode cX1_wornRecalled 68 = .ok (.getfield 43, 3) := dk_180 0 43 (dk_at dksX1_wornRecalled_3 0 rfl rfl)
theorem dX1_wornRecalled_71 : decode cX1_wornRecalled 71 = .ok (.invokevirtual 507, 3) := dk_182 1 251 (dk_at dksX1_wornRecalled_3 3 rfl rfl)
theorem dX1_wornRecalled_74 : decode cX1_wornRecalled 74 = .ok (.ifCond .eq 7, 3) := dk_153 0 7 (dk_at dksX1_wornRecalled_3 6 rfl rfl)
theorem dX1_wornRecalled_77 : decode cX1_wornRecalled 77 = .ok (.iconst 1, 1) := dk_4 (dk_at dksX1_wornRecalled_3 9 rfl rfl)
theorem dX1_wornRecalled_78 : decode cX1_wornRecalled 78 = .ok (.goto 4, 3) := dk_167 0 4 (dk_at dksX1_wornRecalled_3 10 rfl rfl)
theorem dX1_wornRecalled_81 : decode cX1_wornRecalled 81 = .ok (.iconst 0, 1) := dk_3 (dk_at dksX1_wornRecalled_3 13 rfl rfl)
theorem dX1_wornRecalled_82 : decode cX1_wornRecalled 82 = .ok (.istore 4, 2) := dk_54 4 (dk_at dksX1_wornRecalled_3 14 rfl rfl)
theorem dX1_wornRecalled_84 : decode cX1_wornRecalled 84 = .ok (.iinc 5 1, 3) := dk_132 5 1 (dk_at dksX1_wornRecalled_3 16 rfl rfl)
theorem dX1_wornRecalled_87 : decode cX1_wornRecalled 87 = .ok (.goto (-55), 3) := dk_167 255 201 (dk_at dksX1_wornRecalled_3 19 rfl rfl)
theorem dX1_wornRecalled_90 : decode cX1_wornRecalled 90 = .ok (.iload 4, 2) := dk_21 4 (dk_at dksX1_wornRecalled_3 22 rfl rfl)
theorem dX1_wornRecalled_92 : decode cX1_wornRecalled 92 = .ok (.ifCond .eq 20, 3) := dk_153 0 20 (dk_at dksX1_wornRecalled_4 0 rfl rfl)
theorem dX1_wornRecalled_95 : decode cX1_wornRecalled 95 = .ok (.iload_n 2, 1) := dk_28 (dk_at dksX1_wornRecalled_4 3 rfl rfl)
theorem dX1_wornRecalled_96 : decode cX1_wornRecalled 96 = .ok (.aload_n 1, 1) := dk_43 (dk_at dksX1_wornRecalled_4 4 rfl rfl)
theorem dX1_wornRecalled_97 : decode cX1_wornRecalled 97 = .ok (.iload_n 3, 1) := dk_29 (dk_at dksX1_wornRecalled_4 5 rfl rfl)
theorem dX1_wornRecalled_98 : decode cX1_wornRecalled 98 = .ok (.aload_n 0, 1) := dk_42 (dk_at dksX1_wornRecalled_4 6 rfl rfl)
theorem dX1_wornRecalled_99 : decode cX1_wornRecalled 99 = .ok (.getfield 10, 3) := dk_180 0 10 (dk_at dksX1_wornRecalled_4 7 rfl rfl)
theorem dX1_wornRecalled_102 : decode cX1_wornRecalled 102 = .ok (.getfield 149, 3) := dk_180 0 149 (dk_at dksX1_wornRecalled_4 10 rfl rfl)
theorem dX1_wornRecalled_105 : decode cX1_wornRecalled 105 = .ok (.invokevirtual 321, 3) := dk_182 1 65 (dk_at dksX1_wornRecalled_4 13 rfl rfl)
theorem dX1_wornRecalled_108 : decode cX1_wornRecalled 108 = .ok (.invokestatic 224, 3) := dk_184 0 224 (dk_at dksX1_wornRecalled_4 16 rfl rfl)
theorem dX1_wornRecalled_111 : decode cX1_wornRecalled 111 = .ok (.istore_n 2, 1) := dk_61 (dk_at dksX1_wornRecalled_4 19 rfl rfl)
theorem dX1_wornRecalled_112 : decode cX1_wornRecalled 112 = .ok (.iinc 3 1, 3) := dk_132 3 1 (dk_at dksX1_wornRecalled_4 20 rfl rfl)
theorem dX1_wornRecalled_115 : decode cX1_wornRecalled 115 = .ok (.goto (-106), 3) := dk_167 255 150 (dk_at dksX1_wornRecalled_5 0 rfl rfl)
theorem dX1_wornRecalled_118 : decode cX1_wornRecalled 118 = .ok (.iload_n 2, 1) := dk_28 (dk_at dksX1_wornRecalled_5 3 rfl rfl)
theorem dX1_wornRecalled_119 : decode cX1_wornRecalled 119 = .ok (.ireturn, 1) := dk_172 (dk_at dksX1_wornRecalled_5 4 rfl rfl)
abbrev cX1_gain : ByteArray := prog_1_method_104_code
def yX1_gain : MethodName := ⟨RX1, "gain", "()I"⟩
def dkwX1_gain_0 : List UInt8 := [42, 3, 182, 2, 82, 172]
abbrev dktX1_gain_0 : List UInt8 := dkwX1_gain_0 ++ []
theorem dksX1_gain_0 : cX1_gain.data.toList.drop 0 = dktX1_gain_0 := by decide +kernel
theorem dX1_gain_0 : decode cX1_gain 0 = .ok (.aload_n 0, 1) := dk_42 (dk_at dksX1_gain_0 0 rfl rfl)
theorem dX1_gain_1 : decode cX1_gain 1 = .ok (.iconst 0, 1) := dk_3 (dk_at dksX1_gain_0 1 rfl rfl)
theorem dX1_gain_2 : decode cX1_gain 2 = .ok (.invokevirtual 594, 3) := dk_182 2 82 (dk_at dksX1_gain_0 2 rfl rfl)
theorem dX1_gain_5 : decode cX1_gain 5 = .ok (.ireturn, 1) := dk_172 (dk_at dksX1_gain_0 5 rfl rfl)
abbrev cX1_gainOf : ByteArray := prog_1_method_103_code
def yX1_gainOf : MethodName := ⟨RX1, "gainOf", "(I)I"⟩
def dkwX1_gainOf_3 : List UInt8 := [167, 0, 5, 21, 4, 96, 61, 132, 3, 1, 167, 255, 182, 28, 172]
abbrev dktX1_gainOf_3 : List UInt8 := dkwX1_gainOf_3 ++ []
def dkwX1_gainOf_2 : List UInt8 := [192, 2, 71, 180, 2, 79, 100, 54, 4, 28, 27, 29, 122, 4, 126, 4, 160, 0, 9, 21, 4, 116]
abbrev dktX1_gainOf_2 : List UInt8 := dkwX1_gainOf_2 ++ dktX1_gainOf_3
def dkwX1_gainOf_1 : List UInt8 := [180, 2, 68, 29, 182, 0, 81, 192, 2, 71, 180, 2, 76, 42, 180, 0, 10, 180, 2, 68, 29, 182, 0, 81]
abbrev dktX1_gainOf_1 : List UInt8 := dkwX1_gainOf_1 ++ dktX1_gainOf_2
def dkwX1_gainOf_0 : List UInt8 := [3, 61, 3, 62, 29, 42, 180, 0, 10, 180, 2, 68, 182, 0, 74, 162, 0, 66, 42, 180, 0, 10]
abbrev dktX1_gainOf_0 : List UInt8 := dkwX1_gainOf_0 ++ dktX1_gainOf_1
theorem dksX1_gainOf_0 : cX1_gainOf.data.toList.drop 0 = dktX1_gainOf_0 := by decide +kernel
theorem dksX1_gainOf_1 : cX1_gainOf.data.toList.drop 22 = dktX1_gainOf_1 := dk_seg dksX1_gainOf_0 22 rfl rfl
theorem dksX1_gainOf_2 : cX1_gainOf.data.toList.drop 46 = dktX1_gainOf_2 := dk_seg dksX1_gainOf_1 24 rfl rfl
theorem dksX1_gainOf_3 : cX1_gainOf.data.toList.drop 68 = dktX1_gainOf_3 := dk_seg dksX1_gainOf_2 22 rfl rfl
theorem dX1_gainOf_0 : decode cX1_gainOf 0 = .ok (.iconst 0, 1) := dk_3 (dk_at dksX1_gainOf_0 0 rfl rfl)
theorem dX1_gainOf_1 : decode cX1_gainOf 1 = .ok (.istore_n 2, 1) := dk_61 (dk_at dksX1_gainOf_0 1 rfl rfl)
theorem dX1_gainOf_2 : decode cX1_gainOf 2 = .ok (.iconst 0, 1) := dk_3 (dk_at dksX1_gainOf_0 2 rfl rfl)
theorem dX1_gainOf_3 : decode cX1_gainOf 3 = .ok (.istore_n 3, 1) := dk_62 (dk_at dksX1_gainOf_0 3 rfl rfl)
theorem dX1_gainOf_4 : decode cX1_gainOf 4 = .ok (.iload_n 3, 1) := dk_29 (dk_at dksX1_gainOf_0 4 rfl rfl)
theorem dX1_gainOf_5 : decode cX1_gainOf 5 = .ok (.aload_n 0, 1) := dk_42 (dk_at dksX1_gainOf_0 5 rfl rfl)
theorem dX1_gainOf_6 : decode cX1_gainOf 6 = .ok (.getfield 10, 3) := dk_180 0 10 (dk_at dksX1_gainOf_0 6 rfl rfl)
theorem dX1_gainOf_9 : decode cX1_gainOf 9 = .ok (.getfield 580, 3) := dk_180 2 68 (dk_at dksX1_gainOf_0 9 rfl rfl)
theorem dX1_gainOf_12 : decode cX1_gainOf 12 = .ok (.invokevirtual 74, 3) := dk_182 0 74 (dk_at dksX1_gainOf_0 12 rfl rfl)
theorem dX1_gainOf_15 : decode cX1_gainOf 15 = .ok (.if_icmp .ge 66, 3) := dk_162 0 66 (dk_at dksX1_gainOf_0 15 rfl rfl)
theorem dX1_gainOf_18 : decode cX1_gainOf 18 = .ok (.aload_n 0, 1) := dk_42 (dk_at dksX1_gainOf_0 18 rfl rfl)
theorem dX1_gainOf_19 : decode cX1_gainOf 19 = .ok (.getfield 10, 3) := dk_180 0 10 (dk_at dksX1_gainOf_0 19 rfl rfl)
theorem dX1_gainOf_22 : decode cX1_gainOf 22 = .ok (.getfield 580, 3) := dk_180 2 68 (dk_at dksX1_gainOf_1 0 rfl rfl)
theorem dX1_gainOf_25 : decode cX1_gainOf 25 = .ok (.iload_n 3, 1) := dk_29 (dk_at dksX1_gainOf_1 3 rfl rfl)
theorem dX1_gainOf_26 : decode cX1_gainOf 26 = .ok (.invokevirtual 81, 3) := dk_182 0 81 (dk_at dksX1_gainOf_1 4 rfl rfl)
theorem dX1_gainOf_29 : decode cX1_gainOf 29 = .ok (.checkcast 583, 3) := dk_192 2 71 (dk_at dksX1_gainOf_1 7 rfl rfl)
theorem dX1_gainOf_32 : decode cX1_gainOf 32 = .ok (.getfield 588, 3) := dk_180 2 76 (dk_at dksX1_gainOf_1 10 rfl rfl)
theorem dX1_gainOf_35 : decode cX1_gainOf 35 = .ok (.aload_n 0, 1) := dk_42 (dk_at dksX1_gainOf_1 13 rfl rfl)
theorem dX1_gainOf_36 : decode cX1_gainOf 36 = .ok (.getfield 10, 3) := dk_180 0 10 (dk_at dksX1_gainOf_1 14 rfl rfl)
theorem dX1_gainOf_39 : decode cX1_gainOf 39 = .ok (.getfield 580, 3) := dk_180 2 68 (dk_at dksX1_gainOf_1 17 rfl rfl)
theorem dX1_gainOf_42 : decode cX1_gainOf 42 = .ok (.iload_n 3, 1) := dk_29 (dk_at dksX1_gainOf_1 20 rfl rfl)
theorem dX1_gainOf_43 : decode cX1_gainOf 43 = .ok (.invokevirtual 81, 3) := dk_182 0 81 (dk_at dksX1_gainOf_1 21 rfl rfl)
theorem dX1_gainOf_46 : decode cX1_gainOf 46 = .ok (.checkcast 583, 3) := dk_192 2 71 (dk_at dksX1_gainOf_2 0 rfl rfl)
theorem dX1_gainOf_49 : decode cX1_gainOf 49 = .ok (.getfield 591, 3) := dk_180 2 79 (dk_at dksX1_gainOf_2 3 rfl rfl)
theorem dX1_gainOf_52 : decode cX1_gainOf 52 = .ok (.isub, 1) := dk_100 (dk_at dksX1_gainOf_2 6 rfl rfl)
theorem dX1_gainOf_53 : decode cX1_gainOf 53 = .ok (.istore 4, 2) := dk_54 4 (dk_at dksX1_gainOf_2 7 rfl rfl)
theorem dX1_gainOf_55 : decode cX1_gainOf 55 = .ok (.iload_n 2, 1) := dk_28 (dk_at dksX1_gainOf_2 9 rfl rfl)
theorem dX1_gainOf_56 : decode cX1_gainOf 56 = .ok (.iload_n 1, 1) := dk_27 (dk_at dksX1_gainOf_2 10 rfl rfl)
theorem dX1_gainOf_57 : decode cX1_gainOf 57 = .ok (.iload_n 3, 1) := dk_29 (dk_at dksX1_gainOf_2 11 rfl rfl)
theorem dX1_gainOf_58 : decode cX1_gainOf 58 = .ok (.ishr, 1) := dk_122 (dk_at dksX1_gainOf_2 12 rfl rfl)
theorem dX1_gainOf_59 : decode cX1_gainOf 59 = .ok (.iconst 1, 1) := dk_4 (dk_at dksX1_gainOf_2 13 rfl rfl)
theorem dX1_gainOf_60 : decode cX1_gainOf 60 = .ok (.iand, 1) := dk_126 (dk_at dksX1_gainOf_2 14 rfl rfl)
theorem dX1_gainOf_61 : decode cX1_gainOf 61 = .ok (.iconst 1, 1) := dk_4 (dk_at dksX1_gainOf_2 15 rfl rfl)
theorem dX1_gainOf_62 : decode cX1_gainOf 62 = .ok (.if_icmp .ne 9, 3) := dk_160 0 9 (dk_at dksX1_gainOf_2 16 rfl rfl)
theorem dX1_gainOf_65 : decode cX1_gainOf 65 = .ok (.iload 4, 2) := dk_21 4 (dk_at dksX1_gainOf_2 19 rfl rfl)
theorem dX1_gainOf_67 : decode cX1_gainOf 67 = .ok (.ineg, 1) := dk_116 (dk_at dksX1_gainOf_2 21 rfl rfl)
theorem dX1_gainOf_68 : decode cX1_gainOf 68 = .ok (.goto 5, 3) := dk_167 0 5 (dk_at dksX1_gainOf_3 0 rfl rfl)
theorem dX1_gainOf_71 : decode cX1_gainOf 71 = .ok (.iload 4, 2) := dk_21 4 (dk_at dksX1_gainOf_3 3 rfl rfl)
theorem dX1_gainOf_73 : decode cX1_gainOf 73 = .ok (.iadd, 1) := dk_96 (dk_at dksX1_gainOf_3 5 rfl rfl)
theorem dX1_gainOf_74 : decode cX1_gainOf 74 = .ok (.istore_n 2, 1) := dk_61 (dk_at dksX1_gainOf_3 6 rfl rfl)
theorem dX1_gainOf_75 : decode cX1_gainOf 75 = .ok (.iinc 3 1, 3) := dk_132 3 1 (dk_at dksX1_gainOf_3 7 rfl rfl)
theorem dX1_gainOf_78 : decode cX1_gainOf 78 = .ok (.goto (-74), 3) := dk_167 255 182 (dk_at dksX1_gainOf_3 10 rfl rfl)
theorem dX1_gainOf_81 : decode cX1_gainOf 81 = .ok (.iload_n 2, 1) := dk_28 (dk_at dksX1_gainOf_3 13 rfl rfl)
theorem dX1_gainOf_82 : decode cX1_gainOf 82 = .ok (.ireturn, 1) := dk_172 (dk_at dksX1_gainOf_3 14 rfl rfl)
abbrev cX1_ways : ByteArray := prog_1_method_105_code
def yX1_ways : MethodName := ⟨RX1, "ways", "()I"⟩
def dkwX1_ways_2 : List UInt8 := [27, 172]
abbrev dktX1_ways_2 : List UInt8 := dkwX1_ways_2 ++ []
def dkwX1_ways_1 : List UInt8 := [182, 2, 82, 42, 3, 182, 2, 82, 161, 0, 7, 4, 167, 0, 4, 3, 96, 60, 132, 2, 1, 167, 255, 216]
abbrev dktX1_ways_1 : List UInt8 := dkwX1_ways_1 ++ dktX1_ways_2
def dkwX1_ways_0 : List UInt8 := [3, 60, 3, 61, 28, 4, 42, 180, 0, 10, 180, 2, 68, 182, 0, 74, 120, 162, 0, 30, 27, 42, 28]
abbrev dktX1_ways_0 : List UInt8 := dkwX1_ways_0 ++ dktX1_ways_1
theorem dksX1_ways_0 : cX1_ways.data.toList.drop 0 = dktX1_ways_0 := by decide +kernel
theorem dksX1_ways_1 : cX1_ways.data.toList.drop 23 = dktX1_ways_1 := dk_seg dksX1_ways_0 23 rfl rfl
theorem dksX1_ways_2 : cX1_ways.data.toList.drop 47 = dktX1_ways_2 := dk_seg dksX1_ways_1 24 rfl rfl
theorem dX1_ways_0 : decode cX1_ways 0 = .ok (.iconst 0, 1) := dk_3 (dk_at dksX1_ways_0 0 rfl rfl)
theorem dX1_ways_1 : decode cX1_ways 1 = .ok (.istore_n 1, 1) := dk_60 (dk_at dksX1_ways_0 1 rfl rfl)
theorem dX1_ways_2 : decode cX1_ways 2 = .ok (.iconst 0, 1) := dk_3 (dk_at dksX1_ways_0 2 rfl rfl)
theorem dX1_ways_3 : decode cX1_ways 3 = .ok (.istore_n 2, 1) := dk_61 (dk_at dksX1_ways_0 3 rfl rfl)
theorem dX1_ways_4 : decode cX1_ways 4 = .ok (.iload_n 2, 1) := dk_28 (dk_at dksX1_ways_0 4 rfl rfl)
theorem dX1_ways_5 : decode cX1_ways 5 = .ok (.iconst 1, 1) := dk_4 (dk_at dksX1_ways_0 5 rfl rfl)
theorem dX1_ways_6 : decode cX1_ways 6 = .ok (.aload_n 0, 1) := dk_42 (dk_at dksX1_ways_0 6 rfl rfl)
theorem dX1_ways_7 : decode cX1_ways 7 = .ok (.getfield 10, 3) := dk_180 0 10 (dk_at dksX1_ways_0 7 rfl rfl)
theorem dX1_ways_10 : decode cX1_ways 10 = .ok (.getfield 580, 3) := dk_180 2 68 (dk_at dksX1_ways_0 10 rfl rfl)
theorem dX1_ways_13 : decode cX1_ways 13 = .ok (.invokevirtual 74, 3) := dk_182 0 74 (dk_at dksX1_ways_0 13 rfl rfl)
theorem dX1_ways_16 : decode cX1_ways 16 = .ok (.ishl, 1) := dk_120 (dk_at dksX1_ways_0 16 rfl rfl)
theorem dX1_ways_17 : decode cX1_ways 17 = .ok (.if_icmp .ge 30, 3) := dk_162 0 30 (dk_at dksX1_ways_0 17 rfl rfl)
theorem dX1_ways_20 : decode cX1_ways 20 = .ok (.iload_n 1, 1) := dk_27 (dk_at dksX1_ways_0 20 rfl rfl)
theorem dX1_ways_21 : decode cX1_ways 21 = .ok (.aload_n 0, 1) := dk_42 (dk_at dksX1_ways_0 21 rfl rfl)
theorem dX1_ways_22 : decode cX1_ways 22 = .ok (.iload_n 2, 1) := dk_28 (dk_at dksX1_ways_0 22 rfl rfl)
theorem dX1_ways_23 : decode cX1_ways 23 = .ok (.invokevirtual 594, 3) := dk_182 2 82 (dk_at dksX1_ways_1 0 rfl rfl)
theorem dX1_ways_26 : decode cX1_ways 26 = .ok (.aload_n 0, 1) := dk_42 (dk_at dksX1_ways_1 3 rfl rfl)
theorem dX1_ways_27 : decode cX1_ways 27 = .ok (.iconst 0, 1) := dk_3 (dk_at dksX1_ways_1 4 rfl rfl)
theorem dX1_ways_28 : decode cX1_ways 28 = .ok (.invokevirtual 594, 3) := dk_182 2 82 (dk_at dksX1_ways_1 5 rfl rfl)
theorem dX1_ways_31 : decode cX1_ways 31 = .ok (.if_icmp .lt 7, 3) := dk_161 0 7 (dk_at dksX1_ways_1 8 rfl rfl)
theorem dX1_ways_34 : decode cX1_ways 34 = .ok (.iconst 1, 1) := dk_4 (dk_at dksX1_ways_1 11 rfl rfl)
theorem dX1_ways_35 : decode cX1_ways 35 = .ok (.goto 4, 3) := dk_167 0 4 (dk_at dksX1_ways_1 12 rfl rfl)
theorem dX1_ways_38 : decode cX1_ways 38 = .ok (.iconst 0, 1) := dk_3 (dk_at dksX1_ways_1 15 rfl rfl)
theorem dX1_ways_39 : decode cX1_ways 39 = .ok (.iadd, 1) := dk_96 (dk_at dksX1_ways_1 16 rfl rfl)
theorem dX1_ways_40 : decode cX1_ways 40 = .ok (.istore_n 1, 1) := dk_60 (dk_at dksX1_ways_1 17 rfl rfl)
theorem dX1_ways_41 : decode cX1_ways 41 = .ok (.iinc 2 1, 3) := dk_132 2 1 (dk_at dksX1_ways_1 18 rfl rfl)
theorem dX1_ways_44 : decode cX1_ways 44 = .ok (.goto (-40), 3) := dk_167 255 216 (dk_at dksX1_ways_1 21 rfl rfl)
theorem dX1_ways_47 : decode cX1_ways 47 = .ok (.iload_n 1, 1) := dk_27 (dk_at dksX1_ways_2 0 rfl rfl)
theorem dX1_ways_48 : decode cX1_ways 48 = .ok (.ireturn, 1) := dk_172 (dk_at dksX1_ways_2 1 rfl rfl)
abbrev cX1_anew : ByteArray := prog_1_method_106_code
def yX1_anew : MethodName := ⟨RX1, "anew", "()I"⟩
def dkwX1_anew_0 : List UInt8 := [42, 180, 0, 10, 180, 2, 68, 182, 0, 74, 60, 42, 180, 0, 10, 180, 2, 68, 182, 2, 85, 27, 172]
abbrev dktX1_anew_0 : List UInt8 := dkwX1_anew_0 ++ []
theorem dksX1_anew_0 : cX1_anew.data.toList.drop 0 = dktX1_anew_0 := by decide +kernel
theorem dX1_anew_0 : decode cX1_anew 0 = .ok (.aload_n 0, 1) := dk_42 (dk_at dksX1_anew_0 0 rfl rfl)
theorem dX1_anew_1 : decode cX1_anew 1 = .ok (.getfield 10, 3) := dk_180 0 10 (dk_at dksX1_anew_0 1 rfl rfl)
theorem dX1_anew_4 : decode cX1_anew 4 = .ok (.getfield 580, 3) := dk_180 2 68 (dk_at dksX1_anew_0 4 rfl rfl)
theorem dX1_anew_7 : decode cX1_anew 7 = .ok (.invokevirtual 74, 3) := dk_182 0 74 (dk_at dksX1_anew_0 7 rfl rfl)
theorem dX1_anew_10 : decode cX1_anew 10 = .ok (.istore_n 1, 1) := dk_60 (dk_at dksX1_anew_0 10 rfl rfl)
theorem dX1_anew_11 : decode cX1_anew 11 = .ok (.aload_n 0, 1) := dk_42 (dk_at dksX1_anew_0 11 rfl rfl)
theorem dX1_anew_12 : decode cX1_anew 12 = .ok (.getfield 10, 3) := dk_180 0 10 (dk_at dksX1_anew_0 12 rfl rfl)
theorem dX1_anew_15 : decode cX1_anew 15 = .ok (.getfield 580, 3) := dk_180 2 68 (dk_at dksX1_anew_0 15 rfl rfl)
theorem dX1_anew_18 : decode cX1_anew 18 = .ok (.invokevirtual 597, 3) := dk_182 2 85 (dk_at dksX1_anew_0 18 rfl rfl)
theorem dX1_anew_21 : decode cX1_anew 21 = .ok (.iload_n 1, 1) := dk_27 (dk_at dksX1_anew_0 21 rfl rfl)
theorem dX1_anew_22 : decode cX1_anew 22 = .ok (.ireturn, 1) := dk_172 (dk_at dksX1_anew_0 22 rfl rfl)
abbrev cX1_sure : ByteArray := prog_1_method_112_code
def yX1_sure : MethodName := ⟨RX1, "sure", "()I"⟩
def dkwX1_sure_1 : List UInt8 := [167, 0, 7, 27, 184, 2, 119, 172]
abbrev dktX1_sure_1 : List UInt8 := dkwX1_sure_1 ++ []
def dkwX1_sure_0 : List UInt8 := [42, 182, 2, 113, 60, 27, 154, 0, 8, 16, 254, 167, 0, 19, 27, 184, 2, 116, 4, 164, 0, 7, 2]
abbrev dktX1_sure_0 : List UInt8 := dkwX1_sure_0 ++ dktX1_sure_1
theorem dksX1_sure_0 : cX1_sure.data.toList.drop 0 = dktX1_sure_0 := by decide +kernel
theorem dksX1_sure_1 : cX1_sure.data.toList.drop 23 = dktX1_sure_1 := dk_seg dksX1_sure_0 23 rfl rfl
theorem dX1_sure_0 : decode cX1_sure 0 = .ok (.aload_n 0, 1) := dk_42 (dk_at dksX1_sure_0 0 rfl rfl)
theorem dX1_sure_1 : decode cX1_sure 1 = .ok (.invokevirtual 625, 3) := dk_182 2 113 (dk_at dksX1_sure_0 1 rfl rfl)
theorem dX1_sure_4 : decode cX1_sure 4 = .ok (.istore_n 1, 1) := dk_60 (dk_at dksX1_sure_0 4 rfl rfl)
theorem dX1_sure_5 : decode cX1_sure 5 = .ok (.iload_n 1, 1) := dk_27 (dk_at dksX1_sure_0 5 rfl rfl)
theorem dX1_sure_6 : decode cX1_sure 6 = .ok (.ifCond .ne 8, 3) := dk_154 0 8 (dk_at dksX1_sure_0 6 rfl rfl)
theorem dX1_sure_9 : decode cX1_sure 9 = .ok (.bipush (-2), 2) := dk_16 254 (dk_at dksX1_sure_0 9 rfl rfl)
theorem dX1_sure_11 : decode cX1_sure 11 = .ok (.goto 19, 3) := dk_167 0 19 (dk_at dksX1_sure_0 11 rfl rfl)
theorem dX1_sure_14 : decode cX1_sure 14 = .ok (.iload_n 1, 1) := dk_27 (dk_at dksX1_sure_0 14 rfl rfl)
theorem dX1_sure_15 : decode cX1_sure 15 = .ok (.invokestatic 628, 3) := dk_184 2 116 (dk_at dksX1_sure_0 15 rfl rfl)
theorem dX1_sure_18 : decode cX1_sure 18 = .ok (.iconst 1, 1) := dk_4 (dk_at dksX1_sure_0 18 rfl rfl)
theorem dX1_sure_19 : decode cX1_sure 19 = .ok (.if_icmp .le 7, 3) := dk_164 0 7 (dk_at dksX1_sure_0 19 rfl rfl)
theorem dX1_sure_22 : decode cX1_sure 22 = .ok (.iconst (-1), 1) := dk_2 (dk_at dksX1_sure_0 22 rfl rfl)
theorem dX1_sure_23 : decode cX1_sure 23 = .ok (.goto 7, 3) := dk_167 0 7 (dk_at dksX1_sure_1 0 rfl rfl)
theorem dX1_sure_26 : decode cX1_sure 26 = .ok (.iload_n 1, 1) := dk_27 (dk_at dksX1_sure_1 3 rfl rfl)
theorem dX1_sure_27 : decode cX1_sure 27 = .ok (.invokestatic 631, 3) := dk_184 2 119 (dk_at dksX1_sure_1 4 rfl rfl)
theorem dX1_sure_30 : decode cX1_sure 30 = .ok (.ireturn, 1) := dk_172 (dk_at dksX1_sure_1 7 rfl rfl)
abbrev cX1_openNow : ByteArray := prog_1_method_110_code
def yX1_openNow : MethodName := ⟨RX1, "openNow", "()I"⟩
def dkwX1_openNow_2 : List UInt8 := [60, 132, 2, 1, 167, 255, 208, 27, 172]
abbrev dktX1_openNow_2 : List UInt8 := dkwX1_openNow_2 ++ []
def dkwX1_openNow_1 : List UInt8 := [180, 2, 91, 28, 182, 0, 81, 192, 2, 94, 182, 2, 109, 153, 0, 9, 4, 28, 120, 167, 0, 4, 3, 128]
abbrev dktX1_openNow_1 : List UInt8 := dkwX1_openNow_1 ++ dktX1_openNow_2
def dkwX1_openNow_0 : List UInt8 := [3, 60, 3, 61, 28, 42, 180, 0, 10, 180, 2, 91, 182, 0, 74, 162, 0, 40, 27, 42, 42, 180, 0, 10]
abbrev dktX1_openNow_0 : List UInt8 := dkwX1_openNow_0 ++ dktX1_openNow_1
theorem dksX1_openNow_0 : cX1_openNow.data.toList.drop 0 = dktX1_openNow_0 := by decide +kernel
theorem dksX1_openNow_1 : cX1_openNow.data.toList.drop 24 = dktX1_openNow_1 := dk_seg dksX1_openNow_0 24 rfl rfl
theorem dksX1_openNow_2 : cX1_openNow.data.toList.drop 48 = dktX1_openNow_2 := dk_seg dksX1_openNow_1 24 rfl rfl
theorem dX1_openNow_0 : decode cX1_openNow 0 = .ok (.iconst 0, 1) := dk_3 (dk_at dksX1_openNow_0 0 rfl rfl)
theorem dX1_openNow_1 : decode cX1_openNow 1 = .ok (.istore_n 1, 1) := dk_60 (dk_at dksX1_openNow_0 1 rfl rfl)
theorem dX1_openNow_2 : decode cX1_openNow 2 = .ok (.iconst 0, 1) := dk_3 (dk_at dksX1_openNow_0 2 rfl rfl)
theorem dX1_openNow_3 : decode cX1_openNow 3 = .ok (.istore_n 2, 1) := dk_61 (dk_at dksX1_openNow_0 3 rfl rfl)
theorem dX1_openNow_4 : decode cX1_openNow 4 = .ok (.iload_n 2, 1) := dk_28 (dk_at dksX1_openNow_0 4 rfl rfl)
theorem dX1_openNow_5 : decode cX1_openNow 5 = .ok (.aload_n 0, 1) := dk_42 (dk_at dksX1_openNow_0 5 rfl rfl)
theorem dX1_openNow_6 : decode cX1_openNow 6 = .ok (.getfield 10, 3) := dk_180 0 10 (dk_at dksX1_openNow_0 6 rfl rfl)
theorem dX1_openNow_9 : decode cX1_openNow 9 = .ok (.getfield 603, 3) := dk_180 2 91 (dk_at dksX1_openNow_0 9 rfl rfl)
theorem dX1_openNow_12 : decode cX1_openNow 12 = .ok (.invokevirtual 74, 3) := dk_182 0 74 (dk_at dksX1_openNow_0 12 rfl rfl)
theorem dX1_openNow_15 : decode cX1_openNow 15 = .ok (.if_icmp .ge 40, 3) := dk_162 0 40 (dk_at dksX1_openNow_0 15 rfl rfl)
theorem dX1_openNow_18 : decode cX1_openNow 18 = .ok (.iload_n 1, 1) := dk_27 (dk_at dksX1_openNow_0 18 rfl rfl)
theorem dX1_openNow_19 : decode cX1_openNow 19 = .ok (.aload_n 0, 1) := dk_42 (dk_at dksX1_openNow_0 19 rfl rfl)
theorem dX1_openNow_20 : decode cX1_openNow 20 = .ok (.aload_n 0, 1) := dk_42 (dk_at dksX1_openNow_0 20 rfl rfl)
theorem dX1_openNow_21 : decode cX1_openNow 21 = .ok (.getfield 10, 3) := dk_180 0 10 (dk_at dksX1_openNow_0 21 rfl rfl)
theorem dX1_openNow_24 : decode cX1_openNow 24 = .ok (.getfield 603, 3) := dk_180 2 91 (dk_at dksX1_openNow_1 0 rfl rfl)
theorem dX1_openNow_27 : decode cX1_openNow 27 = .ok (.iload_n 2, 1) := dk_28 (dk_at dksX1_openNow_1 3 rfl rfl)
theorem dX1_openNow_28 : decode cX1_openNow 28 = .ok (.invokevirtual 81, 3) := dk_182 0 81 (dk_at dksX1_openNow_1 4 rfl rfl)
theorem dX1_openNow_31 : decode cX1_openNow 31 = .ok (.checkcast 606, 3) := dk_192 2 94 (dk_at dksX1_openNow_1 7 rfl rfl)
theorem dX1_openNow_34 : decode cX1_openNow 34 = .ok (.invokevirtual 621, 3) := dk_182 2 109 (dk_at dksX1_openNow_1 10 rfl rfl)
theorem dX1_openNow_37 : decode cX1_openNow 37 = .ok (.ifCond .eq 9, 3) := dk_153 0 9 (dk_at dksX1_openNow_1 13 rfl rfl)
theorem dX1_openNow_40 : decode cX1_openNow 40 = .ok (.iconst 1, 1) := dk_4 (dk_at dksX1_openNow_1 16 rfl rfl)
theorem dX1_openNow_41 : decode cX1_openNow 41 = .ok (.iload_n 2, 1) := dk_28 (dk_at dksX1_openNow_1 17 rfl rfl)
theorem dX1_openNow_42 : decode cX1_openNow 42 = .ok (.ishl, 1) := dk_120 (dk_at dksX1_openNow_1 18 rfl rfl)
theorem dX1_openNow_43 : decode cX1_openNow 43 = .ok (.goto 4, 3) := dk_167 0 4 (dk_at dksX1_openNow_1 19 rfl rfl)
theorem dX1_openNow_46 : decode cX1_openNow 46 = .ok (.iconst 0, 1) := dk_3 (dk_at dksX1_openNow_1 22 rfl rfl)
theorem dX1_openNow_47 : decode cX1_openNow 47 = .ok (.ior, 1) := dk_128 (dk_at dksX1_openNow_1 23 rfl rfl)
theorem dX1_openNow_48 : decode cX1_openNow 48 = .ok (.istore_n 1, 1) := dk_60 (dk_at dksX1_openNow_2 0 rfl rfl)
theorem dX1_openNow_49 : decode cX1_openNow 49 = .ok (.iinc 2 1, 3) := dk_132 2 1 (dk_at dksX1_openNow_2 1 rfl rfl)
theorem dX1_openNow_52 : decode cX1_openNow 52 = .ok (.goto (-48), 3) := dk_167 255 208 (dk_at dksX1_openNow_2 4 rfl rfl)
theorem dX1_openNow_55 : decode cX1_openNow 55 = .ok (.iload_n 1, 1) := dk_27 (dk_at dksX1_openNow_2 7 rfl rfl)
theorem dX1_openNow_56 : decode cX1_openNow 56 = .ok (.ireturn, 1) := dk_172 (dk_at dksX1_openNow_2 8 rfl rfl)
abbrev cX1_isOpen : ByteArray := prog_1_method_109_code
def yX1_isOpen : MethodName := ⟨RX1, "isOpen", "(LLimbBenches$Cause;)Z"⟩
def dkwX1_isOpen_1 : List UInt8 := [180, 0, 10, 180, 2, 106, 43, 180, 2, 100, 126, 154, 0, 7, 4, 167, 0, 4, 3, 172]
abbrev dktX1_isOpen_1 : List UInt8 := dkwX1_isOpen_1 ++ []
def dkwX1_isOpen_0 : List UInt8 := [42, 180, 0, 10, 180, 2, 97, 43, 180, 2, 100, 43, 180, 2, 103, 128, 2, 130, 126, 154, 0, 22, 42]
abbrev dktX1_isOpen_0 : List UInt8 := dkwX1_isOpen_0 ++ dktX1_isOpen_1
theorem dksX1_isOpen_0 : cX1_isOpen.data.toList.drop 0 = dktX1_isOpen_0 := by decide +kernel
theorem dksX1_isOpen_1 : cX1_isOpen.data.toList.drop 23 = dktX1_isOpen_1 := dk_seg dksX1_isOpen_0 23 rfl rfl
theorem dX1_isOpen_0 : decode cX1_isOpen 0 = .ok (.aload_n 0, 1) := dk_42 (dk_at dksX1_isOpen_0 0 rfl rfl)
theorem dX1_isOpen_1 : decode cX1_isOpen 1 = .ok (.getfield 10, 3) := dk_180 0 10 (dk_at dksX1_isOpen_0 1 rfl rfl)
theorem dX1_isOpen_4 : decode cX1_isOpen 4 = .ok (.getfield 609, 3) := dk_180 2 97 (dk_at dksX1_isOpen_0 4 rfl rfl)
theorem dX1_isOpen_7 : decode cX1_isOpen 7 = .ok (.aload_n 1, 1) := dk_43 (dk_at dksX1_isOpen_0 7 rfl rfl)
theorem dX1_isOpen_8 : decode cX1_isOpen 8 = .ok (.getfield 612, 3) := dk_180 2 100 (dk_at dksX1_isOpen_0 8 rfl rfl)
theorem dX1_isOpen_11 : decode cX1_isOpen 11 = .ok (.aload_n 1, 1) := dk_43 (dk_at dksX1_isOpen_0 11 rfl rfl)
theorem dX1_isOpen_12 : decode cX1_isOpen 12 = .ok (.getfield 615, 3) := dk_180 2 103 (dk_at dksX1_isOpen_0 12 rfl rfl)
theorem dX1_isOpen_15 : decode cX1_isOpen 15 = .ok (.ior, 1) := dk_128 (dk_at dksX1_isOpen_0 15 rfl rfl)
theorem dX1_isOpen_16 : decode cX1_isOpen 16 = .ok (.iconst (-1), 1) := dk_2 (dk_at dksX1_isOpen_0 16 rfl rfl)
theorem dX1_isOpen_17 : decode cX1_isOpen 17 = .ok (.ixor, 1) := dk_130 (dk_at dksX1_isOpen_0 17 rfl rfl)
theorem dX1_isOpen_18 : decode cX1_isOpen 18 = .ok (.iand, 1) := dk_126 (dk_at dksX1_isOpen_0 18 rfl rfl)
theorem dX1_isOpen_19 : decode cX1_isOpen 19 = .ok (.ifCond .ne 22, 3) := dk_154 0 22 (dk_at dksX1_isOpen_0 19 rfl rfl)
theorem dX1_isOpen_22 : decode cX1_isOpen 22 = .ok (.aload_n 0, 1) := dk_42 (dk_at dksX1_isOpen_0 22 rfl rfl)
theorem dX1_isOpen_23 : decode cX1_isOpen 23 = .ok (.getfield 10, 3) := dk_180 0 10 (dk_at dksX1_isOpen_1 0 rfl rfl)
theorem dX1_isOpen_26 : decode cX1_isOpen 26 = .ok (.getfield 618, 3) := dk_180 2 106 (dk_at dksX1_isOpen_1 3 rfl rfl)
theorem dX1_isOpen_29 : decode cX1_isOpen 29 = .ok (.aload_n 1, 1) := dk_43 (dk_at dksX1_isOpen_1 6 rfl rfl)
theorem dX1_isOpen_30 : decode cX1_isOpen 30 = .ok (.getfield 612, 3) := dk_180 2 100 (dk_at dksX1_isOpen_1 7 rfl rfl)
theorem dX1_isOpen_33 : decode cX1_isOpen 33 = .ok (.iand, 1) := dk_126 (dk_at dksX1_isOpen_1 10 rfl rfl)
theorem dX1_isOpen_34 : decode cX1_isOpen 34 = .ok (.ifCond .ne 7, 3) := dk_154 0 7 (dk_at dksX1_isOpen_1 11 rfl rfl)
theorem dX1_isOpen_37 : decode cX1_isOpen 37 = .ok (.iconst 1, 1) := dk_4 (dk_at dksX1_isOpen_1 14 rfl rfl)
theorem dX1_isOpen_38 : decode cX1_isOpen 38 = .ok (.goto 4, 3) := dk_167 0 4 (dk_at dksX1_isOpen_1 15 rfl rfl)
theorem dX1_isOpen_41 : decode cX1_isOpen 41 = .ok (.iconst 0, 1) := dk_3 (dk_at dksX1_isOpen_1 18 rfl rfl)
theorem dX1_isOpen_42 : decode cX1_isOpen 42 = .ok (.ireturn, 1) := dk_172 (dk_at dksX1_isOpen_1 19 rfl rfl)
abbrev cX1_look : ByteArray := prog_1_method_113_code
def yX1_look : MethodName := ⟨RX1, "look", "()I"⟩
def dkwX1_look_7 : List UInt8 := [161, 0, 6, 167, 0, 8, 29, 60, 21, 6, 61, 132, 3, 1, 167, 255, 83, 27, 172]
abbrev dktX1_look_7 : List UInt8 := dkwX1_look_7 ++ []
def dkwX1_look_6 : List UInt8 := [132, 6, 1, 167, 255, 158, 21, 4, 21, 5, 184, 0, 224, 54, 6, 27, 2, 159, 0, 12, 21, 6, 28]
abbrev dktX1_look_6 : List UInt8 := dkwX1_look_6 ++ dktX1_look_7
def dkwX1_look_5 : List UInt8 := [54, 4, 21, 5, 25, 7, 180, 2, 100, 29, 122, 4, 126, 154, 0, 7, 4, 167, 0, 4, 3, 96, 54, 5]
abbrev dktX1_look_5 : List UInt8 := dkwX1_look_5 ++ dktX1_look_6
def dkwX1_look_4 : List UInt8 := [180, 2, 100, 25, 7, 180, 2, 103, 128, 29, 122, 4, 126, 4, 160, 0, 7, 4, 167, 0, 4, 3, 96]
abbrev dktX1_look_4 : List UInt8 := dkwX1_look_4 ++ dktX1_look_5
def dkwX1_look_3 : List UInt8 := [182, 0, 81, 192, 2, 94, 58, 7, 42, 25, 7, 182, 2, 109, 154, 0, 6, 167, 0, 54, 21, 4, 25, 7]
abbrev dktX1_look_3 : List UInt8 := dkwX1_look_3 ++ dktX1_look_4
def dkwX1_look_2 : List UInt8 := [21, 6, 42, 180, 0, 10, 180, 2, 91, 182, 0, 74, 162, 0, 89, 42, 180, 0, 10, 180, 2, 91, 21, 6]
abbrev dktX1_look_2 : List UInt8 := dkwX1_look_2 ++ dktX1_look_3
def dkwX1_look_1 : List UInt8 := [180, 2, 106, 128, 29, 122, 4, 126, 4, 160, 0, 6, 167, 0, 141, 3, 54, 4, 3, 54, 5, 3, 54, 6]
abbrev dktX1_look_1 : List UInt8 := dkwX1_look_1 ++ dktX1_look_2
def dkwX1_look_0 : List UInt8 := [2, 60, 3, 61, 3, 62, 29, 16, 8, 162, 0, 173, 42, 180, 0, 10, 180, 2, 97, 42, 180, 0, 10]
abbrev dktX1_look_0 : List UInt8 := dkwX1_look_0 ++ dktX1_look_1
theorem dksX1_look_0 : cX1_look.data.toList.drop 0 = dktX1_look_0 := by decide +kernel
theorem dksX1_look_1 : cX1_look.data.toList.drop 23 = dktX1_look_1 := dk_seg dksX1_look_0 23 rfl rfl
theorem dksX1_look_2 : cX1_look.data.toList.drop 47 = dktX1_look_2 := dk_seg dksX1_look_1 24 rfl rfl
theorem dksX1_look_3 : cX1_look.data.toList.drop 71 = dktX1_look_3 := dk_seg dksX1_look_2 24 rfl rfl
theorem dksX1_look_4 : cX1_look.data.toList.drop 95 = dktX1_look_4 := dk_seg dksX1_look_3 24 rfl rfl
theorem dksX1_look_5 : cX1_look.data.toList.drop 118 = dktX1_look_5 := dk_seg dksX1_look_4 23 rfl rfl
theorem dksX1_look_6 : cX1_look.data.toList.drop 142 = dktX1_look_6 := dk_seg dksX1_look_5 24 rfl rfl
theorem dksX1_look_7 : cX1_look.data.toList.drop 165 = dktX1_look_7 := dk_seg dksX1_look_6 23 rfl rfl
theorem dX1_look_0 : decode cX1_look 0 = .ok (.iconst (-1), 1) := dk_2 (dk_at dksX1_look_0 0 rfl rfl)
theorem dX1_look_1 : decode cX1_look 1 = .ok (.istore_n 1, 1) := dk_60 (dk_at dksX1_look_0 1 rfl rfl)
theorem dX1_look_2 : decode cX1_look 2 = .ok (.iconst 0, 1) := dk_3 (dk_at dksX1_look_0 2 rfl rfl)
theorem dX1_look_3 : decode cX1_look 3 = .ok (.istore_n 2, 1) := dk_61 (dk_at dksX1_look_0 3 rfl rfl)
theorem dX1_look_4 : decode cX1_look 4 = .ok (.iconst 0, 1) := dk_3 (dk_at dksX1_look_0 4 rfl rfl)
theorem dX1_look_5 : decode cX1_look 5 = .ok (.istore_n 3, 1) := dk_62 (dk_at dksX1_look_0 5 rfl rfl)
theorem dX1_look_6 : decode cX1_look 6 = .ok (.iload_n 3, 1) := dk_29 (dk_at dksX1_look_0 6 rfl rfl)
theorem dX1_look_7 : decode cX1_look 7 = .ok (.bipush 8, 2) := dk_16 8 (dk_at dksX1_look_0 7 rfl rfl)
theorem dX1_look_9 : decode cX1_look 9 = .ok (.if_icmp .ge 173, 3) := dk_162 0 173 (dk_at dksX1_look_0 9 rfl rfl)
theorem dX1_look_12 : decode cX1_look 12 = .ok (.aload_n 0, 1) := dk_42 (dk_at dksX1_look_0 12 rfl rfl)
theorem dX1_look_13 : decode cX1_look 13 = .ok (.getfield 10, 3) := dk_180 0 10 (dk_at dksX1_look_0 13 rfl rfl)
theorem dX1_look_16 : decode cX1_look 16 = .ok (.getfield 609, 3) := dk_180 2 97 (dk_at dksX1_look_0 16 rfl rfl)
theorem dX1_look_19 : decode cX1_look 19 = .ok (.aload_n 0, 1) := dk_42 (dk_at dksX1_look_0 19 rfl rfl)
theorem dX1_look_20 : decode cX1_look 20 = .ok (.getfield 10, 3) := dk_180 0 10 (dk_at dksX1_look_0 20 rfl rfl)
theorem dX1_look_23 : decode cX1_look 23 = .ok (.getfield 618, 3) := dk_180 2 106 (dk_at dksX1_look_1 0 rfl rfl)
theorem dX1_look_26 : decode cX1_look 26 = .ok (.ior, 1) := dk_128 (dk_at dksX1_look_1 3 rfl rfl)
theorem dX1_look_27 : decode cX1_look 27 = .ok (.iload_n 3, 1) := dk_29 (dk_at dksX1_look_1 4 rfl rfl)
theorem dX1_look_28 : decode cX1_look 28 = .ok (.ishr, 1) := dk_122 (dk_at dksX1_look_1 5 rfl rfl)
theorem dX1_look_29 : decode cX1_look 29 = .ok (.iconst 1, 1) := dk_4 (dk_at dksX1_look_1 6 rfl rfl)
theorem dX1_look_30 : decode cX1_look 30 = .ok (.iand, 1) := dk_126 (dk_at dksX1_look_1 7 rfl rfl)
theorem dX1_look_31 : decode cX1_look 31 = .ok (.iconst 1, 1) := dk_4 (dk_at dksX1_look_1 8 rfl rfl)
theorem dX1_look_32 : decode cX1_look 32 = .ok (.if_icmp .ne 6, 3) := dk_160 0 6 (dk_at dksX1_look_1 9 rfl rfl)
theorem dX1_look_35 : decode cX1_look 35 = .ok (.goto 141, 3) := dk_167 0 141 (dk_at dksX1_look_1 12 rfl rfl)
theorem dX1_look_38 : decode cX1_look 38 = .ok (.iconst 0, 1) := dk_3 (dk_at dksX1_look_1 15 rfl rfl)
theorem dX1_look_39 : decode cX1_look 39 = .ok (.istore 4, 2) := dk_54 4 (dk_at dksX1_look_1 16 rfl rfl)
theorem dX1_look_41 : decode cX1_look 41 = .ok (.iconst 0, 1) := dk_3 (dk_at dksX1_look_1 18 rfl rfl)
theorem dX1_look_42 : decode cX1_look 42 = .ok (.istore 5, 2) := dk_54 5 (dk_at dksX1_look_1 19 rfl rfl)
theorem dX1_look_44 : decode cX1_look 44 = .ok (.iconst 0, 1) := dk_3 (dk_at dksX1_look_1 21 rfl rfl)
theorem dX1_look_45 : decode cX1_look 45 = .ok (.istore 6, 2) := dk_54 6 (dk_at dksX1_look_1 22 rfl rfl)
theorem dX1_look_47 : decode cX1_look 47 = .ok (.iload 6, 2) := dk_21 6 (dk_at dksX1_look_2 0 rfl rfl)
theorem dX1_look_49 : decode cX1_look 49 = .ok (.aload_n 0, 1) := dk_42 (dk_at dksX1_look_2 2 rfl rfl)
theorem dX1_look_50 : decode cX1_look 50 = .ok (.getfield 10, 3) := dk_180 0 10 (dk_at dksX1_look_2 3 rfl rfl)
theorem dX1_look_53 : decode cX1_look 53 = .ok (.getfield 603, 3) := dk_180 2 91 (dk_at dksX1_look_2 6 rfl rfl)
theorem dX1_look_56 : decode cX1_look 56 = .ok (.invokevirtual 74, 3) := dk_182 0 74 (dk_at dksX1_look_2 9 rfl rfl)
theorem dX1_look_59 : decode cX1_look 59 = .ok (.if_icmp .ge 89, 3) := dk_162 0 89 (dk_at dksX1_look_2 12 rfl rfl)
theorem dX1_look_62 : decode cX1_look 62 = .ok (.aload_n 0, 1) := dk_42 (dk_at dksX1_look_2 15 rfl rfl)
theorem dX1_look_63 : decode cX1_look 63 = .ok (.getfield 10, 3) := dk_180 0 10 (dk_at dksX1_look_2 16 rfl rfl)
theorem dX1_look_66 : decode cX1_look 66 = .ok (.getfield 603, 3) := dk_180 2 91 (dk_at dksX1_look_2 19 rfl rfl)
theorem dX1_look_69 : decode cX1_look 69 = .ok (.iload 6, 2) := dk_21 6 (dk_at dksX1_look_2 22 rfl rfl)
theorem dX1_look_71 : decode cX1_look 71 = .ok (.invokevirtual 81, 3) := dk_182 0 81 (dk_at dksX1_look_3 0 rfl rfl)
theorem dX1_look_74 : decode cX1_look 74 = .ok (.checkcast 606, 3) := dk_192 2 94 (dk_at dksX1_look_3 3 rfl rfl)
theorem dX1_look_77 : decode cX1_look 77 = .ok (.astore 7, 2) := dk_58 7 (dk_at dksX1_look_3 6 rfl rfl)
theorem dX1_look_79 : decode cX1_look 79 = .ok (.aload_n 0, 1) := dk_42 (dk_at dksX1_look_3 8 rfl rfl)
theorem dX1_look_80 : decode cX1_look 80 = .ok (.aload 7, 2) := dk_25 7 (dk_at dksX1_look_3 9 rfl rfl)
theorem dX1_look_82 : decode cX1_look 82 = .ok (.invokevirtual 621, 3) := dk_182 2 109 (dk_at dksX1_look_3 11 rfl rfl)
theorem dX1_look_85 : decode cX1_look 85 = .ok (.ifCond .ne 6, 3) := dk_154 0 6 (dk_at dksX1_look_3 14 rfl rfl)
theorem dX1_look_88 : decode cX1_look 88 = .ok (.goto 54, 3) := dk_167 0 54 (dk_at dksX1_look_3 17 rfl rfl)
theorem dX1_look_91 : decode cX1_look 91 = .ok (.iload 4, 2) := dk_21 4 (dk_at dksX1_look_3 20 rfl rfl)
theorem dX1_look_93 : decode cX1_look 93 = .ok (.aload 7, 2) := dk_25 7 (dk_at dksX1_look_3 22 rfl rfl)
theorem dX1_look_95 : decode cX1_look 95 = .ok (.getfield 612, 3) := dk_180 2 100 (dk_at dksX1_look_4 0 rfl rfl)
theorem dX1_look_98 : decode cX1_look 98 = .ok (.aload 7, 2) := dk_25 7 (dk_at dksX1_look_4 3 rfl rfl)
theorem dX1_look_100 : decode cX1_look 100 = .ok (.getfield 615, 3) := dk_180 2 103 (dk_at dksX1_look_4 5 rfl rfl)
theorem dX1_look_103 : decode cX1_look 103 = .ok (.ior, 1) := dk_128 (dk_at dksX1_look_4 8 rfl rfl)
theorem dX1_look_104 : decode cX1_look 104 = .ok (.iload_n 3, 1) := dk_29 (dk_at dksX1_look_4 9 rfl rfl)
theorem dX1_look_105 : decode cX1_look 105 = .ok (.ishr, 1) := dk_122 (dk_at dksX1_look_4 10 rfl rfl)
theorem dX1_look_106 : decode cX1_look 106 = .ok (.iconst 1, 1) := dk_4 (dk_at dksX1_look_4 11 rfl rfl)
theorem dX1_look_107 : decode cX1_look 107 = .ok (.iand, 1) := dk_126 (dk_at dksX1_look_4 12 rfl rfl)
theorem dX1_look_108 : decode cX1_look 108 = .ok (.iconst 1, 1) := dk_4 (dk_at dksX1_look_4 13 rfl rfl)
theorem dX1_look_109 : decode cX1_look 109 = .ok (.if_icmp .ne 7, 3) := dk_160 0 7 (dk_at dksX1_look_4 14 rfl rfl)
theorem dX1_look_112 : decode cX1_look 112 = .ok (.iconst 1, 1) := dk_4 (dk_at dksX1_look_4 17 rfl rfl)
theorem dX1_look_113 : decode cX1_look 113 = .ok (.goto 4, 3) := dk_167 0 4 (dk_at dksX1_look_4 18 rfl rfl)
theorem dX1_look_116 : decode cX1_look 116 = .ok (.iconst 0, 1) := dk_3 (dk_at dksX1_look_4 21 rfl rfl)
theorem dX1_look_117 : decode cX1_look 117 = .ok (.iadd, 1) := dk_96 (dk_at dksX1_look_4 22 rfl rfl)
theorem dX1_look_118 : decode cX1_look 118 = .ok (.istore 4, 2) := dk_54 4 (dk_at dksX1_look_5 0 rfl rfl)
theorem dX1_look_120 : decode cX1_look 120 = .ok (.iload 5, 2) := dk_21 5 (dk_at dksX1_look_5 2 rfl rfl)
theorem dX1_look_122 : decode cX1_look 122 = .ok (.aload 7, 2) := dk_25 7 (dk_at dksX1_look_5 4 rfl rfl)
theorem dX1_look_124 : decode cX1_look 124 = .ok (.getfield 612, 3) := dk_180 2 100 (dk_at dksX1_look_5 6 rfl rfl)
theorem dX1_look_127 : decode cX1_look 127 = .ok (.iload_n 3, 1) := dk_29 (dk_at dksX1_look_5 9 rfl rfl)
theorem dX1_look_128 : decode cX1_look 128 = .ok (.ishr, 1) := dk_122 (dk_at dksX1_look_5 10 rfl rfl)
theorem dX1_look_129 : decode cX1_look 129 = .ok (.iconst 1, 1) := dk_4 (dk_at dksX1_look_5 11 rfl rfl)
theorem dX1_look_130 : decode cX1_look 130 = .ok (.iand, 1) := dk_126 (dk_at dksX1_look_5 12 rfl rfl)
theorem dX1_look_131 : decode cX1_look 131 = .ok (.ifCond .ne 7, 3) := dk_154 0 7 (dk_at dksX1_look_5 13 rfl rfl)
theorem dX1_look_134 : decode cX1_look 134 = .ok (.iconst 1, 1) := dk_4 (dk_at dksX1_look_5 16 rfl rfl)
theorem dX1_look_135 : decode cX1_look 135 = .ok (.goto 4, 3) := dk_167 0 4 (dk_at dksX1_look_5 17 rfl rfl)
theorem dX1_look_138 : decode cX1_look 138 = .ok (.iconst 0, 1) := dk_3 (dk_at dksX1_look_5 20 rfl rfl)
theorem dX1_look_139 : decode cX1_look 139 = .ok (.iadd, 1) := dk_96 (dk_at dksX1_look_5 21 rfl rfl)
theorem dX1_look_140 : decode cX1_look 140 = .ok (.istore 5, 2) := dk_54 5 (dk_at dksX1_look_5 22 rfl rfl)
theorem dX1_look_142 : decode cX1_look 142 = .ok (.iinc 6 1, 3) := dk_132 6 1 (dk_at dksX1_look_6 0 rfl rfl)
theorem dX1_look_145 : decode cX1_look 145 = .ok (.goto (-98), 3) := dk_167 255 158 (dk_at dksX1_look_6 3 rfl rfl)
theorem dX1_look_148 : decode cX1_look 148 = .ok (.iload 4, 2) := dk_21 4 (dk_at dksX1_look_6 6 rfl rfl)
theorem dX1_look_150 : decode cX1_look 150 = .ok (.iload 5, 2) := dk_21 5 (dk_at dksX1_look_6 8 rfl rfl)
theorem dX1_look_152 : decode cX1_look 152 = .ok (.invokestatic 224, 3) := dk_184 0 224 (dk_at dksX1_look_6 10 rfl rfl)
theorem dX1_look_155 : decode cX1_look 155 = .ok (.istore 6, 2) := dk_54 6 (dk_at dksX1_look_6 13 rfl rfl)
theorem dX1_look_157 : decode cX1_look 157 = .ok (.iload_n 1, 1) := dk_27 (dk_at dksX1_look_6 15 rfl rfl)
theorem dX1_look_158 : decode cX1_look 158 = .ok (.iconst (-1), 1) := dk_2 (dk_at dksX1_look_6 16 rfl rfl)
theorem dX1_look_159 : decode cX1_look 159 = .ok (.if_icmp .eq 12, 3) := dk_159 0 12 (dk_at dksX1_look_6 17 rfl rfl)
theorem dX1_look_162 : decode cX1_look 162 = .ok (.iload 6, 2) := dk_21 6 (dk_at dksX1_look_6 20 rfl rfl)
theorem dX1_look_164 : decode cX1_look 164 = .ok (.iload_n 2, 1) := dk_28 (dk_at dksX1_look_6 22 rfl rfl)
theorem dX1_look_165 : decode cX1_look 165 = .ok (.if_icmp .lt 6, 3) := dk_161 0 6 (dk_at dksX1_look_7 0 rfl rfl)
theorem dX1_look_168 : decode cX1_look 168 = .ok (.goto 8, 3) := dk_167 0 8 (dk_at dksX1_look_7 3 rfl rfl)
theorem dX1_look_171 : decode cX1_look 171 = .ok (.iload_n 3, 1) := dk_29 (dk_at dksX1_look_7 6 rfl rfl)
theorem dX1_look_172 : decode cX1_look 172 = .ok (.istore_n 1, 1) := dk_60 (dk_at dksX1_look_7 7 rfl rfl)
theorem dX1_look_173 : decode cX1_look 173 = .ok (.iload 6, 2) := dk_21 6 (dk_at dksX1_look_7 8 rfl rfl)
theorem dX1_look_175 : decode cX1_look 175 = .ok (.istore_n 2, 1) := dk_61 (dk_at dksX1_look_7 10 rfl rfl)
theorem dX1_look_176 : decode cX1_look 176 = .ok (.iinc 3 1, 3) := dk_132 3 1 (dk_at dksX1_look_7 11 rfl rfl)
theorem dX1_look_179 : decode cX1_look 179 = .ok (.goto (-173), 3) := dk_167 255 83 (dk_at dksX1_look_7 14 rfl rfl)
theorem dX1_look_182 : decode cX1_look 182 = .ok (.iload_n 1, 1) := dk_27 (dk_at dksX1_look_7 17 rfl rfl)
theorem dX1_look_183 : decode cX1_look 183 = .ok (.ireturn, 1) := dk_172 (dk_at dksX1_look_7 18 rfl rfl)
abbrev cX1_image : ByteArray := prog_1_method_117_code
def yX1_image : MethodName := ⟨RX1, "image", "()I"⟩
def dkwX1_image_1 : List UInt8 := [182, 2, 136, 83, 42, 89, 180, 2, 133, 4, 96, 181, 2, 133, 42, 180, 2, 133, 172]
abbrev dktX1_image_1 : List UInt8 := dkwX1_image_1 ++ []
def dkwX1_image_0 : List UInt8 := [42, 180, 2, 133, 6, 160, 0, 5, 2, 172, 42, 180, 0, 39, 42, 180, 2, 133, 42, 180, 0, 10]
abbrev dktX1_image_0 : List UInt8 := dkwX1_image_0 ++ dktX1_image_1
theorem dksX1_image_0 : cX1_image.data.toList.drop 0 = dktX1_image_0 := by decide +kernel
theorem dksX1_image_1 : cX1_image.data.toList.drop 22 = dktX1_image_1 := dk_seg dksX1_image_0 22 rfl rfl
theorem dX1_image_0 : decode cX1_image 0 = .ok (.aload_n 0, 1) := dk_42 (dk_at dksX1_image_0 0 rfl rfl)
theorem dX1_image_1 : decode cX1_image 1 = .ok (.getfield 645, 3) := dk_180 2 133 (dk_at dksX1_image_0 1 rfl rfl)
theorem dX1_image_4 : decode cX1_image 4 = .ok (.iconst 3, 1) := dk_6 (dk_at dksX1_image_0 4 rfl rfl)
theorem dX1_image_5 : decode cX1_image 5 = .ok (.if_icmp .ne 5, 3) := dk_160 0 5 (dk_at dksX1_image_0 5 rfl rfl)
theorem dX1_image_8 : decode cX1_image 8 = .ok (.iconst (-1), 1) := dk_2 (dk_at dksX1_image_0 8 rfl rfl)
theorem dX1_image_9 : decode cX1_image 9 = .ok (.ireturn, 1) := dk_172 (dk_at dksX1_image_0 9 rfl rfl)
theorem dX1_image_10 : decode cX1_image 10 = .ok (.aload_n 0, 1) := dk_42 (dk_at dksX1_image_0 10 rfl rfl)
theorem dX1_image_11 : decode cX1_image 11 = .ok (.getfield 39, 3) := dk_180 0 39 (dk_at dksX1_image_0 11 rfl rfl)
theorem dX1_image_14 : decode cX1_image 14 = .ok (.aload_n 0, 1) := dk_42 (dk_at dksX1_image_0 14 rfl rfl)
theorem dX1_image_15 : decode cX1_image 15 = .ok (.getfield 645, 3) := dk_180 2 133 (dk_at dksX1_image_0 15 rfl rfl)
theorem dX1_image_18 : decode cX1_image 18 = .ok (.aload_n 0, 1) := dk_42 (dk_at dksX1_image_0 18 rfl rfl)
theorem dX1_image_19 : decode cX1_image 19 = .ok (.getfield 10, 3) := dk_180 0 10 (dk_at dksX1_image_0 19 rfl rfl)
theorem dX1_image_22 : decode cX1_image 22 = .ok (.invokevirtual 648, 3) := dk_182 2 136 (dk_at dksX1_image_1 0 rfl rfl)
theorem dX1_image_25 : decode cX1_image 25 = .ok (.aastore, 1) := dk_83 (dk_at dksX1_image_1 3 rfl rfl)
theorem dX1_image_26 : decode cX1_image 26 = .ok (.aload_n 0, 1) := dk_42 (dk_at dksX1_image_1 4 rfl rfl)
theorem dX1_image_27 : decode cX1_image 27 = .ok (.dup, 1) := dk_89 (dk_at dksX1_image_1 5 rfl rfl)
theorem dX1_image_28 : decode cX1_image 28 = .ok (.getfield 645, 3) := dk_180 2 133 (dk_at dksX1_image_1 6 rfl rfl)
theorem dX1_image_31 : decode cX1_image 31 = .ok (.iconst 1, 1) := dk_4 (dk_at dksX1_image_1 9 rfl rfl)
theorem dX1_image_32 : decode cX1_image 32 = .ok (.iadd, 1) := dk_96 (dk_at dksX1_image_1 10 rfl rfl)
theorem dX1_image_33 : decode cX1_image 33 = .ok (.putfield 645, 3) := dk_181 2 133 (dk_at dksX1_image_1 11 rfl rfl)
theorem dX1_image_36 : decode cX1_image 36 = .ok (.aload_n 0, 1) := dk_42 (dk_at dksX1_image_1 14 rfl rfl)
theorem dX1_image_37 : decode cX1_image 37 = .ok (.getfield 645, 3) := dk_180 2 133 (dk_at dksX1_image_1 15 rfl rfl)
theorem dX1_image_40 : decode cX1_image 40 = .ok (.ireturn, 1) := dk_172 (dk_at dksX1_image_1 18 rfl rfl)
abbrev cX1_restore : ByteArray := prog_1_method_118_code
def yX1_restore : MethodName := ⟨RX1, "restore", "()I"⟩
def dkwX1_restore_1 : List UInt8 := [42, 180, 2, 133, 50, 181, 0, 10, 42, 180, 0, 39, 42, 180, 2, 133, 1, 83, 42, 180, 2, 133, 172]
abbrev dktX1_restore_1 : List UInt8 := dkwX1_restore_1 ++ []
def dkwX1_restore_0 : List UInt8 := [42, 180, 2, 133, 154, 0, 5, 2, 172, 42, 89, 180, 2, 133, 4, 100, 181, 2, 133, 42, 42, 180, 0, 39]
abbrev dktX1_restore_0 : List UInt8 := dkwX1_restore_0 ++ dktX1_restore_1
theorem dksX1_restore_0 : cX1_restore.data.toList.drop 0 = dktX1_restore_0 := by decide +kernel
theorem dksX1_restore_1 : cX1_restore.data.toList.drop 24 = dktX1_restore_1 := dk_seg dksX1_restore_0 24 rfl rfl
theorem dX1_restore_0 : decode cX1_restore 0 = .ok (.aload_n 0, 1) := dk_42 (dk_at dksX1_restore_0 0 rfl rfl)
theorem dX1_restore_1 : decode cX1_restore 1 = .ok (.getfield 645, 3) := dk_180 2 133 (dk_at dksX1_restore_0 1 rfl rfl)
theorem dX1_restore_4 : decode cX1_restore 4 = .ok (.ifCond .ne 5, 3) := dk_154 0 5 (dk_at dksX1_restore_0 4 rfl rfl)
theorem dX1_restore_7 : decode cX1_restore 7 = .ok (.iconst (-1), 1) := dk_2 (dk_at dksX1_restore_0 7 rfl rfl)
theorem dX1_restore_8 : decode cX1_restore 8 = .ok (.ireturn, 1) := dk_172 (dk_at dksX1_restore_0 8 rfl rfl)
theorem dX1_restore_9 : decode cX1_restore 9 = .ok (.aload_n 0, 1) := dk_42 (dk_at dksX1_restore_0 9 rfl rfl)
theorem dX1_restore_10 : decode cX1_restore 10 = .ok (.dup, 1) := dk_89 (dk_at dksX1_restore_0 10 rfl rfl)
theorem dX1_restore_11 : decode cX1_restore 11 = .ok (.getfield 645, 3) := dk_180 2 133 (dk_at dksX1_restore_0 11 rfl rfl)
theorem dX1_restore_14 : decode cX1_restore 14 = .ok (.iconst 1, 1) := dk_4 (dk_at dksX1_restore_0 14 rfl rfl)
theorem dX1_restore_15 : decode cX1_restore 15 = .ok (.isub, 1) := dk_100 (dk_at dksX1_restore_0 15 rfl rfl)
theorem dX1_restore_16 : decode cX1_restore 16 = .ok (.putfield 645, 3) := dk_181 2 133 (dk_at dksX1_restore_0 16 rfl rfl)
theorem dX1_restore_19 : decode cX1_restore 19 = .ok (.aload_n 0, 1) := dk_42 (dk_at dksX1_restore_0 19 rfl rfl)
theorem dX1_restore_20 : decode cX1_restore 20 = .ok (.aload_n 0, 1) := dk_42 (dk_at dksX1_restore_0 20 rfl rfl)
theorem dX1_restore_21 : decode cX1_restore 21 = .ok (.getfield 39, 3) := dk_180 0 39 (dk_at dksX1_restore_0 21 rfl rfl)
theorem dX1_restore_24 : decode cX1_restore 24 = .ok (.aload_n 0, 1) := dk_42 (dk_at dksX1_restore_1 0 rfl rfl)
theorem dX1_restore_25 : decode cX1_restore 25 = .ok (.getfield 645, 3) := dk_180 2 133 (dk_at dksX1_restore_1 1 rfl rfl)
theorem dX1_restore_28 : decode cX1_restore 28 = .ok (.aaload, 1) := dk_50 (dk_at dksX1_restore_1 4 rfl rfl)
theorem dX1_restore_29 : decode cX1_restore 29 = .ok (.putfield 10, 3) := dk_181 0 10 (dk_at dksX1_restore_1 5 rfl rfl)
theorem dX1_restore_32 : decode cX1_restore 32 = .ok (.aload_n 0, 1) := dk_42 (dk_at dksX1_restore_1 8 rfl rfl)
theorem dX1_restore_33 : decode cX1_restore 33 = .ok (.getfield 39, 3) := dk_180 0 39 (dk_at dksX1_restore_1 9 rfl rfl)
theorem dX1_restore_36 : decode cX1_restore 36 = .ok (.aload_n 0, 1) := dk_42 (dk_at dksX1_restore_1 12 rfl rfl)
theorem dX1_restore_37 : decode cX1_restore 37 = .ok (.getfield 645, 3) := dk_180 2 133 (dk_at dksX1_restore_1 13 rfl rfl)
theorem dX1_restore_40 : decode cX1_restore 40 = .ok (.aconst_null, 1) := dk_1 (dk_at dksX1_restore_1 16 rfl rfl)
theorem dX1_restore_41 : decode cX1_restore 41 = .ok (.aastore, 1) := dk_83 (dk_at dksX1_restore_1 17 rfl rfl)
theorem dX1_restore_42 : decode cX1_restore 42 = .ok (.aload_n 0, 1) := dk_42 (dk_at dksX1_restore_1 18 rfl rfl)
theorem dX1_restore_43 : decode cX1_restore 43 = .ok (.getfield 645, 3) := dk_180 2 133 (dk_at dksX1_restore_1 19 rfl rfl)
theorem dX1_restore_46 : decode cX1_restore 46 = .ok (.ireturn, 1) := dk_172 (dk_at dksX1_restore_1 22 rfl rfl)
abbrev cX1_count : ByteArray := prog_1_method_119_code
def yX1_count : MethodName := ⟨RX1, "count", "(I)I"⟩
def dkwX1_count_9 : List UInt8 := [180, 2, 47, 172, 42, 180, 0, 10, 180, 1, 159, 172, 2, 172]
abbrev dktX1_count_9 : List UInt8 := dkwX1_count_9 ++ []
def dkwX1_count_8 : List UInt8 := [180, 2, 2, 182, 0, 74, 172, 42, 180, 0, 10, 180, 2, 68, 182, 0, 74, 172, 42, 180, 0, 10]
abbrev dktX1_count_8 : List UInt8 := dkwX1_count_8 ++ dktX1_count_9
def dkwX1_count_7 : List UInt8 := [180, 1, 175, 182, 0, 74, 172, 42, 180, 0, 10, 180, 1, 180, 182, 0, 74, 172, 42, 180, 0, 10]
abbrev dktX1_count_7 : List UInt8 := dkwX1_count_7 ++ dktX1_count_8
def dkwX1_count_6 : List UInt8 := [180, 2, 97, 184, 2, 116, 172, 42, 180, 0, 10, 180, 2, 106, 184, 2, 116, 172, 42, 180, 0, 10]
abbrev dktX1_count_6 : List UInt8 := dkwX1_count_6 ++ dktX1_count_7
def dkwX1_count_5 : List UInt8 := [180, 0, 10, 180, 2, 122, 182, 0, 74, 172, 42, 180, 2, 133, 172, 42, 180, 0, 95, 172, 42, 180, 0, 10]
abbrev dktX1_count_5 : List UInt8 := dkwX1_count_5 ++ dktX1_count_6
def dkwX1_count_4 : List UInt8 := [182, 0, 74, 172, 42, 180, 0, 10, 180, 1, 236, 172, 42, 180, 0, 10, 180, 2, 91, 182, 0, 74, 172, 42]
abbrev dktX1_count_4 : List UInt8 := dkwX1_count_4 ++ dktX1_count_5
def dkwX1_count_3 : List UInt8 := [180, 0, 71, 182, 0, 74, 172, 42, 180, 0, 10, 180, 0, 149, 172, 42, 180, 0, 10, 180, 1, 128]
abbrev dktX1_count_3 : List UInt8 := dkwX1_count_3 ++ dktX1_count_4
def dkwX1_count_2 : List UInt8 := [42, 180, 0, 21, 182, 0, 74, 172, 42, 180, 0, 10, 180, 0, 87, 182, 0, 74, 172, 42, 180, 0, 10]
abbrev dktX1_count_2 : List UInt8 := dkwX1_count_2 ++ dktX1_count_3
def dkwX1_count_1 : List UInt8 := [170, 0, 0, 0, 0, 1, 2, 0, 0, 0, 0, 0, 0, 0, 17, 0, 0, 0, 87, 0, 0, 0, 95, 0, 0, 0, 106, 0, 0, 0, 117, 0, 0, 0, 125, 0, 0, 0, 136, 0, 0, 0, 144, 0, 0, 0, 155, 0, 0, 0, 166, 0, 0, 0, 171, 0, 0, 0, 176, 0, 0, 0, 187, 0, 0, 0, 198, 0, 0, 0, 209, 0, 0, 0, 220, 0, 0, 0, 231, 0, 0, 0, 242, 0, 0, 0, 250]
abbrev dktX1_count_1 : List UInt8 := dkwX1_count_1 ++ dktX1_count_2
def dkwX1_count_0 : List UInt8 := [27]
abbrev dktX1_count_0 : List UInt8 := dkwX1_count_0 ++ dktX1_count_1
theorem dksX1_count_0 : cX1_count.data.toList.drop 0 = dktX1_count_0 := by decide +kernel
theorem dksX1_count_1 : cX1_count.data.toList.drop 1 = dktX1_count_1 := dk_seg dksX1_count_0 1 rfl rfl
theorem dksX1_count_2 : cX1_count.data.toList.drop 88 = dktX1_count_2 := dk_seg dksX1_count_1 87 rfl rfl
theorem dksX1_count_3 : cX1_count.data.toList.drop 111 = dktX1_count_3 := dk_seg dksX1_count_2 23 rfl rfl
theorem dksX1_count_4 : cX1_count.data.toList.drop 133 = dktX1_count_4 := dk_seg dksX1_count_3 22 rfl rfl
theorem dksX1_count_5 : cX1_count.data.toList.drop 157 = dktX1_count_5 := dk_seg dksX1_count_4 24 rfl rfl
theorem dksX1_count_6 : cX1_count.data.toList.drop 181 = dktX1_count_6 := dk_seg dksX1_count_5 24 rfl rfl
theorem dksX1_count_7 : cX1_count.data.toList.drop 203 = dktX1_count_7 := dk_seg dksX1_count_6 22 rfl rfl
theorem dksX1_count_8 : cX1_count.data.toList.drop 225 = dktX1_count_8 := dk_seg dksX1_count_7 22 rfl rfl
theorem dksX1_count_9 : cX1_count.data.toList.drop 247 = dktX1_count_9 := dk_seg dksX1_count_8 22 rfl rfl
theorem dX1_count_0 : decode cX1_count 0 = .ok (.iload_n 1, 1) := dk_27 (dk_at dksX1_count_0 0 rfl rfl)
theorem dX1_count_1 : decode cX1_count 1 = .ok (.tableswitch 258 0 17 #[87, 95, 106, 117, 125, 136, 144, 155, 166, 171, 176, 187, 198, 209, 220, 231, 242, 250], 87) := by decide +kernel
theorem dX1_count_88 : decode cX1_count 88 = .ok (.aload_n 0, 1) := dk_42 (dk_at dksX1_count_2 0 rfl rfl)
theorem dX1_count_89 : decode cX1_count 89 = .ok (.getfield 21, 3) := dk_180 0 21 (dk_at dksX1_count_2 1 rfl rfl)
theorem dX1_count_92 : decode cX1_count 92 = .ok (.invokevirtual 74, 3) := dk_182 0 74 (dk_at dksX1_count_2 4 rfl rfl)
theorem dX1_count_95 : decode cX1_count 95 = .ok (.ireturn, 1) := dk_172 (dk_at dksX1_count_2 7 rfl rfl)
theorem dX1_count_96 : decode cX1_count 96 = .ok (.aload_n 0, 1) := dk_42 (dk_at dksX1_count_2 8 rfl rfl)
theorem dX1_count_97 : decode cX1_count 97 = .ok (.getfield 10, 3) := dk_180 0 10 (dk_at dksX1_count_2 9 rfl rfl)
theorem dX1_count_100 : decode cX1_count 100 = .ok (.getfield 87, 3) := dk_180 0 87 (dk_at dksX1_count_2 12 rfl rfl)
theorem dX1_count_103 : decode cX1_count 103 = .ok (.invokevirtual 74, 3) := dk_182 0 74 (dk_at dksX1_count_2 15 rfl rfl)
theorem dX1_count_106 : decode cX1_count 106 = .ok (.ireturn, 1) := dk_172 (dk_at dksX1_count_2 18 rfl rfl)
theorem dX1_count_107 : decode cX1_count 107 = .ok (.aload_n 0, 1) := dk_42 (dk_at dksX1_count_2 19 rfl rfl)
theorem dX1_count_108 : decode cX1_count 108 = .ok (.getfield 10, 3) := dk_180 0 10 (dk_at dksX1_count_2 20 rfl rfl)
theorem dX1_count_111 : decode cX1_count 111 = .ok (.getfield 71, 3) := dk_180 0 71 (dk_at dksX1_count_3 0 rfl rfl)
theorem dX1_count_114 : decode cX1_count 114 = .ok (.invokevirtual 74, 3) := dk_182 0 74 (dk_at dksX1_count_3 3 rfl rfl)
theorem dX1_count_117 : decode cX1_count 117 = .ok (.ireturn, 1) := dk_172 (dk_at dksX1_count_3 6 rfl rfl)
theorem dX1_count_118 : decode cX1_count 118 = .ok (.aload_n 0, 1) := dk_42 (dk_at dksX1_count_3 7 rfl rfl)
theorem dX1_count_119 : decode cX1_count 119 = .ok (.getfield 10, 3) := dk_180 0 10 (dk_at dksX1_count_3 8 rfl rfl)
theorem dX1_count_122 : decode cX1_count 122 = .ok (.getfield 149, 3) := dk_180 0 149 (dk_at dksX1_count_3 11 rfl rfl)
theorem dX1_count_125 : decode cX1_count 125 = .ok (.ireturn, 1) := dk_172 (dk_at dksX1_count_3 14 rfl rfl)
theorem dX1_count_126 : decode cX1_count 126 = .ok (.aload_n 0, 1) := dk_42 (dk_at dksX1_count_3 15 rfl rfl)
theorem dX1_count_127 : decode cX1_count 127 = .ok (.getfield 10, 3) := dk_180 0 10 (dk_at dksX1_count_3 16 rfl rfl)
theorem dX1_count_130 : decode cX1_count 130 = .ok (.getfield 384, 3) := dk_180 1 128 (dk_at dksX1_count_3 19 rfl rfl)
theorem dX1_count_133 : decode cX1_count 133 = .ok (.invokevirtual 74, 3) := dk_182 0 74 (dk_at dksX1_count_4 0 rfl rfl)
theorem dX1_count_136 : decode cX1_count 136 = .ok (.ireturn, 1) := dk_172 (dk_at dksX1_count_4 3 rfl rfl)
theorem dX1_count_137 : decode cX1_count 137 = .ok (.aload_n 0, 1) := dk_42 (dk_at dksX1_count_4 4 rfl rfl)
theorem dX1_count_138 : decode cX1_count 138 = .ok (.getfield 10, 3) := dk_180 0 10 (dk_at dksX1_count_4 5 rfl rfl)
theorem dX1_count_141 : decode cX1_count 141 = .ok (.getfield 492, 3) := dk_180 1 236 (dk_at dksX1_count_4 8 rfl rfl)
theorem dX1_count_144 : decode cX1_count 144 = .ok (.ireturn, 1) := dk_172 (dk_at dksX1_count_4 11 rfl rfl)
theorem dX1_count_145 : decode cX1_count 145 = .ok (.aload_n 0, 1) := dk_42 (dk_at dksX1_count_4 12 rfl rfl)
theorem dX1_count_146 : decode cX1_count 146 = .ok (.getfield 10, 3) := dk_180 0 10 (dk_at dksX1_count_4 13 rfl rfl)
theorem dX1_count_149 : decode cX1_count 149 = .ok (.getfield 603, 3) := dk_180 2 91 (dk_at dksX1_count_4 16 rfl rfl)
theorem dX1_count_152 : decode cX1_count 152 = .ok (.invokevirtual 74, 3) := dk_182 0 74 (dk_at dksX1_count_4 19 rfl rfl)
theorem dX1_count_155 : decode cX1_count 155 = .ok (.ireturn, 1) := dk_172 (dk_at dksX1_count_4 22 rfl rfl)
theorem dX1_count_156 : decode cX1_count 156 = .ok (.aload_n 0, 1) := dk_42 (dk_at dksX1_count_4 23 rfl rfl)
theorem dX1_count_157 : decode cX1_count 157 = .ok (.getfield 10, 3) := dk_180 0 10 (dk_at dksX1_count_5 0 rfl rfl)
theorem dX1_count_160 : decode cX1_count 160 = .ok (.getfield 634, 3) := dk_180 2 122 (dk_at dksX1_count_5 3 rfl rfl)
theorem dX1_count_163 : decode cX1_count 163 = .ok (.invokevirtual 74, 3) := dk_182 0 74 (dk_at dksX1_count_5 6 rfl rfl)
theorem dX1_count_166 : decode cX1_count 166 = .ok (.ireturn, 1) := dk_172 (dk_at dksX1_count_5 9 rfl rfl)
theorem dX1_count_167 : decode cX1_count 167 = .ok (.aload_n 0, 1) := dk_42 (dk_at dksX1_count_5 10 rfl rfl)
theorem dX1_count_168 : decode cX1_count 168 = .ok (.getfield 645, 3) := dk_180 2 133 (dk_at dksX1_count_5 11 rfl rfl)
theorem dX1_count_171 : decode cX1_count 171 = .ok (.ireturn, 1) := dk_172 (dk_at dksX1_count_5 14 rfl rfl)
theorem dX1_count_172 : decode cX1_count 172 = .ok (.aload_n 0, 1) := dk_42 (dk_at dksX1_count_5 15 rfl rfl)
theorem dX1_count_173 : decode cX1_count 173 = .ok (.getfield 95, 3) := dk_180 0 95 (dk_at dksX1_count_5 16 rfl rfl)
theorem dX1_count_176 : decode cX1_count 176 = .ok (.ireturn, 1) := dk_172 (dk_at dksX1_count_5 19 rfl rfl)
theorem dX1_count_177 : decode cX1_count 177 = .ok (.aload_n 0, 1) := dk_42 (dk_at dksX1_count_5 20 rfl rfl)
theorem dX1_count_178 : decode cX1_count 178 = .ok (.getfield 10, 3) := dk_180 0 10 (dk_at dksX1_count_5 21 rfl rfl)
theorem dX1_count_181 : decode cX1_count 181 = .ok (.getfield 609, 3) := dk_180 2 97 (dk_at dksX1_count_6 0 rfl rfl)
theorem dX1_count_184 : decode cX1_count 184 = .ok (.invokestatic 628, 3) := dk_184 2 116 (dk_at dksX1_count_6 3 rfl rfl)
theorem dX1_count_187 : decode cX1_count 187 = .ok (.ireturn, 1) := dk_172 (dk_at dksX1_count_6 6 rfl rfl)
theorem dX1_count_188 : decode cX1_count 188 = .ok (.aload_n 0, 1) := dk_42 (dk_at dksX1_count_6 7 rfl rfl)
theorem dX1_count_189 : decode cX1_count 189 = .ok (.getfield 10, 3) := dk_180 0 10 (dk_at dksX1_count_6 8 rfl rfl)
theorem dX1_count_192 : decode cX1_count 192 = .ok (.getfield 618, 3) := dk_180 2 106 (dk_at dksX1_count_6 11 rfl rfl)
theorem dX1_count_195 : decode cX1_count 195 = .ok (.invokestatic 628, 3) := dk_184 2 116 (dk_at dksX1_count_6 14 rfl rfl)
theorem dX1_count_198 : decode cX1_count 198 = .ok (.ireturn, 1) := dk_172 (dk_at dksX1_count_6 17 rfl rfl)
theorem dX1_count_199 : decode cX1_count 199 = .ok (.aload_n 0, 1) := dk_42 (dk_at dksX1_count_6 18 rfl rfl)
theorem dX1_count_200 : decode cX1_count 200 = .ok (.getfield 10, 3) := dk_180 0 10 (dk_at dksX1_count_6 19 rfl rfl)
theorem dX1_count_203 : decode cX1_count 203 = .ok (.getfield 431, 3) := dk_180 1 175 (dk_at dksX1_count_7 0 rfl rfl)
theorem dX1_count_206 : decode cX1_count 206 = .ok (.invokevirtual 74, 3) := dk_182 0 74 (dk_at dksX1_count_7 3 rfl rfl)
theorem dX1_count_209 : decode cX1_count 209 = .ok (.ireturn, 1) := dk_172 (dk_at dksX1_count_7 6 rfl rfl)
theorem dX1_count_210 : decode cX1_count 210 = .ok (.aload_n 0, 1) := dk_42 (dk_at dksX1_count_7 7 rfl rfl)
theorem dX1_count_211 : decode cX1_count 211 = .ok (.getfield 10, 3) := dk_180 0 10 (dk_at dksX1_count_7 8 rfl rfl)
theorem dX1_count_214 : decode cX1_count 214 = .ok (.getfield 436, 3) := dk_180 1 180 (dk_at dksX1_count_7 11 rfl rfl)
theorem dX1_count_217 : decode cX1_count 217 = .ok (.invokevirtual 74, 3) := dk_182 0 74 (dk_at dksX1_count_7 14 rfl rfl)
theorem dX1_count_220 : decode cX1_count 220 = .ok (.ireturn, 1) := dk_172 (dk_at dksX1_count_7 17 rfl rfl)
theorem dX1_count_221 : decode cX1_count 221 = .ok (.aload_n 0, 1) := dk_42 (dk_at dksX1_count_7 18 rfl rfl)
theorem dX1_count_222 : decode cX1_count 222 = .ok (.getfield 10, 3) := dk_180 0 10 (dk_at dksX1_count_7 19 rfl rfl)
theorem dX1_count_225 : decode cX1_count 225 = .ok (.getfield 514, 3) := dk_180 2 2 (dk_at dksX1_count_8 0 rfl rfl)
theorem dX1_count_228 : decode cX1_count 228 = .ok (.invokevirtual 74, 3) := dk_182 0 74 (dk_at dksX1_count_8 3 rfl rfl)
theorem dX1_count_231 : decode cX1_count 231 = .ok (.ireturn, 1) := dk_172 (dk_at dksX1_count_8 6 rfl rfl)
theorem dX1_count_232 : decode cX1_count 232 = .ok (.aload_n 0, 1) := dk_42 (dk_at dksX1_count_8 7 rfl rfl)
theorem dX1_count_233 : decode cX1_count 233 = .ok (.getfield 10, 3) := dk_180 0 10 (dk_at dksX1_count_8 8 rfl rfl)
theorem dX1_count_236 : decode cX1_count 236 = .ok (.getfield 580, 3) := dk_180 2 68 (dk_at dksX1_count_8 11 rfl rfl)
theorem dX1_count_239 : decode cX1_count 239 = .ok (.invokevirtual 74, 3) := dk_182 0 74 (dk_at dksX1_count_8 14 rfl rfl)
theorem dX1_count_242 : decode cX1_count 242 = .ok (.ireturn, 1) := dk_172 (dk_at dksX1_count_8 17 rfl rfl)
theorem dX1_count_243 : decode cX1_count 243 = .ok (.aload_n 0, 1) := dk_42 (dk_at dksX1_count_8 18 rfl rfl)
theorem dX1_count_244 : decode cX1_count 244 = .ok (.getfield 10, 3) := dk_180 0 10 (dk_at dksX1_count_8 19 rfl rfl)
theorem dX1_count_247 : decode cX1_count 247 = .ok (.getfield 559, 3) := dk_180 2 47 (dk_at dksX1_count_9 0 rfl rfl)
theorem dX1_count_250 : decode cX1_count 250 = .ok (.ireturn, 1) := dk_172 (dk_at dksX1_count_9 3 rfl rfl)
theorem dX1_count_251 : decode cX1_count 251 = .ok (.aload_n 0, 1) := dk_42 (dk_at dksX1_count_9 4 rfl rfl)
theorem dX1_count_252 : decode cX1_count 252 = .ok (.getfield 10, 3) := dk_180 0 10 (dk_at dksX1_count_9 5 rfl rfl)
theorem dX1_count_255 : decode cX1_count 255 = .ok (.getfield 415, 3) := dk_180 1 159 (dk_at dksX1_count_9 8 rfl rfl)
theorem dX1_count_258 : decode cX1_count 258 = .ok (.ireturn, 1) := dk_172 (dk_at dksX1_count_9 11 rfl rfl)
theorem dX1_count_259 : decode cX1_count 259 = .ok (.iconst (-1), 1) := dk_2 (dk_at dksX1_count_9 12 rfl rfl)
theorem dX1_count_260 : decode cX1_count 260 = .ok (.ireturn, 1) := dk_172 (dk_at dksX1_count_9 13 rfl rfl)
abbrev cX1_rules : ByteArray := prog_1_method_8_code
def yX1_rules : MethodName := ⟨RX1, "rules", "(II)I"⟩
def dkwX1_rules_5 : List UInt8 := [42, 3, 181, 0, 95, 21, 4, 172, 58, 5, 42, 3, 181, 0, 95, 25, 5, 191]
abbrev dktX1_rules_5 : List UInt8 := dkwX1_rules_5 ++ []
def dkwX1_rules_4 : List UInt8 := [3, 181, 0, 95, 29, 172, 78, 42, 45, 180, 0, 129, 181, 0, 31, 45, 180, 0, 132, 16, 10, 100, 54, 4]
abbrev dktX1_rules_4 : List UInt8 := dkwX1_rules_4 ++ dktX1_rules_5
def dkwX1_rules_3 : List UInt8 := [183, 0, 113, 182, 0, 116, 183, 0, 120, 182, 0, 123, 87, 42, 180, 0, 21, 182, 0, 74, 4, 100, 62, 42]
abbrev dktX1_rules_3 : List UInt8 := dkwX1_rules_3 ++ dktX1_rules_4
def dkwX1_rules_2 : List UInt8 := [181, 0, 95, 29, 172, 42, 180, 0, 21, 187, 0, 109, 89, 27, 187, 0, 111, 89, 42, 180, 0, 35, 28]
abbrev dktX1_rules_2 : List UInt8 := dkwX1_rules_2 ++ dktX1_rules_3
def dkwX1_rules_1 : List UInt8 := [184, 0, 105, 42, 2, 181, 0, 31, 42, 180, 0, 21, 182, 0, 74, 8, 160, 0, 12, 2, 62, 42, 3]
abbrev dktX1_rules_1 : List UInt8 := dkwX1_rules_1 ++ dktX1_rules_2
def dkwX1_rules_0 : List UInt8 := [27, 184, 0, 101, 153, 0, 19, 28, 155, 0, 15, 28, 42, 180, 0, 95, 163, 0, 7, 4, 167, 0, 4, 3]
abbrev dktX1_rules_0 : List UInt8 := dkwX1_rules_0 ++ dktX1_rules_1
theorem dksX1_rules_0 : cX1_rules.data.toList.drop 0 = dktX1_rules_0 := by decide +kernel
theorem dksX1_rules_1 : cX1_rules.data.toList.drop 24 = dktX1_rules_1 := dk_seg dksX1_rules_0 24 rfl rfl
theorem dksX1_rules_2 : cX1_rules.data.toList.drop 47 = dktX1_rules_2 := dk_seg dksX1_rules_1 23 rfl rfl
theorem dksX1_rules_3 : cX1_rules.data.toList.drop 70 = dktX1_rules_3 := dk_seg dksX1_rules_2 23 rfl rfl
theorem dksX1_rules_4 : cX1_rules.data.toList.drop 94 = dktX1_rules_4 := dk_seg dksX1_rules_3 24 rfl rfl
theorem dksX1_rules_5 : cX1_rules.data.toList.drop 118 = dktX1_rules_5 := dk_seg dksX1_rules_4 24 rfl rfl
theorem dX1_rules_0 : decode cX1_rules 0 = .ok (.iload_n 1, 1) := dk_27 (dk_at dksX1_rules_0 0 rfl rfl)
theorem dX1_rules_1 : decode cX1_rules 1 = .ok (.invokestatic 101, 3) := dk_184 0 101 (dk_at dksX1_rules_0 1 rfl rfl)
theorem dX1_rules_4 : decode cX1_rules 4 = .ok (.ifCond .eq 19, 3) := dk_153 0 19 (dk_at dksX1_rules_0 4 rfl rfl)
theorem dX1_rules_7 : decode cX1_rules 7 = .ok (.iload_n 2, 1) := dk_28 (dk_at dksX1_rules_0 7 rfl rfl)
theorem dX1_rules_8 : decode cX1_rules 8 = .ok (.ifCond .lt 15, 3) := dk_155 0 15 (dk_at dksX1_rules_0 8 rfl rfl)
theorem dX1_rules_11 : decode cX1_rules 11 = .ok (.iload_n 2, 1) := dk_28 (dk_at dksX1_rules_0 11 rfl rfl)
theorem dX1_rules_12 : decode cX1_rules 12 = .ok (.aload_n 0, 1) := dk_42 (dk_at dksX1_rules_0 12 rfl rfl)
theorem dX1_rules_13 : decode cX1_rules 13 = .ok (.getfield 95, 3) := dk_180 0 95 (dk_at dksX1_rules_0 13 rfl rfl)
theorem dX1_rules_16 : decode cX1_rules 16 = .ok (.if_icmp .gt 7, 3) := dk_163 0 7 (dk_at dksX1_rules_0 16 rfl rfl)
theorem dX1_rules_19 : decode cX1_rules 19 = .ok (.iconst 1, 1) := dk_4 (dk_at dksX1_rules_0 19 rfl rfl)
theorem dX1_rules_20 : decode cX1_rules 20 = .ok (.goto 4, 3) := dk_167 0 4 (dk_at dksX1_rules_0 20 rfl rfl)
theorem dX1_rules_23 : decode cX1_rules 23 = .ok (.iconst 0, 1) := dk_3 (dk_at dksX1_rules_0 23 rfl rfl)
theorem dX1_rules_24 : decode cX1_rules 24 = .ok (.invokestatic 105, 3) := dk_184 0 105 (dk_at dksX1_rules_1 0 rfl rfl)
theorem dX1_rules_27 : decode cX1_rules 27 = .ok (.aload_n 0, 1) := dk_42 (dk_at dksX1_rules_1 3 rfl rfl)
theorem dX1_rules_28 : decode cX1_rules 28 = .ok (.iconst (-1), 1) := dk_2 (dk_at dksX1_rules_1 4 rfl rfl)
theorem dX1_rules_29 : decode cX1_rules 29 = .ok (.putfield 31, 3) := dk_181 0 31 (dk_at dksX1_rules_1 5 rfl rfl)
theorem dX1_rules_32 : decode cX1_rules 32 = .ok (.aload_n 0, 1) := dk_42 (dk_at dksX1_rules_1 8 rfl rfl)
theorem dX1_rules_33 : decode cX1_rules 33 = .ok (.getfield 21, 3) := dk_180 0 21 (dk_at dksX1_rules_1 9 rfl rfl)
theorem dX1_rules_36 : decode cX1_rules 36 = .ok (.invokevirtual 74, 3) := dk_182 0 74 (dk_at dksX1_rules_1 12 rfl rfl)
theorem dX1_rules_39 : decode cX1_rules 39 = .ok (.iconst 5, 1) := dk_8 (dk_at dksX1_rules_1 15 rfl rfl)
theorem dX1_rules_40 : decode cX1_rules 40 = .ok (.if_icmp .ne 12, 3) := dk_160 0 12 (dk_at dksX1_rules_1 16 rfl rfl)
theorem dX1_rules_43 : decode cX1_rules 43 = .ok (.iconst (-1), 1) := dk_2 (dk_at dksX1_rules_1 19 rfl rfl)
theorem dX1_rules_44 : decode cX1_rules 44 = .ok (.istore_n 3, 1) := dk_62 (dk_at dksX1_rules_1 20 rfl rfl)
theorem dX1_rules_45 : decode cX1_rules 45 = .ok (.aload_n 0, 1) := dk_42 (dk_at dksX1_rules_1 21 rfl rfl)
theorem dX1_rules_46 : decode cX1_rules 46 = .ok (.iconst 0, 1) := dk_3 (dk_at dksX1_rules_1 22 rfl rfl)
theorem dX1_rules_47 : decode cX1_rules 47 = .ok (.putfield 95, 3) := dk_181 0 95 (dk_at dksX1_rules_2 0 rfl rfl)
theorem dX1_rules_50 : decode cX1_rules 50 = .ok (.iload_n 3, 1) := dk_29 (dk_at dksX1_rules_2 3 rfl rfl)
theorem dX1_rules_51 : decode cX1_rules 51 = .ok (.ireturn, 1) := dk_172 (dk_at dksX1_rules_2 4 rfl rfl)
theorem dX1_rules_52 : decode cX1_rules 52 = .ok (.aload_n 0, 1) := dk_42 (dk_at dksX1_rules_2 5 rfl rfl)
theorem dX1_rules_53 : decode cX1_rules 53 = .ok (.getfield 21, 3) := dk_180 0 21 (dk_at dksX1_rules_2 6 rfl rfl)
theorem dX1_rules_56 : decode cX1_rules 56 = .ok (.new 109, 3) := dk_187 0 109 (dk_at dksX1_rules_2 9 rfl rfl)
theorem dX1_rules_59 : decode cX1_rules 59 = .ok (.dup, 1) := dk_89 (dk_at dksX1_rules_2 12 rfl rfl)
theorem dX1_rules_60 : decode cX1_rules 60 = .ok (.iload_n 1, 1) := dk_27 (dk_at dksX1_rules_2 13 rfl rfl)
theorem dX1_rules_61 : decode cX1_rules 61 = .ok (.new 111, 3) := dk_187 0 111 (dk_at dksX1_rules_2 14 rfl rfl)
theorem dX1_rules_64 : decode cX1_rules 64 = .ok (.dup, 1) := dk_89 (dk_at dksX1_rules_2 17 rfl rfl)
theorem dX1_rules_65 : decode cX1_rules 65 = .ok (.aload_n 0, 1) := dk_42 (dk_at dksX1_rules_2 18 rfl rfl)
theorem dX1_rules_66 : decode cX1_rules 66 = .ok (.getfield 35, 3) := dk_180 0 35 (dk_at dksX1_rules_2 19 rfl rfl)
theorem dX1_rules_69 : decode cX1_rules 69 = .ok (.iload_n 2, 1) := dk_28 (dk_at dksX1_rules_2 22 rfl rfl)
theorem dX1_rules_70 : decode cX1_rules 70 = .ok (.invokespecial 113, 3) := dk_183 0 113 (dk_at dksX1_rules_3 0 rfl rfl)
theorem dX1_rules_73 : decode cX1_rules 73 = .ok (.invokevirtual 116, 3) := dk_182 0 116 (dk_at dksX1_rules_3 3 rfl rfl)
theorem dX1_rules_76 : decode cX1_rules 76 = .ok (.invokespecial 120, 3) := dk_183 0 120 (dk_at dksX1_rules_3 6 rfl rfl)
theorem dX1_rules_79 : decode cX1_rules 79 = .ok (.invokevirtual 123, 3) := dk_182 0 123 (dk_at dksX1_rules_3 9 rfl rfl)
theorem dX1_rules_82 : decode cX1_rules 82 = .ok (.pop, 1) := dk_87 (dk_at dksX1_rules_3 12 rfl rfl)
theorem dX1_rules_83 : decode cX1_rules 83 = .ok (.aload_n 0, 1) := dk_42 (dk_at dksX1_rules_3 13 rfl rfl)
theorem dX1_rules_84 : decode cX1_rules 84 = .ok (.getfield 21, 3) := dk_180 0 21 (dk_at dksX1_rules_3 14 rfl rfl)
theorem dX1_rules_87 : decode cX1_rules 87 = .ok (.invokevirtual 74, 3) := dk_182 0 74 (dk_at dksX1_rules_3 17 rfl rfl)
theorem dX1_rules_90 : decode cX1_rules 90 = .ok (.iconst 1, 1) := dk_4 (dk_at dksX1_rules_3 20 rfl rfl)
theorem dX1_rules_91 : decode cX1_rules 91 = .ok (.isub, 1) := dk_100 (dk_at dksX1_rules_3 21 rfl rfl)
theorem dX1_rules_92 : decode cX1_rules 92 = .ok (.istore_n 3, 1) := dk_62 (dk_at dksX1_rules_3 22 rfl rfl)
theorem dX1_rules_93 : decode cX1_rules 93 = .ok (.aload_n 0, 1) := dk_42 (dk_at dksX1_rules_3 23 rfl rfl)
theorem dX1_rules_94 : decode cX1_rules 94 = .ok (.iconst 0, 1) := dk_3 (dk_at dksX1_rules_4 0 rfl rfl)
theorem dX1_rules_95 : decode cX1_rules 95 = .ok (.putfield 95, 3) := dk_181 0 95 (dk_at dksX1_rules_4 1 rfl rfl)
theorem dX1_rules_98 : decode cX1_rules 98 = .ok (.iload_n 3, 1) := dk_29 (dk_at dksX1_rules_4 4 rfl rfl)
theorem dX1_rules_99 : decode cX1_rules 99 = .ok (.ireturn, 1) := dk_172 (dk_at dksX1_rules_4 5 rfl rfl)
theorem dX1_rules_100 : decode cX1_rules 100 = .ok (.astore_n 3, 1) := dk_78 (dk_at dksX1_rules_4 6 rfl rfl)
theorem dX1_rules_101 : decode cX1_rules 101 = .ok (.aload_n 0, 1) := dk_42 (dk_at dksX1_rules_4 7 rfl rfl)
theorem dX1_rules_102 : decode cX1_rules 102 = .ok (.aload_n 3, 1) := dk_45 (dk_at dksX1_rules_4 8 rfl rfl)
theorem dX1_rules_103 : decode cX1_rules 103 = .ok (.getfield 129, 3) := dk_180 0 129 (dk_at dksX1_rules_4 9 rfl rfl)
theorem dX1_rules_106 : decode cX1_rules 106 = .ok (.putfield 31, 3) := dk_181 0 31 (dk_at dksX1_rules_4 12 rfl rfl)
theorem dX1_rules_109 : decode cX1_rules 109 = .ok (.aload_n 3, 1) := dk_45 (dk_at dksX1_rules_4 15 rfl rfl)
theorem dX1_rules_110 : decode cX1_rules 110 = .ok (.getfield 132, 3) := dk_180 0 132 (dk_at dksX1_rules_4 16 rfl rfl)
theorem dX1_rules_113 : decode cX1_rules 113 = .ok (.bipush 10, 2) := dk_16 10 (dk_at dksX1_rules_4 19 rfl rfl)
theorem dX1_rules_115 : decode cX1_rules 115 = .ok (.isub, 1) := dk_100 (dk_at dksX1_rules_4 21 rfl rfl)
theorem dX1_rules_116 : decode cX1_rules 116 = .ok (.istore 4, 2) := dk_54 4 (dk_at dksX1_rules_4 22 rfl rfl)
theorem dX1_rules_118 : decode cX1_rules 118 = .ok (.aload_n 0, 1) := dk_42 (dk_at dksX1_rules_5 0 rfl rfl)
theorem dX1_rules_119 : decode cX1_rules 119 = .ok (.iconst 0, 1) := dk_3 (dk_at dksX1_rules_5 1 rfl rfl)
theorem dX1_rules_120 : decode cX1_rules 120 = .ok (.putfield 95, 3) := dk_181 0 95 (dk_at dksX1_rules_5 2 rfl rfl)
theorem dX1_rules_123 : decode cX1_rules 123 = .ok (.iload 4, 2) := dk_21 4 (dk_at dksX1_rules_5 5 rfl rfl)
theorem dX1_rules_125 : decode cX1_rules 125 = .ok (.ireturn, 1) := dk_172 (dk_at dksX1_rules_5 7 rfl rfl)
theorem dX1_rules_126 : decode cX1_rules 126 = .ok (.astore 5, 2) := dk_58 5 (dk_at dksX1_rules_5 8 rfl rfl)
theorem dX1_rules_128 : decode cX1_rules 128 = .ok (.aload_n 0, 1) := dk_42 (dk_at dksX1_rules_5 10 rfl rfl)
theorem dX1_rules_129 : decode cX1_rules 129 = .ok (.iconst 0, 1) := dk_3 (dk_at dksX1_rules_5 11 rfl rfl)
theorem dX1_rules_130 : decode cX1_rules 130 = .ok (.putfield 95, 3) := dk_181 0 95 (dk_at dksX1_rules_5 12 rfl rfl)
theorem dX1_rules_133 : decode cX1_rules 133 = .ok (.aload 5, 2) := dk_25 5 (dk_at dksX1_rules_5 15 rfl rfl)
theorem dX1_rules_135 : decode cX1_rules 135 = .ok (.athrow, 1) := dk_191 (dk_at dksX1_rules_5 17 rfl rfl)
abbrev cX1_isDay : ByteArray := prog_1_method_18_code
def yX1_isDay : MethodName := ⟨RX1, "isDay", "(I)Z"⟩
def dkwX1_isDay_0 : List UInt8 := [26, 155, 0, 14, 26, 17, 78, 32, 163, 0, 7, 4, 167, 0, 4, 3, 172]
abbrev dktX1_isDay_0 : List UInt8 := dkwX1_isDay_0 ++ []
theorem dksX1_isDay_0 : cX1_isDay.data.toList.drop 0 = dktX1_isDay_0 := by decide +kernel
theorem dX1_isDay_0 : decode cX1_isDay 0 = .ok (.iload_n 0, 1) := dk_26 (dk_at dksX1_isDay_0 0 rfl rfl)
theorem dX1_isDay_1 : decode cX1_isDay 1 = .ok (.ifCond .lt 14, 3) := dk_155 0 14 (dk_at dksX1_isDay_0 1 rfl rfl)
theorem dX1_isDay_4 : decode cX1_isDay 4 = .ok (.iload_n 0, 1) := dk_26 (dk_at dksX1_isDay_0 4 rfl rfl)
theorem dX1_isDay_5 : decode cX1_isDay 5 = .ok (.sipush 20000, 3) := dk_17 78 32 (dk_at dksX1_isDay_0 5 rfl rfl)
theorem dX1_isDay_8 : decode cX1_isDay 8 = .ok (.if_icmp .gt 7, 3) := dk_163 0 7 (dk_at dksX1_isDay_0 8 rfl rfl)
theorem dX1_isDay_11 : decode cX1_isDay 11 = .ok (.iconst 1, 1) := dk_4 (dk_at dksX1_isDay_0 11 rfl rfl)
theorem dX1_isDay_12 : decode cX1_isDay 12 = .ok (.goto 4, 3) := dk_167 0 4 (dk_at dksX1_isDay_0 12 rfl rfl)
theorem dX1_isDay_15 : decode cX1_isDay 15 = .ok (.iconst 0, 1) := dk_3 (dk_at dksX1_isDay_0 15 rfl rfl)
theorem dX1_isDay_16 : decode cX1_isDay 16 = .ok (.ireturn, 1) := dk_172 (dk_at dksX1_isDay_0 16 rfl rfl)
abbrev cX1_need : ByteArray := prog_1_method_2_code
def yX1_need : MethodName := ⟨RX1, "need", "(Z)V"⟩
def dkwX1_need_0 : List UInt8 := [26, 154, 0, 11, 187, 0, 68, 89, 183, 0, 70, 191, 177]
abbrev dktX1_need_0 : List UInt8 := dkwX1_need_0 ++ []
theorem dksX1_need_0 : cX1_need.data.toList.drop 0 = dktX1_need_0 := by decide +kernel
theorem dX1_need_0 : decode cX1_need 0 = .ok (.iload_n 0, 1) := dk_26 (dk_at dksX1_need_0 0 rfl rfl)
theorem dX1_need_1 : decode cX1_need 1 = .ok (.ifCond .ne 11, 3) := dk_154 0 11 (dk_at dksX1_need_0 1 rfl rfl)
theorem dX1_need_4 : decode cX1_need 4 = .ok (.new 68, 3) := dk_187 0 68 (dk_at dksX1_need_0 4 rfl rfl)
theorem dX1_need_7 : decode cX1_need 7 = .ok (.dup, 1) := dk_89 (dk_at dksX1_need_0 7 rfl rfl)
theorem dX1_need_8 : decode cX1_need 8 = .ok (.invokespecial 70, 3) := dk_183 0 70 (dk_at dksX1_need_0 8 rfl rfl)
theorem dX1_need_11 : decode cX1_need 11 = .ok (.athrow, 1) := dk_191 (dk_at dksX1_need_0 11 rfl rfl)
theorem dX1_need_12 : decode cX1_need 12 = .ok (.return_, 1) := dk_177 (dk_at dksX1_need_0 12 rfl rfl)
abbrev cX1_counts : ByteArray := prog_1_method_11_code
def yX1_counts : MethodName := ⟨RX1, "counts", "(I)I"⟩
def dkwX1_counts_0 : List UInt8 := [27, 184, 0, 101, 184, 0, 105, 42, 27, 182, 0, 138, 172]
abbrev dktX1_counts_0 : List UInt8 := dkwX1_counts_0 ++ []
theorem dksX1_counts_0 : cX1_counts.data.toList.drop 0 = dktX1_counts_0 := by decide +kernel
theorem dX1_counts_0 : decode cX1_counts 0 = .ok (.iload_n 1, 1) := dk_27 (dk_at dksX1_counts_0 0 rfl rfl)
theorem dX1_counts_1 : decode cX1_counts 1 = .ok (.invokestatic 101, 3) := dk_184 0 101 (dk_at dksX1_counts_0 1 rfl rfl)
theorem dX1_counts_4 : decode cX1_counts 4 = .ok (.invokestatic 105, 3) := dk_184 0 105 (dk_at dksX1_counts_0 4 rfl rfl)
theorem dX1_counts_7 : decode cX1_counts 7 = .ok (.aload_n 0, 1) := dk_42 (dk_at dksX1_counts_0 7 rfl rfl)
theorem dX1_counts_8 : decode cX1_counts 8 = .ok (.iload_n 1, 1) := dk_27 (dk_at dksX1_counts_0 8 rfl rfl)
theorem dX1_counts_9 : decode cX1_counts 9 = .ok (.invokevirtual 138, 3) := dk_182 0 138 (dk_at dksX1_counts_0 9 rfl rfl)
theorem dX1_counts_12 : decode cX1_counts 12 = .ok (.ireturn, 1) := dk_172 (dk_at dksX1_counts_0 12 rfl rfl)
abbrev cX1_model : ByteArray := prog_1_method_12_code
def yX1_model : MethodName := ⟨RX1, "model", "(IIII)I"⟩
def dkwX1_model_4 : List UInt8 := [180, 0, 87, 182, 0, 74, 4, 100, 172]
abbrev dktX1_model_4 : List UInt8 := dkwX1_model_4 ++ []
def dkwX1_model_3 : List UInt8 := [180, 0, 87, 187, 0, 93, 89, 27, 28, 29, 21, 4, 183, 0, 146, 182, 0, 123, 87, 42, 180, 0, 10]
abbrev dktX1_model_3 : List UInt8 := dkwX1_model_3 ++ dktX1_model_4
def dkwX1_model_2 : List UInt8 := [184, 0, 105, 42, 180, 0, 10, 180, 0, 87, 182, 0, 74, 16, 12, 160, 0, 5, 2, 172, 42, 180, 0, 10]
abbrev dktX1_model_2 : List UInt8 := dkwX1_model_2 ++ dktX1_model_3
def dkwX1_model_1 : List UInt8 := [17, 0, 200, 163, 0, 19, 21, 4, 155, 0, 14, 21, 4, 18, 145, 163, 0, 7, 4, 167, 0, 4, 3]
abbrev dktX1_model_1 : List UInt8 := dkwX1_model_1 ++ dktX1_model_2
def dkwX1_model_0 : List UInt8 := [27, 184, 0, 142, 153, 0, 42, 28, 155, 0, 38, 28, 17, 39, 15, 163, 0, 31, 29, 4, 161, 0, 26, 29]
abbrev dktX1_model_0 : List UInt8 := dkwX1_model_0 ++ dktX1_model_1
theorem dksX1_model_0 : cX1_model.data.toList.drop 0 = dktX1_model_0 := by decide +kernel
theorem dksX1_model_1 : cX1_model.data.toList.drop 24 = dktX1_model_1 := dk_seg dksX1_model_0 24 rfl rfl
theorem dksX1_model_2 : cX1_model.data.toList.drop 47 = dktX1_model_2 := dk_seg dksX1_model_1 23 rfl rfl
theorem dksX1_model_3 : cX1_model.data.toList.drop 71 = dktX1_model_3 := dk_seg dksX1_model_2 24 rfl rfl
theorem dksX1_model_4 : cX1_model.data.toList.drop 94 = dktX1_model_4 := dk_seg dksX1_model_3 23 rfl rfl
theorem dX1_model_0 : decode cX1_model 0 = .ok (.iload_n 1, 1) := dk_27 (dk_at dksX1_model_0 0 rfl rfl)
theorem dX1_model_1 : decode cX1_model 1 = .ok (.invokestatic 142, 3) := dk_184 0 142 (dk_at dksX1_model_0 1 rfl rfl)
theorem dX1_model_4 : decode cX1_model 4 = .ok (.ifCond .eq 42, 3) := dk_153 0 42 (dk_at dksX1_model_0 4 rfl rfl)
theorem dX1_model_7 : decode cX1_model 7 = .ok (.iload_n 2, 1) := dk_28 (dk_at dksX1_model_0 7 rfl rfl)
theorem dX1_model_8 : decode cX1_model 8 = .ok (.ifCond .lt 38, 3) := dk_155 0 38 (dk_at dksX1_model_0 8 rfl rfl)
theorem dX1_model_11 : decode cX1_model 11 = .ok (.iload_n 2, 1) := dk_28 (dk_at dksX1_model_0 11 rfl rfl)
theorem dX1_model_12 : decode cX1_model 12 = .ok (.sipush 9999, 3) := dk_17 39 15 (dk_at dksX1_model_0 12 rfl rfl)
theorem dX1_model_15 : decode cX1_model 15 = .ok (.if_icmp .gt 31, 3) := dk_163 0 31 (dk_at dksX1_model_0 15 rfl rfl)
theorem dX1_model_18 : decode cX1_model 18 = .ok (.iload_n 3, 1) := dk_29 (dk_at dksX1_model_0 18 rfl rfl)
theorem dX1_model_19 : decode cX1_model 19 = .ok (.iconst 1, 1) := dk_4 (dk_at dksX1_model_0 19 rfl rfl)
theorem dX1_model_20 : decode cX1_model 20 = .ok (.if_icmp .lt 26, 3) := dk_161 0 26 (dk_at dksX1_model_0 20 rfl rfl)
theorem dX1_model_23 : decode cX1_model 23 = .ok (.iload_n 3, 1) := dk_29 (dk_at dksX1_model_0 23 rfl rfl)
theorem dX1_model_24 : decode cX1_model 24 = .ok (.sipush 200, 3) := dk_17 0 200 (dk_at dksX1_model_1 0 rfl rfl)
theorem dX1_model_27 : decode cX1_model 27 = .ok (.if_icmp .gt 19, 3) := dk_163 0 19 (dk_at dksX1_model_1 3 rfl rfl)
theorem dX1_model_30 : decode cX1_model 30 = .ok (.iload 4, 2) := dk_21 4 (dk_at dksX1_model_1 6 rfl rfl)
theorem dX1_model_32 : decode cX1_model 32 = .ok (.ifCond .lt 14, 3) := dk_155 0 14 (dk_at dksX1_model_1 8 rfl rfl)
theorem dX1_model_35 : decode cX1_model 35 = .ok (.iload 4, 2) := dk_21 4 (dk_at dksX1_model_1 11 rfl rfl)
theorem dX1_model_37 : decode cX1_model 37 = .ok (.ldc 145, 2) := dk_18 145 (dk_at dksX1_model_1 13 rfl rfl)
theorem dX1_model_39 : decode cX1_model 39 = .ok (.if_icmp .gt 7, 3) := dk_163 0 7 (dk_at dksX1_model_1 15 rfl rfl)
theorem dX1_model_42 : decode cX1_model 42 = .ok (.iconst 1, 1) := dk_4 (dk_at dksX1_model_1 18 rfl rfl)
theorem dX1_model_43 : decode cX1_model 43 = .ok (.goto 4, 3) := dk_167 0 4 (dk_at dksX1_model_1 19 rfl rfl)
theorem dX1_model_46 : decode cX1_model 46 = .ok (.iconst 0, 1) := dk_3 (dk_at dksX1_model_1 22 rfl rfl)
theorem dX1_model_47 : decode cX1_model 47 = .ok (.invokestatic 105, 3) := dk_184 0 105 (dk_at dksX1_model_2 0 rfl rfl)
theorem dX1_model_50 : decode cX1_model 50 = .ok (.aload_n 0, 1) := dk_42 (dk_at dksX1_model_2 3 rfl rfl)
theorem dX1_model_51 : decode cX1_model 51 = .ok (.getfield 10, 3) := dk_180 0 10 (dk_at dksX1_model_2 4 rfl rfl)
theorem dX1_model_54 : decode cX1_model 54 = .ok (.getfield 87, 3) := dk_180 0 87 (dk_at dksX1_model_2 7 rfl rfl)
theorem dX1_model_57 : decode cX1_model 57 = .ok (.invokevirtual 74, 3) := dk_182 0 74 (dk_at dksX1_model_2 10 rfl rfl)
theorem dX1_model_60 : decode cX1_model 60 = .ok (.bipush 12, 2) := dk_16 12 (dk_at dksX1_model_2 13 rfl rfl)
theorem dX1_model_62 : decode cX1_model 62 = .ok (.if_icmp .ne 5, 3) := dk_160 0 5 (dk_at dksX1_model_2 15 rfl rfl)
theorem dX1_model_65 : decode cX1_model 65 = .ok (.iconst (-1), 1) := dk_2 (dk_at dksX1_model_2 18 rfl rfl)
theorem dX1_model_66 : decode cX1_model 66 = .ok (.ireturn, 1) := dk_172 (dk_at dksX1_model_2 19 rfl rfl)
theorem dX1_model_67 : decode cX1_model 67 = .ok (.aload_n 0, 1) := dk_42 (dk_at dksX1_model_2 20 rfl rfl)
theorem dX1_model_68 : decode cX1_model 68 = .ok (.getfield 10, 3) := dk_180 0 10 (dk_at dksX1_model_2 21 rfl rfl)
theorem dX1_model_71 : decode cX1_model 71 = .ok (.getfield 87, 3) := dk_180 0 87 (dk_at dksX1_model_3 0 rfl rfl)
theorem dX1_model_74 : decode cX1_model 74 = .ok (.new 93, 3) := dk_187 0 93 (dk_at dksX1_model_3 3 rfl rfl)
theorem dX1_model_77 : decode cX1_model 77 = .ok (.dup, 1) := dk_89 (dk_at dksX1_model_3 6 rfl rfl)
theorem dX1_model_78 : decode cX1_model 78 = .ok (.iload_n 1, 1) := dk_27 (dk_at dksX1_model_3 7 rfl rfl)
theorem dX1_model_79 : decode cX1_model 79 = .ok (.iload_n 2, 1) := dk_28 (dk_at dksX1_model_3 8 rfl rfl)
theorem dX1_model_80 : decode cX1_model 80 = .ok (.iload_n 3, 1) := dk_29 (dk_at dksX1_model_3 9 rfl rfl)
theorem dX1_model_81 : decode cX1_model 81 = .ok (.iload 4, 2) := dk_21 4 (dk_at dksX1_model_3 10 rfl rfl)
theorem dX1_model_83 : decode cX1_model 83 = .ok (.invokespecial 146, 3) := dk_183 0 146 (dk_at dksX1_model_3 12 rfl rfl)
theorem dX1_model_86 : decode cX1_model 86 = .ok (.invokevirtual 123, 3) := dk_182 0 123 (dk_at dksX1_model_3 15 rfl rfl)
theorem dX1_model_89 : decode cX1_model 89 = .ok (.pop, 1) := dk_87 (dk_at dksX1_model_3 18 rfl rfl)
theorem dX1_model_90 : decode cX1_model 90 = .ok (.aload_n 0, 1) := dk_42 (dk_at dksX1_model_3 19 rfl rfl)
theorem dX1_model_91 : decode cX1_model 91 = .ok (.getfield 10, 3) := dk_180 0 10 (dk_at dksX1_model_3 20 rfl rfl)
theorem dX1_model_94 : decode cX1_model 94 = .ok (.getfield 87, 3) := dk_180 0 87 (dk_at dksX1_model_4 0 rfl rfl)
theorem dX1_model_97 : decode cX1_model 97 = .ok (.invokevirtual 74, 3) := dk_182 0 74 (dk_at dksX1_model_4 3 rfl rfl)
theorem dX1_model_100 : decode cX1_model 100 = .ok (.iconst 1, 1) := dk_4 (dk_at dksX1_model_4 6 rfl rfl)
theorem dX1_model_101 : decode cX1_model 101 = .ok (.isub, 1) := dk_100 (dk_at dksX1_model_4 7 rfl rfl)
theorem dX1_model_102 : decode cX1_model 102 = .ok (.ireturn, 1) := dk_172 (dk_at dksX1_model_4 8 rfl rfl)
abbrev cX1_isKind : ByteArray := prog_1_method_5_code
def yX1_isKind : MethodName := ⟨RX1, "isKind", "(I)Z"⟩
def dkwX1_isKind_0 : List UInt8 := [26, 155, 0, 12, 26, 7, 162, 0, 7, 4, 167, 0, 4, 3, 172]
abbrev dktX1_isKind_0 : List UInt8 := dkwX1_isKind_0 ++ []
theorem dksX1_isKind_0 : cX1_isKind.data.toList.drop 0 = dktX1_isKind_0 := by decide +kernel
theorem dX1_isKind_0 : decode cX1_isKind 0 = .ok (.iload_n 0, 1) := dk_26 (dk_at dksX1_isKind_0 0 rfl rfl)
theorem dX1_isKind_1 : decode cX1_isKind 1 = .ok (.ifCond .lt 12, 3) := dk_155 0 12 (dk_at dksX1_isKind_0 1 rfl rfl)
theorem dX1_isKind_4 : decode cX1_isKind 4 = .ok (.iload_n 0, 1) := dk_26 (dk_at dksX1_isKind_0 4 rfl rfl)
theorem dX1_isKind_5 : decode cX1_isKind 5 = .ok (.iconst 4, 1) := dk_7 (dk_at dksX1_isKind_0 5 rfl rfl)
theorem dX1_isKind_6 : decode cX1_isKind 6 = .ok (.if_icmp .ge 7, 3) := dk_162 0 7 (dk_at dksX1_isKind_0 6 rfl rfl)
theorem dX1_isKind_9 : decode cX1_isKind 9 = .ok (.iconst 1, 1) := dk_4 (dk_at dksX1_isKind_0 9 rfl rfl)
theorem dX1_isKind_10 : decode cX1_isKind 10 = .ok (.goto 4, 3) := dk_167 0 4 (dk_at dksX1_isKind_0 10 rfl rfl)
theorem dX1_isKind_13 : decode cX1_isKind 13 = .ok (.iconst 0, 1) := dk_3 (dk_at dksX1_isKind_0 13 rfl rfl)
theorem dX1_isKind_14 : decode cX1_isKind 14 = .ok (.ireturn, 1) := dk_172 (dk_at dksX1_isKind_0 14 rfl rfl)
abbrev cX1_days : ByteArray := prog_1_method_13_code
def yX1_days : MethodName := ⟨RX1, "days", "(I)I"⟩
def dkwX1_days_2 : List UInt8 := [180, 0, 149, 27, 96, 181, 0, 149, 42, 180, 0, 10, 180, 0, 149, 172]
abbrev dktX1_days_2 : List UInt8 := dkwX1_days_2 ++ []
def dkwX1_days_1 : List UInt8 := [180, 0, 149, 27, 96, 17, 78, 32, 164, 0, 11, 187, 0, 152, 89, 183, 0, 154, 191, 42, 180, 0, 10, 89]
abbrev dktX1_days_1 : List UInt8 := dkwX1_days_1 ++ dktX1_days_2
def dkwX1_days_0 : List UInt8 := [27, 155, 0, 14, 27, 17, 3, 231, 163, 0, 7, 4, 167, 0, 4, 3, 184, 0, 105, 42, 180, 0, 10]
abbrev dktX1_days_0 : List UInt8 := dkwX1_days_0 ++ dktX1_days_1
theorem dksX1_days_0 : cX1_days.data.toList.drop 0 = dktX1_days_0 := by decide +kernel
theorem dksX1_days_1 : cX1_days.data.toList.drop 23 = dktX1_days_1 := dk_seg dksX1_days_0 23 rfl rfl
theorem dksX1_days_2 : cX1_days.data.toList.drop 47 = dktX1_days_2 := dk_seg dksX1_days_1 24 rfl rfl
theorem dX1_days_0 : decode cX1_days 0 = .ok (.iload_n 1, 1) := dk_27 (dk_at dksX1_days_0 0 rfl rfl)
theorem dX1_days_1 : decode cX1_days 1 = .ok (.ifCond .lt 14, 3) := dk_155 0 14 (dk_at dksX1_days_0 1 rfl rfl)
theorem dX1_days_4 : decode cX1_days 4 = .ok (.iload_n 1, 1) := dk_27 (dk_at dksX1_days_0 4 rfl rfl)
theorem dX1_days_5 : decode cX1_days 5 = .ok (.sipush 999, 3) := dk_17 3 231 (dk_at dksX1_days_0 5 rfl rfl)
theorem dX1_days_8 : decode cX1_days 8 = .ok (.if_icmp .gt 7, 3) := dk_163 0 7 (dk_at dksX1_days_0 8 rfl rfl)
theorem dX1_days_11 : decode cX1_days 11 = .ok (.iconst 1, 1) := dk_4 (dk_at dksX1_days_0 11 rfl rfl)
theorem dX1_days_12 : decode cX1_days 12 = .ok (.goto 4, 3) := dk_167 0 4 (dk_at dksX1_days_0 12 rfl rfl)
theorem dX1_days_15 : decode cX1_days 15 = .ok (.iconst 0, 1) := dk_3 (dk_at dksX1_days_0 15 rfl rfl)
theorem dX1_days_16 : decode cX1_days 16 = .ok (.invokestatic 105, 3) := dk_184 0 105 (dk_at dksX1_days_0 16 rfl rfl)
theorem dX1_days_19 : decode cX1_days 19 = .ok (.aload_n 0, 1) := dk_42 (dk_at dksX1_days_0 19 rfl rfl)
theorem dX1_days_20 : decode cX1_days 20 = .ok (.getfield 10, 3) := dk_180 0 10 (dk_at dksX1_days_0 20 rfl rfl)
theorem dX1_days_23 : decode cX1_days 23 = .ok (.getfield 149, 3) := dk_180 0 149 (dk_at dksX1_days_1 0 rfl rfl)
theorem dX1_days_26 : decode cX1_days 26 = .ok (.iload_n 1, 1) := dk_27 (dk_at dksX1_days_1 3 rfl rfl)
theorem dX1_days_27 : decode cX1_days 27 = .ok (.iadd, 1) := dk_96 (dk_at dksX1_days_1 4 rfl rfl)
theorem dX1_days_28 : decode cX1_days 28 = .ok (.sipush 20000, 3) := dk_17 78 32 (dk_at dksX1_days_1 5 rfl rfl)
theorem dX1_days_31 : decode cX1_days 31 = .ok (.if_icmp .le 11, 3) := dk_164 0 11 (dk_at dksX1_days_1 8 rfl rfl)
theorem dX1_days_34 : decode cX1_days 34 = .ok (.new 152, 3) := dk_187 0 152 (dk_at dksX1_days_1 11 rfl rfl)
theorem dX1_days_37 : decode cX1_days 37 = .ok (.dup, 1) := dk_89 (dk_at dksX1_days_1 14 rfl rfl)
theorem dX1_days_38 : decode cX1_days 38 = .ok (.invokespecial 154, 3) := dk_183 0 154 (dk_at dksX1_days_1 15 rfl rfl)
theorem dX1_days_41 : decode cX1_days 41 = .ok (.athrow, 1) := dk_191 (dk_at dksX1_days_1 18 rfl rfl)
theorem dX1_days_42 : decode cX1_days 42 = .ok (.aload_n 0, 1) := dk_42 (dk_at dksX1_days_1 19 rfl rfl)
theorem dX1_days_43 : decode cX1_days 43 = .ok (.getfield 10, 3) := dk_180 0 10 (dk_at dksX1_days_1 20 rfl rfl)
theorem dX1_days_46 : decode cX1_days 46 = .ok (.dup, 1) := dk_89 (dk_at dksX1_days_1 23 rfl rfl)
theorem dX1_days_47 : decode cX1_days 47 = .ok (.getfield 149, 3) := dk_180 0 149 (dk_at dksX1_days_2 0 rfl rfl)
theorem dX1_days_50 : decode cX1_days 50 = .ok (.iload_n 1, 1) := dk_27 (dk_at dksX1_days_2 3 rfl rfl)
theorem dX1_days_51 : decode cX1_days 51 = .ok (.iadd, 1) := dk_96 (dk_at dksX1_days_2 4 rfl rfl)
theorem dX1_days_52 : decode cX1_days 52 = .ok (.putfield 149, 3) := dk_181 0 149 (dk_at dksX1_days_2 5 rfl rfl)
theorem dX1_days_55 : decode cX1_days 55 = .ok (.aload_n 0, 1) := dk_42 (dk_at dksX1_days_2 8 rfl rfl)
theorem dX1_days_56 : decode cX1_days 56 = .ok (.getfield 10, 3) := dk_180 0 10 (dk_at dksX1_days_2 9 rfl rfl)
theorem dX1_days_59 : decode cX1_days 59 = .ok (.getfield 149, 3) := dk_180 0 149 (dk_at dksX1_days_2 12 rfl rfl)
theorem dX1_days_62 : decode cX1_days 62 = .ok (.ireturn, 1) := dk_172 (dk_at dksX1_days_2 15 rfl rfl)
abbrev cX1_person : ByteArray := prog_1_method_15_code
def yX1_person : MethodName := ⟨RX1, "person", "(IIIIZ)I"⟩
def dkwX1_person_5 : List UInt8 := [100, 172]
abbrev dktX1_person_5 : List UInt8 := dkwX1_person_5 ++ []
def dkwX1_person_4 : List UInt8 := [180, 0, 10, 180, 0, 149, 183, 0, 159, 182, 0, 123, 87, 42, 180, 0, 10, 180, 0, 71, 182, 0, 74, 4]
abbrev dktX1_person_4 : List UInt8 := dkwX1_person_4 ++ dktX1_person_5
def dkwX1_person_3 : List UInt8 := [180, 0, 71, 187, 0, 85, 89, 27, 28, 29, 21, 4, 21, 5, 153, 0, 7, 4, 167, 0, 4, 3, 42]
abbrev dktX1_person_3 : List UInt8 := dkwX1_person_3 ++ dktX1_person_4
def dkwX1_person_2 : List UInt8 := [184, 0, 105, 42, 180, 0, 10, 180, 0, 71, 182, 0, 74, 16, 10, 160, 0, 5, 2, 172, 42, 180, 0, 10]
abbrev dktX1_person_2 : List UInt8 := dkwX1_person_2 ++ dktX1_person_3
def dkwX1_person_1 : List UInt8 := [42, 180, 0, 10, 180, 0, 149, 163, 0, 16, 5, 21, 4, 184, 0, 155, 153, 0, 7, 4, 167, 0, 4, 3]
abbrev dktX1_person_1 : List UInt8 := dkwX1_person_1 ++ dktX1_person_2
def dkwX1_person_0 : List UInt8 := [3, 27, 184, 0, 155, 153, 0, 42, 4, 28, 184, 0, 155, 153, 0, 34, 29, 17, 138, 208, 161, 0, 27, 29]
abbrev dktX1_person_0 : List UInt8 := dkwX1_person_0 ++ dktX1_person_1
theorem dksX1_person_0 : cX1_person.data.toList.drop 0 = dktX1_person_0 := by decide +kernel
theorem dksX1_person_1 : cX1_person.data.toList.drop 24 = dktX1_person_1 := dk_seg dksX1_person_0 24 rfl rfl
theorem dksX1_person_2 : cX1_person.data.toList.drop 48 = dktX1_person_2 := dk_seg dksX1_person_1 24 rfl rfl
theorem dksX1_person_3 : cX1_person.data.toList.drop 72 = dktX1_person_3 := dk_seg dksX1_person_2 24 rfl rfl
theorem dksX1_person_4 : cX1_person.data.toList.drop 95 = dktX1_person_4 := dk_seg dksX1_person_3 23 rfl rfl
theorem dksX1_person_5 : cX1_person.data.toList.drop 119 = dktX1_person_5 := dk_seg dksX1_person_4 24 rfl rfl
theorem dX1_person_0 : decode cX1_person 0 = .ok (.iconst 0, 1) := dk_3 (dk_at dksX1_person_0 0 rfl rfl)
theorem dX1_person_1 : decode cX1_person 1 = .ok (.iload_n 1, 1) := dk_27 (dk_at dksX1_person_0 1 rfl rfl)
theorem dX1_person_2 : decode cX1_person 2 = .ok (.invokestatic 155, 3) := dk_184 0 155 (dk_at dksX1_person_0 2 rfl rfl)
theorem dX1_person_5 : decode cX1_person 5 = .ok (.ifCond .eq 42, 3) := dk_153 0 42 (dk_at dksX1_person_0 5 rfl rfl)
theorem dX1_person_8 : decode cX1_person 8 = .ok (.iconst 1, 1) := dk_4 (dk_at dksX1_person_0 8 rfl rfl)
theorem dX1_person_9 : decode cX1_person 9 = .ok (.iload_n 2, 1) := dk_28 (dk_at dksX1_person_0 9 rfl rfl)
theorem dX1_person_10 : decode cX1_person 10 = .ok (.invokestatic 155, 3) := dk_184 0 155 (dk_at dksX1_person_0 10 rfl rfl)
theorem dX1_person_13 : decode cX1_person 13 = .ok (.ifCond .eq 34, 3) := dk_153 0 34 (dk_at dksX1_person_0 13 rfl rfl)
theorem dX1_person_16 : decode cX1_person 16 = .ok (.iload_n 3, 1) := dk_29 (dk_at dksX1_person_0 16 rfl rfl)
theorem dX1_person_17 : decode cX1_person 17 = .ok (.sipush (-30000), 3) := dk_17 138 208 (dk_at dksX1_person_0 17 rfl rfl)
theorem dX1_person_20 : decode cX1_person 20 = .ok (.if_icmp .lt 27, 3) := dk_161 0 27 (dk_at dksX1_person_0 20 rfl rfl)
theorem dX1_person_23 : decode cX1_person 23 = .ok (.iload_n 3, 1) := dk_29 (dk_at dksX1_person_0 23 rfl rfl)
theorem dX1_person_24 : decode cX1_person 24 = .ok (.aload_n 0, 1) := dk_42 (dk_at dksX1_person_1 0 rfl rfl)
theorem dX1_person_25 : decode cX1_person 25 = .ok (.getfield 10, 3) := dk_180 0 10 (dk_at dksX1_person_1 1 rfl rfl)
theorem dX1_person_28 : decode cX1_person 28 = .ok (.getfield 149, 3) := dk_180 0 149 (dk_at dksX1_person_1 4 rfl rfl)
theorem dX1_person_31 : decode cX1_person 31 = .ok (.if_icmp .gt 16, 3) := dk_163 0 16 (dk_at dksX1_person_1 7 rfl rfl)
theorem dX1_person_34 : decode cX1_person 34 = .ok (.iconst 2, 1) := dk_5 (dk_at dksX1_person_1 10 rfl rfl)
theorem dX1_person_35 : decode cX1_person 35 = .ok (.iload 4, 2) := dk_21 4 (dk_at dksX1_person_1 11 rfl rfl)
theorem dX1_person_37 : decode cX1_person 37 = .ok (.invokestatic 155, 3) := dk_184 0 155 (dk_at dksX1_person_1 13 rfl rfl)
theorem dX1_person_40 : decode cX1_person 40 = .ok (.ifCond .eq 7, 3) := dk_153 0 7 (dk_at dksX1_person_1 16 rfl rfl)
theorem dX1_person_43 : decode cX1_person 43 = .ok (.iconst 1, 1) := dk_4 (dk_at dksX1_person_1 19 rfl rfl)
theorem dX1_person_44 : decode cX1_person 44 = .ok (.goto 4, 3) := dk_167 0 4 (dk_at dksX1_person_1 20 rfl rfl)
theorem dX1_person_47 : decode cX1_person 47 = .ok (.iconst 0, 1) := dk_3 (dk_at dksX1_person_1 23 rfl rfl)
theorem dX1_person_48 : decode cX1_person 48 = .ok (.invokestatic 105, 3) := dk_184 0 105 (dk_at dksX1_person_2 0 rfl rfl)
theorem dX1_person_51 : decode cX1_person 51 = .ok (.aload_n 0, 1) := dk_42 (dk_at dksX1_person_2 3 rfl rfl)
theorem dX1_person_52 : decode cX1_person 52 = .ok (.getfield 10, 3) := dk_180 0 10 (dk_at dksX1_person_2 4 rfl rfl)
theorem dX1_person_55 : decode cX1_person 55 = .ok (.getfield 71, 3) := dk_180 0 71 (dk_at dksX1_person_2 7 rfl rfl)
theorem dX1_person_58 : decode cX1_person 58 = .ok (.invokevirtual 74, 3) := dk_182 0 74 (dk_at dksX1_person_2 10 rfl rfl)
theorem dX1_person_61 : decode cX1_person 61 = .ok (.bipush 10, 2) := dk_16 10 (dk_at dksX1_person_2 13 rfl rfl)
theorem dX1_person_63 : decode cX1_person 63 = .ok (.if_icmp .ne 5, 3) := dk_160 0 5 (dk_at dksX1_person_2 15 rfl rfl)
theorem dX1_person_66 : decode cX1_person 66 = .ok (.iconst (-1), 1) := dk_2 (dk_at dksX1_person_2 18 rfl rfl)
theorem dX1_person_67 : decode cX1_person 67 = .ok (.ireturn, 1) := dk_172 (dk_at dksX1_person_2 19 rfl rfl)
theorem dX1_person_68 : decode cX1_person 68 = .ok (.aload_n 0, 1) := dk_42 (dk_at dksX1_person_2 20 rfl rfl)
theorem dX1_person_69 : decode cX1_person 69 = .ok (.getfield 10, 3) := dk_180 0 10 (dk_at dksX1_person_2 21 rfl rfl)
theorem dX1_person_72 : decode cX1_person 72 = .ok (.getfield 71, 3) := dk_180 0 71 (dk_at dksX1_person_3 0 rfl rfl)
theorem dX1_person_75 : decode cX1_person 75 = .ok (.new 85, 3) := dk_187 0 85 (dk_at dksX1_person_3 3 rfl rfl)
theorem dX1_person_78 : decode cX1_person 78 = .ok (.dup, 1) := dk_89 (dk_at dksX1_person_3 6 rfl rfl)
theorem dX1_person_79 : decode cX1_person 79 = .ok (.iload_n 1, 1) := dk_27 (dk_at dksX1_person_3 7 rfl rfl)
theorem dX1_person_80 : decode cX1_person 80 = .ok (.iload_n 2, 1) := dk_28 (dk_at dksX1_person_3 8 rfl rfl)
theorem dX1_person_81 : decode cX1_person 81 = .ok (.iload_n 3, 1) := dk_29 (dk_at dksX1_person_3 9 rfl rfl)
theorem dX1_person_82 : decode cX1_person 82 = .ok (.iload 4, 2) := dk_21 4 (dk_at dksX1_person_3 10 rfl rfl)
theorem dX1_person_84 : decode cX1_person 84 = .ok (.iload 5, 2) := dk_21 5 (dk_at dksX1_person_3 12 rfl rfl)
theorem dX1_person_86 : decode cX1_person 86 = .ok (.ifCond .eq 7, 3) := dk_153 0 7 (dk_at dksX1_person_3 14 rfl rfl)
theorem dX1_person_89 : decode cX1_person 89 = .ok (.iconst 1, 1) := dk_4 (dk_at dksX1_person_3 17 rfl rfl)
theorem dX1_person_90 : decode cX1_person 90 = .ok (.goto 4, 3) := dk_167 0 4 (dk_at dksX1_person_3 18 rfl rfl)
theorem dX1_person_93 : decode cX1_person 93 = .ok (.iconst 0, 1) := dk_3 (dk_at dksX1_person_3 21 rfl rfl)
theorem dX1_person_94 : decode cX1_person 94 = .ok (.aload_n 0, 1) := dk_42 (dk_at dksX1_person_3 22 rfl rfl)
theorem dX1_person_95 : decode cX1_person 95 = .ok (.getfield 10, 3) := dk_180 0 10 (dk_at dksX1_person_4 0 rfl rfl)
theorem dX1_person_98 : decode cX1_person 98 = .ok (.getfield 149, 3) := dk_180 0 149 (dk_at dksX1_person_4 3 rfl rfl)
theorem dX1_person_101 : decode cX1_person 101 = .ok (.invokespecial 159, 3) := dk_183 0 159 (dk_at dksX1_person_4 6 rfl rfl)
theorem dX1_person_104 : decode cX1_person 104 = .ok (.invokevirtual 123, 3) := dk_182 0 123 (dk_at dksX1_person_4 9 rfl rfl)
theorem dX1_person_107 : decode cX1_person 107 = .ok (.pop, 1) := dk_87 (dk_at dksX1_person_4 12 rfl rfl)
theorem dX1_person_108 : decode cX1_person 108 = .ok (.aload_n 0, 1) := dk_42 (dk_at dksX1_person_4 13 rfl rfl)
theorem dX1_person_109 : decode cX1_person 109 = .ok (.getfield 10, 3) := dk_180 0 10 (dk_at dksX1_person_4 14 rfl rfl)
theorem dX1_person_112 : decode cX1_person 112 = .ok (.getfield 71, 3) := dk_180 0 71 (dk_at dksX1_person_4 17 rfl rfl)
theorem dX1_person_115 : decode cX1_person 115 = .ok (.invokevirtual 74, 3) := dk_182 0 74 (dk_at dksX1_person_4 20 rfl rfl)
theorem dX1_person_118 : decode cX1_person 118 = .ok (.iconst 1, 1) := dk_4 (dk_at dksX1_person_4 23 rfl rfl)
theorem dX1_person_119 : decode cX1_person 119 = .ok (.isub, 1) := dk_100 (dk_at dksX1_person_5 0 rfl rfl)
theorem dX1_person_120 : decode cX1_person 120 = .ok (.ireturn, 1) := dk_172 (dk_at dksX1_person_5 1 rfl rfl)
abbrev cX1_isTold : ByteArray := prog_1_method_14_code
def yX1_isTold : MethodName := ⟨RX1, "isTold", "(II)Z"⟩
def dkwX1_isTold_4 : List UInt8 := [172, 27, 153, 0, 8, 27, 4, 160, 0, 7, 4, 167, 0, 4, 3, 172]
abbrev dktX1_isTold_4 : List UInt8 := dkwX1_isTold_4 ++ []
def dkwX1_isTold_3 : List UInt8 := [162, 0, 7, 4, 167, 0, 4, 3, 172, 27, 155, 0, 13, 27, 16, 99, 163, 0, 7, 4, 167, 0, 4, 3]
abbrev dktX1_isTold_3 : List UInt8 := dkwX1_isTold_3 ++ dktX1_isTold_4
def dkwX1_isTold_2 : List UInt8 := [27, 4, 161, 0, 14, 27, 17, 0, 200, 163, 0, 7, 4, 167, 0, 4, 3, 172, 27, 155, 0, 12, 27, 7]
abbrev dktX1_isTold_2 : List UInt8 := dkwX1_isTold_2 ++ dktX1_isTold_3
def dkwX1_isTold_1 : List UInt8 := [170, 0, 0, 0, 0, 0, 76, 0, 0, 0, 0, 0, 0, 0, 2, 0, 0, 0, 27, 0, 0, 0, 45, 0, 0, 0, 60]
abbrev dktX1_isTold_1 : List UInt8 := dkwX1_isTold_1 ++ dktX1_isTold_2
def dkwX1_isTold_0 : List UInt8 := [26]
abbrev dktX1_isTold_0 : List UInt8 := dkwX1_isTold_0 ++ dktX1_isTold_1
theorem dksX1_isTold_0 : cX1_isTold.data.toList.drop 0 = dktX1_isTold_0 := by decide +kernel
theorem dksX1_isTold_1 : cX1_isTold.data.toList.drop 1 = dktX1_isTold_1 := dk_seg dksX1_isTold_0 1 rfl rfl
theorem dksX1_isTold_2 : cX1_isTold.data.toList.drop 28 = dktX1_isTold_2 := dk_seg dksX1_isTold_1 27 rfl rfl
theorem dksX1_isTold_3 : cX1_isTold.data.toList.drop 52 = dktX1_isTold_3 := dk_seg dksX1_isTold_2 24 rfl rfl
theorem dksX1_isTold_4 : cX1_isTold.data.toList.drop 76 = dktX1_isTold_4 := dk_seg dksX1_isTold_3 24 rfl rfl
theorem dX1_isTold_0 : decode cX1_isTold 0 = .ok (.iload_n 0, 1) := dk_26 (dk_at dksX1_isTold_0 0 rfl rfl)
theorem dX1_isTold_1 : decode cX1_isTold 1 = .ok (.tableswitch 76 0 2 #[27, 45, 60], 27) := by decide +kernel
theorem dX1_isTold_28 : decode cX1_isTold 28 = .ok (.iload_n 1, 1) := dk_27 (dk_at dksX1_isTold_2 0 rfl rfl)
theorem dX1_isTold_29 : decode cX1_isTold 29 = .ok (.iconst 1, 1) := dk_4 (dk_at dksX1_isTold_2 1 rfl rfl)
theorem dX1_isTold_30 : decode cX1_isTold 30 = .ok (.if_icmp .lt 14, 3) := dk_161 0 14 (dk_at dksX1_isTold_2 2 rfl rfl)
theorem dX1_isTold_33 : decode cX1_isTold 33 = .ok (.iload_n 1, 1) := dk_27 (dk_at dksX1_isTold_2 5 rfl rfl)
theorem dX1_isTold_34 : decode cX1_isTold 34 = .ok (.sipush 200, 3) := dk_17 0 200 (dk_at dksX1_isTold_2 6 rfl rfl)
theorem dX1_isTold_37 : decode cX1_isTold 37 = .ok (.if_icmp .gt 7, 3) := dk_163 0 7 (dk_at dksX1_isTold_2 9 rfl rfl)
theorem dX1_isTold_40 : decode cX1_isTold 40 = .ok (.iconst 1, 1) := dk_4 (dk_at dksX1_isTold_2 12 rfl rfl)
theorem dX1_isTold_41 : decode cX1_isTold 41 = .ok (.goto 4, 3) := dk_167 0 4 (dk_at dksX1_isTold_2 13 rfl rfl)
theorem dX1_isTold_44 : decode cX1_isTold 44 = .ok (.iconst 0, 1) := dk_3 (dk_at dksX1_isTold_2 16 rfl rfl)
theorem dX1_isTold_45 : decode cX1_isTold 45 = .ok (.ireturn, 1) := dk_172 (dk_at dksX1_isTold_2 17 rfl rfl)
theorem dX1_isTold_46 : decode cX1_isTold 46 = .ok (.iload_n 1, 1) := dk_27 (dk_at dksX1_isTold_2 18 rfl rfl)
theorem dX1_isTold_47 : decode cX1_isTold 47 = .ok (.ifCond .lt 12, 3) := dk_155 0 12 (dk_at dksX1_isTold_2 19 rfl rfl)
theorem dX1_isTold_50 : decode cX1_isTold 50 = .ok (.iload_n 1, 1) := dk_27 (dk_at dksX1_isTold_2 22 rfl rfl)
theorem dX1_isTold_51 : decode cX1_isTold 51 = .ok (.iconst 4, 1) := dk_7 (dk_at dksX1_isTold_2 23 rfl rfl)
theorem dX1_isTold_52 : decode cX1_isTold 52 = .ok (.if_icmp .ge 7, 3) := dk_162 0 7 (dk_at dksX1_isTold_3 0 rfl rfl)
theorem dX1_isTold_55 : decode cX1_isTold 55 = .ok (.iconst 1, 1) := dk_4 (dk_at dksX1_isTold_3 3 rfl rfl)
theorem dX1_isTold_56 : decode cX1_isTold 56 = .ok (.goto 4, 3) := dk_167 0 4 (dk_at dksX1_isTold_3 4 rfl rfl)
theorem dX1_isTold_59 : decode cX1_isTold 59 = .ok (.iconst 0, 1) := dk_3 (dk_at dksX1_isTold_3 7 rfl rfl)
theorem dX1_isTold_60 : decode cX1_isTold 60 = .ok (.ireturn, 1) := dk_172 (dk_at dksX1_isTold_3 8 rfl rfl)
theorem dX1_isTold_61 : decode cX1_isTold 61 = .ok (.iload_n 1, 1) := dk_27 (dk_at dksX1_isTold_3 9 rfl rfl)
theorem dX1_isTold_62 : decode cX1_isTold 62 = .ok (.ifCond .lt 13, 3) := dk_155 0 13 (dk_at dksX1_isTold_3 10 rfl rfl)
theorem dX1_isTold_65 : decode cX1_isTold 65 = .ok (.iload_n 1, 1) := dk_27 (dk_at dksX1_isTold_3 13 rfl rfl)
theorem dX1_isTold_66 : decode cX1_isTold 66 = .ok (.bipush 99, 2) := dk_16 99 (dk_at dksX1_isTold_3 14 rfl rfl)
theorem dX1_isTold_68 : decode cX1_isTold 68 = .ok (.if_icmp .gt 7, 3) := dk_163 0 7 (dk_at dksX1_isTold_3 16 rfl rfl)
theorem dX1_isTold_71 : decode cX1_isTold 71 = .ok (.iconst 1, 1) := dk_4 (dk_at dksX1_isTold_3 19 rfl rfl)
theorem dX1_isTold_72 : decode cX1_isTold 72 = .ok (.goto 4, 3) := dk_167 0 4 (dk_at dksX1_isTold_3 20 rfl rfl)
theorem dX1_isTold_75 : decode cX1_isTold 75 = .ok (.iconst 0, 1) := dk_3 (dk_at dksX1_isTold_3 23 rfl rfl)
theorem dX1_isTold_76 : decode cX1_isTold 76 = .ok (.ireturn, 1) := dk_172 (dk_at dksX1_isTold_4 0 rfl rfl)
theorem dX1_isTold_77 : decode cX1_isTold 77 = .ok (.iload_n 1, 1) := dk_27 (dk_at dksX1_isTold_4 1 rfl rfl)
theorem dX1_isTold_78 : decode cX1_isTold 78 = .ok (.ifCond .eq 8, 3) := dk_153 0 8 (dk_at dksX1_isTold_4 2 rfl rfl)
theorem dX1_isTold_81 : decode cX1_isTold 81 = .ok (.iload_n 1, 1) := dk_27 (dk_at dksX1_isTold_4 5 rfl rfl)
theorem dX1_isTold_82 : decode cX1_isTold 82 = .ok (.iconst 1, 1) := dk_4 (dk_at dksX1_isTold_4 6 rfl rfl)
theorem dX1_isTold_83 : decode cX1_isTold 83 = .ok (.if_icmp .ne 7, 3) := dk_160 0 7 (dk_at dksX1_isTold_4 7 rfl rfl)
theorem dX1_isTold_86 : decode cX1_isTold 86 = .ok (.iconst 1, 1) := dk_4 (dk_at dksX1_isTold_4 10 rfl rfl)
theorem dX1_isTold_87 : decode cX1_isTold 87 = .ok (.goto 4, 3) := dk_167 0 4 (dk_at dksX1_isTold_4 11 rfl rfl)
theorem dX1_isTold_90 : decode cX1_isTold 90 = .ok (.iconst 0, 1) := dk_3 (dk_at dksX1_isTold_4 14 rfl rfl)
theorem dX1_isTold_91 : decode cX1_isTold 91 = .ok (.ireturn, 1) := dk_172 (dk_at dksX1_isTold_4 15 rfl rfl)
abbrev cX1_stump : ByteArray := prog_1_method_16_code
def yX1_stump : MethodName := ⟨RX1, "stump", "(III)I"⟩
def dkwX1_stump_3 : List UInt8 := [180, 0, 149, 181, 0, 174, 21, 5, 172]
abbrev dktX1_stump_3 : List UInt8 := dkwX1_stump_3 ++ []
def dkwX1_stump_2 : List UInt8 := [182, 0, 166, 54, 5, 25, 4, 28, 181, 0, 168, 25, 4, 29, 181, 0, 171, 25, 4, 42, 180, 0, 10]
abbrev dktX1_stump_2 : List UInt8 := dkwX1_stump_2 ++ dktX1_stump_3
def dkwX1_stump_1 : List UInt8 := [29, 16, 99, 163, 0, 7, 4, 167, 0, 4, 3, 184, 0, 105, 25, 4, 42, 180, 0, 10, 180, 0, 149]
abbrev dktX1_stump_1 : List UInt8 := dkwX1_stump_1 ++ dktX1_stump_2
def dkwX1_stump_0 : List UInt8 := [42, 27, 182, 0, 162, 58, 4, 28, 155, 0, 26, 28, 17, 3, 231, 163, 0, 19, 29, 16, 157, 161, 0, 13]
abbrev dktX1_stump_0 : List UInt8 := dkwX1_stump_0 ++ dktX1_stump_1
theorem dksX1_stump_0 : cX1_stump.data.toList.drop 0 = dktX1_stump_0 := by decide +kernel
theorem dksX1_stump_1 : cX1_stump.data.toList.drop 24 = dktX1_stump_1 := dk_seg dksX1_stump_0 24 rfl rfl
theorem dksX1_stump_2 : cX1_stump.data.toList.drop 47 = dktX1_stump_2 := dk_seg dksX1_stump_1 23 rfl rfl
theorem dksX1_stump_3 : cX1_stump.data.toList.drop 70 = dktX1_stump_3 := dk_seg dksX1_stump_2 23 rfl rfl
theorem dX1_stump_0 : decode cX1_stump 0 = .ok (.aload_n 0, 1) := dk_42 (dk_at dksX1_stump_0 0 rfl rfl)
theorem dX1_stump_1 : decode cX1_stump 1 = .ok (.iload_n 1, 1) := dk_27 (dk_at dksX1_stump_0 1 rfl rfl)
theorem dX1_stump_2 : decode cX1_stump 2 = .ok (.invokevirtual 162, 3) := dk_182 0 162 (dk_at dksX1_stump_0 2 rfl rfl)
theorem dX1_stump_5 : decode cX1_stump 5 = .ok (.astore 4, 2) := dk_58 4 (dk_at dksX1_stump_0 5 rfl rfl)
theorem dX1_stump_7 : decode cX1_stump 7 = .ok (.iload_n 2, 1) := dk_28 (dk_at dksX1_stump_0 7 rfl rfl)
theorem dX1_stump_8 : decode cX1_stump 8 = .ok (.ifCond .lt 26, 3) := dk_155 0 26 (dk_at dksX1_stump_0 8 rfl rfl)
theorem dX1_stump_11 : decode cX1_stump 11 = .ok (.iload_n 2, 1) := dk_28 (dk_at dksX1_stump_0 11 rfl rfl)
theorem dX1_stump_12 : decode cX1_stump 12 = .ok (.sipush 999, 3) := dk_17 3 231 (dk_at dksX1_stump_0 12 rfl rfl)
theorem dX1_stump_15 : decode cX1_stump 15 = .ok (.if_icmp .gt 19, 3) := dk_163 0 19 (dk_at dksX1_stump_0 15 rfl rfl)
theorem dX1_stump_18 : decode cX1_stump 18 = .ok (.iload_n 3, 1) := dk_29 (dk_at dksX1_stump_0 18 rfl rfl)
theorem dX1_stump_19 : decode cX1_stump 19 = .ok (.bipush (-99), 2) := dk_16 157 (dk_at dksX1_stump_0 19 rfl rfl)
theorem dX1_stump_21 : decode cX1_stump 21 = .ok (.if_icmp .lt 13, 3) := dk_161 0 13 (dk_at dksX1_stump_0 21 rfl rfl)
theorem dX1_stump_24 : decode cX1_stump 24 = .ok (.iload_n 3, 1) := dk_29 (dk_at dksX1_stump_1 0 rfl rfl)
theorem dX1_stump_25 : decode cX1_stump 25 = .ok (.bipush 99, 2) := dk_16 99 (dk_at dksX1_stump_1 1 rfl rfl)
theorem dX1_stump_27 : decode cX1_stump 27 = .ok (.if_icmp .gt 7, 3) := dk_163 0 7 (dk_at dksX1_stump_1 3 rfl rfl)
theorem dX1_stump_30 : decode cX1_stump 30 = .ok (.iconst 1, 1) := dk_4 (dk_at dksX1_stump_1 6 rfl rfl)
theorem dX1_stump_31 : decode cX1_stump 31 = .ok (.goto 4, 3) := dk_167 0 4 (dk_at dksX1_stump_1 7 rfl rfl)
theorem dX1_stump_34 : decode cX1_stump 34 = .ok (.iconst 0, 1) := dk_3 (dk_at dksX1_stump_1 10 rfl rfl)
theorem dX1_stump_35 : decode cX1_stump 35 = .ok (.invokestatic 105, 3) := dk_184 0 105 (dk_at dksX1_stump_1 11 rfl rfl)
theorem dX1_stump_38 : decode cX1_stump 38 = .ok (.aload 4, 2) := dk_25 4 (dk_at dksX1_stump_1 14 rfl rfl)
theorem dX1_stump_40 : decode cX1_stump 40 = .ok (.aload_n 0, 1) := dk_42 (dk_at dksX1_stump_1 16 rfl rfl)
theorem dX1_stump_41 : decode cX1_stump 41 = .ok (.getfield 10, 3) := dk_180 0 10 (dk_at dksX1_stump_1 17 rfl rfl)
theorem dX1_stump_44 : decode cX1_stump 44 = .ok (.getfield 149, 3) := dk_180 0 149 (dk_at dksX1_stump_1 20 rfl rfl)
theorem dX1_stump_47 : decode cX1_stump 47 = .ok (.invokevirtual 166, 3) := dk_182 0 166 (dk_at dksX1_stump_2 0 rfl rfl)
theorem dX1_stump_50 : decode cX1_stump 50 = .ok (.istore 5, 2) := dk_54 5 (dk_at dksX1_stump_2 3 rfl rfl)
theorem dX1_stump_52 : decode cX1_stump 52 = .ok (.aload 4, 2) := dk_25 4 (dk_at dksX1_stump_2 5 rfl rfl)
theorem dX1_stump_54 : decode cX1_stump 54 = .ok (.iload_n 2, 1) := dk_28 (dk_at dksX1_stump_2 7 rfl rfl)
theorem dX1_stump_55 : decode cX1_stump 55 = .ok (.putfield 168, 3) := dk_181 0 168 (dk_at dksX1_stump_2 8 rfl rfl)
theorem dX1_stump_58 : decode cX1_stump 58 = .ok (.aload 4, 2) := dk_25 4 (dk_at dksX1_stump_2 11 rfl rfl)
theorem dX1_stump_60 : decode cX1_stump 60 = .ok (.iload_n 3, 1) := dk_29 (dk_at dksX1_stump_2 13 rfl rfl)
theorem dX1_stump_61 : decode cX1_stump 61 = .ok (.putfield 171, 3) := dk_181 0 171 (dk_at dksX1_stump_2 14 rfl rfl)
theorem dX1_stump_64 : decode cX1_stump 64 = .ok (.aload 4, 2) := dk_25 4 (dk_at dksX1_stump_2 17 rfl rfl)
theorem dX1_stump_66 : decode cX1_stump 66 = .ok (.aload_n 0, 1) := dk_42 (dk_at dksX1_stump_2 19 rfl rfl)
theorem dX1_stump_67 : decode cX1_stump 67 = .ok (.getfield 10, 3) := dk_180 0 10 (dk_at dksX1_stump_2 20 rfl rfl)
theorem dX1_stump_70 : decode cX1_stump 70 = .ok (.getfield 149, 3) := dk_180 0 149 (dk_at dksX1_stump_3 0 rfl rfl)
theorem dX1_stump_73 : decode cX1_stump 73 = .ok (.putfield 174, 3) := dk_181 0 174 (dk_at dksX1_stump_3 3 rfl rfl)
theorem dX1_stump_76 : decode cX1_stump 76 = .ok (.iload 5, 2) := dk_21 5 (dk_at dksX1_stump_3 6 rfl rfl)
theorem dX1_stump_78 : decode cX1_stump 78 = .ok (.ireturn, 1) := dk_172 (dk_at dksX1_stump_3 8 rfl rfl)
abbrev cX1_personOf : ByteArray := prog_1_method_3_code
def yX1_personOf : MethodName := ⟨RX1, "personOf", "(I)LLimbBenches$Person;"⟩
def dkwX1_personOf_1 : List UInt8 := [183, 0, 80, 191, 42, 180, 0, 10, 180, 0, 71, 27, 182, 0, 81, 192, 0, 85, 176]
abbrev dktX1_personOf_1 : List UInt8 := dkwX1_personOf_1 ++ []
def dkwX1_personOf_0 : List UInt8 := [27, 155, 0, 17, 27, 42, 180, 0, 10, 180, 0, 71, 182, 0, 74, 161, 0, 11, 187, 0, 78, 89]
abbrev dktX1_personOf_0 : List UInt8 := dkwX1_personOf_0 ++ dktX1_personOf_1
theorem dksX1_personOf_0 : cX1_personOf.data.toList.drop 0 = dktX1_personOf_0 := by decide +kernel
theorem dksX1_personOf_1 : cX1_personOf.data.toList.drop 22 = dktX1_personOf_1 := dk_seg dksX1_personOf_0 22 rfl rfl
theorem dX1_personOf_0 : decode cX1_personOf 0 = .ok (.iload_n 1, 1) := dk_27 (dk_at dksX1_personOf_0 0 rfl rfl)
theorem dX1_personOf_1 : decode cX1_personOf 1 = .ok (.ifCond .lt 17, 3) := dk_155 0 17 (dk_at dksX1_personOf_0 1 rfl rfl)
theorem dX1_personOf_4 : decode cX1_personOf 4 = .ok (.iload_n 1, 1) := dk_27 (dk_at dksX1_personOf_0 4 rfl rfl)
theorem dX1_personOf_5 : decode cX1_personOf 5 = .ok (.aload_n 0, 1) := dk_42 (dk_at dksX1_personOf_0 5 rfl rfl)
theorem dX1_personOf_6 : decode cX1_personOf 6 = .ok (.getfield 10, 3) := dk_180 0 10 (dk_at dksX1_personOf_0 6 rfl rfl)
theorem dX1_personOf_9 : decode cX1_personOf 9 = .ok (.getfield 71, 3) := dk_180 0 71 (dk_at dksX1_personOf_0 9 rfl rfl)
theorem dX1_personOf_12 : decode cX1_personOf 12 = .ok (.invokevirtual 74, 3) := dk_182 0 74 (dk_at dksX1_personOf_0 12 rfl rfl)
theorem dX1_personOf_15 : decode cX1_personOf 15 = .ok (.if_icmp .lt 11, 3) := dk_161 0 11 (dk_at dksX1_personOf_0 15 rfl rfl)
theorem dX1_personOf_18 : decode cX1_personOf 18 = .ok (.new 78, 3) := dk_187 0 78 (dk_at dksX1_personOf_0 18 rfl rfl)
theorem dX1_personOf_21 : decode cX1_personOf 21 = .ok (.dup, 1) := dk_89 (dk_at dksX1_personOf_0 21 rfl rfl)
theorem dX1_personOf_22 : decode cX1_personOf 22 = .ok (.invokespecial 80, 3) := dk_183 0 80 (dk_at dksX1_personOf_1 0 rfl rfl)
theorem dX1_personOf_25 : decode cX1_personOf 25 = .ok (.athrow, 1) := dk_191 (dk_at dksX1_personOf_1 3 rfl rfl)
theorem dX1_personOf_26 : decode cX1_personOf 26 = .ok (.aload_n 0, 1) := dk_42 (dk_at dksX1_personOf_1 4 rfl rfl)
theorem dX1_personOf_27 : decode cX1_personOf 27 = .ok (.getfield 10, 3) := dk_180 0 10 (dk_at dksX1_personOf_1 5 rfl rfl)
theorem dX1_personOf_30 : decode cX1_personOf 30 = .ok (.getfield 71, 3) := dk_180 0 71 (dk_at dksX1_personOf_1 8 rfl rfl)
theorem dX1_personOf_33 : decode cX1_personOf 33 = .ok (.iload_n 1, 1) := dk_27 (dk_at dksX1_personOf_1 11 rfl rfl)
theorem dX1_personOf_34 : decode cX1_personOf 34 = .ok (.invokevirtual 81, 3) := dk_182 0 81 (dk_at dksX1_personOf_1 12 rfl rfl)
theorem dX1_personOf_37 : decode cX1_personOf 37 = .ok (.checkcast 85, 3) := dk_192 0 85 (dk_at dksX1_personOf_1 15 rfl rfl)
theorem dX1_personOf_40 : decode cX1_personOf 40 = .ok (.areturn, 1) := dk_176 (dk_at dksX1_personOf_1 18 rfl rfl)
abbrev cX1_change : ByteArray := prog_1_method_17_code
def yX1_change : MethodName := ⟨RX1, "change", "(III)I"⟩
def dkwX1_change_6 : List UInt8 := [167, 0, 9, 25, 4, 29, 181, 0, 186, 21, 5, 172]
abbrev dktX1_change_6 : List UInt8 := dkwX1_change_6 ++ []
def dkwX1_change_5 : List UInt8 := [25, 4, 29, 181, 0, 177, 167, 0, 27, 25, 4, 29, 181, 0, 180, 167, 0, 18, 25, 4, 29, 181, 0, 183]
abbrev dktX1_change_5 : List UInt8 := dkwX1_change_5 ++ dktX1_change_6
def dkwX1_change_4 : List UInt8 := [170, 0, 0, 0, 0, 53, 0, 0, 0, 0, 0, 0, 0, 2, 0, 0, 0, 26, 0, 0, 0, 35, 0, 0, 0, 44]
abbrev dktX1_change_4 : List UInt8 := dkwX1_change_4 ++ dktX1_change_5
def dkwX1_change_3 : List UInt8 := [25, 4, 180, 0, 186, 54, 5, 28]
abbrev dktX1_change_3 : List UInt8 := dkwX1_change_3 ++ dktX1_change_4
def dkwX1_change_2 : List UInt8 := [160, 0, 11, 25, 4, 180, 0, 180, 167, 0, 21, 28, 5, 160, 0, 11, 25, 4, 180, 0, 183, 167, 0, 8]
abbrev dktX1_change_2 : List UInt8 := dkwX1_change_2 ++ dktX1_change_3
def dkwX1_change_1 : List UInt8 := [4, 167, 0, 4, 3, 184, 0, 105, 28, 154, 0, 11, 25, 4, 180, 0, 177, 167, 0, 34, 28, 4]
abbrev dktX1_change_1 : List UInt8 := dkwX1_change_1 ++ dktX1_change_2
def dkwX1_change_0 : List UInt8 := [42, 27, 182, 0, 162, 58, 4, 28, 155, 0, 20, 28, 6, 163, 0, 15, 28, 29, 184, 0, 155, 153, 0, 7]
abbrev dktX1_change_0 : List UInt8 := dkwX1_change_0 ++ dktX1_change_1
theorem dksX1_change_0 : cX1_change.data.toList.drop 0 = dktX1_change_0 := by decide +kernel
theorem dksX1_change_1 : cX1_change.data.toList.drop 24 = dktX1_change_1 := dk_seg dksX1_change_0 24 rfl rfl
theorem dksX1_change_2 : cX1_change.data.toList.drop 46 = dktX1_change_2 := dk_seg dksX1_change_1 22 rfl rfl
theorem dksX1_change_3 : cX1_change.data.toList.drop 70 = dktX1_change_3 := dk_seg dksX1_change_2 24 rfl rfl
theorem dksX1_change_4 : cX1_change.data.toList.drop 78 = dktX1_change_4 := dk_seg dksX1_change_3 8 rfl rfl
theorem dksX1_change_5 : cX1_change.data.toList.drop 104 = dktX1_change_5 := dk_seg dksX1_change_4 26 rfl rfl
theorem dksX1_change_6 : cX1_change.data.toList.drop 128 = dktX1_change_6 := dk_seg dksX1_change_5 24 rfl rfl
theorem dX1_change_0 : decode cX1_change 0 = .ok (.aload_n 0, 1) := dk_42 (dk_at dksX1_change_0 0 rfl rfl)
theorem dX1_change_1 : decode cX1_change 1 = .ok (.iload_n 1, 1) := dk_27 (dk_at dksX1_change_0 1 rfl rfl)
theorem dX1_change_2 : decode cX1_change 2 = .ok (.invokevirtual 162, 3) := dk_182 0 162 (dk_at dksX1_change_0 2 rfl rfl)
theorem dX1_change_5 : decode cX1_change 5 = .ok (.astore 4, 2) := dk_58 4 (dk_at dksX1_change_0 5 rfl rfl)
theorem dX1_change_7 : decode cX1_change 7 = .ok (.iload_n 2, 1) := dk_28 (dk_at dksX1_change_0 7 rfl rfl)
theorem dX1_change_8 : decode cX1_change 8 = .ok (.ifCond .lt 20, 3) := dk_155 0 20 (dk_at dksX1_change_0 8 rfl rfl)
theorem dX1_change_11 : decode cX1_change 11 = .ok (.iload_n 2, 1) := dk_28 (dk_at dksX1_change_0 11 rfl rfl)
theorem dX1_change_12 : decode cX1_change 12 = .ok (.iconst 3, 1) := dk_6 (dk_at dksX1_change_0 12 rfl rfl)
theorem dX1_change_13 : decode cX1_change 13 = .ok (.if_icmp .gt 15, 3) := dk_163 0 15 (dk_at dksX1_change_0 13 rfl rfl)
theorem dX1_change_16 : decode cX1_change 16 = .ok (.iload_n 2, 1) := dk_28 (dk_at dksX1_change_0 16 rfl rfl)
theorem dX1_change_17 : decode cX1_change 17 = .ok (.iload_n 3, 1) := dk_29 (dk_at dksX1_change_0 17 rfl rfl)
theorem dX1_change_18 : decode cX1_change 18 = .ok (.invokestatic 155, 3) := dk_184 0 155 (dk_at dksX1_change_0 18 rfl rfl)
theorem dX1_change_21 : decode cX1_change 21 = .ok (.ifCond .eq 7, 3) := dk_153 0 7 (dk_at dksX1_change_0 21 rfl rfl)
theorem dX1_change_24 : decode cX1_change 24 = .ok (.iconst 1, 1) := dk_4 (dk_at dksX1_change_1 0 rfl rfl)
theorem dX1_change_25 : decode cX1_change 25 = .ok (.goto 4, 3) := dk_167 0 4 (dk_at dksX1_change_1 1 rfl rfl)
theorem dX1_change_28 : decode cX1_change 28 = .ok (.iconst 0, 1) := dk_3 (dk_at dksX1_change_1 4 rfl rfl)
theorem dX1_change_29 : decode cX1_change 29 = .ok (.invokestatic 105, 3) := dk_184 0 105 (dk_at dksX1_change_1 5 rfl rfl)
theorem dX1_change_32 : decode cX1_change 32 = .ok (.iload_n 2, 1) := dk_28 (dk_at dksX1_change_1 8 rfl rfl)
theorem dX1_change_33 : decode cX1_change 33 = .ok (.ifCond .ne 11, 3) := dk_154 0 11 (dk_at dksX1_change_1 9 rfl rfl)
theorem dX1_change_36 : decode cX1_change 36 = .ok (.aload 4, 2) := dk_25 4 (dk_at dksX1_change_1 12 rfl rfl)
theorem dX1_change_38 : decode cX1_change 38 = .ok (.getfield 177, 3) := dk_180 0 177 (dk_at dksX1_change_1 14 rfl rfl)
theorem dX1_change_41 : decode cX1_change 41 = .ok (.goto 34, 3) := dk_167 0 34 (dk_at dksX1_change_1 17 rfl rfl)
theorem dX1_change_44 : decode cX1_change 44 = .ok (.iload_n 2, 1) := dk_28 (dk_at dksX1_change_1 20 rfl rfl)
theorem dX1_change_45 : decode cX1_change 45 = .ok (.iconst 1, 1) := dk_4 (dk_at dksX1_change_1 21 rfl rfl)
theorem dX1_change_46 : decode cX1_change 46 = .ok (.if_icmp .ne 11, 3) := dk_160 0 11 (dk_at dksX1_change_2 0 rfl rfl)
theorem dX1_change_49 : decode cX1_change 49 = .ok (.aload 4, 2) := dk_25 4 (dk_at dksX1_change_2 3 rfl rfl)
theorem dX1_change_51 : decode cX1_change 51 = .ok (.getfield 180, 3) := dk_180 0 180 (dk_at dksX1_change_2 5 rfl rfl)
theorem dX1_change_54 : decode cX1_change 54 = .ok (.goto 21, 3) := dk_167 0 21 (dk_at dksX1_change_2 8 rfl rfl)
theorem dX1_change_57 : decode cX1_change 57 = .ok (.iload_n 2, 1) := dk_28 (dk_at dksX1_change_2 11 rfl rfl)
theorem dX1_change_58 : decode cX1_change 58 = .ok (.iconst 2, 1) := dk_5 (dk_at dksX1_change_2 12 rfl rfl)
theorem dX1_change_59 : decode cX1_change 59 = .ok (.if_icmp .ne 11, 3) := dk_160 0 11 (dk_at dksX1_change_2 13 rfl rfl)
theorem dX1_change_62 : decode cX1_change 62 = .ok (.aload 4, 2) := dk_25 4 (dk_at dksX1_change_2 16 rfl rfl)
theorem dX1_change_64 : decode cX1_change 64 = .ok (.getfield 183, 3) := dk_180 0 183 (dk_at dksX1_change_2 18 rfl rfl)
theorem dX1_change_67 : decode cX1_change 67 = .ok (.goto 8, 3) := dk_167 0 8 (dk_at dksX1_change_2 21 rfl rfl)
theorem dX1_change_70 : decode cX1_change 70 = .ok (.aload 4, 2) := dk_25 4 (dk_at dksX1_change_3 0 rfl rfl)
theorem dX1_change_72 : decode cX1_change 72 = .ok (.getfield 186, 3) := dk_180 0 186 (dk_at dksX1_change_3 2 rfl rfl)
theorem dX1_change_75 : decode cX1_change 75 = .ok (.istore 5, 2) := dk_54 5 (dk_at dksX1_change_3 5 rfl rfl)
theorem dX1_change_77 : decode cX1_change 77 = .ok (.iload_n 2, 1) := dk_28 (dk_at dksX1_change_3 7 rfl rfl)
theorem dX1_change_78 : decode cX1_change 78 = .ok (.tableswitch 53 0 2 #[26, 35, 44], 26) := by decide +kernel
theorem dX1_change_104 : decode cX1_change 104 = .ok (.aload 4, 2) := dk_25 4 (dk_at dksX1_change_5 0 rfl rfl)
theorem dX1_change_106 : decode cX1_change 106 = .ok (.iload_n 3, 1) := dk_29 (dk_at dksX1_change_5 2 rfl rfl)
theorem dX1_change_107 : decode cX1_change 107 = .ok (.putfield 177, 3) := dk_181 0 177 (dk_at dksX1_change_5 3 rfl rfl)
theorem dX1_change_110 : decode cX1_change 110 = .ok (.goto 27, 3) := dk_167 0 27 (dk_at dksX1_change_5 6 rfl rfl)
theorem dX1_change_113 : decode cX1_change 113 = .ok (.aload 4, 2) := dk_25 4 (dk_at dksX1_change_5 9 rfl rfl)
theorem dX1_change_115 : decode cX1_change 115 = .ok (.iload_n 3, 1) := dk_29 (dk_at dksX1_change_5 11 rfl rfl)
theorem dX1_change_116 : decode cX1_change 116 = .ok (.putfield 180, 3) := dk_181 0 180 (dk_at dksX1_change_5 12 rfl rfl)
theorem dX1_change_119 : decode cX1_change 119 = .ok (.goto 18, 3) := dk_167 0 18 (dk_at dksX1_change_5 15 rfl rfl)
theorem dX1_change_122 : decode cX1_change 122 = .ok (.aload 4, 2) := dk_25 4 (dk_at dksX1_change_5 18 rfl rfl)
theorem dX1_change_124 : decode cX1_change 124 = .ok (.iload_n 3, 1) := dk_29 (dk_at dksX1_change_5 20 rfl rfl)
theorem dX1_change_125 : decode cX1_change 125 = .ok (.putfield 183, 3) := dk_181 0 183 (dk_at dksX1_change_5 21 rfl rfl)
theorem dX1_change_128 : decode cX1_change 128 = .ok (.goto 9, 3) := dk_167 0 9 (dk_at dksX1_change_6 0 rfl rfl)
theorem dX1_change_131 : decode cX1_change 131 = .ok (.aload 4, 2) := dk_25 4 (dk_at dksX1_change_6 3 rfl rfl)
theorem dX1_change_133 : decode cX1_change 133 = .ok (.iload_n 3, 1) := dk_29 (dk_at dksX1_change_6 5 rfl rfl)
theorem dX1_change_134 : decode cX1_change 134 = .ok (.putfield 186, 3) := dk_181 0 186 (dk_at dksX1_change_6 6 rfl rfl)
theorem dX1_change_137 : decode cX1_change 137 = .ok (.iload 5, 2) := dk_21 5 (dk_at dksX1_change_6 9 rfl rfl)
theorem dX1_change_139 : decode cX1_change 139 = .ok (.ireturn, 1) := dk_172 (dk_at dksX1_change_6 11 rfl rfl)
abbrev cX1_size : ByteArray := prog_1_method_19_code
def yX1_size : MethodName := ⟨RX1, "size", "(II)I"⟩
def dkwX1_size_0 : List UInt8 := [42, 27, 182, 0, 162, 78, 28, 184, 0, 101, 184, 0, 105, 45, 28, 182, 0, 166, 172]
abbrev dktX1_size_0 : List UInt8 := dkwX1_size_0 ++ []
theorem dksX1_size_0 : cX1_size.data.toList.drop 0 = dktX1_size_0 := by decide +kernel
theorem dX1_size_0 : decode cX1_size 0 = .ok (.aload_n 0, 1) := dk_42 (dk_at dksX1_size_0 0 rfl rfl)
theorem dX1_size_1 : decode cX1_size 1 = .ok (.iload_n 1, 1) := dk_27 (dk_at dksX1_size_0 1 rfl rfl)
theorem dX1_size_2 : decode cX1_size 2 = .ok (.invokevirtual 162, 3) := dk_182 0 162 (dk_at dksX1_size_0 2 rfl rfl)
theorem dX1_size_5 : decode cX1_size 5 = .ok (.astore_n 3, 1) := dk_78 (dk_at dksX1_size_0 5 rfl rfl)
theorem dX1_size_6 : decode cX1_size 6 = .ok (.iload_n 2, 1) := dk_28 (dk_at dksX1_size_0 6 rfl rfl)
theorem dX1_size_7 : decode cX1_size 7 = .ok (.invokestatic 101, 3) := dk_184 0 101 (dk_at dksX1_size_0 7 rfl rfl)
theorem dX1_size_10 : decode cX1_size 10 = .ok (.invokestatic 105, 3) := dk_184 0 105 (dk_at dksX1_size_0 10 rfl rfl)
theorem dX1_size_13 : decode cX1_size 13 = .ok (.aload_n 3, 1) := dk_45 (dk_at dksX1_size_0 13 rfl rfl)
theorem dX1_size_14 : decode cX1_size 14 = .ok (.iload_n 2, 1) := dk_28 (dk_at dksX1_size_0 14 rfl rfl)
theorem dX1_size_15 : decode cX1_size 15 = .ok (.invokevirtual 166, 3) := dk_182 0 166 (dk_at dksX1_size_0 15 rfl rfl)
theorem dX1_size_18 : decode cX1_size 18 = .ok (.ireturn, 1) := dk_172 (dk_at dksX1_size_0 18 rfl rfl)
abbrev cX1_told : ByteArray := prog_1_method_28_code
def yX1_told : MethodName := ⟨RX1, "told", "(III)I"⟩
def dkwX1_told_6 : List UInt8 := [182, 0, 231, 172]
abbrev dktX1_told_6 : List UInt8 := dkwX1_told_6 ++ []
def dkwX1_told_5 : List UInt8 := [16, 108, 28, 5, 100, 18, 230, 182, 0, 231, 167, 0, 15, 42, 16, 117, 28, 16, 9, 100, 18, 230]
abbrev dktX1_told_5 : List UInt8 := dkwX1_told_5 ++ dktX1_told_6
def dkwX1_told_4 : List UInt8 := [180, 0, 43, 8, 46, 172, 42, 16, 119, 3, 18, 230, 182, 0, 231, 172, 28, 16, 6, 162, 0, 17, 42]
abbrev dktX1_told_4 : List UInt8 := dkwX1_told_4 ++ dktX1_told_5
def dkwX1_told_3 : List UInt8 := [42, 25, 4, 29, 182, 0, 239, 172, 42, 25, 4, 29, 182, 0, 243, 172, 42, 180, 0, 43, 5, 46, 172, 42]
abbrev dktX1_told_3 : List UInt8 := dkwX1_told_3 ++ dktX1_told_4
def dkwX1_told_2 : List UInt8 := [170, 0, 0, 0, 0, 0, 0, 92, 0, 0, 0, 0, 0, 0, 0, 8, 0, 0, 0, 52, 0, 0, 0, 60, 0, 0, 0, 92, 0, 0, 0, 92, 0, 0, 0, 92, 0, 0, 0, 92, 0, 0, 0, 68, 0, 0, 0, 75, 0, 0, 0, 82]
abbrev dktX1_told_2 : List UInt8 := dkwX1_told_2 ++ dktX1_told_3
def dkwX1_told_1 : List UInt8 := [4, 167, 0, 4, 3, 184, 0, 105, 42, 25, 4, 29, 182, 0, 196, 28]
abbrev dktX1_told_1 : List UInt8 := dkwX1_told_1 ++ dktX1_told_2
def dkwX1_told_0 : List UInt8 := [42, 27, 182, 0, 162, 58, 4, 28, 155, 0, 20, 28, 16, 12, 163, 0, 14, 29, 184, 0, 101, 153, 0, 7]
abbrev dktX1_told_0 : List UInt8 := dkwX1_told_0 ++ dktX1_told_1
theorem dksX1_told_0 : cX1_told.data.toList.drop 0 = dktX1_told_0 := by decide +kernel
theorem dksX1_told_1 : cX1_told.data.toList.drop 24 = dktX1_told_1 := dk_seg dksX1_told_0 24 rfl rfl
theorem dksX1_told_2 : cX1_told.data.toList.drop 40 = dktX1_told_2 := dk_seg dksX1_told_1 16 rfl rfl
theorem dksX1_told_3 : cX1_told.data.toList.drop 92 = dktX1_told_3 := dk_seg dksX1_told_2 52 rfl rfl
theorem dksX1_told_4 : cX1_told.data.toList.drop 116 = dktX1_told_4 := dk_seg dksX1_told_3 24 rfl rfl
theorem dksX1_told_5 : cX1_told.data.toList.drop 139 = dktX1_told_5 := dk_seg dksX1_told_4 23 rfl rfl
theorem dksX1_told_6 : cX1_told.data.toList.drop 161 = dktX1_told_6 := dk_seg dksX1_told_5 22 rfl rfl
theorem dX1_told_0 : decode cX1_told 0 = .ok (.aload_n 0, 1) := dk_42 (dk_at dksX1_told_0 0 rfl rfl)
theorem dX1_told_1 : decode cX1_told 1 = .ok (.iload_n 1, 1) := dk_27 (dk_at dksX1_told_0 1 rfl rfl)
theorem dX1_told_2 : decode cX1_told 2 = .ok (.invokevirtual 162, 3) := dk_182 0 162 (dk_at dksX1_told_0 2 rfl rfl)
theorem dX1_told_5 : decode cX1_told 5 = .ok (.astore 4, 2) := dk_58 4 (dk_at dksX1_told_0 5 rfl rfl)
theorem dX1_told_7 : decode cX1_told 7 = .ok (.iload_n 2, 1) := dk_28 (dk_at dksX1_told_0 7 rfl rfl)
theorem dX1_told_8 : decode cX1_told 8 = .ok (.ifCond .lt 20, 3) := dk_155 0 20 (dk_at dksX1_told_0 8 rfl rfl)
theorem dX1_told_11 : decode cX1_told 11 = .ok (.iload_n 2, 1) := dk_28 (dk_at dksX1_told_0 11 rfl rfl)
theorem dX1_told_12 : decode cX1_told 12 = .ok (.bipush 12, 2) := dk_16 12 (dk_at dksX1_told_0 12 rfl rfl)
theorem dX1_told_14 : decode cX1_told 14 = .ok (.if_icmp .gt 14, 3) := dk_163 0 14 (dk_at dksX1_told_0 14 rfl rfl)
theorem dX1_told_17 : decode cX1_told 17 = .ok (.iload_n 3, 1) := dk_29 (dk_at dksX1_told_0 17 rfl rfl)
theorem dX1_told_18 : decode cX1_told 18 = .ok (.invokestatic 101, 3) := dk_184 0 101 (dk_at dksX1_told_0 18 rfl rfl)
theorem dX1_told_21 : decode cX1_told 21 = .ok (.ifCond .eq 7, 3) := dk_153 0 7 (dk_at dksX1_told_0 21 rfl rfl)
theorem dX1_told_24 : decode cX1_told 24 = .ok (.iconst 1, 1) := dk_4 (dk_at dksX1_told_1 0 rfl rfl)
theorem dX1_told_25 : decode cX1_told 25 = .ok (.goto 4, 3) := dk_167 0 4 (dk_at dksX1_told_1 1 rfl rfl)
theorem dX1_told_28 : decode cX1_told 28 = .ok (.iconst 0, 1) := dk_3 (dk_at dksX1_told_1 4 rfl rfl)
theorem dX1_told_29 : decode cX1_told 29 = .ok (.invokestatic 105, 3) := dk_184 0 105 (dk_at dksX1_told_1 5 rfl rfl)
theorem dX1_told_32 : decode cX1_told 32 = .ok (.aload_n 0, 1) := dk_42 (dk_at dksX1_told_1 8 rfl rfl)
theorem dX1_told_33 : decode cX1_told 33 = .ok (.aload 4, 2) := dk_25 4 (dk_at dksX1_told_1 9 rfl rfl)
theorem dX1_told_35 : decode cX1_told 35 = .ok (.iload_n 3, 1) := dk_29 (dk_at dksX1_told_1 11 rfl rfl)
theorem dX1_told_36 : decode cX1_told 36 = .ok (.invokevirtual 196, 3) := dk_182 0 196 (dk_at dksX1_told_1 12 rfl rfl)
theorem dX1_told_39 : decode cX1_told 39 = .ok (.iload_n 2, 1) := dk_28 (dk_at dksX1_told_1 15 rfl rfl)
theorem dX1_told_40 : decode cX1_told 40 = .ok (.tableswitch 92 0 8 #[52, 60, 92, 92, 92, 92, 68, 75, 82], 52) := by decide +kernel
theorem dX1_told_92 : decode cX1_told 92 = .ok (.aload_n 0, 1) := dk_42 (dk_at dksX1_told_3 0 rfl rfl)
theorem dX1_told_93 : decode cX1_told 93 = .ok (.aload 4, 2) := dk_25 4 (dk_at dksX1_told_3 1 rfl rfl)
theorem dX1_told_95 : decode cX1_told 95 = .ok (.iload_n 3, 1) := dk_29 (dk_at dksX1_told_3 3 rfl rfl)
theorem dX1_told_96 : decode cX1_told 96 = .ok (.invokevirtual 239, 3) := dk_182 0 239 (dk_at dksX1_told_3 4 rfl rfl)
theorem dX1_told_99 : decode cX1_told 99 = .ok (.ireturn, 1) := dk_172 (dk_at dksX1_told_3 7 rfl rfl)
theorem dX1_told_100 : decode cX1_told 100 = .ok (.aload_n 0, 1) := dk_42 (dk_at dksX1_told_3 8 rfl rfl)
theorem dX1_told_101 : decode cX1_told 101 = .ok (.aload 4, 2) := dk_25 4 (dk_at dksX1_told_3 9 rfl rfl)
theorem dX1_told_103 : decode cX1_told 103 = .ok (.iload_n 3, 1) := dk_29 (dk_at dksX1_told_3 11 rfl rfl)
theorem dX1_told_104 : decode cX1_told 104 = .ok (.invokevirtual 243, 3) := dk_182 0 243 (dk_at dksX1_told_3 12 rfl rfl)
theorem dX1_told_107 : decode cX1_told 107 = .ok (.ireturn, 1) := dk_172 (dk_at dksX1_told_3 15 rfl rfl)
theorem dX1_told_108 : decode cX1_told 108 = .ok (.aload_n 0, 1) := dk_42 (dk_at dksX1_told_3 16 rfl rfl)
theorem dX1_told_109 : decode cX1_told 109 = .ok (.getfield 43, 3) := dk_180 0 43 (dk_at dksX1_told_3 17 rfl rfl)
theorem dX1_told_112 : decode cX1_told 112 = .ok (.iconst 2, 1) := dk_5 (dk_at dksX1_told_3 20 rfl rfl)
theorem dX1_told_113 : decode cX1_told 113 = .ok (.iaload, 1) := dk_46 (dk_at dksX1_told_3 21 rfl rfl)
theorem dX1_told_114 : decode cX1_told 114 = .ok (.ireturn, 1) := dk_172 (dk_at dksX1_told_3 22 rfl rfl)
theorem dX1_told_115 : decode cX1_told 115 = .ok (.aload_n 0, 1) := dk_42 (dk_at dksX1_told_3 23 rfl rfl)
theorem dX1_told_116 : decode cX1_told 116 = .ok (.getfield 43, 3) := dk_180 0 43 (dk_at dksX1_told_4 0 rfl rfl)
theorem dX1_told_119 : decode cX1_told 119 = .ok (.iconst 5, 1) := dk_8 (dk_at dksX1_told_4 3 rfl rfl)
theorem dX1_told_120 : decode cX1_told 120 = .ok (.iaload, 1) := dk_46 (dk_at dksX1_told_4 4 rfl rfl)
theorem dX1_told_121 : decode cX1_told 121 = .ok (.ireturn, 1) := dk_172 (dk_at dksX1_told_4 5 rfl rfl)
theorem dX1_told_122 : decode cX1_told 122 = .ok (.aload_n 0, 1) := dk_42 (dk_at dksX1_told_4 6 rfl rfl)
theorem dX1_told_123 : decode cX1_told 123 = .ok (.bipush 119, 2) := dk_16 119 (dk_at dksX1_told_4 7 rfl rfl)
theorem dX1_told_125 : decode cX1_told 125 = .ok (.iconst 0, 1) := dk_3 (dk_at dksX1_told_4 9 rfl rfl)
theorem dX1_told_126 : decode cX1_told 126 = .ok (.ldc 230, 2) := dk_18 230 (dk_at dksX1_told_4 10 rfl rfl)
theorem dX1_told_128 : decode cX1_told 128 = .ok (.invokevirtual 231, 3) := dk_182 0 231 (dk_at dksX1_told_4 12 rfl rfl)
theorem dX1_told_131 : decode cX1_told 131 = .ok (.ireturn, 1) := dk_172 (dk_at dksX1_told_4 15 rfl rfl)
theorem dX1_told_132 : decode cX1_told 132 = .ok (.iload_n 2, 1) := dk_28 (dk_at dksX1_told_4 16 rfl rfl)
theorem dX1_told_133 : decode cX1_told 133 = .ok (.bipush 6, 2) := dk_16 6 (dk_at dksX1_told_4 17 rfl rfl)
theorem dX1_told_135 : decode cX1_told 135 = .ok (.if_icmp .ge 17, 3) := dk_162 0 17 (dk_at dksX1_told_4 19 rfl rfl)
theorem dX1_told_138 : decode cX1_told 138 = .ok (.aload_n 0, 1) := dk_42 (dk_at dksX1_told_4 22 rfl rfl)
theorem dX1_told_139 : decode cX1_told 139 = .ok (.bipush 108, 2) := dk_16 108 (dk_at dksX1_told_5 0 rfl rfl)
theorem dX1_told_141 : decode cX1_told 141 = .ok (.iload_n 2, 1) := dk_28 (dk_at dksX1_told_5 2 rfl rfl)
theorem dX1_told_142 : decode cX1_told 142 = .ok (.iconst 2, 1) := dk_5 (dk_at dksX1_told_5 3 rfl rfl)
theorem dX1_told_143 : decode cX1_told 143 = .ok (.isub, 1) := dk_100 (dk_at dksX1_told_5 4 rfl rfl)
theorem dX1_told_144 : decode cX1_told 144 = .ok (.ldc 230, 2) := dk_18 230 (dk_at dksX1_told_5 5 rfl rfl)
theorem dX1_told_146 : decode cX1_told 146 = .ok (.invokevirtual 231, 3) := dk_182 0 231 (dk_at dksX1_told_5 7 rfl rfl)
theorem dX1_told_149 : decode cX1_told 149 = .ok (.goto 15, 3) := dk_167 0 15 (dk_at dksX1_told_5 10 rfl rfl)
theorem dX1_told_152 : decode cX1_told 152 = .ok (.aload_n 0, 1) := dk_42 (dk_at dksX1_told_5 13 rfl rfl)
theorem dX1_told_153 : decode cX1_told 153 = .ok (.bipush 117, 2) := dk_16 117 (dk_at dksX1_told_5 14 rfl rfl)
theorem dX1_told_155 : decode cX1_told 155 = .ok (.iload_n 2, 1) := dk_28 (dk_at dksX1_told_5 16 rfl rfl)
theorem dX1_told_156 : decode cX1_told 156 = .ok (.bipush 9, 2) := dk_16 9 (dk_at dksX1_told_5 17 rfl rfl)
theorem dX1_told_158 : decode cX1_told 158 = .ok (.isub, 1) := dk_100 (dk_at dksX1_told_5 19 rfl rfl)
theorem dX1_told_159 : decode cX1_told 159 = .ok (.ldc 230, 2) := dk_18 230 (dk_at dksX1_told_5 20 rfl rfl)
theorem dX1_told_161 : decode cX1_told 161 = .ok (.invokevirtual 231, 3) := dk_182 0 231 (dk_at dksX1_told_6 0 rfl rfl)
theorem dX1_told_164 : decode cX1_told 164 = .ok (.ireturn, 1) := dk_172 (dk_at dksX1_told_6 3 rfl rfl)
abbrev cX1_rightOf : ByteArray := prog_1_method_26_code
def yX1_rightOf : MethodName := ⟨RX1, "rightOf", "(LLimbBenches$Person;I)I"⟩
def dkwX1_rightOf_0 : List UInt8 := [42, 43, 28, 182, 0, 196, 3, 42, 16, 114, 3, 18, 235, 182, 0, 231, 184, 0, 224, 172]
abbrev dktX1_rightOf_0 : List UInt8 := dkwX1_rightOf_0 ++ []
theorem dksX1_rightOf_0 : cX1_rightOf.data.toList.drop 0 = dktX1_rightOf_0 := by decide +kernel
theorem dX1_rightOf_0 : decode cX1_rightOf 0 = .ok (.aload_n 0, 1) := dk_42 (dk_at dksX1_rightOf_0 0 rfl rfl)
theorem dX1_rightOf_1 : decode cX1_rightOf 1 = .ok (.aload_n 1, 1) := dk_43 (dk_at dksX1_rightOf_0 1 rfl rfl)
theorem dX1_rightOf_2 : decode cX1_rightOf 2 = .ok (.iload_n 2, 1) := dk_28 (dk_at dksX1_rightOf_0 2 rfl rfl)
theorem dX1_rightOf_3 : decode cX1_rightOf 3 = .ok (.invokevirtual 196, 3) := dk_182 0 196 (dk_at dksX1_rightOf_0 3 rfl rfl)
theorem dX1_rightOf_6 : decode cX1_rightOf 6 = .ok (.iconst 0, 1) := dk_3 (dk_at dksX1_rightOf_0 6 rfl rfl)
theorem dX1_rightOf_7 : decode cX1_rightOf 7 = .ok (.aload_n 0, 1) := dk_42 (dk_at dksX1_rightOf_0 7 rfl rfl)
theorem dX1_rightOf_8 : decode cX1_rightOf 8 = .ok (.bipush 114, 2) := dk_16 114 (dk_at dksX1_rightOf_0 8 rfl rfl)
theorem dX1_rightOf_10 : decode cX1_rightOf 10 = .ok (.iconst 0, 1) := dk_3 (dk_at dksX1_rightOf_0 10 rfl rfl)
theorem dX1_rightOf_11 : decode cX1_rightOf 11 = .ok (.ldc 235, 2) := dk_18 235 (dk_at dksX1_rightOf_0 11 rfl rfl)
theorem dX1_rightOf_13 : decode cX1_rightOf 13 = .ok (.invokevirtual 231, 3) := dk_182 0 231 (dk_at dksX1_rightOf_0 13 rfl rfl)
theorem dX1_rightOf_16 : decode cX1_rightOf 16 = .ok (.invokestatic 224, 3) := dk_184 0 224 (dk_at dksX1_rightOf_0 16 rfl rfl)
theorem dX1_rightOf_19 : decode cX1_rightOf 19 = .ok (.ireturn, 1) := dk_172 (dk_at dksX1_rightOf_0 19 rfl rfl)
abbrev cX1_barred : ByteArray := prog_1_method_30_code
def yX1_barred : MethodName := ⟨RX1, "barred", "(III)Z"⟩
def dkwX1_barred_1 : List UInt8 := [182, 0, 254, 2, 159, 0, 7, 4, 167, 0, 4, 3, 172]
abbrev dktX1_barred_1 : List UInt8 := dkwX1_barred_1 ++ []
def dkwX1_barred_0 : List UInt8 := [42, 27, 182, 0, 162, 58, 4, 42, 28, 182, 0, 250, 87, 42, 29, 182, 0, 250, 87, 42, 25, 4, 28, 29]
abbrev dktX1_barred_0 : List UInt8 := dkwX1_barred_0 ++ dktX1_barred_1
theorem dksX1_barred_0 : cX1_barred.data.toList.drop 0 = dktX1_barred_0 := by decide +kernel
theorem dksX1_barred_1 : cX1_barred.data.toList.drop 24 = dktX1_barred_1 := dk_seg dksX1_barred_0 24 rfl rfl
theorem dX1_barred_0 : decode cX1_barred 0 = .ok (.aload_n 0, 1) := dk_42 (dk_at dksX1_barred_0 0 rfl rfl)
theorem dX1_barred_1 : decode cX1_barred 1 = .ok (.iload_n 1, 1) := dk_27 (dk_at dksX1_barred_0 1 rfl rfl)
theorem dX1_barred_2 : decode cX1_barred 2 = .ok (.invokevirtual 162, 3) := dk_182 0 162 (dk_at dksX1_barred_0 2 rfl rfl)
theorem dX1_barred_5 : decode cX1_barred 5 = .ok (.astore 4, 2) := dk_58 4 (dk_at dksX1_barred_0 5 rfl rfl)
theorem dX1_barred_7 : decode cX1_barred 7 = .ok (.aload_n 0, 1) := dk_42 (dk_at dksX1_barred_0 7 rfl rfl)
theorem dX1_barred_8 : decode cX1_barred 8 = .ok (.iload_n 2, 1) := dk_28 (dk_at dksX1_barred_0 8 rfl rfl)
theorem dX1_barred_9 : decode cX1_barred 9 = .ok (.invokevirtual 250, 3) := dk_182 0 250 (dk_at dksX1_barred_0 9 rfl rfl)
theorem dX1_barred_12 : decode cX1_barred 12 = .ok (.pop, 1) := dk_87 (dk_at dksX1_barred_0 12 rfl rfl)
theorem dX1_barred_13 : decode cX1_barred 13 = .ok (.aload_n 0, 1) := dk_42 (dk_at dksX1_barred_0 13 rfl rfl)
theorem dX1_barred_14 : decode cX1_barred 14 = .ok (.iload_n 3, 1) := dk_29 (dk_at dksX1_barred_0 14 rfl rfl)
theorem dX1_barred_15 : decode cX1_barred 15 = .ok (.invokevirtual 250, 3) := dk_182 0 250 (dk_at dksX1_barred_0 15 rfl rfl)
theorem dX1_barred_18 : decode cX1_barred 18 = .ok (.pop, 1) := dk_87 (dk_at dksX1_barred_0 18 rfl rfl)
theorem dX1_barred_19 : decode cX1_barred 19 = .ok (.aload_n 0, 1) := dk_42 (dk_at dksX1_barred_0 19 rfl rfl)
theorem dX1_barred_20 : decode cX1_barred 20 = .ok (.aload 4, 2) := dk_25 4 (dk_at dksX1_barred_0 20 rfl rfl)
theorem dX1_barred_22 : decode cX1_barred 22 = .ok (.iload_n 2, 1) := dk_28 (dk_at dksX1_barred_0 22 rfl rfl)
theorem dX1_barred_23 : decode cX1_barred 23 = .ok (.iload_n 3, 1) := dk_29 (dk_at dksX1_barred_0 23 rfl rfl)
theorem dX1_barred_24 : decode cX1_barred 24 = .ok (.invokevirtual 254, 3) := dk_182 0 254 (dk_at dksX1_barred_1 0 rfl rfl)
theorem dX1_barred_27 : decode cX1_barred 27 = .ok (.iconst (-1), 1) := dk_2 (dk_at dksX1_barred_1 3 rfl rfl)
theorem dX1_barred_28 : decode cX1_barred 28 = .ok (.if_icmp .eq 7, 3) := dk_159 0 7 (dk_at dksX1_barred_1 4 rfl rfl)
theorem dX1_barred_31 : decode cX1_barred 31 = .ok (.iconst 1, 1) := dk_4 (dk_at dksX1_barred_1 7 rfl rfl)
theorem dX1_barred_32 : decode cX1_barred 32 = .ok (.goto 4, 3) := dk_167 0 4 (dk_at dksX1_barred_1 8 rfl rfl)
theorem dX1_barred_35 : decode cX1_barred 35 = .ok (.iconst 0, 1) := dk_3 (dk_at dksX1_barred_1 11 rfl rfl)
theorem dX1_barred_36 : decode cX1_barred 36 = .ok (.ireturn, 1) := dk_172 (dk_at dksX1_barred_1 12 rfl rfl)
abbrev cX1_modelOf : ByteArray := prog_1_method_4_code
def yX1_modelOf : MethodName := ⟨RX1, "modelOf", "(I)LLimbBenches$Model;"⟩
def dkwX1_modelOf_1 : List UInt8 := [183, 0, 92, 191, 42, 180, 0, 10, 180, 0, 87, 27, 182, 0, 81, 192, 0, 93, 176]
abbrev dktX1_modelOf_1 : List UInt8 := dkwX1_modelOf_1 ++ []
def dkwX1_modelOf_0 : List UInt8 := [27, 155, 0, 17, 27, 42, 180, 0, 10, 180, 0, 87, 182, 0, 74, 161, 0, 11, 187, 0, 90, 89]
abbrev dktX1_modelOf_0 : List UInt8 := dkwX1_modelOf_0 ++ dktX1_modelOf_1
theorem dksX1_modelOf_0 : cX1_modelOf.data.toList.drop 0 = dktX1_modelOf_0 := by decide +kernel
theorem dksX1_modelOf_1 : cX1_modelOf.data.toList.drop 22 = dktX1_modelOf_1 := dk_seg dksX1_modelOf_0 22 rfl rfl
theorem dX1_modelOf_0 : decode cX1_modelOf 0 = .ok (.iload_n 1, 1) := dk_27 (dk_at dksX1_modelOf_0 0 rfl rfl)
theorem dX1_modelOf_1 : decode cX1_modelOf 1 = .ok (.ifCond .lt 17, 3) := dk_155 0 17 (dk_at dksX1_modelOf_0 1 rfl rfl)
theorem dX1_modelOf_4 : decode cX1_modelOf 4 = .ok (.iload_n 1, 1) := dk_27 (dk_at dksX1_modelOf_0 4 rfl rfl)
theorem dX1_modelOf_5 : decode cX1_modelOf 5 = .ok (.aload_n 0, 1) := dk_42 (dk_at dksX1_modelOf_0 5 rfl rfl)
theorem dX1_modelOf_6 : decode cX1_modelOf 6 = .ok (.getfield 10, 3) := dk_180 0 10 (dk_at dksX1_modelOf_0 6 rfl rfl)
theorem dX1_modelOf_9 : decode cX1_modelOf 9 = .ok (.getfield 87, 3) := dk_180 0 87 (dk_at dksX1_modelOf_0 9 rfl rfl)
theorem dX1_modelOf_12 : decode cX1_modelOf 12 = .ok (.invokevirtual 74, 3) := dk_182 0 74 (dk_at dksX1_modelOf_0 12 rfl rfl)
theorem dX1_modelOf_15 : decode cX1_modelOf 15 = .ok (.if_icmp .lt 11, 3) := dk_161 0 11 (dk_at dksX1_modelOf_0 15 rfl rfl)
theorem dX1_modelOf_18 : decode cX1_modelOf 18 = .ok (.new 90, 3) := dk_187 0 90 (dk_at dksX1_modelOf_0 18 rfl rfl)
theorem dX1_modelOf_21 : decode cX1_modelOf 21 = .ok (.dup, 1) := dk_89 (dk_at dksX1_modelOf_0 21 rfl rfl)
theorem dX1_modelOf_22 : decode cX1_modelOf 22 = .ok (.invokespecial 92, 3) := dk_183 0 92 (dk_at dksX1_modelOf_1 0 rfl rfl)
theorem dX1_modelOf_25 : decode cX1_modelOf 25 = .ok (.athrow, 1) := dk_191 (dk_at dksX1_modelOf_1 3 rfl rfl)
theorem dX1_modelOf_26 : decode cX1_modelOf 26 = .ok (.aload_n 0, 1) := dk_42 (dk_at dksX1_modelOf_1 4 rfl rfl)
theorem dX1_modelOf_27 : decode cX1_modelOf 27 = .ok (.getfield 10, 3) := dk_180 0 10 (dk_at dksX1_modelOf_1 5 rfl rfl)
theorem dX1_modelOf_30 : decode cX1_modelOf 30 = .ok (.getfield 87, 3) := dk_180 0 87 (dk_at dksX1_modelOf_1 8 rfl rfl)
theorem dX1_modelOf_33 : decode cX1_modelOf 33 = .ok (.iload_n 1, 1) := dk_27 (dk_at dksX1_modelOf_1 11 rfl rfl)
theorem dX1_modelOf_34 : decode cX1_modelOf 34 = .ok (.invokevirtual 81, 3) := dk_182 0 81 (dk_at dksX1_modelOf_1 12 rfl rfl)
theorem dX1_modelOf_37 : decode cX1_modelOf 37 = .ok (.checkcast 93, 3) := dk_192 0 93 (dk_at dksX1_modelOf_1 15 rfl rfl)
theorem dX1_modelOf_40 : decode cX1_modelOf 40 = .ok (.areturn, 1) := dk_176 (dk_at dksX1_modelOf_1 18 rfl rfl)
abbrev cX1_barOf : ByteArray := prog_1_method_29_code
def yX1_barOf : MethodName := ⟨RX1, "barOf", "(LLimbBenches$Person;II)I"⟩
def dkwX1_barOf_2 : List UInt8 := [132, 4, 1, 167, 255, 214, 2, 172]
abbrev dktX1_barOf_2 : List UInt8 := dkwX1_barOf_2 ++ []
def dkwX1_barOf_1 : List UInt8 := [21, 4, 182, 0, 81, 192, 0, 200, 28, 29, 42, 180, 0, 43, 182, 0, 246, 153, 0, 6, 21, 4, 172]
abbrev dktX1_barOf_1 : List UInt8 := dkwX1_barOf_1 ++ dktX1_barOf_2
def dkwX1_barOf_0 : List UInt8 := [42, 43, 182, 0, 227, 3, 54, 4, 21, 4, 42, 180, 0, 25, 182, 0, 74, 162, 0, 36, 42, 180, 0, 25]
abbrev dktX1_barOf_0 : List UInt8 := dkwX1_barOf_0 ++ dktX1_barOf_1
theorem dksX1_barOf_0 : cX1_barOf.data.toList.drop 0 = dktX1_barOf_0 := by decide +kernel
theorem dksX1_barOf_1 : cX1_barOf.data.toList.drop 24 = dktX1_barOf_1 := dk_seg dksX1_barOf_0 24 rfl rfl
theorem dksX1_barOf_2 : cX1_barOf.data.toList.drop 47 = dktX1_barOf_2 := dk_seg dksX1_barOf_1 23 rfl rfl
theorem dX1_barOf_0 : decode cX1_barOf 0 = .ok (.aload_n 0, 1) := dk_42 (dk_at dksX1_barOf_0 0 rfl rfl)
theorem dX1_barOf_1 : decode cX1_barOf 1 = .ok (.aload_n 1, 1) := dk_43 (dk_at dksX1_barOf_0 1 rfl rfl)
theorem dX1_barOf_2 : decode cX1_barOf 2 = .ok (.invokevirtual 227, 3) := dk_182 0 227 (dk_at dksX1_barOf_0 2 rfl rfl)
theorem dX1_barOf_5 : decode cX1_barOf 5 = .ok (.iconst 0, 1) := dk_3 (dk_at dksX1_barOf_0 5 rfl rfl)
theorem dX1_barOf_6 : decode cX1_barOf 6 = .ok (.istore 4, 2) := dk_54 4 (dk_at dksX1_barOf_0 6 rfl rfl)
theorem dX1_barOf_8 : decode cX1_barOf 8 = .ok (.iload 4, 2) := dk_21 4 (dk_at dksX1_barOf_0 8 rfl rfl)
theorem dX1_barOf_10 : decode cX1_barOf 10 = .ok (.aload_n 0, 1) := dk_42 (dk_at dksX1_barOf_0 10 rfl rfl)
theorem dX1_barOf_11 : decode cX1_barOf 11 = .ok (.getfield 25, 3) := dk_180 0 25 (dk_at dksX1_barOf_0 11 rfl rfl)
theorem dX1_barOf_14 : decode cX1_barOf 14 = .ok (.invokevirtual 74, 3) := dk_182 0 74 (dk_at dksX1_barOf_0 14 rfl rfl)
theorem dX1_barOf_17 : decode cX1_barOf 17 = .ok (.if_icmp .ge 36, 3) := dk_162 0 36 (dk_at dksX1_barOf_0 17 rfl rfl)
theorem dX1_barOf_20 : decode cX1_barOf 20 = .ok (.aload_n 0, 1) := dk_42 (dk_at dksX1_barOf_0 20 rfl rfl)
theorem dX1_barOf_21 : decode cX1_barOf 21 = .ok (.getfield 25, 3) := dk_180 0 25 (dk_at dksX1_barOf_0 21 rfl rfl)
theorem dX1_barOf_24 : decode cX1_barOf 24 = .ok (.iload 4, 2) := dk_21 4 (dk_at dksX1_barOf_1 0 rfl rfl)
theorem dX1_barOf_26 : decode cX1_barOf 26 = .ok (.invokevirtual 81, 3) := dk_182 0 81 (dk_at dksX1_barOf_1 2 rfl rfl)
theorem dX1_barOf_29 : decode cX1_barOf 29 = .ok (.checkcast 200, 3) := dk_192 0 200 (dk_at dksX1_barOf_1 5 rfl rfl)
theorem dX1_barOf_32 : decode cX1_barOf 32 = .ok (.iload_n 2, 1) := dk_28 (dk_at dksX1_barOf_1 8 rfl rfl)
theorem dX1_barOf_33 : decode cX1_barOf 33 = .ok (.iload_n 3, 1) := dk_29 (dk_at dksX1_barOf_1 9 rfl rfl)
theorem dX1_barOf_34 : decode cX1_barOf 34 = .ok (.aload_n 0, 1) := dk_42 (dk_at dksX1_barOf_1 10 rfl rfl)
theorem dX1_barOf_35 : decode cX1_barOf 35 = .ok (.getfield 43, 3) := dk_180 0 43 (dk_at dksX1_barOf_1 11 rfl rfl)
theorem dX1_barOf_38 : decode cX1_barOf 38 = .ok (.invokevirtual 246, 3) := dk_182 0 246 (dk_at dksX1_barOf_1 14 rfl rfl)
theorem dX1_barOf_41 : decode cX1_barOf 41 = .ok (.ifCond .eq 6, 3) := dk_153 0 6 (dk_at dksX1_barOf_1 17 rfl rfl)
theorem dX1_barOf_44 : decode cX1_barOf 44 = .ok (.iload 4, 2) := dk_21 4 (dk_at dksX1_barOf_1 20 rfl rfl)
theorem dX1_barOf_46 : decode cX1_barOf 46 = .ok (.ireturn, 1) := dk_172 (dk_at dksX1_barOf_1 22 rfl rfl)
theorem dX1_barOf_47 : decode cX1_barOf 47 = .ok (.iinc 4 1, 3) := dk_132 4 1 (dk_at dksX1_barOf_2 0 rfl rfl)
theorem dX1_barOf_50 : decode cX1_barOf 50 = .ok (.goto (-42), 3) := dk_167 255 214 (dk_at dksX1_barOf_2 3 rfl rfl)
theorem dX1_barOf_53 : decode cX1_barOf 53 = .ok (.iconst (-1), 1) := dk_2 (dk_at dksX1_barOf_2 6 rfl rfl)
theorem dX1_barOf_54 : decode cX1_barOf 54 = .ok (.ireturn, 1) := dk_172 (dk_at dksX1_barOf_2 7 rfl rfl)
abbrev cX1_fit : ByteArray := prog_1_method_35_code
def yX1_fit : MethodName := ⟨RX1, "fit", "(III)I"⟩
def dkwX1_fit_1 : List UInt8 := [29, 3, 182, 1, 49, 172]
abbrev dktX1_fit_1 : List UInt8 := dkwX1_fit_1 ++ []
def dkwX1_fit_0 : List UInt8 := [42, 27, 182, 0, 162, 58, 4, 42, 28, 182, 0, 250, 87, 29, 184, 1, 46, 184, 0, 105, 42, 25, 4, 28]
abbrev dktX1_fit_0 : List UInt8 := dkwX1_fit_0 ++ dktX1_fit_1
theorem dksX1_fit_0 : cX1_fit.data.toList.drop 0 = dktX1_fit_0 := by decide +kernel
theorem dksX1_fit_1 : cX1_fit.data.toList.drop 24 = dktX1_fit_1 := dk_seg dksX1_fit_0 24 rfl rfl
theorem dX1_fit_0 : decode cX1_fit 0 = .ok (.aload_n 0, 1) := dk_42 (dk_at dksX1_fit_0 0 rfl rfl)
theorem dX1_fit_1 : decode cX1_fit 1 = .ok (.iload_n 1, 1) := dk_27 (dk_at dksX1_fit_0 1 rfl rfl)
theorem dX1_fit_2 : decode cX1_fit 2 = .ok (.invokevirtual 162, 3) := dk_182 0 162 (dk_at dksX1_fit_0 2 rfl rfl)
theorem dX1_fit_5 : decode cX1_fit 5 = .ok (.astore 4, 2) := dk_58 4 (dk_at dksX1_fit_0 5 rfl rfl)
theorem dX1_fit_7 : decode cX1_fit 7 = .ok (.aload_n 0, 1) := dk_42 (dk_at dksX1_fit_0 7 rfl rfl)
theorem dX1_fit_8 : decode cX1_fit 8 = .ok (.iload_n 2, 1) := dk_28 (dk_at dksX1_fit_0 8 rfl rfl)
theorem dX1_fit_9 : decode cX1_fit 9 = .ok (.invokevirtual 250, 3) := dk_182 0 250 (dk_at dksX1_fit_0 9 rfl rfl)
theorem dX1_fit_12 : decode cX1_fit 12 = .ok (.pop, 1) := dk_87 (dk_at dksX1_fit_0 12 rfl rfl)
theorem dX1_fit_13 : decode cX1_fit 13 = .ok (.iload_n 3, 1) := dk_29 (dk_at dksX1_fit_0 13 rfl rfl)
theorem dX1_fit_14 : decode cX1_fit 14 = .ok (.invokestatic 302, 3) := dk_184 1 46 (dk_at dksX1_fit_0 14 rfl rfl)
theorem dX1_fit_17 : decode cX1_fit 17 = .ok (.invokestatic 105, 3) := dk_184 0 105 (dk_at dksX1_fit_0 17 rfl rfl)
theorem dX1_fit_20 : decode cX1_fit 20 = .ok (.aload_n 0, 1) := dk_42 (dk_at dksX1_fit_0 20 rfl rfl)
theorem dX1_fit_21 : decode cX1_fit 21 = .ok (.aload 4, 2) := dk_25 4 (dk_at dksX1_fit_0 21 rfl rfl)
theorem dX1_fit_23 : decode cX1_fit 23 = .ok (.iload_n 2, 1) := dk_28 (dk_at dksX1_fit_0 23 rfl rfl)
theorem dX1_fit_24 : decode cX1_fit 24 = .ok (.iload_n 3, 1) := dk_29 (dk_at dksX1_fit_1 0 rfl rfl)
theorem dX1_fit_25 : decode cX1_fit 25 = .ok (.iconst 0, 1) := dk_3 (dk_at dksX1_fit_1 1 rfl rfl)
theorem dX1_fit_26 : decode cX1_fit 26 = .ok (.invokevirtual 305, 3) := dk_182 1 49 (dk_at dksX1_fit_1 2 rfl rfl)
theorem dX1_fit_29 : decode cX1_fit 29 = .ok (.ireturn, 1) := dk_172 (dk_at dksX1_fit_1 5 rfl rfl)
abbrev cX1_isSerial : ByteArray := prog_1_method_32_code
def yX1_isSerial : MethodName := ⟨RX1, "isSerial", "(I)Z"⟩
def dkwX1_isSerial_0 : List UInt8 := [26, 155, 0, 14, 26, 17, 39, 15, 163, 0, 7, 4, 167, 0, 4, 3, 172]
abbrev dktX1_isSerial_0 : List UInt8 := dkwX1_isSerial_0 ++ []
theorem dksX1_isSerial_0 : cX1_isSerial.data.toList.drop 0 = dktX1_isSerial_0 := by decide +kernel
theorem dX1_isSerial_0 : decode cX1_isSerial 0 = .ok (.iload_n 0, 1) := dk_26 (dk_at dksX1_isSerial_0 0 rfl rfl)
theorem dX1_isSerial_1 : decode cX1_isSerial 1 = .ok (.ifCond .lt 14, 3) := dk_155 0 14 (dk_at dksX1_isSerial_0 1 rfl rfl)
theorem dX1_isSerial_4 : decode cX1_isSerial 4 = .ok (.iload_n 0, 1) := dk_26 (dk_at dksX1_isSerial_0 4 rfl rfl)
theorem dX1_isSerial_5 : decode cX1_isSerial 5 = .ok (.sipush 9999, 3) := dk_17 39 15 (dk_at dksX1_isSerial_0 5 rfl rfl)
theorem dX1_isSerial_8 : decode cX1_isSerial 8 = .ok (.if_icmp .gt 7, 3) := dk_163 0 7 (dk_at dksX1_isSerial_0 8 rfl rfl)
theorem dX1_isSerial_11 : decode cX1_isSerial 11 = .ok (.iconst 1, 1) := dk_4 (dk_at dksX1_isSerial_0 11 rfl rfl)
theorem dX1_isSerial_12 : decode cX1_isSerial 12 = .ok (.goto 4, 3) := dk_167 0 4 (dk_at dksX1_isSerial_0 12 rfl rfl)
theorem dX1_isSerial_15 : decode cX1_isSerial 15 = .ok (.iconst 0, 1) := dk_3 (dk_at dksX1_isSerial_0 15 rfl rfl)
theorem dX1_isSerial_16 : decode cX1_isSerial 16 = .ok (.ireturn, 1) := dk_172 (dk_at dksX1_isSerial_0 16 rfl rfl)
abbrev cX1_fits : ByteArray := prog_1_method_34_code
def yX1_fits : MethodName := ⟨RX1, "fits", "(LLimbBenches$Person;IIZ)I"⟩
def dkwX1_fits_5 : List UInt8 := [182, 1, 19, 92, 46, 25, 5, 180, 1, 43, 96, 79, 43, 180, 0, 192, 42, 182, 1, 19, 46, 172]
abbrev dktX1_fits_5 : List UInt8 := dkwX1_fits_5 ++ []
def dkwX1_fits_4 : List UInt8 := [180, 1, 37, 28, 92, 46, 4, 100, 79, 42, 43, 28, 29, 3, 182, 1, 40, 43, 180, 0, 192, 42]
abbrev dktX1_fits_4 : List UInt8 := dkwX1_fits_4 ++ dktX1_fits_5
def dkwX1_fits_3 : List UInt8 := [180, 1, 12, 182, 0, 74, 17, 0, 200, 160, 0, 6, 16, 252, 172, 21, 4, 153, 0, 16, 42, 180, 0, 10]
abbrev dktX1_fits_3 : List UInt8 := dkwX1_fits_3 ++ dktX1_fits_4
def dkwX1_fits_2 : List UInt8 := [153, 0, 18, 42, 180, 0, 10, 180, 1, 37, 28, 46, 154, 0, 6, 16, 253, 172, 42, 180, 0, 10]
abbrev dktX1_fits_2 : List UInt8 := dkwX1_fits_2 ++ dktX1_fits_3
def dkwX1_fits_1 : List UInt8 := [180, 0, 177, 162, 0, 5, 2, 172, 42, 43, 28, 182, 1, 33, 153, 0, 6, 16, 254, 172, 21, 4]
abbrev dktX1_fits_1 : List UInt8 := dkwX1_fits_1 ++ dktX1_fits_2
def dkwX1_fits_0 : List UInt8 := [42, 180, 0, 10, 180, 0, 87, 28, 182, 0, 81, 192, 0, 93, 58, 5, 25, 5, 180, 1, 30, 43]
abbrev dktX1_fits_0 : List UInt8 := dkwX1_fits_0 ++ dktX1_fits_1
theorem dksX1_fits_0 : cX1_fits.data.toList.drop 0 = dktX1_fits_0 := by decide +kernel
theorem dksX1_fits_1 : cX1_fits.data.toList.drop 22 = dktX1_fits_1 := dk_seg dksX1_fits_0 22 rfl rfl
theorem dksX1_fits_2 : cX1_fits.data.toList.drop 44 = dktX1_fits_2 := dk_seg dksX1_fits_1 22 rfl rfl
theorem dksX1_fits_3 : cX1_fits.data.toList.drop 66 = dktX1_fits_3 := dk_seg dksX1_fits_2 22 rfl rfl
theorem dksX1_fits_4 : cX1_fits.data.toList.drop 90 = dktX1_fits_4 := dk_seg dksX1_fits_3 24 rfl rfl
theorem dksX1_fits_5 : cX1_fits.data.toList.drop 112 = dktX1_fits_5 := dk_seg dksX1_fits_4 22 rfl rfl
theorem dX1_fits_0 : decode cX1_fits 0 = .ok (.aload_n 0, 1) := dk_42 (dk_at dksX1_fits_0 0 rfl rfl)
theorem dX1_fits_1 : decode cX1_fits 1 = .ok (.getfield 10, 3) := dk_180 0 10 (dk_at dksX1_fits_0 1 rfl rfl)
theorem dX1_fits_4 : decode cX1_fits 4 = .ok (.getfield 87, 3) := dk_180 0 87 (dk_at dksX1_fits_0 4 rfl rfl)
theorem dX1_fits_7 : decode cX1_fits 7 = .ok (.iload_n 2, 1) := dk_28 (dk_at dksX1_fits_0 7 rfl rfl)
theorem dX1_fits_8 : decode cX1_fits 8 = .ok (.invokevirtual 81, 3) := dk_182 0 81 (dk_at dksX1_fits_0 8 rfl rfl)
theorem dX1_fits_11 : decode cX1_fits 11 = .ok (.checkcast 93, 3) := dk_192 0 93 (dk_at dksX1_fits_0 11 rfl rfl)
theorem dX1_fits_14 : decode cX1_fits 14 = .ok (.astore 5, 2) := dk_58 5 (dk_at dksX1_fits_0 14 rfl rfl)
theorem dX1_fits_16 : decode cX1_fits 16 = .ok (.aload 5, 2) := dk_25 5 (dk_at dksX1_fits_0 16 rfl rfl)
theorem dX1_fits_18 : decode cX1_fits 18 = .ok (.getfield 286, 3) := dk_180 1 30 (dk_at dksX1_fits_0 18 rfl rfl)
theorem dX1_fits_21 : decode cX1_fits 21 = .ok (.aload_n 1, 1) := dk_43 (dk_at dksX1_fits_0 21 rfl rfl)
theorem dX1_fits_22 : decode cX1_fits 22 = .ok (.getfield 177, 3) := dk_180 0 177 (dk_at dksX1_fits_1 0 rfl rfl)
theorem dX1_fits_25 : decode cX1_fits 25 = .ok (.if_icmp .ge 5, 3) := dk_162 0 5 (dk_at dksX1_fits_1 3 rfl rfl)
theorem dX1_fits_28 : decode cX1_fits 28 = .ok (.iconst (-1), 1) := dk_2 (dk_at dksX1_fits_1 6 rfl rfl)
theorem dX1_fits_29 : decode cX1_fits 29 = .ok (.ireturn, 1) := dk_172 (dk_at dksX1_fits_1 7 rfl rfl)
theorem dX1_fits_30 : decode cX1_fits 30 = .ok (.aload_n 0, 1) := dk_42 (dk_at dksX1_fits_1 8 rfl rfl)
theorem dX1_fits_31 : decode cX1_fits 31 = .ok (.aload_n 1, 1) := dk_43 (dk_at dksX1_fits_1 9 rfl rfl)
theorem dX1_fits_32 : decode cX1_fits 32 = .ok (.iload_n 2, 1) := dk_28 (dk_at dksX1_fits_1 10 rfl rfl)
theorem dX1_fits_33 : decode cX1_fits 33 = .ok (.invokevirtual 289, 3) := dk_182 1 33 (dk_at dksX1_fits_1 11 rfl rfl)
theorem dX1_fits_36 : decode cX1_fits 36 = .ok (.ifCond .eq 6, 3) := dk_153 0 6 (dk_at dksX1_fits_1 14 rfl rfl)
theorem dX1_fits_39 : decode cX1_fits 39 = .ok (.bipush (-2), 2) := dk_16 254 (dk_at dksX1_fits_1 17 rfl rfl)
theorem dX1_fits_41 : decode cX1_fits 41 = .ok (.ireturn, 1) := dk_172 (dk_at dksX1_fits_1 19 rfl rfl)
theorem dX1_fits_42 : decode cX1_fits 42 = .ok (.iload 4, 2) := dk_21 4 (dk_at dksX1_fits_1 20 rfl rfl)
theorem dX1_fits_44 : decode cX1_fits 44 = .ok (.ifCond .eq 18, 3) := dk_153 0 18 (dk_at dksX1_fits_2 0 rfl rfl)
theorem dX1_fits_47 : decode cX1_fits 47 = .ok (.aload_n 0, 1) := dk_42 (dk_at dksX1_fits_2 3 rfl rfl)
theorem dX1_fits_48 : decode cX1_fits 48 = .ok (.getfield 10, 3) := dk_180 0 10 (dk_at dksX1_fits_2 4 rfl rfl)
theorem dX1_fits_51 : decode cX1_fits 51 = .ok (.getfield 293, 3) := dk_180 1 37 (dk_at dksX1_fits_2 7 rfl rfl)
theorem dX1_fits_54 : decode cX1_fits 54 = .ok (.iload_n 2, 1) := dk_28 (dk_at dksX1_fits_2 10 rfl rfl)
theorem dX1_fits_55 : decode cX1_fits 55 = .ok (.iaload, 1) := dk_46 (dk_at dksX1_fits_2 11 rfl rfl)
theorem dX1_fits_56 : decode cX1_fits 56 = .ok (.ifCond .ne 6, 3) := dk_154 0 6 (dk_at dksX1_fits_2 12 rfl rfl)
theorem dX1_fits_59 : decode cX1_fits 59 = .ok (.bipush (-3), 2) := dk_16 253 (dk_at dksX1_fits_2 15 rfl rfl)
theorem dX1_fits_61 : decode cX1_fits 61 = .ok (.ireturn, 1) := dk_172 (dk_at dksX1_fits_2 17 rfl rfl)
theorem dX1_fits_62 : decode cX1_fits 62 = .ok (.aload_n 0, 1) := dk_42 (dk_at dksX1_fits_2 18 rfl rfl)
theorem dX1_fits_63 : decode cX1_fits 63 = .ok (.getfield 10, 3) := dk_180 0 10 (dk_at dksX1_fits_2 19 rfl rfl)
theorem dX1_fits_66 : decode cX1_fits 66 = .ok (.getfield 268, 3) := dk_180 1 12 (dk_at dksX1_fits_3 0 rfl rfl)
theorem dX1_fits_69 : decode cX1_fits 69 = .ok (.invokevirtual 74, 3) := dk_182 0 74 (dk_at dksX1_fits_3 3 rfl rfl)
theorem dX1_fits_72 : decode cX1_fits 72 = .ok (.sipush 200, 3) := dk_17 0 200 (dk_at dksX1_fits_3 6 rfl rfl)
theorem dX1_fits_75 : decode cX1_fits 75 = .ok (.if_icmp .ne 6, 3) := dk_160 0 6 (dk_at dksX1_fits_3 9 rfl rfl)
theorem dX1_fits_78 : decode cX1_fits 78 = .ok (.bipush (-4), 2) := dk_16 252 (dk_at dksX1_fits_3 12 rfl rfl)
theorem dX1_fits_80 : decode cX1_fits 80 = .ok (.ireturn, 1) := dk_172 (dk_at dksX1_fits_3 14 rfl rfl)
theorem dX1_fits_81 : decode cX1_fits 81 = .ok (.iload 4, 2) := dk_21 4 (dk_at dksX1_fits_3 15 rfl rfl)
theorem dX1_fits_83 : decode cX1_fits 83 = .ok (.ifCond .eq 16, 3) := dk_153 0 16 (dk_at dksX1_fits_3 17 rfl rfl)
theorem dX1_fits_86 : decode cX1_fits 86 = .ok (.aload_n 0, 1) := dk_42 (dk_at dksX1_fits_3 20 rfl rfl)
theorem dX1_fits_87 : decode cX1_fits 87 = .ok (.getfield 10, 3) := dk_180 0 10 (dk_at dksX1_fits_3 21 rfl rfl)
theorem dX1_fits_90 : decode cX1_fits 90 = .ok (.getfield 293, 3) := dk_180 1 37 (dk_at dksX1_fits_4 0 rfl rfl)
theorem dX1_fits_93 : decode cX1_fits 93 = .ok (.iload_n 2, 1) := dk_28 (dk_at dksX1_fits_4 3 rfl rfl)
theorem dX1_fits_94 : decode cX1_fits 94 = .ok (.dup2, 1) := dk_92 (dk_at dksX1_fits_4 4 rfl rfl)
theorem dX1_fits_95 : decode cX1_fits 95 = .ok (.iaload, 1) := dk_46 (dk_at dksX1_fits_4 5 rfl rfl)
theorem dX1_fits_96 : decode cX1_fits 96 = .ok (.iconst 1, 1) := dk_4 (dk_at dksX1_fits_4 6 rfl rfl)
theorem dX1_fits_97 : decode cX1_fits 97 = .ok (.isub, 1) := dk_100 (dk_at dksX1_fits_4 7 rfl rfl)
theorem dX1_fits_98 : decode cX1_fits 98 = .ok (.iastore, 1) := dk_79 (dk_at dksX1_fits_4 8 rfl rfl)
theorem dX1_fits_99 : decode cX1_fits 99 = .ok (.aload_n 0, 1) := dk_42 (dk_at dksX1_fits_4 9 rfl rfl)
theorem dX1_fits_100 : decode cX1_fits 100 = .ok (.aload_n 1, 1) := dk_43 (dk_at dksX1_fits_4 10 rfl rfl)
theorem dX1_fits_101 : decode cX1_fits 101 = .ok (.iload_n 2, 1) := dk_28 (dk_at dksX1_fits_4 11 rfl rfl)
theorem dX1_fits_102 : decode cX1_fits 102 = .ok (.iload_n 3, 1) := dk_29 (dk_at dksX1_fits_4 12 rfl rfl)
theorem dX1_fits_103 : decode cX1_fits 103 = .ok (.iconst 0, 1) := dk_3 (dk_at dksX1_fits_4 13 rfl rfl)
theorem dX1_fits_104 : decode cX1_fits 104 = .ok (.invokevirtual 296, 3) := dk_182 1 40 (dk_at dksX1_fits_4 14 rfl rfl)
theorem dX1_fits_107 : decode cX1_fits 107 = .ok (.aload_n 1, 1) := dk_43 (dk_at dksX1_fits_4 17 rfl rfl)
theorem dX1_fits_108 : decode cX1_fits 108 = .ok (.getfield 192, 3) := dk_180 0 192 (dk_at dksX1_fits_4 18 rfl rfl)
theorem dX1_fits_111 : decode cX1_fits 111 = .ok (.aload_n 0, 1) := dk_42 (dk_at dksX1_fits_4 21 rfl rfl)
theorem dX1_fits_112 : decode cX1_fits 112 = .ok (.invokevirtual 275, 3) := dk_182 1 19 (dk_at dksX1_fits_5 0 rfl rfl)
theorem dX1_fits_115 : decode cX1_fits 115 = .ok (.dup2, 1) := dk_92 (dk_at dksX1_fits_5 3 rfl rfl)
theorem dX1_fits_116 : decode cX1_fits 116 = .ok (.iaload, 1) := dk_46 (dk_at dksX1_fits_5 4 rfl rfl)
theorem dX1_fits_117 : decode cX1_fits 117 = .ok (.aload 5, 2) := dk_25 5 (dk_at dksX1_fits_5 5 rfl rfl)
theorem dX1_fits_119 : decode cX1_fits 119 = .ok (.getfield 299, 3) := dk_180 1 43 (dk_at dksX1_fits_5 7 rfl rfl)
theorem dX1_fits_122 : decode cX1_fits 122 = .ok (.iadd, 1) := dk_96 (dk_at dksX1_fits_5 10 rfl rfl)
theorem dX1_fits_123 : decode cX1_fits 123 = .ok (.iastore, 1) := dk_79 (dk_at dksX1_fits_5 11 rfl rfl)
theorem dX1_fits_124 : decode cX1_fits 124 = .ok (.aload_n 1, 1) := dk_43 (dk_at dksX1_fits_5 12 rfl rfl)
theorem dX1_fits_125 : decode cX1_fits 125 = .ok (.getfield 192, 3) := dk_180 0 192 (dk_at dksX1_fits_5 13 rfl rfl)
theorem dX1_fits_128 : decode cX1_fits 128 = .ok (.aload_n 0, 1) := dk_42 (dk_at dksX1_fits_5 16 rfl rfl)
theorem dX1_fits_129 : decode cX1_fits 129 = .ok (.invokevirtual 275, 3) := dk_182 1 19 (dk_at dksX1_fits_5 17 rfl rfl)
theorem dX1_fits_132 : decode cX1_fits 132 = .ok (.iaload, 1) := dk_46 (dk_at dksX1_fits_5 20 rfl rfl)
theorem dX1_fits_133 : decode cX1_fits 133 = .ok (.ireturn, 1) := dk_172 (dk_at dksX1_fits_5 21 rfl rfl)
abbrev cX1_isBarred : ByteArray := prog_1_method_31_code
def yX1_isBarred : MethodName := ⟨RX1, "isBarred", "(LLimbBenches$Person;I)Z"⟩
def dkwX1_isBarred_3 : List UInt8 := [3, 172]
abbrev dktX1_isBarred_3 : List UInt8 := dkwX1_isBarred_3 ++ []
def dkwX1_isBarred_2 : List UInt8 := [180, 1, 3, 21, 4, 50, 180, 1, 7, 182, 0, 254, 2, 159, 0, 5, 4, 172, 132, 4, 1, 167, 255, 209]
abbrev dktX1_isBarred_2 : List UInt8 := dkwX1_isBarred_2 ++ dktX1_isBarred_3
def dkwX1_isBarred_1 : List UInt8 := [162, 0, 47, 21, 4, 29, 159, 0, 35, 43, 180, 1, 3, 21, 4, 50, 198, 0, 25, 42, 43, 28, 43]
abbrev dktX1_isBarred_1 : List UInt8 := dkwX1_isBarred_1 ++ dktX1_isBarred_2
def dkwX1_isBarred_0 : List UInt8 := [42, 180, 0, 10, 180, 0, 87, 28, 182, 0, 81, 192, 0, 93, 180, 1, 2, 62, 3, 54, 4, 21, 4, 7]
abbrev dktX1_isBarred_0 : List UInt8 := dkwX1_isBarred_0 ++ dktX1_isBarred_1
theorem dksX1_isBarred_0 : cX1_isBarred.data.toList.drop 0 = dktX1_isBarred_0 := by decide +kernel
theorem dksX1_isBarred_1 : cX1_isBarred.data.toList.drop 24 = dktX1_isBarred_1 := dk_seg dksX1_isBarred_0 24 rfl rfl
theorem dksX1_isBarred_2 : cX1_isBarred.data.toList.drop 47 = dktX1_isBarred_2 := dk_seg dksX1_isBarred_1 23 rfl rfl
theorem dksX1_isBarred_3 : cX1_isBarred.data.toList.drop 71 = dktX1_isBarred_3 := dk_seg dksX1_isBarred_2 24 rfl rfl
theorem dX1_isBarred_0 : decode cX1_isBarred 0 = .ok (.aload_n 0, 1) := dk_42 (dk_at dksX1_isBarred_0 0 rfl rfl)
theorem dX1_isBarred_1 : decode cX1_isBarred 1 = .ok (.getfield 10, 3) := dk_180 0 10 (dk_at dksX1_isBarred_0 1 rfl rfl)
theorem dX1_isBarred_4 : decode cX1_isBarred 4 = .ok (.getfield 87, 3) := dk_180 0 87 (dk_at dksX1_isBarred_0 4 rfl rfl)
theorem dX1_isBarred_7 : decode cX1_isBarred 7 = .ok (.iload_n 2, 1) := dk_28 (dk_at dksX1_isBarred_0 7 rfl rfl)
theorem dX1_isBarred_8 : decode cX1_isBarred 8 = .ok (.invokevirtual 81, 3) := dk_182 0 81 (dk_at dksX1_isBarred_0 8 rfl rfl)
theorem dX1_isBarred_11 : decode cX1_isBarred 11 = .ok (.checkcast 93, 3) := dk_192 0 93 (dk_at dksX1_isBarred_0 11 rfl rfl)
theorem dX1_isBarred_14 : decode cX1_isBarred 14 = .ok (.getfield 258, 3) := dk_180 1 2 (dk_at dksX1_isBarred_0 14 rfl rfl)
theorem dX1_isBarred_17 : decode cX1_isBarred 17 = .ok (.istore_n 3, 1) := dk_62 (dk_at dksX1_isBarred_0 17 rfl rfl)
theorem dX1_isBarred_18 : decode cX1_isBarred 18 = .ok (.iconst 0, 1) := dk_3 (dk_at dksX1_isBarred_0 18 rfl rfl)
theorem dX1_isBarred_19 : decode cX1_isBarred 19 = .ok (.istore 4, 2) := dk_54 4 (dk_at dksX1_isBarred_0 19 rfl rfl)
theorem dX1_isBarred_21 : decode cX1_isBarred 21 = .ok (.iload 4, 2) := dk_21 4 (dk_at dksX1_isBarred_0 21 rfl rfl)
theorem dX1_isBarred_23 : decode cX1_isBarred 23 = .ok (.iconst 4, 1) := dk_7 (dk_at dksX1_isBarred_0 23 rfl rfl)
theorem dX1_isBarred_24 : decode cX1_isBarred 24 = .ok (.if_icmp .ge 47, 3) := dk_162 0 47 (dk_at dksX1_isBarred_1 0 rfl rfl)
theorem dX1_isBarred_27 : decode cX1_isBarred 27 = .ok (.iload 4, 2) := dk_21 4 (dk_at dksX1_isBarred_1 3 rfl rfl)
theorem dX1_isBarred_29 : decode cX1_isBarred 29 = .ok (.iload_n 3, 1) := dk_29 (dk_at dksX1_isBarred_1 5 rfl rfl)
theorem dX1_isBarred_30 : decode cX1_isBarred 30 = .ok (.if_icmp .eq 35, 3) := dk_159 0 35 (dk_at dksX1_isBarred_1 6 rfl rfl)
theorem dX1_isBarred_33 : decode cX1_isBarred 33 = .ok (.aload_n 1, 1) := dk_43 (dk_at dksX1_isBarred_1 9 rfl rfl)
theorem dX1_isBarred_34 : decode cX1_isBarred 34 = .ok (.getfield 259, 3) := dk_180 1 3 (dk_at dksX1_isBarred_1 10 rfl rfl)
theorem dX1_isBarred_37 : decode cX1_isBarred 37 = .ok (.iload 4, 2) := dk_21 4 (dk_at dksX1_isBarred_1 13 rfl rfl)
theorem dX1_isBarred_39 : decode cX1_isBarred 39 = .ok (.aaload, 1) := dk_50 (dk_at dksX1_isBarred_1 15 rfl rfl)
theorem dX1_isBarred_40 : decode cX1_isBarred 40 = .ok (.ifnull 25, 3) := dk_198 0 25 (dk_at dksX1_isBarred_1 16 rfl rfl)
theorem dX1_isBarred_43 : decode cX1_isBarred 43 = .ok (.aload_n 0, 1) := dk_42 (dk_at dksX1_isBarred_1 19 rfl rfl)
theorem dX1_isBarred_44 : decode cX1_isBarred 44 = .ok (.aload_n 1, 1) := dk_43 (dk_at dksX1_isBarred_1 20 rfl rfl)
theorem dX1_isBarred_45 : decode cX1_isBarred 45 = .ok (.iload_n 2, 1) := dk_28 (dk_at dksX1_isBarred_1 21 rfl rfl)
theorem dX1_isBarred_46 : decode cX1_isBarred 46 = .ok (.aload_n 1, 1) := dk_43 (dk_at dksX1_isBarred_1 22 rfl rfl)
theorem dX1_isBarred_47 : decode cX1_isBarred 47 = .ok (.getfield 259, 3) := dk_180 1 3 (dk_at dksX1_isBarred_2 0 rfl rfl)
theorem dX1_isBarred_50 : decode cX1_isBarred 50 = .ok (.iload 4, 2) := dk_21 4 (dk_at dksX1_isBarred_2 3 rfl rfl)
theorem dX1_isBarred_52 : decode cX1_isBarred 52 = .ok (.aaload, 1) := dk_50 (dk_at dksX1_isBarred_2 5 rfl rfl)
theorem dX1_isBarred_53 : decode cX1_isBarred 53 = .ok (.getfield 263, 3) := dk_180 1 7 (dk_at dksX1_isBarred_2 6 rfl rfl)
theorem dX1_isBarred_56 : decode cX1_isBarred 56 = .ok (.invokevirtual 254, 3) := dk_182 0 254 (dk_at dksX1_isBarred_2 9 rfl rfl)
theorem dX1_isBarred_59 : decode cX1_isBarred 59 = .ok (.iconst (-1), 1) := dk_2 (dk_at dksX1_isBarred_2 12 rfl rfl)
theorem dX1_isBarred_60 : decode cX1_isBarred 60 = .ok (.if_icmp .eq 5, 3) := dk_159 0 5 (dk_at dksX1_isBarred_2 13 rfl rfl)
theorem dX1_isBarred_63 : decode cX1_isBarred 63 = .ok (.iconst 1, 1) := dk_4 (dk_at dksX1_isBarred_2 16 rfl rfl)
theorem dX1_isBarred_64 : decode cX1_isBarred 64 = .ok (.ireturn, 1) := dk_172 (dk_at dksX1_isBarred_2 17 rfl rfl)
theorem dX1_isBarred_65 : decode cX1_isBarred 65 = .ok (.iinc 4 1, 3) := dk_132 4 1 (dk_at dksX1_isBarred_2 18 rfl rfl)
theorem dX1_isBarred_68 : decode cX1_isBarred 68 = .ok (.goto (-47), 3) := dk_167 255 209 (dk_at dksX1_isBarred_2 21 rfl rfl)
theorem dX1_isBarred_71 : decode cX1_isBarred 71 = .ok (.iconst 0, 1) := dk_3 (dk_at dksX1_isBarred_3 0 rfl rfl)
theorem dX1_isBarred_72 : decode cX1_isBarred 72 = .ok (.ireturn, 1) := dk_172 (dk_at dksX1_isBarred_3 1 rfl rfl)
abbrev cX1_fits_2 : ByteArray := prog_1_method_33_code
def yX1_fits_2 : MethodName := ⟨RX1, "fits", "(LLimbBenches$Person;III)V"⟩
def dkwX1_fits_2_5 : List UInt8 := [182, 0, 123, 87, 177]
abbrev dktX1_fits_2_5 : List UInt8 := dkwX1_fits_2_5 ++ []
def dkwX1_fits_2_4 : List UInt8 := [187, 1, 22, 89, 42, 180, 0, 10, 180, 1, 24, 42, 180, 0, 10, 180, 0, 149, 2, 183, 1, 27]
abbrev dktX1_fits_2_4 : List UInt8 := dkwX1_fits_2_4 ++ dktX1_fits_2_5
def dkwX1_fits_2_3 : List UInt8 := [16, 55, 21, 5, 104, 42, 182, 1, 19, 96, 92, 46, 4, 96, 79, 42, 180, 0, 10, 180, 1, 12]
abbrev dktX1_fits_2_3 : List UInt8 := dkwX1_fits_2_3 ++ dktX1_fits_2_4
def dkwX1_fits_2_2 : List UInt8 := [180, 0, 149, 182, 0, 166, 42, 180, 0, 10, 180, 1, 12, 182, 0, 74, 183, 1, 15, 83, 43, 180, 1, 16]
abbrev dktX1_fits_2_2 : List UInt8 := dkwX1_fits_2_2 ++ dktX1_fits_2_3
def dkwX1_fits_2_1 : List UInt8 := [21, 5, 187, 1, 8, 89, 28, 29, 42, 180, 0, 10, 180, 0, 149, 21, 4, 43, 42, 180, 0, 10]
abbrev dktX1_fits_2_1 : List UInt8 := dkwX1_fits_2_1 ++ dktX1_fits_2_2
def dkwX1_fits_2_0 : List UInt8 := [42, 180, 0, 10, 180, 0, 87, 28, 182, 0, 81, 192, 0, 93, 180, 1, 2, 54, 5, 43, 180, 1, 3]
abbrev dktX1_fits_2_0 : List UInt8 := dkwX1_fits_2_0 ++ dktX1_fits_2_1
theorem dksX1_fits_2_0 : cX1_fits_2.data.toList.drop 0 = dktX1_fits_2_0 := by decide +kernel
theorem dksX1_fits_2_1 : cX1_fits_2.data.toList.drop 23 = dktX1_fits_2_1 := dk_seg dksX1_fits_2_0 23 rfl rfl
theorem dksX1_fits_2_2 : cX1_fits_2.data.toList.drop 45 = dktX1_fits_2_2 := dk_seg dksX1_fits_2_1 22 rfl rfl
theorem dksX1_fits_2_3 : cX1_fits_2.data.toList.drop 69 = dktX1_fits_2_3 := dk_seg dksX1_fits_2_2 24 rfl rfl
theorem dksX1_fits_2_4 : cX1_fits_2.data.toList.drop 91 = dktX1_fits_2_4 := dk_seg dksX1_fits_2_3 22 rfl rfl
theorem dksX1_fits_2_5 : cX1_fits_2.data.toList.drop 113 = dktX1_fits_2_5 := dk_seg dksX1_fits_2_4 22 rfl rfl
theorem dX1_fits_2_0 : decode cX1_fits_2 0 = .ok (.aload_n 0, 1) := dk_42 (dk_at dksX1_fits_2_0 0 rfl rfl)
theorem dX1_fits_2_1 : decode cX1_fits_2 1 = .ok (.getfield 10, 3) := dk_180 0 10 (dk_at dksX1_fits_2_0 1 rfl rfl)
theorem dX1_fits_2_4 : decode cX1_fits_2 4 = .ok (.getfield 87, 3) := dk_180 0 87 (dk_at dksX1_fits_2_0 4 rfl rfl)
theorem dX1_fits_2_7 : decode cX1_fits_2 7 = .ok (.iload_n 2, 1) := dk_28 (dk_at dksX1_fits_2_0 7 rfl rfl)
theorem dX1_fits_2_8 : decode cX1_fits_2 8 = .ok (.invokevirtual 81, 3) := dk_182 0 81 (dk_at dksX1_fits_2_0 8 rfl rfl)
theorem dX1_fits_2_11 : decode cX1_fits_2 11 = .ok (.checkcast 93, 3) := dk_192 0 93 (dk_at dksX1_fits_2_0 11 rfl rfl)
theorem dX1_fits_2_14 : decode cX1_fits_2 14 = .ok (.getfield 258, 3) := dk_180 1 2 (dk_at dksX1_fits_2_0 14 rfl rfl)
theorem dX1_fits_2_17 : decode cX1_fits_2 17 = .ok (.istore 5, 2) := dk_54 5 (dk_at dksX1_fits_2_0 17 rfl rfl)
theorem dX1_fits_2_19 : decode cX1_fits_2 19 = .ok (.aload_n 1, 1) := dk_43 (dk_at dksX1_fits_2_0 19 rfl rfl)
theorem dX1_fits_2_20 : decode cX1_fits_2 20 = .ok (.getfield 259, 3) := dk_180 1 3 (dk_at dksX1_fits_2_0 20 rfl rfl)
theorem dX1_fits_2_23 : decode cX1_fits_2 23 = .ok (.iload 5, 2) := dk_21 5 (dk_at dksX1_fits_2_1 0 rfl rfl)
theorem dX1_fits_2_25 : decode cX1_fits_2 25 = .ok (.new 264, 3) := dk_187 1 8 (dk_at dksX1_fits_2_1 2 rfl rfl)
theorem dX1_fits_2_28 : decode cX1_fits_2 28 = .ok (.dup, 1) := dk_89 (dk_at dksX1_fits_2_1 5 rfl rfl)
theorem dX1_fits_2_29 : decode cX1_fits_2 29 = .ok (.iload_n 2, 1) := dk_28 (dk_at dksX1_fits_2_1 6 rfl rfl)
theorem dX1_fits_2_30 : decode cX1_fits_2 30 = .ok (.iload_n 3, 1) := dk_29 (dk_at dksX1_fits_2_1 7 rfl rfl)
theorem dX1_fits_2_31 : decode cX1_fits_2 31 = .ok (.aload_n 0, 1) := dk_42 (dk_at dksX1_fits_2_1 8 rfl rfl)
theorem dX1_fits_2_32 : decode cX1_fits_2 32 = .ok (.getfield 10, 3) := dk_180 0 10 (dk_at dksX1_fits_2_1 9 rfl rfl)
theorem dX1_fits_2_35 : decode cX1_fits_2 35 = .ok (.getfield 149, 3) := dk_180 0 149 (dk_at dksX1_fits_2_1 12 rfl rfl)
theorem dX1_fits_2_38 : decode cX1_fits_2 38 = .ok (.iload 4, 2) := dk_21 4 (dk_at dksX1_fits_2_1 15 rfl rfl)
theorem dX1_fits_2_40 : decode cX1_fits_2 40 = .ok (.aload_n 1, 1) := dk_43 (dk_at dksX1_fits_2_1 17 rfl rfl)
theorem dX1_fits_2_41 : decode cX1_fits_2 41 = .ok (.aload_n 0, 1) := dk_42 (dk_at dksX1_fits_2_1 18 rfl rfl)
theorem dX1_fits_2_42 : decode cX1_fits_2 42 = .ok (.getfield 10, 3) := dk_180 0 10 (dk_at dksX1_fits_2_1 19 rfl rfl)
theorem dX1_fits_2_45 : decode cX1_fits_2 45 = .ok (.getfield 149, 3) := dk_180 0 149 (dk_at dksX1_fits_2_2 0 rfl rfl)
theorem dX1_fits_2_48 : decode cX1_fits_2 48 = .ok (.invokevirtual 166, 3) := dk_182 0 166 (dk_at dksX1_fits_2_2 3 rfl rfl)
theorem dX1_fits_2_51 : decode cX1_fits_2 51 = .ok (.aload_n 0, 1) := dk_42 (dk_at dksX1_fits_2_2 6 rfl rfl)
theorem dX1_fits_2_52 : decode cX1_fits_2 52 = .ok (.getfield 10, 3) := dk_180 0 10 (dk_at dksX1_fits_2_2 7 rfl rfl)
theorem dX1_fits_2_55 : decode cX1_fits_2 55 = .ok (.getfield 268, 3) := dk_180 1 12 (dk_at dksX1_fits_2_2 10 rfl rfl)
theorem dX1_fits_2_58 : decode cX1_fits_2 58 = .ok (.invokevirtual 74, 3) := dk_182 0 74 (dk_at dksX1_fits_2_2 13 rfl rfl)
theorem dX1_fits_2_61 : decode cX1_fits_2 61 = .ok (.invokespecial 271, 3) := dk_183 1 15 (dk_at dksX1_fits_2_2 16 rfl rfl)
theorem dX1_fits_2_64 : decode cX1_fits_2 64 = .ok (.aastore, 1) := dk_83 (dk_at dksX1_fits_2_2 19 rfl rfl)
theorem dX1_fits_2_65 : decode cX1_fits_2 65 = .ok (.aload_n 1, 1) := dk_43 (dk_at dksX1_fits_2_2 20 rfl rfl)
theorem dX1_fits_2_66 : decode cX1_fits_2 66 = .ok (.getfield 272, 3) := dk_180 1 16 (dk_at dksX1_fits_2_2 21 rfl rfl)
theorem dX1_fits_2_69 : decode cX1_fits_2 69 = .ok (.bipush 55, 2) := dk_16 55 (dk_at dksX1_fits_2_3 0 rfl rfl)
theorem dX1_fits_2_71 : decode cX1_fits_2 71 = .ok (.iload 5, 2) := dk_21 5 (dk_at dksX1_fits_2_3 2 rfl rfl)
theorem dX1_fits_2_73 : decode cX1_fits_2 73 = .ok (.imul, 1) := dk_104 (dk_at dksX1_fits_2_3 4 rfl rfl)
theorem dX1_fits_2_74 : decode cX1_fits_2 74 = .ok (.aload_n 0, 1) := dk_42 (dk_at dksX1_fits_2_3 5 rfl rfl)
theorem dX1_fits_2_75 : decode cX1_fits_2 75 = .ok (.invokevirtual 275, 3) := dk_182 1 19 (dk_at dksX1_fits_2_3 6 rfl rfl)
theorem dX1_fits_2_78 : decode cX1_fits_2 78 = .ok (.iadd, 1) := dk_96 (dk_at dksX1_fits_2_3 9 rfl rfl)
theorem dX1_fits_2_79 : decode cX1_fits_2 79 = .ok (.dup2, 1) := dk_92 (dk_at dksX1_fits_2_3 10 rfl rfl)
theorem dX1_fits_2_80 : decode cX1_fits_2 80 = .ok (.iaload, 1) := dk_46 (dk_at dksX1_fits_2_3 11 rfl rfl)
theorem dX1_fits_2_81 : decode cX1_fits_2 81 = .ok (.iconst 1, 1) := dk_4 (dk_at dksX1_fits_2_3 12 rfl rfl)
theorem dX1_fits_2_82 : decode cX1_fits_2 82 = .ok (.iadd, 1) := dk_96 (dk_at dksX1_fits_2_3 13 rfl rfl)
theorem dX1_fits_2_83 : decode cX1_fits_2 83 = .ok (.iastore, 1) := dk_79 (dk_at dksX1_fits_2_3 14 rfl rfl)
theorem dX1_fits_2_84 : decode cX1_fits_2 84 = .ok (.aload_n 0, 1) := dk_42 (dk_at dksX1_fits_2_3 15 rfl rfl)
theorem dX1_fits_2_85 : decode cX1_fits_2 85 = .ok (.getfield 10, 3) := dk_180 0 10 (dk_at dksX1_fits_2_3 16 rfl rfl)
theorem dX1_fits_2_88 : decode cX1_fits_2 88 = .ok (.getfield 268, 3) := dk_180 1 12 (dk_at dksX1_fits_2_3 19 rfl rfl)
theorem dX1_fits_2_91 : decode cX1_fits_2 91 = .ok (.new 278, 3) := dk_187 1 22 (dk_at dksX1_fits_2_4 0 rfl rfl)
theorem dX1_fits_2_94 : decode cX1_fits_2 94 = .ok (.dup, 1) := dk_89 (dk_at dksX1_fits_2_4 3 rfl rfl)
theorem dX1_fits_2_95 : decode cX1_fits_2 95 = .ok (.aload_n 0, 1) := dk_42 (dk_at dksX1_fits_2_4 4 rfl rfl)
theorem dX1_fits_2_96 : decode cX1_fits_2 96 = .ok (.getfield 10, 3) := dk_180 0 10 (dk_at dksX1_fits_2_4 5 rfl rfl)
theorem dX1_fits_2_99 : decode cX1_fits_2 99 = .ok (.getfield 280, 3) := dk_180 1 24 (dk_at dksX1_fits_2_4 8 rfl rfl)
theorem dX1_fits_2_102 : decode cX1_fits_2 102 = .ok (.aload_n 0, 1) := dk_42 (dk_at dksX1_fits_2_4 11 rfl rfl)
theorem dX1_fits_2_103 : decode cX1_fits_2 103 = .ok (.getfield 10, 3) := dk_180 0 10 (dk_at dksX1_fits_2_4 12 rfl rfl)
theorem dX1_fits_2_106 : decode cX1_fits_2 106 = .ok (.getfield 149, 3) := dk_180 0 149 (dk_at dksX1_fits_2_4 15 rfl rfl)
theorem dX1_fits_2_109 : decode cX1_fits_2 109 = .ok (.iconst (-1), 1) := dk_2 (dk_at dksX1_fits_2_4 18 rfl rfl)
theorem dX1_fits_2_110 : decode cX1_fits_2 110 = .ok (.invokespecial 283, 3) := dk_183 1 27 (dk_at dksX1_fits_2_4 19 rfl rfl)
theorem dX1_fits_2_113 : decode cX1_fits_2 113 = .ok (.invokevirtual 123, 3) := dk_182 0 123 (dk_at dksX1_fits_2_5 0 rfl rfl)
theorem dX1_fits_2_116 : decode cX1_fits_2 116 = .ok (.pop, 1) := dk_87 (dk_at dksX1_fits_2_5 3 rfl rfl)
theorem dX1_fits_2_117 : decode cX1_fits_2 117 = .ok (.return_, 1) := dk_177 (dk_at dksX1_fits_2_5 4 rfl rfl)
abbrev cX1_yearNow : ByteArray := prog_1_method_20_code
def yX1_yearNow : MethodName := ⟨RX1, "yearNow", "()I"⟩
def dkwX1_yearNow_0 : List UInt8 := [42, 180, 0, 10, 180, 0, 149, 17, 1, 109, 108, 172]
abbrev dktX1_yearNow_0 : List UInt8 := dkwX1_yearNow_0 ++ []
theorem dksX1_yearNow_0 : cX1_yearNow.data.toList.drop 0 = dktX1_yearNow_0 := by decide +kernel
theorem dX1_yearNow_0 : decode cX1_yearNow 0 = .ok (.aload_n 0, 1) := dk_42 (dk_at dksX1_yearNow_0 0 rfl rfl)
theorem dX1_yearNow_1 : decode cX1_yearNow 1 = .ok (.getfield 10, 3) := dk_180 0 10 (dk_at dksX1_yearNow_0 1 rfl rfl)
theorem dX1_yearNow_4 : decode cX1_yearNow 4 = .ok (.getfield 149, 3) := dk_180 0 149 (dk_at dksX1_yearNow_0 4 rfl rfl)
theorem dX1_yearNow_7 : decode cX1_yearNow 7 = .ok (.sipush 365, 3) := dk_17 1 109 (dk_at dksX1_yearNow_0 7 rfl rfl)
theorem dX1_yearNow_10 : decode cX1_yearNow 10 = .ok (.idiv, 1) := dk_108 (dk_at dksX1_yearNow_0 10 rfl rfl)
theorem dX1_yearNow_11 : decode cX1_yearNow 11 = .ok (.ireturn, 1) := dk_172 (dk_at dksX1_yearNow_0 11 rfl rfl)
abbrev cX1_part : ByteArray := prog_1_method_38_code
def yX1_part : MethodName := ⟨RX1, "part", "(III)I"⟩
def dkwX1_part_4 : List UInt8 := [180, 0, 10, 180, 0, 149, 182, 1, 65, 172, 42, 25, 4, 28, 25, 4, 182, 1, 67, 182, 1, 70, 172]
abbrev dktX1_part_4 : List UInt8 := dkwX1_part_4 ++ []
def dkwX1_part_3 : List UInt8 := [25, 5, 180, 1, 7, 172, 25, 5, 180, 1, 59, 172, 25, 5, 180, 1, 62, 172, 25, 4, 28, 42]
abbrev dktX1_part_3 : List UInt8 := dkwX1_part_3 ++ dktX1_part_4
def dkwX1_part_2 : List UInt8 := [170, 0, 0, 0, 0, 0, 0, 64, 0, 0, 0, 0, 0, 0, 0, 3, 0, 0, 0, 32, 0, 0, 0, 38, 0, 0, 0, 44, 0, 0, 0, 50]
abbrev dktX1_part_2 : List UInt8 := dkwX1_part_2 ++ dktX1_part_3
def dkwX1_part_1 : List UInt8 := [167, 0, 4, 3, 184, 0, 105, 25, 4, 180, 1, 3, 28, 50, 58, 5, 25, 5, 199, 0, 5, 2, 172, 29]
abbrev dktX1_part_1 : List UInt8 := dkwX1_part_1 ++ dktX1_part_2
def dkwX1_part_0 : List UInt8 := [42, 27, 182, 0, 162, 58, 4, 28, 184, 0, 142, 153, 0, 16, 29, 155, 0, 12, 29, 7, 163, 0, 7, 4]
abbrev dktX1_part_0 : List UInt8 := dkwX1_part_0 ++ dktX1_part_1
theorem dksX1_part_0 : cX1_part.data.toList.drop 0 = dktX1_part_0 := by decide +kernel
theorem dksX1_part_1 : cX1_part.data.toList.drop 24 = dktX1_part_1 := dk_seg dksX1_part_0 24 rfl rfl
theorem dksX1_part_2 : cX1_part.data.toList.drop 48 = dktX1_part_2 := dk_seg dksX1_part_1 24 rfl rfl
theorem dksX1_part_3 : cX1_part.data.toList.drop 80 = dktX1_part_3 := dk_seg dksX1_part_2 32 rfl rfl
theorem dksX1_part_4 : cX1_part.data.toList.drop 102 = dktX1_part_4 := dk_seg dksX1_part_3 22 rfl rfl
theorem dX1_part_0 : decode cX1_part 0 = .ok (.aload_n 0, 1) := dk_42 (dk_at dksX1_part_0 0 rfl rfl)
theorem dX1_part_1 : decode cX1_part 1 = .ok (.iload_n 1, 1) := dk_27 (dk_at dksX1_part_0 1 rfl rfl)
theorem dX1_part_2 : decode cX1_part 2 = .ok (.invokevirtual 162, 3) := dk_182 0 162 (dk_at dksX1_part_0 2 rfl rfl)
theorem dX1_part_5 : decode cX1_part 5 = .ok (.astore 4, 2) := dk_58 4 (dk_at dksX1_part_0 5 rfl rfl)
theorem dX1_part_7 : decode cX1_part 7 = .ok (.iload_n 2, 1) := dk_28 (dk_at dksX1_part_0 7 rfl rfl)
theorem dX1_part_8 : decode cX1_part 8 = .ok (.invokestatic 142, 3) := dk_184 0 142 (dk_at dksX1_part_0 8 rfl rfl)
theorem dX1_part_11 : decode cX1_part 11 = .ok (.ifCond .eq 16, 3) := dk_153 0 16 (dk_at dksX1_part_0 11 rfl rfl)
theorem dX1_part_14 : decode cX1_part 14 = .ok (.iload_n 3, 1) := dk_29 (dk_at dksX1_part_0 14 rfl rfl)
theorem dX1_part_15 : decode cX1_part 15 = .ok (.ifCond .lt 12, 3) := dk_155 0 12 (dk_at dksX1_part_0 15 rfl rfl)
theorem dX1_part_18 : decode cX1_part 18 = .ok (.iload_n 3, 1) := dk_29 (dk_at dksX1_part_0 18 rfl rfl)
theorem dX1_part_19 : decode cX1_part 19 = .ok (.iconst 4, 1) := dk_7 (dk_at dksX1_part_0 19 rfl rfl)
theorem dX1_part_20 : decode cX1_part 20 = .ok (.if_icmp .gt 7, 3) := dk_163 0 7 (dk_at dksX1_part_0 20 rfl rfl)
theorem dX1_part_23 : decode cX1_part 23 = .ok (.iconst 1, 1) := dk_4 (dk_at dksX1_part_0 23 rfl rfl)
theorem dX1_part_24 : decode cX1_part 24 = .ok (.goto 4, 3) := dk_167 0 4 (dk_at dksX1_part_1 0 rfl rfl)
theorem dX1_part_27 : decode cX1_part 27 = .ok (.iconst 0, 1) := dk_3 (dk_at dksX1_part_1 3 rfl rfl)
theorem dX1_part_28 : decode cX1_part 28 = .ok (.invokestatic 105, 3) := dk_184 0 105 (dk_at dksX1_part_1 4 rfl rfl)
theorem dX1_part_31 : decode cX1_part 31 = .ok (.aload 4, 2) := dk_25 4 (dk_at dksX1_part_1 7 rfl rfl)
theorem dX1_part_33 : decode cX1_part 33 = .ok (.getfield 259, 3) := dk_180 1 3 (dk_at dksX1_part_1 9 rfl rfl)
theorem dX1_part_36 : decode cX1_part 36 = .ok (.iload_n 2, 1) := dk_28 (dk_at dksX1_part_1 12 rfl rfl)
theorem dX1_part_37 : decode cX1_part 37 = .ok (.aaload, 1) := dk_50 (dk_at dksX1_part_1 13 rfl rfl)
theorem dX1_part_38 : decode cX1_part 38 = .ok (.astore 5, 2) := dk_58 5 (dk_at dksX1_part_1 14 rfl rfl)
theorem dX1_part_40 : decode cX1_part 40 = .ok (.aload 5, 2) := dk_25 5 (dk_at dksX1_part_1 16 rfl rfl)
theorem dX1_part_42 : decode cX1_part 42 = .ok (.ifnonnull 5, 3) := dk_199 0 5 (dk_at dksX1_part_1 18 rfl rfl)
theorem dX1_part_45 : decode cX1_part 45 = .ok (.iconst (-1), 1) := dk_2 (dk_at dksX1_part_1 21 rfl rfl)
theorem dX1_part_46 : decode cX1_part 46 = .ok (.ireturn, 1) := dk_172 (dk_at dksX1_part_1 22 rfl rfl)
theorem dX1_part_47 : decode cX1_part 47 = .ok (.iload_n 3, 1) := dk_29 (dk_at dksX1_part_1 23 rfl rfl)
theorem dX1_part_48 : decode cX1_part 48 = .ok (.tableswitch 64 0 3 #[32, 38, 44, 50], 32) := by decide +kernel
theorem dX1_part_80 : decode cX1_part 80 = .ok (.aload 5, 2) := dk_25 5 (dk_at dksX1_part_3 0 rfl rfl)
theorem dX1_part_82 : decode cX1_part 82 = .ok (.getfield 263, 3) := dk_180 1 7 (dk_at dksX1_part_3 2 rfl rfl)
theorem dX1_part_85 : decode cX1_part 85 = .ok (.ireturn, 1) := dk_172 (dk_at dksX1_part_3 5 rfl rfl)
theorem dX1_part_86 : decode cX1_part 86 = .ok (.aload 5, 2) := dk_25 5 (dk_at dksX1_part_3 6 rfl rfl)
theorem dX1_part_88 : decode cX1_part 88 = .ok (.getfield 315, 3) := dk_180 1 59 (dk_at dksX1_part_3 8 rfl rfl)
theorem dX1_part_91 : decode cX1_part 91 = .ok (.ireturn, 1) := dk_172 (dk_at dksX1_part_3 11 rfl rfl)
theorem dX1_part_92 : decode cX1_part 92 = .ok (.aload 5, 2) := dk_25 5 (dk_at dksX1_part_3 12 rfl rfl)
theorem dX1_part_94 : decode cX1_part 94 = .ok (.getfield 318, 3) := dk_180 1 62 (dk_at dksX1_part_3 14 rfl rfl)
theorem dX1_part_97 : decode cX1_part 97 = .ok (.ireturn, 1) := dk_172 (dk_at dksX1_part_3 17 rfl rfl)
theorem dX1_part_98 : decode cX1_part 98 = .ok (.aload 4, 2) := dk_25 4 (dk_at dksX1_part_3 18 rfl rfl)
theorem dX1_part_100 : decode cX1_part 100 = .ok (.iload_n 2, 1) := dk_28 (dk_at dksX1_part_3 20 rfl rfl)
theorem dX1_part_101 : decode cX1_part 101 = .ok (.aload_n 0, 1) := dk_42 (dk_at dksX1_part_3 21 rfl rfl)
theorem dX1_part_102 : decode cX1_part 102 = .ok (.getfield 10, 3) := dk_180 0 10 (dk_at dksX1_part_4 0 rfl rfl)
theorem dX1_part_105 : decode cX1_part 105 = .ok (.getfield 149, 3) := dk_180 0 149 (dk_at dksX1_part_4 3 rfl rfl)
theorem dX1_part_108 : decode cX1_part 108 = .ok (.invokevirtual 321, 3) := dk_182 1 65 (dk_at dksX1_part_4 6 rfl rfl)
theorem dX1_part_111 : decode cX1_part 111 = .ok (.ireturn, 1) := dk_172 (dk_at dksX1_part_4 9 rfl rfl)
theorem dX1_part_112 : decode cX1_part 112 = .ok (.aload_n 0, 1) := dk_42 (dk_at dksX1_part_4 10 rfl rfl)
theorem dX1_part_113 : decode cX1_part 113 = .ok (.aload 4, 2) := dk_25 4 (dk_at dksX1_part_4 11 rfl rfl)
theorem dX1_part_115 : decode cX1_part 115 = .ok (.iload_n 2, 1) := dk_28 (dk_at dksX1_part_4 13 rfl rfl)
theorem dX1_part_116 : decode cX1_part 116 = .ok (.aload 4, 2) := dk_25 4 (dk_at dksX1_part_4 14 rfl rfl)
theorem dX1_part_118 : decode cX1_part 118 = .ok (.invokevirtual 323, 3) := dk_182 1 67 (dk_at dksX1_part_4 16 rfl rfl)
theorem dX1_part_121 : decode cX1_part 121 = .ok (.invokevirtual 326, 3) := dk_182 1 70 (dk_at dksX1_part_4 19 rfl rfl)
theorem dX1_part_124 : decode cX1_part 124 = .ok (.ireturn, 1) := dk_172 (dk_at dksX1_part_4 22 rfl rfl)
abbrev cX1_dueOf : ByteArray := prog_1_method_37_code
def yX1_dueOf : MethodName := ⟨RX1, "dueOf", "(LLimbBenches$Person;II)I"⟩
def dkwX1_dueOf_2 : List UInt8 := [161, 0, 6, 21, 5, 172, 132, 5, 1, 167, 255, 226, 2, 172]
abbrev dktX1_dueOf_2 : List UInt8 := dkwX1_dueOf_2 ++ []
def dkwX1_dueOf_1 : List UInt8 := [54, 5, 21, 5, 17, 78, 32, 163, 0, 28, 43, 28, 21, 5, 29, 182, 1, 55, 16, 10, 21, 4, 104]
abbrev dktX1_dueOf_1 : List UInt8 := dkwX1_dueOf_1 ++ dktX1_dueOf_2
def dkwX1_dueOf_0 : List UInt8 := [42, 43, 28, 182, 1, 52, 54, 4, 21, 4, 2, 160, 0, 5, 2, 172, 42, 180, 0, 10, 180, 0, 149]
abbrev dktX1_dueOf_0 : List UInt8 := dkwX1_dueOf_0 ++ dktX1_dueOf_1
theorem dksX1_dueOf_0 : cX1_dueOf.data.toList.drop 0 = dktX1_dueOf_0 := by decide +kernel
theorem dksX1_dueOf_1 : cX1_dueOf.data.toList.drop 23 = dktX1_dueOf_1 := dk_seg dksX1_dueOf_0 23 rfl rfl
theorem dksX1_dueOf_2 : cX1_dueOf.data.toList.drop 46 = dktX1_dueOf_2 := dk_seg dksX1_dueOf_1 23 rfl rfl
theorem dX1_dueOf_0 : decode cX1_dueOf 0 = .ok (.aload_n 0, 1) := dk_42 (dk_at dksX1_dueOf_0 0 rfl rfl)
theorem dX1_dueOf_1 : decode cX1_dueOf 1 = .ok (.aload_n 1, 1) := dk_43 (dk_at dksX1_dueOf_0 1 rfl rfl)
theorem dX1_dueOf_2 : decode cX1_dueOf 2 = .ok (.iload_n 2, 1) := dk_28 (dk_at dksX1_dueOf_0 2 rfl rfl)
theorem dX1_dueOf_3 : decode cX1_dueOf 3 = .ok (.invokevirtual 308, 3) := dk_182 1 52 (dk_at dksX1_dueOf_0 3 rfl rfl)
theorem dX1_dueOf_6 : decode cX1_dueOf 6 = .ok (.istore 4, 2) := dk_54 4 (dk_at dksX1_dueOf_0 6 rfl rfl)
theorem dX1_dueOf_8 : decode cX1_dueOf 8 = .ok (.iload 4, 2) := dk_21 4 (dk_at dksX1_dueOf_0 8 rfl rfl)
theorem dX1_dueOf_10 : decode cX1_dueOf 10 = .ok (.iconst (-1), 1) := dk_2 (dk_at dksX1_dueOf_0 10 rfl rfl)
theorem dX1_dueOf_11 : decode cX1_dueOf 11 = .ok (.if_icmp .ne 5, 3) := dk_160 0 5 (dk_at dksX1_dueOf_0 11 rfl rfl)
theorem dX1_dueOf_14 : decode cX1_dueOf 14 = .ok (.iconst (-1), 1) := dk_2 (dk_at dksX1_dueOf_0 14 rfl rfl)
theorem dX1_dueOf_15 : decode cX1_dueOf 15 = .ok (.ireturn, 1) := dk_172 (dk_at dksX1_dueOf_0 15 rfl rfl)
theorem dX1_dueOf_16 : decode cX1_dueOf 16 = .ok (.aload_n 0, 1) := dk_42 (dk_at dksX1_dueOf_0 16 rfl rfl)
theorem dX1_dueOf_17 : decode cX1_dueOf 17 = .ok (.getfield 10, 3) := dk_180 0 10 (dk_at dksX1_dueOf_0 17 rfl rfl)
theorem dX1_dueOf_20 : decode cX1_dueOf 20 = .ok (.getfield 149, 3) := dk_180 0 149 (dk_at dksX1_dueOf_0 20 rfl rfl)
theorem dX1_dueOf_23 : decode cX1_dueOf 23 = .ok (.istore 5, 2) := dk_54 5 (dk_at dksX1_dueOf_1 0 rfl rfl)
theorem dX1_dueOf_25 : decode cX1_dueOf 25 = .ok (.iload 5, 2) := dk_21 5 (dk_at dksX1_dueOf_1 2 rfl rfl)
theorem dX1_dueOf_27 : decode cX1_dueOf 27 = .ok (.sipush 20000, 3) := dk_17 78 32 (dk_at dksX1_dueOf_1 4 rfl rfl)
theorem dX1_dueOf_30 : decode cX1_dueOf 30 = .ok (.if_icmp .gt 28, 3) := dk_163 0 28 (dk_at dksX1_dueOf_1 7 rfl rfl)
theorem dX1_dueOf_33 : decode cX1_dueOf 33 = .ok (.aload_n 1, 1) := dk_43 (dk_at dksX1_dueOf_1 10 rfl rfl)
theorem dX1_dueOf_34 : decode cX1_dueOf 34 = .ok (.iload_n 2, 1) := dk_28 (dk_at dksX1_dueOf_1 11 rfl rfl)
theorem dX1_dueOf_35 : decode cX1_dueOf 35 = .ok (.iload 5, 2) := dk_21 5 (dk_at dksX1_dueOf_1 12 rfl rfl)
theorem dX1_dueOf_37 : decode cX1_dueOf 37 = .ok (.iload_n 3, 1) := dk_29 (dk_at dksX1_dueOf_1 14 rfl rfl)
theorem dX1_dueOf_38 : decode cX1_dueOf 38 = .ok (.invokevirtual 311, 3) := dk_182 1 55 (dk_at dksX1_dueOf_1 15 rfl rfl)
theorem dX1_dueOf_41 : decode cX1_dueOf 41 = .ok (.bipush 10, 2) := dk_16 10 (dk_at dksX1_dueOf_1 18 rfl rfl)
theorem dX1_dueOf_43 : decode cX1_dueOf 43 = .ok (.iload 4, 2) := dk_21 4 (dk_at dksX1_dueOf_1 20 rfl rfl)
theorem dX1_dueOf_45 : decode cX1_dueOf 45 = .ok (.imul, 1) := dk_104 (dk_at dksX1_dueOf_1 22 rfl rfl)
theorem dX1_dueOf_46 : decode cX1_dueOf 46 = .ok (.if_icmp .lt 6, 3) := dk_161 0 6 (dk_at dksX1_dueOf_2 0 rfl rfl)
theorem dX1_dueOf_49 : decode cX1_dueOf 49 = .ok (.iload 5, 2) := dk_21 5 (dk_at dksX1_dueOf_2 3 rfl rfl)
theorem dX1_dueOf_51 : decode cX1_dueOf 51 = .ok (.ireturn, 1) := dk_172 (dk_at dksX1_dueOf_2 5 rfl rfl)
theorem dX1_dueOf_52 : decode cX1_dueOf 52 = .ok (.iinc 5 1, 3) := dk_132 5 1 (dk_at dksX1_dueOf_2 6 rfl rfl)
theorem dX1_dueOf_55 : decode cX1_dueOf 55 = .ok (.goto (-30), 3) := dk_167 255 226 (dk_at dksX1_dueOf_2 9 rfl rfl)
theorem dX1_dueOf_58 : decode cX1_dueOf 58 = .ok (.iconst (-1), 1) := dk_2 (dk_at dksX1_dueOf_2 12 rfl rfl)
theorem dX1_dueOf_59 : decode cX1_dueOf 59 = .ok (.ireturn, 1) := dk_172 (dk_at dksX1_dueOf_2 13 rfl rfl)
abbrev cX1_lifeOf : ByteArray := prog_1_method_25_code
def yX1_lifeOf : MethodName := ⟨RX1, "lifeOf", "(LLimbBenches$Person;I)I"⟩
def dkwX1_lifeOf_0 : List UInt8 := [42, 43, 182, 0, 227, 42, 16, 108, 28, 18, 230, 182, 0, 231, 172]
abbrev dktX1_lifeOf_0 : List UInt8 := dkwX1_lifeOf_0 ++ []
theorem dksX1_lifeOf_0 : cX1_lifeOf.data.toList.drop 0 = dktX1_lifeOf_0 := by decide +kernel
theorem dX1_lifeOf_0 : decode cX1_lifeOf 0 = .ok (.aload_n 0, 1) := dk_42 (dk_at dksX1_lifeOf_0 0 rfl rfl)
theorem dX1_lifeOf_1 : decode cX1_lifeOf 1 = .ok (.aload_n 1, 1) := dk_43 (dk_at dksX1_lifeOf_0 1 rfl rfl)
theorem dX1_lifeOf_2 : decode cX1_lifeOf 2 = .ok (.invokevirtual 227, 3) := dk_182 0 227 (dk_at dksX1_lifeOf_0 2 rfl rfl)
theorem dX1_lifeOf_5 : decode cX1_lifeOf 5 = .ok (.aload_n 0, 1) := dk_42 (dk_at dksX1_lifeOf_0 5 rfl rfl)
theorem dX1_lifeOf_6 : decode cX1_lifeOf 6 = .ok (.bipush 108, 2) := dk_16 108 (dk_at dksX1_lifeOf_0 6 rfl rfl)
theorem dX1_lifeOf_8 : decode cX1_lifeOf 8 = .ok (.iload_n 2, 1) := dk_28 (dk_at dksX1_lifeOf_0 8 rfl rfl)
theorem dX1_lifeOf_9 : decode cX1_lifeOf 9 = .ok (.ldc 230, 2) := dk_18 230 (dk_at dksX1_lifeOf_0 9 rfl rfl)
theorem dX1_lifeOf_11 : decode cX1_lifeOf 11 = .ok (.invokevirtual 231, 3) := dk_182 0 231 (dk_at dksX1_lifeOf_0 11 rfl rfl)
theorem dX1_lifeOf_14 : decode cX1_lifeOf 14 = .ok (.ireturn, 1) := dk_172 (dk_at dksX1_lifeOf_0 14 rfl rfl)
abbrev cX1_reuse : ByteArray := prog_1_method_39_code
def yX1_reuse : MethodName := ⟨RX1, "reuse", "(III)I"⟩
def dkwX1_reuse_9 : List UInt8 := [79, 21, 7, 172]
abbrev dktX1_reuse_9 : List UInt8 := dkwX1_reuse_9 ++ []
def dkwX1_reuse_8 : List UInt8 := [182, 1, 40, 25, 4, 180, 1, 3, 29, 1, 83, 25, 4, 180, 1, 73, 29, 42, 180, 0, 10, 180, 0, 149]
abbrev dktX1_reuse_8 : List UInt8 := dkwX1_reuse_8 ++ dktX1_reuse_9
def dkwX1_reuse_7 : List UInt8 := [17, 0, 200, 160, 0, 6, 16, 251, 172, 42, 25, 5, 25, 6, 180, 1, 7, 25, 6, 180, 1, 59, 21, 7]
abbrev dktX1_reuse_7 : List UInt8 := dkwX1_reuse_7 ++ dktX1_reuse_8
def dkwX1_reuse_6 : List UInt8 := [21, 7, 16, 10, 21, 8, 104, 161, 0, 6, 16, 252, 172, 42, 180, 0, 10, 180, 1, 12, 182, 0, 74]
abbrev dktX1_reuse_6 : List UInt8 := dkwX1_reuse_6 ++ dktX1_reuse_7
def dkwX1_reuse_5 : List UInt8 := [42, 25, 5, 182, 0, 227, 42, 16, 117, 29, 18, 230, 182, 0, 231, 54, 8, 21, 8, 2, 159, 0, 16]
abbrev dktX1_reuse_5 : List UInt8 := dkwX1_reuse_5 ++ dktX1_reuse_6
def dkwX1_reuse_4 : List UInt8 := [182, 1, 33, 153, 0, 6, 16, 253, 172, 25, 4, 29, 42, 180, 0, 10, 180, 0, 149, 182, 1, 65, 54, 7]
abbrev dktX1_reuse_4 : List UInt8 := dkwX1_reuse_4 ++ dktX1_reuse_5
def dkwX1_reuse_3 : List UInt8 := [180, 1, 30, 25, 5, 180, 0, 177, 162, 0, 6, 16, 254, 172, 42, 25, 5, 25, 6, 180, 1, 7]
abbrev dktX1_reuse_3 : List UInt8 := dkwX1_reuse_3 ++ dktX1_reuse_4
def dkwX1_reuse_2 : List UInt8 := [199, 0, 5, 2, 172, 42, 180, 0, 10, 180, 0, 87, 25, 6, 180, 1, 7, 182, 0, 81, 192, 0, 93]
abbrev dktX1_reuse_2 : List UInt8 := dkwX1_reuse_2 ++ dktX1_reuse_3
def dkwX1_reuse_1 : List UInt8 := [159, 0, 7, 4, 167, 0, 4, 3, 184, 0, 105, 25, 4, 180, 1, 3, 29, 50, 58, 6, 25, 6]
abbrev dktX1_reuse_1 : List UInt8 := dkwX1_reuse_1 ++ dktX1_reuse_2
def dkwX1_reuse_0 : List UInt8 := [42, 27, 182, 0, 162, 58, 4, 42, 28, 182, 0, 162, 58, 5, 29, 184, 0, 142, 153, 0, 12, 27, 28]
abbrev dktX1_reuse_0 : List UInt8 := dkwX1_reuse_0 ++ dktX1_reuse_1
theorem dksX1_reuse_0 : cX1_reuse.data.toList.drop 0 = dktX1_reuse_0 := by decide +kernel
theorem dksX1_reuse_1 : cX1_reuse.data.toList.drop 23 = dktX1_reuse_1 := dk_seg dksX1_reuse_0 23 rfl rfl
theorem dksX1_reuse_2 : cX1_reuse.data.toList.drop 45 = dktX1_reuse_2 := dk_seg dksX1_reuse_1 22 rfl rfl
theorem dksX1_reuse_3 : cX1_reuse.data.toList.drop 68 = dktX1_reuse_3 := dk_seg dksX1_reuse_2 23 rfl rfl
theorem dksX1_reuse_4 : cX1_reuse.data.toList.drop 90 = dktX1_reuse_4 := dk_seg dksX1_reuse_3 22 rfl rfl
theorem dksX1_reuse_5 : cX1_reuse.data.toList.drop 114 = dktX1_reuse_5 := dk_seg dksX1_reuse_4 24 rfl rfl
theorem dksX1_reuse_6 : cX1_reuse.data.toList.drop 137 = dktX1_reuse_6 := dk_seg dksX1_reuse_5 23 rfl rfl
theorem dksX1_reuse_7 : cX1_reuse.data.toList.drop 160 = dktX1_reuse_7 := dk_seg dksX1_reuse_6 23 rfl rfl
theorem dksX1_reuse_8 : cX1_reuse.data.toList.drop 184 = dktX1_reuse_8 := dk_seg dksX1_reuse_7 24 rfl rfl
theorem dksX1_reuse_9 : cX1_reuse.data.toList.drop 208 = dktX1_reuse_9 := dk_seg dksX1_reuse_8 24 rfl rfl
theorem dX1_reuse_0 : decode cX1_reuse 0 = .ok (.aload_n 0, 1) := dk_42 (dk_at dksX1_reuse_0 0 rfl rfl)
theorem dX1_reuse_1 : decode cX1_reuse 1 = .ok (.iload_n 1, 1) := dk_27 (dk_at dksX1_reuse_0 1 rfl rfl)
theorem dX1_reuse_2 : decode cX1_reuse 2 = .ok (.invokevirtual 162, 3) := dk_182 0 162 (dk_at dksX1_reuse_0 2 rfl rfl)
theorem dX1_reuse_5 : decode cX1_reuse 5 = .ok (.astore 4, 2) := dk_58 4 (dk_at dksX1_reuse_0 5 rfl rfl)
theorem dX1_reuse_7 : decode cX1_reuse 7 = .ok (.aload_n 0, 1) := dk_42 (dk_at dksX1_reuse_0 7 rfl rfl)
theorem dX1_reuse_8 : decode cX1_reuse 8 = .ok (.iload_n 2, 1) := dk_28 (dk_at dksX1_reuse_0 8 rfl rfl)
theorem dX1_reuse_9 : decode cX1_reuse 9 = .ok (.invokevirtual 162, 3) := dk_182 0 162 (dk_at dksX1_reuse_0 9 rfl rfl)
theorem dX1_reuse_12 : decode cX1_reuse 12 = .ok (.astore 5, 2) := dk_58 5 (dk_at dksX1_reuse_0 12 rfl rfl)
theorem dX1_reuse_14 : decode cX1_reuse 14 = .ok (.iload_n 3, 1) := dk_29 (dk_at dksX1_reuse_0 14 rfl rfl)
theorem dX1_reuse_15 : decode cX1_reuse 15 = .ok (.invokestatic 142, 3) := dk_184 0 142 (dk_at dksX1_reuse_0 15 rfl rfl)
theorem dX1_reuse_18 : decode cX1_reuse 18 = .ok (.ifCond .eq 12, 3) := dk_153 0 12 (dk_at dksX1_reuse_0 18 rfl rfl)
theorem dX1_reuse_21 : decode cX1_reuse 21 = .ok (.iload_n 1, 1) := dk_27 (dk_at dksX1_reuse_0 21 rfl rfl)
theorem dX1_reuse_22 : decode cX1_reuse 22 = .ok (.iload_n 2, 1) := dk_28 (dk_at dksX1_reuse_0 22 rfl rfl)
theorem dX1_reuse_23 : decode cX1_reuse 23 = .ok (.if_icmp .eq 7, 3) := dk_159 0 7 (dk_at dksX1_reuse_1 0 rfl rfl)
theorem dX1_reuse_26 : decode cX1_reuse 26 = .ok (.iconst 1, 1) := dk_4 (dk_at dksX1_reuse_1 3 rfl rfl)
theorem dX1_reuse_27 : decode cX1_reuse 27 = .ok (.goto 4, 3) := dk_167 0 4 (dk_at dksX1_reuse_1 4 rfl rfl)
theorem dX1_reuse_30 : decode cX1_reuse 30 = .ok (.iconst 0, 1) := dk_3 (dk_at dksX1_reuse_1 7 rfl rfl)
theorem dX1_reuse_31 : decode cX1_reuse 31 = .ok (.invokestatic 105, 3) := dk_184 0 105 (dk_at dksX1_reuse_1 8 rfl rfl)
theorem dX1_reuse_34 : decode cX1_reuse 34 = .ok (.aload 4, 2) := dk_25 4 (dk_at dksX1_reuse_1 11 rfl rfl)
theorem dX1_reuse_36 : decode cX1_reuse 36 = .ok (.getfield 259, 3) := dk_180 1 3 (dk_at dksX1_reuse_1 13 rfl rfl)
theorem dX1_reuse_39 : decode cX1_reuse 39 = .ok (.iload_n 3, 1) := dk_29 (dk_at dksX1_reuse_1 16 rfl rfl)
theorem dX1_reuse_40 : decode cX1_reuse 40 = .ok (.aaload, 1) := dk_50 (dk_at dksX1_reuse_1 17 rfl rfl)
theorem dX1_reuse_41 : decode cX1_reuse 41 = .ok (.astore 6, 2) := dk_58 6 (dk_at dksX1_reuse_1 18 rfl rfl)
theorem dX1_reuse_43 : decode cX1_reuse 43 = .ok (.aload 6, 2) := dk_25 6 (dk_at dksX1_reuse_1 20 rfl rfl)
theorem dX1_reuse_45 : decode cX1_reuse 45 = .ok (.ifnonnull 5, 3) := dk_199 0 5 (dk_at dksX1_reuse_2 0 rfl rfl)
theorem dX1_reuse_48 : decode cX1_reuse 48 = .ok (.iconst (-1), 1) := dk_2 (dk_at dksX1_reuse_2 3 rfl rfl)
theorem dX1_reuse_49 : decode cX1_reuse 49 = .ok (.ireturn, 1) := dk_172 (dk_at dksX1_reuse_2 4 rfl rfl)
theorem dX1_reuse_50 : decode cX1_reuse 50 = .ok (.aload_n 0, 1) := dk_42 (dk_at dksX1_reuse_2 5 rfl rfl)
theorem dX1_reuse_51 : decode cX1_reuse 51 = .ok (.getfield 10, 3) := dk_180 0 10 (dk_at dksX1_reuse_2 6 rfl rfl)
theorem dX1_reuse_54 : decode cX1_reuse 54 = .ok (.getfield 87, 3) := dk_180 0 87 (dk_at dksX1_reuse_2 9 rfl rfl)
theorem dX1_reuse_57 : decode cX1_reuse 57 = .ok (.aload 6, 2) := dk_25 6 (dk_at dksX1_reuse_2 12 rfl rfl)
theorem dX1_reuse_59 : decode cX1_reuse 59 = .ok (.getfield 263, 3) := dk_180 1 7 (dk_at dksX1_reuse_2 14 rfl rfl)
theorem dX1_reuse_62 : decode cX1_reuse 62 = .ok (.invokevirtual 81, 3) := dk_182 0 81 (dk_at dksX1_reuse_2 17 rfl rfl)
theorem dX1_reuse_65 : decode cX1_reuse 65 = .ok (.checkcast 93, 3) := dk_192 0 93 (dk_at dksX1_reuse_2 20 rfl rfl)
theorem dX1_reuse_68 : decode cX1_reuse 68 = .ok (.getfield 286, 3) := dk_180 1 30 (dk_at dksX1_reuse_3 0 rfl rfl)
theorem dX1_reuse_71 : decode cX1_reuse 71 = .ok (.aload 5, 2) := dk_25 5 (dk_at dksX1_reuse_3 3 rfl rfl)
theorem dX1_reuse_73 : decode cX1_reuse 73 = .ok (.getfield 177, 3) := dk_180 0 177 (dk_at dksX1_reuse_3 5 rfl rfl)
theorem dX1_reuse_76 : decode cX1_reuse 76 = .ok (.if_icmp .ge 6, 3) := dk_162 0 6 (dk_at dksX1_reuse_3 8 rfl rfl)
theorem dX1_reuse_79 : decode cX1_reuse 79 = .ok (.bipush (-2), 2) := dk_16 254 (dk_at dksX1_reuse_3 11 rfl rfl)
theorem dX1_reuse_81 : decode cX1_reuse 81 = .ok (.ireturn, 1) := dk_172 (dk_at dksX1_reuse_3 13 rfl rfl)
theorem dX1_reuse_82 : decode cX1_reuse 82 = .ok (.aload_n 0, 1) := dk_42 (dk_at dksX1_reuse_3 14 rfl rfl)
theorem dX1_reuse_83 : decode cX1_reuse 83 = .ok (.aload 5, 2) := dk_25 5 (dk_at dksX1_reuse_3 15 rfl rfl)
theorem dX1_reuse_85 : decode cX1_reuse 85 = .ok (.aload 6, 2) := dk_25 6 (dk_at dksX1_reuse_3 17 rfl rfl)
theorem dX1_reuse_87 : decode cX1_reuse 87 = .ok (.getfield 263, 3) := dk_180 1 7 (dk_at dksX1_reuse_3 19 rfl rfl)
theorem dX1_reuse_90 : decode cX1_reuse 90 = .ok (.invokevirtual 289, 3) := dk_182 1 33 (dk_at dksX1_reuse_4 0 rfl rfl)
theorem dX1_reuse_93 : decode cX1_reuse 93 = .ok (.ifCond .eq 6, 3) := dk_153 0 6 (dk_at dksX1_reuse_4 3 rfl rfl)
theorem dX1_reuse_96 : decode cX1_reuse 96 = .ok (.bipush (-3), 2) := dk_16 253 (dk_at dksX1_reuse_4 6 rfl rfl)
theorem dX1_reuse_98 : decode cX1_reuse 98 = .ok (.ireturn, 1) := dk_172 (dk_at dksX1_reuse_4 8 rfl rfl)
theorem dX1_reuse_99 : decode cX1_reuse 99 = .ok (.aload 4, 2) := dk_25 4 (dk_at dksX1_reuse_4 9 rfl rfl)
theorem dX1_reuse_101 : decode cX1_reuse 101 = .ok (.iload_n 3, 1) := dk_29 (dk_at dksX1_reuse_4 11 rfl rfl)
theorem dX1_reuse_102 : decode cX1_reuse 102 = .ok (.aload_n 0, 1) := dk_42 (dk_at dksX1_reuse_4 12 rfl rfl)
theorem dX1_reuse_103 : decode cX1_reuse 103 = .ok (.getfield 10, 3) := dk_180 0 10 (dk_at dksX1_reuse_4 13 rfl rfl)
theorem dX1_reuse_106 : decode cX1_reuse 106 = .ok (.getfield 149, 3) := dk_180 0 149 (dk_at dksX1_reuse_4 16 rfl rfl)
theorem dX1_reuse_109 : decode cX1_reuse 109 = .ok (.invokevirtual 321, 3) := dk_182 1 65 (dk_at dksX1_reuse_4 19 rfl rfl)
theorem dX1_reuse_112 : decode cX1_reuse 112 = .ok (.istore 7, 2) := dk_54 7 (dk_at dksX1_reuse_4 22 rfl rfl)
theorem dX1_reuse_114 : decode cX1_reuse 114 = .ok (.aload_n 0, 1) := dk_42 (dk_at dksX1_reuse_5 0 rfl rfl)
theorem dX1_reuse_115 : decode cX1_reuse 115 = .ok (.aload 5, 2) := dk_25 5 (dk_at dksX1_reuse_5 1 rfl rfl)
theorem dX1_reuse_117 : decode cX1_reuse 117 = .ok (.invokevirtual 227, 3) := dk_182 0 227 (dk_at dksX1_reuse_5 3 rfl rfl)
theorem dX1_reuse_120 : decode cX1_reuse 120 = .ok (.aload_n 0, 1) := dk_42 (dk_at dksX1_reuse_5 6 rfl rfl)
theorem dX1_reuse_121 : decode cX1_reuse 121 = .ok (.bipush 117, 2) := dk_16 117 (dk_at dksX1_reuse_5 7 rfl rfl)
theorem dX1_reuse_123 : decode cX1_reuse 123 = .ok (.iload_n 3, 1) := dk_29 (dk_at dksX1_reuse_5 9 rfl rfl)
theorem dX1_reuse_124 : decode cX1_reuse 124 = .ok (.ldc 230, 2) := dk_18 230 (dk_at dksX1_reuse_5 10 rfl rfl)
theorem dX1_reuse_126 : decode cX1_reuse 126 = .ok (.invokevirtual 231, 3) := dk_182 0 231 (dk_at dksX1_reuse_5 12 rfl rfl)
theorem dX1_reuse_129 : decode cX1_reuse 129 = .ok (.istore 8, 2) := dk_54 8 (dk_at dksX1_reuse_5 15 rfl rfl)
theorem dX1_reuse_131 : decode cX1_reuse 131 = .ok (.iload 8, 2) := dk_21 8 (dk_at dksX1_reuse_5 17 rfl rfl)
theorem dX1_reuse_133 : decode cX1_reuse 133 = .ok (.iconst (-1), 1) := dk_2 (dk_at dksX1_reuse_5 19 rfl rfl)
theorem dX1_reuse_134 : decode cX1_reuse 134 = .ok (.if_icmp .eq 16, 3) := dk_159 0 16 (dk_at dksX1_reuse_5 20 rfl rfl)
theorem dX1_reuse_137 : decode cX1_reuse 137 = .ok (.iload 7, 2) := dk_21 7 (dk_at dksX1_reuse_6 0 rfl rfl)
theorem dX1_reuse_139 : decode cX1_reuse 139 = .ok (.bipush 10, 2) := dk_16 10 (dk_at dksX1_reuse_6 2 rfl rfl)
theorem dX1_reuse_141 : decode cX1_reuse 141 = .ok (.iload 8, 2) := dk_21 8 (dk_at dksX1_reuse_6 4 rfl rfl)
theorem dX1_reuse_143 : decode cX1_reuse 143 = .ok (.imul, 1) := dk_104 (dk_at dksX1_reuse_6 6 rfl rfl)
theorem dX1_reuse_144 : decode cX1_reuse 144 = .ok (.if_icmp .lt 6, 3) := dk_161 0 6 (dk_at dksX1_reuse_6 7 rfl rfl)
theorem dX1_reuse_147 : decode cX1_reuse 147 = .ok (.bipush (-4), 2) := dk_16 252 (dk_at dksX1_reuse_6 10 rfl rfl)
theorem dX1_reuse_149 : decode cX1_reuse 149 = .ok (.ireturn, 1) := dk_172 (dk_at dksX1_reuse_6 12 rfl rfl)
theorem dX1_reuse_150 : decode cX1_reuse 150 = .ok (.aload_n 0, 1) := dk_42 (dk_at dksX1_reuse_6 13 rfl rfl)
theorem dX1_reuse_151 : decode cX1_reuse 151 = .ok (.getfield 10, 3) := dk_180 0 10 (dk_at dksX1_reuse_6 14 rfl rfl)
theorem dX1_reuse_154 : decode cX1_reuse 154 = .ok (.getfield 268, 3) := dk_180 1 12 (dk_at dksX1_reuse_6 17 rfl rfl)
theorem dX1_reuse_157 : decode cX1_reuse 157 = .ok (.invokevirtual 74, 3) := dk_182 0 74 (dk_at dksX1_reuse_6 20 rfl rfl)
theorem dX1_reuse_160 : decode cX1_reuse 160 = .ok (.sipush 200, 3) := dk_17 0 200 (dk_at dksX1_reuse_7 0 rfl rfl)
theorem dX1_reuse_163 : decode cX1_reuse 163 = .ok (.if_icmp .ne 6, 3) := dk_160 0 6 (dk_at dksX1_reuse_7 3 rfl rfl)
theorem dX1_reuse_166 : decode cX1_reuse 166 = .ok (.bipush (-5), 2) := dk_16 251 (dk_at dksX1_reuse_7 6 rfl rfl)
theorem dX1_reuse_168 : decode cX1_reuse 168 = .ok (.ireturn, 1) := dk_172 (dk_at dksX1_reuse_7 8 rfl rfl)
theorem dX1_reuse_169 : decode cX1_reuse 169 = .ok (.aload_n 0, 1) := dk_42 (dk_at dksX1_reuse_7 9 rfl rfl)
theorem dX1_reuse_170 : decode cX1_reuse 170 = .ok (.aload 5, 2) := dk_25 5 (dk_at dksX1_reuse_7 10 rfl rfl)
theorem dX1_reuse_172 : decode cX1_reuse 172 = .ok (.aload 6, 2) := dk_25 6 (dk_at dksX1_reuse_7 12 rfl rfl)
theorem dX1_reuse_174 : decode cX1_reuse 174 = .ok (.getfield 263, 3) := dk_180 1 7 (dk_at dksX1_reuse_7 14 rfl rfl)
theorem dX1_reuse_177 : decode cX1_reuse 177 = .ok (.aload 6, 2) := dk_25 6 (dk_at dksX1_reuse_7 17 rfl rfl)
theorem dX1_reuse_179 : decode cX1_reuse 179 = .ok (.getfield 315, 3) := dk_180 1 59 (dk_at dksX1_reuse_7 19 rfl rfl)
theorem dX1_reuse_182 : decode cX1_reuse 182 = .ok (.iload 7, 2) := dk_21 7 (dk_at dksX1_reuse_7 22 rfl rfl)
theorem dX1_reuse_184 : decode cX1_reuse 184 = .ok (.invokevirtual 296, 3) := dk_182 1 40 (dk_at dksX1_reuse_8 0 rfl rfl)
theorem dX1_reuse_187 : decode cX1_reuse 187 = .ok (.aload 4, 2) := dk_25 4 (dk_at dksX1_reuse_8 3 rfl rfl)
theorem dX1_reuse_189 : decode cX1_reuse 189 = .ok (.getfield 259, 3) := dk_180 1 3 (dk_at dksX1_reuse_8 5 rfl rfl)
theorem dX1_reuse_192 : decode cX1_reuse 192 = .ok (.iload_n 3, 1) := dk_29 (dk_at dksX1_reuse_8 8 rfl rfl)
theorem dX1_reuse_193 : decode cX1_reuse 193 = .ok (.aconst_null, 1) := dk_1 (dk_at dksX1_reuse_8 9 rfl rfl)
theorem dX1_reuse_194 : decode cX1_reuse 194 = .ok (.aastore, 1) := dk_83 (dk_at dksX1_reuse_8 10 rfl rfl)
theorem dX1_reuse_195 : decode cX1_reuse 195 = .ok (.aload 4, 2) := dk_25 4 (dk_at dksX1_reuse_8 11 rfl rfl)
theorem dX1_reuse_197 : decode cX1_reuse 197 = .ok (.getfield 329, 3) := dk_180 1 73 (dk_at dksX1_reuse_8 13 rfl rfl)
theorem dX1_reuse_200 : decode cX1_reuse 200 = .ok (.iload_n 3, 1) := dk_29 (dk_at dksX1_reuse_8 16 rfl rfl)
theorem dX1_reuse_201 : decode cX1_reuse 201 = .ok (.aload_n 0, 1) := dk_42 (dk_at dksX1_reuse_8 17 rfl rfl)
theorem dX1_reuse_202 : decode cX1_reuse 202 = .ok (.getfield 10, 3) := dk_180 0 10 (dk_at dksX1_reuse_8 18 rfl rfl)
theorem dX1_reuse_205 : decode cX1_reuse 205 = .ok (.getfield 149, 3) := dk_180 0 149 (dk_at dksX1_reuse_8 21 rfl rfl)
theorem dX1_reuse_208 : decode cX1_reuse 208 = .ok (.iastore, 1) := dk_79 (dk_at dksX1_reuse_9 0 rfl rfl)
theorem dX1_reuse_209 : decode cX1_reuse 209 = .ok (.iload 7, 2) := dk_21 7 (dk_at dksX1_reuse_9 1 rfl rfl)
theorem dX1_reuse_211 : decode cX1_reuse 211 = .ok (.ireturn, 1) := dk_172 (dk_at dksX1_reuse_9 3 rfl rfl)
abbrev cX1_next : ByteArray := prog_1_method_49_code
def yX1_next : MethodName := ⟨RX1, "next", "(II)I"⟩
def dkwX1_next_3 : List UInt8 := [167, 255, 223, 2, 172]
abbrev dktX1_next_3 : List UInt8 := dkwX1_next_3 ++ []
def dkwX1_next_2 : List UInt8 := [21, 5, 182, 0, 166, 25, 4, 180, 1, 92, 100, 184, 1, 94, 28, 164, 0, 6, 21, 5, 172, 132, 5, 1]
abbrev dktX1_next_2 : List UInt8 := dkwX1_next_2 ++ dktX1_next_3
def dkwX1_next_1 : List UInt8 := [199, 0, 5, 2, 172, 42, 180, 0, 10, 180, 0, 149, 54, 5, 21, 5, 17, 78, 32, 163, 0, 31, 45]
abbrev dktX1_next_1 : List UInt8 := dkwX1_next_1 ++ dktX1_next_2
def dkwX1_next_0 : List UInt8 := [42, 27, 182, 0, 162, 78, 28, 184, 1, 89, 184, 0, 105, 45, 180, 1, 3, 5, 50, 58, 4, 25, 4]
abbrev dktX1_next_0 : List UInt8 := dkwX1_next_0 ++ dktX1_next_1
theorem dksX1_next_0 : cX1_next.data.toList.drop 0 = dktX1_next_0 := by decide +kernel
theorem dksX1_next_1 : cX1_next.data.toList.drop 23 = dktX1_next_1 := dk_seg dksX1_next_0 23 rfl rfl
theorem dksX1_next_2 : cX1_next.data.toList.drop 46 = dktX1_next_2 := dk_seg dksX1_next_1 23 rfl rfl
theorem dksX1_next_3 : cX1_next.data.toList.drop 70 = dktX1_next_3 := dk_seg dksX1_next_2 24 rfl rfl
theorem dX1_next_0 : decode cX1_next 0 = .ok (.aload_n 0, 1) := dk_42 (dk_at dksX1_next_0 0 rfl rfl)
theorem dX1_next_1 : decode cX1_next 1 = .ok (.iload_n 1, 1) := dk_27 (dk_at dksX1_next_0 1 rfl rfl)
theorem dX1_next_2 : decode cX1_next 2 = .ok (.invokevirtual 162, 3) := dk_182 0 162 (dk_at dksX1_next_0 2 rfl rfl)
theorem dX1_next_5 : decode cX1_next 5 = .ok (.astore_n 3, 1) := dk_78 (dk_at dksX1_next_0 5 rfl rfl)
theorem dX1_next_6 : decode cX1_next 6 = .ok (.iload_n 2, 1) := dk_28 (dk_at dksX1_next_0 6 rfl rfl)
theorem dX1_next_7 : decode cX1_next 7 = .ok (.invokestatic 345, 3) := dk_184 1 89 (dk_at dksX1_next_0 7 rfl rfl)
theorem dX1_next_10 : decode cX1_next 10 = .ok (.invokestatic 105, 3) := dk_184 0 105 (dk_at dksX1_next_0 10 rfl rfl)
theorem dX1_next_13 : decode cX1_next 13 = .ok (.aload_n 3, 1) := dk_45 (dk_at dksX1_next_0 13 rfl rfl)
theorem dX1_next_14 : decode cX1_next 14 = .ok (.getfield 259, 3) := dk_180 1 3 (dk_at dksX1_next_0 14 rfl rfl)
theorem dX1_next_17 : decode cX1_next 17 = .ok (.iconst 2, 1) := dk_5 (dk_at dksX1_next_0 17 rfl rfl)
theorem dX1_next_18 : decode cX1_next 18 = .ok (.aaload, 1) := dk_50 (dk_at dksX1_next_0 18 rfl rfl)
theorem dX1_next_19 : decode cX1_next 19 = .ok (.astore 4, 2) := dk_58 4 (dk_at dksX1_next_0 19 rfl rfl)
theorem dX1_next_21 : decode cX1_next 21 = .ok (.aload 4, 2) := dk_25 4 (dk_at dksX1_next_0 21 rfl rfl)
theorem dX1_next_23 : decode cX1_next 23 = .ok (.ifnonnull 5, 3) := dk_199 0 5 (dk_at dksX1_next_1 0 rfl rfl)
theorem dX1_next_26 : decode cX1_next 26 = .ok (.iconst (-1), 1) := dk_2 (dk_at dksX1_next_1 3 rfl rfl)
theorem dX1_next_27 : decode cX1_next 27 = .ok (.ireturn, 1) := dk_172 (dk_at dksX1_next_1 4 rfl rfl)
theorem dX1_next_28 : decode cX1_next 28 = .ok (.aload_n 0, 1) := dk_42 (dk_at dksX1_next_1 5 rfl rfl)
theorem dX1_next_29 : decode cX1_next 29 = .ok (.getfield 10, 3) := dk_180 0 10 (dk_at dksX1_next_1 6 rfl rfl)
theorem dX1_next_32 : decode cX1_next 32 = .ok (.getfield 149, 3) := dk_180 0 149 (dk_at dksX1_next_1 9 rfl rfl)
theorem dX1_next_35 : decode cX1_next 35 = .ok (.istore 5, 2) := dk_54 5 (dk_at dksX1_next_1 12 rfl rfl)
theorem dX1_next_37 : decode cX1_next 37 = .ok (.iload 5, 2) := dk_21 5 (dk_at dksX1_next_1 14 rfl rfl)
theorem dX1_next_39 : decode cX1_next 39 = .ok (.sipush 20000, 3) := dk_17 78 32 (dk_at dksX1_next_1 16 rfl rfl)
theorem dX1_next_42 : decode cX1_next 42 = .ok (.if_icmp .gt 31, 3) := dk_163 0 31 (dk_at dksX1_next_1 19 rfl rfl)
theorem dX1_next_45 : decode cX1_next 45 = .ok (.aload_n 3, 1) := dk_45 (dk_at dksX1_next_1 22 rfl rfl)
theorem dX1_next_46 : decode cX1_next 46 = .ok (.iload 5, 2) := dk_21 5 (dk_at dksX1_next_2 0 rfl rfl)
theorem dX1_next_48 : decode cX1_next 48 = .ok (.invokevirtual 166, 3) := dk_182 0 166 (dk_at dksX1_next_2 2 rfl rfl)
theorem dX1_next_51 : decode cX1_next 51 = .ok (.aload 4, 2) := dk_25 4 (dk_at dksX1_next_2 5 rfl rfl)
theorem dX1_next_53 : decode cX1_next 53 = .ok (.getfield 348, 3) := dk_180 1 92 (dk_at dksX1_next_2 7 rfl rfl)
theorem dX1_next_56 : decode cX1_next 56 = .ok (.isub, 1) := dk_100 (dk_at dksX1_next_2 10 rfl rfl)
theorem dX1_next_57 : decode cX1_next 57 = .ok (.invokestatic 350, 3) := dk_184 1 94 (dk_at dksX1_next_2 11 rfl rfl)
theorem dX1_next_60 : decode cX1_next 60 = .ok (.iload_n 2, 1) := dk_28 (dk_at dksX1_next_2 14 rfl rfl)
theorem dX1_next_61 : decode cX1_next 61 = .ok (.if_icmp .le 6, 3) := dk_164 0 6 (dk_at dksX1_next_2 15 rfl rfl)
theorem dX1_next_64 : decode cX1_next 64 = .ok (.iload 5, 2) := dk_21 5 (dk_at dksX1_next_2 18 rfl rfl)
theorem dX1_next_66 : decode cX1_next 66 = .ok (.ireturn, 1) := dk_172 (dk_at dksX1_next_2 20 rfl rfl)
theorem dX1_next_67 : decode cX1_next 67 = .ok (.iinc 5 1, 3) := dk_132 5 1 (dk_at dksX1_next_2 21 rfl rfl)
theorem dX1_next_70 : decode cX1_next 70 = .ok (.goto (-33), 3) := dk_167 255 223 (dk_at dksX1_next_3 0 rfl rfl)
theorem dX1_next_73 : decode cX1_next 73 = .ok (.iconst (-1), 1) := dk_2 (dk_at dksX1_next_3 3 rfl rfl)
theorem dX1_next_74 : decode cX1_next 74 = .ok (.ireturn, 1) := dk_172 (dk_at dksX1_next_3 4 rfl rfl)
abbrev cX1_isPlay : ByteArray := prog_1_method_92_code
def yX1_isPlay : MethodName := ⟨RX1, "isPlay", "(I)Z"⟩
def dkwX1_isPlay_0 : List UInt8 := [26, 155, 0, 13, 26, 16, 99, 163, 0, 7, 4, 167, 0, 4, 3, 172]
abbrev dktX1_isPlay_0 : List UInt8 := dkwX1_isPlay_0 ++ []
theorem dksX1_isPlay_0 : cX1_isPlay.data.toList.drop 0 = dktX1_isPlay_0 := by decide +kernel
theorem dX1_isPlay_0 : decode cX1_isPlay 0 = .ok (.iload_n 0, 1) := dk_26 (dk_at dksX1_isPlay_0 0 rfl rfl)
theorem dX1_isPlay_1 : decode cX1_isPlay 1 = .ok (.ifCond .lt 13, 3) := dk_155 0 13 (dk_at dksX1_isPlay_0 1 rfl rfl)
theorem dX1_isPlay_4 : decode cX1_isPlay 4 = .ok (.iload_n 0, 1) := dk_26 (dk_at dksX1_isPlay_0 4 rfl rfl)
theorem dX1_isPlay_5 : decode cX1_isPlay 5 = .ok (.bipush 99, 2) := dk_16 99 (dk_at dksX1_isPlay_0 5 rfl rfl)
theorem dX1_isPlay_7 : decode cX1_isPlay 7 = .ok (.if_icmp .gt 7, 3) := dk_163 0 7 (dk_at dksX1_isPlay_0 7 rfl rfl)
theorem dX1_isPlay_10 : decode cX1_isPlay 10 = .ok (.iconst 1, 1) := dk_4 (dk_at dksX1_isPlay_0 10 rfl rfl)
theorem dX1_isPlay_11 : decode cX1_isPlay 11 = .ok (.goto 4, 3) := dk_167 0 4 (dk_at dksX1_isPlay_0 11 rfl rfl)
theorem dX1_isPlay_14 : decode cX1_isPlay 14 = .ok (.iconst 0, 1) := dk_3 (dk_at dksX1_isPlay_0 14 rfl rfl)
theorem dX1_isPlay_15 : decode cX1_isPlay 15 = .ok (.ireturn, 1) := dk_172 (dk_at dksX1_isPlay_0 15 rfl rfl)
abbrev cX1_take : ByteArray := prog_1_method_36_code
def yX1_take : MethodName := ⟨RX1, "take", "(III)I"⟩
def dkwX1_take_1 : List UInt8 := [29, 4, 182, 1, 49, 172]
abbrev dktX1_take_1 : List UInt8 := dkwX1_take_1 ++ []
def dkwX1_take_0 : List UInt8 := [42, 27, 182, 0, 162, 58, 4, 42, 28, 182, 0, 250, 87, 29, 184, 1, 46, 184, 0, 105, 42, 25, 4, 28]
abbrev dktX1_take_0 : List UInt8 := dkwX1_take_0 ++ dktX1_take_1
theorem dksX1_take_0 : cX1_take.data.toList.drop 0 = dktX1_take_0 := by decide +kernel
theorem dksX1_take_1 : cX1_take.data.toList.drop 24 = dktX1_take_1 := dk_seg dksX1_take_0 24 rfl rfl
theorem dX1_take_0 : decode cX1_take 0 = .ok (.aload_n 0, 1) := dk_42 (dk_at dksX1_take_0 0 rfl rfl)
theorem dX1_take_1 : decode cX1_take 1 = .ok (.iload_n 1, 1) := dk_27 (dk_at dksX1_take_0 1 rfl rfl)
theorem dX1_take_2 : decode cX1_take 2 = .ok (.invokevirtual 162, 3) := dk_182 0 162 (dk_at dksX1_take_0 2 rfl rfl)
theorem dX1_take_5 : decode cX1_take 5 = .ok (.astore 4, 2) := dk_58 4 (dk_at dksX1_take_0 5 rfl rfl)
theorem dX1_take_7 : decode cX1_take 7 = .ok (.aload_n 0, 1) := dk_42 (dk_at dksX1_take_0 7 rfl rfl)
theorem dX1_take_8 : decode cX1_take 8 = .ok (.iload_n 2, 1) := dk_28 (dk_at dksX1_take_0 8 rfl rfl)
theorem dX1_take_9 : decode cX1_take 9 = .ok (.invokevirtual 250, 3) := dk_182 0 250 (dk_at dksX1_take_0 9 rfl rfl)
theorem dX1_take_12 : decode cX1_take 12 = .ok (.pop, 1) := dk_87 (dk_at dksX1_take_0 12 rfl rfl)
theorem dX1_take_13 : decode cX1_take 13 = .ok (.iload_n 3, 1) := dk_29 (dk_at dksX1_take_0 13 rfl rfl)
theorem dX1_take_14 : decode cX1_take 14 = .ok (.invokestatic 302, 3) := dk_184 1 46 (dk_at dksX1_take_0 14 rfl rfl)
theorem dX1_take_17 : decode cX1_take 17 = .ok (.invokestatic 105, 3) := dk_184 0 105 (dk_at dksX1_take_0 17 rfl rfl)
theorem dX1_take_20 : decode cX1_take 20 = .ok (.aload_n 0, 1) := dk_42 (dk_at dksX1_take_0 20 rfl rfl)
theorem dX1_take_21 : decode cX1_take 21 = .ok (.aload 4, 2) := dk_25 4 (dk_at dksX1_take_0 21 rfl rfl)
theorem dX1_take_23 : decode cX1_take 23 = .ok (.iload_n 2, 1) := dk_28 (dk_at dksX1_take_0 23 rfl rfl)
theorem dX1_take_24 : decode cX1_take 24 = .ok (.iload_n 3, 1) := dk_29 (dk_at dksX1_take_1 0 rfl rfl)
theorem dX1_take_25 : decode cX1_take 25 = .ok (.iconst 1, 1) := dk_4 (dk_at dksX1_take_1 1 rfl rfl)
theorem dX1_take_26 : decode cX1_take 26 = .ok (.invokevirtual 305, 3) := dk_182 1 49 (dk_at dksX1_take_1 2 rfl rfl)
theorem dX1_take_29 : decode cX1_take 29 = .ok (.ireturn, 1) := dk_172 (dk_at dksX1_take_1 5 rfl rfl)
abbrev cX1_beside : ByteArray := prog_1_method_40_code
def yX1_beside : MethodName := ⟨RX1, "beside", "(II)I"⟩
def dkwX1_beside_2 : List UInt8 := [54, 5, 21, 4, 2, 159, 0, 9, 21, 5, 2, 160, 0, 7, 2, 167, 0, 8, 21, 4, 21, 5, 100, 172]
abbrev dktX1_beside_2 : List UInt8 := dkwX1_beside_2 ++ []
def dkwX1_beside_1 : List UInt8 := [42, 45, 28, 45, 180, 0, 183, 182, 1, 70, 54, 4, 42, 45, 28, 5, 45, 180, 0, 183, 104, 182, 1, 70]
abbrev dktX1_beside_1 : List UInt8 := dkwX1_beside_1 ++ dktX1_beside_2
def dkwX1_beside_0 : List UInt8 := [42, 27, 182, 0, 162, 78, 28, 184, 0, 142, 184, 0, 105, 45, 180, 1, 3, 28, 50, 199, 0, 5, 2, 172]
abbrev dktX1_beside_0 : List UInt8 := dkwX1_beside_0 ++ dktX1_beside_1
theorem dksX1_beside_0 : cX1_beside.data.toList.drop 0 = dktX1_beside_0 := by decide +kernel
theorem dksX1_beside_1 : cX1_beside.data.toList.drop 24 = dktX1_beside_1 := dk_seg dksX1_beside_0 24 rfl rfl
theorem dksX1_beside_2 : cX1_beside.data.toList.drop 48 = dktX1_beside_2 := dk_seg dksX1_beside_1 24 rfl rfl
theorem dX1_beside_0 : decode cX1_beside 0 = .ok (.aload_n 0, 1) := dk_42 (dk_at dksX1_beside_0 0 rfl rfl)
theorem dX1_beside_1 : decode cX1_beside 1 = .ok (.iload_n 1, 1) := dk_27 (dk_at dksX1_beside_0 1 rfl rfl)
theorem dX1_beside_2 : decode cX1_beside 2 = .ok (.invokevirtual 162, 3) := dk_182 0 162 (dk_at dksX1_beside_0 2 rfl rfl)
theorem dX1_beside_5 : decode cX1_beside 5 = .ok (.astore_n 3, 1) := dk_78 (dk_at dksX1_beside_0 5 rfl rfl)
theorem dX1_beside_6 : decode cX1_beside 6 = .ok (.iload_n 2, 1) := dk_28 (dk_at dksX1_beside_0 6 rfl rfl)
theorem dX1_beside_7 : decode cX1_beside 7 = .ok (.invokestatic 142, 3) := dk_184 0 142 (dk_at dksX1_beside_0 7 rfl rfl)
theorem dX1_beside_10 : decode cX1_beside 10 = .ok (.invokestatic 105, 3) := dk_184 0 105 (dk_at dksX1_beside_0 10 rfl rfl)
theorem dX1_beside_13 : decode cX1_beside 13 = .ok (.aload_n 3, 1) := dk_45 (dk_at dksX1_beside_0 13 rfl rfl)
theorem dX1_beside_14 : decode cX1_beside 14 = .ok (.getfield 259, 3) := dk_180 1 3 (dk_at dksX1_beside_0 14 rfl rfl)
theorem dX1_beside_17 : decode cX1_beside 17 = .ok (.iload_n 2, 1) := dk_28 (dk_at dksX1_beside_0 17 rfl rfl)
theorem dX1_beside_18 : decode cX1_beside 18 = .ok (.aaload, 1) := dk_50 (dk_at dksX1_beside_0 18 rfl rfl)
theorem dX1_beside_19 : decode cX1_beside 19 = .ok (.ifnonnull 5, 3) := dk_199 0 5 (dk_at dksX1_beside_0 19 rfl rfl)
theorem dX1_beside_22 : decode cX1_beside 22 = .ok (.iconst (-1), 1) := dk_2 (dk_at dksX1_beside_0 22 rfl rfl)
theorem dX1_beside_23 : decode cX1_beside 23 = .ok (.ireturn, 1) := dk_172 (dk_at dksX1_beside_0 23 rfl rfl)
theorem dX1_beside_24 : decode cX1_beside 24 = .ok (.aload_n 0, 1) := dk_42 (dk_at dksX1_beside_1 0 rfl rfl)
theorem dX1_beside_25 : decode cX1_beside 25 = .ok (.aload_n 3, 1) := dk_45 (dk_at dksX1_beside_1 1 rfl rfl)
theorem dX1_beside_26 : decode cX1_beside 26 = .ok (.iload_n 2, 1) := dk_28 (dk_at dksX1_beside_1 2 rfl rfl)
theorem dX1_beside_27 : decode cX1_beside 27 = .ok (.aload_n 3, 1) := dk_45 (dk_at dksX1_beside_1 3 rfl rfl)
theorem dX1_beside_28 : decode cX1_beside 28 = .ok (.getfield 183, 3) := dk_180 0 183 (dk_at dksX1_beside_1 4 rfl rfl)
theorem dX1_beside_31 : decode cX1_beside 31 = .ok (.invokevirtual 326, 3) := dk_182 1 70 (dk_at dksX1_beside_1 7 rfl rfl)
theorem dX1_beside_34 : decode cX1_beside 34 = .ok (.istore 4, 2) := dk_54 4 (dk_at dksX1_beside_1 10 rfl rfl)
theorem dX1_beside_36 : decode cX1_beside 36 = .ok (.aload_n 0, 1) := dk_42 (dk_at dksX1_beside_1 12 rfl rfl)
theorem dX1_beside_37 : decode cX1_beside 37 = .ok (.aload_n 3, 1) := dk_45 (dk_at dksX1_beside_1 13 rfl rfl)
theorem dX1_beside_38 : decode cX1_beside 38 = .ok (.iload_n 2, 1) := dk_28 (dk_at dksX1_beside_1 14 rfl rfl)
theorem dX1_beside_39 : decode cX1_beside 39 = .ok (.iconst 2, 1) := dk_5 (dk_at dksX1_beside_1 15 rfl rfl)
theorem dX1_beside_40 : decode cX1_beside 40 = .ok (.aload_n 3, 1) := dk_45 (dk_at dksX1_beside_1 16 rfl rfl)
theorem dX1_beside_41 : decode cX1_beside 41 = .ok (.getfield 183, 3) := dk_180 0 183 (dk_at dksX1_beside_1 17 rfl rfl)
theorem dX1_beside_44 : decode cX1_beside 44 = .ok (.imul, 1) := dk_104 (dk_at dksX1_beside_1 20 rfl rfl)
theorem dX1_beside_45 : decode cX1_beside 45 = .ok (.invokevirtual 326, 3) := dk_182 1 70 (dk_at dksX1_beside_1 21 rfl rfl)
theorem dX1_beside_48 : decode cX1_beside 48 = .ok (.istore 5, 2) := dk_54 5 (dk_at dksX1_beside_2 0 rfl rfl)
theorem dX1_beside_50 : decode cX1_beside 50 = .ok (.iload 4, 2) := dk_21 4 (dk_at dksX1_beside_2 2 rfl rfl)
theorem dX1_beside_52 : decode cX1_beside 52 = .ok (.iconst (-1), 1) := dk_2 (dk_at dksX1_beside_2 4 rfl rfl)
theorem dX1_beside_53 : decode cX1_beside 53 = .ok (.if_icmp .eq 9, 3) := dk_159 0 9 (dk_at dksX1_beside_2 5 rfl rfl)
theorem dX1_beside_56 : decode cX1_beside 56 = .ok (.iload 5, 2) := dk_21 5 (dk_at dksX1_beside_2 8 rfl rfl)
theorem dX1_beside_58 : decode cX1_beside 58 = .ok (.iconst (-1), 1) := dk_2 (dk_at dksX1_beside_2 10 rfl rfl)
theorem dX1_beside_59 : decode cX1_beside 59 = .ok (.if_icmp .ne 7, 3) := dk_160 0 7 (dk_at dksX1_beside_2 11 rfl rfl)
theorem dX1_beside_62 : decode cX1_beside 62 = .ok (.iconst (-1), 1) := dk_2 (dk_at dksX1_beside_2 14 rfl rfl)
theorem dX1_beside_63 : decode cX1_beside 63 = .ok (.goto 8, 3) := dk_167 0 8 (dk_at dksX1_beside_2 15 rfl rfl)
theorem dX1_beside_66 : decode cX1_beside 66 = .ok (.iload 4, 2) := dk_21 4 (dk_at dksX1_beside_2 18 rfl rfl)
theorem dX1_beside_68 : decode cX1_beside 68 = .ok (.iload 5, 2) := dk_21 5 (dk_at dksX1_beside_2 20 rfl rfl)
theorem dX1_beside_70 : decode cX1_beside 70 = .ok (.isub, 1) := dk_100 (dk_at dksX1_beside_2 22 rfl rfl)
theorem dX1_beside_71 : decode cX1_beside 71 = .ok (.ireturn, 1) := dk_172 (dk_at dksX1_beside_2 23 rfl rfl)
abbrev cX1_fits_3 : ByteArray := prog_1_method_42_code
def yX1_fits_3 : MethodName := ⟨RX1, "fits", "(III)I"⟩
def dkwX1_fits_3_1 : List UInt8 := [167, 0, 4, 3, 184, 0, 105, 25, 4, 180, 1, 16, 16, 55, 28, 104, 29, 96, 46, 172]
abbrev dktX1_fits_3_1 : List UInt8 := dkwX1_fits_3_1 ++ []
def dkwX1_fits_3_0 : List UInt8 := [42, 27, 182, 0, 162, 58, 4, 28, 184, 0, 142, 153, 0, 14, 29, 184, 1, 76, 153, 0, 7, 4]
abbrev dktX1_fits_3_0 : List UInt8 := dkwX1_fits_3_0 ++ dktX1_fits_3_1
theorem dksX1_fits_3_0 : cX1_fits_3.data.toList.drop 0 = dktX1_fits_3_0 := by decide +kernel
theorem dksX1_fits_3_1 : cX1_fits_3.data.toList.drop 22 = dktX1_fits_3_1 := dk_seg dksX1_fits_3_0 22 rfl rfl
theorem dX1_fits_3_0 : decode cX1_fits_3 0 = .ok (.aload_n 0, 1) := dk_42 (dk_at dksX1_fits_3_0 0 rfl rfl)
theorem dX1_fits_3_1 : decode cX1_fits_3 1 = .ok (.iload_n 1, 1) := dk_27 (dk_at dksX1_fits_3_0 1 rfl rfl)
theorem dX1_fits_3_2 : decode cX1_fits_3 2 = .ok (.invokevirtual 162, 3) := dk_182 0 162 (dk_at dksX1_fits_3_0 2 rfl rfl)
theorem dX1_fits_3_5 : decode cX1_fits_3 5 = .ok (.astore 4, 2) := dk_58 4 (dk_at dksX1_fits_3_0 5 rfl rfl)
theorem dX1_fits_3_7 : decode cX1_fits_3 7 = .ok (.iload_n 2, 1) := dk_28 (dk_at dksX1_fits_3_0 7 rfl rfl)
theorem dX1_fits_3_8 : decode cX1_fits_3 8 = .ok (.invokestatic 142, 3) := dk_184 0 142 (dk_at dksX1_fits_3_0 8 rfl rfl)
theorem dX1_fits_3_11 : decode cX1_fits_3 11 = .ok (.ifCond .eq 14, 3) := dk_153 0 14 (dk_at dksX1_fits_3_0 11 rfl rfl)
theorem dX1_fits_3_14 : decode cX1_fits_3 14 = .ok (.iload_n 3, 1) := dk_29 (dk_at dksX1_fits_3_0 14 rfl rfl)
theorem dX1_fits_3_15 : decode cX1_fits_3 15 = .ok (.invokestatic 332, 3) := dk_184 1 76 (dk_at dksX1_fits_3_0 15 rfl rfl)
theorem dX1_fits_3_18 : decode cX1_fits_3 18 = .ok (.ifCond .eq 7, 3) := dk_153 0 7 (dk_at dksX1_fits_3_0 18 rfl rfl)
theorem dX1_fits_3_21 : decode cX1_fits_3 21 = .ok (.iconst 1, 1) := dk_4 (dk_at dksX1_fits_3_0 21 rfl rfl)
theorem dX1_fits_3_22 : decode cX1_fits_3 22 = .ok (.goto 4, 3) := dk_167 0 4 (dk_at dksX1_fits_3_1 0 rfl rfl)
theorem dX1_fits_3_25 : decode cX1_fits_3 25 = .ok (.iconst 0, 1) := dk_3 (dk_at dksX1_fits_3_1 3 rfl rfl)
theorem dX1_fits_3_26 : decode cX1_fits_3 26 = .ok (.invokestatic 105, 3) := dk_184 0 105 (dk_at dksX1_fits_3_1 4 rfl rfl)
theorem dX1_fits_3_29 : decode cX1_fits_3 29 = .ok (.aload 4, 2) := dk_25 4 (dk_at dksX1_fits_3_1 7 rfl rfl)
theorem dX1_fits_3_31 : decode cX1_fits_3 31 = .ok (.getfield 272, 3) := dk_180 1 16 (dk_at dksX1_fits_3_1 9 rfl rfl)
theorem dX1_fits_3_34 : decode cX1_fits_3 34 = .ok (.bipush 55, 2) := dk_16 55 (dk_at dksX1_fits_3_1 12 rfl rfl)
theorem dX1_fits_3_36 : decode cX1_fits_3 36 = .ok (.iload_n 2, 1) := dk_28 (dk_at dksX1_fits_3_1 14 rfl rfl)
theorem dX1_fits_3_37 : decode cX1_fits_3 37 = .ok (.imul, 1) := dk_104 (dk_at dksX1_fits_3_1 15 rfl rfl)
theorem dX1_fits_3_38 : decode cX1_fits_3 38 = .ok (.iload_n 3, 1) := dk_29 (dk_at dksX1_fits_3_1 16 rfl rfl)
theorem dX1_fits_3_39 : decode cX1_fits_3 39 = .ok (.iadd, 1) := dk_96 (dk_at dksX1_fits_3_1 17 rfl rfl)
theorem dX1_fits_3_40 : decode cX1_fits_3 40 = .ok (.iaload, 1) := dk_46 (dk_at dksX1_fits_3_1 18 rfl rfl)
theorem dX1_fits_3_41 : decode cX1_fits_3 41 = .ok (.ireturn, 1) := dk_172 (dk_at dksX1_fits_3_1 19 rfl rfl)
abbrev cX1_isYear : ByteArray := prog_1_method_41_code
def yX1_isYear : MethodName := ⟨RX1, "isYear", "(I)Z"⟩
def dkwX1_isYear_0 : List UInt8 := [26, 155, 0, 13, 26, 16, 55, 162, 0, 7, 4, 167, 0, 4, 3, 172]
abbrev dktX1_isYear_0 : List UInt8 := dkwX1_isYear_0 ++ []
theorem dksX1_isYear_0 : cX1_isYear.data.toList.drop 0 = dktX1_isYear_0 := by decide +kernel
theorem dX1_isYear_0 : decode cX1_isYear 0 = .ok (.iload_n 0, 1) := dk_26 (dk_at dksX1_isYear_0 0 rfl rfl)
theorem dX1_isYear_1 : decode cX1_isYear 1 = .ok (.ifCond .lt 13, 3) := dk_155 0 13 (dk_at dksX1_isYear_0 1 rfl rfl)
theorem dX1_isYear_4 : decode cX1_isYear 4 = .ok (.iload_n 0, 1) := dk_26 (dk_at dksX1_isYear_0 4 rfl rfl)
theorem dX1_isYear_5 : decode cX1_isYear 5 = .ok (.bipush 55, 2) := dk_16 55 (dk_at dksX1_isYear_0 5 rfl rfl)
theorem dX1_isYear_7 : decode cX1_isYear 7 = .ok (.if_icmp .ge 7, 3) := dk_162 0 7 (dk_at dksX1_isYear_0 7 rfl rfl)
theorem dX1_isYear_10 : decode cX1_isYear 10 = .ok (.iconst 1, 1) := dk_4 (dk_at dksX1_isYear_0 10 rfl rfl)
theorem dX1_isYear_11 : decode cX1_isYear 11 = .ok (.goto 4, 3) := dk_167 0 4 (dk_at dksX1_isYear_0 11 rfl rfl)
theorem dX1_isYear_14 : decode cX1_isYear 14 = .ok (.iconst 0, 1) := dk_3 (dk_at dksX1_isYear_0 14 rfl rfl)
theorem dX1_isYear_15 : decode cX1_isYear 15 = .ok (.ireturn, 1) := dk_172 (dk_at dksX1_isYear_0 15 rfl rfl)
abbrev cX1_lacks : ByteArray := prog_1_method_46_code
def yX1_lacks : MethodName := ⟨RX1, "lacks", "(II)I"⟩
def dkwX1_lacks_1 : List UInt8 := [154, 0, 11, 42, 45, 182, 1, 79, 167, 0, 8, 42, 45, 182, 1, 83, 172]
abbrev dktX1_lacks_1 : List UInt8 := dkwX1_lacks_1 ++ []
def dkwX1_lacks_0 : List UInt8 := [42, 27, 182, 0, 162, 78, 28, 153, 0, 8, 28, 4, 160, 0, 7, 4, 167, 0, 4, 3, 184, 0, 105, 28]
abbrev dktX1_lacks_0 : List UInt8 := dkwX1_lacks_0 ++ dktX1_lacks_1
theorem dksX1_lacks_0 : cX1_lacks.data.toList.drop 0 = dktX1_lacks_0 := by decide +kernel
theorem dksX1_lacks_1 : cX1_lacks.data.toList.drop 24 = dktX1_lacks_1 := dk_seg dksX1_lacks_0 24 rfl rfl
theorem dX1_lacks_0 : decode cX1_lacks 0 = .ok (.aload_n 0, 1) := dk_42 (dk_at dksX1_lacks_0 0 rfl rfl)
theorem dX1_lacks_1 : decode cX1_lacks 1 = .ok (.iload_n 1, 1) := dk_27 (dk_at dksX1_lacks_0 1 rfl rfl)
theorem dX1_lacks_2 : decode cX1_lacks 2 = .ok (.invokevirtual 162, 3) := dk_182 0 162 (dk_at dksX1_lacks_0 2 rfl rfl)
theorem dX1_lacks_5 : decode cX1_lacks 5 = .ok (.astore_n 3, 1) := dk_78 (dk_at dksX1_lacks_0 5 rfl rfl)
theorem dX1_lacks_6 : decode cX1_lacks 6 = .ok (.iload_n 2, 1) := dk_28 (dk_at dksX1_lacks_0 6 rfl rfl)
theorem dX1_lacks_7 : decode cX1_lacks 7 = .ok (.ifCond .eq 8, 3) := dk_153 0 8 (dk_at dksX1_lacks_0 7 rfl rfl)
theorem dX1_lacks_10 : decode cX1_lacks 10 = .ok (.iload_n 2, 1) := dk_28 (dk_at dksX1_lacks_0 10 rfl rfl)
theorem dX1_lacks_11 : decode cX1_lacks 11 = .ok (.iconst 1, 1) := dk_4 (dk_at dksX1_lacks_0 11 rfl rfl)
theorem dX1_lacks_12 : decode cX1_lacks 12 = .ok (.if_icmp .ne 7, 3) := dk_160 0 7 (dk_at dksX1_lacks_0 12 rfl rfl)
theorem dX1_lacks_15 : decode cX1_lacks 15 = .ok (.iconst 1, 1) := dk_4 (dk_at dksX1_lacks_0 15 rfl rfl)
theorem dX1_lacks_16 : decode cX1_lacks 16 = .ok (.goto 4, 3) := dk_167 0 4 (dk_at dksX1_lacks_0 16 rfl rfl)
theorem dX1_lacks_19 : decode cX1_lacks 19 = .ok (.iconst 0, 1) := dk_3 (dk_at dksX1_lacks_0 19 rfl rfl)
theorem dX1_lacks_20 : decode cX1_lacks 20 = .ok (.invokestatic 105, 3) := dk_184 0 105 (dk_at dksX1_lacks_0 20 rfl rfl)
theorem dX1_lacks_23 : decode cX1_lacks 23 = .ok (.iload_n 2, 1) := dk_28 (dk_at dksX1_lacks_0 23 rfl rfl)
theorem dX1_lacks_24 : decode cX1_lacks 24 = .ok (.ifCond .ne 11, 3) := dk_154 0 11 (dk_at dksX1_lacks_1 0 rfl rfl)
theorem dX1_lacks_27 : decode cX1_lacks 27 = .ok (.aload_n 0, 1) := dk_42 (dk_at dksX1_lacks_1 3 rfl rfl)
theorem dX1_lacks_28 : decode cX1_lacks 28 = .ok (.aload_n 3, 1) := dk_45 (dk_at dksX1_lacks_1 4 rfl rfl)
theorem dX1_lacks_29 : decode cX1_lacks 29 = .ok (.invokevirtual 335, 3) := dk_182 1 79 (dk_at dksX1_lacks_1 5 rfl rfl)
theorem dX1_lacks_32 : decode cX1_lacks 32 = .ok (.goto 8, 3) := dk_167 0 8 (dk_at dksX1_lacks_1 8 rfl rfl)
theorem dX1_lacks_35 : decode cX1_lacks 35 = .ok (.aload_n 0, 1) := dk_42 (dk_at dksX1_lacks_1 11 rfl rfl)
theorem dX1_lacks_36 : decode cX1_lacks 36 = .ok (.aload_n 3, 1) := dk_45 (dk_at dksX1_lacks_1 12 rfl rfl)
theorem dX1_lacks_37 : decode cX1_lacks 37 = .ok (.invokevirtual 339, 3) := dk_182 1 83 (dk_at dksX1_lacks_1 13 rfl rfl)
theorem dX1_lacks_40 : decode cX1_lacks 40 = .ok (.ireturn, 1) := dk_172 (dk_at dksX1_lacks_1 16 rfl rfl)
abbrev cX1_choice : ByteArray := prog_1_method_53_code
def yX1_choice : MethodName := ⟨RX1, "choice", "(II)I"⟩
def dkwX1_choice_1 : List UInt8 := [180, 0, 50, 28, 46, 167, 0, 5, 16, 254, 172]
abbrev dktX1_choice_1 : List UInt8 := dkwX1_choice_1 ++ []
def dkwX1_choice_0 : List UInt8 := [42, 27, 182, 0, 162, 78, 28, 184, 0, 142, 184, 0, 105, 42, 45, 182, 1, 124, 153, 0, 12, 42]
abbrev dktX1_choice_0 : List UInt8 := dkwX1_choice_0 ++ dktX1_choice_1
theorem dksX1_choice_0 : cX1_choice.data.toList.drop 0 = dktX1_choice_0 := by decide +kernel
theorem dksX1_choice_1 : cX1_choice.data.toList.drop 22 = dktX1_choice_1 := dk_seg dksX1_choice_0 22 rfl rfl
theorem dX1_choice_0 : decode cX1_choice 0 = .ok (.aload_n 0, 1) := dk_42 (dk_at dksX1_choice_0 0 rfl rfl)
theorem dX1_choice_1 : decode cX1_choice 1 = .ok (.iload_n 1, 1) := dk_27 (dk_at dksX1_choice_0 1 rfl rfl)
theorem dX1_choice_2 : decode cX1_choice 2 = .ok (.invokevirtual 162, 3) := dk_182 0 162 (dk_at dksX1_choice_0 2 rfl rfl)
theorem dX1_choice_5 : decode cX1_choice 5 = .ok (.astore_n 3, 1) := dk_78 (dk_at dksX1_choice_0 5 rfl rfl)
theorem dX1_choice_6 : decode cX1_choice 6 = .ok (.iload_n 2, 1) := dk_28 (dk_at dksX1_choice_0 6 rfl rfl)
theorem dX1_choice_7 : decode cX1_choice 7 = .ok (.invokestatic 142, 3) := dk_184 0 142 (dk_at dksX1_choice_0 7 rfl rfl)
theorem dX1_choice_10 : decode cX1_choice 10 = .ok (.invokestatic 105, 3) := dk_184 0 105 (dk_at dksX1_choice_0 10 rfl rfl)
theorem dX1_choice_13 : decode cX1_choice 13 = .ok (.aload_n 0, 1) := dk_42 (dk_at dksX1_choice_0 13 rfl rfl)
theorem dX1_choice_14 : decode cX1_choice 14 = .ok (.aload_n 3, 1) := dk_45 (dk_at dksX1_choice_0 14 rfl rfl)
theorem dX1_choice_15 : decode cX1_choice 15 = .ok (.invokevirtual 380, 3) := dk_182 1 124 (dk_at dksX1_choice_0 15 rfl rfl)
theorem dX1_choice_18 : decode cX1_choice 18 = .ok (.ifCond .eq 12, 3) := dk_153 0 12 (dk_at dksX1_choice_0 18 rfl rfl)
theorem dX1_choice_21 : decode cX1_choice 21 = .ok (.aload_n 0, 1) := dk_42 (dk_at dksX1_choice_0 21 rfl rfl)
theorem dX1_choice_22 : decode cX1_choice 22 = .ok (.getfield 50, 3) := dk_180 0 50 (dk_at dksX1_choice_1 0 rfl rfl)
theorem dX1_choice_25 : decode cX1_choice 25 = .ok (.iload_n 2, 1) := dk_28 (dk_at dksX1_choice_1 3 rfl rfl)
theorem dX1_choice_26 : decode cX1_choice 26 = .ok (.iaload, 1) := dk_46 (dk_at dksX1_choice_1 4 rfl rfl)
theorem dX1_choice_27 : decode cX1_choice 27 = .ok (.goto 5, 3) := dk_167 0 5 (dk_at dksX1_choice_1 5 rfl rfl)
theorem dX1_choice_30 : decode cX1_choice 30 = .ok (.bipush (-2), 2) := dk_16 254 (dk_at dksX1_choice_1 8 rfl rfl)
theorem dX1_choice_32 : decode cX1_choice 32 = .ok (.ireturn, 1) := dk_172 (dk_at dksX1_choice_1 10 rfl rfl)
abbrev cX1_findChoice : ByteArray := prog_1_method_52_code
def yX1_findChoice : MethodName := ⟨RX1, "findChoice", "(LLimbBenches$Person;)Z"⟩
def dkwX1_findChoice_2 : List UInt8 := [3, 3, 3, 28, 182, 1, 113, 42, 180, 1, 97, 172]
abbrev dktX1_findChoice_2 : List UInt8 := dkwX1_findChoice_2 ++ []
def dkwX1_findChoice_1 : List UInt8 := [182, 1, 19, 46, 100, 61, 28, 155, 0, 24, 42, 43, 42, 43, 42, 180, 0, 10, 180, 0, 149, 182, 0, 243]
abbrev dktX1_findChoice_1 : List UInt8 := dkwX1_findChoice_1 ++ dktX1_findChoice_2
def dkwX1_findChoice_0 : List UInt8 := [42, 3, 181, 1, 97, 42, 43, 42, 180, 0, 10, 180, 0, 149, 182, 0, 239, 43, 180, 0, 192, 42]
abbrev dktX1_findChoice_0 : List UInt8 := dkwX1_findChoice_0 ++ dktX1_findChoice_1
theorem dksX1_findChoice_0 : cX1_findChoice.data.toList.drop 0 = dktX1_findChoice_0 := by decide +kernel
theorem dksX1_findChoice_1 : cX1_findChoice.data.toList.drop 22 = dktX1_findChoice_1 := dk_seg dksX1_findChoice_0 22 rfl rfl
theorem dksX1_findChoice_2 : cX1_findChoice.data.toList.drop 46 = dktX1_findChoice_2 := dk_seg dksX1_findChoice_1 24 rfl rfl
theorem dX1_findChoice_0 : decode cX1_findChoice 0 = .ok (.aload_n 0, 1) := dk_42 (dk_at dksX1_findChoice_0 0 rfl rfl)
theorem dX1_findChoice_1 : decode cX1_findChoice 1 = .ok (.iconst 0, 1) := dk_3 (dk_at dksX1_findChoice_0 1 rfl rfl)
theorem dX1_findChoice_2 : decode cX1_findChoice 2 = .ok (.putfield 353, 3) := dk_181 1 97 (dk_at dksX1_findChoice_0 2 rfl rfl)
theorem dX1_findChoice_5 : decode cX1_findChoice 5 = .ok (.aload_n 0, 1) := dk_42 (dk_at dksX1_findChoice_0 5 rfl rfl)
theorem dX1_findChoice_6 : decode cX1_findChoice 6 = .ok (.aload_n 1, 1) := dk_43 (dk_at dksX1_findChoice_0 6 rfl rfl)
theorem dX1_findChoice_7 : decode cX1_findChoice 7 = .ok (.aload_n 0, 1) := dk_42 (dk_at dksX1_findChoice_0 7 rfl rfl)
theorem dX1_findChoice_8 : decode cX1_findChoice 8 = .ok (.getfield 10, 3) := dk_180 0 10 (dk_at dksX1_findChoice_0 8 rfl rfl)
theorem dX1_findChoice_11 : decode cX1_findChoice 11 = .ok (.getfield 149, 3) := dk_180 0 149 (dk_at dksX1_findChoice_0 11 rfl rfl)
theorem dX1_findChoice_14 : decode cX1_findChoice 14 = .ok (.invokevirtual 239, 3) := dk_182 0 239 (dk_at dksX1_findChoice_0 14 rfl rfl)
theorem dX1_findChoice_17 : decode cX1_findChoice 17 = .ok (.aload_n 1, 1) := dk_43 (dk_at dksX1_findChoice_0 17 rfl rfl)
theorem dX1_findChoice_18 : decode cX1_findChoice 18 = .ok (.getfield 192, 3) := dk_180 0 192 (dk_at dksX1_findChoice_0 18 rfl rfl)
theorem dX1_findChoice_21 : decode cX1_findChoice 21 = .ok (.aload_n 0, 1) := dk_42 (dk_at dksX1_findChoice_0 21 rfl rfl)
theorem dX1_findChoice_22 : decode cX1_findChoice 22 = .ok (.invokevirtual 275, 3) := dk_182 1 19 (dk_at dksX1_findChoice_1 0 rfl rfl)
theorem dX1_findChoice_25 : decode cX1_findChoice 25 = .ok (.iaload, 1) := dk_46 (dk_at dksX1_findChoice_1 3 rfl rfl)
theorem dX1_findChoice_26 : decode cX1_findChoice 26 = .ok (.isub, 1) := dk_100 (dk_at dksX1_findChoice_1 4 rfl rfl)
theorem dX1_findChoice_27 : decode cX1_findChoice 27 = .ok (.istore_n 2, 1) := dk_61 (dk_at dksX1_findChoice_1 5 rfl rfl)
theorem dX1_findChoice_28 : decode cX1_findChoice 28 = .ok (.iload_n 2, 1) := dk_28 (dk_at dksX1_findChoice_1 6 rfl rfl)
theorem dX1_findChoice_29 : decode cX1_findChoice 29 = .ok (.ifCond .lt 24, 3) := dk_155 0 24 (dk_at dksX1_findChoice_1 7 rfl rfl)
theorem dX1_findChoice_32 : decode cX1_findChoice 32 = .ok (.aload_n 0, 1) := dk_42 (dk_at dksX1_findChoice_1 10 rfl rfl)
theorem dX1_findChoice_33 : decode cX1_findChoice 33 = .ok (.aload_n 1, 1) := dk_43 (dk_at dksX1_findChoice_1 11 rfl rfl)
theorem dX1_findChoice_34 : decode cX1_findChoice 34 = .ok (.aload_n 0, 1) := dk_42 (dk_at dksX1_findChoice_1 12 rfl rfl)
theorem dX1_findChoice_35 : decode cX1_findChoice 35 = .ok (.aload_n 1, 1) := dk_43 (dk_at dksX1_findChoice_1 13 rfl rfl)
theorem dX1_findChoice_36 : decode cX1_findChoice 36 = .ok (.aload_n 0, 1) := dk_42 (dk_at dksX1_findChoice_1 14 rfl rfl)
theorem dX1_findChoice_37 : decode cX1_findChoice 37 = .ok (.getfield 10, 3) := dk_180 0 10 (dk_at dksX1_findChoice_1 15 rfl rfl)
theorem dX1_findChoice_40 : decode cX1_findChoice 40 = .ok (.getfield 149, 3) := dk_180 0 149 (dk_at dksX1_findChoice_1 18 rfl rfl)
theorem dX1_findChoice_43 : decode cX1_findChoice 43 = .ok (.invokevirtual 243, 3) := dk_182 0 243 (dk_at dksX1_findChoice_1 21 rfl rfl)
theorem dX1_findChoice_46 : decode cX1_findChoice 46 = .ok (.iconst 0, 1) := dk_3 (dk_at dksX1_findChoice_2 0 rfl rfl)
theorem dX1_findChoice_47 : decode cX1_findChoice 47 = .ok (.iconst 0, 1) := dk_3 (dk_at dksX1_findChoice_2 1 rfl rfl)
theorem dX1_findChoice_48 : decode cX1_findChoice 48 = .ok (.iconst 0, 1) := dk_3 (dk_at dksX1_findChoice_2 2 rfl rfl)
theorem dX1_findChoice_49 : decode cX1_findChoice 49 = .ok (.iload_n 2, 1) := dk_28 (dk_at dksX1_findChoice_2 3 rfl rfl)
theorem dX1_findChoice_50 : decode cX1_findChoice 50 = .ok (.invokevirtual 369, 3) := dk_182 1 113 (dk_at dksX1_findChoice_2 4 rfl rfl)
theorem dX1_findChoice_53 : decode cX1_findChoice 53 = .ok (.aload_n 0, 1) := dk_42 (dk_at dksX1_findChoice_2 7 rfl rfl)
theorem dX1_findChoice_54 : decode cX1_findChoice 54 = .ok (.getfield 353, 3) := dk_180 1 97 (dk_at dksX1_findChoice_2 8 rfl rfl)
theorem dX1_findChoice_57 : decode cX1_findChoice 57 = .ok (.ireturn, 1) := dk_172 (dk_at dksX1_findChoice_2 11 rfl rfl)
abbrev cX1_picks : ByteArray := prog_1_method_50_code
def yX1_picks : MethodName := ⟨RX1, "picks", "(LLimbBenches$Person;IIIII)V"⟩
def dkwX1_picks_10 : List UInt8 := [180, 0, 47, 29, 2, 79, 177]
abbrev dktX1_picks_10 : List UInt8 := dkwX1_picks_10 ++ []
def dkwX1_picks_9 : List UInt8 := [46, 96, 21, 5, 25, 8, 180, 1, 43, 96, 21, 6, 182, 1, 113, 132, 7, 1, 167, 255, 133, 42]
abbrev dktX1_picks_9 : List UInt8 := dkwX1_picks_9 ++ dktX1_picks_10
def dkwX1_picks_8 : List UInt8 := [180, 0, 47, 29, 21, 7, 79, 42, 43, 28, 29, 4, 96, 21, 4, 25, 8, 180, 1, 121, 43, 180, 0, 180]
abbrev dktX1_picks_8 : List UInt8 := dkwX1_picks_8 ++ dktX1_picks_9
def dkwX1_picks_7 : List UInt8 := [180, 1, 43, 96, 21, 6, 163, 0, 57, 42, 43, 21, 7, 29, 182, 1, 117, 153, 0, 6, 167, 0, 43, 42]
abbrev dktX1_picks_7 : List UInt8 := dkwX1_picks_7 ++ dktX1_picks_8
def dkwX1_picks_6 : List UInt8 := [180, 1, 2, 29, 160, 0, 82, 25, 8, 180, 1, 30, 43, 180, 0, 177, 161, 0, 70, 21, 5, 25, 8]
abbrev dktX1_picks_6 : List UInt8 := dkwX1_picks_6 ++ dktX1_picks_7
def dkwX1_picks_5 : List UInt8 := [162, 0, 114, 42, 180, 0, 10, 180, 0, 87, 21, 7, 182, 0, 81, 192, 0, 93, 58, 8, 25, 8]
abbrev dktX1_picks_5 : List UInt8 := dkwX1_picks_5 ++ dktX1_picks_6
def dkwX1_picks_4 : List UInt8 := [21, 5, 21, 6, 182, 1, 113, 177, 3, 54, 7, 21, 7, 42, 180, 0, 10, 180, 0, 87, 182, 0, 74]
abbrev dktX1_picks_4 : List UInt8 := dkwX1_picks_4 ++ dktX1_picks_5
def dkwX1_picks_3 : List UInt8 := [42, 180, 0, 47, 29, 2, 79, 28, 29, 122, 4, 126, 154, 0, 19, 42, 43, 28, 29, 4, 96, 21, 4]
abbrev dktX1_picks_3 : List UInt8 := dkwX1_picks_3 ++ dktX1_picks_4
def dkwX1_picks_2 : List UInt8 := [181, 1, 101, 42, 21, 5, 181, 1, 104, 42, 180, 0, 47, 3, 42, 180, 0, 50, 3, 7, 184, 1, 107, 177]
abbrev dktX1_picks_2 : List UInt8 := dkwX1_picks_2 ++ dktX1_picks_3
def dkwX1_picks_1 : List UInt8 := [180, 1, 101, 160, 0, 13, 21, 5, 42, 180, 1, 104, 161, 0, 4, 177, 42, 4, 181, 1, 97, 42, 21, 4]
abbrev dktX1_picks_1 : List UInt8 := dkwX1_picks_1 ++ dktX1_picks_2
def dkwX1_picks_0 : List UInt8 := [29, 7, 160, 0, 70, 42, 180, 1, 97, 153, 0, 31, 21, 4, 42, 180, 1, 101, 161, 0, 21, 21, 4, 42]
abbrev dktX1_picks_0 : List UInt8 := dkwX1_picks_0 ++ dktX1_picks_1
theorem dksX1_picks_0 : cX1_picks.data.toList.drop 0 = dktX1_picks_0 := by decide +kernel
theorem dksX1_picks_1 : cX1_picks.data.toList.drop 24 = dktX1_picks_1 := dk_seg dksX1_picks_0 24 rfl rfl
theorem dksX1_picks_2 : cX1_picks.data.toList.drop 48 = dktX1_picks_2 := dk_seg dksX1_picks_1 24 rfl rfl
theorem dksX1_picks_3 : cX1_picks.data.toList.drop 72 = dktX1_picks_3 := dk_seg dksX1_picks_2 24 rfl rfl
theorem dksX1_picks_4 : cX1_picks.data.toList.drop 95 = dktX1_picks_4 := dk_seg dksX1_picks_3 23 rfl rfl
theorem dksX1_picks_5 : cX1_picks.data.toList.drop 118 = dktX1_picks_5 := dk_seg dksX1_picks_4 23 rfl rfl
theorem dksX1_picks_6 : cX1_picks.data.toList.drop 140 = dktX1_picks_6 := dk_seg dksX1_picks_5 22 rfl rfl
theorem dksX1_picks_7 : cX1_picks.data.toList.drop 163 = dktX1_picks_7 := dk_seg dksX1_picks_6 23 rfl rfl
theorem dksX1_picks_8 : cX1_picks.data.toList.drop 187 = dktX1_picks_8 := dk_seg dksX1_picks_7 24 rfl rfl
theorem dksX1_picks_9 : cX1_picks.data.toList.drop 211 = dktX1_picks_9 := dk_seg dksX1_picks_8 24 rfl rfl
theorem dksX1_picks_10 : cX1_picks.data.toList.drop 233 = dktX1_picks_10 := dk_seg dksX1_picks_9 22 rfl rfl
theorem dX1_picks_0 : decode cX1_picks 0 = .ok (.iload_n 3, 1) := dk_29 (dk_at dksX1_picks_0 0 rfl rfl)
theorem dX1_picks_1 : decode cX1_picks 1 = .ok (.iconst 4, 1) := dk_7 (dk_at dksX1_picks_0 1 rfl rfl)
theorem dX1_picks_2 : decode cX1_picks 2 = .ok (.if_icmp .ne 70, 3) := dk_160 0 70 (dk_at dksX1_picks_0 2 rfl rfl)
theorem dX1_picks_5 : decode cX1_picks 5 = .ok (.aload_n 0, 1) := dk_42 (dk_at dksX1_picks_0 5 rfl rfl)
theorem dX1_picks_6 : decode cX1_picks 6 = .ok (.getfield 353, 3) := dk_180 1 97 (dk_at dksX1_picks_0 6 rfl rfl)
theorem dX1_picks_9 : decode cX1_picks 9 = .ok (.ifCond .eq 31, 3) := dk_153 0 31 (dk_at dksX1_picks_0 9 rfl rfl)
theorem dX1_picks_12 : decode cX1_picks 12 = .ok (.iload 4, 2) := dk_21 4 (dk_at dksX1_picks_0 12 rfl rfl)
theorem dX1_picks_14 : decode cX1_picks 14 = .ok (.aload_n 0, 1) := dk_42 (dk_at dksX1_picks_0 14 rfl rfl)
theorem dX1_picks_15 : decode cX1_picks 15 = .ok (.getfield 357, 3) := dk_180 1 101 (dk_at dksX1_picks_0 15 rfl rfl)
theorem dX1_picks_18 : decode cX1_picks 18 = .ok (.if_icmp .lt 21, 3) := dk_161 0 21 (dk_at dksX1_picks_0 18 rfl rfl)
theorem dX1_picks_21 : decode cX1_picks 21 = .ok (.iload 4, 2) := dk_21 4 (dk_at dksX1_picks_0 21 rfl rfl)
theorem dX1_picks_23 : decode cX1_picks 23 = .ok (.aload_n 0, 1) := dk_42 (dk_at dksX1_picks_0 23 rfl rfl)
theorem dX1_picks_24 : decode cX1_picks 24 = .ok (.getfield 357, 3) := dk_180 1 101 (dk_at dksX1_picks_1 0 rfl rfl)
theorem dX1_picks_27 : decode cX1_picks 27 = .ok (.if_icmp .ne 13, 3) := dk_160 0 13 (dk_at dksX1_picks_1 3 rfl rfl)
theorem dX1_picks_30 : decode cX1_picks 30 = .ok (.iload 5, 2) := dk_21 5 (dk_at dksX1_picks_1 6 rfl rfl)
theorem dX1_picks_32 : decode cX1_picks 32 = .ok (.aload_n 0, 1) := dk_42 (dk_at dksX1_picks_1 8 rfl rfl)
theorem dX1_picks_33 : decode cX1_picks 33 = .ok (.getfield 360, 3) := dk_180 1 104 (dk_at dksX1_picks_1 9 rfl rfl)
theorem dX1_picks_36 : decode cX1_picks 36 = .ok (.if_icmp .lt 4, 3) := dk_161 0 4 (dk_at dksX1_picks_1 12 rfl rfl)
theorem dX1_picks_39 : decode cX1_picks 39 = .ok (.return_, 1) := dk_177 (dk_at dksX1_picks_1 15 rfl rfl)
theorem dX1_picks_40 : decode cX1_picks 40 = .ok (.aload_n 0, 1) := dk_42 (dk_at dksX1_picks_1 16 rfl rfl)
theorem dX1_picks_41 : decode cX1_picks 41 = .ok (.iconst 1, 1) := dk_4 (dk_at dksX1_picks_1 17 rfl rfl)
theorem dX1_picks_42 : decode cX1_picks 42 = .ok (.putfield 353, 3) := dk_181 1 97 (dk_at dksX1_picks_1 18 rfl rfl)
theorem dX1_picks_45 : decode cX1_picks 45 = .ok (.aload_n 0, 1) := dk_42 (dk_at dksX1_picks_1 21 rfl rfl)
theorem dX1_picks_46 : decode cX1_picks 46 = .ok (.iload 4, 2) := dk_21 4 (dk_at dksX1_picks_1 22 rfl rfl)
theorem dX1_picks_48 : decode cX1_picks 48 = .ok (.putfield 357, 3) := dk_181 1 101 (dk_at dksX1_picks_2 0 rfl rfl)
theorem dX1_picks_51 : decode cX1_picks 51 = .ok (.aload_n 0, 1) := dk_42 (dk_at dksX1_picks_2 3 rfl rfl)
theorem dX1_picks_52 : decode cX1_picks 52 = .ok (.iload 5, 2) := dk_21 5 (dk_at dksX1_picks_2 4 rfl rfl)
theorem dX1_picks_54 : decode cX1_picks 54 = .ok (.putfield 360, 3) := dk_181 1 104 (dk_at dksX1_picks_2 6 rfl rfl)
theorem dX1_picks_57 : decode cX1_picks 57 = .ok (.aload_n 0, 1) := dk_42 (dk_at dksX1_picks_2 9 rfl rfl)
theorem dX1_picks_58 : decode cX1_picks 58 = .ok (.getfield 47, 3) := dk_180 0 47 (dk_at dksX1_picks_2 10 rfl rfl)
theorem dX1_picks_61 : decode cX1_picks 61 = .ok (.iconst 0, 1) := dk_3 (dk_at dksX1_picks_2 13 rfl rfl)
theorem dX1_picks_62 : decode cX1_picks 62 = .ok (.aload_n 0, 1) := dk_42 (dk_at dksX1_picks_2 14 rfl rfl)
theorem dX1_picks_63 : decode cX1_picks 63 = .ok (.getfield 50, 3) := dk_180 0 50 (dk_at dksX1_picks_2 15 rfl rfl)
theorem dX1_picks_66 : decode cX1_picks 66 = .ok (.iconst 0, 1) := dk_3 (dk_at dksX1_picks_2 18 rfl rfl)
theorem dX1_picks_67 : decode cX1_picks 67 = .ok (.iconst 4, 1) := dk_7 (dk_at dksX1_picks_2 19 rfl rfl)
theorem dX1_picks_68 : decode cX1_picks 68 = .ok (.invokestatic 363, 3) := dk_184 1 107 (dk_at dksX1_picks_2 20 rfl rfl)
theorem dX1_picks_71 : decode cX1_picks 71 = .ok (.return_, 1) := dk_177 (dk_at dksX1_picks_2 23 rfl rfl)
theorem dX1_picks_72 : decode cX1_picks 72 = .ok (.aload_n 0, 1) := dk_42 (dk_at dksX1_picks_3 0 rfl rfl)
theorem dX1_picks_73 : decode cX1_picks 73 = .ok (.getfield 47, 3) := dk_180 0 47 (dk_at dksX1_picks_3 1 rfl rfl)
theorem dX1_picks_76 : decode cX1_picks 76 = .ok (.iload_n 3, 1) := dk_29 (dk_at dksX1_picks_3 4 rfl rfl)
theorem dX1_picks_77 : decode cX1_picks 77 = .ok (.iconst (-1), 1) := dk_2 (dk_at dksX1_picks_3 5 rfl rfl)
theorem dX1_picks_78 : decode cX1_picks 78 = .ok (.iastore, 1) := dk_79 (dk_at dksX1_picks_3 6 rfl rfl)
theorem dX1_picks_79 : decode cX1_picks 79 = .ok (.iload_n 2, 1) := dk_28 (dk_at dksX1_picks_3 7 rfl rfl)
theorem dX1_picks_80 : decode cX1_picks 80 = .ok (.iload_n 3, 1) := dk_29 (dk_at dksX1_picks_3 8 rfl rfl)
theorem dX1_picks_81 : decode cX1_picks 81 = .ok (.ishr, 1) := dk_122 (dk_at dksX1_picks_3 9 rfl rfl)
theorem dX1_picks_82 : decode cX1_picks 82 = .ok (.iconst 1, 1) := dk_4 (dk_at dksX1_picks_3 10 rfl rfl)
theorem dX1_picks_83 : decode cX1_picks 83 = .ok (.iand, 1) := dk_126 (dk_at dksX1_picks_3 11 rfl rfl)
theorem dX1_picks_84 : decode cX1_picks 84 = .ok (.ifCond .ne 19, 3) := dk_154 0 19 (dk_at dksX1_picks_3 12 rfl rfl)
theorem dX1_picks_87 : decode cX1_picks 87 = .ok (.aload_n 0, 1) := dk_42 (dk_at dksX1_picks_3 15 rfl rfl)
theorem dX1_picks_88 : decode cX1_picks 88 = .ok (.aload_n 1, 1) := dk_43 (dk_at dksX1_picks_3 16 rfl rfl)
theorem dX1_picks_89 : decode cX1_picks 89 = .ok (.iload_n 2, 1) := dk_28 (dk_at dksX1_picks_3 17 rfl rfl)
theorem dX1_picks_90 : decode cX1_picks 90 = .ok (.iload_n 3, 1) := dk_29 (dk_at dksX1_picks_3 18 rfl rfl)
theorem dX1_picks_91 : decode cX1_picks 91 = .ok (.iconst 1, 1) := dk_4 (dk_at dksX1_picks_3 19 rfl rfl)
theorem dX1_picks_92 : decode cX1_picks 92 = .ok (.iadd, 1) := dk_96 (dk_at dksX1_picks_3 20 rfl rfl)
theorem dX1_picks_93 : decode cX1_picks 93 = .ok (.iload 4, 2) := dk_21 4 (dk_at dksX1_picks_3 21 rfl rfl)
theorem dX1_picks_95 : decode cX1_picks 95 = .ok (.iload 5, 2) := dk_21 5 (dk_at dksX1_picks_4 0 rfl rfl)
theorem dX1_picks_97 : decode cX1_picks 97 = .ok (.iload 6, 2) := dk_21 6 (dk_at dksX1_picks_4 2 rfl rfl)
theorem dX1_picks_99 : decode cX1_picks 99 = .ok (.invokevirtual 369, 3) := dk_182 1 113 (dk_at dksX1_picks_4 4 rfl rfl)
theorem dX1_picks_102 : decode cX1_picks 102 = .ok (.return_, 1) := dk_177 (dk_at dksX1_picks_4 7 rfl rfl)
theorem dX1_picks_103 : decode cX1_picks 103 = .ok (.iconst 0, 1) := dk_3 (dk_at dksX1_picks_4 8 rfl rfl)
theorem dX1_picks_104 : decode cX1_picks 104 = .ok (.istore 7, 2) := dk_54 7 (dk_at dksX1_picks_4 9 rfl rfl)
theorem dX1_picks_106 : decode cX1_picks 106 = .ok (.iload 7, 2) := dk_21 7 (dk_at dksX1_picks_4 11 rfl rfl)
theorem dX1_picks_108 : decode cX1_picks 108 = .ok (.aload_n 0, 1) := dk_42 (dk_at dksX1_picks_4 13 rfl rfl)
theorem dX1_picks_109 : decode cX1_picks 109 = .ok (.getfield 10, 3) := dk_180 0 10 (dk_at dksX1_picks_4 14 rfl rfl)
theorem dX1_picks_112 : decode cX1_picks 112 = .ok (.getfield 87, 3) := dk_180 0 87 (dk_at dksX1_picks_4 17 rfl rfl)
theorem dX1_picks_115 : decode cX1_picks 115 = .ok (.invokevirtual 74, 3) := dk_182 0 74 (dk_at dksX1_picks_4 20 rfl rfl)
theorem dX1_picks_118 : decode cX1_picks 118 = .ok (.if_icmp .ge 114, 3) := dk_162 0 114 (dk_at dksX1_picks_5 0 rfl rfl)
theorem dX1_picks_121 : decode cX1_picks 121 = .ok (.aload_n 0, 1) := dk_42 (dk_at dksX1_picks_5 3 rfl rfl)
theorem dX1_picks_122 : decode cX1_picks 122 = .ok (.getfield 10, 3) := dk_180 0 10 (dk_at dksX1_picks_5 4 rfl rfl)
theorem dX1_picks_125 : decode cX1_picks 125 = .ok (.getfield 87, 3) := dk_180 0 87 (dk_at dksX1_picks_5 7 rfl rfl)
theorem dX1_picks_128 : decode cX1_picks 128 = .ok (.iload 7, 2) := dk_21 7 (dk_at dksX1_picks_5 10 rfl rfl)
theorem dX1_picks_130 : decode cX1_picks 130 = .ok (.invokevirtual 81, 3) := dk_182 0 81 (dk_at dksX1_picks_5 12 rfl rfl)
theorem dX1_picks_133 : decode cX1_picks 133 = .ok (.checkcast 93, 3) := dk_192 0 93 (dk_at dksX1_picks_5 15 rfl rfl)
theorem dX1_picks_136 : decode cX1_picks 136 = .ok (.astore 8, 2) := dk_58 8 (dk_at dksX1_picks_5 18 rfl rfl)
theorem dX1_picks_138 : decode cX1_picks 138 = .ok (.aload 8, 2) := dk_25 8 (dk_at dksX1_picks_5 20 rfl rfl)
theorem dX1_picks_140 : decode cX1_picks 140 = .ok (.getfield 258, 3) := dk_180 1 2 (dk_at dksX1_picks_6 0 rfl rfl)
theorem dX1_picks_143 : decode cX1_picks 143 = .ok (.iload_n 3, 1) := dk_29 (dk_at dksX1_picks_6 3 rfl rfl)
theorem dX1_picks_144 : decode cX1_picks 144 = .ok (.if_icmp .ne 82, 3) := dk_160 0 82 (dk_at dksX1_picks_6 4 rfl rfl)
theorem dX1_picks_147 : decode cX1_picks 147 = .ok (.aload 8, 2) := dk_25 8 (dk_at dksX1_picks_6 7 rfl rfl)
theorem dX1_picks_149 : decode cX1_picks 149 = .ok (.getfield 286, 3) := dk_180 1 30 (dk_at dksX1_picks_6 9 rfl rfl)
theorem dX1_picks_152 : decode cX1_picks 152 = .ok (.aload_n 1, 1) := dk_43 (dk_at dksX1_picks_6 12 rfl rfl)
theorem dX1_picks_153 : decode cX1_picks 153 = .ok (.getfield 177, 3) := dk_180 0 177 (dk_at dksX1_picks_6 13 rfl rfl)
theorem dX1_picks_156 : decode cX1_picks 156 = .ok (.if_icmp .lt 70, 3) := dk_161 0 70 (dk_at dksX1_picks_6 16 rfl rfl)
theorem dX1_picks_159 : decode cX1_picks 159 = .ok (.iload 5, 2) := dk_21 5 (dk_at dksX1_picks_6 19 rfl rfl)
theorem dX1_picks_161 : decode cX1_picks 161 = .ok (.aload 8, 2) := dk_25 8 (dk_at dksX1_picks_6 21 rfl rfl)
theorem dX1_picks_163 : decode cX1_picks 163 = .ok (.getfield 299, 3) := dk_180 1 43 (dk_at dksX1_picks_7 0 rfl rfl)
theorem dX1_picks_166 : decode cX1_picks 166 = .ok (.iadd, 1) := dk_96 (dk_at dksX1_picks_7 3 rfl rfl)
theorem dX1_picks_167 : decode cX1_picks 167 = .ok (.iload 6, 2) := dk_21 6 (dk_at dksX1_picks_7 4 rfl rfl)
theorem dX1_picks_169 : decode cX1_picks 169 = .ok (.if_icmp .gt 57, 3) := dk_163 0 57 (dk_at dksX1_picks_7 6 rfl rfl)
theorem dX1_picks_172 : decode cX1_picks 172 = .ok (.aload_n 0, 1) := dk_42 (dk_at dksX1_picks_7 9 rfl rfl)
theorem dX1_picks_173 : decode cX1_picks 173 = .ok (.aload_n 1, 1) := dk_43 (dk_at dksX1_picks_7 10 rfl rfl)
theorem dX1_picks_174 : decode cX1_picks 174 = .ok (.iload 7, 2) := dk_21 7 (dk_at dksX1_picks_7 11 rfl rfl)
theorem dX1_picks_176 : decode cX1_picks 176 = .ok (.iload_n 3, 1) := dk_29 (dk_at dksX1_picks_7 13 rfl rfl)
theorem dX1_picks_177 : decode cX1_picks 177 = .ok (.invokevirtual 373, 3) := dk_182 1 117 (dk_at dksX1_picks_7 14 rfl rfl)
theorem dX1_picks_180 : decode cX1_picks 180 = .ok (.ifCond .eq 6, 3) := dk_153 0 6 (dk_at dksX1_picks_7 17 rfl rfl)
theorem dX1_picks_183 : decode cX1_picks 183 = .ok (.goto 43, 3) := dk_167 0 43 (dk_at dksX1_picks_7 20 rfl rfl)
theorem dX1_picks_186 : decode cX1_picks 186 = .ok (.aload_n 0, 1) := dk_42 (dk_at dksX1_picks_7 23 rfl rfl)
theorem dX1_picks_187 : decode cX1_picks 187 = .ok (.getfield 47, 3) := dk_180 0 47 (dk_at dksX1_picks_8 0 rfl rfl)
theorem dX1_picks_190 : decode cX1_picks 190 = .ok (.iload_n 3, 1) := dk_29 (dk_at dksX1_picks_8 3 rfl rfl)
theorem dX1_picks_191 : decode cX1_picks 191 = .ok (.iload 7, 2) := dk_21 7 (dk_at dksX1_picks_8 4 rfl rfl)
theorem dX1_picks_193 : decode cX1_picks 193 = .ok (.iastore, 1) := dk_79 (dk_at dksX1_picks_8 6 rfl rfl)
theorem dX1_picks_194 : decode cX1_picks 194 = .ok (.aload_n 0, 1) := dk_42 (dk_at dksX1_picks_8 7 rfl rfl)
theorem dX1_picks_195 : decode cX1_picks 195 = .ok (.aload_n 1, 1) := dk_43 (dk_at dksX1_picks_8 8 rfl rfl)
theorem dX1_picks_196 : decode cX1_picks 196 = .ok (.iload_n 2, 1) := dk_28 (dk_at dksX1_picks_8 9 rfl rfl)
theorem dX1_picks_197 : decode cX1_picks 197 = .ok (.iload_n 3, 1) := dk_29 (dk_at dksX1_picks_8 10 rfl rfl)
theorem dX1_picks_198 : decode cX1_picks 198 = .ok (.iconst 1, 1) := dk_4 (dk_at dksX1_picks_8 11 rfl rfl)
theorem dX1_picks_199 : decode cX1_picks 199 = .ok (.iadd, 1) := dk_96 (dk_at dksX1_picks_8 12 rfl rfl)
theorem dX1_picks_200 : decode cX1_picks 200 = .ok (.iload 4, 2) := dk_21 4 (dk_at dksX1_picks_8 13 rfl rfl)
theorem dX1_picks_202 : decode cX1_picks 202 = .ok (.aload 8, 2) := dk_25 8 (dk_at dksX1_picks_8 15 rfl rfl)
theorem dX1_picks_204 : decode cX1_picks 204 = .ok (.getfield 377, 3) := dk_180 1 121 (dk_at dksX1_picks_8 17 rfl rfl)
theorem dX1_picks_207 : decode cX1_picks 207 = .ok (.aload_n 1, 1) := dk_43 (dk_at dksX1_picks_8 20 rfl rfl)
theorem dX1_picks_208 : decode cX1_picks 208 = .ok (.getfield 180, 3) := dk_180 0 180 (dk_at dksX1_picks_8 21 rfl rfl)
theorem dX1_picks_211 : decode cX1_picks 211 = .ok (.iaload, 1) := dk_46 (dk_at dksX1_picks_9 0 rfl rfl)
theorem dX1_picks_212 : decode cX1_picks 212 = .ok (.iadd, 1) := dk_96 (dk_at dksX1_picks_9 1 rfl rfl)
theorem dX1_picks_213 : decode cX1_picks 213 = .ok (.iload 5, 2) := dk_21 5 (dk_at dksX1_picks_9 2 rfl rfl)
theorem dX1_picks_215 : decode cX1_picks 215 = .ok (.aload 8, 2) := dk_25 8 (dk_at dksX1_picks_9 4 rfl rfl)
theorem dX1_picks_217 : decode cX1_picks 217 = .ok (.getfield 299, 3) := dk_180 1 43 (dk_at dksX1_picks_9 6 rfl rfl)
theorem dX1_picks_220 : decode cX1_picks 220 = .ok (.iadd, 1) := dk_96 (dk_at dksX1_picks_9 9 rfl rfl)
theorem dX1_picks_221 : decode cX1_picks 221 = .ok (.iload 6, 2) := dk_21 6 (dk_at dksX1_picks_9 10 rfl rfl)
theorem dX1_picks_223 : decode cX1_picks 223 = .ok (.invokevirtual 369, 3) := dk_182 1 113 (dk_at dksX1_picks_9 12 rfl rfl)
theorem dX1_picks_226 : decode cX1_picks 226 = .ok (.iinc 7 1, 3) := dk_132 7 1 (dk_at dksX1_picks_9 15 rfl rfl)
theorem dX1_picks_229 : decode cX1_picks 229 = .ok (.goto (-123), 3) := dk_167 255 133 (dk_at dksX1_picks_9 18 rfl rfl)
theorem dX1_picks_232 : decode cX1_picks 232 = .ok (.aload_n 0, 1) := dk_42 (dk_at dksX1_picks_9 21 rfl rfl)
theorem dX1_picks_233 : decode cX1_picks 233 = .ok (.getfield 47, 3) := dk_180 0 47 (dk_at dksX1_picks_10 0 rfl rfl)
theorem dX1_picks_236 : decode cX1_picks 236 = .ok (.iload_n 3, 1) := dk_29 (dk_at dksX1_picks_10 3 rfl rfl)
theorem dX1_picks_237 : decode cX1_picks 237 = .ok (.iconst (-1), 1) := dk_2 (dk_at dksX1_picks_10 4 rfl rfl)
theorem dX1_picks_238 : decode cX1_picks 238 = .ok (.iastore, 1) := dk_79 (dk_at dksX1_picks_10 5 rfl rfl)
theorem dX1_picks_239 : decode cX1_picks 239 = .ok (.return_, 1) := dk_177 (dk_at dksX1_picks_10 6 rfl rfl)
abbrev cX1_goesNot : ByteArray := prog_1_method_51_code
def yX1_goesNot : MethodName := ⟨RX1, "goesNot", "(LLimbBenches$Person;II)Z"⟩
def dkwX1_goesNot_1 : List UInt8 := [180, 0, 47, 21, 4, 46, 182, 0, 254, 2, 159, 0, 5, 4, 172, 132, 4, 1, 167, 255, 217, 3, 172]
abbrev dktX1_goesNot_1 : List UInt8 := dkwX1_goesNot_1 ++ []
def dkwX1_goesNot_0 : List UInt8 := [3, 54, 4, 21, 4, 29, 162, 0, 39, 42, 180, 0, 47, 21, 4, 46, 2, 159, 0, 22, 42, 43, 28, 42]
abbrev dktX1_goesNot_0 : List UInt8 := dkwX1_goesNot_0 ++ dktX1_goesNot_1
theorem dksX1_goesNot_0 : cX1_goesNot.data.toList.drop 0 = dktX1_goesNot_0 := by decide +kernel
theorem dksX1_goesNot_1 : cX1_goesNot.data.toList.drop 24 = dktX1_goesNot_1 := dk_seg dksX1_goesNot_0 24 rfl rfl
theorem dX1_goesNot_0 : decode cX1_goesNot 0 = .ok (.iconst 0, 1) := dk_3 (dk_at dksX1_goesNot_0 0 rfl rfl)
theorem dX1_goesNot_1 : decode cX1_goesNot 1 = .ok (.istore 4, 2) := dk_54 4 (dk_at dksX1_goesNot_0 1 rfl rfl)
theorem dX1_goesNot_3 : decode cX1_goesNot 3 = .ok (.iload 4, 2) := dk_21 4 (dk_at dksX1_goesNot_0 3 rfl rfl)
theorem dX1_goesNot_5 : decode cX1_goesNot 5 = .ok (.iload_n 3, 1) := dk_29 (dk_at dksX1_goesNot_0 5 rfl rfl)
theorem dX1_goesNot_6 : decode cX1_goesNot 6 = .ok (.if_icmp .ge 39, 3) := dk_162 0 39 (dk_at dksX1_goesNot_0 6 rfl rfl)
theorem dX1_goesNot_9 : decode cX1_goesNot 9 = .ok (.aload_n 0, 1) := dk_42 (dk_at dksX1_goesNot_0 9 rfl rfl)
theorem dX1_goesNot_10 : decode cX1_goesNot 10 = .ok (.getfield 47, 3) := dk_180 0 47 (dk_at dksX1_goesNot_0 10 rfl rfl)
theorem dX1_goesNot_13 : decode cX1_goesNot 13 = .ok (.iload 4, 2) := dk_21 4 (dk_at dksX1_goesNot_0 13 rfl rfl)
theorem dX1_goesNot_15 : decode cX1_goesNot 15 = .ok (.iaload, 1) := dk_46 (dk_at dksX1_goesNot_0 15 rfl rfl)
theorem dX1_goesNot_16 : decode cX1_goesNot 16 = .ok (.iconst (-1), 1) := dk_2 (dk_at dksX1_goesNot_0 16 rfl rfl)
theorem dX1_goesNot_17 : decode cX1_goesNot 17 = .ok (.if_icmp .eq 22, 3) := dk_159 0 22 (dk_at dksX1_goesNot_0 17 rfl rfl)
theorem dX1_goesNot_20 : decode cX1_goesNot 20 = .ok (.aload_n 0, 1) := dk_42 (dk_at dksX1_goesNot_0 20 rfl rfl)
theorem dX1_goesNot_21 : decode cX1_goesNot 21 = .ok (.aload_n 1, 1) := dk_43 (dk_at dksX1_goesNot_0 21 rfl rfl)
theorem dX1_goesNot_22 : decode cX1_goesNot 22 = .ok (.iload_n 2, 1) := dk_28 (dk_at dksX1_goesNot_0 22 rfl rfl)
theorem dX1_goesNot_23 : decode cX1_goesNot 23 = .ok (.aload_n 0, 1) := dk_42 (dk_at dksX1_goesNot_0 23 rfl rfl)
theorem dX1_goesNot_24 : decode cX1_goesNot 24 = .ok (.getfield 47, 3) := dk_180 0 47 (dk_at dksX1_goesNot_1 0 rfl rfl)
theorem dX1_goesNot_27 : decode cX1_goesNot 27 = .ok (.iload 4, 2) := dk_21 4 (dk_at dksX1_goesNot_1 3 rfl rfl)
theorem dX1_goesNot_29 : decode cX1_goesNot 29 = .ok (.iaload, 1) := dk_46 (dk_at dksX1_goesNot_1 5 rfl rfl)
theorem dX1_goesNot_30 : decode cX1_goesNot 30 = .ok (.invokevirtual 254, 3) := dk_182 0 254 (dk_at dksX1_goesNot_1 6 rfl rfl)
theorem dX1_goesNot_33 : decode cX1_goesNot 33 = .ok (.iconst (-1), 1) := dk_2 (dk_at dksX1_goesNot_1 9 rfl rfl)
theorem dX1_goesNot_34 : decode cX1_goesNot 34 = .ok (.if_icmp .eq 5, 3) := dk_159 0 5 (dk_at dksX1_goesNot_1 10 rfl rfl)
theorem dX1_goesNot_37 : decode cX1_goesNot 37 = .ok (.iconst 1, 1) := dk_4 (dk_at dksX1_goesNot_1 13 rfl rfl)
theorem dX1_goesNot_38 : decode cX1_goesNot 38 = .ok (.ireturn, 1) := dk_172 (dk_at dksX1_goesNot_1 14 rfl rfl)
theorem dX1_goesNot_39 : decode cX1_goesNot 39 = .ok (.iinc 4 1, 3) := dk_132 4 1 (dk_at dksX1_goesNot_1 15 rfl rfl)
theorem dX1_goesNot_42 : decode cX1_goesNot 42 = .ok (.goto (-39), 3) := dk_167 255 217 (dk_at dksX1_goesNot_1 18 rfl rfl)
theorem dX1_goesNot_45 : decode cX1_goesNot 45 = .ok (.iconst 0, 1) := dk_3 (dk_at dksX1_goesNot_1 21 rfl rfl)
theorem dX1_goesNot_46 : decode cX1_goesNot 46 = .ok (.ireturn, 1) := dk_172 (dk_at dksX1_goesNot_1 22 rfl rfl)
abbrev cX1_choose : ByteArray := prog_1_method_54_code
def yX1_choose : MethodName := ⟨RX1, "choose", "(II)I"⟩
def dkwX1_choose_2 : List UInt8 := [180, 1, 104, 172]
abbrev dktX1_choose_2 : List UInt8 := dkwX1_choose_2 ++ []
def dkwX1_choose_1 : List UInt8 := [45, 182, 1, 124, 154, 0, 8, 16, 254, 167, 0, 18, 28, 154, 0, 10, 42, 180, 1, 101, 167, 0, 7, 42]
abbrev dktX1_choose_1 : List UInt8 := dkwX1_choose_1 ++ dktX1_choose_2
def dkwX1_choose_0 : List UInt8 := [42, 27, 182, 0, 162, 78, 28, 153, 0, 8, 28, 4, 160, 0, 7, 4, 167, 0, 4, 3, 184, 0, 105, 42]
abbrev dktX1_choose_0 : List UInt8 := dkwX1_choose_0 ++ dktX1_choose_1
theorem dksX1_choose_0 : cX1_choose.data.toList.drop 0 = dktX1_choose_0 := by decide +kernel
theorem dksX1_choose_1 : cX1_choose.data.toList.drop 24 = dktX1_choose_1 := dk_seg dksX1_choose_0 24 rfl rfl
theorem dksX1_choose_2 : cX1_choose.data.toList.drop 48 = dktX1_choose_2 := dk_seg dksX1_choose_1 24 rfl rfl
theorem dX1_choose_0 : decode cX1_choose 0 = .ok (.aload_n 0, 1) := dk_42 (dk_at dksX1_choose_0 0 rfl rfl)
theorem dX1_choose_1 : decode cX1_choose 1 = .ok (.iload_n 1, 1) := dk_27 (dk_at dksX1_choose_0 1 rfl rfl)
theorem dX1_choose_2 : decode cX1_choose 2 = .ok (.invokevirtual 162, 3) := dk_182 0 162 (dk_at dksX1_choose_0 2 rfl rfl)
theorem dX1_choose_5 : decode cX1_choose 5 = .ok (.astore_n 3, 1) := dk_78 (dk_at dksX1_choose_0 5 rfl rfl)
theorem dX1_choose_6 : decode cX1_choose 6 = .ok (.iload_n 2, 1) := dk_28 (dk_at dksX1_choose_0 6 rfl rfl)
theorem dX1_choose_7 : decode cX1_choose 7 = .ok (.ifCond .eq 8, 3) := dk_153 0 8 (dk_at dksX1_choose_0 7 rfl rfl)
theorem dX1_choose_10 : decode cX1_choose 10 = .ok (.iload_n 2, 1) := dk_28 (dk_at dksX1_choose_0 10 rfl rfl)
theorem dX1_choose_11 : decode cX1_choose 11 = .ok (.iconst 1, 1) := dk_4 (dk_at dksX1_choose_0 11 rfl rfl)
theorem dX1_choose_12 : decode cX1_choose 12 = .ok (.if_icmp .ne 7, 3) := dk_160 0 7 (dk_at dksX1_choose_0 12 rfl rfl)
theorem dX1_choose_15 : decode cX1_choose 15 = .ok (.iconst 1, 1) := dk_4 (dk_at dksX1_choose_0 15 rfl rfl)
theorem dX1_choose_16 : decode cX1_choose 16 = .ok (.goto 4, 3) := dk_167 0 4 (dk_at dksX1_choose_0 16 rfl rfl)
theorem dX1_choose_19 : decode cX1_choose 19 = .ok (.iconst 0, 1) := dk_3 (dk_at dksX1_choose_0 19 rfl rfl)
theorem dX1_choose_20 : decode cX1_choose 20 = .ok (.invokestatic 105, 3) := dk_184 0 105 (dk_at dksX1_choose_0 20 rfl rfl)
theorem dX1_choose_23 : decode cX1_choose 23 = .ok (.aload_n 0, 1) := dk_42 (dk_at dksX1_choose_0 23 rfl rfl)
theorem dX1_choose_24 : decode cX1_choose 24 = .ok (.aload_n 3, 1) := dk_45 (dk_at dksX1_choose_1 0 rfl rfl)
theorem dX1_choose_25 : decode cX1_choose 25 = .ok (.invokevirtual 380, 3) := dk_182 1 124 (dk_at dksX1_choose_1 1 rfl rfl)
theorem dX1_choose_28 : decode cX1_choose 28 = .ok (.ifCond .ne 8, 3) := dk_154 0 8 (dk_at dksX1_choose_1 4 rfl rfl)
theorem dX1_choose_31 : decode cX1_choose 31 = .ok (.bipush (-2), 2) := dk_16 254 (dk_at dksX1_choose_1 7 rfl rfl)
theorem dX1_choose_33 : decode cX1_choose 33 = .ok (.goto 18, 3) := dk_167 0 18 (dk_at dksX1_choose_1 9 rfl rfl)
theorem dX1_choose_36 : decode cX1_choose 36 = .ok (.iload_n 2, 1) := dk_28 (dk_at dksX1_choose_1 12 rfl rfl)
theorem dX1_choose_37 : decode cX1_choose 37 = .ok (.ifCond .ne 10, 3) := dk_154 0 10 (dk_at dksX1_choose_1 13 rfl rfl)
theorem dX1_choose_40 : decode cX1_choose 40 = .ok (.aload_n 0, 1) := dk_42 (dk_at dksX1_choose_1 16 rfl rfl)
theorem dX1_choose_41 : decode cX1_choose 41 = .ok (.getfield 357, 3) := dk_180 1 101 (dk_at dksX1_choose_1 17 rfl rfl)
theorem dX1_choose_44 : decode cX1_choose 44 = .ok (.goto 7, 3) := dk_167 0 7 (dk_at dksX1_choose_1 20 rfl rfl)
theorem dX1_choose_47 : decode cX1_choose 47 = .ok (.aload_n 0, 1) := dk_42 (dk_at dksX1_choose_1 23 rfl rfl)
theorem dX1_choose_48 : decode cX1_choose 48 = .ok (.getfield 360, 3) := dk_180 1 104 (dk_at dksX1_choose_2 0 rfl rfl)
theorem dX1_choose_51 : decode cX1_choose 51 = .ok (.ireturn, 1) := dk_172 (dk_at dksX1_choose_2 3 rfl rfl)
abbrev cX1_clause : ByteArray := prog_1_method_55_code
def yX1_clause : MethodName := ⟨RX1, "clause", "(II)I"⟩
def dkwX1_clause_5 : List UInt8 := [167, 255, 172, 21, 4, 172]
abbrev dktX1_clause_5 : List UInt8 := dkwX1_clause_5 ++ []
def dkwX1_clause_4 : List UInt8 := [159, 0, 10, 21, 7, 21, 4, 162, 0, 7, 21, 7, 54, 4, 132, 6, 1, 167, 255, 191, 132, 5, 1]
abbrev dktX1_clause_4 : List UInt8 := dkwX1_clause_4 ++ dktX1_clause_5
def dkwX1_clause_3 : List UInt8 := [167, 0, 37, 42, 45, 21, 5, 21, 6, 182, 0, 254, 54, 7, 21, 7, 2, 159, 0, 20, 21, 4, 2]
abbrev dktX1_clause_3 : List UInt8 := dkwX1_clause_3 ++ dktX1_clause_4
def dkwX1_clause_2 : List UInt8 := [16, 12, 162, 0, 64, 28, 21, 5, 122, 4, 126, 153, 0, 49, 28, 21, 6, 122, 4, 126, 154, 0, 6]
abbrev dktX1_clause_2 : List UInt8 := dkwX1_clause_2 ++ dktX1_clause_3
def dkwX1_clause_1 : List UInt8 := [184, 0, 105, 2, 54, 4, 3, 54, 5, 21, 5, 16, 12, 162, 0, 83, 21, 5, 4, 96, 54, 6, 21, 6]
abbrev dktX1_clause_1 : List UInt8 := dkwX1_clause_1 ++ dktX1_clause_2
def dkwX1_clause_0 : List UInt8 := [42, 27, 182, 0, 162, 78, 28, 155, 0, 14, 28, 17, 16, 0, 162, 0, 7, 4, 167, 0, 4, 3]
abbrev dktX1_clause_0 : List UInt8 := dkwX1_clause_0 ++ dktX1_clause_1
theorem dksX1_clause_0 : cX1_clause.data.toList.drop 0 = dktX1_clause_0 := by decide +kernel
theorem dksX1_clause_1 : cX1_clause.data.toList.drop 22 = dktX1_clause_1 := dk_seg dksX1_clause_0 22 rfl rfl
theorem dksX1_clause_2 : cX1_clause.data.toList.drop 46 = dktX1_clause_2 := dk_seg dksX1_clause_1 24 rfl rfl
theorem dksX1_clause_3 : cX1_clause.data.toList.drop 69 = dktX1_clause_3 := dk_seg dksX1_clause_2 23 rfl rfl
theorem dksX1_clause_4 : cX1_clause.data.toList.drop 92 = dktX1_clause_4 := dk_seg dksX1_clause_3 23 rfl rfl
theorem dksX1_clause_5 : cX1_clause.data.toList.drop 115 = dktX1_clause_5 := dk_seg dksX1_clause_4 23 rfl rfl
theorem dX1_clause_0 : decode cX1_clause 0 = .ok (.aload_n 0, 1) := dk_42 (dk_at dksX1_clause_0 0 rfl rfl)
theorem dX1_clause_1 : decode cX1_clause 1 = .ok (.iload_n 1, 1) := dk_27 (dk_at dksX1_clause_0 1 rfl rfl)
theorem dX1_clause_2 : decode cX1_clause 2 = .ok (.invokevirtual 162, 3) := dk_182 0 162 (dk_at dksX1_clause_0 2 rfl rfl)
theorem dX1_clause_5 : decode cX1_clause 5 = .ok (.astore_n 3, 1) := dk_78 (dk_at dksX1_clause_0 5 rfl rfl)
theorem dX1_clause_6 : decode cX1_clause 6 = .ok (.iload_n 2, 1) := dk_28 (dk_at dksX1_clause_0 6 rfl rfl)
theorem dX1_clause_7 : decode cX1_clause 7 = .ok (.ifCond .lt 14, 3) := dk_155 0 14 (dk_at dksX1_clause_0 7 rfl rfl)
theorem dX1_clause_10 : decode cX1_clause 10 = .ok (.iload_n 2, 1) := dk_28 (dk_at dksX1_clause_0 10 rfl rfl)
theorem dX1_clause_11 : decode cX1_clause 11 = .ok (.sipush 4096, 3) := dk_17 16 0 (dk_at dksX1_clause_0 11 rfl rfl)
theorem dX1_clause_14 : decode cX1_clause 14 = .ok (.if_icmp .ge 7, 3) := dk_162 0 7 (dk_at dksX1_clause_0 14 rfl rfl)
theorem dX1_clause_17 : decode cX1_clause 17 = .ok (.iconst 1, 1) := dk_4 (dk_at dksX1_clause_0 17 rfl rfl)
theorem dX1_clause_18 : decode cX1_clause 18 = .ok (.goto 4, 3) := dk_167 0 4 (dk_at dksX1_clause_0 18 rfl rfl)
theorem dX1_clause_21 : decode cX1_clause 21 = .ok (.iconst 0, 1) := dk_3 (dk_at dksX1_clause_0 21 rfl rfl)
theorem dX1_clause_22 : decode cX1_clause 22 = .ok (.invokestatic 105, 3) := dk_184 0 105 (dk_at dksX1_clause_1 0 rfl rfl)
theorem dX1_clause_25 : decode cX1_clause 25 = .ok (.iconst (-1), 1) := dk_2 (dk_at dksX1_clause_1 3 rfl rfl)
theorem dX1_clause_26 : decode cX1_clause 26 = .ok (.istore 4, 2) := dk_54 4 (dk_at dksX1_clause_1 4 rfl rfl)
theorem dX1_clause_28 : decode cX1_clause 28 = .ok (.iconst 0, 1) := dk_3 (dk_at dksX1_clause_1 6 rfl rfl)
theorem dX1_clause_29 : decode cX1_clause 29 = .ok (.istore 5, 2) := dk_54 5 (dk_at dksX1_clause_1 7 rfl rfl)
theorem dX1_clause_31 : decode cX1_clause 31 = .ok (.iload 5, 2) := dk_21 5 (dk_at dksX1_clause_1 9 rfl rfl)
theorem dX1_clause_33 : decode cX1_clause 33 = .ok (.bipush 12, 2) := dk_16 12 (dk_at dksX1_clause_1 11 rfl rfl)
theorem dX1_clause_35 : decode cX1_clause 35 = .ok (.if_icmp .ge 83, 3) := dk_162 0 83 (dk_at dksX1_clause_1 13 rfl rfl)
theorem dX1_clause_38 : decode cX1_clause 38 = .ok (.iload 5, 2) := dk_21 5 (dk_at dksX1_clause_1 16 rfl rfl)
theorem dX1_clause_40 : decode cX1_clause 40 = .ok (.iconst 1, 1) := dk_4 (dk_at dksX1_clause_1 18 rfl rfl)
theorem dX1_clause_41 : decode cX1_clause 41 = .ok (.iadd, 1) := dk_96 (dk_at dksX1_clause_1 19 rfl rfl)
theorem dX1_clause_42 : decode cX1_clause 42 = .ok (.istore 6, 2) := dk_54 6 (dk_at dksX1_clause_1 20 rfl rfl)
theorem dX1_clause_44 : decode cX1_clause 44 = .ok (.iload 6, 2) := dk_21 6 (dk_at dksX1_clause_1 22 rfl rfl)
theorem dX1_clause_46 : decode cX1_clause 46 = .ok (.bipush 12, 2) := dk_16 12 (dk_at dksX1_clause_2 0 rfl rfl)
theorem dX1_clause_48 : decode cX1_clause 48 = .ok (.if_icmp .ge 64, 3) := dk_162 0 64 (dk_at dksX1_clause_2 2 rfl rfl)
theorem dX1_clause_51 : decode cX1_clause 51 = .ok (.iload_n 2, 1) := dk_28 (dk_at dksX1_clause_2 5 rfl rfl)
theorem dX1_clause_52 : decode cX1_clause 52 = .ok (.iload 5, 2) := dk_21 5 (dk_at dksX1_clause_2 6 rfl rfl)
theorem dX1_clause_54 : decode cX1_clause 54 = .ok (.ishr, 1) := dk_122 (dk_at dksX1_clause_2 8 rfl rfl)
theorem dX1_clause_55 : decode cX1_clause 55 = .ok (.iconst 1, 1) := dk_4 (dk_at dksX1_clause_2 9 rfl rfl)
theorem dX1_clause_56 : decode cX1_clause 56 = .ok (.iand, 1) := dk_126 (dk_at dksX1_clause_2 10 rfl rfl)
theorem dX1_clause_57 : decode cX1_clause 57 = .ok (.ifCond .eq 49, 3) := dk_153 0 49 (dk_at dksX1_clause_2 11 rfl rfl)
theorem dX1_clause_60 : decode cX1_clause 60 = .ok (.iload_n 2, 1) := dk_28 (dk_at dksX1_clause_2 14 rfl rfl)
theorem dX1_clause_61 : decode cX1_clause 61 = .ok (.iload 6, 2) := dk_21 6 (dk_at dksX1_clause_2 15 rfl rfl)
theorem dX1_clause_63 : decode cX1_clause 63 = .ok (.ishr, 1) := dk_122 (dk_at dksX1_clause_2 17 rfl rfl)
theorem dX1_clause_64 : decode cX1_clause 64 = .ok (.iconst 1, 1) := dk_4 (dk_at dksX1_clause_2 18 rfl rfl)
theorem dX1_clause_65 : decode cX1_clause 65 = .ok (.iand, 1) := dk_126 (dk_at dksX1_clause_2 19 rfl rfl)
theorem dX1_clause_66 : decode cX1_clause 66 = .ok (.ifCond .ne 6, 3) := dk_154 0 6 (dk_at dksX1_clause_2 20 rfl rfl)
theorem dX1_clause_69 : decode cX1_clause 69 = .ok (.goto 37, 3) := dk_167 0 37 (dk_at dksX1_clause_3 0 rfl rfl)
theorem dX1_clause_72 : decode cX1_clause 72 = .ok (.aload_n 0, 1) := dk_42 (dk_at dksX1_clause_3 3 rfl rfl)
theorem dX1_clause_73 : decode cX1_clause 73 = .ok (.aload_n 3, 1) := dk_45 (dk_at dksX1_clause_3 4 rfl rfl)
theorem dX1_clause_74 : decode cX1_clause 74 = .ok (.iload 5, 2) := dk_21 5 (dk_at dksX1_clause_3 5 rfl rfl)
theorem dX1_clause_76 : decode cX1_clause 76 = .ok (.iload 6, 2) := dk_21 6 (dk_at dksX1_clause_3 7 rfl rfl)
theorem dX1_clause_78 : decode cX1_clause 78 = .ok (.invokevirtual 254, 3) := dk_182 0 254 (dk_at dksX1_clause_3 9 rfl rfl)
theorem dX1_clause_81 : decode cX1_clause 81 = .ok (.istore 7, 2) := dk_54 7 (dk_at dksX1_clause_3 12 rfl rfl)
theorem dX1_clause_83 : decode cX1_clause 83 = .ok (.iload 7, 2) := dk_21 7 (dk_at dksX1_clause_3 14 rfl rfl)
theorem dX1_clause_85 : decode cX1_clause 85 = .ok (.iconst (-1), 1) := dk_2 (dk_at dksX1_clause_3 16 rfl rfl)
theorem dX1_clause_86 : decode cX1_clause 86 = .ok (.if_icmp .eq 20, 3) := dk_159 0 20 (dk_at dksX1_clause_3 17 rfl rfl)
theorem dX1_clause_89 : decode cX1_clause 89 = .ok (.iload 4, 2) := dk_21 4 (dk_at dksX1_clause_3 20 rfl rfl)
theorem dX1_clause_91 : decode cX1_clause 91 = .ok (.iconst (-1), 1) := dk_2 (dk_at dksX1_clause_3 22 rfl rfl)
theorem dX1_clause_92 : decode cX1_clause 92 = .ok (.if_icmp .eq 10, 3) := dk_159 0 10 (dk_at dksX1_clause_4 0 rfl rfl)
theorem dX1_clause_95 : decode cX1_clause 95 = .ok (.iload 7, 2) := dk_21 7 (dk_at dksX1_clause_4 3 rfl rfl)
theorem dX1_clause_97 : decode cX1_clause 97 = .ok (.iload 4, 2) := dk_21 4 (dk_at dksX1_clause_4 5 rfl rfl)
theorem dX1_clause_99 : decode cX1_clause 99 = .ok (.if_icmp .ge 7, 3) := dk_162 0 7 (dk_at dksX1_clause_4 7 rfl rfl)
theorem dX1_clause_102 : decode cX1_clause 102 = .ok (.iload 7, 2) := dk_21 7 (dk_at dksX1_clause_4 10 rfl rfl)
theorem dX1_clause_104 : decode cX1_clause 104 = .ok (.istore 4, 2) := dk_54 4 (dk_at dksX1_clause_4 12 rfl rfl)
theorem dX1_clause_106 : decode cX1_clause 106 = .ok (.iinc 6 1, 3) := dk_132 6 1 (dk_at dksX1_clause_4 14 rfl rfl)
theorem dX1_clause_109 : decode cX1_clause 109 = .ok (.goto (-65), 3) := dk_167 255 191 (dk_at dksX1_clause_4 17 rfl rfl)
theorem dX1_clause_112 : decode cX1_clause 112 = .ok (.iinc 5 1, 3) := dk_132 5 1 (dk_at dksX1_clause_4 20 rfl rfl)
theorem dX1_clause_115 : decode cX1_clause 115 = .ok (.goto (-84), 3) := dk_167 255 172 (dk_at dksX1_clause_5 0 rfl rfl)
theorem dX1_clause_118 : decode cX1_clause 118 = .ok (.iload 4, 2) := dk_21 4 (dk_at dksX1_clause_5 3 rfl rfl)
theorem dX1_clause_120 : decode cX1_clause 120 = .ok (.ireturn, 1) := dk_172 (dk_at dksX1_clause_5 5 rfl rfl)
abbrev cX1_job : ByteArray := prog_1_method_56_code
def yX1_job : MethodName := ⟨RX1, "job", "(IIII)I"⟩
def dkwX1_job_4 : List UInt8 := [182, 0, 74, 4, 100, 172]
abbrev dktX1_job_4 : List UInt8 := dkwX1_job_4 ++ []
def dkwX1_job_3 : List UInt8 := [187, 1, 131, 89, 27, 28, 29, 21, 4, 183, 1, 133, 182, 0, 123, 87, 42, 180, 0, 10, 180, 1, 128]
abbrev dktX1_job_3 : List UInt8 := dkwX1_job_3 ++ dktX1_job_4
def dkwX1_job_2 : List UInt8 := [42, 180, 0, 10, 180, 1, 128, 182, 0, 74, 16, 7, 160, 0, 5, 2, 172, 42, 180, 0, 10, 180, 1, 128]
abbrev dktX1_job_2 : List UInt8 := dkwX1_job_2 ++ dktX1_job_3
def dkwX1_job_1 : List UInt8 := [163, 0, 20, 21, 4, 155, 0, 15, 21, 4, 17, 3, 231, 163, 0, 7, 4, 167, 0, 4, 3, 184, 0, 105]
abbrev dktX1_job_1 : List UInt8 := dkwX1_job_1 ++ dktX1_job_2
def dkwX1_job_0 : List UInt8 := [42, 27, 182, 0, 162, 87, 28, 4, 161, 0, 36, 28, 16, 99, 163, 0, 30, 29, 155, 0, 26, 29, 16, 99]
abbrev dktX1_job_0 : List UInt8 := dkwX1_job_0 ++ dktX1_job_1
theorem dksX1_job_0 : cX1_job.data.toList.drop 0 = dktX1_job_0 := by decide +kernel
theorem dksX1_job_1 : cX1_job.data.toList.drop 24 = dktX1_job_1 := dk_seg dksX1_job_0 24 rfl rfl
theorem dksX1_job_2 : cX1_job.data.toList.drop 48 = dktX1_job_2 := dk_seg dksX1_job_1 24 rfl rfl
theorem dksX1_job_3 : cX1_job.data.toList.drop 72 = dktX1_job_3 := dk_seg dksX1_job_2 24 rfl rfl
theorem dksX1_job_4 : cX1_job.data.toList.drop 95 = dktX1_job_4 := dk_seg dksX1_job_3 23 rfl rfl
theorem dX1_job_0 : decode cX1_job 0 = .ok (.aload_n 0, 1) := dk_42 (dk_at dksX1_job_0 0 rfl rfl)
theorem dX1_job_1 : decode cX1_job 1 = .ok (.iload_n 1, 1) := dk_27 (dk_at dksX1_job_0 1 rfl rfl)
theorem dX1_job_2 : decode cX1_job 2 = .ok (.invokevirtual 162, 3) := dk_182 0 162 (dk_at dksX1_job_0 2 rfl rfl)
theorem dX1_job_5 : decode cX1_job 5 = .ok (.pop, 1) := dk_87 (dk_at dksX1_job_0 5 rfl rfl)
theorem dX1_job_6 : decode cX1_job 6 = .ok (.iload_n 2, 1) := dk_28 (dk_at dksX1_job_0 6 rfl rfl)
theorem dX1_job_7 : decode cX1_job 7 = .ok (.iconst 1, 1) := dk_4 (dk_at dksX1_job_0 7 rfl rfl)
theorem dX1_job_8 : decode cX1_job 8 = .ok (.if_icmp .lt 36, 3) := dk_161 0 36 (dk_at dksX1_job_0 8 rfl rfl)
theorem dX1_job_11 : decode cX1_job 11 = .ok (.iload_n 2, 1) := dk_28 (dk_at dksX1_job_0 11 rfl rfl)
theorem dX1_job_12 : decode cX1_job 12 = .ok (.bipush 99, 2) := dk_16 99 (dk_at dksX1_job_0 12 rfl rfl)
theorem dX1_job_14 : decode cX1_job 14 = .ok (.if_icmp .gt 30, 3) := dk_163 0 30 (dk_at dksX1_job_0 14 rfl rfl)
theorem dX1_job_17 : decode cX1_job 17 = .ok (.iload_n 3, 1) := dk_29 (dk_at dksX1_job_0 17 rfl rfl)
theorem dX1_job_18 : decode cX1_job 18 = .ok (.ifCond .lt 26, 3) := dk_155 0 26 (dk_at dksX1_job_0 18 rfl rfl)
theorem dX1_job_21 : decode cX1_job 21 = .ok (.iload_n 3, 1) := dk_29 (dk_at dksX1_job_0 21 rfl rfl)
theorem dX1_job_22 : decode cX1_job 22 = .ok (.bipush 99, 2) := dk_16 99 (dk_at dksX1_job_0 22 rfl rfl)
theorem dX1_job_24 : decode cX1_job 24 = .ok (.if_icmp .gt 20, 3) := dk_163 0 20 (dk_at dksX1_job_1 0 rfl rfl)
theorem dX1_job_27 : decode cX1_job 27 = .ok (.iload 4, 2) := dk_21 4 (dk_at dksX1_job_1 3 rfl rfl)
theorem dX1_job_29 : decode cX1_job 29 = .ok (.ifCond .lt 15, 3) := dk_155 0 15 (dk_at dksX1_job_1 5 rfl rfl)
theorem dX1_job_32 : decode cX1_job 32 = .ok (.iload 4, 2) := dk_21 4 (dk_at dksX1_job_1 8 rfl rfl)
theorem dX1_job_34 : decode cX1_job 34 = .ok (.sipush 999, 3) := dk_17 3 231 (dk_at dksX1_job_1 10 rfl rfl)
theorem dX1_job_37 : decode cX1_job 37 = .ok (.if_icmp .gt 7, 3) := dk_163 0 7 (dk_at dksX1_job_1 13 rfl rfl)
theorem dX1_job_40 : decode cX1_job 40 = .ok (.iconst 1, 1) := dk_4 (dk_at dksX1_job_1 16 rfl rfl)
theorem dX1_job_41 : decode cX1_job 41 = .ok (.goto 4, 3) := dk_167 0 4 (dk_at dksX1_job_1 17 rfl rfl)
theorem dX1_job_44 : decode cX1_job 44 = .ok (.iconst 0, 1) := dk_3 (dk_at dksX1_job_1 20 rfl rfl)
theorem dX1_job_45 : decode cX1_job 45 = .ok (.invokestatic 105, 3) := dk_184 0 105 (dk_at dksX1_job_1 21 rfl rfl)
theorem dX1_job_48 : decode cX1_job 48 = .ok (.aload_n 0, 1) := dk_42 (dk_at dksX1_job_2 0 rfl rfl)
theorem dX1_job_49 : decode cX1_job 49 = .ok (.getfield 10, 3) := dk_180 0 10 (dk_at dksX1_job_2 1 rfl rfl)
theorem dX1_job_52 : decode cX1_job 52 = .ok (.getfield 384, 3) := dk_180 1 128 (dk_at dksX1_job_2 4 rfl rfl)
theorem dX1_job_55 : decode cX1_job 55 = .ok (.invokevirtual 74, 3) := dk_182 0 74 (dk_at dksX1_job_2 7 rfl rfl)
theorem dX1_job_58 : decode cX1_job 58 = .ok (.bipush 7, 2) := dk_16 7 (dk_at dksX1_job_2 10 rfl rfl)
theorem dX1_job_60 : decode cX1_job 60 = .ok (.if_icmp .ne 5, 3) := dk_160 0 5 (dk_at dksX1_job_2 12 rfl rfl)
theorem dX1_job_63 : decode cX1_job 63 = .ok (.iconst (-1), 1) := dk_2 (dk_at dksX1_job_2 15 rfl rfl)
theorem dX1_job_64 : decode cX1_job 64 = .ok (.ireturn, 1) := dk_172 (dk_at dksX1_job_2 16 rfl rfl)
theorem dX1_job_65 : decode cX1_job 65 = .ok (.aload_n 0, 1) := dk_42 (dk_at dksX1_job_2 17 rfl rfl)
theorem dX1_job_66 : decode cX1_job 66 = .ok (.getfield 10, 3) := dk_180 0 10 (dk_at dksX1_job_2 18 rfl rfl)
theorem dX1_job_69 : decode cX1_job 69 = .ok (.getfield 384, 3) := dk_180 1 128 (dk_at dksX1_job_2 21 rfl rfl)
theorem dX1_job_72 : decode cX1_job 72 = .ok (.new 387, 3) := dk_187 1 131 (dk_at dksX1_job_3 0 rfl rfl)
theorem dX1_job_75 : decode cX1_job 75 = .ok (.dup, 1) := dk_89 (dk_at dksX1_job_3 3 rfl rfl)
theorem dX1_job_76 : decode cX1_job 76 = .ok (.iload_n 1, 1) := dk_27 (dk_at dksX1_job_3 4 rfl rfl)
theorem dX1_job_77 : decode cX1_job 77 = .ok (.iload_n 2, 1) := dk_28 (dk_at dksX1_job_3 5 rfl rfl)
theorem dX1_job_78 : decode cX1_job 78 = .ok (.iload_n 3, 1) := dk_29 (dk_at dksX1_job_3 6 rfl rfl)
theorem dX1_job_79 : decode cX1_job 79 = .ok (.iload 4, 2) := dk_21 4 (dk_at dksX1_job_3 7 rfl rfl)
theorem dX1_job_81 : decode cX1_job 81 = .ok (.invokespecial 389, 3) := dk_183 1 133 (dk_at dksX1_job_3 9 rfl rfl)
theorem dX1_job_84 : decode cX1_job 84 = .ok (.invokevirtual 123, 3) := dk_182 0 123 (dk_at dksX1_job_3 12 rfl rfl)
theorem dX1_job_87 : decode cX1_job 87 = .ok (.pop, 1) := dk_87 (dk_at dksX1_job_3 15 rfl rfl)
theorem dX1_job_88 : decode cX1_job 88 = .ok (.aload_n 0, 1) := dk_42 (dk_at dksX1_job_3 16 rfl rfl)
theorem dX1_job_89 : decode cX1_job 89 = .ok (.getfield 10, 3) := dk_180 0 10 (dk_at dksX1_job_3 17 rfl rfl)
theorem dX1_job_92 : decode cX1_job 92 = .ok (.getfield 384, 3) := dk_180 1 128 (dk_at dksX1_job_3 20 rfl rfl)
theorem dX1_job_95 : decode cX1_job 95 = .ok (.invokevirtual 74, 3) := dk_182 0 74 (dk_at dksX1_job_4 0 rfl rfl)
theorem dX1_job_98 : decode cX1_job 98 = .ok (.iconst 1, 1) := dk_4 (dk_at dksX1_job_4 3 rfl rfl)
theorem dX1_job_99 : decode cX1_job 99 = .ok (.isub, 1) := dk_100 (dk_at dksX1_job_4 4 rfl rfl)
theorem dX1_job_100 : decode cX1_job 100 = .ok (.ireturn, 1) := dk_172 (dk_at dksX1_job_4 5 rfl rfl)
abbrev cX1_benches : ByteArray := prog_1_method_61_code
def yX1_benches : MethodName := ⟨RX1, "benches", "(I)I"⟩
def dkwX1_benches_1 : List UInt8 := [180, 1, 159, 61, 42, 180, 0, 10, 27, 181, 1, 159, 28, 172]
abbrev dktX1_benches_1 : List UInt8 := dkwX1_benches_1 ++ []
def dkwX1_benches_0 : List UInt8 := [27, 4, 159, 0, 8, 27, 5, 160, 0, 7, 4, 167, 0, 4, 3, 184, 0, 105, 42, 180, 0, 10]
abbrev dktX1_benches_0 : List UInt8 := dkwX1_benches_0 ++ dktX1_benches_1
theorem dksX1_benches_0 : cX1_benches.data.toList.drop 0 = dktX1_benches_0 := by decide +kernel
theorem dksX1_benches_1 : cX1_benches.data.toList.drop 22 = dktX1_benches_1 := dk_seg dksX1_benches_0 22 rfl rfl
theorem dX1_benches_0 : decode cX1_benches 0 = .ok (.iload_n 1, 1) := dk_27 (dk_at dksX1_benches_0 0 rfl rfl)
theorem dX1_benches_1 : decode cX1_benches 1 = .ok (.iconst 1, 1) := dk_4 (dk_at dksX1_benches_0 1 rfl rfl)
theorem dX1_benches_2 : decode cX1_benches 2 = .ok (.if_icmp .eq 8, 3) := dk_159 0 8 (dk_at dksX1_benches_0 2 rfl rfl)
theorem dX1_benches_5 : decode cX1_benches 5 = .ok (.iload_n 1, 1) := dk_27 (dk_at dksX1_benches_0 5 rfl rfl)
theorem dX1_benches_6 : decode cX1_benches 6 = .ok (.iconst 2, 1) := dk_5 (dk_at dksX1_benches_0 6 rfl rfl)
theorem dX1_benches_7 : decode cX1_benches 7 = .ok (.if_icmp .ne 7, 3) := dk_160 0 7 (dk_at dksX1_benches_0 7 rfl rfl)
theorem dX1_benches_10 : decode cX1_benches 10 = .ok (.iconst 1, 1) := dk_4 (dk_at dksX1_benches_0 10 rfl rfl)
theorem dX1_benches_11 : decode cX1_benches 11 = .ok (.goto 4, 3) := dk_167 0 4 (dk_at dksX1_benches_0 11 rfl rfl)
theorem dX1_benches_14 : decode cX1_benches 14 = .ok (.iconst 0, 1) := dk_3 (dk_at dksX1_benches_0 14 rfl rfl)
theorem dX1_benches_15 : decode cX1_benches 15 = .ok (.invokestatic 105, 3) := dk_184 0 105 (dk_at dksX1_benches_0 15 rfl rfl)
theorem dX1_benches_18 : decode cX1_benches 18 = .ok (.aload_n 0, 1) := dk_42 (dk_at dksX1_benches_0 18 rfl rfl)
theorem dX1_benches_19 : decode cX1_benches 19 = .ok (.getfield 10, 3) := dk_180 0 10 (dk_at dksX1_benches_0 19 rfl rfl)
theorem dX1_benches_22 : decode cX1_benches 22 = .ok (.getfield 415, 3) := dk_180 1 159 (dk_at dksX1_benches_1 0 rfl rfl)
theorem dX1_benches_25 : decode cX1_benches 25 = .ok (.istore_n 2, 1) := dk_61 (dk_at dksX1_benches_1 3 rfl rfl)
theorem dX1_benches_26 : decode cX1_benches 26 = .ok (.aload_n 0, 1) := dk_42 (dk_at dksX1_benches_1 4 rfl rfl)
theorem dX1_benches_27 : decode cX1_benches 27 = .ok (.getfield 10, 3) := dk_180 0 10 (dk_at dksX1_benches_1 5 rfl rfl)
theorem dX1_benches_30 : decode cX1_benches 30 = .ok (.iload_n 1, 1) := dk_27 (dk_at dksX1_benches_1 8 rfl rfl)
theorem dX1_benches_31 : decode cX1_benches 31 = .ok (.putfield 415, 3) := dk_181 1 159 (dk_at dksX1_benches_1 9 rfl rfl)
theorem dX1_benches_34 : decode cX1_benches 34 = .ok (.iload_n 2, 1) := dk_28 (dk_at dksX1_benches_1 12 rfl rfl)
theorem dX1_benches_35 : decode cX1_benches 35 = .ok (.ireturn, 1) := dk_172 (dk_at dksX1_benches_1 13 rfl rfl)
abbrev cX1_cost : ByteArray := prog_1_method_62_code
def yX1_cost : MethodName := ⟨RX1, "cost", "(I)I"⟩
def dkwX1_cost_7 : List UInt8 := [21, 6, 172]
abbrev dktX1_cost_7 : List UInt8 := dkwX1_cost_7 ++ []
def dkwX1_cost_6 : List UInt8 := [192, 1, 131, 180, 1, 149, 42, 45, 21, 7, 182, 1, 165, 104, 96, 54, 6, 132, 7, 1, 167, 255, 214]
abbrev dktX1_cost_6 : List UInt8 := dkwX1_cost_6 ++ dktX1_cost_7
def dkwX1_cost_5 : List UInt8 := [54, 7, 21, 7, 28, 162, 0, 42, 21, 6, 42, 180, 0, 10, 180, 1, 128, 45, 21, 7, 46, 182, 0, 81]
abbrev dktX1_cost_5 : List UInt8 := dkwX1_cost_5 ++ dktX1_cost_6
def dkwX1_cost_4 : List UInt8 := [132, 6, 255, 167, 255, 186, 21, 4, 154, 0, 7, 4, 167, 0, 4, 3, 184, 0, 105, 3, 54, 6, 3]
abbrev dktX1_cost_4 : List UInt8 := dkwX1_cost_4 ++ dktX1_cost_5
def dkwX1_cost_3 : List UInt8 := [154, 0, 7, 4, 167, 0, 4, 3, 184, 0, 105, 21, 5, 4, 45, 21, 6, 46, 120, 128, 54, 5]
abbrev dktX1_cost_3 : List UInt8 := dkwX1_cost_3 ++ dktX1_cost_4
def dkwX1_cost_2 : List UInt8 := [45, 21, 6, 46, 155, 0, 27, 45, 21, 6, 46, 28, 162, 0, 19, 21, 5, 45, 21, 6, 46, 122, 4, 126]
abbrev dktX1_cost_2 : List UInt8 := dkwX1_cost_2 ++ dktX1_cost_3
def dkwX1_cost_1 : List UInt8 := [100, 54, 6, 21, 6, 155, 0, 71, 45, 21, 6, 21, 4, 16, 7, 112, 79, 21, 4, 16, 7, 108, 54, 4]
abbrev dktX1_cost_1 : List UInt8 := dkwX1_cost_1 ++ dktX1_cost_2
def dkwX1_cost_0 : List UInt8 := [42, 180, 0, 10, 180, 1, 128, 182, 0, 74, 61, 16, 7, 188, 10, 78, 27, 54, 4, 3, 54, 5, 28, 4]
abbrev dktX1_cost_0 : List UInt8 := dkwX1_cost_0 ++ dktX1_cost_1
theorem dksX1_cost_0 : cX1_cost.data.toList.drop 0 = dktX1_cost_0 := by decide +kernel
theorem dksX1_cost_1 : cX1_cost.data.toList.drop 24 = dktX1_cost_1 := dk_seg dksX1_cost_0 24 rfl rfl
theorem dksX1_cost_2 : cX1_cost.data.toList.drop 48 = dktX1_cost_2 := dk_seg dksX1_cost_1 24 rfl rfl
theorem dksX1_cost_3 : cX1_cost.data.toList.drop 72 = dktX1_cost_3 := dk_seg dksX1_cost_2 24 rfl rfl
theorem dksX1_cost_4 : cX1_cost.data.toList.drop 94 = dktX1_cost_4 := dk_seg dksX1_cost_3 22 rfl rfl
theorem dksX1_cost_5 : cX1_cost.data.toList.drop 117 = dktX1_cost_5 := dk_seg dksX1_cost_4 23 rfl rfl
theorem dksX1_cost_6 : cX1_cost.data.toList.drop 141 = dktX1_cost_6 := dk_seg dksX1_cost_5 24 rfl rfl
theorem dksX1_cost_7 : cX1_cost.data.toList.drop 164 = dktX1_cost_7 := dk_seg dksX1_cost_6 23 rfl rfl
theorem dX1_cost_0 : decode cX1_cost 0 = .ok (.aload_n 0, 1) := dk_42 (dk_at dksX1_cost_0 0 rfl rfl)
theorem dX1_cost_1 : decode cX1_cost 1 = .ok (.getfield 10, 3) := dk_180 0 10 (dk_at dksX1_cost_0 1 rfl rfl)
theorem dX1_cost_4 : decode cX1_cost 4 = .ok (.getfield 384, 3) := dk_180 1 128 (dk_at dksX1_cost_0 4 rfl rfl)
theorem dX1_cost_7 : decode cX1_cost 7 = .ok (.invokevirtual 74, 3) := dk_182 0 74 (dk_at dksX1_cost_0 7 rfl rfl)
theorem dX1_cost_10 : decode cX1_cost 10 = .ok (.istore_n 2, 1) := dk_61 (dk_at dksX1_cost_0 10 rfl rfl)
theorem dX1_cost_11 : decode cX1_cost 11 = .ok (.bipush 7, 2) := dk_16 7 (dk_at dksX1_cost_0 11 rfl rfl)
theorem dX1_cost_13 : decode cX1_cost 13 = .ok (.newarray .int, 2) := dk_188_10 (dk_at dksX1_cost_0 13 rfl rfl)
theorem dX1_cost_15 : decode cX1_cost 15 = .ok (.astore_n 3, 1) := dk_78 (dk_at dksX1_cost_0 15 rfl rfl)
theorem dX1_cost_16 : decode cX1_cost 16 = .ok (.iload_n 1, 1) := dk_27 (dk_at dksX1_cost_0 16 rfl rfl)
theorem dX1_cost_17 : decode cX1_cost 17 = .ok (.istore 4, 2) := dk_54 4 (dk_at dksX1_cost_0 17 rfl rfl)
theorem dX1_cost_19 : decode cX1_cost 19 = .ok (.iconst 0, 1) := dk_3 (dk_at dksX1_cost_0 19 rfl rfl)
theorem dX1_cost_20 : decode cX1_cost 20 = .ok (.istore 5, 2) := dk_54 5 (dk_at dksX1_cost_0 20 rfl rfl)
theorem dX1_cost_22 : decode cX1_cost 22 = .ok (.iload_n 2, 1) := dk_28 (dk_at dksX1_cost_0 22 rfl rfl)
theorem dX1_cost_23 : decode cX1_cost 23 = .ok (.iconst 1, 1) := dk_4 (dk_at dksX1_cost_0 23 rfl rfl)
theorem dX1_cost_24 : decode cX1_cost 24 = .ok (.isub, 1) := dk_100 (dk_at dksX1_cost_1 0 rfl rfl)
theorem dX1_cost_25 : decode cX1_cost 25 = .ok (.istore 6, 2) := dk_54 6 (dk_at dksX1_cost_1 1 rfl rfl)
theorem dX1_cost_27 : decode cX1_cost 27 = .ok (.iload 6, 2) := dk_21 6 (dk_at dksX1_cost_1 3 rfl rfl)
theorem dX1_cost_29 : decode cX1_cost 29 = .ok (.ifCond .lt 71, 3) := dk_155 0 71 (dk_at dksX1_cost_1 5 rfl rfl)
theorem dX1_cost_32 : decode cX1_cost 32 = .ok (.aload_n 3, 1) := dk_45 (dk_at dksX1_cost_1 8 rfl rfl)
theorem dX1_cost_33 : decode cX1_cost 33 = .ok (.iload 6, 2) := dk_21 6 (dk_at dksX1_cost_1 9 rfl rfl)
theorem dX1_cost_35 : decode cX1_cost 35 = .ok (.iload 4, 2) := dk_21 4 (dk_at dksX1_cost_1 11 rfl rfl)
theorem dX1_cost_37 : decode cX1_cost 37 = .ok (.bipush 7, 2) := dk_16 7 (dk_at dksX1_cost_1 13 rfl rfl)
theorem dX1_cost_39 : decode cX1_cost 39 = .ok (.irem, 1) := dk_112 (dk_at dksX1_cost_1 15 rfl rfl)
theorem dX1_cost_40 : decode cX1_cost 40 = .ok (.iastore, 1) := dk_79 (dk_at dksX1_cost_1 16 rfl rfl)
theorem dX1_cost_41 : decode cX1_cost 41 = .ok (.iload 4, 2) := dk_21 4 (dk_at dksX1_cost_1 17 rfl rfl)
theorem dX1_cost_43 : decode cX1_cost 43 = .ok (.bipush 7, 2) := dk_16 7 (dk_at dksX1_cost_1 19 rfl rfl)
theorem dX1_cost_45 : decode cX1_cost 45 = .ok (.idiv, 1) := dk_108 (dk_at dksX1_cost_1 21 rfl rfl)
theorem dX1_cost_46 : decode cX1_cost 46 = .ok (.istore 4, 2) := dk_54 4 (dk_at dksX1_cost_1 22 rfl rfl)
theorem dX1_cost_48 : decode cX1_cost 48 = .ok (.aload_n 3, 1) := dk_45 (dk_at dksX1_cost_2 0 rfl rfl)
theorem dX1_cost_49 : decode cX1_cost 49 = .ok (.iload 6, 2) := dk_21 6 (dk_at dksX1_cost_2 1 rfl rfl)
theorem dX1_cost_51 : decode cX1_cost 51 = .ok (.iaload, 1) := dk_46 (dk_at dksX1_cost_2 3 rfl rfl)
theorem dX1_cost_52 : decode cX1_cost 52 = .ok (.ifCond .lt 27, 3) := dk_155 0 27 (dk_at dksX1_cost_2 4 rfl rfl)
theorem dX1_cost_55 : decode cX1_cost 55 = .ok (.aload_n 3, 1) := dk_45 (dk_at dksX1_cost_2 7 rfl rfl)
theorem dX1_cost_56 : decode cX1_cost 56 = .ok (.iload 6, 2) := dk_21 6 (dk_at dksX1_cost_2 8 rfl rfl)
theorem dX1_cost_58 : decode cX1_cost 58 = .ok (.iaload, 1) := dk_46 (dk_at dksX1_cost_2 10 rfl rfl)
theorem dX1_cost_59 : decode cX1_cost 59 = .ok (.iload_n 2, 1) := dk_28 (dk_at dksX1_cost_2 11 rfl rfl)
theorem dX1_cost_60 : decode cX1_cost 60 = .ok (.if_icmp .ge 19, 3) := dk_162 0 19 (dk_at dksX1_cost_2 12 rfl rfl)
theorem dX1_cost_63 : decode cX1_cost 63 = .ok (.iload 5, 2) := dk_21 5 (dk_at dksX1_cost_2 15 rfl rfl)
theorem dX1_cost_65 : decode cX1_cost 65 = .ok (.aload_n 3, 1) := dk_45 (dk_at dksX1_cost_2 17 rfl rfl)
theorem dX1_cost_66 : decode cX1_cost 66 = .ok (.iload 6, 2) := dk_21 6 (dk_at dksX1_cost_2 18 rfl rfl)
theorem dX1_cost_68 : decode cX1_cost 68 = .ok (.iaload, 1) := dk_46 (dk_at dksX1_cost_2 20 rfl rfl)
theorem dX1_cost_69 : decode cX1_cost 69 = .ok (.ishr, 1) := dk_122 (dk_at dksX1_cost_2 21 rfl rfl)
theorem dX1_cost_70 : decode cX1_cost 70 = .ok (.iconst 1, 1) := dk_4 (dk_at dksX1_cost_2 22 rfl rfl)
theorem dX1_cost_71 : decode cX1_cost 71 = .ok (.iand, 1) := dk_126 (dk_at dksX1_cost_2 23 rfl rfl)
theorem dX1_cost_72 : decode cX1_cost 72 = .ok (.ifCond .ne 7, 3) := dk_154 0 7 (dk_at dksX1_cost_3 0 rfl rfl)
theorem dX1_cost_75 : decode cX1_cost 75 = .ok (.iconst 1, 1) := dk_4 (dk_at dksX1_cost_3 3 rfl rfl)
theorem dX1_cost_76 : decode cX1_cost 76 = .ok (.goto 4, 3) := dk_167 0 4 (dk_at dksX1_cost_3 4 rfl rfl)
theorem dX1_cost_79 : decode cX1_cost 79 = .ok (.iconst 0, 1) := dk_3 (dk_at dksX1_cost_3 7 rfl rfl)
theorem dX1_cost_80 : decode cX1_cost 80 = .ok (.invokestatic 105, 3) := dk_184 0 105 (dk_at dksX1_cost_3 8 rfl rfl)
theorem dX1_cost_83 : decode cX1_cost 83 = .ok (.iload 5, 2) := dk_21 5 (dk_at dksX1_cost_3 11 rfl rfl)
theorem dX1_cost_85 : decode cX1_cost 85 = .ok (.iconst 1, 1) := dk_4 (dk_at dksX1_cost_3 13 rfl rfl)
theorem dX1_cost_86 : decode cX1_cost 86 = .ok (.aload_n 3, 1) := dk_45 (dk_at dksX1_cost_3 14 rfl rfl)
theorem dX1_cost_87 : decode cX1_cost 87 = .ok (.iload 6, 2) := dk_21 6 (dk_at dksX1_cost_3 15 rfl rfl)
theorem dX1_cost_89 : decode cX1_cost 89 = .ok (.iaload, 1) := dk_46 (dk_at dksX1_cost_3 17 rfl rfl)
theorem dX1_cost_90 : decode cX1_cost 90 = .ok (.ishl, 1) := dk_120 (dk_at dksX1_cost_3 18 rfl rfl)
theorem dX1_cost_91 : decode cX1_cost 91 = .ok (.ior, 1) := dk_128 (dk_at dksX1_cost_3 19 rfl rfl)
theorem dX1_cost_92 : decode cX1_cost 92 = .ok (.istore 5, 2) := dk_54 5 (dk_at dksX1_cost_3 20 rfl rfl)
theorem dX1_cost_94 : decode cX1_cost 94 = .ok (.iinc 6 (-1), 3) := dk_132 6 255 (dk_at dksX1_cost_4 0 rfl rfl)
theorem dX1_cost_97 : decode cX1_cost 97 = .ok (.goto (-70), 3) := dk_167 255 186 (dk_at dksX1_cost_4 3 rfl rfl)
theorem dX1_cost_100 : decode cX1_cost 100 = .ok (.iload 4, 2) := dk_21 4 (dk_at dksX1_cost_4 6 rfl rfl)
theorem dX1_cost_102 : decode cX1_cost 102 = .ok (.ifCond .ne 7, 3) := dk_154 0 7 (dk_at dksX1_cost_4 8 rfl rfl)
theorem dX1_cost_105 : decode cX1_cost 105 = .ok (.iconst 1, 1) := dk_4 (dk_at dksX1_cost_4 11 rfl rfl)
theorem dX1_cost_106 : decode cX1_cost 106 = .ok (.goto 4, 3) := dk_167 0 4 (dk_at dksX1_cost_4 12 rfl rfl)
theorem dX1_cost_109 : decode cX1_cost 109 = .ok (.iconst 0, 1) := dk_3 (dk_at dksX1_cost_4 15 rfl rfl)
theorem dX1_cost_110 : decode cX1_cost 110 = .ok (.invokestatic 105, 3) := dk_184 0 105 (dk_at dksX1_cost_4 16 rfl rfl)
theorem dX1_cost_113 : decode cX1_cost 113 = .ok (.iconst 0, 1) := dk_3 (dk_at dksX1_cost_4 19 rfl rfl)
theorem dX1_cost_114 : decode cX1_cost 114 = .ok (.istore 6, 2) := dk_54 6 (dk_at dksX1_cost_4 20 rfl rfl)
theorem dX1_cost_116 : decode cX1_cost 116 = .ok (.iconst 0, 1) := dk_3 (dk_at dksX1_cost_4 22 rfl rfl)
theorem dX1_cost_117 : decode cX1_cost 117 = .ok (.istore 7, 2) := dk_54 7 (dk_at dksX1_cost_5 0 rfl rfl)
theorem dX1_cost_119 : decode cX1_cost 119 = .ok (.iload 7, 2) := dk_21 7 (dk_at dksX1_cost_5 2 rfl rfl)
theorem dX1_cost_121 : decode cX1_cost 121 = .ok (.iload_n 2, 1) := dk_28 (dk_at dksX1_cost_5 4 rfl rfl)
theorem dX1_cost_122 : decode cX1_cost 122 = .ok (.if_icmp .ge 42, 3) := dk_162 0 42 (dk_at dksX1_cost_5 5 rfl rfl)
theorem dX1_cost_125 : decode cX1_cost 125 = .ok (.iload 6, 2) := dk_21 6 (dk_at dksX1_cost_5 8 rfl rfl)
theorem dX1_cost_127 : decode cX1_cost 127 = .ok (.aload_n 0, 1) := dk_42 (dk_at dksX1_cost_5 10 rfl rfl)
theorem dX1_cost_128 : decode cX1_cost 128 = .ok (.getfield 10, 3) := dk_180 0 10 (dk_at dksX1_cost_5 11 rfl rfl)
theorem dX1_cost_131 : decode cX1_cost 131 = .ok (.getfield 384, 3) := dk_180 1 128 (dk_at dksX1_cost_5 14 rfl rfl)
theorem dX1_cost_134 : decode cX1_cost 134 = .ok (.aload_n 3, 1) := dk_45 (dk_at dksX1_cost_5 17 rfl rfl)
theorem dX1_cost_135 : decode cX1_cost 135 = .ok (.iload 7, 2) := dk_21 7 (dk_at dksX1_cost_5 18 rfl rfl)
theorem dX1_cost_137 : decode cX1_cost 137 = .ok (.iaload, 1) := dk_46 (dk_at dksX1_cost_5 20 rfl rfl)
theorem dX1_cost_138 : decode cX1_cost 138 = .ok (.invokevirtual 81, 3) := dk_182 0 81 (dk_at dksX1_cost_5 21 rfl rfl)
theorem dX1_cost_141 : decode cX1_cost 141 = .ok (.checkcast 387, 3) := dk_192 1 131 (dk_at dksX1_cost_6 0 rfl rfl)
theorem dX1_cost_144 : decode cX1_cost 144 = .ok (.getfield 405, 3) := dk_180 1 149 (dk_at dksX1_cost_6 3 rfl rfl)
theorem dX1_cost_147 : decode cX1_cost 147 = .ok (.aload_n 0, 1) := dk_42 (dk_at dksX1_cost_6 6 rfl rfl)
theorem dX1_cost_148 : decode cX1_cost 148 = .ok (.aload_n 3, 1) := dk_45 (dk_at dksX1_cost_6 7 rfl rfl)
theorem dX1_cost_149 : decode cX1_cost 149 = .ok (.iload 7, 2) := dk_21 7 (dk_at dksX1_cost_6 8 rfl rfl)
theorem dX1_cost_151 : decode cX1_cost 151 = .ok (.invokevirtual 421, 3) := dk_182 1 165 (dk_at dksX1_cost_6 10 rfl rfl)
theorem dX1_cost_154 : decode cX1_cost 154 = .ok (.imul, 1) := dk_104 (dk_at dksX1_cost_6 13 rfl rfl)
theorem dX1_cost_155 : decode cX1_cost 155 = .ok (.iadd, 1) := dk_96 (dk_at dksX1_cost_6 14 rfl rfl)
theorem dX1_cost_156 : decode cX1_cost 156 = .ok (.istore 6, 2) := dk_54 6 (dk_at dksX1_cost_6 15 rfl rfl)
theorem dX1_cost_158 : decode cX1_cost 158 = .ok (.iinc 7 1, 3) := dk_132 7 1 (dk_at dksX1_cost_6 17 rfl rfl)
theorem dX1_cost_161 : decode cX1_cost 161 = .ok (.goto (-42), 3) := dk_167 255 214 (dk_at dksX1_cost_6 20 rfl rfl)
theorem dX1_cost_164 : decode cX1_cost 164 = .ok (.iload 6, 2) := dk_21 6 (dk_at dksX1_cost_7 0 rfl rfl)
theorem dX1_cost_166 : decode cX1_cost 166 = .ok (.ireturn, 1) := dk_172 (dk_at dksX1_cost_7 2 rfl rfl)
abbrev cX1_doneIn : ByteArray := prog_1_method_63_code
def yX1_doneIn : MethodName := ⟨RX1, "doneIn", "([II)I"⟩
def dkwX1_doneIn_3 : List UInt8 := [21, 4, 167, 0, 5, 21, 5, 54, 4, 132, 6, 1, 167, 255, 187, 21, 5, 172]
abbrev dktX1_doneIn_3 : List UInt8 := dkwX1_doneIn_3 ++ []
def dkwX1_doneIn_2 : List UInt8 := [21, 4, 182, 1, 146, 54, 5, 21, 7, 153, 0, 8, 21, 5, 167, 0, 4, 29, 62, 21, 7, 153, 0, 8]
abbrev dktX1_doneIn_2 : List UInt8 := dkwX1_doneIn_2 ++ dktX1_doneIn_3
def dkwX1_doneIn_1 : List UInt8 := [163, 0, 7, 4, 167, 0, 4, 3, 54, 7, 42, 43, 21, 6, 46, 21, 7, 153, 0, 7, 29, 167, 0, 5]
abbrev dktX1_doneIn_1 : List UInt8 := dkwX1_doneIn_1 ++ dktX1_doneIn_2
def dkwX1_doneIn_0 : List UInt8 := [3, 62, 42, 182, 1, 156, 54, 4, 3, 54, 5, 3, 54, 6, 21, 6, 28, 163, 0, 69, 29, 21, 4]
abbrev dktX1_doneIn_0 : List UInt8 := dkwX1_doneIn_0 ++ dktX1_doneIn_1
theorem dksX1_doneIn_0 : cX1_doneIn.data.toList.drop 0 = dktX1_doneIn_0 := by decide +kernel
theorem dksX1_doneIn_1 : cX1_doneIn.data.toList.drop 23 = dktX1_doneIn_1 := dk_seg dksX1_doneIn_0 23 rfl rfl
theorem dksX1_doneIn_2 : cX1_doneIn.data.toList.drop 47 = dktX1_doneIn_2 := dk_seg dksX1_doneIn_1 24 rfl rfl
theorem dksX1_doneIn_3 : cX1_doneIn.data.toList.drop 71 = dktX1_doneIn_3 := dk_seg dksX1_doneIn_2 24 rfl rfl
theorem dX1_doneIn_0 : decode cX1_doneIn 0 = .ok (.iconst 0, 1) := dk_3 (dk_at dksX1_doneIn_0 0 rfl rfl)
theorem dX1_doneIn_1 : decode cX1_doneIn 1 = .ok (.istore_n 3, 1) := dk_62 (dk_at dksX1_doneIn_0 1 rfl rfl)
theorem dX1_doneIn_2 : decode cX1_doneIn 2 = .ok (.aload_n 0, 1) := dk_42 (dk_at dksX1_doneIn_0 2 rfl rfl)
theorem dX1_doneIn_3 : decode cX1_doneIn 3 = .ok (.invokevirtual 412, 3) := dk_182 1 156 (dk_at dksX1_doneIn_0 3 rfl rfl)
theorem dX1_doneIn_6 : decode cX1_doneIn 6 = .ok (.istore 4, 2) := dk_54 4 (dk_at dksX1_doneIn_0 6 rfl rfl)
theorem dX1_doneIn_8 : decode cX1_doneIn 8 = .ok (.iconst 0, 1) := dk_3 (dk_at dksX1_doneIn_0 8 rfl rfl)
theorem dX1_doneIn_9 : decode cX1_doneIn 9 = .ok (.istore 5, 2) := dk_54 5 (dk_at dksX1_doneIn_0 9 rfl rfl)
theorem dX1_doneIn_11 : decode cX1_doneIn 11 = .ok (.iconst 0, 1) := dk_3 (dk_at dksX1_doneIn_0 11 rfl rfl)
theorem dX1_doneIn_12 : decode cX1_doneIn 12 = .ok (.istore 6, 2) := dk_54 6 (dk_at dksX1_doneIn_0 12 rfl rfl)
theorem dX1_doneIn_14 : decode cX1_doneIn 14 = .ok (.iload 6, 2) := dk_21 6 (dk_at dksX1_doneIn_0 14 rfl rfl)
theorem dX1_doneIn_16 : decode cX1_doneIn 16 = .ok (.iload_n 2, 1) := dk_28 (dk_at dksX1_doneIn_0 16 rfl rfl)
theorem dX1_doneIn_17 : decode cX1_doneIn 17 = .ok (.if_icmp .gt 69, 3) := dk_163 0 69 (dk_at dksX1_doneIn_0 17 rfl rfl)
theorem dX1_doneIn_20 : decode cX1_doneIn 20 = .ok (.iload_n 3, 1) := dk_29 (dk_at dksX1_doneIn_0 20 rfl rfl)
theorem dX1_doneIn_21 : decode cX1_doneIn 21 = .ok (.iload 4, 2) := dk_21 4 (dk_at dksX1_doneIn_0 21 rfl rfl)
theorem dX1_doneIn_23 : decode cX1_doneIn 23 = .ok (.if_icmp .gt 7, 3) := dk_163 0 7 (dk_at dksX1_doneIn_1 0 rfl rfl)
theorem dX1_doneIn_26 : decode cX1_doneIn 26 = .ok (.iconst 1, 1) := dk_4 (dk_at dksX1_doneIn_1 3 rfl rfl)
theorem dX1_doneIn_27 : decode cX1_doneIn 27 = .ok (.goto 4, 3) := dk_167 0 4 (dk_at dksX1_doneIn_1 4 rfl rfl)
theorem dX1_doneIn_30 : decode cX1_doneIn 30 = .ok (.iconst 0, 1) := dk_3 (dk_at dksX1_doneIn_1 7 rfl rfl)
theorem dX1_doneIn_31 : decode cX1_doneIn 31 = .ok (.istore 7, 2) := dk_54 7 (dk_at dksX1_doneIn_1 8 rfl rfl)
theorem dX1_doneIn_33 : decode cX1_doneIn 33 = .ok (.aload_n 0, 1) := dk_42 (dk_at dksX1_doneIn_1 10 rfl rfl)
theorem dX1_doneIn_34 : decode cX1_doneIn 34 = .ok (.aload_n 1, 1) := dk_43 (dk_at dksX1_doneIn_1 11 rfl rfl)
theorem dX1_doneIn_35 : decode cX1_doneIn 35 = .ok (.iload 6, 2) := dk_21 6 (dk_at dksX1_doneIn_1 12 rfl rfl)
theorem dX1_doneIn_37 : decode cX1_doneIn 37 = .ok (.iaload, 1) := dk_46 (dk_at dksX1_doneIn_1 14 rfl rfl)
theorem dX1_doneIn_38 : decode cX1_doneIn 38 = .ok (.iload 7, 2) := dk_21 7 (dk_at dksX1_doneIn_1 15 rfl rfl)
theorem dX1_doneIn_40 : decode cX1_doneIn 40 = .ok (.ifCond .eq 7, 3) := dk_153 0 7 (dk_at dksX1_doneIn_1 17 rfl rfl)
theorem dX1_doneIn_43 : decode cX1_doneIn 43 = .ok (.iload_n 3, 1) := dk_29 (dk_at dksX1_doneIn_1 20 rfl rfl)
theorem dX1_doneIn_44 : decode cX1_doneIn 44 = .ok (.goto 5, 3) := dk_167 0 5 (dk_at dksX1_doneIn_1 21 rfl rfl)
theorem dX1_doneIn_47 : decode cX1_doneIn 47 = .ok (.iload 4, 2) := dk_21 4 (dk_at dksX1_doneIn_2 0 rfl rfl)
theorem dX1_doneIn_49 : decode cX1_doneIn 49 = .ok (.invokevirtual 402, 3) := dk_182 1 146 (dk_at dksX1_doneIn_2 2 rfl rfl)
theorem dX1_doneIn_52 : decode cX1_doneIn 52 = .ok (.istore 5, 2) := dk_54 5 (dk_at dksX1_doneIn_2 5 rfl rfl)
theorem dX1_doneIn_54 : decode cX1_doneIn 54 = .ok (.iload 7, 2) := dk_21 7 (dk_at dksX1_doneIn_2 7 rfl rfl)
theorem dX1_doneIn_56 : decode cX1_doneIn 56 = .ok (.ifCond .eq 8, 3) := dk_153 0 8 (dk_at dksX1_doneIn_2 9 rfl rfl)
theorem dX1_doneIn_59 : decode cX1_doneIn 59 = .ok (.iload 5, 2) := dk_21 5 (dk_at dksX1_doneIn_2 12 rfl rfl)
theorem dX1_doneIn_61 : decode cX1_doneIn 61 = .ok (.goto 4, 3) := dk_167 0 4 (dk_at dksX1_doneIn_2 14 rfl rfl)
theorem dX1_doneIn_64 : decode cX1_doneIn 64 = .ok (.iload_n 3, 1) := dk_29 (dk_at dksX1_doneIn_2 17 rfl rfl)
theorem dX1_doneIn_65 : decode cX1_doneIn 65 = .ok (.istore_n 3, 1) := dk_62 (dk_at dksX1_doneIn_2 18 rfl rfl)
theorem dX1_doneIn_66 : decode cX1_doneIn 66 = .ok (.iload 7, 2) := dk_21 7 (dk_at dksX1_doneIn_2 19 rfl rfl)
theorem dX1_doneIn_68 : decode cX1_doneIn 68 = .ok (.ifCond .eq 8, 3) := dk_153 0 8 (dk_at dksX1_doneIn_2 21 rfl rfl)
theorem dX1_doneIn_71 : decode cX1_doneIn 71 = .ok (.iload 4, 2) := dk_21 4 (dk_at dksX1_doneIn_3 0 rfl rfl)
theorem dX1_doneIn_73 : decode cX1_doneIn 73 = .ok (.goto 5, 3) := dk_167 0 5 (dk_at dksX1_doneIn_3 2 rfl rfl)
theorem dX1_doneIn_76 : decode cX1_doneIn 76 = .ok (.iload 5, 2) := dk_21 5 (dk_at dksX1_doneIn_3 5 rfl rfl)
theorem dX1_doneIn_78 : decode cX1_doneIn 78 = .ok (.istore 4, 2) := dk_54 4 (dk_at dksX1_doneIn_3 7 rfl rfl)
theorem dX1_doneIn_80 : decode cX1_doneIn 80 = .ok (.iinc 6 1, 3) := dk_132 6 1 (dk_at dksX1_doneIn_3 9 rfl rfl)
theorem dX1_doneIn_83 : decode cX1_doneIn 83 = .ok (.goto (-69), 3) := dk_167 255 187 (dk_at dksX1_doneIn_3 12 rfl rfl)
theorem dX1_doneIn_86 : decode cX1_doneIn 86 = .ok (.iload 5, 2) := dk_21 5 (dk_at dksX1_doneIn_3 15 rfl rfl)
theorem dX1_doneIn_88 : decode cX1_doneIn 88 = .ok (.ireturn, 1) := dk_172 (dk_at dksX1_doneIn_3 17 rfl rfl)
abbrev cX1_delay : ByteArray := prog_1_method_66_code
def yX1_delay : MethodName := ⟨RX1, "delay", "(II)I"⟩
def dkwX1_delay_2 : List UInt8 := [181, 0, 59, 21, 4, 29, 100, 172]
abbrev dktX1_delay_2 : List UInt8 := dkwX1_delay_2 ++ []
def dkwX1_delay_1 : List UInt8 := [42, 182, 1, 169, 62, 42, 27, 181, 0, 59, 42, 28, 181, 1, 137, 42, 182, 1, 169, 54, 4, 42, 2]
abbrev dktX1_delay_1 : List UInt8 := dkwX1_delay_1 ++ dktX1_delay_2
def dkwX1_delay_0 : List UInt8 := [42, 27, 182, 1, 172, 28, 155, 0, 14, 28, 17, 3, 231, 163, 0, 7, 4, 167, 0, 4, 3, 184, 0, 105]
abbrev dktX1_delay_0 : List UInt8 := dkwX1_delay_0 ++ dktX1_delay_1
theorem dksX1_delay_0 : cX1_delay.data.toList.drop 0 = dktX1_delay_0 := by decide +kernel
theorem dksX1_delay_1 : cX1_delay.data.toList.drop 24 = dktX1_delay_1 := dk_seg dksX1_delay_0 24 rfl rfl
theorem dksX1_delay_2 : cX1_delay.data.toList.drop 47 = dktX1_delay_2 := dk_seg dksX1_delay_1 23 rfl rfl
theorem dX1_delay_0 : decode cX1_delay 0 = .ok (.aload_n 0, 1) := dk_42 (dk_at dksX1_delay_0 0 rfl rfl)
theorem dX1_delay_1 : decode cX1_delay 1 = .ok (.iload_n 1, 1) := dk_27 (dk_at dksX1_delay_0 1 rfl rfl)
theorem dX1_delay_2 : decode cX1_delay 2 = .ok (.invokevirtual 428, 3) := dk_182 1 172 (dk_at dksX1_delay_0 2 rfl rfl)
theorem dX1_delay_5 : decode cX1_delay 5 = .ok (.iload_n 2, 1) := dk_28 (dk_at dksX1_delay_0 5 rfl rfl)
theorem dX1_delay_6 : decode cX1_delay 6 = .ok (.ifCond .lt 14, 3) := dk_155 0 14 (dk_at dksX1_delay_0 6 rfl rfl)
theorem dX1_delay_9 : decode cX1_delay 9 = .ok (.iload_n 2, 1) := dk_28 (dk_at dksX1_delay_0 9 rfl rfl)
theorem dX1_delay_10 : decode cX1_delay 10 = .ok (.sipush 999, 3) := dk_17 3 231 (dk_at dksX1_delay_0 10 rfl rfl)
theorem dX1_delay_13 : decode cX1_delay 13 = .ok (.if_icmp .gt 7, 3) := dk_163 0 7 (dk_at dksX1_delay_0 13 rfl rfl)
theorem dX1_delay_16 : decode cX1_delay 16 = .ok (.iconst 1, 1) := dk_4 (dk_at dksX1_delay_0 16 rfl rfl)
theorem dX1_delay_17 : decode cX1_delay 17 = .ok (.goto 4, 3) := dk_167 0 4 (dk_at dksX1_delay_0 17 rfl rfl)
theorem dX1_delay_20 : decode cX1_delay 20 = .ok (.iconst 0, 1) := dk_3 (dk_at dksX1_delay_0 20 rfl rfl)
theorem dX1_delay_21 : decode cX1_delay 21 = .ok (.invokestatic 105, 3) := dk_184 0 105 (dk_at dksX1_delay_0 21 rfl rfl)
theorem dX1_delay_24 : decode cX1_delay 24 = .ok (.aload_n 0, 1) := dk_42 (dk_at dksX1_delay_1 0 rfl rfl)
theorem dX1_delay_25 : decode cX1_delay 25 = .ok (.invokevirtual 425, 3) := dk_182 1 169 (dk_at dksX1_delay_1 1 rfl rfl)
theorem dX1_delay_28 : decode cX1_delay 28 = .ok (.istore_n 3, 1) := dk_62 (dk_at dksX1_delay_1 4 rfl rfl)
theorem dX1_delay_29 : decode cX1_delay 29 = .ok (.aload_n 0, 1) := dk_42 (dk_at dksX1_delay_1 5 rfl rfl)
theorem dX1_delay_30 : decode cX1_delay 30 = .ok (.iload_n 1, 1) := dk_27 (dk_at dksX1_delay_1 6 rfl rfl)
theorem dX1_delay_31 : decode cX1_delay 31 = .ok (.putfield 59, 3) := dk_181 0 59 (dk_at dksX1_delay_1 7 rfl rfl)
theorem dX1_delay_34 : decode cX1_delay 34 = .ok (.aload_n 0, 1) := dk_42 (dk_at dksX1_delay_1 10 rfl rfl)
theorem dX1_delay_35 : decode cX1_delay 35 = .ok (.iload_n 2, 1) := dk_28 (dk_at dksX1_delay_1 11 rfl rfl)
theorem dX1_delay_36 : decode cX1_delay 36 = .ok (.putfield 393, 3) := dk_181 1 137 (dk_at dksX1_delay_1 12 rfl rfl)
theorem dX1_delay_39 : decode cX1_delay 39 = .ok (.aload_n 0, 1) := dk_42 (dk_at dksX1_delay_1 15 rfl rfl)
theorem dX1_delay_40 : decode cX1_delay 40 = .ok (.invokevirtual 425, 3) := dk_182 1 169 (dk_at dksX1_delay_1 16 rfl rfl)
theorem dX1_delay_43 : decode cX1_delay 43 = .ok (.istore 4, 2) := dk_54 4 (dk_at dksX1_delay_1 19 rfl rfl)
theorem dX1_delay_45 : decode cX1_delay 45 = .ok (.aload_n 0, 1) := dk_42 (dk_at dksX1_delay_1 21 rfl rfl)
theorem dX1_delay_46 : decode cX1_delay 46 = .ok (.iconst (-1), 1) := dk_2 (dk_at dksX1_delay_1 22 rfl rfl)
theorem dX1_delay_47 : decode cX1_delay 47 = .ok (.putfield 59, 3) := dk_181 0 59 (dk_at dksX1_delay_2 0 rfl rfl)
theorem dX1_delay_50 : decode cX1_delay 50 = .ok (.iload 4, 2) := dk_21 4 (dk_at dksX1_delay_2 3 rfl rfl)
theorem dX1_delay_52 : decode cX1_delay 52 = .ok (.iload_n 3, 1) := dk_29 (dk_at dksX1_delay_2 5 rfl rfl)
theorem dX1_delay_53 : decode cX1_delay 53 = .ok (.isub, 1) := dk_100 (dk_at dksX1_delay_2 6 rfl rfl)
theorem dX1_delay_54 : decode cX1_delay 54 = .ok (.ireturn, 1) := dk_172 (dk_at dksX1_delay_2 7 rfl rfl)
abbrev cX1_isJob : ByteArray := prog_1_method_65_code
def yX1_isJob : MethodName := ⟨RX1, "isJob", "(I)V"⟩
def dkwX1_isJob_1 : List UInt8 := [183, 0, 92, 191, 177]
abbrev dktX1_isJob_1 : List UInt8 := dkwX1_isJob_1 ++ []
def dkwX1_isJob_0 : List UInt8 := [27, 155, 0, 17, 27, 42, 180, 0, 10, 180, 1, 128, 182, 0, 74, 161, 0, 11, 187, 0, 90, 89]
abbrev dktX1_isJob_0 : List UInt8 := dkwX1_isJob_0 ++ dktX1_isJob_1
theorem dksX1_isJob_0 : cX1_isJob.data.toList.drop 0 = dktX1_isJob_0 := by decide +kernel
theorem dksX1_isJob_1 : cX1_isJob.data.toList.drop 22 = dktX1_isJob_1 := dk_seg dksX1_isJob_0 22 rfl rfl
theorem dX1_isJob_0 : decode cX1_isJob 0 = .ok (.iload_n 1, 1) := dk_27 (dk_at dksX1_isJob_0 0 rfl rfl)
theorem dX1_isJob_1 : decode cX1_isJob 1 = .ok (.ifCond .lt 17, 3) := dk_155 0 17 (dk_at dksX1_isJob_0 1 rfl rfl)
theorem dX1_isJob_4 : decode cX1_isJob 4 = .ok (.iload_n 1, 1) := dk_27 (dk_at dksX1_isJob_0 4 rfl rfl)
theorem dX1_isJob_5 : decode cX1_isJob 5 = .ok (.aload_n 0, 1) := dk_42 (dk_at dksX1_isJob_0 5 rfl rfl)
theorem dX1_isJob_6 : decode cX1_isJob 6 = .ok (.getfield 10, 3) := dk_180 0 10 (dk_at dksX1_isJob_0 6 rfl rfl)
theorem dX1_isJob_9 : decode cX1_isJob 9 = .ok (.getfield 384, 3) := dk_180 1 128 (dk_at dksX1_isJob_0 9 rfl rfl)
theorem dX1_isJob_12 : decode cX1_isJob 12 = .ok (.invokevirtual 74, 3) := dk_182 0 74 (dk_at dksX1_isJob_0 12 rfl rfl)
theorem dX1_isJob_15 : decode cX1_isJob 15 = .ok (.if_icmp .lt 11, 3) := dk_161 0 11 (dk_at dksX1_isJob_0 15 rfl rfl)
theorem dX1_isJob_18 : decode cX1_isJob 18 = .ok (.new 90, 3) := dk_187 0 90 (dk_at dksX1_isJob_0 18 rfl rfl)
theorem dX1_isJob_21 : decode cX1_isJob 21 = .ok (.dup, 1) := dk_89 (dk_at dksX1_isJob_0 21 rfl rfl)
theorem dX1_isJob_22 : decode cX1_isJob 22 = .ok (.invokespecial 92, 3) := dk_183 0 92 (dk_at dksX1_isJob_1 0 rfl rfl)
theorem dX1_isJob_25 : decode cX1_isJob 25 = .ok (.athrow, 1) := dk_191 (dk_at dksX1_isJob_1 3 rfl rfl)
theorem dX1_isJob_26 : decode cX1_isJob 26 = .ok (.return_, 1) := dk_177 (dk_at dksX1_isJob_1 4 rfl rfl)
abbrev cX1_done : ByteArray := prog_1_method_67_code
def yX1_done : MethodName := ⟨RX1, "done", "(I)I"⟩
def dkwX1_done_1 : List UInt8 := [132, 2, 1, 167, 255, 243, 42, 42, 180, 0, 56, 28, 182, 1, 165, 172]
abbrev dktX1_done_1 : List UInt8 := dkwX1_done_1 ++ []
def dkwX1_done_0 : List UInt8 := [42, 27, 182, 1, 172, 42, 182, 1, 169, 87, 3, 61, 42, 180, 0, 56, 28, 46, 27, 159, 0, 9]
abbrev dktX1_done_0 : List UInt8 := dkwX1_done_0 ++ dktX1_done_1
theorem dksX1_done_0 : cX1_done.data.toList.drop 0 = dktX1_done_0 := by decide +kernel
theorem dksX1_done_1 : cX1_done.data.toList.drop 22 = dktX1_done_1 := dk_seg dksX1_done_0 22 rfl rfl
theorem dX1_done_0 : decode cX1_done 0 = .ok (.aload_n 0, 1) := dk_42 (dk_at dksX1_done_0 0 rfl rfl)
theorem dX1_done_1 : decode cX1_done 1 = .ok (.iload_n 1, 1) := dk_27 (dk_at dksX1_done_0 1 rfl rfl)
theorem dX1_done_2 : decode cX1_done 2 = .ok (.invokevirtual 428, 3) := dk_182 1 172 (dk_at dksX1_done_0 2 rfl rfl)
theorem dX1_done_5 : decode cX1_done 5 = .ok (.aload_n 0, 1) := dk_42 (dk_at dksX1_done_0 5 rfl rfl)
theorem dX1_done_6 : decode cX1_done 6 = .ok (.invokevirtual 425, 3) := dk_182 1 169 (dk_at dksX1_done_0 6 rfl rfl)
theorem dX1_done_9 : decode cX1_done 9 = .ok (.pop, 1) := dk_87 (dk_at dksX1_done_0 9 rfl rfl)
theorem dX1_done_10 : decode cX1_done 10 = .ok (.iconst 0, 1) := dk_3 (dk_at dksX1_done_0 10 rfl rfl)
theorem dX1_done_11 : decode cX1_done 11 = .ok (.istore_n 2, 1) := dk_61 (dk_at dksX1_done_0 11 rfl rfl)
theorem dX1_done_12 : decode cX1_done 12 = .ok (.aload_n 0, 1) := dk_42 (dk_at dksX1_done_0 12 rfl rfl)
theorem dX1_done_13 : decode cX1_done 13 = .ok (.getfield 56, 3) := dk_180 0 56 (dk_at dksX1_done_0 13 rfl rfl)
theorem dX1_done_16 : decode cX1_done 16 = .ok (.iload_n 2, 1) := dk_28 (dk_at dksX1_done_0 16 rfl rfl)
theorem dX1_done_17 : decode cX1_done 17 = .ok (.iaload, 1) := dk_46 (dk_at dksX1_done_0 17 rfl rfl)
theorem dX1_done_18 : decode cX1_done 18 = .ok (.iload_n 1, 1) := dk_27 (dk_at dksX1_done_0 18 rfl rfl)
theorem dX1_done_19 : decode cX1_done 19 = .ok (.if_icmp .eq 9, 3) := dk_159 0 9 (dk_at dksX1_done_0 19 rfl rfl)
theorem dX1_done_22 : decode cX1_done 22 = .ok (.iinc 2 1, 3) := dk_132 2 1 (dk_at dksX1_done_1 0 rfl rfl)
theorem dX1_done_25 : decode cX1_done 25 = .ok (.goto (-13), 3) := dk_167 255 243 (dk_at dksX1_done_1 3 rfl rfl)
theorem dX1_done_28 : decode cX1_done 28 = .ok (.aload_n 0, 1) := dk_42 (dk_at dksX1_done_1 6 rfl rfl)
theorem dX1_done_29 : decode cX1_done 29 = .ok (.aload_n 0, 1) := dk_42 (dk_at dksX1_done_1 7 rfl rfl)
theorem dX1_done_30 : decode cX1_done 30 = .ok (.getfield 56, 3) := dk_180 0 56 (dk_at dksX1_done_1 8 rfl rfl)
theorem dX1_done_33 : decode cX1_done 33 = .ok (.iload_n 2, 1) := dk_28 (dk_at dksX1_done_1 11 rfl rfl)
theorem dX1_done_34 : decode cX1_done 34 = .ok (.invokevirtual 421, 3) := dk_182 1 165 (dk_at dksX1_done_1 12 rfl rfl)
theorem dX1_done_37 : decode cX1_done 37 = .ok (.ireturn, 1) := dk_172 (dk_at dksX1_done_1 15 rfl rfl)
abbrev cX1_maker : ByteArray := prog_1_method_70_code
def yX1_maker : MethodName := ⟨RX1, "maker", "(I)I"⟩
def dkwX1_maker_2 : List UInt8 := [183, 1, 185, 182, 0, 123, 87, 42, 180, 0, 10, 180, 1, 175, 182, 0, 74, 4, 100, 172]
abbrev dktX1_maker_2 : List UInt8 := dkwX1_maker_2 ++ []
def dkwX1_maker_1 : List UInt8 := [180, 1, 175, 182, 0, 74, 7, 160, 0, 5, 2, 172, 42, 180, 0, 10, 180, 1, 175, 187, 1, 178, 89, 27]
abbrev dktX1_maker_1 : List UInt8 := dkwX1_maker_1 ++ dktX1_maker_2
def dkwX1_maker_0 : List UInt8 := [27, 4, 161, 0, 14, 27, 17, 0, 200, 163, 0, 7, 4, 167, 0, 4, 3, 184, 0, 105, 42, 180, 0, 10]
abbrev dktX1_maker_0 : List UInt8 := dkwX1_maker_0 ++ dktX1_maker_1
theorem dksX1_maker_0 : cX1_maker.data.toList.drop 0 = dktX1_maker_0 := by decide +kernel
theorem dksX1_maker_1 : cX1_maker.data.toList.drop 24 = dktX1_maker_1 := dk_seg dksX1_maker_0 24 rfl rfl
theorem dksX1_maker_2 : cX1_maker.data.toList.drop 48 = dktX1_maker_2 := dk_seg dksX1_maker_1 24 rfl rfl
theorem dX1_maker_0 : decode cX1_maker 0 = .ok (.iload_n 1, 1) := dk_27 (dk_at dksX1_maker_0 0 rfl rfl)
theorem dX1_maker_1 : decode cX1_maker 1 = .ok (.iconst 1, 1) := dk_4 (dk_at dksX1_maker_0 1 rfl rfl)
theorem dX1_maker_2 : decode cX1_maker 2 = .ok (.if_icmp .lt 14, 3) := dk_161 0 14 (dk_at dksX1_maker_0 2 rfl rfl)
theorem dX1_maker_5 : decode cX1_maker 5 = .ok (.iload_n 1, 1) := dk_27 (dk_at dksX1_maker_0 5 rfl rfl)
theorem dX1_maker_6 : decode cX1_maker 6 = .ok (.sipush 200, 3) := dk_17 0 200 (dk_at dksX1_maker_0 6 rfl rfl)
theorem dX1_maker_9 : decode cX1_maker 9 = .ok (.if_icmp .gt 7, 3) := dk_163 0 7 (dk_at dksX1_maker_0 9 rfl rfl)
theorem dX1_maker_12 : decode cX1_maker 12 = .ok (.iconst 1, 1) := dk_4 (dk_at dksX1_maker_0 12 rfl rfl)
theorem dX1_maker_13 : decode cX1_maker 13 = .ok (.goto 4, 3) := dk_167 0 4 (dk_at dksX1_maker_0 13 rfl rfl)
theorem dX1_maker_16 : decode cX1_maker 16 = .ok (.iconst 0, 1) := dk_3 (dk_at dksX1_maker_0 16 rfl rfl)
theorem dX1_maker_17 : decode cX1_maker 17 = .ok (.invokestatic 105, 3) := dk_184 0 105 (dk_at dksX1_maker_0 17 rfl rfl)
theorem dX1_maker_20 : decode cX1_maker 20 = .ok (.aload_n 0, 1) := dk_42 (dk_at dksX1_maker_0 20 rfl rfl)
theorem dX1_maker_21 : decode cX1_maker 21 = .ok (.getfield 10, 3) := dk_180 0 10 (dk_at dksX1_maker_0 21 rfl rfl)
theorem dX1_maker_24 : decode cX1_maker 24 = .ok (.getfield 431, 3) := dk_180 1 175 (dk_at dksX1_maker_1 0 rfl rfl)
theorem dX1_maker_27 : decode cX1_maker 27 = .ok (.invokevirtual 74, 3) := dk_182 0 74 (dk_at dksX1_maker_1 3 rfl rfl)
theorem dX1_maker_30 : decode cX1_maker 30 = .ok (.iconst 4, 1) := dk_7 (dk_at dksX1_maker_1 6 rfl rfl)
theorem dX1_maker_31 : decode cX1_maker 31 = .ok (.if_icmp .ne 5, 3) := dk_160 0 5 (dk_at dksX1_maker_1 7 rfl rfl)
theorem dX1_maker_34 : decode cX1_maker 34 = .ok (.iconst (-1), 1) := dk_2 (dk_at dksX1_maker_1 10 rfl rfl)
theorem dX1_maker_35 : decode cX1_maker 35 = .ok (.ireturn, 1) := dk_172 (dk_at dksX1_maker_1 11 rfl rfl)
theorem dX1_maker_36 : decode cX1_maker 36 = .ok (.aload_n 0, 1) := dk_42 (dk_at dksX1_maker_1 12 rfl rfl)
theorem dX1_maker_37 : decode cX1_maker 37 = .ok (.getfield 10, 3) := dk_180 0 10 (dk_at dksX1_maker_1 13 rfl rfl)
theorem dX1_maker_40 : decode cX1_maker 40 = .ok (.getfield 431, 3) := dk_180 1 175 (dk_at dksX1_maker_1 16 rfl rfl)
theorem dX1_maker_43 : decode cX1_maker 43 = .ok (.new 434, 3) := dk_187 1 178 (dk_at dksX1_maker_1 19 rfl rfl)
theorem dX1_maker_46 : decode cX1_maker 46 = .ok (.dup, 1) := dk_89 (dk_at dksX1_maker_1 22 rfl rfl)
theorem dX1_maker_47 : decode cX1_maker 47 = .ok (.iload_n 1, 1) := dk_27 (dk_at dksX1_maker_1 23 rfl rfl)
theorem dX1_maker_48 : decode cX1_maker 48 = .ok (.invokespecial 441, 3) := dk_183 1 185 (dk_at dksX1_maker_2 0 rfl rfl)
theorem dX1_maker_51 : decode cX1_maker 51 = .ok (.invokevirtual 123, 3) := dk_182 0 123 (dk_at dksX1_maker_2 3 rfl rfl)
theorem dX1_maker_54 : decode cX1_maker 54 = .ok (.pop, 1) := dk_87 (dk_at dksX1_maker_2 6 rfl rfl)
theorem dX1_maker_55 : decode cX1_maker 55 = .ok (.aload_n 0, 1) := dk_42 (dk_at dksX1_maker_2 7 rfl rfl)
theorem dX1_maker_56 : decode cX1_maker 56 = .ok (.getfield 10, 3) := dk_180 0 10 (dk_at dksX1_maker_2 8 rfl rfl)
theorem dX1_maker_59 : decode cX1_maker 59 = .ok (.getfield 431, 3) := dk_180 1 175 (dk_at dksX1_maker_2 11 rfl rfl)
theorem dX1_maker_62 : decode cX1_maker 62 = .ok (.invokevirtual 74, 3) := dk_182 0 74 (dk_at dksX1_maker_2 14 rfl rfl)
theorem dX1_maker_65 : decode cX1_maker 65 = .ok (.iconst 1, 1) := dk_4 (dk_at dksX1_maker_2 17 rfl rfl)
theorem dX1_maker_66 : decode cX1_maker 66 = .ok (.isub, 1) := dk_100 (dk_at dksX1_maker_2 18 rfl rfl)
theorem dX1_maker_67 : decode cX1_maker 67 = .ok (.ireturn, 1) := dk_172 (dk_at dksX1_maker_2 19 rfl rfl)
abbrev cX1_order : ByteArray := prog_1_method_71_code
def yX1_order : MethodName := ⟨RX1, "order", "(II)I"⟩
def dkwX1_order_3 : List UInt8 := [182, 0, 74, 4, 100, 172]
abbrev dktX1_order_3 : List UInt8 := dkwX1_order_3 ++ []
def dkwX1_order_2 : List UInt8 := [180, 0, 149, 45, 180, 1, 190, 96, 4, 183, 1, 193, 182, 0, 123, 87, 42, 180, 0, 10, 180, 1, 180]
abbrev dktX1_order_2 : List UInt8 := dkwX1_order_2 ++ dktX1_order_3
def dkwX1_order_1 : List UInt8 := [160, 0, 5, 2, 172, 42, 180, 0, 10, 180, 1, 180, 187, 1, 183, 89, 27, 28, 42, 180, 0, 10]
abbrev dktX1_order_1 : List UInt8 := dkwX1_order_1 ++ dktX1_order_2
def dkwX1_order_0 : List UInt8 := [42, 27, 182, 1, 186, 78, 42, 28, 182, 0, 250, 87, 42, 180, 0, 10, 180, 1, 180, 182, 0, 74, 16, 20]
abbrev dktX1_order_0 : List UInt8 := dkwX1_order_0 ++ dktX1_order_1
theorem dksX1_order_0 : cX1_order.data.toList.drop 0 = dktX1_order_0 := by decide +kernel
theorem dksX1_order_1 : cX1_order.data.toList.drop 24 = dktX1_order_1 := dk_seg dksX1_order_0 24 rfl rfl
theorem dksX1_order_2 : cX1_order.data.toList.drop 46 = dktX1_order_2 := dk_seg dksX1_order_1 22 rfl rfl
theorem dksX1_order_3 : cX1_order.data.toList.drop 69 = dktX1_order_3 := dk_seg dksX1_order_2 23 rfl rfl
theorem dX1_order_0 : decode cX1_order 0 = .ok (.aload_n 0, 1) := dk_42 (dk_at dksX1_order_0 0 rfl rfl)
theorem dX1_order_1 : decode cX1_order 1 = .ok (.iload_n 1, 1) := dk_27 (dk_at dksX1_order_0 1 rfl rfl)
theorem dX1_order_2 : decode cX1_order 2 = .ok (.invokevirtual 442, 3) := dk_182 1 186 (dk_at dksX1_order_0 2 rfl rfl)
theorem dX1_order_5 : decode cX1_order 5 = .ok (.astore_n 3, 1) := dk_78 (dk_at dksX1_order_0 5 rfl rfl)
theorem dX1_order_6 : decode cX1_order 6 = .ok (.aload_n 0, 1) := dk_42 (dk_at dksX1_order_0 6 rfl rfl)
theorem dX1_order_7 : decode cX1_order 7 = .ok (.iload_n 2, 1) := dk_28 (dk_at dksX1_order_0 7 rfl rfl)
theorem dX1_order_8 : decode cX1_order 8 = .ok (.invokevirtual 250, 3) := dk_182 0 250 (dk_at dksX1_order_0 8 rfl rfl)
theorem dX1_order_11 : decode cX1_order 11 = .ok (.pop, 1) := dk_87 (dk_at dksX1_order_0 11 rfl rfl)
theorem dX1_order_12 : decode cX1_order 12 = .ok (.aload_n 0, 1) := dk_42 (dk_at dksX1_order_0 12 rfl rfl)
theorem dX1_order_13 : decode cX1_order 13 = .ok (.getfield 10, 3) := dk_180 0 10 (dk_at dksX1_order_0 13 rfl rfl)
theorem dX1_order_16 : decode cX1_order 16 = .ok (.getfield 436, 3) := dk_180 1 180 (dk_at dksX1_order_0 16 rfl rfl)
theorem dX1_order_19 : decode cX1_order 19 = .ok (.invokevirtual 74, 3) := dk_182 0 74 (dk_at dksX1_order_0 19 rfl rfl)
theorem dX1_order_22 : decode cX1_order 22 = .ok (.bipush 20, 2) := dk_16 20 (dk_at dksX1_order_0 22 rfl rfl)
theorem dX1_order_24 : decode cX1_order 24 = .ok (.if_icmp .ne 5, 3) := dk_160 0 5 (dk_at dksX1_order_1 0 rfl rfl)
theorem dX1_order_27 : decode cX1_order 27 = .ok (.iconst (-1), 1) := dk_2 (dk_at dksX1_order_1 3 rfl rfl)
theorem dX1_order_28 : decode cX1_order 28 = .ok (.ireturn, 1) := dk_172 (dk_at dksX1_order_1 4 rfl rfl)
theorem dX1_order_29 : decode cX1_order 29 = .ok (.aload_n 0, 1) := dk_42 (dk_at dksX1_order_1 5 rfl rfl)
theorem dX1_order_30 : decode cX1_order 30 = .ok (.getfield 10, 3) := dk_180 0 10 (dk_at dksX1_order_1 6 rfl rfl)
theorem dX1_order_33 : decode cX1_order 33 = .ok (.getfield 436, 3) := dk_180 1 180 (dk_at dksX1_order_1 9 rfl rfl)
theorem dX1_order_36 : decode cX1_order 36 = .ok (.new 439, 3) := dk_187 1 183 (dk_at dksX1_order_1 12 rfl rfl)
theorem dX1_order_39 : decode cX1_order 39 = .ok (.dup, 1) := dk_89 (dk_at dksX1_order_1 15 rfl rfl)
theorem dX1_order_40 : decode cX1_order 40 = .ok (.iload_n 1, 1) := dk_27 (dk_at dksX1_order_1 16 rfl rfl)
theorem dX1_order_41 : decode cX1_order 41 = .ok (.iload_n 2, 1) := dk_28 (dk_at dksX1_order_1 17 rfl rfl)
theorem dX1_order_42 : decode cX1_order 42 = .ok (.aload_n 0, 1) := dk_42 (dk_at dksX1_order_1 18 rfl rfl)
theorem dX1_order_43 : decode cX1_order 43 = .ok (.getfield 10, 3) := dk_180 0 10 (dk_at dksX1_order_1 19 rfl rfl)
theorem dX1_order_46 : decode cX1_order 46 = .ok (.getfield 149, 3) := dk_180 0 149 (dk_at dksX1_order_2 0 rfl rfl)
theorem dX1_order_49 : decode cX1_order 49 = .ok (.aload_n 3, 1) := dk_45 (dk_at dksX1_order_2 3 rfl rfl)
theorem dX1_order_50 : decode cX1_order 50 = .ok (.getfield 446, 3) := dk_180 1 190 (dk_at dksX1_order_2 4 rfl rfl)
theorem dX1_order_53 : decode cX1_order 53 = .ok (.iadd, 1) := dk_96 (dk_at dksX1_order_2 7 rfl rfl)
theorem dX1_order_54 : decode cX1_order 54 = .ok (.iconst 1, 1) := dk_4 (dk_at dksX1_order_2 8 rfl rfl)
theorem dX1_order_55 : decode cX1_order 55 = .ok (.invokespecial 449, 3) := dk_183 1 193 (dk_at dksX1_order_2 9 rfl rfl)
theorem dX1_order_58 : decode cX1_order 58 = .ok (.invokevirtual 123, 3) := dk_182 0 123 (dk_at dksX1_order_2 12 rfl rfl)
theorem dX1_order_61 : decode cX1_order 61 = .ok (.pop, 1) := dk_87 (dk_at dksX1_order_2 15 rfl rfl)
theorem dX1_order_62 : decode cX1_order 62 = .ok (.aload_n 0, 1) := dk_42 (dk_at dksX1_order_2 16 rfl rfl)
theorem dX1_order_63 : decode cX1_order 63 = .ok (.getfield 10, 3) := dk_180 0 10 (dk_at dksX1_order_2 17 rfl rfl)
theorem dX1_order_66 : decode cX1_order 66 = .ok (.getfield 436, 3) := dk_180 1 180 (dk_at dksX1_order_2 20 rfl rfl)
theorem dX1_order_69 : decode cX1_order 69 = .ok (.invokevirtual 74, 3) := dk_182 0 74 (dk_at dksX1_order_3 0 rfl rfl)
theorem dX1_order_72 : decode cX1_order 72 = .ok (.iconst 1, 1) := dk_4 (dk_at dksX1_order_3 3 rfl rfl)
theorem dX1_order_73 : decode cX1_order 73 = .ok (.isub, 1) := dk_100 (dk_at dksX1_order_3 4 rfl rfl)
theorem dX1_order_74 : decode cX1_order 74 = .ok (.ireturn, 1) := dk_172 (dk_at dksX1_order_3 5 rfl rfl)
abbrev cX1_makerOf : ByteArray := prog_1_method_68_code
def yX1_makerOf : MethodName := ⟨RX1, "makerOf", "(I)LLimbBenches$Maker;"⟩
def dkwX1_makerOf_1 : List UInt8 := [183, 0, 80, 191, 42, 180, 0, 10, 180, 1, 175, 27, 182, 0, 81, 192, 1, 178, 176]
abbrev dktX1_makerOf_1 : List UInt8 := dkwX1_makerOf_1 ++ []
def dkwX1_makerOf_0 : List UInt8 := [27, 155, 0, 17, 27, 42, 180, 0, 10, 180, 1, 175, 182, 0, 74, 161, 0, 11, 187, 0, 78, 89]
abbrev dktX1_makerOf_0 : List UInt8 := dkwX1_makerOf_0 ++ dktX1_makerOf_1
theorem dksX1_makerOf_0 : cX1_makerOf.data.toList.drop 0 = dktX1_makerOf_0 := by decide +kernel
theorem dksX1_makerOf_1 : cX1_makerOf.data.toList.drop 22 = dktX1_makerOf_1 := dk_seg dksX1_makerOf_0 22 rfl rfl
theorem dX1_makerOf_0 : decode cX1_makerOf 0 = .ok (.iload_n 1, 1) := dk_27 (dk_at dksX1_makerOf_0 0 rfl rfl)
theorem dX1_makerOf_1 : decode cX1_makerOf 1 = .ok (.ifCond .lt 17, 3) := dk_155 0 17 (dk_at dksX1_makerOf_0 1 rfl rfl)
theorem dX1_makerOf_4 : decode cX1_makerOf 4 = .ok (.iload_n 1, 1) := dk_27 (dk_at dksX1_makerOf_0 4 rfl rfl)
theorem dX1_makerOf_5 : decode cX1_makerOf 5 = .ok (.aload_n 0, 1) := dk_42 (dk_at dksX1_makerOf_0 5 rfl rfl)
theorem dX1_makerOf_6 : decode cX1_makerOf 6 = .ok (.getfield 10, 3) := dk_180 0 10 (dk_at dksX1_makerOf_0 6 rfl rfl)
theorem dX1_makerOf_9 : decode cX1_makerOf 9 = .ok (.getfield 431, 3) := dk_180 1 175 (dk_at dksX1_makerOf_0 9 rfl rfl)
theorem dX1_makerOf_12 : decode cX1_makerOf 12 = .ok (.invokevirtual 74, 3) := dk_182 0 74 (dk_at dksX1_makerOf_0 12 rfl rfl)
theorem dX1_makerOf_15 : decode cX1_makerOf 15 = .ok (.if_icmp .lt 11, 3) := dk_161 0 11 (dk_at dksX1_makerOf_0 15 rfl rfl)
theorem dX1_makerOf_18 : decode cX1_makerOf 18 = .ok (.new 78, 3) := dk_187 0 78 (dk_at dksX1_makerOf_0 18 rfl rfl)
theorem dX1_makerOf_21 : decode cX1_makerOf 21 = .ok (.dup, 1) := dk_89 (dk_at dksX1_makerOf_0 21 rfl rfl)
theorem dX1_makerOf_22 : decode cX1_makerOf 22 = .ok (.invokespecial 80, 3) := dk_183 0 80 (dk_at dksX1_makerOf_1 0 rfl rfl)
theorem dX1_makerOf_25 : decode cX1_makerOf 25 = .ok (.athrow, 1) := dk_191 (dk_at dksX1_makerOf_1 3 rfl rfl)
theorem dX1_makerOf_26 : decode cX1_makerOf 26 = .ok (.aload_n 0, 1) := dk_42 (dk_at dksX1_makerOf_1 4 rfl rfl)
theorem dX1_makerOf_27 : decode cX1_makerOf 27 = .ok (.getfield 10, 3) := dk_180 0 10 (dk_at dksX1_makerOf_1 5 rfl rfl)
theorem dX1_makerOf_30 : decode cX1_makerOf 30 = .ok (.getfield 431, 3) := dk_180 1 175 (dk_at dksX1_makerOf_1 8 rfl rfl)
theorem dX1_makerOf_33 : decode cX1_makerOf 33 = .ok (.iload_n 1, 1) := dk_27 (dk_at dksX1_makerOf_1 11 rfl rfl)
theorem dX1_makerOf_34 : decode cX1_makerOf 34 = .ok (.invokevirtual 81, 3) := dk_182 0 81 (dk_at dksX1_makerOf_1 12 rfl rfl)
theorem dX1_makerOf_37 : decode cX1_makerOf 37 = .ok (.checkcast 434, 3) := dk_192 1 178 (dk_at dksX1_makerOf_1 15 rfl rfl)
theorem dX1_makerOf_40 : decode cX1_makerOf 40 = .ok (.areturn, 1) := dk_176 (dk_at dksX1_makerOf_1 18 rfl rfl)
abbrev cX1_arrive : ByteArray := prog_1_method_72_code
def yX1_arrive : MethodName := ⟨RX1, "arrive", "(I)I"⟩
def dkwX1_arrive_3 : List UInt8 := [180, 0, 149, 44, 180, 1, 215, 100, 182, 1, 218, 42, 180, 0, 10, 180, 0, 149, 44, 180, 1, 215, 100, 172]
abbrev dktX1_arrive_3 : List UInt8 := dkwX1_arrive_3 ++ []
def dkwX1_arrive_2 : List UInt8 := [79, 42, 180, 0, 10, 180, 1, 175, 44, 180, 1, 212, 182, 0, 81, 192, 1, 178, 42, 180, 0, 10]
abbrev dktX1_arrive_2 : List UInt8 := dkwX1_arrive_2 ++ dktX1_arrive_3
def dkwX1_arrive_1 : List UInt8 := [27, 44, 182, 1, 203, 182, 1, 207, 87, 42, 180, 0, 10, 180, 1, 37, 44, 180, 1, 211, 92, 46, 4, 96]
abbrev dktX1_arrive_1 : List UInt8 := dkwX1_arrive_1 ++ dktX1_arrive_2
def dkwX1_arrive_0 : List UInt8 := [42, 27, 182, 1, 196, 77, 44, 180, 1, 200, 154, 0, 7, 17, 252, 24, 172, 42, 180, 0, 10, 180, 1, 180]
abbrev dktX1_arrive_0 : List UInt8 := dkwX1_arrive_0 ++ dktX1_arrive_1
theorem dksX1_arrive_0 : cX1_arrive.data.toList.drop 0 = dktX1_arrive_0 := by decide +kernel
theorem dksX1_arrive_1 : cX1_arrive.data.toList.drop 24 = dktX1_arrive_1 := dk_seg dksX1_arrive_0 24 rfl rfl
theorem dksX1_arrive_2 : cX1_arrive.data.toList.drop 48 = dktX1_arrive_2 := dk_seg dksX1_arrive_1 24 rfl rfl
theorem dksX1_arrive_3 : cX1_arrive.data.toList.drop 70 = dktX1_arrive_3 := dk_seg dksX1_arrive_2 22 rfl rfl
theorem dX1_arrive_0 : decode cX1_arrive 0 = .ok (.aload_n 0, 1) := dk_42 (dk_at dksX1_arrive_0 0 rfl rfl)
theorem dX1_arrive_1 : decode cX1_arrive 1 = .ok (.iload_n 1, 1) := dk_27 (dk_at dksX1_arrive_0 1 rfl rfl)
theorem dX1_arrive_2 : decode cX1_arrive 2 = .ok (.invokevirtual 452, 3) := dk_182 1 196 (dk_at dksX1_arrive_0 2 rfl rfl)
theorem dX1_arrive_5 : decode cX1_arrive 5 = .ok (.astore_n 2, 1) := dk_77 (dk_at dksX1_arrive_0 5 rfl rfl)
theorem dX1_arrive_6 : decode cX1_arrive 6 = .ok (.aload_n 2, 1) := dk_44 (dk_at dksX1_arrive_0 6 rfl rfl)
theorem dX1_arrive_7 : decode cX1_arrive 7 = .ok (.getfield 456, 3) := dk_180 1 200 (dk_at dksX1_arrive_0 7 rfl rfl)
theorem dX1_arrive_10 : decode cX1_arrive 10 = .ok (.ifCond .ne 7, 3) := dk_154 0 7 (dk_at dksX1_arrive_0 10 rfl rfl)
theorem dX1_arrive_13 : decode cX1_arrive 13 = .ok (.sipush (-1000), 3) := dk_17 252 24 (dk_at dksX1_arrive_0 13 rfl rfl)
theorem dX1_arrive_16 : decode cX1_arrive 16 = .ok (.ireturn, 1) := dk_172 (dk_at dksX1_arrive_0 16 rfl rfl)
theorem dX1_arrive_17 : decode cX1_arrive 17 = .ok (.aload_n 0, 1) := dk_42 (dk_at dksX1_arrive_0 17 rfl rfl)
theorem dX1_arrive_18 : decode cX1_arrive 18 = .ok (.getfield 10, 3) := dk_180 0 10 (dk_at dksX1_arrive_0 18 rfl rfl)
theorem dX1_arrive_21 : decode cX1_arrive 21 = .ok (.getfield 436, 3) := dk_180 1 180 (dk_at dksX1_arrive_0 21 rfl rfl)
theorem dX1_arrive_24 : decode cX1_arrive 24 = .ok (.iload_n 1, 1) := dk_27 (dk_at dksX1_arrive_1 0 rfl rfl)
theorem dX1_arrive_25 : decode cX1_arrive 25 = .ok (.aload_n 2, 1) := dk_44 (dk_at dksX1_arrive_1 1 rfl rfl)
theorem dX1_arrive_26 : decode cX1_arrive 26 = .ok (.invokevirtual 459, 3) := dk_182 1 203 (dk_at dksX1_arrive_1 2 rfl rfl)
theorem dX1_arrive_29 : decode cX1_arrive 29 = .ok (.invokevirtual 463, 3) := dk_182 1 207 (dk_at dksX1_arrive_1 5 rfl rfl)
theorem dX1_arrive_32 : decode cX1_arrive 32 = .ok (.pop, 1) := dk_87 (dk_at dksX1_arrive_1 8 rfl rfl)
theorem dX1_arrive_33 : decode cX1_arrive 33 = .ok (.aload_n 0, 1) := dk_42 (dk_at dksX1_arrive_1 9 rfl rfl)
theorem dX1_arrive_34 : decode cX1_arrive 34 = .ok (.getfield 10, 3) := dk_180 0 10 (dk_at dksX1_arrive_1 10 rfl rfl)
theorem dX1_arrive_37 : decode cX1_arrive 37 = .ok (.getfield 293, 3) := dk_180 1 37 (dk_at dksX1_arrive_1 13 rfl rfl)
theorem dX1_arrive_40 : decode cX1_arrive 40 = .ok (.aload_n 2, 1) := dk_44 (dk_at dksX1_arrive_1 16 rfl rfl)
theorem dX1_arrive_41 : decode cX1_arrive 41 = .ok (.getfield 467, 3) := dk_180 1 211 (dk_at dksX1_arrive_1 17 rfl rfl)
theorem dX1_arrive_44 : decode cX1_arrive 44 = .ok (.dup2, 1) := dk_92 (dk_at dksX1_arrive_1 20 rfl rfl)
theorem dX1_arrive_45 : decode cX1_arrive 45 = .ok (.iaload, 1) := dk_46 (dk_at dksX1_arrive_1 21 rfl rfl)
theorem dX1_arrive_46 : decode cX1_arrive 46 = .ok (.iconst 1, 1) := dk_4 (dk_at dksX1_arrive_1 22 rfl rfl)
theorem dX1_arrive_47 : decode cX1_arrive 47 = .ok (.iadd, 1) := dk_96 (dk_at dksX1_arrive_1 23 rfl rfl)
theorem dX1_arrive_48 : decode cX1_arrive 48 = .ok (.iastore, 1) := dk_79 (dk_at dksX1_arrive_2 0 rfl rfl)
theorem dX1_arrive_49 : decode cX1_arrive 49 = .ok (.aload_n 0, 1) := dk_42 (dk_at dksX1_arrive_2 1 rfl rfl)
theorem dX1_arrive_50 : decode cX1_arrive 50 = .ok (.getfield 10, 3) := dk_180 0 10 (dk_at dksX1_arrive_2 2 rfl rfl)
theorem dX1_arrive_53 : decode cX1_arrive 53 = .ok (.getfield 431, 3) := dk_180 1 175 (dk_at dksX1_arrive_2 5 rfl rfl)
theorem dX1_arrive_56 : decode cX1_arrive 56 = .ok (.aload_n 2, 1) := dk_44 (dk_at dksX1_arrive_2 8 rfl rfl)
theorem dX1_arrive_57 : decode cX1_arrive 57 = .ok (.getfield 468, 3) := dk_180 1 212 (dk_at dksX1_arrive_2 9 rfl rfl)
theorem dX1_arrive_60 : decode cX1_arrive 60 = .ok (.invokevirtual 81, 3) := dk_182 0 81 (dk_at dksX1_arrive_2 12 rfl rfl)
theorem dX1_arrive_63 : decode cX1_arrive 63 = .ok (.checkcast 434, 3) := dk_192 1 178 (dk_at dksX1_arrive_2 15 rfl rfl)
theorem dX1_arrive_66 : decode cX1_arrive 66 = .ok (.aload_n 0, 1) := dk_42 (dk_at dksX1_arrive_2 18 rfl rfl)
theorem dX1_arrive_67 : decode cX1_arrive 67 = .ok (.getfield 10, 3) := dk_180 0 10 (dk_at dksX1_arrive_2 19 rfl rfl)
theorem dX1_arrive_70 : decode cX1_arrive 70 = .ok (.getfield 149, 3) := dk_180 0 149 (dk_at dksX1_arrive_3 0 rfl rfl)
theorem dX1_arrive_73 : decode cX1_arrive 73 = .ok (.aload_n 2, 1) := dk_44 (dk_at dksX1_arrive_3 3 rfl rfl)
theorem dX1_arrive_74 : decode cX1_arrive 74 = .ok (.getfield 471, 3) := dk_180 1 215 (dk_at dksX1_arrive_3 4 rfl rfl)
theorem dX1_arrive_77 : decode cX1_arrive 77 = .ok (.isub, 1) := dk_100 (dk_at dksX1_arrive_3 7 rfl rfl)
theorem dX1_arrive_78 : decode cX1_arrive 78 = .ok (.invokevirtual 474, 3) := dk_182 1 218 (dk_at dksX1_arrive_3 8 rfl rfl)
theorem dX1_arrive_81 : decode cX1_arrive 81 = .ok (.aload_n 0, 1) := dk_42 (dk_at dksX1_arrive_3 11 rfl rfl)
theorem dX1_arrive_82 : decode cX1_arrive 82 = .ok (.getfield 10, 3) := dk_180 0 10 (dk_at dksX1_arrive_3 12 rfl rfl)
theorem dX1_arrive_85 : decode cX1_arrive 85 = .ok (.getfield 149, 3) := dk_180 0 149 (dk_at dksX1_arrive_3 15 rfl rfl)
theorem dX1_arrive_88 : decode cX1_arrive 88 = .ok (.aload_n 2, 1) := dk_44 (dk_at dksX1_arrive_3 18 rfl rfl)
theorem dX1_arrive_89 : decode cX1_arrive 89 = .ok (.getfield 471, 3) := dk_180 1 215 (dk_at dksX1_arrive_3 19 rfl rfl)
theorem dX1_arrive_92 : decode cX1_arrive 92 = .ok (.isub, 1) := dk_100 (dk_at dksX1_arrive_3 22 rfl rfl)
theorem dX1_arrive_93 : decode cX1_arrive 93 = .ok (.ireturn, 1) := dk_172 (dk_at dksX1_arrive_3 23 rfl rfl)
abbrev cX1_orderedOf : ByteArray := prog_1_method_69_code
def yX1_orderedOf : MethodName := ⟨RX1, "orderedOf", "(I)LLimbBenches$Ordered;"⟩
def dkwX1_orderedOf_1 : List UInt8 := [183, 0, 80, 191, 42, 180, 0, 10, 180, 1, 180, 27, 182, 0, 81, 192, 1, 183, 176]
abbrev dktX1_orderedOf_1 : List UInt8 := dkwX1_orderedOf_1 ++ []
def dkwX1_orderedOf_0 : List UInt8 := [27, 155, 0, 17, 27, 42, 180, 0, 10, 180, 1, 180, 182, 0, 74, 161, 0, 11, 187, 0, 78, 89]
abbrev dktX1_orderedOf_0 : List UInt8 := dkwX1_orderedOf_0 ++ dktX1_orderedOf_1
theorem dksX1_orderedOf_0 : cX1_orderedOf.data.toList.drop 0 = dktX1_orderedOf_0 := by decide +kernel
theorem dksX1_orderedOf_1 : cX1_orderedOf.data.toList.drop 22 = dktX1_orderedOf_1 := dk_seg dksX1_orderedOf_0 22 rfl rfl
theorem dX1_orderedOf_0 : decode cX1_orderedOf 0 = .ok (.iload_n 1, 1) := dk_27 (dk_at dksX1_orderedOf_0 0 rfl rfl)
theorem dX1_orderedOf_1 : decode cX1_orderedOf 1 = .ok (.ifCond .lt 17, 3) := dk_155 0 17 (dk_at dksX1_orderedOf_0 1 rfl rfl)
theorem dX1_orderedOf_4 : decode cX1_orderedOf 4 = .ok (.iload_n 1, 1) := dk_27 (dk_at dksX1_orderedOf_0 4 rfl rfl)
theorem dX1_orderedOf_5 : decode cX1_orderedOf 5 = .ok (.aload_n 0, 1) := dk_42 (dk_at dksX1_orderedOf_0 5 rfl rfl)
theorem dX1_orderedOf_6 : decode cX1_orderedOf 6 = .ok (.getfield 10, 3) := dk_180 0 10 (dk_at dksX1_orderedOf_0 6 rfl rfl)
theorem dX1_orderedOf_9 : decode cX1_orderedOf 9 = .ok (.getfield 436, 3) := dk_180 1 180 (dk_at dksX1_orderedOf_0 9 rfl rfl)
theorem dX1_orderedOf_12 : decode cX1_orderedOf 12 = .ok (.invokevirtual 74, 3) := dk_182 0 74 (dk_at dksX1_orderedOf_0 12 rfl rfl)
theorem dX1_orderedOf_15 : decode cX1_orderedOf 15 = .ok (.if_icmp .lt 11, 3) := dk_161 0 11 (dk_at dksX1_orderedOf_0 15 rfl rfl)
theorem dX1_orderedOf_18 : decode cX1_orderedOf 18 = .ok (.new 78, 3) := dk_187 0 78 (dk_at dksX1_orderedOf_0 18 rfl rfl)
theorem dX1_orderedOf_21 : decode cX1_orderedOf 21 = .ok (.dup, 1) := dk_89 (dk_at dksX1_orderedOf_0 21 rfl rfl)
theorem dX1_orderedOf_22 : decode cX1_orderedOf 22 = .ok (.invokespecial 80, 3) := dk_183 0 80 (dk_at dksX1_orderedOf_1 0 rfl rfl)
theorem dX1_orderedOf_25 : decode cX1_orderedOf 25 = .ok (.athrow, 1) := dk_191 (dk_at dksX1_orderedOf_1 3 rfl rfl)
theorem dX1_orderedOf_26 : decode cX1_orderedOf 26 = .ok (.aload_n 0, 1) := dk_42 (dk_at dksX1_orderedOf_1 4 rfl rfl)
theorem dX1_orderedOf_27 : decode cX1_orderedOf 27 = .ok (.getfield 10, 3) := dk_180 0 10 (dk_at dksX1_orderedOf_1 5 rfl rfl)
theorem dX1_orderedOf_30 : decode cX1_orderedOf 30 = .ok (.getfield 436, 3) := dk_180 1 180 (dk_at dksX1_orderedOf_1 8 rfl rfl)
theorem dX1_orderedOf_33 : decode cX1_orderedOf 33 = .ok (.iload_n 1, 1) := dk_27 (dk_at dksX1_orderedOf_1 11 rfl rfl)
theorem dX1_orderedOf_34 : decode cX1_orderedOf 34 = .ok (.invokevirtual 81, 3) := dk_182 0 81 (dk_at dksX1_orderedOf_1 12 rfl rfl)
theorem dX1_orderedOf_37 : decode cX1_orderedOf 37 = .ok (.checkcast 439, 3) := dk_192 1 183 (dk_at dksX1_orderedOf_1 15 rfl rfl)
theorem dX1_orderedOf_40 : decode cX1_orderedOf 40 = .ok (.areturn, 1) := dk_176 (dk_at dksX1_orderedOf_1 18 rfl rfl)
abbrev cX1_lose : ByteArray := prog_1_method_73_code
def yX1_lose : MethodName := ⟨RX1, "lose", "(I)I"⟩
def dkwX1_lose_2 : List UInt8 := [89, 180, 1, 221, 4, 96, 181, 1, 221, 4, 172]
abbrev dktX1_lose_2 : List UInt8 := dkwX1_lose_2 ++ []
def dkwX1_lose_1 : List UInt8 := [182, 1, 203, 182, 1, 207, 87, 42, 180, 0, 10, 180, 1, 175, 44, 180, 1, 212, 182, 0, 81, 192, 1, 178]
abbrev dktX1_lose_1 : List UInt8 := dkwX1_lose_1 ++ dktX1_lose_2
def dkwX1_lose_0 : List UInt8 := [42, 27, 182, 1, 196, 77, 44, 180, 1, 200, 154, 0, 5, 3, 172, 42, 180, 0, 10, 180, 1, 180, 27, 44]
abbrev dktX1_lose_0 : List UInt8 := dkwX1_lose_0 ++ dktX1_lose_1
theorem dksX1_lose_0 : cX1_lose.data.toList.drop 0 = dktX1_lose_0 := by decide +kernel
theorem dksX1_lose_1 : cX1_lose.data.toList.drop 24 = dktX1_lose_1 := dk_seg dksX1_lose_0 24 rfl rfl
theorem dksX1_lose_2 : cX1_lose.data.toList.drop 48 = dktX1_lose_2 := dk_seg dksX1_lose_1 24 rfl rfl
theorem dX1_lose_0 : decode cX1_lose 0 = .ok (.aload_n 0, 1) := dk_42 (dk_at dksX1_lose_0 0 rfl rfl)
theorem dX1_lose_1 : decode cX1_lose 1 = .ok (.iload_n 1, 1) := dk_27 (dk_at dksX1_lose_0 1 rfl rfl)
theorem dX1_lose_2 : decode cX1_lose 2 = .ok (.invokevirtual 452, 3) := dk_182 1 196 (dk_at dksX1_lose_0 2 rfl rfl)
theorem dX1_lose_5 : decode cX1_lose 5 = .ok (.astore_n 2, 1) := dk_77 (dk_at dksX1_lose_0 5 rfl rfl)
theorem dX1_lose_6 : decode cX1_lose 6 = .ok (.aload_n 2, 1) := dk_44 (dk_at dksX1_lose_0 6 rfl rfl)
theorem dX1_lose_7 : decode cX1_lose 7 = .ok (.getfield 456, 3) := dk_180 1 200 (dk_at dksX1_lose_0 7 rfl rfl)
theorem dX1_lose_10 : decode cX1_lose 10 = .ok (.ifCond .ne 5, 3) := dk_154 0 5 (dk_at dksX1_lose_0 10 rfl rfl)
theorem dX1_lose_13 : decode cX1_lose 13 = .ok (.iconst 0, 1) := dk_3 (dk_at dksX1_lose_0 13 rfl rfl)
theorem dX1_lose_14 : decode cX1_lose 14 = .ok (.ireturn, 1) := dk_172 (dk_at dksX1_lose_0 14 rfl rfl)
theorem dX1_lose_15 : decode cX1_lose 15 = .ok (.aload_n 0, 1) := dk_42 (dk_at dksX1_lose_0 15 rfl rfl)
theorem dX1_lose_16 : decode cX1_lose 16 = .ok (.getfield 10, 3) := dk_180 0 10 (dk_at dksX1_lose_0 16 rfl rfl)
theorem dX1_lose_19 : decode cX1_lose 19 = .ok (.getfield 436, 3) := dk_180 1 180 (dk_at dksX1_lose_0 19 rfl rfl)
theorem dX1_lose_22 : decode cX1_lose 22 = .ok (.iload_n 1, 1) := dk_27 (dk_at dksX1_lose_0 22 rfl rfl)
theorem dX1_lose_23 : decode cX1_lose 23 = .ok (.aload_n 2, 1) := dk_44 (dk_at dksX1_lose_0 23 rfl rfl)
theorem dX1_lose_24 : decode cX1_lose 24 = .ok (.invokevirtual 459, 3) := dk_182 1 203 (dk_at dksX1_lose_1 0 rfl rfl)
theorem dX1_lose_27 : decode cX1_lose 27 = .ok (.invokevirtual 463, 3) := dk_182 1 207 (dk_at dksX1_lose_1 3 rfl rfl)
theorem dX1_lose_30 : decode cX1_lose 30 = .ok (.pop, 1) := dk_87 (dk_at dksX1_lose_1 6 rfl rfl)
theorem dX1_lose_31 : decode cX1_lose 31 = .ok (.aload_n 0, 1) := dk_42 (dk_at dksX1_lose_1 7 rfl rfl)
theorem dX1_lose_32 : decode cX1_lose 32 = .ok (.getfield 10, 3) := dk_180 0 10 (dk_at dksX1_lose_1 8 rfl rfl)
theorem dX1_lose_35 : decode cX1_lose 35 = .ok (.getfield 431, 3) := dk_180 1 175 (dk_at dksX1_lose_1 11 rfl rfl)
theorem dX1_lose_38 : decode cX1_lose 38 = .ok (.aload_n 2, 1) := dk_44 (dk_at dksX1_lose_1 14 rfl rfl)
theorem dX1_lose_39 : decode cX1_lose 39 = .ok (.getfield 468, 3) := dk_180 1 212 (dk_at dksX1_lose_1 15 rfl rfl)
theorem dX1_lose_42 : decode cX1_lose 42 = .ok (.invokevirtual 81, 3) := dk_182 0 81 (dk_at dksX1_lose_1 18 rfl rfl)
theorem dX1_lose_45 : decode cX1_lose 45 = .ok (.checkcast 434, 3) := dk_192 1 178 (dk_at dksX1_lose_1 21 rfl rfl)
theorem dX1_lose_48 : decode cX1_lose 48 = .ok (.dup, 1) := dk_89 (dk_at dksX1_lose_2 0 rfl rfl)
theorem dX1_lose_49 : decode cX1_lose 49 = .ok (.getfield 477, 3) := dk_180 1 221 (dk_at dksX1_lose_2 1 rfl rfl)
theorem dX1_lose_52 : decode cX1_lose 52 = .ok (.iconst 1, 1) := dk_4 (dk_at dksX1_lose_2 4 rfl rfl)
theorem dX1_lose_53 : decode cX1_lose 53 = .ok (.iadd, 1) := dk_96 (dk_at dksX1_lose_2 5 rfl rfl)
theorem dX1_lose_54 : decode cX1_lose 54 = .ok (.putfield 477, 3) := dk_181 1 221 (dk_at dksX1_lose_2 6 rfl rfl)
theorem dX1_lose_57 : decode cX1_lose 57 = .ok (.iconst 1, 1) := dk_4 (dk_at dksX1_lose_2 9 rfl rfl)
theorem dX1_lose_58 : decode cX1_lose 58 = .ok (.ireturn, 1) := dk_172 (dk_at dksX1_lose_2 10 rfl rfl)
abbrev cX1_forecast : ByteArray := prog_1_method_74_code
def yX1_forecast : MethodName := ⟨RX1, "forecast", "(IZ)I"⟩
def dkwX1_forecast_2 : List UInt8 := [25, 4, 180, 1, 224, 167, 0, 8, 25, 4, 180, 1, 227, 96, 184, 0, 224, 167, 0, 4, 2, 172]
abbrev dktX1_forecast_2 : List UInt8 := dkwX1_forecast_2 ++ []
def dkwX1_forecast_1 : List UInt8 := [58, 4, 45, 180, 1, 200, 153, 0, 38, 42, 180, 0, 10, 180, 0, 149, 45, 180, 1, 215, 28, 153, 0, 11]
abbrev dktX1_forecast_1 : List UInt8 := dkwX1_forecast_1 ++ dktX1_forecast_2
def dkwX1_forecast_0 : List UInt8 := [42, 27, 182, 1, 196, 78, 42, 180, 0, 10, 180, 1, 175, 45, 180, 1, 212, 182, 0, 81, 192, 1, 178]
abbrev dktX1_forecast_0 : List UInt8 := dkwX1_forecast_0 ++ dktX1_forecast_1
theorem dksX1_forecast_0 : cX1_forecast.data.toList.drop 0 = dktX1_forecast_0 := by decide +kernel
theorem dksX1_forecast_1 : cX1_forecast.data.toList.drop 23 = dktX1_forecast_1 := dk_seg dksX1_forecast_0 23 rfl rfl
theorem dksX1_forecast_2 : cX1_forecast.data.toList.drop 47 = dktX1_forecast_2 := dk_seg dksX1_forecast_1 24 rfl rfl
theorem dX1_forecast_0 : decode cX1_forecast 0 = .ok (.aload_n 0, 1) := dk_42 (dk_at dksX1_forecast_0 0 rfl rfl)
theorem dX1_forecast_1 : decode cX1_forecast 1 = .ok (.iload_n 1, 1) := dk_27 (dk_at dksX1_forecast_0 1 rfl rfl)
theorem dX1_forecast_2 : decode cX1_forecast 2 = .ok (.invokevirtual 452, 3) := dk_182 1 196 (dk_at dksX1_forecast_0 2 rfl rfl)
theorem dX1_forecast_5 : decode cX1_forecast 5 = .ok (.astore_n 3, 1) := dk_78 (dk_at dksX1_forecast_0 5 rfl rfl)
theorem dX1_forecast_6 : decode cX1_forecast 6 = .ok (.aload_n 0, 1) := dk_42 (dk_at dksX1_forecast_0 6 rfl rfl)
theorem dX1_forecast_7 : decode cX1_forecast 7 = .ok (.getfield 10, 3) := dk_180 0 10 (dk_at dksX1_forecast_0 7 rfl rfl)
theorem dX1_forecast_10 : decode cX1_forecast 10 = .ok (.getfield 431, 3) := dk_180 1 175 (dk_at dksX1_forecast_0 10 rfl rfl)
theorem dX1_forecast_13 : decode cX1_forecast 13 = .ok (.aload_n 3, 1) := dk_45 (dk_at dksX1_forecast_0 13 rfl rfl)
theorem dX1_forecast_14 : decode cX1_forecast 14 = .ok (.getfield 468, 3) := dk_180 1 212 (dk_at dksX1_forecast_0 14 rfl rfl)
theorem dX1_forecast_17 : decode cX1_forecast 17 = .ok (.invokevirtual 81, 3) := dk_182 0 81 (dk_at dksX1_forecast_0 17 rfl rfl)
theorem dX1_forecast_20 : decode cX1_forecast 20 = .ok (.checkcast 434, 3) := dk_192 1 178 (dk_at dksX1_forecast_0 20 rfl rfl)
theorem dX1_forecast_23 : decode cX1_forecast 23 = .ok (.astore 4, 2) := dk_58 4 (dk_at dksX1_forecast_1 0 rfl rfl)
theorem dX1_forecast_25 : decode cX1_forecast 25 = .ok (.aload_n 3, 1) := dk_45 (dk_at dksX1_forecast_1 2 rfl rfl)
theorem dX1_forecast_26 : decode cX1_forecast 26 = .ok (.getfield 456, 3) := dk_180 1 200 (dk_at dksX1_forecast_1 3 rfl rfl)
theorem dX1_forecast_29 : decode cX1_forecast 29 = .ok (.ifCond .eq 38, 3) := dk_153 0 38 (dk_at dksX1_forecast_1 6 rfl rfl)
theorem dX1_forecast_32 : decode cX1_forecast 32 = .ok (.aload_n 0, 1) := dk_42 (dk_at dksX1_forecast_1 9 rfl rfl)
theorem dX1_forecast_33 : decode cX1_forecast 33 = .ok (.getfield 10, 3) := dk_180 0 10 (dk_at dksX1_forecast_1 10 rfl rfl)
theorem dX1_forecast_36 : decode cX1_forecast 36 = .ok (.getfield 149, 3) := dk_180 0 149 (dk_at dksX1_forecast_1 13 rfl rfl)
theorem dX1_forecast_39 : decode cX1_forecast 39 = .ok (.aload_n 3, 1) := dk_45 (dk_at dksX1_forecast_1 16 rfl rfl)
theorem dX1_forecast_40 : decode cX1_forecast 40 = .ok (.getfield 471, 3) := dk_180 1 215 (dk_at dksX1_forecast_1 17 rfl rfl)
theorem dX1_forecast_43 : decode cX1_forecast 43 = .ok (.iload_n 2, 1) := dk_28 (dk_at dksX1_forecast_1 20 rfl rfl)
theorem dX1_forecast_44 : decode cX1_forecast 44 = .ok (.ifCond .eq 11, 3) := dk_153 0 11 (dk_at dksX1_forecast_1 21 rfl rfl)
theorem dX1_forecast_47 : decode cX1_forecast 47 = .ok (.aload 4, 2) := dk_25 4 (dk_at dksX1_forecast_2 0 rfl rfl)
theorem dX1_forecast_49 : decode cX1_forecast 49 = .ok (.getfield 480, 3) := dk_180 1 224 (dk_at dksX1_forecast_2 2 rfl rfl)
theorem dX1_forecast_52 : decode cX1_forecast 52 = .ok (.goto 8, 3) := dk_167 0 8 (dk_at dksX1_forecast_2 5 rfl rfl)
theorem dX1_forecast_55 : decode cX1_forecast 55 = .ok (.aload 4, 2) := dk_25 4 (dk_at dksX1_forecast_2 8 rfl rfl)
theorem dX1_forecast_57 : decode cX1_forecast 57 = .ok (.getfield 483, 3) := dk_180 1 227 (dk_at dksX1_forecast_2 10 rfl rfl)
theorem dX1_forecast_60 : decode cX1_forecast 60 = .ok (.iadd, 1) := dk_96 (dk_at dksX1_forecast_2 13 rfl rfl)
theorem dX1_forecast_61 : decode cX1_forecast 61 = .ok (.invokestatic 224, 3) := dk_184 0 224 (dk_at dksX1_forecast_2 14 rfl rfl)
theorem dX1_forecast_64 : decode cX1_forecast 64 = .ok (.goto 4, 3) := dk_167 0 4 (dk_at dksX1_forecast_2 17 rfl rfl)
theorem dX1_forecast_67 : decode cX1_forecast 67 = .ok (.iconst (-1), 1) := dk_2 (dk_at dksX1_forecast_2 20 rfl rfl)
theorem dX1_forecast_68 : decode cX1_forecast 68 = .ok (.ireturn, 1) := dk_172 (dk_at dksX1_forecast_2 21 rfl rfl)
abbrev cX1_late : ByteArray := prog_1_method_75_code
def yX1_late : MethodName := ⟨RX1, "late", "(II)I"⟩
def dkwX1_late_7 : List UInt8 := [180, 1, 227, 172, 45, 180, 1, 224, 172]
abbrev dktX1_late_7 : List UInt8 := dkwX1_late_7 ++ []
def dkwX1_late_6 : List UInt8 := [45, 180, 1, 190, 172, 21, 4, 172, 45, 180, 1, 230, 172, 45, 180, 1, 221, 172, 45, 180, 1, 233, 172, 45]
abbrev dktX1_late_6 : List UInt8 := dkwX1_late_6 ++ dktX1_late_7
def dkwX1_late_5 : List UInt8 := [170, 0, 0, 0, 0, 0, 67, 0, 0, 0, 0, 0, 0, 0, 5, 0, 0, 0, 39, 0, 0, 0, 44, 0, 0, 0, 47, 0, 0, 0, 52, 0, 0, 0, 57, 0, 0, 0, 62]
abbrev dktX1_late_5 : List UInt8 := dkwX1_late_5 ++ dktX1_late_6
def dkwX1_late_4 : List UInt8 := [54, 4, 132, 5, 1, 167, 255, 185, 28]
abbrev dktX1_late_4 : List UInt8 := dkwX1_late_4 ++ dktX1_late_5
def dkwX1_late_3 : List UInt8 := [180, 1, 180, 21, 5, 182, 0, 81, 192, 1, 183, 180, 1, 212, 27, 160, 0, 7, 4, 167, 0, 4, 3, 96]
abbrev dktX1_late_3 : List UInt8 := dkwX1_late_3 ++ dktX1_late_4
def dkwX1_late_2 : List UInt8 := [180, 0, 10, 180, 1, 180, 21, 5, 182, 0, 81, 192, 1, 183, 180, 1, 200, 153, 0, 29, 42, 180, 0, 10]
abbrev dktX1_late_2 : List UInt8 := dkwX1_late_2 ++ dktX1_late_3
def dkwX1_late_1 : List UInt8 := [3, 54, 4, 3, 54, 5, 21, 5, 42, 180, 0, 10, 180, 1, 180, 182, 0, 74, 162, 0, 62, 21, 4, 42]
abbrev dktX1_late_1 : List UInt8 := dkwX1_late_1 ++ dktX1_late_2
def dkwX1_late_0 : List UInt8 := [42, 27, 182, 1, 186, 78, 28, 155, 0, 13, 28, 16, 6, 163, 0, 7, 4, 167, 0, 4, 3, 184, 0, 105]
abbrev dktX1_late_0 : List UInt8 := dkwX1_late_0 ++ dktX1_late_1
theorem dksX1_late_0 : cX1_late.data.toList.drop 0 = dktX1_late_0 := by decide +kernel
theorem dksX1_late_1 : cX1_late.data.toList.drop 24 = dktX1_late_1 := dk_seg dksX1_late_0 24 rfl rfl
theorem dksX1_late_2 : cX1_late.data.toList.drop 48 = dktX1_late_2 := dk_seg dksX1_late_1 24 rfl rfl
theorem dksX1_late_3 : cX1_late.data.toList.drop 72 = dktX1_late_3 := dk_seg dksX1_late_2 24 rfl rfl
theorem dksX1_late_4 : cX1_late.data.toList.drop 96 = dktX1_late_4 := dk_seg dksX1_late_3 24 rfl rfl
theorem dksX1_late_5 : cX1_late.data.toList.drop 105 = dktX1_late_5 := dk_seg dksX1_late_4 9 rfl rfl
theorem dksX1_late_6 : cX1_late.data.toList.drop 144 = dktX1_late_6 := dk_seg dksX1_late_5 39 rfl rfl
theorem dksX1_late_7 : cX1_late.data.toList.drop 168 = dktX1_late_7 := dk_seg dksX1_late_6 24 rfl rfl
theorem dX1_late_0 : decode cX1_late 0 = .ok (.aload_n 0, 1) := dk_42 (dk_at dksX1_late_0 0 rfl rfl)
theorem dX1_late_1 : decode cX1_late 1 = .ok (.iload_n 1, 1) := dk_27 (dk_at dksX1_late_0 1 rfl rfl)
theorem dX1_late_2 : decode cX1_late 2 = .ok (.invokevirtual 442, 3) := dk_182 1 186 (dk_at dksX1_late_0 2 rfl rfl)
theorem dX1_late_5 : decode cX1_late 5 = .ok (.astore_n 3, 1) := dk_78 (dk_at dksX1_late_0 5 rfl rfl)
theorem dX1_late_6 : decode cX1_late 6 = .ok (.iload_n 2, 1) := dk_28 (dk_at dksX1_late_0 6 rfl rfl)
theorem dX1_late_7 : decode cX1_late 7 = .ok (.ifCond .lt 13, 3) := dk_155 0 13 (dk_at dksX1_late_0 7 rfl rfl)
theorem dX1_late_10 : decode cX1_late 10 = .ok (.iload_n 2, 1) := dk_28 (dk_at dksX1_late_0 10 rfl rfl)
theorem dX1_late_11 : decode cX1_late 11 = .ok (.bipush 6, 2) := dk_16 6 (dk_at dksX1_late_0 11 rfl rfl)
theorem dX1_late_13 : decode cX1_late 13 = .ok (.if_icmp .gt 7, 3) := dk_163 0 7 (dk_at dksX1_late_0 13 rfl rfl)
theorem dX1_late_16 : decode cX1_late 16 = .ok (.iconst 1, 1) := dk_4 (dk_at dksX1_late_0 16 rfl rfl)
theorem dX1_late_17 : decode cX1_late 17 = .ok (.goto 4, 3) := dk_167 0 4 (dk_at dksX1_late_0 17 rfl rfl)
theorem dX1_late_20 : decode cX1_late 20 = .ok (.iconst 0, 1) := dk_3 (dk_at dksX1_late_0 20 rfl rfl)
theorem dX1_late_21 : decode cX1_late 21 = .ok (.invokestatic 105, 3) := dk_184 0 105 (dk_at dksX1_late_0 21 rfl rfl)
theorem dX1_late_24 : decode cX1_late 24 = .ok (.iconst 0, 1) := dk_3 (dk_at dksX1_late_1 0 rfl rfl)
theorem dX1_late_25 : decode cX1_late 25 = .ok (.istore 4, 2) := dk_54 4 (dk_at dksX1_late_1 1 rfl rfl)
theorem dX1_late_27 : decode cX1_late 27 = .ok (.iconst 0, 1) := dk_3 (dk_at dksX1_late_1 3 rfl rfl)
theorem dX1_late_28 : decode cX1_late 28 = .ok (.istore 5, 2) := dk_54 5 (dk_at dksX1_late_1 4 rfl rfl)
theorem dX1_late_30 : decode cX1_late 30 = .ok (.iload 5, 2) := dk_21 5 (dk_at dksX1_late_1 6 rfl rfl)
theorem dX1_late_32 : decode cX1_late 32 = .ok (.aload_n 0, 1) := dk_42 (dk_at dksX1_late_1 8 rfl rfl)
theorem dX1_late_33 : decode cX1_late 33 = .ok (.getfield 10, 3) := dk_180 0 10 (dk_at dksX1_late_1 9 rfl rfl)
theorem dX1_late_36 : decode cX1_late 36 = .ok (.getfield 436, 3) := dk_180 1 180 (dk_at dksX1_late_1 12 rfl rfl)
theorem dX1_late_39 : decode cX1_late 39 = .ok (.invokevirtual 74, 3) := dk_182 0 74 (dk_at dksX1_late_1 15 rfl rfl)
theorem dX1_late_42 : decode cX1_late 42 = .ok (.if_icmp .ge 62, 3) := dk_162 0 62 (dk_at dksX1_late_1 18 rfl rfl)
theorem dX1_late_45 : decode cX1_late 45 = .ok (.iload 4, 2) := dk_21 4 (dk_at dksX1_late_1 21 rfl rfl)
theorem dX1_late_47 : decode cX1_late 47 = .ok (.aload_n 0, 1) := dk_42 (dk_at dksX1_late_1 23 rfl rfl)
theorem dX1_late_48 : decode cX1_late 48 = .ok (.getfield 10, 3) := dk_180 0 10 (dk_at dksX1_late_2 0 rfl rfl)
theorem dX1_late_51 : decode cX1_late 51 = .ok (.getfield 436, 3) := dk_180 1 180 (dk_at dksX1_late_2 3 rfl rfl)
theorem dX1_late_54 : decode cX1_late 54 = .ok (.iload 5, 2) := dk_21 5 (dk_at dksX1_late_2 6 rfl rfl)
theorem dX1_late_56 : decode cX1_late 56 = .ok (.invokevirtual 81, 3) := dk_182 0 81 (dk_at dksX1_late_2 8 rfl rfl)
theorem dX1_late_59 : decode cX1_late 59 = .ok (.checkcast 439, 3) := dk_192 1 183 (dk_at dksX1_late_2 11 rfl rfl)
theorem dX1_late_62 : decode cX1_late 62 = .ok (.getfield 456, 3) := dk_180 1 200 (dk_at dksX1_late_2 14 rfl rfl)
theorem dX1_late_65 : decode cX1_late 65 = .ok (.ifCond .eq 29, 3) := dk_153 0 29 (dk_at dksX1_late_2 17 rfl rfl)
theorem dX1_late_68 : decode cX1_late 68 = .ok (.aload_n 0, 1) := dk_42 (dk_at dksX1_late_2 20 rfl rfl)
theorem dX1_late_69 : decode cX1_late 69 = .ok (.getfield 10, 3) := dk_180 0 10 (dk_at dksX1_late_2 21 rfl rfl)
theorem dX1_late_72 : decode cX1_late 72 = .ok (.getfield 436, 3) := dk_180 1 180 (dk_at dksX1_late_3 0 rfl rfl)
theorem dX1_late_75 : decode cX1_late 75 = .ok (.iload 5, 2) := dk_21 5 (dk_at dksX1_late_3 3 rfl rfl)
theorem dX1_late_77 : decode cX1_late 77 = .ok (.invokevirtual 81, 3) := dk_182 0 81 (dk_at dksX1_late_3 5 rfl rfl)
theorem dX1_late_80 : decode cX1_late 80 = .ok (.checkcast 439, 3) := dk_192 1 183 (dk_at dksX1_late_3 8 rfl rfl)
theorem dX1_late_83 : decode cX1_late 83 = .ok (.getfield 468, 3) := dk_180 1 212 (dk_at dksX1_late_3 11 rfl rfl)
theorem dX1_late_86 : decode cX1_late 86 = .ok (.iload_n 1, 1) := dk_27 (dk_at dksX1_late_3 14 rfl rfl)
theorem dX1_late_87 : decode cX1_late 87 = .ok (.if_icmp .ne 7, 3) := dk_160 0 7 (dk_at dksX1_late_3 15 rfl rfl)
theorem dX1_late_90 : decode cX1_late 90 = .ok (.iconst 1, 1) := dk_4 (dk_at dksX1_late_3 18 rfl rfl)
theorem dX1_late_91 : decode cX1_late 91 = .ok (.goto 4, 3) := dk_167 0 4 (dk_at dksX1_late_3 19 rfl rfl)
theorem dX1_late_94 : decode cX1_late 94 = .ok (.iconst 0, 1) := dk_3 (dk_at dksX1_late_3 22 rfl rfl)
theorem dX1_late_95 : decode cX1_late 95 = .ok (.iadd, 1) := dk_96 (dk_at dksX1_late_3 23 rfl rfl)
theorem dX1_late_96 : decode cX1_late 96 = .ok (.istore 4, 2) := dk_54 4 (dk_at dksX1_late_4 0 rfl rfl)
theorem dX1_late_98 : decode cX1_late 98 = .ok (.iinc 5 1, 3) := dk_132 5 1 (dk_at dksX1_late_4 2 rfl rfl)
theorem dX1_late_101 : decode cX1_late 101 = .ok (.goto (-71), 3) := dk_167 255 185 (dk_at dksX1_late_4 5 rfl rfl)
theorem dX1_late_104 : decode cX1_late 104 = .ok (.iload_n 2, 1) := dk_28 (dk_at dksX1_late_4 8 rfl rfl)
theorem dX1_late_105 : decode cX1_late 105 = .ok (.tableswitch 67 0 5 #[39, 44, 47, 52, 57, 62], 39) := by decide +kernel
theorem dX1_late_144 : decode cX1_late 144 = .ok (.aload_n 3, 1) := dk_45 (dk_at dksX1_late_6 0 rfl rfl)
theorem dX1_late_145 : decode cX1_late 145 = .ok (.getfield 446, 3) := dk_180 1 190 (dk_at dksX1_late_6 1 rfl rfl)
theorem dX1_late_148 : decode cX1_late 148 = .ok (.ireturn, 1) := dk_172 (dk_at dksX1_late_6 4 rfl rfl)
theorem dX1_late_149 : decode cX1_late 149 = .ok (.iload 4, 2) := dk_21 4 (dk_at dksX1_late_6 5 rfl rfl)
theorem dX1_late_151 : decode cX1_late 151 = .ok (.ireturn, 1) := dk_172 (dk_at dksX1_late_6 7 rfl rfl)
theorem dX1_late_152 : decode cX1_late 152 = .ok (.aload_n 3, 1) := dk_45 (dk_at dksX1_late_6 8 rfl rfl)
theorem dX1_late_153 : decode cX1_late 153 = .ok (.getfield 486, 3) := dk_180 1 230 (dk_at dksX1_late_6 9 rfl rfl)
theorem dX1_late_156 : decode cX1_late 156 = .ok (.ireturn, 1) := dk_172 (dk_at dksX1_late_6 12 rfl rfl)
theorem dX1_late_157 : decode cX1_late 157 = .ok (.aload_n 3, 1) := dk_45 (dk_at dksX1_late_6 13 rfl rfl)
theorem dX1_late_158 : decode cX1_late 158 = .ok (.getfield 477, 3) := dk_180 1 221 (dk_at dksX1_late_6 14 rfl rfl)
theorem dX1_late_161 : decode cX1_late 161 = .ok (.ireturn, 1) := dk_172 (dk_at dksX1_late_6 17 rfl rfl)
theorem dX1_late_162 : decode cX1_late 162 = .ok (.aload_n 3, 1) := dk_45 (dk_at dksX1_late_6 18 rfl rfl)
theorem dX1_late_163 : decode cX1_late 163 = .ok (.getfield 489, 3) := dk_180 1 233 (dk_at dksX1_late_6 19 rfl rfl)
theorem dX1_late_166 : decode cX1_late 166 = .ok (.ireturn, 1) := dk_172 (dk_at dksX1_late_6 22 rfl rfl)
theorem dX1_late_167 : decode cX1_late 167 = .ok (.aload_n 3, 1) := dk_45 (dk_at dksX1_late_6 23 rfl rfl)
theorem dX1_late_168 : decode cX1_late 168 = .ok (.getfield 483, 3) := dk_180 1 227 (dk_at dksX1_late_7 0 rfl rfl)
theorem dX1_late_171 : decode cX1_late 171 = .ok (.ireturn, 1) := dk_172 (dk_at dksX1_late_7 3 rfl rfl)
theorem dX1_late_172 : decode cX1_late 172 = .ok (.aload_n 3, 1) := dk_45 (dk_at dksX1_late_7 4 rfl rfl)
theorem dX1_late_173 : decode cX1_late 173 = .ok (.getfield 480, 3) := dk_180 1 224 (dk_at dksX1_late_7 5 rfl rfl)
theorem dX1_late_176 : decode cX1_late 176 = .ok (.ireturn, 1) := dk_172 (dk_at dksX1_late_7 8 rfl rfl)
abbrev cX1_stock : ByteArray := prog_1_method_76_code
def yX1_stock : MethodName := ⟨RX1, "stock", "(I)I"⟩
def dkwX1_stock_0 : List UInt8 := [42, 27, 182, 0, 250, 87, 42, 180, 0, 10, 180, 1, 37, 27, 46, 172]
abbrev dktX1_stock_0 : List UInt8 := dkwX1_stock_0 ++ []
theorem dksX1_stock_0 : cX1_stock.data.toList.drop 0 = dktX1_stock_0 := by decide +kernel
theorem dX1_stock_0 : decode cX1_stock 0 = .ok (.aload_n 0, 1) := dk_42 (dk_at dksX1_stock_0 0 rfl rfl)
theorem dX1_stock_1 : decode cX1_stock 1 = .ok (.iload_n 1, 1) := dk_27 (dk_at dksX1_stock_0 1 rfl rfl)
theorem dX1_stock_2 : decode cX1_stock 2 = .ok (.invokevirtual 250, 3) := dk_182 0 250 (dk_at dksX1_stock_0 2 rfl rfl)
theorem dX1_stock_5 : decode cX1_stock 5 = .ok (.pop, 1) := dk_87 (dk_at dksX1_stock_0 5 rfl rfl)
theorem dX1_stock_6 : decode cX1_stock 6 = .ok (.aload_n 0, 1) := dk_42 (dk_at dksX1_stock_0 6 rfl rfl)
theorem dX1_stock_7 : decode cX1_stock 7 = .ok (.getfield 10, 3) := dk_180 0 10 (dk_at dksX1_stock_0 7 rfl rfl)
theorem dX1_stock_10 : decode cX1_stock 10 = .ok (.getfield 293, 3) := dk_180 1 37 (dk_at dksX1_stock_0 10 rfl rfl)
theorem dX1_stock_13 : decode cX1_stock 13 = .ok (.iload_n 1, 1) := dk_27 (dk_at dksX1_stock_0 13 rfl rfl)
theorem dX1_stock_14 : decode cX1_stock 14 = .ok (.iaload, 1) := dk_46 (dk_at dksX1_stock_0 14 rfl rfl)
theorem dX1_stock_15 : decode cX1_stock 15 = .ok (.ireturn, 1) := dk_172 (dk_at dksX1_stock_0 15 rfl rfl)
abbrev cX1_spare : ByteArray := prog_1_method_77_code
def yX1_spare : MethodName := ⟨RX1, "spare", "(I)I"⟩
def dkwX1_spare_2 : List UInt8 := [181, 1, 236, 42, 180, 0, 10, 180, 1, 236, 172]
abbrev dktX1_spare_2 : List UInt8 := dkwX1_spare_2 ++ []
def dkwX1_spare_1 : List UInt8 := [180, 1, 239, 42, 180, 0, 10, 180, 1, 236, 27, 79, 42, 180, 0, 10, 89, 180, 1, 236, 4, 96]
abbrev dktX1_spare_1 : List UInt8 := dkwX1_spare_1 ++ dktX1_spare_2
def dkwX1_spare_0 : List UInt8 := [42, 27, 182, 0, 250, 87, 42, 180, 0, 10, 180, 1, 236, 16, 6, 160, 0, 5, 2, 172, 42, 180, 0, 10]
abbrev dktX1_spare_0 : List UInt8 := dkwX1_spare_0 ++ dktX1_spare_1
theorem dksX1_spare_0 : cX1_spare.data.toList.drop 0 = dktX1_spare_0 := by decide +kernel
theorem dksX1_spare_1 : cX1_spare.data.toList.drop 24 = dktX1_spare_1 := dk_seg dksX1_spare_0 24 rfl rfl
theorem dksX1_spare_2 : cX1_spare.data.toList.drop 46 = dktX1_spare_2 := dk_seg dksX1_spare_1 22 rfl rfl
theorem dX1_spare_0 : decode cX1_spare 0 = .ok (.aload_n 0, 1) := dk_42 (dk_at dksX1_spare_0 0 rfl rfl)
theorem dX1_spare_1 : decode cX1_spare 1 = .ok (.iload_n 1, 1) := dk_27 (dk_at dksX1_spare_0 1 rfl rfl)
theorem dX1_spare_2 : decode cX1_spare 2 = .ok (.invokevirtual 250, 3) := dk_182 0 250 (dk_at dksX1_spare_0 2 rfl rfl)
theorem dX1_spare_5 : decode cX1_spare 5 = .ok (.pop, 1) := dk_87 (dk_at dksX1_spare_0 5 rfl rfl)
theorem dX1_spare_6 : decode cX1_spare 6 = .ok (.aload_n 0, 1) := dk_42 (dk_at dksX1_spare_0 6 rfl rfl)
theorem dX1_spare_7 : decode cX1_spare 7 = .ok (.getfield 10, 3) := dk_180 0 10 (dk_at dksX1_spare_0 7 rfl rfl)
theorem dX1_spare_10 : decode cX1_spare 10 = .ok (.getfield 492, 3) := dk_180 1 236 (dk_at dksX1_spare_0 10 rfl rfl)
theorem dX1_spare_13 : decode cX1_spare 13 = .ok (.bipush 6, 2) := dk_16 6 (dk_at dksX1_spare_0 13 rfl rfl)
theorem dX1_spare_15 : decode cX1_spare 15 = .ok (.if_icmp .ne 5, 3) := dk_160 0 5 (dk_at dksX1_spare_0 15 rfl rfl)
theorem dX1_spare_18 : decode cX1_spare 18 = .ok (.iconst (-1), 1) := dk_2 (dk_at dksX1_spare_0 18 rfl rfl)
theorem dX1_spare_19 : decode cX1_spare 19 = .ok (.ireturn, 1) := dk_172 (dk_at dksX1_spare_0 19 rfl rfl)
theorem dX1_spare_20 : decode cX1_spare 20 = .ok (.aload_n 0, 1) := dk_42 (dk_at dksX1_spare_0 20 rfl rfl)
theorem dX1_spare_21 : decode cX1_spare 21 = .ok (.getfield 10, 3) := dk_180 0 10 (dk_at dksX1_spare_0 21 rfl rfl)
theorem dX1_spare_24 : decode cX1_spare 24 = .ok (.getfield 495, 3) := dk_180 1 239 (dk_at dksX1_spare_1 0 rfl rfl)
theorem dX1_spare_27 : decode cX1_spare 27 = .ok (.aload_n 0, 1) := dk_42 (dk_at dksX1_spare_1 3 rfl rfl)
theorem dX1_spare_28 : decode cX1_spare 28 = .ok (.getfield 10, 3) := dk_180 0 10 (dk_at dksX1_spare_1 4 rfl rfl)
theorem dX1_spare_31 : decode cX1_spare 31 = .ok (.getfield 492, 3) := dk_180 1 236 (dk_at dksX1_spare_1 7 rfl rfl)
theorem dX1_spare_34 : decode cX1_spare 34 = .ok (.iload_n 1, 1) := dk_27 (dk_at dksX1_spare_1 10 rfl rfl)
theorem dX1_spare_35 : decode cX1_spare 35 = .ok (.iastore, 1) := dk_79 (dk_at dksX1_spare_1 11 rfl rfl)
theorem dX1_spare_36 : decode cX1_spare 36 = .ok (.aload_n 0, 1) := dk_42 (dk_at dksX1_spare_1 12 rfl rfl)
theorem dX1_spare_37 : decode cX1_spare 37 = .ok (.getfield 10, 3) := dk_180 0 10 (dk_at dksX1_spare_1 13 rfl rfl)
theorem dX1_spare_40 : decode cX1_spare 40 = .ok (.dup, 1) := dk_89 (dk_at dksX1_spare_1 16 rfl rfl)
theorem dX1_spare_41 : decode cX1_spare 41 = .ok (.getfield 492, 3) := dk_180 1 236 (dk_at dksX1_spare_1 17 rfl rfl)
theorem dX1_spare_44 : decode cX1_spare 44 = .ok (.iconst 1, 1) := dk_4 (dk_at dksX1_spare_1 20 rfl rfl)
theorem dX1_spare_45 : decode cX1_spare 45 = .ok (.iadd, 1) := dk_96 (dk_at dksX1_spare_1 21 rfl rfl)
theorem dX1_spare_46 : decode cX1_spare 46 = .ok (.putfield 492, 3) := dk_181 1 236 (dk_at dksX1_spare_2 0 rfl rfl)
theorem dX1_spare_49 : decode cX1_spare 49 = .ok (.aload_n 0, 1) := dk_42 (dk_at dksX1_spare_2 3 rfl rfl)
theorem dX1_spare_50 : decode cX1_spare 50 = .ok (.getfield 10, 3) := dk_180 0 10 (dk_at dksX1_spare_2 4 rfl rfl)
theorem dX1_spare_53 : decode cX1_spare 53 = .ok (.getfield 492, 3) := dk_180 1 236 (dk_at dksX1_spare_2 7 rfl rfl)
theorem dX1_spare_56 : decode cX1_spare 56 = .ok (.ireturn, 1) := dk_172 (dk_at dksX1_spare_2 10 rfl rfl)
abbrev cX1_lent : ByteArray := prog_1_method_80_code
def yX1_lent : MethodName := ⟨RX1, "lent", "(I)I"⟩
def dkwX1_lent_1 : List UInt8 := [182, 1, 248, 42, 180, 0, 65, 27, 46, 172]
abbrev dktX1_lent_1 : List UInt8 := dkwX1_lent_1 ++ []
def dkwX1_lent_0 : List UInt8 := [27, 155, 0, 14, 27, 42, 180, 0, 10, 180, 1, 236, 161, 0, 11, 187, 0, 78, 89, 183, 0, 80, 191, 42]
abbrev dktX1_lent_0 : List UInt8 := dkwX1_lent_0 ++ dktX1_lent_1
theorem dksX1_lent_0 : cX1_lent.data.toList.drop 0 = dktX1_lent_0 := by decide +kernel
theorem dksX1_lent_1 : cX1_lent.data.toList.drop 24 = dktX1_lent_1 := dk_seg dksX1_lent_0 24 rfl rfl
theorem dX1_lent_0 : decode cX1_lent 0 = .ok (.iload_n 1, 1) := dk_27 (dk_at dksX1_lent_0 0 rfl rfl)
theorem dX1_lent_1 : decode cX1_lent 1 = .ok (.ifCond .lt 14, 3) := dk_155 0 14 (dk_at dksX1_lent_0 1 rfl rfl)
theorem dX1_lent_4 : decode cX1_lent 4 = .ok (.iload_n 1, 1) := dk_27 (dk_at dksX1_lent_0 4 rfl rfl)
theorem dX1_lent_5 : decode cX1_lent 5 = .ok (.aload_n 0, 1) := dk_42 (dk_at dksX1_lent_0 5 rfl rfl)
theorem dX1_lent_6 : decode cX1_lent 6 = .ok (.getfield 10, 3) := dk_180 0 10 (dk_at dksX1_lent_0 6 rfl rfl)
theorem dX1_lent_9 : decode cX1_lent 9 = .ok (.getfield 492, 3) := dk_180 1 236 (dk_at dksX1_lent_0 9 rfl rfl)
theorem dX1_lent_12 : decode cX1_lent 12 = .ok (.if_icmp .lt 11, 3) := dk_161 0 11 (dk_at dksX1_lent_0 12 rfl rfl)
theorem dX1_lent_15 : decode cX1_lent 15 = .ok (.new 78, 3) := dk_187 0 78 (dk_at dksX1_lent_0 15 rfl rfl)
theorem dX1_lent_18 : decode cX1_lent 18 = .ok (.dup, 1) := dk_89 (dk_at dksX1_lent_0 18 rfl rfl)
theorem dX1_lent_19 : decode cX1_lent 19 = .ok (.invokespecial 80, 3) := dk_183 0 80 (dk_at dksX1_lent_0 19 rfl rfl)
theorem dX1_lent_22 : decode cX1_lent 22 = .ok (.athrow, 1) := dk_191 (dk_at dksX1_lent_0 22 rfl rfl)
theorem dX1_lent_23 : decode cX1_lent 23 = .ok (.aload_n 0, 1) := dk_42 (dk_at dksX1_lent_0 23 rfl rfl)
theorem dX1_lent_24 : decode cX1_lent 24 = .ok (.invokevirtual 504, 3) := dk_182 1 248 (dk_at dksX1_lent_1 0 rfl rfl)
theorem dX1_lent_27 : decode cX1_lent 27 = .ok (.aload_n 0, 1) := dk_42 (dk_at dksX1_lent_1 3 rfl rfl)
theorem dX1_lent_28 : decode cX1_lent 28 = .ok (.getfield 65, 3) := dk_180 0 65 (dk_at dksX1_lent_1 4 rfl rfl)
theorem dX1_lent_31 : decode cX1_lent 31 = .ok (.iload_n 1, 1) := dk_27 (dk_at dksX1_lent_1 7 rfl rfl)
theorem dX1_lent_32 : decode cX1_lent 32 = .ok (.iaload, 1) := dk_46 (dk_at dksX1_lent_1 8 rfl rfl)
theorem dX1_lent_33 : decode cX1_lent 33 = .ok (.ireturn, 1) := dk_172 (dk_at dksX1_lent_1 9 rfl rfl)
abbrev cX1_recall : ByteArray := prog_1_method_82_code
def yX1_recall : MethodName := ⟨RX1, "recall", "(III)I"⟩
def dkwX1_recall_5 : List UInt8 := [21, 6, 120, 128, 54, 5, 132, 6, 1, 167, 255, 171, 21, 5, 172]
abbrev dktX1_recall_5 : List UInt8 := dkwX1_recall_5 ++ []
def dkwX1_recall_4 : List UInt8 := [160, 0, 30, 25, 7, 180, 1, 59, 28, 161, 0, 21, 25, 7, 180, 1, 59, 29, 163, 0, 12, 21, 5, 4]
abbrev dktX1_recall_4 : List UInt8 := dkwX1_recall_4 ++ dktX1_recall_5
def dkwX1_recall_3 : List UInt8 := [180, 1, 3, 25, 4, 180, 1, 2, 50, 58, 7, 25, 7, 198, 0, 39, 25, 7, 180, 1, 7, 27]
abbrev dktX1_recall_3 : List UInt8 := dkwX1_recall_3 ++ dktX1_recall_4
def dkwX1_recall_2 : List UInt8 := [180, 0, 71, 182, 0, 74, 162, 0, 76, 42, 180, 0, 10, 180, 0, 71, 21, 6, 182, 0, 81, 192, 0, 85]
abbrev dktX1_recall_2 : List UInt8 := dkwX1_recall_2 ++ dktX1_recall_3
def dkwX1_recall_1 : List UInt8 := [163, 0, 7, 4, 167, 0, 4, 3, 184, 0, 105, 3, 54, 5, 3, 54, 6, 21, 6, 42, 180, 0, 10]
abbrev dktX1_recall_1 : List UInt8 := dkwX1_recall_1 ++ dktX1_recall_2
def dkwX1_recall_0 : List UInt8 := [42, 27, 182, 0, 250, 58, 4, 28, 184, 1, 46, 153, 0, 19, 29, 184, 1, 46, 153, 0, 12, 28, 29]
abbrev dktX1_recall_0 : List UInt8 := dkwX1_recall_0 ++ dktX1_recall_1
theorem dksX1_recall_0 : cX1_recall.data.toList.drop 0 = dktX1_recall_0 := by decide +kernel
theorem dksX1_recall_1 : cX1_recall.data.toList.drop 23 = dktX1_recall_1 := dk_seg dksX1_recall_0 23 rfl rfl
theorem dksX1_recall_2 : cX1_recall.data.toList.drop 46 = dktX1_recall_2 := dk_seg dksX1_recall_1 23 rfl rfl
theorem dksX1_recall_3 : cX1_recall.data.toList.drop 70 = dktX1_recall_3 := dk_seg dksX1_recall_2 24 rfl rfl
theorem dksX1_recall_4 : cX1_recall.data.toList.drop 92 = dktX1_recall_4 := dk_seg dksX1_recall_3 22 rfl rfl
theorem dksX1_recall_5 : cX1_recall.data.toList.drop 116 = dktX1_recall_5 := dk_seg dksX1_recall_4 24 rfl rfl
theorem dX1_recall_0 : decode cX1_recall 0 = .ok (.aload_n 0, 1) := dk_42 (dk_at dksX1_recall_0 0 rfl rfl)
theorem dX1_recall_1 : decode cX1_recall 1 = .ok (.iload_n 1, 1) := dk_27 (dk_at dksX1_recall_0 1 rfl rfl)
theorem dX1_recall_2 : decode cX1_recall 2 = .ok (.invokevirtual 250, 3) := dk_182 0 250 (dk_at dksX1_recall_0 2 rfl rfl)
theorem dX1_recall_5 : decode cX1_recall 5 = .ok (.astore 4, 2) := dk_58 4 (dk_at dksX1_recall_0 5 rfl rfl)
theorem dX1_recall_7 : decode cX1_recall 7 = .ok (.iload_n 2, 1) := dk_28 (dk_at dksX1_recall_0 7 rfl rfl)
theorem dX1_recall_8 : decode cX1_recall 8 = .ok (.invokestatic 302, 3) := dk_184 1 46 (dk_at dksX1_recall_0 8 rfl rfl)
theorem dX1_recall_11 : decode cX1_recall 11 = .ok (.ifCond .eq 19, 3) := dk_153 0 19 (dk_at dksX1_recall_0 11 rfl rfl)
theorem dX1_recall_14 : decode cX1_recall 14 = .ok (.iload_n 3, 1) := dk_29 (dk_at dksX1_recall_0 14 rfl rfl)
theorem dX1_recall_15 : decode cX1_recall 15 = .ok (.invokestatic 302, 3) := dk_184 1 46 (dk_at dksX1_recall_0 15 rfl rfl)
theorem dX1_recall_18 : decode cX1_recall 18 = .ok (.ifCond .eq 12, 3) := dk_153 0 12 (dk_at dksX1_recall_0 18 rfl rfl)
theorem dX1_recall_21 : decode cX1_recall 21 = .ok (.iload_n 2, 1) := dk_28 (dk_at dksX1_recall_0 21 rfl rfl)
theorem dX1_recall_22 : decode cX1_recall 22 = .ok (.iload_n 3, 1) := dk_29 (dk_at dksX1_recall_0 22 rfl rfl)
theorem dX1_recall_23 : decode cX1_recall 23 = .ok (.if_icmp .gt 7, 3) := dk_163 0 7 (dk_at dksX1_recall_1 0 rfl rfl)
theorem dX1_recall_26 : decode cX1_recall 26 = .ok (.iconst 1, 1) := dk_4 (dk_at dksX1_recall_1 3 rfl rfl)
theorem dX1_recall_27 : decode cX1_recall 27 = .ok (.goto 4, 3) := dk_167 0 4 (dk_at dksX1_recall_1 4 rfl rfl)
theorem dX1_recall_30 : decode cX1_recall 30 = .ok (.iconst 0, 1) := dk_3 (dk_at dksX1_recall_1 7 rfl rfl)
theorem dX1_recall_31 : decode cX1_recall 31 = .ok (.invokestatic 105, 3) := dk_184 0 105 (dk_at dksX1_recall_1 8 rfl rfl)
theorem dX1_recall_34 : decode cX1_recall 34 = .ok (.iconst 0, 1) := dk_3 (dk_at dksX1_recall_1 11 rfl rfl)
theorem dX1_recall_35 : decode cX1_recall 35 = .ok (.istore 5, 2) := dk_54 5 (dk_at dksX1_recall_1 12 rfl rfl)
theorem dX1_recall_37 : decode cX1_recall 37 = .ok (.iconst 0, 1) := dk_3 (dk_at dksX1_recall_1 14 rfl rfl)
theorem dX1_recall_38 : decode cX1_recall 38 = .ok (.istore 6, 2) := dk_54 6 (dk_at dksX1_recall_1 15 rfl rfl)
theorem dX1_recall_40 : decode cX1_recall 40 = .ok (.iload 6, 2) := dk_21 6 (dk_at dksX1_recall_1 17 rfl rfl)
theorem dX1_recall_42 : decode cX1_recall 42 = .ok (.aload_n 0, 1) := dk_42 (dk_at dksX1_recall_1 19 rfl rfl)
theorem dX1_recall_43 : decode cX1_recall 43 = .ok (.getfield 10, 3) := dk_180 0 10 (dk_at dksX1_recall_1 20 rfl rfl)
theorem dX1_recall_46 : decode cX1_recall 46 = .ok (.getfield 71, 3) := dk_180 0 71 (dk_at dksX1_recall_2 0 rfl rfl)
theorem dX1_recall_49 : decode cX1_recall 49 = .ok (.invokevirtual 74, 3) := dk_182 0 74 (dk_at dksX1_recall_2 3 rfl rfl)
theorem dX1_recall_52 : decode cX1_recall 52 = .ok (.if_icmp .ge 76, 3) := dk_162 0 76 (dk_at dksX1_recall_2 6 rfl rfl)
theorem dX1_recall_55 : decode cX1_recall 55 = .ok (.aload_n 0, 1) := dk_42 (dk_at dksX1_recall_2 9 rfl rfl)
theorem dX1_recall_56 : decode cX1_recall 56 = .ok (.getfield 10, 3) := dk_180 0 10 (dk_at dksX1_recall_2 10 rfl rfl)
theorem dX1_recall_59 : decode cX1_recall 59 = .ok (.getfield 71, 3) := dk_180 0 71 (dk_at dksX1_recall_2 13 rfl rfl)
theorem dX1_recall_62 : decode cX1_recall 62 = .ok (.iload 6, 2) := dk_21 6 (dk_at dksX1_recall_2 16 rfl rfl)
theorem dX1_recall_64 : decode cX1_recall 64 = .ok (.invokevirtual 81, 3) := dk_182 0 81 (dk_at dksX1_recall_2 18 rfl rfl)
theorem dX1_recall_67 : decode cX1_recall 67 = .ok (.checkcast 85, 3) := dk_192 0 85 (dk_at dksX1_recall_2 21 rfl rfl)
theorem dX1_recall_70 : decode cX1_recall 70 = .ok (.getfield 259, 3) := dk_180 1 3 (dk_at dksX1_recall_3 0 rfl rfl)
theorem dX1_recall_73 : decode cX1_recall 73 = .ok (.aload 4, 2) := dk_25 4 (dk_at dksX1_recall_3 3 rfl rfl)
theorem dX1_recall_75 : decode cX1_recall 75 = .ok (.getfield 258, 3) := dk_180 1 2 (dk_at dksX1_recall_3 5 rfl rfl)
theorem dX1_recall_78 : decode cX1_recall 78 = .ok (.aaload, 1) := dk_50 (dk_at dksX1_recall_3 8 rfl rfl)
theorem dX1_recall_79 : decode cX1_recall 79 = .ok (.astore 7, 2) := dk_58 7 (dk_at dksX1_recall_3 9 rfl rfl)
theorem dX1_recall_81 : decode cX1_recall 81 = .ok (.aload 7, 2) := dk_25 7 (dk_at dksX1_recall_3 11 rfl rfl)
theorem dX1_recall_83 : decode cX1_recall 83 = .ok (.ifnull 39, 3) := dk_198 0 39 (dk_at dksX1_recall_3 13 rfl rfl)
theorem dX1_recall_86 : decode cX1_recall 86 = .ok (.aload 7, 2) := dk_25 7 (dk_at dksX1_recall_3 16 rfl rfl)
theorem dX1_recall_88 : decode cX1_recall 88 = .ok (.getfield 263, 3) := dk_180 1 7 (dk_at dksX1_recall_3 18 rfl rfl)
theorem dX1_recall_91 : decode cX1_recall 91 = .ok (.iload_n 1, 1) := dk_27 (dk_at dksX1_recall_3 21 rfl rfl)
theorem dX1_recall_92 : decode cX1_recall 92 = .ok (.if_icmp .ne 30, 3) := dk_160 0 30 (dk_at dksX1_recall_4 0 rfl rfl)
theorem dX1_recall_95 : decode cX1_recall 95 = .ok (.aload 7, 2) := dk_25 7 (dk_at dksX1_recall_4 3 rfl rfl)
theorem dX1_recall_97 : decode cX1_recall 97 = .ok (.getfield 315, 3) := dk_180 1 59 (dk_at dksX1_recall_4 5 rfl rfl)
theorem dX1_recall_100 : decode cX1_recall 100 = .ok (.iload_n 2, 1) := dk_28 (dk_at dksX1_recall_4 8 rfl rfl)
theorem dX1_recall_101 : decode cX1_recall 101 = .ok (.if_icmp .lt 21, 3) := dk_161 0 21 (dk_at dksX1_recall_4 9 rfl rfl)
theorem dX1_recall_104 : decode cX1_recall 104 = .ok (.aload 7, 2) := dk_25 7 (dk_at dksX1_recall_4 12 rfl rfl)
theorem dX1_recall_106 : decode cX1_recall 106 = .ok (.getfield 315, 3) := dk_180 1 59 (dk_at dksX1_recall_4 14 rfl rfl)
theorem dX1_recall_109 : decode cX1_recall 109 = .ok (.iload_n 3, 1) := dk_29 (dk_at dksX1_recall_4 17 rfl rfl)
theorem dX1_recall_110 : decode cX1_recall 110 = .ok (.if_icmp .gt 12, 3) := dk_163 0 12 (dk_at dksX1_recall_4 18 rfl rfl)
theorem dX1_recall_113 : decode cX1_recall 113 = .ok (.iload 5, 2) := dk_21 5 (dk_at dksX1_recall_4 21 rfl rfl)
theorem dX1_recall_115 : decode cX1_recall 115 = .ok (.iconst 1, 1) := dk_4 (dk_at dksX1_recall_4 23 rfl rfl)
theorem dX1_recall_116 : decode cX1_recall 116 = .ok (.iload 6, 2) := dk_21 6 (dk_at dksX1_recall_5 0 rfl rfl)
theorem dX1_recall_118 : decode cX1_recall 118 = .ok (.ishl, 1) := dk_120 (dk_at dksX1_recall_5 2 rfl rfl)
theorem dX1_recall_119 : decode cX1_recall 119 = .ok (.ior, 1) := dk_128 (dk_at dksX1_recall_5 3 rfl rfl)
theorem dX1_recall_120 : decode cX1_recall 120 = .ok (.istore 5, 2) := dk_54 5 (dk_at dksX1_recall_5 4 rfl rfl)
theorem dX1_recall_122 : decode cX1_recall 122 = .ok (.iinc 6 1, 3) := dk_132 6 1 (dk_at dksX1_recall_5 6 rfl rfl)
theorem dX1_recall_125 : decode cX1_recall 125 = .ok (.goto (-85), 3) := dk_167 255 171 (dk_at dksX1_recall_5 9 rfl rfl)
theorem dX1_recall_128 : decode cX1_recall 128 = .ok (.iload 5, 2) := dk_21 5 (dk_at dksX1_recall_5 12 rfl rfl)
theorem dX1_recall_130 : decode cX1_recall 130 = .ok (.ireturn, 1) := dk_172 (dk_at dksX1_recall_5 14 rfl rfl)
abbrev cX1_seen : ByteArray := prog_1_method_85_code
def yX1_seen : MethodName := ⟨RX1, "seen", "(II)I"⟩
def dkwX1_seen_5 : List UInt8 := [21, 5, 28, 108, 172]
abbrev dktX1_seen_5 : List UInt8 := dkwX1_seen_5 ++ []
def dkwX1_seen_4 : List UInt8 := [160, 0, 13, 21, 6, 27, 162, 0, 7, 4, 167, 0, 4, 3, 96, 54, 5, 132, 6, 1, 167, 255, 187]
abbrev dktX1_seen_4 : List UInt8 := dkwX1_seen_4 ++ dktX1_seen_5
def dkwX1_seen_3 : List UInt8 := [182, 0, 81, 192, 0, 85, 182, 1, 255, 54, 7, 21, 5, 21, 7, 21, 4, 163, 0, 16, 21, 7, 21, 4]
abbrev dktX1_seen_3 : List UInt8 := dkwX1_seen_3 ++ dktX1_seen_4
def dkwX1_seen_2 : List UInt8 := [180, 0, 10, 180, 0, 71, 182, 0, 74, 162, 0, 60, 42, 42, 180, 0, 10, 180, 0, 71, 21, 6]
abbrev dktX1_seen_2 : List UInt8 := dkwX1_seen_2 ++ dktX1_seen_3
def dkwX1_seen_1 : List UInt8 := [42, 45, 182, 1, 255, 54, 4, 21, 4, 2, 160, 0, 5, 2, 172, 3, 54, 5, 3, 54, 6, 21, 6, 42]
abbrev dktX1_seen_1 : List UInt8 := dkwX1_seen_1 ++ dktX1_seen_2
def dkwX1_seen_0 : List UInt8 := [42, 27, 182, 0, 162, 78, 28, 4, 161, 0, 12, 28, 8, 163, 0, 7, 4, 167, 0, 4, 3, 184, 0, 105]
abbrev dktX1_seen_0 : List UInt8 := dkwX1_seen_0 ++ dktX1_seen_1
theorem dksX1_seen_0 : cX1_seen.data.toList.drop 0 = dktX1_seen_0 := by decide +kernel
theorem dksX1_seen_1 : cX1_seen.data.toList.drop 24 = dktX1_seen_1 := dk_seg dksX1_seen_0 24 rfl rfl
theorem dksX1_seen_2 : cX1_seen.data.toList.drop 48 = dktX1_seen_2 := dk_seg dksX1_seen_1 24 rfl rfl
theorem dksX1_seen_3 : cX1_seen.data.toList.drop 70 = dktX1_seen_3 := dk_seg dksX1_seen_2 22 rfl rfl
theorem dksX1_seen_4 : cX1_seen.data.toList.drop 94 = dktX1_seen_4 := dk_seg dksX1_seen_3 24 rfl rfl
theorem dksX1_seen_5 : cX1_seen.data.toList.drop 117 = dktX1_seen_5 := dk_seg dksX1_seen_4 23 rfl rfl
theorem dX1_seen_0 : decode cX1_seen 0 = .ok (.aload_n 0, 1) := dk_42 (dk_at dksX1_seen_0 0 rfl rfl)
theorem dX1_seen_1 : decode cX1_seen 1 = .ok (.iload_n 1, 1) := dk_27 (dk_at dksX1_seen_0 1 rfl rfl)
theorem dX1_seen_2 : decode cX1_seen 2 = .ok (.invokevirtual 162, 3) := dk_182 0 162 (dk_at dksX1_seen_0 2 rfl rfl)
theorem dX1_seen_5 : decode cX1_seen 5 = .ok (.astore_n 3, 1) := dk_78 (dk_at dksX1_seen_0 5 rfl rfl)
theorem dX1_seen_6 : decode cX1_seen 6 = .ok (.iload_n 2, 1) := dk_28 (dk_at dksX1_seen_0 6 rfl rfl)
theorem dX1_seen_7 : decode cX1_seen 7 = .ok (.iconst 1, 1) := dk_4 (dk_at dksX1_seen_0 7 rfl rfl)
theorem dX1_seen_8 : decode cX1_seen 8 = .ok (.if_icmp .lt 12, 3) := dk_161 0 12 (dk_at dksX1_seen_0 8 rfl rfl)
theorem dX1_seen_11 : decode cX1_seen 11 = .ok (.iload_n 2, 1) := dk_28 (dk_at dksX1_seen_0 11 rfl rfl)
theorem dX1_seen_12 : decode cX1_seen 12 = .ok (.iconst 5, 1) := dk_8 (dk_at dksX1_seen_0 12 rfl rfl)
theorem dX1_seen_13 : decode cX1_seen 13 = .ok (.if_icmp .gt 7, 3) := dk_163 0 7 (dk_at dksX1_seen_0 13 rfl rfl)
theorem dX1_seen_16 : decode cX1_seen 16 = .ok (.iconst 1, 1) := dk_4 (dk_at dksX1_seen_0 16 rfl rfl)
theorem dX1_seen_17 : decode cX1_seen 17 = .ok (.goto 4, 3) := dk_167 0 4 (dk_at dksX1_seen_0 17 rfl rfl)
theorem dX1_seen_20 : decode cX1_seen 20 = .ok (.iconst 0, 1) := dk_3 (dk_at dksX1_seen_0 20 rfl rfl)
theorem dX1_seen_21 : decode cX1_seen 21 = .ok (.invokestatic 105, 3) := dk_184 0 105 (dk_at dksX1_seen_0 21 rfl rfl)
theorem dX1_seen_24 : decode cX1_seen 24 = .ok (.aload_n 0, 1) := dk_42 (dk_at dksX1_seen_1 0 rfl rfl)
theorem dX1_seen_25 : decode cX1_seen 25 = .ok (.aload_n 3, 1) := dk_45 (dk_at dksX1_seen_1 1 rfl rfl)
theorem dX1_seen_26 : decode cX1_seen 26 = .ok (.invokevirtual 511, 3) := dk_182 1 255 (dk_at dksX1_seen_1 2 rfl rfl)
theorem dX1_seen_29 : decode cX1_seen 29 = .ok (.istore 4, 2) := dk_54 4 (dk_at dksX1_seen_1 5 rfl rfl)
theorem dX1_seen_31 : decode cX1_seen 31 = .ok (.iload 4, 2) := dk_21 4 (dk_at dksX1_seen_1 7 rfl rfl)
theorem dX1_seen_33 : decode cX1_seen 33 = .ok (.iconst (-1), 1) := dk_2 (dk_at dksX1_seen_1 9 rfl rfl)
theorem dX1_seen_34 : decode cX1_seen 34 = .ok (.if_icmp .ne 5, 3) := dk_160 0 5 (dk_at dksX1_seen_1 10 rfl rfl)
theorem dX1_seen_37 : decode cX1_seen 37 = .ok (.iconst (-1), 1) := dk_2 (dk_at dksX1_seen_1 13 rfl rfl)
theorem dX1_seen_38 : decode cX1_seen 38 = .ok (.ireturn, 1) := dk_172 (dk_at dksX1_seen_1 14 rfl rfl)
theorem dX1_seen_39 : decode cX1_seen 39 = .ok (.iconst 0, 1) := dk_3 (dk_at dksX1_seen_1 15 rfl rfl)
theorem dX1_seen_40 : decode cX1_seen 40 = .ok (.istore 5, 2) := dk_54 5 (dk_at dksX1_seen_1 16 rfl rfl)
theorem dX1_seen_42 : decode cX1_seen 42 = .ok (.iconst 0, 1) := dk_3 (dk_at dksX1_seen_1 18 rfl rfl)
theorem dX1_seen_43 : decode cX1_seen 43 = .ok (.istore 6, 2) := dk_54 6 (dk_at dksX1_seen_1 19 rfl rfl)
theorem dX1_seen_45 : decode cX1_seen 45 = .ok (.iload 6, 2) := dk_21 6 (dk_at dksX1_seen_1 21 rfl rfl)
theorem dX1_seen_47 : decode cX1_seen 47 = .ok (.aload_n 0, 1) := dk_42 (dk_at dksX1_seen_1 23 rfl rfl)
theorem dX1_seen_48 : decode cX1_seen 48 = .ok (.getfield 10, 3) := dk_180 0 10 (dk_at dksX1_seen_2 0 rfl rfl)
theorem dX1_seen_51 : decode cX1_seen 51 = .ok (.getfield 71, 3) := dk_180 0 71 (dk_at dksX1_seen_2 3 rfl rfl)
theorem dX1_seen_54 : decode cX1_seen 54 = .ok (.invokevirtual 74, 3) := dk_182 0 74 (dk_at dksX1_seen_2 6 rfl rfl)
theorem dX1_seen_57 : decode cX1_seen 57 = .ok (.if_icmp .ge 60, 3) := dk_162 0 60 (dk_at dksX1_seen_2 9 rfl rfl)
theorem dX1_seen_60 : decode cX1_seen 60 = .ok (.aload_n 0, 1) := dk_42 (dk_at dksX1_seen_2 12 rfl rfl)
theorem dX1_seen_61 : decode cX1_seen 61 = .ok (.aload_n 0, 1) := dk_42 (dk_at dksX1_seen_2 13 rfl rfl)
theorem dX1_seen_62 : decode cX1_seen 62 = .ok (.getfield 10, 3) := dk_180 0 10 (dk_at dksX1_seen_2 14 rfl rfl)
theorem dX1_seen_65 : decode cX1_seen 65 = .ok (.getfield 71, 3) := dk_180 0 71 (dk_at dksX1_seen_2 17 rfl rfl)
theorem dX1_seen_68 : decode cX1_seen 68 = .ok (.iload 6, 2) := dk_21 6 (dk_at dksX1_seen_2 20 rfl rfl)
theorem dX1_seen_70 : decode cX1_seen 70 = .ok (.invokevirtual 81, 3) := dk_182 0 81 (dk_at dksX1_seen_3 0 rfl rfl)
theorem dX1_seen_73 : decode cX1_seen 73 = .ok (.checkcast 85, 3) := dk_192 0 85 (dk_at dksX1_seen_3 3 rfl rfl)
theorem dX1_seen_76 : decode cX1_seen 76 = .ok (.invokevirtual 511, 3) := dk_182 1 255 (dk_at dksX1_seen_3 6 rfl rfl)
theorem dX1_seen_79 : decode cX1_seen 79 = .ok (.istore 7, 2) := dk_54 7 (dk_at dksX1_seen_3 9 rfl rfl)
theorem dX1_seen_81 : decode cX1_seen 81 = .ok (.iload 5, 2) := dk_21 5 (dk_at dksX1_seen_3 11 rfl rfl)
theorem dX1_seen_83 : decode cX1_seen 83 = .ok (.iload 7, 2) := dk_21 7 (dk_at dksX1_seen_3 13 rfl rfl)
theorem dX1_seen_85 : decode cX1_seen 85 = .ok (.iload 4, 2) := dk_21 4 (dk_at dksX1_seen_3 15 rfl rfl)
theorem dX1_seen_87 : decode cX1_seen 87 = .ok (.if_icmp .gt 16, 3) := dk_163 0 16 (dk_at dksX1_seen_3 17 rfl rfl)
theorem dX1_seen_90 : decode cX1_seen 90 = .ok (.iload 7, 2) := dk_21 7 (dk_at dksX1_seen_3 20 rfl rfl)
theorem dX1_seen_92 : decode cX1_seen 92 = .ok (.iload 4, 2) := dk_21 4 (dk_at dksX1_seen_3 22 rfl rfl)
theorem dX1_seen_94 : decode cX1_seen 94 = .ok (.if_icmp .ne 13, 3) := dk_160 0 13 (dk_at dksX1_seen_4 0 rfl rfl)
theorem dX1_seen_97 : decode cX1_seen 97 = .ok (.iload 6, 2) := dk_21 6 (dk_at dksX1_seen_4 3 rfl rfl)
theorem dX1_seen_99 : decode cX1_seen 99 = .ok (.iload_n 1, 1) := dk_27 (dk_at dksX1_seen_4 5 rfl rfl)
theorem dX1_seen_100 : decode cX1_seen 100 = .ok (.if_icmp .ge 7, 3) := dk_162 0 7 (dk_at dksX1_seen_4 6 rfl rfl)
theorem dX1_seen_103 : decode cX1_seen 103 = .ok (.iconst 1, 1) := dk_4 (dk_at dksX1_seen_4 9 rfl rfl)
theorem dX1_seen_104 : decode cX1_seen 104 = .ok (.goto 4, 3) := dk_167 0 4 (dk_at dksX1_seen_4 10 rfl rfl)
theorem dX1_seen_107 : decode cX1_seen 107 = .ok (.iconst 0, 1) := dk_3 (dk_at dksX1_seen_4 13 rfl rfl)
theorem dX1_seen_108 : decode cX1_seen 108 = .ok (.iadd, 1) := dk_96 (dk_at dksX1_seen_4 14 rfl rfl)
theorem dX1_seen_109 : decode cX1_seen 109 = .ok (.istore 5, 2) := dk_54 5 (dk_at dksX1_seen_4 15 rfl rfl)
theorem dX1_seen_111 : decode cX1_seen 111 = .ok (.iinc 6 1, 3) := dk_132 6 1 (dk_at dksX1_seen_4 17 rfl rfl)
theorem dX1_seen_114 : decode cX1_seen 114 = .ok (.goto (-69), 3) := dk_167 255 187 (dk_at dksX1_seen_4 20 rfl rfl)
theorem dX1_seen_117 : decode cX1_seen 117 = .ok (.iload 5, 2) := dk_21 5 (dk_at dksX1_seen_5 0 rfl rfl)
theorem dX1_seen_119 : decode cX1_seen 119 = .ok (.iload_n 2, 1) := dk_28 (dk_at dksX1_seen_5 2 rfl rfl)
theorem dX1_seen_120 : decode cX1_seen 120 = .ok (.idiv, 1) := dk_108 (dk_at dksX1_seen_5 3 rfl rfl)
theorem dX1_seen_121 : decode cX1_seen 121 = .ok (.ireturn, 1) := dk_172 (dk_at dksX1_seen_5 4 rfl rfl)
abbrev cX1_measure : ByteArray := prog_1_method_87_code
def yX1_measure : MethodName := ⟨RX1, "measure", "(III)I"⟩
def dkwX1_measure_5 : List UInt8 := [172]
abbrev dktX1_measure_5 : List UInt8 := dkwX1_measure_5 ++ []
def dkwX1_measure_4 : List UInt8 := [187, 2, 5, 89, 27, 28, 29, 183, 2, 15, 182, 0, 123, 87, 42, 180, 0, 10, 180, 2, 2, 182, 0, 74]
abbrev dktX1_measure_4 : List UInt8 := dkwX1_measure_4 ++ dktX1_measure_5
def dkwX1_measure_3 : List UInt8 := [198, 0, 15, 28, 25, 4, 180, 2, 14, 162, 0, 6, 16, 254, 172, 42, 180, 0, 10, 180, 2, 2]
abbrev dktX1_measure_3 : List UInt8 := dkwX1_measure_3 ++ dktX1_measure_4
def dkwX1_measure_2 : List UInt8 := [180, 2, 2, 182, 0, 74, 16, 24, 160, 0, 5, 2, 172, 42, 27, 182, 2, 10, 58, 4, 25, 4]
abbrev dktX1_measure_2 : List UInt8 := dkwX1_measure_2 ++ dktX1_measure_3
def dkwX1_measure_1 : List UInt8 := [155, 0, 14, 29, 17, 3, 231, 163, 0, 7, 4, 167, 0, 4, 3, 184, 0, 105, 42, 180, 0, 10]
abbrev dktX1_measure_1 : List UInt8 := dkwX1_measure_1 ++ dktX1_measure_2
def dkwX1_measure_0 : List UInt8 := [42, 27, 182, 0, 162, 87, 28, 155, 0, 29, 28, 42, 180, 0, 10, 180, 0, 149, 163, 0, 18, 29]
abbrev dktX1_measure_0 : List UInt8 := dkwX1_measure_0 ++ dktX1_measure_1
theorem dksX1_measure_0 : cX1_measure.data.toList.drop 0 = dktX1_measure_0 := by decide +kernel
theorem dksX1_measure_1 : cX1_measure.data.toList.drop 22 = dktX1_measure_1 := dk_seg dksX1_measure_0 22 rfl rfl
theorem dksX1_measure_2 : cX1_measure.data.toList.drop 44 = dktX1_measure_2 := dk_seg dksX1_measure_1 22 rfl rfl
theorem dksX1_measure_3 : cX1_measure.data.toList.drop 66 = dktX1_measure_3 := dk_seg dksX1_measure_2 22 rfl rfl
theorem dksX1_measure_4 : cX1_measure.data.toList.drop 88 = dktX1_measure_4 := dk_seg dksX1_measure_3 22 rfl rfl
theorem dksX1_measure_5 : cX1_measure.data.toList.drop 112 = dktX1_measure_5 := dk_seg dksX1_measure_4 24 rfl rfl
theorem dX1_measure_0 : decode cX1_measure 0 = .ok (.aload_n 0, 1) := dk_42 (dk_at dksX1_measure_0 0 rfl rfl)
theorem dX1_measure_1 : decode cX1_measure 1 = .ok (.iload_n 1, 1) := dk_27 (dk_at dksX1_measure_0 1 rfl rfl)
theorem dX1_measure_2 : decode cX1_measure 2 = .ok (.invokevirtual 162, 3) := dk_182 0 162 (dk_at dksX1_measure_0 2 rfl rfl)
theorem dX1_measure_5 : decode cX1_measure 5 = .ok (.pop, 1) := dk_87 (dk_at dksX1_measure_0 5 rfl rfl)
theorem dX1_measure_6 : decode cX1_measure 6 = .ok (.iload_n 2, 1) := dk_28 (dk_at dksX1_measure_0 6 rfl rfl)
theorem dX1_measure_7 : decode cX1_measure 7 = .ok (.ifCond .lt 29, 3) := dk_155 0 29 (dk_at dksX1_measure_0 7 rfl rfl)
theorem dX1_measure_10 : decode cX1_measure 10 = .ok (.iload_n 2, 1) := dk_28 (dk_at dksX1_measure_0 10 rfl rfl)
theorem dX1_measure_11 : decode cX1_measure 11 = .ok (.aload_n 0, 1) := dk_42 (dk_at dksX1_measure_0 11 rfl rfl)
theorem dX1_measure_12 : decode cX1_measure 12 = .ok (.getfield 10, 3) := dk_180 0 10 (dk_at dksX1_measure_0 12 rfl rfl)
theorem dX1_measure_15 : decode cX1_measure 15 = .ok (.getfield 149, 3) := dk_180 0 149 (dk_at dksX1_measure_0 15 rfl rfl)
theorem dX1_measure_18 : decode cX1_measure 18 = .ok (.if_icmp .gt 18, 3) := dk_163 0 18 (dk_at dksX1_measure_0 18 rfl rfl)
theorem dX1_measure_21 : decode cX1_measure 21 = .ok (.iload_n 3, 1) := dk_29 (dk_at dksX1_measure_0 21 rfl rfl)
theorem dX1_measure_22 : decode cX1_measure 22 = .ok (.ifCond .lt 14, 3) := dk_155 0 14 (dk_at dksX1_measure_1 0 rfl rfl)
theorem dX1_measure_25 : decode cX1_measure 25 = .ok (.iload_n 3, 1) := dk_29 (dk_at dksX1_measure_1 3 rfl rfl)
theorem dX1_measure_26 : decode cX1_measure 26 = .ok (.sipush 999, 3) := dk_17 3 231 (dk_at dksX1_measure_1 4 rfl rfl)
theorem dX1_measure_29 : decode cX1_measure 29 = .ok (.if_icmp .gt 7, 3) := dk_163 0 7 (dk_at dksX1_measure_1 7 rfl rfl)
theorem dX1_measure_32 : decode cX1_measure 32 = .ok (.iconst 1, 1) := dk_4 (dk_at dksX1_measure_1 10 rfl rfl)
theorem dX1_measure_33 : decode cX1_measure 33 = .ok (.goto 4, 3) := dk_167 0 4 (dk_at dksX1_measure_1 11 rfl rfl)
theorem dX1_measure_36 : decode cX1_measure 36 = .ok (.iconst 0, 1) := dk_3 (dk_at dksX1_measure_1 14 rfl rfl)
theorem dX1_measure_37 : decode cX1_measure 37 = .ok (.invokestatic 105, 3) := dk_184 0 105 (dk_at dksX1_measure_1 15 rfl rfl)
theorem dX1_measure_40 : decode cX1_measure 40 = .ok (.aload_n 0, 1) := dk_42 (dk_at dksX1_measure_1 18 rfl rfl)
theorem dX1_measure_41 : decode cX1_measure 41 = .ok (.getfield 10, 3) := dk_180 0 10 (dk_at dksX1_measure_1 19 rfl rfl)
theorem dX1_measure_44 : decode cX1_measure 44 = .ok (.getfield 514, 3) := dk_180 2 2 (dk_at dksX1_measure_2 0 rfl rfl)
theorem dX1_measure_47 : decode cX1_measure 47 = .ok (.invokevirtual 74, 3) := dk_182 0 74 (dk_at dksX1_measure_2 3 rfl rfl)
theorem dX1_measure_50 : decode cX1_measure 50 = .ok (.bipush 24, 2) := dk_16 24 (dk_at dksX1_measure_2 6 rfl rfl)
theorem dX1_measure_52 : decode cX1_measure 52 = .ok (.if_icmp .ne 5, 3) := dk_160 0 5 (dk_at dksX1_measure_2 8 rfl rfl)
theorem dX1_measure_55 : decode cX1_measure 55 = .ok (.iconst (-1), 1) := dk_2 (dk_at dksX1_measure_2 11 rfl rfl)
theorem dX1_measure_56 : decode cX1_measure 56 = .ok (.ireturn, 1) := dk_172 (dk_at dksX1_measure_2 12 rfl rfl)
theorem dX1_measure_57 : decode cX1_measure 57 = .ok (.aload_n 0, 1) := dk_42 (dk_at dksX1_measure_2 13 rfl rfl)
theorem dX1_measure_58 : decode cX1_measure 58 = .ok (.iload_n 1, 1) := dk_27 (dk_at dksX1_measure_2 14 rfl rfl)
theorem dX1_measure_59 : decode cX1_measure 59 = .ok (.invokevirtual 522, 3) := dk_182 2 10 (dk_at dksX1_measure_2 15 rfl rfl)
theorem dX1_measure_62 : decode cX1_measure 62 = .ok (.astore 4, 2) := dk_58 4 (dk_at dksX1_measure_2 18 rfl rfl)
theorem dX1_measure_64 : decode cX1_measure 64 = .ok (.aload 4, 2) := dk_25 4 (dk_at dksX1_measure_2 20 rfl rfl)
theorem dX1_measure_66 : decode cX1_measure 66 = .ok (.ifnull 15, 3) := dk_198 0 15 (dk_at dksX1_measure_3 0 rfl rfl)
theorem dX1_measure_69 : decode cX1_measure 69 = .ok (.iload_n 2, 1) := dk_28 (dk_at dksX1_measure_3 3 rfl rfl)
theorem dX1_measure_70 : decode cX1_measure 70 = .ok (.aload 4, 2) := dk_25 4 (dk_at dksX1_measure_3 4 rfl rfl)
theorem dX1_measure_72 : decode cX1_measure 72 = .ok (.getfield 526, 3) := dk_180 2 14 (dk_at dksX1_measure_3 6 rfl rfl)
theorem dX1_measure_75 : decode cX1_measure 75 = .ok (.if_icmp .ge 6, 3) := dk_162 0 6 (dk_at dksX1_measure_3 9 rfl rfl)
theorem dX1_measure_78 : decode cX1_measure 78 = .ok (.bipush (-2), 2) := dk_16 254 (dk_at dksX1_measure_3 12 rfl rfl)
theorem dX1_measure_80 : decode cX1_measure 80 = .ok (.ireturn, 1) := dk_172 (dk_at dksX1_measure_3 14 rfl rfl)
theorem dX1_measure_81 : decode cX1_measure 81 = .ok (.aload_n 0, 1) := dk_42 (dk_at dksX1_measure_3 15 rfl rfl)
theorem dX1_measure_82 : decode cX1_measure 82 = .ok (.getfield 10, 3) := dk_180 0 10 (dk_at dksX1_measure_3 16 rfl rfl)
theorem dX1_measure_85 : decode cX1_measure 85 = .ok (.getfield 514, 3) := dk_180 2 2 (dk_at dksX1_measure_3 19 rfl rfl)
theorem dX1_measure_88 : decode cX1_measure 88 = .ok (.new 517, 3) := dk_187 2 5 (dk_at dksX1_measure_4 0 rfl rfl)
theorem dX1_measure_91 : decode cX1_measure 91 = .ok (.dup, 1) := dk_89 (dk_at dksX1_measure_4 3 rfl rfl)
theorem dX1_measure_92 : decode cX1_measure 92 = .ok (.iload_n 1, 1) := dk_27 (dk_at dksX1_measure_4 4 rfl rfl)
theorem dX1_measure_93 : decode cX1_measure 93 = .ok (.iload_n 2, 1) := dk_28 (dk_at dksX1_measure_4 5 rfl rfl)
theorem dX1_measure_94 : decode cX1_measure 94 = .ok (.iload_n 3, 1) := dk_29 (dk_at dksX1_measure_4 6 rfl rfl)
theorem dX1_measure_95 : decode cX1_measure 95 = .ok (.invokespecial 527, 3) := dk_183 2 15 (dk_at dksX1_measure_4 7 rfl rfl)
theorem dX1_measure_98 : decode cX1_measure 98 = .ok (.invokevirtual 123, 3) := dk_182 0 123 (dk_at dksX1_measure_4 10 rfl rfl)
theorem dX1_measure_101 : decode cX1_measure 101 = .ok (.pop, 1) := dk_87 (dk_at dksX1_measure_4 13 rfl rfl)
theorem dX1_measure_102 : decode cX1_measure 102 = .ok (.aload_n 0, 1) := dk_42 (dk_at dksX1_measure_4 14 rfl rfl)
theorem dX1_measure_103 : decode cX1_measure 103 = .ok (.getfield 10, 3) := dk_180 0 10 (dk_at dksX1_measure_4 15 rfl rfl)
theorem dX1_measure_106 : decode cX1_measure 106 = .ok (.getfield 514, 3) := dk_180 2 2 (dk_at dksX1_measure_4 18 rfl rfl)
theorem dX1_measure_109 : decode cX1_measure 109 = .ok (.invokevirtual 74, 3) := dk_182 0 74 (dk_at dksX1_measure_4 21 rfl rfl)
theorem dX1_measure_112 : decode cX1_measure 112 = .ok (.ireturn, 1) := dk_172 (dk_at dksX1_measure_5 0 rfl rfl)
abbrev cX1_latestOf : ByteArray := prog_1_method_86_code
def yX1_latestOf : MethodName := ⟨RX1, "latestOf", "(I)LLimbBenches$Measure;"⟩
def dkwX1_latestOf_2 : List UInt8 := [29, 182, 0, 81, 192, 2, 5, 77, 132, 3, 1, 167, 255, 203, 44, 176]
abbrev dktX1_latestOf_2 : List UInt8 := dkwX1_latestOf_2 ++ []
def dkwX1_latestOf_1 : List UInt8 := [180, 2, 2, 29, 182, 0, 81, 192, 2, 5, 180, 2, 7, 27, 160, 0, 18, 42, 180, 0, 10, 180, 2, 2]
abbrev dktX1_latestOf_1 : List UInt8 := dkwX1_latestOf_1 ++ dktX1_latestOf_2
def dkwX1_latestOf_0 : List UInt8 := [1, 77, 3, 62, 29, 42, 180, 0, 10, 180, 2, 2, 182, 0, 74, 162, 0, 45, 42, 180, 0, 10]
abbrev dktX1_latestOf_0 : List UInt8 := dkwX1_latestOf_0 ++ dktX1_latestOf_1
theorem dksX1_latestOf_0 : cX1_latestOf.data.toList.drop 0 = dktX1_latestOf_0 := by decide +kernel
theorem dksX1_latestOf_1 : cX1_latestOf.data.toList.drop 22 = dktX1_latestOf_1 := dk_seg dksX1_latestOf_0 22 rfl rfl
theorem dksX1_latestOf_2 : cX1_latestOf.data.toList.drop 46 = dktX1_latestOf_2 := dk_seg dksX1_latestOf_1 24 rfl rfl
theorem dX1_latestOf_0 : decode cX1_latestOf 0 = .ok (.aconst_null, 1) := dk_1 (dk_at dksX1_latestOf_0 0 rfl rfl)
theorem dX1_latestOf_1 : decode cX1_latestOf 1 = .ok (.astore_n 2, 1) := dk_77 (dk_at dksX1_latestOf_0 1 rfl rfl)
theorem dX1_latestOf_2 : decode cX1_latestOf 2 = .ok (.iconst 0, 1) := dk_3 (dk_at dksX1_latestOf_0 2 rfl rfl)
theorem dX1_latestOf_3 : decode cX1_latestOf 3 = .ok (.istore_n 3, 1) := dk_62 (dk_at dksX1_latestOf_0 3 rfl rfl)
theorem dX1_latestOf_4 : decode cX1_latestOf 4 = .ok (.iload_n 3, 1) := dk_29 (dk_at dksX1_latestOf_0 4 rfl rfl)
theorem dX1_latestOf_5 : decode cX1_latestOf 5 = .ok (.aload_n 0, 1) := dk_42 (dk_at dksX1_latestOf_0 5 rfl rfl)
theorem dX1_latestOf_6 : decode cX1_latestOf 6 = .ok (.getfield 10, 3) := dk_180 0 10 (dk_at dksX1_latestOf_0 6 rfl rfl)
theorem dX1_latestOf_9 : decode cX1_latestOf 9 = .ok (.getfield 514, 3) := dk_180 2 2 (dk_at dksX1_latestOf_0 9 rfl rfl)
theorem dX1_latestOf_12 : decode cX1_latestOf 12 = .ok (.invokevirtual 74, 3) := dk_182 0 74 (dk_at dksX1_latestOf_0 12 rfl rfl)
theorem dX1_latestOf_15 : decode cX1_latestOf 15 = .ok (.if_icmp .ge 45, 3) := dk_162 0 45 (dk_at dksX1_latestOf_0 15 rfl rfl)
theorem dX1_latestOf_18 : decode cX1_latestOf 18 = .ok (.aload_n 0, 1) := dk_42 (dk_at dksX1_latestOf_0 18 rfl rfl)
theorem dX1_latestOf_19 : decode cX1_latestOf 19 = .ok (.getfield 10, 3) := dk_180 0 10 (dk_at dksX1_latestOf_0 19 rfl rfl)
theorem dX1_latestOf_22 : decode cX1_latestOf 22 = .ok (.getfield 514, 3) := dk_180 2 2 (dk_at dksX1_latestOf_1 0 rfl rfl)
theorem dX1_latestOf_25 : decode cX1_latestOf 25 = .ok (.iload_n 3, 1) := dk_29 (dk_at dksX1_latestOf_1 3 rfl rfl)
theorem dX1_latestOf_26 : decode cX1_latestOf 26 = .ok (.invokevirtual 81, 3) := dk_182 0 81 (dk_at dksX1_latestOf_1 4 rfl rfl)
theorem dX1_latestOf_29 : decode cX1_latestOf 29 = .ok (.checkcast 517, 3) := dk_192 2 5 (dk_at dksX1_latestOf_1 7 rfl rfl)
theorem dX1_latestOf_32 : decode cX1_latestOf 32 = .ok (.getfield 519, 3) := dk_180 2 7 (dk_at dksX1_latestOf_1 10 rfl rfl)
theorem dX1_latestOf_35 : decode cX1_latestOf 35 = .ok (.iload_n 1, 1) := dk_27 (dk_at dksX1_latestOf_1 13 rfl rfl)
theorem dX1_latestOf_36 : decode cX1_latestOf 36 = .ok (.if_icmp .ne 18, 3) := dk_160 0 18 (dk_at dksX1_latestOf_1 14 rfl rfl)
theorem dX1_latestOf_39 : decode cX1_latestOf 39 = .ok (.aload_n 0, 1) := dk_42 (dk_at dksX1_latestOf_1 17 rfl rfl)
theorem dX1_latestOf_40 : decode cX1_latestOf 40 = .ok (.getfield 10, 3) := dk_180 0 10 (dk_at dksX1_latestOf_1 18 rfl rfl)
theorem dX1_latestOf_43 : decode cX1_latestOf 43 = .ok (.getfield 514, 3) := dk_180 2 2 (dk_at dksX1_latestOf_1 21 rfl rfl)
theorem dX1_latestOf_46 : decode cX1_latestOf 46 = .ok (.iload_n 3, 1) := dk_29 (dk_at dksX1_latestOf_2 0 rfl rfl)
theorem dX1_latestOf_47 : decode cX1_latestOf 47 = .ok (.invokevirtual 81, 3) := dk_182 0 81 (dk_at dksX1_latestOf_2 1 rfl rfl)
theorem dX1_latestOf_50 : decode cX1_latestOf 50 = .ok (.checkcast 517, 3) := dk_192 2 5 (dk_at dksX1_latestOf_2 4 rfl rfl)
theorem dX1_latestOf_53 : decode cX1_latestOf 53 = .ok (.astore_n 2, 1) := dk_77 (dk_at dksX1_latestOf_2 7 rfl rfl)
theorem dX1_latestOf_54 : decode cX1_latestOf 54 = .ok (.iinc 3 1, 3) := dk_132 3 1 (dk_at dksX1_latestOf_2 8 rfl rfl)
theorem dX1_latestOf_57 : decode cX1_latestOf 57 = .ok (.goto (-53), 3) := dk_167 255 203 (dk_at dksX1_latestOf_2 11 rfl rfl)
theorem dX1_latestOf_60 : decode cX1_latestOf 60 = .ok (.aload_n 2, 1) := dk_44 (dk_at dksX1_latestOf_2 14 rfl rfl)
theorem dX1_latestOf_61 : decode cX1_latestOf 61 = .ok (.areturn, 1) := dk_176 (dk_at dksX1_latestOf_2 15 rfl rfl)
abbrev cX1_growth : ByteArray := prog_1_method_90_code
def yX1_growth : MethodName := ⟨RX1, "growth", "(II)I"⟩
def dkwX1_growth_2 : List UInt8 := [167, 0, 4, 3, 184, 2, 31, 172]
abbrev dktX1_growth_2 : List UInt8 := dkwX1_growth_2 ++ []
def dkwX1_growth_1 : List UInt8 := [27, 182, 2, 27, 78, 28, 154, 0, 10, 45, 182, 0, 74, 167, 0, 17, 45, 28, 5, 160, 0, 7, 4]
abbrev dktX1_growth_1 : List UInt8 := dkwX1_growth_1 ++ dktX1_growth_2
def dkwX1_growth_0 : List UInt8 := [42, 27, 182, 0, 162, 87, 28, 155, 0, 12, 28, 5, 163, 0, 7, 4, 167, 0, 4, 3, 184, 0, 105, 42]
abbrev dktX1_growth_0 : List UInt8 := dkwX1_growth_0 ++ dktX1_growth_1
theorem dksX1_growth_0 : cX1_growth.data.toList.drop 0 = dktX1_growth_0 := by decide +kernel
theorem dksX1_growth_1 : cX1_growth.data.toList.drop 24 = dktX1_growth_1 := dk_seg dksX1_growth_0 24 rfl rfl
theorem dksX1_growth_2 : cX1_growth.data.toList.drop 47 = dktX1_growth_2 := dk_seg dksX1_growth_1 23 rfl rfl
theorem dX1_growth_0 : decode cX1_growth 0 = .ok (.aload_n 0, 1) := dk_42 (dk_at dksX1_growth_0 0 rfl rfl)
theorem dX1_growth_1 : decode cX1_growth 1 = .ok (.iload_n 1, 1) := dk_27 (dk_at dksX1_growth_0 1 rfl rfl)
theorem dX1_growth_2 : decode cX1_growth 2 = .ok (.invokevirtual 162, 3) := dk_182 0 162 (dk_at dksX1_growth_0 2 rfl rfl)
theorem dX1_growth_5 : decode cX1_growth 5 = .ok (.pop, 1) := dk_87 (dk_at dksX1_growth_0 5 rfl rfl)
theorem dX1_growth_6 : decode cX1_growth 6 = .ok (.iload_n 2, 1) := dk_28 (dk_at dksX1_growth_0 6 rfl rfl)
theorem dX1_growth_7 : decode cX1_growth 7 = .ok (.ifCond .lt 12, 3) := dk_155 0 12 (dk_at dksX1_growth_0 7 rfl rfl)
theorem dX1_growth_10 : decode cX1_growth 10 = .ok (.iload_n 2, 1) := dk_28 (dk_at dksX1_growth_0 10 rfl rfl)
theorem dX1_growth_11 : decode cX1_growth 11 = .ok (.iconst 2, 1) := dk_5 (dk_at dksX1_growth_0 11 rfl rfl)
theorem dX1_growth_12 : decode cX1_growth 12 = .ok (.if_icmp .gt 7, 3) := dk_163 0 7 (dk_at dksX1_growth_0 12 rfl rfl)
theorem dX1_growth_15 : decode cX1_growth 15 = .ok (.iconst 1, 1) := dk_4 (dk_at dksX1_growth_0 15 rfl rfl)
theorem dX1_growth_16 : decode cX1_growth 16 = .ok (.goto 4, 3) := dk_167 0 4 (dk_at dksX1_growth_0 16 rfl rfl)
theorem dX1_growth_19 : decode cX1_growth 19 = .ok (.iconst 0, 1) := dk_3 (dk_at dksX1_growth_0 19 rfl rfl)
theorem dX1_growth_20 : decode cX1_growth 20 = .ok (.invokestatic 105, 3) := dk_184 0 105 (dk_at dksX1_growth_0 20 rfl rfl)
theorem dX1_growth_23 : decode cX1_growth 23 = .ok (.aload_n 0, 1) := dk_42 (dk_at dksX1_growth_0 23 rfl rfl)
theorem dX1_growth_24 : decode cX1_growth 24 = .ok (.iload_n 1, 1) := dk_27 (dk_at dksX1_growth_1 0 rfl rfl)
theorem dX1_growth_25 : decode cX1_growth 25 = .ok (.invokevirtual 539, 3) := dk_182 2 27 (dk_at dksX1_growth_1 1 rfl rfl)
theorem dX1_growth_28 : decode cX1_growth 28 = .ok (.astore_n 3, 1) := dk_78 (dk_at dksX1_growth_1 4 rfl rfl)
theorem dX1_growth_29 : decode cX1_growth 29 = .ok (.iload_n 2, 1) := dk_28 (dk_at dksX1_growth_1 5 rfl rfl)
theorem dX1_growth_30 : decode cX1_growth 30 = .ok (.ifCond .ne 10, 3) := dk_154 0 10 (dk_at dksX1_growth_1 6 rfl rfl)
theorem dX1_growth_33 : decode cX1_growth 33 = .ok (.aload_n 3, 1) := dk_45 (dk_at dksX1_growth_1 9 rfl rfl)
theorem dX1_growth_34 : decode cX1_growth 34 = .ok (.invokevirtual 74, 3) := dk_182 0 74 (dk_at dksX1_growth_1 10 rfl rfl)
theorem dX1_growth_37 : decode cX1_growth 37 = .ok (.goto 17, 3) := dk_167 0 17 (dk_at dksX1_growth_1 13 rfl rfl)
theorem dX1_growth_40 : decode cX1_growth 40 = .ok (.aload_n 3, 1) := dk_45 (dk_at dksX1_growth_1 16 rfl rfl)
theorem dX1_growth_41 : decode cX1_growth 41 = .ok (.iload_n 2, 1) := dk_28 (dk_at dksX1_growth_1 17 rfl rfl)
theorem dX1_growth_42 : decode cX1_growth 42 = .ok (.iconst 2, 1) := dk_5 (dk_at dksX1_growth_1 18 rfl rfl)
theorem dX1_growth_43 : decode cX1_growth 43 = .ok (.if_icmp .ne 7, 3) := dk_160 0 7 (dk_at dksX1_growth_1 19 rfl rfl)
theorem dX1_growth_46 : decode cX1_growth 46 = .ok (.iconst 1, 1) := dk_4 (dk_at dksX1_growth_1 22 rfl rfl)
theorem dX1_growth_47 : decode cX1_growth 47 = .ok (.goto 4, 3) := dk_167 0 4 (dk_at dksX1_growth_2 0 rfl rfl)
theorem dX1_growth_50 : decode cX1_growth 50 = .ok (.iconst 0, 1) := dk_3 (dk_at dksX1_growth_2 3 rfl rfl)
theorem dX1_growth_51 : decode cX1_growth 51 = .ok (.invokestatic 543, 3) := dk_184 2 31 (dk_at dksX1_growth_2 4 rfl rfl)
theorem dX1_growth_54 : decode cX1_growth 54 = .ok (.ireturn, 1) := dk_172 (dk_at dksX1_growth_2 7 rfl rfl)
abbrev cX1_growths : ByteArray := prog_1_method_88_code
def yX1_growths : MethodName := ⟨RX1, "growths", "(I)Ljava/util/ArrayList;"⟩
def dkwX1_growths_5 : List UInt8 := [167, 255, 157, 44, 176]
abbrev dktX1_growths_5 : List UInt8 := dkwX1_growths_5 ++ []
def dkwX1_growths_4 : List UInt8 := [180, 2, 14, 45, 180, 2, 14, 100, 108, 184, 2, 17, 182, 0, 123, 87, 25, 5, 78, 132, 4, 1]
abbrev dktX1_growths_4 : List UInt8 := dkwX1_growths_4 ++ dktX1_growths_5
def dkwX1_growths_3 : List UInt8 := [180, 2, 14, 159, 0, 36, 44, 25, 5, 180, 2, 16, 45, 180, 2, 16, 100, 17, 1, 109, 104, 25, 5]
abbrev dktX1_growths_3 : List UInt8 := dkwX1_growths_3 ++ dktX1_growths_4
def dkwX1_growths_2 : List UInt8 := [25, 5, 180, 2, 7, 27, 159, 0, 6, 167, 0, 55, 45, 198, 0, 48, 45, 180, 2, 14, 25, 5]
abbrev dktX1_growths_2 : List UInt8 := dkwX1_growths_2 ++ dktX1_growths_3
def dkwX1_growths_1 : List UInt8 := [182, 0, 74, 162, 0, 90, 42, 180, 0, 10, 180, 2, 2, 21, 4, 182, 0, 81, 192, 2, 5, 58, 5]
abbrev dktX1_growths_1 : List UInt8 := dkwX1_growths_1 ++ dktX1_growths_2
def dkwX1_growths_0 : List UInt8 := [187, 0, 16, 89, 5, 183, 0, 18, 77, 1, 78, 3, 54, 4, 21, 4, 42, 180, 0, 10, 180, 2, 2]
abbrev dktX1_growths_0 : List UInt8 := dkwX1_growths_0 ++ dktX1_growths_1
theorem dksX1_growths_0 : cX1_growths.data.toList.drop 0 = dktX1_growths_0 := by decide +kernel
theorem dksX1_growths_1 : cX1_growths.data.toList.drop 23 = dktX1_growths_1 := dk_seg dksX1_growths_0 23 rfl rfl
theorem dksX1_growths_2 : cX1_growths.data.toList.drop 46 = dktX1_growths_2 := dk_seg dksX1_growths_1 23 rfl rfl
theorem dksX1_growths_3 : cX1_growths.data.toList.drop 68 = dktX1_growths_3 := dk_seg dksX1_growths_2 22 rfl rfl
theorem dksX1_growths_4 : cX1_growths.data.toList.drop 91 = dktX1_growths_4 := dk_seg dksX1_growths_3 23 rfl rfl
theorem dksX1_growths_5 : cX1_growths.data.toList.drop 113 = dktX1_growths_5 := dk_seg dksX1_growths_4 22 rfl rfl
theorem dX1_growths_0 : decode cX1_growths 0 = .ok (.new 16, 3) := dk_187 0 16 (dk_at dksX1_growths_0 0 rfl rfl)
theorem dX1_growths_3 : decode cX1_growths 3 = .ok (.dup, 1) := dk_89 (dk_at dksX1_growths_0 3 rfl rfl)
theorem dX1_growths_4 : decode cX1_growths 4 = .ok (.iconst 2, 1) := dk_5 (dk_at dksX1_growths_0 4 rfl rfl)
theorem dX1_growths_5 : decode cX1_growths 5 = .ok (.invokespecial 18, 3) := dk_183 0 18 (dk_at dksX1_growths_0 5 rfl rfl)
theorem dX1_growths_8 : decode cX1_growths 8 = .ok (.astore_n 2, 1) := dk_77 (dk_at dksX1_growths_0 8 rfl rfl)
theorem dX1_growths_9 : decode cX1_growths 9 = .ok (.aconst_null, 1) := dk_1 (dk_at dksX1_growths_0 9 rfl rfl)
theorem dX1_growths_10 : decode cX1_growths 10 = .ok (.astore_n 3, 1) := dk_78 (dk_at dksX1_growths_0 10 rfl rfl)
theorem dX1_growths_11 : decode cX1_growths 11 = .ok (.iconst 0, 1) := dk_3 (dk_at dksX1_growths_0 11 rfl rfl)
theorem dX1_growths_12 : decode cX1_growths 12 = .ok (.istore 4, 2) := dk_54 4 (dk_at dksX1_growths_0 12 rfl rfl)
theorem dX1_growths_14 : decode cX1_growths 14 = .ok (.iload 4, 2) := dk_21 4 (dk_at dksX1_growths_0 14 rfl rfl)
theorem dX1_growths_16 : decode cX1_growths 16 = .ok (.aload_n 0, 1) := dk_42 (dk_at dksX1_growths_0 16 rfl rfl)
theorem dX1_growths_17 : decode cX1_growths 17 = .ok (.getfield 10, 3) := dk_180 0 10 (dk_at dksX1_growths_0 17 rfl rfl)
theorem dX1_growths_20 : decode cX1_growths 20 = .ok (.getfield 514, 3) := dk_180 2 2 (dk_at dksX1_growths_0 20 rfl rfl)
theorem dX1_growths_23 : decode cX1_growths 23 = .ok (.invokevirtual 74, 3) := dk_182 0 74 (dk_at dksX1_growths_1 0 rfl rfl)
theorem dX1_growths_26 : decode cX1_growths 26 = .ok (.if_icmp .ge 90, 3) := dk_162 0 90 (dk_at dksX1_growths_1 3 rfl rfl)
theorem dX1_growths_29 : decode cX1_growths 29 = .ok (.aload_n 0, 1) := dk_42 (dk_at dksX1_growths_1 6 rfl rfl)
theorem dX1_growths_30 : decode cX1_growths 30 = .ok (.getfield 10, 3) := dk_180 0 10 (dk_at dksX1_growths_1 7 rfl rfl)
theorem dX1_growths_33 : decode cX1_growths 33 = .ok (.getfield 514, 3) := dk_180 2 2 (dk_at dksX1_growths_1 10 rfl rfl)
theorem dX1_growths_36 : decode cX1_growths 36 = .ok (.iload 4, 2) := dk_21 4 (dk_at dksX1_growths_1 13 rfl rfl)
theorem dX1_growths_38 : decode cX1_growths 38 = .ok (.invokevirtual 81, 3) := dk_182 0 81 (dk_at dksX1_growths_1 15 rfl rfl)
theorem dX1_growths_41 : decode cX1_growths 41 = .ok (.checkcast 517, 3) := dk_192 2 5 (dk_at dksX1_growths_1 18 rfl rfl)
theorem dX1_growths_44 : decode cX1_growths 44 = .ok (.astore 5, 2) := dk_58 5 (dk_at dksX1_growths_1 21 rfl rfl)
theorem dX1_growths_46 : decode cX1_growths 46 = .ok (.aload 5, 2) := dk_25 5 (dk_at dksX1_growths_2 0 rfl rfl)
theorem dX1_growths_48 : decode cX1_growths 48 = .ok (.getfield 519, 3) := dk_180 2 7 (dk_at dksX1_growths_2 2 rfl rfl)
theorem dX1_growths_51 : decode cX1_growths 51 = .ok (.iload_n 1, 1) := dk_27 (dk_at dksX1_growths_2 5 rfl rfl)
theorem dX1_growths_52 : decode cX1_growths 52 = .ok (.if_icmp .eq 6, 3) := dk_159 0 6 (dk_at dksX1_growths_2 6 rfl rfl)
theorem dX1_growths_55 : decode cX1_growths 55 = .ok (.goto 55, 3) := dk_167 0 55 (dk_at dksX1_growths_2 9 rfl rfl)
theorem dX1_growths_58 : decode cX1_growths 58 = .ok (.aload_n 3, 1) := dk_45 (dk_at dksX1_growths_2 12 rfl rfl)
theorem dX1_growths_59 : decode cX1_growths 59 = .ok (.ifnull 48, 3) := dk_198 0 48 (dk_at dksX1_growths_2 13 rfl rfl)
theorem dX1_growths_62 : decode cX1_growths 62 = .ok (.aload_n 3, 1) := dk_45 (dk_at dksX1_growths_2 16 rfl rfl)
theorem dX1_growths_63 : decode cX1_growths 63 = .ok (.getfield 526, 3) := dk_180 2 14 (dk_at dksX1_growths_2 17 rfl rfl)
theorem dX1_growths_66 : decode cX1_growths 66 = .ok (.aload 5, 2) := dk_25 5 (dk_at dksX1_growths_2 20 rfl rfl)
theorem dX1_growths_68 : decode cX1_growths 68 = .ok (.getfield 526, 3) := dk_180 2 14 (dk_at dksX1_growths_3 0 rfl rfl)
theorem dX1_growths_71 : decode cX1_growths 71 = .ok (.if_icmp .eq 36, 3) := dk_159 0 36 (dk_at dksX1_growths_3 3 rfl rfl)
theorem dX1_growths_74 : decode cX1_growths 74 = .ok (.aload_n 2, 1) := dk_44 (dk_at dksX1_growths_3 6 rfl rfl)
theorem dX1_growths_75 : decode cX1_growths 75 = .ok (.aload 5, 2) := dk_25 5 (dk_at dksX1_growths_3 7 rfl rfl)
theorem dX1_growths_77 : decode cX1_growths 77 = .ok (.getfield 528, 3) := dk_180 2 16 (dk_at dksX1_growths_3 9 rfl rfl)
theorem dX1_growths_80 : decode cX1_growths 80 = .ok (.aload_n 3, 1) := dk_45 (dk_at dksX1_growths_3 12 rfl rfl)
theorem dX1_growths_81 : decode cX1_growths 81 = .ok (.getfield 528, 3) := dk_180 2 16 (dk_at dksX1_growths_3 13 rfl rfl)
theorem dX1_growths_84 : decode cX1_growths 84 = .ok (.isub, 1) := dk_100 (dk_at dksX1_growths_3 16 rfl rfl)
theorem dX1_growths_85 : decode cX1_growths 85 = .ok (.sipush 365, 3) := dk_17 1 109 (dk_at dksX1_growths_3 17 rfl rfl)
theorem dX1_growths_88 : decode cX1_growths 88 = .ok (.imul, 1) := dk_104 (dk_at dksX1_growths_3 20 rfl rfl)
theorem dX1_growths_89 : decode cX1_growths 89 = .ok (.aload 5, 2) := dk_25 5 (dk_at dksX1_growths_3 21 rfl rfl)
theorem dX1_growths_91 : decode cX1_growths 91 = .ok (.getfield 526, 3) := dk_180 2 14 (dk_at dksX1_growths_4 0 rfl rfl)
theorem dX1_growths_94 : decode cX1_growths 94 = .ok (.aload_n 3, 1) := dk_45 (dk_at dksX1_growths_4 3 rfl rfl)
theorem dX1_growths_95 : decode cX1_growths 95 = .ok (.getfield 526, 3) := dk_180 2 14 (dk_at dksX1_growths_4 4 rfl rfl)
theorem dX1_growths_98 : decode cX1_growths 98 = .ok (.isub, 1) := dk_100 (dk_at dksX1_growths_4 7 rfl rfl)
theorem dX1_growths_99 : decode cX1_growths 99 = .ok (.idiv, 1) := dk_108 (dk_at dksX1_growths_4 8 rfl rfl)
theorem dX1_growths_100 : decode cX1_growths 100 = .ok (.invokestatic 529, 3) := dk_184 2 17 (dk_at dksX1_growths_4 9 rfl rfl)
theorem dX1_growths_103 : decode cX1_growths 103 = .ok (.invokevirtual 123, 3) := dk_182 0 123 (dk_at dksX1_growths_4 12 rfl rfl)
theorem dX1_growths_106 : decode cX1_growths 106 = .ok (.pop, 1) := dk_87 (dk_at dksX1_growths_4 15 rfl rfl)
theorem dX1_growths_107 : decode cX1_growths 107 = .ok (.aload 5, 2) := dk_25 5 (dk_at dksX1_growths_4 16 rfl rfl)
theorem dX1_growths_109 : decode cX1_growths 109 = .ok (.astore_n 3, 1) := dk_78 (dk_at dksX1_growths_4 18 rfl rfl)
theorem dX1_growths_110 : decode cX1_growths 110 = .ok (.iinc 4 1, 3) := dk_132 4 1 (dk_at dksX1_growths_4 19 rfl rfl)
theorem dX1_growths_113 : decode cX1_growths 113 = .ok (.goto (-99), 3) := dk_167 255 157 (dk_at dksX1_growths_5 0 rfl rfl)
theorem dX1_growths_116 : decode cX1_growths 116 = .ok (.aload_n 2, 1) := dk_44 (dk_at dksX1_growths_5 3 rfl rfl)
theorem dX1_growths_117 : decode cX1_growths 117 = .ok (.areturn, 1) := dk_176 (dk_at dksX1_growths_5 4 rfl rfl)
abbrev cX1_extreme : ByteArray := prog_1_method_89_code
def yX1_extreme : MethodName := ⟨RX1, "extreme", "(Ljava/util/ArrayList;Z)I"⟩
def dkwX1_extreme_3 : List UInt8 := [61, 132, 3, 1, 167, 255, 207, 28, 172]
abbrev dktX1_extreme_3 : List UInt8 := dkwX1_extreme_3 ++ []
def dkwX1_extreme_2 : List UInt8 := [182, 2, 24, 184, 0, 224, 167, 0, 18, 28, 42, 29, 182, 0, 81, 192, 1, 162, 182, 2, 24, 184, 0, 218]
abbrev dktX1_extreme_2 : List UInt8 := dkwX1_extreme_2 ++ dktX1_extreme_3
def dkwX1_extreme_1 : List UInt8 := [62, 29, 42, 182, 0, 74, 162, 0, 47, 27, 153, 0, 21, 28, 42, 29, 182, 0, 81, 192, 1, 162]
abbrev dktX1_extreme_1 : List UInt8 := dkwX1_extreme_1 ++ dktX1_extreme_2
def dkwX1_extreme_0 : List UInt8 := [42, 182, 2, 20, 153, 0, 7, 3, 167, 0, 14, 42, 3, 182, 0, 81, 192, 1, 162, 182, 2, 24, 61, 4]
abbrev dktX1_extreme_0 : List UInt8 := dkwX1_extreme_0 ++ dktX1_extreme_1
theorem dksX1_extreme_0 : cX1_extreme.data.toList.drop 0 = dktX1_extreme_0 := by decide +kernel
theorem dksX1_extreme_1 : cX1_extreme.data.toList.drop 24 = dktX1_extreme_1 := dk_seg dksX1_extreme_0 24 rfl rfl
theorem dksX1_extreme_2 : cX1_extreme.data.toList.drop 46 = dktX1_extreme_2 := dk_seg dksX1_extreme_1 22 rfl rfl
theorem dksX1_extreme_3 : cX1_extreme.data.toList.drop 70 = dktX1_extreme_3 := dk_seg dksX1_extreme_2 24 rfl rfl
theorem dX1_extreme_0 : decode cX1_extreme 0 = .ok (.aload_n 0, 1) := dk_42 (dk_at dksX1_extreme_0 0 rfl rfl)
theorem dX1_extreme_1 : decode cX1_extreme 1 = .ok (.invokevirtual 532, 3) := dk_182 2 20 (dk_at dksX1_extreme_0 1 rfl rfl)
theorem dX1_extreme_4 : decode cX1_extreme 4 = .ok (.ifCond .eq 7, 3) := dk_153 0 7 (dk_at dksX1_extreme_0 4 rfl rfl)
theorem dX1_extreme_7 : decode cX1_extreme 7 = .ok (.iconst 0, 1) := dk_3 (dk_at dksX1_extreme_0 7 rfl rfl)
theorem dX1_extreme_8 : decode cX1_extreme 8 = .ok (.goto 14, 3) := dk_167 0 14 (dk_at dksX1_extreme_0 8 rfl rfl)
theorem dX1_extreme_11 : decode cX1_extreme 11 = .ok (.aload_n 0, 1) := dk_42 (dk_at dksX1_extreme_0 11 rfl rfl)
theorem dX1_extreme_12 : decode cX1_extreme 12 = .ok (.iconst 0, 1) := dk_3 (dk_at dksX1_extreme_0 12 rfl rfl)
theorem dX1_extreme_13 : decode cX1_extreme 13 = .ok (.invokevirtual 81, 3) := dk_182 0 81 (dk_at dksX1_extreme_0 13 rfl rfl)
theorem dX1_extreme_16 : decode cX1_extreme 16 = .ok (.checkcast 418, 3) := dk_192 1 162 (dk_at dksX1_extreme_0 16 rfl rfl)
theorem dX1_extreme_19 : decode cX1_extreme 19 = .ok (.invokevirtual 536, 3) := dk_182 2 24 (dk_at dksX1_extreme_0 19 rfl rfl)
theorem dX1_extreme_22 : decode cX1_extreme 22 = .ok (.istore_n 2, 1) := dk_61 (dk_at dksX1_extreme_0 22 rfl rfl)
theorem dX1_extreme_23 : decode cX1_extreme 23 = .ok (.iconst 1, 1) := dk_4 (dk_at dksX1_extreme_0 23 rfl rfl)
theorem dX1_extreme_24 : decode cX1_extreme 24 = .ok (.istore_n 3, 1) := dk_62 (dk_at dksX1_extreme_1 0 rfl rfl)
theorem dX1_extreme_25 : decode cX1_extreme 25 = .ok (.iload_n 3, 1) := dk_29 (dk_at dksX1_extreme_1 1 rfl rfl)
theorem dX1_extreme_26 : decode cX1_extreme 26 = .ok (.aload_n 0, 1) := dk_42 (dk_at dksX1_extreme_1 2 rfl rfl)
theorem dX1_extreme_27 : decode cX1_extreme 27 = .ok (.invokevirtual 74, 3) := dk_182 0 74 (dk_at dksX1_extreme_1 3 rfl rfl)
theorem dX1_extreme_30 : decode cX1_extreme 30 = .ok (.if_icmp .ge 47, 3) := dk_162 0 47 (dk_at dksX1_extreme_1 6 rfl rfl)
theorem dX1_extreme_33 : decode cX1_extreme 33 = .ok (.iload_n 1, 1) := dk_27 (dk_at dksX1_extreme_1 9 rfl rfl)
theorem dX1_extreme_34 : decode cX1_extreme 34 = .ok (.ifCond .eq 21, 3) := dk_153 0 21 (dk_at dksX1_extreme_1 10 rfl rfl)
theorem dX1_extreme_37 : decode cX1_extreme 37 = .ok (.iload_n 2, 1) := dk_28 (dk_at dksX1_extreme_1 13 rfl rfl)
theorem dX1_extreme_38 : decode cX1_extreme 38 = .ok (.aload_n 0, 1) := dk_42 (dk_at dksX1_extreme_1 14 rfl rfl)
theorem dX1_extreme_39 : decode cX1_extreme 39 = .ok (.iload_n 3, 1) := dk_29 (dk_at dksX1_extreme_1 15 rfl rfl)
theorem dX1_extreme_40 : decode cX1_extreme 40 = .ok (.invokevirtual 81, 3) := dk_182 0 81 (dk_at dksX1_extreme_1 16 rfl rfl)
theorem dX1_extreme_43 : decode cX1_extreme 43 = .ok (.checkcast 418, 3) := dk_192 1 162 (dk_at dksX1_extreme_1 19 rfl rfl)
theorem dX1_extreme_46 : decode cX1_extreme 46 = .ok (.invokevirtual 536, 3) := dk_182 2 24 (dk_at dksX1_extreme_2 0 rfl rfl)
theorem dX1_extreme_49 : decode cX1_extreme 49 = .ok (.invokestatic 224, 3) := dk_184 0 224 (dk_at dksX1_extreme_2 3 rfl rfl)
theorem dX1_extreme_52 : decode cX1_extreme 52 = .ok (.goto 18, 3) := dk_167 0 18 (dk_at dksX1_extreme_2 6 rfl rfl)
theorem dX1_extreme_55 : decode cX1_extreme 55 = .ok (.iload_n 2, 1) := dk_28 (dk_at dksX1_extreme_2 9 rfl rfl)
theorem dX1_extreme_56 : decode cX1_extreme 56 = .ok (.aload_n 0, 1) := dk_42 (dk_at dksX1_extreme_2 10 rfl rfl)
theorem dX1_extreme_57 : decode cX1_extreme 57 = .ok (.iload_n 3, 1) := dk_29 (dk_at dksX1_extreme_2 11 rfl rfl)
theorem dX1_extreme_58 : decode cX1_extreme 58 = .ok (.invokevirtual 81, 3) := dk_182 0 81 (dk_at dksX1_extreme_2 12 rfl rfl)
theorem dX1_extreme_61 : decode cX1_extreme 61 = .ok (.checkcast 418, 3) := dk_192 1 162 (dk_at dksX1_extreme_2 15 rfl rfl)
theorem dX1_extreme_64 : decode cX1_extreme 64 = .ok (.invokevirtual 536, 3) := dk_182 2 24 (dk_at dksX1_extreme_2 18 rfl rfl)
theorem dX1_extreme_67 : decode cX1_extreme 67 = .ok (.invokestatic 218, 3) := dk_184 0 218 (dk_at dksX1_extreme_2 21 rfl rfl)
theorem dX1_extreme_70 : decode cX1_extreme 70 = .ok (.istore_n 2, 1) := dk_61 (dk_at dksX1_extreme_3 0 rfl rfl)
theorem dX1_extreme_71 : decode cX1_extreme 71 = .ok (.iinc 3 1, 3) := dk_132 3 1 (dk_at dksX1_extreme_3 1 rfl rfl)
theorem dX1_extreme_74 : decode cX1_extreme 74 = .ok (.goto (-49), 3) := dk_167 255 207 (dk_at dksX1_extreme_3 4 rfl rfl)
theorem dX1_extreme_77 : decode cX1_extreme 77 = .ok (.iload_n 2, 1) := dk_28 (dk_at dksX1_extreme_3 7 rfl rfl)
theorem dX1_extreme_78 : decode cX1_extreme 78 = .ok (.ireturn, 1) := dk_172 (dk_at dksX1_extreme_3 8 rfl rfl)
abbrev cX1_nextBy : ByteArray := prog_1_method_93_code
def yX1_nextBy : MethodName := ⟨RX1, "nextBy", "(IIZ)I"⟩
def dkwX1_nextBy_2 : List UInt8 := [27, 182, 2, 10, 25, 5, 29, 184, 2, 31, 28, 182, 2, 40, 172]
abbrev dktX1_nextBy_2 : List UInt8 := dkwX1_nextBy_2 ++ []
def dkwX1_nextBy_1 : List UInt8 := [180, 1, 3, 5, 50, 198, 0, 11, 25, 5, 182, 2, 20, 153, 0, 7, 2, 167, 0, 21, 42, 25, 4, 42]
abbrev dktX1_nextBy_1 : List UInt8 := dkwX1_nextBy_1 ++ dktX1_nextBy_2
def dkwX1_nextBy_0 : List UInt8 := [42, 27, 182, 0, 162, 58, 4, 28, 184, 1, 89, 184, 0, 105, 42, 27, 182, 2, 27, 58, 5, 25, 4]
abbrev dktX1_nextBy_0 : List UInt8 := dkwX1_nextBy_0 ++ dktX1_nextBy_1
theorem dksX1_nextBy_0 : cX1_nextBy.data.toList.drop 0 = dktX1_nextBy_0 := by decide +kernel
theorem dksX1_nextBy_1 : cX1_nextBy.data.toList.drop 23 = dktX1_nextBy_1 := dk_seg dksX1_nextBy_0 23 rfl rfl
theorem dksX1_nextBy_2 : cX1_nextBy.data.toList.drop 47 = dktX1_nextBy_2 := dk_seg dksX1_nextBy_1 24 rfl rfl
theorem dX1_nextBy_0 : decode cX1_nextBy 0 = .ok (.aload_n 0, 1) := dk_42 (dk_at dksX1_nextBy_0 0 rfl rfl)
theorem dX1_nextBy_1 : decode cX1_nextBy 1 = .ok (.iload_n 1, 1) := dk_27 (dk_at dksX1_nextBy_0 1 rfl rfl)
theorem dX1_nextBy_2 : decode cX1_nextBy 2 = .ok (.invokevirtual 162, 3) := dk_182 0 162 (dk_at dksX1_nextBy_0 2 rfl rfl)
theorem dX1_nextBy_5 : decode cX1_nextBy 5 = .ok (.astore 4, 2) := dk_58 4 (dk_at dksX1_nextBy_0 5 rfl rfl)
theorem dX1_nextBy_7 : decode cX1_nextBy 7 = .ok (.iload_n 2, 1) := dk_28 (dk_at dksX1_nextBy_0 7 rfl rfl)
theorem dX1_nextBy_8 : decode cX1_nextBy 8 = .ok (.invokestatic 345, 3) := dk_184 1 89 (dk_at dksX1_nextBy_0 8 rfl rfl)
theorem dX1_nextBy_11 : decode cX1_nextBy 11 = .ok (.invokestatic 105, 3) := dk_184 0 105 (dk_at dksX1_nextBy_0 11 rfl rfl)
theorem dX1_nextBy_14 : decode cX1_nextBy 14 = .ok (.aload_n 0, 1) := dk_42 (dk_at dksX1_nextBy_0 14 rfl rfl)
theorem dX1_nextBy_15 : decode cX1_nextBy 15 = .ok (.iload_n 1, 1) := dk_27 (dk_at dksX1_nextBy_0 15 rfl rfl)
theorem dX1_nextBy_16 : decode cX1_nextBy 16 = .ok (.invokevirtual 539, 3) := dk_182 2 27 (dk_at dksX1_nextBy_0 16 rfl rfl)
theorem dX1_nextBy_19 : decode cX1_nextBy 19 = .ok (.astore 5, 2) := dk_58 5 (dk_at dksX1_nextBy_0 19 rfl rfl)
theorem dX1_nextBy_21 : decode cX1_nextBy 21 = .ok (.aload 4, 2) := dk_25 4 (dk_at dksX1_nextBy_0 21 rfl rfl)
theorem dX1_nextBy_23 : decode cX1_nextBy 23 = .ok (.getfield 259, 3) := dk_180 1 3 (dk_at dksX1_nextBy_1 0 rfl rfl)
theorem dX1_nextBy_26 : decode cX1_nextBy 26 = .ok (.iconst 2, 1) := dk_5 (dk_at dksX1_nextBy_1 3 rfl rfl)
theorem dX1_nextBy_27 : decode cX1_nextBy 27 = .ok (.aaload, 1) := dk_50 (dk_at dksX1_nextBy_1 4 rfl rfl)
theorem dX1_nextBy_28 : decode cX1_nextBy 28 = .ok (.ifnull 11, 3) := dk_198 0 11 (dk_at dksX1_nextBy_1 5 rfl rfl)
theorem dX1_nextBy_31 : decode cX1_nextBy 31 = .ok (.aload 5, 2) := dk_25 5 (dk_at dksX1_nextBy_1 8 rfl rfl)
theorem dX1_nextBy_33 : decode cX1_nextBy 33 = .ok (.invokevirtual 532, 3) := dk_182 2 20 (dk_at dksX1_nextBy_1 10 rfl rfl)
theorem dX1_nextBy_36 : decode cX1_nextBy 36 = .ok (.ifCond .eq 7, 3) := dk_153 0 7 (dk_at dksX1_nextBy_1 13 rfl rfl)
theorem dX1_nextBy_39 : decode cX1_nextBy 39 = .ok (.iconst (-1), 1) := dk_2 (dk_at dksX1_nextBy_1 16 rfl rfl)
theorem dX1_nextBy_40 : decode cX1_nextBy 40 = .ok (.goto 21, 3) := dk_167 0 21 (dk_at dksX1_nextBy_1 17 rfl rfl)
theorem dX1_nextBy_43 : decode cX1_nextBy 43 = .ok (.aload_n 0, 1) := dk_42 (dk_at dksX1_nextBy_1 20 rfl rfl)
theorem dX1_nextBy_44 : decode cX1_nextBy 44 = .ok (.aload 4, 2) := dk_25 4 (dk_at dksX1_nextBy_1 21 rfl rfl)
theorem dX1_nextBy_46 : decode cX1_nextBy 46 = .ok (.aload_n 0, 1) := dk_42 (dk_at dksX1_nextBy_1 23 rfl rfl)
theorem dX1_nextBy_47 : decode cX1_nextBy 47 = .ok (.iload_n 1, 1) := dk_27 (dk_at dksX1_nextBy_2 0 rfl rfl)
theorem dX1_nextBy_48 : decode cX1_nextBy 48 = .ok (.invokevirtual 522, 3) := dk_182 2 10 (dk_at dksX1_nextBy_2 1 rfl rfl)
theorem dX1_nextBy_51 : decode cX1_nextBy 51 = .ok (.aload 5, 2) := dk_25 5 (dk_at dksX1_nextBy_2 4 rfl rfl)
theorem dX1_nextBy_53 : decode cX1_nextBy 53 = .ok (.iload_n 3, 1) := dk_29 (dk_at dksX1_nextBy_2 6 rfl rfl)
theorem dX1_nextBy_54 : decode cX1_nextBy 54 = .ok (.invokestatic 543, 3) := dk_184 2 31 (dk_at dksX1_nextBy_2 7 rfl rfl)
theorem dX1_nextBy_57 : decode cX1_nextBy 57 = .ok (.iload_n 2, 1) := dk_28 (dk_at dksX1_nextBy_2 10 rfl rfl)
theorem dX1_nextBy_58 : decode cX1_nextBy 58 = .ok (.invokevirtual 552, 3) := dk_182 2 40 (dk_at dksX1_nextBy_2 11 rfl rfl)
theorem dX1_nextBy_61 : decode cX1_nextBy 61 = .ok (.ireturn, 1) := dk_172 (dk_at dksX1_nextBy_2 14 rfl rfl)
abbrev cX1_nextBy_2 : ByteArray := prog_1_method_91_code
def yX1_nextBy_2 : MethodName := ⟨RX1, "nextBy", "(LLimbBenches$Person;LLimbBenches$Measure;II)I"⟩
def dkwX1_nextBy_2_2 : List UInt8 := [101, 184, 2, 37, 21, 4, 133, 148, 158, 0, 6, 21, 5, 172, 132, 5, 1, 167, 255, 200, 2, 172]
abbrev dktX1_nextBy_2_2 : List UInt8 := dkwX1_nextBy_2_2 ++ []
def dkwX1_nextBy_2_1 : List UInt8 := [21, 5, 44, 180, 2, 14, 100, 133, 105, 20, 2, 35, 109, 97, 43, 180, 1, 3, 5, 50, 180, 1, 92, 133]
abbrev dktX1_nextBy_2_1 : List UInt8 := dkwX1_nextBy_2_1 ++ dktX1_nextBy_2_2
def dkwX1_nextBy_2_0 : List UInt8 := [42, 180, 0, 10, 180, 0, 149, 54, 5, 21, 5, 17, 78, 32, 163, 0, 54, 44, 180, 2, 16, 133, 29, 133]
abbrev dktX1_nextBy_2_0 : List UInt8 := dkwX1_nextBy_2_0 ++ dktX1_nextBy_2_1
theorem dksX1_nextBy_2_0 : cX1_nextBy_2.data.toList.drop 0 = dktX1_nextBy_2_0 := by decide +kernel
theorem dksX1_nextBy_2_1 : cX1_nextBy_2.data.toList.drop 24 = dktX1_nextBy_2_1 := dk_seg dksX1_nextBy_2_0 24 rfl rfl
theorem dksX1_nextBy_2_2 : cX1_nextBy_2.data.toList.drop 48 = dktX1_nextBy_2_2 := dk_seg dksX1_nextBy_2_1 24 rfl rfl
theorem dX1_nextBy_2_0 : decode cX1_nextBy_2 0 = .ok (.aload_n 0, 1) := dk_42 (dk_at dksX1_nextBy_2_0 0 rfl rfl)
theorem dX1_nextBy_2_1 : decode cX1_nextBy_2 1 = .ok (.getfield 10, 3) := dk_180 0 10 (dk_at dksX1_nextBy_2_0 1 rfl rfl)
theorem dX1_nextBy_2_4 : decode cX1_nextBy_2 4 = .ok (.getfield 149, 3) := dk_180 0 149 (dk_at dksX1_nextBy_2_0 4 rfl rfl)
theorem dX1_nextBy_2_7 : decode cX1_nextBy_2 7 = .ok (.istore 5, 2) := dk_54 5 (dk_at dksX1_nextBy_2_0 7 rfl rfl)
theorem dX1_nextBy_2_9 : decode cX1_nextBy_2 9 = .ok (.iload 5, 2) := dk_21 5 (dk_at dksX1_nextBy_2_0 9 rfl rfl)
theorem dX1_nextBy_2_11 : decode cX1_nextBy_2 11 = .ok (.sipush 20000, 3) := dk_17 78 32 (dk_at dksX1_nextBy_2_0 11 rfl rfl)
theorem dX1_nextBy_2_14 : decode cX1_nextBy_2 14 = .ok (.if_icmp .gt 54, 3) := dk_163 0 54 (dk_at dksX1_nextBy_2_0 14 rfl rfl)
theorem dX1_nextBy_2_17 : decode cX1_nextBy_2 17 = .ok (.aload_n 2, 1) := dk_44 (dk_at dksX1_nextBy_2_0 17 rfl rfl)
theorem dX1_nextBy_2_18 : decode cX1_nextBy_2 18 = .ok (.getfield 528, 3) := dk_180 2 16 (dk_at dksX1_nextBy_2_0 18 rfl rfl)
theorem dX1_nextBy_2_21 : decode cX1_nextBy_2 21 = .ok (.i2l, 1) := dk_133 (dk_at dksX1_nextBy_2_0 21 rfl rfl)
theorem dX1_nextBy_2_22 : decode cX1_nextBy_2 22 = .ok (.iload_n 3, 1) := dk_29 (dk_at dksX1_nextBy_2_0 22 rfl rfl)
theorem dX1_nextBy_2_23 : decode cX1_nextBy_2 23 = .ok (.i2l, 1) := dk_133 (dk_at dksX1_nextBy_2_0 23 rfl rfl)
theorem dX1_nextBy_2_24 : decode cX1_nextBy_2 24 = .ok (.iload 5, 2) := dk_21 5 (dk_at dksX1_nextBy_2_1 0 rfl rfl)
theorem dX1_nextBy_2_26 : decode cX1_nextBy_2 26 = .ok (.aload_n 2, 1) := dk_44 (dk_at dksX1_nextBy_2_1 2 rfl rfl)
theorem dX1_nextBy_2_27 : decode cX1_nextBy_2 27 = .ok (.getfield 526, 3) := dk_180 2 14 (dk_at dksX1_nextBy_2_1 3 rfl rfl)
theorem dX1_nextBy_2_30 : decode cX1_nextBy_2 30 = .ok (.isub, 1) := dk_100 (dk_at dksX1_nextBy_2_1 6 rfl rfl)
theorem dX1_nextBy_2_31 : decode cX1_nextBy_2 31 = .ok (.i2l, 1) := dk_133 (dk_at dksX1_nextBy_2_1 7 rfl rfl)
theorem dX1_nextBy_2_32 : decode cX1_nextBy_2 32 = .ok (.lmul, 1) := dk_105 (dk_at dksX1_nextBy_2_1 8 rfl rfl)
theorem dX1_nextBy_2_33 : decode cX1_nextBy_2 33 = .ok (.ldc2_w 547, 3) := dk_20 2 35 (dk_at dksX1_nextBy_2_1 9 rfl rfl)
theorem dX1_nextBy_2_36 : decode cX1_nextBy_2 36 = .ok (.ldiv, 1) := dk_109 (dk_at dksX1_nextBy_2_1 12 rfl rfl)
theorem dX1_nextBy_2_37 : decode cX1_nextBy_2 37 = .ok (.ladd, 1) := dk_97 (dk_at dksX1_nextBy_2_1 13 rfl rfl)
theorem dX1_nextBy_2_38 : decode cX1_nextBy_2 38 = .ok (.aload_n 1, 1) := dk_43 (dk_at dksX1_nextBy_2_1 14 rfl rfl)
theorem dX1_nextBy_2_39 : decode cX1_nextBy_2 39 = .ok (.getfield 259, 3) := dk_180 1 3 (dk_at dksX1_nextBy_2_1 15 rfl rfl)
theorem dX1_nextBy_2_42 : decode cX1_nextBy_2 42 = .ok (.iconst 2, 1) := dk_5 (dk_at dksX1_nextBy_2_1 18 rfl rfl)
theorem dX1_nextBy_2_43 : decode cX1_nextBy_2 43 = .ok (.aaload, 1) := dk_50 (dk_at dksX1_nextBy_2_1 19 rfl rfl)
theorem dX1_nextBy_2_44 : decode cX1_nextBy_2 44 = .ok (.getfield 348, 3) := dk_180 1 92 (dk_at dksX1_nextBy_2_1 20 rfl rfl)
theorem dX1_nextBy_2_47 : decode cX1_nextBy_2 47 = .ok (.i2l, 1) := dk_133 (dk_at dksX1_nextBy_2_1 23 rfl rfl)
theorem dX1_nextBy_2_48 : decode cX1_nextBy_2 48 = .ok (.lsub, 1) := dk_101 (dk_at dksX1_nextBy_2_2 0 rfl rfl)
theorem dX1_nextBy_2_49 : decode cX1_nextBy_2 49 = .ok (.invokestatic 549, 3) := dk_184 2 37 (dk_at dksX1_nextBy_2_2 1 rfl rfl)
theorem dX1_nextBy_2_52 : decode cX1_nextBy_2 52 = .ok (.iload 4, 2) := dk_21 4 (dk_at dksX1_nextBy_2_2 4 rfl rfl)
theorem dX1_nextBy_2_54 : decode cX1_nextBy_2 54 = .ok (.i2l, 1) := dk_133 (dk_at dksX1_nextBy_2_2 6 rfl rfl)
theorem dX1_nextBy_2_55 : decode cX1_nextBy_2 55 = .ok (.lcmp, 1) := dk_148 (dk_at dksX1_nextBy_2_2 7 rfl rfl)
theorem dX1_nextBy_2_56 : decode cX1_nextBy_2 56 = .ok (.ifCond .le 6, 3) := dk_158 0 6 (dk_at dksX1_nextBy_2_2 8 rfl rfl)
theorem dX1_nextBy_2_59 : decode cX1_nextBy_2 59 = .ok (.iload 5, 2) := dk_21 5 (dk_at dksX1_nextBy_2_2 11 rfl rfl)
theorem dX1_nextBy_2_61 : decode cX1_nextBy_2 61 = .ok (.ireturn, 1) := dk_172 (dk_at dksX1_nextBy_2_2 13 rfl rfl)
theorem dX1_nextBy_2_62 : decode cX1_nextBy_2 62 = .ok (.iinc 5 1, 3) := dk_132 5 1 (dk_at dksX1_nextBy_2_2 14 rfl rfl)
theorem dX1_nextBy_2_65 : decode cX1_nextBy_2 65 = .ok (.goto (-56), 3) := dk_167 255 200 (dk_at dksX1_nextBy_2_2 17 rfl rfl)
theorem dX1_nextBy_2_68 : decode cX1_nextBy_2 68 = .ok (.iconst (-1), 1) := dk_2 (dk_at dksX1_nextBy_2_2 20 rfl rfl)
theorem dX1_nextBy_2_69 : decode cX1_nextBy_2 69 = .ok (.ireturn, 1) := dk_172 (dk_at dksX1_nextBy_2_2 21 rfl rfl)
abbrev cX1_chance : ByteArray := prog_1_method_94_code
def yX1_chance : MethodName := ⟨RX1, "chance", "(III)I"⟩
def dkwX1_chance_5 : List UInt8 := [21, 6, 172]
abbrev dktX1_chance_5 : List UInt8 := dkwX1_chance_5 ++ []
def dkwX1_chance_4 : List UInt8 := [159, 0, 13, 21, 8, 29, 163, 0, 7, 4, 167, 0, 4, 3, 96, 54, 6, 132, 7, 1, 167, 255, 184]
abbrev dktX1_chance_4 : List UInt8 := dkwX1_chance_4 ++ dktX1_chance_5
def dkwX1_chance_3 : List UInt8 := [25, 5, 21, 7, 182, 0, 81, 192, 1, 162, 182, 2, 24, 28, 182, 2, 40, 54, 8, 21, 6, 21, 8, 2]
abbrev dktX1_chance_3 : List UInt8 := dkwX1_chance_3 ++ dktX1_chance_4
def dkwX1_chance_2 : List UInt8 := [182, 0, 74, 162, 0, 68, 25, 4, 180, 1, 3, 5, 50, 198, 0, 58, 42, 25, 4, 42, 27, 182, 2, 10]
abbrev dktX1_chance_2 : List UInt8 := dkwX1_chance_2 ++ dktX1_chance_3
def dkwX1_chance_1 : List UInt8 := [167, 0, 4, 3, 184, 0, 105, 42, 27, 182, 2, 27, 58, 5, 3, 54, 6, 3, 54, 7, 21, 7, 25, 5]
abbrev dktX1_chance_1 : List UInt8 := dkwX1_chance_1 ++ dktX1_chance_2
def dkwX1_chance_0 : List UInt8 := [42, 27, 182, 0, 162, 58, 4, 28, 184, 1, 89, 153, 0, 14, 29, 184, 0, 101, 153, 0, 7, 4]
abbrev dktX1_chance_0 : List UInt8 := dkwX1_chance_0 ++ dktX1_chance_1
theorem dksX1_chance_0 : cX1_chance.data.toList.drop 0 = dktX1_chance_0 := by decide +kernel
theorem dksX1_chance_1 : cX1_chance.data.toList.drop 22 = dktX1_chance_1 := dk_seg dksX1_chance_0 22 rfl rfl
theorem dksX1_chance_2 : cX1_chance.data.toList.drop 46 = dktX1_chance_2 := dk_seg dksX1_chance_1 24 rfl rfl
theorem dksX1_chance_3 : cX1_chance.data.toList.drop 70 = dktX1_chance_3 := dk_seg dksX1_chance_2 24 rfl rfl
theorem dksX1_chance_4 : cX1_chance.data.toList.drop 94 = dktX1_chance_4 := dk_seg dksX1_chance_3 24 rfl rfl
theorem dksX1_chance_5 : cX1_chance.data.toList.drop 117 = dktX1_chance_5 := dk_seg dksX1_chance_4 23 rfl rfl
theorem dX1_chance_0 : decode cX1_chance 0 = .ok (.aload_n 0, 1) := dk_42 (dk_at dksX1_chance_0 0 rfl rfl)
theorem dX1_chance_1 : decode cX1_chance 1 = .ok (.iload_n 1, 1) := dk_27 (dk_at dksX1_chance_0 1 rfl rfl)
theorem dX1_chance_2 : decode cX1_chance 2 = .ok (.invokevirtual 162, 3) := dk_182 0 162 (dk_at dksX1_chance_0 2 rfl rfl)
theorem dX1_chance_5 : decode cX1_chance 5 = .ok (.astore 4, 2) := dk_58 4 (dk_at dksX1_chance_0 5 rfl rfl)
theorem dX1_chance_7 : decode cX1_chance 7 = .ok (.iload_n 2, 1) := dk_28 (dk_at dksX1_chance_0 7 rfl rfl)
theorem dX1_chance_8 : decode cX1_chance 8 = .ok (.invokestatic 345, 3) := dk_184 1 89 (dk_at dksX1_chance_0 8 rfl rfl)
theorem dX1_chance_11 : decode cX1_chance 11 = .ok (.ifCond .eq 14, 3) := dk_153 0 14 (dk_at dksX1_chance_0 11 rfl rfl)
theorem dX1_chance_14 : decode cX1_chance 14 = .ok (.iload_n 3, 1) := dk_29 (dk_at dksX1_chance_0 14 rfl rfl)
theorem dX1_chance_15 : decode cX1_chance 15 = .ok (.invokestatic 101, 3) := dk_184 0 101 (dk_at dksX1_chance_0 15 rfl rfl)
theorem dX1_chance_18 : decode cX1_chance 18 = .ok (.ifCond .eq 7, 3) := dk_153 0 7 (dk_at dksX1_chance_0 18 rfl rfl)
theorem dX1_chance_21 : decode cX1_chance 21 = .ok (.iconst 1, 1) := dk_4 (dk_at dksX1_chance_0 21 rfl rfl)
theorem dX1_chance_22 : decode cX1_chance 22 = .ok (.goto 4, 3) := dk_167 0 4 (dk_at dksX1_chance_1 0 rfl rfl)
theorem dX1_chance_25 : decode cX1_chance 25 = .ok (.iconst 0, 1) := dk_3 (dk_at dksX1_chance_1 3 rfl rfl)
theorem dX1_chance_26 : decode cX1_chance 26 = .ok (.invokestatic 105, 3) := dk_184 0 105 (dk_at dksX1_chance_1 4 rfl rfl)
theorem dX1_chance_29 : decode cX1_chance 29 = .ok (.aload_n 0, 1) := dk_42 (dk_at dksX1_chance_1 7 rfl rfl)
theorem dX1_chance_30 : decode cX1_chance 30 = .ok (.iload_n 1, 1) := dk_27 (dk_at dksX1_chance_1 8 rfl rfl)
theorem dX1_chance_31 : decode cX1_chance 31 = .ok (.invokevirtual 539, 3) := dk_182 2 27 (dk_at dksX1_chance_1 9 rfl rfl)
theorem dX1_chance_34 : decode cX1_chance 34 = .ok (.astore 5, 2) := dk_58 5 (dk_at dksX1_chance_1 12 rfl rfl)
theorem dX1_chance_36 : decode cX1_chance 36 = .ok (.iconst 0, 1) := dk_3 (dk_at dksX1_chance_1 14 rfl rfl)
theorem dX1_chance_37 : decode cX1_chance 37 = .ok (.istore 6, 2) := dk_54 6 (dk_at dksX1_chance_1 15 rfl rfl)
theorem dX1_chance_39 : decode cX1_chance 39 = .ok (.iconst 0, 1) := dk_3 (dk_at dksX1_chance_1 17 rfl rfl)
theorem dX1_chance_40 : decode cX1_chance 40 = .ok (.istore 7, 2) := dk_54 7 (dk_at dksX1_chance_1 18 rfl rfl)
theorem dX1_chance_42 : decode cX1_chance 42 = .ok (.iload 7, 2) := dk_21 7 (dk_at dksX1_chance_1 20 rfl rfl)
theorem dX1_chance_44 : decode cX1_chance 44 = .ok (.aload 5, 2) := dk_25 5 (dk_at dksX1_chance_1 22 rfl rfl)
theorem dX1_chance_46 : decode cX1_chance 46 = .ok (.invokevirtual 74, 3) := dk_182 0 74 (dk_at dksX1_chance_2 0 rfl rfl)
theorem dX1_chance_49 : decode cX1_chance 49 = .ok (.if_icmp .ge 68, 3) := dk_162 0 68 (dk_at dksX1_chance_2 3 rfl rfl)
theorem dX1_chance_52 : decode cX1_chance 52 = .ok (.aload 4, 2) := dk_25 4 (dk_at dksX1_chance_2 6 rfl rfl)
theorem dX1_chance_54 : decode cX1_chance 54 = .ok (.getfield 259, 3) := dk_180 1 3 (dk_at dksX1_chance_2 8 rfl rfl)
theorem dX1_chance_57 : decode cX1_chance 57 = .ok (.iconst 2, 1) := dk_5 (dk_at dksX1_chance_2 11 rfl rfl)
theorem dX1_chance_58 : decode cX1_chance 58 = .ok (.aaload, 1) := dk_50 (dk_at dksX1_chance_2 12 rfl rfl)
theorem dX1_chance_59 : decode cX1_chance 59 = .ok (.ifnull 58, 3) := dk_198 0 58 (dk_at dksX1_chance_2 13 rfl rfl)
theorem dX1_chance_62 : decode cX1_chance 62 = .ok (.aload_n 0, 1) := dk_42 (dk_at dksX1_chance_2 16 rfl rfl)
theorem dX1_chance_63 : decode cX1_chance 63 = .ok (.aload 4, 2) := dk_25 4 (dk_at dksX1_chance_2 17 rfl rfl)
theorem dX1_chance_65 : decode cX1_chance 65 = .ok (.aload_n 0, 1) := dk_42 (dk_at dksX1_chance_2 19 rfl rfl)
theorem dX1_chance_66 : decode cX1_chance 66 = .ok (.iload_n 1, 1) := dk_27 (dk_at dksX1_chance_2 20 rfl rfl)
theorem dX1_chance_67 : decode cX1_chance 67 = .ok (.invokevirtual 522, 3) := dk_182 2 10 (dk_at dksX1_chance_2 21 rfl rfl)
theorem dX1_chance_70 : decode cX1_chance 70 = .ok (.aload 5, 2) := dk_25 5 (dk_at dksX1_chance_3 0 rfl rfl)
theorem dX1_chance_72 : decode cX1_chance 72 = .ok (.iload 7, 2) := dk_21 7 (dk_at dksX1_chance_3 2 rfl rfl)
theorem dX1_chance_74 : decode cX1_chance 74 = .ok (.invokevirtual 81, 3) := dk_182 0 81 (dk_at dksX1_chance_3 4 rfl rfl)
theorem dX1_chance_77 : decode cX1_chance 77 = .ok (.checkcast 418, 3) := dk_192 1 162 (dk_at dksX1_chance_3 7 rfl rfl)
theorem dX1_chance_80 : decode cX1_chance 80 = .ok (.invokevirtual 536, 3) := dk_182 2 24 (dk_at dksX1_chance_3 10 rfl rfl)
theorem dX1_chance_83 : decode cX1_chance 83 = .ok (.iload_n 2, 1) := dk_28 (dk_at dksX1_chance_3 13 rfl rfl)
theorem dX1_chance_84 : decode cX1_chance 84 = .ok (.invokevirtual 552, 3) := dk_182 2 40 (dk_at dksX1_chance_3 14 rfl rfl)
theorem dX1_chance_87 : decode cX1_chance 87 = .ok (.istore 8, 2) := dk_54 8 (dk_at dksX1_chance_3 17 rfl rfl)
theorem dX1_chance_89 : decode cX1_chance 89 = .ok (.iload 6, 2) := dk_21 6 (dk_at dksX1_chance_3 19 rfl rfl)
theorem dX1_chance_91 : decode cX1_chance 91 = .ok (.iload 8, 2) := dk_21 8 (dk_at dksX1_chance_3 21 rfl rfl)
theorem dX1_chance_93 : decode cX1_chance 93 = .ok (.iconst (-1), 1) := dk_2 (dk_at dksX1_chance_3 23 rfl rfl)
theorem dX1_chance_94 : decode cX1_chance 94 = .ok (.if_icmp .eq 13, 3) := dk_159 0 13 (dk_at dksX1_chance_4 0 rfl rfl)
theorem dX1_chance_97 : decode cX1_chance 97 = .ok (.iload 8, 2) := dk_21 8 (dk_at dksX1_chance_4 3 rfl rfl)
theorem dX1_chance_99 : decode cX1_chance 99 = .ok (.iload_n 3, 1) := dk_29 (dk_at dksX1_chance_4 5 rfl rfl)
theorem dX1_chance_100 : decode cX1_chance 100 = .ok (.if_icmp .gt 7, 3) := dk_163 0 7 (dk_at dksX1_chance_4 6 rfl rfl)
theorem dX1_chance_103 : decode cX1_chance 103 = .ok (.iconst 1, 1) := dk_4 (dk_at dksX1_chance_4 9 rfl rfl)
theorem dX1_chance_104 : decode cX1_chance 104 = .ok (.goto 4, 3) := dk_167 0 4 (dk_at dksX1_chance_4 10 rfl rfl)
theorem dX1_chance_107 : decode cX1_chance 107 = .ok (.iconst 0, 1) := dk_3 (dk_at dksX1_chance_4 13 rfl rfl)
theorem dX1_chance_108 : decode cX1_chance 108 = .ok (.iadd, 1) := dk_96 (dk_at dksX1_chance_4 14 rfl rfl)
theorem dX1_chance_109 : decode cX1_chance 109 = .ok (.istore 6, 2) := dk_54 6 (dk_at dksX1_chance_4 15 rfl rfl)
theorem dX1_chance_111 : decode cX1_chance 111 = .ok (.iinc 7 1, 3) := dk_132 7 1 (dk_at dksX1_chance_4 17 rfl rfl)
theorem dX1_chance_114 : decode cX1_chance 114 = .ok (.goto (-72), 3) := dk_167 255 184 (dk_at dksX1_chance_4 20 rfl rfl)
theorem dX1_chance_117 : decode cX1_chance 117 = .ok (.iload 6, 2) := dk_21 6 (dk_at dksX1_chance_5 0 rfl rfl)
theorem dX1_chance_119 : decode cX1_chance 119 = .ok (.ireturn, 1) := dk_172 (dk_at dksX1_chance_5 2 rfl rfl)
abbrev cX1_fitter : ByteArray := prog_1_method_96_code
def yX1_fitter : MethodName := ⟨RX1, "fitter", "(I)I"⟩
def dkwX1_fitter_1 : List UInt8 := [172]
abbrev dktX1_fitter_1 : List UInt8 := dkwX1_fitter_1 ++ []
def dkwX1_fitter_0 : List UInt8 := [27, 184, 2, 44, 184, 0, 105, 42, 180, 0, 10, 180, 1, 24, 61, 42, 180, 0, 10, 27, 181, 1, 24, 28]
abbrev dktX1_fitter_0 : List UInt8 := dkwX1_fitter_0 ++ dktX1_fitter_1
theorem dksX1_fitter_0 : cX1_fitter.data.toList.drop 0 = dktX1_fitter_0 := by decide +kernel
theorem dksX1_fitter_1 : cX1_fitter.data.toList.drop 24 = dktX1_fitter_1 := dk_seg dksX1_fitter_0 24 rfl rfl
theorem dX1_fitter_0 : decode cX1_fitter 0 = .ok (.iload_n 1, 1) := dk_27 (dk_at dksX1_fitter_0 0 rfl rfl)
theorem dX1_fitter_1 : decode cX1_fitter 1 = .ok (.invokestatic 556, 3) := dk_184 2 44 (dk_at dksX1_fitter_0 1 rfl rfl)
theorem dX1_fitter_4 : decode cX1_fitter 4 = .ok (.invokestatic 105, 3) := dk_184 0 105 (dk_at dksX1_fitter_0 4 rfl rfl)
theorem dX1_fitter_7 : decode cX1_fitter 7 = .ok (.aload_n 0, 1) := dk_42 (dk_at dksX1_fitter_0 7 rfl rfl)
theorem dX1_fitter_8 : decode cX1_fitter 8 = .ok (.getfield 10, 3) := dk_180 0 10 (dk_at dksX1_fitter_0 8 rfl rfl)
theorem dX1_fitter_11 : decode cX1_fitter 11 = .ok (.getfield 280, 3) := dk_180 1 24 (dk_at dksX1_fitter_0 11 rfl rfl)
theorem dX1_fitter_14 : decode cX1_fitter 14 = .ok (.istore_n 2, 1) := dk_61 (dk_at dksX1_fitter_0 14 rfl rfl)
theorem dX1_fitter_15 : decode cX1_fitter 15 = .ok (.aload_n 0, 1) := dk_42 (dk_at dksX1_fitter_0 15 rfl rfl)
theorem dX1_fitter_16 : decode cX1_fitter 16 = .ok (.getfield 10, 3) := dk_180 0 10 (dk_at dksX1_fitter_0 16 rfl rfl)
theorem dX1_fitter_19 : decode cX1_fitter 19 = .ok (.iload_n 1, 1) := dk_27 (dk_at dksX1_fitter_0 19 rfl rfl)
theorem dX1_fitter_20 : decode cX1_fitter 20 = .ok (.putfield 280, 3) := dk_181 1 24 (dk_at dksX1_fitter_0 20 rfl rfl)
theorem dX1_fitter_23 : decode cX1_fitter 23 = .ok (.iload_n 2, 1) := dk_28 (dk_at dksX1_fitter_0 23 rfl rfl)
theorem dX1_fitter_24 : decode cX1_fitter 24 = .ok (.ireturn, 1) := dk_172 (dk_at dksX1_fitter_1 0 rfl rfl)
abbrev cX1_isFitter : ByteArray := prog_1_method_95_code
def yX1_isFitter : MethodName := ⟨RX1, "isFitter", "(I)Z"⟩
def dkwX1_isFitter_0 : List UInt8 := [26, 155, 0, 12, 26, 7, 162, 0, 7, 4, 167, 0, 4, 3, 172]
abbrev dktX1_isFitter_0 : List UInt8 := dkwX1_isFitter_0 ++ []
theorem dksX1_isFitter_0 : cX1_isFitter.data.toList.drop 0 = dktX1_isFitter_0 := by decide +kernel
theorem dX1_isFitter_0 : decode cX1_isFitter 0 = .ok (.iload_n 0, 1) := dk_26 (dk_at dksX1_isFitter_0 0 rfl rfl)
theorem dX1_isFitter_1 : decode cX1_isFitter 1 = .ok (.ifCond .lt 12, 3) := dk_155 0 12 (dk_at dksX1_isFitter_0 1 rfl rfl)
theorem dX1_isFitter_4 : decode cX1_isFitter 4 = .ok (.iload_n 0, 1) := dk_26 (dk_at dksX1_isFitter_0 4 rfl rfl)
theorem dX1_isFitter_5 : decode cX1_isFitter 5 = .ok (.iconst 4, 1) := dk_7 (dk_at dksX1_isFitter_0 5 rfl rfl)
theorem dX1_isFitter_6 : decode cX1_isFitter 6 = .ok (.if_icmp .ge 7, 3) := dk_162 0 7 (dk_at dksX1_isFitter_0 6 rfl rfl)
theorem dX1_isFitter_9 : decode cX1_isFitter 9 = .ok (.iconst 1, 1) := dk_4 (dk_at dksX1_isFitter_0 9 rfl rfl)
theorem dX1_isFitter_10 : decode cX1_isFitter 10 = .ok (.goto 4, 3) := dk_167 0 4 (dk_at dksX1_isFitter_0 10 rfl rfl)
theorem dX1_isFitter_13 : decode cX1_isFitter 13 = .ok (.iconst 0, 1) := dk_3 (dk_at dksX1_isFitter_0 13 rfl rfl)
theorem dX1_isFitter_14 : decode cX1_isFitter 14 = .ok (.ireturn, 1) := dk_172 (dk_at dksX1_isFitter_0 14 rfl rfl)
abbrev cX1_blister : ByteArray := prog_1_method_97_code
def yX1_blister : MethodName := ⟨RX1, "blister", "(I)I"⟩
def dkwX1_blister_6 : List UInt8 := [132, 4, 1, 167, 255, 152, 29, 172]
abbrev dktX1_blister_6 : List UInt8 := dkwX1_blister_6 ++ []
def dkwX1_blister_5 : List UInt8 := [180, 2, 56, 25, 5, 180, 2, 57, 42, 180, 0, 10, 180, 0, 149, 183, 1, 27, 182, 1, 207, 87]
abbrev dktX1_blister_5 : List UInt8 := dkwX1_blister_5 ++ dktX1_blister_6
def dkwX1_blister_4 : List UInt8 := [180, 0, 10, 180, 1, 12, 44, 180, 1, 3, 21, 4, 50, 180, 2, 50, 187, 1, 22, 89, 25, 5]
abbrev dktX1_blister_4 : List UInt8 := dkwX1_blister_4 ++ dktX1_blister_5
def dkwX1_blister_3 : List UInt8 := [21, 4, 50, 180, 2, 50, 182, 0, 81, 192, 1, 22, 58, 5, 25, 5, 180, 2, 53, 2, 160, 0, 48, 42]
abbrev dktX1_blister_3 : List UInt8 := dkwX1_blister_3 ++ dktX1_blister_4
def dkwX1_blister_2 : List UInt8 := [21, 4, 50, 199, 0, 6, 167, 0, 85, 132, 3, 1, 42, 180, 0, 10, 180, 1, 12, 44, 180, 1, 3]
abbrev dktX1_blister_2 : List UInt8 := dkwX1_blister_2 ++ dktX1_blister_3
def dkwX1_blister_1 : List UInt8 := [89, 180, 2, 47, 4, 96, 181, 2, 47, 3, 62, 3, 54, 4, 21, 4, 7, 162, 0, 104, 44, 180, 1, 3]
abbrev dktX1_blister_1 : List UInt8 := dkwX1_blister_1 ++ dktX1_blister_2
def dkwX1_blister_0 : List UInt8 := [42, 27, 182, 0, 162, 77, 42, 180, 0, 10, 180, 2, 47, 16, 30, 160, 0, 5, 2, 172, 42, 180, 0, 10]
abbrev dktX1_blister_0 : List UInt8 := dkwX1_blister_0 ++ dktX1_blister_1
theorem dksX1_blister_0 : cX1_blister.data.toList.drop 0 = dktX1_blister_0 := by decide +kernel
theorem dksX1_blister_1 : cX1_blister.data.toList.drop 24 = dktX1_blister_1 := dk_seg dksX1_blister_0 24 rfl rfl
theorem dksX1_blister_2 : cX1_blister.data.toList.drop 48 = dktX1_blister_2 := dk_seg dksX1_blister_1 24 rfl rfl
theorem dksX1_blister_3 : cX1_blister.data.toList.drop 71 = dktX1_blister_3 := dk_seg dksX1_blister_2 23 rfl rfl
theorem dksX1_blister_4 : cX1_blister.data.toList.drop 95 = dktX1_blister_4 := dk_seg dksX1_blister_3 24 rfl rfl
theorem dksX1_blister_5 : cX1_blister.data.toList.drop 117 = dktX1_blister_5 := dk_seg dksX1_blister_4 22 rfl rfl
theorem dksX1_blister_6 : cX1_blister.data.toList.drop 139 = dktX1_blister_6 := dk_seg dksX1_blister_5 22 rfl rfl
theorem dX1_blister_0 : decode cX1_blister 0 = .ok (.aload_n 0, 1) := dk_42 (dk_at dksX1_blister_0 0 rfl rfl)
theorem dX1_blister_1 : decode cX1_blister 1 = .ok (.iload_n 1, 1) := dk_27 (dk_at dksX1_blister_0 1 rfl rfl)
theorem dX1_blister_2 : decode cX1_blister 2 = .ok (.invokevirtual 162, 3) := dk_182 0 162 (dk_at dksX1_blister_0 2 rfl rfl)
theorem dX1_blister_5 : decode cX1_blister 5 = .ok (.astore_n 2, 1) := dk_77 (dk_at dksX1_blister_0 5 rfl rfl)
theorem dX1_blister_6 : decode cX1_blister 6 = .ok (.aload_n 0, 1) := dk_42 (dk_at dksX1_blister_0 6 rfl rfl)
theorem dX1_blister_7 : decode cX1_blister 7 = .ok (.getfield 10, 3) := dk_180 0 10 (dk_at dksX1_blister_0 7 rfl rfl)
theorem dX1_blister_10 : decode cX1_blister 10 = .ok (.getfield 559, 3) := dk_180 2 47 (dk_at dksX1_blister_0 10 rfl rfl)
theorem dX1_blister_13 : decode cX1_blister 13 = .ok (.bipush 30, 2) := dk_16 30 (dk_at dksX1_blister_0 13 rfl rfl)
theorem dX1_blister_15 : decode cX1_blister 15 = .ok (.if_icmp .ne 5, 3) := dk_160 0 5 (dk_at dksX1_blister_0 15 rfl rfl)
theorem dX1_blister_18 : decode cX1_blister 18 = .ok (.iconst (-1), 1) := dk_2 (dk_at dksX1_blister_0 18 rfl rfl)
theorem dX1_blister_19 : decode cX1_blister 19 = .ok (.ireturn, 1) := dk_172 (dk_at dksX1_blister_0 19 rfl rfl)
theorem dX1_blister_20 : decode cX1_blister 20 = .ok (.aload_n 0, 1) := dk_42 (dk_at dksX1_blister_0 20 rfl rfl)
theorem dX1_blister_21 : decode cX1_blister 21 = .ok (.getfield 10, 3) := dk_180 0 10 (dk_at dksX1_blister_0 21 rfl rfl)
theorem dX1_blister_24 : decode cX1_blister 24 = .ok (.dup, 1) := dk_89 (dk_at dksX1_blister_1 0 rfl rfl)
theorem dX1_blister_25 : decode cX1_blister 25 = .ok (.getfield 559, 3) := dk_180 2 47 (dk_at dksX1_blister_1 1 rfl rfl)
theorem dX1_blister_28 : decode cX1_blister 28 = .ok (.iconst 1, 1) := dk_4 (dk_at dksX1_blister_1 4 rfl rfl)
theorem dX1_blister_29 : decode cX1_blister 29 = .ok (.iadd, 1) := dk_96 (dk_at dksX1_blister_1 5 rfl rfl)
theorem dX1_blister_30 : decode cX1_blister 30 = .ok (.putfield 559, 3) := dk_181 2 47 (dk_at dksX1_blister_1 6 rfl rfl)
theorem dX1_blister_33 : decode cX1_blister 33 = .ok (.iconst 0, 1) := dk_3 (dk_at dksX1_blister_1 9 rfl rfl)
theorem dX1_blister_34 : decode cX1_blister 34 = .ok (.istore_n 3, 1) := dk_62 (dk_at dksX1_blister_1 10 rfl rfl)
theorem dX1_blister_35 : decode cX1_blister 35 = .ok (.iconst 0, 1) := dk_3 (dk_at dksX1_blister_1 11 rfl rfl)
theorem dX1_blister_36 : decode cX1_blister 36 = .ok (.istore 4, 2) := dk_54 4 (dk_at dksX1_blister_1 12 rfl rfl)
theorem dX1_blister_38 : decode cX1_blister 38 = .ok (.iload 4, 2) := dk_21 4 (dk_at dksX1_blister_1 14 rfl rfl)
theorem dX1_blister_40 : decode cX1_blister 40 = .ok (.iconst 4, 1) := dk_7 (dk_at dksX1_blister_1 16 rfl rfl)
theorem dX1_blister_41 : decode cX1_blister 41 = .ok (.if_icmp .ge 104, 3) := dk_162 0 104 (dk_at dksX1_blister_1 17 rfl rfl)
theorem dX1_blister_44 : decode cX1_blister 44 = .ok (.aload_n 2, 1) := dk_44 (dk_at dksX1_blister_1 20 rfl rfl)
theorem dX1_blister_45 : decode cX1_blister 45 = .ok (.getfield 259, 3) := dk_180 1 3 (dk_at dksX1_blister_1 21 rfl rfl)
theorem dX1_blister_48 : decode cX1_blister 48 = .ok (.iload 4, 2) := dk_21 4 (dk_at dksX1_blister_2 0 rfl rfl)
theorem dX1_blister_50 : decode cX1_blister 50 = .ok (.aaload, 1) := dk_50 (dk_at dksX1_blister_2 2 rfl rfl)
theorem dX1_blister_51 : decode cX1_blister 51 = .ok (.ifnonnull 6, 3) := dk_199 0 6 (dk_at dksX1_blister_2 3 rfl rfl)
theorem dX1_blister_54 : decode cX1_blister 54 = .ok (.goto 85, 3) := dk_167 0 85 (dk_at dksX1_blister_2 6 rfl rfl)
theorem dX1_blister_57 : decode cX1_blister 57 = .ok (.iinc 3 1, 3) := dk_132 3 1 (dk_at dksX1_blister_2 9 rfl rfl)
theorem dX1_blister_60 : decode cX1_blister 60 = .ok (.aload_n 0, 1) := dk_42 (dk_at dksX1_blister_2 12 rfl rfl)
theorem dX1_blister_61 : decode cX1_blister 61 = .ok (.getfield 10, 3) := dk_180 0 10 (dk_at dksX1_blister_2 13 rfl rfl)
theorem dX1_blister_64 : decode cX1_blister 64 = .ok (.getfield 268, 3) := dk_180 1 12 (dk_at dksX1_blister_2 16 rfl rfl)
theorem dX1_blister_67 : decode cX1_blister 67 = .ok (.aload_n 2, 1) := dk_44 (dk_at dksX1_blister_2 19 rfl rfl)
theorem dX1_blister_68 : decode cX1_blister 68 = .ok (.getfield 259, 3) := dk_180 1 3 (dk_at dksX1_blister_2 20 rfl rfl)
theorem dX1_blister_71 : decode cX1_blister 71 = .ok (.iload 4, 2) := dk_21 4 (dk_at dksX1_blister_3 0 rfl rfl)
theorem dX1_blister_73 : decode cX1_blister 73 = .ok (.aaload, 1) := dk_50 (dk_at dksX1_blister_3 2 rfl rfl)
theorem dX1_blister_74 : decode cX1_blister 74 = .ok (.getfield 562, 3) := dk_180 2 50 (dk_at dksX1_blister_3 3 rfl rfl)
theorem dX1_blister_77 : decode cX1_blister 77 = .ok (.invokevirtual 81, 3) := dk_182 0 81 (dk_at dksX1_blister_3 6 rfl rfl)
theorem dX1_blister_80 : decode cX1_blister 80 = .ok (.checkcast 278, 3) := dk_192 1 22 (dk_at dksX1_blister_3 9 rfl rfl)
theorem dX1_blister_83 : decode cX1_blister 83 = .ok (.astore 5, 2) := dk_58 5 (dk_at dksX1_blister_3 12 rfl rfl)
theorem dX1_blister_85 : decode cX1_blister 85 = .ok (.aload 5, 2) := dk_25 5 (dk_at dksX1_blister_3 14 rfl rfl)
theorem dX1_blister_87 : decode cX1_blister 87 = .ok (.getfield 565, 3) := dk_180 2 53 (dk_at dksX1_blister_3 16 rfl rfl)
theorem dX1_blister_90 : decode cX1_blister 90 = .ok (.iconst (-1), 1) := dk_2 (dk_at dksX1_blister_3 19 rfl rfl)
theorem dX1_blister_91 : decode cX1_blister 91 = .ok (.if_icmp .ne 48, 3) := dk_160 0 48 (dk_at dksX1_blister_3 20 rfl rfl)
theorem dX1_blister_94 : decode cX1_blister 94 = .ok (.aload_n 0, 1) := dk_42 (dk_at dksX1_blister_3 23 rfl rfl)
theorem dX1_blister_95 : decode cX1_blister 95 = .ok (.getfield 10, 3) := dk_180 0 10 (dk_at dksX1_blister_4 0 rfl rfl)
theorem dX1_blister_98 : decode cX1_blister 98 = .ok (.getfield 268, 3) := dk_180 1 12 (dk_at dksX1_blister_4 3 rfl rfl)
theorem dX1_blister_101 : decode cX1_blister 101 = .ok (.aload_n 2, 1) := dk_44 (dk_at dksX1_blister_4 6 rfl rfl)
theorem dX1_blister_102 : decode cX1_blister 102 = .ok (.getfield 259, 3) := dk_180 1 3 (dk_at dksX1_blister_4 7 rfl rfl)
theorem dX1_blister_105 : decode cX1_blister 105 = .ok (.iload 4, 2) := dk_21 4 (dk_at dksX1_blister_4 10 rfl rfl)
theorem dX1_blister_107 : decode cX1_blister 107 = .ok (.aaload, 1) := dk_50 (dk_at dksX1_blister_4 12 rfl rfl)
theorem dX1_blister_108 : decode cX1_blister 108 = .ok (.getfield 562, 3) := dk_180 2 50 (dk_at dksX1_blister_4 13 rfl rfl)
theorem dX1_blister_111 : decode cX1_blister 111 = .ok (.new 278, 3) := dk_187 1 22 (dk_at dksX1_blister_4 16 rfl rfl)
theorem dX1_blister_114 : decode cX1_blister 114 = .ok (.dup, 1) := dk_89 (dk_at dksX1_blister_4 19 rfl rfl)
theorem dX1_blister_115 : decode cX1_blister 115 = .ok (.aload 5, 2) := dk_25 5 (dk_at dksX1_blister_4 20 rfl rfl)
theorem dX1_blister_117 : decode cX1_blister 117 = .ok (.getfield 568, 3) := dk_180 2 56 (dk_at dksX1_blister_5 0 rfl rfl)
theorem dX1_blister_120 : decode cX1_blister 120 = .ok (.aload 5, 2) := dk_25 5 (dk_at dksX1_blister_5 3 rfl rfl)
theorem dX1_blister_122 : decode cX1_blister 122 = .ok (.getfield 569, 3) := dk_180 2 57 (dk_at dksX1_blister_5 5 rfl rfl)
theorem dX1_blister_125 : decode cX1_blister 125 = .ok (.aload_n 0, 1) := dk_42 (dk_at dksX1_blister_5 8 rfl rfl)
theorem dX1_blister_126 : decode cX1_blister 126 = .ok (.getfield 10, 3) := dk_180 0 10 (dk_at dksX1_blister_5 9 rfl rfl)
theorem dX1_blister_129 : decode cX1_blister 129 = .ok (.getfield 149, 3) := dk_180 0 149 (dk_at dksX1_blister_5 12 rfl rfl)
theorem dX1_blister_132 : decode cX1_blister 132 = .ok (.invokespecial 283, 3) := dk_183 1 27 (dk_at dksX1_blister_5 15 rfl rfl)
theorem dX1_blister_135 : decode cX1_blister 135 = .ok (.invokevirtual 463, 3) := dk_182 1 207 (dk_at dksX1_blister_5 18 rfl rfl)
theorem dX1_blister_138 : decode cX1_blister 138 = .ok (.pop, 1) := dk_87 (dk_at dksX1_blister_5 21 rfl rfl)
theorem dX1_blister_139 : decode cX1_blister 139 = .ok (.iinc 4 1, 3) := dk_132 4 1 (dk_at dksX1_blister_6 0 rfl rfl)
theorem dX1_blister_142 : decode cX1_blister 142 = .ok (.goto (-104), 3) := dk_167 255 152 (dk_at dksX1_blister_6 3 rfl rfl)
theorem dX1_blister_145 : decode cX1_blister 145 = .ok (.iload_n 3, 1) := dk_29 (dk_at dksX1_blister_6 6 rfl rfl)
theorem dX1_blister_146 : decode cX1_blister 146 = .ok (.ireturn, 1) := dk_172 (dk_at dksX1_blister_6 7 rfl rfl)
abbrev cX1_skill : ByteArray := prog_1_method_100_code
def yX1_skill : MethodName := ⟨RX1, "skill", "(IZI)I"⟩
def dkwX1_skill_1 : List UInt8 := [28, 29, 182, 2, 61, 172]
abbrev dktX1_skill_1 : List UInt8 := dkwX1_skill_1 ++ []
def dkwX1_skill_0 : List UInt8 := [27, 184, 2, 44, 153, 0, 14, 29, 184, 2, 58, 153, 0, 7, 4, 167, 0, 4, 3, 184, 0, 105, 42, 27]
abbrev dktX1_skill_0 : List UInt8 := dkwX1_skill_0 ++ dktX1_skill_1
theorem dksX1_skill_0 : cX1_skill.data.toList.drop 0 = dktX1_skill_0 := by decide +kernel
theorem dksX1_skill_1 : cX1_skill.data.toList.drop 24 = dktX1_skill_1 := dk_seg dksX1_skill_0 24 rfl rfl
theorem dX1_skill_0 : decode cX1_skill 0 = .ok (.iload_n 1, 1) := dk_27 (dk_at dksX1_skill_0 0 rfl rfl)
theorem dX1_skill_1 : decode cX1_skill 1 = .ok (.invokestatic 556, 3) := dk_184 2 44 (dk_at dksX1_skill_0 1 rfl rfl)
theorem dX1_skill_4 : decode cX1_skill 4 = .ok (.ifCond .eq 14, 3) := dk_153 0 14 (dk_at dksX1_skill_0 4 rfl rfl)
theorem dX1_skill_7 : decode cX1_skill 7 = .ok (.iload_n 3, 1) := dk_29 (dk_at dksX1_skill_0 7 rfl rfl)
theorem dX1_skill_8 : decode cX1_skill 8 = .ok (.invokestatic 570, 3) := dk_184 2 58 (dk_at dksX1_skill_0 8 rfl rfl)
theorem dX1_skill_11 : decode cX1_skill 11 = .ok (.ifCond .eq 7, 3) := dk_153 0 7 (dk_at dksX1_skill_0 11 rfl rfl)
theorem dX1_skill_14 : decode cX1_skill 14 = .ok (.iconst 1, 1) := dk_4 (dk_at dksX1_skill_0 14 rfl rfl)
theorem dX1_skill_15 : decode cX1_skill 15 = .ok (.goto 4, 3) := dk_167 0 4 (dk_at dksX1_skill_0 15 rfl rfl)
theorem dX1_skill_18 : decode cX1_skill 18 = .ok (.iconst 0, 1) := dk_3 (dk_at dksX1_skill_0 18 rfl rfl)
theorem dX1_skill_19 : decode cX1_skill 19 = .ok (.invokestatic 105, 3) := dk_184 0 105 (dk_at dksX1_skill_0 19 rfl rfl)
theorem dX1_skill_22 : decode cX1_skill 22 = .ok (.aload_n 0, 1) := dk_42 (dk_at dksX1_skill_0 22 rfl rfl)
theorem dX1_skill_23 : decode cX1_skill 23 = .ok (.iload_n 1, 1) := dk_27 (dk_at dksX1_skill_0 23 rfl rfl)
theorem dX1_skill_24 : decode cX1_skill 24 = .ok (.iload_n 2, 1) := dk_28 (dk_at dksX1_skill_1 0 rfl rfl)
theorem dX1_skill_25 : decode cX1_skill 25 = .ok (.iload_n 3, 1) := dk_29 (dk_at dksX1_skill_1 1 rfl rfl)
theorem dX1_skill_26 : decode cX1_skill 26 = .ok (.invokevirtual 573, 3) := dk_182 2 61 (dk_at dksX1_skill_1 2 rfl rfl)
theorem dX1_skill_29 : decode cX1_skill 29 = .ok (.ireturn, 1) := dk_172 (dk_at dksX1_skill_1 5 rfl rfl)
abbrev cX1_isSpan : ByteArray := prog_1_method_99_code
def yX1_isSpan : MethodName := ⟨RX1, "isSpan", "(I)Z"⟩
def dkwX1_isSpan_0 : List UInt8 := [26, 155, 0, 14, 26, 17, 3, 231, 163, 0, 7, 4, 167, 0, 4, 3, 172]
abbrev dktX1_isSpan_0 : List UInt8 := dkwX1_isSpan_0 ++ []
theorem dksX1_isSpan_0 : cX1_isSpan.data.toList.drop 0 = dktX1_isSpan_0 := by decide +kernel
theorem dX1_isSpan_0 : decode cX1_isSpan 0 = .ok (.iload_n 0, 1) := dk_26 (dk_at dksX1_isSpan_0 0 rfl rfl)
theorem dX1_isSpan_1 : decode cX1_isSpan 1 = .ok (.ifCond .lt 14, 3) := dk_155 0 14 (dk_at dksX1_isSpan_0 1 rfl rfl)
theorem dX1_isSpan_4 : decode cX1_isSpan 4 = .ok (.iload_n 0, 1) := dk_26 (dk_at dksX1_isSpan_0 4 rfl rfl)
theorem dX1_isSpan_5 : decode cX1_isSpan 5 = .ok (.sipush 999, 3) := dk_17 3 231 (dk_at dksX1_isSpan_0 5 rfl rfl)
theorem dX1_isSpan_8 : decode cX1_isSpan 8 = .ok (.if_icmp .gt 7, 3) := dk_163 0 7 (dk_at dksX1_isSpan_0 8 rfl rfl)
theorem dX1_isSpan_11 : decode cX1_isSpan 11 = .ok (.iconst 1, 1) := dk_4 (dk_at dksX1_isSpan_0 11 rfl rfl)
theorem dX1_isSpan_12 : decode cX1_isSpan 12 = .ok (.goto 4, 3) := dk_167 0 4 (dk_at dksX1_isSpan_0 12 rfl rfl)
theorem dX1_isSpan_15 : decode cX1_isSpan 15 = .ok (.iconst 0, 1) := dk_3 (dk_at dksX1_isSpan_0 15 rfl rfl)
theorem dX1_isSpan_16 : decode cX1_isSpan 16 = .ok (.ireturn, 1) := dk_172 (dk_at dksX1_isSpan_0 16 rfl rfl)
abbrev cX1_skillOf : ByteArray := prog_1_method_98_code
def yX1_skillOf : MethodName := ⟨RX1, "skillOf", "(IZI)I"⟩
def dkwX1_skillOf_4 : List UInt8 := [172]
abbrev dktX1_skillOf_4 : List UInt8 := dkwX1_skillOf_4 ++ []
def dkwX1_skillOf_3 : List UInt8 := [180, 2, 57, 100, 29, 163, 0, 7, 4, 167, 0, 4, 3, 96, 54, 4, 132, 5, 1, 167, 255, 174, 21, 4]
abbrev dktX1_skillOf_3 : List UInt8 := dkwX1_skillOf_3 ++ dktX1_skillOf_4
def dkwX1_skillOf_2 : List UInt8 := [160, 0, 35, 28, 153, 0, 27, 25, 6, 180, 2, 53, 2, 159, 0, 22, 25, 6, 180, 2, 53, 25, 6]
abbrev dktX1_skillOf_2 : List UInt8 := dkwX1_skillOf_2 ++ dktX1_skillOf_3
def dkwX1_skillOf_1 : List UInt8 := [180, 0, 10, 180, 1, 12, 21, 5, 182, 0, 81, 192, 1, 22, 58, 6, 21, 4, 25, 6, 180, 2, 56, 27]
abbrev dktX1_skillOf_1 : List UInt8 := dkwX1_skillOf_1 ++ dktX1_skillOf_2
def dkwX1_skillOf_0 : List UInt8 := [3, 54, 4, 3, 54, 5, 21, 5, 42, 180, 0, 10, 180, 1, 12, 182, 0, 74, 162, 0, 73, 42]
abbrev dktX1_skillOf_0 : List UInt8 := dkwX1_skillOf_0 ++ dktX1_skillOf_1
theorem dksX1_skillOf_0 : cX1_skillOf.data.toList.drop 0 = dktX1_skillOf_0 := by decide +kernel
theorem dksX1_skillOf_1 : cX1_skillOf.data.toList.drop 22 = dktX1_skillOf_1 := dk_seg dksX1_skillOf_0 22 rfl rfl
theorem dksX1_skillOf_2 : cX1_skillOf.data.toList.drop 46 = dktX1_skillOf_2 := dk_seg dksX1_skillOf_1 24 rfl rfl
theorem dksX1_skillOf_3 : cX1_skillOf.data.toList.drop 69 = dktX1_skillOf_3 := dk_seg dksX1_skillOf_2 23 rfl rfl
theorem dksX1_skillOf_4 : cX1_skillOf.data.toList.drop 93 = dktX1_skillOf_4 := dk_seg dksX1_skillOf_3 24 rfl rfl
theorem dX1_skillOf_0 : decode cX1_skillOf 0 = .ok (.iconst 0, 1) := dk_3 (dk_at dksX1_skillOf_0 0 rfl rfl)
theorem dX1_skillOf_1 : decode cX1_skillOf 1 = .ok (.istore 4, 2) := dk_54 4 (dk_at dksX1_skillOf_0 1 rfl rfl)
theorem dX1_skillOf_3 : decode cX1_skillOf 3 = .ok (.iconst 0, 1) := dk_3 (dk_at dksX1_skillOf_0 3 rfl rfl)
theorem dX1_skillOf_4 : decode cX1_skillOf 4 = .ok (.istore 5, 2) := dk_54 5 (dk_at dksX1_skillOf_0 4 rfl rfl)
theorem dX1_skillOf_6 : decode cX1_skillOf 6 = .ok (.iload 5, 2) := dk_21 5 (dk_at dksX1_skillOf_0 6 rfl rfl)
theorem dX1_skillOf_8 : decode cX1_skillOf 8 = .ok (.aload_n 0, 1) := dk_42 (dk_at dksX1_skillOf_0 8 rfl rfl)
theorem dX1_skillOf_9 : decode cX1_skillOf 9 = .ok (.getfield 10, 3) := dk_180 0 10 (dk_at dksX1_skillOf_0 9 rfl rfl)
theorem dX1_skillOf_12 : decode cX1_skillOf 12 = .ok (.getfield 268, 3) := dk_180 1 12 (dk_at dksX1_skillOf_0 12 rfl rfl)
theorem dX1_skillOf_15 : decode cX1_skillOf 15 = .ok (.invokevirtual 74, 3) := dk_182 0 74 (dk_at dksX1_skillOf_0 15 rfl rfl)
theorem dX1_skillOf_18 : decode cX1_skillOf 18 = .ok (.if_icmp .ge 73, 3) := dk_162 0 73 (dk_at dksX1_skillOf_0 18 rfl rfl)
theorem dX1_skillOf_21 : decode cX1_skillOf 21 = .ok (.aload_n 0, 1) := dk_42 (dk_at dksX1_skillOf_0 21 rfl rfl)
theorem dX1_skillOf_22 : decode cX1_skillOf 22 = .ok (.getfield 10, 3) := dk_180 0 10 (dk_at dksX1_skillOf_1 0 rfl rfl)
theorem dX1_skillOf_25 : decode cX1_skillOf 25 = .ok (.getfield 268, 3) := dk_180 1 12 (dk_at dksX1_skillOf_1 3 rfl rfl)
theorem dX1_skillOf_28 : decode cX1_skillOf 28 = .ok (.iload 5, 2) := dk_21 5 (dk_at dksX1_skillOf_1 6 rfl rfl)
theorem dX1_skillOf_30 : decode cX1_skillOf 30 = .ok (.invokevirtual 81, 3) := dk_182 0 81 (dk_at dksX1_skillOf_1 8 rfl rfl)
theorem dX1_skillOf_33 : decode cX1_skillOf 33 = .ok (.checkcast 278, 3) := dk_192 1 22 (dk_at dksX1_skillOf_1 11 rfl rfl)
theorem dX1_skillOf_36 : decode cX1_skillOf 36 = .ok (.astore 6, 2) := dk_58 6 (dk_at dksX1_skillOf_1 14 rfl rfl)
theorem dX1_skillOf_38 : decode cX1_skillOf 38 = .ok (.iload 4, 2) := dk_21 4 (dk_at dksX1_skillOf_1 16 rfl rfl)
theorem dX1_skillOf_40 : decode cX1_skillOf 40 = .ok (.aload 6, 2) := dk_25 6 (dk_at dksX1_skillOf_1 18 rfl rfl)
theorem dX1_skillOf_42 : decode cX1_skillOf 42 = .ok (.getfield 568, 3) := dk_180 2 56 (dk_at dksX1_skillOf_1 20 rfl rfl)
theorem dX1_skillOf_45 : decode cX1_skillOf 45 = .ok (.iload_n 1, 1) := dk_27 (dk_at dksX1_skillOf_1 23 rfl rfl)
theorem dX1_skillOf_46 : decode cX1_skillOf 46 = .ok (.if_icmp .ne 35, 3) := dk_160 0 35 (dk_at dksX1_skillOf_2 0 rfl rfl)
theorem dX1_skillOf_49 : decode cX1_skillOf 49 = .ok (.iload_n 2, 1) := dk_28 (dk_at dksX1_skillOf_2 3 rfl rfl)
theorem dX1_skillOf_50 : decode cX1_skillOf 50 = .ok (.ifCond .eq 27, 3) := dk_153 0 27 (dk_at dksX1_skillOf_2 4 rfl rfl)
theorem dX1_skillOf_53 : decode cX1_skillOf 53 = .ok (.aload 6, 2) := dk_25 6 (dk_at dksX1_skillOf_2 7 rfl rfl)
theorem dX1_skillOf_55 : decode cX1_skillOf 55 = .ok (.getfield 565, 3) := dk_180 2 53 (dk_at dksX1_skillOf_2 9 rfl rfl)
theorem dX1_skillOf_58 : decode cX1_skillOf 58 = .ok (.iconst (-1), 1) := dk_2 (dk_at dksX1_skillOf_2 12 rfl rfl)
theorem dX1_skillOf_59 : decode cX1_skillOf 59 = .ok (.if_icmp .eq 22, 3) := dk_159 0 22 (dk_at dksX1_skillOf_2 13 rfl rfl)
theorem dX1_skillOf_62 : decode cX1_skillOf 62 = .ok (.aload 6, 2) := dk_25 6 (dk_at dksX1_skillOf_2 16 rfl rfl)
theorem dX1_skillOf_64 : decode cX1_skillOf 64 = .ok (.getfield 565, 3) := dk_180 2 53 (dk_at dksX1_skillOf_2 18 rfl rfl)
theorem dX1_skillOf_67 : decode cX1_skillOf 67 = .ok (.aload 6, 2) := dk_25 6 (dk_at dksX1_skillOf_2 21 rfl rfl)
theorem dX1_skillOf_69 : decode cX1_skillOf 69 = .ok (.getfield 569, 3) := dk_180 2 57 (dk_at dksX1_skillOf_3 0 rfl rfl)
theorem dX1_skillOf_72 : decode cX1_skillOf 72 = .ok (.isub, 1) := dk_100 (dk_at dksX1_skillOf_3 3 rfl rfl)
theorem dX1_skillOf_73 : decode cX1_skillOf 73 = .ok (.iload_n 3, 1) := dk_29 (dk_at dksX1_skillOf_3 4 rfl rfl)
theorem dX1_skillOf_74 : decode cX1_skillOf 74 = .ok (.if_icmp .gt 7, 3) := dk_163 0 7 (dk_at dksX1_skillOf_3 5 rfl rfl)
theorem dX1_skillOf_77 : decode cX1_skillOf 77 = .ok (.iconst 1, 1) := dk_4 (dk_at dksX1_skillOf_3 8 rfl rfl)
theorem dX1_skillOf_78 : decode cX1_skillOf 78 = .ok (.goto 4, 3) := dk_167 0 4 (dk_at dksX1_skillOf_3 9 rfl rfl)
theorem dX1_skillOf_81 : decode cX1_skillOf 81 = .ok (.iconst 0, 1) := dk_3 (dk_at dksX1_skillOf_3 12 rfl rfl)
theorem dX1_skillOf_82 : decode cX1_skillOf 82 = .ok (.iadd, 1) := dk_96 (dk_at dksX1_skillOf_3 13 rfl rfl)
theorem dX1_skillOf_83 : decode cX1_skillOf 83 = .ok (.istore 4, 2) := dk_54 4 (dk_at dksX1_skillOf_3 14 rfl rfl)
theorem dX1_skillOf_85 : decode cX1_skillOf 85 = .ok (.iinc 5 1, 3) := dk_132 5 1 (dk_at dksX1_skillOf_3 16 rfl rfl)
theorem dX1_skillOf_88 : decode cX1_skillOf 88 = .ok (.goto (-82), 3) := dk_167 255 174 (dk_at dksX1_skillOf_3 19 rfl rfl)
theorem dX1_skillOf_91 : decode cX1_skillOf 91 = .ok (.iload 4, 2) := dk_21 4 (dk_at dksX1_skillOf_3 22 rfl rfl)
theorem dX1_skillOf_93 : decode cX1_skillOf 93 = .ok (.ireturn, 1) := dk_172 (dk_at dksX1_skillOf_4 0 rfl rfl)
abbrev cX1_better : ByteArray := prog_1_method_101_code
def yX1_better : MethodName := ⟨RX1, "better", "(III)I"⟩
def dkwX1_better_2 : List UInt8 := [4, 29, 182, 2, 61, 42, 28, 3, 29, 182, 2, 61, 104, 184, 2, 65, 172]
abbrev dktX1_better_2 : List UInt8 := dkwX1_better_2 ++ []
def dkwX1_better_1 : List UInt8 := [167, 0, 4, 3, 184, 0, 105, 42, 28, 4, 29, 182, 2, 61, 42, 27, 3, 29, 182, 2, 61, 104, 42, 27]
abbrev dktX1_better_1 : List UInt8 := dkwX1_better_1 ++ dktX1_better_2
def dkwX1_better_0 : List UInt8 := [27, 184, 2, 44, 153, 0, 21, 28, 184, 2, 44, 153, 0, 14, 29, 184, 2, 58, 153, 0, 7, 4]
abbrev dktX1_better_0 : List UInt8 := dkwX1_better_0 ++ dktX1_better_1
theorem dksX1_better_0 : cX1_better.data.toList.drop 0 = dktX1_better_0 := by decide +kernel
theorem dksX1_better_1 : cX1_better.data.toList.drop 22 = dktX1_better_1 := dk_seg dksX1_better_0 22 rfl rfl
theorem dksX1_better_2 : cX1_better.data.toList.drop 46 = dktX1_better_2 := dk_seg dksX1_better_1 24 rfl rfl
theorem dX1_better_0 : decode cX1_better 0 = .ok (.iload_n 1, 1) := dk_27 (dk_at dksX1_better_0 0 rfl rfl)
theorem dX1_better_1 : decode cX1_better 1 = .ok (.invokestatic 556, 3) := dk_184 2 44 (dk_at dksX1_better_0 1 rfl rfl)
theorem dX1_better_4 : decode cX1_better 4 = .ok (.ifCond .eq 21, 3) := dk_153 0 21 (dk_at dksX1_better_0 4 rfl rfl)
theorem dX1_better_7 : decode cX1_better 7 = .ok (.iload_n 2, 1) := dk_28 (dk_at dksX1_better_0 7 rfl rfl)
theorem dX1_better_8 : decode cX1_better 8 = .ok (.invokestatic 556, 3) := dk_184 2 44 (dk_at dksX1_better_0 8 rfl rfl)
theorem dX1_better_11 : decode cX1_better 11 = .ok (.ifCond .eq 14, 3) := dk_153 0 14 (dk_at dksX1_better_0 11 rfl rfl)
theorem dX1_better_14 : decode cX1_better 14 = .ok (.iload_n 3, 1) := dk_29 (dk_at dksX1_better_0 14 rfl rfl)
theorem dX1_better_15 : decode cX1_better 15 = .ok (.invokestatic 570, 3) := dk_184 2 58 (dk_at dksX1_better_0 15 rfl rfl)
theorem dX1_better_18 : decode cX1_better 18 = .ok (.ifCond .eq 7, 3) := dk_153 0 7 (dk_at dksX1_better_0 18 rfl rfl)
theorem dX1_better_21 : decode cX1_better 21 = .ok (.iconst 1, 1) := dk_4 (dk_at dksX1_better_0 21 rfl rfl)
theorem dX1_better_22 : decode cX1_better 22 = .ok (.goto 4, 3) := dk_167 0 4 (dk_at dksX1_better_1 0 rfl rfl)
theorem dX1_better_25 : decode cX1_better 25 = .ok (.iconst 0, 1) := dk_3 (dk_at dksX1_better_1 3 rfl rfl)
theorem dX1_better_26 : decode cX1_better 26 = .ok (.invokestatic 105, 3) := dk_184 0 105 (dk_at dksX1_better_1 4 rfl rfl)
theorem dX1_better_29 : decode cX1_better 29 = .ok (.aload_n 0, 1) := dk_42 (dk_at dksX1_better_1 7 rfl rfl)
theorem dX1_better_30 : decode cX1_better 30 = .ok (.iload_n 2, 1) := dk_28 (dk_at dksX1_better_1 8 rfl rfl)
theorem dX1_better_31 : decode cX1_better 31 = .ok (.iconst 1, 1) := dk_4 (dk_at dksX1_better_1 9 rfl rfl)
theorem dX1_better_32 : decode cX1_better 32 = .ok (.iload_n 3, 1) := dk_29 (dk_at dksX1_better_1 10 rfl rfl)
theorem dX1_better_33 : decode cX1_better 33 = .ok (.invokevirtual 573, 3) := dk_182 2 61 (dk_at dksX1_better_1 11 rfl rfl)
theorem dX1_better_36 : decode cX1_better 36 = .ok (.aload_n 0, 1) := dk_42 (dk_at dksX1_better_1 14 rfl rfl)
theorem dX1_better_37 : decode cX1_better 37 = .ok (.iload_n 1, 1) := dk_27 (dk_at dksX1_better_1 15 rfl rfl)
theorem dX1_better_38 : decode cX1_better 38 = .ok (.iconst 0, 1) := dk_3 (dk_at dksX1_better_1 16 rfl rfl)
theorem dX1_better_39 : decode cX1_better 39 = .ok (.iload_n 3, 1) := dk_29 (dk_at dksX1_better_1 17 rfl rfl)
theorem dX1_better_40 : decode cX1_better 40 = .ok (.invokevirtual 573, 3) := dk_182 2 61 (dk_at dksX1_better_1 18 rfl rfl)
theorem dX1_better_43 : decode cX1_better 43 = .ok (.imul, 1) := dk_104 (dk_at dksX1_better_1 21 rfl rfl)
theorem dX1_better_44 : decode cX1_better 44 = .ok (.aload_n 0, 1) := dk_42 (dk_at dksX1_better_1 22 rfl rfl)
theorem dX1_better_45 : decode cX1_better 45 = .ok (.iload_n 1, 1) := dk_27 (dk_at dksX1_better_1 23 rfl rfl)
theorem dX1_better_46 : decode cX1_better 46 = .ok (.iconst 1, 1) := dk_4 (dk_at dksX1_better_2 0 rfl rfl)
theorem dX1_better_47 : decode cX1_better 47 = .ok (.iload_n 3, 1) := dk_29 (dk_at dksX1_better_2 1 rfl rfl)
theorem dX1_better_48 : decode cX1_better 48 = .ok (.invokevirtual 573, 3) := dk_182 2 61 (dk_at dksX1_better_2 2 rfl rfl)
theorem dX1_better_51 : decode cX1_better 51 = .ok (.aload_n 0, 1) := dk_42 (dk_at dksX1_better_2 5 rfl rfl)
theorem dX1_better_52 : decode cX1_better 52 = .ok (.iload_n 2, 1) := dk_28 (dk_at dksX1_better_2 6 rfl rfl)
theorem dX1_better_53 : decode cX1_better 53 = .ok (.iconst 0, 1) := dk_3 (dk_at dksX1_better_2 7 rfl rfl)
theorem dX1_better_54 : decode cX1_better 54 = .ok (.iload_n 3, 1) := dk_29 (dk_at dksX1_better_2 8 rfl rfl)
theorem dX1_better_55 : decode cX1_better 55 = .ok (.invokevirtual 573, 3) := dk_182 2 61 (dk_at dksX1_better_2 9 rfl rfl)
theorem dX1_better_58 : decode cX1_better 58 = .ok (.imul, 1) := dk_104 (dk_at dksX1_better_2 12 rfl rfl)
theorem dX1_better_59 : decode cX1_better 59 = .ok (.invokestatic 577, 3) := dk_184 2 65 (dk_at dksX1_better_2 13 rfl rfl)
theorem dX1_better_62 : decode cX1_better 62 = .ok (.ireturn, 1) := dk_172 (dk_at dksX1_better_2 16 rfl rfl)
abbrev cX1_trial : ByteArray := prog_1_method_102_code
def yX1_trial : MethodName := ⟨RX1, "trial", "(II)I"⟩
def dkwX1_trial_3 : List UInt8 := [180, 2, 68, 182, 0, 74, 172]
abbrev dktX1_trial_3 : List UInt8 := dkwX1_trial_3 ++ []
def dkwX1_trial_2 : List UInt8 := [42, 180, 0, 10, 180, 2, 68, 187, 2, 71, 89, 27, 28, 183, 2, 73, 182, 0, 123, 87, 42, 180, 0, 10]
abbrev dktX1_trial_2 : List UInt8 := dkwX1_trial_2 ++ dktX1_trial_3
def dkwX1_trial_1 : List UInt8 := [167, 0, 4, 3, 184, 0, 105, 42, 180, 0, 10, 180, 2, 68, 182, 0, 74, 16, 12, 160, 0, 5, 2, 172]
abbrev dktX1_trial_1 : List UInt8 := dkwX1_trial_1 ++ dktX1_trial_2
def dkwX1_trial_0 : List UInt8 := [27, 155, 0, 25, 27, 17, 3, 231, 163, 0, 18, 28, 155, 0, 14, 28, 17, 3, 231, 163, 0, 7, 4]
abbrev dktX1_trial_0 : List UInt8 := dkwX1_trial_0 ++ dktX1_trial_1
theorem dksX1_trial_0 : cX1_trial.data.toList.drop 0 = dktX1_trial_0 := by decide +kernel
theorem dksX1_trial_1 : cX1_trial.data.toList.drop 23 = dktX1_trial_1 := dk_seg dksX1_trial_0 23 rfl rfl
theorem dksX1_trial_2 : cX1_trial.data.toList.drop 47 = dktX1_trial_2 := dk_seg dksX1_trial_1 24 rfl rfl
theorem dksX1_trial_3 : cX1_trial.data.toList.drop 71 = dktX1_trial_3 := dk_seg dksX1_trial_2 24 rfl rfl
theorem dX1_trial_0 : decode cX1_trial 0 = .ok (.iload_n 1, 1) := dk_27 (dk_at dksX1_trial_0 0 rfl rfl)
theorem dX1_trial_1 : decode cX1_trial 1 = .ok (.ifCond .lt 25, 3) := dk_155 0 25 (dk_at dksX1_trial_0 1 rfl rfl)
theorem dX1_trial_4 : decode cX1_trial 4 = .ok (.iload_n 1, 1) := dk_27 (dk_at dksX1_trial_0 4 rfl rfl)
theorem dX1_trial_5 : decode cX1_trial 5 = .ok (.sipush 999, 3) := dk_17 3 231 (dk_at dksX1_trial_0 5 rfl rfl)
theorem dX1_trial_8 : decode cX1_trial 8 = .ok (.if_icmp .gt 18, 3) := dk_163 0 18 (dk_at dksX1_trial_0 8 rfl rfl)
theorem dX1_trial_11 : decode cX1_trial 11 = .ok (.iload_n 2, 1) := dk_28 (dk_at dksX1_trial_0 11 rfl rfl)
theorem dX1_trial_12 : decode cX1_trial 12 = .ok (.ifCond .lt 14, 3) := dk_155 0 14 (dk_at dksX1_trial_0 12 rfl rfl)
theorem dX1_trial_15 : decode cX1_trial 15 = .ok (.iload_n 2, 1) := dk_28 (dk_at dksX1_trial_0 15 rfl rfl)
theorem dX1_trial_16 : decode cX1_trial 16 = .ok (.sipush 999, 3) := dk_17 3 231 (dk_at dksX1_trial_0 16 rfl rfl)
theorem dX1_trial_19 : decode cX1_trial 19 = .ok (.if_icmp .gt 7, 3) := dk_163 0 7 (dk_at dksX1_trial_0 19 rfl rfl)
theorem dX1_trial_22 : decode cX1_trial 22 = .ok (.iconst 1, 1) := dk_4 (dk_at dksX1_trial_0 22 rfl rfl)
theorem dX1_trial_23 : decode cX1_trial 23 = .ok (.goto 4, 3) := dk_167 0 4 (dk_at dksX1_trial_1 0 rfl rfl)
theorem dX1_trial_26 : decode cX1_trial 26 = .ok (.iconst 0, 1) := dk_3 (dk_at dksX1_trial_1 3 rfl rfl)
theorem dX1_trial_27 : decode cX1_trial 27 = .ok (.invokestatic 105, 3) := dk_184 0 105 (dk_at dksX1_trial_1 4 rfl rfl)
theorem dX1_trial_30 : decode cX1_trial 30 = .ok (.aload_n 0, 1) := dk_42 (dk_at dksX1_trial_1 7 rfl rfl)
theorem dX1_trial_31 : decode cX1_trial 31 = .ok (.getfield 10, 3) := dk_180 0 10 (dk_at dksX1_trial_1 8 rfl rfl)
theorem dX1_trial_34 : decode cX1_trial 34 = .ok (.getfield 580, 3) := dk_180 2 68 (dk_at dksX1_trial_1 11 rfl rfl)
theorem dX1_trial_37 : decode cX1_trial 37 = .ok (.invokevirtual 74, 3) := dk_182 0 74 (dk_at dksX1_trial_1 14 rfl rfl)
theorem dX1_trial_40 : decode cX1_trial 40 = .ok (.bipush 12, 2) := dk_16 12 (dk_at dksX1_trial_1 17 rfl rfl)
theorem dX1_trial_42 : decode cX1_trial 42 = .ok (.if_icmp .ne 5, 3) := dk_160 0 5 (dk_at dksX1_trial_1 19 rfl rfl)
theorem dX1_trial_45 : decode cX1_trial 45 = .ok (.iconst (-1), 1) := dk_2 (dk_at dksX1_trial_1 22 rfl rfl)
theorem dX1_trial_46 : decode cX1_trial 46 = .ok (.ireturn, 1) := dk_172 (dk_at dksX1_trial_1 23 rfl rfl)
theorem dX1_trial_47 : decode cX1_trial 47 = .ok (.aload_n 0, 1) := dk_42 (dk_at dksX1_trial_2 0 rfl rfl)
theorem dX1_trial_48 : decode cX1_trial 48 = .ok (.getfield 10, 3) := dk_180 0 10 (dk_at dksX1_trial_2 1 rfl rfl)
theorem dX1_trial_51 : decode cX1_trial 51 = .ok (.getfield 580, 3) := dk_180 2 68 (dk_at dksX1_trial_2 4 rfl rfl)
theorem dX1_trial_54 : decode cX1_trial 54 = .ok (.new 583, 3) := dk_187 2 71 (dk_at dksX1_trial_2 7 rfl rfl)
theorem dX1_trial_57 : decode cX1_trial 57 = .ok (.dup, 1) := dk_89 (dk_at dksX1_trial_2 10 rfl rfl)
theorem dX1_trial_58 : decode cX1_trial 58 = .ok (.iload_n 1, 1) := dk_27 (dk_at dksX1_trial_2 11 rfl rfl)
theorem dX1_trial_59 : decode cX1_trial 59 = .ok (.iload_n 2, 1) := dk_28 (dk_at dksX1_trial_2 12 rfl rfl)
theorem dX1_trial_60 : decode cX1_trial 60 = .ok (.invokespecial 585, 3) := dk_183 2 73 (dk_at dksX1_trial_2 13 rfl rfl)
theorem dX1_trial_63 : decode cX1_trial 63 = .ok (.invokevirtual 123, 3) := dk_182 0 123 (dk_at dksX1_trial_2 16 rfl rfl)
theorem dX1_trial_66 : decode cX1_trial 66 = .ok (.pop, 1) := dk_87 (dk_at dksX1_trial_2 19 rfl rfl)
theorem dX1_trial_67 : decode cX1_trial 67 = .ok (.aload_n 0, 1) := dk_42 (dk_at dksX1_trial_2 20 rfl rfl)
theorem dX1_trial_68 : decode cX1_trial 68 = .ok (.getfield 10, 3) := dk_180 0 10 (dk_at dksX1_trial_2 21 rfl rfl)
theorem dX1_trial_71 : decode cX1_trial 71 = .ok (.getfield 580, 3) := dk_180 2 68 (dk_at dksX1_trial_3 0 rfl rfl)
theorem dX1_trial_74 : decode cX1_trial 74 = .ok (.invokevirtual 74, 3) := dk_182 0 74 (dk_at dksX1_trial_3 3 rfl rfl)
theorem dX1_trial_77 : decode cX1_trial 77 = .ok (.ireturn, 1) := dk_172 (dk_at dksX1_trial_3 6 rfl rfl)
abbrev cX1_cause : ByteArray := prog_1_method_108_code
def yX1_cause : MethodName := ⟨RX1, "cause", "(II)I"⟩
def dkwX1_cause_3 : List UInt8 := [100, 172]
abbrev dktX1_cause_3 : List UInt8 := dkwX1_cause_3 ++ []
def dkwX1_cause_2 : List UInt8 := [187, 2, 94, 89, 27, 28, 183, 2, 96, 182, 0, 123, 87, 42, 180, 0, 10, 180, 2, 91, 182, 0, 74, 4]
abbrev dktX1_cause_2 : List UInt8 := dkwX1_cause_2 ++ dktX1_cause_3
def dkwX1_cause_1 : List UInt8 := [180, 0, 10, 180, 2, 91, 182, 0, 74, 16, 6, 160, 0, 5, 2, 172, 42, 180, 0, 10, 180, 2, 91]
abbrev dktX1_cause_1 : List UInt8 := dkwX1_cause_1 ++ dktX1_cause_2
def dkwX1_cause_0 : List UInt8 := [27, 184, 2, 88, 153, 0, 14, 28, 184, 2, 88, 153, 0, 7, 4, 167, 0, 4, 3, 184, 0, 105, 42]
abbrev dktX1_cause_0 : List UInt8 := dkwX1_cause_0 ++ dktX1_cause_1
theorem dksX1_cause_0 : cX1_cause.data.toList.drop 0 = dktX1_cause_0 := by decide +kernel
theorem dksX1_cause_1 : cX1_cause.data.toList.drop 23 = dktX1_cause_1 := dk_seg dksX1_cause_0 23 rfl rfl
theorem dksX1_cause_2 : cX1_cause.data.toList.drop 46 = dktX1_cause_2 := dk_seg dksX1_cause_1 23 rfl rfl
theorem dksX1_cause_3 : cX1_cause.data.toList.drop 70 = dktX1_cause_3 := dk_seg dksX1_cause_2 24 rfl rfl
theorem dX1_cause_0 : decode cX1_cause 0 = .ok (.iload_n 1, 1) := dk_27 (dk_at dksX1_cause_0 0 rfl rfl)
theorem dX1_cause_1 : decode cX1_cause 1 = .ok (.invokestatic 600, 3) := dk_184 2 88 (dk_at dksX1_cause_0 1 rfl rfl)
theorem dX1_cause_4 : decode cX1_cause 4 = .ok (.ifCond .eq 14, 3) := dk_153 0 14 (dk_at dksX1_cause_0 4 rfl rfl)
theorem dX1_cause_7 : decode cX1_cause 7 = .ok (.iload_n 2, 1) := dk_28 (dk_at dksX1_cause_0 7 rfl rfl)
theorem dX1_cause_8 : decode cX1_cause 8 = .ok (.invokestatic 600, 3) := dk_184 2 88 (dk_at dksX1_cause_0 8 rfl rfl)
theorem dX1_cause_11 : decode cX1_cause 11 = .ok (.ifCond .eq 7, 3) := dk_153 0 7 (dk_at dksX1_cause_0 11 rfl rfl)
theorem dX1_cause_14 : decode cX1_cause 14 = .ok (.iconst 1, 1) := dk_4 (dk_at dksX1_cause_0 14 rfl rfl)
theorem dX1_cause_15 : decode cX1_cause 15 = .ok (.goto 4, 3) := dk_167 0 4 (dk_at dksX1_cause_0 15 rfl rfl)
theorem dX1_cause_18 : decode cX1_cause 18 = .ok (.iconst 0, 1) := dk_3 (dk_at dksX1_cause_0 18 rfl rfl)
theorem dX1_cause_19 : decode cX1_cause 19 = .ok (.invokestatic 105, 3) := dk_184 0 105 (dk_at dksX1_cause_0 19 rfl rfl)
theorem dX1_cause_22 : decode cX1_cause 22 = .ok (.aload_n 0, 1) := dk_42 (dk_at dksX1_cause_0 22 rfl rfl)
theorem dX1_cause_23 : decode cX1_cause 23 = .ok (.getfield 10, 3) := dk_180 0 10 (dk_at dksX1_cause_1 0 rfl rfl)
theorem dX1_cause_26 : decode cX1_cause 26 = .ok (.getfield 603, 3) := dk_180 2 91 (dk_at dksX1_cause_1 3 rfl rfl)
theorem dX1_cause_29 : decode cX1_cause 29 = .ok (.invokevirtual 74, 3) := dk_182 0 74 (dk_at dksX1_cause_1 6 rfl rfl)
theorem dX1_cause_32 : decode cX1_cause 32 = .ok (.bipush 6, 2) := dk_16 6 (dk_at dksX1_cause_1 9 rfl rfl)
theorem dX1_cause_34 : decode cX1_cause 34 = .ok (.if_icmp .ne 5, 3) := dk_160 0 5 (dk_at dksX1_cause_1 11 rfl rfl)
theorem dX1_cause_37 : decode cX1_cause 37 = .ok (.iconst (-1), 1) := dk_2 (dk_at dksX1_cause_1 14 rfl rfl)
theorem dX1_cause_38 : decode cX1_cause 38 = .ok (.ireturn, 1) := dk_172 (dk_at dksX1_cause_1 15 rfl rfl)
theorem dX1_cause_39 : decode cX1_cause 39 = .ok (.aload_n 0, 1) := dk_42 (dk_at dksX1_cause_1 16 rfl rfl)
theorem dX1_cause_40 : decode cX1_cause 40 = .ok (.getfield 10, 3) := dk_180 0 10 (dk_at dksX1_cause_1 17 rfl rfl)
theorem dX1_cause_43 : decode cX1_cause 43 = .ok (.getfield 603, 3) := dk_180 2 91 (dk_at dksX1_cause_1 20 rfl rfl)
theorem dX1_cause_46 : decode cX1_cause 46 = .ok (.new 606, 3) := dk_187 2 94 (dk_at dksX1_cause_2 0 rfl rfl)
theorem dX1_cause_49 : decode cX1_cause 49 = .ok (.dup, 1) := dk_89 (dk_at dksX1_cause_2 3 rfl rfl)
theorem dX1_cause_50 : decode cX1_cause 50 = .ok (.iload_n 1, 1) := dk_27 (dk_at dksX1_cause_2 4 rfl rfl)
theorem dX1_cause_51 : decode cX1_cause 51 = .ok (.iload_n 2, 1) := dk_28 (dk_at dksX1_cause_2 5 rfl rfl)
theorem dX1_cause_52 : decode cX1_cause 52 = .ok (.invokespecial 608, 3) := dk_183 2 96 (dk_at dksX1_cause_2 6 rfl rfl)
theorem dX1_cause_55 : decode cX1_cause 55 = .ok (.invokevirtual 123, 3) := dk_182 0 123 (dk_at dksX1_cause_2 9 rfl rfl)
theorem dX1_cause_58 : decode cX1_cause 58 = .ok (.pop, 1) := dk_87 (dk_at dksX1_cause_2 12 rfl rfl)
theorem dX1_cause_59 : decode cX1_cause 59 = .ok (.aload_n 0, 1) := dk_42 (dk_at dksX1_cause_2 13 rfl rfl)
theorem dX1_cause_60 : decode cX1_cause 60 = .ok (.getfield 10, 3) := dk_180 0 10 (dk_at dksX1_cause_2 14 rfl rfl)
theorem dX1_cause_63 : decode cX1_cause 63 = .ok (.getfield 603, 3) := dk_180 2 91 (dk_at dksX1_cause_2 17 rfl rfl)
theorem dX1_cause_66 : decode cX1_cause 66 = .ok (.invokevirtual 74, 3) := dk_182 0 74 (dk_at dksX1_cause_2 20 rfl rfl)
theorem dX1_cause_69 : decode cX1_cause 69 = .ok (.iconst 1, 1) := dk_4 (dk_at dksX1_cause_2 23 rfl rfl)
theorem dX1_cause_70 : decode cX1_cause 70 = .ok (.isub, 1) := dk_100 (dk_at dksX1_cause_3 0 rfl rfl)
theorem dX1_cause_71 : decode cX1_cause 71 = .ok (.ireturn, 1) := dk_172 (dk_at dksX1_cause_3 1 rfl rfl)
abbrev cX1_isSigns : ByteArray := prog_1_method_107_code
def yX1_isSigns : MethodName := ⟨RX1, "isSigns", "(I)Z"⟩
def dkwX1_isSigns_0 : List UInt8 := [26, 155, 0, 14, 26, 17, 1, 0, 162, 0, 7, 4, 167, 0, 4, 3, 172]
abbrev dktX1_isSigns_0 : List UInt8 := dkwX1_isSigns_0 ++ []
theorem dksX1_isSigns_0 : cX1_isSigns.data.toList.drop 0 = dktX1_isSigns_0 := by decide +kernel
theorem dX1_isSigns_0 : decode cX1_isSigns 0 = .ok (.iload_n 0, 1) := dk_26 (dk_at dksX1_isSigns_0 0 rfl rfl)
theorem dX1_isSigns_1 : decode cX1_isSigns 1 = .ok (.ifCond .lt 14, 3) := dk_155 0 14 (dk_at dksX1_isSigns_0 1 rfl rfl)
theorem dX1_isSigns_4 : decode cX1_isSigns 4 = .ok (.iload_n 0, 1) := dk_26 (dk_at dksX1_isSigns_0 4 rfl rfl)
theorem dX1_isSigns_5 : decode cX1_isSigns 5 = .ok (.sipush 256, 3) := dk_17 1 0 (dk_at dksX1_isSigns_0 5 rfl rfl)
theorem dX1_isSigns_8 : decode cX1_isSigns 8 = .ok (.if_icmp .ge 7, 3) := dk_162 0 7 (dk_at dksX1_isSigns_0 8 rfl rfl)
theorem dX1_isSigns_11 : decode cX1_isSigns 11 = .ok (.iconst 1, 1) := dk_4 (dk_at dksX1_isSigns_0 11 rfl rfl)
theorem dX1_isSigns_12 : decode cX1_isSigns 12 = .ok (.goto 4, 3) := dk_167 0 4 (dk_at dksX1_isSigns_0 12 rfl rfl)
theorem dX1_isSigns_15 : decode cX1_isSigns 15 = .ok (.iconst 0, 1) := dk_3 (dk_at dksX1_isSigns_0 15 rfl rfl)
theorem dX1_isSigns_16 : decode cX1_isSigns 16 = .ok (.ireturn, 1) := dk_172 (dk_at dksX1_isSigns_0 16 rfl rfl)
abbrev cX1_see : ByteArray := prog_1_method_111_code
def yX1_see : MethodName := ⟨RX1, "see", "(II)I"⟩
def dkwX1_see_2 : List UInt8 := [172]
abbrev dktX1_see_2 : List UInt8 := dkwX1_see_2 ++ []
def dkwX1_see_1 : List UInt8 := [3, 184, 0, 105, 42, 180, 0, 10, 27, 181, 2, 97, 42, 180, 0, 10, 28, 181, 2, 106, 42, 182, 2, 113]
abbrev dktX1_see_1 : List UInt8 := dkwX1_see_1 ++ dktX1_see_2
def dkwX1_see_0 : List UInt8 := [27, 184, 2, 88, 153, 0, 20, 28, 184, 2, 88, 153, 0, 13, 27, 28, 126, 154, 0, 7, 4, 167, 0, 4]
abbrev dktX1_see_0 : List UInt8 := dkwX1_see_0 ++ dktX1_see_1
theorem dksX1_see_0 : cX1_see.data.toList.drop 0 = dktX1_see_0 := by decide +kernel
theorem dksX1_see_1 : cX1_see.data.toList.drop 24 = dktX1_see_1 := dk_seg dksX1_see_0 24 rfl rfl
theorem dksX1_see_2 : cX1_see.data.toList.drop 48 = dktX1_see_2 := dk_seg dksX1_see_1 24 rfl rfl
theorem dX1_see_0 : decode cX1_see 0 = .ok (.iload_n 1, 1) := dk_27 (dk_at dksX1_see_0 0 rfl rfl)
theorem dX1_see_1 : decode cX1_see 1 = .ok (.invokestatic 600, 3) := dk_184 2 88 (dk_at dksX1_see_0 1 rfl rfl)
theorem dX1_see_4 : decode cX1_see 4 = .ok (.ifCond .eq 20, 3) := dk_153 0 20 (dk_at dksX1_see_0 4 rfl rfl)
theorem dX1_see_7 : decode cX1_see 7 = .ok (.iload_n 2, 1) := dk_28 (dk_at dksX1_see_0 7 rfl rfl)
theorem dX1_see_8 : decode cX1_see 8 = .ok (.invokestatic 600, 3) := dk_184 2 88 (dk_at dksX1_see_0 8 rfl rfl)
theorem dX1_see_11 : decode cX1_see 11 = .ok (.ifCond .eq 13, 3) := dk_153 0 13 (dk_at dksX1_see_0 11 rfl rfl)
theorem dX1_see_14 : decode cX1_see 14 = .ok (.iload_n 1, 1) := dk_27 (dk_at dksX1_see_0 14 rfl rfl)
theorem dX1_see_15 : decode cX1_see 15 = .ok (.iload_n 2, 1) := dk_28 (dk_at dksX1_see_0 15 rfl rfl)
theorem dX1_see_16 : decode cX1_see 16 = .ok (.iand, 1) := dk_126 (dk_at dksX1_see_0 16 rfl rfl)
theorem dX1_see_17 : decode cX1_see 17 = .ok (.ifCond .ne 7, 3) := dk_154 0 7 (dk_at dksX1_see_0 17 rfl rfl)
theorem dX1_see_20 : decode cX1_see 20 = .ok (.iconst 1, 1) := dk_4 (dk_at dksX1_see_0 20 rfl rfl)
theorem dX1_see_21 : decode cX1_see 21 = .ok (.goto 4, 3) := dk_167 0 4 (dk_at dksX1_see_0 21 rfl rfl)
theorem dX1_see_24 : decode cX1_see 24 = .ok (.iconst 0, 1) := dk_3 (dk_at dksX1_see_1 0 rfl rfl)
theorem dX1_see_25 : decode cX1_see 25 = .ok (.invokestatic 105, 3) := dk_184 0 105 (dk_at dksX1_see_1 1 rfl rfl)
theorem dX1_see_28 : decode cX1_see 28 = .ok (.aload_n 0, 1) := dk_42 (dk_at dksX1_see_1 4 rfl rfl)
theorem dX1_see_29 : decode cX1_see 29 = .ok (.getfield 10, 3) := dk_180 0 10 (dk_at dksX1_see_1 5 rfl rfl)
theorem dX1_see_32 : decode cX1_see 32 = .ok (.iload_n 1, 1) := dk_27 (dk_at dksX1_see_1 8 rfl rfl)
theorem dX1_see_33 : decode cX1_see 33 = .ok (.putfield 609, 3) := dk_181 2 97 (dk_at dksX1_see_1 9 rfl rfl)
theorem dX1_see_36 : decode cX1_see 36 = .ok (.aload_n 0, 1) := dk_42 (dk_at dksX1_see_1 12 rfl rfl)
theorem dX1_see_37 : decode cX1_see 37 = .ok (.getfield 10, 3) := dk_180 0 10 (dk_at dksX1_see_1 13 rfl rfl)
theorem dX1_see_40 : decode cX1_see 40 = .ok (.iload_n 2, 1) := dk_28 (dk_at dksX1_see_1 16 rfl rfl)
theorem dX1_see_41 : decode cX1_see 41 = .ok (.putfield 618, 3) := dk_181 2 106 (dk_at dksX1_see_1 17 rfl rfl)
theorem dX1_see_44 : decode cX1_see 44 = .ok (.aload_n 0, 1) := dk_42 (dk_at dksX1_see_1 20 rfl rfl)
theorem dX1_see_45 : decode cX1_see 45 = .ok (.invokevirtual 625, 3) := dk_182 2 113 (dk_at dksX1_see_1 21 rfl rfl)
theorem dX1_see_48 : decode cX1_see 48 = .ok (.ireturn, 1) := dk_172 (dk_at dksX1_see_2 0 rfl rfl)
abbrev cX1_walk : ByteArray := prog_1_method_114_code
def yX1_walk : MethodName := ⟨RX1, "walk", "(III)I"⟩
def dkwX1_walk_3 : List UInt8 := [183, 2, 127, 182, 0, 123, 87, 42, 180, 0, 10, 180, 2, 122, 182, 0, 74, 172]
abbrev dktX1_walk_3 : List UInt8 := dkwX1_walk_3 ++ []
def dkwX1_walk_2 : List UInt8 := [182, 0, 74, 16, 20, 160, 0, 5, 2, 172, 42, 180, 0, 10, 180, 2, 122, 187, 2, 125, 89, 27, 28, 29]
abbrev dktX1_walk_2 : List UInt8 := dkwX1_walk_2 ++ dktX1_walk_3
def dkwX1_walk_1 : List UInt8 := [161, 0, 13, 29, 16, 99, 163, 0, 7, 4, 167, 0, 4, 3, 184, 0, 105, 42, 180, 0, 10, 180, 2, 122]
abbrev dktX1_walk_1 : List UInt8 := dkwX1_walk_1 ++ dktX1_walk_2
def dkwX1_walk_0 : List UInt8 := [42, 27, 182, 0, 162, 87, 28, 155, 0, 30, 28, 42, 180, 0, 10, 180, 0, 149, 163, 0, 19, 29, 16, 157]
abbrev dktX1_walk_0 : List UInt8 := dkwX1_walk_0 ++ dktX1_walk_1
theorem dksX1_walk_0 : cX1_walk.data.toList.drop 0 = dktX1_walk_0 := by decide +kernel
theorem dksX1_walk_1 : cX1_walk.data.toList.drop 24 = dktX1_walk_1 := dk_seg dksX1_walk_0 24 rfl rfl
theorem dksX1_walk_2 : cX1_walk.data.toList.drop 48 = dktX1_walk_2 := dk_seg dksX1_walk_1 24 rfl rfl
theorem dksX1_walk_3 : cX1_walk.data.toList.drop 72 = dktX1_walk_3 := dk_seg dksX1_walk_2 24 rfl rfl
theorem dX1_walk_0 : decode cX1_walk 0 = .ok (.aload_n 0, 1) := dk_42 (dk_at dksX1_walk_0 0 rfl rfl)
theorem dX1_walk_1 : decode cX1_walk 1 = .ok (.iload_n 1, 1) := dk_27 (dk_at dksX1_walk_0 1 rfl rfl)
theorem dX1_walk_2 : decode cX1_walk 2 = .ok (.invokevirtual 162, 3) := dk_182 0 162 (dk_at dksX1_walk_0 2 rfl rfl)
theorem dX1_walk_5 : decode cX1_walk 5 = .ok (.pop, 1) := dk_87 (dk_at dksX1_walk_0 5 rfl rfl)
theorem dX1_walk_6 : decode cX1_walk 6 = .ok (.iload_n 2, 1) := dk_28 (dk_at dksX1_walk_0 6 rfl rfl)
theorem dX1_walk_7 : decode cX1_walk 7 = .ok (.ifCond .lt 30, 3) := dk_155 0 30 (dk_at dksX1_walk_0 7 rfl rfl)
theorem dX1_walk_10 : decode cX1_walk 10 = .ok (.iload_n 2, 1) := dk_28 (dk_at dksX1_walk_0 10 rfl rfl)
theorem dX1_walk_11 : decode cX1_walk 11 = .ok (.aload_n 0, 1) := dk_42 (dk_at dksX1_walk_0 11 rfl rfl)
theorem dX1_walk_12 : decode cX1_walk 12 = .ok (.getfield 10, 3) := dk_180 0 10 (dk_at dksX1_walk_0 12 rfl rfl)
theorem dX1_walk_15 : decode cX1_walk 15 = .ok (.getfield 149, 3) := dk_180 0 149 (dk_at dksX1_walk_0 15 rfl rfl)
theorem dX1_walk_18 : decode cX1_walk 18 = .ok (.if_icmp .gt 19, 3) := dk_163 0 19 (dk_at dksX1_walk_0 18 rfl rfl)
theorem dX1_walk_21 : decode cX1_walk 21 = .ok (.iload_n 3, 1) := dk_29 (dk_at dksX1_walk_0 21 rfl rfl)
theorem dX1_walk_22 : decode cX1_walk 22 = .ok (.bipush (-99), 2) := dk_16 157 (dk_at dksX1_walk_0 22 rfl rfl)
theorem dX1_walk_24 : decode cX1_walk 24 = .ok (.if_icmp .lt 13, 3) := dk_161 0 13 (dk_at dksX1_walk_1 0 rfl rfl)
theorem dX1_walk_27 : decode cX1_walk 27 = .ok (.iload_n 3, 1) := dk_29 (dk_at dksX1_walk_1 3 rfl rfl)
theorem dX1_walk_28 : decode cX1_walk 28 = .ok (.bipush 99, 2) := dk_16 99 (dk_at dksX1_walk_1 4 rfl rfl)
theorem dX1_walk_30 : decode cX1_walk 30 = .ok (.if_icmp .gt 7, 3) := dk_163 0 7 (dk_at dksX1_walk_1 6 rfl rfl)
theorem dX1_walk_33 : decode cX1_walk 33 = .ok (.iconst 1, 1) := dk_4 (dk_at dksX1_walk_1 9 rfl rfl)
theorem dX1_walk_34 : decode cX1_walk 34 = .ok (.goto 4, 3) := dk_167 0 4 (dk_at dksX1_walk_1 10 rfl rfl)
theorem dX1_walk_37 : decode cX1_walk 37 = .ok (.iconst 0, 1) := dk_3 (dk_at dksX1_walk_1 13 rfl rfl)
theorem dX1_walk_38 : decode cX1_walk 38 = .ok (.invokestatic 105, 3) := dk_184 0 105 (dk_at dksX1_walk_1 14 rfl rfl)
theorem dX1_walk_41 : decode cX1_walk 41 = .ok (.aload_n 0, 1) := dk_42 (dk_at dksX1_walk_1 17 rfl rfl)
theorem dX1_walk_42 : decode cX1_walk 42 = .ok (.getfield 10, 3) := dk_180 0 10 (dk_at dksX1_walk_1 18 rfl rfl)
theorem dX1_walk_45 : decode cX1_walk 45 = .ok (.getfield 634, 3) := dk_180 2 122 (dk_at dksX1_walk_1 21 rfl rfl)
theorem dX1_walk_48 : decode cX1_walk 48 = .ok (.invokevirtual 74, 3) := dk_182 0 74 (dk_at dksX1_walk_2 0 rfl rfl)
theorem dX1_walk_51 : decode cX1_walk 51 = .ok (.bipush 20, 2) := dk_16 20 (dk_at dksX1_walk_2 3 rfl rfl)
theorem dX1_walk_53 : decode cX1_walk 53 = .ok (.if_icmp .ne 5, 3) := dk_160 0 5 (dk_at dksX1_walk_2 5 rfl rfl)
theorem dX1_walk_56 : decode cX1_walk 56 = .ok (.iconst (-1), 1) := dk_2 (dk_at dksX1_walk_2 8 rfl rfl)
theorem dX1_walk_57 : decode cX1_walk 57 = .ok (.ireturn, 1) := dk_172 (dk_at dksX1_walk_2 9 rfl rfl)
theorem dX1_walk_58 : decode cX1_walk 58 = .ok (.aload_n 0, 1) := dk_42 (dk_at dksX1_walk_2 10 rfl rfl)
theorem dX1_walk_59 : decode cX1_walk 59 = .ok (.getfield 10, 3) := dk_180 0 10 (dk_at dksX1_walk_2 11 rfl rfl)
theorem dX1_walk_62 : decode cX1_walk 62 = .ok (.getfield 634, 3) := dk_180 2 122 (dk_at dksX1_walk_2 14 rfl rfl)
theorem dX1_walk_65 : decode cX1_walk 65 = .ok (.new 637, 3) := dk_187 2 125 (dk_at dksX1_walk_2 17 rfl rfl)
theorem dX1_walk_68 : decode cX1_walk 68 = .ok (.dup, 1) := dk_89 (dk_at dksX1_walk_2 20 rfl rfl)
theorem dX1_walk_69 : decode cX1_walk 69 = .ok (.iload_n 1, 1) := dk_27 (dk_at dksX1_walk_2 21 rfl rfl)
theorem dX1_walk_70 : decode cX1_walk 70 = .ok (.iload_n 2, 1) := dk_28 (dk_at dksX1_walk_2 22 rfl rfl)
theorem dX1_walk_71 : decode cX1_walk 71 = .ok (.iload_n 3, 1) := dk_29 (dk_at dksX1_walk_2 23 rfl rfl)
theorem dX1_walk_72 : decode cX1_walk 72 = .ok (.invokespecial 639, 3) := dk_183 2 127 (dk_at dksX1_walk_3 0 rfl rfl)
theorem dX1_walk_75 : decode cX1_walk 75 = .ok (.invokevirtual 123, 3) := dk_182 0 123 (dk_at dksX1_walk_3 3 rfl rfl)
theorem dX1_walk_78 : decode cX1_walk 78 = .ok (.pop, 1) := dk_87 (dk_at dksX1_walk_3 6 rfl rfl)
theorem dX1_walk_79 : decode cX1_walk 79 = .ok (.aload_n 0, 1) := dk_42 (dk_at dksX1_walk_3 7 rfl rfl)
theorem dX1_walk_80 : decode cX1_walk 80 = .ok (.getfield 10, 3) := dk_180 0 10 (dk_at dksX1_walk_3 8 rfl rfl)
theorem dX1_walk_83 : decode cX1_walk 83 = .ok (.getfield 634, 3) := dk_180 2 122 (dk_at dksX1_walk_3 11 rfl rfl)
theorem dX1_walk_86 : decode cX1_walk 86 = .ok (.invokevirtual 74, 3) := dk_182 0 74 (dk_at dksX1_walk_3 14 rfl rfl)
theorem dX1_walk_89 : decode cX1_walk 89 = .ok (.ireturn, 1) := dk_172 (dk_at dksX1_walk_3 17 rfl rfl)
abbrev cX1_changed : ByteArray := prog_1_method_115_code
def yX1_changed : MethodName := ⟨RX1, "changed", "(II)I"⟩
def dkwX1_changed_6 : List UInt8 := [21, 7, 104, 100, 172]
abbrev dktX1_changed_6 : List UInt8 := dkwX1_changed_6 ++ []
def dkwX1_changed_5 : List UInt8 := [25, 9, 180, 2, 130, 96, 54, 5, 132, 7, 1, 132, 8, 1, 167, 255, 163, 21, 5, 21, 6, 104, 21, 4]
abbrev dktX1_changed_5 : List UInt8 := dkwX1_changed_5 ++ dktX1_changed_6
def dkwX1_changed_4 : List UInt8 := [180, 1, 62, 162, 0, 19, 21, 4, 25, 9, 180, 2, 130, 96, 54, 4, 132, 6, 1, 167, 0, 16, 21, 5]
abbrev dktX1_changed_4 : List UInt8 := dkwX1_changed_4 ++ dktX1_changed_5
def dkwX1_changed_3 : List UInt8 := [25, 9, 180, 2, 128, 27, 159, 0, 6, 167, 0, 49, 25, 9, 180, 2, 129, 45, 180, 1, 3, 28, 50]
abbrev dktX1_changed_3 : List UInt8 := dkwX1_changed_3 ++ dktX1_changed_4
def dkwX1_changed_2 : List UInt8 := [182, 0, 74, 162, 0, 84, 42, 180, 0, 10, 180, 2, 122, 21, 8, 182, 0, 81, 192, 2, 125, 58, 9]
abbrev dktX1_changed_2 : List UInt8 := dkwX1_changed_2 ++ dktX1_changed_3
def dkwX1_changed_1 : List UInt8 := [3, 54, 4, 3, 54, 5, 3, 54, 6, 3, 54, 7, 3, 54, 8, 21, 8, 42, 180, 0, 10, 180, 2, 122]
abbrev dktX1_changed_1 : List UInt8 := dkwX1_changed_1 ++ dktX1_changed_2
def dkwX1_changed_0 : List UInt8 := [42, 27, 182, 0, 162, 78, 28, 184, 0, 142, 184, 0, 105, 45, 180, 1, 3, 28, 50, 199, 0, 5, 3, 172]
abbrev dktX1_changed_0 : List UInt8 := dkwX1_changed_0 ++ dktX1_changed_1
theorem dksX1_changed_0 : cX1_changed.data.toList.drop 0 = dktX1_changed_0 := by decide +kernel
theorem dksX1_changed_1 : cX1_changed.data.toList.drop 24 = dktX1_changed_1 := dk_seg dksX1_changed_0 24 rfl rfl
theorem dksX1_changed_2 : cX1_changed.data.toList.drop 48 = dktX1_changed_2 := dk_seg dksX1_changed_1 24 rfl rfl
theorem dksX1_changed_3 : cX1_changed.data.toList.drop 71 = dktX1_changed_3 := dk_seg dksX1_changed_2 23 rfl rfl
theorem dksX1_changed_4 : cX1_changed.data.toList.drop 94 = dktX1_changed_4 := dk_seg dksX1_changed_3 23 rfl rfl
theorem dksX1_changed_5 : cX1_changed.data.toList.drop 118 = dktX1_changed_5 := dk_seg dksX1_changed_4 24 rfl rfl
theorem dksX1_changed_6 : cX1_changed.data.toList.drop 142 = dktX1_changed_6 := dk_seg dksX1_changed_5 24 rfl rfl
theorem dX1_changed_0 : decode cX1_changed 0 = .ok (.aload_n 0, 1) := dk_42 (dk_at dksX1_changed_0 0 rfl rfl)
theorem dX1_changed_1 : decode cX1_changed 1 = .ok (.iload_n 1, 1) := dk_27 (dk_at dksX1_changed_0 1 rfl rfl)
theorem dX1_changed_2 : decode cX1_changed 2 = .ok (.invokevirtual 162, 3) := dk_182 0 162 (dk_at dksX1_changed_0 2 rfl rfl)
theorem dX1_changed_5 : decode cX1_changed 5 = .ok (.astore_n 3, 1) := dk_78 (dk_at dksX1_changed_0 5 rfl rfl)
theorem dX1_changed_6 : decode cX1_changed 6 = .ok (.iload_n 2, 1) := dk_28 (dk_at dksX1_changed_0 6 rfl rfl)
theorem dX1_changed_7 : decode cX1_changed 7 = .ok (.invokestatic 142, 3) := dk_184 0 142 (dk_at dksX1_changed_0 7 rfl rfl)
theorem dX1_changed_10 : decode cX1_changed 10 = .ok (.invokestatic 105, 3) := dk_184 0 105 (dk_at dksX1_changed_0 10 rfl rfl)
theorem dX1_changed_13 : decode cX1_changed 13 = .ok (.aload_n 3, 1) := dk_45 (dk_at dksX1_changed_0 13 rfl rfl)
theorem dX1_changed_14 : decode cX1_changed 14 = .ok (.getfield 259, 3) := dk_180 1 3 (dk_at dksX1_changed_0 14 rfl rfl)
theorem dX1_changed_17 : decode cX1_changed 17 = .ok (.iload_n 2, 1) := dk_28 (dk_at dksX1_changed_0 17 rfl rfl)
theorem dX1_changed_18 : decode cX1_changed 18 = .ok (.aaload, 1) := dk_50 (dk_at dksX1_changed_0 18 rfl rfl)
theorem dX1_changed_19 : decode cX1_changed 19 = .ok (.ifnonnull 5, 3) := dk_199 0 5 (dk_at dksX1_changed_0 19 rfl rfl)
theorem dX1_changed_22 : decode cX1_changed 22 = .ok (.iconst 0, 1) := dk_3 (dk_at dksX1_changed_0 22 rfl rfl)
theorem dX1_changed_23 : decode cX1_changed 23 = .ok (.ireturn, 1) := dk_172 (dk_at dksX1_changed_0 23 rfl rfl)
theorem dX1_changed_24 : decode cX1_changed 24 = .ok (.iconst 0, 1) := dk_3 (dk_at dksX1_changed_1 0 rfl rfl)
theorem dX1_changed_25 : decode cX1_changed 25 = .ok (.istore 4, 2) := dk_54 4 (dk_at dksX1_changed_1 1 rfl rfl)
theorem dX1_changed_27 : decode cX1_changed 27 = .ok (.iconst 0, 1) := dk_3 (dk_at dksX1_changed_1 3 rfl rfl)
theorem dX1_changed_28 : decode cX1_changed 28 = .ok (.istore 5, 2) := dk_54 5 (dk_at dksX1_changed_1 4 rfl rfl)
theorem dX1_changed_30 : decode cX1_changed 30 = .ok (.iconst 0, 1) := dk_3 (dk_at dksX1_changed_1 6 rfl rfl)
theorem dX1_changed_31 : decode cX1_changed 31 = .ok (.istore 6, 2) := dk_54 6 (dk_at dksX1_changed_1 7 rfl rfl)
theorem dX1_changed_33 : decode cX1_changed 33 = .ok (.iconst 0, 1) := dk_3 (dk_at dksX1_changed_1 9 rfl rfl)
theorem dX1_changed_34 : decode cX1_changed 34 = .ok (.istore 7, 2) := dk_54 7 (dk_at dksX1_changed_1 10 rfl rfl)
theorem dX1_changed_36 : decode cX1_changed 36 = .ok (.iconst 0, 1) := dk_3 (dk_at dksX1_changed_1 12 rfl rfl)
theorem dX1_changed_37 : decode cX1_changed 37 = .ok (.istore 8, 2) := dk_54 8 (dk_at dksX1_changed_1 13 rfl rfl)
theorem dX1_changed_39 : decode cX1_changed 39 = .ok (.iload 8, 2) := dk_21 8 (dk_at dksX1_changed_1 15 rfl rfl)
theorem dX1_changed_41 : decode cX1_changed 41 = .ok (.aload_n 0, 1) := dk_42 (dk_at dksX1_changed_1 17 rfl rfl)
theorem dX1_changed_42 : decode cX1_changed 42 = .ok (.getfield 10, 3) := dk_180 0 10 (dk_at dksX1_changed_1 18 rfl rfl)
theorem dX1_changed_45 : decode cX1_changed 45 = .ok (.getfield 634, 3) := dk_180 2 122 (dk_at dksX1_changed_1 21 rfl rfl)
theorem dX1_changed_48 : decode cX1_changed 48 = .ok (.invokevirtual 74, 3) := dk_182 0 74 (dk_at dksX1_changed_2 0 rfl rfl)
theorem dX1_changed_51 : decode cX1_changed 51 = .ok (.if_icmp .ge 84, 3) := dk_162 0 84 (dk_at dksX1_changed_2 3 rfl rfl)
theorem dX1_changed_54 : decode cX1_changed 54 = .ok (.aload_n 0, 1) := dk_42 (dk_at dksX1_changed_2 6 rfl rfl)
theorem dX1_changed_55 : decode cX1_changed 55 = .ok (.getfield 10, 3) := dk_180 0 10 (dk_at dksX1_changed_2 7 rfl rfl)
theorem dX1_changed_58 : decode cX1_changed 58 = .ok (.getfield 634, 3) := dk_180 2 122 (dk_at dksX1_changed_2 10 rfl rfl)
theorem dX1_changed_61 : decode cX1_changed 61 = .ok (.iload 8, 2) := dk_21 8 (dk_at dksX1_changed_2 13 rfl rfl)
theorem dX1_changed_63 : decode cX1_changed 63 = .ok (.invokevirtual 81, 3) := dk_182 0 81 (dk_at dksX1_changed_2 15 rfl rfl)
theorem dX1_changed_66 : decode cX1_changed 66 = .ok (.checkcast 637, 3) := dk_192 2 125 (dk_at dksX1_changed_2 18 rfl rfl)
theorem dX1_changed_69 : decode cX1_changed 69 = .ok (.astore 9, 2) := dk_58 9 (dk_at dksX1_changed_2 21 rfl rfl)
theorem dX1_changed_71 : decode cX1_changed 71 = .ok (.aload 9, 2) := dk_25 9 (dk_at dksX1_changed_3 0 rfl rfl)
theorem dX1_changed_73 : decode cX1_changed 73 = .ok (.getfield 640, 3) := dk_180 2 128 (dk_at dksX1_changed_3 2 rfl rfl)
theorem dX1_changed_76 : decode cX1_changed 76 = .ok (.iload_n 1, 1) := dk_27 (dk_at dksX1_changed_3 5 rfl rfl)
theorem dX1_changed_77 : decode cX1_changed 77 = .ok (.if_icmp .eq 6, 3) := dk_159 0 6 (dk_at dksX1_changed_3 6 rfl rfl)
theorem dX1_changed_80 : decode cX1_changed 80 = .ok (.goto 49, 3) := dk_167 0 49 (dk_at dksX1_changed_3 9 rfl rfl)
theorem dX1_changed_83 : decode cX1_changed 83 = .ok (.aload 9, 2) := dk_25 9 (dk_at dksX1_changed_3 12 rfl rfl)
theorem dX1_changed_85 : decode cX1_changed 85 = .ok (.getfield 641, 3) := dk_180 2 129 (dk_at dksX1_changed_3 14 rfl rfl)
theorem dX1_changed_88 : decode cX1_changed 88 = .ok (.aload_n 3, 1) := dk_45 (dk_at dksX1_changed_3 17 rfl rfl)
theorem dX1_changed_89 : decode cX1_changed 89 = .ok (.getfield 259, 3) := dk_180 1 3 (dk_at dksX1_changed_3 18 rfl rfl)
theorem dX1_changed_92 : decode cX1_changed 92 = .ok (.iload_n 2, 1) := dk_28 (dk_at dksX1_changed_3 21 rfl rfl)
theorem dX1_changed_93 : decode cX1_changed 93 = .ok (.aaload, 1) := dk_50 (dk_at dksX1_changed_3 22 rfl rfl)
theorem dX1_changed_94 : decode cX1_changed 94 = .ok (.getfield 318, 3) := dk_180 1 62 (dk_at dksX1_changed_4 0 rfl rfl)
theorem dX1_changed_97 : decode cX1_changed 97 = .ok (.if_icmp .ge 19, 3) := dk_162 0 19 (dk_at dksX1_changed_4 3 rfl rfl)
theorem dX1_changed_100 : decode cX1_changed 100 = .ok (.iload 4, 2) := dk_21 4 (dk_at dksX1_changed_4 6 rfl rfl)
theorem dX1_changed_102 : decode cX1_changed 102 = .ok (.aload 9, 2) := dk_25 9 (dk_at dksX1_changed_4 8 rfl rfl)
theorem dX1_changed_104 : decode cX1_changed 104 = .ok (.getfield 642, 3) := dk_180 2 130 (dk_at dksX1_changed_4 10 rfl rfl)
theorem dX1_changed_107 : decode cX1_changed 107 = .ok (.iadd, 1) := dk_96 (dk_at dksX1_changed_4 13 rfl rfl)
theorem dX1_changed_108 : decode cX1_changed 108 = .ok (.istore 4, 2) := dk_54 4 (dk_at dksX1_changed_4 14 rfl rfl)
theorem dX1_changed_110 : decode cX1_changed 110 = .ok (.iinc 6 1, 3) := dk_132 6 1 (dk_at dksX1_changed_4 16 rfl rfl)
theorem dX1_changed_113 : decode cX1_changed 113 = .ok (.goto 16, 3) := dk_167 0 16 (dk_at dksX1_changed_4 19 rfl rfl)
theorem dX1_changed_116 : decode cX1_changed 116 = .ok (.iload 5, 2) := dk_21 5 (dk_at dksX1_changed_4 22 rfl rfl)
theorem dX1_changed_118 : decode cX1_changed 118 = .ok (.aload 9, 2) := dk_25 9 (dk_at dksX1_changed_5 0 rfl rfl)
theorem dX1_changed_120 : decode cX1_changed 120 = .ok (.getfield 642, 3) := dk_180 2 130 (dk_at dksX1_changed_5 2 rfl rfl)
theorem dX1_changed_123 : decode cX1_changed 123 = .ok (.iadd, 1) := dk_96 (dk_at dksX1_changed_5 5 rfl rfl)
theorem dX1_changed_124 : decode cX1_changed 124 = .ok (.istore 5, 2) := dk_54 5 (dk_at dksX1_changed_5 6 rfl rfl)
theorem dX1_changed_126 : decode cX1_changed 126 = .ok (.iinc 7 1, 3) := dk_132 7 1 (dk_at dksX1_changed_5 8 rfl rfl)
theorem dX1_changed_129 : decode cX1_changed 129 = .ok (.iinc 8 1, 3) := dk_132 8 1 (dk_at dksX1_changed_5 11 rfl rfl)
theorem dX1_changed_132 : decode cX1_changed 132 = .ok (.goto (-93), 3) := dk_167 255 163 (dk_at dksX1_changed_5 14 rfl rfl)
theorem dX1_changed_135 : decode cX1_changed 135 = .ok (.iload 5, 2) := dk_21 5 (dk_at dksX1_changed_5 17 rfl rfl)
theorem dX1_changed_137 : decode cX1_changed 137 = .ok (.iload 6, 2) := dk_21 6 (dk_at dksX1_changed_5 19 rfl rfl)
theorem dX1_changed_139 : decode cX1_changed 139 = .ok (.imul, 1) := dk_104 (dk_at dksX1_changed_5 21 rfl rfl)
theorem dX1_changed_140 : decode cX1_changed 140 = .ok (.iload 4, 2) := dk_21 4 (dk_at dksX1_changed_5 22 rfl rfl)
theorem dX1_changed_142 : decode cX1_changed 142 = .ok (.iload 7, 2) := dk_21 7 (dk_at dksX1_changed_6 0 rfl rfl)
theorem dX1_changed_144 : decode cX1_changed 144 = .ok (.imul, 1) := dk_104 (dk_at dksX1_changed_6 2 rfl rfl)
theorem dX1_changed_145 : decode cX1_changed 145 = .ok (.isub, 1) := dk_100 (dk_at dksX1_changed_6 3 rfl rfl)
theorem dX1_changed_146 : decode cX1_changed 146 = .ok (.ireturn, 1) := dk_172 (dk_at dksX1_changed_6 4 rfl rfl)
abbrev cX1_spent : ByteArray := prog_1_method_116_code
def yX1_spent : MethodName := ⟨RX1, "spent", "(II)I"⟩
def dkwX1_spent_3 : List UInt8 := [21, 4, 182, 0, 81, 192, 0, 85, 180, 0, 192, 28, 46, 96, 62, 132, 4, 1, 167, 255, 215, 29, 172]
abbrev dktX1_spent_3 : List UInt8 := dkwX1_spent_3 ++ []
def dkwX1_spent_2 : List UInt8 := [21, 4, 42, 180, 0, 10, 180, 0, 71, 182, 0, 74, 162, 0, 32, 29, 42, 180, 0, 10, 180, 0, 71]
abbrev dktX1_spent_2 : List UInt8 := dkwX1_spent_2 ++ dktX1_spent_3
def dkwX1_spent_1 : List UInt8 := [180, 0, 10, 180, 0, 71, 27, 182, 0, 81, 192, 0, 85, 180, 0, 192, 28, 46, 172, 3, 62, 3, 54, 4]
abbrev dktX1_spent_1 : List UInt8 := dkwX1_spent_1 ++ dktX1_spent_2
def dkwX1_spent_0 : List UInt8 := [27, 2, 159, 0, 9, 42, 27, 182, 0, 162, 87, 28, 184, 1, 76, 184, 0, 105, 27, 2, 159, 0, 23, 42]
abbrev dktX1_spent_0 : List UInt8 := dkwX1_spent_0 ++ dktX1_spent_1
theorem dksX1_spent_0 : cX1_spent.data.toList.drop 0 = dktX1_spent_0 := by decide +kernel
theorem dksX1_spent_1 : cX1_spent.data.toList.drop 24 = dktX1_spent_1 := dk_seg dksX1_spent_0 24 rfl rfl
theorem dksX1_spent_2 : cX1_spent.data.toList.drop 48 = dktX1_spent_2 := dk_seg dksX1_spent_1 24 rfl rfl
theorem dksX1_spent_3 : cX1_spent.data.toList.drop 71 = dktX1_spent_3 := dk_seg dksX1_spent_2 23 rfl rfl
theorem dX1_spent_0 : decode cX1_spent 0 = .ok (.iload_n 1, 1) := dk_27 (dk_at dksX1_spent_0 0 rfl rfl)
theorem dX1_spent_1 : decode cX1_spent 1 = .ok (.iconst (-1), 1) := dk_2 (dk_at dksX1_spent_0 1 rfl rfl)
theorem dX1_spent_2 : decode cX1_spent 2 = .ok (.if_icmp .eq 9, 3) := dk_159 0 9 (dk_at dksX1_spent_0 2 rfl rfl)
theorem dX1_spent_5 : decode cX1_spent 5 = .ok (.aload_n 0, 1) := dk_42 (dk_at dksX1_spent_0 5 rfl rfl)
theorem dX1_spent_6 : decode cX1_spent 6 = .ok (.iload_n 1, 1) := dk_27 (dk_at dksX1_spent_0 6 rfl rfl)
theorem dX1_spent_7 : decode cX1_spent 7 = .ok (.invokevirtual 162, 3) := dk_182 0 162 (dk_at dksX1_spent_0 7 rfl rfl)
theorem dX1_spent_10 : decode cX1_spent 10 = .ok (.pop, 1) := dk_87 (dk_at dksX1_spent_0 10 rfl rfl)
theorem dX1_spent_11 : decode cX1_spent 11 = .ok (.iload_n 2, 1) := dk_28 (dk_at dksX1_spent_0 11 rfl rfl)
theorem dX1_spent_12 : decode cX1_spent 12 = .ok (.invokestatic 332, 3) := dk_184 1 76 (dk_at dksX1_spent_0 12 rfl rfl)
theorem dX1_spent_15 : decode cX1_spent 15 = .ok (.invokestatic 105, 3) := dk_184 0 105 (dk_at dksX1_spent_0 15 rfl rfl)
theorem dX1_spent_18 : decode cX1_spent 18 = .ok (.iload_n 1, 1) := dk_27 (dk_at dksX1_spent_0 18 rfl rfl)
theorem dX1_spent_19 : decode cX1_spent 19 = .ok (.iconst (-1), 1) := dk_2 (dk_at dksX1_spent_0 19 rfl rfl)
theorem dX1_spent_20 : decode cX1_spent 20 = .ok (.if_icmp .eq 23, 3) := dk_159 0 23 (dk_at dksX1_spent_0 20 rfl rfl)
theorem dX1_spent_23 : decode cX1_spent 23 = .ok (.aload_n 0, 1) := dk_42 (dk_at dksX1_spent_0 23 rfl rfl)
theorem dX1_spent_24 : decode cX1_spent 24 = .ok (.getfield 10, 3) := dk_180 0 10 (dk_at dksX1_spent_1 0 rfl rfl)
theorem dX1_spent_27 : decode cX1_spent 27 = .ok (.getfield 71, 3) := dk_180 0 71 (dk_at dksX1_spent_1 3 rfl rfl)
theorem dX1_spent_30 : decode cX1_spent 30 = .ok (.iload_n 1, 1) := dk_27 (dk_at dksX1_spent_1 6 rfl rfl)
theorem dX1_spent_31 : decode cX1_spent 31 = .ok (.invokevirtual 81, 3) := dk_182 0 81 (dk_at dksX1_spent_1 7 rfl rfl)
theorem dX1_spent_34 : decode cX1_spent 34 = .ok (.checkcast 85, 3) := dk_192 0 85 (dk_at dksX1_spent_1 10 rfl rfl)
theorem dX1_spent_37 : decode cX1_spent 37 = .ok (.getfield 192, 3) := dk_180 0 192 (dk_at dksX1_spent_1 13 rfl rfl)
theorem dX1_spent_40 : decode cX1_spent 40 = .ok (.iload_n 2, 1) := dk_28 (dk_at dksX1_spent_1 16 rfl rfl)
theorem dX1_spent_41 : decode cX1_spent 41 = .ok (.iaload, 1) := dk_46 (dk_at dksX1_spent_1 17 rfl rfl)
theorem dX1_spent_42 : decode cX1_spent 42 = .ok (.ireturn, 1) := dk_172 (dk_at dksX1_spent_1 18 rfl rfl)
theorem dX1_spent_43 : decode cX1_spent 43 = .ok (.iconst 0, 1) := dk_3 (dk_at dksX1_spent_1 19 rfl rfl)
theorem dX1_spent_44 : decode cX1_spent 44 = .ok (.istore_n 3, 1) := dk_62 (dk_at dksX1_spent_1 20 rfl rfl)
theorem dX1_spent_45 : decode cX1_spent 45 = .ok (.iconst 0, 1) := dk_3 (dk_at dksX1_spent_1 21 rfl rfl)
theorem dX1_spent_46 : decode cX1_spent 46 = .ok (.istore 4, 2) := dk_54 4 (dk_at dksX1_spent_1 22 rfl rfl)
theorem dX1_spent_48 : decode cX1_spent 48 = .ok (.iload 4, 2) := dk_21 4 (dk_at dksX1_spent_2 0 rfl rfl)
theorem dX1_spent_50 : decode cX1_spent 50 = .ok (.aload_n 0, 1) := dk_42 (dk_at dksX1_spent_2 2 rfl rfl)
theorem dX1_spent_51 : decode cX1_spent 51 = .ok (.getfield 10, 3) := dk_180 0 10 (dk_at dksX1_spent_2 3 rfl rfl)
theorem dX1_spent_54 : decode cX1_spent 54 = .ok (.getfield 71, 3) := dk_180 0 71 (dk_at dksX1_spent_2 6 rfl rfl)
theorem dX1_spent_57 : decode cX1_spent 57 = .ok (.invokevirtual 74, 3) := dk_182 0 74 (dk_at dksX1_spent_2 9 rfl rfl)
theorem dX1_spent_60 : decode cX1_spent 60 = .ok (.if_icmp .ge 32, 3) := dk_162 0 32 (dk_at dksX1_spent_2 12 rfl rfl)
theorem dX1_spent_63 : decode cX1_spent 63 = .ok (.iload_n 3, 1) := dk_29 (dk_at dksX1_spent_2 15 rfl rfl)
theorem dX1_spent_64 : decode cX1_spent 64 = .ok (.aload_n 0, 1) := dk_42 (dk_at dksX1_spent_2 16 rfl rfl)
theorem dX1_spent_65 : decode cX1_spent 65 = .ok (.getfield 10, 3) := dk_180 0 10 (dk_at dksX1_spent_2 17 rfl rfl)
theorem dX1_spent_68 : decode cX1_spent 68 = .ok (.getfield 71, 3) := dk_180 0 71 (dk_at dksX1_spent_2 20 rfl rfl)
theorem dX1_spent_71 : decode cX1_spent 71 = .ok (.iload 4, 2) := dk_21 4 (dk_at dksX1_spent_3 0 rfl rfl)
theorem dX1_spent_73 : decode cX1_spent 73 = .ok (.invokevirtual 81, 3) := dk_182 0 81 (dk_at dksX1_spent_3 2 rfl rfl)
theorem dX1_spent_76 : decode cX1_spent 76 = .ok (.checkcast 85, 3) := dk_192 0 85 (dk_at dksX1_spent_3 5 rfl rfl)
theorem dX1_spent_79 : decode cX1_spent 79 = .ok (.getfield 192, 3) := dk_180 0 192 (dk_at dksX1_spent_3 8 rfl rfl)
theorem dX1_spent_82 : decode cX1_spent 82 = .ok (.iload_n 2, 1) := dk_28 (dk_at dksX1_spent_3 11 rfl rfl)
theorem dX1_spent_83 : decode cX1_spent 83 = .ok (.iaload, 1) := dk_46 (dk_at dksX1_spent_3 12 rfl rfl)
theorem dX1_spent_84 : decode cX1_spent 84 = .ok (.iadd, 1) := dk_96 (dk_at dksX1_spent_3 13 rfl rfl)
theorem dX1_spent_85 : decode cX1_spent 85 = .ok (.istore_n 3, 1) := dk_62 (dk_at dksX1_spent_3 14 rfl rfl)
theorem dX1_spent_86 : decode cX1_spent 86 = .ok (.iinc 4 1, 3) := dk_132 4 1 (dk_at dksX1_spent_3 15 rfl rfl)
theorem dX1_spent_89 : decode cX1_spent 89 = .ok (.goto (-41), 3) := dk_167 255 215 (dk_at dksX1_spent_3 18 rfl rfl)
theorem dX1_spent_92 : decode cX1_spent 92 = .ok (.iload_n 3, 1) := dk_29 (dk_at dksX1_spent_3 21 rfl rfl)
theorem dX1_spent_93 : decode cX1_spent 93 = .ok (.ireturn, 1) := dk_172 (dk_at dksX1_spent_3 22 rfl rfl)
theorem q129 : (Jvm.Cond.initialized "LimbBenches") ∈ lw_all := lw_g (lw_at lw_m1 1 rfl) rfl
theorem q186 : (Jvm.Cond.instanceMethod ({ cls := "LimbBenches", name := "<init>", desc := "()V" } : Jvm.MethodName)) ∈ lw_all := lw_g (lw_at lw_m1 58 rfl) rfl
theorem q187 : (Jvm.Cond.code ({ cls := "LimbBenches", name := "<init>", desc := "()V" } : Jvm.MethodName) prog_1_method_1_code (1 : Nat) (Option.none : Option Jvm.ClassFile.FieldType)) ∈ lw_all := lw_g (lw_at lw_m1 59 rfl) rfl
theorem q188 : (Jvm.Cond.methodLink "LimbBenches" (1 : Nat) ({ cls := "java/lang/Object", name := "<init>", desc := "()V" } : Jvm.MethodName)) ∈ lw_all := lw_g (lw_at lw_m1 60 rfl) rfl
theorem q191 : (Jvm.Cond.classLink "LimbBenches" (7 : Nat) "LimbBenches$State") ∈ lw_all := lw_g (lw_at lw_m1 63 rfl) rfl
theorem q193 : (Jvm.Cond.methodLinkNest "LimbBenches" (9 : Nat) ({ cls := "LimbBenches$State", name := "<init>", desc := "()V" } : Jvm.MethodName) "LimbBenches") ∈ lw_tbl := lw_at lw_m1 65 rfl
theorem q543 : (Jvm.Cond.fieldLinkNest "LimbBenches" (87 : Nat) "LimbBenches$State" "models" "Ljava/util/ArrayList;" "LimbBenches") ∈ lw_tbl := lw_at lw_m2 175 rfl
theorem q545 : (Jvm.Cond.fieldLinkNest "LimbBenches" (71 : Nat) "LimbBenches$State" "persons" "Ljava/util/ArrayList;" "LimbBenches") ∈ lw_tbl := lw_at lw_m2 177 rfl
theorem q547 : (Jvm.Cond.fieldLinkNest "LimbBenches" (384 : Nat) "LimbBenches$State" "jobs" "Ljava/util/ArrayList;" "LimbBenches") ∈ lw_tbl := lw_at lw_m2 179 rfl
theorem q549 : (Jvm.Cond.fieldLinkNest "LimbBenches" (634 : Nat) "LimbBenches$State" "walks" "Ljava/util/ArrayList;" "LimbBenches") ∈ lw_tbl := lw_at lw_m2 181 rfl
theorem q551 : (Jvm.Cond.fieldLinkNest "LimbBenches" (603 : Nat) "LimbBenches$State" "causes" "Ljava/util/ArrayList;" "LimbBenches") ∈ lw_tbl := lw_at lw_m2 183 rfl
theorem q553 : (Jvm.Cond.fieldLinkNest "LimbBenches" (268 : Nat) "LimbBenches$State" "fittings" "Ljava/util/ArrayList;" "LimbBenches") ∈ lw_tbl := lw_at lw_m2 185 rfl
theorem q555 : (Jvm.Cond.fieldLinkNest "LimbBenches" (431 : Nat) "LimbBenches$State" "makers" "Ljava/util/ArrayList;" "LimbBenches") ∈ lw_tbl := lw_at lw_m2 187 rfl
theorem q557 : (Jvm.Cond.fieldLinkNest "LimbBenches" (436 : Nat) "LimbBenches$State" "ordered" "Ljava/util/ArrayList;" "LimbBenches") ∈ lw_tbl := lw_at lw_m2 189 rfl
theorem q559 : (Jvm.Cond.fieldLinkNest "LimbBenches" (514 : Nat) "LimbBenches$State" "measures" "Ljava/util/ArrayList;" "LimbBenches") ∈ lw_tbl := lw_at lw_m2 191 rfl
theorem q561 : (Jvm.Cond.fieldLinkNest "LimbBenches" (580 : Nat) "LimbBenches$State" "pairs" "Ljava/util/ArrayList;" "LimbBenches") ∈ lw_tbl := lw_at lw_m2 193 rfl
theorem q563 : (Jvm.Cond.fieldLinkNest "LimbBenches" (495 : Nat) "LimbBenches$State" "spares" "[I" "LimbBenches") ∈ lw_tbl := lw_at lw_m2 195 rfl
theorem q565 : (Jvm.Cond.fieldLinkNest "LimbBenches" (293 : Nat) "LimbBenches$State" "stock" "[I" "LimbBenches") ∈ lw_tbl := lw_at lw_m2 197 rfl
theorem q567 : (Jvm.Cond.fieldLinkNest "LimbBenches" (149 : Nat) "LimbBenches$State" "today" "I" "LimbBenches") ∈ lw_tbl := lw_at lw_m2 199 rfl
theorem q569 : (Jvm.Cond.fieldLinkNest "LimbBenches" (492 : Nat) "LimbBenches$State" "spareMany" "I" "LimbBenches") ∈ lw_tbl := lw_at lw_m2 201 rfl
theorem q571 : (Jvm.Cond.fieldLinkNest "LimbBenches" (609 : Nat) "LimbBenches$State" "are" "I" "LimbBenches") ∈ lw_tbl := lw_at lw_m2 203 rfl
theorem q573 : (Jvm.Cond.fieldLinkNest "LimbBenches" (618 : Nat) "LimbBenches$State" "not" "I" "LimbBenches") ∈ lw_tbl := lw_at lw_m2 205 rfl
theorem q575 : (Jvm.Cond.fieldLinkNest "LimbBenches" (280 : Nat) "LimbBenches$State" "fitter" "I" "LimbBenches") ∈ lw_tbl := lw_at lw_m2 207 rfl
theorem q577 : (Jvm.Cond.fieldLinkNest "LimbBenches" (559 : Nat) "LimbBenches$State" "blisters" "I" "LimbBenches") ∈ lw_tbl := lw_at lw_m2 209 rfl
theorem q579 : (Jvm.Cond.fieldLinkNest "LimbBenches" (415 : Nat) "LimbBenches$State" "benches" "I" "LimbBenches") ∈ lw_tbl := lw_at lw_m2 211 rfl
theorem q620 : (Jvm.Cond.classLink "LimbBenches" (16 : Nat) "java/util/ArrayList") ∈ lw_all := lw_g (lw_at lw_m3 12 rfl) rfl
theorem q621 : (Jvm.Cond.methodLink "LimbBenches" (18 : Nat) ({ cls := "java/util/ArrayList", name := "<init>", desc := "(I)V" } : Jvm.MethodName)) ∈ lw_all := lw_g (lw_at lw_m3 13 rfl) rfl
theorem q623 : (Jvm.Cond.fieldLink "LimbBenches" (10 : Nat) "LimbBenches" "state" "LLimbBenches$State;") ∈ lw_all := lw_g (lw_at lw_m3 15 rfl) rfl
theorem q624 : (Jvm.Cond.fieldLink "LimbBenches" (21 : Nat) "LimbBenches" "rules" "Ljava/util/ArrayList;") ∈ lw_all := lw_g (lw_at lw_m3 16 rfl) rfl
theorem q625 : (Jvm.Cond.fieldLink "LimbBenches" (25 : Nat) "LimbBenches" "clauses" "Ljava/util/ArrayList;") ∈ lw_all := lw_g (lw_at lw_m3 17 rfl) rfl
theorem q626 : (Jvm.Cond.fieldLink "LimbBenches" (28 : Nat) "LimbBenches" "none" "Ljava/util/ArrayList;") ∈ lw_all := lw_g (lw_at lw_m3 18 rfl) rfl
theorem q627 : (Jvm.Cond.fieldLink "LimbBenches" (95 : Nat) "LimbBenches" "taped" "I") ∈ lw_all := lw_g (lw_at lw_m3 19 rfl) rfl
theorem q628 : (Jvm.Cond.fieldLink "LimbBenches" (31 : Nat) "LimbBenches" "faultAt" "I") ∈ lw_all := lw_g (lw_at lw_m3 20 rfl) rfl
theorem q629 : (Jvm.Cond.fieldLink "LimbBenches" (645 : Nat) "LimbBenches" "imageMany" "I") ∈ lw_all := lw_g (lw_at lw_m3 21 rfl) rfl
theorem q630 : (Jvm.Cond.fieldLink "LimbBenches" (35 : Nat) "LimbBenches" "tape" "[B") ∈ lw_all := lw_g (lw_at lw_m3 22 rfl) rfl
theorem q631 : (Jvm.Cond.fieldLink "LimbBenches" (39 : Nat) "LimbBenches" "images" "[LLimbBenches$State;") ∈ lw_all := lw_g (lw_at lw_m3 23 rfl) rfl
theorem q632 : (Jvm.Cond.fieldLink "LimbBenches" (43 : Nat) "LimbBenches" "names" "[I") ∈ lw_all := lw_g (lw_at lw_m3 24 rfl) rfl
theorem q633 : (Jvm.Cond.fieldLink "LimbBenches" (47 : Nat) "LimbBenches" "picked" "[I") ∈ lw_all := lw_g (lw_at lw_m3 25 rfl) rfl
theorem q634 : (Jvm.Cond.fieldLink "LimbBenches" (50 : Nat) "LimbBenches" "bestPicked" "[I") ∈ lw_all := lw_g (lw_at lw_m3 26 rfl) rfl
theorem q635 : (Jvm.Cond.fieldLink "LimbBenches" (357 : Nat) "LimbBenches" "bestWorth" "I") ∈ lw_all := lw_g (lw_at lw_m3 27 rfl) rfl
theorem q636 : (Jvm.Cond.fieldLink "LimbBenches" (360 : Nat) "LimbBenches" "bestPrice" "I") ∈ lw_all := lw_g (lw_at lw_m3 28 rfl) rfl
theorem q637 : (Jvm.Cond.fieldLink "LimbBenches" (353 : Nat) "LimbBenches" "isChosen" "Z") ∈ lw_all := lw_g (lw_at lw_m3 29 rfl) rfl
theorem q638 : (Jvm.Cond.fieldLink "LimbBenches" (53 : Nat) "LimbBenches" "order" "[I") ∈ lw_all := lw_g (lw_at lw_m3 30 rfl) rfl
theorem q639 : (Jvm.Cond.fieldLink "LimbBenches" (56 : Nat) "LimbBenches" "bestOrder" "[I") ∈ lw_all := lw_g (lw_at lw_m3 31 rfl) rfl
theorem q640 : (Jvm.Cond.fieldLink "LimbBenches" (59 : Nat) "LimbBenches" "lateJob" "I") ∈ lw_all := lw_g (lw_at lw_m3 32 rfl) rfl
theorem q641 : (Jvm.Cond.fieldLink "LimbBenches" (393 : Nat) "LimbBenches" "lateHours" "I") ∈ lw_all := lw_g (lw_at lw_m3 33 rfl) rfl
theorem q642 : (Jvm.Cond.fieldLink "LimbBenches" (399 : Nat) "LimbBenches" "bestCost" "I") ∈ lw_all := lw_g (lw_at lw_m3 34 rfl) rfl
theorem q643 : (Jvm.Cond.fieldLink "LimbBenches" (62 : Nat) "LimbBenches" "lentTo" "[I") ∈ lw_all := lw_g (lw_at lw_m3 35 rfl) rfl
theorem q644 : (Jvm.Cond.fieldLink "LimbBenches" (65 : Nat) "LimbBenches" "bestLent" "[I") ∈ lw_all := lw_g (lw_at lw_m3 36 rfl) rfl
theorem q645 : (Jvm.Cond.fieldLink "LimbBenches" (498 : Nat) "LimbBenches" "bestLending" "I") ∈ lw_all := lw_g (lw_at lw_m3 37 rfl) rfl
theorem q646 : (Jvm.Cond.lays "LimbBenches" "LimbBenches" "state" "LLimbBenches$State;") ∈ lw_all := lw_g (lw_at lw_m3 38 rfl) rfl
theorem q647 : (Jvm.Cond.soleField "LimbBenches" "state") ∈ lw_all := lw_g (lw_at lw_m3 39 rfl) rfl
theorem q648 : (Jvm.Cond.laysFinal "LimbBenches" "LimbBenches" "rules" "Ljava/util/ArrayList;") ∈ lw_all := lw_g (lw_at lw_m3 40 rfl) rfl
theorem q649 : (Jvm.Cond.soleField "LimbBenches" "rules") ∈ lw_all := lw_g (lw_at lw_m3 41 rfl) rfl
theorem q650 : (Jvm.Cond.lays "LimbBenches" "LimbBenches" "clauses" "Ljava/util/ArrayList;") ∈ lw_all := lw_g (lw_at lw_m3 42 rfl) rfl
theorem q651 : (Jvm.Cond.soleField "LimbBenches" "clauses") ∈ lw_all := lw_g (lw_at lw_m3 43 rfl) rfl
theorem q652 : (Jvm.Cond.laysFinal "LimbBenches" "LimbBenches" "none" "Ljava/util/ArrayList;") ∈ lw_all := lw_g (lw_at lw_m3 44 rfl) rfl
theorem q653 : (Jvm.Cond.soleField "LimbBenches" "none") ∈ lw_all := lw_g (lw_at lw_m3 45 rfl) rfl
theorem q654 : (Jvm.Cond.lays "LimbBenches" "LimbBenches" "taped" "I") ∈ lw_all := lw_g (lw_at lw_m3 46 rfl) rfl
theorem q655 : (Jvm.Cond.soleField "LimbBenches" "taped") ∈ lw_all := lw_g (lw_at lw_m3 47 rfl) rfl
theorem q656 : (Jvm.Cond.lays "LimbBenches" "LimbBenches" "faultAt" "I") ∈ lw_all := lw_g (lw_at lw_m3 48 rfl) rfl
theorem q657 : (Jvm.Cond.soleField "LimbBenches" "faultAt") ∈ lw_all := lw_g (lw_at lw_m3 49 rfl) rfl
theorem q658 : (Jvm.Cond.lays "LimbBenches" "LimbBenches" "imageMany" "I") ∈ lw_all := lw_g (lw_at lw_m3 50 rfl) rfl
theorem q659 : (Jvm.Cond.soleField "LimbBenches" "imageMany") ∈ lw_all := lw_g (lw_at lw_m3 51 rfl) rfl
theorem q660 : (Jvm.Cond.laysFinal "LimbBenches" "LimbBenches" "tape" "[B") ∈ lw_all := lw_g (lw_at lw_m3 52 rfl) rfl
theorem q661 : (Jvm.Cond.soleField "LimbBenches" "tape") ∈ lw_all := lw_g (lw_at lw_m3 53 rfl) rfl
theorem q662 : (Jvm.Cond.laysFinal "LimbBenches" "LimbBenches" "images" "[LLimbBenches$State;") ∈ lw_all := lw_g (lw_at lw_m3 54 rfl) rfl
theorem q663 : (Jvm.Cond.soleField "LimbBenches" "images") ∈ lw_all := lw_g (lw_at lw_m3 55 rfl) rfl
theorem q664 : (Jvm.Cond.laysFinal "LimbBenches" "LimbBenches" "names" "[I") ∈ lw_all := lw_g (lw_at lw_m3 56 rfl) rfl
theorem q665 : (Jvm.Cond.soleField "LimbBenches" "names") ∈ lw_all := lw_g (lw_at lw_m3 57 rfl) rfl
theorem q666 : (Jvm.Cond.laysFinal "LimbBenches" "LimbBenches" "picked" "[I") ∈ lw_all := lw_g (lw_at lw_m3 58 rfl) rfl
theorem q667 : (Jvm.Cond.soleField "LimbBenches" "picked") ∈ lw_all := lw_g (lw_at lw_m3 59 rfl) rfl
theorem q668 : (Jvm.Cond.laysFinal "LimbBenches" "LimbBenches" "bestPicked" "[I") ∈ lw_all := lw_g (lw_at lw_m3 60 rfl) rfl
theorem q669 : (Jvm.Cond.soleField "LimbBenches" "bestPicked") ∈ lw_all := lw_g (lw_at lw_m3 61 rfl) rfl
theorem q670 : (Jvm.Cond.lays "LimbBenches" "LimbBenches" "bestWorth" "I") ∈ lw_all := lw_g (lw_at lw_m3 62 rfl) rfl
theorem q671 : (Jvm.Cond.soleField "LimbBenches" "bestWorth") ∈ lw_all := lw_g (lw_at lw_m3 63 rfl) rfl
theorem q672 : (Jvm.Cond.lays "LimbBenches" "LimbBenches" "bestPrice" "I") ∈ lw_all := lw_g (lw_at lw_m3 64 rfl) rfl
theorem q673 : (Jvm.Cond.soleField "LimbBenches" "bestPrice") ∈ lw_all := lw_g (lw_at lw_m3 65 rfl) rfl
theorem q674 : (Jvm.Cond.lays "LimbBenches" "LimbBenches" "isChosen" "Z") ∈ lw_all := lw_g (lw_at lw_m3 66 rfl) rfl
theorem q675 : (Jvm.Cond.soleField "LimbBenches" "isChosen") ∈ lw_all := lw_g (lw_at lw_m3 67 rfl) rfl
theorem q676 : (Jvm.Cond.laysFinal "LimbBenches" "LimbBenches" "order" "[I") ∈ lw_all := lw_g (lw_at lw_m3 68 rfl) rfl
theorem q677 : (Jvm.Cond.soleField "LimbBenches" "order") ∈ lw_all := lw_g (lw_at lw_m3 69 rfl) rfl
theorem q678 : (Jvm.Cond.laysFinal "LimbBenches" "LimbBenches" "bestOrder" "[I") ∈ lw_all := lw_g (lw_at lw_m3 70 rfl) rfl
theorem q679 : (Jvm.Cond.soleField "LimbBenches" "bestOrder") ∈ lw_all := lw_g (lw_at lw_m3 71 rfl) rfl
theorem q680 : (Jvm.Cond.lays "LimbBenches" "LimbBenches" "lateJob" "I") ∈ lw_all := lw_g (lw_at lw_m3 72 rfl) rfl
theorem q681 : (Jvm.Cond.soleField "LimbBenches" "lateJob") ∈ lw_all := lw_g (lw_at lw_m3 73 rfl) rfl
theorem q682 : (Jvm.Cond.lays "LimbBenches" "LimbBenches" "lateHours" "I") ∈ lw_all := lw_g (lw_at lw_m3 74 rfl) rfl
theorem q683 : (Jvm.Cond.soleField "LimbBenches" "lateHours") ∈ lw_all := lw_g (lw_at lw_m3 75 rfl) rfl
theorem q684 : (Jvm.Cond.lays "LimbBenches" "LimbBenches" "bestCost" "I") ∈ lw_all := lw_g (lw_at lw_m3 76 rfl) rfl
theorem q685 : (Jvm.Cond.soleField "LimbBenches" "bestCost") ∈ lw_all := lw_g (lw_at lw_m3 77 rfl) rfl
theorem q686 : (Jvm.Cond.laysFinal "LimbBenches" "LimbBenches" "lentTo" "[I") ∈ lw_all := lw_g (lw_at lw_m3 78 rfl) rfl
theorem q687 : (Jvm.Cond.soleField "LimbBenches" "lentTo") ∈ lw_all := lw_g (lw_at lw_m3 79 rfl) rfl
theorem q688 : (Jvm.Cond.laysFinal "LimbBenches" "LimbBenches" "bestLent" "[I") ∈ lw_all := lw_g (lw_at lw_m3 80 rfl) rfl
theorem q689 : (Jvm.Cond.soleField "LimbBenches" "bestLent") ∈ lw_all := lw_g (lw_at lw_m3 81 rfl) rfl
theorem q690 : (Jvm.Cond.lays "LimbBenches" "LimbBenches" "bestLending" "I") ∈ lw_all := lw_g (lw_at lw_m3 82 rfl) rfl
theorem q691 : (Jvm.Cond.soleField "LimbBenches" "bestLending") ∈ lw_all := lw_g (lw_at lw_m3 83 rfl) rfl
theorem q692 : (Jvm.Cond.superclass "LimbBenches" "java/lang/Object") ∈ lw_all := lw_g (lw_at lw_m3 84 rfl) rfl
theorem q694 : (Jvm.Cond.instanceMethod ({ cls := "LimbBenches", name := "feed", desc := "(IIIII)I" } : Jvm.MethodName)) ∈ lw_all := lw_g (lw_at lw_m3 86 rfl) rfl
theorem q695 : (Jvm.Cond.selects "LimbBenches" ({ cls := "LimbBenches", name := "feed", desc := "(IIIII)I" } : Jvm.MethodName) ({ cls := "LimbBenches", name := "feed", desc := "(IIIII)I" } : Jvm.MethodName)) ∈ lw_all := lw_g (lw_at lw_m3 87 rfl) rfl
theorem q696 : (Jvm.Cond.code ({ cls := "LimbBenches", name := "feed", desc := "(IIIII)I" } : Jvm.MethodName) prog_1_method_6_code (6 : Nat) (Option.some Jvm.ClassFile.FieldType.int)) ∈ lw_all := lw_g (lw_at lw_m3 88 rfl) rfl
theorem q697 : (Jvm.Cond.methodLink "LimbBenches" (98 : Nat) ({ cls := "LimbBenches", name := "put", desc := "(I)V" } : Jvm.MethodName)) ∈ lw_all := lw_g (lw_at lw_m3 89 rfl) rfl
theorem q698 : (Jvm.Cond.privateMethod ({ cls := "LimbBenches", name := "put", desc := "(I)V" } : Jvm.MethodName)) ∈ lw_tbl := lw_at lw_m3 90 rfl
theorem q699 : (Jvm.Cond.instanceMethod ({ cls := "LimbBenches", name := "put", desc := "(I)V" } : Jvm.MethodName)) ∈ lw_all := lw_g (lw_at lw_m3 91 rfl) rfl
theorem q700 : (Jvm.Cond.code ({ cls := "LimbBenches", name := "put", desc := "(I)V" } : Jvm.MethodName) prog_1_method_7_code (3 : Nat) (Option.none : Option Jvm.ClassFile.FieldType)) ∈ lw_all := lw_g (lw_at lw_m3 92 rfl) rfl
theorem q702 : (Jvm.Cond.instanceMethod ({ cls := "LimbBenches", name := "fault", desc := "()I" } : Jvm.MethodName)) ∈ lw_all := lw_g (lw_at lw_m3 94 rfl) rfl
theorem q703 : (Jvm.Cond.selects "LimbBenches" ({ cls := "LimbBenches", name := "fault", desc := "()I" } : Jvm.MethodName) ({ cls := "LimbBenches", name := "fault", desc := "()I" } : Jvm.MethodName)) ∈ lw_all := lw_g (lw_at lw_m3 95 rfl) rfl
theorem q704 : (Jvm.Cond.code ({ cls := "LimbBenches", name := "fault", desc := "()I" } : Jvm.MethodName) prog_1_method_9_code (1 : Nat) (Option.some Jvm.ClassFile.FieldType.int)) ∈ lw_all := lw_g (lw_at lw_m3 96 rfl) rfl
theorem q706 : (Jvm.Cond.instanceMethod ({ cls := "LimbBenches", name := "beyond", desc := "()I" } : Jvm.MethodName)) ∈ lw_all := lw_g (lw_at lw_m3 98 rfl) rfl
theorem q707 : (Jvm.Cond.selects "LimbBenches" ({ cls := "LimbBenches", name := "beyond", desc := "()I" } : Jvm.MethodName) ({ cls := "LimbBenches", name := "beyond", desc := "()I" } : Jvm.MethodName)) ∈ lw_all := lw_g (lw_at lw_m3 99 rfl) rfl
theorem q708 : (Jvm.Cond.code ({ cls := "LimbBenches", name := "beyond", desc := "()I" } : Jvm.MethodName) prog_1_method_47_code (3 : Nat) (Option.some Jvm.ClassFile.FieldType.int)) ∈ lw_all := lw_g (lw_at lw_m3 100 rfl) rfl
theorem q709 : (Jvm.Cond.methodLink "LimbBenches" (74 : Nat) ({ cls := "java/util/ArrayList", name := "size", desc := "()I" } : Jvm.MethodName)) ∈ lw_all := lw_g (lw_at lw_m3 101 rfl) rfl
theorem q713 : (Jvm.Cond.methodLink "LimbBenches" (81 : Nat) ({ cls := "java/util/ArrayList", name := "get", desc := "(I)Ljava/lang/Object;" } : Jvm.MethodName)) ∈ lw_all := lw_g (lw_at lw_m3 105 rfl) rfl
theorem q727 : (Jvm.Cond.classLink "LimbBenches" (85 : Nat) "LimbBenches$Person") ∈ lw_all := lw_g (lw_at lw_m3 119 rfl) rfl
theorem q728 : (Jvm.Cond.methodLink "LimbBenches" (342 : Nat) ({ cls := "LimbBenches", name := "overOf", desc := "(LLimbBenches$Person;)I" } : Jvm.MethodName)) ∈ lw_all := lw_g (lw_at lw_m3 120 rfl) rfl
theorem q729 : (Jvm.Cond.privateMethod ({ cls := "LimbBenches", name := "overOf", desc := "(LLimbBenches$Person;)I" } : Jvm.MethodName)) ∈ lw_tbl := lw_at lw_m3 121 rfl
theorem q730 : (Jvm.Cond.instanceMethod ({ cls := "LimbBenches", name := "overOf", desc := "(LLimbBenches$Person;)I" } : Jvm.MethodName)) ∈ lw_all := lw_g (lw_at lw_m3 122 rfl) rfl
theorem q731 : (Jvm.Cond.code ({ cls := "LimbBenches", name := "overOf", desc := "(LLimbBenches$Person;)I" } : Jvm.MethodName) prog_1_method_45_code (3 : Nat) (Option.some Jvm.ClassFile.FieldType.int)) ∈ lw_all := lw_g (lw_at lw_m3 123 rfl) rfl
theorem q732 : (Jvm.Cond.methodLink "LimbBenches" (227 : Nat) ({ cls := "LimbBenches", name := "name", desc := "(LLimbBenches$Person;)V" } : Jvm.MethodName)) ∈ lw_all := lw_g (lw_at lw_m3 124 rfl) rfl
theorem q733 : (Jvm.Cond.privateMethod ({ cls := "LimbBenches", name := "name", desc := "(LLimbBenches$Person;)V" } : Jvm.MethodName)) ∈ lw_tbl := lw_at lw_m3 125 rfl
theorem q734 : (Jvm.Cond.instanceMethod ({ cls := "LimbBenches", name := "name", desc := "(LLimbBenches$Person;)V" } : Jvm.MethodName)) ∈ lw_all := lw_g (lw_at lw_m3 126 rfl) rfl
theorem q735 : (Jvm.Cond.code ({ cls := "LimbBenches", name := "name", desc := "(LLimbBenches$Person;)V" } : Jvm.MethodName) prog_1_method_22_code (2 : Nat) (Option.none : Option Jvm.ClassFile.FieldType)) ∈ lw_all := lw_g (lw_at lw_m3 127 rfl) rfl
theorem q736 : (Jvm.Cond.methodLink "LimbBenches" (196 : Nat) ({ cls := "LimbBenches", name := "name", desc := "(LLimbBenches$Person;I)V" } : Jvm.MethodName)) ∈ lw_all := lw_g (lw_at lw_m3 128 rfl) rfl
theorem q737 : (Jvm.Cond.privateMethod ({ cls := "LimbBenches", name := "name", desc := "(LLimbBenches$Person;I)V" } : Jvm.MethodName)) ∈ lw_tbl := lw_at lw_m3 129 rfl
theorem q738 : (Jvm.Cond.instanceMethod ({ cls := "LimbBenches", name := "name", desc := "(LLimbBenches$Person;I)V" } : Jvm.MethodName)) ∈ lw_all := lw_g (lw_at lw_m3 130 rfl) rfl
theorem q739 : (Jvm.Cond.code ({ cls := "LimbBenches", name := "name", desc := "(LLimbBenches$Person;I)V" } : Jvm.MethodName) prog_1_method_21_code (4 : Nat) (Option.none : Option Jvm.ClassFile.FieldType)) ∈ lw_all := lw_g (lw_at lw_m3 131 rfl) rfl
theorem q740 : (Jvm.Cond.methodLink "LimbBenches" (138 : Nat) ({ cls := "LimbBenches", name := "countsOn", desc := "(I)I" } : Jvm.MethodName)) ∈ lw_all := lw_g (lw_at lw_m3 132 rfl) rfl
theorem q741 : (Jvm.Cond.privateMethod ({ cls := "LimbBenches", name := "countsOn", desc := "(I)I" } : Jvm.MethodName)) ∈ lw_tbl := lw_at lw_m3 133 rfl
theorem q742 : (Jvm.Cond.instanceMethod ({ cls := "LimbBenches", name := "countsOn", desc := "(I)I" } : Jvm.MethodName)) ∈ lw_all := lw_g (lw_at lw_m3 134 rfl) rfl
theorem q743 : (Jvm.Cond.code ({ cls := "LimbBenches", name := "countsOn", desc := "(I)I" } : Jvm.MethodName) prog_1_method_10_code (4 : Nat) (Option.some Jvm.ClassFile.FieldType.int)) ∈ lw_all := lw_g (lw_at lw_m3 135 rfl) rfl
theorem q744 : (Jvm.Cond.classLink "LimbBenches" (109 : Nat) "LimbBenches$Rules") ∈ lw_all := lw_g (lw_at lw_m3 136 rfl) rfl
theorem q745 : (Jvm.Cond.constant "LimbBenches" (230 : Nat) (100000 : Int32)) ∈ lw_all := lw_g (lw_at lw_m3 137 rfl) rfl
theorem q746 : (Jvm.Cond.methodLink "LimbBenches" (231 : Nat) ({ cls := "LimbBenches", name := "valueOf", desc := "(CII)I" } : Jvm.MethodName)) ∈ lw_all := lw_g (lw_at lw_m3 138 rfl) rfl
theorem q747 : (Jvm.Cond.privateMethod ({ cls := "LimbBenches", name := "valueOf", desc := "(CII)I" } : Jvm.MethodName)) ∈ lw_tbl := lw_at lw_m3 139 rfl
theorem q748 : (Jvm.Cond.instanceMethod ({ cls := "LimbBenches", name := "valueOf", desc := "(CII)I" } : Jvm.MethodName)) ∈ lw_all := lw_g (lw_at lw_m3 140 rfl) rfl
theorem q749 : (Jvm.Cond.code ({ cls := "LimbBenches", name := "valueOf", desc := "(CII)I" } : Jvm.MethodName) prog_1_method_24_code (5 : Nat) (Option.some Jvm.ClassFile.FieldType.int)) ∈ lw_all := lw_g (lw_at lw_m3 141 rfl) rfl
theorem q750 : (Jvm.Cond.methodLink "LimbBenches" (210 : Nat) ({ cls := "LimbBenches", name := "lastOf", desc := "(CI)LLimbBenches$Clause;" } : Jvm.MethodName)) ∈ lw_all := lw_g (lw_at lw_m3 142 rfl) rfl
theorem q751 : (Jvm.Cond.privateMethod ({ cls := "LimbBenches", name := "lastOf", desc := "(CI)LLimbBenches$Clause;" } : Jvm.MethodName)) ∈ lw_tbl := lw_at lw_m3 143 rfl
theorem q752 : (Jvm.Cond.instanceMethod ({ cls := "LimbBenches", name := "lastOf", desc := "(CI)LLimbBenches$Clause;" } : Jvm.MethodName)) ∈ lw_all := lw_g (lw_at lw_m3 144 rfl) rfl
theorem q753 : (Jvm.Cond.code ({ cls := "LimbBenches", name := "lastOf", desc := "(CI)LLimbBenches$Clause;" } : Jvm.MethodName) prog_1_method_23_code (5 : Nat) (Option.some (Jvm.ClassFile.FieldType.object "LimbBenches$Clause"))) ∈ lw_all := lw_g (lw_at lw_m3 145 rfl) rfl
theorem q754 : (Jvm.Cond.classLink "LimbBenches" (200 : Nat) "LimbBenches$Clause") ∈ lw_all := lw_g (lw_at lw_m3 146 rfl) rfl
theorem q755 : (Jvm.Cond.methodLink "LimbBenches" (202 : Nat) ({ cls := "LimbBenches$Clause", name := "tells", desc := "(CI)Z" } : Jvm.MethodName)) ∈ lw_all := lw_g (lw_at lw_m3 147 rfl) rfl
theorem q765 : (Jvm.Cond.methodLink "LimbBenches" (206 : Nat) ({ cls := "LimbBenches$Clause", name := "holds", desc := "([I)Z" } : Jvm.MethodName)) ∈ lw_all := lw_g (lw_at lw_m3 157 rfl) rfl
theorem q813 : (Jvm.Cond.methodLink "LimbBenches" (214 : Nat) ({ cls := "LimbBenches$Clause", name := "value", desc := "([I)I" } : Jvm.MethodName)) ∈ lw_all := lw_g (lw_at lw_m3 205 rfl) rfl
theorem q825 : (Jvm.Cond.methodLink "LimbBenches" (218 : Nat) ({ cls := "java/lang/Math", name := "min", desc := "(II)I" } : Jvm.MethodName)) ∈ lw_all := lw_g (lw_at lw_m3 217 rfl) rfl
theorem q826 : (Jvm.Cond.methodLink "LimbBenches" (224 : Nat) ({ cls := "java/lang/Math", name := "max", desc := "(II)I" } : Jvm.MethodName)) ∈ lw_all := lw_g (lw_at lw_m3 218 rfl) rfl
theorem q827 : (Jvm.Cond.methodLink "LimbBenches" (339 : Nat) ({ cls := "LimbBenches", name := "waitedOf", desc := "(LLimbBenches$Person;)I" } : Jvm.MethodName)) ∈ lw_all := lw_g (lw_at lw_m3 219 rfl) rfl
theorem q828 : (Jvm.Cond.privateMethod ({ cls := "LimbBenches", name := "waitedOf", desc := "(LLimbBenches$Person;)I" } : Jvm.MethodName)) ∈ lw_tbl := lw_at lw_m3 220 rfl
theorem q829 : (Jvm.Cond.instanceMethod ({ cls := "LimbBenches", name := "waitedOf", desc := "(LLimbBenches$Person;)I" } : Jvm.MethodName)) ∈ lw_all := lw_g (lw_at lw_m3 221 rfl) rfl
theorem q830 : (Jvm.Cond.code ({ cls := "LimbBenches", name := "waitedOf", desc := "(LLimbBenches$Person;)I" } : Jvm.MethodName) prog_1_method_44_code (5 : Nat) (Option.some Jvm.ClassFile.FieldType.int)) ∈ lw_all := lw_g (lw_at lw_m3 222 rfl) rfl
theorem q831 : (Jvm.Cond.methodLink "LimbBenches" (335 : Nat) ({ cls := "LimbBenches", name := "lacksOf", desc := "(LLimbBenches$Person;)I" } : Jvm.MethodName)) ∈ lw_all := lw_g (lw_at lw_m3 223 rfl) rfl
theorem q832 : (Jvm.Cond.privateMethod ({ cls := "LimbBenches", name := "lacksOf", desc := "(LLimbBenches$Person;)I" } : Jvm.MethodName)) ∈ lw_tbl := lw_at lw_m3 224 rfl
theorem q833 : (Jvm.Cond.instanceMethod ({ cls := "LimbBenches", name := "lacksOf", desc := "(LLimbBenches$Person;)I" } : Jvm.MethodName)) ∈ lw_all := lw_g (lw_at lw_m3 225 rfl) rfl
theorem q834 : (Jvm.Cond.code ({ cls := "LimbBenches", name := "lacksOf", desc := "(LLimbBenches$Person;)I" } : Jvm.MethodName) prog_1_method_43_code (4 : Nat) (Option.some Jvm.ClassFile.FieldType.int)) ∈ lw_all := lw_g (lw_at lw_m3 226 rfl) rfl
theorem q835 : (Jvm.Cond.methodLink "LimbBenches" (243 : Nat) ({ cls := "LimbBenches", name := "needsOf", desc := "(LLimbBenches$Person;I)I" } : Jvm.MethodName)) ∈ lw_all := lw_g (lw_at lw_m3 227 rfl) rfl
theorem q836 : (Jvm.Cond.privateMethod ({ cls := "LimbBenches", name := "needsOf", desc := "(LLimbBenches$Person;I)I" } : Jvm.MethodName)) ∈ lw_tbl := lw_at lw_m3 228 rfl
theorem q837 : (Jvm.Cond.instanceMethod ({ cls := "LimbBenches", name := "needsOf", desc := "(LLimbBenches$Person;I)I" } : Jvm.MethodName)) ∈ lw_all := lw_g (lw_at lw_m3 229 rfl) rfl
theorem q838 : (Jvm.Cond.code ({ cls := "LimbBenches", name := "needsOf", desc := "(LLimbBenches$Person;I)I" } : Jvm.MethodName) prog_1_method_27_code (5 : Nat) (Option.some Jvm.ClassFile.FieldType.int)) ∈ lw_all := lw_g (lw_at lw_m3 230 rfl) rfl
theorem q839 : (Jvm.Cond.methodLink "LimbBenches" (236 : Nat) ({ cls := "LimbBenches$Clause", name := "needs", desc := "()I" } : Jvm.MethodName)) ∈ lw_all := lw_g (lw_at lw_m3 231 rfl) rfl
theorem q850 : (Jvm.Cond.instanceMethod ({ cls := "LimbBenches", name := "served", desc := "(I)I" } : Jvm.MethodName)) ∈ lw_all := lw_g (lw_at lw_m4 2 rfl) rfl
theorem q851 : (Jvm.Cond.selects "LimbBenches" ({ cls := "LimbBenches", name := "served", desc := "(I)I" } : Jvm.MethodName) ({ cls := "LimbBenches", name := "served", desc := "(I)I" } : Jvm.MethodName)) ∈ lw_all := lw_g (lw_at lw_m4 3 rfl) rfl
theorem q852 : (Jvm.Cond.code ({ cls := "LimbBenches", name := "served", desc := "(I)I" } : Jvm.MethodName) prog_1_method_48_code (7 : Nat) (Option.some Jvm.ClassFile.FieldType.int)) ∈ lw_all := lw_g (lw_at lw_m4 4 rfl) rfl
theorem q854 : (Jvm.Cond.instanceMethod ({ cls := "LimbBenches", name := "best", desc := "()I" } : Jvm.MethodName)) ∈ lw_all := lw_g (lw_at lw_m4 6 rfl) rfl
theorem q855 : (Jvm.Cond.selects "LimbBenches" ({ cls := "LimbBenches", name := "best", desc := "()I" } : Jvm.MethodName) ({ cls := "LimbBenches", name := "best", desc := "()I" } : Jvm.MethodName)) ∈ lw_all := lw_g (lw_at lw_m4 7 rfl) rfl
theorem q856 : (Jvm.Cond.code ({ cls := "LimbBenches", name := "best", desc := "()I" } : Jvm.MethodName) prog_1_method_64_code (3 : Nat) (Option.some Jvm.ClassFile.FieldType.int)) ∈ lw_all := lw_g (lw_at lw_m4 8 rfl) rfl
theorem q857 : (Jvm.Cond.methodLink "LimbBenches" (425 : Nat) ({ cls := "LimbBenches", name := "findBest", desc := "()I" } : Jvm.MethodName)) ∈ lw_all := lw_g (lw_at lw_m4 9 rfl) rfl
theorem q858 : (Jvm.Cond.privateMethod ({ cls := "LimbBenches", name := "findBest", desc := "()I" } : Jvm.MethodName)) ∈ lw_tbl := lw_at lw_m4 10 rfl
theorem q859 : (Jvm.Cond.instanceMethod ({ cls := "LimbBenches", name := "findBest", desc := "()I" } : Jvm.MethodName)) ∈ lw_all := lw_g (lw_at lw_m4 11 rfl) rfl
theorem q860 : (Jvm.Cond.code ({ cls := "LimbBenches", name := "findBest", desc := "()I" } : Jvm.MethodName) prog_1_method_59_code (1 : Nat) (Option.some Jvm.ClassFile.FieldType.int)) ∈ lw_all := lw_g (lw_at lw_m4 12 rfl) rfl
theorem q861 : (Jvm.Cond.methodLink "LimbBenches" (412 : Nat) ({ cls := "LimbBenches", name := "otherFree", desc := "()I" } : Jvm.MethodName)) ∈ lw_all := lw_g (lw_at lw_m4 13 rfl) rfl
theorem q862 : (Jvm.Cond.privateMethod ({ cls := "LimbBenches", name := "otherFree", desc := "()I" } : Jvm.MethodName)) ∈ lw_tbl := lw_at lw_m4 14 rfl
theorem q863 : (Jvm.Cond.instanceMethod ({ cls := "LimbBenches", name := "otherFree", desc := "()I" } : Jvm.MethodName)) ∈ lw_all := lw_g (lw_at lw_m4 15 rfl) rfl
theorem q864 : (Jvm.Cond.code ({ cls := "LimbBenches", name := "otherFree", desc := "()I" } : Jvm.MethodName) prog_1_method_60_code (1 : Nat) (Option.some Jvm.ClassFile.FieldType.int)) ∈ lw_all := lw_g (lw_at lw_m4 16 rfl) rfl
theorem q865 : (Jvm.Cond.constant "LimbBenches" (420 : Nat) (2147483647 : Int32)) ∈ lw_all := lw_g (lw_at lw_m4 17 rfl) rfl
theorem q866 : (Jvm.Cond.methodLink "LimbBenches" (408 : Nat) ({ cls := "LimbBenches", name := "orders", desc := "(IIIII)V" } : Jvm.MethodName)) ∈ lw_all := lw_g (lw_at lw_m4 18 rfl) rfl
theorem q867 : (Jvm.Cond.privateMethod ({ cls := "LimbBenches", name := "orders", desc := "(IIIII)V" } : Jvm.MethodName)) ∈ lw_tbl := lw_at lw_m4 19 rfl
theorem q868 : (Jvm.Cond.instanceMethod ({ cls := "LimbBenches", name := "orders", desc := "(IIIII)V" } : Jvm.MethodName)) ∈ lw_all := lw_g (lw_at lw_m4 20 rfl) rfl
theorem q869 : (Jvm.Cond.code ({ cls := "LimbBenches", name := "orders", desc := "(IIIII)V" } : Jvm.MethodName) prog_1_method_58_code (10 : Nat) (Option.none : Option Jvm.ClassFile.FieldType)) ∈ lw_all := lw_g (lw_at lw_m4 21 rfl) rfl
theorem q870 : (Jvm.Cond.methodLink "LimbBenches" (363 : Nat) ({ cls := "java/lang/System", name := "arraycopy", desc := "(Ljava/lang/Object;ILjava/lang/Object;II)V" } : Jvm.MethodName)) ∈ lw_all := lw_g (lw_at lw_m4 22 rfl) rfl
theorem q871 : (Jvm.Cond.methodLink "LimbBenches" (402 : Nat) ({ cls := "LimbBenches", name := "doneAt", desc := "(II)I" } : Jvm.MethodName)) ∈ lw_all := lw_g (lw_at lw_m4 23 rfl) rfl
theorem q872 : (Jvm.Cond.privateMethod ({ cls := "LimbBenches", name := "doneAt", desc := "(II)I" } : Jvm.MethodName)) ∈ lw_tbl := lw_at lw_m4 24 rfl
theorem q873 : (Jvm.Cond.instanceMethod ({ cls := "LimbBenches", name := "doneAt", desc := "(II)I" } : Jvm.MethodName)) ∈ lw_all := lw_g (lw_at lw_m4 25 rfl) rfl
theorem q874 : (Jvm.Cond.code ({ cls := "LimbBenches", name := "doneAt", desc := "(II)I" } : Jvm.MethodName) prog_1_method_57_code (4 : Nat) (Option.some Jvm.ClassFile.FieldType.int)) ∈ lw_all := lw_g (lw_at lw_m4 26 rfl) rfl
theorem q875 : (Jvm.Cond.classLink "LimbBenches" (387 : Nat) "LimbBenches$Job") ∈ lw_all := lw_g (lw_at lw_m4 27 rfl) rfl
theorem q877 : (Jvm.Cond.instanceMethod ({ cls := "LimbBenches", name := "lending", desc := "()I" } : Jvm.MethodName)) ∈ lw_all := lw_g (lw_at lw_m4 29 rfl) rfl
theorem q878 : (Jvm.Cond.selects "LimbBenches" ({ cls := "LimbBenches", name := "lending", desc := "()I" } : Jvm.MethodName) ({ cls := "LimbBenches", name := "lending", desc := "()I" } : Jvm.MethodName)) ∈ lw_all := lw_g (lw_at lw_m4 30 rfl) rfl
theorem q879 : (Jvm.Cond.code ({ cls := "LimbBenches", name := "lending", desc := "()I" } : Jvm.MethodName) prog_1_method_81_code (1 : Nat) (Option.some Jvm.ClassFile.FieldType.int)) ∈ lw_all := lw_g (lw_at lw_m4 31 rfl) rfl
theorem q880 : (Jvm.Cond.methodLink "LimbBenches" (504 : Nat) ({ cls := "LimbBenches", name := "findLent", desc := "()V" } : Jvm.MethodName)) ∈ lw_all := lw_g (lw_at lw_m4 32 rfl) rfl
theorem q881 : (Jvm.Cond.privateMethod ({ cls := "LimbBenches", name := "findLent", desc := "()V" } : Jvm.MethodName)) ∈ lw_tbl := lw_at lw_m4 33 rfl
theorem q882 : (Jvm.Cond.instanceMethod ({ cls := "LimbBenches", name := "findLent", desc := "()V" } : Jvm.MethodName)) ∈ lw_all := lw_g (lw_at lw_m4 34 rfl) rfl
theorem q883 : (Jvm.Cond.code ({ cls := "LimbBenches", name := "findLent", desc := "()V" } : Jvm.MethodName) prog_1_method_79_code (1 : Nat) (Option.none : Option Jvm.ClassFile.FieldType)) ∈ lw_all := lw_g (lw_at lw_m4 35 rfl) rfl
theorem q884 : (Jvm.Cond.methodLink "LimbBenches" (501 : Nat) ({ cls := "LimbBenches", name := "lends", desc := "(III)V" } : Jvm.MethodName)) ∈ lw_all := lw_g (lw_at lw_m4 36 rfl) rfl
theorem q885 : (Jvm.Cond.privateMethod ({ cls := "LimbBenches", name := "lends", desc := "(III)V" } : Jvm.MethodName)) ∈ lw_tbl := lw_at lw_m4 37 rfl
theorem q886 : (Jvm.Cond.instanceMethod ({ cls := "LimbBenches", name := "lends", desc := "(III)V" } : Jvm.MethodName)) ∈ lw_all := lw_g (lw_at lw_m4 38 rfl) rfl
theorem q887 : (Jvm.Cond.code ({ cls := "LimbBenches", name := "lends", desc := "(III)V" } : Jvm.MethodName) prog_1_method_78_code (7 : Nat) (Option.none : Option Jvm.ClassFile.FieldType)) ∈ lw_all := lw_g (lw_at lw_m4 39 rfl) rfl
theorem q888 : (Jvm.Cond.classLink "LimbBenches" (93 : Nat) "LimbBenches$Model") ∈ lw_all := lw_g (lw_at lw_m4 40 rfl) rfl
theorem q890 : (Jvm.Cond.instanceMethod ({ cls := "LimbBenches", name := "recalled", desc := "()I" } : Jvm.MethodName)) ∈ lw_all := lw_g (lw_at lw_m4 42 rfl) rfl
theorem q891 : (Jvm.Cond.selects "LimbBenches" ({ cls := "LimbBenches", name := "recalled", desc := "()I" } : Jvm.MethodName) ({ cls := "LimbBenches", name := "recalled", desc := "()I" } : Jvm.MethodName)) ∈ lw_all := lw_g (lw_at lw_m4 43 rfl) rfl
theorem q892 : (Jvm.Cond.code ({ cls := "LimbBenches", name := "recalled", desc := "()I" } : Jvm.MethodName) prog_1_method_84_code (3 : Nat) (Option.some Jvm.ClassFile.FieldType.int)) ∈ lw_all := lw_g (lw_at lw_m4 44 rfl) rfl
theorem q893 : (Jvm.Cond.methodLink "LimbBenches" (511 : Nat) ({ cls := "LimbBenches", name := "wornRecalled", desc := "(LLimbBenches$Person;)I" } : Jvm.MethodName)) ∈ lw_all := lw_g (lw_at lw_m4 45 rfl) rfl
theorem q894 : (Jvm.Cond.privateMethod ({ cls := "LimbBenches", name := "wornRecalled", desc := "(LLimbBenches$Person;)I" } : Jvm.MethodName)) ∈ lw_tbl := lw_at lw_m4 46 rfl
theorem q895 : (Jvm.Cond.instanceMethod ({ cls := "LimbBenches", name := "wornRecalled", desc := "(LLimbBenches$Person;)I" } : Jvm.MethodName)) ∈ lw_all := lw_g (lw_at lw_m4 47 rfl) rfl
theorem q896 : (Jvm.Cond.code ({ cls := "LimbBenches", name := "wornRecalled", desc := "(LLimbBenches$Person;)I" } : Jvm.MethodName) prog_1_method_83_code (6 : Nat) (Option.some Jvm.ClassFile.FieldType.int)) ∈ lw_all := lw_g (lw_at lw_m4 48 rfl) rfl
theorem q897 : (Jvm.Cond.methodLink "LimbBenches" (507 : Nat) ({ cls := "LimbBenches$Clause", name := "recalls", desc := "(LLimbBenches$Part;[I)Z" } : Jvm.MethodName)) ∈ lw_all := lw_g (lw_at lw_m4 49 rfl) rfl
theorem q911 : (Jvm.Cond.methodLink "LimbBenches" (321 : Nat) ({ cls := "LimbBenches$Person", name := "worn", desc := "(II)I" } : Jvm.MethodName)) ∈ lw_all := lw_g (lw_at lw_m4 63 rfl) rfl
theorem q924 : (Jvm.Cond.instanceMethod ({ cls := "LimbBenches", name := "gain", desc := "()I" } : Jvm.MethodName)) ∈ lw_all := lw_g (lw_at lw_m4 76 rfl) rfl
theorem q925 : (Jvm.Cond.selects "LimbBenches" ({ cls := "LimbBenches", name := "gain", desc := "()I" } : Jvm.MethodName) ({ cls := "LimbBenches", name := "gain", desc := "()I" } : Jvm.MethodName)) ∈ lw_all := lw_g (lw_at lw_m4 77 rfl) rfl
theorem q926 : (Jvm.Cond.code ({ cls := "LimbBenches", name := "gain", desc := "()I" } : Jvm.MethodName) prog_1_method_104_code (1 : Nat) (Option.some Jvm.ClassFile.FieldType.int)) ∈ lw_all := lw_g (lw_at lw_m4 78 rfl) rfl
theorem q927 : (Jvm.Cond.methodLink "LimbBenches" (594 : Nat) ({ cls := "LimbBenches", name := "gainOf", desc := "(I)I" } : Jvm.MethodName)) ∈ lw_all := lw_g (lw_at lw_m4 79 rfl) rfl
theorem q928 : (Jvm.Cond.privateMethod ({ cls := "LimbBenches", name := "gainOf", desc := "(I)I" } : Jvm.MethodName)) ∈ lw_tbl := lw_at lw_m4 80 rfl
theorem q929 : (Jvm.Cond.instanceMethod ({ cls := "LimbBenches", name := "gainOf", desc := "(I)I" } : Jvm.MethodName)) ∈ lw_all := lw_g (lw_at lw_m4 81 rfl) rfl
theorem q930 : (Jvm.Cond.code ({ cls := "LimbBenches", name := "gainOf", desc := "(I)I" } : Jvm.MethodName) prog_1_method_103_code (5 : Nat) (Option.some Jvm.ClassFile.FieldType.int)) ∈ lw_all := lw_g (lw_at lw_m4 82 rfl) rfl
theorem q931 : (Jvm.Cond.classLink "LimbBenches" (583 : Nat) "LimbBenches$Pair") ∈ lw_all := lw_g (lw_at lw_m4 83 rfl) rfl
theorem q933 : (Jvm.Cond.instanceMethod ({ cls := "LimbBenches", name := "ways", desc := "()I" } : Jvm.MethodName)) ∈ lw_all := lw_g (lw_at lw_m4 85 rfl) rfl
theorem q934 : (Jvm.Cond.selects "LimbBenches" ({ cls := "LimbBenches", name := "ways", desc := "()I" } : Jvm.MethodName) ({ cls := "LimbBenches", name := "ways", desc := "()I" } : Jvm.MethodName)) ∈ lw_all := lw_g (lw_at lw_m4 86 rfl) rfl
theorem q935 : (Jvm.Cond.code ({ cls := "LimbBenches", name := "ways", desc := "()I" } : Jvm.MethodName) prog_1_method_105_code (3 : Nat) (Option.some Jvm.ClassFile.FieldType.int)) ∈ lw_all := lw_g (lw_at lw_m4 87 rfl) rfl
theorem q937 : (Jvm.Cond.instanceMethod ({ cls := "LimbBenches", name := "anew", desc := "()I" } : Jvm.MethodName)) ∈ lw_all := lw_g (lw_at lw_m4 89 rfl) rfl
theorem q938 : (Jvm.Cond.selects "LimbBenches" ({ cls := "LimbBenches", name := "anew", desc := "()I" } : Jvm.MethodName) ({ cls := "LimbBenches", name := "anew", desc := "()I" } : Jvm.MethodName)) ∈ lw_all := lw_g (lw_at lw_m4 90 rfl) rfl
theorem q939 : (Jvm.Cond.code ({ cls := "LimbBenches", name := "anew", desc := "()I" } : Jvm.MethodName) prog_1_method_106_code (2 : Nat) (Option.some Jvm.ClassFile.FieldType.int)) ∈ lw_all := lw_g (lw_at lw_m4 91 rfl) rfl
theorem q940 : (Jvm.Cond.methodLink "LimbBenches" (597 : Nat) ({ cls := "java/util/ArrayList", name := "clear", desc := "()V" } : Jvm.MethodName)) ∈ lw_all := lw_g (lw_at lw_m4 92 rfl) rfl
theorem q945 : (Jvm.Cond.instanceMethod ({ cls := "LimbBenches", name := "sure", desc := "()I" } : Jvm.MethodName)) ∈ lw_all := lw_g (lw_at lw_m4 97 rfl) rfl
theorem q946 : (Jvm.Cond.selects "LimbBenches" ({ cls := "LimbBenches", name := "sure", desc := "()I" } : Jvm.MethodName) ({ cls := "LimbBenches", name := "sure", desc := "()I" } : Jvm.MethodName)) ∈ lw_all := lw_g (lw_at lw_m4 98 rfl) rfl
theorem q947 : (Jvm.Cond.code ({ cls := "LimbBenches", name := "sure", desc := "()I" } : Jvm.MethodName) prog_1_method_112_code (2 : Nat) (Option.some Jvm.ClassFile.FieldType.int)) ∈ lw_all := lw_g (lw_at lw_m4 99 rfl) rfl
theorem q948 : (Jvm.Cond.methodLink "LimbBenches" (625 : Nat) ({ cls := "LimbBenches", name := "openNow", desc := "()I" } : Jvm.MethodName)) ∈ lw_all := lw_g (lw_at lw_m4 100 rfl) rfl
theorem q949 : (Jvm.Cond.privateMethod ({ cls := "LimbBenches", name := "openNow", desc := "()I" } : Jvm.MethodName)) ∈ lw_tbl := lw_at lw_m4 101 rfl
theorem q950 : (Jvm.Cond.instanceMethod ({ cls := "LimbBenches", name := "openNow", desc := "()I" } : Jvm.MethodName)) ∈ lw_all := lw_g (lw_at lw_m4 102 rfl) rfl
theorem q951 : (Jvm.Cond.code ({ cls := "LimbBenches", name := "openNow", desc := "()I" } : Jvm.MethodName) prog_1_method_110_code (3 : Nat) (Option.some Jvm.ClassFile.FieldType.int)) ∈ lw_all := lw_g (lw_at lw_m4 103 rfl) rfl
theorem q952 : (Jvm.Cond.classLink "LimbBenches" (606 : Nat) "LimbBenches$Cause") ∈ lw_all := lw_g (lw_at lw_m4 104 rfl) rfl
theorem q953 : (Jvm.Cond.methodLink "LimbBenches" (621 : Nat) ({ cls := "LimbBenches", name := "isOpen", desc := "(LLimbBenches$Cause;)Z" } : Jvm.MethodName)) ∈ lw_all := lw_g (lw_at lw_m4 105 rfl) rfl
theorem q954 : (Jvm.Cond.privateMethod ({ cls := "LimbBenches", name := "isOpen", desc := "(LLimbBenches$Cause;)Z" } : Jvm.MethodName)) ∈ lw_tbl := lw_at lw_m4 106 rfl
theorem q955 : (Jvm.Cond.instanceMethod ({ cls := "LimbBenches", name := "isOpen", desc := "(LLimbBenches$Cause;)Z" } : Jvm.MethodName)) ∈ lw_all := lw_g (lw_at lw_m4 107 rfl) rfl
theorem q956 : (Jvm.Cond.code ({ cls := "LimbBenches", name := "isOpen", desc := "(LLimbBenches$Cause;)Z" } : Jvm.MethodName) prog_1_method_109_code (2 : Nat) (Option.some Jvm.ClassFile.FieldType.boolean)) ∈ lw_all := lw_g (lw_at lw_m4 108 rfl) rfl
theorem q957 : (Jvm.Cond.methodLink "LimbBenches" (628 : Nat) ({ cls := "java/lang/Integer", name := "bitCount", desc := "(I)I" } : Jvm.MethodName)) ∈ lw_all := lw_g (lw_at lw_m4 109 rfl) rfl
theorem q963 : (Jvm.Cond.methodLink "LimbBenches" (631 : Nat) ({ cls := "java/lang/Integer", name := "numberOfTrailingZeros", desc := "(I)I" } : Jvm.MethodName)) ∈ lw_all := lw_g (lw_at lw_m4 115 rfl) rfl
theorem q968 : (Jvm.Cond.instanceMethod ({ cls := "LimbBenches", name := "look", desc := "()I" } : Jvm.MethodName)) ∈ lw_all := lw_g (lw_at lw_m4 120 rfl) rfl
theorem q969 : (Jvm.Cond.selects "LimbBenches" ({ cls := "LimbBenches", name := "look", desc := "()I" } : Jvm.MethodName) ({ cls := "LimbBenches", name := "look", desc := "()I" } : Jvm.MethodName)) ∈ lw_all := lw_g (lw_at lw_m4 121 rfl) rfl
theorem q970 : (Jvm.Cond.code ({ cls := "LimbBenches", name := "look", desc := "()I" } : Jvm.MethodName) prog_1_method_113_code (8 : Nat) (Option.some Jvm.ClassFile.FieldType.int)) ∈ lw_all := lw_g (lw_at lw_m4 122 rfl) rfl
theorem q972 : (Jvm.Cond.instanceMethod ({ cls := "LimbBenches", name := "image", desc := "()I" } : Jvm.MethodName)) ∈ lw_all := lw_g (lw_at lw_m4 124 rfl) rfl
theorem q973 : (Jvm.Cond.selects "LimbBenches" ({ cls := "LimbBenches", name := "image", desc := "()I" } : Jvm.MethodName) ({ cls := "LimbBenches", name := "image", desc := "()I" } : Jvm.MethodName)) ∈ lw_all := lw_g (lw_at lw_m4 125 rfl) rfl
theorem q974 : (Jvm.Cond.code ({ cls := "LimbBenches", name := "image", desc := "()I" } : Jvm.MethodName) prog_1_method_117_code (1 : Nat) (Option.some Jvm.ClassFile.FieldType.int)) ∈ lw_all := lw_g (lw_at lw_m4 126 rfl) rfl
theorem q975 : (Jvm.Cond.methodLink "LimbBenches" (648 : Nat) ({ cls := "LimbBenches$State", name := "like", desc := "()LLimbBenches$State;" } : Jvm.MethodName)) ∈ lw_all := lw_g (lw_at lw_m4 127 rfl) rfl
theorem q1009 : (Jvm.Cond.selects "LimbBenches" ({ cls := "java/lang/Object", name := "getClass", desc := "()Ljava/lang/Class;" } : Jvm.MethodName) ({ cls := "java/lang/Object", name := "getClass", desc := "()Ljava/lang/Class;" } : Jvm.MethodName)) ∈ lw_all := lw_g (lw_at lw_m4 161 rfl) rfl
theorem q1067 : (Jvm.Cond.fieldLinkNest "LimbBenches" (177 : Nat) "LimbBenches$Person" "weight" "I" "LimbBenches") ∈ lw_tbl := lw_at lw_m4 219 rfl
theorem q1069 : (Jvm.Cond.fieldLinkNest "LimbBenches" (180 : Nat) "LimbBenches$Person" "trade" "I" "LimbBenches") ∈ lw_tbl := lw_at lw_m4 221 rfl
theorem q1071 : (Jvm.Cond.fieldLinkNest "LimbBenches" (183 : Nat) "LimbBenches$Person" "steps" "I" "LimbBenches") ∈ lw_tbl := lw_at lw_m4 223 rfl
theorem q1073 : (Jvm.Cond.fieldLinkNest "LimbBenches" (186 : Nat) "LimbBenches$Person" "hill" "I" "LimbBenches") ∈ lw_tbl := lw_at lw_m4 225 rfl
theorem q1075 : (Jvm.Cond.fieldLinkNest "LimbBenches" (168 : Nat) "LimbBenches$Person" "stump" "I" "LimbBenches") ∈ lw_tbl := lw_at lw_m4 227 rfl
theorem q1077 : (Jvm.Cond.fieldLinkNest "LimbBenches" (171 : Nat) "LimbBenches$Person" "growth" "I" "LimbBenches") ∈ lw_tbl := lw_at lw_m4 229 rfl
theorem q1079 : (Jvm.Cond.fieldLinkNest "LimbBenches" (174 : Nat) "LimbBenches$Person" "told" "I" "LimbBenches") ∈ lw_tbl := lw_at lw_m4 231 rfl
theorem q1081 : (Jvm.Cond.fieldLinkNest "LimbBenches" (189 : Nat) "LimbBenches$Person" "born" "I" "LimbBenches") ∈ lw_tbl := lw_at lw_m4 233 rfl
theorem q1083 : (Jvm.Cond.fieldLinkNest "LimbBenches" (259 : Nat) "LimbBenches$Person" "parts" "[LLimbBenches$Part;" "LimbBenches") ∈ lw_tbl := lw_at lw_m4 235 rfl
theorem q1085 : (Jvm.Cond.fieldLinkNest "LimbBenches" (192 : Nat) "LimbBenches$Person" "spent" "[I" "LimbBenches") ∈ lw_tbl := lw_at lw_m4 237 rfl
theorem q1087 : (Jvm.Cond.fieldLinkNest "LimbBenches" (272 : Nat) "LimbBenches$Person" "fits" "[I" "LimbBenches") ∈ lw_tbl := lw_at lw_m4 239 rfl
theorem q1089 : (Jvm.Cond.fieldLinkNest "LimbBenches" (329 : Nat) "LimbBenches$Person" "gone" "[I" "LimbBenches") ∈ lw_tbl := lw_at lw_m5 1 rfl
theorem q1132 : (Jvm.Cond.fieldLinkNest "LimbBenches" (446 : Nat) "LimbBenches$Maker" "lead" "I" "LimbBenches") ∈ lw_tbl := lw_at lw_m5 44 rfl
theorem q1134 : (Jvm.Cond.fieldLinkNest "LimbBenches" (486 : Nat) "LimbBenches$Maker" "arrived" "I" "LimbBenches") ∈ lw_tbl := lw_at lw_m5 46 rfl
theorem q1136 : (Jvm.Cond.fieldLinkNest "LimbBenches" (477 : Nat) "LimbBenches$Maker" "lost" "I" "LimbBenches") ∈ lw_tbl := lw_at lw_m5 48 rfl
theorem q1138 : (Jvm.Cond.fieldLinkNest "LimbBenches" (489 : Nat) "LimbBenches$Maker" "sum" "I" "LimbBenches") ∈ lw_tbl := lw_at lw_m5 50 rfl
theorem q1140 : (Jvm.Cond.fieldLinkNest "LimbBenches" (483 : Nat) "LimbBenches$Maker" "least" "I" "LimbBenches") ∈ lw_tbl := lw_at lw_m5 52 rfl
theorem q1142 : (Jvm.Cond.fieldLinkNest "LimbBenches" (480 : Nat) "LimbBenches$Maker" "most" "I" "LimbBenches") ∈ lw_tbl := lw_at lw_m5 54 rfl
theorem q1161 : (Jvm.Cond.instanceMethod ({ cls := "LimbBenches", name := "restore", desc := "()I" } : Jvm.MethodName)) ∈ lw_all := lw_g (lw_at lw_m5 73 rfl) rfl
theorem q1162 : (Jvm.Cond.selects "LimbBenches" ({ cls := "LimbBenches", name := "restore", desc := "()I" } : Jvm.MethodName) ({ cls := "LimbBenches", name := "restore", desc := "()I" } : Jvm.MethodName)) ∈ lw_all := lw_g (lw_at lw_m5 74 rfl) rfl
theorem q1163 : (Jvm.Cond.code ({ cls := "LimbBenches", name := "restore", desc := "()I" } : Jvm.MethodName) prog_1_method_118_code (1 : Nat) (Option.some Jvm.ClassFile.FieldType.int)) ∈ lw_all := lw_g (lw_at lw_m5 75 rfl) rfl
theorem q1165 : (Jvm.Cond.instanceMethod ({ cls := "LimbBenches", name := "count", desc := "(I)I" } : Jvm.MethodName)) ∈ lw_all := lw_g (lw_at lw_m5 77 rfl) rfl
theorem q1166 : (Jvm.Cond.selects "LimbBenches" ({ cls := "LimbBenches", name := "count", desc := "(I)I" } : Jvm.MethodName) ({ cls := "LimbBenches", name := "count", desc := "(I)I" } : Jvm.MethodName)) ∈ lw_all := lw_g (lw_at lw_m5 78 rfl) rfl
theorem q1167 : (Jvm.Cond.code ({ cls := "LimbBenches", name := "count", desc := "(I)I" } : Jvm.MethodName) prog_1_method_119_code (2 : Nat) (Option.some Jvm.ClassFile.FieldType.int)) ∈ lw_all := lw_g (lw_at lw_m5 79 rfl) rfl
theorem q1173 : (Jvm.Cond.instanceMethod ({ cls := "LimbBenches", name := "rules", desc := "(II)I" } : Jvm.MethodName)) ∈ lw_all := lw_g (lw_at lw_m5 85 rfl) rfl
theorem q1174 : (Jvm.Cond.selects "LimbBenches" ({ cls := "LimbBenches", name := "rules", desc := "(II)I" } : Jvm.MethodName) ({ cls := "LimbBenches", name := "rules", desc := "(II)I" } : Jvm.MethodName)) ∈ lw_all := lw_g (lw_at lw_m5 86 rfl) rfl
theorem q1175 : (Jvm.Cond.codeWith ({ cls := "LimbBenches", name := "rules", desc := "(II)I" } : Jvm.MethodName) prog_1_method_8_code (6 : Nat) (Option.some Jvm.ClassFile.FieldType.int) [((27 : Nat), (45 : Nat), (100 : Nat), (127 : Nat)), ((52 : Nat), (93 : Nat), (100 : Nat), (127 : Nat)), ((27 : Nat), (45 : Nat), (126 : Nat), (0 : Nat)), ((52 : Nat), (93 : Nat), (126 : Nat), (0 : Nat)), ((100 : Nat), (118 : Nat), (126 : Nat), (0 : Nat)), ((126 : Nat), (128 : Nat), (126 : Nat), (0 : Nat))]) ∈ lw_all := lw_g (lw_at lw_m5 87 rfl) rfl
theorem q1176 : (Jvm.Cond.classLink "LimbBenches" (127 : Nat) "LimbBenches$Wrong") ∈ lw_all := lw_g (lw_at lw_m5 88 rfl) rfl
theorem q1177 : (Jvm.Cond.methodLink "LimbBenches" (101 : Nat) ({ cls := "LimbBenches", name := "isDay", desc := "(I)Z" } : Jvm.MethodName)) ∈ lw_all := lw_g (lw_at lw_m5 89 rfl) rfl
theorem q1178 : (Jvm.Cond.static ({ cls := "LimbBenches", name := "isDay", desc := "(I)Z" } : Jvm.MethodName)) ∈ lw_all := lw_g (lw_at lw_m5 90 rfl) rfl
theorem q1179 : (Jvm.Cond.code ({ cls := "LimbBenches", name := "isDay", desc := "(I)Z" } : Jvm.MethodName) prog_1_method_18_code (1 : Nat) (Option.some Jvm.ClassFile.FieldType.boolean)) ∈ lw_all := lw_g (lw_at lw_m5 91 rfl) rfl
theorem q1180 : (Jvm.Cond.methodLink "LimbBenches" (105 : Nat) ({ cls := "LimbBenches", name := "need", desc := "(Z)V" } : Jvm.MethodName)) ∈ lw_all := lw_g (lw_at lw_m5 92 rfl) rfl
theorem q1181 : (Jvm.Cond.static ({ cls := "LimbBenches", name := "need", desc := "(Z)V" } : Jvm.MethodName)) ∈ lw_all := lw_g (lw_at lw_m5 93 rfl) rfl
theorem q1182 : (Jvm.Cond.code ({ cls := "LimbBenches", name := "need", desc := "(Z)V" } : Jvm.MethodName) prog_1_method_2_code (1 : Nat) (Option.none : Option Jvm.ClassFile.FieldType)) ∈ lw_all := lw_g (lw_at lw_m5 94 rfl) rfl
theorem q1183 : (Jvm.Cond.classLink "LimbBenches" (68 : Nat) "java/lang/IllegalArgumentException") ∈ lw_all := lw_g (lw_at lw_m5 95 rfl) rfl
theorem q1184 : (Jvm.Cond.methodLink "LimbBenches" (70 : Nat) ({ cls := "java/lang/IllegalArgumentException", name := "<init>", desc := "()V" } : Jvm.MethodName)) ∈ lw_all := lw_g (lw_at lw_m5 96 rfl) rfl
theorem q1195 : (Jvm.Cond.classLink "LimbBenches" (111 : Nat) "LimbBenches$Reader") ∈ lw_all := lw_g (lw_at lw_m5 107 rfl) rfl
theorem q1197 : (Jvm.Cond.methodLink "LimbBenches" (113 : Nat) ({ cls := "LimbBenches$Reader", name := "<init>", desc := "([BI)V" } : Jvm.MethodName)) ∈ lw_all := lw_g (lw_at lw_m5 109 rfl) rfl
theorem q1214 : (Jvm.Cond.methodLink "LimbBenches" (116 : Nat) ({ cls := "LimbBenches$Reader", name := "reads", desc := "()Ljava/util/ArrayList;" } : Jvm.MethodName)) ∈ lw_all := lw_g (lw_at lw_m5 126 rfl) rfl
theorem q1356 : (Jvm.Cond.fieldLinkNest "LimbBenches" (132 : Nat) "LimbBenches$Wrong" "kind" "I" "LimbBenches") ∈ lw_tbl := lw_at lw_m6 28 rfl
theorem q1358 : (Jvm.Cond.fieldLinkNest "LimbBenches" (129 : Nat) "LimbBenches$Wrong" "place" "I" "LimbBenches") ∈ lw_tbl := lw_at lw_m6 30 rfl
theorem q1592 : (Jvm.Cond.methodLink "LimbBenches" (120 : Nat) ({ cls := "LimbBenches$Rules", name := "<init>", desc := "(ILjava/util/ArrayList;)V" } : Jvm.MethodName)) ∈ lw_all := lw_g (lw_at lw_m7 24 rfl) rfl
theorem q1597 : (Jvm.Cond.fieldLinkNest "LimbBenches" (135 : Nat) "LimbBenches$Rules" "from" "I" "LimbBenches") ∈ lw_tbl := lw_at lw_m7 29 rfl
theorem q1599 : (Jvm.Cond.fieldLinkNest "LimbBenches" (195 : Nat) "LimbBenches$Rules" "clauses" "Ljava/util/ArrayList;" "LimbBenches") ∈ lw_tbl := lw_at lw_m7 31 rfl
theorem q1605 : (Jvm.Cond.methodLink "LimbBenches" (123 : Nat) ({ cls := "java/util/ArrayList", name := "add", desc := "(Ljava/lang/Object;)Z" } : Jvm.MethodName)) ∈ lw_all := lw_g (lw_at lw_m7 37 rfl) rfl
theorem q1610 : (Jvm.Cond.instanceMethod ({ cls := "LimbBenches", name := "counts", desc := "(I)I" } : Jvm.MethodName)) ∈ lw_all := lw_g (lw_at lw_m7 42 rfl) rfl
theorem q1611 : (Jvm.Cond.selects "LimbBenches" ({ cls := "LimbBenches", name := "counts", desc := "(I)I" } : Jvm.MethodName) ({ cls := "LimbBenches", name := "counts", desc := "(I)I" } : Jvm.MethodName)) ∈ lw_all := lw_g (lw_at lw_m7 43 rfl) rfl
theorem q1612 : (Jvm.Cond.code ({ cls := "LimbBenches", name := "counts", desc := "(I)I" } : Jvm.MethodName) prog_1_method_11_code (2 : Nat) (Option.some Jvm.ClassFile.FieldType.int)) ∈ lw_all := lw_g (lw_at lw_m7 44 rfl) rfl
theorem q1617 : (Jvm.Cond.instanceMethod ({ cls := "LimbBenches", name := "model", desc := "(IIII)I" } : Jvm.MethodName)) ∈ lw_all := lw_g (lw_at lw_m7 49 rfl) rfl
theorem q1618 : (Jvm.Cond.selects "LimbBenches" ({ cls := "LimbBenches", name := "model", desc := "(IIII)I" } : Jvm.MethodName) ({ cls := "LimbBenches", name := "model", desc := "(IIII)I" } : Jvm.MethodName)) ∈ lw_all := lw_g (lw_at lw_m7 50 rfl) rfl
theorem q1619 : (Jvm.Cond.code ({ cls := "LimbBenches", name := "model", desc := "(IIII)I" } : Jvm.MethodName) prog_1_method_12_code (5 : Nat) (Option.some Jvm.ClassFile.FieldType.int)) ∈ lw_all := lw_g (lw_at lw_m7 51 rfl) rfl
theorem q1620 : (Jvm.Cond.methodLink "LimbBenches" (142 : Nat) ({ cls := "LimbBenches", name := "isKind", desc := "(I)Z" } : Jvm.MethodName)) ∈ lw_all := lw_g (lw_at lw_m7 52 rfl) rfl
theorem q1621 : (Jvm.Cond.static ({ cls := "LimbBenches", name := "isKind", desc := "(I)Z" } : Jvm.MethodName)) ∈ lw_all := lw_g (lw_at lw_m7 53 rfl) rfl
theorem q1622 : (Jvm.Cond.code ({ cls := "LimbBenches", name := "isKind", desc := "(I)Z" } : Jvm.MethodName) prog_1_method_5_code (1 : Nat) (Option.some Jvm.ClassFile.FieldType.boolean)) ∈ lw_all := lw_g (lw_at lw_m7 54 rfl) rfl
theorem q1623 : (Jvm.Cond.constant "LimbBenches" (145 : Nat) (99999999 : Int32)) ∈ lw_all := lw_g (lw_at lw_m7 55 rfl) rfl
theorem q1625 : (Jvm.Cond.methodLink "LimbBenches" (146 : Nat) ({ cls := "LimbBenches$Model", name := "<init>", desc := "(IIII)V" } : Jvm.MethodName)) ∈ lw_all := lw_g (lw_at lw_m7 57 rfl) rfl
theorem q1630 : (Jvm.Cond.fieldLinkNest "LimbBenches" (258 : Nat) "LimbBenches$Model" "kind" "I" "LimbBenches") ∈ lw_tbl := lw_at lw_m7 62 rfl
theorem q1632 : (Jvm.Cond.fieldLinkNest "LimbBenches" (299 : Nat) "LimbBenches$Model" "price" "I" "LimbBenches") ∈ lw_tbl := lw_at lw_m7 64 rfl
theorem q1634 : (Jvm.Cond.fieldLinkNest "LimbBenches" (286 : Nat) "LimbBenches$Model" "load" "I" "LimbBenches") ∈ lw_tbl := lw_at lw_m7 66 rfl
theorem q1636 : (Jvm.Cond.fieldLinkNest "LimbBenches" (377 : Nat) "LimbBenches$Model" "worth" "[I" "LimbBenches") ∈ lw_tbl := lw_at lw_m7 68 rfl
theorem q1651 : (Jvm.Cond.instanceMethod ({ cls := "LimbBenches", name := "days", desc := "(I)I" } : Jvm.MethodName)) ∈ lw_all := lw_g (lw_at lw_m7 83 rfl) rfl
theorem q1652 : (Jvm.Cond.selects "LimbBenches" ({ cls := "LimbBenches", name := "days", desc := "(I)I" } : Jvm.MethodName) ({ cls := "LimbBenches", name := "days", desc := "(I)I" } : Jvm.MethodName)) ∈ lw_all := lw_g (lw_at lw_m7 84 rfl) rfl
theorem q1653 : (Jvm.Cond.code ({ cls := "LimbBenches", name := "days", desc := "(I)I" } : Jvm.MethodName) prog_1_method_13_code (2 : Nat) (Option.some Jvm.ClassFile.FieldType.int)) ∈ lw_all := lw_g (lw_at lw_m7 85 rfl) rfl
theorem q1654 : (Jvm.Cond.classLink "LimbBenches" (152 : Nat) "java/lang/IllegalStateException") ∈ lw_all := lw_g (lw_at lw_m7 86 rfl) rfl
theorem q1663 : (Jvm.Cond.methodLink "LimbBenches" (154 : Nat) ({ cls := "java/lang/IllegalStateException", name := "<init>", desc := "()V" } : Jvm.MethodName)) ∈ lw_all := lw_g (lw_at lw_m7 95 rfl) rfl
theorem q1673 : (Jvm.Cond.instanceMethod ({ cls := "LimbBenches", name := "person", desc := "(IIIIZ)I" } : Jvm.MethodName)) ∈ lw_all := lw_g (lw_at lw_m7 105 rfl) rfl
theorem q1674 : (Jvm.Cond.selects "LimbBenches" ({ cls := "LimbBenches", name := "person", desc := "(IIIIZ)I" } : Jvm.MethodName) ({ cls := "LimbBenches", name := "person", desc := "(IIIIZ)I" } : Jvm.MethodName)) ∈ lw_all := lw_g (lw_at lw_m7 106 rfl) rfl
theorem q1675 : (Jvm.Cond.code ({ cls := "LimbBenches", name := "person", desc := "(IIIIZ)I" } : Jvm.MethodName) prog_1_method_15_code (6 : Nat) (Option.some Jvm.ClassFile.FieldType.int)) ∈ lw_all := lw_g (lw_at lw_m7 107 rfl) rfl
theorem q1676 : (Jvm.Cond.methodLink "LimbBenches" (155 : Nat) ({ cls := "LimbBenches", name := "isTold", desc := "(II)Z" } : Jvm.MethodName)) ∈ lw_all := lw_g (lw_at lw_m7 108 rfl) rfl
theorem q1677 : (Jvm.Cond.static ({ cls := "LimbBenches", name := "isTold", desc := "(II)Z" } : Jvm.MethodName)) ∈ lw_all := lw_g (lw_at lw_m7 109 rfl) rfl
theorem q1678 : (Jvm.Cond.code ({ cls := "LimbBenches", name := "isTold", desc := "(II)Z" } : Jvm.MethodName) prog_1_method_14_code (2 : Nat) (Option.some Jvm.ClassFile.FieldType.boolean)) ∈ lw_all := lw_g (lw_at lw_m7 110 rfl) rfl
theorem q1679 : (Jvm.Cond.methodLink "LimbBenches" (159 : Nat) ({ cls := "LimbBenches$Person", name := "<init>", desc := "(IIIIII)V" } : Jvm.MethodName)) ∈ lw_all := lw_g (lw_at lw_m7 111 rfl) rfl
theorem q1685 : (Jvm.Cond.instanceMethod ({ cls := "LimbBenches", name := "stump", desc := "(III)I" } : Jvm.MethodName)) ∈ lw_all := lw_g (lw_at lw_m7 117 rfl) rfl
theorem q1686 : (Jvm.Cond.selects "LimbBenches" ({ cls := "LimbBenches", name := "stump", desc := "(III)I" } : Jvm.MethodName) ({ cls := "LimbBenches", name := "stump", desc := "(III)I" } : Jvm.MethodName)) ∈ lw_all := lw_g (lw_at lw_m7 118 rfl) rfl
theorem q1687 : (Jvm.Cond.code ({ cls := "LimbBenches", name := "stump", desc := "(III)I" } : Jvm.MethodName) prog_1_method_16_code (6 : Nat) (Option.some Jvm.ClassFile.FieldType.int)) ∈ lw_all := lw_g (lw_at lw_m7 119 rfl) rfl
theorem q1688 : (Jvm.Cond.methodLink "LimbBenches" (162 : Nat) ({ cls := "LimbBenches", name := "personOf", desc := "(I)LLimbBenches$Person;" } : Jvm.MethodName)) ∈ lw_all := lw_g (lw_at lw_m7 120 rfl) rfl
theorem q1689 : (Jvm.Cond.privateMethod ({ cls := "LimbBenches", name := "personOf", desc := "(I)LLimbBenches$Person;" } : Jvm.MethodName)) ∈ lw_tbl := lw_at lw_m7 121 rfl
theorem q1690 : (Jvm.Cond.instanceMethod ({ cls := "LimbBenches", name := "personOf", desc := "(I)LLimbBenches$Person;" } : Jvm.MethodName)) ∈ lw_all := lw_g (lw_at lw_m7 122 rfl) rfl
theorem q1691 : (Jvm.Cond.code ({ cls := "LimbBenches", name := "personOf", desc := "(I)LLimbBenches$Person;" } : Jvm.MethodName) prog_1_method_3_code (2 : Nat) (Option.some (Jvm.ClassFile.FieldType.object "LimbBenches$Person"))) ∈ lw_all := lw_g (lw_at lw_m7 123 rfl) rfl
theorem q1692 : (Jvm.Cond.classLink "LimbBenches" (78 : Nat) "java/util/NoSuchElementException") ∈ lw_all := lw_g (lw_at lw_m7 124 rfl) rfl
theorem q1701 : (Jvm.Cond.methodLink "LimbBenches" (80 : Nat) ({ cls := "java/util/NoSuchElementException", name := "<init>", desc := "()V" } : Jvm.MethodName)) ∈ lw_all := lw_g (lw_at lw_m7 133 rfl) rfl
theorem q1707 : (Jvm.Cond.methodLink "LimbBenches" (166 : Nat) ({ cls := "LimbBenches$Person", name := "size", desc := "(I)I" } : Jvm.MethodName)) ∈ lw_all := lw_g (lw_at lw_m7 139 rfl) rfl
theorem q1715 : (Jvm.Cond.instanceMethod ({ cls := "LimbBenches", name := "change", desc := "(III)I" } : Jvm.MethodName)) ∈ lw_all := lw_g (lw_at lw_m7 147 rfl) rfl
theorem q1716 : (Jvm.Cond.selects "LimbBenches" ({ cls := "LimbBenches", name := "change", desc := "(III)I" } : Jvm.MethodName) ({ cls := "LimbBenches", name := "change", desc := "(III)I" } : Jvm.MethodName)) ∈ lw_all := lw_g (lw_at lw_m7 148 rfl) rfl
theorem q1717 : (Jvm.Cond.code ({ cls := "LimbBenches", name := "change", desc := "(III)I" } : Jvm.MethodName) prog_1_method_17_code (6 : Nat) (Option.some Jvm.ClassFile.FieldType.int)) ∈ lw_all := lw_g (lw_at lw_m7 149 rfl) rfl
theorem q1722 : (Jvm.Cond.instanceMethod ({ cls := "LimbBenches", name := "size", desc := "(II)I" } : Jvm.MethodName)) ∈ lw_all := lw_g (lw_at lw_m7 154 rfl) rfl
theorem q1723 : (Jvm.Cond.selects "LimbBenches" ({ cls := "LimbBenches", name := "size", desc := "(II)I" } : Jvm.MethodName) ({ cls := "LimbBenches", name := "size", desc := "(II)I" } : Jvm.MethodName)) ∈ lw_all := lw_g (lw_at lw_m7 155 rfl) rfl
theorem q1724 : (Jvm.Cond.code ({ cls := "LimbBenches", name := "size", desc := "(II)I" } : Jvm.MethodName) prog_1_method_19_code (4 : Nat) (Option.some Jvm.ClassFile.FieldType.int)) ∈ lw_all := lw_g (lw_at lw_m7 156 rfl) rfl
theorem q1729 : (Jvm.Cond.instanceMethod ({ cls := "LimbBenches", name := "told", desc := "(III)I" } : Jvm.MethodName)) ∈ lw_all := lw_g (lw_at lw_m7 161 rfl) rfl
theorem q1730 : (Jvm.Cond.selects "LimbBenches" ({ cls := "LimbBenches", name := "told", desc := "(III)I" } : Jvm.MethodName) ({ cls := "LimbBenches", name := "told", desc := "(III)I" } : Jvm.MethodName)) ∈ lw_all := lw_g (lw_at lw_m7 162 rfl) rfl
theorem q1731 : (Jvm.Cond.code ({ cls := "LimbBenches", name := "told", desc := "(III)I" } : Jvm.MethodName) prog_1_method_28_code (5 : Nat) (Option.some Jvm.ClassFile.FieldType.int)) ∈ lw_all := lw_g (lw_at lw_m7 163 rfl) rfl
theorem q1732 : (Jvm.Cond.methodLink "LimbBenches" (239 : Nat) ({ cls := "LimbBenches", name := "rightOf", desc := "(LLimbBenches$Person;I)I" } : Jvm.MethodName)) ∈ lw_all := lw_g (lw_at lw_m7 164 rfl) rfl
theorem q1733 : (Jvm.Cond.privateMethod ({ cls := "LimbBenches", name := "rightOf", desc := "(LLimbBenches$Person;I)I" } : Jvm.MethodName)) ∈ lw_tbl := lw_at lw_m7 165 rfl
theorem q1734 : (Jvm.Cond.instanceMethod ({ cls := "LimbBenches", name := "rightOf", desc := "(LLimbBenches$Person;I)I" } : Jvm.MethodName)) ∈ lw_all := lw_g (lw_at lw_m7 166 rfl) rfl
theorem q1735 : (Jvm.Cond.code ({ cls := "LimbBenches", name := "rightOf", desc := "(LLimbBenches$Person;I)I" } : Jvm.MethodName) prog_1_method_26_code (3 : Nat) (Option.some Jvm.ClassFile.FieldType.int)) ∈ lw_all := lw_g (lw_at lw_m7 167 rfl) rfl
theorem q1736 : (Jvm.Cond.constant "LimbBenches" (235 : Nat) (1000000 : Int32)) ∈ lw_all := lw_g (lw_at lw_m7 168 rfl) rfl
theorem q1760 : (Jvm.Cond.instanceMethod ({ cls := "LimbBenches", name := "barred", desc := "(III)Z" } : Jvm.MethodName)) ∈ lw_all := lw_g (lw_at lw_m7 192 rfl) rfl
theorem q1761 : (Jvm.Cond.selects "LimbBenches" ({ cls := "LimbBenches", name := "barred", desc := "(III)Z" } : Jvm.MethodName) ({ cls := "LimbBenches", name := "barred", desc := "(III)Z" } : Jvm.MethodName)) ∈ lw_all := lw_g (lw_at lw_m7 193 rfl) rfl
theorem q1762 : (Jvm.Cond.code ({ cls := "LimbBenches", name := "barred", desc := "(III)Z" } : Jvm.MethodName) prog_1_method_30_code (5 : Nat) (Option.some Jvm.ClassFile.FieldType.boolean)) ∈ lw_all := lw_g (lw_at lw_m7 194 rfl) rfl
theorem q1763 : (Jvm.Cond.methodLink "LimbBenches" (250 : Nat) ({ cls := "LimbBenches", name := "modelOf", desc := "(I)LLimbBenches$Model;" } : Jvm.MethodName)) ∈ lw_all := lw_g (lw_at lw_m7 195 rfl) rfl
theorem q1764 : (Jvm.Cond.privateMethod ({ cls := "LimbBenches", name := "modelOf", desc := "(I)LLimbBenches$Model;" } : Jvm.MethodName)) ∈ lw_tbl := lw_at lw_m7 196 rfl
theorem q1765 : (Jvm.Cond.instanceMethod ({ cls := "LimbBenches", name := "modelOf", desc := "(I)LLimbBenches$Model;" } : Jvm.MethodName)) ∈ lw_all := lw_g (lw_at lw_m7 197 rfl) rfl
theorem q1766 : (Jvm.Cond.code ({ cls := "LimbBenches", name := "modelOf", desc := "(I)LLimbBenches$Model;" } : Jvm.MethodName) prog_1_method_4_code (2 : Nat) (Option.some (Jvm.ClassFile.FieldType.object "LimbBenches$Model"))) ∈ lw_all := lw_g (lw_at lw_m7 198 rfl) rfl
theorem q1767 : (Jvm.Cond.classLink "LimbBenches" (90 : Nat) "java/lang/IndexOutOfBoundsException") ∈ lw_all := lw_g (lw_at lw_m7 199 rfl) rfl
theorem q1776 : (Jvm.Cond.methodLink "LimbBenches" (92 : Nat) ({ cls := "java/lang/IndexOutOfBoundsException", name := "<init>", desc := "()V" } : Jvm.MethodName)) ∈ lw_all := lw_g (lw_at lw_m7 208 rfl) rfl
theorem q1782 : (Jvm.Cond.methodLink "LimbBenches" (254 : Nat) ({ cls := "LimbBenches", name := "barOf", desc := "(LLimbBenches$Person;II)I" } : Jvm.MethodName)) ∈ lw_all := lw_g (lw_at lw_m7 214 rfl) rfl
theorem q1783 : (Jvm.Cond.privateMethod ({ cls := "LimbBenches", name := "barOf", desc := "(LLimbBenches$Person;II)I" } : Jvm.MethodName)) ∈ lw_tbl := lw_at lw_m7 215 rfl
theorem q1784 : (Jvm.Cond.instanceMethod ({ cls := "LimbBenches", name := "barOf", desc := "(LLimbBenches$Person;II)I" } : Jvm.MethodName)) ∈ lw_all := lw_g (lw_at lw_m7 216 rfl) rfl
theorem q1785 : (Jvm.Cond.code ({ cls := "LimbBenches", name := "barOf", desc := "(LLimbBenches$Person;II)I" } : Jvm.MethodName) prog_1_method_29_code (5 : Nat) (Option.some Jvm.ClassFile.FieldType.int)) ∈ lw_all := lw_g (lw_at lw_m7 217 rfl) rfl
theorem q1786 : (Jvm.Cond.methodLink "LimbBenches" (246 : Nat) ({ cls := "LimbBenches$Clause", name := "bars", desc := "(II[I)Z" } : Jvm.MethodName)) ∈ lw_all := lw_g (lw_at lw_m7 218 rfl) rfl
theorem q1803 : (Jvm.Cond.instanceMethod ({ cls := "LimbBenches", name := "fit", desc := "(III)I" } : Jvm.MethodName)) ∈ lw_all := lw_g (lw_at lw_m7 235 rfl) rfl
theorem q1804 : (Jvm.Cond.selects "LimbBenches" ({ cls := "LimbBenches", name := "fit", desc := "(III)I" } : Jvm.MethodName) ({ cls := "LimbBenches", name := "fit", desc := "(III)I" } : Jvm.MethodName)) ∈ lw_all := lw_g (lw_at lw_m7 236 rfl) rfl
theorem q1805 : (Jvm.Cond.code ({ cls := "LimbBenches", name := "fit", desc := "(III)I" } : Jvm.MethodName) prog_1_method_35_code (5 : Nat) (Option.some Jvm.ClassFile.FieldType.int)) ∈ lw_all := lw_g (lw_at lw_m7 237 rfl) rfl
theorem q1806 : (Jvm.Cond.methodLink "LimbBenches" (302 : Nat) ({ cls := "LimbBenches", name := "isSerial", desc := "(I)Z" } : Jvm.MethodName)) ∈ lw_all := lw_g (lw_at lw_m7 238 rfl) rfl
theorem q1807 : (Jvm.Cond.static ({ cls := "LimbBenches", name := "isSerial", desc := "(I)Z" } : Jvm.MethodName)) ∈ lw_all := lw_g (lw_at lw_m7 239 rfl) rfl
theorem q1808 : (Jvm.Cond.code ({ cls := "LimbBenches", name := "isSerial", desc := "(I)Z" } : Jvm.MethodName) prog_1_method_32_code (1 : Nat) (Option.some Jvm.ClassFile.FieldType.boolean)) ∈ lw_all := lw_g (lw_at lw_m8 0 rfl) rfl
theorem q1809 : (Jvm.Cond.methodLink "LimbBenches" (305 : Nat) ({ cls := "LimbBenches", name := "fits", desc := "(LLimbBenches$Person;IIZ)I" } : Jvm.MethodName)) ∈ lw_all := lw_g (lw_at lw_m8 1 rfl) rfl
theorem q1810 : (Jvm.Cond.privateMethod ({ cls := "LimbBenches", name := "fits", desc := "(LLimbBenches$Person;IIZ)I" } : Jvm.MethodName)) ∈ lw_tbl := lw_at lw_m8 2 rfl
theorem q1811 : (Jvm.Cond.instanceMethod ({ cls := "LimbBenches", name := "fits", desc := "(LLimbBenches$Person;IIZ)I" } : Jvm.MethodName)) ∈ lw_all := lw_g (lw_at lw_m8 3 rfl) rfl
theorem q1812 : (Jvm.Cond.code ({ cls := "LimbBenches", name := "fits", desc := "(LLimbBenches$Person;IIZ)I" } : Jvm.MethodName) prog_1_method_34_code (6 : Nat) (Option.some Jvm.ClassFile.FieldType.int)) ∈ lw_all := lw_g (lw_at lw_m8 4 rfl) rfl
theorem q1813 : (Jvm.Cond.methodLink "LimbBenches" (289 : Nat) ({ cls := "LimbBenches", name := "isBarred", desc := "(LLimbBenches$Person;I)Z" } : Jvm.MethodName)) ∈ lw_all := lw_g (lw_at lw_m8 5 rfl) rfl
theorem q1814 : (Jvm.Cond.privateMethod ({ cls := "LimbBenches", name := "isBarred", desc := "(LLimbBenches$Person;I)Z" } : Jvm.MethodName)) ∈ lw_tbl := lw_at lw_m8 6 rfl
theorem q1815 : (Jvm.Cond.instanceMethod ({ cls := "LimbBenches", name := "isBarred", desc := "(LLimbBenches$Person;I)Z" } : Jvm.MethodName)) ∈ lw_all := lw_g (lw_at lw_m8 7 rfl) rfl
theorem q1816 : (Jvm.Cond.code ({ cls := "LimbBenches", name := "isBarred", desc := "(LLimbBenches$Person;I)Z" } : Jvm.MethodName) prog_1_method_31_code (5 : Nat) (Option.some Jvm.ClassFile.FieldType.boolean)) ∈ lw_all := lw_g (lw_at lw_m8 8 rfl) rfl
theorem q1817 : (Jvm.Cond.methodLink "LimbBenches" (296 : Nat) ({ cls := "LimbBenches", name := "fits", desc := "(LLimbBenches$Person;III)V" } : Jvm.MethodName)) ∈ lw_all := lw_g (lw_at lw_m8 9 rfl) rfl
theorem q1818 : (Jvm.Cond.privateMethod ({ cls := "LimbBenches", name := "fits", desc := "(LLimbBenches$Person;III)V" } : Jvm.MethodName)) ∈ lw_tbl := lw_at lw_m8 10 rfl
theorem q1819 : (Jvm.Cond.instanceMethod ({ cls := "LimbBenches", name := "fits", desc := "(LLimbBenches$Person;III)V" } : Jvm.MethodName)) ∈ lw_all := lw_g (lw_at lw_m8 11 rfl) rfl
theorem q1820 : (Jvm.Cond.code ({ cls := "LimbBenches", name := "fits", desc := "(LLimbBenches$Person;III)V" } : Jvm.MethodName) prog_1_method_33_code (6 : Nat) (Option.none : Option Jvm.ClassFile.FieldType)) ∈ lw_all := lw_g (lw_at lw_m8 12 rfl) rfl
theorem q1821 : (Jvm.Cond.classLink "LimbBenches" (264 : Nat) "LimbBenches$Part") ∈ lw_all := lw_g (lw_at lw_m8 13 rfl) rfl
theorem q1823 : (Jvm.Cond.methodLink "LimbBenches" (271 : Nat) ({ cls := "LimbBenches$Part", name := "<init>", desc := "(IIIIII)V" } : Jvm.MethodName)) ∈ lw_all := lw_g (lw_at lw_m8 15 rfl) rfl
theorem q1829 : (Jvm.Cond.fieldLinkNest "LimbBenches" (263 : Nat) "LimbBenches$Part" "model" "I" "LimbBenches") ∈ lw_tbl := lw_at lw_m8 21 rfl
theorem q1832 : (Jvm.Cond.fieldLinkNest "LimbBenches" (315 : Nat) "LimbBenches$Part" "serial" "I" "LimbBenches") ∈ lw_tbl := lw_at lw_m8 24 rfl
theorem q1835 : (Jvm.Cond.fieldLinkNest "LimbBenches" (318 : Nat) "LimbBenches$Part" "day" "I" "LimbBenches") ∈ lw_tbl := lw_at lw_m8 27 rfl
theorem q1839 : (Jvm.Cond.fieldLinkNest "LimbBenches" (348 : Nat) "LimbBenches$Part" "size" "I" "LimbBenches") ∈ lw_tbl := lw_at lw_m8 31 rfl
theorem q1841 : (Jvm.Cond.fieldLinkNest "LimbBenches" (562 : Nat) "LimbBenches$Part" "number" "I" "LimbBenches") ∈ lw_tbl := lw_at lw_m8 33 rfl
theorem q1855 : (Jvm.Cond.methodLink "LimbBenches" (275 : Nat) ({ cls := "LimbBenches", name := "yearNow", desc := "()I" } : Jvm.MethodName)) ∈ lw_all := lw_g (lw_at lw_m8 47 rfl) rfl
theorem q1856 : (Jvm.Cond.privateMethod ({ cls := "LimbBenches", name := "yearNow", desc := "()I" } : Jvm.MethodName)) ∈ lw_tbl := lw_at lw_m8 48 rfl
theorem q1857 : (Jvm.Cond.instanceMethod ({ cls := "LimbBenches", name := "yearNow", desc := "()I" } : Jvm.MethodName)) ∈ lw_all := lw_g (lw_at lw_m8 49 rfl) rfl
theorem q1858 : (Jvm.Cond.code ({ cls := "LimbBenches", name := "yearNow", desc := "()I" } : Jvm.MethodName) prog_1_method_20_code (1 : Nat) (Option.some Jvm.ClassFile.FieldType.int)) ∈ lw_all := lw_g (lw_at lw_m8 50 rfl) rfl
theorem q1859 : (Jvm.Cond.classLink "LimbBenches" (278 : Nat) "LimbBenches$Fitting") ∈ lw_all := lw_g (lw_at lw_m8 51 rfl) rfl
theorem q1861 : (Jvm.Cond.methodLink "LimbBenches" (283 : Nat) ({ cls := "LimbBenches$Fitting", name := "<init>", desc := "(III)V" } : Jvm.MethodName)) ∈ lw_all := lw_g (lw_at lw_m8 53 rfl) rfl
theorem q1866 : (Jvm.Cond.fieldLinkNest "LimbBenches" (568 : Nat) "LimbBenches$Fitting" "fitter" "I" "LimbBenches") ∈ lw_tbl := lw_at lw_m8 58 rfl
theorem q1868 : (Jvm.Cond.fieldLinkNest "LimbBenches" (569 : Nat) "LimbBenches$Fitting" "day" "I" "LimbBenches") ∈ lw_tbl := lw_at lw_m8 60 rfl
theorem q1870 : (Jvm.Cond.fieldLinkNest "LimbBenches" (565 : Nat) "LimbBenches$Fitting" "blister" "I" "LimbBenches") ∈ lw_tbl := lw_at lw_m8 62 rfl
theorem q1882 : (Jvm.Cond.instanceMethod ({ cls := "LimbBenches", name := "part", desc := "(III)I" } : Jvm.MethodName)) ∈ lw_all := lw_g (lw_at lw_m8 74 rfl) rfl
theorem q1883 : (Jvm.Cond.selects "LimbBenches" ({ cls := "LimbBenches", name := "part", desc := "(III)I" } : Jvm.MethodName) ({ cls := "LimbBenches", name := "part", desc := "(III)I" } : Jvm.MethodName)) ∈ lw_all := lw_g (lw_at lw_m8 75 rfl) rfl
theorem q1884 : (Jvm.Cond.code ({ cls := "LimbBenches", name := "part", desc := "(III)I" } : Jvm.MethodName) prog_1_method_38_code (6 : Nat) (Option.some Jvm.ClassFile.FieldType.int)) ∈ lw_all := lw_g (lw_at lw_m8 76 rfl) rfl
theorem q1885 : (Jvm.Cond.methodLink "LimbBenches" (323 : Nat) ({ cls := "LimbBenches$Person", name := "pace", desc := "()I" } : Jvm.MethodName)) ∈ lw_all := lw_g (lw_at lw_m8 77 rfl) rfl
theorem q1886 : (Jvm.Cond.methodLink "LimbBenches" (326 : Nat) ({ cls := "LimbBenches", name := "dueOf", desc := "(LLimbBenches$Person;II)I" } : Jvm.MethodName)) ∈ lw_all := lw_g (lw_at lw_m8 78 rfl) rfl
theorem q1887 : (Jvm.Cond.privateMethod ({ cls := "LimbBenches", name := "dueOf", desc := "(LLimbBenches$Person;II)I" } : Jvm.MethodName)) ∈ lw_tbl := lw_at lw_m8 79 rfl
theorem q1888 : (Jvm.Cond.instanceMethod ({ cls := "LimbBenches", name := "dueOf", desc := "(LLimbBenches$Person;II)I" } : Jvm.MethodName)) ∈ lw_all := lw_g (lw_at lw_m8 80 rfl) rfl
theorem q1889 : (Jvm.Cond.code ({ cls := "LimbBenches", name := "dueOf", desc := "(LLimbBenches$Person;II)I" } : Jvm.MethodName) prog_1_method_37_code (6 : Nat) (Option.some Jvm.ClassFile.FieldType.int)) ∈ lw_all := lw_g (lw_at lw_m8 81 rfl) rfl
theorem q1890 : (Jvm.Cond.methodLink "LimbBenches" (308 : Nat) ({ cls := "LimbBenches", name := "lifeOf", desc := "(LLimbBenches$Person;I)I" } : Jvm.MethodName)) ∈ lw_all := lw_g (lw_at lw_m8 82 rfl) rfl
theorem q1891 : (Jvm.Cond.privateMethod ({ cls := "LimbBenches", name := "lifeOf", desc := "(LLimbBenches$Person;I)I" } : Jvm.MethodName)) ∈ lw_tbl := lw_at lw_m8 83 rfl
theorem q1892 : (Jvm.Cond.instanceMethod ({ cls := "LimbBenches", name := "lifeOf", desc := "(LLimbBenches$Person;I)I" } : Jvm.MethodName)) ∈ lw_all := lw_g (lw_at lw_m8 84 rfl) rfl
theorem q1893 : (Jvm.Cond.code ({ cls := "LimbBenches", name := "lifeOf", desc := "(LLimbBenches$Person;I)I" } : Jvm.MethodName) prog_1_method_25_code (3 : Nat) (Option.some Jvm.ClassFile.FieldType.int)) ∈ lw_all := lw_g (lw_at lw_m8 85 rfl) rfl
theorem q1894 : (Jvm.Cond.methodLink "LimbBenches" (311 : Nat) ({ cls := "LimbBenches$Person", name := "worn", desc := "(III)I" } : Jvm.MethodName)) ∈ lw_all := lw_g (lw_at lw_m8 86 rfl) rfl
theorem q1899 : (Jvm.Cond.instanceMethod ({ cls := "LimbBenches", name := "reuse", desc := "(III)I" } : Jvm.MethodName)) ∈ lw_all := lw_g (lw_at lw_m8 91 rfl) rfl
theorem q1900 : (Jvm.Cond.selects "LimbBenches" ({ cls := "LimbBenches", name := "reuse", desc := "(III)I" } : Jvm.MethodName) ({ cls := "LimbBenches", name := "reuse", desc := "(III)I" } : Jvm.MethodName)) ∈ lw_all := lw_g (lw_at lw_m8 92 rfl) rfl
theorem q1901 : (Jvm.Cond.code ({ cls := "LimbBenches", name := "reuse", desc := "(III)I" } : Jvm.MethodName) prog_1_method_39_code (9 : Nat) (Option.some Jvm.ClassFile.FieldType.int)) ∈ lw_all := lw_g (lw_at lw_m8 93 rfl) rfl
theorem q1906 : (Jvm.Cond.instanceMethod ({ cls := "LimbBenches", name := "next", desc := "(II)I" } : Jvm.MethodName)) ∈ lw_all := lw_g (lw_at lw_m8 98 rfl) rfl
theorem q1907 : (Jvm.Cond.selects "LimbBenches" ({ cls := "LimbBenches", name := "next", desc := "(II)I" } : Jvm.MethodName) ({ cls := "LimbBenches", name := "next", desc := "(II)I" } : Jvm.MethodName)) ∈ lw_all := lw_g (lw_at lw_m8 99 rfl) rfl
theorem q1908 : (Jvm.Cond.code ({ cls := "LimbBenches", name := "next", desc := "(II)I" } : Jvm.MethodName) prog_1_method_49_code (6 : Nat) (Option.some Jvm.ClassFile.FieldType.int)) ∈ lw_all := lw_g (lw_at lw_m8 100 rfl) rfl
theorem q1909 : (Jvm.Cond.methodLink "LimbBenches" (345 : Nat) ({ cls := "LimbBenches", name := "isPlay", desc := "(I)Z" } : Jvm.MethodName)) ∈ lw_all := lw_g (lw_at lw_m8 101 rfl) rfl
theorem q1910 : (Jvm.Cond.static ({ cls := "LimbBenches", name := "isPlay", desc := "(I)Z" } : Jvm.MethodName)) ∈ lw_all := lw_g (lw_at lw_m8 102 rfl) rfl
theorem q1911 : (Jvm.Cond.code ({ cls := "LimbBenches", name := "isPlay", desc := "(I)Z" } : Jvm.MethodName) prog_1_method_92_code (1 : Nat) (Option.some Jvm.ClassFile.FieldType.boolean)) ∈ lw_all := lw_g (lw_at lw_m8 103 rfl) rfl
theorem q1912 : (Jvm.Cond.methodLink "LimbBenches" (350 : Nat) ({ cls := "java/lang/Math", name := "abs", desc := "(I)I" } : Jvm.MethodName)) ∈ lw_all := lw_g (lw_at lw_m8 104 rfl) rfl
theorem q1919 : (Jvm.Cond.instanceMethod ({ cls := "LimbBenches", name := "take", desc := "(III)I" } : Jvm.MethodName)) ∈ lw_all := lw_g (lw_at lw_m8 111 rfl) rfl
theorem q1920 : (Jvm.Cond.selects "LimbBenches" ({ cls := "LimbBenches", name := "take", desc := "(III)I" } : Jvm.MethodName) ({ cls := "LimbBenches", name := "take", desc := "(III)I" } : Jvm.MethodName)) ∈ lw_all := lw_g (lw_at lw_m8 112 rfl) rfl
theorem q1921 : (Jvm.Cond.code ({ cls := "LimbBenches", name := "take", desc := "(III)I" } : Jvm.MethodName) prog_1_method_36_code (5 : Nat) (Option.some Jvm.ClassFile.FieldType.int)) ∈ lw_all := lw_g (lw_at lw_m8 113 rfl) rfl
theorem q1926 : (Jvm.Cond.instanceMethod ({ cls := "LimbBenches", name := "beside", desc := "(II)I" } : Jvm.MethodName)) ∈ lw_all := lw_g (lw_at lw_m8 118 rfl) rfl
theorem q1927 : (Jvm.Cond.selects "LimbBenches" ({ cls := "LimbBenches", name := "beside", desc := "(II)I" } : Jvm.MethodName) ({ cls := "LimbBenches", name := "beside", desc := "(II)I" } : Jvm.MethodName)) ∈ lw_all := lw_g (lw_at lw_m8 119 rfl) rfl
theorem q1928 : (Jvm.Cond.code ({ cls := "LimbBenches", name := "beside", desc := "(II)I" } : Jvm.MethodName) prog_1_method_40_code (6 : Nat) (Option.some Jvm.ClassFile.FieldType.int)) ∈ lw_all := lw_g (lw_at lw_m8 120 rfl) rfl
theorem q1933 : (Jvm.Cond.instanceMethod ({ cls := "LimbBenches", name := "fits", desc := "(III)I" } : Jvm.MethodName)) ∈ lw_all := lw_g (lw_at lw_m8 125 rfl) rfl
theorem q1934 : (Jvm.Cond.selects "LimbBenches" ({ cls := "LimbBenches", name := "fits", desc := "(III)I" } : Jvm.MethodName) ({ cls := "LimbBenches", name := "fits", desc := "(III)I" } : Jvm.MethodName)) ∈ lw_all := lw_g (lw_at lw_m8 126 rfl) rfl
theorem q1935 : (Jvm.Cond.code ({ cls := "LimbBenches", name := "fits", desc := "(III)I" } : Jvm.MethodName) prog_1_method_42_code (5 : Nat) (Option.some Jvm.ClassFile.FieldType.int)) ∈ lw_all := lw_g (lw_at lw_m8 127 rfl) rfl
theorem q1936 : (Jvm.Cond.methodLink "LimbBenches" (332 : Nat) ({ cls := "LimbBenches", name := "isYear", desc := "(I)Z" } : Jvm.MethodName)) ∈ lw_all := lw_g (lw_at lw_m8 128 rfl) rfl
theorem q1937 : (Jvm.Cond.static ({ cls := "LimbBenches", name := "isYear", desc := "(I)Z" } : Jvm.MethodName)) ∈ lw_all := lw_g (lw_at lw_m8 129 rfl) rfl
theorem q1938 : (Jvm.Cond.code ({ cls := "LimbBenches", name := "isYear", desc := "(I)Z" } : Jvm.MethodName) prog_1_method_41_code (1 : Nat) (Option.some Jvm.ClassFile.FieldType.boolean)) ∈ lw_all := lw_g (lw_at lw_m8 130 rfl) rfl
theorem q1943 : (Jvm.Cond.instanceMethod ({ cls := "LimbBenches", name := "lacks", desc := "(II)I" } : Jvm.MethodName)) ∈ lw_all := lw_g (lw_at lw_m8 135 rfl) rfl
theorem q1944 : (Jvm.Cond.selects "LimbBenches" ({ cls := "LimbBenches", name := "lacks", desc := "(II)I" } : Jvm.MethodName) ({ cls := "LimbBenches", name := "lacks", desc := "(II)I" } : Jvm.MethodName)) ∈ lw_all := lw_g (lw_at lw_m8 136 rfl) rfl
theorem q1945 : (Jvm.Cond.code ({ cls := "LimbBenches", name := "lacks", desc := "(II)I" } : Jvm.MethodName) prog_1_method_46_code (4 : Nat) (Option.some Jvm.ClassFile.FieldType.int)) ∈ lw_all := lw_g (lw_at lw_m8 137 rfl) rfl
theorem q1950 : (Jvm.Cond.instanceMethod ({ cls := "LimbBenches", name := "choice", desc := "(II)I" } : Jvm.MethodName)) ∈ lw_all := lw_g (lw_at lw_m8 142 rfl) rfl
theorem q1951 : (Jvm.Cond.selects "LimbBenches" ({ cls := "LimbBenches", name := "choice", desc := "(II)I" } : Jvm.MethodName) ({ cls := "LimbBenches", name := "choice", desc := "(II)I" } : Jvm.MethodName)) ∈ lw_all := lw_g (lw_at lw_m8 143 rfl) rfl
theorem q1952 : (Jvm.Cond.code ({ cls := "LimbBenches", name := "choice", desc := "(II)I" } : Jvm.MethodName) prog_1_method_53_code (4 : Nat) (Option.some Jvm.ClassFile.FieldType.int)) ∈ lw_all := lw_g (lw_at lw_m8 144 rfl) rfl
theorem q1953 : (Jvm.Cond.methodLink "LimbBenches" (380 : Nat) ({ cls := "LimbBenches", name := "findChoice", desc := "(LLimbBenches$Person;)Z" } : Jvm.MethodName)) ∈ lw_all := lw_g (lw_at lw_m8 145 rfl) rfl
theorem q1954 : (Jvm.Cond.privateMethod ({ cls := "LimbBenches", name := "findChoice", desc := "(LLimbBenches$Person;)Z" } : Jvm.MethodName)) ∈ lw_tbl := lw_at lw_m8 146 rfl
theorem q1955 : (Jvm.Cond.instanceMethod ({ cls := "LimbBenches", name := "findChoice", desc := "(LLimbBenches$Person;)Z" } : Jvm.MethodName)) ∈ lw_all := lw_g (lw_at lw_m8 147 rfl) rfl
theorem q1956 : (Jvm.Cond.code ({ cls := "LimbBenches", name := "findChoice", desc := "(LLimbBenches$Person;)Z" } : Jvm.MethodName) prog_1_method_52_code (3 : Nat) (Option.some Jvm.ClassFile.FieldType.boolean)) ∈ lw_all := lw_g (lw_at lw_m8 148 rfl) rfl
theorem q1957 : (Jvm.Cond.methodLink "LimbBenches" (369 : Nat) ({ cls := "LimbBenches", name := "picks", desc := "(LLimbBenches$Person;IIIII)V" } : Jvm.MethodName)) ∈ lw_all := lw_g (lw_at lw_m8 149 rfl) rfl
theorem q1958 : (Jvm.Cond.privateMethod ({ cls := "LimbBenches", name := "picks", desc := "(LLimbBenches$Person;IIIII)V" } : Jvm.MethodName)) ∈ lw_tbl := lw_at lw_m8 150 rfl
theorem q1959 : (Jvm.Cond.instanceMethod ({ cls := "LimbBenches", name := "picks", desc := "(LLimbBenches$Person;IIIII)V" } : Jvm.MethodName)) ∈ lw_all := lw_g (lw_at lw_m8 151 rfl) rfl
theorem q1960 : (Jvm.Cond.code ({ cls := "LimbBenches", name := "picks", desc := "(LLimbBenches$Person;IIIII)V" } : Jvm.MethodName) prog_1_method_50_code (9 : Nat) (Option.none : Option Jvm.ClassFile.FieldType)) ∈ lw_all := lw_g (lw_at lw_m8 152 rfl) rfl
theorem q1961 : (Jvm.Cond.methodLink "LimbBenches" (373 : Nat) ({ cls := "LimbBenches", name := "goesNot", desc := "(LLimbBenches$Person;II)Z" } : Jvm.MethodName)) ∈ lw_all := lw_g (lw_at lw_m8 153 rfl) rfl
theorem q1962 : (Jvm.Cond.privateMethod ({ cls := "LimbBenches", name := "goesNot", desc := "(LLimbBenches$Person;II)Z" } : Jvm.MethodName)) ∈ lw_tbl := lw_at lw_m8 154 rfl
theorem q1963 : (Jvm.Cond.instanceMethod ({ cls := "LimbBenches", name := "goesNot", desc := "(LLimbBenches$Person;II)Z" } : Jvm.MethodName)) ∈ lw_all := lw_g (lw_at lw_m8 155 rfl) rfl
theorem q1964 : (Jvm.Cond.code ({ cls := "LimbBenches", name := "goesNot", desc := "(LLimbBenches$Person;II)Z" } : Jvm.MethodName) prog_1_method_51_code (5 : Nat) (Option.some Jvm.ClassFile.FieldType.boolean)) ∈ lw_all := lw_g (lw_at lw_m8 156 rfl) rfl
theorem q1969 : (Jvm.Cond.instanceMethod ({ cls := "LimbBenches", name := "choose", desc := "(II)I" } : Jvm.MethodName)) ∈ lw_all := lw_g (lw_at lw_m8 161 rfl) rfl
theorem q1970 : (Jvm.Cond.selects "LimbBenches" ({ cls := "LimbBenches", name := "choose", desc := "(II)I" } : Jvm.MethodName) ({ cls := "LimbBenches", name := "choose", desc := "(II)I" } : Jvm.MethodName)) ∈ lw_all := lw_g (lw_at lw_m8 162 rfl) rfl
theorem q1971 : (Jvm.Cond.code ({ cls := "LimbBenches", name := "choose", desc := "(II)I" } : Jvm.MethodName) prog_1_method_54_code (4 : Nat) (Option.some Jvm.ClassFile.FieldType.int)) ∈ lw_all := lw_g (lw_at lw_m8 163 rfl) rfl
theorem q1976 : (Jvm.Cond.instanceMethod ({ cls := "LimbBenches", name := "clause", desc := "(II)I" } : Jvm.MethodName)) ∈ lw_all := lw_g (lw_at lw_m8 168 rfl) rfl
theorem q1977 : (Jvm.Cond.selects "LimbBenches" ({ cls := "LimbBenches", name := "clause", desc := "(II)I" } : Jvm.MethodName) ({ cls := "LimbBenches", name := "clause", desc := "(II)I" } : Jvm.MethodName)) ∈ lw_all := lw_g (lw_at lw_m8 169 rfl) rfl
theorem q1978 : (Jvm.Cond.code ({ cls := "LimbBenches", name := "clause", desc := "(II)I" } : Jvm.MethodName) prog_1_method_55_code (8 : Nat) (Option.some Jvm.ClassFile.FieldType.int)) ∈ lw_all := lw_g (lw_at lw_m8 170 rfl) rfl
theorem q1983 : (Jvm.Cond.instanceMethod ({ cls := "LimbBenches", name := "job", desc := "(IIII)I" } : Jvm.MethodName)) ∈ lw_all := lw_g (lw_at lw_m8 175 rfl) rfl
theorem q1984 : (Jvm.Cond.selects "LimbBenches" ({ cls := "LimbBenches", name := "job", desc := "(IIII)I" } : Jvm.MethodName) ({ cls := "LimbBenches", name := "job", desc := "(IIII)I" } : Jvm.MethodName)) ∈ lw_all := lw_g (lw_at lw_m8 176 rfl) rfl
theorem q1985 : (Jvm.Cond.code ({ cls := "LimbBenches", name := "job", desc := "(IIII)I" } : Jvm.MethodName) prog_1_method_56_code (5 : Nat) (Option.some Jvm.ClassFile.FieldType.int)) ∈ lw_all := lw_g (lw_at lw_m8 177 rfl) rfl
theorem q1987 : (Jvm.Cond.methodLink "LimbBenches" (389 : Nat) ({ cls := "LimbBenches$Job", name := "<init>", desc := "(IIII)V" } : Jvm.MethodName)) ∈ lw_all := lw_g (lw_at lw_m8 179 rfl) rfl
theorem q1993 : (Jvm.Cond.fieldLinkNest "LimbBenches" (396 : Nat) "LimbBenches$Job" "hours" "I" "LimbBenches") ∈ lw_tbl := lw_at lw_m8 185 rfl
theorem q1995 : (Jvm.Cond.fieldLinkNest "LimbBenches" (405 : Nat) "LimbBenches$Job" "pain" "I" "LimbBenches") ∈ lw_tbl := lw_at lw_m8 187 rfl
theorem q1997 : (Jvm.Cond.fieldLinkNest "LimbBenches" (390 : Nat) "LimbBenches$Job" "arrives" "I" "LimbBenches") ∈ lw_tbl := lw_at lw_m8 189 rfl
theorem q2011 : (Jvm.Cond.instanceMethod ({ cls := "LimbBenches", name := "benches", desc := "(I)I" } : Jvm.MethodName)) ∈ lw_all := lw_g (lw_at lw_m8 203 rfl) rfl
theorem q2012 : (Jvm.Cond.selects "LimbBenches" ({ cls := "LimbBenches", name := "benches", desc := "(I)I" } : Jvm.MethodName) ({ cls := "LimbBenches", name := "benches", desc := "(I)I" } : Jvm.MethodName)) ∈ lw_all := lw_g (lw_at lw_m8 204 rfl) rfl
theorem q2013 : (Jvm.Cond.code ({ cls := "LimbBenches", name := "benches", desc := "(I)I" } : Jvm.MethodName) prog_1_method_61_code (3 : Nat) (Option.some Jvm.ClassFile.FieldType.int)) ∈ lw_all := lw_g (lw_at lw_m8 205 rfl) rfl
theorem q2018 : (Jvm.Cond.instanceMethod ({ cls := "LimbBenches", name := "cost", desc := "(I)I" } : Jvm.MethodName)) ∈ lw_all := lw_g (lw_at lw_m8 210 rfl) rfl
theorem q2019 : (Jvm.Cond.selects "LimbBenches" ({ cls := "LimbBenches", name := "cost", desc := "(I)I" } : Jvm.MethodName) ({ cls := "LimbBenches", name := "cost", desc := "(I)I" } : Jvm.MethodName)) ∈ lw_all := lw_g (lw_at lw_m8 211 rfl) rfl
theorem q2020 : (Jvm.Cond.code ({ cls := "LimbBenches", name := "cost", desc := "(I)I" } : Jvm.MethodName) prog_1_method_62_code (8 : Nat) (Option.some Jvm.ClassFile.FieldType.int)) ∈ lw_all := lw_g (lw_at lw_m8 212 rfl) rfl
theorem q2021 : (Jvm.Cond.methodLink "LimbBenches" (421 : Nat) ({ cls := "LimbBenches", name := "doneIn", desc := "([II)I" } : Jvm.MethodName)) ∈ lw_all := lw_g (lw_at lw_m8 213 rfl) rfl
theorem q2022 : (Jvm.Cond.privateMethod ({ cls := "LimbBenches", name := "doneIn", desc := "([II)I" } : Jvm.MethodName)) ∈ lw_tbl := lw_at lw_m8 214 rfl
theorem q2023 : (Jvm.Cond.instanceMethod ({ cls := "LimbBenches", name := "doneIn", desc := "([II)I" } : Jvm.MethodName)) ∈ lw_all := lw_g (lw_at lw_m8 215 rfl) rfl
theorem q2024 : (Jvm.Cond.code ({ cls := "LimbBenches", name := "doneIn", desc := "([II)I" } : Jvm.MethodName) prog_1_method_63_code (8 : Nat) (Option.some Jvm.ClassFile.FieldType.int)) ∈ lw_all := lw_g (lw_at lw_m8 216 rfl) rfl
theorem q2029 : (Jvm.Cond.instanceMethod ({ cls := "LimbBenches", name := "delay", desc := "(II)I" } : Jvm.MethodName)) ∈ lw_all := lw_g (lw_at lw_m8 221 rfl) rfl
theorem q2030 : (Jvm.Cond.selects "LimbBenches" ({ cls := "LimbBenches", name := "delay", desc := "(II)I" } : Jvm.MethodName) ({ cls := "LimbBenches", name := "delay", desc := "(II)I" } : Jvm.MethodName)) ∈ lw_all := lw_g (lw_at lw_m8 222 rfl) rfl
theorem q2031 : (Jvm.Cond.code ({ cls := "LimbBenches", name := "delay", desc := "(II)I" } : Jvm.MethodName) prog_1_method_66_code (5 : Nat) (Option.some Jvm.ClassFile.FieldType.int)) ∈ lw_all := lw_g (lw_at lw_m8 223 rfl) rfl
theorem q2032 : (Jvm.Cond.methodLink "LimbBenches" (428 : Nat) ({ cls := "LimbBenches", name := "isJob", desc := "(I)V" } : Jvm.MethodName)) ∈ lw_all := lw_g (lw_at lw_m8 224 rfl) rfl
theorem q2033 : (Jvm.Cond.privateMethod ({ cls := "LimbBenches", name := "isJob", desc := "(I)V" } : Jvm.MethodName)) ∈ lw_tbl := lw_at lw_m8 225 rfl
theorem q2034 : (Jvm.Cond.instanceMethod ({ cls := "LimbBenches", name := "isJob", desc := "(I)V" } : Jvm.MethodName)) ∈ lw_all := lw_g (lw_at lw_m8 226 rfl) rfl
theorem q2035 : (Jvm.Cond.code ({ cls := "LimbBenches", name := "isJob", desc := "(I)V" } : Jvm.MethodName) prog_1_method_65_code (2 : Nat) (Option.none : Option Jvm.ClassFile.FieldType)) ∈ lw_all := lw_g (lw_at lw_m8 227 rfl) rfl
theorem q2040 : (Jvm.Cond.instanceMethod ({ cls := "LimbBenches", name := "done", desc := "(I)I" } : Jvm.MethodName)) ∈ lw_all := lw_g (lw_at lw_m8 232 rfl) rfl
theorem q2041 : (Jvm.Cond.selects "LimbBenches" ({ cls := "LimbBenches", name := "done", desc := "(I)I" } : Jvm.MethodName) ({ cls := "LimbBenches", name := "done", desc := "(I)I" } : Jvm.MethodName)) ∈ lw_all := lw_g (lw_at lw_m8 233 rfl) rfl
theorem q2042 : (Jvm.Cond.code ({ cls := "LimbBenches", name := "done", desc := "(I)I" } : Jvm.MethodName) prog_1_method_67_code (3 : Nat) (Option.some Jvm.ClassFile.FieldType.int)) ∈ lw_all := lw_g (lw_at lw_m8 234 rfl) rfl
theorem q2047 : (Jvm.Cond.instanceMethod ({ cls := "LimbBenches", name := "maker", desc := "(I)I" } : Jvm.MethodName)) ∈ lw_all := lw_g (lw_at lw_m8 239 rfl) rfl
theorem q2048 : (Jvm.Cond.selects "LimbBenches" ({ cls := "LimbBenches", name := "maker", desc := "(I)I" } : Jvm.MethodName) ({ cls := "LimbBenches", name := "maker", desc := "(I)I" } : Jvm.MethodName)) ∈ lw_all := lw_g (lw_at lw_m9 0 rfl) rfl
theorem q2049 : (Jvm.Cond.code ({ cls := "LimbBenches", name := "maker", desc := "(I)I" } : Jvm.MethodName) prog_1_method_70_code (2 : Nat) (Option.some Jvm.ClassFile.FieldType.int)) ∈ lw_all := lw_g (lw_at lw_m9 1 rfl) rfl
theorem q2050 : (Jvm.Cond.classLink "LimbBenches" (434 : Nat) "LimbBenches$Maker") ∈ lw_all := lw_g (lw_at lw_m9 2 rfl) rfl
theorem q2051 : (Jvm.Cond.methodLink "LimbBenches" (441 : Nat) ({ cls := "LimbBenches$Maker", name := "<init>", desc := "(I)V" } : Jvm.MethodName)) ∈ lw_all := lw_g (lw_at lw_m9 3 rfl) rfl
theorem q2056 : (Jvm.Cond.instanceMethod ({ cls := "LimbBenches", name := "order", desc := "(II)I" } : Jvm.MethodName)) ∈ lw_all := lw_g (lw_at lw_m9 8 rfl) rfl
theorem q2057 : (Jvm.Cond.selects "LimbBenches" ({ cls := "LimbBenches", name := "order", desc := "(II)I" } : Jvm.MethodName) ({ cls := "LimbBenches", name := "order", desc := "(II)I" } : Jvm.MethodName)) ∈ lw_all := lw_g (lw_at lw_m9 9 rfl) rfl
theorem q2058 : (Jvm.Cond.code ({ cls := "LimbBenches", name := "order", desc := "(II)I" } : Jvm.MethodName) prog_1_method_71_code (4 : Nat) (Option.some Jvm.ClassFile.FieldType.int)) ∈ lw_all := lw_g (lw_at lw_m9 10 rfl) rfl
theorem q2059 : (Jvm.Cond.methodLink "LimbBenches" (442 : Nat) ({ cls := "LimbBenches", name := "makerOf", desc := "(I)LLimbBenches$Maker;" } : Jvm.MethodName)) ∈ lw_all := lw_g (lw_at lw_m9 11 rfl) rfl
theorem q2060 : (Jvm.Cond.privateMethod ({ cls := "LimbBenches", name := "makerOf", desc := "(I)LLimbBenches$Maker;" } : Jvm.MethodName)) ∈ lw_tbl := lw_at lw_m9 12 rfl
theorem q2061 : (Jvm.Cond.instanceMethod ({ cls := "LimbBenches", name := "makerOf", desc := "(I)LLimbBenches$Maker;" } : Jvm.MethodName)) ∈ lw_all := lw_g (lw_at lw_m9 13 rfl) rfl
theorem q2062 : (Jvm.Cond.code ({ cls := "LimbBenches", name := "makerOf", desc := "(I)LLimbBenches$Maker;" } : Jvm.MethodName) prog_1_method_68_code (2 : Nat) (Option.some (Jvm.ClassFile.FieldType.object "LimbBenches$Maker"))) ∈ lw_all := lw_g (lw_at lw_m9 14 rfl) rfl
theorem q2063 : (Jvm.Cond.classLink "LimbBenches" (439 : Nat) "LimbBenches$Ordered") ∈ lw_all := lw_g (lw_at lw_m9 15 rfl) rfl
theorem q2065 : (Jvm.Cond.methodLink "LimbBenches" (449 : Nat) ({ cls := "LimbBenches$Ordered", name := "<init>", desc := "(IIIZ)V" } : Jvm.MethodName)) ∈ lw_all := lw_g (lw_at lw_m9 17 rfl) rfl
theorem q2070 : (Jvm.Cond.fieldLinkNest "LimbBenches" (468 : Nat) "LimbBenches$Ordered" "maker" "I" "LimbBenches") ∈ lw_tbl := lw_at lw_m9 22 rfl
theorem q2072 : (Jvm.Cond.fieldLinkNest "LimbBenches" (467 : Nat) "LimbBenches$Ordered" "model" "I" "LimbBenches") ∈ lw_tbl := lw_at lw_m9 24 rfl
theorem q2074 : (Jvm.Cond.fieldLinkNest "LimbBenches" (471 : Nat) "LimbBenches$Ordered" "due" "I" "LimbBenches") ∈ lw_tbl := lw_at lw_m9 26 rfl
theorem q2076 : (Jvm.Cond.fieldLinkNest "LimbBenches" (456 : Nat) "LimbBenches$Ordered" "out" "Z" "LimbBenches") ∈ lw_tbl := lw_at lw_m9 28 rfl
theorem q2090 : (Jvm.Cond.instanceMethod ({ cls := "LimbBenches", name := "arrive", desc := "(I)I" } : Jvm.MethodName)) ∈ lw_all := lw_g (lw_at lw_m9 42 rfl) rfl
theorem q2091 : (Jvm.Cond.selects "LimbBenches" ({ cls := "LimbBenches", name := "arrive", desc := "(I)I" } : Jvm.MethodName) ({ cls := "LimbBenches", name := "arrive", desc := "(I)I" } : Jvm.MethodName)) ∈ lw_all := lw_g (lw_at lw_m9 43 rfl) rfl
theorem q2092 : (Jvm.Cond.code ({ cls := "LimbBenches", name := "arrive", desc := "(I)I" } : Jvm.MethodName) prog_1_method_72_code (3 : Nat) (Option.some Jvm.ClassFile.FieldType.int)) ∈ lw_all := lw_g (lw_at lw_m9 44 rfl) rfl
theorem q2093 : (Jvm.Cond.methodLink "LimbBenches" (452 : Nat) ({ cls := "LimbBenches", name := "orderedOf", desc := "(I)LLimbBenches$Ordered;" } : Jvm.MethodName)) ∈ lw_all := lw_g (lw_at lw_m9 45 rfl) rfl
theorem q2094 : (Jvm.Cond.privateMethod ({ cls := "LimbBenches", name := "orderedOf", desc := "(I)LLimbBenches$Ordered;" } : Jvm.MethodName)) ∈ lw_tbl := lw_at lw_m9 46 rfl
theorem q2095 : (Jvm.Cond.instanceMethod ({ cls := "LimbBenches", name := "orderedOf", desc := "(I)LLimbBenches$Ordered;" } : Jvm.MethodName)) ∈ lw_all := lw_g (lw_at lw_m9 47 rfl) rfl
theorem q2096 : (Jvm.Cond.code ({ cls := "LimbBenches", name := "orderedOf", desc := "(I)LLimbBenches$Ordered;" } : Jvm.MethodName) prog_1_method_69_code (2 : Nat) (Option.some (Jvm.ClassFile.FieldType.object "LimbBenches$Ordered"))) ∈ lw_all := lw_g (lw_at lw_m9 48 rfl) rfl
theorem q2097 : (Jvm.Cond.methodLink "LimbBenches" (459 : Nat) ({ cls := "LimbBenches$Ordered", name := "ended", desc := "()LLimbBenches$Ordered;" } : Jvm.MethodName)) ∈ lw_all := lw_g (lw_at lw_m9 49 rfl) rfl
theorem q2103 : (Jvm.Cond.methodLink "LimbBenches" (463 : Nat) ({ cls := "java/util/ArrayList", name := "set", desc := "(ILjava/lang/Object;)Ljava/lang/Object;" } : Jvm.MethodName)) ∈ lw_all := lw_g (lw_at lw_m9 55 rfl) rfl
theorem q2107 : (Jvm.Cond.methodLink "LimbBenches" (474 : Nat) ({ cls := "LimbBenches$Maker", name := "late", desc := "(I)V" } : Jvm.MethodName)) ∈ lw_all := lw_g (lw_at lw_m9 59 rfl) rfl
theorem q2117 : (Jvm.Cond.instanceMethod ({ cls := "LimbBenches", name := "lose", desc := "(I)I" } : Jvm.MethodName)) ∈ lw_all := lw_g (lw_at lw_m9 69 rfl) rfl
theorem q2118 : (Jvm.Cond.selects "LimbBenches" ({ cls := "LimbBenches", name := "lose", desc := "(I)I" } : Jvm.MethodName) ({ cls := "LimbBenches", name := "lose", desc := "(I)I" } : Jvm.MethodName)) ∈ lw_all := lw_g (lw_at lw_m9 70 rfl) rfl
theorem q2119 : (Jvm.Cond.code ({ cls := "LimbBenches", name := "lose", desc := "(I)I" } : Jvm.MethodName) prog_1_method_73_code (3 : Nat) (Option.some Jvm.ClassFile.FieldType.int)) ∈ lw_all := lw_g (lw_at lw_m9 71 rfl) rfl
theorem q2124 : (Jvm.Cond.instanceMethod ({ cls := "LimbBenches", name := "forecast", desc := "(IZ)I" } : Jvm.MethodName)) ∈ lw_all := lw_g (lw_at lw_m9 76 rfl) rfl
theorem q2125 : (Jvm.Cond.selects "LimbBenches" ({ cls := "LimbBenches", name := "forecast", desc := "(IZ)I" } : Jvm.MethodName) ({ cls := "LimbBenches", name := "forecast", desc := "(IZ)I" } : Jvm.MethodName)) ∈ lw_all := lw_g (lw_at lw_m9 77 rfl) rfl
theorem q2126 : (Jvm.Cond.code ({ cls := "LimbBenches", name := "forecast", desc := "(IZ)I" } : Jvm.MethodName) prog_1_method_74_code (5 : Nat) (Option.some Jvm.ClassFile.FieldType.int)) ∈ lw_all := lw_g (lw_at lw_m9 78 rfl) rfl
theorem q2131 : (Jvm.Cond.instanceMethod ({ cls := "LimbBenches", name := "late", desc := "(II)I" } : Jvm.MethodName)) ∈ lw_all := lw_g (lw_at lw_m9 83 rfl) rfl
theorem q2132 : (Jvm.Cond.selects "LimbBenches" ({ cls := "LimbBenches", name := "late", desc := "(II)I" } : Jvm.MethodName) ({ cls := "LimbBenches", name := "late", desc := "(II)I" } : Jvm.MethodName)) ∈ lw_all := lw_g (lw_at lw_m9 84 rfl) rfl
theorem q2133 : (Jvm.Cond.code ({ cls := "LimbBenches", name := "late", desc := "(II)I" } : Jvm.MethodName) prog_1_method_75_code (6 : Nat) (Option.some Jvm.ClassFile.FieldType.int)) ∈ lw_all := lw_g (lw_at lw_m9 85 rfl) rfl
theorem q2138 : (Jvm.Cond.instanceMethod ({ cls := "LimbBenches", name := "stock", desc := "(I)I" } : Jvm.MethodName)) ∈ lw_all := lw_g (lw_at lw_m9 90 rfl) rfl
theorem q2139 : (Jvm.Cond.selects "LimbBenches" ({ cls := "LimbBenches", name := "stock", desc := "(I)I" } : Jvm.MethodName) ({ cls := "LimbBenches", name := "stock", desc := "(I)I" } : Jvm.MethodName)) ∈ lw_all := lw_g (lw_at lw_m9 91 rfl) rfl
theorem q2140 : (Jvm.Cond.code ({ cls := "LimbBenches", name := "stock", desc := "(I)I" } : Jvm.MethodName) prog_1_method_76_code (2 : Nat) (Option.some Jvm.ClassFile.FieldType.int)) ∈ lw_all := lw_g (lw_at lw_m9 92 rfl) rfl
theorem q2145 : (Jvm.Cond.instanceMethod ({ cls := "LimbBenches", name := "spare", desc := "(I)I" } : Jvm.MethodName)) ∈ lw_all := lw_g (lw_at lw_m9 97 rfl) rfl
theorem q2146 : (Jvm.Cond.selects "LimbBenches" ({ cls := "LimbBenches", name := "spare", desc := "(I)I" } : Jvm.MethodName) ({ cls := "LimbBenches", name := "spare", desc := "(I)I" } : Jvm.MethodName)) ∈ lw_all := lw_g (lw_at lw_m9 98 rfl) rfl
theorem q2147 : (Jvm.Cond.code ({ cls := "LimbBenches", name := "spare", desc := "(I)I" } : Jvm.MethodName) prog_1_method_77_code (2 : Nat) (Option.some Jvm.ClassFile.FieldType.int)) ∈ lw_all := lw_g (lw_at lw_m9 99 rfl) rfl
theorem q2152 : (Jvm.Cond.instanceMethod ({ cls := "LimbBenches", name := "lent", desc := "(I)I" } : Jvm.MethodName)) ∈ lw_all := lw_g (lw_at lw_m9 104 rfl) rfl
theorem q2153 : (Jvm.Cond.selects "LimbBenches" ({ cls := "LimbBenches", name := "lent", desc := "(I)I" } : Jvm.MethodName) ({ cls := "LimbBenches", name := "lent", desc := "(I)I" } : Jvm.MethodName)) ∈ lw_all := lw_g (lw_at lw_m9 105 rfl) rfl
theorem q2154 : (Jvm.Cond.code ({ cls := "LimbBenches", name := "lent", desc := "(I)I" } : Jvm.MethodName) prog_1_method_80_code (2 : Nat) (Option.some Jvm.ClassFile.FieldType.int)) ∈ lw_all := lw_g (lw_at lw_m9 106 rfl) rfl
theorem q2159 : (Jvm.Cond.instanceMethod ({ cls := "LimbBenches", name := "recall", desc := "(III)I" } : Jvm.MethodName)) ∈ lw_all := lw_g (lw_at lw_m9 111 rfl) rfl
theorem q2160 : (Jvm.Cond.selects "LimbBenches" ({ cls := "LimbBenches", name := "recall", desc := "(III)I" } : Jvm.MethodName) ({ cls := "LimbBenches", name := "recall", desc := "(III)I" } : Jvm.MethodName)) ∈ lw_all := lw_g (lw_at lw_m9 112 rfl) rfl
theorem q2161 : (Jvm.Cond.code ({ cls := "LimbBenches", name := "recall", desc := "(III)I" } : Jvm.MethodName) prog_1_method_82_code (8 : Nat) (Option.some Jvm.ClassFile.FieldType.int)) ∈ lw_all := lw_g (lw_at lw_m9 113 rfl) rfl
theorem q2166 : (Jvm.Cond.instanceMethod ({ cls := "LimbBenches", name := "seen", desc := "(II)I" } : Jvm.MethodName)) ∈ lw_all := lw_g (lw_at lw_m9 118 rfl) rfl
theorem q2167 : (Jvm.Cond.selects "LimbBenches" ({ cls := "LimbBenches", name := "seen", desc := "(II)I" } : Jvm.MethodName) ({ cls := "LimbBenches", name := "seen", desc := "(II)I" } : Jvm.MethodName)) ∈ lw_all := lw_g (lw_at lw_m9 119 rfl) rfl
theorem q2168 : (Jvm.Cond.code ({ cls := "LimbBenches", name := "seen", desc := "(II)I" } : Jvm.MethodName) prog_1_method_85_code (8 : Nat) (Option.some Jvm.ClassFile.FieldType.int)) ∈ lw_all := lw_g (lw_at lw_m9 120 rfl) rfl
theorem q2173 : (Jvm.Cond.instanceMethod ({ cls := "LimbBenches", name := "measure", desc := "(III)I" } : Jvm.MethodName)) ∈ lw_all := lw_g (lw_at lw_m9 125 rfl) rfl
theorem q2174 : (Jvm.Cond.selects "LimbBenches" ({ cls := "LimbBenches", name := "measure", desc := "(III)I" } : Jvm.MethodName) ({ cls := "LimbBenches", name := "measure", desc := "(III)I" } : Jvm.MethodName)) ∈ lw_all := lw_g (lw_at lw_m9 126 rfl) rfl
theorem q2175 : (Jvm.Cond.code ({ cls := "LimbBenches", name := "measure", desc := "(III)I" } : Jvm.MethodName) prog_1_method_87_code (5 : Nat) (Option.some Jvm.ClassFile.FieldType.int)) ∈ lw_all := lw_g (lw_at lw_m9 127 rfl) rfl
theorem q2176 : (Jvm.Cond.methodLink "LimbBenches" (522 : Nat) ({ cls := "LimbBenches", name := "latestOf", desc := "(I)LLimbBenches$Measure;" } : Jvm.MethodName)) ∈ lw_all := lw_g (lw_at lw_m9 128 rfl) rfl
theorem q2177 : (Jvm.Cond.privateMethod ({ cls := "LimbBenches", name := "latestOf", desc := "(I)LLimbBenches$Measure;" } : Jvm.MethodName)) ∈ lw_tbl := lw_at lw_m9 129 rfl
theorem q2178 : (Jvm.Cond.instanceMethod ({ cls := "LimbBenches", name := "latestOf", desc := "(I)LLimbBenches$Measure;" } : Jvm.MethodName)) ∈ lw_all := lw_g (lw_at lw_m9 130 rfl) rfl
theorem q2179 : (Jvm.Cond.code ({ cls := "LimbBenches", name := "latestOf", desc := "(I)LLimbBenches$Measure;" } : Jvm.MethodName) prog_1_method_86_code (4 : Nat) (Option.some (Jvm.ClassFile.FieldType.object "LimbBenches$Measure"))) ∈ lw_all := lw_g (lw_at lw_m9 131 rfl) rfl
theorem q2180 : (Jvm.Cond.classLink "LimbBenches" (517 : Nat) "LimbBenches$Measure") ∈ lw_all := lw_g (lw_at lw_m9 132 rfl) rfl
theorem q2182 : (Jvm.Cond.methodLink "LimbBenches" (527 : Nat) ({ cls := "LimbBenches$Measure", name := "<init>", desc := "(III)V" } : Jvm.MethodName)) ∈ lw_all := lw_g (lw_at lw_m9 134 rfl) rfl
theorem q2187 : (Jvm.Cond.fieldLinkNest "LimbBenches" (519 : Nat) "LimbBenches$Measure" "person" "I" "LimbBenches") ∈ lw_tbl := lw_at lw_m9 139 rfl
theorem q2189 : (Jvm.Cond.fieldLinkNest "LimbBenches" (526 : Nat) "LimbBenches$Measure" "day" "I" "LimbBenches") ∈ lw_tbl := lw_at lw_m9 141 rfl
theorem q2191 : (Jvm.Cond.fieldLinkNest "LimbBenches" (528 : Nat) "LimbBenches$Measure" "size" "I" "LimbBenches") ∈ lw_tbl := lw_at lw_m9 143 rfl
theorem q2203 : (Jvm.Cond.instanceMethod ({ cls := "LimbBenches", name := "growth", desc := "(II)I" } : Jvm.MethodName)) ∈ lw_all := lw_g (lw_at lw_m9 155 rfl) rfl
theorem q2204 : (Jvm.Cond.selects "LimbBenches" ({ cls := "LimbBenches", name := "growth", desc := "(II)I" } : Jvm.MethodName) ({ cls := "LimbBenches", name := "growth", desc := "(II)I" } : Jvm.MethodName)) ∈ lw_all := lw_g (lw_at lw_m9 156 rfl) rfl
theorem q2205 : (Jvm.Cond.code ({ cls := "LimbBenches", name := "growth", desc := "(II)I" } : Jvm.MethodName) prog_1_method_90_code (4 : Nat) (Option.some Jvm.ClassFile.FieldType.int)) ∈ lw_all := lw_g (lw_at lw_m9 157 rfl) rfl
theorem q2206 : (Jvm.Cond.methodLink "LimbBenches" (539 : Nat) ({ cls := "LimbBenches", name := "growths", desc := "(I)Ljava/util/ArrayList;" } : Jvm.MethodName)) ∈ lw_all := lw_g (lw_at lw_m9 158 rfl) rfl
theorem q2207 : (Jvm.Cond.privateMethod ({ cls := "LimbBenches", name := "growths", desc := "(I)Ljava/util/ArrayList;" } : Jvm.MethodName)) ∈ lw_tbl := lw_at lw_m9 159 rfl
theorem q2208 : (Jvm.Cond.instanceMethod ({ cls := "LimbBenches", name := "growths", desc := "(I)Ljava/util/ArrayList;" } : Jvm.MethodName)) ∈ lw_all := lw_g (lw_at lw_m9 160 rfl) rfl
theorem q2209 : (Jvm.Cond.code ({ cls := "LimbBenches", name := "growths", desc := "(I)Ljava/util/ArrayList;" } : Jvm.MethodName) prog_1_method_88_code (6 : Nat) (Option.some (Jvm.ClassFile.FieldType.object "java/util/ArrayList"))) ∈ lw_all := lw_g (lw_at lw_m9 161 rfl) rfl
theorem q2210 : (Jvm.Cond.methodLink "LimbBenches" (529 : Nat) ({ cls := "java/lang/Integer", name := "valueOf", desc := "(I)Ljava/lang/Integer;" } : Jvm.MethodName)) ∈ lw_all := lw_g (lw_at lw_m9 162 rfl) rfl
theorem q2230 : (Jvm.Cond.methodLink "LimbBenches" (543 : Nat) ({ cls := "LimbBenches", name := "extreme", desc := "(Ljava/util/ArrayList;Z)I" } : Jvm.MethodName)) ∈ lw_all := lw_g (lw_at lw_m9 182 rfl) rfl
theorem q2231 : (Jvm.Cond.static ({ cls := "LimbBenches", name := "extreme", desc := "(Ljava/util/ArrayList;Z)I" } : Jvm.MethodName)) ∈ lw_all := lw_g (lw_at lw_m9 183 rfl) rfl
theorem q2232 : (Jvm.Cond.code ({ cls := "LimbBenches", name := "extreme", desc := "(Ljava/util/ArrayList;Z)I" } : Jvm.MethodName) prog_1_method_89_code (4 : Nat) (Option.some Jvm.ClassFile.FieldType.int)) ∈ lw_all := lw_g (lw_at lw_m9 184 rfl) rfl
theorem q2233 : (Jvm.Cond.methodLink "LimbBenches" (532 : Nat) ({ cls := "java/util/ArrayList", name := "isEmpty", desc := "()Z" } : Jvm.MethodName)) ∈ lw_all := lw_g (lw_at lw_m9 185 rfl) rfl
theorem q2237 : (Jvm.Cond.classLink "LimbBenches" (418 : Nat) "java/lang/Integer") ∈ lw_all := lw_g (lw_at lw_m9 189 rfl) rfl
theorem q2238 : (Jvm.Cond.methodLink "LimbBenches" (536 : Nat) ({ cls := "java/lang/Integer", name := "intValue", desc := "()I" } : Jvm.MethodName)) ∈ lw_all := lw_g (lw_at lw_m9 190 rfl) rfl
theorem q2246 : (Jvm.Cond.instanceMethod ({ cls := "LimbBenches", name := "nextBy", desc := "(IIZ)I" } : Jvm.MethodName)) ∈ lw_all := lw_g (lw_at lw_m9 198 rfl) rfl
theorem q2247 : (Jvm.Cond.selects "LimbBenches" ({ cls := "LimbBenches", name := "nextBy", desc := "(IIZ)I" } : Jvm.MethodName) ({ cls := "LimbBenches", name := "nextBy", desc := "(IIZ)I" } : Jvm.MethodName)) ∈ lw_all := lw_g (lw_at lw_m9 199 rfl) rfl
theorem q2248 : (Jvm.Cond.code ({ cls := "LimbBenches", name := "nextBy", desc := "(IIZ)I" } : Jvm.MethodName) prog_1_method_93_code (6 : Nat) (Option.some Jvm.ClassFile.FieldType.int)) ∈ lw_all := lw_g (lw_at lw_m9 200 rfl) rfl
theorem q2249 : (Jvm.Cond.methodLink "LimbBenches" (552 : Nat) ({ cls := "LimbBenches", name := "nextBy", desc := "(LLimbBenches$Person;LLimbBenches$Measure;II)I" } : Jvm.MethodName)) ∈ lw_all := lw_g (lw_at lw_m9 201 rfl) rfl
theorem q2250 : (Jvm.Cond.privateMethod ({ cls := "LimbBenches", name := "nextBy", desc := "(LLimbBenches$Person;LLimbBenches$Measure;II)I" } : Jvm.MethodName)) ∈ lw_tbl := lw_at lw_m9 202 rfl
theorem q2251 : (Jvm.Cond.instanceMethod ({ cls := "LimbBenches", name := "nextBy", desc := "(LLimbBenches$Person;LLimbBenches$Measure;II)I" } : Jvm.MethodName)) ∈ lw_all := lw_g (lw_at lw_m9 203 rfl) rfl
theorem q2252 : (Jvm.Cond.code ({ cls := "LimbBenches", name := "nextBy", desc := "(LLimbBenches$Person;LLimbBenches$Measure;II)I" } : Jvm.MethodName) prog_1_method_91_code (6 : Nat) (Option.some Jvm.ClassFile.FieldType.int)) ∈ lw_all := lw_g (lw_at lw_m9 204 rfl) rfl
theorem q2253 : (Jvm.Cond.constantLong "LimbBenches" (547 : Nat) (365 : Int64)) ∈ lw_all := lw_g (lw_at lw_m9 205 rfl) rfl
theorem q2254 : (Jvm.Cond.methodLink "LimbBenches" (549 : Nat) ({ cls := "java/lang/Math", name := "abs", desc := "(J)J" } : Jvm.MethodName)) ∈ lw_all := lw_g (lw_at lw_m9 206 rfl) rfl
theorem q2261 : (Jvm.Cond.instanceMethod ({ cls := "LimbBenches", name := "chance", desc := "(III)I" } : Jvm.MethodName)) ∈ lw_all := lw_g (lw_at lw_m9 213 rfl) rfl
theorem q2262 : (Jvm.Cond.selects "LimbBenches" ({ cls := "LimbBenches", name := "chance", desc := "(III)I" } : Jvm.MethodName) ({ cls := "LimbBenches", name := "chance", desc := "(III)I" } : Jvm.MethodName)) ∈ lw_all := lw_g (lw_at lw_m9 214 rfl) rfl
theorem q2263 : (Jvm.Cond.code ({ cls := "LimbBenches", name := "chance", desc := "(III)I" } : Jvm.MethodName) prog_1_method_94_code (9 : Nat) (Option.some Jvm.ClassFile.FieldType.int)) ∈ lw_all := lw_g (lw_at lw_m9 215 rfl) rfl
theorem q2268 : (Jvm.Cond.instanceMethod ({ cls := "LimbBenches", name := "fitter", desc := "(I)I" } : Jvm.MethodName)) ∈ lw_all := lw_g (lw_at lw_m9 220 rfl) rfl
theorem q2269 : (Jvm.Cond.selects "LimbBenches" ({ cls := "LimbBenches", name := "fitter", desc := "(I)I" } : Jvm.MethodName) ({ cls := "LimbBenches", name := "fitter", desc := "(I)I" } : Jvm.MethodName)) ∈ lw_all := lw_g (lw_at lw_m9 221 rfl) rfl
theorem q2270 : (Jvm.Cond.code ({ cls := "LimbBenches", name := "fitter", desc := "(I)I" } : Jvm.MethodName) prog_1_method_96_code (3 : Nat) (Option.some Jvm.ClassFile.FieldType.int)) ∈ lw_all := lw_g (lw_at lw_m9 222 rfl) rfl
theorem q2271 : (Jvm.Cond.methodLink "LimbBenches" (556 : Nat) ({ cls := "LimbBenches", name := "isFitter", desc := "(I)Z" } : Jvm.MethodName)) ∈ lw_all := lw_g (lw_at lw_m9 223 rfl) rfl
theorem q2272 : (Jvm.Cond.static ({ cls := "LimbBenches", name := "isFitter", desc := "(I)Z" } : Jvm.MethodName)) ∈ lw_all := lw_g (lw_at lw_m9 224 rfl) rfl
theorem q2273 : (Jvm.Cond.code ({ cls := "LimbBenches", name := "isFitter", desc := "(I)Z" } : Jvm.MethodName) prog_1_method_95_code (1 : Nat) (Option.some Jvm.ClassFile.FieldType.boolean)) ∈ lw_all := lw_g (lw_at lw_m9 225 rfl) rfl
theorem q2278 : (Jvm.Cond.instanceMethod ({ cls := "LimbBenches", name := "blister", desc := "(I)I" } : Jvm.MethodName)) ∈ lw_all := lw_g (lw_at lw_m9 230 rfl) rfl
theorem q2279 : (Jvm.Cond.selects "LimbBenches" ({ cls := "LimbBenches", name := "blister", desc := "(I)I" } : Jvm.MethodName) ({ cls := "LimbBenches", name := "blister", desc := "(I)I" } : Jvm.MethodName)) ∈ lw_all := lw_g (lw_at lw_m9 231 rfl) rfl
theorem q2280 : (Jvm.Cond.code ({ cls := "LimbBenches", name := "blister", desc := "(I)I" } : Jvm.MethodName) prog_1_method_97_code (6 : Nat) (Option.some Jvm.ClassFile.FieldType.int)) ∈ lw_all := lw_g (lw_at lw_m9 232 rfl) rfl
theorem q2285 : (Jvm.Cond.instanceMethod ({ cls := "LimbBenches", name := "skill", desc := "(IZI)I" } : Jvm.MethodName)) ∈ lw_all := lw_g (lw_at lw_m9 237 rfl) rfl
theorem q2286 : (Jvm.Cond.selects "LimbBenches" ({ cls := "LimbBenches", name := "skill", desc := "(IZI)I" } : Jvm.MethodName) ({ cls := "LimbBenches", name := "skill", desc := "(IZI)I" } : Jvm.MethodName)) ∈ lw_all := lw_g (lw_at lw_m9 238 rfl) rfl
theorem q2287 : (Jvm.Cond.code ({ cls := "LimbBenches", name := "skill", desc := "(IZI)I" } : Jvm.MethodName) prog_1_method_100_code (4 : Nat) (Option.some Jvm.ClassFile.FieldType.int)) ∈ lw_all := lw_g (lw_at lw_m9 239 rfl) rfl
theorem q2288 : (Jvm.Cond.methodLink "LimbBenches" (570 : Nat) ({ cls := "LimbBenches", name := "isSpan", desc := "(I)Z" } : Jvm.MethodName)) ∈ lw_all := lw_g (lw_at lw_m10 0 rfl) rfl
theorem q2289 : (Jvm.Cond.static ({ cls := "LimbBenches", name := "isSpan", desc := "(I)Z" } : Jvm.MethodName)) ∈ lw_all := lw_g (lw_at lw_m10 1 rfl) rfl
theorem q2290 : (Jvm.Cond.code ({ cls := "LimbBenches", name := "isSpan", desc := "(I)Z" } : Jvm.MethodName) prog_1_method_99_code (1 : Nat) (Option.some Jvm.ClassFile.FieldType.boolean)) ∈ lw_all := lw_g (lw_at lw_m10 2 rfl) rfl
theorem q2291 : (Jvm.Cond.methodLink "LimbBenches" (573 : Nat) ({ cls := "LimbBenches", name := "skillOf", desc := "(IZI)I" } : Jvm.MethodName)) ∈ lw_all := lw_g (lw_at lw_m10 3 rfl) rfl
theorem q2292 : (Jvm.Cond.privateMethod ({ cls := "LimbBenches", name := "skillOf", desc := "(IZI)I" } : Jvm.MethodName)) ∈ lw_tbl := lw_at lw_m10 4 rfl
theorem q2293 : (Jvm.Cond.instanceMethod ({ cls := "LimbBenches", name := "skillOf", desc := "(IZI)I" } : Jvm.MethodName)) ∈ lw_all := lw_g (lw_at lw_m10 5 rfl) rfl
theorem q2294 : (Jvm.Cond.code ({ cls := "LimbBenches", name := "skillOf", desc := "(IZI)I" } : Jvm.MethodName) prog_1_method_98_code (7 : Nat) (Option.some Jvm.ClassFile.FieldType.int)) ∈ lw_all := lw_g (lw_at lw_m10 6 rfl) rfl
theorem q2299 : (Jvm.Cond.instanceMethod ({ cls := "LimbBenches", name := "better", desc := "(III)I" } : Jvm.MethodName)) ∈ lw_all := lw_g (lw_at lw_m10 11 rfl) rfl
theorem q2300 : (Jvm.Cond.selects "LimbBenches" ({ cls := "LimbBenches", name := "better", desc := "(III)I" } : Jvm.MethodName) ({ cls := "LimbBenches", name := "better", desc := "(III)I" } : Jvm.MethodName)) ∈ lw_all := lw_g (lw_at lw_m10 12 rfl) rfl
theorem q2301 : (Jvm.Cond.code ({ cls := "LimbBenches", name := "better", desc := "(III)I" } : Jvm.MethodName) prog_1_method_101_code (4 : Nat) (Option.some Jvm.ClassFile.FieldType.int)) ∈ lw_all := lw_g (lw_at lw_m10 13 rfl) rfl
theorem q2302 : (Jvm.Cond.methodLink "LimbBenches" (577 : Nat) ({ cls := "java/lang/Integer", name := "compare", desc := "(II)I" } : Jvm.MethodName)) ∈ lw_all := lw_g (lw_at lw_m10 14 rfl) rfl
theorem q2309 : (Jvm.Cond.instanceMethod ({ cls := "LimbBenches", name := "trial", desc := "(II)I" } : Jvm.MethodName)) ∈ lw_all := lw_g (lw_at lw_m10 21 rfl) rfl
theorem q2310 : (Jvm.Cond.selects "LimbBenches" ({ cls := "LimbBenches", name := "trial", desc := "(II)I" } : Jvm.MethodName) ({ cls := "LimbBenches", name := "trial", desc := "(II)I" } : Jvm.MethodName)) ∈ lw_all := lw_g (lw_at lw_m10 22 rfl) rfl
theorem q2311 : (Jvm.Cond.code ({ cls := "LimbBenches", name := "trial", desc := "(II)I" } : Jvm.MethodName) prog_1_method_102_code (3 : Nat) (Option.some Jvm.ClassFile.FieldType.int)) ∈ lw_all := lw_g (lw_at lw_m10 23 rfl) rfl
theorem q2313 : (Jvm.Cond.methodLink "LimbBenches" (585 : Nat) ({ cls := "LimbBenches$Pair", name := "<init>", desc := "(II)V" } : Jvm.MethodName)) ∈ lw_all := lw_g (lw_at lw_m10 25 rfl) rfl
theorem q2318 : (Jvm.Cond.fieldLinkNest "LimbBenches" (591 : Nat) "LimbBenches$Pair" "old" "I" "LimbBenches") ∈ lw_tbl := lw_at lw_m10 30 rfl
theorem q2320 : (Jvm.Cond.fieldLinkNest "LimbBenches" (588 : Nat) "LimbBenches$Pair" "now" "I" "LimbBenches") ∈ lw_tbl := lw_at lw_m10 32 rfl
theorem q2330 : (Jvm.Cond.instanceMethod ({ cls := "LimbBenches", name := "cause", desc := "(II)I" } : Jvm.MethodName)) ∈ lw_all := lw_g (lw_at lw_m10 42 rfl) rfl
theorem q2331 : (Jvm.Cond.selects "LimbBenches" ({ cls := "LimbBenches", name := "cause", desc := "(II)I" } : Jvm.MethodName) ({ cls := "LimbBenches", name := "cause", desc := "(II)I" } : Jvm.MethodName)) ∈ lw_all := lw_g (lw_at lw_m10 43 rfl) rfl
theorem q2332 : (Jvm.Cond.code ({ cls := "LimbBenches", name := "cause", desc := "(II)I" } : Jvm.MethodName) prog_1_method_108_code (3 : Nat) (Option.some Jvm.ClassFile.FieldType.int)) ∈ lw_all := lw_g (lw_at lw_m10 44 rfl) rfl
theorem q2333 : (Jvm.Cond.methodLink "LimbBenches" (600 : Nat) ({ cls := "LimbBenches", name := "isSigns", desc := "(I)Z" } : Jvm.MethodName)) ∈ lw_all := lw_g (lw_at lw_m10 45 rfl) rfl
theorem q2334 : (Jvm.Cond.static ({ cls := "LimbBenches", name := "isSigns", desc := "(I)Z" } : Jvm.MethodName)) ∈ lw_all := lw_g (lw_at lw_m10 46 rfl) rfl
theorem q2335 : (Jvm.Cond.code ({ cls := "LimbBenches", name := "isSigns", desc := "(I)Z" } : Jvm.MethodName) prog_1_method_107_code (1 : Nat) (Option.some Jvm.ClassFile.FieldType.boolean)) ∈ lw_all := lw_g (lw_at lw_m10 47 rfl) rfl
theorem q2337 : (Jvm.Cond.methodLink "LimbBenches" (608 : Nat) ({ cls := "LimbBenches$Cause", name := "<init>", desc := "(II)V" } : Jvm.MethodName)) ∈ lw_all := lw_g (lw_at lw_m10 49 rfl) rfl
theorem q2342 : (Jvm.Cond.fieldLinkNest "LimbBenches" (612 : Nat) "LimbBenches$Cause" "always" "I" "LimbBenches") ∈ lw_tbl := lw_at lw_m10 54 rfl
theorem q2344 : (Jvm.Cond.fieldLinkNest "LimbBenches" (615 : Nat) "LimbBenches$Cause" "may" "I" "LimbBenches") ∈ lw_tbl := lw_at lw_m10 56 rfl
theorem q2354 : (Jvm.Cond.instanceMethod ({ cls := "LimbBenches", name := "see", desc := "(II)I" } : Jvm.MethodName)) ∈ lw_all := lw_g (lw_at lw_m10 66 rfl) rfl
theorem q2355 : (Jvm.Cond.selects "LimbBenches" ({ cls := "LimbBenches", name := "see", desc := "(II)I" } : Jvm.MethodName) ({ cls := "LimbBenches", name := "see", desc := "(II)I" } : Jvm.MethodName)) ∈ lw_all := lw_g (lw_at lw_m10 67 rfl) rfl
theorem q2356 : (Jvm.Cond.code ({ cls := "LimbBenches", name := "see", desc := "(II)I" } : Jvm.MethodName) prog_1_method_111_code (3 : Nat) (Option.some Jvm.ClassFile.FieldType.int)) ∈ lw_all := lw_g (lw_at lw_m10 68 rfl) rfl
theorem q2361 : (Jvm.Cond.instanceMethod ({ cls := "LimbBenches", name := "walk", desc := "(III)I" } : Jvm.MethodName)) ∈ lw_all := lw_g (lw_at lw_m10 73 rfl) rfl
theorem q2362 : (Jvm.Cond.selects "LimbBenches" ({ cls := "LimbBenches", name := "walk", desc := "(III)I" } : Jvm.MethodName) ({ cls := "LimbBenches", name := "walk", desc := "(III)I" } : Jvm.MethodName)) ∈ lw_all := lw_g (lw_at lw_m10 74 rfl) rfl
theorem q2363 : (Jvm.Cond.code ({ cls := "LimbBenches", name := "walk", desc := "(III)I" } : Jvm.MethodName) prog_1_method_114_code (4 : Nat) (Option.some Jvm.ClassFile.FieldType.int)) ∈ lw_all := lw_g (lw_at lw_m10 75 rfl) rfl
theorem q2364 : (Jvm.Cond.classLink "LimbBenches" (637 : Nat) "LimbBenches$Walk") ∈ lw_all := lw_g (lw_at lw_m10 76 rfl) rfl
theorem q2366 : (Jvm.Cond.methodLink "LimbBenches" (639 : Nat) ({ cls := "LimbBenches$Walk", name := "<init>", desc := "(III)V" } : Jvm.MethodName)) ∈ lw_all := lw_g (lw_at lw_m10 78 rfl) rfl
theorem q2371 : (Jvm.Cond.fieldLinkNest "LimbBenches" (640 : Nat) "LimbBenches$Walk" "person" "I" "LimbBenches") ∈ lw_tbl := lw_at lw_m10 83 rfl
theorem q2373 : (Jvm.Cond.fieldLinkNest "LimbBenches" (641 : Nat) "LimbBenches$Walk" "day" "I" "LimbBenches") ∈ lw_tbl := lw_at lw_m10 85 rfl
theorem q2375 : (Jvm.Cond.fieldLinkNest "LimbBenches" (642 : Nat) "LimbBenches$Walk" "lean" "I" "LimbBenches") ∈ lw_tbl := lw_at lw_m10 87 rfl
theorem q2387 : (Jvm.Cond.instanceMethod ({ cls := "LimbBenches", name := "changed", desc := "(II)I" } : Jvm.MethodName)) ∈ lw_all := lw_g (lw_at lw_m10 99 rfl) rfl
theorem q2388 : (Jvm.Cond.selects "LimbBenches" ({ cls := "LimbBenches", name := "changed", desc := "(II)I" } : Jvm.MethodName) ({ cls := "LimbBenches", name := "changed", desc := "(II)I" } : Jvm.MethodName)) ∈ lw_all := lw_g (lw_at lw_m10 100 rfl) rfl
theorem q2389 : (Jvm.Cond.code ({ cls := "LimbBenches", name := "changed", desc := "(II)I" } : Jvm.MethodName) prog_1_method_115_code (10 : Nat) (Option.some Jvm.ClassFile.FieldType.int)) ∈ lw_all := lw_g (lw_at lw_m10 101 rfl) rfl
theorem q2394 : (Jvm.Cond.instanceMethod ({ cls := "LimbBenches", name := "spent", desc := "(II)I" } : Jvm.MethodName)) ∈ lw_all := lw_g (lw_at lw_m10 106 rfl) rfl
theorem q2395 : (Jvm.Cond.selects "LimbBenches" ({ cls := "LimbBenches", name := "spent", desc := "(II)I" } : Jvm.MethodName) ({ cls := "LimbBenches", name := "spent", desc := "(II)I" } : Jvm.MethodName)) ∈ lw_all := lw_g (lw_at lw_m10 107 rfl) rfl
theorem q2396 : (Jvm.Cond.code ({ cls := "LimbBenches", name := "spent", desc := "(II)I" } : Jvm.MethodName) prog_1_method_116_code (5 : Nat) (Option.some Jvm.ClassFile.FieldType.int)) ∈ lw_all := lw_g (lw_at lw_m10 108 rfl) rfl
theorem q3199 : (Jvm.Cond.castable "LimbBenches" "java/lang/Object") ∈ lw_tbl := lw_at lw_m13 191 rfl

