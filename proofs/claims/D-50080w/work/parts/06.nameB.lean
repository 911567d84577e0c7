set_option maxRecDepth 100000
abbrev cX3_init : ByteArray := prog_11_method_1_code
def yX3_init : MethodName := ⟨RX3, "<init>", "()V"⟩
def dkwX3_init_6 : List UInt8 := [181, 0, 56, 42, 180, 0, 17, 3, 16, 50, 79, 177]
abbrev dktX3_init_6 : List UInt8 := dkwX3_init_6 ++ []
def dkwX3_init_5 : List UInt8 := [197, 0, 23, 2, 181, 0, 50, 42, 16, 8, 16, 12, 197, 0, 23, 2, 181, 0, 53, 42, 16, 8, 188, 10]
abbrev dktX3_init_5 : List UInt8 := dkwX3_init_5 ++ dktX3_init_6
def dkwX3_init_4 : List UInt8 := [188, 10, 181, 0, 44, 42, 16, 8, 16, 12, 197, 0, 23, 2, 181, 0, 47, 42, 16, 8, 16, 12]
abbrev dktX3_init_4 : List UInt8 := dkwX3_init_4 ++ dktX3_init_5
def dkwX3_init_3 : List UInt8 := [188, 11, 181, 0, 35, 42, 16, 8, 188, 10, 181, 0, 38, 42, 16, 8, 188, 10, 181, 0, 41, 42, 16, 12]
abbrev dktX3_init_3 : List UInt8 := dkwX3_init_3 ++ dktX3_init_4
def dkwX3_init_2 : List UInt8 := [181, 0, 25, 42, 16, 8, 188, 11, 181, 0, 28, 42, 16, 12, 188, 11, 181, 0, 32, 42, 17, 5, 20]
abbrev dktX3_init_2 : List UInt8 := dkwX3_init_2 ++ dktX3_init_3
def dkwX3_init_1 : List UInt8 := [181, 0, 17, 42, 17, 5, 218, 188, 10, 181, 0, 20, 42, 16, 8, 17, 5, 218, 197, 0, 23, 2]
abbrev dktX3_init_1 : List UInt8 := dkwX3_init_1 ++ dktX3_init_2
def dkwX3_init_0 : List UInt8 := [42, 183, 0, 3, 42, 17, 3, 32, 188, 10, 181, 0, 9, 42, 2, 181, 0, 13, 42, 17, 5, 218, 188, 10]
abbrev dktX3_init_0 : List UInt8 := dkwX3_init_0 ++ dktX3_init_1
theorem dksX3_init_0 : cX3_init.data.toList.drop 0 = dktX3_init_0 := by decide +kernel
theorem dksX3_init_1 : cX3_init.data.toList.drop 24 = dktX3_init_1 := dk_seg dksX3_init_0 24 rfl rfl
theorem dksX3_init_2 : cX3_init.data.toList.drop 46 = dktX3_init_2 := dk_seg dksX3_init_1 22 rfl rfl
theorem dksX3_init_3 : cX3_init.data.toList.drop 69 = dktX3_init_3 := dk_seg dksX3_init_2 23 rfl rfl
theorem dksX3_init_4 : cX3_init.data.toList.drop 93 = dktX3_init_4 := dk_seg dksX3_init_3 24 rfl rfl
theorem dksX3_init_5 : cX3_init.data.toList.drop 115 = dktX3_init_5 := dk_seg dksX3_init_4 22 rfl rfl
theorem dksX3_init_6 : cX3_init.data.toList.drop 139 = dktX3_init_6 := dk_seg dksX3_init_5 24 rfl rfl
theorem dX3_init_0 : decode cX3_init 0 = .ok (.aload_n 0, 1) := dk_42 (dk_at dksX3_init_0 0 rfl rfl)
theorem dX3_init_1 : decode cX3_init 1 = .ok (.invokespecial 3, 3) := dk_183 0 3 (dk_at dksX3_init_0 1 rfl rfl)
theorem dX3_init_4 : decode cX3_init 4 = .ok (.aload_n 0, 1) := dk_42 (dk_at dksX3_init_0 4 rfl rfl)
theorem dX3_init_5 : decode cX3_init 5 = .ok (.sipush 800, 3) := dk_17 3 32 (dk_at dksX3_init_0 5 rfl rfl)
theorem dX3_init_8 : decode cX3_init 8 = .ok (.newarray .int, 2) := dk_188_10 (dk_at dksX3_init_0 8 rfl rfl)
theorem dX3_init_10 : decode cX3_init 10 = .ok (.putfield 9, 3) := dk_181 0 9 (dk_at dksX3_init_0 10 rfl rfl)
theorem dX3_init_13 : decode cX3_init 13 = .ok (.aload_n 0, 1) := dk_42 (dk_at dksX3_init_0 13 rfl rfl)
theorem dX3_init_14 : decode cX3_init 14 = .ok (.iconst (-1), 1) := dk_2 (dk_at dksX3_init_0 14 rfl rfl)
theorem dX3_init_15 : decode cX3_init 15 = .ok (.putfield 13, 3) := dk_181 0 13 (dk_at dksX3_init_0 15 rfl rfl)
theorem dX3_init_18 : decode cX3_init 18 = .ok (.aload_n 0, 1) := dk_42 (dk_at dksX3_init_0 18 rfl rfl)
theorem dX3_init_19 : decode cX3_init 19 = .ok (.sipush 1498, 3) := dk_17 5 218 (dk_at dksX3_init_0 19 rfl rfl)
theorem dX3_init_22 : decode cX3_init 22 = .ok (.newarray .int, 2) := dk_188_10 (dk_at dksX3_init_0 22 rfl rfl)
theorem dX3_init_24 : decode cX3_init 24 = .ok (.putfield 17, 3) := dk_181 0 17 (dk_at dksX3_init_1 0 rfl rfl)
theorem dX3_init_27 : decode cX3_init 27 = .ok (.aload_n 0, 1) := dk_42 (dk_at dksX3_init_1 3 rfl rfl)
theorem dX3_init_28 : decode cX3_init 28 = .ok (.sipush 1498, 3) := dk_17 5 218 (dk_at dksX3_init_1 4 rfl rfl)
theorem dX3_init_31 : decode cX3_init 31 = .ok (.newarray .int, 2) := dk_188_10 (dk_at dksX3_init_1 7 rfl rfl)
theorem dX3_init_33 : decode cX3_init 33 = .ok (.putfield 20, 3) := dk_181 0 20 (dk_at dksX3_init_1 9 rfl rfl)
theorem dX3_init_36 : decode cX3_init 36 = .ok (.aload_n 0, 1) := dk_42 (dk_at dksX3_init_1 12 rfl rfl)
theorem dX3_init_37 : decode cX3_init 37 = .ok (.bipush 8, 2) := dk_16 8 (dk_at dksX3_init_1 13 rfl rfl)
theorem dX3_init_39 : decode cX3_init 39 = .ok (.sipush 1498, 3) := dk_17 5 218 (dk_at dksX3_init_1 15 rfl rfl)
theorem dX3_init_42 : decode cX3_init 42 = .ok (.multianewarray 23 2, 4) := by decide +kernel
theorem dX3_init_46 : decode cX3_init 46 = .ok (.putfield 25, 3) := dk_181 0 25 (dk_at dksX3_init_2 0 rfl rfl)
theorem dX3_init_49 : decode cX3_init 49 = .ok (.aload_n 0, 1) := dk_42 (dk_at dksX3_init_2 3 rfl rfl)
theorem dX3_init_50 : decode cX3_init 50 = .ok (.bipush 8, 2) := dk_16 8 (dk_at dksX3_init_2 4 rfl rfl)
theorem dX3_init_52 : decode cX3_init 52 = .ok (.newarray .long, 2) := dk_188_11 (dk_at dksX3_init_2 6 rfl rfl)
theorem dX3_init_54 : decode cX3_init 54 = .ok (.putfield 28, 3) := dk_181 0 28 (dk_at dksX3_init_2 8 rfl rfl)
theorem dX3_init_57 : decode cX3_init 57 = .ok (.aload_n 0, 1) := dk_42 (dk_at dksX3_init_2 11 rfl rfl)
theorem dX3_init_58 : decode cX3_init 58 = .ok (.bipush 12, 2) := dk_16 12 (dk_at dksX3_init_2 12 rfl rfl)
theorem dX3_init_60 : decode cX3_init 60 = .ok (.newarray .long, 2) := dk_188_11 (dk_at dksX3_init_2 14 rfl rfl)
theorem dX3_init_62 : decode cX3_init 62 = .ok (.putfield 32, 3) := dk_181 0 32 (dk_at dksX3_init_2 16 rfl rfl)
theorem dX3_init_65 : decode cX3_init 65 = .ok (.aload_n 0, 1) := dk_42 (dk_at dksX3_init_2 19 rfl rfl)
theorem dX3_init_66 : decode cX3_init 66 = .ok (.sipush 1300, 3) := dk_17 5 20 (dk_at dksX3_init_2 20 rfl rfl)
theorem dX3_init_69 : decode cX3_init 69 = .ok (.newarray .long, 2) := dk_188_11 (dk_at dksX3_init_3 0 rfl rfl)
theorem dX3_init_71 : decode cX3_init 71 = .ok (.putfield 35, 3) := dk_181 0 35 (dk_at dksX3_init_3 2 rfl rfl)
theorem dX3_init_74 : decode cX3_init 74 = .ok (.aload_n 0, 1) := dk_42 (dk_at dksX3_init_3 5 rfl rfl)
theorem dX3_init_75 : decode cX3_init 75 = .ok (.bipush 8, 2) := dk_16 8 (dk_at dksX3_init_3 6 rfl rfl)
theorem dX3_init_77 : decode cX3_init 77 = .ok (.newarray .int, 2) := dk_188_10 (dk_at dksX3_init_3 8 rfl rfl)
theorem dX3_init_79 : decode cX3_init 79 = .ok (.putfield 38, 3) := dk_181 0 38 (dk_at dksX3_init_3 10 rfl rfl)
theorem dX3_init_82 : decode cX3_init 82 = .ok (.aload_n 0, 1) := dk_42 (dk_at dksX3_init_3 13 rfl rfl)
theorem dX3_init_83 : decode cX3_init 83 = .ok (.bipush 8, 2) := dk_16 8 (dk_at dksX3_init_3 14 rfl rfl)
theorem dX3_init_85 : decode cX3_init 85 = .ok (.newarray .int, 2) := dk_188_10 (dk_at dksX3_init_3 16 rfl rfl)
theorem dX3_init_87 : decode cX3_init 87 = .ok (.putfield 41, 3) := dk_181 0 41 (dk_at dksX3_init_3 18 rfl rfl)
theorem dX3_init_90 : decode cX3_init 90 = .ok (.aload_n 0, 1) := dk_42 (dk_at dksX3_init_3 21 rfl rfl)
theorem dX3_init_91 : decode cX3_init 91 = .ok (.bipush 12, 2) := dk_16 12 (dk_at dksX3_init_3 22 rfl rfl)
theorem dX3_init_93 : decode cX3_init 93 = .ok (.newarray .int, 2) := dk_188_10 (dk_at dksX3_init_4 0 rfl rfl)
theorem dX3_init_95 : decode cX3_init 95 = .ok (.putfield 44, 3) := dk_181 0 44 (dk_at dksX3_init_4 2 rfl rfl)
theorem dX3_init_98 : decode cX3_init 98 = .ok (.aload_n 0, 1) := dk_42 (dk_at dksX3_init_4 5 rfl rfl)
theorem dX3_init_99 : decode cX3_init 99 = .ok (.bipush 8, 2) := dk_16 8 (dk_at dksX3_init_4 6 rfl rfl)
theorem dX3_init_101 : decode cX3_init 101 = .ok (.bipush 12, 2) := dk_16 12 (dk_at dksX3_init_4 8 rfl rfl)
theorem dX3_init_103 : decode cX3_init 103 = .ok (.multianewarray 23 2, 4) := by decide +kernel
theorem dX3_init_107 : decode cX3_init 107 = .ok (.putfield 47, 3) := dk_181 0 47 (dk_at dksX3_init_4 14 rfl rfl)
theorem dX3_init_110 : decode cX3_init 110 = .ok (.aload_n 0, 1) := dk_42 (dk_at dksX3_init_4 17 rfl rfl)
theorem dX3_init_111 : decode cX3_init 111 = .ok (.bipush 8, 2) := dk_16 8 (dk_at dksX3_init_4 18 rfl rfl)
theorem dX3_init_113 : decode cX3_init 113 = .ok (.bipush 12, 2) := dk_16 12 (dk_at dksX3_init_4 20 rfl rfl)
theorem dX3_init_115 : decode cX3_init 115 = .ok (.multianewarray 23 2, 4) := by decide +kernel
theorem dX3_init_119 : decode cX3_init 119 = .ok (.putfield 50, 3) := dk_181 0 50 (dk_at dksX3_init_5 4 rfl rfl)
theorem dX3_init_122 : decode cX3_init 122 = .ok (.aload_n 0, 1) := dk_42 (dk_at dksX3_init_5 7 rfl rfl)
theorem dX3_init_123 : decode cX3_init 123 = .ok (.bipush 8, 2) := dk_16 8 (dk_at dksX3_init_5 8 rfl rfl)
theorem dX3_init_125 : decode cX3_init 125 = .ok (.bipush 12, 2) := dk_16 12 (dk_at dksX3_init_5 10 rfl rfl)
theorem dX3_init_127 : decode cX3_init 127 = .ok (.multianewarray 23 2, 4) := by decide +kernel
theorem dX3_init_131 : decode cX3_init 131 = .ok (.putfield 53, 3) := dk_181 0 53 (dk_at dksX3_init_5 16 rfl rfl)
theorem dX3_init_134 : decode cX3_init 134 = .ok (.aload_n 0, 1) := dk_42 (dk_at dksX3_init_5 19 rfl rfl)
theorem dX3_init_135 : decode cX3_init 135 = .ok (.bipush 8, 2) := dk_16 8 (dk_at dksX3_init_5 20 rfl rfl)
theorem dX3_init_137 : decode cX3_init 137 = .ok (.newarray .int, 2) := dk_188_10 (dk_at dksX3_init_5 22 rfl rfl)
theorem dX3_init_139 : decode cX3_init 139 = .ok (.putfield 56, 3) := dk_181 0 56 (dk_at dksX3_init_6 0 rfl rfl)
theorem dX3_init_142 : decode cX3_init 142 = .ok (.aload_n 0, 1) := dk_42 (dk_at dksX3_init_6 3 rfl rfl)
theorem dX3_init_143 : decode cX3_init 143 = .ok (.getfield 17, 3) := dk_180 0 17 (dk_at dksX3_init_6 4 rfl rfl)
theorem dX3_init_146 : decode cX3_init 146 = .ok (.iconst 0, 1) := dk_3 (dk_at dksX3_init_6 7 rfl rfl)
theorem dX3_init_147 : decode cX3_init 147 = .ok (.bipush 50, 2) := dk_16 50 (dk_at dksX3_init_6 8 rfl rfl)
theorem dX3_init_149 : decode cX3_init 149 = .ok (.iastore, 1) := dk_79 (dk_at dksX3_init_6 10 rfl rfl)
theorem dX3_init_150 : decode cX3_init 150 = .ok (.return_, 1) := dk_177 (dk_at dksX3_init_6 11 rfl rfl)
abbrev cX3_thrown : ByteArray := prog_11_method_2_code
def yX3_thrown : MethodName := ⟨RX3, "thrown", "()I"⟩
theorem dX3_thrown_0 : decode cX3_thrown 0 = .ok (.aload_n 0, 1) := by decide +kernel
theorem dX3_thrown_1 : decode cX3_thrown 1 = .ok (.getfield 59, 3) := by decide +kernel
theorem dX3_thrown_4 : decode cX3_thrown 4 = .ok (.ireturn, 1) := by decide +kernel
abbrev cX3_append : ByteArray := prog_11_method_8_code
def yX3_append : MethodName := ⟨RX3, "append", "(IIIII)I"⟩
def dkwX3_append_5 : List UInt8 := [167, 255, 162, 42, 180, 0, 62, 172]
abbrev dktX3_append_5 : List UInt8 := dkwX3_append_5 ++ []
def dkwX3_append_4 : List UInt8 := [112, 104, 100, 122, 17, 0, 255, 126, 79, 42, 89, 180, 0, 62, 4, 96, 181, 0, 62, 132, 6, 1]
abbrev dktX3_append_4 : List UInt8 := dkwX3_append_4 ++ dktX3_append_5
def dkwX3_append_3 : List UInt8 := [167, 0, 5, 21, 5, 54, 7, 42, 180, 0, 9, 42, 180, 0, 62, 21, 7, 16, 24, 16, 8, 21, 6, 7]
abbrev dktX3_append_3 : List UInt8 := dkwX3_append_3 ++ dktX3_append_4
def dkwX3_append_2 : List UInt8 := [28, 167, 0, 28, 21, 6, 16, 12, 162, 0, 7, 29, 167, 0, 17, 21, 6, 16, 16, 162, 0, 8, 21, 4]
abbrev dktX3_append_2 : List UInt8 := dkwX3_append_2 ++ dktX3_append_3
def dkwX3_append_1 : List UInt8 := [21, 6, 16, 20, 162, 0, 93, 21, 6, 7, 162, 0, 7, 27, 167, 0, 39, 21, 6, 16, 8, 162, 0, 7]
abbrev dktX3_append_1 : List UInt8 := dkwX3_append_1 ++ dktX3_append_2
def dkwX3_append_0 : List UInt8 := [42, 3, 181, 0, 59, 42, 180, 0, 62, 16, 20, 96, 17, 3, 32, 164, 0, 5, 2, 172, 3, 54, 6]
abbrev dktX3_append_0 : List UInt8 := dkwX3_append_0 ++ dktX3_append_1
theorem dksX3_append_0 : cX3_append.data.toList.drop 0 = dktX3_append_0 := by decide +kernel
theorem dksX3_append_1 : cX3_append.data.toList.drop 23 = dktX3_append_1 := dk_seg dksX3_append_0 23 rfl rfl
theorem dksX3_append_2 : cX3_append.data.toList.drop 47 = dktX3_append_2 := dk_seg dksX3_append_1 24 rfl rfl
theorem dksX3_append_3 : cX3_append.data.toList.drop 71 = dktX3_append_3 := dk_seg dksX3_append_2 24 rfl rfl
theorem dksX3_append_4 : cX3_append.data.toList.drop 95 = dktX3_append_4 := dk_seg dksX3_append_3 24 rfl rfl
theorem dksX3_append_5 : cX3_append.data.toList.drop 117 = dktX3_append_5 := dk_seg dksX3_append_4 22 rfl rfl
theorem dX3_append_0 : decode cX3_append 0 = .ok (.aload_n 0, 1) := dk_42 (dk_at dksX3_append_0 0 rfl rfl)
theorem dX3_append_1 : decode cX3_append 1 = .ok (.iconst 0, 1) := dk_3 (dk_at dksX3_append_0 1 rfl rfl)
theorem dX3_append_2 : decode cX3_append 2 = .ok (.putfield 59, 3) := dk_181 0 59 (dk_at dksX3_append_0 2 rfl rfl)
theorem dX3_append_5 : decode cX3_append 5 = .ok (.aload_n 0, 1) := dk_42 (dk_at dksX3_append_0 5 rfl rfl)
theorem dX3_append_6 : decode cX3_append 6 = .ok (.getfield 62, 3) := dk_180 0 62 (dk_at dksX3_append_0 6 rfl rfl)
theorem dX3_append_9 : decode cX3_append 9 = .ok (.bipush 20, 2) := dk_16 20 (dk_at dksX3_append_0 9 rfl rfl)
theorem dX3_append_11 : decode cX3_append 11 = .ok (.iadd, 1) := dk_96 (dk_at dksX3_append_0 11 rfl rfl)
theorem dX3_append_12 : decode cX3_append 12 = .ok (.sipush 800, 3) := dk_17 3 32 (dk_at dksX3_append_0 12 rfl rfl)
theorem dX3_append_15 : decode cX3_append 15 = .ok (.if_icmp .le 5, 3) := dk_164 0 5 (dk_at dksX3_append_0 15 rfl rfl)
theorem dX3_append_18 : decode cX3_append 18 = .ok (.iconst (-1), 1) := dk_2 (dk_at dksX3_append_0 18 rfl rfl)
theorem dX3_append_19 : decode cX3_append 19 = .ok (.ireturn, 1) := dk_172 (dk_at dksX3_append_0 19 rfl rfl)
theorem dX3_append_20 : decode cX3_append 20 = .ok (.iconst 0, 1) := dk_3 (dk_at dksX3_append_0 20 rfl rfl)
theorem dX3_append_21 : decode cX3_append 21 = .ok (.istore 6, 2) := dk_54 6 (dk_at dksX3_append_0 21 rfl rfl)
theorem dX3_append_23 : decode cX3_append 23 = .ok (.iload 6, 2) := dk_21 6 (dk_at dksX3_append_1 0 rfl rfl)
theorem dX3_append_25 : decode cX3_append 25 = .ok (.bipush 20, 2) := dk_16 20 (dk_at dksX3_append_1 2 rfl rfl)
theorem dX3_append_27 : decode cX3_append 27 = .ok (.if_icmp .ge 93, 3) := dk_162 0 93 (dk_at dksX3_append_1 4 rfl rfl)
theorem dX3_append_30 : decode cX3_append 30 = .ok (.iload 6, 2) := dk_21 6 (dk_at dksX3_append_1 7 rfl rfl)
theorem dX3_append_32 : decode cX3_append 32 = .ok (.iconst 4, 1) := dk_7 (dk_at dksX3_append_1 9 rfl rfl)
theorem dX3_append_33 : decode cX3_append 33 = .ok (.if_icmp .ge 7, 3) := dk_162 0 7 (dk_at dksX3_append_1 10 rfl rfl)
theorem dX3_append_36 : decode cX3_append 36 = .ok (.iload_n 1, 1) := dk_27 (dk_at dksX3_append_1 13 rfl rfl)
theorem dX3_append_37 : decode cX3_append 37 = .ok (.goto 39, 3) := dk_167 0 39 (dk_at dksX3_append_1 14 rfl rfl)
theorem dX3_append_40 : decode cX3_append 40 = .ok (.iload 6, 2) := dk_21 6 (dk_at dksX3_append_1 17 rfl rfl)
theorem dX3_append_42 : decode cX3_append 42 = .ok (.bipush 8, 2) := dk_16 8 (dk_at dksX3_append_1 19 rfl rfl)
theorem dX3_append_44 : decode cX3_append 44 = .ok (.if_icmp .ge 7, 3) := dk_162 0 7 (dk_at dksX3_append_1 21 rfl rfl)
theorem dX3_append_47 : decode cX3_append 47 = .ok (.iload_n 2, 1) := dk_28 (dk_at dksX3_append_2 0 rfl rfl)
theorem dX3_append_48 : decode cX3_append 48 = .ok (.goto 28, 3) := dk_167 0 28 (dk_at dksX3_append_2 1 rfl rfl)
theorem dX3_append_51 : decode cX3_append 51 = .ok (.iload 6, 2) := dk_21 6 (dk_at dksX3_append_2 4 rfl rfl)
theorem dX3_append_53 : decode cX3_append 53 = .ok (.bipush 12, 2) := dk_16 12 (dk_at dksX3_append_2 6 rfl rfl)
theorem dX3_append_55 : decode cX3_append 55 = .ok (.if_icmp .ge 7, 3) := dk_162 0 7 (dk_at dksX3_append_2 8 rfl rfl)
theorem dX3_append_58 : decode cX3_append 58 = .ok (.iload_n 3, 1) := dk_29 (dk_at dksX3_append_2 11 rfl rfl)
theorem dX3_append_59 : decode cX3_append 59 = .ok (.goto 17, 3) := dk_167 0 17 (dk_at dksX3_append_2 12 rfl rfl)
theorem dX3_append_62 : decode cX3_append 62 = .ok (.iload 6, 2) := dk_21 6 (dk_at dksX3_append_2 15 rfl rfl)
theorem dX3_append_64 : decode cX3_append 64 = .ok (.bipush 16, 2) := dk_16 16 (dk_at dksX3_append_2 17 rfl rfl)
theorem dX3_append_66 : decode cX3_append 66 = .ok (.if_icmp .ge 8, 3) := dk_162 0 8 (dk_at dksX3_append_2 19 rfl rfl)
theorem dX3_append_69 : decode cX3_append 69 = .ok (.iload 4, 2) := dk_21 4 (dk_at dksX3_append_2 22 rfl rfl)
theorem dX3_append_71 : decode cX3_append 71 = .ok (.goto 5, 3) := dk_167 0 5 (dk_at dksX3_append_3 0 rfl rfl)
theorem dX3_append_74 : decode cX3_append 74 = .ok (.iload 5, 2) := dk_21 5 (dk_at dksX3_append_3 3 rfl rfl)
theorem dX3_append_76 : decode cX3_append 76 = .ok (.istore 7, 2) := dk_54 7 (dk_at dksX3_append_3 5 rfl rfl)
theorem dX3_append_78 : decode cX3_append 78 = .ok (.aload_n 0, 1) := dk_42 (dk_at dksX3_append_3 7 rfl rfl)
theorem dX3_append_79 : decode cX3_append 79 = .ok (.getfield 9, 3) := dk_180 0 9 (dk_at dksX3_append_3 8 rfl rfl)
theorem dX3_append_82 : decode cX3_append 82 = .ok (.aload_n 0, 1) := dk_42 (dk_at dksX3_append_3 11 rfl rfl)
theorem dX3_append_83 : decode cX3_append 83 = .ok (.getfield 62, 3) := dk_180 0 62 (dk_at dksX3_append_3 12 rfl rfl)
theorem dX3_append_86 : decode cX3_append 86 = .ok (.iload 7, 2) := dk_21 7 (dk_at dksX3_append_3 15 rfl rfl)
theorem dX3_append_88 : decode cX3_append 88 = .ok (.bipush 24, 2) := dk_16 24 (dk_at dksX3_append_3 17 rfl rfl)
theorem dX3_append_90 : decode cX3_append 90 = .ok (.bipush 8, 2) := dk_16 8 (dk_at dksX3_append_3 19 rfl rfl)
theorem dX3_append_92 : decode cX3_append 92 = .ok (.iload 6, 2) := dk_21 6 (dk_at dksX3_append_3 21 rfl rfl)
theorem dX3_append_94 : decode cX3_append 94 = .ok (.iconst 4, 1) := dk_7 (dk_at dksX3_append_3 23 rfl rfl)
theorem dX3_append_95 : decode cX3_append 95 = .ok (.irem, 1) := dk_112 (dk_at dksX3_append_4 0 rfl rfl)
theorem dX3_append_96 : decode cX3_append 96 = .ok (.imul, 1) := dk_104 (dk_at dksX3_append_4 1 rfl rfl)
theorem dX3_append_97 : decode cX3_append 97 = .ok (.isub, 1) := dk_100 (dk_at dksX3_append_4 2 rfl rfl)
theorem dX3_append_98 : decode cX3_append 98 = .ok (.ishr, 1) := dk_122 (dk_at dksX3_append_4 3 rfl rfl)
theorem dX3_append_99 : decode cX3_append 99 = .ok (.sipush 255, 3) := dk_17 0 255 (dk_at dksX3_append_4 4 rfl rfl)
theorem dX3_append_102 : decode cX3_append 102 = .ok (.iand, 1) := dk_126 (dk_at dksX3_append_4 7 rfl rfl)
theorem dX3_append_103 : decode cX3_append 103 = .ok (.iastore, 1) := dk_79 (dk_at dksX3_append_4 8 rfl rfl)
theorem dX3_append_104 : decode cX3_append 104 = .ok (.aload_n 0, 1) := dk_42 (dk_at dksX3_append_4 9 rfl rfl)
theorem dX3_append_105 : decode cX3_append 105 = .ok (.dup, 1) := dk_89 (dk_at dksX3_append_4 10 rfl rfl)
theorem dX3_append_106 : decode cX3_append 106 = .ok (.getfield 62, 3) := dk_180 0 62 (dk_at dksX3_append_4 11 rfl rfl)
theorem dX3_append_109 : decode cX3_append 109 = .ok (.iconst 1, 1) := dk_4 (dk_at dksX3_append_4 14 rfl rfl)
theorem dX3_append_110 : decode cX3_append 110 = .ok (.iadd, 1) := dk_96 (dk_at dksX3_append_4 15 rfl rfl)
theorem dX3_append_111 : decode cX3_append 111 = .ok (.putfield 62, 3) := dk_181 0 62 (dk_at dksX3_append_4 16 rfl rfl)
theorem dX3_append_114 : decode cX3_append 114 = .ok (.iinc 6 1, 3) := dk_132 6 1 (dk_at dksX3_append_4 19 rfl rfl)
theorem dX3_append_117 : decode cX3_append 117 = .ok (.goto (-94), 3) := dk_167 255 162 (dk_at dksX3_append_5 0 rfl rfl)
theorem dX3_append_120 : decode cX3_append 120 = .ok (.aload_n 0, 1) := dk_42 (dk_at dksX3_append_5 3 rfl rfl)
theorem dX3_append_121 : decode cX3_append 121 = .ok (.getfield 62, 3) := dk_180 0 62 (dk_at dksX3_append_5 4 rfl rfl)
theorem dX3_append_124 : decode cX3_append 124 = .ok (.ireturn, 1) := dk_172 (dk_at dksX3_append_5 7 rfl rfl)
abbrev cX3_load : ByteArray := prog_11_method_32_code
def yX3_load : MethodName := ⟨RX3, "load", "(I)I"⟩
def dkwX3_load_7 : List UInt8 := [182, 0, 225, 42, 180, 0, 20, 42, 180, 0, 17, 184, 0, 228, 42, 180, 0, 17, 4, 46, 172]
abbrev dktX3_load_7 : List UInt8 := dkwX3_load_7 ++ []
def dkwX3_load_6 : List UInt8 := [167, 255, 237, 42, 42, 180, 0, 78, 181, 0, 13, 42, 182, 0, 85, 154, 0, 8, 42, 180, 0, 75, 172, 42]
abbrev dktX3_load_6 : List UInt8 := dkwX3_load_6 ++ dktX3_load_7
def dkwX3_load_5 : List UInt8 := [16, 59, 182, 0, 124, 42, 182, 0, 85, 153, 0, 18, 42, 182, 0, 89, 2, 159, 0, 10, 42, 182, 0, 222]
abbrev dktX3_load_5 : List UInt8 := dkwX3_load_5 ++ dktX3_load_6
def dkwX3_load_4 : List UInt8 := [16, 50, 79, 42, 18, 220, 182, 0, 130, 154, 0, 13, 42, 16, 254, 42, 180, 0, 68, 182, 0, 102, 42]
abbrev dktX3_load_4 : List UInt8 := dkwX3_load_4 ++ dktX3_load_5
def dkwX3_load_3 : List UInt8 := [17, 5, 218, 162, 0, 16, 42, 180, 0, 20, 28, 3, 79, 132, 2, 1, 167, 255, 239, 42, 180, 0, 20, 3]
abbrev dktX3_load_3 : List UInt8 := dkwX3_load_3 ++ dktX3_load_4
def dkwX3_load_2 : List UInt8 := [3, 181, 0, 75, 42, 2, 181, 0, 78, 42, 3, 181, 0, 118, 42, 3, 181, 0, 152, 3, 61, 28]
abbrev dktX3_load_2 : List UInt8 := dkwX3_load_2 ++ dktX3_load_3
def dkwX3_load_1 : List UInt8 := [182, 0, 216, 153, 0, 5, 3, 172, 42, 3, 181, 0, 62, 42, 27, 181, 0, 65, 42, 3, 181, 0, 68, 42]
abbrev dktX3_load_1 : List UInt8 := dkwX3_load_1 ++ dktX3_load_2
def dkwX3_load_0 : List UInt8 := [42, 3, 181, 0, 59, 42, 27, 3, 42, 180, 0, 62, 184, 0, 81, 154, 0, 7, 4, 167, 0, 4, 3, 4]
abbrev dktX3_load_0 : List UInt8 := dkwX3_load_0 ++ dktX3_load_1
theorem dksX3_load_0 : cX3_load.data.toList.drop 0 = dktX3_load_0 := by decide +kernel
theorem dksX3_load_1 : cX3_load.data.toList.drop 24 = dktX3_load_1 := dk_seg dksX3_load_0 24 rfl rfl
theorem dksX3_load_2 : cX3_load.data.toList.drop 48 = dktX3_load_2 := dk_seg dksX3_load_1 24 rfl rfl
theorem dksX3_load_3 : cX3_load.data.toList.drop 70 = dktX3_load_3 := dk_seg dksX3_load_2 22 rfl rfl
theorem dksX3_load_4 : cX3_load.data.toList.drop 94 = dktX3_load_4 := dk_seg dksX3_load_3 24 rfl rfl
theorem dksX3_load_5 : cX3_load.data.toList.drop 117 = dktX3_load_5 := dk_seg dksX3_load_4 23 rfl rfl
theorem dksX3_load_6 : cX3_load.data.toList.drop 141 = dktX3_load_6 := dk_seg dksX3_load_5 24 rfl rfl
theorem dksX3_load_7 : cX3_load.data.toList.drop 165 = dktX3_load_7 := dk_seg dksX3_load_6 24 rfl rfl
theorem dX3_load_0 : decode cX3_load 0 = .ok (.aload_n 0, 1) := dk_42 (dk_at dksX3_load_0 0 rfl rfl)
theorem dX3_load_1 : decode cX3_load 1 = .ok (.iconst 0, 1) := dk_3 (dk_at dksX3_load_0 1 rfl rfl)
theorem dX3_load_2 : decode cX3_load 2 = .ok (.putfield 59, 3) := dk_181 0 59 (dk_at dksX3_load_0 2 rfl rfl)
theorem dX3_load_5 : decode cX3_load 5 = .ok (.aload_n 0, 1) := dk_42 (dk_at dksX3_load_0 5 rfl rfl)
theorem dX3_load_6 : decode cX3_load 6 = .ok (.iload_n 1, 1) := dk_27 (dk_at dksX3_load_0 6 rfl rfl)
theorem dX3_load_7 : decode cX3_load 7 = .ok (.iconst 0, 1) := dk_3 (dk_at dksX3_load_0 7 rfl rfl)
theorem dX3_load_8 : decode cX3_load 8 = .ok (.aload_n 0, 1) := dk_42 (dk_at dksX3_load_0 8 rfl rfl)
theorem dX3_load_9 : decode cX3_load 9 = .ok (.getfield 62, 3) := dk_180 0 62 (dk_at dksX3_load_0 9 rfl rfl)
theorem dX3_load_12 : decode cX3_load 12 = .ok (.invokestatic 81, 3) := dk_184 0 81 (dk_at dksX3_load_0 12 rfl rfl)
theorem dX3_load_15 : decode cX3_load 15 = .ok (.ifCond .ne 7, 3) := dk_154 0 7 (dk_at dksX3_load_0 15 rfl rfl)
theorem dX3_load_18 : decode cX3_load 18 = .ok (.iconst 1, 1) := dk_4 (dk_at dksX3_load_0 18 rfl rfl)
theorem dX3_load_19 : decode cX3_load 19 = .ok (.goto 4, 3) := dk_167 0 4 (dk_at dksX3_load_0 19 rfl rfl)
theorem dX3_load_22 : decode cX3_load 22 = .ok (.iconst 0, 1) := dk_3 (dk_at dksX3_load_0 22 rfl rfl)
theorem dX3_load_23 : decode cX3_load 23 = .ok (.iconst 1, 1) := dk_4 (dk_at dksX3_load_0 23 rfl rfl)
theorem dX3_load_24 : decode cX3_load 24 = .ok (.invokevirtual 216, 3) := dk_182 0 216 (dk_at dksX3_load_1 0 rfl rfl)
theorem dX3_load_27 : decode cX3_load 27 = .ok (.ifCond .eq 5, 3) := dk_153 0 5 (dk_at dksX3_load_1 3 rfl rfl)
theorem dX3_load_30 : decode cX3_load 30 = .ok (.iconst 0, 1) := dk_3 (dk_at dksX3_load_1 6 rfl rfl)
theorem dX3_load_31 : decode cX3_load 31 = .ok (.ireturn, 1) := dk_172 (dk_at dksX3_load_1 7 rfl rfl)
theorem dX3_load_32 : decode cX3_load 32 = .ok (.aload_n 0, 1) := dk_42 (dk_at dksX3_load_1 8 rfl rfl)
theorem dX3_load_33 : decode cX3_load 33 = .ok (.iconst 0, 1) := dk_3 (dk_at dksX3_load_1 9 rfl rfl)
theorem dX3_load_34 : decode cX3_load 34 = .ok (.putfield 62, 3) := dk_181 0 62 (dk_at dksX3_load_1 10 rfl rfl)
theorem dX3_load_37 : decode cX3_load 37 = .ok (.aload_n 0, 1) := dk_42 (dk_at dksX3_load_1 13 rfl rfl)
theorem dX3_load_38 : decode cX3_load 38 = .ok (.iload_n 1, 1) := dk_27 (dk_at dksX3_load_1 14 rfl rfl)
theorem dX3_load_39 : decode cX3_load 39 = .ok (.putfield 65, 3) := dk_181 0 65 (dk_at dksX3_load_1 15 rfl rfl)
theorem dX3_load_42 : decode cX3_load 42 = .ok (.aload_n 0, 1) := dk_42 (dk_at dksX3_load_1 18 rfl rfl)
theorem dX3_load_43 : decode cX3_load 43 = .ok (.iconst 0, 1) := dk_3 (dk_at dksX3_load_1 19 rfl rfl)
theorem dX3_load_44 : decode cX3_load 44 = .ok (.putfield 68, 3) := dk_181 0 68 (dk_at dksX3_load_1 20 rfl rfl)
theorem dX3_load_47 : decode cX3_load 47 = .ok (.aload_n 0, 1) := dk_42 (dk_at dksX3_load_1 23 rfl rfl)
theorem dX3_load_48 : decode cX3_load 48 = .ok (.iconst 0, 1) := dk_3 (dk_at dksX3_load_2 0 rfl rfl)
theorem dX3_load_49 : decode cX3_load 49 = .ok (.putfield 75, 3) := dk_181 0 75 (dk_at dksX3_load_2 1 rfl rfl)
theorem dX3_load_52 : decode cX3_load 52 = .ok (.aload_n 0, 1) := dk_42 (dk_at dksX3_load_2 4 rfl rfl)
theorem dX3_load_53 : decode cX3_load 53 = .ok (.iconst (-1), 1) := dk_2 (dk_at dksX3_load_2 5 rfl rfl)
theorem dX3_load_54 : decode cX3_load 54 = .ok (.putfield 78, 3) := dk_181 0 78 (dk_at dksX3_load_2 6 rfl rfl)
theorem dX3_load_57 : decode cX3_load 57 = .ok (.aload_n 0, 1) := dk_42 (dk_at dksX3_load_2 9 rfl rfl)
theorem dX3_load_58 : decode cX3_load 58 = .ok (.iconst 0, 1) := dk_3 (dk_at dksX3_load_2 10 rfl rfl)
theorem dX3_load_59 : decode cX3_load 59 = .ok (.putfield 118, 3) := dk_181 0 118 (dk_at dksX3_load_2 11 rfl rfl)
theorem dX3_load_62 : decode cX3_load 62 = .ok (.aload_n 0, 1) := dk_42 (dk_at dksX3_load_2 14 rfl rfl)
theorem dX3_load_63 : decode cX3_load 63 = .ok (.iconst 0, 1) := dk_3 (dk_at dksX3_load_2 15 rfl rfl)
theorem dX3_load_64 : decode cX3_load 64 = .ok (.putfield 152, 3) := dk_181 0 152 (dk_at dksX3_load_2 16 rfl rfl)
theorem dX3_load_67 : decode cX3_load 67 = .ok (.iconst 0, 1) := dk_3 (dk_at dksX3_load_2 19 rfl rfl)
theorem dX3_load_68 : decode cX3_load 68 = .ok (.istore_n 2, 1) := dk_61 (dk_at dksX3_load_2 20 rfl rfl)
theorem dX3_load_69 : decode cX3_load 69 = .ok (.iload_n 2, 1) := dk_28 (dk_at dksX3_load_2 21 rfl rfl)
theorem dX3_load_70 : decode cX3_load 70 = .ok (.sipush 1498, 3) := dk_17 5 218 (dk_at dksX3_load_3 0 rfl rfl)
theorem dX3_load_73 : decode cX3_load 73 = .ok (.if_icmp .ge 16, 3) := dk_162 0 16 (dk_at dksX3_load_3 3 rfl rfl)
theorem dX3_load_76 : decode cX3_load 76 = .ok (.aload_n 0, 1) := dk_42 (dk_at dksX3_load_3 6 rfl rfl)
theorem dX3_load_77 : decode cX3_load 77 = .ok (.getfield 20, 3) := dk_180 0 20 (dk_at dksX3_load_3 7 rfl rfl)
theorem dX3_load_80 : decode cX3_load 80 = .ok (.iload_n 2, 1) := dk_28 (dk_at dksX3_load_3 10 rfl rfl)
theorem dX3_load_81 : decode cX3_load 81 = .ok (.iconst 0, 1) := dk_3 (dk_at dksX3_load_3 11 rfl rfl)
theorem dX3_load_82 : decode cX3_load 82 = .ok (.iastore, 1) := dk_79 (dk_at dksX3_load_3 12 rfl rfl)
theorem dX3_load_83 : decode cX3_load 83 = .ok (.iinc 2 1, 3) := dk_132 2 1 (dk_at dksX3_load_3 13 rfl rfl)
theorem dX3_load_86 : decode cX3_load 86 = .ok (.goto (-17), 3) := dk_167 255 239 (dk_at dksX3_load_3 16 rfl rfl)
theorem dX3_load_89 : decode cX3_load 89 = .ok (.aload_n 0, 1) := dk_42 (dk_at dksX3_load_3 19 rfl rfl)
theorem dX3_load_90 : decode cX3_load 90 = .ok (.getfield 20, 3) := dk_180 0 20 (dk_at dksX3_load_3 20 rfl rfl)
theorem dX3_load_93 : decode cX3_load 93 = .ok (.iconst 0, 1) := dk_3 (dk_at dksX3_load_3 23 rfl rfl)
theorem dX3_load_94 : decode cX3_load 94 = .ok (.bipush 50, 2) := dk_16 50 (dk_at dksX3_load_4 0 rfl rfl)
theorem dX3_load_96 : decode cX3_load 96 = .ok (.iastore, 1) := dk_79 (dk_at dksX3_load_4 2 rfl rfl)
theorem dX3_load_97 : decode cX3_load 97 = .ok (.aload_n 0, 1) := dk_42 (dk_at dksX3_load_4 3 rfl rfl)
theorem dX3_load_98 : decode cX3_load 98 = .ok (.ldc 220, 2) := dk_18 220 (dk_at dksX3_load_4 4 rfl rfl)
theorem dX3_load_100 : decode cX3_load 100 = .ok (.invokevirtual 130, 3) := dk_182 0 130 (dk_at dksX3_load_4 6 rfl rfl)
theorem dX3_load_103 : decode cX3_load 103 = .ok (.ifCond .ne 13, 3) := dk_154 0 13 (dk_at dksX3_load_4 9 rfl rfl)
theorem dX3_load_106 : decode cX3_load 106 = .ok (.aload_n 0, 1) := dk_42 (dk_at dksX3_load_4 12 rfl rfl)
theorem dX3_load_107 : decode cX3_load 107 = .ok (.bipush (-2), 2) := dk_16 254 (dk_at dksX3_load_4 13 rfl rfl)
theorem dX3_load_109 : decode cX3_load 109 = .ok (.aload_n 0, 1) := dk_42 (dk_at dksX3_load_4 15 rfl rfl)
theorem dX3_load_110 : decode cX3_load 110 = .ok (.getfield 68, 3) := dk_180 0 68 (dk_at dksX3_load_4 16 rfl rfl)
theorem dX3_load_113 : decode cX3_load 113 = .ok (.invokevirtual 102, 3) := dk_182 0 102 (dk_at dksX3_load_4 19 rfl rfl)
theorem dX3_load_116 : decode cX3_load 116 = .ok (.aload_n 0, 1) := dk_42 (dk_at dksX3_load_4 22 rfl rfl)
theorem dX3_load_117 : decode cX3_load 117 = .ok (.bipush 59, 2) := dk_16 59 (dk_at dksX3_load_5 0 rfl rfl)
theorem dX3_load_119 : decode cX3_load 119 = .ok (.invokevirtual 124, 3) := dk_182 0 124 (dk_at dksX3_load_5 2 rfl rfl)
theorem dX3_load_122 : decode cX3_load 122 = .ok (.aload_n 0, 1) := dk_42 (dk_at dksX3_load_5 5 rfl rfl)
theorem dX3_load_123 : decode cX3_load 123 = .ok (.invokevirtual 85, 3) := dk_182 0 85 (dk_at dksX3_load_5 6 rfl rfl)
theorem dX3_load_126 : decode cX3_load 126 = .ok (.ifCond .eq 18, 3) := dk_153 0 18 (dk_at dksX3_load_5 9 rfl rfl)
theorem dX3_load_129 : decode cX3_load 129 = .ok (.aload_n 0, 1) := dk_42 (dk_at dksX3_load_5 12 rfl rfl)
theorem dX3_load_130 : decode cX3_load 130 = .ok (.invokevirtual 89, 3) := dk_182 0 89 (dk_at dksX3_load_5 13 rfl rfl)
theorem dX3_load_133 : decode cX3_load 133 = .ok (.iconst (-1), 1) := dk_2 (dk_at dksX3_load_5 16 rfl rfl)
theorem dX3_load_134 : decode cX3_load 134 = .ok (.if_icmp .eq 10, 3) := dk_159 0 10 (dk_at dksX3_load_5 17 rfl rfl)
theorem dX3_load_137 : decode cX3_load 137 = .ok (.aload_n 0, 1) := dk_42 (dk_at dksX3_load_5 20 rfl rfl)
theorem dX3_load_138 : decode cX3_load 138 = .ok (.invokevirtual 222, 3) := dk_182 0 222 (dk_at dksX3_load_5 21 rfl rfl)
theorem dX3_load_141 : decode cX3_load 141 = .ok (.goto (-19), 3) := dk_167 255 237 (dk_at dksX3_load_6 0 rfl rfl)
theorem dX3_load_144 : decode cX3_load 144 = .ok (.aload_n 0, 1) := dk_42 (dk_at dksX3_load_6 3 rfl rfl)
theorem dX3_load_145 : decode cX3_load 145 = .ok (.aload_n 0, 1) := dk_42 (dk_at dksX3_load_6 4 rfl rfl)
theorem dX3_load_146 : decode cX3_load 146 = .ok (.getfield 78, 3) := dk_180 0 78 (dk_at dksX3_load_6 5 rfl rfl)
theorem dX3_load_149 : decode cX3_load 149 = .ok (.putfield 13, 3) := dk_181 0 13 (dk_at dksX3_load_6 8 rfl rfl)
theorem dX3_load_152 : decode cX3_load 152 = .ok (.aload_n 0, 1) := dk_42 (dk_at dksX3_load_6 11 rfl rfl)
theorem dX3_load_153 : decode cX3_load 153 = .ok (.invokevirtual 85, 3) := dk_182 0 85 (dk_at dksX3_load_6 12 rfl rfl)
theorem dX3_load_156 : decode cX3_load 156 = .ok (.ifCond .ne 8, 3) := dk_154 0 8 (dk_at dksX3_load_6 15 rfl rfl)
theorem dX3_load_159 : decode cX3_load 159 = .ok (.aload_n 0, 1) := dk_42 (dk_at dksX3_load_6 18 rfl rfl)
theorem dX3_load_160 : decode cX3_load 160 = .ok (.getfield 75, 3) := dk_180 0 75 (dk_at dksX3_load_6 19 rfl rfl)
theorem dX3_load_163 : decode cX3_load 163 = .ok (.ireturn, 1) := dk_172 (dk_at dksX3_load_6 22 rfl rfl)
theorem dX3_load_164 : decode cX3_load 164 = .ok (.aload_n 0, 1) := dk_42 (dk_at dksX3_load_6 23 rfl rfl)
theorem dX3_load_165 : decode cX3_load 165 = .ok (.invokevirtual 225, 3) := dk_182 0 225 (dk_at dksX3_load_7 0 rfl rfl)
theorem dX3_load_168 : decode cX3_load 168 = .ok (.aload_n 0, 1) := dk_42 (dk_at dksX3_load_7 3 rfl rfl)
theorem dX3_load_169 : decode cX3_load 169 = .ok (.getfield 20, 3) := dk_180 0 20 (dk_at dksX3_load_7 4 rfl rfl)
theorem dX3_load_172 : decode cX3_load 172 = .ok (.aload_n 0, 1) := dk_42 (dk_at dksX3_load_7 7 rfl rfl)
theorem dX3_load_173 : decode cX3_load 173 = .ok (.getfield 17, 3) := dk_180 0 17 (dk_at dksX3_load_7 8 rfl rfl)
theorem dX3_load_176 : decode cX3_load 176 = .ok (.invokestatic 228, 3) := dk_184 0 228 (dk_at dksX3_load_7 11 rfl rfl)
theorem dX3_load_179 : decode cX3_load 179 = .ok (.aload_n 0, 1) := dk_42 (dk_at dksX3_load_7 14 rfl rfl)
theorem dX3_load_180 : decode cX3_load 180 = .ok (.getfield 17, 3) := dk_180 0 17 (dk_at dksX3_load_7 15 rfl rfl)
theorem dX3_load_183 : decode cX3_load 183 = .ok (.iconst 1, 1) := dk_4 (dk_at dksX3_load_7 18 rfl rfl)
theorem dX3_load_184 : decode cX3_load 184 = .ok (.iaload, 1) := dk_46 (dk_at dksX3_load_7 19 rfl rfl)
theorem dX3_load_185 : decode cX3_load 185 = .ok (.ireturn, 1) := dk_172 (dk_at dksX3_load_7 20 rfl rfl)
abbrev cX3_in : ByteArray := prog_11_method_4_code
def yX3_in : MethodName := ⟨RX3, "in", "(III)Z"⟩
def dkwX3_in_0 : List UInt8 := [26, 27, 161, 0, 12, 26, 28, 163, 0, 7, 4, 167, 0, 4, 3, 172]
abbrev dktX3_in_0 : List UInt8 := dkwX3_in_0 ++ []
theorem dksX3_in_0 : cX3_in.data.toList.drop 0 = dktX3_in_0 := by decide +kernel
theorem dX3_in_0 : decode cX3_in 0 = .ok (.iload_n 0, 1) := dk_26 (dk_at dksX3_in_0 0 rfl rfl)
theorem dX3_in_1 : decode cX3_in 1 = .ok (.iload_n 1, 1) := dk_27 (dk_at dksX3_in_0 1 rfl rfl)
theorem dX3_in_2 : decode cX3_in 2 = .ok (.if_icmp .lt 12, 3) := dk_161 0 12 (dk_at dksX3_in_0 2 rfl rfl)
theorem dX3_in_5 : decode cX3_in 5 = .ok (.iload_n 0, 1) := dk_26 (dk_at dksX3_in_0 5 rfl rfl)
theorem dX3_in_6 : decode cX3_in 6 = .ok (.iload_n 2, 1) := dk_28 (dk_at dksX3_in_0 6 rfl rfl)
theorem dX3_in_7 : decode cX3_in 7 = .ok (.if_icmp .gt 7, 3) := dk_163 0 7 (dk_at dksX3_in_0 7 rfl rfl)
theorem dX3_in_10 : decode cX3_in 10 = .ok (.iconst 1, 1) := dk_4 (dk_at dksX3_in_0 10 rfl rfl)
theorem dX3_in_11 : decode cX3_in 11 = .ok (.goto 4, 3) := dk_167 0 4 (dk_at dksX3_in_0 11 rfl rfl)
theorem dX3_in_14 : decode cX3_in 14 = .ok (.iconst 0, 1) := dk_3 (dk_at dksX3_in_0 14 rfl rfl)
theorem dX3_in_15 : decode cX3_in 15 = .ok (.ireturn, 1) := dk_172 (dk_at dksX3_in_0 15 rfl rfl)
abbrev cX3_fails : ByteArray := prog_11_method_3_code
def yX3_fails : MethodName := ⟨RX3, "fails", "(ZI)Z"⟩
def dkwX3_fails_1 : List UInt8 := [167, 0, 4, 3, 172]
abbrev dktX3_fails_1 : List UInt8 := dkwX3_fails_1 ++ []
def dkwX3_fails_0 : List UInt8 := [27, 153, 0, 15, 42, 180, 0, 59, 154, 0, 8, 42, 28, 181, 0, 59, 42, 180, 0, 59, 153, 0, 7, 4]
abbrev dktX3_fails_0 : List UInt8 := dkwX3_fails_0 ++ dktX3_fails_1
theorem dksX3_fails_0 : cX3_fails.data.toList.drop 0 = dktX3_fails_0 := by decide +kernel
theorem dksX3_fails_1 : cX3_fails.data.toList.drop 24 = dktX3_fails_1 := dk_seg dksX3_fails_0 24 rfl rfl
theorem dX3_fails_0 : decode cX3_fails 0 = .ok (.iload_n 1, 1) := dk_27 (dk_at dksX3_fails_0 0 rfl rfl)
theorem dX3_fails_1 : decode cX3_fails 1 = .ok (.ifCond .eq 15, 3) := dk_153 0 15 (dk_at dksX3_fails_0 1 rfl rfl)
theorem dX3_fails_4 : decode cX3_fails 4 = .ok (.aload_n 0, 1) := dk_42 (dk_at dksX3_fails_0 4 rfl rfl)
theorem dX3_fails_5 : decode cX3_fails 5 = .ok (.getfield 59, 3) := dk_180 0 59 (dk_at dksX3_fails_0 5 rfl rfl)
theorem dX3_fails_8 : decode cX3_fails 8 = .ok (.ifCond .ne 8, 3) := dk_154 0 8 (dk_at dksX3_fails_0 8 rfl rfl)
theorem dX3_fails_11 : decode cX3_fails 11 = .ok (.aload_n 0, 1) := dk_42 (dk_at dksX3_fails_0 11 rfl rfl)
theorem dX3_fails_12 : decode cX3_fails 12 = .ok (.iload_n 2, 1) := dk_28 (dk_at dksX3_fails_0 12 rfl rfl)
theorem dX3_fails_13 : decode cX3_fails 13 = .ok (.putfield 59, 3) := dk_181 0 59 (dk_at dksX3_fails_0 13 rfl rfl)
theorem dX3_fails_16 : decode cX3_fails 16 = .ok (.aload_n 0, 1) := dk_42 (dk_at dksX3_fails_0 16 rfl rfl)
theorem dX3_fails_17 : decode cX3_fails 17 = .ok (.getfield 59, 3) := dk_180 0 59 (dk_at dksX3_fails_0 17 rfl rfl)
theorem dX3_fails_20 : decode cX3_fails 20 = .ok (.ifCond .eq 7, 3) := dk_153 0 7 (dk_at dksX3_fails_0 20 rfl rfl)
theorem dX3_fails_23 : decode cX3_fails 23 = .ok (.iconst 1, 1) := dk_4 (dk_at dksX3_fails_0 23 rfl rfl)
theorem dX3_fails_24 : decode cX3_fails 24 = .ok (.goto 4, 3) := dk_167 0 4 (dk_at dksX3_fails_1 0 rfl rfl)
theorem dX3_fails_27 : decode cX3_fails 27 = .ok (.iconst 0, 1) := dk_3 (dk_at dksX3_fails_1 3 rfl rfl)
theorem dX3_fails_28 : decode cX3_fails 28 = .ok (.ireturn, 1) := dk_172 (dk_at dksX3_fails_1 4 rfl rfl)
abbrev cX3_takeWord : ByteArray := prog_11_method_14_code
def yX3_takeWord : MethodName := ⟨RX3, "takeWord", "(Ljava/lang/String;)Z"⟩
def dkwX3_takeWord_3 : List UInt8 := [184, 0, 81, 153, 0, 5, 3, 172, 42, 89, 180, 0, 68, 28, 96, 181, 0, 68, 4, 172]
abbrev dktX3_takeWord_3 : List UInt8 := dkwX3_takeWord_3 ++ []
def dkwX3_takeWord_2 : List UInt8 := [28, 43, 182, 0, 93, 161, 0, 23, 42, 42, 180, 0, 68, 28, 96, 182, 0, 71, 16, 97, 16, 122]
abbrev dktX3_takeWord_2 : List UInt8 := dkwX3_takeWord_2 ++ dktX3_takeWord_3
def dkwX3_takeWord_1 : List UInt8 := [42, 42, 180, 0, 68, 28, 96, 182, 0, 71, 43, 28, 182, 0, 98, 160, 0, 9, 132, 2, 1, 167, 255, 227]
abbrev dktX3_takeWord_1 : List UInt8 := dkwX3_takeWord_1 ++ dktX3_takeWord_2
def dkwX3_takeWord_0 : List UInt8 := [42, 182, 0, 85, 154, 0, 5, 3, 172, 42, 182, 0, 89, 87, 3, 61, 28, 43, 182, 0, 93, 162, 0, 27]
abbrev dktX3_takeWord_0 : List UInt8 := dkwX3_takeWord_0 ++ dktX3_takeWord_1
theorem dksX3_takeWord_0 : cX3_takeWord.data.toList.drop 0 = dktX3_takeWord_0 := by decide +kernel
theorem dksX3_takeWord_1 : cX3_takeWord.data.toList.drop 24 = dktX3_takeWord_1 := dk_seg dksX3_takeWord_0 24 rfl rfl
theorem dksX3_takeWord_2 : cX3_takeWord.data.toList.drop 48 = dktX3_takeWord_2 := dk_seg dksX3_takeWord_1 24 rfl rfl
theorem dksX3_takeWord_3 : cX3_takeWord.data.toList.drop 70 = dktX3_takeWord_3 := dk_seg dksX3_takeWord_2 22 rfl rfl
theorem dX3_takeWord_0 : decode cX3_takeWord 0 = .ok (.aload_n 0, 1) := dk_42 (dk_at dksX3_takeWord_0 0 rfl rfl)
theorem dX3_takeWord_1 : decode cX3_takeWord 1 = .ok (.invokevirtual 85, 3) := dk_182 0 85 (dk_at dksX3_takeWord_0 1 rfl rfl)
theorem dX3_takeWord_4 : decode cX3_takeWord 4 = .ok (.ifCond .ne 5, 3) := dk_154 0 5 (dk_at dksX3_takeWord_0 4 rfl rfl)
theorem dX3_takeWord_7 : decode cX3_takeWord 7 = .ok (.iconst 0, 1) := dk_3 (dk_at dksX3_takeWord_0 7 rfl rfl)
theorem dX3_takeWord_8 : decode cX3_takeWord 8 = .ok (.ireturn, 1) := dk_172 (dk_at dksX3_takeWord_0 8 rfl rfl)
theorem dX3_takeWord_9 : decode cX3_takeWord 9 = .ok (.aload_n 0, 1) := dk_42 (dk_at dksX3_takeWord_0 9 rfl rfl)
theorem dX3_takeWord_10 : decode cX3_takeWord 10 = .ok (.invokevirtual 89, 3) := dk_182 0 89 (dk_at dksX3_takeWord_0 10 rfl rfl)
theorem dX3_takeWord_13 : decode cX3_takeWord 13 = .ok (.pop, 1) := dk_87 (dk_at dksX3_takeWord_0 13 rfl rfl)
theorem dX3_takeWord_14 : decode cX3_takeWord 14 = .ok (.iconst 0, 1) := dk_3 (dk_at dksX3_takeWord_0 14 rfl rfl)
theorem dX3_takeWord_15 : decode cX3_takeWord 15 = .ok (.istore_n 2, 1) := dk_61 (dk_at dksX3_takeWord_0 15 rfl rfl)
theorem dX3_takeWord_16 : decode cX3_takeWord 16 = .ok (.iload_n 2, 1) := dk_28 (dk_at dksX3_takeWord_0 16 rfl rfl)
theorem dX3_takeWord_17 : decode cX3_takeWord 17 = .ok (.aload_n 1, 1) := dk_43 (dk_at dksX3_takeWord_0 17 rfl rfl)
theorem dX3_takeWord_18 : decode cX3_takeWord 18 = .ok (.invokevirtual 93, 3) := dk_182 0 93 (dk_at dksX3_takeWord_0 18 rfl rfl)
theorem dX3_takeWord_21 : decode cX3_takeWord 21 = .ok (.if_icmp .ge 27, 3) := dk_162 0 27 (dk_at dksX3_takeWord_0 21 rfl rfl)
theorem dX3_takeWord_24 : decode cX3_takeWord 24 = .ok (.aload_n 0, 1) := dk_42 (dk_at dksX3_takeWord_1 0 rfl rfl)
theorem dX3_takeWord_25 : decode cX3_takeWord 25 = .ok (.aload_n 0, 1) := dk_42 (dk_at dksX3_takeWord_1 1 rfl rfl)
theorem dX3_takeWord_26 : decode cX3_takeWord 26 = .ok (.getfield 68, 3) := dk_180 0 68 (dk_at dksX3_takeWord_1 2 rfl rfl)
theorem dX3_takeWord_29 : decode cX3_takeWord 29 = .ok (.iload_n 2, 1) := dk_28 (dk_at dksX3_takeWord_1 5 rfl rfl)
theorem dX3_takeWord_30 : decode cX3_takeWord 30 = .ok (.iadd, 1) := dk_96 (dk_at dksX3_takeWord_1 6 rfl rfl)
theorem dX3_takeWord_31 : decode cX3_takeWord 31 = .ok (.invokevirtual 71, 3) := dk_182 0 71 (dk_at dksX3_takeWord_1 7 rfl rfl)
theorem dX3_takeWord_34 : decode cX3_takeWord 34 = .ok (.aload_n 1, 1) := dk_43 (dk_at dksX3_takeWord_1 10 rfl rfl)
theorem dX3_takeWord_35 : decode cX3_takeWord 35 = .ok (.iload_n 2, 1) := dk_28 (dk_at dksX3_takeWord_1 11 rfl rfl)
theorem dX3_takeWord_36 : decode cX3_takeWord 36 = .ok (.invokevirtual 98, 3) := dk_182 0 98 (dk_at dksX3_takeWord_1 12 rfl rfl)
theorem dX3_takeWord_39 : decode cX3_takeWord 39 = .ok (.if_icmp .ne 9, 3) := dk_160 0 9 (dk_at dksX3_takeWord_1 15 rfl rfl)
theorem dX3_takeWord_42 : decode cX3_takeWord 42 = .ok (.iinc 2 1, 3) := dk_132 2 1 (dk_at dksX3_takeWord_1 18 rfl rfl)
theorem dX3_takeWord_45 : decode cX3_takeWord 45 = .ok (.goto (-29), 3) := dk_167 255 227 (dk_at dksX3_takeWord_1 21 rfl rfl)
theorem dX3_takeWord_48 : decode cX3_takeWord 48 = .ok (.iload_n 2, 1) := dk_28 (dk_at dksX3_takeWord_2 0 rfl rfl)
theorem dX3_takeWord_49 : decode cX3_takeWord 49 = .ok (.aload_n 1, 1) := dk_43 (dk_at dksX3_takeWord_2 1 rfl rfl)
theorem dX3_takeWord_50 : decode cX3_takeWord 50 = .ok (.invokevirtual 93, 3) := dk_182 0 93 (dk_at dksX3_takeWord_2 2 rfl rfl)
theorem dX3_takeWord_53 : decode cX3_takeWord 53 = .ok (.if_icmp .lt 23, 3) := dk_161 0 23 (dk_at dksX3_takeWord_2 5 rfl rfl)
theorem dX3_takeWord_56 : decode cX3_takeWord 56 = .ok (.aload_n 0, 1) := dk_42 (dk_at dksX3_takeWord_2 8 rfl rfl)
theorem dX3_takeWord_57 : decode cX3_takeWord 57 = .ok (.aload_n 0, 1) := dk_42 (dk_at dksX3_takeWord_2 9 rfl rfl)
theorem dX3_takeWord_58 : decode cX3_takeWord 58 = .ok (.getfield 68, 3) := dk_180 0 68 (dk_at dksX3_takeWord_2 10 rfl rfl)
theorem dX3_takeWord_61 : decode cX3_takeWord 61 = .ok (.iload_n 2, 1) := dk_28 (dk_at dksX3_takeWord_2 13 rfl rfl)
theorem dX3_takeWord_62 : decode cX3_takeWord 62 = .ok (.iadd, 1) := dk_96 (dk_at dksX3_takeWord_2 14 rfl rfl)
theorem dX3_takeWord_63 : decode cX3_takeWord 63 = .ok (.invokevirtual 71, 3) := dk_182 0 71 (dk_at dksX3_takeWord_2 15 rfl rfl)
theorem dX3_takeWord_66 : decode cX3_takeWord 66 = .ok (.bipush 97, 2) := dk_16 97 (dk_at dksX3_takeWord_2 18 rfl rfl)
theorem dX3_takeWord_68 : decode cX3_takeWord 68 = .ok (.bipush 122, 2) := dk_16 122 (dk_at dksX3_takeWord_2 20 rfl rfl)
theorem dX3_takeWord_70 : decode cX3_takeWord 70 = .ok (.invokestatic 81, 3) := dk_184 0 81 (dk_at dksX3_takeWord_3 0 rfl rfl)
theorem dX3_takeWord_73 : decode cX3_takeWord 73 = .ok (.ifCond .eq 5, 3) := dk_153 0 5 (dk_at dksX3_takeWord_3 3 rfl rfl)
theorem dX3_takeWord_76 : decode cX3_takeWord 76 = .ok (.iconst 0, 1) := dk_3 (dk_at dksX3_takeWord_3 6 rfl rfl)
theorem dX3_takeWord_77 : decode cX3_takeWord 77 = .ok (.ireturn, 1) := dk_172 (dk_at dksX3_takeWord_3 7 rfl rfl)
theorem dX3_takeWord_78 : decode cX3_takeWord 78 = .ok (.aload_n 0, 1) := dk_42 (dk_at dksX3_takeWord_3 8 rfl rfl)
theorem dX3_takeWord_79 : decode cX3_takeWord 79 = .ok (.dup, 1) := dk_89 (dk_at dksX3_takeWord_3 9 rfl rfl)
theorem dX3_takeWord_80 : decode cX3_takeWord 80 = .ok (.getfield 68, 3) := dk_180 0 68 (dk_at dksX3_takeWord_3 10 rfl rfl)
theorem dX3_takeWord_83 : decode cX3_takeWord 83 = .ok (.iload_n 2, 1) := dk_28 (dk_at dksX3_takeWord_3 13 rfl rfl)
theorem dX3_takeWord_84 : decode cX3_takeWord 84 = .ok (.iadd, 1) := dk_96 (dk_at dksX3_takeWord_3 14 rfl rfl)
theorem dX3_takeWord_85 : decode cX3_takeWord 85 = .ok (.putfield 68, 3) := dk_181 0 68 (dk_at dksX3_takeWord_3 15 rfl rfl)
theorem dX3_takeWord_88 : decode cX3_takeWord 88 = .ok (.iconst 1, 1) := dk_4 (dk_at dksX3_takeWord_3 18 rfl rfl)
theorem dX3_takeWord_89 : decode cX3_takeWord 89 = .ok (.ireturn, 1) := dk_172 (dk_at dksX3_takeWord_3 19 rfl rfl)
abbrev cX3_isGood : ByteArray := prog_11_method_11_code
def yX3_isGood : MethodName := ⟨RX3, "isGood", "()Z"⟩
def dkwX3_isGood_0 : List UInt8 := [42, 180, 0, 75, 154, 0, 7, 4, 167, 0, 4, 3, 172]
abbrev dktX3_isGood_0 : List UInt8 := dkwX3_isGood_0 ++ []
theorem dksX3_isGood_0 : cX3_isGood.data.toList.drop 0 = dktX3_isGood_0 := by decide +kernel
theorem dX3_isGood_0 : decode cX3_isGood 0 = .ok (.aload_n 0, 1) := dk_42 (dk_at dksX3_isGood_0 0 rfl rfl)
theorem dX3_isGood_1 : decode cX3_isGood 1 = .ok (.getfield 75, 3) := dk_180 0 75 (dk_at dksX3_isGood_0 1 rfl rfl)
theorem dX3_isGood_4 : decode cX3_isGood 4 = .ok (.ifCond .ne 7, 3) := dk_154 0 7 (dk_at dksX3_isGood_0 4 rfl rfl)
theorem dX3_isGood_7 : decode cX3_isGood 7 = .ok (.iconst 1, 1) := dk_4 (dk_at dksX3_isGood_0 7 rfl rfl)
theorem dX3_isGood_8 : decode cX3_isGood 8 = .ok (.goto 4, 3) := dk_167 0 4 (dk_at dksX3_isGood_0 8 rfl rfl)
theorem dX3_isGood_11 : decode cX3_isGood 11 = .ok (.iconst 0, 1) := dk_3 (dk_at dksX3_isGood_0 11 rfl rfl)
theorem dX3_isGood_12 : decode cX3_isGood 12 = .ok (.ireturn, 1) := dk_172 (dk_at dksX3_isGood_0 12 rfl rfl)
abbrev cX3_next : ByteArray := prog_11_method_10_code
def yX3_next : MethodName := ⟨RX3, "next", "()I"⟩
def dkwX3_next_1 : List UInt8 := [167, 255, 233, 42, 42, 180, 0, 68, 182, 0, 71, 172]
abbrev dktX3_next_1 : List UInt8 := dkwX3_next_1 ++ []
def dkwX3_next_0 : List UInt8 := [42, 42, 180, 0, 68, 182, 0, 71, 16, 32, 160, 0, 16, 42, 89, 180, 0, 68, 4, 96, 181, 0, 68]
abbrev dktX3_next_0 : List UInt8 := dkwX3_next_0 ++ dktX3_next_1
theorem dksX3_next_0 : cX3_next.data.toList.drop 0 = dktX3_next_0 := by decide +kernel
theorem dksX3_next_1 : cX3_next.data.toList.drop 23 = dktX3_next_1 := dk_seg dksX3_next_0 23 rfl rfl
theorem dX3_next_0 : decode cX3_next 0 = .ok (.aload_n 0, 1) := dk_42 (dk_at dksX3_next_0 0 rfl rfl)
theorem dX3_next_1 : decode cX3_next 1 = .ok (.aload_n 0, 1) := dk_42 (dk_at dksX3_next_0 1 rfl rfl)
theorem dX3_next_2 : decode cX3_next 2 = .ok (.getfield 68, 3) := dk_180 0 68 (dk_at dksX3_next_0 2 rfl rfl)
theorem dX3_next_5 : decode cX3_next 5 = .ok (.invokevirtual 71, 3) := dk_182 0 71 (dk_at dksX3_next_0 5 rfl rfl)
theorem dX3_next_8 : decode cX3_next 8 = .ok (.bipush 32, 2) := dk_16 32 (dk_at dksX3_next_0 8 rfl rfl)
theorem dX3_next_10 : decode cX3_next 10 = .ok (.if_icmp .ne 16, 3) := dk_160 0 16 (dk_at dksX3_next_0 10 rfl rfl)
theorem dX3_next_13 : decode cX3_next 13 = .ok (.aload_n 0, 1) := dk_42 (dk_at dksX3_next_0 13 rfl rfl)
theorem dX3_next_14 : decode cX3_next 14 = .ok (.dup, 1) := dk_89 (dk_at dksX3_next_0 14 rfl rfl)
theorem dX3_next_15 : decode cX3_next 15 = .ok (.getfield 68, 3) := dk_180 0 68 (dk_at dksX3_next_0 15 rfl rfl)
theorem dX3_next_18 : decode cX3_next 18 = .ok (.iconst 1, 1) := dk_4 (dk_at dksX3_next_0 18 rfl rfl)
theorem dX3_next_19 : decode cX3_next 19 = .ok (.iadd, 1) := dk_96 (dk_at dksX3_next_0 19 rfl rfl)
theorem dX3_next_20 : decode cX3_next 20 = .ok (.putfield 68, 3) := dk_181 0 68 (dk_at dksX3_next_0 20 rfl rfl)
theorem dX3_next_23 : decode cX3_next 23 = .ok (.goto (-23), 3) := dk_167 255 233 (dk_at dksX3_next_1 0 rfl rfl)
theorem dX3_next_26 : decode cX3_next 26 = .ok (.aload_n 0, 1) := dk_42 (dk_at dksX3_next_1 3 rfl rfl)
theorem dX3_next_27 : decode cX3_next 27 = .ok (.aload_n 0, 1) := dk_42 (dk_at dksX3_next_1 4 rfl rfl)
theorem dX3_next_28 : decode cX3_next 28 = .ok (.getfield 68, 3) := dk_180 0 68 (dk_at dksX3_next_1 5 rfl rfl)
theorem dX3_next_31 : decode cX3_next 31 = .ok (.invokevirtual 71, 3) := dk_182 0 71 (dk_at dksX3_next_1 8 rfl rfl)
theorem dX3_next_34 : decode cX3_next 34 = .ok (.ireturn, 1) := dk_172 (dk_at dksX3_next_1 11 rfl rfl)
abbrev cX3_byteAt : ByteArray := prog_11_method_9_code
def yX3_byteAt : MethodName := ⟨RX3, "byteAt", "(I)I"⟩
def dkwX3_byteAt_0 : List UInt8 := [27, 42, 180, 0, 65, 162, 0, 12, 42, 180, 0, 9, 27, 46, 167, 0, 4, 2, 172]
abbrev dktX3_byteAt_0 : List UInt8 := dkwX3_byteAt_0 ++ []
theorem dksX3_byteAt_0 : cX3_byteAt.data.toList.drop 0 = dktX3_byteAt_0 := by decide +kernel
theorem dX3_byteAt_0 : decode cX3_byteAt 0 = .ok (.iload_n 1, 1) := dk_27 (dk_at dksX3_byteAt_0 0 rfl rfl)
theorem dX3_byteAt_1 : decode cX3_byteAt 1 = .ok (.aload_n 0, 1) := dk_42 (dk_at dksX3_byteAt_0 1 rfl rfl)
theorem dX3_byteAt_2 : decode cX3_byteAt 2 = .ok (.getfield 65, 3) := dk_180 0 65 (dk_at dksX3_byteAt_0 2 rfl rfl)
theorem dX3_byteAt_5 : decode cX3_byteAt 5 = .ok (.if_icmp .ge 12, 3) := dk_162 0 12 (dk_at dksX3_byteAt_0 5 rfl rfl)
theorem dX3_byteAt_8 : decode cX3_byteAt 8 = .ok (.aload_n 0, 1) := dk_42 (dk_at dksX3_byteAt_0 8 rfl rfl)
theorem dX3_byteAt_9 : decode cX3_byteAt 9 = .ok (.getfield 9, 3) := dk_180 0 9 (dk_at dksX3_byteAt_0 9 rfl rfl)
theorem dX3_byteAt_12 : decode cX3_byteAt 12 = .ok (.iload_n 1, 1) := dk_27 (dk_at dksX3_byteAt_0 12 rfl rfl)
theorem dX3_byteAt_13 : decode cX3_byteAt 13 = .ok (.iaload, 1) := dk_46 (dk_at dksX3_byteAt_0 13 rfl rfl)
theorem dX3_byteAt_14 : decode cX3_byteAt 14 = .ok (.goto 4, 3) := dk_167 0 4 (dk_at dksX3_byteAt_0 14 rfl rfl)
theorem dX3_byteAt_17 : decode cX3_byteAt 17 = .ok (.iconst (-1), 1) := dk_2 (dk_at dksX3_byteAt_0 17 rfl rfl)
theorem dX3_byteAt_18 : decode cX3_byteAt 18 = .ok (.ireturn, 1) := dk_172 (dk_at dksX3_byteAt_0 18 rfl rfl)
abbrev cX3_report : ByteArray := prog_11_method_12_code
def yX3_report : MethodName := ⟨RX3, "report", "(II)V"⟩
def dkwX3_report_0 : List UInt8 := [42, 180, 0, 75, 153, 0, 4, 177, 42, 27, 181, 0, 75, 42, 28, 181, 0, 78, 177]
abbrev dktX3_report_0 : List UInt8 := dkwX3_report_0 ++ []
theorem dksX3_report_0 : cX3_report.data.toList.drop 0 = dktX3_report_0 := by decide +kernel
theorem dX3_report_0 : decode cX3_report 0 = .ok (.aload_n 0, 1) := dk_42 (dk_at dksX3_report_0 0 rfl rfl)
theorem dX3_report_1 : decode cX3_report 1 = .ok (.getfield 75, 3) := dk_180 0 75 (dk_at dksX3_report_0 1 rfl rfl)
theorem dX3_report_4 : decode cX3_report 4 = .ok (.ifCond .eq 4, 3) := dk_153 0 4 (dk_at dksX3_report_0 4 rfl rfl)
theorem dX3_report_7 : decode cX3_report 7 = .ok (.return_, 1) := dk_177 (dk_at dksX3_report_0 7 rfl rfl)
theorem dX3_report_8 : decode cX3_report 8 = .ok (.aload_n 0, 1) := dk_42 (dk_at dksX3_report_0 8 rfl rfl)
theorem dX3_report_9 : decode cX3_report 9 = .ok (.iload_n 1, 1) := dk_27 (dk_at dksX3_report_0 9 rfl rfl)
theorem dX3_report_10 : decode cX3_report 10 = .ok (.putfield 75, 3) := dk_181 0 75 (dk_at dksX3_report_0 10 rfl rfl)
theorem dX3_report_13 : decode cX3_report 13 = .ok (.aload_n 0, 1) := dk_42 (dk_at dksX3_report_0 13 rfl rfl)
theorem dX3_report_14 : decode cX3_report 14 = .ok (.iload_n 2, 1) := dk_28 (dk_at dksX3_report_0 14 rfl rfl)
theorem dX3_report_15 : decode cX3_report 15 = .ok (.putfield 78, 3) := dk_181 0 78 (dk_at dksX3_report_0 15 rfl rfl)
theorem dX3_report_18 : decode cX3_report 18 = .ok (.return_, 1) := dk_177 (dk_at dksX3_report_0 18 rfl rfl)
abbrev cX3_expect : ByteArray := prog_11_method_15_code
def yX3_expect : MethodName := ⟨RX3, "expect", "(I)V"⟩
def dkwX3_expect_1 : List UInt8 := [181, 0, 68, 167, 0, 13, 42, 16, 254, 42, 180, 0, 68, 182, 0, 102, 177]
abbrev dktX3_expect_1 : List UInt8 := dkwX3_expect_1 ++ []
def dkwX3_expect_0 : List UInt8 := [42, 182, 0, 85, 154, 0, 4, 177, 42, 182, 0, 89, 27, 160, 0, 16, 42, 89, 180, 0, 68, 4, 96]
abbrev dktX3_expect_0 : List UInt8 := dkwX3_expect_0 ++ dktX3_expect_1
theorem dksX3_expect_0 : cX3_expect.data.toList.drop 0 = dktX3_expect_0 := by decide +kernel
theorem dksX3_expect_1 : cX3_expect.data.toList.drop 23 = dktX3_expect_1 := dk_seg dksX3_expect_0 23 rfl rfl
theorem dX3_expect_0 : decode cX3_expect 0 = .ok (.aload_n 0, 1) := dk_42 (dk_at dksX3_expect_0 0 rfl rfl)
theorem dX3_expect_1 : decode cX3_expect 1 = .ok (.invokevirtual 85, 3) := dk_182 0 85 (dk_at dksX3_expect_0 1 rfl rfl)
theorem dX3_expect_4 : decode cX3_expect 4 = .ok (.ifCond .ne 4, 3) := dk_154 0 4 (dk_at dksX3_expect_0 4 rfl rfl)
theorem dX3_expect_7 : decode cX3_expect 7 = .ok (.return_, 1) := dk_177 (dk_at dksX3_expect_0 7 rfl rfl)
theorem dX3_expect_8 : decode cX3_expect 8 = .ok (.aload_n 0, 1) := dk_42 (dk_at dksX3_expect_0 8 rfl rfl)
theorem dX3_expect_9 : decode cX3_expect 9 = .ok (.invokevirtual 89, 3) := dk_182 0 89 (dk_at dksX3_expect_0 9 rfl rfl)
theorem dX3_expect_12 : decode cX3_expect 12 = .ok (.iload_n 1, 1) := dk_27 (dk_at dksX3_expect_0 12 rfl rfl)
theorem dX3_expect_13 : decode cX3_expect 13 = .ok (.if_icmp .ne 16, 3) := dk_160 0 16 (dk_at dksX3_expect_0 13 rfl rfl)
theorem dX3_expect_16 : decode cX3_expect 16 = .ok (.aload_n 0, 1) := dk_42 (dk_at dksX3_expect_0 16 rfl rfl)
theorem dX3_expect_17 : decode cX3_expect 17 = .ok (.dup, 1) := dk_89 (dk_at dksX3_expect_0 17 rfl rfl)
theorem dX3_expect_18 : decode cX3_expect 18 = .ok (.getfield 68, 3) := dk_180 0 68 (dk_at dksX3_expect_0 18 rfl rfl)
theorem dX3_expect_21 : decode cX3_expect 21 = .ok (.iconst 1, 1) := dk_4 (dk_at dksX3_expect_0 21 rfl rfl)
theorem dX3_expect_22 : decode cX3_expect 22 = .ok (.iadd, 1) := dk_96 (dk_at dksX3_expect_0 22 rfl rfl)
theorem dX3_expect_23 : decode cX3_expect 23 = .ok (.putfield 68, 3) := dk_181 0 68 (dk_at dksX3_expect_1 0 rfl rfl)
theorem dX3_expect_26 : decode cX3_expect 26 = .ok (.goto 13, 3) := dk_167 0 13 (dk_at dksX3_expect_1 3 rfl rfl)
theorem dX3_expect_29 : decode cX3_expect 29 = .ok (.aload_n 0, 1) := dk_42 (dk_at dksX3_expect_1 6 rfl rfl)
theorem dX3_expect_30 : decode cX3_expect 30 = .ok (.bipush (-2), 2) := dk_16 254 (dk_at dksX3_expect_1 7 rfl rfl)
theorem dX3_expect_32 : decode cX3_expect 32 = .ok (.aload_n 0, 1) := dk_42 (dk_at dksX3_expect_1 9 rfl rfl)
theorem dX3_expect_33 : decode cX3_expect 33 = .ok (.getfield 68, 3) := dk_180 0 68 (dk_at dksX3_expect_1 10 rfl rfl)
theorem dX3_expect_36 : decode cX3_expect 36 = .ok (.invokevirtual 102, 3) := dk_182 0 102 (dk_at dksX3_expect_1 13 rfl rfl)
theorem dX3_expect_39 : decode cX3_expect 39 = .ok (.return_, 1) := dk_177 (dk_at dksX3_expect_1 16 rfl rfl)
abbrev cX3_statement : ByteArray := prog_11_method_31_code
def yX3_statement : MethodName := ⟨RX3, "statement", "()V"⟩
def dkwX3_statement_6 : List UInt8 := [182, 0, 102, 42, 16, 59, 182, 0, 124, 177]
abbrev dktX3_statement_6 : List UInt8 := dkwX3_statement_6 ++ []
def dkwX3_statement_5 : List UInt8 := [42, 4, 27, 182, 0, 211, 42, 180, 0, 20, 7, 4, 79, 42, 182, 0, 121, 167, 0, 10, 42, 16, 254, 27]
abbrev dktX3_statement_5 : List UInt8 := dkwX3_statement_5 ++ dktX3_statement_6
def dkwX3_statement_4 : List UInt8 := [180, 0, 20, 3, 42, 3, 16, 100, 182, 0, 140, 79, 167, 0, 39, 42, 18, 214, 182, 0, 130, 153, 0, 23]
abbrev dktX3_statement_4 : List UInt8 := dkwX3_statement_4 ++ dktX3_statement_5
def dkwX3_statement_3 : List UInt8 := [182, 0, 206, 167, 0, 70, 42, 18, 209, 182, 0, 130, 153, 0, 25, 42, 3, 27, 182, 0, 211, 42]
abbrev dktX3_statement_3 : List UInt8 := dkwX3_statement_3 ++ dktX3_statement_4
def dkwX3_statement_2 : List UInt8 := [182, 0, 130, 153, 0, 10, 42, 182, 0, 201, 167, 0, 86, 42, 18, 204, 182, 0, 130, 153, 0, 10, 42]
abbrev dktX3_statement_2 : List UInt8 := dkwX3_statement_2 ++ dktX3_statement_3
def dkwX3_statement_1 : List UInt8 := [167, 0, 119, 42, 18, 194, 182, 0, 130, 153, 0, 11, 42, 27, 182, 0, 196, 167, 0, 102, 42, 18, 199]
abbrev dktX3_statement_1 : List UInt8 := dkwX3_statement_1 ++ dktX3_statement_2
def dkwX3_statement_0 : List UInt8 := [42, 182, 0, 89, 87, 42, 180, 0, 68, 60, 42, 18, 189, 182, 0, 130, 153, 0, 11, 42, 27, 182, 0, 191]
abbrev dktX3_statement_0 : List UInt8 := dkwX3_statement_0 ++ dktX3_statement_1
theorem dksX3_statement_0 : cX3_statement.data.toList.drop 0 = dktX3_statement_0 := by decide +kernel
theorem dksX3_statement_1 : cX3_statement.data.toList.drop 24 = dktX3_statement_1 := dk_seg dksX3_statement_0 24 rfl rfl
theorem dksX3_statement_2 : cX3_statement.data.toList.drop 47 = dktX3_statement_2 := dk_seg dksX3_statement_1 23 rfl rfl
theorem dksX3_statement_3 : cX3_statement.data.toList.drop 70 = dktX3_statement_3 := dk_seg dksX3_statement_2 23 rfl rfl
theorem dksX3_statement_4 : cX3_statement.data.toList.drop 92 = dktX3_statement_4 := dk_seg dksX3_statement_3 22 rfl rfl
theorem dksX3_statement_5 : cX3_statement.data.toList.drop 116 = dktX3_statement_5 := dk_seg dksX3_statement_4 24 rfl rfl
theorem dksX3_statement_6 : cX3_statement.data.toList.drop 140 = dktX3_statement_6 := dk_seg dksX3_statement_5 24 rfl rfl
theorem dX3_statement_0 : decode cX3_statement 0 = .ok (.aload_n 0, 1) := dk_42 (dk_at dksX3_statement_0 0 rfl rfl)
theorem dX3_statement_1 : decode cX3_statement 1 = .ok (.invokevirtual 89, 3) := dk_182 0 89 (dk_at dksX3_statement_0 1 rfl rfl)
theorem dX3_statement_4 : decode cX3_statement 4 = .ok (.pop, 1) := dk_87 (dk_at dksX3_statement_0 4 rfl rfl)
theorem dX3_statement_5 : decode cX3_statement 5 = .ok (.aload_n 0, 1) := dk_42 (dk_at dksX3_statement_0 5 rfl rfl)
theorem dX3_statement_6 : decode cX3_statement 6 = .ok (.getfield 68, 3) := dk_180 0 68 (dk_at dksX3_statement_0 6 rfl rfl)
theorem dX3_statement_9 : decode cX3_statement 9 = .ok (.istore_n 1, 1) := dk_60 (dk_at dksX3_statement_0 9 rfl rfl)
theorem dX3_statement_10 : decode cX3_statement 10 = .ok (.aload_n 0, 1) := dk_42 (dk_at dksX3_statement_0 10 rfl rfl)
theorem dX3_statement_11 : decode cX3_statement 11 = .ok (.ldc 189, 2) := dk_18 189 (dk_at dksX3_statement_0 11 rfl rfl)
theorem dX3_statement_13 : decode cX3_statement 13 = .ok (.invokevirtual 130, 3) := dk_182 0 130 (dk_at dksX3_statement_0 13 rfl rfl)
theorem dX3_statement_16 : decode cX3_statement 16 = .ok (.ifCond .eq 11, 3) := dk_153 0 11 (dk_at dksX3_statement_0 16 rfl rfl)
theorem dX3_statement_19 : decode cX3_statement 19 = .ok (.aload_n 0, 1) := dk_42 (dk_at dksX3_statement_0 19 rfl rfl)
theorem dX3_statement_20 : decode cX3_statement 20 = .ok (.iload_n 1, 1) := dk_27 (dk_at dksX3_statement_0 20 rfl rfl)
theorem dX3_statement_21 : decode cX3_statement 21 = .ok (.invokevirtual 191, 3) := dk_182 0 191 (dk_at dksX3_statement_0 21 rfl rfl)
theorem dX3_statement_24 : decode cX3_statement 24 = .ok (.goto 119, 3) := dk_167 0 119 (dk_at dksX3_statement_1 0 rfl rfl)
theorem dX3_statement_27 : decode cX3_statement 27 = .ok (.aload_n 0, 1) := dk_42 (dk_at dksX3_statement_1 3 rfl rfl)
theorem dX3_statement_28 : decode cX3_statement 28 = .ok (.ldc 194, 2) := dk_18 194 (dk_at dksX3_statement_1 4 rfl rfl)
theorem dX3_statement_30 : decode cX3_statement 30 = .ok (.invokevirtual 130, 3) := dk_182 0 130 (dk_at dksX3_statement_1 6 rfl rfl)
theorem dX3_statement_33 : decode cX3_statement 33 = .ok (.ifCond .eq 11, 3) := dk_153 0 11 (dk_at dksX3_statement_1 9 rfl rfl)
theorem dX3_statement_36 : decode cX3_statement 36 = .ok (.aload_n 0, 1) := dk_42 (dk_at dksX3_statement_1 12 rfl rfl)
theorem dX3_statement_37 : decode cX3_statement 37 = .ok (.iload_n 1, 1) := dk_27 (dk_at dksX3_statement_1 13 rfl rfl)
theorem dX3_statement_38 : decode cX3_statement 38 = .ok (.invokevirtual 196, 3) := dk_182 0 196 (dk_at dksX3_statement_1 14 rfl rfl)
theorem dX3_statement_41 : decode cX3_statement 41 = .ok (.goto 102, 3) := dk_167 0 102 (dk_at dksX3_statement_1 17 rfl rfl)
theorem dX3_statement_44 : decode cX3_statement 44 = .ok (.aload_n 0, 1) := dk_42 (dk_at dksX3_statement_1 20 rfl rfl)
theorem dX3_statement_45 : decode cX3_statement 45 = .ok (.ldc 199, 2) := dk_18 199 (dk_at dksX3_statement_1 21 rfl rfl)
theorem dX3_statement_47 : decode cX3_statement 47 = .ok (.invokevirtual 130, 3) := dk_182 0 130 (dk_at dksX3_statement_2 0 rfl rfl)
theorem dX3_statement_50 : decode cX3_statement 50 = .ok (.ifCond .eq 10, 3) := dk_153 0 10 (dk_at dksX3_statement_2 3 rfl rfl)
theorem dX3_statement_53 : decode cX3_statement 53 = .ok (.aload_n 0, 1) := dk_42 (dk_at dksX3_statement_2 6 rfl rfl)
theorem dX3_statement_54 : decode cX3_statement 54 = .ok (.invokevirtual 201, 3) := dk_182 0 201 (dk_at dksX3_statement_2 7 rfl rfl)
theorem dX3_statement_57 : decode cX3_statement 57 = .ok (.goto 86, 3) := dk_167 0 86 (dk_at dksX3_statement_2 10 rfl rfl)
theorem dX3_statement_60 : decode cX3_statement 60 = .ok (.aload_n 0, 1) := dk_42 (dk_at dksX3_statement_2 13 rfl rfl)
theorem dX3_statement_61 : decode cX3_statement 61 = .ok (.ldc 204, 2) := dk_18 204 (dk_at dksX3_statement_2 14 rfl rfl)
theorem dX3_statement_63 : decode cX3_statement 63 = .ok (.invokevirtual 130, 3) := dk_182 0 130 (dk_at dksX3_statement_2 16 rfl rfl)
theorem dX3_statement_66 : decode cX3_statement 66 = .ok (.ifCond .eq 10, 3) := dk_153 0 10 (dk_at dksX3_statement_2 19 rfl rfl)
theorem dX3_statement_69 : decode cX3_statement 69 = .ok (.aload_n 0, 1) := dk_42 (dk_at dksX3_statement_2 22 rfl rfl)
theorem dX3_statement_70 : decode cX3_statement 70 = .ok (.invokevirtual 206, 3) := dk_182 0 206 (dk_at dksX3_statement_3 0 rfl rfl)
theorem dX3_statement_73 : decode cX3_statement 73 = .ok (.goto 70, 3) := dk_167 0 70 (dk_at dksX3_statement_3 3 rfl rfl)
theorem dX3_statement_76 : decode cX3_statement 76 = .ok (.aload_n 0, 1) := dk_42 (dk_at dksX3_statement_3 6 rfl rfl)
theorem dX3_statement_77 : decode cX3_statement 77 = .ok (.ldc 209, 2) := dk_18 209 (dk_at dksX3_statement_3 7 rfl rfl)
theorem dX3_statement_79 : decode cX3_statement 79 = .ok (.invokevirtual 130, 3) := dk_182 0 130 (dk_at dksX3_statement_3 9 rfl rfl)
theorem dX3_statement_82 : decode cX3_statement 82 = .ok (.ifCond .eq 25, 3) := dk_153 0 25 (dk_at dksX3_statement_3 12 rfl rfl)
theorem dX3_statement_85 : decode cX3_statement 85 = .ok (.aload_n 0, 1) := dk_42 (dk_at dksX3_statement_3 15 rfl rfl)
theorem dX3_statement_86 : decode cX3_statement 86 = .ok (.iconst 0, 1) := dk_3 (dk_at dksX3_statement_3 16 rfl rfl)
theorem dX3_statement_87 : decode cX3_statement 87 = .ok (.iload_n 1, 1) := dk_27 (dk_at dksX3_statement_3 17 rfl rfl)
theorem dX3_statement_88 : decode cX3_statement 88 = .ok (.invokevirtual 211, 3) := dk_182 0 211 (dk_at dksX3_statement_3 18 rfl rfl)
theorem dX3_statement_91 : decode cX3_statement 91 = .ok (.aload_n 0, 1) := dk_42 (dk_at dksX3_statement_3 21 rfl rfl)
theorem dX3_statement_92 : decode cX3_statement 92 = .ok (.getfield 20, 3) := dk_180 0 20 (dk_at dksX3_statement_4 0 rfl rfl)
theorem dX3_statement_95 : decode cX3_statement 95 = .ok (.iconst 0, 1) := dk_3 (dk_at dksX3_statement_4 3 rfl rfl)
theorem dX3_statement_96 : decode cX3_statement 96 = .ok (.aload_n 0, 1) := dk_42 (dk_at dksX3_statement_4 4 rfl rfl)
theorem dX3_statement_97 : decode cX3_statement 97 = .ok (.iconst 0, 1) := dk_3 (dk_at dksX3_statement_4 5 rfl rfl)
theorem dX3_statement_98 : decode cX3_statement 98 = .ok (.bipush 100, 2) := dk_16 100 (dk_at dksX3_statement_4 6 rfl rfl)
theorem dX3_statement_100 : decode cX3_statement 100 = .ok (.invokevirtual 140, 3) := dk_182 0 140 (dk_at dksX3_statement_4 8 rfl rfl)
theorem dX3_statement_103 : decode cX3_statement 103 = .ok (.iastore, 1) := dk_79 (dk_at dksX3_statement_4 11 rfl rfl)
theorem dX3_statement_104 : decode cX3_statement 104 = .ok (.goto 39, 3) := dk_167 0 39 (dk_at dksX3_statement_4 12 rfl rfl)
theorem dX3_statement_107 : decode cX3_statement 107 = .ok (.aload_n 0, 1) := dk_42 (dk_at dksX3_statement_4 15 rfl rfl)
theorem dX3_statement_108 : decode cX3_statement 108 = .ok (.ldc 214, 2) := dk_18 214 (dk_at dksX3_statement_4 16 rfl rfl)
theorem dX3_statement_110 : decode cX3_statement 110 = .ok (.invokevirtual 130, 3) := dk_182 0 130 (dk_at dksX3_statement_4 18 rfl rfl)
theorem dX3_statement_113 : decode cX3_statement 113 = .ok (.ifCond .eq 23, 3) := dk_153 0 23 (dk_at dksX3_statement_4 21 rfl rfl)
theorem dX3_statement_116 : decode cX3_statement 116 = .ok (.aload_n 0, 1) := dk_42 (dk_at dksX3_statement_5 0 rfl rfl)
theorem dX3_statement_117 : decode cX3_statement 117 = .ok (.iconst 1, 1) := dk_4 (dk_at dksX3_statement_5 1 rfl rfl)
theorem dX3_statement_118 : decode cX3_statement 118 = .ok (.iload_n 1, 1) := dk_27 (dk_at dksX3_statement_5 2 rfl rfl)
theorem dX3_statement_119 : decode cX3_statement 119 = .ok (.invokevirtual 211, 3) := dk_182 0 211 (dk_at dksX3_statement_5 3 rfl rfl)
theorem dX3_statement_122 : decode cX3_statement 122 = .ok (.aload_n 0, 1) := dk_42 (dk_at dksX3_statement_5 6 rfl rfl)
theorem dX3_statement_123 : decode cX3_statement 123 = .ok (.getfield 20, 3) := dk_180 0 20 (dk_at dksX3_statement_5 7 rfl rfl)
theorem dX3_statement_126 : decode cX3_statement 126 = .ok (.iconst 4, 1) := dk_7 (dk_at dksX3_statement_5 10 rfl rfl)
theorem dX3_statement_127 : decode cX3_statement 127 = .ok (.iconst 1, 1) := dk_4 (dk_at dksX3_statement_5 11 rfl rfl)
theorem dX3_statement_128 : decode cX3_statement 128 = .ok (.iastore, 1) := dk_79 (dk_at dksX3_statement_5 12 rfl rfl)
theorem dX3_statement_129 : decode cX3_statement 129 = .ok (.aload_n 0, 1) := dk_42 (dk_at dksX3_statement_5 13 rfl rfl)
theorem dX3_statement_130 : decode cX3_statement 130 = .ok (.invokevirtual 121, 3) := dk_182 0 121 (dk_at dksX3_statement_5 14 rfl rfl)
theorem dX3_statement_133 : decode cX3_statement 133 = .ok (.goto 10, 3) := dk_167 0 10 (dk_at dksX3_statement_5 17 rfl rfl)
theorem dX3_statement_136 : decode cX3_statement 136 = .ok (.aload_n 0, 1) := dk_42 (dk_at dksX3_statement_5 20 rfl rfl)
theorem dX3_statement_137 : decode cX3_statement 137 = .ok (.bipush (-2), 2) := dk_16 254 (dk_at dksX3_statement_5 21 rfl rfl)
theorem dX3_statement_139 : decode cX3_statement 139 = .ok (.iload_n 1, 1) := dk_27 (dk_at dksX3_statement_5 23 rfl rfl)
theorem dX3_statement_140 : decode cX3_statement 140 = .ok (.invokevirtual 102, 3) := dk_182 0 102 (dk_at dksX3_statement_6 0 rfl rfl)
theorem dX3_statement_143 : decode cX3_statement 143 = .ok (.aload_n 0, 1) := dk_42 (dk_at dksX3_statement_6 3 rfl rfl)
theorem dX3_statement_144 : decode cX3_statement 144 = .ok (.bipush 59, 2) := dk_16 59 (dk_at dksX3_statement_6 4 rfl rfl)
theorem dX3_statement_146 : decode cX3_statement 146 = .ok (.invokevirtual 124, 3) := dk_182 0 124 (dk_at dksX3_statement_6 6 rfl rfl)
theorem dX3_statement_149 : decode cX3_statement 149 = .ok (.return_, 1) := dk_177 (dk_at dksX3_statement_6 9 rfl rfl)
abbrev cX3_readName : ByteArray := prog_11_method_26_code
def yX3_readName : MethodName := ⟨RX3, "readName", "(I)V"⟩
def dkwX3_readName_2 : List UInt8 := [180, 0, 20, 5, 46, 32, 80, 42, 180, 0, 20, 5, 92, 46, 4, 96, 79, 177]
abbrev dktX3_readName_2 : List UInt8 := dkwX3_readName_2 ++ []
def dkwX3_readName_1 : List UInt8 := [42, 180, 0, 32, 42, 180, 0, 20, 5, 46, 32, 182, 0, 170, 154, 0, 4, 177, 42, 180, 0, 32, 42]
abbrev dktX3_readName_1 : List UInt8 := dkwX3_readName_1 ++ dktX3_readName_2
def dkwX3_readName_0 : List UInt8 := [42, 180, 0, 20, 5, 46, 16, 12, 160, 0, 10, 42, 16, 250, 27, 182, 0, 102, 42, 182, 0, 162, 65, 42]
abbrev dktX3_readName_0 : List UInt8 := dkwX3_readName_0 ++ dktX3_readName_1
theorem dksX3_readName_0 : cX3_readName.data.toList.drop 0 = dktX3_readName_0 := by decide +kernel
theorem dksX3_readName_1 : cX3_readName.data.toList.drop 24 = dktX3_readName_1 := dk_seg dksX3_readName_0 24 rfl rfl
theorem dksX3_readName_2 : cX3_readName.data.toList.drop 47 = dktX3_readName_2 := dk_seg dksX3_readName_1 23 rfl rfl
theorem dX3_readName_0 : decode cX3_readName 0 = .ok (.aload_n 0, 1) := dk_42 (dk_at dksX3_readName_0 0 rfl rfl)
theorem dX3_readName_1 : decode cX3_readName 1 = .ok (.getfield 20, 3) := dk_180 0 20 (dk_at dksX3_readName_0 1 rfl rfl)
theorem dX3_readName_4 : decode cX3_readName 4 = .ok (.iconst 2, 1) := dk_5 (dk_at dksX3_readName_0 4 rfl rfl)
theorem dX3_readName_5 : decode cX3_readName 5 = .ok (.iaload, 1) := dk_46 (dk_at dksX3_readName_0 5 rfl rfl)
theorem dX3_readName_6 : decode cX3_readName 6 = .ok (.bipush 12, 2) := dk_16 12 (dk_at dksX3_readName_0 6 rfl rfl)
theorem dX3_readName_8 : decode cX3_readName 8 = .ok (.if_icmp .ne 10, 3) := dk_160 0 10 (dk_at dksX3_readName_0 8 rfl rfl)
theorem dX3_readName_11 : decode cX3_readName 11 = .ok (.aload_n 0, 1) := dk_42 (dk_at dksX3_readName_0 11 rfl rfl)
theorem dX3_readName_12 : decode cX3_readName 12 = .ok (.bipush (-6), 2) := dk_16 250 (dk_at dksX3_readName_0 12 rfl rfl)
theorem dX3_readName_14 : decode cX3_readName 14 = .ok (.iload_n 1, 1) := dk_27 (dk_at dksX3_readName_0 14 rfl rfl)
theorem dX3_readName_15 : decode cX3_readName 15 = .ok (.invokevirtual 102, 3) := dk_182 0 102 (dk_at dksX3_readName_0 15 rfl rfl)
theorem dX3_readName_18 : decode cX3_readName 18 = .ok (.aload_n 0, 1) := dk_42 (dk_at dksX3_readName_0 18 rfl rfl)
theorem dX3_readName_19 : decode cX3_readName 19 = .ok (.invokevirtual 162, 3) := dk_182 0 162 (dk_at dksX3_readName_0 19 rfl rfl)
theorem dX3_readName_22 : decode cX3_readName 22 = .ok (.lstore_n 2, 1) := dk_65 (dk_at dksX3_readName_0 22 rfl rfl)
theorem dX3_readName_23 : decode cX3_readName 23 = .ok (.aload_n 0, 1) := dk_42 (dk_at dksX3_readName_0 23 rfl rfl)
theorem dX3_readName_24 : decode cX3_readName 24 = .ok (.aload_n 0, 1) := dk_42 (dk_at dksX3_readName_1 0 rfl rfl)
theorem dX3_readName_25 : decode cX3_readName 25 = .ok (.getfield 32, 3) := dk_180 0 32 (dk_at dksX3_readName_1 1 rfl rfl)
theorem dX3_readName_28 : decode cX3_readName 28 = .ok (.aload_n 0, 1) := dk_42 (dk_at dksX3_readName_1 4 rfl rfl)
theorem dX3_readName_29 : decode cX3_readName 29 = .ok (.getfield 20, 3) := dk_180 0 20 (dk_at dksX3_readName_1 5 rfl rfl)
theorem dX3_readName_32 : decode cX3_readName 32 = .ok (.iconst 2, 1) := dk_5 (dk_at dksX3_readName_1 8 rfl rfl)
theorem dX3_readName_33 : decode cX3_readName 33 = .ok (.iaload, 1) := dk_46 (dk_at dksX3_readName_1 9 rfl rfl)
theorem dX3_readName_34 : decode cX3_readName 34 = .ok (.lload_n 2, 1) := dk_32 (dk_at dksX3_readName_1 10 rfl rfl)
theorem dX3_readName_35 : decode cX3_readName 35 = .ok (.invokevirtual 170, 3) := dk_182 0 170 (dk_at dksX3_readName_1 11 rfl rfl)
theorem dX3_readName_38 : decode cX3_readName 38 = .ok (.ifCond .ne 4, 3) := dk_154 0 4 (dk_at dksX3_readName_1 14 rfl rfl)
theorem dX3_readName_41 : decode cX3_readName 41 = .ok (.return_, 1) := dk_177 (dk_at dksX3_readName_1 17 rfl rfl)
theorem dX3_readName_42 : decode cX3_readName 42 = .ok (.aload_n 0, 1) := dk_42 (dk_at dksX3_readName_1 18 rfl rfl)
theorem dX3_readName_43 : decode cX3_readName 43 = .ok (.getfield 32, 3) := dk_180 0 32 (dk_at dksX3_readName_1 19 rfl rfl)
theorem dX3_readName_46 : decode cX3_readName 46 = .ok (.aload_n 0, 1) := dk_42 (dk_at dksX3_readName_1 22 rfl rfl)
theorem dX3_readName_47 : decode cX3_readName 47 = .ok (.getfield 20, 3) := dk_180 0 20 (dk_at dksX3_readName_2 0 rfl rfl)
theorem dX3_readName_50 : decode cX3_readName 50 = .ok (.iconst 2, 1) := dk_5 (dk_at dksX3_readName_2 3 rfl rfl)
theorem dX3_readName_51 : decode cX3_readName 51 = .ok (.iaload, 1) := dk_46 (dk_at dksX3_readName_2 4 rfl rfl)
theorem dX3_readName_52 : decode cX3_readName 52 = .ok (.lload_n 2, 1) := dk_32 (dk_at dksX3_readName_2 5 rfl rfl)
theorem dX3_readName_53 : decode cX3_readName 53 = .ok (.lastore, 1) := dk_80 (dk_at dksX3_readName_2 6 rfl rfl)
theorem dX3_readName_54 : decode cX3_readName 54 = .ok (.aload_n 0, 1) := dk_42 (dk_at dksX3_readName_2 7 rfl rfl)
theorem dX3_readName_55 : decode cX3_readName 55 = .ok (.getfield 20, 3) := dk_180 0 20 (dk_at dksX3_readName_2 8 rfl rfl)
theorem dX3_readName_58 : decode cX3_readName 58 = .ok (.iconst 2, 1) := dk_5 (dk_at dksX3_readName_2 11 rfl rfl)
theorem dX3_readName_59 : decode cX3_readName 59 = .ok (.dup2, 1) := dk_92 (dk_at dksX3_readName_2 12 rfl rfl)
theorem dX3_readName_60 : decode cX3_readName 60 = .ok (.iaload, 1) := dk_46 (dk_at dksX3_readName_2 13 rfl rfl)
theorem dX3_readName_61 : decode cX3_readName 61 = .ok (.iconst 1, 1) := dk_4 (dk_at dksX3_readName_2 14 rfl rfl)
theorem dX3_readName_62 : decode cX3_readName 62 = .ok (.iadd, 1) := dk_96 (dk_at dksX3_readName_2 15 rfl rfl)
theorem dX3_readName_63 : decode cX3_readName 63 = .ok (.iastore, 1) := dk_79 (dk_at dksX3_readName_2 16 rfl rfl)
theorem dX3_readName_64 : decode cX3_readName 64 = .ok (.return_, 1) := dk_177 (dk_at dksX3_readName_2 17 rfl rfl)
abbrev cX3_readWord : ByteArray := prog_11_method_22_code
def yX3_readWord : MethodName := ⟨RX3, "readWord", "()J"⟩
def dkwX3_readWord_6 : List UInt8 := [9, 173]
abbrev dktX3_readWord_6 : List UInt8 := dkwX3_readWord_6 ++ []
def dkwX3_readWord_5 : List UInt8 := [164, 0, 13, 42, 16, 254, 42, 180, 0, 155, 182, 0, 102, 42, 182, 0, 85, 153, 0, 7, 31, 167, 0, 4]
abbrev dktX3_readWord_5 : List UInt8 := dkwX3_readWord_5 ++ dktX3_readWord_6
def dkwX3_readWord_4 : List UInt8 := [42, 180, 0, 68, 42, 180, 0, 155, 159, 0, 17, 42, 180, 0, 68, 42, 180, 0, 155, 100, 16, 8]
abbrev dktX3_readWord_4 : List UInt8 := dkwX3_readWord_4 ++ dktX3_readWord_5
def dkwX3_readWord_3 : List UInt8 := [20, 0, 160, 101, 10, 97, 167, 0, 4, 31, 64, 42, 89, 180, 0, 68, 4, 96, 181, 0, 68, 167, 255, 188]
abbrev dktX3_readWord_3 : List UInt8 := dkwX3_readWord_3 ++ dktX3_readWord_4
def dkwX3_readWord_2 : List UInt8 := [180, 0, 155, 100, 16, 8, 162, 0, 27, 20, 0, 158, 31, 105, 42, 42, 180, 0, 68, 182, 0, 71, 133, 97]
abbrev dktX3_readWord_2 : List UInt8 := dkwX3_readWord_2 ++ dktX3_readWord_3
def dkwX3_readWord_1 : List UInt8 := [42, 42, 180, 0, 68, 182, 0, 71, 16, 97, 16, 122, 184, 0, 81, 153, 0, 56, 42, 180, 0, 68, 42]
abbrev dktX3_readWord_1 : List UInt8 := dkwX3_readWord_1 ++ dktX3_readWord_2
def dkwX3_readWord_0 : List UInt8 := [42, 182, 0, 85, 154, 0, 5, 9, 173, 42, 182, 0, 89, 87, 42, 42, 180, 0, 68, 181, 0, 155, 9, 64]
abbrev dktX3_readWord_0 : List UInt8 := dkwX3_readWord_0 ++ dktX3_readWord_1
theorem dksX3_readWord_0 : cX3_readWord.data.toList.drop 0 = dktX3_readWord_0 := by decide +kernel
theorem dksX3_readWord_1 : cX3_readWord.data.toList.drop 24 = dktX3_readWord_1 := dk_seg dksX3_readWord_0 24 rfl rfl
theorem dksX3_readWord_2 : cX3_readWord.data.toList.drop 47 = dktX3_readWord_2 := dk_seg dksX3_readWord_1 23 rfl rfl
theorem dksX3_readWord_3 : cX3_readWord.data.toList.drop 71 = dktX3_readWord_3 := dk_seg dksX3_readWord_2 24 rfl rfl
theorem dksX3_readWord_4 : cX3_readWord.data.toList.drop 95 = dktX3_readWord_4 := dk_seg dksX3_readWord_3 24 rfl rfl
theorem dksX3_readWord_5 : cX3_readWord.data.toList.drop 117 = dktX3_readWord_5 := dk_seg dksX3_readWord_4 22 rfl rfl
theorem dksX3_readWord_6 : cX3_readWord.data.toList.drop 141 = dktX3_readWord_6 := dk_seg dksX3_readWord_5 24 rfl rfl
theorem dX3_readWord_0 : decode cX3_readWord 0 = .ok (.aload_n 0, 1) := dk_42 (dk_at dksX3_readWord_0 0 rfl rfl)
theorem dX3_readWord_1 : decode cX3_readWord 1 = .ok (.invokevirtual 85, 3) := dk_182 0 85 (dk_at dksX3_readWord_0 1 rfl rfl)
theorem dX3_readWord_4 : decode cX3_readWord 4 = .ok (.ifCond .ne 5, 3) := dk_154 0 5 (dk_at dksX3_readWord_0 4 rfl rfl)
theorem dX3_readWord_7 : decode cX3_readWord 7 = .ok (.lconst 0, 1) := dk_9 (dk_at dksX3_readWord_0 7 rfl rfl)
theorem dX3_readWord_8 : decode cX3_readWord 8 = .ok (.lreturn, 1) := dk_173 (dk_at dksX3_readWord_0 8 rfl rfl)
theorem dX3_readWord_9 : decode cX3_readWord 9 = .ok (.aload_n 0, 1) := dk_42 (dk_at dksX3_readWord_0 9 rfl rfl)
theorem dX3_readWord_10 : decode cX3_readWord 10 = .ok (.invokevirtual 89, 3) := dk_182 0 89 (dk_at dksX3_readWord_0 10 rfl rfl)
theorem dX3_readWord_13 : decode cX3_readWord 13 = .ok (.pop, 1) := dk_87 (dk_at dksX3_readWord_0 13 rfl rfl)
theorem dX3_readWord_14 : decode cX3_readWord 14 = .ok (.aload_n 0, 1) := dk_42 (dk_at dksX3_readWord_0 14 rfl rfl)
theorem dX3_readWord_15 : decode cX3_readWord 15 = .ok (.aload_n 0, 1) := dk_42 (dk_at dksX3_readWord_0 15 rfl rfl)
theorem dX3_readWord_16 : decode cX3_readWord 16 = .ok (.getfield 68, 3) := dk_180 0 68 (dk_at dksX3_readWord_0 16 rfl rfl)
theorem dX3_readWord_19 : decode cX3_readWord 19 = .ok (.putfield 155, 3) := dk_181 0 155 (dk_at dksX3_readWord_0 19 rfl rfl)
theorem dX3_readWord_22 : decode cX3_readWord 22 = .ok (.lconst 0, 1) := dk_9 (dk_at dksX3_readWord_0 22 rfl rfl)
theorem dX3_readWord_23 : decode cX3_readWord 23 = .ok (.lstore_n 1, 1) := dk_64 (dk_at dksX3_readWord_0 23 rfl rfl)
theorem dX3_readWord_24 : decode cX3_readWord 24 = .ok (.aload_n 0, 1) := dk_42 (dk_at dksX3_readWord_1 0 rfl rfl)
theorem dX3_readWord_25 : decode cX3_readWord 25 = .ok (.aload_n 0, 1) := dk_42 (dk_at dksX3_readWord_1 1 rfl rfl)
theorem dX3_readWord_26 : decode cX3_readWord 26 = .ok (.getfield 68, 3) := dk_180 0 68 (dk_at dksX3_readWord_1 2 rfl rfl)
theorem dX3_readWord_29 : decode cX3_readWord 29 = .ok (.invokevirtual 71, 3) := dk_182 0 71 (dk_at dksX3_readWord_1 5 rfl rfl)
theorem dX3_readWord_32 : decode cX3_readWord 32 = .ok (.bipush 97, 2) := dk_16 97 (dk_at dksX3_readWord_1 8 rfl rfl)
theorem dX3_readWord_34 : decode cX3_readWord 34 = .ok (.bipush 122, 2) := dk_16 122 (dk_at dksX3_readWord_1 10 rfl rfl)
theorem dX3_readWord_36 : decode cX3_readWord 36 = .ok (.invokestatic 81, 3) := dk_184 0 81 (dk_at dksX3_readWord_1 12 rfl rfl)
theorem dX3_readWord_39 : decode cX3_readWord 39 = .ok (.ifCond .eq 56, 3) := dk_153 0 56 (dk_at dksX3_readWord_1 15 rfl rfl)
theorem dX3_readWord_42 : decode cX3_readWord 42 = .ok (.aload_n 0, 1) := dk_42 (dk_at dksX3_readWord_1 18 rfl rfl)
theorem dX3_readWord_43 : decode cX3_readWord 43 = .ok (.getfield 68, 3) := dk_180 0 68 (dk_at dksX3_readWord_1 19 rfl rfl)
theorem dX3_readWord_46 : decode cX3_readWord 46 = .ok (.aload_n 0, 1) := dk_42 (dk_at dksX3_readWord_1 22 rfl rfl)
theorem dX3_readWord_47 : decode cX3_readWord 47 = .ok (.getfield 155, 3) := dk_180 0 155 (dk_at dksX3_readWord_2 0 rfl rfl)
theorem dX3_readWord_50 : decode cX3_readWord 50 = .ok (.isub, 1) := dk_100 (dk_at dksX3_readWord_2 3 rfl rfl)
theorem dX3_readWord_51 : decode cX3_readWord 51 = .ok (.bipush 8, 2) := dk_16 8 (dk_at dksX3_readWord_2 4 rfl rfl)
theorem dX3_readWord_53 : decode cX3_readWord 53 = .ok (.if_icmp .ge 27, 3) := dk_162 0 27 (dk_at dksX3_readWord_2 6 rfl rfl)
theorem dX3_readWord_56 : decode cX3_readWord 56 = .ok (.ldc2_w 158, 3) := dk_20 0 158 (dk_at dksX3_readWord_2 9 rfl rfl)
theorem dX3_readWord_59 : decode cX3_readWord 59 = .ok (.lload_n 1, 1) := dk_31 (dk_at dksX3_readWord_2 12 rfl rfl)
theorem dX3_readWord_60 : decode cX3_readWord 60 = .ok (.lmul, 1) := dk_105 (dk_at dksX3_readWord_2 13 rfl rfl)
theorem dX3_readWord_61 : decode cX3_readWord 61 = .ok (.aload_n 0, 1) := dk_42 (dk_at dksX3_readWord_2 14 rfl rfl)
theorem dX3_readWord_62 : decode cX3_readWord 62 = .ok (.aload_n 0, 1) := dk_42 (dk_at dksX3_readWord_2 15 rfl rfl)
theorem dX3_readWord_63 : decode cX3_readWord 63 = .ok (.getfield 68, 3) := dk_180 0 68 (dk_at dksX3_readWord_2 16 rfl rfl)
theorem dX3_readWord_66 : decode cX3_readWord 66 = .ok (.invokevirtual 71, 3) := dk_182 0 71 (dk_at dksX3_readWord_2 19 rfl rfl)
theorem dX3_readWord_69 : decode cX3_readWord 69 = .ok (.i2l, 1) := dk_133 (dk_at dksX3_readWord_2 22 rfl rfl)
theorem dX3_readWord_70 : decode cX3_readWord 70 = .ok (.ladd, 1) := dk_97 (dk_at dksX3_readWord_2 23 rfl rfl)
theorem dX3_readWord_71 : decode cX3_readWord 71 = .ok (.ldc2_w 160, 3) := dk_20 0 160 (dk_at dksX3_readWord_3 0 rfl rfl)
theorem dX3_readWord_74 : decode cX3_readWord 74 = .ok (.lsub, 1) := dk_101 (dk_at dksX3_readWord_3 3 rfl rfl)
theorem dX3_readWord_75 : decode cX3_readWord 75 = .ok (.lconst 1, 1) := dk_10 (dk_at dksX3_readWord_3 4 rfl rfl)
theorem dX3_readWord_76 : decode cX3_readWord 76 = .ok (.ladd, 1) := dk_97 (dk_at dksX3_readWord_3 5 rfl rfl)
theorem dX3_readWord_77 : decode cX3_readWord 77 = .ok (.goto 4, 3) := dk_167 0 4 (dk_at dksX3_readWord_3 6 rfl rfl)
theorem dX3_readWord_80 : decode cX3_readWord 80 = .ok (.lload_n 1, 1) := dk_31 (dk_at dksX3_readWord_3 9 rfl rfl)
theorem dX3_readWord_81 : decode cX3_readWord 81 = .ok (.lstore_n 1, 1) := dk_64 (dk_at dksX3_readWord_3 10 rfl rfl)
theorem dX3_readWord_82 : decode cX3_readWord 82 = .ok (.aload_n 0, 1) := dk_42 (dk_at dksX3_readWord_3 11 rfl rfl)
theorem dX3_readWord_83 : decode cX3_readWord 83 = .ok (.dup, 1) := dk_89 (dk_at dksX3_readWord_3 12 rfl rfl)
theorem dX3_readWord_84 : decode cX3_readWord 84 = .ok (.getfield 68, 3) := dk_180 0 68 (dk_at dksX3_readWord_3 13 rfl rfl)
theorem dX3_readWord_87 : decode cX3_readWord 87 = .ok (.iconst 1, 1) := dk_4 (dk_at dksX3_readWord_3 16 rfl rfl)
theorem dX3_readWord_88 : decode cX3_readWord 88 = .ok (.iadd, 1) := dk_96 (dk_at dksX3_readWord_3 17 rfl rfl)
theorem dX3_readWord_89 : decode cX3_readWord 89 = .ok (.putfield 68, 3) := dk_181 0 68 (dk_at dksX3_readWord_3 18 rfl rfl)
theorem dX3_readWord_92 : decode cX3_readWord 92 = .ok (.goto (-68), 3) := dk_167 255 188 (dk_at dksX3_readWord_3 21 rfl rfl)
theorem dX3_readWord_95 : decode cX3_readWord 95 = .ok (.aload_n 0, 1) := dk_42 (dk_at dksX3_readWord_4 0 rfl rfl)
theorem dX3_readWord_96 : decode cX3_readWord 96 = .ok (.getfield 68, 3) := dk_180 0 68 (dk_at dksX3_readWord_4 1 rfl rfl)
theorem dX3_readWord_99 : decode cX3_readWord 99 = .ok (.aload_n 0, 1) := dk_42 (dk_at dksX3_readWord_4 4 rfl rfl)
theorem dX3_readWord_100 : decode cX3_readWord 100 = .ok (.getfield 155, 3) := dk_180 0 155 (dk_at dksX3_readWord_4 5 rfl rfl)
theorem dX3_readWord_103 : decode cX3_readWord 103 = .ok (.if_icmp .eq 17, 3) := dk_159 0 17 (dk_at dksX3_readWord_4 8 rfl rfl)
theorem dX3_readWord_106 : decode cX3_readWord 106 = .ok (.aload_n 0, 1) := dk_42 (dk_at dksX3_readWord_4 11 rfl rfl)
theorem dX3_readWord_107 : decode cX3_readWord 107 = .ok (.getfield 68, 3) := dk_180 0 68 (dk_at dksX3_readWord_4 12 rfl rfl)
theorem dX3_readWord_110 : decode cX3_readWord 110 = .ok (.aload_n 0, 1) := dk_42 (dk_at dksX3_readWord_4 15 rfl rfl)
theorem dX3_readWord_111 : decode cX3_readWord 111 = .ok (.getfield 155, 3) := dk_180 0 155 (dk_at dksX3_readWord_4 16 rfl rfl)
theorem dX3_readWord_114 : decode cX3_readWord 114 = .ok (.isub, 1) := dk_100 (dk_at dksX3_readWord_4 19 rfl rfl)
theorem dX3_readWord_115 : decode cX3_readWord 115 = .ok (.bipush 8, 2) := dk_16 8 (dk_at dksX3_readWord_4 20 rfl rfl)
theorem dX3_readWord_117 : decode cX3_readWord 117 = .ok (.if_icmp .le 13, 3) := dk_164 0 13 (dk_at dksX3_readWord_5 0 rfl rfl)
theorem dX3_readWord_120 : decode cX3_readWord 120 = .ok (.aload_n 0, 1) := dk_42 (dk_at dksX3_readWord_5 3 rfl rfl)
theorem dX3_readWord_121 : decode cX3_readWord 121 = .ok (.bipush (-2), 2) := dk_16 254 (dk_at dksX3_readWord_5 4 rfl rfl)
theorem dX3_readWord_123 : decode cX3_readWord 123 = .ok (.aload_n 0, 1) := dk_42 (dk_at dksX3_readWord_5 6 rfl rfl)
theorem dX3_readWord_124 : decode cX3_readWord 124 = .ok (.getfield 155, 3) := dk_180 0 155 (dk_at dksX3_readWord_5 7 rfl rfl)
theorem dX3_readWord_127 : decode cX3_readWord 127 = .ok (.invokevirtual 102, 3) := dk_182 0 102 (dk_at dksX3_readWord_5 10 rfl rfl)
theorem dX3_readWord_130 : decode cX3_readWord 130 = .ok (.aload_n 0, 1) := dk_42 (dk_at dksX3_readWord_5 13 rfl rfl)
theorem dX3_readWord_131 : decode cX3_readWord 131 = .ok (.invokevirtual 85, 3) := dk_182 0 85 (dk_at dksX3_readWord_5 14 rfl rfl)
theorem dX3_readWord_134 : decode cX3_readWord 134 = .ok (.ifCond .eq 7, 3) := dk_153 0 7 (dk_at dksX3_readWord_5 17 rfl rfl)
theorem dX3_readWord_137 : decode cX3_readWord 137 = .ok (.lload_n 1, 1) := dk_31 (dk_at dksX3_readWord_5 20 rfl rfl)
theorem dX3_readWord_138 : decode cX3_readWord 138 = .ok (.goto 4, 3) := dk_167 0 4 (dk_at dksX3_readWord_5 21 rfl rfl)
theorem dX3_readWord_141 : decode cX3_readWord 141 = .ok (.lconst 0, 1) := dk_9 (dk_at dksX3_readWord_6 0 rfl rfl)
theorem dX3_readWord_142 : decode cX3_readWord 142 = .ok (.lreturn, 1) := dk_173 (dk_at dksX3_readWord_6 1 rfl rfl)
abbrev cX3_isFresh : ByteArray := prog_11_method_25_code
def yX3_isFresh : MethodName := ⟨RX3, "isFresh", "([JIJ)Z"⟩
def dkwX3_isFresh_1 : List UInt8 := [182, 0, 102, 42, 182, 0, 85, 172]
abbrev dktX3_isFresh_1 : List UInt8 := dkwX3_isFresh_1 ++ []
def dkwX3_isFresh_0 : List UInt8 := [42, 182, 0, 85, 153, 0, 23, 33, 43, 28, 184, 0, 166, 2, 159, 0, 13, 42, 16, 251, 42, 180, 0, 155]
abbrev dktX3_isFresh_0 : List UInt8 := dkwX3_isFresh_0 ++ dktX3_isFresh_1
theorem dksX3_isFresh_0 : cX3_isFresh.data.toList.drop 0 = dktX3_isFresh_0 := by decide +kernel
theorem dksX3_isFresh_1 : cX3_isFresh.data.toList.drop 24 = dktX3_isFresh_1 := dk_seg dksX3_isFresh_0 24 rfl rfl
theorem dX3_isFresh_0 : decode cX3_isFresh 0 = .ok (.aload_n 0, 1) := dk_42 (dk_at dksX3_isFresh_0 0 rfl rfl)
theorem dX3_isFresh_1 : decode cX3_isFresh 1 = .ok (.invokevirtual 85, 3) := dk_182 0 85 (dk_at dksX3_isFresh_0 1 rfl rfl)
theorem dX3_isFresh_4 : decode cX3_isFresh 4 = .ok (.ifCond .eq 23, 3) := dk_153 0 23 (dk_at dksX3_isFresh_0 4 rfl rfl)
theorem dX3_isFresh_7 : decode cX3_isFresh 7 = .ok (.lload_n 3, 1) := dk_33 (dk_at dksX3_isFresh_0 7 rfl rfl)
theorem dX3_isFresh_8 : decode cX3_isFresh 8 = .ok (.aload_n 1, 1) := dk_43 (dk_at dksX3_isFresh_0 8 rfl rfl)
theorem dX3_isFresh_9 : decode cX3_isFresh 9 = .ok (.iload_n 2, 1) := dk_28 (dk_at dksX3_isFresh_0 9 rfl rfl)
theorem dX3_isFresh_10 : decode cX3_isFresh 10 = .ok (.invokestatic 166, 3) := dk_184 0 166 (dk_at dksX3_isFresh_0 10 rfl rfl)
theorem dX3_isFresh_13 : decode cX3_isFresh 13 = .ok (.iconst (-1), 1) := dk_2 (dk_at dksX3_isFresh_0 13 rfl rfl)
theorem dX3_isFresh_14 : decode cX3_isFresh 14 = .ok (.if_icmp .eq 13, 3) := dk_159 0 13 (dk_at dksX3_isFresh_0 14 rfl rfl)
theorem dX3_isFresh_17 : decode cX3_isFresh 17 = .ok (.aload_n 0, 1) := dk_42 (dk_at dksX3_isFresh_0 17 rfl rfl)
theorem dX3_isFresh_18 : decode cX3_isFresh 18 = .ok (.bipush (-5), 2) := dk_16 251 (dk_at dksX3_isFresh_0 18 rfl rfl)
theorem dX3_isFresh_20 : decode cX3_isFresh 20 = .ok (.aload_n 0, 1) := dk_42 (dk_at dksX3_isFresh_0 20 rfl rfl)
theorem dX3_isFresh_21 : decode cX3_isFresh 21 = .ok (.getfield 155, 3) := dk_180 0 155 (dk_at dksX3_isFresh_0 21 rfl rfl)
theorem dX3_isFresh_24 : decode cX3_isFresh 24 = .ok (.invokevirtual 102, 3) := dk_182 0 102 (dk_at dksX3_isFresh_1 0 rfl rfl)
theorem dX3_isFresh_27 : decode cX3_isFresh 27 = .ok (.aload_n 0, 1) := dk_42 (dk_at dksX3_isFresh_1 3 rfl rfl)
theorem dX3_isFresh_28 : decode cX3_isFresh 28 = .ok (.invokevirtual 85, 3) := dk_182 0 85 (dk_at dksX3_isFresh_1 4 rfl rfl)
theorem dX3_isFresh_31 : decode cX3_isFresh 31 = .ok (.ireturn, 1) := dk_172 (dk_at dksX3_isFresh_1 7 rfl rfl)
abbrev cX3_placeOf : ByteArray := prog_11_method_23_code
def yX3_placeOf : MethodName := ⟨RX3, "placeOf", "(J[JI)I"⟩
def dkwX3_placeOf_1 : List UInt8 := [167, 255, 235, 2, 172]
abbrev dktX3_placeOf_1 : List UInt8 := dkwX3_placeOf_1 ++ []
def dkwX3_placeOf_0 : List UInt8 := [3, 54, 4, 21, 4, 29, 162, 0, 21, 44, 21, 4, 47, 30, 148, 154, 0, 6, 21, 4, 172, 132, 4, 1]
abbrev dktX3_placeOf_0 : List UInt8 := dkwX3_placeOf_0 ++ dktX3_placeOf_1
theorem dksX3_placeOf_0 : cX3_placeOf.data.toList.drop 0 = dktX3_placeOf_0 := by decide +kernel
theorem dksX3_placeOf_1 : cX3_placeOf.data.toList.drop 24 = dktX3_placeOf_1 := dk_seg dksX3_placeOf_0 24 rfl rfl
theorem dX3_placeOf_0 : decode cX3_placeOf 0 = .ok (.iconst 0, 1) := dk_3 (dk_at dksX3_placeOf_0 0 rfl rfl)
theorem dX3_placeOf_1 : decode cX3_placeOf 1 = .ok (.istore 4, 2) := dk_54 4 (dk_at dksX3_placeOf_0 1 rfl rfl)
theorem dX3_placeOf_3 : decode cX3_placeOf 3 = .ok (.iload 4, 2) := dk_21 4 (dk_at dksX3_placeOf_0 3 rfl rfl)
theorem dX3_placeOf_5 : decode cX3_placeOf 5 = .ok (.iload_n 3, 1) := dk_29 (dk_at dksX3_placeOf_0 5 rfl rfl)
theorem dX3_placeOf_6 : decode cX3_placeOf 6 = .ok (.if_icmp .ge 21, 3) := dk_162 0 21 (dk_at dksX3_placeOf_0 6 rfl rfl)
theorem dX3_placeOf_9 : decode cX3_placeOf 9 = .ok (.aload_n 2, 1) := dk_44 (dk_at dksX3_placeOf_0 9 rfl rfl)
theorem dX3_placeOf_10 : decode cX3_placeOf 10 = .ok (.iload 4, 2) := dk_21 4 (dk_at dksX3_placeOf_0 10 rfl rfl)
theorem dX3_placeOf_12 : decode cX3_placeOf 12 = .ok (.laload, 1) := dk_47 (dk_at dksX3_placeOf_0 12 rfl rfl)
theorem dX3_placeOf_13 : decode cX3_placeOf 13 = .ok (.lload_n 0, 1) := dk_30 (dk_at dksX3_placeOf_0 13 rfl rfl)
theorem dX3_placeOf_14 : decode cX3_placeOf 14 = .ok (.lcmp, 1) := dk_148 (dk_at dksX3_placeOf_0 14 rfl rfl)
theorem dX3_placeOf_15 : decode cX3_placeOf 15 = .ok (.ifCond .ne 6, 3) := dk_154 0 6 (dk_at dksX3_placeOf_0 15 rfl rfl)
theorem dX3_placeOf_18 : decode cX3_placeOf 18 = .ok (.iload 4, 2) := dk_21 4 (dk_at dksX3_placeOf_0 18 rfl rfl)
theorem dX3_placeOf_20 : decode cX3_placeOf 20 = .ok (.ireturn, 1) := dk_172 (dk_at dksX3_placeOf_0 20 rfl rfl)
theorem dX3_placeOf_21 : decode cX3_placeOf 21 = .ok (.iinc 4 1, 3) := dk_132 4 1 (dk_at dksX3_placeOf_0 21 rfl rfl)
theorem dX3_placeOf_24 : decode cX3_placeOf 24 = .ok (.goto (-21), 3) := dk_167 255 235 (dk_at dksX3_placeOf_1 0 rfl rfl)
theorem dX3_placeOf_27 : decode cX3_placeOf 27 = .ok (.iconst (-1), 1) := dk_2 (dk_at dksX3_placeOf_1 3 rfl rfl)
theorem dX3_placeOf_28 : decode cX3_placeOf 28 = .ok (.ireturn, 1) := dk_172 (dk_at dksX3_placeOf_1 4 rfl rfl)
abbrev cX3_readLibrary : ByteArray := prog_11_method_27_code
def yX3_readLibrary : MethodName := ⟨RX3, "readLibrary", "(I)V"⟩
def dkwX3_readLibrary_7 : List UInt8 := [42, 180, 0, 20, 6, 42, 180, 0, 20, 4, 46, 79, 177]
abbrev dktX3_readLibrary_7 : List UInt8 := dkwX3_readLibrary_7 ++ []
def dkwX3_readLibrary_6 : List UInt8 := [16, 12, 96, 21, 6, 96, 2, 79, 132, 6, 1, 167, 255, 232, 42, 180, 0, 20, 4, 92, 46, 4, 96, 79]
abbrev dktX3_readLibrary_6 : List UInt8 := dkwX3_readLibrary_6 ++ dktX3_readLibrary_7
def dkwX3_readLibrary_5 : List UInt8 := [5, 96, 21, 4, 4, 96, 79, 3, 54, 6, 21, 6, 16, 12, 162, 0, 23, 42, 180, 0, 20, 21, 5]
abbrev dktX3_readLibrary_5 : List UInt8 := dkwX3_readLibrary_5 ++ dktX3_readLibrary_6
def dkwX3_readLibrary_4 : List UInt8 := [153, 0, 16, 42, 18, 177, 182, 0, 130, 153, 0, 7, 4, 167, 0, 4, 3, 79, 42, 180, 0, 20, 21, 5]
abbrev dktX3_readLibrary_4 : List UInt8 := dkwX3_readLibrary_4 ++ dktX3_readLibrary_5
def dkwX3_readLibrary_3 : List UInt8 := [96, 42, 3, 17, 3, 231, 182, 0, 140, 79, 42, 180, 0, 20, 21, 5, 4, 96, 42, 182, 0, 85]
abbrev dktX3_readLibrary_3 : List UInt8 := dkwX3_readLibrary_3 ++ dktX3_readLibrary_4
def dkwX3_readLibrary_2 : List UInt8 := [54, 4, 21, 4, 184, 0, 174, 54, 5, 42, 180, 0, 28, 21, 4, 32, 80, 42, 180, 0, 20, 21, 5, 3]
abbrev dktX3_readLibrary_2 : List UInt8 := dkwX3_readLibrary_2 ++ dktX3_readLibrary_3
def dkwX3_readLibrary_1 : List UInt8 := [42, 180, 0, 28, 42, 180, 0, 20, 4, 46, 32, 182, 0, 170, 154, 0, 4, 177, 42, 180, 0, 20, 4, 46]
abbrev dktX3_readLibrary_1 : List UInt8 := dkwX3_readLibrary_1 ++ dktX3_readLibrary_2
def dkwX3_readLibrary_0 : List UInt8 := [42, 180, 0, 20, 4, 46, 16, 8, 160, 0, 10, 42, 16, 250, 27, 182, 0, 102, 42, 182, 0, 162, 65, 42]
abbrev dktX3_readLibrary_0 : List UInt8 := dkwX3_readLibrary_0 ++ dktX3_readLibrary_1
theorem dksX3_readLibrary_0 : cX3_readLibrary.data.toList.drop 0 = dktX3_readLibrary_0 := by decide +kernel
theorem dksX3_readLibrary_1 : cX3_readLibrary.data.toList.drop 24 = dktX3_readLibrary_1 := dk_seg dksX3_readLibrary_0 24 rfl rfl
theorem dksX3_readLibrary_2 : cX3_readLibrary.data.toList.drop 48 = dktX3_readLibrary_2 := dk_seg dksX3_readLibrary_1 24 rfl rfl
theorem dksX3_readLibrary_3 : cX3_readLibrary.data.toList.drop 72 = dktX3_readLibrary_3 := dk_seg dksX3_readLibrary_2 24 rfl rfl
theorem dksX3_readLibrary_4 : cX3_readLibrary.data.toList.drop 94 = dktX3_readLibrary_4 := dk_seg dksX3_readLibrary_3 22 rfl rfl
theorem dksX3_readLibrary_5 : cX3_readLibrary.data.toList.drop 118 = dktX3_readLibrary_5 := dk_seg dksX3_readLibrary_4 24 rfl rfl
theorem dksX3_readLibrary_6 : cX3_readLibrary.data.toList.drop 141 = dktX3_readLibrary_6 := dk_seg dksX3_readLibrary_5 23 rfl rfl
theorem dksX3_readLibrary_7 : cX3_readLibrary.data.toList.drop 165 = dktX3_readLibrary_7 := dk_seg dksX3_readLibrary_6 24 rfl rfl
theorem dX3_readLibrary_0 : decode cX3_readLibrary 0 = .ok (.aload_n 0, 1) := dk_42 (dk_at dksX3_readLibrary_0 0 rfl rfl)
theorem dX3_readLibrary_1 : decode cX3_readLibrary 1 = .ok (.getfield 20, 3) := dk_180 0 20 (dk_at dksX3_readLibrary_0 1 rfl rfl)
theorem dX3_readLibrary_4 : decode cX3_readLibrary 4 = .ok (.iconst 1, 1) := dk_4 (dk_at dksX3_readLibrary_0 4 rfl rfl)
theorem dX3_readLibrary_5 : decode cX3_readLibrary 5 = .ok (.iaload, 1) := dk_46 (dk_at dksX3_readLibrary_0 5 rfl rfl)
theorem dX3_readLibrary_6 : decode cX3_readLibrary 6 = .ok (.bipush 8, 2) := dk_16 8 (dk_at dksX3_readLibrary_0 6 rfl rfl)
theorem dX3_readLibrary_8 : decode cX3_readLibrary 8 = .ok (.if_icmp .ne 10, 3) := dk_160 0 10 (dk_at dksX3_readLibrary_0 8 rfl rfl)
theorem dX3_readLibrary_11 : decode cX3_readLibrary 11 = .ok (.aload_n 0, 1) := dk_42 (dk_at dksX3_readLibrary_0 11 rfl rfl)
theorem dX3_readLibrary_12 : decode cX3_readLibrary 12 = .ok (.bipush (-6), 2) := dk_16 250 (dk_at dksX3_readLibrary_0 12 rfl rfl)
theorem dX3_readLibrary_14 : decode cX3_readLibrary 14 = .ok (.iload_n 1, 1) := dk_27 (dk_at dksX3_readLibrary_0 14 rfl rfl)
theorem dX3_readLibrary_15 : decode cX3_readLibrary 15 = .ok (.invokevirtual 102, 3) := dk_182 0 102 (dk_at dksX3_readLibrary_0 15 rfl rfl)
theorem dX3_readLibrary_18 : decode cX3_readLibrary 18 = .ok (.aload_n 0, 1) := dk_42 (dk_at dksX3_readLibrary_0 18 rfl rfl)
theorem dX3_readLibrary_19 : decode cX3_readLibrary 19 = .ok (.invokevirtual 162, 3) := dk_182 0 162 (dk_at dksX3_readLibrary_0 19 rfl rfl)
theorem dX3_readLibrary_22 : decode cX3_readLibrary 22 = .ok (.lstore_n 2, 1) := dk_65 (dk_at dksX3_readLibrary_0 22 rfl rfl)
theorem dX3_readLibrary_23 : decode cX3_readLibrary 23 = .ok (.aload_n 0, 1) := dk_42 (dk_at dksX3_readLibrary_0 23 rfl rfl)
theorem dX3_readLibrary_24 : decode cX3_readLibrary 24 = .ok (.aload_n 0, 1) := dk_42 (dk_at dksX3_readLibrary_1 0 rfl rfl)
theorem dX3_readLibrary_25 : decode cX3_readLibrary 25 = .ok (.getfield 28, 3) := dk_180 0 28 (dk_at dksX3_readLibrary_1 1 rfl rfl)
theorem dX3_readLibrary_28 : decode cX3_readLibrary 28 = .ok (.aload_n 0, 1) := dk_42 (dk_at dksX3_readLibrary_1 4 rfl rfl)
theorem dX3_readLibrary_29 : decode cX3_readLibrary 29 = .ok (.getfield 20, 3) := dk_180 0 20 (dk_at dksX3_readLibrary_1 5 rfl rfl)
theorem dX3_readLibrary_32 : decode cX3_readLibrary 32 = .ok (.iconst 1, 1) := dk_4 (dk_at dksX3_readLibrary_1 8 rfl rfl)
theorem dX3_readLibrary_33 : decode cX3_readLibrary 33 = .ok (.iaload, 1) := dk_46 (dk_at dksX3_readLibrary_1 9 rfl rfl)
theorem dX3_readLibrary_34 : decode cX3_readLibrary 34 = .ok (.lload_n 2, 1) := dk_32 (dk_at dksX3_readLibrary_1 10 rfl rfl)
theorem dX3_readLibrary_35 : decode cX3_readLibrary 35 = .ok (.invokevirtual 170, 3) := dk_182 0 170 (dk_at dksX3_readLibrary_1 11 rfl rfl)
theorem dX3_readLibrary_38 : decode cX3_readLibrary 38 = .ok (.ifCond .ne 4, 3) := dk_154 0 4 (dk_at dksX3_readLibrary_1 14 rfl rfl)
theorem dX3_readLibrary_41 : decode cX3_readLibrary 41 = .ok (.return_, 1) := dk_177 (dk_at dksX3_readLibrary_1 17 rfl rfl)
theorem dX3_readLibrary_42 : decode cX3_readLibrary 42 = .ok (.aload_n 0, 1) := dk_42 (dk_at dksX3_readLibrary_1 18 rfl rfl)
theorem dX3_readLibrary_43 : decode cX3_readLibrary 43 = .ok (.getfield 20, 3) := dk_180 0 20 (dk_at dksX3_readLibrary_1 19 rfl rfl)
theorem dX3_readLibrary_46 : decode cX3_readLibrary 46 = .ok (.iconst 1, 1) := dk_4 (dk_at dksX3_readLibrary_1 22 rfl rfl)
theorem dX3_readLibrary_47 : decode cX3_readLibrary 47 = .ok (.iaload, 1) := dk_46 (dk_at dksX3_readLibrary_1 23 rfl rfl)
theorem dX3_readLibrary_48 : decode cX3_readLibrary 48 = .ok (.istore 4, 2) := dk_54 4 (dk_at dksX3_readLibrary_2 0 rfl rfl)
theorem dX3_readLibrary_50 : decode cX3_readLibrary 50 = .ok (.iload 4, 2) := dk_21 4 (dk_at dksX3_readLibrary_2 2 rfl rfl)
theorem dX3_readLibrary_52 : decode cX3_readLibrary 52 = .ok (.invokestatic 174, 3) := dk_184 0 174 (dk_at dksX3_readLibrary_2 4 rfl rfl)
theorem dX3_readLibrary_55 : decode cX3_readLibrary 55 = .ok (.istore 5, 2) := dk_54 5 (dk_at dksX3_readLibrary_2 7 rfl rfl)
theorem dX3_readLibrary_57 : decode cX3_readLibrary 57 = .ok (.aload_n 0, 1) := dk_42 (dk_at dksX3_readLibrary_2 9 rfl rfl)
theorem dX3_readLibrary_58 : decode cX3_readLibrary 58 = .ok (.getfield 28, 3) := dk_180 0 28 (dk_at dksX3_readLibrary_2 10 rfl rfl)
theorem dX3_readLibrary_61 : decode cX3_readLibrary 61 = .ok (.iload 4, 2) := dk_21 4 (dk_at dksX3_readLibrary_2 13 rfl rfl)
theorem dX3_readLibrary_63 : decode cX3_readLibrary 63 = .ok (.lload_n 2, 1) := dk_32 (dk_at dksX3_readLibrary_2 15 rfl rfl)
theorem dX3_readLibrary_64 : decode cX3_readLibrary 64 = .ok (.lastore, 1) := dk_80 (dk_at dksX3_readLibrary_2 16 rfl rfl)
theorem dX3_readLibrary_65 : decode cX3_readLibrary 65 = .ok (.aload_n 0, 1) := dk_42 (dk_at dksX3_readLibrary_2 17 rfl rfl)
theorem dX3_readLibrary_66 : decode cX3_readLibrary 66 = .ok (.getfield 20, 3) := dk_180 0 20 (dk_at dksX3_readLibrary_2 18 rfl rfl)
theorem dX3_readLibrary_69 : decode cX3_readLibrary 69 = .ok (.iload 5, 2) := dk_21 5 (dk_at dksX3_readLibrary_2 21 rfl rfl)
theorem dX3_readLibrary_71 : decode cX3_readLibrary 71 = .ok (.iconst 0, 1) := dk_3 (dk_at dksX3_readLibrary_2 23 rfl rfl)
theorem dX3_readLibrary_72 : decode cX3_readLibrary 72 = .ok (.iadd, 1) := dk_96 (dk_at dksX3_readLibrary_3 0 rfl rfl)
theorem dX3_readLibrary_73 : decode cX3_readLibrary 73 = .ok (.aload_n 0, 1) := dk_42 (dk_at dksX3_readLibrary_3 1 rfl rfl)
theorem dX3_readLibrary_74 : decode cX3_readLibrary 74 = .ok (.iconst 0, 1) := dk_3 (dk_at dksX3_readLibrary_3 2 rfl rfl)
theorem dX3_readLibrary_75 : decode cX3_readLibrary 75 = .ok (.sipush 999, 3) := dk_17 3 231 (dk_at dksX3_readLibrary_3 3 rfl rfl)
theorem dX3_readLibrary_78 : decode cX3_readLibrary 78 = .ok (.invokevirtual 140, 3) := dk_182 0 140 (dk_at dksX3_readLibrary_3 6 rfl rfl)
theorem dX3_readLibrary_81 : decode cX3_readLibrary 81 = .ok (.iastore, 1) := dk_79 (dk_at dksX3_readLibrary_3 9 rfl rfl)
theorem dX3_readLibrary_82 : decode cX3_readLibrary 82 = .ok (.aload_n 0, 1) := dk_42 (dk_at dksX3_readLibrary_3 10 rfl rfl)
theorem dX3_readLibrary_83 : decode cX3_readLibrary 83 = .ok (.getfield 20, 3) := dk_180 0 20 (dk_at dksX3_readLibrary_3 11 rfl rfl)
theorem dX3_readLibrary_86 : decode cX3_readLibrary 86 = .ok (.iload 5, 2) := dk_21 5 (dk_at dksX3_readLibrary_3 14 rfl rfl)
theorem dX3_readLibrary_88 : decode cX3_readLibrary 88 = .ok (.iconst 1, 1) := dk_4 (dk_at dksX3_readLibrary_3 16 rfl rfl)
theorem dX3_readLibrary_89 : decode cX3_readLibrary 89 = .ok (.iadd, 1) := dk_96 (dk_at dksX3_readLibrary_3 17 rfl rfl)
theorem dX3_readLibrary_90 : decode cX3_readLibrary 90 = .ok (.aload_n 0, 1) := dk_42 (dk_at dksX3_readLibrary_3 18 rfl rfl)
theorem dX3_readLibrary_91 : decode cX3_readLibrary 91 = .ok (.invokevirtual 85, 3) := dk_182 0 85 (dk_at dksX3_readLibrary_3 19 rfl rfl)
theorem dX3_readLibrary_94 : decode cX3_readLibrary 94 = .ok (.ifCond .eq 16, 3) := dk_153 0 16 (dk_at dksX3_readLibrary_4 0 rfl rfl)
theorem dX3_readLibrary_97 : decode cX3_readLibrary 97 = .ok (.aload_n 0, 1) := dk_42 (dk_at dksX3_readLibrary_4 3 rfl rfl)
theorem dX3_readLibrary_98 : decode cX3_readLibrary 98 = .ok (.ldc 177, 2) := dk_18 177 (dk_at dksX3_readLibrary_4 4 rfl rfl)
theorem dX3_readLibrary_100 : decode cX3_readLibrary 100 = .ok (.invokevirtual 130, 3) := dk_182 0 130 (dk_at dksX3_readLibrary_4 6 rfl rfl)
theorem dX3_readLibrary_103 : decode cX3_readLibrary 103 = .ok (.ifCond .eq 7, 3) := dk_153 0 7 (dk_at dksX3_readLibrary_4 9 rfl rfl)
theorem dX3_readLibrary_106 : decode cX3_readLibrary 106 = .ok (.iconst 1, 1) := dk_4 (dk_at dksX3_readLibrary_4 12 rfl rfl)
theorem dX3_readLibrary_107 : decode cX3_readLibrary 107 = .ok (.goto 4, 3) := dk_167 0 4 (dk_at dksX3_readLibrary_4 13 rfl rfl)
theorem dX3_readLibrary_110 : decode cX3_readLibrary 110 = .ok (.iconst 0, 1) := dk_3 (dk_at dksX3_readLibrary_4 16 rfl rfl)
theorem dX3_readLibrary_111 : decode cX3_readLibrary 111 = .ok (.iastore, 1) := dk_79 (dk_at dksX3_readLibrary_4 17 rfl rfl)
theorem dX3_readLibrary_112 : decode cX3_readLibrary 112 = .ok (.aload_n 0, 1) := dk_42 (dk_at dksX3_readLibrary_4 18 rfl rfl)
theorem dX3_readLibrary_113 : decode cX3_readLibrary 113 = .ok (.getfield 20, 3) := dk_180 0 20 (dk_at dksX3_readLibrary_4 19 rfl rfl)
theorem dX3_readLibrary_116 : decode cX3_readLibrary 116 = .ok (.iload 5, 2) := dk_21 5 (dk_at dksX3_readLibrary_4 22 rfl rfl)
theorem dX3_readLibrary_118 : decode cX3_readLibrary 118 = .ok (.iconst 2, 1) := dk_5 (dk_at dksX3_readLibrary_5 0 rfl rfl)
theorem dX3_readLibrary_119 : decode cX3_readLibrary 119 = .ok (.iadd, 1) := dk_96 (dk_at dksX3_readLibrary_5 1 rfl rfl)
theorem dX3_readLibrary_120 : decode cX3_readLibrary 120 = .ok (.iload 4, 2) := dk_21 4 (dk_at dksX3_readLibrary_5 2 rfl rfl)
theorem dX3_readLibrary_122 : decode cX3_readLibrary 122 = .ok (.iconst 1, 1) := dk_4 (dk_at dksX3_readLibrary_5 4 rfl rfl)
theorem dX3_readLibrary_123 : decode cX3_readLibrary 123 = .ok (.iadd, 1) := dk_96 (dk_at dksX3_readLibrary_5 5 rfl rfl)
theorem dX3_readLibrary_124 : decode cX3_readLibrary 124 = .ok (.iastore, 1) := dk_79 (dk_at dksX3_readLibrary_5 6 rfl rfl)
theorem dX3_readLibrary_125 : decode cX3_readLibrary 125 = .ok (.iconst 0, 1) := dk_3 (dk_at dksX3_readLibrary_5 7 rfl rfl)
theorem dX3_readLibrary_126 : decode cX3_readLibrary 126 = .ok (.istore 6, 2) := dk_54 6 (dk_at dksX3_readLibrary_5 8 rfl rfl)
theorem dX3_readLibrary_128 : decode cX3_readLibrary 128 = .ok (.iload 6, 2) := dk_21 6 (dk_at dksX3_readLibrary_5 10 rfl rfl)
theorem dX3_readLibrary_130 : decode cX3_readLibrary 130 = .ok (.bipush 12, 2) := dk_16 12 (dk_at dksX3_readLibrary_5 12 rfl rfl)
theorem dX3_readLibrary_132 : decode cX3_readLibrary 132 = .ok (.if_icmp .ge 23, 3) := dk_162 0 23 (dk_at dksX3_readLibrary_5 14 rfl rfl)
theorem dX3_readLibrary_135 : decode cX3_readLibrary 135 = .ok (.aload_n 0, 1) := dk_42 (dk_at dksX3_readLibrary_5 17 rfl rfl)
theorem dX3_readLibrary_136 : decode cX3_readLibrary 136 = .ok (.getfield 20, 3) := dk_180 0 20 (dk_at dksX3_readLibrary_5 18 rfl rfl)
theorem dX3_readLibrary_139 : decode cX3_readLibrary 139 = .ok (.iload 5, 2) := dk_21 5 (dk_at dksX3_readLibrary_5 21 rfl rfl)
theorem dX3_readLibrary_141 : decode cX3_readLibrary 141 = .ok (.bipush 12, 2) := dk_16 12 (dk_at dksX3_readLibrary_6 0 rfl rfl)
theorem dX3_readLibrary_143 : decode cX3_readLibrary 143 = .ok (.iadd, 1) := dk_96 (dk_at dksX3_readLibrary_6 2 rfl rfl)
theorem dX3_readLibrary_144 : decode cX3_readLibrary 144 = .ok (.iload 6, 2) := dk_21 6 (dk_at dksX3_readLibrary_6 3 rfl rfl)
theorem dX3_readLibrary_146 : decode cX3_readLibrary 146 = .ok (.iadd, 1) := dk_96 (dk_at dksX3_readLibrary_6 5 rfl rfl)
theorem dX3_readLibrary_147 : decode cX3_readLibrary 147 = .ok (.iconst (-1), 1) := dk_2 (dk_at dksX3_readLibrary_6 6 rfl rfl)
theorem dX3_readLibrary_148 : decode cX3_readLibrary 148 = .ok (.iastore, 1) := dk_79 (dk_at dksX3_readLibrary_6 7 rfl rfl)
theorem dX3_readLibrary_149 : decode cX3_readLibrary 149 = .ok (.iinc 6 1, 3) := dk_132 6 1 (dk_at dksX3_readLibrary_6 8 rfl rfl)
theorem dX3_readLibrary_152 : decode cX3_readLibrary 152 = .ok (.goto (-24), 3) := dk_167 255 232 (dk_at dksX3_readLibrary_6 11 rfl rfl)
theorem dX3_readLibrary_155 : decode cX3_readLibrary 155 = .ok (.aload_n 0, 1) := dk_42 (dk_at dksX3_readLibrary_6 14 rfl rfl)
theorem dX3_readLibrary_156 : decode cX3_readLibrary 156 = .ok (.getfield 20, 3) := dk_180 0 20 (dk_at dksX3_readLibrary_6 15 rfl rfl)
theorem dX3_readLibrary_159 : decode cX3_readLibrary 159 = .ok (.iconst 1, 1) := dk_4 (dk_at dksX3_readLibrary_6 18 rfl rfl)
theorem dX3_readLibrary_160 : decode cX3_readLibrary 160 = .ok (.dup2, 1) := dk_92 (dk_at dksX3_readLibrary_6 19 rfl rfl)
theorem dX3_readLibrary_161 : decode cX3_readLibrary 161 = .ok (.iaload, 1) := dk_46 (dk_at dksX3_readLibrary_6 20 rfl rfl)
theorem dX3_readLibrary_162 : decode cX3_readLibrary 162 = .ok (.iconst 1, 1) := dk_4 (dk_at dksX3_readLibrary_6 21 rfl rfl)
theorem dX3_readLibrary_163 : decode cX3_readLibrary 163 = .ok (.iadd, 1) := dk_96 (dk_at dksX3_readLibrary_6 22 rfl rfl)
theorem dX3_readLibrary_164 : decode cX3_readLibrary 164 = .ok (.iastore, 1) := dk_79 (dk_at dksX3_readLibrary_6 23 rfl rfl)
theorem dX3_readLibrary_165 : decode cX3_readLibrary 165 = .ok (.aload_n 0, 1) := dk_42 (dk_at dksX3_readLibrary_7 0 rfl rfl)
theorem dX3_readLibrary_166 : decode cX3_readLibrary 166 = .ok (.getfield 20, 3) := dk_180 0 20 (dk_at dksX3_readLibrary_7 1 rfl rfl)
theorem dX3_readLibrary_169 : decode cX3_readLibrary 169 = .ok (.iconst 3, 1) := dk_6 (dk_at dksX3_readLibrary_7 4 rfl rfl)
theorem dX3_readLibrary_170 : decode cX3_readLibrary 170 = .ok (.aload_n 0, 1) := dk_42 (dk_at dksX3_readLibrary_7 5 rfl rfl)
theorem dX3_readLibrary_171 : decode cX3_readLibrary 171 = .ok (.getfield 20, 3) := dk_180 0 20 (dk_at dksX3_readLibrary_7 6 rfl rfl)
theorem dX3_readLibrary_174 : decode cX3_readLibrary 174 = .ok (.iconst 1, 1) := dk_4 (dk_at dksX3_readLibrary_7 9 rfl rfl)
theorem dX3_readLibrary_175 : decode cX3_readLibrary 175 = .ok (.iaload, 1) := dk_46 (dk_at dksX3_readLibrary_7 10 rfl rfl)
theorem dX3_readLibrary_176 : decode cX3_readLibrary 176 = .ok (.iastore, 1) := dk_79 (dk_at dksX3_readLibrary_7 11 rfl rfl)
theorem dX3_readLibrary_177 : decode cX3_readLibrary 177 = .ok (.return_, 1) := dk_177 (dk_at dksX3_readLibrary_7 12 rfl rfl)
abbrev cX3_at : ByteArray := prog_11_method_7_code
def yX3_at : MethodName := ⟨RX3, "at", "(I)I"⟩
def dkwX3_at_0 : List UInt8 := [16, 6, 16, 24, 26, 104, 96, 172]
abbrev dktX3_at_0 : List UInt8 := dkwX3_at_0 ++ []
theorem dksX3_at_0 : cX3_at.data.toList.drop 0 = dktX3_at_0 := by decide +kernel
theorem dX3_at_0 : decode cX3_at 0 = .ok (.bipush 6, 2) := dk_16 6 (dk_at dksX3_at_0 0 rfl rfl)
theorem dX3_at_2 : decode cX3_at 2 = .ok (.bipush 24, 2) := dk_16 24 (dk_at dksX3_at_0 2 rfl rfl)
theorem dX3_at_4 : decode cX3_at 4 = .ok (.iload_n 0, 1) := dk_26 (dk_at dksX3_at_0 4 rfl rfl)
theorem dX3_at_5 : decode cX3_at 5 = .ok (.imul, 1) := dk_104 (dk_at dksX3_at_0 5 rfl rfl)
theorem dX3_at_6 : decode cX3_at 6 = .ok (.iadd, 1) := dk_96 (dk_at dksX3_at_0 6 rfl rfl)
theorem dX3_at_7 : decode cX3_at 7 = .ok (.ireturn, 1) := dk_172 (dk_at dksX3_at_0 7 rfl rfl)
abbrev cX3_number : ByteArray := prog_11_method_16_code
def yX3_number : MethodName := ⟨RX3, "number", "(II)I"⟩
def dkwX3_number_4 : List UInt8 := [184, 0, 81, 154, 0, 13, 42, 16, 253, 42, 180, 0, 110, 182, 0, 102, 29, 172]
abbrev dktX3_number_4 : List UInt8 := dkwX3_number_4 ++ []
def dkwX3_number_3 : List UInt8 := [16, 48, 100, 184, 0, 114, 62, 42, 89, 180, 0, 68, 4, 96, 181, 0, 68, 167, 255, 210, 29, 27, 28]
abbrev dktX3_number_3 : List UInt8 := dkwX3_number_3 ++ dktX3_number_4
def dkwX3_number_2 : List UInt8 := [182, 0, 71, 184, 0, 106, 153, 0, 38, 18, 113, 16, 10, 29, 104, 42, 42, 180, 0, 68, 182, 0, 71, 96]
abbrev dktX3_number_2 : List UInt8 := dkwX3_number_2 ++ dktX3_number_3
def dkwX3_number_1 : List UInt8 := [180, 0, 68, 182, 0, 102, 3, 172, 42, 42, 180, 0, 68, 181, 0, 110, 3, 62, 42, 42, 180, 0, 68]
abbrev dktX3_number_1 : List UInt8 := dkwX3_number_1 ++ dktX3_number_2
def dkwX3_number_0 : List UInt8 := [42, 182, 0, 85, 154, 0, 5, 3, 172, 42, 182, 0, 89, 184, 0, 106, 154, 0, 15, 42, 16, 254, 42]
abbrev dktX3_number_0 : List UInt8 := dkwX3_number_0 ++ dktX3_number_1
theorem dksX3_number_0 : cX3_number.data.toList.drop 0 = dktX3_number_0 := by decide +kernel
theorem dksX3_number_1 : cX3_number.data.toList.drop 23 = dktX3_number_1 := dk_seg dksX3_number_0 23 rfl rfl
theorem dksX3_number_2 : cX3_number.data.toList.drop 46 = dktX3_number_2 := dk_seg dksX3_number_1 23 rfl rfl
theorem dksX3_number_3 : cX3_number.data.toList.drop 70 = dktX3_number_3 := dk_seg dksX3_number_2 24 rfl rfl
theorem dksX3_number_4 : cX3_number.data.toList.drop 93 = dktX3_number_4 := dk_seg dksX3_number_3 23 rfl rfl
theorem dX3_number_0 : decode cX3_number 0 = .ok (.aload_n 0, 1) := dk_42 (dk_at dksX3_number_0 0 rfl rfl)
theorem dX3_number_1 : decode cX3_number 1 = .ok (.invokevirtual 85, 3) := dk_182 0 85 (dk_at dksX3_number_0 1 rfl rfl)
theorem dX3_number_4 : decode cX3_number 4 = .ok (.ifCond .ne 5, 3) := dk_154 0 5 (dk_at dksX3_number_0 4 rfl rfl)
theorem dX3_number_7 : decode cX3_number 7 = .ok (.iconst 0, 1) := dk_3 (dk_at dksX3_number_0 7 rfl rfl)
theorem dX3_number_8 : decode cX3_number 8 = .ok (.ireturn, 1) := dk_172 (dk_at dksX3_number_0 8 rfl rfl)
theorem dX3_number_9 : decode cX3_number 9 = .ok (.aload_n 0, 1) := dk_42 (dk_at dksX3_number_0 9 rfl rfl)
theorem dX3_number_10 : decode cX3_number 10 = .ok (.invokevirtual 89, 3) := dk_182 0 89 (dk_at dksX3_number_0 10 rfl rfl)
theorem dX3_number_13 : decode cX3_number 13 = .ok (.invokestatic 106, 3) := dk_184 0 106 (dk_at dksX3_number_0 13 rfl rfl)
theorem dX3_number_16 : decode cX3_number 16 = .ok (.ifCond .ne 15, 3) := dk_154 0 15 (dk_at dksX3_number_0 16 rfl rfl)
theorem dX3_number_19 : decode cX3_number 19 = .ok (.aload_n 0, 1) := dk_42 (dk_at dksX3_number_0 19 rfl rfl)
theorem dX3_number_20 : decode cX3_number 20 = .ok (.bipush (-2), 2) := dk_16 254 (dk_at dksX3_number_0 20 rfl rfl)
theorem dX3_number_22 : decode cX3_number 22 = .ok (.aload_n 0, 1) := dk_42 (dk_at dksX3_number_0 22 rfl rfl)
theorem dX3_number_23 : decode cX3_number 23 = .ok (.getfield 68, 3) := dk_180 0 68 (dk_at dksX3_number_1 0 rfl rfl)
theorem dX3_number_26 : decode cX3_number 26 = .ok (.invokevirtual 102, 3) := dk_182 0 102 (dk_at dksX3_number_1 3 rfl rfl)
theorem dX3_number_29 : decode cX3_number 29 = .ok (.iconst 0, 1) := dk_3 (dk_at dksX3_number_1 6 rfl rfl)
theorem dX3_number_30 : decode cX3_number 30 = .ok (.ireturn, 1) := dk_172 (dk_at dksX3_number_1 7 rfl rfl)
theorem dX3_number_31 : decode cX3_number 31 = .ok (.aload_n 0, 1) := dk_42 (dk_at dksX3_number_1 8 rfl rfl)
theorem dX3_number_32 : decode cX3_number 32 = .ok (.aload_n 0, 1) := dk_42 (dk_at dksX3_number_1 9 rfl rfl)
theorem dX3_number_33 : decode cX3_number 33 = .ok (.getfield 68, 3) := dk_180 0 68 (dk_at dksX3_number_1 10 rfl rfl)
theorem dX3_number_36 : decode cX3_number 36 = .ok (.putfield 110, 3) := dk_181 0 110 (dk_at dksX3_number_1 13 rfl rfl)
theorem dX3_number_39 : decode cX3_number 39 = .ok (.iconst 0, 1) := dk_3 (dk_at dksX3_number_1 16 rfl rfl)
theorem dX3_number_40 : decode cX3_number 40 = .ok (.istore_n 3, 1) := dk_62 (dk_at dksX3_number_1 17 rfl rfl)
theorem dX3_number_41 : decode cX3_number 41 = .ok (.aload_n 0, 1) := dk_42 (dk_at dksX3_number_1 18 rfl rfl)
theorem dX3_number_42 : decode cX3_number 42 = .ok (.aload_n 0, 1) := dk_42 (dk_at dksX3_number_1 19 rfl rfl)
theorem dX3_number_43 : decode cX3_number 43 = .ok (.getfield 68, 3) := dk_180 0 68 (dk_at dksX3_number_1 20 rfl rfl)
theorem dX3_number_46 : decode cX3_number 46 = .ok (.invokevirtual 71, 3) := dk_182 0 71 (dk_at dksX3_number_2 0 rfl rfl)
theorem dX3_number_49 : decode cX3_number 49 = .ok (.invokestatic 106, 3) := dk_184 0 106 (dk_at dksX3_number_2 3 rfl rfl)
theorem dX3_number_52 : decode cX3_number 52 = .ok (.ifCond .eq 38, 3) := dk_153 0 38 (dk_at dksX3_number_2 6 rfl rfl)
theorem dX3_number_55 : decode cX3_number 55 = .ok (.ldc 113, 2) := dk_18 113 (dk_at dksX3_number_2 9 rfl rfl)
theorem dX3_number_57 : decode cX3_number 57 = .ok (.bipush 10, 2) := dk_16 10 (dk_at dksX3_number_2 11 rfl rfl)
theorem dX3_number_59 : decode cX3_number 59 = .ok (.iload_n 3, 1) := dk_29 (dk_at dksX3_number_2 13 rfl rfl)
theorem dX3_number_60 : decode cX3_number 60 = .ok (.imul, 1) := dk_104 (dk_at dksX3_number_2 14 rfl rfl)
theorem dX3_number_61 : decode cX3_number 61 = .ok (.aload_n 0, 1) := dk_42 (dk_at dksX3_number_2 15 rfl rfl)
theorem dX3_number_62 : decode cX3_number 62 = .ok (.aload_n 0, 1) := dk_42 (dk_at dksX3_number_2 16 rfl rfl)
theorem dX3_number_63 : decode cX3_number 63 = .ok (.getfield 68, 3) := dk_180 0 68 (dk_at dksX3_number_2 17 rfl rfl)
theorem dX3_number_66 : decode cX3_number 66 = .ok (.invokevirtual 71, 3) := dk_182 0 71 (dk_at dksX3_number_2 20 rfl rfl)
theorem dX3_number_69 : decode cX3_number 69 = .ok (.iadd, 1) := dk_96 (dk_at dksX3_number_2 23 rfl rfl)
theorem dX3_number_70 : decode cX3_number 70 = .ok (.bipush 48, 2) := dk_16 48 (dk_at dksX3_number_3 0 rfl rfl)
theorem dX3_number_72 : decode cX3_number 72 = .ok (.isub, 1) := dk_100 (dk_at dksX3_number_3 2 rfl rfl)
theorem dX3_number_73 : decode cX3_number 73 = .ok (.invokestatic 114, 3) := dk_184 0 114 (dk_at dksX3_number_3 3 rfl rfl)
theorem dX3_number_76 : decode cX3_number 76 = .ok (.istore_n 3, 1) := dk_62 (dk_at dksX3_number_3 6 rfl rfl)
theorem dX3_number_77 : decode cX3_number 77 = .ok (.aload_n 0, 1) := dk_42 (dk_at dksX3_number_3 7 rfl rfl)
theorem dX3_number_78 : decode cX3_number 78 = .ok (.dup, 1) := dk_89 (dk_at dksX3_number_3 8 rfl rfl)
theorem dX3_number_79 : decode cX3_number 79 = .ok (.getfield 68, 3) := dk_180 0 68 (dk_at dksX3_number_3 9 rfl rfl)
theorem dX3_number_82 : decode cX3_number 82 = .ok (.iconst 1, 1) := dk_4 (dk_at dksX3_number_3 12 rfl rfl)
theorem dX3_number_83 : decode cX3_number 83 = .ok (.iadd, 1) := dk_96 (dk_at dksX3_number_3 13 rfl rfl)
theorem dX3_number_84 : decode cX3_number 84 = .ok (.putfield 68, 3) := dk_181 0 68 (dk_at dksX3_number_3 14 rfl rfl)
theorem dX3_number_87 : decode cX3_number 87 = .ok (.goto (-46), 3) := dk_167 255 210 (dk_at dksX3_number_3 17 rfl rfl)
theorem dX3_number_90 : decode cX3_number 90 = .ok (.iload_n 3, 1) := dk_29 (dk_at dksX3_number_3 20 rfl rfl)
theorem dX3_number_91 : decode cX3_number 91 = .ok (.iload_n 1, 1) := dk_27 (dk_at dksX3_number_3 21 rfl rfl)
theorem dX3_number_92 : decode cX3_number 92 = .ok (.iload_n 2, 1) := dk_28 (dk_at dksX3_number_3 22 rfl rfl)
theorem dX3_number_93 : decode cX3_number 93 = .ok (.invokestatic 81, 3) := dk_184 0 81 (dk_at dksX3_number_4 0 rfl rfl)
theorem dX3_number_96 : decode cX3_number 96 = .ok (.ifCond .ne 13, 3) := dk_154 0 13 (dk_at dksX3_number_4 3 rfl rfl)
theorem dX3_number_99 : decode cX3_number 99 = .ok (.aload_n 0, 1) := dk_42 (dk_at dksX3_number_4 6 rfl rfl)
theorem dX3_number_100 : decode cX3_number 100 = .ok (.bipush (-3), 2) := dk_16 253 (dk_at dksX3_number_4 7 rfl rfl)
theorem dX3_number_102 : decode cX3_number 102 = .ok (.aload_n 0, 1) := dk_42 (dk_at dksX3_number_4 9 rfl rfl)
theorem dX3_number_103 : decode cX3_number 103 = .ok (.getfield 110, 3) := dk_180 0 110 (dk_at dksX3_number_4 10 rfl rfl)
theorem dX3_number_106 : decode cX3_number 106 = .ok (.invokevirtual 102, 3) := dk_182 0 102 (dk_at dksX3_number_4 13 rfl rfl)
theorem dX3_number_109 : decode cX3_number 109 = .ok (.iload_n 3, 1) := dk_29 (dk_at dksX3_number_4 16 rfl rfl)
theorem dX3_number_110 : decode cX3_number 110 = .ok (.ireturn, 1) := dk_172 (dk_at dksX3_number_4 17 rfl rfl)
abbrev cX3_isDigit : ByteArray := prog_11_method_13_code
def yX3_isDigit : MethodName := ⟨RX3, "isDigit", "(I)Z"⟩
def dkwX3_isDigit_0 : List UInt8 := [26, 16, 48, 16, 57, 184, 0, 81, 172]
abbrev dktX3_isDigit_0 : List UInt8 := dkwX3_isDigit_0 ++ []
theorem dksX3_isDigit_0 : cX3_isDigit.data.toList.drop 0 = dktX3_isDigit_0 := by decide +kernel
theorem dX3_isDigit_0 : decode cX3_isDigit 0 = .ok (.iload_n 0, 1) := dk_26 (dk_at dksX3_isDigit_0 0 rfl rfl)
theorem dX3_isDigit_1 : decode cX3_isDigit 1 = .ok (.bipush 48, 2) := dk_16 48 (dk_at dksX3_isDigit_0 1 rfl rfl)
theorem dX3_isDigit_3 : decode cX3_isDigit 3 = .ok (.bipush 57, 2) := dk_16 57 (dk_at dksX3_isDigit_0 3 rfl rfl)
theorem dX3_isDigit_5 : decode cX3_isDigit 5 = .ok (.invokestatic 81, 3) := dk_184 0 81 (dk_at dksX3_isDigit_0 5 rfl rfl)
theorem dX3_isDigit_8 : decode cX3_isDigit 8 = .ok (.ireturn, 1) := dk_172 (dk_at dksX3_isDigit_0 8 rfl rfl)
abbrev cX3_min : ByteArray := prog_11_method_5_code
def yX3_min : MethodName := ⟨RX3, "min", "(II)I"⟩
def dkwX3_min_0 : List UInt8 := [26, 27, 162, 0, 7, 26, 167, 0, 4, 27, 172]
abbrev dktX3_min_0 : List UInt8 := dkwX3_min_0 ++ []
theorem dksX3_min_0 : cX3_min.data.toList.drop 0 = dktX3_min_0 := by decide +kernel
theorem dX3_min_0 : decode cX3_min 0 = .ok (.iload_n 0, 1) := dk_26 (dk_at dksX3_min_0 0 rfl rfl)
theorem dX3_min_1 : decode cX3_min 1 = .ok (.iload_n 1, 1) := dk_27 (dk_at dksX3_min_0 1 rfl rfl)
theorem dX3_min_2 : decode cX3_min 2 = .ok (.if_icmp .ge 7, 3) := dk_162 0 7 (dk_at dksX3_min_0 2 rfl rfl)
theorem dX3_min_5 : decode cX3_min 5 = .ok (.iload_n 0, 1) := dk_26 (dk_at dksX3_min_0 5 rfl rfl)
theorem dX3_min_6 : decode cX3_min 6 = .ok (.goto 4, 3) := dk_167 0 4 (dk_at dksX3_min_0 6 rfl rfl)
theorem dX3_min_9 : decode cX3_min 9 = .ok (.iload_n 1, 1) := dk_27 (dk_at dksX3_min_0 9 rfl rfl)
theorem dX3_min_10 : decode cX3_min 10 = .ok (.ireturn, 1) := dk_172 (dk_at dksX3_min_0 10 rfl rfl)
abbrev cX3_readOffer : ByteArray := prog_11_method_28_code
def yX3_readOffer : MethodName := ⟨RX3, "readOffer", "()V"⟩
def dkwX3_readOffer_5 : List UInt8 := [17, 39, 15, 182, 0, 140, 79, 177]
abbrev dktX3_readOffer_5 : List UInt8 := dkwX3_readOffer_5 ++ []
def dkwX3_readOffer_4 : List UInt8 := [180, 0, 32, 42, 180, 0, 20, 5, 46, 182, 0, 179, 100, 79, 167, 0, 17, 42, 180, 0, 20, 29, 42, 3]
abbrev dktX3_readOffer_4 : List UInt8 := dkwX3_readOffer_4 ++ dktX3_readOffer_5
def dkwX3_readOffer_3 : List UInt8 := [154, 0, 4, 177, 42, 18, 183, 182, 0, 130, 153, 0, 29, 42, 180, 0, 20, 29, 16, 254, 42, 42]
abbrev dktX3_readOffer_3 : List UInt8 := dkwX3_readOffer_3 ++ dktX3_readOffer_4
def dkwX3_readOffer_2 : List UInt8 := [180, 0, 20, 29, 46, 2, 159, 0, 13, 42, 16, 251, 42, 180, 0, 155, 182, 0, 102, 42, 182, 0, 85]
abbrev dktX3_readOffer_2 : List UInt8 := dkwX3_readOffer_2 ++ dktX3_readOffer_3
def dkwX3_readOffer_1 : List UInt8 := [5, 46, 182, 0, 179, 61, 27, 184, 0, 174, 16, 12, 96, 28, 96, 62, 42, 182, 0, 85, 153, 0, 23, 42]
abbrev dktX3_readOffer_1 : List UInt8 := dkwX3_readOffer_1 ++ dktX3_readOffer_2
def dkwX3_readOffer_0 : List UInt8 := [42, 42, 180, 0, 28, 42, 180, 0, 20, 4, 46, 182, 0, 179, 60, 42, 42, 180, 0, 32, 42, 180, 0, 20]
abbrev dktX3_readOffer_0 : List UInt8 := dkwX3_readOffer_0 ++ dktX3_readOffer_1
theorem dksX3_readOffer_0 : cX3_readOffer.data.toList.drop 0 = dktX3_readOffer_0 := by decide +kernel
theorem dksX3_readOffer_1 : cX3_readOffer.data.toList.drop 24 = dktX3_readOffer_1 := dk_seg dksX3_readOffer_0 24 rfl rfl
theorem dksX3_readOffer_2 : cX3_readOffer.data.toList.drop 48 = dktX3_readOffer_2 := dk_seg dksX3_readOffer_1 24 rfl rfl
theorem dksX3_readOffer_3 : cX3_readOffer.data.toList.drop 71 = dktX3_readOffer_3 := dk_seg dksX3_readOffer_2 23 rfl rfl
theorem dksX3_readOffer_4 : cX3_readOffer.data.toList.drop 93 = dktX3_readOffer_4 := dk_seg dksX3_readOffer_3 22 rfl rfl
theorem dksX3_readOffer_5 : cX3_readOffer.data.toList.drop 117 = dktX3_readOffer_5 := dk_seg dksX3_readOffer_4 24 rfl rfl
theorem dX3_readOffer_0 : decode cX3_readOffer 0 = .ok (.aload_n 0, 1) := dk_42 (dk_at dksX3_readOffer_0 0 rfl rfl)
theorem dX3_readOffer_1 : decode cX3_readOffer 1 = .ok (.aload_n 0, 1) := dk_42 (dk_at dksX3_readOffer_0 1 rfl rfl)
theorem dX3_readOffer_2 : decode cX3_readOffer 2 = .ok (.getfield 28, 3) := dk_180 0 28 (dk_at dksX3_readOffer_0 2 rfl rfl)
theorem dX3_readOffer_5 : decode cX3_readOffer 5 = .ok (.aload_n 0, 1) := dk_42 (dk_at dksX3_readOffer_0 5 rfl rfl)
theorem dX3_readOffer_6 : decode cX3_readOffer 6 = .ok (.getfield 20, 3) := dk_180 0 20 (dk_at dksX3_readOffer_0 6 rfl rfl)
theorem dX3_readOffer_9 : decode cX3_readOffer 9 = .ok (.iconst 1, 1) := dk_4 (dk_at dksX3_readOffer_0 9 rfl rfl)
theorem dX3_readOffer_10 : decode cX3_readOffer 10 = .ok (.iaload, 1) := dk_46 (dk_at dksX3_readOffer_0 10 rfl rfl)
theorem dX3_readOffer_11 : decode cX3_readOffer 11 = .ok (.invokevirtual 179, 3) := dk_182 0 179 (dk_at dksX3_readOffer_0 11 rfl rfl)
theorem dX3_readOffer_14 : decode cX3_readOffer 14 = .ok (.istore_n 1, 1) := dk_60 (dk_at dksX3_readOffer_0 14 rfl rfl)
theorem dX3_readOffer_15 : decode cX3_readOffer 15 = .ok (.aload_n 0, 1) := dk_42 (dk_at dksX3_readOffer_0 15 rfl rfl)
theorem dX3_readOffer_16 : decode cX3_readOffer 16 = .ok (.aload_n 0, 1) := dk_42 (dk_at dksX3_readOffer_0 16 rfl rfl)
theorem dX3_readOffer_17 : decode cX3_readOffer 17 = .ok (.getfield 32, 3) := dk_180 0 32 (dk_at dksX3_readOffer_0 17 rfl rfl)
theorem dX3_readOffer_20 : decode cX3_readOffer 20 = .ok (.aload_n 0, 1) := dk_42 (dk_at dksX3_readOffer_0 20 rfl rfl)
theorem dX3_readOffer_21 : decode cX3_readOffer 21 = .ok (.getfield 20, 3) := dk_180 0 20 (dk_at dksX3_readOffer_0 21 rfl rfl)
theorem dX3_readOffer_24 : decode cX3_readOffer 24 = .ok (.iconst 2, 1) := dk_5 (dk_at dksX3_readOffer_1 0 rfl rfl)
theorem dX3_readOffer_25 : decode cX3_readOffer 25 = .ok (.iaload, 1) := dk_46 (dk_at dksX3_readOffer_1 1 rfl rfl)
theorem dX3_readOffer_26 : decode cX3_readOffer 26 = .ok (.invokevirtual 179, 3) := dk_182 0 179 (dk_at dksX3_readOffer_1 2 rfl rfl)
theorem dX3_readOffer_29 : decode cX3_readOffer 29 = .ok (.istore_n 2, 1) := dk_61 (dk_at dksX3_readOffer_1 5 rfl rfl)
theorem dX3_readOffer_30 : decode cX3_readOffer 30 = .ok (.iload_n 1, 1) := dk_27 (dk_at dksX3_readOffer_1 6 rfl rfl)
theorem dX3_readOffer_31 : decode cX3_readOffer 31 = .ok (.invokestatic 174, 3) := dk_184 0 174 (dk_at dksX3_readOffer_1 7 rfl rfl)
theorem dX3_readOffer_34 : decode cX3_readOffer 34 = .ok (.bipush 12, 2) := dk_16 12 (dk_at dksX3_readOffer_1 10 rfl rfl)
theorem dX3_readOffer_36 : decode cX3_readOffer 36 = .ok (.iadd, 1) := dk_96 (dk_at dksX3_readOffer_1 12 rfl rfl)
theorem dX3_readOffer_37 : decode cX3_readOffer 37 = .ok (.iload_n 2, 1) := dk_28 (dk_at dksX3_readOffer_1 13 rfl rfl)
theorem dX3_readOffer_38 : decode cX3_readOffer 38 = .ok (.iadd, 1) := dk_96 (dk_at dksX3_readOffer_1 14 rfl rfl)
theorem dX3_readOffer_39 : decode cX3_readOffer 39 = .ok (.istore_n 3, 1) := dk_62 (dk_at dksX3_readOffer_1 15 rfl rfl)
theorem dX3_readOffer_40 : decode cX3_readOffer 40 = .ok (.aload_n 0, 1) := dk_42 (dk_at dksX3_readOffer_1 16 rfl rfl)
theorem dX3_readOffer_41 : decode cX3_readOffer 41 = .ok (.invokevirtual 85, 3) := dk_182 0 85 (dk_at dksX3_readOffer_1 17 rfl rfl)
theorem dX3_readOffer_44 : decode cX3_readOffer 44 = .ok (.ifCond .eq 23, 3) := dk_153 0 23 (dk_at dksX3_readOffer_1 20 rfl rfl)
theorem dX3_readOffer_47 : decode cX3_readOffer 47 = .ok (.aload_n 0, 1) := dk_42 (dk_at dksX3_readOffer_1 23 rfl rfl)
theorem dX3_readOffer_48 : decode cX3_readOffer 48 = .ok (.getfield 20, 3) := dk_180 0 20 (dk_at dksX3_readOffer_2 0 rfl rfl)
theorem dX3_readOffer_51 : decode cX3_readOffer 51 = .ok (.iload_n 3, 1) := dk_29 (dk_at dksX3_readOffer_2 3 rfl rfl)
theorem dX3_readOffer_52 : decode cX3_readOffer 52 = .ok (.iaload, 1) := dk_46 (dk_at dksX3_readOffer_2 4 rfl rfl)
theorem dX3_readOffer_53 : decode cX3_readOffer 53 = .ok (.iconst (-1), 1) := dk_2 (dk_at dksX3_readOffer_2 5 rfl rfl)
theorem dX3_readOffer_54 : decode cX3_readOffer 54 = .ok (.if_icmp .eq 13, 3) := dk_159 0 13 (dk_at dksX3_readOffer_2 6 rfl rfl)
theorem dX3_readOffer_57 : decode cX3_readOffer 57 = .ok (.aload_n 0, 1) := dk_42 (dk_at dksX3_readOffer_2 9 rfl rfl)
theorem dX3_readOffer_58 : decode cX3_readOffer 58 = .ok (.bipush (-5), 2) := dk_16 251 (dk_at dksX3_readOffer_2 10 rfl rfl)
theorem dX3_readOffer_60 : decode cX3_readOffer 60 = .ok (.aload_n 0, 1) := dk_42 (dk_at dksX3_readOffer_2 12 rfl rfl)
theorem dX3_readOffer_61 : decode cX3_readOffer 61 = .ok (.getfield 155, 3) := dk_180 0 155 (dk_at dksX3_readOffer_2 13 rfl rfl)
theorem dX3_readOffer_64 : decode cX3_readOffer 64 = .ok (.invokevirtual 102, 3) := dk_182 0 102 (dk_at dksX3_readOffer_2 16 rfl rfl)
theorem dX3_readOffer_67 : decode cX3_readOffer 67 = .ok (.aload_n 0, 1) := dk_42 (dk_at dksX3_readOffer_2 19 rfl rfl)
theorem dX3_readOffer_68 : decode cX3_readOffer 68 = .ok (.invokevirtual 85, 3) := dk_182 0 85 (dk_at dksX3_readOffer_2 20 rfl rfl)
theorem dX3_readOffer_71 : decode cX3_readOffer 71 = .ok (.ifCond .ne 4, 3) := dk_154 0 4 (dk_at dksX3_readOffer_3 0 rfl rfl)
theorem dX3_readOffer_74 : decode cX3_readOffer 74 = .ok (.return_, 1) := dk_177 (dk_at dksX3_readOffer_3 3 rfl rfl)
theorem dX3_readOffer_75 : decode cX3_readOffer 75 = .ok (.aload_n 0, 1) := dk_42 (dk_at dksX3_readOffer_3 4 rfl rfl)
theorem dX3_readOffer_76 : decode cX3_readOffer 76 = .ok (.ldc 183, 2) := dk_18 183 (dk_at dksX3_readOffer_3 5 rfl rfl)
theorem dX3_readOffer_78 : decode cX3_readOffer 78 = .ok (.invokevirtual 130, 3) := dk_182 0 130 (dk_at dksX3_readOffer_3 7 rfl rfl)
theorem dX3_readOffer_81 : decode cX3_readOffer 81 = .ok (.ifCond .eq 29, 3) := dk_153 0 29 (dk_at dksX3_readOffer_3 10 rfl rfl)
theorem dX3_readOffer_84 : decode cX3_readOffer 84 = .ok (.aload_n 0, 1) := dk_42 (dk_at dksX3_readOffer_3 13 rfl rfl)
theorem dX3_readOffer_85 : decode cX3_readOffer 85 = .ok (.getfield 20, 3) := dk_180 0 20 (dk_at dksX3_readOffer_3 14 rfl rfl)
theorem dX3_readOffer_88 : decode cX3_readOffer 88 = .ok (.iload_n 3, 1) := dk_29 (dk_at dksX3_readOffer_3 17 rfl rfl)
theorem dX3_readOffer_89 : decode cX3_readOffer 89 = .ok (.bipush (-2), 2) := dk_16 254 (dk_at dksX3_readOffer_3 18 rfl rfl)
theorem dX3_readOffer_91 : decode cX3_readOffer 91 = .ok (.aload_n 0, 1) := dk_42 (dk_at dksX3_readOffer_3 20 rfl rfl)
theorem dX3_readOffer_92 : decode cX3_readOffer 92 = .ok (.aload_n 0, 1) := dk_42 (dk_at dksX3_readOffer_3 21 rfl rfl)
theorem dX3_readOffer_93 : decode cX3_readOffer 93 = .ok (.getfield 32, 3) := dk_180 0 32 (dk_at dksX3_readOffer_4 0 rfl rfl)
theorem dX3_readOffer_96 : decode cX3_readOffer 96 = .ok (.aload_n 0, 1) := dk_42 (dk_at dksX3_readOffer_4 3 rfl rfl)
theorem dX3_readOffer_97 : decode cX3_readOffer 97 = .ok (.getfield 20, 3) := dk_180 0 20 (dk_at dksX3_readOffer_4 4 rfl rfl)
theorem dX3_readOffer_100 : decode cX3_readOffer 100 = .ok (.iconst 2, 1) := dk_5 (dk_at dksX3_readOffer_4 7 rfl rfl)
theorem dX3_readOffer_101 : decode cX3_readOffer 101 = .ok (.iaload, 1) := dk_46 (dk_at dksX3_readOffer_4 8 rfl rfl)
theorem dX3_readOffer_102 : decode cX3_readOffer 102 = .ok (.invokevirtual 179, 3) := dk_182 0 179 (dk_at dksX3_readOffer_4 9 rfl rfl)
theorem dX3_readOffer_105 : decode cX3_readOffer 105 = .ok (.isub, 1) := dk_100 (dk_at dksX3_readOffer_4 12 rfl rfl)
theorem dX3_readOffer_106 : decode cX3_readOffer 106 = .ok (.iastore, 1) := dk_79 (dk_at dksX3_readOffer_4 13 rfl rfl)
theorem dX3_readOffer_107 : decode cX3_readOffer 107 = .ok (.goto 17, 3) := dk_167 0 17 (dk_at dksX3_readOffer_4 14 rfl rfl)
theorem dX3_readOffer_110 : decode cX3_readOffer 110 = .ok (.aload_n 0, 1) := dk_42 (dk_at dksX3_readOffer_4 17 rfl rfl)
theorem dX3_readOffer_111 : decode cX3_readOffer 111 = .ok (.getfield 20, 3) := dk_180 0 20 (dk_at dksX3_readOffer_4 18 rfl rfl)
theorem dX3_readOffer_114 : decode cX3_readOffer 114 = .ok (.iload_n 3, 1) := dk_29 (dk_at dksX3_readOffer_4 21 rfl rfl)
theorem dX3_readOffer_115 : decode cX3_readOffer 115 = .ok (.aload_n 0, 1) := dk_42 (dk_at dksX3_readOffer_4 22 rfl rfl)
theorem dX3_readOffer_116 : decode cX3_readOffer 116 = .ok (.iconst 0, 1) := dk_3 (dk_at dksX3_readOffer_4 23 rfl rfl)
theorem dX3_readOffer_117 : decode cX3_readOffer 117 = .ok (.sipush 9999, 3) := dk_17 39 15 (dk_at dksX3_readOffer_5 0 rfl rfl)
theorem dX3_readOffer_120 : decode cX3_readOffer 120 = .ok (.invokevirtual 140, 3) := dk_182 0 140 (dk_at dksX3_readOffer_5 3 rfl rfl)
theorem dX3_readOffer_123 : decode cX3_readOffer 123 = .ok (.iastore, 1) := dk_79 (dk_at dksX3_readOffer_5 6 rfl rfl)
theorem dX3_readOffer_124 : decode cX3_readOffer 124 = .ok (.return_, 1) := dk_177 (dk_at dksX3_readOffer_5 7 rfl rfl)
abbrev cX3_readKnown : ByteArray := prog_11_method_24_code
def yX3_readKnown : MethodName := ⟨RX3, "readKnown", "([JI)I"⟩
def dkwX3_readKnown_1 : List UInt8 := [16, 252, 42, 180, 0, 155, 182, 0, 102, 42, 182, 0, 85, 153, 0, 7, 29, 167, 0, 4, 3, 172]
abbrev dktX3_readKnown_1 : List UInt8 := dkwX3_readKnown_1 ++ []
def dkwX3_readKnown_0 : List UInt8 := [42, 182, 0, 162, 43, 28, 184, 0, 166, 62, 42, 182, 0, 85, 153, 0, 18, 29, 2, 160, 0, 13, 42]
abbrev dktX3_readKnown_0 : List UInt8 := dkwX3_readKnown_0 ++ dktX3_readKnown_1
theorem dksX3_readKnown_0 : cX3_readKnown.data.toList.drop 0 = dktX3_readKnown_0 := by decide +kernel
theorem dksX3_readKnown_1 : cX3_readKnown.data.toList.drop 23 = dktX3_readKnown_1 := dk_seg dksX3_readKnown_0 23 rfl rfl
theorem dX3_readKnown_0 : decode cX3_readKnown 0 = .ok (.aload_n 0, 1) := dk_42 (dk_at dksX3_readKnown_0 0 rfl rfl)
theorem dX3_readKnown_1 : decode cX3_readKnown 1 = .ok (.invokevirtual 162, 3) := dk_182 0 162 (dk_at dksX3_readKnown_0 1 rfl rfl)
theorem dX3_readKnown_4 : decode cX3_readKnown 4 = .ok (.aload_n 1, 1) := dk_43 (dk_at dksX3_readKnown_0 4 rfl rfl)
theorem dX3_readKnown_5 : decode cX3_readKnown 5 = .ok (.iload_n 2, 1) := dk_28 (dk_at dksX3_readKnown_0 5 rfl rfl)
theorem dX3_readKnown_6 : decode cX3_readKnown 6 = .ok (.invokestatic 166, 3) := dk_184 0 166 (dk_at dksX3_readKnown_0 6 rfl rfl)
theorem dX3_readKnown_9 : decode cX3_readKnown 9 = .ok (.istore_n 3, 1) := dk_62 (dk_at dksX3_readKnown_0 9 rfl rfl)
theorem dX3_readKnown_10 : decode cX3_readKnown 10 = .ok (.aload_n 0, 1) := dk_42 (dk_at dksX3_readKnown_0 10 rfl rfl)
theorem dX3_readKnown_11 : decode cX3_readKnown 11 = .ok (.invokevirtual 85, 3) := dk_182 0 85 (dk_at dksX3_readKnown_0 11 rfl rfl)
theorem dX3_readKnown_14 : decode cX3_readKnown 14 = .ok (.ifCond .eq 18, 3) := dk_153 0 18 (dk_at dksX3_readKnown_0 14 rfl rfl)
theorem dX3_readKnown_17 : decode cX3_readKnown 17 = .ok (.iload_n 3, 1) := dk_29 (dk_at dksX3_readKnown_0 17 rfl rfl)
theorem dX3_readKnown_18 : decode cX3_readKnown 18 = .ok (.iconst (-1), 1) := dk_2 (dk_at dksX3_readKnown_0 18 rfl rfl)
theorem dX3_readKnown_19 : decode cX3_readKnown 19 = .ok (.if_icmp .ne 13, 3) := dk_160 0 13 (dk_at dksX3_readKnown_0 19 rfl rfl)
theorem dX3_readKnown_22 : decode cX3_readKnown 22 = .ok (.aload_n 0, 1) := dk_42 (dk_at dksX3_readKnown_0 22 rfl rfl)
theorem dX3_readKnown_23 : decode cX3_readKnown 23 = .ok (.bipush (-4), 2) := dk_16 252 (dk_at dksX3_readKnown_1 0 rfl rfl)
theorem dX3_readKnown_25 : decode cX3_readKnown 25 = .ok (.aload_n 0, 1) := dk_42 (dk_at dksX3_readKnown_1 2 rfl rfl)
theorem dX3_readKnown_26 : decode cX3_readKnown 26 = .ok (.getfield 155, 3) := dk_180 0 155 (dk_at dksX3_readKnown_1 3 rfl rfl)
theorem dX3_readKnown_29 : decode cX3_readKnown 29 = .ok (.invokevirtual 102, 3) := dk_182 0 102 (dk_at dksX3_readKnown_1 6 rfl rfl)
theorem dX3_readKnown_32 : decode cX3_readKnown 32 = .ok (.aload_n 0, 1) := dk_42 (dk_at dksX3_readKnown_1 9 rfl rfl)
theorem dX3_readKnown_33 : decode cX3_readKnown 33 = .ok (.invokevirtual 85, 3) := dk_182 0 85 (dk_at dksX3_readKnown_1 10 rfl rfl)
theorem dX3_readKnown_36 : decode cX3_readKnown 36 = .ok (.ifCond .eq 7, 3) := dk_153 0 7 (dk_at dksX3_readKnown_1 13 rfl rfl)
theorem dX3_readKnown_39 : decode cX3_readKnown 39 = .ok (.iload_n 3, 1) := dk_29 (dk_at dksX3_readKnown_1 16 rfl rfl)
theorem dX3_readKnown_40 : decode cX3_readKnown 40 = .ok (.goto 4, 3) := dk_167 0 4 (dk_at dksX3_readKnown_1 17 rfl rfl)
theorem dX3_readKnown_43 : decode cX3_readKnown 43 = .ok (.iconst 0, 1) := dk_3 (dk_at dksX3_readKnown_1 20 rfl rfl)
theorem dX3_readKnown_44 : decode cX3_readKnown 44 = .ok (.ireturn, 1) := dk_172 (dk_at dksX3_readKnown_1 21 rfl rfl)
abbrev cX3_readPreference : ByteArray := prog_11_method_30_code
def yX3_readPreference : MethodName := ⟨RX3, "readPreference", "()V"⟩
def dkwX3_readPreference_4 : List UInt8 := [79, 42, 180, 0, 20, 27, 184, 0, 174, 6, 96, 92, 46, 4, 96, 79, 177]
abbrev dktX3_readPreference_4 : List UInt8 := dkwX3_readPreference_4 ++ []
def dkwX3_readPreference_3 : List UInt8 := [177, 42, 180, 0, 20, 27, 184, 0, 174, 7, 96, 42, 180, 0, 20, 27, 184, 0, 174, 6, 96, 46, 96, 28]
abbrev dktX3_readPreference_3 : List UInt8 := dkwX3_readPreference_3 ++ dktX3_readPreference_4
def dkwX3_readPreference_2 : List UInt8 := [28, 182, 0, 185, 153, 0, 13, 42, 16, 251, 42, 180, 0, 155, 182, 0, 102, 42, 182, 0, 85, 154, 0, 4]
abbrev dktX3_readPreference_2 : List UInt8 := dkwX3_readPreference_2 ++ dktX3_readPreference_3
def dkwX3_readPreference_1 : List UInt8 := [4, 46, 182, 0, 179, 61, 42, 182, 0, 85, 153, 0, 31, 27, 28, 159, 0, 16, 42, 42, 180, 0, 20, 27]
abbrev dktX3_readPreference_1 : List UInt8 := dkwX3_readPreference_1 ++ dktX3_readPreference_2
def dkwX3_readPreference_0 : List UInt8 := [42, 42, 180, 0, 28, 42, 180, 0, 20, 4, 46, 182, 0, 179, 60, 42, 42, 180, 0, 28, 42, 180, 0, 20]
abbrev dktX3_readPreference_0 : List UInt8 := dkwX3_readPreference_0 ++ dktX3_readPreference_1
theorem dksX3_readPreference_0 : cX3_readPreference.data.toList.drop 0 = dktX3_readPreference_0 := by decide +kernel
theorem dksX3_readPreference_1 : cX3_readPreference.data.toList.drop 24 = dktX3_readPreference_1 := dk_seg dksX3_readPreference_0 24 rfl rfl
theorem dksX3_readPreference_2 : cX3_readPreference.data.toList.drop 48 = dktX3_readPreference_2 := dk_seg dksX3_readPreference_1 24 rfl rfl
theorem dksX3_readPreference_3 : cX3_readPreference.data.toList.drop 72 = dktX3_readPreference_3 := dk_seg dksX3_readPreference_2 24 rfl rfl
theorem dksX3_readPreference_4 : cX3_readPreference.data.toList.drop 96 = dktX3_readPreference_4 := dk_seg dksX3_readPreference_3 24 rfl rfl
theorem dX3_readPreference_0 : decode cX3_readPreference 0 = .ok (.aload_n 0, 1) := dk_42 (dk_at dksX3_readPreference_0 0 rfl rfl)
theorem dX3_readPreference_1 : decode cX3_readPreference 1 = .ok (.aload_n 0, 1) := dk_42 (dk_at dksX3_readPreference_0 1 rfl rfl)
theorem dX3_readPreference_2 : decode cX3_readPreference 2 = .ok (.getfield 28, 3) := dk_180 0 28 (dk_at dksX3_readPreference_0 2 rfl rfl)
theorem dX3_readPreference_5 : decode cX3_readPreference 5 = .ok (.aload_n 0, 1) := dk_42 (dk_at dksX3_readPreference_0 5 rfl rfl)
theorem dX3_readPreference_6 : decode cX3_readPreference 6 = .ok (.getfield 20, 3) := dk_180 0 20 (dk_at dksX3_readPreference_0 6 rfl rfl)
theorem dX3_readPreference_9 : decode cX3_readPreference 9 = .ok (.iconst 1, 1) := dk_4 (dk_at dksX3_readPreference_0 9 rfl rfl)
theorem dX3_readPreference_10 : decode cX3_readPreference 10 = .ok (.iaload, 1) := dk_46 (dk_at dksX3_readPreference_0 10 rfl rfl)
theorem dX3_readPreference_11 : decode cX3_readPreference 11 = .ok (.invokevirtual 179, 3) := dk_182 0 179 (dk_at dksX3_readPreference_0 11 rfl rfl)
theorem dX3_readPreference_14 : decode cX3_readPreference 14 = .ok (.istore_n 1, 1) := dk_60 (dk_at dksX3_readPreference_0 14 rfl rfl)
theorem dX3_readPreference_15 : decode cX3_readPreference 15 = .ok (.aload_n 0, 1) := dk_42 (dk_at dksX3_readPreference_0 15 rfl rfl)
theorem dX3_readPreference_16 : decode cX3_readPreference 16 = .ok (.aload_n 0, 1) := dk_42 (dk_at dksX3_readPreference_0 16 rfl rfl)
theorem dX3_readPreference_17 : decode cX3_readPreference 17 = .ok (.getfield 28, 3) := dk_180 0 28 (dk_at dksX3_readPreference_0 17 rfl rfl)
theorem dX3_readPreference_20 : decode cX3_readPreference 20 = .ok (.aload_n 0, 1) := dk_42 (dk_at dksX3_readPreference_0 20 rfl rfl)
theorem dX3_readPreference_21 : decode cX3_readPreference 21 = .ok (.getfield 20, 3) := dk_180 0 20 (dk_at dksX3_readPreference_0 21 rfl rfl)
theorem dX3_readPreference_24 : decode cX3_readPreference 24 = .ok (.iconst 1, 1) := dk_4 (dk_at dksX3_readPreference_1 0 rfl rfl)
theorem dX3_readPreference_25 : decode cX3_readPreference 25 = .ok (.iaload, 1) := dk_46 (dk_at dksX3_readPreference_1 1 rfl rfl)
theorem dX3_readPreference_26 : decode cX3_readPreference 26 = .ok (.invokevirtual 179, 3) := dk_182 0 179 (dk_at dksX3_readPreference_1 2 rfl rfl)
theorem dX3_readPreference_29 : decode cX3_readPreference 29 = .ok (.istore_n 2, 1) := dk_61 (dk_at dksX3_readPreference_1 5 rfl rfl)
theorem dX3_readPreference_30 : decode cX3_readPreference 30 = .ok (.aload_n 0, 1) := dk_42 (dk_at dksX3_readPreference_1 6 rfl rfl)
theorem dX3_readPreference_31 : decode cX3_readPreference 31 = .ok (.invokevirtual 85, 3) := dk_182 0 85 (dk_at dksX3_readPreference_1 7 rfl rfl)
theorem dX3_readPreference_34 : decode cX3_readPreference 34 = .ok (.ifCond .eq 31, 3) := dk_153 0 31 (dk_at dksX3_readPreference_1 10 rfl rfl)
theorem dX3_readPreference_37 : decode cX3_readPreference 37 = .ok (.iload_n 1, 1) := dk_27 (dk_at dksX3_readPreference_1 13 rfl rfl)
theorem dX3_readPreference_38 : decode cX3_readPreference 38 = .ok (.iload_n 2, 1) := dk_28 (dk_at dksX3_readPreference_1 14 rfl rfl)
theorem dX3_readPreference_39 : decode cX3_readPreference 39 = .ok (.if_icmp .eq 16, 3) := dk_159 0 16 (dk_at dksX3_readPreference_1 15 rfl rfl)
theorem dX3_readPreference_42 : decode cX3_readPreference 42 = .ok (.aload_n 0, 1) := dk_42 (dk_at dksX3_readPreference_1 18 rfl rfl)
theorem dX3_readPreference_43 : decode cX3_readPreference 43 = .ok (.aload_n 0, 1) := dk_42 (dk_at dksX3_readPreference_1 19 rfl rfl)
theorem dX3_readPreference_44 : decode cX3_readPreference 44 = .ok (.getfield 20, 3) := dk_180 0 20 (dk_at dksX3_readPreference_1 20 rfl rfl)
theorem dX3_readPreference_47 : decode cX3_readPreference 47 = .ok (.iload_n 1, 1) := dk_27 (dk_at dksX3_readPreference_1 23 rfl rfl)
theorem dX3_readPreference_48 : decode cX3_readPreference 48 = .ok (.iload_n 2, 1) := dk_28 (dk_at dksX3_readPreference_2 0 rfl rfl)
theorem dX3_readPreference_49 : decode cX3_readPreference 49 = .ok (.invokevirtual 185, 3) := dk_182 0 185 (dk_at dksX3_readPreference_2 1 rfl rfl)
theorem dX3_readPreference_52 : decode cX3_readPreference 52 = .ok (.ifCond .eq 13, 3) := dk_153 0 13 (dk_at dksX3_readPreference_2 4 rfl rfl)
theorem dX3_readPreference_55 : decode cX3_readPreference 55 = .ok (.aload_n 0, 1) := dk_42 (dk_at dksX3_readPreference_2 7 rfl rfl)
theorem dX3_readPreference_56 : decode cX3_readPreference 56 = .ok (.bipush (-5), 2) := dk_16 251 (dk_at dksX3_readPreference_2 8 rfl rfl)
theorem dX3_readPreference_58 : decode cX3_readPreference 58 = .ok (.aload_n 0, 1) := dk_42 (dk_at dksX3_readPreference_2 10 rfl rfl)
theorem dX3_readPreference_59 : decode cX3_readPreference 59 = .ok (.getfield 155, 3) := dk_180 0 155 (dk_at dksX3_readPreference_2 11 rfl rfl)
theorem dX3_readPreference_62 : decode cX3_readPreference 62 = .ok (.invokevirtual 102, 3) := dk_182 0 102 (dk_at dksX3_readPreference_2 14 rfl rfl)
theorem dX3_readPreference_65 : decode cX3_readPreference 65 = .ok (.aload_n 0, 1) := dk_42 (dk_at dksX3_readPreference_2 17 rfl rfl)
theorem dX3_readPreference_66 : decode cX3_readPreference 66 = .ok (.invokevirtual 85, 3) := dk_182 0 85 (dk_at dksX3_readPreference_2 18 rfl rfl)
theorem dX3_readPreference_69 : decode cX3_readPreference 69 = .ok (.ifCond .ne 4, 3) := dk_154 0 4 (dk_at dksX3_readPreference_2 21 rfl rfl)
theorem dX3_readPreference_72 : decode cX3_readPreference 72 = .ok (.return_, 1) := dk_177 (dk_at dksX3_readPreference_3 0 rfl rfl)
theorem dX3_readPreference_73 : decode cX3_readPreference 73 = .ok (.aload_n 0, 1) := dk_42 (dk_at dksX3_readPreference_3 1 rfl rfl)
theorem dX3_readPreference_74 : decode cX3_readPreference 74 = .ok (.getfield 20, 3) := dk_180 0 20 (dk_at dksX3_readPreference_3 2 rfl rfl)
theorem dX3_readPreference_77 : decode cX3_readPreference 77 = .ok (.iload_n 1, 1) := dk_27 (dk_at dksX3_readPreference_3 5 rfl rfl)
theorem dX3_readPreference_78 : decode cX3_readPreference 78 = .ok (.invokestatic 174, 3) := dk_184 0 174 (dk_at dksX3_readPreference_3 6 rfl rfl)
theorem dX3_readPreference_81 : decode cX3_readPreference 81 = .ok (.iconst 4, 1) := dk_7 (dk_at dksX3_readPreference_3 9 rfl rfl)
theorem dX3_readPreference_82 : decode cX3_readPreference 82 = .ok (.iadd, 1) := dk_96 (dk_at dksX3_readPreference_3 10 rfl rfl)
theorem dX3_readPreference_83 : decode cX3_readPreference 83 = .ok (.aload_n 0, 1) := dk_42 (dk_at dksX3_readPreference_3 11 rfl rfl)
theorem dX3_readPreference_84 : decode cX3_readPreference 84 = .ok (.getfield 20, 3) := dk_180 0 20 (dk_at dksX3_readPreference_3 12 rfl rfl)
theorem dX3_readPreference_87 : decode cX3_readPreference 87 = .ok (.iload_n 1, 1) := dk_27 (dk_at dksX3_readPreference_3 15 rfl rfl)
theorem dX3_readPreference_88 : decode cX3_readPreference 88 = .ok (.invokestatic 174, 3) := dk_184 0 174 (dk_at dksX3_readPreference_3 16 rfl rfl)
theorem dX3_readPreference_91 : decode cX3_readPreference 91 = .ok (.iconst 3, 1) := dk_6 (dk_at dksX3_readPreference_3 19 rfl rfl)
theorem dX3_readPreference_92 : decode cX3_readPreference 92 = .ok (.iadd, 1) := dk_96 (dk_at dksX3_readPreference_3 20 rfl rfl)
theorem dX3_readPreference_93 : decode cX3_readPreference 93 = .ok (.iaload, 1) := dk_46 (dk_at dksX3_readPreference_3 21 rfl rfl)
theorem dX3_readPreference_94 : decode cX3_readPreference 94 = .ok (.iadd, 1) := dk_96 (dk_at dksX3_readPreference_3 22 rfl rfl)
theorem dX3_readPreference_95 : decode cX3_readPreference 95 = .ok (.iload_n 2, 1) := dk_28 (dk_at dksX3_readPreference_3 23 rfl rfl)
theorem dX3_readPreference_96 : decode cX3_readPreference 96 = .ok (.iastore, 1) := dk_79 (dk_at dksX3_readPreference_4 0 rfl rfl)
theorem dX3_readPreference_97 : decode cX3_readPreference 97 = .ok (.aload_n 0, 1) := dk_42 (dk_at dksX3_readPreference_4 1 rfl rfl)
theorem dX3_readPreference_98 : decode cX3_readPreference 98 = .ok (.getfield 20, 3) := dk_180 0 20 (dk_at dksX3_readPreference_4 2 rfl rfl)
theorem dX3_readPreference_101 : decode cX3_readPreference 101 = .ok (.iload_n 1, 1) := dk_27 (dk_at dksX3_readPreference_4 5 rfl rfl)
theorem dX3_readPreference_102 : decode cX3_readPreference 102 = .ok (.invokestatic 174, 3) := dk_184 0 174 (dk_at dksX3_readPreference_4 6 rfl rfl)
theorem dX3_readPreference_105 : decode cX3_readPreference 105 = .ok (.iconst 3, 1) := dk_6 (dk_at dksX3_readPreference_4 9 rfl rfl)
theorem dX3_readPreference_106 : decode cX3_readPreference 106 = .ok (.iadd, 1) := dk_96 (dk_at dksX3_readPreference_4 10 rfl rfl)
theorem dX3_readPreference_107 : decode cX3_readPreference 107 = .ok (.dup2, 1) := dk_92 (dk_at dksX3_readPreference_4 11 rfl rfl)
theorem dX3_readPreference_108 : decode cX3_readPreference 108 = .ok (.iaload, 1) := dk_46 (dk_at dksX3_readPreference_4 12 rfl rfl)
theorem dX3_readPreference_109 : decode cX3_readPreference 109 = .ok (.iconst 1, 1) := dk_4 (dk_at dksX3_readPreference_4 13 rfl rfl)
theorem dX3_readPreference_110 : decode cX3_readPreference 110 = .ok (.iadd, 1) := dk_96 (dk_at dksX3_readPreference_4 14 rfl rfl)
theorem dX3_readPreference_111 : decode cX3_readPreference 111 = .ok (.iastore, 1) := dk_79 (dk_at dksX3_readPreference_4 15 rfl rfl)
theorem dX3_readPreference_112 : decode cX3_readPreference 112 = .ok (.return_, 1) := dk_177 (dk_at dksX3_readPreference_4 16 rfl rfl)
abbrev cX3_prefers : ByteArray := prog_11_method_29_code
def yX3_prefers : MethodName := ⟨RX3, "prefers", "([III)Z"⟩
def dkwX3_prefers_1 : List UInt8 := [21, 4, 96, 46, 29, 160, 0, 5, 4, 172, 132, 4, 1, 167, 255, 223, 3, 172]
abbrev dktX3_prefers_1 : List UInt8 := dkwX3_prefers_1 ++ []
def dkwX3_prefers_0 : List UInt8 := [3, 54, 4, 21, 4, 43, 28, 184, 0, 174, 6, 96, 46, 162, 0, 26, 43, 28, 184, 0, 174, 7, 96]
abbrev dktX3_prefers_0 : List UInt8 := dkwX3_prefers_0 ++ dktX3_prefers_1
theorem dksX3_prefers_0 : cX3_prefers.data.toList.drop 0 = dktX3_prefers_0 := by decide +kernel
theorem dksX3_prefers_1 : cX3_prefers.data.toList.drop 23 = dktX3_prefers_1 := dk_seg dksX3_prefers_0 23 rfl rfl
theorem dX3_prefers_0 : decode cX3_prefers 0 = .ok (.iconst 0, 1) := dk_3 (dk_at dksX3_prefers_0 0 rfl rfl)
theorem dX3_prefers_1 : decode cX3_prefers 1 = .ok (.istore 4, 2) := dk_54 4 (dk_at dksX3_prefers_0 1 rfl rfl)
theorem dX3_prefers_3 : decode cX3_prefers 3 = .ok (.iload 4, 2) := dk_21 4 (dk_at dksX3_prefers_0 3 rfl rfl)
theorem dX3_prefers_5 : decode cX3_prefers 5 = .ok (.aload_n 1, 1) := dk_43 (dk_at dksX3_prefers_0 5 rfl rfl)
theorem dX3_prefers_6 : decode cX3_prefers 6 = .ok (.iload_n 2, 1) := dk_28 (dk_at dksX3_prefers_0 6 rfl rfl)
theorem dX3_prefers_7 : decode cX3_prefers 7 = .ok (.invokestatic 174, 3) := dk_184 0 174 (dk_at dksX3_prefers_0 7 rfl rfl)
theorem dX3_prefers_10 : decode cX3_prefers 10 = .ok (.iconst 3, 1) := dk_6 (dk_at dksX3_prefers_0 10 rfl rfl)
theorem dX3_prefers_11 : decode cX3_prefers 11 = .ok (.iadd, 1) := dk_96 (dk_at dksX3_prefers_0 11 rfl rfl)
theorem dX3_prefers_12 : decode cX3_prefers 12 = .ok (.iaload, 1) := dk_46 (dk_at dksX3_prefers_0 12 rfl rfl)
theorem dX3_prefers_13 : decode cX3_prefers 13 = .ok (.if_icmp .ge 26, 3) := dk_162 0 26 (dk_at dksX3_prefers_0 13 rfl rfl)
theorem dX3_prefers_16 : decode cX3_prefers 16 = .ok (.aload_n 1, 1) := dk_43 (dk_at dksX3_prefers_0 16 rfl rfl)
theorem dX3_prefers_17 : decode cX3_prefers 17 = .ok (.iload_n 2, 1) := dk_28 (dk_at dksX3_prefers_0 17 rfl rfl)
theorem dX3_prefers_18 : decode cX3_prefers 18 = .ok (.invokestatic 174, 3) := dk_184 0 174 (dk_at dksX3_prefers_0 18 rfl rfl)
theorem dX3_prefers_21 : decode cX3_prefers 21 = .ok (.iconst 4, 1) := dk_7 (dk_at dksX3_prefers_0 21 rfl rfl)
theorem dX3_prefers_22 : decode cX3_prefers 22 = .ok (.iadd, 1) := dk_96 (dk_at dksX3_prefers_0 22 rfl rfl)
theorem dX3_prefers_23 : decode cX3_prefers 23 = .ok (.iload 4, 2) := dk_21 4 (dk_at dksX3_prefers_1 0 rfl rfl)
theorem dX3_prefers_25 : decode cX3_prefers 25 = .ok (.iadd, 1) := dk_96 (dk_at dksX3_prefers_1 2 rfl rfl)
theorem dX3_prefers_26 : decode cX3_prefers 26 = .ok (.iaload, 1) := dk_46 (dk_at dksX3_prefers_1 3 rfl rfl)
theorem dX3_prefers_27 : decode cX3_prefers 27 = .ok (.iload_n 3, 1) := dk_29 (dk_at dksX3_prefers_1 4 rfl rfl)
theorem dX3_prefers_28 : decode cX3_prefers 28 = .ok (.if_icmp .ne 5, 3) := dk_160 0 5 (dk_at dksX3_prefers_1 5 rfl rfl)
theorem dX3_prefers_31 : decode cX3_prefers 31 = .ok (.iconst 1, 1) := dk_4 (dk_at dksX3_prefers_1 8 rfl rfl)
theorem dX3_prefers_32 : decode cX3_prefers 32 = .ok (.ireturn, 1) := dk_172 (dk_at dksX3_prefers_1 9 rfl rfl)
theorem dX3_prefers_33 : decode cX3_prefers 33 = .ok (.iinc 4 1, 3) := dk_132 4 1 (dk_at dksX3_prefers_1 10 rfl rfl)
theorem dX3_prefers_36 : decode cX3_prefers 36 = .ok (.goto (-33), 3) := dk_167 255 223 (dk_at dksX3_prefers_1 13 rfl rfl)
theorem dX3_prefers_39 : decode cX3_prefers 39 = .ok (.iconst 0, 1) := dk_3 (dk_at dksX3_prefers_1 16 rfl rfl)
theorem dX3_prefers_40 : decode cX3_prefers 40 = .ok (.ireturn, 1) := dk_172 (dk_at dksX3_prefers_1 17 rfl rfl)
abbrev cX3_once : ByteArray := prog_11_method_21_code
def yX3_once : MethodName := ⟨RX3, "once", "(II)V"⟩
def dkwX3_once_1 : List UInt8 := [4, 27, 120, 128, 181, 0, 152, 177]
abbrev dktX3_once_1 : List UInt8 := dkwX3_once_1 ++ []
def dkwX3_once_0 : List UInt8 := [42, 180, 0, 152, 27, 122, 4, 126, 4, 160, 0, 10, 42, 16, 254, 28, 182, 0, 102, 42, 89, 180, 0, 152]
abbrev dktX3_once_0 : List UInt8 := dkwX3_once_0 ++ dktX3_once_1
theorem dksX3_once_0 : cX3_once.data.toList.drop 0 = dktX3_once_0 := by decide +kernel
theorem dksX3_once_1 : cX3_once.data.toList.drop 24 = dktX3_once_1 := dk_seg dksX3_once_0 24 rfl rfl
theorem dX3_once_0 : decode cX3_once 0 = .ok (.aload_n 0, 1) := dk_42 (dk_at dksX3_once_0 0 rfl rfl)
theorem dX3_once_1 : decode cX3_once 1 = .ok (.getfield 152, 3) := dk_180 0 152 (dk_at dksX3_once_0 1 rfl rfl)
theorem dX3_once_4 : decode cX3_once 4 = .ok (.iload_n 1, 1) := dk_27 (dk_at dksX3_once_0 4 rfl rfl)
theorem dX3_once_5 : decode cX3_once 5 = .ok (.ishr, 1) := dk_122 (dk_at dksX3_once_0 5 rfl rfl)
theorem dX3_once_6 : decode cX3_once 6 = .ok (.iconst 1, 1) := dk_4 (dk_at dksX3_once_0 6 rfl rfl)
theorem dX3_once_7 : decode cX3_once 7 = .ok (.iand, 1) := dk_126 (dk_at dksX3_once_0 7 rfl rfl)
theorem dX3_once_8 : decode cX3_once 8 = .ok (.iconst 1, 1) := dk_4 (dk_at dksX3_once_0 8 rfl rfl)
theorem dX3_once_9 : decode cX3_once 9 = .ok (.if_icmp .ne 10, 3) := dk_160 0 10 (dk_at dksX3_once_0 9 rfl rfl)
theorem dX3_once_12 : decode cX3_once 12 = .ok (.aload_n 0, 1) := dk_42 (dk_at dksX3_once_0 12 rfl rfl)
theorem dX3_once_13 : decode cX3_once 13 = .ok (.bipush (-2), 2) := dk_16 254 (dk_at dksX3_once_0 13 rfl rfl)
theorem dX3_once_15 : decode cX3_once 15 = .ok (.iload_n 2, 1) := dk_28 (dk_at dksX3_once_0 15 rfl rfl)
theorem dX3_once_16 : decode cX3_once 16 = .ok (.invokevirtual 102, 3) := dk_182 0 102 (dk_at dksX3_once_0 16 rfl rfl)
theorem dX3_once_19 : decode cX3_once 19 = .ok (.aload_n 0, 1) := dk_42 (dk_at dksX3_once_0 19 rfl rfl)
theorem dX3_once_20 : decode cX3_once 20 = .ok (.dup, 1) := dk_89 (dk_at dksX3_once_0 20 rfl rfl)
theorem dX3_once_21 : decode cX3_once 21 = .ok (.getfield 152, 3) := dk_180 0 152 (dk_at dksX3_once_0 21 rfl rfl)
theorem dX3_once_24 : decode cX3_once 24 = .ok (.iconst 1, 1) := dk_4 (dk_at dksX3_once_1 0 rfl rfl)
theorem dX3_once_25 : decode cX3_once 25 = .ok (.iload_n 1, 1) := dk_27 (dk_at dksX3_once_1 1 rfl rfl)
theorem dX3_once_26 : decode cX3_once 26 = .ok (.ishl, 1) := dk_120 (dk_at dksX3_once_1 2 rfl rfl)
theorem dX3_once_27 : decode cX3_once 27 = .ok (.ior, 1) := dk_128 (dk_at dksX3_once_1 3 rfl rfl)
theorem dX3_once_28 : decode cX3_once 28 = .ok (.putfield 152, 3) := dk_181 0 152 (dk_at dksX3_once_1 4 rfl rfl)
theorem dX3_once_31 : decode cX3_once 31 = .ok (.return_, 1) := dk_177 (dk_at dksX3_once_1 7 rfl rfl)
abbrev cX3_sum : ByteArray := prog_11_method_20_code
def yX3_sum : MethodName := ⟨RX3, "sum", "()V"⟩
def dkwX3_sum_3 : List UInt8 := [182, 0, 143, 167, 255, 189, 177]
abbrev dktX3_sum_3 : List UInt8 := dkwX3_sum_3 ++ []
def dkwX3_sum_2 : List UInt8 := [180, 0, 68, 4, 96, 181, 0, 68, 42, 182, 0, 149, 42, 27, 153, 0, 7, 5, 167, 0, 4, 6]
abbrev dktX3_sum_2 : List UInt8 := dkwX3_sum_2 ++ dktX3_sum_3
def dkwX3_sum_1 : List UInt8 := [16, 45, 160, 0, 48, 42, 182, 0, 89, 16, 43, 160, 0, 7, 4, 167, 0, 4, 3, 60, 42, 89]
abbrev dktX3_sum_1 : List UInt8 := dkwX3_sum_1 ++ dktX3_sum_2
def dkwX3_sum_0 : List UInt8 := [42, 182, 0, 149, 42, 182, 0, 85, 153, 0, 66, 42, 182, 0, 89, 16, 43, 159, 0, 12, 42, 182, 0, 89]
abbrev dktX3_sum_0 : List UInt8 := dkwX3_sum_0 ++ dktX3_sum_1
theorem dksX3_sum_0 : cX3_sum.data.toList.drop 0 = dktX3_sum_0 := by decide +kernel
theorem dksX3_sum_1 : cX3_sum.data.toList.drop 24 = dktX3_sum_1 := dk_seg dksX3_sum_0 24 rfl rfl
theorem dksX3_sum_2 : cX3_sum.data.toList.drop 46 = dktX3_sum_2 := dk_seg dksX3_sum_1 22 rfl rfl
theorem dksX3_sum_3 : cX3_sum.data.toList.drop 68 = dktX3_sum_3 := dk_seg dksX3_sum_2 22 rfl rfl
theorem dX3_sum_0 : decode cX3_sum 0 = .ok (.aload_n 0, 1) := dk_42 (dk_at dksX3_sum_0 0 rfl rfl)
theorem dX3_sum_1 : decode cX3_sum 1 = .ok (.invokevirtual 149, 3) := dk_182 0 149 (dk_at dksX3_sum_0 1 rfl rfl)
theorem dX3_sum_4 : decode cX3_sum 4 = .ok (.aload_n 0, 1) := dk_42 (dk_at dksX3_sum_0 4 rfl rfl)
theorem dX3_sum_5 : decode cX3_sum 5 = .ok (.invokevirtual 85, 3) := dk_182 0 85 (dk_at dksX3_sum_0 5 rfl rfl)
theorem dX3_sum_8 : decode cX3_sum 8 = .ok (.ifCond .eq 66, 3) := dk_153 0 66 (dk_at dksX3_sum_0 8 rfl rfl)
theorem dX3_sum_11 : decode cX3_sum 11 = .ok (.aload_n 0, 1) := dk_42 (dk_at dksX3_sum_0 11 rfl rfl)
theorem dX3_sum_12 : decode cX3_sum 12 = .ok (.invokevirtual 89, 3) := dk_182 0 89 (dk_at dksX3_sum_0 12 rfl rfl)
theorem dX3_sum_15 : decode cX3_sum 15 = .ok (.bipush 43, 2) := dk_16 43 (dk_at dksX3_sum_0 15 rfl rfl)
theorem dX3_sum_17 : decode cX3_sum 17 = .ok (.if_icmp .eq 12, 3) := dk_159 0 12 (dk_at dksX3_sum_0 17 rfl rfl)
theorem dX3_sum_20 : decode cX3_sum 20 = .ok (.aload_n 0, 1) := dk_42 (dk_at dksX3_sum_0 20 rfl rfl)
theorem dX3_sum_21 : decode cX3_sum 21 = .ok (.invokevirtual 89, 3) := dk_182 0 89 (dk_at dksX3_sum_0 21 rfl rfl)
theorem dX3_sum_24 : decode cX3_sum 24 = .ok (.bipush 45, 2) := dk_16 45 (dk_at dksX3_sum_1 0 rfl rfl)
theorem dX3_sum_26 : decode cX3_sum 26 = .ok (.if_icmp .ne 48, 3) := dk_160 0 48 (dk_at dksX3_sum_1 2 rfl rfl)
theorem dX3_sum_29 : decode cX3_sum 29 = .ok (.aload_n 0, 1) := dk_42 (dk_at dksX3_sum_1 5 rfl rfl)
theorem dX3_sum_30 : decode cX3_sum 30 = .ok (.invokevirtual 89, 3) := dk_182 0 89 (dk_at dksX3_sum_1 6 rfl rfl)
theorem dX3_sum_33 : decode cX3_sum 33 = .ok (.bipush 43, 2) := dk_16 43 (dk_at dksX3_sum_1 9 rfl rfl)
theorem dX3_sum_35 : decode cX3_sum 35 = .ok (.if_icmp .ne 7, 3) := dk_160 0 7 (dk_at dksX3_sum_1 11 rfl rfl)
theorem dX3_sum_38 : decode cX3_sum 38 = .ok (.iconst 1, 1) := dk_4 (dk_at dksX3_sum_1 14 rfl rfl)
theorem dX3_sum_39 : decode cX3_sum 39 = .ok (.goto 4, 3) := dk_167 0 4 (dk_at dksX3_sum_1 15 rfl rfl)
theorem dX3_sum_42 : decode cX3_sum 42 = .ok (.iconst 0, 1) := dk_3 (dk_at dksX3_sum_1 18 rfl rfl)
theorem dX3_sum_43 : decode cX3_sum 43 = .ok (.istore_n 1, 1) := dk_60 (dk_at dksX3_sum_1 19 rfl rfl)
theorem dX3_sum_44 : decode cX3_sum 44 = .ok (.aload_n 0, 1) := dk_42 (dk_at dksX3_sum_1 20 rfl rfl)
theorem dX3_sum_45 : decode cX3_sum 45 = .ok (.dup, 1) := dk_89 (dk_at dksX3_sum_1 21 rfl rfl)
theorem dX3_sum_46 : decode cX3_sum 46 = .ok (.getfield 68, 3) := dk_180 0 68 (dk_at dksX3_sum_2 0 rfl rfl)
theorem dX3_sum_49 : decode cX3_sum 49 = .ok (.iconst 1, 1) := dk_4 (dk_at dksX3_sum_2 3 rfl rfl)
theorem dX3_sum_50 : decode cX3_sum 50 = .ok (.iadd, 1) := dk_96 (dk_at dksX3_sum_2 4 rfl rfl)
theorem dX3_sum_51 : decode cX3_sum 51 = .ok (.putfield 68, 3) := dk_181 0 68 (dk_at dksX3_sum_2 5 rfl rfl)
theorem dX3_sum_54 : decode cX3_sum 54 = .ok (.aload_n 0, 1) := dk_42 (dk_at dksX3_sum_2 8 rfl rfl)
theorem dX3_sum_55 : decode cX3_sum 55 = .ok (.invokevirtual 149, 3) := dk_182 0 149 (dk_at dksX3_sum_2 9 rfl rfl)
theorem dX3_sum_58 : decode cX3_sum 58 = .ok (.aload_n 0, 1) := dk_42 (dk_at dksX3_sum_2 12 rfl rfl)
theorem dX3_sum_59 : decode cX3_sum 59 = .ok (.iload_n 1, 1) := dk_27 (dk_at dksX3_sum_2 13 rfl rfl)
theorem dX3_sum_60 : decode cX3_sum 60 = .ok (.ifCond .eq 7, 3) := dk_153 0 7 (dk_at dksX3_sum_2 14 rfl rfl)
theorem dX3_sum_63 : decode cX3_sum 63 = .ok (.iconst 2, 1) := dk_5 (dk_at dksX3_sum_2 17 rfl rfl)
theorem dX3_sum_64 : decode cX3_sum 64 = .ok (.goto 4, 3) := dk_167 0 4 (dk_at dksX3_sum_2 18 rfl rfl)
theorem dX3_sum_67 : decode cX3_sum 67 = .ok (.iconst 3, 1) := dk_6 (dk_at dksX3_sum_2 21 rfl rfl)
theorem dX3_sum_68 : decode cX3_sum 68 = .ok (.invokevirtual 143, 3) := dk_182 0 143 (dk_at dksX3_sum_3 0 rfl rfl)
theorem dX3_sum_71 : decode cX3_sum 71 = .ok (.goto (-67), 3) := dk_167 255 189 (dk_at dksX3_sum_3 3 rfl rfl)
theorem dX3_sum_74 : decode cX3_sum 74 = .ok (.return_, 1) := dk_177 (dk_at dksX3_sum_3 6 rfl rfl)
abbrev cX3_term : ByteArray := prog_11_method_19_code
def yX3_term : MethodName := ⟨RX3, "term", "()V"⟩
def dkwX3_term_3 : List UInt8 := [182, 0, 143, 167, 255, 189, 177]
abbrev dktX3_term_3 : List UInt8 := dkwX3_term_3 ++ []
def dkwX3_term_2 : List UInt8 := [180, 0, 68, 4, 96, 181, 0, 68, 42, 182, 0, 146, 42, 27, 153, 0, 7, 7, 167, 0, 4, 8]
abbrev dktX3_term_2 : List UInt8 := dkwX3_term_2 ++ dktX3_term_3
def dkwX3_term_1 : List UInt8 := [16, 47, 160, 0, 48, 42, 182, 0, 89, 16, 42, 160, 0, 7, 4, 167, 0, 4, 3, 60, 42, 89]
abbrev dktX3_term_1 : List UInt8 := dkwX3_term_1 ++ dktX3_term_2
def dkwX3_term_0 : List UInt8 := [42, 182, 0, 146, 42, 182, 0, 85, 153, 0, 66, 42, 182, 0, 89, 16, 42, 159, 0, 12, 42, 182, 0, 89]
abbrev dktX3_term_0 : List UInt8 := dkwX3_term_0 ++ dktX3_term_1
theorem dksX3_term_0 : cX3_term.data.toList.drop 0 = dktX3_term_0 := by decide +kernel
theorem dksX3_term_1 : cX3_term.data.toList.drop 24 = dktX3_term_1 := dk_seg dksX3_term_0 24 rfl rfl
theorem dksX3_term_2 : cX3_term.data.toList.drop 46 = dktX3_term_2 := dk_seg dksX3_term_1 22 rfl rfl
theorem dksX3_term_3 : cX3_term.data.toList.drop 68 = dktX3_term_3 := dk_seg dksX3_term_2 22 rfl rfl
theorem dX3_term_0 : decode cX3_term 0 = .ok (.aload_n 0, 1) := dk_42 (dk_at dksX3_term_0 0 rfl rfl)
theorem dX3_term_1 : decode cX3_term 1 = .ok (.invokevirtual 146, 3) := dk_182 0 146 (dk_at dksX3_term_0 1 rfl rfl)
theorem dX3_term_4 : decode cX3_term 4 = .ok (.aload_n 0, 1) := dk_42 (dk_at dksX3_term_0 4 rfl rfl)
theorem dX3_term_5 : decode cX3_term 5 = .ok (.invokevirtual 85, 3) := dk_182 0 85 (dk_at dksX3_term_0 5 rfl rfl)
theorem dX3_term_8 : decode cX3_term 8 = .ok (.ifCond .eq 66, 3) := dk_153 0 66 (dk_at dksX3_term_0 8 rfl rfl)
theorem dX3_term_11 : decode cX3_term 11 = .ok (.aload_n 0, 1) := dk_42 (dk_at dksX3_term_0 11 rfl rfl)
theorem dX3_term_12 : decode cX3_term 12 = .ok (.invokevirtual 89, 3) := dk_182 0 89 (dk_at dksX3_term_0 12 rfl rfl)
theorem dX3_term_15 : decode cX3_term 15 = .ok (.bipush 42, 2) := dk_16 42 (dk_at dksX3_term_0 15 rfl rfl)
theorem dX3_term_17 : decode cX3_term 17 = .ok (.if_icmp .eq 12, 3) := dk_159 0 12 (dk_at dksX3_term_0 17 rfl rfl)
theorem dX3_term_20 : decode cX3_term 20 = .ok (.aload_n 0, 1) := dk_42 (dk_at dksX3_term_0 20 rfl rfl)
theorem dX3_term_21 : decode cX3_term 21 = .ok (.invokevirtual 89, 3) := dk_182 0 89 (dk_at dksX3_term_0 21 rfl rfl)
theorem dX3_term_24 : decode cX3_term 24 = .ok (.bipush 47, 2) := dk_16 47 (dk_at dksX3_term_1 0 rfl rfl)
theorem dX3_term_26 : decode cX3_term 26 = .ok (.if_icmp .ne 48, 3) := dk_160 0 48 (dk_at dksX3_term_1 2 rfl rfl)
theorem dX3_term_29 : decode cX3_term 29 = .ok (.aload_n 0, 1) := dk_42 (dk_at dksX3_term_1 5 rfl rfl)
theorem dX3_term_30 : decode cX3_term 30 = .ok (.invokevirtual 89, 3) := dk_182 0 89 (dk_at dksX3_term_1 6 rfl rfl)
theorem dX3_term_33 : decode cX3_term 33 = .ok (.bipush 42, 2) := dk_16 42 (dk_at dksX3_term_1 9 rfl rfl)
theorem dX3_term_35 : decode cX3_term 35 = .ok (.if_icmp .ne 7, 3) := dk_160 0 7 (dk_at dksX3_term_1 11 rfl rfl)
theorem dX3_term_38 : decode cX3_term 38 = .ok (.iconst 1, 1) := dk_4 (dk_at dksX3_term_1 14 rfl rfl)
theorem dX3_term_39 : decode cX3_term 39 = .ok (.goto 4, 3) := dk_167 0 4 (dk_at dksX3_term_1 15 rfl rfl)
theorem dX3_term_42 : decode cX3_term 42 = .ok (.iconst 0, 1) := dk_3 (dk_at dksX3_term_1 18 rfl rfl)
theorem dX3_term_43 : decode cX3_term 43 = .ok (.istore_n 1, 1) := dk_60 (dk_at dksX3_term_1 19 rfl rfl)
theorem dX3_term_44 : decode cX3_term 44 = .ok (.aload_n 0, 1) := dk_42 (dk_at dksX3_term_1 20 rfl rfl)
theorem dX3_term_45 : decode cX3_term 45 = .ok (.dup, 1) := dk_89 (dk_at dksX3_term_1 21 rfl rfl)
theorem dX3_term_46 : decode cX3_term 46 = .ok (.getfield 68, 3) := dk_180 0 68 (dk_at dksX3_term_2 0 rfl rfl)
theorem dX3_term_49 : decode cX3_term 49 = .ok (.iconst 1, 1) := dk_4 (dk_at dksX3_term_2 3 rfl rfl)
theorem dX3_term_50 : decode cX3_term 50 = .ok (.iadd, 1) := dk_96 (dk_at dksX3_term_2 4 rfl rfl)
theorem dX3_term_51 : decode cX3_term 51 = .ok (.putfield 68, 3) := dk_181 0 68 (dk_at dksX3_term_2 5 rfl rfl)
theorem dX3_term_54 : decode cX3_term 54 = .ok (.aload_n 0, 1) := dk_42 (dk_at dksX3_term_2 8 rfl rfl)
theorem dX3_term_55 : decode cX3_term 55 = .ok (.invokevirtual 146, 3) := dk_182 0 146 (dk_at dksX3_term_2 9 rfl rfl)
theorem dX3_term_58 : decode cX3_term 58 = .ok (.aload_n 0, 1) := dk_42 (dk_at dksX3_term_2 12 rfl rfl)
theorem dX3_term_59 : decode cX3_term 59 = .ok (.iload_n 1, 1) := dk_27 (dk_at dksX3_term_2 13 rfl rfl)
theorem dX3_term_60 : decode cX3_term 60 = .ok (.ifCond .eq 7, 3) := dk_153 0 7 (dk_at dksX3_term_2 14 rfl rfl)
theorem dX3_term_63 : decode cX3_term 63 = .ok (.iconst 4, 1) := dk_7 (dk_at dksX3_term_2 17 rfl rfl)
theorem dX3_term_64 : decode cX3_term 64 = .ok (.goto 4, 3) := dk_167 0 4 (dk_at dksX3_term_2 18 rfl rfl)
theorem dX3_term_67 : decode cX3_term 67 = .ok (.iconst 5, 1) := dk_8 (dk_at dksX3_term_2 21 rfl rfl)
theorem dX3_term_68 : decode cX3_term 68 = .ok (.invokevirtual 143, 3) := dk_182 0 143 (dk_at dksX3_term_3 0 rfl rfl)
theorem dX3_term_71 : decode cX3_term 71 = .ok (.goto (-67), 3) := dk_167 255 189 (dk_at dksX3_term_3 3 rfl rfl)
theorem dX3_term_74 : decode cX3_term 74 = .ok (.return_, 1) := dk_177 (dk_at dksX3_term_3 6 rfl rfl)
abbrev cX3_factor : ByteArray := prog_11_method_18_code
def yX3_factor : MethodName := ⟨RX3, "factor", "()V"⟩
def dkwX3_factor_7 : List UInt8 := [167, 0, 4, 4, 182, 0, 143, 42, 29, 182, 0, 143, 177]
abbrev dktX3_factor_7 : List UInt8 := dkwX3_factor_7 ++ []
def dkwX3_factor_6 : List UInt8 := [61, 28, 156, 0, 14, 42, 3, 17, 39, 15, 182, 0, 140, 167, 0, 4, 28, 62, 42, 28, 156, 0, 7, 3]
abbrev dktX3_factor_6 : List UInt8 := dkwX3_factor_6 ++ dktX3_factor_7
def dkwX3_factor_5 : List UInt8 := [182, 0, 130, 153, 0, 7, 5, 167, 0, 17, 42, 18, 138, 182, 0, 130, 153, 0, 7, 6, 167, 0, 4, 2]
abbrev dktX3_factor_5 : List UInt8 := dkwX3_factor_5 ++ dktX3_factor_6
def dkwX3_factor_4 : List UInt8 := [153, 0, 7, 3, 167, 0, 43, 42, 18, 134, 182, 0, 130, 153, 0, 7, 4, 167, 0, 30, 42, 18, 136]
abbrev dktX3_factor_4 : List UInt8 := dkwX3_factor_4 ++ dktX3_factor_5
def dkwX3_factor_3 : List UInt8 := [4, 100, 181, 0, 118, 177, 27, 184, 0, 106, 153, 0, 7, 2, 167, 0, 56, 42, 18, 128, 182, 0, 130]
abbrev dktX3_factor_3 : List UInt8 := dkwX3_factor_3 ++ dktX3_factor_4
def dkwX3_factor_2 : List UInt8 := [89, 180, 0, 118, 4, 96, 181, 0, 118, 42, 182, 0, 121, 42, 16, 41, 182, 0, 124, 42, 89, 180, 0, 118]
abbrev dktX3_factor_2 : List UInt8 := dkwX3_factor_2 ++ dktX3_factor_3
def dkwX3_factor_1 : List UInt8 := [160, 0, 13, 42, 16, 249, 42, 180, 0, 68, 182, 0, 102, 42, 89, 180, 0, 68, 4, 96, 181, 0, 68, 42]
abbrev dktX3_factor_1 : List UInt8 := dkwX3_factor_1 ++ dktX3_factor_2
def dkwX3_factor_0 : List UInt8 := [42, 182, 0, 85, 154, 0, 4, 177, 42, 182, 0, 89, 60, 27, 16, 40, 160, 0, 62, 42, 180, 0, 118, 7]
abbrev dktX3_factor_0 : List UInt8 := dkwX3_factor_0 ++ dktX3_factor_1
theorem dksX3_factor_0 : cX3_factor.data.toList.drop 0 = dktX3_factor_0 := by decide +kernel
theorem dksX3_factor_1 : cX3_factor.data.toList.drop 24 = dktX3_factor_1 := dk_seg dksX3_factor_0 24 rfl rfl
theorem dksX3_factor_2 : cX3_factor.data.toList.drop 48 = dktX3_factor_2 := dk_seg dksX3_factor_1 24 rfl rfl
theorem dksX3_factor_3 : cX3_factor.data.toList.drop 72 = dktX3_factor_3 := dk_seg dksX3_factor_2 24 rfl rfl
theorem dksX3_factor_4 : cX3_factor.data.toList.drop 95 = dktX3_factor_4 := dk_seg dksX3_factor_3 23 rfl rfl
theorem dksX3_factor_5 : cX3_factor.data.toList.drop 118 = dktX3_factor_5 := dk_seg dksX3_factor_4 23 rfl rfl
theorem dksX3_factor_6 : cX3_factor.data.toList.drop 142 = dktX3_factor_6 := dk_seg dksX3_factor_5 24 rfl rfl
theorem dksX3_factor_7 : cX3_factor.data.toList.drop 166 = dktX3_factor_7 := dk_seg dksX3_factor_6 24 rfl rfl
theorem dX3_factor_0 : decode cX3_factor 0 = .ok (.aload_n 0, 1) := dk_42 (dk_at dksX3_factor_0 0 rfl rfl)
theorem dX3_factor_1 : decode cX3_factor 1 = .ok (.invokevirtual 85, 3) := dk_182 0 85 (dk_at dksX3_factor_0 1 rfl rfl)
theorem dX3_factor_4 : decode cX3_factor 4 = .ok (.ifCond .ne 4, 3) := dk_154 0 4 (dk_at dksX3_factor_0 4 rfl rfl)
theorem dX3_factor_7 : decode cX3_factor 7 = .ok (.return_, 1) := dk_177 (dk_at dksX3_factor_0 7 rfl rfl)
theorem dX3_factor_8 : decode cX3_factor 8 = .ok (.aload_n 0, 1) := dk_42 (dk_at dksX3_factor_0 8 rfl rfl)
theorem dX3_factor_9 : decode cX3_factor 9 = .ok (.invokevirtual 89, 3) := dk_182 0 89 (dk_at dksX3_factor_0 9 rfl rfl)
theorem dX3_factor_12 : decode cX3_factor 12 = .ok (.istore_n 1, 1) := dk_60 (dk_at dksX3_factor_0 12 rfl rfl)
theorem dX3_factor_13 : decode cX3_factor 13 = .ok (.iload_n 1, 1) := dk_27 (dk_at dksX3_factor_0 13 rfl rfl)
theorem dX3_factor_14 : decode cX3_factor 14 = .ok (.bipush 40, 2) := dk_16 40 (dk_at dksX3_factor_0 14 rfl rfl)
theorem dX3_factor_16 : decode cX3_factor 16 = .ok (.if_icmp .ne 62, 3) := dk_160 0 62 (dk_at dksX3_factor_0 16 rfl rfl)
theorem dX3_factor_19 : decode cX3_factor 19 = .ok (.aload_n 0, 1) := dk_42 (dk_at dksX3_factor_0 19 rfl rfl)
theorem dX3_factor_20 : decode cX3_factor 20 = .ok (.getfield 118, 3) := dk_180 0 118 (dk_at dksX3_factor_0 20 rfl rfl)
theorem dX3_factor_23 : decode cX3_factor 23 = .ok (.iconst 4, 1) := dk_7 (dk_at dksX3_factor_0 23 rfl rfl)
theorem dX3_factor_24 : decode cX3_factor 24 = .ok (.if_icmp .ne 13, 3) := dk_160 0 13 (dk_at dksX3_factor_1 0 rfl rfl)
theorem dX3_factor_27 : decode cX3_factor 27 = .ok (.aload_n 0, 1) := dk_42 (dk_at dksX3_factor_1 3 rfl rfl)
theorem dX3_factor_28 : decode cX3_factor 28 = .ok (.bipush (-7), 2) := dk_16 249 (dk_at dksX3_factor_1 4 rfl rfl)
theorem dX3_factor_30 : decode cX3_factor 30 = .ok (.aload_n 0, 1) := dk_42 (dk_at dksX3_factor_1 6 rfl rfl)
theorem dX3_factor_31 : decode cX3_factor 31 = .ok (.getfield 68, 3) := dk_180 0 68 (dk_at dksX3_factor_1 7 rfl rfl)
theorem dX3_factor_34 : decode cX3_factor 34 = .ok (.invokevirtual 102, 3) := dk_182 0 102 (dk_at dksX3_factor_1 10 rfl rfl)
theorem dX3_factor_37 : decode cX3_factor 37 = .ok (.aload_n 0, 1) := dk_42 (dk_at dksX3_factor_1 13 rfl rfl)
theorem dX3_factor_38 : decode cX3_factor 38 = .ok (.dup, 1) := dk_89 (dk_at dksX3_factor_1 14 rfl rfl)
theorem dX3_factor_39 : decode cX3_factor 39 = .ok (.getfield 68, 3) := dk_180 0 68 (dk_at dksX3_factor_1 15 rfl rfl)
theorem dX3_factor_42 : decode cX3_factor 42 = .ok (.iconst 1, 1) := dk_4 (dk_at dksX3_factor_1 18 rfl rfl)
theorem dX3_factor_43 : decode cX3_factor 43 = .ok (.iadd, 1) := dk_96 (dk_at dksX3_factor_1 19 rfl rfl)
theorem dX3_factor_44 : decode cX3_factor 44 = .ok (.putfield 68, 3) := dk_181 0 68 (dk_at dksX3_factor_1 20 rfl rfl)
theorem dX3_factor_47 : decode cX3_factor 47 = .ok (.aload_n 0, 1) := dk_42 (dk_at dksX3_factor_1 23 rfl rfl)
theorem dX3_factor_48 : decode cX3_factor 48 = .ok (.dup, 1) := dk_89 (dk_at dksX3_factor_2 0 rfl rfl)
theorem dX3_factor_49 : decode cX3_factor 49 = .ok (.getfield 118, 3) := dk_180 0 118 (dk_at dksX3_factor_2 1 rfl rfl)
theorem dX3_factor_52 : decode cX3_factor 52 = .ok (.iconst 1, 1) := dk_4 (dk_at dksX3_factor_2 4 rfl rfl)
theorem dX3_factor_53 : decode cX3_factor 53 = .ok (.iadd, 1) := dk_96 (dk_at dksX3_factor_2 5 rfl rfl)
theorem dX3_factor_54 : decode cX3_factor 54 = .ok (.putfield 118, 3) := dk_181 0 118 (dk_at dksX3_factor_2 6 rfl rfl)
theorem dX3_factor_57 : decode cX3_factor 57 = .ok (.aload_n 0, 1) := dk_42 (dk_at dksX3_factor_2 9 rfl rfl)
theorem dX3_factor_58 : decode cX3_factor 58 = .ok (.invokevirtual 121, 3) := dk_182 0 121 (dk_at dksX3_factor_2 10 rfl rfl)
theorem dX3_factor_61 : decode cX3_factor 61 = .ok (.aload_n 0, 1) := dk_42 (dk_at dksX3_factor_2 13 rfl rfl)
theorem dX3_factor_62 : decode cX3_factor 62 = .ok (.bipush 41, 2) := dk_16 41 (dk_at dksX3_factor_2 14 rfl rfl)
theorem dX3_factor_64 : decode cX3_factor 64 = .ok (.invokevirtual 124, 3) := dk_182 0 124 (dk_at dksX3_factor_2 16 rfl rfl)
theorem dX3_factor_67 : decode cX3_factor 67 = .ok (.aload_n 0, 1) := dk_42 (dk_at dksX3_factor_2 19 rfl rfl)
theorem dX3_factor_68 : decode cX3_factor 68 = .ok (.dup, 1) := dk_89 (dk_at dksX3_factor_2 20 rfl rfl)
theorem dX3_factor_69 : decode cX3_factor 69 = .ok (.getfield 118, 3) := dk_180 0 118 (dk_at dksX3_factor_2 21 rfl rfl)
theorem dX3_factor_72 : decode cX3_factor 72 = .ok (.iconst 1, 1) := dk_4 (dk_at dksX3_factor_3 0 rfl rfl)
theorem dX3_factor_73 : decode cX3_factor 73 = .ok (.isub, 1) := dk_100 (dk_at dksX3_factor_3 1 rfl rfl)
theorem dX3_factor_74 : decode cX3_factor 74 = .ok (.putfield 118, 3) := dk_181 0 118 (dk_at dksX3_factor_3 2 rfl rfl)
theorem dX3_factor_77 : decode cX3_factor 77 = .ok (.return_, 1) := dk_177 (dk_at dksX3_factor_3 5 rfl rfl)
theorem dX3_factor_78 : decode cX3_factor 78 = .ok (.iload_n 1, 1) := dk_27 (dk_at dksX3_factor_3 6 rfl rfl)
theorem dX3_factor_79 : decode cX3_factor 79 = .ok (.invokestatic 106, 3) := dk_184 0 106 (dk_at dksX3_factor_3 7 rfl rfl)
theorem dX3_factor_82 : decode cX3_factor 82 = .ok (.ifCond .eq 7, 3) := dk_153 0 7 (dk_at dksX3_factor_3 10 rfl rfl)
theorem dX3_factor_85 : decode cX3_factor 85 = .ok (.iconst (-1), 1) := dk_2 (dk_at dksX3_factor_3 13 rfl rfl)
theorem dX3_factor_86 : decode cX3_factor 86 = .ok (.goto 56, 3) := dk_167 0 56 (dk_at dksX3_factor_3 14 rfl rfl)
theorem dX3_factor_89 : decode cX3_factor 89 = .ok (.aload_n 0, 1) := dk_42 (dk_at dksX3_factor_3 17 rfl rfl)
theorem dX3_factor_90 : decode cX3_factor 90 = .ok (.ldc 128, 2) := dk_18 128 (dk_at dksX3_factor_3 18 rfl rfl)
theorem dX3_factor_92 : decode cX3_factor 92 = .ok (.invokevirtual 130, 3) := dk_182 0 130 (dk_at dksX3_factor_3 20 rfl rfl)
theorem dX3_factor_95 : decode cX3_factor 95 = .ok (.ifCond .eq 7, 3) := dk_153 0 7 (dk_at dksX3_factor_4 0 rfl rfl)
theorem dX3_factor_98 : decode cX3_factor 98 = .ok (.iconst 0, 1) := dk_3 (dk_at dksX3_factor_4 3 rfl rfl)
theorem dX3_factor_99 : decode cX3_factor 99 = .ok (.goto 43, 3) := dk_167 0 43 (dk_at dksX3_factor_4 4 rfl rfl)
theorem dX3_factor_102 : decode cX3_factor 102 = .ok (.aload_n 0, 1) := dk_42 (dk_at dksX3_factor_4 7 rfl rfl)
theorem dX3_factor_103 : decode cX3_factor 103 = .ok (.ldc 134, 2) := dk_18 134 (dk_at dksX3_factor_4 8 rfl rfl)
theorem dX3_factor_105 : decode cX3_factor 105 = .ok (.invokevirtual 130, 3) := dk_182 0 130 (dk_at dksX3_factor_4 10 rfl rfl)
theorem dX3_factor_108 : decode cX3_factor 108 = .ok (.ifCond .eq 7, 3) := dk_153 0 7 (dk_at dksX3_factor_4 13 rfl rfl)
theorem dX3_factor_111 : decode cX3_factor 111 = .ok (.iconst 1, 1) := dk_4 (dk_at dksX3_factor_4 16 rfl rfl)
theorem dX3_factor_112 : decode cX3_factor 112 = .ok (.goto 30, 3) := dk_167 0 30 (dk_at dksX3_factor_4 17 rfl rfl)
theorem dX3_factor_115 : decode cX3_factor 115 = .ok (.aload_n 0, 1) := dk_42 (dk_at dksX3_factor_4 20 rfl rfl)
theorem dX3_factor_116 : decode cX3_factor 116 = .ok (.ldc 136, 2) := dk_18 136 (dk_at dksX3_factor_4 21 rfl rfl)
theorem dX3_factor_118 : decode cX3_factor 118 = .ok (.invokevirtual 130, 3) := dk_182 0 130 (dk_at dksX3_factor_5 0 rfl rfl)
theorem dX3_factor_121 : decode cX3_factor 121 = .ok (.ifCond .eq 7, 3) := dk_153 0 7 (dk_at dksX3_factor_5 3 rfl rfl)
theorem dX3_factor_124 : decode cX3_factor 124 = .ok (.iconst 2, 1) := dk_5 (dk_at dksX3_factor_5 6 rfl rfl)
theorem dX3_factor_125 : decode cX3_factor 125 = .ok (.goto 17, 3) := dk_167 0 17 (dk_at dksX3_factor_5 7 rfl rfl)
theorem dX3_factor_128 : decode cX3_factor 128 = .ok (.aload_n 0, 1) := dk_42 (dk_at dksX3_factor_5 10 rfl rfl)
theorem dX3_factor_129 : decode cX3_factor 129 = .ok (.ldc 138, 2) := dk_18 138 (dk_at dksX3_factor_5 11 rfl rfl)
theorem dX3_factor_131 : decode cX3_factor 131 = .ok (.invokevirtual 130, 3) := dk_182 0 130 (dk_at dksX3_factor_5 13 rfl rfl)
theorem dX3_factor_134 : decode cX3_factor 134 = .ok (.ifCond .eq 7, 3) := dk_153 0 7 (dk_at dksX3_factor_5 16 rfl rfl)
theorem dX3_factor_137 : decode cX3_factor 137 = .ok (.iconst 3, 1) := dk_6 (dk_at dksX3_factor_5 19 rfl rfl)
theorem dX3_factor_138 : decode cX3_factor 138 = .ok (.goto 4, 3) := dk_167 0 4 (dk_at dksX3_factor_5 20 rfl rfl)
theorem dX3_factor_141 : decode cX3_factor 141 = .ok (.iconst (-1), 1) := dk_2 (dk_at dksX3_factor_5 23 rfl rfl)
theorem dX3_factor_142 : decode cX3_factor 142 = .ok (.istore_n 2, 1) := dk_61 (dk_at dksX3_factor_6 0 rfl rfl)
theorem dX3_factor_143 : decode cX3_factor 143 = .ok (.iload_n 2, 1) := dk_28 (dk_at dksX3_factor_6 1 rfl rfl)
theorem dX3_factor_144 : decode cX3_factor 144 = .ok (.ifCond .ge 14, 3) := dk_156 0 14 (dk_at dksX3_factor_6 2 rfl rfl)
theorem dX3_factor_147 : decode cX3_factor 147 = .ok (.aload_n 0, 1) := dk_42 (dk_at dksX3_factor_6 5 rfl rfl)
theorem dX3_factor_148 : decode cX3_factor 148 = .ok (.iconst 0, 1) := dk_3 (dk_at dksX3_factor_6 6 rfl rfl)
theorem dX3_factor_149 : decode cX3_factor 149 = .ok (.sipush 9999, 3) := dk_17 39 15 (dk_at dksX3_factor_6 7 rfl rfl)
theorem dX3_factor_152 : decode cX3_factor 152 = .ok (.invokevirtual 140, 3) := dk_182 0 140 (dk_at dksX3_factor_6 10 rfl rfl)
theorem dX3_factor_155 : decode cX3_factor 155 = .ok (.goto 4, 3) := dk_167 0 4 (dk_at dksX3_factor_6 13 rfl rfl)
theorem dX3_factor_158 : decode cX3_factor 158 = .ok (.iload_n 2, 1) := dk_28 (dk_at dksX3_factor_6 16 rfl rfl)
theorem dX3_factor_159 : decode cX3_factor 159 = .ok (.istore_n 3, 1) := dk_62 (dk_at dksX3_factor_6 17 rfl rfl)
theorem dX3_factor_160 : decode cX3_factor 160 = .ok (.aload_n 0, 1) := dk_42 (dk_at dksX3_factor_6 18 rfl rfl)
theorem dX3_factor_161 : decode cX3_factor 161 = .ok (.iload_n 2, 1) := dk_28 (dk_at dksX3_factor_6 19 rfl rfl)
theorem dX3_factor_162 : decode cX3_factor 162 = .ok (.ifCond .ge 7, 3) := dk_156 0 7 (dk_at dksX3_factor_6 20 rfl rfl)
theorem dX3_factor_165 : decode cX3_factor 165 = .ok (.iconst 0, 1) := dk_3 (dk_at dksX3_factor_6 23 rfl rfl)
theorem dX3_factor_166 : decode cX3_factor 166 = .ok (.goto 4, 3) := dk_167 0 4 (dk_at dksX3_factor_7 0 rfl rfl)
theorem dX3_factor_169 : decode cX3_factor 169 = .ok (.iconst 1, 1) := dk_4 (dk_at dksX3_factor_7 3 rfl rfl)
theorem dX3_factor_170 : decode cX3_factor 170 = .ok (.invokevirtual 143, 3) := dk_182 0 143 (dk_at dksX3_factor_7 4 rfl rfl)
theorem dX3_factor_173 : decode cX3_factor 173 = .ok (.aload_n 0, 1) := dk_42 (dk_at dksX3_factor_7 7 rfl rfl)
theorem dX3_factor_174 : decode cX3_factor 174 = .ok (.iload_n 3, 1) := dk_29 (dk_at dksX3_factor_7 8 rfl rfl)
theorem dX3_factor_175 : decode cX3_factor 175 = .ok (.invokevirtual 143, 3) := dk_182 0 143 (dk_at dksX3_factor_7 9 rfl rfl)
theorem dX3_factor_178 : decode cX3_factor 178 = .ok (.return_, 1) := dk_177 (dk_at dksX3_factor_7 12 rfl rfl)
abbrev cX3_emit : ByteArray := prog_11_method_17_code
def yX3_emit : MethodName := ⟨RX3, "emit", "(I)V"⟩
def dkwX3_emit_1 : List UInt8 := [42, 180, 0, 20, 8, 92, 46, 4, 96, 79, 177]
abbrev dktX3_emit_1 : List UInt8 := dkwX3_emit_1 ++ []
def dkwX3_emit_0 : List UInt8 := [42, 182, 0, 85, 154, 0, 4, 177, 42, 180, 0, 20, 17, 0, 198, 42, 180, 0, 20, 8, 46, 96, 27, 79]
abbrev dktX3_emit_0 : List UInt8 := dkwX3_emit_0 ++ dktX3_emit_1
theorem dksX3_emit_0 : cX3_emit.data.toList.drop 0 = dktX3_emit_0 := by decide +kernel
theorem dksX3_emit_1 : cX3_emit.data.toList.drop 24 = dktX3_emit_1 := dk_seg dksX3_emit_0 24 rfl rfl
theorem dX3_emit_0 : decode cX3_emit 0 = .ok (.aload_n 0, 1) := dk_42 (dk_at dksX3_emit_0 0 rfl rfl)
theorem dX3_emit_1 : decode cX3_emit 1 = .ok (.invokevirtual 85, 3) := dk_182 0 85 (dk_at dksX3_emit_0 1 rfl rfl)
theorem dX3_emit_4 : decode cX3_emit 4 = .ok (.ifCond .ne 4, 3) := dk_154 0 4 (dk_at dksX3_emit_0 4 rfl rfl)
theorem dX3_emit_7 : decode cX3_emit 7 = .ok (.return_, 1) := dk_177 (dk_at dksX3_emit_0 7 rfl rfl)
theorem dX3_emit_8 : decode cX3_emit 8 = .ok (.aload_n 0, 1) := dk_42 (dk_at dksX3_emit_0 8 rfl rfl)
theorem dX3_emit_9 : decode cX3_emit 9 = .ok (.getfield 20, 3) := dk_180 0 20 (dk_at dksX3_emit_0 9 rfl rfl)
theorem dX3_emit_12 : decode cX3_emit 12 = .ok (.sipush 198, 3) := dk_17 0 198 (dk_at dksX3_emit_0 12 rfl rfl)
theorem dX3_emit_15 : decode cX3_emit 15 = .ok (.aload_n 0, 1) := dk_42 (dk_at dksX3_emit_0 15 rfl rfl)
theorem dX3_emit_16 : decode cX3_emit 16 = .ok (.getfield 20, 3) := dk_180 0 20 (dk_at dksX3_emit_0 16 rfl rfl)
theorem dX3_emit_19 : decode cX3_emit 19 = .ok (.iconst 5, 1) := dk_8 (dk_at dksX3_emit_0 19 rfl rfl)
theorem dX3_emit_20 : decode cX3_emit 20 = .ok (.iaload, 1) := dk_46 (dk_at dksX3_emit_0 20 rfl rfl)
theorem dX3_emit_21 : decode cX3_emit 21 = .ok (.iadd, 1) := dk_96 (dk_at dksX3_emit_0 21 rfl rfl)
theorem dX3_emit_22 : decode cX3_emit 22 = .ok (.iload_n 1, 1) := dk_27 (dk_at dksX3_emit_0 22 rfl rfl)
theorem dX3_emit_23 : decode cX3_emit 23 = .ok (.iastore, 1) := dk_79 (dk_at dksX3_emit_0 23 rfl rfl)
theorem dX3_emit_24 : decode cX3_emit 24 = .ok (.aload_n 0, 1) := dk_42 (dk_at dksX3_emit_1 0 rfl rfl)
theorem dX3_emit_25 : decode cX3_emit 25 = .ok (.getfield 20, 3) := dk_180 0 20 (dk_at dksX3_emit_1 1 rfl rfl)
theorem dX3_emit_28 : decode cX3_emit 28 = .ok (.iconst 5, 1) := dk_8 (dk_at dksX3_emit_1 4 rfl rfl)
theorem dX3_emit_29 : decode cX3_emit 29 = .ok (.dup2, 1) := dk_92 (dk_at dksX3_emit_1 5 rfl rfl)
theorem dX3_emit_30 : decode cX3_emit 30 = .ok (.iaload, 1) := dk_46 (dk_at dksX3_emit_1 6 rfl rfl)
theorem dX3_emit_31 : decode cX3_emit 31 = .ok (.iconst 1, 1) := dk_4 (dk_at dksX3_emit_1 7 rfl rfl)
theorem dX3_emit_32 : decode cX3_emit 32 = .ok (.iadd, 1) := dk_96 (dk_at dksX3_emit_1 8 rfl rfl)
theorem dX3_emit_33 : decode cX3_emit 33 = .ok (.iastore, 1) := dk_79 (dk_at dksX3_emit_1 9 rfl rfl)
theorem dX3_emit_34 : decode cX3_emit 34 = .ok (.return_, 1) := dk_177 (dk_at dksX3_emit_1 10 rfl rfl)
abbrev cX3_remember : ByteArray := prog_11_method_67_code
def yX3_remember : MethodName := ⟨RX3, "remember", "()V"⟩
def dkwX3_remember_3 : List UInt8 := [4, 96, 181, 1, 36, 177]
abbrev dktX3_remember_3 : List UInt8 := dkwX3_remember_3 ++ []
def dkwX3_remember_2 : List UInt8 := [181, 1, 36, 42, 180, 0, 17, 42, 180, 0, 25, 42, 180, 1, 36, 50, 184, 0, 228, 42, 89, 180, 1, 36]
abbrev dktX3_remember_2 : List UInt8 := dkwX3_remember_2 ++ dktX3_remember_3
def dkwX3_remember_1 : List UInt8 := [180, 0, 25, 27, 4, 100, 50, 184, 0, 228, 132, 1, 1, 167, 255, 230, 42, 89, 180, 1, 36, 4, 100]
abbrev dktX3_remember_1 : List UInt8 := dkwX3_remember_1 ++ dktX3_remember_2
def dkwX3_remember_0 : List UInt8 := [42, 180, 1, 36, 16, 8, 160, 0, 44, 4, 60, 27, 16, 8, 162, 0, 26, 42, 180, 0, 25, 27, 50, 42]
abbrev dktX3_remember_0 : List UInt8 := dkwX3_remember_0 ++ dktX3_remember_1
theorem dksX3_remember_0 : cX3_remember.data.toList.drop 0 = dktX3_remember_0 := by decide +kernel
theorem dksX3_remember_1 : cX3_remember.data.toList.drop 24 = dktX3_remember_1 := dk_seg dksX3_remember_0 24 rfl rfl
theorem dksX3_remember_2 : cX3_remember.data.toList.drop 47 = dktX3_remember_2 := dk_seg dksX3_remember_1 23 rfl rfl
theorem dksX3_remember_3 : cX3_remember.data.toList.drop 71 = dktX3_remember_3 := dk_seg dksX3_remember_2 24 rfl rfl
theorem dX3_remember_0 : decode cX3_remember 0 = .ok (.aload_n 0, 1) := dk_42 (dk_at dksX3_remember_0 0 rfl rfl)
theorem dX3_remember_1 : decode cX3_remember 1 = .ok (.getfield 292, 3) := dk_180 1 36 (dk_at dksX3_remember_0 1 rfl rfl)
theorem dX3_remember_4 : decode cX3_remember 4 = .ok (.bipush 8, 2) := dk_16 8 (dk_at dksX3_remember_0 4 rfl rfl)
theorem dX3_remember_6 : decode cX3_remember 6 = .ok (.if_icmp .ne 44, 3) := dk_160 0 44 (dk_at dksX3_remember_0 6 rfl rfl)
theorem dX3_remember_9 : decode cX3_remember 9 = .ok (.iconst 1, 1) := dk_4 (dk_at dksX3_remember_0 9 rfl rfl)
theorem dX3_remember_10 : decode cX3_remember 10 = .ok (.istore_n 1, 1) := dk_60 (dk_at dksX3_remember_0 10 rfl rfl)
theorem dX3_remember_11 : decode cX3_remember 11 = .ok (.iload_n 1, 1) := dk_27 (dk_at dksX3_remember_0 11 rfl rfl)
theorem dX3_remember_12 : decode cX3_remember 12 = .ok (.bipush 8, 2) := dk_16 8 (dk_at dksX3_remember_0 12 rfl rfl)
theorem dX3_remember_14 : decode cX3_remember 14 = .ok (.if_icmp .ge 26, 3) := dk_162 0 26 (dk_at dksX3_remember_0 14 rfl rfl)
theorem dX3_remember_17 : decode cX3_remember 17 = .ok (.aload_n 0, 1) := dk_42 (dk_at dksX3_remember_0 17 rfl rfl)
theorem dX3_remember_18 : decode cX3_remember 18 = .ok (.getfield 25, 3) := dk_180 0 25 (dk_at dksX3_remember_0 18 rfl rfl)
theorem dX3_remember_21 : decode cX3_remember 21 = .ok (.iload_n 1, 1) := dk_27 (dk_at dksX3_remember_0 21 rfl rfl)
theorem dX3_remember_22 : decode cX3_remember 22 = .ok (.aaload, 1) := dk_50 (dk_at dksX3_remember_0 22 rfl rfl)
theorem dX3_remember_23 : decode cX3_remember 23 = .ok (.aload_n 0, 1) := dk_42 (dk_at dksX3_remember_0 23 rfl rfl)
theorem dX3_remember_24 : decode cX3_remember 24 = .ok (.getfield 25, 3) := dk_180 0 25 (dk_at dksX3_remember_1 0 rfl rfl)
theorem dX3_remember_27 : decode cX3_remember 27 = .ok (.iload_n 1, 1) := dk_27 (dk_at dksX3_remember_1 3 rfl rfl)
theorem dX3_remember_28 : decode cX3_remember 28 = .ok (.iconst 1, 1) := dk_4 (dk_at dksX3_remember_1 4 rfl rfl)
theorem dX3_remember_29 : decode cX3_remember 29 = .ok (.isub, 1) := dk_100 (dk_at dksX3_remember_1 5 rfl rfl)
theorem dX3_remember_30 : decode cX3_remember 30 = .ok (.aaload, 1) := dk_50 (dk_at dksX3_remember_1 6 rfl rfl)
theorem dX3_remember_31 : decode cX3_remember 31 = .ok (.invokestatic 228, 3) := dk_184 0 228 (dk_at dksX3_remember_1 7 rfl rfl)
theorem dX3_remember_34 : decode cX3_remember 34 = .ok (.iinc 1 1, 3) := dk_132 1 1 (dk_at dksX3_remember_1 10 rfl rfl)
theorem dX3_remember_37 : decode cX3_remember 37 = .ok (.goto (-26), 3) := dk_167 255 230 (dk_at dksX3_remember_1 13 rfl rfl)
theorem dX3_remember_40 : decode cX3_remember 40 = .ok (.aload_n 0, 1) := dk_42 (dk_at dksX3_remember_1 16 rfl rfl)
theorem dX3_remember_41 : decode cX3_remember 41 = .ok (.dup, 1) := dk_89 (dk_at dksX3_remember_1 17 rfl rfl)
theorem dX3_remember_42 : decode cX3_remember 42 = .ok (.getfield 292, 3) := dk_180 1 36 (dk_at dksX3_remember_1 18 rfl rfl)
theorem dX3_remember_45 : decode cX3_remember 45 = .ok (.iconst 1, 1) := dk_4 (dk_at dksX3_remember_1 21 rfl rfl)
theorem dX3_remember_46 : decode cX3_remember 46 = .ok (.isub, 1) := dk_100 (dk_at dksX3_remember_1 22 rfl rfl)
theorem dX3_remember_47 : decode cX3_remember 47 = .ok (.putfield 292, 3) := dk_181 1 36 (dk_at dksX3_remember_2 0 rfl rfl)
theorem dX3_remember_50 : decode cX3_remember 50 = .ok (.aload_n 0, 1) := dk_42 (dk_at dksX3_remember_2 3 rfl rfl)
theorem dX3_remember_51 : decode cX3_remember 51 = .ok (.getfield 17, 3) := dk_180 0 17 (dk_at dksX3_remember_2 4 rfl rfl)
theorem dX3_remember_54 : decode cX3_remember 54 = .ok (.aload_n 0, 1) := dk_42 (dk_at dksX3_remember_2 7 rfl rfl)
theorem dX3_remember_55 : decode cX3_remember 55 = .ok (.getfield 25, 3) := dk_180 0 25 (dk_at dksX3_remember_2 8 rfl rfl)
theorem dX3_remember_58 : decode cX3_remember 58 = .ok (.aload_n 0, 1) := dk_42 (dk_at dksX3_remember_2 11 rfl rfl)
theorem dX3_remember_59 : decode cX3_remember 59 = .ok (.getfield 292, 3) := dk_180 1 36 (dk_at dksX3_remember_2 12 rfl rfl)
theorem dX3_remember_62 : decode cX3_remember 62 = .ok (.aaload, 1) := dk_50 (dk_at dksX3_remember_2 15 rfl rfl)
theorem dX3_remember_63 : decode cX3_remember 63 = .ok (.invokestatic 228, 3) := dk_184 0 228 (dk_at dksX3_remember_2 16 rfl rfl)
theorem dX3_remember_66 : decode cX3_remember 66 = .ok (.aload_n 0, 1) := dk_42 (dk_at dksX3_remember_2 19 rfl rfl)
theorem dX3_remember_67 : decode cX3_remember 67 = .ok (.dup, 1) := dk_89 (dk_at dksX3_remember_2 20 rfl rfl)
theorem dX3_remember_68 : decode cX3_remember 68 = .ok (.getfield 292, 3) := dk_180 1 36 (dk_at dksX3_remember_2 21 rfl rfl)
theorem dX3_remember_71 : decode cX3_remember 71 = .ok (.iconst 1, 1) := dk_4 (dk_at dksX3_remember_3 0 rfl rfl)
theorem dX3_remember_72 : decode cX3_remember 72 = .ok (.iadd, 1) := dk_96 (dk_at dksX3_remember_3 1 rfl rfl)
theorem dX3_remember_73 : decode cX3_remember 73 = .ok (.putfield 292, 3) := dk_181 1 36 (dk_at dksX3_remember_3 2 rfl rfl)
theorem dX3_remember_76 : decode cX3_remember 76 = .ok (.return_, 1) := dk_177 (dk_at dksX3_remember_3 5 rfl rfl)
abbrev cX3_copy : ByteArray := prog_11_method_6_code
def yX3_copy : MethodName := ⟨RX3, "copy", "([I[I)V"⟩
def dkwX3_copy_0 : List UInt8 := [3, 61, 28, 17, 5, 218, 162, 0, 15, 43, 28, 42, 28, 46, 79, 132, 2, 1, 167, 255, 240, 177]
abbrev dktX3_copy_0 : List UInt8 := dkwX3_copy_0 ++ []
theorem dksX3_copy_0 : cX3_copy.data.toList.drop 0 = dktX3_copy_0 := by decide +kernel
theorem dX3_copy_0 : decode cX3_copy 0 = .ok (.iconst 0, 1) := dk_3 (dk_at dksX3_copy_0 0 rfl rfl)
theorem dX3_copy_1 : decode cX3_copy 1 = .ok (.istore_n 2, 1) := dk_61 (dk_at dksX3_copy_0 1 rfl rfl)
theorem dX3_copy_2 : decode cX3_copy 2 = .ok (.iload_n 2, 1) := dk_28 (dk_at dksX3_copy_0 2 rfl rfl)
theorem dX3_copy_3 : decode cX3_copy 3 = .ok (.sipush 1498, 3) := dk_17 5 218 (dk_at dksX3_copy_0 3 rfl rfl)
theorem dX3_copy_6 : decode cX3_copy 6 = .ok (.if_icmp .ge 15, 3) := dk_162 0 15 (dk_at dksX3_copy_0 6 rfl rfl)
theorem dX3_copy_9 : decode cX3_copy 9 = .ok (.aload_n 1, 1) := dk_43 (dk_at dksX3_copy_0 9 rfl rfl)
theorem dX3_copy_10 : decode cX3_copy 10 = .ok (.iload_n 2, 1) := dk_28 (dk_at dksX3_copy_0 10 rfl rfl)
theorem dX3_copy_11 : decode cX3_copy 11 = .ok (.aload_n 0, 1) := dk_42 (dk_at dksX3_copy_0 11 rfl rfl)
theorem dX3_copy_12 : decode cX3_copy 12 = .ok (.iload_n 2, 1) := dk_28 (dk_at dksX3_copy_0 12 rfl rfl)
theorem dX3_copy_13 : decode cX3_copy 13 = .ok (.iaload, 1) := dk_46 (dk_at dksX3_copy_0 13 rfl rfl)
theorem dX3_copy_14 : decode cX3_copy 14 = .ok (.iastore, 1) := dk_79 (dk_at dksX3_copy_0 14 rfl rfl)
theorem dX3_copy_15 : decode cX3_copy 15 = .ok (.iinc 2 1, 3) := dk_132 2 1 (dk_at dksX3_copy_0 15 rfl rfl)
theorem dX3_copy_18 : decode cX3_copy 18 = .ok (.goto (-16), 3) := dk_167 255 240 (dk_at dksX3_copy_0 18 rfl rfl)
theorem dX3_copy_21 : decode cX3_copy 21 = .ok (.return_, 1) := dk_177 (dk_at dksX3_copy_0 21 rfl rfl)
abbrev cX3_errorOffset : ByteArray := prog_11_method_33_code
def yX3_errorOffset : MethodName := ⟨RX3, "errorOffset", "()I"⟩
def dkwX3_errorOffset_0 : List UInt8 := [42, 3, 181, 0, 59, 42, 180, 0, 13, 172]
abbrev dktX3_errorOffset_0 : List UInt8 := dkwX3_errorOffset_0 ++ []
theorem dksX3_errorOffset_0 : cX3_errorOffset.data.toList.drop 0 = dktX3_errorOffset_0 := by decide +kernel
theorem dX3_errorOffset_0 : decode cX3_errorOffset 0 = .ok (.aload_n 0, 1) := dk_42 (dk_at dksX3_errorOffset_0 0 rfl rfl)
theorem dX3_errorOffset_1 : decode cX3_errorOffset 1 = .ok (.iconst 0, 1) := dk_3 (dk_at dksX3_errorOffset_0 1 rfl rfl)
theorem dX3_errorOffset_2 : decode cX3_errorOffset 2 = .ok (.putfield 59, 3) := dk_181 0 59 (dk_at dksX3_errorOffset_0 2 rfl rfl)
theorem dX3_errorOffset_5 : decode cX3_errorOffset 5 = .ok (.aload_n 0, 1) := dk_42 (dk_at dksX3_errorOffset_0 5 rfl rfl)
theorem dX3_errorOffset_6 : decode cX3_errorOffset 6 = .ok (.getfield 13, 3) := dk_180 0 13 (dk_at dksX3_errorOffset_0 6 rfl rfl)
theorem dX3_errorOffset_9 : decode cX3_errorOffset 9 = .ok (.ireturn, 1) := dk_172 (dk_at dksX3_errorOffset_0 9 rfl rfl)
abbrev cX3_libraries : ByteArray := prog_11_method_51_code
def yX3_libraries : MethodName := ⟨RX3, "libraries", "()I"⟩
def dkwX3_libraries_0 : List UInt8 := [42, 3, 181, 0, 59, 42, 180, 0, 17, 4, 46, 172]
abbrev dktX3_libraries_0 : List UInt8 := dkwX3_libraries_0 ++ []
theorem dksX3_libraries_0 : cX3_libraries.data.toList.drop 0 = dktX3_libraries_0 := by decide +kernel
theorem dX3_libraries_0 : decode cX3_libraries 0 = .ok (.aload_n 0, 1) := dk_42 (dk_at dksX3_libraries_0 0 rfl rfl)
theorem dX3_libraries_1 : decode cX3_libraries 1 = .ok (.iconst 0, 1) := dk_3 (dk_at dksX3_libraries_0 1 rfl rfl)
theorem dX3_libraries_2 : decode cX3_libraries 2 = .ok (.putfield 59, 3) := dk_181 0 59 (dk_at dksX3_libraries_0 2 rfl rfl)
theorem dX3_libraries_5 : decode cX3_libraries 5 = .ok (.aload_n 0, 1) := dk_42 (dk_at dksX3_libraries_0 5 rfl rfl)
theorem dX3_libraries_6 : decode cX3_libraries 6 = .ok (.getfield 17, 3) := dk_180 0 17 (dk_at dksX3_libraries_0 6 rfl rfl)
theorem dX3_libraries_9 : decode cX3_libraries 9 = .ok (.iconst 1, 1) := dk_4 (dk_at dksX3_libraries_0 9 rfl rfl)
theorem dX3_libraries_10 : decode cX3_libraries 10 = .ok (.iaload, 1) := dk_46 (dk_at dksX3_libraries_0 10 rfl rfl)
theorem dX3_libraries_11 : decode cX3_libraries 11 = .ok (.ireturn, 1) := dk_172 (dk_at dksX3_libraries_0 11 rfl rfl)
abbrev cX3_names : ByteArray := prog_11_method_52_code
def yX3_names : MethodName := ⟨RX3, "names", "()I"⟩
def dkwX3_names_0 : List UInt8 := [42, 3, 181, 0, 59, 42, 180, 0, 17, 5, 46, 172]
abbrev dktX3_names_0 : List UInt8 := dkwX3_names_0 ++ []
theorem dksX3_names_0 : cX3_names.data.toList.drop 0 = dktX3_names_0 := by decide +kernel
theorem dX3_names_0 : decode cX3_names 0 = .ok (.aload_n 0, 1) := dk_42 (dk_at dksX3_names_0 0 rfl rfl)
theorem dX3_names_1 : decode cX3_names 1 = .ok (.iconst 0, 1) := dk_3 (dk_at dksX3_names_0 1 rfl rfl)
theorem dX3_names_2 : decode cX3_names 2 = .ok (.putfield 59, 3) := dk_181 0 59 (dk_at dksX3_names_0 2 rfl rfl)
theorem dX3_names_5 : decode cX3_names 5 = .ok (.aload_n 0, 1) := dk_42 (dk_at dksX3_names_0 5 rfl rfl)
theorem dX3_names_6 : decode cX3_names 6 = .ok (.getfield 17, 3) := dk_180 0 17 (dk_at dksX3_names_0 6 rfl rfl)
theorem dX3_names_9 : decode cX3_names 9 = .ok (.iconst 2, 1) := dk_5 (dk_at dksX3_names_0 9 rfl rfl)
theorem dX3_names_10 : decode cX3_names 10 = .ok (.iaload, 1) := dk_46 (dk_at dksX3_names_0 10 rfl rfl)
theorem dX3_names_11 : decode cX3_names 11 = .ok (.ireturn, 1) := dk_172 (dk_at dksX3_names_0 11 rfl rfl)
abbrev cX3_share : ByteArray := prog_11_method_53_code
def yX3_share : MethodName := ⟨RX3, "share", "()I"⟩
def dkwX3_share_0 : List UInt8 := [42, 3, 181, 0, 59, 42, 180, 0, 17, 3, 46, 172]
abbrev dktX3_share_0 : List UInt8 := dkwX3_share_0 ++ []
theorem dksX3_share_0 : cX3_share.data.toList.drop 0 = dktX3_share_0 := by decide +kernel
theorem dX3_share_0 : decode cX3_share 0 = .ok (.aload_n 0, 1) := dk_42 (dk_at dksX3_share_0 0 rfl rfl)
theorem dX3_share_1 : decode cX3_share 1 = .ok (.iconst 0, 1) := dk_3 (dk_at dksX3_share_0 1 rfl rfl)
theorem dX3_share_2 : decode cX3_share 2 = .ok (.putfield 59, 3) := dk_181 0 59 (dk_at dksX3_share_0 2 rfl rfl)
theorem dX3_share_5 : decode cX3_share 5 = .ok (.aload_n 0, 1) := dk_42 (dk_at dksX3_share_0 5 rfl rfl)
theorem dX3_share_6 : decode cX3_share 6 = .ok (.getfield 17, 3) := dk_180 0 17 (dk_at dksX3_share_0 6 rfl rfl)
theorem dX3_share_9 : decode cX3_share 9 = .ok (.iconst 0, 1) := dk_3 (dk_at dksX3_share_0 9 rfl rfl)
theorem dX3_share_10 : decode cX3_share 10 = .ok (.iaload, 1) := dk_46 (dk_at dksX3_share_0 10 rfl rfl)
theorem dX3_share_11 : decode cX3_share 11 = .ok (.ireturn, 1) := dk_172 (dk_at dksX3_share_0 11 rfl rfl)
abbrev cX3_library : ByteArray := prog_11_method_55_code
def yX3_library : MethodName := ⟨RX3, "library", "(II)I"⟩
def dkwX3_library_1 : List UInt8 := [167, 0, 4, 3, 5, 182, 0, 216, 153, 0, 7, 3, 167, 0, 9, 42, 27, 28, 182, 1, 27, 172]
abbrev dktX3_library_1 : List UInt8 := dkwX3_library_1 ++ []
def dkwX3_library_0 : List UInt8 := [42, 3, 181, 0, 59, 42, 27, 182, 1, 21, 154, 0, 25, 42, 28, 3, 8, 184, 0, 81, 154, 0, 7, 4]
abbrev dktX3_library_0 : List UInt8 := dkwX3_library_0 ++ dktX3_library_1
theorem dksX3_library_0 : cX3_library.data.toList.drop 0 = dktX3_library_0 := by decide +kernel
theorem dksX3_library_1 : cX3_library.data.toList.drop 24 = dktX3_library_1 := dk_seg dksX3_library_0 24 rfl rfl
theorem dX3_library_0 : decode cX3_library 0 = .ok (.aload_n 0, 1) := dk_42 (dk_at dksX3_library_0 0 rfl rfl)
theorem dX3_library_1 : decode cX3_library 1 = .ok (.iconst 0, 1) := dk_3 (dk_at dksX3_library_0 1 rfl rfl)
theorem dX3_library_2 : decode cX3_library 2 = .ok (.putfield 59, 3) := dk_181 0 59 (dk_at dksX3_library_0 2 rfl rfl)
theorem dX3_library_5 : decode cX3_library 5 = .ok (.aload_n 0, 1) := dk_42 (dk_at dksX3_library_0 5 rfl rfl)
theorem dX3_library_6 : decode cX3_library 6 = .ok (.iload_n 1, 1) := dk_27 (dk_at dksX3_library_0 6 rfl rfl)
theorem dX3_library_7 : decode cX3_library 7 = .ok (.invokevirtual 277, 3) := dk_182 1 21 (dk_at dksX3_library_0 7 rfl rfl)
theorem dX3_library_10 : decode cX3_library 10 = .ok (.ifCond .ne 25, 3) := dk_154 0 25 (dk_at dksX3_library_0 10 rfl rfl)
theorem dX3_library_13 : decode cX3_library 13 = .ok (.aload_n 0, 1) := dk_42 (dk_at dksX3_library_0 13 rfl rfl)
theorem dX3_library_14 : decode cX3_library 14 = .ok (.iload_n 2, 1) := dk_28 (dk_at dksX3_library_0 14 rfl rfl)
theorem dX3_library_15 : decode cX3_library 15 = .ok (.iconst 0, 1) := dk_3 (dk_at dksX3_library_0 15 rfl rfl)
theorem dX3_library_16 : decode cX3_library 16 = .ok (.iconst 5, 1) := dk_8 (dk_at dksX3_library_0 16 rfl rfl)
theorem dX3_library_17 : decode cX3_library 17 = .ok (.invokestatic 81, 3) := dk_184 0 81 (dk_at dksX3_library_0 17 rfl rfl)
theorem dX3_library_20 : decode cX3_library 20 = .ok (.ifCond .ne 7, 3) := dk_154 0 7 (dk_at dksX3_library_0 20 rfl rfl)
theorem dX3_library_23 : decode cX3_library 23 = .ok (.iconst 1, 1) := dk_4 (dk_at dksX3_library_0 23 rfl rfl)
theorem dX3_library_24 : decode cX3_library 24 = .ok (.goto 4, 3) := dk_167 0 4 (dk_at dksX3_library_1 0 rfl rfl)
theorem dX3_library_27 : decode cX3_library 27 = .ok (.iconst 0, 1) := dk_3 (dk_at dksX3_library_1 3 rfl rfl)
theorem dX3_library_28 : decode cX3_library 28 = .ok (.iconst 2, 1) := dk_5 (dk_at dksX3_library_1 4 rfl rfl)
theorem dX3_library_29 : decode cX3_library 29 = .ok (.invokevirtual 216, 3) := dk_182 0 216 (dk_at dksX3_library_1 5 rfl rfl)
theorem dX3_library_32 : decode cX3_library 32 = .ok (.ifCond .eq 7, 3) := dk_153 0 7 (dk_at dksX3_library_1 8 rfl rfl)
theorem dX3_library_35 : decode cX3_library 35 = .ok (.iconst 0, 1) := dk_3 (dk_at dksX3_library_1 11 rfl rfl)
theorem dX3_library_36 : decode cX3_library 36 = .ok (.goto 9, 3) := dk_167 0 9 (dk_at dksX3_library_1 12 rfl rfl)
theorem dX3_library_39 : decode cX3_library 39 = .ok (.aload_n 0, 1) := dk_42 (dk_at dksX3_library_1 15 rfl rfl)
theorem dX3_library_40 : decode cX3_library 40 = .ok (.iload_n 1, 1) := dk_27 (dk_at dksX3_library_1 16 rfl rfl)
theorem dX3_library_41 : decode cX3_library 41 = .ok (.iload_n 2, 1) := dk_28 (dk_at dksX3_library_1 17 rfl rfl)
theorem dX3_library_42 : decode cX3_library 42 = .ok (.invokevirtual 283, 3) := dk_182 1 27 (dk_at dksX3_library_1 18 rfl rfl)
theorem dX3_library_45 : decode cX3_library 45 = .ok (.ireturn, 1) := dk_172 (dk_at dksX3_library_1 21 rfl rfl)
abbrev cX3_noLibrary : ByteArray := prog_11_method_48_code
def yX3_noLibrary : MethodName := ⟨RX3, "noLibrary", "(I)Z"⟩
def dkwX3_noLibrary_1 : List UInt8 := [182, 0, 216, 172]
abbrev dktX3_noLibrary_1 : List UInt8 := dkwX3_noLibrary_1 ++ []
def dkwX3_noLibrary_0 : List UInt8 := [42, 27, 3, 42, 180, 0, 17, 4, 46, 4, 100, 184, 0, 81, 154, 0, 7, 4, 167, 0, 4, 3, 4]
abbrev dktX3_noLibrary_0 : List UInt8 := dkwX3_noLibrary_0 ++ dktX3_noLibrary_1
theorem dksX3_noLibrary_0 : cX3_noLibrary.data.toList.drop 0 = dktX3_noLibrary_0 := by decide +kernel
theorem dksX3_noLibrary_1 : cX3_noLibrary.data.toList.drop 23 = dktX3_noLibrary_1 := dk_seg dksX3_noLibrary_0 23 rfl rfl
theorem dX3_noLibrary_0 : decode cX3_noLibrary 0 = .ok (.aload_n 0, 1) := dk_42 (dk_at dksX3_noLibrary_0 0 rfl rfl)
theorem dX3_noLibrary_1 : decode cX3_noLibrary 1 = .ok (.iload_n 1, 1) := dk_27 (dk_at dksX3_noLibrary_0 1 rfl rfl)
theorem dX3_noLibrary_2 : decode cX3_noLibrary 2 = .ok (.iconst 0, 1) := dk_3 (dk_at dksX3_noLibrary_0 2 rfl rfl)
theorem dX3_noLibrary_3 : decode cX3_noLibrary 3 = .ok (.aload_n 0, 1) := dk_42 (dk_at dksX3_noLibrary_0 3 rfl rfl)
theorem dX3_noLibrary_4 : decode cX3_noLibrary 4 = .ok (.getfield 17, 3) := dk_180 0 17 (dk_at dksX3_noLibrary_0 4 rfl rfl)
theorem dX3_noLibrary_7 : decode cX3_noLibrary 7 = .ok (.iconst 1, 1) := dk_4 (dk_at dksX3_noLibrary_0 7 rfl rfl)
theorem dX3_noLibrary_8 : decode cX3_noLibrary 8 = .ok (.iaload, 1) := dk_46 (dk_at dksX3_noLibrary_0 8 rfl rfl)
theorem dX3_noLibrary_9 : decode cX3_noLibrary 9 = .ok (.iconst 1, 1) := dk_4 (dk_at dksX3_noLibrary_0 9 rfl rfl)
theorem dX3_noLibrary_10 : decode cX3_noLibrary 10 = .ok (.isub, 1) := dk_100 (dk_at dksX3_noLibrary_0 10 rfl rfl)
theorem dX3_noLibrary_11 : decode cX3_noLibrary 11 = .ok (.invokestatic 81, 3) := dk_184 0 81 (dk_at dksX3_noLibrary_0 11 rfl rfl)
theorem dX3_noLibrary_14 : decode cX3_noLibrary 14 = .ok (.ifCond .ne 7, 3) := dk_154 0 7 (dk_at dksX3_noLibrary_0 14 rfl rfl)
theorem dX3_noLibrary_17 : decode cX3_noLibrary 17 = .ok (.iconst 1, 1) := dk_4 (dk_at dksX3_noLibrary_0 17 rfl rfl)
theorem dX3_noLibrary_18 : decode cX3_noLibrary 18 = .ok (.goto 4, 3) := dk_167 0 4 (dk_at dksX3_noLibrary_0 18 rfl rfl)
theorem dX3_noLibrary_21 : decode cX3_noLibrary 21 = .ok (.iconst 0, 1) := dk_3 (dk_at dksX3_noLibrary_0 21 rfl rfl)
theorem dX3_noLibrary_22 : decode cX3_noLibrary 22 = .ok (.iconst 1, 1) := dk_4 (dk_at dksX3_noLibrary_0 22 rfl rfl)
theorem dX3_noLibrary_23 : decode cX3_noLibrary 23 = .ok (.invokevirtual 216, 3) := dk_182 0 216 (dk_at dksX3_noLibrary_1 0 rfl rfl)
theorem dX3_noLibrary_26 : decode cX3_noLibrary 26 = .ok (.ireturn, 1) := dk_172 (dk_at dksX3_noLibrary_1 3 rfl rfl)
abbrev cX3_told : ByteArray := prog_11_method_54_code
def yX3_told : MethodName := ⟨RX3, "told", "(II)I"⟩
def dkwX3_told_2 : List UInt8 := [160, 0, 17, 42, 180, 0, 17, 27, 184, 0, 174, 6, 96, 46, 167, 0, 8, 42, 27, 182, 1, 9, 172]
abbrev dktX3_told_2 : List UInt8 := dkwX3_told_2 ++ []
def dkwX3_told_1 : List UInt8 := [42, 27, 182, 0, 243, 167, 0, 40, 28, 6, 160, 0, 11, 42, 27, 182, 0, 246, 167, 0, 27, 28, 7]
abbrev dktX3_told_1 : List UInt8 := dkwX3_told_1 ++ dktX3_told_2
def dkwX3_told_0 : List UInt8 := [28, 5, 162, 0, 17, 42, 180, 0, 17, 27, 184, 0, 174, 28, 96, 46, 167, 0, 53, 28, 5, 160, 0, 11]
abbrev dktX3_told_0 : List UInt8 := dkwX3_told_0 ++ dktX3_told_1
theorem dksX3_told_0 : cX3_told.data.toList.drop 0 = dktX3_told_0 := by decide +kernel
theorem dksX3_told_1 : cX3_told.data.toList.drop 24 = dktX3_told_1 := dk_seg dksX3_told_0 24 rfl rfl
theorem dksX3_told_2 : cX3_told.data.toList.drop 47 = dktX3_told_2 := dk_seg dksX3_told_1 23 rfl rfl
theorem dX3_told_0 : decode cX3_told 0 = .ok (.iload_n 2, 1) := dk_28 (dk_at dksX3_told_0 0 rfl rfl)
theorem dX3_told_1 : decode cX3_told 1 = .ok (.iconst 2, 1) := dk_5 (dk_at dksX3_told_0 1 rfl rfl)
theorem dX3_told_2 : decode cX3_told 2 = .ok (.if_icmp .ge 17, 3) := dk_162 0 17 (dk_at dksX3_told_0 2 rfl rfl)
theorem dX3_told_5 : decode cX3_told 5 = .ok (.aload_n 0, 1) := dk_42 (dk_at dksX3_told_0 5 rfl rfl)
theorem dX3_told_6 : decode cX3_told 6 = .ok (.getfield 17, 3) := dk_180 0 17 (dk_at dksX3_told_0 6 rfl rfl)
theorem dX3_told_9 : decode cX3_told 9 = .ok (.iload_n 1, 1) := dk_27 (dk_at dksX3_told_0 9 rfl rfl)
theorem dX3_told_10 : decode cX3_told 10 = .ok (.invokestatic 174, 3) := dk_184 0 174 (dk_at dksX3_told_0 10 rfl rfl)
theorem dX3_told_13 : decode cX3_told 13 = .ok (.iload_n 2, 1) := dk_28 (dk_at dksX3_told_0 13 rfl rfl)
theorem dX3_told_14 : decode cX3_told 14 = .ok (.iadd, 1) := dk_96 (dk_at dksX3_told_0 14 rfl rfl)
theorem dX3_told_15 : decode cX3_told 15 = .ok (.iaload, 1) := dk_46 (dk_at dksX3_told_0 15 rfl rfl)
theorem dX3_told_16 : decode cX3_told 16 = .ok (.goto 53, 3) := dk_167 0 53 (dk_at dksX3_told_0 16 rfl rfl)
theorem dX3_told_19 : decode cX3_told 19 = .ok (.iload_n 2, 1) := dk_28 (dk_at dksX3_told_0 19 rfl rfl)
theorem dX3_told_20 : decode cX3_told 20 = .ok (.iconst 2, 1) := dk_5 (dk_at dksX3_told_0 20 rfl rfl)
theorem dX3_told_21 : decode cX3_told 21 = .ok (.if_icmp .ne 11, 3) := dk_160 0 11 (dk_at dksX3_told_0 21 rfl rfl)
theorem dX3_told_24 : decode cX3_told 24 = .ok (.aload_n 0, 1) := dk_42 (dk_at dksX3_told_1 0 rfl rfl)
theorem dX3_told_25 : decode cX3_told 25 = .ok (.iload_n 1, 1) := dk_27 (dk_at dksX3_told_1 1 rfl rfl)
theorem dX3_told_26 : decode cX3_told 26 = .ok (.invokevirtual 243, 3) := dk_182 0 243 (dk_at dksX3_told_1 2 rfl rfl)
theorem dX3_told_29 : decode cX3_told 29 = .ok (.goto 40, 3) := dk_167 0 40 (dk_at dksX3_told_1 5 rfl rfl)
theorem dX3_told_32 : decode cX3_told 32 = .ok (.iload_n 2, 1) := dk_28 (dk_at dksX3_told_1 8 rfl rfl)
theorem dX3_told_33 : decode cX3_told 33 = .ok (.iconst 3, 1) := dk_6 (dk_at dksX3_told_1 9 rfl rfl)
theorem dX3_told_34 : decode cX3_told 34 = .ok (.if_icmp .ne 11, 3) := dk_160 0 11 (dk_at dksX3_told_1 10 rfl rfl)
theorem dX3_told_37 : decode cX3_told 37 = .ok (.aload_n 0, 1) := dk_42 (dk_at dksX3_told_1 13 rfl rfl)
theorem dX3_told_38 : decode cX3_told 38 = .ok (.iload_n 1, 1) := dk_27 (dk_at dksX3_told_1 14 rfl rfl)
theorem dX3_told_39 : decode cX3_told 39 = .ok (.invokevirtual 246, 3) := dk_182 0 246 (dk_at dksX3_told_1 15 rfl rfl)
theorem dX3_told_42 : decode cX3_told 42 = .ok (.goto 27, 3) := dk_167 0 27 (dk_at dksX3_told_1 18 rfl rfl)
theorem dX3_told_45 : decode cX3_told 45 = .ok (.iload_n 2, 1) := dk_28 (dk_at dksX3_told_1 21 rfl rfl)
theorem dX3_told_46 : decode cX3_told 46 = .ok (.iconst 4, 1) := dk_7 (dk_at dksX3_told_1 22 rfl rfl)
theorem dX3_told_47 : decode cX3_told 47 = .ok (.if_icmp .ne 17, 3) := dk_160 0 17 (dk_at dksX3_told_2 0 rfl rfl)
theorem dX3_told_50 : decode cX3_told 50 = .ok (.aload_n 0, 1) := dk_42 (dk_at dksX3_told_2 3 rfl rfl)
theorem dX3_told_51 : decode cX3_told 51 = .ok (.getfield 17, 3) := dk_180 0 17 (dk_at dksX3_told_2 4 rfl rfl)
theorem dX3_told_54 : decode cX3_told 54 = .ok (.iload_n 1, 1) := dk_27 (dk_at dksX3_told_2 7 rfl rfl)
theorem dX3_told_55 : decode cX3_told 55 = .ok (.invokestatic 174, 3) := dk_184 0 174 (dk_at dksX3_told_2 8 rfl rfl)
theorem dX3_told_58 : decode cX3_told 58 = .ok (.iconst 3, 1) := dk_6 (dk_at dksX3_told_2 11 rfl rfl)
theorem dX3_told_59 : decode cX3_told 59 = .ok (.iadd, 1) := dk_96 (dk_at dksX3_told_2 12 rfl rfl)
theorem dX3_told_60 : decode cX3_told 60 = .ok (.iaload, 1) := dk_46 (dk_at dksX3_told_2 13 rfl rfl)
theorem dX3_told_61 : decode cX3_told 61 = .ok (.goto 8, 3) := dk_167 0 8 (dk_at dksX3_told_2 14 rfl rfl)
theorem dX3_told_64 : decode cX3_told 64 = .ok (.aload_n 0, 1) := dk_42 (dk_at dksX3_told_2 17 rfl rfl)
theorem dX3_told_65 : decode cX3_told 65 = .ok (.iload_n 1, 1) := dk_27 (dk_at dksX3_told_2 18 rfl rfl)
theorem dX3_told_66 : decode cX3_told 66 = .ok (.invokevirtual 265, 3) := dk_182 1 9 (dk_at dksX3_told_2 19 rfl rfl)
theorem dX3_told_69 : decode cX3_told 69 = .ok (.ireturn, 1) := dk_172 (dk_at dksX3_told_2 22 rfl rfl)
abbrev cX3_rankOf : ByteArray := prog_11_method_35_code
def yX3_rankOf : MethodName := ⟨RX3, "rankOf", "(I)I"⟩
def dkwX3_rankOf_3 : List UInt8 := [172]
abbrev dktX3_rankOf_3 : List UInt8 := dkwX3_rankOf_3 ++ []
def dkwX3_rankOf_2 : List UInt8 := [27, 184, 0, 174, 5, 96, 46, 162, 0, 7, 4, 167, 0, 4, 3, 96, 61, 132, 3, 1, 167, 255, 202, 28]
abbrev dktX3_rankOf_2 : List UInt8 := dkwX3_rankOf_2 ++ dktX3_rankOf_3
def dkwX3_rankOf_1 : List UInt8 := [28, 42, 29, 182, 0, 232, 153, 0, 32, 42, 180, 0, 17, 29, 184, 0, 174, 5, 96, 46, 42, 180, 0, 17]
abbrev dktX3_rankOf_1 : List UInt8 := dkwX3_rankOf_1 ++ dktX3_rankOf_2
def dkwX3_rankOf_0 : List UInt8 := [42, 27, 182, 0, 232, 154, 0, 5, 2, 172, 3, 61, 3, 62, 29, 42, 180, 0, 17, 4, 46, 162, 0, 50]
abbrev dktX3_rankOf_0 : List UInt8 := dkwX3_rankOf_0 ++ dktX3_rankOf_1
theorem dksX3_rankOf_0 : cX3_rankOf.data.toList.drop 0 = dktX3_rankOf_0 := by decide +kernel
theorem dksX3_rankOf_1 : cX3_rankOf.data.toList.drop 24 = dktX3_rankOf_1 := dk_seg dksX3_rankOf_0 24 rfl rfl
theorem dksX3_rankOf_2 : cX3_rankOf.data.toList.drop 48 = dktX3_rankOf_2 := dk_seg dksX3_rankOf_1 24 rfl rfl
theorem dksX3_rankOf_3 : cX3_rankOf.data.toList.drop 72 = dktX3_rankOf_3 := dk_seg dksX3_rankOf_2 24 rfl rfl
theorem dX3_rankOf_0 : decode cX3_rankOf 0 = .ok (.aload_n 0, 1) := dk_42 (dk_at dksX3_rankOf_0 0 rfl rfl)
theorem dX3_rankOf_1 : decode cX3_rankOf 1 = .ok (.iload_n 1, 1) := dk_27 (dk_at dksX3_rankOf_0 1 rfl rfl)
theorem dX3_rankOf_2 : decode cX3_rankOf 2 = .ok (.invokevirtual 232, 3) := dk_182 0 232 (dk_at dksX3_rankOf_0 2 rfl rfl)
theorem dX3_rankOf_5 : decode cX3_rankOf 5 = .ok (.ifCond .ne 5, 3) := dk_154 0 5 (dk_at dksX3_rankOf_0 5 rfl rfl)
theorem dX3_rankOf_8 : decode cX3_rankOf 8 = .ok (.iconst (-1), 1) := dk_2 (dk_at dksX3_rankOf_0 8 rfl rfl)
theorem dX3_rankOf_9 : decode cX3_rankOf 9 = .ok (.ireturn, 1) := dk_172 (dk_at dksX3_rankOf_0 9 rfl rfl)
theorem dX3_rankOf_10 : decode cX3_rankOf 10 = .ok (.iconst 0, 1) := dk_3 (dk_at dksX3_rankOf_0 10 rfl rfl)
theorem dX3_rankOf_11 : decode cX3_rankOf 11 = .ok (.istore_n 2, 1) := dk_61 (dk_at dksX3_rankOf_0 11 rfl rfl)
theorem dX3_rankOf_12 : decode cX3_rankOf 12 = .ok (.iconst 0, 1) := dk_3 (dk_at dksX3_rankOf_0 12 rfl rfl)
theorem dX3_rankOf_13 : decode cX3_rankOf 13 = .ok (.istore_n 3, 1) := dk_62 (dk_at dksX3_rankOf_0 13 rfl rfl)
theorem dX3_rankOf_14 : decode cX3_rankOf 14 = .ok (.iload_n 3, 1) := dk_29 (dk_at dksX3_rankOf_0 14 rfl rfl)
theorem dX3_rankOf_15 : decode cX3_rankOf 15 = .ok (.aload_n 0, 1) := dk_42 (dk_at dksX3_rankOf_0 15 rfl rfl)
theorem dX3_rankOf_16 : decode cX3_rankOf 16 = .ok (.getfield 17, 3) := dk_180 0 17 (dk_at dksX3_rankOf_0 16 rfl rfl)
theorem dX3_rankOf_19 : decode cX3_rankOf 19 = .ok (.iconst 1, 1) := dk_4 (dk_at dksX3_rankOf_0 19 rfl rfl)
theorem dX3_rankOf_20 : decode cX3_rankOf 20 = .ok (.iaload, 1) := dk_46 (dk_at dksX3_rankOf_0 20 rfl rfl)
theorem dX3_rankOf_21 : decode cX3_rankOf 21 = .ok (.if_icmp .ge 50, 3) := dk_162 0 50 (dk_at dksX3_rankOf_0 21 rfl rfl)
theorem dX3_rankOf_24 : decode cX3_rankOf 24 = .ok (.iload_n 2, 1) := dk_28 (dk_at dksX3_rankOf_1 0 rfl rfl)
theorem dX3_rankOf_25 : decode cX3_rankOf 25 = .ok (.aload_n 0, 1) := dk_42 (dk_at dksX3_rankOf_1 1 rfl rfl)
theorem dX3_rankOf_26 : decode cX3_rankOf 26 = .ok (.iload_n 3, 1) := dk_29 (dk_at dksX3_rankOf_1 2 rfl rfl)
theorem dX3_rankOf_27 : decode cX3_rankOf 27 = .ok (.invokevirtual 232, 3) := dk_182 0 232 (dk_at dksX3_rankOf_1 3 rfl rfl)
theorem dX3_rankOf_30 : decode cX3_rankOf 30 = .ok (.ifCond .eq 32, 3) := dk_153 0 32 (dk_at dksX3_rankOf_1 6 rfl rfl)
theorem dX3_rankOf_33 : decode cX3_rankOf 33 = .ok (.aload_n 0, 1) := dk_42 (dk_at dksX3_rankOf_1 9 rfl rfl)
theorem dX3_rankOf_34 : decode cX3_rankOf 34 = .ok (.getfield 17, 3) := dk_180 0 17 (dk_at dksX3_rankOf_1 10 rfl rfl)
theorem dX3_rankOf_37 : decode cX3_rankOf 37 = .ok (.iload_n 3, 1) := dk_29 (dk_at dksX3_rankOf_1 13 rfl rfl)
theorem dX3_rankOf_38 : decode cX3_rankOf 38 = .ok (.invokestatic 174, 3) := dk_184 0 174 (dk_at dksX3_rankOf_1 14 rfl rfl)
theorem dX3_rankOf_41 : decode cX3_rankOf 41 = .ok (.iconst 2, 1) := dk_5 (dk_at dksX3_rankOf_1 17 rfl rfl)
theorem dX3_rankOf_42 : decode cX3_rankOf 42 = .ok (.iadd, 1) := dk_96 (dk_at dksX3_rankOf_1 18 rfl rfl)
theorem dX3_rankOf_43 : decode cX3_rankOf 43 = .ok (.iaload, 1) := dk_46 (dk_at dksX3_rankOf_1 19 rfl rfl)
theorem dX3_rankOf_44 : decode cX3_rankOf 44 = .ok (.aload_n 0, 1) := dk_42 (dk_at dksX3_rankOf_1 20 rfl rfl)
theorem dX3_rankOf_45 : decode cX3_rankOf 45 = .ok (.getfield 17, 3) := dk_180 0 17 (dk_at dksX3_rankOf_1 21 rfl rfl)
theorem dX3_rankOf_48 : decode cX3_rankOf 48 = .ok (.iload_n 1, 1) := dk_27 (dk_at dksX3_rankOf_2 0 rfl rfl)
theorem dX3_rankOf_49 : decode cX3_rankOf 49 = .ok (.invokestatic 174, 3) := dk_184 0 174 (dk_at dksX3_rankOf_2 1 rfl rfl)
theorem dX3_rankOf_52 : decode cX3_rankOf 52 = .ok (.iconst 2, 1) := dk_5 (dk_at dksX3_rankOf_2 4 rfl rfl)
theorem dX3_rankOf_53 : decode cX3_rankOf 53 = .ok (.iadd, 1) := dk_96 (dk_at dksX3_rankOf_2 5 rfl rfl)
theorem dX3_rankOf_54 : decode cX3_rankOf 54 = .ok (.iaload, 1) := dk_46 (dk_at dksX3_rankOf_2 6 rfl rfl)
theorem dX3_rankOf_55 : decode cX3_rankOf 55 = .ok (.if_icmp .ge 7, 3) := dk_162 0 7 (dk_at dksX3_rankOf_2 7 rfl rfl)
theorem dX3_rankOf_58 : decode cX3_rankOf 58 = .ok (.iconst 1, 1) := dk_4 (dk_at dksX3_rankOf_2 10 rfl rfl)
theorem dX3_rankOf_59 : decode cX3_rankOf 59 = .ok (.goto 4, 3) := dk_167 0 4 (dk_at dksX3_rankOf_2 11 rfl rfl)
theorem dX3_rankOf_62 : decode cX3_rankOf 62 = .ok (.iconst 0, 1) := dk_3 (dk_at dksX3_rankOf_2 14 rfl rfl)
theorem dX3_rankOf_63 : decode cX3_rankOf 63 = .ok (.iadd, 1) := dk_96 (dk_at dksX3_rankOf_2 15 rfl rfl)
theorem dX3_rankOf_64 : decode cX3_rankOf 64 = .ok (.istore_n 2, 1) := dk_61 (dk_at dksX3_rankOf_2 16 rfl rfl)
theorem dX3_rankOf_65 : decode cX3_rankOf 65 = .ok (.iinc 3 1, 3) := dk_132 3 1 (dk_at dksX3_rankOf_2 17 rfl rfl)
theorem dX3_rankOf_68 : decode cX3_rankOf 68 = .ok (.goto (-54), 3) := dk_167 255 202 (dk_at dksX3_rankOf_2 20 rfl rfl)
theorem dX3_rankOf_71 : decode cX3_rankOf 71 = .ok (.iload_n 2, 1) := dk_28 (dk_at dksX3_rankOf_2 23 rfl rfl)
theorem dX3_rankOf_72 : decode cX3_rankOf 72 = .ok (.ireturn, 1) := dk_172 (dk_at dksX3_rankOf_3 0 rfl rfl)
abbrev cX3_isLoaded : ByteArray := prog_11_method_34_code
def yX3_isLoaded : MethodName := ⟨RX3, "isLoaded", "(I)Z"⟩
def dkwX3_isLoaded_0 : List UInt8 := [42, 180, 0, 17, 27, 184, 0, 174, 5, 96, 46, 158, 0, 7, 4, 167, 0, 4, 3, 172]
abbrev dktX3_isLoaded_0 : List UInt8 := dkwX3_isLoaded_0 ++ []
theorem dksX3_isLoaded_0 : cX3_isLoaded.data.toList.drop 0 = dktX3_isLoaded_0 := by decide +kernel
theorem dX3_isLoaded_0 : decode cX3_isLoaded 0 = .ok (.aload_n 0, 1) := dk_42 (dk_at dksX3_isLoaded_0 0 rfl rfl)
theorem dX3_isLoaded_1 : decode cX3_isLoaded 1 = .ok (.getfield 17, 3) := dk_180 0 17 (dk_at dksX3_isLoaded_0 1 rfl rfl)
theorem dX3_isLoaded_4 : decode cX3_isLoaded 4 = .ok (.iload_n 1, 1) := dk_27 (dk_at dksX3_isLoaded_0 4 rfl rfl)
theorem dX3_isLoaded_5 : decode cX3_isLoaded 5 = .ok (.invokestatic 174, 3) := dk_184 0 174 (dk_at dksX3_isLoaded_0 5 rfl rfl)
theorem dX3_isLoaded_8 : decode cX3_isLoaded 8 = .ok (.iconst 2, 1) := dk_5 (dk_at dksX3_isLoaded_0 8 rfl rfl)
theorem dX3_isLoaded_9 : decode cX3_isLoaded 9 = .ok (.iadd, 1) := dk_96 (dk_at dksX3_isLoaded_0 9 rfl rfl)
theorem dX3_isLoaded_10 : decode cX3_isLoaded 10 = .ok (.iaload, 1) := dk_46 (dk_at dksX3_isLoaded_0 10 rfl rfl)
theorem dX3_isLoaded_11 : decode cX3_isLoaded 11 = .ok (.ifCond .le 7, 3) := dk_158 0 7 (dk_at dksX3_isLoaded_0 11 rfl rfl)
theorem dX3_isLoaded_14 : decode cX3_isLoaded 14 = .ok (.iconst 1, 1) := dk_4 (dk_at dksX3_isLoaded_0 14 rfl rfl)
theorem dX3_isLoaded_15 : decode cX3_isLoaded 15 = .ok (.goto 4, 3) := dk_167 0 4 (dk_at dksX3_isLoaded_0 15 rfl rfl)
theorem dX3_isLoaded_18 : decode cX3_isLoaded 18 = .ok (.iconst 0, 1) := dk_3 (dk_at dksX3_isLoaded_0 18 rfl rfl)
theorem dX3_isLoaded_19 : decode cX3_isLoaded 19 = .ok (.ireturn, 1) := dk_172 (dk_at dksX3_isLoaded_0 19 rfl rfl)
abbrev cX3_offersOf : ByteArray := prog_11_method_36_code
def yX3_offersOf : MethodName := ⟨RX3, "offersOf", "(I)I"⟩
def dkwX3_offersOf_2 : List UInt8 := [172]
abbrev dktX3_offersOf_2 : List UInt8 := dkwX3_offersOf_2 ++ []
def dkwX3_offersOf_1 : List UInt8 := [16, 12, 96, 29, 96, 46, 2, 160, 0, 7, 3, 167, 0, 4, 4, 96, 61, 132, 3, 1, 167, 255, 217, 28]
abbrev dktX3_offersOf_1 : List UInt8 := dkwX3_offersOf_1 ++ dktX3_offersOf_2
def dkwX3_offersOf_0 : List UInt8 := [3, 61, 3, 62, 29, 42, 180, 0, 17, 5, 46, 162, 0, 35, 28, 42, 180, 0, 17, 27, 184, 0, 174]
abbrev dktX3_offersOf_0 : List UInt8 := dkwX3_offersOf_0 ++ dktX3_offersOf_1
theorem dksX3_offersOf_0 : cX3_offersOf.data.toList.drop 0 = dktX3_offersOf_0 := by decide +kernel
theorem dksX3_offersOf_1 : cX3_offersOf.data.toList.drop 23 = dktX3_offersOf_1 := dk_seg dksX3_offersOf_0 23 rfl rfl
theorem dksX3_offersOf_2 : cX3_offersOf.data.toList.drop 47 = dktX3_offersOf_2 := dk_seg dksX3_offersOf_1 24 rfl rfl
theorem dX3_offersOf_0 : decode cX3_offersOf 0 = .ok (.iconst 0, 1) := dk_3 (dk_at dksX3_offersOf_0 0 rfl rfl)
theorem dX3_offersOf_1 : decode cX3_offersOf 1 = .ok (.istore_n 2, 1) := dk_61 (dk_at dksX3_offersOf_0 1 rfl rfl)
theorem dX3_offersOf_2 : decode cX3_offersOf 2 = .ok (.iconst 0, 1) := dk_3 (dk_at dksX3_offersOf_0 2 rfl rfl)
theorem dX3_offersOf_3 : decode cX3_offersOf 3 = .ok (.istore_n 3, 1) := dk_62 (dk_at dksX3_offersOf_0 3 rfl rfl)
theorem dX3_offersOf_4 : decode cX3_offersOf 4 = .ok (.iload_n 3, 1) := dk_29 (dk_at dksX3_offersOf_0 4 rfl rfl)
theorem dX3_offersOf_5 : decode cX3_offersOf 5 = .ok (.aload_n 0, 1) := dk_42 (dk_at dksX3_offersOf_0 5 rfl rfl)
theorem dX3_offersOf_6 : decode cX3_offersOf 6 = .ok (.getfield 17, 3) := dk_180 0 17 (dk_at dksX3_offersOf_0 6 rfl rfl)
theorem dX3_offersOf_9 : decode cX3_offersOf 9 = .ok (.iconst 2, 1) := dk_5 (dk_at dksX3_offersOf_0 9 rfl rfl)
theorem dX3_offersOf_10 : decode cX3_offersOf 10 = .ok (.iaload, 1) := dk_46 (dk_at dksX3_offersOf_0 10 rfl rfl)
theorem dX3_offersOf_11 : decode cX3_offersOf 11 = .ok (.if_icmp .ge 35, 3) := dk_162 0 35 (dk_at dksX3_offersOf_0 11 rfl rfl)
theorem dX3_offersOf_14 : decode cX3_offersOf 14 = .ok (.iload_n 2, 1) := dk_28 (dk_at dksX3_offersOf_0 14 rfl rfl)
theorem dX3_offersOf_15 : decode cX3_offersOf 15 = .ok (.aload_n 0, 1) := dk_42 (dk_at dksX3_offersOf_0 15 rfl rfl)
theorem dX3_offersOf_16 : decode cX3_offersOf 16 = .ok (.getfield 17, 3) := dk_180 0 17 (dk_at dksX3_offersOf_0 16 rfl rfl)
theorem dX3_offersOf_19 : decode cX3_offersOf 19 = .ok (.iload_n 1, 1) := dk_27 (dk_at dksX3_offersOf_0 19 rfl rfl)
theorem dX3_offersOf_20 : decode cX3_offersOf 20 = .ok (.invokestatic 174, 3) := dk_184 0 174 (dk_at dksX3_offersOf_0 20 rfl rfl)
theorem dX3_offersOf_23 : decode cX3_offersOf 23 = .ok (.bipush 12, 2) := dk_16 12 (dk_at dksX3_offersOf_1 0 rfl rfl)
theorem dX3_offersOf_25 : decode cX3_offersOf 25 = .ok (.iadd, 1) := dk_96 (dk_at dksX3_offersOf_1 2 rfl rfl)
theorem dX3_offersOf_26 : decode cX3_offersOf 26 = .ok (.iload_n 3, 1) := dk_29 (dk_at dksX3_offersOf_1 3 rfl rfl)
theorem dX3_offersOf_27 : decode cX3_offersOf 27 = .ok (.iadd, 1) := dk_96 (dk_at dksX3_offersOf_1 4 rfl rfl)
theorem dX3_offersOf_28 : decode cX3_offersOf 28 = .ok (.iaload, 1) := dk_46 (dk_at dksX3_offersOf_1 5 rfl rfl)
theorem dX3_offersOf_29 : decode cX3_offersOf 29 = .ok (.iconst (-1), 1) := dk_2 (dk_at dksX3_offersOf_1 6 rfl rfl)
theorem dX3_offersOf_30 : decode cX3_offersOf 30 = .ok (.if_icmp .ne 7, 3) := dk_160 0 7 (dk_at dksX3_offersOf_1 7 rfl rfl)
theorem dX3_offersOf_33 : decode cX3_offersOf 33 = .ok (.iconst 0, 1) := dk_3 (dk_at dksX3_offersOf_1 10 rfl rfl)
theorem dX3_offersOf_34 : decode cX3_offersOf 34 = .ok (.goto 4, 3) := dk_167 0 4 (dk_at dksX3_offersOf_1 11 rfl rfl)
theorem dX3_offersOf_37 : decode cX3_offersOf 37 = .ok (.iconst 1, 1) := dk_4 (dk_at dksX3_offersOf_1 14 rfl rfl)
theorem dX3_offersOf_38 : decode cX3_offersOf 38 = .ok (.iadd, 1) := dk_96 (dk_at dksX3_offersOf_1 15 rfl rfl)
theorem dX3_offersOf_39 : decode cX3_offersOf 39 = .ok (.istore_n 2, 1) := dk_61 (dk_at dksX3_offersOf_1 16 rfl rfl)
theorem dX3_offersOf_40 : decode cX3_offersOf 40 = .ok (.iinc 3 1, 3) := dk_132 3 1 (dk_at dksX3_offersOf_1 17 rfl rfl)
theorem dX3_offersOf_43 : decode cX3_offersOf 43 = .ok (.goto (-39), 3) := dk_167 255 217 (dk_at dksX3_offersOf_1 20 rfl rfl)
theorem dX3_offersOf_46 : decode cX3_offersOf 46 = .ok (.iload_n 2, 1) := dk_28 (dk_at dksX3_offersOf_1 23 rfl rfl)
theorem dX3_offersOf_47 : decode cX3_offersOf 47 = .ok (.ireturn, 1) := dk_172 (dk_at dksX3_offersOf_2 0 rfl rfl)
abbrev cX3_weightOf : ByteArray := prog_11_method_41_code
def yX3_weightOf : MethodName := ⟨RX3, "weightOf", "(I)I"⟩
def dkwX3_weightOf_9 : List UInt8 := [20, 1, 0, 148, 158, 0, 9, 17, 39, 15, 167, 0, 10, 42, 180, 0, 35, 3, 47, 136, 172]
abbrev dktX3_weightOf_9 : List UInt8 := dkwX3_weightOf_9 ++ []
def dkwX3_weightOf_8 : List UInt8 := [167, 255, 101, 42, 180, 0, 35, 3, 47, 9, 148, 156, 0, 7, 3, 167, 0, 29, 42, 180, 0, 35, 3, 47]
abbrev dktX3_weightOf_8 : List UInt8 := dkwX3_weightOf_8 ++ dktX3_weightOf_9
def dkwX3_weightOf_7 : List UInt8 := [21, 4, 42, 180, 0, 35, 28, 4, 100, 47, 42, 180, 0, 35, 28, 47, 184, 0, 252, 80, 132, 3, 1]
abbrev dktX3_weightOf_7 : List UInt8 := dkwX3_weightOf_7 ++ dktX3_weightOf_8
def dkwX3_weightOf_6 : List UInt8 := [42, 27, 182, 0, 249, 133, 80, 132, 2, 1, 167, 0, 33, 132, 2, 255, 42, 180, 0, 35, 28, 4, 100]
abbrev dktX3_weightOf_6 : List UInt8 := dkwX3_weightOf_6 ++ dktX3_weightOf_7
def dkwX3_weightOf_5 : List UInt8 := [42, 27, 182, 0, 243, 133, 167, 0, 24, 21, 5, 5, 160, 0, 12, 42, 27, 182, 0, 246, 133, 167, 0, 9]
abbrev dktX3_weightOf_5 : List UInt8 := dkwX3_weightOf_5 ++ dktX3_weightOf_6
def dkwX3_weightOf_4 : List UInt8 := [154, 0, 18, 42, 180, 0, 17, 27, 184, 0, 174, 3, 96, 46, 133, 167, 0, 39, 21, 5, 4, 160, 0, 12]
abbrev dktX3_weightOf_4 : List UInt8 := dkwX3_weightOf_4 ++ dktX3_weightOf_5
def dkwX3_weightOf_3 : List UInt8 := [29, 96, 46, 54, 5, 42, 180, 0, 35, 28, 21, 4, 154, 0, 9, 21, 5, 133, 167, 0, 59, 21, 5]
abbrev dktX3_weightOf_3 : List UInt8 := dkwX3_weightOf_3 ++ dktX3_weightOf_4
def dkwX3_weightOf_2 : List UInt8 := [17, 0, 198, 29, 96, 46, 54, 4, 21, 4, 4, 163, 0, 97, 132, 3, 1, 42, 180, 0, 17, 17, 0, 198]
abbrev dktX3_weightOf_2 : List UInt8 := dkwX3_weightOf_2 ++ dktX3_weightOf_3
def dkwX3_weightOf_1 : List UInt8 := [184, 0, 174, 3, 96, 46, 133, 80, 3, 62, 29, 42, 180, 0, 17, 8, 46, 162, 0, 151, 42, 180, 0, 17]
abbrev dktX3_weightOf_1 : List UInt8 := dkwX3_weightOf_1 ++ dktX3_weightOf_2
def dkwX3_weightOf_0 : List UInt8 := [42, 27, 182, 0, 232, 154, 0, 5, 2, 172, 3, 61, 42, 180, 0, 35, 3, 42, 180, 0, 17, 27]
abbrev dktX3_weightOf_0 : List UInt8 := dkwX3_weightOf_0 ++ dktX3_weightOf_1
theorem dksX3_weightOf_0 : cX3_weightOf.data.toList.drop 0 = dktX3_weightOf_0 := by decide +kernel
theorem dksX3_weightOf_1 : cX3_weightOf.data.toList.drop 22 = dktX3_weightOf_1 := dk_seg dksX3_weightOf_0 22 rfl rfl
theorem dksX3_weightOf_2 : cX3_weightOf.data.toList.drop 46 = dktX3_weightOf_2 := dk_seg dksX3_weightOf_1 24 rfl rfl
theorem dksX3_weightOf_3 : cX3_weightOf.data.toList.drop 70 = dktX3_weightOf_3 := dk_seg dksX3_weightOf_2 24 rfl rfl
theorem dksX3_weightOf_4 : cX3_weightOf.data.toList.drop 93 = dktX3_weightOf_4 := dk_seg dksX3_weightOf_3 23 rfl rfl
theorem dksX3_weightOf_5 : cX3_weightOf.data.toList.drop 117 = dktX3_weightOf_5 := dk_seg dksX3_weightOf_4 24 rfl rfl
theorem dksX3_weightOf_6 : cX3_weightOf.data.toList.drop 141 = dktX3_weightOf_6 := dk_seg dksX3_weightOf_5 24 rfl rfl
theorem dksX3_weightOf_7 : cX3_weightOf.data.toList.drop 164 = dktX3_weightOf_7 := dk_seg dksX3_weightOf_6 23 rfl rfl
theorem dksX3_weightOf_8 : cX3_weightOf.data.toList.drop 187 = dktX3_weightOf_8 := dk_seg dksX3_weightOf_7 23 rfl rfl
theorem dksX3_weightOf_9 : cX3_weightOf.data.toList.drop 211 = dktX3_weightOf_9 := dk_seg dksX3_weightOf_8 24 rfl rfl
theorem dX3_weightOf_0 : decode cX3_weightOf 0 = .ok (.aload_n 0, 1) := dk_42 (dk_at dksX3_weightOf_0 0 rfl rfl)
theorem dX3_weightOf_1 : decode cX3_weightOf 1 = .ok (.iload_n 1, 1) := dk_27 (dk_at dksX3_weightOf_0 1 rfl rfl)
theorem dX3_weightOf_2 : decode cX3_weightOf 2 = .ok (.invokevirtual 232, 3) := dk_182 0 232 (dk_at dksX3_weightOf_0 2 rfl rfl)
theorem dX3_weightOf_5 : decode cX3_weightOf 5 = .ok (.ifCond .ne 5, 3) := dk_154 0 5 (dk_at dksX3_weightOf_0 5 rfl rfl)
theorem dX3_weightOf_8 : decode cX3_weightOf 8 = .ok (.iconst (-1), 1) := dk_2 (dk_at dksX3_weightOf_0 8 rfl rfl)
theorem dX3_weightOf_9 : decode cX3_weightOf 9 = .ok (.ireturn, 1) := dk_172 (dk_at dksX3_weightOf_0 9 rfl rfl)
theorem dX3_weightOf_10 : decode cX3_weightOf 10 = .ok (.iconst 0, 1) := dk_3 (dk_at dksX3_weightOf_0 10 rfl rfl)
theorem dX3_weightOf_11 : decode cX3_weightOf 11 = .ok (.istore_n 2, 1) := dk_61 (dk_at dksX3_weightOf_0 11 rfl rfl)
theorem dX3_weightOf_12 : decode cX3_weightOf 12 = .ok (.aload_n 0, 1) := dk_42 (dk_at dksX3_weightOf_0 12 rfl rfl)
theorem dX3_weightOf_13 : decode cX3_weightOf 13 = .ok (.getfield 35, 3) := dk_180 0 35 (dk_at dksX3_weightOf_0 13 rfl rfl)
theorem dX3_weightOf_16 : decode cX3_weightOf 16 = .ok (.iconst 0, 1) := dk_3 (dk_at dksX3_weightOf_0 16 rfl rfl)
theorem dX3_weightOf_17 : decode cX3_weightOf 17 = .ok (.aload_n 0, 1) := dk_42 (dk_at dksX3_weightOf_0 17 rfl rfl)
theorem dX3_weightOf_18 : decode cX3_weightOf 18 = .ok (.getfield 17, 3) := dk_180 0 17 (dk_at dksX3_weightOf_0 18 rfl rfl)
theorem dX3_weightOf_21 : decode cX3_weightOf 21 = .ok (.iload_n 1, 1) := dk_27 (dk_at dksX3_weightOf_0 21 rfl rfl)
theorem dX3_weightOf_22 : decode cX3_weightOf 22 = .ok (.invokestatic 174, 3) := dk_184 0 174 (dk_at dksX3_weightOf_1 0 rfl rfl)
theorem dX3_weightOf_25 : decode cX3_weightOf 25 = .ok (.iconst 0, 1) := dk_3 (dk_at dksX3_weightOf_1 3 rfl rfl)
theorem dX3_weightOf_26 : decode cX3_weightOf 26 = .ok (.iadd, 1) := dk_96 (dk_at dksX3_weightOf_1 4 rfl rfl)
theorem dX3_weightOf_27 : decode cX3_weightOf 27 = .ok (.iaload, 1) := dk_46 (dk_at dksX3_weightOf_1 5 rfl rfl)
theorem dX3_weightOf_28 : decode cX3_weightOf 28 = .ok (.i2l, 1) := dk_133 (dk_at dksX3_weightOf_1 6 rfl rfl)
theorem dX3_weightOf_29 : decode cX3_weightOf 29 = .ok (.lastore, 1) := dk_80 (dk_at dksX3_weightOf_1 7 rfl rfl)
theorem dX3_weightOf_30 : decode cX3_weightOf 30 = .ok (.iconst 0, 1) := dk_3 (dk_at dksX3_weightOf_1 8 rfl rfl)
theorem dX3_weightOf_31 : decode cX3_weightOf 31 = .ok (.istore_n 3, 1) := dk_62 (dk_at dksX3_weightOf_1 9 rfl rfl)
theorem dX3_weightOf_32 : decode cX3_weightOf 32 = .ok (.iload_n 3, 1) := dk_29 (dk_at dksX3_weightOf_1 10 rfl rfl)
theorem dX3_weightOf_33 : decode cX3_weightOf 33 = .ok (.aload_n 0, 1) := dk_42 (dk_at dksX3_weightOf_1 11 rfl rfl)
theorem dX3_weightOf_34 : decode cX3_weightOf 34 = .ok (.getfield 17, 3) := dk_180 0 17 (dk_at dksX3_weightOf_1 12 rfl rfl)
theorem dX3_weightOf_37 : decode cX3_weightOf 37 = .ok (.iconst 5, 1) := dk_8 (dk_at dksX3_weightOf_1 15 rfl rfl)
theorem dX3_weightOf_38 : decode cX3_weightOf 38 = .ok (.iaload, 1) := dk_46 (dk_at dksX3_weightOf_1 16 rfl rfl)
theorem dX3_weightOf_39 : decode cX3_weightOf 39 = .ok (.if_icmp .ge 151, 3) := dk_162 0 151 (dk_at dksX3_weightOf_1 17 rfl rfl)
theorem dX3_weightOf_42 : decode cX3_weightOf 42 = .ok (.aload_n 0, 1) := dk_42 (dk_at dksX3_weightOf_1 20 rfl rfl)
theorem dX3_weightOf_43 : decode cX3_weightOf 43 = .ok (.getfield 17, 3) := dk_180 0 17 (dk_at dksX3_weightOf_1 21 rfl rfl)
theorem dX3_weightOf_46 : decode cX3_weightOf 46 = .ok (.sipush 198, 3) := dk_17 0 198 (dk_at dksX3_weightOf_2 0 rfl rfl)
theorem dX3_weightOf_49 : decode cX3_weightOf 49 = .ok (.iload_n 3, 1) := dk_29 (dk_at dksX3_weightOf_2 3 rfl rfl)
theorem dX3_weightOf_50 : decode cX3_weightOf 50 = .ok (.iadd, 1) := dk_96 (dk_at dksX3_weightOf_2 4 rfl rfl)
theorem dX3_weightOf_51 : decode cX3_weightOf 51 = .ok (.iaload, 1) := dk_46 (dk_at dksX3_weightOf_2 5 rfl rfl)
theorem dX3_weightOf_52 : decode cX3_weightOf 52 = .ok (.istore 4, 2) := dk_54 4 (dk_at dksX3_weightOf_2 6 rfl rfl)
theorem dX3_weightOf_54 : decode cX3_weightOf 54 = .ok (.iload 4, 2) := dk_21 4 (dk_at dksX3_weightOf_2 8 rfl rfl)
theorem dX3_weightOf_56 : decode cX3_weightOf 56 = .ok (.iconst 1, 1) := dk_4 (dk_at dksX3_weightOf_2 10 rfl rfl)
theorem dX3_weightOf_57 : decode cX3_weightOf 57 = .ok (.if_icmp .gt 97, 3) := dk_163 0 97 (dk_at dksX3_weightOf_2 11 rfl rfl)
theorem dX3_weightOf_60 : decode cX3_weightOf 60 = .ok (.iinc 3 1, 3) := dk_132 3 1 (dk_at dksX3_weightOf_2 14 rfl rfl)
theorem dX3_weightOf_63 : decode cX3_weightOf 63 = .ok (.aload_n 0, 1) := dk_42 (dk_at dksX3_weightOf_2 17 rfl rfl)
theorem dX3_weightOf_64 : decode cX3_weightOf 64 = .ok (.getfield 17, 3) := dk_180 0 17 (dk_at dksX3_weightOf_2 18 rfl rfl)
theorem dX3_weightOf_67 : decode cX3_weightOf 67 = .ok (.sipush 198, 3) := dk_17 0 198 (dk_at dksX3_weightOf_2 21 rfl rfl)
theorem dX3_weightOf_70 : decode cX3_weightOf 70 = .ok (.iload_n 3, 1) := dk_29 (dk_at dksX3_weightOf_3 0 rfl rfl)
theorem dX3_weightOf_71 : decode cX3_weightOf 71 = .ok (.iadd, 1) := dk_96 (dk_at dksX3_weightOf_3 1 rfl rfl)
theorem dX3_weightOf_72 : decode cX3_weightOf 72 = .ok (.iaload, 1) := dk_46 (dk_at dksX3_weightOf_3 2 rfl rfl)
theorem dX3_weightOf_73 : decode cX3_weightOf 73 = .ok (.istore 5, 2) := dk_54 5 (dk_at dksX3_weightOf_3 3 rfl rfl)
theorem dX3_weightOf_75 : decode cX3_weightOf 75 = .ok (.aload_n 0, 1) := dk_42 (dk_at dksX3_weightOf_3 5 rfl rfl)
theorem dX3_weightOf_76 : decode cX3_weightOf 76 = .ok (.getfield 35, 3) := dk_180 0 35 (dk_at dksX3_weightOf_3 6 rfl rfl)
theorem dX3_weightOf_79 : decode cX3_weightOf 79 = .ok (.iload_n 2, 1) := dk_28 (dk_at dksX3_weightOf_3 9 rfl rfl)
theorem dX3_weightOf_80 : decode cX3_weightOf 80 = .ok (.iload 4, 2) := dk_21 4 (dk_at dksX3_weightOf_3 10 rfl rfl)
theorem dX3_weightOf_82 : decode cX3_weightOf 82 = .ok (.ifCond .ne 9, 3) := dk_154 0 9 (dk_at dksX3_weightOf_3 12 rfl rfl)
theorem dX3_weightOf_85 : decode cX3_weightOf 85 = .ok (.iload 5, 2) := dk_21 5 (dk_at dksX3_weightOf_3 15 rfl rfl)
theorem dX3_weightOf_87 : decode cX3_weightOf 87 = .ok (.i2l, 1) := dk_133 (dk_at dksX3_weightOf_3 17 rfl rfl)
theorem dX3_weightOf_88 : decode cX3_weightOf 88 = .ok (.goto 59, 3) := dk_167 0 59 (dk_at dksX3_weightOf_3 18 rfl rfl)
theorem dX3_weightOf_91 : decode cX3_weightOf 91 = .ok (.iload 5, 2) := dk_21 5 (dk_at dksX3_weightOf_3 21 rfl rfl)
theorem dX3_weightOf_93 : decode cX3_weightOf 93 = .ok (.ifCond .ne 18, 3) := dk_154 0 18 (dk_at dksX3_weightOf_4 0 rfl rfl)
theorem dX3_weightOf_96 : decode cX3_weightOf 96 = .ok (.aload_n 0, 1) := dk_42 (dk_at dksX3_weightOf_4 3 rfl rfl)
theorem dX3_weightOf_97 : decode cX3_weightOf 97 = .ok (.getfield 17, 3) := dk_180 0 17 (dk_at dksX3_weightOf_4 4 rfl rfl)
theorem dX3_weightOf_100 : decode cX3_weightOf 100 = .ok (.iload_n 1, 1) := dk_27 (dk_at dksX3_weightOf_4 7 rfl rfl)
theorem dX3_weightOf_101 : decode cX3_weightOf 101 = .ok (.invokestatic 174, 3) := dk_184 0 174 (dk_at dksX3_weightOf_4 8 rfl rfl)
theorem dX3_weightOf_104 : decode cX3_weightOf 104 = .ok (.iconst 0, 1) := dk_3 (dk_at dksX3_weightOf_4 11 rfl rfl)
theorem dX3_weightOf_105 : decode cX3_weightOf 105 = .ok (.iadd, 1) := dk_96 (dk_at dksX3_weightOf_4 12 rfl rfl)
theorem dX3_weightOf_106 : decode cX3_weightOf 106 = .ok (.iaload, 1) := dk_46 (dk_at dksX3_weightOf_4 13 rfl rfl)
theorem dX3_weightOf_107 : decode cX3_weightOf 107 = .ok (.i2l, 1) := dk_133 (dk_at dksX3_weightOf_4 14 rfl rfl)
theorem dX3_weightOf_108 : decode cX3_weightOf 108 = .ok (.goto 39, 3) := dk_167 0 39 (dk_at dksX3_weightOf_4 15 rfl rfl)
theorem dX3_weightOf_111 : decode cX3_weightOf 111 = .ok (.iload 5, 2) := dk_21 5 (dk_at dksX3_weightOf_4 18 rfl rfl)
theorem dX3_weightOf_113 : decode cX3_weightOf 113 = .ok (.iconst 1, 1) := dk_4 (dk_at dksX3_weightOf_4 20 rfl rfl)
theorem dX3_weightOf_114 : decode cX3_weightOf 114 = .ok (.if_icmp .ne 12, 3) := dk_160 0 12 (dk_at dksX3_weightOf_4 21 rfl rfl)
theorem dX3_weightOf_117 : decode cX3_weightOf 117 = .ok (.aload_n 0, 1) := dk_42 (dk_at dksX3_weightOf_5 0 rfl rfl)
theorem dX3_weightOf_118 : decode cX3_weightOf 118 = .ok (.iload_n 1, 1) := dk_27 (dk_at dksX3_weightOf_5 1 rfl rfl)
theorem dX3_weightOf_119 : decode cX3_weightOf 119 = .ok (.invokevirtual 243, 3) := dk_182 0 243 (dk_at dksX3_weightOf_5 2 rfl rfl)
theorem dX3_weightOf_122 : decode cX3_weightOf 122 = .ok (.i2l, 1) := dk_133 (dk_at dksX3_weightOf_5 5 rfl rfl)
theorem dX3_weightOf_123 : decode cX3_weightOf 123 = .ok (.goto 24, 3) := dk_167 0 24 (dk_at dksX3_weightOf_5 6 rfl rfl)
theorem dX3_weightOf_126 : decode cX3_weightOf 126 = .ok (.iload 5, 2) := dk_21 5 (dk_at dksX3_weightOf_5 9 rfl rfl)
theorem dX3_weightOf_128 : decode cX3_weightOf 128 = .ok (.iconst 2, 1) := dk_5 (dk_at dksX3_weightOf_5 11 rfl rfl)
theorem dX3_weightOf_129 : decode cX3_weightOf 129 = .ok (.if_icmp .ne 12, 3) := dk_160 0 12 (dk_at dksX3_weightOf_5 12 rfl rfl)
theorem dX3_weightOf_132 : decode cX3_weightOf 132 = .ok (.aload_n 0, 1) := dk_42 (dk_at dksX3_weightOf_5 15 rfl rfl)
theorem dX3_weightOf_133 : decode cX3_weightOf 133 = .ok (.iload_n 1, 1) := dk_27 (dk_at dksX3_weightOf_5 16 rfl rfl)
theorem dX3_weightOf_134 : decode cX3_weightOf 134 = .ok (.invokevirtual 246, 3) := dk_182 0 246 (dk_at dksX3_weightOf_5 17 rfl rfl)
theorem dX3_weightOf_137 : decode cX3_weightOf 137 = .ok (.i2l, 1) := dk_133 (dk_at dksX3_weightOf_5 20 rfl rfl)
theorem dX3_weightOf_138 : decode cX3_weightOf 138 = .ok (.goto 9, 3) := dk_167 0 9 (dk_at dksX3_weightOf_5 21 rfl rfl)
theorem dX3_weightOf_141 : decode cX3_weightOf 141 = .ok (.aload_n 0, 1) := dk_42 (dk_at dksX3_weightOf_6 0 rfl rfl)
theorem dX3_weightOf_142 : decode cX3_weightOf 142 = .ok (.iload_n 1, 1) := dk_27 (dk_at dksX3_weightOf_6 1 rfl rfl)
theorem dX3_weightOf_143 : decode cX3_weightOf 143 = .ok (.invokevirtual 249, 3) := dk_182 0 249 (dk_at dksX3_weightOf_6 2 rfl rfl)
theorem dX3_weightOf_146 : decode cX3_weightOf 146 = .ok (.i2l, 1) := dk_133 (dk_at dksX3_weightOf_6 5 rfl rfl)
theorem dX3_weightOf_147 : decode cX3_weightOf 147 = .ok (.lastore, 1) := dk_80 (dk_at dksX3_weightOf_6 6 rfl rfl)
theorem dX3_weightOf_148 : decode cX3_weightOf 148 = .ok (.iinc 2 1, 3) := dk_132 2 1 (dk_at dksX3_weightOf_6 7 rfl rfl)
theorem dX3_weightOf_151 : decode cX3_weightOf 151 = .ok (.goto 33, 3) := dk_167 0 33 (dk_at dksX3_weightOf_6 10 rfl rfl)
theorem dX3_weightOf_154 : decode cX3_weightOf 154 = .ok (.iinc 2 (-1), 3) := dk_132 2 255 (dk_at dksX3_weightOf_6 13 rfl rfl)
theorem dX3_weightOf_157 : decode cX3_weightOf 157 = .ok (.aload_n 0, 1) := dk_42 (dk_at dksX3_weightOf_6 16 rfl rfl)
theorem dX3_weightOf_158 : decode cX3_weightOf 158 = .ok (.getfield 35, 3) := dk_180 0 35 (dk_at dksX3_weightOf_6 17 rfl rfl)
theorem dX3_weightOf_161 : decode cX3_weightOf 161 = .ok (.iload_n 2, 1) := dk_28 (dk_at dksX3_weightOf_6 20 rfl rfl)
theorem dX3_weightOf_162 : decode cX3_weightOf 162 = .ok (.iconst 1, 1) := dk_4 (dk_at dksX3_weightOf_6 21 rfl rfl)
theorem dX3_weightOf_163 : decode cX3_weightOf 163 = .ok (.isub, 1) := dk_100 (dk_at dksX3_weightOf_6 22 rfl rfl)
theorem dX3_weightOf_164 : decode cX3_weightOf 164 = .ok (.iload 4, 2) := dk_21 4 (dk_at dksX3_weightOf_7 0 rfl rfl)
theorem dX3_weightOf_166 : decode cX3_weightOf 166 = .ok (.aload_n 0, 1) := dk_42 (dk_at dksX3_weightOf_7 2 rfl rfl)
theorem dX3_weightOf_167 : decode cX3_weightOf 167 = .ok (.getfield 35, 3) := dk_180 0 35 (dk_at dksX3_weightOf_7 3 rfl rfl)
theorem dX3_weightOf_170 : decode cX3_weightOf 170 = .ok (.iload_n 2, 1) := dk_28 (dk_at dksX3_weightOf_7 6 rfl rfl)
theorem dX3_weightOf_171 : decode cX3_weightOf 171 = .ok (.iconst 1, 1) := dk_4 (dk_at dksX3_weightOf_7 7 rfl rfl)
theorem dX3_weightOf_172 : decode cX3_weightOf 172 = .ok (.isub, 1) := dk_100 (dk_at dksX3_weightOf_7 8 rfl rfl)
theorem dX3_weightOf_173 : decode cX3_weightOf 173 = .ok (.laload, 1) := dk_47 (dk_at dksX3_weightOf_7 9 rfl rfl)
theorem dX3_weightOf_174 : decode cX3_weightOf 174 = .ok (.aload_n 0, 1) := dk_42 (dk_at dksX3_weightOf_7 10 rfl rfl)
theorem dX3_weightOf_175 : decode cX3_weightOf 175 = .ok (.getfield 35, 3) := dk_180 0 35 (dk_at dksX3_weightOf_7 11 rfl rfl)
theorem dX3_weightOf_178 : decode cX3_weightOf 178 = .ok (.iload_n 2, 1) := dk_28 (dk_at dksX3_weightOf_7 14 rfl rfl)
theorem dX3_weightOf_179 : decode cX3_weightOf 179 = .ok (.laload, 1) := dk_47 (dk_at dksX3_weightOf_7 15 rfl rfl)
theorem dX3_weightOf_180 : decode cX3_weightOf 180 = .ok (.invokestatic 252, 3) := dk_184 0 252 (dk_at dksX3_weightOf_7 16 rfl rfl)
theorem dX3_weightOf_183 : decode cX3_weightOf 183 = .ok (.lastore, 1) := dk_80 (dk_at dksX3_weightOf_7 19 rfl rfl)
theorem dX3_weightOf_184 : decode cX3_weightOf 184 = .ok (.iinc 3 1, 3) := dk_132 3 1 (dk_at dksX3_weightOf_7 20 rfl rfl)
theorem dX3_weightOf_187 : decode cX3_weightOf 187 = .ok (.goto (-155), 3) := dk_167 255 101 (dk_at dksX3_weightOf_8 0 rfl rfl)
theorem dX3_weightOf_190 : decode cX3_weightOf 190 = .ok (.aload_n 0, 1) := dk_42 (dk_at dksX3_weightOf_8 3 rfl rfl)
theorem dX3_weightOf_191 : decode cX3_weightOf 191 = .ok (.getfield 35, 3) := dk_180 0 35 (dk_at dksX3_weightOf_8 4 rfl rfl)
theorem dX3_weightOf_194 : decode cX3_weightOf 194 = .ok (.iconst 0, 1) := dk_3 (dk_at dksX3_weightOf_8 7 rfl rfl)
theorem dX3_weightOf_195 : decode cX3_weightOf 195 = .ok (.laload, 1) := dk_47 (dk_at dksX3_weightOf_8 8 rfl rfl)
theorem dX3_weightOf_196 : decode cX3_weightOf 196 = .ok (.lconst 0, 1) := dk_9 (dk_at dksX3_weightOf_8 9 rfl rfl)
theorem dX3_weightOf_197 : decode cX3_weightOf 197 = .ok (.lcmp, 1) := dk_148 (dk_at dksX3_weightOf_8 10 rfl rfl)
theorem dX3_weightOf_198 : decode cX3_weightOf 198 = .ok (.ifCond .ge 7, 3) := dk_156 0 7 (dk_at dksX3_weightOf_8 11 rfl rfl)
theorem dX3_weightOf_201 : decode cX3_weightOf 201 = .ok (.iconst 0, 1) := dk_3 (dk_at dksX3_weightOf_8 14 rfl rfl)
theorem dX3_weightOf_202 : decode cX3_weightOf 202 = .ok (.goto 29, 3) := dk_167 0 29 (dk_at dksX3_weightOf_8 15 rfl rfl)
theorem dX3_weightOf_205 : decode cX3_weightOf 205 = .ok (.aload_n 0, 1) := dk_42 (dk_at dksX3_weightOf_8 18 rfl rfl)
theorem dX3_weightOf_206 : decode cX3_weightOf 206 = .ok (.getfield 35, 3) := dk_180 0 35 (dk_at dksX3_weightOf_8 19 rfl rfl)
theorem dX3_weightOf_209 : decode cX3_weightOf 209 = .ok (.iconst 0, 1) := dk_3 (dk_at dksX3_weightOf_8 22 rfl rfl)
theorem dX3_weightOf_210 : decode cX3_weightOf 210 = .ok (.laload, 1) := dk_47 (dk_at dksX3_weightOf_8 23 rfl rfl)
theorem dX3_weightOf_211 : decode cX3_weightOf 211 = .ok (.ldc2_w 256, 3) := dk_20 1 0 (dk_at dksX3_weightOf_9 0 rfl rfl)
theorem dX3_weightOf_214 : decode cX3_weightOf 214 = .ok (.lcmp, 1) := dk_148 (dk_at dksX3_weightOf_9 3 rfl rfl)
theorem dX3_weightOf_215 : decode cX3_weightOf 215 = .ok (.ifCond .le 9, 3) := dk_158 0 9 (dk_at dksX3_weightOf_9 4 rfl rfl)
theorem dX3_weightOf_218 : decode cX3_weightOf 218 = .ok (.sipush 9999, 3) := dk_17 39 15 (dk_at dksX3_weightOf_9 7 rfl rfl)
theorem dX3_weightOf_221 : decode cX3_weightOf 221 = .ok (.goto 10, 3) := dk_167 0 10 (dk_at dksX3_weightOf_9 10 rfl rfl)
theorem dX3_weightOf_224 : decode cX3_weightOf 224 = .ok (.aload_n 0, 1) := dk_42 (dk_at dksX3_weightOf_9 13 rfl rfl)
theorem dX3_weightOf_225 : decode cX3_weightOf 225 = .ok (.getfield 35, 3) := dk_180 0 35 (dk_at dksX3_weightOf_9 14 rfl rfl)
theorem dX3_weightOf_228 : decode cX3_weightOf 228 = .ok (.iconst 0, 1) := dk_3 (dk_at dksX3_weightOf_9 17 rfl rfl)
theorem dX3_weightOf_229 : decode cX3_weightOf 229 = .ok (.laload, 1) := dk_47 (dk_at dksX3_weightOf_9 18 rfl rfl)
theorem dX3_weightOf_230 : decode cX3_weightOf 230 = .ok (.l2i, 1) := dk_136 (dk_at dksX3_weightOf_9 19 rfl rfl)
theorem dX3_weightOf_231 : decode cX3_weightOf 231 = .ok (.ireturn, 1) := dk_172 (dk_at dksX3_weightOf_9 20 rfl rfl)
abbrev cX3_friendsOf : ByteArray := prog_11_method_37_code
def yX3_friendsOf : MethodName := ⟨RX3, "friendsOf", "(I)I"⟩
def dkwX3_friendsOf_2 : List UInt8 := [167, 255, 214, 28, 172]
abbrev dktX3_friendsOf_2 : List UInt8 := dkwX3_friendsOf_2 ++ []
def dkwX3_friendsOf_1 : List UInt8 := [42, 180, 0, 17, 29, 27, 182, 0, 185, 153, 0, 7, 4, 167, 0, 4, 3, 96, 61, 132, 3, 1]
abbrev dktX3_friendsOf_1 : List UInt8 := dkwX3_friendsOf_1 ++ dktX3_friendsOf_2
def dkwX3_friendsOf_0 : List UInt8 := [3, 61, 3, 62, 29, 42, 180, 0, 17, 4, 46, 162, 0, 38, 28, 42, 29, 182, 0, 232, 153, 0, 20, 42]
abbrev dktX3_friendsOf_0 : List UInt8 := dkwX3_friendsOf_0 ++ dktX3_friendsOf_1
theorem dksX3_friendsOf_0 : cX3_friendsOf.data.toList.drop 0 = dktX3_friendsOf_0 := by decide +kernel
theorem dksX3_friendsOf_1 : cX3_friendsOf.data.toList.drop 24 = dktX3_friendsOf_1 := dk_seg dksX3_friendsOf_0 24 rfl rfl
theorem dksX3_friendsOf_2 : cX3_friendsOf.data.toList.drop 46 = dktX3_friendsOf_2 := dk_seg dksX3_friendsOf_1 22 rfl rfl
theorem dX3_friendsOf_0 : decode cX3_friendsOf 0 = .ok (.iconst 0, 1) := dk_3 (dk_at dksX3_friendsOf_0 0 rfl rfl)
theorem dX3_friendsOf_1 : decode cX3_friendsOf 1 = .ok (.istore_n 2, 1) := dk_61 (dk_at dksX3_friendsOf_0 1 rfl rfl)
theorem dX3_friendsOf_2 : decode cX3_friendsOf 2 = .ok (.iconst 0, 1) := dk_3 (dk_at dksX3_friendsOf_0 2 rfl rfl)
theorem dX3_friendsOf_3 : decode cX3_friendsOf 3 = .ok (.istore_n 3, 1) := dk_62 (dk_at dksX3_friendsOf_0 3 rfl rfl)
theorem dX3_friendsOf_4 : decode cX3_friendsOf 4 = .ok (.iload_n 3, 1) := dk_29 (dk_at dksX3_friendsOf_0 4 rfl rfl)
theorem dX3_friendsOf_5 : decode cX3_friendsOf 5 = .ok (.aload_n 0, 1) := dk_42 (dk_at dksX3_friendsOf_0 5 rfl rfl)
theorem dX3_friendsOf_6 : decode cX3_friendsOf 6 = .ok (.getfield 17, 3) := dk_180 0 17 (dk_at dksX3_friendsOf_0 6 rfl rfl)
theorem dX3_friendsOf_9 : decode cX3_friendsOf 9 = .ok (.iconst 1, 1) := dk_4 (dk_at dksX3_friendsOf_0 9 rfl rfl)
theorem dX3_friendsOf_10 : decode cX3_friendsOf 10 = .ok (.iaload, 1) := dk_46 (dk_at dksX3_friendsOf_0 10 rfl rfl)
theorem dX3_friendsOf_11 : decode cX3_friendsOf 11 = .ok (.if_icmp .ge 38, 3) := dk_162 0 38 (dk_at dksX3_friendsOf_0 11 rfl rfl)
theorem dX3_friendsOf_14 : decode cX3_friendsOf 14 = .ok (.iload_n 2, 1) := dk_28 (dk_at dksX3_friendsOf_0 14 rfl rfl)
theorem dX3_friendsOf_15 : decode cX3_friendsOf 15 = .ok (.aload_n 0, 1) := dk_42 (dk_at dksX3_friendsOf_0 15 rfl rfl)
theorem dX3_friendsOf_16 : decode cX3_friendsOf 16 = .ok (.iload_n 3, 1) := dk_29 (dk_at dksX3_friendsOf_0 16 rfl rfl)
theorem dX3_friendsOf_17 : decode cX3_friendsOf 17 = .ok (.invokevirtual 232, 3) := dk_182 0 232 (dk_at dksX3_friendsOf_0 17 rfl rfl)
theorem dX3_friendsOf_20 : decode cX3_friendsOf 20 = .ok (.ifCond .eq 20, 3) := dk_153 0 20 (dk_at dksX3_friendsOf_0 20 rfl rfl)
theorem dX3_friendsOf_23 : decode cX3_friendsOf 23 = .ok (.aload_n 0, 1) := dk_42 (dk_at dksX3_friendsOf_0 23 rfl rfl)
theorem dX3_friendsOf_24 : decode cX3_friendsOf 24 = .ok (.aload_n 0, 1) := dk_42 (dk_at dksX3_friendsOf_1 0 rfl rfl)
theorem dX3_friendsOf_25 : decode cX3_friendsOf 25 = .ok (.getfield 17, 3) := dk_180 0 17 (dk_at dksX3_friendsOf_1 1 rfl rfl)
theorem dX3_friendsOf_28 : decode cX3_friendsOf 28 = .ok (.iload_n 3, 1) := dk_29 (dk_at dksX3_friendsOf_1 4 rfl rfl)
theorem dX3_friendsOf_29 : decode cX3_friendsOf 29 = .ok (.iload_n 1, 1) := dk_27 (dk_at dksX3_friendsOf_1 5 rfl rfl)
theorem dX3_friendsOf_30 : decode cX3_friendsOf 30 = .ok (.invokevirtual 185, 3) := dk_182 0 185 (dk_at dksX3_friendsOf_1 6 rfl rfl)
theorem dX3_friendsOf_33 : decode cX3_friendsOf 33 = .ok (.ifCond .eq 7, 3) := dk_153 0 7 (dk_at dksX3_friendsOf_1 9 rfl rfl)
theorem dX3_friendsOf_36 : decode cX3_friendsOf 36 = .ok (.iconst 1, 1) := dk_4 (dk_at dksX3_friendsOf_1 12 rfl rfl)
theorem dX3_friendsOf_37 : decode cX3_friendsOf 37 = .ok (.goto 4, 3) := dk_167 0 4 (dk_at dksX3_friendsOf_1 13 rfl rfl)
theorem dX3_friendsOf_40 : decode cX3_friendsOf 40 = .ok (.iconst 0, 1) := dk_3 (dk_at dksX3_friendsOf_1 16 rfl rfl)
theorem dX3_friendsOf_41 : decode cX3_friendsOf 41 = .ok (.iadd, 1) := dk_96 (dk_at dksX3_friendsOf_1 17 rfl rfl)
theorem dX3_friendsOf_42 : decode cX3_friendsOf 42 = .ok (.istore_n 2, 1) := dk_61 (dk_at dksX3_friendsOf_1 18 rfl rfl)
theorem dX3_friendsOf_43 : decode cX3_friendsOf 43 = .ok (.iinc 3 1, 3) := dk_132 3 1 (dk_at dksX3_friendsOf_1 19 rfl rfl)
theorem dX3_friendsOf_46 : decode cX3_friendsOf 46 = .ok (.goto (-42), 3) := dk_167 255 214 (dk_at dksX3_friendsOf_2 0 rfl rfl)
theorem dX3_friendsOf_49 : decode cX3_friendsOf 49 = .ok (.iload_n 2, 1) := dk_28 (dk_at dksX3_friendsOf_2 3 rfl rfl)
theorem dX3_friendsOf_50 : decode cX3_friendsOf 50 = .ok (.ireturn, 1) := dk_172 (dk_at dksX3_friendsOf_2 4 rfl rfl)
abbrev cX3_operate : ByteArray := prog_11_method_40_code
def yX3_operate : MethodName := ⟨RX3, "operate", "(IJJ)J"⟩
def dkwX3_operate_1 : List UInt8 := [31, 33, 97, 167, 0, 17, 26, 6, 160, 0, 9, 31, 33, 101, 167, 0, 6, 31, 33, 105, 184, 0, 239, 173]
abbrev dktX3_operate_1 : List UInt8 := dkwX3_operate_1 ++ []
def dkwX3_operate_0 : List UInt8 := [26, 8, 160, 0, 17, 33, 9, 148, 154, 0, 7, 9, 167, 0, 6, 31, 33, 109, 173, 26, 5, 160, 0, 9]
abbrev dktX3_operate_0 : List UInt8 := dkwX3_operate_0 ++ dktX3_operate_1
theorem dksX3_operate_0 : cX3_operate.data.toList.drop 0 = dktX3_operate_0 := by decide +kernel
theorem dksX3_operate_1 : cX3_operate.data.toList.drop 24 = dktX3_operate_1 := dk_seg dksX3_operate_0 24 rfl rfl
theorem dX3_operate_0 : decode cX3_operate 0 = .ok (.iload_n 0, 1) := dk_26 (dk_at dksX3_operate_0 0 rfl rfl)
theorem dX3_operate_1 : decode cX3_operate 1 = .ok (.iconst 5, 1) := dk_8 (dk_at dksX3_operate_0 1 rfl rfl)
theorem dX3_operate_2 : decode cX3_operate 2 = .ok (.if_icmp .ne 17, 3) := dk_160 0 17 (dk_at dksX3_operate_0 2 rfl rfl)
theorem dX3_operate_5 : decode cX3_operate 5 = .ok (.lload_n 3, 1) := dk_33 (dk_at dksX3_operate_0 5 rfl rfl)
theorem dX3_operate_6 : decode cX3_operate 6 = .ok (.lconst 0, 1) := dk_9 (dk_at dksX3_operate_0 6 rfl rfl)
theorem dX3_operate_7 : decode cX3_operate 7 = .ok (.lcmp, 1) := dk_148 (dk_at dksX3_operate_0 7 rfl rfl)
theorem dX3_operate_8 : decode cX3_operate 8 = .ok (.ifCond .ne 7, 3) := dk_154 0 7 (dk_at dksX3_operate_0 8 rfl rfl)
theorem dX3_operate_11 : decode cX3_operate 11 = .ok (.lconst 0, 1) := dk_9 (dk_at dksX3_operate_0 11 rfl rfl)
theorem dX3_operate_12 : decode cX3_operate 12 = .ok (.goto 6, 3) := dk_167 0 6 (dk_at dksX3_operate_0 12 rfl rfl)
theorem dX3_operate_15 : decode cX3_operate 15 = .ok (.lload_n 1, 1) := dk_31 (dk_at dksX3_operate_0 15 rfl rfl)
theorem dX3_operate_16 : decode cX3_operate 16 = .ok (.lload_n 3, 1) := dk_33 (dk_at dksX3_operate_0 16 rfl rfl)
theorem dX3_operate_17 : decode cX3_operate 17 = .ok (.ldiv, 1) := dk_109 (dk_at dksX3_operate_0 17 rfl rfl)
theorem dX3_operate_18 : decode cX3_operate 18 = .ok (.lreturn, 1) := dk_173 (dk_at dksX3_operate_0 18 rfl rfl)
theorem dX3_operate_19 : decode cX3_operate 19 = .ok (.iload_n 0, 1) := dk_26 (dk_at dksX3_operate_0 19 rfl rfl)
theorem dX3_operate_20 : decode cX3_operate 20 = .ok (.iconst 2, 1) := dk_5 (dk_at dksX3_operate_0 20 rfl rfl)
theorem dX3_operate_21 : decode cX3_operate 21 = .ok (.if_icmp .ne 9, 3) := dk_160 0 9 (dk_at dksX3_operate_0 21 rfl rfl)
theorem dX3_operate_24 : decode cX3_operate 24 = .ok (.lload_n 1, 1) := dk_31 (dk_at dksX3_operate_1 0 rfl rfl)
theorem dX3_operate_25 : decode cX3_operate 25 = .ok (.lload_n 3, 1) := dk_33 (dk_at dksX3_operate_1 1 rfl rfl)
theorem dX3_operate_26 : decode cX3_operate 26 = .ok (.ladd, 1) := dk_97 (dk_at dksX3_operate_1 2 rfl rfl)
theorem dX3_operate_27 : decode cX3_operate 27 = .ok (.goto 17, 3) := dk_167 0 17 (dk_at dksX3_operate_1 3 rfl rfl)
theorem dX3_operate_30 : decode cX3_operate 30 = .ok (.iload_n 0, 1) := dk_26 (dk_at dksX3_operate_1 6 rfl rfl)
theorem dX3_operate_31 : decode cX3_operate 31 = .ok (.iconst 3, 1) := dk_6 (dk_at dksX3_operate_1 7 rfl rfl)
theorem dX3_operate_32 : decode cX3_operate 32 = .ok (.if_icmp .ne 9, 3) := dk_160 0 9 (dk_at dksX3_operate_1 8 rfl rfl)
theorem dX3_operate_35 : decode cX3_operate 35 = .ok (.lload_n 1, 1) := dk_31 (dk_at dksX3_operate_1 11 rfl rfl)
theorem dX3_operate_36 : decode cX3_operate 36 = .ok (.lload_n 3, 1) := dk_33 (dk_at dksX3_operate_1 12 rfl rfl)
theorem dX3_operate_37 : decode cX3_operate 37 = .ok (.lsub, 1) := dk_101 (dk_at dksX3_operate_1 13 rfl rfl)
theorem dX3_operate_38 : decode cX3_operate 38 = .ok (.goto 6, 3) := dk_167 0 6 (dk_at dksX3_operate_1 14 rfl rfl)
theorem dX3_operate_41 : decode cX3_operate 41 = .ok (.lload_n 1, 1) := dk_31 (dk_at dksX3_operate_1 17 rfl rfl)
theorem dX3_operate_42 : decode cX3_operate 42 = .ok (.lload_n 3, 1) := dk_33 (dk_at dksX3_operate_1 18 rfl rfl)
theorem dX3_operate_43 : decode cX3_operate 43 = .ok (.lmul, 1) := dk_105 (dk_at dksX3_operate_1 19 rfl rfl)
theorem dX3_operate_44 : decode cX3_operate 44 = .ok (.invokestatic 239, 3) := dk_184 0 239 (dk_at dksX3_operate_1 20 rfl rfl)
theorem dX3_operate_47 : decode cX3_operate 47 = .ok (.lreturn, 1) := dk_173 (dk_at dksX3_operate_1 23 rfl rfl)
abbrev cX3_limited : ByteArray := prog_11_method_39_code
def yX3_limited : MethodName := ⟨RX3, "limited", "(J)J"⟩
def dkwX3_limited_1 : List UInt8 := [20, 0, 237, 167, 0, 4, 30, 173]
abbrev dktX3_limited_1 : List UInt8 := dkwX3_limited_1 ++ []
def dkwX3_limited_0 : List UInt8 := [30, 20, 0, 235, 148, 158, 0, 9, 20, 0, 235, 167, 0, 18, 30, 20, 0, 237, 148, 156, 0, 9]
abbrev dktX3_limited_0 : List UInt8 := dkwX3_limited_0 ++ dktX3_limited_1
theorem dksX3_limited_0 : cX3_limited.data.toList.drop 0 = dktX3_limited_0 := by decide +kernel
theorem dksX3_limited_1 : cX3_limited.data.toList.drop 22 = dktX3_limited_1 := dk_seg dksX3_limited_0 22 rfl rfl
theorem dX3_limited_0 : decode cX3_limited 0 = .ok (.lload_n 0, 1) := dk_30 (dk_at dksX3_limited_0 0 rfl rfl)
theorem dX3_limited_1 : decode cX3_limited 1 = .ok (.ldc2_w 235, 3) := dk_20 0 235 (dk_at dksX3_limited_0 1 rfl rfl)
theorem dX3_limited_4 : decode cX3_limited 4 = .ok (.lcmp, 1) := dk_148 (dk_at dksX3_limited_0 4 rfl rfl)
theorem dX3_limited_5 : decode cX3_limited 5 = .ok (.ifCond .le 9, 3) := dk_158 0 9 (dk_at dksX3_limited_0 5 rfl rfl)
theorem dX3_limited_8 : decode cX3_limited 8 = .ok (.ldc2_w 235, 3) := dk_20 0 235 (dk_at dksX3_limited_0 8 rfl rfl)
theorem dX3_limited_11 : decode cX3_limited 11 = .ok (.goto 18, 3) := dk_167 0 18 (dk_at dksX3_limited_0 11 rfl rfl)
theorem dX3_limited_14 : decode cX3_limited 14 = .ok (.lload_n 0, 1) := dk_30 (dk_at dksX3_limited_0 14 rfl rfl)
theorem dX3_limited_15 : decode cX3_limited 15 = .ok (.ldc2_w 237, 3) := dk_20 0 237 (dk_at dksX3_limited_0 15 rfl rfl)
theorem dX3_limited_18 : decode cX3_limited 18 = .ok (.lcmp, 1) := dk_148 (dk_at dksX3_limited_0 18 rfl rfl)
theorem dX3_limited_19 : decode cX3_limited 19 = .ok (.ifCond .ge 9, 3) := dk_156 0 9 (dk_at dksX3_limited_0 19 rfl rfl)
theorem dX3_limited_22 : decode cX3_limited 22 = .ok (.ldc2_w 237, 3) := dk_20 0 237 (dk_at dksX3_limited_1 0 rfl rfl)
theorem dX3_limited_25 : decode cX3_limited 25 = .ok (.goto 4, 3) := dk_167 0 4 (dk_at dksX3_limited_1 3 rfl rfl)
theorem dX3_limited_28 : decode cX3_limited 28 = .ok (.lload_n 0, 1) := dk_30 (dk_at dksX3_limited_1 6 rfl rfl)
theorem dX3_limited_29 : decode cX3_limited 29 = .ok (.lreturn, 1) := dk_173 (dk_at dksX3_limited_1 7 rfl rfl)
abbrev cX3_offer : ByteArray := prog_11_method_56_code
def yX3_offer : MethodName := ⟨RX3, "offer", "(II)I"⟩
def dkwX3_offer_1 : List UInt8 := [167, 0, 17, 42, 180, 0, 17, 27, 184, 0, 174, 16, 12, 96, 28, 96, 46, 172]
abbrev dktX3_offer_1 : List UInt8 := dkwX3_offer_1 ++ []
def dkwX3_offer_0 : List UInt8 := [42, 3, 181, 0, 59, 42, 27, 182, 1, 21, 154, 0, 11, 42, 28, 182, 1, 24, 153, 0, 7, 3]
abbrev dktX3_offer_0 : List UInt8 := dkwX3_offer_0 ++ dktX3_offer_1
theorem dksX3_offer_0 : cX3_offer.data.toList.drop 0 = dktX3_offer_0 := by decide +kernel
theorem dksX3_offer_1 : cX3_offer.data.toList.drop 22 = dktX3_offer_1 := dk_seg dksX3_offer_0 22 rfl rfl
theorem dX3_offer_0 : decode cX3_offer 0 = .ok (.aload_n 0, 1) := dk_42 (dk_at dksX3_offer_0 0 rfl rfl)
theorem dX3_offer_1 : decode cX3_offer 1 = .ok (.iconst 0, 1) := dk_3 (dk_at dksX3_offer_0 1 rfl rfl)
theorem dX3_offer_2 : decode cX3_offer 2 = .ok (.putfield 59, 3) := dk_181 0 59 (dk_at dksX3_offer_0 2 rfl rfl)
theorem dX3_offer_5 : decode cX3_offer 5 = .ok (.aload_n 0, 1) := dk_42 (dk_at dksX3_offer_0 5 rfl rfl)
theorem dX3_offer_6 : decode cX3_offer 6 = .ok (.iload_n 1, 1) := dk_27 (dk_at dksX3_offer_0 6 rfl rfl)
theorem dX3_offer_7 : decode cX3_offer 7 = .ok (.invokevirtual 277, 3) := dk_182 1 21 (dk_at dksX3_offer_0 7 rfl rfl)
theorem dX3_offer_10 : decode cX3_offer 10 = .ok (.ifCond .ne 11, 3) := dk_154 0 11 (dk_at dksX3_offer_0 10 rfl rfl)
theorem dX3_offer_13 : decode cX3_offer 13 = .ok (.aload_n 0, 1) := dk_42 (dk_at dksX3_offer_0 13 rfl rfl)
theorem dX3_offer_14 : decode cX3_offer 14 = .ok (.iload_n 2, 1) := dk_28 (dk_at dksX3_offer_0 14 rfl rfl)
theorem dX3_offer_15 : decode cX3_offer 15 = .ok (.invokevirtual 280, 3) := dk_182 1 24 (dk_at dksX3_offer_0 15 rfl rfl)
theorem dX3_offer_18 : decode cX3_offer 18 = .ok (.ifCond .eq 7, 3) := dk_153 0 7 (dk_at dksX3_offer_0 18 rfl rfl)
theorem dX3_offer_21 : decode cX3_offer 21 = .ok (.iconst 0, 1) := dk_3 (dk_at dksX3_offer_0 21 rfl rfl)
theorem dX3_offer_22 : decode cX3_offer 22 = .ok (.goto 17, 3) := dk_167 0 17 (dk_at dksX3_offer_1 0 rfl rfl)
theorem dX3_offer_25 : decode cX3_offer 25 = .ok (.aload_n 0, 1) := dk_42 (dk_at dksX3_offer_1 3 rfl rfl)
theorem dX3_offer_26 : decode cX3_offer 26 = .ok (.getfield 17, 3) := dk_180 0 17 (dk_at dksX3_offer_1 4 rfl rfl)
theorem dX3_offer_29 : decode cX3_offer 29 = .ok (.iload_n 1, 1) := dk_27 (dk_at dksX3_offer_1 7 rfl rfl)
theorem dX3_offer_30 : decode cX3_offer 30 = .ok (.invokestatic 174, 3) := dk_184 0 174 (dk_at dksX3_offer_1 8 rfl rfl)
theorem dX3_offer_33 : decode cX3_offer 33 = .ok (.bipush 12, 2) := dk_16 12 (dk_at dksX3_offer_1 11 rfl rfl)
theorem dX3_offer_35 : decode cX3_offer 35 = .ok (.iadd, 1) := dk_96 (dk_at dksX3_offer_1 13 rfl rfl)
theorem dX3_offer_36 : decode cX3_offer 36 = .ok (.iload_n 2, 1) := dk_28 (dk_at dksX3_offer_1 14 rfl rfl)
theorem dX3_offer_37 : decode cX3_offer 37 = .ok (.iadd, 1) := dk_96 (dk_at dksX3_offer_1 15 rfl rfl)
theorem dX3_offer_38 : decode cX3_offer 38 = .ok (.iaload, 1) := dk_46 (dk_at dksX3_offer_1 16 rfl rfl)
theorem dX3_offer_39 : decode cX3_offer 39 = .ok (.ireturn, 1) := dk_172 (dk_at dksX3_offer_1 17 rfl rfl)
abbrev cX3_noName : ByteArray := prog_11_method_49_code
def yX3_noName : MethodName := ⟨RX3, "noName", "(I)Z"⟩
def dkwX3_noName_1 : List UInt8 := [182, 0, 216, 172]
abbrev dktX3_noName_1 : List UInt8 := dkwX3_noName_1 ++ []
def dkwX3_noName_0 : List UInt8 := [42, 27, 3, 42, 180, 0, 17, 5, 46, 4, 100, 184, 0, 81, 154, 0, 7, 4, 167, 0, 4, 3, 4]
abbrev dktX3_noName_0 : List UInt8 := dkwX3_noName_0 ++ dktX3_noName_1
theorem dksX3_noName_0 : cX3_noName.data.toList.drop 0 = dktX3_noName_0 := by decide +kernel
theorem dksX3_noName_1 : cX3_noName.data.toList.drop 23 = dktX3_noName_1 := dk_seg dksX3_noName_0 23 rfl rfl
theorem dX3_noName_0 : decode cX3_noName 0 = .ok (.aload_n 0, 1) := dk_42 (dk_at dksX3_noName_0 0 rfl rfl)
theorem dX3_noName_1 : decode cX3_noName 1 = .ok (.iload_n 1, 1) := dk_27 (dk_at dksX3_noName_0 1 rfl rfl)
theorem dX3_noName_2 : decode cX3_noName 2 = .ok (.iconst 0, 1) := dk_3 (dk_at dksX3_noName_0 2 rfl rfl)
theorem dX3_noName_3 : decode cX3_noName 3 = .ok (.aload_n 0, 1) := dk_42 (dk_at dksX3_noName_0 3 rfl rfl)
theorem dX3_noName_4 : decode cX3_noName 4 = .ok (.getfield 17, 3) := dk_180 0 17 (dk_at dksX3_noName_0 4 rfl rfl)
theorem dX3_noName_7 : decode cX3_noName 7 = .ok (.iconst 2, 1) := dk_5 (dk_at dksX3_noName_0 7 rfl rfl)
theorem dX3_noName_8 : decode cX3_noName 8 = .ok (.iaload, 1) := dk_46 (dk_at dksX3_noName_0 8 rfl rfl)
theorem dX3_noName_9 : decode cX3_noName 9 = .ok (.iconst 1, 1) := dk_4 (dk_at dksX3_noName_0 9 rfl rfl)
theorem dX3_noName_10 : decode cX3_noName 10 = .ok (.isub, 1) := dk_100 (dk_at dksX3_noName_0 10 rfl rfl)
theorem dX3_noName_11 : decode cX3_noName 11 = .ok (.invokestatic 81, 3) := dk_184 0 81 (dk_at dksX3_noName_0 11 rfl rfl)
theorem dX3_noName_14 : decode cX3_noName 14 = .ok (.ifCond .ne 7, 3) := dk_154 0 7 (dk_at dksX3_noName_0 14 rfl rfl)
theorem dX3_noName_17 : decode cX3_noName 17 = .ok (.iconst 1, 1) := dk_4 (dk_at dksX3_noName_0 17 rfl rfl)
theorem dX3_noName_18 : decode cX3_noName 18 = .ok (.goto 4, 3) := dk_167 0 4 (dk_at dksX3_noName_0 18 rfl rfl)
theorem dX3_noName_21 : decode cX3_noName 21 = .ok (.iconst 0, 1) := dk_3 (dk_at dksX3_noName_0 21 rfl rfl)
theorem dX3_noName_22 : decode cX3_noName 22 = .ok (.iconst 1, 1) := dk_4 (dk_at dksX3_noName_0 22 rfl rfl)
theorem dX3_noName_23 : decode cX3_noName 23 = .ok (.invokevirtual 216, 3) := dk_182 0 216 (dk_at dksX3_noName_1 0 rfl rfl)
theorem dX3_noName_26 : decode cX3_noName 26 = .ok (.ireturn, 1) := dk_172 (dk_at dksX3_noName_1 3 rfl rfl)
abbrev cX3_candidates : ByteArray := prog_11_method_57_code
def yX3_candidates : MethodName := ⟨RX3, "candidates", "(I)I"⟩
def dkwX3_candidates_2 : List UInt8 := [132, 3, 1, 167, 255, 226, 28, 172]
abbrev dktX3_candidates_2 : List UInt8 := dkwX3_candidates_2 ++ []
def dkwX3_candidates_1 : List UInt8 := [4, 46, 162, 0, 26, 28, 42, 29, 27, 182, 1, 2, 153, 0, 7, 4, 167, 0, 4, 3, 96, 61]
abbrev dktX3_candidates_1 : List UInt8 := dkwX3_candidates_1 ++ dktX3_candidates_2
def dkwX3_candidates_0 : List UInt8 := [42, 3, 181, 0, 59, 42, 27, 182, 1, 24, 153, 0, 5, 3, 172, 3, 61, 3, 62, 29, 42, 180, 0, 17]
abbrev dktX3_candidates_0 : List UInt8 := dkwX3_candidates_0 ++ dktX3_candidates_1
theorem dksX3_candidates_0 : cX3_candidates.data.toList.drop 0 = dktX3_candidates_0 := by decide +kernel
theorem dksX3_candidates_1 : cX3_candidates.data.toList.drop 24 = dktX3_candidates_1 := dk_seg dksX3_candidates_0 24 rfl rfl
theorem dksX3_candidates_2 : cX3_candidates.data.toList.drop 46 = dktX3_candidates_2 := dk_seg dksX3_candidates_1 22 rfl rfl
theorem dX3_candidates_0 : decode cX3_candidates 0 = .ok (.aload_n 0, 1) := dk_42 (dk_at dksX3_candidates_0 0 rfl rfl)
theorem dX3_candidates_1 : decode cX3_candidates 1 = .ok (.iconst 0, 1) := dk_3 (dk_at dksX3_candidates_0 1 rfl rfl)
theorem dX3_candidates_2 : decode cX3_candidates 2 = .ok (.putfield 59, 3) := dk_181 0 59 (dk_at dksX3_candidates_0 2 rfl rfl)
theorem dX3_candidates_5 : decode cX3_candidates 5 = .ok (.aload_n 0, 1) := dk_42 (dk_at dksX3_candidates_0 5 rfl rfl)
theorem dX3_candidates_6 : decode cX3_candidates 6 = .ok (.iload_n 1, 1) := dk_27 (dk_at dksX3_candidates_0 6 rfl rfl)
theorem dX3_candidates_7 : decode cX3_candidates 7 = .ok (.invokevirtual 280, 3) := dk_182 1 24 (dk_at dksX3_candidates_0 7 rfl rfl)
theorem dX3_candidates_10 : decode cX3_candidates 10 = .ok (.ifCond .eq 5, 3) := dk_153 0 5 (dk_at dksX3_candidates_0 10 rfl rfl)
theorem dX3_candidates_13 : decode cX3_candidates 13 = .ok (.iconst 0, 1) := dk_3 (dk_at dksX3_candidates_0 13 rfl rfl)
theorem dX3_candidates_14 : decode cX3_candidates 14 = .ok (.ireturn, 1) := dk_172 (dk_at dksX3_candidates_0 14 rfl rfl)
theorem dX3_candidates_15 : decode cX3_candidates 15 = .ok (.iconst 0, 1) := dk_3 (dk_at dksX3_candidates_0 15 rfl rfl)
theorem dX3_candidates_16 : decode cX3_candidates 16 = .ok (.istore_n 2, 1) := dk_61 (dk_at dksX3_candidates_0 16 rfl rfl)
theorem dX3_candidates_17 : decode cX3_candidates 17 = .ok (.iconst 0, 1) := dk_3 (dk_at dksX3_candidates_0 17 rfl rfl)
theorem dX3_candidates_18 : decode cX3_candidates 18 = .ok (.istore_n 3, 1) := dk_62 (dk_at dksX3_candidates_0 18 rfl rfl)
theorem dX3_candidates_19 : decode cX3_candidates 19 = .ok (.iload_n 3, 1) := dk_29 (dk_at dksX3_candidates_0 19 rfl rfl)
theorem dX3_candidates_20 : decode cX3_candidates 20 = .ok (.aload_n 0, 1) := dk_42 (dk_at dksX3_candidates_0 20 rfl rfl)
theorem dX3_candidates_21 : decode cX3_candidates 21 = .ok (.getfield 17, 3) := dk_180 0 17 (dk_at dksX3_candidates_0 21 rfl rfl)
theorem dX3_candidates_24 : decode cX3_candidates 24 = .ok (.iconst 1, 1) := dk_4 (dk_at dksX3_candidates_1 0 rfl rfl)
theorem dX3_candidates_25 : decode cX3_candidates 25 = .ok (.iaload, 1) := dk_46 (dk_at dksX3_candidates_1 1 rfl rfl)
theorem dX3_candidates_26 : decode cX3_candidates 26 = .ok (.if_icmp .ge 26, 3) := dk_162 0 26 (dk_at dksX3_candidates_1 2 rfl rfl)
theorem dX3_candidates_29 : decode cX3_candidates 29 = .ok (.iload_n 2, 1) := dk_28 (dk_at dksX3_candidates_1 5 rfl rfl)
theorem dX3_candidates_30 : decode cX3_candidates 30 = .ok (.aload_n 0, 1) := dk_42 (dk_at dksX3_candidates_1 6 rfl rfl)
theorem dX3_candidates_31 : decode cX3_candidates 31 = .ok (.iload_n 3, 1) := dk_29 (dk_at dksX3_candidates_1 7 rfl rfl)
theorem dX3_candidates_32 : decode cX3_candidates 32 = .ok (.iload_n 1, 1) := dk_27 (dk_at dksX3_candidates_1 8 rfl rfl)
theorem dX3_candidates_33 : decode cX3_candidates 33 = .ok (.invokevirtual 258, 3) := dk_182 1 2 (dk_at dksX3_candidates_1 9 rfl rfl)
theorem dX3_candidates_36 : decode cX3_candidates 36 = .ok (.ifCond .eq 7, 3) := dk_153 0 7 (dk_at dksX3_candidates_1 12 rfl rfl)
theorem dX3_candidates_39 : decode cX3_candidates 39 = .ok (.iconst 1, 1) := dk_4 (dk_at dksX3_candidates_1 15 rfl rfl)
theorem dX3_candidates_40 : decode cX3_candidates 40 = .ok (.goto 4, 3) := dk_167 0 4 (dk_at dksX3_candidates_1 16 rfl rfl)
theorem dX3_candidates_43 : decode cX3_candidates 43 = .ok (.iconst 0, 1) := dk_3 (dk_at dksX3_candidates_1 19 rfl rfl)
theorem dX3_candidates_44 : decode cX3_candidates 44 = .ok (.iadd, 1) := dk_96 (dk_at dksX3_candidates_1 20 rfl rfl)
theorem dX3_candidates_45 : decode cX3_candidates 45 = .ok (.istore_n 2, 1) := dk_61 (dk_at dksX3_candidates_1 21 rfl rfl)
theorem dX3_candidates_46 : decode cX3_candidates 46 = .ok (.iinc 3 1, 3) := dk_132 3 1 (dk_at dksX3_candidates_2 0 rfl rfl)
theorem dX3_candidates_49 : decode cX3_candidates 49 = .ok (.goto (-30), 3) := dk_167 255 226 (dk_at dksX3_candidates_2 3 rfl rfl)
theorem dX3_candidates_52 : decode cX3_candidates 52 = .ok (.iload_n 2, 1) := dk_28 (dk_at dksX3_candidates_2 6 rfl rfl)
theorem dX3_candidates_53 : decode cX3_candidates 53 = .ok (.ireturn, 1) := dk_172 (dk_at dksX3_candidates_2 7 rfl rfl)
abbrev cX3_isCandidate : ByteArray := prog_11_method_38_code
def yX3_isCandidate : MethodName := ⟨RX3, "isCandidate", "(II)Z"⟩
def dkwX3_isCandidate_1 : List UInt8 := [159, 0, 7, 4, 167, 0, 4, 3, 172]
abbrev dktX3_isCandidate_1 : List UInt8 := dkwX3_isCandidate_1 ++ []
def dkwX3_isCandidate_0 : List UInt8 := [42, 27, 182, 0, 232, 153, 0, 25, 42, 180, 0, 17, 27, 184, 0, 174, 16, 12, 96, 28, 96, 46, 2]
abbrev dktX3_isCandidate_0 : List UInt8 := dkwX3_isCandidate_0 ++ dktX3_isCandidate_1
theorem dksX3_isCandidate_0 : cX3_isCandidate.data.toList.drop 0 = dktX3_isCandidate_0 := by decide +kernel
theorem dksX3_isCandidate_1 : cX3_isCandidate.data.toList.drop 23 = dktX3_isCandidate_1 := dk_seg dksX3_isCandidate_0 23 rfl rfl
theorem dX3_isCandidate_0 : decode cX3_isCandidate 0 = .ok (.aload_n 0, 1) := dk_42 (dk_at dksX3_isCandidate_0 0 rfl rfl)
theorem dX3_isCandidate_1 : decode cX3_isCandidate 1 = .ok (.iload_n 1, 1) := dk_27 (dk_at dksX3_isCandidate_0 1 rfl rfl)
theorem dX3_isCandidate_2 : decode cX3_isCandidate 2 = .ok (.invokevirtual 232, 3) := dk_182 0 232 (dk_at dksX3_isCandidate_0 2 rfl rfl)
theorem dX3_isCandidate_5 : decode cX3_isCandidate 5 = .ok (.ifCond .eq 25, 3) := dk_153 0 25 (dk_at dksX3_isCandidate_0 5 rfl rfl)
theorem dX3_isCandidate_8 : decode cX3_isCandidate 8 = .ok (.aload_n 0, 1) := dk_42 (dk_at dksX3_isCandidate_0 8 rfl rfl)
theorem dX3_isCandidate_9 : decode cX3_isCandidate 9 = .ok (.getfield 17, 3) := dk_180 0 17 (dk_at dksX3_isCandidate_0 9 rfl rfl)
theorem dX3_isCandidate_12 : decode cX3_isCandidate 12 = .ok (.iload_n 1, 1) := dk_27 (dk_at dksX3_isCandidate_0 12 rfl rfl)
theorem dX3_isCandidate_13 : decode cX3_isCandidate 13 = .ok (.invokestatic 174, 3) := dk_184 0 174 (dk_at dksX3_isCandidate_0 13 rfl rfl)
theorem dX3_isCandidate_16 : decode cX3_isCandidate 16 = .ok (.bipush 12, 2) := dk_16 12 (dk_at dksX3_isCandidate_0 16 rfl rfl)
theorem dX3_isCandidate_18 : decode cX3_isCandidate 18 = .ok (.iadd, 1) := dk_96 (dk_at dksX3_isCandidate_0 18 rfl rfl)
theorem dX3_isCandidate_19 : decode cX3_isCandidate 19 = .ok (.iload_n 2, 1) := dk_28 (dk_at dksX3_isCandidate_0 19 rfl rfl)
theorem dX3_isCandidate_20 : decode cX3_isCandidate 20 = .ok (.iadd, 1) := dk_96 (dk_at dksX3_isCandidate_0 20 rfl rfl)
theorem dX3_isCandidate_21 : decode cX3_isCandidate 21 = .ok (.iaload, 1) := dk_46 (dk_at dksX3_isCandidate_0 21 rfl rfl)
theorem dX3_isCandidate_22 : decode cX3_isCandidate 22 = .ok (.iconst (-1), 1) := dk_2 (dk_at dksX3_isCandidate_0 22 rfl rfl)
theorem dX3_isCandidate_23 : decode cX3_isCandidate 23 = .ok (.if_icmp .eq 7, 3) := dk_159 0 7 (dk_at dksX3_isCandidate_1 0 rfl rfl)
theorem dX3_isCandidate_26 : decode cX3_isCandidate 26 = .ok (.iconst 1, 1) := dk_4 (dk_at dksX3_isCandidate_1 3 rfl rfl)
theorem dX3_isCandidate_27 : decode cX3_isCandidate 27 = .ok (.goto 4, 3) := dk_167 0 4 (dk_at dksX3_isCandidate_1 4 rfl rfl)
theorem dX3_isCandidate_30 : decode cX3_isCandidate 30 = .ok (.iconst 0, 1) := dk_3 (dk_at dksX3_isCandidate_1 7 rfl rfl)
theorem dX3_isCandidate_31 : decode cX3_isCandidate 31 = .ok (.ireturn, 1) := dk_172 (dk_at dksX3_isCandidate_1 8 rfl rfl)
abbrev cX3_vote : ByteArray := prog_11_method_58_code
def yX3_vote : MethodName := ⟨RX3, "vote", "(II)I"⟩
def dkwX3_vote_1 : List UInt8 := [167, 0, 9, 42, 27, 28, 182, 1, 6, 172]
abbrev dktX3_vote_1 : List UInt8 := dkwX3_vote_1 ++ []
def dkwX3_vote_0 : List UInt8 := [42, 3, 181, 0, 59, 42, 27, 182, 1, 21, 154, 0, 11, 42, 28, 182, 1, 24, 153, 0, 7, 3]
abbrev dktX3_vote_0 : List UInt8 := dkwX3_vote_0 ++ dktX3_vote_1
theorem dksX3_vote_0 : cX3_vote.data.toList.drop 0 = dktX3_vote_0 := by decide +kernel
theorem dksX3_vote_1 : cX3_vote.data.toList.drop 22 = dktX3_vote_1 := dk_seg dksX3_vote_0 22 rfl rfl
theorem dX3_vote_0 : decode cX3_vote 0 = .ok (.aload_n 0, 1) := dk_42 (dk_at dksX3_vote_0 0 rfl rfl)
theorem dX3_vote_1 : decode cX3_vote 1 = .ok (.iconst 0, 1) := dk_3 (dk_at dksX3_vote_0 1 rfl rfl)
theorem dX3_vote_2 : decode cX3_vote 2 = .ok (.putfield 59, 3) := dk_181 0 59 (dk_at dksX3_vote_0 2 rfl rfl)
theorem dX3_vote_5 : decode cX3_vote 5 = .ok (.aload_n 0, 1) := dk_42 (dk_at dksX3_vote_0 5 rfl rfl)
theorem dX3_vote_6 : decode cX3_vote 6 = .ok (.iload_n 1, 1) := dk_27 (dk_at dksX3_vote_0 6 rfl rfl)
theorem dX3_vote_7 : decode cX3_vote 7 = .ok (.invokevirtual 277, 3) := dk_182 1 21 (dk_at dksX3_vote_0 7 rfl rfl)
theorem dX3_vote_10 : decode cX3_vote 10 = .ok (.ifCond .ne 11, 3) := dk_154 0 11 (dk_at dksX3_vote_0 10 rfl rfl)
theorem dX3_vote_13 : decode cX3_vote 13 = .ok (.aload_n 0, 1) := dk_42 (dk_at dksX3_vote_0 13 rfl rfl)
theorem dX3_vote_14 : decode cX3_vote 14 = .ok (.iload_n 2, 1) := dk_28 (dk_at dksX3_vote_0 14 rfl rfl)
theorem dX3_vote_15 : decode cX3_vote 15 = .ok (.invokevirtual 280, 3) := dk_182 1 24 (dk_at dksX3_vote_0 15 rfl rfl)
theorem dX3_vote_18 : decode cX3_vote 18 = .ok (.ifCond .eq 7, 3) := dk_153 0 7 (dk_at dksX3_vote_0 18 rfl rfl)
theorem dX3_vote_21 : decode cX3_vote 21 = .ok (.iconst 0, 1) := dk_3 (dk_at dksX3_vote_0 21 rfl rfl)
theorem dX3_vote_22 : decode cX3_vote 22 = .ok (.goto 9, 3) := dk_167 0 9 (dk_at dksX3_vote_1 0 rfl rfl)
theorem dX3_vote_25 : decode cX3_vote 25 = .ok (.aload_n 0, 1) := dk_42 (dk_at dksX3_vote_1 3 rfl rfl)
theorem dX3_vote_26 : decode cX3_vote 26 = .ok (.iload_n 1, 1) := dk_27 (dk_at dksX3_vote_1 4 rfl rfl)
theorem dX3_vote_27 : decode cX3_vote 27 = .ok (.iload_n 2, 1) := dk_28 (dk_at dksX3_vote_1 5 rfl rfl)
theorem dX3_vote_28 : decode cX3_vote 28 = .ok (.invokevirtual 262, 3) := dk_182 1 6 (dk_at dksX3_vote_1 6 rfl rfl)
theorem dX3_vote_31 : decode cX3_vote 31 = .ok (.ireturn, 1) := dk_172 (dk_at dksX3_vote_1 9 rfl rfl)
abbrev cX3_voteOf : ByteArray := prog_11_method_42_code
def yX3_voteOf : MethodName := ⟨RX3, "voteOf", "(II)I"⟩
def dkwX3_voteOf_3 : List UInt8 := [182, 1, 2, 153, 0, 6, 21, 4, 172, 132, 3, 1, 167, 255, 210, 2, 172]
abbrev dktX3_voteOf_3 : List UInt8 := dkwX3_voteOf_3 ++ []
def dkwX3_voteOf_2 : List UInt8 := [162, 0, 37, 42, 180, 0, 17, 27, 184, 0, 174, 7, 96, 29, 96, 46, 54, 4, 42, 21, 4, 28]
abbrev dktX3_voteOf_2 : List UInt8 := dkwX3_voteOf_2 ++ dktX3_voteOf_3
def dkwX3_voteOf_1 : List UInt8 := [153, 0, 7, 27, 167, 0, 4, 2, 172, 3, 62, 29, 42, 180, 0, 17, 27, 184, 0, 174, 6, 96, 46]
abbrev dktX3_voteOf_1 : List UInt8 := dkwX3_voteOf_1 ++ dktX3_voteOf_2
def dkwX3_voteOf_0 : List UInt8 := [42, 27, 182, 0, 232, 153, 0, 12, 42, 27, 28, 182, 1, 2, 153, 0, 17, 42, 27, 182, 0, 232]
abbrev dktX3_voteOf_0 : List UInt8 := dkwX3_voteOf_0 ++ dktX3_voteOf_1
theorem dksX3_voteOf_0 : cX3_voteOf.data.toList.drop 0 = dktX3_voteOf_0 := by decide +kernel
theorem dksX3_voteOf_1 : cX3_voteOf.data.toList.drop 22 = dktX3_voteOf_1 := dk_seg dksX3_voteOf_0 22 rfl rfl
theorem dksX3_voteOf_2 : cX3_voteOf.data.toList.drop 45 = dktX3_voteOf_2 := dk_seg dksX3_voteOf_1 23 rfl rfl
theorem dksX3_voteOf_3 : cX3_voteOf.data.toList.drop 67 = dktX3_voteOf_3 := dk_seg dksX3_voteOf_2 22 rfl rfl
theorem dX3_voteOf_0 : decode cX3_voteOf 0 = .ok (.aload_n 0, 1) := dk_42 (dk_at dksX3_voteOf_0 0 rfl rfl)
theorem dX3_voteOf_1 : decode cX3_voteOf 1 = .ok (.iload_n 1, 1) := dk_27 (dk_at dksX3_voteOf_0 1 rfl rfl)
theorem dX3_voteOf_2 : decode cX3_voteOf 2 = .ok (.invokevirtual 232, 3) := dk_182 0 232 (dk_at dksX3_voteOf_0 2 rfl rfl)
theorem dX3_voteOf_5 : decode cX3_voteOf 5 = .ok (.ifCond .eq 12, 3) := dk_153 0 12 (dk_at dksX3_voteOf_0 5 rfl rfl)
theorem dX3_voteOf_8 : decode cX3_voteOf 8 = .ok (.aload_n 0, 1) := dk_42 (dk_at dksX3_voteOf_0 8 rfl rfl)
theorem dX3_voteOf_9 : decode cX3_voteOf 9 = .ok (.iload_n 1, 1) := dk_27 (dk_at dksX3_voteOf_0 9 rfl rfl)
theorem dX3_voteOf_10 : decode cX3_voteOf 10 = .ok (.iload_n 2, 1) := dk_28 (dk_at dksX3_voteOf_0 10 rfl rfl)
theorem dX3_voteOf_11 : decode cX3_voteOf 11 = .ok (.invokevirtual 258, 3) := dk_182 1 2 (dk_at dksX3_voteOf_0 11 rfl rfl)
theorem dX3_voteOf_14 : decode cX3_voteOf 14 = .ok (.ifCond .eq 17, 3) := dk_153 0 17 (dk_at dksX3_voteOf_0 14 rfl rfl)
theorem dX3_voteOf_17 : decode cX3_voteOf 17 = .ok (.aload_n 0, 1) := dk_42 (dk_at dksX3_voteOf_0 17 rfl rfl)
theorem dX3_voteOf_18 : decode cX3_voteOf 18 = .ok (.iload_n 1, 1) := dk_27 (dk_at dksX3_voteOf_0 18 rfl rfl)
theorem dX3_voteOf_19 : decode cX3_voteOf 19 = .ok (.invokevirtual 232, 3) := dk_182 0 232 (dk_at dksX3_voteOf_0 19 rfl rfl)
theorem dX3_voteOf_22 : decode cX3_voteOf 22 = .ok (.ifCond .eq 7, 3) := dk_153 0 7 (dk_at dksX3_voteOf_1 0 rfl rfl)
theorem dX3_voteOf_25 : decode cX3_voteOf 25 = .ok (.iload_n 1, 1) := dk_27 (dk_at dksX3_voteOf_1 3 rfl rfl)
theorem dX3_voteOf_26 : decode cX3_voteOf 26 = .ok (.goto 4, 3) := dk_167 0 4 (dk_at dksX3_voteOf_1 4 rfl rfl)
theorem dX3_voteOf_29 : decode cX3_voteOf 29 = .ok (.iconst (-1), 1) := dk_2 (dk_at dksX3_voteOf_1 7 rfl rfl)
theorem dX3_voteOf_30 : decode cX3_voteOf 30 = .ok (.ireturn, 1) := dk_172 (dk_at dksX3_voteOf_1 8 rfl rfl)
theorem dX3_voteOf_31 : decode cX3_voteOf 31 = .ok (.iconst 0, 1) := dk_3 (dk_at dksX3_voteOf_1 9 rfl rfl)
theorem dX3_voteOf_32 : decode cX3_voteOf 32 = .ok (.istore_n 3, 1) := dk_62 (dk_at dksX3_voteOf_1 10 rfl rfl)
theorem dX3_voteOf_33 : decode cX3_voteOf 33 = .ok (.iload_n 3, 1) := dk_29 (dk_at dksX3_voteOf_1 11 rfl rfl)
theorem dX3_voteOf_34 : decode cX3_voteOf 34 = .ok (.aload_n 0, 1) := dk_42 (dk_at dksX3_voteOf_1 12 rfl rfl)
theorem dX3_voteOf_35 : decode cX3_voteOf 35 = .ok (.getfield 17, 3) := dk_180 0 17 (dk_at dksX3_voteOf_1 13 rfl rfl)
theorem dX3_voteOf_38 : decode cX3_voteOf 38 = .ok (.iload_n 1, 1) := dk_27 (dk_at dksX3_voteOf_1 16 rfl rfl)
theorem dX3_voteOf_39 : decode cX3_voteOf 39 = .ok (.invokestatic 174, 3) := dk_184 0 174 (dk_at dksX3_voteOf_1 17 rfl rfl)
theorem dX3_voteOf_42 : decode cX3_voteOf 42 = .ok (.iconst 3, 1) := dk_6 (dk_at dksX3_voteOf_1 20 rfl rfl)
theorem dX3_voteOf_43 : decode cX3_voteOf 43 = .ok (.iadd, 1) := dk_96 (dk_at dksX3_voteOf_1 21 rfl rfl)
theorem dX3_voteOf_44 : decode cX3_voteOf 44 = .ok (.iaload, 1) := dk_46 (dk_at dksX3_voteOf_1 22 rfl rfl)
theorem dX3_voteOf_45 : decode cX3_voteOf 45 = .ok (.if_icmp .ge 37, 3) := dk_162 0 37 (dk_at dksX3_voteOf_2 0 rfl rfl)
theorem dX3_voteOf_48 : decode cX3_voteOf 48 = .ok (.aload_n 0, 1) := dk_42 (dk_at dksX3_voteOf_2 3 rfl rfl)
theorem dX3_voteOf_49 : decode cX3_voteOf 49 = .ok (.getfield 17, 3) := dk_180 0 17 (dk_at dksX3_voteOf_2 4 rfl rfl)
theorem dX3_voteOf_52 : decode cX3_voteOf 52 = .ok (.iload_n 1, 1) := dk_27 (dk_at dksX3_voteOf_2 7 rfl rfl)
theorem dX3_voteOf_53 : decode cX3_voteOf 53 = .ok (.invokestatic 174, 3) := dk_184 0 174 (dk_at dksX3_voteOf_2 8 rfl rfl)
theorem dX3_voteOf_56 : decode cX3_voteOf 56 = .ok (.iconst 4, 1) := dk_7 (dk_at dksX3_voteOf_2 11 rfl rfl)
theorem dX3_voteOf_57 : decode cX3_voteOf 57 = .ok (.iadd, 1) := dk_96 (dk_at dksX3_voteOf_2 12 rfl rfl)
theorem dX3_voteOf_58 : decode cX3_voteOf 58 = .ok (.iload_n 3, 1) := dk_29 (dk_at dksX3_voteOf_2 13 rfl rfl)
theorem dX3_voteOf_59 : decode cX3_voteOf 59 = .ok (.iadd, 1) := dk_96 (dk_at dksX3_voteOf_2 14 rfl rfl)
theorem dX3_voteOf_60 : decode cX3_voteOf 60 = .ok (.iaload, 1) := dk_46 (dk_at dksX3_voteOf_2 15 rfl rfl)
theorem dX3_voteOf_61 : decode cX3_voteOf 61 = .ok (.istore 4, 2) := dk_54 4 (dk_at dksX3_voteOf_2 16 rfl rfl)
theorem dX3_voteOf_63 : decode cX3_voteOf 63 = .ok (.aload_n 0, 1) := dk_42 (dk_at dksX3_voteOf_2 18 rfl rfl)
theorem dX3_voteOf_64 : decode cX3_voteOf 64 = .ok (.iload 4, 2) := dk_21 4 (dk_at dksX3_voteOf_2 19 rfl rfl)
theorem dX3_voteOf_66 : decode cX3_voteOf 66 = .ok (.iload_n 2, 1) := dk_28 (dk_at dksX3_voteOf_2 21 rfl rfl)
theorem dX3_voteOf_67 : decode cX3_voteOf 67 = .ok (.invokevirtual 258, 3) := dk_182 1 2 (dk_at dksX3_voteOf_3 0 rfl rfl)
theorem dX3_voteOf_70 : decode cX3_voteOf 70 = .ok (.ifCond .eq 6, 3) := dk_153 0 6 (dk_at dksX3_voteOf_3 3 rfl rfl)
theorem dX3_voteOf_73 : decode cX3_voteOf 73 = .ok (.iload 4, 2) := dk_21 4 (dk_at dksX3_voteOf_3 6 rfl rfl)
theorem dX3_voteOf_75 : decode cX3_voteOf 75 = .ok (.ireturn, 1) := dk_172 (dk_at dksX3_voteOf_3 8 rfl rfl)
theorem dX3_voteOf_76 : decode cX3_voteOf 76 = .ok (.iinc 3 1, 3) := dk_132 3 1 (dk_at dksX3_voteOf_3 9 rfl rfl)
theorem dX3_voteOf_79 : decode cX3_voteOf 79 = .ok (.goto (-46), 3) := dk_167 255 210 (dk_at dksX3_voteOf_3 12 rfl rfl)
theorem dX3_voteOf_82 : decode cX3_voteOf 82 = .ok (.iconst (-1), 1) := dk_2 (dk_at dksX3_voteOf_3 15 rfl rfl)
theorem dX3_voteOf_83 : decode cX3_voteOf 83 = .ok (.ireturn, 1) := dk_172 (dk_at dksX3_voteOf_3 16 rfl rfl)
abbrev cX3_support : ByteArray := prog_11_method_59_code
def yX3_support : MethodName := ⟨RX3, "support", "(II)I"⟩
def dkwX3_support_1 : List UInt8 := [153, 0, 14, 42, 180, 0, 47, 27, 50, 28, 46, 167, 0, 4, 2, 172]
abbrev dktX3_support_1 : List UInt8 := dkwX3_support_1 ++ []
def dkwX3_support_0 : List UInt8 := [42, 3, 181, 0, 59, 42, 27, 28, 182, 1, 30, 153, 0, 7, 3, 167, 0, 24, 42, 27, 28, 182, 1, 2]
abbrev dktX3_support_0 : List UInt8 := dkwX3_support_0 ++ dktX3_support_1
theorem dksX3_support_0 : cX3_support.data.toList.drop 0 = dktX3_support_0 := by decide +kernel
theorem dksX3_support_1 : cX3_support.data.toList.drop 24 = dktX3_support_1 := dk_seg dksX3_support_0 24 rfl rfl
theorem dX3_support_0 : decode cX3_support 0 = .ok (.aload_n 0, 1) := dk_42 (dk_at dksX3_support_0 0 rfl rfl)
theorem dX3_support_1 : decode cX3_support 1 = .ok (.iconst 0, 1) := dk_3 (dk_at dksX3_support_0 1 rfl rfl)
theorem dX3_support_2 : decode cX3_support 2 = .ok (.putfield 59, 3) := dk_181 0 59 (dk_at dksX3_support_0 2 rfl rfl)
theorem dX3_support_5 : decode cX3_support 5 = .ok (.aload_n 0, 1) := dk_42 (dk_at dksX3_support_0 5 rfl rfl)
theorem dX3_support_6 : decode cX3_support 6 = .ok (.iload_n 1, 1) := dk_27 (dk_at dksX3_support_0 6 rfl rfl)
theorem dX3_support_7 : decode cX3_support 7 = .ok (.iload_n 2, 1) := dk_28 (dk_at dksX3_support_0 7 rfl rfl)
theorem dX3_support_8 : decode cX3_support 8 = .ok (.invokevirtual 286, 3) := dk_182 1 30 (dk_at dksX3_support_0 8 rfl rfl)
theorem dX3_support_11 : decode cX3_support 11 = .ok (.ifCond .eq 7, 3) := dk_153 0 7 (dk_at dksX3_support_0 11 rfl rfl)
theorem dX3_support_14 : decode cX3_support 14 = .ok (.iconst 0, 1) := dk_3 (dk_at dksX3_support_0 14 rfl rfl)
theorem dX3_support_15 : decode cX3_support 15 = .ok (.goto 24, 3) := dk_167 0 24 (dk_at dksX3_support_0 15 rfl rfl)
theorem dX3_support_18 : decode cX3_support 18 = .ok (.aload_n 0, 1) := dk_42 (dk_at dksX3_support_0 18 rfl rfl)
theorem dX3_support_19 : decode cX3_support 19 = .ok (.iload_n 1, 1) := dk_27 (dk_at dksX3_support_0 19 rfl rfl)
theorem dX3_support_20 : decode cX3_support 20 = .ok (.iload_n 2, 1) := dk_28 (dk_at dksX3_support_0 20 rfl rfl)
theorem dX3_support_21 : decode cX3_support 21 = .ok (.invokevirtual 258, 3) := dk_182 1 2 (dk_at dksX3_support_0 21 rfl rfl)
theorem dX3_support_24 : decode cX3_support 24 = .ok (.ifCond .eq 14, 3) := dk_153 0 14 (dk_at dksX3_support_1 0 rfl rfl)
theorem dX3_support_27 : decode cX3_support 27 = .ok (.aload_n 0, 1) := dk_42 (dk_at dksX3_support_1 3 rfl rfl)
theorem dX3_support_28 : decode cX3_support 28 = .ok (.getfield 47, 3) := dk_180 0 47 (dk_at dksX3_support_1 4 rfl rfl)
theorem dX3_support_31 : decode cX3_support 31 = .ok (.iload_n 1, 1) := dk_27 (dk_at dksX3_support_1 7 rfl rfl)
theorem dX3_support_32 : decode cX3_support 32 = .ok (.aaload, 1) := dk_50 (dk_at dksX3_support_1 8 rfl rfl)
theorem dX3_support_33 : decode cX3_support 33 = .ok (.iload_n 2, 1) := dk_28 (dk_at dksX3_support_1 9 rfl rfl)
theorem dX3_support_34 : decode cX3_support 34 = .ok (.iaload, 1) := dk_46 (dk_at dksX3_support_1 10 rfl rfl)
theorem dX3_support_35 : decode cX3_support 35 = .ok (.goto 4, 3) := dk_167 0 4 (dk_at dksX3_support_1 11 rfl rfl)
theorem dX3_support_38 : decode cX3_support 38 = .ok (.iconst (-1), 1) := dk_2 (dk_at dksX3_support_1 14 rfl rfl)
theorem dX3_support_39 : decode cX3_support 39 = .ok (.ireturn, 1) := dk_172 (dk_at dksX3_support_1 15 rfl rfl)
abbrev cX3_isMissing : ByteArray := prog_11_method_50_code
def yX3_isMissing : MethodName := ⟨RX3, "isMissing", "(II)Z"⟩
def dkwX3_isMissing_0 : List UInt8 := [42, 27, 182, 1, 21, 154, 0, 11, 42, 28, 182, 1, 24, 153, 0, 5, 4, 172, 42, 182, 1, 15, 3, 172]
abbrev dktX3_isMissing_0 : List UInt8 := dkwX3_isMissing_0 ++ []
theorem dksX3_isMissing_0 : cX3_isMissing.data.toList.drop 0 = dktX3_isMissing_0 := by decide +kernel
theorem dX3_isMissing_0 : decode cX3_isMissing 0 = .ok (.aload_n 0, 1) := dk_42 (dk_at dksX3_isMissing_0 0 rfl rfl)
theorem dX3_isMissing_1 : decode cX3_isMissing 1 = .ok (.iload_n 1, 1) := dk_27 (dk_at dksX3_isMissing_0 1 rfl rfl)
theorem dX3_isMissing_2 : decode cX3_isMissing 2 = .ok (.invokevirtual 277, 3) := dk_182 1 21 (dk_at dksX3_isMissing_0 2 rfl rfl)
theorem dX3_isMissing_5 : decode cX3_isMissing 5 = .ok (.ifCond .ne 11, 3) := dk_154 0 11 (dk_at dksX3_isMissing_0 5 rfl rfl)
theorem dX3_isMissing_8 : decode cX3_isMissing 8 = .ok (.aload_n 0, 1) := dk_42 (dk_at dksX3_isMissing_0 8 rfl rfl)
theorem dX3_isMissing_9 : decode cX3_isMissing 9 = .ok (.iload_n 2, 1) := dk_28 (dk_at dksX3_isMissing_0 9 rfl rfl)
theorem dX3_isMissing_10 : decode cX3_isMissing 10 = .ok (.invokevirtual 280, 3) := dk_182 1 24 (dk_at dksX3_isMissing_0 10 rfl rfl)
theorem dX3_isMissing_13 : decode cX3_isMissing 13 = .ok (.ifCond .eq 5, 3) := dk_153 0 5 (dk_at dksX3_isMissing_0 13 rfl rfl)
theorem dX3_isMissing_16 : decode cX3_isMissing 16 = .ok (.iconst 1, 1) := dk_4 (dk_at dksX3_isMissing_0 16 rfl rfl)
theorem dX3_isMissing_17 : decode cX3_isMissing 17 = .ok (.ireturn, 1) := dk_172 (dk_at dksX3_isMissing_0 17 rfl rfl)
theorem dX3_isMissing_18 : decode cX3_isMissing 18 = .ok (.aload_n 0, 1) := dk_42 (dk_at dksX3_isMissing_0 18 rfl rfl)
theorem dX3_isMissing_19 : decode cX3_isMissing 19 = .ok (.invokevirtual 271, 3) := dk_182 1 15 (dk_at dksX3_isMissing_0 19 rfl rfl)
theorem dX3_isMissing_22 : decode cX3_isMissing 22 = .ok (.iconst 0, 1) := dk_3 (dk_at dksX3_isMissing_0 22 rfl rfl)
theorem dX3_isMissing_23 : decode cX3_isMissing 23 = .ok (.ireturn, 1) := dk_172 (dk_at dksX3_isMissing_0 23 rfl rfl)
abbrev cX3_layAll : ByteArray := prog_11_method_44_code
def yX3_layAll : MethodName := ⟨RX3, "layAll", "()V"⟩
def dkwX3_layAll_2 : List UInt8 := [46, 162, 0, 14, 42, 27, 182, 1, 12, 132, 1, 1, 167, 255, 238, 177]
abbrev dktX3_layAll_2 : List UInt8 := dkwX3_layAll_2 ++ []
def dkwX3_layAll_1 : List UInt8 := [180, 0, 41, 27, 42, 27, 182, 0, 243, 79, 132, 1, 1, 167, 255, 221, 3, 60, 27, 42, 180, 0, 17, 5]
abbrev dktX3_layAll_1 : List UInt8 := dkwX3_layAll_1 ++ dktX3_layAll_2
def dkwX3_layAll_0 : List UInt8 := [3, 60, 27, 42, 180, 0, 17, 4, 46, 162, 0, 31, 42, 180, 0, 38, 27, 42, 27, 182, 1, 9, 79, 42]
abbrev dktX3_layAll_0 : List UInt8 := dkwX3_layAll_0 ++ dktX3_layAll_1
theorem dksX3_layAll_0 : cX3_layAll.data.toList.drop 0 = dktX3_layAll_0 := by decide +kernel
theorem dksX3_layAll_1 : cX3_layAll.data.toList.drop 24 = dktX3_layAll_1 := dk_seg dksX3_layAll_0 24 rfl rfl
theorem dksX3_layAll_2 : cX3_layAll.data.toList.drop 48 = dktX3_layAll_2 := dk_seg dksX3_layAll_1 24 rfl rfl
theorem dX3_layAll_0 : decode cX3_layAll 0 = .ok (.iconst 0, 1) := dk_3 (dk_at dksX3_layAll_0 0 rfl rfl)
theorem dX3_layAll_1 : decode cX3_layAll 1 = .ok (.istore_n 1, 1) := dk_60 (dk_at dksX3_layAll_0 1 rfl rfl)
theorem dX3_layAll_2 : decode cX3_layAll 2 = .ok (.iload_n 1, 1) := dk_27 (dk_at dksX3_layAll_0 2 rfl rfl)
theorem dX3_layAll_3 : decode cX3_layAll 3 = .ok (.aload_n 0, 1) := dk_42 (dk_at dksX3_layAll_0 3 rfl rfl)
theorem dX3_layAll_4 : decode cX3_layAll 4 = .ok (.getfield 17, 3) := dk_180 0 17 (dk_at dksX3_layAll_0 4 rfl rfl)
theorem dX3_layAll_7 : decode cX3_layAll 7 = .ok (.iconst 1, 1) := dk_4 (dk_at dksX3_layAll_0 7 rfl rfl)
theorem dX3_layAll_8 : decode cX3_layAll 8 = .ok (.iaload, 1) := dk_46 (dk_at dksX3_layAll_0 8 rfl rfl)
theorem dX3_layAll_9 : decode cX3_layAll 9 = .ok (.if_icmp .ge 31, 3) := dk_162 0 31 (dk_at dksX3_layAll_0 9 rfl rfl)
theorem dX3_layAll_12 : decode cX3_layAll 12 = .ok (.aload_n 0, 1) := dk_42 (dk_at dksX3_layAll_0 12 rfl rfl)
theorem dX3_layAll_13 : decode cX3_layAll 13 = .ok (.getfield 38, 3) := dk_180 0 38 (dk_at dksX3_layAll_0 13 rfl rfl)
theorem dX3_layAll_16 : decode cX3_layAll 16 = .ok (.iload_n 1, 1) := dk_27 (dk_at dksX3_layAll_0 16 rfl rfl)
theorem dX3_layAll_17 : decode cX3_layAll 17 = .ok (.aload_n 0, 1) := dk_42 (dk_at dksX3_layAll_0 17 rfl rfl)
theorem dX3_layAll_18 : decode cX3_layAll 18 = .ok (.iload_n 1, 1) := dk_27 (dk_at dksX3_layAll_0 18 rfl rfl)
theorem dX3_layAll_19 : decode cX3_layAll 19 = .ok (.invokevirtual 265, 3) := dk_182 1 9 (dk_at dksX3_layAll_0 19 rfl rfl)
theorem dX3_layAll_22 : decode cX3_layAll 22 = .ok (.iastore, 1) := dk_79 (dk_at dksX3_layAll_0 22 rfl rfl)
theorem dX3_layAll_23 : decode cX3_layAll 23 = .ok (.aload_n 0, 1) := dk_42 (dk_at dksX3_layAll_0 23 rfl rfl)
theorem dX3_layAll_24 : decode cX3_layAll 24 = .ok (.getfield 41, 3) := dk_180 0 41 (dk_at dksX3_layAll_1 0 rfl rfl)
theorem dX3_layAll_27 : decode cX3_layAll 27 = .ok (.iload_n 1, 1) := dk_27 (dk_at dksX3_layAll_1 3 rfl rfl)
theorem dX3_layAll_28 : decode cX3_layAll 28 = .ok (.aload_n 0, 1) := dk_42 (dk_at dksX3_layAll_1 4 rfl rfl)
theorem dX3_layAll_29 : decode cX3_layAll 29 = .ok (.iload_n 1, 1) := dk_27 (dk_at dksX3_layAll_1 5 rfl rfl)
theorem dX3_layAll_30 : decode cX3_layAll 30 = .ok (.invokevirtual 243, 3) := dk_182 0 243 (dk_at dksX3_layAll_1 6 rfl rfl)
theorem dX3_layAll_33 : decode cX3_layAll 33 = .ok (.iastore, 1) := dk_79 (dk_at dksX3_layAll_1 9 rfl rfl)
theorem dX3_layAll_34 : decode cX3_layAll 34 = .ok (.iinc 1 1, 3) := dk_132 1 1 (dk_at dksX3_layAll_1 10 rfl rfl)
theorem dX3_layAll_37 : decode cX3_layAll 37 = .ok (.goto (-35), 3) := dk_167 255 221 (dk_at dksX3_layAll_1 13 rfl rfl)
theorem dX3_layAll_40 : decode cX3_layAll 40 = .ok (.iconst 0, 1) := dk_3 (dk_at dksX3_layAll_1 16 rfl rfl)
theorem dX3_layAll_41 : decode cX3_layAll 41 = .ok (.istore_n 1, 1) := dk_60 (dk_at dksX3_layAll_1 17 rfl rfl)
theorem dX3_layAll_42 : decode cX3_layAll 42 = .ok (.iload_n 1, 1) := dk_27 (dk_at dksX3_layAll_1 18 rfl rfl)
theorem dX3_layAll_43 : decode cX3_layAll 43 = .ok (.aload_n 0, 1) := dk_42 (dk_at dksX3_layAll_1 19 rfl rfl)
theorem dX3_layAll_44 : decode cX3_layAll 44 = .ok (.getfield 17, 3) := dk_180 0 17 (dk_at dksX3_layAll_1 20 rfl rfl)
theorem dX3_layAll_47 : decode cX3_layAll 47 = .ok (.iconst 2, 1) := dk_5 (dk_at dksX3_layAll_1 23 rfl rfl)
theorem dX3_layAll_48 : decode cX3_layAll 48 = .ok (.iaload, 1) := dk_46 (dk_at dksX3_layAll_2 0 rfl rfl)
theorem dX3_layAll_49 : decode cX3_layAll 49 = .ok (.if_icmp .ge 14, 3) := dk_162 0 14 (dk_at dksX3_layAll_2 1 rfl rfl)
theorem dX3_layAll_52 : decode cX3_layAll 52 = .ok (.aload_n 0, 1) := dk_42 (dk_at dksX3_layAll_2 4 rfl rfl)
theorem dX3_layAll_53 : decode cX3_layAll 53 = .ok (.iload_n 1, 1) := dk_27 (dk_at dksX3_layAll_2 5 rfl rfl)
theorem dX3_layAll_54 : decode cX3_layAll 54 = .ok (.invokevirtual 268, 3) := dk_182 1 12 (dk_at dksX3_layAll_2 6 rfl rfl)
theorem dX3_layAll_57 : decode cX3_layAll 57 = .ok (.iinc 1 1, 3) := dk_132 1 1 (dk_at dksX3_layAll_2 9 rfl rfl)
theorem dX3_layAll_60 : decode cX3_layAll 60 = .ok (.goto (-18), 3) := dk_167 255 238 (dk_at dksX3_layAll_2 12 rfl rfl)
theorem dX3_layAll_63 : decode cX3_layAll 63 = .ok (.return_, 1) := dk_177 (dk_at dksX3_layAll_2 15 rfl rfl)
abbrev cX3_layName : ByteArray := prog_11_method_43_code
def yX3_layName : MethodName := ⟨RX3, "layName", "(I)V"⟩
def dkwX3_layName_13 : List UInt8 := [29, 79, 132, 4, 1, 167, 255, 148, 177]
abbrev dktX3_layName_13 : List UInt8 := dkwX3_layName_13 ++ []
def dkwX3_layName_12 : List UInt8 := [27, 42, 21, 4, 182, 0, 232, 154, 0, 7, 2, 167, 0, 14, 21, 6, 153, 0, 8, 21, 5, 167, 0, 4]
abbrev dktX3_layName_12 : List UInt8 := dkwX3_layName_12 ++ dktX3_layName_13
def dkwX3_layName_11 : List UInt8 := [180, 0, 17, 3, 46, 28, 104, 161, 0, 7, 4, 167, 0, 4, 3, 54, 6, 42, 180, 0, 50, 21, 4, 50]
abbrev dktX3_layName_11 : List UInt8 := dkwX3_layName_11 ++ dktX3_layName_12
def dkwX3_layName_10 : List UInt8 := [160, 0, 36, 21, 5, 2, 159, 0, 30, 16, 100, 42, 180, 0, 47, 21, 5, 50, 27, 46, 104, 42]
abbrev dktX3_layName_10 : List UInt8 := dkwX3_layName_10 ++ dktX3_layName_11
def dkwX3_layName_9 : List UInt8 := [42, 21, 4, 27, 182, 1, 6, 54, 5, 42, 180, 0, 17, 21, 4, 184, 0, 174, 4, 96, 46, 4]
abbrev dktX3_layName_9 : List UInt8 := dkwX3_layName_9 ++ dktX3_layName_10
def dkwX3_layName_8 : List UInt8 := [167, 255, 171, 42, 180, 0, 44, 27, 29, 79, 3, 54, 4, 21, 4, 42, 180, 0, 17, 4, 46, 162, 0, 103]
abbrev dktX3_layName_8 : List UInt8 := dkwX3_layName_8 ++ dktX3_layName_9
def dkwX3_layName_7 : List UInt8 := [42, 180, 0, 41, 21, 4, 46, 42, 180, 0, 41, 29, 46, 162, 0, 6, 21, 4, 62, 132, 4, 1]
abbrev dktX3_layName_7 : List UInt8 := dkwX3_layName_7 ++ dktX3_layName_8
def dkwX3_layName_6 : List UInt8 := [50, 27, 46, 42, 180, 0, 47, 29, 50, 27, 46, 100, 54, 5, 21, 5, 157, 0, 24, 21, 5, 154, 0, 22]
abbrev dktX3_layName_6 : List UInt8 := dkwX3_layName_6 ++ dktX3_layName_7
def dkwX3_layName_5 : List UInt8 := [182, 1, 2, 154, 0, 6, 167, 0, 61, 29, 2, 160, 0, 7, 4, 167, 0, 21, 42, 180, 0, 47, 21, 4]
abbrev dktX3_layName_5 : List UInt8 := dkwX3_layName_5 ++ dktX3_layName_6
def dkwX3_layName_4 : List UInt8 := [132, 4, 1, 167, 255, 195, 3, 54, 4, 21, 4, 42, 180, 0, 17, 4, 46, 162, 0, 80, 42, 21, 4, 27]
abbrev dktX3_layName_4 : List UInt8 := dkwX3_layName_4 ++ dktX3_layName_5
def dkwX3_layName_3 : List UInt8 := [50, 27, 92, 46, 42, 180, 0, 38, 21, 4, 46, 96, 79, 28, 42, 180, 0, 38, 21, 4, 46, 96, 61]
abbrev dktX3_layName_3 : List UInt8 := dkwX3_layName_3 ++ dktX3_layName_4
def dkwX3_layName_2 : List UInt8 := [42, 21, 4, 27, 182, 1, 6, 54, 5, 21, 5, 2, 160, 0, 6, 167, 0, 32, 42, 180, 0, 47, 21, 5]
abbrev dktX3_layName_2 : List UInt8 := dkwX3_layName_2 ++ dktX3_layName_3
def dkwX3_layName_1 : List UInt8 := [50, 27, 3, 79, 132, 4, 1, 167, 255, 232, 3, 54, 4, 21, 4, 42, 180, 0, 17, 4, 46, 162, 0, 56]
abbrev dktX3_layName_1 : List UInt8 := dkwX3_layName_1 ++ dktX3_layName_2
def dkwX3_layName_0 : List UInt8 := [3, 61, 2, 62, 3, 54, 4, 21, 4, 42, 180, 0, 17, 4, 46, 162, 0, 19, 42, 180, 0, 47, 21, 4]
abbrev dktX3_layName_0 : List UInt8 := dkwX3_layName_0 ++ dktX3_layName_1
theorem dksX3_layName_0 : cX3_layName.data.toList.drop 0 = dktX3_layName_0 := by decide +kernel
theorem dksX3_layName_1 : cX3_layName.data.toList.drop 24 = dktX3_layName_1 := dk_seg dksX3_layName_0 24 rfl rfl
theorem dksX3_layName_2 : cX3_layName.data.toList.drop 48 = dktX3_layName_2 := dk_seg dksX3_layName_1 24 rfl rfl
theorem dksX3_layName_3 : cX3_layName.data.toList.drop 72 = dktX3_layName_3 := dk_seg dksX3_layName_2 24 rfl rfl
theorem dksX3_layName_4 : cX3_layName.data.toList.drop 95 = dktX3_layName_4 := dk_seg dksX3_layName_3 23 rfl rfl
theorem dksX3_layName_5 : cX3_layName.data.toList.drop 119 = dktX3_layName_5 := dk_seg dksX3_layName_4 24 rfl rfl
theorem dksX3_layName_6 : cX3_layName.data.toList.drop 143 = dktX3_layName_6 := dk_seg dksX3_layName_5 24 rfl rfl
theorem dksX3_layName_7 : cX3_layName.data.toList.drop 167 = dktX3_layName_7 := dk_seg dksX3_layName_6 24 rfl rfl
theorem dksX3_layName_8 : cX3_layName.data.toList.drop 189 = dktX3_layName_8 := dk_seg dksX3_layName_7 22 rfl rfl
theorem dksX3_layName_9 : cX3_layName.data.toList.drop 213 = dktX3_layName_9 := dk_seg dksX3_layName_8 24 rfl rfl
theorem dksX3_layName_10 : cX3_layName.data.toList.drop 235 = dktX3_layName_10 := dk_seg dksX3_layName_9 22 rfl rfl
theorem dksX3_layName_11 : cX3_layName.data.toList.drop 257 = dktX3_layName_11 := dk_seg dksX3_layName_10 22 rfl rfl
theorem dksX3_layName_12 : cX3_layName.data.toList.drop 281 = dktX3_layName_12 := dk_seg dksX3_layName_11 24 rfl rfl
theorem dksX3_layName_13 : cX3_layName.data.toList.drop 305 = dktX3_layName_13 := dk_seg dksX3_layName_12 24 rfl rfl
theorem dX3_layName_0 : decode cX3_layName 0 = .ok (.iconst 0, 1) := dk_3 (dk_at dksX3_layName_0 0 rfl rfl)
theorem dX3_layName_1 : decode cX3_layName 1 = .ok (.istore_n 2, 1) := dk_61 (dk_at dksX3_layName_0 1 rfl rfl)
theorem dX3_layName_2 : decode cX3_layName 2 = .ok (.iconst (-1), 1) := dk_2 (dk_at dksX3_layName_0 2 rfl rfl)
theorem dX3_layName_3 : decode cX3_layName 3 = .ok (.istore_n 3, 1) := dk_62 (dk_at dksX3_layName_0 3 rfl rfl)
theorem dX3_layName_4 : decode cX3_layName 4 = .ok (.iconst 0, 1) := dk_3 (dk_at dksX3_layName_0 4 rfl rfl)
theorem dX3_layName_5 : decode cX3_layName 5 = .ok (.istore 4, 2) := dk_54 4 (dk_at dksX3_layName_0 5 rfl rfl)
theorem dX3_layName_7 : decode cX3_layName 7 = .ok (.iload 4, 2) := dk_21 4 (dk_at dksX3_layName_0 7 rfl rfl)
theorem dX3_layName_9 : decode cX3_layName 9 = .ok (.aload_n 0, 1) := dk_42 (dk_at dksX3_layName_0 9 rfl rfl)
theorem dX3_layName_10 : decode cX3_layName 10 = .ok (.getfield 17, 3) := dk_180 0 17 (dk_at dksX3_layName_0 10 rfl rfl)
theorem dX3_layName_13 : decode cX3_layName 13 = .ok (.iconst 1, 1) := dk_4 (dk_at dksX3_layName_0 13 rfl rfl)
theorem dX3_layName_14 : decode cX3_layName 14 = .ok (.iaload, 1) := dk_46 (dk_at dksX3_layName_0 14 rfl rfl)
theorem dX3_layName_15 : decode cX3_layName 15 = .ok (.if_icmp .ge 19, 3) := dk_162 0 19 (dk_at dksX3_layName_0 15 rfl rfl)
theorem dX3_layName_18 : decode cX3_layName 18 = .ok (.aload_n 0, 1) := dk_42 (dk_at dksX3_layName_0 18 rfl rfl)
theorem dX3_layName_19 : decode cX3_layName 19 = .ok (.getfield 47, 3) := dk_180 0 47 (dk_at dksX3_layName_0 19 rfl rfl)
theorem dX3_layName_22 : decode cX3_layName 22 = .ok (.iload 4, 2) := dk_21 4 (dk_at dksX3_layName_0 22 rfl rfl)
theorem dX3_layName_24 : decode cX3_layName 24 = .ok (.aaload, 1) := dk_50 (dk_at dksX3_layName_1 0 rfl rfl)
theorem dX3_layName_25 : decode cX3_layName 25 = .ok (.iload_n 1, 1) := dk_27 (dk_at dksX3_layName_1 1 rfl rfl)
theorem dX3_layName_26 : decode cX3_layName 26 = .ok (.iconst 0, 1) := dk_3 (dk_at dksX3_layName_1 2 rfl rfl)
theorem dX3_layName_27 : decode cX3_layName 27 = .ok (.iastore, 1) := dk_79 (dk_at dksX3_layName_1 3 rfl rfl)
theorem dX3_layName_28 : decode cX3_layName 28 = .ok (.iinc 4 1, 3) := dk_132 4 1 (dk_at dksX3_layName_1 4 rfl rfl)
theorem dX3_layName_31 : decode cX3_layName 31 = .ok (.goto (-24), 3) := dk_167 255 232 (dk_at dksX3_layName_1 7 rfl rfl)
theorem dX3_layName_34 : decode cX3_layName 34 = .ok (.iconst 0, 1) := dk_3 (dk_at dksX3_layName_1 10 rfl rfl)
theorem dX3_layName_35 : decode cX3_layName 35 = .ok (.istore 4, 2) := dk_54 4 (dk_at dksX3_layName_1 11 rfl rfl)
theorem dX3_layName_37 : decode cX3_layName 37 = .ok (.iload 4, 2) := dk_21 4 (dk_at dksX3_layName_1 13 rfl rfl)
theorem dX3_layName_39 : decode cX3_layName 39 = .ok (.aload_n 0, 1) := dk_42 (dk_at dksX3_layName_1 15 rfl rfl)
theorem dX3_layName_40 : decode cX3_layName 40 = .ok (.getfield 17, 3) := dk_180 0 17 (dk_at dksX3_layName_1 16 rfl rfl)
theorem dX3_layName_43 : decode cX3_layName 43 = .ok (.iconst 1, 1) := dk_4 (dk_at dksX3_layName_1 19 rfl rfl)
theorem dX3_layName_44 : decode cX3_layName 44 = .ok (.iaload, 1) := dk_46 (dk_at dksX3_layName_1 20 rfl rfl)
theorem dX3_layName_45 : decode cX3_layName 45 = .ok (.if_icmp .ge 56, 3) := dk_162 0 56 (dk_at dksX3_layName_1 21 rfl rfl)
theorem dX3_layName_48 : decode cX3_layName 48 = .ok (.aload_n 0, 1) := dk_42 (dk_at dksX3_layName_2 0 rfl rfl)
theorem dX3_layName_49 : decode cX3_layName 49 = .ok (.iload 4, 2) := dk_21 4 (dk_at dksX3_layName_2 1 rfl rfl)
theorem dX3_layName_51 : decode cX3_layName 51 = .ok (.iload_n 1, 1) := dk_27 (dk_at dksX3_layName_2 3 rfl rfl)
theorem dX3_layName_52 : decode cX3_layName 52 = .ok (.invokevirtual 262, 3) := dk_182 1 6 (dk_at dksX3_layName_2 4 rfl rfl)
theorem dX3_layName_55 : decode cX3_layName 55 = .ok (.istore 5, 2) := dk_54 5 (dk_at dksX3_layName_2 7 rfl rfl)
theorem dX3_layName_57 : decode cX3_layName 57 = .ok (.iload 5, 2) := dk_21 5 (dk_at dksX3_layName_2 9 rfl rfl)
theorem dX3_layName_59 : decode cX3_layName 59 = .ok (.iconst (-1), 1) := dk_2 (dk_at dksX3_layName_2 11 rfl rfl)
theorem dX3_layName_60 : decode cX3_layName 60 = .ok (.if_icmp .ne 6, 3) := dk_160 0 6 (dk_at dksX3_layName_2 12 rfl rfl)
theorem dX3_layName_63 : decode cX3_layName 63 = .ok (.goto 32, 3) := dk_167 0 32 (dk_at dksX3_layName_2 15 rfl rfl)
theorem dX3_layName_66 : decode cX3_layName 66 = .ok (.aload_n 0, 1) := dk_42 (dk_at dksX3_layName_2 18 rfl rfl)
theorem dX3_layName_67 : decode cX3_layName 67 = .ok (.getfield 47, 3) := dk_180 0 47 (dk_at dksX3_layName_2 19 rfl rfl)
theorem dX3_layName_70 : decode cX3_layName 70 = .ok (.iload 5, 2) := dk_21 5 (dk_at dksX3_layName_2 22 rfl rfl)
theorem dX3_layName_72 : decode cX3_layName 72 = .ok (.aaload, 1) := dk_50 (dk_at dksX3_layName_3 0 rfl rfl)
theorem dX3_layName_73 : decode cX3_layName 73 = .ok (.iload_n 1, 1) := dk_27 (dk_at dksX3_layName_3 1 rfl rfl)
theorem dX3_layName_74 : decode cX3_layName 74 = .ok (.dup2, 1) := dk_92 (dk_at dksX3_layName_3 2 rfl rfl)
theorem dX3_layName_75 : decode cX3_layName 75 = .ok (.iaload, 1) := dk_46 (dk_at dksX3_layName_3 3 rfl rfl)
theorem dX3_layName_76 : decode cX3_layName 76 = .ok (.aload_n 0, 1) := dk_42 (dk_at dksX3_layName_3 4 rfl rfl)
theorem dX3_layName_77 : decode cX3_layName 77 = .ok (.getfield 38, 3) := dk_180 0 38 (dk_at dksX3_layName_3 5 rfl rfl)
theorem dX3_layName_80 : decode cX3_layName 80 = .ok (.iload 4, 2) := dk_21 4 (dk_at dksX3_layName_3 8 rfl rfl)
theorem dX3_layName_82 : decode cX3_layName 82 = .ok (.iaload, 1) := dk_46 (dk_at dksX3_layName_3 10 rfl rfl)
theorem dX3_layName_83 : decode cX3_layName 83 = .ok (.iadd, 1) := dk_96 (dk_at dksX3_layName_3 11 rfl rfl)
theorem dX3_layName_84 : decode cX3_layName 84 = .ok (.iastore, 1) := dk_79 (dk_at dksX3_layName_3 12 rfl rfl)
theorem dX3_layName_85 : decode cX3_layName 85 = .ok (.iload_n 2, 1) := dk_28 (dk_at dksX3_layName_3 13 rfl rfl)
theorem dX3_layName_86 : decode cX3_layName 86 = .ok (.aload_n 0, 1) := dk_42 (dk_at dksX3_layName_3 14 rfl rfl)
theorem dX3_layName_87 : decode cX3_layName 87 = .ok (.getfield 38, 3) := dk_180 0 38 (dk_at dksX3_layName_3 15 rfl rfl)
theorem dX3_layName_90 : decode cX3_layName 90 = .ok (.iload 4, 2) := dk_21 4 (dk_at dksX3_layName_3 18 rfl rfl)
theorem dX3_layName_92 : decode cX3_layName 92 = .ok (.iaload, 1) := dk_46 (dk_at dksX3_layName_3 20 rfl rfl)
theorem dX3_layName_93 : decode cX3_layName 93 = .ok (.iadd, 1) := dk_96 (dk_at dksX3_layName_3 21 rfl rfl)
theorem dX3_layName_94 : decode cX3_layName 94 = .ok (.istore_n 2, 1) := dk_61 (dk_at dksX3_layName_3 22 rfl rfl)
theorem dX3_layName_95 : decode cX3_layName 95 = .ok (.iinc 4 1, 3) := dk_132 4 1 (dk_at dksX3_layName_4 0 rfl rfl)
theorem dX3_layName_98 : decode cX3_layName 98 = .ok (.goto (-61), 3) := dk_167 255 195 (dk_at dksX3_layName_4 3 rfl rfl)
theorem dX3_layName_101 : decode cX3_layName 101 = .ok (.iconst 0, 1) := dk_3 (dk_at dksX3_layName_4 6 rfl rfl)
theorem dX3_layName_102 : decode cX3_layName 102 = .ok (.istore 4, 2) := dk_54 4 (dk_at dksX3_layName_4 7 rfl rfl)
theorem dX3_layName_104 : decode cX3_layName 104 = .ok (.iload 4, 2) := dk_21 4 (dk_at dksX3_layName_4 9 rfl rfl)
theorem dX3_layName_106 : decode cX3_layName 106 = .ok (.aload_n 0, 1) := dk_42 (dk_at dksX3_layName_4 11 rfl rfl)
theorem dX3_layName_107 : decode cX3_layName 107 = .ok (.getfield 17, 3) := dk_180 0 17 (dk_at dksX3_layName_4 12 rfl rfl)
theorem dX3_layName_110 : decode cX3_layName 110 = .ok (.iconst 1, 1) := dk_4 (dk_at dksX3_layName_4 15 rfl rfl)
theorem dX3_layName_111 : decode cX3_layName 111 = .ok (.iaload, 1) := dk_46 (dk_at dksX3_layName_4 16 rfl rfl)
theorem dX3_layName_112 : decode cX3_layName 112 = .ok (.if_icmp .ge 80, 3) := dk_162 0 80 (dk_at dksX3_layName_4 17 rfl rfl)
theorem dX3_layName_115 : decode cX3_layName 115 = .ok (.aload_n 0, 1) := dk_42 (dk_at dksX3_layName_4 20 rfl rfl)
theorem dX3_layName_116 : decode cX3_layName 116 = .ok (.iload 4, 2) := dk_21 4 (dk_at dksX3_layName_4 21 rfl rfl)
theorem dX3_layName_118 : decode cX3_layName 118 = .ok (.iload_n 1, 1) := dk_27 (dk_at dksX3_layName_4 23 rfl rfl)
theorem dX3_layName_119 : decode cX3_layName 119 = .ok (.invokevirtual 258, 3) := dk_182 1 2 (dk_at dksX3_layName_5 0 rfl rfl)
theorem dX3_layName_122 : decode cX3_layName 122 = .ok (.ifCond .ne 6, 3) := dk_154 0 6 (dk_at dksX3_layName_5 3 rfl rfl)
theorem dX3_layName_125 : decode cX3_layName 125 = .ok (.goto 61, 3) := dk_167 0 61 (dk_at dksX3_layName_5 6 rfl rfl)
theorem dX3_layName_128 : decode cX3_layName 128 = .ok (.iload_n 3, 1) := dk_29 (dk_at dksX3_layName_5 9 rfl rfl)
theorem dX3_layName_129 : decode cX3_layName 129 = .ok (.iconst (-1), 1) := dk_2 (dk_at dksX3_layName_5 10 rfl rfl)
theorem dX3_layName_130 : decode cX3_layName 130 = .ok (.if_icmp .ne 7, 3) := dk_160 0 7 (dk_at dksX3_layName_5 11 rfl rfl)
theorem dX3_layName_133 : decode cX3_layName 133 = .ok (.iconst 1, 1) := dk_4 (dk_at dksX3_layName_5 14 rfl rfl)
theorem dX3_layName_134 : decode cX3_layName 134 = .ok (.goto 21, 3) := dk_167 0 21 (dk_at dksX3_layName_5 15 rfl rfl)
theorem dX3_layName_137 : decode cX3_layName 137 = .ok (.aload_n 0, 1) := dk_42 (dk_at dksX3_layName_5 18 rfl rfl)
theorem dX3_layName_138 : decode cX3_layName 138 = .ok (.getfield 47, 3) := dk_180 0 47 (dk_at dksX3_layName_5 19 rfl rfl)
theorem dX3_layName_141 : decode cX3_layName 141 = .ok (.iload 4, 2) := dk_21 4 (dk_at dksX3_layName_5 22 rfl rfl)
theorem dX3_layName_143 : decode cX3_layName 143 = .ok (.aaload, 1) := dk_50 (dk_at dksX3_layName_6 0 rfl rfl)
theorem dX3_layName_144 : decode cX3_layName 144 = .ok (.iload_n 1, 1) := dk_27 (dk_at dksX3_layName_6 1 rfl rfl)
theorem dX3_layName_145 : decode cX3_layName 145 = .ok (.iaload, 1) := dk_46 (dk_at dksX3_layName_6 2 rfl rfl)
theorem dX3_layName_146 : decode cX3_layName 146 = .ok (.aload_n 0, 1) := dk_42 (dk_at dksX3_layName_6 3 rfl rfl)
theorem dX3_layName_147 : decode cX3_layName 147 = .ok (.getfield 47, 3) := dk_180 0 47 (dk_at dksX3_layName_6 4 rfl rfl)
theorem dX3_layName_150 : decode cX3_layName 150 = .ok (.iload_n 3, 1) := dk_29 (dk_at dksX3_layName_6 7 rfl rfl)
theorem dX3_layName_151 : decode cX3_layName 151 = .ok (.aaload, 1) := dk_50 (dk_at dksX3_layName_6 8 rfl rfl)
theorem dX3_layName_152 : decode cX3_layName 152 = .ok (.iload_n 1, 1) := dk_27 (dk_at dksX3_layName_6 9 rfl rfl)
theorem dX3_layName_153 : decode cX3_layName 153 = .ok (.iaload, 1) := dk_46 (dk_at dksX3_layName_6 10 rfl rfl)
theorem dX3_layName_154 : decode cX3_layName 154 = .ok (.isub, 1) := dk_100 (dk_at dksX3_layName_6 11 rfl rfl)
theorem dX3_layName_155 : decode cX3_layName 155 = .ok (.istore 5, 2) := dk_54 5 (dk_at dksX3_layName_6 12 rfl rfl)
theorem dX3_layName_157 : decode cX3_layName 157 = .ok (.iload 5, 2) := dk_21 5 (dk_at dksX3_layName_6 14 rfl rfl)
theorem dX3_layName_159 : decode cX3_layName 159 = .ok (.ifCond .gt 24, 3) := dk_157 0 24 (dk_at dksX3_layName_6 16 rfl rfl)
theorem dX3_layName_162 : decode cX3_layName 162 = .ok (.iload 5, 2) := dk_21 5 (dk_at dksX3_layName_6 19 rfl rfl)
theorem dX3_layName_164 : decode cX3_layName 164 = .ok (.ifCond .ne 22, 3) := dk_154 0 22 (dk_at dksX3_layName_6 21 rfl rfl)
theorem dX3_layName_167 : decode cX3_layName 167 = .ok (.aload_n 0, 1) := dk_42 (dk_at dksX3_layName_7 0 rfl rfl)
theorem dX3_layName_168 : decode cX3_layName 168 = .ok (.getfield 41, 3) := dk_180 0 41 (dk_at dksX3_layName_7 1 rfl rfl)
theorem dX3_layName_171 : decode cX3_layName 171 = .ok (.iload 4, 2) := dk_21 4 (dk_at dksX3_layName_7 4 rfl rfl)
theorem dX3_layName_173 : decode cX3_layName 173 = .ok (.iaload, 1) := dk_46 (dk_at dksX3_layName_7 6 rfl rfl)
theorem dX3_layName_174 : decode cX3_layName 174 = .ok (.aload_n 0, 1) := dk_42 (dk_at dksX3_layName_7 7 rfl rfl)
theorem dX3_layName_175 : decode cX3_layName 175 = .ok (.getfield 41, 3) := dk_180 0 41 (dk_at dksX3_layName_7 8 rfl rfl)
theorem dX3_layName_178 : decode cX3_layName 178 = .ok (.iload_n 3, 1) := dk_29 (dk_at dksX3_layName_7 11 rfl rfl)
theorem dX3_layName_179 : decode cX3_layName 179 = .ok (.iaload, 1) := dk_46 (dk_at dksX3_layName_7 12 rfl rfl)
theorem dX3_layName_180 : decode cX3_layName 180 = .ok (.if_icmp .ge 6, 3) := dk_162 0 6 (dk_at dksX3_layName_7 13 rfl rfl)
theorem dX3_layName_183 : decode cX3_layName 183 = .ok (.iload 4, 2) := dk_21 4 (dk_at dksX3_layName_7 16 rfl rfl)
theorem dX3_layName_185 : decode cX3_layName 185 = .ok (.istore_n 3, 1) := dk_62 (dk_at dksX3_layName_7 18 rfl rfl)
theorem dX3_layName_186 : decode cX3_layName 186 = .ok (.iinc 4 1, 3) := dk_132 4 1 (dk_at dksX3_layName_7 19 rfl rfl)
theorem dX3_layName_189 : decode cX3_layName 189 = .ok (.goto (-85), 3) := dk_167 255 171 (dk_at dksX3_layName_8 0 rfl rfl)
theorem dX3_layName_192 : decode cX3_layName 192 = .ok (.aload_n 0, 1) := dk_42 (dk_at dksX3_layName_8 3 rfl rfl)
theorem dX3_layName_193 : decode cX3_layName 193 = .ok (.getfield 44, 3) := dk_180 0 44 (dk_at dksX3_layName_8 4 rfl rfl)
theorem dX3_layName_196 : decode cX3_layName 196 = .ok (.iload_n 1, 1) := dk_27 (dk_at dksX3_layName_8 7 rfl rfl)
theorem dX3_layName_197 : decode cX3_layName 197 = .ok (.iload_n 3, 1) := dk_29 (dk_at dksX3_layName_8 8 rfl rfl)
theorem dX3_layName_198 : decode cX3_layName 198 = .ok (.iastore, 1) := dk_79 (dk_at dksX3_layName_8 9 rfl rfl)
theorem dX3_layName_199 : decode cX3_layName 199 = .ok (.iconst 0, 1) := dk_3 (dk_at dksX3_layName_8 10 rfl rfl)
theorem dX3_layName_200 : decode cX3_layName 200 = .ok (.istore 4, 2) := dk_54 4 (dk_at dksX3_layName_8 11 rfl rfl)
theorem dX3_layName_202 : decode cX3_layName 202 = .ok (.iload 4, 2) := dk_21 4 (dk_at dksX3_layName_8 13 rfl rfl)
theorem dX3_layName_204 : decode cX3_layName 204 = .ok (.aload_n 0, 1) := dk_42 (dk_at dksX3_layName_8 15 rfl rfl)
theorem dX3_layName_205 : decode cX3_layName 205 = .ok (.getfield 17, 3) := dk_180 0 17 (dk_at dksX3_layName_8 16 rfl rfl)
theorem dX3_layName_208 : decode cX3_layName 208 = .ok (.iconst 1, 1) := dk_4 (dk_at dksX3_layName_8 19 rfl rfl)
theorem dX3_layName_209 : decode cX3_layName 209 = .ok (.iaload, 1) := dk_46 (dk_at dksX3_layName_8 20 rfl rfl)
theorem dX3_layName_210 : decode cX3_layName 210 = .ok (.if_icmp .ge 103, 3) := dk_162 0 103 (dk_at dksX3_layName_8 21 rfl rfl)
theorem dX3_layName_213 : decode cX3_layName 213 = .ok (.aload_n 0, 1) := dk_42 (dk_at dksX3_layName_9 0 rfl rfl)
theorem dX3_layName_214 : decode cX3_layName 214 = .ok (.iload 4, 2) := dk_21 4 (dk_at dksX3_layName_9 1 rfl rfl)
theorem dX3_layName_216 : decode cX3_layName 216 = .ok (.iload_n 1, 1) := dk_27 (dk_at dksX3_layName_9 3 rfl rfl)
theorem dX3_layName_217 : decode cX3_layName 217 = .ok (.invokevirtual 262, 3) := dk_182 1 6 (dk_at dksX3_layName_9 4 rfl rfl)
theorem dX3_layName_220 : decode cX3_layName 220 = .ok (.istore 5, 2) := dk_54 5 (dk_at dksX3_layName_9 7 rfl rfl)
theorem dX3_layName_222 : decode cX3_layName 222 = .ok (.aload_n 0, 1) := dk_42 (dk_at dksX3_layName_9 9 rfl rfl)
theorem dX3_layName_223 : decode cX3_layName 223 = .ok (.getfield 17, 3) := dk_180 0 17 (dk_at dksX3_layName_9 10 rfl rfl)
theorem dX3_layName_226 : decode cX3_layName 226 = .ok (.iload 4, 2) := dk_21 4 (dk_at dksX3_layName_9 13 rfl rfl)
theorem dX3_layName_228 : decode cX3_layName 228 = .ok (.invokestatic 174, 3) := dk_184 0 174 (dk_at dksX3_layName_9 15 rfl rfl)
theorem dX3_layName_231 : decode cX3_layName 231 = .ok (.iconst 1, 1) := dk_4 (dk_at dksX3_layName_9 18 rfl rfl)
theorem dX3_layName_232 : decode cX3_layName 232 = .ok (.iadd, 1) := dk_96 (dk_at dksX3_layName_9 19 rfl rfl)
theorem dX3_layName_233 : decode cX3_layName 233 = .ok (.iaload, 1) := dk_46 (dk_at dksX3_layName_9 20 rfl rfl)
theorem dX3_layName_234 : decode cX3_layName 234 = .ok (.iconst 1, 1) := dk_4 (dk_at dksX3_layName_9 21 rfl rfl)
theorem dX3_layName_235 : decode cX3_layName 235 = .ok (.if_icmp .ne 36, 3) := dk_160 0 36 (dk_at dksX3_layName_10 0 rfl rfl)
theorem dX3_layName_238 : decode cX3_layName 238 = .ok (.iload 5, 2) := dk_21 5 (dk_at dksX3_layName_10 3 rfl rfl)
theorem dX3_layName_240 : decode cX3_layName 240 = .ok (.iconst (-1), 1) := dk_2 (dk_at dksX3_layName_10 5 rfl rfl)
theorem dX3_layName_241 : decode cX3_layName 241 = .ok (.if_icmp .eq 30, 3) := dk_159 0 30 (dk_at dksX3_layName_10 6 rfl rfl)
theorem dX3_layName_244 : decode cX3_layName 244 = .ok (.bipush 100, 2) := dk_16 100 (dk_at dksX3_layName_10 9 rfl rfl)
theorem dX3_layName_246 : decode cX3_layName 246 = .ok (.aload_n 0, 1) := dk_42 (dk_at dksX3_layName_10 11 rfl rfl)
theorem dX3_layName_247 : decode cX3_layName 247 = .ok (.getfield 47, 3) := dk_180 0 47 (dk_at dksX3_layName_10 12 rfl rfl)
theorem dX3_layName_250 : decode cX3_layName 250 = .ok (.iload 5, 2) := dk_21 5 (dk_at dksX3_layName_10 15 rfl rfl)
theorem dX3_layName_252 : decode cX3_layName 252 = .ok (.aaload, 1) := dk_50 (dk_at dksX3_layName_10 17 rfl rfl)
theorem dX3_layName_253 : decode cX3_layName 253 = .ok (.iload_n 1, 1) := dk_27 (dk_at dksX3_layName_10 18 rfl rfl)
theorem dX3_layName_254 : decode cX3_layName 254 = .ok (.iaload, 1) := dk_46 (dk_at dksX3_layName_10 19 rfl rfl)
theorem dX3_layName_255 : decode cX3_layName 255 = .ok (.imul, 1) := dk_104 (dk_at dksX3_layName_10 20 rfl rfl)
theorem dX3_layName_256 : decode cX3_layName 256 = .ok (.aload_n 0, 1) := dk_42 (dk_at dksX3_layName_10 21 rfl rfl)
theorem dX3_layName_257 : decode cX3_layName 257 = .ok (.getfield 17, 3) := dk_180 0 17 (dk_at dksX3_layName_11 0 rfl rfl)
theorem dX3_layName_260 : decode cX3_layName 260 = .ok (.iconst 0, 1) := dk_3 (dk_at dksX3_layName_11 3 rfl rfl)
theorem dX3_layName_261 : decode cX3_layName 261 = .ok (.iaload, 1) := dk_46 (dk_at dksX3_layName_11 4 rfl rfl)
theorem dX3_layName_262 : decode cX3_layName 262 = .ok (.iload_n 2, 1) := dk_28 (dk_at dksX3_layName_11 5 rfl rfl)
theorem dX3_layName_263 : decode cX3_layName 263 = .ok (.imul, 1) := dk_104 (dk_at dksX3_layName_11 6 rfl rfl)
theorem dX3_layName_264 : decode cX3_layName 264 = .ok (.if_icmp .lt 7, 3) := dk_161 0 7 (dk_at dksX3_layName_11 7 rfl rfl)
theorem dX3_layName_267 : decode cX3_layName 267 = .ok (.iconst 1, 1) := dk_4 (dk_at dksX3_layName_11 10 rfl rfl)
theorem dX3_layName_268 : decode cX3_layName 268 = .ok (.goto 4, 3) := dk_167 0 4 (dk_at dksX3_layName_11 11 rfl rfl)
theorem dX3_layName_271 : decode cX3_layName 271 = .ok (.iconst 0, 1) := dk_3 (dk_at dksX3_layName_11 14 rfl rfl)
theorem dX3_layName_272 : decode cX3_layName 272 = .ok (.istore 6, 2) := dk_54 6 (dk_at dksX3_layName_11 15 rfl rfl)
theorem dX3_layName_274 : decode cX3_layName 274 = .ok (.aload_n 0, 1) := dk_42 (dk_at dksX3_layName_11 17 rfl rfl)
theorem dX3_layName_275 : decode cX3_layName 275 = .ok (.getfield 50, 3) := dk_180 0 50 (dk_at dksX3_layName_11 18 rfl rfl)
theorem dX3_layName_278 : decode cX3_layName 278 = .ok (.iload 4, 2) := dk_21 4 (dk_at dksX3_layName_11 21 rfl rfl)
theorem dX3_layName_280 : decode cX3_layName 280 = .ok (.aaload, 1) := dk_50 (dk_at dksX3_layName_11 23 rfl rfl)
theorem dX3_layName_281 : decode cX3_layName 281 = .ok (.iload_n 1, 1) := dk_27 (dk_at dksX3_layName_12 0 rfl rfl)
theorem dX3_layName_282 : decode cX3_layName 282 = .ok (.aload_n 0, 1) := dk_42 (dk_at dksX3_layName_12 1 rfl rfl)
theorem dX3_layName_283 : decode cX3_layName 283 = .ok (.iload 4, 2) := dk_21 4 (dk_at dksX3_layName_12 2 rfl rfl)
theorem dX3_layName_285 : decode cX3_layName 285 = .ok (.invokevirtual 232, 3) := dk_182 0 232 (dk_at dksX3_layName_12 4 rfl rfl)
theorem dX3_layName_288 : decode cX3_layName 288 = .ok (.ifCond .ne 7, 3) := dk_154 0 7 (dk_at dksX3_layName_12 7 rfl rfl)
theorem dX3_layName_291 : decode cX3_layName 291 = .ok (.iconst (-1), 1) := dk_2 (dk_at dksX3_layName_12 10 rfl rfl)
theorem dX3_layName_292 : decode cX3_layName 292 = .ok (.goto 14, 3) := dk_167 0 14 (dk_at dksX3_layName_12 11 rfl rfl)
theorem dX3_layName_295 : decode cX3_layName 295 = .ok (.iload 6, 2) := dk_21 6 (dk_at dksX3_layName_12 14 rfl rfl)
theorem dX3_layName_297 : decode cX3_layName 297 = .ok (.ifCond .eq 8, 3) := dk_153 0 8 (dk_at dksX3_layName_12 16 rfl rfl)
theorem dX3_layName_300 : decode cX3_layName 300 = .ok (.iload 5, 2) := dk_21 5 (dk_at dksX3_layName_12 19 rfl rfl)
theorem dX3_layName_302 : decode cX3_layName 302 = .ok (.goto 4, 3) := dk_167 0 4 (dk_at dksX3_layName_12 21 rfl rfl)
theorem dX3_layName_305 : decode cX3_layName 305 = .ok (.iload_n 3, 1) := dk_29 (dk_at dksX3_layName_13 0 rfl rfl)
theorem dX3_layName_306 : decode cX3_layName 306 = .ok (.iastore, 1) := dk_79 (dk_at dksX3_layName_13 1 rfl rfl)
theorem dX3_layName_307 : decode cX3_layName 307 = .ok (.iinc 4 1, 3) := dk_132 4 1 (dk_at dksX3_layName_13 2 rfl rfl)
theorem dX3_layName_310 : decode cX3_layName 310 = .ok (.goto (-108), 3) := dk_167 255 148 (dk_at dksX3_layName_13 5 rfl rfl)
theorem dX3_layName_313 : decode cX3_layName 313 = .ok (.return_, 1) := dk_177 (dk_at dksX3_layName_13 8 rfl rfl)
abbrev cX3_winner : ByteArray := prog_11_method_60_code
def yX3_winner : MethodName := ⟨RX3, "winner", "(I)I"⟩
def dkwX3_winner_1 : List UInt8 := [46, 172]
abbrev dktX3_winner_1 : List UInt8 := dkwX3_winner_1 ++ []
def dkwX3_winner_0 : List UInt8 := [42, 3, 181, 0, 59, 42, 27, 182, 1, 24, 153, 0, 5, 3, 172, 42, 182, 1, 15, 42, 180, 0, 44, 27]
abbrev dktX3_winner_0 : List UInt8 := dkwX3_winner_0 ++ dktX3_winner_1
theorem dksX3_winner_0 : cX3_winner.data.toList.drop 0 = dktX3_winner_0 := by decide +kernel
theorem dksX3_winner_1 : cX3_winner.data.toList.drop 24 = dktX3_winner_1 := dk_seg dksX3_winner_0 24 rfl rfl
theorem dX3_winner_0 : decode cX3_winner 0 = .ok (.aload_n 0, 1) := dk_42 (dk_at dksX3_winner_0 0 rfl rfl)
theorem dX3_winner_1 : decode cX3_winner 1 = .ok (.iconst 0, 1) := dk_3 (dk_at dksX3_winner_0 1 rfl rfl)
theorem dX3_winner_2 : decode cX3_winner 2 = .ok (.putfield 59, 3) := dk_181 0 59 (dk_at dksX3_winner_0 2 rfl rfl)
theorem dX3_winner_5 : decode cX3_winner 5 = .ok (.aload_n 0, 1) := dk_42 (dk_at dksX3_winner_0 5 rfl rfl)
theorem dX3_winner_6 : decode cX3_winner 6 = .ok (.iload_n 1, 1) := dk_27 (dk_at dksX3_winner_0 6 rfl rfl)
theorem dX3_winner_7 : decode cX3_winner 7 = .ok (.invokevirtual 280, 3) := dk_182 1 24 (dk_at dksX3_winner_0 7 rfl rfl)
theorem dX3_winner_10 : decode cX3_winner 10 = .ok (.ifCond .eq 5, 3) := dk_153 0 5 (dk_at dksX3_winner_0 10 rfl rfl)
theorem dX3_winner_13 : decode cX3_winner 13 = .ok (.iconst 0, 1) := dk_3 (dk_at dksX3_winner_0 13 rfl rfl)
theorem dX3_winner_14 : decode cX3_winner 14 = .ok (.ireturn, 1) := dk_172 (dk_at dksX3_winner_0 14 rfl rfl)
theorem dX3_winner_15 : decode cX3_winner 15 = .ok (.aload_n 0, 1) := dk_42 (dk_at dksX3_winner_0 15 rfl rfl)
theorem dX3_winner_16 : decode cX3_winner 16 = .ok (.invokevirtual 271, 3) := dk_182 1 15 (dk_at dksX3_winner_0 16 rfl rfl)
theorem dX3_winner_19 : decode cX3_winner 19 = .ok (.aload_n 0, 1) := dk_42 (dk_at dksX3_winner_0 19 rfl rfl)
theorem dX3_winner_20 : decode cX3_winner 20 = .ok (.getfield 44, 3) := dk_180 0 44 (dk_at dksX3_winner_0 20 rfl rfl)
theorem dX3_winner_23 : decode cX3_winner 23 = .ok (.iload_n 1, 1) := dk_27 (dk_at dksX3_winner_0 23 rfl rfl)
theorem dX3_winner_24 : decode cX3_winner 24 = .ok (.iaload, 1) := dk_46 (dk_at dksX3_winner_1 0 rfl rfl)
theorem dX3_winner_25 : decode cX3_winner 25 = .ok (.ireturn, 1) := dk_172 (dk_at dksX3_winner_1 1 rfl rfl)
abbrev cX3_margin : ByteArray := prog_11_method_61_code
def yX3_margin : MethodName := ⟨RX3, "margin", "(I)I"⟩
def dkwX3_margin_4 : List UInt8 := [167, 255, 203, 42, 180, 0, 47, 28, 50, 27, 46, 29, 100, 172]
abbrev dktX3_margin_4 : List UInt8 := dkwX3_margin_4 ++ []
def dkwX3_margin_3 : List UInt8 := [21, 4, 50, 27, 46, 29, 164, 0, 13, 42, 180, 0, 47, 21, 4, 50, 27, 46, 62, 132, 4, 1]
abbrev dktX3_margin_3 : List UInt8 := dkwX3_margin_3 ++ dktX3_margin_4
def dkwX3_margin_2 : List UInt8 := [162, 0, 48, 21, 4, 28, 159, 0, 36, 42, 21, 4, 27, 182, 1, 2, 153, 0, 26, 42, 180, 0, 47]
abbrev dktX3_margin_2 : List UInt8 := dkwX3_margin_2 ++ dktX3_margin_3
def dkwX3_margin_1 : List UInt8 := [46, 61, 3, 62, 28, 2, 160, 0, 5, 2, 172, 3, 54, 4, 21, 4, 42, 180, 0, 17, 4, 46]
abbrev dktX3_margin_1 : List UInt8 := dkwX3_margin_1 ++ dktX3_margin_2
def dkwX3_margin_0 : List UInt8 := [42, 3, 181, 0, 59, 42, 27, 182, 1, 24, 153, 0, 5, 3, 172, 42, 182, 1, 15, 42, 180, 0, 44, 27]
abbrev dktX3_margin_0 : List UInt8 := dkwX3_margin_0 ++ dktX3_margin_1
theorem dksX3_margin_0 : cX3_margin.data.toList.drop 0 = dktX3_margin_0 := by decide +kernel
theorem dksX3_margin_1 : cX3_margin.data.toList.drop 24 = dktX3_margin_1 := dk_seg dksX3_margin_0 24 rfl rfl
theorem dksX3_margin_2 : cX3_margin.data.toList.drop 46 = dktX3_margin_2 := dk_seg dksX3_margin_1 22 rfl rfl
theorem dksX3_margin_3 : cX3_margin.data.toList.drop 69 = dktX3_margin_3 := dk_seg dksX3_margin_2 23 rfl rfl
theorem dksX3_margin_4 : cX3_margin.data.toList.drop 91 = dktX3_margin_4 := dk_seg dksX3_margin_3 22 rfl rfl
theorem dX3_margin_0 : decode cX3_margin 0 = .ok (.aload_n 0, 1) := dk_42 (dk_at dksX3_margin_0 0 rfl rfl)
theorem dX3_margin_1 : decode cX3_margin 1 = .ok (.iconst 0, 1) := dk_3 (dk_at dksX3_margin_0 1 rfl rfl)
theorem dX3_margin_2 : decode cX3_margin 2 = .ok (.putfield 59, 3) := dk_181 0 59 (dk_at dksX3_margin_0 2 rfl rfl)
theorem dX3_margin_5 : decode cX3_margin 5 = .ok (.aload_n 0, 1) := dk_42 (dk_at dksX3_margin_0 5 rfl rfl)
theorem dX3_margin_6 : decode cX3_margin 6 = .ok (.iload_n 1, 1) := dk_27 (dk_at dksX3_margin_0 6 rfl rfl)
theorem dX3_margin_7 : decode cX3_margin 7 = .ok (.invokevirtual 280, 3) := dk_182 1 24 (dk_at dksX3_margin_0 7 rfl rfl)
theorem dX3_margin_10 : decode cX3_margin 10 = .ok (.ifCond .eq 5, 3) := dk_153 0 5 (dk_at dksX3_margin_0 10 rfl rfl)
theorem dX3_margin_13 : decode cX3_margin 13 = .ok (.iconst 0, 1) := dk_3 (dk_at dksX3_margin_0 13 rfl rfl)
theorem dX3_margin_14 : decode cX3_margin 14 = .ok (.ireturn, 1) := dk_172 (dk_at dksX3_margin_0 14 rfl rfl)
theorem dX3_margin_15 : decode cX3_margin 15 = .ok (.aload_n 0, 1) := dk_42 (dk_at dksX3_margin_0 15 rfl rfl)
theorem dX3_margin_16 : decode cX3_margin 16 = .ok (.invokevirtual 271, 3) := dk_182 1 15 (dk_at dksX3_margin_0 16 rfl rfl)
theorem dX3_margin_19 : decode cX3_margin 19 = .ok (.aload_n 0, 1) := dk_42 (dk_at dksX3_margin_0 19 rfl rfl)
theorem dX3_margin_20 : decode cX3_margin 20 = .ok (.getfield 44, 3) := dk_180 0 44 (dk_at dksX3_margin_0 20 rfl rfl)
theorem dX3_margin_23 : decode cX3_margin 23 = .ok (.iload_n 1, 1) := dk_27 (dk_at dksX3_margin_0 23 rfl rfl)
theorem dX3_margin_24 : decode cX3_margin 24 = .ok (.iaload, 1) := dk_46 (dk_at dksX3_margin_1 0 rfl rfl)
theorem dX3_margin_25 : decode cX3_margin 25 = .ok (.istore_n 2, 1) := dk_61 (dk_at dksX3_margin_1 1 rfl rfl)
theorem dX3_margin_26 : decode cX3_margin 26 = .ok (.iconst 0, 1) := dk_3 (dk_at dksX3_margin_1 2 rfl rfl)
theorem dX3_margin_27 : decode cX3_margin 27 = .ok (.istore_n 3, 1) := dk_62 (dk_at dksX3_margin_1 3 rfl rfl)
theorem dX3_margin_28 : decode cX3_margin 28 = .ok (.iload_n 2, 1) := dk_28 (dk_at dksX3_margin_1 4 rfl rfl)
theorem dX3_margin_29 : decode cX3_margin 29 = .ok (.iconst (-1), 1) := dk_2 (dk_at dksX3_margin_1 5 rfl rfl)
theorem dX3_margin_30 : decode cX3_margin 30 = .ok (.if_icmp .ne 5, 3) := dk_160 0 5 (dk_at dksX3_margin_1 6 rfl rfl)
theorem dX3_margin_33 : decode cX3_margin 33 = .ok (.iconst (-1), 1) := dk_2 (dk_at dksX3_margin_1 9 rfl rfl)
theorem dX3_margin_34 : decode cX3_margin 34 = .ok (.ireturn, 1) := dk_172 (dk_at dksX3_margin_1 10 rfl rfl)
theorem dX3_margin_35 : decode cX3_margin 35 = .ok (.iconst 0, 1) := dk_3 (dk_at dksX3_margin_1 11 rfl rfl)
theorem dX3_margin_36 : decode cX3_margin 36 = .ok (.istore 4, 2) := dk_54 4 (dk_at dksX3_margin_1 12 rfl rfl)
theorem dX3_margin_38 : decode cX3_margin 38 = .ok (.iload 4, 2) := dk_21 4 (dk_at dksX3_margin_1 14 rfl rfl)
theorem dX3_margin_40 : decode cX3_margin 40 = .ok (.aload_n 0, 1) := dk_42 (dk_at dksX3_margin_1 16 rfl rfl)
theorem dX3_margin_41 : decode cX3_margin 41 = .ok (.getfield 17, 3) := dk_180 0 17 (dk_at dksX3_margin_1 17 rfl rfl)
theorem dX3_margin_44 : decode cX3_margin 44 = .ok (.iconst 1, 1) := dk_4 (dk_at dksX3_margin_1 20 rfl rfl)
theorem dX3_margin_45 : decode cX3_margin 45 = .ok (.iaload, 1) := dk_46 (dk_at dksX3_margin_1 21 rfl rfl)
theorem dX3_margin_46 : decode cX3_margin 46 = .ok (.if_icmp .ge 48, 3) := dk_162 0 48 (dk_at dksX3_margin_2 0 rfl rfl)
theorem dX3_margin_49 : decode cX3_margin 49 = .ok (.iload 4, 2) := dk_21 4 (dk_at dksX3_margin_2 3 rfl rfl)
theorem dX3_margin_51 : decode cX3_margin 51 = .ok (.iload_n 2, 1) := dk_28 (dk_at dksX3_margin_2 5 rfl rfl)
theorem dX3_margin_52 : decode cX3_margin 52 = .ok (.if_icmp .eq 36, 3) := dk_159 0 36 (dk_at dksX3_margin_2 6 rfl rfl)
theorem dX3_margin_55 : decode cX3_margin 55 = .ok (.aload_n 0, 1) := dk_42 (dk_at dksX3_margin_2 9 rfl rfl)
theorem dX3_margin_56 : decode cX3_margin 56 = .ok (.iload 4, 2) := dk_21 4 (dk_at dksX3_margin_2 10 rfl rfl)
theorem dX3_margin_58 : decode cX3_margin 58 = .ok (.iload_n 1, 1) := dk_27 (dk_at dksX3_margin_2 12 rfl rfl)
theorem dX3_margin_59 : decode cX3_margin 59 = .ok (.invokevirtual 258, 3) := dk_182 1 2 (dk_at dksX3_margin_2 13 rfl rfl)
theorem dX3_margin_62 : decode cX3_margin 62 = .ok (.ifCond .eq 26, 3) := dk_153 0 26 (dk_at dksX3_margin_2 16 rfl rfl)
theorem dX3_margin_65 : decode cX3_margin 65 = .ok (.aload_n 0, 1) := dk_42 (dk_at dksX3_margin_2 19 rfl rfl)
theorem dX3_margin_66 : decode cX3_margin 66 = .ok (.getfield 47, 3) := dk_180 0 47 (dk_at dksX3_margin_2 20 rfl rfl)
theorem dX3_margin_69 : decode cX3_margin 69 = .ok (.iload 4, 2) := dk_21 4 (dk_at dksX3_margin_3 0 rfl rfl)
theorem dX3_margin_71 : decode cX3_margin 71 = .ok (.aaload, 1) := dk_50 (dk_at dksX3_margin_3 2 rfl rfl)
theorem dX3_margin_72 : decode cX3_margin 72 = .ok (.iload_n 1, 1) := dk_27 (dk_at dksX3_margin_3 3 rfl rfl)
theorem dX3_margin_73 : decode cX3_margin 73 = .ok (.iaload, 1) := dk_46 (dk_at dksX3_margin_3 4 rfl rfl)
theorem dX3_margin_74 : decode cX3_margin 74 = .ok (.iload_n 3, 1) := dk_29 (dk_at dksX3_margin_3 5 rfl rfl)
theorem dX3_margin_75 : decode cX3_margin 75 = .ok (.if_icmp .le 13, 3) := dk_164 0 13 (dk_at dksX3_margin_3 6 rfl rfl)
theorem dX3_margin_78 : decode cX3_margin 78 = .ok (.aload_n 0, 1) := dk_42 (dk_at dksX3_margin_3 9 rfl rfl)
theorem dX3_margin_79 : decode cX3_margin 79 = .ok (.getfield 47, 3) := dk_180 0 47 (dk_at dksX3_margin_3 10 rfl rfl)
theorem dX3_margin_82 : decode cX3_margin 82 = .ok (.iload 4, 2) := dk_21 4 (dk_at dksX3_margin_3 13 rfl rfl)
theorem dX3_margin_84 : decode cX3_margin 84 = .ok (.aaload, 1) := dk_50 (dk_at dksX3_margin_3 15 rfl rfl)
theorem dX3_margin_85 : decode cX3_margin 85 = .ok (.iload_n 1, 1) := dk_27 (dk_at dksX3_margin_3 16 rfl rfl)
theorem dX3_margin_86 : decode cX3_margin 86 = .ok (.iaload, 1) := dk_46 (dk_at dksX3_margin_3 17 rfl rfl)
theorem dX3_margin_87 : decode cX3_margin 87 = .ok (.istore_n 3, 1) := dk_62 (dk_at dksX3_margin_3 18 rfl rfl)
theorem dX3_margin_88 : decode cX3_margin 88 = .ok (.iinc 4 1, 3) := dk_132 4 1 (dk_at dksX3_margin_3 19 rfl rfl)
theorem dX3_margin_91 : decode cX3_margin 91 = .ok (.goto (-53), 3) := dk_167 255 203 (dk_at dksX3_margin_4 0 rfl rfl)
theorem dX3_margin_94 : decode cX3_margin 94 = .ok (.aload_n 0, 1) := dk_42 (dk_at dksX3_margin_4 3 rfl rfl)
theorem dX3_margin_95 : decode cX3_margin 95 = .ok (.getfield 47, 3) := dk_180 0 47 (dk_at dksX3_margin_4 4 rfl rfl)
theorem dX3_margin_98 : decode cX3_margin 98 = .ok (.iload_n 2, 1) := dk_28 (dk_at dksX3_margin_4 7 rfl rfl)
theorem dX3_margin_99 : decode cX3_margin 99 = .ok (.aaload, 1) := dk_50 (dk_at dksX3_margin_4 8 rfl rfl)
theorem dX3_margin_100 : decode cX3_margin 100 = .ok (.iload_n 1, 1) := dk_27 (dk_at dksX3_margin_4 9 rfl rfl)
theorem dX3_margin_101 : decode cX3_margin 101 = .ok (.iaload, 1) := dk_46 (dk_at dksX3_margin_4 10 rfl rfl)
theorem dX3_margin_102 : decode cX3_margin 102 = .ok (.iload_n 3, 1) := dk_29 (dk_at dksX3_margin_4 11 rfl rfl)
theorem dX3_margin_103 : decode cX3_margin 103 = .ok (.isub, 1) := dk_100 (dk_at dksX3_margin_4 12 rfl rfl)
theorem dX3_margin_104 : decode cX3_margin 104 = .ok (.ireturn, 1) := dk_172 (dk_at dksX3_margin_4 13 rfl rfl)
abbrev cX3_binding : ByteArray := prog_11_method_62_code
def yX3_binding : MethodName := ⟨RX3, "binding", "(II)I"⟩
def dkwX3_binding_1 : List UInt8 := [28, 46, 172]
abbrev dktX3_binding_1 : List UInt8 := dkwX3_binding_1 ++ []
def dkwX3_binding_0 : List UInt8 := [42, 3, 181, 0, 59, 42, 27, 28, 182, 1, 30, 153, 0, 7, 3, 167, 0, 11, 42, 180, 0, 50, 27, 50]
abbrev dktX3_binding_0 : List UInt8 := dkwX3_binding_0 ++ dktX3_binding_1
theorem dksX3_binding_0 : cX3_binding.data.toList.drop 0 = dktX3_binding_0 := by decide +kernel
theorem dksX3_binding_1 : cX3_binding.data.toList.drop 24 = dktX3_binding_1 := dk_seg dksX3_binding_0 24 rfl rfl
theorem dX3_binding_0 : decode cX3_binding 0 = .ok (.aload_n 0, 1) := dk_42 (dk_at dksX3_binding_0 0 rfl rfl)
theorem dX3_binding_1 : decode cX3_binding 1 = .ok (.iconst 0, 1) := dk_3 (dk_at dksX3_binding_0 1 rfl rfl)
theorem dX3_binding_2 : decode cX3_binding 2 = .ok (.putfield 59, 3) := dk_181 0 59 (dk_at dksX3_binding_0 2 rfl rfl)
theorem dX3_binding_5 : decode cX3_binding 5 = .ok (.aload_n 0, 1) := dk_42 (dk_at dksX3_binding_0 5 rfl rfl)
theorem dX3_binding_6 : decode cX3_binding 6 = .ok (.iload_n 1, 1) := dk_27 (dk_at dksX3_binding_0 6 rfl rfl)
theorem dX3_binding_7 : decode cX3_binding 7 = .ok (.iload_n 2, 1) := dk_28 (dk_at dksX3_binding_0 7 rfl rfl)
theorem dX3_binding_8 : decode cX3_binding 8 = .ok (.invokevirtual 286, 3) := dk_182 1 30 (dk_at dksX3_binding_0 8 rfl rfl)
theorem dX3_binding_11 : decode cX3_binding 11 = .ok (.ifCond .eq 7, 3) := dk_153 0 7 (dk_at dksX3_binding_0 11 rfl rfl)
theorem dX3_binding_14 : decode cX3_binding 14 = .ok (.iconst 0, 1) := dk_3 (dk_at dksX3_binding_0 14 rfl rfl)
theorem dX3_binding_15 : decode cX3_binding 15 = .ok (.goto 11, 3) := dk_167 0 11 (dk_at dksX3_binding_0 15 rfl rfl)
theorem dX3_binding_18 : decode cX3_binding 18 = .ok (.aload_n 0, 1) := dk_42 (dk_at dksX3_binding_0 18 rfl rfl)
theorem dX3_binding_19 : decode cX3_binding 19 = .ok (.getfield 50, 3) := dk_180 0 50 (dk_at dksX3_binding_0 19 rfl rfl)
theorem dX3_binding_22 : decode cX3_binding 22 = .ok (.iload_n 1, 1) := dk_27 (dk_at dksX3_binding_0 22 rfl rfl)
theorem dX3_binding_23 : decode cX3_binding 23 = .ok (.aaload, 1) := dk_50 (dk_at dksX3_binding_0 23 rfl rfl)
theorem dX3_binding_24 : decode cX3_binding 24 = .ok (.iload_n 2, 1) := dk_28 (dk_at dksX3_binding_1 0 rfl rfl)
theorem dX3_binding_25 : decode cX3_binding 25 = .ok (.iaload, 1) := dk_46 (dk_at dksX3_binding_1 1 rfl rfl)
theorem dX3_binding_26 : decode cX3_binding 26 = .ok (.ireturn, 1) := dk_172 (dk_at dksX3_binding_1 2 rfl rfl)
abbrev cX3_minority : ByteArray := prog_11_method_63_code
def yX3_minority : MethodName := ⟨RX3, "minority", "(I)I"⟩
def dkwX3_minority_3 : List UInt8 := [28, 172]
abbrev dktX3_minority_3 : List UInt8 := dkwX3_minority_3 ++ []
def dkwX3_minority_2 : List UInt8 := [27, 46, 42, 180, 0, 44, 27, 46, 159, 0, 7, 4, 167, 0, 4, 3, 96, 61, 132, 3, 1, 167, 255, 210]
abbrev dktX3_minority_2 : List UInt8 := dkwX3_minority_2 ++ dktX3_minority_3
def dkwX3_minority_1 : List UInt8 := [42, 180, 0, 17, 4, 46, 162, 0, 42, 28, 42, 29, 182, 0, 232, 153, 0, 24, 42, 180, 0, 50, 29, 50]
abbrev dktX3_minority_1 : List UInt8 := dkwX3_minority_1 ++ dktX3_minority_2
def dkwX3_minority_0 : List UInt8 := [42, 3, 181, 0, 59, 42, 27, 182, 1, 24, 153, 0, 5, 3, 172, 42, 182, 1, 15, 3, 61, 3, 62, 29]
abbrev dktX3_minority_0 : List UInt8 := dkwX3_minority_0 ++ dktX3_minority_1
theorem dksX3_minority_0 : cX3_minority.data.toList.drop 0 = dktX3_minority_0 := by decide +kernel
theorem dksX3_minority_1 : cX3_minority.data.toList.drop 24 = dktX3_minority_1 := dk_seg dksX3_minority_0 24 rfl rfl
theorem dksX3_minority_2 : cX3_minority.data.toList.drop 48 = dktX3_minority_2 := dk_seg dksX3_minority_1 24 rfl rfl
theorem dksX3_minority_3 : cX3_minority.data.toList.drop 72 = dktX3_minority_3 := dk_seg dksX3_minority_2 24 rfl rfl
theorem dX3_minority_0 : decode cX3_minority 0 = .ok (.aload_n 0, 1) := dk_42 (dk_at dksX3_minority_0 0 rfl rfl)
theorem dX3_minority_1 : decode cX3_minority 1 = .ok (.iconst 0, 1) := dk_3 (dk_at dksX3_minority_0 1 rfl rfl)
theorem dX3_minority_2 : decode cX3_minority 2 = .ok (.putfield 59, 3) := dk_181 0 59 (dk_at dksX3_minority_0 2 rfl rfl)
theorem dX3_minority_5 : decode cX3_minority 5 = .ok (.aload_n 0, 1) := dk_42 (dk_at dksX3_minority_0 5 rfl rfl)
theorem dX3_minority_6 : decode cX3_minority 6 = .ok (.iload_n 1, 1) := dk_27 (dk_at dksX3_minority_0 6 rfl rfl)
theorem dX3_minority_7 : decode cX3_minority 7 = .ok (.invokevirtual 280, 3) := dk_182 1 24 (dk_at dksX3_minority_0 7 rfl rfl)
theorem dX3_minority_10 : decode cX3_minority 10 = .ok (.ifCond .eq 5, 3) := dk_153 0 5 (dk_at dksX3_minority_0 10 rfl rfl)
theorem dX3_minority_13 : decode cX3_minority 13 = .ok (.iconst 0, 1) := dk_3 (dk_at dksX3_minority_0 13 rfl rfl)
theorem dX3_minority_14 : decode cX3_minority 14 = .ok (.ireturn, 1) := dk_172 (dk_at dksX3_minority_0 14 rfl rfl)
theorem dX3_minority_15 : decode cX3_minority 15 = .ok (.aload_n 0, 1) := dk_42 (dk_at dksX3_minority_0 15 rfl rfl)
theorem dX3_minority_16 : decode cX3_minority 16 = .ok (.invokevirtual 271, 3) := dk_182 1 15 (dk_at dksX3_minority_0 16 rfl rfl)
theorem dX3_minority_19 : decode cX3_minority 19 = .ok (.iconst 0, 1) := dk_3 (dk_at dksX3_minority_0 19 rfl rfl)
theorem dX3_minority_20 : decode cX3_minority 20 = .ok (.istore_n 2, 1) := dk_61 (dk_at dksX3_minority_0 20 rfl rfl)
theorem dX3_minority_21 : decode cX3_minority 21 = .ok (.iconst 0, 1) := dk_3 (dk_at dksX3_minority_0 21 rfl rfl)
theorem dX3_minority_22 : decode cX3_minority 22 = .ok (.istore_n 3, 1) := dk_62 (dk_at dksX3_minority_0 22 rfl rfl)
theorem dX3_minority_23 : decode cX3_minority 23 = .ok (.iload_n 3, 1) := dk_29 (dk_at dksX3_minority_0 23 rfl rfl)
theorem dX3_minority_24 : decode cX3_minority 24 = .ok (.aload_n 0, 1) := dk_42 (dk_at dksX3_minority_1 0 rfl rfl)
theorem dX3_minority_25 : decode cX3_minority 25 = .ok (.getfield 17, 3) := dk_180 0 17 (dk_at dksX3_minority_1 1 rfl rfl)
theorem dX3_minority_28 : decode cX3_minority 28 = .ok (.iconst 1, 1) := dk_4 (dk_at dksX3_minority_1 4 rfl rfl)
theorem dX3_minority_29 : decode cX3_minority 29 = .ok (.iaload, 1) := dk_46 (dk_at dksX3_minority_1 5 rfl rfl)
theorem dX3_minority_30 : decode cX3_minority 30 = .ok (.if_icmp .ge 42, 3) := dk_162 0 42 (dk_at dksX3_minority_1 6 rfl rfl)
theorem dX3_minority_33 : decode cX3_minority 33 = .ok (.iload_n 2, 1) := dk_28 (dk_at dksX3_minority_1 9 rfl rfl)
theorem dX3_minority_34 : decode cX3_minority 34 = .ok (.aload_n 0, 1) := dk_42 (dk_at dksX3_minority_1 10 rfl rfl)
theorem dX3_minority_35 : decode cX3_minority 35 = .ok (.iload_n 3, 1) := dk_29 (dk_at dksX3_minority_1 11 rfl rfl)
theorem dX3_minority_36 : decode cX3_minority 36 = .ok (.invokevirtual 232, 3) := dk_182 0 232 (dk_at dksX3_minority_1 12 rfl rfl)
theorem dX3_minority_39 : decode cX3_minority 39 = .ok (.ifCond .eq 24, 3) := dk_153 0 24 (dk_at dksX3_minority_1 15 rfl rfl)
theorem dX3_minority_42 : decode cX3_minority 42 = .ok (.aload_n 0, 1) := dk_42 (dk_at dksX3_minority_1 18 rfl rfl)
theorem dX3_minority_43 : decode cX3_minority 43 = .ok (.getfield 50, 3) := dk_180 0 50 (dk_at dksX3_minority_1 19 rfl rfl)
theorem dX3_minority_46 : decode cX3_minority 46 = .ok (.iload_n 3, 1) := dk_29 (dk_at dksX3_minority_1 22 rfl rfl)
theorem dX3_minority_47 : decode cX3_minority 47 = .ok (.aaload, 1) := dk_50 (dk_at dksX3_minority_1 23 rfl rfl)
theorem dX3_minority_48 : decode cX3_minority 48 = .ok (.iload_n 1, 1) := dk_27 (dk_at dksX3_minority_2 0 rfl rfl)
theorem dX3_minority_49 : decode cX3_minority 49 = .ok (.iaload, 1) := dk_46 (dk_at dksX3_minority_2 1 rfl rfl)
theorem dX3_minority_50 : decode cX3_minority 50 = .ok (.aload_n 0, 1) := dk_42 (dk_at dksX3_minority_2 2 rfl rfl)
theorem dX3_minority_51 : decode cX3_minority 51 = .ok (.getfield 44, 3) := dk_180 0 44 (dk_at dksX3_minority_2 3 rfl rfl)
theorem dX3_minority_54 : decode cX3_minority 54 = .ok (.iload_n 1, 1) := dk_27 (dk_at dksX3_minority_2 6 rfl rfl)
theorem dX3_minority_55 : decode cX3_minority 55 = .ok (.iaload, 1) := dk_46 (dk_at dksX3_minority_2 7 rfl rfl)
theorem dX3_minority_56 : decode cX3_minority 56 = .ok (.if_icmp .eq 7, 3) := dk_159 0 7 (dk_at dksX3_minority_2 8 rfl rfl)
theorem dX3_minority_59 : decode cX3_minority 59 = .ok (.iconst 1, 1) := dk_4 (dk_at dksX3_minority_2 11 rfl rfl)
theorem dX3_minority_60 : decode cX3_minority 60 = .ok (.goto 4, 3) := dk_167 0 4 (dk_at dksX3_minority_2 12 rfl rfl)
theorem dX3_minority_63 : decode cX3_minority 63 = .ok (.iconst 0, 1) := dk_3 (dk_at dksX3_minority_2 15 rfl rfl)
theorem dX3_minority_64 : decode cX3_minority 64 = .ok (.iadd, 1) := dk_96 (dk_at dksX3_minority_2 16 rfl rfl)
theorem dX3_minority_65 : decode cX3_minority 65 = .ok (.istore_n 2, 1) := dk_61 (dk_at dksX3_minority_2 17 rfl rfl)
theorem dX3_minority_66 : decode cX3_minority 66 = .ok (.iinc 3 1, 3) := dk_132 3 1 (dk_at dksX3_minority_2 18 rfl rfl)
theorem dX3_minority_69 : decode cX3_minority 69 = .ok (.goto (-46), 3) := dk_167 255 210 (dk_at dksX3_minority_2 21 rfl rfl)
theorem dX3_minority_72 : decode cX3_minority 72 = .ok (.iload_n 2, 1) := dk_28 (dk_at dksX3_minority_3 0 rfl rfl)
theorem dX3_minority_73 : decode cX3_minority 73 = .ok (.ireturn, 1) := dk_172 (dk_at dksX3_minority_3 1 rfl rfl)
abbrev cX3_call : ByteArray := prog_11_method_64_code
def yX3_call : MethodName := ⟨RX3, "call", "(II)I"⟩
def dkwX3_call_1 : List UInt8 := [172]
abbrev dktX3_call_1 : List UInt8 := dkwX3_call_1 ++ []
def dkwX3_call_0 : List UInt8 := [42, 3, 181, 0, 59, 42, 27, 28, 182, 1, 30, 153, 0, 7, 3, 167, 0, 9, 42, 27, 28, 182, 1, 33]
abbrev dktX3_call_0 : List UInt8 := dkwX3_call_0 ++ dktX3_call_1
theorem dksX3_call_0 : cX3_call.data.toList.drop 0 = dktX3_call_0 := by decide +kernel
theorem dksX3_call_1 : cX3_call.data.toList.drop 24 = dktX3_call_1 := dk_seg dksX3_call_0 24 rfl rfl
theorem dX3_call_0 : decode cX3_call 0 = .ok (.aload_n 0, 1) := dk_42 (dk_at dksX3_call_0 0 rfl rfl)
theorem dX3_call_1 : decode cX3_call 1 = .ok (.iconst 0, 1) := dk_3 (dk_at dksX3_call_0 1 rfl rfl)
theorem dX3_call_2 : decode cX3_call 2 = .ok (.putfield 59, 3) := dk_181 0 59 (dk_at dksX3_call_0 2 rfl rfl)
theorem dX3_call_5 : decode cX3_call 5 = .ok (.aload_n 0, 1) := dk_42 (dk_at dksX3_call_0 5 rfl rfl)
theorem dX3_call_6 : decode cX3_call 6 = .ok (.iload_n 1, 1) := dk_27 (dk_at dksX3_call_0 6 rfl rfl)
theorem dX3_call_7 : decode cX3_call 7 = .ok (.iload_n 2, 1) := dk_28 (dk_at dksX3_call_0 7 rfl rfl)
theorem dX3_call_8 : decode cX3_call 8 = .ok (.invokevirtual 286, 3) := dk_182 1 30 (dk_at dksX3_call_0 8 rfl rfl)
theorem dX3_call_11 : decode cX3_call 11 = .ok (.ifCond .eq 7, 3) := dk_153 0 7 (dk_at dksX3_call_0 11 rfl rfl)
theorem dX3_call_14 : decode cX3_call 14 = .ok (.iconst 0, 1) := dk_3 (dk_at dksX3_call_0 14 rfl rfl)
theorem dX3_call_15 : decode cX3_call 15 = .ok (.goto 9, 3) := dk_167 0 9 (dk_at dksX3_call_0 15 rfl rfl)
theorem dX3_call_18 : decode cX3_call 18 = .ok (.aload_n 0, 1) := dk_42 (dk_at dksX3_call_0 18 rfl rfl)
theorem dX3_call_19 : decode cX3_call 19 = .ok (.iload_n 1, 1) := dk_27 (dk_at dksX3_call_0 19 rfl rfl)
theorem dX3_call_20 : decode cX3_call 20 = .ok (.iload_n 2, 1) := dk_28 (dk_at dksX3_call_0 20 rfl rfl)
theorem dX3_call_21 : decode cX3_call 21 = .ok (.invokevirtual 289, 3) := dk_182 1 33 (dk_at dksX3_call_0 21 rfl rfl)
theorem dX3_call_24 : decode cX3_call 24 = .ok (.ireturn, 1) := dk_172 (dk_at dksX3_call_1 0 rfl rfl)
abbrev cX3_follow : ByteArray := prog_11_method_47_code
def yX3_follow : MethodName := ⟨RX3, "follow", "(II)I"⟩
def dkwX3_follow_5 : List UInt8 := [172, 21, 5, 62, 16, 254, 21, 6, 100, 54, 4, 167, 255, 160]
abbrev dktX3_follow_5 : List UInt8 := dkwX3_follow_5 ++ []
def dkwX3_follow_4 : List UInt8 := [180, 0, 17, 21, 5, 184, 0, 174, 16, 12, 96, 21, 4, 96, 46, 54, 6, 21, 6, 155, 0, 6, 21, 6]
abbrev dktX3_follow_4 : List UInt8 := dkwX3_follow_4 ++ dktX3_follow_5
def dkwX3_follow_3 : List UInt8 := [46, 54, 5, 21, 5, 2, 160, 0, 5, 2, 172, 42, 89, 180, 1, 18, 4, 96, 181, 1, 18, 42]
abbrev dktX3_follow_3 : List UInt8 := dkwX3_follow_3 ++ dktX3_follow_4
def dkwX3_follow_2 : List UInt8 := [16, 254, 172, 42, 180, 0, 56, 29, 92, 46, 4, 21, 4, 120, 128, 79, 42, 180, 0, 50, 29, 50, 21, 4]
abbrev dktX3_follow_2 : List UInt8 := dkwX3_follow_2 ++ dktX3_follow_3
def dkwX3_follow_1 : List UInt8 := [167, 255, 240, 27, 62, 28, 54, 4, 42, 180, 0, 56, 29, 46, 21, 4, 122, 4, 126, 4, 160, 0, 6]
abbrev dktX3_follow_1 : List UInt8 := dkwX3_follow_1 ++ dktX3_follow_2
def dkwX3_follow_0 : List UInt8 := [42, 3, 181, 1, 18, 3, 62, 29, 16, 8, 162, 0, 16, 42, 180, 0, 56, 29, 3, 79, 132, 3, 1]
abbrev dktX3_follow_0 : List UInt8 := dkwX3_follow_0 ++ dktX3_follow_1
theorem dksX3_follow_0 : cX3_follow.data.toList.drop 0 = dktX3_follow_0 := by decide +kernel
theorem dksX3_follow_1 : cX3_follow.data.toList.drop 23 = dktX3_follow_1 := dk_seg dksX3_follow_0 23 rfl rfl
theorem dksX3_follow_2 : cX3_follow.data.toList.drop 46 = dktX3_follow_2 := dk_seg dksX3_follow_1 23 rfl rfl
theorem dksX3_follow_3 : cX3_follow.data.toList.drop 70 = dktX3_follow_3 := dk_seg dksX3_follow_2 24 rfl rfl
theorem dksX3_follow_4 : cX3_follow.data.toList.drop 92 = dktX3_follow_4 := dk_seg dksX3_follow_3 22 rfl rfl
theorem dksX3_follow_5 : cX3_follow.data.toList.drop 116 = dktX3_follow_5 := dk_seg dksX3_follow_4 24 rfl rfl
theorem dX3_follow_0 : decode cX3_follow 0 = .ok (.aload_n 0, 1) := dk_42 (dk_at dksX3_follow_0 0 rfl rfl)
theorem dX3_follow_1 : decode cX3_follow 1 = .ok (.iconst 0, 1) := dk_3 (dk_at dksX3_follow_0 1 rfl rfl)
theorem dX3_follow_2 : decode cX3_follow 2 = .ok (.putfield 274, 3) := dk_181 1 18 (dk_at dksX3_follow_0 2 rfl rfl)
theorem dX3_follow_5 : decode cX3_follow 5 = .ok (.iconst 0, 1) := dk_3 (dk_at dksX3_follow_0 5 rfl rfl)
theorem dX3_follow_6 : decode cX3_follow 6 = .ok (.istore_n 3, 1) := dk_62 (dk_at dksX3_follow_0 6 rfl rfl)
theorem dX3_follow_7 : decode cX3_follow 7 = .ok (.iload_n 3, 1) := dk_29 (dk_at dksX3_follow_0 7 rfl rfl)
theorem dX3_follow_8 : decode cX3_follow 8 = .ok (.bipush 8, 2) := dk_16 8 (dk_at dksX3_follow_0 8 rfl rfl)
theorem dX3_follow_10 : decode cX3_follow 10 = .ok (.if_icmp .ge 16, 3) := dk_162 0 16 (dk_at dksX3_follow_0 10 rfl rfl)
theorem dX3_follow_13 : decode cX3_follow 13 = .ok (.aload_n 0, 1) := dk_42 (dk_at dksX3_follow_0 13 rfl rfl)
theorem dX3_follow_14 : decode cX3_follow 14 = .ok (.getfield 56, 3) := dk_180 0 56 (dk_at dksX3_follow_0 14 rfl rfl)
theorem dX3_follow_17 : decode cX3_follow 17 = .ok (.iload_n 3, 1) := dk_29 (dk_at dksX3_follow_0 17 rfl rfl)
theorem dX3_follow_18 : decode cX3_follow 18 = .ok (.iconst 0, 1) := dk_3 (dk_at dksX3_follow_0 18 rfl rfl)
theorem dX3_follow_19 : decode cX3_follow 19 = .ok (.iastore, 1) := dk_79 (dk_at dksX3_follow_0 19 rfl rfl)
theorem dX3_follow_20 : decode cX3_follow 20 = .ok (.iinc 3 1, 3) := dk_132 3 1 (dk_at dksX3_follow_0 20 rfl rfl)
theorem dX3_follow_23 : decode cX3_follow 23 = .ok (.goto (-16), 3) := dk_167 255 240 (dk_at dksX3_follow_1 0 rfl rfl)
theorem dX3_follow_26 : decode cX3_follow 26 = .ok (.iload_n 1, 1) := dk_27 (dk_at dksX3_follow_1 3 rfl rfl)
theorem dX3_follow_27 : decode cX3_follow 27 = .ok (.istore_n 3, 1) := dk_62 (dk_at dksX3_follow_1 4 rfl rfl)
theorem dX3_follow_28 : decode cX3_follow 28 = .ok (.iload_n 2, 1) := dk_28 (dk_at dksX3_follow_1 5 rfl rfl)
theorem dX3_follow_29 : decode cX3_follow 29 = .ok (.istore 4, 2) := dk_54 4 (dk_at dksX3_follow_1 6 rfl rfl)
theorem dX3_follow_31 : decode cX3_follow 31 = .ok (.aload_n 0, 1) := dk_42 (dk_at dksX3_follow_1 8 rfl rfl)
theorem dX3_follow_32 : decode cX3_follow 32 = .ok (.getfield 56, 3) := dk_180 0 56 (dk_at dksX3_follow_1 9 rfl rfl)
theorem dX3_follow_35 : decode cX3_follow 35 = .ok (.iload_n 3, 1) := dk_29 (dk_at dksX3_follow_1 12 rfl rfl)
theorem dX3_follow_36 : decode cX3_follow 36 = .ok (.iaload, 1) := dk_46 (dk_at dksX3_follow_1 13 rfl rfl)
theorem dX3_follow_37 : decode cX3_follow 37 = .ok (.iload 4, 2) := dk_21 4 (dk_at dksX3_follow_1 14 rfl rfl)
theorem dX3_follow_39 : decode cX3_follow 39 = .ok (.ishr, 1) := dk_122 (dk_at dksX3_follow_1 16 rfl rfl)
theorem dX3_follow_40 : decode cX3_follow 40 = .ok (.iconst 1, 1) := dk_4 (dk_at dksX3_follow_1 17 rfl rfl)
theorem dX3_follow_41 : decode cX3_follow 41 = .ok (.iand, 1) := dk_126 (dk_at dksX3_follow_1 18 rfl rfl)
theorem dX3_follow_42 : decode cX3_follow 42 = .ok (.iconst 1, 1) := dk_4 (dk_at dksX3_follow_1 19 rfl rfl)
theorem dX3_follow_43 : decode cX3_follow 43 = .ok (.if_icmp .ne 6, 3) := dk_160 0 6 (dk_at dksX3_follow_1 20 rfl rfl)
theorem dX3_follow_46 : decode cX3_follow 46 = .ok (.bipush (-2), 2) := dk_16 254 (dk_at dksX3_follow_2 0 rfl rfl)
theorem dX3_follow_48 : decode cX3_follow 48 = .ok (.ireturn, 1) := dk_172 (dk_at dksX3_follow_2 2 rfl rfl)
theorem dX3_follow_49 : decode cX3_follow 49 = .ok (.aload_n 0, 1) := dk_42 (dk_at dksX3_follow_2 3 rfl rfl)
theorem dX3_follow_50 : decode cX3_follow 50 = .ok (.getfield 56, 3) := dk_180 0 56 (dk_at dksX3_follow_2 4 rfl rfl)
theorem dX3_follow_53 : decode cX3_follow 53 = .ok (.iload_n 3, 1) := dk_29 (dk_at dksX3_follow_2 7 rfl rfl)
theorem dX3_follow_54 : decode cX3_follow 54 = .ok (.dup2, 1) := dk_92 (dk_at dksX3_follow_2 8 rfl rfl)
theorem dX3_follow_55 : decode cX3_follow 55 = .ok (.iaload, 1) := dk_46 (dk_at dksX3_follow_2 9 rfl rfl)
theorem dX3_follow_56 : decode cX3_follow 56 = .ok (.iconst 1, 1) := dk_4 (dk_at dksX3_follow_2 10 rfl rfl)
theorem dX3_follow_57 : decode cX3_follow 57 = .ok (.iload 4, 2) := dk_21 4 (dk_at dksX3_follow_2 11 rfl rfl)
theorem dX3_follow_59 : decode cX3_follow 59 = .ok (.ishl, 1) := dk_120 (dk_at dksX3_follow_2 13 rfl rfl)
theorem dX3_follow_60 : decode cX3_follow 60 = .ok (.ior, 1) := dk_128 (dk_at dksX3_follow_2 14 rfl rfl)
theorem dX3_follow_61 : decode cX3_follow 61 = .ok (.iastore, 1) := dk_79 (dk_at dksX3_follow_2 15 rfl rfl)
theorem dX3_follow_62 : decode cX3_follow 62 = .ok (.aload_n 0, 1) := dk_42 (dk_at dksX3_follow_2 16 rfl rfl)
theorem dX3_follow_63 : decode cX3_follow 63 = .ok (.getfield 50, 3) := dk_180 0 50 (dk_at dksX3_follow_2 17 rfl rfl)
theorem dX3_follow_66 : decode cX3_follow 66 = .ok (.iload_n 3, 1) := dk_29 (dk_at dksX3_follow_2 20 rfl rfl)
theorem dX3_follow_67 : decode cX3_follow 67 = .ok (.aaload, 1) := dk_50 (dk_at dksX3_follow_2 21 rfl rfl)
theorem dX3_follow_68 : decode cX3_follow 68 = .ok (.iload 4, 2) := dk_21 4 (dk_at dksX3_follow_2 22 rfl rfl)
theorem dX3_follow_70 : decode cX3_follow 70 = .ok (.iaload, 1) := dk_46 (dk_at dksX3_follow_3 0 rfl rfl)
theorem dX3_follow_71 : decode cX3_follow 71 = .ok (.istore 5, 2) := dk_54 5 (dk_at dksX3_follow_3 1 rfl rfl)
theorem dX3_follow_73 : decode cX3_follow 73 = .ok (.iload 5, 2) := dk_21 5 (dk_at dksX3_follow_3 3 rfl rfl)
theorem dX3_follow_75 : decode cX3_follow 75 = .ok (.iconst (-1), 1) := dk_2 (dk_at dksX3_follow_3 5 rfl rfl)
theorem dX3_follow_76 : decode cX3_follow 76 = .ok (.if_icmp .ne 5, 3) := dk_160 0 5 (dk_at dksX3_follow_3 6 rfl rfl)
theorem dX3_follow_79 : decode cX3_follow 79 = .ok (.iconst (-1), 1) := dk_2 (dk_at dksX3_follow_3 9 rfl rfl)
theorem dX3_follow_80 : decode cX3_follow 80 = .ok (.ireturn, 1) := dk_172 (dk_at dksX3_follow_3 10 rfl rfl)
theorem dX3_follow_81 : decode cX3_follow 81 = .ok (.aload_n 0, 1) := dk_42 (dk_at dksX3_follow_3 11 rfl rfl)
theorem dX3_follow_82 : decode cX3_follow 82 = .ok (.dup, 1) := dk_89 (dk_at dksX3_follow_3 12 rfl rfl)
theorem dX3_follow_83 : decode cX3_follow 83 = .ok (.getfield 274, 3) := dk_180 1 18 (dk_at dksX3_follow_3 13 rfl rfl)
theorem dX3_follow_86 : decode cX3_follow 86 = .ok (.iconst 1, 1) := dk_4 (dk_at dksX3_follow_3 16 rfl rfl)
theorem dX3_follow_87 : decode cX3_follow 87 = .ok (.iadd, 1) := dk_96 (dk_at dksX3_follow_3 17 rfl rfl)
theorem dX3_follow_88 : decode cX3_follow 88 = .ok (.putfield 274, 3) := dk_181 1 18 (dk_at dksX3_follow_3 18 rfl rfl)
theorem dX3_follow_91 : decode cX3_follow 91 = .ok (.aload_n 0, 1) := dk_42 (dk_at dksX3_follow_3 21 rfl rfl)
theorem dX3_follow_92 : decode cX3_follow 92 = .ok (.getfield 17, 3) := dk_180 0 17 (dk_at dksX3_follow_4 0 rfl rfl)
theorem dX3_follow_95 : decode cX3_follow 95 = .ok (.iload 5, 2) := dk_21 5 (dk_at dksX3_follow_4 3 rfl rfl)
theorem dX3_follow_97 : decode cX3_follow 97 = .ok (.invokestatic 174, 3) := dk_184 0 174 (dk_at dksX3_follow_4 5 rfl rfl)
theorem dX3_follow_100 : decode cX3_follow 100 = .ok (.bipush 12, 2) := dk_16 12 (dk_at dksX3_follow_4 8 rfl rfl)
theorem dX3_follow_102 : decode cX3_follow 102 = .ok (.iadd, 1) := dk_96 (dk_at dksX3_follow_4 10 rfl rfl)
theorem dX3_follow_103 : decode cX3_follow 103 = .ok (.iload 4, 2) := dk_21 4 (dk_at dksX3_follow_4 11 rfl rfl)
theorem dX3_follow_105 : decode cX3_follow 105 = .ok (.iadd, 1) := dk_96 (dk_at dksX3_follow_4 13 rfl rfl)
theorem dX3_follow_106 : decode cX3_follow 106 = .ok (.iaload, 1) := dk_46 (dk_at dksX3_follow_4 14 rfl rfl)
theorem dX3_follow_107 : decode cX3_follow 107 = .ok (.istore 6, 2) := dk_54 6 (dk_at dksX3_follow_4 15 rfl rfl)
theorem dX3_follow_109 : decode cX3_follow 109 = .ok (.iload 6, 2) := dk_21 6 (dk_at dksX3_follow_4 17 rfl rfl)
theorem dX3_follow_111 : decode cX3_follow 111 = .ok (.ifCond .lt 6, 3) := dk_155 0 6 (dk_at dksX3_follow_4 19 rfl rfl)
theorem dX3_follow_114 : decode cX3_follow 114 = .ok (.iload 6, 2) := dk_21 6 (dk_at dksX3_follow_4 22 rfl rfl)
theorem dX3_follow_116 : decode cX3_follow 116 = .ok (.ireturn, 1) := dk_172 (dk_at dksX3_follow_5 0 rfl rfl)
theorem dX3_follow_117 : decode cX3_follow 117 = .ok (.iload 5, 2) := dk_21 5 (dk_at dksX3_follow_5 1 rfl rfl)
theorem dX3_follow_119 : decode cX3_follow 119 = .ok (.istore_n 3, 1) := dk_62 (dk_at dksX3_follow_5 3 rfl rfl)
theorem dX3_follow_120 : decode cX3_follow 120 = .ok (.bipush (-2), 2) := dk_16 254 (dk_at dksX3_follow_5 4 rfl rfl)
theorem dX3_follow_122 : decode cX3_follow 122 = .ok (.iload 6, 2) := dk_21 6 (dk_at dksX3_follow_5 6 rfl rfl)
theorem dX3_follow_124 : decode cX3_follow 124 = .ok (.isub, 1) := dk_100 (dk_at dksX3_follow_5 8 rfl rfl)
theorem dX3_follow_125 : decode cX3_follow 125 = .ok (.istore 4, 2) := dk_54 4 (dk_at dksX3_follow_5 9 rfl rfl)
theorem dX3_follow_127 : decode cX3_follow 127 = .ok (.goto (-96), 3) := dk_167 255 160 (dk_at dksX3_follow_5 11 rfl rfl)
abbrev cX3_steps : ByteArray := prog_11_method_65_code
def yX3_steps : MethodName := ⟨RX3, "steps", "(II)I"⟩
def dkwX3_steps_1 : List UInt8 := [180, 1, 18, 172]
abbrev dktX3_steps_1 : List UInt8 := dkwX3_steps_1 ++ []
def dkwX3_steps_0 : List UInt8 := [42, 3, 181, 0, 59, 42, 27, 28, 182, 1, 30, 153, 0, 5, 3, 172, 42, 27, 28, 182, 1, 33, 62, 42]
abbrev dktX3_steps_0 : List UInt8 := dkwX3_steps_0 ++ dktX3_steps_1
theorem dksX3_steps_0 : cX3_steps.data.toList.drop 0 = dktX3_steps_0 := by decide +kernel
theorem dksX3_steps_1 : cX3_steps.data.toList.drop 24 = dktX3_steps_1 := dk_seg dksX3_steps_0 24 rfl rfl
theorem dX3_steps_0 : decode cX3_steps 0 = .ok (.aload_n 0, 1) := dk_42 (dk_at dksX3_steps_0 0 rfl rfl)
theorem dX3_steps_1 : decode cX3_steps 1 = .ok (.iconst 0, 1) := dk_3 (dk_at dksX3_steps_0 1 rfl rfl)
theorem dX3_steps_2 : decode cX3_steps 2 = .ok (.putfield 59, 3) := dk_181 0 59 (dk_at dksX3_steps_0 2 rfl rfl)
theorem dX3_steps_5 : decode cX3_steps 5 = .ok (.aload_n 0, 1) := dk_42 (dk_at dksX3_steps_0 5 rfl rfl)
theorem dX3_steps_6 : decode cX3_steps 6 = .ok (.iload_n 1, 1) := dk_27 (dk_at dksX3_steps_0 6 rfl rfl)
theorem dX3_steps_7 : decode cX3_steps 7 = .ok (.iload_n 2, 1) := dk_28 (dk_at dksX3_steps_0 7 rfl rfl)
theorem dX3_steps_8 : decode cX3_steps 8 = .ok (.invokevirtual 286, 3) := dk_182 1 30 (dk_at dksX3_steps_0 8 rfl rfl)
theorem dX3_steps_11 : decode cX3_steps 11 = .ok (.ifCond .eq 5, 3) := dk_153 0 5 (dk_at dksX3_steps_0 11 rfl rfl)
theorem dX3_steps_14 : decode cX3_steps 14 = .ok (.iconst 0, 1) := dk_3 (dk_at dksX3_steps_0 14 rfl rfl)
theorem dX3_steps_15 : decode cX3_steps 15 = .ok (.ireturn, 1) := dk_172 (dk_at dksX3_steps_0 15 rfl rfl)
theorem dX3_steps_16 : decode cX3_steps 16 = .ok (.aload_n 0, 1) := dk_42 (dk_at dksX3_steps_0 16 rfl rfl)
theorem dX3_steps_17 : decode cX3_steps 17 = .ok (.iload_n 1, 1) := dk_27 (dk_at dksX3_steps_0 17 rfl rfl)
theorem dX3_steps_18 : decode cX3_steps 18 = .ok (.iload_n 2, 1) := dk_28 (dk_at dksX3_steps_0 18 rfl rfl)
theorem dX3_steps_19 : decode cX3_steps 19 = .ok (.invokevirtual 289, 3) := dk_182 1 33 (dk_at dksX3_steps_0 19 rfl rfl)
theorem dX3_steps_22 : decode cX3_steps 22 = .ok (.istore_n 3, 1) := dk_62 (dk_at dksX3_steps_0 22 rfl rfl)
theorem dX3_steps_23 : decode cX3_steps 23 = .ok (.aload_n 0, 1) := dk_42 (dk_at dksX3_steps_0 23 rfl rfl)
theorem dX3_steps_24 : decode cX3_steps 24 = .ok (.getfield 274, 3) := dk_180 1 18 (dk_at dksX3_steps_1 0 rfl rfl)
theorem dX3_steps_27 : decode cX3_steps 27 = .ok (.ireturn, 1) := dk_172 (dk_at dksX3_steps_1 3 rfl rfl)
abbrev cX3_users : ByteArray := prog_11_method_66_code
def yX3_users : MethodName := ⟨RX3, "users", "(II)I"⟩
def dkwX3_users_2 : List UInt8 := [50, 28, 46, 27, 160, 0, 7, 4, 167, 0, 4, 3, 96, 62, 132, 4, 1, 167, 255, 212, 29, 172]
abbrev dktX3_users_2 : List UInt8 := dkwX3_users_2 ++ []
def dkwX3_users_1 : List UInt8 := [180, 0, 17, 4, 46, 162, 0, 39, 29, 42, 21, 4, 182, 0, 232, 153, 0, 20, 42, 180, 0, 50, 21, 4]
abbrev dktX3_users_1 : List UInt8 := dkwX3_users_1 ++ dktX3_users_2
def dkwX3_users_0 : List UInt8 := [42, 3, 181, 0, 59, 42, 27, 28, 182, 1, 30, 153, 0, 5, 3, 172, 3, 62, 3, 54, 4, 21, 4, 42]
abbrev dktX3_users_0 : List UInt8 := dkwX3_users_0 ++ dktX3_users_1
theorem dksX3_users_0 : cX3_users.data.toList.drop 0 = dktX3_users_0 := by decide +kernel
theorem dksX3_users_1 : cX3_users.data.toList.drop 24 = dktX3_users_1 := dk_seg dksX3_users_0 24 rfl rfl
theorem dksX3_users_2 : cX3_users.data.toList.drop 48 = dktX3_users_2 := dk_seg dksX3_users_1 24 rfl rfl
theorem dX3_users_0 : decode cX3_users 0 = .ok (.aload_n 0, 1) := dk_42 (dk_at dksX3_users_0 0 rfl rfl)
theorem dX3_users_1 : decode cX3_users 1 = .ok (.iconst 0, 1) := dk_3 (dk_at dksX3_users_0 1 rfl rfl)
theorem dX3_users_2 : decode cX3_users 2 = .ok (.putfield 59, 3) := dk_181 0 59 (dk_at dksX3_users_0 2 rfl rfl)
theorem dX3_users_5 : decode cX3_users 5 = .ok (.aload_n 0, 1) := dk_42 (dk_at dksX3_users_0 5 rfl rfl)
theorem dX3_users_6 : decode cX3_users 6 = .ok (.iload_n 1, 1) := dk_27 (dk_at dksX3_users_0 6 rfl rfl)
theorem dX3_users_7 : decode cX3_users 7 = .ok (.iload_n 2, 1) := dk_28 (dk_at dksX3_users_0 7 rfl rfl)
theorem dX3_users_8 : decode cX3_users 8 = .ok (.invokevirtual 286, 3) := dk_182 1 30 (dk_at dksX3_users_0 8 rfl rfl)
theorem dX3_users_11 : decode cX3_users 11 = .ok (.ifCond .eq 5, 3) := dk_153 0 5 (dk_at dksX3_users_0 11 rfl rfl)
theorem dX3_users_14 : decode cX3_users 14 = .ok (.iconst 0, 1) := dk_3 (dk_at dksX3_users_0 14 rfl rfl)
theorem dX3_users_15 : decode cX3_users 15 = .ok (.ireturn, 1) := dk_172 (dk_at dksX3_users_0 15 rfl rfl)
theorem dX3_users_16 : decode cX3_users 16 = .ok (.iconst 0, 1) := dk_3 (dk_at dksX3_users_0 16 rfl rfl)
theorem dX3_users_17 : decode cX3_users 17 = .ok (.istore_n 3, 1) := dk_62 (dk_at dksX3_users_0 17 rfl rfl)
theorem dX3_users_18 : decode cX3_users 18 = .ok (.iconst 0, 1) := dk_3 (dk_at dksX3_users_0 18 rfl rfl)
theorem dX3_users_19 : decode cX3_users 19 = .ok (.istore 4, 2) := dk_54 4 (dk_at dksX3_users_0 19 rfl rfl)
theorem dX3_users_21 : decode cX3_users 21 = .ok (.iload 4, 2) := dk_21 4 (dk_at dksX3_users_0 21 rfl rfl)
theorem dX3_users_23 : decode cX3_users 23 = .ok (.aload_n 0, 1) := dk_42 (dk_at dksX3_users_0 23 rfl rfl)
theorem dX3_users_24 : decode cX3_users 24 = .ok (.getfield 17, 3) := dk_180 0 17 (dk_at dksX3_users_1 0 rfl rfl)
theorem dX3_users_27 : decode cX3_users 27 = .ok (.iconst 1, 1) := dk_4 (dk_at dksX3_users_1 3 rfl rfl)
theorem dX3_users_28 : decode cX3_users 28 = .ok (.iaload, 1) := dk_46 (dk_at dksX3_users_1 4 rfl rfl)
theorem dX3_users_29 : decode cX3_users 29 = .ok (.if_icmp .ge 39, 3) := dk_162 0 39 (dk_at dksX3_users_1 5 rfl rfl)
theorem dX3_users_32 : decode cX3_users 32 = .ok (.iload_n 3, 1) := dk_29 (dk_at dksX3_users_1 8 rfl rfl)
theorem dX3_users_33 : decode cX3_users 33 = .ok (.aload_n 0, 1) := dk_42 (dk_at dksX3_users_1 9 rfl rfl)
theorem dX3_users_34 : decode cX3_users 34 = .ok (.iload 4, 2) := dk_21 4 (dk_at dksX3_users_1 10 rfl rfl)
theorem dX3_users_36 : decode cX3_users 36 = .ok (.invokevirtual 232, 3) := dk_182 0 232 (dk_at dksX3_users_1 12 rfl rfl)
theorem dX3_users_39 : decode cX3_users 39 = .ok (.ifCond .eq 20, 3) := dk_153 0 20 (dk_at dksX3_users_1 15 rfl rfl)
theorem dX3_users_42 : decode cX3_users 42 = .ok (.aload_n 0, 1) := dk_42 (dk_at dksX3_users_1 18 rfl rfl)
theorem dX3_users_43 : decode cX3_users 43 = .ok (.getfield 50, 3) := dk_180 0 50 (dk_at dksX3_users_1 19 rfl rfl)
theorem dX3_users_46 : decode cX3_users 46 = .ok (.iload 4, 2) := dk_21 4 (dk_at dksX3_users_1 22 rfl rfl)
theorem dX3_users_48 : decode cX3_users 48 = .ok (.aaload, 1) := dk_50 (dk_at dksX3_users_2 0 rfl rfl)
theorem dX3_users_49 : decode cX3_users 49 = .ok (.iload_n 2, 1) := dk_28 (dk_at dksX3_users_2 1 rfl rfl)
theorem dX3_users_50 : decode cX3_users 50 = .ok (.iaload, 1) := dk_46 (dk_at dksX3_users_2 2 rfl rfl)
theorem dX3_users_51 : decode cX3_users 51 = .ok (.iload_n 1, 1) := dk_27 (dk_at dksX3_users_2 3 rfl rfl)
theorem dX3_users_52 : decode cX3_users 52 = .ok (.if_icmp .ne 7, 3) := dk_160 0 7 (dk_at dksX3_users_2 4 rfl rfl)
theorem dX3_users_55 : decode cX3_users 55 = .ok (.iconst 1, 1) := dk_4 (dk_at dksX3_users_2 7 rfl rfl)
theorem dX3_users_56 : decode cX3_users 56 = .ok (.goto 4, 3) := dk_167 0 4 (dk_at dksX3_users_2 8 rfl rfl)
theorem dX3_users_59 : decode cX3_users 59 = .ok (.iconst 0, 1) := dk_3 (dk_at dksX3_users_2 11 rfl rfl)
theorem dX3_users_60 : decode cX3_users 60 = .ok (.iadd, 1) := dk_96 (dk_at dksX3_users_2 12 rfl rfl)
theorem dX3_users_61 : decode cX3_users 61 = .ok (.istore_n 3, 1) := dk_62 (dk_at dksX3_users_2 13 rfl rfl)
theorem dX3_users_62 : decode cX3_users 62 = .ok (.iinc 4 1, 3) := dk_132 4 1 (dk_at dksX3_users_2 14 rfl rfl)
theorem dX3_users_65 : decode cX3_users 65 = .ok (.goto (-44), 3) := dk_167 255 212 (dk_at dksX3_users_2 17 rfl rfl)
theorem dX3_users_68 : decode cX3_users 68 = .ok (.iload_n 3, 1) := dk_29 (dk_at dksX3_users_2 20 rfl rfl)
theorem dX3_users_69 : decode cX3_users 69 = .ok (.ireturn, 1) := dk_172 (dk_at dksX3_users_2 21 rfl rfl)
abbrev cX3_unload : ByteArray := prog_11_method_68_code
def yX3_unload : MethodName := ⟨RX3, "unload", "(I)I"⟩
def dkwX3_unload_2 : List UInt8 := [180, 0, 17, 27, 184, 0, 174, 5, 96, 3, 79, 42, 2, 182, 1, 42, 172]
abbrev dktX3_unload_2 : List UInt8 := dkwX3_unload_2 ++ []
def dkwX3_unload_1 : List UInt8 := [167, 0, 4, 3, 5, 182, 0, 216, 153, 0, 5, 3, 172, 42, 182, 0, 225, 42, 182, 1, 39, 42]
abbrev dktX3_unload_1 : List UInt8 := dkwX3_unload_1 ++ dktX3_unload_2
def dkwX3_unload_0 : List UInt8 := [42, 3, 181, 0, 59, 42, 27, 182, 1, 21, 154, 0, 24, 42, 42, 27, 182, 0, 232, 154, 0, 7, 4]
abbrev dktX3_unload_0 : List UInt8 := dkwX3_unload_0 ++ dktX3_unload_1
theorem dksX3_unload_0 : cX3_unload.data.toList.drop 0 = dktX3_unload_0 := by decide +kernel
theorem dksX3_unload_1 : cX3_unload.data.toList.drop 23 = dktX3_unload_1 := dk_seg dksX3_unload_0 23 rfl rfl
theorem dksX3_unload_2 : cX3_unload.data.toList.drop 45 = dktX3_unload_2 := dk_seg dksX3_unload_1 22 rfl rfl
theorem dX3_unload_0 : decode cX3_unload 0 = .ok (.aload_n 0, 1) := dk_42 (dk_at dksX3_unload_0 0 rfl rfl)
theorem dX3_unload_1 : decode cX3_unload 1 = .ok (.iconst 0, 1) := dk_3 (dk_at dksX3_unload_0 1 rfl rfl)
theorem dX3_unload_2 : decode cX3_unload 2 = .ok (.putfield 59, 3) := dk_181 0 59 (dk_at dksX3_unload_0 2 rfl rfl)
theorem dX3_unload_5 : decode cX3_unload 5 = .ok (.aload_n 0, 1) := dk_42 (dk_at dksX3_unload_0 5 rfl rfl)
theorem dX3_unload_6 : decode cX3_unload 6 = .ok (.iload_n 1, 1) := dk_27 (dk_at dksX3_unload_0 6 rfl rfl)
theorem dX3_unload_7 : decode cX3_unload 7 = .ok (.invokevirtual 277, 3) := dk_182 1 21 (dk_at dksX3_unload_0 7 rfl rfl)
theorem dX3_unload_10 : decode cX3_unload 10 = .ok (.ifCond .ne 24, 3) := dk_154 0 24 (dk_at dksX3_unload_0 10 rfl rfl)
theorem dX3_unload_13 : decode cX3_unload 13 = .ok (.aload_n 0, 1) := dk_42 (dk_at dksX3_unload_0 13 rfl rfl)
theorem dX3_unload_14 : decode cX3_unload 14 = .ok (.aload_n 0, 1) := dk_42 (dk_at dksX3_unload_0 14 rfl rfl)
theorem dX3_unload_15 : decode cX3_unload 15 = .ok (.iload_n 1, 1) := dk_27 (dk_at dksX3_unload_0 15 rfl rfl)
theorem dX3_unload_16 : decode cX3_unload 16 = .ok (.invokevirtual 232, 3) := dk_182 0 232 (dk_at dksX3_unload_0 16 rfl rfl)
theorem dX3_unload_19 : decode cX3_unload 19 = .ok (.ifCond .ne 7, 3) := dk_154 0 7 (dk_at dksX3_unload_0 19 rfl rfl)
theorem dX3_unload_22 : decode cX3_unload 22 = .ok (.iconst 1, 1) := dk_4 (dk_at dksX3_unload_0 22 rfl rfl)
theorem dX3_unload_23 : decode cX3_unload 23 = .ok (.goto 4, 3) := dk_167 0 4 (dk_at dksX3_unload_1 0 rfl rfl)
theorem dX3_unload_26 : decode cX3_unload 26 = .ok (.iconst 0, 1) := dk_3 (dk_at dksX3_unload_1 3 rfl rfl)
theorem dX3_unload_27 : decode cX3_unload 27 = .ok (.iconst 2, 1) := dk_5 (dk_at dksX3_unload_1 4 rfl rfl)
theorem dX3_unload_28 : decode cX3_unload 28 = .ok (.invokevirtual 216, 3) := dk_182 0 216 (dk_at dksX3_unload_1 5 rfl rfl)
theorem dX3_unload_31 : decode cX3_unload 31 = .ok (.ifCond .eq 5, 3) := dk_153 0 5 (dk_at dksX3_unload_1 8 rfl rfl)
theorem dX3_unload_34 : decode cX3_unload 34 = .ok (.iconst 0, 1) := dk_3 (dk_at dksX3_unload_1 11 rfl rfl)
theorem dX3_unload_35 : decode cX3_unload 35 = .ok (.ireturn, 1) := dk_172 (dk_at dksX3_unload_1 12 rfl rfl)
theorem dX3_unload_36 : decode cX3_unload 36 = .ok (.aload_n 0, 1) := dk_42 (dk_at dksX3_unload_1 13 rfl rfl)
theorem dX3_unload_37 : decode cX3_unload 37 = .ok (.invokevirtual 225, 3) := dk_182 0 225 (dk_at dksX3_unload_1 14 rfl rfl)
theorem dX3_unload_40 : decode cX3_unload 40 = .ok (.aload_n 0, 1) := dk_42 (dk_at dksX3_unload_1 17 rfl rfl)
theorem dX3_unload_41 : decode cX3_unload 41 = .ok (.invokevirtual 295, 3) := dk_182 1 39 (dk_at dksX3_unload_1 18 rfl rfl)
theorem dX3_unload_44 : decode cX3_unload 44 = .ok (.aload_n 0, 1) := dk_42 (dk_at dksX3_unload_1 21 rfl rfl)
theorem dX3_unload_45 : decode cX3_unload 45 = .ok (.getfield 17, 3) := dk_180 0 17 (dk_at dksX3_unload_2 0 rfl rfl)
theorem dX3_unload_48 : decode cX3_unload 48 = .ok (.iload_n 1, 1) := dk_27 (dk_at dksX3_unload_2 3 rfl rfl)
theorem dX3_unload_49 : decode cX3_unload 49 = .ok (.invokestatic 174, 3) := dk_184 0 174 (dk_at dksX3_unload_2 4 rfl rfl)
theorem dX3_unload_52 : decode cX3_unload 52 = .ok (.iconst 2, 1) := dk_5 (dk_at dksX3_unload_2 7 rfl rfl)
theorem dX3_unload_53 : decode cX3_unload 53 = .ok (.iadd, 1) := dk_96 (dk_at dksX3_unload_2 8 rfl rfl)
theorem dX3_unload_54 : decode cX3_unload 54 = .ok (.iconst 0, 1) := dk_3 (dk_at dksX3_unload_2 9 rfl rfl)
theorem dX3_unload_55 : decode cX3_unload 55 = .ok (.iastore, 1) := dk_79 (dk_at dksX3_unload_2 10 rfl rfl)
theorem dX3_unload_56 : decode cX3_unload 56 = .ok (.aload_n 0, 1) := dk_42 (dk_at dksX3_unload_2 11 rfl rfl)
theorem dX3_unload_57 : decode cX3_unload 57 = .ok (.iconst (-1), 1) := dk_2 (dk_at dksX3_unload_2 12 rfl rfl)
theorem dX3_unload_58 : decode cX3_unload 58 = .ok (.invokevirtual 298, 3) := dk_182 1 42 (dk_at dksX3_unload_2 13 rfl rfl)
theorem dX3_unload_61 : decode cX3_unload 61 = .ok (.ireturn, 1) := dk_172 (dk_at dksX3_unload_2 16 rfl rfl)
abbrev cX3_keepBindings : ByteArray := prog_11_method_45_code
def yX3_keepBindings : MethodName := ⟨RX3, "keepBindings", "()V"⟩
def dkwX3_keepBindings_2 : List UInt8 := [167, 255, 227, 132, 1, 1, 167, 255, 209, 177]
abbrev dktX3_keepBindings_2 : List UInt8 := dkwX3_keepBindings_2 ++ []
def dkwX3_keepBindings_1 : List UInt8 := [46, 162, 0, 25, 42, 180, 0, 53, 27, 50, 28, 42, 180, 0, 50, 27, 50, 28, 46, 79, 132, 2, 1]
abbrev dktX3_keepBindings_1 : List UInt8 := dkwX3_keepBindings_1 ++ dktX3_keepBindings_2
def dkwX3_keepBindings_0 : List UInt8 := [42, 182, 1, 15, 3, 60, 27, 42, 180, 0, 17, 4, 46, 162, 0, 43, 3, 61, 28, 42, 180, 0, 17, 5]
abbrev dktX3_keepBindings_0 : List UInt8 := dkwX3_keepBindings_0 ++ dktX3_keepBindings_1
theorem dksX3_keepBindings_0 : cX3_keepBindings.data.toList.drop 0 = dktX3_keepBindings_0 := by decide +kernel
theorem dksX3_keepBindings_1 : cX3_keepBindings.data.toList.drop 24 = dktX3_keepBindings_1 := dk_seg dksX3_keepBindings_0 24 rfl rfl
theorem dksX3_keepBindings_2 : cX3_keepBindings.data.toList.drop 47 = dktX3_keepBindings_2 := dk_seg dksX3_keepBindings_1 23 rfl rfl
theorem dX3_keepBindings_0 : decode cX3_keepBindings 0 = .ok (.aload_n 0, 1) := dk_42 (dk_at dksX3_keepBindings_0 0 rfl rfl)
theorem dX3_keepBindings_1 : decode cX3_keepBindings 1 = .ok (.invokevirtual 271, 3) := dk_182 1 15 (dk_at dksX3_keepBindings_0 1 rfl rfl)
theorem dX3_keepBindings_4 : decode cX3_keepBindings 4 = .ok (.iconst 0, 1) := dk_3 (dk_at dksX3_keepBindings_0 4 rfl rfl)
theorem dX3_keepBindings_5 : decode cX3_keepBindings 5 = .ok (.istore_n 1, 1) := dk_60 (dk_at dksX3_keepBindings_0 5 rfl rfl)
theorem dX3_keepBindings_6 : decode cX3_keepBindings 6 = .ok (.iload_n 1, 1) := dk_27 (dk_at dksX3_keepBindings_0 6 rfl rfl)
theorem dX3_keepBindings_7 : decode cX3_keepBindings 7 = .ok (.aload_n 0, 1) := dk_42 (dk_at dksX3_keepBindings_0 7 rfl rfl)
theorem dX3_keepBindings_8 : decode cX3_keepBindings 8 = .ok (.getfield 17, 3) := dk_180 0 17 (dk_at dksX3_keepBindings_0 8 rfl rfl)
theorem dX3_keepBindings_11 : decode cX3_keepBindings 11 = .ok (.iconst 1, 1) := dk_4 (dk_at dksX3_keepBindings_0 11 rfl rfl)
theorem dX3_keepBindings_12 : decode cX3_keepBindings 12 = .ok (.iaload, 1) := dk_46 (dk_at dksX3_keepBindings_0 12 rfl rfl)
theorem dX3_keepBindings_13 : decode cX3_keepBindings 13 = .ok (.if_icmp .ge 43, 3) := dk_162 0 43 (dk_at dksX3_keepBindings_0 13 rfl rfl)
theorem dX3_keepBindings_16 : decode cX3_keepBindings 16 = .ok (.iconst 0, 1) := dk_3 (dk_at dksX3_keepBindings_0 16 rfl rfl)
theorem dX3_keepBindings_17 : decode cX3_keepBindings 17 = .ok (.istore_n 2, 1) := dk_61 (dk_at dksX3_keepBindings_0 17 rfl rfl)
theorem dX3_keepBindings_18 : decode cX3_keepBindings 18 = .ok (.iload_n 2, 1) := dk_28 (dk_at dksX3_keepBindings_0 18 rfl rfl)
theorem dX3_keepBindings_19 : decode cX3_keepBindings 19 = .ok (.aload_n 0, 1) := dk_42 (dk_at dksX3_keepBindings_0 19 rfl rfl)
theorem dX3_keepBindings_20 : decode cX3_keepBindings 20 = .ok (.getfield 17, 3) := dk_180 0 17 (dk_at dksX3_keepBindings_0 20 rfl rfl)
theorem dX3_keepBindings_23 : decode cX3_keepBindings 23 = .ok (.iconst 2, 1) := dk_5 (dk_at dksX3_keepBindings_0 23 rfl rfl)
theorem dX3_keepBindings_24 : decode cX3_keepBindings 24 = .ok (.iaload, 1) := dk_46 (dk_at dksX3_keepBindings_1 0 rfl rfl)
theorem dX3_keepBindings_25 : decode cX3_keepBindings 25 = .ok (.if_icmp .ge 25, 3) := dk_162 0 25 (dk_at dksX3_keepBindings_1 1 rfl rfl)
theorem dX3_keepBindings_28 : decode cX3_keepBindings 28 = .ok (.aload_n 0, 1) := dk_42 (dk_at dksX3_keepBindings_1 4 rfl rfl)
theorem dX3_keepBindings_29 : decode cX3_keepBindings 29 = .ok (.getfield 53, 3) := dk_180 0 53 (dk_at dksX3_keepBindings_1 5 rfl rfl)
theorem dX3_keepBindings_32 : decode cX3_keepBindings 32 = .ok (.iload_n 1, 1) := dk_27 (dk_at dksX3_keepBindings_1 8 rfl rfl)
theorem dX3_keepBindings_33 : decode cX3_keepBindings 33 = .ok (.aaload, 1) := dk_50 (dk_at dksX3_keepBindings_1 9 rfl rfl)
theorem dX3_keepBindings_34 : decode cX3_keepBindings 34 = .ok (.iload_n 2, 1) := dk_28 (dk_at dksX3_keepBindings_1 10 rfl rfl)
theorem dX3_keepBindings_35 : decode cX3_keepBindings 35 = .ok (.aload_n 0, 1) := dk_42 (dk_at dksX3_keepBindings_1 11 rfl rfl)
theorem dX3_keepBindings_36 : decode cX3_keepBindings 36 = .ok (.getfield 50, 3) := dk_180 0 50 (dk_at dksX3_keepBindings_1 12 rfl rfl)
theorem dX3_keepBindings_39 : decode cX3_keepBindings 39 = .ok (.iload_n 1, 1) := dk_27 (dk_at dksX3_keepBindings_1 15 rfl rfl)
theorem dX3_keepBindings_40 : decode cX3_keepBindings 40 = .ok (.aaload, 1) := dk_50 (dk_at dksX3_keepBindings_1 16 rfl rfl)
theorem dX3_keepBindings_41 : decode cX3_keepBindings 41 = .ok (.iload_n 2, 1) := dk_28 (dk_at dksX3_keepBindings_1 17 rfl rfl)
theorem dX3_keepBindings_42 : decode cX3_keepBindings 42 = .ok (.iaload, 1) := dk_46 (dk_at dksX3_keepBindings_1 18 rfl rfl)
theorem dX3_keepBindings_43 : decode cX3_keepBindings 43 = .ok (.iastore, 1) := dk_79 (dk_at dksX3_keepBindings_1 19 rfl rfl)
theorem dX3_keepBindings_44 : decode cX3_keepBindings 44 = .ok (.iinc 2 1, 3) := dk_132 2 1 (dk_at dksX3_keepBindings_1 20 rfl rfl)
theorem dX3_keepBindings_47 : decode cX3_keepBindings 47 = .ok (.goto (-29), 3) := dk_167 255 227 (dk_at dksX3_keepBindings_2 0 rfl rfl)
theorem dX3_keepBindings_50 : decode cX3_keepBindings 50 = .ok (.iinc 1 1, 3) := dk_132 1 1 (dk_at dksX3_keepBindings_2 3 rfl rfl)
theorem dX3_keepBindings_53 : decode cX3_keepBindings 53 = .ok (.goto (-47), 3) := dk_167 255 209 (dk_at dksX3_keepBindings_2 6 rfl rfl)
theorem dX3_keepBindings_56 : decode cX3_keepBindings 56 = .ok (.return_, 1) := dk_177 (dk_at dksX3_keepBindings_2 9 rfl rfl)
abbrev cX3_changedBut : ByteArray := prog_11_method_46_code
def yX3_changedBut : MethodName := ⟨RX3, "changedBut", "(I)I"⟩
def dkwX3_changedBut_3 : List UInt8 := [3, 96, 61, 132, 4, 1, 167, 255, 200, 132, 3, 1, 167, 255, 181, 28, 172]
abbrev dktX3_changedBut_3 : List UInt8 := dkwX3_changedBut_3 ++ []
def dkwX3_changedBut_2 : List UInt8 := [180, 0, 53, 29, 50, 21, 4, 46, 42, 180, 0, 50, 29, 50, 21, 4, 46, 159, 0, 7, 4, 167, 0, 4]
abbrev dktX3_changedBut_2 : List UInt8 := dkwX3_changedBut_2 ++ dktX3_changedBut_3
def dkwX3_changedBut_1 : List UInt8 := [180, 0, 17, 5, 46, 162, 0, 51, 28, 29, 27, 159, 0, 36, 42, 29, 182, 0, 232, 153, 0, 28, 42]
abbrev dktX3_changedBut_1 : List UInt8 := dkwX3_changedBut_1 ++ dktX3_changedBut_2
def dkwX3_changedBut_0 : List UInt8 := [42, 182, 1, 15, 3, 61, 3, 62, 29, 42, 180, 0, 17, 4, 46, 162, 0, 71, 3, 54, 4, 21, 4, 42]
abbrev dktX3_changedBut_0 : List UInt8 := dkwX3_changedBut_0 ++ dktX3_changedBut_1
theorem dksX3_changedBut_0 : cX3_changedBut.data.toList.drop 0 = dktX3_changedBut_0 := by decide +kernel
theorem dksX3_changedBut_1 : cX3_changedBut.data.toList.drop 24 = dktX3_changedBut_1 := dk_seg dksX3_changedBut_0 24 rfl rfl
theorem dksX3_changedBut_2 : cX3_changedBut.data.toList.drop 47 = dktX3_changedBut_2 := dk_seg dksX3_changedBut_1 23 rfl rfl
theorem dksX3_changedBut_3 : cX3_changedBut.data.toList.drop 71 = dktX3_changedBut_3 := dk_seg dksX3_changedBut_2 24 rfl rfl
theorem dX3_changedBut_0 : decode cX3_changedBut 0 = .ok (.aload_n 0, 1) := dk_42 (dk_at dksX3_changedBut_0 0 rfl rfl)
theorem dX3_changedBut_1 : decode cX3_changedBut 1 = .ok (.invokevirtual 271, 3) := dk_182 1 15 (dk_at dksX3_changedBut_0 1 rfl rfl)
theorem dX3_changedBut_4 : decode cX3_changedBut 4 = .ok (.iconst 0, 1) := dk_3 (dk_at dksX3_changedBut_0 4 rfl rfl)
theorem dX3_changedBut_5 : decode cX3_changedBut 5 = .ok (.istore_n 2, 1) := dk_61 (dk_at dksX3_changedBut_0 5 rfl rfl)
theorem dX3_changedBut_6 : decode cX3_changedBut 6 = .ok (.iconst 0, 1) := dk_3 (dk_at dksX3_changedBut_0 6 rfl rfl)
theorem dX3_changedBut_7 : decode cX3_changedBut 7 = .ok (.istore_n 3, 1) := dk_62 (dk_at dksX3_changedBut_0 7 rfl rfl)
theorem dX3_changedBut_8 : decode cX3_changedBut 8 = .ok (.iload_n 3, 1) := dk_29 (dk_at dksX3_changedBut_0 8 rfl rfl)
theorem dX3_changedBut_9 : decode cX3_changedBut 9 = .ok (.aload_n 0, 1) := dk_42 (dk_at dksX3_changedBut_0 9 rfl rfl)
theorem dX3_changedBut_10 : decode cX3_changedBut 10 = .ok (.getfield 17, 3) := dk_180 0 17 (dk_at dksX3_changedBut_0 10 rfl rfl)
theorem dX3_changedBut_13 : decode cX3_changedBut 13 = .ok (.iconst 1, 1) := dk_4 (dk_at dksX3_changedBut_0 13 rfl rfl)
theorem dX3_changedBut_14 : decode cX3_changedBut 14 = .ok (.iaload, 1) := dk_46 (dk_at dksX3_changedBut_0 14 rfl rfl)
theorem dX3_changedBut_15 : decode cX3_changedBut 15 = .ok (.if_icmp .ge 71, 3) := dk_162 0 71 (dk_at dksX3_changedBut_0 15 rfl rfl)
theorem dX3_changedBut_18 : decode cX3_changedBut 18 = .ok (.iconst 0, 1) := dk_3 (dk_at dksX3_changedBut_0 18 rfl rfl)
theorem dX3_changedBut_19 : decode cX3_changedBut 19 = .ok (.istore 4, 2) := dk_54 4 (dk_at dksX3_changedBut_0 19 rfl rfl)
theorem dX3_changedBut_21 : decode cX3_changedBut 21 = .ok (.iload 4, 2) := dk_21 4 (dk_at dksX3_changedBut_0 21 rfl rfl)
theorem dX3_changedBut_23 : decode cX3_changedBut 23 = .ok (.aload_n 0, 1) := dk_42 (dk_at dksX3_changedBut_0 23 rfl rfl)
theorem dX3_changedBut_24 : decode cX3_changedBut 24 = .ok (.getfield 17, 3) := dk_180 0 17 (dk_at dksX3_changedBut_1 0 rfl rfl)
theorem dX3_changedBut_27 : decode cX3_changedBut 27 = .ok (.iconst 2, 1) := dk_5 (dk_at dksX3_changedBut_1 3 rfl rfl)
theorem dX3_changedBut_28 : decode cX3_changedBut 28 = .ok (.iaload, 1) := dk_46 (dk_at dksX3_changedBut_1 4 rfl rfl)
theorem dX3_changedBut_29 : decode cX3_changedBut 29 = .ok (.if_icmp .ge 51, 3) := dk_162 0 51 (dk_at dksX3_changedBut_1 5 rfl rfl)
theorem dX3_changedBut_32 : decode cX3_changedBut 32 = .ok (.iload_n 2, 1) := dk_28 (dk_at dksX3_changedBut_1 8 rfl rfl)
theorem dX3_changedBut_33 : decode cX3_changedBut 33 = .ok (.iload_n 3, 1) := dk_29 (dk_at dksX3_changedBut_1 9 rfl rfl)
theorem dX3_changedBut_34 : decode cX3_changedBut 34 = .ok (.iload_n 1, 1) := dk_27 (dk_at dksX3_changedBut_1 10 rfl rfl)
theorem dX3_changedBut_35 : decode cX3_changedBut 35 = .ok (.if_icmp .eq 36, 3) := dk_159 0 36 (dk_at dksX3_changedBut_1 11 rfl rfl)
theorem dX3_changedBut_38 : decode cX3_changedBut 38 = .ok (.aload_n 0, 1) := dk_42 (dk_at dksX3_changedBut_1 14 rfl rfl)
theorem dX3_changedBut_39 : decode cX3_changedBut 39 = .ok (.iload_n 3, 1) := dk_29 (dk_at dksX3_changedBut_1 15 rfl rfl)
theorem dX3_changedBut_40 : decode cX3_changedBut 40 = .ok (.invokevirtual 232, 3) := dk_182 0 232 (dk_at dksX3_changedBut_1 16 rfl rfl)
theorem dX3_changedBut_43 : decode cX3_changedBut 43 = .ok (.ifCond .eq 28, 3) := dk_153 0 28 (dk_at dksX3_changedBut_1 19 rfl rfl)
theorem dX3_changedBut_46 : decode cX3_changedBut 46 = .ok (.aload_n 0, 1) := dk_42 (dk_at dksX3_changedBut_1 22 rfl rfl)
theorem dX3_changedBut_47 : decode cX3_changedBut 47 = .ok (.getfield 53, 3) := dk_180 0 53 (dk_at dksX3_changedBut_2 0 rfl rfl)
theorem dX3_changedBut_50 : decode cX3_changedBut 50 = .ok (.iload_n 3, 1) := dk_29 (dk_at dksX3_changedBut_2 3 rfl rfl)
theorem dX3_changedBut_51 : decode cX3_changedBut 51 = .ok (.aaload, 1) := dk_50 (dk_at dksX3_changedBut_2 4 rfl rfl)
theorem dX3_changedBut_52 : decode cX3_changedBut 52 = .ok (.iload 4, 2) := dk_21 4 (dk_at dksX3_changedBut_2 5 rfl rfl)
theorem dX3_changedBut_54 : decode cX3_changedBut 54 = .ok (.iaload, 1) := dk_46 (dk_at dksX3_changedBut_2 7 rfl rfl)
theorem dX3_changedBut_55 : decode cX3_changedBut 55 = .ok (.aload_n 0, 1) := dk_42 (dk_at dksX3_changedBut_2 8 rfl rfl)
theorem dX3_changedBut_56 : decode cX3_changedBut 56 = .ok (.getfield 50, 3) := dk_180 0 50 (dk_at dksX3_changedBut_2 9 rfl rfl)
theorem dX3_changedBut_59 : decode cX3_changedBut 59 = .ok (.iload_n 3, 1) := dk_29 (dk_at dksX3_changedBut_2 12 rfl rfl)
theorem dX3_changedBut_60 : decode cX3_changedBut 60 = .ok (.aaload, 1) := dk_50 (dk_at dksX3_changedBut_2 13 rfl rfl)
theorem dX3_changedBut_61 : decode cX3_changedBut 61 = .ok (.iload 4, 2) := dk_21 4 (dk_at dksX3_changedBut_2 14 rfl rfl)
theorem dX3_changedBut_63 : decode cX3_changedBut 63 = .ok (.iaload, 1) := dk_46 (dk_at dksX3_changedBut_2 16 rfl rfl)
theorem dX3_changedBut_64 : decode cX3_changedBut 64 = .ok (.if_icmp .eq 7, 3) := dk_159 0 7 (dk_at dksX3_changedBut_2 17 rfl rfl)
theorem dX3_changedBut_67 : decode cX3_changedBut 67 = .ok (.iconst 1, 1) := dk_4 (dk_at dksX3_changedBut_2 20 rfl rfl)
theorem dX3_changedBut_68 : decode cX3_changedBut 68 = .ok (.goto 4, 3) := dk_167 0 4 (dk_at dksX3_changedBut_2 21 rfl rfl)
theorem dX3_changedBut_71 : decode cX3_changedBut 71 = .ok (.iconst 0, 1) := dk_3 (dk_at dksX3_changedBut_3 0 rfl rfl)
theorem dX3_changedBut_72 : decode cX3_changedBut 72 = .ok (.iadd, 1) := dk_96 (dk_at dksX3_changedBut_3 1 rfl rfl)
theorem dX3_changedBut_73 : decode cX3_changedBut 73 = .ok (.istore_n 2, 1) := dk_61 (dk_at dksX3_changedBut_3 2 rfl rfl)
theorem dX3_changedBut_74 : decode cX3_changedBut 74 = .ok (.iinc 4 1, 3) := dk_132 4 1 (dk_at dksX3_changedBut_3 3 rfl rfl)
theorem dX3_changedBut_77 : decode cX3_changedBut 77 = .ok (.goto (-56), 3) := dk_167 255 200 (dk_at dksX3_changedBut_3 6 rfl rfl)
theorem dX3_changedBut_80 : decode cX3_changedBut 80 = .ok (.iinc 3 1, 3) := dk_132 3 1 (dk_at dksX3_changedBut_3 9 rfl rfl)
theorem dX3_changedBut_83 : decode cX3_changedBut 83 = .ok (.goto (-75), 3) := dk_167 255 181 (dk_at dksX3_changedBut_3 12 rfl rfl)
theorem dX3_changedBut_86 : decode cX3_changedBut 86 = .ok (.iload_n 2, 1) := dk_28 (dk_at dksX3_changedBut_3 15 rfl rfl)
theorem dX3_changedBut_87 : decode cX3_changedBut 87 = .ok (.ireturn, 1) := dk_172 (dk_at dksX3_changedBut_3 16 rfl rfl)
abbrev cX3_reload : ByteArray := prog_11_method_69_code
def yX3_reload : MethodName := ⟨RX3, "reload", "(I)I"⟩
def dkwX3_reload_2 : List UInt8 := [180, 0, 17, 27, 184, 0, 174, 5, 96, 42, 180, 0, 17, 6, 46, 79, 42, 27, 182, 1, 42, 172]
abbrev dktX3_reload_2 : List UInt8 := dkwX3_reload_2 ++ []
def dkwX3_reload_1 : List UInt8 := [153, 0, 5, 3, 172, 42, 182, 0, 225, 42, 182, 1, 39, 42, 180, 0, 17, 6, 92, 46, 4, 96, 79, 42]
abbrev dktX3_reload_1 : List UInt8 := dkwX3_reload_1 ++ dktX3_reload_2
def dkwX3_reload_0 : List UInt8 := [42, 3, 181, 0, 59, 42, 27, 182, 1, 21, 154, 0, 16, 42, 42, 27, 182, 0, 232, 5, 182, 0, 216]
abbrev dktX3_reload_0 : List UInt8 := dkwX3_reload_0 ++ dktX3_reload_1
theorem dksX3_reload_0 : cX3_reload.data.toList.drop 0 = dktX3_reload_0 := by decide +kernel
theorem dksX3_reload_1 : cX3_reload.data.toList.drop 23 = dktX3_reload_1 := dk_seg dksX3_reload_0 23 rfl rfl
theorem dksX3_reload_2 : cX3_reload.data.toList.drop 47 = dktX3_reload_2 := dk_seg dksX3_reload_1 24 rfl rfl
theorem dX3_reload_0 : decode cX3_reload 0 = .ok (.aload_n 0, 1) := dk_42 (dk_at dksX3_reload_0 0 rfl rfl)
theorem dX3_reload_1 : decode cX3_reload 1 = .ok (.iconst 0, 1) := dk_3 (dk_at dksX3_reload_0 1 rfl rfl)
theorem dX3_reload_2 : decode cX3_reload 2 = .ok (.putfield 59, 3) := dk_181 0 59 (dk_at dksX3_reload_0 2 rfl rfl)
theorem dX3_reload_5 : decode cX3_reload 5 = .ok (.aload_n 0, 1) := dk_42 (dk_at dksX3_reload_0 5 rfl rfl)
theorem dX3_reload_6 : decode cX3_reload 6 = .ok (.iload_n 1, 1) := dk_27 (dk_at dksX3_reload_0 6 rfl rfl)
theorem dX3_reload_7 : decode cX3_reload 7 = .ok (.invokevirtual 277, 3) := dk_182 1 21 (dk_at dksX3_reload_0 7 rfl rfl)
theorem dX3_reload_10 : decode cX3_reload 10 = .ok (.ifCond .ne 16, 3) := dk_154 0 16 (dk_at dksX3_reload_0 10 rfl rfl)
theorem dX3_reload_13 : decode cX3_reload 13 = .ok (.aload_n 0, 1) := dk_42 (dk_at dksX3_reload_0 13 rfl rfl)
theorem dX3_reload_14 : decode cX3_reload 14 = .ok (.aload_n 0, 1) := dk_42 (dk_at dksX3_reload_0 14 rfl rfl)
theorem dX3_reload_15 : decode cX3_reload 15 = .ok (.iload_n 1, 1) := dk_27 (dk_at dksX3_reload_0 15 rfl rfl)
theorem dX3_reload_16 : decode cX3_reload 16 = .ok (.invokevirtual 232, 3) := dk_182 0 232 (dk_at dksX3_reload_0 16 rfl rfl)
theorem dX3_reload_19 : decode cX3_reload 19 = .ok (.iconst 2, 1) := dk_5 (dk_at dksX3_reload_0 19 rfl rfl)
theorem dX3_reload_20 : decode cX3_reload 20 = .ok (.invokevirtual 216, 3) := dk_182 0 216 (dk_at dksX3_reload_0 20 rfl rfl)
theorem dX3_reload_23 : decode cX3_reload 23 = .ok (.ifCond .eq 5, 3) := dk_153 0 5 (dk_at dksX3_reload_1 0 rfl rfl)
theorem dX3_reload_26 : decode cX3_reload 26 = .ok (.iconst 0, 1) := dk_3 (dk_at dksX3_reload_1 3 rfl rfl)
theorem dX3_reload_27 : decode cX3_reload 27 = .ok (.ireturn, 1) := dk_172 (dk_at dksX3_reload_1 4 rfl rfl)
theorem dX3_reload_28 : decode cX3_reload 28 = .ok (.aload_n 0, 1) := dk_42 (dk_at dksX3_reload_1 5 rfl rfl)
theorem dX3_reload_29 : decode cX3_reload 29 = .ok (.invokevirtual 225, 3) := dk_182 0 225 (dk_at dksX3_reload_1 6 rfl rfl)
theorem dX3_reload_32 : decode cX3_reload 32 = .ok (.aload_n 0, 1) := dk_42 (dk_at dksX3_reload_1 9 rfl rfl)
theorem dX3_reload_33 : decode cX3_reload 33 = .ok (.invokevirtual 295, 3) := dk_182 1 39 (dk_at dksX3_reload_1 10 rfl rfl)
theorem dX3_reload_36 : decode cX3_reload 36 = .ok (.aload_n 0, 1) := dk_42 (dk_at dksX3_reload_1 13 rfl rfl)
theorem dX3_reload_37 : decode cX3_reload 37 = .ok (.getfield 17, 3) := dk_180 0 17 (dk_at dksX3_reload_1 14 rfl rfl)
theorem dX3_reload_40 : decode cX3_reload 40 = .ok (.iconst 3, 1) := dk_6 (dk_at dksX3_reload_1 17 rfl rfl)
theorem dX3_reload_41 : decode cX3_reload 41 = .ok (.dup2, 1) := dk_92 (dk_at dksX3_reload_1 18 rfl rfl)
theorem dX3_reload_42 : decode cX3_reload 42 = .ok (.iaload, 1) := dk_46 (dk_at dksX3_reload_1 19 rfl rfl)
theorem dX3_reload_43 : decode cX3_reload 43 = .ok (.iconst 1, 1) := dk_4 (dk_at dksX3_reload_1 20 rfl rfl)
theorem dX3_reload_44 : decode cX3_reload 44 = .ok (.iadd, 1) := dk_96 (dk_at dksX3_reload_1 21 rfl rfl)
theorem dX3_reload_45 : decode cX3_reload 45 = .ok (.iastore, 1) := dk_79 (dk_at dksX3_reload_1 22 rfl rfl)
theorem dX3_reload_46 : decode cX3_reload 46 = .ok (.aload_n 0, 1) := dk_42 (dk_at dksX3_reload_1 23 rfl rfl)
theorem dX3_reload_47 : decode cX3_reload 47 = .ok (.getfield 17, 3) := dk_180 0 17 (dk_at dksX3_reload_2 0 rfl rfl)
theorem dX3_reload_50 : decode cX3_reload 50 = .ok (.iload_n 1, 1) := dk_27 (dk_at dksX3_reload_2 3 rfl rfl)
theorem dX3_reload_51 : decode cX3_reload 51 = .ok (.invokestatic 174, 3) := dk_184 0 174 (dk_at dksX3_reload_2 4 rfl rfl)
theorem dX3_reload_54 : decode cX3_reload 54 = .ok (.iconst 2, 1) := dk_5 (dk_at dksX3_reload_2 7 rfl rfl)
theorem dX3_reload_55 : decode cX3_reload 55 = .ok (.iadd, 1) := dk_96 (dk_at dksX3_reload_2 8 rfl rfl)
theorem dX3_reload_56 : decode cX3_reload 56 = .ok (.aload_n 0, 1) := dk_42 (dk_at dksX3_reload_2 9 rfl rfl)
theorem dX3_reload_57 : decode cX3_reload 57 = .ok (.getfield 17, 3) := dk_180 0 17 (dk_at dksX3_reload_2 10 rfl rfl)
theorem dX3_reload_60 : decode cX3_reload 60 = .ok (.iconst 3, 1) := dk_6 (dk_at dksX3_reload_2 13 rfl rfl)
theorem dX3_reload_61 : decode cX3_reload 61 = .ok (.iaload, 1) := dk_46 (dk_at dksX3_reload_2 14 rfl rfl)
theorem dX3_reload_62 : decode cX3_reload 62 = .ok (.iastore, 1) := dk_79 (dk_at dksX3_reload_2 15 rfl rfl)
theorem dX3_reload_63 : decode cX3_reload 63 = .ok (.aload_n 0, 1) := dk_42 (dk_at dksX3_reload_2 16 rfl rfl)
theorem dX3_reload_64 : decode cX3_reload 64 = .ok (.iload_n 1, 1) := dk_27 (dk_at dksX3_reload_2 17 rfl rfl)
theorem dX3_reload_65 : decode cX3_reload 65 = .ok (.invokevirtual 298, 3) := dk_182 1 42 (dk_at dksX3_reload_2 18 rfl rfl)
theorem dX3_reload_68 : decode cX3_reload 68 = .ok (.ireturn, 1) := dk_172 (dk_at dksX3_reload_2 21 rfl rfl)
abbrev cX3_offerValue : ByteArray := prog_11_method_71_code
def yX3_offerValue : MethodName := ⟨RX3, "offerValue", "(III)I"⟩
def dkwX3_offerValue_2 : List UInt8 := [167, 0, 10, 42, 27, 28, 29, 182, 1, 45, 172]
abbrev dktX3_offerValue_2 : List UInt8 := dkwX3_offerValue_2 ++ []
def dkwX3_offerValue_1 : List UInt8 := [17, 39, 15, 184, 0, 81, 154, 0, 7, 4, 167, 0, 4, 3, 5, 182, 0, 216, 153, 0, 7, 3]
abbrev dktX3_offerValue_1 : List UInt8 := dkwX3_offerValue_1 ++ dktX3_offerValue_2
def dkwX3_offerValue_0 : List UInt8 := [42, 3, 181, 0, 59, 42, 27, 182, 1, 21, 154, 0, 35, 42, 28, 182, 1, 24, 154, 0, 27, 42, 29, 3]
abbrev dktX3_offerValue_0 : List UInt8 := dkwX3_offerValue_0 ++ dktX3_offerValue_1
theorem dksX3_offerValue_0 : cX3_offerValue.data.toList.drop 0 = dktX3_offerValue_0 := by decide +kernel
theorem dksX3_offerValue_1 : cX3_offerValue.data.toList.drop 24 = dktX3_offerValue_1 := dk_seg dksX3_offerValue_0 24 rfl rfl
theorem dksX3_offerValue_2 : cX3_offerValue.data.toList.drop 46 = dktX3_offerValue_2 := dk_seg dksX3_offerValue_1 22 rfl rfl
theorem dX3_offerValue_0 : decode cX3_offerValue 0 = .ok (.aload_n 0, 1) := dk_42 (dk_at dksX3_offerValue_0 0 rfl rfl)
theorem dX3_offerValue_1 : decode cX3_offerValue 1 = .ok (.iconst 0, 1) := dk_3 (dk_at dksX3_offerValue_0 1 rfl rfl)
theorem dX3_offerValue_2 : decode cX3_offerValue 2 = .ok (.putfield 59, 3) := dk_181 0 59 (dk_at dksX3_offerValue_0 2 rfl rfl)
theorem dX3_offerValue_5 : decode cX3_offerValue 5 = .ok (.aload_n 0, 1) := dk_42 (dk_at dksX3_offerValue_0 5 rfl rfl)
theorem dX3_offerValue_6 : decode cX3_offerValue 6 = .ok (.iload_n 1, 1) := dk_27 (dk_at dksX3_offerValue_0 6 rfl rfl)
theorem dX3_offerValue_7 : decode cX3_offerValue 7 = .ok (.invokevirtual 277, 3) := dk_182 1 21 (dk_at dksX3_offerValue_0 7 rfl rfl)
theorem dX3_offerValue_10 : decode cX3_offerValue 10 = .ok (.ifCond .ne 35, 3) := dk_154 0 35 (dk_at dksX3_offerValue_0 10 rfl rfl)
theorem dX3_offerValue_13 : decode cX3_offerValue 13 = .ok (.aload_n 0, 1) := dk_42 (dk_at dksX3_offerValue_0 13 rfl rfl)
theorem dX3_offerValue_14 : decode cX3_offerValue 14 = .ok (.iload_n 2, 1) := dk_28 (dk_at dksX3_offerValue_0 14 rfl rfl)
theorem dX3_offerValue_15 : decode cX3_offerValue 15 = .ok (.invokevirtual 280, 3) := dk_182 1 24 (dk_at dksX3_offerValue_0 15 rfl rfl)
theorem dX3_offerValue_18 : decode cX3_offerValue 18 = .ok (.ifCond .ne 27, 3) := dk_154 0 27 (dk_at dksX3_offerValue_0 18 rfl rfl)
theorem dX3_offerValue_21 : decode cX3_offerValue 21 = .ok (.aload_n 0, 1) := dk_42 (dk_at dksX3_offerValue_0 21 rfl rfl)
theorem dX3_offerValue_22 : decode cX3_offerValue 22 = .ok (.iload_n 3, 1) := dk_29 (dk_at dksX3_offerValue_0 22 rfl rfl)
theorem dX3_offerValue_23 : decode cX3_offerValue 23 = .ok (.iconst 0, 1) := dk_3 (dk_at dksX3_offerValue_0 23 rfl rfl)
theorem dX3_offerValue_24 : decode cX3_offerValue 24 = .ok (.sipush 9999, 3) := dk_17 39 15 (dk_at dksX3_offerValue_1 0 rfl rfl)
theorem dX3_offerValue_27 : decode cX3_offerValue 27 = .ok (.invokestatic 81, 3) := dk_184 0 81 (dk_at dksX3_offerValue_1 3 rfl rfl)
theorem dX3_offerValue_30 : decode cX3_offerValue 30 = .ok (.ifCond .ne 7, 3) := dk_154 0 7 (dk_at dksX3_offerValue_1 6 rfl rfl)
theorem dX3_offerValue_33 : decode cX3_offerValue 33 = .ok (.iconst 1, 1) := dk_4 (dk_at dksX3_offerValue_1 9 rfl rfl)
theorem dX3_offerValue_34 : decode cX3_offerValue 34 = .ok (.goto 4, 3) := dk_167 0 4 (dk_at dksX3_offerValue_1 10 rfl rfl)
theorem dX3_offerValue_37 : decode cX3_offerValue 37 = .ok (.iconst 0, 1) := dk_3 (dk_at dksX3_offerValue_1 13 rfl rfl)
theorem dX3_offerValue_38 : decode cX3_offerValue 38 = .ok (.iconst 2, 1) := dk_5 (dk_at dksX3_offerValue_1 14 rfl rfl)
theorem dX3_offerValue_39 : decode cX3_offerValue 39 = .ok (.invokevirtual 216, 3) := dk_182 0 216 (dk_at dksX3_offerValue_1 15 rfl rfl)
theorem dX3_offerValue_42 : decode cX3_offerValue 42 = .ok (.ifCond .eq 7, 3) := dk_153 0 7 (dk_at dksX3_offerValue_1 18 rfl rfl)
theorem dX3_offerValue_45 : decode cX3_offerValue 45 = .ok (.iconst 0, 1) := dk_3 (dk_at dksX3_offerValue_1 21 rfl rfl)
theorem dX3_offerValue_46 : decode cX3_offerValue 46 = .ok (.goto 10, 3) := dk_167 0 10 (dk_at dksX3_offerValue_2 0 rfl rfl)
theorem dX3_offerValue_49 : decode cX3_offerValue 49 = .ok (.aload_n 0, 1) := dk_42 (dk_at dksX3_offerValue_2 3 rfl rfl)
theorem dX3_offerValue_50 : decode cX3_offerValue 50 = .ok (.iload_n 1, 1) := dk_27 (dk_at dksX3_offerValue_2 4 rfl rfl)
theorem dX3_offerValue_51 : decode cX3_offerValue 51 = .ok (.iload_n 2, 1) := dk_28 (dk_at dksX3_offerValue_2 5 rfl rfl)
theorem dX3_offerValue_52 : decode cX3_offerValue 52 = .ok (.iload_n 3, 1) := dk_29 (dk_at dksX3_offerValue_2 6 rfl rfl)
theorem dX3_offerValue_53 : decode cX3_offerValue 53 = .ok (.invokevirtual 301, 3) := dk_182 1 45 (dk_at dksX3_offerValue_2 7 rfl rfl)
theorem dX3_offerValue_56 : decode cX3_offerValue 56 = .ok (.ireturn, 1) := dk_172 (dk_at dksX3_offerValue_2 10 rfl rfl)
abbrev cX3_put : ByteArray := prog_11_method_70_code
def yX3_put : MethodName := ⟨RX3, "put", "(III)I"⟩
def dkwX3_put_1 : List UInt8 := [180, 0, 44, 28, 46, 172]
abbrev dktX3_put_1 : List UInt8 := dkwX3_put_1 ++ []
def dkwX3_put_0 : List UInt8 := [42, 182, 0, 225, 42, 180, 0, 17, 27, 184, 0, 174, 16, 12, 96, 28, 96, 29, 79, 42, 182, 1, 15, 42]
abbrev dktX3_put_0 : List UInt8 := dkwX3_put_0 ++ dktX3_put_1
theorem dksX3_put_0 : cX3_put.data.toList.drop 0 = dktX3_put_0 := by decide +kernel
theorem dksX3_put_1 : cX3_put.data.toList.drop 24 = dktX3_put_1 := dk_seg dksX3_put_0 24 rfl rfl
theorem dX3_put_0 : decode cX3_put 0 = .ok (.aload_n 0, 1) := dk_42 (dk_at dksX3_put_0 0 rfl rfl)
theorem dX3_put_1 : decode cX3_put 1 = .ok (.invokevirtual 225, 3) := dk_182 0 225 (dk_at dksX3_put_0 1 rfl rfl)
theorem dX3_put_4 : decode cX3_put 4 = .ok (.aload_n 0, 1) := dk_42 (dk_at dksX3_put_0 4 rfl rfl)
theorem dX3_put_5 : decode cX3_put 5 = .ok (.getfield 17, 3) := dk_180 0 17 (dk_at dksX3_put_0 5 rfl rfl)
theorem dX3_put_8 : decode cX3_put 8 = .ok (.iload_n 1, 1) := dk_27 (dk_at dksX3_put_0 8 rfl rfl)
theorem dX3_put_9 : decode cX3_put 9 = .ok (.invokestatic 174, 3) := dk_184 0 174 (dk_at dksX3_put_0 9 rfl rfl)
theorem dX3_put_12 : decode cX3_put 12 = .ok (.bipush 12, 2) := dk_16 12 (dk_at dksX3_put_0 12 rfl rfl)
theorem dX3_put_14 : decode cX3_put 14 = .ok (.iadd, 1) := dk_96 (dk_at dksX3_put_0 14 rfl rfl)
theorem dX3_put_15 : decode cX3_put 15 = .ok (.iload_n 2, 1) := dk_28 (dk_at dksX3_put_0 15 rfl rfl)
theorem dX3_put_16 : decode cX3_put 16 = .ok (.iadd, 1) := dk_96 (dk_at dksX3_put_0 16 rfl rfl)
theorem dX3_put_17 : decode cX3_put 17 = .ok (.iload_n 3, 1) := dk_29 (dk_at dksX3_put_0 17 rfl rfl)
theorem dX3_put_18 : decode cX3_put 18 = .ok (.iastore, 1) := dk_79 (dk_at dksX3_put_0 18 rfl rfl)
theorem dX3_put_19 : decode cX3_put 19 = .ok (.aload_n 0, 1) := dk_42 (dk_at dksX3_put_0 19 rfl rfl)
theorem dX3_put_20 : decode cX3_put 20 = .ok (.invokevirtual 271, 3) := dk_182 1 15 (dk_at dksX3_put_0 20 rfl rfl)
theorem dX3_put_23 : decode cX3_put 23 = .ok (.aload_n 0, 1) := dk_42 (dk_at dksX3_put_0 23 rfl rfl)
theorem dX3_put_24 : decode cX3_put 24 = .ok (.getfield 44, 3) := dk_180 0 44 (dk_at dksX3_put_1 0 rfl rfl)
theorem dX3_put_27 : decode cX3_put 27 = .ok (.iload_n 2, 1) := dk_28 (dk_at dksX3_put_1 3 rfl rfl)
theorem dX3_put_28 : decode cX3_put 28 = .ok (.iaload, 1) := dk_46 (dk_at dksX3_put_1 4 rfl rfl)
theorem dX3_put_29 : decode cX3_put 29 = .ok (.ireturn, 1) := dk_172 (dk_at dksX3_put_1 5 rfl rfl)
abbrev cX3_offerForward : ByteArray := prog_11_method_72_code
def yX3_offerForward : MethodName := ⟨RX3, "offerForward", "(III)I"⟩
def dkwX3_offerForward_1 : List UInt8 := [182, 1, 24, 153, 0, 7, 3, 167, 0, 13, 42, 27, 28, 16, 254, 29, 100, 182, 1, 45, 172]
abbrev dktX3_offerForward_1 : List UInt8 := dkwX3_offerForward_1 ++ []
def dkwX3_offerForward_0 : List UInt8 := [42, 3, 181, 0, 59, 42, 27, 182, 1, 21, 154, 0, 19, 42, 28, 182, 1, 24, 154, 0, 11, 42, 29]
abbrev dktX3_offerForward_0 : List UInt8 := dkwX3_offerForward_0 ++ dktX3_offerForward_1
theorem dksX3_offerForward_0 : cX3_offerForward.data.toList.drop 0 = dktX3_offerForward_0 := by decide +kernel
theorem dksX3_offerForward_1 : cX3_offerForward.data.toList.drop 23 = dktX3_offerForward_1 := dk_seg dksX3_offerForward_0 23 rfl rfl
theorem dX3_offerForward_0 : decode cX3_offerForward 0 = .ok (.aload_n 0, 1) := dk_42 (dk_at dksX3_offerForward_0 0 rfl rfl)
theorem dX3_offerForward_1 : decode cX3_offerForward 1 = .ok (.iconst 0, 1) := dk_3 (dk_at dksX3_offerForward_0 1 rfl rfl)
theorem dX3_offerForward_2 : decode cX3_offerForward 2 = .ok (.putfield 59, 3) := dk_181 0 59 (dk_at dksX3_offerForward_0 2 rfl rfl)
theorem dX3_offerForward_5 : decode cX3_offerForward 5 = .ok (.aload_n 0, 1) := dk_42 (dk_at dksX3_offerForward_0 5 rfl rfl)
theorem dX3_offerForward_6 : decode cX3_offerForward 6 = .ok (.iload_n 1, 1) := dk_27 (dk_at dksX3_offerForward_0 6 rfl rfl)
theorem dX3_offerForward_7 : decode cX3_offerForward 7 = .ok (.invokevirtual 277, 3) := dk_182 1 21 (dk_at dksX3_offerForward_0 7 rfl rfl)
theorem dX3_offerForward_10 : decode cX3_offerForward 10 = .ok (.ifCond .ne 19, 3) := dk_154 0 19 (dk_at dksX3_offerForward_0 10 rfl rfl)
theorem dX3_offerForward_13 : decode cX3_offerForward 13 = .ok (.aload_n 0, 1) := dk_42 (dk_at dksX3_offerForward_0 13 rfl rfl)
theorem dX3_offerForward_14 : decode cX3_offerForward 14 = .ok (.iload_n 2, 1) := dk_28 (dk_at dksX3_offerForward_0 14 rfl rfl)
theorem dX3_offerForward_15 : decode cX3_offerForward 15 = .ok (.invokevirtual 280, 3) := dk_182 1 24 (dk_at dksX3_offerForward_0 15 rfl rfl)
theorem dX3_offerForward_18 : decode cX3_offerForward 18 = .ok (.ifCond .ne 11, 3) := dk_154 0 11 (dk_at dksX3_offerForward_0 18 rfl rfl)
theorem dX3_offerForward_21 : decode cX3_offerForward 21 = .ok (.aload_n 0, 1) := dk_42 (dk_at dksX3_offerForward_0 21 rfl rfl)
theorem dX3_offerForward_22 : decode cX3_offerForward 22 = .ok (.iload_n 3, 1) := dk_29 (dk_at dksX3_offerForward_0 22 rfl rfl)
theorem dX3_offerForward_23 : decode cX3_offerForward 23 = .ok (.invokevirtual 280, 3) := dk_182 1 24 (dk_at dksX3_offerForward_1 0 rfl rfl)
theorem dX3_offerForward_26 : decode cX3_offerForward 26 = .ok (.ifCond .eq 7, 3) := dk_153 0 7 (dk_at dksX3_offerForward_1 3 rfl rfl)
theorem dX3_offerForward_29 : decode cX3_offerForward 29 = .ok (.iconst 0, 1) := dk_3 (dk_at dksX3_offerForward_1 6 rfl rfl)
theorem dX3_offerForward_30 : decode cX3_offerForward 30 = .ok (.goto 13, 3) := dk_167 0 13 (dk_at dksX3_offerForward_1 7 rfl rfl)
theorem dX3_offerForward_33 : decode cX3_offerForward 33 = .ok (.aload_n 0, 1) := dk_42 (dk_at dksX3_offerForward_1 10 rfl rfl)
theorem dX3_offerForward_34 : decode cX3_offerForward 34 = .ok (.iload_n 1, 1) := dk_27 (dk_at dksX3_offerForward_1 11 rfl rfl)
theorem dX3_offerForward_35 : decode cX3_offerForward 35 = .ok (.iload_n 2, 1) := dk_28 (dk_at dksX3_offerForward_1 12 rfl rfl)
theorem dX3_offerForward_36 : decode cX3_offerForward 36 = .ok (.bipush (-2), 2) := dk_16 254 (dk_at dksX3_offerForward_1 13 rfl rfl)
theorem dX3_offerForward_38 : decode cX3_offerForward 38 = .ok (.iload_n 3, 1) := dk_29 (dk_at dksX3_offerForward_1 15 rfl rfl)
theorem dX3_offerForward_39 : decode cX3_offerForward 39 = .ok (.isub, 1) := dk_100 (dk_at dksX3_offerForward_1 16 rfl rfl)
theorem dX3_offerForward_40 : decode cX3_offerForward 40 = .ok (.invokevirtual 301, 3) := dk_182 1 45 (dk_at dksX3_offerForward_1 17 rfl rfl)
theorem dX3_offerForward_43 : decode cX3_offerForward 43 = .ok (.ireturn, 1) := dk_172 (dk_at dksX3_offerForward_1 20 rfl rfl)
abbrev cX3_withdraw : ByteArray := prog_11_method_73_code
def yX3_withdraw : MethodName := ⟨RX3, "withdraw", "(II)I"⟩
def dkwX3_withdraw_2 : List UInt8 := [182, 0, 216, 153, 0, 7, 3, 167, 0, 10, 42, 27, 28, 2, 182, 1, 45, 172]
abbrev dktX3_withdraw_2 : List UInt8 := dkwX3_withdraw_2 ++ []
def dkwX3_withdraw_1 : List UInt8 := [180, 0, 17, 27, 184, 0, 174, 16, 12, 96, 28, 96, 46, 2, 160, 0, 7, 4, 167, 0, 4, 3, 5]
abbrev dktX3_withdraw_1 : List UInt8 := dkwX3_withdraw_1 ++ dktX3_withdraw_2
def dkwX3_withdraw_0 : List UInt8 := [42, 3, 181, 0, 59, 42, 27, 182, 1, 21, 154, 0, 42, 42, 28, 182, 1, 24, 154, 0, 34, 42, 42]
abbrev dktX3_withdraw_0 : List UInt8 := dkwX3_withdraw_0 ++ dktX3_withdraw_1
theorem dksX3_withdraw_0 : cX3_withdraw.data.toList.drop 0 = dktX3_withdraw_0 := by decide +kernel
theorem dksX3_withdraw_1 : cX3_withdraw.data.toList.drop 23 = dktX3_withdraw_1 := dk_seg dksX3_withdraw_0 23 rfl rfl
theorem dksX3_withdraw_2 : cX3_withdraw.data.toList.drop 46 = dktX3_withdraw_2 := dk_seg dksX3_withdraw_1 23 rfl rfl
theorem dX3_withdraw_0 : decode cX3_withdraw 0 = .ok (.aload_n 0, 1) := dk_42 (dk_at dksX3_withdraw_0 0 rfl rfl)
theorem dX3_withdraw_1 : decode cX3_withdraw 1 = .ok (.iconst 0, 1) := dk_3 (dk_at dksX3_withdraw_0 1 rfl rfl)
theorem dX3_withdraw_2 : decode cX3_withdraw 2 = .ok (.putfield 59, 3) := dk_181 0 59 (dk_at dksX3_withdraw_0 2 rfl rfl)
theorem dX3_withdraw_5 : decode cX3_withdraw 5 = .ok (.aload_n 0, 1) := dk_42 (dk_at dksX3_withdraw_0 5 rfl rfl)
theorem dX3_withdraw_6 : decode cX3_withdraw 6 = .ok (.iload_n 1, 1) := dk_27 (dk_at dksX3_withdraw_0 6 rfl rfl)
theorem dX3_withdraw_7 : decode cX3_withdraw 7 = .ok (.invokevirtual 277, 3) := dk_182 1 21 (dk_at dksX3_withdraw_0 7 rfl rfl)
theorem dX3_withdraw_10 : decode cX3_withdraw 10 = .ok (.ifCond .ne 42, 3) := dk_154 0 42 (dk_at dksX3_withdraw_0 10 rfl rfl)
theorem dX3_withdraw_13 : decode cX3_withdraw 13 = .ok (.aload_n 0, 1) := dk_42 (dk_at dksX3_withdraw_0 13 rfl rfl)
theorem dX3_withdraw_14 : decode cX3_withdraw 14 = .ok (.iload_n 2, 1) := dk_28 (dk_at dksX3_withdraw_0 14 rfl rfl)
theorem dX3_withdraw_15 : decode cX3_withdraw 15 = .ok (.invokevirtual 280, 3) := dk_182 1 24 (dk_at dksX3_withdraw_0 15 rfl rfl)
theorem dX3_withdraw_18 : decode cX3_withdraw 18 = .ok (.ifCond .ne 34, 3) := dk_154 0 34 (dk_at dksX3_withdraw_0 18 rfl rfl)
theorem dX3_withdraw_21 : decode cX3_withdraw 21 = .ok (.aload_n 0, 1) := dk_42 (dk_at dksX3_withdraw_0 21 rfl rfl)
theorem dX3_withdraw_22 : decode cX3_withdraw 22 = .ok (.aload_n 0, 1) := dk_42 (dk_at dksX3_withdraw_0 22 rfl rfl)
theorem dX3_withdraw_23 : decode cX3_withdraw 23 = .ok (.getfield 17, 3) := dk_180 0 17 (dk_at dksX3_withdraw_1 0 rfl rfl)
theorem dX3_withdraw_26 : decode cX3_withdraw 26 = .ok (.iload_n 1, 1) := dk_27 (dk_at dksX3_withdraw_1 3 rfl rfl)
theorem dX3_withdraw_27 : decode cX3_withdraw 27 = .ok (.invokestatic 174, 3) := dk_184 0 174 (dk_at dksX3_withdraw_1 4 rfl rfl)
theorem dX3_withdraw_30 : decode cX3_withdraw 30 = .ok (.bipush 12, 2) := dk_16 12 (dk_at dksX3_withdraw_1 7 rfl rfl)
theorem dX3_withdraw_32 : decode cX3_withdraw 32 = .ok (.iadd, 1) := dk_96 (dk_at dksX3_withdraw_1 9 rfl rfl)
theorem dX3_withdraw_33 : decode cX3_withdraw 33 = .ok (.iload_n 2, 1) := dk_28 (dk_at dksX3_withdraw_1 10 rfl rfl)
theorem dX3_withdraw_34 : decode cX3_withdraw 34 = .ok (.iadd, 1) := dk_96 (dk_at dksX3_withdraw_1 11 rfl rfl)
theorem dX3_withdraw_35 : decode cX3_withdraw 35 = .ok (.iaload, 1) := dk_46 (dk_at dksX3_withdraw_1 12 rfl rfl)
theorem dX3_withdraw_36 : decode cX3_withdraw 36 = .ok (.iconst (-1), 1) := dk_2 (dk_at dksX3_withdraw_1 13 rfl rfl)
theorem dX3_withdraw_37 : decode cX3_withdraw 37 = .ok (.if_icmp .ne 7, 3) := dk_160 0 7 (dk_at dksX3_withdraw_1 14 rfl rfl)
theorem dX3_withdraw_40 : decode cX3_withdraw 40 = .ok (.iconst 1, 1) := dk_4 (dk_at dksX3_withdraw_1 17 rfl rfl)
theorem dX3_withdraw_41 : decode cX3_withdraw 41 = .ok (.goto 4, 3) := dk_167 0 4 (dk_at dksX3_withdraw_1 18 rfl rfl)
theorem dX3_withdraw_44 : decode cX3_withdraw 44 = .ok (.iconst 0, 1) := dk_3 (dk_at dksX3_withdraw_1 21 rfl rfl)
theorem dX3_withdraw_45 : decode cX3_withdraw 45 = .ok (.iconst 2, 1) := dk_5 (dk_at dksX3_withdraw_1 22 rfl rfl)
theorem dX3_withdraw_46 : decode cX3_withdraw 46 = .ok (.invokevirtual 216, 3) := dk_182 0 216 (dk_at dksX3_withdraw_2 0 rfl rfl)
theorem dX3_withdraw_49 : decode cX3_withdraw 49 = .ok (.ifCond .eq 7, 3) := dk_153 0 7 (dk_at dksX3_withdraw_2 3 rfl rfl)
theorem dX3_withdraw_52 : decode cX3_withdraw 52 = .ok (.iconst 0, 1) := dk_3 (dk_at dksX3_withdraw_2 6 rfl rfl)
theorem dX3_withdraw_53 : decode cX3_withdraw 53 = .ok (.goto 10, 3) := dk_167 0 10 (dk_at dksX3_withdraw_2 7 rfl rfl)
theorem dX3_withdraw_56 : decode cX3_withdraw 56 = .ok (.aload_n 0, 1) := dk_42 (dk_at dksX3_withdraw_2 10 rfl rfl)
theorem dX3_withdraw_57 : decode cX3_withdraw 57 = .ok (.iload_n 1, 1) := dk_27 (dk_at dksX3_withdraw_2 11 rfl rfl)
theorem dX3_withdraw_58 : decode cX3_withdraw 58 = .ok (.iload_n 2, 1) := dk_28 (dk_at dksX3_withdraw_2 12 rfl rfl)
theorem dX3_withdraw_59 : decode cX3_withdraw 59 = .ok (.iconst (-1), 1) := dk_2 (dk_at dksX3_withdraw_2 13 rfl rfl)
theorem dX3_withdraw_60 : decode cX3_withdraw 60 = .ok (.invokevirtual 301, 3) := dk_182 1 45 (dk_at dksX3_withdraw_2 14 rfl rfl)
theorem dX3_withdraw_63 : decode cX3_withdraw 63 = .ok (.ireturn, 1) := dk_172 (dk_at dksX3_withdraw_2 17 rfl rfl)
abbrev cX3_setTrust : ByteArray := prog_11_method_74_code
def yX3_setTrust : MethodName := ⟨RX3, "setTrust", "(II)I"⟩
def dkwX3_setTrust_3 : List UInt8 := [172]
abbrev dktX3_setTrust_3 : List UInt8 := dkwX3_setTrust_3 ++ []
def dkwX3_setTrust_2 : List UInt8 := [180, 0, 17, 27, 184, 0, 174, 3, 96, 46, 62, 42, 180, 0, 17, 27, 184, 0, 174, 3, 96, 28, 79, 29]
abbrev dktX3_setTrust_2 : List UInt8 := dkwX3_setTrust_2 ++ dktX3_setTrust_3
def dkwX3_setTrust_1 : List UInt8 := [154, 0, 7, 4, 167, 0, 4, 3, 5, 182, 0, 216, 153, 0, 5, 3, 172, 42, 182, 0, 225, 42]
abbrev dktX3_setTrust_1 : List UInt8 := dkwX3_setTrust_1 ++ dktX3_setTrust_2
def dkwX3_setTrust_0 : List UInt8 := [42, 3, 181, 0, 59, 42, 27, 182, 1, 21, 154, 0, 27, 42, 28, 3, 17, 3, 231, 184, 0, 81]
abbrev dktX3_setTrust_0 : List UInt8 := dkwX3_setTrust_0 ++ dktX3_setTrust_1
theorem dksX3_setTrust_0 : cX3_setTrust.data.toList.drop 0 = dktX3_setTrust_0 := by decide +kernel
theorem dksX3_setTrust_1 : cX3_setTrust.data.toList.drop 22 = dktX3_setTrust_1 := dk_seg dksX3_setTrust_0 22 rfl rfl
theorem dksX3_setTrust_2 : cX3_setTrust.data.toList.drop 44 = dktX3_setTrust_2 := dk_seg dksX3_setTrust_1 22 rfl rfl
theorem dksX3_setTrust_3 : cX3_setTrust.data.toList.drop 68 = dktX3_setTrust_3 := dk_seg dksX3_setTrust_2 24 rfl rfl
theorem dX3_setTrust_0 : decode cX3_setTrust 0 = .ok (.aload_n 0, 1) := dk_42 (dk_at dksX3_setTrust_0 0 rfl rfl)
theorem dX3_setTrust_1 : decode cX3_setTrust 1 = .ok (.iconst 0, 1) := dk_3 (dk_at dksX3_setTrust_0 1 rfl rfl)
theorem dX3_setTrust_2 : decode cX3_setTrust 2 = .ok (.putfield 59, 3) := dk_181 0 59 (dk_at dksX3_setTrust_0 2 rfl rfl)
theorem dX3_setTrust_5 : decode cX3_setTrust 5 = .ok (.aload_n 0, 1) := dk_42 (dk_at dksX3_setTrust_0 5 rfl rfl)
theorem dX3_setTrust_6 : decode cX3_setTrust 6 = .ok (.iload_n 1, 1) := dk_27 (dk_at dksX3_setTrust_0 6 rfl rfl)
theorem dX3_setTrust_7 : decode cX3_setTrust 7 = .ok (.invokevirtual 277, 3) := dk_182 1 21 (dk_at dksX3_setTrust_0 7 rfl rfl)
theorem dX3_setTrust_10 : decode cX3_setTrust 10 = .ok (.ifCond .ne 27, 3) := dk_154 0 27 (dk_at dksX3_setTrust_0 10 rfl rfl)
theorem dX3_setTrust_13 : decode cX3_setTrust 13 = .ok (.aload_n 0, 1) := dk_42 (dk_at dksX3_setTrust_0 13 rfl rfl)
theorem dX3_setTrust_14 : decode cX3_setTrust 14 = .ok (.iload_n 2, 1) := dk_28 (dk_at dksX3_setTrust_0 14 rfl rfl)
theorem dX3_setTrust_15 : decode cX3_setTrust 15 = .ok (.iconst 0, 1) := dk_3 (dk_at dksX3_setTrust_0 15 rfl rfl)
theorem dX3_setTrust_16 : decode cX3_setTrust 16 = .ok (.sipush 999, 3) := dk_17 3 231 (dk_at dksX3_setTrust_0 16 rfl rfl)
theorem dX3_setTrust_19 : decode cX3_setTrust 19 = .ok (.invokestatic 81, 3) := dk_184 0 81 (dk_at dksX3_setTrust_0 19 rfl rfl)
theorem dX3_setTrust_22 : decode cX3_setTrust 22 = .ok (.ifCond .ne 7, 3) := dk_154 0 7 (dk_at dksX3_setTrust_1 0 rfl rfl)
theorem dX3_setTrust_25 : decode cX3_setTrust 25 = .ok (.iconst 1, 1) := dk_4 (dk_at dksX3_setTrust_1 3 rfl rfl)
theorem dX3_setTrust_26 : decode cX3_setTrust 26 = .ok (.goto 4, 3) := dk_167 0 4 (dk_at dksX3_setTrust_1 4 rfl rfl)
theorem dX3_setTrust_29 : decode cX3_setTrust 29 = .ok (.iconst 0, 1) := dk_3 (dk_at dksX3_setTrust_1 7 rfl rfl)
theorem dX3_setTrust_30 : decode cX3_setTrust 30 = .ok (.iconst 2, 1) := dk_5 (dk_at dksX3_setTrust_1 8 rfl rfl)
theorem dX3_setTrust_31 : decode cX3_setTrust 31 = .ok (.invokevirtual 216, 3) := dk_182 0 216 (dk_at dksX3_setTrust_1 9 rfl rfl)
theorem dX3_setTrust_34 : decode cX3_setTrust 34 = .ok (.ifCond .eq 5, 3) := dk_153 0 5 (dk_at dksX3_setTrust_1 12 rfl rfl)
theorem dX3_setTrust_37 : decode cX3_setTrust 37 = .ok (.iconst 0, 1) := dk_3 (dk_at dksX3_setTrust_1 15 rfl rfl)
theorem dX3_setTrust_38 : decode cX3_setTrust 38 = .ok (.ireturn, 1) := dk_172 (dk_at dksX3_setTrust_1 16 rfl rfl)
theorem dX3_setTrust_39 : decode cX3_setTrust 39 = .ok (.aload_n 0, 1) := dk_42 (dk_at dksX3_setTrust_1 17 rfl rfl)
theorem dX3_setTrust_40 : decode cX3_setTrust 40 = .ok (.invokevirtual 225, 3) := dk_182 0 225 (dk_at dksX3_setTrust_1 18 rfl rfl)
theorem dX3_setTrust_43 : decode cX3_setTrust 43 = .ok (.aload_n 0, 1) := dk_42 (dk_at dksX3_setTrust_1 21 rfl rfl)
theorem dX3_setTrust_44 : decode cX3_setTrust 44 = .ok (.getfield 17, 3) := dk_180 0 17 (dk_at dksX3_setTrust_2 0 rfl rfl)
theorem dX3_setTrust_47 : decode cX3_setTrust 47 = .ok (.iload_n 1, 1) := dk_27 (dk_at dksX3_setTrust_2 3 rfl rfl)
theorem dX3_setTrust_48 : decode cX3_setTrust 48 = .ok (.invokestatic 174, 3) := dk_184 0 174 (dk_at dksX3_setTrust_2 4 rfl rfl)
theorem dX3_setTrust_51 : decode cX3_setTrust 51 = .ok (.iconst 0, 1) := dk_3 (dk_at dksX3_setTrust_2 7 rfl rfl)
theorem dX3_setTrust_52 : decode cX3_setTrust 52 = .ok (.iadd, 1) := dk_96 (dk_at dksX3_setTrust_2 8 rfl rfl)
theorem dX3_setTrust_53 : decode cX3_setTrust 53 = .ok (.iaload, 1) := dk_46 (dk_at dksX3_setTrust_2 9 rfl rfl)
theorem dX3_setTrust_54 : decode cX3_setTrust 54 = .ok (.istore_n 3, 1) := dk_62 (dk_at dksX3_setTrust_2 10 rfl rfl)
theorem dX3_setTrust_55 : decode cX3_setTrust 55 = .ok (.aload_n 0, 1) := dk_42 (dk_at dksX3_setTrust_2 11 rfl rfl)
theorem dX3_setTrust_56 : decode cX3_setTrust 56 = .ok (.getfield 17, 3) := dk_180 0 17 (dk_at dksX3_setTrust_2 12 rfl rfl)
theorem dX3_setTrust_59 : decode cX3_setTrust 59 = .ok (.iload_n 1, 1) := dk_27 (dk_at dksX3_setTrust_2 15 rfl rfl)
theorem dX3_setTrust_60 : decode cX3_setTrust 60 = .ok (.invokestatic 174, 3) := dk_184 0 174 (dk_at dksX3_setTrust_2 16 rfl rfl)
theorem dX3_setTrust_63 : decode cX3_setTrust 63 = .ok (.iconst 0, 1) := dk_3 (dk_at dksX3_setTrust_2 19 rfl rfl)
theorem dX3_setTrust_64 : decode cX3_setTrust 64 = .ok (.iadd, 1) := dk_96 (dk_at dksX3_setTrust_2 20 rfl rfl)
theorem dX3_setTrust_65 : decode cX3_setTrust 65 = .ok (.iload_n 2, 1) := dk_28 (dk_at dksX3_setTrust_2 21 rfl rfl)
theorem dX3_setTrust_66 : decode cX3_setTrust 66 = .ok (.iastore, 1) := dk_79 (dk_at dksX3_setTrust_2 22 rfl rfl)
theorem dX3_setTrust_67 : decode cX3_setTrust 67 = .ok (.iload_n 3, 1) := dk_29 (dk_at dksX3_setTrust_2 23 rfl rfl)
theorem dX3_setTrust_68 : decode cX3_setTrust 68 = .ok (.ireturn, 1) := dk_172 (dk_at dksX3_setTrust_3 0 rfl rfl)
abbrev cX3_setKeeps : ByteArray := prog_11_method_75_code
def yX3_setKeeps : MethodName := ⟨RX3, "setKeeps", "(IZ)I"⟩
def dkwX3_setKeeps_2 : List UInt8 := [172]
abbrev dktX3_setKeeps_2 : List UInt8 := dkwX3_setKeeps_2 ++ []
def dkwX3_setKeeps_1 : List UInt8 := [180, 0, 17, 27, 184, 0, 174, 4, 96, 28, 153, 0, 7, 4, 167, 0, 4, 3, 79, 42, 2, 182, 1, 42]
abbrev dktX3_setKeeps_1 : List UInt8 := dkwX3_setKeeps_1 ++ dktX3_setKeeps_2
def dkwX3_setKeeps_0 : List UInt8 := [42, 3, 181, 0, 59, 42, 27, 182, 1, 21, 153, 0, 5, 3, 172, 42, 182, 0, 225, 42, 182, 1, 39, 42]
abbrev dktX3_setKeeps_0 : List UInt8 := dkwX3_setKeeps_0 ++ dktX3_setKeeps_1
theorem dksX3_setKeeps_0 : cX3_setKeeps.data.toList.drop 0 = dktX3_setKeeps_0 := by decide +kernel
theorem dksX3_setKeeps_1 : cX3_setKeeps.data.toList.drop 24 = dktX3_setKeeps_1 := dk_seg dksX3_setKeeps_0 24 rfl rfl
theorem dksX3_setKeeps_2 : cX3_setKeeps.data.toList.drop 48 = dktX3_setKeeps_2 := dk_seg dksX3_setKeeps_1 24 rfl rfl
theorem dX3_setKeeps_0 : decode cX3_setKeeps 0 = .ok (.aload_n 0, 1) := dk_42 (dk_at dksX3_setKeeps_0 0 rfl rfl)
theorem dX3_setKeeps_1 : decode cX3_setKeeps 1 = .ok (.iconst 0, 1) := dk_3 (dk_at dksX3_setKeeps_0 1 rfl rfl)
theorem dX3_setKeeps_2 : decode cX3_setKeeps 2 = .ok (.putfield 59, 3) := dk_181 0 59 (dk_at dksX3_setKeeps_0 2 rfl rfl)
theorem dX3_setKeeps_5 : decode cX3_setKeeps 5 = .ok (.aload_n 0, 1) := dk_42 (dk_at dksX3_setKeeps_0 5 rfl rfl)
theorem dX3_setKeeps_6 : decode cX3_setKeeps 6 = .ok (.iload_n 1, 1) := dk_27 (dk_at dksX3_setKeeps_0 6 rfl rfl)
theorem dX3_setKeeps_7 : decode cX3_setKeeps 7 = .ok (.invokevirtual 277, 3) := dk_182 1 21 (dk_at dksX3_setKeeps_0 7 rfl rfl)
theorem dX3_setKeeps_10 : decode cX3_setKeeps 10 = .ok (.ifCond .eq 5, 3) := dk_153 0 5 (dk_at dksX3_setKeeps_0 10 rfl rfl)
theorem dX3_setKeeps_13 : decode cX3_setKeeps 13 = .ok (.iconst 0, 1) := dk_3 (dk_at dksX3_setKeeps_0 13 rfl rfl)
theorem dX3_setKeeps_14 : decode cX3_setKeeps 14 = .ok (.ireturn, 1) := dk_172 (dk_at dksX3_setKeeps_0 14 rfl rfl)
theorem dX3_setKeeps_15 : decode cX3_setKeeps 15 = .ok (.aload_n 0, 1) := dk_42 (dk_at dksX3_setKeeps_0 15 rfl rfl)
theorem dX3_setKeeps_16 : decode cX3_setKeeps 16 = .ok (.invokevirtual 225, 3) := dk_182 0 225 (dk_at dksX3_setKeeps_0 16 rfl rfl)
theorem dX3_setKeeps_19 : decode cX3_setKeeps 19 = .ok (.aload_n 0, 1) := dk_42 (dk_at dksX3_setKeeps_0 19 rfl rfl)
theorem dX3_setKeeps_20 : decode cX3_setKeeps 20 = .ok (.invokevirtual 295, 3) := dk_182 1 39 (dk_at dksX3_setKeeps_0 20 rfl rfl)
theorem dX3_setKeeps_23 : decode cX3_setKeeps 23 = .ok (.aload_n 0, 1) := dk_42 (dk_at dksX3_setKeeps_0 23 rfl rfl)
theorem dX3_setKeeps_24 : decode cX3_setKeeps 24 = .ok (.getfield 17, 3) := dk_180 0 17 (dk_at dksX3_setKeeps_1 0 rfl rfl)
theorem dX3_setKeeps_27 : decode cX3_setKeeps 27 = .ok (.iload_n 1, 1) := dk_27 (dk_at dksX3_setKeeps_1 3 rfl rfl)
theorem dX3_setKeeps_28 : decode cX3_setKeeps 28 = .ok (.invokestatic 174, 3) := dk_184 0 174 (dk_at dksX3_setKeeps_1 4 rfl rfl)
theorem dX3_setKeeps_31 : decode cX3_setKeeps 31 = .ok (.iconst 1, 1) := dk_4 (dk_at dksX3_setKeeps_1 7 rfl rfl)
theorem dX3_setKeeps_32 : decode cX3_setKeeps 32 = .ok (.iadd, 1) := dk_96 (dk_at dksX3_setKeeps_1 8 rfl rfl)
theorem dX3_setKeeps_33 : decode cX3_setKeeps 33 = .ok (.iload_n 2, 1) := dk_28 (dk_at dksX3_setKeeps_1 9 rfl rfl)
theorem dX3_setKeeps_34 : decode cX3_setKeeps 34 = .ok (.ifCond .eq 7, 3) := dk_153 0 7 (dk_at dksX3_setKeeps_1 10 rfl rfl)
theorem dX3_setKeeps_37 : decode cX3_setKeeps 37 = .ok (.iconst 1, 1) := dk_4 (dk_at dksX3_setKeeps_1 13 rfl rfl)
theorem dX3_setKeeps_38 : decode cX3_setKeeps 38 = .ok (.goto 4, 3) := dk_167 0 4 (dk_at dksX3_setKeeps_1 14 rfl rfl)
theorem dX3_setKeeps_41 : decode cX3_setKeeps 41 = .ok (.iconst 0, 1) := dk_3 (dk_at dksX3_setKeeps_1 17 rfl rfl)
theorem dX3_setKeeps_42 : decode cX3_setKeeps 42 = .ok (.iastore, 1) := dk_79 (dk_at dksX3_setKeeps_1 18 rfl rfl)
theorem dX3_setKeeps_43 : decode cX3_setKeeps 43 = .ok (.aload_n 0, 1) := dk_42 (dk_at dksX3_setKeeps_1 19 rfl rfl)
theorem dX3_setKeeps_44 : decode cX3_setKeeps 44 = .ok (.iconst (-1), 1) := dk_2 (dk_at dksX3_setKeeps_1 20 rfl rfl)
theorem dX3_setKeeps_45 : decode cX3_setKeeps 45 = .ok (.invokevirtual 298, 3) := dk_182 1 42 (dk_at dksX3_setKeeps_1 21 rfl rfl)
theorem dX3_setKeeps_48 : decode cX3_setKeeps 48 = .ok (.ireturn, 1) := dk_172 (dk_at dksX3_setKeeps_2 0 rfl rfl)
abbrev cX3_setShare : ByteArray := prog_11_method_76_code
def yX3_setShare : MethodName := ⟨RX3, "setShare", "(I)I"⟩
def dkwX3_setShare_2 : List UInt8 := [2, 182, 1, 42, 172]
abbrev dktX3_setShare_2 : List UInt8 := dkwX3_setShare_2 ++ []
def dkwX3_setShare_1 : List UInt8 := [182, 0, 216, 153, 0, 5, 3, 172, 42, 182, 0, 225, 42, 182, 1, 39, 42, 180, 0, 17, 3, 27, 79, 42]
abbrev dktX3_setShare_1 : List UInt8 := dkwX3_setShare_1 ++ dktX3_setShare_2
def dkwX3_setShare_0 : List UInt8 := [42, 3, 181, 0, 59, 42, 27, 3, 16, 100, 184, 0, 81, 154, 0, 7, 4, 167, 0, 4, 3, 4]
abbrev dktX3_setShare_0 : List UInt8 := dkwX3_setShare_0 ++ dktX3_setShare_1
theorem dksX3_setShare_0 : cX3_setShare.data.toList.drop 0 = dktX3_setShare_0 := by decide +kernel
theorem dksX3_setShare_1 : cX3_setShare.data.toList.drop 22 = dktX3_setShare_1 := dk_seg dksX3_setShare_0 22 rfl rfl
theorem dksX3_setShare_2 : cX3_setShare.data.toList.drop 46 = dktX3_setShare_2 := dk_seg dksX3_setShare_1 24 rfl rfl
theorem dX3_setShare_0 : decode cX3_setShare 0 = .ok (.aload_n 0, 1) := dk_42 (dk_at dksX3_setShare_0 0 rfl rfl)
theorem dX3_setShare_1 : decode cX3_setShare 1 = .ok (.iconst 0, 1) := dk_3 (dk_at dksX3_setShare_0 1 rfl rfl)
theorem dX3_setShare_2 : decode cX3_setShare 2 = .ok (.putfield 59, 3) := dk_181 0 59 (dk_at dksX3_setShare_0 2 rfl rfl)
theorem dX3_setShare_5 : decode cX3_setShare 5 = .ok (.aload_n 0, 1) := dk_42 (dk_at dksX3_setShare_0 5 rfl rfl)
theorem dX3_setShare_6 : decode cX3_setShare 6 = .ok (.iload_n 1, 1) := dk_27 (dk_at dksX3_setShare_0 6 rfl rfl)
theorem dX3_setShare_7 : decode cX3_setShare 7 = .ok (.iconst 0, 1) := dk_3 (dk_at dksX3_setShare_0 7 rfl rfl)
theorem dX3_setShare_8 : decode cX3_setShare 8 = .ok (.bipush 100, 2) := dk_16 100 (dk_at dksX3_setShare_0 8 rfl rfl)
theorem dX3_setShare_10 : decode cX3_setShare 10 = .ok (.invokestatic 81, 3) := dk_184 0 81 (dk_at dksX3_setShare_0 10 rfl rfl)
theorem dX3_setShare_13 : decode cX3_setShare 13 = .ok (.ifCond .ne 7, 3) := dk_154 0 7 (dk_at dksX3_setShare_0 13 rfl rfl)
theorem dX3_setShare_16 : decode cX3_setShare 16 = .ok (.iconst 1, 1) := dk_4 (dk_at dksX3_setShare_0 16 rfl rfl)
theorem dX3_setShare_17 : decode cX3_setShare 17 = .ok (.goto 4, 3) := dk_167 0 4 (dk_at dksX3_setShare_0 17 rfl rfl)
theorem dX3_setShare_20 : decode cX3_setShare 20 = .ok (.iconst 0, 1) := dk_3 (dk_at dksX3_setShare_0 20 rfl rfl)
theorem dX3_setShare_21 : decode cX3_setShare 21 = .ok (.iconst 1, 1) := dk_4 (dk_at dksX3_setShare_0 21 rfl rfl)
theorem dX3_setShare_22 : decode cX3_setShare 22 = .ok (.invokevirtual 216, 3) := dk_182 0 216 (dk_at dksX3_setShare_1 0 rfl rfl)
theorem dX3_setShare_25 : decode cX3_setShare 25 = .ok (.ifCond .eq 5, 3) := dk_153 0 5 (dk_at dksX3_setShare_1 3 rfl rfl)
theorem dX3_setShare_28 : decode cX3_setShare 28 = .ok (.iconst 0, 1) := dk_3 (dk_at dksX3_setShare_1 6 rfl rfl)
theorem dX3_setShare_29 : decode cX3_setShare 29 = .ok (.ireturn, 1) := dk_172 (dk_at dksX3_setShare_1 7 rfl rfl)
theorem dX3_setShare_30 : decode cX3_setShare 30 = .ok (.aload_n 0, 1) := dk_42 (dk_at dksX3_setShare_1 8 rfl rfl)
theorem dX3_setShare_31 : decode cX3_setShare 31 = .ok (.invokevirtual 225, 3) := dk_182 0 225 (dk_at dksX3_setShare_1 9 rfl rfl)
theorem dX3_setShare_34 : decode cX3_setShare 34 = .ok (.aload_n 0, 1) := dk_42 (dk_at dksX3_setShare_1 12 rfl rfl)
theorem dX3_setShare_35 : decode cX3_setShare 35 = .ok (.invokevirtual 295, 3) := dk_182 1 39 (dk_at dksX3_setShare_1 13 rfl rfl)
theorem dX3_setShare_38 : decode cX3_setShare 38 = .ok (.aload_n 0, 1) := dk_42 (dk_at dksX3_setShare_1 16 rfl rfl)
theorem dX3_setShare_39 : decode cX3_setShare 39 = .ok (.getfield 17, 3) := dk_180 0 17 (dk_at dksX3_setShare_1 17 rfl rfl)
theorem dX3_setShare_42 : decode cX3_setShare 42 = .ok (.iconst 0, 1) := dk_3 (dk_at dksX3_setShare_1 20 rfl rfl)
theorem dX3_setShare_43 : decode cX3_setShare 43 = .ok (.iload_n 1, 1) := dk_27 (dk_at dksX3_setShare_1 21 rfl rfl)
theorem dX3_setShare_44 : decode cX3_setShare 44 = .ok (.iastore, 1) := dk_79 (dk_at dksX3_setShare_1 22 rfl rfl)
theorem dX3_setShare_45 : decode cX3_setShare 45 = .ok (.aload_n 0, 1) := dk_42 (dk_at dksX3_setShare_1 23 rfl rfl)
theorem dX3_setShare_46 : decode cX3_setShare 46 = .ok (.iconst (-1), 1) := dk_2 (dk_at dksX3_setShare_2 0 rfl rfl)
theorem dX3_setShare_47 : decode cX3_setShare 47 = .ok (.invokevirtual 298, 3) := dk_182 1 42 (dk_at dksX3_setShare_2 1 rfl rfl)
theorem dX3_setShare_50 : decode cX3_setShare 50 = .ok (.ireturn, 1) := dk_172 (dk_at dksX3_setShare_2 4 rfl rfl)
abbrev cX3_undo : ByteArray := prog_11_method_77_code
def yX3_undo : MethodName := ⟨RX3, "undo", "()I"⟩
def dkwX3_undo_1 : List UInt8 := [42, 180, 0, 25, 42, 180, 1, 36, 50, 42, 180, 0, 17, 184, 0, 228, 42, 180, 1, 36, 172]
abbrev dktX3_undo_1 : List UInt8 := dkwX3_undo_1 ++ []
def dkwX3_undo_0 : List UInt8 := [42, 3, 181, 0, 59, 42, 180, 1, 36, 154, 0, 5, 2, 172, 42, 89, 180, 1, 36, 4, 100, 181, 1, 36]
abbrev dktX3_undo_0 : List UInt8 := dkwX3_undo_0 ++ dktX3_undo_1
theorem dksX3_undo_0 : cX3_undo.data.toList.drop 0 = dktX3_undo_0 := by decide +kernel
theorem dksX3_undo_1 : cX3_undo.data.toList.drop 24 = dktX3_undo_1 := dk_seg dksX3_undo_0 24 rfl rfl
theorem dX3_undo_0 : decode cX3_undo 0 = .ok (.aload_n 0, 1) := dk_42 (dk_at dksX3_undo_0 0 rfl rfl)
theorem dX3_undo_1 : decode cX3_undo 1 = .ok (.iconst 0, 1) := dk_3 (dk_at dksX3_undo_0 1 rfl rfl)
theorem dX3_undo_2 : decode cX3_undo 2 = .ok (.putfield 59, 3) := dk_181 0 59 (dk_at dksX3_undo_0 2 rfl rfl)
theorem dX3_undo_5 : decode cX3_undo 5 = .ok (.aload_n 0, 1) := dk_42 (dk_at dksX3_undo_0 5 rfl rfl)
theorem dX3_undo_6 : decode cX3_undo 6 = .ok (.getfield 292, 3) := dk_180 1 36 (dk_at dksX3_undo_0 6 rfl rfl)
theorem dX3_undo_9 : decode cX3_undo 9 = .ok (.ifCond .ne 5, 3) := dk_154 0 5 (dk_at dksX3_undo_0 9 rfl rfl)
theorem dX3_undo_12 : decode cX3_undo 12 = .ok (.iconst (-1), 1) := dk_2 (dk_at dksX3_undo_0 12 rfl rfl)
theorem dX3_undo_13 : decode cX3_undo 13 = .ok (.ireturn, 1) := dk_172 (dk_at dksX3_undo_0 13 rfl rfl)
theorem dX3_undo_14 : decode cX3_undo 14 = .ok (.aload_n 0, 1) := dk_42 (dk_at dksX3_undo_0 14 rfl rfl)
theorem dX3_undo_15 : decode cX3_undo 15 = .ok (.dup, 1) := dk_89 (dk_at dksX3_undo_0 15 rfl rfl)
theorem dX3_undo_16 : decode cX3_undo 16 = .ok (.getfield 292, 3) := dk_180 1 36 (dk_at dksX3_undo_0 16 rfl rfl)
theorem dX3_undo_19 : decode cX3_undo 19 = .ok (.iconst 1, 1) := dk_4 (dk_at dksX3_undo_0 19 rfl rfl)
theorem dX3_undo_20 : decode cX3_undo 20 = .ok (.isub, 1) := dk_100 (dk_at dksX3_undo_0 20 rfl rfl)
theorem dX3_undo_21 : decode cX3_undo 21 = .ok (.putfield 292, 3) := dk_181 1 36 (dk_at dksX3_undo_0 21 rfl rfl)
theorem dX3_undo_24 : decode cX3_undo 24 = .ok (.aload_n 0, 1) := dk_42 (dk_at dksX3_undo_1 0 rfl rfl)
theorem dX3_undo_25 : decode cX3_undo 25 = .ok (.getfield 25, 3) := dk_180 0 25 (dk_at dksX3_undo_1 1 rfl rfl)
theorem dX3_undo_28 : decode cX3_undo 28 = .ok (.aload_n 0, 1) := dk_42 (dk_at dksX3_undo_1 4 rfl rfl)
theorem dX3_undo_29 : decode cX3_undo 29 = .ok (.getfield 292, 3) := dk_180 1 36 (dk_at dksX3_undo_1 5 rfl rfl)
theorem dX3_undo_32 : decode cX3_undo 32 = .ok (.aaload, 1) := dk_50 (dk_at dksX3_undo_1 8 rfl rfl)
theorem dX3_undo_33 : decode cX3_undo 33 = .ok (.aload_n 0, 1) := dk_42 (dk_at dksX3_undo_1 9 rfl rfl)
theorem dX3_undo_34 : decode cX3_undo 34 = .ok (.getfield 17, 3) := dk_180 0 17 (dk_at dksX3_undo_1 10 rfl rfl)
theorem dX3_undo_37 : decode cX3_undo 37 = .ok (.invokestatic 228, 3) := dk_184 0 228 (dk_at dksX3_undo_1 13 rfl rfl)
theorem dX3_undo_40 : decode cX3_undo 40 = .ok (.aload_n 0, 1) := dk_42 (dk_at dksX3_undo_1 16 rfl rfl)
theorem dX3_undo_41 : decode cX3_undo 41 = .ok (.getfield 292, 3) := dk_180 1 36 (dk_at dksX3_undo_1 17 rfl rfl)
theorem dX3_undo_44 : decode cX3_undo 44 = .ok (.ireturn, 1) := dk_172 (dk_at dksX3_undo_1 20 rfl rfl)
abbrev cX3_checksum : ByteArray := prog_11_method_78_code
def yX3_checksum : MethodName := ⟨RX3, "checksum", "()J"⟩
def dkwX3_checksum_5 : List UInt8 := [182, 1, 33, 133, 97, 64, 132, 4, 1, 167, 255, 191, 132, 3, 1, 167, 255, 141, 31, 173]
abbrev dktX3_checksum_5 : List UInt8 := dkwX3_checksum_5 ++ []
def dkwX3_checksum_4 : List UInt8 := [96, 21, 4, 96, 46, 133, 97, 105, 42, 180, 0, 50, 29, 50, 21, 4, 46, 133, 97, 105, 42, 29, 21, 4]
abbrev dktX3_checksum_4 : List UInt8 := dkwX3_checksum_4 ++ dktX3_checksum_5
def dkwX3_checksum_3 : List UInt8 := [162, 0, 60, 20, 1, 49, 20, 1, 49, 20, 1, 49, 31, 105, 42, 180, 0, 17, 29, 184, 0, 174, 16, 12]
abbrev dktX3_checksum_3 : List UInt8 := dkwX3_checksum_3 ++ dktX3_checksum_4
def dkwX3_checksum_2 : List UInt8 := [182, 1, 27, 133, 97, 64, 132, 4, 1, 167, 255, 231, 3, 54, 4, 21, 4, 42, 180, 0, 17, 5, 46]
abbrev dktX3_checksum_2 : List UInt8 := dkwX3_checksum_2 ++ dktX3_checksum_3
def dkwX3_checksum_1 : List UInt8 := [4, 46, 162, 0, 111, 3, 54, 4, 21, 4, 16, 6, 162, 0, 24, 20, 1, 49, 31, 105, 42, 29, 21, 4]
abbrev dktX3_checksum_1 : List UInt8 := dkwX3_checksum_1 ++ dktX3_checksum_2
def dkwX3_checksum_0 : List UInt8 := [42, 3, 181, 0, 59, 42, 182, 1, 15, 42, 180, 0, 17, 3, 46, 133, 64, 3, 62, 29, 42, 180, 0, 17]
abbrev dktX3_checksum_0 : List UInt8 := dkwX3_checksum_0 ++ dktX3_checksum_1
theorem dksX3_checksum_0 : cX3_checksum.data.toList.drop 0 = dktX3_checksum_0 := by decide +kernel
theorem dksX3_checksum_1 : cX3_checksum.data.toList.drop 24 = dktX3_checksum_1 := dk_seg dksX3_checksum_0 24 rfl rfl
theorem dksX3_checksum_2 : cX3_checksum.data.toList.drop 48 = dktX3_checksum_2 := dk_seg dksX3_checksum_1 24 rfl rfl
theorem dksX3_checksum_3 : cX3_checksum.data.toList.drop 71 = dktX3_checksum_3 := dk_seg dksX3_checksum_2 23 rfl rfl
theorem dksX3_checksum_4 : cX3_checksum.data.toList.drop 95 = dktX3_checksum_4 := dk_seg dksX3_checksum_3 24 rfl rfl
theorem dksX3_checksum_5 : cX3_checksum.data.toList.drop 119 = dktX3_checksum_5 := dk_seg dksX3_checksum_4 24 rfl rfl
theorem dX3_checksum_0 : decode cX3_checksum 0 = .ok (.aload_n 0, 1) := dk_42 (dk_at dksX3_checksum_0 0 rfl rfl)
theorem dX3_checksum_1 : decode cX3_checksum 1 = .ok (.iconst 0, 1) := dk_3 (dk_at dksX3_checksum_0 1 rfl rfl)
theorem dX3_checksum_2 : decode cX3_checksum 2 = .ok (.putfield 59, 3) := dk_181 0 59 (dk_at dksX3_checksum_0 2 rfl rfl)
theorem dX3_checksum_5 : decode cX3_checksum 5 = .ok (.aload_n 0, 1) := dk_42 (dk_at dksX3_checksum_0 5 rfl rfl)
theorem dX3_checksum_6 : decode cX3_checksum 6 = .ok (.invokevirtual 271, 3) := dk_182 1 15 (dk_at dksX3_checksum_0 6 rfl rfl)
theorem dX3_checksum_9 : decode cX3_checksum 9 = .ok (.aload_n 0, 1) := dk_42 (dk_at dksX3_checksum_0 9 rfl rfl)
theorem dX3_checksum_10 : decode cX3_checksum 10 = .ok (.getfield 17, 3) := dk_180 0 17 (dk_at dksX3_checksum_0 10 rfl rfl)
theorem dX3_checksum_13 : decode cX3_checksum 13 = .ok (.iconst 0, 1) := dk_3 (dk_at dksX3_checksum_0 13 rfl rfl)
theorem dX3_checksum_14 : decode cX3_checksum 14 = .ok (.iaload, 1) := dk_46 (dk_at dksX3_checksum_0 14 rfl rfl)
theorem dX3_checksum_15 : decode cX3_checksum 15 = .ok (.i2l, 1) := dk_133 (dk_at dksX3_checksum_0 15 rfl rfl)
theorem dX3_checksum_16 : decode cX3_checksum 16 = .ok (.lstore_n 1, 1) := dk_64 (dk_at dksX3_checksum_0 16 rfl rfl)
theorem dX3_checksum_17 : decode cX3_checksum 17 = .ok (.iconst 0, 1) := dk_3 (dk_at dksX3_checksum_0 17 rfl rfl)
theorem dX3_checksum_18 : decode cX3_checksum 18 = .ok (.istore_n 3, 1) := dk_62 (dk_at dksX3_checksum_0 18 rfl rfl)
theorem dX3_checksum_19 : decode cX3_checksum 19 = .ok (.iload_n 3, 1) := dk_29 (dk_at dksX3_checksum_0 19 rfl rfl)
theorem dX3_checksum_20 : decode cX3_checksum 20 = .ok (.aload_n 0, 1) := dk_42 (dk_at dksX3_checksum_0 20 rfl rfl)
theorem dX3_checksum_21 : decode cX3_checksum 21 = .ok (.getfield 17, 3) := dk_180 0 17 (dk_at dksX3_checksum_0 21 rfl rfl)
theorem dX3_checksum_24 : decode cX3_checksum 24 = .ok (.iconst 1, 1) := dk_4 (dk_at dksX3_checksum_1 0 rfl rfl)
theorem dX3_checksum_25 : decode cX3_checksum 25 = .ok (.iaload, 1) := dk_46 (dk_at dksX3_checksum_1 1 rfl rfl)
theorem dX3_checksum_26 : decode cX3_checksum 26 = .ok (.if_icmp .ge 111, 3) := dk_162 0 111 (dk_at dksX3_checksum_1 2 rfl rfl)
theorem dX3_checksum_29 : decode cX3_checksum 29 = .ok (.iconst 0, 1) := dk_3 (dk_at dksX3_checksum_1 5 rfl rfl)
theorem dX3_checksum_30 : decode cX3_checksum 30 = .ok (.istore 4, 2) := dk_54 4 (dk_at dksX3_checksum_1 6 rfl rfl)
theorem dX3_checksum_32 : decode cX3_checksum 32 = .ok (.iload 4, 2) := dk_21 4 (dk_at dksX3_checksum_1 8 rfl rfl)
theorem dX3_checksum_34 : decode cX3_checksum 34 = .ok (.bipush 6, 2) := dk_16 6 (dk_at dksX3_checksum_1 10 rfl rfl)
theorem dX3_checksum_36 : decode cX3_checksum 36 = .ok (.if_icmp .ge 24, 3) := dk_162 0 24 (dk_at dksX3_checksum_1 12 rfl rfl)
theorem dX3_checksum_39 : decode cX3_checksum 39 = .ok (.ldc2_w 305, 3) := dk_20 1 49 (dk_at dksX3_checksum_1 15 rfl rfl)
theorem dX3_checksum_42 : decode cX3_checksum 42 = .ok (.lload_n 1, 1) := dk_31 (dk_at dksX3_checksum_1 18 rfl rfl)
theorem dX3_checksum_43 : decode cX3_checksum 43 = .ok (.lmul, 1) := dk_105 (dk_at dksX3_checksum_1 19 rfl rfl)
theorem dX3_checksum_44 : decode cX3_checksum 44 = .ok (.aload_n 0, 1) := dk_42 (dk_at dksX3_checksum_1 20 rfl rfl)
theorem dX3_checksum_45 : decode cX3_checksum 45 = .ok (.iload_n 3, 1) := dk_29 (dk_at dksX3_checksum_1 21 rfl rfl)
theorem dX3_checksum_46 : decode cX3_checksum 46 = .ok (.iload 4, 2) := dk_21 4 (dk_at dksX3_checksum_1 22 rfl rfl)
theorem dX3_checksum_48 : decode cX3_checksum 48 = .ok (.invokevirtual 283, 3) := dk_182 1 27 (dk_at dksX3_checksum_2 0 rfl rfl)
theorem dX3_checksum_51 : decode cX3_checksum 51 = .ok (.i2l, 1) := dk_133 (dk_at dksX3_checksum_2 3 rfl rfl)
theorem dX3_checksum_52 : decode cX3_checksum 52 = .ok (.ladd, 1) := dk_97 (dk_at dksX3_checksum_2 4 rfl rfl)
theorem dX3_checksum_53 : decode cX3_checksum 53 = .ok (.lstore_n 1, 1) := dk_64 (dk_at dksX3_checksum_2 5 rfl rfl)
theorem dX3_checksum_54 : decode cX3_checksum 54 = .ok (.iinc 4 1, 3) := dk_132 4 1 (dk_at dksX3_checksum_2 6 rfl rfl)
theorem dX3_checksum_57 : decode cX3_checksum 57 = .ok (.goto (-25), 3) := dk_167 255 231 (dk_at dksX3_checksum_2 9 rfl rfl)
theorem dX3_checksum_60 : decode cX3_checksum 60 = .ok (.iconst 0, 1) := dk_3 (dk_at dksX3_checksum_2 12 rfl rfl)
theorem dX3_checksum_61 : decode cX3_checksum 61 = .ok (.istore 4, 2) := dk_54 4 (dk_at dksX3_checksum_2 13 rfl rfl)
theorem dX3_checksum_63 : decode cX3_checksum 63 = .ok (.iload 4, 2) := dk_21 4 (dk_at dksX3_checksum_2 15 rfl rfl)
theorem dX3_checksum_65 : decode cX3_checksum 65 = .ok (.aload_n 0, 1) := dk_42 (dk_at dksX3_checksum_2 17 rfl rfl)
theorem dX3_checksum_66 : decode cX3_checksum 66 = .ok (.getfield 17, 3) := dk_180 0 17 (dk_at dksX3_checksum_2 18 rfl rfl)
theorem dX3_checksum_69 : decode cX3_checksum 69 = .ok (.iconst 2, 1) := dk_5 (dk_at dksX3_checksum_2 21 rfl rfl)
theorem dX3_checksum_70 : decode cX3_checksum 70 = .ok (.iaload, 1) := dk_46 (dk_at dksX3_checksum_2 22 rfl rfl)
theorem dX3_checksum_71 : decode cX3_checksum 71 = .ok (.if_icmp .ge 60, 3) := dk_162 0 60 (dk_at dksX3_checksum_3 0 rfl rfl)
theorem dX3_checksum_74 : decode cX3_checksum 74 = .ok (.ldc2_w 305, 3) := dk_20 1 49 (dk_at dksX3_checksum_3 3 rfl rfl)
theorem dX3_checksum_77 : decode cX3_checksum 77 = .ok (.ldc2_w 305, 3) := dk_20 1 49 (dk_at dksX3_checksum_3 6 rfl rfl)
theorem dX3_checksum_80 : decode cX3_checksum 80 = .ok (.ldc2_w 305, 3) := dk_20 1 49 (dk_at dksX3_checksum_3 9 rfl rfl)
theorem dX3_checksum_83 : decode cX3_checksum 83 = .ok (.lload_n 1, 1) := dk_31 (dk_at dksX3_checksum_3 12 rfl rfl)
theorem dX3_checksum_84 : decode cX3_checksum 84 = .ok (.lmul, 1) := dk_105 (dk_at dksX3_checksum_3 13 rfl rfl)
theorem dX3_checksum_85 : decode cX3_checksum 85 = .ok (.aload_n 0, 1) := dk_42 (dk_at dksX3_checksum_3 14 rfl rfl)
theorem dX3_checksum_86 : decode cX3_checksum 86 = .ok (.getfield 17, 3) := dk_180 0 17 (dk_at dksX3_checksum_3 15 rfl rfl)
theorem dX3_checksum_89 : decode cX3_checksum 89 = .ok (.iload_n 3, 1) := dk_29 (dk_at dksX3_checksum_3 18 rfl rfl)
theorem dX3_checksum_90 : decode cX3_checksum 90 = .ok (.invokestatic 174, 3) := dk_184 0 174 (dk_at dksX3_checksum_3 19 rfl rfl)
theorem dX3_checksum_93 : decode cX3_checksum 93 = .ok (.bipush 12, 2) := dk_16 12 (dk_at dksX3_checksum_3 22 rfl rfl)
theorem dX3_checksum_95 : decode cX3_checksum 95 = .ok (.iadd, 1) := dk_96 (dk_at dksX3_checksum_4 0 rfl rfl)
theorem dX3_checksum_96 : decode cX3_checksum 96 = .ok (.iload 4, 2) := dk_21 4 (dk_at dksX3_checksum_4 1 rfl rfl)
theorem dX3_checksum_98 : decode cX3_checksum 98 = .ok (.iadd, 1) := dk_96 (dk_at dksX3_checksum_4 3 rfl rfl)
theorem dX3_checksum_99 : decode cX3_checksum 99 = .ok (.iaload, 1) := dk_46 (dk_at dksX3_checksum_4 4 rfl rfl)
theorem dX3_checksum_100 : decode cX3_checksum 100 = .ok (.i2l, 1) := dk_133 (dk_at dksX3_checksum_4 5 rfl rfl)
theorem dX3_checksum_101 : decode cX3_checksum 101 = .ok (.ladd, 1) := dk_97 (dk_at dksX3_checksum_4 6 rfl rfl)
theorem dX3_checksum_102 : decode cX3_checksum 102 = .ok (.lmul, 1) := dk_105 (dk_at dksX3_checksum_4 7 rfl rfl)
theorem dX3_checksum_103 : decode cX3_checksum 103 = .ok (.aload_n 0, 1) := dk_42 (dk_at dksX3_checksum_4 8 rfl rfl)
theorem dX3_checksum_104 : decode cX3_checksum 104 = .ok (.getfield 50, 3) := dk_180 0 50 (dk_at dksX3_checksum_4 9 rfl rfl)
theorem dX3_checksum_107 : decode cX3_checksum 107 = .ok (.iload_n 3, 1) := dk_29 (dk_at dksX3_checksum_4 12 rfl rfl)
theorem dX3_checksum_108 : decode cX3_checksum 108 = .ok (.aaload, 1) := dk_50 (dk_at dksX3_checksum_4 13 rfl rfl)
theorem dX3_checksum_109 : decode cX3_checksum 109 = .ok (.iload 4, 2) := dk_21 4 (dk_at dksX3_checksum_4 14 rfl rfl)
theorem dX3_checksum_111 : decode cX3_checksum 111 = .ok (.iaload, 1) := dk_46 (dk_at dksX3_checksum_4 16 rfl rfl)
theorem dX3_checksum_112 : decode cX3_checksum 112 = .ok (.i2l, 1) := dk_133 (dk_at dksX3_checksum_4 17 rfl rfl)
theorem dX3_checksum_113 : decode cX3_checksum 113 = .ok (.ladd, 1) := dk_97 (dk_at dksX3_checksum_4 18 rfl rfl)
theorem dX3_checksum_114 : decode cX3_checksum 114 = .ok (.lmul, 1) := dk_105 (dk_at dksX3_checksum_4 19 rfl rfl)
theorem dX3_checksum_115 : decode cX3_checksum 115 = .ok (.aload_n 0, 1) := dk_42 (dk_at dksX3_checksum_4 20 rfl rfl)
theorem dX3_checksum_116 : decode cX3_checksum 116 = .ok (.iload_n 3, 1) := dk_29 (dk_at dksX3_checksum_4 21 rfl rfl)
theorem dX3_checksum_117 : decode cX3_checksum 117 = .ok (.iload 4, 2) := dk_21 4 (dk_at dksX3_checksum_4 22 rfl rfl)
theorem dX3_checksum_119 : decode cX3_checksum 119 = .ok (.invokevirtual 289, 3) := dk_182 1 33 (dk_at dksX3_checksum_5 0 rfl rfl)
theorem dX3_checksum_122 : decode cX3_checksum 122 = .ok (.i2l, 1) := dk_133 (dk_at dksX3_checksum_5 3 rfl rfl)
theorem dX3_checksum_123 : decode cX3_checksum 123 = .ok (.ladd, 1) := dk_97 (dk_at dksX3_checksum_5 4 rfl rfl)
theorem dX3_checksum_124 : decode cX3_checksum 124 = .ok (.lstore_n 1, 1) := dk_64 (dk_at dksX3_checksum_5 5 rfl rfl)
theorem dX3_checksum_125 : decode cX3_checksum 125 = .ok (.iinc 4 1, 3) := dk_132 4 1 (dk_at dksX3_checksum_5 6 rfl rfl)
theorem dX3_checksum_128 : decode cX3_checksum 128 = .ok (.goto (-65), 3) := dk_167 255 191 (dk_at dksX3_checksum_5 9 rfl rfl)
theorem dX3_checksum_131 : decode cX3_checksum 131 = .ok (.iinc 3 1, 3) := dk_132 3 1 (dk_at dksX3_checksum_5 12 rfl rfl)
theorem dX3_checksum_134 : decode cX3_checksum 134 = .ok (.goto (-115), 3) := dk_167 255 141 (dk_at dksX3_checksum_5 15 rfl rfl)
theorem dX3_checksum_137 : decode cX3_checksum 137 = .ok (.lload_n 1, 1) := dk_31 (dk_at dksX3_checksum_5 18 rfl rfl)
theorem dX3_checksum_138 : decode cX3_checksum 138 = .ok (.lreturn, 1) := dk_173 (dk_at dksX3_checksum_5 19 rfl rfl)
