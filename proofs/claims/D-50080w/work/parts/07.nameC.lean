set_option maxRecDepth 100000
abbrev cX4_init : ByteArray := prog_7_method_1_code
def yX4_init : MethodName := ⟨RX4, "<init>", "(LLinkElection;I)V"⟩
def dkwX4_init_1 : List UInt8 := [89, 42, 180, 0, 18, 183, 0, 24, 181, 0, 27, 42, 28, 181, 0, 31, 177]
abbrev dktX4_init_1 : List UInt8 := dkwX4_init_1 ++ []
def dkwX4_init_0 : List UInt8 := [42, 43, 181, 0, 3, 42, 183, 0, 9, 42, 187, 0, 15, 89, 183, 0, 17, 181, 0, 18, 42, 187, 0, 22]
abbrev dktX4_init_0 : List UInt8 := dkwX4_init_0 ++ dktX4_init_1
theorem dksX4_init_0 : cX4_init.data.toList.drop 0 = dktX4_init_0 := by decide +kernel
theorem dksX4_init_1 : cX4_init.data.toList.drop 24 = dktX4_init_1 := dk_seg dksX4_init_0 24 rfl rfl
theorem dX4_init_0 : decode cX4_init 0 = .ok (.aload_n 0, 1) := dk_42 (dk_at dksX4_init_0 0 rfl rfl)
theorem dX4_init_1 : decode cX4_init 1 = .ok (.aload_n 1, 1) := dk_43 (dk_at dksX4_init_0 1 rfl rfl)
theorem dX4_init_2 : decode cX4_init 2 = .ok (.putfield 3, 3) := dk_181 0 3 (dk_at dksX4_init_0 2 rfl rfl)
theorem dX4_init_5 : decode cX4_init 5 = .ok (.aload_n 0, 1) := dk_42 (dk_at dksX4_init_0 5 rfl rfl)
theorem dX4_init_6 : decode cX4_init 6 = .ok (.invokespecial 9, 3) := dk_183 0 9 (dk_at dksX4_init_0 6 rfl rfl)
theorem dX4_init_9 : decode cX4_init 9 = .ok (.aload_n 0, 1) := dk_42 (dk_at dksX4_init_0 9 rfl rfl)
theorem dX4_init_10 : decode cX4_init 10 = .ok (.new 15, 3) := dk_187 0 15 (dk_at dksX4_init_0 10 rfl rfl)
theorem dX4_init_13 : decode cX4_init 13 = .ok (.dup, 1) := dk_89 (dk_at dksX4_init_0 13 rfl rfl)
theorem dX4_init_14 : decode cX4_init 14 = .ok (.invokespecial 17, 3) := dk_183 0 17 (dk_at dksX4_init_0 14 rfl rfl)
theorem dX4_init_17 : decode cX4_init 17 = .ok (.putfield 18, 3) := dk_181 0 18 (dk_at dksX4_init_0 17 rfl rfl)
theorem dX4_init_20 : decode cX4_init 20 = .ok (.aload_n 0, 1) := dk_42 (dk_at dksX4_init_0 20 rfl rfl)
theorem dX4_init_21 : decode cX4_init 21 = .ok (.new 22, 3) := dk_187 0 22 (dk_at dksX4_init_0 21 rfl rfl)
theorem dX4_init_24 : decode cX4_init 24 = .ok (.dup, 1) := dk_89 (dk_at dksX4_init_1 0 rfl rfl)
theorem dX4_init_25 : decode cX4_init 25 = .ok (.aload_n 0, 1) := dk_42 (dk_at dksX4_init_1 1 rfl rfl)
theorem dX4_init_26 : decode cX4_init 26 = .ok (.getfield 18, 3) := dk_180 0 18 (dk_at dksX4_init_1 2 rfl rfl)
theorem dX4_init_29 : decode cX4_init 29 = .ok (.invokespecial 24, 3) := dk_183 0 24 (dk_at dksX4_init_1 5 rfl rfl)
theorem dX4_init_32 : decode cX4_init 32 = .ok (.putfield 27, 3) := dk_181 0 27 (dk_at dksX4_init_1 8 rfl rfl)
theorem dX4_init_35 : decode cX4_init 35 = .ok (.aload_n 0, 1) := dk_42 (dk_at dksX4_init_1 11 rfl rfl)
theorem dX4_init_36 : decode cX4_init 36 = .ok (.iload_n 2, 1) := dk_28 (dk_at dksX4_init_1 12 rfl rfl)
theorem dX4_init_37 : decode cX4_init 37 = .ok (.putfield 31, 3) := dk_181 0 31 (dk_at dksX4_init_1 13 rfl rfl)
theorem dX4_init_40 : decode cX4_init 40 = .ok (.return_, 1) := dk_177 (dk_at dksX4_init_1 16 rfl rfl)
abbrev cX4_parse : ByteArray := prog_7_method_22_code
def yX4_parse : MethodName := ⟨RX4, "parse", "()LLinkElection$House;"⟩
def dkwX4_parse_2 : List UInt8 := [182, 0, 245, 167, 255, 244, 42, 180, 0, 27, 176]
abbrev dktX4_parse_2 : List UInt8 := dkwX4_parse_2 ++ []
def dkwX4_parse_1 : List UInt8 := [180, 0, 35, 7, 96, 181, 0, 35, 42, 16, 59, 182, 0, 113, 42, 182, 0, 55, 2, 159, 0, 10, 42]
abbrev dktX4_parse_1 : List UInt8 := dkwX4_parse_1 ++ dktX4_parse_2
def dkwX4_parse_0 : List UInt8 := [42, 182, 0, 124, 18, 243, 182, 0, 146, 60, 42, 27, 16, 254, 42, 180, 0, 35, 182, 0, 59, 42, 89]
abbrev dktX4_parse_0 : List UInt8 := dkwX4_parse_0 ++ dktX4_parse_1
theorem dksX4_parse_0 : cX4_parse.data.toList.drop 0 = dktX4_parse_0 := by decide +kernel
theorem dksX4_parse_1 : cX4_parse.data.toList.drop 23 = dktX4_parse_1 := dk_seg dksX4_parse_0 23 rfl rfl
theorem dksX4_parse_2 : cX4_parse.data.toList.drop 46 = dktX4_parse_2 := dk_seg dksX4_parse_1 23 rfl rfl
theorem dX4_parse_0 : decode cX4_parse 0 = .ok (.aload_n 0, 1) := dk_42 (dk_at dksX4_parse_0 0 rfl rfl)
theorem dX4_parse_1 : decode cX4_parse 1 = .ok (.invokevirtual 124, 3) := dk_182 0 124 (dk_at dksX4_parse_0 1 rfl rfl)
theorem dX4_parse_4 : decode cX4_parse 4 = .ok (.ldc 243, 2) := dk_18 243 (dk_at dksX4_parse_0 4 rfl rfl)
theorem dX4_parse_6 : decode cX4_parse 6 = .ok (.invokevirtual 146, 3) := dk_182 0 146 (dk_at dksX4_parse_0 6 rfl rfl)
theorem dX4_parse_9 : decode cX4_parse 9 = .ok (.istore_n 1, 1) := dk_60 (dk_at dksX4_parse_0 9 rfl rfl)
theorem dX4_parse_10 : decode cX4_parse 10 = .ok (.aload_n 0, 1) := dk_42 (dk_at dksX4_parse_0 10 rfl rfl)
theorem dX4_parse_11 : decode cX4_parse 11 = .ok (.iload_n 1, 1) := dk_27 (dk_at dksX4_parse_0 11 rfl rfl)
theorem dX4_parse_12 : decode cX4_parse 12 = .ok (.bipush (-2), 2) := dk_16 254 (dk_at dksX4_parse_0 12 rfl rfl)
theorem dX4_parse_14 : decode cX4_parse 14 = .ok (.aload_n 0, 1) := dk_42 (dk_at dksX4_parse_0 14 rfl rfl)
theorem dX4_parse_15 : decode cX4_parse 15 = .ok (.getfield 35, 3) := dk_180 0 35 (dk_at dksX4_parse_0 15 rfl rfl)
theorem dX4_parse_18 : decode cX4_parse 18 = .ok (.invokevirtual 59, 3) := dk_182 0 59 (dk_at dksX4_parse_0 18 rfl rfl)
theorem dX4_parse_21 : decode cX4_parse 21 = .ok (.aload_n 0, 1) := dk_42 (dk_at dksX4_parse_0 21 rfl rfl)
theorem dX4_parse_22 : decode cX4_parse 22 = .ok (.dup, 1) := dk_89 (dk_at dksX4_parse_0 22 rfl rfl)
theorem dX4_parse_23 : decode cX4_parse 23 = .ok (.getfield 35, 3) := dk_180 0 35 (dk_at dksX4_parse_1 0 rfl rfl)
theorem dX4_parse_26 : decode cX4_parse 26 = .ok (.iconst 4, 1) := dk_7 (dk_at dksX4_parse_1 3 rfl rfl)
theorem dX4_parse_27 : decode cX4_parse 27 = .ok (.iadd, 1) := dk_96 (dk_at dksX4_parse_1 4 rfl rfl)
theorem dX4_parse_28 : decode cX4_parse 28 = .ok (.putfield 35, 3) := dk_181 0 35 (dk_at dksX4_parse_1 5 rfl rfl)
theorem dX4_parse_31 : decode cX4_parse 31 = .ok (.aload_n 0, 1) := dk_42 (dk_at dksX4_parse_1 8 rfl rfl)
theorem dX4_parse_32 : decode cX4_parse 32 = .ok (.bipush 59, 2) := dk_16 59 (dk_at dksX4_parse_1 9 rfl rfl)
theorem dX4_parse_34 : decode cX4_parse 34 = .ok (.invokevirtual 113, 3) := dk_182 0 113 (dk_at dksX4_parse_1 11 rfl rfl)
theorem dX4_parse_37 : decode cX4_parse 37 = .ok (.aload_n 0, 1) := dk_42 (dk_at dksX4_parse_1 14 rfl rfl)
theorem dX4_parse_38 : decode cX4_parse 38 = .ok (.invokevirtual 55, 3) := dk_182 0 55 (dk_at dksX4_parse_1 15 rfl rfl)
theorem dX4_parse_41 : decode cX4_parse 41 = .ok (.iconst (-1), 1) := dk_2 (dk_at dksX4_parse_1 18 rfl rfl)
theorem dX4_parse_42 : decode cX4_parse 42 = .ok (.if_icmp .eq 10, 3) := dk_159 0 10 (dk_at dksX4_parse_1 19 rfl rfl)
theorem dX4_parse_45 : decode cX4_parse 45 = .ok (.aload_n 0, 1) := dk_42 (dk_at dksX4_parse_1 22 rfl rfl)
theorem dX4_parse_46 : decode cX4_parse 46 = .ok (.invokevirtual 245, 3) := dk_182 0 245 (dk_at dksX4_parse_2 0 rfl rfl)
theorem dX4_parse_49 : decode cX4_parse 49 = .ok (.goto (-12), 3) := dk_167 255 244 (dk_at dksX4_parse_2 3 rfl rfl)
theorem dX4_parse_52 : decode cX4_parse 52 = .ok (.aload_n 0, 1) := dk_42 (dk_at dksX4_parse_2 6 rfl rfl)
theorem dX4_parse_53 : decode cX4_parse 53 = .ok (.getfield 27, 3) := dk_180 0 27 (dk_at dksX4_parse_2 7 rfl rfl)
theorem dX4_parse_56 : decode cX4_parse 56 = .ok (.areturn, 1) := dk_176 (dk_at dksX4_parse_2 10 rfl rfl)
abbrev cX4_word : ByteArray := prog_7_method_6_code
def yX4_word : MethodName := ⟨RX4, "word", "()Ljava/lang/String;"⟩
def dkwX4_word_2 : List UInt8 := [43, 182, 0, 74, 176]
abbrev dktX4_word_2 : List UInt8 := dkwX4_word_2 ++ []
def dkwX4_word_1 : List UInt8 := [153, 0, 24, 43, 42, 180, 0, 3, 180, 0, 38, 28, 51, 146, 182, 0, 70, 87, 132, 2, 1, 167, 255, 230]
abbrev dktX4_word_1 : List UInt8 := dkwX4_word_1 ++ dktX4_word_2
def dkwX4_word_0 : List UInt8 := [42, 182, 0, 55, 87, 187, 0, 63, 89, 183, 0, 65, 76, 42, 180, 0, 35, 61, 42, 28, 182, 0, 66]
abbrev dktX4_word_0 : List UInt8 := dkwX4_word_0 ++ dktX4_word_1
theorem dksX4_word_0 : cX4_word.data.toList.drop 0 = dktX4_word_0 := by decide +kernel
theorem dksX4_word_1 : cX4_word.data.toList.drop 23 = dktX4_word_1 := dk_seg dksX4_word_0 23 rfl rfl
theorem dksX4_word_2 : cX4_word.data.toList.drop 47 = dktX4_word_2 := dk_seg dksX4_word_1 24 rfl rfl
theorem dX4_word_0 : decode cX4_word 0 = .ok (.aload_n 0, 1) := dk_42 (dk_at dksX4_word_0 0 rfl rfl)
theorem dX4_word_1 : decode cX4_word 1 = .ok (.invokevirtual 55, 3) := dk_182 0 55 (dk_at dksX4_word_0 1 rfl rfl)
theorem dX4_word_4 : decode cX4_word 4 = .ok (.pop, 1) := dk_87 (dk_at dksX4_word_0 4 rfl rfl)
theorem dX4_word_5 : decode cX4_word 5 = .ok (.new 63, 3) := dk_187 0 63 (dk_at dksX4_word_0 5 rfl rfl)
theorem dX4_word_8 : decode cX4_word 8 = .ok (.dup, 1) := dk_89 (dk_at dksX4_word_0 8 rfl rfl)
theorem dX4_word_9 : decode cX4_word 9 = .ok (.invokespecial 65, 3) := dk_183 0 65 (dk_at dksX4_word_0 9 rfl rfl)
theorem dX4_word_12 : decode cX4_word 12 = .ok (.astore_n 1, 1) := dk_76 (dk_at dksX4_word_0 12 rfl rfl)
theorem dX4_word_13 : decode cX4_word 13 = .ok (.aload_n 0, 1) := dk_42 (dk_at dksX4_word_0 13 rfl rfl)
theorem dX4_word_14 : decode cX4_word 14 = .ok (.getfield 35, 3) := dk_180 0 35 (dk_at dksX4_word_0 14 rfl rfl)
theorem dX4_word_17 : decode cX4_word 17 = .ok (.istore_n 2, 1) := dk_61 (dk_at dksX4_word_0 17 rfl rfl)
theorem dX4_word_18 : decode cX4_word 18 = .ok (.aload_n 0, 1) := dk_42 (dk_at dksX4_word_0 18 rfl rfl)
theorem dX4_word_19 : decode cX4_word 19 = .ok (.iload_n 2, 1) := dk_28 (dk_at dksX4_word_0 19 rfl rfl)
theorem dX4_word_20 : decode cX4_word 20 = .ok (.invokevirtual 66, 3) := dk_182 0 66 (dk_at dksX4_word_0 20 rfl rfl)
theorem dX4_word_23 : decode cX4_word 23 = .ok (.ifCond .eq 24, 3) := dk_153 0 24 (dk_at dksX4_word_1 0 rfl rfl)
theorem dX4_word_26 : decode cX4_word 26 = .ok (.aload_n 1, 1) := dk_43 (dk_at dksX4_word_1 3 rfl rfl)
theorem dX4_word_27 : decode cX4_word 27 = .ok (.aload_n 0, 1) := dk_42 (dk_at dksX4_word_1 4 rfl rfl)
theorem dX4_word_28 : decode cX4_word 28 = .ok (.getfield 3, 3) := dk_180 0 3 (dk_at dksX4_word_1 5 rfl rfl)
theorem dX4_word_31 : decode cX4_word 31 = .ok (.getfield 38, 3) := dk_180 0 38 (dk_at dksX4_word_1 8 rfl rfl)
theorem dX4_word_34 : decode cX4_word 34 = .ok (.iload_n 2, 1) := dk_28 (dk_at dksX4_word_1 11 rfl rfl)
theorem dX4_word_35 : decode cX4_word 35 = .ok (.baload, 1) := dk_51 (dk_at dksX4_word_1 12 rfl rfl)
theorem dX4_word_36 : decode cX4_word 36 = .ok (.i2c, 1) := dk_146 (dk_at dksX4_word_1 13 rfl rfl)
theorem dX4_word_37 : decode cX4_word 37 = .ok (.invokevirtual 70, 3) := dk_182 0 70 (dk_at dksX4_word_1 14 rfl rfl)
theorem dX4_word_40 : decode cX4_word 40 = .ok (.pop, 1) := dk_87 (dk_at dksX4_word_1 17 rfl rfl)
theorem dX4_word_41 : decode cX4_word 41 = .ok (.iinc 2 1, 3) := dk_132 2 1 (dk_at dksX4_word_1 18 rfl rfl)
theorem dX4_word_44 : decode cX4_word 44 = .ok (.goto (-26), 3) := dk_167 255 230 (dk_at dksX4_word_1 21 rfl rfl)
theorem dX4_word_47 : decode cX4_word 47 = .ok (.aload_n 1, 1) := dk_43 (dk_at dksX4_word_2 0 rfl rfl)
theorem dX4_word_48 : decode cX4_word 48 = .ok (.invokevirtual 74, 3) := dk_182 0 74 (dk_at dksX4_word_2 1 rfl rfl)
theorem dX4_word_51 : decode cX4_word 51 = .ok (.areturn, 1) := dk_176 (dk_at dksX4_word_2 4 rfl rfl)
abbrev cX4_peek : ByteArray := prog_7_method_2_code
def yX4_peek : MethodName := ⟨RX4, "peek", "()I"⟩
def dkwX4_peek_3 : List UInt8 := [167, 0, 4, 2, 172]
abbrev dktX4_peek_3 : List UInt8 := dkwX4_peek_3 ++ []
def dkwX4_peek_2 : List UInt8 := [180, 0, 31, 162, 0, 22, 42, 180, 0, 3, 180, 0, 38, 42, 180, 0, 35, 51, 17, 0, 255, 126]
abbrev dktX4_peek_2 : List UInt8 := dkwX4_peek_2 ++ dktX4_peek_3
def dkwX4_peek_1 : List UInt8 := [16, 32, 160, 0, 16, 42, 89, 180, 0, 35, 4, 96, 181, 0, 35, 167, 255, 218, 42, 180, 0, 35, 42]
abbrev dktX4_peek_1 : List UInt8 := dkwX4_peek_1 ++ dktX4_peek_2
def dkwX4_peek_0 : List UInt8 := [42, 180, 0, 35, 42, 180, 0, 31, 162, 0, 33, 42, 180, 0, 3, 180, 0, 38, 42, 180, 0, 35, 51]
abbrev dktX4_peek_0 : List UInt8 := dkwX4_peek_0 ++ dktX4_peek_1
theorem dksX4_peek_0 : cX4_peek.data.toList.drop 0 = dktX4_peek_0 := by decide +kernel
theorem dksX4_peek_1 : cX4_peek.data.toList.drop 23 = dktX4_peek_1 := dk_seg dksX4_peek_0 23 rfl rfl
theorem dksX4_peek_2 : cX4_peek.data.toList.drop 46 = dktX4_peek_2 := dk_seg dksX4_peek_1 23 rfl rfl
theorem dksX4_peek_3 : cX4_peek.data.toList.drop 68 = dktX4_peek_3 := dk_seg dksX4_peek_2 22 rfl rfl
theorem dX4_peek_0 : decode cX4_peek 0 = .ok (.aload_n 0, 1) := dk_42 (dk_at dksX4_peek_0 0 rfl rfl)
theorem dX4_peek_1 : decode cX4_peek 1 = .ok (.getfield 35, 3) := dk_180 0 35 (dk_at dksX4_peek_0 1 rfl rfl)
theorem dX4_peek_4 : decode cX4_peek 4 = .ok (.aload_n 0, 1) := dk_42 (dk_at dksX4_peek_0 4 rfl rfl)
theorem dX4_peek_5 : decode cX4_peek 5 = .ok (.getfield 31, 3) := dk_180 0 31 (dk_at dksX4_peek_0 5 rfl rfl)
theorem dX4_peek_8 : decode cX4_peek 8 = .ok (.if_icmp .ge 33, 3) := dk_162 0 33 (dk_at dksX4_peek_0 8 rfl rfl)
theorem dX4_peek_11 : decode cX4_peek 11 = .ok (.aload_n 0, 1) := dk_42 (dk_at dksX4_peek_0 11 rfl rfl)
theorem dX4_peek_12 : decode cX4_peek 12 = .ok (.getfield 3, 3) := dk_180 0 3 (dk_at dksX4_peek_0 12 rfl rfl)
theorem dX4_peek_15 : decode cX4_peek 15 = .ok (.getfield 38, 3) := dk_180 0 38 (dk_at dksX4_peek_0 15 rfl rfl)
theorem dX4_peek_18 : decode cX4_peek 18 = .ok (.aload_n 0, 1) := dk_42 (dk_at dksX4_peek_0 18 rfl rfl)
theorem dX4_peek_19 : decode cX4_peek 19 = .ok (.getfield 35, 3) := dk_180 0 35 (dk_at dksX4_peek_0 19 rfl rfl)
theorem dX4_peek_22 : decode cX4_peek 22 = .ok (.baload, 1) := dk_51 (dk_at dksX4_peek_0 22 rfl rfl)
theorem dX4_peek_23 : decode cX4_peek 23 = .ok (.bipush 32, 2) := dk_16 32 (dk_at dksX4_peek_1 0 rfl rfl)
theorem dX4_peek_25 : decode cX4_peek 25 = .ok (.if_icmp .ne 16, 3) := dk_160 0 16 (dk_at dksX4_peek_1 2 rfl rfl)
theorem dX4_peek_28 : decode cX4_peek 28 = .ok (.aload_n 0, 1) := dk_42 (dk_at dksX4_peek_1 5 rfl rfl)
theorem dX4_peek_29 : decode cX4_peek 29 = .ok (.dup, 1) := dk_89 (dk_at dksX4_peek_1 6 rfl rfl)
theorem dX4_peek_30 : decode cX4_peek 30 = .ok (.getfield 35, 3) := dk_180 0 35 (dk_at dksX4_peek_1 7 rfl rfl)
theorem dX4_peek_33 : decode cX4_peek 33 = .ok (.iconst 1, 1) := dk_4 (dk_at dksX4_peek_1 10 rfl rfl)
theorem dX4_peek_34 : decode cX4_peek 34 = .ok (.iadd, 1) := dk_96 (dk_at dksX4_peek_1 11 rfl rfl)
theorem dX4_peek_35 : decode cX4_peek 35 = .ok (.putfield 35, 3) := dk_181 0 35 (dk_at dksX4_peek_1 12 rfl rfl)
theorem dX4_peek_38 : decode cX4_peek 38 = .ok (.goto (-38), 3) := dk_167 255 218 (dk_at dksX4_peek_1 15 rfl rfl)
theorem dX4_peek_41 : decode cX4_peek 41 = .ok (.aload_n 0, 1) := dk_42 (dk_at dksX4_peek_1 18 rfl rfl)
theorem dX4_peek_42 : decode cX4_peek 42 = .ok (.getfield 35, 3) := dk_180 0 35 (dk_at dksX4_peek_1 19 rfl rfl)
theorem dX4_peek_45 : decode cX4_peek 45 = .ok (.aload_n 0, 1) := dk_42 (dk_at dksX4_peek_1 22 rfl rfl)
theorem dX4_peek_46 : decode cX4_peek 46 = .ok (.getfield 31, 3) := dk_180 0 31 (dk_at dksX4_peek_2 0 rfl rfl)
theorem dX4_peek_49 : decode cX4_peek 49 = .ok (.if_icmp .ge 22, 3) := dk_162 0 22 (dk_at dksX4_peek_2 3 rfl rfl)
theorem dX4_peek_52 : decode cX4_peek 52 = .ok (.aload_n 0, 1) := dk_42 (dk_at dksX4_peek_2 6 rfl rfl)
theorem dX4_peek_53 : decode cX4_peek 53 = .ok (.getfield 3, 3) := dk_180 0 3 (dk_at dksX4_peek_2 7 rfl rfl)
theorem dX4_peek_56 : decode cX4_peek 56 = .ok (.getfield 38, 3) := dk_180 0 38 (dk_at dksX4_peek_2 10 rfl rfl)
theorem dX4_peek_59 : decode cX4_peek 59 = .ok (.aload_n 0, 1) := dk_42 (dk_at dksX4_peek_2 13 rfl rfl)
theorem dX4_peek_60 : decode cX4_peek 60 = .ok (.getfield 35, 3) := dk_180 0 35 (dk_at dksX4_peek_2 14 rfl rfl)
theorem dX4_peek_63 : decode cX4_peek 63 = .ok (.baload, 1) := dk_51 (dk_at dksX4_peek_2 17 rfl rfl)
theorem dX4_peek_64 : decode cX4_peek 64 = .ok (.sipush 255, 3) := dk_17 0 255 (dk_at dksX4_peek_2 18 rfl rfl)
theorem dX4_peek_67 : decode cX4_peek 67 = .ok (.iand, 1) := dk_126 (dk_at dksX4_peek_2 21 rfl rfl)
theorem dX4_peek_68 : decode cX4_peek 68 = .ok (.goto 4, 3) := dk_167 0 4 (dk_at dksX4_peek_3 0 rfl rfl)
theorem dX4_peek_71 : decode cX4_peek 71 = .ok (.iconst (-1), 1) := dk_2 (dk_at dksX4_peek_3 3 rfl rfl)
theorem dX4_peek_72 : decode cX4_peek 72 = .ok (.ireturn, 1) := dk_172 (dk_at dksX4_peek_3 4 rfl rfl)
abbrev cX4_isLetterAt : ByteArray := prog_7_method_3_code
def yX4_isLetterAt : MethodName := ⟨RX4, "isLetterAt", "(I)Z"⟩
def dkwX4_isLetterAt_1 : List UInt8 := [184, 0, 46, 153, 0, 7, 4, 167, 0, 4, 3, 172]
abbrev dktX4_isLetterAt_1 : List UInt8 := dkwX4_isLetterAt_1 ++ []
def dkwX4_isLetterAt_0 : List UInt8 := [27, 42, 180, 0, 31, 162, 0, 29, 42, 180, 0, 3, 180, 0, 38, 27, 51, 133, 20, 0, 42, 20, 0, 44]
abbrev dktX4_isLetterAt_0 : List UInt8 := dkwX4_isLetterAt_0 ++ dktX4_isLetterAt_1
theorem dksX4_isLetterAt_0 : cX4_isLetterAt.data.toList.drop 0 = dktX4_isLetterAt_0 := by decide +kernel
theorem dksX4_isLetterAt_1 : cX4_isLetterAt.data.toList.drop 24 = dktX4_isLetterAt_1 := dk_seg dksX4_isLetterAt_0 24 rfl rfl
theorem dX4_isLetterAt_0 : decode cX4_isLetterAt 0 = .ok (.iload_n 1, 1) := dk_27 (dk_at dksX4_isLetterAt_0 0 rfl rfl)
theorem dX4_isLetterAt_1 : decode cX4_isLetterAt 1 = .ok (.aload_n 0, 1) := dk_42 (dk_at dksX4_isLetterAt_0 1 rfl rfl)
theorem dX4_isLetterAt_2 : decode cX4_isLetterAt 2 = .ok (.getfield 31, 3) := dk_180 0 31 (dk_at dksX4_isLetterAt_0 2 rfl rfl)
theorem dX4_isLetterAt_5 : decode cX4_isLetterAt 5 = .ok (.if_icmp .ge 29, 3) := dk_162 0 29 (dk_at dksX4_isLetterAt_0 5 rfl rfl)
theorem dX4_isLetterAt_8 : decode cX4_isLetterAt 8 = .ok (.aload_n 0, 1) := dk_42 (dk_at dksX4_isLetterAt_0 8 rfl rfl)
theorem dX4_isLetterAt_9 : decode cX4_isLetterAt 9 = .ok (.getfield 3, 3) := dk_180 0 3 (dk_at dksX4_isLetterAt_0 9 rfl rfl)
theorem dX4_isLetterAt_12 : decode cX4_isLetterAt 12 = .ok (.getfield 38, 3) := dk_180 0 38 (dk_at dksX4_isLetterAt_0 12 rfl rfl)
theorem dX4_isLetterAt_15 : decode cX4_isLetterAt 15 = .ok (.iload_n 1, 1) := dk_27 (dk_at dksX4_isLetterAt_0 15 rfl rfl)
theorem dX4_isLetterAt_16 : decode cX4_isLetterAt 16 = .ok (.baload, 1) := dk_51 (dk_at dksX4_isLetterAt_0 16 rfl rfl)
theorem dX4_isLetterAt_17 : decode cX4_isLetterAt 17 = .ok (.i2l, 1) := dk_133 (dk_at dksX4_isLetterAt_0 17 rfl rfl)
theorem dX4_isLetterAt_18 : decode cX4_isLetterAt 18 = .ok (.ldc2_w 42, 3) := dk_20 0 42 (dk_at dksX4_isLetterAt_0 18 rfl rfl)
theorem dX4_isLetterAt_21 : decode cX4_isLetterAt 21 = .ok (.ldc2_w 44, 3) := dk_20 0 44 (dk_at dksX4_isLetterAt_0 21 rfl rfl)
theorem dX4_isLetterAt_24 : decode cX4_isLetterAt 24 = .ok (.invokestatic 46, 3) := dk_184 0 46 (dk_at dksX4_isLetterAt_1 0 rfl rfl)
theorem dX4_isLetterAt_27 : decode cX4_isLetterAt 27 = .ok (.ifCond .eq 7, 3) := dk_153 0 7 (dk_at dksX4_isLetterAt_1 3 rfl rfl)
theorem dX4_isLetterAt_30 : decode cX4_isLetterAt 30 = .ok (.iconst 1, 1) := dk_4 (dk_at dksX4_isLetterAt_1 6 rfl rfl)
theorem dX4_isLetterAt_31 : decode cX4_isLetterAt 31 = .ok (.goto 4, 3) := dk_167 0 4 (dk_at dksX4_isLetterAt_1 7 rfl rfl)
theorem dX4_isLetterAt_34 : decode cX4_isLetterAt 34 = .ok (.iconst 0, 1) := dk_3 (dk_at dksX4_isLetterAt_1 10 rfl rfl)
theorem dX4_isLetterAt_35 : decode cX4_isLetterAt 35 = .ok (.ireturn, 1) := dk_172 (dk_at dksX4_isLetterAt_1 11 rfl rfl)
abbrev cX4_require : ByteArray := prog_7_method_4_code
def yX4_require : MethodName := ⟨RX4, "require", "(ZII)V"⟩
def dkwX4_require_0 : List UInt8 := [27, 154, 0, 13, 187, 0, 50, 89, 28, 29, 183, 0, 52, 191, 177]
abbrev dktX4_require_0 : List UInt8 := dkwX4_require_0 ++ []
theorem dksX4_require_0 : cX4_require.data.toList.drop 0 = dktX4_require_0 := by decide +kernel
theorem dX4_require_0 : decode cX4_require 0 = .ok (.iload_n 1, 1) := dk_27 (dk_at dksX4_require_0 0 rfl rfl)
theorem dX4_require_1 : decode cX4_require 1 = .ok (.ifCond .ne 13, 3) := dk_154 0 13 (dk_at dksX4_require_0 1 rfl rfl)
theorem dX4_require_4 : decode cX4_require 4 = .ok (.new 50, 3) := dk_187 0 50 (dk_at dksX4_require_0 4 rfl rfl)
theorem dX4_require_7 : decode cX4_require 7 = .ok (.dup, 1) := dk_89 (dk_at dksX4_require_0 7 rfl rfl)
theorem dX4_require_8 : decode cX4_require 8 = .ok (.iload_n 2, 1) := dk_28 (dk_at dksX4_require_0 8 rfl rfl)
theorem dX4_require_9 : decode cX4_require 9 = .ok (.iload_n 3, 1) := dk_29 (dk_at dksX4_require_0 9 rfl rfl)
theorem dX4_require_10 : decode cX4_require 10 = .ok (.invokespecial 52, 3) := dk_183 0 52 (dk_at dksX4_require_0 10 rfl rfl)
theorem dX4_require_13 : decode cX4_require 13 = .ok (.athrow, 1) := dk_191 (dk_at dksX4_require_0 13 rfl rfl)
theorem dX4_require_14 : decode cX4_require 14 = .ok (.return_, 1) := dk_177 (dk_at dksX4_require_0 14 rfl rfl)
abbrev cX4_expect : ByteArray := prog_7_method_5_code
def yX4_expect : MethodName := ⟨RX4, "expect", "(I)V"⟩
def dkwX4_expect_1 : List UInt8 := [182, 0, 59, 42, 89, 180, 0, 35, 4, 96, 181, 0, 35, 177]
abbrev dktX4_expect_1 : List UInt8 := dkwX4_expect_1 ++ []
def dkwX4_expect_0 : List UInt8 := [42, 182, 0, 55, 27, 160, 0, 7, 4, 167, 0, 4, 3, 61, 42, 28, 16, 254, 42, 180, 0, 35]
abbrev dktX4_expect_0 : List UInt8 := dkwX4_expect_0 ++ dktX4_expect_1
theorem dksX4_expect_0 : cX4_expect.data.toList.drop 0 = dktX4_expect_0 := by decide +kernel
theorem dksX4_expect_1 : cX4_expect.data.toList.drop 22 = dktX4_expect_1 := dk_seg dksX4_expect_0 22 rfl rfl
theorem dX4_expect_0 : decode cX4_expect 0 = .ok (.aload_n 0, 1) := dk_42 (dk_at dksX4_expect_0 0 rfl rfl)
theorem dX4_expect_1 : decode cX4_expect 1 = .ok (.invokevirtual 55, 3) := dk_182 0 55 (dk_at dksX4_expect_0 1 rfl rfl)
theorem dX4_expect_4 : decode cX4_expect 4 = .ok (.iload_n 1, 1) := dk_27 (dk_at dksX4_expect_0 4 rfl rfl)
theorem dX4_expect_5 : decode cX4_expect 5 = .ok (.if_icmp .ne 7, 3) := dk_160 0 7 (dk_at dksX4_expect_0 5 rfl rfl)
theorem dX4_expect_8 : decode cX4_expect 8 = .ok (.iconst 1, 1) := dk_4 (dk_at dksX4_expect_0 8 rfl rfl)
theorem dX4_expect_9 : decode cX4_expect 9 = .ok (.goto 4, 3) := dk_167 0 4 (dk_at dksX4_expect_0 9 rfl rfl)
theorem dX4_expect_12 : decode cX4_expect 12 = .ok (.iconst 0, 1) := dk_3 (dk_at dksX4_expect_0 12 rfl rfl)
theorem dX4_expect_13 : decode cX4_expect 13 = .ok (.istore_n 2, 1) := dk_61 (dk_at dksX4_expect_0 13 rfl rfl)
theorem dX4_expect_14 : decode cX4_expect 14 = .ok (.aload_n 0, 1) := dk_42 (dk_at dksX4_expect_0 14 rfl rfl)
theorem dX4_expect_15 : decode cX4_expect 15 = .ok (.iload_n 2, 1) := dk_28 (dk_at dksX4_expect_0 15 rfl rfl)
theorem dX4_expect_16 : decode cX4_expect 16 = .ok (.bipush (-2), 2) := dk_16 254 (dk_at dksX4_expect_0 16 rfl rfl)
theorem dX4_expect_18 : decode cX4_expect 18 = .ok (.aload_n 0, 1) := dk_42 (dk_at dksX4_expect_0 18 rfl rfl)
theorem dX4_expect_19 : decode cX4_expect 19 = .ok (.getfield 35, 3) := dk_180 0 35 (dk_at dksX4_expect_0 19 rfl rfl)
theorem dX4_expect_22 : decode cX4_expect 22 = .ok (.invokevirtual 59, 3) := dk_182 0 59 (dk_at dksX4_expect_1 0 rfl rfl)
theorem dX4_expect_25 : decode cX4_expect 25 = .ok (.aload_n 0, 1) := dk_42 (dk_at dksX4_expect_1 3 rfl rfl)
theorem dX4_expect_26 : decode cX4_expect 26 = .ok (.dup, 1) := dk_89 (dk_at dksX4_expect_1 4 rfl rfl)
theorem dX4_expect_27 : decode cX4_expect 27 = .ok (.getfield 35, 3) := dk_180 0 35 (dk_at dksX4_expect_1 5 rfl rfl)
theorem dX4_expect_30 : decode cX4_expect 30 = .ok (.iconst 1, 1) := dk_4 (dk_at dksX4_expect_1 8 rfl rfl)
theorem dX4_expect_31 : decode cX4_expect 31 = .ok (.iadd, 1) := dk_96 (dk_at dksX4_expect_1 9 rfl rfl)
theorem dX4_expect_32 : decode cX4_expect 32 = .ok (.putfield 35, 3) := dk_181 0 35 (dk_at dksX4_expect_1 10 rfl rfl)
theorem dX4_expect_35 : decode cX4_expect 35 = .ok (.return_, 1) := dk_177 (dk_at dksX4_expect_1 13 rfl rfl)
abbrev cX4_statement : ByteArray := prog_7_method_21_code
def yX4_statement : MethodName := ⟨RX4, "statement", "()V"⟩
def dkwX4_statement_13 : List UInt8 := [183, 0, 52, 191, 42, 16, 59, 182, 0, 113, 177]
abbrev dktX4_statement_13 : List UInt8 := dkwX4_statement_13 ++ []
def dkwX4_statement_12 : List UInt8 := [181, 0, 237, 42, 180, 0, 27, 42, 182, 0, 110, 181, 0, 240, 167, 0, 14, 187, 0, 50, 89, 16, 254, 28]
abbrev dktX4_statement_12 : List UInt8 := dkwX4_statement_12 ++ dktX4_statement_13
def dkwX4_statement_11 : List UInt8 := [167, 0, 52, 42, 42, 180, 0, 237, 154, 0, 7, 4, 167, 0, 4, 3, 16, 254, 28, 182, 0, 59, 42, 4]
abbrev dktX4_statement_11 : List UInt8 := dkwX4_statement_11 ++ dktX4_statement_12
def dkwX4_statement_10 : List UInt8 := [182, 0, 59, 42, 4, 181, 0, 231, 42, 180, 0, 27, 42, 3, 16, 100, 182, 0, 117, 181, 0, 235]
abbrev dktX4_statement_10 : List UInt8 := dkwX4_statement_10 ++ dktX4_statement_11
def dkwX4_statement_9 : List UInt8 := [182, 0, 229, 167, 0, 93, 42, 42, 180, 0, 231, 154, 0, 7, 4, 167, 0, 4, 3, 16, 254, 28]
abbrev dktX4_statement_9 : List UInt8 := dkwX4_statement_9 ++ dktX4_statement_10
def dkwX4_statement_8 : List UInt8 := [42, 28, 182, 0, 223, 167, 0, 115, 42, 28, 182, 0, 225, 167, 0, 107, 42, 182, 0, 227, 167, 0, 100, 42]
abbrev dktX4_statement_8 : List UInt8 := dkwX4_statement_8 ++ dktX4_statement_9
def dkwX4_statement_7 : List UInt8 := [170, 0, 0, 0, 0, 0, 148, 0, 0, 0, 0, 0, 0, 0, 5, 0, 0, 0, 39, 0, 0, 0, 47, 0, 0, 0, 55, 0, 0, 0, 62, 0, 0, 0, 69, 0, 0, 0, 110]
abbrev dktX4_statement_7 : List UInt8 := dkwX4_statement_7 ++ dktX4_statement_8
def dkwX4_statement_6 : List UInt8 := [167, 0, 15, 45, 18, 221, 182, 0, 146, 153, 0, 6, 8, 54, 4, 21, 4]
abbrev dktX4_statement_6 : List UInt8 := dkwX4_statement_6 ++ dktX4_statement_7
def dkwX4_statement_5 : List UInt8 := [182, 0, 146, 153, 0, 36, 6, 54, 4, 167, 0, 30, 45, 18, 219, 182, 0, 146, 153, 0, 21, 7, 54, 4]
abbrev dktX4_statement_5 : List UInt8 := dkwX4_statement_5 ++ dktX4_statement_6
def dkwX4_statement_4 : List UInt8 := [4, 54, 4, 167, 0, 60, 45, 18, 216, 182, 0, 146, 153, 0, 51, 5, 54, 4, 167, 0, 45, 45, 18, 217]
abbrev dktX4_statement_4 : List UInt8 := dkwX4_statement_4 ++ dktX4_statement_5
def dkwX4_statement_3 : List UInt8 := [45, 18, 212, 182, 0, 146, 153, 0, 81, 3, 54, 4, 167, 0, 75, 45, 18, 214, 182, 0, 146, 153, 0, 66]
abbrev dktX4_statement_3 : List UInt8 := dkwX4_statement_3 ++ dktX4_statement_4
def dkwX4_statement_2 : List UInt8 := [171, 0, 0, 0, 0, 0, 0, 147, 0, 0, 0, 6, 197, 148, 178, 16, 0, 0, 0, 105, 208, 209, 66, 120, 0, 0, 0, 135, 0, 51, 122, 139, 0, 0, 0, 60, 6, 76, 26, 92, 0, 0, 0, 90, 6, 133, 79, 223, 0, 0, 0, 120, 9, 232, 36, 187, 0, 0, 0, 75]
abbrev dktX4_statement_2 : List UInt8 := dkwX4_statement_2 ++ dktX4_statement_3
def dkwX4_statement_1 : List UInt8 := [78, 2, 54, 4, 45, 182, 0, 209]
abbrev dktX4_statement_1 : List UInt8 := dkwX4_statement_1 ++ dktX4_statement_2
def dkwX4_statement_0 : List UInt8 := [42, 182, 0, 124, 76, 42, 180, 0, 35, 61, 42, 89, 180, 0, 35, 43, 182, 0, 131, 96, 181, 0, 35, 43]
abbrev dktX4_statement_0 : List UInt8 := dkwX4_statement_0 ++ dktX4_statement_1
theorem dksX4_statement_0 : cX4_statement.data.toList.drop 0 = dktX4_statement_0 := by decide +kernel
theorem dksX4_statement_1 : cX4_statement.data.toList.drop 24 = dktX4_statement_1 := dk_seg dksX4_statement_0 24 rfl rfl
theorem dksX4_statement_2 : cX4_statement.data.toList.drop 32 = dktX4_statement_2 := dk_seg dksX4_statement_1 8 rfl rfl
theorem dksX4_statement_3 : cX4_statement.data.toList.drop 92 = dktX4_statement_3 := dk_seg dksX4_statement_2 60 rfl rfl
theorem dksX4_statement_4 : cX4_statement.data.toList.drop 116 = dktX4_statement_4 := dk_seg dksX4_statement_3 24 rfl rfl
theorem dksX4_statement_5 : cX4_statement.data.toList.drop 140 = dktX4_statement_5 := dk_seg dksX4_statement_4 24 rfl rfl
theorem dksX4_statement_6 : cX4_statement.data.toList.drop 164 = dktX4_statement_6 := dk_seg dksX4_statement_5 24 rfl rfl
theorem dksX4_statement_7 : cX4_statement.data.toList.drop 181 = dktX4_statement_7 := dk_seg dksX4_statement_6 17 rfl rfl
theorem dksX4_statement_8 : cX4_statement.data.toList.drop 220 = dktX4_statement_8 := dk_seg dksX4_statement_7 39 rfl rfl
theorem dksX4_statement_9 : cX4_statement.data.toList.drop 244 = dktX4_statement_9 := dk_seg dksX4_statement_8 24 rfl rfl
theorem dksX4_statement_10 : cX4_statement.data.toList.drop 266 = dktX4_statement_10 := dk_seg dksX4_statement_9 22 rfl rfl
theorem dksX4_statement_11 : cX4_statement.data.toList.drop 288 = dktX4_statement_11 := dk_seg dksX4_statement_10 22 rfl rfl
theorem dksX4_statement_12 : cX4_statement.data.toList.drop 312 = dktX4_statement_12 := dk_seg dksX4_statement_11 24 rfl rfl
theorem dksX4_statement_13 : cX4_statement.data.toList.drop 336 = dktX4_statement_13 := dk_seg dksX4_statement_12 24 rfl rfl
theorem dX4_statement_0 : decode cX4_statement 0 = .ok (.aload_n 0, 1) := dk_42 (dk_at dksX4_statement_0 0 rfl rfl)
theorem dX4_statement_1 : decode cX4_statement 1 = .ok (.invokevirtual 124, 3) := dk_182 0 124 (dk_at dksX4_statement_0 1 rfl rfl)
theorem dX4_statement_4 : decode cX4_statement 4 = .ok (.astore_n 1, 1) := dk_76 (dk_at dksX4_statement_0 4 rfl rfl)
theorem dX4_statement_5 : decode cX4_statement 5 = .ok (.aload_n 0, 1) := dk_42 (dk_at dksX4_statement_0 5 rfl rfl)
theorem dX4_statement_6 : decode cX4_statement 6 = .ok (.getfield 35, 3) := dk_180 0 35 (dk_at dksX4_statement_0 6 rfl rfl)
theorem dX4_statement_9 : decode cX4_statement 9 = .ok (.istore_n 2, 1) := dk_61 (dk_at dksX4_statement_0 9 rfl rfl)
theorem dX4_statement_10 : decode cX4_statement 10 = .ok (.aload_n 0, 1) := dk_42 (dk_at dksX4_statement_0 10 rfl rfl)
theorem dX4_statement_11 : decode cX4_statement 11 = .ok (.dup, 1) := dk_89 (dk_at dksX4_statement_0 11 rfl rfl)
theorem dX4_statement_12 : decode cX4_statement 12 = .ok (.getfield 35, 3) := dk_180 0 35 (dk_at dksX4_statement_0 12 rfl rfl)
theorem dX4_statement_15 : decode cX4_statement 15 = .ok (.aload_n 1, 1) := dk_43 (dk_at dksX4_statement_0 15 rfl rfl)
theorem dX4_statement_16 : decode cX4_statement 16 = .ok (.invokevirtual 131, 3) := dk_182 0 131 (dk_at dksX4_statement_0 16 rfl rfl)
theorem dX4_statement_19 : decode cX4_statement 19 = .ok (.iadd, 1) := dk_96 (dk_at dksX4_statement_0 19 rfl rfl)
theorem dX4_statement_20 : decode cX4_statement 20 = .ok (.putfield 35, 3) := dk_181 0 35 (dk_at dksX4_statement_0 20 rfl rfl)
theorem dX4_statement_23 : decode cX4_statement 23 = .ok (.aload_n 1, 1) := dk_43 (dk_at dksX4_statement_0 23 rfl rfl)
theorem dX4_statement_24 : decode cX4_statement 24 = .ok (.astore_n 3, 1) := dk_78 (dk_at dksX4_statement_1 0 rfl rfl)
theorem dX4_statement_25 : decode cX4_statement 25 = .ok (.iconst (-1), 1) := dk_2 (dk_at dksX4_statement_1 1 rfl rfl)
theorem dX4_statement_26 : decode cX4_statement 26 = .ok (.istore 4, 2) := dk_54 4 (dk_at dksX4_statement_1 2 rfl rfl)
theorem dX4_statement_28 : decode cX4_statement 28 = .ok (.aload_n 3, 1) := dk_45 (dk_at dksX4_statement_1 4 rfl rfl)
theorem dX4_statement_29 : decode cX4_statement 29 = .ok (.invokevirtual 209, 3) := dk_182 0 209 (dk_at dksX4_statement_1 5 rfl rfl)
theorem dX4_statement_32 : decode cX4_statement 32 = .ok (.lookupswitch 147 #[(-980110832, 105), (-791592328, 135), (3373707, 60), (105650780, 90), (109400031, 120), (166208699, 75)], 60) := by decide +kernel
theorem dX4_statement_92 : decode cX4_statement 92 = .ok (.aload_n 3, 1) := dk_45 (dk_at dksX4_statement_3 0 rfl rfl)
theorem dX4_statement_93 : decode cX4_statement 93 = .ok (.ldc 212, 2) := dk_18 212 (dk_at dksX4_statement_3 1 rfl rfl)
theorem dX4_statement_95 : decode cX4_statement 95 = .ok (.invokevirtual 146, 3) := dk_182 0 146 (dk_at dksX4_statement_3 3 rfl rfl)
theorem dX4_statement_98 : decode cX4_statement 98 = .ok (.ifCond .eq 81, 3) := dk_153 0 81 (dk_at dksX4_statement_3 6 rfl rfl)
theorem dX4_statement_101 : decode cX4_statement 101 = .ok (.iconst 0, 1) := dk_3 (dk_at dksX4_statement_3 9 rfl rfl)
theorem dX4_statement_102 : decode cX4_statement 102 = .ok (.istore 4, 2) := dk_54 4 (dk_at dksX4_statement_3 10 rfl rfl)
theorem dX4_statement_104 : decode cX4_statement 104 = .ok (.goto 75, 3) := dk_167 0 75 (dk_at dksX4_statement_3 12 rfl rfl)
theorem dX4_statement_107 : decode cX4_statement 107 = .ok (.aload_n 3, 1) := dk_45 (dk_at dksX4_statement_3 15 rfl rfl)
theorem dX4_statement_108 : decode cX4_statement 108 = .ok (.ldc 214, 2) := dk_18 214 (dk_at dksX4_statement_3 16 rfl rfl)
theorem dX4_statement_110 : decode cX4_statement 110 = .ok (.invokevirtual 146, 3) := dk_182 0 146 (dk_at dksX4_statement_3 18 rfl rfl)
theorem dX4_statement_113 : decode cX4_statement 113 = .ok (.ifCond .eq 66, 3) := dk_153 0 66 (dk_at dksX4_statement_3 21 rfl rfl)
theorem dX4_statement_116 : decode cX4_statement 116 = .ok (.iconst 1, 1) := dk_4 (dk_at dksX4_statement_4 0 rfl rfl)
theorem dX4_statement_117 : decode cX4_statement 117 = .ok (.istore 4, 2) := dk_54 4 (dk_at dksX4_statement_4 1 rfl rfl)
theorem dX4_statement_119 : decode cX4_statement 119 = .ok (.goto 60, 3) := dk_167 0 60 (dk_at dksX4_statement_4 3 rfl rfl)
theorem dX4_statement_122 : decode cX4_statement 122 = .ok (.aload_n 3, 1) := dk_45 (dk_at dksX4_statement_4 6 rfl rfl)
theorem dX4_statement_123 : decode cX4_statement 123 = .ok (.ldc 216, 2) := dk_18 216 (dk_at dksX4_statement_4 7 rfl rfl)
theorem dX4_statement_125 : decode cX4_statement 125 = .ok (.invokevirtual 146, 3) := dk_182 0 146 (dk_at dksX4_statement_4 9 rfl rfl)
theorem dX4_statement_128 : decode cX4_statement 128 = .ok (.ifCond .eq 51, 3) := dk_153 0 51 (dk_at dksX4_statement_4 12 rfl rfl)
theorem dX4_statement_131 : decode cX4_statement 131 = .ok (.iconst 2, 1) := dk_5 (dk_at dksX4_statement_4 15 rfl rfl)
theorem dX4_statement_132 : decode cX4_statement 132 = .ok (.istore 4, 2) := dk_54 4 (dk_at dksX4_statement_4 16 rfl rfl)
theorem dX4_statement_134 : decode cX4_statement 134 = .ok (.goto 45, 3) := dk_167 0 45 (dk_at dksX4_statement_4 18 rfl rfl)
theorem dX4_statement_137 : decode cX4_statement 137 = .ok (.aload_n 3, 1) := dk_45 (dk_at dksX4_statement_4 21 rfl rfl)
theorem dX4_statement_138 : decode cX4_statement 138 = .ok (.ldc 217, 2) := dk_18 217 (dk_at dksX4_statement_4 22 rfl rfl)
theorem dX4_statement_140 : decode cX4_statement 140 = .ok (.invokevirtual 146, 3) := dk_182 0 146 (dk_at dksX4_statement_5 0 rfl rfl)
theorem dX4_statement_143 : decode cX4_statement 143 = .ok (.ifCond .eq 36, 3) := dk_153 0 36 (dk_at dksX4_statement_5 3 rfl rfl)
theorem dX4_statement_146 : decode cX4_statement 146 = .ok (.iconst 3, 1) := dk_6 (dk_at dksX4_statement_5 6 rfl rfl)
theorem dX4_statement_147 : decode cX4_statement 147 = .ok (.istore 4, 2) := dk_54 4 (dk_at dksX4_statement_5 7 rfl rfl)
theorem dX4_statement_149 : decode cX4_statement 149 = .ok (.goto 30, 3) := dk_167 0 30 (dk_at dksX4_statement_5 9 rfl rfl)
theorem dX4_statement_152 : decode cX4_statement 152 = .ok (.aload_n 3, 1) := dk_45 (dk_at dksX4_statement_5 12 rfl rfl)
theorem dX4_statement_153 : decode cX4_statement 153 = .ok (.ldc 219, 2) := dk_18 219 (dk_at dksX4_statement_5 13 rfl rfl)
theorem dX4_statement_155 : decode cX4_statement 155 = .ok (.invokevirtual 146, 3) := dk_182 0 146 (dk_at dksX4_statement_5 15 rfl rfl)
theorem dX4_statement_158 : decode cX4_statement 158 = .ok (.ifCond .eq 21, 3) := dk_153 0 21 (dk_at dksX4_statement_5 18 rfl rfl)
theorem dX4_statement_161 : decode cX4_statement 161 = .ok (.iconst 4, 1) := dk_7 (dk_at dksX4_statement_5 21 rfl rfl)
theorem dX4_statement_162 : decode cX4_statement 162 = .ok (.istore 4, 2) := dk_54 4 (dk_at dksX4_statement_5 22 rfl rfl)
theorem dX4_statement_164 : decode cX4_statement 164 = .ok (.goto 15, 3) := dk_167 0 15 (dk_at dksX4_statement_6 0 rfl rfl)
theorem dX4_statement_167 : decode cX4_statement 167 = .ok (.aload_n 3, 1) := dk_45 (dk_at dksX4_statement_6 3 rfl rfl)
theorem dX4_statement_168 : decode cX4_statement 168 = .ok (.ldc 221, 2) := dk_18 221 (dk_at dksX4_statement_6 4 rfl rfl)
theorem dX4_statement_170 : decode cX4_statement 170 = .ok (.invokevirtual 146, 3) := dk_182 0 146 (dk_at dksX4_statement_6 6 rfl rfl)
theorem dX4_statement_173 : decode cX4_statement 173 = .ok (.ifCond .eq 6, 3) := dk_153 0 6 (dk_at dksX4_statement_6 9 rfl rfl)
theorem dX4_statement_176 : decode cX4_statement 176 = .ok (.iconst 5, 1) := dk_8 (dk_at dksX4_statement_6 12 rfl rfl)
theorem dX4_statement_177 : decode cX4_statement 177 = .ok (.istore 4, 2) := dk_54 4 (dk_at dksX4_statement_6 13 rfl rfl)
theorem dX4_statement_179 : decode cX4_statement 179 = .ok (.iload 4, 2) := dk_21 4 (dk_at dksX4_statement_6 15 rfl rfl)
theorem dX4_statement_181 : decode cX4_statement 181 = .ok (.tableswitch 148 0 5 #[39, 47, 55, 62, 69, 110], 39) := by decide +kernel
theorem dX4_statement_220 : decode cX4_statement 220 = .ok (.aload_n 0, 1) := dk_42 (dk_at dksX4_statement_8 0 rfl rfl)
theorem dX4_statement_221 : decode cX4_statement 221 = .ok (.iload_n 2, 1) := dk_28 (dk_at dksX4_statement_8 1 rfl rfl)
theorem dX4_statement_222 : decode cX4_statement 222 = .ok (.invokevirtual 223, 3) := dk_182 0 223 (dk_at dksX4_statement_8 2 rfl rfl)
theorem dX4_statement_225 : decode cX4_statement 225 = .ok (.goto 115, 3) := dk_167 0 115 (dk_at dksX4_statement_8 5 rfl rfl)
theorem dX4_statement_228 : decode cX4_statement 228 = .ok (.aload_n 0, 1) := dk_42 (dk_at dksX4_statement_8 8 rfl rfl)
theorem dX4_statement_229 : decode cX4_statement 229 = .ok (.iload_n 2, 1) := dk_28 (dk_at dksX4_statement_8 9 rfl rfl)
theorem dX4_statement_230 : decode cX4_statement 230 = .ok (.invokevirtual 225, 3) := dk_182 0 225 (dk_at dksX4_statement_8 10 rfl rfl)
theorem dX4_statement_233 : decode cX4_statement 233 = .ok (.goto 107, 3) := dk_167 0 107 (dk_at dksX4_statement_8 13 rfl rfl)
theorem dX4_statement_236 : decode cX4_statement 236 = .ok (.aload_n 0, 1) := dk_42 (dk_at dksX4_statement_8 16 rfl rfl)
theorem dX4_statement_237 : decode cX4_statement 237 = .ok (.invokevirtual 227, 3) := dk_182 0 227 (dk_at dksX4_statement_8 17 rfl rfl)
theorem dX4_statement_240 : decode cX4_statement 240 = .ok (.goto 100, 3) := dk_167 0 100 (dk_at dksX4_statement_8 20 rfl rfl)
theorem dX4_statement_243 : decode cX4_statement 243 = .ok (.aload_n 0, 1) := dk_42 (dk_at dksX4_statement_8 23 rfl rfl)
theorem dX4_statement_244 : decode cX4_statement 244 = .ok (.invokevirtual 229, 3) := dk_182 0 229 (dk_at dksX4_statement_9 0 rfl rfl)
theorem dX4_statement_247 : decode cX4_statement 247 = .ok (.goto 93, 3) := dk_167 0 93 (dk_at dksX4_statement_9 3 rfl rfl)
theorem dX4_statement_250 : decode cX4_statement 250 = .ok (.aload_n 0, 1) := dk_42 (dk_at dksX4_statement_9 6 rfl rfl)
theorem dX4_statement_251 : decode cX4_statement 251 = .ok (.aload_n 0, 1) := dk_42 (dk_at dksX4_statement_9 7 rfl rfl)
theorem dX4_statement_252 : decode cX4_statement 252 = .ok (.getfield 231, 3) := dk_180 0 231 (dk_at dksX4_statement_9 8 rfl rfl)
theorem dX4_statement_255 : decode cX4_statement 255 = .ok (.ifCond .ne 7, 3) := dk_154 0 7 (dk_at dksX4_statement_9 11 rfl rfl)
theorem dX4_statement_258 : decode cX4_statement 258 = .ok (.iconst 1, 1) := dk_4 (dk_at dksX4_statement_9 14 rfl rfl)
theorem dX4_statement_259 : decode cX4_statement 259 = .ok (.goto 4, 3) := dk_167 0 4 (dk_at dksX4_statement_9 15 rfl rfl)
theorem dX4_statement_262 : decode cX4_statement 262 = .ok (.iconst 0, 1) := dk_3 (dk_at dksX4_statement_9 18 rfl rfl)
theorem dX4_statement_263 : decode cX4_statement 263 = .ok (.bipush (-2), 2) := dk_16 254 (dk_at dksX4_statement_9 19 rfl rfl)
theorem dX4_statement_265 : decode cX4_statement 265 = .ok (.iload_n 2, 1) := dk_28 (dk_at dksX4_statement_9 21 rfl rfl)
theorem dX4_statement_266 : decode cX4_statement 266 = .ok (.invokevirtual 59, 3) := dk_182 0 59 (dk_at dksX4_statement_10 0 rfl rfl)
theorem dX4_statement_269 : decode cX4_statement 269 = .ok (.aload_n 0, 1) := dk_42 (dk_at dksX4_statement_10 3 rfl rfl)
theorem dX4_statement_270 : decode cX4_statement 270 = .ok (.iconst 1, 1) := dk_4 (dk_at dksX4_statement_10 4 rfl rfl)
theorem dX4_statement_271 : decode cX4_statement 271 = .ok (.putfield 231, 3) := dk_181 0 231 (dk_at dksX4_statement_10 5 rfl rfl)
theorem dX4_statement_274 : decode cX4_statement 274 = .ok (.aload_n 0, 1) := dk_42 (dk_at dksX4_statement_10 8 rfl rfl)
theorem dX4_statement_275 : decode cX4_statement 275 = .ok (.getfield 27, 3) := dk_180 0 27 (dk_at dksX4_statement_10 9 rfl rfl)
theorem dX4_statement_278 : decode cX4_statement 278 = .ok (.aload_n 0, 1) := dk_42 (dk_at dksX4_statement_10 12 rfl rfl)
theorem dX4_statement_279 : decode cX4_statement 279 = .ok (.iconst 0, 1) := dk_3 (dk_at dksX4_statement_10 13 rfl rfl)
theorem dX4_statement_280 : decode cX4_statement 280 = .ok (.bipush 100, 2) := dk_16 100 (dk_at dksX4_statement_10 14 rfl rfl)
theorem dX4_statement_282 : decode cX4_statement 282 = .ok (.invokevirtual 117, 3) := dk_182 0 117 (dk_at dksX4_statement_10 16 rfl rfl)
theorem dX4_statement_285 : decode cX4_statement 285 = .ok (.putfield 235, 3) := dk_181 0 235 (dk_at dksX4_statement_10 19 rfl rfl)
theorem dX4_statement_288 : decode cX4_statement 288 = .ok (.goto 52, 3) := dk_167 0 52 (dk_at dksX4_statement_11 0 rfl rfl)
theorem dX4_statement_291 : decode cX4_statement 291 = .ok (.aload_n 0, 1) := dk_42 (dk_at dksX4_statement_11 3 rfl rfl)
theorem dX4_statement_292 : decode cX4_statement 292 = .ok (.aload_n 0, 1) := dk_42 (dk_at dksX4_statement_11 4 rfl rfl)
theorem dX4_statement_293 : decode cX4_statement 293 = .ok (.getfield 237, 3) := dk_180 0 237 (dk_at dksX4_statement_11 5 rfl rfl)
theorem dX4_statement_296 : decode cX4_statement 296 = .ok (.ifCond .ne 7, 3) := dk_154 0 7 (dk_at dksX4_statement_11 8 rfl rfl)
theorem dX4_statement_299 : decode cX4_statement 299 = .ok (.iconst 1, 1) := dk_4 (dk_at dksX4_statement_11 11 rfl rfl)
theorem dX4_statement_300 : decode cX4_statement 300 = .ok (.goto 4, 3) := dk_167 0 4 (dk_at dksX4_statement_11 12 rfl rfl)
theorem dX4_statement_303 : decode cX4_statement 303 = .ok (.iconst 0, 1) := dk_3 (dk_at dksX4_statement_11 15 rfl rfl)
theorem dX4_statement_304 : decode cX4_statement 304 = .ok (.bipush (-2), 2) := dk_16 254 (dk_at dksX4_statement_11 16 rfl rfl)
theorem dX4_statement_306 : decode cX4_statement 306 = .ok (.iload_n 2, 1) := dk_28 (dk_at dksX4_statement_11 18 rfl rfl)
theorem dX4_statement_307 : decode cX4_statement 307 = .ok (.invokevirtual 59, 3) := dk_182 0 59 (dk_at dksX4_statement_11 19 rfl rfl)
theorem dX4_statement_310 : decode cX4_statement 310 = .ok (.aload_n 0, 1) := dk_42 (dk_at dksX4_statement_11 22 rfl rfl)
theorem dX4_statement_311 : decode cX4_statement 311 = .ok (.iconst 1, 1) := dk_4 (dk_at dksX4_statement_11 23 rfl rfl)
theorem dX4_statement_312 : decode cX4_statement 312 = .ok (.putfield 237, 3) := dk_181 0 237 (dk_at dksX4_statement_12 0 rfl rfl)
theorem dX4_statement_315 : decode cX4_statement 315 = .ok (.aload_n 0, 1) := dk_42 (dk_at dksX4_statement_12 3 rfl rfl)
theorem dX4_statement_316 : decode cX4_statement 316 = .ok (.getfield 27, 3) := dk_180 0 27 (dk_at dksX4_statement_12 4 rfl rfl)
theorem dX4_statement_319 : decode cX4_statement 319 = .ok (.aload_n 0, 1) := dk_42 (dk_at dksX4_statement_12 7 rfl rfl)
theorem dX4_statement_320 : decode cX4_statement 320 = .ok (.invokevirtual 110, 3) := dk_182 0 110 (dk_at dksX4_statement_12 8 rfl rfl)
theorem dX4_statement_323 : decode cX4_statement 323 = .ok (.putfield 240, 3) := dk_181 0 240 (dk_at dksX4_statement_12 11 rfl rfl)
theorem dX4_statement_326 : decode cX4_statement 326 = .ok (.goto 14, 3) := dk_167 0 14 (dk_at dksX4_statement_12 14 rfl rfl)
theorem dX4_statement_329 : decode cX4_statement 329 = .ok (.new 50, 3) := dk_187 0 50 (dk_at dksX4_statement_12 17 rfl rfl)
theorem dX4_statement_332 : decode cX4_statement 332 = .ok (.dup, 1) := dk_89 (dk_at dksX4_statement_12 20 rfl rfl)
theorem dX4_statement_333 : decode cX4_statement 333 = .ok (.bipush (-2), 2) := dk_16 254 (dk_at dksX4_statement_12 21 rfl rfl)
theorem dX4_statement_335 : decode cX4_statement 335 = .ok (.iload_n 2, 1) := dk_28 (dk_at dksX4_statement_12 23 rfl rfl)
theorem dX4_statement_336 : decode cX4_statement 336 = .ok (.invokespecial 52, 3) := dk_183 0 52 (dk_at dksX4_statement_13 0 rfl rfl)
theorem dX4_statement_339 : decode cX4_statement 339 = .ok (.athrow, 1) := dk_191 (dk_at dksX4_statement_13 3 rfl rfl)
theorem dX4_statement_340 : decode cX4_statement 340 = .ok (.aload_n 0, 1) := dk_42 (dk_at dksX4_statement_13 4 rfl rfl)
theorem dX4_statement_341 : decode cX4_statement 341 = .ok (.bipush 59, 2) := dk_16 59 (dk_at dksX4_statement_13 5 rfl rfl)
theorem dX4_statement_343 : decode cX4_statement 343 = .ok (.invokevirtual 113, 3) := dk_182 0 113 (dk_at dksX4_statement_13 7 rfl rfl)
theorem dX4_statement_346 : decode cX4_statement 346 = .ok (.return_, 1) := dk_177 (dk_at dksX4_statement_13 10 rfl rfl)
abbrev cX4_name : ByteArray := prog_7_method_17_code
def yX4_name : MethodName := ⟨RX4, "name", "(I)V"⟩
def dkwX4_name_2 : List UInt8 := [16, 251, 42, 180, 0, 86, 182, 0, 59, 42, 180, 0, 18, 44, 185, 0, 165, 2, 0, 87, 177]
abbrev dktX4_name_2 : List UInt8 := dkwX4_name_2 ++ []
def dkwX4_name_1 : List UInt8 := [182, 0, 59, 42, 182, 0, 158, 77, 42, 42, 44, 182, 0, 161, 2, 160, 0, 7, 4, 167, 0, 4, 3]
abbrev dktX4_name_1 : List UInt8 := dkwX4_name_1 ++ dktX4_name_2
def dkwX4_name_0 : List UInt8 := [42, 42, 180, 0, 18, 185, 0, 137, 1, 0, 16, 12, 162, 0, 7, 4, 167, 0, 4, 3, 16, 250, 27]
abbrev dktX4_name_0 : List UInt8 := dkwX4_name_0 ++ dktX4_name_1
theorem dksX4_name_0 : cX4_name.data.toList.drop 0 = dktX4_name_0 := by decide +kernel
theorem dksX4_name_1 : cX4_name.data.toList.drop 23 = dktX4_name_1 := dk_seg dksX4_name_0 23 rfl rfl
theorem dksX4_name_2 : cX4_name.data.toList.drop 46 = dktX4_name_2 := dk_seg dksX4_name_1 23 rfl rfl
theorem dX4_name_0 : decode cX4_name 0 = .ok (.aload_n 0, 1) := dk_42 (dk_at dksX4_name_0 0 rfl rfl)
theorem dX4_name_1 : decode cX4_name 1 = .ok (.aload_n 0, 1) := dk_42 (dk_at dksX4_name_0 1 rfl rfl)
theorem dX4_name_2 : decode cX4_name 2 = .ok (.getfield 18, 3) := dk_180 0 18 (dk_at dksX4_name_0 2 rfl rfl)
theorem dX4_name_5 : decode cX4_name 5 = .ok (.invokeinterface 137 1, 5) := by decide +kernel
theorem dX4_name_10 : decode cX4_name 10 = .ok (.bipush 12, 2) := dk_16 12 (dk_at dksX4_name_0 10 rfl rfl)
theorem dX4_name_12 : decode cX4_name 12 = .ok (.if_icmp .ge 7, 3) := dk_162 0 7 (dk_at dksX4_name_0 12 rfl rfl)
theorem dX4_name_15 : decode cX4_name 15 = .ok (.iconst 1, 1) := dk_4 (dk_at dksX4_name_0 15 rfl rfl)
theorem dX4_name_16 : decode cX4_name 16 = .ok (.goto 4, 3) := dk_167 0 4 (dk_at dksX4_name_0 16 rfl rfl)
theorem dX4_name_19 : decode cX4_name 19 = .ok (.iconst 0, 1) := dk_3 (dk_at dksX4_name_0 19 rfl rfl)
theorem dX4_name_20 : decode cX4_name 20 = .ok (.bipush (-6), 2) := dk_16 250 (dk_at dksX4_name_0 20 rfl rfl)
theorem dX4_name_22 : decode cX4_name 22 = .ok (.iload_n 1, 1) := dk_27 (dk_at dksX4_name_0 22 rfl rfl)
theorem dX4_name_23 : decode cX4_name 23 = .ok (.invokevirtual 59, 3) := dk_182 0 59 (dk_at dksX4_name_1 0 rfl rfl)
theorem dX4_name_26 : decode cX4_name 26 = .ok (.aload_n 0, 1) := dk_42 (dk_at dksX4_name_1 3 rfl rfl)
theorem dX4_name_27 : decode cX4_name 27 = .ok (.invokevirtual 158, 3) := dk_182 0 158 (dk_at dksX4_name_1 4 rfl rfl)
theorem dX4_name_30 : decode cX4_name 30 = .ok (.astore_n 2, 1) := dk_77 (dk_at dksX4_name_1 7 rfl rfl)
theorem dX4_name_31 : decode cX4_name 31 = .ok (.aload_n 0, 1) := dk_42 (dk_at dksX4_name_1 8 rfl rfl)
theorem dX4_name_32 : decode cX4_name 32 = .ok (.aload_n 0, 1) := dk_42 (dk_at dksX4_name_1 9 rfl rfl)
theorem dX4_name_33 : decode cX4_name 33 = .ok (.aload_n 2, 1) := dk_44 (dk_at dksX4_name_1 10 rfl rfl)
theorem dX4_name_34 : decode cX4_name 34 = .ok (.invokevirtual 161, 3) := dk_182 0 161 (dk_at dksX4_name_1 11 rfl rfl)
theorem dX4_name_37 : decode cX4_name 37 = .ok (.iconst (-1), 1) := dk_2 (dk_at dksX4_name_1 14 rfl rfl)
theorem dX4_name_38 : decode cX4_name 38 = .ok (.if_icmp .ne 7, 3) := dk_160 0 7 (dk_at dksX4_name_1 15 rfl rfl)
theorem dX4_name_41 : decode cX4_name 41 = .ok (.iconst 1, 1) := dk_4 (dk_at dksX4_name_1 18 rfl rfl)
theorem dX4_name_42 : decode cX4_name 42 = .ok (.goto 4, 3) := dk_167 0 4 (dk_at dksX4_name_1 19 rfl rfl)
theorem dX4_name_45 : decode cX4_name 45 = .ok (.iconst 0, 1) := dk_3 (dk_at dksX4_name_1 22 rfl rfl)
theorem dX4_name_46 : decode cX4_name 46 = .ok (.bipush (-5), 2) := dk_16 251 (dk_at dksX4_name_2 0 rfl rfl)
theorem dX4_name_48 : decode cX4_name 48 = .ok (.aload_n 0, 1) := dk_42 (dk_at dksX4_name_2 2 rfl rfl)
theorem dX4_name_49 : decode cX4_name 49 = .ok (.getfield 86, 3) := dk_180 0 86 (dk_at dksX4_name_2 3 rfl rfl)
theorem dX4_name_52 : decode cX4_name 52 = .ok (.invokevirtual 59, 3) := dk_182 0 59 (dk_at dksX4_name_2 6 rfl rfl)
theorem dX4_name_55 : decode cX4_name 55 = .ok (.aload_n 0, 1) := dk_42 (dk_at dksX4_name_2 9 rfl rfl)
theorem dX4_name_56 : decode cX4_name 56 = .ok (.getfield 18, 3) := dk_180 0 18 (dk_at dksX4_name_2 10 rfl rfl)
theorem dX4_name_59 : decode cX4_name 59 = .ok (.aload_n 2, 1) := dk_44 (dk_at dksX4_name_2 13 rfl rfl)
theorem dX4_name_60 : decode cX4_name 60 = .ok (.invokeinterface 165 2, 5) := by decide +kernel
theorem dX4_name_65 : decode cX4_name 65 = .ok (.pop, 1) := dk_87 (dk_at dksX4_name_2 19 rfl rfl)
theorem dX4_name_66 : decode cX4_name 66 = .ok (.return_, 1) := dk_177 (dk_at dksX4_name_2 20 rfl rfl)
abbrev cX4_toldWord : ByteArray := prog_7_method_12_code
def yX4_toldWord : MethodName := ⟨RX4, "toldWord", "()Ljava/lang/String;"⟩
def dkwX4_toldWord_2 : List UInt8 := [181, 0, 35, 43, 176]
abbrev dktX4_toldWord_2 : List UInt8 := dkwX4_toldWord_2 ++ []
def dkwX4_toldWord_1 : List UInt8 := [184, 0, 46, 16, 254, 42, 180, 0, 86, 182, 0, 59, 42, 89, 180, 0, 35, 43, 182, 0, 131, 96]
abbrev dktX4_toldWord_1 : List UInt8 := dkwX4_toldWord_1 ++ dktX4_toldWord_2
def dkwX4_toldWord_0 : List UInt8 := [42, 182, 0, 124, 76, 42, 42, 180, 0, 35, 181, 0, 86, 42, 43, 182, 0, 131, 133, 10, 20, 0, 135]
abbrev dktX4_toldWord_0 : List UInt8 := dkwX4_toldWord_0 ++ dktX4_toldWord_1
theorem dksX4_toldWord_0 : cX4_toldWord.data.toList.drop 0 = dktX4_toldWord_0 := by decide +kernel
theorem dksX4_toldWord_1 : cX4_toldWord.data.toList.drop 23 = dktX4_toldWord_1 := dk_seg dksX4_toldWord_0 23 rfl rfl
theorem dksX4_toldWord_2 : cX4_toldWord.data.toList.drop 45 = dktX4_toldWord_2 := dk_seg dksX4_toldWord_1 22 rfl rfl
theorem dX4_toldWord_0 : decode cX4_toldWord 0 = .ok (.aload_n 0, 1) := dk_42 (dk_at dksX4_toldWord_0 0 rfl rfl)
theorem dX4_toldWord_1 : decode cX4_toldWord 1 = .ok (.invokevirtual 124, 3) := dk_182 0 124 (dk_at dksX4_toldWord_0 1 rfl rfl)
theorem dX4_toldWord_4 : decode cX4_toldWord 4 = .ok (.astore_n 1, 1) := dk_76 (dk_at dksX4_toldWord_0 4 rfl rfl)
theorem dX4_toldWord_5 : decode cX4_toldWord 5 = .ok (.aload_n 0, 1) := dk_42 (dk_at dksX4_toldWord_0 5 rfl rfl)
theorem dX4_toldWord_6 : decode cX4_toldWord 6 = .ok (.aload_n 0, 1) := dk_42 (dk_at dksX4_toldWord_0 6 rfl rfl)
theorem dX4_toldWord_7 : decode cX4_toldWord 7 = .ok (.getfield 35, 3) := dk_180 0 35 (dk_at dksX4_toldWord_0 7 rfl rfl)
theorem dX4_toldWord_10 : decode cX4_toldWord 10 = .ok (.putfield 86, 3) := dk_181 0 86 (dk_at dksX4_toldWord_0 10 rfl rfl)
theorem dX4_toldWord_13 : decode cX4_toldWord 13 = .ok (.aload_n 0, 1) := dk_42 (dk_at dksX4_toldWord_0 13 rfl rfl)
theorem dX4_toldWord_14 : decode cX4_toldWord 14 = .ok (.aload_n 1, 1) := dk_43 (dk_at dksX4_toldWord_0 14 rfl rfl)
theorem dX4_toldWord_15 : decode cX4_toldWord 15 = .ok (.invokevirtual 131, 3) := dk_182 0 131 (dk_at dksX4_toldWord_0 15 rfl rfl)
theorem dX4_toldWord_18 : decode cX4_toldWord 18 = .ok (.i2l, 1) := dk_133 (dk_at dksX4_toldWord_0 18 rfl rfl)
theorem dX4_toldWord_19 : decode cX4_toldWord 19 = .ok (.lconst 1, 1) := dk_10 (dk_at dksX4_toldWord_0 19 rfl rfl)
theorem dX4_toldWord_20 : decode cX4_toldWord 20 = .ok (.ldc2_w 135, 3) := dk_20 0 135 (dk_at dksX4_toldWord_0 20 rfl rfl)
theorem dX4_toldWord_23 : decode cX4_toldWord 23 = .ok (.invokestatic 46, 3) := dk_184 0 46 (dk_at dksX4_toldWord_1 0 rfl rfl)
theorem dX4_toldWord_26 : decode cX4_toldWord 26 = .ok (.bipush (-2), 2) := dk_16 254 (dk_at dksX4_toldWord_1 3 rfl rfl)
theorem dX4_toldWord_28 : decode cX4_toldWord 28 = .ok (.aload_n 0, 1) := dk_42 (dk_at dksX4_toldWord_1 5 rfl rfl)
theorem dX4_toldWord_29 : decode cX4_toldWord 29 = .ok (.getfield 86, 3) := dk_180 0 86 (dk_at dksX4_toldWord_1 6 rfl rfl)
theorem dX4_toldWord_32 : decode cX4_toldWord 32 = .ok (.invokevirtual 59, 3) := dk_182 0 59 (dk_at dksX4_toldWord_1 9 rfl rfl)
theorem dX4_toldWord_35 : decode cX4_toldWord 35 = .ok (.aload_n 0, 1) := dk_42 (dk_at dksX4_toldWord_1 12 rfl rfl)
theorem dX4_toldWord_36 : decode cX4_toldWord 36 = .ok (.dup, 1) := dk_89 (dk_at dksX4_toldWord_1 13 rfl rfl)
theorem dX4_toldWord_37 : decode cX4_toldWord 37 = .ok (.getfield 35, 3) := dk_180 0 35 (dk_at dksX4_toldWord_1 14 rfl rfl)
theorem dX4_toldWord_40 : decode cX4_toldWord 40 = .ok (.aload_n 1, 1) := dk_43 (dk_at dksX4_toldWord_1 17 rfl rfl)
theorem dX4_toldWord_41 : decode cX4_toldWord 41 = .ok (.invokevirtual 131, 3) := dk_182 0 131 (dk_at dksX4_toldWord_1 18 rfl rfl)
theorem dX4_toldWord_44 : decode cX4_toldWord 44 = .ok (.iadd, 1) := dk_96 (dk_at dksX4_toldWord_1 21 rfl rfl)
theorem dX4_toldWord_45 : decode cX4_toldWord 45 = .ok (.putfield 35, 3) := dk_181 0 35 (dk_at dksX4_toldWord_2 0 rfl rfl)
theorem dX4_toldWord_48 : decode cX4_toldWord 48 = .ok (.aload_n 1, 1) := dk_43 (dk_at dksX4_toldWord_2 3 rfl rfl)
theorem dX4_toldWord_49 : decode cX4_toldWord 49 = .ok (.areturn, 1) := dk_176 (dk_at dksX4_toldWord_2 4 rfl rfl)
abbrev cX4_nameOf : ByteArray := prog_7_method_13_code
def yX4_nameOf : MethodName := ⟨RX4, "nameOf", "(Ljava/lang/String;)I"⟩
def dkwX4_nameOf_2 : List UInt8 := [172]
abbrev dktX4_nameOf_2 : List UInt8 := dkwX4_nameOf_2 ++ []
def dkwX4_nameOf_1 : List UInt8 := [185, 0, 142, 2, 0, 192, 0, 132, 43, 182, 0, 146, 153, 0, 5, 28, 172, 132, 2, 1, 167, 255, 218, 2]
abbrev dktX4_nameOf_1 : List UInt8 := dkwX4_nameOf_1 ++ dktX4_nameOf_2
def dkwX4_nameOf_0 : List UInt8 := [3, 61, 28, 42, 180, 0, 18, 185, 0, 137, 1, 0, 162, 0, 31, 42, 180, 0, 18, 28]
abbrev dktX4_nameOf_0 : List UInt8 := dkwX4_nameOf_0 ++ dktX4_nameOf_1
theorem dksX4_nameOf_0 : cX4_nameOf.data.toList.drop 0 = dktX4_nameOf_0 := by decide +kernel
theorem dksX4_nameOf_1 : cX4_nameOf.data.toList.drop 20 = dktX4_nameOf_1 := dk_seg dksX4_nameOf_0 20 rfl rfl
theorem dksX4_nameOf_2 : cX4_nameOf.data.toList.drop 44 = dktX4_nameOf_2 := dk_seg dksX4_nameOf_1 24 rfl rfl
theorem dX4_nameOf_0 : decode cX4_nameOf 0 = .ok (.iconst 0, 1) := dk_3 (dk_at dksX4_nameOf_0 0 rfl rfl)
theorem dX4_nameOf_1 : decode cX4_nameOf 1 = .ok (.istore_n 2, 1) := dk_61 (dk_at dksX4_nameOf_0 1 rfl rfl)
theorem dX4_nameOf_2 : decode cX4_nameOf 2 = .ok (.iload_n 2, 1) := dk_28 (dk_at dksX4_nameOf_0 2 rfl rfl)
theorem dX4_nameOf_3 : decode cX4_nameOf 3 = .ok (.aload_n 0, 1) := dk_42 (dk_at dksX4_nameOf_0 3 rfl rfl)
theorem dX4_nameOf_4 : decode cX4_nameOf 4 = .ok (.getfield 18, 3) := dk_180 0 18 (dk_at dksX4_nameOf_0 4 rfl rfl)
theorem dX4_nameOf_7 : decode cX4_nameOf 7 = .ok (.invokeinterface 137 1, 5) := by decide +kernel
theorem dX4_nameOf_12 : decode cX4_nameOf 12 = .ok (.if_icmp .ge 31, 3) := dk_162 0 31 (dk_at dksX4_nameOf_0 12 rfl rfl)
theorem dX4_nameOf_15 : decode cX4_nameOf 15 = .ok (.aload_n 0, 1) := dk_42 (dk_at dksX4_nameOf_0 15 rfl rfl)
theorem dX4_nameOf_16 : decode cX4_nameOf 16 = .ok (.getfield 18, 3) := dk_180 0 18 (dk_at dksX4_nameOf_0 16 rfl rfl)
theorem dX4_nameOf_19 : decode cX4_nameOf 19 = .ok (.iload_n 2, 1) := dk_28 (dk_at dksX4_nameOf_0 19 rfl rfl)
theorem dX4_nameOf_20 : decode cX4_nameOf 20 = .ok (.invokeinterface 142 2, 5) := by decide +kernel
theorem dX4_nameOf_25 : decode cX4_nameOf 25 = .ok (.checkcast 132, 3) := dk_192 0 132 (dk_at dksX4_nameOf_1 5 rfl rfl)
theorem dX4_nameOf_28 : decode cX4_nameOf 28 = .ok (.aload_n 1, 1) := dk_43 (dk_at dksX4_nameOf_1 8 rfl rfl)
theorem dX4_nameOf_29 : decode cX4_nameOf 29 = .ok (.invokevirtual 146, 3) := dk_182 0 146 (dk_at dksX4_nameOf_1 9 rfl rfl)
theorem dX4_nameOf_32 : decode cX4_nameOf 32 = .ok (.ifCond .eq 5, 3) := dk_153 0 5 (dk_at dksX4_nameOf_1 12 rfl rfl)
theorem dX4_nameOf_35 : decode cX4_nameOf 35 = .ok (.iload_n 2, 1) := dk_28 (dk_at dksX4_nameOf_1 15 rfl rfl)
theorem dX4_nameOf_36 : decode cX4_nameOf 36 = .ok (.ireturn, 1) := dk_172 (dk_at dksX4_nameOf_1 16 rfl rfl)
theorem dX4_nameOf_37 : decode cX4_nameOf 37 = .ok (.iinc 2 1, 3) := dk_132 2 1 (dk_at dksX4_nameOf_1 17 rfl rfl)
theorem dX4_nameOf_40 : decode cX4_nameOf 40 = .ok (.goto (-38), 3) := dk_167 255 218 (dk_at dksX4_nameOf_1 20 rfl rfl)
theorem dX4_nameOf_43 : decode cX4_nameOf 43 = .ok (.iconst (-1), 1) := dk_2 (dk_at dksX4_nameOf_1 23 rfl rfl)
theorem dX4_nameOf_44 : decode cX4_nameOf 44 = .ok (.ireturn, 1) := dk_172 (dk_at dksX4_nameOf_2 0 rfl rfl)
abbrev cX4_library : ByteArray := prog_7_method_18_code
def yX4_library : MethodName := ⟨RX4, "library", "(I)V"⟩
def dkwX4_library_5 : List UInt8 := [182, 0, 180, 177]
abbrev dktX4_library_5 : List UInt8 := dkwX4_library_5 ++ []
def dkwX4_library_4 : List UInt8 := [185, 0, 165, 2, 0, 87, 42, 180, 0, 27, 42, 180, 0, 27, 180, 0, 150, 185, 0, 137, 1, 0, 4, 100]
abbrev dktX4_library_4 : List UInt8 := dkwX4_library_4 ++ dktX4_library_5
def dkwX4_library_3 : List UInt8 := [180, 0, 27, 180, 0, 150, 187, 0, 153, 89, 44, 29, 42, 18, 171, 182, 0, 173, 183, 0, 177]
abbrev dktX4_library_3 : List UInt8 := dkwX4_library_3 ++ dktX4_library_4
def dkwX4_library_2 : List UInt8 := [167, 0, 4, 3, 16, 251, 42, 180, 0, 86, 182, 0, 59, 42, 3, 17, 3, 231, 182, 0, 117, 62, 42]
abbrev dktX4_library_2 : List UInt8 := dkwX4_library_2 ++ dktX4_library_3
def dkwX4_library_1 : List UInt8 := [16, 250, 27, 182, 0, 59, 42, 182, 0, 158, 77, 42, 42, 44, 182, 0, 168, 2, 160, 0, 7, 4]
abbrev dktX4_library_1 : List UInt8 := dkwX4_library_1 ++ dktX4_library_2
def dkwX4_library_0 : List UInt8 := [42, 42, 180, 0, 27, 180, 0, 150, 185, 0, 137, 1, 0, 16, 8, 162, 0, 7, 4, 167, 0, 4, 3]
abbrev dktX4_library_0 : List UInt8 := dkwX4_library_0 ++ dktX4_library_1
theorem dksX4_library_0 : cX4_library.data.toList.drop 0 = dktX4_library_0 := by decide +kernel
theorem dksX4_library_1 : cX4_library.data.toList.drop 23 = dktX4_library_1 := dk_seg dksX4_library_0 23 rfl rfl
theorem dksX4_library_2 : cX4_library.data.toList.drop 45 = dktX4_library_2 := dk_seg dksX4_library_1 22 rfl rfl
theorem dksX4_library_3 : cX4_library.data.toList.drop 68 = dktX4_library_3 := dk_seg dksX4_library_2 23 rfl rfl
theorem dksX4_library_4 : cX4_library.data.toList.drop 89 = dktX4_library_4 := dk_seg dksX4_library_3 21 rfl rfl
theorem dksX4_library_5 : cX4_library.data.toList.drop 113 = dktX4_library_5 := dk_seg dksX4_library_4 24 rfl rfl
theorem dX4_library_0 : decode cX4_library 0 = .ok (.aload_n 0, 1) := dk_42 (dk_at dksX4_library_0 0 rfl rfl)
theorem dX4_library_1 : decode cX4_library 1 = .ok (.aload_n 0, 1) := dk_42 (dk_at dksX4_library_0 1 rfl rfl)
theorem dX4_library_2 : decode cX4_library 2 = .ok (.getfield 27, 3) := dk_180 0 27 (dk_at dksX4_library_0 2 rfl rfl)
theorem dX4_library_5 : decode cX4_library 5 = .ok (.getfield 150, 3) := dk_180 0 150 (dk_at dksX4_library_0 5 rfl rfl)
theorem dX4_library_8 : decode cX4_library 8 = .ok (.invokeinterface 137 1, 5) := by decide +kernel
theorem dX4_library_13 : decode cX4_library 13 = .ok (.bipush 8, 2) := dk_16 8 (dk_at dksX4_library_0 13 rfl rfl)
theorem dX4_library_15 : decode cX4_library 15 = .ok (.if_icmp .ge 7, 3) := dk_162 0 7 (dk_at dksX4_library_0 15 rfl rfl)
theorem dX4_library_18 : decode cX4_library 18 = .ok (.iconst 1, 1) := dk_4 (dk_at dksX4_library_0 18 rfl rfl)
theorem dX4_library_19 : decode cX4_library 19 = .ok (.goto 4, 3) := dk_167 0 4 (dk_at dksX4_library_0 19 rfl rfl)
theorem dX4_library_22 : decode cX4_library 22 = .ok (.iconst 0, 1) := dk_3 (dk_at dksX4_library_0 22 rfl rfl)
theorem dX4_library_23 : decode cX4_library 23 = .ok (.bipush (-6), 2) := dk_16 250 (dk_at dksX4_library_1 0 rfl rfl)
theorem dX4_library_25 : decode cX4_library 25 = .ok (.iload_n 1, 1) := dk_27 (dk_at dksX4_library_1 2 rfl rfl)
theorem dX4_library_26 : decode cX4_library 26 = .ok (.invokevirtual 59, 3) := dk_182 0 59 (dk_at dksX4_library_1 3 rfl rfl)
theorem dX4_library_29 : decode cX4_library 29 = .ok (.aload_n 0, 1) := dk_42 (dk_at dksX4_library_1 6 rfl rfl)
theorem dX4_library_30 : decode cX4_library 30 = .ok (.invokevirtual 158, 3) := dk_182 0 158 (dk_at dksX4_library_1 7 rfl rfl)
theorem dX4_library_33 : decode cX4_library 33 = .ok (.astore_n 2, 1) := dk_77 (dk_at dksX4_library_1 10 rfl rfl)
theorem dX4_library_34 : decode cX4_library 34 = .ok (.aload_n 0, 1) := dk_42 (dk_at dksX4_library_1 11 rfl rfl)
theorem dX4_library_35 : decode cX4_library 35 = .ok (.aload_n 0, 1) := dk_42 (dk_at dksX4_library_1 12 rfl rfl)
theorem dX4_library_36 : decode cX4_library 36 = .ok (.aload_n 2, 1) := dk_44 (dk_at dksX4_library_1 13 rfl rfl)
theorem dX4_library_37 : decode cX4_library 37 = .ok (.invokevirtual 168, 3) := dk_182 0 168 (dk_at dksX4_library_1 14 rfl rfl)
theorem dX4_library_40 : decode cX4_library 40 = .ok (.iconst (-1), 1) := dk_2 (dk_at dksX4_library_1 17 rfl rfl)
theorem dX4_library_41 : decode cX4_library 41 = .ok (.if_icmp .ne 7, 3) := dk_160 0 7 (dk_at dksX4_library_1 18 rfl rfl)
theorem dX4_library_44 : decode cX4_library 44 = .ok (.iconst 1, 1) := dk_4 (dk_at dksX4_library_1 21 rfl rfl)
theorem dX4_library_45 : decode cX4_library 45 = .ok (.goto 4, 3) := dk_167 0 4 (dk_at dksX4_library_2 0 rfl rfl)
theorem dX4_library_48 : decode cX4_library 48 = .ok (.iconst 0, 1) := dk_3 (dk_at dksX4_library_2 3 rfl rfl)
theorem dX4_library_49 : decode cX4_library 49 = .ok (.bipush (-5), 2) := dk_16 251 (dk_at dksX4_library_2 4 rfl rfl)
theorem dX4_library_51 : decode cX4_library 51 = .ok (.aload_n 0, 1) := dk_42 (dk_at dksX4_library_2 6 rfl rfl)
theorem dX4_library_52 : decode cX4_library 52 = .ok (.getfield 86, 3) := dk_180 0 86 (dk_at dksX4_library_2 7 rfl rfl)
theorem dX4_library_55 : decode cX4_library 55 = .ok (.invokevirtual 59, 3) := dk_182 0 59 (dk_at dksX4_library_2 10 rfl rfl)
theorem dX4_library_58 : decode cX4_library 58 = .ok (.aload_n 0, 1) := dk_42 (dk_at dksX4_library_2 13 rfl rfl)
theorem dX4_library_59 : decode cX4_library 59 = .ok (.iconst 0, 1) := dk_3 (dk_at dksX4_library_2 14 rfl rfl)
theorem dX4_library_60 : decode cX4_library 60 = .ok (.sipush 999, 3) := dk_17 3 231 (dk_at dksX4_library_2 15 rfl rfl)
theorem dX4_library_63 : decode cX4_library 63 = .ok (.invokevirtual 117, 3) := dk_182 0 117 (dk_at dksX4_library_2 18 rfl rfl)
theorem dX4_library_66 : decode cX4_library 66 = .ok (.istore_n 3, 1) := dk_62 (dk_at dksX4_library_2 21 rfl rfl)
theorem dX4_library_67 : decode cX4_library 67 = .ok (.aload_n 0, 1) := dk_42 (dk_at dksX4_library_2 22 rfl rfl)
theorem dX4_library_68 : decode cX4_library 68 = .ok (.getfield 27, 3) := dk_180 0 27 (dk_at dksX4_library_3 0 rfl rfl)
theorem dX4_library_71 : decode cX4_library 71 = .ok (.getfield 150, 3) := dk_180 0 150 (dk_at dksX4_library_3 3 rfl rfl)
theorem dX4_library_74 : decode cX4_library 74 = .ok (.new 153, 3) := dk_187 0 153 (dk_at dksX4_library_3 6 rfl rfl)
theorem dX4_library_77 : decode cX4_library 77 = .ok (.dup, 1) := dk_89 (dk_at dksX4_library_3 9 rfl rfl)
theorem dX4_library_78 : decode cX4_library 78 = .ok (.aload_n 2, 1) := dk_44 (dk_at dksX4_library_3 10 rfl rfl)
theorem dX4_library_79 : decode cX4_library 79 = .ok (.iload_n 3, 1) := dk_29 (dk_at dksX4_library_3 11 rfl rfl)
theorem dX4_library_80 : decode cX4_library 80 = .ok (.aload_n 0, 1) := dk_42 (dk_at dksX4_library_3 12 rfl rfl)
theorem dX4_library_81 : decode cX4_library 81 = .ok (.ldc 171, 2) := dk_18 171 (dk_at dksX4_library_3 13 rfl rfl)
theorem dX4_library_83 : decode cX4_library 83 = .ok (.invokevirtual 173, 3) := dk_182 0 173 (dk_at dksX4_library_3 15 rfl rfl)
theorem dX4_library_86 : decode cX4_library 86 = .ok (.invokespecial 177, 3) := dk_183 0 177 (dk_at dksX4_library_3 18 rfl rfl)
theorem dX4_library_89 : decode cX4_library 89 = .ok (.invokeinterface 165 2, 5) := by decide +kernel
theorem dX4_library_94 : decode cX4_library 94 = .ok (.pop, 1) := dk_87 (dk_at dksX4_library_4 5 rfl rfl)
theorem dX4_library_95 : decode cX4_library 95 = .ok (.aload_n 0, 1) := dk_42 (dk_at dksX4_library_4 6 rfl rfl)
theorem dX4_library_96 : decode cX4_library 96 = .ok (.getfield 27, 3) := dk_180 0 27 (dk_at dksX4_library_4 7 rfl rfl)
theorem dX4_library_99 : decode cX4_library 99 = .ok (.aload_n 0, 1) := dk_42 (dk_at dksX4_library_4 10 rfl rfl)
theorem dX4_library_100 : decode cX4_library 100 = .ok (.getfield 27, 3) := dk_180 0 27 (dk_at dksX4_library_4 11 rfl rfl)
theorem dX4_library_103 : decode cX4_library 103 = .ok (.getfield 150, 3) := dk_180 0 150 (dk_at dksX4_library_4 14 rfl rfl)
theorem dX4_library_106 : decode cX4_library 106 = .ok (.invokeinterface 137 1, 5) := by decide +kernel
theorem dX4_library_111 : decode cX4_library 111 = .ok (.iconst 1, 1) := dk_4 (dk_at dksX4_library_4 22 rfl rfl)
theorem dX4_library_112 : decode cX4_library 112 = .ok (.isub, 1) := dk_100 (dk_at dksX4_library_4 23 rfl rfl)
theorem dX4_library_113 : decode cX4_library 113 = .ok (.invokevirtual 180, 3) := dk_182 0 180 (dk_at dksX4_library_5 0 rfl rfl)
theorem dX4_library_116 : decode cX4_library 116 = .ok (.return_, 1) := dk_177 (dk_at dksX4_library_5 3 rfl rfl)
abbrev cX4_libraryOf : ByteArray := prog_7_method_14_code
def yX4_libraryOf : MethodName := ⟨RX4, "libraryOf", "(Ljava/lang/String;)I"⟩
def dkwX4_libraryOf_2 : List UInt8 := [132, 2, 1, 167, 255, 209, 2, 172]
abbrev dktX4_libraryOf_2 : List UInt8 := dkwX4_libraryOf_2 ++ []
def dkwX4_libraryOf_1 : List UInt8 := [180, 0, 150, 28, 185, 0, 142, 2, 0, 192, 0, 153, 180, 0, 155, 43, 182, 0, 146, 153, 0, 5, 28, 172]
abbrev dktX4_libraryOf_1 : List UInt8 := dkwX4_libraryOf_1 ++ dktX4_libraryOf_2
def dkwX4_libraryOf_0 : List UInt8 := [3, 61, 28, 42, 180, 0, 27, 180, 0, 150, 185, 0, 137, 1, 0, 162, 0, 37, 42, 180, 0, 27]
abbrev dktX4_libraryOf_0 : List UInt8 := dkwX4_libraryOf_0 ++ dktX4_libraryOf_1
theorem dksX4_libraryOf_0 : cX4_libraryOf.data.toList.drop 0 = dktX4_libraryOf_0 := by decide +kernel
theorem dksX4_libraryOf_1 : cX4_libraryOf.data.toList.drop 22 = dktX4_libraryOf_1 := dk_seg dksX4_libraryOf_0 22 rfl rfl
theorem dksX4_libraryOf_2 : cX4_libraryOf.data.toList.drop 46 = dktX4_libraryOf_2 := dk_seg dksX4_libraryOf_1 24 rfl rfl
theorem dX4_libraryOf_0 : decode cX4_libraryOf 0 = .ok (.iconst 0, 1) := dk_3 (dk_at dksX4_libraryOf_0 0 rfl rfl)
theorem dX4_libraryOf_1 : decode cX4_libraryOf 1 = .ok (.istore_n 2, 1) := dk_61 (dk_at dksX4_libraryOf_0 1 rfl rfl)
theorem dX4_libraryOf_2 : decode cX4_libraryOf 2 = .ok (.iload_n 2, 1) := dk_28 (dk_at dksX4_libraryOf_0 2 rfl rfl)
theorem dX4_libraryOf_3 : decode cX4_libraryOf 3 = .ok (.aload_n 0, 1) := dk_42 (dk_at dksX4_libraryOf_0 3 rfl rfl)
theorem dX4_libraryOf_4 : decode cX4_libraryOf 4 = .ok (.getfield 27, 3) := dk_180 0 27 (dk_at dksX4_libraryOf_0 4 rfl rfl)
theorem dX4_libraryOf_7 : decode cX4_libraryOf 7 = .ok (.getfield 150, 3) := dk_180 0 150 (dk_at dksX4_libraryOf_0 7 rfl rfl)
theorem dX4_libraryOf_10 : decode cX4_libraryOf 10 = .ok (.invokeinterface 137 1, 5) := by decide +kernel
theorem dX4_libraryOf_15 : decode cX4_libraryOf 15 = .ok (.if_icmp .ge 37, 3) := dk_162 0 37 (dk_at dksX4_libraryOf_0 15 rfl rfl)
theorem dX4_libraryOf_18 : decode cX4_libraryOf 18 = .ok (.aload_n 0, 1) := dk_42 (dk_at dksX4_libraryOf_0 18 rfl rfl)
theorem dX4_libraryOf_19 : decode cX4_libraryOf 19 = .ok (.getfield 27, 3) := dk_180 0 27 (dk_at dksX4_libraryOf_0 19 rfl rfl)
theorem dX4_libraryOf_22 : decode cX4_libraryOf 22 = .ok (.getfield 150, 3) := dk_180 0 150 (dk_at dksX4_libraryOf_1 0 rfl rfl)
theorem dX4_libraryOf_25 : decode cX4_libraryOf 25 = .ok (.iload_n 2, 1) := dk_28 (dk_at dksX4_libraryOf_1 3 rfl rfl)
theorem dX4_libraryOf_26 : decode cX4_libraryOf 26 = .ok (.invokeinterface 142 2, 5) := by decide +kernel
theorem dX4_libraryOf_31 : decode cX4_libraryOf 31 = .ok (.checkcast 153, 3) := dk_192 0 153 (dk_at dksX4_libraryOf_1 9 rfl rfl)
theorem dX4_libraryOf_34 : decode cX4_libraryOf 34 = .ok (.getfield 155, 3) := dk_180 0 155 (dk_at dksX4_libraryOf_1 12 rfl rfl)
theorem dX4_libraryOf_37 : decode cX4_libraryOf 37 = .ok (.aload_n 1, 1) := dk_43 (dk_at dksX4_libraryOf_1 15 rfl rfl)
theorem dX4_libraryOf_38 : decode cX4_libraryOf 38 = .ok (.invokevirtual 146, 3) := dk_182 0 146 (dk_at dksX4_libraryOf_1 16 rfl rfl)
theorem dX4_libraryOf_41 : decode cX4_libraryOf 41 = .ok (.ifCond .eq 5, 3) := dk_153 0 5 (dk_at dksX4_libraryOf_1 19 rfl rfl)
theorem dX4_libraryOf_44 : decode cX4_libraryOf 44 = .ok (.iload_n 2, 1) := dk_28 (dk_at dksX4_libraryOf_1 22 rfl rfl)
theorem dX4_libraryOf_45 : decode cX4_libraryOf 45 = .ok (.ireturn, 1) := dk_172 (dk_at dksX4_libraryOf_1 23 rfl rfl)
theorem dX4_libraryOf_46 : decode cX4_libraryOf 46 = .ok (.iinc 2 1, 3) := dk_132 2 1 (dk_at dksX4_libraryOf_2 0 rfl rfl)
theorem dX4_libraryOf_49 : decode cX4_libraryOf 49 = .ok (.goto (-47), 3) := dk_167 255 209 (dk_at dksX4_libraryOf_2 3 rfl rfl)
theorem dX4_libraryOf_52 : decode cX4_libraryOf 52 = .ok (.iconst (-1), 1) := dk_2 (dk_at dksX4_libraryOf_2 6 rfl rfl)
theorem dX4_libraryOf_53 : decode cX4_libraryOf 53 = .ok (.ireturn, 1) := dk_172 (dk_at dksX4_libraryOf_2 7 rfl rfl)
abbrev cX4_number : ByteArray := prog_7_method_8_code
def yX4_number : MethodName := ⟨RX4, "number", "(II)I"⟩
def dkwX4_number_5 : List UInt8 := [42, 180, 0, 86, 182, 0, 59, 21, 4, 172]
abbrev dktX4_number_5 : List UInt8 := dkwX4_number_5 ++ []
def dkwX4_number_4 : List UInt8 := [180, 0, 35, 4, 96, 181, 0, 35, 167, 255, 182, 42, 21, 4, 133, 27, 133, 28, 133, 184, 0, 46, 16, 253]
abbrev dktX4_number_4 : List UInt8 := dkwX4_number_4 ++ dktX4_number_5
def dkwX4_number_3 : List UInt8 := [42, 180, 0, 3, 180, 0, 38, 42, 180, 0, 35, 51, 96, 16, 48, 100, 184, 0, 90, 54, 4, 42, 89]
abbrev dktX4_number_3 : List UInt8 := dkwX4_number_3 ++ dktX4_number_4
def dkwX4_number_2 : List UInt8 := [180, 0, 35, 51, 133, 20, 0, 78, 20, 0, 80, 184, 0, 46, 153, 0, 44, 18, 89, 16, 10, 21, 4, 104]
abbrev dktX4_number_2 : List UInt8 := dkwX4_number_2 ++ dktX4_number_3
def dkwX4_number_1 : List UInt8 := [3, 54, 4, 42, 180, 0, 35, 42, 180, 0, 31, 162, 0, 69, 42, 180, 0, 3, 180, 0, 38, 42]
abbrev dktX4_number_1 : List UInt8 := dkwX4_number_1 ++ dktX4_number_2
def dkwX4_number_0 : List UInt8 := [42, 182, 0, 82, 62, 42, 29, 16, 254, 42, 180, 0, 35, 182, 0, 59, 42, 42, 180, 0, 35, 181, 0, 86]
abbrev dktX4_number_0 : List UInt8 := dkwX4_number_0 ++ dktX4_number_1
theorem dksX4_number_0 : cX4_number.data.toList.drop 0 = dktX4_number_0 := by decide +kernel
theorem dksX4_number_1 : cX4_number.data.toList.drop 24 = dktX4_number_1 := dk_seg dksX4_number_0 24 rfl rfl
theorem dksX4_number_2 : cX4_number.data.toList.drop 46 = dktX4_number_2 := dk_seg dksX4_number_1 22 rfl rfl
theorem dksX4_number_3 : cX4_number.data.toList.drop 70 = dktX4_number_3 := dk_seg dksX4_number_2 24 rfl rfl
theorem dksX4_number_4 : cX4_number.data.toList.drop 93 = dktX4_number_4 := dk_seg dksX4_number_3 23 rfl rfl
theorem dksX4_number_5 : cX4_number.data.toList.drop 117 = dktX4_number_5 := dk_seg dksX4_number_4 24 rfl rfl
theorem dX4_number_0 : decode cX4_number 0 = .ok (.aload_n 0, 1) := dk_42 (dk_at dksX4_number_0 0 rfl rfl)
theorem dX4_number_1 : decode cX4_number 1 = .ok (.invokevirtual 82, 3) := dk_182 0 82 (dk_at dksX4_number_0 1 rfl rfl)
theorem dX4_number_4 : decode cX4_number 4 = .ok (.istore_n 3, 1) := dk_62 (dk_at dksX4_number_0 4 rfl rfl)
theorem dX4_number_5 : decode cX4_number 5 = .ok (.aload_n 0, 1) := dk_42 (dk_at dksX4_number_0 5 rfl rfl)
theorem dX4_number_6 : decode cX4_number 6 = .ok (.iload_n 3, 1) := dk_29 (dk_at dksX4_number_0 6 rfl rfl)
theorem dX4_number_7 : decode cX4_number 7 = .ok (.bipush (-2), 2) := dk_16 254 (dk_at dksX4_number_0 7 rfl rfl)
theorem dX4_number_9 : decode cX4_number 9 = .ok (.aload_n 0, 1) := dk_42 (dk_at dksX4_number_0 9 rfl rfl)
theorem dX4_number_10 : decode cX4_number 10 = .ok (.getfield 35, 3) := dk_180 0 35 (dk_at dksX4_number_0 10 rfl rfl)
theorem dX4_number_13 : decode cX4_number 13 = .ok (.invokevirtual 59, 3) := dk_182 0 59 (dk_at dksX4_number_0 13 rfl rfl)
theorem dX4_number_16 : decode cX4_number 16 = .ok (.aload_n 0, 1) := dk_42 (dk_at dksX4_number_0 16 rfl rfl)
theorem dX4_number_17 : decode cX4_number 17 = .ok (.aload_n 0, 1) := dk_42 (dk_at dksX4_number_0 17 rfl rfl)
theorem dX4_number_18 : decode cX4_number 18 = .ok (.getfield 35, 3) := dk_180 0 35 (dk_at dksX4_number_0 18 rfl rfl)
theorem dX4_number_21 : decode cX4_number 21 = .ok (.putfield 86, 3) := dk_181 0 86 (dk_at dksX4_number_0 21 rfl rfl)
theorem dX4_number_24 : decode cX4_number 24 = .ok (.iconst 0, 1) := dk_3 (dk_at dksX4_number_1 0 rfl rfl)
theorem dX4_number_25 : decode cX4_number 25 = .ok (.istore 4, 2) := dk_54 4 (dk_at dksX4_number_1 1 rfl rfl)
theorem dX4_number_27 : decode cX4_number 27 = .ok (.aload_n 0, 1) := dk_42 (dk_at dksX4_number_1 3 rfl rfl)
theorem dX4_number_28 : decode cX4_number 28 = .ok (.getfield 35, 3) := dk_180 0 35 (dk_at dksX4_number_1 4 rfl rfl)
theorem dX4_number_31 : decode cX4_number 31 = .ok (.aload_n 0, 1) := dk_42 (dk_at dksX4_number_1 7 rfl rfl)
theorem dX4_number_32 : decode cX4_number 32 = .ok (.getfield 31, 3) := dk_180 0 31 (dk_at dksX4_number_1 8 rfl rfl)
theorem dX4_number_35 : decode cX4_number 35 = .ok (.if_icmp .ge 69, 3) := dk_162 0 69 (dk_at dksX4_number_1 11 rfl rfl)
theorem dX4_number_38 : decode cX4_number 38 = .ok (.aload_n 0, 1) := dk_42 (dk_at dksX4_number_1 14 rfl rfl)
theorem dX4_number_39 : decode cX4_number 39 = .ok (.getfield 3, 3) := dk_180 0 3 (dk_at dksX4_number_1 15 rfl rfl)
theorem dX4_number_42 : decode cX4_number 42 = .ok (.getfield 38, 3) := dk_180 0 38 (dk_at dksX4_number_1 18 rfl rfl)
theorem dX4_number_45 : decode cX4_number 45 = .ok (.aload_n 0, 1) := dk_42 (dk_at dksX4_number_1 21 rfl rfl)
theorem dX4_number_46 : decode cX4_number 46 = .ok (.getfield 35, 3) := dk_180 0 35 (dk_at dksX4_number_2 0 rfl rfl)
theorem dX4_number_49 : decode cX4_number 49 = .ok (.baload, 1) := dk_51 (dk_at dksX4_number_2 3 rfl rfl)
theorem dX4_number_50 : decode cX4_number 50 = .ok (.i2l, 1) := dk_133 (dk_at dksX4_number_2 4 rfl rfl)
theorem dX4_number_51 : decode cX4_number 51 = .ok (.ldc2_w 78, 3) := dk_20 0 78 (dk_at dksX4_number_2 5 rfl rfl)
theorem dX4_number_54 : decode cX4_number 54 = .ok (.ldc2_w 80, 3) := dk_20 0 80 (dk_at dksX4_number_2 8 rfl rfl)
theorem dX4_number_57 : decode cX4_number 57 = .ok (.invokestatic 46, 3) := dk_184 0 46 (dk_at dksX4_number_2 11 rfl rfl)
theorem dX4_number_60 : decode cX4_number 60 = .ok (.ifCond .eq 44, 3) := dk_153 0 44 (dk_at dksX4_number_2 14 rfl rfl)
theorem dX4_number_63 : decode cX4_number 63 = .ok (.ldc 89, 2) := dk_18 89 (dk_at dksX4_number_2 17 rfl rfl)
theorem dX4_number_65 : decode cX4_number 65 = .ok (.bipush 10, 2) := dk_16 10 (dk_at dksX4_number_2 19 rfl rfl)
theorem dX4_number_67 : decode cX4_number 67 = .ok (.iload 4, 2) := dk_21 4 (dk_at dksX4_number_2 21 rfl rfl)
theorem dX4_number_69 : decode cX4_number 69 = .ok (.imul, 1) := dk_104 (dk_at dksX4_number_2 23 rfl rfl)
theorem dX4_number_70 : decode cX4_number 70 = .ok (.aload_n 0, 1) := dk_42 (dk_at dksX4_number_3 0 rfl rfl)
theorem dX4_number_71 : decode cX4_number 71 = .ok (.getfield 3, 3) := dk_180 0 3 (dk_at dksX4_number_3 1 rfl rfl)
theorem dX4_number_74 : decode cX4_number 74 = .ok (.getfield 38, 3) := dk_180 0 38 (dk_at dksX4_number_3 4 rfl rfl)
theorem dX4_number_77 : decode cX4_number 77 = .ok (.aload_n 0, 1) := dk_42 (dk_at dksX4_number_3 7 rfl rfl)
theorem dX4_number_78 : decode cX4_number 78 = .ok (.getfield 35, 3) := dk_180 0 35 (dk_at dksX4_number_3 8 rfl rfl)
theorem dX4_number_81 : decode cX4_number 81 = .ok (.baload, 1) := dk_51 (dk_at dksX4_number_3 11 rfl rfl)
theorem dX4_number_82 : decode cX4_number 82 = .ok (.iadd, 1) := dk_96 (dk_at dksX4_number_3 12 rfl rfl)
theorem dX4_number_83 : decode cX4_number 83 = .ok (.bipush 48, 2) := dk_16 48 (dk_at dksX4_number_3 13 rfl rfl)
theorem dX4_number_85 : decode cX4_number 85 = .ok (.isub, 1) := dk_100 (dk_at dksX4_number_3 15 rfl rfl)
theorem dX4_number_86 : decode cX4_number 86 = .ok (.invokestatic 90, 3) := dk_184 0 90 (dk_at dksX4_number_3 16 rfl rfl)
theorem dX4_number_89 : decode cX4_number 89 = .ok (.istore 4, 2) := dk_54 4 (dk_at dksX4_number_3 19 rfl rfl)
theorem dX4_number_91 : decode cX4_number 91 = .ok (.aload_n 0, 1) := dk_42 (dk_at dksX4_number_3 21 rfl rfl)
theorem dX4_number_92 : decode cX4_number 92 = .ok (.dup, 1) := dk_89 (dk_at dksX4_number_3 22 rfl rfl)
theorem dX4_number_93 : decode cX4_number 93 = .ok (.getfield 35, 3) := dk_180 0 35 (dk_at dksX4_number_4 0 rfl rfl)
theorem dX4_number_96 : decode cX4_number 96 = .ok (.iconst 1, 1) := dk_4 (dk_at dksX4_number_4 3 rfl rfl)
theorem dX4_number_97 : decode cX4_number 97 = .ok (.iadd, 1) := dk_96 (dk_at dksX4_number_4 4 rfl rfl)
theorem dX4_number_98 : decode cX4_number 98 = .ok (.putfield 35, 3) := dk_181 0 35 (dk_at dksX4_number_4 5 rfl rfl)
theorem dX4_number_101 : decode cX4_number 101 = .ok (.goto (-74), 3) := dk_167 255 182 (dk_at dksX4_number_4 8 rfl rfl)
theorem dX4_number_104 : decode cX4_number 104 = .ok (.aload_n 0, 1) := dk_42 (dk_at dksX4_number_4 11 rfl rfl)
theorem dX4_number_105 : decode cX4_number 105 = .ok (.iload 4, 2) := dk_21 4 (dk_at dksX4_number_4 12 rfl rfl)
theorem dX4_number_107 : decode cX4_number 107 = .ok (.i2l, 1) := dk_133 (dk_at dksX4_number_4 14 rfl rfl)
theorem dX4_number_108 : decode cX4_number 108 = .ok (.iload_n 1, 1) := dk_27 (dk_at dksX4_number_4 15 rfl rfl)
theorem dX4_number_109 : decode cX4_number 109 = .ok (.i2l, 1) := dk_133 (dk_at dksX4_number_4 16 rfl rfl)
theorem dX4_number_110 : decode cX4_number 110 = .ok (.iload_n 2, 1) := dk_28 (dk_at dksX4_number_4 17 rfl rfl)
theorem dX4_number_111 : decode cX4_number 111 = .ok (.i2l, 1) := dk_133 (dk_at dksX4_number_4 18 rfl rfl)
theorem dX4_number_112 : decode cX4_number 112 = .ok (.invokestatic 46, 3) := dk_184 0 46 (dk_at dksX4_number_4 19 rfl rfl)
theorem dX4_number_115 : decode cX4_number 115 = .ok (.bipush (-3), 2) := dk_16 253 (dk_at dksX4_number_4 22 rfl rfl)
theorem dX4_number_117 : decode cX4_number 117 = .ok (.aload_n 0, 1) := dk_42 (dk_at dksX4_number_5 0 rfl rfl)
theorem dX4_number_118 : decode cX4_number 118 = .ok (.getfield 86, 3) := dk_180 0 86 (dk_at dksX4_number_5 1 rfl rfl)
theorem dX4_number_121 : decode cX4_number 121 = .ok (.invokevirtual 59, 3) := dk_182 0 59 (dk_at dksX4_number_5 4 rfl rfl)
theorem dX4_number_124 : decode cX4_number 124 = .ok (.iload 4, 2) := dk_21 4 (dk_at dksX4_number_5 7 rfl rfl)
theorem dX4_number_126 : decode cX4_number 126 = .ok (.ireturn, 1) := dk_172 (dk_at dksX4_number_5 9 rfl rfl)
abbrev cX4_isDigit : ByteArray := prog_7_method_7_code
def yX4_isDigit : MethodName := ⟨RX4, "isDigit", "()Z"⟩
def dkwX4_isDigit_0 : List UInt8 := [42, 182, 0, 55, 133, 20, 0, 78, 20, 0, 80, 184, 0, 46, 172]
abbrev dktX4_isDigit_0 : List UInt8 := dkwX4_isDigit_0 ++ []
theorem dksX4_isDigit_0 : cX4_isDigit.data.toList.drop 0 = dktX4_isDigit_0 := by decide +kernel
theorem dX4_isDigit_0 : decode cX4_isDigit 0 = .ok (.aload_n 0, 1) := dk_42 (dk_at dksX4_isDigit_0 0 rfl rfl)
theorem dX4_isDigit_1 : decode cX4_isDigit 1 = .ok (.invokevirtual 55, 3) := dk_182 0 55 (dk_at dksX4_isDigit_0 1 rfl rfl)
theorem dX4_isDigit_4 : decode cX4_isDigit 4 = .ok (.i2l, 1) := dk_133 (dk_at dksX4_isDigit_0 4 rfl rfl)
theorem dX4_isDigit_5 : decode cX4_isDigit 5 = .ok (.ldc2_w 78, 3) := dk_20 0 78 (dk_at dksX4_isDigit_0 5 rfl rfl)
theorem dX4_isDigit_8 : decode cX4_isDigit 8 = .ok (.ldc2_w 80, 3) := dk_20 0 80 (dk_at dksX4_isDigit_0 8 rfl rfl)
theorem dX4_isDigit_11 : decode cX4_isDigit 11 = .ok (.invokestatic 46, 3) := dk_184 0 46 (dk_at dksX4_isDigit_0 11 rfl rfl)
theorem dX4_isDigit_14 : decode cX4_isDigit 14 = .ok (.ireturn, 1) := dk_172 (dk_at dksX4_isDigit_0 14 rfl rfl)
abbrev cX4_accept : ByteArray := prog_7_method_16_code
def yX4_accept : MethodName := ⟨RX4, "accept", "(Ljava/lang/String;)Z"⟩
def dkwX4_accept_1 : List UInt8 := [181, 0, 35, 28, 172]
abbrev dktX4_accept_1 : List UInt8 := dkwX4_accept_1 ++ []
def dkwX4_accept_0 : List UInt8 := [42, 182, 0, 124, 43, 182, 0, 146, 61, 28, 153, 0, 16, 42, 89, 180, 0, 35, 43, 182, 0, 131, 96]
abbrev dktX4_accept_0 : List UInt8 := dkwX4_accept_0 ++ dktX4_accept_1
theorem dksX4_accept_0 : cX4_accept.data.toList.drop 0 = dktX4_accept_0 := by decide +kernel
theorem dksX4_accept_1 : cX4_accept.data.toList.drop 23 = dktX4_accept_1 := dk_seg dksX4_accept_0 23 rfl rfl
theorem dX4_accept_0 : decode cX4_accept 0 = .ok (.aload_n 0, 1) := dk_42 (dk_at dksX4_accept_0 0 rfl rfl)
theorem dX4_accept_1 : decode cX4_accept 1 = .ok (.invokevirtual 124, 3) := dk_182 0 124 (dk_at dksX4_accept_0 1 rfl rfl)
theorem dX4_accept_4 : decode cX4_accept 4 = .ok (.aload_n 1, 1) := dk_43 (dk_at dksX4_accept_0 4 rfl rfl)
theorem dX4_accept_5 : decode cX4_accept 5 = .ok (.invokevirtual 146, 3) := dk_182 0 146 (dk_at dksX4_accept_0 5 rfl rfl)
theorem dX4_accept_8 : decode cX4_accept 8 = .ok (.istore_n 2, 1) := dk_61 (dk_at dksX4_accept_0 8 rfl rfl)
theorem dX4_accept_9 : decode cX4_accept 9 = .ok (.iload_n 2, 1) := dk_28 (dk_at dksX4_accept_0 9 rfl rfl)
theorem dX4_accept_10 : decode cX4_accept 10 = .ok (.ifCond .eq 16, 3) := dk_153 0 16 (dk_at dksX4_accept_0 10 rfl rfl)
theorem dX4_accept_13 : decode cX4_accept 13 = .ok (.aload_n 0, 1) := dk_42 (dk_at dksX4_accept_0 13 rfl rfl)
theorem dX4_accept_14 : decode cX4_accept 14 = .ok (.dup, 1) := dk_89 (dk_at dksX4_accept_0 14 rfl rfl)
theorem dX4_accept_15 : decode cX4_accept 15 = .ok (.getfield 35, 3) := dk_180 0 35 (dk_at dksX4_accept_0 15 rfl rfl)
theorem dX4_accept_18 : decode cX4_accept 18 = .ok (.aload_n 1, 1) := dk_43 (dk_at dksX4_accept_0 18 rfl rfl)
theorem dX4_accept_19 : decode cX4_accept 19 = .ok (.invokevirtual 131, 3) := dk_182 0 131 (dk_at dksX4_accept_0 19 rfl rfl)
theorem dX4_accept_22 : decode cX4_accept 22 = .ok (.iadd, 1) := dk_96 (dk_at dksX4_accept_0 22 rfl rfl)
theorem dX4_accept_23 : decode cX4_accept 23 = .ok (.putfield 35, 3) := dk_181 0 35 (dk_at dksX4_accept_1 0 rfl rfl)
theorem dX4_accept_26 : decode cX4_accept 26 = .ok (.iload_n 2, 1) := dk_28 (dk_at dksX4_accept_1 3 rfl rfl)
theorem dX4_accept_27 : decode cX4_accept 27 = .ok (.ireturn, 1) := dk_172 (dk_at dksX4_accept_1 4 rfl rfl)
abbrev cX4_offer : ByteArray := prog_7_method_19_code
def yX4_offer : MethodName := ⟨RX4, "offer", "()V"⟩
def dkwX4_offer_5 : List UInt8 := [182, 0, 183, 100, 182, 0, 190, 177]
abbrev dktX4_offer_5 : List UInt8 := dkwX4_offer_5 ++ []
def dkwX4_offer_4 : List UInt8 := [180, 0, 35, 182, 0, 59, 42, 180, 0, 27, 27, 28, 16, 254, 42, 42, 42, 182, 0, 158, 182, 0, 161]
abbrev dktX4_offer_4 : List UInt8 := dkwX4_offer_4 ++ dktX4_offer_5
def dkwX4_offer_3 : List UInt8 := [17, 39, 15, 182, 0, 117, 182, 0, 190, 177, 42, 18, 194, 182, 0, 173, 62, 42, 29, 16, 254, 42]
abbrev dktX4_offer_3 : List UInt8 := dkwX4_offer_3 ++ dktX4_offer_4
def dkwX4_offer_2 : List UInt8 := [16, 251, 42, 180, 0, 86, 182, 0, 59, 42, 182, 0, 82, 153, 0, 21, 42, 180, 0, 27, 27, 28, 42, 3]
abbrev dktX4_offer_2 : List UInt8 := dkwX4_offer_2 ++ dktX4_offer_3
def dkwX4_offer_1 : List UInt8 := [182, 0, 183, 61, 42, 42, 180, 0, 27, 27, 28, 182, 0, 187, 2, 160, 0, 7, 4, 167, 0, 4, 3]
abbrev dktX4_offer_1 : List UInt8 := dkwX4_offer_1 ++ dktX4_offer_2
def dkwX4_offer_0 : List UInt8 := [42, 42, 42, 182, 0, 158, 182, 0, 168, 182, 0, 183, 60, 42, 42, 42, 182, 0, 158, 182, 0, 161]
abbrev dktX4_offer_0 : List UInt8 := dkwX4_offer_0 ++ dktX4_offer_1
theorem dksX4_offer_0 : cX4_offer.data.toList.drop 0 = dktX4_offer_0 := by decide +kernel
theorem dksX4_offer_1 : cX4_offer.data.toList.drop 22 = dktX4_offer_1 := dk_seg dksX4_offer_0 22 rfl rfl
theorem dksX4_offer_2 : cX4_offer.data.toList.drop 45 = dktX4_offer_2 := dk_seg dksX4_offer_1 23 rfl rfl
theorem dksX4_offer_3 : cX4_offer.data.toList.drop 69 = dktX4_offer_3 := dk_seg dksX4_offer_2 24 rfl rfl
theorem dksX4_offer_4 : cX4_offer.data.toList.drop 91 = dktX4_offer_4 := dk_seg dksX4_offer_3 22 rfl rfl
theorem dksX4_offer_5 : cX4_offer.data.toList.drop 114 = dktX4_offer_5 := dk_seg dksX4_offer_4 23 rfl rfl
theorem dX4_offer_0 : decode cX4_offer 0 = .ok (.aload_n 0, 1) := dk_42 (dk_at dksX4_offer_0 0 rfl rfl)
theorem dX4_offer_1 : decode cX4_offer 1 = .ok (.aload_n 0, 1) := dk_42 (dk_at dksX4_offer_0 1 rfl rfl)
theorem dX4_offer_2 : decode cX4_offer 2 = .ok (.aload_n 0, 1) := dk_42 (dk_at dksX4_offer_0 2 rfl rfl)
theorem dX4_offer_3 : decode cX4_offer 3 = .ok (.invokevirtual 158, 3) := dk_182 0 158 (dk_at dksX4_offer_0 3 rfl rfl)
theorem dX4_offer_6 : decode cX4_offer 6 = .ok (.invokevirtual 168, 3) := dk_182 0 168 (dk_at dksX4_offer_0 6 rfl rfl)
theorem dX4_offer_9 : decode cX4_offer 9 = .ok (.invokevirtual 183, 3) := dk_182 0 183 (dk_at dksX4_offer_0 9 rfl rfl)
theorem dX4_offer_12 : decode cX4_offer 12 = .ok (.istore_n 1, 1) := dk_60 (dk_at dksX4_offer_0 12 rfl rfl)
theorem dX4_offer_13 : decode cX4_offer 13 = .ok (.aload_n 0, 1) := dk_42 (dk_at dksX4_offer_0 13 rfl rfl)
theorem dX4_offer_14 : decode cX4_offer 14 = .ok (.aload_n 0, 1) := dk_42 (dk_at dksX4_offer_0 14 rfl rfl)
theorem dX4_offer_15 : decode cX4_offer 15 = .ok (.aload_n 0, 1) := dk_42 (dk_at dksX4_offer_0 15 rfl rfl)
theorem dX4_offer_16 : decode cX4_offer 16 = .ok (.invokevirtual 158, 3) := dk_182 0 158 (dk_at dksX4_offer_0 16 rfl rfl)
theorem dX4_offer_19 : decode cX4_offer 19 = .ok (.invokevirtual 161, 3) := dk_182 0 161 (dk_at dksX4_offer_0 19 rfl rfl)
theorem dX4_offer_22 : decode cX4_offer 22 = .ok (.invokevirtual 183, 3) := dk_182 0 183 (dk_at dksX4_offer_1 0 rfl rfl)
theorem dX4_offer_25 : decode cX4_offer 25 = .ok (.istore_n 2, 1) := dk_61 (dk_at dksX4_offer_1 3 rfl rfl)
theorem dX4_offer_26 : decode cX4_offer 26 = .ok (.aload_n 0, 1) := dk_42 (dk_at dksX4_offer_1 4 rfl rfl)
theorem dX4_offer_27 : decode cX4_offer 27 = .ok (.aload_n 0, 1) := dk_42 (dk_at dksX4_offer_1 5 rfl rfl)
theorem dX4_offer_28 : decode cX4_offer 28 = .ok (.getfield 27, 3) := dk_180 0 27 (dk_at dksX4_offer_1 6 rfl rfl)
theorem dX4_offer_31 : decode cX4_offer 31 = .ok (.iload_n 1, 1) := dk_27 (dk_at dksX4_offer_1 9 rfl rfl)
theorem dX4_offer_32 : decode cX4_offer 32 = .ok (.iload_n 2, 1) := dk_28 (dk_at dksX4_offer_1 10 rfl rfl)
theorem dX4_offer_33 : decode cX4_offer 33 = .ok (.invokevirtual 187, 3) := dk_182 0 187 (dk_at dksX4_offer_1 11 rfl rfl)
theorem dX4_offer_36 : decode cX4_offer 36 = .ok (.iconst (-1), 1) := dk_2 (dk_at dksX4_offer_1 14 rfl rfl)
theorem dX4_offer_37 : decode cX4_offer 37 = .ok (.if_icmp .ne 7, 3) := dk_160 0 7 (dk_at dksX4_offer_1 15 rfl rfl)
theorem dX4_offer_40 : decode cX4_offer 40 = .ok (.iconst 1, 1) := dk_4 (dk_at dksX4_offer_1 18 rfl rfl)
theorem dX4_offer_41 : decode cX4_offer 41 = .ok (.goto 4, 3) := dk_167 0 4 (dk_at dksX4_offer_1 19 rfl rfl)
theorem dX4_offer_44 : decode cX4_offer 44 = .ok (.iconst 0, 1) := dk_3 (dk_at dksX4_offer_1 22 rfl rfl)
theorem dX4_offer_45 : decode cX4_offer 45 = .ok (.bipush (-5), 2) := dk_16 251 (dk_at dksX4_offer_2 0 rfl rfl)
theorem dX4_offer_47 : decode cX4_offer 47 = .ok (.aload_n 0, 1) := dk_42 (dk_at dksX4_offer_2 2 rfl rfl)
theorem dX4_offer_48 : decode cX4_offer 48 = .ok (.getfield 86, 3) := dk_180 0 86 (dk_at dksX4_offer_2 3 rfl rfl)
theorem dX4_offer_51 : decode cX4_offer 51 = .ok (.invokevirtual 59, 3) := dk_182 0 59 (dk_at dksX4_offer_2 6 rfl rfl)
theorem dX4_offer_54 : decode cX4_offer 54 = .ok (.aload_n 0, 1) := dk_42 (dk_at dksX4_offer_2 9 rfl rfl)
theorem dX4_offer_55 : decode cX4_offer 55 = .ok (.invokevirtual 82, 3) := dk_182 0 82 (dk_at dksX4_offer_2 10 rfl rfl)
theorem dX4_offer_58 : decode cX4_offer 58 = .ok (.ifCond .eq 21, 3) := dk_153 0 21 (dk_at dksX4_offer_2 13 rfl rfl)
theorem dX4_offer_61 : decode cX4_offer 61 = .ok (.aload_n 0, 1) := dk_42 (dk_at dksX4_offer_2 16 rfl rfl)
theorem dX4_offer_62 : decode cX4_offer 62 = .ok (.getfield 27, 3) := dk_180 0 27 (dk_at dksX4_offer_2 17 rfl rfl)
theorem dX4_offer_65 : decode cX4_offer 65 = .ok (.iload_n 1, 1) := dk_27 (dk_at dksX4_offer_2 20 rfl rfl)
theorem dX4_offer_66 : decode cX4_offer 66 = .ok (.iload_n 2, 1) := dk_28 (dk_at dksX4_offer_2 21 rfl rfl)
theorem dX4_offer_67 : decode cX4_offer 67 = .ok (.aload_n 0, 1) := dk_42 (dk_at dksX4_offer_2 22 rfl rfl)
theorem dX4_offer_68 : decode cX4_offer 68 = .ok (.iconst 0, 1) := dk_3 (dk_at dksX4_offer_2 23 rfl rfl)
theorem dX4_offer_69 : decode cX4_offer 69 = .ok (.sipush 9999, 3) := dk_17 39 15 (dk_at dksX4_offer_3 0 rfl rfl)
theorem dX4_offer_72 : decode cX4_offer 72 = .ok (.invokevirtual 117, 3) := dk_182 0 117 (dk_at dksX4_offer_3 3 rfl rfl)
theorem dX4_offer_75 : decode cX4_offer 75 = .ok (.invokevirtual 190, 3) := dk_182 0 190 (dk_at dksX4_offer_3 6 rfl rfl)
theorem dX4_offer_78 : decode cX4_offer 78 = .ok (.return_, 1) := dk_177 (dk_at dksX4_offer_3 9 rfl rfl)
theorem dX4_offer_79 : decode cX4_offer 79 = .ok (.aload_n 0, 1) := dk_42 (dk_at dksX4_offer_3 10 rfl rfl)
theorem dX4_offer_80 : decode cX4_offer 80 = .ok (.ldc 194, 2) := dk_18 194 (dk_at dksX4_offer_3 11 rfl rfl)
theorem dX4_offer_82 : decode cX4_offer 82 = .ok (.invokevirtual 173, 3) := dk_182 0 173 (dk_at dksX4_offer_3 13 rfl rfl)
theorem dX4_offer_85 : decode cX4_offer 85 = .ok (.istore_n 3, 1) := dk_62 (dk_at dksX4_offer_3 16 rfl rfl)
theorem dX4_offer_86 : decode cX4_offer 86 = .ok (.aload_n 0, 1) := dk_42 (dk_at dksX4_offer_3 17 rfl rfl)
theorem dX4_offer_87 : decode cX4_offer 87 = .ok (.iload_n 3, 1) := dk_29 (dk_at dksX4_offer_3 18 rfl rfl)
theorem dX4_offer_88 : decode cX4_offer 88 = .ok (.bipush (-2), 2) := dk_16 254 (dk_at dksX4_offer_3 19 rfl rfl)
theorem dX4_offer_90 : decode cX4_offer 90 = .ok (.aload_n 0, 1) := dk_42 (dk_at dksX4_offer_3 21 rfl rfl)
theorem dX4_offer_91 : decode cX4_offer 91 = .ok (.getfield 35, 3) := dk_180 0 35 (dk_at dksX4_offer_4 0 rfl rfl)
theorem dX4_offer_94 : decode cX4_offer 94 = .ok (.invokevirtual 59, 3) := dk_182 0 59 (dk_at dksX4_offer_4 3 rfl rfl)
theorem dX4_offer_97 : decode cX4_offer 97 = .ok (.aload_n 0, 1) := dk_42 (dk_at dksX4_offer_4 6 rfl rfl)
theorem dX4_offer_98 : decode cX4_offer 98 = .ok (.getfield 27, 3) := dk_180 0 27 (dk_at dksX4_offer_4 7 rfl rfl)
theorem dX4_offer_101 : decode cX4_offer 101 = .ok (.iload_n 1, 1) := dk_27 (dk_at dksX4_offer_4 10 rfl rfl)
theorem dX4_offer_102 : decode cX4_offer 102 = .ok (.iload_n 2, 1) := dk_28 (dk_at dksX4_offer_4 11 rfl rfl)
theorem dX4_offer_103 : decode cX4_offer 103 = .ok (.bipush (-2), 2) := dk_16 254 (dk_at dksX4_offer_4 12 rfl rfl)
theorem dX4_offer_105 : decode cX4_offer 105 = .ok (.aload_n 0, 1) := dk_42 (dk_at dksX4_offer_4 14 rfl rfl)
theorem dX4_offer_106 : decode cX4_offer 106 = .ok (.aload_n 0, 1) := dk_42 (dk_at dksX4_offer_4 15 rfl rfl)
theorem dX4_offer_107 : decode cX4_offer 107 = .ok (.aload_n 0, 1) := dk_42 (dk_at dksX4_offer_4 16 rfl rfl)
theorem dX4_offer_108 : decode cX4_offer 108 = .ok (.invokevirtual 158, 3) := dk_182 0 158 (dk_at dksX4_offer_4 17 rfl rfl)
theorem dX4_offer_111 : decode cX4_offer 111 = .ok (.invokevirtual 161, 3) := dk_182 0 161 (dk_at dksX4_offer_4 20 rfl rfl)
theorem dX4_offer_114 : decode cX4_offer 114 = .ok (.invokevirtual 183, 3) := dk_182 0 183 (dk_at dksX4_offer_5 0 rfl rfl)
theorem dX4_offer_117 : decode cX4_offer 117 = .ok (.isub, 1) := dk_100 (dk_at dksX4_offer_5 3 rfl rfl)
theorem dX4_offer_118 : decode cX4_offer 118 = .ok (.invokevirtual 190, 3) := dk_182 0 190 (dk_at dksX4_offer_5 4 rfl rfl)
theorem dX4_offer_121 : decode cX4_offer 121 = .ok (.return_, 1) := dk_177 (dk_at dksX4_offer_5 7 rfl rfl)
abbrev cX4_known : ByteArray := prog_7_method_15_code
def yX4_known : MethodName := ⟨RX4, "known", "(I)I"⟩
def dkwX4_known_0 : List UInt8 := [42, 27, 2, 159, 0, 7, 4, 167, 0, 4, 3, 16, 252, 42, 180, 0, 86, 182, 0, 59, 27, 172]
abbrev dktX4_known_0 : List UInt8 := dkwX4_known_0 ++ []
theorem dksX4_known_0 : cX4_known.data.toList.drop 0 = dktX4_known_0 := by decide +kernel
theorem dX4_known_0 : decode cX4_known 0 = .ok (.aload_n 0, 1) := dk_42 (dk_at dksX4_known_0 0 rfl rfl)
theorem dX4_known_1 : decode cX4_known 1 = .ok (.iload_n 1, 1) := dk_27 (dk_at dksX4_known_0 1 rfl rfl)
theorem dX4_known_2 : decode cX4_known 2 = .ok (.iconst (-1), 1) := dk_2 (dk_at dksX4_known_0 2 rfl rfl)
theorem dX4_known_3 : decode cX4_known 3 = .ok (.if_icmp .eq 7, 3) := dk_159 0 7 (dk_at dksX4_known_0 3 rfl rfl)
theorem dX4_known_6 : decode cX4_known 6 = .ok (.iconst 1, 1) := dk_4 (dk_at dksX4_known_0 6 rfl rfl)
theorem dX4_known_7 : decode cX4_known 7 = .ok (.goto 4, 3) := dk_167 0 4 (dk_at dksX4_known_0 7 rfl rfl)
theorem dX4_known_10 : decode cX4_known 10 = .ok (.iconst 0, 1) := dk_3 (dk_at dksX4_known_0 10 rfl rfl)
theorem dX4_known_11 : decode cX4_known 11 = .ok (.bipush (-4), 2) := dk_16 252 (dk_at dksX4_known_0 11 rfl rfl)
theorem dX4_known_13 : decode cX4_known 13 = .ok (.aload_n 0, 1) := dk_42 (dk_at dksX4_known_0 13 rfl rfl)
theorem dX4_known_14 : decode cX4_known 14 = .ok (.getfield 86, 3) := dk_180 0 86 (dk_at dksX4_known_0 14 rfl rfl)
theorem dX4_known_17 : decode cX4_known 17 = .ok (.invokevirtual 59, 3) := dk_182 0 59 (dk_at dksX4_known_0 17 rfl rfl)
theorem dX4_known_20 : decode cX4_known 20 = .ok (.iload_n 1, 1) := dk_27 (dk_at dksX4_known_0 20 rfl rfl)
theorem dX4_known_21 : decode cX4_known 21 = .ok (.ireturn, 1) := dk_172 (dk_at dksX4_known_0 21 rfl rfl)
abbrev cX4_prefer : ByteArray := prog_7_method_20_code
def yX4_prefer : MethodName := ⟨RX4, "prefer", "()V"⟩
def dkwX4_prefer_3 : List UInt8 := [185, 0, 142, 2, 0, 192, 0, 153, 180, 0, 200, 28, 184, 0, 203, 185, 0, 165, 2, 0, 87, 177]
abbrev dktX4_prefer_3 : List UInt8 := dkwX4_prefer_3 ++ []
def dkwX4_prefer_2 : List UInt8 := [167, 0, 4, 3, 16, 251, 42, 180, 0, 86, 182, 0, 59, 42, 180, 0, 27, 180, 0, 150, 27]
abbrev dktX4_prefer_2 : List UInt8 := dkwX4_prefer_2 ++ dktX4_prefer_3
def dkwX4_prefer_1 : List UInt8 := [182, 0, 183, 61, 42, 28, 27, 159, 0, 19, 42, 180, 0, 27, 27, 28, 182, 0, 196, 154, 0, 7, 4]
abbrev dktX4_prefer_1 : List UInt8 := dkwX4_prefer_1 ++ dktX4_prefer_2
def dkwX4_prefer_0 : List UInt8 := [42, 42, 42, 182, 0, 158, 182, 0, 168, 182, 0, 183, 60, 42, 42, 42, 182, 0, 158, 182, 0, 168]
abbrev dktX4_prefer_0 : List UInt8 := dkwX4_prefer_0 ++ dktX4_prefer_1
theorem dksX4_prefer_0 : cX4_prefer.data.toList.drop 0 = dktX4_prefer_0 := by decide +kernel
theorem dksX4_prefer_1 : cX4_prefer.data.toList.drop 22 = dktX4_prefer_1 := dk_seg dksX4_prefer_0 22 rfl rfl
theorem dksX4_prefer_2 : cX4_prefer.data.toList.drop 45 = dktX4_prefer_2 := dk_seg dksX4_prefer_1 23 rfl rfl
theorem dksX4_prefer_3 : cX4_prefer.data.toList.drop 66 = dktX4_prefer_3 := dk_seg dksX4_prefer_2 21 rfl rfl
theorem dX4_prefer_0 : decode cX4_prefer 0 = .ok (.aload_n 0, 1) := dk_42 (dk_at dksX4_prefer_0 0 rfl rfl)
theorem dX4_prefer_1 : decode cX4_prefer 1 = .ok (.aload_n 0, 1) := dk_42 (dk_at dksX4_prefer_0 1 rfl rfl)
theorem dX4_prefer_2 : decode cX4_prefer 2 = .ok (.aload_n 0, 1) := dk_42 (dk_at dksX4_prefer_0 2 rfl rfl)
theorem dX4_prefer_3 : decode cX4_prefer 3 = .ok (.invokevirtual 158, 3) := dk_182 0 158 (dk_at dksX4_prefer_0 3 rfl rfl)
theorem dX4_prefer_6 : decode cX4_prefer 6 = .ok (.invokevirtual 168, 3) := dk_182 0 168 (dk_at dksX4_prefer_0 6 rfl rfl)
theorem dX4_prefer_9 : decode cX4_prefer 9 = .ok (.invokevirtual 183, 3) := dk_182 0 183 (dk_at dksX4_prefer_0 9 rfl rfl)
theorem dX4_prefer_12 : decode cX4_prefer 12 = .ok (.istore_n 1, 1) := dk_60 (dk_at dksX4_prefer_0 12 rfl rfl)
theorem dX4_prefer_13 : decode cX4_prefer 13 = .ok (.aload_n 0, 1) := dk_42 (dk_at dksX4_prefer_0 13 rfl rfl)
theorem dX4_prefer_14 : decode cX4_prefer 14 = .ok (.aload_n 0, 1) := dk_42 (dk_at dksX4_prefer_0 14 rfl rfl)
theorem dX4_prefer_15 : decode cX4_prefer 15 = .ok (.aload_n 0, 1) := dk_42 (dk_at dksX4_prefer_0 15 rfl rfl)
theorem dX4_prefer_16 : decode cX4_prefer 16 = .ok (.invokevirtual 158, 3) := dk_182 0 158 (dk_at dksX4_prefer_0 16 rfl rfl)
theorem dX4_prefer_19 : decode cX4_prefer 19 = .ok (.invokevirtual 168, 3) := dk_182 0 168 (dk_at dksX4_prefer_0 19 rfl rfl)
theorem dX4_prefer_22 : decode cX4_prefer 22 = .ok (.invokevirtual 183, 3) := dk_182 0 183 (dk_at dksX4_prefer_1 0 rfl rfl)
theorem dX4_prefer_25 : decode cX4_prefer 25 = .ok (.istore_n 2, 1) := dk_61 (dk_at dksX4_prefer_1 3 rfl rfl)
theorem dX4_prefer_26 : decode cX4_prefer 26 = .ok (.aload_n 0, 1) := dk_42 (dk_at dksX4_prefer_1 4 rfl rfl)
theorem dX4_prefer_27 : decode cX4_prefer 27 = .ok (.iload_n 2, 1) := dk_28 (dk_at dksX4_prefer_1 5 rfl rfl)
theorem dX4_prefer_28 : decode cX4_prefer 28 = .ok (.iload_n 1, 1) := dk_27 (dk_at dksX4_prefer_1 6 rfl rfl)
theorem dX4_prefer_29 : decode cX4_prefer 29 = .ok (.if_icmp .eq 19, 3) := dk_159 0 19 (dk_at dksX4_prefer_1 7 rfl rfl)
theorem dX4_prefer_32 : decode cX4_prefer 32 = .ok (.aload_n 0, 1) := dk_42 (dk_at dksX4_prefer_1 10 rfl rfl)
theorem dX4_prefer_33 : decode cX4_prefer 33 = .ok (.getfield 27, 3) := dk_180 0 27 (dk_at dksX4_prefer_1 11 rfl rfl)
theorem dX4_prefer_36 : decode cX4_prefer 36 = .ok (.iload_n 1, 1) := dk_27 (dk_at dksX4_prefer_1 14 rfl rfl)
theorem dX4_prefer_37 : decode cX4_prefer 37 = .ok (.iload_n 2, 1) := dk_28 (dk_at dksX4_prefer_1 15 rfl rfl)
theorem dX4_prefer_38 : decode cX4_prefer 38 = .ok (.invokevirtual 196, 3) := dk_182 0 196 (dk_at dksX4_prefer_1 16 rfl rfl)
theorem dX4_prefer_41 : decode cX4_prefer 41 = .ok (.ifCond .ne 7, 3) := dk_154 0 7 (dk_at dksX4_prefer_1 19 rfl rfl)
theorem dX4_prefer_44 : decode cX4_prefer 44 = .ok (.iconst 1, 1) := dk_4 (dk_at dksX4_prefer_1 22 rfl rfl)
theorem dX4_prefer_45 : decode cX4_prefer 45 = .ok (.goto 4, 3) := dk_167 0 4 (dk_at dksX4_prefer_2 0 rfl rfl)
theorem dX4_prefer_48 : decode cX4_prefer 48 = .ok (.iconst 0, 1) := dk_3 (dk_at dksX4_prefer_2 3 rfl rfl)
theorem dX4_prefer_49 : decode cX4_prefer 49 = .ok (.bipush (-5), 2) := dk_16 251 (dk_at dksX4_prefer_2 4 rfl rfl)
theorem dX4_prefer_51 : decode cX4_prefer 51 = .ok (.aload_n 0, 1) := dk_42 (dk_at dksX4_prefer_2 6 rfl rfl)
theorem dX4_prefer_52 : decode cX4_prefer 52 = .ok (.getfield 86, 3) := dk_180 0 86 (dk_at dksX4_prefer_2 7 rfl rfl)
theorem dX4_prefer_55 : decode cX4_prefer 55 = .ok (.invokevirtual 59, 3) := dk_182 0 59 (dk_at dksX4_prefer_2 10 rfl rfl)
theorem dX4_prefer_58 : decode cX4_prefer 58 = .ok (.aload_n 0, 1) := dk_42 (dk_at dksX4_prefer_2 13 rfl rfl)
theorem dX4_prefer_59 : decode cX4_prefer 59 = .ok (.getfield 27, 3) := dk_180 0 27 (dk_at dksX4_prefer_2 14 rfl rfl)
theorem dX4_prefer_62 : decode cX4_prefer 62 = .ok (.getfield 150, 3) := dk_180 0 150 (dk_at dksX4_prefer_2 17 rfl rfl)
theorem dX4_prefer_65 : decode cX4_prefer 65 = .ok (.iload_n 1, 1) := dk_27 (dk_at dksX4_prefer_2 20 rfl rfl)
theorem dX4_prefer_66 : decode cX4_prefer 66 = .ok (.invokeinterface 142 2, 5) := by decide +kernel
theorem dX4_prefer_71 : decode cX4_prefer 71 = .ok (.checkcast 153, 3) := dk_192 0 153 (dk_at dksX4_prefer_3 5 rfl rfl)
theorem dX4_prefer_74 : decode cX4_prefer 74 = .ok (.getfield 200, 3) := dk_180 0 200 (dk_at dksX4_prefer_3 8 rfl rfl)
theorem dX4_prefer_77 : decode cX4_prefer 77 = .ok (.iload_n 2, 1) := dk_28 (dk_at dksX4_prefer_3 11 rfl rfl)
theorem dX4_prefer_78 : decode cX4_prefer 78 = .ok (.invokestatic 203, 3) := dk_184 0 203 (dk_at dksX4_prefer_3 12 rfl rfl)
theorem dX4_prefer_81 : decode cX4_prefer 81 = .ok (.invokeinterface 165 2, 5) := by decide +kernel
theorem dX4_prefer_86 : decode cX4_prefer 86 = .ok (.pop, 1) := dk_87 (dk_at dksX4_prefer_3 20 rfl rfl)
theorem dX4_prefer_87 : decode cX4_prefer 87 = .ok (.return_, 1) := dk_177 (dk_at dksX4_prefer_3 21 rfl rfl)
abbrev cX4_sum : ByteArray := prog_7_method_9_code
def yX4_sum : MethodName := ⟨RX4, "sum", "()LLinkElection$Weight;"⟩
def dkwX4_sum_2 : List UInt8 := [42, 182, 0, 96, 184, 0, 100, 76, 167, 255, 205, 43, 176]
abbrev dktX4_sum_2 : List UInt8 := dkwX4_sum_2 ++ []
def dkwX4_sum_1 : List UInt8 := [180, 0, 3, 180, 0, 38, 42, 180, 0, 35, 51, 61, 42, 89, 180, 0, 35, 4, 96, 181, 0, 35, 28, 43]
abbrev dktX4_sum_1 : List UInt8 := dkwX4_sum_1 ++ dktX4_sum_2
def dkwX4_sum_0 : List UInt8 := [42, 182, 0, 96, 76, 42, 182, 0, 55, 16, 43, 159, 0, 12, 42, 182, 0, 55, 16, 45, 160, 0, 39, 42]
abbrev dktX4_sum_0 : List UInt8 := dkwX4_sum_0 ++ dktX4_sum_1
theorem dksX4_sum_0 : cX4_sum.data.toList.drop 0 = dktX4_sum_0 := by decide +kernel
theorem dksX4_sum_1 : cX4_sum.data.toList.drop 24 = dktX4_sum_1 := dk_seg dksX4_sum_0 24 rfl rfl
theorem dksX4_sum_2 : cX4_sum.data.toList.drop 48 = dktX4_sum_2 := dk_seg dksX4_sum_1 24 rfl rfl
theorem dX4_sum_0 : decode cX4_sum 0 = .ok (.aload_n 0, 1) := dk_42 (dk_at dksX4_sum_0 0 rfl rfl)
theorem dX4_sum_1 : decode cX4_sum 1 = .ok (.invokevirtual 96, 3) := dk_182 0 96 (dk_at dksX4_sum_0 1 rfl rfl)
theorem dX4_sum_4 : decode cX4_sum 4 = .ok (.astore_n 1, 1) := dk_76 (dk_at dksX4_sum_0 4 rfl rfl)
theorem dX4_sum_5 : decode cX4_sum 5 = .ok (.aload_n 0, 1) := dk_42 (dk_at dksX4_sum_0 5 rfl rfl)
theorem dX4_sum_6 : decode cX4_sum 6 = .ok (.invokevirtual 55, 3) := dk_182 0 55 (dk_at dksX4_sum_0 6 rfl rfl)
theorem dX4_sum_9 : decode cX4_sum 9 = .ok (.bipush 43, 2) := dk_16 43 (dk_at dksX4_sum_0 9 rfl rfl)
theorem dX4_sum_11 : decode cX4_sum 11 = .ok (.if_icmp .eq 12, 3) := dk_159 0 12 (dk_at dksX4_sum_0 11 rfl rfl)
theorem dX4_sum_14 : decode cX4_sum 14 = .ok (.aload_n 0, 1) := dk_42 (dk_at dksX4_sum_0 14 rfl rfl)
theorem dX4_sum_15 : decode cX4_sum 15 = .ok (.invokevirtual 55, 3) := dk_182 0 55 (dk_at dksX4_sum_0 15 rfl rfl)
theorem dX4_sum_18 : decode cX4_sum 18 = .ok (.bipush 45, 2) := dk_16 45 (dk_at dksX4_sum_0 18 rfl rfl)
theorem dX4_sum_20 : decode cX4_sum 20 = .ok (.if_icmp .ne 39, 3) := dk_160 0 39 (dk_at dksX4_sum_0 20 rfl rfl)
theorem dX4_sum_23 : decode cX4_sum 23 = .ok (.aload_n 0, 1) := dk_42 (dk_at dksX4_sum_0 23 rfl rfl)
theorem dX4_sum_24 : decode cX4_sum 24 = .ok (.getfield 3, 3) := dk_180 0 3 (dk_at dksX4_sum_1 0 rfl rfl)
theorem dX4_sum_27 : decode cX4_sum 27 = .ok (.getfield 38, 3) := dk_180 0 38 (dk_at dksX4_sum_1 3 rfl rfl)
theorem dX4_sum_30 : decode cX4_sum 30 = .ok (.aload_n 0, 1) := dk_42 (dk_at dksX4_sum_1 6 rfl rfl)
theorem dX4_sum_31 : decode cX4_sum 31 = .ok (.getfield 35, 3) := dk_180 0 35 (dk_at dksX4_sum_1 7 rfl rfl)
theorem dX4_sum_34 : decode cX4_sum 34 = .ok (.baload, 1) := dk_51 (dk_at dksX4_sum_1 10 rfl rfl)
theorem dX4_sum_35 : decode cX4_sum 35 = .ok (.istore_n 2, 1) := dk_61 (dk_at dksX4_sum_1 11 rfl rfl)
theorem dX4_sum_36 : decode cX4_sum 36 = .ok (.aload_n 0, 1) := dk_42 (dk_at dksX4_sum_1 12 rfl rfl)
theorem dX4_sum_37 : decode cX4_sum 37 = .ok (.dup, 1) := dk_89 (dk_at dksX4_sum_1 13 rfl rfl)
theorem dX4_sum_38 : decode cX4_sum 38 = .ok (.getfield 35, 3) := dk_180 0 35 (dk_at dksX4_sum_1 14 rfl rfl)
theorem dX4_sum_41 : decode cX4_sum 41 = .ok (.iconst 1, 1) := dk_4 (dk_at dksX4_sum_1 17 rfl rfl)
theorem dX4_sum_42 : decode cX4_sum 42 = .ok (.iadd, 1) := dk_96 (dk_at dksX4_sum_1 18 rfl rfl)
theorem dX4_sum_43 : decode cX4_sum 43 = .ok (.putfield 35, 3) := dk_181 0 35 (dk_at dksX4_sum_1 19 rfl rfl)
theorem dX4_sum_46 : decode cX4_sum 46 = .ok (.iload_n 2, 1) := dk_28 (dk_at dksX4_sum_1 22 rfl rfl)
theorem dX4_sum_47 : decode cX4_sum 47 = .ok (.aload_n 1, 1) := dk_43 (dk_at dksX4_sum_1 23 rfl rfl)
theorem dX4_sum_48 : decode cX4_sum 48 = .ok (.aload_n 0, 1) := dk_42 (dk_at dksX4_sum_2 0 rfl rfl)
theorem dX4_sum_49 : decode cX4_sum 49 = .ok (.invokevirtual 96, 3) := dk_182 0 96 (dk_at dksX4_sum_2 1 rfl rfl)
theorem dX4_sum_52 : decode cX4_sum 52 = .ok (.invokestatic 100, 3) := dk_184 0 100 (dk_at dksX4_sum_2 4 rfl rfl)
theorem dX4_sum_55 : decode cX4_sum 55 = .ok (.astore_n 1, 1) := dk_76 (dk_at dksX4_sum_2 7 rfl rfl)
theorem dX4_sum_56 : decode cX4_sum 56 = .ok (.goto (-51), 3) := dk_167 255 205 (dk_at dksX4_sum_2 8 rfl rfl)
theorem dX4_sum_59 : decode cX4_sum 59 = .ok (.aload_n 1, 1) := dk_43 (dk_at dksX4_sum_2 11 rfl rfl)
theorem dX4_sum_60 : decode cX4_sum 60 = .ok (.areturn, 1) := dk_176 (dk_at dksX4_sum_2 12 rfl rfl)
abbrev cX4_term : ByteArray := prog_7_method_10_code
def yX4_term : MethodName := ⟨RX4, "term", "()LLinkElection$Weight;"⟩
def dkwX4_term_2 : List UInt8 := [42, 182, 0, 104, 184, 0, 100, 76, 167, 255, 205, 43, 176]
abbrev dktX4_term_2 : List UInt8 := dkwX4_term_2 ++ []
def dkwX4_term_1 : List UInt8 := [180, 0, 3, 180, 0, 38, 42, 180, 0, 35, 51, 61, 42, 89, 180, 0, 35, 4, 96, 181, 0, 35, 28, 43]
abbrev dktX4_term_1 : List UInt8 := dkwX4_term_1 ++ dktX4_term_2
def dkwX4_term_0 : List UInt8 := [42, 182, 0, 104, 76, 42, 182, 0, 55, 16, 42, 159, 0, 12, 42, 182, 0, 55, 16, 47, 160, 0, 39, 42]
abbrev dktX4_term_0 : List UInt8 := dkwX4_term_0 ++ dktX4_term_1
theorem dksX4_term_0 : cX4_term.data.toList.drop 0 = dktX4_term_0 := by decide +kernel
theorem dksX4_term_1 : cX4_term.data.toList.drop 24 = dktX4_term_1 := dk_seg dksX4_term_0 24 rfl rfl
theorem dksX4_term_2 : cX4_term.data.toList.drop 48 = dktX4_term_2 := dk_seg dksX4_term_1 24 rfl rfl
theorem dX4_term_0 : decode cX4_term 0 = .ok (.aload_n 0, 1) := dk_42 (dk_at dksX4_term_0 0 rfl rfl)
theorem dX4_term_1 : decode cX4_term 1 = .ok (.invokevirtual 104, 3) := dk_182 0 104 (dk_at dksX4_term_0 1 rfl rfl)
theorem dX4_term_4 : decode cX4_term 4 = .ok (.astore_n 1, 1) := dk_76 (dk_at dksX4_term_0 4 rfl rfl)
theorem dX4_term_5 : decode cX4_term 5 = .ok (.aload_n 0, 1) := dk_42 (dk_at dksX4_term_0 5 rfl rfl)
theorem dX4_term_6 : decode cX4_term 6 = .ok (.invokevirtual 55, 3) := dk_182 0 55 (dk_at dksX4_term_0 6 rfl rfl)
theorem dX4_term_9 : decode cX4_term 9 = .ok (.bipush 42, 2) := dk_16 42 (dk_at dksX4_term_0 9 rfl rfl)
theorem dX4_term_11 : decode cX4_term 11 = .ok (.if_icmp .eq 12, 3) := dk_159 0 12 (dk_at dksX4_term_0 11 rfl rfl)
theorem dX4_term_14 : decode cX4_term 14 = .ok (.aload_n 0, 1) := dk_42 (dk_at dksX4_term_0 14 rfl rfl)
theorem dX4_term_15 : decode cX4_term 15 = .ok (.invokevirtual 55, 3) := dk_182 0 55 (dk_at dksX4_term_0 15 rfl rfl)
theorem dX4_term_18 : decode cX4_term 18 = .ok (.bipush 47, 2) := dk_16 47 (dk_at dksX4_term_0 18 rfl rfl)
theorem dX4_term_20 : decode cX4_term 20 = .ok (.if_icmp .ne 39, 3) := dk_160 0 39 (dk_at dksX4_term_0 20 rfl rfl)
theorem dX4_term_23 : decode cX4_term 23 = .ok (.aload_n 0, 1) := dk_42 (dk_at dksX4_term_0 23 rfl rfl)
theorem dX4_term_24 : decode cX4_term 24 = .ok (.getfield 3, 3) := dk_180 0 3 (dk_at dksX4_term_1 0 rfl rfl)
theorem dX4_term_27 : decode cX4_term 27 = .ok (.getfield 38, 3) := dk_180 0 38 (dk_at dksX4_term_1 3 rfl rfl)
theorem dX4_term_30 : decode cX4_term 30 = .ok (.aload_n 0, 1) := dk_42 (dk_at dksX4_term_1 6 rfl rfl)
theorem dX4_term_31 : decode cX4_term 31 = .ok (.getfield 35, 3) := dk_180 0 35 (dk_at dksX4_term_1 7 rfl rfl)
theorem dX4_term_34 : decode cX4_term 34 = .ok (.baload, 1) := dk_51 (dk_at dksX4_term_1 10 rfl rfl)
theorem dX4_term_35 : decode cX4_term 35 = .ok (.istore_n 2, 1) := dk_61 (dk_at dksX4_term_1 11 rfl rfl)
theorem dX4_term_36 : decode cX4_term 36 = .ok (.aload_n 0, 1) := dk_42 (dk_at dksX4_term_1 12 rfl rfl)
theorem dX4_term_37 : decode cX4_term 37 = .ok (.dup, 1) := dk_89 (dk_at dksX4_term_1 13 rfl rfl)
theorem dX4_term_38 : decode cX4_term 38 = .ok (.getfield 35, 3) := dk_180 0 35 (dk_at dksX4_term_1 14 rfl rfl)
theorem dX4_term_41 : decode cX4_term 41 = .ok (.iconst 1, 1) := dk_4 (dk_at dksX4_term_1 17 rfl rfl)
theorem dX4_term_42 : decode cX4_term 42 = .ok (.iadd, 1) := dk_96 (dk_at dksX4_term_1 18 rfl rfl)
theorem dX4_term_43 : decode cX4_term 43 = .ok (.putfield 35, 3) := dk_181 0 35 (dk_at dksX4_term_1 19 rfl rfl)
theorem dX4_term_46 : decode cX4_term 46 = .ok (.iload_n 2, 1) := dk_28 (dk_at dksX4_term_1 22 rfl rfl)
theorem dX4_term_47 : decode cX4_term 47 = .ok (.aload_n 1, 1) := dk_43 (dk_at dksX4_term_1 23 rfl rfl)
theorem dX4_term_48 : decode cX4_term 48 = .ok (.aload_n 0, 1) := dk_42 (dk_at dksX4_term_2 0 rfl rfl)
theorem dX4_term_49 : decode cX4_term 49 = .ok (.invokevirtual 104, 3) := dk_182 0 104 (dk_at dksX4_term_2 1 rfl rfl)
theorem dX4_term_52 : decode cX4_term 52 = .ok (.invokestatic 100, 3) := dk_184 0 100 (dk_at dksX4_term_2 4 rfl rfl)
theorem dX4_term_55 : decode cX4_term 55 = .ok (.astore_n 1, 1) := dk_76 (dk_at dksX4_term_2 7 rfl rfl)
theorem dX4_term_56 : decode cX4_term 56 = .ok (.goto (-51), 3) := dk_167 255 205 (dk_at dksX4_term_2 8 rfl rfl)
theorem dX4_term_59 : decode cX4_term 59 = .ok (.aload_n 1, 1) := dk_43 (dk_at dksX4_term_2 11 rfl rfl)
theorem dX4_term_60 : decode cX4_term 60 = .ok (.areturn, 1) := dk_176 (dk_at dksX4_term_2 12 rfl rfl)
abbrev cX4_factor : ByteArray := prog_7_method_11_code
def yX4_factor : MethodName := ⟨RX4, "factor", "()LLinkElection$Weight;"⟩
def dkwX4_factor_6 : List UInt8 := [181, 0, 35, 44, 176]
abbrev dktX4_factor_6 : List UInt8 := dkwX4_factor_6 ++ []
def dkwX4_factor_5 : List UInt8 := [167, 0, 4, 3, 16, 254, 42, 180, 0, 35, 182, 0, 59, 42, 89, 180, 0, 35, 43, 182, 0, 131, 96]
abbrev dktX4_factor_5 : List UInt8 := dkwX4_factor_5 ++ dktX4_factor_6
def dkwX4_factor_4 : List UInt8 := [186, 0, 120, 0, 0, 176, 42, 182, 0, 124, 76, 43, 184, 0, 127, 77, 42, 44, 198, 0, 7, 4]
abbrev dktX4_factor_4 : List UInt8 := dkwX4_factor_4 ++ dktX4_factor_5
def dkwX4_factor_3 : List UInt8 := [181, 0, 107, 43, 176, 42, 182, 0, 82, 153, 0, 20, 42, 3, 17, 39, 15, 182, 0, 117, 133, 64, 31]
abbrev dktX4_factor_3 : List UInt8 := dkwX4_factor_3 ++ dktX4_factor_4
def dkwX4_factor_2 : List UInt8 := [4, 96, 181, 0, 35, 42, 182, 0, 110, 76, 42, 16, 41, 182, 0, 113, 42, 89, 180, 0, 107, 4, 100]
abbrev dktX4_factor_2 : List UInt8 := dkwX4_factor_2 ++ dktX4_factor_3
def dkwX4_factor_1 : List UInt8 := [16, 249, 42, 180, 0, 35, 182, 0, 59, 42, 89, 180, 0, 107, 4, 96, 181, 0, 107, 42, 89, 180, 0, 35]
abbrev dktX4_factor_1 : List UInt8 := dkwX4_factor_1 ++ dktX4_factor_2
def dkwX4_factor_0 : List UInt8 := [42, 182, 0, 55, 16, 40, 160, 0, 69, 42, 42, 180, 0, 107, 7, 162, 0, 7, 4, 167, 0, 4, 3]
abbrev dktX4_factor_0 : List UInt8 := dkwX4_factor_0 ++ dktX4_factor_1
theorem dksX4_factor_0 : cX4_factor.data.toList.drop 0 = dktX4_factor_0 := by decide +kernel
theorem dksX4_factor_1 : cX4_factor.data.toList.drop 23 = dktX4_factor_1 := dk_seg dksX4_factor_0 23 rfl rfl
theorem dksX4_factor_2 : cX4_factor.data.toList.drop 47 = dktX4_factor_2 := dk_seg dksX4_factor_1 24 rfl rfl
theorem dksX4_factor_3 : cX4_factor.data.toList.drop 70 = dktX4_factor_3 := dk_seg dksX4_factor_2 23 rfl rfl
theorem dksX4_factor_4 : cX4_factor.data.toList.drop 93 = dktX4_factor_4 := dk_seg dksX4_factor_3 23 rfl rfl
theorem dksX4_factor_5 : cX4_factor.data.toList.drop 115 = dktX4_factor_5 := dk_seg dksX4_factor_4 22 rfl rfl
theorem dksX4_factor_6 : cX4_factor.data.toList.drop 138 = dktX4_factor_6 := dk_seg dksX4_factor_5 23 rfl rfl
theorem dX4_factor_0 : decode cX4_factor 0 = .ok (.aload_n 0, 1) := dk_42 (dk_at dksX4_factor_0 0 rfl rfl)
theorem dX4_factor_1 : decode cX4_factor 1 = .ok (.invokevirtual 55, 3) := dk_182 0 55 (dk_at dksX4_factor_0 1 rfl rfl)
theorem dX4_factor_4 : decode cX4_factor 4 = .ok (.bipush 40, 2) := dk_16 40 (dk_at dksX4_factor_0 4 rfl rfl)
theorem dX4_factor_6 : decode cX4_factor 6 = .ok (.if_icmp .ne 69, 3) := dk_160 0 69 (dk_at dksX4_factor_0 6 rfl rfl)
theorem dX4_factor_9 : decode cX4_factor 9 = .ok (.aload_n 0, 1) := dk_42 (dk_at dksX4_factor_0 9 rfl rfl)
theorem dX4_factor_10 : decode cX4_factor 10 = .ok (.aload_n 0, 1) := dk_42 (dk_at dksX4_factor_0 10 rfl rfl)
theorem dX4_factor_11 : decode cX4_factor 11 = .ok (.getfield 107, 3) := dk_180 0 107 (dk_at dksX4_factor_0 11 rfl rfl)
theorem dX4_factor_14 : decode cX4_factor 14 = .ok (.iconst 4, 1) := dk_7 (dk_at dksX4_factor_0 14 rfl rfl)
theorem dX4_factor_15 : decode cX4_factor 15 = .ok (.if_icmp .ge 7, 3) := dk_162 0 7 (dk_at dksX4_factor_0 15 rfl rfl)
theorem dX4_factor_18 : decode cX4_factor 18 = .ok (.iconst 1, 1) := dk_4 (dk_at dksX4_factor_0 18 rfl rfl)
theorem dX4_factor_19 : decode cX4_factor 19 = .ok (.goto 4, 3) := dk_167 0 4 (dk_at dksX4_factor_0 19 rfl rfl)
theorem dX4_factor_22 : decode cX4_factor 22 = .ok (.iconst 0, 1) := dk_3 (dk_at dksX4_factor_0 22 rfl rfl)
theorem dX4_factor_23 : decode cX4_factor 23 = .ok (.bipush (-7), 2) := dk_16 249 (dk_at dksX4_factor_1 0 rfl rfl)
theorem dX4_factor_25 : decode cX4_factor 25 = .ok (.aload_n 0, 1) := dk_42 (dk_at dksX4_factor_1 2 rfl rfl)
theorem dX4_factor_26 : decode cX4_factor 26 = .ok (.getfield 35, 3) := dk_180 0 35 (dk_at dksX4_factor_1 3 rfl rfl)
theorem dX4_factor_29 : decode cX4_factor 29 = .ok (.invokevirtual 59, 3) := dk_182 0 59 (dk_at dksX4_factor_1 6 rfl rfl)
theorem dX4_factor_32 : decode cX4_factor 32 = .ok (.aload_n 0, 1) := dk_42 (dk_at dksX4_factor_1 9 rfl rfl)
theorem dX4_factor_33 : decode cX4_factor 33 = .ok (.dup, 1) := dk_89 (dk_at dksX4_factor_1 10 rfl rfl)
theorem dX4_factor_34 : decode cX4_factor 34 = .ok (.getfield 107, 3) := dk_180 0 107 (dk_at dksX4_factor_1 11 rfl rfl)
theorem dX4_factor_37 : decode cX4_factor 37 = .ok (.iconst 1, 1) := dk_4 (dk_at dksX4_factor_1 14 rfl rfl)
theorem dX4_factor_38 : decode cX4_factor 38 = .ok (.iadd, 1) := dk_96 (dk_at dksX4_factor_1 15 rfl rfl)
theorem dX4_factor_39 : decode cX4_factor 39 = .ok (.putfield 107, 3) := dk_181 0 107 (dk_at dksX4_factor_1 16 rfl rfl)
theorem dX4_factor_42 : decode cX4_factor 42 = .ok (.aload_n 0, 1) := dk_42 (dk_at dksX4_factor_1 19 rfl rfl)
theorem dX4_factor_43 : decode cX4_factor 43 = .ok (.dup, 1) := dk_89 (dk_at dksX4_factor_1 20 rfl rfl)
theorem dX4_factor_44 : decode cX4_factor 44 = .ok (.getfield 35, 3) := dk_180 0 35 (dk_at dksX4_factor_1 21 rfl rfl)
theorem dX4_factor_47 : decode cX4_factor 47 = .ok (.iconst 1, 1) := dk_4 (dk_at dksX4_factor_2 0 rfl rfl)
theorem dX4_factor_48 : decode cX4_factor 48 = .ok (.iadd, 1) := dk_96 (dk_at dksX4_factor_2 1 rfl rfl)
theorem dX4_factor_49 : decode cX4_factor 49 = .ok (.putfield 35, 3) := dk_181 0 35 (dk_at dksX4_factor_2 2 rfl rfl)
theorem dX4_factor_52 : decode cX4_factor 52 = .ok (.aload_n 0, 1) := dk_42 (dk_at dksX4_factor_2 5 rfl rfl)
theorem dX4_factor_53 : decode cX4_factor 53 = .ok (.invokevirtual 110, 3) := dk_182 0 110 (dk_at dksX4_factor_2 6 rfl rfl)
theorem dX4_factor_56 : decode cX4_factor 56 = .ok (.astore_n 1, 1) := dk_76 (dk_at dksX4_factor_2 9 rfl rfl)
theorem dX4_factor_57 : decode cX4_factor 57 = .ok (.aload_n 0, 1) := dk_42 (dk_at dksX4_factor_2 10 rfl rfl)
theorem dX4_factor_58 : decode cX4_factor 58 = .ok (.bipush 41, 2) := dk_16 41 (dk_at dksX4_factor_2 11 rfl rfl)
theorem dX4_factor_60 : decode cX4_factor 60 = .ok (.invokevirtual 113, 3) := dk_182 0 113 (dk_at dksX4_factor_2 13 rfl rfl)
theorem dX4_factor_63 : decode cX4_factor 63 = .ok (.aload_n 0, 1) := dk_42 (dk_at dksX4_factor_2 16 rfl rfl)
theorem dX4_factor_64 : decode cX4_factor 64 = .ok (.dup, 1) := dk_89 (dk_at dksX4_factor_2 17 rfl rfl)
theorem dX4_factor_65 : decode cX4_factor 65 = .ok (.getfield 107, 3) := dk_180 0 107 (dk_at dksX4_factor_2 18 rfl rfl)
theorem dX4_factor_68 : decode cX4_factor 68 = .ok (.iconst 1, 1) := dk_4 (dk_at dksX4_factor_2 21 rfl rfl)
theorem dX4_factor_69 : decode cX4_factor 69 = .ok (.isub, 1) := dk_100 (dk_at dksX4_factor_2 22 rfl rfl)
theorem dX4_factor_70 : decode cX4_factor 70 = .ok (.putfield 107, 3) := dk_181 0 107 (dk_at dksX4_factor_3 0 rfl rfl)
theorem dX4_factor_73 : decode cX4_factor 73 = .ok (.aload_n 1, 1) := dk_43 (dk_at dksX4_factor_3 3 rfl rfl)
theorem dX4_factor_74 : decode cX4_factor 74 = .ok (.areturn, 1) := dk_176 (dk_at dksX4_factor_3 4 rfl rfl)
theorem dX4_factor_75 : decode cX4_factor 75 = .ok (.aload_n 0, 1) := dk_42 (dk_at dksX4_factor_3 5 rfl rfl)
theorem dX4_factor_76 : decode cX4_factor 76 = .ok (.invokevirtual 82, 3) := dk_182 0 82 (dk_at dksX4_factor_3 6 rfl rfl)
theorem dX4_factor_79 : decode cX4_factor 79 = .ok (.ifCond .eq 20, 3) := dk_153 0 20 (dk_at dksX4_factor_3 9 rfl rfl)
theorem dX4_factor_82 : decode cX4_factor 82 = .ok (.aload_n 0, 1) := dk_42 (dk_at dksX4_factor_3 12 rfl rfl)
theorem dX4_factor_83 : decode cX4_factor 83 = .ok (.iconst 0, 1) := dk_3 (dk_at dksX4_factor_3 13 rfl rfl)
theorem dX4_factor_84 : decode cX4_factor 84 = .ok (.sipush 9999, 3) := dk_17 39 15 (dk_at dksX4_factor_3 14 rfl rfl)
theorem dX4_factor_87 : decode cX4_factor 87 = .ok (.invokevirtual 117, 3) := dk_182 0 117 (dk_at dksX4_factor_3 17 rfl rfl)
theorem dX4_factor_90 : decode cX4_factor 90 = .ok (.i2l, 1) := dk_133 (dk_at dksX4_factor_3 20 rfl rfl)
theorem dX4_factor_91 : decode cX4_factor 91 = .ok (.lstore_n 1, 1) := dk_64 (dk_at dksX4_factor_3 21 rfl rfl)
theorem dX4_factor_92 : decode cX4_factor 92 = .ok (.lload_n 1, 1) := dk_31 (dk_at dksX4_factor_3 22 rfl rfl)
theorem dX4_factor_93 : decode cX4_factor 93 = .ok (.invokedynamic 120, 5) := by decide +kernel
theorem dX4_factor_98 : decode cX4_factor 98 = .ok (.areturn, 1) := dk_176 (dk_at dksX4_factor_4 5 rfl rfl)
theorem dX4_factor_99 : decode cX4_factor 99 = .ok (.aload_n 0, 1) := dk_42 (dk_at dksX4_factor_4 6 rfl rfl)
theorem dX4_factor_100 : decode cX4_factor 100 = .ok (.invokevirtual 124, 3) := dk_182 0 124 (dk_at dksX4_factor_4 7 rfl rfl)
theorem dX4_factor_103 : decode cX4_factor 103 = .ok (.astore_n 1, 1) := dk_76 (dk_at dksX4_factor_4 10 rfl rfl)
theorem dX4_factor_104 : decode cX4_factor 104 = .ok (.aload_n 1, 1) := dk_43 (dk_at dksX4_factor_4 11 rfl rfl)
theorem dX4_factor_105 : decode cX4_factor 105 = .ok (.invokestatic 127, 3) := dk_184 0 127 (dk_at dksX4_factor_4 12 rfl rfl)
theorem dX4_factor_108 : decode cX4_factor 108 = .ok (.astore_n 2, 1) := dk_77 (dk_at dksX4_factor_4 15 rfl rfl)
theorem dX4_factor_109 : decode cX4_factor 109 = .ok (.aload_n 0, 1) := dk_42 (dk_at dksX4_factor_4 16 rfl rfl)
theorem dX4_factor_110 : decode cX4_factor 110 = .ok (.aload_n 2, 1) := dk_44 (dk_at dksX4_factor_4 17 rfl rfl)
theorem dX4_factor_111 : decode cX4_factor 111 = .ok (.ifnull 7, 3) := dk_198 0 7 (dk_at dksX4_factor_4 18 rfl rfl)
theorem dX4_factor_114 : decode cX4_factor 114 = .ok (.iconst 1, 1) := dk_4 (dk_at dksX4_factor_4 21 rfl rfl)
theorem dX4_factor_115 : decode cX4_factor 115 = .ok (.goto 4, 3) := dk_167 0 4 (dk_at dksX4_factor_5 0 rfl rfl)
theorem dX4_factor_118 : decode cX4_factor 118 = .ok (.iconst 0, 1) := dk_3 (dk_at dksX4_factor_5 3 rfl rfl)
theorem dX4_factor_119 : decode cX4_factor 119 = .ok (.bipush (-2), 2) := dk_16 254 (dk_at dksX4_factor_5 4 rfl rfl)
theorem dX4_factor_121 : decode cX4_factor 121 = .ok (.aload_n 0, 1) := dk_42 (dk_at dksX4_factor_5 6 rfl rfl)
theorem dX4_factor_122 : decode cX4_factor 122 = .ok (.getfield 35, 3) := dk_180 0 35 (dk_at dksX4_factor_5 7 rfl rfl)
theorem dX4_factor_125 : decode cX4_factor 125 = .ok (.invokevirtual 59, 3) := dk_182 0 59 (dk_at dksX4_factor_5 10 rfl rfl)
theorem dX4_factor_128 : decode cX4_factor 128 = .ok (.aload_n 0, 1) := dk_42 (dk_at dksX4_factor_5 13 rfl rfl)
theorem dX4_factor_129 : decode cX4_factor 129 = .ok (.dup, 1) := dk_89 (dk_at dksX4_factor_5 14 rfl rfl)
theorem dX4_factor_130 : decode cX4_factor 130 = .ok (.getfield 35, 3) := dk_180 0 35 (dk_at dksX4_factor_5 15 rfl rfl)
theorem dX4_factor_133 : decode cX4_factor 133 = .ok (.aload_n 1, 1) := dk_43 (dk_at dksX4_factor_5 18 rfl rfl)
theorem dX4_factor_134 : decode cX4_factor 134 = .ok (.invokevirtual 131, 3) := dk_182 0 131 (dk_at dksX4_factor_5 19 rfl rfl)
theorem dX4_factor_137 : decode cX4_factor 137 = .ok (.iadd, 1) := dk_96 (dk_at dksX4_factor_5 22 rfl rfl)
theorem dX4_factor_138 : decode cX4_factor 138 = .ok (.putfield 35, 3) := dk_181 0 35 (dk_at dksX4_factor_6 0 rfl rfl)
theorem dX4_factor_141 : decode cX4_factor 141 = .ok (.aload_n 2, 1) := dk_44 (dk_at dksX4_factor_6 3 rfl rfl)
theorem dX4_factor_142 : decode cX4_factor 142 = .ok (.areturn, 1) := dk_176 (dk_at dksX4_factor_6 4 rfl rfl)
abbrev cX4_lambda_factor_0 : ByteArray := prog_7_method_23_code
def yX4_lambda_factor_0 : MethodName := ⟨RX4, "lambda$factor$0", "(JIIII)J"⟩
theorem dX4_lambda_factor_0_0 : decode cX4_lambda_factor_0 0 = .ok (.lload_n 0, 1) := by decide +kernel
theorem dX4_lambda_factor_0_1 : decode cX4_lambda_factor_0 1 = .ok (.lreturn, 1) := by decide +kernel
abbrev cX0_load : ByteArray := method_3_code
def yX0_load : MethodName := ⟨RX0, "load", "(LLinkElection;I[J)I"⟩
def dkwX0_load_0 : List UInt8 := [44, 3, 42, 27, 182, 0, 7, 133, 80, 167, 0, 6, 78, 4, 172, 3, 172]
abbrev dktX0_load_0 : List UInt8 := dkwX0_load_0 ++ []
theorem dksX0_load_0 : cX0_load.data.toList.drop 0 = dktX0_load_0 := by decide +kernel
theorem dX0_load_0 : decode cX0_load 0 = .ok (.aload_n 2, 1) := dk_44 (dk_at dksX0_load_0 0 rfl rfl)
theorem dX0_load_1 : decode cX0_load 1 = .ok (.iconst 0, 1) := dk_3 (dk_at dksX0_load_0 1 rfl rfl)
theorem dX0_load_2 : decode cX0_load 2 = .ok (.aload_n 0, 1) := dk_42 (dk_at dksX0_load_0 2 rfl rfl)
theorem dX0_load_3 : decode cX0_load 3 = .ok (.iload_n 1, 1) := dk_27 (dk_at dksX0_load_0 3 rfl rfl)
theorem dX0_load_4 : decode cX0_load 4 = .ok (.invokevirtual 7, 3) := dk_182 0 7 (dk_at dksX0_load_0 4 rfl rfl)
theorem dX0_load_7 : decode cX0_load 7 = .ok (.i2l, 1) := dk_133 (dk_at dksX0_load_0 7 rfl rfl)
theorem dX0_load_8 : decode cX0_load 8 = .ok (.lastore, 1) := dk_80 (dk_at dksX0_load_0 8 rfl rfl)
theorem dX0_load_9 : decode cX0_load 9 = .ok (.goto 6, 3) := dk_167 0 6 (dk_at dksX0_load_0 9 rfl rfl)
theorem dX0_load_12 : decode cX0_load 12 = .ok (.astore_n 3, 1) := dk_78 (dk_at dksX0_load_0 12 rfl rfl)
theorem dX0_load_13 : decode cX0_load 13 = .ok (.iconst 1, 1) := dk_4 (dk_at dksX0_load_0 13 rfl rfl)
theorem dX0_load_14 : decode cX0_load 14 = .ok (.ireturn, 1) := dk_172 (dk_at dksX0_load_0 14 rfl rfl)
theorem dX0_load_15 : decode cX0_load 15 = .ok (.iconst 0, 1) := dk_3 (dk_at dksX0_load_0 15 rfl rfl)
theorem dX0_load_16 : decode cX0_load 16 = .ok (.ireturn, 1) := dk_172 (dk_at dksX0_load_0 16 rfl rfl)
abbrev cX0_library : ByteArray := method_4_code
def yX0_library : MethodName := ⟨RX0, "library", "(LLinkElection;II[J)I"⟩
def dkwX0_library_0 : List UInt8 := [45, 3, 42, 27, 28, 182, 0, 15, 133, 80, 167, 0, 11, 58, 4, 4, 172, 58, 4, 5, 172, 3, 172]
abbrev dktX0_library_0 : List UInt8 := dkwX0_library_0 ++ []
theorem dksX0_library_0 : cX0_library.data.toList.drop 0 = dktX0_library_0 := by decide +kernel
theorem dX0_library_0 : decode cX0_library 0 = .ok (.aload_n 3, 1) := dk_45 (dk_at dksX0_library_0 0 rfl rfl)
theorem dX0_library_1 : decode cX0_library 1 = .ok (.iconst 0, 1) := dk_3 (dk_at dksX0_library_0 1 rfl rfl)
theorem dX0_library_2 : decode cX0_library 2 = .ok (.aload_n 0, 1) := dk_42 (dk_at dksX0_library_0 2 rfl rfl)
theorem dX0_library_3 : decode cX0_library 3 = .ok (.iload_n 1, 1) := dk_27 (dk_at dksX0_library_0 3 rfl rfl)
theorem dX0_library_4 : decode cX0_library 4 = .ok (.iload_n 2, 1) := dk_28 (dk_at dksX0_library_0 4 rfl rfl)
theorem dX0_library_5 : decode cX0_library 5 = .ok (.invokevirtual 15, 3) := dk_182 0 15 (dk_at dksX0_library_0 5 rfl rfl)
theorem dX0_library_8 : decode cX0_library 8 = .ok (.i2l, 1) := dk_133 (dk_at dksX0_library_0 8 rfl rfl)
theorem dX0_library_9 : decode cX0_library 9 = .ok (.lastore, 1) := dk_80 (dk_at dksX0_library_0 9 rfl rfl)
theorem dX0_library_10 : decode cX0_library 10 = .ok (.goto 11, 3) := dk_167 0 11 (dk_at dksX0_library_0 10 rfl rfl)
theorem dX0_library_13 : decode cX0_library 13 = .ok (.astore 4, 2) := dk_58 4 (dk_at dksX0_library_0 13 rfl rfl)
theorem dX0_library_15 : decode cX0_library 15 = .ok (.iconst 1, 1) := dk_4 (dk_at dksX0_library_0 15 rfl rfl)
theorem dX0_library_16 : decode cX0_library 16 = .ok (.ireturn, 1) := dk_172 (dk_at dksX0_library_0 16 rfl rfl)
theorem dX0_library_17 : decode cX0_library 17 = .ok (.astore 4, 2) := dk_58 4 (dk_at dksX0_library_0 17 rfl rfl)
theorem dX0_library_19 : decode cX0_library 19 = .ok (.iconst 2, 1) := dk_5 (dk_at dksX0_library_0 19 rfl rfl)
theorem dX0_library_20 : decode cX0_library 20 = .ok (.ireturn, 1) := dk_172 (dk_at dksX0_library_0 20 rfl rfl)
theorem dX0_library_21 : decode cX0_library 21 = .ok (.iconst 0, 1) := dk_3 (dk_at dksX0_library_0 21 rfl rfl)
theorem dX0_library_22 : decode cX0_library 22 = .ok (.ireturn, 1) := dk_172 (dk_at dksX0_library_0 22 rfl rfl)
abbrev cX0_offer : ByteArray := method_5_code
def yX0_offer : MethodName := ⟨RX0, "offer", "(LLinkElection;II[J)I"⟩
def dkwX0_offer_0 : List UInt8 := [45, 3, 42, 27, 28, 182, 0, 21, 133, 80, 167, 0, 7, 58, 4, 4, 172, 3, 172]
abbrev dktX0_offer_0 : List UInt8 := dkwX0_offer_0 ++ []
theorem dksX0_offer_0 : cX0_offer.data.toList.drop 0 = dktX0_offer_0 := by decide +kernel
theorem dX0_offer_0 : decode cX0_offer 0 = .ok (.aload_n 3, 1) := dk_45 (dk_at dksX0_offer_0 0 rfl rfl)
theorem dX0_offer_1 : decode cX0_offer 1 = .ok (.iconst 0, 1) := dk_3 (dk_at dksX0_offer_0 1 rfl rfl)
theorem dX0_offer_2 : decode cX0_offer 2 = .ok (.aload_n 0, 1) := dk_42 (dk_at dksX0_offer_0 2 rfl rfl)
theorem dX0_offer_3 : decode cX0_offer 3 = .ok (.iload_n 1, 1) := dk_27 (dk_at dksX0_offer_0 3 rfl rfl)
theorem dX0_offer_4 : decode cX0_offer 4 = .ok (.iload_n 2, 1) := dk_28 (dk_at dksX0_offer_0 4 rfl rfl)
theorem dX0_offer_5 : decode cX0_offer 5 = .ok (.invokevirtual 21, 3) := dk_182 0 21 (dk_at dksX0_offer_0 5 rfl rfl)
theorem dX0_offer_8 : decode cX0_offer 8 = .ok (.i2l, 1) := dk_133 (dk_at dksX0_offer_0 8 rfl rfl)
theorem dX0_offer_9 : decode cX0_offer 9 = .ok (.lastore, 1) := dk_80 (dk_at dksX0_offer_0 9 rfl rfl)
theorem dX0_offer_10 : decode cX0_offer 10 = .ok (.goto 7, 3) := dk_167 0 7 (dk_at dksX0_offer_0 10 rfl rfl)
theorem dX0_offer_13 : decode cX0_offer 13 = .ok (.astore 4, 2) := dk_58 4 (dk_at dksX0_offer_0 13 rfl rfl)
theorem dX0_offer_15 : decode cX0_offer 15 = .ok (.iconst 1, 1) := dk_4 (dk_at dksX0_offer_0 15 rfl rfl)
theorem dX0_offer_16 : decode cX0_offer 16 = .ok (.ireturn, 1) := dk_172 (dk_at dksX0_offer_0 16 rfl rfl)
theorem dX0_offer_17 : decode cX0_offer 17 = .ok (.iconst 0, 1) := dk_3 (dk_at dksX0_offer_0 17 rfl rfl)
theorem dX0_offer_18 : decode cX0_offer 18 = .ok (.ireturn, 1) := dk_172 (dk_at dksX0_offer_0 18 rfl rfl)
abbrev cX0_candidates : ByteArray := method_6_code
def yX0_candidates : MethodName := ⟨RX0, "candidates", "(LLinkElection;I[J)I"⟩
def dkwX0_candidates_0 : List UInt8 := [44, 3, 42, 27, 182, 0, 24, 133, 80, 167, 0, 6, 78, 4, 172, 3, 172]
abbrev dktX0_candidates_0 : List UInt8 := dkwX0_candidates_0 ++ []
theorem dksX0_candidates_0 : cX0_candidates.data.toList.drop 0 = dktX0_candidates_0 := by decide +kernel
theorem dX0_candidates_0 : decode cX0_candidates 0 = .ok (.aload_n 2, 1) := dk_44 (dk_at dksX0_candidates_0 0 rfl rfl)
theorem dX0_candidates_1 : decode cX0_candidates 1 = .ok (.iconst 0, 1) := dk_3 (dk_at dksX0_candidates_0 1 rfl rfl)
theorem dX0_candidates_2 : decode cX0_candidates 2 = .ok (.aload_n 0, 1) := dk_42 (dk_at dksX0_candidates_0 2 rfl rfl)
theorem dX0_candidates_3 : decode cX0_candidates 3 = .ok (.iload_n 1, 1) := dk_27 (dk_at dksX0_candidates_0 3 rfl rfl)
theorem dX0_candidates_4 : decode cX0_candidates 4 = .ok (.invokevirtual 24, 3) := dk_182 0 24 (dk_at dksX0_candidates_0 4 rfl rfl)
theorem dX0_candidates_7 : decode cX0_candidates 7 = .ok (.i2l, 1) := dk_133 (dk_at dksX0_candidates_0 7 rfl rfl)
theorem dX0_candidates_8 : decode cX0_candidates 8 = .ok (.lastore, 1) := dk_80 (dk_at dksX0_candidates_0 8 rfl rfl)
theorem dX0_candidates_9 : decode cX0_candidates 9 = .ok (.goto 6, 3) := dk_167 0 6 (dk_at dksX0_candidates_0 9 rfl rfl)
theorem dX0_candidates_12 : decode cX0_candidates 12 = .ok (.astore_n 3, 1) := dk_78 (dk_at dksX0_candidates_0 12 rfl rfl)
theorem dX0_candidates_13 : decode cX0_candidates 13 = .ok (.iconst 1, 1) := dk_4 (dk_at dksX0_candidates_0 13 rfl rfl)
theorem dX0_candidates_14 : decode cX0_candidates 14 = .ok (.ireturn, 1) := dk_172 (dk_at dksX0_candidates_0 14 rfl rfl)
theorem dX0_candidates_15 : decode cX0_candidates 15 = .ok (.iconst 0, 1) := dk_3 (dk_at dksX0_candidates_0 15 rfl rfl)
theorem dX0_candidates_16 : decode cX0_candidates 16 = .ok (.ireturn, 1) := dk_172 (dk_at dksX0_candidates_0 16 rfl rfl)
abbrev cX0_vote : ByteArray := method_7_code
def yX0_vote : MethodName := ⟨RX0, "vote", "(LLinkElection;II[J)I"⟩
def dkwX0_vote_0 : List UInt8 := [45, 3, 42, 27, 28, 182, 0, 27, 133, 80, 167, 0, 7, 58, 4, 4, 172, 3, 172]
abbrev dktX0_vote_0 : List UInt8 := dkwX0_vote_0 ++ []
theorem dksX0_vote_0 : cX0_vote.data.toList.drop 0 = dktX0_vote_0 := by decide +kernel
theorem dX0_vote_0 : decode cX0_vote 0 = .ok (.aload_n 3, 1) := dk_45 (dk_at dksX0_vote_0 0 rfl rfl)
theorem dX0_vote_1 : decode cX0_vote 1 = .ok (.iconst 0, 1) := dk_3 (dk_at dksX0_vote_0 1 rfl rfl)
theorem dX0_vote_2 : decode cX0_vote 2 = .ok (.aload_n 0, 1) := dk_42 (dk_at dksX0_vote_0 2 rfl rfl)
theorem dX0_vote_3 : decode cX0_vote 3 = .ok (.iload_n 1, 1) := dk_27 (dk_at dksX0_vote_0 3 rfl rfl)
theorem dX0_vote_4 : decode cX0_vote 4 = .ok (.iload_n 2, 1) := dk_28 (dk_at dksX0_vote_0 4 rfl rfl)
theorem dX0_vote_5 : decode cX0_vote 5 = .ok (.invokevirtual 27, 3) := dk_182 0 27 (dk_at dksX0_vote_0 5 rfl rfl)
theorem dX0_vote_8 : decode cX0_vote 8 = .ok (.i2l, 1) := dk_133 (dk_at dksX0_vote_0 8 rfl rfl)
theorem dX0_vote_9 : decode cX0_vote 9 = .ok (.lastore, 1) := dk_80 (dk_at dksX0_vote_0 9 rfl rfl)
theorem dX0_vote_10 : decode cX0_vote 10 = .ok (.goto 7, 3) := dk_167 0 7 (dk_at dksX0_vote_0 10 rfl rfl)
theorem dX0_vote_13 : decode cX0_vote 13 = .ok (.astore 4, 2) := dk_58 4 (dk_at dksX0_vote_0 13 rfl rfl)
theorem dX0_vote_15 : decode cX0_vote 15 = .ok (.iconst 1, 1) := dk_4 (dk_at dksX0_vote_0 15 rfl rfl)
theorem dX0_vote_16 : decode cX0_vote 16 = .ok (.ireturn, 1) := dk_172 (dk_at dksX0_vote_0 16 rfl rfl)
theorem dX0_vote_17 : decode cX0_vote 17 = .ok (.iconst 0, 1) := dk_3 (dk_at dksX0_vote_0 17 rfl rfl)
theorem dX0_vote_18 : decode cX0_vote 18 = .ok (.ireturn, 1) := dk_172 (dk_at dksX0_vote_0 18 rfl rfl)
abbrev cX0_support : ByteArray := method_8_code
def yX0_support : MethodName := ⟨RX0, "support", "(LLinkElection;II[J)I"⟩
def dkwX0_support_0 : List UInt8 := [45, 3, 42, 27, 28, 182, 0, 30, 133, 80, 167, 0, 7, 58, 4, 4, 172, 3, 172]
abbrev dktX0_support_0 : List UInt8 := dkwX0_support_0 ++ []
theorem dksX0_support_0 : cX0_support.data.toList.drop 0 = dktX0_support_0 := by decide +kernel
theorem dX0_support_0 : decode cX0_support 0 = .ok (.aload_n 3, 1) := dk_45 (dk_at dksX0_support_0 0 rfl rfl)
theorem dX0_support_1 : decode cX0_support 1 = .ok (.iconst 0, 1) := dk_3 (dk_at dksX0_support_0 1 rfl rfl)
theorem dX0_support_2 : decode cX0_support 2 = .ok (.aload_n 0, 1) := dk_42 (dk_at dksX0_support_0 2 rfl rfl)
theorem dX0_support_3 : decode cX0_support 3 = .ok (.iload_n 1, 1) := dk_27 (dk_at dksX0_support_0 3 rfl rfl)
theorem dX0_support_4 : decode cX0_support 4 = .ok (.iload_n 2, 1) := dk_28 (dk_at dksX0_support_0 4 rfl rfl)
theorem dX0_support_5 : decode cX0_support 5 = .ok (.invokevirtual 30, 3) := dk_182 0 30 (dk_at dksX0_support_0 5 rfl rfl)
theorem dX0_support_8 : decode cX0_support 8 = .ok (.i2l, 1) := dk_133 (dk_at dksX0_support_0 8 rfl rfl)
theorem dX0_support_9 : decode cX0_support 9 = .ok (.lastore, 1) := dk_80 (dk_at dksX0_support_0 9 rfl rfl)
theorem dX0_support_10 : decode cX0_support 10 = .ok (.goto 7, 3) := dk_167 0 7 (dk_at dksX0_support_0 10 rfl rfl)
theorem dX0_support_13 : decode cX0_support 13 = .ok (.astore 4, 2) := dk_58 4 (dk_at dksX0_support_0 13 rfl rfl)
theorem dX0_support_15 : decode cX0_support 15 = .ok (.iconst 1, 1) := dk_4 (dk_at dksX0_support_0 15 rfl rfl)
theorem dX0_support_16 : decode cX0_support 16 = .ok (.ireturn, 1) := dk_172 (dk_at dksX0_support_0 16 rfl rfl)
theorem dX0_support_17 : decode cX0_support 17 = .ok (.iconst 0, 1) := dk_3 (dk_at dksX0_support_0 17 rfl rfl)
theorem dX0_support_18 : decode cX0_support 18 = .ok (.ireturn, 1) := dk_172 (dk_at dksX0_support_0 18 rfl rfl)
abbrev cX0_winner : ByteArray := method_9_code
def yX0_winner : MethodName := ⟨RX0, "winner", "(LLinkElection;I[J)I"⟩
def dkwX0_winner_0 : List UInt8 := [44, 3, 42, 27, 182, 0, 33, 133, 80, 167, 0, 6, 78, 4, 172, 3, 172]
abbrev dktX0_winner_0 : List UInt8 := dkwX0_winner_0 ++ []
theorem dksX0_winner_0 : cX0_winner.data.toList.drop 0 = dktX0_winner_0 := by decide +kernel
theorem dX0_winner_0 : decode cX0_winner 0 = .ok (.aload_n 2, 1) := dk_44 (dk_at dksX0_winner_0 0 rfl rfl)
theorem dX0_winner_1 : decode cX0_winner 1 = .ok (.iconst 0, 1) := dk_3 (dk_at dksX0_winner_0 1 rfl rfl)
theorem dX0_winner_2 : decode cX0_winner 2 = .ok (.aload_n 0, 1) := dk_42 (dk_at dksX0_winner_0 2 rfl rfl)
theorem dX0_winner_3 : decode cX0_winner 3 = .ok (.iload_n 1, 1) := dk_27 (dk_at dksX0_winner_0 3 rfl rfl)
theorem dX0_winner_4 : decode cX0_winner 4 = .ok (.invokevirtual 33, 3) := dk_182 0 33 (dk_at dksX0_winner_0 4 rfl rfl)
theorem dX0_winner_7 : decode cX0_winner 7 = .ok (.i2l, 1) := dk_133 (dk_at dksX0_winner_0 7 rfl rfl)
theorem dX0_winner_8 : decode cX0_winner 8 = .ok (.lastore, 1) := dk_80 (dk_at dksX0_winner_0 8 rfl rfl)
theorem dX0_winner_9 : decode cX0_winner 9 = .ok (.goto 6, 3) := dk_167 0 6 (dk_at dksX0_winner_0 9 rfl rfl)
theorem dX0_winner_12 : decode cX0_winner 12 = .ok (.astore_n 3, 1) := dk_78 (dk_at dksX0_winner_0 12 rfl rfl)
theorem dX0_winner_13 : decode cX0_winner 13 = .ok (.iconst 1, 1) := dk_4 (dk_at dksX0_winner_0 13 rfl rfl)
theorem dX0_winner_14 : decode cX0_winner 14 = .ok (.ireturn, 1) := dk_172 (dk_at dksX0_winner_0 14 rfl rfl)
theorem dX0_winner_15 : decode cX0_winner 15 = .ok (.iconst 0, 1) := dk_3 (dk_at dksX0_winner_0 15 rfl rfl)
theorem dX0_winner_16 : decode cX0_winner 16 = .ok (.ireturn, 1) := dk_172 (dk_at dksX0_winner_0 16 rfl rfl)
abbrev cX0_margin : ByteArray := method_10_code
def yX0_margin : MethodName := ⟨RX0, "margin", "(LLinkElection;I[J)I"⟩
def dkwX0_margin_0 : List UInt8 := [44, 3, 42, 27, 182, 0, 36, 133, 80, 167, 0, 6, 78, 4, 172, 3, 172]
abbrev dktX0_margin_0 : List UInt8 := dkwX0_margin_0 ++ []
theorem dksX0_margin_0 : cX0_margin.data.toList.drop 0 = dktX0_margin_0 := by decide +kernel
theorem dX0_margin_0 : decode cX0_margin 0 = .ok (.aload_n 2, 1) := dk_44 (dk_at dksX0_margin_0 0 rfl rfl)
theorem dX0_margin_1 : decode cX0_margin 1 = .ok (.iconst 0, 1) := dk_3 (dk_at dksX0_margin_0 1 rfl rfl)
theorem dX0_margin_2 : decode cX0_margin 2 = .ok (.aload_n 0, 1) := dk_42 (dk_at dksX0_margin_0 2 rfl rfl)
theorem dX0_margin_3 : decode cX0_margin 3 = .ok (.iload_n 1, 1) := dk_27 (dk_at dksX0_margin_0 3 rfl rfl)
theorem dX0_margin_4 : decode cX0_margin 4 = .ok (.invokevirtual 36, 3) := dk_182 0 36 (dk_at dksX0_margin_0 4 rfl rfl)
theorem dX0_margin_7 : decode cX0_margin 7 = .ok (.i2l, 1) := dk_133 (dk_at dksX0_margin_0 7 rfl rfl)
theorem dX0_margin_8 : decode cX0_margin 8 = .ok (.lastore, 1) := dk_80 (dk_at dksX0_margin_0 8 rfl rfl)
theorem dX0_margin_9 : decode cX0_margin 9 = .ok (.goto 6, 3) := dk_167 0 6 (dk_at dksX0_margin_0 9 rfl rfl)
theorem dX0_margin_12 : decode cX0_margin 12 = .ok (.astore_n 3, 1) := dk_78 (dk_at dksX0_margin_0 12 rfl rfl)
theorem dX0_margin_13 : decode cX0_margin 13 = .ok (.iconst 1, 1) := dk_4 (dk_at dksX0_margin_0 13 rfl rfl)
theorem dX0_margin_14 : decode cX0_margin 14 = .ok (.ireturn, 1) := dk_172 (dk_at dksX0_margin_0 14 rfl rfl)
theorem dX0_margin_15 : decode cX0_margin 15 = .ok (.iconst 0, 1) := dk_3 (dk_at dksX0_margin_0 15 rfl rfl)
theorem dX0_margin_16 : decode cX0_margin 16 = .ok (.ireturn, 1) := dk_172 (dk_at dksX0_margin_0 16 rfl rfl)
abbrev cX0_binding : ByteArray := method_11_code
def yX0_binding : MethodName := ⟨RX0, "binding", "(LLinkElection;II[J)I"⟩
def dkwX0_binding_0 : List UInt8 := [45, 3, 42, 27, 28, 182, 0, 39, 133, 80, 167, 0, 7, 58, 4, 4, 172, 3, 172]
abbrev dktX0_binding_0 : List UInt8 := dkwX0_binding_0 ++ []
theorem dksX0_binding_0 : cX0_binding.data.toList.drop 0 = dktX0_binding_0 := by decide +kernel
theorem dX0_binding_0 : decode cX0_binding 0 = .ok (.aload_n 3, 1) := dk_45 (dk_at dksX0_binding_0 0 rfl rfl)
theorem dX0_binding_1 : decode cX0_binding 1 = .ok (.iconst 0, 1) := dk_3 (dk_at dksX0_binding_0 1 rfl rfl)
theorem dX0_binding_2 : decode cX0_binding 2 = .ok (.aload_n 0, 1) := dk_42 (dk_at dksX0_binding_0 2 rfl rfl)
theorem dX0_binding_3 : decode cX0_binding 3 = .ok (.iload_n 1, 1) := dk_27 (dk_at dksX0_binding_0 3 rfl rfl)
theorem dX0_binding_4 : decode cX0_binding 4 = .ok (.iload_n 2, 1) := dk_28 (dk_at dksX0_binding_0 4 rfl rfl)
theorem dX0_binding_5 : decode cX0_binding 5 = .ok (.invokevirtual 39, 3) := dk_182 0 39 (dk_at dksX0_binding_0 5 rfl rfl)
theorem dX0_binding_8 : decode cX0_binding 8 = .ok (.i2l, 1) := dk_133 (dk_at dksX0_binding_0 8 rfl rfl)
theorem dX0_binding_9 : decode cX0_binding 9 = .ok (.lastore, 1) := dk_80 (dk_at dksX0_binding_0 9 rfl rfl)
theorem dX0_binding_10 : decode cX0_binding 10 = .ok (.goto 7, 3) := dk_167 0 7 (dk_at dksX0_binding_0 10 rfl rfl)
theorem dX0_binding_13 : decode cX0_binding 13 = .ok (.astore 4, 2) := dk_58 4 (dk_at dksX0_binding_0 13 rfl rfl)
theorem dX0_binding_15 : decode cX0_binding 15 = .ok (.iconst 1, 1) := dk_4 (dk_at dksX0_binding_0 15 rfl rfl)
theorem dX0_binding_16 : decode cX0_binding 16 = .ok (.ireturn, 1) := dk_172 (dk_at dksX0_binding_0 16 rfl rfl)
theorem dX0_binding_17 : decode cX0_binding 17 = .ok (.iconst 0, 1) := dk_3 (dk_at dksX0_binding_0 17 rfl rfl)
theorem dX0_binding_18 : decode cX0_binding 18 = .ok (.ireturn, 1) := dk_172 (dk_at dksX0_binding_0 18 rfl rfl)
abbrev cX0_minority : ByteArray := method_12_code
def yX0_minority : MethodName := ⟨RX0, "minority", "(LLinkElection;I[J)I"⟩
def dkwX0_minority_0 : List UInt8 := [44, 3, 42, 27, 182, 0, 42, 133, 80, 167, 0, 6, 78, 4, 172, 3, 172]
abbrev dktX0_minority_0 : List UInt8 := dkwX0_minority_0 ++ []
theorem dksX0_minority_0 : cX0_minority.data.toList.drop 0 = dktX0_minority_0 := by decide +kernel
theorem dX0_minority_0 : decode cX0_minority 0 = .ok (.aload_n 2, 1) := dk_44 (dk_at dksX0_minority_0 0 rfl rfl)
theorem dX0_minority_1 : decode cX0_minority 1 = .ok (.iconst 0, 1) := dk_3 (dk_at dksX0_minority_0 1 rfl rfl)
theorem dX0_minority_2 : decode cX0_minority 2 = .ok (.aload_n 0, 1) := dk_42 (dk_at dksX0_minority_0 2 rfl rfl)
theorem dX0_minority_3 : decode cX0_minority 3 = .ok (.iload_n 1, 1) := dk_27 (dk_at dksX0_minority_0 3 rfl rfl)
theorem dX0_minority_4 : decode cX0_minority 4 = .ok (.invokevirtual 42, 3) := dk_182 0 42 (dk_at dksX0_minority_0 4 rfl rfl)
theorem dX0_minority_7 : decode cX0_minority 7 = .ok (.i2l, 1) := dk_133 (dk_at dksX0_minority_0 7 rfl rfl)
theorem dX0_minority_8 : decode cX0_minority 8 = .ok (.lastore, 1) := dk_80 (dk_at dksX0_minority_0 8 rfl rfl)
theorem dX0_minority_9 : decode cX0_minority 9 = .ok (.goto 6, 3) := dk_167 0 6 (dk_at dksX0_minority_0 9 rfl rfl)
theorem dX0_minority_12 : decode cX0_minority 12 = .ok (.astore_n 3, 1) := dk_78 (dk_at dksX0_minority_0 12 rfl rfl)
theorem dX0_minority_13 : decode cX0_minority 13 = .ok (.iconst 1, 1) := dk_4 (dk_at dksX0_minority_0 13 rfl rfl)
theorem dX0_minority_14 : decode cX0_minority 14 = .ok (.ireturn, 1) := dk_172 (dk_at dksX0_minority_0 14 rfl rfl)
theorem dX0_minority_15 : decode cX0_minority 15 = .ok (.iconst 0, 1) := dk_3 (dk_at dksX0_minority_0 15 rfl rfl)
theorem dX0_minority_16 : decode cX0_minority 16 = .ok (.ireturn, 1) := dk_172 (dk_at dksX0_minority_0 16 rfl rfl)
abbrev cX0_call : ByteArray := method_13_code
def yX0_call : MethodName := ⟨RX0, "call", "(LLinkElection;II[J)I"⟩
def dkwX0_call_0 : List UInt8 := [45, 3, 42, 27, 28, 182, 0, 45, 133, 80, 167, 0, 7, 58, 4, 4, 172, 3, 172]
abbrev dktX0_call_0 : List UInt8 := dkwX0_call_0 ++ []
theorem dksX0_call_0 : cX0_call.data.toList.drop 0 = dktX0_call_0 := by decide +kernel
theorem dX0_call_0 : decode cX0_call 0 = .ok (.aload_n 3, 1) := dk_45 (dk_at dksX0_call_0 0 rfl rfl)
theorem dX0_call_1 : decode cX0_call 1 = .ok (.iconst 0, 1) := dk_3 (dk_at dksX0_call_0 1 rfl rfl)
theorem dX0_call_2 : decode cX0_call 2 = .ok (.aload_n 0, 1) := dk_42 (dk_at dksX0_call_0 2 rfl rfl)
theorem dX0_call_3 : decode cX0_call 3 = .ok (.iload_n 1, 1) := dk_27 (dk_at dksX0_call_0 3 rfl rfl)
theorem dX0_call_4 : decode cX0_call 4 = .ok (.iload_n 2, 1) := dk_28 (dk_at dksX0_call_0 4 rfl rfl)
theorem dX0_call_5 : decode cX0_call 5 = .ok (.invokevirtual 45, 3) := dk_182 0 45 (dk_at dksX0_call_0 5 rfl rfl)
theorem dX0_call_8 : decode cX0_call 8 = .ok (.i2l, 1) := dk_133 (dk_at dksX0_call_0 8 rfl rfl)
theorem dX0_call_9 : decode cX0_call 9 = .ok (.lastore, 1) := dk_80 (dk_at dksX0_call_0 9 rfl rfl)
theorem dX0_call_10 : decode cX0_call 10 = .ok (.goto 7, 3) := dk_167 0 7 (dk_at dksX0_call_0 10 rfl rfl)
theorem dX0_call_13 : decode cX0_call 13 = .ok (.astore 4, 2) := dk_58 4 (dk_at dksX0_call_0 13 rfl rfl)
theorem dX0_call_15 : decode cX0_call 15 = .ok (.iconst 1, 1) := dk_4 (dk_at dksX0_call_0 15 rfl rfl)
theorem dX0_call_16 : decode cX0_call 16 = .ok (.ireturn, 1) := dk_172 (dk_at dksX0_call_0 16 rfl rfl)
theorem dX0_call_17 : decode cX0_call 17 = .ok (.iconst 0, 1) := dk_3 (dk_at dksX0_call_0 17 rfl rfl)
theorem dX0_call_18 : decode cX0_call 18 = .ok (.ireturn, 1) := dk_172 (dk_at dksX0_call_0 18 rfl rfl)
abbrev cX0_steps : ByteArray := method_14_code
def yX0_steps : MethodName := ⟨RX0, "steps", "(LLinkElection;II[J)I"⟩
def dkwX0_steps_0 : List UInt8 := [45, 3, 42, 27, 28, 182, 0, 48, 133, 80, 167, 0, 7, 58, 4, 4, 172, 3, 172]
abbrev dktX0_steps_0 : List UInt8 := dkwX0_steps_0 ++ []
theorem dksX0_steps_0 : cX0_steps.data.toList.drop 0 = dktX0_steps_0 := by decide +kernel
theorem dX0_steps_0 : decode cX0_steps 0 = .ok (.aload_n 3, 1) := dk_45 (dk_at dksX0_steps_0 0 rfl rfl)
theorem dX0_steps_1 : decode cX0_steps 1 = .ok (.iconst 0, 1) := dk_3 (dk_at dksX0_steps_0 1 rfl rfl)
theorem dX0_steps_2 : decode cX0_steps 2 = .ok (.aload_n 0, 1) := dk_42 (dk_at dksX0_steps_0 2 rfl rfl)
theorem dX0_steps_3 : decode cX0_steps 3 = .ok (.iload_n 1, 1) := dk_27 (dk_at dksX0_steps_0 3 rfl rfl)
theorem dX0_steps_4 : decode cX0_steps 4 = .ok (.iload_n 2, 1) := dk_28 (dk_at dksX0_steps_0 4 rfl rfl)
theorem dX0_steps_5 : decode cX0_steps 5 = .ok (.invokevirtual 48, 3) := dk_182 0 48 (dk_at dksX0_steps_0 5 rfl rfl)
theorem dX0_steps_8 : decode cX0_steps 8 = .ok (.i2l, 1) := dk_133 (dk_at dksX0_steps_0 8 rfl rfl)
theorem dX0_steps_9 : decode cX0_steps 9 = .ok (.lastore, 1) := dk_80 (dk_at dksX0_steps_0 9 rfl rfl)
theorem dX0_steps_10 : decode cX0_steps 10 = .ok (.goto 7, 3) := dk_167 0 7 (dk_at dksX0_steps_0 10 rfl rfl)
theorem dX0_steps_13 : decode cX0_steps 13 = .ok (.astore 4, 2) := dk_58 4 (dk_at dksX0_steps_0 13 rfl rfl)
theorem dX0_steps_15 : decode cX0_steps 15 = .ok (.iconst 1, 1) := dk_4 (dk_at dksX0_steps_0 15 rfl rfl)
theorem dX0_steps_16 : decode cX0_steps 16 = .ok (.ireturn, 1) := dk_172 (dk_at dksX0_steps_0 16 rfl rfl)
theorem dX0_steps_17 : decode cX0_steps 17 = .ok (.iconst 0, 1) := dk_3 (dk_at dksX0_steps_0 17 rfl rfl)
theorem dX0_steps_18 : decode cX0_steps 18 = .ok (.ireturn, 1) := dk_172 (dk_at dksX0_steps_0 18 rfl rfl)
abbrev cX0_users : ByteArray := method_15_code
def yX0_users : MethodName := ⟨RX0, "users", "(LLinkElection;II[J)I"⟩
def dkwX0_users_0 : List UInt8 := [45, 3, 42, 27, 28, 182, 0, 51, 133, 80, 167, 0, 7, 58, 4, 4, 172, 3, 172]
abbrev dktX0_users_0 : List UInt8 := dkwX0_users_0 ++ []
theorem dksX0_users_0 : cX0_users.data.toList.drop 0 = dktX0_users_0 := by decide +kernel
theorem dX0_users_0 : decode cX0_users 0 = .ok (.aload_n 3, 1) := dk_45 (dk_at dksX0_users_0 0 rfl rfl)
theorem dX0_users_1 : decode cX0_users 1 = .ok (.iconst 0, 1) := dk_3 (dk_at dksX0_users_0 1 rfl rfl)
theorem dX0_users_2 : decode cX0_users 2 = .ok (.aload_n 0, 1) := dk_42 (dk_at dksX0_users_0 2 rfl rfl)
theorem dX0_users_3 : decode cX0_users 3 = .ok (.iload_n 1, 1) := dk_27 (dk_at dksX0_users_0 3 rfl rfl)
theorem dX0_users_4 : decode cX0_users 4 = .ok (.iload_n 2, 1) := dk_28 (dk_at dksX0_users_0 4 rfl rfl)
theorem dX0_users_5 : decode cX0_users 5 = .ok (.invokevirtual 51, 3) := dk_182 0 51 (dk_at dksX0_users_0 5 rfl rfl)
theorem dX0_users_8 : decode cX0_users 8 = .ok (.i2l, 1) := dk_133 (dk_at dksX0_users_0 8 rfl rfl)
theorem dX0_users_9 : decode cX0_users 9 = .ok (.lastore, 1) := dk_80 (dk_at dksX0_users_0 9 rfl rfl)
theorem dX0_users_10 : decode cX0_users 10 = .ok (.goto 7, 3) := dk_167 0 7 (dk_at dksX0_users_0 10 rfl rfl)
theorem dX0_users_13 : decode cX0_users 13 = .ok (.astore 4, 2) := dk_58 4 (dk_at dksX0_users_0 13 rfl rfl)
theorem dX0_users_15 : decode cX0_users 15 = .ok (.iconst 1, 1) := dk_4 (dk_at dksX0_users_0 15 rfl rfl)
theorem dX0_users_16 : decode cX0_users 16 = .ok (.ireturn, 1) := dk_172 (dk_at dksX0_users_0 16 rfl rfl)
theorem dX0_users_17 : decode cX0_users 17 = .ok (.iconst 0, 1) := dk_3 (dk_at dksX0_users_0 17 rfl rfl)
theorem dX0_users_18 : decode cX0_users 18 = .ok (.ireturn, 1) := dk_172 (dk_at dksX0_users_0 18 rfl rfl)
abbrev cX0_unload : ByteArray := method_16_code
def yX0_unload : MethodName := ⟨RX0, "unload", "(LLinkElection;I[J)I"⟩
def dkwX0_unload_0 : List UInt8 := [44, 3, 42, 27, 182, 0, 54, 133, 80, 167, 0, 9, 78, 4, 172, 78, 5, 172, 3, 172]
abbrev dktX0_unload_0 : List UInt8 := dkwX0_unload_0 ++ []
theorem dksX0_unload_0 : cX0_unload.data.toList.drop 0 = dktX0_unload_0 := by decide +kernel
theorem dX0_unload_0 : decode cX0_unload 0 = .ok (.aload_n 2, 1) := dk_44 (dk_at dksX0_unload_0 0 rfl rfl)
theorem dX0_unload_1 : decode cX0_unload 1 = .ok (.iconst 0, 1) := dk_3 (dk_at dksX0_unload_0 1 rfl rfl)
theorem dX0_unload_2 : decode cX0_unload 2 = .ok (.aload_n 0, 1) := dk_42 (dk_at dksX0_unload_0 2 rfl rfl)
theorem dX0_unload_3 : decode cX0_unload 3 = .ok (.iload_n 1, 1) := dk_27 (dk_at dksX0_unload_0 3 rfl rfl)
theorem dX0_unload_4 : decode cX0_unload 4 = .ok (.invokevirtual 54, 3) := dk_182 0 54 (dk_at dksX0_unload_0 4 rfl rfl)
theorem dX0_unload_7 : decode cX0_unload 7 = .ok (.i2l, 1) := dk_133 (dk_at dksX0_unload_0 7 rfl rfl)
theorem dX0_unload_8 : decode cX0_unload 8 = .ok (.lastore, 1) := dk_80 (dk_at dksX0_unload_0 8 rfl rfl)
theorem dX0_unload_9 : decode cX0_unload 9 = .ok (.goto 9, 3) := dk_167 0 9 (dk_at dksX0_unload_0 9 rfl rfl)
theorem dX0_unload_12 : decode cX0_unload 12 = .ok (.astore_n 3, 1) := dk_78 (dk_at dksX0_unload_0 12 rfl rfl)
theorem dX0_unload_13 : decode cX0_unload 13 = .ok (.iconst 1, 1) := dk_4 (dk_at dksX0_unload_0 13 rfl rfl)
theorem dX0_unload_14 : decode cX0_unload 14 = .ok (.ireturn, 1) := dk_172 (dk_at dksX0_unload_0 14 rfl rfl)
theorem dX0_unload_15 : decode cX0_unload 15 = .ok (.astore_n 3, 1) := dk_78 (dk_at dksX0_unload_0 15 rfl rfl)
theorem dX0_unload_16 : decode cX0_unload 16 = .ok (.iconst 2, 1) := dk_5 (dk_at dksX0_unload_0 16 rfl rfl)
theorem dX0_unload_17 : decode cX0_unload 17 = .ok (.ireturn, 1) := dk_172 (dk_at dksX0_unload_0 17 rfl rfl)
theorem dX0_unload_18 : decode cX0_unload 18 = .ok (.iconst 0, 1) := dk_3 (dk_at dksX0_unload_0 18 rfl rfl)
theorem dX0_unload_19 : decode cX0_unload 19 = .ok (.ireturn, 1) := dk_172 (dk_at dksX0_unload_0 19 rfl rfl)
abbrev cX0_reload : ByteArray := method_17_code
def yX0_reload : MethodName := ⟨RX0, "reload", "(LLinkElection;I[J)I"⟩
def dkwX0_reload_0 : List UInt8 := [44, 3, 42, 27, 182, 0, 59, 133, 80, 167, 0, 9, 78, 4, 172, 78, 5, 172, 3, 172]
abbrev dktX0_reload_0 : List UInt8 := dkwX0_reload_0 ++ []
theorem dksX0_reload_0 : cX0_reload.data.toList.drop 0 = dktX0_reload_0 := by decide +kernel
theorem dX0_reload_0 : decode cX0_reload 0 = .ok (.aload_n 2, 1) := dk_44 (dk_at dksX0_reload_0 0 rfl rfl)
theorem dX0_reload_1 : decode cX0_reload 1 = .ok (.iconst 0, 1) := dk_3 (dk_at dksX0_reload_0 1 rfl rfl)
theorem dX0_reload_2 : decode cX0_reload 2 = .ok (.aload_n 0, 1) := dk_42 (dk_at dksX0_reload_0 2 rfl rfl)
theorem dX0_reload_3 : decode cX0_reload 3 = .ok (.iload_n 1, 1) := dk_27 (dk_at dksX0_reload_0 3 rfl rfl)
theorem dX0_reload_4 : decode cX0_reload 4 = .ok (.invokevirtual 59, 3) := dk_182 0 59 (dk_at dksX0_reload_0 4 rfl rfl)
theorem dX0_reload_7 : decode cX0_reload 7 = .ok (.i2l, 1) := dk_133 (dk_at dksX0_reload_0 7 rfl rfl)
theorem dX0_reload_8 : decode cX0_reload 8 = .ok (.lastore, 1) := dk_80 (dk_at dksX0_reload_0 8 rfl rfl)
theorem dX0_reload_9 : decode cX0_reload 9 = .ok (.goto 9, 3) := dk_167 0 9 (dk_at dksX0_reload_0 9 rfl rfl)
theorem dX0_reload_12 : decode cX0_reload 12 = .ok (.astore_n 3, 1) := dk_78 (dk_at dksX0_reload_0 12 rfl rfl)
theorem dX0_reload_13 : decode cX0_reload 13 = .ok (.iconst 1, 1) := dk_4 (dk_at dksX0_reload_0 13 rfl rfl)
theorem dX0_reload_14 : decode cX0_reload 14 = .ok (.ireturn, 1) := dk_172 (dk_at dksX0_reload_0 14 rfl rfl)
theorem dX0_reload_15 : decode cX0_reload 15 = .ok (.astore_n 3, 1) := dk_78 (dk_at dksX0_reload_0 15 rfl rfl)
theorem dX0_reload_16 : decode cX0_reload 16 = .ok (.iconst 2, 1) := dk_5 (dk_at dksX0_reload_0 16 rfl rfl)
theorem dX0_reload_17 : decode cX0_reload 17 = .ok (.ireturn, 1) := dk_172 (dk_at dksX0_reload_0 17 rfl rfl)
theorem dX0_reload_18 : decode cX0_reload 18 = .ok (.iconst 0, 1) := dk_3 (dk_at dksX0_reload_0 18 rfl rfl)
theorem dX0_reload_19 : decode cX0_reload 19 = .ok (.ireturn, 1) := dk_172 (dk_at dksX0_reload_0 19 rfl rfl)
abbrev cX0_offerValue : ByteArray := method_18_code
def yX0_offerValue : MethodName := ⟨RX0, "offerValue", "(LLinkElection;III[J)I"⟩
def dkwX0_offerValue_1 : List UInt8 := [172]
abbrev dktX0_offerValue_1 : List UInt8 := dkwX0_offerValue_1 ++ []
def dkwX0_offerValue_0 : List UInt8 := [25, 4, 3, 42, 27, 28, 29, 182, 0, 62, 133, 80, 167, 0, 11, 58, 5, 4, 172, 58, 5, 5, 172, 3]
abbrev dktX0_offerValue_0 : List UInt8 := dkwX0_offerValue_0 ++ dktX0_offerValue_1
theorem dksX0_offerValue_0 : cX0_offerValue.data.toList.drop 0 = dktX0_offerValue_0 := by decide +kernel
theorem dksX0_offerValue_1 : cX0_offerValue.data.toList.drop 24 = dktX0_offerValue_1 := dk_seg dksX0_offerValue_0 24 rfl rfl
theorem dX0_offerValue_0 : decode cX0_offerValue 0 = .ok (.aload 4, 2) := dk_25 4 (dk_at dksX0_offerValue_0 0 rfl rfl)
theorem dX0_offerValue_2 : decode cX0_offerValue 2 = .ok (.iconst 0, 1) := dk_3 (dk_at dksX0_offerValue_0 2 rfl rfl)
theorem dX0_offerValue_3 : decode cX0_offerValue 3 = .ok (.aload_n 0, 1) := dk_42 (dk_at dksX0_offerValue_0 3 rfl rfl)
theorem dX0_offerValue_4 : decode cX0_offerValue 4 = .ok (.iload_n 1, 1) := dk_27 (dk_at dksX0_offerValue_0 4 rfl rfl)
theorem dX0_offerValue_5 : decode cX0_offerValue 5 = .ok (.iload_n 2, 1) := dk_28 (dk_at dksX0_offerValue_0 5 rfl rfl)
theorem dX0_offerValue_6 : decode cX0_offerValue 6 = .ok (.iload_n 3, 1) := dk_29 (dk_at dksX0_offerValue_0 6 rfl rfl)
theorem dX0_offerValue_7 : decode cX0_offerValue 7 = .ok (.invokevirtual 62, 3) := dk_182 0 62 (dk_at dksX0_offerValue_0 7 rfl rfl)
theorem dX0_offerValue_10 : decode cX0_offerValue 10 = .ok (.i2l, 1) := dk_133 (dk_at dksX0_offerValue_0 10 rfl rfl)
theorem dX0_offerValue_11 : decode cX0_offerValue 11 = .ok (.lastore, 1) := dk_80 (dk_at dksX0_offerValue_0 11 rfl rfl)
theorem dX0_offerValue_12 : decode cX0_offerValue 12 = .ok (.goto 11, 3) := dk_167 0 11 (dk_at dksX0_offerValue_0 12 rfl rfl)
theorem dX0_offerValue_15 : decode cX0_offerValue 15 = .ok (.astore 5, 2) := dk_58 5 (dk_at dksX0_offerValue_0 15 rfl rfl)
theorem dX0_offerValue_17 : decode cX0_offerValue 17 = .ok (.iconst 1, 1) := dk_4 (dk_at dksX0_offerValue_0 17 rfl rfl)
theorem dX0_offerValue_18 : decode cX0_offerValue 18 = .ok (.ireturn, 1) := dk_172 (dk_at dksX0_offerValue_0 18 rfl rfl)
theorem dX0_offerValue_19 : decode cX0_offerValue 19 = .ok (.astore 5, 2) := dk_58 5 (dk_at dksX0_offerValue_0 19 rfl rfl)
theorem dX0_offerValue_21 : decode cX0_offerValue 21 = .ok (.iconst 2, 1) := dk_5 (dk_at dksX0_offerValue_0 21 rfl rfl)
theorem dX0_offerValue_22 : decode cX0_offerValue 22 = .ok (.ireturn, 1) := dk_172 (dk_at dksX0_offerValue_0 22 rfl rfl)
theorem dX0_offerValue_23 : decode cX0_offerValue 23 = .ok (.iconst 0, 1) := dk_3 (dk_at dksX0_offerValue_0 23 rfl rfl)
theorem dX0_offerValue_24 : decode cX0_offerValue 24 = .ok (.ireturn, 1) := dk_172 (dk_at dksX0_offerValue_1 0 rfl rfl)
abbrev cX0_offerForward : ByteArray := method_19_code
def yX0_offerForward : MethodName := ⟨RX0, "offerForward", "(LLinkElection;III[J)I"⟩
def dkwX0_offerForward_0 : List UInt8 := [25, 4, 3, 42, 27, 28, 29, 182, 0, 66, 133, 80, 167, 0, 7, 58, 5, 4, 172, 3, 172]
abbrev dktX0_offerForward_0 : List UInt8 := dkwX0_offerForward_0 ++ []
theorem dksX0_offerForward_0 : cX0_offerForward.data.toList.drop 0 = dktX0_offerForward_0 := by decide +kernel
theorem dX0_offerForward_0 : decode cX0_offerForward 0 = .ok (.aload 4, 2) := dk_25 4 (dk_at dksX0_offerForward_0 0 rfl rfl)
theorem dX0_offerForward_2 : decode cX0_offerForward 2 = .ok (.iconst 0, 1) := dk_3 (dk_at dksX0_offerForward_0 2 rfl rfl)
theorem dX0_offerForward_3 : decode cX0_offerForward 3 = .ok (.aload_n 0, 1) := dk_42 (dk_at dksX0_offerForward_0 3 rfl rfl)
theorem dX0_offerForward_4 : decode cX0_offerForward 4 = .ok (.iload_n 1, 1) := dk_27 (dk_at dksX0_offerForward_0 4 rfl rfl)
theorem dX0_offerForward_5 : decode cX0_offerForward 5 = .ok (.iload_n 2, 1) := dk_28 (dk_at dksX0_offerForward_0 5 rfl rfl)
theorem dX0_offerForward_6 : decode cX0_offerForward 6 = .ok (.iload_n 3, 1) := dk_29 (dk_at dksX0_offerForward_0 6 rfl rfl)
theorem dX0_offerForward_7 : decode cX0_offerForward 7 = .ok (.invokevirtual 66, 3) := dk_182 0 66 (dk_at dksX0_offerForward_0 7 rfl rfl)
theorem dX0_offerForward_10 : decode cX0_offerForward 10 = .ok (.i2l, 1) := dk_133 (dk_at dksX0_offerForward_0 10 rfl rfl)
theorem dX0_offerForward_11 : decode cX0_offerForward 11 = .ok (.lastore, 1) := dk_80 (dk_at dksX0_offerForward_0 11 rfl rfl)
theorem dX0_offerForward_12 : decode cX0_offerForward 12 = .ok (.goto 7, 3) := dk_167 0 7 (dk_at dksX0_offerForward_0 12 rfl rfl)
theorem dX0_offerForward_15 : decode cX0_offerForward 15 = .ok (.astore 5, 2) := dk_58 5 (dk_at dksX0_offerForward_0 15 rfl rfl)
theorem dX0_offerForward_17 : decode cX0_offerForward 17 = .ok (.iconst 1, 1) := dk_4 (dk_at dksX0_offerForward_0 17 rfl rfl)
theorem dX0_offerForward_18 : decode cX0_offerForward 18 = .ok (.ireturn, 1) := dk_172 (dk_at dksX0_offerForward_0 18 rfl rfl)
theorem dX0_offerForward_19 : decode cX0_offerForward 19 = .ok (.iconst 0, 1) := dk_3 (dk_at dksX0_offerForward_0 19 rfl rfl)
theorem dX0_offerForward_20 : decode cX0_offerForward 20 = .ok (.ireturn, 1) := dk_172 (dk_at dksX0_offerForward_0 20 rfl rfl)
abbrev cX0_withdraw : ByteArray := method_20_code
def yX0_withdraw : MethodName := ⟨RX0, "withdraw", "(LLinkElection;II[J)I"⟩
def dkwX0_withdraw_0 : List UInt8 := [45, 3, 42, 27, 28, 182, 0, 69, 133, 80, 167, 0, 11, 58, 4, 4, 172, 58, 4, 5, 172, 3, 172]
abbrev dktX0_withdraw_0 : List UInt8 := dkwX0_withdraw_0 ++ []
theorem dksX0_withdraw_0 : cX0_withdraw.data.toList.drop 0 = dktX0_withdraw_0 := by decide +kernel
theorem dX0_withdraw_0 : decode cX0_withdraw 0 = .ok (.aload_n 3, 1) := dk_45 (dk_at dksX0_withdraw_0 0 rfl rfl)
theorem dX0_withdraw_1 : decode cX0_withdraw 1 = .ok (.iconst 0, 1) := dk_3 (dk_at dksX0_withdraw_0 1 rfl rfl)
theorem dX0_withdraw_2 : decode cX0_withdraw 2 = .ok (.aload_n 0, 1) := dk_42 (dk_at dksX0_withdraw_0 2 rfl rfl)
theorem dX0_withdraw_3 : decode cX0_withdraw 3 = .ok (.iload_n 1, 1) := dk_27 (dk_at dksX0_withdraw_0 3 rfl rfl)
theorem dX0_withdraw_4 : decode cX0_withdraw 4 = .ok (.iload_n 2, 1) := dk_28 (dk_at dksX0_withdraw_0 4 rfl rfl)
theorem dX0_withdraw_5 : decode cX0_withdraw 5 = .ok (.invokevirtual 69, 3) := dk_182 0 69 (dk_at dksX0_withdraw_0 5 rfl rfl)
theorem dX0_withdraw_8 : decode cX0_withdraw 8 = .ok (.i2l, 1) := dk_133 (dk_at dksX0_withdraw_0 8 rfl rfl)
theorem dX0_withdraw_9 : decode cX0_withdraw 9 = .ok (.lastore, 1) := dk_80 (dk_at dksX0_withdraw_0 9 rfl rfl)
theorem dX0_withdraw_10 : decode cX0_withdraw 10 = .ok (.goto 11, 3) := dk_167 0 11 (dk_at dksX0_withdraw_0 10 rfl rfl)
theorem dX0_withdraw_13 : decode cX0_withdraw 13 = .ok (.astore 4, 2) := dk_58 4 (dk_at dksX0_withdraw_0 13 rfl rfl)
theorem dX0_withdraw_15 : decode cX0_withdraw 15 = .ok (.iconst 1, 1) := dk_4 (dk_at dksX0_withdraw_0 15 rfl rfl)
theorem dX0_withdraw_16 : decode cX0_withdraw 16 = .ok (.ireturn, 1) := dk_172 (dk_at dksX0_withdraw_0 16 rfl rfl)
theorem dX0_withdraw_17 : decode cX0_withdraw 17 = .ok (.astore 4, 2) := dk_58 4 (dk_at dksX0_withdraw_0 17 rfl rfl)
theorem dX0_withdraw_19 : decode cX0_withdraw 19 = .ok (.iconst 2, 1) := dk_5 (dk_at dksX0_withdraw_0 19 rfl rfl)
theorem dX0_withdraw_20 : decode cX0_withdraw 20 = .ok (.ireturn, 1) := dk_172 (dk_at dksX0_withdraw_0 20 rfl rfl)
theorem dX0_withdraw_21 : decode cX0_withdraw 21 = .ok (.iconst 0, 1) := dk_3 (dk_at dksX0_withdraw_0 21 rfl rfl)
theorem dX0_withdraw_22 : decode cX0_withdraw 22 = .ok (.ireturn, 1) := dk_172 (dk_at dksX0_withdraw_0 22 rfl rfl)
abbrev cX0_setTrust : ByteArray := method_21_code
def yX0_setTrust : MethodName := ⟨RX0, "setTrust", "(LLinkElection;II[J)I"⟩
def dkwX0_setTrust_0 : List UInt8 := [45, 3, 42, 27, 28, 182, 0, 72, 133, 80, 167, 0, 11, 58, 4, 4, 172, 58, 4, 5, 172, 3, 172]
abbrev dktX0_setTrust_0 : List UInt8 := dkwX0_setTrust_0 ++ []
theorem dksX0_setTrust_0 : cX0_setTrust.data.toList.drop 0 = dktX0_setTrust_0 := by decide +kernel
theorem dX0_setTrust_0 : decode cX0_setTrust 0 = .ok (.aload_n 3, 1) := dk_45 (dk_at dksX0_setTrust_0 0 rfl rfl)
theorem dX0_setTrust_1 : decode cX0_setTrust 1 = .ok (.iconst 0, 1) := dk_3 (dk_at dksX0_setTrust_0 1 rfl rfl)
theorem dX0_setTrust_2 : decode cX0_setTrust 2 = .ok (.aload_n 0, 1) := dk_42 (dk_at dksX0_setTrust_0 2 rfl rfl)
theorem dX0_setTrust_3 : decode cX0_setTrust 3 = .ok (.iload_n 1, 1) := dk_27 (dk_at dksX0_setTrust_0 3 rfl rfl)
theorem dX0_setTrust_4 : decode cX0_setTrust 4 = .ok (.iload_n 2, 1) := dk_28 (dk_at dksX0_setTrust_0 4 rfl rfl)
theorem dX0_setTrust_5 : decode cX0_setTrust 5 = .ok (.invokevirtual 72, 3) := dk_182 0 72 (dk_at dksX0_setTrust_0 5 rfl rfl)
theorem dX0_setTrust_8 : decode cX0_setTrust 8 = .ok (.i2l, 1) := dk_133 (dk_at dksX0_setTrust_0 8 rfl rfl)
theorem dX0_setTrust_9 : decode cX0_setTrust 9 = .ok (.lastore, 1) := dk_80 (dk_at dksX0_setTrust_0 9 rfl rfl)
theorem dX0_setTrust_10 : decode cX0_setTrust 10 = .ok (.goto 11, 3) := dk_167 0 11 (dk_at dksX0_setTrust_0 10 rfl rfl)
theorem dX0_setTrust_13 : decode cX0_setTrust 13 = .ok (.astore 4, 2) := dk_58 4 (dk_at dksX0_setTrust_0 13 rfl rfl)
theorem dX0_setTrust_15 : decode cX0_setTrust 15 = .ok (.iconst 1, 1) := dk_4 (dk_at dksX0_setTrust_0 15 rfl rfl)
theorem dX0_setTrust_16 : decode cX0_setTrust 16 = .ok (.ireturn, 1) := dk_172 (dk_at dksX0_setTrust_0 16 rfl rfl)
theorem dX0_setTrust_17 : decode cX0_setTrust 17 = .ok (.astore 4, 2) := dk_58 4 (dk_at dksX0_setTrust_0 17 rfl rfl)
theorem dX0_setTrust_19 : decode cX0_setTrust 19 = .ok (.iconst 2, 1) := dk_5 (dk_at dksX0_setTrust_0 19 rfl rfl)
theorem dX0_setTrust_20 : decode cX0_setTrust 20 = .ok (.ireturn, 1) := dk_172 (dk_at dksX0_setTrust_0 20 rfl rfl)
theorem dX0_setTrust_21 : decode cX0_setTrust 21 = .ok (.iconst 0, 1) := dk_3 (dk_at dksX0_setTrust_0 21 rfl rfl)
theorem dX0_setTrust_22 : decode cX0_setTrust 22 = .ok (.ireturn, 1) := dk_172 (dk_at dksX0_setTrust_0 22 rfl rfl)
abbrev cX0_setKeeps : ByteArray := method_22_code
def yX0_setKeeps : MethodName := ⟨RX0, "setKeeps", "(LLinkElection;IZ[J)I"⟩
def dkwX0_setKeeps_0 : List UInt8 := [45, 3, 42, 27, 28, 182, 0, 75, 133, 80, 167, 0, 7, 58, 4, 4, 172, 3, 172]
abbrev dktX0_setKeeps_0 : List UInt8 := dkwX0_setKeeps_0 ++ []
theorem dksX0_setKeeps_0 : cX0_setKeeps.data.toList.drop 0 = dktX0_setKeeps_0 := by decide +kernel
theorem dX0_setKeeps_0 : decode cX0_setKeeps 0 = .ok (.aload_n 3, 1) := dk_45 (dk_at dksX0_setKeeps_0 0 rfl rfl)
theorem dX0_setKeeps_1 : decode cX0_setKeeps 1 = .ok (.iconst 0, 1) := dk_3 (dk_at dksX0_setKeeps_0 1 rfl rfl)
theorem dX0_setKeeps_2 : decode cX0_setKeeps 2 = .ok (.aload_n 0, 1) := dk_42 (dk_at dksX0_setKeeps_0 2 rfl rfl)
theorem dX0_setKeeps_3 : decode cX0_setKeeps 3 = .ok (.iload_n 1, 1) := dk_27 (dk_at dksX0_setKeeps_0 3 rfl rfl)
theorem dX0_setKeeps_4 : decode cX0_setKeeps 4 = .ok (.iload_n 2, 1) := dk_28 (dk_at dksX0_setKeeps_0 4 rfl rfl)
theorem dX0_setKeeps_5 : decode cX0_setKeeps 5 = .ok (.invokevirtual 75, 3) := dk_182 0 75 (dk_at dksX0_setKeeps_0 5 rfl rfl)
theorem dX0_setKeeps_8 : decode cX0_setKeeps 8 = .ok (.i2l, 1) := dk_133 (dk_at dksX0_setKeeps_0 8 rfl rfl)
theorem dX0_setKeeps_9 : decode cX0_setKeeps 9 = .ok (.lastore, 1) := dk_80 (dk_at dksX0_setKeeps_0 9 rfl rfl)
theorem dX0_setKeeps_10 : decode cX0_setKeeps 10 = .ok (.goto 7, 3) := dk_167 0 7 (dk_at dksX0_setKeeps_0 10 rfl rfl)
theorem dX0_setKeeps_13 : decode cX0_setKeeps 13 = .ok (.astore 4, 2) := dk_58 4 (dk_at dksX0_setKeeps_0 13 rfl rfl)
theorem dX0_setKeeps_15 : decode cX0_setKeeps 15 = .ok (.iconst 1, 1) := dk_4 (dk_at dksX0_setKeeps_0 15 rfl rfl)
theorem dX0_setKeeps_16 : decode cX0_setKeeps 16 = .ok (.ireturn, 1) := dk_172 (dk_at dksX0_setKeeps_0 16 rfl rfl)
theorem dX0_setKeeps_17 : decode cX0_setKeeps 17 = .ok (.iconst 0, 1) := dk_3 (dk_at dksX0_setKeeps_0 17 rfl rfl)
theorem dX0_setKeeps_18 : decode cX0_setKeeps 18 = .ok (.ireturn, 1) := dk_172 (dk_at dksX0_setKeeps_0 18 rfl rfl)
abbrev cX0_setShare : ByteArray := method_23_code
def yX0_setShare : MethodName := ⟨RX0, "setShare", "(LLinkElection;I[J)I"⟩
def dkwX0_setShare_0 : List UInt8 := [44, 3, 42, 27, 182, 0, 79, 133, 80, 167, 0, 6, 78, 4, 172, 3, 172]
abbrev dktX0_setShare_0 : List UInt8 := dkwX0_setShare_0 ++ []
theorem dksX0_setShare_0 : cX0_setShare.data.toList.drop 0 = dktX0_setShare_0 := by decide +kernel
theorem dX0_setShare_0 : decode cX0_setShare 0 = .ok (.aload_n 2, 1) := dk_44 (dk_at dksX0_setShare_0 0 rfl rfl)
theorem dX0_setShare_1 : decode cX0_setShare 1 = .ok (.iconst 0, 1) := dk_3 (dk_at dksX0_setShare_0 1 rfl rfl)
theorem dX0_setShare_2 : decode cX0_setShare 2 = .ok (.aload_n 0, 1) := dk_42 (dk_at dksX0_setShare_0 2 rfl rfl)
theorem dX0_setShare_3 : decode cX0_setShare 3 = .ok (.iload_n 1, 1) := dk_27 (dk_at dksX0_setShare_0 3 rfl rfl)
theorem dX0_setShare_4 : decode cX0_setShare 4 = .ok (.invokevirtual 79, 3) := dk_182 0 79 (dk_at dksX0_setShare_0 4 rfl rfl)
theorem dX0_setShare_7 : decode cX0_setShare 7 = .ok (.i2l, 1) := dk_133 (dk_at dksX0_setShare_0 7 rfl rfl)
theorem dX0_setShare_8 : decode cX0_setShare 8 = .ok (.lastore, 1) := dk_80 (dk_at dksX0_setShare_0 8 rfl rfl)
theorem dX0_setShare_9 : decode cX0_setShare 9 = .ok (.goto 6, 3) := dk_167 0 6 (dk_at dksX0_setShare_0 9 rfl rfl)
theorem dX0_setShare_12 : decode cX0_setShare 12 = .ok (.astore_n 3, 1) := dk_78 (dk_at dksX0_setShare_0 12 rfl rfl)
theorem dX0_setShare_13 : decode cX0_setShare 13 = .ok (.iconst 1, 1) := dk_4 (dk_at dksX0_setShare_0 13 rfl rfl)
theorem dX0_setShare_14 : decode cX0_setShare 14 = .ok (.ireturn, 1) := dk_172 (dk_at dksX0_setShare_0 14 rfl rfl)
theorem dX0_setShare_15 : decode cX0_setShare 15 = .ok (.iconst 0, 1) := dk_3 (dk_at dksX0_setShare_0 15 rfl rfl)
theorem dX0_setShare_16 : decode cX0_setShare 16 = .ok (.ireturn, 1) := dk_172 (dk_at dksX0_setShare_0 16 rfl rfl)
