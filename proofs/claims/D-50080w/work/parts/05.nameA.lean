set_option maxRecDepth 100000
abbrev cX1_init : ByteArray := prog_1_method_4_code
def yX1_init : MethodName := ⟨RX1, "<init>", "()V"⟩
def dkwX1_init_1 : List UInt8 := [42, 187, 0, 48, 89, 187, 0, 50, 89, 183, 0, 52, 183, 0, 53, 181, 0, 56, 42, 2, 181, 0, 60, 177]
abbrev dktX1_init_1 : List UInt8 := dkwX1_init_1 ++ []
def dkwX1_init_0 : List UInt8 := [42, 183, 0, 29, 42, 17, 3, 32, 188, 8, 181, 0, 37, 42, 187, 0, 41, 89, 183, 0, 43, 181, 0, 44]
abbrev dktX1_init_0 : List UInt8 := dkwX1_init_0 ++ dktX1_init_1
theorem dksX1_init_0 : cX1_init.data.toList.drop 0 = dktX1_init_0 := by decide +kernel
theorem dksX1_init_1 : cX1_init.data.toList.drop 24 = dktX1_init_1 := dk_seg dksX1_init_0 24 rfl rfl
theorem dX1_init_0 : decode cX1_init 0 = .ok (.aload_n 0, 1) := dk_42 (dk_at dksX1_init_0 0 rfl rfl)
theorem dX1_init_1 : decode cX1_init 1 = .ok (.invokespecial 29, 3) := dk_183 0 29 (dk_at dksX1_init_0 1 rfl rfl)
theorem dX1_init_4 : decode cX1_init 4 = .ok (.aload_n 0, 1) := dk_42 (dk_at dksX1_init_0 4 rfl rfl)
theorem dX1_init_5 : decode cX1_init 5 = .ok (.sipush 800, 3) := dk_17 3 32 (dk_at dksX1_init_0 5 rfl rfl)
theorem dX1_init_8 : decode cX1_init 8 = .ok (.newarray .byte, 2) := dk_188_8 (dk_at dksX1_init_0 8 rfl rfl)
theorem dX1_init_10 : decode cX1_init 10 = .ok (.putfield 37, 3) := dk_181 0 37 (dk_at dksX1_init_0 10 rfl rfl)
theorem dX1_init_13 : decode cX1_init 13 = .ok (.aload_n 0, 1) := dk_42 (dk_at dksX1_init_0 13 rfl rfl)
theorem dX1_init_14 : decode cX1_init 14 = .ok (.new 41, 3) := dk_187 0 41 (dk_at dksX1_init_0 14 rfl rfl)
theorem dX1_init_17 : decode cX1_init 17 = .ok (.dup, 1) := dk_89 (dk_at dksX1_init_0 17 rfl rfl)
theorem dX1_init_18 : decode cX1_init 18 = .ok (.invokespecial 43, 3) := dk_183 0 43 (dk_at dksX1_init_0 18 rfl rfl)
theorem dX1_init_21 : decode cX1_init 21 = .ok (.putfield 44, 3) := dk_181 0 44 (dk_at dksX1_init_0 21 rfl rfl)
theorem dX1_init_24 : decode cX1_init 24 = .ok (.aload_n 0, 1) := dk_42 (dk_at dksX1_init_1 0 rfl rfl)
theorem dX1_init_25 : decode cX1_init 25 = .ok (.new 48, 3) := dk_187 0 48 (dk_at dksX1_init_1 1 rfl rfl)
theorem dX1_init_28 : decode cX1_init 28 = .ok (.dup, 1) := dk_89 (dk_at dksX1_init_1 4 rfl rfl)
theorem dX1_init_29 : decode cX1_init 29 = .ok (.new 50, 3) := dk_187 0 50 (dk_at dksX1_init_1 5 rfl rfl)
theorem dX1_init_32 : decode cX1_init 32 = .ok (.dup, 1) := dk_89 (dk_at dksX1_init_1 8 rfl rfl)
theorem dX1_init_33 : decode cX1_init 33 = .ok (.invokespecial 52, 3) := dk_183 0 52 (dk_at dksX1_init_1 9 rfl rfl)
theorem dX1_init_36 : decode cX1_init 36 = .ok (.invokespecial 53, 3) := dk_183 0 53 (dk_at dksX1_init_1 12 rfl rfl)
theorem dX1_init_39 : decode cX1_init 39 = .ok (.putfield 56, 3) := dk_181 0 56 (dk_at dksX1_init_1 15 rfl rfl)
theorem dX1_init_42 : decode cX1_init 42 = .ok (.aload_n 0, 1) := dk_42 (dk_at dksX1_init_1 18 rfl rfl)
theorem dX1_init_43 : decode cX1_init 43 = .ok (.iconst (-1), 1) := dk_2 (dk_at dksX1_init_1 19 rfl rfl)
theorem dX1_init_44 : decode cX1_init 44 = .ok (.putfield 60, 3) := dk_181 0 60 (dk_at dksX1_init_1 20 rfl rfl)
theorem dX1_init_47 : decode cX1_init 47 = .ok (.return_, 1) := dk_177 (dk_at dksX1_init_1 23 rfl rfl)
abbrev cX1_variable : ByteArray := prog_1_method_3_code
def yX1_variable : MethodName := ⟨RX1, "variable", "(Ljava/lang/String;)LLinkElection$Weight;"⟩
def dkwX1_variable_7 : List UInt8 := [1, 176]
abbrev dktX1_variable_7 : List UInt8 := dkwX1_variable_7 ++ []
def dkwX1_variable_6 : List UInt8 := [186, 0, 23, 0, 0, 176, 186, 0, 26, 0, 0, 176, 186, 0, 27, 0, 0, 176, 186, 0, 28, 0, 0, 176]
abbrev dktX1_variable_6 : List UInt8 := dkwX1_variable_6 ++ dktX1_variable_7
def dkwX1_variable_5 : List UInt8 := [170, 0, 0, 0, 0, 54, 0, 0, 0, 0, 0, 0, 0, 3, 0, 0, 0, 30, 0, 0, 0, 36, 0, 0, 0, 42, 0, 0, 0, 48]
abbrev dktX1_variable_5 : List UInt8 := dkwX1_variable_5 ++ dktX1_variable_6
def dkwX1_variable_4 : List UInt8 := [153, 0, 5, 6, 61, 28]
abbrev dktX1_variable_4 : List UInt8 := dkwX1_variable_4 ++ dktX1_variable_5
def dkwX1_variable_3 : List UInt8 := [61, 167, 0, 28, 43, 18, 19, 182, 0, 13, 153, 0, 19, 5, 61, 167, 0, 14, 43, 18, 21, 182, 0, 13]
abbrev dktX1_variable_3 : List UInt8 := dkwX1_variable_3 ++ dktX1_variable_4
def dkwX1_variable_2 : List UInt8 := [43, 18, 11, 182, 0, 13, 153, 0, 47, 3, 61, 167, 0, 42, 43, 18, 17, 182, 0, 13, 153, 0, 33, 4]
abbrev dktX1_variable_2 : List UInt8 := dkwX1_variable_2 ++ dktX1_variable_3
def dkwX1_variable_1 : List UInt8 := [171, 0, 0, 0, 0, 0, 0, 97, 0, 0, 0, 4, 195, 55, 49, 151, 0, 0, 0, 72, 220, 59, 73, 149, 0, 0, 0, 86, 0, 53, 76, 44, 0, 0, 0, 58, 6, 152, 62, 88, 0, 0, 0, 44]
abbrev dktX1_variable_1 : List UInt8 := dkwX1_variable_1 ++ dktX1_variable_2
def dkwX1_variable_0 : List UInt8 := [42, 76, 2, 61, 43, 182, 0, 5]
abbrev dktX1_variable_0 : List UInt8 := dkwX1_variable_0 ++ dktX1_variable_1
theorem dksX1_variable_0 : cX1_variable.data.toList.drop 0 = dktX1_variable_0 := by decide +kernel
theorem dksX1_variable_1 : cX1_variable.data.toList.drop 8 = dktX1_variable_1 := dk_seg dksX1_variable_0 8 rfl rfl
theorem dksX1_variable_2 : cX1_variable.data.toList.drop 52 = dktX1_variable_2 := dk_seg dksX1_variable_1 44 rfl rfl
theorem dksX1_variable_3 : cX1_variable.data.toList.drop 76 = dktX1_variable_3 := dk_seg dksX1_variable_2 24 rfl rfl
theorem dksX1_variable_4 : cX1_variable.data.toList.drop 100 = dktX1_variable_4 := dk_seg dksX1_variable_3 24 rfl rfl
theorem dksX1_variable_5 : cX1_variable.data.toList.drop 106 = dktX1_variable_5 := dk_seg dksX1_variable_4 6 rfl rfl
theorem dksX1_variable_6 : cX1_variable.data.toList.drop 136 = dktX1_variable_6 := dk_seg dksX1_variable_5 30 rfl rfl
theorem dksX1_variable_7 : cX1_variable.data.toList.drop 160 = dktX1_variable_7 := dk_seg dksX1_variable_6 24 rfl rfl
theorem dX1_variable_0 : decode cX1_variable 0 = .ok (.aload_n 0, 1) := dk_42 (dk_at dksX1_variable_0 0 rfl rfl)
theorem dX1_variable_1 : decode cX1_variable 1 = .ok (.astore_n 1, 1) := dk_76 (dk_at dksX1_variable_0 1 rfl rfl)
theorem dX1_variable_2 : decode cX1_variable 2 = .ok (.iconst (-1), 1) := dk_2 (dk_at dksX1_variable_0 2 rfl rfl)
theorem dX1_variable_3 : decode cX1_variable 3 = .ok (.istore_n 2, 1) := dk_61 (dk_at dksX1_variable_0 3 rfl rfl)
theorem dX1_variable_4 : decode cX1_variable 4 = .ok (.aload_n 1, 1) := dk_43 (dk_at dksX1_variable_0 4 rfl rfl)
theorem dX1_variable_5 : decode cX1_variable 5 = .ok (.invokevirtual 5, 3) := dk_182 0 5 (dk_at dksX1_variable_0 5 rfl rfl)
theorem dX1_variable_8 : decode cX1_variable 8 = .ok (.lookupswitch 97 #[(-1019793001, 72), (-600094315, 86), (3492908, 58), (110640728, 44)], 44) := by decide +kernel
theorem dX1_variable_52 : decode cX1_variable 52 = .ok (.aload_n 1, 1) := dk_43 (dk_at dksX1_variable_2 0 rfl rfl)
theorem dX1_variable_53 : decode cX1_variable 53 = .ok (.ldc 11, 2) := dk_18 11 (dk_at dksX1_variable_2 1 rfl rfl)
theorem dX1_variable_55 : decode cX1_variable 55 = .ok (.invokevirtual 13, 3) := dk_182 0 13 (dk_at dksX1_variable_2 3 rfl rfl)
theorem dX1_variable_58 : decode cX1_variable 58 = .ok (.ifCond .eq 47, 3) := dk_153 0 47 (dk_at dksX1_variable_2 6 rfl rfl)
theorem dX1_variable_61 : decode cX1_variable 61 = .ok (.iconst 0, 1) := dk_3 (dk_at dksX1_variable_2 9 rfl rfl)
theorem dX1_variable_62 : decode cX1_variable 62 = .ok (.istore_n 2, 1) := dk_61 (dk_at dksX1_variable_2 10 rfl rfl)
theorem dX1_variable_63 : decode cX1_variable 63 = .ok (.goto 42, 3) := dk_167 0 42 (dk_at dksX1_variable_2 11 rfl rfl)
theorem dX1_variable_66 : decode cX1_variable 66 = .ok (.aload_n 1, 1) := dk_43 (dk_at dksX1_variable_2 14 rfl rfl)
theorem dX1_variable_67 : decode cX1_variable 67 = .ok (.ldc 17, 2) := dk_18 17 (dk_at dksX1_variable_2 15 rfl rfl)
theorem dX1_variable_69 : decode cX1_variable 69 = .ok (.invokevirtual 13, 3) := dk_182 0 13 (dk_at dksX1_variable_2 17 rfl rfl)
theorem dX1_variable_72 : decode cX1_variable 72 = .ok (.ifCond .eq 33, 3) := dk_153 0 33 (dk_at dksX1_variable_2 20 rfl rfl)
theorem dX1_variable_75 : decode cX1_variable 75 = .ok (.iconst 1, 1) := dk_4 (dk_at dksX1_variable_2 23 rfl rfl)
theorem dX1_variable_76 : decode cX1_variable 76 = .ok (.istore_n 2, 1) := dk_61 (dk_at dksX1_variable_3 0 rfl rfl)
theorem dX1_variable_77 : decode cX1_variable 77 = .ok (.goto 28, 3) := dk_167 0 28 (dk_at dksX1_variable_3 1 rfl rfl)
theorem dX1_variable_80 : decode cX1_variable 80 = .ok (.aload_n 1, 1) := dk_43 (dk_at dksX1_variable_3 4 rfl rfl)
theorem dX1_variable_81 : decode cX1_variable 81 = .ok (.ldc 19, 2) := dk_18 19 (dk_at dksX1_variable_3 5 rfl rfl)
theorem dX1_variable_83 : decode cX1_variable 83 = .ok (.invokevirtual 13, 3) := dk_182 0 13 (dk_at dksX1_variable_3 7 rfl rfl)
theorem dX1_variable_86 : decode cX1_variable 86 = .ok (.ifCond .eq 19, 3) := dk_153 0 19 (dk_at dksX1_variable_3 10 rfl rfl)
theorem dX1_variable_89 : decode cX1_variable 89 = .ok (.iconst 2, 1) := dk_5 (dk_at dksX1_variable_3 13 rfl rfl)
theorem dX1_variable_90 : decode cX1_variable 90 = .ok (.istore_n 2, 1) := dk_61 (dk_at dksX1_variable_3 14 rfl rfl)
theorem dX1_variable_91 : decode cX1_variable 91 = .ok (.goto 14, 3) := dk_167 0 14 (dk_at dksX1_variable_3 15 rfl rfl)
theorem dX1_variable_94 : decode cX1_variable 94 = .ok (.aload_n 1, 1) := dk_43 (dk_at dksX1_variable_3 18 rfl rfl)
theorem dX1_variable_95 : decode cX1_variable 95 = .ok (.ldc 21, 2) := dk_18 21 (dk_at dksX1_variable_3 19 rfl rfl)
theorem dX1_variable_97 : decode cX1_variable 97 = .ok (.invokevirtual 13, 3) := dk_182 0 13 (dk_at dksX1_variable_3 21 rfl rfl)
theorem dX1_variable_100 : decode cX1_variable 100 = .ok (.ifCond .eq 5, 3) := dk_153 0 5 (dk_at dksX1_variable_4 0 rfl rfl)
theorem dX1_variable_103 : decode cX1_variable 103 = .ok (.iconst 3, 1) := dk_6 (dk_at dksX1_variable_4 3 rfl rfl)
theorem dX1_variable_104 : decode cX1_variable 104 = .ok (.istore_n 2, 1) := dk_61 (dk_at dksX1_variable_4 4 rfl rfl)
theorem dX1_variable_105 : decode cX1_variable 105 = .ok (.iload_n 2, 1) := dk_28 (dk_at dksX1_variable_4 5 rfl rfl)
theorem dX1_variable_106 : decode cX1_variable 106 = .ok (.tableswitch 54 0 3 #[30, 36, 42, 48], 30) := by decide +kernel
theorem dX1_variable_136 : decode cX1_variable 136 = .ok (.invokedynamic 23, 5) := by decide +kernel
theorem dX1_variable_141 : decode cX1_variable 141 = .ok (.areturn, 1) := dk_176 (dk_at dksX1_variable_6 5 rfl rfl)
theorem dX1_variable_142 : decode cX1_variable 142 = .ok (.invokedynamic 26, 5) := by decide +kernel
theorem dX1_variable_147 : decode cX1_variable 147 = .ok (.areturn, 1) := dk_176 (dk_at dksX1_variable_6 11 rfl rfl)
theorem dX1_variable_148 : decode cX1_variable 148 = .ok (.invokedynamic 27, 5) := by decide +kernel
theorem dX1_variable_153 : decode cX1_variable 153 = .ok (.areturn, 1) := dk_176 (dk_at dksX1_variable_6 17 rfl rfl)
theorem dX1_variable_154 : decode cX1_variable 154 = .ok (.invokedynamic 28, 5) := by decide +kernel
theorem dX1_variable_159 : decode cX1_variable 159 = .ok (.areturn, 1) := dk_176 (dk_at dksX1_variable_6 23 rfl rfl)
theorem dX1_variable_160 : decode cX1_variable 160 = .ok (.aconst_null, 1) := dk_1 (dk_at dksX1_variable_7 0 rfl rfl)
theorem dX1_variable_161 : decode cX1_variable 161 = .ok (.areturn, 1) := dk_176 (dk_at dksX1_variable_7 1 rfl rfl)
abbrev cX1_lambda_variable_1 : ByteArray := prog_1_method_48_code
def yX1_lambda_variable_1 : MethodName := ⟨RX1, "lambda$variable$1", "(IIII)J"⟩
theorem dX1_lambda_variable_1_0 : decode cX1_lambda_variable_1 0 = .ok (.iload_n 0, 1) := by decide +kernel
theorem dX1_lambda_variable_1_1 : decode cX1_lambda_variable_1 1 = .ok (.i2l, 1) := by decide +kernel
theorem dX1_lambda_variable_1_2 : decode cX1_lambda_variable_1 2 = .ok (.lreturn, 1) := by decide +kernel
abbrev cX1_lambda_variable_2 : ByteArray := prog_1_method_47_code
def yX1_lambda_variable_2 : MethodName := ⟨RX1, "lambda$variable$2", "(IIII)J"⟩
theorem dX1_lambda_variable_2_0 : decode cX1_lambda_variable_2 0 = .ok (.iload_n 1, 1) := by decide +kernel
theorem dX1_lambda_variable_2_1 : decode cX1_lambda_variable_2 1 = .ok (.i2l, 1) := by decide +kernel
theorem dX1_lambda_variable_2_2 : decode cX1_lambda_variable_2 2 = .ok (.lreturn, 1) := by decide +kernel
abbrev cX1_lambda_variable_3 : ByteArray := prog_1_method_46_code
def yX1_lambda_variable_3 : MethodName := ⟨RX1, "lambda$variable$3", "(IIII)J"⟩
theorem dX1_lambda_variable_3_0 : decode cX1_lambda_variable_3 0 = .ok (.iload_n 2, 1) := by decide +kernel
theorem dX1_lambda_variable_3_1 : decode cX1_lambda_variable_3 1 = .ok (.i2l, 1) := by decide +kernel
theorem dX1_lambda_variable_3_2 : decode cX1_lambda_variable_3 2 = .ok (.lreturn, 1) := by decide +kernel
abbrev cX1_lambda_variable_4 : ByteArray := prog_1_method_45_code
def yX1_lambda_variable_4 : MethodName := ⟨RX1, "lambda$variable$4", "(IIII)J"⟩
theorem dX1_lambda_variable_4_0 : decode cX1_lambda_variable_4 0 = .ok (.iload_n 3, 1) := by decide +kernel
theorem dX1_lambda_variable_4_1 : decode cX1_lambda_variable_4 1 = .ok (.i2l, 1) := by decide +kernel
theorem dX1_lambda_variable_4_2 : decode cX1_lambda_variable_4 2 = .ok (.lreturn, 1) := by decide +kernel
abbrev cX1_append : ByteArray := prog_1_method_15_code
def yX1_append : MethodName := ⟨RX1, "append", "(IIIII)I"⟩
def dkwX1_append_2 : List UInt8 := [172]
abbrev dktX1_append_2 : List UInt8 := dkwX1_append_2 ++ []
def dkwX1_append_1 : List UInt8 := [182, 0, 128, 42, 29, 182, 0, 128, 42, 21, 4, 182, 0, 128, 42, 21, 5, 182, 0, 128, 42, 180, 0, 125]
abbrev dktX1_append_1 : List UInt8 := dkwX1_append_1 ++ dktX1_append_2
def dkwX1_append_0 : List UInt8 := [42, 180, 0, 125, 16, 20, 96, 17, 3, 32, 164, 0, 5, 2, 172, 42, 27, 182, 0, 128, 42, 28]
abbrev dktX1_append_0 : List UInt8 := dkwX1_append_0 ++ dktX1_append_1
theorem dksX1_append_0 : cX1_append.data.toList.drop 0 = dktX1_append_0 := by decide +kernel
theorem dksX1_append_1 : cX1_append.data.toList.drop 22 = dktX1_append_1 := dk_seg dksX1_append_0 22 rfl rfl
theorem dksX1_append_2 : cX1_append.data.toList.drop 46 = dktX1_append_2 := dk_seg dksX1_append_1 24 rfl rfl
theorem dX1_append_0 : decode cX1_append 0 = .ok (.aload_n 0, 1) := dk_42 (dk_at dksX1_append_0 0 rfl rfl)
theorem dX1_append_1 : decode cX1_append 1 = .ok (.getfield 125, 3) := dk_180 0 125 (dk_at dksX1_append_0 1 rfl rfl)
theorem dX1_append_4 : decode cX1_append 4 = .ok (.bipush 20, 2) := dk_16 20 (dk_at dksX1_append_0 4 rfl rfl)
theorem dX1_append_6 : decode cX1_append 6 = .ok (.iadd, 1) := dk_96 (dk_at dksX1_append_0 6 rfl rfl)
theorem dX1_append_7 : decode cX1_append 7 = .ok (.sipush 800, 3) := dk_17 3 32 (dk_at dksX1_append_0 7 rfl rfl)
theorem dX1_append_10 : decode cX1_append 10 = .ok (.if_icmp .le 5, 3) := dk_164 0 5 (dk_at dksX1_append_0 10 rfl rfl)
theorem dX1_append_13 : decode cX1_append 13 = .ok (.iconst (-1), 1) := dk_2 (dk_at dksX1_append_0 13 rfl rfl)
theorem dX1_append_14 : decode cX1_append 14 = .ok (.ireturn, 1) := dk_172 (dk_at dksX1_append_0 14 rfl rfl)
theorem dX1_append_15 : decode cX1_append 15 = .ok (.aload_n 0, 1) := dk_42 (dk_at dksX1_append_0 15 rfl rfl)
theorem dX1_append_16 : decode cX1_append 16 = .ok (.iload_n 1, 1) := dk_27 (dk_at dksX1_append_0 16 rfl rfl)
theorem dX1_append_17 : decode cX1_append 17 = .ok (.invokevirtual 128, 3) := dk_182 0 128 (dk_at dksX1_append_0 17 rfl rfl)
theorem dX1_append_20 : decode cX1_append 20 = .ok (.aload_n 0, 1) := dk_42 (dk_at dksX1_append_0 20 rfl rfl)
theorem dX1_append_21 : decode cX1_append 21 = .ok (.iload_n 2, 1) := dk_28 (dk_at dksX1_append_0 21 rfl rfl)
theorem dX1_append_22 : decode cX1_append 22 = .ok (.invokevirtual 128, 3) := dk_182 0 128 (dk_at dksX1_append_1 0 rfl rfl)
theorem dX1_append_25 : decode cX1_append 25 = .ok (.aload_n 0, 1) := dk_42 (dk_at dksX1_append_1 3 rfl rfl)
theorem dX1_append_26 : decode cX1_append 26 = .ok (.iload_n 3, 1) := dk_29 (dk_at dksX1_append_1 4 rfl rfl)
theorem dX1_append_27 : decode cX1_append 27 = .ok (.invokevirtual 128, 3) := dk_182 0 128 (dk_at dksX1_append_1 5 rfl rfl)
theorem dX1_append_30 : decode cX1_append 30 = .ok (.aload_n 0, 1) := dk_42 (dk_at dksX1_append_1 8 rfl rfl)
theorem dX1_append_31 : decode cX1_append 31 = .ok (.iload 4, 2) := dk_21 4 (dk_at dksX1_append_1 9 rfl rfl)
theorem dX1_append_33 : decode cX1_append 33 = .ok (.invokevirtual 128, 3) := dk_182 0 128 (dk_at dksX1_append_1 11 rfl rfl)
theorem dX1_append_36 : decode cX1_append 36 = .ok (.aload_n 0, 1) := dk_42 (dk_at dksX1_append_1 14 rfl rfl)
theorem dX1_append_37 : decode cX1_append 37 = .ok (.iload 5, 2) := dk_21 5 (dk_at dksX1_append_1 15 rfl rfl)
theorem dX1_append_39 : decode cX1_append 39 = .ok (.invokevirtual 128, 3) := dk_182 0 128 (dk_at dksX1_append_1 17 rfl rfl)
theorem dX1_append_42 : decode cX1_append 42 = .ok (.aload_n 0, 1) := dk_42 (dk_at dksX1_append_1 20 rfl rfl)
theorem dX1_append_43 : decode cX1_append 43 = .ok (.getfield 125, 3) := dk_180 0 125 (dk_at dksX1_append_1 21 rfl rfl)
theorem dX1_append_46 : decode cX1_append 46 = .ok (.ireturn, 1) := dk_172 (dk_at dksX1_append_2 0 rfl rfl)
abbrev cX1_put : ByteArray := prog_1_method_14_code
def yX1_put : MethodName := ⟨RX1, "put", "(I)V"⟩
def dkwX1_put_1 : List UInt8 := [180, 0, 125, 4, 96, 181, 0, 125, 132, 2, 248, 167, 255, 226, 177]
abbrev dktX1_put_1 : List UInt8 := dkwX1_put_1 ++ []
def dkwX1_put_0 : List UInt8 := [16, 24, 61, 28, 155, 0, 32, 42, 180, 0, 37, 42, 180, 0, 125, 27, 28, 122, 145, 84, 42, 89]
abbrev dktX1_put_0 : List UInt8 := dkwX1_put_0 ++ dktX1_put_1
theorem dksX1_put_0 : cX1_put.data.toList.drop 0 = dktX1_put_0 := by decide +kernel
theorem dksX1_put_1 : cX1_put.data.toList.drop 22 = dktX1_put_1 := dk_seg dksX1_put_0 22 rfl rfl
theorem dX1_put_0 : decode cX1_put 0 = .ok (.bipush 24, 2) := dk_16 24 (dk_at dksX1_put_0 0 rfl rfl)
theorem dX1_put_2 : decode cX1_put 2 = .ok (.istore_n 2, 1) := dk_61 (dk_at dksX1_put_0 2 rfl rfl)
theorem dX1_put_3 : decode cX1_put 3 = .ok (.iload_n 2, 1) := dk_28 (dk_at dksX1_put_0 3 rfl rfl)
theorem dX1_put_4 : decode cX1_put 4 = .ok (.ifCond .lt 32, 3) := dk_155 0 32 (dk_at dksX1_put_0 4 rfl rfl)
theorem dX1_put_7 : decode cX1_put 7 = .ok (.aload_n 0, 1) := dk_42 (dk_at dksX1_put_0 7 rfl rfl)
theorem dX1_put_8 : decode cX1_put 8 = .ok (.getfield 37, 3) := dk_180 0 37 (dk_at dksX1_put_0 8 rfl rfl)
theorem dX1_put_11 : decode cX1_put 11 = .ok (.aload_n 0, 1) := dk_42 (dk_at dksX1_put_0 11 rfl rfl)
theorem dX1_put_12 : decode cX1_put 12 = .ok (.getfield 125, 3) := dk_180 0 125 (dk_at dksX1_put_0 12 rfl rfl)
theorem dX1_put_15 : decode cX1_put 15 = .ok (.iload_n 1, 1) := dk_27 (dk_at dksX1_put_0 15 rfl rfl)
theorem dX1_put_16 : decode cX1_put 16 = .ok (.iload_n 2, 1) := dk_28 (dk_at dksX1_put_0 16 rfl rfl)
theorem dX1_put_17 : decode cX1_put 17 = .ok (.ishr, 1) := dk_122 (dk_at dksX1_put_0 17 rfl rfl)
theorem dX1_put_18 : decode cX1_put 18 = .ok (.i2b, 1) := dk_145 (dk_at dksX1_put_0 18 rfl rfl)
theorem dX1_put_19 : decode cX1_put 19 = .ok (.bastore, 1) := dk_84 (dk_at dksX1_put_0 19 rfl rfl)
theorem dX1_put_20 : decode cX1_put 20 = .ok (.aload_n 0, 1) := dk_42 (dk_at dksX1_put_0 20 rfl rfl)
theorem dX1_put_21 : decode cX1_put 21 = .ok (.dup, 1) := dk_89 (dk_at dksX1_put_0 21 rfl rfl)
theorem dX1_put_22 : decode cX1_put 22 = .ok (.getfield 125, 3) := dk_180 0 125 (dk_at dksX1_put_1 0 rfl rfl)
theorem dX1_put_25 : decode cX1_put 25 = .ok (.iconst 1, 1) := dk_4 (dk_at dksX1_put_1 3 rfl rfl)
theorem dX1_put_26 : decode cX1_put 26 = .ok (.iadd, 1) := dk_96 (dk_at dksX1_put_1 4 rfl rfl)
theorem dX1_put_27 : decode cX1_put 27 = .ok (.putfield 125, 3) := dk_181 0 125 (dk_at dksX1_put_1 5 rfl rfl)
theorem dX1_put_30 : decode cX1_put 30 = .ok (.iinc 2 (-8), 3) := dk_132 2 248 (dk_at dksX1_put_1 8 rfl rfl)
theorem dX1_put_33 : decode cX1_put 33 = .ok (.goto (-30), 3) := dk_167 255 226 (dk_at dksX1_put_1 11 rfl rfl)
theorem dX1_put_36 : decode cX1_put 36 = .ok (.return_, 1) := dk_177 (dk_at dksX1_put_1 14 rfl rfl)
abbrev cX1_errorOffset : ByteArray := prog_1_method_17_code
def yX1_errorOffset : MethodName := ⟨RX1, "errorOffset", "()I"⟩
theorem dX1_errorOffset_0 : decode cX1_errorOffset 0 = .ok (.aload_n 0, 1) := by decide +kernel
theorem dX1_errorOffset_1 : decode cX1_errorOffset 1 = .ok (.getfield 60, 3) := by decide +kernel
theorem dX1_errorOffset_4 : decode cX1_errorOffset 4 = .ok (.ireturn, 1) := by decide +kernel
abbrev cX1_libraries : ByteArray := prog_1_method_18_code
def yX1_libraries : MethodName := ⟨RX1, "libraries", "()I"⟩
def dkwX1_libraries_0 : List UInt8 := [42, 180, 0, 56, 180, 0, 84, 185, 0, 151, 1, 0, 172]
abbrev dktX1_libraries_0 : List UInt8 := dkwX1_libraries_0 ++ []
theorem dksX1_libraries_0 : cX1_libraries.data.toList.drop 0 = dktX1_libraries_0 := by decide +kernel
theorem dX1_libraries_0 : decode cX1_libraries 0 = .ok (.aload_n 0, 1) := dk_42 (dk_at dksX1_libraries_0 0 rfl rfl)
theorem dX1_libraries_1 : decode cX1_libraries 1 = .ok (.getfield 56, 3) := dk_180 0 56 (dk_at dksX1_libraries_0 1 rfl rfl)
theorem dX1_libraries_4 : decode cX1_libraries 4 = .ok (.getfield 84, 3) := dk_180 0 84 (dk_at dksX1_libraries_0 4 rfl rfl)
theorem dX1_libraries_7 : decode cX1_libraries 7 = .ok (.invokeinterface 151 1, 5) := by decide +kernel
theorem dX1_libraries_12 : decode cX1_libraries 12 = .ok (.ireturn, 1) := dk_172 (dk_at dksX1_libraries_0 12 rfl rfl)
abbrev cX1_names : ByteArray := prog_1_method_19_code
def yX1_names : MethodName := ⟨RX1, "names", "()I"⟩
def dkwX1_names_0 : List UInt8 := [42, 180, 0, 56, 180, 0, 152, 185, 0, 151, 1, 0, 172]
abbrev dktX1_names_0 : List UInt8 := dkwX1_names_0 ++ []
theorem dksX1_names_0 : cX1_names.data.toList.drop 0 = dktX1_names_0 := by decide +kernel
theorem dX1_names_0 : decode cX1_names 0 = .ok (.aload_n 0, 1) := dk_42 (dk_at dksX1_names_0 0 rfl rfl)
theorem dX1_names_1 : decode cX1_names 1 = .ok (.getfield 56, 3) := dk_180 0 56 (dk_at dksX1_names_0 1 rfl rfl)
theorem dX1_names_4 : decode cX1_names 4 = .ok (.getfield 152, 3) := dk_180 0 152 (dk_at dksX1_names_0 4 rfl rfl)
theorem dX1_names_7 : decode cX1_names 7 = .ok (.invokeinterface 151 1, 5) := by decide +kernel
theorem dX1_names_12 : decode cX1_names 12 = .ok (.ireturn, 1) := dk_172 (dk_at dksX1_names_0 12 rfl rfl)
abbrev cX1_share : ByteArray := prog_1_method_20_code
def yX1_share : MethodName := ⟨RX1, "share", "()I"⟩
def dkwX1_share_0 : List UInt8 := [42, 180, 0, 56, 180, 0, 154, 172]
abbrev dktX1_share_0 : List UInt8 := dkwX1_share_0 ++ []
theorem dksX1_share_0 : cX1_share.data.toList.drop 0 = dktX1_share_0 := by decide +kernel
theorem dX1_share_0 : decode cX1_share 0 = .ok (.aload_n 0, 1) := dk_42 (dk_at dksX1_share_0 0 rfl rfl)
theorem dX1_share_1 : decode cX1_share 1 = .ok (.getfield 56, 3) := dk_180 0 56 (dk_at dksX1_share_0 1 rfl rfl)
theorem dX1_share_4 : decode cX1_share 4 = .ok (.getfield 154, 3) := dk_180 0 154 (dk_at dksX1_share_0 4 rfl rfl)
theorem dX1_share_7 : decode cX1_share 7 = .ok (.ireturn, 1) := dk_172 (dk_at dksX1_share_0 7 rfl rfl)
abbrev cX1_undo : ByteArray := prog_1_method_42_code
def yX1_undo : MethodName := ⟨RX1, "undo", "()I"⟩
def dkwX1_undo_1 : List UInt8 := [181, 0, 56, 42, 180, 0, 44, 182, 0, 107, 172]
abbrev dktX1_undo_1 : List UInt8 := dkwX1_undo_1 ++ []
def dkwX1_undo_0 : List UInt8 := [42, 180, 0, 44, 182, 1, 8, 153, 0, 5, 2, 172, 42, 42, 180, 0, 44, 182, 1, 12, 192, 0, 48]
abbrev dktX1_undo_0 : List UInt8 := dkwX1_undo_0 ++ dktX1_undo_1
theorem dksX1_undo_0 : cX1_undo.data.toList.drop 0 = dktX1_undo_0 := by decide +kernel
theorem dksX1_undo_1 : cX1_undo.data.toList.drop 23 = dktX1_undo_1 := dk_seg dksX1_undo_0 23 rfl rfl
theorem dX1_undo_0 : decode cX1_undo 0 = .ok (.aload_n 0, 1) := dk_42 (dk_at dksX1_undo_0 0 rfl rfl)
theorem dX1_undo_1 : decode cX1_undo 1 = .ok (.getfield 44, 3) := dk_180 0 44 (dk_at dksX1_undo_0 1 rfl rfl)
theorem dX1_undo_4 : decode cX1_undo 4 = .ok (.invokevirtual 264, 3) := dk_182 1 8 (dk_at dksX1_undo_0 4 rfl rfl)
theorem dX1_undo_7 : decode cX1_undo 7 = .ok (.ifCond .eq 5, 3) := dk_153 0 5 (dk_at dksX1_undo_0 7 rfl rfl)
theorem dX1_undo_10 : decode cX1_undo 10 = .ok (.iconst (-1), 1) := dk_2 (dk_at dksX1_undo_0 10 rfl rfl)
theorem dX1_undo_11 : decode cX1_undo 11 = .ok (.ireturn, 1) := dk_172 (dk_at dksX1_undo_0 11 rfl rfl)
theorem dX1_undo_12 : decode cX1_undo 12 = .ok (.aload_n 0, 1) := dk_42 (dk_at dksX1_undo_0 12 rfl rfl)
theorem dX1_undo_13 : decode cX1_undo 13 = .ok (.aload_n 0, 1) := dk_42 (dk_at dksX1_undo_0 13 rfl rfl)
theorem dX1_undo_14 : decode cX1_undo 14 = .ok (.getfield 44, 3) := dk_180 0 44 (dk_at dksX1_undo_0 14 rfl rfl)
theorem dX1_undo_17 : decode cX1_undo 17 = .ok (.invokevirtual 268, 3) := dk_182 1 12 (dk_at dksX1_undo_0 17 rfl rfl)
theorem dX1_undo_20 : decode cX1_undo 20 = .ok (.checkcast 48, 3) := dk_192 0 48 (dk_at dksX1_undo_0 20 rfl rfl)
theorem dX1_undo_23 : decode cX1_undo 23 = .ok (.putfield 56, 3) := dk_181 0 56 (dk_at dksX1_undo_1 0 rfl rfl)
theorem dX1_undo_26 : decode cX1_undo 26 = .ok (.aload_n 0, 1) := dk_42 (dk_at dksX1_undo_1 3 rfl rfl)
theorem dX1_undo_27 : decode cX1_undo 27 = .ok (.getfield 44, 3) := dk_180 0 44 (dk_at dksX1_undo_1 4 rfl rfl)
theorem dX1_undo_30 : decode cX1_undo 30 = .ok (.invokevirtual 107, 3) := dk_182 0 107 (dk_at dksX1_undo_1 7 rfl rfl)
theorem dX1_undo_33 : decode cX1_undo 33 = .ok (.ireturn, 1) := dk_172 (dk_at dksX1_undo_1 10 rfl rfl)
abbrev cX1_checksum : ByteArray := prog_1_method_44_code
def yX1_checksum : MethodName := ⟨RX1, "checksum", "()J"⟩
def dkwX1_checksum_8 : List UInt8 := [167, 255, 192, 132, 4, 1, 167, 255, 75, 32, 173]
abbrev dktX1_checksum_8 : List UInt8 := dkwX1_checksum_8 ++ []
def dkwX1_checksum_7 : List UInt8 := [89, 43, 183, 0, 222, 21, 4, 21, 6, 182, 0, 225, 180, 0, 229, 133, 184, 1, 19, 65, 132, 6, 1]
abbrev dktX1_checksum_7 : List UInt8 := dkwX1_checksum_7 ++ dktX1_checksum_8
def dkwX1_checksum_6 : List UInt8 := [21, 6, 46, 133, 184, 1, 19, 43, 180, 0, 213, 21, 4, 50, 21, 6, 46, 133, 184, 1, 19, 187, 0, 220]
abbrev dktX1_checksum_6 : List UInt8 := dkwX1_checksum_6 ++ dktX1_checksum_7
def dkwX1_checksum_5 : List UInt8 := [184, 1, 19, 65, 3, 54, 6, 21, 6, 42, 182, 0, 95, 162, 0, 61, 32, 43, 180, 1, 23, 21, 4, 50]
abbrev dktX1_checksum_5 : List UInt8 := dkwX1_checksum_5 ++ dktX1_checksum_6
def dkwX1_checksum_4 : List UInt8 := [25, 5, 180, 0, 175, 185, 0, 151, 1, 0, 133, 184, 1, 19, 43, 180, 0, 182, 21, 4, 46, 133]
abbrev dktX1_checksum_4 : List UInt8 := dkwX1_checksum_4 ++ dktX1_checksum_5
def dkwX1_checksum_3 : List UInt8 := [21, 4, 182, 0, 169, 133, 184, 1, 19, 65, 32, 42, 180, 0, 56, 21, 4, 182, 0, 172, 133, 184, 1, 19]
abbrev dktX1_checksum_3 : List UInt8 := dkwX1_checksum_3 ++ dktX1_checksum_4
def dkwX1_checksum_2 : List UInt8 := [133, 184, 1, 19, 25, 5, 180, 0, 165, 153, 0, 7, 10, 167, 0, 4, 9, 184, 1, 19, 42, 180, 0, 56]
abbrev dktX1_checksum_2 : List UInt8 := dkwX1_checksum_2 ++ dktX1_checksum_3
def dkwX1_checksum_1 : List UInt8 := [180, 0, 56, 180, 0, 84, 21, 4, 185, 0, 87, 2, 0, 192, 0, 93, 58, 5, 32, 25, 5, 180, 0, 163]
abbrev dktX1_checksum_1 : List UInt8 := dkwX1_checksum_1 ++ dktX1_checksum_2
def dkwX1_checksum_0 : List UInt8 := [42, 182, 0, 178, 76, 42, 182, 1, 17, 133, 65, 3, 54, 4, 21, 4, 42, 182, 0, 77, 162, 0, 178, 42]
abbrev dktX1_checksum_0 : List UInt8 := dkwX1_checksum_0 ++ dktX1_checksum_1
theorem dksX1_checksum_0 : cX1_checksum.data.toList.drop 0 = dktX1_checksum_0 := by decide +kernel
theorem dksX1_checksum_1 : cX1_checksum.data.toList.drop 24 = dktX1_checksum_1 := dk_seg dksX1_checksum_0 24 rfl rfl
theorem dksX1_checksum_2 : cX1_checksum.data.toList.drop 48 = dktX1_checksum_2 := dk_seg dksX1_checksum_1 24 rfl rfl
theorem dksX1_checksum_3 : cX1_checksum.data.toList.drop 72 = dktX1_checksum_3 := dk_seg dksX1_checksum_2 24 rfl rfl
theorem dksX1_checksum_4 : cX1_checksum.data.toList.drop 96 = dktX1_checksum_4 := dk_seg dksX1_checksum_3 24 rfl rfl
theorem dksX1_checksum_5 : cX1_checksum.data.toList.drop 118 = dktX1_checksum_5 := dk_seg dksX1_checksum_4 22 rfl rfl
theorem dksX1_checksum_6 : cX1_checksum.data.toList.drop 142 = dktX1_checksum_6 := dk_seg dksX1_checksum_5 24 rfl rfl
theorem dksX1_checksum_7 : cX1_checksum.data.toList.drop 166 = dktX1_checksum_7 := dk_seg dksX1_checksum_6 24 rfl rfl
theorem dksX1_checksum_8 : cX1_checksum.data.toList.drop 189 = dktX1_checksum_8 := dk_seg dksX1_checksum_7 23 rfl rfl
theorem dX1_checksum_0 : decode cX1_checksum 0 = .ok (.aload_n 0, 1) := dk_42 (dk_at dksX1_checksum_0 0 rfl rfl)
theorem dX1_checksum_1 : decode cX1_checksum 1 = .ok (.invokevirtual 178, 3) := dk_182 0 178 (dk_at dksX1_checksum_0 1 rfl rfl)
theorem dX1_checksum_4 : decode cX1_checksum 4 = .ok (.astore_n 1, 1) := dk_76 (dk_at dksX1_checksum_0 4 rfl rfl)
theorem dX1_checksum_5 : decode cX1_checksum 5 = .ok (.aload_n 0, 1) := dk_42 (dk_at dksX1_checksum_0 5 rfl rfl)
theorem dX1_checksum_6 : decode cX1_checksum 6 = .ok (.invokevirtual 273, 3) := dk_182 1 17 (dk_at dksX1_checksum_0 6 rfl rfl)
theorem dX1_checksum_9 : decode cX1_checksum 9 = .ok (.i2l, 1) := dk_133 (dk_at dksX1_checksum_0 9 rfl rfl)
theorem dX1_checksum_10 : decode cX1_checksum 10 = .ok (.lstore_n 2, 1) := dk_65 (dk_at dksX1_checksum_0 10 rfl rfl)
theorem dX1_checksum_11 : decode cX1_checksum 11 = .ok (.iconst 0, 1) := dk_3 (dk_at dksX1_checksum_0 11 rfl rfl)
theorem dX1_checksum_12 : decode cX1_checksum 12 = .ok (.istore 4, 2) := dk_54 4 (dk_at dksX1_checksum_0 12 rfl rfl)
theorem dX1_checksum_14 : decode cX1_checksum 14 = .ok (.iload 4, 2) := dk_21 4 (dk_at dksX1_checksum_0 14 rfl rfl)
theorem dX1_checksum_16 : decode cX1_checksum 16 = .ok (.aload_n 0, 1) := dk_42 (dk_at dksX1_checksum_0 16 rfl rfl)
theorem dX1_checksum_17 : decode cX1_checksum 17 = .ok (.invokevirtual 77, 3) := dk_182 0 77 (dk_at dksX1_checksum_0 17 rfl rfl)
theorem dX1_checksum_20 : decode cX1_checksum 20 = .ok (.if_icmp .ge 178, 3) := dk_162 0 178 (dk_at dksX1_checksum_0 20 rfl rfl)
theorem dX1_checksum_23 : decode cX1_checksum 23 = .ok (.aload_n 0, 1) := dk_42 (dk_at dksX1_checksum_0 23 rfl rfl)
theorem dX1_checksum_24 : decode cX1_checksum 24 = .ok (.getfield 56, 3) := dk_180 0 56 (dk_at dksX1_checksum_1 0 rfl rfl)
theorem dX1_checksum_27 : decode cX1_checksum 27 = .ok (.getfield 84, 3) := dk_180 0 84 (dk_at dksX1_checksum_1 3 rfl rfl)
theorem dX1_checksum_30 : decode cX1_checksum 30 = .ok (.iload 4, 2) := dk_21 4 (dk_at dksX1_checksum_1 6 rfl rfl)
theorem dX1_checksum_32 : decode cX1_checksum 32 = .ok (.invokeinterface 87 2, 5) := by decide +kernel
theorem dX1_checksum_37 : decode cX1_checksum 37 = .ok (.checkcast 93, 3) := dk_192 0 93 (dk_at dksX1_checksum_1 13 rfl rfl)
theorem dX1_checksum_40 : decode cX1_checksum 40 = .ok (.astore 5, 2) := dk_58 5 (dk_at dksX1_checksum_1 16 rfl rfl)
theorem dX1_checksum_42 : decode cX1_checksum 42 = .ok (.lload_n 2, 1) := dk_32 (dk_at dksX1_checksum_1 18 rfl rfl)
theorem dX1_checksum_43 : decode cX1_checksum 43 = .ok (.aload 5, 2) := dk_25 5 (dk_at dksX1_checksum_1 19 rfl rfl)
theorem dX1_checksum_45 : decode cX1_checksum 45 = .ok (.getfield 163, 3) := dk_180 0 163 (dk_at dksX1_checksum_1 21 rfl rfl)
theorem dX1_checksum_48 : decode cX1_checksum 48 = .ok (.i2l, 1) := dk_133 (dk_at dksX1_checksum_2 0 rfl rfl)
theorem dX1_checksum_49 : decode cX1_checksum 49 = .ok (.invokestatic 275, 3) := dk_184 1 19 (dk_at dksX1_checksum_2 1 rfl rfl)
theorem dX1_checksum_52 : decode cX1_checksum 52 = .ok (.aload 5, 2) := dk_25 5 (dk_at dksX1_checksum_2 4 rfl rfl)
theorem dX1_checksum_54 : decode cX1_checksum 54 = .ok (.getfield 165, 3) := dk_180 0 165 (dk_at dksX1_checksum_2 6 rfl rfl)
theorem dX1_checksum_57 : decode cX1_checksum 57 = .ok (.ifCond .eq 7, 3) := dk_153 0 7 (dk_at dksX1_checksum_2 9 rfl rfl)
theorem dX1_checksum_60 : decode cX1_checksum 60 = .ok (.lconst 1, 1) := dk_10 (dk_at dksX1_checksum_2 12 rfl rfl)
theorem dX1_checksum_61 : decode cX1_checksum 61 = .ok (.goto 4, 3) := dk_167 0 4 (dk_at dksX1_checksum_2 13 rfl rfl)
theorem dX1_checksum_64 : decode cX1_checksum 64 = .ok (.lconst 0, 1) := dk_9 (dk_at dksX1_checksum_2 16 rfl rfl)
theorem dX1_checksum_65 : decode cX1_checksum 65 = .ok (.invokestatic 275, 3) := dk_184 1 19 (dk_at dksX1_checksum_2 17 rfl rfl)
theorem dX1_checksum_68 : decode cX1_checksum 68 = .ok (.aload_n 0, 1) := dk_42 (dk_at dksX1_checksum_2 20 rfl rfl)
theorem dX1_checksum_69 : decode cX1_checksum 69 = .ok (.getfield 56, 3) := dk_180 0 56 (dk_at dksX1_checksum_2 21 rfl rfl)
theorem dX1_checksum_72 : decode cX1_checksum 72 = .ok (.iload 4, 2) := dk_21 4 (dk_at dksX1_checksum_3 0 rfl rfl)
theorem dX1_checksum_74 : decode cX1_checksum 74 = .ok (.invokevirtual 169, 3) := dk_182 0 169 (dk_at dksX1_checksum_3 2 rfl rfl)
theorem dX1_checksum_77 : decode cX1_checksum 77 = .ok (.i2l, 1) := dk_133 (dk_at dksX1_checksum_3 5 rfl rfl)
theorem dX1_checksum_78 : decode cX1_checksum 78 = .ok (.invokestatic 275, 3) := dk_184 1 19 (dk_at dksX1_checksum_3 6 rfl rfl)
theorem dX1_checksum_81 : decode cX1_checksum 81 = .ok (.lstore_n 2, 1) := dk_65 (dk_at dksX1_checksum_3 9 rfl rfl)
theorem dX1_checksum_82 : decode cX1_checksum 82 = .ok (.lload_n 2, 1) := dk_32 (dk_at dksX1_checksum_3 10 rfl rfl)
theorem dX1_checksum_83 : decode cX1_checksum 83 = .ok (.aload_n 0, 1) := dk_42 (dk_at dksX1_checksum_3 11 rfl rfl)
theorem dX1_checksum_84 : decode cX1_checksum 84 = .ok (.getfield 56, 3) := dk_180 0 56 (dk_at dksX1_checksum_3 12 rfl rfl)
theorem dX1_checksum_87 : decode cX1_checksum 87 = .ok (.iload 4, 2) := dk_21 4 (dk_at dksX1_checksum_3 15 rfl rfl)
theorem dX1_checksum_89 : decode cX1_checksum 89 = .ok (.invokevirtual 172, 3) := dk_182 0 172 (dk_at dksX1_checksum_3 17 rfl rfl)
theorem dX1_checksum_92 : decode cX1_checksum 92 = .ok (.i2l, 1) := dk_133 (dk_at dksX1_checksum_3 20 rfl rfl)
theorem dX1_checksum_93 : decode cX1_checksum 93 = .ok (.invokestatic 275, 3) := dk_184 1 19 (dk_at dksX1_checksum_3 21 rfl rfl)
theorem dX1_checksum_96 : decode cX1_checksum 96 = .ok (.aload 5, 2) := dk_25 5 (dk_at dksX1_checksum_4 0 rfl rfl)
theorem dX1_checksum_98 : decode cX1_checksum 98 = .ok (.getfield 175, 3) := dk_180 0 175 (dk_at dksX1_checksum_4 2 rfl rfl)
theorem dX1_checksum_101 : decode cX1_checksum 101 = .ok (.invokeinterface 151 1, 5) := by decide +kernel
theorem dX1_checksum_106 : decode cX1_checksum 106 = .ok (.i2l, 1) := dk_133 (dk_at dksX1_checksum_4 10 rfl rfl)
theorem dX1_checksum_107 : decode cX1_checksum 107 = .ok (.invokestatic 275, 3) := dk_184 1 19 (dk_at dksX1_checksum_4 11 rfl rfl)
theorem dX1_checksum_110 : decode cX1_checksum 110 = .ok (.aload_n 1, 1) := dk_43 (dk_at dksX1_checksum_4 14 rfl rfl)
theorem dX1_checksum_111 : decode cX1_checksum 111 = .ok (.getfield 182, 3) := dk_180 0 182 (dk_at dksX1_checksum_4 15 rfl rfl)
theorem dX1_checksum_114 : decode cX1_checksum 114 = .ok (.iload 4, 2) := dk_21 4 (dk_at dksX1_checksum_4 18 rfl rfl)
theorem dX1_checksum_116 : decode cX1_checksum 116 = .ok (.iaload, 1) := dk_46 (dk_at dksX1_checksum_4 20 rfl rfl)
theorem dX1_checksum_117 : decode cX1_checksum 117 = .ok (.i2l, 1) := dk_133 (dk_at dksX1_checksum_4 21 rfl rfl)
theorem dX1_checksum_118 : decode cX1_checksum 118 = .ok (.invokestatic 275, 3) := dk_184 1 19 (dk_at dksX1_checksum_5 0 rfl rfl)
theorem dX1_checksum_121 : decode cX1_checksum 121 = .ok (.lstore_n 2, 1) := dk_65 (dk_at dksX1_checksum_5 3 rfl rfl)
theorem dX1_checksum_122 : decode cX1_checksum 122 = .ok (.iconst 0, 1) := dk_3 (dk_at dksX1_checksum_5 4 rfl rfl)
theorem dX1_checksum_123 : decode cX1_checksum 123 = .ok (.istore 6, 2) := dk_54 6 (dk_at dksX1_checksum_5 5 rfl rfl)
theorem dX1_checksum_125 : decode cX1_checksum 125 = .ok (.iload 6, 2) := dk_21 6 (dk_at dksX1_checksum_5 7 rfl rfl)
theorem dX1_checksum_127 : decode cX1_checksum 127 = .ok (.aload_n 0, 1) := dk_42 (dk_at dksX1_checksum_5 9 rfl rfl)
theorem dX1_checksum_128 : decode cX1_checksum 128 = .ok (.invokevirtual 95, 3) := dk_182 0 95 (dk_at dksX1_checksum_5 10 rfl rfl)
theorem dX1_checksum_131 : decode cX1_checksum 131 = .ok (.if_icmp .ge 61, 3) := dk_162 0 61 (dk_at dksX1_checksum_5 13 rfl rfl)
theorem dX1_checksum_134 : decode cX1_checksum 134 = .ok (.lload_n 2, 1) := dk_32 (dk_at dksX1_checksum_5 16 rfl rfl)
theorem dX1_checksum_135 : decode cX1_checksum 135 = .ok (.aload_n 1, 1) := dk_43 (dk_at dksX1_checksum_5 17 rfl rfl)
theorem dX1_checksum_136 : decode cX1_checksum 136 = .ok (.getfield 279, 3) := dk_180 1 23 (dk_at dksX1_checksum_5 18 rfl rfl)
theorem dX1_checksum_139 : decode cX1_checksum 139 = .ok (.iload 4, 2) := dk_21 4 (dk_at dksX1_checksum_5 21 rfl rfl)
theorem dX1_checksum_141 : decode cX1_checksum 141 = .ok (.aaload, 1) := dk_50 (dk_at dksX1_checksum_5 23 rfl rfl)
theorem dX1_checksum_142 : decode cX1_checksum 142 = .ok (.iload 6, 2) := dk_21 6 (dk_at dksX1_checksum_6 0 rfl rfl)
theorem dX1_checksum_144 : decode cX1_checksum 144 = .ok (.iaload, 1) := dk_46 (dk_at dksX1_checksum_6 2 rfl rfl)
theorem dX1_checksum_145 : decode cX1_checksum 145 = .ok (.i2l, 1) := dk_133 (dk_at dksX1_checksum_6 3 rfl rfl)
theorem dX1_checksum_146 : decode cX1_checksum 146 = .ok (.invokestatic 275, 3) := dk_184 1 19 (dk_at dksX1_checksum_6 4 rfl rfl)
theorem dX1_checksum_149 : decode cX1_checksum 149 = .ok (.aload_n 1, 1) := dk_43 (dk_at dksX1_checksum_6 7 rfl rfl)
theorem dX1_checksum_150 : decode cX1_checksum 150 = .ok (.getfield 213, 3) := dk_180 0 213 (dk_at dksX1_checksum_6 8 rfl rfl)
theorem dX1_checksum_153 : decode cX1_checksum 153 = .ok (.iload 4, 2) := dk_21 4 (dk_at dksX1_checksum_6 11 rfl rfl)
theorem dX1_checksum_155 : decode cX1_checksum 155 = .ok (.aaload, 1) := dk_50 (dk_at dksX1_checksum_6 13 rfl rfl)
theorem dX1_checksum_156 : decode cX1_checksum 156 = .ok (.iload 6, 2) := dk_21 6 (dk_at dksX1_checksum_6 14 rfl rfl)
theorem dX1_checksum_158 : decode cX1_checksum 158 = .ok (.iaload, 1) := dk_46 (dk_at dksX1_checksum_6 16 rfl rfl)
theorem dX1_checksum_159 : decode cX1_checksum 159 = .ok (.i2l, 1) := dk_133 (dk_at dksX1_checksum_6 17 rfl rfl)
theorem dX1_checksum_160 : decode cX1_checksum 160 = .ok (.invokestatic 275, 3) := dk_184 1 19 (dk_at dksX1_checksum_6 18 rfl rfl)
theorem dX1_checksum_163 : decode cX1_checksum 163 = .ok (.new 220, 3) := dk_187 0 220 (dk_at dksX1_checksum_6 21 rfl rfl)
theorem dX1_checksum_166 : decode cX1_checksum 166 = .ok (.dup, 1) := dk_89 (dk_at dksX1_checksum_7 0 rfl rfl)
theorem dX1_checksum_167 : decode cX1_checksum 167 = .ok (.aload_n 1, 1) := dk_43 (dk_at dksX1_checksum_7 1 rfl rfl)
theorem dX1_checksum_168 : decode cX1_checksum 168 = .ok (.invokespecial 222, 3) := dk_183 0 222 (dk_at dksX1_checksum_7 2 rfl rfl)
theorem dX1_checksum_171 : decode cX1_checksum 171 = .ok (.iload 4, 2) := dk_21 4 (dk_at dksX1_checksum_7 5 rfl rfl)
theorem dX1_checksum_173 : decode cX1_checksum 173 = .ok (.iload 6, 2) := dk_21 6 (dk_at dksX1_checksum_7 7 rfl rfl)
theorem dX1_checksum_175 : decode cX1_checksum 175 = .ok (.invokevirtual 225, 3) := dk_182 0 225 (dk_at dksX1_checksum_7 9 rfl rfl)
theorem dX1_checksum_178 : decode cX1_checksum 178 = .ok (.getfield 229, 3) := dk_180 0 229 (dk_at dksX1_checksum_7 12 rfl rfl)
theorem dX1_checksum_181 : decode cX1_checksum 181 = .ok (.i2l, 1) := dk_133 (dk_at dksX1_checksum_7 15 rfl rfl)
theorem dX1_checksum_182 : decode cX1_checksum 182 = .ok (.invokestatic 275, 3) := dk_184 1 19 (dk_at dksX1_checksum_7 16 rfl rfl)
theorem dX1_checksum_185 : decode cX1_checksum 185 = .ok (.lstore_n 2, 1) := dk_65 (dk_at dksX1_checksum_7 19 rfl rfl)
theorem dX1_checksum_186 : decode cX1_checksum 186 = .ok (.iinc 6 1, 3) := dk_132 6 1 (dk_at dksX1_checksum_7 20 rfl rfl)
theorem dX1_checksum_189 : decode cX1_checksum 189 = .ok (.goto (-64), 3) := dk_167 255 192 (dk_at dksX1_checksum_8 0 rfl rfl)
theorem dX1_checksum_192 : decode cX1_checksum 192 = .ok (.iinc 4 1, 3) := dk_132 4 1 (dk_at dksX1_checksum_8 3 rfl rfl)
theorem dX1_checksum_195 : decode cX1_checksum 195 = .ok (.goto (-181), 3) := dk_167 255 75 (dk_at dksX1_checksum_8 6 rfl rfl)
theorem dX1_checksum_198 : decode cX1_checksum 198 = .ok (.lload_n 2, 1) := dk_32 (dk_at dksX1_checksum_8 9 rfl rfl)
theorem dX1_checksum_199 : decode cX1_checksum 199 = .ok (.lreturn, 1) := dk_173 (dk_at dksX1_checksum_8 10 rfl rfl)
abbrev cX1_election : ByteArray := prog_1_method_11_code
def yX1_election : MethodName := ⟨RX1, "election", "()LLinkElection$Election;"⟩
def dkwX1_election_0 : List UInt8 := [187, 0, 102, 89, 42, 180, 0, 56, 183, 0, 104, 176]
abbrev dktX1_election_0 : List UInt8 := dkwX1_election_0 ++ []
theorem dksX1_election_0 : cX1_election.data.toList.drop 0 = dktX1_election_0 := by decide +kernel
theorem dX1_election_0 : decode cX1_election 0 = .ok (.new 102, 3) := dk_187 0 102 (dk_at dksX1_election_0 0 rfl rfl)
theorem dX1_election_3 : decode cX1_election 3 = .ok (.dup, 1) := dk_89 (dk_at dksX1_election_0 3 rfl rfl)
theorem dX1_election_4 : decode cX1_election 4 = .ok (.aload_n 0, 1) := dk_42 (dk_at dksX1_election_0 4 rfl rfl)
theorem dX1_election_5 : decode cX1_election 5 = .ok (.getfield 56, 3) := dk_180 0 56 (dk_at dksX1_election_0 5 rfl rfl)
theorem dX1_election_8 : decode cX1_election 8 = .ok (.invokespecial 104, 3) := dk_183 0 104 (dk_at dksX1_election_0 8 rfl rfl)
theorem dX1_election_11 : decode cX1_election 11 = .ok (.areturn, 1) := dk_176 (dk_at dksX1_election_0 11 rfl rfl)
abbrev cX1_hash : ByteArray := prog_1_method_43_code
def yX1_hash : MethodName := ⟨RX1, "hash", "(JJ)J"⟩
def dkwX1_hash_0 : List UInt8 := [20, 1, 15, 30, 105, 32, 97, 173]
abbrev dktX1_hash_0 : List UInt8 := dkwX1_hash_0 ++ []
theorem dksX1_hash_0 : cX1_hash.data.toList.drop 0 = dktX1_hash_0 := by decide +kernel
theorem dX1_hash_0 : decode cX1_hash 0 = .ok (.ldc2_w 271, 3) := dk_20 1 15 (dk_at dksX1_hash_0 0 rfl rfl)
theorem dX1_hash_3 : decode cX1_hash 3 = .ok (.lload_n 0, 1) := dk_30 (dk_at dksX1_hash_0 3 rfl rfl)
theorem dX1_hash_4 : decode cX1_hash 4 = .ok (.lmul, 1) := dk_105 (dk_at dksX1_hash_0 4 rfl rfl)
theorem dX1_hash_5 : decode cX1_hash 5 = .ok (.lload_n 2, 1) := dk_32 (dk_at dksX1_hash_0 5 rfl rfl)
theorem dX1_hash_6 : decode cX1_hash 6 = .ok (.ladd, 1) := dk_97 (dk_at dksX1_hash_0 6 rfl rfl)
theorem dX1_hash_7 : decode cX1_hash 7 = .ok (.lreturn, 1) := dk_173 (dk_at dksX1_hash_0 7 rfl rfl)
abbrev cX1_load : ByteArray := prog_1_method_16_code
def yX1_load : MethodName := ⟨RX1, "load", "(I)I"⟩
def dkwX1_load_2 : List UInt8 := [180, 0, 145, 181, 0, 60, 44, 180, 0, 148, 172]
abbrev dktX1_load_2 : List UInt8 := dkwX1_load_2 ++ []
def dkwX1_load_1 : List UInt8 := [42, 187, 0, 135, 89, 42, 27, 183, 0, 137, 182, 0, 140, 182, 0, 122, 42, 182, 0, 77, 172, 77, 42, 44]
abbrev dktX1_load_1 : List UInt8 := dkwX1_load_1 ++ dktX1_load_2
def dkwX1_load_0 : List UInt8 := [27, 133, 9, 42, 180, 0, 125, 133, 184, 0, 64, 184, 0, 131, 42, 3, 181, 0, 125, 42, 2, 181, 0, 60]
abbrev dktX1_load_0 : List UInt8 := dkwX1_load_0 ++ dktX1_load_1
theorem dksX1_load_0 : cX1_load.data.toList.drop 0 = dktX1_load_0 := by decide +kernel
theorem dksX1_load_1 : cX1_load.data.toList.drop 24 = dktX1_load_1 := dk_seg dksX1_load_0 24 rfl rfl
theorem dksX1_load_2 : cX1_load.data.toList.drop 48 = dktX1_load_2 := dk_seg dksX1_load_1 24 rfl rfl
theorem dX1_load_0 : decode cX1_load 0 = .ok (.iload_n 1, 1) := dk_27 (dk_at dksX1_load_0 0 rfl rfl)
theorem dX1_load_1 : decode cX1_load 1 = .ok (.i2l, 1) := dk_133 (dk_at dksX1_load_0 1 rfl rfl)
theorem dX1_load_2 : decode cX1_load 2 = .ok (.lconst 0, 1) := dk_9 (dk_at dksX1_load_0 2 rfl rfl)
theorem dX1_load_3 : decode cX1_load 3 = .ok (.aload_n 0, 1) := dk_42 (dk_at dksX1_load_0 3 rfl rfl)
theorem dX1_load_4 : decode cX1_load 4 = .ok (.getfield 125, 3) := dk_180 0 125 (dk_at dksX1_load_0 4 rfl rfl)
theorem dX1_load_7 : decode cX1_load 7 = .ok (.i2l, 1) := dk_133 (dk_at dksX1_load_0 7 rfl rfl)
theorem dX1_load_8 : decode cX1_load 8 = .ok (.invokestatic 64, 3) := dk_184 0 64 (dk_at dksX1_load_0 8 rfl rfl)
theorem dX1_load_11 : decode cX1_load 11 = .ok (.invokestatic 131, 3) := dk_184 0 131 (dk_at dksX1_load_0 11 rfl rfl)
theorem dX1_load_14 : decode cX1_load 14 = .ok (.aload_n 0, 1) := dk_42 (dk_at dksX1_load_0 14 rfl rfl)
theorem dX1_load_15 : decode cX1_load 15 = .ok (.iconst 0, 1) := dk_3 (dk_at dksX1_load_0 15 rfl rfl)
theorem dX1_load_16 : decode cX1_load 16 = .ok (.putfield 125, 3) := dk_181 0 125 (dk_at dksX1_load_0 16 rfl rfl)
theorem dX1_load_19 : decode cX1_load 19 = .ok (.aload_n 0, 1) := dk_42 (dk_at dksX1_load_0 19 rfl rfl)
theorem dX1_load_20 : decode cX1_load 20 = .ok (.iconst (-1), 1) := dk_2 (dk_at dksX1_load_0 20 rfl rfl)
theorem dX1_load_21 : decode cX1_load 21 = .ok (.putfield 60, 3) := dk_181 0 60 (dk_at dksX1_load_0 21 rfl rfl)
theorem dX1_load_24 : decode cX1_load 24 = .ok (.aload_n 0, 1) := dk_42 (dk_at dksX1_load_1 0 rfl rfl)
theorem dX1_load_25 : decode cX1_load 25 = .ok (.new 135, 3) := dk_187 0 135 (dk_at dksX1_load_1 1 rfl rfl)
theorem dX1_load_28 : decode cX1_load 28 = .ok (.dup, 1) := dk_89 (dk_at dksX1_load_1 4 rfl rfl)
theorem dX1_load_29 : decode cX1_load 29 = .ok (.aload_n 0, 1) := dk_42 (dk_at dksX1_load_1 5 rfl rfl)
theorem dX1_load_30 : decode cX1_load 30 = .ok (.iload_n 1, 1) := dk_27 (dk_at dksX1_load_1 6 rfl rfl)
theorem dX1_load_31 : decode cX1_load 31 = .ok (.invokespecial 137, 3) := dk_183 0 137 (dk_at dksX1_load_1 7 rfl rfl)
theorem dX1_load_34 : decode cX1_load 34 = .ok (.invokevirtual 140, 3) := dk_182 0 140 (dk_at dksX1_load_1 10 rfl rfl)
theorem dX1_load_37 : decode cX1_load 37 = .ok (.invokevirtual 122, 3) := dk_182 0 122 (dk_at dksX1_load_1 13 rfl rfl)
theorem dX1_load_40 : decode cX1_load 40 = .ok (.aload_n 0, 1) := dk_42 (dk_at dksX1_load_1 16 rfl rfl)
theorem dX1_load_41 : decode cX1_load 41 = .ok (.invokevirtual 77, 3) := dk_182 0 77 (dk_at dksX1_load_1 17 rfl rfl)
theorem dX1_load_44 : decode cX1_load 44 = .ok (.ireturn, 1) := dk_172 (dk_at dksX1_load_1 20 rfl rfl)
theorem dX1_load_45 : decode cX1_load 45 = .ok (.astore_n 2, 1) := dk_77 (dk_at dksX1_load_1 21 rfl rfl)
theorem dX1_load_46 : decode cX1_load 46 = .ok (.aload_n 0, 1) := dk_42 (dk_at dksX1_load_1 22 rfl rfl)
theorem dX1_load_47 : decode cX1_load 47 = .ok (.aload_n 2, 1) := dk_44 (dk_at dksX1_load_1 23 rfl rfl)
theorem dX1_load_48 : decode cX1_load 48 = .ok (.getfield 145, 3) := dk_180 0 145 (dk_at dksX1_load_2 0 rfl rfl)
theorem dX1_load_51 : decode cX1_load 51 = .ok (.putfield 60, 3) := dk_181 0 60 (dk_at dksX1_load_2 3 rfl rfl)
theorem dX1_load_54 : decode cX1_load 54 = .ok (.aload_n 2, 1) := dk_44 (dk_at dksX1_load_2 6 rfl rfl)
theorem dX1_load_55 : decode cX1_load 55 = .ok (.getfield 148, 3) := dk_180 0 148 (dk_at dksX1_load_2 7 rfl rfl)
theorem dX1_load_58 : decode cX1_load 58 = .ok (.ireturn, 1) := dk_172 (dk_at dksX1_load_2 10 rfl rfl)
abbrev cX1_isBetween : ByteArray := prog_1_method_1_code
def yX1_isBetween : MethodName := ⟨RX1, "isBetween", "(JJJ)Z"⟩
def dkwX1_isBetween_0 : List UInt8 := [30, 32, 148, 155, 0, 14, 30, 22, 4, 148, 157, 0, 7, 4, 167, 0, 4, 3, 172]
abbrev dktX1_isBetween_0 : List UInt8 := dkwX1_isBetween_0 ++ []
theorem dksX1_isBetween_0 : cX1_isBetween.data.toList.drop 0 = dktX1_isBetween_0 := by decide +kernel
theorem dX1_isBetween_0 : decode cX1_isBetween 0 = .ok (.lload_n 0, 1) := dk_30 (dk_at dksX1_isBetween_0 0 rfl rfl)
theorem dX1_isBetween_1 : decode cX1_isBetween 1 = .ok (.lload_n 2, 1) := dk_32 (dk_at dksX1_isBetween_0 1 rfl rfl)
theorem dX1_isBetween_2 : decode cX1_isBetween 2 = .ok (.lcmp, 1) := dk_148 (dk_at dksX1_isBetween_0 2 rfl rfl)
theorem dX1_isBetween_3 : decode cX1_isBetween 3 = .ok (.ifCond .lt 14, 3) := dk_155 0 14 (dk_at dksX1_isBetween_0 3 rfl rfl)
theorem dX1_isBetween_6 : decode cX1_isBetween 6 = .ok (.lload_n 0, 1) := dk_30 (dk_at dksX1_isBetween_0 6 rfl rfl)
theorem dX1_isBetween_7 : decode cX1_isBetween 7 = .ok (.lload 4, 2) := dk_22 4 (dk_at dksX1_isBetween_0 7 rfl rfl)
theorem dX1_isBetween_9 : decode cX1_isBetween 9 = .ok (.lcmp, 1) := dk_148 (dk_at dksX1_isBetween_0 9 rfl rfl)
theorem dX1_isBetween_10 : decode cX1_isBetween 10 = .ok (.ifCond .gt 7, 3) := dk_157 0 7 (dk_at dksX1_isBetween_0 10 rfl rfl)
theorem dX1_isBetween_13 : decode cX1_isBetween 13 = .ok (.iconst 1, 1) := dk_4 (dk_at dksX1_isBetween_0 13 rfl rfl)
theorem dX1_isBetween_14 : decode cX1_isBetween 14 = .ok (.goto 4, 3) := dk_167 0 4 (dk_at dksX1_isBetween_0 14 rfl rfl)
theorem dX1_isBetween_17 : decode cX1_isBetween 17 = .ok (.iconst 0, 1) := dk_3 (dk_at dksX1_isBetween_0 17 rfl rfl)
theorem dX1_isBetween_18 : decode cX1_isBetween 18 = .ok (.ireturn, 1) := dk_172 (dk_at dksX1_isBetween_0 18 rfl rfl)
abbrev cX1_requireArgument : ByteArray := prog_1_method_6_code
def yX1_requireArgument : MethodName := ⟨RX1, "requireArgument", "(Z)V"⟩
def dkwX1_requireArgument_0 : List UInt8 := [26, 154, 0, 11, 187, 0, 71, 89, 183, 0, 73, 191, 177]
abbrev dktX1_requireArgument_0 : List UInt8 := dkwX1_requireArgument_0 ++ []
theorem dksX1_requireArgument_0 : cX1_requireArgument.data.toList.drop 0 = dktX1_requireArgument_0 := by decide +kernel
theorem dX1_requireArgument_0 : decode cX1_requireArgument 0 = .ok (.iload_n 0, 1) := dk_26 (dk_at dksX1_requireArgument_0 0 rfl rfl)
theorem dX1_requireArgument_1 : decode cX1_requireArgument 1 = .ok (.ifCond .ne 11, 3) := dk_154 0 11 (dk_at dksX1_requireArgument_0 1 rfl rfl)
theorem dX1_requireArgument_4 : decode cX1_requireArgument 4 = .ok (.new 71, 3) := dk_187 0 71 (dk_at dksX1_requireArgument_0 4 rfl rfl)
theorem dX1_requireArgument_7 : decode cX1_requireArgument 7 = .ok (.dup, 1) := dk_89 (dk_at dksX1_requireArgument_0 7 rfl rfl)
theorem dX1_requireArgument_8 : decode cX1_requireArgument 8 = .ok (.invokespecial 73, 3) := dk_183 0 73 (dk_at dksX1_requireArgument_0 8 rfl rfl)
theorem dX1_requireArgument_11 : decode cX1_requireArgument 11 = .ok (.athrow, 1) := dk_191 (dk_at dksX1_requireArgument_0 11 rfl rfl)
theorem dX1_requireArgument_12 : decode cX1_requireArgument 12 = .ok (.return_, 1) := dk_177 (dk_at dksX1_requireArgument_0 12 rfl rfl)
abbrev cX1_operation : ByteArray := prog_1_method_2_code
def yX1_operation : MethodName := ⟨RX1, "operation", "(ILLinkElection$Weight;LLinkElection$Weight;)LLinkElection$Weight;"⟩
def dkwX1_operation_0 : List UInt8 := [43, 44, 26, 186, 0, 1, 0, 0, 176]
abbrev dktX1_operation_0 : List UInt8 := dkwX1_operation_0 ++ []
theorem dksX1_operation_0 : cX1_operation.data.toList.drop 0 = dktX1_operation_0 := by decide +kernel
theorem dX1_operation_0 : decode cX1_operation 0 = .ok (.aload_n 1, 1) := dk_43 (dk_at dksX1_operation_0 0 rfl rfl)
theorem dX1_operation_1 : decode cX1_operation 1 = .ok (.aload_n 2, 1) := dk_44 (dk_at dksX1_operation_0 1 rfl rfl)
theorem dX1_operation_2 : decode cX1_operation 2 = .ok (.iload_n 0, 1) := dk_26 (dk_at dksX1_operation_0 2 rfl rfl)
theorem dX1_operation_3 : decode cX1_operation 3 = .ok (.invokedynamic 1, 5) := by decide +kernel
theorem dX1_operation_8 : decode cX1_operation 8 = .ok (.areturn, 1) := dk_176 (dk_at dksX1_operation_0 8 rfl rfl)
abbrev cX1_lambda_operation_0 : ByteArray := prog_1_method_49_code
def yX1_lambda_operation_0 : MethodName := ⟨RX1, "lambda$operation$0", "(LLinkElection$Weight;LLinkElection$Weight;IIIII)J"⟩
def dkwX1_lambda_operation_0_4 : List UInt8 := [20, 1, 32, 22, 11, 184, 1, 34, 184, 1, 39, 173]
abbrev dktX1_lambda_operation_0_4 : List UInt8 := dkwX1_lambda_operation_0_4 ++ []
def dkwX1_lambda_operation_0_3 : List UInt8 := [167, 0, 19, 22, 9, 9, 148, 154, 0, 7, 9, 167, 0, 8, 22, 7, 22, 9, 109, 55, 11, 20, 1, 30]
abbrev dktX1_lambda_operation_0_3 : List UInt8 := dkwX1_lambda_operation_0_3 ++ dktX1_lambda_operation_0_4
def dkwX1_lambda_operation_0_2 : List UInt8 := [160, 0, 11, 22, 7, 22, 9, 101, 167, 0, 33, 28, 16, 42, 160, 0, 11, 22, 7, 22, 9, 105]
abbrev dktX1_lambda_operation_0_2 : List UInt8 := dkwX1_lambda_operation_0_2 ++ dktX1_lambda_operation_0_3
def dkwX1_lambda_operation_0_1 : List UInt8 := [185, 1, 25, 5, 0, 55, 9, 28, 16, 43, 160, 0, 11, 22, 7, 22, 9, 97, 167, 0, 47, 28, 16, 45]
abbrev dktX1_lambda_operation_0_1 : List UInt8 := dkwX1_lambda_operation_0_1 ++ dktX1_lambda_operation_0_2
def dkwX1_lambda_operation_0_0 : List UInt8 := [42, 29, 21, 4, 21, 5, 21, 6, 185, 1, 25, 5, 0, 55, 7, 43, 29, 21, 4, 21, 5, 21, 6]
abbrev dktX1_lambda_operation_0_0 : List UInt8 := dkwX1_lambda_operation_0_0 ++ dktX1_lambda_operation_0_1
theorem dksX1_lambda_operation_0_0 : cX1_lambda_operation_0.data.toList.drop 0 = dktX1_lambda_operation_0_0 := by decide +kernel
theorem dksX1_lambda_operation_0_1 : cX1_lambda_operation_0.data.toList.drop 23 = dktX1_lambda_operation_0_1 := dk_seg dksX1_lambda_operation_0_0 23 rfl rfl
theorem dksX1_lambda_operation_0_2 : cX1_lambda_operation_0.data.toList.drop 47 = dktX1_lambda_operation_0_2 := dk_seg dksX1_lambda_operation_0_1 24 rfl rfl
theorem dksX1_lambda_operation_0_3 : cX1_lambda_operation_0.data.toList.drop 69 = dktX1_lambda_operation_0_3 := dk_seg dksX1_lambda_operation_0_2 22 rfl rfl
theorem dksX1_lambda_operation_0_4 : cX1_lambda_operation_0.data.toList.drop 93 = dktX1_lambda_operation_0_4 := dk_seg dksX1_lambda_operation_0_3 24 rfl rfl
theorem dX1_lambda_operation_0_0 : decode cX1_lambda_operation_0 0 = .ok (.aload_n 0, 1) := dk_42 (dk_at dksX1_lambda_operation_0_0 0 rfl rfl)
theorem dX1_lambda_operation_0_1 : decode cX1_lambda_operation_0 1 = .ok (.iload_n 3, 1) := dk_29 (dk_at dksX1_lambda_operation_0_0 1 rfl rfl)
theorem dX1_lambda_operation_0_2 : decode cX1_lambda_operation_0 2 = .ok (.iload 4, 2) := dk_21 4 (dk_at dksX1_lambda_operation_0_0 2 rfl rfl)
theorem dX1_lambda_operation_0_4 : decode cX1_lambda_operation_0 4 = .ok (.iload 5, 2) := dk_21 5 (dk_at dksX1_lambda_operation_0_0 4 rfl rfl)
theorem dX1_lambda_operation_0_6 : decode cX1_lambda_operation_0 6 = .ok (.iload 6, 2) := dk_21 6 (dk_at dksX1_lambda_operation_0_0 6 rfl rfl)
theorem dX1_lambda_operation_0_8 : decode cX1_lambda_operation_0 8 = .ok (.invokeinterface 281 5, 5) := by decide +kernel
theorem dX1_lambda_operation_0_13 : decode cX1_lambda_operation_0 13 = .ok (.lstore 7, 2) := dk_55 7 (dk_at dksX1_lambda_operation_0_0 13 rfl rfl)
theorem dX1_lambda_operation_0_15 : decode cX1_lambda_operation_0 15 = .ok (.aload_n 1, 1) := dk_43 (dk_at dksX1_lambda_operation_0_0 15 rfl rfl)
theorem dX1_lambda_operation_0_16 : decode cX1_lambda_operation_0 16 = .ok (.iload_n 3, 1) := dk_29 (dk_at dksX1_lambda_operation_0_0 16 rfl rfl)
theorem dX1_lambda_operation_0_17 : decode cX1_lambda_operation_0 17 = .ok (.iload 4, 2) := dk_21 4 (dk_at dksX1_lambda_operation_0_0 17 rfl rfl)
theorem dX1_lambda_operation_0_19 : decode cX1_lambda_operation_0 19 = .ok (.iload 5, 2) := dk_21 5 (dk_at dksX1_lambda_operation_0_0 19 rfl rfl)
theorem dX1_lambda_operation_0_21 : decode cX1_lambda_operation_0 21 = .ok (.iload 6, 2) := dk_21 6 (dk_at dksX1_lambda_operation_0_0 21 rfl rfl)
theorem dX1_lambda_operation_0_23 : decode cX1_lambda_operation_0 23 = .ok (.invokeinterface 281 5, 5) := by decide +kernel
theorem dX1_lambda_operation_0_28 : decode cX1_lambda_operation_0 28 = .ok (.lstore 9, 2) := dk_55 9 (dk_at dksX1_lambda_operation_0_1 5 rfl rfl)
theorem dX1_lambda_operation_0_30 : decode cX1_lambda_operation_0 30 = .ok (.iload_n 2, 1) := dk_28 (dk_at dksX1_lambda_operation_0_1 7 rfl rfl)
theorem dX1_lambda_operation_0_31 : decode cX1_lambda_operation_0 31 = .ok (.bipush 43, 2) := dk_16 43 (dk_at dksX1_lambda_operation_0_1 8 rfl rfl)
theorem dX1_lambda_operation_0_33 : decode cX1_lambda_operation_0 33 = .ok (.if_icmp .ne 11, 3) := dk_160 0 11 (dk_at dksX1_lambda_operation_0_1 10 rfl rfl)
theorem dX1_lambda_operation_0_36 : decode cX1_lambda_operation_0 36 = .ok (.lload 7, 2) := dk_22 7 (dk_at dksX1_lambda_operation_0_1 13 rfl rfl)
theorem dX1_lambda_operation_0_38 : decode cX1_lambda_operation_0 38 = .ok (.lload 9, 2) := dk_22 9 (dk_at dksX1_lambda_operation_0_1 15 rfl rfl)
theorem dX1_lambda_operation_0_40 : decode cX1_lambda_operation_0 40 = .ok (.ladd, 1) := dk_97 (dk_at dksX1_lambda_operation_0_1 17 rfl rfl)
theorem dX1_lambda_operation_0_41 : decode cX1_lambda_operation_0 41 = .ok (.goto 47, 3) := dk_167 0 47 (dk_at dksX1_lambda_operation_0_1 18 rfl rfl)
theorem dX1_lambda_operation_0_44 : decode cX1_lambda_operation_0 44 = .ok (.iload_n 2, 1) := dk_28 (dk_at dksX1_lambda_operation_0_1 21 rfl rfl)
theorem dX1_lambda_operation_0_45 : decode cX1_lambda_operation_0 45 = .ok (.bipush 45, 2) := dk_16 45 (dk_at dksX1_lambda_operation_0_1 22 rfl rfl)
theorem dX1_lambda_operation_0_47 : decode cX1_lambda_operation_0 47 = .ok (.if_icmp .ne 11, 3) := dk_160 0 11 (dk_at dksX1_lambda_operation_0_2 0 rfl rfl)
theorem dX1_lambda_operation_0_50 : decode cX1_lambda_operation_0 50 = .ok (.lload 7, 2) := dk_22 7 (dk_at dksX1_lambda_operation_0_2 3 rfl rfl)
theorem dX1_lambda_operation_0_52 : decode cX1_lambda_operation_0 52 = .ok (.lload 9, 2) := dk_22 9 (dk_at dksX1_lambda_operation_0_2 5 rfl rfl)
theorem dX1_lambda_operation_0_54 : decode cX1_lambda_operation_0 54 = .ok (.lsub, 1) := dk_101 (dk_at dksX1_lambda_operation_0_2 7 rfl rfl)
theorem dX1_lambda_operation_0_55 : decode cX1_lambda_operation_0 55 = .ok (.goto 33, 3) := dk_167 0 33 (dk_at dksX1_lambda_operation_0_2 8 rfl rfl)
theorem dX1_lambda_operation_0_58 : decode cX1_lambda_operation_0 58 = .ok (.iload_n 2, 1) := dk_28 (dk_at dksX1_lambda_operation_0_2 11 rfl rfl)
theorem dX1_lambda_operation_0_59 : decode cX1_lambda_operation_0 59 = .ok (.bipush 42, 2) := dk_16 42 (dk_at dksX1_lambda_operation_0_2 12 rfl rfl)
theorem dX1_lambda_operation_0_61 : decode cX1_lambda_operation_0 61 = .ok (.if_icmp .ne 11, 3) := dk_160 0 11 (dk_at dksX1_lambda_operation_0_2 14 rfl rfl)
theorem dX1_lambda_operation_0_64 : decode cX1_lambda_operation_0 64 = .ok (.lload 7, 2) := dk_22 7 (dk_at dksX1_lambda_operation_0_2 17 rfl rfl)
theorem dX1_lambda_operation_0_66 : decode cX1_lambda_operation_0 66 = .ok (.lload 9, 2) := dk_22 9 (dk_at dksX1_lambda_operation_0_2 19 rfl rfl)
theorem dX1_lambda_operation_0_68 : decode cX1_lambda_operation_0 68 = .ok (.lmul, 1) := dk_105 (dk_at dksX1_lambda_operation_0_2 21 rfl rfl)
theorem dX1_lambda_operation_0_69 : decode cX1_lambda_operation_0 69 = .ok (.goto 19, 3) := dk_167 0 19 (dk_at dksX1_lambda_operation_0_3 0 rfl rfl)
theorem dX1_lambda_operation_0_72 : decode cX1_lambda_operation_0 72 = .ok (.lload 9, 2) := dk_22 9 (dk_at dksX1_lambda_operation_0_3 3 rfl rfl)
theorem dX1_lambda_operation_0_74 : decode cX1_lambda_operation_0 74 = .ok (.lconst 0, 1) := dk_9 (dk_at dksX1_lambda_operation_0_3 5 rfl rfl)
theorem dX1_lambda_operation_0_75 : decode cX1_lambda_operation_0 75 = .ok (.lcmp, 1) := dk_148 (dk_at dksX1_lambda_operation_0_3 6 rfl rfl)
theorem dX1_lambda_operation_0_76 : decode cX1_lambda_operation_0 76 = .ok (.ifCond .ne 7, 3) := dk_154 0 7 (dk_at dksX1_lambda_operation_0_3 7 rfl rfl)
theorem dX1_lambda_operation_0_79 : decode cX1_lambda_operation_0 79 = .ok (.lconst 0, 1) := dk_9 (dk_at dksX1_lambda_operation_0_3 10 rfl rfl)
theorem dX1_lambda_operation_0_80 : decode cX1_lambda_operation_0 80 = .ok (.goto 8, 3) := dk_167 0 8 (dk_at dksX1_lambda_operation_0_3 11 rfl rfl)
theorem dX1_lambda_operation_0_83 : decode cX1_lambda_operation_0 83 = .ok (.lload 7, 2) := dk_22 7 (dk_at dksX1_lambda_operation_0_3 14 rfl rfl)
theorem dX1_lambda_operation_0_85 : decode cX1_lambda_operation_0 85 = .ok (.lload 9, 2) := dk_22 9 (dk_at dksX1_lambda_operation_0_3 16 rfl rfl)
theorem dX1_lambda_operation_0_87 : decode cX1_lambda_operation_0 87 = .ok (.ldiv, 1) := dk_109 (dk_at dksX1_lambda_operation_0_3 18 rfl rfl)
theorem dX1_lambda_operation_0_88 : decode cX1_lambda_operation_0 88 = .ok (.lstore 11, 2) := dk_55 11 (dk_at dksX1_lambda_operation_0_3 19 rfl rfl)
theorem dX1_lambda_operation_0_90 : decode cX1_lambda_operation_0 90 = .ok (.ldc2_w 286, 3) := dk_20 1 30 (dk_at dksX1_lambda_operation_0_3 21 rfl rfl)
theorem dX1_lambda_operation_0_93 : decode cX1_lambda_operation_0 93 = .ok (.ldc2_w 288, 3) := dk_20 1 32 (dk_at dksX1_lambda_operation_0_4 0 rfl rfl)
theorem dX1_lambda_operation_0_96 : decode cX1_lambda_operation_0 96 = .ok (.lload 11, 2) := dk_22 11 (dk_at dksX1_lambda_operation_0_4 3 rfl rfl)
theorem dX1_lambda_operation_0_98 : decode cX1_lambda_operation_0 98 = .ok (.invokestatic 290, 3) := dk_184 1 34 (dk_at dksX1_lambda_operation_0_4 5 rfl rfl)
theorem dX1_lambda_operation_0_101 : decode cX1_lambda_operation_0 101 = .ok (.invokestatic 295, 3) := dk_184 1 39 (dk_at dksX1_lambda_operation_0_4 8 rfl rfl)
theorem dX1_lambda_operation_0_104 : decode cX1_lambda_operation_0 104 = .ok (.lreturn, 1) := dk_173 (dk_at dksX1_lambda_operation_0_4 11 rfl rfl)
abbrev cX1_replace : ByteArray := prog_1_method_12_code
def yX1_replace : MethodName := ⟨RX1, "replace", "(LLinkElection$House;)V"⟩
def dkwX1_replace_1 : List UInt8 := [42, 180, 0, 56, 182, 0, 114, 42, 43, 181, 0, 56, 177]
abbrev dktX1_replace_1 : List UInt8 := dkwX1_replace_1 ++ []
def dkwX1_replace_0 : List UInt8 := [42, 180, 0, 44, 182, 0, 107, 16, 8, 160, 0, 11, 42, 180, 0, 44, 182, 0, 110, 87, 42, 180, 0, 44]
abbrev dktX1_replace_0 : List UInt8 := dkwX1_replace_0 ++ dktX1_replace_1
theorem dksX1_replace_0 : cX1_replace.data.toList.drop 0 = dktX1_replace_0 := by decide +kernel
theorem dksX1_replace_1 : cX1_replace.data.toList.drop 24 = dktX1_replace_1 := dk_seg dksX1_replace_0 24 rfl rfl
theorem dX1_replace_0 : decode cX1_replace 0 = .ok (.aload_n 0, 1) := dk_42 (dk_at dksX1_replace_0 0 rfl rfl)
theorem dX1_replace_1 : decode cX1_replace 1 = .ok (.getfield 44, 3) := dk_180 0 44 (dk_at dksX1_replace_0 1 rfl rfl)
theorem dX1_replace_4 : decode cX1_replace 4 = .ok (.invokevirtual 107, 3) := dk_182 0 107 (dk_at dksX1_replace_0 4 rfl rfl)
theorem dX1_replace_7 : decode cX1_replace 7 = .ok (.bipush 8, 2) := dk_16 8 (dk_at dksX1_replace_0 7 rfl rfl)
theorem dX1_replace_9 : decode cX1_replace 9 = .ok (.if_icmp .ne 11, 3) := dk_160 0 11 (dk_at dksX1_replace_0 9 rfl rfl)
theorem dX1_replace_12 : decode cX1_replace 12 = .ok (.aload_n 0, 1) := dk_42 (dk_at dksX1_replace_0 12 rfl rfl)
theorem dX1_replace_13 : decode cX1_replace 13 = .ok (.getfield 44, 3) := dk_180 0 44 (dk_at dksX1_replace_0 13 rfl rfl)
theorem dX1_replace_16 : decode cX1_replace 16 = .ok (.invokevirtual 110, 3) := dk_182 0 110 (dk_at dksX1_replace_0 16 rfl rfl)
theorem dX1_replace_19 : decode cX1_replace 19 = .ok (.pop, 1) := dk_87 (dk_at dksX1_replace_0 19 rfl rfl)
theorem dX1_replace_20 : decode cX1_replace 20 = .ok (.aload_n 0, 1) := dk_42 (dk_at dksX1_replace_0 20 rfl rfl)
theorem dX1_replace_21 : decode cX1_replace 21 = .ok (.getfield 44, 3) := dk_180 0 44 (dk_at dksX1_replace_0 21 rfl rfl)
theorem dX1_replace_24 : decode cX1_replace 24 = .ok (.aload_n 0, 1) := dk_42 (dk_at dksX1_replace_1 0 rfl rfl)
theorem dX1_replace_25 : decode cX1_replace 25 = .ok (.getfield 56, 3) := dk_180 0 56 (dk_at dksX1_replace_1 1 rfl rfl)
theorem dX1_replace_28 : decode cX1_replace 28 = .ok (.invokevirtual 114, 3) := dk_182 0 114 (dk_at dksX1_replace_1 4 rfl rfl)
theorem dX1_replace_31 : decode cX1_replace 31 = .ok (.aload_n 0, 1) := dk_42 (dk_at dksX1_replace_1 7 rfl rfl)
theorem dX1_replace_32 : decode cX1_replace 32 = .ok (.aload_n 1, 1) := dk_43 (dk_at dksX1_replace_1 8 rfl rfl)
theorem dX1_replace_33 : decode cX1_replace 33 = .ok (.putfield 56, 3) := dk_181 0 56 (dk_at dksX1_replace_1 9 rfl rfl)
theorem dX1_replace_36 : decode cX1_replace 36 = .ok (.return_, 1) := dk_177 (dk_at dksX1_replace_1 12 rfl rfl)
abbrev cX1_library : ByteArray := prog_1_method_21_code
def yX1_library : MethodName := ⟨RX1, "library", "(II)I"⟩
def dkwX1_library_4 : List UInt8 := [182, 0, 178, 180, 0, 182, 27, 46, 172]
abbrev dktX1_library_4 : List UInt8 := dkwX1_library_4 ++ []
def dkwX1_library_3 : List UInt8 := [182, 0, 169, 172, 42, 180, 0, 56, 27, 182, 0, 172, 172, 45, 180, 0, 175, 185, 0, 151, 1, 0, 172, 42]
abbrev dktX1_library_3 : List UInt8 := dkwX1_library_3 ++ dktX1_library_4
def dkwX1_library_2 : List UInt8 := [45, 180, 0, 163, 172, 45, 180, 0, 165, 153, 0, 7, 4, 167, 0, 4, 3, 172, 42, 180, 0, 56, 27]
abbrev dktX1_library_2 : List UInt8 := dkwX1_library_2 ++ dktX1_library_3
def dkwX1_library_1 : List UInt8 := [170, 0, 0, 0, 79, 0, 0, 0, 0, 0, 0, 0, 4, 0, 0, 0, 33, 0, 0, 0, 38, 0, 0, 0, 51, 0, 0, 0, 60, 0, 0, 0, 69]
abbrev dktX1_library_1 : List UInt8 := dkwX1_library_1 ++ dktX1_library_2
def dkwX1_library_0 : List UInt8 := [42, 27, 182, 0, 157, 78, 28, 133, 9, 20, 0, 161, 184, 0, 64, 184, 0, 131, 28]
abbrev dktX1_library_0 : List UInt8 := dkwX1_library_0 ++ dktX1_library_1
theorem dksX1_library_0 : cX1_library.data.toList.drop 0 = dktX1_library_0 := by decide +kernel
theorem dksX1_library_1 : cX1_library.data.toList.drop 19 = dktX1_library_1 := dk_seg dksX1_library_0 19 rfl rfl
theorem dksX1_library_2 : cX1_library.data.toList.drop 52 = dktX1_library_2 := dk_seg dksX1_library_1 33 rfl rfl
theorem dksX1_library_3 : cX1_library.data.toList.drop 75 = dktX1_library_3 := dk_seg dksX1_library_2 23 rfl rfl
theorem dksX1_library_4 : cX1_library.data.toList.drop 99 = dktX1_library_4 := dk_seg dksX1_library_3 24 rfl rfl
theorem dX1_library_0 : decode cX1_library 0 = .ok (.aload_n 0, 1) := dk_42 (dk_at dksX1_library_0 0 rfl rfl)
theorem dX1_library_1 : decode cX1_library 1 = .ok (.iload_n 1, 1) := dk_27 (dk_at dksX1_library_0 1 rfl rfl)
theorem dX1_library_2 : decode cX1_library 2 = .ok (.invokevirtual 157, 3) := dk_182 0 157 (dk_at dksX1_library_0 2 rfl rfl)
theorem dX1_library_5 : decode cX1_library 5 = .ok (.astore_n 3, 1) := dk_78 (dk_at dksX1_library_0 5 rfl rfl)
theorem dX1_library_6 : decode cX1_library 6 = .ok (.iload_n 2, 1) := dk_28 (dk_at dksX1_library_0 6 rfl rfl)
theorem dX1_library_7 : decode cX1_library 7 = .ok (.i2l, 1) := dk_133 (dk_at dksX1_library_0 7 rfl rfl)
theorem dX1_library_8 : decode cX1_library 8 = .ok (.lconst 0, 1) := dk_9 (dk_at dksX1_library_0 8 rfl rfl)
theorem dX1_library_9 : decode cX1_library 9 = .ok (.ldc2_w 161, 3) := dk_20 0 161 (dk_at dksX1_library_0 9 rfl rfl)
theorem dX1_library_12 : decode cX1_library 12 = .ok (.invokestatic 64, 3) := dk_184 0 64 (dk_at dksX1_library_0 12 rfl rfl)
theorem dX1_library_15 : decode cX1_library 15 = .ok (.invokestatic 131, 3) := dk_184 0 131 (dk_at dksX1_library_0 15 rfl rfl)
theorem dX1_library_18 : decode cX1_library 18 = .ok (.iload_n 2, 1) := dk_28 (dk_at dksX1_library_0 18 rfl rfl)
theorem dX1_library_19 : decode cX1_library 19 = .ok (.tableswitch 79 0 4 #[33, 38, 51, 60, 69], 33) := by decide +kernel
theorem dX1_library_52 : decode cX1_library 52 = .ok (.aload_n 3, 1) := dk_45 (dk_at dksX1_library_2 0 rfl rfl)
theorem dX1_library_53 : decode cX1_library 53 = .ok (.getfield 163, 3) := dk_180 0 163 (dk_at dksX1_library_2 1 rfl rfl)
theorem dX1_library_56 : decode cX1_library 56 = .ok (.ireturn, 1) := dk_172 (dk_at dksX1_library_2 4 rfl rfl)
theorem dX1_library_57 : decode cX1_library 57 = .ok (.aload_n 3, 1) := dk_45 (dk_at dksX1_library_2 5 rfl rfl)
theorem dX1_library_58 : decode cX1_library 58 = .ok (.getfield 165, 3) := dk_180 0 165 (dk_at dksX1_library_2 6 rfl rfl)
theorem dX1_library_61 : decode cX1_library 61 = .ok (.ifCond .eq 7, 3) := dk_153 0 7 (dk_at dksX1_library_2 9 rfl rfl)
theorem dX1_library_64 : decode cX1_library 64 = .ok (.iconst 1, 1) := dk_4 (dk_at dksX1_library_2 12 rfl rfl)
theorem dX1_library_65 : decode cX1_library 65 = .ok (.goto 4, 3) := dk_167 0 4 (dk_at dksX1_library_2 13 rfl rfl)
theorem dX1_library_68 : decode cX1_library 68 = .ok (.iconst 0, 1) := dk_3 (dk_at dksX1_library_2 16 rfl rfl)
theorem dX1_library_69 : decode cX1_library 69 = .ok (.ireturn, 1) := dk_172 (dk_at dksX1_library_2 17 rfl rfl)
theorem dX1_library_70 : decode cX1_library 70 = .ok (.aload_n 0, 1) := dk_42 (dk_at dksX1_library_2 18 rfl rfl)
theorem dX1_library_71 : decode cX1_library 71 = .ok (.getfield 56, 3) := dk_180 0 56 (dk_at dksX1_library_2 19 rfl rfl)
theorem dX1_library_74 : decode cX1_library 74 = .ok (.iload_n 1, 1) := dk_27 (dk_at dksX1_library_2 22 rfl rfl)
theorem dX1_library_75 : decode cX1_library 75 = .ok (.invokevirtual 169, 3) := dk_182 0 169 (dk_at dksX1_library_3 0 rfl rfl)
theorem dX1_library_78 : decode cX1_library 78 = .ok (.ireturn, 1) := dk_172 (dk_at dksX1_library_3 3 rfl rfl)
theorem dX1_library_79 : decode cX1_library 79 = .ok (.aload_n 0, 1) := dk_42 (dk_at dksX1_library_3 4 rfl rfl)
theorem dX1_library_80 : decode cX1_library 80 = .ok (.getfield 56, 3) := dk_180 0 56 (dk_at dksX1_library_3 5 rfl rfl)
theorem dX1_library_83 : decode cX1_library 83 = .ok (.iload_n 1, 1) := dk_27 (dk_at dksX1_library_3 8 rfl rfl)
theorem dX1_library_84 : decode cX1_library 84 = .ok (.invokevirtual 172, 3) := dk_182 0 172 (dk_at dksX1_library_3 9 rfl rfl)
theorem dX1_library_87 : decode cX1_library 87 = .ok (.ireturn, 1) := dk_172 (dk_at dksX1_library_3 12 rfl rfl)
theorem dX1_library_88 : decode cX1_library 88 = .ok (.aload_n 3, 1) := dk_45 (dk_at dksX1_library_3 13 rfl rfl)
theorem dX1_library_89 : decode cX1_library 89 = .ok (.getfield 175, 3) := dk_180 0 175 (dk_at dksX1_library_3 14 rfl rfl)
theorem dX1_library_92 : decode cX1_library 92 = .ok (.invokeinterface 151 1, 5) := by decide +kernel
theorem dX1_library_97 : decode cX1_library 97 = .ok (.ireturn, 1) := dk_172 (dk_at dksX1_library_3 22 rfl rfl)
theorem dX1_library_98 : decode cX1_library 98 = .ok (.aload_n 0, 1) := dk_42 (dk_at dksX1_library_3 23 rfl rfl)
theorem dX1_library_99 : decode cX1_library 99 = .ok (.invokevirtual 178, 3) := dk_182 0 178 (dk_at dksX1_library_4 0 rfl rfl)
theorem dX1_library_102 : decode cX1_library 102 = .ok (.getfield 182, 3) := dk_180 0 182 (dk_at dksX1_library_4 3 rfl rfl)
theorem dX1_library_105 : decode cX1_library 105 = .ok (.iload_n 1, 1) := dk_27 (dk_at dksX1_library_4 6 rfl rfl)
theorem dX1_library_106 : decode cX1_library 106 = .ok (.iaload, 1) := dk_46 (dk_at dksX1_library_4 7 rfl rfl)
theorem dX1_library_107 : decode cX1_library 107 = .ok (.ireturn, 1) := dk_172 (dk_at dksX1_library_4 8 rfl rfl)
abbrev cX1_libraryAt : ByteArray := prog_1_method_8_code
def yX1_libraryAt : MethodName := ⟨RX1, "libraryAt", "(I)LLinkElection$Library;"⟩
def dkwX1_libraryAt_1 : List UInt8 := [176]
abbrev dktX1_libraryAt_1 : List UInt8 := dkwX1_libraryAt_1 ++ []
def dkwX1_libraryAt_0 : List UInt8 := [27, 42, 182, 0, 77, 184, 0, 80, 42, 180, 0, 56, 180, 0, 84, 27, 185, 0, 87, 2, 0, 192, 0, 93]
abbrev dktX1_libraryAt_0 : List UInt8 := dkwX1_libraryAt_0 ++ dktX1_libraryAt_1
theorem dksX1_libraryAt_0 : cX1_libraryAt.data.toList.drop 0 = dktX1_libraryAt_0 := by decide +kernel
theorem dksX1_libraryAt_1 : cX1_libraryAt.data.toList.drop 24 = dktX1_libraryAt_1 := dk_seg dksX1_libraryAt_0 24 rfl rfl
theorem dX1_libraryAt_0 : decode cX1_libraryAt 0 = .ok (.iload_n 1, 1) := dk_27 (dk_at dksX1_libraryAt_0 0 rfl rfl)
theorem dX1_libraryAt_1 : decode cX1_libraryAt 1 = .ok (.aload_n 0, 1) := dk_42 (dk_at dksX1_libraryAt_0 1 rfl rfl)
theorem dX1_libraryAt_2 : decode cX1_libraryAt 2 = .ok (.invokevirtual 77, 3) := dk_182 0 77 (dk_at dksX1_libraryAt_0 2 rfl rfl)
theorem dX1_libraryAt_5 : decode cX1_libraryAt 5 = .ok (.invokestatic 80, 3) := dk_184 0 80 (dk_at dksX1_libraryAt_0 5 rfl rfl)
theorem dX1_libraryAt_8 : decode cX1_libraryAt 8 = .ok (.aload_n 0, 1) := dk_42 (dk_at dksX1_libraryAt_0 8 rfl rfl)
theorem dX1_libraryAt_9 : decode cX1_libraryAt 9 = .ok (.getfield 56, 3) := dk_180 0 56 (dk_at dksX1_libraryAt_0 9 rfl rfl)
theorem dX1_libraryAt_12 : decode cX1_libraryAt 12 = .ok (.getfield 84, 3) := dk_180 0 84 (dk_at dksX1_libraryAt_0 12 rfl rfl)
theorem dX1_libraryAt_15 : decode cX1_libraryAt 15 = .ok (.iload_n 1, 1) := dk_27 (dk_at dksX1_libraryAt_0 15 rfl rfl)
theorem dX1_libraryAt_16 : decode cX1_libraryAt 16 = .ok (.invokeinterface 87 2, 5) := by decide +kernel
theorem dX1_libraryAt_21 : decode cX1_libraryAt 21 = .ok (.checkcast 93, 3) := dk_192 0 93 (dk_at dksX1_libraryAt_0 21 rfl rfl)
theorem dX1_libraryAt_24 : decode cX1_libraryAt 24 = .ok (.areturn, 1) := dk_176 (dk_at dksX1_libraryAt_1 0 rfl rfl)
abbrev cX1_requireIndex : ByteArray := prog_1_method_5_code
def yX1_requireIndex : MethodName := ⟨RX1, "requireIndex", "(II)V"⟩
def dkwX1_requireIndex_0 : List UInt8 := [26, 133, 9, 27, 4, 100, 133, 184, 0, 64, 154, 0, 11, 187, 0, 68, 89, 183, 0, 70, 191, 177]
abbrev dktX1_requireIndex_0 : List UInt8 := dkwX1_requireIndex_0 ++ []
theorem dksX1_requireIndex_0 : cX1_requireIndex.data.toList.drop 0 = dktX1_requireIndex_0 := by decide +kernel
theorem dX1_requireIndex_0 : decode cX1_requireIndex 0 = .ok (.iload_n 0, 1) := dk_26 (dk_at dksX1_requireIndex_0 0 rfl rfl)
theorem dX1_requireIndex_1 : decode cX1_requireIndex 1 = .ok (.i2l, 1) := dk_133 (dk_at dksX1_requireIndex_0 1 rfl rfl)
theorem dX1_requireIndex_2 : decode cX1_requireIndex 2 = .ok (.lconst 0, 1) := dk_9 (dk_at dksX1_requireIndex_0 2 rfl rfl)
theorem dX1_requireIndex_3 : decode cX1_requireIndex 3 = .ok (.iload_n 1, 1) := dk_27 (dk_at dksX1_requireIndex_0 3 rfl rfl)
theorem dX1_requireIndex_4 : decode cX1_requireIndex 4 = .ok (.iconst 1, 1) := dk_4 (dk_at dksX1_requireIndex_0 4 rfl rfl)
theorem dX1_requireIndex_5 : decode cX1_requireIndex 5 = .ok (.isub, 1) := dk_100 (dk_at dksX1_requireIndex_0 5 rfl rfl)
theorem dX1_requireIndex_6 : decode cX1_requireIndex 6 = .ok (.i2l, 1) := dk_133 (dk_at dksX1_requireIndex_0 6 rfl rfl)
theorem dX1_requireIndex_7 : decode cX1_requireIndex 7 = .ok (.invokestatic 64, 3) := dk_184 0 64 (dk_at dksX1_requireIndex_0 7 rfl rfl)
theorem dX1_requireIndex_10 : decode cX1_requireIndex 10 = .ok (.ifCond .ne 11, 3) := dk_154 0 11 (dk_at dksX1_requireIndex_0 10 rfl rfl)
theorem dX1_requireIndex_13 : decode cX1_requireIndex 13 = .ok (.new 68, 3) := dk_187 0 68 (dk_at dksX1_requireIndex_0 13 rfl rfl)
theorem dX1_requireIndex_16 : decode cX1_requireIndex 16 = .ok (.dup, 1) := dk_89 (dk_at dksX1_requireIndex_0 16 rfl rfl)
theorem dX1_requireIndex_17 : decode cX1_requireIndex 17 = .ok (.invokespecial 70, 3) := dk_183 0 70 (dk_at dksX1_requireIndex_0 17 rfl rfl)
theorem dX1_requireIndex_20 : decode cX1_requireIndex 20 = .ok (.athrow, 1) := dk_191 (dk_at dksX1_requireIndex_0 20 rfl rfl)
theorem dX1_requireIndex_21 : decode cX1_requireIndex 21 = .ok (.return_, 1) := dk_177 (dk_at dksX1_requireIndex_0 21 rfl rfl)
abbrev cX1_offer : ByteArray := prog_1_method_22_code
def yX1_offer : MethodName := ⟨RX1, "offer", "(II)I"⟩
def dkwX1_offer_0 : List UInt8 := [42, 27, 28, 182, 0, 186, 42, 180, 0, 56, 27, 28, 182, 0, 189, 172]
abbrev dktX1_offer_0 : List UInt8 := dkwX1_offer_0 ++ []
theorem dksX1_offer_0 : cX1_offer.data.toList.drop 0 = dktX1_offer_0 := by decide +kernel
theorem dX1_offer_0 : decode cX1_offer 0 = .ok (.aload_n 0, 1) := dk_42 (dk_at dksX1_offer_0 0 rfl rfl)
theorem dX1_offer_1 : decode cX1_offer 1 = .ok (.iload_n 1, 1) := dk_27 (dk_at dksX1_offer_0 1 rfl rfl)
theorem dX1_offer_2 : decode cX1_offer 2 = .ok (.iload_n 2, 1) := dk_28 (dk_at dksX1_offer_0 2 rfl rfl)
theorem dX1_offer_3 : decode cX1_offer 3 = .ok (.invokevirtual 186, 3) := dk_182 0 186 (dk_at dksX1_offer_0 3 rfl rfl)
theorem dX1_offer_6 : decode cX1_offer 6 = .ok (.aload_n 0, 1) := dk_42 (dk_at dksX1_offer_0 6 rfl rfl)
theorem dX1_offer_7 : decode cX1_offer 7 = .ok (.getfield 56, 3) := dk_180 0 56 (dk_at dksX1_offer_0 7 rfl rfl)
theorem dX1_offer_10 : decode cX1_offer 10 = .ok (.iload_n 1, 1) := dk_27 (dk_at dksX1_offer_0 10 rfl rfl)
theorem dX1_offer_11 : decode cX1_offer 11 = .ok (.iload_n 2, 1) := dk_28 (dk_at dksX1_offer_0 11 rfl rfl)
theorem dX1_offer_12 : decode cX1_offer 12 = .ok (.invokevirtual 189, 3) := dk_182 0 189 (dk_at dksX1_offer_0 12 rfl rfl)
theorem dX1_offer_15 : decode cX1_offer 15 = .ok (.ireturn, 1) := dk_172 (dk_at dksX1_offer_0 15 rfl rfl)
abbrev cX1_requireBoth : ByteArray := prog_1_method_10_code
def yX1_requireBoth : MethodName := ⟨RX1, "requireBoth", "(II)V"⟩
def dkwX1_requireBoth_0 : List UInt8 := [27, 42, 182, 0, 77, 184, 0, 80, 42, 28, 182, 0, 98, 177]
abbrev dktX1_requireBoth_0 : List UInt8 := dkwX1_requireBoth_0 ++ []
theorem dksX1_requireBoth_0 : cX1_requireBoth.data.toList.drop 0 = dktX1_requireBoth_0 := by decide +kernel
theorem dX1_requireBoth_0 : decode cX1_requireBoth 0 = .ok (.iload_n 1, 1) := dk_27 (dk_at dksX1_requireBoth_0 0 rfl rfl)
theorem dX1_requireBoth_1 : decode cX1_requireBoth 1 = .ok (.aload_n 0, 1) := dk_42 (dk_at dksX1_requireBoth_0 1 rfl rfl)
theorem dX1_requireBoth_2 : decode cX1_requireBoth 2 = .ok (.invokevirtual 77, 3) := dk_182 0 77 (dk_at dksX1_requireBoth_0 2 rfl rfl)
theorem dX1_requireBoth_5 : decode cX1_requireBoth 5 = .ok (.invokestatic 80, 3) := dk_184 0 80 (dk_at dksX1_requireBoth_0 5 rfl rfl)
theorem dX1_requireBoth_8 : decode cX1_requireBoth 8 = .ok (.aload_n 0, 1) := dk_42 (dk_at dksX1_requireBoth_0 8 rfl rfl)
theorem dX1_requireBoth_9 : decode cX1_requireBoth 9 = .ok (.iload_n 2, 1) := dk_28 (dk_at dksX1_requireBoth_0 9 rfl rfl)
theorem dX1_requireBoth_10 : decode cX1_requireBoth 10 = .ok (.invokevirtual 98, 3) := dk_182 0 98 (dk_at dksX1_requireBoth_0 10 rfl rfl)
theorem dX1_requireBoth_13 : decode cX1_requireBoth 13 = .ok (.return_, 1) := dk_177 (dk_at dksX1_requireBoth_0 13 rfl rfl)
abbrev cX1_requireName : ByteArray := prog_1_method_9_code
def yX1_requireName : MethodName := ⟨RX1, "requireName", "(I)V"⟩
def dkwX1_requireName_0 : List UInt8 := [27, 42, 182, 0, 95, 184, 0, 80, 177]
abbrev dktX1_requireName_0 : List UInt8 := dkwX1_requireName_0 ++ []
theorem dksX1_requireName_0 : cX1_requireName.data.toList.drop 0 = dktX1_requireName_0 := by decide +kernel
theorem dX1_requireName_0 : decode cX1_requireName 0 = .ok (.iload_n 1, 1) := dk_27 (dk_at dksX1_requireName_0 0 rfl rfl)
theorem dX1_requireName_1 : decode cX1_requireName 1 = .ok (.aload_n 0, 1) := dk_42 (dk_at dksX1_requireName_0 1 rfl rfl)
theorem dX1_requireName_2 : decode cX1_requireName 2 = .ok (.invokevirtual 95, 3) := dk_182 0 95 (dk_at dksX1_requireName_0 2 rfl rfl)
theorem dX1_requireName_5 : decode cX1_requireName 5 = .ok (.invokestatic 80, 3) := dk_184 0 80 (dk_at dksX1_requireName_0 5 rfl rfl)
theorem dX1_requireName_8 : decode cX1_requireName 8 = .ok (.return_, 1) := dk_177 (dk_at dksX1_requireName_0 8 rfl rfl)
abbrev cX1_candidates : ByteArray := prog_1_method_23_code
def yX1_candidates : MethodName := ⟨RX1, "candidates", "(I)I"⟩
def dkwX1_candidates_0 : List UInt8 := [42, 27, 182, 0, 98, 42, 182, 0, 178, 27, 182, 0, 193, 172]
abbrev dktX1_candidates_0 : List UInt8 := dkwX1_candidates_0 ++ []
theorem dksX1_candidates_0 : cX1_candidates.data.toList.drop 0 = dktX1_candidates_0 := by decide +kernel
theorem dX1_candidates_0 : decode cX1_candidates 0 = .ok (.aload_n 0, 1) := dk_42 (dk_at dksX1_candidates_0 0 rfl rfl)
theorem dX1_candidates_1 : decode cX1_candidates 1 = .ok (.iload_n 1, 1) := dk_27 (dk_at dksX1_candidates_0 1 rfl rfl)
theorem dX1_candidates_2 : decode cX1_candidates 2 = .ok (.invokevirtual 98, 3) := dk_182 0 98 (dk_at dksX1_candidates_0 2 rfl rfl)
theorem dX1_candidates_5 : decode cX1_candidates 5 = .ok (.aload_n 0, 1) := dk_42 (dk_at dksX1_candidates_0 5 rfl rfl)
theorem dX1_candidates_6 : decode cX1_candidates 6 = .ok (.invokevirtual 178, 3) := dk_182 0 178 (dk_at dksX1_candidates_0 6 rfl rfl)
theorem dX1_candidates_9 : decode cX1_candidates 9 = .ok (.iload_n 1, 1) := dk_27 (dk_at dksX1_candidates_0 9 rfl rfl)
theorem dX1_candidates_10 : decode cX1_candidates 10 = .ok (.invokevirtual 193, 3) := dk_182 0 193 (dk_at dksX1_candidates_0 10 rfl rfl)
theorem dX1_candidates_13 : decode cX1_candidates 13 = .ok (.ireturn, 1) := dk_172 (dk_at dksX1_candidates_0 13 rfl rfl)
abbrev cX1_vote : ByteArray := prog_1_method_24_code
def yX1_vote : MethodName := ⟨RX1, "vote", "(II)I"⟩
def dkwX1_vote_0 : List UInt8 := [42, 27, 28, 182, 0, 186, 42, 182, 0, 178, 180, 0, 196, 27, 50, 28, 46, 172]
abbrev dktX1_vote_0 : List UInt8 := dkwX1_vote_0 ++ []
theorem dksX1_vote_0 : cX1_vote.data.toList.drop 0 = dktX1_vote_0 := by decide +kernel
theorem dX1_vote_0 : decode cX1_vote 0 = .ok (.aload_n 0, 1) := dk_42 (dk_at dksX1_vote_0 0 rfl rfl)
theorem dX1_vote_1 : decode cX1_vote 1 = .ok (.iload_n 1, 1) := dk_27 (dk_at dksX1_vote_0 1 rfl rfl)
theorem dX1_vote_2 : decode cX1_vote 2 = .ok (.iload_n 2, 1) := dk_28 (dk_at dksX1_vote_0 2 rfl rfl)
theorem dX1_vote_3 : decode cX1_vote 3 = .ok (.invokevirtual 186, 3) := dk_182 0 186 (dk_at dksX1_vote_0 3 rfl rfl)
theorem dX1_vote_6 : decode cX1_vote 6 = .ok (.aload_n 0, 1) := dk_42 (dk_at dksX1_vote_0 6 rfl rfl)
theorem dX1_vote_7 : decode cX1_vote 7 = .ok (.invokevirtual 178, 3) := dk_182 0 178 (dk_at dksX1_vote_0 7 rfl rfl)
theorem dX1_vote_10 : decode cX1_vote 10 = .ok (.getfield 196, 3) := dk_180 0 196 (dk_at dksX1_vote_0 10 rfl rfl)
theorem dX1_vote_13 : decode cX1_vote 13 = .ok (.iload_n 1, 1) := dk_27 (dk_at dksX1_vote_0 13 rfl rfl)
theorem dX1_vote_14 : decode cX1_vote 14 = .ok (.aaload, 1) := dk_50 (dk_at dksX1_vote_0 14 rfl rfl)
theorem dX1_vote_15 : decode cX1_vote 15 = .ok (.iload_n 2, 1) := dk_28 (dk_at dksX1_vote_0 15 rfl rfl)
theorem dX1_vote_16 : decode cX1_vote 16 = .ok (.iaload, 1) := dk_46 (dk_at dksX1_vote_0 16 rfl rfl)
theorem dX1_vote_17 : decode cX1_vote 17 = .ok (.ireturn, 1) := dk_172 (dk_at dksX1_vote_0 17 rfl rfl)
abbrev cX1_support : ByteArray := prog_1_method_25_code
def yX1_support : MethodName := ⟨RX1, "support", "(II)I"⟩
def dkwX1_support_1 : List UInt8 := [27, 50, 28, 46, 167, 0, 4, 2, 172]
abbrev dktX1_support_1 : List UInt8 := dkwX1_support_1 ++ []
def dkwX1_support_0 : List UInt8 := [42, 27, 28, 182, 0, 186, 42, 182, 0, 178, 78, 45, 27, 28, 182, 0, 200, 153, 0, 14, 45, 180, 0, 204]
abbrev dktX1_support_0 : List UInt8 := dkwX1_support_0 ++ dktX1_support_1
theorem dksX1_support_0 : cX1_support.data.toList.drop 0 = dktX1_support_0 := by decide +kernel
theorem dksX1_support_1 : cX1_support.data.toList.drop 24 = dktX1_support_1 := dk_seg dksX1_support_0 24 rfl rfl
theorem dX1_support_0 : decode cX1_support 0 = .ok (.aload_n 0, 1) := dk_42 (dk_at dksX1_support_0 0 rfl rfl)
theorem dX1_support_1 : decode cX1_support 1 = .ok (.iload_n 1, 1) := dk_27 (dk_at dksX1_support_0 1 rfl rfl)
theorem dX1_support_2 : decode cX1_support 2 = .ok (.iload_n 2, 1) := dk_28 (dk_at dksX1_support_0 2 rfl rfl)
theorem dX1_support_3 : decode cX1_support 3 = .ok (.invokevirtual 186, 3) := dk_182 0 186 (dk_at dksX1_support_0 3 rfl rfl)
theorem dX1_support_6 : decode cX1_support 6 = .ok (.aload_n 0, 1) := dk_42 (dk_at dksX1_support_0 6 rfl rfl)
theorem dX1_support_7 : decode cX1_support 7 = .ok (.invokevirtual 178, 3) := dk_182 0 178 (dk_at dksX1_support_0 7 rfl rfl)
theorem dX1_support_10 : decode cX1_support 10 = .ok (.astore_n 3, 1) := dk_78 (dk_at dksX1_support_0 10 rfl rfl)
theorem dX1_support_11 : decode cX1_support 11 = .ok (.aload_n 3, 1) := dk_45 (dk_at dksX1_support_0 11 rfl rfl)
theorem dX1_support_12 : decode cX1_support 12 = .ok (.iload_n 1, 1) := dk_27 (dk_at dksX1_support_0 12 rfl rfl)
theorem dX1_support_13 : decode cX1_support 13 = .ok (.iload_n 2, 1) := dk_28 (dk_at dksX1_support_0 13 rfl rfl)
theorem dX1_support_14 : decode cX1_support 14 = .ok (.invokevirtual 200, 3) := dk_182 0 200 (dk_at dksX1_support_0 14 rfl rfl)
theorem dX1_support_17 : decode cX1_support 17 = .ok (.ifCond .eq 14, 3) := dk_153 0 14 (dk_at dksX1_support_0 17 rfl rfl)
theorem dX1_support_20 : decode cX1_support 20 = .ok (.aload_n 3, 1) := dk_45 (dk_at dksX1_support_0 20 rfl rfl)
theorem dX1_support_21 : decode cX1_support 21 = .ok (.getfield 204, 3) := dk_180 0 204 (dk_at dksX1_support_0 21 rfl rfl)
theorem dX1_support_24 : decode cX1_support 24 = .ok (.iload_n 1, 1) := dk_27 (dk_at dksX1_support_1 0 rfl rfl)
theorem dX1_support_25 : decode cX1_support 25 = .ok (.aaload, 1) := dk_50 (dk_at dksX1_support_1 1 rfl rfl)
theorem dX1_support_26 : decode cX1_support 26 = .ok (.iload_n 2, 1) := dk_28 (dk_at dksX1_support_1 2 rfl rfl)
theorem dX1_support_27 : decode cX1_support 27 = .ok (.iaload, 1) := dk_46 (dk_at dksX1_support_1 3 rfl rfl)
theorem dX1_support_28 : decode cX1_support 28 = .ok (.goto 4, 3) := dk_167 0 4 (dk_at dksX1_support_1 4 rfl rfl)
theorem dX1_support_31 : decode cX1_support 31 = .ok (.iconst (-1), 1) := dk_2 (dk_at dksX1_support_1 7 rfl rfl)
theorem dX1_support_32 : decode cX1_support 32 = .ok (.ireturn, 1) := dk_172 (dk_at dksX1_support_1 8 rfl rfl)
abbrev cX1_winner : ByteArray := prog_1_method_26_code
def yX1_winner : MethodName := ⟨RX1, "winner", "(I)I"⟩
def dkwX1_winner_0 : List UInt8 := [42, 27, 182, 0, 98, 42, 182, 0, 178, 180, 0, 207, 27, 46, 172]
abbrev dktX1_winner_0 : List UInt8 := dkwX1_winner_0 ++ []
theorem dksX1_winner_0 : cX1_winner.data.toList.drop 0 = dktX1_winner_0 := by decide +kernel
theorem dX1_winner_0 : decode cX1_winner 0 = .ok (.aload_n 0, 1) := dk_42 (dk_at dksX1_winner_0 0 rfl rfl)
theorem dX1_winner_1 : decode cX1_winner 1 = .ok (.iload_n 1, 1) := dk_27 (dk_at dksX1_winner_0 1 rfl rfl)
theorem dX1_winner_2 : decode cX1_winner 2 = .ok (.invokevirtual 98, 3) := dk_182 0 98 (dk_at dksX1_winner_0 2 rfl rfl)
theorem dX1_winner_5 : decode cX1_winner 5 = .ok (.aload_n 0, 1) := dk_42 (dk_at dksX1_winner_0 5 rfl rfl)
theorem dX1_winner_6 : decode cX1_winner 6 = .ok (.invokevirtual 178, 3) := dk_182 0 178 (dk_at dksX1_winner_0 6 rfl rfl)
theorem dX1_winner_9 : decode cX1_winner 9 = .ok (.getfield 207, 3) := dk_180 0 207 (dk_at dksX1_winner_0 9 rfl rfl)
theorem dX1_winner_12 : decode cX1_winner 12 = .ok (.iload_n 1, 1) := dk_27 (dk_at dksX1_winner_0 12 rfl rfl)
theorem dX1_winner_13 : decode cX1_winner 13 = .ok (.iaload, 1) := dk_46 (dk_at dksX1_winner_0 13 rfl rfl)
theorem dX1_winner_14 : decode cX1_winner 14 = .ok (.ireturn, 1) := dk_172 (dk_at dksX1_winner_0 14 rfl rfl)
abbrev cX1_margin : ByteArray := prog_1_method_27_code
def yX1_margin : MethodName := ⟨RX1, "margin", "(I)I"⟩
def dkwX1_margin_0 : List UInt8 := [42, 27, 182, 0, 98, 42, 182, 0, 178, 27, 182, 0, 210, 172]
abbrev dktX1_margin_0 : List UInt8 := dkwX1_margin_0 ++ []
theorem dksX1_margin_0 : cX1_margin.data.toList.drop 0 = dktX1_margin_0 := by decide +kernel
theorem dX1_margin_0 : decode cX1_margin 0 = .ok (.aload_n 0, 1) := dk_42 (dk_at dksX1_margin_0 0 rfl rfl)
theorem dX1_margin_1 : decode cX1_margin 1 = .ok (.iload_n 1, 1) := dk_27 (dk_at dksX1_margin_0 1 rfl rfl)
theorem dX1_margin_2 : decode cX1_margin 2 = .ok (.invokevirtual 98, 3) := dk_182 0 98 (dk_at dksX1_margin_0 2 rfl rfl)
theorem dX1_margin_5 : decode cX1_margin 5 = .ok (.aload_n 0, 1) := dk_42 (dk_at dksX1_margin_0 5 rfl rfl)
theorem dX1_margin_6 : decode cX1_margin 6 = .ok (.invokevirtual 178, 3) := dk_182 0 178 (dk_at dksX1_margin_0 6 rfl rfl)
theorem dX1_margin_9 : decode cX1_margin 9 = .ok (.iload_n 1, 1) := dk_27 (dk_at dksX1_margin_0 9 rfl rfl)
theorem dX1_margin_10 : decode cX1_margin 10 = .ok (.invokevirtual 210, 3) := dk_182 0 210 (dk_at dksX1_margin_0 10 rfl rfl)
theorem dX1_margin_13 : decode cX1_margin 13 = .ok (.ireturn, 1) := dk_172 (dk_at dksX1_margin_0 13 rfl rfl)
abbrev cX1_binding : ByteArray := prog_1_method_28_code
def yX1_binding : MethodName := ⟨RX1, "binding", "(II)I"⟩
def dkwX1_binding_0 : List UInt8 := [42, 27, 28, 182, 0, 186, 42, 182, 0, 178, 180, 0, 213, 27, 50, 28, 46, 172]
abbrev dktX1_binding_0 : List UInt8 := dkwX1_binding_0 ++ []
theorem dksX1_binding_0 : cX1_binding.data.toList.drop 0 = dktX1_binding_0 := by decide +kernel
theorem dX1_binding_0 : decode cX1_binding 0 = .ok (.aload_n 0, 1) := dk_42 (dk_at dksX1_binding_0 0 rfl rfl)
theorem dX1_binding_1 : decode cX1_binding 1 = .ok (.iload_n 1, 1) := dk_27 (dk_at dksX1_binding_0 1 rfl rfl)
theorem dX1_binding_2 : decode cX1_binding 2 = .ok (.iload_n 2, 1) := dk_28 (dk_at dksX1_binding_0 2 rfl rfl)
theorem dX1_binding_3 : decode cX1_binding 3 = .ok (.invokevirtual 186, 3) := dk_182 0 186 (dk_at dksX1_binding_0 3 rfl rfl)
theorem dX1_binding_6 : decode cX1_binding 6 = .ok (.aload_n 0, 1) := dk_42 (dk_at dksX1_binding_0 6 rfl rfl)
theorem dX1_binding_7 : decode cX1_binding 7 = .ok (.invokevirtual 178, 3) := dk_182 0 178 (dk_at dksX1_binding_0 7 rfl rfl)
theorem dX1_binding_10 : decode cX1_binding 10 = .ok (.getfield 213, 3) := dk_180 0 213 (dk_at dksX1_binding_0 10 rfl rfl)
theorem dX1_binding_13 : decode cX1_binding 13 = .ok (.iload_n 1, 1) := dk_27 (dk_at dksX1_binding_0 13 rfl rfl)
theorem dX1_binding_14 : decode cX1_binding 14 = .ok (.aaload, 1) := dk_50 (dk_at dksX1_binding_0 14 rfl rfl)
theorem dX1_binding_15 : decode cX1_binding 15 = .ok (.iload_n 2, 1) := dk_28 (dk_at dksX1_binding_0 15 rfl rfl)
theorem dX1_binding_16 : decode cX1_binding 16 = .ok (.iaload, 1) := dk_46 (dk_at dksX1_binding_0 16 rfl rfl)
theorem dX1_binding_17 : decode cX1_binding 17 = .ok (.ireturn, 1) := dk_172 (dk_at dksX1_binding_0 17 rfl rfl)
abbrev cX1_minority : ByteArray := prog_1_method_29_code
def yX1_minority : MethodName := ⟨RX1, "minority", "(I)I"⟩
def dkwX1_minority_0 : List UInt8 := [42, 27, 182, 0, 98, 42, 182, 0, 178, 77, 44, 27, 44, 180, 0, 207, 27, 46, 3, 182, 0, 216, 172]
abbrev dktX1_minority_0 : List UInt8 := dkwX1_minority_0 ++ []
theorem dksX1_minority_0 : cX1_minority.data.toList.drop 0 = dktX1_minority_0 := by decide +kernel
theorem dX1_minority_0 : decode cX1_minority 0 = .ok (.aload_n 0, 1) := dk_42 (dk_at dksX1_minority_0 0 rfl rfl)
theorem dX1_minority_1 : decode cX1_minority 1 = .ok (.iload_n 1, 1) := dk_27 (dk_at dksX1_minority_0 1 rfl rfl)
theorem dX1_minority_2 : decode cX1_minority 2 = .ok (.invokevirtual 98, 3) := dk_182 0 98 (dk_at dksX1_minority_0 2 rfl rfl)
theorem dX1_minority_5 : decode cX1_minority 5 = .ok (.aload_n 0, 1) := dk_42 (dk_at dksX1_minority_0 5 rfl rfl)
theorem dX1_minority_6 : decode cX1_minority 6 = .ok (.invokevirtual 178, 3) := dk_182 0 178 (dk_at dksX1_minority_0 6 rfl rfl)
theorem dX1_minority_9 : decode cX1_minority 9 = .ok (.astore_n 2, 1) := dk_77 (dk_at dksX1_minority_0 9 rfl rfl)
theorem dX1_minority_10 : decode cX1_minority 10 = .ok (.aload_n 2, 1) := dk_44 (dk_at dksX1_minority_0 10 rfl rfl)
theorem dX1_minority_11 : decode cX1_minority 11 = .ok (.iload_n 1, 1) := dk_27 (dk_at dksX1_minority_0 11 rfl rfl)
theorem dX1_minority_12 : decode cX1_minority 12 = .ok (.aload_n 2, 1) := dk_44 (dk_at dksX1_minority_0 12 rfl rfl)
theorem dX1_minority_13 : decode cX1_minority 13 = .ok (.getfield 207, 3) := dk_180 0 207 (dk_at dksX1_minority_0 13 rfl rfl)
theorem dX1_minority_16 : decode cX1_minority 16 = .ok (.iload_n 1, 1) := dk_27 (dk_at dksX1_minority_0 16 rfl rfl)
theorem dX1_minority_17 : decode cX1_minority 17 = .ok (.iaload, 1) := dk_46 (dk_at dksX1_minority_0 17 rfl rfl)
theorem dX1_minority_18 : decode cX1_minority 18 = .ok (.iconst 0, 1) := dk_3 (dk_at dksX1_minority_0 18 rfl rfl)
theorem dX1_minority_19 : decode cX1_minority 19 = .ok (.invokevirtual 216, 3) := dk_182 0 216 (dk_at dksX1_minority_0 19 rfl rfl)
theorem dX1_minority_22 : decode cX1_minority 22 = .ok (.ireturn, 1) := dk_172 (dk_at dksX1_minority_0 22 rfl rfl)
abbrev cX1_call : ByteArray := prog_1_method_30_code
def yX1_call : MethodName := ⟨RX1, "call", "(II)I"⟩
def dkwX1_call_1 : List UInt8 := [180, 0, 229, 172]
abbrev dktX1_call_1 : List UInt8 := dkwX1_call_1 ++ []
def dkwX1_call_0 : List UInt8 := [42, 27, 28, 182, 0, 186, 187, 0, 220, 89, 42, 182, 0, 178, 183, 0, 222, 27, 28, 182, 0, 225]
abbrev dktX1_call_0 : List UInt8 := dkwX1_call_0 ++ dktX1_call_1
theorem dksX1_call_0 : cX1_call.data.toList.drop 0 = dktX1_call_0 := by decide +kernel
theorem dksX1_call_1 : cX1_call.data.toList.drop 22 = dktX1_call_1 := dk_seg dksX1_call_0 22 rfl rfl
theorem dX1_call_0 : decode cX1_call 0 = .ok (.aload_n 0, 1) := dk_42 (dk_at dksX1_call_0 0 rfl rfl)
theorem dX1_call_1 : decode cX1_call 1 = .ok (.iload_n 1, 1) := dk_27 (dk_at dksX1_call_0 1 rfl rfl)
theorem dX1_call_2 : decode cX1_call 2 = .ok (.iload_n 2, 1) := dk_28 (dk_at dksX1_call_0 2 rfl rfl)
theorem dX1_call_3 : decode cX1_call 3 = .ok (.invokevirtual 186, 3) := dk_182 0 186 (dk_at dksX1_call_0 3 rfl rfl)
theorem dX1_call_6 : decode cX1_call 6 = .ok (.new 220, 3) := dk_187 0 220 (dk_at dksX1_call_0 6 rfl rfl)
theorem dX1_call_9 : decode cX1_call 9 = .ok (.dup, 1) := dk_89 (dk_at dksX1_call_0 9 rfl rfl)
theorem dX1_call_10 : decode cX1_call 10 = .ok (.aload_n 0, 1) := dk_42 (dk_at dksX1_call_0 10 rfl rfl)
theorem dX1_call_11 : decode cX1_call 11 = .ok (.invokevirtual 178, 3) := dk_182 0 178 (dk_at dksX1_call_0 11 rfl rfl)
theorem dX1_call_14 : decode cX1_call 14 = .ok (.invokespecial 222, 3) := dk_183 0 222 (dk_at dksX1_call_0 14 rfl rfl)
theorem dX1_call_17 : decode cX1_call 17 = .ok (.iload_n 1, 1) := dk_27 (dk_at dksX1_call_0 17 rfl rfl)
theorem dX1_call_18 : decode cX1_call 18 = .ok (.iload_n 2, 1) := dk_28 (dk_at dksX1_call_0 18 rfl rfl)
theorem dX1_call_19 : decode cX1_call 19 = .ok (.invokevirtual 225, 3) := dk_182 0 225 (dk_at dksX1_call_0 19 rfl rfl)
theorem dX1_call_22 : decode cX1_call 22 = .ok (.getfield 229, 3) := dk_180 0 229 (dk_at dksX1_call_1 0 rfl rfl)
theorem dX1_call_25 : decode cX1_call 25 = .ok (.ireturn, 1) := dk_172 (dk_at dksX1_call_1 3 rfl rfl)
abbrev cX1_steps : ByteArray := prog_1_method_31_code
def yX1_steps : MethodName := ⟨RX1, "steps", "(II)I"⟩
def dkwX1_steps_1 : List UInt8 := [180, 0, 232, 172]
abbrev dktX1_steps_1 : List UInt8 := dkwX1_steps_1 ++ []
def dkwX1_steps_0 : List UInt8 := [42, 27, 28, 182, 0, 186, 187, 0, 220, 89, 42, 182, 0, 178, 183, 0, 222, 27, 28, 182, 0, 225]
abbrev dktX1_steps_0 : List UInt8 := dkwX1_steps_0 ++ dktX1_steps_1
theorem dksX1_steps_0 : cX1_steps.data.toList.drop 0 = dktX1_steps_0 := by decide +kernel
theorem dksX1_steps_1 : cX1_steps.data.toList.drop 22 = dktX1_steps_1 := dk_seg dksX1_steps_0 22 rfl rfl
theorem dX1_steps_0 : decode cX1_steps 0 = .ok (.aload_n 0, 1) := dk_42 (dk_at dksX1_steps_0 0 rfl rfl)
theorem dX1_steps_1 : decode cX1_steps 1 = .ok (.iload_n 1, 1) := dk_27 (dk_at dksX1_steps_0 1 rfl rfl)
theorem dX1_steps_2 : decode cX1_steps 2 = .ok (.iload_n 2, 1) := dk_28 (dk_at dksX1_steps_0 2 rfl rfl)
theorem dX1_steps_3 : decode cX1_steps 3 = .ok (.invokevirtual 186, 3) := dk_182 0 186 (dk_at dksX1_steps_0 3 rfl rfl)
theorem dX1_steps_6 : decode cX1_steps 6 = .ok (.new 220, 3) := dk_187 0 220 (dk_at dksX1_steps_0 6 rfl rfl)
theorem dX1_steps_9 : decode cX1_steps 9 = .ok (.dup, 1) := dk_89 (dk_at dksX1_steps_0 9 rfl rfl)
theorem dX1_steps_10 : decode cX1_steps 10 = .ok (.aload_n 0, 1) := dk_42 (dk_at dksX1_steps_0 10 rfl rfl)
theorem dX1_steps_11 : decode cX1_steps 11 = .ok (.invokevirtual 178, 3) := dk_182 0 178 (dk_at dksX1_steps_0 11 rfl rfl)
theorem dX1_steps_14 : decode cX1_steps 14 = .ok (.invokespecial 222, 3) := dk_183 0 222 (dk_at dksX1_steps_0 14 rfl rfl)
theorem dX1_steps_17 : decode cX1_steps 17 = .ok (.iload_n 1, 1) := dk_27 (dk_at dksX1_steps_0 17 rfl rfl)
theorem dX1_steps_18 : decode cX1_steps 18 = .ok (.iload_n 2, 1) := dk_28 (dk_at dksX1_steps_0 18 rfl rfl)
theorem dX1_steps_19 : decode cX1_steps 19 = .ok (.invokevirtual 225, 3) := dk_182 0 225 (dk_at dksX1_steps_0 19 rfl rfl)
theorem dX1_steps_22 : decode cX1_steps 22 = .ok (.getfield 232, 3) := dk_180 0 232 (dk_at dksX1_steps_1 0 rfl rfl)
theorem dX1_steps_25 : decode cX1_steps 25 = .ok (.ireturn, 1) := dk_172 (dk_at dksX1_steps_1 3 rfl rfl)
abbrev cX1_users : ByteArray := prog_1_method_32_code
def yX1_users : MethodName := ⟨RX1, "users", "(II)I"⟩
def dkwX1_users_0 : List UInt8 := [42, 27, 28, 182, 0, 186, 42, 182, 0, 178, 28, 27, 4, 182, 0, 216, 172]
abbrev dktX1_users_0 : List UInt8 := dkwX1_users_0 ++ []
theorem dksX1_users_0 : cX1_users.data.toList.drop 0 = dktX1_users_0 := by decide +kernel
theorem dX1_users_0 : decode cX1_users 0 = .ok (.aload_n 0, 1) := dk_42 (dk_at dksX1_users_0 0 rfl rfl)
theorem dX1_users_1 : decode cX1_users 1 = .ok (.iload_n 1, 1) := dk_27 (dk_at dksX1_users_0 1 rfl rfl)
theorem dX1_users_2 : decode cX1_users 2 = .ok (.iload_n 2, 1) := dk_28 (dk_at dksX1_users_0 2 rfl rfl)
theorem dX1_users_3 : decode cX1_users 3 = .ok (.invokevirtual 186, 3) := dk_182 0 186 (dk_at dksX1_users_0 3 rfl rfl)
theorem dX1_users_6 : decode cX1_users 6 = .ok (.aload_n 0, 1) := dk_42 (dk_at dksX1_users_0 6 rfl rfl)
theorem dX1_users_7 : decode cX1_users 7 = .ok (.invokevirtual 178, 3) := dk_182 0 178 (dk_at dksX1_users_0 7 rfl rfl)
theorem dX1_users_10 : decode cX1_users 10 = .ok (.iload_n 2, 1) := dk_28 (dk_at dksX1_users_0 10 rfl rfl)
theorem dX1_users_11 : decode cX1_users 11 = .ok (.iload_n 1, 1) := dk_27 (dk_at dksX1_users_0 11 rfl rfl)
theorem dX1_users_12 : decode cX1_users 12 = .ok (.iconst 1, 1) := dk_4 (dk_at dksX1_users_0 12 rfl rfl)
theorem dX1_users_13 : decode cX1_users 13 = .ok (.invokevirtual 216, 3) := dk_182 0 216 (dk_at dksX1_users_0 13 rfl rfl)
theorem dX1_users_16 : decode cX1_users 16 = .ok (.ireturn, 1) := dk_172 (dk_at dksX1_users_0 16 rfl rfl)
abbrev cX1_unload : ByteArray := prog_1_method_33_code
def yX1_unload : MethodName := ⟨RX1, "unload", "(I)I"⟩
def dkwX1_unload_2 : List UInt8 := [182, 0, 244, 172]
abbrev dktX1_unload_2 : List UInt8 := dkwX1_unload_2 ++ []
def dkwX1_unload_1 : List UInt8 := [184, 0, 235, 42, 182, 0, 178, 78, 42, 182, 0, 238, 27, 182, 0, 241, 42, 182, 0, 178, 45, 27]
abbrev dktX1_unload_1 : List UInt8 := dkwX1_unload_1 ++ dktX1_unload_2
def dkwX1_unload_0 : List UInt8 := [42, 27, 182, 0, 157, 77, 42, 180, 0, 56, 27, 182, 0, 169, 2, 159, 0, 7, 4, 167, 0, 4, 3]
abbrev dktX1_unload_0 : List UInt8 := dkwX1_unload_0 ++ dktX1_unload_1
theorem dksX1_unload_0 : cX1_unload.data.toList.drop 0 = dktX1_unload_0 := by decide +kernel
theorem dksX1_unload_1 : cX1_unload.data.toList.drop 23 = dktX1_unload_1 := dk_seg dksX1_unload_0 23 rfl rfl
theorem dksX1_unload_2 : cX1_unload.data.toList.drop 45 = dktX1_unload_2 := dk_seg dksX1_unload_1 22 rfl rfl
theorem dX1_unload_0 : decode cX1_unload 0 = .ok (.aload_n 0, 1) := dk_42 (dk_at dksX1_unload_0 0 rfl rfl)
theorem dX1_unload_1 : decode cX1_unload 1 = .ok (.iload_n 1, 1) := dk_27 (dk_at dksX1_unload_0 1 rfl rfl)
theorem dX1_unload_2 : decode cX1_unload 2 = .ok (.invokevirtual 157, 3) := dk_182 0 157 (dk_at dksX1_unload_0 2 rfl rfl)
theorem dX1_unload_5 : decode cX1_unload 5 = .ok (.astore_n 2, 1) := dk_77 (dk_at dksX1_unload_0 5 rfl rfl)
theorem dX1_unload_6 : decode cX1_unload 6 = .ok (.aload_n 0, 1) := dk_42 (dk_at dksX1_unload_0 6 rfl rfl)
theorem dX1_unload_7 : decode cX1_unload 7 = .ok (.getfield 56, 3) := dk_180 0 56 (dk_at dksX1_unload_0 7 rfl rfl)
theorem dX1_unload_10 : decode cX1_unload 10 = .ok (.iload_n 1, 1) := dk_27 (dk_at dksX1_unload_0 10 rfl rfl)
theorem dX1_unload_11 : decode cX1_unload 11 = .ok (.invokevirtual 169, 3) := dk_182 0 169 (dk_at dksX1_unload_0 11 rfl rfl)
theorem dX1_unload_14 : decode cX1_unload 14 = .ok (.iconst (-1), 1) := dk_2 (dk_at dksX1_unload_0 14 rfl rfl)
theorem dX1_unload_15 : decode cX1_unload 15 = .ok (.if_icmp .eq 7, 3) := dk_159 0 7 (dk_at dksX1_unload_0 15 rfl rfl)
theorem dX1_unload_18 : decode cX1_unload 18 = .ok (.iconst 1, 1) := dk_4 (dk_at dksX1_unload_0 18 rfl rfl)
theorem dX1_unload_19 : decode cX1_unload 19 = .ok (.goto 4, 3) := dk_167 0 4 (dk_at dksX1_unload_0 19 rfl rfl)
theorem dX1_unload_22 : decode cX1_unload 22 = .ok (.iconst 0, 1) := dk_3 (dk_at dksX1_unload_0 22 rfl rfl)
theorem dX1_unload_23 : decode cX1_unload 23 = .ok (.invokestatic 235, 3) := dk_184 0 235 (dk_at dksX1_unload_1 0 rfl rfl)
theorem dX1_unload_26 : decode cX1_unload 26 = .ok (.aload_n 0, 1) := dk_42 (dk_at dksX1_unload_1 3 rfl rfl)
theorem dX1_unload_27 : decode cX1_unload 27 = .ok (.invokevirtual 178, 3) := dk_182 0 178 (dk_at dksX1_unload_1 4 rfl rfl)
theorem dX1_unload_30 : decode cX1_unload 30 = .ok (.astore_n 3, 1) := dk_78 (dk_at dksX1_unload_1 7 rfl rfl)
theorem dX1_unload_31 : decode cX1_unload 31 = .ok (.aload_n 0, 1) := dk_42 (dk_at dksX1_unload_1 8 rfl rfl)
theorem dX1_unload_32 : decode cX1_unload 32 = .ok (.invokevirtual 238, 3) := dk_182 0 238 (dk_at dksX1_unload_1 9 rfl rfl)
theorem dX1_unload_35 : decode cX1_unload 35 = .ok (.iload_n 1, 1) := dk_27 (dk_at dksX1_unload_1 12 rfl rfl)
theorem dX1_unload_36 : decode cX1_unload 36 = .ok (.invokevirtual 241, 3) := dk_182 0 241 (dk_at dksX1_unload_1 13 rfl rfl)
theorem dX1_unload_39 : decode cX1_unload 39 = .ok (.aload_n 0, 1) := dk_42 (dk_at dksX1_unload_1 16 rfl rfl)
theorem dX1_unload_40 : decode cX1_unload 40 = .ok (.invokevirtual 178, 3) := dk_182 0 178 (dk_at dksX1_unload_1 17 rfl rfl)
theorem dX1_unload_43 : decode cX1_unload 43 = .ok (.aload_n 3, 1) := dk_45 (dk_at dksX1_unload_1 20 rfl rfl)
theorem dX1_unload_44 : decode cX1_unload 44 = .ok (.iload_n 1, 1) := dk_27 (dk_at dksX1_unload_1 21 rfl rfl)
theorem dX1_unload_45 : decode cX1_unload 45 = .ok (.invokevirtual 244, 3) := dk_182 0 244 (dk_at dksX1_unload_2 0 rfl rfl)
theorem dX1_unload_48 : decode cX1_unload 48 = .ok (.ireturn, 1) := dk_172 (dk_at dksX1_unload_2 3 rfl rfl)
abbrev cX1_requireState : ByteArray := prog_1_method_7_code
def yX1_requireState : MethodName := ⟨RX1, "requireState", "(Z)V"⟩
def dkwX1_requireState_0 : List UInt8 := [26, 154, 0, 11, 187, 0, 74, 89, 183, 0, 76, 191, 177]
abbrev dktX1_requireState_0 : List UInt8 := dkwX1_requireState_0 ++ []
theorem dksX1_requireState_0 : cX1_requireState.data.toList.drop 0 = dktX1_requireState_0 := by decide +kernel
theorem dX1_requireState_0 : decode cX1_requireState 0 = .ok (.iload_n 0, 1) := dk_26 (dk_at dksX1_requireState_0 0 rfl rfl)
theorem dX1_requireState_1 : decode cX1_requireState 1 = .ok (.ifCond .ne 11, 3) := dk_154 0 11 (dk_at dksX1_requireState_0 1 rfl rfl)
theorem dX1_requireState_4 : decode cX1_requireState 4 = .ok (.new 74, 3) := dk_187 0 74 (dk_at dksX1_requireState_0 4 rfl rfl)
theorem dX1_requireState_7 : decode cX1_requireState 7 = .ok (.dup, 1) := dk_89 (dk_at dksX1_requireState_0 7 rfl rfl)
theorem dX1_requireState_8 : decode cX1_requireState 8 = .ok (.invokespecial 76, 3) := dk_183 0 76 (dk_at dksX1_requireState_0 8 rfl rfl)
theorem dX1_requireState_11 : decode cX1_requireState 11 = .ok (.athrow, 1) := dk_191 (dk_at dksX1_requireState_0 11 rfl rfl)
theorem dX1_requireState_12 : decode cX1_requireState 12 = .ok (.return_, 1) := dk_177 (dk_at dksX1_requireState_0 12 rfl rfl)
abbrev cX1_change : ByteArray := prog_1_method_13_code
def yX1_change : MethodName := ⟨RX1, "change", "()LLinkElection$House;"⟩
def dkwX1_change_0 : List UInt8 := [42, 42, 180, 0, 56, 182, 0, 118, 182, 0, 122, 42, 180, 0, 56, 176]
abbrev dktX1_change_0 : List UInt8 := dkwX1_change_0 ++ []
theorem dksX1_change_0 : cX1_change.data.toList.drop 0 = dktX1_change_0 := by decide +kernel
theorem dX1_change_0 : decode cX1_change 0 = .ok (.aload_n 0, 1) := dk_42 (dk_at dksX1_change_0 0 rfl rfl)
theorem dX1_change_1 : decode cX1_change 1 = .ok (.aload_n 0, 1) := dk_42 (dk_at dksX1_change_0 1 rfl rfl)
theorem dX1_change_2 : decode cX1_change 2 = .ok (.getfield 56, 3) := dk_180 0 56 (dk_at dksX1_change_0 2 rfl rfl)
theorem dX1_change_5 : decode cX1_change 5 = .ok (.invokevirtual 118, 3) := dk_182 0 118 (dk_at dksX1_change_0 5 rfl rfl)
theorem dX1_change_8 : decode cX1_change 8 = .ok (.invokevirtual 122, 3) := dk_182 0 122 (dk_at dksX1_change_0 8 rfl rfl)
theorem dX1_change_11 : decode cX1_change 11 = .ok (.aload_n 0, 1) := dk_42 (dk_at dksX1_change_0 11 rfl rfl)
theorem dX1_change_12 : decode cX1_change 12 = .ok (.getfield 56, 3) := dk_180 0 56 (dk_at dksX1_change_0 12 rfl rfl)
theorem dX1_change_15 : decode cX1_change 15 = .ok (.areturn, 1) := dk_176 (dk_at dksX1_change_0 15 rfl rfl)
abbrev cX1_reload : ByteArray := prog_1_method_34_code
def yX1_reload : MethodName := ⟨RX1, "reload", "(I)I"⟩
def dkwX1_reload_2 : List UInt8 := [182, 0, 244, 172]
abbrev dktX1_reload_2 : List UInt8 := dkwX1_reload_2 ++ []
def dkwX1_reload_1 : List UInt8 := [184, 0, 235, 42, 182, 0, 178, 78, 42, 182, 0, 238, 27, 182, 0, 248, 42, 182, 0, 178, 45, 27]
abbrev dktX1_reload_1 : List UInt8 := dkwX1_reload_1 ++ dktX1_reload_2
def dkwX1_reload_0 : List UInt8 := [42, 27, 182, 0, 157, 77, 42, 180, 0, 56, 27, 182, 0, 169, 2, 160, 0, 7, 4, 167, 0, 4, 3]
abbrev dktX1_reload_0 : List UInt8 := dkwX1_reload_0 ++ dktX1_reload_1
theorem dksX1_reload_0 : cX1_reload.data.toList.drop 0 = dktX1_reload_0 := by decide +kernel
theorem dksX1_reload_1 : cX1_reload.data.toList.drop 23 = dktX1_reload_1 := dk_seg dksX1_reload_0 23 rfl rfl
theorem dksX1_reload_2 : cX1_reload.data.toList.drop 45 = dktX1_reload_2 := dk_seg dksX1_reload_1 22 rfl rfl
theorem dX1_reload_0 : decode cX1_reload 0 = .ok (.aload_n 0, 1) := dk_42 (dk_at dksX1_reload_0 0 rfl rfl)
theorem dX1_reload_1 : decode cX1_reload 1 = .ok (.iload_n 1, 1) := dk_27 (dk_at dksX1_reload_0 1 rfl rfl)
theorem dX1_reload_2 : decode cX1_reload 2 = .ok (.invokevirtual 157, 3) := dk_182 0 157 (dk_at dksX1_reload_0 2 rfl rfl)
theorem dX1_reload_5 : decode cX1_reload 5 = .ok (.astore_n 2, 1) := dk_77 (dk_at dksX1_reload_0 5 rfl rfl)
theorem dX1_reload_6 : decode cX1_reload 6 = .ok (.aload_n 0, 1) := dk_42 (dk_at dksX1_reload_0 6 rfl rfl)
theorem dX1_reload_7 : decode cX1_reload 7 = .ok (.getfield 56, 3) := dk_180 0 56 (dk_at dksX1_reload_0 7 rfl rfl)
theorem dX1_reload_10 : decode cX1_reload 10 = .ok (.iload_n 1, 1) := dk_27 (dk_at dksX1_reload_0 10 rfl rfl)
theorem dX1_reload_11 : decode cX1_reload 11 = .ok (.invokevirtual 169, 3) := dk_182 0 169 (dk_at dksX1_reload_0 11 rfl rfl)
theorem dX1_reload_14 : decode cX1_reload 14 = .ok (.iconst (-1), 1) := dk_2 (dk_at dksX1_reload_0 14 rfl rfl)
theorem dX1_reload_15 : decode cX1_reload 15 = .ok (.if_icmp .ne 7, 3) := dk_160 0 7 (dk_at dksX1_reload_0 15 rfl rfl)
theorem dX1_reload_18 : decode cX1_reload 18 = .ok (.iconst 1, 1) := dk_4 (dk_at dksX1_reload_0 18 rfl rfl)
theorem dX1_reload_19 : decode cX1_reload 19 = .ok (.goto 4, 3) := dk_167 0 4 (dk_at dksX1_reload_0 19 rfl rfl)
theorem dX1_reload_22 : decode cX1_reload 22 = .ok (.iconst 0, 1) := dk_3 (dk_at dksX1_reload_0 22 rfl rfl)
theorem dX1_reload_23 : decode cX1_reload 23 = .ok (.invokestatic 235, 3) := dk_184 0 235 (dk_at dksX1_reload_1 0 rfl rfl)
theorem dX1_reload_26 : decode cX1_reload 26 = .ok (.aload_n 0, 1) := dk_42 (dk_at dksX1_reload_1 3 rfl rfl)
theorem dX1_reload_27 : decode cX1_reload 27 = .ok (.invokevirtual 178, 3) := dk_182 0 178 (dk_at dksX1_reload_1 4 rfl rfl)
theorem dX1_reload_30 : decode cX1_reload 30 = .ok (.astore_n 3, 1) := dk_78 (dk_at dksX1_reload_1 7 rfl rfl)
theorem dX1_reload_31 : decode cX1_reload 31 = .ok (.aload_n 0, 1) := dk_42 (dk_at dksX1_reload_1 8 rfl rfl)
theorem dX1_reload_32 : decode cX1_reload 32 = .ok (.invokevirtual 238, 3) := dk_182 0 238 (dk_at dksX1_reload_1 9 rfl rfl)
theorem dX1_reload_35 : decode cX1_reload 35 = .ok (.iload_n 1, 1) := dk_27 (dk_at dksX1_reload_1 12 rfl rfl)
theorem dX1_reload_36 : decode cX1_reload 36 = .ok (.invokevirtual 248, 3) := dk_182 0 248 (dk_at dksX1_reload_1 13 rfl rfl)
theorem dX1_reload_39 : decode cX1_reload 39 = .ok (.aload_n 0, 1) := dk_42 (dk_at dksX1_reload_1 16 rfl rfl)
theorem dX1_reload_40 : decode cX1_reload 40 = .ok (.invokevirtual 178, 3) := dk_182 0 178 (dk_at dksX1_reload_1 17 rfl rfl)
theorem dX1_reload_43 : decode cX1_reload 43 = .ok (.aload_n 3, 1) := dk_45 (dk_at dksX1_reload_1 20 rfl rfl)
theorem dX1_reload_44 : decode cX1_reload 44 = .ok (.iload_n 1, 1) := dk_27 (dk_at dksX1_reload_1 21 rfl rfl)
theorem dX1_reload_45 : decode cX1_reload 45 = .ok (.invokevirtual 244, 3) := dk_182 0 244 (dk_at dksX1_reload_2 0 rfl rfl)
theorem dX1_reload_48 : decode cX1_reload 48 = .ok (.ireturn, 1) := dk_172 (dk_at dksX1_reload_2 3 rfl rfl)
abbrev cX1_offerValue : ByteArray := prog_1_method_36_code
def yX1_offerValue : MethodName := ⟨RX1, "offerValue", "(III)I"⟩
def dkwX1_offerValue_1 : List UInt8 := [182, 1, 0, 172]
abbrev dktX1_offerValue_1 : List UInt8 := dkwX1_offerValue_1 ++ []
def dkwX1_offerValue_0 : List UInt8 := [42, 27, 28, 182, 0, 186, 29, 133, 9, 20, 0, 254, 184, 0, 64, 184, 0, 131, 42, 27, 28, 29]
abbrev dktX1_offerValue_0 : List UInt8 := dkwX1_offerValue_0 ++ dktX1_offerValue_1
theorem dksX1_offerValue_0 : cX1_offerValue.data.toList.drop 0 = dktX1_offerValue_0 := by decide +kernel
theorem dksX1_offerValue_1 : cX1_offerValue.data.toList.drop 22 = dktX1_offerValue_1 := dk_seg dksX1_offerValue_0 22 rfl rfl
theorem dX1_offerValue_0 : decode cX1_offerValue 0 = .ok (.aload_n 0, 1) := dk_42 (dk_at dksX1_offerValue_0 0 rfl rfl)
theorem dX1_offerValue_1 : decode cX1_offerValue 1 = .ok (.iload_n 1, 1) := dk_27 (dk_at dksX1_offerValue_0 1 rfl rfl)
theorem dX1_offerValue_2 : decode cX1_offerValue 2 = .ok (.iload_n 2, 1) := dk_28 (dk_at dksX1_offerValue_0 2 rfl rfl)
theorem dX1_offerValue_3 : decode cX1_offerValue 3 = .ok (.invokevirtual 186, 3) := dk_182 0 186 (dk_at dksX1_offerValue_0 3 rfl rfl)
theorem dX1_offerValue_6 : decode cX1_offerValue 6 = .ok (.iload_n 3, 1) := dk_29 (dk_at dksX1_offerValue_0 6 rfl rfl)
theorem dX1_offerValue_7 : decode cX1_offerValue 7 = .ok (.i2l, 1) := dk_133 (dk_at dksX1_offerValue_0 7 rfl rfl)
theorem dX1_offerValue_8 : decode cX1_offerValue 8 = .ok (.lconst 0, 1) := dk_9 (dk_at dksX1_offerValue_0 8 rfl rfl)
theorem dX1_offerValue_9 : decode cX1_offerValue 9 = .ok (.ldc2_w 254, 3) := dk_20 0 254 (dk_at dksX1_offerValue_0 9 rfl rfl)
theorem dX1_offerValue_12 : decode cX1_offerValue 12 = .ok (.invokestatic 64, 3) := dk_184 0 64 (dk_at dksX1_offerValue_0 12 rfl rfl)
theorem dX1_offerValue_15 : decode cX1_offerValue 15 = .ok (.invokestatic 131, 3) := dk_184 0 131 (dk_at dksX1_offerValue_0 15 rfl rfl)
theorem dX1_offerValue_18 : decode cX1_offerValue 18 = .ok (.aload_n 0, 1) := dk_42 (dk_at dksX1_offerValue_0 18 rfl rfl)
theorem dX1_offerValue_19 : decode cX1_offerValue 19 = .ok (.iload_n 1, 1) := dk_27 (dk_at dksX1_offerValue_0 19 rfl rfl)
theorem dX1_offerValue_20 : decode cX1_offerValue 20 = .ok (.iload_n 2, 1) := dk_28 (dk_at dksX1_offerValue_0 20 rfl rfl)
theorem dX1_offerValue_21 : decode cX1_offerValue 21 = .ok (.iload_n 3, 1) := dk_29 (dk_at dksX1_offerValue_0 21 rfl rfl)
theorem dX1_offerValue_22 : decode cX1_offerValue 22 = .ok (.invokevirtual 256, 3) := dk_182 1 0 (dk_at dksX1_offerValue_1 0 rfl rfl)
theorem dX1_offerValue_25 : decode cX1_offerValue 25 = .ok (.ireturn, 1) := dk_172 (dk_at dksX1_offerValue_1 3 rfl rfl)
abbrev cX1_offers : ByteArray := prog_1_method_35_code
def yX1_offers : MethodName := ⟨RX1, "offers", "(III)I"⟩
def dkwX1_offers_0 : List UInt8 := [42, 182, 0, 238, 27, 28, 29, 182, 0, 251, 42, 182, 0, 178, 180, 0, 207, 28, 46, 172]
abbrev dktX1_offers_0 : List UInt8 := dkwX1_offers_0 ++ []
theorem dksX1_offers_0 : cX1_offers.data.toList.drop 0 = dktX1_offers_0 := by decide +kernel
theorem dX1_offers_0 : decode cX1_offers 0 = .ok (.aload_n 0, 1) := dk_42 (dk_at dksX1_offers_0 0 rfl rfl)
theorem dX1_offers_1 : decode cX1_offers 1 = .ok (.invokevirtual 238, 3) := dk_182 0 238 (dk_at dksX1_offers_0 1 rfl rfl)
theorem dX1_offers_4 : decode cX1_offers 4 = .ok (.iload_n 1, 1) := dk_27 (dk_at dksX1_offers_0 4 rfl rfl)
theorem dX1_offers_5 : decode cX1_offers 5 = .ok (.iload_n 2, 1) := dk_28 (dk_at dksX1_offers_0 5 rfl rfl)
theorem dX1_offers_6 : decode cX1_offers 6 = .ok (.iload_n 3, 1) := dk_29 (dk_at dksX1_offers_0 6 rfl rfl)
theorem dX1_offers_7 : decode cX1_offers 7 = .ok (.invokevirtual 251, 3) := dk_182 0 251 (dk_at dksX1_offers_0 7 rfl rfl)
theorem dX1_offers_10 : decode cX1_offers 10 = .ok (.aload_n 0, 1) := dk_42 (dk_at dksX1_offers_0 10 rfl rfl)
theorem dX1_offers_11 : decode cX1_offers 11 = .ok (.invokevirtual 178, 3) := dk_182 0 178 (dk_at dksX1_offers_0 11 rfl rfl)
theorem dX1_offers_14 : decode cX1_offers 14 = .ok (.getfield 207, 3) := dk_180 0 207 (dk_at dksX1_offers_0 14 rfl rfl)
theorem dX1_offers_17 : decode cX1_offers 17 = .ok (.iload_n 2, 1) := dk_28 (dk_at dksX1_offers_0 17 rfl rfl)
theorem dX1_offers_18 : decode cX1_offers 18 = .ok (.iaload, 1) := dk_46 (dk_at dksX1_offers_0 18 rfl rfl)
theorem dX1_offers_19 : decode cX1_offers 19 = .ok (.ireturn, 1) := dk_172 (dk_at dksX1_offers_0 19 rfl rfl)
abbrev cX1_offerForward : ByteArray := prog_1_method_37_code
def yX1_offerForward : MethodName := ⟨RX1, "offerForward", "(III)I"⟩
def dkwX1_offerForward_0 : List UInt8 := [42, 27, 28, 182, 0, 186, 42, 29, 182, 0, 98, 42, 27, 28, 16, 254, 29, 100, 182, 1, 0, 172]
abbrev dktX1_offerForward_0 : List UInt8 := dkwX1_offerForward_0 ++ []
theorem dksX1_offerForward_0 : cX1_offerForward.data.toList.drop 0 = dktX1_offerForward_0 := by decide +kernel
theorem dX1_offerForward_0 : decode cX1_offerForward 0 = .ok (.aload_n 0, 1) := dk_42 (dk_at dksX1_offerForward_0 0 rfl rfl)
theorem dX1_offerForward_1 : decode cX1_offerForward 1 = .ok (.iload_n 1, 1) := dk_27 (dk_at dksX1_offerForward_0 1 rfl rfl)
theorem dX1_offerForward_2 : decode cX1_offerForward 2 = .ok (.iload_n 2, 1) := dk_28 (dk_at dksX1_offerForward_0 2 rfl rfl)
theorem dX1_offerForward_3 : decode cX1_offerForward 3 = .ok (.invokevirtual 186, 3) := dk_182 0 186 (dk_at dksX1_offerForward_0 3 rfl rfl)
theorem dX1_offerForward_6 : decode cX1_offerForward 6 = .ok (.aload_n 0, 1) := dk_42 (dk_at dksX1_offerForward_0 6 rfl rfl)
theorem dX1_offerForward_7 : decode cX1_offerForward 7 = .ok (.iload_n 3, 1) := dk_29 (dk_at dksX1_offerForward_0 7 rfl rfl)
theorem dX1_offerForward_8 : decode cX1_offerForward 8 = .ok (.invokevirtual 98, 3) := dk_182 0 98 (dk_at dksX1_offerForward_0 8 rfl rfl)
theorem dX1_offerForward_11 : decode cX1_offerForward 11 = .ok (.aload_n 0, 1) := dk_42 (dk_at dksX1_offerForward_0 11 rfl rfl)
theorem dX1_offerForward_12 : decode cX1_offerForward 12 = .ok (.iload_n 1, 1) := dk_27 (dk_at dksX1_offerForward_0 12 rfl rfl)
theorem dX1_offerForward_13 : decode cX1_offerForward 13 = .ok (.iload_n 2, 1) := dk_28 (dk_at dksX1_offerForward_0 13 rfl rfl)
theorem dX1_offerForward_14 : decode cX1_offerForward 14 = .ok (.bipush (-2), 2) := dk_16 254 (dk_at dksX1_offerForward_0 14 rfl rfl)
theorem dX1_offerForward_16 : decode cX1_offerForward 16 = .ok (.iload_n 3, 1) := dk_29 (dk_at dksX1_offerForward_0 16 rfl rfl)
theorem dX1_offerForward_17 : decode cX1_offerForward 17 = .ok (.isub, 1) := dk_100 (dk_at dksX1_offerForward_0 17 rfl rfl)
theorem dX1_offerForward_18 : decode cX1_offerForward 18 = .ok (.invokevirtual 256, 3) := dk_182 1 0 (dk_at dksX1_offerForward_0 18 rfl rfl)
theorem dX1_offerForward_21 : decode cX1_offerForward 21 = .ok (.ireturn, 1) := dk_172 (dk_at dksX1_offerForward_0 21 rfl rfl)
abbrev cX1_withdraw : ByteArray := prog_1_method_38_code
def yX1_withdraw : MethodName := ⟨RX1, "withdraw", "(II)I"⟩
def dkwX1_withdraw_1 : List UInt8 := [182, 1, 0, 172]
abbrev dktX1_withdraw_1 : List UInt8 := dkwX1_withdraw_1 ++ []
def dkwX1_withdraw_0 : List UInt8 := [42, 27, 28, 182, 1, 3, 2, 159, 0, 7, 4, 167, 0, 4, 3, 184, 0, 235, 42, 27, 28, 2]
abbrev dktX1_withdraw_0 : List UInt8 := dkwX1_withdraw_0 ++ dktX1_withdraw_1
theorem dksX1_withdraw_0 : cX1_withdraw.data.toList.drop 0 = dktX1_withdraw_0 := by decide +kernel
theorem dksX1_withdraw_1 : cX1_withdraw.data.toList.drop 22 = dktX1_withdraw_1 := dk_seg dksX1_withdraw_0 22 rfl rfl
theorem dX1_withdraw_0 : decode cX1_withdraw 0 = .ok (.aload_n 0, 1) := dk_42 (dk_at dksX1_withdraw_0 0 rfl rfl)
theorem dX1_withdraw_1 : decode cX1_withdraw 1 = .ok (.iload_n 1, 1) := dk_27 (dk_at dksX1_withdraw_0 1 rfl rfl)
theorem dX1_withdraw_2 : decode cX1_withdraw 2 = .ok (.iload_n 2, 1) := dk_28 (dk_at dksX1_withdraw_0 2 rfl rfl)
theorem dX1_withdraw_3 : decode cX1_withdraw 3 = .ok (.invokevirtual 259, 3) := dk_182 1 3 (dk_at dksX1_withdraw_0 3 rfl rfl)
theorem dX1_withdraw_6 : decode cX1_withdraw 6 = .ok (.iconst (-1), 1) := dk_2 (dk_at dksX1_withdraw_0 6 rfl rfl)
theorem dX1_withdraw_7 : decode cX1_withdraw 7 = .ok (.if_icmp .eq 7, 3) := dk_159 0 7 (dk_at dksX1_withdraw_0 7 rfl rfl)
theorem dX1_withdraw_10 : decode cX1_withdraw 10 = .ok (.iconst 1, 1) := dk_4 (dk_at dksX1_withdraw_0 10 rfl rfl)
theorem dX1_withdraw_11 : decode cX1_withdraw 11 = .ok (.goto 4, 3) := dk_167 0 4 (dk_at dksX1_withdraw_0 11 rfl rfl)
theorem dX1_withdraw_14 : decode cX1_withdraw 14 = .ok (.iconst 0, 1) := dk_3 (dk_at dksX1_withdraw_0 14 rfl rfl)
theorem dX1_withdraw_15 : decode cX1_withdraw 15 = .ok (.invokestatic 235, 3) := dk_184 0 235 (dk_at dksX1_withdraw_0 15 rfl rfl)
theorem dX1_withdraw_18 : decode cX1_withdraw 18 = .ok (.aload_n 0, 1) := dk_42 (dk_at dksX1_withdraw_0 18 rfl rfl)
theorem dX1_withdraw_19 : decode cX1_withdraw 19 = .ok (.iload_n 1, 1) := dk_27 (dk_at dksX1_withdraw_0 19 rfl rfl)
theorem dX1_withdraw_20 : decode cX1_withdraw 20 = .ok (.iload_n 2, 1) := dk_28 (dk_at dksX1_withdraw_0 20 rfl rfl)
theorem dX1_withdraw_21 : decode cX1_withdraw 21 = .ok (.iconst (-1), 1) := dk_2 (dk_at dksX1_withdraw_0 21 rfl rfl)
theorem dX1_withdraw_22 : decode cX1_withdraw 22 = .ok (.invokevirtual 256, 3) := dk_182 1 0 (dk_at dksX1_withdraw_1 0 rfl rfl)
theorem dX1_withdraw_25 : decode cX1_withdraw 25 = .ok (.ireturn, 1) := dk_172 (dk_at dksX1_withdraw_1 3 rfl rfl)
abbrev cX1_setTrust : ByteArray := prog_1_method_39_code
def yX1_setTrust : MethodName := ⟨RX1, "setTrust", "(II)I"⟩
def dkwX1_setTrust_1 : List UInt8 := [182, 0, 238, 180, 0, 84, 27, 185, 0, 87, 2, 0, 192, 0, 93, 28, 181, 0, 163, 29, 172]
abbrev dktX1_setTrust_1 : List UInt8 := dkwX1_setTrust_1 ++ []
def dkwX1_setTrust_0 : List UInt8 := [42, 27, 182, 0, 157, 180, 0, 163, 62, 28, 133, 9, 20, 1, 4, 184, 0, 64, 184, 0, 131, 42]
abbrev dktX1_setTrust_0 : List UInt8 := dkwX1_setTrust_0 ++ dktX1_setTrust_1
theorem dksX1_setTrust_0 : cX1_setTrust.data.toList.drop 0 = dktX1_setTrust_0 := by decide +kernel
theorem dksX1_setTrust_1 : cX1_setTrust.data.toList.drop 22 = dktX1_setTrust_1 := dk_seg dksX1_setTrust_0 22 rfl rfl
theorem dX1_setTrust_0 : decode cX1_setTrust 0 = .ok (.aload_n 0, 1) := dk_42 (dk_at dksX1_setTrust_0 0 rfl rfl)
theorem dX1_setTrust_1 : decode cX1_setTrust 1 = .ok (.iload_n 1, 1) := dk_27 (dk_at dksX1_setTrust_0 1 rfl rfl)
theorem dX1_setTrust_2 : decode cX1_setTrust 2 = .ok (.invokevirtual 157, 3) := dk_182 0 157 (dk_at dksX1_setTrust_0 2 rfl rfl)
theorem dX1_setTrust_5 : decode cX1_setTrust 5 = .ok (.getfield 163, 3) := dk_180 0 163 (dk_at dksX1_setTrust_0 5 rfl rfl)
theorem dX1_setTrust_8 : decode cX1_setTrust 8 = .ok (.istore_n 3, 1) := dk_62 (dk_at dksX1_setTrust_0 8 rfl rfl)
theorem dX1_setTrust_9 : decode cX1_setTrust 9 = .ok (.iload_n 2, 1) := dk_28 (dk_at dksX1_setTrust_0 9 rfl rfl)
theorem dX1_setTrust_10 : decode cX1_setTrust 10 = .ok (.i2l, 1) := dk_133 (dk_at dksX1_setTrust_0 10 rfl rfl)
theorem dX1_setTrust_11 : decode cX1_setTrust 11 = .ok (.lconst 0, 1) := dk_9 (dk_at dksX1_setTrust_0 11 rfl rfl)
theorem dX1_setTrust_12 : decode cX1_setTrust 12 = .ok (.ldc2_w 260, 3) := dk_20 1 4 (dk_at dksX1_setTrust_0 12 rfl rfl)
theorem dX1_setTrust_15 : decode cX1_setTrust 15 = .ok (.invokestatic 64, 3) := dk_184 0 64 (dk_at dksX1_setTrust_0 15 rfl rfl)
theorem dX1_setTrust_18 : decode cX1_setTrust 18 = .ok (.invokestatic 131, 3) := dk_184 0 131 (dk_at dksX1_setTrust_0 18 rfl rfl)
theorem dX1_setTrust_21 : decode cX1_setTrust 21 = .ok (.aload_n 0, 1) := dk_42 (dk_at dksX1_setTrust_0 21 rfl rfl)
theorem dX1_setTrust_22 : decode cX1_setTrust 22 = .ok (.invokevirtual 238, 3) := dk_182 0 238 (dk_at dksX1_setTrust_1 0 rfl rfl)
theorem dX1_setTrust_25 : decode cX1_setTrust 25 = .ok (.getfield 84, 3) := dk_180 0 84 (dk_at dksX1_setTrust_1 3 rfl rfl)
theorem dX1_setTrust_28 : decode cX1_setTrust 28 = .ok (.iload_n 1, 1) := dk_27 (dk_at dksX1_setTrust_1 6 rfl rfl)
theorem dX1_setTrust_29 : decode cX1_setTrust 29 = .ok (.invokeinterface 87 2, 5) := by decide +kernel
theorem dX1_setTrust_34 : decode cX1_setTrust 34 = .ok (.checkcast 93, 3) := dk_192 0 93 (dk_at dksX1_setTrust_1 12 rfl rfl)
theorem dX1_setTrust_37 : decode cX1_setTrust 37 = .ok (.iload_n 2, 1) := dk_28 (dk_at dksX1_setTrust_1 15 rfl rfl)
theorem dX1_setTrust_38 : decode cX1_setTrust 38 = .ok (.putfield 163, 3) := dk_181 0 163 (dk_at dksX1_setTrust_1 16 rfl rfl)
theorem dX1_setTrust_41 : decode cX1_setTrust 41 = .ok (.iload_n 3, 1) := dk_29 (dk_at dksX1_setTrust_1 19 rfl rfl)
theorem dX1_setTrust_42 : decode cX1_setTrust 42 = .ok (.ireturn, 1) := dk_172 (dk_at dksX1_setTrust_1 20 rfl rfl)
abbrev cX1_setKeeps : ByteArray := prog_1_method_40_code
def yX1_setKeeps : MethodName := ⟨RX1, "setKeeps", "(IZ)I"⟩
def dkwX1_setKeeps_1 : List UInt8 := [185, 0, 87, 2, 0, 192, 0, 93, 28, 181, 0, 165, 42, 182, 0, 178, 25, 4, 2, 182, 0, 244, 172]
abbrev dktX1_setKeeps_1 : List UInt8 := dkwX1_setKeeps_1 ++ []
def dkwX1_setKeeps_0 : List UInt8 := [42, 27, 182, 0, 157, 78, 42, 182, 0, 178, 58, 4, 42, 182, 0, 238, 180, 0, 84, 27]
abbrev dktX1_setKeeps_0 : List UInt8 := dkwX1_setKeeps_0 ++ dktX1_setKeeps_1
theorem dksX1_setKeeps_0 : cX1_setKeeps.data.toList.drop 0 = dktX1_setKeeps_0 := by decide +kernel
theorem dksX1_setKeeps_1 : cX1_setKeeps.data.toList.drop 20 = dktX1_setKeeps_1 := dk_seg dksX1_setKeeps_0 20 rfl rfl
theorem dX1_setKeeps_0 : decode cX1_setKeeps 0 = .ok (.aload_n 0, 1) := dk_42 (dk_at dksX1_setKeeps_0 0 rfl rfl)
theorem dX1_setKeeps_1 : decode cX1_setKeeps 1 = .ok (.iload_n 1, 1) := dk_27 (dk_at dksX1_setKeeps_0 1 rfl rfl)
theorem dX1_setKeeps_2 : decode cX1_setKeeps 2 = .ok (.invokevirtual 157, 3) := dk_182 0 157 (dk_at dksX1_setKeeps_0 2 rfl rfl)
theorem dX1_setKeeps_5 : decode cX1_setKeeps 5 = .ok (.astore_n 3, 1) := dk_78 (dk_at dksX1_setKeeps_0 5 rfl rfl)
theorem dX1_setKeeps_6 : decode cX1_setKeeps 6 = .ok (.aload_n 0, 1) := dk_42 (dk_at dksX1_setKeeps_0 6 rfl rfl)
theorem dX1_setKeeps_7 : decode cX1_setKeeps 7 = .ok (.invokevirtual 178, 3) := dk_182 0 178 (dk_at dksX1_setKeeps_0 7 rfl rfl)
theorem dX1_setKeeps_10 : decode cX1_setKeeps 10 = .ok (.astore 4, 2) := dk_58 4 (dk_at dksX1_setKeeps_0 10 rfl rfl)
theorem dX1_setKeeps_12 : decode cX1_setKeeps 12 = .ok (.aload_n 0, 1) := dk_42 (dk_at dksX1_setKeeps_0 12 rfl rfl)
theorem dX1_setKeeps_13 : decode cX1_setKeeps 13 = .ok (.invokevirtual 238, 3) := dk_182 0 238 (dk_at dksX1_setKeeps_0 13 rfl rfl)
theorem dX1_setKeeps_16 : decode cX1_setKeeps 16 = .ok (.getfield 84, 3) := dk_180 0 84 (dk_at dksX1_setKeeps_0 16 rfl rfl)
theorem dX1_setKeeps_19 : decode cX1_setKeeps 19 = .ok (.iload_n 1, 1) := dk_27 (dk_at dksX1_setKeeps_0 19 rfl rfl)
theorem dX1_setKeeps_20 : decode cX1_setKeeps 20 = .ok (.invokeinterface 87 2, 5) := by decide +kernel
theorem dX1_setKeeps_25 : decode cX1_setKeeps 25 = .ok (.checkcast 93, 3) := dk_192 0 93 (dk_at dksX1_setKeeps_1 5 rfl rfl)
theorem dX1_setKeeps_28 : decode cX1_setKeeps 28 = .ok (.iload_n 2, 1) := dk_28 (dk_at dksX1_setKeeps_1 8 rfl rfl)
theorem dX1_setKeeps_29 : decode cX1_setKeeps 29 = .ok (.putfield 165, 3) := dk_181 0 165 (dk_at dksX1_setKeeps_1 9 rfl rfl)
theorem dX1_setKeeps_32 : decode cX1_setKeeps 32 = .ok (.aload_n 0, 1) := dk_42 (dk_at dksX1_setKeeps_1 12 rfl rfl)
theorem dX1_setKeeps_33 : decode cX1_setKeeps 33 = .ok (.invokevirtual 178, 3) := dk_182 0 178 (dk_at dksX1_setKeeps_1 13 rfl rfl)
theorem dX1_setKeeps_36 : decode cX1_setKeeps 36 = .ok (.aload 4, 2) := dk_25 4 (dk_at dksX1_setKeeps_1 16 rfl rfl)
theorem dX1_setKeeps_38 : decode cX1_setKeeps 38 = .ok (.iconst (-1), 1) := dk_2 (dk_at dksX1_setKeeps_1 18 rfl rfl)
theorem dX1_setKeeps_39 : decode cX1_setKeeps 39 = .ok (.invokevirtual 244, 3) := dk_182 0 244 (dk_at dksX1_setKeeps_1 19 rfl rfl)
theorem dX1_setKeeps_42 : decode cX1_setKeeps 42 = .ok (.ireturn, 1) := dk_172 (dk_at dksX1_setKeeps_1 22 rfl rfl)
abbrev cX1_setShare : ByteArray := prog_1_method_41_code
def yX1_setShare : MethodName := ⟨RX1, "setShare", "(I)I"⟩
def dkwX1_setShare_1 : List UInt8 := [181, 0, 154, 42, 182, 0, 178, 44, 2, 182, 0, 244, 172]
abbrev dktX1_setShare_1 : List UInt8 := dkwX1_setShare_1 ++ []
def dkwX1_setShare_0 : List UInt8 := [27, 133, 9, 20, 1, 6, 184, 0, 64, 184, 0, 131, 42, 182, 0, 178, 77, 42, 182, 0, 238, 27]
abbrev dktX1_setShare_0 : List UInt8 := dkwX1_setShare_0 ++ dktX1_setShare_1
theorem dksX1_setShare_0 : cX1_setShare.data.toList.drop 0 = dktX1_setShare_0 := by decide +kernel
theorem dksX1_setShare_1 : cX1_setShare.data.toList.drop 22 = dktX1_setShare_1 := dk_seg dksX1_setShare_0 22 rfl rfl
theorem dX1_setShare_0 : decode cX1_setShare 0 = .ok (.iload_n 1, 1) := dk_27 (dk_at dksX1_setShare_0 0 rfl rfl)
theorem dX1_setShare_1 : decode cX1_setShare 1 = .ok (.i2l, 1) := dk_133 (dk_at dksX1_setShare_0 1 rfl rfl)
theorem dX1_setShare_2 : decode cX1_setShare 2 = .ok (.lconst 0, 1) := dk_9 (dk_at dksX1_setShare_0 2 rfl rfl)
theorem dX1_setShare_3 : decode cX1_setShare 3 = .ok (.ldc2_w 262, 3) := dk_20 1 6 (dk_at dksX1_setShare_0 3 rfl rfl)
theorem dX1_setShare_6 : decode cX1_setShare 6 = .ok (.invokestatic 64, 3) := dk_184 0 64 (dk_at dksX1_setShare_0 6 rfl rfl)
theorem dX1_setShare_9 : decode cX1_setShare 9 = .ok (.invokestatic 131, 3) := dk_184 0 131 (dk_at dksX1_setShare_0 9 rfl rfl)
theorem dX1_setShare_12 : decode cX1_setShare 12 = .ok (.aload_n 0, 1) := dk_42 (dk_at dksX1_setShare_0 12 rfl rfl)
theorem dX1_setShare_13 : decode cX1_setShare 13 = .ok (.invokevirtual 178, 3) := dk_182 0 178 (dk_at dksX1_setShare_0 13 rfl rfl)
theorem dX1_setShare_16 : decode cX1_setShare 16 = .ok (.astore_n 2, 1) := dk_77 (dk_at dksX1_setShare_0 16 rfl rfl)
theorem dX1_setShare_17 : decode cX1_setShare 17 = .ok (.aload_n 0, 1) := dk_42 (dk_at dksX1_setShare_0 17 rfl rfl)
theorem dX1_setShare_18 : decode cX1_setShare 18 = .ok (.invokevirtual 238, 3) := dk_182 0 238 (dk_at dksX1_setShare_0 18 rfl rfl)
theorem dX1_setShare_21 : decode cX1_setShare 21 = .ok (.iload_n 1, 1) := dk_27 (dk_at dksX1_setShare_0 21 rfl rfl)
theorem dX1_setShare_22 : decode cX1_setShare 22 = .ok (.putfield 154, 3) := dk_181 0 154 (dk_at dksX1_setShare_1 0 rfl rfl)
theorem dX1_setShare_25 : decode cX1_setShare 25 = .ok (.aload_n 0, 1) := dk_42 (dk_at dksX1_setShare_1 3 rfl rfl)
theorem dX1_setShare_26 : decode cX1_setShare 26 = .ok (.invokevirtual 178, 3) := dk_182 0 178 (dk_at dksX1_setShare_1 4 rfl rfl)
theorem dX1_setShare_29 : decode cX1_setShare 29 = .ok (.aload_n 2, 1) := dk_44 (dk_at dksX1_setShare_1 7 rfl rfl)
theorem dX1_setShare_30 : decode cX1_setShare 30 = .ok (.iconst (-1), 1) := dk_2 (dk_at dksX1_setShare_1 8 rfl rfl)
theorem dX1_setShare_31 : decode cX1_setShare 31 = .ok (.invokevirtual 244, 3) := dk_182 0 244 (dk_at dksX1_setShare_1 9 rfl rfl)
theorem dX1_setShare_34 : decode cX1_setShare 34 = .ok (.ireturn, 1) := dk_172 (dk_at dksX1_setShare_1 12 rfl rfl)
abbrev cX2_init : ByteArray := prog_4_method_1_code
def yX2_init : MethodName := ⟨RX2, "<init>", "(Ljava/util/List;)V"⟩
def dkwX2_init_2 : List UInt8 := [16, 50, 181, 0, 38, 42, 43, 181, 0, 42, 177]
abbrev dktX2_init_2 : List UInt8 := dkwX2_init_2 ++ []
def dkwX2_init_1 : List UInt8 := [181, 0, 21, 42, 187, 0, 9, 89, 183, 0, 11, 181, 0, 25, 42, 18, 28, 184, 0, 30, 181, 0, 34, 42]
abbrev dktX2_init_1 : List UInt8 := dkwX2_init_1 ++ dktX2_init_2
def dkwX2_init_0 : List UInt8 := [42, 183, 0, 3, 42, 187, 0, 9, 89, 183, 0, 11, 181, 0, 12, 42, 187, 0, 18, 89, 183, 0, 20]
abbrev dktX2_init_0 : List UInt8 := dkwX2_init_0 ++ dktX2_init_1
theorem dksX2_init_0 : cX2_init.data.toList.drop 0 = dktX2_init_0 := by decide +kernel
theorem dksX2_init_1 : cX2_init.data.toList.drop 23 = dktX2_init_1 := dk_seg dksX2_init_0 23 rfl rfl
theorem dksX2_init_2 : cX2_init.data.toList.drop 47 = dktX2_init_2 := dk_seg dksX2_init_1 24 rfl rfl
theorem dX2_init_0 : decode cX2_init 0 = .ok (.aload_n 0, 1) := dk_42 (dk_at dksX2_init_0 0 rfl rfl)
theorem dX2_init_1 : decode cX2_init 1 = .ok (.invokespecial 3, 3) := dk_183 0 3 (dk_at dksX2_init_0 1 rfl rfl)
theorem dX2_init_4 : decode cX2_init 4 = .ok (.aload_n 0, 1) := dk_42 (dk_at dksX2_init_0 4 rfl rfl)
theorem dX2_init_5 : decode cX2_init 5 = .ok (.new 9, 3) := dk_187 0 9 (dk_at dksX2_init_0 5 rfl rfl)
theorem dX2_init_8 : decode cX2_init 8 = .ok (.dup, 1) := dk_89 (dk_at dksX2_init_0 8 rfl rfl)
theorem dX2_init_9 : decode cX2_init 9 = .ok (.invokespecial 11, 3) := dk_183 0 11 (dk_at dksX2_init_0 9 rfl rfl)
theorem dX2_init_12 : decode cX2_init 12 = .ok (.putfield 12, 3) := dk_181 0 12 (dk_at dksX2_init_0 12 rfl rfl)
theorem dX2_init_15 : decode cX2_init 15 = .ok (.aload_n 0, 1) := dk_42 (dk_at dksX2_init_0 15 rfl rfl)
theorem dX2_init_16 : decode cX2_init 16 = .ok (.new 18, 3) := dk_187 0 18 (dk_at dksX2_init_0 16 rfl rfl)
theorem dX2_init_19 : decode cX2_init 19 = .ok (.dup, 1) := dk_89 (dk_at dksX2_init_0 19 rfl rfl)
theorem dX2_init_20 : decode cX2_init 20 = .ok (.invokespecial 20, 3) := dk_183 0 20 (dk_at dksX2_init_0 20 rfl rfl)
theorem dX2_init_23 : decode cX2_init 23 = .ok (.putfield 21, 3) := dk_181 0 21 (dk_at dksX2_init_1 0 rfl rfl)
theorem dX2_init_26 : decode cX2_init 26 = .ok (.aload_n 0, 1) := dk_42 (dk_at dksX2_init_1 3 rfl rfl)
theorem dX2_init_27 : decode cX2_init 27 = .ok (.new 9, 3) := dk_187 0 9 (dk_at dksX2_init_1 4 rfl rfl)
theorem dX2_init_30 : decode cX2_init 30 = .ok (.dup, 1) := dk_89 (dk_at dksX2_init_1 7 rfl rfl)
theorem dX2_init_31 : decode cX2_init 31 = .ok (.invokespecial 11, 3) := dk_183 0 11 (dk_at dksX2_init_1 8 rfl rfl)
theorem dX2_init_34 : decode cX2_init 34 = .ok (.putfield 25, 3) := dk_181 0 25 (dk_at dksX2_init_1 11 rfl rfl)
theorem dX2_init_37 : decode cX2_init 37 = .ok (.aload_n 0, 1) := dk_42 (dk_at dksX2_init_1 14 rfl rfl)
theorem dX2_init_38 : decode cX2_init 38 = .ok (.ldc 28, 2) := dk_18 28 (dk_at dksX2_init_1 15 rfl rfl)
theorem dX2_init_40 : decode cX2_init 40 = .ok (.invokestatic 30, 3) := dk_184 0 30 (dk_at dksX2_init_1 17 rfl rfl)
theorem dX2_init_43 : decode cX2_init 43 = .ok (.putfield 34, 3) := dk_181 0 34 (dk_at dksX2_init_1 20 rfl rfl)
theorem dX2_init_46 : decode cX2_init 46 = .ok (.aload_n 0, 1) := dk_42 (dk_at dksX2_init_1 23 rfl rfl)
theorem dX2_init_47 : decode cX2_init 47 = .ok (.bipush 50, 2) := dk_16 50 (dk_at dksX2_init_2 0 rfl rfl)
theorem dX2_init_49 : decode cX2_init 49 = .ok (.putfield 38, 3) := dk_181 0 38 (dk_at dksX2_init_2 2 rfl rfl)
theorem dX2_init_52 : decode cX2_init 52 = .ok (.aload_n 0, 1) := dk_42 (dk_at dksX2_init_2 5 rfl rfl)
theorem dX2_init_53 : decode cX2_init 53 = .ok (.aload_n 1, 1) := dk_43 (dk_at dksX2_init_2 6 rfl rfl)
theorem dX2_init_54 : decode cX2_init 54 = .ok (.putfield 42, 3) := dk_181 0 42 (dk_at dksX2_init_2 7 rfl rfl)
theorem dX2_init_57 : decode cX2_init 57 = .ok (.return_, 1) := dk_177 (dk_at dksX2_init_2 10 rfl rfl)
abbrev cX2_rank : ByteArray := prog_4_method_6_code
def yX2_rank : MethodName := ⟨RX2, "rank", "(I)I"⟩
def dkwX2_rank_2 : List UInt8 := [172]
abbrev dktX2_rank_2 : List UInt8 := dkwX2_rank_2 ++ []
def dkwX2_rank_1 : List UInt8 := [185, 0, 56, 2, 0, 192, 0, 75, 182, 0, 85, 27, 160, 0, 5, 28, 172, 132, 2, 1, 167, 255, 218, 2]
abbrev dktX2_rank_1 : List UInt8 := dkwX2_rank_1 ++ dktX2_rank_2
def dkwX2_rank_0 : List UInt8 := [3, 61, 28, 42, 180, 0, 25, 185, 0, 48, 1, 0, 162, 0, 31, 42, 180, 0, 25, 28]
abbrev dktX2_rank_0 : List UInt8 := dkwX2_rank_0 ++ dktX2_rank_1
theorem dksX2_rank_0 : cX2_rank.data.toList.drop 0 = dktX2_rank_0 := by decide +kernel
theorem dksX2_rank_1 : cX2_rank.data.toList.drop 20 = dktX2_rank_1 := dk_seg dksX2_rank_0 20 rfl rfl
theorem dksX2_rank_2 : cX2_rank.data.toList.drop 44 = dktX2_rank_2 := dk_seg dksX2_rank_1 24 rfl rfl
theorem dX2_rank_0 : decode cX2_rank 0 = .ok (.iconst 0, 1) := dk_3 (dk_at dksX2_rank_0 0 rfl rfl)
theorem dX2_rank_1 : decode cX2_rank 1 = .ok (.istore_n 2, 1) := dk_61 (dk_at dksX2_rank_0 1 rfl rfl)
theorem dX2_rank_2 : decode cX2_rank 2 = .ok (.iload_n 2, 1) := dk_28 (dk_at dksX2_rank_0 2 rfl rfl)
theorem dX2_rank_3 : decode cX2_rank 3 = .ok (.aload_n 0, 1) := dk_42 (dk_at dksX2_rank_0 3 rfl rfl)
theorem dX2_rank_4 : decode cX2_rank 4 = .ok (.getfield 25, 3) := dk_180 0 25 (dk_at dksX2_rank_0 4 rfl rfl)
theorem dX2_rank_7 : decode cX2_rank 7 = .ok (.invokeinterface 48 1, 5) := by decide +kernel
theorem dX2_rank_12 : decode cX2_rank 12 = .ok (.if_icmp .ge 31, 3) := dk_162 0 31 (dk_at dksX2_rank_0 12 rfl rfl)
theorem dX2_rank_15 : decode cX2_rank 15 = .ok (.aload_n 0, 1) := dk_42 (dk_at dksX2_rank_0 15 rfl rfl)
theorem dX2_rank_16 : decode cX2_rank 16 = .ok (.getfield 25, 3) := dk_180 0 25 (dk_at dksX2_rank_0 16 rfl rfl)
theorem dX2_rank_19 : decode cX2_rank 19 = .ok (.iload_n 2, 1) := dk_28 (dk_at dksX2_rank_0 19 rfl rfl)
theorem dX2_rank_20 : decode cX2_rank 20 = .ok (.invokeinterface 56 2, 5) := by decide +kernel
theorem dX2_rank_25 : decode cX2_rank 25 = .ok (.checkcast 75, 3) := dk_192 0 75 (dk_at dksX2_rank_1 5 rfl rfl)
theorem dX2_rank_28 : decode cX2_rank 28 = .ok (.invokevirtual 85, 3) := dk_182 0 85 (dk_at dksX2_rank_1 8 rfl rfl)
theorem dX2_rank_31 : decode cX2_rank 31 = .ok (.iload_n 1, 1) := dk_27 (dk_at dksX2_rank_1 11 rfl rfl)
theorem dX2_rank_32 : decode cX2_rank 32 = .ok (.if_icmp .ne 5, 3) := dk_160 0 5 (dk_at dksX2_rank_1 12 rfl rfl)
theorem dX2_rank_35 : decode cX2_rank 35 = .ok (.iload_n 2, 1) := dk_28 (dk_at dksX2_rank_1 15 rfl rfl)
theorem dX2_rank_36 : decode cX2_rank 36 = .ok (.ireturn, 1) := dk_172 (dk_at dksX2_rank_1 16 rfl rfl)
theorem dX2_rank_37 : decode cX2_rank 37 = .ok (.iinc 2 1, 3) := dk_132 2 1 (dk_at dksX2_rank_1 17 rfl rfl)
theorem dX2_rank_40 : decode cX2_rank 40 = .ok (.goto (-38), 3) := dk_167 255 218 (dk_at dksX2_rank_1 20 rfl rfl)
theorem dX2_rank_43 : decode cX2_rank 43 = .ok (.iconst (-1), 1) := dk_2 (dk_at dksX2_rank_1 23 rfl rfl)
theorem dX2_rank_44 : decode cX2_rank 44 = .ok (.ireturn, 1) := dk_172 (dk_at dksX2_rank_2 0 rfl rfl)
abbrev cX2_offered : ByteArray := prog_4_method_5_code
def yX2_offered : MethodName := ⟨RX2, "offered", "(I)I"⟩
def dkwX2_offered_1 : List UInt8 := [2, 160, 0, 7, 3, 167, 0, 4, 4, 96, 61, 132, 3, 1, 167, 255, 222, 28, 172]
abbrev dktX2_offered_1 : List UInt8 := dkwX2_offered_1 ++ []
def dkwX2_offered_0 : List UInt8 := [3, 61, 3, 62, 29, 42, 180, 0, 42, 185, 0, 48, 1, 0, 162, 0, 27, 28, 42, 27, 29, 182, 0, 67]
abbrev dktX2_offered_0 : List UInt8 := dkwX2_offered_0 ++ dktX2_offered_1
theorem dksX2_offered_0 : cX2_offered.data.toList.drop 0 = dktX2_offered_0 := by decide +kernel
theorem dksX2_offered_1 : cX2_offered.data.toList.drop 24 = dktX2_offered_1 := dk_seg dksX2_offered_0 24 rfl rfl
theorem dX2_offered_0 : decode cX2_offered 0 = .ok (.iconst 0, 1) := dk_3 (dk_at dksX2_offered_0 0 rfl rfl)
theorem dX2_offered_1 : decode cX2_offered 1 = .ok (.istore_n 2, 1) := dk_61 (dk_at dksX2_offered_0 1 rfl rfl)
theorem dX2_offered_2 : decode cX2_offered 2 = .ok (.iconst 0, 1) := dk_3 (dk_at dksX2_offered_0 2 rfl rfl)
theorem dX2_offered_3 : decode cX2_offered 3 = .ok (.istore_n 3, 1) := dk_62 (dk_at dksX2_offered_0 3 rfl rfl)
theorem dX2_offered_4 : decode cX2_offered 4 = .ok (.iload_n 3, 1) := dk_29 (dk_at dksX2_offered_0 4 rfl rfl)
theorem dX2_offered_5 : decode cX2_offered 5 = .ok (.aload_n 0, 1) := dk_42 (dk_at dksX2_offered_0 5 rfl rfl)
theorem dX2_offered_6 : decode cX2_offered 6 = .ok (.getfield 42, 3) := dk_180 0 42 (dk_at dksX2_offered_0 6 rfl rfl)
theorem dX2_offered_9 : decode cX2_offered 9 = .ok (.invokeinterface 48 1, 5) := by decide +kernel
theorem dX2_offered_14 : decode cX2_offered 14 = .ok (.if_icmp .ge 27, 3) := dk_162 0 27 (dk_at dksX2_offered_0 14 rfl rfl)
theorem dX2_offered_17 : decode cX2_offered 17 = .ok (.iload_n 2, 1) := dk_28 (dk_at dksX2_offered_0 17 rfl rfl)
theorem dX2_offered_18 : decode cX2_offered 18 = .ok (.aload_n 0, 1) := dk_42 (dk_at dksX2_offered_0 18 rfl rfl)
theorem dX2_offered_19 : decode cX2_offered 19 = .ok (.iload_n 1, 1) := dk_27 (dk_at dksX2_offered_0 19 rfl rfl)
theorem dX2_offered_20 : decode cX2_offered 20 = .ok (.iload_n 3, 1) := dk_29 (dk_at dksX2_offered_0 20 rfl rfl)
theorem dX2_offered_21 : decode cX2_offered 21 = .ok (.invokevirtual 67, 3) := dk_182 0 67 (dk_at dksX2_offered_0 21 rfl rfl)
theorem dX2_offered_24 : decode cX2_offered 24 = .ok (.iconst (-1), 1) := dk_2 (dk_at dksX2_offered_1 0 rfl rfl)
theorem dX2_offered_25 : decode cX2_offered 25 = .ok (.if_icmp .ne 7, 3) := dk_160 0 7 (dk_at dksX2_offered_1 1 rfl rfl)
theorem dX2_offered_28 : decode cX2_offered 28 = .ok (.iconst 0, 1) := dk_3 (dk_at dksX2_offered_1 4 rfl rfl)
theorem dX2_offered_29 : decode cX2_offered 29 = .ok (.goto 4, 3) := dk_167 0 4 (dk_at dksX2_offered_1 5 rfl rfl)
theorem dX2_offered_32 : decode cX2_offered 32 = .ok (.iconst 1, 1) := dk_4 (dk_at dksX2_offered_1 8 rfl rfl)
theorem dX2_offered_33 : decode cX2_offered 33 = .ok (.iadd, 1) := dk_96 (dk_at dksX2_offered_1 9 rfl rfl)
theorem dX2_offered_34 : decode cX2_offered 34 = .ok (.istore_n 2, 1) := dk_61 (dk_at dksX2_offered_1 10 rfl rfl)
theorem dX2_offered_35 : decode cX2_offered 35 = .ok (.iinc 3 1, 3) := dk_132 3 1 (dk_at dksX2_offered_1 11 rfl rfl)
theorem dX2_offered_38 : decode cX2_offered 38 = .ok (.goto (-34), 3) := dk_167 255 222 (dk_at dksX2_offered_1 14 rfl rfl)
theorem dX2_offered_41 : decode cX2_offered 41 = .ok (.iload_n 2, 1) := dk_28 (dk_at dksX2_offered_1 17 rfl rfl)
theorem dX2_offered_42 : decode cX2_offered 42 = .ok (.ireturn, 1) := dk_172 (dk_at dksX2_offered_1 18 rfl rfl)
abbrev cX2_offer : ByteArray := prog_4_method_3_code
def yX2_offer : MethodName := ⟨RX2, "offer", "(II)I"⟩
def dkwX2_offer_1 : List UInt8 := [2, 167, 0, 7, 45, 182, 0, 85, 172]
abbrev dktX2_offer_1 : List UInt8 := dkwX2_offer_1 ++ []
def dkwX2_offer_0 : List UInt8 := [42, 180, 0, 21, 187, 0, 77, 89, 27, 28, 183, 0, 79, 182, 0, 82, 192, 0, 75, 78, 45, 199, 0, 7]
abbrev dktX2_offer_0 : List UInt8 := dkwX2_offer_0 ++ dktX2_offer_1
theorem dksX2_offer_0 : cX2_offer.data.toList.drop 0 = dktX2_offer_0 := by decide +kernel
theorem dksX2_offer_1 : cX2_offer.data.toList.drop 24 = dktX2_offer_1 := dk_seg dksX2_offer_0 24 rfl rfl
theorem dX2_offer_0 : decode cX2_offer 0 = .ok (.aload_n 0, 1) := dk_42 (dk_at dksX2_offer_0 0 rfl rfl)
theorem dX2_offer_1 : decode cX2_offer 1 = .ok (.getfield 21, 3) := dk_180 0 21 (dk_at dksX2_offer_0 1 rfl rfl)
theorem dX2_offer_4 : decode cX2_offer 4 = .ok (.new 77, 3) := dk_187 0 77 (dk_at dksX2_offer_0 4 rfl rfl)
theorem dX2_offer_7 : decode cX2_offer 7 = .ok (.dup, 1) := dk_89 (dk_at dksX2_offer_0 7 rfl rfl)
theorem dX2_offer_8 : decode cX2_offer 8 = .ok (.iload_n 1, 1) := dk_27 (dk_at dksX2_offer_0 8 rfl rfl)
theorem dX2_offer_9 : decode cX2_offer 9 = .ok (.iload_n 2, 1) := dk_28 (dk_at dksX2_offer_0 9 rfl rfl)
theorem dX2_offer_10 : decode cX2_offer 10 = .ok (.invokespecial 79, 3) := dk_183 0 79 (dk_at dksX2_offer_0 10 rfl rfl)
theorem dX2_offer_13 : decode cX2_offer 13 = .ok (.invokevirtual 82, 3) := dk_182 0 82 (dk_at dksX2_offer_0 13 rfl rfl)
theorem dX2_offer_16 : decode cX2_offer 16 = .ok (.checkcast 75, 3) := dk_192 0 75 (dk_at dksX2_offer_0 16 rfl rfl)
theorem dX2_offer_19 : decode cX2_offer 19 = .ok (.astore_n 3, 1) := dk_78 (dk_at dksX2_offer_0 19 rfl rfl)
theorem dX2_offer_20 : decode cX2_offer 20 = .ok (.aload_n 3, 1) := dk_45 (dk_at dksX2_offer_0 20 rfl rfl)
theorem dX2_offer_21 : decode cX2_offer 21 = .ok (.ifnonnull 7, 3) := dk_199 0 7 (dk_at dksX2_offer_0 21 rfl rfl)
theorem dX2_offer_24 : decode cX2_offer 24 = .ok (.iconst (-1), 1) := dk_2 (dk_at dksX2_offer_1 0 rfl rfl)
theorem dX2_offer_25 : decode cX2_offer 25 = .ok (.goto 7, 3) := dk_167 0 7 (dk_at dksX2_offer_1 1 rfl rfl)
theorem dX2_offer_28 : decode cX2_offer 28 = .ok (.aload_n 3, 1) := dk_45 (dk_at dksX2_offer_1 4 rfl rfl)
theorem dX2_offer_29 : decode cX2_offer 29 = .ok (.invokevirtual 85, 3) := dk_182 0 85 (dk_at dksX2_offer_1 5 rfl rfl)
theorem dX2_offer_32 : decode cX2_offer 32 = .ok (.ireturn, 1) := dk_172 (dk_at dksX2_offer_1 8 rfl rfl)
abbrev cX2_friends : ByteArray := prog_4_method_8_code
def yX2_friends : MethodName := ⟨RX2, "friends", "(I)I"⟩
def dkwX2_friends_2 : List UInt8 := [61, 132, 3, 1, 167, 255, 208, 28, 172]
abbrev dktX2_friends_2 : List UInt8 := dkwX2_friends_2 ++ []
def dkwX2_friends_1 : List UInt8 := [185, 0, 56, 2, 0, 192, 0, 75, 182, 0, 85, 27, 182, 0, 101, 153, 0, 7, 4, 167, 0, 4, 3, 96]
abbrev dktX2_friends_1 : List UInt8 := dkwX2_friends_1 ++ dktX2_friends_2
def dkwX2_friends_0 : List UInt8 := [3, 61, 3, 62, 29, 42, 180, 0, 25, 185, 0, 48, 1, 0, 162, 0, 41, 28, 42, 42, 180, 0, 25, 29]
abbrev dktX2_friends_0 : List UInt8 := dkwX2_friends_0 ++ dktX2_friends_1
theorem dksX2_friends_0 : cX2_friends.data.toList.drop 0 = dktX2_friends_0 := by decide +kernel
theorem dksX2_friends_1 : cX2_friends.data.toList.drop 24 = dktX2_friends_1 := dk_seg dksX2_friends_0 24 rfl rfl
theorem dksX2_friends_2 : cX2_friends.data.toList.drop 48 = dktX2_friends_2 := dk_seg dksX2_friends_1 24 rfl rfl
theorem dX2_friends_0 : decode cX2_friends 0 = .ok (.iconst 0, 1) := dk_3 (dk_at dksX2_friends_0 0 rfl rfl)
theorem dX2_friends_1 : decode cX2_friends 1 = .ok (.istore_n 2, 1) := dk_61 (dk_at dksX2_friends_0 1 rfl rfl)
theorem dX2_friends_2 : decode cX2_friends 2 = .ok (.iconst 0, 1) := dk_3 (dk_at dksX2_friends_0 2 rfl rfl)
theorem dX2_friends_3 : decode cX2_friends 3 = .ok (.istore_n 3, 1) := dk_62 (dk_at dksX2_friends_0 3 rfl rfl)
theorem dX2_friends_4 : decode cX2_friends 4 = .ok (.iload_n 3, 1) := dk_29 (dk_at dksX2_friends_0 4 rfl rfl)
theorem dX2_friends_5 : decode cX2_friends 5 = .ok (.aload_n 0, 1) := dk_42 (dk_at dksX2_friends_0 5 rfl rfl)
theorem dX2_friends_6 : decode cX2_friends 6 = .ok (.getfield 25, 3) := dk_180 0 25 (dk_at dksX2_friends_0 6 rfl rfl)
theorem dX2_friends_9 : decode cX2_friends 9 = .ok (.invokeinterface 48 1, 5) := by decide +kernel
theorem dX2_friends_14 : decode cX2_friends 14 = .ok (.if_icmp .ge 41, 3) := dk_162 0 41 (dk_at dksX2_friends_0 14 rfl rfl)
theorem dX2_friends_17 : decode cX2_friends 17 = .ok (.iload_n 2, 1) := dk_28 (dk_at dksX2_friends_0 17 rfl rfl)
theorem dX2_friends_18 : decode cX2_friends 18 = .ok (.aload_n 0, 1) := dk_42 (dk_at dksX2_friends_0 18 rfl rfl)
theorem dX2_friends_19 : decode cX2_friends 19 = .ok (.aload_n 0, 1) := dk_42 (dk_at dksX2_friends_0 19 rfl rfl)
theorem dX2_friends_20 : decode cX2_friends 20 = .ok (.getfield 25, 3) := dk_180 0 25 (dk_at dksX2_friends_0 20 rfl rfl)
theorem dX2_friends_23 : decode cX2_friends 23 = .ok (.iload_n 3, 1) := dk_29 (dk_at dksX2_friends_0 23 rfl rfl)
theorem dX2_friends_24 : decode cX2_friends 24 = .ok (.invokeinterface 56 2, 5) := by decide +kernel
theorem dX2_friends_29 : decode cX2_friends 29 = .ok (.checkcast 75, 3) := dk_192 0 75 (dk_at dksX2_friends_1 5 rfl rfl)
theorem dX2_friends_32 : decode cX2_friends 32 = .ok (.invokevirtual 85, 3) := dk_182 0 85 (dk_at dksX2_friends_1 8 rfl rfl)
theorem dX2_friends_35 : decode cX2_friends 35 = .ok (.iload_n 1, 1) := dk_27 (dk_at dksX2_friends_1 11 rfl rfl)
theorem dX2_friends_36 : decode cX2_friends 36 = .ok (.invokevirtual 101, 3) := dk_182 0 101 (dk_at dksX2_friends_1 12 rfl rfl)
theorem dX2_friends_39 : decode cX2_friends 39 = .ok (.ifCond .eq 7, 3) := dk_153 0 7 (dk_at dksX2_friends_1 15 rfl rfl)
theorem dX2_friends_42 : decode cX2_friends 42 = .ok (.iconst 1, 1) := dk_4 (dk_at dksX2_friends_1 18 rfl rfl)
theorem dX2_friends_43 : decode cX2_friends 43 = .ok (.goto 4, 3) := dk_167 0 4 (dk_at dksX2_friends_1 19 rfl rfl)
theorem dX2_friends_46 : decode cX2_friends 46 = .ok (.iconst 0, 1) := dk_3 (dk_at dksX2_friends_1 22 rfl rfl)
theorem dX2_friends_47 : decode cX2_friends 47 = .ok (.iadd, 1) := dk_96 (dk_at dksX2_friends_1 23 rfl rfl)
theorem dX2_friends_48 : decode cX2_friends 48 = .ok (.istore_n 2, 1) := dk_61 (dk_at dksX2_friends_2 0 rfl rfl)
theorem dX2_friends_49 : decode cX2_friends 49 = .ok (.iinc 3 1, 3) := dk_132 3 1 (dk_at dksX2_friends_2 1 rfl rfl)
theorem dX2_friends_52 : decode cX2_friends 52 = .ok (.goto (-48), 3) := dk_167 255 208 (dk_at dksX2_friends_2 4 rfl rfl)
theorem dX2_friends_55 : decode cX2_friends 55 = .ok (.iload_n 2, 1) := dk_28 (dk_at dksX2_friends_2 7 rfl rfl)
theorem dX2_friends_56 : decode cX2_friends 56 = .ok (.ireturn, 1) := dk_172 (dk_at dksX2_friends_2 8 rfl rfl)
abbrev cX2_prefers : ByteArray := prog_4_method_7_code
def yX2_prefers : MethodName := ⟨RX2, "prefers", "(II)Z"⟩
def dkwX2_prefers_2 : List UInt8 := [160, 0, 5, 4, 172, 132, 4, 1, 167, 255, 222, 3, 172]
abbrev dktX2_prefers_2 : List UInt8 := dkwX2_prefers_2 ++ []
def dkwX2_prefers_1 : List UInt8 := [185, 0, 48, 1, 0, 162, 0, 29, 45, 21, 4, 185, 0, 56, 2, 0, 192, 0, 75, 182, 0, 85, 28]
abbrev dktX2_prefers_1 : List UInt8 := dkwX2_prefers_1 ++ dktX2_prefers_2
def dkwX2_prefers_0 : List UInt8 := [42, 180, 0, 12, 27, 185, 0, 56, 2, 0, 192, 0, 54, 180, 0, 98, 78, 3, 54, 4, 21, 4, 45]
abbrev dktX2_prefers_0 : List UInt8 := dkwX2_prefers_0 ++ dktX2_prefers_1
theorem dksX2_prefers_0 : cX2_prefers.data.toList.drop 0 = dktX2_prefers_0 := by decide +kernel
theorem dksX2_prefers_1 : cX2_prefers.data.toList.drop 23 = dktX2_prefers_1 := dk_seg dksX2_prefers_0 23 rfl rfl
theorem dksX2_prefers_2 : cX2_prefers.data.toList.drop 46 = dktX2_prefers_2 := dk_seg dksX2_prefers_1 23 rfl rfl
theorem dX2_prefers_0 : decode cX2_prefers 0 = .ok (.aload_n 0, 1) := dk_42 (dk_at dksX2_prefers_0 0 rfl rfl)
theorem dX2_prefers_1 : decode cX2_prefers 1 = .ok (.getfield 12, 3) := dk_180 0 12 (dk_at dksX2_prefers_0 1 rfl rfl)
theorem dX2_prefers_4 : decode cX2_prefers 4 = .ok (.iload_n 1, 1) := dk_27 (dk_at dksX2_prefers_0 4 rfl rfl)
theorem dX2_prefers_5 : decode cX2_prefers 5 = .ok (.invokeinterface 56 2, 5) := by decide +kernel
theorem dX2_prefers_10 : decode cX2_prefers 10 = .ok (.checkcast 54, 3) := dk_192 0 54 (dk_at dksX2_prefers_0 10 rfl rfl)
theorem dX2_prefers_13 : decode cX2_prefers 13 = .ok (.getfield 98, 3) := dk_180 0 98 (dk_at dksX2_prefers_0 13 rfl rfl)
theorem dX2_prefers_16 : decode cX2_prefers 16 = .ok (.astore_n 3, 1) := dk_78 (dk_at dksX2_prefers_0 16 rfl rfl)
theorem dX2_prefers_17 : decode cX2_prefers 17 = .ok (.iconst 0, 1) := dk_3 (dk_at dksX2_prefers_0 17 rfl rfl)
theorem dX2_prefers_18 : decode cX2_prefers 18 = .ok (.istore 4, 2) := dk_54 4 (dk_at dksX2_prefers_0 18 rfl rfl)
theorem dX2_prefers_20 : decode cX2_prefers 20 = .ok (.iload 4, 2) := dk_21 4 (dk_at dksX2_prefers_0 20 rfl rfl)
theorem dX2_prefers_22 : decode cX2_prefers 22 = .ok (.aload_n 3, 1) := dk_45 (dk_at dksX2_prefers_0 22 rfl rfl)
theorem dX2_prefers_23 : decode cX2_prefers 23 = .ok (.invokeinterface 48 1, 5) := by decide +kernel
theorem dX2_prefers_28 : decode cX2_prefers 28 = .ok (.if_icmp .ge 29, 3) := dk_162 0 29 (dk_at dksX2_prefers_1 5 rfl rfl)
theorem dX2_prefers_31 : decode cX2_prefers 31 = .ok (.aload_n 3, 1) := dk_45 (dk_at dksX2_prefers_1 8 rfl rfl)
theorem dX2_prefers_32 : decode cX2_prefers 32 = .ok (.iload 4, 2) := dk_21 4 (dk_at dksX2_prefers_1 9 rfl rfl)
theorem dX2_prefers_34 : decode cX2_prefers 34 = .ok (.invokeinterface 56 2, 5) := by decide +kernel
theorem dX2_prefers_39 : decode cX2_prefers 39 = .ok (.checkcast 75, 3) := dk_192 0 75 (dk_at dksX2_prefers_1 16 rfl rfl)
theorem dX2_prefers_42 : decode cX2_prefers 42 = .ok (.invokevirtual 85, 3) := dk_182 0 85 (dk_at dksX2_prefers_1 19 rfl rfl)
theorem dX2_prefers_45 : decode cX2_prefers 45 = .ok (.iload_n 2, 1) := dk_28 (dk_at dksX2_prefers_1 22 rfl rfl)
theorem dX2_prefers_46 : decode cX2_prefers 46 = .ok (.if_icmp .ne 5, 3) := dk_160 0 5 (dk_at dksX2_prefers_2 0 rfl rfl)
theorem dX2_prefers_49 : decode cX2_prefers 49 = .ok (.iconst 1, 1) := dk_4 (dk_at dksX2_prefers_2 3 rfl rfl)
theorem dX2_prefers_50 : decode cX2_prefers 50 = .ok (.ireturn, 1) := dk_172 (dk_at dksX2_prefers_2 4 rfl rfl)
theorem dX2_prefers_51 : decode cX2_prefers 51 = .ok (.iinc 4 1, 3) := dk_132 4 1 (dk_at dksX2_prefers_2 5 rfl rfl)
theorem dX2_prefers_54 : decode cX2_prefers 54 = .ok (.goto (-34), 3) := dk_167 255 222 (dk_at dksX2_prefers_2 8 rfl rfl)
theorem dX2_prefers_57 : decode cX2_prefers 57 = .ok (.iconst 0, 1) := dk_3 (dk_at dksX2_prefers_2 11 rfl rfl)
theorem dX2_prefers_58 : decode cX2_prefers 58 = .ok (.ireturn, 1) := dk_172 (dk_at dksX2_prefers_2 12 rfl rfl)
abbrev cX2_reload : ByteArray := prog_4_method_9_code
def yX2_reload : MethodName := ⟨RX2, "reload", "(I)V"⟩
def dkwX2_reload_0 : List UInt8 := [42, 180, 0, 25, 27, 184, 0, 91, 185, 0, 63, 2, 0, 87, 177]
abbrev dktX2_reload_0 : List UInt8 := dkwX2_reload_0 ++ []
theorem dksX2_reload_0 : cX2_reload.data.toList.drop 0 = dktX2_reload_0 := by decide +kernel
theorem dX2_reload_0 : decode cX2_reload 0 = .ok (.aload_n 0, 1) := dk_42 (dk_at dksX2_reload_0 0 rfl rfl)
theorem dX2_reload_1 : decode cX2_reload 1 = .ok (.getfield 25, 3) := dk_180 0 25 (dk_at dksX2_reload_0 1 rfl rfl)
theorem dX2_reload_4 : decode cX2_reload 4 = .ok (.iload_n 1, 1) := dk_27 (dk_at dksX2_reload_0 4 rfl rfl)
theorem dX2_reload_5 : decode cX2_reload 5 = .ok (.invokestatic 91, 3) := dk_184 0 91 (dk_at dksX2_reload_0 5 rfl rfl)
theorem dX2_reload_8 : decode cX2_reload 8 = .ok (.invokeinterface 63 2, 5) := by decide +kernel
theorem dX2_reload_13 : decode cX2_reload 13 = .ok (.pop, 1) := dk_87 (dk_at dksX2_reload_0 13 rfl rfl)
theorem dX2_reload_14 : decode cX2_reload 14 = .ok (.return_, 1) := dk_177 (dk_at dksX2_reload_0 14 rfl rfl)
abbrev cX2_put : ByteArray := prog_4_method_4_code
def yX2_put : MethodName := ⟨RX2, "put", "(III)V"⟩
def dkwX2_put_2 : List UInt8 := [192, 0, 75, 58, 4, 177]
abbrev dktX2_put_2 : List UInt8 := dkwX2_put_2 ++ []
def dkwX2_put_1 : List UInt8 := [167, 0, 26, 42, 180, 0, 21, 187, 0, 77, 89, 27, 28, 183, 0, 79, 29, 184, 0, 91, 182, 0, 95]
abbrev dktX2_put_1 : List UInt8 := dkwX2_put_1 ++ dktX2_put_2
def dkwX2_put_0 : List UInt8 := [29, 2, 160, 0, 25, 42, 180, 0, 21, 187, 0, 77, 89, 27, 28, 183, 0, 79, 182, 0, 88, 192, 0, 75]
abbrev dktX2_put_0 : List UInt8 := dkwX2_put_0 ++ dktX2_put_1
theorem dksX2_put_0 : cX2_put.data.toList.drop 0 = dktX2_put_0 := by decide +kernel
theorem dksX2_put_1 : cX2_put.data.toList.drop 24 = dktX2_put_1 := dk_seg dksX2_put_0 24 rfl rfl
theorem dksX2_put_2 : cX2_put.data.toList.drop 47 = dktX2_put_2 := dk_seg dksX2_put_1 23 rfl rfl
theorem dX2_put_0 : decode cX2_put 0 = .ok (.iload_n 3, 1) := dk_29 (dk_at dksX2_put_0 0 rfl rfl)
theorem dX2_put_1 : decode cX2_put 1 = .ok (.iconst (-1), 1) := dk_2 (dk_at dksX2_put_0 1 rfl rfl)
theorem dX2_put_2 : decode cX2_put 2 = .ok (.if_icmp .ne 25, 3) := dk_160 0 25 (dk_at dksX2_put_0 2 rfl rfl)
theorem dX2_put_5 : decode cX2_put 5 = .ok (.aload_n 0, 1) := dk_42 (dk_at dksX2_put_0 5 rfl rfl)
theorem dX2_put_6 : decode cX2_put 6 = .ok (.getfield 21, 3) := dk_180 0 21 (dk_at dksX2_put_0 6 rfl rfl)
theorem dX2_put_9 : decode cX2_put 9 = .ok (.new 77, 3) := dk_187 0 77 (dk_at dksX2_put_0 9 rfl rfl)
theorem dX2_put_12 : decode cX2_put 12 = .ok (.dup, 1) := dk_89 (dk_at dksX2_put_0 12 rfl rfl)
theorem dX2_put_13 : decode cX2_put 13 = .ok (.iload_n 1, 1) := dk_27 (dk_at dksX2_put_0 13 rfl rfl)
theorem dX2_put_14 : decode cX2_put 14 = .ok (.iload_n 2, 1) := dk_28 (dk_at dksX2_put_0 14 rfl rfl)
theorem dX2_put_15 : decode cX2_put 15 = .ok (.invokespecial 79, 3) := dk_183 0 79 (dk_at dksX2_put_0 15 rfl rfl)
theorem dX2_put_18 : decode cX2_put 18 = .ok (.invokevirtual 88, 3) := dk_182 0 88 (dk_at dksX2_put_0 18 rfl rfl)
theorem dX2_put_21 : decode cX2_put 21 = .ok (.checkcast 75, 3) := dk_192 0 75 (dk_at dksX2_put_0 21 rfl rfl)
theorem dX2_put_24 : decode cX2_put 24 = .ok (.goto 26, 3) := dk_167 0 26 (dk_at dksX2_put_1 0 rfl rfl)
theorem dX2_put_27 : decode cX2_put 27 = .ok (.aload_n 0, 1) := dk_42 (dk_at dksX2_put_1 3 rfl rfl)
theorem dX2_put_28 : decode cX2_put 28 = .ok (.getfield 21, 3) := dk_180 0 21 (dk_at dksX2_put_1 4 rfl rfl)
theorem dX2_put_31 : decode cX2_put 31 = .ok (.new 77, 3) := dk_187 0 77 (dk_at dksX2_put_1 7 rfl rfl)
theorem dX2_put_34 : decode cX2_put 34 = .ok (.dup, 1) := dk_89 (dk_at dksX2_put_1 10 rfl rfl)
theorem dX2_put_35 : decode cX2_put 35 = .ok (.iload_n 1, 1) := dk_27 (dk_at dksX2_put_1 11 rfl rfl)
theorem dX2_put_36 : decode cX2_put 36 = .ok (.iload_n 2, 1) := dk_28 (dk_at dksX2_put_1 12 rfl rfl)
theorem dX2_put_37 : decode cX2_put 37 = .ok (.invokespecial 79, 3) := dk_183 0 79 (dk_at dksX2_put_1 13 rfl rfl)
theorem dX2_put_40 : decode cX2_put 40 = .ok (.iload_n 3, 1) := dk_29 (dk_at dksX2_put_1 16 rfl rfl)
theorem dX2_put_41 : decode cX2_put 41 = .ok (.invokestatic 91, 3) := dk_184 0 91 (dk_at dksX2_put_1 17 rfl rfl)
theorem dX2_put_44 : decode cX2_put 44 = .ok (.invokevirtual 95, 3) := dk_182 0 95 (dk_at dksX2_put_1 20 rfl rfl)
theorem dX2_put_47 : decode cX2_put 47 = .ok (.checkcast 75, 3) := dk_192 0 75 (dk_at dksX2_put_2 0 rfl rfl)
theorem dX2_put_50 : decode cX2_put 50 = .ok (.astore 4, 2) := dk_58 4 (dk_at dksX2_put_2 3 rfl rfl)
theorem dX2_put_52 : decode cX2_put 52 = .ok (.return_, 1) := dk_177 (dk_at dksX2_put_2 5 rfl rfl)
abbrev cX2_copy : ByteArray := prog_4_method_2_code
def yX2_copy : MethodName := ⟨RX2, "copy", "()LLinkElection$House;"⟩
def dkwX2_copy_7 : List UInt8 := [180, 0, 34, 181, 0, 34, 43, 42, 180, 0, 38, 181, 0, 38, 43, 176]
abbrev dktX2_copy_7 : List UInt8 := dkwX2_copy_7 ++ []
def dkwX2_copy_6 : List UInt8 := [185, 0, 56, 2, 0, 192, 0, 75, 185, 0, 63, 2, 0, 87, 132, 2, 1, 167, 255, 217, 43, 42]
abbrev dktX2_copy_6 : List UInt8 := dkwX2_copy_6 ++ dktX2_copy_7
def dkwX2_copy_5 : List UInt8 := [61, 28, 42, 180, 0, 25, 185, 0, 48, 1, 0, 162, 0, 32, 43, 180, 0, 25, 42, 180, 0, 25, 28]
abbrev dktX2_copy_5 : List UInt8 := dkwX2_copy_5 ++ dktX2_copy_6
def dkwX2_copy_4 : List UInt8 := [28, 29, 42, 28, 29, 182, 0, 67, 182, 0, 71, 132, 3, 1, 167, 255, 228, 132, 2, 1, 167, 255, 207, 3]
abbrev dktX2_copy_4 : List UInt8 := dkwX2_copy_4 ++ dktX2_copy_5
def dkwX2_copy_3 : List UInt8 := [185, 0, 48, 1, 0, 162, 0, 42, 3, 62, 29, 42, 180, 0, 42, 185, 0, 48, 1, 0, 162, 0, 21, 43]
abbrev dktX2_copy_3 : List UInt8 := dkwX2_copy_3 ++ dktX2_copy_4
def dkwX2_copy_2 : List UInt8 := [183, 0, 60, 185, 0, 63, 2, 0, 87, 132, 2, 1, 167, 255, 210, 3, 61, 28, 42, 180, 0, 12]
abbrev dktX2_copy_2 : List UInt8 := dkwX2_copy_2 ++ dktX2_copy_3
def dkwX2_copy_1 : List UInt8 := [162, 0, 39, 43, 180, 0, 12, 187, 0, 54, 89, 42, 180, 0, 12, 28, 185, 0, 56, 2, 0, 192, 0, 54]
abbrev dktX2_copy_1 : List UInt8 := dkwX2_copy_1 ++ dktX2_copy_2
def dkwX2_copy_0 : List UInt8 := [187, 0, 13, 89, 42, 180, 0, 42, 183, 0, 45, 76, 3, 61, 28, 42, 180, 0, 12, 185, 0, 48, 1, 0]
abbrev dktX2_copy_0 : List UInt8 := dkwX2_copy_0 ++ dktX2_copy_1
theorem dksX2_copy_0 : cX2_copy.data.toList.drop 0 = dktX2_copy_0 := by decide +kernel
theorem dksX2_copy_1 : cX2_copy.data.toList.drop 24 = dktX2_copy_1 := dk_seg dksX2_copy_0 24 rfl rfl
theorem dksX2_copy_2 : cX2_copy.data.toList.drop 48 = dktX2_copy_2 := dk_seg dksX2_copy_1 24 rfl rfl
theorem dksX2_copy_3 : cX2_copy.data.toList.drop 70 = dktX2_copy_3 := dk_seg dksX2_copy_2 22 rfl rfl
theorem dksX2_copy_4 : cX2_copy.data.toList.drop 94 = dktX2_copy_4 := dk_seg dksX2_copy_3 24 rfl rfl
theorem dksX2_copy_5 : cX2_copy.data.toList.drop 118 = dktX2_copy_5 := dk_seg dksX2_copy_4 24 rfl rfl
theorem dksX2_copy_6 : cX2_copy.data.toList.drop 141 = dktX2_copy_6 := dk_seg dksX2_copy_5 23 rfl rfl
theorem dksX2_copy_7 : cX2_copy.data.toList.drop 163 = dktX2_copy_7 := dk_seg dksX2_copy_6 22 rfl rfl
theorem dX2_copy_0 : decode cX2_copy 0 = .ok (.new 13, 3) := dk_187 0 13 (dk_at dksX2_copy_0 0 rfl rfl)
theorem dX2_copy_3 : decode cX2_copy 3 = .ok (.dup, 1) := dk_89 (dk_at dksX2_copy_0 3 rfl rfl)
theorem dX2_copy_4 : decode cX2_copy 4 = .ok (.aload_n 0, 1) := dk_42 (dk_at dksX2_copy_0 4 rfl rfl)
theorem dX2_copy_5 : decode cX2_copy 5 = .ok (.getfield 42, 3) := dk_180 0 42 (dk_at dksX2_copy_0 5 rfl rfl)
theorem dX2_copy_8 : decode cX2_copy 8 = .ok (.invokespecial 45, 3) := dk_183 0 45 (dk_at dksX2_copy_0 8 rfl rfl)
theorem dX2_copy_11 : decode cX2_copy 11 = .ok (.astore_n 1, 1) := dk_76 (dk_at dksX2_copy_0 11 rfl rfl)
theorem dX2_copy_12 : decode cX2_copy 12 = .ok (.iconst 0, 1) := dk_3 (dk_at dksX2_copy_0 12 rfl rfl)
theorem dX2_copy_13 : decode cX2_copy 13 = .ok (.istore_n 2, 1) := dk_61 (dk_at dksX2_copy_0 13 rfl rfl)
theorem dX2_copy_14 : decode cX2_copy 14 = .ok (.iload_n 2, 1) := dk_28 (dk_at dksX2_copy_0 14 rfl rfl)
theorem dX2_copy_15 : decode cX2_copy 15 = .ok (.aload_n 0, 1) := dk_42 (dk_at dksX2_copy_0 15 rfl rfl)
theorem dX2_copy_16 : decode cX2_copy 16 = .ok (.getfield 12, 3) := dk_180 0 12 (dk_at dksX2_copy_0 16 rfl rfl)
theorem dX2_copy_19 : decode cX2_copy 19 = .ok (.invokeinterface 48 1, 5) := by decide +kernel
theorem dX2_copy_24 : decode cX2_copy 24 = .ok (.if_icmp .ge 39, 3) := dk_162 0 39 (dk_at dksX2_copy_1 0 rfl rfl)
theorem dX2_copy_27 : decode cX2_copy 27 = .ok (.aload_n 1, 1) := dk_43 (dk_at dksX2_copy_1 3 rfl rfl)
theorem dX2_copy_28 : decode cX2_copy 28 = .ok (.getfield 12, 3) := dk_180 0 12 (dk_at dksX2_copy_1 4 rfl rfl)
theorem dX2_copy_31 : decode cX2_copy 31 = .ok (.new 54, 3) := dk_187 0 54 (dk_at dksX2_copy_1 7 rfl rfl)
theorem dX2_copy_34 : decode cX2_copy 34 = .ok (.dup, 1) := dk_89 (dk_at dksX2_copy_1 10 rfl rfl)
theorem dX2_copy_35 : decode cX2_copy 35 = .ok (.aload_n 0, 1) := dk_42 (dk_at dksX2_copy_1 11 rfl rfl)
theorem dX2_copy_36 : decode cX2_copy 36 = .ok (.getfield 12, 3) := dk_180 0 12 (dk_at dksX2_copy_1 12 rfl rfl)
theorem dX2_copy_39 : decode cX2_copy 39 = .ok (.iload_n 2, 1) := dk_28 (dk_at dksX2_copy_1 15 rfl rfl)
theorem dX2_copy_40 : decode cX2_copy 40 = .ok (.invokeinterface 56 2, 5) := by decide +kernel
theorem dX2_copy_45 : decode cX2_copy 45 = .ok (.checkcast 54, 3) := dk_192 0 54 (dk_at dksX2_copy_1 21 rfl rfl)
theorem dX2_copy_48 : decode cX2_copy 48 = .ok (.invokespecial 60, 3) := dk_183 0 60 (dk_at dksX2_copy_2 0 rfl rfl)
theorem dX2_copy_51 : decode cX2_copy 51 = .ok (.invokeinterface 63 2, 5) := by decide +kernel
theorem dX2_copy_56 : decode cX2_copy 56 = .ok (.pop, 1) := dk_87 (dk_at dksX2_copy_2 8 rfl rfl)
theorem dX2_copy_57 : decode cX2_copy 57 = .ok (.iinc 2 1, 3) := dk_132 2 1 (dk_at dksX2_copy_2 9 rfl rfl)
theorem dX2_copy_60 : decode cX2_copy 60 = .ok (.goto (-46), 3) := dk_167 255 210 (dk_at dksX2_copy_2 12 rfl rfl)
theorem dX2_copy_63 : decode cX2_copy 63 = .ok (.iconst 0, 1) := dk_3 (dk_at dksX2_copy_2 15 rfl rfl)
theorem dX2_copy_64 : decode cX2_copy 64 = .ok (.istore_n 2, 1) := dk_61 (dk_at dksX2_copy_2 16 rfl rfl)
theorem dX2_copy_65 : decode cX2_copy 65 = .ok (.iload_n 2, 1) := dk_28 (dk_at dksX2_copy_2 17 rfl rfl)
theorem dX2_copy_66 : decode cX2_copy 66 = .ok (.aload_n 0, 1) := dk_42 (dk_at dksX2_copy_2 18 rfl rfl)
theorem dX2_copy_67 : decode cX2_copy 67 = .ok (.getfield 12, 3) := dk_180 0 12 (dk_at dksX2_copy_2 19 rfl rfl)
theorem dX2_copy_70 : decode cX2_copy 70 = .ok (.invokeinterface 48 1, 5) := by decide +kernel
theorem dX2_copy_75 : decode cX2_copy 75 = .ok (.if_icmp .ge 42, 3) := dk_162 0 42 (dk_at dksX2_copy_3 5 rfl rfl)
theorem dX2_copy_78 : decode cX2_copy 78 = .ok (.iconst 0, 1) := dk_3 (dk_at dksX2_copy_3 8 rfl rfl)
theorem dX2_copy_79 : decode cX2_copy 79 = .ok (.istore_n 3, 1) := dk_62 (dk_at dksX2_copy_3 9 rfl rfl)
theorem dX2_copy_80 : decode cX2_copy 80 = .ok (.iload_n 3, 1) := dk_29 (dk_at dksX2_copy_3 10 rfl rfl)
theorem dX2_copy_81 : decode cX2_copy 81 = .ok (.aload_n 0, 1) := dk_42 (dk_at dksX2_copy_3 11 rfl rfl)
theorem dX2_copy_82 : decode cX2_copy 82 = .ok (.getfield 42, 3) := dk_180 0 42 (dk_at dksX2_copy_3 12 rfl rfl)
theorem dX2_copy_85 : decode cX2_copy 85 = .ok (.invokeinterface 48 1, 5) := by decide +kernel
theorem dX2_copy_90 : decode cX2_copy 90 = .ok (.if_icmp .ge 21, 3) := dk_162 0 21 (dk_at dksX2_copy_3 20 rfl rfl)
theorem dX2_copy_93 : decode cX2_copy 93 = .ok (.aload_n 1, 1) := dk_43 (dk_at dksX2_copy_3 23 rfl rfl)
theorem dX2_copy_94 : decode cX2_copy 94 = .ok (.iload_n 2, 1) := dk_28 (dk_at dksX2_copy_4 0 rfl rfl)
theorem dX2_copy_95 : decode cX2_copy 95 = .ok (.iload_n 3, 1) := dk_29 (dk_at dksX2_copy_4 1 rfl rfl)
theorem dX2_copy_96 : decode cX2_copy 96 = .ok (.aload_n 0, 1) := dk_42 (dk_at dksX2_copy_4 2 rfl rfl)
theorem dX2_copy_97 : decode cX2_copy 97 = .ok (.iload_n 2, 1) := dk_28 (dk_at dksX2_copy_4 3 rfl rfl)
theorem dX2_copy_98 : decode cX2_copy 98 = .ok (.iload_n 3, 1) := dk_29 (dk_at dksX2_copy_4 4 rfl rfl)
theorem dX2_copy_99 : decode cX2_copy 99 = .ok (.invokevirtual 67, 3) := dk_182 0 67 (dk_at dksX2_copy_4 5 rfl rfl)
theorem dX2_copy_102 : decode cX2_copy 102 = .ok (.invokevirtual 71, 3) := dk_182 0 71 (dk_at dksX2_copy_4 8 rfl rfl)
theorem dX2_copy_105 : decode cX2_copy 105 = .ok (.iinc 3 1, 3) := dk_132 3 1 (dk_at dksX2_copy_4 11 rfl rfl)
theorem dX2_copy_108 : decode cX2_copy 108 = .ok (.goto (-28), 3) := dk_167 255 228 (dk_at dksX2_copy_4 14 rfl rfl)
theorem dX2_copy_111 : decode cX2_copy 111 = .ok (.iinc 2 1, 3) := dk_132 2 1 (dk_at dksX2_copy_4 17 rfl rfl)
theorem dX2_copy_114 : decode cX2_copy 114 = .ok (.goto (-49), 3) := dk_167 255 207 (dk_at dksX2_copy_4 20 rfl rfl)
theorem dX2_copy_117 : decode cX2_copy 117 = .ok (.iconst 0, 1) := dk_3 (dk_at dksX2_copy_4 23 rfl rfl)
theorem dX2_copy_118 : decode cX2_copy 118 = .ok (.istore_n 2, 1) := dk_61 (dk_at dksX2_copy_5 0 rfl rfl)
theorem dX2_copy_119 : decode cX2_copy 119 = .ok (.iload_n 2, 1) := dk_28 (dk_at dksX2_copy_5 1 rfl rfl)
theorem dX2_copy_120 : decode cX2_copy 120 = .ok (.aload_n 0, 1) := dk_42 (dk_at dksX2_copy_5 2 rfl rfl)
theorem dX2_copy_121 : decode cX2_copy 121 = .ok (.getfield 25, 3) := dk_180 0 25 (dk_at dksX2_copy_5 3 rfl rfl)
theorem dX2_copy_124 : decode cX2_copy 124 = .ok (.invokeinterface 48 1, 5) := by decide +kernel
theorem dX2_copy_129 : decode cX2_copy 129 = .ok (.if_icmp .ge 32, 3) := dk_162 0 32 (dk_at dksX2_copy_5 11 rfl rfl)
theorem dX2_copy_132 : decode cX2_copy 132 = .ok (.aload_n 1, 1) := dk_43 (dk_at dksX2_copy_5 14 rfl rfl)
theorem dX2_copy_133 : decode cX2_copy 133 = .ok (.getfield 25, 3) := dk_180 0 25 (dk_at dksX2_copy_5 15 rfl rfl)
theorem dX2_copy_136 : decode cX2_copy 136 = .ok (.aload_n 0, 1) := dk_42 (dk_at dksX2_copy_5 18 rfl rfl)
theorem dX2_copy_137 : decode cX2_copy 137 = .ok (.getfield 25, 3) := dk_180 0 25 (dk_at dksX2_copy_5 19 rfl rfl)
theorem dX2_copy_140 : decode cX2_copy 140 = .ok (.iload_n 2, 1) := dk_28 (dk_at dksX2_copy_5 22 rfl rfl)
theorem dX2_copy_141 : decode cX2_copy 141 = .ok (.invokeinterface 56 2, 5) := by decide +kernel
theorem dX2_copy_146 : decode cX2_copy 146 = .ok (.checkcast 75, 3) := dk_192 0 75 (dk_at dksX2_copy_6 5 rfl rfl)
theorem dX2_copy_149 : decode cX2_copy 149 = .ok (.invokeinterface 63 2, 5) := by decide +kernel
theorem dX2_copy_154 : decode cX2_copy 154 = .ok (.pop, 1) := dk_87 (dk_at dksX2_copy_6 13 rfl rfl)
theorem dX2_copy_155 : decode cX2_copy 155 = .ok (.iinc 2 1, 3) := dk_132 2 1 (dk_at dksX2_copy_6 14 rfl rfl)
theorem dX2_copy_158 : decode cX2_copy 158 = .ok (.goto (-39), 3) := dk_167 255 217 (dk_at dksX2_copy_6 17 rfl rfl)
theorem dX2_copy_161 : decode cX2_copy 161 = .ok (.aload_n 1, 1) := dk_43 (dk_at dksX2_copy_6 20 rfl rfl)
theorem dX2_copy_162 : decode cX2_copy 162 = .ok (.aload_n 0, 1) := dk_42 (dk_at dksX2_copy_6 21 rfl rfl)
theorem dX2_copy_163 : decode cX2_copy 163 = .ok (.getfield 34, 3) := dk_180 0 34 (dk_at dksX2_copy_7 0 rfl rfl)
theorem dX2_copy_166 : decode cX2_copy 166 = .ok (.putfield 34, 3) := dk_181 0 34 (dk_at dksX2_copy_7 3 rfl rfl)
theorem dX2_copy_169 : decode cX2_copy 169 = .ok (.aload_n 1, 1) := dk_43 (dk_at dksX2_copy_7 6 rfl rfl)
theorem dX2_copy_170 : decode cX2_copy 170 = .ok (.aload_n 0, 1) := dk_42 (dk_at dksX2_copy_7 7 rfl rfl)
theorem dX2_copy_171 : decode cX2_copy 171 = .ok (.getfield 38, 3) := dk_180 0 38 (dk_at dksX2_copy_7 8 rfl rfl)
theorem dX2_copy_174 : decode cX2_copy 174 = .ok (.putfield 38, 3) := dk_181 0 38 (dk_at dksX2_copy_7 11 rfl rfl)
theorem dX2_copy_177 : decode cX2_copy 177 = .ok (.aload_n 1, 1) := dk_43 (dk_at dksX2_copy_7 14 rfl rfl)
theorem dX2_copy_178 : decode cX2_copy 178 = .ok (.areturn, 1) := dk_176 (dk_at dksX2_copy_7 15 rfl rfl)
abbrev cX2_unload : ByteArray := prog_4_method_10_code
def yX2_unload : MethodName := ⟨RX2, "unload", "(I)V"⟩
def dkwX2_unload_0 : List UInt8 := [42, 180, 0, 25, 42, 27, 182, 0, 105, 185, 0, 109, 2, 0, 192, 0, 75, 77, 177]
abbrev dktX2_unload_0 : List UInt8 := dkwX2_unload_0 ++ []
theorem dksX2_unload_0 : cX2_unload.data.toList.drop 0 = dktX2_unload_0 := by decide +kernel
theorem dX2_unload_0 : decode cX2_unload 0 = .ok (.aload_n 0, 1) := dk_42 (dk_at dksX2_unload_0 0 rfl rfl)
theorem dX2_unload_1 : decode cX2_unload 1 = .ok (.getfield 25, 3) := dk_180 0 25 (dk_at dksX2_unload_0 1 rfl rfl)
theorem dX2_unload_4 : decode cX2_unload 4 = .ok (.aload_n 0, 1) := dk_42 (dk_at dksX2_unload_0 4 rfl rfl)
theorem dX2_unload_5 : decode cX2_unload 5 = .ok (.iload_n 1, 1) := dk_27 (dk_at dksX2_unload_0 5 rfl rfl)
theorem dX2_unload_6 : decode cX2_unload 6 = .ok (.invokevirtual 105, 3) := dk_182 0 105 (dk_at dksX2_unload_0 6 rfl rfl)
theorem dX2_unload_9 : decode cX2_unload 9 = .ok (.invokeinterface 109 2, 5) := by decide +kernel
theorem dX2_unload_14 : decode cX2_unload 14 = .ok (.checkcast 75, 3) := dk_192 0 75 (dk_at dksX2_unload_0 14 rfl rfl)
theorem dX2_unload_17 : decode cX2_unload 17 = .ok (.astore_n 2, 1) := dk_77 (dk_at dksX2_unload_0 17 rfl rfl)
theorem dX2_unload_18 : decode cX2_unload 18 = .ok (.return_, 1) := dk_177 (dk_at dksX2_unload_0 18 rfl rfl)
abbrev cX5_init : ByteArray := prog_8_method_1_code
def yX5_init : MethodName := ⟨RX5, "<init>", "(II)V"⟩
def dkwX5_init_0 : List UInt8 := [42, 1, 1, 3, 3, 183, 0, 1, 42, 27, 181, 0, 7, 42, 28, 181, 0, 13, 177]
abbrev dktX5_init_0 : List UInt8 := dkwX5_init_0 ++ []
theorem dksX5_init_0 : cX5_init.data.toList.drop 0 = dktX5_init_0 := by decide +kernel
theorem dX5_init_0 : decode cX5_init 0 = .ok (.aload_n 0, 1) := dk_42 (dk_at dksX5_init_0 0 rfl rfl)
theorem dX5_init_1 : decode cX5_init 1 = .ok (.aconst_null, 1) := dk_1 (dk_at dksX5_init_0 1 rfl rfl)
theorem dX5_init_2 : decode cX5_init 2 = .ok (.aconst_null, 1) := dk_1 (dk_at dksX5_init_0 2 rfl rfl)
theorem dX5_init_3 : decode cX5_init 3 = .ok (.iconst 0, 1) := dk_3 (dk_at dksX5_init_0 3 rfl rfl)
theorem dX5_init_4 : decode cX5_init 4 = .ok (.iconst 0, 1) := dk_3 (dk_at dksX5_init_0 4 rfl rfl)
theorem dX5_init_5 : decode cX5_init 5 = .ok (.invokespecial 1, 3) := dk_183 0 1 (dk_at dksX5_init_0 5 rfl rfl)
theorem dX5_init_8 : decode cX5_init 8 = .ok (.aload_n 0, 1) := dk_42 (dk_at dksX5_init_0 8 rfl rfl)
theorem dX5_init_9 : decode cX5_init 9 = .ok (.iload_n 1, 1) := dk_27 (dk_at dksX5_init_0 9 rfl rfl)
theorem dX5_init_10 : decode cX5_init 10 = .ok (.putfield 7, 3) := dk_181 0 7 (dk_at dksX5_init_0 10 rfl rfl)
theorem dX5_init_13 : decode cX5_init 13 = .ok (.aload_n 0, 1) := dk_42 (dk_at dksX5_init_0 13 rfl rfl)
theorem dX5_init_14 : decode cX5_init 14 = .ok (.iload_n 2, 1) := dk_28 (dk_at dksX5_init_0 14 rfl rfl)
theorem dX5_init_15 : decode cX5_init 15 = .ok (.putfield 13, 3) := dk_181 0 13 (dk_at dksX5_init_0 15 rfl rfl)
theorem dX5_init_18 : decode cX5_init 18 = .ok (.return_, 1) := dk_177 (dk_at dksX5_init_0 18 rfl rfl)
abbrev cX6_init : ByteArray := prog_6_method_1_code
def yX6_init : MethodName := ⟨RX6, "<init>", "(Ljava/lang/String;IZ)V"⟩
def dkwX6_init_1 : List UInt8 := [183, 0, 23, 181, 0, 24, 177]
abbrev dktX6_init_1 : List UInt8 := dkwX6_init_1 ++ []
def dkwX6_init_0 : List UInt8 := [42, 183, 0, 1, 42, 43, 181, 0, 7, 42, 28, 181, 0, 13, 42, 29, 181, 0, 17, 42, 187, 0, 21, 89]
abbrev dktX6_init_0 : List UInt8 := dkwX6_init_0 ++ dktX6_init_1
theorem dksX6_init_0 : cX6_init.data.toList.drop 0 = dktX6_init_0 := by decide +kernel
theorem dksX6_init_1 : cX6_init.data.toList.drop 24 = dktX6_init_1 := dk_seg dksX6_init_0 24 rfl rfl
theorem dX6_init_0 : decode cX6_init 0 = .ok (.aload_n 0, 1) := dk_42 (dk_at dksX6_init_0 0 rfl rfl)
theorem dX6_init_1 : decode cX6_init 1 = .ok (.invokespecial 1, 3) := dk_183 0 1 (dk_at dksX6_init_0 1 rfl rfl)
theorem dX6_init_4 : decode cX6_init 4 = .ok (.aload_n 0, 1) := dk_42 (dk_at dksX6_init_0 4 rfl rfl)
theorem dX6_init_5 : decode cX6_init 5 = .ok (.aload_n 1, 1) := dk_43 (dk_at dksX6_init_0 5 rfl rfl)
theorem dX6_init_6 : decode cX6_init 6 = .ok (.putfield 7, 3) := dk_181 0 7 (dk_at dksX6_init_0 6 rfl rfl)
theorem dX6_init_9 : decode cX6_init 9 = .ok (.aload_n 0, 1) := dk_42 (dk_at dksX6_init_0 9 rfl rfl)
theorem dX6_init_10 : decode cX6_init 10 = .ok (.iload_n 2, 1) := dk_28 (dk_at dksX6_init_0 10 rfl rfl)
theorem dX6_init_11 : decode cX6_init 11 = .ok (.putfield 13, 3) := dk_181 0 13 (dk_at dksX6_init_0 11 rfl rfl)
theorem dX6_init_14 : decode cX6_init 14 = .ok (.aload_n 0, 1) := dk_42 (dk_at dksX6_init_0 14 rfl rfl)
theorem dX6_init_15 : decode cX6_init 15 = .ok (.iload_n 3, 1) := dk_29 (dk_at dksX6_init_0 15 rfl rfl)
theorem dX6_init_16 : decode cX6_init 16 = .ok (.putfield 17, 3) := dk_181 0 17 (dk_at dksX6_init_0 16 rfl rfl)
theorem dX6_init_19 : decode cX6_init 19 = .ok (.aload_n 0, 1) := dk_42 (dk_at dksX6_init_0 19 rfl rfl)
theorem dX6_init_20 : decode cX6_init 20 = .ok (.new 21, 3) := dk_187 0 21 (dk_at dksX6_init_0 20 rfl rfl)
theorem dX6_init_23 : decode cX6_init 23 = .ok (.dup, 1) := dk_89 (dk_at dksX6_init_0 23 rfl rfl)
theorem dX6_init_24 : decode cX6_init 24 = .ok (.invokespecial 23, 3) := dk_183 0 23 (dk_at dksX6_init_1 0 rfl rfl)
theorem dX6_init_27 : decode cX6_init 27 = .ok (.putfield 24, 3) := dk_181 0 24 (dk_at dksX6_init_1 3 rfl rfl)
theorem dX6_init_30 : decode cX6_init 30 = .ok (.return_, 1) := dk_177 (dk_at dksX6_init_1 6 rfl rfl)
abbrev cX6_init_2 : ByteArray := prog_6_method_2_code
def yX6_init_2 : MethodName := ⟨RX6, "<init>", "(LLinkElection$Library;)V"⟩
def dkwX6_init_2_1 : List UInt8 := [180, 0, 13, 181, 0, 13, 42, 43, 180, 0, 17, 181, 0, 17, 177]
abbrev dktX6_init_2_1 : List UInt8 := dkwX6_init_2_1 ++ []
def dkwX6_init_2_0 : List UInt8 := [42, 183, 0, 1, 42, 43, 180, 0, 7, 181, 0, 7, 42, 43, 180, 0, 24, 181, 0, 24, 42, 43]
abbrev dktX6_init_2_0 : List UInt8 := dkwX6_init_2_0 ++ dktX6_init_2_1
theorem dksX6_init_2_0 : cX6_init_2.data.toList.drop 0 = dktX6_init_2_0 := by decide +kernel
theorem dksX6_init_2_1 : cX6_init_2.data.toList.drop 22 = dktX6_init_2_1 := dk_seg dksX6_init_2_0 22 rfl rfl
theorem dX6_init_2_0 : decode cX6_init_2 0 = .ok (.aload_n 0, 1) := dk_42 (dk_at dksX6_init_2_0 0 rfl rfl)
theorem dX6_init_2_1 : decode cX6_init_2 1 = .ok (.invokespecial 1, 3) := dk_183 0 1 (dk_at dksX6_init_2_0 1 rfl rfl)
theorem dX6_init_2_4 : decode cX6_init_2 4 = .ok (.aload_n 0, 1) := dk_42 (dk_at dksX6_init_2_0 4 rfl rfl)
theorem dX6_init_2_5 : decode cX6_init_2 5 = .ok (.aload_n 1, 1) := dk_43 (dk_at dksX6_init_2_0 5 rfl rfl)
theorem dX6_init_2_6 : decode cX6_init_2 6 = .ok (.getfield 7, 3) := dk_180 0 7 (dk_at dksX6_init_2_0 6 rfl rfl)
theorem dX6_init_2_9 : decode cX6_init_2 9 = .ok (.putfield 7, 3) := dk_181 0 7 (dk_at dksX6_init_2_0 9 rfl rfl)
theorem dX6_init_2_12 : decode cX6_init_2 12 = .ok (.aload_n 0, 1) := dk_42 (dk_at dksX6_init_2_0 12 rfl rfl)
theorem dX6_init_2_13 : decode cX6_init_2 13 = .ok (.aload_n 1, 1) := dk_43 (dk_at dksX6_init_2_0 13 rfl rfl)
theorem dX6_init_2_14 : decode cX6_init_2 14 = .ok (.getfield 24, 3) := dk_180 0 24 (dk_at dksX6_init_2_0 14 rfl rfl)
theorem dX6_init_2_17 : decode cX6_init_2 17 = .ok (.putfield 24, 3) := dk_181 0 24 (dk_at dksX6_init_2_0 17 rfl rfl)
theorem dX6_init_2_20 : decode cX6_init_2 20 = .ok (.aload_n 0, 1) := dk_42 (dk_at dksX6_init_2_0 20 rfl rfl)
theorem dX6_init_2_21 : decode cX6_init_2 21 = .ok (.aload_n 1, 1) := dk_43 (dk_at dksX6_init_2_0 21 rfl rfl)
theorem dX6_init_2_22 : decode cX6_init_2 22 = .ok (.getfield 13, 3) := dk_180 0 13 (dk_at dksX6_init_2_1 0 rfl rfl)
theorem dX6_init_2_25 : decode cX6_init_2 25 = .ok (.putfield 13, 3) := dk_181 0 13 (dk_at dksX6_init_2_1 3 rfl rfl)
theorem dX6_init_2_28 : decode cX6_init_2 28 = .ok (.aload_n 0, 1) := dk_42 (dk_at dksX6_init_2_1 6 rfl rfl)
theorem dX6_init_2_29 : decode cX6_init_2 29 = .ok (.aload_n 1, 1) := dk_43 (dk_at dksX6_init_2_1 7 rfl rfl)
theorem dX6_init_2_30 : decode cX6_init_2 30 = .ok (.getfield 17, 3) := dk_180 0 17 (dk_at dksX6_init_2_1 8 rfl rfl)
theorem dX6_init_2_33 : decode cX6_init_2 33 = .ok (.putfield 17, 3) := dk_181 0 17 (dk_at dksX6_init_2_1 11 rfl rfl)
theorem dX6_init_2_36 : decode cX6_init_2 36 = .ok (.return_, 1) := dk_177 (dk_at dksX6_init_2_1 14 rfl rfl)
abbrev cX7_init : ByteArray := prog_5_method_1_code
def yX7_init : MethodName := ⟨RX7, "<init>", "(II)V"⟩
def dkwX7_init_0 : List UInt8 := [42, 183, 0, 1, 42, 27, 181, 0, 7, 42, 28, 181, 0, 13, 177]
abbrev dktX7_init_0 : List UInt8 := dkwX7_init_0 ++ []
theorem dksX7_init_0 : cX7_init.data.toList.drop 0 = dktX7_init_0 := by decide +kernel
theorem dX7_init_0 : decode cX7_init 0 = .ok (.aload_n 0, 1) := dk_42 (dk_at dksX7_init_0 0 rfl rfl)
theorem dX7_init_1 : decode cX7_init 1 = .ok (.invokespecial 1, 3) := dk_183 0 1 (dk_at dksX7_init_0 1 rfl rfl)
theorem dX7_init_4 : decode cX7_init 4 = .ok (.aload_n 0, 1) := dk_42 (dk_at dksX7_init_0 4 rfl rfl)
theorem dX7_init_5 : decode cX7_init 5 = .ok (.iload_n 1, 1) := dk_27 (dk_at dksX7_init_0 5 rfl rfl)
theorem dX7_init_6 : decode cX7_init 6 = .ok (.putfield 7, 3) := dk_181 0 7 (dk_at dksX7_init_0 6 rfl rfl)
theorem dX7_init_9 : decode cX7_init 9 = .ok (.aload_n 0, 1) := dk_42 (dk_at dksX7_init_0 9 rfl rfl)
theorem dX7_init_10 : decode cX7_init 10 = .ok (.iload_n 2, 1) := dk_28 (dk_at dksX7_init_0 10 rfl rfl)
theorem dX7_init_11 : decode cX7_init 11 = .ok (.putfield 13, 3) := dk_181 0 13 (dk_at dksX7_init_0 11 rfl rfl)
theorem dX7_init_14 : decode cX7_init 14 = .ok (.return_, 1) := dk_177 (dk_at dksX7_init_0 14 rfl rfl)
abbrev cX7_hashCode : ByteArray := prog_5_method_3_code
def yX7_hashCode : MethodName := ⟨RX7, "hashCode", "()I"⟩
def dkwX7_hashCode_0 : List UInt8 := [16, 16, 42, 180, 0, 7, 104, 42, 180, 0, 13, 96, 172]
abbrev dktX7_hashCode_0 : List UInt8 := dkwX7_hashCode_0 ++ []
theorem dksX7_hashCode_0 : cX7_hashCode.data.toList.drop 0 = dktX7_hashCode_0 := by decide +kernel
theorem dX7_hashCode_0 : decode cX7_hashCode 0 = .ok (.bipush 16, 2) := dk_16 16 (dk_at dksX7_hashCode_0 0 rfl rfl)
theorem dX7_hashCode_2 : decode cX7_hashCode 2 = .ok (.aload_n 0, 1) := dk_42 (dk_at dksX7_hashCode_0 2 rfl rfl)
theorem dX7_hashCode_3 : decode cX7_hashCode 3 = .ok (.getfield 7, 3) := dk_180 0 7 (dk_at dksX7_hashCode_0 3 rfl rfl)
theorem dX7_hashCode_6 : decode cX7_hashCode 6 = .ok (.imul, 1) := dk_104 (dk_at dksX7_hashCode_0 6 rfl rfl)
theorem dX7_hashCode_7 : decode cX7_hashCode 7 = .ok (.aload_n 0, 1) := dk_42 (dk_at dksX7_hashCode_0 7 rfl rfl)
theorem dX7_hashCode_8 : decode cX7_hashCode 8 = .ok (.getfield 13, 3) := dk_180 0 13 (dk_at dksX7_hashCode_0 8 rfl rfl)
theorem dX7_hashCode_11 : decode cX7_hashCode 11 = .ok (.iadd, 1) := dk_96 (dk_at dksX7_hashCode_0 11 rfl rfl)
theorem dX7_hashCode_12 : decode cX7_hashCode 12 = .ok (.ireturn, 1) := dk_172 (dk_at dksX7_hashCode_0 12 rfl rfl)
abbrev cX7_equals : ByteArray := prog_5_method_2_code
def yX7_equals : MethodName := ⟨RX7, "equals", "(Ljava/lang/Object;)Z"⟩
def dkwX7_equals_1 : List UInt8 := [192, 0, 8, 180, 0, 13, 42, 180, 0, 13, 160, 0, 7, 4, 167, 0, 4, 3, 172]
abbrev dktX7_equals_1 : List UInt8 := dkwX7_equals_1 ++ []
def dkwX7_equals_0 : List UInt8 := [43, 193, 0, 8, 153, 0, 35, 43, 192, 0, 8, 180, 0, 7, 42, 180, 0, 7, 160, 0, 21, 43]
abbrev dktX7_equals_0 : List UInt8 := dkwX7_equals_0 ++ dktX7_equals_1
theorem dksX7_equals_0 : cX7_equals.data.toList.drop 0 = dktX7_equals_0 := by decide +kernel
theorem dksX7_equals_1 : cX7_equals.data.toList.drop 22 = dktX7_equals_1 := dk_seg dksX7_equals_0 22 rfl rfl
theorem dX7_equals_0 : decode cX7_equals 0 = .ok (.aload_n 1, 1) := dk_43 (dk_at dksX7_equals_0 0 rfl rfl)
theorem dX7_equals_1 : decode cX7_equals 1 = .ok (.instanceof 8, 3) := dk_193 0 8 (dk_at dksX7_equals_0 1 rfl rfl)
theorem dX7_equals_4 : decode cX7_equals 4 = .ok (.ifCond .eq 35, 3) := dk_153 0 35 (dk_at dksX7_equals_0 4 rfl rfl)
theorem dX7_equals_7 : decode cX7_equals 7 = .ok (.aload_n 1, 1) := dk_43 (dk_at dksX7_equals_0 7 rfl rfl)
theorem dX7_equals_8 : decode cX7_equals 8 = .ok (.checkcast 8, 3) := dk_192 0 8 (dk_at dksX7_equals_0 8 rfl rfl)
theorem dX7_equals_11 : decode cX7_equals 11 = .ok (.getfield 7, 3) := dk_180 0 7 (dk_at dksX7_equals_0 11 rfl rfl)
theorem dX7_equals_14 : decode cX7_equals 14 = .ok (.aload_n 0, 1) := dk_42 (dk_at dksX7_equals_0 14 rfl rfl)
theorem dX7_equals_15 : decode cX7_equals 15 = .ok (.getfield 7, 3) := dk_180 0 7 (dk_at dksX7_equals_0 15 rfl rfl)
theorem dX7_equals_18 : decode cX7_equals 18 = .ok (.if_icmp .ne 21, 3) := dk_160 0 21 (dk_at dksX7_equals_0 18 rfl rfl)
theorem dX7_equals_21 : decode cX7_equals 21 = .ok (.aload_n 1, 1) := dk_43 (dk_at dksX7_equals_0 21 rfl rfl)
theorem dX7_equals_22 : decode cX7_equals 22 = .ok (.checkcast 8, 3) := dk_192 0 8 (dk_at dksX7_equals_1 0 rfl rfl)
theorem dX7_equals_25 : decode cX7_equals 25 = .ok (.getfield 13, 3) := dk_180 0 13 (dk_at dksX7_equals_1 3 rfl rfl)
theorem dX7_equals_28 : decode cX7_equals 28 = .ok (.aload_n 0, 1) := dk_42 (dk_at dksX7_equals_1 6 rfl rfl)
theorem dX7_equals_29 : decode cX7_equals 29 = .ok (.getfield 13, 3) := dk_180 0 13 (dk_at dksX7_equals_1 7 rfl rfl)
theorem dX7_equals_32 : decode cX7_equals 32 = .ok (.if_icmp .ne 7, 3) := dk_160 0 7 (dk_at dksX7_equals_1 10 rfl rfl)
theorem dX7_equals_35 : decode cX7_equals 35 = .ok (.iconst 1, 1) := dk_4 (dk_at dksX7_equals_1 13 rfl rfl)
theorem dX7_equals_36 : decode cX7_equals 36 = .ok (.goto 4, 3) := dk_167 0 4 (dk_at dksX7_equals_1 14 rfl rfl)
theorem dX7_equals_39 : decode cX7_equals 39 = .ok (.iconst 0, 1) := dk_3 (dk_at dksX7_equals_1 17 rfl rfl)
theorem dX7_equals_40 : decode cX7_equals 40 = .ok (.ireturn, 1) := dk_172 (dk_at dksX7_equals_1 18 rfl rfl)
abbrev cX8_init : ByteArray := prog_3_method_1_code
def yX8_init : MethodName := ⟨RX8, "<init>", "(LLinkElection$House;)V"⟩
def dkwX8_init_7 : List UInt8 := [132, 4, 1, 167, 255, 241, 177]
abbrev dktX8_init_7 : List UInt8 := dkwX8_init_7 ++ []
def dkwX8_init_6 : List UInt8 := [167, 255, 229, 132, 4, 1, 167, 255, 201, 3, 54, 4, 21, 4, 29, 162, 0, 15, 42, 21, 4, 182, 0, 62]
abbrev dktX8_init_6 : List UInt8 := dkwX8_init_6 ++ dktX8_init_7
def dkwX8_init_5 : List UInt8 := [162, 0, 27, 42, 180, 0, 42, 21, 4, 50, 21, 5, 43, 21, 4, 21, 5, 182, 0, 58, 79, 132, 5, 1]
abbrev dktX8_init_5 : List UInt8 := dkwX8_init_5 ++ dktX8_init_6
def dkwX8_init_4 : List UInt8 := [28, 162, 0, 55, 42, 180, 0, 30, 21, 4, 42, 21, 4, 182, 0, 54, 79, 3, 54, 5, 21, 5, 29]
abbrev dktX8_init_4 : List UInt8 := dkwX8_init_4 ++ dktX8_init_5
def dkwX8_init_3 : List UInt8 := [28, 29, 197, 0, 40, 2, 181, 0, 48, 42, 28, 29, 197, 0, 40, 2, 181, 0, 51, 3, 54, 4, 21, 4]
abbrev dktX8_init_3 : List UInt8 := dkwX8_init_3 ++ dktX8_init_4
def dkwX8_init_2 : List UInt8 := [181, 0, 37, 42, 28, 29, 197, 0, 40, 2, 181, 0, 42, 42, 28, 29, 197, 0, 40, 2, 181, 0, 45, 42]
abbrev dktX8_init_2 : List UInt8 := dkwX8_init_2 ++ dktX8_init_3
def dkwX8_init_1 : List UInt8 := [185, 0, 21, 1, 0, 62, 42, 28, 188, 10, 181, 0, 30, 42, 29, 188, 10, 181, 0, 34, 42, 29, 188, 10]
abbrev dktX8_init_1 : List UInt8 := dkwX8_init_1 ++ dktX8_init_2
def dkwX8_init_0 : List UInt8 := [42, 183, 0, 3, 42, 43, 181, 0, 9, 43, 180, 0, 15, 185, 0, 21, 1, 0, 61, 43, 180, 0, 27]
abbrev dktX8_init_0 : List UInt8 := dkwX8_init_0 ++ dktX8_init_1
theorem dksX8_init_0 : cX8_init.data.toList.drop 0 = dktX8_init_0 := by decide +kernel
theorem dksX8_init_1 : cX8_init.data.toList.drop 23 = dktX8_init_1 := dk_seg dksX8_init_0 23 rfl rfl
theorem dksX8_init_2 : cX8_init.data.toList.drop 47 = dktX8_init_2 := dk_seg dksX8_init_1 24 rfl rfl
theorem dksX8_init_3 : cX8_init.data.toList.drop 71 = dktX8_init_3 := dk_seg dksX8_init_2 24 rfl rfl
theorem dksX8_init_4 : cX8_init.data.toList.drop 95 = dktX8_init_4 := dk_seg dksX8_init_3 24 rfl rfl
theorem dksX8_init_5 : cX8_init.data.toList.drop 118 = dktX8_init_5 := dk_seg dksX8_init_4 23 rfl rfl
theorem dksX8_init_6 : cX8_init.data.toList.drop 142 = dktX8_init_6 := dk_seg dksX8_init_5 24 rfl rfl
theorem dksX8_init_7 : cX8_init.data.toList.drop 166 = dktX8_init_7 := dk_seg dksX8_init_6 24 rfl rfl
theorem dX8_init_0 : decode cX8_init 0 = .ok (.aload_n 0, 1) := dk_42 (dk_at dksX8_init_0 0 rfl rfl)
theorem dX8_init_1 : decode cX8_init 1 = .ok (.invokespecial 3, 3) := dk_183 0 3 (dk_at dksX8_init_0 1 rfl rfl)
theorem dX8_init_4 : decode cX8_init 4 = .ok (.aload_n 0, 1) := dk_42 (dk_at dksX8_init_0 4 rfl rfl)
theorem dX8_init_5 : decode cX8_init 5 = .ok (.aload_n 1, 1) := dk_43 (dk_at dksX8_init_0 5 rfl rfl)
theorem dX8_init_6 : decode cX8_init 6 = .ok (.putfield 9, 3) := dk_181 0 9 (dk_at dksX8_init_0 6 rfl rfl)
theorem dX8_init_9 : decode cX8_init 9 = .ok (.aload_n 1, 1) := dk_43 (dk_at dksX8_init_0 9 rfl rfl)
theorem dX8_init_10 : decode cX8_init 10 = .ok (.getfield 15, 3) := dk_180 0 15 (dk_at dksX8_init_0 10 rfl rfl)
theorem dX8_init_13 : decode cX8_init 13 = .ok (.invokeinterface 21 1, 5) := by decide +kernel
theorem dX8_init_18 : decode cX8_init 18 = .ok (.istore_n 2, 1) := dk_61 (dk_at dksX8_init_0 18 rfl rfl)
theorem dX8_init_19 : decode cX8_init 19 = .ok (.aload_n 1, 1) := dk_43 (dk_at dksX8_init_0 19 rfl rfl)
theorem dX8_init_20 : decode cX8_init 20 = .ok (.getfield 27, 3) := dk_180 0 27 (dk_at dksX8_init_0 20 rfl rfl)
theorem dX8_init_23 : decode cX8_init 23 = .ok (.invokeinterface 21 1, 5) := by decide +kernel
theorem dX8_init_28 : decode cX8_init 28 = .ok (.istore_n 3, 1) := dk_62 (dk_at dksX8_init_1 5 rfl rfl)
theorem dX8_init_29 : decode cX8_init 29 = .ok (.aload_n 0, 1) := dk_42 (dk_at dksX8_init_1 6 rfl rfl)
theorem dX8_init_30 : decode cX8_init 30 = .ok (.iload_n 2, 1) := dk_28 (dk_at dksX8_init_1 7 rfl rfl)
theorem dX8_init_31 : decode cX8_init 31 = .ok (.newarray .int, 2) := dk_188_10 (dk_at dksX8_init_1 8 rfl rfl)
theorem dX8_init_33 : decode cX8_init 33 = .ok (.putfield 30, 3) := dk_181 0 30 (dk_at dksX8_init_1 10 rfl rfl)
theorem dX8_init_36 : decode cX8_init 36 = .ok (.aload_n 0, 1) := dk_42 (dk_at dksX8_init_1 13 rfl rfl)
theorem dX8_init_37 : decode cX8_init 37 = .ok (.iload_n 3, 1) := dk_29 (dk_at dksX8_init_1 14 rfl rfl)
theorem dX8_init_38 : decode cX8_init 38 = .ok (.newarray .int, 2) := dk_188_10 (dk_at dksX8_init_1 15 rfl rfl)
theorem dX8_init_40 : decode cX8_init 40 = .ok (.putfield 34, 3) := dk_181 0 34 (dk_at dksX8_init_1 17 rfl rfl)
theorem dX8_init_43 : decode cX8_init 43 = .ok (.aload_n 0, 1) := dk_42 (dk_at dksX8_init_1 20 rfl rfl)
theorem dX8_init_44 : decode cX8_init 44 = .ok (.iload_n 3, 1) := dk_29 (dk_at dksX8_init_1 21 rfl rfl)
theorem dX8_init_45 : decode cX8_init 45 = .ok (.newarray .int, 2) := dk_188_10 (dk_at dksX8_init_1 22 rfl rfl)
theorem dX8_init_47 : decode cX8_init 47 = .ok (.putfield 37, 3) := dk_181 0 37 (dk_at dksX8_init_2 0 rfl rfl)
theorem dX8_init_50 : decode cX8_init 50 = .ok (.aload_n 0, 1) := dk_42 (dk_at dksX8_init_2 3 rfl rfl)
theorem dX8_init_51 : decode cX8_init 51 = .ok (.iload_n 2, 1) := dk_28 (dk_at dksX8_init_2 4 rfl rfl)
theorem dX8_init_52 : decode cX8_init 52 = .ok (.iload_n 3, 1) := dk_29 (dk_at dksX8_init_2 5 rfl rfl)
theorem dX8_init_53 : decode cX8_init 53 = .ok (.multianewarray 40 2, 4) := by decide +kernel
theorem dX8_init_57 : decode cX8_init 57 = .ok (.putfield 42, 3) := dk_181 0 42 (dk_at dksX8_init_2 10 rfl rfl)
theorem dX8_init_60 : decode cX8_init 60 = .ok (.aload_n 0, 1) := dk_42 (dk_at dksX8_init_2 13 rfl rfl)
theorem dX8_init_61 : decode cX8_init 61 = .ok (.iload_n 2, 1) := dk_28 (dk_at dksX8_init_2 14 rfl rfl)
theorem dX8_init_62 : decode cX8_init 62 = .ok (.iload_n 3, 1) := dk_29 (dk_at dksX8_init_2 15 rfl rfl)
theorem dX8_init_63 : decode cX8_init 63 = .ok (.multianewarray 40 2, 4) := by decide +kernel
theorem dX8_init_67 : decode cX8_init 67 = .ok (.putfield 45, 3) := dk_181 0 45 (dk_at dksX8_init_2 20 rfl rfl)
theorem dX8_init_70 : decode cX8_init 70 = .ok (.aload_n 0, 1) := dk_42 (dk_at dksX8_init_2 23 rfl rfl)
theorem dX8_init_71 : decode cX8_init 71 = .ok (.iload_n 2, 1) := dk_28 (dk_at dksX8_init_3 0 rfl rfl)
theorem dX8_init_72 : decode cX8_init 72 = .ok (.iload_n 3, 1) := dk_29 (dk_at dksX8_init_3 1 rfl rfl)
theorem dX8_init_73 : decode cX8_init 73 = .ok (.multianewarray 40 2, 4) := by decide +kernel
theorem dX8_init_77 : decode cX8_init 77 = .ok (.putfield 48, 3) := dk_181 0 48 (dk_at dksX8_init_3 6 rfl rfl)
theorem dX8_init_80 : decode cX8_init 80 = .ok (.aload_n 0, 1) := dk_42 (dk_at dksX8_init_3 9 rfl rfl)
theorem dX8_init_81 : decode cX8_init 81 = .ok (.iload_n 2, 1) := dk_28 (dk_at dksX8_init_3 10 rfl rfl)
theorem dX8_init_82 : decode cX8_init 82 = .ok (.iload_n 3, 1) := dk_29 (dk_at dksX8_init_3 11 rfl rfl)
theorem dX8_init_83 : decode cX8_init 83 = .ok (.multianewarray 40 2, 4) := by decide +kernel
theorem dX8_init_87 : decode cX8_init 87 = .ok (.putfield 51, 3) := dk_181 0 51 (dk_at dksX8_init_3 16 rfl rfl)
theorem dX8_init_90 : decode cX8_init 90 = .ok (.iconst 0, 1) := dk_3 (dk_at dksX8_init_3 19 rfl rfl)
theorem dX8_init_91 : decode cX8_init 91 = .ok (.istore 4, 2) := dk_54 4 (dk_at dksX8_init_3 20 rfl rfl)
theorem dX8_init_93 : decode cX8_init 93 = .ok (.iload 4, 2) := dk_21 4 (dk_at dksX8_init_3 22 rfl rfl)
theorem dX8_init_95 : decode cX8_init 95 = .ok (.iload_n 2, 1) := dk_28 (dk_at dksX8_init_4 0 rfl rfl)
theorem dX8_init_96 : decode cX8_init 96 = .ok (.if_icmp .ge 55, 3) := dk_162 0 55 (dk_at dksX8_init_4 1 rfl rfl)
theorem dX8_init_99 : decode cX8_init 99 = .ok (.aload_n 0, 1) := dk_42 (dk_at dksX8_init_4 4 rfl rfl)
theorem dX8_init_100 : decode cX8_init 100 = .ok (.getfield 30, 3) := dk_180 0 30 (dk_at dksX8_init_4 5 rfl rfl)
theorem dX8_init_103 : decode cX8_init 103 = .ok (.iload 4, 2) := dk_21 4 (dk_at dksX8_init_4 8 rfl rfl)
theorem dX8_init_105 : decode cX8_init 105 = .ok (.aload_n 0, 1) := dk_42 (dk_at dksX8_init_4 10 rfl rfl)
theorem dX8_init_106 : decode cX8_init 106 = .ok (.iload 4, 2) := dk_21 4 (dk_at dksX8_init_4 11 rfl rfl)
theorem dX8_init_108 : decode cX8_init 108 = .ok (.invokevirtual 54, 3) := dk_182 0 54 (dk_at dksX8_init_4 13 rfl rfl)
theorem dX8_init_111 : decode cX8_init 111 = .ok (.iastore, 1) := dk_79 (dk_at dksX8_init_4 16 rfl rfl)
theorem dX8_init_112 : decode cX8_init 112 = .ok (.iconst 0, 1) := dk_3 (dk_at dksX8_init_4 17 rfl rfl)
theorem dX8_init_113 : decode cX8_init 113 = .ok (.istore 5, 2) := dk_54 5 (dk_at dksX8_init_4 18 rfl rfl)
theorem dX8_init_115 : decode cX8_init 115 = .ok (.iload 5, 2) := dk_21 5 (dk_at dksX8_init_4 20 rfl rfl)
theorem dX8_init_117 : decode cX8_init 117 = .ok (.iload_n 3, 1) := dk_29 (dk_at dksX8_init_4 22 rfl rfl)
theorem dX8_init_118 : decode cX8_init 118 = .ok (.if_icmp .ge 27, 3) := dk_162 0 27 (dk_at dksX8_init_5 0 rfl rfl)
theorem dX8_init_121 : decode cX8_init 121 = .ok (.aload_n 0, 1) := dk_42 (dk_at dksX8_init_5 3 rfl rfl)
theorem dX8_init_122 : decode cX8_init 122 = .ok (.getfield 42, 3) := dk_180 0 42 (dk_at dksX8_init_5 4 rfl rfl)
theorem dX8_init_125 : decode cX8_init 125 = .ok (.iload 4, 2) := dk_21 4 (dk_at dksX8_init_5 7 rfl rfl)
theorem dX8_init_127 : decode cX8_init 127 = .ok (.aaload, 1) := dk_50 (dk_at dksX8_init_5 9 rfl rfl)
theorem dX8_init_128 : decode cX8_init 128 = .ok (.iload 5, 2) := dk_21 5 (dk_at dksX8_init_5 10 rfl rfl)
theorem dX8_init_130 : decode cX8_init 130 = .ok (.aload_n 1, 1) := dk_43 (dk_at dksX8_init_5 12 rfl rfl)
theorem dX8_init_131 : decode cX8_init 131 = .ok (.iload 4, 2) := dk_21 4 (dk_at dksX8_init_5 13 rfl rfl)
theorem dX8_init_133 : decode cX8_init 133 = .ok (.iload 5, 2) := dk_21 5 (dk_at dksX8_init_5 15 rfl rfl)
theorem dX8_init_135 : decode cX8_init 135 = .ok (.invokevirtual 58, 3) := dk_182 0 58 (dk_at dksX8_init_5 17 rfl rfl)
theorem dX8_init_138 : decode cX8_init 138 = .ok (.iastore, 1) := dk_79 (dk_at dksX8_init_5 20 rfl rfl)
theorem dX8_init_139 : decode cX8_init 139 = .ok (.iinc 5 1, 3) := dk_132 5 1 (dk_at dksX8_init_5 21 rfl rfl)
theorem dX8_init_142 : decode cX8_init 142 = .ok (.goto (-27), 3) := dk_167 255 229 (dk_at dksX8_init_6 0 rfl rfl)
theorem dX8_init_145 : decode cX8_init 145 = .ok (.iinc 4 1, 3) := dk_132 4 1 (dk_at dksX8_init_6 3 rfl rfl)
theorem dX8_init_148 : decode cX8_init 148 = .ok (.goto (-55), 3) := dk_167 255 201 (dk_at dksX8_init_6 6 rfl rfl)
theorem dX8_init_151 : decode cX8_init 151 = .ok (.iconst 0, 1) := dk_3 (dk_at dksX8_init_6 9 rfl rfl)
theorem dX8_init_152 : decode cX8_init 152 = .ok (.istore 4, 2) := dk_54 4 (dk_at dksX8_init_6 10 rfl rfl)
theorem dX8_init_154 : decode cX8_init 154 = .ok (.iload 4, 2) := dk_21 4 (dk_at dksX8_init_6 12 rfl rfl)
theorem dX8_init_156 : decode cX8_init 156 = .ok (.iload_n 3, 1) := dk_29 (dk_at dksX8_init_6 14 rfl rfl)
theorem dX8_init_157 : decode cX8_init 157 = .ok (.if_icmp .ge 15, 3) := dk_162 0 15 (dk_at dksX8_init_6 15 rfl rfl)
theorem dX8_init_160 : decode cX8_init 160 = .ok (.aload_n 0, 1) := dk_42 (dk_at dksX8_init_6 18 rfl rfl)
theorem dX8_init_161 : decode cX8_init 161 = .ok (.iload 4, 2) := dk_21 4 (dk_at dksX8_init_6 19 rfl rfl)
theorem dX8_init_163 : decode cX8_init 163 = .ok (.invokevirtual 62, 3) := dk_182 0 62 (dk_at dksX8_init_6 21 rfl rfl)
theorem dX8_init_166 : decode cX8_init 166 = .ok (.iinc 4 1, 3) := dk_132 4 1 (dk_at dksX8_init_7 0 rfl rfl)
theorem dX8_init_169 : decode cX8_init 169 = .ok (.goto (-15), 3) := dk_167 255 241 (dk_at dksX8_init_7 3 rfl rfl)
theorem dX8_init_172 : decode cX8_init 172 = .ok (.return_, 1) := dk_177 (dk_at dksX8_init_7 6 rfl rfl)
abbrev cX8_weight : ByteArray := prog_3_method_2_code
def yX8_weight : MethodName := ⟨RX8, "weight", "(I)I"⟩
def dkwX8_weight_3 : List UInt8 := [184, 0, 102, 136, 172]
abbrev dktX8_weight_3 : List UInt8 := dkwX8_weight_3 ++ []
def dkwX8_weight_2 : List UInt8 := [180, 0, 9, 27, 182, 0, 84, 42, 180, 0, 9, 27, 182, 0, 87, 185, 0, 90, 5, 0, 184, 0, 96]
abbrev dktX8_weight_2 : List UInt8 := dkwX8_weight_2 ++ dktX8_weight_3
def dkwX8_weight_1 : List UInt8 := [180, 0, 71, 42, 180, 0, 9, 180, 0, 15, 27, 185, 0, 74, 2, 0, 192, 0, 78, 180, 0, 80, 28, 42]
abbrev dktX8_weight_1 : List UInt8 := dkwX8_weight_1 ++ dktX8_weight_2
def dkwX8_weight_0 : List UInt8 := [42, 180, 0, 9, 27, 182, 0, 66, 61, 28, 2, 160, 0, 5, 2, 172, 9, 20, 0, 69, 42, 180, 0, 9]
abbrev dktX8_weight_0 : List UInt8 := dkwX8_weight_0 ++ dktX8_weight_1
theorem dksX8_weight_0 : cX8_weight.data.toList.drop 0 = dktX8_weight_0 := by decide +kernel
theorem dksX8_weight_1 : cX8_weight.data.toList.drop 24 = dktX8_weight_1 := dk_seg dksX8_weight_0 24 rfl rfl
theorem dksX8_weight_2 : cX8_weight.data.toList.drop 48 = dktX8_weight_2 := dk_seg dksX8_weight_1 24 rfl rfl
theorem dksX8_weight_3 : cX8_weight.data.toList.drop 71 = dktX8_weight_3 := dk_seg dksX8_weight_2 23 rfl rfl
theorem dX8_weight_0 : decode cX8_weight 0 = .ok (.aload_n 0, 1) := dk_42 (dk_at dksX8_weight_0 0 rfl rfl)
theorem dX8_weight_1 : decode cX8_weight 1 = .ok (.getfield 9, 3) := dk_180 0 9 (dk_at dksX8_weight_0 1 rfl rfl)
theorem dX8_weight_4 : decode cX8_weight 4 = .ok (.iload_n 1, 1) := dk_27 (dk_at dksX8_weight_0 4 rfl rfl)
theorem dX8_weight_5 : decode cX8_weight 5 = .ok (.invokevirtual 66, 3) := dk_182 0 66 (dk_at dksX8_weight_0 5 rfl rfl)
theorem dX8_weight_8 : decode cX8_weight 8 = .ok (.istore_n 2, 1) := dk_61 (dk_at dksX8_weight_0 8 rfl rfl)
theorem dX8_weight_9 : decode cX8_weight 9 = .ok (.iload_n 2, 1) := dk_28 (dk_at dksX8_weight_0 9 rfl rfl)
theorem dX8_weight_10 : decode cX8_weight 10 = .ok (.iconst (-1), 1) := dk_2 (dk_at dksX8_weight_0 10 rfl rfl)
theorem dX8_weight_11 : decode cX8_weight 11 = .ok (.if_icmp .ne 5, 3) := dk_160 0 5 (dk_at dksX8_weight_0 11 rfl rfl)
theorem dX8_weight_14 : decode cX8_weight 14 = .ok (.iconst (-1), 1) := dk_2 (dk_at dksX8_weight_0 14 rfl rfl)
theorem dX8_weight_15 : decode cX8_weight 15 = .ok (.ireturn, 1) := dk_172 (dk_at dksX8_weight_0 15 rfl rfl)
theorem dX8_weight_16 : decode cX8_weight 16 = .ok (.lconst 0, 1) := dk_9 (dk_at dksX8_weight_0 16 rfl rfl)
theorem dX8_weight_17 : decode cX8_weight 17 = .ok (.ldc2_w 69, 3) := dk_20 0 69 (dk_at dksX8_weight_0 17 rfl rfl)
theorem dX8_weight_20 : decode cX8_weight 20 = .ok (.aload_n 0, 1) := dk_42 (dk_at dksX8_weight_0 20 rfl rfl)
theorem dX8_weight_21 : decode cX8_weight 21 = .ok (.getfield 9, 3) := dk_180 0 9 (dk_at dksX8_weight_0 21 rfl rfl)
theorem dX8_weight_24 : decode cX8_weight 24 = .ok (.getfield 71, 3) := dk_180 0 71 (dk_at dksX8_weight_1 0 rfl rfl)
theorem dX8_weight_27 : decode cX8_weight 27 = .ok (.aload_n 0, 1) := dk_42 (dk_at dksX8_weight_1 3 rfl rfl)
theorem dX8_weight_28 : decode cX8_weight 28 = .ok (.getfield 9, 3) := dk_180 0 9 (dk_at dksX8_weight_1 4 rfl rfl)
theorem dX8_weight_31 : decode cX8_weight 31 = .ok (.getfield 15, 3) := dk_180 0 15 (dk_at dksX8_weight_1 7 rfl rfl)
theorem dX8_weight_34 : decode cX8_weight 34 = .ok (.iload_n 1, 1) := dk_27 (dk_at dksX8_weight_1 10 rfl rfl)
theorem dX8_weight_35 : decode cX8_weight 35 = .ok (.invokeinterface 74 2, 5) := by decide +kernel
theorem dX8_weight_40 : decode cX8_weight 40 = .ok (.checkcast 78, 3) := dk_192 0 78 (dk_at dksX8_weight_1 16 rfl rfl)
theorem dX8_weight_43 : decode cX8_weight 43 = .ok (.getfield 80, 3) := dk_180 0 80 (dk_at dksX8_weight_1 19 rfl rfl)
theorem dX8_weight_46 : decode cX8_weight 46 = .ok (.iload_n 2, 1) := dk_28 (dk_at dksX8_weight_1 22 rfl rfl)
theorem dX8_weight_47 : decode cX8_weight 47 = .ok (.aload_n 0, 1) := dk_42 (dk_at dksX8_weight_1 23 rfl rfl)
theorem dX8_weight_48 : decode cX8_weight 48 = .ok (.getfield 9, 3) := dk_180 0 9 (dk_at dksX8_weight_2 0 rfl rfl)
theorem dX8_weight_51 : decode cX8_weight 51 = .ok (.iload_n 1, 1) := dk_27 (dk_at dksX8_weight_2 3 rfl rfl)
theorem dX8_weight_52 : decode cX8_weight 52 = .ok (.invokevirtual 84, 3) := dk_182 0 84 (dk_at dksX8_weight_2 4 rfl rfl)
theorem dX8_weight_55 : decode cX8_weight 55 = .ok (.aload_n 0, 1) := dk_42 (dk_at dksX8_weight_2 7 rfl rfl)
theorem dX8_weight_56 : decode cX8_weight 56 = .ok (.getfield 9, 3) := dk_180 0 9 (dk_at dksX8_weight_2 8 rfl rfl)
theorem dX8_weight_59 : decode cX8_weight 59 = .ok (.iload_n 1, 1) := dk_27 (dk_at dksX8_weight_2 11 rfl rfl)
theorem dX8_weight_60 : decode cX8_weight 60 = .ok (.invokevirtual 87, 3) := dk_182 0 87 (dk_at dksX8_weight_2 12 rfl rfl)
theorem dX8_weight_63 : decode cX8_weight 63 = .ok (.invokeinterface 90 5, 5) := by decide +kernel
theorem dX8_weight_68 : decode cX8_weight 68 = .ok (.invokestatic 96, 3) := dk_184 0 96 (dk_at dksX8_weight_2 20 rfl rfl)
theorem dX8_weight_71 : decode cX8_weight 71 = .ok (.invokestatic 102, 3) := dk_184 0 102 (dk_at dksX8_weight_3 0 rfl rfl)
theorem dX8_weight_74 : decode cX8_weight 74 = .ok (.l2i, 1) := dk_136 (dk_at dksX8_weight_3 3 rfl rfl)
theorem dX8_weight_75 : decode cX8_weight 75 = .ok (.ireturn, 1) := dk_172 (dk_at dksX8_weight_3 4 rfl rfl)
abbrev cX8_hold : ByteArray := prog_3_method_6_code
def yX8_hold : MethodName := ⟨RX8, "hold", "(I)V"⟩
def dkwX8_hold_8 : List UInt8 := [180, 0, 51, 28, 50, 27, 42, 28, 27, 182, 0, 127, 79, 132, 2, 1, 167, 255, 230, 177]
abbrev dktX8_hold_8 : List UInt8 := dkwX8_hold_8 ++ []
def dkwX8_hold_7 : List UInt8 := [180, 0, 34, 27, 29, 79, 132, 2, 1, 167, 255, 167, 3, 61, 28, 42, 180, 0, 30, 190, 162, 0, 23, 42]
abbrev dktX8_hold_7 : List UInt8 := dkwX8_hold_7 ++ dktX8_hold_8
def dkwX8_hold_6 : List UInt8 := [180, 0, 48, 29, 50, 27, 46, 42, 180, 0, 48, 42, 180, 0, 34, 27, 46, 50, 27, 46, 164, 0, 10, 42]
abbrev dktX8_hold_6 : List UInt8 := dkwX8_hold_6 ++ dktX8_hold_7
def dkwX8_hold_5 : List UInt8 := [182, 0, 118, 62, 42, 29, 27, 182, 0, 109, 153, 0, 44, 42, 180, 0, 34, 27, 46, 2, 159, 0, 27, 42]
abbrev dktX8_hold_5 : List UInt8 := dkwX8_hold_5 ++ dktX8_hold_6
def dkwX8_hold_4 : List UInt8 := [185, 0, 21, 1, 0, 162, 0, 79, 42, 180, 0, 9, 180, 0, 124, 28, 185, 0, 74, 2, 0, 192, 0, 116]
abbrev dktX8_hold_4 : List UInt8 := dkwX8_hold_4 ++ dktX8_hold_5
def dkwX8_hold_3 : List UInt8 := [167, 255, 188, 42, 180, 0, 34, 27, 2, 79, 3, 61, 28, 42, 180, 0, 9, 180, 0, 124]
abbrev dktX8_hold_3 : List UInt8 := dkwX8_hold_3 ++ dktX8_hold_4
def dkwX8_hold_2 : List UInt8 := [28, 46, 96, 79, 42, 180, 0, 37, 27, 92, 46, 42, 180, 0, 30, 28, 46, 96, 79, 132, 2, 1]
abbrev dktX8_hold_2 : List UInt8 := dkwX8_hold_2 ++ dktX8_hold_3
def dkwX8_hold_1 : List UInt8 := [27, 29, 79, 29, 2, 160, 0, 6, 167, 0, 35, 42, 180, 0, 48, 29, 50, 27, 92, 46, 42, 180, 0, 30]
abbrev dktX8_hold_1 : List UInt8 := dkwX8_hold_1 ++ dktX8_hold_2
def dkwX8_hold_0 : List UInt8 := [3, 61, 28, 42, 180, 0, 30, 190, 162, 0, 65, 42, 28, 27, 182, 0, 121, 62, 42, 180, 0, 45, 28, 50]
abbrev dktX8_hold_0 : List UInt8 := dkwX8_hold_0 ++ dktX8_hold_1
theorem dksX8_hold_0 : cX8_hold.data.toList.drop 0 = dktX8_hold_0 := by decide +kernel
theorem dksX8_hold_1 : cX8_hold.data.toList.drop 24 = dktX8_hold_1 := dk_seg dksX8_hold_0 24 rfl rfl
theorem dksX8_hold_2 : cX8_hold.data.toList.drop 48 = dktX8_hold_2 := dk_seg dksX8_hold_1 24 rfl rfl
theorem dksX8_hold_3 : cX8_hold.data.toList.drop 70 = dktX8_hold_3 := dk_seg dksX8_hold_2 22 rfl rfl
theorem dksX8_hold_4 : cX8_hold.data.toList.drop 90 = dktX8_hold_4 := dk_seg dksX8_hold_3 20 rfl rfl
theorem dksX8_hold_5 : cX8_hold.data.toList.drop 114 = dktX8_hold_5 := dk_seg dksX8_hold_4 24 rfl rfl
theorem dksX8_hold_6 : cX8_hold.data.toList.drop 138 = dktX8_hold_6 := dk_seg dksX8_hold_5 24 rfl rfl
theorem dksX8_hold_7 : cX8_hold.data.toList.drop 162 = dktX8_hold_7 := dk_seg dksX8_hold_6 24 rfl rfl
theorem dksX8_hold_8 : cX8_hold.data.toList.drop 186 = dktX8_hold_8 := dk_seg dksX8_hold_7 24 rfl rfl
theorem dX8_hold_0 : decode cX8_hold 0 = .ok (.iconst 0, 1) := dk_3 (dk_at dksX8_hold_0 0 rfl rfl)
theorem dX8_hold_1 : decode cX8_hold 1 = .ok (.istore_n 2, 1) := dk_61 (dk_at dksX8_hold_0 1 rfl rfl)
theorem dX8_hold_2 : decode cX8_hold 2 = .ok (.iload_n 2, 1) := dk_28 (dk_at dksX8_hold_0 2 rfl rfl)
theorem dX8_hold_3 : decode cX8_hold 3 = .ok (.aload_n 0, 1) := dk_42 (dk_at dksX8_hold_0 3 rfl rfl)
theorem dX8_hold_4 : decode cX8_hold 4 = .ok (.getfield 30, 3) := dk_180 0 30 (dk_at dksX8_hold_0 4 rfl rfl)
theorem dX8_hold_7 : decode cX8_hold 7 = .ok (.arraylength, 1) := dk_190 (dk_at dksX8_hold_0 7 rfl rfl)
theorem dX8_hold_8 : decode cX8_hold 8 = .ok (.if_icmp .ge 65, 3) := dk_162 0 65 (dk_at dksX8_hold_0 8 rfl rfl)
theorem dX8_hold_11 : decode cX8_hold 11 = .ok (.aload_n 0, 1) := dk_42 (dk_at dksX8_hold_0 11 rfl rfl)
theorem dX8_hold_12 : decode cX8_hold 12 = .ok (.iload_n 2, 1) := dk_28 (dk_at dksX8_hold_0 12 rfl rfl)
theorem dX8_hold_13 : decode cX8_hold 13 = .ok (.iload_n 1, 1) := dk_27 (dk_at dksX8_hold_0 13 rfl rfl)
theorem dX8_hold_14 : decode cX8_hold 14 = .ok (.invokevirtual 121, 3) := dk_182 0 121 (dk_at dksX8_hold_0 14 rfl rfl)
theorem dX8_hold_17 : decode cX8_hold 17 = .ok (.istore_n 3, 1) := dk_62 (dk_at dksX8_hold_0 17 rfl rfl)
theorem dX8_hold_18 : decode cX8_hold 18 = .ok (.aload_n 0, 1) := dk_42 (dk_at dksX8_hold_0 18 rfl rfl)
theorem dX8_hold_19 : decode cX8_hold 19 = .ok (.getfield 45, 3) := dk_180 0 45 (dk_at dksX8_hold_0 19 rfl rfl)
theorem dX8_hold_22 : decode cX8_hold 22 = .ok (.iload_n 2, 1) := dk_28 (dk_at dksX8_hold_0 22 rfl rfl)
theorem dX8_hold_23 : decode cX8_hold 23 = .ok (.aaload, 1) := dk_50 (dk_at dksX8_hold_0 23 rfl rfl)
theorem dX8_hold_24 : decode cX8_hold 24 = .ok (.iload_n 1, 1) := dk_27 (dk_at dksX8_hold_1 0 rfl rfl)
theorem dX8_hold_25 : decode cX8_hold 25 = .ok (.iload_n 3, 1) := dk_29 (dk_at dksX8_hold_1 1 rfl rfl)
theorem dX8_hold_26 : decode cX8_hold 26 = .ok (.iastore, 1) := dk_79 (dk_at dksX8_hold_1 2 rfl rfl)
theorem dX8_hold_27 : decode cX8_hold 27 = .ok (.iload_n 3, 1) := dk_29 (dk_at dksX8_hold_1 3 rfl rfl)
theorem dX8_hold_28 : decode cX8_hold 28 = .ok (.iconst (-1), 1) := dk_2 (dk_at dksX8_hold_1 4 rfl rfl)
theorem dX8_hold_29 : decode cX8_hold 29 = .ok (.if_icmp .ne 6, 3) := dk_160 0 6 (dk_at dksX8_hold_1 5 rfl rfl)
theorem dX8_hold_32 : decode cX8_hold 32 = .ok (.goto 35, 3) := dk_167 0 35 (dk_at dksX8_hold_1 8 rfl rfl)
theorem dX8_hold_35 : decode cX8_hold 35 = .ok (.aload_n 0, 1) := dk_42 (dk_at dksX8_hold_1 11 rfl rfl)
theorem dX8_hold_36 : decode cX8_hold 36 = .ok (.getfield 48, 3) := dk_180 0 48 (dk_at dksX8_hold_1 12 rfl rfl)
theorem dX8_hold_39 : decode cX8_hold 39 = .ok (.iload_n 3, 1) := dk_29 (dk_at dksX8_hold_1 15 rfl rfl)
theorem dX8_hold_40 : decode cX8_hold 40 = .ok (.aaload, 1) := dk_50 (dk_at dksX8_hold_1 16 rfl rfl)
theorem dX8_hold_41 : decode cX8_hold 41 = .ok (.iload_n 1, 1) := dk_27 (dk_at dksX8_hold_1 17 rfl rfl)
theorem dX8_hold_42 : decode cX8_hold 42 = .ok (.dup2, 1) := dk_92 (dk_at dksX8_hold_1 18 rfl rfl)
theorem dX8_hold_43 : decode cX8_hold 43 = .ok (.iaload, 1) := dk_46 (dk_at dksX8_hold_1 19 rfl rfl)
theorem dX8_hold_44 : decode cX8_hold 44 = .ok (.aload_n 0, 1) := dk_42 (dk_at dksX8_hold_1 20 rfl rfl)
theorem dX8_hold_45 : decode cX8_hold 45 = .ok (.getfield 30, 3) := dk_180 0 30 (dk_at dksX8_hold_1 21 rfl rfl)
theorem dX8_hold_48 : decode cX8_hold 48 = .ok (.iload_n 2, 1) := dk_28 (dk_at dksX8_hold_2 0 rfl rfl)
theorem dX8_hold_49 : decode cX8_hold 49 = .ok (.iaload, 1) := dk_46 (dk_at dksX8_hold_2 1 rfl rfl)
theorem dX8_hold_50 : decode cX8_hold 50 = .ok (.iadd, 1) := dk_96 (dk_at dksX8_hold_2 2 rfl rfl)
theorem dX8_hold_51 : decode cX8_hold 51 = .ok (.iastore, 1) := dk_79 (dk_at dksX8_hold_2 3 rfl rfl)
theorem dX8_hold_52 : decode cX8_hold 52 = .ok (.aload_n 0, 1) := dk_42 (dk_at dksX8_hold_2 4 rfl rfl)
theorem dX8_hold_53 : decode cX8_hold 53 = .ok (.getfield 37, 3) := dk_180 0 37 (dk_at dksX8_hold_2 5 rfl rfl)
theorem dX8_hold_56 : decode cX8_hold 56 = .ok (.iload_n 1, 1) := dk_27 (dk_at dksX8_hold_2 8 rfl rfl)
theorem dX8_hold_57 : decode cX8_hold 57 = .ok (.dup2, 1) := dk_92 (dk_at dksX8_hold_2 9 rfl rfl)
theorem dX8_hold_58 : decode cX8_hold 58 = .ok (.iaload, 1) := dk_46 (dk_at dksX8_hold_2 10 rfl rfl)
theorem dX8_hold_59 : decode cX8_hold 59 = .ok (.aload_n 0, 1) := dk_42 (dk_at dksX8_hold_2 11 rfl rfl)
theorem dX8_hold_60 : decode cX8_hold 60 = .ok (.getfield 30, 3) := dk_180 0 30 (dk_at dksX8_hold_2 12 rfl rfl)
theorem dX8_hold_63 : decode cX8_hold 63 = .ok (.iload_n 2, 1) := dk_28 (dk_at dksX8_hold_2 15 rfl rfl)
theorem dX8_hold_64 : decode cX8_hold 64 = .ok (.iaload, 1) := dk_46 (dk_at dksX8_hold_2 16 rfl rfl)
theorem dX8_hold_65 : decode cX8_hold 65 = .ok (.iadd, 1) := dk_96 (dk_at dksX8_hold_2 17 rfl rfl)
theorem dX8_hold_66 : decode cX8_hold 66 = .ok (.iastore, 1) := dk_79 (dk_at dksX8_hold_2 18 rfl rfl)
theorem dX8_hold_67 : decode cX8_hold 67 = .ok (.iinc 2 1, 3) := dk_132 2 1 (dk_at dksX8_hold_2 19 rfl rfl)
theorem dX8_hold_70 : decode cX8_hold 70 = .ok (.goto (-68), 3) := dk_167 255 188 (dk_at dksX8_hold_3 0 rfl rfl)
theorem dX8_hold_73 : decode cX8_hold 73 = .ok (.aload_n 0, 1) := dk_42 (dk_at dksX8_hold_3 3 rfl rfl)
theorem dX8_hold_74 : decode cX8_hold 74 = .ok (.getfield 34, 3) := dk_180 0 34 (dk_at dksX8_hold_3 4 rfl rfl)
theorem dX8_hold_77 : decode cX8_hold 77 = .ok (.iload_n 1, 1) := dk_27 (dk_at dksX8_hold_3 7 rfl rfl)
theorem dX8_hold_78 : decode cX8_hold 78 = .ok (.iconst (-1), 1) := dk_2 (dk_at dksX8_hold_3 8 rfl rfl)
theorem dX8_hold_79 : decode cX8_hold 79 = .ok (.iastore, 1) := dk_79 (dk_at dksX8_hold_3 9 rfl rfl)
theorem dX8_hold_80 : decode cX8_hold 80 = .ok (.iconst 0, 1) := dk_3 (dk_at dksX8_hold_3 10 rfl rfl)
theorem dX8_hold_81 : decode cX8_hold 81 = .ok (.istore_n 2, 1) := dk_61 (dk_at dksX8_hold_3 11 rfl rfl)
theorem dX8_hold_82 : decode cX8_hold 82 = .ok (.iload_n 2, 1) := dk_28 (dk_at dksX8_hold_3 12 rfl rfl)
theorem dX8_hold_83 : decode cX8_hold 83 = .ok (.aload_n 0, 1) := dk_42 (dk_at dksX8_hold_3 13 rfl rfl)
theorem dX8_hold_84 : decode cX8_hold 84 = .ok (.getfield 9, 3) := dk_180 0 9 (dk_at dksX8_hold_3 14 rfl rfl)
theorem dX8_hold_87 : decode cX8_hold 87 = .ok (.getfield 124, 3) := dk_180 0 124 (dk_at dksX8_hold_3 17 rfl rfl)
theorem dX8_hold_90 : decode cX8_hold 90 = .ok (.invokeinterface 21 1, 5) := by decide +kernel
theorem dX8_hold_95 : decode cX8_hold 95 = .ok (.if_icmp .ge 79, 3) := dk_162 0 79 (dk_at dksX8_hold_4 5 rfl rfl)
theorem dX8_hold_98 : decode cX8_hold 98 = .ok (.aload_n 0, 1) := dk_42 (dk_at dksX8_hold_4 8 rfl rfl)
theorem dX8_hold_99 : decode cX8_hold 99 = .ok (.getfield 9, 3) := dk_180 0 9 (dk_at dksX8_hold_4 9 rfl rfl)
theorem dX8_hold_102 : decode cX8_hold 102 = .ok (.getfield 124, 3) := dk_180 0 124 (dk_at dksX8_hold_4 12 rfl rfl)
theorem dX8_hold_105 : decode cX8_hold 105 = .ok (.iload_n 2, 1) := dk_28 (dk_at dksX8_hold_4 15 rfl rfl)
theorem dX8_hold_106 : decode cX8_hold 106 = .ok (.invokeinterface 74 2, 5) := by decide +kernel
theorem dX8_hold_111 : decode cX8_hold 111 = .ok (.checkcast 116, 3) := dk_192 0 116 (dk_at dksX8_hold_4 21 rfl rfl)
theorem dX8_hold_114 : decode cX8_hold 114 = .ok (.invokevirtual 118, 3) := dk_182 0 118 (dk_at dksX8_hold_5 0 rfl rfl)
theorem dX8_hold_117 : decode cX8_hold 117 = .ok (.istore_n 3, 1) := dk_62 (dk_at dksX8_hold_5 3 rfl rfl)
theorem dX8_hold_118 : decode cX8_hold 118 = .ok (.aload_n 0, 1) := dk_42 (dk_at dksX8_hold_5 4 rfl rfl)
theorem dX8_hold_119 : decode cX8_hold 119 = .ok (.iload_n 3, 1) := dk_29 (dk_at dksX8_hold_5 5 rfl rfl)
theorem dX8_hold_120 : decode cX8_hold 120 = .ok (.iload_n 1, 1) := dk_27 (dk_at dksX8_hold_5 6 rfl rfl)
theorem dX8_hold_121 : decode cX8_hold 121 = .ok (.invokevirtual 109, 3) := dk_182 0 109 (dk_at dksX8_hold_5 7 rfl rfl)
theorem dX8_hold_124 : decode cX8_hold 124 = .ok (.ifCond .eq 44, 3) := dk_153 0 44 (dk_at dksX8_hold_5 10 rfl rfl)
theorem dX8_hold_127 : decode cX8_hold 127 = .ok (.aload_n 0, 1) := dk_42 (dk_at dksX8_hold_5 13 rfl rfl)
theorem dX8_hold_128 : decode cX8_hold 128 = .ok (.getfield 34, 3) := dk_180 0 34 (dk_at dksX8_hold_5 14 rfl rfl)
theorem dX8_hold_131 : decode cX8_hold 131 = .ok (.iload_n 1, 1) := dk_27 (dk_at dksX8_hold_5 17 rfl rfl)
theorem dX8_hold_132 : decode cX8_hold 132 = .ok (.iaload, 1) := dk_46 (dk_at dksX8_hold_5 18 rfl rfl)
theorem dX8_hold_133 : decode cX8_hold 133 = .ok (.iconst (-1), 1) := dk_2 (dk_at dksX8_hold_5 19 rfl rfl)
theorem dX8_hold_134 : decode cX8_hold 134 = .ok (.if_icmp .eq 27, 3) := dk_159 0 27 (dk_at dksX8_hold_5 20 rfl rfl)
theorem dX8_hold_137 : decode cX8_hold 137 = .ok (.aload_n 0, 1) := dk_42 (dk_at dksX8_hold_5 23 rfl rfl)
theorem dX8_hold_138 : decode cX8_hold 138 = .ok (.getfield 48, 3) := dk_180 0 48 (dk_at dksX8_hold_6 0 rfl rfl)
theorem dX8_hold_141 : decode cX8_hold 141 = .ok (.iload_n 3, 1) := dk_29 (dk_at dksX8_hold_6 3 rfl rfl)
theorem dX8_hold_142 : decode cX8_hold 142 = .ok (.aaload, 1) := dk_50 (dk_at dksX8_hold_6 4 rfl rfl)
theorem dX8_hold_143 : decode cX8_hold 143 = .ok (.iload_n 1, 1) := dk_27 (dk_at dksX8_hold_6 5 rfl rfl)
theorem dX8_hold_144 : decode cX8_hold 144 = .ok (.iaload, 1) := dk_46 (dk_at dksX8_hold_6 6 rfl rfl)
theorem dX8_hold_145 : decode cX8_hold 145 = .ok (.aload_n 0, 1) := dk_42 (dk_at dksX8_hold_6 7 rfl rfl)
theorem dX8_hold_146 : decode cX8_hold 146 = .ok (.getfield 48, 3) := dk_180 0 48 (dk_at dksX8_hold_6 8 rfl rfl)
theorem dX8_hold_149 : decode cX8_hold 149 = .ok (.aload_n 0, 1) := dk_42 (dk_at dksX8_hold_6 11 rfl rfl)
theorem dX8_hold_150 : decode cX8_hold 150 = .ok (.getfield 34, 3) := dk_180 0 34 (dk_at dksX8_hold_6 12 rfl rfl)
theorem dX8_hold_153 : decode cX8_hold 153 = .ok (.iload_n 1, 1) := dk_27 (dk_at dksX8_hold_6 15 rfl rfl)
theorem dX8_hold_154 : decode cX8_hold 154 = .ok (.iaload, 1) := dk_46 (dk_at dksX8_hold_6 16 rfl rfl)
theorem dX8_hold_155 : decode cX8_hold 155 = .ok (.aaload, 1) := dk_50 (dk_at dksX8_hold_6 17 rfl rfl)
theorem dX8_hold_156 : decode cX8_hold 156 = .ok (.iload_n 1, 1) := dk_27 (dk_at dksX8_hold_6 18 rfl rfl)
theorem dX8_hold_157 : decode cX8_hold 157 = .ok (.iaload, 1) := dk_46 (dk_at dksX8_hold_6 19 rfl rfl)
theorem dX8_hold_158 : decode cX8_hold 158 = .ok (.if_icmp .le 10, 3) := dk_164 0 10 (dk_at dksX8_hold_6 20 rfl rfl)
theorem dX8_hold_161 : decode cX8_hold 161 = .ok (.aload_n 0, 1) := dk_42 (dk_at dksX8_hold_6 23 rfl rfl)
theorem dX8_hold_162 : decode cX8_hold 162 = .ok (.getfield 34, 3) := dk_180 0 34 (dk_at dksX8_hold_7 0 rfl rfl)
theorem dX8_hold_165 : decode cX8_hold 165 = .ok (.iload_n 1, 1) := dk_27 (dk_at dksX8_hold_7 3 rfl rfl)
theorem dX8_hold_166 : decode cX8_hold 166 = .ok (.iload_n 3, 1) := dk_29 (dk_at dksX8_hold_7 4 rfl rfl)
theorem dX8_hold_167 : decode cX8_hold 167 = .ok (.iastore, 1) := dk_79 (dk_at dksX8_hold_7 5 rfl rfl)
theorem dX8_hold_168 : decode cX8_hold 168 = .ok (.iinc 2 1, 3) := dk_132 2 1 (dk_at dksX8_hold_7 6 rfl rfl)
theorem dX8_hold_171 : decode cX8_hold 171 = .ok (.goto (-89), 3) := dk_167 255 167 (dk_at dksX8_hold_7 9 rfl rfl)
theorem dX8_hold_174 : decode cX8_hold 174 = .ok (.iconst 0, 1) := dk_3 (dk_at dksX8_hold_7 12 rfl rfl)
theorem dX8_hold_175 : decode cX8_hold 175 = .ok (.istore_n 2, 1) := dk_61 (dk_at dksX8_hold_7 13 rfl rfl)
theorem dX8_hold_176 : decode cX8_hold 176 = .ok (.iload_n 2, 1) := dk_28 (dk_at dksX8_hold_7 14 rfl rfl)
theorem dX8_hold_177 : decode cX8_hold 177 = .ok (.aload_n 0, 1) := dk_42 (dk_at dksX8_hold_7 15 rfl rfl)
theorem dX8_hold_178 : decode cX8_hold 178 = .ok (.getfield 30, 3) := dk_180 0 30 (dk_at dksX8_hold_7 16 rfl rfl)
theorem dX8_hold_181 : decode cX8_hold 181 = .ok (.arraylength, 1) := dk_190 (dk_at dksX8_hold_7 19 rfl rfl)
theorem dX8_hold_182 : decode cX8_hold 182 = .ok (.if_icmp .ge 23, 3) := dk_162 0 23 (dk_at dksX8_hold_7 20 rfl rfl)
theorem dX8_hold_185 : decode cX8_hold 185 = .ok (.aload_n 0, 1) := dk_42 (dk_at dksX8_hold_7 23 rfl rfl)
theorem dX8_hold_186 : decode cX8_hold 186 = .ok (.getfield 51, 3) := dk_180 0 51 (dk_at dksX8_hold_8 0 rfl rfl)
theorem dX8_hold_189 : decode cX8_hold 189 = .ok (.iload_n 2, 1) := dk_28 (dk_at dksX8_hold_8 3 rfl rfl)
theorem dX8_hold_190 : decode cX8_hold 190 = .ok (.aaload, 1) := dk_50 (dk_at dksX8_hold_8 4 rfl rfl)
theorem dX8_hold_191 : decode cX8_hold 191 = .ok (.iload_n 1, 1) := dk_27 (dk_at dksX8_hold_8 5 rfl rfl)
theorem dX8_hold_192 : decode cX8_hold 192 = .ok (.aload_n 0, 1) := dk_42 (dk_at dksX8_hold_8 6 rfl rfl)
theorem dX8_hold_193 : decode cX8_hold 193 = .ok (.iload_n 2, 1) := dk_28 (dk_at dksX8_hold_8 7 rfl rfl)
theorem dX8_hold_194 : decode cX8_hold 194 = .ok (.iload_n 1, 1) := dk_27 (dk_at dksX8_hold_8 8 rfl rfl)
theorem dX8_hold_195 : decode cX8_hold 195 = .ok (.invokevirtual 127, 3) := dk_182 0 127 (dk_at dksX8_hold_8 9 rfl rfl)
theorem dX8_hold_198 : decode cX8_hold 198 = .ok (.iastore, 1) := dk_79 (dk_at dksX8_hold_8 12 rfl rfl)
theorem dX8_hold_199 : decode cX8_hold 199 = .ok (.iinc 2 1, 3) := dk_132 2 1 (dk_at dksX8_hold_8 13 rfl rfl)
theorem dX8_hold_202 : decode cX8_hold 202 = .ok (.goto (-26), 3) := dk_167 255 230 (dk_at dksX8_hold_8 16 rfl rfl)
theorem dX8_hold_205 : decode cX8_hold 205 = .ok (.return_, 1) := dk_177 (dk_at dksX8_hold_8 19 rfl rfl)
abbrev cX8_choice : ByteArray := prog_3_method_5_code
def yX8_choice : MethodName := ⟨RX8, "choice", "(II)I"⟩
def dkwX8_choice_3 : List UInt8 := [54, 5, 42, 21, 5, 28, 182, 0, 109, 153, 0, 6, 21, 5, 172, 132, 4, 1, 167, 255, 213, 2, 172]
abbrev dktX8_choice_3 : List UInt8 := dkwX8_choice_3 ++ []
def dkwX8_choice_2 : List UInt8 := [45, 185, 0, 21, 1, 0, 162, 0, 38, 45, 21, 4, 185, 0, 74, 2, 0, 192, 0, 116, 182, 0, 118]
abbrev dktX8_choice_2 : List UInt8 := dkwX8_choice_2 ++ dktX8_choice_3
def dkwX8_choice_1 : List UInt8 := [180, 0, 9, 180, 0, 15, 27, 185, 0, 74, 2, 0, 192, 0, 78, 180, 0, 113, 78, 3, 54, 4, 21, 4]
abbrev dktX8_choice_1 : List UInt8 := dkwX8_choice_1 ++ dktX8_choice_2
def dkwX8_choice_0 : List UInt8 := [42, 27, 182, 0, 105, 154, 0, 5, 2, 172, 42, 27, 28, 182, 0, 109, 153, 0, 5, 27, 172, 42]
abbrev dktX8_choice_0 : List UInt8 := dkwX8_choice_0 ++ dktX8_choice_1
theorem dksX8_choice_0 : cX8_choice.data.toList.drop 0 = dktX8_choice_0 := by decide +kernel
theorem dksX8_choice_1 : cX8_choice.data.toList.drop 22 = dktX8_choice_1 := dk_seg dksX8_choice_0 22 rfl rfl
theorem dksX8_choice_2 : cX8_choice.data.toList.drop 46 = dktX8_choice_2 := dk_seg dksX8_choice_1 24 rfl rfl
theorem dksX8_choice_3 : cX8_choice.data.toList.drop 69 = dktX8_choice_3 := dk_seg dksX8_choice_2 23 rfl rfl
theorem dX8_choice_0 : decode cX8_choice 0 = .ok (.aload_n 0, 1) := dk_42 (dk_at dksX8_choice_0 0 rfl rfl)
theorem dX8_choice_1 : decode cX8_choice 1 = .ok (.iload_n 1, 1) := dk_27 (dk_at dksX8_choice_0 1 rfl rfl)
theorem dX8_choice_2 : decode cX8_choice 2 = .ok (.invokevirtual 105, 3) := dk_182 0 105 (dk_at dksX8_choice_0 2 rfl rfl)
theorem dX8_choice_5 : decode cX8_choice 5 = .ok (.ifCond .ne 5, 3) := dk_154 0 5 (dk_at dksX8_choice_0 5 rfl rfl)
theorem dX8_choice_8 : decode cX8_choice 8 = .ok (.iconst (-1), 1) := dk_2 (dk_at dksX8_choice_0 8 rfl rfl)
theorem dX8_choice_9 : decode cX8_choice 9 = .ok (.ireturn, 1) := dk_172 (dk_at dksX8_choice_0 9 rfl rfl)
theorem dX8_choice_10 : decode cX8_choice 10 = .ok (.aload_n 0, 1) := dk_42 (dk_at dksX8_choice_0 10 rfl rfl)
theorem dX8_choice_11 : decode cX8_choice 11 = .ok (.iload_n 1, 1) := dk_27 (dk_at dksX8_choice_0 11 rfl rfl)
theorem dX8_choice_12 : decode cX8_choice 12 = .ok (.iload_n 2, 1) := dk_28 (dk_at dksX8_choice_0 12 rfl rfl)
theorem dX8_choice_13 : decode cX8_choice 13 = .ok (.invokevirtual 109, 3) := dk_182 0 109 (dk_at dksX8_choice_0 13 rfl rfl)
theorem dX8_choice_16 : decode cX8_choice 16 = .ok (.ifCond .eq 5, 3) := dk_153 0 5 (dk_at dksX8_choice_0 16 rfl rfl)
theorem dX8_choice_19 : decode cX8_choice 19 = .ok (.iload_n 1, 1) := dk_27 (dk_at dksX8_choice_0 19 rfl rfl)
theorem dX8_choice_20 : decode cX8_choice 20 = .ok (.ireturn, 1) := dk_172 (dk_at dksX8_choice_0 20 rfl rfl)
theorem dX8_choice_21 : decode cX8_choice 21 = .ok (.aload_n 0, 1) := dk_42 (dk_at dksX8_choice_0 21 rfl rfl)
theorem dX8_choice_22 : decode cX8_choice 22 = .ok (.getfield 9, 3) := dk_180 0 9 (dk_at dksX8_choice_1 0 rfl rfl)
theorem dX8_choice_25 : decode cX8_choice 25 = .ok (.getfield 15, 3) := dk_180 0 15 (dk_at dksX8_choice_1 3 rfl rfl)
theorem dX8_choice_28 : decode cX8_choice 28 = .ok (.iload_n 1, 1) := dk_27 (dk_at dksX8_choice_1 6 rfl rfl)
theorem dX8_choice_29 : decode cX8_choice 29 = .ok (.invokeinterface 74 2, 5) := by decide +kernel
theorem dX8_choice_34 : decode cX8_choice 34 = .ok (.checkcast 78, 3) := dk_192 0 78 (dk_at dksX8_choice_1 12 rfl rfl)
theorem dX8_choice_37 : decode cX8_choice 37 = .ok (.getfield 113, 3) := dk_180 0 113 (dk_at dksX8_choice_1 15 rfl rfl)
theorem dX8_choice_40 : decode cX8_choice 40 = .ok (.astore_n 3, 1) := dk_78 (dk_at dksX8_choice_1 18 rfl rfl)
theorem dX8_choice_41 : decode cX8_choice 41 = .ok (.iconst 0, 1) := dk_3 (dk_at dksX8_choice_1 19 rfl rfl)
theorem dX8_choice_42 : decode cX8_choice 42 = .ok (.istore 4, 2) := dk_54 4 (dk_at dksX8_choice_1 20 rfl rfl)
theorem dX8_choice_44 : decode cX8_choice 44 = .ok (.iload 4, 2) := dk_21 4 (dk_at dksX8_choice_1 22 rfl rfl)
theorem dX8_choice_46 : decode cX8_choice 46 = .ok (.aload_n 3, 1) := dk_45 (dk_at dksX8_choice_2 0 rfl rfl)
theorem dX8_choice_47 : decode cX8_choice 47 = .ok (.invokeinterface 21 1, 5) := by decide +kernel
theorem dX8_choice_52 : decode cX8_choice 52 = .ok (.if_icmp .ge 38, 3) := dk_162 0 38 (dk_at dksX8_choice_2 6 rfl rfl)
theorem dX8_choice_55 : decode cX8_choice 55 = .ok (.aload_n 3, 1) := dk_45 (dk_at dksX8_choice_2 9 rfl rfl)
theorem dX8_choice_56 : decode cX8_choice 56 = .ok (.iload 4, 2) := dk_21 4 (dk_at dksX8_choice_2 10 rfl rfl)
theorem dX8_choice_58 : decode cX8_choice 58 = .ok (.invokeinterface 74 2, 5) := by decide +kernel
theorem dX8_choice_63 : decode cX8_choice 63 = .ok (.checkcast 116, 3) := dk_192 0 116 (dk_at dksX8_choice_2 17 rfl rfl)
theorem dX8_choice_66 : decode cX8_choice 66 = .ok (.invokevirtual 118, 3) := dk_182 0 118 (dk_at dksX8_choice_2 20 rfl rfl)
theorem dX8_choice_69 : decode cX8_choice 69 = .ok (.istore 5, 2) := dk_54 5 (dk_at dksX8_choice_3 0 rfl rfl)
theorem dX8_choice_71 : decode cX8_choice 71 = .ok (.aload_n 0, 1) := dk_42 (dk_at dksX8_choice_3 2 rfl rfl)
theorem dX8_choice_72 : decode cX8_choice 72 = .ok (.iload 5, 2) := dk_21 5 (dk_at dksX8_choice_3 3 rfl rfl)
theorem dX8_choice_74 : decode cX8_choice 74 = .ok (.iload_n 2, 1) := dk_28 (dk_at dksX8_choice_3 5 rfl rfl)
theorem dX8_choice_75 : decode cX8_choice 75 = .ok (.invokevirtual 109, 3) := dk_182 0 109 (dk_at dksX8_choice_3 6 rfl rfl)
theorem dX8_choice_78 : decode cX8_choice 78 = .ok (.ifCond .eq 6, 3) := dk_153 0 6 (dk_at dksX8_choice_3 9 rfl rfl)
theorem dX8_choice_81 : decode cX8_choice 81 = .ok (.iload 5, 2) := dk_21 5 (dk_at dksX8_choice_3 12 rfl rfl)
theorem dX8_choice_83 : decode cX8_choice 83 = .ok (.ireturn, 1) := dk_172 (dk_at dksX8_choice_3 14 rfl rfl)
theorem dX8_choice_84 : decode cX8_choice 84 = .ok (.iinc 4 1, 3) := dk_132 4 1 (dk_at dksX8_choice_3 15 rfl rfl)
theorem dX8_choice_87 : decode cX8_choice 87 = .ok (.goto (-43), 3) := dk_167 255 213 (dk_at dksX8_choice_3 18 rfl rfl)
theorem dX8_choice_90 : decode cX8_choice 90 = .ok (.iconst (-1), 1) := dk_2 (dk_at dksX8_choice_3 21 rfl rfl)
theorem dX8_choice_91 : decode cX8_choice 91 = .ok (.ireturn, 1) := dk_172 (dk_at dksX8_choice_3 22 rfl rfl)
abbrev cX8_isLoaded : ByteArray := prog_3_method_3_code
def yX8_isLoaded : MethodName := ⟨RX8, "isLoaded", "(I)Z"⟩
def dkwX8_isLoaded_0 : List UInt8 := [42, 180, 0, 30, 27, 46, 2, 159, 0, 7, 4, 167, 0, 4, 3, 172]
abbrev dktX8_isLoaded_0 : List UInt8 := dkwX8_isLoaded_0 ++ []
theorem dksX8_isLoaded_0 : cX8_isLoaded.data.toList.drop 0 = dktX8_isLoaded_0 := by decide +kernel
theorem dX8_isLoaded_0 : decode cX8_isLoaded 0 = .ok (.aload_n 0, 1) := dk_42 (dk_at dksX8_isLoaded_0 0 rfl rfl)
theorem dX8_isLoaded_1 : decode cX8_isLoaded 1 = .ok (.getfield 30, 3) := dk_180 0 30 (dk_at dksX8_isLoaded_0 1 rfl rfl)
theorem dX8_isLoaded_4 : decode cX8_isLoaded 4 = .ok (.iload_n 1, 1) := dk_27 (dk_at dksX8_isLoaded_0 4 rfl rfl)
theorem dX8_isLoaded_5 : decode cX8_isLoaded 5 = .ok (.iaload, 1) := dk_46 (dk_at dksX8_isLoaded_0 5 rfl rfl)
theorem dX8_isLoaded_6 : decode cX8_isLoaded 6 = .ok (.iconst (-1), 1) := dk_2 (dk_at dksX8_isLoaded_0 6 rfl rfl)
theorem dX8_isLoaded_7 : decode cX8_isLoaded 7 = .ok (.if_icmp .eq 7, 3) := dk_159 0 7 (dk_at dksX8_isLoaded_0 7 rfl rfl)
theorem dX8_isLoaded_10 : decode cX8_isLoaded 10 = .ok (.iconst 1, 1) := dk_4 (dk_at dksX8_isLoaded_0 10 rfl rfl)
theorem dX8_isLoaded_11 : decode cX8_isLoaded 11 = .ok (.goto 4, 3) := dk_167 0 4 (dk_at dksX8_isLoaded_0 11 rfl rfl)
theorem dX8_isLoaded_14 : decode cX8_isLoaded 14 = .ok (.iconst 0, 1) := dk_3 (dk_at dksX8_isLoaded_0 14 rfl rfl)
theorem dX8_isLoaded_15 : decode cX8_isLoaded 15 = .ok (.ireturn, 1) := dk_172 (dk_at dksX8_isLoaded_0 15 rfl rfl)
abbrev cX8_isCandidate : ByteArray := prog_3_method_4_code
def yX8_isCandidate : MethodName := ⟨RX8, "isCandidate", "(II)Z"⟩
def dkwX8_isCandidate_1 : List UInt8 := [3, 172]
abbrev dktX8_isCandidate_1 : List UInt8 := dkwX8_isCandidate_1 ++ []
def dkwX8_isCandidate_0 : List UInt8 := [42, 27, 182, 0, 105, 153, 0, 19, 42, 180, 0, 42, 27, 50, 28, 46, 2, 159, 0, 7, 4, 167, 0, 4]
abbrev dktX8_isCandidate_0 : List UInt8 := dkwX8_isCandidate_0 ++ dktX8_isCandidate_1
theorem dksX8_isCandidate_0 : cX8_isCandidate.data.toList.drop 0 = dktX8_isCandidate_0 := by decide +kernel
theorem dksX8_isCandidate_1 : cX8_isCandidate.data.toList.drop 24 = dktX8_isCandidate_1 := dk_seg dksX8_isCandidate_0 24 rfl rfl
theorem dX8_isCandidate_0 : decode cX8_isCandidate 0 = .ok (.aload_n 0, 1) := dk_42 (dk_at dksX8_isCandidate_0 0 rfl rfl)
theorem dX8_isCandidate_1 : decode cX8_isCandidate 1 = .ok (.iload_n 1, 1) := dk_27 (dk_at dksX8_isCandidate_0 1 rfl rfl)
theorem dX8_isCandidate_2 : decode cX8_isCandidate 2 = .ok (.invokevirtual 105, 3) := dk_182 0 105 (dk_at dksX8_isCandidate_0 2 rfl rfl)
theorem dX8_isCandidate_5 : decode cX8_isCandidate 5 = .ok (.ifCond .eq 19, 3) := dk_153 0 19 (dk_at dksX8_isCandidate_0 5 rfl rfl)
theorem dX8_isCandidate_8 : decode cX8_isCandidate 8 = .ok (.aload_n 0, 1) := dk_42 (dk_at dksX8_isCandidate_0 8 rfl rfl)
theorem dX8_isCandidate_9 : decode cX8_isCandidate 9 = .ok (.getfield 42, 3) := dk_180 0 42 (dk_at dksX8_isCandidate_0 9 rfl rfl)
theorem dX8_isCandidate_12 : decode cX8_isCandidate 12 = .ok (.iload_n 1, 1) := dk_27 (dk_at dksX8_isCandidate_0 12 rfl rfl)
theorem dX8_isCandidate_13 : decode cX8_isCandidate 13 = .ok (.aaload, 1) := dk_50 (dk_at dksX8_isCandidate_0 13 rfl rfl)
theorem dX8_isCandidate_14 : decode cX8_isCandidate 14 = .ok (.iload_n 2, 1) := dk_28 (dk_at dksX8_isCandidate_0 14 rfl rfl)
theorem dX8_isCandidate_15 : decode cX8_isCandidate 15 = .ok (.iaload, 1) := dk_46 (dk_at dksX8_isCandidate_0 15 rfl rfl)
theorem dX8_isCandidate_16 : decode cX8_isCandidate 16 = .ok (.iconst (-1), 1) := dk_2 (dk_at dksX8_isCandidate_0 16 rfl rfl)
theorem dX8_isCandidate_17 : decode cX8_isCandidate 17 = .ok (.if_icmp .eq 7, 3) := dk_159 0 7 (dk_at dksX8_isCandidate_0 17 rfl rfl)
theorem dX8_isCandidate_20 : decode cX8_isCandidate 20 = .ok (.iconst 1, 1) := dk_4 (dk_at dksX8_isCandidate_0 20 rfl rfl)
theorem dX8_isCandidate_21 : decode cX8_isCandidate 21 = .ok (.goto 4, 3) := dk_167 0 4 (dk_at dksX8_isCandidate_0 21 rfl rfl)
theorem dX8_isCandidate_24 : decode cX8_isCandidate 24 = .ok (.iconst 0, 1) := dk_3 (dk_at dksX8_isCandidate_1 0 rfl rfl)
theorem dX8_isCandidate_25 : decode cX8_isCandidate 25 = .ok (.ireturn, 1) := dk_172 (dk_at dksX8_isCandidate_1 1 rfl rfl)
abbrev cX8_bound : ByteArray := prog_3_method_7_code
def yX8_bound : MethodName := ⟨RX8, "bound", "(II)I"⟩
def dkwX8_bound_4 : List UInt8 := [172]
abbrev dktX8_bound_4 : List UInt8 := dkwX8_bound_4 ++ []
def dkwX8_bound_3 : List UInt8 := [192, 0, 78, 180, 0, 133, 153, 0, 12, 21, 4, 153, 0, 7, 29, 167, 0, 9, 42, 180, 0, 34, 28, 46]
abbrev dktX8_bound_3 : List UInt8 := dkwX8_bound_3 ++ dktX8_bound_4
def dkwX8_bound_2 : List UInt8 := [104, 161, 0, 7, 4, 167, 0, 4, 3, 54, 4, 42, 180, 0, 9, 180, 0, 15, 27, 185, 0, 74, 2, 0]
abbrev dktX8_bound_2 : List UInt8 := dkwX8_bound_2 ++ dktX8_bound_3
def dkwX8_bound_1 : List UInt8 := [16, 100, 42, 180, 0, 48, 29, 50, 28, 46, 104, 42, 180, 0, 9, 180, 0, 130, 42, 180, 0, 37, 28, 46]
abbrev dktX8_bound_1 : List UInt8 := dkwX8_bound_1 ++ dktX8_bound_2
def dkwX8_bound_0 : List UInt8 := [42, 27, 182, 0, 105, 154, 0, 5, 2, 172, 42, 180, 0, 45, 27, 50, 28, 46, 62, 29, 2, 159, 0, 35]
abbrev dktX8_bound_0 : List UInt8 := dkwX8_bound_0 ++ dktX8_bound_1
theorem dksX8_bound_0 : cX8_bound.data.toList.drop 0 = dktX8_bound_0 := by decide +kernel
theorem dksX8_bound_1 : cX8_bound.data.toList.drop 24 = dktX8_bound_1 := dk_seg dksX8_bound_0 24 rfl rfl
theorem dksX8_bound_2 : cX8_bound.data.toList.drop 48 = dktX8_bound_2 := dk_seg dksX8_bound_1 24 rfl rfl
theorem dksX8_bound_3 : cX8_bound.data.toList.drop 72 = dktX8_bound_3 := dk_seg dksX8_bound_2 24 rfl rfl
theorem dksX8_bound_4 : cX8_bound.data.toList.drop 96 = dktX8_bound_4 := dk_seg dksX8_bound_3 24 rfl rfl
theorem dX8_bound_0 : decode cX8_bound 0 = .ok (.aload_n 0, 1) := dk_42 (dk_at dksX8_bound_0 0 rfl rfl)
theorem dX8_bound_1 : decode cX8_bound 1 = .ok (.iload_n 1, 1) := dk_27 (dk_at dksX8_bound_0 1 rfl rfl)
theorem dX8_bound_2 : decode cX8_bound 2 = .ok (.invokevirtual 105, 3) := dk_182 0 105 (dk_at dksX8_bound_0 2 rfl rfl)
theorem dX8_bound_5 : decode cX8_bound 5 = .ok (.ifCond .ne 5, 3) := dk_154 0 5 (dk_at dksX8_bound_0 5 rfl rfl)
theorem dX8_bound_8 : decode cX8_bound 8 = .ok (.iconst (-1), 1) := dk_2 (dk_at dksX8_bound_0 8 rfl rfl)
theorem dX8_bound_9 : decode cX8_bound 9 = .ok (.ireturn, 1) := dk_172 (dk_at dksX8_bound_0 9 rfl rfl)
theorem dX8_bound_10 : decode cX8_bound 10 = .ok (.aload_n 0, 1) := dk_42 (dk_at dksX8_bound_0 10 rfl rfl)
theorem dX8_bound_11 : decode cX8_bound 11 = .ok (.getfield 45, 3) := dk_180 0 45 (dk_at dksX8_bound_0 11 rfl rfl)
theorem dX8_bound_14 : decode cX8_bound 14 = .ok (.iload_n 1, 1) := dk_27 (dk_at dksX8_bound_0 14 rfl rfl)
theorem dX8_bound_15 : decode cX8_bound 15 = .ok (.aaload, 1) := dk_50 (dk_at dksX8_bound_0 15 rfl rfl)
theorem dX8_bound_16 : decode cX8_bound 16 = .ok (.iload_n 2, 1) := dk_28 (dk_at dksX8_bound_0 16 rfl rfl)
theorem dX8_bound_17 : decode cX8_bound 17 = .ok (.iaload, 1) := dk_46 (dk_at dksX8_bound_0 17 rfl rfl)
theorem dX8_bound_18 : decode cX8_bound 18 = .ok (.istore_n 3, 1) := dk_62 (dk_at dksX8_bound_0 18 rfl rfl)
theorem dX8_bound_19 : decode cX8_bound 19 = .ok (.iload_n 3, 1) := dk_29 (dk_at dksX8_bound_0 19 rfl rfl)
theorem dX8_bound_20 : decode cX8_bound 20 = .ok (.iconst (-1), 1) := dk_2 (dk_at dksX8_bound_0 20 rfl rfl)
theorem dX8_bound_21 : decode cX8_bound 21 = .ok (.if_icmp .eq 35, 3) := dk_159 0 35 (dk_at dksX8_bound_0 21 rfl rfl)
theorem dX8_bound_24 : decode cX8_bound 24 = .ok (.bipush 100, 2) := dk_16 100 (dk_at dksX8_bound_1 0 rfl rfl)
theorem dX8_bound_26 : decode cX8_bound 26 = .ok (.aload_n 0, 1) := dk_42 (dk_at dksX8_bound_1 2 rfl rfl)
theorem dX8_bound_27 : decode cX8_bound 27 = .ok (.getfield 48, 3) := dk_180 0 48 (dk_at dksX8_bound_1 3 rfl rfl)
theorem dX8_bound_30 : decode cX8_bound 30 = .ok (.iload_n 3, 1) := dk_29 (dk_at dksX8_bound_1 6 rfl rfl)
theorem dX8_bound_31 : decode cX8_bound 31 = .ok (.aaload, 1) := dk_50 (dk_at dksX8_bound_1 7 rfl rfl)
theorem dX8_bound_32 : decode cX8_bound 32 = .ok (.iload_n 2, 1) := dk_28 (dk_at dksX8_bound_1 8 rfl rfl)
theorem dX8_bound_33 : decode cX8_bound 33 = .ok (.iaload, 1) := dk_46 (dk_at dksX8_bound_1 9 rfl rfl)
theorem dX8_bound_34 : decode cX8_bound 34 = .ok (.imul, 1) := dk_104 (dk_at dksX8_bound_1 10 rfl rfl)
theorem dX8_bound_35 : decode cX8_bound 35 = .ok (.aload_n 0, 1) := dk_42 (dk_at dksX8_bound_1 11 rfl rfl)
theorem dX8_bound_36 : decode cX8_bound 36 = .ok (.getfield 9, 3) := dk_180 0 9 (dk_at dksX8_bound_1 12 rfl rfl)
theorem dX8_bound_39 : decode cX8_bound 39 = .ok (.getfield 130, 3) := dk_180 0 130 (dk_at dksX8_bound_1 15 rfl rfl)
theorem dX8_bound_42 : decode cX8_bound 42 = .ok (.aload_n 0, 1) := dk_42 (dk_at dksX8_bound_1 18 rfl rfl)
theorem dX8_bound_43 : decode cX8_bound 43 = .ok (.getfield 37, 3) := dk_180 0 37 (dk_at dksX8_bound_1 19 rfl rfl)
theorem dX8_bound_46 : decode cX8_bound 46 = .ok (.iload_n 2, 1) := dk_28 (dk_at dksX8_bound_1 22 rfl rfl)
theorem dX8_bound_47 : decode cX8_bound 47 = .ok (.iaload, 1) := dk_46 (dk_at dksX8_bound_1 23 rfl rfl)
theorem dX8_bound_48 : decode cX8_bound 48 = .ok (.imul, 1) := dk_104 (dk_at dksX8_bound_2 0 rfl rfl)
theorem dX8_bound_49 : decode cX8_bound 49 = .ok (.if_icmp .lt 7, 3) := dk_161 0 7 (dk_at dksX8_bound_2 1 rfl rfl)
theorem dX8_bound_52 : decode cX8_bound 52 = .ok (.iconst 1, 1) := dk_4 (dk_at dksX8_bound_2 4 rfl rfl)
theorem dX8_bound_53 : decode cX8_bound 53 = .ok (.goto 4, 3) := dk_167 0 4 (dk_at dksX8_bound_2 5 rfl rfl)
theorem dX8_bound_56 : decode cX8_bound 56 = .ok (.iconst 0, 1) := dk_3 (dk_at dksX8_bound_2 8 rfl rfl)
theorem dX8_bound_57 : decode cX8_bound 57 = .ok (.istore 4, 2) := dk_54 4 (dk_at dksX8_bound_2 9 rfl rfl)
theorem dX8_bound_59 : decode cX8_bound 59 = .ok (.aload_n 0, 1) := dk_42 (dk_at dksX8_bound_2 11 rfl rfl)
theorem dX8_bound_60 : decode cX8_bound 60 = .ok (.getfield 9, 3) := dk_180 0 9 (dk_at dksX8_bound_2 12 rfl rfl)
theorem dX8_bound_63 : decode cX8_bound 63 = .ok (.getfield 15, 3) := dk_180 0 15 (dk_at dksX8_bound_2 15 rfl rfl)
theorem dX8_bound_66 : decode cX8_bound 66 = .ok (.iload_n 1, 1) := dk_27 (dk_at dksX8_bound_2 18 rfl rfl)
theorem dX8_bound_67 : decode cX8_bound 67 = .ok (.invokeinterface 74 2, 5) := by decide +kernel
theorem dX8_bound_72 : decode cX8_bound 72 = .ok (.checkcast 78, 3) := dk_192 0 78 (dk_at dksX8_bound_3 0 rfl rfl)
theorem dX8_bound_75 : decode cX8_bound 75 = .ok (.getfield 133, 3) := dk_180 0 133 (dk_at dksX8_bound_3 3 rfl rfl)
theorem dX8_bound_78 : decode cX8_bound 78 = .ok (.ifCond .eq 12, 3) := dk_153 0 12 (dk_at dksX8_bound_3 6 rfl rfl)
theorem dX8_bound_81 : decode cX8_bound 81 = .ok (.iload 4, 2) := dk_21 4 (dk_at dksX8_bound_3 9 rfl rfl)
theorem dX8_bound_83 : decode cX8_bound 83 = .ok (.ifCond .eq 7, 3) := dk_153 0 7 (dk_at dksX8_bound_3 11 rfl rfl)
theorem dX8_bound_86 : decode cX8_bound 86 = .ok (.iload_n 3, 1) := dk_29 (dk_at dksX8_bound_3 14 rfl rfl)
theorem dX8_bound_87 : decode cX8_bound 87 = .ok (.goto 9, 3) := dk_167 0 9 (dk_at dksX8_bound_3 15 rfl rfl)
theorem dX8_bound_90 : decode cX8_bound 90 = .ok (.aload_n 0, 1) := dk_42 (dk_at dksX8_bound_3 18 rfl rfl)
theorem dX8_bound_91 : decode cX8_bound 91 = .ok (.getfield 34, 3) := dk_180 0 34 (dk_at dksX8_bound_3 19 rfl rfl)
theorem dX8_bound_94 : decode cX8_bound 94 = .ok (.iload_n 2, 1) := dk_28 (dk_at dksX8_bound_3 22 rfl rfl)
theorem dX8_bound_95 : decode cX8_bound 95 = .ok (.iaload, 1) := dk_46 (dk_at dksX8_bound_3 23 rfl rfl)
theorem dX8_bound_96 : decode cX8_bound 96 = .ok (.ireturn, 1) := dk_172 (dk_at dksX8_bound_4 0 rfl rfl)
abbrev cX8_candidates : ByteArray := prog_3_method_8_code
def yX8_candidates : MethodName := ⟨RX8, "candidates", "(I)I"⟩
def dkwX8_candidates_1 : List UInt8 := [167, 0, 4, 3, 96, 61, 132, 3, 1, 167, 255, 227, 28, 172]
abbrev dktX8_candidates_1 : List UInt8 := dkwX8_candidates_1 ++ []
def dkwX8_candidates_0 : List UInt8 := [3, 61, 3, 62, 29, 42, 180, 0, 30, 190, 162, 0, 26, 28, 42, 29, 27, 182, 0, 109, 153, 0, 7, 4]
abbrev dktX8_candidates_0 : List UInt8 := dkwX8_candidates_0 ++ dktX8_candidates_1
theorem dksX8_candidates_0 : cX8_candidates.data.toList.drop 0 = dktX8_candidates_0 := by decide +kernel
theorem dksX8_candidates_1 : cX8_candidates.data.toList.drop 24 = dktX8_candidates_1 := dk_seg dksX8_candidates_0 24 rfl rfl
theorem dX8_candidates_0 : decode cX8_candidates 0 = .ok (.iconst 0, 1) := dk_3 (dk_at dksX8_candidates_0 0 rfl rfl)
theorem dX8_candidates_1 : decode cX8_candidates 1 = .ok (.istore_n 2, 1) := dk_61 (dk_at dksX8_candidates_0 1 rfl rfl)
theorem dX8_candidates_2 : decode cX8_candidates 2 = .ok (.iconst 0, 1) := dk_3 (dk_at dksX8_candidates_0 2 rfl rfl)
theorem dX8_candidates_3 : decode cX8_candidates 3 = .ok (.istore_n 3, 1) := dk_62 (dk_at dksX8_candidates_0 3 rfl rfl)
theorem dX8_candidates_4 : decode cX8_candidates 4 = .ok (.iload_n 3, 1) := dk_29 (dk_at dksX8_candidates_0 4 rfl rfl)
theorem dX8_candidates_5 : decode cX8_candidates 5 = .ok (.aload_n 0, 1) := dk_42 (dk_at dksX8_candidates_0 5 rfl rfl)
theorem dX8_candidates_6 : decode cX8_candidates 6 = .ok (.getfield 30, 3) := dk_180 0 30 (dk_at dksX8_candidates_0 6 rfl rfl)
theorem dX8_candidates_9 : decode cX8_candidates 9 = .ok (.arraylength, 1) := dk_190 (dk_at dksX8_candidates_0 9 rfl rfl)
theorem dX8_candidates_10 : decode cX8_candidates 10 = .ok (.if_icmp .ge 26, 3) := dk_162 0 26 (dk_at dksX8_candidates_0 10 rfl rfl)
theorem dX8_candidates_13 : decode cX8_candidates 13 = .ok (.iload_n 2, 1) := dk_28 (dk_at dksX8_candidates_0 13 rfl rfl)
theorem dX8_candidates_14 : decode cX8_candidates 14 = .ok (.aload_n 0, 1) := dk_42 (dk_at dksX8_candidates_0 14 rfl rfl)
theorem dX8_candidates_15 : decode cX8_candidates 15 = .ok (.iload_n 3, 1) := dk_29 (dk_at dksX8_candidates_0 15 rfl rfl)
theorem dX8_candidates_16 : decode cX8_candidates 16 = .ok (.iload_n 1, 1) := dk_27 (dk_at dksX8_candidates_0 16 rfl rfl)
theorem dX8_candidates_17 : decode cX8_candidates 17 = .ok (.invokevirtual 109, 3) := dk_182 0 109 (dk_at dksX8_candidates_0 17 rfl rfl)
theorem dX8_candidates_20 : decode cX8_candidates 20 = .ok (.ifCond .eq 7, 3) := dk_153 0 7 (dk_at dksX8_candidates_0 20 rfl rfl)
theorem dX8_candidates_23 : decode cX8_candidates 23 = .ok (.iconst 1, 1) := dk_4 (dk_at dksX8_candidates_0 23 rfl rfl)
theorem dX8_candidates_24 : decode cX8_candidates 24 = .ok (.goto 4, 3) := dk_167 0 4 (dk_at dksX8_candidates_1 0 rfl rfl)
theorem dX8_candidates_27 : decode cX8_candidates 27 = .ok (.iconst 0, 1) := dk_3 (dk_at dksX8_candidates_1 3 rfl rfl)
theorem dX8_candidates_28 : decode cX8_candidates 28 = .ok (.iadd, 1) := dk_96 (dk_at dksX8_candidates_1 4 rfl rfl)
theorem dX8_candidates_29 : decode cX8_candidates 29 = .ok (.istore_n 2, 1) := dk_61 (dk_at dksX8_candidates_1 5 rfl rfl)
theorem dX8_candidates_30 : decode cX8_candidates 30 = .ok (.iinc 3 1, 3) := dk_132 3 1 (dk_at dksX8_candidates_1 6 rfl rfl)
theorem dX8_candidates_33 : decode cX8_candidates 33 = .ok (.goto (-29), 3) := dk_167 255 227 (dk_at dksX8_candidates_1 9 rfl rfl)
theorem dX8_candidates_36 : decode cX8_candidates 36 = .ok (.iload_n 2, 1) := dk_28 (dk_at dksX8_candidates_1 12 rfl rfl)
theorem dX8_candidates_37 : decode cX8_candidates 37 = .ok (.ireturn, 1) := dk_172 (dk_at dksX8_candidates_1 13 rfl rfl)
abbrev cX8_margin : ByteArray := prog_3_method_9_code
def yX8_margin : MethodName := ⟨RX8, "margin", "(I)I"⟩
def dkwX8_margin_3 : List UInt8 := [180, 0, 34, 27, 46, 50, 27, 46, 28, 100, 172]
abbrev dktX8_margin_3 : List UInt8 := dkwX8_margin_3 ++ []
def dkwX8_margin_2 : List UInt8 := [180, 0, 48, 29, 50, 27, 46, 184, 0, 137, 61, 132, 3, 1, 167, 255, 212, 42, 180, 0, 48, 42]
abbrev dktX8_margin_2 : List UInt8 := dkwX8_margin_2 ++ dktX8_margin_3
def dkwX8_margin_1 : List UInt8 := [162, 0, 41, 29, 42, 180, 0, 34, 27, 46, 159, 0, 25, 42, 29, 27, 182, 0, 109, 153, 0, 16, 28, 42]
abbrev dktX8_margin_1 : List UInt8 := dkwX8_margin_1 ++ dktX8_margin_2
def dkwX8_margin_0 : List UInt8 := [42, 180, 0, 34, 27, 46, 2, 160, 0, 5, 2, 172, 3, 61, 3, 62, 29, 42, 180, 0, 30, 190]
abbrev dktX8_margin_0 : List UInt8 := dkwX8_margin_0 ++ dktX8_margin_1
theorem dksX8_margin_0 : cX8_margin.data.toList.drop 0 = dktX8_margin_0 := by decide +kernel
theorem dksX8_margin_1 : cX8_margin.data.toList.drop 22 = dktX8_margin_1 := dk_seg dksX8_margin_0 22 rfl rfl
theorem dksX8_margin_2 : cX8_margin.data.toList.drop 46 = dktX8_margin_2 := dk_seg dksX8_margin_1 24 rfl rfl
theorem dksX8_margin_3 : cX8_margin.data.toList.drop 68 = dktX8_margin_3 := dk_seg dksX8_margin_2 22 rfl rfl
theorem dX8_margin_0 : decode cX8_margin 0 = .ok (.aload_n 0, 1) := dk_42 (dk_at dksX8_margin_0 0 rfl rfl)
theorem dX8_margin_1 : decode cX8_margin 1 = .ok (.getfield 34, 3) := dk_180 0 34 (dk_at dksX8_margin_0 1 rfl rfl)
theorem dX8_margin_4 : decode cX8_margin 4 = .ok (.iload_n 1, 1) := dk_27 (dk_at dksX8_margin_0 4 rfl rfl)
theorem dX8_margin_5 : decode cX8_margin 5 = .ok (.iaload, 1) := dk_46 (dk_at dksX8_margin_0 5 rfl rfl)
theorem dX8_margin_6 : decode cX8_margin 6 = .ok (.iconst (-1), 1) := dk_2 (dk_at dksX8_margin_0 6 rfl rfl)
theorem dX8_margin_7 : decode cX8_margin 7 = .ok (.if_icmp .ne 5, 3) := dk_160 0 5 (dk_at dksX8_margin_0 7 rfl rfl)
theorem dX8_margin_10 : decode cX8_margin 10 = .ok (.iconst (-1), 1) := dk_2 (dk_at dksX8_margin_0 10 rfl rfl)
theorem dX8_margin_11 : decode cX8_margin 11 = .ok (.ireturn, 1) := dk_172 (dk_at dksX8_margin_0 11 rfl rfl)
theorem dX8_margin_12 : decode cX8_margin 12 = .ok (.iconst 0, 1) := dk_3 (dk_at dksX8_margin_0 12 rfl rfl)
theorem dX8_margin_13 : decode cX8_margin 13 = .ok (.istore_n 2, 1) := dk_61 (dk_at dksX8_margin_0 13 rfl rfl)
theorem dX8_margin_14 : decode cX8_margin 14 = .ok (.iconst 0, 1) := dk_3 (dk_at dksX8_margin_0 14 rfl rfl)
theorem dX8_margin_15 : decode cX8_margin 15 = .ok (.istore_n 3, 1) := dk_62 (dk_at dksX8_margin_0 15 rfl rfl)
theorem dX8_margin_16 : decode cX8_margin 16 = .ok (.iload_n 3, 1) := dk_29 (dk_at dksX8_margin_0 16 rfl rfl)
theorem dX8_margin_17 : decode cX8_margin 17 = .ok (.aload_n 0, 1) := dk_42 (dk_at dksX8_margin_0 17 rfl rfl)
theorem dX8_margin_18 : decode cX8_margin 18 = .ok (.getfield 30, 3) := dk_180 0 30 (dk_at dksX8_margin_0 18 rfl rfl)
theorem dX8_margin_21 : decode cX8_margin 21 = .ok (.arraylength, 1) := dk_190 (dk_at dksX8_margin_0 21 rfl rfl)
theorem dX8_margin_22 : decode cX8_margin 22 = .ok (.if_icmp .ge 41, 3) := dk_162 0 41 (dk_at dksX8_margin_1 0 rfl rfl)
theorem dX8_margin_25 : decode cX8_margin 25 = .ok (.iload_n 3, 1) := dk_29 (dk_at dksX8_margin_1 3 rfl rfl)
theorem dX8_margin_26 : decode cX8_margin 26 = .ok (.aload_n 0, 1) := dk_42 (dk_at dksX8_margin_1 4 rfl rfl)
theorem dX8_margin_27 : decode cX8_margin 27 = .ok (.getfield 34, 3) := dk_180 0 34 (dk_at dksX8_margin_1 5 rfl rfl)
theorem dX8_margin_30 : decode cX8_margin 30 = .ok (.iload_n 1, 1) := dk_27 (dk_at dksX8_margin_1 8 rfl rfl)
theorem dX8_margin_31 : decode cX8_margin 31 = .ok (.iaload, 1) := dk_46 (dk_at dksX8_margin_1 9 rfl rfl)
theorem dX8_margin_32 : decode cX8_margin 32 = .ok (.if_icmp .eq 25, 3) := dk_159 0 25 (dk_at dksX8_margin_1 10 rfl rfl)
theorem dX8_margin_35 : decode cX8_margin 35 = .ok (.aload_n 0, 1) := dk_42 (dk_at dksX8_margin_1 13 rfl rfl)
theorem dX8_margin_36 : decode cX8_margin 36 = .ok (.iload_n 3, 1) := dk_29 (dk_at dksX8_margin_1 14 rfl rfl)
theorem dX8_margin_37 : decode cX8_margin 37 = .ok (.iload_n 1, 1) := dk_27 (dk_at dksX8_margin_1 15 rfl rfl)
theorem dX8_margin_38 : decode cX8_margin 38 = .ok (.invokevirtual 109, 3) := dk_182 0 109 (dk_at dksX8_margin_1 16 rfl rfl)
theorem dX8_margin_41 : decode cX8_margin 41 = .ok (.ifCond .eq 16, 3) := dk_153 0 16 (dk_at dksX8_margin_1 19 rfl rfl)
theorem dX8_margin_44 : decode cX8_margin 44 = .ok (.iload_n 2, 1) := dk_28 (dk_at dksX8_margin_1 22 rfl rfl)
theorem dX8_margin_45 : decode cX8_margin 45 = .ok (.aload_n 0, 1) := dk_42 (dk_at dksX8_margin_1 23 rfl rfl)
theorem dX8_margin_46 : decode cX8_margin 46 = .ok (.getfield 48, 3) := dk_180 0 48 (dk_at dksX8_margin_2 0 rfl rfl)
theorem dX8_margin_49 : decode cX8_margin 49 = .ok (.iload_n 3, 1) := dk_29 (dk_at dksX8_margin_2 3 rfl rfl)
theorem dX8_margin_50 : decode cX8_margin 50 = .ok (.aaload, 1) := dk_50 (dk_at dksX8_margin_2 4 rfl rfl)
theorem dX8_margin_51 : decode cX8_margin 51 = .ok (.iload_n 1, 1) := dk_27 (dk_at dksX8_margin_2 5 rfl rfl)
theorem dX8_margin_52 : decode cX8_margin 52 = .ok (.iaload, 1) := dk_46 (dk_at dksX8_margin_2 6 rfl rfl)
theorem dX8_margin_53 : decode cX8_margin 53 = .ok (.invokestatic 137, 3) := dk_184 0 137 (dk_at dksX8_margin_2 7 rfl rfl)
theorem dX8_margin_56 : decode cX8_margin 56 = .ok (.istore_n 2, 1) := dk_61 (dk_at dksX8_margin_2 10 rfl rfl)
theorem dX8_margin_57 : decode cX8_margin 57 = .ok (.iinc 3 1, 3) := dk_132 3 1 (dk_at dksX8_margin_2 11 rfl rfl)
theorem dX8_margin_60 : decode cX8_margin 60 = .ok (.goto (-44), 3) := dk_167 255 212 (dk_at dksX8_margin_2 14 rfl rfl)
theorem dX8_margin_63 : decode cX8_margin 63 = .ok (.aload_n 0, 1) := dk_42 (dk_at dksX8_margin_2 17 rfl rfl)
theorem dX8_margin_64 : decode cX8_margin 64 = .ok (.getfield 48, 3) := dk_180 0 48 (dk_at dksX8_margin_2 18 rfl rfl)
theorem dX8_margin_67 : decode cX8_margin 67 = .ok (.aload_n 0, 1) := dk_42 (dk_at dksX8_margin_2 21 rfl rfl)
theorem dX8_margin_68 : decode cX8_margin 68 = .ok (.getfield 34, 3) := dk_180 0 34 (dk_at dksX8_margin_3 0 rfl rfl)
theorem dX8_margin_71 : decode cX8_margin 71 = .ok (.iload_n 1, 1) := dk_27 (dk_at dksX8_margin_3 3 rfl rfl)
theorem dX8_margin_72 : decode cX8_margin 72 = .ok (.iaload, 1) := dk_46 (dk_at dksX8_margin_3 4 rfl rfl)
theorem dX8_margin_73 : decode cX8_margin 73 = .ok (.aaload, 1) := dk_50 (dk_at dksX8_margin_3 5 rfl rfl)
theorem dX8_margin_74 : decode cX8_margin 74 = .ok (.iload_n 1, 1) := dk_27 (dk_at dksX8_margin_3 6 rfl rfl)
theorem dX8_margin_75 : decode cX8_margin 75 = .ok (.iaload, 1) := dk_46 (dk_at dksX8_margin_3 7 rfl rfl)
theorem dX8_margin_76 : decode cX8_margin 76 = .ok (.iload_n 2, 1) := dk_28 (dk_at dksX8_margin_3 8 rfl rfl)
theorem dX8_margin_77 : decode cX8_margin 77 = .ok (.isub, 1) := dk_100 (dk_at dksX8_margin_3 9 rfl rfl)
theorem dX8_margin_78 : decode cX8_margin 78 = .ok (.ireturn, 1) := dk_172 (dk_at dksX8_margin_3 10 rfl rfl)
abbrev cX8_bound_2 : ByteArray := prog_3_method_10_code
def yX8_bound_2 : MethodName := ⟨RX8, "bound", "(IIZ)I"⟩
def dkwX8_bound_2_2 : List UInt8 := [160, 0, 7, 4, 167, 0, 4, 3, 96, 54, 4, 132, 5, 1, 167, 255, 202, 21, 4, 172]
abbrev dktX8_bound_2_2 : List UInt8 := dkwX8_bound_2_2 ++ []
def dkwX8_bound_2_1 : List UInt8 := [153, 0, 29, 42, 180, 0, 51, 21, 5, 50, 27, 46, 28, 160, 0, 7, 4, 167, 0, 4, 3, 29]
abbrev dktX8_bound_2_1 : List UInt8 := dkwX8_bound_2_1 ++ dktX8_bound_2_2
def dkwX8_bound_2_0 : List UInt8 := [3, 54, 4, 3, 54, 5, 21, 5, 42, 180, 0, 30, 190, 162, 0, 50, 21, 4, 42, 21, 5, 182, 0, 105]
abbrev dktX8_bound_2_0 : List UInt8 := dkwX8_bound_2_0 ++ dktX8_bound_2_1
theorem dksX8_bound_2_0 : cX8_bound_2.data.toList.drop 0 = dktX8_bound_2_0 := by decide +kernel
theorem dksX8_bound_2_1 : cX8_bound_2.data.toList.drop 24 = dktX8_bound_2_1 := dk_seg dksX8_bound_2_0 24 rfl rfl
theorem dksX8_bound_2_2 : cX8_bound_2.data.toList.drop 46 = dktX8_bound_2_2 := dk_seg dksX8_bound_2_1 22 rfl rfl
theorem dX8_bound_2_0 : decode cX8_bound_2 0 = .ok (.iconst 0, 1) := dk_3 (dk_at dksX8_bound_2_0 0 rfl rfl)
theorem dX8_bound_2_1 : decode cX8_bound_2 1 = .ok (.istore 4, 2) := dk_54 4 (dk_at dksX8_bound_2_0 1 rfl rfl)
theorem dX8_bound_2_3 : decode cX8_bound_2 3 = .ok (.iconst 0, 1) := dk_3 (dk_at dksX8_bound_2_0 3 rfl rfl)
theorem dX8_bound_2_4 : decode cX8_bound_2 4 = .ok (.istore 5, 2) := dk_54 5 (dk_at dksX8_bound_2_0 4 rfl rfl)
theorem dX8_bound_2_6 : decode cX8_bound_2 6 = .ok (.iload 5, 2) := dk_21 5 (dk_at dksX8_bound_2_0 6 rfl rfl)
theorem dX8_bound_2_8 : decode cX8_bound_2 8 = .ok (.aload_n 0, 1) := dk_42 (dk_at dksX8_bound_2_0 8 rfl rfl)
theorem dX8_bound_2_9 : decode cX8_bound_2 9 = .ok (.getfield 30, 3) := dk_180 0 30 (dk_at dksX8_bound_2_0 9 rfl rfl)
theorem dX8_bound_2_12 : decode cX8_bound_2 12 = .ok (.arraylength, 1) := dk_190 (dk_at dksX8_bound_2_0 12 rfl rfl)
theorem dX8_bound_2_13 : decode cX8_bound_2 13 = .ok (.if_icmp .ge 50, 3) := dk_162 0 50 (dk_at dksX8_bound_2_0 13 rfl rfl)
theorem dX8_bound_2_16 : decode cX8_bound_2 16 = .ok (.iload 4, 2) := dk_21 4 (dk_at dksX8_bound_2_0 16 rfl rfl)
theorem dX8_bound_2_18 : decode cX8_bound_2 18 = .ok (.aload_n 0, 1) := dk_42 (dk_at dksX8_bound_2_0 18 rfl rfl)
theorem dX8_bound_2_19 : decode cX8_bound_2 19 = .ok (.iload 5, 2) := dk_21 5 (dk_at dksX8_bound_2_0 19 rfl rfl)
theorem dX8_bound_2_21 : decode cX8_bound_2 21 = .ok (.invokevirtual 105, 3) := dk_182 0 105 (dk_at dksX8_bound_2_0 21 rfl rfl)
theorem dX8_bound_2_24 : decode cX8_bound_2 24 = .ok (.ifCond .eq 29, 3) := dk_153 0 29 (dk_at dksX8_bound_2_1 0 rfl rfl)
theorem dX8_bound_2_27 : decode cX8_bound_2 27 = .ok (.aload_n 0, 1) := dk_42 (dk_at dksX8_bound_2_1 3 rfl rfl)
theorem dX8_bound_2_28 : decode cX8_bound_2 28 = .ok (.getfield 51, 3) := dk_180 0 51 (dk_at dksX8_bound_2_1 4 rfl rfl)
theorem dX8_bound_2_31 : decode cX8_bound_2 31 = .ok (.iload 5, 2) := dk_21 5 (dk_at dksX8_bound_2_1 7 rfl rfl)
theorem dX8_bound_2_33 : decode cX8_bound_2 33 = .ok (.aaload, 1) := dk_50 (dk_at dksX8_bound_2_1 9 rfl rfl)
theorem dX8_bound_2_34 : decode cX8_bound_2 34 = .ok (.iload_n 1, 1) := dk_27 (dk_at dksX8_bound_2_1 10 rfl rfl)
theorem dX8_bound_2_35 : decode cX8_bound_2 35 = .ok (.iaload, 1) := dk_46 (dk_at dksX8_bound_2_1 11 rfl rfl)
theorem dX8_bound_2_36 : decode cX8_bound_2 36 = .ok (.iload_n 2, 1) := dk_28 (dk_at dksX8_bound_2_1 12 rfl rfl)
theorem dX8_bound_2_37 : decode cX8_bound_2 37 = .ok (.if_icmp .ne 7, 3) := dk_160 0 7 (dk_at dksX8_bound_2_1 13 rfl rfl)
theorem dX8_bound_2_40 : decode cX8_bound_2 40 = .ok (.iconst 1, 1) := dk_4 (dk_at dksX8_bound_2_1 16 rfl rfl)
theorem dX8_bound_2_41 : decode cX8_bound_2 41 = .ok (.goto 4, 3) := dk_167 0 4 (dk_at dksX8_bound_2_1 17 rfl rfl)
theorem dX8_bound_2_44 : decode cX8_bound_2 44 = .ok (.iconst 0, 1) := dk_3 (dk_at dksX8_bound_2_1 20 rfl rfl)
theorem dX8_bound_2_45 : decode cX8_bound_2 45 = .ok (.iload_n 3, 1) := dk_29 (dk_at dksX8_bound_2_1 21 rfl rfl)
theorem dX8_bound_2_46 : decode cX8_bound_2 46 = .ok (.if_icmp .ne 7, 3) := dk_160 0 7 (dk_at dksX8_bound_2_2 0 rfl rfl)
theorem dX8_bound_2_49 : decode cX8_bound_2 49 = .ok (.iconst 1, 1) := dk_4 (dk_at dksX8_bound_2_2 3 rfl rfl)
theorem dX8_bound_2_50 : decode cX8_bound_2 50 = .ok (.goto 4, 3) := dk_167 0 4 (dk_at dksX8_bound_2_2 4 rfl rfl)
theorem dX8_bound_2_53 : decode cX8_bound_2 53 = .ok (.iconst 0, 1) := dk_3 (dk_at dksX8_bound_2_2 7 rfl rfl)
theorem dX8_bound_2_54 : decode cX8_bound_2 54 = .ok (.iadd, 1) := dk_96 (dk_at dksX8_bound_2_2 8 rfl rfl)
theorem dX8_bound_2_55 : decode cX8_bound_2 55 = .ok (.istore 4, 2) := dk_54 4 (dk_at dksX8_bound_2_2 9 rfl rfl)
theorem dX8_bound_2_57 : decode cX8_bound_2 57 = .ok (.iinc 5 1, 3) := dk_132 5 1 (dk_at dksX8_bound_2_2 11 rfl rfl)
theorem dX8_bound_2_60 : decode cX8_bound_2 60 = .ok (.goto (-54), 3) := dk_167 255 202 (dk_at dksX8_bound_2_2 14 rfl rfl)
theorem dX8_bound_2_63 : decode cX8_bound_2 63 = .ok (.iload 4, 2) := dk_21 4 (dk_at dksX8_bound_2_2 17 rfl rfl)
theorem dX8_bound_2_65 : decode cX8_bound_2 65 = .ok (.ireturn, 1) := dk_172 (dk_at dksX8_bound_2_2 19 rfl rfl)
abbrev cX8_moved : ByteArray := prog_3_method_11_code
def yX8_moved : MethodName := ⟨RX8, "moved", "(LLinkElection$Election;I)I"⟩
def dkwX8_moved_3 : List UInt8 := [96, 62, 132, 5, 1, 167, 255, 197, 132, 4, 1, 167, 255, 178, 29, 172]
abbrev dktX8_moved_3 : List UInt8 := dkwX8_moved_3 ++ []
def dkwX8_moved_2 : List UInt8 := [21, 4, 50, 21, 5, 46, 43, 180, 0, 51, 21, 4, 50, 21, 5, 46, 159, 0, 7, 4, 167, 0, 4, 3]
abbrev dktX8_moved_2 : List UInt8 := dkwX8_moved_2 ++ dktX8_moved_3
def dkwX8_moved_1 : List UInt8 := [190, 162, 0, 55, 29, 21, 4, 28, 159, 0, 39, 42, 21, 4, 182, 0, 105, 153, 0, 30, 42, 180, 0, 51]
abbrev dktX8_moved_1 : List UInt8 := dkwX8_moved_1 ++ dktX8_moved_2
def dkwX8_moved_0 : List UInt8 := [3, 62, 3, 54, 4, 21, 4, 42, 180, 0, 30, 190, 162, 0, 74, 3, 54, 5, 21, 5, 42, 180, 0, 34]
abbrev dktX8_moved_0 : List UInt8 := dkwX8_moved_0 ++ dktX8_moved_1
theorem dksX8_moved_0 : cX8_moved.data.toList.drop 0 = dktX8_moved_0 := by decide +kernel
theorem dksX8_moved_1 : cX8_moved.data.toList.drop 24 = dktX8_moved_1 := dk_seg dksX8_moved_0 24 rfl rfl
theorem dksX8_moved_2 : cX8_moved.data.toList.drop 48 = dktX8_moved_2 := dk_seg dksX8_moved_1 24 rfl rfl
theorem dksX8_moved_3 : cX8_moved.data.toList.drop 72 = dktX8_moved_3 := dk_seg dksX8_moved_2 24 rfl rfl
theorem dX8_moved_0 : decode cX8_moved 0 = .ok (.iconst 0, 1) := dk_3 (dk_at dksX8_moved_0 0 rfl rfl)
theorem dX8_moved_1 : decode cX8_moved 1 = .ok (.istore_n 3, 1) := dk_62 (dk_at dksX8_moved_0 1 rfl rfl)
theorem dX8_moved_2 : decode cX8_moved 2 = .ok (.iconst 0, 1) := dk_3 (dk_at dksX8_moved_0 2 rfl rfl)
theorem dX8_moved_3 : decode cX8_moved 3 = .ok (.istore 4, 2) := dk_54 4 (dk_at dksX8_moved_0 3 rfl rfl)
theorem dX8_moved_5 : decode cX8_moved 5 = .ok (.iload 4, 2) := dk_21 4 (dk_at dksX8_moved_0 5 rfl rfl)
theorem dX8_moved_7 : decode cX8_moved 7 = .ok (.aload_n 0, 1) := dk_42 (dk_at dksX8_moved_0 7 rfl rfl)
theorem dX8_moved_8 : decode cX8_moved 8 = .ok (.getfield 30, 3) := dk_180 0 30 (dk_at dksX8_moved_0 8 rfl rfl)
theorem dX8_moved_11 : decode cX8_moved 11 = .ok (.arraylength, 1) := dk_190 (dk_at dksX8_moved_0 11 rfl rfl)
theorem dX8_moved_12 : decode cX8_moved 12 = .ok (.if_icmp .ge 74, 3) := dk_162 0 74 (dk_at dksX8_moved_0 12 rfl rfl)
theorem dX8_moved_15 : decode cX8_moved 15 = .ok (.iconst 0, 1) := dk_3 (dk_at dksX8_moved_0 15 rfl rfl)
theorem dX8_moved_16 : decode cX8_moved 16 = .ok (.istore 5, 2) := dk_54 5 (dk_at dksX8_moved_0 16 rfl rfl)
theorem dX8_moved_18 : decode cX8_moved 18 = .ok (.iload 5, 2) := dk_21 5 (dk_at dksX8_moved_0 18 rfl rfl)
theorem dX8_moved_20 : decode cX8_moved 20 = .ok (.aload_n 0, 1) := dk_42 (dk_at dksX8_moved_0 20 rfl rfl)
theorem dX8_moved_21 : decode cX8_moved 21 = .ok (.getfield 34, 3) := dk_180 0 34 (dk_at dksX8_moved_0 21 rfl rfl)
theorem dX8_moved_24 : decode cX8_moved 24 = .ok (.arraylength, 1) := dk_190 (dk_at dksX8_moved_1 0 rfl rfl)
theorem dX8_moved_25 : decode cX8_moved 25 = .ok (.if_icmp .ge 55, 3) := dk_162 0 55 (dk_at dksX8_moved_1 1 rfl rfl)
theorem dX8_moved_28 : decode cX8_moved 28 = .ok (.iload_n 3, 1) := dk_29 (dk_at dksX8_moved_1 4 rfl rfl)
theorem dX8_moved_29 : decode cX8_moved 29 = .ok (.iload 4, 2) := dk_21 4 (dk_at dksX8_moved_1 5 rfl rfl)
theorem dX8_moved_31 : decode cX8_moved 31 = .ok (.iload_n 2, 1) := dk_28 (dk_at dksX8_moved_1 7 rfl rfl)
theorem dX8_moved_32 : decode cX8_moved 32 = .ok (.if_icmp .eq 39, 3) := dk_159 0 39 (dk_at dksX8_moved_1 8 rfl rfl)
theorem dX8_moved_35 : decode cX8_moved 35 = .ok (.aload_n 0, 1) := dk_42 (dk_at dksX8_moved_1 11 rfl rfl)
theorem dX8_moved_36 : decode cX8_moved 36 = .ok (.iload 4, 2) := dk_21 4 (dk_at dksX8_moved_1 12 rfl rfl)
theorem dX8_moved_38 : decode cX8_moved 38 = .ok (.invokevirtual 105, 3) := dk_182 0 105 (dk_at dksX8_moved_1 14 rfl rfl)
theorem dX8_moved_41 : decode cX8_moved 41 = .ok (.ifCond .eq 30, 3) := dk_153 0 30 (dk_at dksX8_moved_1 17 rfl rfl)
theorem dX8_moved_44 : decode cX8_moved 44 = .ok (.aload_n 0, 1) := dk_42 (dk_at dksX8_moved_1 20 rfl rfl)
theorem dX8_moved_45 : decode cX8_moved 45 = .ok (.getfield 51, 3) := dk_180 0 51 (dk_at dksX8_moved_1 21 rfl rfl)
theorem dX8_moved_48 : decode cX8_moved 48 = .ok (.iload 4, 2) := dk_21 4 (dk_at dksX8_moved_2 0 rfl rfl)
theorem dX8_moved_50 : decode cX8_moved 50 = .ok (.aaload, 1) := dk_50 (dk_at dksX8_moved_2 2 rfl rfl)
theorem dX8_moved_51 : decode cX8_moved 51 = .ok (.iload 5, 2) := dk_21 5 (dk_at dksX8_moved_2 3 rfl rfl)
theorem dX8_moved_53 : decode cX8_moved 53 = .ok (.iaload, 1) := dk_46 (dk_at dksX8_moved_2 5 rfl rfl)
theorem dX8_moved_54 : decode cX8_moved 54 = .ok (.aload_n 1, 1) := dk_43 (dk_at dksX8_moved_2 6 rfl rfl)
theorem dX8_moved_55 : decode cX8_moved 55 = .ok (.getfield 51, 3) := dk_180 0 51 (dk_at dksX8_moved_2 7 rfl rfl)
theorem dX8_moved_58 : decode cX8_moved 58 = .ok (.iload 4, 2) := dk_21 4 (dk_at dksX8_moved_2 10 rfl rfl)
theorem dX8_moved_60 : decode cX8_moved 60 = .ok (.aaload, 1) := dk_50 (dk_at dksX8_moved_2 12 rfl rfl)
theorem dX8_moved_61 : decode cX8_moved 61 = .ok (.iload 5, 2) := dk_21 5 (dk_at dksX8_moved_2 13 rfl rfl)
theorem dX8_moved_63 : decode cX8_moved 63 = .ok (.iaload, 1) := dk_46 (dk_at dksX8_moved_2 15 rfl rfl)
theorem dX8_moved_64 : decode cX8_moved 64 = .ok (.if_icmp .eq 7, 3) := dk_159 0 7 (dk_at dksX8_moved_2 16 rfl rfl)
theorem dX8_moved_67 : decode cX8_moved 67 = .ok (.iconst 1, 1) := dk_4 (dk_at dksX8_moved_2 19 rfl rfl)
theorem dX8_moved_68 : decode cX8_moved 68 = .ok (.goto 4, 3) := dk_167 0 4 (dk_at dksX8_moved_2 20 rfl rfl)
theorem dX8_moved_71 : decode cX8_moved 71 = .ok (.iconst 0, 1) := dk_3 (dk_at dksX8_moved_2 23 rfl rfl)
theorem dX8_moved_72 : decode cX8_moved 72 = .ok (.iadd, 1) := dk_96 (dk_at dksX8_moved_3 0 rfl rfl)
theorem dX8_moved_73 : decode cX8_moved 73 = .ok (.istore_n 3, 1) := dk_62 (dk_at dksX8_moved_3 1 rfl rfl)
theorem dX8_moved_74 : decode cX8_moved 74 = .ok (.iinc 5 1, 3) := dk_132 5 1 (dk_at dksX8_moved_3 2 rfl rfl)
theorem dX8_moved_77 : decode cX8_moved 77 = .ok (.goto (-59), 3) := dk_167 255 197 (dk_at dksX8_moved_3 5 rfl rfl)
theorem dX8_moved_80 : decode cX8_moved 80 = .ok (.iinc 4 1, 3) := dk_132 4 1 (dk_at dksX8_moved_3 8 rfl rfl)
theorem dX8_moved_83 : decode cX8_moved 83 = .ok (.goto (-78), 3) := dk_167 255 178 (dk_at dksX8_moved_3 11 rfl rfl)
theorem dX8_moved_86 : decode cX8_moved 86 = .ok (.iload_n 3, 1) := dk_29 (dk_at dksX8_moved_3 14 rfl rfl)
theorem dX8_moved_87 : decode cX8_moved 87 = .ok (.ireturn, 1) := dk_172 (dk_at dksX8_moved_3 15 rfl rfl)
abbrev cX9_init : ByteArray := prog_2_method_1_code
def yX9_init : MethodName := ⟨RX9, "<init>", "(LLinkElection$Election;)V"⟩
def dkwX9_init_0 : List UInt8 := [42, 183, 0, 3, 42, 2, 181, 0, 9, 42, 43, 181, 0, 15, 177]
abbrev dktX9_init_0 : List UInt8 := dkwX9_init_0 ++ []
theorem dksX9_init_0 : cX9_init.data.toList.drop 0 = dktX9_init_0 := by decide +kernel
theorem dX9_init_0 : decode cX9_init 0 = .ok (.aload_n 0, 1) := dk_42 (dk_at dksX9_init_0 0 rfl rfl)
theorem dX9_init_1 : decode cX9_init 1 = .ok (.invokespecial 3, 3) := dk_183 0 3 (dk_at dksX9_init_0 1 rfl rfl)
theorem dX9_init_4 : decode cX9_init 4 = .ok (.aload_n 0, 1) := dk_42 (dk_at dksX9_init_0 4 rfl rfl)
theorem dX9_init_5 : decode cX9_init 5 = .ok (.iconst (-1), 1) := dk_2 (dk_at dksX9_init_0 5 rfl rfl)
theorem dX9_init_6 : decode cX9_init 6 = .ok (.putfield 9, 3) := dk_181 0 9 (dk_at dksX9_init_0 6 rfl rfl)
theorem dX9_init_9 : decode cX9_init 9 = .ok (.aload_n 0, 1) := dk_42 (dk_at dksX9_init_0 9 rfl rfl)
theorem dX9_init_10 : decode cX9_init 10 = .ok (.aload_n 1, 1) := dk_43 (dk_at dksX9_init_0 10 rfl rfl)
theorem dX9_init_11 : decode cX9_init 11 = .ok (.putfield 15, 3) := dk_181 0 15 (dk_at dksX9_init_0 11 rfl rfl)
theorem dX9_init_14 : decode cX9_init 14 = .ok (.return_, 1) := dk_177 (dk_at dksX9_init_0 14 rfl rfl)
abbrev cX9_go : ByteArray := prog_2_method_2_code
def yX9_go : MethodName := ⟨RX9, "go", "(II)LLinkElection$Call;"⟩
def dkwX9_go_5 : List UInt8 := [155, 0, 11, 42, 21, 6, 181, 0, 9, 42, 176, 16, 254, 21, 6, 100, 54, 5, 167, 255, 150, 42, 176]
abbrev dktX9_go_5 : List UInt8 := dkwX9_go_5 ++ []
def dkwX9_go_4 : List UInt8 := [4, 96, 181, 0, 38, 42, 180, 0, 15, 180, 0, 41, 21, 4, 50, 21, 5, 46, 54, 6, 21, 6]
abbrev dktX9_go_4 : List UInt8 := dkwX9_go_4 ++ dktX9_go_5
def dkwX9_go_3 : List UInt8 := [180, 0, 34, 21, 4, 50, 21, 5, 46, 54, 4, 21, 4, 2, 160, 0, 5, 42, 176, 42, 89, 180, 0, 38]
abbrev dktX9_go_3 : List UInt8 := dkwX9_go_3 ++ dktX9_go_4
def dkwX9_go_2 : List UInt8 := [153, 0, 11, 42, 16, 254, 181, 0, 9, 42, 176, 45, 21, 4, 50, 21, 5, 4, 84, 42, 180, 0, 15]
abbrev dktX9_go_2 : List UInt8 := dkwX9_go_2 ++ dktX9_go_3
def dkwX9_go_1 : List UInt8 := [28, 54, 5, 42, 180, 0, 15, 21, 4, 182, 0, 30, 153, 0, 100, 45, 21, 4, 50, 21, 5, 51]
abbrev dktX9_go_1 : List UInt8 := dkwX9_go_1 ++ dktX9_go_2
def dkwX9_go_0 : List UInt8 := [42, 180, 0, 15, 180, 0, 19, 190, 42, 180, 0, 15, 180, 0, 25, 190, 197, 0, 28, 2, 78, 27, 54, 4]
abbrev dktX9_go_0 : List UInt8 := dkwX9_go_0 ++ dktX9_go_1
theorem dksX9_go_0 : cX9_go.data.toList.drop 0 = dktX9_go_0 := by decide +kernel
theorem dksX9_go_1 : cX9_go.data.toList.drop 24 = dktX9_go_1 := dk_seg dksX9_go_0 24 rfl rfl
theorem dksX9_go_2 : cX9_go.data.toList.drop 46 = dktX9_go_2 := dk_seg dksX9_go_1 22 rfl rfl
theorem dksX9_go_3 : cX9_go.data.toList.drop 69 = dktX9_go_3 := dk_seg dksX9_go_2 23 rfl rfl
theorem dksX9_go_4 : cX9_go.data.toList.drop 93 = dktX9_go_4 := dk_seg dksX9_go_3 24 rfl rfl
theorem dksX9_go_5 : cX9_go.data.toList.drop 115 = dktX9_go_5 := dk_seg dksX9_go_4 22 rfl rfl
theorem dX9_go_0 : decode cX9_go 0 = .ok (.aload_n 0, 1) := dk_42 (dk_at dksX9_go_0 0 rfl rfl)
theorem dX9_go_1 : decode cX9_go 1 = .ok (.getfield 15, 3) := dk_180 0 15 (dk_at dksX9_go_0 1 rfl rfl)
theorem dX9_go_4 : decode cX9_go 4 = .ok (.getfield 19, 3) := dk_180 0 19 (dk_at dksX9_go_0 4 rfl rfl)
theorem dX9_go_7 : decode cX9_go 7 = .ok (.arraylength, 1) := dk_190 (dk_at dksX9_go_0 7 rfl rfl)
theorem dX9_go_8 : decode cX9_go 8 = .ok (.aload_n 0, 1) := dk_42 (dk_at dksX9_go_0 8 rfl rfl)
theorem dX9_go_9 : decode cX9_go 9 = .ok (.getfield 15, 3) := dk_180 0 15 (dk_at dksX9_go_0 9 rfl rfl)
theorem dX9_go_12 : decode cX9_go 12 = .ok (.getfield 25, 3) := dk_180 0 25 (dk_at dksX9_go_0 12 rfl rfl)
theorem dX9_go_15 : decode cX9_go 15 = .ok (.arraylength, 1) := dk_190 (dk_at dksX9_go_0 15 rfl rfl)
theorem dX9_go_16 : decode cX9_go 16 = .ok (.multianewarray 28 2, 4) := by decide +kernel
theorem dX9_go_20 : decode cX9_go 20 = .ok (.astore_n 3, 1) := dk_78 (dk_at dksX9_go_0 20 rfl rfl)
theorem dX9_go_21 : decode cX9_go 21 = .ok (.iload_n 1, 1) := dk_27 (dk_at dksX9_go_0 21 rfl rfl)
theorem dX9_go_22 : decode cX9_go 22 = .ok (.istore 4, 2) := dk_54 4 (dk_at dksX9_go_0 22 rfl rfl)
theorem dX9_go_24 : decode cX9_go 24 = .ok (.iload_n 2, 1) := dk_28 (dk_at dksX9_go_1 0 rfl rfl)
theorem dX9_go_25 : decode cX9_go 25 = .ok (.istore 5, 2) := dk_54 5 (dk_at dksX9_go_1 1 rfl rfl)
theorem dX9_go_27 : decode cX9_go 27 = .ok (.aload_n 0, 1) := dk_42 (dk_at dksX9_go_1 3 rfl rfl)
theorem dX9_go_28 : decode cX9_go 28 = .ok (.getfield 15, 3) := dk_180 0 15 (dk_at dksX9_go_1 4 rfl rfl)
theorem dX9_go_31 : decode cX9_go 31 = .ok (.iload 4, 2) := dk_21 4 (dk_at dksX9_go_1 7 rfl rfl)
theorem dX9_go_33 : decode cX9_go 33 = .ok (.invokevirtual 30, 3) := dk_182 0 30 (dk_at dksX9_go_1 9 rfl rfl)
theorem dX9_go_36 : decode cX9_go 36 = .ok (.ifCond .eq 100, 3) := dk_153 0 100 (dk_at dksX9_go_1 12 rfl rfl)
theorem dX9_go_39 : decode cX9_go 39 = .ok (.aload_n 3, 1) := dk_45 (dk_at dksX9_go_1 15 rfl rfl)
theorem dX9_go_40 : decode cX9_go 40 = .ok (.iload 4, 2) := dk_21 4 (dk_at dksX9_go_1 16 rfl rfl)
theorem dX9_go_42 : decode cX9_go 42 = .ok (.aaload, 1) := dk_50 (dk_at dksX9_go_1 18 rfl rfl)
theorem dX9_go_43 : decode cX9_go 43 = .ok (.iload 5, 2) := dk_21 5 (dk_at dksX9_go_1 19 rfl rfl)
theorem dX9_go_45 : decode cX9_go 45 = .ok (.baload, 1) := dk_51 (dk_at dksX9_go_1 21 rfl rfl)
theorem dX9_go_46 : decode cX9_go 46 = .ok (.ifCond .eq 11, 3) := dk_153 0 11 (dk_at dksX9_go_2 0 rfl rfl)
theorem dX9_go_49 : decode cX9_go 49 = .ok (.aload_n 0, 1) := dk_42 (dk_at dksX9_go_2 3 rfl rfl)
theorem dX9_go_50 : decode cX9_go 50 = .ok (.bipush (-2), 2) := dk_16 254 (dk_at dksX9_go_2 4 rfl rfl)
theorem dX9_go_52 : decode cX9_go 52 = .ok (.putfield 9, 3) := dk_181 0 9 (dk_at dksX9_go_2 6 rfl rfl)
theorem dX9_go_55 : decode cX9_go 55 = .ok (.aload_n 0, 1) := dk_42 (dk_at dksX9_go_2 9 rfl rfl)
theorem dX9_go_56 : decode cX9_go 56 = .ok (.areturn, 1) := dk_176 (dk_at dksX9_go_2 10 rfl rfl)
theorem dX9_go_57 : decode cX9_go 57 = .ok (.aload_n 3, 1) := dk_45 (dk_at dksX9_go_2 11 rfl rfl)
theorem dX9_go_58 : decode cX9_go 58 = .ok (.iload 4, 2) := dk_21 4 (dk_at dksX9_go_2 12 rfl rfl)
theorem dX9_go_60 : decode cX9_go 60 = .ok (.aaload, 1) := dk_50 (dk_at dksX9_go_2 14 rfl rfl)
theorem dX9_go_61 : decode cX9_go 61 = .ok (.iload 5, 2) := dk_21 5 (dk_at dksX9_go_2 15 rfl rfl)
theorem dX9_go_63 : decode cX9_go 63 = .ok (.iconst 1, 1) := dk_4 (dk_at dksX9_go_2 17 rfl rfl)
theorem dX9_go_64 : decode cX9_go 64 = .ok (.bastore, 1) := dk_84 (dk_at dksX9_go_2 18 rfl rfl)
theorem dX9_go_65 : decode cX9_go 65 = .ok (.aload_n 0, 1) := dk_42 (dk_at dksX9_go_2 19 rfl rfl)
theorem dX9_go_66 : decode cX9_go 66 = .ok (.getfield 15, 3) := dk_180 0 15 (dk_at dksX9_go_2 20 rfl rfl)
theorem dX9_go_69 : decode cX9_go 69 = .ok (.getfield 34, 3) := dk_180 0 34 (dk_at dksX9_go_3 0 rfl rfl)
theorem dX9_go_72 : decode cX9_go 72 = .ok (.iload 4, 2) := dk_21 4 (dk_at dksX9_go_3 3 rfl rfl)
theorem dX9_go_74 : decode cX9_go 74 = .ok (.aaload, 1) := dk_50 (dk_at dksX9_go_3 5 rfl rfl)
theorem dX9_go_75 : decode cX9_go 75 = .ok (.iload 5, 2) := dk_21 5 (dk_at dksX9_go_3 6 rfl rfl)
theorem dX9_go_77 : decode cX9_go 77 = .ok (.iaload, 1) := dk_46 (dk_at dksX9_go_3 8 rfl rfl)
theorem dX9_go_78 : decode cX9_go 78 = .ok (.istore 4, 2) := dk_54 4 (dk_at dksX9_go_3 9 rfl rfl)
theorem dX9_go_80 : decode cX9_go 80 = .ok (.iload 4, 2) := dk_21 4 (dk_at dksX9_go_3 11 rfl rfl)
theorem dX9_go_82 : decode cX9_go 82 = .ok (.iconst (-1), 1) := dk_2 (dk_at dksX9_go_3 13 rfl rfl)
theorem dX9_go_83 : decode cX9_go 83 = .ok (.if_icmp .ne 5, 3) := dk_160 0 5 (dk_at dksX9_go_3 14 rfl rfl)
theorem dX9_go_86 : decode cX9_go 86 = .ok (.aload_n 0, 1) := dk_42 (dk_at dksX9_go_3 17 rfl rfl)
theorem dX9_go_87 : decode cX9_go 87 = .ok (.areturn, 1) := dk_176 (dk_at dksX9_go_3 18 rfl rfl)
theorem dX9_go_88 : decode cX9_go 88 = .ok (.aload_n 0, 1) := dk_42 (dk_at dksX9_go_3 19 rfl rfl)
theorem dX9_go_89 : decode cX9_go 89 = .ok (.dup, 1) := dk_89 (dk_at dksX9_go_3 20 rfl rfl)
theorem dX9_go_90 : decode cX9_go 90 = .ok (.getfield 38, 3) := dk_180 0 38 (dk_at dksX9_go_3 21 rfl rfl)
theorem dX9_go_93 : decode cX9_go 93 = .ok (.iconst 1, 1) := dk_4 (dk_at dksX9_go_4 0 rfl rfl)
theorem dX9_go_94 : decode cX9_go 94 = .ok (.iadd, 1) := dk_96 (dk_at dksX9_go_4 1 rfl rfl)
theorem dX9_go_95 : decode cX9_go 95 = .ok (.putfield 38, 3) := dk_181 0 38 (dk_at dksX9_go_4 2 rfl rfl)
theorem dX9_go_98 : decode cX9_go 98 = .ok (.aload_n 0, 1) := dk_42 (dk_at dksX9_go_4 5 rfl rfl)
theorem dX9_go_99 : decode cX9_go 99 = .ok (.getfield 15, 3) := dk_180 0 15 (dk_at dksX9_go_4 6 rfl rfl)
theorem dX9_go_102 : decode cX9_go 102 = .ok (.getfield 41, 3) := dk_180 0 41 (dk_at dksX9_go_4 9 rfl rfl)
theorem dX9_go_105 : decode cX9_go 105 = .ok (.iload 4, 2) := dk_21 4 (dk_at dksX9_go_4 12 rfl rfl)
theorem dX9_go_107 : decode cX9_go 107 = .ok (.aaload, 1) := dk_50 (dk_at dksX9_go_4 14 rfl rfl)
theorem dX9_go_108 : decode cX9_go 108 = .ok (.iload 5, 2) := dk_21 5 (dk_at dksX9_go_4 15 rfl rfl)
theorem dX9_go_110 : decode cX9_go 110 = .ok (.iaload, 1) := dk_46 (dk_at dksX9_go_4 17 rfl rfl)
theorem dX9_go_111 : decode cX9_go 111 = .ok (.istore 6, 2) := dk_54 6 (dk_at dksX9_go_4 18 rfl rfl)
theorem dX9_go_113 : decode cX9_go 113 = .ok (.iload 6, 2) := dk_21 6 (dk_at dksX9_go_4 20 rfl rfl)
theorem dX9_go_115 : decode cX9_go 115 = .ok (.ifCond .lt 11, 3) := dk_155 0 11 (dk_at dksX9_go_5 0 rfl rfl)
theorem dX9_go_118 : decode cX9_go 118 = .ok (.aload_n 0, 1) := dk_42 (dk_at dksX9_go_5 3 rfl rfl)
theorem dX9_go_119 : decode cX9_go 119 = .ok (.iload 6, 2) := dk_21 6 (dk_at dksX9_go_5 4 rfl rfl)
theorem dX9_go_121 : decode cX9_go 121 = .ok (.putfield 9, 3) := dk_181 0 9 (dk_at dksX9_go_5 6 rfl rfl)
theorem dX9_go_124 : decode cX9_go 124 = .ok (.aload_n 0, 1) := dk_42 (dk_at dksX9_go_5 9 rfl rfl)
theorem dX9_go_125 : decode cX9_go 125 = .ok (.areturn, 1) := dk_176 (dk_at dksX9_go_5 10 rfl rfl)
theorem dX9_go_126 : decode cX9_go 126 = .ok (.bipush (-2), 2) := dk_16 254 (dk_at dksX9_go_5 11 rfl rfl)
theorem dX9_go_128 : decode cX9_go 128 = .ok (.iload 6, 2) := dk_21 6 (dk_at dksX9_go_5 13 rfl rfl)
theorem dX9_go_130 : decode cX9_go 130 = .ok (.isub, 1) := dk_100 (dk_at dksX9_go_5 15 rfl rfl)
theorem dX9_go_131 : decode cX9_go 131 = .ok (.istore 5, 2) := dk_54 5 (dk_at dksX9_go_5 16 rfl rfl)
theorem dX9_go_133 : decode cX9_go 133 = .ok (.goto (-106), 3) := dk_167 255 150 (dk_at dksX9_go_5 18 rfl rfl)
theorem dX9_go_136 : decode cX9_go 136 = .ok (.aload_n 0, 1) := dk_42 (dk_at dksX9_go_5 21 rfl rfl)
theorem dX9_go_137 : decode cX9_go 137 = .ok (.areturn, 1) := dk_176 (dk_at dksX9_go_5 22 rfl rfl)
