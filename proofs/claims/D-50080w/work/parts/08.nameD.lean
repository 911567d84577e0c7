set_option maxRecDepth 100000
abbrev cJ0_init : ByteArray := prog_39_method_1_code
def yJ0_init : MethodName := ⟨RJ0, "<init>", "()V"⟩
theorem dJ0_init_0 : decode cJ0_init 0 = .ok (.aload_n 0, 1) := by decide +kernel
theorem dJ0_init_1 : decode cJ0_init 1 = .ok (.invokespecial 1, 3) := by decide +kernel
theorem dJ0_init_4 : decode cJ0_init 4 = .ok (.return_, 1) := by decide +kernel
abbrev cJ2_init : ByteArray := prog_40_method_1_code
def yJ2_init : MethodName := ⟨RJ2, "<init>", "()V"⟩
def dkwJ2_init_0 : List UInt8 := [42, 183, 0, 1, 42, 3, 181, 0, 7, 177]
abbrev dktJ2_init_0 : List UInt8 := dkwJ2_init_0 ++ []
theorem dksJ2_init_0 : cJ2_init.data.toList.drop 0 = dktJ2_init_0 := by decide +kernel
theorem dJ2_init_0 : decode cJ2_init 0 = .ok (.aload_n 0, 1) := dk_42 (dk_at dksJ2_init_0 0 rfl rfl)
theorem dJ2_init_1 : decode cJ2_init 1 = .ok (.invokespecial 1, 3) := dk_183 0 1 (dk_at dksJ2_init_0 1 rfl rfl)
theorem dJ2_init_4 : decode cJ2_init 4 = .ok (.aload_n 0, 1) := dk_42 (dk_at dksJ2_init_0 4 rfl rfl)
theorem dJ2_init_5 : decode cJ2_init 5 = .ok (.iconst 0, 1) := dk_3 (dk_at dksJ2_init_0 5 rfl rfl)
theorem dJ2_init_6 : decode cJ2_init 6 = .ok (.putfield 7, 3) := dk_181 0 7 (dk_at dksJ2_init_0 6 rfl rfl)
theorem dJ2_init_9 : decode cJ2_init 9 = .ok (.return_, 1) := dk_177 (dk_at dksJ2_init_0 9 rfl rfl)
abbrev cJ4_init : ByteArray := prog_41_method_1_code
def yJ4_init : MethodName := ⟨RJ4, "<init>", "()V"⟩
theorem dJ4_init_0 : decode cJ4_init 0 = .ok (.aload_n 0, 1) := by decide +kernel
theorem dJ4_init_1 : decode cJ4_init 1 = .ok (.invokespecial 1, 3) := by decide +kernel
theorem dJ4_init_4 : decode cJ4_init 4 = .ok (.return_, 1) := by decide +kernel
abbrev cJ1_init : ByteArray := prog_42_method_3_code
def yJ1_init : MethodName := ⟨RJ1, "<init>", "()V"⟩
def dkwJ1_init_0 : List UInt8 := [42, 183, 0, 42, 42, 16, 17, 189, 0, 47, 181, 0, 3, 177]
abbrev dktJ1_init_0 : List UInt8 := dkwJ1_init_0 ++ []
theorem dksJ1_init_0 : cJ1_init.data.toList.drop 0 = dktJ1_init_0 := by decide +kernel
theorem dJ1_init_0 : decode cJ1_init 0 = .ok (.aload_n 0, 1) := dk_42 (dk_at dksJ1_init_0 0 rfl rfl)
theorem dJ1_init_1 : decode cJ1_init 1 = .ok (.invokespecial 42, 3) := dk_183 0 42 (dk_at dksJ1_init_0 1 rfl rfl)
theorem dJ1_init_4 : decode cJ1_init 4 = .ok (.aload_n 0, 1) := dk_42 (dk_at dksJ1_init_0 4 rfl rfl)
theorem dJ1_init_5 : decode cJ1_init 5 = .ok (.bipush 17, 2) := dk_16 17 (dk_at dksJ1_init_0 5 rfl rfl)
theorem dJ1_init_7 : decode cJ1_init 7 = .ok (.anewarray 47, 3) := dk_189 0 47 (dk_at dksJ1_init_0 7 rfl rfl)
theorem dJ1_init_10 : decode cJ1_init 10 = .ok (.putfield 3, 3) := dk_181 0 3 (dk_at dksJ1_init_0 10 rfl rfl)
theorem dJ1_init_13 : decode cJ1_init 13 = .ok (.return_, 1) := dk_177 (dk_at dksJ1_init_0 13 rfl rfl)
abbrev cJ1_isEmpty : ByteArray := prog_42_method_38_code
def yJ1_isEmpty : MethodName := ⟨RJ1, "isEmpty", "()Z"⟩
def dkwJ1_isEmpty_0 : List UInt8 := [42, 180, 0, 24, 42, 180, 0, 20, 160, 0, 7, 4, 167, 0, 4, 3, 172]
abbrev dktJ1_isEmpty_0 : List UInt8 := dkwJ1_isEmpty_0 ++ []
theorem dksJ1_isEmpty_0 : cJ1_isEmpty.data.toList.drop 0 = dktJ1_isEmpty_0 := by decide +kernel
theorem dJ1_isEmpty_0 : decode cJ1_isEmpty 0 = .ok (.aload_n 0, 1) := dk_42 (dk_at dksJ1_isEmpty_0 0 rfl rfl)
theorem dJ1_isEmpty_1 : decode cJ1_isEmpty 1 = .ok (.getfield 24, 3) := dk_180 0 24 (dk_at dksJ1_isEmpty_0 1 rfl rfl)
theorem dJ1_isEmpty_4 : decode cJ1_isEmpty 4 = .ok (.aload_n 0, 1) := dk_42 (dk_at dksJ1_isEmpty_0 4 rfl rfl)
theorem dJ1_isEmpty_5 : decode cJ1_isEmpty 5 = .ok (.getfield 20, 3) := dk_180 0 20 (dk_at dksJ1_isEmpty_0 5 rfl rfl)
theorem dJ1_isEmpty_8 : decode cJ1_isEmpty 8 = .ok (.if_icmp .ne 7, 3) := dk_160 0 7 (dk_at dksJ1_isEmpty_0 8 rfl rfl)
theorem dJ1_isEmpty_11 : decode cJ1_isEmpty 11 = .ok (.iconst 1, 1) := dk_4 (dk_at dksJ1_isEmpty_0 11 rfl rfl)
theorem dJ1_isEmpty_12 : decode cJ1_isEmpty 12 = .ok (.goto 4, 3) := dk_167 0 4 (dk_at dksJ1_isEmpty_0 12 rfl rfl)
theorem dJ1_isEmpty_15 : decode cJ1_isEmpty 15 = .ok (.iconst 0, 1) := dk_3 (dk_at dksJ1_isEmpty_0 15 rfl rfl)
theorem dJ1_isEmpty_16 : decode cJ1_isEmpty 16 = .ok (.ireturn, 1) := dk_172 (dk_at dksJ1_isEmpty_0 16 rfl rfl)
abbrev cJ1_removeLast : ByteArray := prog_42_method_19_code
def yJ1_removeLast : MethodName := ⟨RJ1, "removeLast", "()Ljava/lang/Object;"⟩
def dkwJ1_removeLast_0 : List UInt8 := [42, 182, 0, 100, 76, 43, 199, 0, 11, 187, 0, 97, 89, 183, 0, 99, 191, 43, 176]
abbrev dktJ1_removeLast_0 : List UInt8 := dkwJ1_removeLast_0 ++ []
theorem dksJ1_removeLast_0 : cJ1_removeLast.data.toList.drop 0 = dktJ1_removeLast_0 := by decide +kernel
theorem dJ1_removeLast_0 : decode cJ1_removeLast 0 = .ok (.aload_n 0, 1) := dk_42 (dk_at dksJ1_removeLast_0 0 rfl rfl)
theorem dJ1_removeLast_1 : decode cJ1_removeLast 1 = .ok (.invokevirtual 100, 3) := dk_182 0 100 (dk_at dksJ1_removeLast_0 1 rfl rfl)
theorem dJ1_removeLast_4 : decode cJ1_removeLast 4 = .ok (.astore_n 1, 1) := dk_76 (dk_at dksJ1_removeLast_0 4 rfl rfl)
theorem dJ1_removeLast_5 : decode cJ1_removeLast 5 = .ok (.aload_n 1, 1) := dk_43 (dk_at dksJ1_removeLast_0 5 rfl rfl)
theorem dJ1_removeLast_6 : decode cJ1_removeLast 6 = .ok (.ifnonnull 11, 3) := dk_199 0 11 (dk_at dksJ1_removeLast_0 6 rfl rfl)
theorem dJ1_removeLast_9 : decode cJ1_removeLast 9 = .ok (.new 97, 3) := dk_187 0 97 (dk_at dksJ1_removeLast_0 9 rfl rfl)
theorem dJ1_removeLast_12 : decode cJ1_removeLast 12 = .ok (.dup, 1) := dk_89 (dk_at dksJ1_removeLast_0 12 rfl rfl)
theorem dJ1_removeLast_13 : decode cJ1_removeLast 13 = .ok (.invokespecial 99, 3) := dk_183 0 99 (dk_at dksJ1_removeLast_0 13 rfl rfl)
theorem dJ1_removeLast_16 : decode cJ1_removeLast 16 = .ok (.athrow, 1) := dk_191 (dk_at dksJ1_removeLast_0 16 rfl rfl)
theorem dJ1_removeLast_17 : decode cJ1_removeLast 17 = .ok (.aload_n 1, 1) := dk_43 (dk_at dksJ1_removeLast_0 17 rfl rfl)
theorem dJ1_removeLast_18 : decode cJ1_removeLast 18 = .ok (.areturn, 1) := dk_176 (dk_at dksJ1_removeLast_0 18 rfl rfl)
abbrev cJ1_pollLast : ByteArray := prog_42_method_21_code
def yJ1_pollLast : MethodName := ⟨RJ1, "pollLast", "()Ljava/lang/Object;"⟩
def dkwJ1_pollLast_1 : List UInt8 := [198, 0, 12, 43, 42, 28, 90, 181, 0, 20, 1, 83, 45, 176]
abbrev dktJ1_pollLast_1 : List UInt8 := dkwJ1_pollLast_1 ++ []
def dkwJ1_pollLast_0 : List UInt8 := [42, 180, 0, 3, 89, 76, 42, 180, 0, 20, 43, 190, 184, 0, 68, 89, 61, 184, 0, 103, 78, 45]
abbrev dktJ1_pollLast_0 : List UInt8 := dkwJ1_pollLast_0 ++ dktJ1_pollLast_1
theorem dksJ1_pollLast_0 : cJ1_pollLast.data.toList.drop 0 = dktJ1_pollLast_0 := by decide +kernel
theorem dksJ1_pollLast_1 : cJ1_pollLast.data.toList.drop 22 = dktJ1_pollLast_1 := dk_seg dksJ1_pollLast_0 22 rfl rfl
theorem dJ1_pollLast_0 : decode cJ1_pollLast 0 = .ok (.aload_n 0, 1) := dk_42 (dk_at dksJ1_pollLast_0 0 rfl rfl)
theorem dJ1_pollLast_1 : decode cJ1_pollLast 1 = .ok (.getfield 3, 3) := dk_180 0 3 (dk_at dksJ1_pollLast_0 1 rfl rfl)
theorem dJ1_pollLast_4 : decode cJ1_pollLast 4 = .ok (.dup, 1) := dk_89 (dk_at dksJ1_pollLast_0 4 rfl rfl)
theorem dJ1_pollLast_5 : decode cJ1_pollLast 5 = .ok (.astore_n 1, 1) := dk_76 (dk_at dksJ1_pollLast_0 5 rfl rfl)
theorem dJ1_pollLast_6 : decode cJ1_pollLast 6 = .ok (.aload_n 0, 1) := dk_42 (dk_at dksJ1_pollLast_0 6 rfl rfl)
theorem dJ1_pollLast_7 : decode cJ1_pollLast 7 = .ok (.getfield 20, 3) := dk_180 0 20 (dk_at dksJ1_pollLast_0 7 rfl rfl)
theorem dJ1_pollLast_10 : decode cJ1_pollLast 10 = .ok (.aload_n 1, 1) := dk_43 (dk_at dksJ1_pollLast_0 10 rfl rfl)
theorem dJ1_pollLast_11 : decode cJ1_pollLast 11 = .ok (.arraylength, 1) := dk_190 (dk_at dksJ1_pollLast_0 11 rfl rfl)
theorem dJ1_pollLast_12 : decode cJ1_pollLast 12 = .ok (.invokestatic 68, 3) := dk_184 0 68 (dk_at dksJ1_pollLast_0 12 rfl rfl)
theorem dJ1_pollLast_15 : decode cJ1_pollLast 15 = .ok (.dup, 1) := dk_89 (dk_at dksJ1_pollLast_0 15 rfl rfl)
theorem dJ1_pollLast_16 : decode cJ1_pollLast 16 = .ok (.istore_n 2, 1) := dk_61 (dk_at dksJ1_pollLast_0 16 rfl rfl)
theorem dJ1_pollLast_17 : decode cJ1_pollLast 17 = .ok (.invokestatic 103, 3) := dk_184 0 103 (dk_at dksJ1_pollLast_0 17 rfl rfl)
theorem dJ1_pollLast_20 : decode cJ1_pollLast 20 = .ok (.astore_n 3, 1) := dk_78 (dk_at dksJ1_pollLast_0 20 rfl rfl)
theorem dJ1_pollLast_21 : decode cJ1_pollLast 21 = .ok (.aload_n 3, 1) := dk_45 (dk_at dksJ1_pollLast_0 21 rfl rfl)
theorem dJ1_pollLast_22 : decode cJ1_pollLast 22 = .ok (.ifnull 12, 3) := dk_198 0 12 (dk_at dksJ1_pollLast_1 0 rfl rfl)
theorem dJ1_pollLast_25 : decode cJ1_pollLast 25 = .ok (.aload_n 1, 1) := dk_43 (dk_at dksJ1_pollLast_1 3 rfl rfl)
theorem dJ1_pollLast_26 : decode cJ1_pollLast 26 = .ok (.aload_n 0, 1) := dk_42 (dk_at dksJ1_pollLast_1 4 rfl rfl)
theorem dJ1_pollLast_27 : decode cJ1_pollLast 27 = .ok (.iload_n 2, 1) := dk_28 (dk_at dksJ1_pollLast_1 5 rfl rfl)
theorem dJ1_pollLast_28 : decode cJ1_pollLast 28 = .ok (.dup_x1, 1) := dk_90 (dk_at dksJ1_pollLast_1 6 rfl rfl)
theorem dJ1_pollLast_29 : decode cJ1_pollLast 29 = .ok (.putfield 20, 3) := dk_181 0 20 (dk_at dksJ1_pollLast_1 7 rfl rfl)
theorem dJ1_pollLast_32 : decode cJ1_pollLast 32 = .ok (.aconst_null, 1) := dk_1 (dk_at dksJ1_pollLast_1 10 rfl rfl)
theorem dJ1_pollLast_33 : decode cJ1_pollLast 33 = .ok (.aastore, 1) := dk_83 (dk_at dksJ1_pollLast_1 11 rfl rfl)
theorem dJ1_pollLast_34 : decode cJ1_pollLast 34 = .ok (.aload_n 3, 1) := dk_45 (dk_at dksJ1_pollLast_1 12 rfl rfl)
theorem dJ1_pollLast_35 : decode cJ1_pollLast 35 = .ok (.areturn, 1) := dk_176 (dk_at dksJ1_pollLast_1 13 rfl rfl)
abbrev cJ1_dec : ByteArray := prog_42_method_7_code
def yJ1_dec : MethodName := ⟨RJ1, "dec", "(II)I"⟩
def dkwJ1_dec_0 : List UInt8 := [132, 0, 255, 26, 156, 0, 7, 27, 4, 100, 59, 26, 172]
abbrev dktJ1_dec_0 : List UInt8 := dkwJ1_dec_0 ++ []
theorem dksJ1_dec_0 : cJ1_dec.data.toList.drop 0 = dktJ1_dec_0 := by decide +kernel
theorem dJ1_dec_0 : decode cJ1_dec 0 = .ok (.iinc 0 (-1), 3) := dk_132 0 255 (dk_at dksJ1_dec_0 0 rfl rfl)
theorem dJ1_dec_3 : decode cJ1_dec 3 = .ok (.iload_n 0, 1) := dk_26 (dk_at dksJ1_dec_0 3 rfl rfl)
theorem dJ1_dec_4 : decode cJ1_dec 4 = .ok (.ifCond .ge 7, 3) := dk_156 0 7 (dk_at dksJ1_dec_0 4 rfl rfl)
theorem dJ1_dec_7 : decode cJ1_dec 7 = .ok (.iload_n 1, 1) := dk_27 (dk_at dksJ1_dec_0 7 rfl rfl)
theorem dJ1_dec_8 : decode cJ1_dec 8 = .ok (.iconst 1, 1) := dk_4 (dk_at dksJ1_dec_0 8 rfl rfl)
theorem dJ1_dec_9 : decode cJ1_dec 9 = .ok (.isub, 1) := dk_100 (dk_at dksJ1_dec_0 9 rfl rfl)
theorem dJ1_dec_10 : decode cJ1_dec 10 = .ok (.istore_n 0, 1) := dk_59 (dk_at dksJ1_dec_0 10 rfl rfl)
theorem dJ1_dec_11 : decode cJ1_dec 11 = .ok (.iload_n 0, 1) := dk_26 (dk_at dksJ1_dec_0 11 rfl rfl)
theorem dJ1_dec_12 : decode cJ1_dec 12 = .ok (.ireturn, 1) := dk_172 (dk_at dksJ1_dec_0 12 rfl rfl)
abbrev cJ1_elementAt : ByteArray := prog_42_method_10_code
def yJ1_elementAt : MethodName := ⟨RJ1, "elementAt", "([Ljava/lang/Object;I)Ljava/lang/Object;"⟩
def dkwJ1_elementAt_0 : List UInt8 := [42, 27, 50, 176]
abbrev dktJ1_elementAt_0 : List UInt8 := dkwJ1_elementAt_0 ++ []
theorem dksJ1_elementAt_0 : cJ1_elementAt.data.toList.drop 0 = dktJ1_elementAt_0 := by decide +kernel
theorem dJ1_elementAt_0 : decode cJ1_elementAt 0 = .ok (.aload_n 0, 1) := dk_42 (dk_at dksJ1_elementAt_0 0 rfl rfl)
theorem dJ1_elementAt_1 : decode cJ1_elementAt 1 = .ok (.iload_n 1, 1) := dk_27 (dk_at dksJ1_elementAt_0 1 rfl rfl)
theorem dJ1_elementAt_2 : decode cJ1_elementAt 2 = .ok (.aaload, 1) := dk_50 (dk_at dksJ1_elementAt_0 2 rfl rfl)
theorem dJ1_elementAt_3 : decode cJ1_elementAt 3 = .ok (.areturn, 1) := dk_176 (dk_at dksJ1_elementAt_0 3 rfl rfl)
abbrev cJ1_size : ByteArray := prog_42_method_37_code
def yJ1_size : MethodName := ⟨RJ1, "size", "()I"⟩
def dkwJ1_size_0 : List UInt8 := [42, 180, 0, 20, 42, 180, 0, 24, 42, 180, 0, 3, 190, 184, 0, 127, 172]
abbrev dktJ1_size_0 : List UInt8 := dkwJ1_size_0 ++ []
theorem dksJ1_size_0 : cJ1_size.data.toList.drop 0 = dktJ1_size_0 := by decide +kernel
theorem dJ1_size_0 : decode cJ1_size 0 = .ok (.aload_n 0, 1) := dk_42 (dk_at dksJ1_size_0 0 rfl rfl)
theorem dJ1_size_1 : decode cJ1_size 1 = .ok (.getfield 20, 3) := dk_180 0 20 (dk_at dksJ1_size_0 1 rfl rfl)
theorem dJ1_size_4 : decode cJ1_size 4 = .ok (.aload_n 0, 1) := dk_42 (dk_at dksJ1_size_0 4 rfl rfl)
theorem dJ1_size_5 : decode cJ1_size 5 = .ok (.getfield 24, 3) := dk_180 0 24 (dk_at dksJ1_size_0 5 rfl rfl)
theorem dJ1_size_8 : decode cJ1_size 8 = .ok (.aload_n 0, 1) := dk_42 (dk_at dksJ1_size_0 8 rfl rfl)
theorem dJ1_size_9 : decode cJ1_size 9 = .ok (.getfield 3, 3) := dk_180 0 3 (dk_at dksJ1_size_0 9 rfl rfl)
theorem dJ1_size_12 : decode cJ1_size 12 = .ok (.arraylength, 1) := dk_190 (dk_at dksJ1_size_0 12 rfl rfl)
theorem dJ1_size_13 : decode cJ1_size 13 = .ok (.invokestatic 127, 3) := dk_184 0 127 (dk_at dksJ1_size_0 13 rfl rfl)
theorem dJ1_size_16 : decode cJ1_size 16 = .ok (.ireturn, 1) := dk_172 (dk_at dksJ1_size_0 16 rfl rfl)
abbrev cJ1_sub : ByteArray := prog_42_method_9_code
def yJ1_sub : MethodName := ⟨RJ1, "sub", "(III)I"⟩
def dkwJ1_sub_0 : List UInt8 := [26, 27, 100, 89, 59, 156, 0, 7, 26, 28, 96, 59, 26, 172]
abbrev dktJ1_sub_0 : List UInt8 := dkwJ1_sub_0 ++ []
theorem dksJ1_sub_0 : cJ1_sub.data.toList.drop 0 = dktJ1_sub_0 := by decide +kernel
theorem dJ1_sub_0 : decode cJ1_sub 0 = .ok (.iload_n 0, 1) := dk_26 (dk_at dksJ1_sub_0 0 rfl rfl)
theorem dJ1_sub_1 : decode cJ1_sub 1 = .ok (.iload_n 1, 1) := dk_27 (dk_at dksJ1_sub_0 1 rfl rfl)
theorem dJ1_sub_2 : decode cJ1_sub 2 = .ok (.isub, 1) := dk_100 (dk_at dksJ1_sub_0 2 rfl rfl)
theorem dJ1_sub_3 : decode cJ1_sub 3 = .ok (.dup, 1) := dk_89 (dk_at dksJ1_sub_0 3 rfl rfl)
theorem dJ1_sub_4 : decode cJ1_sub 4 = .ok (.istore_n 0, 1) := dk_59 (dk_at dksJ1_sub_0 4 rfl rfl)
theorem dJ1_sub_5 : decode cJ1_sub 5 = .ok (.ifCond .ge 7, 3) := dk_156 0 7 (dk_at dksJ1_sub_0 5 rfl rfl)
theorem dJ1_sub_8 : decode cJ1_sub 8 = .ok (.iload_n 0, 1) := dk_26 (dk_at dksJ1_sub_0 8 rfl rfl)
theorem dJ1_sub_9 : decode cJ1_sub 9 = .ok (.iload_n 2, 1) := dk_28 (dk_at dksJ1_sub_0 9 rfl rfl)
theorem dJ1_sub_10 : decode cJ1_sub 10 = .ok (.iadd, 1) := dk_96 (dk_at dksJ1_sub_0 10 rfl rfl)
theorem dJ1_sub_11 : decode cJ1_sub 11 = .ok (.istore_n 0, 1) := dk_59 (dk_at dksJ1_sub_0 11 rfl rfl)
theorem dJ1_sub_12 : decode cJ1_sub 12 = .ok (.iload_n 0, 1) := dk_26 (dk_at dksJ1_sub_0 12 rfl rfl)
theorem dJ1_sub_13 : decode cJ1_sub 13 = .ok (.ireturn, 1) := dk_172 (dk_at dksJ1_sub_0 13 rfl rfl)
abbrev cJ1_removeFirst : ByteArray := prog_42_method_18_code
def yJ1_removeFirst : MethodName := ⟨RJ1, "removeFirst", "()Ljava/lang/Object;"⟩
def dkwJ1_removeFirst_0 : List UInt8 := [42, 182, 0, 93, 76, 43, 199, 0, 11, 187, 0, 97, 89, 183, 0, 99, 191, 43, 176]
abbrev dktJ1_removeFirst_0 : List UInt8 := dkwJ1_removeFirst_0 ++ []
theorem dksJ1_removeFirst_0 : cJ1_removeFirst.data.toList.drop 0 = dktJ1_removeFirst_0 := by decide +kernel
theorem dJ1_removeFirst_0 : decode cJ1_removeFirst 0 = .ok (.aload_n 0, 1) := dk_42 (dk_at dksJ1_removeFirst_0 0 rfl rfl)
theorem dJ1_removeFirst_1 : decode cJ1_removeFirst 1 = .ok (.invokevirtual 93, 3) := dk_182 0 93 (dk_at dksJ1_removeFirst_0 1 rfl rfl)
theorem dJ1_removeFirst_4 : decode cJ1_removeFirst 4 = .ok (.astore_n 1, 1) := dk_76 (dk_at dksJ1_removeFirst_0 4 rfl rfl)
theorem dJ1_removeFirst_5 : decode cJ1_removeFirst 5 = .ok (.aload_n 1, 1) := dk_43 (dk_at dksJ1_removeFirst_0 5 rfl rfl)
theorem dJ1_removeFirst_6 : decode cJ1_removeFirst 6 = .ok (.ifnonnull 11, 3) := dk_199 0 11 (dk_at dksJ1_removeFirst_0 6 rfl rfl)
theorem dJ1_removeFirst_9 : decode cJ1_removeFirst 9 = .ok (.new 97, 3) := dk_187 0 97 (dk_at dksJ1_removeFirst_0 9 rfl rfl)
theorem dJ1_removeFirst_12 : decode cJ1_removeFirst 12 = .ok (.dup, 1) := dk_89 (dk_at dksJ1_removeFirst_0 12 rfl rfl)
theorem dJ1_removeFirst_13 : decode cJ1_removeFirst 13 = .ok (.invokespecial 99, 3) := dk_183 0 99 (dk_at dksJ1_removeFirst_0 13 rfl rfl)
theorem dJ1_removeFirst_16 : decode cJ1_removeFirst 16 = .ok (.athrow, 1) := dk_191 (dk_at dksJ1_removeFirst_0 16 rfl rfl)
theorem dJ1_removeFirst_17 : decode cJ1_removeFirst 17 = .ok (.aload_n 1, 1) := dk_43 (dk_at dksJ1_removeFirst_0 17 rfl rfl)
theorem dJ1_removeFirst_18 : decode cJ1_removeFirst 18 = .ok (.areturn, 1) := dk_176 (dk_at dksJ1_removeFirst_0 18 rfl rfl)
abbrev cJ1_pollFirst : ByteArray := prog_42_method_20_code
def yJ1_pollFirst : MethodName := ⟨RJ1, "pollFirst", "()Ljava/lang/Object;"⟩
def dkwJ1_pollFirst_1 : List UInt8 := [42, 28, 43, 190, 184, 0, 74, 181, 0, 24, 45, 176]
abbrev dktJ1_pollFirst_1 : List UInt8 := dkwJ1_pollFirst_1 ++ []
def dkwJ1_pollFirst_0 : List UInt8 := [42, 180, 0, 3, 89, 76, 42, 180, 0, 24, 89, 61, 184, 0, 103, 78, 45, 198, 0, 17, 43, 28, 1, 83]
abbrev dktJ1_pollFirst_0 : List UInt8 := dkwJ1_pollFirst_0 ++ dktJ1_pollFirst_1
theorem dksJ1_pollFirst_0 : cJ1_pollFirst.data.toList.drop 0 = dktJ1_pollFirst_0 := by decide +kernel
theorem dksJ1_pollFirst_1 : cJ1_pollFirst.data.toList.drop 24 = dktJ1_pollFirst_1 := dk_seg dksJ1_pollFirst_0 24 rfl rfl
theorem dJ1_pollFirst_0 : decode cJ1_pollFirst 0 = .ok (.aload_n 0, 1) := dk_42 (dk_at dksJ1_pollFirst_0 0 rfl rfl)
theorem dJ1_pollFirst_1 : decode cJ1_pollFirst 1 = .ok (.getfield 3, 3) := dk_180 0 3 (dk_at dksJ1_pollFirst_0 1 rfl rfl)
theorem dJ1_pollFirst_4 : decode cJ1_pollFirst 4 = .ok (.dup, 1) := dk_89 (dk_at dksJ1_pollFirst_0 4 rfl rfl)
theorem dJ1_pollFirst_5 : decode cJ1_pollFirst 5 = .ok (.astore_n 1, 1) := dk_76 (dk_at dksJ1_pollFirst_0 5 rfl rfl)
theorem dJ1_pollFirst_6 : decode cJ1_pollFirst 6 = .ok (.aload_n 0, 1) := dk_42 (dk_at dksJ1_pollFirst_0 6 rfl rfl)
theorem dJ1_pollFirst_7 : decode cJ1_pollFirst 7 = .ok (.getfield 24, 3) := dk_180 0 24 (dk_at dksJ1_pollFirst_0 7 rfl rfl)
theorem dJ1_pollFirst_10 : decode cJ1_pollFirst 10 = .ok (.dup, 1) := dk_89 (dk_at dksJ1_pollFirst_0 10 rfl rfl)
theorem dJ1_pollFirst_11 : decode cJ1_pollFirst 11 = .ok (.istore_n 2, 1) := dk_61 (dk_at dksJ1_pollFirst_0 11 rfl rfl)
theorem dJ1_pollFirst_12 : decode cJ1_pollFirst 12 = .ok (.invokestatic 103, 3) := dk_184 0 103 (dk_at dksJ1_pollFirst_0 12 rfl rfl)
theorem dJ1_pollFirst_15 : decode cJ1_pollFirst 15 = .ok (.astore_n 3, 1) := dk_78 (dk_at dksJ1_pollFirst_0 15 rfl rfl)
theorem dJ1_pollFirst_16 : decode cJ1_pollFirst 16 = .ok (.aload_n 3, 1) := dk_45 (dk_at dksJ1_pollFirst_0 16 rfl rfl)
theorem dJ1_pollFirst_17 : decode cJ1_pollFirst 17 = .ok (.ifnull 17, 3) := dk_198 0 17 (dk_at dksJ1_pollFirst_0 17 rfl rfl)
theorem dJ1_pollFirst_20 : decode cJ1_pollFirst 20 = .ok (.aload_n 1, 1) := dk_43 (dk_at dksJ1_pollFirst_0 20 rfl rfl)
theorem dJ1_pollFirst_21 : decode cJ1_pollFirst 21 = .ok (.iload_n 2, 1) := dk_28 (dk_at dksJ1_pollFirst_0 21 rfl rfl)
theorem dJ1_pollFirst_22 : decode cJ1_pollFirst 22 = .ok (.aconst_null, 1) := dk_1 (dk_at dksJ1_pollFirst_0 22 rfl rfl)
theorem dJ1_pollFirst_23 : decode cJ1_pollFirst 23 = .ok (.aastore, 1) := dk_83 (dk_at dksJ1_pollFirst_0 23 rfl rfl)
theorem dJ1_pollFirst_24 : decode cJ1_pollFirst 24 = .ok (.aload_n 0, 1) := dk_42 (dk_at dksJ1_pollFirst_1 0 rfl rfl)
theorem dJ1_pollFirst_25 : decode cJ1_pollFirst 25 = .ok (.iload_n 2, 1) := dk_28 (dk_at dksJ1_pollFirst_1 1 rfl rfl)
theorem dJ1_pollFirst_26 : decode cJ1_pollFirst 26 = .ok (.aload_n 1, 1) := dk_43 (dk_at dksJ1_pollFirst_1 2 rfl rfl)
theorem dJ1_pollFirst_27 : decode cJ1_pollFirst 27 = .ok (.arraylength, 1) := dk_190 (dk_at dksJ1_pollFirst_1 3 rfl rfl)
theorem dJ1_pollFirst_28 : decode cJ1_pollFirst 28 = .ok (.invokestatic 74, 3) := dk_184 0 74 (dk_at dksJ1_pollFirst_1 4 rfl rfl)
theorem dJ1_pollFirst_31 : decode cJ1_pollFirst 31 = .ok (.putfield 24, 3) := dk_181 0 24 (dk_at dksJ1_pollFirst_1 7 rfl rfl)
theorem dJ1_pollFirst_34 : decode cJ1_pollFirst 34 = .ok (.aload_n 3, 1) := dk_45 (dk_at dksJ1_pollFirst_1 10 rfl rfl)
theorem dJ1_pollFirst_35 : decode cJ1_pollFirst 35 = .ok (.areturn, 1) := dk_176 (dk_at dksJ1_pollFirst_1 11 rfl rfl)
abbrev cJ1_inc : ByteArray := prog_42_method_6_code
def yJ1_inc : MethodName := ⟨RJ1, "inc", "(II)I"⟩
def dkwJ1_inc_0 : List UInt8 := [132, 0, 1, 26, 27, 161, 0, 5, 3, 59, 26, 172]
abbrev dktJ1_inc_0 : List UInt8 := dkwJ1_inc_0 ++ []
theorem dksJ1_inc_0 : cJ1_inc.data.toList.drop 0 = dktJ1_inc_0 := by decide +kernel
theorem dJ1_inc_0 : decode cJ1_inc 0 = .ok (.iinc 0 1, 3) := dk_132 0 1 (dk_at dksJ1_inc_0 0 rfl rfl)
theorem dJ1_inc_3 : decode cJ1_inc 3 = .ok (.iload_n 0, 1) := dk_26 (dk_at dksJ1_inc_0 3 rfl rfl)
theorem dJ1_inc_4 : decode cJ1_inc 4 = .ok (.iload_n 1, 1) := dk_27 (dk_at dksJ1_inc_0 4 rfl rfl)
theorem dJ1_inc_5 : decode cJ1_inc 5 = .ok (.if_icmp .lt 5, 3) := dk_161 0 5 (dk_at dksJ1_inc_0 5 rfl rfl)
theorem dJ1_inc_8 : decode cJ1_inc 8 = .ok (.iconst 0, 1) := dk_3 (dk_at dksJ1_inc_0 8 rfl rfl)
theorem dJ1_inc_9 : decode cJ1_inc 9 = .ok (.istore_n 0, 1) := dk_59 (dk_at dksJ1_inc_0 9 rfl rfl)
theorem dJ1_inc_10 : decode cJ1_inc 10 = .ok (.iload_n 0, 1) := dk_26 (dk_at dksJ1_inc_0 10 rfl rfl)
theorem dJ1_inc_11 : decode cJ1_inc 11 = .ok (.ireturn, 1) := dk_172 (dk_at dksJ1_inc_0 11 rfl rfl)
abbrev cJ1_addLast : ByteArray := prog_42_method_13_code
def yJ1_addLast : MethodName := ⟨RJ1, "addLast", "(Ljava/lang/Object;)V"⟩
def dkwJ1_addLast_2 : List UInt8 := [182, 0, 71, 177]
abbrev dktJ1_addLast_2 : List UInt8 := dkwJ1_addLast_2 ++ []
def dkwJ1_addLast_1 : List UInt8 := [42, 180, 0, 24, 42, 42, 180, 0, 20, 44, 190, 184, 0, 74, 90, 181, 0, 20, 160, 0, 8, 42, 4]
abbrev dktJ1_addLast_1 : List UInt8 := dkwJ1_addLast_1 ++ dktJ1_addLast_2
def dkwJ1_addLast_0 : List UInt8 := [43, 199, 0, 11, 187, 0, 65, 89, 183, 0, 67, 191, 42, 180, 0, 3, 77, 44, 42, 180, 0, 20, 43, 83]
abbrev dktJ1_addLast_0 : List UInt8 := dkwJ1_addLast_0 ++ dktJ1_addLast_1
theorem dksJ1_addLast_0 : cJ1_addLast.data.toList.drop 0 = dktJ1_addLast_0 := by decide +kernel
theorem dksJ1_addLast_1 : cJ1_addLast.data.toList.drop 24 = dktJ1_addLast_1 := dk_seg dksJ1_addLast_0 24 rfl rfl
theorem dksJ1_addLast_2 : cJ1_addLast.data.toList.drop 47 = dktJ1_addLast_2 := dk_seg dksJ1_addLast_1 23 rfl rfl
theorem dJ1_addLast_0 : decode cJ1_addLast 0 = .ok (.aload_n 1, 1) := dk_43 (dk_at dksJ1_addLast_0 0 rfl rfl)
theorem dJ1_addLast_1 : decode cJ1_addLast 1 = .ok (.ifnonnull 11, 3) := dk_199 0 11 (dk_at dksJ1_addLast_0 1 rfl rfl)
theorem dJ1_addLast_4 : decode cJ1_addLast 4 = .ok (.new 65, 3) := dk_187 0 65 (dk_at dksJ1_addLast_0 4 rfl rfl)
theorem dJ1_addLast_7 : decode cJ1_addLast 7 = .ok (.dup, 1) := dk_89 (dk_at dksJ1_addLast_0 7 rfl rfl)
theorem dJ1_addLast_8 : decode cJ1_addLast 8 = .ok (.invokespecial 67, 3) := dk_183 0 67 (dk_at dksJ1_addLast_0 8 rfl rfl)
theorem dJ1_addLast_11 : decode cJ1_addLast 11 = .ok (.athrow, 1) := dk_191 (dk_at dksJ1_addLast_0 11 rfl rfl)
theorem dJ1_addLast_12 : decode cJ1_addLast 12 = .ok (.aload_n 0, 1) := dk_42 (dk_at dksJ1_addLast_0 12 rfl rfl)
theorem dJ1_addLast_13 : decode cJ1_addLast 13 = .ok (.getfield 3, 3) := dk_180 0 3 (dk_at dksJ1_addLast_0 13 rfl rfl)
theorem dJ1_addLast_16 : decode cJ1_addLast 16 = .ok (.astore_n 2, 1) := dk_77 (dk_at dksJ1_addLast_0 16 rfl rfl)
theorem dJ1_addLast_17 : decode cJ1_addLast 17 = .ok (.aload_n 2, 1) := dk_44 (dk_at dksJ1_addLast_0 17 rfl rfl)
theorem dJ1_addLast_18 : decode cJ1_addLast 18 = .ok (.aload_n 0, 1) := dk_42 (dk_at dksJ1_addLast_0 18 rfl rfl)
theorem dJ1_addLast_19 : decode cJ1_addLast 19 = .ok (.getfield 20, 3) := dk_180 0 20 (dk_at dksJ1_addLast_0 19 rfl rfl)
theorem dJ1_addLast_22 : decode cJ1_addLast 22 = .ok (.aload_n 1, 1) := dk_43 (dk_at dksJ1_addLast_0 22 rfl rfl)
theorem dJ1_addLast_23 : decode cJ1_addLast 23 = .ok (.aastore, 1) := dk_83 (dk_at dksJ1_addLast_0 23 rfl rfl)
theorem dJ1_addLast_24 : decode cJ1_addLast 24 = .ok (.aload_n 0, 1) := dk_42 (dk_at dksJ1_addLast_1 0 rfl rfl)
theorem dJ1_addLast_25 : decode cJ1_addLast 25 = .ok (.getfield 24, 3) := dk_180 0 24 (dk_at dksJ1_addLast_1 1 rfl rfl)
theorem dJ1_addLast_28 : decode cJ1_addLast 28 = .ok (.aload_n 0, 1) := dk_42 (dk_at dksJ1_addLast_1 4 rfl rfl)
theorem dJ1_addLast_29 : decode cJ1_addLast 29 = .ok (.aload_n 0, 1) := dk_42 (dk_at dksJ1_addLast_1 5 rfl rfl)
theorem dJ1_addLast_30 : decode cJ1_addLast 30 = .ok (.getfield 20, 3) := dk_180 0 20 (dk_at dksJ1_addLast_1 6 rfl rfl)
theorem dJ1_addLast_33 : decode cJ1_addLast 33 = .ok (.aload_n 2, 1) := dk_44 (dk_at dksJ1_addLast_1 9 rfl rfl)
theorem dJ1_addLast_34 : decode cJ1_addLast 34 = .ok (.arraylength, 1) := dk_190 (dk_at dksJ1_addLast_1 10 rfl rfl)
theorem dJ1_addLast_35 : decode cJ1_addLast 35 = .ok (.invokestatic 74, 3) := dk_184 0 74 (dk_at dksJ1_addLast_1 11 rfl rfl)
theorem dJ1_addLast_38 : decode cJ1_addLast 38 = .ok (.dup_x1, 1) := dk_90 (dk_at dksJ1_addLast_1 14 rfl rfl)
theorem dJ1_addLast_39 : decode cJ1_addLast 39 = .ok (.putfield 20, 3) := dk_181 0 20 (dk_at dksJ1_addLast_1 15 rfl rfl)
theorem dJ1_addLast_42 : decode cJ1_addLast 42 = .ok (.if_icmp .ne 8, 3) := dk_160 0 8 (dk_at dksJ1_addLast_1 18 rfl rfl)
theorem dJ1_addLast_45 : decode cJ1_addLast 45 = .ok (.aload_n 0, 1) := dk_42 (dk_at dksJ1_addLast_1 21 rfl rfl)
theorem dJ1_addLast_46 : decode cJ1_addLast 46 = .ok (.iconst 1, 1) := dk_4 (dk_at dksJ1_addLast_1 22 rfl rfl)
theorem dJ1_addLast_47 : decode cJ1_addLast 47 = .ok (.invokevirtual 71, 3) := dk_182 0 71 (dk_at dksJ1_addLast_2 0 rfl rfl)
theorem dJ1_addLast_50 : decode cJ1_addLast 50 = .ok (.return_, 1) := dk_177 (dk_at dksJ1_addLast_2 3 rfl rfl)
abbrev cJ1_grow : ByteArray := prog_42_method_1_code
def yJ1_grow : MethodName := ⟨RJ1, "grow", "(I)V"⟩
def dkwJ1_grow_7 : List UInt8 := [177]
abbrev dktJ1_grow_7 : List UInt8 := dkwJ1_grow_7 ++ []
def dkwJ1_grow_6 : List UInt8 := [181, 0, 24, 54, 8, 21, 7, 21, 8, 162, 0, 15, 25, 5, 21, 7, 1, 83, 132, 7, 1, 167, 255, 240]
abbrev dktJ1_grow_6 : List UInt8 := dkwJ1_grow_6 ++ dktJ1_grow_7
def dkwJ1_grow_5 : List UInt8 := [42, 180, 0, 24, 100, 184, 0, 27, 42, 180, 0, 24, 54, 7, 42, 89, 180, 0, 24, 21, 6, 96, 90]
abbrev dktJ1_grow_5 : List UInt8 := dkwJ1_grow_5 ++ dktJ1_grow_6
def dkwJ1_grow_4 : List UInt8 := [198, 0, 71, 29, 28, 100, 54, 6, 25, 5, 42, 180, 0, 24, 25, 5, 42, 180, 0, 24, 21, 6, 96, 28]
abbrev dktJ1_grow_4 : List UInt8 := dkwJ1_grow_4 ++ dktJ1_grow_5
def dkwJ1_grow_3 : List UInt8 := [180, 0, 24, 161, 0, 24, 42, 180, 0, 20, 42, 180, 0, 24, 160, 0, 81, 25, 5, 42, 180, 0, 24, 50]
abbrev dktJ1_grow_3 : List UInt8 := dkwJ1_grow_3 ++ dktJ1_grow_4
def dkwJ1_grow_2 : List UInt8 := [182, 0, 10, 62, 42, 42, 180, 0, 3, 29, 184, 0, 14, 90, 181, 0, 3, 58, 5, 42, 180, 0, 20, 42]
abbrev dktJ1_grow_2 : List UInt8 := dkwJ1_grow_2 ++ dktJ1_grow_3
def dkwJ1_grow_1 : List UInt8 := [21, 4, 27, 161, 0, 15, 28, 21, 4, 96, 89, 62, 18, 9, 100, 158, 0, 11, 42, 27, 21, 4]
abbrev dktJ1_grow_1 : List UInt8 := dkwJ1_grow_1 ++ dktJ1_grow_2
def dkwJ1_grow_0 : List UInt8 := [42, 180, 0, 3, 190, 61, 28, 16, 64, 162, 0, 9, 28, 5, 96, 167, 0, 6, 28, 4, 122, 54, 4]
abbrev dktJ1_grow_0 : List UInt8 := dkwJ1_grow_0 ++ dktJ1_grow_1
theorem dksJ1_grow_0 : cJ1_grow.data.toList.drop 0 = dktJ1_grow_0 := by decide +kernel
theorem dksJ1_grow_1 : cJ1_grow.data.toList.drop 23 = dktJ1_grow_1 := dk_seg dksJ1_grow_0 23 rfl rfl
theorem dksJ1_grow_2 : cJ1_grow.data.toList.drop 45 = dktJ1_grow_2 := dk_seg dksJ1_grow_1 22 rfl rfl
theorem dksJ1_grow_3 : cJ1_grow.data.toList.drop 69 = dktJ1_grow_3 := dk_seg dksJ1_grow_2 24 rfl rfl
theorem dksJ1_grow_4 : cJ1_grow.data.toList.drop 93 = dktJ1_grow_4 := dk_seg dksJ1_grow_3 24 rfl rfl
theorem dksJ1_grow_5 : cJ1_grow.data.toList.drop 117 = dktJ1_grow_5 := dk_seg dksJ1_grow_4 24 rfl rfl
theorem dksJ1_grow_6 : cJ1_grow.data.toList.drop 140 = dktJ1_grow_6 := dk_seg dksJ1_grow_5 23 rfl rfl
theorem dksJ1_grow_7 : cJ1_grow.data.toList.drop 164 = dktJ1_grow_7 := dk_seg dksJ1_grow_6 24 rfl rfl
theorem dJ1_grow_0 : decode cJ1_grow 0 = .ok (.aload_n 0, 1) := dk_42 (dk_at dksJ1_grow_0 0 rfl rfl)
theorem dJ1_grow_1 : decode cJ1_grow 1 = .ok (.getfield 3, 3) := dk_180 0 3 (dk_at dksJ1_grow_0 1 rfl rfl)
theorem dJ1_grow_4 : decode cJ1_grow 4 = .ok (.arraylength, 1) := dk_190 (dk_at dksJ1_grow_0 4 rfl rfl)
theorem dJ1_grow_5 : decode cJ1_grow 5 = .ok (.istore_n 2, 1) := dk_61 (dk_at dksJ1_grow_0 5 rfl rfl)
theorem dJ1_grow_6 : decode cJ1_grow 6 = .ok (.iload_n 2, 1) := dk_28 (dk_at dksJ1_grow_0 6 rfl rfl)
theorem dJ1_grow_7 : decode cJ1_grow 7 = .ok (.bipush 64, 2) := dk_16 64 (dk_at dksJ1_grow_0 7 rfl rfl)
theorem dJ1_grow_9 : decode cJ1_grow 9 = .ok (.if_icmp .ge 9, 3) := dk_162 0 9 (dk_at dksJ1_grow_0 9 rfl rfl)
theorem dJ1_grow_12 : decode cJ1_grow 12 = .ok (.iload_n 2, 1) := dk_28 (dk_at dksJ1_grow_0 12 rfl rfl)
theorem dJ1_grow_13 : decode cJ1_grow 13 = .ok (.iconst 2, 1) := dk_5 (dk_at dksJ1_grow_0 13 rfl rfl)
theorem dJ1_grow_14 : decode cJ1_grow 14 = .ok (.iadd, 1) := dk_96 (dk_at dksJ1_grow_0 14 rfl rfl)
theorem dJ1_grow_15 : decode cJ1_grow 15 = .ok (.goto 6, 3) := dk_167 0 6 (dk_at dksJ1_grow_0 15 rfl rfl)
theorem dJ1_grow_18 : decode cJ1_grow 18 = .ok (.iload_n 2, 1) := dk_28 (dk_at dksJ1_grow_0 18 rfl rfl)
theorem dJ1_grow_19 : decode cJ1_grow 19 = .ok (.iconst 1, 1) := dk_4 (dk_at dksJ1_grow_0 19 rfl rfl)
theorem dJ1_grow_20 : decode cJ1_grow 20 = .ok (.ishr, 1) := dk_122 (dk_at dksJ1_grow_0 20 rfl rfl)
theorem dJ1_grow_21 : decode cJ1_grow 21 = .ok (.istore 4, 2) := dk_54 4 (dk_at dksJ1_grow_0 21 rfl rfl)
theorem dJ1_grow_23 : decode cJ1_grow 23 = .ok (.iload 4, 2) := dk_21 4 (dk_at dksJ1_grow_1 0 rfl rfl)
theorem dJ1_grow_25 : decode cJ1_grow 25 = .ok (.iload_n 1, 1) := dk_27 (dk_at dksJ1_grow_1 2 rfl rfl)
theorem dJ1_grow_26 : decode cJ1_grow 26 = .ok (.if_icmp .lt 15, 3) := dk_161 0 15 (dk_at dksJ1_grow_1 3 rfl rfl)
theorem dJ1_grow_29 : decode cJ1_grow 29 = .ok (.iload_n 2, 1) := dk_28 (dk_at dksJ1_grow_1 6 rfl rfl)
theorem dJ1_grow_30 : decode cJ1_grow 30 = .ok (.iload 4, 2) := dk_21 4 (dk_at dksJ1_grow_1 7 rfl rfl)
theorem dJ1_grow_32 : decode cJ1_grow 32 = .ok (.iadd, 1) := dk_96 (dk_at dksJ1_grow_1 9 rfl rfl)
theorem dJ1_grow_33 : decode cJ1_grow 33 = .ok (.dup, 1) := dk_89 (dk_at dksJ1_grow_1 10 rfl rfl)
theorem dJ1_grow_34 : decode cJ1_grow 34 = .ok (.istore_n 3, 1) := dk_62 (dk_at dksJ1_grow_1 11 rfl rfl)
theorem dJ1_grow_35 : decode cJ1_grow 35 = .ok (.ldc 9, 2) := dk_18 9 (dk_at dksJ1_grow_1 12 rfl rfl)
theorem dJ1_grow_37 : decode cJ1_grow 37 = .ok (.isub, 1) := dk_100 (dk_at dksJ1_grow_1 14 rfl rfl)
theorem dJ1_grow_38 : decode cJ1_grow 38 = .ok (.ifCond .le 11, 3) := dk_158 0 11 (dk_at dksJ1_grow_1 15 rfl rfl)
theorem dJ1_grow_41 : decode cJ1_grow 41 = .ok (.aload_n 0, 1) := dk_42 (dk_at dksJ1_grow_1 18 rfl rfl)
theorem dJ1_grow_42 : decode cJ1_grow 42 = .ok (.iload_n 1, 1) := dk_27 (dk_at dksJ1_grow_1 19 rfl rfl)
theorem dJ1_grow_43 : decode cJ1_grow 43 = .ok (.iload 4, 2) := dk_21 4 (dk_at dksJ1_grow_1 20 rfl rfl)
theorem dJ1_grow_45 : decode cJ1_grow 45 = .ok (.invokevirtual 10, 3) := dk_182 0 10 (dk_at dksJ1_grow_2 0 rfl rfl)
theorem dJ1_grow_48 : decode cJ1_grow 48 = .ok (.istore_n 3, 1) := dk_62 (dk_at dksJ1_grow_2 3 rfl rfl)
theorem dJ1_grow_49 : decode cJ1_grow 49 = .ok (.aload_n 0, 1) := dk_42 (dk_at dksJ1_grow_2 4 rfl rfl)
theorem dJ1_grow_50 : decode cJ1_grow 50 = .ok (.aload_n 0, 1) := dk_42 (dk_at dksJ1_grow_2 5 rfl rfl)
theorem dJ1_grow_51 : decode cJ1_grow 51 = .ok (.getfield 3, 3) := dk_180 0 3 (dk_at dksJ1_grow_2 6 rfl rfl)
theorem dJ1_grow_54 : decode cJ1_grow 54 = .ok (.iload_n 3, 1) := dk_29 (dk_at dksJ1_grow_2 9 rfl rfl)
theorem dJ1_grow_55 : decode cJ1_grow 55 = .ok (.invokestatic 14, 3) := dk_184 0 14 (dk_at dksJ1_grow_2 10 rfl rfl)
theorem dJ1_grow_58 : decode cJ1_grow 58 = .ok (.dup_x1, 1) := dk_90 (dk_at dksJ1_grow_2 13 rfl rfl)
theorem dJ1_grow_59 : decode cJ1_grow 59 = .ok (.putfield 3, 3) := dk_181 0 3 (dk_at dksJ1_grow_2 14 rfl rfl)
theorem dJ1_grow_62 : decode cJ1_grow 62 = .ok (.astore 5, 2) := dk_58 5 (dk_at dksJ1_grow_2 17 rfl rfl)
theorem dJ1_grow_64 : decode cJ1_grow 64 = .ok (.aload_n 0, 1) := dk_42 (dk_at dksJ1_grow_2 19 rfl rfl)
theorem dJ1_grow_65 : decode cJ1_grow 65 = .ok (.getfield 20, 3) := dk_180 0 20 (dk_at dksJ1_grow_2 20 rfl rfl)
theorem dJ1_grow_68 : decode cJ1_grow 68 = .ok (.aload_n 0, 1) := dk_42 (dk_at dksJ1_grow_2 23 rfl rfl)
theorem dJ1_grow_69 : decode cJ1_grow 69 = .ok (.getfield 24, 3) := dk_180 0 24 (dk_at dksJ1_grow_3 0 rfl rfl)
theorem dJ1_grow_72 : decode cJ1_grow 72 = .ok (.if_icmp .lt 24, 3) := dk_161 0 24 (dk_at dksJ1_grow_3 3 rfl rfl)
theorem dJ1_grow_75 : decode cJ1_grow 75 = .ok (.aload_n 0, 1) := dk_42 (dk_at dksJ1_grow_3 6 rfl rfl)
theorem dJ1_grow_76 : decode cJ1_grow 76 = .ok (.getfield 20, 3) := dk_180 0 20 (dk_at dksJ1_grow_3 7 rfl rfl)
theorem dJ1_grow_79 : decode cJ1_grow 79 = .ok (.aload_n 0, 1) := dk_42 (dk_at dksJ1_grow_3 10 rfl rfl)
theorem dJ1_grow_80 : decode cJ1_grow 80 = .ok (.getfield 24, 3) := dk_180 0 24 (dk_at dksJ1_grow_3 11 rfl rfl)
theorem dJ1_grow_83 : decode cJ1_grow 83 = .ok (.if_icmp .ne 81, 3) := dk_160 0 81 (dk_at dksJ1_grow_3 14 rfl rfl)
theorem dJ1_grow_86 : decode cJ1_grow 86 = .ok (.aload 5, 2) := dk_25 5 (dk_at dksJ1_grow_3 17 rfl rfl)
theorem dJ1_grow_88 : decode cJ1_grow 88 = .ok (.aload_n 0, 1) := dk_42 (dk_at dksJ1_grow_3 19 rfl rfl)
theorem dJ1_grow_89 : decode cJ1_grow 89 = .ok (.getfield 24, 3) := dk_180 0 24 (dk_at dksJ1_grow_3 20 rfl rfl)
theorem dJ1_grow_92 : decode cJ1_grow 92 = .ok (.aaload, 1) := dk_50 (dk_at dksJ1_grow_3 23 rfl rfl)
theorem dJ1_grow_93 : decode cJ1_grow 93 = .ok (.ifnull 71, 3) := dk_198 0 71 (dk_at dksJ1_grow_4 0 rfl rfl)
theorem dJ1_grow_96 : decode cJ1_grow 96 = .ok (.iload_n 3, 1) := dk_29 (dk_at dksJ1_grow_4 3 rfl rfl)
theorem dJ1_grow_97 : decode cJ1_grow 97 = .ok (.iload_n 2, 1) := dk_28 (dk_at dksJ1_grow_4 4 rfl rfl)
theorem dJ1_grow_98 : decode cJ1_grow 98 = .ok (.isub, 1) := dk_100 (dk_at dksJ1_grow_4 5 rfl rfl)
theorem dJ1_grow_99 : decode cJ1_grow 99 = .ok (.istore 6, 2) := dk_54 6 (dk_at dksJ1_grow_4 6 rfl rfl)
theorem dJ1_grow_101 : decode cJ1_grow 101 = .ok (.aload 5, 2) := dk_25 5 (dk_at dksJ1_grow_4 8 rfl rfl)
theorem dJ1_grow_103 : decode cJ1_grow 103 = .ok (.aload_n 0, 1) := dk_42 (dk_at dksJ1_grow_4 10 rfl rfl)
theorem dJ1_grow_104 : decode cJ1_grow 104 = .ok (.getfield 24, 3) := dk_180 0 24 (dk_at dksJ1_grow_4 11 rfl rfl)
theorem dJ1_grow_107 : decode cJ1_grow 107 = .ok (.aload 5, 2) := dk_25 5 (dk_at dksJ1_grow_4 14 rfl rfl)
theorem dJ1_grow_109 : decode cJ1_grow 109 = .ok (.aload_n 0, 1) := dk_42 (dk_at dksJ1_grow_4 16 rfl rfl)
theorem dJ1_grow_110 : decode cJ1_grow 110 = .ok (.getfield 24, 3) := dk_180 0 24 (dk_at dksJ1_grow_4 17 rfl rfl)
theorem dJ1_grow_113 : decode cJ1_grow 113 = .ok (.iload 6, 2) := dk_21 6 (dk_at dksJ1_grow_4 20 rfl rfl)
theorem dJ1_grow_115 : decode cJ1_grow 115 = .ok (.iadd, 1) := dk_96 (dk_at dksJ1_grow_4 22 rfl rfl)
theorem dJ1_grow_116 : decode cJ1_grow 116 = .ok (.iload_n 2, 1) := dk_28 (dk_at dksJ1_grow_4 23 rfl rfl)
theorem dJ1_grow_117 : decode cJ1_grow 117 = .ok (.aload_n 0, 1) := dk_42 (dk_at dksJ1_grow_5 0 rfl rfl)
theorem dJ1_grow_118 : decode cJ1_grow 118 = .ok (.getfield 24, 3) := dk_180 0 24 (dk_at dksJ1_grow_5 1 rfl rfl)
theorem dJ1_grow_121 : decode cJ1_grow 121 = .ok (.isub, 1) := dk_100 (dk_at dksJ1_grow_5 4 rfl rfl)
theorem dJ1_grow_122 : decode cJ1_grow 122 = .ok (.invokestatic 27, 3) := dk_184 0 27 (dk_at dksJ1_grow_5 5 rfl rfl)
theorem dJ1_grow_125 : decode cJ1_grow 125 = .ok (.aload_n 0, 1) := dk_42 (dk_at dksJ1_grow_5 8 rfl rfl)
theorem dJ1_grow_126 : decode cJ1_grow 126 = .ok (.getfield 24, 3) := dk_180 0 24 (dk_at dksJ1_grow_5 9 rfl rfl)
theorem dJ1_grow_129 : decode cJ1_grow 129 = .ok (.istore 7, 2) := dk_54 7 (dk_at dksJ1_grow_5 12 rfl rfl)
theorem dJ1_grow_131 : decode cJ1_grow 131 = .ok (.aload_n 0, 1) := dk_42 (dk_at dksJ1_grow_5 14 rfl rfl)
theorem dJ1_grow_132 : decode cJ1_grow 132 = .ok (.dup, 1) := dk_89 (dk_at dksJ1_grow_5 15 rfl rfl)
theorem dJ1_grow_133 : decode cJ1_grow 133 = .ok (.getfield 24, 3) := dk_180 0 24 (dk_at dksJ1_grow_5 16 rfl rfl)
theorem dJ1_grow_136 : decode cJ1_grow 136 = .ok (.iload 6, 2) := dk_21 6 (dk_at dksJ1_grow_5 19 rfl rfl)
theorem dJ1_grow_138 : decode cJ1_grow 138 = .ok (.iadd, 1) := dk_96 (dk_at dksJ1_grow_5 21 rfl rfl)
theorem dJ1_grow_139 : decode cJ1_grow 139 = .ok (.dup_x1, 1) := dk_90 (dk_at dksJ1_grow_5 22 rfl rfl)
theorem dJ1_grow_140 : decode cJ1_grow 140 = .ok (.putfield 24, 3) := dk_181 0 24 (dk_at dksJ1_grow_6 0 rfl rfl)
theorem dJ1_grow_143 : decode cJ1_grow 143 = .ok (.istore 8, 2) := dk_54 8 (dk_at dksJ1_grow_6 3 rfl rfl)
theorem dJ1_grow_145 : decode cJ1_grow 145 = .ok (.iload 7, 2) := dk_21 7 (dk_at dksJ1_grow_6 5 rfl rfl)
theorem dJ1_grow_147 : decode cJ1_grow 147 = .ok (.iload 8, 2) := dk_21 8 (dk_at dksJ1_grow_6 7 rfl rfl)
theorem dJ1_grow_149 : decode cJ1_grow 149 = .ok (.if_icmp .ge 15, 3) := dk_162 0 15 (dk_at dksJ1_grow_6 9 rfl rfl)
theorem dJ1_grow_152 : decode cJ1_grow 152 = .ok (.aload 5, 2) := dk_25 5 (dk_at dksJ1_grow_6 12 rfl rfl)
theorem dJ1_grow_154 : decode cJ1_grow 154 = .ok (.iload 7, 2) := dk_21 7 (dk_at dksJ1_grow_6 14 rfl rfl)
theorem dJ1_grow_156 : decode cJ1_grow 156 = .ok (.aconst_null, 1) := dk_1 (dk_at dksJ1_grow_6 16 rfl rfl)
theorem dJ1_grow_157 : decode cJ1_grow 157 = .ok (.aastore, 1) := dk_83 (dk_at dksJ1_grow_6 17 rfl rfl)
theorem dJ1_grow_158 : decode cJ1_grow 158 = .ok (.iinc 7 1, 3) := dk_132 7 1 (dk_at dksJ1_grow_6 18 rfl rfl)
theorem dJ1_grow_161 : decode cJ1_grow 161 = .ok (.goto (-16), 3) := dk_167 255 240 (dk_at dksJ1_grow_6 21 rfl rfl)
theorem dJ1_grow_164 : decode cJ1_grow 164 = .ok (.return_, 1) := dk_177 (dk_at dksJ1_grow_7 0 rfl rfl)
abbrev cJ1_newCapacity : ByteArray := prog_42_method_2_code
def yJ1_newCapacity : MethodName := ⟨RJ1, "newCapacity", "(II)I"⟩
def dkwJ1_newCapacity_2 : List UInt8 := [18, 9, 100, 156, 0, 9, 29, 28, 96, 167, 0, 5, 18, 9, 172]
abbrev dktJ1_newCapacity_2 : List UInt8 := dkwJ1_newCapacity_2 ++ []
def dkwJ1_newCapacity_1 : List UInt8 := [187, 0, 33, 89, 18, 35, 183, 0, 37, 191, 18, 41, 172, 27, 28, 164, 0, 6, 21, 4, 172, 29, 28, 96]
abbrev dktJ1_newCapacity_1 : List UInt8 := dkwJ1_newCapacity_1 ++ dktJ1_newCapacity_2
def dkwJ1_newCapacity_0 : List UInt8 := [42, 180, 0, 3, 190, 62, 29, 27, 96, 89, 54, 4, 18, 9, 100, 158, 0, 21, 21, 4, 156, 0, 13]
abbrev dktJ1_newCapacity_0 : List UInt8 := dkwJ1_newCapacity_0 ++ dktJ1_newCapacity_1
theorem dksJ1_newCapacity_0 : cJ1_newCapacity.data.toList.drop 0 = dktJ1_newCapacity_0 := by decide +kernel
theorem dksJ1_newCapacity_1 : cJ1_newCapacity.data.toList.drop 23 = dktJ1_newCapacity_1 := dk_seg dksJ1_newCapacity_0 23 rfl rfl
theorem dksJ1_newCapacity_2 : cJ1_newCapacity.data.toList.drop 47 = dktJ1_newCapacity_2 := dk_seg dksJ1_newCapacity_1 24 rfl rfl
theorem dJ1_newCapacity_0 : decode cJ1_newCapacity 0 = .ok (.aload_n 0, 1) := dk_42 (dk_at dksJ1_newCapacity_0 0 rfl rfl)
theorem dJ1_newCapacity_1 : decode cJ1_newCapacity 1 = .ok (.getfield 3, 3) := dk_180 0 3 (dk_at dksJ1_newCapacity_0 1 rfl rfl)
theorem dJ1_newCapacity_4 : decode cJ1_newCapacity 4 = .ok (.arraylength, 1) := dk_190 (dk_at dksJ1_newCapacity_0 4 rfl rfl)
theorem dJ1_newCapacity_5 : decode cJ1_newCapacity 5 = .ok (.istore_n 3, 1) := dk_62 (dk_at dksJ1_newCapacity_0 5 rfl rfl)
theorem dJ1_newCapacity_6 : decode cJ1_newCapacity 6 = .ok (.iload_n 3, 1) := dk_29 (dk_at dksJ1_newCapacity_0 6 rfl rfl)
theorem dJ1_newCapacity_7 : decode cJ1_newCapacity 7 = .ok (.iload_n 1, 1) := dk_27 (dk_at dksJ1_newCapacity_0 7 rfl rfl)
theorem dJ1_newCapacity_8 : decode cJ1_newCapacity 8 = .ok (.iadd, 1) := dk_96 (dk_at dksJ1_newCapacity_0 8 rfl rfl)
theorem dJ1_newCapacity_9 : decode cJ1_newCapacity 9 = .ok (.dup, 1) := dk_89 (dk_at dksJ1_newCapacity_0 9 rfl rfl)
theorem dJ1_newCapacity_10 : decode cJ1_newCapacity 10 = .ok (.istore 4, 2) := dk_54 4 (dk_at dksJ1_newCapacity_0 10 rfl rfl)
theorem dJ1_newCapacity_12 : decode cJ1_newCapacity 12 = .ok (.ldc 9, 2) := dk_18 9 (dk_at dksJ1_newCapacity_0 12 rfl rfl)
theorem dJ1_newCapacity_14 : decode cJ1_newCapacity 14 = .ok (.isub, 1) := dk_100 (dk_at dksJ1_newCapacity_0 14 rfl rfl)
theorem dJ1_newCapacity_15 : decode cJ1_newCapacity 15 = .ok (.ifCond .le 21, 3) := dk_158 0 21 (dk_at dksJ1_newCapacity_0 15 rfl rfl)
theorem dJ1_newCapacity_18 : decode cJ1_newCapacity 18 = .ok (.iload 4, 2) := dk_21 4 (dk_at dksJ1_newCapacity_0 18 rfl rfl)
theorem dJ1_newCapacity_20 : decode cJ1_newCapacity 20 = .ok (.ifCond .ge 13, 3) := dk_156 0 13 (dk_at dksJ1_newCapacity_0 20 rfl rfl)
theorem dJ1_newCapacity_23 : decode cJ1_newCapacity 23 = .ok (.new 33, 3) := dk_187 0 33 (dk_at dksJ1_newCapacity_1 0 rfl rfl)
theorem dJ1_newCapacity_26 : decode cJ1_newCapacity 26 = .ok (.dup, 1) := dk_89 (dk_at dksJ1_newCapacity_1 3 rfl rfl)
theorem dJ1_newCapacity_27 : decode cJ1_newCapacity 27 = .ok (.ldc 35, 2) := dk_18 35 (dk_at dksJ1_newCapacity_1 4 rfl rfl)
theorem dJ1_newCapacity_29 : decode cJ1_newCapacity 29 = .ok (.invokespecial 37, 3) := dk_183 0 37 (dk_at dksJ1_newCapacity_1 6 rfl rfl)
theorem dJ1_newCapacity_32 : decode cJ1_newCapacity 32 = .ok (.athrow, 1) := dk_191 (dk_at dksJ1_newCapacity_1 9 rfl rfl)
theorem dJ1_newCapacity_33 : decode cJ1_newCapacity 33 = .ok (.ldc 41, 2) := dk_18 41 (dk_at dksJ1_newCapacity_1 10 rfl rfl)
theorem dJ1_newCapacity_35 : decode cJ1_newCapacity 35 = .ok (.ireturn, 1) := dk_172 (dk_at dksJ1_newCapacity_1 12 rfl rfl)
theorem dJ1_newCapacity_36 : decode cJ1_newCapacity 36 = .ok (.iload_n 1, 1) := dk_27 (dk_at dksJ1_newCapacity_1 13 rfl rfl)
theorem dJ1_newCapacity_37 : decode cJ1_newCapacity 37 = .ok (.iload_n 2, 1) := dk_28 (dk_at dksJ1_newCapacity_1 14 rfl rfl)
theorem dJ1_newCapacity_38 : decode cJ1_newCapacity 38 = .ok (.if_icmp .le 6, 3) := dk_164 0 6 (dk_at dksJ1_newCapacity_1 15 rfl rfl)
theorem dJ1_newCapacity_41 : decode cJ1_newCapacity 41 = .ok (.iload 4, 2) := dk_21 4 (dk_at dksJ1_newCapacity_1 18 rfl rfl)
theorem dJ1_newCapacity_43 : decode cJ1_newCapacity 43 = .ok (.ireturn, 1) := dk_172 (dk_at dksJ1_newCapacity_1 20 rfl rfl)
theorem dJ1_newCapacity_44 : decode cJ1_newCapacity 44 = .ok (.iload_n 3, 1) := dk_29 (dk_at dksJ1_newCapacity_1 21 rfl rfl)
theorem dJ1_newCapacity_45 : decode cJ1_newCapacity 45 = .ok (.iload_n 2, 1) := dk_28 (dk_at dksJ1_newCapacity_1 22 rfl rfl)
theorem dJ1_newCapacity_46 : decode cJ1_newCapacity 46 = .ok (.iadd, 1) := dk_96 (dk_at dksJ1_newCapacity_1 23 rfl rfl)
theorem dJ1_newCapacity_47 : decode cJ1_newCapacity 47 = .ok (.ldc 9, 2) := dk_18 9 (dk_at dksJ1_newCapacity_2 0 rfl rfl)
theorem dJ1_newCapacity_49 : decode cJ1_newCapacity 49 = .ok (.isub, 1) := dk_100 (dk_at dksJ1_newCapacity_2 2 rfl rfl)
theorem dJ1_newCapacity_50 : decode cJ1_newCapacity 50 = .ok (.ifCond .ge 9, 3) := dk_156 0 9 (dk_at dksJ1_newCapacity_2 3 rfl rfl)
theorem dJ1_newCapacity_53 : decode cJ1_newCapacity 53 = .ok (.iload_n 3, 1) := dk_29 (dk_at dksJ1_newCapacity_2 6 rfl rfl)
theorem dJ1_newCapacity_54 : decode cJ1_newCapacity 54 = .ok (.iload_n 2, 1) := dk_28 (dk_at dksJ1_newCapacity_2 7 rfl rfl)
theorem dJ1_newCapacity_55 : decode cJ1_newCapacity 55 = .ok (.iadd, 1) := dk_96 (dk_at dksJ1_newCapacity_2 8 rfl rfl)
theorem dJ1_newCapacity_56 : decode cJ1_newCapacity 56 = .ok (.goto 5, 3) := dk_167 0 5 (dk_at dksJ1_newCapacity_2 9 rfl rfl)
theorem dJ1_newCapacity_59 : decode cJ1_newCapacity 59 = .ok (.ldc 9, 2) := dk_18 9 (dk_at dksJ1_newCapacity_2 12 rfl rfl)
theorem dJ1_newCapacity_61 : decode cJ1_newCapacity 61 = .ok (.ireturn, 1) := dk_172 (dk_at dksJ1_newCapacity_2 14 rfl rfl)
abbrev cJ3_init : ByteArray := prog_43_method_2_code
def yJ3_init : MethodName := ⟨RJ3, "<init>", "()V"⟩
def dkwJ3_init_0 : List UInt8 := [42, 183, 0, 1, 42, 178, 0, 39, 181, 0, 9, 177]
abbrev dktJ3_init_0 : List UInt8 := dkwJ3_init_0 ++ []
theorem dksJ3_init_0 : cJ3_init.data.toList.drop 0 = dktJ3_init_0 := by decide +kernel
theorem dJ3_init_0 : decode cJ3_init 0 = .ok (.aload_n 0, 1) := dk_42 (dk_at dksJ3_init_0 0 rfl rfl)
theorem dJ3_init_1 : decode cJ3_init 1 = .ok (.invokespecial 1, 3) := dk_183 0 1 (dk_at dksJ3_init_0 1 rfl rfl)
theorem dJ3_init_4 : decode cJ3_init 4 = .ok (.aload_n 0, 1) := dk_42 (dk_at dksJ3_init_0 4 rfl rfl)
theorem dJ3_init_5 : decode cJ3_init 5 = .ok (.getstatic 39, 3) := dk_178 0 39 (dk_at dksJ3_init_0 5 rfl rfl)
theorem dJ3_init_8 : decode cJ3_init 8 = .ok (.putfield 9, 3) := dk_181 0 9 (dk_at dksJ3_init_0 8 rfl rfl)
theorem dJ3_init_11 : decode cJ3_init 11 = .ok (.return_, 1) := dk_177 (dk_at dksJ3_init_0 11 rfl rfl)
abbrev cJ3_size : ByteArray := prog_43_method_8_code
def yJ3_size : MethodName := ⟨RJ3, "size", "()I"⟩
theorem dJ3_size_0 : decode cJ3_size 0 = .ok (.aload_n 0, 1) := by decide +kernel
theorem dJ3_size_1 : decode cJ3_size 1 = .ok (.getfield 48, 3) := by decide +kernel
theorem dJ3_size_4 : decode cJ3_size 4 = .ok (.ireturn, 1) := by decide +kernel
abbrev cJ3_get : ByteArray := prog_43_method_20_code
def yJ3_get : MethodName := ⟨RJ3, "get", "(I)Ljava/lang/Object;"⟩
def dkwJ3_get_0 : List UInt8 := [27, 42, 180, 0, 48, 184, 0, 118, 87, 42, 27, 182, 0, 123, 176]
abbrev dktJ3_get_0 : List UInt8 := dkwJ3_get_0 ++ []
theorem dksJ3_get_0 : cJ3_get.data.toList.drop 0 = dktJ3_get_0 := by decide +kernel
theorem dJ3_get_0 : decode cJ3_get 0 = .ok (.iload_n 1, 1) := dk_27 (dk_at dksJ3_get_0 0 rfl rfl)
theorem dJ3_get_1 : decode cJ3_get 1 = .ok (.aload_n 0, 1) := dk_42 (dk_at dksJ3_get_0 1 rfl rfl)
theorem dJ3_get_2 : decode cJ3_get 2 = .ok (.getfield 48, 3) := dk_180 0 48 (dk_at dksJ3_get_0 2 rfl rfl)
theorem dJ3_get_5 : decode cJ3_get 5 = .ok (.invokestatic 118, 3) := dk_184 0 118 (dk_at dksJ3_get_0 5 rfl rfl)
theorem dJ3_get_8 : decode cJ3_get 8 = .ok (.pop, 1) := dk_87 (dk_at dksJ3_get_0 8 rfl rfl)
theorem dJ3_get_9 : decode cJ3_get 9 = .ok (.aload_n 0, 1) := dk_42 (dk_at dksJ3_get_0 9 rfl rfl)
theorem dJ3_get_10 : decode cJ3_get 10 = .ok (.iload_n 1, 1) := dk_27 (dk_at dksJ3_get_0 10 rfl rfl)
theorem dJ3_get_11 : decode cJ3_get 11 = .ok (.invokevirtual 123, 3) := dk_182 0 123 (dk_at dksJ3_get_0 11 rfl rfl)
theorem dJ3_get_14 : decode cJ3_get 14 = .ok (.areturn, 1) := dk_176 (dk_at dksJ3_get_0 14 rfl rfl)
abbrev cJ3_elementData : ByteArray := prog_43_method_18_code
def yJ3_elementData : MethodName := ⟨RJ3, "elementData", "(I)Ljava/lang/Object;"⟩
def dkwJ3_elementData_0 : List UInt8 := [42, 180, 0, 9, 27, 50, 176]
abbrev dktJ3_elementData_0 : List UInt8 := dkwJ3_elementData_0 ++ []
theorem dksJ3_elementData_0 : cJ3_elementData.data.toList.drop 0 = dktJ3_elementData_0 := by decide +kernel
theorem dJ3_elementData_0 : decode cJ3_elementData 0 = .ok (.aload_n 0, 1) := dk_42 (dk_at dksJ3_elementData_0 0 rfl rfl)
theorem dJ3_elementData_1 : decode cJ3_elementData 1 = .ok (.getfield 9, 3) := dk_180 0 9 (dk_at dksJ3_elementData_0 1 rfl rfl)
theorem dJ3_elementData_4 : decode cJ3_elementData 4 = .ok (.iload_n 1, 1) := dk_27 (dk_at dksJ3_elementData_0 4 rfl rfl)
theorem dJ3_elementData_5 : decode cJ3_elementData 5 = .ok (.aaload, 1) := dk_50 (dk_at dksJ3_elementData_0 5 rfl rfl)
theorem dJ3_elementData_6 : decode cJ3_elementData 6 = .ok (.areturn, 1) := dk_176 (dk_at dksJ3_elementData_0 6 rfl rfl)
abbrev cJ3_add : ByteArray := prog_43_method_25_code
def yJ3_add : MethodName := ⟨RJ3, "add", "(Ljava/lang/Object;)Z"⟩
def dkwJ3_add_1 : List UInt8 := [172]
abbrev dktJ3_add_1 : List UInt8 := dkwJ3_add_1 ++ []
def dkwJ3_add_0 : List UInt8 := [42, 89, 180, 0, 63, 4, 96, 181, 0, 63, 42, 43, 42, 180, 0, 9, 42, 180, 0, 48, 182, 0, 131, 4]
abbrev dktJ3_add_0 : List UInt8 := dkwJ3_add_0 ++ dktJ3_add_1
theorem dksJ3_add_0 : cJ3_add.data.toList.drop 0 = dktJ3_add_0 := by decide +kernel
theorem dksJ3_add_1 : cJ3_add.data.toList.drop 24 = dktJ3_add_1 := dk_seg dksJ3_add_0 24 rfl rfl
theorem dJ3_add_0 : decode cJ3_add 0 = .ok (.aload_n 0, 1) := dk_42 (dk_at dksJ3_add_0 0 rfl rfl)
theorem dJ3_add_1 : decode cJ3_add 1 = .ok (.dup, 1) := dk_89 (dk_at dksJ3_add_0 1 rfl rfl)
theorem dJ3_add_2 : decode cJ3_add 2 = .ok (.getfield 63, 3) := dk_180 0 63 (dk_at dksJ3_add_0 2 rfl rfl)
theorem dJ3_add_5 : decode cJ3_add 5 = .ok (.iconst 1, 1) := dk_4 (dk_at dksJ3_add_0 5 rfl rfl)
theorem dJ3_add_6 : decode cJ3_add 6 = .ok (.iadd, 1) := dk_96 (dk_at dksJ3_add_0 6 rfl rfl)
theorem dJ3_add_7 : decode cJ3_add 7 = .ok (.putfield 63, 3) := dk_181 0 63 (dk_at dksJ3_add_0 7 rfl rfl)
theorem dJ3_add_10 : decode cJ3_add 10 = .ok (.aload_n 0, 1) := dk_42 (dk_at dksJ3_add_0 10 rfl rfl)
theorem dJ3_add_11 : decode cJ3_add 11 = .ok (.aload_n 1, 1) := dk_43 (dk_at dksJ3_add_0 11 rfl rfl)
theorem dJ3_add_12 : decode cJ3_add 12 = .ok (.aload_n 0, 1) := dk_42 (dk_at dksJ3_add_0 12 rfl rfl)
theorem dJ3_add_13 : decode cJ3_add 13 = .ok (.getfield 9, 3) := dk_180 0 9 (dk_at dksJ3_add_0 13 rfl rfl)
theorem dJ3_add_16 : decode cJ3_add 16 = .ok (.aload_n 0, 1) := dk_42 (dk_at dksJ3_add_0 16 rfl rfl)
theorem dJ3_add_17 : decode cJ3_add 17 = .ok (.getfield 48, 3) := dk_180 0 48 (dk_at dksJ3_add_0 17 rfl rfl)
theorem dJ3_add_20 : decode cJ3_add 20 = .ok (.invokevirtual 131, 3) := dk_182 0 131 (dk_at dksJ3_add_0 20 rfl rfl)
theorem dJ3_add_23 : decode cJ3_add 23 = .ok (.iconst 1, 1) := dk_4 (dk_at dksJ3_add_0 23 rfl rfl)
theorem dJ3_add_24 : decode cJ3_add 24 = .ok (.ireturn, 1) := dk_172 (dk_at dksJ3_add_1 0 rfl rfl)
abbrev cJ3_add_2 : ByteArray := prog_43_method_24_code
def yJ3_add_2 : MethodName := ⟨RJ3, "add", "(Ljava/lang/Object;[Ljava/lang/Object;I)V"⟩
def dkwJ3_add_2_0 : List UInt8 := [29, 44, 190, 160, 0, 8, 42, 182, 0, 129, 77, 44, 29, 43, 83, 42, 29, 4, 96, 181, 0, 48, 177]
abbrev dktJ3_add_2_0 : List UInt8 := dkwJ3_add_2_0 ++ []
theorem dksJ3_add_2_0 : cJ3_add_2.data.toList.drop 0 = dktJ3_add_2_0 := by decide +kernel
theorem dJ3_add_2_0 : decode cJ3_add_2 0 = .ok (.iload_n 3, 1) := dk_29 (dk_at dksJ3_add_2_0 0 rfl rfl)
theorem dJ3_add_2_1 : decode cJ3_add_2 1 = .ok (.aload_n 2, 1) := dk_44 (dk_at dksJ3_add_2_0 1 rfl rfl)
theorem dJ3_add_2_2 : decode cJ3_add_2 2 = .ok (.arraylength, 1) := dk_190 (dk_at dksJ3_add_2_0 2 rfl rfl)
theorem dJ3_add_2_3 : decode cJ3_add_2 3 = .ok (.if_icmp .ne 8, 3) := dk_160 0 8 (dk_at dksJ3_add_2_0 3 rfl rfl)
theorem dJ3_add_2_6 : decode cJ3_add_2 6 = .ok (.aload_n 0, 1) := dk_42 (dk_at dksJ3_add_2_0 6 rfl rfl)
theorem dJ3_add_2_7 : decode cJ3_add_2 7 = .ok (.invokevirtual 129, 3) := dk_182 0 129 (dk_at dksJ3_add_2_0 7 rfl rfl)
theorem dJ3_add_2_10 : decode cJ3_add_2 10 = .ok (.astore_n 2, 1) := dk_77 (dk_at dksJ3_add_2_0 10 rfl rfl)
theorem dJ3_add_2_11 : decode cJ3_add_2 11 = .ok (.aload_n 2, 1) := dk_44 (dk_at dksJ3_add_2_0 11 rfl rfl)
theorem dJ3_add_2_12 : decode cJ3_add_2 12 = .ok (.iload_n 3, 1) := dk_29 (dk_at dksJ3_add_2_0 12 rfl rfl)
theorem dJ3_add_2_13 : decode cJ3_add_2 13 = .ok (.aload_n 1, 1) := dk_43 (dk_at dksJ3_add_2_0 13 rfl rfl)
theorem dJ3_add_2_14 : decode cJ3_add_2 14 = .ok (.aastore, 1) := dk_83 (dk_at dksJ3_add_2_0 14 rfl rfl)
theorem dJ3_add_2_15 : decode cJ3_add_2 15 = .ok (.aload_n 0, 1) := dk_42 (dk_at dksJ3_add_2_0 15 rfl rfl)
theorem dJ3_add_2_16 : decode cJ3_add_2 16 = .ok (.iload_n 3, 1) := dk_29 (dk_at dksJ3_add_2_0 16 rfl rfl)
theorem dJ3_add_2_17 : decode cJ3_add_2 17 = .ok (.iconst 1, 1) := dk_4 (dk_at dksJ3_add_2_0 17 rfl rfl)
theorem dJ3_add_2_18 : decode cJ3_add_2 18 = .ok (.iadd, 1) := dk_96 (dk_at dksJ3_add_2_0 18 rfl rfl)
theorem dJ3_add_2_19 : decode cJ3_add_2 19 = .ok (.putfield 48, 3) := dk_181 0 48 (dk_at dksJ3_add_2_0 19 rfl rfl)
theorem dJ3_add_2_22 : decode cJ3_add_2 22 = .ok (.return_, 1) := dk_177 (dk_at dksJ3_add_2_0 22 rfl rfl)
abbrev cJ3_grow : ByteArray := prog_43_method_7_code
def yJ3_grow : MethodName := ⟨RJ3, "grow", "()[Ljava/lang/Object;"⟩
def dkwJ3_grow_0 : List UInt8 := [42, 42, 180, 0, 48, 4, 96, 182, 0, 69, 176]
abbrev dktJ3_grow_0 : List UInt8 := dkwJ3_grow_0 ++ []
theorem dksJ3_grow_0 : cJ3_grow.data.toList.drop 0 = dktJ3_grow_0 := by decide +kernel
theorem dJ3_grow_0 : decode cJ3_grow 0 = .ok (.aload_n 0, 1) := dk_42 (dk_at dksJ3_grow_0 0 rfl rfl)
theorem dJ3_grow_1 : decode cJ3_grow 1 = .ok (.aload_n 0, 1) := dk_42 (dk_at dksJ3_grow_0 1 rfl rfl)
theorem dJ3_grow_2 : decode cJ3_grow 2 = .ok (.getfield 48, 3) := dk_180 0 48 (dk_at dksJ3_grow_0 2 rfl rfl)
theorem dJ3_grow_5 : decode cJ3_grow 5 = .ok (.iconst 1, 1) := dk_4 (dk_at dksJ3_grow_0 5 rfl rfl)
theorem dJ3_grow_6 : decode cJ3_grow 6 = .ok (.iadd, 1) := dk_96 (dk_at dksJ3_grow_0 6 rfl rfl)
theorem dJ3_grow_7 : decode cJ3_grow 7 = .ok (.invokevirtual 69, 3) := dk_182 0 69 (dk_at dksJ3_grow_0 7 rfl rfl)
theorem dJ3_grow_10 : decode cJ3_grow 10 = .ok (.areturn, 1) := dk_176 (dk_at dksJ3_grow_0 10 rfl rfl)
abbrev cJ3_grow_2 : ByteArray := prog_43_method_6_code
def yJ3_grow_2 : MethodName := ⟨RJ3, "grow", "(I)[Ljava/lang/Object;"⟩
def dkwJ3_grow_2_2 : List UInt8 := [27, 184, 0, 79, 189, 0, 7, 90, 181, 0, 9, 176]
abbrev dktJ3_grow_2_2 : List UInt8 := dkwJ3_grow_2_2 ++ []
def dkwJ3_grow_2_1 : List UInt8 := [28, 4, 122, 184, 0, 73, 62, 42, 42, 180, 0, 9, 29, 184, 0, 66, 90, 181, 0, 9, 176, 42, 16, 10]
abbrev dktJ3_grow_2_1 : List UInt8 := dkwJ3_grow_2_1 ++ dktJ3_grow_2_2
def dkwJ3_grow_2_0 : List UInt8 := [42, 180, 0, 9, 190, 61, 28, 157, 0, 13, 42, 180, 0, 9, 178, 0, 39, 165, 0, 28, 28, 27, 28, 100]
abbrev dktJ3_grow_2_0 : List UInt8 := dkwJ3_grow_2_0 ++ dktJ3_grow_2_1
theorem dksJ3_grow_2_0 : cJ3_grow_2.data.toList.drop 0 = dktJ3_grow_2_0 := by decide +kernel
theorem dksJ3_grow_2_1 : cJ3_grow_2.data.toList.drop 24 = dktJ3_grow_2_1 := dk_seg dksJ3_grow_2_0 24 rfl rfl
theorem dksJ3_grow_2_2 : cJ3_grow_2.data.toList.drop 48 = dktJ3_grow_2_2 := dk_seg dksJ3_grow_2_1 24 rfl rfl
theorem dJ3_grow_2_0 : decode cJ3_grow_2 0 = .ok (.aload_n 0, 1) := dk_42 (dk_at dksJ3_grow_2_0 0 rfl rfl)
theorem dJ3_grow_2_1 : decode cJ3_grow_2 1 = .ok (.getfield 9, 3) := dk_180 0 9 (dk_at dksJ3_grow_2_0 1 rfl rfl)
theorem dJ3_grow_2_4 : decode cJ3_grow_2 4 = .ok (.arraylength, 1) := dk_190 (dk_at dksJ3_grow_2_0 4 rfl rfl)
theorem dJ3_grow_2_5 : decode cJ3_grow_2 5 = .ok (.istore_n 2, 1) := dk_61 (dk_at dksJ3_grow_2_0 5 rfl rfl)
theorem dJ3_grow_2_6 : decode cJ3_grow_2 6 = .ok (.iload_n 2, 1) := dk_28 (dk_at dksJ3_grow_2_0 6 rfl rfl)
theorem dJ3_grow_2_7 : decode cJ3_grow_2 7 = .ok (.ifCond .gt 13, 3) := dk_157 0 13 (dk_at dksJ3_grow_2_0 7 rfl rfl)
theorem dJ3_grow_2_10 : decode cJ3_grow_2 10 = .ok (.aload_n 0, 1) := dk_42 (dk_at dksJ3_grow_2_0 10 rfl rfl)
theorem dJ3_grow_2_11 : decode cJ3_grow_2 11 = .ok (.getfield 9, 3) := dk_180 0 9 (dk_at dksJ3_grow_2_0 11 rfl rfl)
theorem dJ3_grow_2_14 : decode cJ3_grow_2 14 = .ok (.getstatic 39, 3) := dk_178 0 39 (dk_at dksJ3_grow_2_0 14 rfl rfl)
theorem dJ3_grow_2_17 : decode cJ3_grow_2 17 = .ok (.if_acmp .eq 28, 3) := dk_165 0 28 (dk_at dksJ3_grow_2_0 17 rfl rfl)
theorem dJ3_grow_2_20 : decode cJ3_grow_2 20 = .ok (.iload_n 2, 1) := dk_28 (dk_at dksJ3_grow_2_0 20 rfl rfl)
theorem dJ3_grow_2_21 : decode cJ3_grow_2 21 = .ok (.iload_n 1, 1) := dk_27 (dk_at dksJ3_grow_2_0 21 rfl rfl)
theorem dJ3_grow_2_22 : decode cJ3_grow_2 22 = .ok (.iload_n 2, 1) := dk_28 (dk_at dksJ3_grow_2_0 22 rfl rfl)
theorem dJ3_grow_2_23 : decode cJ3_grow_2 23 = .ok (.isub, 1) := dk_100 (dk_at dksJ3_grow_2_0 23 rfl rfl)
theorem dJ3_grow_2_24 : decode cJ3_grow_2 24 = .ok (.iload_n 2, 1) := dk_28 (dk_at dksJ3_grow_2_1 0 rfl rfl)
theorem dJ3_grow_2_25 : decode cJ3_grow_2 25 = .ok (.iconst 1, 1) := dk_4 (dk_at dksJ3_grow_2_1 1 rfl rfl)
theorem dJ3_grow_2_26 : decode cJ3_grow_2 26 = .ok (.ishr, 1) := dk_122 (dk_at dksJ3_grow_2_1 2 rfl rfl)
theorem dJ3_grow_2_27 : decode cJ3_grow_2 27 = .ok (.invokestatic 73, 3) := dk_184 0 73 (dk_at dksJ3_grow_2_1 3 rfl rfl)
theorem dJ3_grow_2_30 : decode cJ3_grow_2 30 = .ok (.istore_n 3, 1) := dk_62 (dk_at dksJ3_grow_2_1 6 rfl rfl)
theorem dJ3_grow_2_31 : decode cJ3_grow_2 31 = .ok (.aload_n 0, 1) := dk_42 (dk_at dksJ3_grow_2_1 7 rfl rfl)
theorem dJ3_grow_2_32 : decode cJ3_grow_2 32 = .ok (.aload_n 0, 1) := dk_42 (dk_at dksJ3_grow_2_1 8 rfl rfl)
theorem dJ3_grow_2_33 : decode cJ3_grow_2 33 = .ok (.getfield 9, 3) := dk_180 0 9 (dk_at dksJ3_grow_2_1 9 rfl rfl)
theorem dJ3_grow_2_36 : decode cJ3_grow_2 36 = .ok (.iload_n 3, 1) := dk_29 (dk_at dksJ3_grow_2_1 12 rfl rfl)
theorem dJ3_grow_2_37 : decode cJ3_grow_2 37 = .ok (.invokestatic 66, 3) := dk_184 0 66 (dk_at dksJ3_grow_2_1 13 rfl rfl)
theorem dJ3_grow_2_40 : decode cJ3_grow_2 40 = .ok (.dup_x1, 1) := dk_90 (dk_at dksJ3_grow_2_1 16 rfl rfl)
theorem dJ3_grow_2_41 : decode cJ3_grow_2 41 = .ok (.putfield 9, 3) := dk_181 0 9 (dk_at dksJ3_grow_2_1 17 rfl rfl)
theorem dJ3_grow_2_44 : decode cJ3_grow_2 44 = .ok (.areturn, 1) := dk_176 (dk_at dksJ3_grow_2_1 20 rfl rfl)
theorem dJ3_grow_2_45 : decode cJ3_grow_2 45 = .ok (.aload_n 0, 1) := dk_42 (dk_at dksJ3_grow_2_1 21 rfl rfl)
theorem dJ3_grow_2_46 : decode cJ3_grow_2 46 = .ok (.bipush 10, 2) := dk_16 10 (dk_at dksJ3_grow_2_1 22 rfl rfl)
theorem dJ3_grow_2_48 : decode cJ3_grow_2 48 = .ok (.iload_n 1, 1) := dk_27 (dk_at dksJ3_grow_2_2 0 rfl rfl)
theorem dJ3_grow_2_49 : decode cJ3_grow_2 49 = .ok (.invokestatic 79, 3) := dk_184 0 79 (dk_at dksJ3_grow_2_2 1 rfl rfl)
theorem dJ3_grow_2_52 : decode cJ3_grow_2 52 = .ok (.anewarray 7, 3) := dk_189 0 7 (dk_at dksJ3_grow_2_2 4 rfl rfl)
theorem dJ3_grow_2_55 : decode cJ3_grow_2 55 = .ok (.dup_x1, 1) := dk_90 (dk_at dksJ3_grow_2_2 7 rfl rfl)
theorem dJ3_grow_2_56 : decode cJ3_grow_2 56 = .ok (.putfield 9, 3) := dk_181 0 9 (dk_at dksJ3_grow_2_2 8 rfl rfl)
theorem dJ3_grow_2_59 : decode cJ3_grow_2 59 = .ok (.areturn, 1) := dk_176 (dk_at dksJ3_grow_2_2 11 rfl rfl)
abbrev cJ3_remove : ByteArray := prog_43_method_29_code
def yJ3_remove : MethodName := ⟨RJ3, "remove", "(I)Ljava/lang/Object;"⟩
def dkwJ3_remove_1 : List UInt8 := [45, 176]
abbrev dktJ3_remove_1 : List UInt8 := dkwJ3_remove_1 ++ []
def dkwJ3_remove_0 : List UInt8 := [27, 42, 180, 0, 48, 184, 0, 118, 87, 42, 180, 0, 9, 77, 44, 27, 50, 78, 42, 44, 27, 182, 0, 144]
abbrev dktJ3_remove_0 : List UInt8 := dkwJ3_remove_0 ++ dktJ3_remove_1
theorem dksJ3_remove_0 : cJ3_remove.data.toList.drop 0 = dktJ3_remove_0 := by decide +kernel
theorem dksJ3_remove_1 : cJ3_remove.data.toList.drop 24 = dktJ3_remove_1 := dk_seg dksJ3_remove_0 24 rfl rfl
theorem dJ3_remove_0 : decode cJ3_remove 0 = .ok (.iload_n 1, 1) := dk_27 (dk_at dksJ3_remove_0 0 rfl rfl)
theorem dJ3_remove_1 : decode cJ3_remove 1 = .ok (.aload_n 0, 1) := dk_42 (dk_at dksJ3_remove_0 1 rfl rfl)
theorem dJ3_remove_2 : decode cJ3_remove 2 = .ok (.getfield 48, 3) := dk_180 0 48 (dk_at dksJ3_remove_0 2 rfl rfl)
theorem dJ3_remove_5 : decode cJ3_remove 5 = .ok (.invokestatic 118, 3) := dk_184 0 118 (dk_at dksJ3_remove_0 5 rfl rfl)
theorem dJ3_remove_8 : decode cJ3_remove 8 = .ok (.pop, 1) := dk_87 (dk_at dksJ3_remove_0 8 rfl rfl)
theorem dJ3_remove_9 : decode cJ3_remove 9 = .ok (.aload_n 0, 1) := dk_42 (dk_at dksJ3_remove_0 9 rfl rfl)
theorem dJ3_remove_10 : decode cJ3_remove 10 = .ok (.getfield 9, 3) := dk_180 0 9 (dk_at dksJ3_remove_0 10 rfl rfl)
theorem dJ3_remove_13 : decode cJ3_remove 13 = .ok (.astore_n 2, 1) := dk_77 (dk_at dksJ3_remove_0 13 rfl rfl)
theorem dJ3_remove_14 : decode cJ3_remove 14 = .ok (.aload_n 2, 1) := dk_44 (dk_at dksJ3_remove_0 14 rfl rfl)
theorem dJ3_remove_15 : decode cJ3_remove 15 = .ok (.iload_n 1, 1) := dk_27 (dk_at dksJ3_remove_0 15 rfl rfl)
theorem dJ3_remove_16 : decode cJ3_remove 16 = .ok (.aaload, 1) := dk_50 (dk_at dksJ3_remove_0 16 rfl rfl)
theorem dJ3_remove_17 : decode cJ3_remove 17 = .ok (.astore_n 3, 1) := dk_78 (dk_at dksJ3_remove_0 17 rfl rfl)
theorem dJ3_remove_18 : decode cJ3_remove 18 = .ok (.aload_n 0, 1) := dk_42 (dk_at dksJ3_remove_0 18 rfl rfl)
theorem dJ3_remove_19 : decode cJ3_remove 19 = .ok (.aload_n 2, 1) := dk_44 (dk_at dksJ3_remove_0 19 rfl rfl)
theorem dJ3_remove_20 : decode cJ3_remove 20 = .ok (.iload_n 1, 1) := dk_27 (dk_at dksJ3_remove_0 20 rfl rfl)
theorem dJ3_remove_21 : decode cJ3_remove 21 = .ok (.invokevirtual 144, 3) := dk_182 0 144 (dk_at dksJ3_remove_0 21 rfl rfl)
theorem dJ3_remove_24 : decode cJ3_remove 24 = .ok (.aload_n 3, 1) := dk_45 (dk_at dksJ3_remove_1 0 rfl rfl)
theorem dJ3_remove_25 : decode cJ3_remove 25 = .ok (.areturn, 1) := dk_176 (dk_at dksJ3_remove_1 1 rfl rfl)
abbrev cJ3_fastRemove : ByteArray := prog_43_method_39_code
def yJ3_fastRemove : MethodName := ⟨RJ3, "fastRemove", "([Ljava/lang/Object;I)V"⟩
def dkwJ3_fastRemove_1 : List UInt8 := [4, 96, 43, 28, 29, 28, 100, 184, 0, 112, 43, 42, 29, 90, 181, 0, 48, 1, 83, 177]
abbrev dktJ3_fastRemove_1 : List UInt8 := dkwJ3_fastRemove_1 ++ []
def dkwJ3_fastRemove_0 : List UInt8 := [42, 89, 180, 0, 63, 4, 96, 181, 0, 63, 42, 180, 0, 48, 4, 100, 89, 62, 28, 164, 0, 15, 43, 28]
abbrev dktJ3_fastRemove_0 : List UInt8 := dkwJ3_fastRemove_0 ++ dktJ3_fastRemove_1
theorem dksJ3_fastRemove_0 : cJ3_fastRemove.data.toList.drop 0 = dktJ3_fastRemove_0 := by decide +kernel
theorem dksJ3_fastRemove_1 : cJ3_fastRemove.data.toList.drop 24 = dktJ3_fastRemove_1 := dk_seg dksJ3_fastRemove_0 24 rfl rfl
theorem dJ3_fastRemove_0 : decode cJ3_fastRemove 0 = .ok (.aload_n 0, 1) := dk_42 (dk_at dksJ3_fastRemove_0 0 rfl rfl)
theorem dJ3_fastRemove_1 : decode cJ3_fastRemove 1 = .ok (.dup, 1) := dk_89 (dk_at dksJ3_fastRemove_0 1 rfl rfl)
theorem dJ3_fastRemove_2 : decode cJ3_fastRemove 2 = .ok (.getfield 63, 3) := dk_180 0 63 (dk_at dksJ3_fastRemove_0 2 rfl rfl)
theorem dJ3_fastRemove_5 : decode cJ3_fastRemove 5 = .ok (.iconst 1, 1) := dk_4 (dk_at dksJ3_fastRemove_0 5 rfl rfl)
theorem dJ3_fastRemove_6 : decode cJ3_fastRemove 6 = .ok (.iadd, 1) := dk_96 (dk_at dksJ3_fastRemove_0 6 rfl rfl)
theorem dJ3_fastRemove_7 : decode cJ3_fastRemove 7 = .ok (.putfield 63, 3) := dk_181 0 63 (dk_at dksJ3_fastRemove_0 7 rfl rfl)
theorem dJ3_fastRemove_10 : decode cJ3_fastRemove 10 = .ok (.aload_n 0, 1) := dk_42 (dk_at dksJ3_fastRemove_0 10 rfl rfl)
theorem dJ3_fastRemove_11 : decode cJ3_fastRemove 11 = .ok (.getfield 48, 3) := dk_180 0 48 (dk_at dksJ3_fastRemove_0 11 rfl rfl)
theorem dJ3_fastRemove_14 : decode cJ3_fastRemove 14 = .ok (.iconst 1, 1) := dk_4 (dk_at dksJ3_fastRemove_0 14 rfl rfl)
theorem dJ3_fastRemove_15 : decode cJ3_fastRemove 15 = .ok (.isub, 1) := dk_100 (dk_at dksJ3_fastRemove_0 15 rfl rfl)
theorem dJ3_fastRemove_16 : decode cJ3_fastRemove 16 = .ok (.dup, 1) := dk_89 (dk_at dksJ3_fastRemove_0 16 rfl rfl)
theorem dJ3_fastRemove_17 : decode cJ3_fastRemove 17 = .ok (.istore_n 3, 1) := dk_62 (dk_at dksJ3_fastRemove_0 17 rfl rfl)
theorem dJ3_fastRemove_18 : decode cJ3_fastRemove 18 = .ok (.iload_n 2, 1) := dk_28 (dk_at dksJ3_fastRemove_0 18 rfl rfl)
theorem dJ3_fastRemove_19 : decode cJ3_fastRemove 19 = .ok (.if_icmp .le 15, 3) := dk_164 0 15 (dk_at dksJ3_fastRemove_0 19 rfl rfl)
theorem dJ3_fastRemove_22 : decode cJ3_fastRemove 22 = .ok (.aload_n 1, 1) := dk_43 (dk_at dksJ3_fastRemove_0 22 rfl rfl)
theorem dJ3_fastRemove_23 : decode cJ3_fastRemove 23 = .ok (.iload_n 2, 1) := dk_28 (dk_at dksJ3_fastRemove_0 23 rfl rfl)
theorem dJ3_fastRemove_24 : decode cJ3_fastRemove 24 = .ok (.iconst 1, 1) := dk_4 (dk_at dksJ3_fastRemove_1 0 rfl rfl)
theorem dJ3_fastRemove_25 : decode cJ3_fastRemove 25 = .ok (.iadd, 1) := dk_96 (dk_at dksJ3_fastRemove_1 1 rfl rfl)
theorem dJ3_fastRemove_26 : decode cJ3_fastRemove 26 = .ok (.aload_n 1, 1) := dk_43 (dk_at dksJ3_fastRemove_1 2 rfl rfl)
theorem dJ3_fastRemove_27 : decode cJ3_fastRemove 27 = .ok (.iload_n 2, 1) := dk_28 (dk_at dksJ3_fastRemove_1 3 rfl rfl)
theorem dJ3_fastRemove_28 : decode cJ3_fastRemove 28 = .ok (.iload_n 3, 1) := dk_29 (dk_at dksJ3_fastRemove_1 4 rfl rfl)
theorem dJ3_fastRemove_29 : decode cJ3_fastRemove 29 = .ok (.iload_n 2, 1) := dk_28 (dk_at dksJ3_fastRemove_1 5 rfl rfl)
theorem dJ3_fastRemove_30 : decode cJ3_fastRemove 30 = .ok (.isub, 1) := dk_100 (dk_at dksJ3_fastRemove_1 6 rfl rfl)
theorem dJ3_fastRemove_31 : decode cJ3_fastRemove 31 = .ok (.invokestatic 112, 3) := dk_184 0 112 (dk_at dksJ3_fastRemove_1 7 rfl rfl)
theorem dJ3_fastRemove_34 : decode cJ3_fastRemove 34 = .ok (.aload_n 1, 1) := dk_43 (dk_at dksJ3_fastRemove_1 10 rfl rfl)
theorem dJ3_fastRemove_35 : decode cJ3_fastRemove 35 = .ok (.aload_n 0, 1) := dk_42 (dk_at dksJ3_fastRemove_1 11 rfl rfl)
theorem dJ3_fastRemove_36 : decode cJ3_fastRemove 36 = .ok (.iload_n 3, 1) := dk_29 (dk_at dksJ3_fastRemove_1 12 rfl rfl)
theorem dJ3_fastRemove_37 : decode cJ3_fastRemove 37 = .ok (.dup_x1, 1) := dk_90 (dk_at dksJ3_fastRemove_1 13 rfl rfl)
theorem dJ3_fastRemove_38 : decode cJ3_fastRemove 38 = .ok (.putfield 48, 3) := dk_181 0 48 (dk_at dksJ3_fastRemove_1 14 rfl rfl)
theorem dJ3_fastRemove_41 : decode cJ3_fastRemove 41 = .ok (.aconst_null, 1) := dk_1 (dk_at dksJ3_fastRemove_1 17 rfl rfl)
theorem dJ3_fastRemove_42 : decode cJ3_fastRemove 42 = .ok (.aastore, 1) := dk_83 (dk_at dksJ3_fastRemove_1 18 rfl rfl)
theorem dJ3_fastRemove_43 : decode cJ3_fastRemove 43 = .ok (.return_, 1) := dk_177 (dk_at dksJ3_fastRemove_1 19 rfl rfl)
abbrev cJ19_init : ByteArray := prog_28_method_1_code
def yJ19_init : MethodName := ⟨RJ19, "<init>", "()V"⟩
theorem dJ19_init_0 : decode cJ19_init 0 = .ok (.aload_n 0, 1) := by decide +kernel
theorem dJ19_init_1 : decode cJ19_init 1 = .ok (.invokespecial 1, 3) := by decide +kernel
theorem dJ19_init_4 : decode cJ19_init 4 = .ok (.return_, 1) := by decide +kernel
abbrev cJ21_checkIndex : ByteArray := prog_54_method_17_code
def yJ21_checkIndex : MethodName := ⟨RJ21, "checkIndex", "(II)I"⟩
def dkwJ21_checkIndex_0 : List UInt8 := [26, 27, 1, 184, 0, 105, 172]
abbrev dktJ21_checkIndex_0 : List UInt8 := dkwJ21_checkIndex_0 ++ []
theorem dksJ21_checkIndex_0 : cJ21_checkIndex.data.toList.drop 0 = dktJ21_checkIndex_0 := by decide +kernel
theorem dJ21_checkIndex_0 : decode cJ21_checkIndex 0 = .ok (.iload_n 0, 1) := dk_26 (dk_at dksJ21_checkIndex_0 0 rfl rfl)
theorem dJ21_checkIndex_1 : decode cJ21_checkIndex 1 = .ok (.iload_n 1, 1) := dk_27 (dk_at dksJ21_checkIndex_0 1 rfl rfl)
theorem dJ21_checkIndex_2 : decode cJ21_checkIndex 2 = .ok (.aconst_null, 1) := dk_1 (dk_at dksJ21_checkIndex_0 2 rfl rfl)
theorem dJ21_checkIndex_3 : decode cJ21_checkIndex 3 = .ok (.invokestatic 105, 3) := dk_184 0 105 (dk_at dksJ21_checkIndex_0 3 rfl rfl)
theorem dJ21_checkIndex_6 : decode cJ21_checkIndex 6 = .ok (.ireturn, 1) := dk_172 (dk_at dksJ21_checkIndex_0 6 rfl rfl)
abbrev cJ24_init : ByteArray := prog_48_method_1_code
def yJ24_init : MethodName := ⟨RJ24, "<init>", "(ILjava/lang/Object;Ljava/lang/Object;Ljava/util/HashMap$Node;)V"⟩
def dkwJ24_init_1 : List UInt8 := [181, 0, 20, 177]
abbrev dktJ24_init_1 : List UInt8 := dkwJ24_init_1 ++ []
def dkwJ24_init_0 : List UInt8 := [42, 183, 0, 1, 42, 27, 181, 0, 7, 42, 44, 181, 0, 13, 42, 45, 181, 0, 17, 42, 25, 4]
abbrev dktJ24_init_0 : List UInt8 := dkwJ24_init_0 ++ dktJ24_init_1
theorem dksJ24_init_0 : cJ24_init.data.toList.drop 0 = dktJ24_init_0 := by decide +kernel
theorem dksJ24_init_1 : cJ24_init.data.toList.drop 22 = dktJ24_init_1 := dk_seg dksJ24_init_0 22 rfl rfl
theorem dJ24_init_0 : decode cJ24_init 0 = .ok (.aload_n 0, 1) := dk_42 (dk_at dksJ24_init_0 0 rfl rfl)
theorem dJ24_init_1 : decode cJ24_init 1 = .ok (.invokespecial 1, 3) := dk_183 0 1 (dk_at dksJ24_init_0 1 rfl rfl)
theorem dJ24_init_4 : decode cJ24_init 4 = .ok (.aload_n 0, 1) := dk_42 (dk_at dksJ24_init_0 4 rfl rfl)
theorem dJ24_init_5 : decode cJ24_init 5 = .ok (.iload_n 1, 1) := dk_27 (dk_at dksJ24_init_0 5 rfl rfl)
theorem dJ24_init_6 : decode cJ24_init 6 = .ok (.putfield 7, 3) := dk_181 0 7 (dk_at dksJ24_init_0 6 rfl rfl)
theorem dJ24_init_9 : decode cJ24_init 9 = .ok (.aload_n 0, 1) := dk_42 (dk_at dksJ24_init_0 9 rfl rfl)
theorem dJ24_init_10 : decode cJ24_init 10 = .ok (.aload_n 2, 1) := dk_44 (dk_at dksJ24_init_0 10 rfl rfl)
theorem dJ24_init_11 : decode cJ24_init 11 = .ok (.putfield 13, 3) := dk_181 0 13 (dk_at dksJ24_init_0 11 rfl rfl)
theorem dJ24_init_14 : decode cJ24_init 14 = .ok (.aload_n 0, 1) := dk_42 (dk_at dksJ24_init_0 14 rfl rfl)
theorem dJ24_init_15 : decode cJ24_init 15 = .ok (.aload_n 3, 1) := dk_45 (dk_at dksJ24_init_0 15 rfl rfl)
theorem dJ24_init_16 : decode cJ24_init 16 = .ok (.putfield 17, 3) := dk_181 0 17 (dk_at dksJ24_init_0 16 rfl rfl)
theorem dJ24_init_19 : decode cJ24_init 19 = .ok (.aload_n 0, 1) := dk_42 (dk_at dksJ24_init_0 19 rfl rfl)
theorem dJ24_init_20 : decode cJ24_init 20 = .ok (.aload 4, 2) := dk_25 4 (dk_at dksJ24_init_0 20 rfl rfl)
theorem dJ24_init_22 : decode cJ24_init 22 = .ok (.putfield 20, 3) := dk_181 0 20 (dk_at dksJ24_init_1 0 rfl rfl)
theorem dJ24_init_25 : decode cJ24_init 25 = .ok (.return_, 1) := dk_177 (dk_at dksJ24_init_1 3 rfl rfl)
abbrev cJ30_init : ByteArray := object_method_1_code
def yJ30_init : MethodName := ⟨RJ30, "<init>", "()V"⟩
theorem dJ30_init_0 : decode cJ30_init 0 = .ok (.return_, 1) := by decide +kernel
abbrev cJ30_equals : ByteArray := object_method_4_code
def yJ30_equals : MethodName := ⟨RJ30, "equals", "(Ljava/lang/Object;)Z"⟩
def dkwJ30_equals_0 : List UInt8 := [42, 43, 166, 0, 7, 4, 167, 0, 4, 3, 172]
abbrev dktJ30_equals_0 : List UInt8 := dkwJ30_equals_0 ++ []
theorem dksJ30_equals_0 : cJ30_equals.data.toList.drop 0 = dktJ30_equals_0 := by decide +kernel
theorem dJ30_equals_0 : decode cJ30_equals 0 = .ok (.aload_n 0, 1) := dk_42 (dk_at dksJ30_equals_0 0 rfl rfl)
theorem dJ30_equals_1 : decode cJ30_equals 1 = .ok (.aload_n 1, 1) := dk_43 (dk_at dksJ30_equals_0 1 rfl rfl)
theorem dJ30_equals_2 : decode cJ30_equals 2 = .ok (.if_acmp .ne 7, 3) := dk_166 0 7 (dk_at dksJ30_equals_0 2 rfl rfl)
theorem dJ30_equals_5 : decode cJ30_equals 5 = .ok (.iconst 1, 1) := dk_4 (dk_at dksJ30_equals_0 5 rfl rfl)
theorem dJ30_equals_6 : decode cJ30_equals 6 = .ok (.goto 4, 3) := dk_167 0 4 (dk_at dksJ30_equals_0 6 rfl rfl)
theorem dJ30_equals_9 : decode cJ30_equals 9 = .ok (.iconst 0, 1) := dk_3 (dk_at dksJ30_equals_0 9 rfl rfl)
theorem dJ30_equals_10 : decode cJ30_equals 10 = .ok (.ireturn, 1) := dk_172 (dk_at dksJ30_equals_0 10 rfl rfl)
abbrev cJ20_intValue : ByteArray := prog_23_method_27_code
def yJ20_intValue : MethodName := ⟨RJ20, "intValue", "()I"⟩
theorem dJ20_intValue_0 : decode cJ20_intValue 0 = .ok (.aload_n 0, 1) := by decide +kernel
theorem dJ20_intValue_1 : decode cJ20_intValue 1 = .ok (.getfield 205, 3) := by decide +kernel
theorem dJ20_intValue_4 : decode cJ20_intValue 4 = .ok (.ireturn, 1) := by decide +kernel
abbrev cJ20_valueOf : ByteArray := prog_23_method_22_code
def yJ20_valueOf : MethodName := ⟨RJ20, "valueOf", "(I)Ljava/lang/Integer;"⟩
def dkwJ20_valueOf_1 : List UInt8 := [187, 0, 1, 89, 26, 183, 0, 199, 176]
abbrev dktJ20_valueOf_1 : List UInt8 := dkwJ20_valueOf_1 ++ []
def dkwJ20_valueOf_0 : List UInt8 := [26, 16, 128, 161, 0, 20, 26, 178, 0, 191, 163, 0, 13, 178, 0, 195, 26, 17, 0, 128, 96, 50, 176]
abbrev dktJ20_valueOf_0 : List UInt8 := dkwJ20_valueOf_0 ++ dktJ20_valueOf_1
theorem dksJ20_valueOf_0 : cJ20_valueOf.data.toList.drop 0 = dktJ20_valueOf_0 := by decide +kernel
theorem dksJ20_valueOf_1 : cJ20_valueOf.data.toList.drop 23 = dktJ20_valueOf_1 := dk_seg dksJ20_valueOf_0 23 rfl rfl
theorem dJ20_valueOf_0 : decode cJ20_valueOf 0 = .ok (.iload_n 0, 1) := dk_26 (dk_at dksJ20_valueOf_0 0 rfl rfl)
theorem dJ20_valueOf_1 : decode cJ20_valueOf 1 = .ok (.bipush (-128), 2) := dk_16 128 (dk_at dksJ20_valueOf_0 1 rfl rfl)
theorem dJ20_valueOf_3 : decode cJ20_valueOf 3 = .ok (.if_icmp .lt 20, 3) := dk_161 0 20 (dk_at dksJ20_valueOf_0 3 rfl rfl)
theorem dJ20_valueOf_6 : decode cJ20_valueOf 6 = .ok (.iload_n 0, 1) := dk_26 (dk_at dksJ20_valueOf_0 6 rfl rfl)
theorem dJ20_valueOf_7 : decode cJ20_valueOf 7 = .ok (.getstatic 191, 3) := dk_178 0 191 (dk_at dksJ20_valueOf_0 7 rfl rfl)
theorem dJ20_valueOf_10 : decode cJ20_valueOf 10 = .ok (.if_icmp .gt 13, 3) := dk_163 0 13 (dk_at dksJ20_valueOf_0 10 rfl rfl)
theorem dJ20_valueOf_13 : decode cJ20_valueOf 13 = .ok (.getstatic 195, 3) := dk_178 0 195 (dk_at dksJ20_valueOf_0 13 rfl rfl)
theorem dJ20_valueOf_16 : decode cJ20_valueOf 16 = .ok (.iload_n 0, 1) := dk_26 (dk_at dksJ20_valueOf_0 16 rfl rfl)
theorem dJ20_valueOf_17 : decode cJ20_valueOf 17 = .ok (.sipush 128, 3) := dk_17 0 128 (dk_at dksJ20_valueOf_0 17 rfl rfl)
theorem dJ20_valueOf_20 : decode cJ20_valueOf 20 = .ok (.iadd, 1) := dk_96 (dk_at dksJ20_valueOf_0 20 rfl rfl)
theorem dJ20_valueOf_21 : decode cJ20_valueOf 21 = .ok (.aaload, 1) := dk_50 (dk_at dksJ20_valueOf_0 21 rfl rfl)
theorem dJ20_valueOf_22 : decode cJ20_valueOf 22 = .ok (.areturn, 1) := dk_176 (dk_at dksJ20_valueOf_0 22 rfl rfl)
theorem dJ20_valueOf_23 : decode cJ20_valueOf 23 = .ok (.new 1, 3) := dk_187 0 1 (dk_at dksJ20_valueOf_1 0 rfl rfl)
theorem dJ20_valueOf_26 : decode cJ20_valueOf 26 = .ok (.dup, 1) := dk_89 (dk_at dksJ20_valueOf_1 3 rfl rfl)
theorem dJ20_valueOf_27 : decode cJ20_valueOf 27 = .ok (.iload_n 0, 1) := dk_26 (dk_at dksJ20_valueOf_1 4 rfl rfl)
theorem dJ20_valueOf_28 : decode cJ20_valueOf 28 = .ok (.invokespecial 199, 3) := dk_183 0 199 (dk_at dksJ20_valueOf_1 5 rfl rfl)
theorem dJ20_valueOf_31 : decode cJ20_valueOf 31 = .ok (.areturn, 1) := dk_176 (dk_at dksJ20_valueOf_1 8 rfl rfl)
abbrev cJ20_init : ByteArray := prog_23_method_23_code
def yJ20_init : MethodName := ⟨RJ20, "<init>", "(I)V"⟩
def dkwJ20_init_0 : List UInt8 := [42, 183, 0, 202, 42, 27, 181, 0, 205, 177]
abbrev dktJ20_init_0 : List UInt8 := dkwJ20_init_0 ++ []
theorem dksJ20_init_0 : cJ20_init.data.toList.drop 0 = dktJ20_init_0 := by decide +kernel
theorem dJ20_init_0 : decode cJ20_init 0 = .ok (.aload_n 0, 1) := dk_42 (dk_at dksJ20_init_0 0 rfl rfl)
theorem dJ20_init_1 : decode cJ20_init 1 = .ok (.invokespecial 202, 3) := dk_183 0 202 (dk_at dksJ20_init_0 1 rfl rfl)
theorem dJ20_init_4 : decode cJ20_init 4 = .ok (.aload_n 0, 1) := dk_42 (dk_at dksJ20_init_0 4 rfl rfl)
theorem dJ20_init_5 : decode cJ20_init 5 = .ok (.iload_n 1, 1) := dk_27 (dk_at dksJ20_init_0 5 rfl rfl)
theorem dJ20_init_6 : decode cJ20_init 6 = .ok (.putfield 205, 3) := dk_181 0 205 (dk_at dksJ20_init_0 6 rfl rfl)
theorem dJ20_init_9 : decode cJ20_init 9 = .ok (.return_, 1) := dk_177 (dk_at dksJ20_init_0 9 rfl rfl)
abbrev cJ18_checkIndex : ByteArray := prog_62_method_11_code
def yJ18_checkIndex : MethodName := ⟨RJ18, "checkIndex", "(IILjava/util/function/BiFunction;)I"⟩
def dkwJ18_checkIndex_0 : List UInt8 := [26, 155, 0, 8, 26, 27, 161, 0, 10, 44, 26, 27, 184, 0, 95, 191, 26, 172]
abbrev dktJ18_checkIndex_0 : List UInt8 := dkwJ18_checkIndex_0 ++ []
theorem dksJ18_checkIndex_0 : cJ18_checkIndex.data.toList.drop 0 = dktJ18_checkIndex_0 := by decide +kernel
theorem dJ18_checkIndex_0 : decode cJ18_checkIndex 0 = .ok (.iload_n 0, 1) := dk_26 (dk_at dksJ18_checkIndex_0 0 rfl rfl)
theorem dJ18_checkIndex_1 : decode cJ18_checkIndex 1 = .ok (.ifCond .lt 8, 3) := dk_155 0 8 (dk_at dksJ18_checkIndex_0 1 rfl rfl)
theorem dJ18_checkIndex_4 : decode cJ18_checkIndex 4 = .ok (.iload_n 0, 1) := dk_26 (dk_at dksJ18_checkIndex_0 4 rfl rfl)
theorem dJ18_checkIndex_5 : decode cJ18_checkIndex 5 = .ok (.iload_n 1, 1) := dk_27 (dk_at dksJ18_checkIndex_0 5 rfl rfl)
theorem dJ18_checkIndex_6 : decode cJ18_checkIndex 6 = .ok (.if_icmp .lt 10, 3) := dk_161 0 10 (dk_at dksJ18_checkIndex_0 6 rfl rfl)
theorem dJ18_checkIndex_9 : decode cJ18_checkIndex 9 = .ok (.aload_n 2, 1) := dk_44 (dk_at dksJ18_checkIndex_0 9 rfl rfl)
theorem dJ18_checkIndex_10 : decode cJ18_checkIndex 10 = .ok (.iload_n 0, 1) := dk_26 (dk_at dksJ18_checkIndex_0 10 rfl rfl)
theorem dJ18_checkIndex_11 : decode cJ18_checkIndex 11 = .ok (.iload_n 1, 1) := dk_27 (dk_at dksJ18_checkIndex_0 11 rfl rfl)
theorem dJ18_checkIndex_12 : decode cJ18_checkIndex 12 = .ok (.invokestatic 95, 3) := dk_184 0 95 (dk_at dksJ18_checkIndex_0 12 rfl rfl)
theorem dJ18_checkIndex_15 : decode cJ18_checkIndex 15 = .ok (.athrow, 1) := dk_191 (dk_at dksJ18_checkIndex_0 15 rfl rfl)
theorem dJ18_checkIndex_16 : decode cJ18_checkIndex 16 = .ok (.iload_n 0, 1) := dk_26 (dk_at dksJ18_checkIndex_0 16 rfl rfl)
theorem dJ18_checkIndex_17 : decode cJ18_checkIndex 17 = .ok (.ireturn, 1) := dk_172 (dk_at dksJ18_checkIndex_0 17 rfl rfl)
abbrev cJ17_copyOf : ByteArray := prog_44_method_121_code
def yJ17_copyOf : MethodName := ⟨RJ17, "copyOf", "([BI)[B"⟩
def dkwJ17_copyOf_1 : List UInt8 := [27, 184, 1, 48, 184, 0, 150, 44, 176]
abbrev dktJ17_copyOf_1 : List UInt8 := dkwJ17_copyOf_1 ++ []
def dkwJ17_copyOf_0 : List UInt8 := [27, 42, 190, 160, 0, 11, 42, 182, 1, 54, 192, 1, 55, 176, 27, 188, 8, 77, 42, 3, 44, 3, 42, 190]
abbrev dktJ17_copyOf_0 : List UInt8 := dkwJ17_copyOf_0 ++ dktJ17_copyOf_1
theorem dksJ17_copyOf_0 : cJ17_copyOf.data.toList.drop 0 = dktJ17_copyOf_0 := by decide +kernel
theorem dksJ17_copyOf_1 : cJ17_copyOf.data.toList.drop 24 = dktJ17_copyOf_1 := dk_seg dksJ17_copyOf_0 24 rfl rfl
theorem dJ17_copyOf_0 : decode cJ17_copyOf 0 = .ok (.iload_n 1, 1) := dk_27 (dk_at dksJ17_copyOf_0 0 rfl rfl)
theorem dJ17_copyOf_1 : decode cJ17_copyOf 1 = .ok (.aload_n 0, 1) := dk_42 (dk_at dksJ17_copyOf_0 1 rfl rfl)
theorem dJ17_copyOf_2 : decode cJ17_copyOf 2 = .ok (.arraylength, 1) := dk_190 (dk_at dksJ17_copyOf_0 2 rfl rfl)
theorem dJ17_copyOf_3 : decode cJ17_copyOf 3 = .ok (.if_icmp .ne 11, 3) := dk_160 0 11 (dk_at dksJ17_copyOf_0 3 rfl rfl)
theorem dJ17_copyOf_6 : decode cJ17_copyOf 6 = .ok (.aload_n 0, 1) := dk_42 (dk_at dksJ17_copyOf_0 6 rfl rfl)
theorem dJ17_copyOf_7 : decode cJ17_copyOf 7 = .ok (.invokevirtual 310, 3) := dk_182 1 54 (dk_at dksJ17_copyOf_0 7 rfl rfl)
theorem dJ17_copyOf_10 : decode cJ17_copyOf 10 = .ok (.checkcast 311, 3) := dk_192 1 55 (dk_at dksJ17_copyOf_0 10 rfl rfl)
theorem dJ17_copyOf_13 : decode cJ17_copyOf 13 = .ok (.areturn, 1) := dk_176 (dk_at dksJ17_copyOf_0 13 rfl rfl)
theorem dJ17_copyOf_14 : decode cJ17_copyOf 14 = .ok (.iload_n 1, 1) := dk_27 (dk_at dksJ17_copyOf_0 14 rfl rfl)
theorem dJ17_copyOf_15 : decode cJ17_copyOf 15 = .ok (.newarray .byte, 2) := dk_188_8 (dk_at dksJ17_copyOf_0 15 rfl rfl)
theorem dJ17_copyOf_17 : decode cJ17_copyOf 17 = .ok (.astore_n 2, 1) := dk_77 (dk_at dksJ17_copyOf_0 17 rfl rfl)
theorem dJ17_copyOf_18 : decode cJ17_copyOf 18 = .ok (.aload_n 0, 1) := dk_42 (dk_at dksJ17_copyOf_0 18 rfl rfl)
theorem dJ17_copyOf_19 : decode cJ17_copyOf 19 = .ok (.iconst 0, 1) := dk_3 (dk_at dksJ17_copyOf_0 19 rfl rfl)
theorem dJ17_copyOf_20 : decode cJ17_copyOf 20 = .ok (.aload_n 2, 1) := dk_44 (dk_at dksJ17_copyOf_0 20 rfl rfl)
theorem dJ17_copyOf_21 : decode cJ17_copyOf 21 = .ok (.iconst 0, 1) := dk_3 (dk_at dksJ17_copyOf_0 21 rfl rfl)
theorem dJ17_copyOf_22 : decode cJ17_copyOf 22 = .ok (.aload_n 0, 1) := dk_42 (dk_at dksJ17_copyOf_0 22 rfl rfl)
theorem dJ17_copyOf_23 : decode cJ17_copyOf 23 = .ok (.arraylength, 1) := dk_190 (dk_at dksJ17_copyOf_0 23 rfl rfl)
theorem dJ17_copyOf_24 : decode cJ17_copyOf 24 = .ok (.iload_n 1, 1) := dk_27 (dk_at dksJ17_copyOf_1 0 rfl rfl)
theorem dJ17_copyOf_25 : decode cJ17_copyOf 25 = .ok (.invokestatic 304, 3) := dk_184 1 48 (dk_at dksJ17_copyOf_1 1 rfl rfl)
theorem dJ17_copyOf_28 : decode cJ17_copyOf 28 = .ok (.invokestatic 150, 3) := dk_184 0 150 (dk_at dksJ17_copyOf_1 4 rfl rfl)
theorem dJ17_copyOf_31 : decode cJ17_copyOf 31 = .ok (.aload_n 2, 1) := dk_44 (dk_at dksJ17_copyOf_1 7 rfl rfl)
theorem dJ17_copyOf_32 : decode cJ17_copyOf 32 = .ok (.areturn, 1) := dk_176 (dk_at dksJ17_copyOf_1 8 rfl rfl)
abbrev cJ17_copyOfRange : ByteArray := prog_44_method_132_code
def yJ17_copyOfRange : MethodName := ⟨RJ17, "copyOfRange", "([BII)[B"⟩
def dkwJ17_copyOfRange_1 : List UInt8 := [176]
abbrev dktJ17_copyOfRange_1 : List UInt8 := dkwJ17_copyOfRange_1 ++ []
def dkwJ17_copyOfRange_0 : List UInt8 := [27, 154, 0, 9, 28, 42, 190, 159, 0, 10, 42, 27, 28, 184, 1, 83, 176, 42, 182, 1, 54, 192, 1, 55]
abbrev dktJ17_copyOfRange_0 : List UInt8 := dkwJ17_copyOfRange_0 ++ dktJ17_copyOfRange_1
theorem dksJ17_copyOfRange_0 : cJ17_copyOfRange.data.toList.drop 0 = dktJ17_copyOfRange_0 := by decide +kernel
theorem dksJ17_copyOfRange_1 : cJ17_copyOfRange.data.toList.drop 24 = dktJ17_copyOfRange_1 := dk_seg dksJ17_copyOfRange_0 24 rfl rfl
theorem dJ17_copyOfRange_0 : decode cJ17_copyOfRange 0 = .ok (.iload_n 1, 1) := dk_27 (dk_at dksJ17_copyOfRange_0 0 rfl rfl)
theorem dJ17_copyOfRange_1 : decode cJ17_copyOfRange 1 = .ok (.ifCond .ne 9, 3) := dk_154 0 9 (dk_at dksJ17_copyOfRange_0 1 rfl rfl)
theorem dJ17_copyOfRange_4 : decode cJ17_copyOfRange 4 = .ok (.iload_n 2, 1) := dk_28 (dk_at dksJ17_copyOfRange_0 4 rfl rfl)
theorem dJ17_copyOfRange_5 : decode cJ17_copyOfRange 5 = .ok (.aload_n 0, 1) := dk_42 (dk_at dksJ17_copyOfRange_0 5 rfl rfl)
theorem dJ17_copyOfRange_6 : decode cJ17_copyOfRange 6 = .ok (.arraylength, 1) := dk_190 (dk_at dksJ17_copyOfRange_0 6 rfl rfl)
theorem dJ17_copyOfRange_7 : decode cJ17_copyOfRange 7 = .ok (.if_icmp .eq 10, 3) := dk_159 0 10 (dk_at dksJ17_copyOfRange_0 7 rfl rfl)
theorem dJ17_copyOfRange_10 : decode cJ17_copyOfRange 10 = .ok (.aload_n 0, 1) := dk_42 (dk_at dksJ17_copyOfRange_0 10 rfl rfl)
theorem dJ17_copyOfRange_11 : decode cJ17_copyOfRange 11 = .ok (.iload_n 1, 1) := dk_27 (dk_at dksJ17_copyOfRange_0 11 rfl rfl)
theorem dJ17_copyOfRange_12 : decode cJ17_copyOfRange 12 = .ok (.iload_n 2, 1) := dk_28 (dk_at dksJ17_copyOfRange_0 12 rfl rfl)
theorem dJ17_copyOfRange_13 : decode cJ17_copyOfRange 13 = .ok (.invokestatic 339, 3) := dk_184 1 83 (dk_at dksJ17_copyOfRange_0 13 rfl rfl)
theorem dJ17_copyOfRange_16 : decode cJ17_copyOfRange 16 = .ok (.areturn, 1) := dk_176 (dk_at dksJ17_copyOfRange_0 16 rfl rfl)
theorem dJ17_copyOfRange_17 : decode cJ17_copyOfRange 17 = .ok (.aload_n 0, 1) := dk_42 (dk_at dksJ17_copyOfRange_0 17 rfl rfl)
theorem dJ17_copyOfRange_18 : decode cJ17_copyOfRange 18 = .ok (.invokevirtual 310, 3) := dk_182 1 54 (dk_at dksJ17_copyOfRange_0 18 rfl rfl)
theorem dJ17_copyOfRange_21 : decode cJ17_copyOfRange 21 = .ok (.checkcast 311, 3) := dk_192 1 55 (dk_at dksJ17_copyOfRange_0 21 rfl rfl)
theorem dJ17_copyOfRange_24 : decode cJ17_copyOfRange 24 = .ok (.areturn, 1) := dk_176 (dk_at dksJ17_copyOfRange_1 0 rfl rfl)
abbrev cJ17_copyOfRangeByte : ByteArray := prog_44_method_133_code
def yJ17_copyOfRangeByte : MethodName := ⟨RJ17, "copyOfRangeByte", "([BII)[B"⟩
def dkwJ17_copyOfRangeByte_1 : List UInt8 := [184, 1, 48, 184, 0, 150, 25, 4, 176]
abbrev dktJ17_copyOfRangeByte_1 : List UInt8 := dkwJ17_copyOfRangeByte_1 ++ []
def dkwJ17_copyOfRangeByte_0 : List UInt8 := [27, 28, 184, 1, 87, 28, 27, 100, 62, 29, 188, 8, 58, 4, 42, 27, 25, 4, 3, 42, 190, 27, 100, 29]
abbrev dktJ17_copyOfRangeByte_0 : List UInt8 := dkwJ17_copyOfRangeByte_0 ++ dktJ17_copyOfRangeByte_1
theorem dksJ17_copyOfRangeByte_0 : cJ17_copyOfRangeByte.data.toList.drop 0 = dktJ17_copyOfRangeByte_0 := by decide +kernel
theorem dksJ17_copyOfRangeByte_1 : cJ17_copyOfRangeByte.data.toList.drop 24 = dktJ17_copyOfRangeByte_1 := dk_seg dksJ17_copyOfRangeByte_0 24 rfl rfl
theorem dJ17_copyOfRangeByte_0 : decode cJ17_copyOfRangeByte 0 = .ok (.iload_n 1, 1) := dk_27 (dk_at dksJ17_copyOfRangeByte_0 0 rfl rfl)
theorem dJ17_copyOfRangeByte_1 : decode cJ17_copyOfRangeByte 1 = .ok (.iload_n 2, 1) := dk_28 (dk_at dksJ17_copyOfRangeByte_0 1 rfl rfl)
theorem dJ17_copyOfRangeByte_2 : decode cJ17_copyOfRangeByte 2 = .ok (.invokestatic 343, 3) := dk_184 1 87 (dk_at dksJ17_copyOfRangeByte_0 2 rfl rfl)
theorem dJ17_copyOfRangeByte_5 : decode cJ17_copyOfRangeByte 5 = .ok (.iload_n 2, 1) := dk_28 (dk_at dksJ17_copyOfRangeByte_0 5 rfl rfl)
theorem dJ17_copyOfRangeByte_6 : decode cJ17_copyOfRangeByte 6 = .ok (.iload_n 1, 1) := dk_27 (dk_at dksJ17_copyOfRangeByte_0 6 rfl rfl)
theorem dJ17_copyOfRangeByte_7 : decode cJ17_copyOfRangeByte 7 = .ok (.isub, 1) := dk_100 (dk_at dksJ17_copyOfRangeByte_0 7 rfl rfl)
theorem dJ17_copyOfRangeByte_8 : decode cJ17_copyOfRangeByte 8 = .ok (.istore_n 3, 1) := dk_62 (dk_at dksJ17_copyOfRangeByte_0 8 rfl rfl)
theorem dJ17_copyOfRangeByte_9 : decode cJ17_copyOfRangeByte 9 = .ok (.iload_n 3, 1) := dk_29 (dk_at dksJ17_copyOfRangeByte_0 9 rfl rfl)
theorem dJ17_copyOfRangeByte_10 : decode cJ17_copyOfRangeByte 10 = .ok (.newarray .byte, 2) := dk_188_8 (dk_at dksJ17_copyOfRangeByte_0 10 rfl rfl)
theorem dJ17_copyOfRangeByte_12 : decode cJ17_copyOfRangeByte 12 = .ok (.astore 4, 2) := dk_58 4 (dk_at dksJ17_copyOfRangeByte_0 12 rfl rfl)
theorem dJ17_copyOfRangeByte_14 : decode cJ17_copyOfRangeByte 14 = .ok (.aload_n 0, 1) := dk_42 (dk_at dksJ17_copyOfRangeByte_0 14 rfl rfl)
theorem dJ17_copyOfRangeByte_15 : decode cJ17_copyOfRangeByte 15 = .ok (.iload_n 1, 1) := dk_27 (dk_at dksJ17_copyOfRangeByte_0 15 rfl rfl)
theorem dJ17_copyOfRangeByte_16 : decode cJ17_copyOfRangeByte 16 = .ok (.aload 4, 2) := dk_25 4 (dk_at dksJ17_copyOfRangeByte_0 16 rfl rfl)
theorem dJ17_copyOfRangeByte_18 : decode cJ17_copyOfRangeByte 18 = .ok (.iconst 0, 1) := dk_3 (dk_at dksJ17_copyOfRangeByte_0 18 rfl rfl)
theorem dJ17_copyOfRangeByte_19 : decode cJ17_copyOfRangeByte 19 = .ok (.aload_n 0, 1) := dk_42 (dk_at dksJ17_copyOfRangeByte_0 19 rfl rfl)
theorem dJ17_copyOfRangeByte_20 : decode cJ17_copyOfRangeByte 20 = .ok (.arraylength, 1) := dk_190 (dk_at dksJ17_copyOfRangeByte_0 20 rfl rfl)
theorem dJ17_copyOfRangeByte_21 : decode cJ17_copyOfRangeByte 21 = .ok (.iload_n 1, 1) := dk_27 (dk_at dksJ17_copyOfRangeByte_0 21 rfl rfl)
theorem dJ17_copyOfRangeByte_22 : decode cJ17_copyOfRangeByte 22 = .ok (.isub, 1) := dk_100 (dk_at dksJ17_copyOfRangeByte_0 22 rfl rfl)
theorem dJ17_copyOfRangeByte_23 : decode cJ17_copyOfRangeByte 23 = .ok (.iload_n 3, 1) := dk_29 (dk_at dksJ17_copyOfRangeByte_0 23 rfl rfl)
theorem dJ17_copyOfRangeByte_24 : decode cJ17_copyOfRangeByte 24 = .ok (.invokestatic 304, 3) := dk_184 1 48 (dk_at dksJ17_copyOfRangeByte_1 0 rfl rfl)
theorem dJ17_copyOfRangeByte_27 : decode cJ17_copyOfRangeByte 27 = .ok (.invokestatic 150, 3) := dk_184 0 150 (dk_at dksJ17_copyOfRangeByte_1 3 rfl rfl)
theorem dJ17_copyOfRangeByte_30 : decode cJ17_copyOfRangeByte 30 = .ok (.aload 4, 2) := dk_25 4 (dk_at dksJ17_copyOfRangeByte_1 6 rfl rfl)
theorem dJ17_copyOfRangeByte_32 : decode cJ17_copyOfRangeByte 32 = .ok (.areturn, 1) := dk_176 (dk_at dksJ17_copyOfRangeByte_1 8 rfl rfl)
abbrev cJ17_checkLength : ByteArray := prog_44_method_131_code
def yJ17_checkLength : MethodName := ⟨RJ17, "checkLength", "(II)V"⟩
def dkwJ17_checkLength_1 : List UInt8 := [182, 0, 50, 27, 182, 0, 54, 182, 0, 61, 183, 0, 65, 191, 177]
abbrev dktJ17_checkLength_1 : List UInt8 := dkwJ17_checkLength_1 ++ []
def dkwJ17_checkLength_0 : List UInt8 := [27, 26, 162, 0, 35, 187, 0, 43, 89, 187, 0, 45, 89, 183, 0, 47, 26, 182, 0, 54, 19, 1, 81]
abbrev dktJ17_checkLength_0 : List UInt8 := dkwJ17_checkLength_0 ++ dktJ17_checkLength_1
theorem dksJ17_checkLength_0 : cJ17_checkLength.data.toList.drop 0 = dktJ17_checkLength_0 := by decide +kernel
theorem dksJ17_checkLength_1 : cJ17_checkLength.data.toList.drop 23 = dktJ17_checkLength_1 := dk_seg dksJ17_checkLength_0 23 rfl rfl
theorem dJ17_checkLength_0 : decode cJ17_checkLength 0 = .ok (.iload_n 1, 1) := dk_27 (dk_at dksJ17_checkLength_0 0 rfl rfl)
theorem dJ17_checkLength_1 : decode cJ17_checkLength 1 = .ok (.iload_n 0, 1) := dk_26 (dk_at dksJ17_checkLength_0 1 rfl rfl)
theorem dJ17_checkLength_2 : decode cJ17_checkLength 2 = .ok (.if_icmp .ge 35, 3) := dk_162 0 35 (dk_at dksJ17_checkLength_0 2 rfl rfl)
theorem dJ17_checkLength_5 : decode cJ17_checkLength 5 = .ok (.new 43, 3) := dk_187 0 43 (dk_at dksJ17_checkLength_0 5 rfl rfl)
theorem dJ17_checkLength_8 : decode cJ17_checkLength 8 = .ok (.dup, 1) := dk_89 (dk_at dksJ17_checkLength_0 8 rfl rfl)
theorem dJ17_checkLength_9 : decode cJ17_checkLength 9 = .ok (.new 45, 3) := dk_187 0 45 (dk_at dksJ17_checkLength_0 9 rfl rfl)
theorem dJ17_checkLength_12 : decode cJ17_checkLength 12 = .ok (.dup, 1) := dk_89 (dk_at dksJ17_checkLength_0 12 rfl rfl)
theorem dJ17_checkLength_13 : decode cJ17_checkLength 13 = .ok (.invokespecial 47, 3) := dk_183 0 47 (dk_at dksJ17_checkLength_0 13 rfl rfl)
theorem dJ17_checkLength_16 : decode cJ17_checkLength 16 = .ok (.iload_n 0, 1) := dk_26 (dk_at dksJ17_checkLength_0 16 rfl rfl)
theorem dJ17_checkLength_17 : decode cJ17_checkLength 17 = .ok (.invokevirtual 54, 3) := dk_182 0 54 (dk_at dksJ17_checkLength_0 17 rfl rfl)
theorem dJ17_checkLength_20 : decode cJ17_checkLength 20 = .ok (.ldc_w 337, 3) := dk_19 1 81 (dk_at dksJ17_checkLength_0 20 rfl rfl)
theorem dJ17_checkLength_23 : decode cJ17_checkLength 23 = .ok (.invokevirtual 50, 3) := dk_182 0 50 (dk_at dksJ17_checkLength_1 0 rfl rfl)
theorem dJ17_checkLength_26 : decode cJ17_checkLength 26 = .ok (.iload_n 1, 1) := dk_27 (dk_at dksJ17_checkLength_1 3 rfl rfl)
theorem dJ17_checkLength_27 : decode cJ17_checkLength 27 = .ok (.invokevirtual 54, 3) := dk_182 0 54 (dk_at dksJ17_checkLength_1 4 rfl rfl)
theorem dJ17_checkLength_30 : decode cJ17_checkLength 30 = .ok (.invokevirtual 61, 3) := dk_182 0 61 (dk_at dksJ17_checkLength_1 7 rfl rfl)
theorem dJ17_checkLength_33 : decode cJ17_checkLength 33 = .ok (.invokespecial 65, 3) := dk_183 0 65 (dk_at dksJ17_checkLength_1 10 rfl rfl)
theorem dJ17_checkLength_36 : decode cJ17_checkLength 36 = .ok (.athrow, 1) := dk_191 (dk_at dksJ17_checkLength_1 13 rfl rfl)
theorem dJ17_checkLength_37 : decode cJ17_checkLength 37 = .ok (.return_, 1) := dk_177 (dk_at dksJ17_checkLength_1 14 rfl rfl)
abbrev cJ17_copyOf_2 : ByteArray := prog_44_method_119_code
def yJ17_copyOf_2 : MethodName := ⟨RJ17, "copyOf", "([Ljava/lang/Object;I)[Ljava/lang/Object;"⟩
def dkwJ17_copyOf_2_0 : List UInt8 := [42, 27, 42, 182, 0, 86, 184, 1, 44, 176]
abbrev dktJ17_copyOf_2_0 : List UInt8 := dkwJ17_copyOf_2_0 ++ []
theorem dksJ17_copyOf_2_0 : cJ17_copyOf_2.data.toList.drop 0 = dktJ17_copyOf_2_0 := by decide +kernel
theorem dJ17_copyOf_2_0 : decode cJ17_copyOf_2 0 = .ok (.aload_n 0, 1) := dk_42 (dk_at dksJ17_copyOf_2_0 0 rfl rfl)
theorem dJ17_copyOf_2_1 : decode cJ17_copyOf_2 1 = .ok (.iload_n 1, 1) := dk_27 (dk_at dksJ17_copyOf_2_0 1 rfl rfl)
theorem dJ17_copyOf_2_2 : decode cJ17_copyOf_2 2 = .ok (.aload_n 0, 1) := dk_42 (dk_at dksJ17_copyOf_2_0 2 rfl rfl)
theorem dJ17_copyOf_2_3 : decode cJ17_copyOf_2 3 = .ok (.invokevirtual 86, 3) := dk_182 0 86 (dk_at dksJ17_copyOf_2_0 3 rfl rfl)
theorem dJ17_copyOf_2_6 : decode cJ17_copyOf_2 6 = .ok (.invokestatic 300, 3) := dk_184 1 44 (dk_at dksJ17_copyOf_2_0 6 rfl rfl)
theorem dJ17_copyOf_2_9 : decode cJ17_copyOf_2 9 = .ok (.areturn, 1) := dk_176 (dk_at dksJ17_copyOf_2_0 9 rfl rfl)
abbrev cJ17_copyOf_3 : ByteArray := prog_44_method_120_code
def yJ17_copyOf_3 : MethodName := ⟨RJ17, "copyOf", "([Ljava/lang/Object;ILjava/lang/Class;)[Ljava/lang/Object;"⟩
def dkwJ17_copyOf_3_1 : List UInt8 := [78, 42, 3, 45, 3, 42, 190, 27, 184, 1, 48, 184, 0, 150, 45, 176]
abbrev dktJ17_copyOf_3_1 : List UInt8 := dkwJ17_copyOf_3_1 ++ []
def dkwJ17_copyOf_3_0 : List UInt8 := [44, 18, 110, 166, 0, 10, 27, 189, 0, 2, 167, 0, 14, 44, 182, 0, 90, 27, 184, 0, 95, 192, 0, 110]
abbrev dktJ17_copyOf_3_0 : List UInt8 := dkwJ17_copyOf_3_0 ++ dktJ17_copyOf_3_1
theorem dksJ17_copyOf_3_0 : cJ17_copyOf_3.data.toList.drop 0 = dktJ17_copyOf_3_0 := by decide +kernel
theorem dksJ17_copyOf_3_1 : cJ17_copyOf_3.data.toList.drop 24 = dktJ17_copyOf_3_1 := dk_seg dksJ17_copyOf_3_0 24 rfl rfl
theorem dJ17_copyOf_3_0 : decode cJ17_copyOf_3 0 = .ok (.aload_n 2, 1) := dk_44 (dk_at dksJ17_copyOf_3_0 0 rfl rfl)
theorem dJ17_copyOf_3_1 : decode cJ17_copyOf_3 1 = .ok (.ldc 110, 2) := dk_18 110 (dk_at dksJ17_copyOf_3_0 1 rfl rfl)
theorem dJ17_copyOf_3_3 : decode cJ17_copyOf_3 3 = .ok (.if_acmp .ne 10, 3) := dk_166 0 10 (dk_at dksJ17_copyOf_3_0 3 rfl rfl)
theorem dJ17_copyOf_3_6 : decode cJ17_copyOf_3 6 = .ok (.iload_n 1, 1) := dk_27 (dk_at dksJ17_copyOf_3_0 6 rfl rfl)
theorem dJ17_copyOf_3_7 : decode cJ17_copyOf_3 7 = .ok (.anewarray 2, 3) := dk_189 0 2 (dk_at dksJ17_copyOf_3_0 7 rfl rfl)
theorem dJ17_copyOf_3_10 : decode cJ17_copyOf_3 10 = .ok (.goto 14, 3) := dk_167 0 14 (dk_at dksJ17_copyOf_3_0 10 rfl rfl)
theorem dJ17_copyOf_3_13 : decode cJ17_copyOf_3 13 = .ok (.aload_n 2, 1) := dk_44 (dk_at dksJ17_copyOf_3_0 13 rfl rfl)
theorem dJ17_copyOf_3_14 : decode cJ17_copyOf_3 14 = .ok (.invokevirtual 90, 3) := dk_182 0 90 (dk_at dksJ17_copyOf_3_0 14 rfl rfl)
theorem dJ17_copyOf_3_17 : decode cJ17_copyOf_3 17 = .ok (.iload_n 1, 1) := dk_27 (dk_at dksJ17_copyOf_3_0 17 rfl rfl)
theorem dJ17_copyOf_3_18 : decode cJ17_copyOf_3 18 = .ok (.invokestatic 95, 3) := dk_184 0 95 (dk_at dksJ17_copyOf_3_0 18 rfl rfl)
theorem dJ17_copyOf_3_21 : decode cJ17_copyOf_3 21 = .ok (.checkcast 110, 3) := dk_192 0 110 (dk_at dksJ17_copyOf_3_0 21 rfl rfl)
theorem dJ17_copyOf_3_24 : decode cJ17_copyOf_3 24 = .ok (.astore_n 3, 1) := dk_78 (dk_at dksJ17_copyOf_3_1 0 rfl rfl)
theorem dJ17_copyOf_3_25 : decode cJ17_copyOf_3 25 = .ok (.aload_n 0, 1) := dk_42 (dk_at dksJ17_copyOf_3_1 1 rfl rfl)
theorem dJ17_copyOf_3_26 : decode cJ17_copyOf_3 26 = .ok (.iconst 0, 1) := dk_3 (dk_at dksJ17_copyOf_3_1 2 rfl rfl)
theorem dJ17_copyOf_3_27 : decode cJ17_copyOf_3 27 = .ok (.aload_n 3, 1) := dk_45 (dk_at dksJ17_copyOf_3_1 3 rfl rfl)
theorem dJ17_copyOf_3_28 : decode cJ17_copyOf_3 28 = .ok (.iconst 0, 1) := dk_3 (dk_at dksJ17_copyOf_3_1 4 rfl rfl)
theorem dJ17_copyOf_3_29 : decode cJ17_copyOf_3 29 = .ok (.aload_n 0, 1) := dk_42 (dk_at dksJ17_copyOf_3_1 5 rfl rfl)
theorem dJ17_copyOf_3_30 : decode cJ17_copyOf_3 30 = .ok (.arraylength, 1) := dk_190 (dk_at dksJ17_copyOf_3_1 6 rfl rfl)
theorem dJ17_copyOf_3_31 : decode cJ17_copyOf_3 31 = .ok (.iload_n 1, 1) := dk_27 (dk_at dksJ17_copyOf_3_1 7 rfl rfl)
theorem dJ17_copyOf_3_32 : decode cJ17_copyOf_3 32 = .ok (.invokestatic 304, 3) := dk_184 1 48 (dk_at dksJ17_copyOf_3_1 8 rfl rfl)
theorem dJ17_copyOf_3_35 : decode cJ17_copyOf_3 35 = .ok (.invokestatic 150, 3) := dk_184 0 150 (dk_at dksJ17_copyOf_3_1 11 rfl rfl)
theorem dJ17_copyOf_3_38 : decode cJ17_copyOf_3 38 = .ok (.aload_n 3, 1) := dk_45 (dk_at dksJ17_copyOf_3_1 14 rfl rfl)
theorem dJ17_copyOf_3_39 : decode cJ17_copyOf_3 39 = .ok (.areturn, 1) := dk_176 (dk_at dksJ17_copyOf_3_1 15 rfl rfl)
abbrev cJ8_vectorizedHashCode : ByteArray := prog_61_method_4_code
def yJ8_vectorizedHashCode : MethodName := ⟨RJ8, "vectorizedHashCode", "(Ljava/lang/Object;IIII)I"⟩
def dkwJ8_vectorizedHashCode_6 : List UInt8 := [183, 0, 91, 18, 92, 182, 0, 94, 21, 4, 182, 0, 98, 182, 0, 101, 183, 0, 105, 191, 172]
abbrev dktJ8_vectorizedHashCode_6 : List UInt8 := dkwJ8_vectorizedHashCode_6 ++ []
def dkwJ8_vectorizedHashCode_5 : List UInt8 := [167, 0, 44, 29, 42, 192, 0, 82, 27, 28, 184, 0, 84, 167, 0, 31, 187, 0, 87, 89, 187, 0, 89, 89]
abbrev dktJ8_vectorizedHashCode_5 : List UInt8 := dkwJ8_vectorizedHashCode_5 ++ dktJ8_vectorizedHashCode_6
def dkwJ8_vectorizedHashCode_4 : List UInt8 := [29, 42, 192, 0, 60, 27, 28, 184, 0, 75, 167, 0, 57, 29, 42, 192, 0, 77, 27, 28, 184, 0, 79]
abbrev dktJ8_vectorizedHashCode_4 : List UInt8 := dkwJ8_vectorizedHashCode_4 ++ dktJ8_vectorizedHashCode_5
def dkwJ8_vectorizedHashCode_3 : List UInt8 := [192, 0, 60, 27, 28, 184, 0, 66, 167, 0, 83, 29, 42, 192, 0, 69, 27, 28, 184, 0, 71, 167, 0, 70]
abbrev dktJ8_vectorizedHashCode_3 : List UInt8 := dkwJ8_vectorizedHashCode_3 ++ dktJ8_vectorizedHashCode_4
def dkwJ8_vectorizedHashCode_2 : List UInt8 := [29, 42, 192, 0, 60, 27, 28, 184, 0, 62, 167, 0, 103, 42, 193, 0, 60, 153, 0, 16, 29, 42]
abbrev dktJ8_vectorizedHashCode_2 : List UInt8 := dkwJ8_vectorizedHashCode_2 ++ dktJ8_vectorizedHashCode_3
def dkwJ8_vectorizedHashCode_1 : List UInt8 := [170, 0, 0, 0, 0, 127, 0, 0, 0, 4, 0, 0, 0, 10, 0, 0, 0, 42, 0, 0, 0, 55, 0, 0, 0, 127, 0, 0, 0, 127, 0, 0, 0, 88, 0, 0, 0, 101, 0, 0, 0, 114]
abbrev dktJ8_vectorizedHashCode_1 : List UInt8 := dkwJ8_vectorizedHashCode_1 ++ dktJ8_vectorizedHashCode_2
def dkwJ8_vectorizedHashCode_0 : List UInt8 := [21, 4]
abbrev dktJ8_vectorizedHashCode_0 : List UInt8 := dkwJ8_vectorizedHashCode_0 ++ dktJ8_vectorizedHashCode_1
theorem dksJ8_vectorizedHashCode_0 : cJ8_vectorizedHashCode.data.toList.drop 0 = dktJ8_vectorizedHashCode_0 := by decide +kernel
theorem dksJ8_vectorizedHashCode_1 : cJ8_vectorizedHashCode.data.toList.drop 2 = dktJ8_vectorizedHashCode_1 := dk_seg dksJ8_vectorizedHashCode_0 2 rfl rfl
theorem dksJ8_vectorizedHashCode_2 : cJ8_vectorizedHashCode.data.toList.drop 44 = dktJ8_vectorizedHashCode_2 := dk_seg dksJ8_vectorizedHashCode_1 42 rfl rfl
theorem dksJ8_vectorizedHashCode_3 : cJ8_vectorizedHashCode.data.toList.drop 66 = dktJ8_vectorizedHashCode_3 := dk_seg dksJ8_vectorizedHashCode_2 22 rfl rfl
theorem dksJ8_vectorizedHashCode_4 : cJ8_vectorizedHashCode.data.toList.drop 90 = dktJ8_vectorizedHashCode_4 := dk_seg dksJ8_vectorizedHashCode_3 24 rfl rfl
theorem dksJ8_vectorizedHashCode_5 : cJ8_vectorizedHashCode.data.toList.drop 113 = dktJ8_vectorizedHashCode_5 := dk_seg dksJ8_vectorizedHashCode_4 23 rfl rfl
theorem dksJ8_vectorizedHashCode_6 : cJ8_vectorizedHashCode.data.toList.drop 137 = dktJ8_vectorizedHashCode_6 := dk_seg dksJ8_vectorizedHashCode_5 24 rfl rfl
theorem dJ8_vectorizedHashCode_0 : decode cJ8_vectorizedHashCode 0 = .ok (.iload 4, 2) := dk_21 4 (dk_at dksJ8_vectorizedHashCode_0 0 rfl rfl)
theorem dJ8_vectorizedHashCode_2 : decode cJ8_vectorizedHashCode 2 = .ok (.tableswitch 127 4 10 #[42, 55, 127, 127, 88, 101, 114], 42) := by decide +kernel
theorem dJ8_vectorizedHashCode_44 : decode cJ8_vectorizedHashCode 44 = .ok (.iload_n 3, 1) := dk_29 (dk_at dksJ8_vectorizedHashCode_2 0 rfl rfl)
theorem dJ8_vectorizedHashCode_45 : decode cJ8_vectorizedHashCode 45 = .ok (.aload_n 0, 1) := dk_42 (dk_at dksJ8_vectorizedHashCode_2 1 rfl rfl)
theorem dJ8_vectorizedHashCode_46 : decode cJ8_vectorizedHashCode 46 = .ok (.checkcast 60, 3) := dk_192 0 60 (dk_at dksJ8_vectorizedHashCode_2 2 rfl rfl)
theorem dJ8_vectorizedHashCode_49 : decode cJ8_vectorizedHashCode 49 = .ok (.iload_n 1, 1) := dk_27 (dk_at dksJ8_vectorizedHashCode_2 5 rfl rfl)
theorem dJ8_vectorizedHashCode_50 : decode cJ8_vectorizedHashCode 50 = .ok (.iload_n 2, 1) := dk_28 (dk_at dksJ8_vectorizedHashCode_2 6 rfl rfl)
theorem dJ8_vectorizedHashCode_51 : decode cJ8_vectorizedHashCode 51 = .ok (.invokestatic 62, 3) := dk_184 0 62 (dk_at dksJ8_vectorizedHashCode_2 7 rfl rfl)
theorem dJ8_vectorizedHashCode_54 : decode cJ8_vectorizedHashCode 54 = .ok (.goto 103, 3) := dk_167 0 103 (dk_at dksJ8_vectorizedHashCode_2 10 rfl rfl)
theorem dJ8_vectorizedHashCode_57 : decode cJ8_vectorizedHashCode 57 = .ok (.aload_n 0, 1) := dk_42 (dk_at dksJ8_vectorizedHashCode_2 13 rfl rfl)
theorem dJ8_vectorizedHashCode_58 : decode cJ8_vectorizedHashCode 58 = .ok (.instanceof 60, 3) := dk_193 0 60 (dk_at dksJ8_vectorizedHashCode_2 14 rfl rfl)
theorem dJ8_vectorizedHashCode_61 : decode cJ8_vectorizedHashCode 61 = .ok (.ifCond .eq 16, 3) := dk_153 0 16 (dk_at dksJ8_vectorizedHashCode_2 17 rfl rfl)
theorem dJ8_vectorizedHashCode_64 : decode cJ8_vectorizedHashCode 64 = .ok (.iload_n 3, 1) := dk_29 (dk_at dksJ8_vectorizedHashCode_2 20 rfl rfl)
theorem dJ8_vectorizedHashCode_65 : decode cJ8_vectorizedHashCode 65 = .ok (.aload_n 0, 1) := dk_42 (dk_at dksJ8_vectorizedHashCode_2 21 rfl rfl)
theorem dJ8_vectorizedHashCode_66 : decode cJ8_vectorizedHashCode 66 = .ok (.checkcast 60, 3) := dk_192 0 60 (dk_at dksJ8_vectorizedHashCode_3 0 rfl rfl)
theorem dJ8_vectorizedHashCode_69 : decode cJ8_vectorizedHashCode 69 = .ok (.iload_n 1, 1) := dk_27 (dk_at dksJ8_vectorizedHashCode_3 3 rfl rfl)
theorem dJ8_vectorizedHashCode_70 : decode cJ8_vectorizedHashCode 70 = .ok (.iload_n 2, 1) := dk_28 (dk_at dksJ8_vectorizedHashCode_3 4 rfl rfl)
theorem dJ8_vectorizedHashCode_71 : decode cJ8_vectorizedHashCode 71 = .ok (.invokestatic 66, 3) := dk_184 0 66 (dk_at dksJ8_vectorizedHashCode_3 5 rfl rfl)
theorem dJ8_vectorizedHashCode_74 : decode cJ8_vectorizedHashCode 74 = .ok (.goto 83, 3) := dk_167 0 83 (dk_at dksJ8_vectorizedHashCode_3 8 rfl rfl)
theorem dJ8_vectorizedHashCode_77 : decode cJ8_vectorizedHashCode 77 = .ok (.iload_n 3, 1) := dk_29 (dk_at dksJ8_vectorizedHashCode_3 11 rfl rfl)
theorem dJ8_vectorizedHashCode_78 : decode cJ8_vectorizedHashCode 78 = .ok (.aload_n 0, 1) := dk_42 (dk_at dksJ8_vectorizedHashCode_3 12 rfl rfl)
theorem dJ8_vectorizedHashCode_79 : decode cJ8_vectorizedHashCode 79 = .ok (.checkcast 69, 3) := dk_192 0 69 (dk_at dksJ8_vectorizedHashCode_3 13 rfl rfl)
theorem dJ8_vectorizedHashCode_82 : decode cJ8_vectorizedHashCode 82 = .ok (.iload_n 1, 1) := dk_27 (dk_at dksJ8_vectorizedHashCode_3 16 rfl rfl)
theorem dJ8_vectorizedHashCode_83 : decode cJ8_vectorizedHashCode 83 = .ok (.iload_n 2, 1) := dk_28 (dk_at dksJ8_vectorizedHashCode_3 17 rfl rfl)
theorem dJ8_vectorizedHashCode_84 : decode cJ8_vectorizedHashCode 84 = .ok (.invokestatic 71, 3) := dk_184 0 71 (dk_at dksJ8_vectorizedHashCode_3 18 rfl rfl)
theorem dJ8_vectorizedHashCode_87 : decode cJ8_vectorizedHashCode 87 = .ok (.goto 70, 3) := dk_167 0 70 (dk_at dksJ8_vectorizedHashCode_3 21 rfl rfl)
theorem dJ8_vectorizedHashCode_90 : decode cJ8_vectorizedHashCode 90 = .ok (.iload_n 3, 1) := dk_29 (dk_at dksJ8_vectorizedHashCode_4 0 rfl rfl)
theorem dJ8_vectorizedHashCode_91 : decode cJ8_vectorizedHashCode 91 = .ok (.aload_n 0, 1) := dk_42 (dk_at dksJ8_vectorizedHashCode_4 1 rfl rfl)
theorem dJ8_vectorizedHashCode_92 : decode cJ8_vectorizedHashCode 92 = .ok (.checkcast 60, 3) := dk_192 0 60 (dk_at dksJ8_vectorizedHashCode_4 2 rfl rfl)
theorem dJ8_vectorizedHashCode_95 : decode cJ8_vectorizedHashCode 95 = .ok (.iload_n 1, 1) := dk_27 (dk_at dksJ8_vectorizedHashCode_4 5 rfl rfl)
theorem dJ8_vectorizedHashCode_96 : decode cJ8_vectorizedHashCode 96 = .ok (.iload_n 2, 1) := dk_28 (dk_at dksJ8_vectorizedHashCode_4 6 rfl rfl)
theorem dJ8_vectorizedHashCode_97 : decode cJ8_vectorizedHashCode 97 = .ok (.invokestatic 75, 3) := dk_184 0 75 (dk_at dksJ8_vectorizedHashCode_4 7 rfl rfl)
theorem dJ8_vectorizedHashCode_100 : decode cJ8_vectorizedHashCode 100 = .ok (.goto 57, 3) := dk_167 0 57 (dk_at dksJ8_vectorizedHashCode_4 10 rfl rfl)
theorem dJ8_vectorizedHashCode_103 : decode cJ8_vectorizedHashCode 103 = .ok (.iload_n 3, 1) := dk_29 (dk_at dksJ8_vectorizedHashCode_4 13 rfl rfl)
theorem dJ8_vectorizedHashCode_104 : decode cJ8_vectorizedHashCode 104 = .ok (.aload_n 0, 1) := dk_42 (dk_at dksJ8_vectorizedHashCode_4 14 rfl rfl)
theorem dJ8_vectorizedHashCode_105 : decode cJ8_vectorizedHashCode 105 = .ok (.checkcast 77, 3) := dk_192 0 77 (dk_at dksJ8_vectorizedHashCode_4 15 rfl rfl)
theorem dJ8_vectorizedHashCode_108 : decode cJ8_vectorizedHashCode 108 = .ok (.iload_n 1, 1) := dk_27 (dk_at dksJ8_vectorizedHashCode_4 18 rfl rfl)
theorem dJ8_vectorizedHashCode_109 : decode cJ8_vectorizedHashCode 109 = .ok (.iload_n 2, 1) := dk_28 (dk_at dksJ8_vectorizedHashCode_4 19 rfl rfl)
theorem dJ8_vectorizedHashCode_110 : decode cJ8_vectorizedHashCode 110 = .ok (.invokestatic 79, 3) := dk_184 0 79 (dk_at dksJ8_vectorizedHashCode_4 20 rfl rfl)
theorem dJ8_vectorizedHashCode_113 : decode cJ8_vectorizedHashCode 113 = .ok (.goto 44, 3) := dk_167 0 44 (dk_at dksJ8_vectorizedHashCode_5 0 rfl rfl)
theorem dJ8_vectorizedHashCode_116 : decode cJ8_vectorizedHashCode 116 = .ok (.iload_n 3, 1) := dk_29 (dk_at dksJ8_vectorizedHashCode_5 3 rfl rfl)
theorem dJ8_vectorizedHashCode_117 : decode cJ8_vectorizedHashCode 117 = .ok (.aload_n 0, 1) := dk_42 (dk_at dksJ8_vectorizedHashCode_5 4 rfl rfl)
theorem dJ8_vectorizedHashCode_118 : decode cJ8_vectorizedHashCode 118 = .ok (.checkcast 82, 3) := dk_192 0 82 (dk_at dksJ8_vectorizedHashCode_5 5 rfl rfl)
theorem dJ8_vectorizedHashCode_121 : decode cJ8_vectorizedHashCode 121 = .ok (.iload_n 1, 1) := dk_27 (dk_at dksJ8_vectorizedHashCode_5 8 rfl rfl)
theorem dJ8_vectorizedHashCode_122 : decode cJ8_vectorizedHashCode 122 = .ok (.iload_n 2, 1) := dk_28 (dk_at dksJ8_vectorizedHashCode_5 9 rfl rfl)
theorem dJ8_vectorizedHashCode_123 : decode cJ8_vectorizedHashCode 123 = .ok (.invokestatic 84, 3) := dk_184 0 84 (dk_at dksJ8_vectorizedHashCode_5 10 rfl rfl)
theorem dJ8_vectorizedHashCode_126 : decode cJ8_vectorizedHashCode 126 = .ok (.goto 31, 3) := dk_167 0 31 (dk_at dksJ8_vectorizedHashCode_5 13 rfl rfl)
theorem dJ8_vectorizedHashCode_129 : decode cJ8_vectorizedHashCode 129 = .ok (.new 87, 3) := dk_187 0 87 (dk_at dksJ8_vectorizedHashCode_5 16 rfl rfl)
theorem dJ8_vectorizedHashCode_132 : decode cJ8_vectorizedHashCode 132 = .ok (.dup, 1) := dk_89 (dk_at dksJ8_vectorizedHashCode_5 19 rfl rfl)
theorem dJ8_vectorizedHashCode_133 : decode cJ8_vectorizedHashCode 133 = .ok (.new 89, 3) := dk_187 0 89 (dk_at dksJ8_vectorizedHashCode_5 20 rfl rfl)
theorem dJ8_vectorizedHashCode_136 : decode cJ8_vectorizedHashCode 136 = .ok (.dup, 1) := dk_89 (dk_at dksJ8_vectorizedHashCode_5 23 rfl rfl)
theorem dJ8_vectorizedHashCode_137 : decode cJ8_vectorizedHashCode 137 = .ok (.invokespecial 91, 3) := dk_183 0 91 (dk_at dksJ8_vectorizedHashCode_6 0 rfl rfl)
theorem dJ8_vectorizedHashCode_140 : decode cJ8_vectorizedHashCode 140 = .ok (.ldc 92, 2) := dk_18 92 (dk_at dksJ8_vectorizedHashCode_6 3 rfl rfl)
theorem dJ8_vectorizedHashCode_142 : decode cJ8_vectorizedHashCode 142 = .ok (.invokevirtual 94, 3) := dk_182 0 94 (dk_at dksJ8_vectorizedHashCode_6 5 rfl rfl)
theorem dJ8_vectorizedHashCode_145 : decode cJ8_vectorizedHashCode 145 = .ok (.iload 4, 2) := dk_21 4 (dk_at dksJ8_vectorizedHashCode_6 8 rfl rfl)
theorem dJ8_vectorizedHashCode_147 : decode cJ8_vectorizedHashCode 147 = .ok (.invokevirtual 98, 3) := dk_182 0 98 (dk_at dksJ8_vectorizedHashCode_6 10 rfl rfl)
theorem dJ8_vectorizedHashCode_150 : decode cJ8_vectorizedHashCode 150 = .ok (.invokevirtual 101, 3) := dk_182 0 101 (dk_at dksJ8_vectorizedHashCode_6 13 rfl rfl)
theorem dJ8_vectorizedHashCode_153 : decode cJ8_vectorizedHashCode 153 = .ok (.invokespecial 105, 3) := dk_183 0 105 (dk_at dksJ8_vectorizedHashCode_6 16 rfl rfl)
theorem dJ8_vectorizedHashCode_156 : decode cJ8_vectorizedHashCode 156 = .ok (.athrow, 1) := dk_191 (dk_at dksJ8_vectorizedHashCode_6 19 rfl rfl)
theorem dJ8_vectorizedHashCode_157 : decode cJ8_vectorizedHashCode 157 = .ok (.ireturn, 1) := dk_172 (dk_at dksJ8_vectorizedHashCode_6 20 rfl rfl)
abbrev cJ8_signedHashCode : ByteArray := prog_61_method_5_code
def yJ8_signedHashCode : MethodName := ⟨RJ8, "signedHashCode", "(I[BII)I"⟩
def dkwJ8_signedHashCode_1 : List UInt8 := [17, 0, 255, 126, 96, 59, 132, 5, 1, 167, 255, 232, 26, 172]
abbrev dktJ8_signedHashCode_1 : List UInt8 := dkwJ8_signedHashCode_1 ++ []
def dkwJ8_signedHashCode_0 : List UInt8 := [28, 29, 96, 54, 4, 28, 54, 5, 21, 5, 21, 4, 162, 0, 23, 16, 31, 26, 104, 43, 21, 5, 51]
abbrev dktJ8_signedHashCode_0 : List UInt8 := dkwJ8_signedHashCode_0 ++ dktJ8_signedHashCode_1
theorem dksJ8_signedHashCode_0 : cJ8_signedHashCode.data.toList.drop 0 = dktJ8_signedHashCode_0 := by decide +kernel
theorem dksJ8_signedHashCode_1 : cJ8_signedHashCode.data.toList.drop 23 = dktJ8_signedHashCode_1 := dk_seg dksJ8_signedHashCode_0 23 rfl rfl
theorem dJ8_signedHashCode_0 : decode cJ8_signedHashCode 0 = .ok (.iload_n 2, 1) := dk_28 (dk_at dksJ8_signedHashCode_0 0 rfl rfl)
theorem dJ8_signedHashCode_1 : decode cJ8_signedHashCode 1 = .ok (.iload_n 3, 1) := dk_29 (dk_at dksJ8_signedHashCode_0 1 rfl rfl)
theorem dJ8_signedHashCode_2 : decode cJ8_signedHashCode 2 = .ok (.iadd, 1) := dk_96 (dk_at dksJ8_signedHashCode_0 2 rfl rfl)
theorem dJ8_signedHashCode_3 : decode cJ8_signedHashCode 3 = .ok (.istore 4, 2) := dk_54 4 (dk_at dksJ8_signedHashCode_0 3 rfl rfl)
theorem dJ8_signedHashCode_5 : decode cJ8_signedHashCode 5 = .ok (.iload_n 2, 1) := dk_28 (dk_at dksJ8_signedHashCode_0 5 rfl rfl)
theorem dJ8_signedHashCode_6 : decode cJ8_signedHashCode 6 = .ok (.istore 5, 2) := dk_54 5 (dk_at dksJ8_signedHashCode_0 6 rfl rfl)
theorem dJ8_signedHashCode_8 : decode cJ8_signedHashCode 8 = .ok (.iload 5, 2) := dk_21 5 (dk_at dksJ8_signedHashCode_0 8 rfl rfl)
theorem dJ8_signedHashCode_10 : decode cJ8_signedHashCode 10 = .ok (.iload 4, 2) := dk_21 4 (dk_at dksJ8_signedHashCode_0 10 rfl rfl)
theorem dJ8_signedHashCode_12 : decode cJ8_signedHashCode 12 = .ok (.if_icmp .ge 23, 3) := dk_162 0 23 (dk_at dksJ8_signedHashCode_0 12 rfl rfl)
theorem dJ8_signedHashCode_15 : decode cJ8_signedHashCode 15 = .ok (.bipush 31, 2) := dk_16 31 (dk_at dksJ8_signedHashCode_0 15 rfl rfl)
theorem dJ8_signedHashCode_17 : decode cJ8_signedHashCode 17 = .ok (.iload_n 0, 1) := dk_26 (dk_at dksJ8_signedHashCode_0 17 rfl rfl)
theorem dJ8_signedHashCode_18 : decode cJ8_signedHashCode 18 = .ok (.imul, 1) := dk_104 (dk_at dksJ8_signedHashCode_0 18 rfl rfl)
theorem dJ8_signedHashCode_19 : decode cJ8_signedHashCode 19 = .ok (.aload_n 1, 1) := dk_43 (dk_at dksJ8_signedHashCode_0 19 rfl rfl)
theorem dJ8_signedHashCode_20 : decode cJ8_signedHashCode 20 = .ok (.iload 5, 2) := dk_21 5 (dk_at dksJ8_signedHashCode_0 20 rfl rfl)
theorem dJ8_signedHashCode_22 : decode cJ8_signedHashCode 22 = .ok (.baload, 1) := dk_51 (dk_at dksJ8_signedHashCode_0 22 rfl rfl)
theorem dJ8_signedHashCode_23 : decode cJ8_signedHashCode 23 = .ok (.sipush 255, 3) := dk_17 0 255 (dk_at dksJ8_signedHashCode_1 0 rfl rfl)
theorem dJ8_signedHashCode_26 : decode cJ8_signedHashCode 26 = .ok (.iand, 1) := dk_126 (dk_at dksJ8_signedHashCode_1 3 rfl rfl)
theorem dJ8_signedHashCode_27 : decode cJ8_signedHashCode 27 = .ok (.iadd, 1) := dk_96 (dk_at dksJ8_signedHashCode_1 4 rfl rfl)
theorem dJ8_signedHashCode_28 : decode cJ8_signedHashCode 28 = .ok (.istore_n 0, 1) := dk_59 (dk_at dksJ8_signedHashCode_1 5 rfl rfl)
theorem dJ8_signedHashCode_29 : decode cJ8_signedHashCode 29 = .ok (.iinc 5 1, 3) := dk_132 5 1 (dk_at dksJ8_signedHashCode_1 6 rfl rfl)
theorem dJ8_signedHashCode_32 : decode cJ8_signedHashCode 32 = .ok (.goto (-24), 3) := dk_167 255 232 (dk_at dksJ8_signedHashCode_1 9 rfl rfl)
theorem dJ8_signedHashCode_35 : decode cJ8_signedHashCode 35 = .ok (.iload_n 0, 1) := dk_26 (dk_at dksJ8_signedHashCode_1 12 rfl rfl)
theorem dJ8_signedHashCode_36 : decode cJ8_signedHashCode 36 = .ok (.ireturn, 1) := dk_172 (dk_at dksJ8_signedHashCode_1 13 rfl rfl)
abbrev cJ8_hashCode : ByteArray := prog_61_method_7_code
def yJ8_hashCode : MethodName := ⟨RJ8, "hashCode", "(I[CII)I"⟩
def dkwJ8_hashCode_1 : List UInt8 := [59, 132, 5, 1, 167, 255, 236, 26, 172]
abbrev dktJ8_hashCode_1 : List UInt8 := dkwJ8_hashCode_1 ++ []
def dkwJ8_hashCode_0 : List UInt8 := [28, 29, 96, 54, 4, 28, 54, 5, 21, 5, 21, 4, 162, 0, 19, 16, 31, 26, 104, 43, 21, 5, 52, 96]
abbrev dktJ8_hashCode_0 : List UInt8 := dkwJ8_hashCode_0 ++ dktJ8_hashCode_1
theorem dksJ8_hashCode_0 : cJ8_hashCode.data.toList.drop 0 = dktJ8_hashCode_0 := by decide +kernel
theorem dksJ8_hashCode_1 : cJ8_hashCode.data.toList.drop 24 = dktJ8_hashCode_1 := dk_seg dksJ8_hashCode_0 24 rfl rfl
theorem dJ8_hashCode_0 : decode cJ8_hashCode 0 = .ok (.iload_n 2, 1) := dk_28 (dk_at dksJ8_hashCode_0 0 rfl rfl)
theorem dJ8_hashCode_1 : decode cJ8_hashCode 1 = .ok (.iload_n 3, 1) := dk_29 (dk_at dksJ8_hashCode_0 1 rfl rfl)
theorem dJ8_hashCode_2 : decode cJ8_hashCode 2 = .ok (.iadd, 1) := dk_96 (dk_at dksJ8_hashCode_0 2 rfl rfl)
theorem dJ8_hashCode_3 : decode cJ8_hashCode 3 = .ok (.istore 4, 2) := dk_54 4 (dk_at dksJ8_hashCode_0 3 rfl rfl)
theorem dJ8_hashCode_5 : decode cJ8_hashCode 5 = .ok (.iload_n 2, 1) := dk_28 (dk_at dksJ8_hashCode_0 5 rfl rfl)
theorem dJ8_hashCode_6 : decode cJ8_hashCode 6 = .ok (.istore 5, 2) := dk_54 5 (dk_at dksJ8_hashCode_0 6 rfl rfl)
theorem dJ8_hashCode_8 : decode cJ8_hashCode 8 = .ok (.iload 5, 2) := dk_21 5 (dk_at dksJ8_hashCode_0 8 rfl rfl)
theorem dJ8_hashCode_10 : decode cJ8_hashCode 10 = .ok (.iload 4, 2) := dk_21 4 (dk_at dksJ8_hashCode_0 10 rfl rfl)
theorem dJ8_hashCode_12 : decode cJ8_hashCode 12 = .ok (.if_icmp .ge 19, 3) := dk_162 0 19 (dk_at dksJ8_hashCode_0 12 rfl rfl)
theorem dJ8_hashCode_15 : decode cJ8_hashCode 15 = .ok (.bipush 31, 2) := dk_16 31 (dk_at dksJ8_hashCode_0 15 rfl rfl)
theorem dJ8_hashCode_17 : decode cJ8_hashCode 17 = .ok (.iload_n 0, 1) := dk_26 (dk_at dksJ8_hashCode_0 17 rfl rfl)
theorem dJ8_hashCode_18 : decode cJ8_hashCode 18 = .ok (.imul, 1) := dk_104 (dk_at dksJ8_hashCode_0 18 rfl rfl)
theorem dJ8_hashCode_19 : decode cJ8_hashCode 19 = .ok (.aload_n 1, 1) := dk_43 (dk_at dksJ8_hashCode_0 19 rfl rfl)
theorem dJ8_hashCode_20 : decode cJ8_hashCode 20 = .ok (.iload 5, 2) := dk_21 5 (dk_at dksJ8_hashCode_0 20 rfl rfl)
theorem dJ8_hashCode_22 : decode cJ8_hashCode 22 = .ok (.caload, 1) := dk_52 (dk_at dksJ8_hashCode_0 22 rfl rfl)
theorem dJ8_hashCode_23 : decode cJ8_hashCode 23 = .ok (.iadd, 1) := dk_96 (dk_at dksJ8_hashCode_0 23 rfl rfl)
theorem dJ8_hashCode_24 : decode cJ8_hashCode 24 = .ok (.istore_n 0, 1) := dk_59 (dk_at dksJ8_hashCode_1 0 rfl rfl)
theorem dJ8_hashCode_25 : decode cJ8_hashCode 25 = .ok (.iinc 5 1, 3) := dk_132 5 1 (dk_at dksJ8_hashCode_1 1 rfl rfl)
theorem dJ8_hashCode_28 : decode cJ8_hashCode 28 = .ok (.goto (-20), 3) := dk_167 255 236 (dk_at dksJ8_hashCode_1 4 rfl rfl)
theorem dJ8_hashCode_31 : decode cJ8_hashCode 31 = .ok (.iload_n 0, 1) := dk_26 (dk_at dksJ8_hashCode_1 7 rfl rfl)
theorem dJ8_hashCode_32 : decode cJ8_hashCode 32 = .ok (.ireturn, 1) := dk_172 (dk_at dksJ8_hashCode_1 8 rfl rfl)
abbrev cJ8_hashCode_2 : ByteArray := prog_61_method_6_code
def yJ8_hashCode_2 : MethodName := ⟨RJ8, "hashCode", "(I[BII)I"⟩
def dkwJ8_hashCode_2_1 : List UInt8 := [59, 132, 5, 1, 167, 255, 236, 26, 172]
abbrev dktJ8_hashCode_2_1 : List UInt8 := dkwJ8_hashCode_2_1 ++ []
def dkwJ8_hashCode_2_0 : List UInt8 := [28, 29, 96, 54, 4, 28, 54, 5, 21, 5, 21, 4, 162, 0, 19, 16, 31, 26, 104, 43, 21, 5, 51, 96]
abbrev dktJ8_hashCode_2_0 : List UInt8 := dkwJ8_hashCode_2_0 ++ dktJ8_hashCode_2_1
theorem dksJ8_hashCode_2_0 : cJ8_hashCode_2.data.toList.drop 0 = dktJ8_hashCode_2_0 := by decide +kernel
theorem dksJ8_hashCode_2_1 : cJ8_hashCode_2.data.toList.drop 24 = dktJ8_hashCode_2_1 := dk_seg dksJ8_hashCode_2_0 24 rfl rfl
theorem dJ8_hashCode_2_0 : decode cJ8_hashCode_2 0 = .ok (.iload_n 2, 1) := dk_28 (dk_at dksJ8_hashCode_2_0 0 rfl rfl)
theorem dJ8_hashCode_2_1 : decode cJ8_hashCode_2 1 = .ok (.iload_n 3, 1) := dk_29 (dk_at dksJ8_hashCode_2_0 1 rfl rfl)
theorem dJ8_hashCode_2_2 : decode cJ8_hashCode_2 2 = .ok (.iadd, 1) := dk_96 (dk_at dksJ8_hashCode_2_0 2 rfl rfl)
theorem dJ8_hashCode_2_3 : decode cJ8_hashCode_2 3 = .ok (.istore 4, 2) := dk_54 4 (dk_at dksJ8_hashCode_2_0 3 rfl rfl)
theorem dJ8_hashCode_2_5 : decode cJ8_hashCode_2 5 = .ok (.iload_n 2, 1) := dk_28 (dk_at dksJ8_hashCode_2_0 5 rfl rfl)
theorem dJ8_hashCode_2_6 : decode cJ8_hashCode_2 6 = .ok (.istore 5, 2) := dk_54 5 (dk_at dksJ8_hashCode_2_0 6 rfl rfl)
theorem dJ8_hashCode_2_8 : decode cJ8_hashCode_2 8 = .ok (.iload 5, 2) := dk_21 5 (dk_at dksJ8_hashCode_2_0 8 rfl rfl)
theorem dJ8_hashCode_2_10 : decode cJ8_hashCode_2 10 = .ok (.iload 4, 2) := dk_21 4 (dk_at dksJ8_hashCode_2_0 10 rfl rfl)
theorem dJ8_hashCode_2_12 : decode cJ8_hashCode_2 12 = .ok (.if_icmp .ge 19, 3) := dk_162 0 19 (dk_at dksJ8_hashCode_2_0 12 rfl rfl)
theorem dJ8_hashCode_2_15 : decode cJ8_hashCode_2 15 = .ok (.bipush 31, 2) := dk_16 31 (dk_at dksJ8_hashCode_2_0 15 rfl rfl)
theorem dJ8_hashCode_2_17 : decode cJ8_hashCode_2 17 = .ok (.iload_n 0, 1) := dk_26 (dk_at dksJ8_hashCode_2_0 17 rfl rfl)
theorem dJ8_hashCode_2_18 : decode cJ8_hashCode_2 18 = .ok (.imul, 1) := dk_104 (dk_at dksJ8_hashCode_2_0 18 rfl rfl)
theorem dJ8_hashCode_2_19 : decode cJ8_hashCode_2 19 = .ok (.aload_n 1, 1) := dk_43 (dk_at dksJ8_hashCode_2_0 19 rfl rfl)
theorem dJ8_hashCode_2_20 : decode cJ8_hashCode_2 20 = .ok (.iload 5, 2) := dk_21 5 (dk_at dksJ8_hashCode_2_0 20 rfl rfl)
theorem dJ8_hashCode_2_22 : decode cJ8_hashCode_2 22 = .ok (.baload, 1) := dk_51 (dk_at dksJ8_hashCode_2_0 22 rfl rfl)
theorem dJ8_hashCode_2_23 : decode cJ8_hashCode_2 23 = .ok (.iadd, 1) := dk_96 (dk_at dksJ8_hashCode_2_0 23 rfl rfl)
theorem dJ8_hashCode_2_24 : decode cJ8_hashCode_2 24 = .ok (.istore_n 0, 1) := dk_59 (dk_at dksJ8_hashCode_2_1 0 rfl rfl)
theorem dJ8_hashCode_2_25 : decode cJ8_hashCode_2 25 = .ok (.iinc 5 1, 3) := dk_132 5 1 (dk_at dksJ8_hashCode_2_1 1 rfl rfl)
theorem dJ8_hashCode_2_28 : decode cJ8_hashCode_2 28 = .ok (.goto (-20), 3) := dk_167 255 236 (dk_at dksJ8_hashCode_2_1 4 rfl rfl)
theorem dJ8_hashCode_2_31 : decode cJ8_hashCode_2 31 = .ok (.iload_n 0, 1) := dk_26 (dk_at dksJ8_hashCode_2_1 7 rfl rfl)
theorem dJ8_hashCode_2_32 : decode cJ8_hashCode_2 32 = .ok (.ireturn, 1) := dk_172 (dk_at dksJ8_hashCode_2_1 8 rfl rfl)
abbrev cJ8_hashCode_3 : ByteArray := prog_61_method_8_code
def yJ8_hashCode_3 : MethodName := ⟨RJ8, "hashCode", "(I[SII)I"⟩
def dkwJ8_hashCode_3_1 : List UInt8 := [59, 132, 5, 1, 167, 255, 236, 26, 172]
abbrev dktJ8_hashCode_3_1 : List UInt8 := dkwJ8_hashCode_3_1 ++ []
def dkwJ8_hashCode_3_0 : List UInt8 := [28, 29, 96, 54, 4, 28, 54, 5, 21, 5, 21, 4, 162, 0, 19, 16, 31, 26, 104, 43, 21, 5, 53, 96]
abbrev dktJ8_hashCode_3_0 : List UInt8 := dkwJ8_hashCode_3_0 ++ dktJ8_hashCode_3_1
theorem dksJ8_hashCode_3_0 : cJ8_hashCode_3.data.toList.drop 0 = dktJ8_hashCode_3_0 := by decide +kernel
theorem dksJ8_hashCode_3_1 : cJ8_hashCode_3.data.toList.drop 24 = dktJ8_hashCode_3_1 := dk_seg dksJ8_hashCode_3_0 24 rfl rfl
theorem dJ8_hashCode_3_0 : decode cJ8_hashCode_3 0 = .ok (.iload_n 2, 1) := dk_28 (dk_at dksJ8_hashCode_3_0 0 rfl rfl)
theorem dJ8_hashCode_3_1 : decode cJ8_hashCode_3 1 = .ok (.iload_n 3, 1) := dk_29 (dk_at dksJ8_hashCode_3_0 1 rfl rfl)
theorem dJ8_hashCode_3_2 : decode cJ8_hashCode_3 2 = .ok (.iadd, 1) := dk_96 (dk_at dksJ8_hashCode_3_0 2 rfl rfl)
theorem dJ8_hashCode_3_3 : decode cJ8_hashCode_3 3 = .ok (.istore 4, 2) := dk_54 4 (dk_at dksJ8_hashCode_3_0 3 rfl rfl)
theorem dJ8_hashCode_3_5 : decode cJ8_hashCode_3 5 = .ok (.iload_n 2, 1) := dk_28 (dk_at dksJ8_hashCode_3_0 5 rfl rfl)
theorem dJ8_hashCode_3_6 : decode cJ8_hashCode_3 6 = .ok (.istore 5, 2) := dk_54 5 (dk_at dksJ8_hashCode_3_0 6 rfl rfl)
theorem dJ8_hashCode_3_8 : decode cJ8_hashCode_3 8 = .ok (.iload 5, 2) := dk_21 5 (dk_at dksJ8_hashCode_3_0 8 rfl rfl)
theorem dJ8_hashCode_3_10 : decode cJ8_hashCode_3 10 = .ok (.iload 4, 2) := dk_21 4 (dk_at dksJ8_hashCode_3_0 10 rfl rfl)
theorem dJ8_hashCode_3_12 : decode cJ8_hashCode_3 12 = .ok (.if_icmp .ge 19, 3) := dk_162 0 19 (dk_at dksJ8_hashCode_3_0 12 rfl rfl)
theorem dJ8_hashCode_3_15 : decode cJ8_hashCode_3 15 = .ok (.bipush 31, 2) := dk_16 31 (dk_at dksJ8_hashCode_3_0 15 rfl rfl)
theorem dJ8_hashCode_3_17 : decode cJ8_hashCode_3 17 = .ok (.iload_n 0, 1) := dk_26 (dk_at dksJ8_hashCode_3_0 17 rfl rfl)
theorem dJ8_hashCode_3_18 : decode cJ8_hashCode_3 18 = .ok (.imul, 1) := dk_104 (dk_at dksJ8_hashCode_3_0 18 rfl rfl)
theorem dJ8_hashCode_3_19 : decode cJ8_hashCode_3 19 = .ok (.aload_n 1, 1) := dk_43 (dk_at dksJ8_hashCode_3_0 19 rfl rfl)
theorem dJ8_hashCode_3_20 : decode cJ8_hashCode_3 20 = .ok (.iload 5, 2) := dk_21 5 (dk_at dksJ8_hashCode_3_0 20 rfl rfl)
theorem dJ8_hashCode_3_22 : decode cJ8_hashCode_3 22 = .ok (.saload, 1) := dk_53 (dk_at dksJ8_hashCode_3_0 22 rfl rfl)
theorem dJ8_hashCode_3_23 : decode cJ8_hashCode_3 23 = .ok (.iadd, 1) := dk_96 (dk_at dksJ8_hashCode_3_0 23 rfl rfl)
theorem dJ8_hashCode_3_24 : decode cJ8_hashCode_3 24 = .ok (.istore_n 0, 1) := dk_59 (dk_at dksJ8_hashCode_3_1 0 rfl rfl)
theorem dJ8_hashCode_3_25 : decode cJ8_hashCode_3 25 = .ok (.iinc 5 1, 3) := dk_132 5 1 (dk_at dksJ8_hashCode_3_1 1 rfl rfl)
theorem dJ8_hashCode_3_28 : decode cJ8_hashCode_3 28 = .ok (.goto (-20), 3) := dk_167 255 236 (dk_at dksJ8_hashCode_3_1 4 rfl rfl)
theorem dJ8_hashCode_3_31 : decode cJ8_hashCode_3 31 = .ok (.iload_n 0, 1) := dk_26 (dk_at dksJ8_hashCode_3_1 7 rfl rfl)
theorem dJ8_hashCode_3_32 : decode cJ8_hashCode_3 32 = .ok (.ireturn, 1) := dk_172 (dk_at dksJ8_hashCode_3_1 8 rfl rfl)
abbrev cJ8_hashCode_4 : ByteArray := prog_61_method_9_code
def yJ8_hashCode_4 : MethodName := ⟨RJ8, "hashCode", "(I[III)I"⟩
def dkwJ8_hashCode_4_1 : List UInt8 := [59, 132, 5, 1, 167, 255, 236, 26, 172]
abbrev dktJ8_hashCode_4_1 : List UInt8 := dkwJ8_hashCode_4_1 ++ []
def dkwJ8_hashCode_4_0 : List UInt8 := [28, 29, 96, 54, 4, 28, 54, 5, 21, 5, 21, 4, 162, 0, 19, 16, 31, 26, 104, 43, 21, 5, 46, 96]
abbrev dktJ8_hashCode_4_0 : List UInt8 := dkwJ8_hashCode_4_0 ++ dktJ8_hashCode_4_1
theorem dksJ8_hashCode_4_0 : cJ8_hashCode_4.data.toList.drop 0 = dktJ8_hashCode_4_0 := by decide +kernel
theorem dksJ8_hashCode_4_1 : cJ8_hashCode_4.data.toList.drop 24 = dktJ8_hashCode_4_1 := dk_seg dksJ8_hashCode_4_0 24 rfl rfl
theorem dJ8_hashCode_4_0 : decode cJ8_hashCode_4 0 = .ok (.iload_n 2, 1) := dk_28 (dk_at dksJ8_hashCode_4_0 0 rfl rfl)
theorem dJ8_hashCode_4_1 : decode cJ8_hashCode_4 1 = .ok (.iload_n 3, 1) := dk_29 (dk_at dksJ8_hashCode_4_0 1 rfl rfl)
theorem dJ8_hashCode_4_2 : decode cJ8_hashCode_4 2 = .ok (.iadd, 1) := dk_96 (dk_at dksJ8_hashCode_4_0 2 rfl rfl)
theorem dJ8_hashCode_4_3 : decode cJ8_hashCode_4 3 = .ok (.istore 4, 2) := dk_54 4 (dk_at dksJ8_hashCode_4_0 3 rfl rfl)
theorem dJ8_hashCode_4_5 : decode cJ8_hashCode_4 5 = .ok (.iload_n 2, 1) := dk_28 (dk_at dksJ8_hashCode_4_0 5 rfl rfl)
theorem dJ8_hashCode_4_6 : decode cJ8_hashCode_4 6 = .ok (.istore 5, 2) := dk_54 5 (dk_at dksJ8_hashCode_4_0 6 rfl rfl)
theorem dJ8_hashCode_4_8 : decode cJ8_hashCode_4 8 = .ok (.iload 5, 2) := dk_21 5 (dk_at dksJ8_hashCode_4_0 8 rfl rfl)
theorem dJ8_hashCode_4_10 : decode cJ8_hashCode_4 10 = .ok (.iload 4, 2) := dk_21 4 (dk_at dksJ8_hashCode_4_0 10 rfl rfl)
theorem dJ8_hashCode_4_12 : decode cJ8_hashCode_4 12 = .ok (.if_icmp .ge 19, 3) := dk_162 0 19 (dk_at dksJ8_hashCode_4_0 12 rfl rfl)
theorem dJ8_hashCode_4_15 : decode cJ8_hashCode_4 15 = .ok (.bipush 31, 2) := dk_16 31 (dk_at dksJ8_hashCode_4_0 15 rfl rfl)
theorem dJ8_hashCode_4_17 : decode cJ8_hashCode_4 17 = .ok (.iload_n 0, 1) := dk_26 (dk_at dksJ8_hashCode_4_0 17 rfl rfl)
theorem dJ8_hashCode_4_18 : decode cJ8_hashCode_4 18 = .ok (.imul, 1) := dk_104 (dk_at dksJ8_hashCode_4_0 18 rfl rfl)
theorem dJ8_hashCode_4_19 : decode cJ8_hashCode_4 19 = .ok (.aload_n 1, 1) := dk_43 (dk_at dksJ8_hashCode_4_0 19 rfl rfl)
theorem dJ8_hashCode_4_20 : decode cJ8_hashCode_4 20 = .ok (.iload 5, 2) := dk_21 5 (dk_at dksJ8_hashCode_4_0 20 rfl rfl)
theorem dJ8_hashCode_4_22 : decode cJ8_hashCode_4 22 = .ok (.iaload, 1) := dk_46 (dk_at dksJ8_hashCode_4_0 22 rfl rfl)
theorem dJ8_hashCode_4_23 : decode cJ8_hashCode_4 23 = .ok (.iadd, 1) := dk_96 (dk_at dksJ8_hashCode_4_0 23 rfl rfl)
theorem dJ8_hashCode_4_24 : decode cJ8_hashCode_4 24 = .ok (.istore_n 0, 1) := dk_59 (dk_at dksJ8_hashCode_4_1 0 rfl rfl)
theorem dJ8_hashCode_4_25 : decode cJ8_hashCode_4 25 = .ok (.iinc 5 1, 3) := dk_132 5 1 (dk_at dksJ8_hashCode_4_1 1 rfl rfl)
theorem dJ8_hashCode_4_28 : decode cJ8_hashCode_4 28 = .ok (.goto (-20), 3) := dk_167 255 236 (dk_at dksJ8_hashCode_4_1 4 rfl rfl)
theorem dJ8_hashCode_4_31 : decode cJ8_hashCode_4 31 = .ok (.iload_n 0, 1) := dk_26 (dk_at dksJ8_hashCode_4_1 7 rfl rfl)
theorem dJ8_hashCode_4_32 : decode cJ8_hashCode_4 32 = .ok (.ireturn, 1) := dk_172 (dk_at dksJ8_hashCode_4_1 8 rfl rfl)
abbrev cJ8_newLength : ByteArray := prog_61_method_27_code
def yJ8_newLength : MethodName := ⟨RJ8, "newLength", "(III)I"⟩
def dkwJ8_newLength_1 : List UInt8 := [184, 0, 201, 172]
abbrev dktJ8_newLength_1 : List UInt8 := dkwJ8_newLength_1 ++ []
def dkwJ8_newLength_0 : List UInt8 := [26, 27, 28, 184, 0, 194, 96, 62, 3, 29, 162, 0, 11, 29, 18, 200, 163, 0, 5, 29, 172, 26, 27]
abbrev dktJ8_newLength_0 : List UInt8 := dkwJ8_newLength_0 ++ dktJ8_newLength_1
theorem dksJ8_newLength_0 : cJ8_newLength.data.toList.drop 0 = dktJ8_newLength_0 := by decide +kernel
theorem dksJ8_newLength_1 : cJ8_newLength.data.toList.drop 23 = dktJ8_newLength_1 := dk_seg dksJ8_newLength_0 23 rfl rfl
theorem dJ8_newLength_0 : decode cJ8_newLength 0 = .ok (.iload_n 0, 1) := dk_26 (dk_at dksJ8_newLength_0 0 rfl rfl)
theorem dJ8_newLength_1 : decode cJ8_newLength 1 = .ok (.iload_n 1, 1) := dk_27 (dk_at dksJ8_newLength_0 1 rfl rfl)
theorem dJ8_newLength_2 : decode cJ8_newLength 2 = .ok (.iload_n 2, 1) := dk_28 (dk_at dksJ8_newLength_0 2 rfl rfl)
theorem dJ8_newLength_3 : decode cJ8_newLength 3 = .ok (.invokestatic 194, 3) := dk_184 0 194 (dk_at dksJ8_newLength_0 3 rfl rfl)
theorem dJ8_newLength_6 : decode cJ8_newLength 6 = .ok (.iadd, 1) := dk_96 (dk_at dksJ8_newLength_0 6 rfl rfl)
theorem dJ8_newLength_7 : decode cJ8_newLength 7 = .ok (.istore_n 3, 1) := dk_62 (dk_at dksJ8_newLength_0 7 rfl rfl)
theorem dJ8_newLength_8 : decode cJ8_newLength 8 = .ok (.iconst 0, 1) := dk_3 (dk_at dksJ8_newLength_0 8 rfl rfl)
theorem dJ8_newLength_9 : decode cJ8_newLength 9 = .ok (.iload_n 3, 1) := dk_29 (dk_at dksJ8_newLength_0 9 rfl rfl)
theorem dJ8_newLength_10 : decode cJ8_newLength 10 = .ok (.if_icmp .ge 11, 3) := dk_162 0 11 (dk_at dksJ8_newLength_0 10 rfl rfl)
theorem dJ8_newLength_13 : decode cJ8_newLength 13 = .ok (.iload_n 3, 1) := dk_29 (dk_at dksJ8_newLength_0 13 rfl rfl)
theorem dJ8_newLength_14 : decode cJ8_newLength 14 = .ok (.ldc 200, 2) := dk_18 200 (dk_at dksJ8_newLength_0 14 rfl rfl)
theorem dJ8_newLength_16 : decode cJ8_newLength 16 = .ok (.if_icmp .gt 5, 3) := dk_163 0 5 (dk_at dksJ8_newLength_0 16 rfl rfl)
theorem dJ8_newLength_19 : decode cJ8_newLength 19 = .ok (.iload_n 3, 1) := dk_29 (dk_at dksJ8_newLength_0 19 rfl rfl)
theorem dJ8_newLength_20 : decode cJ8_newLength 20 = .ok (.ireturn, 1) := dk_172 (dk_at dksJ8_newLength_0 20 rfl rfl)
theorem dJ8_newLength_21 : decode cJ8_newLength 21 = .ok (.iload_n 0, 1) := dk_26 (dk_at dksJ8_newLength_0 21 rfl rfl)
theorem dJ8_newLength_22 : decode cJ8_newLength 22 = .ok (.iload_n 1, 1) := dk_27 (dk_at dksJ8_newLength_0 22 rfl rfl)
theorem dJ8_newLength_23 : decode cJ8_newLength 23 = .ok (.invokestatic 201, 3) := dk_184 0 201 (dk_at dksJ8_newLength_1 0 rfl rfl)
theorem dJ8_newLength_26 : decode cJ8_newLength 26 = .ok (.ireturn, 1) := dk_172 (dk_at dksJ8_newLength_1 3 rfl rfl)
abbrev cJ8_hugeLength : ByteArray := prog_61_method_28_code
def yJ8_hugeLength : MethodName := ⟨RJ8, "hugeLength", "(II)I"⟩
def dkwJ8_hugeLength_2 : List UInt8 := [191, 28, 18, 200, 163, 0, 6, 18, 200, 172, 28, 172]
abbrev dktJ8_hugeLength_2 : List UInt8 := dkwJ8_hugeLength_2 ++ []
def dkwJ8_hugeLength_1 : List UInt8 := [26, 182, 0, 98, 18, 208, 182, 0, 94, 27, 182, 0, 98, 18, 210, 182, 0, 94, 182, 0, 101, 183, 0, 212]
abbrev dktJ8_hugeLength_1 : List UInt8 := dkwJ8_hugeLength_1 ++ dktJ8_hugeLength_2
def dkwJ8_hugeLength_0 : List UInt8 := [26, 27, 96, 61, 28, 156, 0, 44, 187, 0, 204, 89, 187, 0, 89, 89, 183, 0, 91, 18, 206, 182, 0, 94]
abbrev dktJ8_hugeLength_0 : List UInt8 := dkwJ8_hugeLength_0 ++ dktJ8_hugeLength_1
theorem dksJ8_hugeLength_0 : cJ8_hugeLength.data.toList.drop 0 = dktJ8_hugeLength_0 := by decide +kernel
theorem dksJ8_hugeLength_1 : cJ8_hugeLength.data.toList.drop 24 = dktJ8_hugeLength_1 := dk_seg dksJ8_hugeLength_0 24 rfl rfl
theorem dksJ8_hugeLength_2 : cJ8_hugeLength.data.toList.drop 48 = dktJ8_hugeLength_2 := dk_seg dksJ8_hugeLength_1 24 rfl rfl
theorem dJ8_hugeLength_0 : decode cJ8_hugeLength 0 = .ok (.iload_n 0, 1) := dk_26 (dk_at dksJ8_hugeLength_0 0 rfl rfl)
theorem dJ8_hugeLength_1 : decode cJ8_hugeLength 1 = .ok (.iload_n 1, 1) := dk_27 (dk_at dksJ8_hugeLength_0 1 rfl rfl)
theorem dJ8_hugeLength_2 : decode cJ8_hugeLength 2 = .ok (.iadd, 1) := dk_96 (dk_at dksJ8_hugeLength_0 2 rfl rfl)
theorem dJ8_hugeLength_3 : decode cJ8_hugeLength 3 = .ok (.istore_n 2, 1) := dk_61 (dk_at dksJ8_hugeLength_0 3 rfl rfl)
theorem dJ8_hugeLength_4 : decode cJ8_hugeLength 4 = .ok (.iload_n 2, 1) := dk_28 (dk_at dksJ8_hugeLength_0 4 rfl rfl)
theorem dJ8_hugeLength_5 : decode cJ8_hugeLength 5 = .ok (.ifCond .ge 44, 3) := dk_156 0 44 (dk_at dksJ8_hugeLength_0 5 rfl rfl)
theorem dJ8_hugeLength_8 : decode cJ8_hugeLength 8 = .ok (.new 204, 3) := dk_187 0 204 (dk_at dksJ8_hugeLength_0 8 rfl rfl)
theorem dJ8_hugeLength_11 : decode cJ8_hugeLength 11 = .ok (.dup, 1) := dk_89 (dk_at dksJ8_hugeLength_0 11 rfl rfl)
theorem dJ8_hugeLength_12 : decode cJ8_hugeLength 12 = .ok (.new 89, 3) := dk_187 0 89 (dk_at dksJ8_hugeLength_0 12 rfl rfl)
theorem dJ8_hugeLength_15 : decode cJ8_hugeLength 15 = .ok (.dup, 1) := dk_89 (dk_at dksJ8_hugeLength_0 15 rfl rfl)
theorem dJ8_hugeLength_16 : decode cJ8_hugeLength 16 = .ok (.invokespecial 91, 3) := dk_183 0 91 (dk_at dksJ8_hugeLength_0 16 rfl rfl)
theorem dJ8_hugeLength_19 : decode cJ8_hugeLength 19 = .ok (.ldc 206, 2) := dk_18 206 (dk_at dksJ8_hugeLength_0 19 rfl rfl)
theorem dJ8_hugeLength_21 : decode cJ8_hugeLength 21 = .ok (.invokevirtual 94, 3) := dk_182 0 94 (dk_at dksJ8_hugeLength_0 21 rfl rfl)
theorem dJ8_hugeLength_24 : decode cJ8_hugeLength 24 = .ok (.iload_n 0, 1) := dk_26 (dk_at dksJ8_hugeLength_1 0 rfl rfl)
theorem dJ8_hugeLength_25 : decode cJ8_hugeLength 25 = .ok (.invokevirtual 98, 3) := dk_182 0 98 (dk_at dksJ8_hugeLength_1 1 rfl rfl)
theorem dJ8_hugeLength_28 : decode cJ8_hugeLength 28 = .ok (.ldc 208, 2) := dk_18 208 (dk_at dksJ8_hugeLength_1 4 rfl rfl)
theorem dJ8_hugeLength_30 : decode cJ8_hugeLength 30 = .ok (.invokevirtual 94, 3) := dk_182 0 94 (dk_at dksJ8_hugeLength_1 6 rfl rfl)
theorem dJ8_hugeLength_33 : decode cJ8_hugeLength 33 = .ok (.iload_n 1, 1) := dk_27 (dk_at dksJ8_hugeLength_1 9 rfl rfl)
theorem dJ8_hugeLength_34 : decode cJ8_hugeLength 34 = .ok (.invokevirtual 98, 3) := dk_182 0 98 (dk_at dksJ8_hugeLength_1 10 rfl rfl)
theorem dJ8_hugeLength_37 : decode cJ8_hugeLength 37 = .ok (.ldc 210, 2) := dk_18 210 (dk_at dksJ8_hugeLength_1 13 rfl rfl)
theorem dJ8_hugeLength_39 : decode cJ8_hugeLength 39 = .ok (.invokevirtual 94, 3) := dk_182 0 94 (dk_at dksJ8_hugeLength_1 15 rfl rfl)
theorem dJ8_hugeLength_42 : decode cJ8_hugeLength 42 = .ok (.invokevirtual 101, 3) := dk_182 0 101 (dk_at dksJ8_hugeLength_1 18 rfl rfl)
theorem dJ8_hugeLength_45 : decode cJ8_hugeLength 45 = .ok (.invokespecial 212, 3) := dk_183 0 212 (dk_at dksJ8_hugeLength_1 21 rfl rfl)
theorem dJ8_hugeLength_48 : decode cJ8_hugeLength 48 = .ok (.athrow, 1) := dk_191 (dk_at dksJ8_hugeLength_2 0 rfl rfl)
theorem dJ8_hugeLength_49 : decode cJ8_hugeLength 49 = .ok (.iload_n 2, 1) := dk_28 (dk_at dksJ8_hugeLength_2 1 rfl rfl)
theorem dJ8_hugeLength_50 : decode cJ8_hugeLength 50 = .ok (.ldc 200, 2) := dk_18 200 (dk_at dksJ8_hugeLength_2 2 rfl rfl)
theorem dJ8_hugeLength_52 : decode cJ8_hugeLength 52 = .ok (.if_icmp .gt 6, 3) := dk_163 0 6 (dk_at dksJ8_hugeLength_2 4 rfl rfl)
theorem dJ8_hugeLength_55 : decode cJ8_hugeLength 55 = .ok (.ldc 200, 2) := dk_18 200 (dk_at dksJ8_hugeLength_2 7 rfl rfl)
theorem dJ8_hugeLength_57 : decode cJ8_hugeLength 57 = .ok (.ireturn, 1) := dk_172 (dk_at dksJ8_hugeLength_2 9 rfl rfl)
theorem dJ8_hugeLength_58 : decode cJ8_hugeLength 58 = .ok (.iload_n 2, 1) := dk_28 (dk_at dksJ8_hugeLength_2 10 rfl rfl)
theorem dJ8_hugeLength_59 : decode cJ8_hugeLength 59 = .ok (.ireturn, 1) := dk_172 (dk_at dksJ8_hugeLength_2 11 rfl rfl)
abbrev cJ6_hashCode : ByteArray := prog_30_method_78_code
def yJ6_hashCode : MethodName := ⟨RJ6, "hashCode", "()I"⟩
def dkwJ6_hashCode_2 : List UInt8 := [181, 0, 23, 167, 0, 8, 42, 27, 181, 0, 19, 27, 172]
abbrev dktJ6_hashCode_2 : List UInt8 := dkwJ6_hashCode_2 ++ []
def dkwJ6_hashCode_1 : List UInt8 := [180, 0, 9, 184, 2, 116, 167, 0, 10, 42, 180, 0, 9, 184, 2, 120, 60, 27, 154, 0, 11, 42, 4]
abbrev dktJ6_hashCode_1 : List UInt8 := dkwJ6_hashCode_1 ++ dktJ6_hashCode_2
def dkwJ6_hashCode_0 : List UInt8 := [42, 180, 0, 19, 60, 27, 154, 0, 52, 42, 180, 0, 23, 154, 0, 45, 42, 182, 1, 236, 153, 0, 13, 42]
abbrev dktJ6_hashCode_0 : List UInt8 := dkwJ6_hashCode_0 ++ dktJ6_hashCode_1
theorem dksJ6_hashCode_0 : cJ6_hashCode.data.toList.drop 0 = dktJ6_hashCode_0 := by decide +kernel
theorem dksJ6_hashCode_1 : cJ6_hashCode.data.toList.drop 24 = dktJ6_hashCode_1 := dk_seg dksJ6_hashCode_0 24 rfl rfl
theorem dksJ6_hashCode_2 : cJ6_hashCode.data.toList.drop 47 = dktJ6_hashCode_2 := dk_seg dksJ6_hashCode_1 23 rfl rfl
theorem dJ6_hashCode_0 : decode cJ6_hashCode 0 = .ok (.aload_n 0, 1) := dk_42 (dk_at dksJ6_hashCode_0 0 rfl rfl)
theorem dJ6_hashCode_1 : decode cJ6_hashCode 1 = .ok (.getfield 19, 3) := dk_180 0 19 (dk_at dksJ6_hashCode_0 1 rfl rfl)
theorem dJ6_hashCode_4 : decode cJ6_hashCode 4 = .ok (.istore_n 1, 1) := dk_60 (dk_at dksJ6_hashCode_0 4 rfl rfl)
theorem dJ6_hashCode_5 : decode cJ6_hashCode 5 = .ok (.iload_n 1, 1) := dk_27 (dk_at dksJ6_hashCode_0 5 rfl rfl)
theorem dJ6_hashCode_6 : decode cJ6_hashCode 6 = .ok (.ifCond .ne 52, 3) := dk_154 0 52 (dk_at dksJ6_hashCode_0 6 rfl rfl)
theorem dJ6_hashCode_9 : decode cJ6_hashCode 9 = .ok (.aload_n 0, 1) := dk_42 (dk_at dksJ6_hashCode_0 9 rfl rfl)
theorem dJ6_hashCode_10 : decode cJ6_hashCode 10 = .ok (.getfield 23, 3) := dk_180 0 23 (dk_at dksJ6_hashCode_0 10 rfl rfl)
theorem dJ6_hashCode_13 : decode cJ6_hashCode 13 = .ok (.ifCond .ne 45, 3) := dk_154 0 45 (dk_at dksJ6_hashCode_0 13 rfl rfl)
theorem dJ6_hashCode_16 : decode cJ6_hashCode 16 = .ok (.aload_n 0, 1) := dk_42 (dk_at dksJ6_hashCode_0 16 rfl rfl)
theorem dJ6_hashCode_17 : decode cJ6_hashCode 17 = .ok (.invokevirtual 492, 3) := dk_182 1 236 (dk_at dksJ6_hashCode_0 17 rfl rfl)
theorem dJ6_hashCode_20 : decode cJ6_hashCode 20 = .ok (.ifCond .eq 13, 3) := dk_153 0 13 (dk_at dksJ6_hashCode_0 20 rfl rfl)
theorem dJ6_hashCode_23 : decode cJ6_hashCode 23 = .ok (.aload_n 0, 1) := dk_42 (dk_at dksJ6_hashCode_0 23 rfl rfl)
theorem dJ6_hashCode_24 : decode cJ6_hashCode 24 = .ok (.getfield 9, 3) := dk_180 0 9 (dk_at dksJ6_hashCode_1 0 rfl rfl)
theorem dJ6_hashCode_27 : decode cJ6_hashCode 27 = .ok (.invokestatic 628, 3) := dk_184 2 116 (dk_at dksJ6_hashCode_1 3 rfl rfl)
theorem dJ6_hashCode_30 : decode cJ6_hashCode 30 = .ok (.goto 10, 3) := dk_167 0 10 (dk_at dksJ6_hashCode_1 6 rfl rfl)
theorem dJ6_hashCode_33 : decode cJ6_hashCode 33 = .ok (.aload_n 0, 1) := dk_42 (dk_at dksJ6_hashCode_1 9 rfl rfl)
theorem dJ6_hashCode_34 : decode cJ6_hashCode 34 = .ok (.getfield 9, 3) := dk_180 0 9 (dk_at dksJ6_hashCode_1 10 rfl rfl)
theorem dJ6_hashCode_37 : decode cJ6_hashCode 37 = .ok (.invokestatic 632, 3) := dk_184 2 120 (dk_at dksJ6_hashCode_1 13 rfl rfl)
theorem dJ6_hashCode_40 : decode cJ6_hashCode 40 = .ok (.istore_n 1, 1) := dk_60 (dk_at dksJ6_hashCode_1 16 rfl rfl)
theorem dJ6_hashCode_41 : decode cJ6_hashCode 41 = .ok (.iload_n 1, 1) := dk_27 (dk_at dksJ6_hashCode_1 17 rfl rfl)
theorem dJ6_hashCode_42 : decode cJ6_hashCode 42 = .ok (.ifCond .ne 11, 3) := dk_154 0 11 (dk_at dksJ6_hashCode_1 18 rfl rfl)
theorem dJ6_hashCode_45 : decode cJ6_hashCode 45 = .ok (.aload_n 0, 1) := dk_42 (dk_at dksJ6_hashCode_1 21 rfl rfl)
theorem dJ6_hashCode_46 : decode cJ6_hashCode 46 = .ok (.iconst 1, 1) := dk_4 (dk_at dksJ6_hashCode_1 22 rfl rfl)
theorem dJ6_hashCode_47 : decode cJ6_hashCode 47 = .ok (.putfield 23, 3) := dk_181 0 23 (dk_at dksJ6_hashCode_2 0 rfl rfl)
theorem dJ6_hashCode_50 : decode cJ6_hashCode 50 = .ok (.goto 8, 3) := dk_167 0 8 (dk_at dksJ6_hashCode_2 3 rfl rfl)
theorem dJ6_hashCode_53 : decode cJ6_hashCode 53 = .ok (.aload_n 0, 1) := dk_42 (dk_at dksJ6_hashCode_2 6 rfl rfl)
theorem dJ6_hashCode_54 : decode cJ6_hashCode 54 = .ok (.iload_n 1, 1) := dk_27 (dk_at dksJ6_hashCode_2 7 rfl rfl)
theorem dJ6_hashCode_55 : decode cJ6_hashCode 55 = .ok (.putfield 19, 3) := dk_181 0 19 (dk_at dksJ6_hashCode_2 8 rfl rfl)
theorem dJ6_hashCode_58 : decode cJ6_hashCode 58 = .ok (.iload_n 1, 1) := dk_27 (dk_at dksJ6_hashCode_2 11 rfl rfl)
theorem dJ6_hashCode_59 : decode cJ6_hashCode 59 = .ok (.ireturn, 1) := dk_172 (dk_at dksJ6_hashCode_2 12 rfl rfl)
abbrev cJ6_isLatin1 : ByteArray := prog_30_method_154_code
def yJ6_isLatin1 : MethodName := ⟨RJ6, "isLatin1", "()Z"⟩
def dkwJ6_isLatin1_0 : List UInt8 := [178, 0, 38, 153, 0, 14, 42, 180, 0, 15, 154, 0, 7, 4, 167, 0, 4, 3, 172]
abbrev dktJ6_isLatin1_0 : List UInt8 := dkwJ6_isLatin1_0 ++ []
theorem dksJ6_isLatin1_0 : cJ6_isLatin1.data.toList.drop 0 = dktJ6_isLatin1_0 := by decide +kernel
theorem dJ6_isLatin1_0 : decode cJ6_isLatin1 0 = .ok (.getstatic 38, 3) := dk_178 0 38 (dk_at dksJ6_isLatin1_0 0 rfl rfl)
theorem dJ6_isLatin1_3 : decode cJ6_isLatin1 3 = .ok (.ifCond .eq 14, 3) := dk_153 0 14 (dk_at dksJ6_isLatin1_0 3 rfl rfl)
theorem dJ6_isLatin1_6 : decode cJ6_isLatin1 6 = .ok (.aload_n 0, 1) := dk_42 (dk_at dksJ6_isLatin1_0 6 rfl rfl)
theorem dJ6_isLatin1_7 : decode cJ6_isLatin1 7 = .ok (.getfield 15, 3) := dk_180 0 15 (dk_at dksJ6_isLatin1_0 7 rfl rfl)
theorem dJ6_isLatin1_10 : decode cJ6_isLatin1 10 = .ok (.ifCond .ne 7, 3) := dk_154 0 7 (dk_at dksJ6_isLatin1_0 10 rfl rfl)
theorem dJ6_isLatin1_13 : decode cJ6_isLatin1 13 = .ok (.iconst 1, 1) := dk_4 (dk_at dksJ6_isLatin1_0 13 rfl rfl)
theorem dJ6_isLatin1_14 : decode cJ6_isLatin1 14 = .ok (.goto 4, 3) := dk_167 0 4 (dk_at dksJ6_isLatin1_0 14 rfl rfl)
theorem dJ6_isLatin1_17 : decode cJ6_isLatin1 17 = .ok (.iconst 0, 1) := dk_3 (dk_at dksJ6_isLatin1_0 17 rfl rfl)
theorem dJ6_isLatin1_18 : decode cJ6_isLatin1 18 = .ok (.ireturn, 1) := dk_172 (dk_at dksJ6_isLatin1_0 18 rfl rfl)
abbrev cJ6_length : ByteArray := prog_30_method_54_code
def yJ6_length : MethodName := ⟨RJ6, "length", "()I"⟩
def dkwJ6_length_0 : List UInt8 := [42, 180, 0, 9, 190, 42, 182, 1, 79, 122, 172]
abbrev dktJ6_length_0 : List UInt8 := dkwJ6_length_0 ++ []
theorem dksJ6_length_0 : cJ6_length.data.toList.drop 0 = dktJ6_length_0 := by decide +kernel
theorem dJ6_length_0 : decode cJ6_length 0 = .ok (.aload_n 0, 1) := dk_42 (dk_at dksJ6_length_0 0 rfl rfl)
theorem dJ6_length_1 : decode cJ6_length 1 = .ok (.getfield 9, 3) := dk_180 0 9 (dk_at dksJ6_length_0 1 rfl rfl)
theorem dJ6_length_4 : decode cJ6_length 4 = .ok (.arraylength, 1) := dk_190 (dk_at dksJ6_length_0 4 rfl rfl)
theorem dJ6_length_5 : decode cJ6_length 5 = .ok (.aload_n 0, 1) := dk_42 (dk_at dksJ6_length_0 5 rfl rfl)
theorem dJ6_length_6 : decode cJ6_length 6 = .ok (.invokevirtual 335, 3) := dk_182 1 79 (dk_at dksJ6_length_0 6 rfl rfl)
theorem dJ6_length_9 : decode cJ6_length 9 = .ok (.ishr, 1) := dk_122 (dk_at dksJ6_length_0 9 rfl rfl)
theorem dJ6_length_10 : decode cJ6_length 10 = .ok (.ireturn, 1) := dk_172 (dk_at dksJ6_length_0 10 rfl rfl)
abbrev cJ6_coder : ByteArray := prog_30_method_152_code
def yJ6_coder : MethodName := ⟨RJ6, "coder", "()B"⟩
def dkwJ6_coder_0 : List UInt8 := [178, 0, 38, 153, 0, 10, 42, 180, 0, 15, 167, 0, 4, 4, 172]
abbrev dktJ6_coder_0 : List UInt8 := dkwJ6_coder_0 ++ []
theorem dksJ6_coder_0 : cJ6_coder.data.toList.drop 0 = dktJ6_coder_0 := by decide +kernel
theorem dJ6_coder_0 : decode cJ6_coder 0 = .ok (.getstatic 38, 3) := dk_178 0 38 (dk_at dksJ6_coder_0 0 rfl rfl)
theorem dJ6_coder_3 : decode cJ6_coder 3 = .ok (.ifCond .eq 10, 3) := dk_153 0 10 (dk_at dksJ6_coder_0 3 rfl rfl)
theorem dJ6_coder_6 : decode cJ6_coder 6 = .ok (.aload_n 0, 1) := dk_42 (dk_at dksJ6_coder_0 6 rfl rfl)
theorem dJ6_coder_7 : decode cJ6_coder 7 = .ok (.getfield 15, 3) := dk_180 0 15 (dk_at dksJ6_coder_0 7 rfl rfl)
theorem dJ6_coder_10 : decode cJ6_coder 10 = .ok (.goto 4, 3) := dk_167 0 4 (dk_at dksJ6_coder_0 10 rfl rfl)
theorem dJ6_coder_13 : decode cJ6_coder 13 = .ok (.iconst 1, 1) := dk_4 (dk_at dksJ6_coder_0 13 rfl rfl)
theorem dJ6_coder_14 : decode cJ6_coder 14 = .ok (.ireturn, 1) := dk_172 (dk_at dksJ6_coder_0 14 rfl rfl)
abbrev cJ6_init : ByteArray := prog_30_method_53_code
def yJ6_init : MethodName := ⟨RJ6, "<init>", "(Ljava/lang/StringBuilder;)V"⟩
def dkwJ6_init_0 : List UInt8 := [42, 43, 1, 183, 1, 233, 177]
abbrev dktJ6_init_0 : List UInt8 := dkwJ6_init_0 ++ []
theorem dksJ6_init_0 : cJ6_init.data.toList.drop 0 = dktJ6_init_0 := by decide +kernel
theorem dJ6_init_0 : decode cJ6_init 0 = .ok (.aload_n 0, 1) := dk_42 (dk_at dksJ6_init_0 0 rfl rfl)
theorem dJ6_init_1 : decode cJ6_init 1 = .ok (.aload_n 1, 1) := dk_43 (dk_at dksJ6_init_0 1 rfl rfl)
theorem dJ6_init_2 : decode cJ6_init 2 = .ok (.aconst_null, 1) := dk_1 (dk_at dksJ6_init_0 2 rfl rfl)
theorem dJ6_init_3 : decode cJ6_init 3 = .ok (.invokespecial 489, 3) := dk_183 1 233 (dk_at dksJ6_init_0 3 rfl rfl)
theorem dJ6_init_6 : decode cJ6_init 6 = .ok (.return_, 1) := dk_177 (dk_at dksJ6_init_0 6 rfl rfl)
abbrev cJ6_init_2 : ByteArray := prog_30_method_150_code
def yJ6_init_2 : MethodName := ⟨RJ6, "<init>", "(Ljava/lang/AbstractStringBuilder;Ljava/lang/Void;)V"⟩
def dkwJ6_init_2_4 : List UInt8 := [181, 0, 9, 177]
abbrev dktJ6_init_2_4 : List UInt8 := dkwJ6_init_2_4 ++ []
def dkwJ6_init_2_3 : List UInt8 := [184, 0, 47, 181, 0, 15, 177, 42, 4, 181, 0, 15, 42, 45, 3, 21, 4, 4, 120, 184, 0, 54]
abbrev dktJ6_init_2_3 : List UInt8 := dkwJ6_init_2_3 ++ dktJ6_init_2_4
def dkwJ6_init_2_2 : List UInt8 := [180, 4, 24, 153, 0, 28, 42, 45, 3, 21, 4, 184, 4, 27, 181, 0, 9, 42, 42, 180, 0, 9, 21, 4]
abbrev dktJ6_init_2_2 : List UInt8 := dkwJ6_init_2_2 ++ dktJ6_init_2_3
def dkwJ6_init_2_1 : List UInt8 := [181, 0, 15, 42, 45, 3, 21, 4, 184, 0, 54, 181, 0, 9, 167, 0, 59, 178, 0, 38, 153, 0, 35, 43]
abbrev dktJ6_init_2_1 : List UInt8 := dkwJ6_init_2_1 ++ dktJ6_init_2_2
def dkwJ6_init_2_0 : List UInt8 := [42, 183, 0, 1, 43, 182, 2, 40, 78, 43, 182, 2, 37, 54, 4, 43, 182, 4, 23, 153, 0, 22, 42, 3]
abbrev dktJ6_init_2_0 : List UInt8 := dkwJ6_init_2_0 ++ dktJ6_init_2_1
theorem dksJ6_init_2_0 : cJ6_init_2.data.toList.drop 0 = dktJ6_init_2_0 := by decide +kernel
theorem dksJ6_init_2_1 : cJ6_init_2.data.toList.drop 24 = dktJ6_init_2_1 := dk_seg dksJ6_init_2_0 24 rfl rfl
theorem dksJ6_init_2_2 : cJ6_init_2.data.toList.drop 48 = dktJ6_init_2_2 := dk_seg dksJ6_init_2_1 24 rfl rfl
theorem dksJ6_init_2_3 : cJ6_init_2.data.toList.drop 72 = dktJ6_init_2_3 := dk_seg dksJ6_init_2_2 24 rfl rfl
theorem dksJ6_init_2_4 : cJ6_init_2.data.toList.drop 94 = dktJ6_init_2_4 := dk_seg dksJ6_init_2_3 22 rfl rfl
theorem dJ6_init_2_0 : decode cJ6_init_2 0 = .ok (.aload_n 0, 1) := dk_42 (dk_at dksJ6_init_2_0 0 rfl rfl)
theorem dJ6_init_2_1 : decode cJ6_init_2 1 = .ok (.invokespecial 1, 3) := dk_183 0 1 (dk_at dksJ6_init_2_0 1 rfl rfl)
theorem dJ6_init_2_4 : decode cJ6_init_2 4 = .ok (.aload_n 1, 1) := dk_43 (dk_at dksJ6_init_2_0 4 rfl rfl)
theorem dJ6_init_2_5 : decode cJ6_init_2 5 = .ok (.invokevirtual 552, 3) := dk_182 2 40 (dk_at dksJ6_init_2_0 5 rfl rfl)
theorem dJ6_init_2_8 : decode cJ6_init_2 8 = .ok (.astore_n 3, 1) := dk_78 (dk_at dksJ6_init_2_0 8 rfl rfl)
theorem dJ6_init_2_9 : decode cJ6_init_2 9 = .ok (.aload_n 1, 1) := dk_43 (dk_at dksJ6_init_2_0 9 rfl rfl)
theorem dJ6_init_2_10 : decode cJ6_init_2 10 = .ok (.invokevirtual 549, 3) := dk_182 2 37 (dk_at dksJ6_init_2_0 10 rfl rfl)
theorem dJ6_init_2_13 : decode cJ6_init_2 13 = .ok (.istore 4, 2) := dk_54 4 (dk_at dksJ6_init_2_0 13 rfl rfl)
theorem dJ6_init_2_15 : decode cJ6_init_2 15 = .ok (.aload_n 1, 1) := dk_43 (dk_at dksJ6_init_2_0 15 rfl rfl)
theorem dJ6_init_2_16 : decode cJ6_init_2 16 = .ok (.invokevirtual 1047, 3) := dk_182 4 23 (dk_at dksJ6_init_2_0 16 rfl rfl)
theorem dJ6_init_2_19 : decode cJ6_init_2 19 = .ok (.ifCond .eq 22, 3) := dk_153 0 22 (dk_at dksJ6_init_2_0 19 rfl rfl)
theorem dJ6_init_2_22 : decode cJ6_init_2 22 = .ok (.aload_n 0, 1) := dk_42 (dk_at dksJ6_init_2_0 22 rfl rfl)
theorem dJ6_init_2_23 : decode cJ6_init_2 23 = .ok (.iconst 0, 1) := dk_3 (dk_at dksJ6_init_2_0 23 rfl rfl)
theorem dJ6_init_2_24 : decode cJ6_init_2 24 = .ok (.putfield 15, 3) := dk_181 0 15 (dk_at dksJ6_init_2_1 0 rfl rfl)
theorem dJ6_init_2_27 : decode cJ6_init_2 27 = .ok (.aload_n 0, 1) := dk_42 (dk_at dksJ6_init_2_1 3 rfl rfl)
theorem dJ6_init_2_28 : decode cJ6_init_2 28 = .ok (.aload_n 3, 1) := dk_45 (dk_at dksJ6_init_2_1 4 rfl rfl)
theorem dJ6_init_2_29 : decode cJ6_init_2 29 = .ok (.iconst 0, 1) := dk_3 (dk_at dksJ6_init_2_1 5 rfl rfl)
theorem dJ6_init_2_30 : decode cJ6_init_2 30 = .ok (.iload 4, 2) := dk_21 4 (dk_at dksJ6_init_2_1 6 rfl rfl)
theorem dJ6_init_2_32 : decode cJ6_init_2 32 = .ok (.invokestatic 54, 3) := dk_184 0 54 (dk_at dksJ6_init_2_1 8 rfl rfl)
theorem dJ6_init_2_35 : decode cJ6_init_2 35 = .ok (.putfield 9, 3) := dk_181 0 9 (dk_at dksJ6_init_2_1 11 rfl rfl)
theorem dJ6_init_2_38 : decode cJ6_init_2 38 = .ok (.goto 59, 3) := dk_167 0 59 (dk_at dksJ6_init_2_1 14 rfl rfl)
theorem dJ6_init_2_41 : decode cJ6_init_2 41 = .ok (.getstatic 38, 3) := dk_178 0 38 (dk_at dksJ6_init_2_1 17 rfl rfl)
theorem dJ6_init_2_44 : decode cJ6_init_2 44 = .ok (.ifCond .eq 35, 3) := dk_153 0 35 (dk_at dksJ6_init_2_1 20 rfl rfl)
theorem dJ6_init_2_47 : decode cJ6_init_2 47 = .ok (.aload_n 1, 1) := dk_43 (dk_at dksJ6_init_2_1 23 rfl rfl)
theorem dJ6_init_2_48 : decode cJ6_init_2 48 = .ok (.getfield 1048, 3) := dk_180 4 24 (dk_at dksJ6_init_2_2 0 rfl rfl)
theorem dJ6_init_2_51 : decode cJ6_init_2 51 = .ok (.ifCond .eq 28, 3) := dk_153 0 28 (dk_at dksJ6_init_2_2 3 rfl rfl)
theorem dJ6_init_2_54 : decode cJ6_init_2 54 = .ok (.aload_n 0, 1) := dk_42 (dk_at dksJ6_init_2_2 6 rfl rfl)
theorem dJ6_init_2_55 : decode cJ6_init_2 55 = .ok (.aload_n 3, 1) := dk_45 (dk_at dksJ6_init_2_2 7 rfl rfl)
theorem dJ6_init_2_56 : decode cJ6_init_2 56 = .ok (.iconst 0, 1) := dk_3 (dk_at dksJ6_init_2_2 8 rfl rfl)
theorem dJ6_init_2_57 : decode cJ6_init_2 57 = .ok (.iload 4, 2) := dk_21 4 (dk_at dksJ6_init_2_2 9 rfl rfl)
theorem dJ6_init_2_59 : decode cJ6_init_2 59 = .ok (.invokestatic 1051, 3) := dk_184 4 27 (dk_at dksJ6_init_2_2 11 rfl rfl)
theorem dJ6_init_2_62 : decode cJ6_init_2 62 = .ok (.putfield 9, 3) := dk_181 0 9 (dk_at dksJ6_init_2_2 14 rfl rfl)
theorem dJ6_init_2_65 : decode cJ6_init_2 65 = .ok (.aload_n 0, 1) := dk_42 (dk_at dksJ6_init_2_2 17 rfl rfl)
theorem dJ6_init_2_66 : decode cJ6_init_2 66 = .ok (.aload_n 0, 1) := dk_42 (dk_at dksJ6_init_2_2 18 rfl rfl)
theorem dJ6_init_2_67 : decode cJ6_init_2 67 = .ok (.getfield 9, 3) := dk_180 0 9 (dk_at dksJ6_init_2_2 19 rfl rfl)
theorem dJ6_init_2_70 : decode cJ6_init_2 70 = .ok (.iload 4, 2) := dk_21 4 (dk_at dksJ6_init_2_2 22 rfl rfl)
theorem dJ6_init_2_72 : decode cJ6_init_2 72 = .ok (.invokestatic 47, 3) := dk_184 0 47 (dk_at dksJ6_init_2_3 0 rfl rfl)
theorem dJ6_init_2_75 : decode cJ6_init_2 75 = .ok (.putfield 15, 3) := dk_181 0 15 (dk_at dksJ6_init_2_3 3 rfl rfl)
theorem dJ6_init_2_78 : decode cJ6_init_2 78 = .ok (.return_, 1) := dk_177 (dk_at dksJ6_init_2_3 6 rfl rfl)
theorem dJ6_init_2_79 : decode cJ6_init_2 79 = .ok (.aload_n 0, 1) := dk_42 (dk_at dksJ6_init_2_3 7 rfl rfl)
theorem dJ6_init_2_80 : decode cJ6_init_2 80 = .ok (.iconst 1, 1) := dk_4 (dk_at dksJ6_init_2_3 8 rfl rfl)
theorem dJ6_init_2_81 : decode cJ6_init_2 81 = .ok (.putfield 15, 3) := dk_181 0 15 (dk_at dksJ6_init_2_3 9 rfl rfl)
theorem dJ6_init_2_84 : decode cJ6_init_2 84 = .ok (.aload_n 0, 1) := dk_42 (dk_at dksJ6_init_2_3 12 rfl rfl)
theorem dJ6_init_2_85 : decode cJ6_init_2 85 = .ok (.aload_n 3, 1) := dk_45 (dk_at dksJ6_init_2_3 13 rfl rfl)
theorem dJ6_init_2_86 : decode cJ6_init_2 86 = .ok (.iconst 0, 1) := dk_3 (dk_at dksJ6_init_2_3 14 rfl rfl)
theorem dJ6_init_2_87 : decode cJ6_init_2 87 = .ok (.iload 4, 2) := dk_21 4 (dk_at dksJ6_init_2_3 15 rfl rfl)
theorem dJ6_init_2_89 : decode cJ6_init_2 89 = .ok (.iconst 1, 1) := dk_4 (dk_at dksJ6_init_2_3 17 rfl rfl)
theorem dJ6_init_2_90 : decode cJ6_init_2 90 = .ok (.ishl, 1) := dk_120 (dk_at dksJ6_init_2_3 18 rfl rfl)
theorem dJ6_init_2_91 : decode cJ6_init_2 91 = .ok (.invokestatic 54, 3) := dk_184 0 54 (dk_at dksJ6_init_2_3 19 rfl rfl)
theorem dJ6_init_2_94 : decode cJ6_init_2 94 = .ok (.putfield 9, 3) := dk_181 0 9 (dk_at dksJ6_init_2_4 0 rfl rfl)
theorem dJ6_init_2_97 : decode cJ6_init_2 97 = .ok (.return_, 1) := dk_177 (dk_at dksJ6_init_2_4 3 rfl rfl)
abbrev cJ6_equals : ByteArray := prog_30_method_66_code
def yJ6_equals : MethodName := ⟨RJ6, "equals", "(Ljava/lang/Object;)Z"⟩
def dkwJ6_equals_2 : List UInt8 := [184, 2, 29, 153, 0, 7, 4, 167, 0, 4, 3, 172]
abbrev dktJ6_equals_2 : List UInt8 := dkwJ6_equals_2 ++ []
def dkwJ6_equals_1 : List UInt8 := [153, 0, 14, 42, 180, 0, 15, 44, 180, 0, 15, 160, 0, 21, 42, 180, 0, 9, 44, 180, 0, 9]
abbrev dktJ6_equals_1 : List UInt8 := dkwJ6_equals_1 ++ dktJ6_equals_2
def dkwJ6_equals_0 : List UInt8 := [42, 43, 166, 0, 5, 4, 172, 43, 193, 0, 10, 153, 0, 43, 43, 192, 0, 10, 77, 178, 0, 38]
abbrev dktJ6_equals_0 : List UInt8 := dkwJ6_equals_0 ++ dktJ6_equals_1
theorem dksJ6_equals_0 : cJ6_equals.data.toList.drop 0 = dktJ6_equals_0 := by decide +kernel
theorem dksJ6_equals_1 : cJ6_equals.data.toList.drop 22 = dktJ6_equals_1 := dk_seg dksJ6_equals_0 22 rfl rfl
theorem dksJ6_equals_2 : cJ6_equals.data.toList.drop 44 = dktJ6_equals_2 := dk_seg dksJ6_equals_1 22 rfl rfl
theorem dJ6_equals_0 : decode cJ6_equals 0 = .ok (.aload_n 0, 1) := dk_42 (dk_at dksJ6_equals_0 0 rfl rfl)
theorem dJ6_equals_1 : decode cJ6_equals 1 = .ok (.aload_n 1, 1) := dk_43 (dk_at dksJ6_equals_0 1 rfl rfl)
theorem dJ6_equals_2 : decode cJ6_equals 2 = .ok (.if_acmp .ne 5, 3) := dk_166 0 5 (dk_at dksJ6_equals_0 2 rfl rfl)
theorem dJ6_equals_5 : decode cJ6_equals 5 = .ok (.iconst 1, 1) := dk_4 (dk_at dksJ6_equals_0 5 rfl rfl)
theorem dJ6_equals_6 : decode cJ6_equals 6 = .ok (.ireturn, 1) := dk_172 (dk_at dksJ6_equals_0 6 rfl rfl)
theorem dJ6_equals_7 : decode cJ6_equals 7 = .ok (.aload_n 1, 1) := dk_43 (dk_at dksJ6_equals_0 7 rfl rfl)
theorem dJ6_equals_8 : decode cJ6_equals 8 = .ok (.instanceof 10, 3) := dk_193 0 10 (dk_at dksJ6_equals_0 8 rfl rfl)
theorem dJ6_equals_11 : decode cJ6_equals 11 = .ok (.ifCond .eq 43, 3) := dk_153 0 43 (dk_at dksJ6_equals_0 11 rfl rfl)
theorem dJ6_equals_14 : decode cJ6_equals 14 = .ok (.aload_n 1, 1) := dk_43 (dk_at dksJ6_equals_0 14 rfl rfl)
theorem dJ6_equals_15 : decode cJ6_equals 15 = .ok (.checkcast 10, 3) := dk_192 0 10 (dk_at dksJ6_equals_0 15 rfl rfl)
theorem dJ6_equals_18 : decode cJ6_equals 18 = .ok (.astore_n 2, 1) := dk_77 (dk_at dksJ6_equals_0 18 rfl rfl)
theorem dJ6_equals_19 : decode cJ6_equals 19 = .ok (.getstatic 38, 3) := dk_178 0 38 (dk_at dksJ6_equals_0 19 rfl rfl)
theorem dJ6_equals_22 : decode cJ6_equals 22 = .ok (.ifCond .eq 14, 3) := dk_153 0 14 (dk_at dksJ6_equals_1 0 rfl rfl)
theorem dJ6_equals_25 : decode cJ6_equals 25 = .ok (.aload_n 0, 1) := dk_42 (dk_at dksJ6_equals_1 3 rfl rfl)
theorem dJ6_equals_26 : decode cJ6_equals 26 = .ok (.getfield 15, 3) := dk_180 0 15 (dk_at dksJ6_equals_1 4 rfl rfl)
theorem dJ6_equals_29 : decode cJ6_equals 29 = .ok (.aload_n 2, 1) := dk_44 (dk_at dksJ6_equals_1 7 rfl rfl)
theorem dJ6_equals_30 : decode cJ6_equals 30 = .ok (.getfield 15, 3) := dk_180 0 15 (dk_at dksJ6_equals_1 8 rfl rfl)
theorem dJ6_equals_33 : decode cJ6_equals 33 = .ok (.if_icmp .ne 21, 3) := dk_160 0 21 (dk_at dksJ6_equals_1 11 rfl rfl)
theorem dJ6_equals_36 : decode cJ6_equals 36 = .ok (.aload_n 0, 1) := dk_42 (dk_at dksJ6_equals_1 14 rfl rfl)
theorem dJ6_equals_37 : decode cJ6_equals 37 = .ok (.getfield 9, 3) := dk_180 0 9 (dk_at dksJ6_equals_1 15 rfl rfl)
theorem dJ6_equals_40 : decode cJ6_equals 40 = .ok (.aload_n 2, 1) := dk_44 (dk_at dksJ6_equals_1 18 rfl rfl)
theorem dJ6_equals_41 : decode cJ6_equals 41 = .ok (.getfield 9, 3) := dk_180 0 9 (dk_at dksJ6_equals_1 19 rfl rfl)
theorem dJ6_equals_44 : decode cJ6_equals 44 = .ok (.invokestatic 541, 3) := dk_184 2 29 (dk_at dksJ6_equals_2 0 rfl rfl)
theorem dJ6_equals_47 : decode cJ6_equals 47 = .ok (.ifCond .eq 7, 3) := dk_153 0 7 (dk_at dksJ6_equals_2 3 rfl rfl)
theorem dJ6_equals_50 : decode cJ6_equals 50 = .ok (.iconst 1, 1) := dk_4 (dk_at dksJ6_equals_2 6 rfl rfl)
theorem dJ6_equals_51 : decode cJ6_equals 51 = .ok (.goto 4, 3) := dk_167 0 4 (dk_at dksJ6_equals_2 7 rfl rfl)
theorem dJ6_equals_54 : decode cJ6_equals 54 = .ok (.iconst 0, 1) := dk_3 (dk_at dksJ6_equals_2 10 rfl rfl)
theorem dJ6_equals_55 : decode cJ6_equals 55 = .ok (.ireturn, 1) := dk_172 (dk_at dksJ6_equals_2 11 rfl rfl)
abbrev cJ6_checkIndex : ByteArray := prog_30_method_155_code
def yJ6_checkIndex : MethodName := ⟨RJ6, "checkIndex", "(II)V"⟩
def dkwJ6_checkIndex_0 : List UInt8 := [26, 27, 178, 4, 29, 184, 4, 35, 87, 177]
abbrev dktJ6_checkIndex_0 : List UInt8 := dkwJ6_checkIndex_0 ++ []
theorem dksJ6_checkIndex_0 : cJ6_checkIndex.data.toList.drop 0 = dktJ6_checkIndex_0 := by decide +kernel
theorem dJ6_checkIndex_0 : decode cJ6_checkIndex 0 = .ok (.iload_n 0, 1) := dk_26 (dk_at dksJ6_checkIndex_0 0 rfl rfl)
theorem dJ6_checkIndex_1 : decode cJ6_checkIndex 1 = .ok (.iload_n 1, 1) := dk_27 (dk_at dksJ6_checkIndex_0 1 rfl rfl)
theorem dJ6_checkIndex_2 : decode cJ6_checkIndex 2 = .ok (.getstatic 1053, 3) := dk_178 4 29 (dk_at dksJ6_checkIndex_0 2 rfl rfl)
theorem dJ6_checkIndex_5 : decode cJ6_checkIndex 5 = .ok (.invokestatic 1059, 3) := dk_184 4 35 (dk_at dksJ6_checkIndex_0 5 rfl rfl)
theorem dJ6_checkIndex_8 : decode cJ6_checkIndex 8 = .ok (.pop, 1) := dk_87 (dk_at dksJ6_checkIndex_0 8 rfl rfl)
theorem dJ6_checkIndex_9 : decode cJ6_checkIndex 9 = .ok (.return_, 1) := dk_177 (dk_at dksJ6_checkIndex_0 9 rfl rfl)
abbrev cJ6_charAt : ByteArray := prog_30_method_56_code
def yJ6_charAt : MethodName := ⟨RJ6, "charAt", "(I)C"⟩
def dkwJ6_charAt_1 : List UInt8 := [172]
abbrev dktJ6_charAt_1 : List UInt8 := dkwJ6_charAt_1 ++ []
def dkwJ6_charAt_0 : List UInt8 := [42, 182, 1, 236, 153, 0, 12, 42, 180, 0, 9, 27, 184, 1, 239, 172, 42, 180, 0, 9, 27, 184, 1, 242]
abbrev dktJ6_charAt_0 : List UInt8 := dkwJ6_charAt_0 ++ dktJ6_charAt_1
theorem dksJ6_charAt_0 : cJ6_charAt.data.toList.drop 0 = dktJ6_charAt_0 := by decide +kernel
theorem dksJ6_charAt_1 : cJ6_charAt.data.toList.drop 24 = dktJ6_charAt_1 := dk_seg dksJ6_charAt_0 24 rfl rfl
theorem dJ6_charAt_0 : decode cJ6_charAt 0 = .ok (.aload_n 0, 1) := dk_42 (dk_at dksJ6_charAt_0 0 rfl rfl)
theorem dJ6_charAt_1 : decode cJ6_charAt 1 = .ok (.invokevirtual 492, 3) := dk_182 1 236 (dk_at dksJ6_charAt_0 1 rfl rfl)
theorem dJ6_charAt_4 : decode cJ6_charAt 4 = .ok (.ifCond .eq 12, 3) := dk_153 0 12 (dk_at dksJ6_charAt_0 4 rfl rfl)
theorem dJ6_charAt_7 : decode cJ6_charAt 7 = .ok (.aload_n 0, 1) := dk_42 (dk_at dksJ6_charAt_0 7 rfl rfl)
theorem dJ6_charAt_8 : decode cJ6_charAt 8 = .ok (.getfield 9, 3) := dk_180 0 9 (dk_at dksJ6_charAt_0 8 rfl rfl)
theorem dJ6_charAt_11 : decode cJ6_charAt 11 = .ok (.iload_n 1, 1) := dk_27 (dk_at dksJ6_charAt_0 11 rfl rfl)
theorem dJ6_charAt_12 : decode cJ6_charAt 12 = .ok (.invokestatic 495, 3) := dk_184 1 239 (dk_at dksJ6_charAt_0 12 rfl rfl)
theorem dJ6_charAt_15 : decode cJ6_charAt 15 = .ok (.ireturn, 1) := dk_172 (dk_at dksJ6_charAt_0 15 rfl rfl)
theorem dJ6_charAt_16 : decode cJ6_charAt 16 = .ok (.aload_n 0, 1) := dk_42 (dk_at dksJ6_charAt_0 16 rfl rfl)
theorem dJ6_charAt_17 : decode cJ6_charAt 17 = .ok (.getfield 9, 3) := dk_180 0 9 (dk_at dksJ6_charAt_0 17 rfl rfl)
theorem dJ6_charAt_20 : decode cJ6_charAt 20 = .ok (.iload_n 1, 1) := dk_27 (dk_at dksJ6_charAt_0 20 rfl rfl)
theorem dJ6_charAt_21 : decode cJ6_charAt 21 = .ok (.invokestatic 498, 3) := dk_184 1 242 (dk_at dksJ6_charAt_0 21 rfl rfl)
theorem dJ6_charAt_24 : decode cJ6_charAt 24 = .ok (.ireturn, 1) := dk_172 (dk_at dksJ6_charAt_1 0 rfl rfl)
abbrev cJ7_hashCode : ByteArray := prog_32_method_21_code
def yJ7_hashCode : MethodName := ⟨RJ7, "hashCode", "([B)I"⟩
def dkwJ7_hashCode_2 : List UInt8 := [3, 167, 0, 22, 42, 3, 51, 17, 0, 255, 126, 167, 0, 12, 42, 3, 42, 190, 3, 7, 184, 0, 84, 172]
abbrev dktJ7_hashCode_2 : List UInt8 := dkwJ7_hashCode_2 ++ []
def dkwJ7_hashCode_1 : List UInt8 := [171, 0, 0, 0, 0, 40, 0, 0, 0, 2, 0, 0, 0, 0, 0, 0, 0, 26, 0, 0, 0, 1, 0, 0, 0, 30]
abbrev dktJ7_hashCode_1 : List UInt8 := dkwJ7_hashCode_1 ++ dktJ7_hashCode_2
def dkwJ7_hashCode_0 : List UInt8 := [42, 190]
abbrev dktJ7_hashCode_0 : List UInt8 := dkwJ7_hashCode_0 ++ dktJ7_hashCode_1
theorem dksJ7_hashCode_0 : cJ7_hashCode.data.toList.drop 0 = dktJ7_hashCode_0 := by decide +kernel
theorem dksJ7_hashCode_1 : cJ7_hashCode.data.toList.drop 2 = dktJ7_hashCode_1 := dk_seg dksJ7_hashCode_0 2 rfl rfl
theorem dksJ7_hashCode_2 : cJ7_hashCode.data.toList.drop 28 = dktJ7_hashCode_2 := dk_seg dksJ7_hashCode_1 26 rfl rfl
theorem dJ7_hashCode_0 : decode cJ7_hashCode 0 = .ok (.aload_n 0, 1) := dk_42 (dk_at dksJ7_hashCode_0 0 rfl rfl)
theorem dJ7_hashCode_1 : decode cJ7_hashCode 1 = .ok (.arraylength, 1) := dk_190 (dk_at dksJ7_hashCode_0 1 rfl rfl)
theorem dJ7_hashCode_2 : decode cJ7_hashCode 2 = .ok (.lookupswitch 40 #[(0, 26), (1, 30)], 26) := by decide +kernel
theorem dJ7_hashCode_28 : decode cJ7_hashCode 28 = .ok (.iconst 0, 1) := dk_3 (dk_at dksJ7_hashCode_2 0 rfl rfl)
theorem dJ7_hashCode_29 : decode cJ7_hashCode 29 = .ok (.goto 22, 3) := dk_167 0 22 (dk_at dksJ7_hashCode_2 1 rfl rfl)
theorem dJ7_hashCode_32 : decode cJ7_hashCode 32 = .ok (.aload_n 0, 1) := dk_42 (dk_at dksJ7_hashCode_2 4 rfl rfl)
theorem dJ7_hashCode_33 : decode cJ7_hashCode 33 = .ok (.iconst 0, 1) := dk_3 (dk_at dksJ7_hashCode_2 5 rfl rfl)
theorem dJ7_hashCode_34 : decode cJ7_hashCode 34 = .ok (.baload, 1) := dk_51 (dk_at dksJ7_hashCode_2 6 rfl rfl)
theorem dJ7_hashCode_35 : decode cJ7_hashCode 35 = .ok (.sipush 255, 3) := dk_17 0 255 (dk_at dksJ7_hashCode_2 7 rfl rfl)
theorem dJ7_hashCode_38 : decode cJ7_hashCode 38 = .ok (.iand, 1) := dk_126 (dk_at dksJ7_hashCode_2 10 rfl rfl)
theorem dJ7_hashCode_39 : decode cJ7_hashCode 39 = .ok (.goto 12, 3) := dk_167 0 12 (dk_at dksJ7_hashCode_2 11 rfl rfl)
theorem dJ7_hashCode_42 : decode cJ7_hashCode 42 = .ok (.aload_n 0, 1) := dk_42 (dk_at dksJ7_hashCode_2 14 rfl rfl)
theorem dJ7_hashCode_43 : decode cJ7_hashCode 43 = .ok (.iconst 0, 1) := dk_3 (dk_at dksJ7_hashCode_2 15 rfl rfl)
theorem dJ7_hashCode_44 : decode cJ7_hashCode 44 = .ok (.aload_n 0, 1) := dk_42 (dk_at dksJ7_hashCode_2 16 rfl rfl)
theorem dJ7_hashCode_45 : decode cJ7_hashCode 45 = .ok (.arraylength, 1) := dk_190 (dk_at dksJ7_hashCode_2 17 rfl rfl)
theorem dJ7_hashCode_46 : decode cJ7_hashCode 46 = .ok (.iconst 0, 1) := dk_3 (dk_at dksJ7_hashCode_2 18 rfl rfl)
theorem dJ7_hashCode_47 : decode cJ7_hashCode 47 = .ok (.iconst 4, 1) := dk_7 (dk_at dksJ7_hashCode_2 19 rfl rfl)
theorem dJ7_hashCode_48 : decode cJ7_hashCode 48 = .ok (.invokestatic 84, 3) := dk_184 0 84 (dk_at dksJ7_hashCode_2 20 rfl rfl)
theorem dJ7_hashCode_51 : decode cJ7_hashCode 51 = .ok (.ireturn, 1) := dk_172 (dk_at dksJ7_hashCode_2 23 rfl rfl)
abbrev cJ7_equals : ByteArray := prog_32_method_13_code
def yJ7_equals : MethodName := ⟨RJ7, "equals", "([B[B)Z"⟩
def dkwJ7_equals_1 : List UInt8 := [3, 172, 132, 2, 1, 167, 255, 236, 4, 172, 3, 172]
abbrev dktJ7_equals_1 : List UInt8 := dkwJ7_equals_1 ++ []
def dkwJ7_equals_0 : List UInt8 := [42, 190, 43, 190, 160, 0, 30, 3, 61, 28, 42, 190, 162, 0, 20, 42, 28, 51, 43, 28, 51, 159, 0, 5]
abbrev dktJ7_equals_0 : List UInt8 := dkwJ7_equals_0 ++ dktJ7_equals_1
theorem dksJ7_equals_0 : cJ7_equals.data.toList.drop 0 = dktJ7_equals_0 := by decide +kernel
theorem dksJ7_equals_1 : cJ7_equals.data.toList.drop 24 = dktJ7_equals_1 := dk_seg dksJ7_equals_0 24 rfl rfl
theorem dJ7_equals_0 : decode cJ7_equals 0 = .ok (.aload_n 0, 1) := dk_42 (dk_at dksJ7_equals_0 0 rfl rfl)
theorem dJ7_equals_1 : decode cJ7_equals 1 = .ok (.arraylength, 1) := dk_190 (dk_at dksJ7_equals_0 1 rfl rfl)
theorem dJ7_equals_2 : decode cJ7_equals 2 = .ok (.aload_n 1, 1) := dk_43 (dk_at dksJ7_equals_0 2 rfl rfl)
theorem dJ7_equals_3 : decode cJ7_equals 3 = .ok (.arraylength, 1) := dk_190 (dk_at dksJ7_equals_0 3 rfl rfl)
theorem dJ7_equals_4 : decode cJ7_equals 4 = .ok (.if_icmp .ne 30, 3) := dk_160 0 30 (dk_at dksJ7_equals_0 4 rfl rfl)
theorem dJ7_equals_7 : decode cJ7_equals 7 = .ok (.iconst 0, 1) := dk_3 (dk_at dksJ7_equals_0 7 rfl rfl)
theorem dJ7_equals_8 : decode cJ7_equals 8 = .ok (.istore_n 2, 1) := dk_61 (dk_at dksJ7_equals_0 8 rfl rfl)
theorem dJ7_equals_9 : decode cJ7_equals 9 = .ok (.iload_n 2, 1) := dk_28 (dk_at dksJ7_equals_0 9 rfl rfl)
theorem dJ7_equals_10 : decode cJ7_equals 10 = .ok (.aload_n 0, 1) := dk_42 (dk_at dksJ7_equals_0 10 rfl rfl)
theorem dJ7_equals_11 : decode cJ7_equals 11 = .ok (.arraylength, 1) := dk_190 (dk_at dksJ7_equals_0 11 rfl rfl)
theorem dJ7_equals_12 : decode cJ7_equals 12 = .ok (.if_icmp .ge 20, 3) := dk_162 0 20 (dk_at dksJ7_equals_0 12 rfl rfl)
theorem dJ7_equals_15 : decode cJ7_equals 15 = .ok (.aload_n 0, 1) := dk_42 (dk_at dksJ7_equals_0 15 rfl rfl)
theorem dJ7_equals_16 : decode cJ7_equals 16 = .ok (.iload_n 2, 1) := dk_28 (dk_at dksJ7_equals_0 16 rfl rfl)
theorem dJ7_equals_17 : decode cJ7_equals 17 = .ok (.baload, 1) := dk_51 (dk_at dksJ7_equals_0 17 rfl rfl)
theorem dJ7_equals_18 : decode cJ7_equals 18 = .ok (.aload_n 1, 1) := dk_43 (dk_at dksJ7_equals_0 18 rfl rfl)
theorem dJ7_equals_19 : decode cJ7_equals 19 = .ok (.iload_n 2, 1) := dk_28 (dk_at dksJ7_equals_0 19 rfl rfl)
theorem dJ7_equals_20 : decode cJ7_equals 20 = .ok (.baload, 1) := dk_51 (dk_at dksJ7_equals_0 20 rfl rfl)
theorem dJ7_equals_21 : decode cJ7_equals 21 = .ok (.if_icmp .eq 5, 3) := dk_159 0 5 (dk_at dksJ7_equals_0 21 rfl rfl)
theorem dJ7_equals_24 : decode cJ7_equals 24 = .ok (.iconst 0, 1) := dk_3 (dk_at dksJ7_equals_1 0 rfl rfl)
theorem dJ7_equals_25 : decode cJ7_equals 25 = .ok (.ireturn, 1) := dk_172 (dk_at dksJ7_equals_1 1 rfl rfl)
theorem dJ7_equals_26 : decode cJ7_equals 26 = .ok (.iinc 2 1, 3) := dk_132 2 1 (dk_at dksJ7_equals_1 2 rfl rfl)
theorem dJ7_equals_29 : decode cJ7_equals 29 = .ok (.goto (-20), 3) := dk_167 255 236 (dk_at dksJ7_equals_1 5 rfl rfl)
theorem dJ7_equals_32 : decode cJ7_equals 32 = .ok (.iconst 1, 1) := dk_4 (dk_at dksJ7_equals_1 8 rfl rfl)
theorem dJ7_equals_33 : decode cJ7_equals 33 = .ok (.ireturn, 1) := dk_172 (dk_at dksJ7_equals_1 9 rfl rfl)
theorem dJ7_equals_34 : decode cJ7_equals 34 = .ok (.iconst 0, 1) := dk_3 (dk_at dksJ7_equals_1 10 rfl rfl)
theorem dJ7_equals_35 : decode cJ7_equals 35 = .ok (.ireturn, 1) := dk_172 (dk_at dksJ7_equals_1 11 rfl rfl)
abbrev cJ7_canEncode : ByteArray := prog_32_method_3_code
def yJ7_canEncode : MethodName := ⟨RJ7, "canEncode", "(C)Z"⟩
def dkwJ7_canEncode_0 : List UInt8 := [26, 17, 0, 255, 163, 0, 7, 4, 167, 0, 4, 3, 172]
abbrev dktJ7_canEncode_0 : List UInt8 := dkwJ7_canEncode_0 ++ []
theorem dksJ7_canEncode_0 : cJ7_canEncode.data.toList.drop 0 = dktJ7_canEncode_0 := by decide +kernel
theorem dJ7_canEncode_0 : decode cJ7_canEncode 0 = .ok (.iload_n 0, 1) := dk_26 (dk_at dksJ7_canEncode_0 0 rfl rfl)
theorem dJ7_canEncode_1 : decode cJ7_canEncode 1 = .ok (.sipush 255, 3) := dk_17 0 255 (dk_at dksJ7_canEncode_0 1 rfl rfl)
theorem dJ7_canEncode_4 : decode cJ7_canEncode 4 = .ok (.if_icmp .gt 7, 3) := dk_163 0 7 (dk_at dksJ7_canEncode_0 4 rfl rfl)
theorem dJ7_canEncode_7 : decode cJ7_canEncode 7 = .ok (.iconst 1, 1) := dk_4 (dk_at dksJ7_canEncode_0 7 rfl rfl)
theorem dJ7_canEncode_8 : decode cJ7_canEncode 8 = .ok (.goto 4, 3) := dk_167 0 4 (dk_at dksJ7_canEncode_0 8 rfl rfl)
theorem dJ7_canEncode_11 : decode cJ7_canEncode 11 = .ok (.iconst 0, 1) := dk_3 (dk_at dksJ7_canEncode_0 11 rfl rfl)
theorem dJ7_canEncode_12 : decode cJ7_canEncode 12 = .ok (.ireturn, 1) := dk_172 (dk_at dksJ7_canEncode_0 12 rfl rfl)
abbrev cJ7_charAt : ByteArray := prog_32_method_2_code
def yJ7_charAt : MethodName := ⟨RJ7, "charAt", "([BI)C"⟩
def dkwJ7_charAt_0 : List UInt8 := [27, 42, 190, 184, 0, 9, 42, 27, 51, 17, 0, 255, 126, 146, 172]
abbrev dktJ7_charAt_0 : List UInt8 := dkwJ7_charAt_0 ++ []
theorem dksJ7_charAt_0 : cJ7_charAt.data.toList.drop 0 = dktJ7_charAt_0 := by decide +kernel
theorem dJ7_charAt_0 : decode cJ7_charAt 0 = .ok (.iload_n 1, 1) := dk_27 (dk_at dksJ7_charAt_0 0 rfl rfl)
theorem dJ7_charAt_1 : decode cJ7_charAt 1 = .ok (.aload_n 0, 1) := dk_42 (dk_at dksJ7_charAt_0 1 rfl rfl)
theorem dJ7_charAt_2 : decode cJ7_charAt 2 = .ok (.arraylength, 1) := dk_190 (dk_at dksJ7_charAt_0 2 rfl rfl)
theorem dJ7_charAt_3 : decode cJ7_charAt 3 = .ok (.invokestatic 9, 3) := dk_184 0 9 (dk_at dksJ7_charAt_0 3 rfl rfl)
theorem dJ7_charAt_6 : decode cJ7_charAt 6 = .ok (.aload_n 0, 1) := dk_42 (dk_at dksJ7_charAt_0 6 rfl rfl)
theorem dJ7_charAt_7 : decode cJ7_charAt 7 = .ok (.iload_n 1, 1) := dk_27 (dk_at dksJ7_charAt_0 7 rfl rfl)
theorem dJ7_charAt_8 : decode cJ7_charAt 8 = .ok (.baload, 1) := dk_51 (dk_at dksJ7_charAt_0 8 rfl rfl)
theorem dJ7_charAt_9 : decode cJ7_charAt 9 = .ok (.sipush 255, 3) := dk_17 0 255 (dk_at dksJ7_charAt_0 9 rfl rfl)
theorem dJ7_charAt_12 : decode cJ7_charAt 12 = .ok (.iand, 1) := dk_126 (dk_at dksJ7_charAt_0 12 rfl rfl)
theorem dJ7_charAt_13 : decode cJ7_charAt 13 = .ok (.i2c, 1) := dk_146 (dk_at dksJ7_charAt_0 13 rfl rfl)
theorem dJ7_charAt_14 : decode cJ7_charAt 14 = .ok (.ireturn, 1) := dk_172 (dk_at dksJ7_charAt_0 14 rfl rfl)
abbrev cJ14_init : ByteArray := prog_13_method_2_code
def yJ14_init : MethodName := ⟨RJ14, "<init>", "(I)V"⟩
def dkwJ14_init_1 : List UInt8 := [167, 0, 16, 42, 27, 184, 0, 26, 181, 0, 15, 42, 4, 181, 0, 22, 177]
abbrev dktJ14_init_1 : List UInt8 := dkwJ14_init_1 ++ []
def dkwJ14_init_0 : List UInt8 := [42, 183, 0, 3, 178, 0, 18, 153, 0, 18, 42, 27, 188, 8, 181, 0, 15, 42, 3, 181, 0, 22]
abbrev dktJ14_init_0 : List UInt8 := dkwJ14_init_0 ++ dktJ14_init_1
theorem dksJ14_init_0 : cJ14_init.data.toList.drop 0 = dktJ14_init_0 := by decide +kernel
theorem dksJ14_init_1 : cJ14_init.data.toList.drop 22 = dktJ14_init_1 := dk_seg dksJ14_init_0 22 rfl rfl
theorem dJ14_init_0 : decode cJ14_init 0 = .ok (.aload_n 0, 1) := dk_42 (dk_at dksJ14_init_0 0 rfl rfl)
theorem dJ14_init_1 : decode cJ14_init 1 = .ok (.invokespecial 3, 3) := dk_183 0 3 (dk_at dksJ14_init_0 1 rfl rfl)
theorem dJ14_init_4 : decode cJ14_init 4 = .ok (.getstatic 18, 3) := dk_178 0 18 (dk_at dksJ14_init_0 4 rfl rfl)
theorem dJ14_init_7 : decode cJ14_init 7 = .ok (.ifCond .eq 18, 3) := dk_153 0 18 (dk_at dksJ14_init_0 7 rfl rfl)
theorem dJ14_init_10 : decode cJ14_init 10 = .ok (.aload_n 0, 1) := dk_42 (dk_at dksJ14_init_0 10 rfl rfl)
theorem dJ14_init_11 : decode cJ14_init 11 = .ok (.iload_n 1, 1) := dk_27 (dk_at dksJ14_init_0 11 rfl rfl)
theorem dJ14_init_12 : decode cJ14_init 12 = .ok (.newarray .byte, 2) := dk_188_8 (dk_at dksJ14_init_0 12 rfl rfl)
theorem dJ14_init_14 : decode cJ14_init 14 = .ok (.putfield 15, 3) := dk_181 0 15 (dk_at dksJ14_init_0 14 rfl rfl)
theorem dJ14_init_17 : decode cJ14_init 17 = .ok (.aload_n 0, 1) := dk_42 (dk_at dksJ14_init_0 17 rfl rfl)
theorem dJ14_init_18 : decode cJ14_init 18 = .ok (.iconst 0, 1) := dk_3 (dk_at dksJ14_init_0 18 rfl rfl)
theorem dJ14_init_19 : decode cJ14_init 19 = .ok (.putfield 22, 3) := dk_181 0 22 (dk_at dksJ14_init_0 19 rfl rfl)
theorem dJ14_init_22 : decode cJ14_init 22 = .ok (.goto 16, 3) := dk_167 0 16 (dk_at dksJ14_init_1 0 rfl rfl)
theorem dJ14_init_25 : decode cJ14_init 25 = .ok (.aload_n 0, 1) := dk_42 (dk_at dksJ14_init_1 3 rfl rfl)
theorem dJ14_init_26 : decode cJ14_init 26 = .ok (.iload_n 1, 1) := dk_27 (dk_at dksJ14_init_1 4 rfl rfl)
theorem dJ14_init_27 : decode cJ14_init 27 = .ok (.invokestatic 26, 3) := dk_184 0 26 (dk_at dksJ14_init_1 5 rfl rfl)
theorem dJ14_init_30 : decode cJ14_init 30 = .ok (.putfield 15, 3) := dk_181 0 15 (dk_at dksJ14_init_1 8 rfl rfl)
theorem dJ14_init_33 : decode cJ14_init 33 = .ok (.aload_n 0, 1) := dk_42 (dk_at dksJ14_init_1 11 rfl rfl)
theorem dJ14_init_34 : decode cJ14_init 34 = .ok (.iconst 1, 1) := dk_4 (dk_at dksJ14_init_1 12 rfl rfl)
theorem dJ14_init_35 : decode cJ14_init 35 = .ok (.putfield 22, 3) := dk_181 0 22 (dk_at dksJ14_init_1 13 rfl rfl)
theorem dJ14_init_38 : decode cJ14_init 38 = .ok (.return_, 1) := dk_177 (dk_at dksJ14_init_1 16 rfl rfl)
abbrev cJ14_append : ByteArray := prog_13_method_22_code
def yJ14_append : MethodName := ⟨RJ14, "append", "(Ljava/lang/String;)Ljava/lang/AbstractStringBuilder;"⟩
def dkwJ14_append_1 : List UInt8 := [42, 42, 180, 0, 79, 43, 182, 0, 208, 42, 89, 180, 0, 79, 28, 96, 181, 0, 79, 42, 176]
abbrev dktJ14_append_1 : List UInt8 := dkwJ14_append_1 ++ []
def dkwJ14_append_0 : List UInt8 := [43, 199, 0, 8, 42, 182, 0, 204, 176, 43, 182, 0, 32, 61, 42, 42, 180, 0, 79, 28, 96, 182, 0, 100]
abbrev dktJ14_append_0 : List UInt8 := dkwJ14_append_0 ++ dktJ14_append_1
theorem dksJ14_append_0 : cJ14_append.data.toList.drop 0 = dktJ14_append_0 := by decide +kernel
theorem dksJ14_append_1 : cJ14_append.data.toList.drop 24 = dktJ14_append_1 := dk_seg dksJ14_append_0 24 rfl rfl
theorem dJ14_append_0 : decode cJ14_append 0 = .ok (.aload_n 1, 1) := dk_43 (dk_at dksJ14_append_0 0 rfl rfl)
theorem dJ14_append_1 : decode cJ14_append 1 = .ok (.ifnonnull 8, 3) := dk_199 0 8 (dk_at dksJ14_append_0 1 rfl rfl)
theorem dJ14_append_4 : decode cJ14_append 4 = .ok (.aload_n 0, 1) := dk_42 (dk_at dksJ14_append_0 4 rfl rfl)
theorem dJ14_append_5 : decode cJ14_append 5 = .ok (.invokevirtual 204, 3) := dk_182 0 204 (dk_at dksJ14_append_0 5 rfl rfl)
theorem dJ14_append_8 : decode cJ14_append 8 = .ok (.areturn, 1) := dk_176 (dk_at dksJ14_append_0 8 rfl rfl)
theorem dJ14_append_9 : decode cJ14_append 9 = .ok (.aload_n 1, 1) := dk_43 (dk_at dksJ14_append_0 9 rfl rfl)
theorem dJ14_append_10 : decode cJ14_append 10 = .ok (.invokevirtual 32, 3) := dk_182 0 32 (dk_at dksJ14_append_0 10 rfl rfl)
theorem dJ14_append_13 : decode cJ14_append 13 = .ok (.istore_n 2, 1) := dk_61 (dk_at dksJ14_append_0 13 rfl rfl)
theorem dJ14_append_14 : decode cJ14_append 14 = .ok (.aload_n 0, 1) := dk_42 (dk_at dksJ14_append_0 14 rfl rfl)
theorem dJ14_append_15 : decode cJ14_append 15 = .ok (.aload_n 0, 1) := dk_42 (dk_at dksJ14_append_0 15 rfl rfl)
theorem dJ14_append_16 : decode cJ14_append 16 = .ok (.getfield 79, 3) := dk_180 0 79 (dk_at dksJ14_append_0 16 rfl rfl)
theorem dJ14_append_19 : decode cJ14_append 19 = .ok (.iload_n 2, 1) := dk_28 (dk_at dksJ14_append_0 19 rfl rfl)
theorem dJ14_append_20 : decode cJ14_append 20 = .ok (.iadd, 1) := dk_96 (dk_at dksJ14_append_0 20 rfl rfl)
theorem dJ14_append_21 : decode cJ14_append 21 = .ok (.invokevirtual 100, 3) := dk_182 0 100 (dk_at dksJ14_append_0 21 rfl rfl)
theorem dJ14_append_24 : decode cJ14_append 24 = .ok (.aload_n 0, 1) := dk_42 (dk_at dksJ14_append_1 0 rfl rfl)
theorem dJ14_append_25 : decode cJ14_append 25 = .ok (.aload_n 0, 1) := dk_42 (dk_at dksJ14_append_1 1 rfl rfl)
theorem dJ14_append_26 : decode cJ14_append 26 = .ok (.getfield 79, 3) := dk_180 0 79 (dk_at dksJ14_append_1 2 rfl rfl)
theorem dJ14_append_29 : decode cJ14_append 29 = .ok (.aload_n 1, 1) := dk_43 (dk_at dksJ14_append_1 5 rfl rfl)
theorem dJ14_append_30 : decode cJ14_append 30 = .ok (.invokevirtual 208, 3) := dk_182 0 208 (dk_at dksJ14_append_1 6 rfl rfl)
theorem dJ14_append_33 : decode cJ14_append 33 = .ok (.aload_n 0, 1) := dk_42 (dk_at dksJ14_append_1 9 rfl rfl)
theorem dJ14_append_34 : decode cJ14_append 34 = .ok (.dup, 1) := dk_89 (dk_at dksJ14_append_1 10 rfl rfl)
theorem dJ14_append_35 : decode cJ14_append 35 = .ok (.getfield 79, 3) := dk_180 0 79 (dk_at dksJ14_append_1 11 rfl rfl)
theorem dJ14_append_38 : decode cJ14_append 38 = .ok (.iload_n 2, 1) := dk_28 (dk_at dksJ14_append_1 14 rfl rfl)
theorem dJ14_append_39 : decode cJ14_append 39 = .ok (.iadd, 1) := dk_96 (dk_at dksJ14_append_1 15 rfl rfl)
theorem dJ14_append_40 : decode cJ14_append 40 = .ok (.putfield 79, 3) := dk_181 0 79 (dk_at dksJ14_append_1 16 rfl rfl)
theorem dJ14_append_43 : decode cJ14_append 43 = .ok (.aload_n 0, 1) := dk_42 (dk_at dksJ14_append_1 19 rfl rfl)
theorem dJ14_append_44 : decode cJ14_append 44 = .ok (.areturn, 1) := dk_176 (dk_at dksJ14_append_1 20 rfl rfl)
abbrev cJ14_ensureCapacityInternal : ByteArray := prog_13_method_9_code
def yJ14_ensureCapacityInternal : MethodName := ⟨RJ14, "ensureCapacityInternal", "(I)V"⟩
def dkwJ14_ensureCapacityInternal_1 : List UInt8 := [182, 0, 104, 42, 180, 0, 22, 120, 184, 0, 108, 181, 0, 15, 177]
abbrev dktJ14_ensureCapacityInternal_1 : List UInt8 := dkwJ14_ensureCapacityInternal_1 ++ []
def dkwJ14_ensureCapacityInternal_0 : List UInt8 := [42, 180, 0, 15, 190, 42, 180, 0, 22, 122, 61, 27, 28, 100, 158, 0, 24, 42, 42, 180, 0, 15, 42, 27]
abbrev dktJ14_ensureCapacityInternal_0 : List UInt8 := dkwJ14_ensureCapacityInternal_0 ++ dktJ14_ensureCapacityInternal_1
theorem dksJ14_ensureCapacityInternal_0 : cJ14_ensureCapacityInternal.data.toList.drop 0 = dktJ14_ensureCapacityInternal_0 := by decide +kernel
theorem dksJ14_ensureCapacityInternal_1 : cJ14_ensureCapacityInternal.data.toList.drop 24 = dktJ14_ensureCapacityInternal_1 := dk_seg dksJ14_ensureCapacityInternal_0 24 rfl rfl
theorem dJ14_ensureCapacityInternal_0 : decode cJ14_ensureCapacityInternal 0 = .ok (.aload_n 0, 1) := dk_42 (dk_at dksJ14_ensureCapacityInternal_0 0 rfl rfl)
theorem dJ14_ensureCapacityInternal_1 : decode cJ14_ensureCapacityInternal 1 = .ok (.getfield 15, 3) := dk_180 0 15 (dk_at dksJ14_ensureCapacityInternal_0 1 rfl rfl)
theorem dJ14_ensureCapacityInternal_4 : decode cJ14_ensureCapacityInternal 4 = .ok (.arraylength, 1) := dk_190 (dk_at dksJ14_ensureCapacityInternal_0 4 rfl rfl)
theorem dJ14_ensureCapacityInternal_5 : decode cJ14_ensureCapacityInternal 5 = .ok (.aload_n 0, 1) := dk_42 (dk_at dksJ14_ensureCapacityInternal_0 5 rfl rfl)
theorem dJ14_ensureCapacityInternal_6 : decode cJ14_ensureCapacityInternal 6 = .ok (.getfield 22, 3) := dk_180 0 22 (dk_at dksJ14_ensureCapacityInternal_0 6 rfl rfl)
theorem dJ14_ensureCapacityInternal_9 : decode cJ14_ensureCapacityInternal 9 = .ok (.ishr, 1) := dk_122 (dk_at dksJ14_ensureCapacityInternal_0 9 rfl rfl)
theorem dJ14_ensureCapacityInternal_10 : decode cJ14_ensureCapacityInternal 10 = .ok (.istore_n 2, 1) := dk_61 (dk_at dksJ14_ensureCapacityInternal_0 10 rfl rfl)
theorem dJ14_ensureCapacityInternal_11 : decode cJ14_ensureCapacityInternal 11 = .ok (.iload_n 1, 1) := dk_27 (dk_at dksJ14_ensureCapacityInternal_0 11 rfl rfl)
theorem dJ14_ensureCapacityInternal_12 : decode cJ14_ensureCapacityInternal 12 = .ok (.iload_n 2, 1) := dk_28 (dk_at dksJ14_ensureCapacityInternal_0 12 rfl rfl)
theorem dJ14_ensureCapacityInternal_13 : decode cJ14_ensureCapacityInternal 13 = .ok (.isub, 1) := dk_100 (dk_at dksJ14_ensureCapacityInternal_0 13 rfl rfl)
theorem dJ14_ensureCapacityInternal_14 : decode cJ14_ensureCapacityInternal 14 = .ok (.ifCond .le 24, 3) := dk_158 0 24 (dk_at dksJ14_ensureCapacityInternal_0 14 rfl rfl)
theorem dJ14_ensureCapacityInternal_17 : decode cJ14_ensureCapacityInternal 17 = .ok (.aload_n 0, 1) := dk_42 (dk_at dksJ14_ensureCapacityInternal_0 17 rfl rfl)
theorem dJ14_ensureCapacityInternal_18 : decode cJ14_ensureCapacityInternal 18 = .ok (.aload_n 0, 1) := dk_42 (dk_at dksJ14_ensureCapacityInternal_0 18 rfl rfl)
theorem dJ14_ensureCapacityInternal_19 : decode cJ14_ensureCapacityInternal 19 = .ok (.getfield 15, 3) := dk_180 0 15 (dk_at dksJ14_ensureCapacityInternal_0 19 rfl rfl)
theorem dJ14_ensureCapacityInternal_22 : decode cJ14_ensureCapacityInternal 22 = .ok (.aload_n 0, 1) := dk_42 (dk_at dksJ14_ensureCapacityInternal_0 22 rfl rfl)
theorem dJ14_ensureCapacityInternal_23 : decode cJ14_ensureCapacityInternal 23 = .ok (.iload_n 1, 1) := dk_27 (dk_at dksJ14_ensureCapacityInternal_0 23 rfl rfl)
theorem dJ14_ensureCapacityInternal_24 : decode cJ14_ensureCapacityInternal 24 = .ok (.invokevirtual 104, 3) := dk_182 0 104 (dk_at dksJ14_ensureCapacityInternal_1 0 rfl rfl)
theorem dJ14_ensureCapacityInternal_27 : decode cJ14_ensureCapacityInternal 27 = .ok (.aload_n 0, 1) := dk_42 (dk_at dksJ14_ensureCapacityInternal_1 3 rfl rfl)
theorem dJ14_ensureCapacityInternal_28 : decode cJ14_ensureCapacityInternal 28 = .ok (.getfield 22, 3) := dk_180 0 22 (dk_at dksJ14_ensureCapacityInternal_1 4 rfl rfl)
theorem dJ14_ensureCapacityInternal_31 : decode cJ14_ensureCapacityInternal 31 = .ok (.ishl, 1) := dk_120 (dk_at dksJ14_ensureCapacityInternal_1 7 rfl rfl)
theorem dJ14_ensureCapacityInternal_32 : decode cJ14_ensureCapacityInternal 32 = .ok (.invokestatic 108, 3) := dk_184 0 108 (dk_at dksJ14_ensureCapacityInternal_1 8 rfl rfl)
theorem dJ14_ensureCapacityInternal_35 : decode cJ14_ensureCapacityInternal 35 = .ok (.putfield 15, 3) := dk_181 0 15 (dk_at dksJ14_ensureCapacityInternal_1 11 rfl rfl)
theorem dJ14_ensureCapacityInternal_38 : decode cJ14_ensureCapacityInternal 38 = .ok (.return_, 1) := dk_177 (dk_at dksJ14_ensureCapacityInternal_1 14 rfl rfl)
abbrev cJ14_newCapacity : ByteArray := prog_13_method_10_code
def yJ14_newCapacity : MethodName := ⟨RJ14, "newCapacity", "(I)I"⟩
def dkwJ14_newCapacity_2 : List UInt8 := [183, 0, 124, 191, 21, 5, 42, 180, 0, 22, 122, 172]
abbrev dktJ14_newCapacity_2 : List UInt8 := dkwJ14_newCapacity_2 ++ []
def dkwJ14_newCapacity_1 : List UInt8 := [180, 0, 22, 120, 96, 184, 0, 114, 54, 5, 21, 5, 18, 39, 160, 0, 13, 187, 0, 120, 89, 18, 122]
abbrev dktJ14_newCapacity_1 : List UInt8 := dkwJ14_newCapacity_1 ++ dktJ14_newCapacity_2
def dkwJ14_newCapacity_0 : List UInt8 := [42, 180, 0, 15, 190, 61, 27, 42, 180, 0, 22, 120, 62, 29, 28, 100, 54, 4, 28, 21, 4, 28, 5, 42]
abbrev dktJ14_newCapacity_0 : List UInt8 := dkwJ14_newCapacity_0 ++ dktJ14_newCapacity_1
theorem dksJ14_newCapacity_0 : cJ14_newCapacity.data.toList.drop 0 = dktJ14_newCapacity_0 := by decide +kernel
theorem dksJ14_newCapacity_1 : cJ14_newCapacity.data.toList.drop 24 = dktJ14_newCapacity_1 := dk_seg dksJ14_newCapacity_0 24 rfl rfl
theorem dksJ14_newCapacity_2 : cJ14_newCapacity.data.toList.drop 47 = dktJ14_newCapacity_2 := dk_seg dksJ14_newCapacity_1 23 rfl rfl
theorem dJ14_newCapacity_0 : decode cJ14_newCapacity 0 = .ok (.aload_n 0, 1) := dk_42 (dk_at dksJ14_newCapacity_0 0 rfl rfl)
theorem dJ14_newCapacity_1 : decode cJ14_newCapacity 1 = .ok (.getfield 15, 3) := dk_180 0 15 (dk_at dksJ14_newCapacity_0 1 rfl rfl)
theorem dJ14_newCapacity_4 : decode cJ14_newCapacity 4 = .ok (.arraylength, 1) := dk_190 (dk_at dksJ14_newCapacity_0 4 rfl rfl)
theorem dJ14_newCapacity_5 : decode cJ14_newCapacity 5 = .ok (.istore_n 2, 1) := dk_61 (dk_at dksJ14_newCapacity_0 5 rfl rfl)
theorem dJ14_newCapacity_6 : decode cJ14_newCapacity 6 = .ok (.iload_n 1, 1) := dk_27 (dk_at dksJ14_newCapacity_0 6 rfl rfl)
theorem dJ14_newCapacity_7 : decode cJ14_newCapacity 7 = .ok (.aload_n 0, 1) := dk_42 (dk_at dksJ14_newCapacity_0 7 rfl rfl)
theorem dJ14_newCapacity_8 : decode cJ14_newCapacity 8 = .ok (.getfield 22, 3) := dk_180 0 22 (dk_at dksJ14_newCapacity_0 8 rfl rfl)
theorem dJ14_newCapacity_11 : decode cJ14_newCapacity 11 = .ok (.ishl, 1) := dk_120 (dk_at dksJ14_newCapacity_0 11 rfl rfl)
theorem dJ14_newCapacity_12 : decode cJ14_newCapacity 12 = .ok (.istore_n 3, 1) := dk_62 (dk_at dksJ14_newCapacity_0 12 rfl rfl)
theorem dJ14_newCapacity_13 : decode cJ14_newCapacity 13 = .ok (.iload_n 3, 1) := dk_29 (dk_at dksJ14_newCapacity_0 13 rfl rfl)
theorem dJ14_newCapacity_14 : decode cJ14_newCapacity 14 = .ok (.iload_n 2, 1) := dk_28 (dk_at dksJ14_newCapacity_0 14 rfl rfl)
theorem dJ14_newCapacity_15 : decode cJ14_newCapacity 15 = .ok (.isub, 1) := dk_100 (dk_at dksJ14_newCapacity_0 15 rfl rfl)
theorem dJ14_newCapacity_16 : decode cJ14_newCapacity 16 = .ok (.istore 4, 2) := dk_54 4 (dk_at dksJ14_newCapacity_0 16 rfl rfl)
theorem dJ14_newCapacity_18 : decode cJ14_newCapacity 18 = .ok (.iload_n 2, 1) := dk_28 (dk_at dksJ14_newCapacity_0 18 rfl rfl)
theorem dJ14_newCapacity_19 : decode cJ14_newCapacity 19 = .ok (.iload 4, 2) := dk_21 4 (dk_at dksJ14_newCapacity_0 19 rfl rfl)
theorem dJ14_newCapacity_21 : decode cJ14_newCapacity 21 = .ok (.iload_n 2, 1) := dk_28 (dk_at dksJ14_newCapacity_0 21 rfl rfl)
theorem dJ14_newCapacity_22 : decode cJ14_newCapacity 22 = .ok (.iconst 2, 1) := dk_5 (dk_at dksJ14_newCapacity_0 22 rfl rfl)
theorem dJ14_newCapacity_23 : decode cJ14_newCapacity 23 = .ok (.aload_n 0, 1) := dk_42 (dk_at dksJ14_newCapacity_0 23 rfl rfl)
theorem dJ14_newCapacity_24 : decode cJ14_newCapacity 24 = .ok (.getfield 22, 3) := dk_180 0 22 (dk_at dksJ14_newCapacity_1 0 rfl rfl)
theorem dJ14_newCapacity_27 : decode cJ14_newCapacity 27 = .ok (.ishl, 1) := dk_120 (dk_at dksJ14_newCapacity_1 3 rfl rfl)
theorem dJ14_newCapacity_28 : decode cJ14_newCapacity 28 = .ok (.iadd, 1) := dk_96 (dk_at dksJ14_newCapacity_1 4 rfl rfl)
theorem dJ14_newCapacity_29 : decode cJ14_newCapacity 29 = .ok (.invokestatic 114, 3) := dk_184 0 114 (dk_at dksJ14_newCapacity_1 5 rfl rfl)
theorem dJ14_newCapacity_32 : decode cJ14_newCapacity 32 = .ok (.istore 5, 2) := dk_54 5 (dk_at dksJ14_newCapacity_1 8 rfl rfl)
theorem dJ14_newCapacity_34 : decode cJ14_newCapacity 34 = .ok (.iload 5, 2) := dk_21 5 (dk_at dksJ14_newCapacity_1 10 rfl rfl)
theorem dJ14_newCapacity_36 : decode cJ14_newCapacity 36 = .ok (.ldc 39, 2) := dk_18 39 (dk_at dksJ14_newCapacity_1 12 rfl rfl)
theorem dJ14_newCapacity_38 : decode cJ14_newCapacity 38 = .ok (.if_icmp .ne 13, 3) := dk_160 0 13 (dk_at dksJ14_newCapacity_1 14 rfl rfl)
theorem dJ14_newCapacity_41 : decode cJ14_newCapacity 41 = .ok (.new 120, 3) := dk_187 0 120 (dk_at dksJ14_newCapacity_1 17 rfl rfl)
theorem dJ14_newCapacity_44 : decode cJ14_newCapacity 44 = .ok (.dup, 1) := dk_89 (dk_at dksJ14_newCapacity_1 20 rfl rfl)
theorem dJ14_newCapacity_45 : decode cJ14_newCapacity 45 = .ok (.ldc 122, 2) := dk_18 122 (dk_at dksJ14_newCapacity_1 21 rfl rfl)
theorem dJ14_newCapacity_47 : decode cJ14_newCapacity 47 = .ok (.invokespecial 124, 3) := dk_183 0 124 (dk_at dksJ14_newCapacity_2 0 rfl rfl)
theorem dJ14_newCapacity_50 : decode cJ14_newCapacity 50 = .ok (.athrow, 1) := dk_191 (dk_at dksJ14_newCapacity_2 3 rfl rfl)
theorem dJ14_newCapacity_51 : decode cJ14_newCapacity 51 = .ok (.iload 5, 2) := dk_21 5 (dk_at dksJ14_newCapacity_2 4 rfl rfl)
theorem dJ14_newCapacity_53 : decode cJ14_newCapacity 53 = .ok (.aload_n 0, 1) := dk_42 (dk_at dksJ14_newCapacity_2 6 rfl rfl)
theorem dJ14_newCapacity_54 : decode cJ14_newCapacity 54 = .ok (.getfield 22, 3) := dk_180 0 22 (dk_at dksJ14_newCapacity_2 7 rfl rfl)
theorem dJ14_newCapacity_57 : decode cJ14_newCapacity 57 = .ok (.ishr, 1) := dk_122 (dk_at dksJ14_newCapacity_2 10 rfl rfl)
theorem dJ14_newCapacity_58 : decode cJ14_newCapacity 58 = .ok (.ireturn, 1) := dk_172 (dk_at dksJ14_newCapacity_2 11 rfl rfl)
abbrev cJ14_isLatin1 : ByteArray := prog_13_method_68_code
def yJ14_isLatin1 : MethodName := ⟨RJ14, "isLatin1", "()Z"⟩
def dkwJ14_isLatin1_0 : List UInt8 := [178, 0, 18, 153, 0, 14, 42, 180, 0, 22, 154, 0, 7, 4, 167, 0, 4, 3, 172]
abbrev dktJ14_isLatin1_0 : List UInt8 := dkwJ14_isLatin1_0 ++ []
theorem dksJ14_isLatin1_0 : cJ14_isLatin1.data.toList.drop 0 = dktJ14_isLatin1_0 := by decide +kernel
theorem dJ14_isLatin1_0 : decode cJ14_isLatin1 0 = .ok (.getstatic 18, 3) := dk_178 0 18 (dk_at dksJ14_isLatin1_0 0 rfl rfl)
theorem dJ14_isLatin1_3 : decode cJ14_isLatin1 3 = .ok (.ifCond .eq 14, 3) := dk_153 0 14 (dk_at dksJ14_isLatin1_0 3 rfl rfl)
theorem dJ14_isLatin1_6 : decode cJ14_isLatin1 6 = .ok (.aload_n 0, 1) := dk_42 (dk_at dksJ14_isLatin1_0 6 rfl rfl)
theorem dJ14_isLatin1_7 : decode cJ14_isLatin1 7 = .ok (.getfield 22, 3) := dk_180 0 22 (dk_at dksJ14_isLatin1_0 7 rfl rfl)
theorem dJ14_isLatin1_10 : decode cJ14_isLatin1 10 = .ok (.ifCond .ne 7, 3) := dk_154 0 7 (dk_at dksJ14_isLatin1_0 10 rfl rfl)
theorem dJ14_isLatin1_13 : decode cJ14_isLatin1 13 = .ok (.iconst 1, 1) := dk_4 (dk_at dksJ14_isLatin1_0 13 rfl rfl)
theorem dJ14_isLatin1_14 : decode cJ14_isLatin1 14 = .ok (.goto 4, 3) := dk_167 0 4 (dk_at dksJ14_isLatin1_0 14 rfl rfl)
theorem dJ14_isLatin1_17 : decode cJ14_isLatin1 17 = .ok (.iconst 0, 1) := dk_3 (dk_at dksJ14_isLatin1_0 17 rfl rfl)
theorem dJ14_isLatin1_18 : decode cJ14_isLatin1 18 = .ok (.ireturn, 1) := dk_172 (dk_at dksJ14_isLatin1_0 18 rfl rfl)
abbrev cJ14_append_2 : ByteArray := prog_13_method_32_code
def yJ14_append_2 : MethodName := ⟨RJ14, "append", "(I)Ljava/lang/AbstractStringBuilder;"⟩
def dkwJ14_append_2_2 : List UInt8 := [42, 29, 181, 0, 79, 42, 176]
abbrev dktJ14_append_2_2 : List UInt8 := dkwJ14_append_2_2 ++ []
def dkwJ14_append_2_1 : List UInt8 := [27, 29, 42, 180, 0, 15, 184, 0, 248, 87, 167, 0, 14, 27, 28, 29, 42, 180, 0, 15, 184, 0, 251, 87]
abbrev dktJ14_append_2_1 : List UInt8 := dkwJ14_append_2_1 ++ dktJ14_append_2_2
def dkwJ14_append_2_0 : List UInt8 := [42, 180, 0, 79, 61, 28, 27, 184, 0, 245, 96, 62, 42, 29, 182, 0, 100, 42, 182, 0, 83, 153, 0, 16]
abbrev dktJ14_append_2_0 : List UInt8 := dkwJ14_append_2_0 ++ dktJ14_append_2_1
theorem dksJ14_append_2_0 : cJ14_append_2.data.toList.drop 0 = dktJ14_append_2_0 := by decide +kernel
theorem dksJ14_append_2_1 : cJ14_append_2.data.toList.drop 24 = dktJ14_append_2_1 := dk_seg dksJ14_append_2_0 24 rfl rfl
theorem dksJ14_append_2_2 : cJ14_append_2.data.toList.drop 48 = dktJ14_append_2_2 := dk_seg dksJ14_append_2_1 24 rfl rfl
theorem dJ14_append_2_0 : decode cJ14_append_2 0 = .ok (.aload_n 0, 1) := dk_42 (dk_at dksJ14_append_2_0 0 rfl rfl)
theorem dJ14_append_2_1 : decode cJ14_append_2 1 = .ok (.getfield 79, 3) := dk_180 0 79 (dk_at dksJ14_append_2_0 1 rfl rfl)
theorem dJ14_append_2_4 : decode cJ14_append_2 4 = .ok (.istore_n 2, 1) := dk_61 (dk_at dksJ14_append_2_0 4 rfl rfl)
theorem dJ14_append_2_5 : decode cJ14_append_2 5 = .ok (.iload_n 2, 1) := dk_28 (dk_at dksJ14_append_2_0 5 rfl rfl)
theorem dJ14_append_2_6 : decode cJ14_append_2 6 = .ok (.iload_n 1, 1) := dk_27 (dk_at dksJ14_append_2_0 6 rfl rfl)
theorem dJ14_append_2_7 : decode cJ14_append_2 7 = .ok (.invokestatic 245, 3) := dk_184 0 245 (dk_at dksJ14_append_2_0 7 rfl rfl)
theorem dJ14_append_2_10 : decode cJ14_append_2 10 = .ok (.iadd, 1) := dk_96 (dk_at dksJ14_append_2_0 10 rfl rfl)
theorem dJ14_append_2_11 : decode cJ14_append_2 11 = .ok (.istore_n 3, 1) := dk_62 (dk_at dksJ14_append_2_0 11 rfl rfl)
theorem dJ14_append_2_12 : decode cJ14_append_2 12 = .ok (.aload_n 0, 1) := dk_42 (dk_at dksJ14_append_2_0 12 rfl rfl)
theorem dJ14_append_2_13 : decode cJ14_append_2 13 = .ok (.iload_n 3, 1) := dk_29 (dk_at dksJ14_append_2_0 13 rfl rfl)
theorem dJ14_append_2_14 : decode cJ14_append_2 14 = .ok (.invokevirtual 100, 3) := dk_182 0 100 (dk_at dksJ14_append_2_0 14 rfl rfl)
theorem dJ14_append_2_17 : decode cJ14_append_2 17 = .ok (.aload_n 0, 1) := dk_42 (dk_at dksJ14_append_2_0 17 rfl rfl)
theorem dJ14_append_2_18 : decode cJ14_append_2 18 = .ok (.invokevirtual 83, 3) := dk_182 0 83 (dk_at dksJ14_append_2_0 18 rfl rfl)
theorem dJ14_append_2_21 : decode cJ14_append_2 21 = .ok (.ifCond .eq 16, 3) := dk_153 0 16 (dk_at dksJ14_append_2_0 21 rfl rfl)
theorem dJ14_append_2_24 : decode cJ14_append_2 24 = .ok (.iload_n 1, 1) := dk_27 (dk_at dksJ14_append_2_1 0 rfl rfl)
theorem dJ14_append_2_25 : decode cJ14_append_2 25 = .ok (.iload_n 3, 1) := dk_29 (dk_at dksJ14_append_2_1 1 rfl rfl)
theorem dJ14_append_2_26 : decode cJ14_append_2 26 = .ok (.aload_n 0, 1) := dk_42 (dk_at dksJ14_append_2_1 2 rfl rfl)
theorem dJ14_append_2_27 : decode cJ14_append_2 27 = .ok (.getfield 15, 3) := dk_180 0 15 (dk_at dksJ14_append_2_1 3 rfl rfl)
theorem dJ14_append_2_30 : decode cJ14_append_2 30 = .ok (.invokestatic 248, 3) := dk_184 0 248 (dk_at dksJ14_append_2_1 6 rfl rfl)
theorem dJ14_append_2_33 : decode cJ14_append_2 33 = .ok (.pop, 1) := dk_87 (dk_at dksJ14_append_2_1 9 rfl rfl)
theorem dJ14_append_2_34 : decode cJ14_append_2 34 = .ok (.goto 14, 3) := dk_167 0 14 (dk_at dksJ14_append_2_1 10 rfl rfl)
theorem dJ14_append_2_37 : decode cJ14_append_2 37 = .ok (.iload_n 1, 1) := dk_27 (dk_at dksJ14_append_2_1 13 rfl rfl)
theorem dJ14_append_2_38 : decode cJ14_append_2 38 = .ok (.iload_n 2, 1) := dk_28 (dk_at dksJ14_append_2_1 14 rfl rfl)
theorem dJ14_append_2_39 : decode cJ14_append_2 39 = .ok (.iload_n 3, 1) := dk_29 (dk_at dksJ14_append_2_1 15 rfl rfl)
theorem dJ14_append_2_40 : decode cJ14_append_2 40 = .ok (.aload_n 0, 1) := dk_42 (dk_at dksJ14_append_2_1 16 rfl rfl)
theorem dJ14_append_2_41 : decode cJ14_append_2 41 = .ok (.getfield 15, 3) := dk_180 0 15 (dk_at dksJ14_append_2_1 17 rfl rfl)
theorem dJ14_append_2_44 : decode cJ14_append_2 44 = .ok (.invokestatic 251, 3) := dk_184 0 251 (dk_at dksJ14_append_2_1 20 rfl rfl)
theorem dJ14_append_2_47 : decode cJ14_append_2 47 = .ok (.pop, 1) := dk_87 (dk_at dksJ14_append_2_1 23 rfl rfl)
theorem dJ14_append_2_48 : decode cJ14_append_2 48 = .ok (.aload_n 0, 1) := dk_42 (dk_at dksJ14_append_2_2 0 rfl rfl)
theorem dJ14_append_2_49 : decode cJ14_append_2 49 = .ok (.iload_n 3, 1) := dk_29 (dk_at dksJ14_append_2_2 1 rfl rfl)
theorem dJ14_append_2_50 : decode cJ14_append_2 50 = .ok (.putfield 79, 3) := dk_181 0 79 (dk_at dksJ14_append_2_2 2 rfl rfl)
theorem dJ14_append_2_53 : decode cJ14_append_2 53 = .ok (.aload_n 0, 1) := dk_42 (dk_at dksJ14_append_2_2 5 rfl rfl)
theorem dJ14_append_2_54 : decode cJ14_append_2 54 = .ok (.areturn, 1) := dk_176 (dk_at dksJ14_append_2_2 6 rfl rfl)
abbrev cJ14_getValue : ByteArray := prog_13_method_64_code
def yJ14_getValue : MethodName := ⟨RJ14, "getValue", "()[B"⟩
theorem dJ14_getValue_0 : decode cJ14_getValue 0 = .ok (.aload_n 0, 1) := by decide +kernel
theorem dJ14_getValue_1 : decode cJ14_getValue 1 = .ok (.getfield 15, 3) := by decide +kernel
theorem dJ14_getValue_4 : decode cJ14_getValue 4 = .ok (.areturn, 1) := by decide +kernel
abbrev cJ14_length : ByteArray := prog_13_method_6_code
def yJ14_length : MethodName := ⟨RJ14, "length", "()I"⟩
theorem dJ14_length_0 : decode cJ14_length 0 = .ok (.aload_n 0, 1) := by decide +kernel
theorem dJ14_length_1 : decode cJ14_length 1 = .ok (.getfield 79, 3) := by decide +kernel
theorem dJ14_length_4 : decode cJ14_length 4 = .ok (.ireturn, 1) := by decide +kernel
abbrev cJ14_append_3 : ByteArray := prog_13_method_31_code
def yJ14_append_3 : MethodName := ⟨RJ14, "append", "(C)Ljava/lang/AbstractStringBuilder;"⟩
def dkwJ14_append_3_3 : List UInt8 := [181, 0, 79, 27, 184, 0, 197, 42, 176]
abbrev dktJ14_append_3_3 : List UInt8 := dkwJ14_append_3_3 ++ []
def dkwJ14_append_3_2 : List UInt8 := [182, 0, 83, 153, 0, 7, 42, 182, 0, 195, 42, 180, 0, 15, 42, 89, 180, 0, 79, 90, 4, 96]
abbrev dktJ14_append_3_2 : List UInt8 := dkwJ14_append_3_2 ++ dktJ14_append_3_3
def dkwJ14_append_3_1 : List UInt8 := [42, 180, 0, 15, 42, 89, 180, 0, 79, 90, 4, 96, 181, 0, 79, 27, 145, 84, 167, 0, 33, 42]
abbrev dktJ14_append_3_1 : List UInt8 := dkwJ14_append_3_1 ++ dktJ14_append_3_2
def dkwJ14_append_3_0 : List UInt8 := [42, 42, 180, 0, 79, 4, 96, 182, 0, 100, 42, 182, 0, 83, 153, 0, 31, 27, 184, 0, 191, 153, 0, 24]
abbrev dktJ14_append_3_0 : List UInt8 := dkwJ14_append_3_0 ++ dktJ14_append_3_1
theorem dksJ14_append_3_0 : cJ14_append_3.data.toList.drop 0 = dktJ14_append_3_0 := by decide +kernel
theorem dksJ14_append_3_1 : cJ14_append_3.data.toList.drop 24 = dktJ14_append_3_1 := dk_seg dksJ14_append_3_0 24 rfl rfl
theorem dksJ14_append_3_2 : cJ14_append_3.data.toList.drop 46 = dktJ14_append_3_2 := dk_seg dksJ14_append_3_1 22 rfl rfl
theorem dksJ14_append_3_3 : cJ14_append_3.data.toList.drop 68 = dktJ14_append_3_3 := dk_seg dksJ14_append_3_2 22 rfl rfl
theorem dJ14_append_3_0 : decode cJ14_append_3 0 = .ok (.aload_n 0, 1) := dk_42 (dk_at dksJ14_append_3_0 0 rfl rfl)
theorem dJ14_append_3_1 : decode cJ14_append_3 1 = .ok (.aload_n 0, 1) := dk_42 (dk_at dksJ14_append_3_0 1 rfl rfl)
theorem dJ14_append_3_2 : decode cJ14_append_3 2 = .ok (.getfield 79, 3) := dk_180 0 79 (dk_at dksJ14_append_3_0 2 rfl rfl)
theorem dJ14_append_3_5 : decode cJ14_append_3 5 = .ok (.iconst 1, 1) := dk_4 (dk_at dksJ14_append_3_0 5 rfl rfl)
theorem dJ14_append_3_6 : decode cJ14_append_3 6 = .ok (.iadd, 1) := dk_96 (dk_at dksJ14_append_3_0 6 rfl rfl)
theorem dJ14_append_3_7 : decode cJ14_append_3 7 = .ok (.invokevirtual 100, 3) := dk_182 0 100 (dk_at dksJ14_append_3_0 7 rfl rfl)
theorem dJ14_append_3_10 : decode cJ14_append_3 10 = .ok (.aload_n 0, 1) := dk_42 (dk_at dksJ14_append_3_0 10 rfl rfl)
theorem dJ14_append_3_11 : decode cJ14_append_3 11 = .ok (.invokevirtual 83, 3) := dk_182 0 83 (dk_at dksJ14_append_3_0 11 rfl rfl)
theorem dJ14_append_3_14 : decode cJ14_append_3 14 = .ok (.ifCond .eq 31, 3) := dk_153 0 31 (dk_at dksJ14_append_3_0 14 rfl rfl)
theorem dJ14_append_3_17 : decode cJ14_append_3 17 = .ok (.iload_n 1, 1) := dk_27 (dk_at dksJ14_append_3_0 17 rfl rfl)
theorem dJ14_append_3_18 : decode cJ14_append_3 18 = .ok (.invokestatic 191, 3) := dk_184 0 191 (dk_at dksJ14_append_3_0 18 rfl rfl)
theorem dJ14_append_3_21 : decode cJ14_append_3 21 = .ok (.ifCond .eq 24, 3) := dk_153 0 24 (dk_at dksJ14_append_3_0 21 rfl rfl)
theorem dJ14_append_3_24 : decode cJ14_append_3 24 = .ok (.aload_n 0, 1) := dk_42 (dk_at dksJ14_append_3_1 0 rfl rfl)
theorem dJ14_append_3_25 : decode cJ14_append_3 25 = .ok (.getfield 15, 3) := dk_180 0 15 (dk_at dksJ14_append_3_1 1 rfl rfl)
theorem dJ14_append_3_28 : decode cJ14_append_3 28 = .ok (.aload_n 0, 1) := dk_42 (dk_at dksJ14_append_3_1 4 rfl rfl)
theorem dJ14_append_3_29 : decode cJ14_append_3 29 = .ok (.dup, 1) := dk_89 (dk_at dksJ14_append_3_1 5 rfl rfl)
theorem dJ14_append_3_30 : decode cJ14_append_3 30 = .ok (.getfield 79, 3) := dk_180 0 79 (dk_at dksJ14_append_3_1 6 rfl rfl)
theorem dJ14_append_3_33 : decode cJ14_append_3 33 = .ok (.dup_x1, 1) := dk_90 (dk_at dksJ14_append_3_1 9 rfl rfl)
theorem dJ14_append_3_34 : decode cJ14_append_3 34 = .ok (.iconst 1, 1) := dk_4 (dk_at dksJ14_append_3_1 10 rfl rfl)
theorem dJ14_append_3_35 : decode cJ14_append_3 35 = .ok (.iadd, 1) := dk_96 (dk_at dksJ14_append_3_1 11 rfl rfl)
theorem dJ14_append_3_36 : decode cJ14_append_3 36 = .ok (.putfield 79, 3) := dk_181 0 79 (dk_at dksJ14_append_3_1 12 rfl rfl)
theorem dJ14_append_3_39 : decode cJ14_append_3 39 = .ok (.iload_n 1, 1) := dk_27 (dk_at dksJ14_append_3_1 15 rfl rfl)
theorem dJ14_append_3_40 : decode cJ14_append_3 40 = .ok (.i2b, 1) := dk_145 (dk_at dksJ14_append_3_1 16 rfl rfl)
theorem dJ14_append_3_41 : decode cJ14_append_3 41 = .ok (.bastore, 1) := dk_84 (dk_at dksJ14_append_3_1 17 rfl rfl)
theorem dJ14_append_3_42 : decode cJ14_append_3 42 = .ok (.goto 33, 3) := dk_167 0 33 (dk_at dksJ14_append_3_1 18 rfl rfl)
theorem dJ14_append_3_45 : decode cJ14_append_3 45 = .ok (.aload_n 0, 1) := dk_42 (dk_at dksJ14_append_3_1 21 rfl rfl)
theorem dJ14_append_3_46 : decode cJ14_append_3 46 = .ok (.invokevirtual 83, 3) := dk_182 0 83 (dk_at dksJ14_append_3_2 0 rfl rfl)
theorem dJ14_append_3_49 : decode cJ14_append_3 49 = .ok (.ifCond .eq 7, 3) := dk_153 0 7 (dk_at dksJ14_append_3_2 3 rfl rfl)
theorem dJ14_append_3_52 : decode cJ14_append_3 52 = .ok (.aload_n 0, 1) := dk_42 (dk_at dksJ14_append_3_2 6 rfl rfl)
theorem dJ14_append_3_53 : decode cJ14_append_3 53 = .ok (.invokevirtual 195, 3) := dk_182 0 195 (dk_at dksJ14_append_3_2 7 rfl rfl)
theorem dJ14_append_3_56 : decode cJ14_append_3 56 = .ok (.aload_n 0, 1) := dk_42 (dk_at dksJ14_append_3_2 10 rfl rfl)
theorem dJ14_append_3_57 : decode cJ14_append_3 57 = .ok (.getfield 15, 3) := dk_180 0 15 (dk_at dksJ14_append_3_2 11 rfl rfl)
theorem dJ14_append_3_60 : decode cJ14_append_3 60 = .ok (.aload_n 0, 1) := dk_42 (dk_at dksJ14_append_3_2 14 rfl rfl)
theorem dJ14_append_3_61 : decode cJ14_append_3 61 = .ok (.dup, 1) := dk_89 (dk_at dksJ14_append_3_2 15 rfl rfl)
theorem dJ14_append_3_62 : decode cJ14_append_3 62 = .ok (.getfield 79, 3) := dk_180 0 79 (dk_at dksJ14_append_3_2 16 rfl rfl)
theorem dJ14_append_3_65 : decode cJ14_append_3 65 = .ok (.dup_x1, 1) := dk_90 (dk_at dksJ14_append_3_2 19 rfl rfl)
theorem dJ14_append_3_66 : decode cJ14_append_3 66 = .ok (.iconst 1, 1) := dk_4 (dk_at dksJ14_append_3_2 20 rfl rfl)
theorem dJ14_append_3_67 : decode cJ14_append_3 67 = .ok (.iadd, 1) := dk_96 (dk_at dksJ14_append_3_2 21 rfl rfl)
theorem dJ14_append_3_68 : decode cJ14_append_3 68 = .ok (.putfield 79, 3) := dk_181 0 79 (dk_at dksJ14_append_3_3 0 rfl rfl)
theorem dJ14_append_3_71 : decode cJ14_append_3 71 = .ok (.iload_n 1, 1) := dk_27 (dk_at dksJ14_append_3_3 3 rfl rfl)
theorem dJ14_append_3_72 : decode cJ14_append_3 72 = .ok (.invokestatic 197, 3) := dk_184 0 197 (dk_at dksJ14_append_3_3 4 rfl rfl)
theorem dJ14_append_3_75 : decode cJ14_append_3 75 = .ok (.aload_n 0, 1) := dk_42 (dk_at dksJ14_append_3_3 7 rfl rfl)
theorem dJ14_append_3_76 : decode cJ14_append_3 76 = .ok (.areturn, 1) := dk_176 (dk_at dksJ14_append_3_3 8 rfl rfl)
abbrev cJ15_init : ByteArray := prog_31_method_1_code
def yJ15_init : MethodName := ⟨RJ15, "<init>", "()V"⟩
def dkwJ15_init_0 : List UInt8 := [42, 16, 16, 183, 0, 1, 177]
abbrev dktJ15_init_0 : List UInt8 := dkwJ15_init_0 ++ []
theorem dksJ15_init_0 : cJ15_init.data.toList.drop 0 = dktJ15_init_0 := by decide +kernel
theorem dJ15_init_0 : decode cJ15_init 0 = .ok (.aload_n 0, 1) := dk_42 (dk_at dksJ15_init_0 0 rfl rfl)
theorem dJ15_init_1 : decode cJ15_init 1 = .ok (.bipush 16, 2) := dk_16 16 (dk_at dksJ15_init_0 1 rfl rfl)
theorem dJ15_init_3 : decode cJ15_init 3 = .ok (.invokespecial 1, 3) := dk_183 0 1 (dk_at dksJ15_init_0 3 rfl rfl)
theorem dJ15_init_6 : decode cJ15_init 6 = .ok (.return_, 1) := dk_177 (dk_at dksJ15_init_0 6 rfl rfl)
abbrev cJ15_append : ByteArray := prog_31_method_7_code
def yJ15_append : MethodName := ⟨RJ15, "append", "(Ljava/lang/String;)Ljava/lang/StringBuilder;"⟩
def dkwJ15_append_0 : List UInt8 := [42, 43, 183, 0, 29, 87, 42, 176]
abbrev dktJ15_append_0 : List UInt8 := dkwJ15_append_0 ++ []
theorem dksJ15_append_0 : cJ15_append.data.toList.drop 0 = dktJ15_append_0 := by decide +kernel
theorem dJ15_append_0 : decode cJ15_append 0 = .ok (.aload_n 0, 1) := dk_42 (dk_at dksJ15_append_0 0 rfl rfl)
theorem dJ15_append_1 : decode cJ15_append 1 = .ok (.aload_n 1, 1) := dk_43 (dk_at dksJ15_append_0 1 rfl rfl)
theorem dJ15_append_2 : decode cJ15_append 2 = .ok (.invokespecial 29, 3) := dk_183 0 29 (dk_at dksJ15_append_0 2 rfl rfl)
theorem dJ15_append_5 : decode cJ15_append 5 = .ok (.pop, 1) := dk_87 (dk_at dksJ15_append_0 5 rfl rfl)
theorem dJ15_append_6 : decode cJ15_append 6 = .ok (.aload_n 0, 1) := dk_42 (dk_at dksJ15_append_0 6 rfl rfl)
theorem dJ15_append_7 : decode cJ15_append 7 = .ok (.areturn, 1) := dk_176 (dk_at dksJ15_append_0 7 rfl rfl)
abbrev cJ15_append_2 : ByteArray := prog_31_method_15_code
def yJ15_append_2 : MethodName := ⟨RJ15, "append", "(I)Ljava/lang/StringBuilder;"⟩
def dkwJ15_append_2_0 : List UInt8 := [42, 27, 183, 0, 53, 87, 42, 176]
abbrev dktJ15_append_2_0 : List UInt8 := dkwJ15_append_2_0 ++ []
theorem dksJ15_append_2_0 : cJ15_append_2.data.toList.drop 0 = dktJ15_append_2_0 := by decide +kernel
theorem dJ15_append_2_0 : decode cJ15_append_2 0 = .ok (.aload_n 0, 1) := dk_42 (dk_at dksJ15_append_2_0 0 rfl rfl)
theorem dJ15_append_2_1 : decode cJ15_append_2 1 = .ok (.iload_n 1, 1) := dk_27 (dk_at dksJ15_append_2_0 1 rfl rfl)
theorem dJ15_append_2_2 : decode cJ15_append_2 2 = .ok (.invokespecial 53, 3) := dk_183 0 53 (dk_at dksJ15_append_2_0 2 rfl rfl)
theorem dJ15_append_2_5 : decode cJ15_append_2 5 = .ok (.pop, 1) := dk_87 (dk_at dksJ15_append_2_0 5 rfl rfl)
theorem dJ15_append_2_6 : decode cJ15_append_2 6 = .ok (.aload_n 0, 1) := dk_42 (dk_at dksJ15_append_2_0 6 rfl rfl)
theorem dJ15_append_2_7 : decode cJ15_append_2 7 = .ok (.areturn, 1) := dk_176 (dk_at dksJ15_append_2_0 7 rfl rfl)
abbrev cJ15_toString : ByteArray := prog_31_method_42_code
def yJ15_toString : MethodName := ⟨RJ15, "toString", "()Ljava/lang/String;"⟩
def dkwJ15_toString_0 : List UInt8 := [187, 0, 18, 89, 42, 183, 0, 137, 176]
abbrev dktJ15_toString_0 : List UInt8 := dkwJ15_toString_0 ++ []
theorem dksJ15_toString_0 : cJ15_toString.data.toList.drop 0 = dktJ15_toString_0 := by decide +kernel
theorem dJ15_toString_0 : decode cJ15_toString 0 = .ok (.new 18, 3) := dk_187 0 18 (dk_at dksJ15_toString_0 0 rfl rfl)
theorem dJ15_toString_3 : decode cJ15_toString 3 = .ok (.dup, 1) := dk_89 (dk_at dksJ15_toString_0 3 rfl rfl)
theorem dJ15_toString_4 : decode cJ15_toString 4 = .ok (.aload_n 0, 1) := dk_42 (dk_at dksJ15_toString_0 4 rfl rfl)
theorem dJ15_toString_5 : decode cJ15_toString 5 = .ok (.invokespecial 137, 3) := dk_183 0 137 (dk_at dksJ15_toString_0 5 rfl rfl)
theorem dJ15_toString_8 : decode cJ15_toString 8 = .ok (.areturn, 1) := dk_176 (dk_at dksJ15_toString_0 8 rfl rfl)
abbrev cJ15_length : ByteArray := prog_31_method_93_code
def yJ15_length : MethodName := ⟨RJ15, "length", "()I"⟩
theorem dJ15_length_0 : decode cJ15_length 0 = .ok (.aload_n 0, 1) := by decide +kernel
theorem dJ15_length_1 : decode cJ15_length 1 = .ok (.invokespecial 343, 3) := by decide +kernel
theorem dJ15_length_4 : decode cJ15_length 4 = .ok (.ireturn, 1) := by decide +kernel
abbrev cJ15_append_3 : ByteArray := prog_31_method_14_code
def yJ15_append_3 : MethodName := ⟨RJ15, "append", "(C)Ljava/lang/StringBuilder;"⟩
def dkwJ15_append_3_0 : List UInt8 := [42, 27, 183, 0, 50, 87, 42, 176]
abbrev dktJ15_append_3_0 : List UInt8 := dkwJ15_append_3_0 ++ []
theorem dksJ15_append_3_0 : cJ15_append_3.data.toList.drop 0 = dktJ15_append_3_0 := by decide +kernel
theorem dJ15_append_3_0 : decode cJ15_append_3 0 = .ok (.aload_n 0, 1) := dk_42 (dk_at dksJ15_append_3_0 0 rfl rfl)
theorem dJ15_append_3_1 : decode cJ15_append_3 1 = .ok (.iload_n 1, 1) := dk_27 (dk_at dksJ15_append_3_0 1 rfl rfl)
theorem dJ15_append_3_2 : decode cJ15_append_3 2 = .ok (.invokespecial 50, 3) := dk_183 0 50 (dk_at dksJ15_append_3_0 2 rfl rfl)
theorem dJ15_append_3_5 : decode cJ15_append_3 5 = .ok (.pop, 1) := dk_87 (dk_at dksJ15_append_3_0 5 rfl rfl)
theorem dJ15_append_3_6 : decode cJ15_append_3 6 = .ok (.aload_n 0, 1) := dk_42 (dk_at dksJ15_append_3_0 6 rfl rfl)
theorem dJ15_append_3_7 : decode cJ15_append_3 7 = .ok (.areturn, 1) := dk_176 (dk_at dksJ15_append_3_0 7 rfl rfl)
abbrev cJ5_init : ByteArray := prog_47_method_7_code
def yJ5_init : MethodName := ⟨RJ5, "<init>", "()V"⟩
def dkwJ5_init_0 : List UInt8 := [42, 183, 0, 43, 42, 18, 92, 181, 0, 81, 177]
abbrev dktJ5_init_0 : List UInt8 := dkwJ5_init_0 ++ []
theorem dksJ5_init_0 : cJ5_init.data.toList.drop 0 = dktJ5_init_0 := by decide +kernel
theorem dJ5_init_0 : decode cJ5_init 0 = .ok (.aload_n 0, 1) := dk_42 (dk_at dksJ5_init_0 0 rfl rfl)
theorem dJ5_init_1 : decode cJ5_init 1 = .ok (.invokespecial 43, 3) := dk_183 0 43 (dk_at dksJ5_init_0 1 rfl rfl)
theorem dJ5_init_4 : decode cJ5_init 4 = .ok (.aload_n 0, 1) := dk_42 (dk_at dksJ5_init_0 4 rfl rfl)
theorem dJ5_init_5 : decode cJ5_init 5 = .ok (.ldc 92, 2) := dk_18 92 (dk_at dksJ5_init_0 5 rfl rfl)
theorem dJ5_init_7 : decode cJ5_init 7 = .ok (.putfield 81, 3) := dk_181 0 81 (dk_at dksJ5_init_0 7 rfl rfl)
theorem dJ5_init_10 : decode cJ5_init 10 = .ok (.return_, 1) := dk_177 (dk_at dksJ5_init_0 10 rfl rfl)
abbrev cJ5_get : ByteArray := prog_47_method_12_code
def yJ5_get : MethodName := ⟨RJ5, "get", "(Ljava/lang/Object;)Ljava/lang/Object;"⟩
def dkwJ5_get_0 : List UInt8 := [42, 43, 182, 0, 158, 89, 77, 199, 0, 7, 1, 167, 0, 7, 44, 180, 0, 162, 176]
abbrev dktJ5_get_0 : List UInt8 := dkwJ5_get_0 ++ []
theorem dksJ5_get_0 : cJ5_get.data.toList.drop 0 = dktJ5_get_0 := by decide +kernel
theorem dJ5_get_0 : decode cJ5_get 0 = .ok (.aload_n 0, 1) := dk_42 (dk_at dksJ5_get_0 0 rfl rfl)
theorem dJ5_get_1 : decode cJ5_get 1 = .ok (.aload_n 1, 1) := dk_43 (dk_at dksJ5_get_0 1 rfl rfl)
theorem dJ5_get_2 : decode cJ5_get 2 = .ok (.invokevirtual 158, 3) := dk_182 0 158 (dk_at dksJ5_get_0 2 rfl rfl)
theorem dJ5_get_5 : decode cJ5_get 5 = .ok (.dup, 1) := dk_89 (dk_at dksJ5_get_0 5 rfl rfl)
theorem dJ5_get_6 : decode cJ5_get 6 = .ok (.astore_n 2, 1) := dk_77 (dk_at dksJ5_get_0 6 rfl rfl)
theorem dJ5_get_7 : decode cJ5_get 7 = .ok (.ifnonnull 7, 3) := dk_199 0 7 (dk_at dksJ5_get_0 7 rfl rfl)
theorem dJ5_get_10 : decode cJ5_get 10 = .ok (.aconst_null, 1) := dk_1 (dk_at dksJ5_get_0 10 rfl rfl)
theorem dJ5_get_11 : decode cJ5_get 11 = .ok (.goto 7, 3) := dk_167 0 7 (dk_at dksJ5_get_0 11 rfl rfl)
theorem dJ5_get_14 : decode cJ5_get 14 = .ok (.aload_n 2, 1) := dk_44 (dk_at dksJ5_get_0 14 rfl rfl)
theorem dJ5_get_15 : decode cJ5_get 15 = .ok (.getfield 162, 3) := dk_180 0 162 (dk_at dksJ5_get_0 15 rfl rfl)
theorem dJ5_get_18 : decode cJ5_get 18 = .ok (.areturn, 1) := dk_176 (dk_at dksJ5_get_0 18 rfl rfl)
abbrev cJ5_getNode : ByteArray := prog_47_method_13_code
def yJ5_getNode : MethodName := ⟨RJ5, "getNode", "(Ljava/lang/Object;)Ljava/util/HashMap$Node;"⟩
def dkwJ5_getNode_6 : List UInt8 := [89, 58, 4, 199, 255, 210, 1, 176]
abbrev dktJ5_getNode_6 : List UInt8 := dkwJ5_getNode_6 ++ []
def dkwJ5_getNode_5 : List UInt8 := [165, 0, 16, 43, 198, 0, 15, 43, 25, 7, 182, 0, 173, 153, 0, 6, 25, 4, 176, 25, 4, 180, 0, 177]
abbrev dktJ5_getNode_5 : List UInt8 := dkwJ5_getNode_5 ++ dktJ5_getNode_6
def dkwJ5_getNode_4 : List UInt8 := [43, 182, 0, 182, 176, 25, 4, 180, 0, 168, 21, 6, 160, 0, 31, 25, 4, 180, 0, 170, 89, 58, 7, 43]
abbrev dktJ5_getNode_4 : List UInt8 := dkwJ5_getNode_4 ++ dktJ5_getNode_5
def dkwJ5_getNode_3 : List UInt8 := [176, 45, 180, 0, 177, 89, 58, 4, 198, 0, 70, 45, 193, 0, 180, 153, 0, 14, 45, 192, 0, 180, 21, 6]
abbrev dktJ5_getNode_3 : List UInt8 := dkwJ5_getNode_3 ++ dktJ5_getNode_4
def dkwJ5_getNode_2 : List UInt8 := [180, 0, 170, 89, 58, 7, 43, 165, 0, 16, 43, 198, 0, 14, 43, 25, 7, 182, 0, 173, 153, 0, 5, 45]
abbrev dktJ5_getNode_2 : List UInt8 := dkwJ5_getNode_2 ++ dktJ5_getNode_3
def dkwJ5_getNode_1 : List UInt8 := [184, 0, 149, 89, 54, 6, 126, 50, 89, 78, 198, 0, 115, 45, 180, 0, 168, 21, 6, 160, 0, 29, 45]
abbrev dktJ5_getNode_1 : List UInt8 := dkwJ5_getNode_1 ++ dktJ5_getNode_2
def dkwJ5_getNode_0 : List UInt8 := [42, 180, 0, 105, 89, 77, 198, 0, 142, 44, 190, 89, 54, 5, 158, 0, 134, 44, 21, 5, 4, 100, 43]
abbrev dktJ5_getNode_0 : List UInt8 := dkwJ5_getNode_0 ++ dktJ5_getNode_1
theorem dksJ5_getNode_0 : cJ5_getNode.data.toList.drop 0 = dktJ5_getNode_0 := by decide +kernel
theorem dksJ5_getNode_1 : cJ5_getNode.data.toList.drop 23 = dktJ5_getNode_1 := dk_seg dksJ5_getNode_0 23 rfl rfl
theorem dksJ5_getNode_2 : cJ5_getNode.data.toList.drop 46 = dktJ5_getNode_2 := dk_seg dksJ5_getNode_1 23 rfl rfl
theorem dksJ5_getNode_3 : cJ5_getNode.data.toList.drop 70 = dktJ5_getNode_3 := dk_seg dksJ5_getNode_2 24 rfl rfl
theorem dksJ5_getNode_4 : cJ5_getNode.data.toList.drop 94 = dktJ5_getNode_4 := dk_seg dksJ5_getNode_3 24 rfl rfl
theorem dksJ5_getNode_5 : cJ5_getNode.data.toList.drop 118 = dktJ5_getNode_5 := dk_seg dksJ5_getNode_4 24 rfl rfl
theorem dksJ5_getNode_6 : cJ5_getNode.data.toList.drop 142 = dktJ5_getNode_6 := dk_seg dksJ5_getNode_5 24 rfl rfl
theorem dJ5_getNode_0 : decode cJ5_getNode 0 = .ok (.aload_n 0, 1) := dk_42 (dk_at dksJ5_getNode_0 0 rfl rfl)
theorem dJ5_getNode_1 : decode cJ5_getNode 1 = .ok (.getfield 105, 3) := dk_180 0 105 (dk_at dksJ5_getNode_0 1 rfl rfl)
theorem dJ5_getNode_4 : decode cJ5_getNode 4 = .ok (.dup, 1) := dk_89 (dk_at dksJ5_getNode_0 4 rfl rfl)
theorem dJ5_getNode_5 : decode cJ5_getNode 5 = .ok (.astore_n 2, 1) := dk_77 (dk_at dksJ5_getNode_0 5 rfl rfl)
theorem dJ5_getNode_6 : decode cJ5_getNode 6 = .ok (.ifnull 142, 3) := dk_198 0 142 (dk_at dksJ5_getNode_0 6 rfl rfl)
theorem dJ5_getNode_9 : decode cJ5_getNode 9 = .ok (.aload_n 2, 1) := dk_44 (dk_at dksJ5_getNode_0 9 rfl rfl)
theorem dJ5_getNode_10 : decode cJ5_getNode 10 = .ok (.arraylength, 1) := dk_190 (dk_at dksJ5_getNode_0 10 rfl rfl)
theorem dJ5_getNode_11 : decode cJ5_getNode 11 = .ok (.dup, 1) := dk_89 (dk_at dksJ5_getNode_0 11 rfl rfl)
theorem dJ5_getNode_12 : decode cJ5_getNode 12 = .ok (.istore 5, 2) := dk_54 5 (dk_at dksJ5_getNode_0 12 rfl rfl)
theorem dJ5_getNode_14 : decode cJ5_getNode 14 = .ok (.ifCond .le 134, 3) := dk_158 0 134 (dk_at dksJ5_getNode_0 14 rfl rfl)
theorem dJ5_getNode_17 : decode cJ5_getNode 17 = .ok (.aload_n 2, 1) := dk_44 (dk_at dksJ5_getNode_0 17 rfl rfl)
theorem dJ5_getNode_18 : decode cJ5_getNode 18 = .ok (.iload 5, 2) := dk_21 5 (dk_at dksJ5_getNode_0 18 rfl rfl)
theorem dJ5_getNode_20 : decode cJ5_getNode 20 = .ok (.iconst 1, 1) := dk_4 (dk_at dksJ5_getNode_0 20 rfl rfl)
theorem dJ5_getNode_21 : decode cJ5_getNode 21 = .ok (.isub, 1) := dk_100 (dk_at dksJ5_getNode_0 21 rfl rfl)
theorem dJ5_getNode_22 : decode cJ5_getNode 22 = .ok (.aload_n 1, 1) := dk_43 (dk_at dksJ5_getNode_0 22 rfl rfl)
theorem dJ5_getNode_23 : decode cJ5_getNode 23 = .ok (.invokestatic 149, 3) := dk_184 0 149 (dk_at dksJ5_getNode_1 0 rfl rfl)
theorem dJ5_getNode_26 : decode cJ5_getNode 26 = .ok (.dup, 1) := dk_89 (dk_at dksJ5_getNode_1 3 rfl rfl)
theorem dJ5_getNode_27 : decode cJ5_getNode 27 = .ok (.istore 6, 2) := dk_54 6 (dk_at dksJ5_getNode_1 4 rfl rfl)
theorem dJ5_getNode_29 : decode cJ5_getNode 29 = .ok (.iand, 1) := dk_126 (dk_at dksJ5_getNode_1 6 rfl rfl)
theorem dJ5_getNode_30 : decode cJ5_getNode 30 = .ok (.aaload, 1) := dk_50 (dk_at dksJ5_getNode_1 7 rfl rfl)
theorem dJ5_getNode_31 : decode cJ5_getNode 31 = .ok (.dup, 1) := dk_89 (dk_at dksJ5_getNode_1 8 rfl rfl)
theorem dJ5_getNode_32 : decode cJ5_getNode 32 = .ok (.astore_n 3, 1) := dk_78 (dk_at dksJ5_getNode_1 9 rfl rfl)
theorem dJ5_getNode_33 : decode cJ5_getNode 33 = .ok (.ifnull 115, 3) := dk_198 0 115 (dk_at dksJ5_getNode_1 10 rfl rfl)
theorem dJ5_getNode_36 : decode cJ5_getNode 36 = .ok (.aload_n 3, 1) := dk_45 (dk_at dksJ5_getNode_1 13 rfl rfl)
theorem dJ5_getNode_37 : decode cJ5_getNode 37 = .ok (.getfield 168, 3) := dk_180 0 168 (dk_at dksJ5_getNode_1 14 rfl rfl)
theorem dJ5_getNode_40 : decode cJ5_getNode 40 = .ok (.iload 6, 2) := dk_21 6 (dk_at dksJ5_getNode_1 17 rfl rfl)
theorem dJ5_getNode_42 : decode cJ5_getNode 42 = .ok (.if_icmp .ne 29, 3) := dk_160 0 29 (dk_at dksJ5_getNode_1 19 rfl rfl)
theorem dJ5_getNode_45 : decode cJ5_getNode 45 = .ok (.aload_n 3, 1) := dk_45 (dk_at dksJ5_getNode_1 22 rfl rfl)
theorem dJ5_getNode_46 : decode cJ5_getNode 46 = .ok (.getfield 170, 3) := dk_180 0 170 (dk_at dksJ5_getNode_2 0 rfl rfl)
theorem dJ5_getNode_49 : decode cJ5_getNode 49 = .ok (.dup, 1) := dk_89 (dk_at dksJ5_getNode_2 3 rfl rfl)
theorem dJ5_getNode_50 : decode cJ5_getNode 50 = .ok (.astore 7, 2) := dk_58 7 (dk_at dksJ5_getNode_2 4 rfl rfl)
theorem dJ5_getNode_52 : decode cJ5_getNode 52 = .ok (.aload_n 1, 1) := dk_43 (dk_at dksJ5_getNode_2 6 rfl rfl)
theorem dJ5_getNode_53 : decode cJ5_getNode 53 = .ok (.if_acmp .eq 16, 3) := dk_165 0 16 (dk_at dksJ5_getNode_2 7 rfl rfl)
theorem dJ5_getNode_56 : decode cJ5_getNode 56 = .ok (.aload_n 1, 1) := dk_43 (dk_at dksJ5_getNode_2 10 rfl rfl)
theorem dJ5_getNode_57 : decode cJ5_getNode 57 = .ok (.ifnull 14, 3) := dk_198 0 14 (dk_at dksJ5_getNode_2 11 rfl rfl)
theorem dJ5_getNode_60 : decode cJ5_getNode 60 = .ok (.aload_n 1, 1) := dk_43 (dk_at dksJ5_getNode_2 14 rfl rfl)
theorem dJ5_getNode_61 : decode cJ5_getNode 61 = .ok (.aload 7, 2) := dk_25 7 (dk_at dksJ5_getNode_2 15 rfl rfl)
theorem dJ5_getNode_63 : decode cJ5_getNode 63 = .ok (.invokevirtual 173, 3) := dk_182 0 173 (dk_at dksJ5_getNode_2 17 rfl rfl)
theorem dJ5_getNode_66 : decode cJ5_getNode 66 = .ok (.ifCond .eq 5, 3) := dk_153 0 5 (dk_at dksJ5_getNode_2 20 rfl rfl)
theorem dJ5_getNode_69 : decode cJ5_getNode 69 = .ok (.aload_n 3, 1) := dk_45 (dk_at dksJ5_getNode_2 23 rfl rfl)
theorem dJ5_getNode_70 : decode cJ5_getNode 70 = .ok (.areturn, 1) := dk_176 (dk_at dksJ5_getNode_3 0 rfl rfl)
theorem dJ5_getNode_71 : decode cJ5_getNode 71 = .ok (.aload_n 3, 1) := dk_45 (dk_at dksJ5_getNode_3 1 rfl rfl)
theorem dJ5_getNode_72 : decode cJ5_getNode 72 = .ok (.getfield 177, 3) := dk_180 0 177 (dk_at dksJ5_getNode_3 2 rfl rfl)
theorem dJ5_getNode_75 : decode cJ5_getNode 75 = .ok (.dup, 1) := dk_89 (dk_at dksJ5_getNode_3 5 rfl rfl)
theorem dJ5_getNode_76 : decode cJ5_getNode 76 = .ok (.astore 4, 2) := dk_58 4 (dk_at dksJ5_getNode_3 6 rfl rfl)
theorem dJ5_getNode_78 : decode cJ5_getNode 78 = .ok (.ifnull 70, 3) := dk_198 0 70 (dk_at dksJ5_getNode_3 8 rfl rfl)
theorem dJ5_getNode_81 : decode cJ5_getNode 81 = .ok (.aload_n 3, 1) := dk_45 (dk_at dksJ5_getNode_3 11 rfl rfl)
theorem dJ5_getNode_82 : decode cJ5_getNode 82 = .ok (.instanceof 180, 3) := dk_193 0 180 (dk_at dksJ5_getNode_3 12 rfl rfl)
theorem dJ5_getNode_85 : decode cJ5_getNode 85 = .ok (.ifCond .eq 14, 3) := dk_153 0 14 (dk_at dksJ5_getNode_3 15 rfl rfl)
theorem dJ5_getNode_88 : decode cJ5_getNode 88 = .ok (.aload_n 3, 1) := dk_45 (dk_at dksJ5_getNode_3 18 rfl rfl)
theorem dJ5_getNode_89 : decode cJ5_getNode 89 = .ok (.checkcast 180, 3) := dk_192 0 180 (dk_at dksJ5_getNode_3 19 rfl rfl)
theorem dJ5_getNode_92 : decode cJ5_getNode 92 = .ok (.iload 6, 2) := dk_21 6 (dk_at dksJ5_getNode_3 22 rfl rfl)
theorem dJ5_getNode_94 : decode cJ5_getNode 94 = .ok (.aload_n 1, 1) := dk_43 (dk_at dksJ5_getNode_4 0 rfl rfl)
theorem dJ5_getNode_95 : decode cJ5_getNode 95 = .ok (.invokevirtual 182, 3) := dk_182 0 182 (dk_at dksJ5_getNode_4 1 rfl rfl)
theorem dJ5_getNode_98 : decode cJ5_getNode 98 = .ok (.areturn, 1) := dk_176 (dk_at dksJ5_getNode_4 4 rfl rfl)
theorem dJ5_getNode_99 : decode cJ5_getNode 99 = .ok (.aload 4, 2) := dk_25 4 (dk_at dksJ5_getNode_4 5 rfl rfl)
theorem dJ5_getNode_101 : decode cJ5_getNode 101 = .ok (.getfield 168, 3) := dk_180 0 168 (dk_at dksJ5_getNode_4 7 rfl rfl)
theorem dJ5_getNode_104 : decode cJ5_getNode 104 = .ok (.iload 6, 2) := dk_21 6 (dk_at dksJ5_getNode_4 10 rfl rfl)
theorem dJ5_getNode_106 : decode cJ5_getNode 106 = .ok (.if_icmp .ne 31, 3) := dk_160 0 31 (dk_at dksJ5_getNode_4 12 rfl rfl)
theorem dJ5_getNode_109 : decode cJ5_getNode 109 = .ok (.aload 4, 2) := dk_25 4 (dk_at dksJ5_getNode_4 15 rfl rfl)
theorem dJ5_getNode_111 : decode cJ5_getNode 111 = .ok (.getfield 170, 3) := dk_180 0 170 (dk_at dksJ5_getNode_4 17 rfl rfl)
theorem dJ5_getNode_114 : decode cJ5_getNode 114 = .ok (.dup, 1) := dk_89 (dk_at dksJ5_getNode_4 20 rfl rfl)
theorem dJ5_getNode_115 : decode cJ5_getNode 115 = .ok (.astore 7, 2) := dk_58 7 (dk_at dksJ5_getNode_4 21 rfl rfl)
theorem dJ5_getNode_117 : decode cJ5_getNode 117 = .ok (.aload_n 1, 1) := dk_43 (dk_at dksJ5_getNode_4 23 rfl rfl)
theorem dJ5_getNode_118 : decode cJ5_getNode 118 = .ok (.if_acmp .eq 16, 3) := dk_165 0 16 (dk_at dksJ5_getNode_5 0 rfl rfl)
theorem dJ5_getNode_121 : decode cJ5_getNode 121 = .ok (.aload_n 1, 1) := dk_43 (dk_at dksJ5_getNode_5 3 rfl rfl)
theorem dJ5_getNode_122 : decode cJ5_getNode 122 = .ok (.ifnull 15, 3) := dk_198 0 15 (dk_at dksJ5_getNode_5 4 rfl rfl)
theorem dJ5_getNode_125 : decode cJ5_getNode 125 = .ok (.aload_n 1, 1) := dk_43 (dk_at dksJ5_getNode_5 7 rfl rfl)
theorem dJ5_getNode_126 : decode cJ5_getNode 126 = .ok (.aload 7, 2) := dk_25 7 (dk_at dksJ5_getNode_5 8 rfl rfl)
theorem dJ5_getNode_128 : decode cJ5_getNode 128 = .ok (.invokevirtual 173, 3) := dk_182 0 173 (dk_at dksJ5_getNode_5 10 rfl rfl)
theorem dJ5_getNode_131 : decode cJ5_getNode 131 = .ok (.ifCond .eq 6, 3) := dk_153 0 6 (dk_at dksJ5_getNode_5 13 rfl rfl)
theorem dJ5_getNode_134 : decode cJ5_getNode 134 = .ok (.aload 4, 2) := dk_25 4 (dk_at dksJ5_getNode_5 16 rfl rfl)
theorem dJ5_getNode_136 : decode cJ5_getNode 136 = .ok (.areturn, 1) := dk_176 (dk_at dksJ5_getNode_5 18 rfl rfl)
theorem dJ5_getNode_137 : decode cJ5_getNode 137 = .ok (.aload 4, 2) := dk_25 4 (dk_at dksJ5_getNode_5 19 rfl rfl)
theorem dJ5_getNode_139 : decode cJ5_getNode 139 = .ok (.getfield 177, 3) := dk_180 0 177 (dk_at dksJ5_getNode_5 21 rfl rfl)
theorem dJ5_getNode_142 : decode cJ5_getNode 142 = .ok (.dup, 1) := dk_89 (dk_at dksJ5_getNode_6 0 rfl rfl)
theorem dJ5_getNode_143 : decode cJ5_getNode 143 = .ok (.astore 4, 2) := dk_58 4 (dk_at dksJ5_getNode_6 1 rfl rfl)
theorem dJ5_getNode_145 : decode cJ5_getNode 145 = .ok (.ifnonnull (-46), 3) := dk_199 255 210 (dk_at dksJ5_getNode_6 3 rfl rfl)
theorem dJ5_getNode_148 : decode cJ5_getNode 148 = .ok (.aconst_null, 1) := dk_1 (dk_at dksJ5_getNode_6 6 rfl rfl)
theorem dJ5_getNode_149 : decode cJ5_getNode 149 = .ok (.areturn, 1) := dk_176 (dk_at dksJ5_getNode_6 7 rfl rfl)
abbrev cJ5_hash : ByteArray := prog_47_method_1_code
def yJ5_hash : MethodName := ⟨RJ5, "hash", "(Ljava/lang/Object;)I"⟩
def dkwJ5_hash_0 : List UInt8 := [42, 199, 0, 7, 3, 167, 0, 14, 42, 182, 0, 1, 89, 60, 27, 16, 16, 124, 130, 172]
abbrev dktJ5_hash_0 : List UInt8 := dkwJ5_hash_0 ++ []
theorem dksJ5_hash_0 : cJ5_hash.data.toList.drop 0 = dktJ5_hash_0 := by decide +kernel
theorem dJ5_hash_0 : decode cJ5_hash 0 = .ok (.aload_n 0, 1) := dk_42 (dk_at dksJ5_hash_0 0 rfl rfl)
theorem dJ5_hash_1 : decode cJ5_hash 1 = .ok (.ifnonnull 7, 3) := dk_199 0 7 (dk_at dksJ5_hash_0 1 rfl rfl)
theorem dJ5_hash_4 : decode cJ5_hash 4 = .ok (.iconst 0, 1) := dk_3 (dk_at dksJ5_hash_0 4 rfl rfl)
theorem dJ5_hash_5 : decode cJ5_hash 5 = .ok (.goto 14, 3) := dk_167 0 14 (dk_at dksJ5_hash_0 5 rfl rfl)
theorem dJ5_hash_8 : decode cJ5_hash 8 = .ok (.aload_n 0, 1) := dk_42 (dk_at dksJ5_hash_0 8 rfl rfl)
theorem dJ5_hash_9 : decode cJ5_hash 9 = .ok (.invokevirtual 1, 3) := dk_182 0 1 (dk_at dksJ5_hash_0 9 rfl rfl)
theorem dJ5_hash_12 : decode cJ5_hash 12 = .ok (.dup, 1) := dk_89 (dk_at dksJ5_hash_0 12 rfl rfl)
theorem dJ5_hash_13 : decode cJ5_hash 13 = .ok (.istore_n 1, 1) := dk_60 (dk_at dksJ5_hash_0 13 rfl rfl)
theorem dJ5_hash_14 : decode cJ5_hash 14 = .ok (.iload_n 1, 1) := dk_27 (dk_at dksJ5_hash_0 14 rfl rfl)
theorem dJ5_hash_15 : decode cJ5_hash 15 = .ok (.bipush 16, 2) := dk_16 16 (dk_at dksJ5_hash_0 15 rfl rfl)
theorem dJ5_hash_17 : decode cJ5_hash 17 = .ok (.iushr, 1) := dk_124 (dk_at dksJ5_hash_0 17 rfl rfl)
theorem dJ5_hash_18 : decode cJ5_hash 18 = .ok (.ixor, 1) := dk_130 (dk_at dksJ5_hash_0 18 rfl rfl)
theorem dJ5_hash_19 : decode cJ5_hash 19 = .ok (.ireturn, 1) := dk_172 (dk_at dksJ5_hash_0 19 rfl rfl)
abbrev cJ5_remove : ByteArray := prog_47_method_20_code
def yJ5_remove : MethodName := ⟨RJ5, "remove", "(Ljava/lang/Object;)Ljava/lang/Object;"⟩
def dkwJ5_remove_1 : List UInt8 := [180, 0, 162, 176]
abbrev dktJ5_remove_1 : List UInt8 := dkwJ5_remove_1 ++ []
def dkwJ5_remove_0 : List UInt8 := [42, 43, 184, 0, 149, 43, 1, 3, 4, 182, 0, 228, 89, 77, 199, 0, 7, 1, 167, 0, 7, 44]
abbrev dktJ5_remove_0 : List UInt8 := dkwJ5_remove_0 ++ dktJ5_remove_1
theorem dksJ5_remove_0 : cJ5_remove.data.toList.drop 0 = dktJ5_remove_0 := by decide +kernel
theorem dksJ5_remove_1 : cJ5_remove.data.toList.drop 22 = dktJ5_remove_1 := dk_seg dksJ5_remove_0 22 rfl rfl
theorem dJ5_remove_0 : decode cJ5_remove 0 = .ok (.aload_n 0, 1) := dk_42 (dk_at dksJ5_remove_0 0 rfl rfl)
theorem dJ5_remove_1 : decode cJ5_remove 1 = .ok (.aload_n 1, 1) := dk_43 (dk_at dksJ5_remove_0 1 rfl rfl)
theorem dJ5_remove_2 : decode cJ5_remove 2 = .ok (.invokestatic 149, 3) := dk_184 0 149 (dk_at dksJ5_remove_0 2 rfl rfl)
theorem dJ5_remove_5 : decode cJ5_remove 5 = .ok (.aload_n 1, 1) := dk_43 (dk_at dksJ5_remove_0 5 rfl rfl)
theorem dJ5_remove_6 : decode cJ5_remove 6 = .ok (.aconst_null, 1) := dk_1 (dk_at dksJ5_remove_0 6 rfl rfl)
theorem dJ5_remove_7 : decode cJ5_remove 7 = .ok (.iconst 0, 1) := dk_3 (dk_at dksJ5_remove_0 7 rfl rfl)
theorem dJ5_remove_8 : decode cJ5_remove 8 = .ok (.iconst 1, 1) := dk_4 (dk_at dksJ5_remove_0 8 rfl rfl)
theorem dJ5_remove_9 : decode cJ5_remove 9 = .ok (.invokevirtual 228, 3) := dk_182 0 228 (dk_at dksJ5_remove_0 9 rfl rfl)
theorem dJ5_remove_12 : decode cJ5_remove 12 = .ok (.dup, 1) := dk_89 (dk_at dksJ5_remove_0 12 rfl rfl)
theorem dJ5_remove_13 : decode cJ5_remove 13 = .ok (.astore_n 2, 1) := dk_77 (dk_at dksJ5_remove_0 13 rfl rfl)
theorem dJ5_remove_14 : decode cJ5_remove 14 = .ok (.ifnonnull 7, 3) := dk_199 0 7 (dk_at dksJ5_remove_0 14 rfl rfl)
theorem dJ5_remove_17 : decode cJ5_remove 17 = .ok (.aconst_null, 1) := dk_1 (dk_at dksJ5_remove_0 17 rfl rfl)
theorem dJ5_remove_18 : decode cJ5_remove 18 = .ok (.goto 7, 3) := dk_167 0 7 (dk_at dksJ5_remove_0 18 rfl rfl)
theorem dJ5_remove_21 : decode cJ5_remove 21 = .ok (.aload_n 2, 1) := dk_44 (dk_at dksJ5_remove_0 21 rfl rfl)
theorem dJ5_remove_22 : decode cJ5_remove 22 = .ok (.getfield 162, 3) := dk_180 0 162 (dk_at dksJ5_remove_1 0 rfl rfl)
theorem dJ5_remove_25 : decode cJ5_remove 25 = .ok (.areturn, 1) := dk_176 (dk_at dksJ5_remove_1 3 rfl rfl)
abbrev cJ5_removeNode : ByteArray := prog_47_method_21_code
def yJ5_removeNode : MethodName := ⟨RJ5, "removeNode", "(ILjava/lang/Object;Ljava/lang/Object;ZZ)Ljava/util/HashMap$Node;"⟩
def dkwJ5_removeNode_12 : List UInt8 := [181, 0, 156, 42, 25, 10, 182, 0, 236, 25, 10, 176, 1, 176]
abbrev dktJ5_removeNode_12 : List UInt8 := dkwJ5_removeNode_12 ++ []
def dkwJ5_removeNode_11 : List UInt8 := [180, 0, 177, 181, 0, 177, 42, 89, 180, 0, 202, 4, 96, 181, 0, 202, 42, 89, 180, 0, 156, 4, 100]
abbrev dktJ5_removeNode_11 : List UInt8 := dkwJ5_removeNode_11 ++ dktJ5_removeNode_12
def dkwJ5_removeNode_10 : List UInt8 := [25, 10, 25, 7, 166, 0, 16, 25, 6, 21, 9, 25, 10, 180, 0, 177, 83, 167, 0, 13, 25, 7, 25, 10]
abbrev dktJ5_removeNode_10 : List UInt8 := dkwJ5_removeNode_10 ++ dktJ5_removeNode_11
def dkwJ5_removeNode_9 : List UInt8 := [25, 10, 193, 0, 180, 153, 0, 19, 25, 10, 192, 0, 180, 42, 25, 6, 21, 5, 182, 0, 232, 167, 0, 33]
abbrev dktJ5_removeNode_9 : List UInt8 := dkwJ5_removeNode_9 ++ dktJ5_removeNode_10
def dkwJ5_removeNode_8 : List UInt8 := [180, 0, 162, 89, 58, 13, 45, 165, 0, 16, 45, 198, 0, 95, 45, 25, 13, 182, 0, 173, 153, 0, 86]
abbrev dktJ5_removeNode_8 : List UInt8 := dkwJ5_removeNode_8 ++ dktJ5_removeNode_9
def dkwJ5_removeNode_7 : List UInt8 := [25, 11, 180, 0, 177, 89, 58, 11, 199, 255, 203, 25, 10, 198, 0, 116, 21, 4, 153, 0, 28, 25, 10]
abbrev dktJ5_removeNode_7 : List UInt8 := dkwJ5_removeNode_7 ++ dktJ5_removeNode_8
def dkwJ5_removeNode_6 : List UInt8 := [198, 0, 19, 44, 25, 12, 182, 0, 173, 153, 0, 10, 25, 11, 58, 10, 167, 0, 18, 25, 11, 58, 7]
abbrev dktJ5_removeNode_6 : List UInt8 := dkwJ5_removeNode_6 ++ dktJ5_removeNode_7
def dkwJ5_removeNode_5 : List UInt8 := [25, 11, 180, 0, 168, 27, 160, 0, 35, 25, 11, 180, 0, 170, 89, 58, 12, 44, 165, 0, 16, 44]
abbrev dktJ5_removeNode_5 : List UInt8 := dkwJ5_removeNode_5 ++ dktJ5_removeNode_6
def dkwJ5_removeNode_4 : List UInt8 := [25, 7, 193, 0, 180, 153, 0, 18, 25, 7, 192, 0, 180, 27, 44, 182, 0, 182, 58, 10, 167, 0, 59]
abbrev dktJ5_removeNode_4 : List UInt8 := dkwJ5_removeNode_4 ++ dktJ5_removeNode_5
def dkwJ5_removeNode_3 : List UInt8 := [182, 0, 173, 153, 0, 10, 25, 7, 58, 10, 167, 0, 93, 25, 7, 180, 0, 177, 89, 58, 11, 198, 0, 82]
abbrev dktJ5_removeNode_3 : List UInt8 := dkwJ5_removeNode_3 ++ dktJ5_removeNode_4
def dkwJ5_removeNode_2 : List UInt8 := [160, 0, 35, 25, 7, 180, 0, 170, 89, 58, 12, 44, 165, 0, 16, 44, 198, 0, 19, 44, 25, 12]
abbrev dktJ5_removeNode_2 : List UInt8 := dkwJ5_removeNode_2 ++ dktJ5_removeNode_3
def dkwJ5_removeNode_1 : List UInt8 := [100, 27, 126, 89, 54, 9, 50, 89, 58, 7, 198, 0, 255, 1, 58, 10, 25, 7, 180, 0, 168, 27]
abbrev dktJ5_removeNode_1 : List UInt8 := dkwJ5_removeNode_1 ++ dktJ5_removeNode_2
def dkwJ5_removeNode_0 : List UInt8 := [42, 180, 0, 105, 89, 58, 6, 198, 1, 26, 25, 6, 190, 89, 54, 8, 158, 1, 17, 25, 6, 21, 8, 4]
abbrev dktJ5_removeNode_0 : List UInt8 := dkwJ5_removeNode_0 ++ dktJ5_removeNode_1
theorem dksJ5_removeNode_0 : cJ5_removeNode.data.toList.drop 0 = dktJ5_removeNode_0 := by decide +kernel
theorem dksJ5_removeNode_1 : cJ5_removeNode.data.toList.drop 24 = dktJ5_removeNode_1 := dk_seg dksJ5_removeNode_0 24 rfl rfl
theorem dksJ5_removeNode_2 : cJ5_removeNode.data.toList.drop 46 = dktJ5_removeNode_2 := dk_seg dksJ5_removeNode_1 22 rfl rfl
theorem dksJ5_removeNode_3 : cJ5_removeNode.data.toList.drop 68 = dktJ5_removeNode_3 := dk_seg dksJ5_removeNode_2 22 rfl rfl
theorem dksJ5_removeNode_4 : cJ5_removeNode.data.toList.drop 92 = dktJ5_removeNode_4 := dk_seg dksJ5_removeNode_3 24 rfl rfl
theorem dksJ5_removeNode_5 : cJ5_removeNode.data.toList.drop 115 = dktJ5_removeNode_5 := dk_seg dksJ5_removeNode_4 23 rfl rfl
theorem dksJ5_removeNode_6 : cJ5_removeNode.data.toList.drop 137 = dktJ5_removeNode_6 := dk_seg dksJ5_removeNode_5 22 rfl rfl
theorem dksJ5_removeNode_7 : cJ5_removeNode.data.toList.drop 160 = dktJ5_removeNode_7 := dk_seg dksJ5_removeNode_6 23 rfl rfl
theorem dksJ5_removeNode_8 : cJ5_removeNode.data.toList.drop 183 = dktJ5_removeNode_8 := dk_seg dksJ5_removeNode_7 23 rfl rfl
theorem dksJ5_removeNode_9 : cJ5_removeNode.data.toList.drop 206 = dktJ5_removeNode_9 := dk_seg dksJ5_removeNode_8 23 rfl rfl
theorem dksJ5_removeNode_10 : cJ5_removeNode.data.toList.drop 230 = dktJ5_removeNode_10 := dk_seg dksJ5_removeNode_9 24 rfl rfl
theorem dksJ5_removeNode_11 : cJ5_removeNode.data.toList.drop 254 = dktJ5_removeNode_11 := dk_seg dksJ5_removeNode_10 24 rfl rfl
theorem dksJ5_removeNode_12 : cJ5_removeNode.data.toList.drop 277 = dktJ5_removeNode_12 := dk_seg dksJ5_removeNode_11 23 rfl rfl
theorem dJ5_removeNode_0 : decode cJ5_removeNode 0 = .ok (.aload_n 0, 1) := dk_42 (dk_at dksJ5_removeNode_0 0 rfl rfl)
theorem dJ5_removeNode_1 : decode cJ5_removeNode 1 = .ok (.getfield 105, 3) := dk_180 0 105 (dk_at dksJ5_removeNode_0 1 rfl rfl)
theorem dJ5_removeNode_4 : decode cJ5_removeNode 4 = .ok (.dup, 1) := dk_89 (dk_at dksJ5_removeNode_0 4 rfl rfl)
theorem dJ5_removeNode_5 : decode cJ5_removeNode 5 = .ok (.astore 6, 2) := dk_58 6 (dk_at dksJ5_removeNode_0 5 rfl rfl)
theorem dJ5_removeNode_7 : decode cJ5_removeNode 7 = .ok (.ifnull 282, 3) := dk_198 1 26 (dk_at dksJ5_removeNode_0 7 rfl rfl)
theorem dJ5_removeNode_10 : decode cJ5_removeNode 10 = .ok (.aload 6, 2) := dk_25 6 (dk_at dksJ5_removeNode_0 10 rfl rfl)
theorem dJ5_removeNode_12 : decode cJ5_removeNode 12 = .ok (.arraylength, 1) := dk_190 (dk_at dksJ5_removeNode_0 12 rfl rfl)
theorem dJ5_removeNode_13 : decode cJ5_removeNode 13 = .ok (.dup, 1) := dk_89 (dk_at dksJ5_removeNode_0 13 rfl rfl)
theorem dJ5_removeNode_14 : decode cJ5_removeNode 14 = .ok (.istore 8, 2) := dk_54 8 (dk_at dksJ5_removeNode_0 14 rfl rfl)
theorem dJ5_removeNode_16 : decode cJ5_removeNode 16 = .ok (.ifCond .le 273, 3) := dk_158 1 17 (dk_at dksJ5_removeNode_0 16 rfl rfl)
theorem dJ5_removeNode_19 : decode cJ5_removeNode 19 = .ok (.aload 6, 2) := dk_25 6 (dk_at dksJ5_removeNode_0 19 rfl rfl)
theorem dJ5_removeNode_21 : decode cJ5_removeNode 21 = .ok (.iload 8, 2) := dk_21 8 (dk_at dksJ5_removeNode_0 21 rfl rfl)
theorem dJ5_removeNode_23 : decode cJ5_removeNode 23 = .ok (.iconst 1, 1) := dk_4 (dk_at dksJ5_removeNode_0 23 rfl rfl)
theorem dJ5_removeNode_24 : decode cJ5_removeNode 24 = .ok (.isub, 1) := dk_100 (dk_at dksJ5_removeNode_1 0 rfl rfl)
theorem dJ5_removeNode_25 : decode cJ5_removeNode 25 = .ok (.iload_n 1, 1) := dk_27 (dk_at dksJ5_removeNode_1 1 rfl rfl)
theorem dJ5_removeNode_26 : decode cJ5_removeNode 26 = .ok (.iand, 1) := dk_126 (dk_at dksJ5_removeNode_1 2 rfl rfl)
theorem dJ5_removeNode_27 : decode cJ5_removeNode 27 = .ok (.dup, 1) := dk_89 (dk_at dksJ5_removeNode_1 3 rfl rfl)
theorem dJ5_removeNode_28 : decode cJ5_removeNode 28 = .ok (.istore 9, 2) := dk_54 9 (dk_at dksJ5_removeNode_1 4 rfl rfl)
theorem dJ5_removeNode_30 : decode cJ5_removeNode 30 = .ok (.aaload, 1) := dk_50 (dk_at dksJ5_removeNode_1 6 rfl rfl)
theorem dJ5_removeNode_31 : decode cJ5_removeNode 31 = .ok (.dup, 1) := dk_89 (dk_at dksJ5_removeNode_1 7 rfl rfl)
theorem dJ5_removeNode_32 : decode cJ5_removeNode 32 = .ok (.astore 7, 2) := dk_58 7 (dk_at dksJ5_removeNode_1 8 rfl rfl)
theorem dJ5_removeNode_34 : decode cJ5_removeNode 34 = .ok (.ifnull 255, 3) := dk_198 0 255 (dk_at dksJ5_removeNode_1 10 rfl rfl)
theorem dJ5_removeNode_37 : decode cJ5_removeNode 37 = .ok (.aconst_null, 1) := dk_1 (dk_at dksJ5_removeNode_1 13 rfl rfl)
theorem dJ5_removeNode_38 : decode cJ5_removeNode 38 = .ok (.astore 10, 2) := dk_58 10 (dk_at dksJ5_removeNode_1 14 rfl rfl)
theorem dJ5_removeNode_40 : decode cJ5_removeNode 40 = .ok (.aload 7, 2) := dk_25 7 (dk_at dksJ5_removeNode_1 16 rfl rfl)
theorem dJ5_removeNode_42 : decode cJ5_removeNode 42 = .ok (.getfield 168, 3) := dk_180 0 168 (dk_at dksJ5_removeNode_1 18 rfl rfl)
theorem dJ5_removeNode_45 : decode cJ5_removeNode 45 = .ok (.iload_n 1, 1) := dk_27 (dk_at dksJ5_removeNode_1 21 rfl rfl)
theorem dJ5_removeNode_46 : decode cJ5_removeNode 46 = .ok (.if_icmp .ne 35, 3) := dk_160 0 35 (dk_at dksJ5_removeNode_2 0 rfl rfl)
theorem dJ5_removeNode_49 : decode cJ5_removeNode 49 = .ok (.aload 7, 2) := dk_25 7 (dk_at dksJ5_removeNode_2 3 rfl rfl)
theorem dJ5_removeNode_51 : decode cJ5_removeNode 51 = .ok (.getfield 170, 3) := dk_180 0 170 (dk_at dksJ5_removeNode_2 5 rfl rfl)
theorem dJ5_removeNode_54 : decode cJ5_removeNode 54 = .ok (.dup, 1) := dk_89 (dk_at dksJ5_removeNode_2 8 rfl rfl)
theorem dJ5_removeNode_55 : decode cJ5_removeNode 55 = .ok (.astore 12, 2) := dk_58 12 (dk_at dksJ5_removeNode_2 9 rfl rfl)
theorem dJ5_removeNode_57 : decode cJ5_removeNode 57 = .ok (.aload_n 2, 1) := dk_44 (dk_at dksJ5_removeNode_2 11 rfl rfl)
theorem dJ5_removeNode_58 : decode cJ5_removeNode 58 = .ok (.if_acmp .eq 16, 3) := dk_165 0 16 (dk_at dksJ5_removeNode_2 12 rfl rfl)
theorem dJ5_removeNode_61 : decode cJ5_removeNode 61 = .ok (.aload_n 2, 1) := dk_44 (dk_at dksJ5_removeNode_2 15 rfl rfl)
theorem dJ5_removeNode_62 : decode cJ5_removeNode 62 = .ok (.ifnull 19, 3) := dk_198 0 19 (dk_at dksJ5_removeNode_2 16 rfl rfl)
theorem dJ5_removeNode_65 : decode cJ5_removeNode 65 = .ok (.aload_n 2, 1) := dk_44 (dk_at dksJ5_removeNode_2 19 rfl rfl)
theorem dJ5_removeNode_66 : decode cJ5_removeNode 66 = .ok (.aload 12, 2) := dk_25 12 (dk_at dksJ5_removeNode_2 20 rfl rfl)
theorem dJ5_removeNode_68 : decode cJ5_removeNode 68 = .ok (.invokevirtual 173, 3) := dk_182 0 173 (dk_at dksJ5_removeNode_3 0 rfl rfl)
theorem dJ5_removeNode_71 : decode cJ5_removeNode 71 = .ok (.ifCond .eq 10, 3) := dk_153 0 10 (dk_at dksJ5_removeNode_3 3 rfl rfl)
theorem dJ5_removeNode_74 : decode cJ5_removeNode 74 = .ok (.aload 7, 2) := dk_25 7 (dk_at dksJ5_removeNode_3 6 rfl rfl)
theorem dJ5_removeNode_76 : decode cJ5_removeNode 76 = .ok (.astore 10, 2) := dk_58 10 (dk_at dksJ5_removeNode_3 8 rfl rfl)
theorem dJ5_removeNode_78 : decode cJ5_removeNode 78 = .ok (.goto 93, 3) := dk_167 0 93 (dk_at dksJ5_removeNode_3 10 rfl rfl)
theorem dJ5_removeNode_81 : decode cJ5_removeNode 81 = .ok (.aload 7, 2) := dk_25 7 (dk_at dksJ5_removeNode_3 13 rfl rfl)
theorem dJ5_removeNode_83 : decode cJ5_removeNode 83 = .ok (.getfield 177, 3) := dk_180 0 177 (dk_at dksJ5_removeNode_3 15 rfl rfl)
theorem dJ5_removeNode_86 : decode cJ5_removeNode 86 = .ok (.dup, 1) := dk_89 (dk_at dksJ5_removeNode_3 18 rfl rfl)
theorem dJ5_removeNode_87 : decode cJ5_removeNode 87 = .ok (.astore 11, 2) := dk_58 11 (dk_at dksJ5_removeNode_3 19 rfl rfl)
theorem dJ5_removeNode_89 : decode cJ5_removeNode 89 = .ok (.ifnull 82, 3) := dk_198 0 82 (dk_at dksJ5_removeNode_3 21 rfl rfl)
theorem dJ5_removeNode_92 : decode cJ5_removeNode 92 = .ok (.aload 7, 2) := dk_25 7 (dk_at dksJ5_removeNode_4 0 rfl rfl)
theorem dJ5_removeNode_94 : decode cJ5_removeNode 94 = .ok (.instanceof 180, 3) := dk_193 0 180 (dk_at dksJ5_removeNode_4 2 rfl rfl)
theorem dJ5_removeNode_97 : decode cJ5_removeNode 97 = .ok (.ifCond .eq 18, 3) := dk_153 0 18 (dk_at dksJ5_removeNode_4 5 rfl rfl)
theorem dJ5_removeNode_100 : decode cJ5_removeNode 100 = .ok (.aload 7, 2) := dk_25 7 (dk_at dksJ5_removeNode_4 8 rfl rfl)
theorem dJ5_removeNode_102 : decode cJ5_removeNode 102 = .ok (.checkcast 180, 3) := dk_192 0 180 (dk_at dksJ5_removeNode_4 10 rfl rfl)
theorem dJ5_removeNode_105 : decode cJ5_removeNode 105 = .ok (.iload_n 1, 1) := dk_27 (dk_at dksJ5_removeNode_4 13 rfl rfl)
theorem dJ5_removeNode_106 : decode cJ5_removeNode 106 = .ok (.aload_n 2, 1) := dk_44 (dk_at dksJ5_removeNode_4 14 rfl rfl)
theorem dJ5_removeNode_107 : decode cJ5_removeNode 107 = .ok (.invokevirtual 182, 3) := dk_182 0 182 (dk_at dksJ5_removeNode_4 15 rfl rfl)
theorem dJ5_removeNode_110 : decode cJ5_removeNode 110 = .ok (.astore 10, 2) := dk_58 10 (dk_at dksJ5_removeNode_4 18 rfl rfl)
theorem dJ5_removeNode_112 : decode cJ5_removeNode 112 = .ok (.goto 59, 3) := dk_167 0 59 (dk_at dksJ5_removeNode_4 20 rfl rfl)
theorem dJ5_removeNode_115 : decode cJ5_removeNode 115 = .ok (.aload 11, 2) := dk_25 11 (dk_at dksJ5_removeNode_5 0 rfl rfl)
theorem dJ5_removeNode_117 : decode cJ5_removeNode 117 = .ok (.getfield 168, 3) := dk_180 0 168 (dk_at dksJ5_removeNode_5 2 rfl rfl)
theorem dJ5_removeNode_120 : decode cJ5_removeNode 120 = .ok (.iload_n 1, 1) := dk_27 (dk_at dksJ5_removeNode_5 5 rfl rfl)
theorem dJ5_removeNode_121 : decode cJ5_removeNode 121 = .ok (.if_icmp .ne 35, 3) := dk_160 0 35 (dk_at dksJ5_removeNode_5 6 rfl rfl)
theorem dJ5_removeNode_124 : decode cJ5_removeNode 124 = .ok (.aload 11, 2) := dk_25 11 (dk_at dksJ5_removeNode_5 9 rfl rfl)
theorem dJ5_removeNode_126 : decode cJ5_removeNode 126 = .ok (.getfield 170, 3) := dk_180 0 170 (dk_at dksJ5_removeNode_5 11 rfl rfl)
theorem dJ5_removeNode_129 : decode cJ5_removeNode 129 = .ok (.dup, 1) := dk_89 (dk_at dksJ5_removeNode_5 14 rfl rfl)
theorem dJ5_removeNode_130 : decode cJ5_removeNode 130 = .ok (.astore 12, 2) := dk_58 12 (dk_at dksJ5_removeNode_5 15 rfl rfl)
theorem dJ5_removeNode_132 : decode cJ5_removeNode 132 = .ok (.aload_n 2, 1) := dk_44 (dk_at dksJ5_removeNode_5 17 rfl rfl)
theorem dJ5_removeNode_133 : decode cJ5_removeNode 133 = .ok (.if_acmp .eq 16, 3) := dk_165 0 16 (dk_at dksJ5_removeNode_5 18 rfl rfl)
theorem dJ5_removeNode_136 : decode cJ5_removeNode 136 = .ok (.aload_n 2, 1) := dk_44 (dk_at dksJ5_removeNode_5 21 rfl rfl)
theorem dJ5_removeNode_137 : decode cJ5_removeNode 137 = .ok (.ifnull 19, 3) := dk_198 0 19 (dk_at dksJ5_removeNode_6 0 rfl rfl)
theorem dJ5_removeNode_140 : decode cJ5_removeNode 140 = .ok (.aload_n 2, 1) := dk_44 (dk_at dksJ5_removeNode_6 3 rfl rfl)
theorem dJ5_removeNode_141 : decode cJ5_removeNode 141 = .ok (.aload 12, 2) := dk_25 12 (dk_at dksJ5_removeNode_6 4 rfl rfl)
theorem dJ5_removeNode_143 : decode cJ5_removeNode 143 = .ok (.invokevirtual 173, 3) := dk_182 0 173 (dk_at dksJ5_removeNode_6 6 rfl rfl)
theorem dJ5_removeNode_146 : decode cJ5_removeNode 146 = .ok (.ifCond .eq 10, 3) := dk_153 0 10 (dk_at dksJ5_removeNode_6 9 rfl rfl)
theorem dJ5_removeNode_149 : decode cJ5_removeNode 149 = .ok (.aload 11, 2) := dk_25 11 (dk_at dksJ5_removeNode_6 12 rfl rfl)
theorem dJ5_removeNode_151 : decode cJ5_removeNode 151 = .ok (.astore 10, 2) := dk_58 10 (dk_at dksJ5_removeNode_6 14 rfl rfl)
theorem dJ5_removeNode_153 : decode cJ5_removeNode 153 = .ok (.goto 18, 3) := dk_167 0 18 (dk_at dksJ5_removeNode_6 16 rfl rfl)
theorem dJ5_removeNode_156 : decode cJ5_removeNode 156 = .ok (.aload 11, 2) := dk_25 11 (dk_at dksJ5_removeNode_6 19 rfl rfl)
theorem dJ5_removeNode_158 : decode cJ5_removeNode 158 = .ok (.astore 7, 2) := dk_58 7 (dk_at dksJ5_removeNode_6 21 rfl rfl)
theorem dJ5_removeNode_160 : decode cJ5_removeNode 160 = .ok (.aload 11, 2) := dk_25 11 (dk_at dksJ5_removeNode_7 0 rfl rfl)
theorem dJ5_removeNode_162 : decode cJ5_removeNode 162 = .ok (.getfield 177, 3) := dk_180 0 177 (dk_at dksJ5_removeNode_7 2 rfl rfl)
theorem dJ5_removeNode_165 : decode cJ5_removeNode 165 = .ok (.dup, 1) := dk_89 (dk_at dksJ5_removeNode_7 5 rfl rfl)
theorem dJ5_removeNode_166 : decode cJ5_removeNode 166 = .ok (.astore 11, 2) := dk_58 11 (dk_at dksJ5_removeNode_7 6 rfl rfl)
theorem dJ5_removeNode_168 : decode cJ5_removeNode 168 = .ok (.ifnonnull (-53), 3) := dk_199 255 203 (dk_at dksJ5_removeNode_7 8 rfl rfl)
theorem dJ5_removeNode_171 : decode cJ5_removeNode 171 = .ok (.aload 10, 2) := dk_25 10 (dk_at dksJ5_removeNode_7 11 rfl rfl)
theorem dJ5_removeNode_173 : decode cJ5_removeNode 173 = .ok (.ifnull 116, 3) := dk_198 0 116 (dk_at dksJ5_removeNode_7 13 rfl rfl)
theorem dJ5_removeNode_176 : decode cJ5_removeNode 176 = .ok (.iload 4, 2) := dk_21 4 (dk_at dksJ5_removeNode_7 16 rfl rfl)
theorem dJ5_removeNode_178 : decode cJ5_removeNode 178 = .ok (.ifCond .eq 28, 3) := dk_153 0 28 (dk_at dksJ5_removeNode_7 18 rfl rfl)
theorem dJ5_removeNode_181 : decode cJ5_removeNode 181 = .ok (.aload 10, 2) := dk_25 10 (dk_at dksJ5_removeNode_7 21 rfl rfl)
theorem dJ5_removeNode_183 : decode cJ5_removeNode 183 = .ok (.getfield 162, 3) := dk_180 0 162 (dk_at dksJ5_removeNode_8 0 rfl rfl)
theorem dJ5_removeNode_186 : decode cJ5_removeNode 186 = .ok (.dup, 1) := dk_89 (dk_at dksJ5_removeNode_8 3 rfl rfl)
theorem dJ5_removeNode_187 : decode cJ5_removeNode 187 = .ok (.astore 13, 2) := dk_58 13 (dk_at dksJ5_removeNode_8 4 rfl rfl)
theorem dJ5_removeNode_189 : decode cJ5_removeNode 189 = .ok (.aload_n 3, 1) := dk_45 (dk_at dksJ5_removeNode_8 6 rfl rfl)
theorem dJ5_removeNode_190 : decode cJ5_removeNode 190 = .ok (.if_acmp .eq 16, 3) := dk_165 0 16 (dk_at dksJ5_removeNode_8 7 rfl rfl)
theorem dJ5_removeNode_193 : decode cJ5_removeNode 193 = .ok (.aload_n 3, 1) := dk_45 (dk_at dksJ5_removeNode_8 10 rfl rfl)
theorem dJ5_removeNode_194 : decode cJ5_removeNode 194 = .ok (.ifnull 95, 3) := dk_198 0 95 (dk_at dksJ5_removeNode_8 11 rfl rfl)
theorem dJ5_removeNode_197 : decode cJ5_removeNode 197 = .ok (.aload_n 3, 1) := dk_45 (dk_at dksJ5_removeNode_8 14 rfl rfl)
theorem dJ5_removeNode_198 : decode cJ5_removeNode 198 = .ok (.aload 13, 2) := dk_25 13 (dk_at dksJ5_removeNode_8 15 rfl rfl)
theorem dJ5_removeNode_200 : decode cJ5_removeNode 200 = .ok (.invokevirtual 173, 3) := dk_182 0 173 (dk_at dksJ5_removeNode_8 17 rfl rfl)
theorem dJ5_removeNode_203 : decode cJ5_removeNode 203 = .ok (.ifCond .eq 86, 3) := dk_153 0 86 (dk_at dksJ5_removeNode_8 20 rfl rfl)
theorem dJ5_removeNode_206 : decode cJ5_removeNode 206 = .ok (.aload 10, 2) := dk_25 10 (dk_at dksJ5_removeNode_9 0 rfl rfl)
theorem dJ5_removeNode_208 : decode cJ5_removeNode 208 = .ok (.instanceof 180, 3) := dk_193 0 180 (dk_at dksJ5_removeNode_9 2 rfl rfl)
theorem dJ5_removeNode_211 : decode cJ5_removeNode 211 = .ok (.ifCond .eq 19, 3) := dk_153 0 19 (dk_at dksJ5_removeNode_9 5 rfl rfl)
theorem dJ5_removeNode_214 : decode cJ5_removeNode 214 = .ok (.aload 10, 2) := dk_25 10 (dk_at dksJ5_removeNode_9 8 rfl rfl)
theorem dJ5_removeNode_216 : decode cJ5_removeNode 216 = .ok (.checkcast 180, 3) := dk_192 0 180 (dk_at dksJ5_removeNode_9 10 rfl rfl)
theorem dJ5_removeNode_219 : decode cJ5_removeNode 219 = .ok (.aload_n 0, 1) := dk_42 (dk_at dksJ5_removeNode_9 13 rfl rfl)
theorem dJ5_removeNode_220 : decode cJ5_removeNode 220 = .ok (.aload 6, 2) := dk_25 6 (dk_at dksJ5_removeNode_9 14 rfl rfl)
theorem dJ5_removeNode_222 : decode cJ5_removeNode 222 = .ok (.iload 5, 2) := dk_21 5 (dk_at dksJ5_removeNode_9 16 rfl rfl)
theorem dJ5_removeNode_224 : decode cJ5_removeNode 224 = .ok (.invokevirtual 232, 3) := dk_182 0 232 (dk_at dksJ5_removeNode_9 18 rfl rfl)
theorem dJ5_removeNode_227 : decode cJ5_removeNode 227 = .ok (.goto 33, 3) := dk_167 0 33 (dk_at dksJ5_removeNode_9 21 rfl rfl)
theorem dJ5_removeNode_230 : decode cJ5_removeNode 230 = .ok (.aload 10, 2) := dk_25 10 (dk_at dksJ5_removeNode_10 0 rfl rfl)
theorem dJ5_removeNode_232 : decode cJ5_removeNode 232 = .ok (.aload 7, 2) := dk_25 7 (dk_at dksJ5_removeNode_10 2 rfl rfl)
theorem dJ5_removeNode_234 : decode cJ5_removeNode 234 = .ok (.if_acmp .ne 16, 3) := dk_166 0 16 (dk_at dksJ5_removeNode_10 4 rfl rfl)
theorem dJ5_removeNode_237 : decode cJ5_removeNode 237 = .ok (.aload 6, 2) := dk_25 6 (dk_at dksJ5_removeNode_10 7 rfl rfl)
theorem dJ5_removeNode_239 : decode cJ5_removeNode 239 = .ok (.iload 9, 2) := dk_21 9 (dk_at dksJ5_removeNode_10 9 rfl rfl)
theorem dJ5_removeNode_241 : decode cJ5_removeNode 241 = .ok (.aload 10, 2) := dk_25 10 (dk_at dksJ5_removeNode_10 11 rfl rfl)
theorem dJ5_removeNode_243 : decode cJ5_removeNode 243 = .ok (.getfield 177, 3) := dk_180 0 177 (dk_at dksJ5_removeNode_10 13 rfl rfl)
theorem dJ5_removeNode_246 : decode cJ5_removeNode 246 = .ok (.aastore, 1) := dk_83 (dk_at dksJ5_removeNode_10 16 rfl rfl)
theorem dJ5_removeNode_247 : decode cJ5_removeNode 247 = .ok (.goto 13, 3) := dk_167 0 13 (dk_at dksJ5_removeNode_10 17 rfl rfl)
theorem dJ5_removeNode_250 : decode cJ5_removeNode 250 = .ok (.aload 7, 2) := dk_25 7 (dk_at dksJ5_removeNode_10 20 rfl rfl)
theorem dJ5_removeNode_252 : decode cJ5_removeNode 252 = .ok (.aload 10, 2) := dk_25 10 (dk_at dksJ5_removeNode_10 22 rfl rfl)
theorem dJ5_removeNode_254 : decode cJ5_removeNode 254 = .ok (.getfield 177, 3) := dk_180 0 177 (dk_at dksJ5_removeNode_11 0 rfl rfl)
theorem dJ5_removeNode_257 : decode cJ5_removeNode 257 = .ok (.putfield 177, 3) := dk_181 0 177 (dk_at dksJ5_removeNode_11 3 rfl rfl)
theorem dJ5_removeNode_260 : decode cJ5_removeNode 260 = .ok (.aload_n 0, 1) := dk_42 (dk_at dksJ5_removeNode_11 6 rfl rfl)
theorem dJ5_removeNode_261 : decode cJ5_removeNode 261 = .ok (.dup, 1) := dk_89 (dk_at dksJ5_removeNode_11 7 rfl rfl)
theorem dJ5_removeNode_262 : decode cJ5_removeNode 262 = .ok (.getfield 202, 3) := dk_180 0 202 (dk_at dksJ5_removeNode_11 8 rfl rfl)
theorem dJ5_removeNode_265 : decode cJ5_removeNode 265 = .ok (.iconst 1, 1) := dk_4 (dk_at dksJ5_removeNode_11 11 rfl rfl)
theorem dJ5_removeNode_266 : decode cJ5_removeNode 266 = .ok (.iadd, 1) := dk_96 (dk_at dksJ5_removeNode_11 12 rfl rfl)
theorem dJ5_removeNode_267 : decode cJ5_removeNode 267 = .ok (.putfield 202, 3) := dk_181 0 202 (dk_at dksJ5_removeNode_11 13 rfl rfl)
theorem dJ5_removeNode_270 : decode cJ5_removeNode 270 = .ok (.aload_n 0, 1) := dk_42 (dk_at dksJ5_removeNode_11 16 rfl rfl)
theorem dJ5_removeNode_271 : decode cJ5_removeNode 271 = .ok (.dup, 1) := dk_89 (dk_at dksJ5_removeNode_11 17 rfl rfl)
theorem dJ5_removeNode_272 : decode cJ5_removeNode 272 = .ok (.getfield 156, 3) := dk_180 0 156 (dk_at dksJ5_removeNode_11 18 rfl rfl)
theorem dJ5_removeNode_275 : decode cJ5_removeNode 275 = .ok (.iconst 1, 1) := dk_4 (dk_at dksJ5_removeNode_11 21 rfl rfl)
theorem dJ5_removeNode_276 : decode cJ5_removeNode 276 = .ok (.isub, 1) := dk_100 (dk_at dksJ5_removeNode_11 22 rfl rfl)
theorem dJ5_removeNode_277 : decode cJ5_removeNode 277 = .ok (.putfield 156, 3) := dk_181 0 156 (dk_at dksJ5_removeNode_12 0 rfl rfl)
theorem dJ5_removeNode_280 : decode cJ5_removeNode 280 = .ok (.aload_n 0, 1) := dk_42 (dk_at dksJ5_removeNode_12 3 rfl rfl)
theorem dJ5_removeNode_281 : decode cJ5_removeNode 281 = .ok (.aload 10, 2) := dk_25 10 (dk_at dksJ5_removeNode_12 4 rfl rfl)
theorem dJ5_removeNode_283 : decode cJ5_removeNode 283 = .ok (.invokevirtual 236, 3) := dk_182 0 236 (dk_at dksJ5_removeNode_12 6 rfl rfl)
theorem dJ5_removeNode_286 : decode cJ5_removeNode 286 = .ok (.aload 10, 2) := dk_25 10 (dk_at dksJ5_removeNode_12 9 rfl rfl)
theorem dJ5_removeNode_288 : decode cJ5_removeNode 288 = .ok (.areturn, 1) := dk_176 (dk_at dksJ5_removeNode_12 11 rfl rfl)
theorem dJ5_removeNode_289 : decode cJ5_removeNode 289 = .ok (.aconst_null, 1) := dk_1 (dk_at dksJ5_removeNode_12 12 rfl rfl)
theorem dJ5_removeNode_290 : decode cJ5_removeNode 290 = .ok (.areturn, 1) := dk_176 (dk_at dksJ5_removeNode_12 13 rfl rfl)
abbrev cJ5_afterNodeRemoval : ByteArray := prog_47_method_53_code
def yJ5_afterNodeRemoval : MethodName := ⟨RJ5, "afterNodeRemoval", "(Ljava/util/HashMap$Node;)V"⟩
theorem dJ5_afterNodeRemoval_0 : decode cJ5_afterNodeRemoval 0 = .ok (.return_, 1) := by decide +kernel
abbrev cJ5_put : ByteArray := prog_47_method_15_code
def yJ5_put : MethodName := ⟨RJ5, "put", "(Ljava/lang/Object;Ljava/lang/Object;)Ljava/lang/Object;"⟩
def dkwJ5_put_0 : List UInt8 := [42, 43, 184, 0, 149, 43, 44, 3, 4, 182, 0, 152, 176]
abbrev dktJ5_put_0 : List UInt8 := dkwJ5_put_0 ++ []
theorem dksJ5_put_0 : cJ5_put.data.toList.drop 0 = dktJ5_put_0 := by decide +kernel
theorem dJ5_put_0 : decode cJ5_put 0 = .ok (.aload_n 0, 1) := dk_42 (dk_at dksJ5_put_0 0 rfl rfl)
theorem dJ5_put_1 : decode cJ5_put 1 = .ok (.aload_n 1, 1) := dk_43 (dk_at dksJ5_put_0 1 rfl rfl)
theorem dJ5_put_2 : decode cJ5_put 2 = .ok (.invokestatic 149, 3) := dk_184 0 149 (dk_at dksJ5_put_0 2 rfl rfl)
theorem dJ5_put_5 : decode cJ5_put 5 = .ok (.aload_n 1, 1) := dk_43 (dk_at dksJ5_put_0 5 rfl rfl)
theorem dJ5_put_6 : decode cJ5_put 6 = .ok (.aload_n 2, 1) := dk_44 (dk_at dksJ5_put_0 6 rfl rfl)
theorem dJ5_put_7 : decode cJ5_put 7 = .ok (.iconst 0, 1) := dk_3 (dk_at dksJ5_put_0 7 rfl rfl)
theorem dJ5_put_8 : decode cJ5_put 8 = .ok (.iconst 1, 1) := dk_4 (dk_at dksJ5_put_0 8 rfl rfl)
theorem dJ5_put_9 : decode cJ5_put 9 = .ok (.invokevirtual 152, 3) := dk_182 0 152 (dk_at dksJ5_put_0 9 rfl rfl)
theorem dJ5_put_12 : decode cJ5_put 12 = .ok (.areturn, 1) := dk_176 (dk_at dksJ5_put_0 12 rfl rfl)
abbrev cJ5_putVal : ByteArray := prog_47_method_16_code
def yJ5_putVal : MethodName := ⟨RJ5, "putVal", "(ILjava/lang/Object;Ljava/lang/Object;ZZ)Ljava/lang/Object;"⟩
def dkwJ5_putVal_12 : List UInt8 := [181, 0, 156, 42, 180, 0, 88, 164, 0, 8, 42, 182, 0, 117, 87, 42, 21, 5, 182, 0, 205, 1, 176]
abbrev dktJ5_putVal_12 : List UInt8 := dkwJ5_putVal_12 ++ []
def dkwJ5_putVal_11 : List UInt8 := [182, 0, 198, 25, 12, 176, 42, 89, 180, 0, 202, 4, 96, 181, 0, 202, 42, 89, 180, 0, 156, 4, 96, 90]
abbrev dktJ5_putVal_11 : List UInt8 := dkwJ5_putVal_11 ++ dktJ5_putVal_12
def dkwJ5_putVal_10 : List UInt8 := [180, 0, 162, 58, 12, 21, 4, 153, 0, 8, 25, 12, 199, 0, 9, 25, 10, 45, 181, 0, 162, 42, 25, 10]
abbrev dktJ5_putVal_10 : List UInt8 := dkwJ5_putVal_10 ++ dktJ5_putVal_11
def dkwJ5_putVal_9 : List UInt8 := [153, 0, 6, 167, 0, 13, 25, 10, 58, 7, 132, 12, 1, 167, 255, 171, 25, 10, 198, 0, 35, 25, 10]
abbrev dktJ5_putVal_9 : List UInt8 := dkwJ5_putVal_9 ++ dktJ5_putVal_10
def dkwJ5_putVal_8 : List UInt8 := [25, 10, 180, 0, 170, 89, 58, 11, 44, 165, 0, 29, 44, 198, 0, 15, 44, 25, 11, 182, 0, 173]
abbrev dktJ5_putVal_8 : List UInt8 := dkwJ5_putVal_8 ++ dktJ5_putVal_9
def dkwJ5_putVal_7 : List UInt8 := [16, 7, 161, 0, 60, 42, 25, 6, 27, 182, 0, 194, 167, 0, 50, 25, 10, 180, 0, 168, 27, 160, 0, 31]
abbrev dktJ5_putVal_7 : List UInt8 := dkwJ5_putVal_7 ++ dktJ5_putVal_8
def dkwJ5_putVal_6 : List UInt8 := [180, 0, 177, 89, 58, 10, 199, 0, 33, 25, 7, 42, 27, 44, 45, 1, 182, 0, 186, 181, 0, 177, 21, 12]
abbrev dktJ5_putVal_6 : List UInt8 := dkwJ5_putVal_6 ++ dktJ5_putVal_7
def dkwJ5_putVal_5 : List UInt8 := [192, 0, 180, 42, 25, 6, 27, 44, 45, 182, 0, 190, 58, 10, 167, 0, 94, 3, 54, 12, 25, 7]
abbrev dktJ5_putVal_5 : List UInt8 := dkwJ5_putVal_5 ++ dktJ5_putVal_6
def dkwJ5_putVal_4 : List UInt8 := [182, 0, 173, 153, 0, 10, 25, 7, 58, 10, 167, 0, 121, 25, 7, 193, 0, 180, 153, 0, 22, 25, 7]
abbrev dktJ5_putVal_4 : List UInt8 := dkwJ5_putVal_4 ++ dktJ5_putVal_5
def dkwJ5_putVal_3 : List UInt8 := [160, 0, 35, 25, 7, 180, 0, 170, 89, 58, 11, 44, 165, 0, 16, 44, 198, 0, 19, 44, 25, 11]
abbrev dktJ5_putVal_3 : List UInt8 := dkwJ5_putVal_3 ++ dktJ5_putVal_4
def dkwJ5_putVal_2 : List UInt8 := [25, 6, 21, 9, 42, 27, 44, 45, 1, 182, 0, 186, 83, 167, 0, 199, 25, 7, 180, 0, 168, 27]
abbrev dktJ5_putVal_2 : List UInt8 := dkwJ5_putVal_2 ++ dktJ5_putVal_3
def dkwJ5_putVal_1 : List UInt8 := [58, 6, 190, 54, 8, 25, 6, 21, 8, 4, 100, 27, 126, 89, 54, 9, 50, 89, 58, 7, 199, 0, 19]
abbrev dktJ5_putVal_1 : List UInt8 := dkwJ5_putVal_1 ++ dktJ5_putVal_2
def dkwJ5_putVal_0 : List UInt8 := [42, 180, 0, 105, 89, 58, 6, 198, 0, 12, 25, 6, 190, 89, 54, 8, 154, 0, 13, 42, 182, 0, 117, 89]
abbrev dktJ5_putVal_0 : List UInt8 := dkwJ5_putVal_0 ++ dktJ5_putVal_1
theorem dksJ5_putVal_0 : cJ5_putVal.data.toList.drop 0 = dktJ5_putVal_0 := by decide +kernel
theorem dksJ5_putVal_1 : cJ5_putVal.data.toList.drop 24 = dktJ5_putVal_1 := dk_seg dksJ5_putVal_0 24 rfl rfl
theorem dksJ5_putVal_2 : cJ5_putVal.data.toList.drop 47 = dktJ5_putVal_2 := dk_seg dksJ5_putVal_1 23 rfl rfl
theorem dksJ5_putVal_3 : cJ5_putVal.data.toList.drop 69 = dktJ5_putVal_3 := dk_seg dksJ5_putVal_2 22 rfl rfl
theorem dksJ5_putVal_4 : cJ5_putVal.data.toList.drop 91 = dktJ5_putVal_4 := dk_seg dksJ5_putVal_3 22 rfl rfl
theorem dksJ5_putVal_5 : cJ5_putVal.data.toList.drop 114 = dktJ5_putVal_5 := dk_seg dksJ5_putVal_4 23 rfl rfl
theorem dksJ5_putVal_6 : cJ5_putVal.data.toList.drop 136 = dktJ5_putVal_6 := dk_seg dksJ5_putVal_5 22 rfl rfl
theorem dksJ5_putVal_7 : cJ5_putVal.data.toList.drop 160 = dktJ5_putVal_7 := dk_seg dksJ5_putVal_6 24 rfl rfl
theorem dksJ5_putVal_8 : cJ5_putVal.data.toList.drop 184 = dktJ5_putVal_8 := dk_seg dksJ5_putVal_7 24 rfl rfl
theorem dksJ5_putVal_9 : cJ5_putVal.data.toList.drop 206 = dktJ5_putVal_9 := dk_seg dksJ5_putVal_8 22 rfl rfl
theorem dksJ5_putVal_10 : cJ5_putVal.data.toList.drop 229 = dktJ5_putVal_10 := dk_seg dksJ5_putVal_9 23 rfl rfl
theorem dksJ5_putVal_11 : cJ5_putVal.data.toList.drop 253 = dktJ5_putVal_11 := dk_seg dksJ5_putVal_10 24 rfl rfl
theorem dksJ5_putVal_12 : cJ5_putVal.data.toList.drop 277 = dktJ5_putVal_12 := dk_seg dksJ5_putVal_11 24 rfl rfl
theorem dJ5_putVal_0 : decode cJ5_putVal 0 = .ok (.aload_n 0, 1) := dk_42 (dk_at dksJ5_putVal_0 0 rfl rfl)
theorem dJ5_putVal_1 : decode cJ5_putVal 1 = .ok (.getfield 105, 3) := dk_180 0 105 (dk_at dksJ5_putVal_0 1 rfl rfl)
theorem dJ5_putVal_4 : decode cJ5_putVal 4 = .ok (.dup, 1) := dk_89 (dk_at dksJ5_putVal_0 4 rfl rfl)
theorem dJ5_putVal_5 : decode cJ5_putVal 5 = .ok (.astore 6, 2) := dk_58 6 (dk_at dksJ5_putVal_0 5 rfl rfl)
theorem dJ5_putVal_7 : decode cJ5_putVal 7 = .ok (.ifnull 12, 3) := dk_198 0 12 (dk_at dksJ5_putVal_0 7 rfl rfl)
theorem dJ5_putVal_10 : decode cJ5_putVal 10 = .ok (.aload 6, 2) := dk_25 6 (dk_at dksJ5_putVal_0 10 rfl rfl)
theorem dJ5_putVal_12 : decode cJ5_putVal 12 = .ok (.arraylength, 1) := dk_190 (dk_at dksJ5_putVal_0 12 rfl rfl)
theorem dJ5_putVal_13 : decode cJ5_putVal 13 = .ok (.dup, 1) := dk_89 (dk_at dksJ5_putVal_0 13 rfl rfl)
theorem dJ5_putVal_14 : decode cJ5_putVal 14 = .ok (.istore 8, 2) := dk_54 8 (dk_at dksJ5_putVal_0 14 rfl rfl)
theorem dJ5_putVal_16 : decode cJ5_putVal 16 = .ok (.ifCond .ne 13, 3) := dk_154 0 13 (dk_at dksJ5_putVal_0 16 rfl rfl)
theorem dJ5_putVal_19 : decode cJ5_putVal 19 = .ok (.aload_n 0, 1) := dk_42 (dk_at dksJ5_putVal_0 19 rfl rfl)
theorem dJ5_putVal_20 : decode cJ5_putVal 20 = .ok (.invokevirtual 117, 3) := dk_182 0 117 (dk_at dksJ5_putVal_0 20 rfl rfl)
theorem dJ5_putVal_23 : decode cJ5_putVal 23 = .ok (.dup, 1) := dk_89 (dk_at dksJ5_putVal_0 23 rfl rfl)
theorem dJ5_putVal_24 : decode cJ5_putVal 24 = .ok (.astore 6, 2) := dk_58 6 (dk_at dksJ5_putVal_1 0 rfl rfl)
theorem dJ5_putVal_26 : decode cJ5_putVal 26 = .ok (.arraylength, 1) := dk_190 (dk_at dksJ5_putVal_1 2 rfl rfl)
theorem dJ5_putVal_27 : decode cJ5_putVal 27 = .ok (.istore 8, 2) := dk_54 8 (dk_at dksJ5_putVal_1 3 rfl rfl)
theorem dJ5_putVal_29 : decode cJ5_putVal 29 = .ok (.aload 6, 2) := dk_25 6 (dk_at dksJ5_putVal_1 5 rfl rfl)
theorem dJ5_putVal_31 : decode cJ5_putVal 31 = .ok (.iload 8, 2) := dk_21 8 (dk_at dksJ5_putVal_1 7 rfl rfl)
theorem dJ5_putVal_33 : decode cJ5_putVal 33 = .ok (.iconst 1, 1) := dk_4 (dk_at dksJ5_putVal_1 9 rfl rfl)
theorem dJ5_putVal_34 : decode cJ5_putVal 34 = .ok (.isub, 1) := dk_100 (dk_at dksJ5_putVal_1 10 rfl rfl)
theorem dJ5_putVal_35 : decode cJ5_putVal 35 = .ok (.iload_n 1, 1) := dk_27 (dk_at dksJ5_putVal_1 11 rfl rfl)
theorem dJ5_putVal_36 : decode cJ5_putVal 36 = .ok (.iand, 1) := dk_126 (dk_at dksJ5_putVal_1 12 rfl rfl)
theorem dJ5_putVal_37 : decode cJ5_putVal 37 = .ok (.dup, 1) := dk_89 (dk_at dksJ5_putVal_1 13 rfl rfl)
theorem dJ5_putVal_38 : decode cJ5_putVal 38 = .ok (.istore 9, 2) := dk_54 9 (dk_at dksJ5_putVal_1 14 rfl rfl)
theorem dJ5_putVal_40 : decode cJ5_putVal 40 = .ok (.aaload, 1) := dk_50 (dk_at dksJ5_putVal_1 16 rfl rfl)
theorem dJ5_putVal_41 : decode cJ5_putVal 41 = .ok (.dup, 1) := dk_89 (dk_at dksJ5_putVal_1 17 rfl rfl)
theorem dJ5_putVal_42 : decode cJ5_putVal 42 = .ok (.astore 7, 2) := dk_58 7 (dk_at dksJ5_putVal_1 18 rfl rfl)
theorem dJ5_putVal_44 : decode cJ5_putVal 44 = .ok (.ifnonnull 19, 3) := dk_199 0 19 (dk_at dksJ5_putVal_1 20 rfl rfl)
theorem dJ5_putVal_47 : decode cJ5_putVal 47 = .ok (.aload 6, 2) := dk_25 6 (dk_at dksJ5_putVal_2 0 rfl rfl)
theorem dJ5_putVal_49 : decode cJ5_putVal 49 = .ok (.iload 9, 2) := dk_21 9 (dk_at dksJ5_putVal_2 2 rfl rfl)
theorem dJ5_putVal_51 : decode cJ5_putVal 51 = .ok (.aload_n 0, 1) := dk_42 (dk_at dksJ5_putVal_2 4 rfl rfl)
theorem dJ5_putVal_52 : decode cJ5_putVal 52 = .ok (.iload_n 1, 1) := dk_27 (dk_at dksJ5_putVal_2 5 rfl rfl)
theorem dJ5_putVal_53 : decode cJ5_putVal 53 = .ok (.aload_n 2, 1) := dk_44 (dk_at dksJ5_putVal_2 6 rfl rfl)
theorem dJ5_putVal_54 : decode cJ5_putVal 54 = .ok (.aload_n 3, 1) := dk_45 (dk_at dksJ5_putVal_2 7 rfl rfl)
theorem dJ5_putVal_55 : decode cJ5_putVal 55 = .ok (.aconst_null, 1) := dk_1 (dk_at dksJ5_putVal_2 8 rfl rfl)
theorem dJ5_putVal_56 : decode cJ5_putVal 56 = .ok (.invokevirtual 186, 3) := dk_182 0 186 (dk_at dksJ5_putVal_2 9 rfl rfl)
theorem dJ5_putVal_59 : decode cJ5_putVal 59 = .ok (.aastore, 1) := dk_83 (dk_at dksJ5_putVal_2 12 rfl rfl)
theorem dJ5_putVal_60 : decode cJ5_putVal 60 = .ok (.goto 199, 3) := dk_167 0 199 (dk_at dksJ5_putVal_2 13 rfl rfl)
theorem dJ5_putVal_63 : decode cJ5_putVal 63 = .ok (.aload 7, 2) := dk_25 7 (dk_at dksJ5_putVal_2 16 rfl rfl)
theorem dJ5_putVal_65 : decode cJ5_putVal 65 = .ok (.getfield 168, 3) := dk_180 0 168 (dk_at dksJ5_putVal_2 18 rfl rfl)
theorem dJ5_putVal_68 : decode cJ5_putVal 68 = .ok (.iload_n 1, 1) := dk_27 (dk_at dksJ5_putVal_2 21 rfl rfl)
theorem dJ5_putVal_69 : decode cJ5_putVal 69 = .ok (.if_icmp .ne 35, 3) := dk_160 0 35 (dk_at dksJ5_putVal_3 0 rfl rfl)
theorem dJ5_putVal_72 : decode cJ5_putVal 72 = .ok (.aload 7, 2) := dk_25 7 (dk_at dksJ5_putVal_3 3 rfl rfl)
theorem dJ5_putVal_74 : decode cJ5_putVal 74 = .ok (.getfield 170, 3) := dk_180 0 170 (dk_at dksJ5_putVal_3 5 rfl rfl)
theorem dJ5_putVal_77 : decode cJ5_putVal 77 = .ok (.dup, 1) := dk_89 (dk_at dksJ5_putVal_3 8 rfl rfl)
theorem dJ5_putVal_78 : decode cJ5_putVal 78 = .ok (.astore 11, 2) := dk_58 11 (dk_at dksJ5_putVal_3 9 rfl rfl)
theorem dJ5_putVal_80 : decode cJ5_putVal 80 = .ok (.aload_n 2, 1) := dk_44 (dk_at dksJ5_putVal_3 11 rfl rfl)
theorem dJ5_putVal_81 : decode cJ5_putVal 81 = .ok (.if_acmp .eq 16, 3) := dk_165 0 16 (dk_at dksJ5_putVal_3 12 rfl rfl)
theorem dJ5_putVal_84 : decode cJ5_putVal 84 = .ok (.aload_n 2, 1) := dk_44 (dk_at dksJ5_putVal_3 15 rfl rfl)
theorem dJ5_putVal_85 : decode cJ5_putVal 85 = .ok (.ifnull 19, 3) := dk_198 0 19 (dk_at dksJ5_putVal_3 16 rfl rfl)
theorem dJ5_putVal_88 : decode cJ5_putVal 88 = .ok (.aload_n 2, 1) := dk_44 (dk_at dksJ5_putVal_3 19 rfl rfl)
theorem dJ5_putVal_89 : decode cJ5_putVal 89 = .ok (.aload 11, 2) := dk_25 11 (dk_at dksJ5_putVal_3 20 rfl rfl)
theorem dJ5_putVal_91 : decode cJ5_putVal 91 = .ok (.invokevirtual 173, 3) := dk_182 0 173 (dk_at dksJ5_putVal_4 0 rfl rfl)
theorem dJ5_putVal_94 : decode cJ5_putVal 94 = .ok (.ifCond .eq 10, 3) := dk_153 0 10 (dk_at dksJ5_putVal_4 3 rfl rfl)
theorem dJ5_putVal_97 : decode cJ5_putVal 97 = .ok (.aload 7, 2) := dk_25 7 (dk_at dksJ5_putVal_4 6 rfl rfl)
theorem dJ5_putVal_99 : decode cJ5_putVal 99 = .ok (.astore 10, 2) := dk_58 10 (dk_at dksJ5_putVal_4 8 rfl rfl)
theorem dJ5_putVal_101 : decode cJ5_putVal 101 = .ok (.goto 121, 3) := dk_167 0 121 (dk_at dksJ5_putVal_4 10 rfl rfl)
theorem dJ5_putVal_104 : decode cJ5_putVal 104 = .ok (.aload 7, 2) := dk_25 7 (dk_at dksJ5_putVal_4 13 rfl rfl)
theorem dJ5_putVal_106 : decode cJ5_putVal 106 = .ok (.instanceof 180, 3) := dk_193 0 180 (dk_at dksJ5_putVal_4 15 rfl rfl)
theorem dJ5_putVal_109 : decode cJ5_putVal 109 = .ok (.ifCond .eq 22, 3) := dk_153 0 22 (dk_at dksJ5_putVal_4 18 rfl rfl)
theorem dJ5_putVal_112 : decode cJ5_putVal 112 = .ok (.aload 7, 2) := dk_25 7 (dk_at dksJ5_putVal_4 21 rfl rfl)
theorem dJ5_putVal_114 : decode cJ5_putVal 114 = .ok (.checkcast 180, 3) := dk_192 0 180 (dk_at dksJ5_putVal_5 0 rfl rfl)
theorem dJ5_putVal_117 : decode cJ5_putVal 117 = .ok (.aload_n 0, 1) := dk_42 (dk_at dksJ5_putVal_5 3 rfl rfl)
theorem dJ5_putVal_118 : decode cJ5_putVal 118 = .ok (.aload 6, 2) := dk_25 6 (dk_at dksJ5_putVal_5 4 rfl rfl)
theorem dJ5_putVal_120 : decode cJ5_putVal 120 = .ok (.iload_n 1, 1) := dk_27 (dk_at dksJ5_putVal_5 6 rfl rfl)
theorem dJ5_putVal_121 : decode cJ5_putVal 121 = .ok (.aload_n 2, 1) := dk_44 (dk_at dksJ5_putVal_5 7 rfl rfl)
theorem dJ5_putVal_122 : decode cJ5_putVal 122 = .ok (.aload_n 3, 1) := dk_45 (dk_at dksJ5_putVal_5 8 rfl rfl)
theorem dJ5_putVal_123 : decode cJ5_putVal 123 = .ok (.invokevirtual 190, 3) := dk_182 0 190 (dk_at dksJ5_putVal_5 9 rfl rfl)
theorem dJ5_putVal_126 : decode cJ5_putVal 126 = .ok (.astore 10, 2) := dk_58 10 (dk_at dksJ5_putVal_5 12 rfl rfl)
theorem dJ5_putVal_128 : decode cJ5_putVal 128 = .ok (.goto 94, 3) := dk_167 0 94 (dk_at dksJ5_putVal_5 14 rfl rfl)
theorem dJ5_putVal_131 : decode cJ5_putVal 131 = .ok (.iconst 0, 1) := dk_3 (dk_at dksJ5_putVal_5 17 rfl rfl)
theorem dJ5_putVal_132 : decode cJ5_putVal 132 = .ok (.istore 12, 2) := dk_54 12 (dk_at dksJ5_putVal_5 18 rfl rfl)
theorem dJ5_putVal_134 : decode cJ5_putVal 134 = .ok (.aload 7, 2) := dk_25 7 (dk_at dksJ5_putVal_5 20 rfl rfl)
theorem dJ5_putVal_136 : decode cJ5_putVal 136 = .ok (.getfield 177, 3) := dk_180 0 177 (dk_at dksJ5_putVal_6 0 rfl rfl)
theorem dJ5_putVal_139 : decode cJ5_putVal 139 = .ok (.dup, 1) := dk_89 (dk_at dksJ5_putVal_6 3 rfl rfl)
theorem dJ5_putVal_140 : decode cJ5_putVal 140 = .ok (.astore 10, 2) := dk_58 10 (dk_at dksJ5_putVal_6 4 rfl rfl)
theorem dJ5_putVal_142 : decode cJ5_putVal 142 = .ok (.ifnonnull 33, 3) := dk_199 0 33 (dk_at dksJ5_putVal_6 6 rfl rfl)
theorem dJ5_putVal_145 : decode cJ5_putVal 145 = .ok (.aload 7, 2) := dk_25 7 (dk_at dksJ5_putVal_6 9 rfl rfl)
theorem dJ5_putVal_147 : decode cJ5_putVal 147 = .ok (.aload_n 0, 1) := dk_42 (dk_at dksJ5_putVal_6 11 rfl rfl)
theorem dJ5_putVal_148 : decode cJ5_putVal 148 = .ok (.iload_n 1, 1) := dk_27 (dk_at dksJ5_putVal_6 12 rfl rfl)
theorem dJ5_putVal_149 : decode cJ5_putVal 149 = .ok (.aload_n 2, 1) := dk_44 (dk_at dksJ5_putVal_6 13 rfl rfl)
theorem dJ5_putVal_150 : decode cJ5_putVal 150 = .ok (.aload_n 3, 1) := dk_45 (dk_at dksJ5_putVal_6 14 rfl rfl)
theorem dJ5_putVal_151 : decode cJ5_putVal 151 = .ok (.aconst_null, 1) := dk_1 (dk_at dksJ5_putVal_6 15 rfl rfl)
theorem dJ5_putVal_152 : decode cJ5_putVal 152 = .ok (.invokevirtual 186, 3) := dk_182 0 186 (dk_at dksJ5_putVal_6 16 rfl rfl)
theorem dJ5_putVal_155 : decode cJ5_putVal 155 = .ok (.putfield 177, 3) := dk_181 0 177 (dk_at dksJ5_putVal_6 19 rfl rfl)
theorem dJ5_putVal_158 : decode cJ5_putVal 158 = .ok (.iload 12, 2) := dk_21 12 (dk_at dksJ5_putVal_6 22 rfl rfl)
theorem dJ5_putVal_160 : decode cJ5_putVal 160 = .ok (.bipush 7, 2) := dk_16 7 (dk_at dksJ5_putVal_7 0 rfl rfl)
theorem dJ5_putVal_162 : decode cJ5_putVal 162 = .ok (.if_icmp .lt 60, 3) := dk_161 0 60 (dk_at dksJ5_putVal_7 2 rfl rfl)
theorem dJ5_putVal_165 : decode cJ5_putVal 165 = .ok (.aload_n 0, 1) := dk_42 (dk_at dksJ5_putVal_7 5 rfl rfl)
theorem dJ5_putVal_166 : decode cJ5_putVal 166 = .ok (.aload 6, 2) := dk_25 6 (dk_at dksJ5_putVal_7 6 rfl rfl)
theorem dJ5_putVal_168 : decode cJ5_putVal 168 = .ok (.iload_n 1, 1) := dk_27 (dk_at dksJ5_putVal_7 8 rfl rfl)
theorem dJ5_putVal_169 : decode cJ5_putVal 169 = .ok (.invokevirtual 194, 3) := dk_182 0 194 (dk_at dksJ5_putVal_7 9 rfl rfl)
theorem dJ5_putVal_172 : decode cJ5_putVal 172 = .ok (.goto 50, 3) := dk_167 0 50 (dk_at dksJ5_putVal_7 12 rfl rfl)
theorem dJ5_putVal_175 : decode cJ5_putVal 175 = .ok (.aload 10, 2) := dk_25 10 (dk_at dksJ5_putVal_7 15 rfl rfl)
theorem dJ5_putVal_177 : decode cJ5_putVal 177 = .ok (.getfield 168, 3) := dk_180 0 168 (dk_at dksJ5_putVal_7 17 rfl rfl)
theorem dJ5_putVal_180 : decode cJ5_putVal 180 = .ok (.iload_n 1, 1) := dk_27 (dk_at dksJ5_putVal_7 20 rfl rfl)
theorem dJ5_putVal_181 : decode cJ5_putVal 181 = .ok (.if_icmp .ne 31, 3) := dk_160 0 31 (dk_at dksJ5_putVal_7 21 rfl rfl)
theorem dJ5_putVal_184 : decode cJ5_putVal 184 = .ok (.aload 10, 2) := dk_25 10 (dk_at dksJ5_putVal_8 0 rfl rfl)
theorem dJ5_putVal_186 : decode cJ5_putVal 186 = .ok (.getfield 170, 3) := dk_180 0 170 (dk_at dksJ5_putVal_8 2 rfl rfl)
theorem dJ5_putVal_189 : decode cJ5_putVal 189 = .ok (.dup, 1) := dk_89 (dk_at dksJ5_putVal_8 5 rfl rfl)
theorem dJ5_putVal_190 : decode cJ5_putVal 190 = .ok (.astore 11, 2) := dk_58 11 (dk_at dksJ5_putVal_8 6 rfl rfl)
theorem dJ5_putVal_192 : decode cJ5_putVal 192 = .ok (.aload_n 2, 1) := dk_44 (dk_at dksJ5_putVal_8 8 rfl rfl)
theorem dJ5_putVal_193 : decode cJ5_putVal 193 = .ok (.if_acmp .eq 29, 3) := dk_165 0 29 (dk_at dksJ5_putVal_8 9 rfl rfl)
theorem dJ5_putVal_196 : decode cJ5_putVal 196 = .ok (.aload_n 2, 1) := dk_44 (dk_at dksJ5_putVal_8 12 rfl rfl)
theorem dJ5_putVal_197 : decode cJ5_putVal 197 = .ok (.ifnull 15, 3) := dk_198 0 15 (dk_at dksJ5_putVal_8 13 rfl rfl)
theorem dJ5_putVal_200 : decode cJ5_putVal 200 = .ok (.aload_n 2, 1) := dk_44 (dk_at dksJ5_putVal_8 16 rfl rfl)
theorem dJ5_putVal_201 : decode cJ5_putVal 201 = .ok (.aload 11, 2) := dk_25 11 (dk_at dksJ5_putVal_8 17 rfl rfl)
theorem dJ5_putVal_203 : decode cJ5_putVal 203 = .ok (.invokevirtual 173, 3) := dk_182 0 173 (dk_at dksJ5_putVal_8 19 rfl rfl)
theorem dJ5_putVal_206 : decode cJ5_putVal 206 = .ok (.ifCond .eq 6, 3) := dk_153 0 6 (dk_at dksJ5_putVal_9 0 rfl rfl)
theorem dJ5_putVal_209 : decode cJ5_putVal 209 = .ok (.goto 13, 3) := dk_167 0 13 (dk_at dksJ5_putVal_9 3 rfl rfl)
theorem dJ5_putVal_212 : decode cJ5_putVal 212 = .ok (.aload 10, 2) := dk_25 10 (dk_at dksJ5_putVal_9 6 rfl rfl)
theorem dJ5_putVal_214 : decode cJ5_putVal 214 = .ok (.astore 7, 2) := dk_58 7 (dk_at dksJ5_putVal_9 8 rfl rfl)
theorem dJ5_putVal_216 : decode cJ5_putVal 216 = .ok (.iinc 12 1, 3) := dk_132 12 1 (dk_at dksJ5_putVal_9 10 rfl rfl)
theorem dJ5_putVal_219 : decode cJ5_putVal 219 = .ok (.goto (-85), 3) := dk_167 255 171 (dk_at dksJ5_putVal_9 13 rfl rfl)
theorem dJ5_putVal_222 : decode cJ5_putVal 222 = .ok (.aload 10, 2) := dk_25 10 (dk_at dksJ5_putVal_9 16 rfl rfl)
theorem dJ5_putVal_224 : decode cJ5_putVal 224 = .ok (.ifnull 35, 3) := dk_198 0 35 (dk_at dksJ5_putVal_9 18 rfl rfl)
theorem dJ5_putVal_227 : decode cJ5_putVal 227 = .ok (.aload 10, 2) := dk_25 10 (dk_at dksJ5_putVal_9 21 rfl rfl)
theorem dJ5_putVal_229 : decode cJ5_putVal 229 = .ok (.getfield 162, 3) := dk_180 0 162 (dk_at dksJ5_putVal_10 0 rfl rfl)
theorem dJ5_putVal_232 : decode cJ5_putVal 232 = .ok (.astore 12, 2) := dk_58 12 (dk_at dksJ5_putVal_10 3 rfl rfl)
theorem dJ5_putVal_234 : decode cJ5_putVal 234 = .ok (.iload 4, 2) := dk_21 4 (dk_at dksJ5_putVal_10 5 rfl rfl)
theorem dJ5_putVal_236 : decode cJ5_putVal 236 = .ok (.ifCond .eq 8, 3) := dk_153 0 8 (dk_at dksJ5_putVal_10 7 rfl rfl)
theorem dJ5_putVal_239 : decode cJ5_putVal 239 = .ok (.aload 12, 2) := dk_25 12 (dk_at dksJ5_putVal_10 10 rfl rfl)
theorem dJ5_putVal_241 : decode cJ5_putVal 241 = .ok (.ifnonnull 9, 3) := dk_199 0 9 (dk_at dksJ5_putVal_10 12 rfl rfl)
theorem dJ5_putVal_244 : decode cJ5_putVal 244 = .ok (.aload 10, 2) := dk_25 10 (dk_at dksJ5_putVal_10 15 rfl rfl)
theorem dJ5_putVal_246 : decode cJ5_putVal 246 = .ok (.aload_n 3, 1) := dk_45 (dk_at dksJ5_putVal_10 17 rfl rfl)
theorem dJ5_putVal_247 : decode cJ5_putVal 247 = .ok (.putfield 162, 3) := dk_181 0 162 (dk_at dksJ5_putVal_10 18 rfl rfl)
theorem dJ5_putVal_250 : decode cJ5_putVal 250 = .ok (.aload_n 0, 1) := dk_42 (dk_at dksJ5_putVal_10 21 rfl rfl)
theorem dJ5_putVal_251 : decode cJ5_putVal 251 = .ok (.aload 10, 2) := dk_25 10 (dk_at dksJ5_putVal_10 22 rfl rfl)
theorem dJ5_putVal_253 : decode cJ5_putVal 253 = .ok (.invokevirtual 198, 3) := dk_182 0 198 (dk_at dksJ5_putVal_11 0 rfl rfl)
theorem dJ5_putVal_256 : decode cJ5_putVal 256 = .ok (.aload 12, 2) := dk_25 12 (dk_at dksJ5_putVal_11 3 rfl rfl)
theorem dJ5_putVal_258 : decode cJ5_putVal 258 = .ok (.areturn, 1) := dk_176 (dk_at dksJ5_putVal_11 5 rfl rfl)
theorem dJ5_putVal_259 : decode cJ5_putVal 259 = .ok (.aload_n 0, 1) := dk_42 (dk_at dksJ5_putVal_11 6 rfl rfl)
theorem dJ5_putVal_260 : decode cJ5_putVal 260 = .ok (.dup, 1) := dk_89 (dk_at dksJ5_putVal_11 7 rfl rfl)
theorem dJ5_putVal_261 : decode cJ5_putVal 261 = .ok (.getfield 202, 3) := dk_180 0 202 (dk_at dksJ5_putVal_11 8 rfl rfl)
theorem dJ5_putVal_264 : decode cJ5_putVal 264 = .ok (.iconst 1, 1) := dk_4 (dk_at dksJ5_putVal_11 11 rfl rfl)
theorem dJ5_putVal_265 : decode cJ5_putVal 265 = .ok (.iadd, 1) := dk_96 (dk_at dksJ5_putVal_11 12 rfl rfl)
theorem dJ5_putVal_266 : decode cJ5_putVal 266 = .ok (.putfield 202, 3) := dk_181 0 202 (dk_at dksJ5_putVal_11 13 rfl rfl)
theorem dJ5_putVal_269 : decode cJ5_putVal 269 = .ok (.aload_n 0, 1) := dk_42 (dk_at dksJ5_putVal_11 16 rfl rfl)
theorem dJ5_putVal_270 : decode cJ5_putVal 270 = .ok (.dup, 1) := dk_89 (dk_at dksJ5_putVal_11 17 rfl rfl)
theorem dJ5_putVal_271 : decode cJ5_putVal 271 = .ok (.getfield 156, 3) := dk_180 0 156 (dk_at dksJ5_putVal_11 18 rfl rfl)
theorem dJ5_putVal_274 : decode cJ5_putVal 274 = .ok (.iconst 1, 1) := dk_4 (dk_at dksJ5_putVal_11 21 rfl rfl)
theorem dJ5_putVal_275 : decode cJ5_putVal 275 = .ok (.iadd, 1) := dk_96 (dk_at dksJ5_putVal_11 22 rfl rfl)
theorem dJ5_putVal_276 : decode cJ5_putVal 276 = .ok (.dup_x1, 1) := dk_90 (dk_at dksJ5_putVal_11 23 rfl rfl)
theorem dJ5_putVal_277 : decode cJ5_putVal 277 = .ok (.putfield 156, 3) := dk_181 0 156 (dk_at dksJ5_putVal_12 0 rfl rfl)
theorem dJ5_putVal_280 : decode cJ5_putVal 280 = .ok (.aload_n 0, 1) := dk_42 (dk_at dksJ5_putVal_12 3 rfl rfl)
theorem dJ5_putVal_281 : decode cJ5_putVal 281 = .ok (.getfield 88, 3) := dk_180 0 88 (dk_at dksJ5_putVal_12 4 rfl rfl)
theorem dJ5_putVal_284 : decode cJ5_putVal 284 = .ok (.if_icmp .le 8, 3) := dk_164 0 8 (dk_at dksJ5_putVal_12 7 rfl rfl)
theorem dJ5_putVal_287 : decode cJ5_putVal 287 = .ok (.aload_n 0, 1) := dk_42 (dk_at dksJ5_putVal_12 10 rfl rfl)
theorem dJ5_putVal_288 : decode cJ5_putVal 288 = .ok (.invokevirtual 117, 3) := dk_182 0 117 (dk_at dksJ5_putVal_12 11 rfl rfl)
theorem dJ5_putVal_291 : decode cJ5_putVal 291 = .ok (.pop, 1) := dk_87 (dk_at dksJ5_putVal_12 14 rfl rfl)
theorem dJ5_putVal_292 : decode cJ5_putVal 292 = .ok (.aload_n 0, 1) := dk_42 (dk_at dksJ5_putVal_12 15 rfl rfl)
theorem dJ5_putVal_293 : decode cJ5_putVal 293 = .ok (.iload 5, 2) := dk_21 5 (dk_at dksJ5_putVal_12 16 rfl rfl)
theorem dJ5_putVal_295 : decode cJ5_putVal 295 = .ok (.invokevirtual 205, 3) := dk_182 0 205 (dk_at dksJ5_putVal_12 18 rfl rfl)
theorem dJ5_putVal_298 : decode cJ5_putVal 298 = .ok (.aconst_null, 1) := dk_1 (dk_at dksJ5_putVal_12 21 rfl rfl)
theorem dJ5_putVal_299 : decode cJ5_putVal 299 = .ok (.areturn, 1) := dk_176 (dk_at dksJ5_putVal_12 22 rfl rfl)
abbrev cJ5_resize : ByteArray := prog_47_method_17_code
def yJ5_resize : MethodName := ⟨RJ5, "resize", "()[Ljava/util/HashMap$Node;"⟩
def dkwJ5_resize_15 : List UInt8 := [25, 6, 176]
abbrev dktJ5_resize_15 : List UInt8 := dkwJ5_resize_15 ++ []
def dkwJ5_resize_14 : List UInt8 := [198, 0, 18, 25, 12, 1, 181, 0, 177, 25, 6, 21, 7, 28, 96, 25, 11, 83, 132, 7, 1, 167, 255, 57]
abbrev dktJ5_resize_14 : List UInt8 := dkwJ5_resize_14 ++ dktJ5_resize_15
def dkwJ5_resize_13 : List UInt8 := [199, 255, 185, 25, 10, 198, 0, 16, 25, 10, 1, 181, 0, 177, 25, 6, 21, 7, 25, 9, 83, 25, 12]
abbrev dktJ5_resize_13 : List UInt8 := dkwJ5_resize_13 ++ dktJ5_resize_14
def dkwJ5_resize_12 : List UInt8 := [25, 8, 58, 11, 167, 0, 10, 25, 12, 25, 8, 181, 0, 177, 25, 8, 58, 12, 25, 13, 89, 58, 8]
abbrev dktJ5_resize_12 : List UInt8 := dkwJ5_resize_12 ++ dktJ5_resize_13
def dkwJ5_resize_11 : List UInt8 := [58, 9, 167, 0, 10, 25, 10, 25, 8, 181, 0, 177, 25, 8, 58, 10, 167, 0, 26, 25, 12, 199, 0, 10]
abbrev dktJ5_resize_11 : List UInt8 := dkwJ5_resize_11 ++ dktJ5_resize_12
def dkwJ5_resize_10 : List UInt8 := [25, 8, 180, 0, 177, 58, 13, 25, 8, 180, 0, 168, 28, 126, 154, 0, 29, 25, 10, 199, 0, 10, 25, 8]
abbrev dktJ5_resize_10 : List UInt8 := dkwJ5_resize_10 ++ dktJ5_resize_11
def dkwJ5_resize_9 : List UInt8 := [42, 25, 6, 21, 7, 28, 182, 0, 211, 167, 0, 127, 1, 58, 9, 1, 58, 10, 1, 58, 11, 1, 58, 12]
abbrev dktJ5_resize_9 : List UInt8 := dkwJ5_resize_9 ++ dktJ5_resize_10
def dkwJ5_resize_8 : List UInt8 := [21, 4, 4, 100, 126, 25, 8, 83, 167, 0, 152, 25, 8, 193, 0, 180, 153, 0, 20, 25, 8, 192, 0, 180]
abbrev dktJ5_resize_8 : List UInt8 := dkwJ5_resize_8 ++ dktJ5_resize_9
def dkwJ5_resize_7 : List UInt8 := [198, 0, 183, 43, 21, 7, 1, 83, 25, 8, 180, 0, 177, 199, 0, 21, 25, 6, 25, 8, 180, 0, 168]
abbrev dktJ5_resize_7 : List UInt8 := dkwJ5_resize_7 ++ dktJ5_resize_8
def dkwJ5_resize_6 : List UInt8 := [181, 0, 105, 43, 198, 0, 208, 3, 54, 7, 21, 7, 28, 162, 0, 199, 43, 21, 7, 50, 89, 58, 8]
abbrev dktJ5_resize_6 : List UInt8 := dkwJ5_resize_6 ++ dktJ5_resize_7
def dkwJ5_resize_5 : List UInt8 := [167, 0, 5, 18, 209, 54, 5, 42, 21, 5, 181, 0, 88, 21, 4, 189, 0, 163, 58, 6, 42, 25, 6]
abbrev dktJ5_resize_5 : List UInt8 := dkwJ5_resize_5 ++ dktJ5_resize_6
def dkwJ5_resize_4 : List UInt8 := [180, 0, 81, 106, 56, 6, 21, 4, 18, 42, 162, 0, 17, 23, 6, 18, 210, 150, 156, 0, 9, 23, 6, 139]
abbrev dktJ5_resize_4 : List UInt8 := dkwJ5_resize_4 ++ dktJ5_resize_5
def dkwJ5_resize_3 : List UInt8 := [54, 4, 167, 0, 11, 16, 16, 54, 4, 16, 12, 54, 5, 21, 5, 154, 0, 38, 21, 4, 134, 42]
abbrev dktJ5_resize_3 : List UInt8 := dkwJ5_resize_3 ++ dktJ5_resize_4
def dkwJ5_resize_2 : List UInt8 := [18, 42, 162, 0, 35, 28, 16, 16, 161, 0, 29, 29, 4, 120, 54, 5, 167, 0, 21, 29, 158, 0, 9, 29]
abbrev dktJ5_resize_2 : List UInt8 := dkwJ5_resize_2 ++ dktJ5_resize_3
def dkwJ5_resize_1 : List UInt8 := [28, 158, 0, 42, 28, 18, 42, 161, 0, 11, 42, 18, 209, 181, 0, 88, 43, 176, 28, 4, 120, 89, 54, 4]
abbrev dktJ5_resize_1 : List UInt8 := dkwJ5_resize_1 ++ dktJ5_resize_2
def dkwJ5_resize_0 : List UInt8 := [42, 180, 0, 105, 76, 43, 199, 0, 7, 3, 167, 0, 5, 43, 190, 61, 42, 180, 0, 88, 62, 3, 54, 5]
abbrev dktJ5_resize_0 : List UInt8 := dkwJ5_resize_0 ++ dktJ5_resize_1
theorem dksJ5_resize_0 : cJ5_resize.data.toList.drop 0 = dktJ5_resize_0 := by decide +kernel
theorem dksJ5_resize_1 : cJ5_resize.data.toList.drop 24 = dktJ5_resize_1 := dk_seg dksJ5_resize_0 24 rfl rfl
theorem dksJ5_resize_2 : cJ5_resize.data.toList.drop 48 = dktJ5_resize_2 := dk_seg dksJ5_resize_1 24 rfl rfl
theorem dksJ5_resize_3 : cJ5_resize.data.toList.drop 72 = dktJ5_resize_3 := dk_seg dksJ5_resize_2 24 rfl rfl
theorem dksJ5_resize_4 : cJ5_resize.data.toList.drop 94 = dktJ5_resize_4 := dk_seg dksJ5_resize_3 22 rfl rfl
theorem dksJ5_resize_5 : cJ5_resize.data.toList.drop 118 = dktJ5_resize_5 := dk_seg dksJ5_resize_4 24 rfl rfl
theorem dksJ5_resize_6 : cJ5_resize.data.toList.drop 141 = dktJ5_resize_6 := dk_seg dksJ5_resize_5 23 rfl rfl
theorem dksJ5_resize_7 : cJ5_resize.data.toList.drop 164 = dktJ5_resize_7 := dk_seg dksJ5_resize_6 23 rfl rfl
theorem dksJ5_resize_8 : cJ5_resize.data.toList.drop 187 = dktJ5_resize_8 := dk_seg dksJ5_resize_7 23 rfl rfl
theorem dksJ5_resize_9 : cJ5_resize.data.toList.drop 211 = dktJ5_resize_9 := dk_seg dksJ5_resize_8 24 rfl rfl
theorem dksJ5_resize_10 : cJ5_resize.data.toList.drop 235 = dktJ5_resize_10 := dk_seg dksJ5_resize_9 24 rfl rfl
theorem dksJ5_resize_11 : cJ5_resize.data.toList.drop 259 = dktJ5_resize_11 := dk_seg dksJ5_resize_10 24 rfl rfl
theorem dksJ5_resize_12 : cJ5_resize.data.toList.drop 283 = dktJ5_resize_12 := dk_seg dksJ5_resize_11 24 rfl rfl
theorem dksJ5_resize_13 : cJ5_resize.data.toList.drop 306 = dktJ5_resize_13 := dk_seg dksJ5_resize_12 23 rfl rfl
theorem dksJ5_resize_14 : cJ5_resize.data.toList.drop 329 = dktJ5_resize_14 := dk_seg dksJ5_resize_13 23 rfl rfl
theorem dksJ5_resize_15 : cJ5_resize.data.toList.drop 353 = dktJ5_resize_15 := dk_seg dksJ5_resize_14 24 rfl rfl
theorem dJ5_resize_0 : decode cJ5_resize 0 = .ok (.aload_n 0, 1) := dk_42 (dk_at dksJ5_resize_0 0 rfl rfl)
theorem dJ5_resize_1 : decode cJ5_resize 1 = .ok (.getfield 105, 3) := dk_180 0 105 (dk_at dksJ5_resize_0 1 rfl rfl)
theorem dJ5_resize_4 : decode cJ5_resize 4 = .ok (.astore_n 1, 1) := dk_76 (dk_at dksJ5_resize_0 4 rfl rfl)
theorem dJ5_resize_5 : decode cJ5_resize 5 = .ok (.aload_n 1, 1) := dk_43 (dk_at dksJ5_resize_0 5 rfl rfl)
theorem dJ5_resize_6 : decode cJ5_resize 6 = .ok (.ifnonnull 7, 3) := dk_199 0 7 (dk_at dksJ5_resize_0 6 rfl rfl)
theorem dJ5_resize_9 : decode cJ5_resize 9 = .ok (.iconst 0, 1) := dk_3 (dk_at dksJ5_resize_0 9 rfl rfl)
theorem dJ5_resize_10 : decode cJ5_resize 10 = .ok (.goto 5, 3) := dk_167 0 5 (dk_at dksJ5_resize_0 10 rfl rfl)
theorem dJ5_resize_13 : decode cJ5_resize 13 = .ok (.aload_n 1, 1) := dk_43 (dk_at dksJ5_resize_0 13 rfl rfl)
theorem dJ5_resize_14 : decode cJ5_resize 14 = .ok (.arraylength, 1) := dk_190 (dk_at dksJ5_resize_0 14 rfl rfl)
theorem dJ5_resize_15 : decode cJ5_resize 15 = .ok (.istore_n 2, 1) := dk_61 (dk_at dksJ5_resize_0 15 rfl rfl)
theorem dJ5_resize_16 : decode cJ5_resize 16 = .ok (.aload_n 0, 1) := dk_42 (dk_at dksJ5_resize_0 16 rfl rfl)
theorem dJ5_resize_17 : decode cJ5_resize 17 = .ok (.getfield 88, 3) := dk_180 0 88 (dk_at dksJ5_resize_0 17 rfl rfl)
theorem dJ5_resize_20 : decode cJ5_resize 20 = .ok (.istore_n 3, 1) := dk_62 (dk_at dksJ5_resize_0 20 rfl rfl)
theorem dJ5_resize_21 : decode cJ5_resize 21 = .ok (.iconst 0, 1) := dk_3 (dk_at dksJ5_resize_0 21 rfl rfl)
theorem dJ5_resize_22 : decode cJ5_resize 22 = .ok (.istore 5, 2) := dk_54 5 (dk_at dksJ5_resize_0 22 rfl rfl)
theorem dJ5_resize_24 : decode cJ5_resize 24 = .ok (.iload_n 2, 1) := dk_28 (dk_at dksJ5_resize_1 0 rfl rfl)
theorem dJ5_resize_25 : decode cJ5_resize 25 = .ok (.ifCond .le 42, 3) := dk_158 0 42 (dk_at dksJ5_resize_1 1 rfl rfl)
theorem dJ5_resize_28 : decode cJ5_resize 28 = .ok (.iload_n 2, 1) := dk_28 (dk_at dksJ5_resize_1 4 rfl rfl)
theorem dJ5_resize_29 : decode cJ5_resize 29 = .ok (.ldc 42, 2) := dk_18 42 (dk_at dksJ5_resize_1 5 rfl rfl)
theorem dJ5_resize_31 : decode cJ5_resize 31 = .ok (.if_icmp .lt 11, 3) := dk_161 0 11 (dk_at dksJ5_resize_1 7 rfl rfl)
theorem dJ5_resize_34 : decode cJ5_resize 34 = .ok (.aload_n 0, 1) := dk_42 (dk_at dksJ5_resize_1 10 rfl rfl)
theorem dJ5_resize_35 : decode cJ5_resize 35 = .ok (.ldc 209, 2) := dk_18 209 (dk_at dksJ5_resize_1 11 rfl rfl)
theorem dJ5_resize_37 : decode cJ5_resize 37 = .ok (.putfield 88, 3) := dk_181 0 88 (dk_at dksJ5_resize_1 13 rfl rfl)
theorem dJ5_resize_40 : decode cJ5_resize 40 = .ok (.aload_n 1, 1) := dk_43 (dk_at dksJ5_resize_1 16 rfl rfl)
theorem dJ5_resize_41 : decode cJ5_resize 41 = .ok (.areturn, 1) := dk_176 (dk_at dksJ5_resize_1 17 rfl rfl)
theorem dJ5_resize_42 : decode cJ5_resize 42 = .ok (.iload_n 2, 1) := dk_28 (dk_at dksJ5_resize_1 18 rfl rfl)
theorem dJ5_resize_43 : decode cJ5_resize 43 = .ok (.iconst 1, 1) := dk_4 (dk_at dksJ5_resize_1 19 rfl rfl)
theorem dJ5_resize_44 : decode cJ5_resize 44 = .ok (.ishl, 1) := dk_120 (dk_at dksJ5_resize_1 20 rfl rfl)
theorem dJ5_resize_45 : decode cJ5_resize 45 = .ok (.dup, 1) := dk_89 (dk_at dksJ5_resize_1 21 rfl rfl)
theorem dJ5_resize_46 : decode cJ5_resize 46 = .ok (.istore 4, 2) := dk_54 4 (dk_at dksJ5_resize_1 22 rfl rfl)
theorem dJ5_resize_48 : decode cJ5_resize 48 = .ok (.ldc 42, 2) := dk_18 42 (dk_at dksJ5_resize_2 0 rfl rfl)
theorem dJ5_resize_50 : decode cJ5_resize 50 = .ok (.if_icmp .ge 35, 3) := dk_162 0 35 (dk_at dksJ5_resize_2 2 rfl rfl)
theorem dJ5_resize_53 : decode cJ5_resize 53 = .ok (.iload_n 2, 1) := dk_28 (dk_at dksJ5_resize_2 5 rfl rfl)
theorem dJ5_resize_54 : decode cJ5_resize 54 = .ok (.bipush 16, 2) := dk_16 16 (dk_at dksJ5_resize_2 6 rfl rfl)
theorem dJ5_resize_56 : decode cJ5_resize 56 = .ok (.if_icmp .lt 29, 3) := dk_161 0 29 (dk_at dksJ5_resize_2 8 rfl rfl)
theorem dJ5_resize_59 : decode cJ5_resize 59 = .ok (.iload_n 3, 1) := dk_29 (dk_at dksJ5_resize_2 11 rfl rfl)
theorem dJ5_resize_60 : decode cJ5_resize 60 = .ok (.iconst 1, 1) := dk_4 (dk_at dksJ5_resize_2 12 rfl rfl)
theorem dJ5_resize_61 : decode cJ5_resize 61 = .ok (.ishl, 1) := dk_120 (dk_at dksJ5_resize_2 13 rfl rfl)
theorem dJ5_resize_62 : decode cJ5_resize 62 = .ok (.istore 5, 2) := dk_54 5 (dk_at dksJ5_resize_2 14 rfl rfl)
theorem dJ5_resize_64 : decode cJ5_resize 64 = .ok (.goto 21, 3) := dk_167 0 21 (dk_at dksJ5_resize_2 16 rfl rfl)
theorem dJ5_resize_67 : decode cJ5_resize 67 = .ok (.iload_n 3, 1) := dk_29 (dk_at dksJ5_resize_2 19 rfl rfl)
theorem dJ5_resize_68 : decode cJ5_resize 68 = .ok (.ifCond .le 9, 3) := dk_158 0 9 (dk_at dksJ5_resize_2 20 rfl rfl)
theorem dJ5_resize_71 : decode cJ5_resize 71 = .ok (.iload_n 3, 1) := dk_29 (dk_at dksJ5_resize_2 23 rfl rfl)
theorem dJ5_resize_72 : decode cJ5_resize 72 = .ok (.istore 4, 2) := dk_54 4 (dk_at dksJ5_resize_3 0 rfl rfl)
theorem dJ5_resize_74 : decode cJ5_resize 74 = .ok (.goto 11, 3) := dk_167 0 11 (dk_at dksJ5_resize_3 2 rfl rfl)
theorem dJ5_resize_77 : decode cJ5_resize 77 = .ok (.bipush 16, 2) := dk_16 16 (dk_at dksJ5_resize_3 5 rfl rfl)
theorem dJ5_resize_79 : decode cJ5_resize 79 = .ok (.istore 4, 2) := dk_54 4 (dk_at dksJ5_resize_3 7 rfl rfl)
theorem dJ5_resize_81 : decode cJ5_resize 81 = .ok (.bipush 12, 2) := dk_16 12 (dk_at dksJ5_resize_3 9 rfl rfl)
theorem dJ5_resize_83 : decode cJ5_resize 83 = .ok (.istore 5, 2) := dk_54 5 (dk_at dksJ5_resize_3 11 rfl rfl)
theorem dJ5_resize_85 : decode cJ5_resize 85 = .ok (.iload 5, 2) := dk_21 5 (dk_at dksJ5_resize_3 13 rfl rfl)
theorem dJ5_resize_87 : decode cJ5_resize 87 = .ok (.ifCond .ne 38, 3) := dk_154 0 38 (dk_at dksJ5_resize_3 15 rfl rfl)
theorem dJ5_resize_90 : decode cJ5_resize 90 = .ok (.iload 4, 2) := dk_21 4 (dk_at dksJ5_resize_3 18 rfl rfl)
theorem dJ5_resize_92 : decode cJ5_resize 92 = .ok (.i2f, 1) := dk_134 (dk_at dksJ5_resize_3 20 rfl rfl)
theorem dJ5_resize_93 : decode cJ5_resize 93 = .ok (.aload_n 0, 1) := dk_42 (dk_at dksJ5_resize_3 21 rfl rfl)
theorem dJ5_resize_94 : decode cJ5_resize 94 = .ok (.getfield 81, 3) := dk_180 0 81 (dk_at dksJ5_resize_4 0 rfl rfl)
theorem dJ5_resize_97 : decode cJ5_resize 97 = .ok (.fmul, 1) := dk_106 (dk_at dksJ5_resize_4 3 rfl rfl)
theorem dJ5_resize_98 : decode cJ5_resize 98 = .ok (.fstore 6, 2) := dk_56 6 (dk_at dksJ5_resize_4 4 rfl rfl)
theorem dJ5_resize_100 : decode cJ5_resize 100 = .ok (.iload 4, 2) := dk_21 4 (dk_at dksJ5_resize_4 6 rfl rfl)
theorem dJ5_resize_102 : decode cJ5_resize 102 = .ok (.ldc 42, 2) := dk_18 42 (dk_at dksJ5_resize_4 8 rfl rfl)
theorem dJ5_resize_104 : decode cJ5_resize 104 = .ok (.if_icmp .ge 17, 3) := dk_162 0 17 (dk_at dksJ5_resize_4 10 rfl rfl)
theorem dJ5_resize_107 : decode cJ5_resize 107 = .ok (.fload 6, 2) := dk_23 6 (dk_at dksJ5_resize_4 13 rfl rfl)
theorem dJ5_resize_109 : decode cJ5_resize 109 = .ok (.ldc 210, 2) := dk_18 210 (dk_at dksJ5_resize_4 15 rfl rfl)
theorem dJ5_resize_111 : decode cJ5_resize 111 = .ok (.fcmp .g, 1) := dk_150 (dk_at dksJ5_resize_4 17 rfl rfl)
theorem dJ5_resize_112 : decode cJ5_resize 112 = .ok (.ifCond .ge 9, 3) := dk_156 0 9 (dk_at dksJ5_resize_4 18 rfl rfl)
theorem dJ5_resize_115 : decode cJ5_resize 115 = .ok (.fload 6, 2) := dk_23 6 (dk_at dksJ5_resize_4 21 rfl rfl)
theorem dJ5_resize_117 : decode cJ5_resize 117 = .ok (.f2i, 1) := dk_139 (dk_at dksJ5_resize_4 23 rfl rfl)
theorem dJ5_resize_118 : decode cJ5_resize 118 = .ok (.goto 5, 3) := dk_167 0 5 (dk_at dksJ5_resize_5 0 rfl rfl)
theorem dJ5_resize_121 : decode cJ5_resize 121 = .ok (.ldc 209, 2) := dk_18 209 (dk_at dksJ5_resize_5 3 rfl rfl)
theorem dJ5_resize_123 : decode cJ5_resize 123 = .ok (.istore 5, 2) := dk_54 5 (dk_at dksJ5_resize_5 5 rfl rfl)
theorem dJ5_resize_125 : decode cJ5_resize 125 = .ok (.aload_n 0, 1) := dk_42 (dk_at dksJ5_resize_5 7 rfl rfl)
theorem dJ5_resize_126 : decode cJ5_resize 126 = .ok (.iload 5, 2) := dk_21 5 (dk_at dksJ5_resize_5 8 rfl rfl)
theorem dJ5_resize_128 : decode cJ5_resize 128 = .ok (.putfield 88, 3) := dk_181 0 88 (dk_at dksJ5_resize_5 10 rfl rfl)
theorem dJ5_resize_131 : decode cJ5_resize 131 = .ok (.iload 4, 2) := dk_21 4 (dk_at dksJ5_resize_5 13 rfl rfl)
theorem dJ5_resize_133 : decode cJ5_resize 133 = .ok (.anewarray 163, 3) := dk_189 0 163 (dk_at dksJ5_resize_5 15 rfl rfl)
theorem dJ5_resize_136 : decode cJ5_resize 136 = .ok (.astore 6, 2) := dk_58 6 (dk_at dksJ5_resize_5 18 rfl rfl)
theorem dJ5_resize_138 : decode cJ5_resize 138 = .ok (.aload_n 0, 1) := dk_42 (dk_at dksJ5_resize_5 20 rfl rfl)
theorem dJ5_resize_139 : decode cJ5_resize 139 = .ok (.aload 6, 2) := dk_25 6 (dk_at dksJ5_resize_5 21 rfl rfl)
theorem dJ5_resize_141 : decode cJ5_resize 141 = .ok (.putfield 105, 3) := dk_181 0 105 (dk_at dksJ5_resize_6 0 rfl rfl)
theorem dJ5_resize_144 : decode cJ5_resize 144 = .ok (.aload_n 1, 1) := dk_43 (dk_at dksJ5_resize_6 3 rfl rfl)
theorem dJ5_resize_145 : decode cJ5_resize 145 = .ok (.ifnull 208, 3) := dk_198 0 208 (dk_at dksJ5_resize_6 4 rfl rfl)
theorem dJ5_resize_148 : decode cJ5_resize 148 = .ok (.iconst 0, 1) := dk_3 (dk_at dksJ5_resize_6 7 rfl rfl)
theorem dJ5_resize_149 : decode cJ5_resize 149 = .ok (.istore 7, 2) := dk_54 7 (dk_at dksJ5_resize_6 8 rfl rfl)
theorem dJ5_resize_151 : decode cJ5_resize 151 = .ok (.iload 7, 2) := dk_21 7 (dk_at dksJ5_resize_6 10 rfl rfl)
theorem dJ5_resize_153 : decode cJ5_resize 153 = .ok (.iload_n 2, 1) := dk_28 (dk_at dksJ5_resize_6 12 rfl rfl)
theorem dJ5_resize_154 : decode cJ5_resize 154 = .ok (.if_icmp .ge 199, 3) := dk_162 0 199 (dk_at dksJ5_resize_6 13 rfl rfl)
theorem dJ5_resize_157 : decode cJ5_resize 157 = .ok (.aload_n 1, 1) := dk_43 (dk_at dksJ5_resize_6 16 rfl rfl)
theorem dJ5_resize_158 : decode cJ5_resize 158 = .ok (.iload 7, 2) := dk_21 7 (dk_at dksJ5_resize_6 17 rfl rfl)
theorem dJ5_resize_160 : decode cJ5_resize 160 = .ok (.aaload, 1) := dk_50 (dk_at dksJ5_resize_6 19 rfl rfl)
theorem dJ5_resize_161 : decode cJ5_resize 161 = .ok (.dup, 1) := dk_89 (dk_at dksJ5_resize_6 20 rfl rfl)
theorem dJ5_resize_162 : decode cJ5_resize 162 = .ok (.astore 8, 2) := dk_58 8 (dk_at dksJ5_resize_6 21 rfl rfl)
theorem dJ5_resize_164 : decode cJ5_resize 164 = .ok (.ifnull 183, 3) := dk_198 0 183 (dk_at dksJ5_resize_7 0 rfl rfl)
theorem dJ5_resize_167 : decode cJ5_resize 167 = .ok (.aload_n 1, 1) := dk_43 (dk_at dksJ5_resize_7 3 rfl rfl)
theorem dJ5_resize_168 : decode cJ5_resize 168 = .ok (.iload 7, 2) := dk_21 7 (dk_at dksJ5_resize_7 4 rfl rfl)
theorem dJ5_resize_170 : decode cJ5_resize 170 = .ok (.aconst_null, 1) := dk_1 (dk_at dksJ5_resize_7 6 rfl rfl)
theorem dJ5_resize_171 : decode cJ5_resize 171 = .ok (.aastore, 1) := dk_83 (dk_at dksJ5_resize_7 7 rfl rfl)
theorem dJ5_resize_172 : decode cJ5_resize 172 = .ok (.aload 8, 2) := dk_25 8 (dk_at dksJ5_resize_7 8 rfl rfl)
theorem dJ5_resize_174 : decode cJ5_resize 174 = .ok (.getfield 177, 3) := dk_180 0 177 (dk_at dksJ5_resize_7 10 rfl rfl)
theorem dJ5_resize_177 : decode cJ5_resize 177 = .ok (.ifnonnull 21, 3) := dk_199 0 21 (dk_at dksJ5_resize_7 13 rfl rfl)
theorem dJ5_resize_180 : decode cJ5_resize 180 = .ok (.aload 6, 2) := dk_25 6 (dk_at dksJ5_resize_7 16 rfl rfl)
theorem dJ5_resize_182 : decode cJ5_resize 182 = .ok (.aload 8, 2) := dk_25 8 (dk_at dksJ5_resize_7 18 rfl rfl)
theorem dJ5_resize_184 : decode cJ5_resize 184 = .ok (.getfield 168, 3) := dk_180 0 168 (dk_at dksJ5_resize_7 20 rfl rfl)
theorem dJ5_resize_187 : decode cJ5_resize 187 = .ok (.iload 4, 2) := dk_21 4 (dk_at dksJ5_resize_8 0 rfl rfl)
theorem dJ5_resize_189 : decode cJ5_resize 189 = .ok (.iconst 1, 1) := dk_4 (dk_at dksJ5_resize_8 2 rfl rfl)
theorem dJ5_resize_190 : decode cJ5_resize 190 = .ok (.isub, 1) := dk_100 (dk_at dksJ5_resize_8 3 rfl rfl)
theorem dJ5_resize_191 : decode cJ5_resize 191 = .ok (.iand, 1) := dk_126 (dk_at dksJ5_resize_8 4 rfl rfl)
theorem dJ5_resize_192 : decode cJ5_resize 192 = .ok (.aload 8, 2) := dk_25 8 (dk_at dksJ5_resize_8 5 rfl rfl)
theorem dJ5_resize_194 : decode cJ5_resize 194 = .ok (.aastore, 1) := dk_83 (dk_at dksJ5_resize_8 7 rfl rfl)
theorem dJ5_resize_195 : decode cJ5_resize 195 = .ok (.goto 152, 3) := dk_167 0 152 (dk_at dksJ5_resize_8 8 rfl rfl)
theorem dJ5_resize_198 : decode cJ5_resize 198 = .ok (.aload 8, 2) := dk_25 8 (dk_at dksJ5_resize_8 11 rfl rfl)
theorem dJ5_resize_200 : decode cJ5_resize 200 = .ok (.instanceof 180, 3) := dk_193 0 180 (dk_at dksJ5_resize_8 13 rfl rfl)
theorem dJ5_resize_203 : decode cJ5_resize 203 = .ok (.ifCond .eq 20, 3) := dk_153 0 20 (dk_at dksJ5_resize_8 16 rfl rfl)
theorem dJ5_resize_206 : decode cJ5_resize 206 = .ok (.aload 8, 2) := dk_25 8 (dk_at dksJ5_resize_8 19 rfl rfl)
theorem dJ5_resize_208 : decode cJ5_resize 208 = .ok (.checkcast 180, 3) := dk_192 0 180 (dk_at dksJ5_resize_8 21 rfl rfl)
theorem dJ5_resize_211 : decode cJ5_resize 211 = .ok (.aload_n 0, 1) := dk_42 (dk_at dksJ5_resize_9 0 rfl rfl)
theorem dJ5_resize_212 : decode cJ5_resize 212 = .ok (.aload 6, 2) := dk_25 6 (dk_at dksJ5_resize_9 1 rfl rfl)
theorem dJ5_resize_214 : decode cJ5_resize 214 = .ok (.iload 7, 2) := dk_21 7 (dk_at dksJ5_resize_9 3 rfl rfl)
theorem dJ5_resize_216 : decode cJ5_resize 216 = .ok (.iload_n 2, 1) := dk_28 (dk_at dksJ5_resize_9 5 rfl rfl)
theorem dJ5_resize_217 : decode cJ5_resize 217 = .ok (.invokevirtual 211, 3) := dk_182 0 211 (dk_at dksJ5_resize_9 6 rfl rfl)
theorem dJ5_resize_220 : decode cJ5_resize 220 = .ok (.goto 127, 3) := dk_167 0 127 (dk_at dksJ5_resize_9 9 rfl rfl)
theorem dJ5_resize_223 : decode cJ5_resize 223 = .ok (.aconst_null, 1) := dk_1 (dk_at dksJ5_resize_9 12 rfl rfl)
theorem dJ5_resize_224 : decode cJ5_resize 224 = .ok (.astore 9, 2) := dk_58 9 (dk_at dksJ5_resize_9 13 rfl rfl)
theorem dJ5_resize_226 : decode cJ5_resize 226 = .ok (.aconst_null, 1) := dk_1 (dk_at dksJ5_resize_9 15 rfl rfl)
theorem dJ5_resize_227 : decode cJ5_resize 227 = .ok (.astore 10, 2) := dk_58 10 (dk_at dksJ5_resize_9 16 rfl rfl)
theorem dJ5_resize_229 : decode cJ5_resize 229 = .ok (.aconst_null, 1) := dk_1 (dk_at dksJ5_resize_9 18 rfl rfl)
theorem dJ5_resize_230 : decode cJ5_resize 230 = .ok (.astore 11, 2) := dk_58 11 (dk_at dksJ5_resize_9 19 rfl rfl)
theorem dJ5_resize_232 : decode cJ5_resize 232 = .ok (.aconst_null, 1) := dk_1 (dk_at dksJ5_resize_9 21 rfl rfl)
theorem dJ5_resize_233 : decode cJ5_resize 233 = .ok (.astore 12, 2) := dk_58 12 (dk_at dksJ5_resize_9 22 rfl rfl)
theorem dJ5_resize_235 : decode cJ5_resize 235 = .ok (.aload 8, 2) := dk_25 8 (dk_at dksJ5_resize_10 0 rfl rfl)
theorem dJ5_resize_237 : decode cJ5_resize 237 = .ok (.getfield 177, 3) := dk_180 0 177 (dk_at dksJ5_resize_10 2 rfl rfl)
theorem dJ5_resize_240 : decode cJ5_resize 240 = .ok (.astore 13, 2) := dk_58 13 (dk_at dksJ5_resize_10 5 rfl rfl)
theorem dJ5_resize_242 : decode cJ5_resize 242 = .ok (.aload 8, 2) := dk_25 8 (dk_at dksJ5_resize_10 7 rfl rfl)
theorem dJ5_resize_244 : decode cJ5_resize 244 = .ok (.getfield 168, 3) := dk_180 0 168 (dk_at dksJ5_resize_10 9 rfl rfl)
theorem dJ5_resize_247 : decode cJ5_resize 247 = .ok (.iload_n 2, 1) := dk_28 (dk_at dksJ5_resize_10 12 rfl rfl)
theorem dJ5_resize_248 : decode cJ5_resize 248 = .ok (.iand, 1) := dk_126 (dk_at dksJ5_resize_10 13 rfl rfl)
theorem dJ5_resize_249 : decode cJ5_resize 249 = .ok (.ifCond .ne 29, 3) := dk_154 0 29 (dk_at dksJ5_resize_10 14 rfl rfl)
theorem dJ5_resize_252 : decode cJ5_resize 252 = .ok (.aload 10, 2) := dk_25 10 (dk_at dksJ5_resize_10 17 rfl rfl)
theorem dJ5_resize_254 : decode cJ5_resize 254 = .ok (.ifnonnull 10, 3) := dk_199 0 10 (dk_at dksJ5_resize_10 19 rfl rfl)
theorem dJ5_resize_257 : decode cJ5_resize 257 = .ok (.aload 8, 2) := dk_25 8 (dk_at dksJ5_resize_10 22 rfl rfl)
theorem dJ5_resize_259 : decode cJ5_resize 259 = .ok (.astore 9, 2) := dk_58 9 (dk_at dksJ5_resize_11 0 rfl rfl)
theorem dJ5_resize_261 : decode cJ5_resize 261 = .ok (.goto 10, 3) := dk_167 0 10 (dk_at dksJ5_resize_11 2 rfl rfl)
theorem dJ5_resize_264 : decode cJ5_resize 264 = .ok (.aload 10, 2) := dk_25 10 (dk_at dksJ5_resize_11 5 rfl rfl)
theorem dJ5_resize_266 : decode cJ5_resize 266 = .ok (.aload 8, 2) := dk_25 8 (dk_at dksJ5_resize_11 7 rfl rfl)
theorem dJ5_resize_268 : decode cJ5_resize 268 = .ok (.putfield 177, 3) := dk_181 0 177 (dk_at dksJ5_resize_11 9 rfl rfl)
theorem dJ5_resize_271 : decode cJ5_resize 271 = .ok (.aload 8, 2) := dk_25 8 (dk_at dksJ5_resize_11 12 rfl rfl)
theorem dJ5_resize_273 : decode cJ5_resize 273 = .ok (.astore 10, 2) := dk_58 10 (dk_at dksJ5_resize_11 14 rfl rfl)
theorem dJ5_resize_275 : decode cJ5_resize 275 = .ok (.goto 26, 3) := dk_167 0 26 (dk_at dksJ5_resize_11 16 rfl rfl)
theorem dJ5_resize_278 : decode cJ5_resize 278 = .ok (.aload 12, 2) := dk_25 12 (dk_at dksJ5_resize_11 19 rfl rfl)
theorem dJ5_resize_280 : decode cJ5_resize 280 = .ok (.ifnonnull 10, 3) := dk_199 0 10 (dk_at dksJ5_resize_11 21 rfl rfl)
theorem dJ5_resize_283 : decode cJ5_resize 283 = .ok (.aload 8, 2) := dk_25 8 (dk_at dksJ5_resize_12 0 rfl rfl)
theorem dJ5_resize_285 : decode cJ5_resize 285 = .ok (.astore 11, 2) := dk_58 11 (dk_at dksJ5_resize_12 2 rfl rfl)
theorem dJ5_resize_287 : decode cJ5_resize 287 = .ok (.goto 10, 3) := dk_167 0 10 (dk_at dksJ5_resize_12 4 rfl rfl)
theorem dJ5_resize_290 : decode cJ5_resize 290 = .ok (.aload 12, 2) := dk_25 12 (dk_at dksJ5_resize_12 7 rfl rfl)
theorem dJ5_resize_292 : decode cJ5_resize 292 = .ok (.aload 8, 2) := dk_25 8 (dk_at dksJ5_resize_12 9 rfl rfl)
theorem dJ5_resize_294 : decode cJ5_resize 294 = .ok (.putfield 177, 3) := dk_181 0 177 (dk_at dksJ5_resize_12 11 rfl rfl)
theorem dJ5_resize_297 : decode cJ5_resize 297 = .ok (.aload 8, 2) := dk_25 8 (dk_at dksJ5_resize_12 14 rfl rfl)
theorem dJ5_resize_299 : decode cJ5_resize 299 = .ok (.astore 12, 2) := dk_58 12 (dk_at dksJ5_resize_12 16 rfl rfl)
theorem dJ5_resize_301 : decode cJ5_resize 301 = .ok (.aload 13, 2) := dk_25 13 (dk_at dksJ5_resize_12 18 rfl rfl)
theorem dJ5_resize_303 : decode cJ5_resize 303 = .ok (.dup, 1) := dk_89 (dk_at dksJ5_resize_12 20 rfl rfl)
theorem dJ5_resize_304 : decode cJ5_resize 304 = .ok (.astore 8, 2) := dk_58 8 (dk_at dksJ5_resize_12 21 rfl rfl)
theorem dJ5_resize_306 : decode cJ5_resize 306 = .ok (.ifnonnull (-71), 3) := dk_199 255 185 (dk_at dksJ5_resize_13 0 rfl rfl)
theorem dJ5_resize_309 : decode cJ5_resize 309 = .ok (.aload 10, 2) := dk_25 10 (dk_at dksJ5_resize_13 3 rfl rfl)
theorem dJ5_resize_311 : decode cJ5_resize 311 = .ok (.ifnull 16, 3) := dk_198 0 16 (dk_at dksJ5_resize_13 5 rfl rfl)
theorem dJ5_resize_314 : decode cJ5_resize 314 = .ok (.aload 10, 2) := dk_25 10 (dk_at dksJ5_resize_13 8 rfl rfl)
theorem dJ5_resize_316 : decode cJ5_resize 316 = .ok (.aconst_null, 1) := dk_1 (dk_at dksJ5_resize_13 10 rfl rfl)
theorem dJ5_resize_317 : decode cJ5_resize 317 = .ok (.putfield 177, 3) := dk_181 0 177 (dk_at dksJ5_resize_13 11 rfl rfl)
theorem dJ5_resize_320 : decode cJ5_resize 320 = .ok (.aload 6, 2) := dk_25 6 (dk_at dksJ5_resize_13 14 rfl rfl)
theorem dJ5_resize_322 : decode cJ5_resize 322 = .ok (.iload 7, 2) := dk_21 7 (dk_at dksJ5_resize_13 16 rfl rfl)
theorem dJ5_resize_324 : decode cJ5_resize 324 = .ok (.aload 9, 2) := dk_25 9 (dk_at dksJ5_resize_13 18 rfl rfl)
theorem dJ5_resize_326 : decode cJ5_resize 326 = .ok (.aastore, 1) := dk_83 (dk_at dksJ5_resize_13 20 rfl rfl)
theorem dJ5_resize_327 : decode cJ5_resize 327 = .ok (.aload 12, 2) := dk_25 12 (dk_at dksJ5_resize_13 21 rfl rfl)
theorem dJ5_resize_329 : decode cJ5_resize 329 = .ok (.ifnull 18, 3) := dk_198 0 18 (dk_at dksJ5_resize_14 0 rfl rfl)
theorem dJ5_resize_332 : decode cJ5_resize 332 = .ok (.aload 12, 2) := dk_25 12 (dk_at dksJ5_resize_14 3 rfl rfl)
theorem dJ5_resize_334 : decode cJ5_resize 334 = .ok (.aconst_null, 1) := dk_1 (dk_at dksJ5_resize_14 5 rfl rfl)
theorem dJ5_resize_335 : decode cJ5_resize 335 = .ok (.putfield 177, 3) := dk_181 0 177 (dk_at dksJ5_resize_14 6 rfl rfl)
theorem dJ5_resize_338 : decode cJ5_resize 338 = .ok (.aload 6, 2) := dk_25 6 (dk_at dksJ5_resize_14 9 rfl rfl)
theorem dJ5_resize_340 : decode cJ5_resize 340 = .ok (.iload 7, 2) := dk_21 7 (dk_at dksJ5_resize_14 11 rfl rfl)
theorem dJ5_resize_342 : decode cJ5_resize 342 = .ok (.iload_n 2, 1) := dk_28 (dk_at dksJ5_resize_14 13 rfl rfl)
theorem dJ5_resize_343 : decode cJ5_resize 343 = .ok (.iadd, 1) := dk_96 (dk_at dksJ5_resize_14 14 rfl rfl)
theorem dJ5_resize_344 : decode cJ5_resize 344 = .ok (.aload 11, 2) := dk_25 11 (dk_at dksJ5_resize_14 15 rfl rfl)
theorem dJ5_resize_346 : decode cJ5_resize 346 = .ok (.aastore, 1) := dk_83 (dk_at dksJ5_resize_14 17 rfl rfl)
theorem dJ5_resize_347 : decode cJ5_resize 347 = .ok (.iinc 7 1, 3) := dk_132 7 1 (dk_at dksJ5_resize_14 18 rfl rfl)
theorem dJ5_resize_350 : decode cJ5_resize 350 = .ok (.goto (-199), 3) := dk_167 255 57 (dk_at dksJ5_resize_14 21 rfl rfl)
theorem dJ5_resize_353 : decode cJ5_resize 353 = .ok (.aload 6, 2) := dk_25 6 (dk_at dksJ5_resize_15 0 rfl rfl)
theorem dJ5_resize_355 : decode cJ5_resize 355 = .ok (.areturn, 1) := dk_176 (dk_at dksJ5_resize_15 2 rfl rfl)
abbrev cJ5_newNode : ByteArray := prog_47_method_46_code
def yJ5_newNode : MethodName := ⟨RJ5, "newNode", "(ILjava/lang/Object;Ljava/lang/Object;Ljava/util/HashMap$Node;)Ljava/util/HashMap$Node;"⟩
def dkwJ5_newNode_0 : List UInt8 := [187, 0, 163, 89, 27, 44, 45, 25, 4, 183, 1, 119, 176]
abbrev dktJ5_newNode_0 : List UInt8 := dkwJ5_newNode_0 ++ []
theorem dksJ5_newNode_0 : cJ5_newNode.data.toList.drop 0 = dktJ5_newNode_0 := by decide +kernel
theorem dJ5_newNode_0 : decode cJ5_newNode 0 = .ok (.new 163, 3) := dk_187 0 163 (dk_at dksJ5_newNode_0 0 rfl rfl)
theorem dJ5_newNode_3 : decode cJ5_newNode 3 = .ok (.dup, 1) := dk_89 (dk_at dksJ5_newNode_0 3 rfl rfl)
theorem dJ5_newNode_4 : decode cJ5_newNode 4 = .ok (.iload_n 1, 1) := dk_27 (dk_at dksJ5_newNode_0 4 rfl rfl)
theorem dJ5_newNode_5 : decode cJ5_newNode 5 = .ok (.aload_n 2, 1) := dk_44 (dk_at dksJ5_newNode_0 5 rfl rfl)
theorem dJ5_newNode_6 : decode cJ5_newNode 6 = .ok (.aload_n 3, 1) := dk_45 (dk_at dksJ5_newNode_0 6 rfl rfl)
theorem dJ5_newNode_7 : decode cJ5_newNode 7 = .ok (.aload 4, 2) := dk_25 4 (dk_at dksJ5_newNode_0 7 rfl rfl)
theorem dJ5_newNode_9 : decode cJ5_newNode 9 = .ok (.invokespecial 375, 3) := dk_183 1 119 (dk_at dksJ5_newNode_0 9 rfl rfl)
theorem dJ5_newNode_12 : decode cJ5_newNode 12 = .ok (.areturn, 1) := dk_176 (dk_at dksJ5_newNode_0 12 rfl rfl)
abbrev cJ5_afterNodeAccess : ByteArray := prog_47_method_51_code
def yJ5_afterNodeAccess : MethodName := ⟨RJ5, "afterNodeAccess", "(Ljava/util/HashMap$Node;)V"⟩
theorem dJ5_afterNodeAccess_0 : decode cJ5_afterNodeAccess 0 = .ok (.return_, 1) := by decide +kernel
abbrev cJ5_afterNodeInsertion : ByteArray := prog_47_method_52_code
def yJ5_afterNodeInsertion : MethodName := ⟨RJ5, "afterNodeInsertion", "(Z)V"⟩
theorem dJ5_afterNodeInsertion_0 : decode cJ5_afterNodeInsertion 0 = .ok (.return_, 1) := by decide +kernel
abbrev cJ10_init : ByteArray := prog_36_method_1_code
def yJ10_init : MethodName := ⟨RJ10, "<init>", "()V"⟩
def dkwJ10_init_1 : List UInt8 := [182, 0, 27, 87, 177]
abbrev dktJ10_init_1 : List UInt8 := dkwJ10_init_1 ++ []
def dkwJ10_init_0 : List UInt8 := [42, 183, 0, 1, 42, 42, 181, 0, 7, 42, 178, 0, 13, 181, 0, 17, 42, 178, 0, 20, 181, 0, 24, 42]
abbrev dktJ10_init_0 : List UInt8 := dkwJ10_init_0 ++ dktJ10_init_1
theorem dksJ10_init_0 : cJ10_init.data.toList.drop 0 = dktJ10_init_0 := by decide +kernel
theorem dksJ10_init_1 : cJ10_init.data.toList.drop 24 = dktJ10_init_1 := dk_seg dksJ10_init_0 24 rfl rfl
theorem dJ10_init_0 : decode cJ10_init 0 = .ok (.aload_n 0, 1) := dk_42 (dk_at dksJ10_init_0 0 rfl rfl)
theorem dJ10_init_1 : decode cJ10_init 1 = .ok (.invokespecial 1, 3) := dk_183 0 1 (dk_at dksJ10_init_0 1 rfl rfl)
theorem dJ10_init_4 : decode cJ10_init 4 = .ok (.aload_n 0, 1) := dk_42 (dk_at dksJ10_init_0 4 rfl rfl)
theorem dJ10_init_5 : decode cJ10_init 5 = .ok (.aload_n 0, 1) := dk_42 (dk_at dksJ10_init_0 5 rfl rfl)
theorem dJ10_init_6 : decode cJ10_init 6 = .ok (.putfield 7, 3) := dk_181 0 7 (dk_at dksJ10_init_0 6 rfl rfl)
theorem dJ10_init_9 : decode cJ10_init 9 = .ok (.aload_n 0, 1) := dk_42 (dk_at dksJ10_init_0 9 rfl rfl)
theorem dJ10_init_10 : decode cJ10_init 10 = .ok (.getstatic 13, 3) := dk_178 0 13 (dk_at dksJ10_init_0 10 rfl rfl)
theorem dJ10_init_13 : decode cJ10_init 13 = .ok (.putfield 17, 3) := dk_181 0 17 (dk_at dksJ10_init_0 13 rfl rfl)
theorem dJ10_init_16 : decode cJ10_init 16 = .ok (.aload_n 0, 1) := dk_42 (dk_at dksJ10_init_0 16 rfl rfl)
theorem dJ10_init_17 : decode cJ10_init 17 = .ok (.getstatic 20, 3) := dk_178 0 20 (dk_at dksJ10_init_0 17 rfl rfl)
theorem dJ10_init_20 : decode cJ10_init 20 = .ok (.putfield 24, 3) := dk_181 0 24 (dk_at dksJ10_init_0 20 rfl rfl)
theorem dJ10_init_23 : decode cJ10_init 23 = .ok (.aload_n 0, 1) := dk_42 (dk_at dksJ10_init_0 23 rfl rfl)
theorem dJ10_init_24 : decode cJ10_init 24 = .ok (.invokevirtual 27, 3) := dk_182 0 27 (dk_at dksJ10_init_1 0 rfl rfl)
theorem dJ10_init_27 : decode cJ10_init 27 = .ok (.pop, 1) := dk_87 (dk_at dksJ10_init_1 3 rfl rfl)
theorem dJ10_init_28 : decode cJ10_init 28 = .ok (.return_, 1) := dk_177 (dk_at dksJ10_init_1 4 rfl rfl)
abbrev cJ10_init_2 : ByteArray := prog_36_method_2_code
def yJ10_init_2 : MethodName := ⟨RJ10, "<init>", "(Ljava/lang/String;)V"⟩
def dkwJ10_init_2_1 : List UInt8 := [182, 0, 27, 87, 42, 43, 181, 0, 31, 177]
abbrev dktJ10_init_2_1 : List UInt8 := dkwJ10_init_2_1 ++ []
def dkwJ10_init_2_0 : List UInt8 := [42, 183, 0, 1, 42, 42, 181, 0, 7, 42, 178, 0, 13, 181, 0, 17, 42, 178, 0, 20, 181, 0, 24, 42]
abbrev dktJ10_init_2_0 : List UInt8 := dkwJ10_init_2_0 ++ dktJ10_init_2_1
theorem dksJ10_init_2_0 : cJ10_init_2.data.toList.drop 0 = dktJ10_init_2_0 := by decide +kernel
theorem dksJ10_init_2_1 : cJ10_init_2.data.toList.drop 24 = dktJ10_init_2_1 := dk_seg dksJ10_init_2_0 24 rfl rfl
theorem dJ10_init_2_0 : decode cJ10_init_2 0 = .ok (.aload_n 0, 1) := dk_42 (dk_at dksJ10_init_2_0 0 rfl rfl)
theorem dJ10_init_2_1 : decode cJ10_init_2 1 = .ok (.invokespecial 1, 3) := dk_183 0 1 (dk_at dksJ10_init_2_0 1 rfl rfl)
theorem dJ10_init_2_4 : decode cJ10_init_2 4 = .ok (.aload_n 0, 1) := dk_42 (dk_at dksJ10_init_2_0 4 rfl rfl)
theorem dJ10_init_2_5 : decode cJ10_init_2 5 = .ok (.aload_n 0, 1) := dk_42 (dk_at dksJ10_init_2_0 5 rfl rfl)
theorem dJ10_init_2_6 : decode cJ10_init_2 6 = .ok (.putfield 7, 3) := dk_181 0 7 (dk_at dksJ10_init_2_0 6 rfl rfl)
theorem dJ10_init_2_9 : decode cJ10_init_2 9 = .ok (.aload_n 0, 1) := dk_42 (dk_at dksJ10_init_2_0 9 rfl rfl)
theorem dJ10_init_2_10 : decode cJ10_init_2 10 = .ok (.getstatic 13, 3) := dk_178 0 13 (dk_at dksJ10_init_2_0 10 rfl rfl)
theorem dJ10_init_2_13 : decode cJ10_init_2 13 = .ok (.putfield 17, 3) := dk_181 0 17 (dk_at dksJ10_init_2_0 13 rfl rfl)
theorem dJ10_init_2_16 : decode cJ10_init_2 16 = .ok (.aload_n 0, 1) := dk_42 (dk_at dksJ10_init_2_0 16 rfl rfl)
theorem dJ10_init_2_17 : decode cJ10_init_2 17 = .ok (.getstatic 20, 3) := dk_178 0 20 (dk_at dksJ10_init_2_0 17 rfl rfl)
theorem dJ10_init_2_20 : decode cJ10_init_2 20 = .ok (.putfield 24, 3) := dk_181 0 24 (dk_at dksJ10_init_2_0 20 rfl rfl)
theorem dJ10_init_2_23 : decode cJ10_init_2 23 = .ok (.aload_n 0, 1) := dk_42 (dk_at dksJ10_init_2_0 23 rfl rfl)
theorem dJ10_init_2_24 : decode cJ10_init_2 24 = .ok (.invokevirtual 27, 3) := dk_182 0 27 (dk_at dksJ10_init_2_1 0 rfl rfl)
theorem dJ10_init_2_27 : decode cJ10_init_2 27 = .ok (.pop, 1) := dk_87 (dk_at dksJ10_init_2_1 3 rfl rfl)
theorem dJ10_init_2_28 : decode cJ10_init_2 28 = .ok (.aload_n 0, 1) := dk_42 (dk_at dksJ10_init_2_1 4 rfl rfl)
theorem dJ10_init_2_29 : decode cJ10_init_2 29 = .ok (.aload_n 1, 1) := dk_43 (dk_at dksJ10_init_2_1 5 rfl rfl)
theorem dJ10_init_2_30 : decode cJ10_init_2 30 = .ok (.putfield 31, 3) := dk_181 0 31 (dk_at dksJ10_init_2_1 6 rfl rfl)
theorem dJ10_init_2_33 : decode cJ10_init_2 33 = .ok (.return_, 1) := dk_177 (dk_at dksJ10_init_2_1 9 rfl rfl)
abbrev cJ10_init_3 : ByteArray := prog_36_method_5_code
def yJ10_init_3 : MethodName := ⟨RJ10, "<init>", "(Ljava/lang/String;Ljava/lang/Throwable;ZZ)V"⟩
def dkwJ10_init_3_2 : List UInt8 := [44, 181, 0, 7, 29, 154, 0, 8, 42, 1, 181, 0, 24, 177]
abbrev dktJ10_init_3_2 : List UInt8 := dkwJ10_init_3_2 ++ []
def dkwJ10_init_3_1 : List UInt8 := [21, 4, 153, 0, 11, 42, 182, 0, 27, 87, 167, 0, 8, 42, 1, 181, 0, 17, 42, 43, 181, 0, 31, 42]
abbrev dktJ10_init_3_1 : List UInt8 := dkwJ10_init_3_1 ++ dktJ10_init_3_2
def dkwJ10_init_3_0 : List UInt8 := [42, 183, 0, 1, 42, 42, 181, 0, 7, 42, 178, 0, 13, 181, 0, 17, 42, 178, 0, 20, 181, 0, 24]
abbrev dktJ10_init_3_0 : List UInt8 := dkwJ10_init_3_0 ++ dktJ10_init_3_1
theorem dksJ10_init_3_0 : cJ10_init_3.data.toList.drop 0 = dktJ10_init_3_0 := by decide +kernel
theorem dksJ10_init_3_1 : cJ10_init_3.data.toList.drop 23 = dktJ10_init_3_1 := dk_seg dksJ10_init_3_0 23 rfl rfl
theorem dksJ10_init_3_2 : cJ10_init_3.data.toList.drop 47 = dktJ10_init_3_2 := dk_seg dksJ10_init_3_1 24 rfl rfl
theorem dJ10_init_3_0 : decode cJ10_init_3 0 = .ok (.aload_n 0, 1) := dk_42 (dk_at dksJ10_init_3_0 0 rfl rfl)
theorem dJ10_init_3_1 : decode cJ10_init_3 1 = .ok (.invokespecial 1, 3) := dk_183 0 1 (dk_at dksJ10_init_3_0 1 rfl rfl)
theorem dJ10_init_3_4 : decode cJ10_init_3 4 = .ok (.aload_n 0, 1) := dk_42 (dk_at dksJ10_init_3_0 4 rfl rfl)
theorem dJ10_init_3_5 : decode cJ10_init_3 5 = .ok (.aload_n 0, 1) := dk_42 (dk_at dksJ10_init_3_0 5 rfl rfl)
theorem dJ10_init_3_6 : decode cJ10_init_3 6 = .ok (.putfield 7, 3) := dk_181 0 7 (dk_at dksJ10_init_3_0 6 rfl rfl)
theorem dJ10_init_3_9 : decode cJ10_init_3 9 = .ok (.aload_n 0, 1) := dk_42 (dk_at dksJ10_init_3_0 9 rfl rfl)
theorem dJ10_init_3_10 : decode cJ10_init_3 10 = .ok (.getstatic 13, 3) := dk_178 0 13 (dk_at dksJ10_init_3_0 10 rfl rfl)
theorem dJ10_init_3_13 : decode cJ10_init_3 13 = .ok (.putfield 17, 3) := dk_181 0 17 (dk_at dksJ10_init_3_0 13 rfl rfl)
theorem dJ10_init_3_16 : decode cJ10_init_3 16 = .ok (.aload_n 0, 1) := dk_42 (dk_at dksJ10_init_3_0 16 rfl rfl)
theorem dJ10_init_3_17 : decode cJ10_init_3 17 = .ok (.getstatic 20, 3) := dk_178 0 20 (dk_at dksJ10_init_3_0 17 rfl rfl)
theorem dJ10_init_3_20 : decode cJ10_init_3 20 = .ok (.putfield 24, 3) := dk_181 0 24 (dk_at dksJ10_init_3_0 20 rfl rfl)
theorem dJ10_init_3_23 : decode cJ10_init_3 23 = .ok (.iload 4, 2) := dk_21 4 (dk_at dksJ10_init_3_1 0 rfl rfl)
theorem dJ10_init_3_25 : decode cJ10_init_3 25 = .ok (.ifCond .eq 11, 3) := dk_153 0 11 (dk_at dksJ10_init_3_1 2 rfl rfl)
theorem dJ10_init_3_28 : decode cJ10_init_3 28 = .ok (.aload_n 0, 1) := dk_42 (dk_at dksJ10_init_3_1 5 rfl rfl)
theorem dJ10_init_3_29 : decode cJ10_init_3 29 = .ok (.invokevirtual 27, 3) := dk_182 0 27 (dk_at dksJ10_init_3_1 6 rfl rfl)
theorem dJ10_init_3_32 : decode cJ10_init_3 32 = .ok (.pop, 1) := dk_87 (dk_at dksJ10_init_3_1 9 rfl rfl)
theorem dJ10_init_3_33 : decode cJ10_init_3 33 = .ok (.goto 8, 3) := dk_167 0 8 (dk_at dksJ10_init_3_1 10 rfl rfl)
theorem dJ10_init_3_36 : decode cJ10_init_3 36 = .ok (.aload_n 0, 1) := dk_42 (dk_at dksJ10_init_3_1 13 rfl rfl)
theorem dJ10_init_3_37 : decode cJ10_init_3 37 = .ok (.aconst_null, 1) := dk_1 (dk_at dksJ10_init_3_1 14 rfl rfl)
theorem dJ10_init_3_38 : decode cJ10_init_3 38 = .ok (.putfield 17, 3) := dk_181 0 17 (dk_at dksJ10_init_3_1 15 rfl rfl)
theorem dJ10_init_3_41 : decode cJ10_init_3 41 = .ok (.aload_n 0, 1) := dk_42 (dk_at dksJ10_init_3_1 18 rfl rfl)
theorem dJ10_init_3_42 : decode cJ10_init_3 42 = .ok (.aload_n 1, 1) := dk_43 (dk_at dksJ10_init_3_1 19 rfl rfl)
theorem dJ10_init_3_43 : decode cJ10_init_3 43 = .ok (.putfield 31, 3) := dk_181 0 31 (dk_at dksJ10_init_3_1 20 rfl rfl)
theorem dJ10_init_3_46 : decode cJ10_init_3 46 = .ok (.aload_n 0, 1) := dk_42 (dk_at dksJ10_init_3_1 23 rfl rfl)
theorem dJ10_init_3_47 : decode cJ10_init_3 47 = .ok (.aload_n 2, 1) := dk_44 (dk_at dksJ10_init_3_2 0 rfl rfl)
theorem dJ10_init_3_48 : decode cJ10_init_3 48 = .ok (.putfield 7, 3) := dk_181 0 7 (dk_at dksJ10_init_3_2 1 rfl rfl)
theorem dJ10_init_3_51 : decode cJ10_init_3 51 = .ok (.iload_n 3, 1) := dk_29 (dk_at dksJ10_init_3_2 4 rfl rfl)
theorem dJ10_init_3_52 : decode cJ10_init_3 52 = .ok (.ifCond .ne 8, 3) := dk_154 0 8 (dk_at dksJ10_init_3_2 5 rfl rfl)
theorem dJ10_init_3_55 : decode cJ10_init_3 55 = .ok (.aload_n 0, 1) := dk_42 (dk_at dksJ10_init_3_2 8 rfl rfl)
theorem dJ10_init_3_56 : decode cJ10_init_3 56 = .ok (.aconst_null, 1) := dk_1 (dk_at dksJ10_init_3_2 9 rfl rfl)
theorem dJ10_init_3_57 : decode cJ10_init_3 57 = .ok (.putfield 24, 3) := dk_181 0 24 (dk_at dksJ10_init_3_2 10 rfl rfl)
theorem dJ10_init_3_60 : decode cJ10_init_3 60 = .ok (.return_, 1) := dk_177 (dk_at dksJ10_init_3_2 13 rfl rfl)
abbrev cJ11_init : ByteArray := prog_19_method_2_code
def yJ11_init : MethodName := ⟨RJ11, "<init>", "(Ljava/lang/String;)V"⟩
def dkwJ11_init_0 : List UInt8 := [42, 43, 183, 0, 7, 177]
abbrev dktJ11_init_0 : List UInt8 := dkwJ11_init_0 ++ []
theorem dksJ11_init_0 : cJ11_init.data.toList.drop 0 = dktJ11_init_0 := by decide +kernel
theorem dJ11_init_0 : decode cJ11_init 0 = .ok (.aload_n 0, 1) := dk_42 (dk_at dksJ11_init_0 0 rfl rfl)
theorem dJ11_init_1 : decode cJ11_init 1 = .ok (.aload_n 1, 1) := dk_43 (dk_at dksJ11_init_0 1 rfl rfl)
theorem dJ11_init_2 : decode cJ11_init 2 = .ok (.invokespecial 7, 3) := dk_183 0 7 (dk_at dksJ11_init_0 2 rfl rfl)
theorem dJ11_init_5 : decode cJ11_init 5 = .ok (.return_, 1) := dk_177 (dk_at dksJ11_init_0 5 rfl rfl)
abbrev cJ11_init_2 : ByteArray := prog_19_method_1_code
def yJ11_init_2 : MethodName := ⟨RJ11, "<init>", "()V"⟩
theorem dJ11_init_2_0 : decode cJ11_init_2 0 = .ok (.aload_n 0, 1) := by decide +kernel
theorem dJ11_init_2_1 : decode cJ11_init_2 1 = .ok (.invokespecial 1, 3) := by decide +kernel
theorem dJ11_init_2_4 : decode cJ11_init_2 4 = .ok (.return_, 1) := by decide +kernel
abbrev cJ11_init_3 : ByteArray := prog_19_method_5_code
def yJ11_init_3 : MethodName := ⟨RJ11, "<init>", "(Ljava/lang/String;Ljava/lang/Throwable;ZZ)V"⟩
def dkwJ11_init_3_0 : List UInt8 := [42, 43, 44, 29, 21, 4, 183, 0, 16, 177]
abbrev dktJ11_init_3_0 : List UInt8 := dkwJ11_init_3_0 ++ []
theorem dksJ11_init_3_0 : cJ11_init_3.data.toList.drop 0 = dktJ11_init_3_0 := by decide +kernel
theorem dJ11_init_3_0 : decode cJ11_init_3 0 = .ok (.aload_n 0, 1) := dk_42 (dk_at dksJ11_init_3_0 0 rfl rfl)
theorem dJ11_init_3_1 : decode cJ11_init_3 1 = .ok (.aload_n 1, 1) := dk_43 (dk_at dksJ11_init_3_0 1 rfl rfl)
theorem dJ11_init_3_2 : decode cJ11_init_3 2 = .ok (.aload_n 2, 1) := dk_44 (dk_at dksJ11_init_3_0 2 rfl rfl)
theorem dJ11_init_3_3 : decode cJ11_init_3 3 = .ok (.iload_n 3, 1) := dk_29 (dk_at dksJ11_init_3_0 3 rfl rfl)
theorem dJ11_init_3_4 : decode cJ11_init_3 4 = .ok (.iload 4, 2) := dk_21 4 (dk_at dksJ11_init_3_0 4 rfl rfl)
theorem dJ11_init_3_6 : decode cJ11_init_3 6 = .ok (.invokespecial 16, 3) := dk_183 0 16 (dk_at dksJ11_init_3_0 6 rfl rfl)
theorem dJ11_init_3_9 : decode cJ11_init_3 9 = .ok (.return_, 1) := dk_177 (dk_at dksJ11_init_3_0 9 rfl rfl)
abbrev cJ12_init : ByteArray := prog_29_method_2_code
def yJ12_init : MethodName := ⟨RJ12, "<init>", "(Ljava/lang/String;)V"⟩
def dkwJ12_init_0 : List UInt8 := [42, 43, 183, 0, 7, 177]
abbrev dktJ12_init_0 : List UInt8 := dkwJ12_init_0 ++ []
theorem dksJ12_init_0 : cJ12_init.data.toList.drop 0 = dktJ12_init_0 := by decide +kernel
theorem dJ12_init_0 : decode cJ12_init 0 = .ok (.aload_n 0, 1) := dk_42 (dk_at dksJ12_init_0 0 rfl rfl)
theorem dJ12_init_1 : decode cJ12_init 1 = .ok (.aload_n 1, 1) := dk_43 (dk_at dksJ12_init_0 1 rfl rfl)
theorem dJ12_init_2 : decode cJ12_init 2 = .ok (.invokespecial 7, 3) := dk_183 0 7 (dk_at dksJ12_init_0 2 rfl rfl)
theorem dJ12_init_5 : decode cJ12_init 5 = .ok (.return_, 1) := dk_177 (dk_at dksJ12_init_0 5 rfl rfl)
abbrev cJ12_init_2 : ByteArray := prog_29_method_1_code
def yJ12_init_2 : MethodName := ⟨RJ12, "<init>", "()V"⟩
theorem dJ12_init_2_0 : decode cJ12_init_2 0 = .ok (.aload_n 0, 1) := by decide +kernel
theorem dJ12_init_2_1 : decode cJ12_init_2 1 = .ok (.invokespecial 1, 3) := by decide +kernel
theorem dJ12_init_2_4 : decode cJ12_init_2 4 = .ok (.return_, 1) := by decide +kernel
abbrev cJ13_init : ByteArray := prog_20_method_2_code
def yJ13_init : MethodName := ⟨RJ13, "<init>", "(Ljava/lang/String;)V"⟩
def dkwJ13_init_0 : List UInt8 := [42, 43, 183, 0, 7, 177]
abbrev dktJ13_init_0 : List UInt8 := dkwJ13_init_0 ++ []
theorem dksJ13_init_0 : cJ13_init.data.toList.drop 0 = dktJ13_init_0 := by decide +kernel
theorem dJ13_init_0 : decode cJ13_init 0 = .ok (.aload_n 0, 1) := dk_42 (dk_at dksJ13_init_0 0 rfl rfl)
theorem dJ13_init_1 : decode cJ13_init 1 = .ok (.aload_n 1, 1) := dk_43 (dk_at dksJ13_init_0 1 rfl rfl)
theorem dJ13_init_2 : decode cJ13_init 2 = .ok (.invokespecial 7, 3) := dk_183 0 7 (dk_at dksJ13_init_0 2 rfl rfl)
theorem dJ13_init_5 : decode cJ13_init 5 = .ok (.return_, 1) := dk_177 (dk_at dksJ13_init_0 5 rfl rfl)
abbrev cJ13_init_2 : ByteArray := prog_20_method_1_code
def yJ13_init_2 : MethodName := ⟨RJ13, "<init>", "()V"⟩
theorem dJ13_init_2_0 : decode cJ13_init_2 0 = .ok (.aload_n 0, 1) := by decide +kernel
theorem dJ13_init_2_1 : decode cJ13_init_2 1 = .ok (.invokespecial 1, 3) := by decide +kernel
theorem dJ13_init_2_4 : decode cJ13_init_2 4 = .ok (.return_, 1) := by decide +kernel
abbrev cJ27_init : ByteArray := prog_21_method_2_code
def yJ27_init : MethodName := ⟨RJ27, "<init>", "(Ljava/lang/String;)V"⟩
def dkwJ27_init_0 : List UInt8 := [42, 43, 183, 0, 7, 177]
abbrev dktJ27_init_0 : List UInt8 := dkwJ27_init_0 ++ []
theorem dksJ27_init_0 : cJ27_init.data.toList.drop 0 = dktJ27_init_0 := by decide +kernel
theorem dJ27_init_0 : decode cJ27_init 0 = .ok (.aload_n 0, 1) := dk_42 (dk_at dksJ27_init_0 0 rfl rfl)
theorem dJ27_init_1 : decode cJ27_init 1 = .ok (.aload_n 1, 1) := dk_43 (dk_at dksJ27_init_0 1 rfl rfl)
theorem dJ27_init_2 : decode cJ27_init 2 = .ok (.invokespecial 7, 3) := dk_183 0 7 (dk_at dksJ27_init_0 2 rfl rfl)
theorem dJ27_init_5 : decode cJ27_init 5 = .ok (.return_, 1) := dk_177 (dk_at dksJ27_init_0 5 rfl rfl)
abbrev cJ27_init_2 : ByteArray := prog_21_method_1_code
def yJ27_init_2 : MethodName := ⟨RJ27, "<init>", "()V"⟩
theorem dJ27_init_2_0 : decode cJ27_init_2 0 = .ok (.aload_n 0, 1) := by decide +kernel
theorem dJ27_init_2_1 : decode cJ27_init_2 1 = .ok (.invokespecial 1, 3) := by decide +kernel
theorem dJ27_init_2_4 : decode cJ27_init_2 4 = .ok (.return_, 1) := by decide +kernel
abbrev cJ28_init : ByteArray := prog_22_method_2_code
def yJ28_init : MethodName := ⟨RJ28, "<init>", "(Ljava/lang/String;)V"⟩
def dkwJ28_init_0 : List UInt8 := [42, 43, 183, 0, 7, 177]
abbrev dktJ28_init_0 : List UInt8 := dkwJ28_init_0 ++ []
theorem dksJ28_init_0 : cJ28_init.data.toList.drop 0 = dktJ28_init_0 := by decide +kernel
theorem dJ28_init_0 : decode cJ28_init 0 = .ok (.aload_n 0, 1) := dk_42 (dk_at dksJ28_init_0 0 rfl rfl)
theorem dJ28_init_1 : decode cJ28_init 1 = .ok (.aload_n 1, 1) := dk_43 (dk_at dksJ28_init_0 1 rfl rfl)
theorem dJ28_init_2 : decode cJ28_init 2 = .ok (.invokespecial 7, 3) := dk_183 0 7 (dk_at dksJ28_init_0 2 rfl rfl)
theorem dJ28_init_5 : decode cJ28_init 5 = .ok (.return_, 1) := dk_177 (dk_at dksJ28_init_0 5 rfl rfl)
abbrev cJ28_init_2 : ByteArray := prog_22_method_1_code
def yJ28_init_2 : MethodName := ⟨RJ28, "<init>", "()V"⟩
theorem dJ28_init_2_0 : decode cJ28_init_2 0 = .ok (.aload_n 0, 1) := by decide +kernel
theorem dJ28_init_2_1 : decode cJ28_init_2 1 = .ok (.invokespecial 1, 3) := by decide +kernel
theorem dJ28_init_2_4 : decode cJ28_init_2 4 = .ok (.return_, 1) := by decide +kernel
abbrev cJ16_max : ByteArray := prog_27_method_65_code
def yJ16_max : MethodName := ⟨RJ16, "max", "(II)I"⟩
def dkwJ16_max_0 : List UInt8 := [26, 27, 161, 0, 7, 26, 167, 0, 4, 27, 172]
abbrev dktJ16_max_0 : List UInt8 := dkwJ16_max_0 ++ []
theorem dksJ16_max_0 : cJ16_max.data.toList.drop 0 = dktJ16_max_0 := by decide +kernel
theorem dJ16_max_0 : decode cJ16_max 0 = .ok (.iload_n 0, 1) := dk_26 (dk_at dksJ16_max_0 0 rfl rfl)
theorem dJ16_max_1 : decode cJ16_max 1 = .ok (.iload_n 1, 1) := dk_27 (dk_at dksJ16_max_0 1 rfl rfl)
theorem dJ16_max_2 : decode cJ16_max 2 = .ok (.if_icmp .lt 7, 3) := dk_161 0 7 (dk_at dksJ16_max_0 2 rfl rfl)
theorem dJ16_max_5 : decode cJ16_max 5 = .ok (.iload_n 0, 1) := dk_26 (dk_at dksJ16_max_0 5 rfl rfl)
theorem dJ16_max_6 : decode cJ16_max 6 = .ok (.goto 4, 3) := dk_167 0 4 (dk_at dksJ16_max_0 6 rfl rfl)
theorem dJ16_max_9 : decode cJ16_max 9 = .ok (.iload_n 1, 1) := dk_27 (dk_at dksJ16_max_0 9 rfl rfl)
theorem dJ16_max_10 : decode cJ16_max 10 = .ok (.ireturn, 1) := dk_172 (dk_at dksJ16_max_0 10 rfl rfl)
abbrev cJ16_min : ByteArray := prog_27_method_69_code
def yJ16_min : MethodName := ⟨RJ16, "min", "(II)I"⟩
def dkwJ16_min_0 : List UInt8 := [26, 27, 163, 0, 7, 26, 167, 0, 4, 27, 172]
abbrev dktJ16_min_0 : List UInt8 := dkwJ16_min_0 ++ []
theorem dksJ16_min_0 : cJ16_min.data.toList.drop 0 = dktJ16_min_0 := by decide +kernel
theorem dJ16_min_0 : decode cJ16_min 0 = .ok (.iload_n 0, 1) := dk_26 (dk_at dksJ16_min_0 0 rfl rfl)
theorem dJ16_min_1 : decode cJ16_min 1 = .ok (.iload_n 1, 1) := dk_27 (dk_at dksJ16_min_0 1 rfl rfl)
theorem dJ16_min_2 : decode cJ16_min 2 = .ok (.if_icmp .gt 7, 3) := dk_163 0 7 (dk_at dksJ16_min_0 2 rfl rfl)
theorem dJ16_min_5 : decode cJ16_min 5 = .ok (.iload_n 0, 1) := dk_26 (dk_at dksJ16_min_0 5 rfl rfl)
theorem dJ16_min_6 : decode cJ16_min 6 = .ok (.goto 4, 3) := dk_167 0 4 (dk_at dksJ16_min_0 6 rfl rfl)
theorem dJ16_min_9 : decode cJ16_min 9 = .ok (.iload_n 1, 1) := dk_27 (dk_at dksJ16_min_0 9 rfl rfl)
theorem dJ16_min_10 : decode cJ16_min 10 = .ok (.ireturn, 1) := dk_172 (dk_at dksJ16_min_0 10 rfl rfl)
abbrev cJ16_min_2 : ByteArray := prog_27_method_70_code
def yJ16_min_2 : MethodName := ⟨RJ16, "min", "(JJ)J"⟩
def dkwJ16_min_2_0 : List UInt8 := [30, 32, 148, 157, 0, 7, 30, 167, 0, 4, 32, 173]
abbrev dktJ16_min_2_0 : List UInt8 := dkwJ16_min_2_0 ++ []
theorem dksJ16_min_2_0 : cJ16_min_2.data.toList.drop 0 = dktJ16_min_2_0 := by decide +kernel
theorem dJ16_min_2_0 : decode cJ16_min_2 0 = .ok (.lload_n 0, 1) := dk_30 (dk_at dksJ16_min_2_0 0 rfl rfl)
theorem dJ16_min_2_1 : decode cJ16_min_2 1 = .ok (.lload_n 2, 1) := dk_32 (dk_at dksJ16_min_2_0 1 rfl rfl)
theorem dJ16_min_2_2 : decode cJ16_min_2 2 = .ok (.lcmp, 1) := dk_148 (dk_at dksJ16_min_2_0 2 rfl rfl)
theorem dJ16_min_2_3 : decode cJ16_min_2 3 = .ok (.ifCond .gt 7, 3) := dk_157 0 7 (dk_at dksJ16_min_2_0 3 rfl rfl)
theorem dJ16_min_2_6 : decode cJ16_min_2 6 = .ok (.lload_n 0, 1) := dk_30 (dk_at dksJ16_min_2_0 6 rfl rfl)
theorem dJ16_min_2_7 : decode cJ16_min_2 7 = .ok (.goto 4, 3) := dk_167 0 4 (dk_at dksJ16_min_2_0 7 rfl rfl)
theorem dJ16_min_2_10 : decode cJ16_min_2 10 = .ok (.lload_n 2, 1) := dk_32 (dk_at dksJ16_min_2_0 10 rfl rfl)
theorem dJ16_min_2_11 : decode cJ16_min_2 11 = .ok (.lreturn, 1) := dk_173 (dk_at dksJ16_min_2_0 11 rfl rfl)
abbrev cJ16_max_2 : ByteArray := prog_27_method_66_code
def yJ16_max_2 : MethodName := ⟨RJ16, "max", "(JJ)J"⟩
def dkwJ16_max_2_0 : List UInt8 := [30, 32, 148, 155, 0, 7, 30, 167, 0, 4, 32, 173]
abbrev dktJ16_max_2_0 : List UInt8 := dkwJ16_max_2_0 ++ []
theorem dksJ16_max_2_0 : cJ16_max_2.data.toList.drop 0 = dktJ16_max_2_0 := by decide +kernel
theorem dJ16_max_2_0 : decode cJ16_max_2 0 = .ok (.lload_n 0, 1) := dk_30 (dk_at dksJ16_max_2_0 0 rfl rfl)
theorem dJ16_max_2_1 : decode cJ16_max_2 1 = .ok (.lload_n 2, 1) := dk_32 (dk_at dksJ16_max_2_0 1 rfl rfl)
theorem dJ16_max_2_2 : decode cJ16_max_2 2 = .ok (.lcmp, 1) := dk_148 (dk_at dksJ16_max_2_0 2 rfl rfl)
theorem dJ16_max_2_3 : decode cJ16_max_2 3 = .ok (.ifCond .lt 7, 3) := dk_155 0 7 (dk_at dksJ16_max_2_0 3 rfl rfl)
theorem dJ16_max_2_6 : decode cJ16_max_2 6 = .ok (.lload_n 0, 1) := dk_30 (dk_at dksJ16_max_2_0 6 rfl rfl)
theorem dJ16_max_2_7 : decode cJ16_max_2 7 = .ok (.goto 4, 3) := dk_167 0 4 (dk_at dksJ16_max_2_0 7 rfl rfl)
theorem dJ16_max_2_10 : decode cJ16_max_2 10 = .ok (.lload_n 2, 1) := dk_32 (dk_at dksJ16_max_2_0 10 rfl rfl)
theorem dJ16_max_2_11 : decode cJ16_max_2 11 = .ok (.lreturn, 1) := dk_173 (dk_at dksJ16_max_2_0 11 rfl rfl)
