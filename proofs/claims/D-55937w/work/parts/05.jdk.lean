set_option maxRecDepth 100000
abbrev cJ0_init : ByteArray := prog_40_method_1_code
def yJ0_init : MethodName := ⟨RJ0, "<init>", "()V"⟩
theorem dJ0_init_0 : decode cJ0_init 0 = .ok (.aload_n 0, 1) := by decide +kernel
theorem dJ0_init_1 : decode cJ0_init 1 = .ok (.invokespecial 1, 3) := by decide +kernel
theorem dJ0_init_4 : decode cJ0_init 4 = .ok (.return_, 1) := by decide +kernel
abbrev cJ0_isEmpty : ByteArray := prog_40_method_4_code
def yJ0_isEmpty : MethodName := ⟨RJ0, "isEmpty", "()Z"⟩
def dkwJ0_isEmpty_0 : List UInt8 := [42, 182, 0, 7, 154, 0, 7, 4, 167, 0, 4, 3, 172]
abbrev dktJ0_isEmpty_0 : List UInt8 := dkwJ0_isEmpty_0 ++ []
theorem dksJ0_isEmpty_0 : cJ0_isEmpty.data.toList.drop 0 = dktJ0_isEmpty_0 := by decide +kernel
theorem dJ0_isEmpty_0 : decode cJ0_isEmpty 0 = .ok (.aload_n 0, 1) := dk_42 (dk_at dksJ0_isEmpty_0 0 rfl rfl)
theorem dJ0_isEmpty_1 : decode cJ0_isEmpty 1 = .ok (.invokevirtual 7, 3) := dk_182 0 7 (dk_at dksJ0_isEmpty_0 1 rfl rfl)
theorem dJ0_isEmpty_4 : decode cJ0_isEmpty 4 = .ok (.ifCond .ne 7, 3) := dk_154 0 7 (dk_at dksJ0_isEmpty_0 4 rfl rfl)
theorem dJ0_isEmpty_7 : decode cJ0_isEmpty 7 = .ok (.iconst 1, 1) := dk_4 (dk_at dksJ0_isEmpty_0 7 rfl rfl)
theorem dJ0_isEmpty_8 : decode cJ0_isEmpty 8 = .ok (.goto 4, 3) := dk_167 0 4 (dk_at dksJ0_isEmpty_0 8 rfl rfl)
theorem dJ0_isEmpty_11 : decode cJ0_isEmpty 11 = .ok (.iconst 0, 1) := dk_3 (dk_at dksJ0_isEmpty_0 11 rfl rfl)
theorem dJ0_isEmpty_12 : decode cJ0_isEmpty 12 = .ok (.ireturn, 1) := dk_172 (dk_at dksJ0_isEmpty_0 12 rfl rfl)
abbrev cJ1_init : ByteArray := prog_41_method_1_code
def yJ1_init : MethodName := ⟨RJ1, "<init>", "()V"⟩
def dkwJ1_init_0 : List UInt8 := [42, 183, 0, 1, 42, 3, 181, 0, 7, 177]
abbrev dktJ1_init_0 : List UInt8 := dkwJ1_init_0 ++ []
theorem dksJ1_init_0 : cJ1_init.data.toList.drop 0 = dktJ1_init_0 := by decide +kernel
theorem dJ1_init_0 : decode cJ1_init 0 = .ok (.aload_n 0, 1) := dk_42 (dk_at dksJ1_init_0 0 rfl rfl)
theorem dJ1_init_1 : decode cJ1_init 1 = .ok (.invokespecial 1, 3) := dk_183 0 1 (dk_at dksJ1_init_0 1 rfl rfl)
theorem dJ1_init_4 : decode cJ1_init 4 = .ok (.aload_n 0, 1) := dk_42 (dk_at dksJ1_init_0 4 rfl rfl)
theorem dJ1_init_5 : decode cJ1_init 5 = .ok (.iconst 0, 1) := dk_3 (dk_at dksJ1_init_0 5 rfl rfl)
theorem dJ1_init_6 : decode cJ1_init 6 = .ok (.putfield 7, 3) := dk_181 0 7 (dk_at dksJ1_init_0 6 rfl rfl)
theorem dJ1_init_9 : decode cJ1_init 9 = .ok (.return_, 1) := dk_177 (dk_at dksJ1_init_0 9 rfl rfl)
abbrev cJ1_listIterator : ByteArray := prog_41_method_12_code
def yJ1_listIterator : MethodName := ⟨RJ1, "listIterator", "()Ljava/util/ListIterator;"⟩
def dkwJ1_listIterator_0 : List UInt8 := [42, 3, 182, 0, 47, 176]
abbrev dktJ1_listIterator_0 : List UInt8 := dkwJ1_listIterator_0 ++ []
theorem dksJ1_listIterator_0 : cJ1_listIterator.data.toList.drop 0 = dktJ1_listIterator_0 := by decide +kernel
theorem dJ1_listIterator_0 : decode cJ1_listIterator 0 = .ok (.aload_n 0, 1) := dk_42 (dk_at dksJ1_listIterator_0 0 rfl rfl)
theorem dJ1_listIterator_1 : decode cJ1_listIterator 1 = .ok (.iconst 0, 1) := dk_3 (dk_at dksJ1_listIterator_0 1 rfl rfl)
theorem dJ1_listIterator_2 : decode cJ1_listIterator 2 = .ok (.invokevirtual 47, 3) := dk_182 0 47 (dk_at dksJ1_listIterator_0 2 rfl rfl)
theorem dJ1_listIterator_5 : decode cJ1_listIterator 5 = .ok (.areturn, 1) := dk_176 (dk_at dksJ1_listIterator_0 5 rfl rfl)
abbrev cJ10_init : ByteArray := prog_36_method_1_code
def yJ10_init : MethodName := ⟨RJ10, "<init>", "()V"⟩
def dkwJ10_init_1 : List UInt8 := [182, 0, 27, 87, 177]
abbrev dktJ10_init_1 : List UInt8 := dkwJ10_init_1 ++ []
def dkwJ10_init_0 : List UInt8 := [42, 183, 0, 1, 42, 42, 181, 0, 7, 42, 178, 0, 13, 181, 0, 17, 42, 178, 0, 20, 181, 0, 24, 42]
abbrev dktJ10_init_0 : List UInt8 := dkwJ10_init_0 ++ dktJ10_init_1
theorem dksJ10_init_0 : cJ10_init.data.toList.drop 0 = dktJ10_init_0 := by decide +kernel
theorem dksJ10_init_1 : cJ10_init.data.toList.drop 24 = dktJ10_init_1 := dk_seg dksJ10_init_0 24 rfl rfl
theorem dJ10_init_0 : decode cJ10_init 0 = .ok (.aload_n 0, 1) := dk_42 (dk_at dksJ10_init_0 0 rfl rfl)
theorem dJ10_init_1 : decode cJ10_init 1 = .ok (.invokespecial 1, 3) := dk_183 0 1 (dk_at dksJ10_init_0 1 rfl rfl)
theorem dJ10_init_4 : decode cJ10_init 4 = .ok (.aload_n 0, 1) := dk_42 (dk_at dksJ10_init_0 4 rfl rfl)
theorem dJ10_init_5 : decode cJ10_init 5 = .ok (.aload_n 0, 1) := dk_42 (dk_at dksJ10_init_0 5 rfl rfl)
theorem dJ10_init_6 : decode cJ10_init 6 = .ok (.putfield 7, 3) := dk_181 0 7 (dk_at dksJ10_init_0 6 rfl rfl)
theorem dJ10_init_9 : decode cJ10_init 9 = .ok (.aload_n 0, 1) := dk_42 (dk_at dksJ10_init_0 9 rfl rfl)
theorem dJ10_init_10 : decode cJ10_init 10 = .ok (.getstatic 13, 3) := dk_178 0 13 (dk_at dksJ10_init_0 10 rfl rfl)
theorem dJ10_init_13 : decode cJ10_init 13 = .ok (.putfield 17, 3) := dk_181 0 17 (dk_at dksJ10_init_0 13 rfl rfl)
theorem dJ10_init_16 : decode cJ10_init 16 = .ok (.aload_n 0, 1) := dk_42 (dk_at dksJ10_init_0 16 rfl rfl)
theorem dJ10_init_17 : decode cJ10_init 17 = .ok (.getstatic 20, 3) := dk_178 0 20 (dk_at dksJ10_init_0 17 rfl rfl)
theorem dJ10_init_20 : decode cJ10_init 20 = .ok (.putfield 24, 3) := dk_181 0 24 (dk_at dksJ10_init_0 20 rfl rfl)
theorem dJ10_init_23 : decode cJ10_init 23 = .ok (.aload_n 0, 1) := dk_42 (dk_at dksJ10_init_0 23 rfl rfl)
theorem dJ10_init_24 : decode cJ10_init 24 = .ok (.invokevirtual 27, 3) := dk_182 0 27 (dk_at dksJ10_init_1 0 rfl rfl)
theorem dJ10_init_27 : decode cJ10_init 27 = .ok (.pop, 1) := dk_87 (dk_at dksJ10_init_1 3 rfl rfl)
theorem dJ10_init_28 : decode cJ10_init 28 = .ok (.return_, 1) := dk_177 (dk_at dksJ10_init_1 4 rfl rfl)
abbrev cJ10_init_2 : ByteArray := prog_36_method_2_code
def yJ10_init_2 : MethodName := ⟨RJ10, "<init>", "(Ljava/lang/String;)V"⟩
def dkwJ10_init_2_1 : List UInt8 := [182, 0, 27, 87, 42, 43, 181, 0, 31, 177]
abbrev dktJ10_init_2_1 : List UInt8 := dkwJ10_init_2_1 ++ []
def dkwJ10_init_2_0 : List UInt8 := [42, 183, 0, 1, 42, 42, 181, 0, 7, 42, 178, 0, 13, 181, 0, 17, 42, 178, 0, 20, 181, 0, 24, 42]
abbrev dktJ10_init_2_0 : List UInt8 := dkwJ10_init_2_0 ++ dktJ10_init_2_1
theorem dksJ10_init_2_0 : cJ10_init_2.data.toList.drop 0 = dktJ10_init_2_0 := by decide +kernel
theorem dksJ10_init_2_1 : cJ10_init_2.data.toList.drop 24 = dktJ10_init_2_1 := dk_seg dksJ10_init_2_0 24 rfl rfl
theorem dJ10_init_2_0 : decode cJ10_init_2 0 = .ok (.aload_n 0, 1) := dk_42 (dk_at dksJ10_init_2_0 0 rfl rfl)
theorem dJ10_init_2_1 : decode cJ10_init_2 1 = .ok (.invokespecial 1, 3) := dk_183 0 1 (dk_at dksJ10_init_2_0 1 rfl rfl)
theorem dJ10_init_2_4 : decode cJ10_init_2 4 = .ok (.aload_n 0, 1) := dk_42 (dk_at dksJ10_init_2_0 4 rfl rfl)
theorem dJ10_init_2_5 : decode cJ10_init_2 5 = .ok (.aload_n 0, 1) := dk_42 (dk_at dksJ10_init_2_0 5 rfl rfl)
theorem dJ10_init_2_6 : decode cJ10_init_2 6 = .ok (.putfield 7, 3) := dk_181 0 7 (dk_at dksJ10_init_2_0 6 rfl rfl)
theorem dJ10_init_2_9 : decode cJ10_init_2 9 = .ok (.aload_n 0, 1) := dk_42 (dk_at dksJ10_init_2_0 9 rfl rfl)
theorem dJ10_init_2_10 : decode cJ10_init_2 10 = .ok (.getstatic 13, 3) := dk_178 0 13 (dk_at dksJ10_init_2_0 10 rfl rfl)
theorem dJ10_init_2_13 : decode cJ10_init_2 13 = .ok (.putfield 17, 3) := dk_181 0 17 (dk_at dksJ10_init_2_0 13 rfl rfl)
theorem dJ10_init_2_16 : decode cJ10_init_2 16 = .ok (.aload_n 0, 1) := dk_42 (dk_at dksJ10_init_2_0 16 rfl rfl)
theorem dJ10_init_2_17 : decode cJ10_init_2 17 = .ok (.getstatic 20, 3) := dk_178 0 20 (dk_at dksJ10_init_2_0 17 rfl rfl)
theorem dJ10_init_2_20 : decode cJ10_init_2 20 = .ok (.putfield 24, 3) := dk_181 0 24 (dk_at dksJ10_init_2_0 20 rfl rfl)
theorem dJ10_init_2_23 : decode cJ10_init_2 23 = .ok (.aload_n 0, 1) := dk_42 (dk_at dksJ10_init_2_0 23 rfl rfl)
theorem dJ10_init_2_24 : decode cJ10_init_2 24 = .ok (.invokevirtual 27, 3) := dk_182 0 27 (dk_at dksJ10_init_2_1 0 rfl rfl)
theorem dJ10_init_2_27 : decode cJ10_init_2 27 = .ok (.pop, 1) := dk_87 (dk_at dksJ10_init_2_1 3 rfl rfl)
theorem dJ10_init_2_28 : decode cJ10_init_2 28 = .ok (.aload_n 0, 1) := dk_42 (dk_at dksJ10_init_2_1 4 rfl rfl)
theorem dJ10_init_2_29 : decode cJ10_init_2 29 = .ok (.aload_n 1, 1) := dk_43 (dk_at dksJ10_init_2_1 5 rfl rfl)
theorem dJ10_init_2_30 : decode cJ10_init_2 30 = .ok (.putfield 31, 3) := dk_181 0 31 (dk_at dksJ10_init_2_1 6 rfl rfl)
theorem dJ10_init_2_33 : decode cJ10_init_2 33 = .ok (.return_, 1) := dk_177 (dk_at dksJ10_init_2_1 9 rfl rfl)
abbrev cJ10_init_3 : ByteArray := prog_36_method_4_code
def yJ10_init_3 : MethodName := ⟨RJ10, "<init>", "(Ljava/lang/Throwable;)V"⟩
def dkwJ10_init_3_2 : List UInt8 := [181, 0, 7, 177]
abbrev dktJ10_init_3_2 : List UInt8 := dkwJ10_init_3_2 ++ []
def dkwJ10_init_3_1 : List UInt8 := [182, 0, 27, 87, 42, 43, 199, 0, 7, 1, 167, 0, 7, 43, 182, 0, 35, 181, 0, 31, 42, 43]
abbrev dktJ10_init_3_1 : List UInt8 := dkwJ10_init_3_1 ++ dktJ10_init_3_2
def dkwJ10_init_3_0 : List UInt8 := [42, 183, 0, 1, 42, 42, 181, 0, 7, 42, 178, 0, 13, 181, 0, 17, 42, 178, 0, 20, 181, 0, 24, 42]
abbrev dktJ10_init_3_0 : List UInt8 := dkwJ10_init_3_0 ++ dktJ10_init_3_1
theorem dksJ10_init_3_0 : cJ10_init_3.data.toList.drop 0 = dktJ10_init_3_0 := by decide +kernel
theorem dksJ10_init_3_1 : cJ10_init_3.data.toList.drop 24 = dktJ10_init_3_1 := dk_seg dksJ10_init_3_0 24 rfl rfl
theorem dksJ10_init_3_2 : cJ10_init_3.data.toList.drop 46 = dktJ10_init_3_2 := dk_seg dksJ10_init_3_1 22 rfl rfl
theorem dJ10_init_3_0 : decode cJ10_init_3 0 = .ok (.aload_n 0, 1) := dk_42 (dk_at dksJ10_init_3_0 0 rfl rfl)
theorem dJ10_init_3_1 : decode cJ10_init_3 1 = .ok (.invokespecial 1, 3) := dk_183 0 1 (dk_at dksJ10_init_3_0 1 rfl rfl)
theorem dJ10_init_3_4 : decode cJ10_init_3 4 = .ok (.aload_n 0, 1) := dk_42 (dk_at dksJ10_init_3_0 4 rfl rfl)
theorem dJ10_init_3_5 : decode cJ10_init_3 5 = .ok (.aload_n 0, 1) := dk_42 (dk_at dksJ10_init_3_0 5 rfl rfl)
theorem dJ10_init_3_6 : decode cJ10_init_3 6 = .ok (.putfield 7, 3) := dk_181 0 7 (dk_at dksJ10_init_3_0 6 rfl rfl)
theorem dJ10_init_3_9 : decode cJ10_init_3 9 = .ok (.aload_n 0, 1) := dk_42 (dk_at dksJ10_init_3_0 9 rfl rfl)
theorem dJ10_init_3_10 : decode cJ10_init_3 10 = .ok (.getstatic 13, 3) := dk_178 0 13 (dk_at dksJ10_init_3_0 10 rfl rfl)
theorem dJ10_init_3_13 : decode cJ10_init_3 13 = .ok (.putfield 17, 3) := dk_181 0 17 (dk_at dksJ10_init_3_0 13 rfl rfl)
theorem dJ10_init_3_16 : decode cJ10_init_3 16 = .ok (.aload_n 0, 1) := dk_42 (dk_at dksJ10_init_3_0 16 rfl rfl)
theorem dJ10_init_3_17 : decode cJ10_init_3 17 = .ok (.getstatic 20, 3) := dk_178 0 20 (dk_at dksJ10_init_3_0 17 rfl rfl)
theorem dJ10_init_3_20 : decode cJ10_init_3 20 = .ok (.putfield 24, 3) := dk_181 0 24 (dk_at dksJ10_init_3_0 20 rfl rfl)
theorem dJ10_init_3_23 : decode cJ10_init_3 23 = .ok (.aload_n 0, 1) := dk_42 (dk_at dksJ10_init_3_0 23 rfl rfl)
theorem dJ10_init_3_24 : decode cJ10_init_3 24 = .ok (.invokevirtual 27, 3) := dk_182 0 27 (dk_at dksJ10_init_3_1 0 rfl rfl)
theorem dJ10_init_3_27 : decode cJ10_init_3 27 = .ok (.pop, 1) := dk_87 (dk_at dksJ10_init_3_1 3 rfl rfl)
theorem dJ10_init_3_28 : decode cJ10_init_3 28 = .ok (.aload_n 0, 1) := dk_42 (dk_at dksJ10_init_3_1 4 rfl rfl)
theorem dJ10_init_3_29 : decode cJ10_init_3 29 = .ok (.aload_n 1, 1) := dk_43 (dk_at dksJ10_init_3_1 5 rfl rfl)
theorem dJ10_init_3_30 : decode cJ10_init_3 30 = .ok (.ifnonnull 7, 3) := dk_199 0 7 (dk_at dksJ10_init_3_1 6 rfl rfl)
theorem dJ10_init_3_33 : decode cJ10_init_3 33 = .ok (.aconst_null, 1) := dk_1 (dk_at dksJ10_init_3_1 9 rfl rfl)
theorem dJ10_init_3_34 : decode cJ10_init_3 34 = .ok (.goto 7, 3) := dk_167 0 7 (dk_at dksJ10_init_3_1 10 rfl rfl)
theorem dJ10_init_3_37 : decode cJ10_init_3 37 = .ok (.aload_n 1, 1) := dk_43 (dk_at dksJ10_init_3_1 13 rfl rfl)
theorem dJ10_init_3_38 : decode cJ10_init_3 38 = .ok (.invokevirtual 35, 3) := dk_182 0 35 (dk_at dksJ10_init_3_1 14 rfl rfl)
theorem dJ10_init_3_41 : decode cJ10_init_3 41 = .ok (.putfield 31, 3) := dk_181 0 31 (dk_at dksJ10_init_3_1 17 rfl rfl)
theorem dJ10_init_3_44 : decode cJ10_init_3 44 = .ok (.aload_n 0, 1) := dk_42 (dk_at dksJ10_init_3_1 20 rfl rfl)
theorem dJ10_init_3_45 : decode cJ10_init_3 45 = .ok (.aload_n 1, 1) := dk_43 (dk_at dksJ10_init_3_1 21 rfl rfl)
theorem dJ10_init_3_46 : decode cJ10_init_3 46 = .ok (.putfield 7, 3) := dk_181 0 7 (dk_at dksJ10_init_3_2 0 rfl rfl)
theorem dJ10_init_3_49 : decode cJ10_init_3 49 = .ok (.return_, 1) := dk_177 (dk_at dksJ10_init_3_2 3 rfl rfl)
abbrev cJ10_toString : ByteArray := prog_36_method_11_code
def yJ10_toString : MethodName := ⟨RJ10, "toString", "()Ljava/lang/String;"⟩
def dkwJ10_toString_1 : List UInt8 := [43, 182, 0, 49, 18, 81, 182, 0, 49, 44, 182, 0, 49, 182, 0, 60, 167, 0, 4, 43, 176]
abbrev dktJ10_toString_1 : List UInt8 := dkwJ10_toString_1 ++ []
def dkwJ10_toString_0 : List UInt8 := [42, 182, 0, 69, 182, 0, 73, 76, 42, 182, 0, 78, 77, 44, 198, 0, 29, 187, 0, 44, 89, 183, 0, 46]
abbrev dktJ10_toString_0 : List UInt8 := dkwJ10_toString_0 ++ dktJ10_toString_1
theorem dksJ10_toString_0 : cJ10_toString.data.toList.drop 0 = dktJ10_toString_0 := by decide +kernel
theorem dksJ10_toString_1 : cJ10_toString.data.toList.drop 24 = dktJ10_toString_1 := dk_seg dksJ10_toString_0 24 rfl rfl
theorem dJ10_toString_0 : decode cJ10_toString 0 = .ok (.aload_n 0, 1) := dk_42 (dk_at dksJ10_toString_0 0 rfl rfl)
theorem dJ10_toString_1 : decode cJ10_toString 1 = .ok (.invokevirtual 69, 3) := dk_182 0 69 (dk_at dksJ10_toString_0 1 rfl rfl)
theorem dJ10_toString_4 : decode cJ10_toString 4 = .ok (.invokevirtual 73, 3) := dk_182 0 73 (dk_at dksJ10_toString_0 4 rfl rfl)
theorem dJ10_toString_7 : decode cJ10_toString 7 = .ok (.astore_n 1, 1) := dk_76 (dk_at dksJ10_toString_0 7 rfl rfl)
theorem dJ10_toString_8 : decode cJ10_toString 8 = .ok (.aload_n 0, 1) := dk_42 (dk_at dksJ10_toString_0 8 rfl rfl)
theorem dJ10_toString_9 : decode cJ10_toString 9 = .ok (.invokevirtual 78, 3) := dk_182 0 78 (dk_at dksJ10_toString_0 9 rfl rfl)
theorem dJ10_toString_12 : decode cJ10_toString 12 = .ok (.astore_n 2, 1) := dk_77 (dk_at dksJ10_toString_0 12 rfl rfl)
theorem dJ10_toString_13 : decode cJ10_toString 13 = .ok (.aload_n 2, 1) := dk_44 (dk_at dksJ10_toString_0 13 rfl rfl)
theorem dJ10_toString_14 : decode cJ10_toString 14 = .ok (.ifnull 29, 3) := dk_198 0 29 (dk_at dksJ10_toString_0 14 rfl rfl)
theorem dJ10_toString_17 : decode cJ10_toString 17 = .ok (.new 44, 3) := dk_187 0 44 (dk_at dksJ10_toString_0 17 rfl rfl)
theorem dJ10_toString_20 : decode cJ10_toString 20 = .ok (.dup, 1) := dk_89 (dk_at dksJ10_toString_0 20 rfl rfl)
theorem dJ10_toString_21 : decode cJ10_toString 21 = .ok (.invokespecial 46, 3) := dk_183 0 46 (dk_at dksJ10_toString_0 21 rfl rfl)
theorem dJ10_toString_24 : decode cJ10_toString 24 = .ok (.aload_n 1, 1) := dk_43 (dk_at dksJ10_toString_1 0 rfl rfl)
theorem dJ10_toString_25 : decode cJ10_toString 25 = .ok (.invokevirtual 49, 3) := dk_182 0 49 (dk_at dksJ10_toString_1 1 rfl rfl)
theorem dJ10_toString_28 : decode cJ10_toString 28 = .ok (.ldc 81, 2) := dk_18 81 (dk_at dksJ10_toString_1 4 rfl rfl)
theorem dJ10_toString_30 : decode cJ10_toString 30 = .ok (.invokevirtual 49, 3) := dk_182 0 49 (dk_at dksJ10_toString_1 6 rfl rfl)
theorem dJ10_toString_33 : decode cJ10_toString 33 = .ok (.aload_n 2, 1) := dk_44 (dk_at dksJ10_toString_1 9 rfl rfl)
theorem dJ10_toString_34 : decode cJ10_toString 34 = .ok (.invokevirtual 49, 3) := dk_182 0 49 (dk_at dksJ10_toString_1 10 rfl rfl)
theorem dJ10_toString_37 : decode cJ10_toString 37 = .ok (.invokevirtual 60, 3) := dk_182 0 60 (dk_at dksJ10_toString_1 13 rfl rfl)
theorem dJ10_toString_40 : decode cJ10_toString 40 = .ok (.goto 4, 3) := dk_167 0 4 (dk_at dksJ10_toString_1 16 rfl rfl)
theorem dJ10_toString_43 : decode cJ10_toString 43 = .ok (.aload_n 1, 1) := dk_43 (dk_at dksJ10_toString_1 19 rfl rfl)
theorem dJ10_toString_44 : decode cJ10_toString 44 = .ok (.areturn, 1) := dk_176 (dk_at dksJ10_toString_1 20 rfl rfl)
abbrev cJ10_getLocalizedMessage : ByteArray := prog_36_method_7_code
def yJ10_getLocalizedMessage : MethodName := ⟨RJ10, "getLocalizedMessage", "()Ljava/lang/String;"⟩
theorem dJ10_getLocalizedMessage_0 : decode cJ10_getLocalizedMessage 0 = .ok (.aload_n 0, 1) := by decide +kernel
theorem dJ10_getLocalizedMessage_1 : decode cJ10_getLocalizedMessage 1 = .ok (.invokevirtual 39, 3) := by decide +kernel
theorem dJ10_getLocalizedMessage_4 : decode cJ10_getLocalizedMessage 4 = .ok (.areturn, 1) := by decide +kernel
abbrev cJ10_getMessage : ByteArray := prog_36_method_6_code
def yJ10_getMessage : MethodName := ⟨RJ10, "getMessage", "()Ljava/lang/String;"⟩
theorem dJ10_getMessage_0 : decode cJ10_getMessage 0 = .ok (.aload_n 0, 1) := by decide +kernel
theorem dJ10_getMessage_1 : decode cJ10_getMessage 1 = .ok (.getfield 31, 3) := by decide +kernel
theorem dJ10_getMessage_4 : decode cJ10_getMessage 4 = .ok (.areturn, 1) := by decide +kernel
abbrev cJ11_init : ByteArray := prog_18_method_2_code
def yJ11_init : MethodName := ⟨RJ11, "<init>", "(Ljava/lang/String;)V"⟩
def dkwJ11_init_0 : List UInt8 := [42, 43, 183, 0, 7, 177]
abbrev dktJ11_init_0 : List UInt8 := dkwJ11_init_0 ++ []
theorem dksJ11_init_0 : cJ11_init.data.toList.drop 0 = dktJ11_init_0 := by decide +kernel
theorem dJ11_init_0 : decode cJ11_init 0 = .ok (.aload_n 0, 1) := dk_42 (dk_at dksJ11_init_0 0 rfl rfl)
theorem dJ11_init_1 : decode cJ11_init 1 = .ok (.aload_n 1, 1) := dk_43 (dk_at dksJ11_init_0 1 rfl rfl)
theorem dJ11_init_2 : decode cJ11_init 2 = .ok (.invokespecial 7, 3) := dk_183 0 7 (dk_at dksJ11_init_0 2 rfl rfl)
theorem dJ11_init_5 : decode cJ11_init 5 = .ok (.return_, 1) := dk_177 (dk_at dksJ11_init_0 5 rfl rfl)
abbrev cJ11_init_2 : ByteArray := prog_18_method_4_code
def yJ11_init_2 : MethodName := ⟨RJ11, "<init>", "(Ljava/lang/Throwable;)V"⟩
def dkwJ11_init_2_0 : List UInt8 := [42, 43, 183, 0, 13, 177]
abbrev dktJ11_init_2_0 : List UInt8 := dkwJ11_init_2_0 ++ []
theorem dksJ11_init_2_0 : cJ11_init_2.data.toList.drop 0 = dktJ11_init_2_0 := by decide +kernel
theorem dJ11_init_2_0 : decode cJ11_init_2 0 = .ok (.aload_n 0, 1) := dk_42 (dk_at dksJ11_init_2_0 0 rfl rfl)
theorem dJ11_init_2_1 : decode cJ11_init_2 1 = .ok (.aload_n 1, 1) := dk_43 (dk_at dksJ11_init_2_0 1 rfl rfl)
theorem dJ11_init_2_2 : decode cJ11_init_2 2 = .ok (.invokespecial 13, 3) := dk_183 0 13 (dk_at dksJ11_init_2_0 2 rfl rfl)
theorem dJ11_init_2_5 : decode cJ11_init_2 5 = .ok (.return_, 1) := dk_177 (dk_at dksJ11_init_2_0 5 rfl rfl)
abbrev cJ11_init_3 : ByteArray := prog_18_method_1_code
def yJ11_init_3 : MethodName := ⟨RJ11, "<init>", "()V"⟩
theorem dJ11_init_3_0 : decode cJ11_init_3 0 = .ok (.aload_n 0, 1) := by decide +kernel
theorem dJ11_init_3_1 : decode cJ11_init_3 1 = .ok (.invokespecial 1, 3) := by decide +kernel
theorem dJ11_init_3_4 : decode cJ11_init_3 4 = .ok (.return_, 1) := by decide +kernel
abbrev cJ12_init : ByteArray := prog_28_method_2_code
def yJ12_init : MethodName := ⟨RJ12, "<init>", "(Ljava/lang/String;)V"⟩
def dkwJ12_init_0 : List UInt8 := [42, 43, 183, 0, 7, 177]
abbrev dktJ12_init_0 : List UInt8 := dkwJ12_init_0 ++ []
theorem dksJ12_init_0 : cJ12_init.data.toList.drop 0 = dktJ12_init_0 := by decide +kernel
theorem dJ12_init_0 : decode cJ12_init 0 = .ok (.aload_n 0, 1) := dk_42 (dk_at dksJ12_init_0 0 rfl rfl)
theorem dJ12_init_1 : decode cJ12_init 1 = .ok (.aload_n 1, 1) := dk_43 (dk_at dksJ12_init_0 1 rfl rfl)
theorem dJ12_init_2 : decode cJ12_init 2 = .ok (.invokespecial 7, 3) := dk_183 0 7 (dk_at dksJ12_init_0 2 rfl rfl)
theorem dJ12_init_5 : decode cJ12_init 5 = .ok (.return_, 1) := dk_177 (dk_at dksJ12_init_0 5 rfl rfl)
abbrev cJ12_init_2 : ByteArray := prog_28_method_4_code
def yJ12_init_2 : MethodName := ⟨RJ12, "<init>", "(Ljava/lang/Throwable;)V"⟩
def dkwJ12_init_2_0 : List UInt8 := [42, 43, 183, 0, 13, 177]
abbrev dktJ12_init_2_0 : List UInt8 := dkwJ12_init_2_0 ++ []
theorem dksJ12_init_2_0 : cJ12_init_2.data.toList.drop 0 = dktJ12_init_2_0 := by decide +kernel
theorem dJ12_init_2_0 : decode cJ12_init_2 0 = .ok (.aload_n 0, 1) := dk_42 (dk_at dksJ12_init_2_0 0 rfl rfl)
theorem dJ12_init_2_1 : decode cJ12_init_2 1 = .ok (.aload_n 1, 1) := dk_43 (dk_at dksJ12_init_2_0 1 rfl rfl)
theorem dJ12_init_2_2 : decode cJ12_init_2 2 = .ok (.invokespecial 13, 3) := dk_183 0 13 (dk_at dksJ12_init_2_0 2 rfl rfl)
theorem dJ12_init_2_5 : decode cJ12_init_2 5 = .ok (.return_, 1) := dk_177 (dk_at dksJ12_init_2_0 5 rfl rfl)
abbrev cJ12_init_3 : ByteArray := prog_28_method_1_code
def yJ12_init_3 : MethodName := ⟨RJ12, "<init>", "()V"⟩
theorem dJ12_init_3_0 : decode cJ12_init_3 0 = .ok (.aload_n 0, 1) := by decide +kernel
theorem dJ12_init_3_1 : decode cJ12_init_3 1 = .ok (.invokespecial 1, 3) := by decide +kernel
theorem dJ12_init_3_4 : decode cJ12_init_3 4 = .ok (.return_, 1) := by decide +kernel
abbrev cJ13_init : ByteArray := prog_37_method_1_code
def yJ13_init : MethodName := ⟨RJ13, "<init>", "()V"⟩
theorem dJ13_init_0 : decode cJ13_init 0 = .ok (.aload_n 0, 1) := by decide +kernel
theorem dJ13_init_1 : decode cJ13_init 1 = .ok (.invokespecial 1, 3) := by decide +kernel
theorem dJ13_init_4 : decode cJ13_init 4 = .ok (.return_, 1) := by decide +kernel
abbrev cJ14_init : ByteArray := prog_50_method_5_code
def yJ14_init : MethodName := ⟨RJ14, "<init>", "(I)V"⟩
def dkwJ14_init_2 : List UInt8 := [27, 182, 0, 27, 42, 4, 181, 0, 24, 177]
abbrev dktJ14_init_2 : List UInt8 := dkwJ14_init_2 ++ []
def dkwJ14_init_1 : List UInt8 := [187, 0, 33, 89, 183, 0, 35, 18, 36, 182, 0, 38, 27, 182, 0, 42, 182, 0, 45, 183, 0, 49, 191, 42]
abbrev dktJ14_init_1 : List UInt8 := dkwJ14_init_1 ++ dktJ14_init_2
def dkwJ14_init_0 : List UInt8 := [42, 183, 0, 21, 42, 3, 181, 0, 7, 42, 3, 181, 0, 24, 27, 156, 0, 30, 187, 0, 31, 89]
abbrev dktJ14_init_0 : List UInt8 := dkwJ14_init_0 ++ dktJ14_init_1
theorem dksJ14_init_0 : cJ14_init.data.toList.drop 0 = dktJ14_init_0 := by decide +kernel
theorem dksJ14_init_1 : cJ14_init.data.toList.drop 22 = dktJ14_init_1 := dk_seg dksJ14_init_0 22 rfl rfl
theorem dksJ14_init_2 : cJ14_init.data.toList.drop 46 = dktJ14_init_2 := dk_seg dksJ14_init_1 24 rfl rfl
theorem dJ14_init_0 : decode cJ14_init 0 = .ok (.aload_n 0, 1) := dk_42 (dk_at dksJ14_init_0 0 rfl rfl)
theorem dJ14_init_1 : decode cJ14_init 1 = .ok (.invokespecial 21, 3) := dk_183 0 21 (dk_at dksJ14_init_0 1 rfl rfl)
theorem dJ14_init_4 : decode cJ14_init 4 = .ok (.aload_n 0, 1) := dk_42 (dk_at dksJ14_init_0 4 rfl rfl)
theorem dJ14_init_5 : decode cJ14_init 5 = .ok (.iconst 0, 1) := dk_3 (dk_at dksJ14_init_0 5 rfl rfl)
theorem dJ14_init_6 : decode cJ14_init 6 = .ok (.putfield 7, 3) := dk_181 0 7 (dk_at dksJ14_init_0 6 rfl rfl)
theorem dJ14_init_9 : decode cJ14_init 9 = .ok (.aload_n 0, 1) := dk_42 (dk_at dksJ14_init_0 9 rfl rfl)
theorem dJ14_init_10 : decode cJ14_init 10 = .ok (.iconst 0, 1) := dk_3 (dk_at dksJ14_init_0 10 rfl rfl)
theorem dJ14_init_11 : decode cJ14_init 11 = .ok (.putfield 24, 3) := dk_181 0 24 (dk_at dksJ14_init_0 11 rfl rfl)
theorem dJ14_init_14 : decode cJ14_init 14 = .ok (.iload_n 1, 1) := dk_27 (dk_at dksJ14_init_0 14 rfl rfl)
theorem dJ14_init_15 : decode cJ14_init 15 = .ok (.ifCond .ge 30, 3) := dk_156 0 30 (dk_at dksJ14_init_0 15 rfl rfl)
theorem dJ14_init_18 : decode cJ14_init 18 = .ok (.new 31, 3) := dk_187 0 31 (dk_at dksJ14_init_0 18 rfl rfl)
theorem dJ14_init_21 : decode cJ14_init 21 = .ok (.dup, 1) := dk_89 (dk_at dksJ14_init_0 21 rfl rfl)
theorem dJ14_init_22 : decode cJ14_init 22 = .ok (.new 33, 3) := dk_187 0 33 (dk_at dksJ14_init_1 0 rfl rfl)
theorem dJ14_init_25 : decode cJ14_init 25 = .ok (.dup, 1) := dk_89 (dk_at dksJ14_init_1 3 rfl rfl)
theorem dJ14_init_26 : decode cJ14_init 26 = .ok (.invokespecial 35, 3) := dk_183 0 35 (dk_at dksJ14_init_1 4 rfl rfl)
theorem dJ14_init_29 : decode cJ14_init 29 = .ok (.ldc 36, 2) := dk_18 36 (dk_at dksJ14_init_1 7 rfl rfl)
theorem dJ14_init_31 : decode cJ14_init 31 = .ok (.invokevirtual 38, 3) := dk_182 0 38 (dk_at dksJ14_init_1 9 rfl rfl)
theorem dJ14_init_34 : decode cJ14_init 34 = .ok (.iload_n 1, 1) := dk_27 (dk_at dksJ14_init_1 12 rfl rfl)
theorem dJ14_init_35 : decode cJ14_init 35 = .ok (.invokevirtual 42, 3) := dk_182 0 42 (dk_at dksJ14_init_1 13 rfl rfl)
theorem dJ14_init_38 : decode cJ14_init 38 = .ok (.invokevirtual 45, 3) := dk_182 0 45 (dk_at dksJ14_init_1 16 rfl rfl)
theorem dJ14_init_41 : decode cJ14_init 41 = .ok (.invokespecial 49, 3) := dk_183 0 49 (dk_at dksJ14_init_1 19 rfl rfl)
theorem dJ14_init_44 : decode cJ14_init 44 = .ok (.athrow, 1) := dk_191 (dk_at dksJ14_init_1 22 rfl rfl)
theorem dJ14_init_45 : decode cJ14_init 45 = .ok (.aload_n 0, 1) := dk_42 (dk_at dksJ14_init_1 23 rfl rfl)
theorem dJ14_init_46 : decode cJ14_init 46 = .ok (.iload_n 1, 1) := dk_27 (dk_at dksJ14_init_2 0 rfl rfl)
theorem dJ14_init_47 : decode cJ14_init 47 = .ok (.invokevirtual 27, 3) := dk_182 0 27 (dk_at dksJ14_init_2 1 rfl rfl)
theorem dJ14_init_50 : decode cJ14_init 50 = .ok (.aload_n 0, 1) := dk_42 (dk_at dksJ14_init_2 4 rfl rfl)
theorem dJ14_init_51 : decode cJ14_init 51 = .ok (.iconst 1, 1) := dk_4 (dk_at dksJ14_init_2 5 rfl rfl)
theorem dJ14_init_52 : decode cJ14_init 52 = .ok (.putfield 24, 3) := dk_181 0 24 (dk_at dksJ14_init_2 6 rfl rfl)
theorem dJ14_init_55 : decode cJ14_init 55 = .ok (.return_, 1) := dk_177 (dk_at dksJ14_init_2 9 rfl rfl)
abbrev cJ14_initWords : ByteArray := prog_50_method_6_code
def yJ14_initWords : MethodName := ⟨RJ14, "initWords", "(I)V"⟩
def dkwJ14_initWords_0 : List UInt8 := [42, 27, 4, 100, 184, 0, 52, 4, 96, 188, 11, 181, 0, 11, 177]
abbrev dktJ14_initWords_0 : List UInt8 := dkwJ14_initWords_0 ++ []
theorem dksJ14_initWords_0 : cJ14_initWords.data.toList.drop 0 = dktJ14_initWords_0 := by decide +kernel
theorem dJ14_initWords_0 : decode cJ14_initWords 0 = .ok (.aload_n 0, 1) := dk_42 (dk_at dksJ14_initWords_0 0 rfl rfl)
theorem dJ14_initWords_1 : decode cJ14_initWords 1 = .ok (.iload_n 1, 1) := dk_27 (dk_at dksJ14_initWords_0 1 rfl rfl)
theorem dJ14_initWords_2 : decode cJ14_initWords 2 = .ok (.iconst 1, 1) := dk_4 (dk_at dksJ14_initWords_0 2 rfl rfl)
theorem dJ14_initWords_3 : decode cJ14_initWords 3 = .ok (.isub, 1) := dk_100 (dk_at dksJ14_initWords_0 3 rfl rfl)
theorem dJ14_initWords_4 : decode cJ14_initWords 4 = .ok (.invokestatic 52, 3) := dk_184 0 52 (dk_at dksJ14_initWords_0 4 rfl rfl)
theorem dJ14_initWords_7 : decode cJ14_initWords 7 = .ok (.iconst 1, 1) := dk_4 (dk_at dksJ14_initWords_0 7 rfl rfl)
theorem dJ14_initWords_8 : decode cJ14_initWords 8 = .ok (.iadd, 1) := dk_96 (dk_at dksJ14_initWords_0 8 rfl rfl)
theorem dJ14_initWords_9 : decode cJ14_initWords 9 = .ok (.newarray .long, 2) := dk_188_11 (dk_at dksJ14_initWords_0 9 rfl rfl)
theorem dJ14_initWords_11 : decode cJ14_initWords 11 = .ok (.putfield 11, 3) := dk_181 0 11 (dk_at dksJ14_initWords_0 11 rfl rfl)
theorem dJ14_initWords_14 : decode cJ14_initWords 14 = .ok (.return_, 1) := dk_177 (dk_at dksJ14_initWords_0 14 rfl rfl)
abbrev cJ14_wordIndex : ByteArray := prog_50_method_1_code
def yJ14_wordIndex : MethodName := ⟨RJ14, "wordIndex", "(I)I"⟩
def dkwJ14_wordIndex_0 : List UInt8 := [26, 16, 6, 122, 172]
abbrev dktJ14_wordIndex_0 : List UInt8 := dkwJ14_wordIndex_0 ++ []
theorem dksJ14_wordIndex_0 : cJ14_wordIndex.data.toList.drop 0 = dktJ14_wordIndex_0 := by decide +kernel
theorem dJ14_wordIndex_0 : decode cJ14_wordIndex 0 = .ok (.iload_n 0, 1) := dk_26 (dk_at dksJ14_wordIndex_0 0 rfl rfl)
theorem dJ14_wordIndex_1 : decode cJ14_wordIndex 1 = .ok (.bipush 6, 2) := dk_16 6 (dk_at dksJ14_wordIndex_0 1 rfl rfl)
theorem dJ14_wordIndex_3 : decode cJ14_wordIndex 3 = .ok (.ishr, 1) := dk_122 (dk_at dksJ14_wordIndex_0 3 rfl rfl)
theorem dJ14_wordIndex_4 : decode cJ14_wordIndex 4 = .ok (.ireturn, 1) := dk_172 (dk_at dksJ14_wordIndex_0 4 rfl rfl)
abbrev cJ14_set : ByteArray := prog_50_method_20_code
def yJ14_set : MethodName := ⟨RJ14, "set", "(IZ)V"⟩
def dkwJ14_set_0 : List UInt8 := [28, 153, 0, 11, 42, 27, 182, 0, 167, 167, 0, 8, 42, 27, 182, 0, 170, 177]
abbrev dktJ14_set_0 : List UInt8 := dkwJ14_set_0 ++ []
theorem dksJ14_set_0 : cJ14_set.data.toList.drop 0 = dktJ14_set_0 := by decide +kernel
theorem dJ14_set_0 : decode cJ14_set 0 = .ok (.iload_n 2, 1) := dk_28 (dk_at dksJ14_set_0 0 rfl rfl)
theorem dJ14_set_1 : decode cJ14_set 1 = .ok (.ifCond .eq 11, 3) := dk_153 0 11 (dk_at dksJ14_set_0 1 rfl rfl)
theorem dJ14_set_4 : decode cJ14_set 4 = .ok (.aload_n 0, 1) := dk_42 (dk_at dksJ14_set_0 4 rfl rfl)
theorem dJ14_set_5 : decode cJ14_set 5 = .ok (.iload_n 1, 1) := dk_27 (dk_at dksJ14_set_0 5 rfl rfl)
theorem dJ14_set_6 : decode cJ14_set 6 = .ok (.invokevirtual 167, 3) := dk_182 0 167 (dk_at dksJ14_set_0 6 rfl rfl)
theorem dJ14_set_9 : decode cJ14_set 9 = .ok (.goto 8, 3) := dk_167 0 8 (dk_at dksJ14_set_0 9 rfl rfl)
theorem dJ14_set_12 : decode cJ14_set 12 = .ok (.aload_n 0, 1) := dk_42 (dk_at dksJ14_set_0 12 rfl rfl)
theorem dJ14_set_13 : decode cJ14_set 13 = .ok (.iload_n 1, 1) := dk_27 (dk_at dksJ14_set_0 13 rfl rfl)
theorem dJ14_set_14 : decode cJ14_set 14 = .ok (.invokevirtual 170, 3) := dk_182 0 170 (dk_at dksJ14_set_0 14 rfl rfl)
theorem dJ14_set_17 : decode cJ14_set 17 = .ok (.return_, 1) := dk_177 (dk_at dksJ14_set_0 17 rfl rfl)
abbrev cJ14_set_2 : ByteArray := prog_50_method_19_code
def yJ14_set_2 : MethodName := ⟨RJ14, "set", "(I)V"⟩
def dkwJ14_set_2_2 : List UInt8 := [10, 27, 121, 129, 80, 42, 182, 0, 56, 177]
abbrev dktJ14_set_2_2 : List UInt8 := dkwJ14_set_2_2 ++ []
def dkwJ14_set_2_1 : List UInt8 := [182, 0, 45, 183, 0, 146, 191, 27, 184, 0, 52, 61, 42, 28, 182, 0, 155, 42, 180, 0, 11, 28, 92, 47]
abbrev dktJ14_set_2_1 : List UInt8 := dkwJ14_set_2_1 ++ dktJ14_set_2_2
def dkwJ14_set_2_0 : List UInt8 := [27, 156, 0, 30, 187, 0, 142, 89, 187, 0, 33, 89, 183, 0, 35, 18, 153, 182, 0, 38, 27, 182, 0, 42]
abbrev dktJ14_set_2_0 : List UInt8 := dkwJ14_set_2_0 ++ dktJ14_set_2_1
theorem dksJ14_set_2_0 : cJ14_set_2.data.toList.drop 0 = dktJ14_set_2_0 := by decide +kernel
theorem dksJ14_set_2_1 : cJ14_set_2.data.toList.drop 24 = dktJ14_set_2_1 := dk_seg dksJ14_set_2_0 24 rfl rfl
theorem dksJ14_set_2_2 : cJ14_set_2.data.toList.drop 48 = dktJ14_set_2_2 := dk_seg dksJ14_set_2_1 24 rfl rfl
theorem dJ14_set_2_0 : decode cJ14_set_2 0 = .ok (.iload_n 1, 1) := dk_27 (dk_at dksJ14_set_2_0 0 rfl rfl)
theorem dJ14_set_2_1 : decode cJ14_set_2 1 = .ok (.ifCond .ge 30, 3) := dk_156 0 30 (dk_at dksJ14_set_2_0 1 rfl rfl)
theorem dJ14_set_2_4 : decode cJ14_set_2 4 = .ok (.new 142, 3) := dk_187 0 142 (dk_at dksJ14_set_2_0 4 rfl rfl)
theorem dJ14_set_2_7 : decode cJ14_set_2 7 = .ok (.dup, 1) := dk_89 (dk_at dksJ14_set_2_0 7 rfl rfl)
theorem dJ14_set_2_8 : decode cJ14_set_2 8 = .ok (.new 33, 3) := dk_187 0 33 (dk_at dksJ14_set_2_0 8 rfl rfl)
theorem dJ14_set_2_11 : decode cJ14_set_2 11 = .ok (.dup, 1) := dk_89 (dk_at dksJ14_set_2_0 11 rfl rfl)
theorem dJ14_set_2_12 : decode cJ14_set_2 12 = .ok (.invokespecial 35, 3) := dk_183 0 35 (dk_at dksJ14_set_2_0 12 rfl rfl)
theorem dJ14_set_2_15 : decode cJ14_set_2 15 = .ok (.ldc 153, 2) := dk_18 153 (dk_at dksJ14_set_2_0 15 rfl rfl)
theorem dJ14_set_2_17 : decode cJ14_set_2 17 = .ok (.invokevirtual 38, 3) := dk_182 0 38 (dk_at dksJ14_set_2_0 17 rfl rfl)
theorem dJ14_set_2_20 : decode cJ14_set_2 20 = .ok (.iload_n 1, 1) := dk_27 (dk_at dksJ14_set_2_0 20 rfl rfl)
theorem dJ14_set_2_21 : decode cJ14_set_2 21 = .ok (.invokevirtual 42, 3) := dk_182 0 42 (dk_at dksJ14_set_2_0 21 rfl rfl)
theorem dJ14_set_2_24 : decode cJ14_set_2 24 = .ok (.invokevirtual 45, 3) := dk_182 0 45 (dk_at dksJ14_set_2_1 0 rfl rfl)
theorem dJ14_set_2_27 : decode cJ14_set_2 27 = .ok (.invokespecial 146, 3) := dk_183 0 146 (dk_at dksJ14_set_2_1 3 rfl rfl)
theorem dJ14_set_2_30 : decode cJ14_set_2 30 = .ok (.athrow, 1) := dk_191 (dk_at dksJ14_set_2_1 6 rfl rfl)
theorem dJ14_set_2_31 : decode cJ14_set_2 31 = .ok (.iload_n 1, 1) := dk_27 (dk_at dksJ14_set_2_1 7 rfl rfl)
theorem dJ14_set_2_32 : decode cJ14_set_2 32 = .ok (.invokestatic 52, 3) := dk_184 0 52 (dk_at dksJ14_set_2_1 8 rfl rfl)
theorem dJ14_set_2_35 : decode cJ14_set_2 35 = .ok (.istore_n 2, 1) := dk_61 (dk_at dksJ14_set_2_1 11 rfl rfl)
theorem dJ14_set_2_36 : decode cJ14_set_2 36 = .ok (.aload_n 0, 1) := dk_42 (dk_at dksJ14_set_2_1 12 rfl rfl)
theorem dJ14_set_2_37 : decode cJ14_set_2 37 = .ok (.iload_n 2, 1) := dk_28 (dk_at dksJ14_set_2_1 13 rfl rfl)
theorem dJ14_set_2_38 : decode cJ14_set_2 38 = .ok (.invokevirtual 155, 3) := dk_182 0 155 (dk_at dksJ14_set_2_1 14 rfl rfl)
theorem dJ14_set_2_41 : decode cJ14_set_2 41 = .ok (.aload_n 0, 1) := dk_42 (dk_at dksJ14_set_2_1 17 rfl rfl)
theorem dJ14_set_2_42 : decode cJ14_set_2 42 = .ok (.getfield 11, 3) := dk_180 0 11 (dk_at dksJ14_set_2_1 18 rfl rfl)
theorem dJ14_set_2_45 : decode cJ14_set_2 45 = .ok (.iload_n 2, 1) := dk_28 (dk_at dksJ14_set_2_1 21 rfl rfl)
theorem dJ14_set_2_46 : decode cJ14_set_2 46 = .ok (.dup2, 1) := dk_92 (dk_at dksJ14_set_2_1 22 rfl rfl)
theorem dJ14_set_2_47 : decode cJ14_set_2 47 = .ok (.laload, 1) := dk_47 (dk_at dksJ14_set_2_1 23 rfl rfl)
theorem dJ14_set_2_48 : decode cJ14_set_2 48 = .ok (.lconst 1, 1) := dk_10 (dk_at dksJ14_set_2_2 0 rfl rfl)
theorem dJ14_set_2_49 : decode cJ14_set_2 49 = .ok (.iload_n 1, 1) := dk_27 (dk_at dksJ14_set_2_2 1 rfl rfl)
theorem dJ14_set_2_50 : decode cJ14_set_2 50 = .ok (.lshl, 1) := dk_121 (dk_at dksJ14_set_2_2 2 rfl rfl)
theorem dJ14_set_2_51 : decode cJ14_set_2 51 = .ok (.lor, 1) := dk_129 (dk_at dksJ14_set_2_2 3 rfl rfl)
theorem dJ14_set_2_52 : decode cJ14_set_2 52 = .ok (.lastore, 1) := dk_80 (dk_at dksJ14_set_2_2 4 rfl rfl)
theorem dJ14_set_2_53 : decode cJ14_set_2 53 = .ok (.aload_n 0, 1) := dk_42 (dk_at dksJ14_set_2_2 5 rfl rfl)
theorem dJ14_set_2_54 : decode cJ14_set_2 54 = .ok (.invokevirtual 56, 3) := dk_182 0 56 (dk_at dksJ14_set_2_2 6 rfl rfl)
theorem dJ14_set_2_57 : decode cJ14_set_2 57 = .ok (.return_, 1) := dk_177 (dk_at dksJ14_set_2_2 9 rfl rfl)
abbrev cJ14_expandTo : ByteArray := prog_50_method_15_code
def yJ14_expandTo : MethodName := ⟨RJ14, "expandTo", "(I)V"⟩
def dkwJ14_expandTo_0 : List UInt8 := [27, 4, 96, 61, 42, 180, 0, 7, 28, 162, 0, 13, 42, 28, 182, 0, 139, 42, 28, 181, 0, 7, 177]
abbrev dktJ14_expandTo_0 : List UInt8 := dkwJ14_expandTo_0 ++ []
theorem dksJ14_expandTo_0 : cJ14_expandTo.data.toList.drop 0 = dktJ14_expandTo_0 := by decide +kernel
theorem dJ14_expandTo_0 : decode cJ14_expandTo 0 = .ok (.iload_n 1, 1) := dk_27 (dk_at dksJ14_expandTo_0 0 rfl rfl)
theorem dJ14_expandTo_1 : decode cJ14_expandTo 1 = .ok (.iconst 1, 1) := dk_4 (dk_at dksJ14_expandTo_0 1 rfl rfl)
theorem dJ14_expandTo_2 : decode cJ14_expandTo 2 = .ok (.iadd, 1) := dk_96 (dk_at dksJ14_expandTo_0 2 rfl rfl)
theorem dJ14_expandTo_3 : decode cJ14_expandTo 3 = .ok (.istore_n 2, 1) := dk_61 (dk_at dksJ14_expandTo_0 3 rfl rfl)
theorem dJ14_expandTo_4 : decode cJ14_expandTo 4 = .ok (.aload_n 0, 1) := dk_42 (dk_at dksJ14_expandTo_0 4 rfl rfl)
theorem dJ14_expandTo_5 : decode cJ14_expandTo 5 = .ok (.getfield 7, 3) := dk_180 0 7 (dk_at dksJ14_expandTo_0 5 rfl rfl)
theorem dJ14_expandTo_8 : decode cJ14_expandTo 8 = .ok (.iload_n 2, 1) := dk_28 (dk_at dksJ14_expandTo_0 8 rfl rfl)
theorem dJ14_expandTo_9 : decode cJ14_expandTo 9 = .ok (.if_icmp .ge 13, 3) := dk_162 0 13 (dk_at dksJ14_expandTo_0 9 rfl rfl)
theorem dJ14_expandTo_12 : decode cJ14_expandTo 12 = .ok (.aload_n 0, 1) := dk_42 (dk_at dksJ14_expandTo_0 12 rfl rfl)
theorem dJ14_expandTo_13 : decode cJ14_expandTo 13 = .ok (.iload_n 2, 1) := dk_28 (dk_at dksJ14_expandTo_0 13 rfl rfl)
theorem dJ14_expandTo_14 : decode cJ14_expandTo 14 = .ok (.invokevirtual 139, 3) := dk_182 0 139 (dk_at dksJ14_expandTo_0 14 rfl rfl)
theorem dJ14_expandTo_17 : decode cJ14_expandTo 17 = .ok (.aload_n 0, 1) := dk_42 (dk_at dksJ14_expandTo_0 17 rfl rfl)
theorem dJ14_expandTo_18 : decode cJ14_expandTo 18 = .ok (.iload_n 2, 1) := dk_28 (dk_at dksJ14_expandTo_0 18 rfl rfl)
theorem dJ14_expandTo_19 : decode cJ14_expandTo 19 = .ok (.putfield 7, 3) := dk_181 0 7 (dk_at dksJ14_expandTo_0 19 rfl rfl)
theorem dJ14_expandTo_22 : decode cJ14_expandTo 22 = .ok (.return_, 1) := dk_177 (dk_at dksJ14_expandTo_0 22 rfl rfl)
abbrev cJ14_ensureCapacity : ByteArray := prog_50_method_14_code
def yJ14_ensureCapacity : MethodName := ⟨RJ14, "ensureCapacity", "(I)V"⟩
def dkwJ14_ensureCapacity_1 : List UInt8 := [180, 0, 11, 28, 184, 0, 59, 181, 0, 11, 42, 3, 181, 0, 24, 177]
abbrev dktJ14_ensureCapacity_1 : List UInt8 := dkwJ14_ensureCapacity_1 ++ []
def dkwJ14_ensureCapacity_0 : List UInt8 := [42, 180, 0, 11, 190, 27, 162, 0, 32, 5, 42, 180, 0, 11, 190, 104, 27, 184, 0, 133, 61, 42, 42]
abbrev dktJ14_ensureCapacity_0 : List UInt8 := dkwJ14_ensureCapacity_0 ++ dktJ14_ensureCapacity_1
theorem dksJ14_ensureCapacity_0 : cJ14_ensureCapacity.data.toList.drop 0 = dktJ14_ensureCapacity_0 := by decide +kernel
theorem dksJ14_ensureCapacity_1 : cJ14_ensureCapacity.data.toList.drop 23 = dktJ14_ensureCapacity_1 := dk_seg dksJ14_ensureCapacity_0 23 rfl rfl
theorem dJ14_ensureCapacity_0 : decode cJ14_ensureCapacity 0 = .ok (.aload_n 0, 1) := dk_42 (dk_at dksJ14_ensureCapacity_0 0 rfl rfl)
theorem dJ14_ensureCapacity_1 : decode cJ14_ensureCapacity 1 = .ok (.getfield 11, 3) := dk_180 0 11 (dk_at dksJ14_ensureCapacity_0 1 rfl rfl)
theorem dJ14_ensureCapacity_4 : decode cJ14_ensureCapacity 4 = .ok (.arraylength, 1) := dk_190 (dk_at dksJ14_ensureCapacity_0 4 rfl rfl)
theorem dJ14_ensureCapacity_5 : decode cJ14_ensureCapacity 5 = .ok (.iload_n 1, 1) := dk_27 (dk_at dksJ14_ensureCapacity_0 5 rfl rfl)
theorem dJ14_ensureCapacity_6 : decode cJ14_ensureCapacity 6 = .ok (.if_icmp .ge 32, 3) := dk_162 0 32 (dk_at dksJ14_ensureCapacity_0 6 rfl rfl)
theorem dJ14_ensureCapacity_9 : decode cJ14_ensureCapacity 9 = .ok (.iconst 2, 1) := dk_5 (dk_at dksJ14_ensureCapacity_0 9 rfl rfl)
theorem dJ14_ensureCapacity_10 : decode cJ14_ensureCapacity 10 = .ok (.aload_n 0, 1) := dk_42 (dk_at dksJ14_ensureCapacity_0 10 rfl rfl)
theorem dJ14_ensureCapacity_11 : decode cJ14_ensureCapacity 11 = .ok (.getfield 11, 3) := dk_180 0 11 (dk_at dksJ14_ensureCapacity_0 11 rfl rfl)
theorem dJ14_ensureCapacity_14 : decode cJ14_ensureCapacity 14 = .ok (.arraylength, 1) := dk_190 (dk_at dksJ14_ensureCapacity_0 14 rfl rfl)
theorem dJ14_ensureCapacity_15 : decode cJ14_ensureCapacity 15 = .ok (.imul, 1) := dk_104 (dk_at dksJ14_ensureCapacity_0 15 rfl rfl)
theorem dJ14_ensureCapacity_16 : decode cJ14_ensureCapacity 16 = .ok (.iload_n 1, 1) := dk_27 (dk_at dksJ14_ensureCapacity_0 16 rfl rfl)
theorem dJ14_ensureCapacity_17 : decode cJ14_ensureCapacity 17 = .ok (.invokestatic 133, 3) := dk_184 0 133 (dk_at dksJ14_ensureCapacity_0 17 rfl rfl)
theorem dJ14_ensureCapacity_20 : decode cJ14_ensureCapacity 20 = .ok (.istore_n 2, 1) := dk_61 (dk_at dksJ14_ensureCapacity_0 20 rfl rfl)
theorem dJ14_ensureCapacity_21 : decode cJ14_ensureCapacity 21 = .ok (.aload_n 0, 1) := dk_42 (dk_at dksJ14_ensureCapacity_0 21 rfl rfl)
theorem dJ14_ensureCapacity_22 : decode cJ14_ensureCapacity 22 = .ok (.aload_n 0, 1) := dk_42 (dk_at dksJ14_ensureCapacity_0 22 rfl rfl)
theorem dJ14_ensureCapacity_23 : decode cJ14_ensureCapacity 23 = .ok (.getfield 11, 3) := dk_180 0 11 (dk_at dksJ14_ensureCapacity_1 0 rfl rfl)
theorem dJ14_ensureCapacity_26 : decode cJ14_ensureCapacity 26 = .ok (.iload_n 2, 1) := dk_28 (dk_at dksJ14_ensureCapacity_1 3 rfl rfl)
theorem dJ14_ensureCapacity_27 : decode cJ14_ensureCapacity 27 = .ok (.invokestatic 59, 3) := dk_184 0 59 (dk_at dksJ14_ensureCapacity_1 4 rfl rfl)
theorem dJ14_ensureCapacity_30 : decode cJ14_ensureCapacity 30 = .ok (.putfield 11, 3) := dk_181 0 11 (dk_at dksJ14_ensureCapacity_1 7 rfl rfl)
theorem dJ14_ensureCapacity_33 : decode cJ14_ensureCapacity 33 = .ok (.aload_n 0, 1) := dk_42 (dk_at dksJ14_ensureCapacity_1 10 rfl rfl)
theorem dJ14_ensureCapacity_34 : decode cJ14_ensureCapacity 34 = .ok (.iconst 0, 1) := dk_3 (dk_at dksJ14_ensureCapacity_1 11 rfl rfl)
theorem dJ14_ensureCapacity_35 : decode cJ14_ensureCapacity 35 = .ok (.putfield 24, 3) := dk_181 0 24 (dk_at dksJ14_ensureCapacity_1 12 rfl rfl)
theorem dJ14_ensureCapacity_38 : decode cJ14_ensureCapacity 38 = .ok (.return_, 1) := dk_177 (dk_at dksJ14_ensureCapacity_1 15 rfl rfl)
abbrev cJ14_checkInvariants : ByteArray := prog_50_method_2_code
def yJ14_checkInvariants : MethodName := ⟨RJ14, "checkInvariants", "()V"⟩
def dkwJ14_checkInvariants_4 : List UInt8 := [180, 0, 7, 47, 9, 148, 153, 0, 11, 187, 0, 15, 89, 183, 0, 17, 191, 177]
abbrev dktJ14_checkInvariants_4 : List UInt8 := dkwJ14_checkInvariants_4 ++ []
def dkwJ14_checkInvariants_3 : List UInt8 := [178, 0, 3, 154, 0, 37, 42, 180, 0, 7, 42, 180, 0, 11, 190, 159, 0, 25, 42, 180, 0, 11, 42]
abbrev dktJ14_checkInvariants_3 : List UInt8 := dkwJ14_checkInvariants_3 ++ dktJ14_checkInvariants_4
def dkwJ14_checkInvariants_2 : List UInt8 := [155, 0, 15, 42, 180, 0, 7, 42, 180, 0, 11, 190, 164, 0, 11, 187, 0, 15, 89, 183, 0, 17, 191]
abbrev dktJ14_checkInvariants_2 : List UInt8 := dkwJ14_checkInvariants_2 ++ dktJ14_checkInvariants_3
def dkwJ14_checkInvariants_1 : List UInt8 := [9, 148, 154, 0, 11, 187, 0, 15, 89, 183, 0, 17, 191, 178, 0, 3, 154, 0, 30, 42, 180, 0, 7]
abbrev dktJ14_checkInvariants_1 : List UInt8 := dkwJ14_checkInvariants_1 ++ dktJ14_checkInvariants_2
def dkwJ14_checkInvariants_0 : List UInt8 := [178, 0, 3, 154, 0, 34, 42, 180, 0, 7, 153, 0, 27, 42, 180, 0, 11, 42, 180, 0, 7, 4, 100, 47]
abbrev dktJ14_checkInvariants_0 : List UInt8 := dkwJ14_checkInvariants_0 ++ dktJ14_checkInvariants_1
theorem dksJ14_checkInvariants_0 : cJ14_checkInvariants.data.toList.drop 0 = dktJ14_checkInvariants_0 := by decide +kernel
theorem dksJ14_checkInvariants_1 : cJ14_checkInvariants.data.toList.drop 24 = dktJ14_checkInvariants_1 := dk_seg dksJ14_checkInvariants_0 24 rfl rfl
theorem dksJ14_checkInvariants_2 : cJ14_checkInvariants.data.toList.drop 47 = dktJ14_checkInvariants_2 := dk_seg dksJ14_checkInvariants_1 23 rfl rfl
theorem dksJ14_checkInvariants_3 : cJ14_checkInvariants.data.toList.drop 70 = dktJ14_checkInvariants_3 := dk_seg dksJ14_checkInvariants_2 23 rfl rfl
theorem dksJ14_checkInvariants_4 : cJ14_checkInvariants.data.toList.drop 93 = dktJ14_checkInvariants_4 := dk_seg dksJ14_checkInvariants_3 23 rfl rfl
theorem dJ14_checkInvariants_0 : decode cJ14_checkInvariants 0 = .ok (.getstatic 3, 3) := dk_178 0 3 (dk_at dksJ14_checkInvariants_0 0 rfl rfl)
theorem dJ14_checkInvariants_3 : decode cJ14_checkInvariants 3 = .ok (.ifCond .ne 34, 3) := dk_154 0 34 (dk_at dksJ14_checkInvariants_0 3 rfl rfl)
theorem dJ14_checkInvariants_6 : decode cJ14_checkInvariants 6 = .ok (.aload_n 0, 1) := dk_42 (dk_at dksJ14_checkInvariants_0 6 rfl rfl)
theorem dJ14_checkInvariants_7 : decode cJ14_checkInvariants 7 = .ok (.getfield 7, 3) := dk_180 0 7 (dk_at dksJ14_checkInvariants_0 7 rfl rfl)
theorem dJ14_checkInvariants_10 : decode cJ14_checkInvariants 10 = .ok (.ifCond .eq 27, 3) := dk_153 0 27 (dk_at dksJ14_checkInvariants_0 10 rfl rfl)
theorem dJ14_checkInvariants_13 : decode cJ14_checkInvariants 13 = .ok (.aload_n 0, 1) := dk_42 (dk_at dksJ14_checkInvariants_0 13 rfl rfl)
theorem dJ14_checkInvariants_14 : decode cJ14_checkInvariants 14 = .ok (.getfield 11, 3) := dk_180 0 11 (dk_at dksJ14_checkInvariants_0 14 rfl rfl)
theorem dJ14_checkInvariants_17 : decode cJ14_checkInvariants 17 = .ok (.aload_n 0, 1) := dk_42 (dk_at dksJ14_checkInvariants_0 17 rfl rfl)
theorem dJ14_checkInvariants_18 : decode cJ14_checkInvariants 18 = .ok (.getfield 7, 3) := dk_180 0 7 (dk_at dksJ14_checkInvariants_0 18 rfl rfl)
theorem dJ14_checkInvariants_21 : decode cJ14_checkInvariants 21 = .ok (.iconst 1, 1) := dk_4 (dk_at dksJ14_checkInvariants_0 21 rfl rfl)
theorem dJ14_checkInvariants_22 : decode cJ14_checkInvariants 22 = .ok (.isub, 1) := dk_100 (dk_at dksJ14_checkInvariants_0 22 rfl rfl)
theorem dJ14_checkInvariants_23 : decode cJ14_checkInvariants 23 = .ok (.laload, 1) := dk_47 (dk_at dksJ14_checkInvariants_0 23 rfl rfl)
theorem dJ14_checkInvariants_24 : decode cJ14_checkInvariants 24 = .ok (.lconst 0, 1) := dk_9 (dk_at dksJ14_checkInvariants_1 0 rfl rfl)
theorem dJ14_checkInvariants_25 : decode cJ14_checkInvariants 25 = .ok (.lcmp, 1) := dk_148 (dk_at dksJ14_checkInvariants_1 1 rfl rfl)
theorem dJ14_checkInvariants_26 : decode cJ14_checkInvariants 26 = .ok (.ifCond .ne 11, 3) := dk_154 0 11 (dk_at dksJ14_checkInvariants_1 2 rfl rfl)
theorem dJ14_checkInvariants_29 : decode cJ14_checkInvariants 29 = .ok (.new 15, 3) := dk_187 0 15 (dk_at dksJ14_checkInvariants_1 5 rfl rfl)
theorem dJ14_checkInvariants_32 : decode cJ14_checkInvariants 32 = .ok (.dup, 1) := dk_89 (dk_at dksJ14_checkInvariants_1 8 rfl rfl)
theorem dJ14_checkInvariants_33 : decode cJ14_checkInvariants 33 = .ok (.invokespecial 17, 3) := dk_183 0 17 (dk_at dksJ14_checkInvariants_1 9 rfl rfl)
theorem dJ14_checkInvariants_36 : decode cJ14_checkInvariants 36 = .ok (.athrow, 1) := dk_191 (dk_at dksJ14_checkInvariants_1 12 rfl rfl)
theorem dJ14_checkInvariants_37 : decode cJ14_checkInvariants 37 = .ok (.getstatic 3, 3) := dk_178 0 3 (dk_at dksJ14_checkInvariants_1 13 rfl rfl)
theorem dJ14_checkInvariants_40 : decode cJ14_checkInvariants 40 = .ok (.ifCond .ne 30, 3) := dk_154 0 30 (dk_at dksJ14_checkInvariants_1 16 rfl rfl)
theorem dJ14_checkInvariants_43 : decode cJ14_checkInvariants 43 = .ok (.aload_n 0, 1) := dk_42 (dk_at dksJ14_checkInvariants_1 19 rfl rfl)
theorem dJ14_checkInvariants_44 : decode cJ14_checkInvariants 44 = .ok (.getfield 7, 3) := dk_180 0 7 (dk_at dksJ14_checkInvariants_1 20 rfl rfl)
theorem dJ14_checkInvariants_47 : decode cJ14_checkInvariants 47 = .ok (.ifCond .lt 15, 3) := dk_155 0 15 (dk_at dksJ14_checkInvariants_2 0 rfl rfl)
theorem dJ14_checkInvariants_50 : decode cJ14_checkInvariants 50 = .ok (.aload_n 0, 1) := dk_42 (dk_at dksJ14_checkInvariants_2 3 rfl rfl)
theorem dJ14_checkInvariants_51 : decode cJ14_checkInvariants 51 = .ok (.getfield 7, 3) := dk_180 0 7 (dk_at dksJ14_checkInvariants_2 4 rfl rfl)
theorem dJ14_checkInvariants_54 : decode cJ14_checkInvariants 54 = .ok (.aload_n 0, 1) := dk_42 (dk_at dksJ14_checkInvariants_2 7 rfl rfl)
theorem dJ14_checkInvariants_55 : decode cJ14_checkInvariants 55 = .ok (.getfield 11, 3) := dk_180 0 11 (dk_at dksJ14_checkInvariants_2 8 rfl rfl)
theorem dJ14_checkInvariants_58 : decode cJ14_checkInvariants 58 = .ok (.arraylength, 1) := dk_190 (dk_at dksJ14_checkInvariants_2 11 rfl rfl)
theorem dJ14_checkInvariants_59 : decode cJ14_checkInvariants 59 = .ok (.if_icmp .le 11, 3) := dk_164 0 11 (dk_at dksJ14_checkInvariants_2 12 rfl rfl)
theorem dJ14_checkInvariants_62 : decode cJ14_checkInvariants 62 = .ok (.new 15, 3) := dk_187 0 15 (dk_at dksJ14_checkInvariants_2 15 rfl rfl)
theorem dJ14_checkInvariants_65 : decode cJ14_checkInvariants 65 = .ok (.dup, 1) := dk_89 (dk_at dksJ14_checkInvariants_2 18 rfl rfl)
theorem dJ14_checkInvariants_66 : decode cJ14_checkInvariants 66 = .ok (.invokespecial 17, 3) := dk_183 0 17 (dk_at dksJ14_checkInvariants_2 19 rfl rfl)
theorem dJ14_checkInvariants_69 : decode cJ14_checkInvariants 69 = .ok (.athrow, 1) := dk_191 (dk_at dksJ14_checkInvariants_2 22 rfl rfl)
theorem dJ14_checkInvariants_70 : decode cJ14_checkInvariants 70 = .ok (.getstatic 3, 3) := dk_178 0 3 (dk_at dksJ14_checkInvariants_3 0 rfl rfl)
theorem dJ14_checkInvariants_73 : decode cJ14_checkInvariants 73 = .ok (.ifCond .ne 37, 3) := dk_154 0 37 (dk_at dksJ14_checkInvariants_3 3 rfl rfl)
theorem dJ14_checkInvariants_76 : decode cJ14_checkInvariants 76 = .ok (.aload_n 0, 1) := dk_42 (dk_at dksJ14_checkInvariants_3 6 rfl rfl)
theorem dJ14_checkInvariants_77 : decode cJ14_checkInvariants 77 = .ok (.getfield 7, 3) := dk_180 0 7 (dk_at dksJ14_checkInvariants_3 7 rfl rfl)
theorem dJ14_checkInvariants_80 : decode cJ14_checkInvariants 80 = .ok (.aload_n 0, 1) := dk_42 (dk_at dksJ14_checkInvariants_3 10 rfl rfl)
theorem dJ14_checkInvariants_81 : decode cJ14_checkInvariants 81 = .ok (.getfield 11, 3) := dk_180 0 11 (dk_at dksJ14_checkInvariants_3 11 rfl rfl)
theorem dJ14_checkInvariants_84 : decode cJ14_checkInvariants 84 = .ok (.arraylength, 1) := dk_190 (dk_at dksJ14_checkInvariants_3 14 rfl rfl)
theorem dJ14_checkInvariants_85 : decode cJ14_checkInvariants 85 = .ok (.if_icmp .eq 25, 3) := dk_159 0 25 (dk_at dksJ14_checkInvariants_3 15 rfl rfl)
theorem dJ14_checkInvariants_88 : decode cJ14_checkInvariants 88 = .ok (.aload_n 0, 1) := dk_42 (dk_at dksJ14_checkInvariants_3 18 rfl rfl)
theorem dJ14_checkInvariants_89 : decode cJ14_checkInvariants 89 = .ok (.getfield 11, 3) := dk_180 0 11 (dk_at dksJ14_checkInvariants_3 19 rfl rfl)
theorem dJ14_checkInvariants_92 : decode cJ14_checkInvariants 92 = .ok (.aload_n 0, 1) := dk_42 (dk_at dksJ14_checkInvariants_3 22 rfl rfl)
theorem dJ14_checkInvariants_93 : decode cJ14_checkInvariants 93 = .ok (.getfield 7, 3) := dk_180 0 7 (dk_at dksJ14_checkInvariants_4 0 rfl rfl)
theorem dJ14_checkInvariants_96 : decode cJ14_checkInvariants 96 = .ok (.laload, 1) := dk_47 (dk_at dksJ14_checkInvariants_4 3 rfl rfl)
theorem dJ14_checkInvariants_97 : decode cJ14_checkInvariants 97 = .ok (.lconst 0, 1) := dk_9 (dk_at dksJ14_checkInvariants_4 4 rfl rfl)
theorem dJ14_checkInvariants_98 : decode cJ14_checkInvariants 98 = .ok (.lcmp, 1) := dk_148 (dk_at dksJ14_checkInvariants_4 5 rfl rfl)
theorem dJ14_checkInvariants_99 : decode cJ14_checkInvariants 99 = .ok (.ifCond .eq 11, 3) := dk_153 0 11 (dk_at dksJ14_checkInvariants_4 6 rfl rfl)
theorem dJ14_checkInvariants_102 : decode cJ14_checkInvariants 102 = .ok (.new 15, 3) := dk_187 0 15 (dk_at dksJ14_checkInvariants_4 9 rfl rfl)
theorem dJ14_checkInvariants_105 : decode cJ14_checkInvariants 105 = .ok (.dup, 1) := dk_89 (dk_at dksJ14_checkInvariants_4 12 rfl rfl)
theorem dJ14_checkInvariants_106 : decode cJ14_checkInvariants 106 = .ok (.invokespecial 17, 3) := dk_183 0 17 (dk_at dksJ14_checkInvariants_4 13 rfl rfl)
theorem dJ14_checkInvariants_109 : decode cJ14_checkInvariants 109 = .ok (.athrow, 1) := dk_191 (dk_at dksJ14_checkInvariants_4 16 rfl rfl)
theorem dJ14_checkInvariants_110 : decode cJ14_checkInvariants 110 = .ok (.return_, 1) := dk_177 (dk_at dksJ14_checkInvariants_4 17 rfl rfl)
abbrev cJ14_clear : ByteArray := prog_50_method_23_code
def yJ14_clear : MethodName := ⟨RJ14, "clear", "(I)V"⟩
def dkwJ14_clear_2 : List UInt8 := [180, 0, 11, 28, 92, 47, 10, 27, 121, 20, 0, 165, 131, 127, 80, 42, 182, 0, 158, 42, 182, 0, 56, 177]
abbrev dktJ14_clear_2 : List UInt8 := dkwJ14_clear_2 ++ []
def dkwJ14_clear_1 : List UInt8 := [182, 0, 45, 183, 0, 146, 191, 27, 184, 0, 52, 61, 28, 42, 180, 0, 7, 161, 0, 4, 177, 42]
abbrev dktJ14_clear_1 : List UInt8 := dkwJ14_clear_1 ++ dktJ14_clear_2
def dkwJ14_clear_0 : List UInt8 := [27, 156, 0, 30, 187, 0, 142, 89, 187, 0, 33, 89, 183, 0, 35, 18, 153, 182, 0, 38, 27, 182, 0, 42]
abbrev dktJ14_clear_0 : List UInt8 := dkwJ14_clear_0 ++ dktJ14_clear_1
theorem dksJ14_clear_0 : cJ14_clear.data.toList.drop 0 = dktJ14_clear_0 := by decide +kernel
theorem dksJ14_clear_1 : cJ14_clear.data.toList.drop 24 = dktJ14_clear_1 := dk_seg dksJ14_clear_0 24 rfl rfl
theorem dksJ14_clear_2 : cJ14_clear.data.toList.drop 46 = dktJ14_clear_2 := dk_seg dksJ14_clear_1 22 rfl rfl
theorem dJ14_clear_0 : decode cJ14_clear 0 = .ok (.iload_n 1, 1) := dk_27 (dk_at dksJ14_clear_0 0 rfl rfl)
theorem dJ14_clear_1 : decode cJ14_clear 1 = .ok (.ifCond .ge 30, 3) := dk_156 0 30 (dk_at dksJ14_clear_0 1 rfl rfl)
theorem dJ14_clear_4 : decode cJ14_clear 4 = .ok (.new 142, 3) := dk_187 0 142 (dk_at dksJ14_clear_0 4 rfl rfl)
theorem dJ14_clear_7 : decode cJ14_clear 7 = .ok (.dup, 1) := dk_89 (dk_at dksJ14_clear_0 7 rfl rfl)
theorem dJ14_clear_8 : decode cJ14_clear 8 = .ok (.new 33, 3) := dk_187 0 33 (dk_at dksJ14_clear_0 8 rfl rfl)
theorem dJ14_clear_11 : decode cJ14_clear 11 = .ok (.dup, 1) := dk_89 (dk_at dksJ14_clear_0 11 rfl rfl)
theorem dJ14_clear_12 : decode cJ14_clear 12 = .ok (.invokespecial 35, 3) := dk_183 0 35 (dk_at dksJ14_clear_0 12 rfl rfl)
theorem dJ14_clear_15 : decode cJ14_clear 15 = .ok (.ldc 153, 2) := dk_18 153 (dk_at dksJ14_clear_0 15 rfl rfl)
theorem dJ14_clear_17 : decode cJ14_clear 17 = .ok (.invokevirtual 38, 3) := dk_182 0 38 (dk_at dksJ14_clear_0 17 rfl rfl)
theorem dJ14_clear_20 : decode cJ14_clear 20 = .ok (.iload_n 1, 1) := dk_27 (dk_at dksJ14_clear_0 20 rfl rfl)
theorem dJ14_clear_21 : decode cJ14_clear 21 = .ok (.invokevirtual 42, 3) := dk_182 0 42 (dk_at dksJ14_clear_0 21 rfl rfl)
theorem dJ14_clear_24 : decode cJ14_clear 24 = .ok (.invokevirtual 45, 3) := dk_182 0 45 (dk_at dksJ14_clear_1 0 rfl rfl)
theorem dJ14_clear_27 : decode cJ14_clear 27 = .ok (.invokespecial 146, 3) := dk_183 0 146 (dk_at dksJ14_clear_1 3 rfl rfl)
theorem dJ14_clear_30 : decode cJ14_clear 30 = .ok (.athrow, 1) := dk_191 (dk_at dksJ14_clear_1 6 rfl rfl)
theorem dJ14_clear_31 : decode cJ14_clear 31 = .ok (.iload_n 1, 1) := dk_27 (dk_at dksJ14_clear_1 7 rfl rfl)
theorem dJ14_clear_32 : decode cJ14_clear 32 = .ok (.invokestatic 52, 3) := dk_184 0 52 (dk_at dksJ14_clear_1 8 rfl rfl)
theorem dJ14_clear_35 : decode cJ14_clear 35 = .ok (.istore_n 2, 1) := dk_61 (dk_at dksJ14_clear_1 11 rfl rfl)
theorem dJ14_clear_36 : decode cJ14_clear 36 = .ok (.iload_n 2, 1) := dk_28 (dk_at dksJ14_clear_1 12 rfl rfl)
theorem dJ14_clear_37 : decode cJ14_clear 37 = .ok (.aload_n 0, 1) := dk_42 (dk_at dksJ14_clear_1 13 rfl rfl)
theorem dJ14_clear_38 : decode cJ14_clear 38 = .ok (.getfield 7, 3) := dk_180 0 7 (dk_at dksJ14_clear_1 14 rfl rfl)
theorem dJ14_clear_41 : decode cJ14_clear 41 = .ok (.if_icmp .lt 4, 3) := dk_161 0 4 (dk_at dksJ14_clear_1 17 rfl rfl)
theorem dJ14_clear_44 : decode cJ14_clear 44 = .ok (.return_, 1) := dk_177 (dk_at dksJ14_clear_1 20 rfl rfl)
theorem dJ14_clear_45 : decode cJ14_clear 45 = .ok (.aload_n 0, 1) := dk_42 (dk_at dksJ14_clear_1 21 rfl rfl)
theorem dJ14_clear_46 : decode cJ14_clear 46 = .ok (.getfield 11, 3) := dk_180 0 11 (dk_at dksJ14_clear_2 0 rfl rfl)
theorem dJ14_clear_49 : decode cJ14_clear 49 = .ok (.iload_n 2, 1) := dk_28 (dk_at dksJ14_clear_2 3 rfl rfl)
theorem dJ14_clear_50 : decode cJ14_clear 50 = .ok (.dup2, 1) := dk_92 (dk_at dksJ14_clear_2 4 rfl rfl)
theorem dJ14_clear_51 : decode cJ14_clear 51 = .ok (.laload, 1) := dk_47 (dk_at dksJ14_clear_2 5 rfl rfl)
theorem dJ14_clear_52 : decode cJ14_clear 52 = .ok (.lconst 1, 1) := dk_10 (dk_at dksJ14_clear_2 6 rfl rfl)
theorem dJ14_clear_53 : decode cJ14_clear 53 = .ok (.iload_n 1, 1) := dk_27 (dk_at dksJ14_clear_2 7 rfl rfl)
theorem dJ14_clear_54 : decode cJ14_clear 54 = .ok (.lshl, 1) := dk_121 (dk_at dksJ14_clear_2 8 rfl rfl)
theorem dJ14_clear_55 : decode cJ14_clear 55 = .ok (.ldc2_w 165, 3) := dk_20 0 165 (dk_at dksJ14_clear_2 9 rfl rfl)
theorem dJ14_clear_58 : decode cJ14_clear 58 = .ok (.lxor, 1) := dk_131 (dk_at dksJ14_clear_2 12 rfl rfl)
theorem dJ14_clear_59 : decode cJ14_clear 59 = .ok (.land, 1) := dk_127 (dk_at dksJ14_clear_2 13 rfl rfl)
theorem dJ14_clear_60 : decode cJ14_clear 60 = .ok (.lastore, 1) := dk_80 (dk_at dksJ14_clear_2 14 rfl rfl)
theorem dJ14_clear_61 : decode cJ14_clear 61 = .ok (.aload_n 0, 1) := dk_42 (dk_at dksJ14_clear_2 15 rfl rfl)
theorem dJ14_clear_62 : decode cJ14_clear 62 = .ok (.invokevirtual 158, 3) := dk_182 0 158 (dk_at dksJ14_clear_2 16 rfl rfl)
theorem dJ14_clear_65 : decode cJ14_clear 65 = .ok (.aload_n 0, 1) := dk_42 (dk_at dksJ14_clear_2 19 rfl rfl)
theorem dJ14_clear_66 : decode cJ14_clear 66 = .ok (.invokevirtual 56, 3) := dk_182 0 56 (dk_at dksJ14_clear_2 20 rfl rfl)
theorem dJ14_clear_69 : decode cJ14_clear 69 = .ok (.return_, 1) := dk_177 (dk_at dksJ14_clear_2 23 rfl rfl)
abbrev cJ14_recalculateWordsInUse : ByteArray := prog_50_method_3_code
def yJ14_recalculateWordsInUse : MethodName := ⟨RJ14, "recalculateWordsInUse", "()V"⟩
def dkwJ14_recalculateWordsInUse_1 : List UInt8 := [167, 0, 9, 132, 1, 255, 167, 255, 235, 42, 27, 4, 96, 181, 0, 7, 177]
abbrev dktJ14_recalculateWordsInUse_1 : List UInt8 := dkwJ14_recalculateWordsInUse_1 ++ []
def dkwJ14_recalculateWordsInUse_0 : List UInt8 := [42, 180, 0, 7, 4, 100, 60, 27, 155, 0, 23, 42, 180, 0, 11, 27, 47, 9, 148, 153, 0, 6]
abbrev dktJ14_recalculateWordsInUse_0 : List UInt8 := dkwJ14_recalculateWordsInUse_0 ++ dktJ14_recalculateWordsInUse_1
theorem dksJ14_recalculateWordsInUse_0 : cJ14_recalculateWordsInUse.data.toList.drop 0 = dktJ14_recalculateWordsInUse_0 := by decide +kernel
theorem dksJ14_recalculateWordsInUse_1 : cJ14_recalculateWordsInUse.data.toList.drop 22 = dktJ14_recalculateWordsInUse_1 := dk_seg dksJ14_recalculateWordsInUse_0 22 rfl rfl
theorem dJ14_recalculateWordsInUse_0 : decode cJ14_recalculateWordsInUse 0 = .ok (.aload_n 0, 1) := dk_42 (dk_at dksJ14_recalculateWordsInUse_0 0 rfl rfl)
theorem dJ14_recalculateWordsInUse_1 : decode cJ14_recalculateWordsInUse 1 = .ok (.getfield 7, 3) := dk_180 0 7 (dk_at dksJ14_recalculateWordsInUse_0 1 rfl rfl)
theorem dJ14_recalculateWordsInUse_4 : decode cJ14_recalculateWordsInUse 4 = .ok (.iconst 1, 1) := dk_4 (dk_at dksJ14_recalculateWordsInUse_0 4 rfl rfl)
theorem dJ14_recalculateWordsInUse_5 : decode cJ14_recalculateWordsInUse 5 = .ok (.isub, 1) := dk_100 (dk_at dksJ14_recalculateWordsInUse_0 5 rfl rfl)
theorem dJ14_recalculateWordsInUse_6 : decode cJ14_recalculateWordsInUse 6 = .ok (.istore_n 1, 1) := dk_60 (dk_at dksJ14_recalculateWordsInUse_0 6 rfl rfl)
theorem dJ14_recalculateWordsInUse_7 : decode cJ14_recalculateWordsInUse 7 = .ok (.iload_n 1, 1) := dk_27 (dk_at dksJ14_recalculateWordsInUse_0 7 rfl rfl)
theorem dJ14_recalculateWordsInUse_8 : decode cJ14_recalculateWordsInUse 8 = .ok (.ifCond .lt 23, 3) := dk_155 0 23 (dk_at dksJ14_recalculateWordsInUse_0 8 rfl rfl)
theorem dJ14_recalculateWordsInUse_11 : decode cJ14_recalculateWordsInUse 11 = .ok (.aload_n 0, 1) := dk_42 (dk_at dksJ14_recalculateWordsInUse_0 11 rfl rfl)
theorem dJ14_recalculateWordsInUse_12 : decode cJ14_recalculateWordsInUse 12 = .ok (.getfield 11, 3) := dk_180 0 11 (dk_at dksJ14_recalculateWordsInUse_0 12 rfl rfl)
theorem dJ14_recalculateWordsInUse_15 : decode cJ14_recalculateWordsInUse 15 = .ok (.iload_n 1, 1) := dk_27 (dk_at dksJ14_recalculateWordsInUse_0 15 rfl rfl)
theorem dJ14_recalculateWordsInUse_16 : decode cJ14_recalculateWordsInUse 16 = .ok (.laload, 1) := dk_47 (dk_at dksJ14_recalculateWordsInUse_0 16 rfl rfl)
theorem dJ14_recalculateWordsInUse_17 : decode cJ14_recalculateWordsInUse 17 = .ok (.lconst 0, 1) := dk_9 (dk_at dksJ14_recalculateWordsInUse_0 17 rfl rfl)
theorem dJ14_recalculateWordsInUse_18 : decode cJ14_recalculateWordsInUse 18 = .ok (.lcmp, 1) := dk_148 (dk_at dksJ14_recalculateWordsInUse_0 18 rfl rfl)
theorem dJ14_recalculateWordsInUse_19 : decode cJ14_recalculateWordsInUse 19 = .ok (.ifCond .eq 6, 3) := dk_153 0 6 (dk_at dksJ14_recalculateWordsInUse_0 19 rfl rfl)
theorem dJ14_recalculateWordsInUse_22 : decode cJ14_recalculateWordsInUse 22 = .ok (.goto 9, 3) := dk_167 0 9 (dk_at dksJ14_recalculateWordsInUse_1 0 rfl rfl)
theorem dJ14_recalculateWordsInUse_25 : decode cJ14_recalculateWordsInUse 25 = .ok (.iinc 1 (-1), 3) := dk_132 1 255 (dk_at dksJ14_recalculateWordsInUse_1 3 rfl rfl)
theorem dJ14_recalculateWordsInUse_28 : decode cJ14_recalculateWordsInUse 28 = .ok (.goto (-21), 3) := dk_167 255 235 (dk_at dksJ14_recalculateWordsInUse_1 6 rfl rfl)
theorem dJ14_recalculateWordsInUse_31 : decode cJ14_recalculateWordsInUse 31 = .ok (.aload_n 0, 1) := dk_42 (dk_at dksJ14_recalculateWordsInUse_1 9 rfl rfl)
theorem dJ14_recalculateWordsInUse_32 : decode cJ14_recalculateWordsInUse 32 = .ok (.iload_n 1, 1) := dk_27 (dk_at dksJ14_recalculateWordsInUse_1 10 rfl rfl)
theorem dJ14_recalculateWordsInUse_33 : decode cJ14_recalculateWordsInUse 33 = .ok (.iconst 1, 1) := dk_4 (dk_at dksJ14_recalculateWordsInUse_1 11 rfl rfl)
theorem dJ14_recalculateWordsInUse_34 : decode cJ14_recalculateWordsInUse 34 = .ok (.iadd, 1) := dk_96 (dk_at dksJ14_recalculateWordsInUse_1 12 rfl rfl)
theorem dJ14_recalculateWordsInUse_35 : decode cJ14_recalculateWordsInUse 35 = .ok (.putfield 7, 3) := dk_181 0 7 (dk_at dksJ14_recalculateWordsInUse_1 13 rfl rfl)
theorem dJ14_recalculateWordsInUse_38 : decode cJ14_recalculateWordsInUse 38 = .ok (.return_, 1) := dk_177 (dk_at dksJ14_recalculateWordsInUse_1 16 rfl rfl)
abbrev cJ14_cardinality : ByteArray := prog_50_method_35_code
def yJ14_cardinality : MethodName := ⟨RJ14, "cardinality", "()I"⟩
def dkwJ14_cardinality_1 : List UInt8 := [132, 2, 1, 167, 255, 233, 27, 172]
abbrev dktJ14_cardinality_1 : List UInt8 := dkwJ14_cardinality_1 ++ []
def dkwJ14_cardinality_0 : List UInt8 := [3, 60, 3, 61, 28, 42, 180, 0, 7, 162, 0, 21, 27, 42, 180, 0, 11, 28, 47, 184, 0, 196, 96, 60]
abbrev dktJ14_cardinality_0 : List UInt8 := dkwJ14_cardinality_0 ++ dktJ14_cardinality_1
theorem dksJ14_cardinality_0 : cJ14_cardinality.data.toList.drop 0 = dktJ14_cardinality_0 := by decide +kernel
theorem dksJ14_cardinality_1 : cJ14_cardinality.data.toList.drop 24 = dktJ14_cardinality_1 := dk_seg dksJ14_cardinality_0 24 rfl rfl
theorem dJ14_cardinality_0 : decode cJ14_cardinality 0 = .ok (.iconst 0, 1) := dk_3 (dk_at dksJ14_cardinality_0 0 rfl rfl)
theorem dJ14_cardinality_1 : decode cJ14_cardinality 1 = .ok (.istore_n 1, 1) := dk_60 (dk_at dksJ14_cardinality_0 1 rfl rfl)
theorem dJ14_cardinality_2 : decode cJ14_cardinality 2 = .ok (.iconst 0, 1) := dk_3 (dk_at dksJ14_cardinality_0 2 rfl rfl)
theorem dJ14_cardinality_3 : decode cJ14_cardinality 3 = .ok (.istore_n 2, 1) := dk_61 (dk_at dksJ14_cardinality_0 3 rfl rfl)
theorem dJ14_cardinality_4 : decode cJ14_cardinality 4 = .ok (.iload_n 2, 1) := dk_28 (dk_at dksJ14_cardinality_0 4 rfl rfl)
theorem dJ14_cardinality_5 : decode cJ14_cardinality 5 = .ok (.aload_n 0, 1) := dk_42 (dk_at dksJ14_cardinality_0 5 rfl rfl)
theorem dJ14_cardinality_6 : decode cJ14_cardinality 6 = .ok (.getfield 7, 3) := dk_180 0 7 (dk_at dksJ14_cardinality_0 6 rfl rfl)
theorem dJ14_cardinality_9 : decode cJ14_cardinality 9 = .ok (.if_icmp .ge 21, 3) := dk_162 0 21 (dk_at dksJ14_cardinality_0 9 rfl rfl)
theorem dJ14_cardinality_12 : decode cJ14_cardinality 12 = .ok (.iload_n 1, 1) := dk_27 (dk_at dksJ14_cardinality_0 12 rfl rfl)
theorem dJ14_cardinality_13 : decode cJ14_cardinality 13 = .ok (.aload_n 0, 1) := dk_42 (dk_at dksJ14_cardinality_0 13 rfl rfl)
theorem dJ14_cardinality_14 : decode cJ14_cardinality 14 = .ok (.getfield 11, 3) := dk_180 0 11 (dk_at dksJ14_cardinality_0 14 rfl rfl)
theorem dJ14_cardinality_17 : decode cJ14_cardinality 17 = .ok (.iload_n 2, 1) := dk_28 (dk_at dksJ14_cardinality_0 17 rfl rfl)
theorem dJ14_cardinality_18 : decode cJ14_cardinality 18 = .ok (.laload, 1) := dk_47 (dk_at dksJ14_cardinality_0 18 rfl rfl)
theorem dJ14_cardinality_19 : decode cJ14_cardinality 19 = .ok (.invokestatic 196, 3) := dk_184 0 196 (dk_at dksJ14_cardinality_0 19 rfl rfl)
theorem dJ14_cardinality_22 : decode cJ14_cardinality 22 = .ok (.iadd, 1) := dk_96 (dk_at dksJ14_cardinality_0 22 rfl rfl)
theorem dJ14_cardinality_23 : decode cJ14_cardinality 23 = .ok (.istore_n 1, 1) := dk_60 (dk_at dksJ14_cardinality_0 23 rfl rfl)
theorem dJ14_cardinality_24 : decode cJ14_cardinality 24 = .ok (.iinc 2 1, 3) := dk_132 2 1 (dk_at dksJ14_cardinality_1 0 rfl rfl)
theorem dJ14_cardinality_27 : decode cJ14_cardinality 27 = .ok (.goto (-23), 3) := dk_167 255 233 (dk_at dksJ14_cardinality_1 3 rfl rfl)
theorem dJ14_cardinality_30 : decode cJ14_cardinality 30 = .ok (.iload_n 1, 1) := dk_27 (dk_at dksJ14_cardinality_1 6 rfl rfl)
theorem dJ14_cardinality_31 : decode cJ14_cardinality 31 = .ok (.ireturn, 1) := dk_172 (dk_at dksJ14_cardinality_1 7 rfl rfl)
abbrev cJ14_nextSetBit : ByteArray := prog_50_method_28_code
def yJ14_nextSetBit : MethodName := ⟨RJ14, "nextSetBit", "(I)I"⟩
def dkwJ14_nextSetBit_4 : List UInt8 := [28, 47, 66, 167, 255, 220]
abbrev dktJ14_nextSetBit_4 : List UInt8 := dkwJ14_nextSetBit_4 ++ []
def dkwJ14_nextSetBit_3 : List UInt8 := [104, 33, 184, 0, 182, 96, 172, 132, 2, 1, 28, 42, 180, 0, 7, 160, 0, 5, 2, 172, 42, 180, 0, 11]
abbrev dktJ14_nextSetBit_3 : List UInt8 := dkwJ14_nextSetBit_3 ++ dktJ14_nextSetBit_4
def dkwJ14_nextSetBit_2 : List UInt8 := [2, 172, 42, 180, 0, 11, 28, 47, 20, 0, 165, 27, 121, 127, 66, 33, 9, 148, 153, 0, 13, 28, 16, 64]
abbrev dktJ14_nextSetBit_2 : List UInt8 := dkwJ14_nextSetBit_2 ++ dktJ14_nextSetBit_3
def dkwJ14_nextSetBit_1 : List UInt8 := [182, 0, 45, 183, 0, 146, 191, 42, 182, 0, 56, 27, 184, 0, 52, 61, 28, 42, 180, 0, 7, 161, 0, 5]
abbrev dktJ14_nextSetBit_1 : List UInt8 := dkwJ14_nextSetBit_1 ++ dktJ14_nextSetBit_2
def dkwJ14_nextSetBit_0 : List UInt8 := [27, 156, 0, 30, 187, 0, 142, 89, 187, 0, 33, 89, 183, 0, 35, 18, 144, 182, 0, 38, 27, 182, 0, 42]
abbrev dktJ14_nextSetBit_0 : List UInt8 := dkwJ14_nextSetBit_0 ++ dktJ14_nextSetBit_1
theorem dksJ14_nextSetBit_0 : cJ14_nextSetBit.data.toList.drop 0 = dktJ14_nextSetBit_0 := by decide +kernel
theorem dksJ14_nextSetBit_1 : cJ14_nextSetBit.data.toList.drop 24 = dktJ14_nextSetBit_1 := dk_seg dksJ14_nextSetBit_0 24 rfl rfl
theorem dksJ14_nextSetBit_2 : cJ14_nextSetBit.data.toList.drop 48 = dktJ14_nextSetBit_2 := dk_seg dksJ14_nextSetBit_1 24 rfl rfl
theorem dksJ14_nextSetBit_3 : cJ14_nextSetBit.data.toList.drop 72 = dktJ14_nextSetBit_3 := dk_seg dksJ14_nextSetBit_2 24 rfl rfl
theorem dksJ14_nextSetBit_4 : cJ14_nextSetBit.data.toList.drop 96 = dktJ14_nextSetBit_4 := dk_seg dksJ14_nextSetBit_3 24 rfl rfl
theorem dJ14_nextSetBit_0 : decode cJ14_nextSetBit 0 = .ok (.iload_n 1, 1) := dk_27 (dk_at dksJ14_nextSetBit_0 0 rfl rfl)
theorem dJ14_nextSetBit_1 : decode cJ14_nextSetBit 1 = .ok (.ifCond .ge 30, 3) := dk_156 0 30 (dk_at dksJ14_nextSetBit_0 1 rfl rfl)
theorem dJ14_nextSetBit_4 : decode cJ14_nextSetBit 4 = .ok (.new 142, 3) := dk_187 0 142 (dk_at dksJ14_nextSetBit_0 4 rfl rfl)
theorem dJ14_nextSetBit_7 : decode cJ14_nextSetBit 7 = .ok (.dup, 1) := dk_89 (dk_at dksJ14_nextSetBit_0 7 rfl rfl)
theorem dJ14_nextSetBit_8 : decode cJ14_nextSetBit 8 = .ok (.new 33, 3) := dk_187 0 33 (dk_at dksJ14_nextSetBit_0 8 rfl rfl)
theorem dJ14_nextSetBit_11 : decode cJ14_nextSetBit 11 = .ok (.dup, 1) := dk_89 (dk_at dksJ14_nextSetBit_0 11 rfl rfl)
theorem dJ14_nextSetBit_12 : decode cJ14_nextSetBit 12 = .ok (.invokespecial 35, 3) := dk_183 0 35 (dk_at dksJ14_nextSetBit_0 12 rfl rfl)
theorem dJ14_nextSetBit_15 : decode cJ14_nextSetBit 15 = .ok (.ldc 144, 2) := dk_18 144 (dk_at dksJ14_nextSetBit_0 15 rfl rfl)
theorem dJ14_nextSetBit_17 : decode cJ14_nextSetBit 17 = .ok (.invokevirtual 38, 3) := dk_182 0 38 (dk_at dksJ14_nextSetBit_0 17 rfl rfl)
theorem dJ14_nextSetBit_20 : decode cJ14_nextSetBit 20 = .ok (.iload_n 1, 1) := dk_27 (dk_at dksJ14_nextSetBit_0 20 rfl rfl)
theorem dJ14_nextSetBit_21 : decode cJ14_nextSetBit 21 = .ok (.invokevirtual 42, 3) := dk_182 0 42 (dk_at dksJ14_nextSetBit_0 21 rfl rfl)
theorem dJ14_nextSetBit_24 : decode cJ14_nextSetBit 24 = .ok (.invokevirtual 45, 3) := dk_182 0 45 (dk_at dksJ14_nextSetBit_1 0 rfl rfl)
theorem dJ14_nextSetBit_27 : decode cJ14_nextSetBit 27 = .ok (.invokespecial 146, 3) := dk_183 0 146 (dk_at dksJ14_nextSetBit_1 3 rfl rfl)
theorem dJ14_nextSetBit_30 : decode cJ14_nextSetBit 30 = .ok (.athrow, 1) := dk_191 (dk_at dksJ14_nextSetBit_1 6 rfl rfl)
theorem dJ14_nextSetBit_31 : decode cJ14_nextSetBit 31 = .ok (.aload_n 0, 1) := dk_42 (dk_at dksJ14_nextSetBit_1 7 rfl rfl)
theorem dJ14_nextSetBit_32 : decode cJ14_nextSetBit 32 = .ok (.invokevirtual 56, 3) := dk_182 0 56 (dk_at dksJ14_nextSetBit_1 8 rfl rfl)
theorem dJ14_nextSetBit_35 : decode cJ14_nextSetBit 35 = .ok (.iload_n 1, 1) := dk_27 (dk_at dksJ14_nextSetBit_1 11 rfl rfl)
theorem dJ14_nextSetBit_36 : decode cJ14_nextSetBit 36 = .ok (.invokestatic 52, 3) := dk_184 0 52 (dk_at dksJ14_nextSetBit_1 12 rfl rfl)
theorem dJ14_nextSetBit_39 : decode cJ14_nextSetBit 39 = .ok (.istore_n 2, 1) := dk_61 (dk_at dksJ14_nextSetBit_1 15 rfl rfl)
theorem dJ14_nextSetBit_40 : decode cJ14_nextSetBit 40 = .ok (.iload_n 2, 1) := dk_28 (dk_at dksJ14_nextSetBit_1 16 rfl rfl)
theorem dJ14_nextSetBit_41 : decode cJ14_nextSetBit 41 = .ok (.aload_n 0, 1) := dk_42 (dk_at dksJ14_nextSetBit_1 17 rfl rfl)
theorem dJ14_nextSetBit_42 : decode cJ14_nextSetBit 42 = .ok (.getfield 7, 3) := dk_180 0 7 (dk_at dksJ14_nextSetBit_1 18 rfl rfl)
theorem dJ14_nextSetBit_45 : decode cJ14_nextSetBit 45 = .ok (.if_icmp .lt 5, 3) := dk_161 0 5 (dk_at dksJ14_nextSetBit_1 21 rfl rfl)
theorem dJ14_nextSetBit_48 : decode cJ14_nextSetBit 48 = .ok (.iconst (-1), 1) := dk_2 (dk_at dksJ14_nextSetBit_2 0 rfl rfl)
theorem dJ14_nextSetBit_49 : decode cJ14_nextSetBit 49 = .ok (.ireturn, 1) := dk_172 (dk_at dksJ14_nextSetBit_2 1 rfl rfl)
theorem dJ14_nextSetBit_50 : decode cJ14_nextSetBit 50 = .ok (.aload_n 0, 1) := dk_42 (dk_at dksJ14_nextSetBit_2 2 rfl rfl)
theorem dJ14_nextSetBit_51 : decode cJ14_nextSetBit 51 = .ok (.getfield 11, 3) := dk_180 0 11 (dk_at dksJ14_nextSetBit_2 3 rfl rfl)
theorem dJ14_nextSetBit_54 : decode cJ14_nextSetBit 54 = .ok (.iload_n 2, 1) := dk_28 (dk_at dksJ14_nextSetBit_2 6 rfl rfl)
theorem dJ14_nextSetBit_55 : decode cJ14_nextSetBit 55 = .ok (.laload, 1) := dk_47 (dk_at dksJ14_nextSetBit_2 7 rfl rfl)
theorem dJ14_nextSetBit_56 : decode cJ14_nextSetBit 56 = .ok (.ldc2_w 165, 3) := dk_20 0 165 (dk_at dksJ14_nextSetBit_2 8 rfl rfl)
theorem dJ14_nextSetBit_59 : decode cJ14_nextSetBit 59 = .ok (.iload_n 1, 1) := dk_27 (dk_at dksJ14_nextSetBit_2 11 rfl rfl)
theorem dJ14_nextSetBit_60 : decode cJ14_nextSetBit 60 = .ok (.lshl, 1) := dk_121 (dk_at dksJ14_nextSetBit_2 12 rfl rfl)
theorem dJ14_nextSetBit_61 : decode cJ14_nextSetBit 61 = .ok (.land, 1) := dk_127 (dk_at dksJ14_nextSetBit_2 13 rfl rfl)
theorem dJ14_nextSetBit_62 : decode cJ14_nextSetBit 62 = .ok (.lstore_n 3, 1) := dk_66 (dk_at dksJ14_nextSetBit_2 14 rfl rfl)
theorem dJ14_nextSetBit_63 : decode cJ14_nextSetBit 63 = .ok (.lload_n 3, 1) := dk_33 (dk_at dksJ14_nextSetBit_2 15 rfl rfl)
theorem dJ14_nextSetBit_64 : decode cJ14_nextSetBit 64 = .ok (.lconst 0, 1) := dk_9 (dk_at dksJ14_nextSetBit_2 16 rfl rfl)
theorem dJ14_nextSetBit_65 : decode cJ14_nextSetBit 65 = .ok (.lcmp, 1) := dk_148 (dk_at dksJ14_nextSetBit_2 17 rfl rfl)
theorem dJ14_nextSetBit_66 : decode cJ14_nextSetBit 66 = .ok (.ifCond .eq 13, 3) := dk_153 0 13 (dk_at dksJ14_nextSetBit_2 18 rfl rfl)
theorem dJ14_nextSetBit_69 : decode cJ14_nextSetBit 69 = .ok (.iload_n 2, 1) := dk_28 (dk_at dksJ14_nextSetBit_2 21 rfl rfl)
theorem dJ14_nextSetBit_70 : decode cJ14_nextSetBit 70 = .ok (.bipush 64, 2) := dk_16 64 (dk_at dksJ14_nextSetBit_2 22 rfl rfl)
theorem dJ14_nextSetBit_72 : decode cJ14_nextSetBit 72 = .ok (.imul, 1) := dk_104 (dk_at dksJ14_nextSetBit_3 0 rfl rfl)
theorem dJ14_nextSetBit_73 : decode cJ14_nextSetBit 73 = .ok (.lload_n 3, 1) := dk_33 (dk_at dksJ14_nextSetBit_3 1 rfl rfl)
theorem dJ14_nextSetBit_74 : decode cJ14_nextSetBit 74 = .ok (.invokestatic 182, 3) := dk_184 0 182 (dk_at dksJ14_nextSetBit_3 2 rfl rfl)
theorem dJ14_nextSetBit_77 : decode cJ14_nextSetBit 77 = .ok (.iadd, 1) := dk_96 (dk_at dksJ14_nextSetBit_3 5 rfl rfl)
theorem dJ14_nextSetBit_78 : decode cJ14_nextSetBit 78 = .ok (.ireturn, 1) := dk_172 (dk_at dksJ14_nextSetBit_3 6 rfl rfl)
theorem dJ14_nextSetBit_79 : decode cJ14_nextSetBit 79 = .ok (.iinc 2 1, 3) := dk_132 2 1 (dk_at dksJ14_nextSetBit_3 7 rfl rfl)
theorem dJ14_nextSetBit_82 : decode cJ14_nextSetBit 82 = .ok (.iload_n 2, 1) := dk_28 (dk_at dksJ14_nextSetBit_3 10 rfl rfl)
theorem dJ14_nextSetBit_83 : decode cJ14_nextSetBit 83 = .ok (.aload_n 0, 1) := dk_42 (dk_at dksJ14_nextSetBit_3 11 rfl rfl)
theorem dJ14_nextSetBit_84 : decode cJ14_nextSetBit 84 = .ok (.getfield 7, 3) := dk_180 0 7 (dk_at dksJ14_nextSetBit_3 12 rfl rfl)
theorem dJ14_nextSetBit_87 : decode cJ14_nextSetBit 87 = .ok (.if_icmp .ne 5, 3) := dk_160 0 5 (dk_at dksJ14_nextSetBit_3 15 rfl rfl)
theorem dJ14_nextSetBit_90 : decode cJ14_nextSetBit 90 = .ok (.iconst (-1), 1) := dk_2 (dk_at dksJ14_nextSetBit_3 18 rfl rfl)
theorem dJ14_nextSetBit_91 : decode cJ14_nextSetBit 91 = .ok (.ireturn, 1) := dk_172 (dk_at dksJ14_nextSetBit_3 19 rfl rfl)
theorem dJ14_nextSetBit_92 : decode cJ14_nextSetBit 92 = .ok (.aload_n 0, 1) := dk_42 (dk_at dksJ14_nextSetBit_3 20 rfl rfl)
theorem dJ14_nextSetBit_93 : decode cJ14_nextSetBit 93 = .ok (.getfield 11, 3) := dk_180 0 11 (dk_at dksJ14_nextSetBit_3 21 rfl rfl)
theorem dJ14_nextSetBit_96 : decode cJ14_nextSetBit 96 = .ok (.iload_n 2, 1) := dk_28 (dk_at dksJ14_nextSetBit_4 0 rfl rfl)
theorem dJ14_nextSetBit_97 : decode cJ14_nextSetBit 97 = .ok (.laload, 1) := dk_47 (dk_at dksJ14_nextSetBit_4 1 rfl rfl)
theorem dJ14_nextSetBit_98 : decode cJ14_nextSetBit 98 = .ok (.lstore_n 3, 1) := dk_66 (dk_at dksJ14_nextSetBit_4 2 rfl rfl)
theorem dJ14_nextSetBit_99 : decode cJ14_nextSetBit 99 = .ok (.goto (-36), 3) := dk_167 255 220 (dk_at dksJ14_nextSetBit_4 3 rfl rfl)
abbrev cJ15_requireNonNull : ByteArray := prog_67_method_10_code
def yJ15_requireNonNull : MethodName := ⟨RJ15, "requireNonNull", "(Ljava/lang/Object;)Ljava/lang/Object;"⟩
def dkwJ15_requireNonNull_0 : List UInt8 := [42, 199, 0, 11, 187, 0, 84, 89, 183, 0, 86, 191, 42, 176]
abbrev dktJ15_requireNonNull_0 : List UInt8 := dkwJ15_requireNonNull_0 ++ []
theorem dksJ15_requireNonNull_0 : cJ15_requireNonNull.data.toList.drop 0 = dktJ15_requireNonNull_0 := by decide +kernel
theorem dJ15_requireNonNull_0 : decode cJ15_requireNonNull 0 = .ok (.aload_n 0, 1) := dk_42 (dk_at dksJ15_requireNonNull_0 0 rfl rfl)
theorem dJ15_requireNonNull_1 : decode cJ15_requireNonNull 1 = .ok (.ifnonnull 11, 3) := dk_199 0 11 (dk_at dksJ15_requireNonNull_0 1 rfl rfl)
theorem dJ15_requireNonNull_4 : decode cJ15_requireNonNull 4 = .ok (.new 84, 3) := dk_187 0 84 (dk_at dksJ15_requireNonNull_0 4 rfl rfl)
theorem dJ15_requireNonNull_7 : decode cJ15_requireNonNull 7 = .ok (.dup, 1) := dk_89 (dk_at dksJ15_requireNonNull_0 7 rfl rfl)
theorem dJ15_requireNonNull_8 : decode cJ15_requireNonNull 8 = .ok (.invokespecial 86, 3) := dk_183 0 86 (dk_at dksJ15_requireNonNull_0 8 rfl rfl)
theorem dJ15_requireNonNull_11 : decode cJ15_requireNonNull 11 = .ok (.athrow, 1) := dk_191 (dk_at dksJ15_requireNonNull_0 11 rfl rfl)
theorem dJ15_requireNonNull_12 : decode cJ15_requireNonNull 12 = .ok (.aload_n 0, 1) := dk_42 (dk_at dksJ15_requireNonNull_0 12 rfl rfl)
theorem dJ15_requireNonNull_13 : decode cJ15_requireNonNull 13 = .ok (.areturn, 1) := dk_176 (dk_at dksJ15_requireNonNull_0 13 rfl rfl)
abbrev cJ15_checkIndex : ByteArray := prog_67_method_17_code
def yJ15_checkIndex : MethodName := ⟨RJ15, "checkIndex", "(II)I"⟩
def dkwJ15_checkIndex_0 : List UInt8 := [26, 27, 1, 184, 0, 105, 172]
abbrev dktJ15_checkIndex_0 : List UInt8 := dkwJ15_checkIndex_0 ++ []
theorem dksJ15_checkIndex_0 : cJ15_checkIndex.data.toList.drop 0 = dktJ15_checkIndex_0 := by decide +kernel
theorem dJ15_checkIndex_0 : decode cJ15_checkIndex 0 = .ok (.iload_n 0, 1) := dk_26 (dk_at dksJ15_checkIndex_0 0 rfl rfl)
theorem dJ15_checkIndex_1 : decode cJ15_checkIndex 1 = .ok (.iload_n 1, 1) := dk_27 (dk_at dksJ15_checkIndex_0 1 rfl rfl)
theorem dJ15_checkIndex_2 : decode cJ15_checkIndex 2 = .ok (.aconst_null, 1) := dk_1 (dk_at dksJ15_checkIndex_0 2 rfl rfl)
theorem dJ15_checkIndex_3 : decode cJ15_checkIndex 3 = .ok (.invokestatic 105, 3) := dk_184 0 105 (dk_at dksJ15_checkIndex_0 3 rfl rfl)
theorem dJ15_checkIndex_6 : decode cJ15_checkIndex 6 = .ok (.ireturn, 1) := dk_172 (dk_at dksJ15_checkIndex_0 6 rfl rfl)
abbrev cJ15_equals : ByteArray := prog_67_method_2_code
def yJ15_equals : MethodName := ⟨RJ15, "equals", "(Ljava/lang/Object;Ljava/lang/Object;)Z"⟩
def dkwJ15_equals_0 : List UInt8 := [42, 43, 165, 0, 15, 42, 198, 0, 15, 42, 43, 182, 0, 14, 153, 0, 7, 4, 167, 0, 4, 3, 172]
abbrev dktJ15_equals_0 : List UInt8 := dkwJ15_equals_0 ++ []
theorem dksJ15_equals_0 : cJ15_equals.data.toList.drop 0 = dktJ15_equals_0 := by decide +kernel
theorem dJ15_equals_0 : decode cJ15_equals 0 = .ok (.aload_n 0, 1) := dk_42 (dk_at dksJ15_equals_0 0 rfl rfl)
theorem dJ15_equals_1 : decode cJ15_equals 1 = .ok (.aload_n 1, 1) := dk_43 (dk_at dksJ15_equals_0 1 rfl rfl)
theorem dJ15_equals_2 : decode cJ15_equals 2 = .ok (.if_acmp .eq 15, 3) := dk_165 0 15 (dk_at dksJ15_equals_0 2 rfl rfl)
theorem dJ15_equals_5 : decode cJ15_equals 5 = .ok (.aload_n 0, 1) := dk_42 (dk_at dksJ15_equals_0 5 rfl rfl)
theorem dJ15_equals_6 : decode cJ15_equals 6 = .ok (.ifnull 15, 3) := dk_198 0 15 (dk_at dksJ15_equals_0 6 rfl rfl)
theorem dJ15_equals_9 : decode cJ15_equals 9 = .ok (.aload_n 0, 1) := dk_42 (dk_at dksJ15_equals_0 9 rfl rfl)
theorem dJ15_equals_10 : decode cJ15_equals 10 = .ok (.aload_n 1, 1) := dk_43 (dk_at dksJ15_equals_0 10 rfl rfl)
theorem dJ15_equals_11 : decode cJ15_equals 11 = .ok (.invokevirtual 14, 3) := dk_182 0 14 (dk_at dksJ15_equals_0 11 rfl rfl)
theorem dJ15_equals_14 : decode cJ15_equals 14 = .ok (.ifCond .eq 7, 3) := dk_153 0 7 (dk_at dksJ15_equals_0 14 rfl rfl)
theorem dJ15_equals_17 : decode cJ15_equals 17 = .ok (.iconst 1, 1) := dk_4 (dk_at dksJ15_equals_0 17 rfl rfl)
theorem dJ15_equals_18 : decode cJ15_equals 18 = .ok (.goto 4, 3) := dk_167 0 4 (dk_at dksJ15_equals_0 18 rfl rfl)
theorem dJ15_equals_21 : decode cJ15_equals 21 = .ok (.iconst 0, 1) := dk_3 (dk_at dksJ15_equals_0 21 rfl rfl)
theorem dJ15_equals_22 : decode cJ15_equals 22 = .ok (.ireturn, 1) := dk_172 (dk_at dksJ15_equals_0 22 rfl rfl)
abbrev cJ16_checkIndex : ByteArray := prog_75_method_11_code
def yJ16_checkIndex : MethodName := ⟨RJ16, "checkIndex", "(IILjava/util/function/BiFunction;)I"⟩
def dkwJ16_checkIndex_0 : List UInt8 := [26, 155, 0, 8, 26, 27, 161, 0, 10, 44, 26, 27, 184, 0, 95, 191, 26, 172]
abbrev dktJ16_checkIndex_0 : List UInt8 := dkwJ16_checkIndex_0 ++ []
theorem dksJ16_checkIndex_0 : cJ16_checkIndex.data.toList.drop 0 = dktJ16_checkIndex_0 := by decide +kernel
theorem dJ16_checkIndex_0 : decode cJ16_checkIndex 0 = .ok (.iload_n 0, 1) := dk_26 (dk_at dksJ16_checkIndex_0 0 rfl rfl)
theorem dJ16_checkIndex_1 : decode cJ16_checkIndex 1 = .ok (.ifCond .lt 8, 3) := dk_155 0 8 (dk_at dksJ16_checkIndex_0 1 rfl rfl)
theorem dJ16_checkIndex_4 : decode cJ16_checkIndex 4 = .ok (.iload_n 0, 1) := dk_26 (dk_at dksJ16_checkIndex_0 4 rfl rfl)
theorem dJ16_checkIndex_5 : decode cJ16_checkIndex 5 = .ok (.iload_n 1, 1) := dk_27 (dk_at dksJ16_checkIndex_0 5 rfl rfl)
theorem dJ16_checkIndex_6 : decode cJ16_checkIndex 6 = .ok (.if_icmp .lt 10, 3) := dk_161 0 10 (dk_at dksJ16_checkIndex_0 6 rfl rfl)
theorem dJ16_checkIndex_9 : decode cJ16_checkIndex 9 = .ok (.aload_n 2, 1) := dk_44 (dk_at dksJ16_checkIndex_0 9 rfl rfl)
theorem dJ16_checkIndex_10 : decode cJ16_checkIndex 10 = .ok (.iload_n 0, 1) := dk_26 (dk_at dksJ16_checkIndex_0 10 rfl rfl)
theorem dJ16_checkIndex_11 : decode cJ16_checkIndex 11 = .ok (.iload_n 1, 1) := dk_27 (dk_at dksJ16_checkIndex_0 11 rfl rfl)
theorem dJ16_checkIndex_12 : decode cJ16_checkIndex 12 = .ok (.invokestatic 95, 3) := dk_184 0 95 (dk_at dksJ16_checkIndex_0 12 rfl rfl)
theorem dJ16_checkIndex_15 : decode cJ16_checkIndex 15 = .ok (.athrow, 1) := dk_191 (dk_at dksJ16_checkIndex_0 15 rfl rfl)
theorem dJ16_checkIndex_16 : decode cJ16_checkIndex 16 = .ok (.iload_n 0, 1) := dk_26 (dk_at dksJ16_checkIndex_0 16 rfl rfl)
theorem dJ16_checkIndex_17 : decode cJ16_checkIndex 17 = .ok (.ireturn, 1) := dk_172 (dk_at dksJ16_checkIndex_0 17 rfl rfl)
abbrev cJ16_checkFromToIndex : ByteArray := prog_75_method_12_code
def yJ16_checkFromToIndex : MethodName := ⟨RJ16, "checkFromToIndex", "(IIILjava/util/function/BiFunction;)I"⟩
def dkwJ16_checkFromToIndex_0 : List UInt8 := [26, 155, 0, 13, 26, 27, 163, 0, 8, 27, 28, 164, 0, 11, 45, 26, 27, 28, 184, 0, 99, 191, 26, 172]
abbrev dktJ16_checkFromToIndex_0 : List UInt8 := dkwJ16_checkFromToIndex_0 ++ []
theorem dksJ16_checkFromToIndex_0 : cJ16_checkFromToIndex.data.toList.drop 0 = dktJ16_checkFromToIndex_0 := by decide +kernel
theorem dJ16_checkFromToIndex_0 : decode cJ16_checkFromToIndex 0 = .ok (.iload_n 0, 1) := dk_26 (dk_at dksJ16_checkFromToIndex_0 0 rfl rfl)
theorem dJ16_checkFromToIndex_1 : decode cJ16_checkFromToIndex 1 = .ok (.ifCond .lt 13, 3) := dk_155 0 13 (dk_at dksJ16_checkFromToIndex_0 1 rfl rfl)
theorem dJ16_checkFromToIndex_4 : decode cJ16_checkFromToIndex 4 = .ok (.iload_n 0, 1) := dk_26 (dk_at dksJ16_checkFromToIndex_0 4 rfl rfl)
theorem dJ16_checkFromToIndex_5 : decode cJ16_checkFromToIndex 5 = .ok (.iload_n 1, 1) := dk_27 (dk_at dksJ16_checkFromToIndex_0 5 rfl rfl)
theorem dJ16_checkFromToIndex_6 : decode cJ16_checkFromToIndex 6 = .ok (.if_icmp .gt 8, 3) := dk_163 0 8 (dk_at dksJ16_checkFromToIndex_0 6 rfl rfl)
theorem dJ16_checkFromToIndex_9 : decode cJ16_checkFromToIndex 9 = .ok (.iload_n 1, 1) := dk_27 (dk_at dksJ16_checkFromToIndex_0 9 rfl rfl)
theorem dJ16_checkFromToIndex_10 : decode cJ16_checkFromToIndex 10 = .ok (.iload_n 2, 1) := dk_28 (dk_at dksJ16_checkFromToIndex_0 10 rfl rfl)
theorem dJ16_checkFromToIndex_11 : decode cJ16_checkFromToIndex 11 = .ok (.if_icmp .le 11, 3) := dk_164 0 11 (dk_at dksJ16_checkFromToIndex_0 11 rfl rfl)
theorem dJ16_checkFromToIndex_14 : decode cJ16_checkFromToIndex 14 = .ok (.aload_n 3, 1) := dk_45 (dk_at dksJ16_checkFromToIndex_0 14 rfl rfl)
theorem dJ16_checkFromToIndex_15 : decode cJ16_checkFromToIndex 15 = .ok (.iload_n 0, 1) := dk_26 (dk_at dksJ16_checkFromToIndex_0 15 rfl rfl)
theorem dJ16_checkFromToIndex_16 : decode cJ16_checkFromToIndex 16 = .ok (.iload_n 1, 1) := dk_27 (dk_at dksJ16_checkFromToIndex_0 16 rfl rfl)
theorem dJ16_checkFromToIndex_17 : decode cJ16_checkFromToIndex 17 = .ok (.iload_n 2, 1) := dk_28 (dk_at dksJ16_checkFromToIndex_0 17 rfl rfl)
theorem dJ16_checkFromToIndex_18 : decode cJ16_checkFromToIndex 18 = .ok (.invokestatic 99, 3) := dk_184 0 99 (dk_at dksJ16_checkFromToIndex_0 18 rfl rfl)
theorem dJ16_checkFromToIndex_21 : decode cJ16_checkFromToIndex 21 = .ok (.athrow, 1) := dk_191 (dk_at dksJ16_checkFromToIndex_0 21 rfl rfl)
theorem dJ16_checkFromToIndex_22 : decode cJ16_checkFromToIndex 22 = .ok (.iload_n 0, 1) := dk_26 (dk_at dksJ16_checkFromToIndex_0 22 rfl rfl)
theorem dJ16_checkFromToIndex_23 : decode cJ16_checkFromToIndex 23 = .ok (.ireturn, 1) := dk_172 (dk_at dksJ16_checkFromToIndex_0 23 rfl rfl)
abbrev cJ16_checkFromIndexSize : ByteArray := prog_75_method_13_code
def yJ16_checkFromIndexSize : MethodName := ⟨RJ16, "checkFromIndexSize", "(IIILjava/util/function/BiFunction;)I"⟩
def dkwJ16_checkFromIndexSize_1 : List UInt8 := [172]
abbrev dktJ16_checkFromIndexSize_1 : List UInt8 := dkwJ16_checkFromIndexSize_1 ++ []
def dkwJ16_checkFromIndexSize_0 : List UInt8 := [28, 26, 128, 27, 128, 155, 0, 10, 27, 28, 26, 100, 164, 0, 11, 45, 26, 27, 28, 184, 0, 103, 191, 26]
abbrev dktJ16_checkFromIndexSize_0 : List UInt8 := dkwJ16_checkFromIndexSize_0 ++ dktJ16_checkFromIndexSize_1
theorem dksJ16_checkFromIndexSize_0 : cJ16_checkFromIndexSize.data.toList.drop 0 = dktJ16_checkFromIndexSize_0 := by decide +kernel
theorem dksJ16_checkFromIndexSize_1 : cJ16_checkFromIndexSize.data.toList.drop 24 = dktJ16_checkFromIndexSize_1 := dk_seg dksJ16_checkFromIndexSize_0 24 rfl rfl
theorem dJ16_checkFromIndexSize_0 : decode cJ16_checkFromIndexSize 0 = .ok (.iload_n 2, 1) := dk_28 (dk_at dksJ16_checkFromIndexSize_0 0 rfl rfl)
theorem dJ16_checkFromIndexSize_1 : decode cJ16_checkFromIndexSize 1 = .ok (.iload_n 0, 1) := dk_26 (dk_at dksJ16_checkFromIndexSize_0 1 rfl rfl)
theorem dJ16_checkFromIndexSize_2 : decode cJ16_checkFromIndexSize 2 = .ok (.ior, 1) := dk_128 (dk_at dksJ16_checkFromIndexSize_0 2 rfl rfl)
theorem dJ16_checkFromIndexSize_3 : decode cJ16_checkFromIndexSize 3 = .ok (.iload_n 1, 1) := dk_27 (dk_at dksJ16_checkFromIndexSize_0 3 rfl rfl)
theorem dJ16_checkFromIndexSize_4 : decode cJ16_checkFromIndexSize 4 = .ok (.ior, 1) := dk_128 (dk_at dksJ16_checkFromIndexSize_0 4 rfl rfl)
theorem dJ16_checkFromIndexSize_5 : decode cJ16_checkFromIndexSize 5 = .ok (.ifCond .lt 10, 3) := dk_155 0 10 (dk_at dksJ16_checkFromIndexSize_0 5 rfl rfl)
theorem dJ16_checkFromIndexSize_8 : decode cJ16_checkFromIndexSize 8 = .ok (.iload_n 1, 1) := dk_27 (dk_at dksJ16_checkFromIndexSize_0 8 rfl rfl)
theorem dJ16_checkFromIndexSize_9 : decode cJ16_checkFromIndexSize 9 = .ok (.iload_n 2, 1) := dk_28 (dk_at dksJ16_checkFromIndexSize_0 9 rfl rfl)
theorem dJ16_checkFromIndexSize_10 : decode cJ16_checkFromIndexSize 10 = .ok (.iload_n 0, 1) := dk_26 (dk_at dksJ16_checkFromIndexSize_0 10 rfl rfl)
theorem dJ16_checkFromIndexSize_11 : decode cJ16_checkFromIndexSize 11 = .ok (.isub, 1) := dk_100 (dk_at dksJ16_checkFromIndexSize_0 11 rfl rfl)
theorem dJ16_checkFromIndexSize_12 : decode cJ16_checkFromIndexSize 12 = .ok (.if_icmp .le 11, 3) := dk_164 0 11 (dk_at dksJ16_checkFromIndexSize_0 12 rfl rfl)
theorem dJ16_checkFromIndexSize_15 : decode cJ16_checkFromIndexSize 15 = .ok (.aload_n 3, 1) := dk_45 (dk_at dksJ16_checkFromIndexSize_0 15 rfl rfl)
theorem dJ16_checkFromIndexSize_16 : decode cJ16_checkFromIndexSize 16 = .ok (.iload_n 0, 1) := dk_26 (dk_at dksJ16_checkFromIndexSize_0 16 rfl rfl)
theorem dJ16_checkFromIndexSize_17 : decode cJ16_checkFromIndexSize 17 = .ok (.iload_n 1, 1) := dk_27 (dk_at dksJ16_checkFromIndexSize_0 17 rfl rfl)
theorem dJ16_checkFromIndexSize_18 : decode cJ16_checkFromIndexSize 18 = .ok (.iload_n 2, 1) := dk_28 (dk_at dksJ16_checkFromIndexSize_0 18 rfl rfl)
theorem dJ16_checkFromIndexSize_19 : decode cJ16_checkFromIndexSize 19 = .ok (.invokestatic 103, 3) := dk_184 0 103 (dk_at dksJ16_checkFromIndexSize_0 19 rfl rfl)
theorem dJ16_checkFromIndexSize_22 : decode cJ16_checkFromIndexSize 22 = .ok (.athrow, 1) := dk_191 (dk_at dksJ16_checkFromIndexSize_0 22 rfl rfl)
theorem dJ16_checkFromIndexSize_23 : decode cJ16_checkFromIndexSize 23 = .ok (.iload_n 0, 1) := dk_26 (dk_at dksJ16_checkFromIndexSize_0 23 rfl rfl)
theorem dJ16_checkFromIndexSize_24 : decode cJ16_checkFromIndexSize 24 = .ok (.ireturn, 1) := dk_172 (dk_at dksJ16_checkFromIndexSize_1 0 rfl rfl)
abbrev cJ17_init : ByteArray := prog_21_method_2_code
def yJ17_init : MethodName := ⟨RJ17, "<init>", "(Ljava/lang/String;)V"⟩
def dkwJ17_init_0 : List UInt8 := [42, 43, 183, 0, 7, 177]
abbrev dktJ17_init_0 : List UInt8 := dkwJ17_init_0 ++ []
theorem dksJ17_init_0 : cJ17_init.data.toList.drop 0 = dktJ17_init_0 := by decide +kernel
theorem dJ17_init_0 : decode cJ17_init 0 = .ok (.aload_n 0, 1) := dk_42 (dk_at dksJ17_init_0 0 rfl rfl)
theorem dJ17_init_1 : decode cJ17_init 1 = .ok (.aload_n 1, 1) := dk_43 (dk_at dksJ17_init_0 1 rfl rfl)
theorem dJ17_init_2 : decode cJ17_init 2 = .ok (.invokespecial 7, 3) := dk_183 0 7 (dk_at dksJ17_init_0 2 rfl rfl)
theorem dJ17_init_5 : decode cJ17_init 5 = .ok (.return_, 1) := dk_177 (dk_at dksJ17_init_0 5 rfl rfl)
abbrev cJ17_init_2 : ByteArray := prog_21_method_1_code
def yJ17_init_2 : MethodName := ⟨RJ17, "<init>", "()V"⟩
theorem dJ17_init_2_0 : decode cJ17_init_2 0 = .ok (.aload_n 0, 1) := by decide +kernel
theorem dJ17_init_2_1 : decode cJ17_init_2 1 = .ok (.invokespecial 1, 3) := by decide +kernel
theorem dJ17_init_2_4 : decode cJ17_init_2 4 = .ok (.return_, 1) := by decide +kernel
abbrev cJ18_newLength : ByteArray := prog_74_method_27_code
def yJ18_newLength : MethodName := ⟨RJ18, "newLength", "(III)I"⟩
def dkwJ18_newLength_1 : List UInt8 := [184, 0, 201, 172]
abbrev dktJ18_newLength_1 : List UInt8 := dkwJ18_newLength_1 ++ []
def dkwJ18_newLength_0 : List UInt8 := [26, 27, 28, 184, 0, 194, 96, 62, 3, 29, 162, 0, 11, 29, 18, 200, 163, 0, 5, 29, 172, 26, 27]
abbrev dktJ18_newLength_0 : List UInt8 := dkwJ18_newLength_0 ++ dktJ18_newLength_1
theorem dksJ18_newLength_0 : cJ18_newLength.data.toList.drop 0 = dktJ18_newLength_0 := by decide +kernel
theorem dksJ18_newLength_1 : cJ18_newLength.data.toList.drop 23 = dktJ18_newLength_1 := dk_seg dksJ18_newLength_0 23 rfl rfl
theorem dJ18_newLength_0 : decode cJ18_newLength 0 = .ok (.iload_n 0, 1) := dk_26 (dk_at dksJ18_newLength_0 0 rfl rfl)
theorem dJ18_newLength_1 : decode cJ18_newLength 1 = .ok (.iload_n 1, 1) := dk_27 (dk_at dksJ18_newLength_0 1 rfl rfl)
theorem dJ18_newLength_2 : decode cJ18_newLength 2 = .ok (.iload_n 2, 1) := dk_28 (dk_at dksJ18_newLength_0 2 rfl rfl)
theorem dJ18_newLength_3 : decode cJ18_newLength 3 = .ok (.invokestatic 194, 3) := dk_184 0 194 (dk_at dksJ18_newLength_0 3 rfl rfl)
theorem dJ18_newLength_6 : decode cJ18_newLength 6 = .ok (.iadd, 1) := dk_96 (dk_at dksJ18_newLength_0 6 rfl rfl)
theorem dJ18_newLength_7 : decode cJ18_newLength 7 = .ok (.istore_n 3, 1) := dk_62 (dk_at dksJ18_newLength_0 7 rfl rfl)
theorem dJ18_newLength_8 : decode cJ18_newLength 8 = .ok (.iconst 0, 1) := dk_3 (dk_at dksJ18_newLength_0 8 rfl rfl)
theorem dJ18_newLength_9 : decode cJ18_newLength 9 = .ok (.iload_n 3, 1) := dk_29 (dk_at dksJ18_newLength_0 9 rfl rfl)
theorem dJ18_newLength_10 : decode cJ18_newLength 10 = .ok (.if_icmp .ge 11, 3) := dk_162 0 11 (dk_at dksJ18_newLength_0 10 rfl rfl)
theorem dJ18_newLength_13 : decode cJ18_newLength 13 = .ok (.iload_n 3, 1) := dk_29 (dk_at dksJ18_newLength_0 13 rfl rfl)
theorem dJ18_newLength_14 : decode cJ18_newLength 14 = .ok (.ldc 200, 2) := dk_18 200 (dk_at dksJ18_newLength_0 14 rfl rfl)
theorem dJ18_newLength_16 : decode cJ18_newLength 16 = .ok (.if_icmp .gt 5, 3) := dk_163 0 5 (dk_at dksJ18_newLength_0 16 rfl rfl)
theorem dJ18_newLength_19 : decode cJ18_newLength 19 = .ok (.iload_n 3, 1) := dk_29 (dk_at dksJ18_newLength_0 19 rfl rfl)
theorem dJ18_newLength_20 : decode cJ18_newLength 20 = .ok (.ireturn, 1) := dk_172 (dk_at dksJ18_newLength_0 20 rfl rfl)
theorem dJ18_newLength_21 : decode cJ18_newLength 21 = .ok (.iload_n 0, 1) := dk_26 (dk_at dksJ18_newLength_0 21 rfl rfl)
theorem dJ18_newLength_22 : decode cJ18_newLength 22 = .ok (.iload_n 1, 1) := dk_27 (dk_at dksJ18_newLength_0 22 rfl rfl)
theorem dJ18_newLength_23 : decode cJ18_newLength 23 = .ok (.invokestatic 201, 3) := dk_184 0 201 (dk_at dksJ18_newLength_1 0 rfl rfl)
theorem dJ18_newLength_26 : decode cJ18_newLength 26 = .ok (.ireturn, 1) := dk_172 (dk_at dksJ18_newLength_1 3 rfl rfl)
abbrev cJ18_hugeLength : ByteArray := prog_74_method_28_code
def yJ18_hugeLength : MethodName := ⟨RJ18, "hugeLength", "(II)I"⟩
def dkwJ18_hugeLength_2 : List UInt8 := [191, 28, 18, 200, 163, 0, 6, 18, 200, 172, 28, 172]
abbrev dktJ18_hugeLength_2 : List UInt8 := dkwJ18_hugeLength_2 ++ []
def dkwJ18_hugeLength_1 : List UInt8 := [26, 182, 0, 98, 18, 208, 182, 0, 94, 27, 182, 0, 98, 18, 210, 182, 0, 94, 182, 0, 101, 183, 0, 212]
abbrev dktJ18_hugeLength_1 : List UInt8 := dkwJ18_hugeLength_1 ++ dktJ18_hugeLength_2
def dkwJ18_hugeLength_0 : List UInt8 := [26, 27, 96, 61, 28, 156, 0, 44, 187, 0, 204, 89, 187, 0, 89, 89, 183, 0, 91, 18, 206, 182, 0, 94]
abbrev dktJ18_hugeLength_0 : List UInt8 := dkwJ18_hugeLength_0 ++ dktJ18_hugeLength_1
theorem dksJ18_hugeLength_0 : cJ18_hugeLength.data.toList.drop 0 = dktJ18_hugeLength_0 := by decide +kernel
theorem dksJ18_hugeLength_1 : cJ18_hugeLength.data.toList.drop 24 = dktJ18_hugeLength_1 := dk_seg dksJ18_hugeLength_0 24 rfl rfl
theorem dksJ18_hugeLength_2 : cJ18_hugeLength.data.toList.drop 48 = dktJ18_hugeLength_2 := dk_seg dksJ18_hugeLength_1 24 rfl rfl
theorem dJ18_hugeLength_0 : decode cJ18_hugeLength 0 = .ok (.iload_n 0, 1) := dk_26 (dk_at dksJ18_hugeLength_0 0 rfl rfl)
theorem dJ18_hugeLength_1 : decode cJ18_hugeLength 1 = .ok (.iload_n 1, 1) := dk_27 (dk_at dksJ18_hugeLength_0 1 rfl rfl)
theorem dJ18_hugeLength_2 : decode cJ18_hugeLength 2 = .ok (.iadd, 1) := dk_96 (dk_at dksJ18_hugeLength_0 2 rfl rfl)
theorem dJ18_hugeLength_3 : decode cJ18_hugeLength 3 = .ok (.istore_n 2, 1) := dk_61 (dk_at dksJ18_hugeLength_0 3 rfl rfl)
theorem dJ18_hugeLength_4 : decode cJ18_hugeLength 4 = .ok (.iload_n 2, 1) := dk_28 (dk_at dksJ18_hugeLength_0 4 rfl rfl)
theorem dJ18_hugeLength_5 : decode cJ18_hugeLength 5 = .ok (.ifCond .ge 44, 3) := dk_156 0 44 (dk_at dksJ18_hugeLength_0 5 rfl rfl)
theorem dJ18_hugeLength_8 : decode cJ18_hugeLength 8 = .ok (.new 204, 3) := dk_187 0 204 (dk_at dksJ18_hugeLength_0 8 rfl rfl)
theorem dJ18_hugeLength_11 : decode cJ18_hugeLength 11 = .ok (.dup, 1) := dk_89 (dk_at dksJ18_hugeLength_0 11 rfl rfl)
theorem dJ18_hugeLength_12 : decode cJ18_hugeLength 12 = .ok (.new 89, 3) := dk_187 0 89 (dk_at dksJ18_hugeLength_0 12 rfl rfl)
theorem dJ18_hugeLength_15 : decode cJ18_hugeLength 15 = .ok (.dup, 1) := dk_89 (dk_at dksJ18_hugeLength_0 15 rfl rfl)
theorem dJ18_hugeLength_16 : decode cJ18_hugeLength 16 = .ok (.invokespecial 91, 3) := dk_183 0 91 (dk_at dksJ18_hugeLength_0 16 rfl rfl)
theorem dJ18_hugeLength_19 : decode cJ18_hugeLength 19 = .ok (.ldc 206, 2) := dk_18 206 (dk_at dksJ18_hugeLength_0 19 rfl rfl)
theorem dJ18_hugeLength_21 : decode cJ18_hugeLength 21 = .ok (.invokevirtual 94, 3) := dk_182 0 94 (dk_at dksJ18_hugeLength_0 21 rfl rfl)
theorem dJ18_hugeLength_24 : decode cJ18_hugeLength 24 = .ok (.iload_n 0, 1) := dk_26 (dk_at dksJ18_hugeLength_1 0 rfl rfl)
theorem dJ18_hugeLength_25 : decode cJ18_hugeLength 25 = .ok (.invokevirtual 98, 3) := dk_182 0 98 (dk_at dksJ18_hugeLength_1 1 rfl rfl)
theorem dJ18_hugeLength_28 : decode cJ18_hugeLength 28 = .ok (.ldc 208, 2) := dk_18 208 (dk_at dksJ18_hugeLength_1 4 rfl rfl)
theorem dJ18_hugeLength_30 : decode cJ18_hugeLength 30 = .ok (.invokevirtual 94, 3) := dk_182 0 94 (dk_at dksJ18_hugeLength_1 6 rfl rfl)
theorem dJ18_hugeLength_33 : decode cJ18_hugeLength 33 = .ok (.iload_n 1, 1) := dk_27 (dk_at dksJ18_hugeLength_1 9 rfl rfl)
theorem dJ18_hugeLength_34 : decode cJ18_hugeLength 34 = .ok (.invokevirtual 98, 3) := dk_182 0 98 (dk_at dksJ18_hugeLength_1 10 rfl rfl)
theorem dJ18_hugeLength_37 : decode cJ18_hugeLength 37 = .ok (.ldc 210, 2) := dk_18 210 (dk_at dksJ18_hugeLength_1 13 rfl rfl)
theorem dJ18_hugeLength_39 : decode cJ18_hugeLength 39 = .ok (.invokevirtual 94, 3) := dk_182 0 94 (dk_at dksJ18_hugeLength_1 15 rfl rfl)
theorem dJ18_hugeLength_42 : decode cJ18_hugeLength 42 = .ok (.invokevirtual 101, 3) := dk_182 0 101 (dk_at dksJ18_hugeLength_1 18 rfl rfl)
theorem dJ18_hugeLength_45 : decode cJ18_hugeLength 45 = .ok (.invokespecial 212, 3) := dk_183 0 212 (dk_at dksJ18_hugeLength_1 21 rfl rfl)
theorem dJ18_hugeLength_48 : decode cJ18_hugeLength 48 = .ok (.athrow, 1) := dk_191 (dk_at dksJ18_hugeLength_2 0 rfl rfl)
theorem dJ18_hugeLength_49 : decode cJ18_hugeLength 49 = .ok (.iload_n 2, 1) := dk_28 (dk_at dksJ18_hugeLength_2 1 rfl rfl)
theorem dJ18_hugeLength_50 : decode cJ18_hugeLength 50 = .ok (.ldc 200, 2) := dk_18 200 (dk_at dksJ18_hugeLength_2 2 rfl rfl)
theorem dJ18_hugeLength_52 : decode cJ18_hugeLength 52 = .ok (.if_icmp .gt 6, 3) := dk_163 0 6 (dk_at dksJ18_hugeLength_2 4 rfl rfl)
theorem dJ18_hugeLength_55 : decode cJ18_hugeLength 55 = .ok (.ldc 200, 2) := dk_18 200 (dk_at dksJ18_hugeLength_2 7 rfl rfl)
theorem dJ18_hugeLength_57 : decode cJ18_hugeLength 57 = .ok (.ireturn, 1) := dk_172 (dk_at dksJ18_hugeLength_2 9 rfl rfl)
theorem dJ18_hugeLength_58 : decode cJ18_hugeLength 58 = .ok (.iload_n 2, 1) := dk_28 (dk_at dksJ18_hugeLength_2 10 rfl rfl)
theorem dJ18_hugeLength_59 : decode cJ18_hugeLength 59 = .ok (.ireturn, 1) := dk_172 (dk_at dksJ18_hugeLength_2 11 rfl rfl)
abbrev cJ18_mismatch : ByteArray := prog_74_method_14_code
def yJ18_mismatch : MethodName := ⟨RJ18, "mismatch", "([BI[BII)I"⟩
def dkwJ18_mismatch_4 : List UInt8 := [132, 5, 1, 167, 255, 228, 2, 172]
abbrev dktJ18_mismatch_4 : List UInt8 := dkwJ18_mismatch_4 ++ []
def dkwJ18_mismatch_3 : List UInt8 := [21, 4, 162, 0, 27, 42, 27, 21, 5, 96, 51, 44, 29, 21, 5, 96, 51, 159, 0, 6, 21, 5, 172]
abbrev dktJ18_mismatch_3 : List UInt8 := dkwJ18_mismatch_3 ++ dktJ18_mismatch_4
def dkwJ18_mismatch_2 : List UInt8 := [184, 0, 122, 54, 5, 21, 5, 155, 0, 6, 21, 5, 172, 21, 4, 21, 5, 2, 130, 100, 54, 5, 21, 5]
abbrev dktJ18_mismatch_2 : List UInt8 := dkwJ18_mismatch_2 ++ dktJ18_mismatch_3
def dkwJ18_mismatch_1 : List UInt8 := [27, 96, 54, 6, 178, 0, 126, 29, 96, 54, 7, 42, 21, 6, 133, 44, 21, 7, 133, 21, 4, 178, 0, 129]
abbrev dktJ18_mismatch_1 : List UInt8 := dkwJ18_mismatch_1 ++ dktJ18_mismatch_2
def dkwJ18_mismatch_0 : List UInt8 := [3, 54, 5, 21, 4, 16, 7, 164, 0, 63, 42, 27, 51, 44, 29, 51, 159, 0, 5, 3, 172, 178, 0, 126]
abbrev dktJ18_mismatch_0 : List UInt8 := dkwJ18_mismatch_0 ++ dktJ18_mismatch_1
theorem dksJ18_mismatch_0 : cJ18_mismatch.data.toList.drop 0 = dktJ18_mismatch_0 := by decide +kernel
theorem dksJ18_mismatch_1 : cJ18_mismatch.data.toList.drop 24 = dktJ18_mismatch_1 := dk_seg dksJ18_mismatch_0 24 rfl rfl
theorem dksJ18_mismatch_2 : cJ18_mismatch.data.toList.drop 48 = dktJ18_mismatch_2 := dk_seg dksJ18_mismatch_1 24 rfl rfl
theorem dksJ18_mismatch_3 : cJ18_mismatch.data.toList.drop 72 = dktJ18_mismatch_3 := dk_seg dksJ18_mismatch_2 24 rfl rfl
theorem dksJ18_mismatch_4 : cJ18_mismatch.data.toList.drop 95 = dktJ18_mismatch_4 := dk_seg dksJ18_mismatch_3 23 rfl rfl
theorem dJ18_mismatch_0 : decode cJ18_mismatch 0 = .ok (.iconst 0, 1) := dk_3 (dk_at dksJ18_mismatch_0 0 rfl rfl)
theorem dJ18_mismatch_1 : decode cJ18_mismatch 1 = .ok (.istore 5, 2) := dk_54 5 (dk_at dksJ18_mismatch_0 1 rfl rfl)
theorem dJ18_mismatch_3 : decode cJ18_mismatch 3 = .ok (.iload 4, 2) := dk_21 4 (dk_at dksJ18_mismatch_0 3 rfl rfl)
theorem dJ18_mismatch_5 : decode cJ18_mismatch 5 = .ok (.bipush 7, 2) := dk_16 7 (dk_at dksJ18_mismatch_0 5 rfl rfl)
theorem dJ18_mismatch_7 : decode cJ18_mismatch 7 = .ok (.if_icmp .le 63, 3) := dk_164 0 63 (dk_at dksJ18_mismatch_0 7 rfl rfl)
theorem dJ18_mismatch_10 : decode cJ18_mismatch 10 = .ok (.aload_n 0, 1) := dk_42 (dk_at dksJ18_mismatch_0 10 rfl rfl)
theorem dJ18_mismatch_11 : decode cJ18_mismatch 11 = .ok (.iload_n 1, 1) := dk_27 (dk_at dksJ18_mismatch_0 11 rfl rfl)
theorem dJ18_mismatch_12 : decode cJ18_mismatch 12 = .ok (.baload, 1) := dk_51 (dk_at dksJ18_mismatch_0 12 rfl rfl)
theorem dJ18_mismatch_13 : decode cJ18_mismatch 13 = .ok (.aload_n 2, 1) := dk_44 (dk_at dksJ18_mismatch_0 13 rfl rfl)
theorem dJ18_mismatch_14 : decode cJ18_mismatch 14 = .ok (.iload_n 3, 1) := dk_29 (dk_at dksJ18_mismatch_0 14 rfl rfl)
theorem dJ18_mismatch_15 : decode cJ18_mismatch 15 = .ok (.baload, 1) := dk_51 (dk_at dksJ18_mismatch_0 15 rfl rfl)
theorem dJ18_mismatch_16 : decode cJ18_mismatch 16 = .ok (.if_icmp .eq 5, 3) := dk_159 0 5 (dk_at dksJ18_mismatch_0 16 rfl rfl)
theorem dJ18_mismatch_19 : decode cJ18_mismatch 19 = .ok (.iconst 0, 1) := dk_3 (dk_at dksJ18_mismatch_0 19 rfl rfl)
theorem dJ18_mismatch_20 : decode cJ18_mismatch 20 = .ok (.ireturn, 1) := dk_172 (dk_at dksJ18_mismatch_0 20 rfl rfl)
theorem dJ18_mismatch_21 : decode cJ18_mismatch 21 = .ok (.getstatic 126, 3) := dk_178 0 126 (dk_at dksJ18_mismatch_0 21 rfl rfl)
theorem dJ18_mismatch_24 : decode cJ18_mismatch 24 = .ok (.iload_n 1, 1) := dk_27 (dk_at dksJ18_mismatch_1 0 rfl rfl)
theorem dJ18_mismatch_25 : decode cJ18_mismatch 25 = .ok (.iadd, 1) := dk_96 (dk_at dksJ18_mismatch_1 1 rfl rfl)
theorem dJ18_mismatch_26 : decode cJ18_mismatch 26 = .ok (.istore 6, 2) := dk_54 6 (dk_at dksJ18_mismatch_1 2 rfl rfl)
theorem dJ18_mismatch_28 : decode cJ18_mismatch 28 = .ok (.getstatic 126, 3) := dk_178 0 126 (dk_at dksJ18_mismatch_1 4 rfl rfl)
theorem dJ18_mismatch_31 : decode cJ18_mismatch 31 = .ok (.iload_n 3, 1) := dk_29 (dk_at dksJ18_mismatch_1 7 rfl rfl)
theorem dJ18_mismatch_32 : decode cJ18_mismatch 32 = .ok (.iadd, 1) := dk_96 (dk_at dksJ18_mismatch_1 8 rfl rfl)
theorem dJ18_mismatch_33 : decode cJ18_mismatch 33 = .ok (.istore 7, 2) := dk_54 7 (dk_at dksJ18_mismatch_1 9 rfl rfl)
theorem dJ18_mismatch_35 : decode cJ18_mismatch 35 = .ok (.aload_n 0, 1) := dk_42 (dk_at dksJ18_mismatch_1 11 rfl rfl)
theorem dJ18_mismatch_36 : decode cJ18_mismatch 36 = .ok (.iload 6, 2) := dk_21 6 (dk_at dksJ18_mismatch_1 12 rfl rfl)
theorem dJ18_mismatch_38 : decode cJ18_mismatch 38 = .ok (.i2l, 1) := dk_133 (dk_at dksJ18_mismatch_1 14 rfl rfl)
theorem dJ18_mismatch_39 : decode cJ18_mismatch 39 = .ok (.aload_n 2, 1) := dk_44 (dk_at dksJ18_mismatch_1 15 rfl rfl)
theorem dJ18_mismatch_40 : decode cJ18_mismatch 40 = .ok (.iload 7, 2) := dk_21 7 (dk_at dksJ18_mismatch_1 16 rfl rfl)
theorem dJ18_mismatch_42 : decode cJ18_mismatch 42 = .ok (.i2l, 1) := dk_133 (dk_at dksJ18_mismatch_1 18 rfl rfl)
theorem dJ18_mismatch_43 : decode cJ18_mismatch 43 = .ok (.iload 4, 2) := dk_21 4 (dk_at dksJ18_mismatch_1 19 rfl rfl)
theorem dJ18_mismatch_45 : decode cJ18_mismatch 45 = .ok (.getstatic 129, 3) := dk_178 0 129 (dk_at dksJ18_mismatch_1 21 rfl rfl)
theorem dJ18_mismatch_48 : decode cJ18_mismatch 48 = .ok (.invokestatic 122, 3) := dk_184 0 122 (dk_at dksJ18_mismatch_2 0 rfl rfl)
theorem dJ18_mismatch_51 : decode cJ18_mismatch 51 = .ok (.istore 5, 2) := dk_54 5 (dk_at dksJ18_mismatch_2 3 rfl rfl)
theorem dJ18_mismatch_53 : decode cJ18_mismatch 53 = .ok (.iload 5, 2) := dk_21 5 (dk_at dksJ18_mismatch_2 5 rfl rfl)
theorem dJ18_mismatch_55 : decode cJ18_mismatch 55 = .ok (.ifCond .lt 6, 3) := dk_155 0 6 (dk_at dksJ18_mismatch_2 7 rfl rfl)
theorem dJ18_mismatch_58 : decode cJ18_mismatch 58 = .ok (.iload 5, 2) := dk_21 5 (dk_at dksJ18_mismatch_2 10 rfl rfl)
theorem dJ18_mismatch_60 : decode cJ18_mismatch 60 = .ok (.ireturn, 1) := dk_172 (dk_at dksJ18_mismatch_2 12 rfl rfl)
theorem dJ18_mismatch_61 : decode cJ18_mismatch 61 = .ok (.iload 4, 2) := dk_21 4 (dk_at dksJ18_mismatch_2 13 rfl rfl)
theorem dJ18_mismatch_63 : decode cJ18_mismatch 63 = .ok (.iload 5, 2) := dk_21 5 (dk_at dksJ18_mismatch_2 15 rfl rfl)
theorem dJ18_mismatch_65 : decode cJ18_mismatch 65 = .ok (.iconst (-1), 1) := dk_2 (dk_at dksJ18_mismatch_2 17 rfl rfl)
theorem dJ18_mismatch_66 : decode cJ18_mismatch 66 = .ok (.ixor, 1) := dk_130 (dk_at dksJ18_mismatch_2 18 rfl rfl)
theorem dJ18_mismatch_67 : decode cJ18_mismatch 67 = .ok (.isub, 1) := dk_100 (dk_at dksJ18_mismatch_2 19 rfl rfl)
theorem dJ18_mismatch_68 : decode cJ18_mismatch 68 = .ok (.istore 5, 2) := dk_54 5 (dk_at dksJ18_mismatch_2 20 rfl rfl)
theorem dJ18_mismatch_70 : decode cJ18_mismatch 70 = .ok (.iload 5, 2) := dk_21 5 (dk_at dksJ18_mismatch_2 22 rfl rfl)
theorem dJ18_mismatch_72 : decode cJ18_mismatch 72 = .ok (.iload 4, 2) := dk_21 4 (dk_at dksJ18_mismatch_3 0 rfl rfl)
theorem dJ18_mismatch_74 : decode cJ18_mismatch 74 = .ok (.if_icmp .ge 27, 3) := dk_162 0 27 (dk_at dksJ18_mismatch_3 2 rfl rfl)
theorem dJ18_mismatch_77 : decode cJ18_mismatch 77 = .ok (.aload_n 0, 1) := dk_42 (dk_at dksJ18_mismatch_3 5 rfl rfl)
theorem dJ18_mismatch_78 : decode cJ18_mismatch 78 = .ok (.iload_n 1, 1) := dk_27 (dk_at dksJ18_mismatch_3 6 rfl rfl)
theorem dJ18_mismatch_79 : decode cJ18_mismatch 79 = .ok (.iload 5, 2) := dk_21 5 (dk_at dksJ18_mismatch_3 7 rfl rfl)
theorem dJ18_mismatch_81 : decode cJ18_mismatch 81 = .ok (.iadd, 1) := dk_96 (dk_at dksJ18_mismatch_3 9 rfl rfl)
theorem dJ18_mismatch_82 : decode cJ18_mismatch 82 = .ok (.baload, 1) := dk_51 (dk_at dksJ18_mismatch_3 10 rfl rfl)
theorem dJ18_mismatch_83 : decode cJ18_mismatch 83 = .ok (.aload_n 2, 1) := dk_44 (dk_at dksJ18_mismatch_3 11 rfl rfl)
theorem dJ18_mismatch_84 : decode cJ18_mismatch 84 = .ok (.iload_n 3, 1) := dk_29 (dk_at dksJ18_mismatch_3 12 rfl rfl)
theorem dJ18_mismatch_85 : decode cJ18_mismatch 85 = .ok (.iload 5, 2) := dk_21 5 (dk_at dksJ18_mismatch_3 13 rfl rfl)
theorem dJ18_mismatch_87 : decode cJ18_mismatch 87 = .ok (.iadd, 1) := dk_96 (dk_at dksJ18_mismatch_3 15 rfl rfl)
theorem dJ18_mismatch_88 : decode cJ18_mismatch 88 = .ok (.baload, 1) := dk_51 (dk_at dksJ18_mismatch_3 16 rfl rfl)
theorem dJ18_mismatch_89 : decode cJ18_mismatch 89 = .ok (.if_icmp .eq 6, 3) := dk_159 0 6 (dk_at dksJ18_mismatch_3 17 rfl rfl)
theorem dJ18_mismatch_92 : decode cJ18_mismatch 92 = .ok (.iload 5, 2) := dk_21 5 (dk_at dksJ18_mismatch_3 20 rfl rfl)
theorem dJ18_mismatch_94 : decode cJ18_mismatch 94 = .ok (.ireturn, 1) := dk_172 (dk_at dksJ18_mismatch_3 22 rfl rfl)
theorem dJ18_mismatch_95 : decode cJ18_mismatch 95 = .ok (.iinc 5 1, 3) := dk_132 5 1 (dk_at dksJ18_mismatch_4 0 rfl rfl)
theorem dJ18_mismatch_98 : decode cJ18_mismatch 98 = .ok (.goto (-28), 3) := dk_167 255 228 (dk_at dksJ18_mismatch_4 3 rfl rfl)
theorem dJ18_mismatch_101 : decode cJ18_mismatch 101 = .ok (.iconst (-1), 1) := dk_2 (dk_at dksJ18_mismatch_4 6 rfl rfl)
theorem dJ18_mismatch_102 : decode cJ18_mismatch 102 = .ok (.ireturn, 1) := dk_172 (dk_at dksJ18_mismatch_4 7 rfl rfl)
abbrev cJ18_vectorizedMismatch : ByteArray := prog_74_method_3_code
def yJ18_vectorizedMismatch : MethodName := ⟨RJ18, "vectorizedMismatch", "(Ljava/lang/Object;JLjava/lang/Object;JII)I"⟩
def dkwJ18_vectorizedMismatch_11 : List UInt8 := [54, 10, 21, 10, 2, 130, 172, 21, 10, 2, 130, 172]
abbrev dktJ18_vectorizedMismatch_11 : List UInt8 := dkwJ18_vectorizedMismatch_11 ++ []
def dkwJ18_vectorizedMismatch_10 : List UInt8 := [178, 0, 46, 21, 7, 96, 122, 54, 17, 21, 9, 21, 8, 120, 21, 17, 96, 172, 21, 10, 21, 11, 100]
abbrev dktJ18_vectorizedMismatch_10 : List UInt8 := dkwJ18_vectorizedMismatch_10 ++ dktJ18_vectorizedMismatch_11
def dkwJ18_vectorizedMismatch_9 : List UInt8 := [153, 0, 18, 21, 16, 184, 0, 58, 178, 0, 46, 21, 7, 96, 122, 167, 0, 15, 21, 16, 184, 0, 11]
abbrev dktJ18_vectorizedMismatch_9 : List UInt8 := dkwJ18_vectorizedMismatch_9 ++ dktJ18_vectorizedMismatch_10
def dkwJ18_vectorizedMismatch_8 : List UInt8 := [182, 0, 54, 54, 15, 21, 14, 21, 15, 159, 0, 54, 21, 14, 21, 15, 130, 54, 16, 178, 0, 36]
abbrev dktJ18_vectorizedMismatch_8 : List UInt8 := dkwJ18_vectorizedMismatch_8 ++ dktJ18_vectorizedMismatch_9
def dkwJ18_vectorizedMismatch_7 : List UInt8 := [55, 12, 178, 0, 26, 42, 31, 22, 12, 97, 182, 0, 54, 54, 14, 178, 0, 26, 45, 22, 4, 22, 12, 97]
abbrev dktJ18_vectorizedMismatch_7 : List UInt8 := dkwJ18_vectorizedMismatch_7 ++ dktJ18_vectorizedMismatch_8
def dkwJ18_vectorizedMismatch_6 : List UInt8 := [4, 178, 0, 51, 21, 7, 100, 120, 54, 11, 21, 10, 21, 11, 161, 0, 104, 21, 9, 133, 178, 0, 20, 121]
abbrev dktJ18_vectorizedMismatch_6 : List UInt8 := dkwJ18_vectorizedMismatch_6 ++ dktJ18_vectorizedMismatch_7
def dkwJ18_vectorizedMismatch_5 : List UInt8 := [132, 9, 1, 167, 255, 148, 21, 6, 21, 9, 21, 8, 120, 100, 54, 10, 21, 7, 178, 0, 51, 162, 0, 126]
abbrev dktJ18_vectorizedMismatch_5 : List UInt8 := dkwJ18_vectorizedMismatch_5 ++ dktJ18_vectorizedMismatch_6
def dkwJ18_vectorizedMismatch_4 : List UInt8 := [22, 16, 184, 0, 49, 178, 0, 46, 21, 7, 96, 122, 54, 18, 21, 9, 21, 8, 120, 21, 18, 96, 172]
abbrev dktJ18_vectorizedMismatch_4 : List UInt8 := dkwJ18_vectorizedMismatch_4 ++ dktJ18_vectorizedMismatch_5
def dkwJ18_vectorizedMismatch_3 : List UInt8 := [55, 16, 178, 0, 36, 153, 0, 18, 22, 16, 184, 0, 40, 178, 0, 46, 21, 7, 96, 122, 167, 0, 15]
abbrev dktJ18_vectorizedMismatch_3 : List UInt8 := dkwJ18_vectorizedMismatch_3 ++ dktJ18_vectorizedMismatch_4
def dkwJ18_vectorizedMismatch_2 : List UInt8 := [22, 4, 22, 10, 97, 182, 0, 30, 55, 14, 22, 12, 22, 14, 148, 153, 0, 54, 22, 12, 22, 14, 131]
abbrev dktJ18_vectorizedMismatch_2 : List UInt8 := dkwJ18_vectorizedMismatch_2 ++ dktJ18_vectorizedMismatch_3
def dkwJ18_vectorizedMismatch_1 : List UInt8 := [178, 0, 20, 121, 55, 10, 178, 0, 26, 42, 31, 22, 10, 97, 182, 0, 30, 55, 12, 178, 0, 26, 45]
abbrev dktJ18_vectorizedMismatch_1 : List UInt8 := dkwJ18_vectorizedMismatch_1 ++ dktJ18_vectorizedMismatch_2
def dkwJ18_vectorizedMismatch_0 : List UInt8 := [178, 0, 20, 21, 7, 100, 54, 8, 3, 54, 9, 21, 9, 21, 6, 21, 8, 122, 162, 0, 104, 21, 9, 133]
abbrev dktJ18_vectorizedMismatch_0 : List UInt8 := dkwJ18_vectorizedMismatch_0 ++ dktJ18_vectorizedMismatch_1
theorem dksJ18_vectorizedMismatch_0 : cJ18_vectorizedMismatch.data.toList.drop 0 = dktJ18_vectorizedMismatch_0 := by decide +kernel
theorem dksJ18_vectorizedMismatch_1 : cJ18_vectorizedMismatch.data.toList.drop 24 = dktJ18_vectorizedMismatch_1 := dk_seg dksJ18_vectorizedMismatch_0 24 rfl rfl
theorem dksJ18_vectorizedMismatch_2 : cJ18_vectorizedMismatch.data.toList.drop 47 = dktJ18_vectorizedMismatch_2 := dk_seg dksJ18_vectorizedMismatch_1 23 rfl rfl
theorem dksJ18_vectorizedMismatch_3 : cJ18_vectorizedMismatch.data.toList.drop 70 = dktJ18_vectorizedMismatch_3 := dk_seg dksJ18_vectorizedMismatch_2 23 rfl rfl
theorem dksJ18_vectorizedMismatch_4 : cJ18_vectorizedMismatch.data.toList.drop 93 = dktJ18_vectorizedMismatch_4 := dk_seg dksJ18_vectorizedMismatch_3 23 rfl rfl
theorem dksJ18_vectorizedMismatch_5 : cJ18_vectorizedMismatch.data.toList.drop 116 = dktJ18_vectorizedMismatch_5 := dk_seg dksJ18_vectorizedMismatch_4 23 rfl rfl
theorem dksJ18_vectorizedMismatch_6 : cJ18_vectorizedMismatch.data.toList.drop 140 = dktJ18_vectorizedMismatch_6 := dk_seg dksJ18_vectorizedMismatch_5 24 rfl rfl
theorem dksJ18_vectorizedMismatch_7 : cJ18_vectorizedMismatch.data.toList.drop 164 = dktJ18_vectorizedMismatch_7 := dk_seg dksJ18_vectorizedMismatch_6 24 rfl rfl
theorem dksJ18_vectorizedMismatch_8 : cJ18_vectorizedMismatch.data.toList.drop 188 = dktJ18_vectorizedMismatch_8 := dk_seg dksJ18_vectorizedMismatch_7 24 rfl rfl
theorem dksJ18_vectorizedMismatch_9 : cJ18_vectorizedMismatch.data.toList.drop 210 = dktJ18_vectorizedMismatch_9 := dk_seg dksJ18_vectorizedMismatch_8 22 rfl rfl
theorem dksJ18_vectorizedMismatch_10 : cJ18_vectorizedMismatch.data.toList.drop 233 = dktJ18_vectorizedMismatch_10 := dk_seg dksJ18_vectorizedMismatch_9 23 rfl rfl
theorem dksJ18_vectorizedMismatch_11 : cJ18_vectorizedMismatch.data.toList.drop 256 = dktJ18_vectorizedMismatch_11 := dk_seg dksJ18_vectorizedMismatch_10 23 rfl rfl
theorem dJ18_vectorizedMismatch_0 : decode cJ18_vectorizedMismatch 0 = .ok (.getstatic 20, 3) := dk_178 0 20 (dk_at dksJ18_vectorizedMismatch_0 0 rfl rfl)
theorem dJ18_vectorizedMismatch_3 : decode cJ18_vectorizedMismatch 3 = .ok (.iload 7, 2) := dk_21 7 (dk_at dksJ18_vectorizedMismatch_0 3 rfl rfl)
theorem dJ18_vectorizedMismatch_5 : decode cJ18_vectorizedMismatch 5 = .ok (.isub, 1) := dk_100 (dk_at dksJ18_vectorizedMismatch_0 5 rfl rfl)
theorem dJ18_vectorizedMismatch_6 : decode cJ18_vectorizedMismatch 6 = .ok (.istore 8, 2) := dk_54 8 (dk_at dksJ18_vectorizedMismatch_0 6 rfl rfl)
theorem dJ18_vectorizedMismatch_8 : decode cJ18_vectorizedMismatch 8 = .ok (.iconst 0, 1) := dk_3 (dk_at dksJ18_vectorizedMismatch_0 8 rfl rfl)
theorem dJ18_vectorizedMismatch_9 : decode cJ18_vectorizedMismatch 9 = .ok (.istore 9, 2) := dk_54 9 (dk_at dksJ18_vectorizedMismatch_0 9 rfl rfl)
theorem dJ18_vectorizedMismatch_11 : decode cJ18_vectorizedMismatch 11 = .ok (.iload 9, 2) := dk_21 9 (dk_at dksJ18_vectorizedMismatch_0 11 rfl rfl)
theorem dJ18_vectorizedMismatch_13 : decode cJ18_vectorizedMismatch 13 = .ok (.iload 6, 2) := dk_21 6 (dk_at dksJ18_vectorizedMismatch_0 13 rfl rfl)
theorem dJ18_vectorizedMismatch_15 : decode cJ18_vectorizedMismatch 15 = .ok (.iload 8, 2) := dk_21 8 (dk_at dksJ18_vectorizedMismatch_0 15 rfl rfl)
theorem dJ18_vectorizedMismatch_17 : decode cJ18_vectorizedMismatch 17 = .ok (.ishr, 1) := dk_122 (dk_at dksJ18_vectorizedMismatch_0 17 rfl rfl)
theorem dJ18_vectorizedMismatch_18 : decode cJ18_vectorizedMismatch 18 = .ok (.if_icmp .ge 104, 3) := dk_162 0 104 (dk_at dksJ18_vectorizedMismatch_0 18 rfl rfl)
theorem dJ18_vectorizedMismatch_21 : decode cJ18_vectorizedMismatch 21 = .ok (.iload 9, 2) := dk_21 9 (dk_at dksJ18_vectorizedMismatch_0 21 rfl rfl)
theorem dJ18_vectorizedMismatch_23 : decode cJ18_vectorizedMismatch 23 = .ok (.i2l, 1) := dk_133 (dk_at dksJ18_vectorizedMismatch_0 23 rfl rfl)
theorem dJ18_vectorizedMismatch_24 : decode cJ18_vectorizedMismatch 24 = .ok (.getstatic 20, 3) := dk_178 0 20 (dk_at dksJ18_vectorizedMismatch_1 0 rfl rfl)
theorem dJ18_vectorizedMismatch_27 : decode cJ18_vectorizedMismatch 27 = .ok (.lshl, 1) := dk_121 (dk_at dksJ18_vectorizedMismatch_1 3 rfl rfl)
theorem dJ18_vectorizedMismatch_28 : decode cJ18_vectorizedMismatch 28 = .ok (.lstore 10, 2) := dk_55 10 (dk_at dksJ18_vectorizedMismatch_1 4 rfl rfl)
theorem dJ18_vectorizedMismatch_30 : decode cJ18_vectorizedMismatch 30 = .ok (.getstatic 26, 3) := dk_178 0 26 (dk_at dksJ18_vectorizedMismatch_1 6 rfl rfl)
theorem dJ18_vectorizedMismatch_33 : decode cJ18_vectorizedMismatch 33 = .ok (.aload_n 0, 1) := dk_42 (dk_at dksJ18_vectorizedMismatch_1 9 rfl rfl)
theorem dJ18_vectorizedMismatch_34 : decode cJ18_vectorizedMismatch 34 = .ok (.lload_n 1, 1) := dk_31 (dk_at dksJ18_vectorizedMismatch_1 10 rfl rfl)
theorem dJ18_vectorizedMismatch_35 : decode cJ18_vectorizedMismatch 35 = .ok (.lload 10, 2) := dk_22 10 (dk_at dksJ18_vectorizedMismatch_1 11 rfl rfl)
theorem dJ18_vectorizedMismatch_37 : decode cJ18_vectorizedMismatch 37 = .ok (.ladd, 1) := dk_97 (dk_at dksJ18_vectorizedMismatch_1 13 rfl rfl)
theorem dJ18_vectorizedMismatch_38 : decode cJ18_vectorizedMismatch 38 = .ok (.invokevirtual 30, 3) := dk_182 0 30 (dk_at dksJ18_vectorizedMismatch_1 14 rfl rfl)
theorem dJ18_vectorizedMismatch_41 : decode cJ18_vectorizedMismatch 41 = .ok (.lstore 12, 2) := dk_55 12 (dk_at dksJ18_vectorizedMismatch_1 17 rfl rfl)
theorem dJ18_vectorizedMismatch_43 : decode cJ18_vectorizedMismatch 43 = .ok (.getstatic 26, 3) := dk_178 0 26 (dk_at dksJ18_vectorizedMismatch_1 19 rfl rfl)
theorem dJ18_vectorizedMismatch_46 : decode cJ18_vectorizedMismatch 46 = .ok (.aload_n 3, 1) := dk_45 (dk_at dksJ18_vectorizedMismatch_1 22 rfl rfl)
theorem dJ18_vectorizedMismatch_47 : decode cJ18_vectorizedMismatch 47 = .ok (.lload 4, 2) := dk_22 4 (dk_at dksJ18_vectorizedMismatch_2 0 rfl rfl)
theorem dJ18_vectorizedMismatch_49 : decode cJ18_vectorizedMismatch 49 = .ok (.lload 10, 2) := dk_22 10 (dk_at dksJ18_vectorizedMismatch_2 2 rfl rfl)
theorem dJ18_vectorizedMismatch_51 : decode cJ18_vectorizedMismatch 51 = .ok (.ladd, 1) := dk_97 (dk_at dksJ18_vectorizedMismatch_2 4 rfl rfl)
theorem dJ18_vectorizedMismatch_52 : decode cJ18_vectorizedMismatch 52 = .ok (.invokevirtual 30, 3) := dk_182 0 30 (dk_at dksJ18_vectorizedMismatch_2 5 rfl rfl)
theorem dJ18_vectorizedMismatch_55 : decode cJ18_vectorizedMismatch 55 = .ok (.lstore 14, 2) := dk_55 14 (dk_at dksJ18_vectorizedMismatch_2 8 rfl rfl)
theorem dJ18_vectorizedMismatch_57 : decode cJ18_vectorizedMismatch 57 = .ok (.lload 12, 2) := dk_22 12 (dk_at dksJ18_vectorizedMismatch_2 10 rfl rfl)
theorem dJ18_vectorizedMismatch_59 : decode cJ18_vectorizedMismatch 59 = .ok (.lload 14, 2) := dk_22 14 (dk_at dksJ18_vectorizedMismatch_2 12 rfl rfl)
theorem dJ18_vectorizedMismatch_61 : decode cJ18_vectorizedMismatch 61 = .ok (.lcmp, 1) := dk_148 (dk_at dksJ18_vectorizedMismatch_2 14 rfl rfl)
theorem dJ18_vectorizedMismatch_62 : decode cJ18_vectorizedMismatch 62 = .ok (.ifCond .eq 54, 3) := dk_153 0 54 (dk_at dksJ18_vectorizedMismatch_2 15 rfl rfl)
theorem dJ18_vectorizedMismatch_65 : decode cJ18_vectorizedMismatch 65 = .ok (.lload 12, 2) := dk_22 12 (dk_at dksJ18_vectorizedMismatch_2 18 rfl rfl)
theorem dJ18_vectorizedMismatch_67 : decode cJ18_vectorizedMismatch 67 = .ok (.lload 14, 2) := dk_22 14 (dk_at dksJ18_vectorizedMismatch_2 20 rfl rfl)
theorem dJ18_vectorizedMismatch_69 : decode cJ18_vectorizedMismatch 69 = .ok (.lxor, 1) := dk_131 (dk_at dksJ18_vectorizedMismatch_2 22 rfl rfl)
theorem dJ18_vectorizedMismatch_70 : decode cJ18_vectorizedMismatch 70 = .ok (.lstore 16, 2) := dk_55 16 (dk_at dksJ18_vectorizedMismatch_3 0 rfl rfl)
theorem dJ18_vectorizedMismatch_72 : decode cJ18_vectorizedMismatch 72 = .ok (.getstatic 36, 3) := dk_178 0 36 (dk_at dksJ18_vectorizedMismatch_3 2 rfl rfl)
theorem dJ18_vectorizedMismatch_75 : decode cJ18_vectorizedMismatch 75 = .ok (.ifCond .eq 18, 3) := dk_153 0 18 (dk_at dksJ18_vectorizedMismatch_3 5 rfl rfl)
theorem dJ18_vectorizedMismatch_78 : decode cJ18_vectorizedMismatch 78 = .ok (.lload 16, 2) := dk_22 16 (dk_at dksJ18_vectorizedMismatch_3 8 rfl rfl)
theorem dJ18_vectorizedMismatch_80 : decode cJ18_vectorizedMismatch 80 = .ok (.invokestatic 40, 3) := dk_184 0 40 (dk_at dksJ18_vectorizedMismatch_3 10 rfl rfl)
theorem dJ18_vectorizedMismatch_83 : decode cJ18_vectorizedMismatch 83 = .ok (.getstatic 46, 3) := dk_178 0 46 (dk_at dksJ18_vectorizedMismatch_3 13 rfl rfl)
theorem dJ18_vectorizedMismatch_86 : decode cJ18_vectorizedMismatch 86 = .ok (.iload 7, 2) := dk_21 7 (dk_at dksJ18_vectorizedMismatch_3 16 rfl rfl)
theorem dJ18_vectorizedMismatch_88 : decode cJ18_vectorizedMismatch 88 = .ok (.iadd, 1) := dk_96 (dk_at dksJ18_vectorizedMismatch_3 18 rfl rfl)
theorem dJ18_vectorizedMismatch_89 : decode cJ18_vectorizedMismatch 89 = .ok (.ishr, 1) := dk_122 (dk_at dksJ18_vectorizedMismatch_3 19 rfl rfl)
theorem dJ18_vectorizedMismatch_90 : decode cJ18_vectorizedMismatch 90 = .ok (.goto 15, 3) := dk_167 0 15 (dk_at dksJ18_vectorizedMismatch_3 20 rfl rfl)
theorem dJ18_vectorizedMismatch_93 : decode cJ18_vectorizedMismatch 93 = .ok (.lload 16, 2) := dk_22 16 (dk_at dksJ18_vectorizedMismatch_4 0 rfl rfl)
theorem dJ18_vectorizedMismatch_95 : decode cJ18_vectorizedMismatch 95 = .ok (.invokestatic 49, 3) := dk_184 0 49 (dk_at dksJ18_vectorizedMismatch_4 2 rfl rfl)
theorem dJ18_vectorizedMismatch_98 : decode cJ18_vectorizedMismatch 98 = .ok (.getstatic 46, 3) := dk_178 0 46 (dk_at dksJ18_vectorizedMismatch_4 5 rfl rfl)
theorem dJ18_vectorizedMismatch_101 : decode cJ18_vectorizedMismatch 101 = .ok (.iload 7, 2) := dk_21 7 (dk_at dksJ18_vectorizedMismatch_4 8 rfl rfl)
theorem dJ18_vectorizedMismatch_103 : decode cJ18_vectorizedMismatch 103 = .ok (.iadd, 1) := dk_96 (dk_at dksJ18_vectorizedMismatch_4 10 rfl rfl)
theorem dJ18_vectorizedMismatch_104 : decode cJ18_vectorizedMismatch 104 = .ok (.ishr, 1) := dk_122 (dk_at dksJ18_vectorizedMismatch_4 11 rfl rfl)
theorem dJ18_vectorizedMismatch_105 : decode cJ18_vectorizedMismatch 105 = .ok (.istore 18, 2) := dk_54 18 (dk_at dksJ18_vectorizedMismatch_4 12 rfl rfl)
theorem dJ18_vectorizedMismatch_107 : decode cJ18_vectorizedMismatch 107 = .ok (.iload 9, 2) := dk_21 9 (dk_at dksJ18_vectorizedMismatch_4 14 rfl rfl)
theorem dJ18_vectorizedMismatch_109 : decode cJ18_vectorizedMismatch 109 = .ok (.iload 8, 2) := dk_21 8 (dk_at dksJ18_vectorizedMismatch_4 16 rfl rfl)
theorem dJ18_vectorizedMismatch_111 : decode cJ18_vectorizedMismatch 111 = .ok (.ishl, 1) := dk_120 (dk_at dksJ18_vectorizedMismatch_4 18 rfl rfl)
theorem dJ18_vectorizedMismatch_112 : decode cJ18_vectorizedMismatch 112 = .ok (.iload 18, 2) := dk_21 18 (dk_at dksJ18_vectorizedMismatch_4 19 rfl rfl)
theorem dJ18_vectorizedMismatch_114 : decode cJ18_vectorizedMismatch 114 = .ok (.iadd, 1) := dk_96 (dk_at dksJ18_vectorizedMismatch_4 21 rfl rfl)
theorem dJ18_vectorizedMismatch_115 : decode cJ18_vectorizedMismatch 115 = .ok (.ireturn, 1) := dk_172 (dk_at dksJ18_vectorizedMismatch_4 22 rfl rfl)
theorem dJ18_vectorizedMismatch_116 : decode cJ18_vectorizedMismatch 116 = .ok (.iinc 9 1, 3) := dk_132 9 1 (dk_at dksJ18_vectorizedMismatch_5 0 rfl rfl)
theorem dJ18_vectorizedMismatch_119 : decode cJ18_vectorizedMismatch 119 = .ok (.goto (-108), 3) := dk_167 255 148 (dk_at dksJ18_vectorizedMismatch_5 3 rfl rfl)
theorem dJ18_vectorizedMismatch_122 : decode cJ18_vectorizedMismatch 122 = .ok (.iload 6, 2) := dk_21 6 (dk_at dksJ18_vectorizedMismatch_5 6 rfl rfl)
theorem dJ18_vectorizedMismatch_124 : decode cJ18_vectorizedMismatch 124 = .ok (.iload 9, 2) := dk_21 9 (dk_at dksJ18_vectorizedMismatch_5 8 rfl rfl)
theorem dJ18_vectorizedMismatch_126 : decode cJ18_vectorizedMismatch 126 = .ok (.iload 8, 2) := dk_21 8 (dk_at dksJ18_vectorizedMismatch_5 10 rfl rfl)
theorem dJ18_vectorizedMismatch_128 : decode cJ18_vectorizedMismatch 128 = .ok (.ishl, 1) := dk_120 (dk_at dksJ18_vectorizedMismatch_5 12 rfl rfl)
theorem dJ18_vectorizedMismatch_129 : decode cJ18_vectorizedMismatch 129 = .ok (.isub, 1) := dk_100 (dk_at dksJ18_vectorizedMismatch_5 13 rfl rfl)
theorem dJ18_vectorizedMismatch_130 : decode cJ18_vectorizedMismatch 130 = .ok (.istore 10, 2) := dk_54 10 (dk_at dksJ18_vectorizedMismatch_5 14 rfl rfl)
theorem dJ18_vectorizedMismatch_132 : decode cJ18_vectorizedMismatch 132 = .ok (.iload 7, 2) := dk_21 7 (dk_at dksJ18_vectorizedMismatch_5 16 rfl rfl)
theorem dJ18_vectorizedMismatch_134 : decode cJ18_vectorizedMismatch 134 = .ok (.getstatic 51, 3) := dk_178 0 51 (dk_at dksJ18_vectorizedMismatch_5 18 rfl rfl)
theorem dJ18_vectorizedMismatch_137 : decode cJ18_vectorizedMismatch 137 = .ok (.if_icmp .ge 126, 3) := dk_162 0 126 (dk_at dksJ18_vectorizedMismatch_5 21 rfl rfl)
theorem dJ18_vectorizedMismatch_140 : decode cJ18_vectorizedMismatch 140 = .ok (.iconst 1, 1) := dk_4 (dk_at dksJ18_vectorizedMismatch_6 0 rfl rfl)
theorem dJ18_vectorizedMismatch_141 : decode cJ18_vectorizedMismatch 141 = .ok (.getstatic 51, 3) := dk_178 0 51 (dk_at dksJ18_vectorizedMismatch_6 1 rfl rfl)
theorem dJ18_vectorizedMismatch_144 : decode cJ18_vectorizedMismatch 144 = .ok (.iload 7, 2) := dk_21 7 (dk_at dksJ18_vectorizedMismatch_6 4 rfl rfl)
theorem dJ18_vectorizedMismatch_146 : decode cJ18_vectorizedMismatch 146 = .ok (.isub, 1) := dk_100 (dk_at dksJ18_vectorizedMismatch_6 6 rfl rfl)
theorem dJ18_vectorizedMismatch_147 : decode cJ18_vectorizedMismatch 147 = .ok (.ishl, 1) := dk_120 (dk_at dksJ18_vectorizedMismatch_6 7 rfl rfl)
theorem dJ18_vectorizedMismatch_148 : decode cJ18_vectorizedMismatch 148 = .ok (.istore 11, 2) := dk_54 11 (dk_at dksJ18_vectorizedMismatch_6 8 rfl rfl)
theorem dJ18_vectorizedMismatch_150 : decode cJ18_vectorizedMismatch 150 = .ok (.iload 10, 2) := dk_21 10 (dk_at dksJ18_vectorizedMismatch_6 10 rfl rfl)
theorem dJ18_vectorizedMismatch_152 : decode cJ18_vectorizedMismatch 152 = .ok (.iload 11, 2) := dk_21 11 (dk_at dksJ18_vectorizedMismatch_6 12 rfl rfl)
theorem dJ18_vectorizedMismatch_154 : decode cJ18_vectorizedMismatch 154 = .ok (.if_icmp .lt 104, 3) := dk_161 0 104 (dk_at dksJ18_vectorizedMismatch_6 14 rfl rfl)
theorem dJ18_vectorizedMismatch_157 : decode cJ18_vectorizedMismatch 157 = .ok (.iload 9, 2) := dk_21 9 (dk_at dksJ18_vectorizedMismatch_6 17 rfl rfl)
theorem dJ18_vectorizedMismatch_159 : decode cJ18_vectorizedMismatch 159 = .ok (.i2l, 1) := dk_133 (dk_at dksJ18_vectorizedMismatch_6 19 rfl rfl)
theorem dJ18_vectorizedMismatch_160 : decode cJ18_vectorizedMismatch 160 = .ok (.getstatic 20, 3) := dk_178 0 20 (dk_at dksJ18_vectorizedMismatch_6 20 rfl rfl)
theorem dJ18_vectorizedMismatch_163 : decode cJ18_vectorizedMismatch 163 = .ok (.lshl, 1) := dk_121 (dk_at dksJ18_vectorizedMismatch_6 23 rfl rfl)
theorem dJ18_vectorizedMismatch_164 : decode cJ18_vectorizedMismatch 164 = .ok (.lstore 12, 2) := dk_55 12 (dk_at dksJ18_vectorizedMismatch_7 0 rfl rfl)
theorem dJ18_vectorizedMismatch_166 : decode cJ18_vectorizedMismatch 166 = .ok (.getstatic 26, 3) := dk_178 0 26 (dk_at dksJ18_vectorizedMismatch_7 2 rfl rfl)
theorem dJ18_vectorizedMismatch_169 : decode cJ18_vectorizedMismatch 169 = .ok (.aload_n 0, 1) := dk_42 (dk_at dksJ18_vectorizedMismatch_7 5 rfl rfl)
theorem dJ18_vectorizedMismatch_170 : decode cJ18_vectorizedMismatch 170 = .ok (.lload_n 1, 1) := dk_31 (dk_at dksJ18_vectorizedMismatch_7 6 rfl rfl)
theorem dJ18_vectorizedMismatch_171 : decode cJ18_vectorizedMismatch 171 = .ok (.lload 12, 2) := dk_22 12 (dk_at dksJ18_vectorizedMismatch_7 7 rfl rfl)
theorem dJ18_vectorizedMismatch_173 : decode cJ18_vectorizedMismatch 173 = .ok (.ladd, 1) := dk_97 (dk_at dksJ18_vectorizedMismatch_7 9 rfl rfl)
theorem dJ18_vectorizedMismatch_174 : decode cJ18_vectorizedMismatch 174 = .ok (.invokevirtual 54, 3) := dk_182 0 54 (dk_at dksJ18_vectorizedMismatch_7 10 rfl rfl)
theorem dJ18_vectorizedMismatch_177 : decode cJ18_vectorizedMismatch 177 = .ok (.istore 14, 2) := dk_54 14 (dk_at dksJ18_vectorizedMismatch_7 13 rfl rfl)
theorem dJ18_vectorizedMismatch_179 : decode cJ18_vectorizedMismatch 179 = .ok (.getstatic 26, 3) := dk_178 0 26 (dk_at dksJ18_vectorizedMismatch_7 15 rfl rfl)
theorem dJ18_vectorizedMismatch_182 : decode cJ18_vectorizedMismatch 182 = .ok (.aload_n 3, 1) := dk_45 (dk_at dksJ18_vectorizedMismatch_7 18 rfl rfl)
theorem dJ18_vectorizedMismatch_183 : decode cJ18_vectorizedMismatch 183 = .ok (.lload 4, 2) := dk_22 4 (dk_at dksJ18_vectorizedMismatch_7 19 rfl rfl)
theorem dJ18_vectorizedMismatch_185 : decode cJ18_vectorizedMismatch 185 = .ok (.lload 12, 2) := dk_22 12 (dk_at dksJ18_vectorizedMismatch_7 21 rfl rfl)
theorem dJ18_vectorizedMismatch_187 : decode cJ18_vectorizedMismatch 187 = .ok (.ladd, 1) := dk_97 (dk_at dksJ18_vectorizedMismatch_7 23 rfl rfl)
theorem dJ18_vectorizedMismatch_188 : decode cJ18_vectorizedMismatch 188 = .ok (.invokevirtual 54, 3) := dk_182 0 54 (dk_at dksJ18_vectorizedMismatch_8 0 rfl rfl)
theorem dJ18_vectorizedMismatch_191 : decode cJ18_vectorizedMismatch 191 = .ok (.istore 15, 2) := dk_54 15 (dk_at dksJ18_vectorizedMismatch_8 3 rfl rfl)
theorem dJ18_vectorizedMismatch_193 : decode cJ18_vectorizedMismatch 193 = .ok (.iload 14, 2) := dk_21 14 (dk_at dksJ18_vectorizedMismatch_8 5 rfl rfl)
theorem dJ18_vectorizedMismatch_195 : decode cJ18_vectorizedMismatch 195 = .ok (.iload 15, 2) := dk_21 15 (dk_at dksJ18_vectorizedMismatch_8 7 rfl rfl)
theorem dJ18_vectorizedMismatch_197 : decode cJ18_vectorizedMismatch 197 = .ok (.if_icmp .eq 54, 3) := dk_159 0 54 (dk_at dksJ18_vectorizedMismatch_8 9 rfl rfl)
theorem dJ18_vectorizedMismatch_200 : decode cJ18_vectorizedMismatch 200 = .ok (.iload 14, 2) := dk_21 14 (dk_at dksJ18_vectorizedMismatch_8 12 rfl rfl)
theorem dJ18_vectorizedMismatch_202 : decode cJ18_vectorizedMismatch 202 = .ok (.iload 15, 2) := dk_21 15 (dk_at dksJ18_vectorizedMismatch_8 14 rfl rfl)
theorem dJ18_vectorizedMismatch_204 : decode cJ18_vectorizedMismatch 204 = .ok (.ixor, 1) := dk_130 (dk_at dksJ18_vectorizedMismatch_8 16 rfl rfl)
theorem dJ18_vectorizedMismatch_205 : decode cJ18_vectorizedMismatch 205 = .ok (.istore 16, 2) := dk_54 16 (dk_at dksJ18_vectorizedMismatch_8 17 rfl rfl)
theorem dJ18_vectorizedMismatch_207 : decode cJ18_vectorizedMismatch 207 = .ok (.getstatic 36, 3) := dk_178 0 36 (dk_at dksJ18_vectorizedMismatch_8 19 rfl rfl)
theorem dJ18_vectorizedMismatch_210 : decode cJ18_vectorizedMismatch 210 = .ok (.ifCond .eq 18, 3) := dk_153 0 18 (dk_at dksJ18_vectorizedMismatch_9 0 rfl rfl)
theorem dJ18_vectorizedMismatch_213 : decode cJ18_vectorizedMismatch 213 = .ok (.iload 16, 2) := dk_21 16 (dk_at dksJ18_vectorizedMismatch_9 3 rfl rfl)
theorem dJ18_vectorizedMismatch_215 : decode cJ18_vectorizedMismatch 215 = .ok (.invokestatic 58, 3) := dk_184 0 58 (dk_at dksJ18_vectorizedMismatch_9 5 rfl rfl)
theorem dJ18_vectorizedMismatch_218 : decode cJ18_vectorizedMismatch 218 = .ok (.getstatic 46, 3) := dk_178 0 46 (dk_at dksJ18_vectorizedMismatch_9 8 rfl rfl)
theorem dJ18_vectorizedMismatch_221 : decode cJ18_vectorizedMismatch 221 = .ok (.iload 7, 2) := dk_21 7 (dk_at dksJ18_vectorizedMismatch_9 11 rfl rfl)
theorem dJ18_vectorizedMismatch_223 : decode cJ18_vectorizedMismatch 223 = .ok (.iadd, 1) := dk_96 (dk_at dksJ18_vectorizedMismatch_9 13 rfl rfl)
theorem dJ18_vectorizedMismatch_224 : decode cJ18_vectorizedMismatch 224 = .ok (.ishr, 1) := dk_122 (dk_at dksJ18_vectorizedMismatch_9 14 rfl rfl)
theorem dJ18_vectorizedMismatch_225 : decode cJ18_vectorizedMismatch 225 = .ok (.goto 15, 3) := dk_167 0 15 (dk_at dksJ18_vectorizedMismatch_9 15 rfl rfl)
theorem dJ18_vectorizedMismatch_228 : decode cJ18_vectorizedMismatch 228 = .ok (.iload 16, 2) := dk_21 16 (dk_at dksJ18_vectorizedMismatch_9 18 rfl rfl)
theorem dJ18_vectorizedMismatch_230 : decode cJ18_vectorizedMismatch 230 = .ok (.invokestatic 11, 3) := dk_184 0 11 (dk_at dksJ18_vectorizedMismatch_9 20 rfl rfl)
theorem dJ18_vectorizedMismatch_233 : decode cJ18_vectorizedMismatch 233 = .ok (.getstatic 46, 3) := dk_178 0 46 (dk_at dksJ18_vectorizedMismatch_10 0 rfl rfl)
theorem dJ18_vectorizedMismatch_236 : decode cJ18_vectorizedMismatch 236 = .ok (.iload 7, 2) := dk_21 7 (dk_at dksJ18_vectorizedMismatch_10 3 rfl rfl)
theorem dJ18_vectorizedMismatch_238 : decode cJ18_vectorizedMismatch 238 = .ok (.iadd, 1) := dk_96 (dk_at dksJ18_vectorizedMismatch_10 5 rfl rfl)
theorem dJ18_vectorizedMismatch_239 : decode cJ18_vectorizedMismatch 239 = .ok (.ishr, 1) := dk_122 (dk_at dksJ18_vectorizedMismatch_10 6 rfl rfl)
theorem dJ18_vectorizedMismatch_240 : decode cJ18_vectorizedMismatch 240 = .ok (.istore 17, 2) := dk_54 17 (dk_at dksJ18_vectorizedMismatch_10 7 rfl rfl)
theorem dJ18_vectorizedMismatch_242 : decode cJ18_vectorizedMismatch 242 = .ok (.iload 9, 2) := dk_21 9 (dk_at dksJ18_vectorizedMismatch_10 9 rfl rfl)
theorem dJ18_vectorizedMismatch_244 : decode cJ18_vectorizedMismatch 244 = .ok (.iload 8, 2) := dk_21 8 (dk_at dksJ18_vectorizedMismatch_10 11 rfl rfl)
theorem dJ18_vectorizedMismatch_246 : decode cJ18_vectorizedMismatch 246 = .ok (.ishl, 1) := dk_120 (dk_at dksJ18_vectorizedMismatch_10 13 rfl rfl)
theorem dJ18_vectorizedMismatch_247 : decode cJ18_vectorizedMismatch 247 = .ok (.iload 17, 2) := dk_21 17 (dk_at dksJ18_vectorizedMismatch_10 14 rfl rfl)
theorem dJ18_vectorizedMismatch_249 : decode cJ18_vectorizedMismatch 249 = .ok (.iadd, 1) := dk_96 (dk_at dksJ18_vectorizedMismatch_10 16 rfl rfl)
theorem dJ18_vectorizedMismatch_250 : decode cJ18_vectorizedMismatch 250 = .ok (.ireturn, 1) := dk_172 (dk_at dksJ18_vectorizedMismatch_10 17 rfl rfl)
theorem dJ18_vectorizedMismatch_251 : decode cJ18_vectorizedMismatch 251 = .ok (.iload 10, 2) := dk_21 10 (dk_at dksJ18_vectorizedMismatch_10 18 rfl rfl)
theorem dJ18_vectorizedMismatch_253 : decode cJ18_vectorizedMismatch 253 = .ok (.iload 11, 2) := dk_21 11 (dk_at dksJ18_vectorizedMismatch_10 20 rfl rfl)
theorem dJ18_vectorizedMismatch_255 : decode cJ18_vectorizedMismatch 255 = .ok (.isub, 1) := dk_100 (dk_at dksJ18_vectorizedMismatch_10 22 rfl rfl)
theorem dJ18_vectorizedMismatch_256 : decode cJ18_vectorizedMismatch 256 = .ok (.istore 10, 2) := dk_54 10 (dk_at dksJ18_vectorizedMismatch_11 0 rfl rfl)
theorem dJ18_vectorizedMismatch_258 : decode cJ18_vectorizedMismatch 258 = .ok (.iload 10, 2) := dk_21 10 (dk_at dksJ18_vectorizedMismatch_11 2 rfl rfl)
theorem dJ18_vectorizedMismatch_260 : decode cJ18_vectorizedMismatch 260 = .ok (.iconst (-1), 1) := dk_2 (dk_at dksJ18_vectorizedMismatch_11 4 rfl rfl)
theorem dJ18_vectorizedMismatch_261 : decode cJ18_vectorizedMismatch 261 = .ok (.ixor, 1) := dk_130 (dk_at dksJ18_vectorizedMismatch_11 5 rfl rfl)
theorem dJ18_vectorizedMismatch_262 : decode cJ18_vectorizedMismatch 262 = .ok (.ireturn, 1) := dk_172 (dk_at dksJ18_vectorizedMismatch_11 6 rfl rfl)
theorem dJ18_vectorizedMismatch_263 : decode cJ18_vectorizedMismatch 263 = .ok (.iload 10, 2) := dk_21 10 (dk_at dksJ18_vectorizedMismatch_11 7 rfl rfl)
theorem dJ18_vectorizedMismatch_265 : decode cJ18_vectorizedMismatch 265 = .ok (.iconst (-1), 1) := dk_2 (dk_at dksJ18_vectorizedMismatch_11 9 rfl rfl)
theorem dJ18_vectorizedMismatch_266 : decode cJ18_vectorizedMismatch 266 = .ok (.ixor, 1) := dk_130 (dk_at dksJ18_vectorizedMismatch_11 10 rfl rfl)
theorem dJ18_vectorizedMismatch_267 : decode cJ18_vectorizedMismatch 267 = .ok (.ireturn, 1) := dk_172 (dk_at dksJ18_vectorizedMismatch_11 11 rfl rfl)
abbrev cJ18_vectorizedHashCode : ByteArray := prog_74_method_4_code
def yJ18_vectorizedHashCode : MethodName := ⟨RJ18, "vectorizedHashCode", "(Ljava/lang/Object;IIII)I"⟩
def dkwJ18_vectorizedHashCode_6 : List UInt8 := [183, 0, 91, 18, 92, 182, 0, 94, 21, 4, 182, 0, 98, 182, 0, 101, 183, 0, 105, 191, 172]
abbrev dktJ18_vectorizedHashCode_6 : List UInt8 := dkwJ18_vectorizedHashCode_6 ++ []
def dkwJ18_vectorizedHashCode_5 : List UInt8 := [167, 0, 44, 29, 42, 192, 0, 82, 27, 28, 184, 0, 84, 167, 0, 31, 187, 0, 87, 89, 187, 0, 89, 89]
abbrev dktJ18_vectorizedHashCode_5 : List UInt8 := dkwJ18_vectorizedHashCode_5 ++ dktJ18_vectorizedHashCode_6
def dkwJ18_vectorizedHashCode_4 : List UInt8 := [29, 42, 192, 0, 60, 27, 28, 184, 0, 75, 167, 0, 57, 29, 42, 192, 0, 77, 27, 28, 184, 0, 79]
abbrev dktJ18_vectorizedHashCode_4 : List UInt8 := dkwJ18_vectorizedHashCode_4 ++ dktJ18_vectorizedHashCode_5
def dkwJ18_vectorizedHashCode_3 : List UInt8 := [192, 0, 60, 27, 28, 184, 0, 66, 167, 0, 83, 29, 42, 192, 0, 69, 27, 28, 184, 0, 71, 167, 0, 70]
abbrev dktJ18_vectorizedHashCode_3 : List UInt8 := dkwJ18_vectorizedHashCode_3 ++ dktJ18_vectorizedHashCode_4
def dkwJ18_vectorizedHashCode_2 : List UInt8 := [29, 42, 192, 0, 60, 27, 28, 184, 0, 62, 167, 0, 103, 42, 193, 0, 60, 153, 0, 16, 29, 42]
abbrev dktJ18_vectorizedHashCode_2 : List UInt8 := dkwJ18_vectorizedHashCode_2 ++ dktJ18_vectorizedHashCode_3
def dkwJ18_vectorizedHashCode_1 : List UInt8 := [170, 0, 0, 0, 0, 127, 0, 0, 0, 4, 0, 0, 0, 10, 0, 0, 0, 42, 0, 0, 0, 55, 0, 0, 0, 127, 0, 0, 0, 127, 0, 0, 0, 88, 0, 0, 0, 101, 0, 0, 0, 114]
abbrev dktJ18_vectorizedHashCode_1 : List UInt8 := dkwJ18_vectorizedHashCode_1 ++ dktJ18_vectorizedHashCode_2
def dkwJ18_vectorizedHashCode_0 : List UInt8 := [21, 4]
abbrev dktJ18_vectorizedHashCode_0 : List UInt8 := dkwJ18_vectorizedHashCode_0 ++ dktJ18_vectorizedHashCode_1
theorem dksJ18_vectorizedHashCode_0 : cJ18_vectorizedHashCode.data.toList.drop 0 = dktJ18_vectorizedHashCode_0 := by decide +kernel
theorem dksJ18_vectorizedHashCode_1 : cJ18_vectorizedHashCode.data.toList.drop 2 = dktJ18_vectorizedHashCode_1 := dk_seg dksJ18_vectorizedHashCode_0 2 rfl rfl
theorem dksJ18_vectorizedHashCode_2 : cJ18_vectorizedHashCode.data.toList.drop 44 = dktJ18_vectorizedHashCode_2 := dk_seg dksJ18_vectorizedHashCode_1 42 rfl rfl
theorem dksJ18_vectorizedHashCode_3 : cJ18_vectorizedHashCode.data.toList.drop 66 = dktJ18_vectorizedHashCode_3 := dk_seg dksJ18_vectorizedHashCode_2 22 rfl rfl
theorem dksJ18_vectorizedHashCode_4 : cJ18_vectorizedHashCode.data.toList.drop 90 = dktJ18_vectorizedHashCode_4 := dk_seg dksJ18_vectorizedHashCode_3 24 rfl rfl
theorem dksJ18_vectorizedHashCode_5 : cJ18_vectorizedHashCode.data.toList.drop 113 = dktJ18_vectorizedHashCode_5 := dk_seg dksJ18_vectorizedHashCode_4 23 rfl rfl
theorem dksJ18_vectorizedHashCode_6 : cJ18_vectorizedHashCode.data.toList.drop 137 = dktJ18_vectorizedHashCode_6 := dk_seg dksJ18_vectorizedHashCode_5 24 rfl rfl
theorem dJ18_vectorizedHashCode_0 : decode cJ18_vectorizedHashCode 0 = .ok (.iload 4, 2) := dk_21 4 (dk_at dksJ18_vectorizedHashCode_0 0 rfl rfl)
theorem dJ18_vectorizedHashCode_2 : decode cJ18_vectorizedHashCode 2 = .ok (.tableswitch 127 4 10 #[42, 55, 127, 127, 88, 101, 114], 42) := by decide +kernel
theorem dJ18_vectorizedHashCode_44 : decode cJ18_vectorizedHashCode 44 = .ok (.iload_n 3, 1) := dk_29 (dk_at dksJ18_vectorizedHashCode_2 0 rfl rfl)
theorem dJ18_vectorizedHashCode_45 : decode cJ18_vectorizedHashCode 45 = .ok (.aload_n 0, 1) := dk_42 (dk_at dksJ18_vectorizedHashCode_2 1 rfl rfl)
theorem dJ18_vectorizedHashCode_46 : decode cJ18_vectorizedHashCode 46 = .ok (.checkcast 60, 3) := dk_192 0 60 (dk_at dksJ18_vectorizedHashCode_2 2 rfl rfl)
theorem dJ18_vectorizedHashCode_49 : decode cJ18_vectorizedHashCode 49 = .ok (.iload_n 1, 1) := dk_27 (dk_at dksJ18_vectorizedHashCode_2 5 rfl rfl)
theorem dJ18_vectorizedHashCode_50 : decode cJ18_vectorizedHashCode 50 = .ok (.iload_n 2, 1) := dk_28 (dk_at dksJ18_vectorizedHashCode_2 6 rfl rfl)
theorem dJ18_vectorizedHashCode_51 : decode cJ18_vectorizedHashCode 51 = .ok (.invokestatic 62, 3) := dk_184 0 62 (dk_at dksJ18_vectorizedHashCode_2 7 rfl rfl)
theorem dJ18_vectorizedHashCode_54 : decode cJ18_vectorizedHashCode 54 = .ok (.goto 103, 3) := dk_167 0 103 (dk_at dksJ18_vectorizedHashCode_2 10 rfl rfl)
theorem dJ18_vectorizedHashCode_57 : decode cJ18_vectorizedHashCode 57 = .ok (.aload_n 0, 1) := dk_42 (dk_at dksJ18_vectorizedHashCode_2 13 rfl rfl)
theorem dJ18_vectorizedHashCode_58 : decode cJ18_vectorizedHashCode 58 = .ok (.instanceof 60, 3) := dk_193 0 60 (dk_at dksJ18_vectorizedHashCode_2 14 rfl rfl)
theorem dJ18_vectorizedHashCode_61 : decode cJ18_vectorizedHashCode 61 = .ok (.ifCond .eq 16, 3) := dk_153 0 16 (dk_at dksJ18_vectorizedHashCode_2 17 rfl rfl)
theorem dJ18_vectorizedHashCode_64 : decode cJ18_vectorizedHashCode 64 = .ok (.iload_n 3, 1) := dk_29 (dk_at dksJ18_vectorizedHashCode_2 20 rfl rfl)
theorem dJ18_vectorizedHashCode_65 : decode cJ18_vectorizedHashCode 65 = .ok (.aload_n 0, 1) := dk_42 (dk_at dksJ18_vectorizedHashCode_2 21 rfl rfl)
theorem dJ18_vectorizedHashCode_66 : decode cJ18_vectorizedHashCode 66 = .ok (.checkcast 60, 3) := dk_192 0 60 (dk_at dksJ18_vectorizedHashCode_3 0 rfl rfl)
theorem dJ18_vectorizedHashCode_69 : decode cJ18_vectorizedHashCode 69 = .ok (.iload_n 1, 1) := dk_27 (dk_at dksJ18_vectorizedHashCode_3 3 rfl rfl)
theorem dJ18_vectorizedHashCode_70 : decode cJ18_vectorizedHashCode 70 = .ok (.iload_n 2, 1) := dk_28 (dk_at dksJ18_vectorizedHashCode_3 4 rfl rfl)
theorem dJ18_vectorizedHashCode_71 : decode cJ18_vectorizedHashCode 71 = .ok (.invokestatic 66, 3) := dk_184 0 66 (dk_at dksJ18_vectorizedHashCode_3 5 rfl rfl)
theorem dJ18_vectorizedHashCode_74 : decode cJ18_vectorizedHashCode 74 = .ok (.goto 83, 3) := dk_167 0 83 (dk_at dksJ18_vectorizedHashCode_3 8 rfl rfl)
theorem dJ18_vectorizedHashCode_77 : decode cJ18_vectorizedHashCode 77 = .ok (.iload_n 3, 1) := dk_29 (dk_at dksJ18_vectorizedHashCode_3 11 rfl rfl)
theorem dJ18_vectorizedHashCode_78 : decode cJ18_vectorizedHashCode 78 = .ok (.aload_n 0, 1) := dk_42 (dk_at dksJ18_vectorizedHashCode_3 12 rfl rfl)
theorem dJ18_vectorizedHashCode_79 : decode cJ18_vectorizedHashCode 79 = .ok (.checkcast 69, 3) := dk_192 0 69 (dk_at dksJ18_vectorizedHashCode_3 13 rfl rfl)
theorem dJ18_vectorizedHashCode_82 : decode cJ18_vectorizedHashCode 82 = .ok (.iload_n 1, 1) := dk_27 (dk_at dksJ18_vectorizedHashCode_3 16 rfl rfl)
theorem dJ18_vectorizedHashCode_83 : decode cJ18_vectorizedHashCode 83 = .ok (.iload_n 2, 1) := dk_28 (dk_at dksJ18_vectorizedHashCode_3 17 rfl rfl)
theorem dJ18_vectorizedHashCode_84 : decode cJ18_vectorizedHashCode 84 = .ok (.invokestatic 71, 3) := dk_184 0 71 (dk_at dksJ18_vectorizedHashCode_3 18 rfl rfl)
theorem dJ18_vectorizedHashCode_87 : decode cJ18_vectorizedHashCode 87 = .ok (.goto 70, 3) := dk_167 0 70 (dk_at dksJ18_vectorizedHashCode_3 21 rfl rfl)
theorem dJ18_vectorizedHashCode_90 : decode cJ18_vectorizedHashCode 90 = .ok (.iload_n 3, 1) := dk_29 (dk_at dksJ18_vectorizedHashCode_4 0 rfl rfl)
theorem dJ18_vectorizedHashCode_91 : decode cJ18_vectorizedHashCode 91 = .ok (.aload_n 0, 1) := dk_42 (dk_at dksJ18_vectorizedHashCode_4 1 rfl rfl)
theorem dJ18_vectorizedHashCode_92 : decode cJ18_vectorizedHashCode 92 = .ok (.checkcast 60, 3) := dk_192 0 60 (dk_at dksJ18_vectorizedHashCode_4 2 rfl rfl)
theorem dJ18_vectorizedHashCode_95 : decode cJ18_vectorizedHashCode 95 = .ok (.iload_n 1, 1) := dk_27 (dk_at dksJ18_vectorizedHashCode_4 5 rfl rfl)
theorem dJ18_vectorizedHashCode_96 : decode cJ18_vectorizedHashCode 96 = .ok (.iload_n 2, 1) := dk_28 (dk_at dksJ18_vectorizedHashCode_4 6 rfl rfl)
theorem dJ18_vectorizedHashCode_97 : decode cJ18_vectorizedHashCode 97 = .ok (.invokestatic 75, 3) := dk_184 0 75 (dk_at dksJ18_vectorizedHashCode_4 7 rfl rfl)
theorem dJ18_vectorizedHashCode_100 : decode cJ18_vectorizedHashCode 100 = .ok (.goto 57, 3) := dk_167 0 57 (dk_at dksJ18_vectorizedHashCode_4 10 rfl rfl)
theorem dJ18_vectorizedHashCode_103 : decode cJ18_vectorizedHashCode 103 = .ok (.iload_n 3, 1) := dk_29 (dk_at dksJ18_vectorizedHashCode_4 13 rfl rfl)
theorem dJ18_vectorizedHashCode_104 : decode cJ18_vectorizedHashCode 104 = .ok (.aload_n 0, 1) := dk_42 (dk_at dksJ18_vectorizedHashCode_4 14 rfl rfl)
theorem dJ18_vectorizedHashCode_105 : decode cJ18_vectorizedHashCode 105 = .ok (.checkcast 77, 3) := dk_192 0 77 (dk_at dksJ18_vectorizedHashCode_4 15 rfl rfl)
theorem dJ18_vectorizedHashCode_108 : decode cJ18_vectorizedHashCode 108 = .ok (.iload_n 1, 1) := dk_27 (dk_at dksJ18_vectorizedHashCode_4 18 rfl rfl)
theorem dJ18_vectorizedHashCode_109 : decode cJ18_vectorizedHashCode 109 = .ok (.iload_n 2, 1) := dk_28 (dk_at dksJ18_vectorizedHashCode_4 19 rfl rfl)
theorem dJ18_vectorizedHashCode_110 : decode cJ18_vectorizedHashCode 110 = .ok (.invokestatic 79, 3) := dk_184 0 79 (dk_at dksJ18_vectorizedHashCode_4 20 rfl rfl)
theorem dJ18_vectorizedHashCode_113 : decode cJ18_vectorizedHashCode 113 = .ok (.goto 44, 3) := dk_167 0 44 (dk_at dksJ18_vectorizedHashCode_5 0 rfl rfl)
theorem dJ18_vectorizedHashCode_116 : decode cJ18_vectorizedHashCode 116 = .ok (.iload_n 3, 1) := dk_29 (dk_at dksJ18_vectorizedHashCode_5 3 rfl rfl)
theorem dJ18_vectorizedHashCode_117 : decode cJ18_vectorizedHashCode 117 = .ok (.aload_n 0, 1) := dk_42 (dk_at dksJ18_vectorizedHashCode_5 4 rfl rfl)
theorem dJ18_vectorizedHashCode_118 : decode cJ18_vectorizedHashCode 118 = .ok (.checkcast 82, 3) := dk_192 0 82 (dk_at dksJ18_vectorizedHashCode_5 5 rfl rfl)
theorem dJ18_vectorizedHashCode_121 : decode cJ18_vectorizedHashCode 121 = .ok (.iload_n 1, 1) := dk_27 (dk_at dksJ18_vectorizedHashCode_5 8 rfl rfl)
theorem dJ18_vectorizedHashCode_122 : decode cJ18_vectorizedHashCode 122 = .ok (.iload_n 2, 1) := dk_28 (dk_at dksJ18_vectorizedHashCode_5 9 rfl rfl)
theorem dJ18_vectorizedHashCode_123 : decode cJ18_vectorizedHashCode 123 = .ok (.invokestatic 84, 3) := dk_184 0 84 (dk_at dksJ18_vectorizedHashCode_5 10 rfl rfl)
theorem dJ18_vectorizedHashCode_126 : decode cJ18_vectorizedHashCode 126 = .ok (.goto 31, 3) := dk_167 0 31 (dk_at dksJ18_vectorizedHashCode_5 13 rfl rfl)
theorem dJ18_vectorizedHashCode_129 : decode cJ18_vectorizedHashCode 129 = .ok (.new 87, 3) := dk_187 0 87 (dk_at dksJ18_vectorizedHashCode_5 16 rfl rfl)
theorem dJ18_vectorizedHashCode_132 : decode cJ18_vectorizedHashCode 132 = .ok (.dup, 1) := dk_89 (dk_at dksJ18_vectorizedHashCode_5 19 rfl rfl)
theorem dJ18_vectorizedHashCode_133 : decode cJ18_vectorizedHashCode 133 = .ok (.new 89, 3) := dk_187 0 89 (dk_at dksJ18_vectorizedHashCode_5 20 rfl rfl)
theorem dJ18_vectorizedHashCode_136 : decode cJ18_vectorizedHashCode 136 = .ok (.dup, 1) := dk_89 (dk_at dksJ18_vectorizedHashCode_5 23 rfl rfl)
theorem dJ18_vectorizedHashCode_137 : decode cJ18_vectorizedHashCode 137 = .ok (.invokespecial 91, 3) := dk_183 0 91 (dk_at dksJ18_vectorizedHashCode_6 0 rfl rfl)
theorem dJ18_vectorizedHashCode_140 : decode cJ18_vectorizedHashCode 140 = .ok (.ldc 92, 2) := dk_18 92 (dk_at dksJ18_vectorizedHashCode_6 3 rfl rfl)
theorem dJ18_vectorizedHashCode_142 : decode cJ18_vectorizedHashCode 142 = .ok (.invokevirtual 94, 3) := dk_182 0 94 (dk_at dksJ18_vectorizedHashCode_6 5 rfl rfl)
theorem dJ18_vectorizedHashCode_145 : decode cJ18_vectorizedHashCode 145 = .ok (.iload 4, 2) := dk_21 4 (dk_at dksJ18_vectorizedHashCode_6 8 rfl rfl)
theorem dJ18_vectorizedHashCode_147 : decode cJ18_vectorizedHashCode 147 = .ok (.invokevirtual 98, 3) := dk_182 0 98 (dk_at dksJ18_vectorizedHashCode_6 10 rfl rfl)
theorem dJ18_vectorizedHashCode_150 : decode cJ18_vectorizedHashCode 150 = .ok (.invokevirtual 101, 3) := dk_182 0 101 (dk_at dksJ18_vectorizedHashCode_6 13 rfl rfl)
theorem dJ18_vectorizedHashCode_153 : decode cJ18_vectorizedHashCode 153 = .ok (.invokespecial 105, 3) := dk_183 0 105 (dk_at dksJ18_vectorizedHashCode_6 16 rfl rfl)
theorem dJ18_vectorizedHashCode_156 : decode cJ18_vectorizedHashCode 156 = .ok (.athrow, 1) := dk_191 (dk_at dksJ18_vectorizedHashCode_6 19 rfl rfl)
theorem dJ18_vectorizedHashCode_157 : decode cJ18_vectorizedHashCode 157 = .ok (.ireturn, 1) := dk_172 (dk_at dksJ18_vectorizedHashCode_6 20 rfl rfl)
abbrev cJ18_signedHashCode : ByteArray := prog_74_method_5_code
def yJ18_signedHashCode : MethodName := ⟨RJ18, "signedHashCode", "(I[BII)I"⟩
def dkwJ18_signedHashCode_1 : List UInt8 := [17, 0, 255, 126, 96, 59, 132, 5, 1, 167, 255, 232, 26, 172]
abbrev dktJ18_signedHashCode_1 : List UInt8 := dkwJ18_signedHashCode_1 ++ []
def dkwJ18_signedHashCode_0 : List UInt8 := [28, 29, 96, 54, 4, 28, 54, 5, 21, 5, 21, 4, 162, 0, 23, 16, 31, 26, 104, 43, 21, 5, 51]
abbrev dktJ18_signedHashCode_0 : List UInt8 := dkwJ18_signedHashCode_0 ++ dktJ18_signedHashCode_1
theorem dksJ18_signedHashCode_0 : cJ18_signedHashCode.data.toList.drop 0 = dktJ18_signedHashCode_0 := by decide +kernel
theorem dksJ18_signedHashCode_1 : cJ18_signedHashCode.data.toList.drop 23 = dktJ18_signedHashCode_1 := dk_seg dksJ18_signedHashCode_0 23 rfl rfl
theorem dJ18_signedHashCode_0 : decode cJ18_signedHashCode 0 = .ok (.iload_n 2, 1) := dk_28 (dk_at dksJ18_signedHashCode_0 0 rfl rfl)
theorem dJ18_signedHashCode_1 : decode cJ18_signedHashCode 1 = .ok (.iload_n 3, 1) := dk_29 (dk_at dksJ18_signedHashCode_0 1 rfl rfl)
theorem dJ18_signedHashCode_2 : decode cJ18_signedHashCode 2 = .ok (.iadd, 1) := dk_96 (dk_at dksJ18_signedHashCode_0 2 rfl rfl)
theorem dJ18_signedHashCode_3 : decode cJ18_signedHashCode 3 = .ok (.istore 4, 2) := dk_54 4 (dk_at dksJ18_signedHashCode_0 3 rfl rfl)
theorem dJ18_signedHashCode_5 : decode cJ18_signedHashCode 5 = .ok (.iload_n 2, 1) := dk_28 (dk_at dksJ18_signedHashCode_0 5 rfl rfl)
theorem dJ18_signedHashCode_6 : decode cJ18_signedHashCode 6 = .ok (.istore 5, 2) := dk_54 5 (dk_at dksJ18_signedHashCode_0 6 rfl rfl)
theorem dJ18_signedHashCode_8 : decode cJ18_signedHashCode 8 = .ok (.iload 5, 2) := dk_21 5 (dk_at dksJ18_signedHashCode_0 8 rfl rfl)
theorem dJ18_signedHashCode_10 : decode cJ18_signedHashCode 10 = .ok (.iload 4, 2) := dk_21 4 (dk_at dksJ18_signedHashCode_0 10 rfl rfl)
theorem dJ18_signedHashCode_12 : decode cJ18_signedHashCode 12 = .ok (.if_icmp .ge 23, 3) := dk_162 0 23 (dk_at dksJ18_signedHashCode_0 12 rfl rfl)
theorem dJ18_signedHashCode_15 : decode cJ18_signedHashCode 15 = .ok (.bipush 31, 2) := dk_16 31 (dk_at dksJ18_signedHashCode_0 15 rfl rfl)
theorem dJ18_signedHashCode_17 : decode cJ18_signedHashCode 17 = .ok (.iload_n 0, 1) := dk_26 (dk_at dksJ18_signedHashCode_0 17 rfl rfl)
theorem dJ18_signedHashCode_18 : decode cJ18_signedHashCode 18 = .ok (.imul, 1) := dk_104 (dk_at dksJ18_signedHashCode_0 18 rfl rfl)
theorem dJ18_signedHashCode_19 : decode cJ18_signedHashCode 19 = .ok (.aload_n 1, 1) := dk_43 (dk_at dksJ18_signedHashCode_0 19 rfl rfl)
theorem dJ18_signedHashCode_20 : decode cJ18_signedHashCode 20 = .ok (.iload 5, 2) := dk_21 5 (dk_at dksJ18_signedHashCode_0 20 rfl rfl)
theorem dJ18_signedHashCode_22 : decode cJ18_signedHashCode 22 = .ok (.baload, 1) := dk_51 (dk_at dksJ18_signedHashCode_0 22 rfl rfl)
theorem dJ18_signedHashCode_23 : decode cJ18_signedHashCode 23 = .ok (.sipush 255, 3) := dk_17 0 255 (dk_at dksJ18_signedHashCode_1 0 rfl rfl)
theorem dJ18_signedHashCode_26 : decode cJ18_signedHashCode 26 = .ok (.iand, 1) := dk_126 (dk_at dksJ18_signedHashCode_1 3 rfl rfl)
theorem dJ18_signedHashCode_27 : decode cJ18_signedHashCode 27 = .ok (.iadd, 1) := dk_96 (dk_at dksJ18_signedHashCode_1 4 rfl rfl)
theorem dJ18_signedHashCode_28 : decode cJ18_signedHashCode 28 = .ok (.istore_n 0, 1) := dk_59 (dk_at dksJ18_signedHashCode_1 5 rfl rfl)
theorem dJ18_signedHashCode_29 : decode cJ18_signedHashCode 29 = .ok (.iinc 5 1, 3) := dk_132 5 1 (dk_at dksJ18_signedHashCode_1 6 rfl rfl)
theorem dJ18_signedHashCode_32 : decode cJ18_signedHashCode 32 = .ok (.goto (-24), 3) := dk_167 255 232 (dk_at dksJ18_signedHashCode_1 9 rfl rfl)
theorem dJ18_signedHashCode_35 : decode cJ18_signedHashCode 35 = .ok (.iload_n 0, 1) := dk_26 (dk_at dksJ18_signedHashCode_1 12 rfl rfl)
theorem dJ18_signedHashCode_36 : decode cJ18_signedHashCode 36 = .ok (.ireturn, 1) := dk_172 (dk_at dksJ18_signedHashCode_1 13 rfl rfl)
abbrev cJ18_utf16hashCode : ByteArray := prog_74_method_10_code
def yJ18_utf16hashCode : MethodName := ⟨RJ18, "utf16hashCode", "(I[BII)I"⟩
def dkwJ18_utf16hashCode_1 : List UInt8 := [21, 5, 185, 0, 110, 3, 0, 96, 59, 132, 5, 1, 167, 255, 229, 26, 172]
abbrev dktJ18_utf16hashCode_1 : List UInt8 := dkwJ18_utf16hashCode_1 ++ []
def dkwJ18_utf16hashCode_0 : List UInt8 := [28, 29, 96, 54, 4, 28, 54, 5, 21, 5, 21, 4, 162, 0, 26, 16, 31, 26, 104, 178, 0, 106, 43]
abbrev dktJ18_utf16hashCode_0 : List UInt8 := dkwJ18_utf16hashCode_0 ++ dktJ18_utf16hashCode_1
theorem dksJ18_utf16hashCode_0 : cJ18_utf16hashCode.data.toList.drop 0 = dktJ18_utf16hashCode_0 := by decide +kernel
theorem dksJ18_utf16hashCode_1 : cJ18_utf16hashCode.data.toList.drop 23 = dktJ18_utf16hashCode_1 := dk_seg dksJ18_utf16hashCode_0 23 rfl rfl
theorem dJ18_utf16hashCode_0 : decode cJ18_utf16hashCode 0 = .ok (.iload_n 2, 1) := dk_28 (dk_at dksJ18_utf16hashCode_0 0 rfl rfl)
theorem dJ18_utf16hashCode_1 : decode cJ18_utf16hashCode 1 = .ok (.iload_n 3, 1) := dk_29 (dk_at dksJ18_utf16hashCode_0 1 rfl rfl)
theorem dJ18_utf16hashCode_2 : decode cJ18_utf16hashCode 2 = .ok (.iadd, 1) := dk_96 (dk_at dksJ18_utf16hashCode_0 2 rfl rfl)
theorem dJ18_utf16hashCode_3 : decode cJ18_utf16hashCode 3 = .ok (.istore 4, 2) := dk_54 4 (dk_at dksJ18_utf16hashCode_0 3 rfl rfl)
theorem dJ18_utf16hashCode_5 : decode cJ18_utf16hashCode 5 = .ok (.iload_n 2, 1) := dk_28 (dk_at dksJ18_utf16hashCode_0 5 rfl rfl)
theorem dJ18_utf16hashCode_6 : decode cJ18_utf16hashCode 6 = .ok (.istore 5, 2) := dk_54 5 (dk_at dksJ18_utf16hashCode_0 6 rfl rfl)
theorem dJ18_utf16hashCode_8 : decode cJ18_utf16hashCode 8 = .ok (.iload 5, 2) := dk_21 5 (dk_at dksJ18_utf16hashCode_0 8 rfl rfl)
theorem dJ18_utf16hashCode_10 : decode cJ18_utf16hashCode 10 = .ok (.iload 4, 2) := dk_21 4 (dk_at dksJ18_utf16hashCode_0 10 rfl rfl)
theorem dJ18_utf16hashCode_12 : decode cJ18_utf16hashCode 12 = .ok (.if_icmp .ge 26, 3) := dk_162 0 26 (dk_at dksJ18_utf16hashCode_0 12 rfl rfl)
theorem dJ18_utf16hashCode_15 : decode cJ18_utf16hashCode 15 = .ok (.bipush 31, 2) := dk_16 31 (dk_at dksJ18_utf16hashCode_0 15 rfl rfl)
theorem dJ18_utf16hashCode_17 : decode cJ18_utf16hashCode 17 = .ok (.iload_n 0, 1) := dk_26 (dk_at dksJ18_utf16hashCode_0 17 rfl rfl)
theorem dJ18_utf16hashCode_18 : decode cJ18_utf16hashCode 18 = .ok (.imul, 1) := dk_104 (dk_at dksJ18_utf16hashCode_0 18 rfl rfl)
theorem dJ18_utf16hashCode_19 : decode cJ18_utf16hashCode 19 = .ok (.getstatic 106, 3) := dk_178 0 106 (dk_at dksJ18_utf16hashCode_0 19 rfl rfl)
theorem dJ18_utf16hashCode_22 : decode cJ18_utf16hashCode 22 = .ok (.aload_n 1, 1) := dk_43 (dk_at dksJ18_utf16hashCode_0 22 rfl rfl)
theorem dJ18_utf16hashCode_23 : decode cJ18_utf16hashCode 23 = .ok (.iload 5, 2) := dk_21 5 (dk_at dksJ18_utf16hashCode_1 0 rfl rfl)
theorem dJ18_utf16hashCode_25 : decode cJ18_utf16hashCode 25 = .ok (.invokeinterface 110 3, 5) := by decide +kernel
theorem dJ18_utf16hashCode_30 : decode cJ18_utf16hashCode 30 = .ok (.iadd, 1) := dk_96 (dk_at dksJ18_utf16hashCode_1 7 rfl rfl)
theorem dJ18_utf16hashCode_31 : decode cJ18_utf16hashCode 31 = .ok (.istore_n 0, 1) := dk_59 (dk_at dksJ18_utf16hashCode_1 8 rfl rfl)
theorem dJ18_utf16hashCode_32 : decode cJ18_utf16hashCode 32 = .ok (.iinc 5 1, 3) := dk_132 5 1 (dk_at dksJ18_utf16hashCode_1 9 rfl rfl)
theorem dJ18_utf16hashCode_35 : decode cJ18_utf16hashCode 35 = .ok (.goto (-27), 3) := dk_167 255 229 (dk_at dksJ18_utf16hashCode_1 12 rfl rfl)
theorem dJ18_utf16hashCode_38 : decode cJ18_utf16hashCode 38 = .ok (.iload_n 0, 1) := dk_26 (dk_at dksJ18_utf16hashCode_1 15 rfl rfl)
theorem dJ18_utf16hashCode_39 : decode cJ18_utf16hashCode 39 = .ok (.ireturn, 1) := dk_172 (dk_at dksJ18_utf16hashCode_1 16 rfl rfl)
abbrev cJ18_hashCode : ByteArray := prog_74_method_7_code
def yJ18_hashCode : MethodName := ⟨RJ18, "hashCode", "(I[CII)I"⟩
def dkwJ18_hashCode_1 : List UInt8 := [59, 132, 5, 1, 167, 255, 236, 26, 172]
abbrev dktJ18_hashCode_1 : List UInt8 := dkwJ18_hashCode_1 ++ []
def dkwJ18_hashCode_0 : List UInt8 := [28, 29, 96, 54, 4, 28, 54, 5, 21, 5, 21, 4, 162, 0, 19, 16, 31, 26, 104, 43, 21, 5, 52, 96]
abbrev dktJ18_hashCode_0 : List UInt8 := dkwJ18_hashCode_0 ++ dktJ18_hashCode_1
theorem dksJ18_hashCode_0 : cJ18_hashCode.data.toList.drop 0 = dktJ18_hashCode_0 := by decide +kernel
theorem dksJ18_hashCode_1 : cJ18_hashCode.data.toList.drop 24 = dktJ18_hashCode_1 := dk_seg dksJ18_hashCode_0 24 rfl rfl
theorem dJ18_hashCode_0 : decode cJ18_hashCode 0 = .ok (.iload_n 2, 1) := dk_28 (dk_at dksJ18_hashCode_0 0 rfl rfl)
theorem dJ18_hashCode_1 : decode cJ18_hashCode 1 = .ok (.iload_n 3, 1) := dk_29 (dk_at dksJ18_hashCode_0 1 rfl rfl)
theorem dJ18_hashCode_2 : decode cJ18_hashCode 2 = .ok (.iadd, 1) := dk_96 (dk_at dksJ18_hashCode_0 2 rfl rfl)
theorem dJ18_hashCode_3 : decode cJ18_hashCode 3 = .ok (.istore 4, 2) := dk_54 4 (dk_at dksJ18_hashCode_0 3 rfl rfl)
theorem dJ18_hashCode_5 : decode cJ18_hashCode 5 = .ok (.iload_n 2, 1) := dk_28 (dk_at dksJ18_hashCode_0 5 rfl rfl)
theorem dJ18_hashCode_6 : decode cJ18_hashCode 6 = .ok (.istore 5, 2) := dk_54 5 (dk_at dksJ18_hashCode_0 6 rfl rfl)
theorem dJ18_hashCode_8 : decode cJ18_hashCode 8 = .ok (.iload 5, 2) := dk_21 5 (dk_at dksJ18_hashCode_0 8 rfl rfl)
theorem dJ18_hashCode_10 : decode cJ18_hashCode 10 = .ok (.iload 4, 2) := dk_21 4 (dk_at dksJ18_hashCode_0 10 rfl rfl)
theorem dJ18_hashCode_12 : decode cJ18_hashCode 12 = .ok (.if_icmp .ge 19, 3) := dk_162 0 19 (dk_at dksJ18_hashCode_0 12 rfl rfl)
theorem dJ18_hashCode_15 : decode cJ18_hashCode 15 = .ok (.bipush 31, 2) := dk_16 31 (dk_at dksJ18_hashCode_0 15 rfl rfl)
theorem dJ18_hashCode_17 : decode cJ18_hashCode 17 = .ok (.iload_n 0, 1) := dk_26 (dk_at dksJ18_hashCode_0 17 rfl rfl)
theorem dJ18_hashCode_18 : decode cJ18_hashCode 18 = .ok (.imul, 1) := dk_104 (dk_at dksJ18_hashCode_0 18 rfl rfl)
theorem dJ18_hashCode_19 : decode cJ18_hashCode 19 = .ok (.aload_n 1, 1) := dk_43 (dk_at dksJ18_hashCode_0 19 rfl rfl)
theorem dJ18_hashCode_20 : decode cJ18_hashCode 20 = .ok (.iload 5, 2) := dk_21 5 (dk_at dksJ18_hashCode_0 20 rfl rfl)
theorem dJ18_hashCode_22 : decode cJ18_hashCode 22 = .ok (.caload, 1) := dk_52 (dk_at dksJ18_hashCode_0 22 rfl rfl)
theorem dJ18_hashCode_23 : decode cJ18_hashCode 23 = .ok (.iadd, 1) := dk_96 (dk_at dksJ18_hashCode_0 23 rfl rfl)
theorem dJ18_hashCode_24 : decode cJ18_hashCode 24 = .ok (.istore_n 0, 1) := dk_59 (dk_at dksJ18_hashCode_1 0 rfl rfl)
theorem dJ18_hashCode_25 : decode cJ18_hashCode 25 = .ok (.iinc 5 1, 3) := dk_132 5 1 (dk_at dksJ18_hashCode_1 1 rfl rfl)
theorem dJ18_hashCode_28 : decode cJ18_hashCode 28 = .ok (.goto (-20), 3) := dk_167 255 236 (dk_at dksJ18_hashCode_1 4 rfl rfl)
theorem dJ18_hashCode_31 : decode cJ18_hashCode 31 = .ok (.iload_n 0, 1) := dk_26 (dk_at dksJ18_hashCode_1 7 rfl rfl)
theorem dJ18_hashCode_32 : decode cJ18_hashCode 32 = .ok (.ireturn, 1) := dk_172 (dk_at dksJ18_hashCode_1 8 rfl rfl)
abbrev cJ18_hashCode_2 : ByteArray := prog_74_method_6_code
def yJ18_hashCode_2 : MethodName := ⟨RJ18, "hashCode", "(I[BII)I"⟩
def dkwJ18_hashCode_2_1 : List UInt8 := [59, 132, 5, 1, 167, 255, 236, 26, 172]
abbrev dktJ18_hashCode_2_1 : List UInt8 := dkwJ18_hashCode_2_1 ++ []
def dkwJ18_hashCode_2_0 : List UInt8 := [28, 29, 96, 54, 4, 28, 54, 5, 21, 5, 21, 4, 162, 0, 19, 16, 31, 26, 104, 43, 21, 5, 51, 96]
abbrev dktJ18_hashCode_2_0 : List UInt8 := dkwJ18_hashCode_2_0 ++ dktJ18_hashCode_2_1
theorem dksJ18_hashCode_2_0 : cJ18_hashCode_2.data.toList.drop 0 = dktJ18_hashCode_2_0 := by decide +kernel
theorem dksJ18_hashCode_2_1 : cJ18_hashCode_2.data.toList.drop 24 = dktJ18_hashCode_2_1 := dk_seg dksJ18_hashCode_2_0 24 rfl rfl
theorem dJ18_hashCode_2_0 : decode cJ18_hashCode_2 0 = .ok (.iload_n 2, 1) := dk_28 (dk_at dksJ18_hashCode_2_0 0 rfl rfl)
theorem dJ18_hashCode_2_1 : decode cJ18_hashCode_2 1 = .ok (.iload_n 3, 1) := dk_29 (dk_at dksJ18_hashCode_2_0 1 rfl rfl)
theorem dJ18_hashCode_2_2 : decode cJ18_hashCode_2 2 = .ok (.iadd, 1) := dk_96 (dk_at dksJ18_hashCode_2_0 2 rfl rfl)
theorem dJ18_hashCode_2_3 : decode cJ18_hashCode_2 3 = .ok (.istore 4, 2) := dk_54 4 (dk_at dksJ18_hashCode_2_0 3 rfl rfl)
theorem dJ18_hashCode_2_5 : decode cJ18_hashCode_2 5 = .ok (.iload_n 2, 1) := dk_28 (dk_at dksJ18_hashCode_2_0 5 rfl rfl)
theorem dJ18_hashCode_2_6 : decode cJ18_hashCode_2 6 = .ok (.istore 5, 2) := dk_54 5 (dk_at dksJ18_hashCode_2_0 6 rfl rfl)
theorem dJ18_hashCode_2_8 : decode cJ18_hashCode_2 8 = .ok (.iload 5, 2) := dk_21 5 (dk_at dksJ18_hashCode_2_0 8 rfl rfl)
theorem dJ18_hashCode_2_10 : decode cJ18_hashCode_2 10 = .ok (.iload 4, 2) := dk_21 4 (dk_at dksJ18_hashCode_2_0 10 rfl rfl)
theorem dJ18_hashCode_2_12 : decode cJ18_hashCode_2 12 = .ok (.if_icmp .ge 19, 3) := dk_162 0 19 (dk_at dksJ18_hashCode_2_0 12 rfl rfl)
theorem dJ18_hashCode_2_15 : decode cJ18_hashCode_2 15 = .ok (.bipush 31, 2) := dk_16 31 (dk_at dksJ18_hashCode_2_0 15 rfl rfl)
theorem dJ18_hashCode_2_17 : decode cJ18_hashCode_2 17 = .ok (.iload_n 0, 1) := dk_26 (dk_at dksJ18_hashCode_2_0 17 rfl rfl)
theorem dJ18_hashCode_2_18 : decode cJ18_hashCode_2 18 = .ok (.imul, 1) := dk_104 (dk_at dksJ18_hashCode_2_0 18 rfl rfl)
theorem dJ18_hashCode_2_19 : decode cJ18_hashCode_2 19 = .ok (.aload_n 1, 1) := dk_43 (dk_at dksJ18_hashCode_2_0 19 rfl rfl)
theorem dJ18_hashCode_2_20 : decode cJ18_hashCode_2 20 = .ok (.iload 5, 2) := dk_21 5 (dk_at dksJ18_hashCode_2_0 20 rfl rfl)
theorem dJ18_hashCode_2_22 : decode cJ18_hashCode_2 22 = .ok (.baload, 1) := dk_51 (dk_at dksJ18_hashCode_2_0 22 rfl rfl)
theorem dJ18_hashCode_2_23 : decode cJ18_hashCode_2 23 = .ok (.iadd, 1) := dk_96 (dk_at dksJ18_hashCode_2_0 23 rfl rfl)
theorem dJ18_hashCode_2_24 : decode cJ18_hashCode_2 24 = .ok (.istore_n 0, 1) := dk_59 (dk_at dksJ18_hashCode_2_1 0 rfl rfl)
theorem dJ18_hashCode_2_25 : decode cJ18_hashCode_2 25 = .ok (.iinc 5 1, 3) := dk_132 5 1 (dk_at dksJ18_hashCode_2_1 1 rfl rfl)
theorem dJ18_hashCode_2_28 : decode cJ18_hashCode_2 28 = .ok (.goto (-20), 3) := dk_167 255 236 (dk_at dksJ18_hashCode_2_1 4 rfl rfl)
theorem dJ18_hashCode_2_31 : decode cJ18_hashCode_2 31 = .ok (.iload_n 0, 1) := dk_26 (dk_at dksJ18_hashCode_2_1 7 rfl rfl)
theorem dJ18_hashCode_2_32 : decode cJ18_hashCode_2 32 = .ok (.ireturn, 1) := dk_172 (dk_at dksJ18_hashCode_2_1 8 rfl rfl)
abbrev cJ18_hashCode_3 : ByteArray := prog_74_method_8_code
def yJ18_hashCode_3 : MethodName := ⟨RJ18, "hashCode", "(I[SII)I"⟩
def dkwJ18_hashCode_3_1 : List UInt8 := [59, 132, 5, 1, 167, 255, 236, 26, 172]
abbrev dktJ18_hashCode_3_1 : List UInt8 := dkwJ18_hashCode_3_1 ++ []
def dkwJ18_hashCode_3_0 : List UInt8 := [28, 29, 96, 54, 4, 28, 54, 5, 21, 5, 21, 4, 162, 0, 19, 16, 31, 26, 104, 43, 21, 5, 53, 96]
abbrev dktJ18_hashCode_3_0 : List UInt8 := dkwJ18_hashCode_3_0 ++ dktJ18_hashCode_3_1
theorem dksJ18_hashCode_3_0 : cJ18_hashCode_3.data.toList.drop 0 = dktJ18_hashCode_3_0 := by decide +kernel
theorem dksJ18_hashCode_3_1 : cJ18_hashCode_3.data.toList.drop 24 = dktJ18_hashCode_3_1 := dk_seg dksJ18_hashCode_3_0 24 rfl rfl
theorem dJ18_hashCode_3_0 : decode cJ18_hashCode_3 0 = .ok (.iload_n 2, 1) := dk_28 (dk_at dksJ18_hashCode_3_0 0 rfl rfl)
theorem dJ18_hashCode_3_1 : decode cJ18_hashCode_3 1 = .ok (.iload_n 3, 1) := dk_29 (dk_at dksJ18_hashCode_3_0 1 rfl rfl)
theorem dJ18_hashCode_3_2 : decode cJ18_hashCode_3 2 = .ok (.iadd, 1) := dk_96 (dk_at dksJ18_hashCode_3_0 2 rfl rfl)
theorem dJ18_hashCode_3_3 : decode cJ18_hashCode_3 3 = .ok (.istore 4, 2) := dk_54 4 (dk_at dksJ18_hashCode_3_0 3 rfl rfl)
theorem dJ18_hashCode_3_5 : decode cJ18_hashCode_3 5 = .ok (.iload_n 2, 1) := dk_28 (dk_at dksJ18_hashCode_3_0 5 rfl rfl)
theorem dJ18_hashCode_3_6 : decode cJ18_hashCode_3 6 = .ok (.istore 5, 2) := dk_54 5 (dk_at dksJ18_hashCode_3_0 6 rfl rfl)
theorem dJ18_hashCode_3_8 : decode cJ18_hashCode_3 8 = .ok (.iload 5, 2) := dk_21 5 (dk_at dksJ18_hashCode_3_0 8 rfl rfl)
theorem dJ18_hashCode_3_10 : decode cJ18_hashCode_3 10 = .ok (.iload 4, 2) := dk_21 4 (dk_at dksJ18_hashCode_3_0 10 rfl rfl)
theorem dJ18_hashCode_3_12 : decode cJ18_hashCode_3 12 = .ok (.if_icmp .ge 19, 3) := dk_162 0 19 (dk_at dksJ18_hashCode_3_0 12 rfl rfl)
theorem dJ18_hashCode_3_15 : decode cJ18_hashCode_3 15 = .ok (.bipush 31, 2) := dk_16 31 (dk_at dksJ18_hashCode_3_0 15 rfl rfl)
theorem dJ18_hashCode_3_17 : decode cJ18_hashCode_3 17 = .ok (.iload_n 0, 1) := dk_26 (dk_at dksJ18_hashCode_3_0 17 rfl rfl)
theorem dJ18_hashCode_3_18 : decode cJ18_hashCode_3 18 = .ok (.imul, 1) := dk_104 (dk_at dksJ18_hashCode_3_0 18 rfl rfl)
theorem dJ18_hashCode_3_19 : decode cJ18_hashCode_3 19 = .ok (.aload_n 1, 1) := dk_43 (dk_at dksJ18_hashCode_3_0 19 rfl rfl)
theorem dJ18_hashCode_3_20 : decode cJ18_hashCode_3 20 = .ok (.iload 5, 2) := dk_21 5 (dk_at dksJ18_hashCode_3_0 20 rfl rfl)
theorem dJ18_hashCode_3_22 : decode cJ18_hashCode_3 22 = .ok (.saload, 1) := dk_53 (dk_at dksJ18_hashCode_3_0 22 rfl rfl)
theorem dJ18_hashCode_3_23 : decode cJ18_hashCode_3 23 = .ok (.iadd, 1) := dk_96 (dk_at dksJ18_hashCode_3_0 23 rfl rfl)
theorem dJ18_hashCode_3_24 : decode cJ18_hashCode_3 24 = .ok (.istore_n 0, 1) := dk_59 (dk_at dksJ18_hashCode_3_1 0 rfl rfl)
theorem dJ18_hashCode_3_25 : decode cJ18_hashCode_3 25 = .ok (.iinc 5 1, 3) := dk_132 5 1 (dk_at dksJ18_hashCode_3_1 1 rfl rfl)
theorem dJ18_hashCode_3_28 : decode cJ18_hashCode_3 28 = .ok (.goto (-20), 3) := dk_167 255 236 (dk_at dksJ18_hashCode_3_1 4 rfl rfl)
theorem dJ18_hashCode_3_31 : decode cJ18_hashCode_3 31 = .ok (.iload_n 0, 1) := dk_26 (dk_at dksJ18_hashCode_3_1 7 rfl rfl)
theorem dJ18_hashCode_3_32 : decode cJ18_hashCode_3 32 = .ok (.ireturn, 1) := dk_172 (dk_at dksJ18_hashCode_3_1 8 rfl rfl)
abbrev cJ18_hashCode_4 : ByteArray := prog_74_method_9_code
def yJ18_hashCode_4 : MethodName := ⟨RJ18, "hashCode", "(I[III)I"⟩
def dkwJ18_hashCode_4_1 : List UInt8 := [59, 132, 5, 1, 167, 255, 236, 26, 172]
abbrev dktJ18_hashCode_4_1 : List UInt8 := dkwJ18_hashCode_4_1 ++ []
def dkwJ18_hashCode_4_0 : List UInt8 := [28, 29, 96, 54, 4, 28, 54, 5, 21, 5, 21, 4, 162, 0, 19, 16, 31, 26, 104, 43, 21, 5, 46, 96]
abbrev dktJ18_hashCode_4_0 : List UInt8 := dkwJ18_hashCode_4_0 ++ dktJ18_hashCode_4_1
theorem dksJ18_hashCode_4_0 : cJ18_hashCode_4.data.toList.drop 0 = dktJ18_hashCode_4_0 := by decide +kernel
theorem dksJ18_hashCode_4_1 : cJ18_hashCode_4.data.toList.drop 24 = dktJ18_hashCode_4_1 := dk_seg dksJ18_hashCode_4_0 24 rfl rfl
theorem dJ18_hashCode_4_0 : decode cJ18_hashCode_4 0 = .ok (.iload_n 2, 1) := dk_28 (dk_at dksJ18_hashCode_4_0 0 rfl rfl)
theorem dJ18_hashCode_4_1 : decode cJ18_hashCode_4 1 = .ok (.iload_n 3, 1) := dk_29 (dk_at dksJ18_hashCode_4_0 1 rfl rfl)
theorem dJ18_hashCode_4_2 : decode cJ18_hashCode_4 2 = .ok (.iadd, 1) := dk_96 (dk_at dksJ18_hashCode_4_0 2 rfl rfl)
theorem dJ18_hashCode_4_3 : decode cJ18_hashCode_4 3 = .ok (.istore 4, 2) := dk_54 4 (dk_at dksJ18_hashCode_4_0 3 rfl rfl)
theorem dJ18_hashCode_4_5 : decode cJ18_hashCode_4 5 = .ok (.iload_n 2, 1) := dk_28 (dk_at dksJ18_hashCode_4_0 5 rfl rfl)
theorem dJ18_hashCode_4_6 : decode cJ18_hashCode_4 6 = .ok (.istore 5, 2) := dk_54 5 (dk_at dksJ18_hashCode_4_0 6 rfl rfl)
theorem dJ18_hashCode_4_8 : decode cJ18_hashCode_4 8 = .ok (.iload 5, 2) := dk_21 5 (dk_at dksJ18_hashCode_4_0 8 rfl rfl)
theorem dJ18_hashCode_4_10 : decode cJ18_hashCode_4 10 = .ok (.iload 4, 2) := dk_21 4 (dk_at dksJ18_hashCode_4_0 10 rfl rfl)
theorem dJ18_hashCode_4_12 : decode cJ18_hashCode_4 12 = .ok (.if_icmp .ge 19, 3) := dk_162 0 19 (dk_at dksJ18_hashCode_4_0 12 rfl rfl)
theorem dJ18_hashCode_4_15 : decode cJ18_hashCode_4 15 = .ok (.bipush 31, 2) := dk_16 31 (dk_at dksJ18_hashCode_4_0 15 rfl rfl)
theorem dJ18_hashCode_4_17 : decode cJ18_hashCode_4 17 = .ok (.iload_n 0, 1) := dk_26 (dk_at dksJ18_hashCode_4_0 17 rfl rfl)
theorem dJ18_hashCode_4_18 : decode cJ18_hashCode_4 18 = .ok (.imul, 1) := dk_104 (dk_at dksJ18_hashCode_4_0 18 rfl rfl)
theorem dJ18_hashCode_4_19 : decode cJ18_hashCode_4 19 = .ok (.aload_n 1, 1) := dk_43 (dk_at dksJ18_hashCode_4_0 19 rfl rfl)
theorem dJ18_hashCode_4_20 : decode cJ18_hashCode_4 20 = .ok (.iload 5, 2) := dk_21 5 (dk_at dksJ18_hashCode_4_0 20 rfl rfl)
theorem dJ18_hashCode_4_22 : decode cJ18_hashCode_4 22 = .ok (.iaload, 1) := dk_46 (dk_at dksJ18_hashCode_4_0 22 rfl rfl)
theorem dJ18_hashCode_4_23 : decode cJ18_hashCode_4 23 = .ok (.iadd, 1) := dk_96 (dk_at dksJ18_hashCode_4_0 23 rfl rfl)
theorem dJ18_hashCode_4_24 : decode cJ18_hashCode_4 24 = .ok (.istore_n 0, 1) := dk_59 (dk_at dksJ18_hashCode_4_1 0 rfl rfl)
theorem dJ18_hashCode_4_25 : decode cJ18_hashCode_4 25 = .ok (.iinc 5 1, 3) := dk_132 5 1 (dk_at dksJ18_hashCode_4_1 1 rfl rfl)
theorem dJ18_hashCode_4_28 : decode cJ18_hashCode_4 28 = .ok (.goto (-20), 3) := dk_167 255 236 (dk_at dksJ18_hashCode_4_1 4 rfl rfl)
theorem dJ18_hashCode_4_31 : decode cJ18_hashCode_4 31 = .ok (.iload_n 0, 1) := dk_26 (dk_at dksJ18_hashCode_4_1 7 rfl rfl)
theorem dJ18_hashCode_4_32 : decode cJ18_hashCode_4 32 = .ok (.ireturn, 1) := dk_172 (dk_at dksJ18_hashCode_4_1 8 rfl rfl)
abbrev cJ19_max : ByteArray := prog_26_method_65_code
def yJ19_max : MethodName := ⟨RJ19, "max", "(II)I"⟩
def dkwJ19_max_0 : List UInt8 := [26, 27, 161, 0, 7, 26, 167, 0, 4, 27, 172]
abbrev dktJ19_max_0 : List UInt8 := dkwJ19_max_0 ++ []
theorem dksJ19_max_0 : cJ19_max.data.toList.drop 0 = dktJ19_max_0 := by decide +kernel
theorem dJ19_max_0 : decode cJ19_max 0 = .ok (.iload_n 0, 1) := dk_26 (dk_at dksJ19_max_0 0 rfl rfl)
theorem dJ19_max_1 : decode cJ19_max 1 = .ok (.iload_n 1, 1) := dk_27 (dk_at dksJ19_max_0 1 rfl rfl)
theorem dJ19_max_2 : decode cJ19_max 2 = .ok (.if_icmp .lt 7, 3) := dk_161 0 7 (dk_at dksJ19_max_0 2 rfl rfl)
theorem dJ19_max_5 : decode cJ19_max 5 = .ok (.iload_n 0, 1) := dk_26 (dk_at dksJ19_max_0 5 rfl rfl)
theorem dJ19_max_6 : decode cJ19_max 6 = .ok (.goto 4, 3) := dk_167 0 4 (dk_at dksJ19_max_0 6 rfl rfl)
theorem dJ19_max_9 : decode cJ19_max 9 = .ok (.iload_n 1, 1) := dk_27 (dk_at dksJ19_max_0 9 rfl rfl)
theorem dJ19_max_10 : decode cJ19_max 10 = .ok (.ireturn, 1) := dk_172 (dk_at dksJ19_max_0 10 rfl rfl)
abbrev cJ19_min : ByteArray := prog_26_method_69_code
def yJ19_min : MethodName := ⟨RJ19, "min", "(II)I"⟩
def dkwJ19_min_0 : List UInt8 := [26, 27, 163, 0, 7, 26, 167, 0, 4, 27, 172]
abbrev dktJ19_min_0 : List UInt8 := dkwJ19_min_0 ++ []
theorem dksJ19_min_0 : cJ19_min.data.toList.drop 0 = dktJ19_min_0 := by decide +kernel
theorem dJ19_min_0 : decode cJ19_min 0 = .ok (.iload_n 0, 1) := dk_26 (dk_at dksJ19_min_0 0 rfl rfl)
theorem dJ19_min_1 : decode cJ19_min 1 = .ok (.iload_n 1, 1) := dk_27 (dk_at dksJ19_min_0 1 rfl rfl)
theorem dJ19_min_2 : decode cJ19_min 2 = .ok (.if_icmp .gt 7, 3) := dk_163 0 7 (dk_at dksJ19_min_0 2 rfl rfl)
theorem dJ19_min_5 : decode cJ19_min 5 = .ok (.iload_n 0, 1) := dk_26 (dk_at dksJ19_min_0 5 rfl rfl)
theorem dJ19_min_6 : decode cJ19_min 6 = .ok (.goto 4, 3) := dk_167 0 4 (dk_at dksJ19_min_0 6 rfl rfl)
theorem dJ19_min_9 : decode cJ19_min 9 = .ok (.iload_n 1, 1) := dk_27 (dk_at dksJ19_min_0 9 rfl rfl)
theorem dJ19_min_10 : decode cJ19_min 10 = .ok (.ireturn, 1) := dk_172 (dk_at dksJ19_min_0 10 rfl rfl)
abbrev cJ2_init : ByteArray := prog_46_method_2_code
def yJ2_init : MethodName := ⟨RJ2, "<init>", "()V"⟩
def dkwJ2_init_0 : List UInt8 := [42, 183, 0, 1, 42, 178, 0, 39, 181, 0, 9, 177]
abbrev dktJ2_init_0 : List UInt8 := dkwJ2_init_0 ++ []
theorem dksJ2_init_0 : cJ2_init.data.toList.drop 0 = dktJ2_init_0 := by decide +kernel
theorem dJ2_init_0 : decode cJ2_init 0 = .ok (.aload_n 0, 1) := dk_42 (dk_at dksJ2_init_0 0 rfl rfl)
theorem dJ2_init_1 : decode cJ2_init 1 = .ok (.invokespecial 1, 3) := dk_183 0 1 (dk_at dksJ2_init_0 1 rfl rfl)
theorem dJ2_init_4 : decode cJ2_init 4 = .ok (.aload_n 0, 1) := dk_42 (dk_at dksJ2_init_0 4 rfl rfl)
theorem dJ2_init_5 : decode cJ2_init 5 = .ok (.getstatic 39, 3) := dk_178 0 39 (dk_at dksJ2_init_0 5 rfl rfl)
theorem dJ2_init_8 : decode cJ2_init 8 = .ok (.putfield 9, 3) := dk_181 0 9 (dk_at dksJ2_init_0 8 rfl rfl)
theorem dJ2_init_11 : decode cJ2_init 11 = .ok (.return_, 1) := dk_177 (dk_at dksJ2_init_0 11 rfl rfl)
abbrev cJ2_iterator : ByteArray := prog_46_method_55_code
def yJ2_iterator : MethodName := ⟨RJ2, "iterator", "()Ljava/util/Iterator;"⟩
def dkwJ2_iterator_0 : List UInt8 := [187, 1, 11, 89, 42, 183, 1, 13, 176]
abbrev dktJ2_iterator_0 : List UInt8 := dkwJ2_iterator_0 ++ []
theorem dksJ2_iterator_0 : cJ2_iterator.data.toList.drop 0 = dktJ2_iterator_0 := by decide +kernel
theorem dJ2_iterator_0 : decode cJ2_iterator 0 = .ok (.new 267, 3) := dk_187 1 11 (dk_at dksJ2_iterator_0 0 rfl rfl)
theorem dJ2_iterator_3 : decode cJ2_iterator 3 = .ok (.dup, 1) := dk_89 (dk_at dksJ2_iterator_0 3 rfl rfl)
theorem dJ2_iterator_4 : decode cJ2_iterator 4 = .ok (.aload_n 0, 1) := dk_42 (dk_at dksJ2_iterator_0 4 rfl rfl)
theorem dJ2_iterator_5 : decode cJ2_iterator 5 = .ok (.invokespecial 269, 3) := dk_183 1 13 (dk_at dksJ2_iterator_0 5 rfl rfl)
theorem dJ2_iterator_8 : decode cJ2_iterator 8 = .ok (.areturn, 1) := dk_176 (dk_at dksJ2_iterator_0 8 rfl rfl)
abbrev cJ2_size : ByteArray := prog_46_method_8_code
def yJ2_size : MethodName := ⟨RJ2, "size", "()I"⟩
theorem dJ2_size_0 : decode cJ2_size 0 = .ok (.aload_n 0, 1) := by decide +kernel
theorem dJ2_size_1 : decode cJ2_size 1 = .ok (.getfield 48, 3) := by decide +kernel
theorem dJ2_size_4 : decode cJ2_size 4 = .ok (.ireturn, 1) := by decide +kernel
abbrev cJ2_get : ByteArray := prog_46_method_20_code
def yJ2_get : MethodName := ⟨RJ2, "get", "(I)Ljava/lang/Object;"⟩
def dkwJ2_get_0 : List UInt8 := [27, 42, 180, 0, 48, 184, 0, 118, 87, 42, 27, 182, 0, 123, 176]
abbrev dktJ2_get_0 : List UInt8 := dkwJ2_get_0 ++ []
theorem dksJ2_get_0 : cJ2_get.data.toList.drop 0 = dktJ2_get_0 := by decide +kernel
theorem dJ2_get_0 : decode cJ2_get 0 = .ok (.iload_n 1, 1) := dk_27 (dk_at dksJ2_get_0 0 rfl rfl)
theorem dJ2_get_1 : decode cJ2_get 1 = .ok (.aload_n 0, 1) := dk_42 (dk_at dksJ2_get_0 1 rfl rfl)
theorem dJ2_get_2 : decode cJ2_get 2 = .ok (.getfield 48, 3) := dk_180 0 48 (dk_at dksJ2_get_0 2 rfl rfl)
theorem dJ2_get_5 : decode cJ2_get 5 = .ok (.invokestatic 118, 3) := dk_184 0 118 (dk_at dksJ2_get_0 5 rfl rfl)
theorem dJ2_get_8 : decode cJ2_get 8 = .ok (.pop, 1) := dk_87 (dk_at dksJ2_get_0 8 rfl rfl)
theorem dJ2_get_9 : decode cJ2_get 9 = .ok (.aload_n 0, 1) := dk_42 (dk_at dksJ2_get_0 9 rfl rfl)
theorem dJ2_get_10 : decode cJ2_get 10 = .ok (.iload_n 1, 1) := dk_27 (dk_at dksJ2_get_0 10 rfl rfl)
theorem dJ2_get_11 : decode cJ2_get 11 = .ok (.invokevirtual 123, 3) := dk_182 0 123 (dk_at dksJ2_get_0 11 rfl rfl)
theorem dJ2_get_14 : decode cJ2_get 14 = .ok (.areturn, 1) := dk_176 (dk_at dksJ2_get_0 14 rfl rfl)
abbrev cJ2_elementData : ByteArray := prog_46_method_18_code
def yJ2_elementData : MethodName := ⟨RJ2, "elementData", "(I)Ljava/lang/Object;"⟩
def dkwJ2_elementData_0 : List UInt8 := [42, 180, 0, 9, 27, 50, 176]
abbrev dktJ2_elementData_0 : List UInt8 := dkwJ2_elementData_0 ++ []
theorem dksJ2_elementData_0 : cJ2_elementData.data.toList.drop 0 = dktJ2_elementData_0 := by decide +kernel
theorem dJ2_elementData_0 : decode cJ2_elementData 0 = .ok (.aload_n 0, 1) := dk_42 (dk_at dksJ2_elementData_0 0 rfl rfl)
theorem dJ2_elementData_1 : decode cJ2_elementData 1 = .ok (.getfield 9, 3) := dk_180 0 9 (dk_at dksJ2_elementData_0 1 rfl rfl)
theorem dJ2_elementData_4 : decode cJ2_elementData 4 = .ok (.iload_n 1, 1) := dk_27 (dk_at dksJ2_elementData_0 4 rfl rfl)
theorem dJ2_elementData_5 : decode cJ2_elementData 5 = .ok (.aaload, 1) := dk_50 (dk_at dksJ2_elementData_0 5 rfl rfl)
theorem dJ2_elementData_6 : decode cJ2_elementData 6 = .ok (.areturn, 1) := dk_176 (dk_at dksJ2_elementData_0 6 rfl rfl)
abbrev cJ2_listIterator : ByteArray := prog_46_method_53_code
def yJ2_listIterator : MethodName := ⟨RJ2, "listIterator", "(I)Ljava/util/ListIterator;"⟩
def dkwJ2_listIterator_0 : List UInt8 := [42, 27, 182, 0, 135, 187, 1, 6, 89, 42, 27, 183, 1, 8, 176]
abbrev dktJ2_listIterator_0 : List UInt8 := dkwJ2_listIterator_0 ++ []
theorem dksJ2_listIterator_0 : cJ2_listIterator.data.toList.drop 0 = dktJ2_listIterator_0 := by decide +kernel
theorem dJ2_listIterator_0 : decode cJ2_listIterator 0 = .ok (.aload_n 0, 1) := dk_42 (dk_at dksJ2_listIterator_0 0 rfl rfl)
theorem dJ2_listIterator_1 : decode cJ2_listIterator 1 = .ok (.iload_n 1, 1) := dk_27 (dk_at dksJ2_listIterator_0 1 rfl rfl)
theorem dJ2_listIterator_2 : decode cJ2_listIterator 2 = .ok (.invokevirtual 135, 3) := dk_182 0 135 (dk_at dksJ2_listIterator_0 2 rfl rfl)
theorem dJ2_listIterator_5 : decode cJ2_listIterator 5 = .ok (.new 262, 3) := dk_187 1 6 (dk_at dksJ2_listIterator_0 5 rfl rfl)
theorem dJ2_listIterator_8 : decode cJ2_listIterator 8 = .ok (.dup, 1) := dk_89 (dk_at dksJ2_listIterator_0 8 rfl rfl)
theorem dJ2_listIterator_9 : decode cJ2_listIterator 9 = .ok (.aload_n 0, 1) := dk_42 (dk_at dksJ2_listIterator_0 9 rfl rfl)
theorem dJ2_listIterator_10 : decode cJ2_listIterator 10 = .ok (.iload_n 1, 1) := dk_27 (dk_at dksJ2_listIterator_0 10 rfl rfl)
theorem dJ2_listIterator_11 : decode cJ2_listIterator 11 = .ok (.invokespecial 264, 3) := dk_183 1 8 (dk_at dksJ2_listIterator_0 11 rfl rfl)
theorem dJ2_listIterator_14 : decode cJ2_listIterator 14 = .ok (.areturn, 1) := dk_176 (dk_at dksJ2_listIterator_0 14 rfl rfl)
abbrev cJ2_rangeCheckForAdd : ByteArray := prog_46_method_45_code
def yJ2_rangeCheckForAdd : MethodName := ⟨RJ2, "rangeCheckForAdd", "(I)V"⟩
def dkwJ2_rangeCheckForAdd_1 : List UInt8 := [191, 177]
abbrev dktJ2_rangeCheckForAdd_1 : List UInt8 := dkwJ2_rangeCheckForAdd_1 ++ []
def dkwJ2_rangeCheckForAdd_0 : List UInt8 := [27, 42, 180, 0, 48, 163, 0, 7, 27, 156, 0, 16, 187, 0, 187, 89, 42, 27, 182, 0, 198, 183, 0, 193]
abbrev dktJ2_rangeCheckForAdd_0 : List UInt8 := dkwJ2_rangeCheckForAdd_0 ++ dktJ2_rangeCheckForAdd_1
theorem dksJ2_rangeCheckForAdd_0 : cJ2_rangeCheckForAdd.data.toList.drop 0 = dktJ2_rangeCheckForAdd_0 := by decide +kernel
theorem dksJ2_rangeCheckForAdd_1 : cJ2_rangeCheckForAdd.data.toList.drop 24 = dktJ2_rangeCheckForAdd_1 := dk_seg dksJ2_rangeCheckForAdd_0 24 rfl rfl
theorem dJ2_rangeCheckForAdd_0 : decode cJ2_rangeCheckForAdd 0 = .ok (.iload_n 1, 1) := dk_27 (dk_at dksJ2_rangeCheckForAdd_0 0 rfl rfl)
theorem dJ2_rangeCheckForAdd_1 : decode cJ2_rangeCheckForAdd 1 = .ok (.aload_n 0, 1) := dk_42 (dk_at dksJ2_rangeCheckForAdd_0 1 rfl rfl)
theorem dJ2_rangeCheckForAdd_2 : decode cJ2_rangeCheckForAdd 2 = .ok (.getfield 48, 3) := dk_180 0 48 (dk_at dksJ2_rangeCheckForAdd_0 2 rfl rfl)
theorem dJ2_rangeCheckForAdd_5 : decode cJ2_rangeCheckForAdd 5 = .ok (.if_icmp .gt 7, 3) := dk_163 0 7 (dk_at dksJ2_rangeCheckForAdd_0 5 rfl rfl)
theorem dJ2_rangeCheckForAdd_8 : decode cJ2_rangeCheckForAdd 8 = .ok (.iload_n 1, 1) := dk_27 (dk_at dksJ2_rangeCheckForAdd_0 8 rfl rfl)
theorem dJ2_rangeCheckForAdd_9 : decode cJ2_rangeCheckForAdd 9 = .ok (.ifCond .ge 16, 3) := dk_156 0 16 (dk_at dksJ2_rangeCheckForAdd_0 9 rfl rfl)
theorem dJ2_rangeCheckForAdd_12 : decode cJ2_rangeCheckForAdd 12 = .ok (.new 187, 3) := dk_187 0 187 (dk_at dksJ2_rangeCheckForAdd_0 12 rfl rfl)
theorem dJ2_rangeCheckForAdd_15 : decode cJ2_rangeCheckForAdd 15 = .ok (.dup, 1) := dk_89 (dk_at dksJ2_rangeCheckForAdd_0 15 rfl rfl)
theorem dJ2_rangeCheckForAdd_16 : decode cJ2_rangeCheckForAdd 16 = .ok (.aload_n 0, 1) := dk_42 (dk_at dksJ2_rangeCheckForAdd_0 16 rfl rfl)
theorem dJ2_rangeCheckForAdd_17 : decode cJ2_rangeCheckForAdd 17 = .ok (.iload_n 1, 1) := dk_27 (dk_at dksJ2_rangeCheckForAdd_0 17 rfl rfl)
theorem dJ2_rangeCheckForAdd_18 : decode cJ2_rangeCheckForAdd 18 = .ok (.invokevirtual 198, 3) := dk_182 0 198 (dk_at dksJ2_rangeCheckForAdd_0 18 rfl rfl)
theorem dJ2_rangeCheckForAdd_21 : decode cJ2_rangeCheckForAdd 21 = .ok (.invokespecial 193, 3) := dk_183 0 193 (dk_at dksJ2_rangeCheckForAdd_0 21 rfl rfl)
theorem dJ2_rangeCheckForAdd_24 : decode cJ2_rangeCheckForAdd 24 = .ok (.athrow, 1) := dk_191 (dk_at dksJ2_rangeCheckForAdd_1 0 rfl rfl)
theorem dJ2_rangeCheckForAdd_25 : decode cJ2_rangeCheckForAdd 25 = .ok (.return_, 1) := dk_177 (dk_at dksJ2_rangeCheckForAdd_1 1 rfl rfl)
abbrev cJ2_outOfBoundsMsg : ByteArray := prog_46_method_46_code
def yJ2_outOfBoundsMsg : MethodName := ⟨RJ2, "outOfBoundsMsg", "(I)Ljava/lang/String;"⟩
def dkwJ2_outOfBoundsMsg_1 : List UInt8 := [180, 0, 48, 182, 0, 29, 182, 0, 32, 176]
abbrev dktJ2_outOfBoundsMsg_1 : List UInt8 := dkwJ2_outOfBoundsMsg_1 ++ []
def dkwJ2_outOfBoundsMsg_0 : List UInt8 := [187, 0, 20, 89, 183, 0, 22, 18, 201, 182, 0, 25, 27, 182, 0, 29, 18, 203, 182, 0, 25, 42]
abbrev dktJ2_outOfBoundsMsg_0 : List UInt8 := dkwJ2_outOfBoundsMsg_0 ++ dktJ2_outOfBoundsMsg_1
theorem dksJ2_outOfBoundsMsg_0 : cJ2_outOfBoundsMsg.data.toList.drop 0 = dktJ2_outOfBoundsMsg_0 := by decide +kernel
theorem dksJ2_outOfBoundsMsg_1 : cJ2_outOfBoundsMsg.data.toList.drop 22 = dktJ2_outOfBoundsMsg_1 := dk_seg dksJ2_outOfBoundsMsg_0 22 rfl rfl
theorem dJ2_outOfBoundsMsg_0 : decode cJ2_outOfBoundsMsg 0 = .ok (.new 20, 3) := dk_187 0 20 (dk_at dksJ2_outOfBoundsMsg_0 0 rfl rfl)
theorem dJ2_outOfBoundsMsg_3 : decode cJ2_outOfBoundsMsg 3 = .ok (.dup, 1) := dk_89 (dk_at dksJ2_outOfBoundsMsg_0 3 rfl rfl)
theorem dJ2_outOfBoundsMsg_4 : decode cJ2_outOfBoundsMsg 4 = .ok (.invokespecial 22, 3) := dk_183 0 22 (dk_at dksJ2_outOfBoundsMsg_0 4 rfl rfl)
theorem dJ2_outOfBoundsMsg_7 : decode cJ2_outOfBoundsMsg 7 = .ok (.ldc 201, 2) := dk_18 201 (dk_at dksJ2_outOfBoundsMsg_0 7 rfl rfl)
theorem dJ2_outOfBoundsMsg_9 : decode cJ2_outOfBoundsMsg 9 = .ok (.invokevirtual 25, 3) := dk_182 0 25 (dk_at dksJ2_outOfBoundsMsg_0 9 rfl rfl)
theorem dJ2_outOfBoundsMsg_12 : decode cJ2_outOfBoundsMsg 12 = .ok (.iload_n 1, 1) := dk_27 (dk_at dksJ2_outOfBoundsMsg_0 12 rfl rfl)
theorem dJ2_outOfBoundsMsg_13 : decode cJ2_outOfBoundsMsg 13 = .ok (.invokevirtual 29, 3) := dk_182 0 29 (dk_at dksJ2_outOfBoundsMsg_0 13 rfl rfl)
theorem dJ2_outOfBoundsMsg_16 : decode cJ2_outOfBoundsMsg 16 = .ok (.ldc 203, 2) := dk_18 203 (dk_at dksJ2_outOfBoundsMsg_0 16 rfl rfl)
theorem dJ2_outOfBoundsMsg_18 : decode cJ2_outOfBoundsMsg 18 = .ok (.invokevirtual 25, 3) := dk_182 0 25 (dk_at dksJ2_outOfBoundsMsg_0 18 rfl rfl)
theorem dJ2_outOfBoundsMsg_21 : decode cJ2_outOfBoundsMsg 21 = .ok (.aload_n 0, 1) := dk_42 (dk_at dksJ2_outOfBoundsMsg_0 21 rfl rfl)
theorem dJ2_outOfBoundsMsg_22 : decode cJ2_outOfBoundsMsg 22 = .ok (.getfield 48, 3) := dk_180 0 48 (dk_at dksJ2_outOfBoundsMsg_1 0 rfl rfl)
theorem dJ2_outOfBoundsMsg_25 : decode cJ2_outOfBoundsMsg 25 = .ok (.invokevirtual 29, 3) := dk_182 0 29 (dk_at dksJ2_outOfBoundsMsg_1 3 rfl rfl)
theorem dJ2_outOfBoundsMsg_28 : decode cJ2_outOfBoundsMsg 28 = .ok (.invokevirtual 32, 3) := dk_182 0 32 (dk_at dksJ2_outOfBoundsMsg_1 6 rfl rfl)
theorem dJ2_outOfBoundsMsg_31 : decode cJ2_outOfBoundsMsg 31 = .ok (.areturn, 1) := dk_176 (dk_at dksJ2_outOfBoundsMsg_1 9 rfl rfl)
abbrev cJ2_indexOf : ByteArray := prog_46_method_11_code
def yJ2_indexOf : MethodName := ⟨RJ2, "indexOf", "(Ljava/lang/Object;)I"⟩
def dkwJ2_indexOf_0 : List UInt8 := [42, 43, 3, 42, 180, 0, 48, 182, 0, 89, 172]
abbrev dktJ2_indexOf_0 : List UInt8 := dkwJ2_indexOf_0 ++ []
theorem dksJ2_indexOf_0 : cJ2_indexOf.data.toList.drop 0 = dktJ2_indexOf_0 := by decide +kernel
theorem dJ2_indexOf_0 : decode cJ2_indexOf 0 = .ok (.aload_n 0, 1) := dk_42 (dk_at dksJ2_indexOf_0 0 rfl rfl)
theorem dJ2_indexOf_1 : decode cJ2_indexOf 1 = .ok (.aload_n 1, 1) := dk_43 (dk_at dksJ2_indexOf_0 1 rfl rfl)
theorem dJ2_indexOf_2 : decode cJ2_indexOf 2 = .ok (.iconst 0, 1) := dk_3 (dk_at dksJ2_indexOf_0 2 rfl rfl)
theorem dJ2_indexOf_3 : decode cJ2_indexOf 3 = .ok (.aload_n 0, 1) := dk_42 (dk_at dksJ2_indexOf_0 3 rfl rfl)
theorem dJ2_indexOf_4 : decode cJ2_indexOf 4 = .ok (.getfield 48, 3) := dk_180 0 48 (dk_at dksJ2_indexOf_0 4 rfl rfl)
theorem dJ2_indexOf_7 : decode cJ2_indexOf 7 = .ok (.invokevirtual 89, 3) := dk_182 0 89 (dk_at dksJ2_indexOf_0 7 rfl rfl)
theorem dJ2_indexOf_10 : decode cJ2_indexOf 10 = .ok (.ireturn, 1) := dk_172 (dk_at dksJ2_indexOf_0 10 rfl rfl)
abbrev cJ2_indexOfRange : ByteArray := prog_46_method_12_code
def yJ2_indexOfRange : MethodName := ⟨RJ2, "indexOfRange", "(Ljava/lang/Object;II)I"⟩
def dkwJ2_indexOfRange_2 : List UInt8 := [43, 25, 4, 21, 5, 50, 182, 0, 93, 153, 0, 6, 21, 5, 172, 132, 5, 1, 167, 255, 232, 2, 172]
abbrev dktJ2_indexOfRange_2 : List UInt8 := dkwJ2_indexOfRange_2 ++ []
def dkwJ2_indexOfRange_1 : List UInt8 := [199, 0, 6, 21, 5, 172, 132, 5, 1, 167, 255, 236, 167, 0, 33, 28, 54, 5, 21, 5, 29, 162, 0, 24]
abbrev dktJ2_indexOfRange_1 : List UInt8 := dkwJ2_indexOfRange_1 ++ dktJ2_indexOfRange_2
def dkwJ2_indexOfRange_0 : List UInt8 := [42, 180, 0, 9, 58, 4, 43, 199, 0, 32, 28, 54, 5, 21, 5, 29, 162, 0, 20, 25, 4, 21, 5, 50]
abbrev dktJ2_indexOfRange_0 : List UInt8 := dkwJ2_indexOfRange_0 ++ dktJ2_indexOfRange_1
theorem dksJ2_indexOfRange_0 : cJ2_indexOfRange.data.toList.drop 0 = dktJ2_indexOfRange_0 := by decide +kernel
theorem dksJ2_indexOfRange_1 : cJ2_indexOfRange.data.toList.drop 24 = dktJ2_indexOfRange_1 := dk_seg dksJ2_indexOfRange_0 24 rfl rfl
theorem dksJ2_indexOfRange_2 : cJ2_indexOfRange.data.toList.drop 48 = dktJ2_indexOfRange_2 := dk_seg dksJ2_indexOfRange_1 24 rfl rfl
theorem dJ2_indexOfRange_0 : decode cJ2_indexOfRange 0 = .ok (.aload_n 0, 1) := dk_42 (dk_at dksJ2_indexOfRange_0 0 rfl rfl)
theorem dJ2_indexOfRange_1 : decode cJ2_indexOfRange 1 = .ok (.getfield 9, 3) := dk_180 0 9 (dk_at dksJ2_indexOfRange_0 1 rfl rfl)
theorem dJ2_indexOfRange_4 : decode cJ2_indexOfRange 4 = .ok (.astore 4, 2) := dk_58 4 (dk_at dksJ2_indexOfRange_0 4 rfl rfl)
theorem dJ2_indexOfRange_6 : decode cJ2_indexOfRange 6 = .ok (.aload_n 1, 1) := dk_43 (dk_at dksJ2_indexOfRange_0 6 rfl rfl)
theorem dJ2_indexOfRange_7 : decode cJ2_indexOfRange 7 = .ok (.ifnonnull 32, 3) := dk_199 0 32 (dk_at dksJ2_indexOfRange_0 7 rfl rfl)
theorem dJ2_indexOfRange_10 : decode cJ2_indexOfRange 10 = .ok (.iload_n 2, 1) := dk_28 (dk_at dksJ2_indexOfRange_0 10 rfl rfl)
theorem dJ2_indexOfRange_11 : decode cJ2_indexOfRange 11 = .ok (.istore 5, 2) := dk_54 5 (dk_at dksJ2_indexOfRange_0 11 rfl rfl)
theorem dJ2_indexOfRange_13 : decode cJ2_indexOfRange 13 = .ok (.iload 5, 2) := dk_21 5 (dk_at dksJ2_indexOfRange_0 13 rfl rfl)
theorem dJ2_indexOfRange_15 : decode cJ2_indexOfRange 15 = .ok (.iload_n 3, 1) := dk_29 (dk_at dksJ2_indexOfRange_0 15 rfl rfl)
theorem dJ2_indexOfRange_16 : decode cJ2_indexOfRange 16 = .ok (.if_icmp .ge 20, 3) := dk_162 0 20 (dk_at dksJ2_indexOfRange_0 16 rfl rfl)
theorem dJ2_indexOfRange_19 : decode cJ2_indexOfRange 19 = .ok (.aload 4, 2) := dk_25 4 (dk_at dksJ2_indexOfRange_0 19 rfl rfl)
theorem dJ2_indexOfRange_21 : decode cJ2_indexOfRange 21 = .ok (.iload 5, 2) := dk_21 5 (dk_at dksJ2_indexOfRange_0 21 rfl rfl)
theorem dJ2_indexOfRange_23 : decode cJ2_indexOfRange 23 = .ok (.aaload, 1) := dk_50 (dk_at dksJ2_indexOfRange_0 23 rfl rfl)
theorem dJ2_indexOfRange_24 : decode cJ2_indexOfRange 24 = .ok (.ifnonnull 6, 3) := dk_199 0 6 (dk_at dksJ2_indexOfRange_1 0 rfl rfl)
theorem dJ2_indexOfRange_27 : decode cJ2_indexOfRange 27 = .ok (.iload 5, 2) := dk_21 5 (dk_at dksJ2_indexOfRange_1 3 rfl rfl)
theorem dJ2_indexOfRange_29 : decode cJ2_indexOfRange 29 = .ok (.ireturn, 1) := dk_172 (dk_at dksJ2_indexOfRange_1 5 rfl rfl)
theorem dJ2_indexOfRange_30 : decode cJ2_indexOfRange 30 = .ok (.iinc 5 1, 3) := dk_132 5 1 (dk_at dksJ2_indexOfRange_1 6 rfl rfl)
theorem dJ2_indexOfRange_33 : decode cJ2_indexOfRange 33 = .ok (.goto (-20), 3) := dk_167 255 236 (dk_at dksJ2_indexOfRange_1 9 rfl rfl)
theorem dJ2_indexOfRange_36 : decode cJ2_indexOfRange 36 = .ok (.goto 33, 3) := dk_167 0 33 (dk_at dksJ2_indexOfRange_1 12 rfl rfl)
theorem dJ2_indexOfRange_39 : decode cJ2_indexOfRange 39 = .ok (.iload_n 2, 1) := dk_28 (dk_at dksJ2_indexOfRange_1 15 rfl rfl)
theorem dJ2_indexOfRange_40 : decode cJ2_indexOfRange 40 = .ok (.istore 5, 2) := dk_54 5 (dk_at dksJ2_indexOfRange_1 16 rfl rfl)
theorem dJ2_indexOfRange_42 : decode cJ2_indexOfRange 42 = .ok (.iload 5, 2) := dk_21 5 (dk_at dksJ2_indexOfRange_1 18 rfl rfl)
theorem dJ2_indexOfRange_44 : decode cJ2_indexOfRange 44 = .ok (.iload_n 3, 1) := dk_29 (dk_at dksJ2_indexOfRange_1 20 rfl rfl)
theorem dJ2_indexOfRange_45 : decode cJ2_indexOfRange 45 = .ok (.if_icmp .ge 24, 3) := dk_162 0 24 (dk_at dksJ2_indexOfRange_1 21 rfl rfl)
theorem dJ2_indexOfRange_48 : decode cJ2_indexOfRange 48 = .ok (.aload_n 1, 1) := dk_43 (dk_at dksJ2_indexOfRange_2 0 rfl rfl)
theorem dJ2_indexOfRange_49 : decode cJ2_indexOfRange 49 = .ok (.aload 4, 2) := dk_25 4 (dk_at dksJ2_indexOfRange_2 1 rfl rfl)
theorem dJ2_indexOfRange_51 : decode cJ2_indexOfRange 51 = .ok (.iload 5, 2) := dk_21 5 (dk_at dksJ2_indexOfRange_2 3 rfl rfl)
theorem dJ2_indexOfRange_53 : decode cJ2_indexOfRange 53 = .ok (.aaload, 1) := dk_50 (dk_at dksJ2_indexOfRange_2 5 rfl rfl)
theorem dJ2_indexOfRange_54 : decode cJ2_indexOfRange 54 = .ok (.invokevirtual 93, 3) := dk_182 0 93 (dk_at dksJ2_indexOfRange_2 6 rfl rfl)
theorem dJ2_indexOfRange_57 : decode cJ2_indexOfRange 57 = .ok (.ifCond .eq 6, 3) := dk_153 0 6 (dk_at dksJ2_indexOfRange_2 9 rfl rfl)
theorem dJ2_indexOfRange_60 : decode cJ2_indexOfRange 60 = .ok (.iload 5, 2) := dk_21 5 (dk_at dksJ2_indexOfRange_2 12 rfl rfl)
theorem dJ2_indexOfRange_62 : decode cJ2_indexOfRange 62 = .ok (.ireturn, 1) := dk_172 (dk_at dksJ2_indexOfRange_2 14 rfl rfl)
theorem dJ2_indexOfRange_63 : decode cJ2_indexOfRange 63 = .ok (.iinc 5 1, 3) := dk_132 5 1 (dk_at dksJ2_indexOfRange_2 15 rfl rfl)
theorem dJ2_indexOfRange_66 : decode cJ2_indexOfRange 66 = .ok (.goto (-24), 3) := dk_167 255 232 (dk_at dksJ2_indexOfRange_2 18 rfl rfl)
theorem dJ2_indexOfRange_69 : decode cJ2_indexOfRange 69 = .ok (.iconst (-1), 1) := dk_2 (dk_at dksJ2_indexOfRange_2 21 rfl rfl)
theorem dJ2_indexOfRange_70 : decode cJ2_indexOfRange 70 = .ok (.ireturn, 1) := dk_172 (dk_at dksJ2_indexOfRange_2 22 rfl rfl)
abbrev cJ2_add : ByteArray := prog_46_method_25_code
def yJ2_add : MethodName := ⟨RJ2, "add", "(Ljava/lang/Object;)Z"⟩
def dkwJ2_add_1 : List UInt8 := [172]
abbrev dktJ2_add_1 : List UInt8 := dkwJ2_add_1 ++ []
def dkwJ2_add_0 : List UInt8 := [42, 89, 180, 0, 63, 4, 96, 181, 0, 63, 42, 43, 42, 180, 0, 9, 42, 180, 0, 48, 182, 0, 131, 4]
abbrev dktJ2_add_0 : List UInt8 := dkwJ2_add_0 ++ dktJ2_add_1
theorem dksJ2_add_0 : cJ2_add.data.toList.drop 0 = dktJ2_add_0 := by decide +kernel
theorem dksJ2_add_1 : cJ2_add.data.toList.drop 24 = dktJ2_add_1 := dk_seg dksJ2_add_0 24 rfl rfl
theorem dJ2_add_0 : decode cJ2_add 0 = .ok (.aload_n 0, 1) := dk_42 (dk_at dksJ2_add_0 0 rfl rfl)
theorem dJ2_add_1 : decode cJ2_add 1 = .ok (.dup, 1) := dk_89 (dk_at dksJ2_add_0 1 rfl rfl)
theorem dJ2_add_2 : decode cJ2_add 2 = .ok (.getfield 63, 3) := dk_180 0 63 (dk_at dksJ2_add_0 2 rfl rfl)
theorem dJ2_add_5 : decode cJ2_add 5 = .ok (.iconst 1, 1) := dk_4 (dk_at dksJ2_add_0 5 rfl rfl)
theorem dJ2_add_6 : decode cJ2_add 6 = .ok (.iadd, 1) := dk_96 (dk_at dksJ2_add_0 6 rfl rfl)
theorem dJ2_add_7 : decode cJ2_add 7 = .ok (.putfield 63, 3) := dk_181 0 63 (dk_at dksJ2_add_0 7 rfl rfl)
theorem dJ2_add_10 : decode cJ2_add 10 = .ok (.aload_n 0, 1) := dk_42 (dk_at dksJ2_add_0 10 rfl rfl)
theorem dJ2_add_11 : decode cJ2_add 11 = .ok (.aload_n 1, 1) := dk_43 (dk_at dksJ2_add_0 11 rfl rfl)
theorem dJ2_add_12 : decode cJ2_add 12 = .ok (.aload_n 0, 1) := dk_42 (dk_at dksJ2_add_0 12 rfl rfl)
theorem dJ2_add_13 : decode cJ2_add 13 = .ok (.getfield 9, 3) := dk_180 0 9 (dk_at dksJ2_add_0 13 rfl rfl)
theorem dJ2_add_16 : decode cJ2_add 16 = .ok (.aload_n 0, 1) := dk_42 (dk_at dksJ2_add_0 16 rfl rfl)
theorem dJ2_add_17 : decode cJ2_add 17 = .ok (.getfield 48, 3) := dk_180 0 48 (dk_at dksJ2_add_0 17 rfl rfl)
theorem dJ2_add_20 : decode cJ2_add 20 = .ok (.invokevirtual 131, 3) := dk_182 0 131 (dk_at dksJ2_add_0 20 rfl rfl)
theorem dJ2_add_23 : decode cJ2_add 23 = .ok (.iconst 1, 1) := dk_4 (dk_at dksJ2_add_0 23 rfl rfl)
theorem dJ2_add_24 : decode cJ2_add 24 = .ok (.ireturn, 1) := dk_172 (dk_at dksJ2_add_1 0 rfl rfl)
abbrev cJ2_add_2 : ByteArray := prog_46_method_24_code
def yJ2_add_2 : MethodName := ⟨RJ2, "add", "(Ljava/lang/Object;[Ljava/lang/Object;I)V"⟩
def dkwJ2_add_2_0 : List UInt8 := [29, 44, 190, 160, 0, 8, 42, 182, 0, 129, 77, 44, 29, 43, 83, 42, 29, 4, 96, 181, 0, 48, 177]
abbrev dktJ2_add_2_0 : List UInt8 := dkwJ2_add_2_0 ++ []
theorem dksJ2_add_2_0 : cJ2_add_2.data.toList.drop 0 = dktJ2_add_2_0 := by decide +kernel
theorem dJ2_add_2_0 : decode cJ2_add_2 0 = .ok (.iload_n 3, 1) := dk_29 (dk_at dksJ2_add_2_0 0 rfl rfl)
theorem dJ2_add_2_1 : decode cJ2_add_2 1 = .ok (.aload_n 2, 1) := dk_44 (dk_at dksJ2_add_2_0 1 rfl rfl)
theorem dJ2_add_2_2 : decode cJ2_add_2 2 = .ok (.arraylength, 1) := dk_190 (dk_at dksJ2_add_2_0 2 rfl rfl)
theorem dJ2_add_2_3 : decode cJ2_add_2 3 = .ok (.if_icmp .ne 8, 3) := dk_160 0 8 (dk_at dksJ2_add_2_0 3 rfl rfl)
theorem dJ2_add_2_6 : decode cJ2_add_2 6 = .ok (.aload_n 0, 1) := dk_42 (dk_at dksJ2_add_2_0 6 rfl rfl)
theorem dJ2_add_2_7 : decode cJ2_add_2 7 = .ok (.invokevirtual 129, 3) := dk_182 0 129 (dk_at dksJ2_add_2_0 7 rfl rfl)
theorem dJ2_add_2_10 : decode cJ2_add_2 10 = .ok (.astore_n 2, 1) := dk_77 (dk_at dksJ2_add_2_0 10 rfl rfl)
theorem dJ2_add_2_11 : decode cJ2_add_2 11 = .ok (.aload_n 2, 1) := dk_44 (dk_at dksJ2_add_2_0 11 rfl rfl)
theorem dJ2_add_2_12 : decode cJ2_add_2 12 = .ok (.iload_n 3, 1) := dk_29 (dk_at dksJ2_add_2_0 12 rfl rfl)
theorem dJ2_add_2_13 : decode cJ2_add_2 13 = .ok (.aload_n 1, 1) := dk_43 (dk_at dksJ2_add_2_0 13 rfl rfl)
theorem dJ2_add_2_14 : decode cJ2_add_2 14 = .ok (.aastore, 1) := dk_83 (dk_at dksJ2_add_2_0 14 rfl rfl)
theorem dJ2_add_2_15 : decode cJ2_add_2 15 = .ok (.aload_n 0, 1) := dk_42 (dk_at dksJ2_add_2_0 15 rfl rfl)
theorem dJ2_add_2_16 : decode cJ2_add_2 16 = .ok (.iload_n 3, 1) := dk_29 (dk_at dksJ2_add_2_0 16 rfl rfl)
theorem dJ2_add_2_17 : decode cJ2_add_2 17 = .ok (.iconst 1, 1) := dk_4 (dk_at dksJ2_add_2_0 17 rfl rfl)
theorem dJ2_add_2_18 : decode cJ2_add_2 18 = .ok (.iadd, 1) := dk_96 (dk_at dksJ2_add_2_0 18 rfl rfl)
theorem dJ2_add_2_19 : decode cJ2_add_2 19 = .ok (.putfield 48, 3) := dk_181 0 48 (dk_at dksJ2_add_2_0 19 rfl rfl)
theorem dJ2_add_2_22 : decode cJ2_add_2 22 = .ok (.return_, 1) := dk_177 (dk_at dksJ2_add_2_0 22 rfl rfl)
abbrev cJ2_grow : ByteArray := prog_46_method_7_code
def yJ2_grow : MethodName := ⟨RJ2, "grow", "()[Ljava/lang/Object;"⟩
def dkwJ2_grow_0 : List UInt8 := [42, 42, 180, 0, 48, 4, 96, 182, 0, 69, 176]
abbrev dktJ2_grow_0 : List UInt8 := dkwJ2_grow_0 ++ []
theorem dksJ2_grow_0 : cJ2_grow.data.toList.drop 0 = dktJ2_grow_0 := by decide +kernel
theorem dJ2_grow_0 : decode cJ2_grow 0 = .ok (.aload_n 0, 1) := dk_42 (dk_at dksJ2_grow_0 0 rfl rfl)
theorem dJ2_grow_1 : decode cJ2_grow 1 = .ok (.aload_n 0, 1) := dk_42 (dk_at dksJ2_grow_0 1 rfl rfl)
theorem dJ2_grow_2 : decode cJ2_grow 2 = .ok (.getfield 48, 3) := dk_180 0 48 (dk_at dksJ2_grow_0 2 rfl rfl)
theorem dJ2_grow_5 : decode cJ2_grow 5 = .ok (.iconst 1, 1) := dk_4 (dk_at dksJ2_grow_0 5 rfl rfl)
theorem dJ2_grow_6 : decode cJ2_grow 6 = .ok (.iadd, 1) := dk_96 (dk_at dksJ2_grow_0 6 rfl rfl)
theorem dJ2_grow_7 : decode cJ2_grow 7 = .ok (.invokevirtual 69, 3) := dk_182 0 69 (dk_at dksJ2_grow_0 7 rfl rfl)
theorem dJ2_grow_10 : decode cJ2_grow 10 = .ok (.areturn, 1) := dk_176 (dk_at dksJ2_grow_0 10 rfl rfl)
abbrev cJ2_grow_2 : ByteArray := prog_46_method_6_code
def yJ2_grow_2 : MethodName := ⟨RJ2, "grow", "(I)[Ljava/lang/Object;"⟩
def dkwJ2_grow_2_2 : List UInt8 := [27, 184, 0, 79, 189, 0, 7, 90, 181, 0, 9, 176]
abbrev dktJ2_grow_2_2 : List UInt8 := dkwJ2_grow_2_2 ++ []
def dkwJ2_grow_2_1 : List UInt8 := [28, 4, 122, 184, 0, 73, 62, 42, 42, 180, 0, 9, 29, 184, 0, 66, 90, 181, 0, 9, 176, 42, 16, 10]
abbrev dktJ2_grow_2_1 : List UInt8 := dkwJ2_grow_2_1 ++ dktJ2_grow_2_2
def dkwJ2_grow_2_0 : List UInt8 := [42, 180, 0, 9, 190, 61, 28, 157, 0, 13, 42, 180, 0, 9, 178, 0, 39, 165, 0, 28, 28, 27, 28, 100]
abbrev dktJ2_grow_2_0 : List UInt8 := dkwJ2_grow_2_0 ++ dktJ2_grow_2_1
theorem dksJ2_grow_2_0 : cJ2_grow_2.data.toList.drop 0 = dktJ2_grow_2_0 := by decide +kernel
theorem dksJ2_grow_2_1 : cJ2_grow_2.data.toList.drop 24 = dktJ2_grow_2_1 := dk_seg dksJ2_grow_2_0 24 rfl rfl
theorem dksJ2_grow_2_2 : cJ2_grow_2.data.toList.drop 48 = dktJ2_grow_2_2 := dk_seg dksJ2_grow_2_1 24 rfl rfl
theorem dJ2_grow_2_0 : decode cJ2_grow_2 0 = .ok (.aload_n 0, 1) := dk_42 (dk_at dksJ2_grow_2_0 0 rfl rfl)
theorem dJ2_grow_2_1 : decode cJ2_grow_2 1 = .ok (.getfield 9, 3) := dk_180 0 9 (dk_at dksJ2_grow_2_0 1 rfl rfl)
theorem dJ2_grow_2_4 : decode cJ2_grow_2 4 = .ok (.arraylength, 1) := dk_190 (dk_at dksJ2_grow_2_0 4 rfl rfl)
theorem dJ2_grow_2_5 : decode cJ2_grow_2 5 = .ok (.istore_n 2, 1) := dk_61 (dk_at dksJ2_grow_2_0 5 rfl rfl)
theorem dJ2_grow_2_6 : decode cJ2_grow_2 6 = .ok (.iload_n 2, 1) := dk_28 (dk_at dksJ2_grow_2_0 6 rfl rfl)
theorem dJ2_grow_2_7 : decode cJ2_grow_2 7 = .ok (.ifCond .gt 13, 3) := dk_157 0 13 (dk_at dksJ2_grow_2_0 7 rfl rfl)
theorem dJ2_grow_2_10 : decode cJ2_grow_2 10 = .ok (.aload_n 0, 1) := dk_42 (dk_at dksJ2_grow_2_0 10 rfl rfl)
theorem dJ2_grow_2_11 : decode cJ2_grow_2 11 = .ok (.getfield 9, 3) := dk_180 0 9 (dk_at dksJ2_grow_2_0 11 rfl rfl)
theorem dJ2_grow_2_14 : decode cJ2_grow_2 14 = .ok (.getstatic 39, 3) := dk_178 0 39 (dk_at dksJ2_grow_2_0 14 rfl rfl)
theorem dJ2_grow_2_17 : decode cJ2_grow_2 17 = .ok (.if_acmp .eq 28, 3) := dk_165 0 28 (dk_at dksJ2_grow_2_0 17 rfl rfl)
theorem dJ2_grow_2_20 : decode cJ2_grow_2 20 = .ok (.iload_n 2, 1) := dk_28 (dk_at dksJ2_grow_2_0 20 rfl rfl)
theorem dJ2_grow_2_21 : decode cJ2_grow_2 21 = .ok (.iload_n 1, 1) := dk_27 (dk_at dksJ2_grow_2_0 21 rfl rfl)
theorem dJ2_grow_2_22 : decode cJ2_grow_2 22 = .ok (.iload_n 2, 1) := dk_28 (dk_at dksJ2_grow_2_0 22 rfl rfl)
theorem dJ2_grow_2_23 : decode cJ2_grow_2 23 = .ok (.isub, 1) := dk_100 (dk_at dksJ2_grow_2_0 23 rfl rfl)
theorem dJ2_grow_2_24 : decode cJ2_grow_2 24 = .ok (.iload_n 2, 1) := dk_28 (dk_at dksJ2_grow_2_1 0 rfl rfl)
theorem dJ2_grow_2_25 : decode cJ2_grow_2 25 = .ok (.iconst 1, 1) := dk_4 (dk_at dksJ2_grow_2_1 1 rfl rfl)
theorem dJ2_grow_2_26 : decode cJ2_grow_2 26 = .ok (.ishr, 1) := dk_122 (dk_at dksJ2_grow_2_1 2 rfl rfl)
theorem dJ2_grow_2_27 : decode cJ2_grow_2 27 = .ok (.invokestatic 73, 3) := dk_184 0 73 (dk_at dksJ2_grow_2_1 3 rfl rfl)
theorem dJ2_grow_2_30 : decode cJ2_grow_2 30 = .ok (.istore_n 3, 1) := dk_62 (dk_at dksJ2_grow_2_1 6 rfl rfl)
theorem dJ2_grow_2_31 : decode cJ2_grow_2 31 = .ok (.aload_n 0, 1) := dk_42 (dk_at dksJ2_grow_2_1 7 rfl rfl)
theorem dJ2_grow_2_32 : decode cJ2_grow_2 32 = .ok (.aload_n 0, 1) := dk_42 (dk_at dksJ2_grow_2_1 8 rfl rfl)
theorem dJ2_grow_2_33 : decode cJ2_grow_2 33 = .ok (.getfield 9, 3) := dk_180 0 9 (dk_at dksJ2_grow_2_1 9 rfl rfl)
theorem dJ2_grow_2_36 : decode cJ2_grow_2 36 = .ok (.iload_n 3, 1) := dk_29 (dk_at dksJ2_grow_2_1 12 rfl rfl)
theorem dJ2_grow_2_37 : decode cJ2_grow_2 37 = .ok (.invokestatic 66, 3) := dk_184 0 66 (dk_at dksJ2_grow_2_1 13 rfl rfl)
theorem dJ2_grow_2_40 : decode cJ2_grow_2 40 = .ok (.dup_x1, 1) := dk_90 (dk_at dksJ2_grow_2_1 16 rfl rfl)
theorem dJ2_grow_2_41 : decode cJ2_grow_2 41 = .ok (.putfield 9, 3) := dk_181 0 9 (dk_at dksJ2_grow_2_1 17 rfl rfl)
theorem dJ2_grow_2_44 : decode cJ2_grow_2 44 = .ok (.areturn, 1) := dk_176 (dk_at dksJ2_grow_2_1 20 rfl rfl)
theorem dJ2_grow_2_45 : decode cJ2_grow_2 45 = .ok (.aload_n 0, 1) := dk_42 (dk_at dksJ2_grow_2_1 21 rfl rfl)
theorem dJ2_grow_2_46 : decode cJ2_grow_2 46 = .ok (.bipush 10, 2) := dk_16 10 (dk_at dksJ2_grow_2_1 22 rfl rfl)
theorem dJ2_grow_2_48 : decode cJ2_grow_2 48 = .ok (.iload_n 1, 1) := dk_27 (dk_at dksJ2_grow_2_2 0 rfl rfl)
theorem dJ2_grow_2_49 : decode cJ2_grow_2 49 = .ok (.invokestatic 79, 3) := dk_184 0 79 (dk_at dksJ2_grow_2_2 1 rfl rfl)
theorem dJ2_grow_2_52 : decode cJ2_grow_2 52 = .ok (.anewarray 7, 3) := dk_189 0 7 (dk_at dksJ2_grow_2_2 4 rfl rfl)
theorem dJ2_grow_2_55 : decode cJ2_grow_2 55 = .ok (.dup_x1, 1) := dk_90 (dk_at dksJ2_grow_2_2 7 rfl rfl)
theorem dJ2_grow_2_56 : decode cJ2_grow_2 56 = .ok (.putfield 9, 3) := dk_181 0 9 (dk_at dksJ2_grow_2_2 8 rfl rfl)
theorem dJ2_grow_2_59 : decode cJ2_grow_2 59 = .ok (.areturn, 1) := dk_176 (dk_at dksJ2_grow_2_2 11 rfl rfl)
abbrev cJ2_remove : ByteArray := prog_46_method_29_code
def yJ2_remove : MethodName := ⟨RJ2, "remove", "(I)Ljava/lang/Object;"⟩
def dkwJ2_remove_1 : List UInt8 := [45, 176]
abbrev dktJ2_remove_1 : List UInt8 := dkwJ2_remove_1 ++ []
def dkwJ2_remove_0 : List UInt8 := [27, 42, 180, 0, 48, 184, 0, 118, 87, 42, 180, 0, 9, 77, 44, 27, 50, 78, 42, 44, 27, 182, 0, 144]
abbrev dktJ2_remove_0 : List UInt8 := dkwJ2_remove_0 ++ dktJ2_remove_1
theorem dksJ2_remove_0 : cJ2_remove.data.toList.drop 0 = dktJ2_remove_0 := by decide +kernel
theorem dksJ2_remove_1 : cJ2_remove.data.toList.drop 24 = dktJ2_remove_1 := dk_seg dksJ2_remove_0 24 rfl rfl
theorem dJ2_remove_0 : decode cJ2_remove 0 = .ok (.iload_n 1, 1) := dk_27 (dk_at dksJ2_remove_0 0 rfl rfl)
theorem dJ2_remove_1 : decode cJ2_remove 1 = .ok (.aload_n 0, 1) := dk_42 (dk_at dksJ2_remove_0 1 rfl rfl)
theorem dJ2_remove_2 : decode cJ2_remove 2 = .ok (.getfield 48, 3) := dk_180 0 48 (dk_at dksJ2_remove_0 2 rfl rfl)
theorem dJ2_remove_5 : decode cJ2_remove 5 = .ok (.invokestatic 118, 3) := dk_184 0 118 (dk_at dksJ2_remove_0 5 rfl rfl)
theorem dJ2_remove_8 : decode cJ2_remove 8 = .ok (.pop, 1) := dk_87 (dk_at dksJ2_remove_0 8 rfl rfl)
theorem dJ2_remove_9 : decode cJ2_remove 9 = .ok (.aload_n 0, 1) := dk_42 (dk_at dksJ2_remove_0 9 rfl rfl)
theorem dJ2_remove_10 : decode cJ2_remove 10 = .ok (.getfield 9, 3) := dk_180 0 9 (dk_at dksJ2_remove_0 10 rfl rfl)
theorem dJ2_remove_13 : decode cJ2_remove 13 = .ok (.astore_n 2, 1) := dk_77 (dk_at dksJ2_remove_0 13 rfl rfl)
theorem dJ2_remove_14 : decode cJ2_remove 14 = .ok (.aload_n 2, 1) := dk_44 (dk_at dksJ2_remove_0 14 rfl rfl)
theorem dJ2_remove_15 : decode cJ2_remove 15 = .ok (.iload_n 1, 1) := dk_27 (dk_at dksJ2_remove_0 15 rfl rfl)
theorem dJ2_remove_16 : decode cJ2_remove 16 = .ok (.aaload, 1) := dk_50 (dk_at dksJ2_remove_0 16 rfl rfl)
theorem dJ2_remove_17 : decode cJ2_remove 17 = .ok (.astore_n 3, 1) := dk_78 (dk_at dksJ2_remove_0 17 rfl rfl)
theorem dJ2_remove_18 : decode cJ2_remove 18 = .ok (.aload_n 0, 1) := dk_42 (dk_at dksJ2_remove_0 18 rfl rfl)
theorem dJ2_remove_19 : decode cJ2_remove 19 = .ok (.aload_n 2, 1) := dk_44 (dk_at dksJ2_remove_0 19 rfl rfl)
theorem dJ2_remove_20 : decode cJ2_remove 20 = .ok (.iload_n 1, 1) := dk_27 (dk_at dksJ2_remove_0 20 rfl rfl)
theorem dJ2_remove_21 : decode cJ2_remove 21 = .ok (.invokevirtual 144, 3) := dk_182 0 144 (dk_at dksJ2_remove_0 21 rfl rfl)
theorem dJ2_remove_24 : decode cJ2_remove 24 = .ok (.aload_n 3, 1) := dk_45 (dk_at dksJ2_remove_1 0 rfl rfl)
theorem dJ2_remove_25 : decode cJ2_remove 25 = .ok (.areturn, 1) := dk_176 (dk_at dksJ2_remove_1 1 rfl rfl)
abbrev cJ2_fastRemove : ByteArray := prog_46_method_39_code
def yJ2_fastRemove : MethodName := ⟨RJ2, "fastRemove", "([Ljava/lang/Object;I)V"⟩
def dkwJ2_fastRemove_1 : List UInt8 := [4, 96, 43, 28, 29, 28, 100, 184, 0, 112, 43, 42, 29, 90, 181, 0, 48, 1, 83, 177]
abbrev dktJ2_fastRemove_1 : List UInt8 := dkwJ2_fastRemove_1 ++ []
def dkwJ2_fastRemove_0 : List UInt8 := [42, 89, 180, 0, 63, 4, 96, 181, 0, 63, 42, 180, 0, 48, 4, 100, 89, 62, 28, 164, 0, 15, 43, 28]
abbrev dktJ2_fastRemove_0 : List UInt8 := dkwJ2_fastRemove_0 ++ dktJ2_fastRemove_1
theorem dksJ2_fastRemove_0 : cJ2_fastRemove.data.toList.drop 0 = dktJ2_fastRemove_0 := by decide +kernel
theorem dksJ2_fastRemove_1 : cJ2_fastRemove.data.toList.drop 24 = dktJ2_fastRemove_1 := dk_seg dksJ2_fastRemove_0 24 rfl rfl
theorem dJ2_fastRemove_0 : decode cJ2_fastRemove 0 = .ok (.aload_n 0, 1) := dk_42 (dk_at dksJ2_fastRemove_0 0 rfl rfl)
theorem dJ2_fastRemove_1 : decode cJ2_fastRemove 1 = .ok (.dup, 1) := dk_89 (dk_at dksJ2_fastRemove_0 1 rfl rfl)
theorem dJ2_fastRemove_2 : decode cJ2_fastRemove 2 = .ok (.getfield 63, 3) := dk_180 0 63 (dk_at dksJ2_fastRemove_0 2 rfl rfl)
theorem dJ2_fastRemove_5 : decode cJ2_fastRemove 5 = .ok (.iconst 1, 1) := dk_4 (dk_at dksJ2_fastRemove_0 5 rfl rfl)
theorem dJ2_fastRemove_6 : decode cJ2_fastRemove 6 = .ok (.iadd, 1) := dk_96 (dk_at dksJ2_fastRemove_0 6 rfl rfl)
theorem dJ2_fastRemove_7 : decode cJ2_fastRemove 7 = .ok (.putfield 63, 3) := dk_181 0 63 (dk_at dksJ2_fastRemove_0 7 rfl rfl)
theorem dJ2_fastRemove_10 : decode cJ2_fastRemove 10 = .ok (.aload_n 0, 1) := dk_42 (dk_at dksJ2_fastRemove_0 10 rfl rfl)
theorem dJ2_fastRemove_11 : decode cJ2_fastRemove 11 = .ok (.getfield 48, 3) := dk_180 0 48 (dk_at dksJ2_fastRemove_0 11 rfl rfl)
theorem dJ2_fastRemove_14 : decode cJ2_fastRemove 14 = .ok (.iconst 1, 1) := dk_4 (dk_at dksJ2_fastRemove_0 14 rfl rfl)
theorem dJ2_fastRemove_15 : decode cJ2_fastRemove 15 = .ok (.isub, 1) := dk_100 (dk_at dksJ2_fastRemove_0 15 rfl rfl)
theorem dJ2_fastRemove_16 : decode cJ2_fastRemove 16 = .ok (.dup, 1) := dk_89 (dk_at dksJ2_fastRemove_0 16 rfl rfl)
theorem dJ2_fastRemove_17 : decode cJ2_fastRemove 17 = .ok (.istore_n 3, 1) := dk_62 (dk_at dksJ2_fastRemove_0 17 rfl rfl)
theorem dJ2_fastRemove_18 : decode cJ2_fastRemove 18 = .ok (.iload_n 2, 1) := dk_28 (dk_at dksJ2_fastRemove_0 18 rfl rfl)
theorem dJ2_fastRemove_19 : decode cJ2_fastRemove 19 = .ok (.if_icmp .le 15, 3) := dk_164 0 15 (dk_at dksJ2_fastRemove_0 19 rfl rfl)
theorem dJ2_fastRemove_22 : decode cJ2_fastRemove 22 = .ok (.aload_n 1, 1) := dk_43 (dk_at dksJ2_fastRemove_0 22 rfl rfl)
theorem dJ2_fastRemove_23 : decode cJ2_fastRemove 23 = .ok (.iload_n 2, 1) := dk_28 (dk_at dksJ2_fastRemove_0 23 rfl rfl)
theorem dJ2_fastRemove_24 : decode cJ2_fastRemove 24 = .ok (.iconst 1, 1) := dk_4 (dk_at dksJ2_fastRemove_1 0 rfl rfl)
theorem dJ2_fastRemove_25 : decode cJ2_fastRemove 25 = .ok (.iadd, 1) := dk_96 (dk_at dksJ2_fastRemove_1 1 rfl rfl)
theorem dJ2_fastRemove_26 : decode cJ2_fastRemove 26 = .ok (.aload_n 1, 1) := dk_43 (dk_at dksJ2_fastRemove_1 2 rfl rfl)
theorem dJ2_fastRemove_27 : decode cJ2_fastRemove 27 = .ok (.iload_n 2, 1) := dk_28 (dk_at dksJ2_fastRemove_1 3 rfl rfl)
theorem dJ2_fastRemove_28 : decode cJ2_fastRemove 28 = .ok (.iload_n 3, 1) := dk_29 (dk_at dksJ2_fastRemove_1 4 rfl rfl)
theorem dJ2_fastRemove_29 : decode cJ2_fastRemove 29 = .ok (.iload_n 2, 1) := dk_28 (dk_at dksJ2_fastRemove_1 5 rfl rfl)
theorem dJ2_fastRemove_30 : decode cJ2_fastRemove 30 = .ok (.isub, 1) := dk_100 (dk_at dksJ2_fastRemove_1 6 rfl rfl)
theorem dJ2_fastRemove_31 : decode cJ2_fastRemove 31 = .ok (.invokestatic 112, 3) := dk_184 0 112 (dk_at dksJ2_fastRemove_1 7 rfl rfl)
theorem dJ2_fastRemove_34 : decode cJ2_fastRemove 34 = .ok (.aload_n 1, 1) := dk_43 (dk_at dksJ2_fastRemove_1 10 rfl rfl)
theorem dJ2_fastRemove_35 : decode cJ2_fastRemove 35 = .ok (.aload_n 0, 1) := dk_42 (dk_at dksJ2_fastRemove_1 11 rfl rfl)
theorem dJ2_fastRemove_36 : decode cJ2_fastRemove 36 = .ok (.iload_n 3, 1) := dk_29 (dk_at dksJ2_fastRemove_1 12 rfl rfl)
theorem dJ2_fastRemove_37 : decode cJ2_fastRemove 37 = .ok (.dup_x1, 1) := dk_90 (dk_at dksJ2_fastRemove_1 13 rfl rfl)
theorem dJ2_fastRemove_38 : decode cJ2_fastRemove 38 = .ok (.putfield 48, 3) := dk_181 0 48 (dk_at dksJ2_fastRemove_1 14 rfl rfl)
theorem dJ2_fastRemove_41 : decode cJ2_fastRemove 41 = .ok (.aconst_null, 1) := dk_1 (dk_at dksJ2_fastRemove_1 17 rfl rfl)
theorem dJ2_fastRemove_42 : decode cJ2_fastRemove 42 = .ok (.aastore, 1) := dk_83 (dk_at dksJ2_fastRemove_1 18 rfl rfl)
theorem dJ2_fastRemove_43 : decode cJ2_fastRemove 43 = .ok (.return_, 1) := dk_177 (dk_at dksJ2_fastRemove_1 19 rfl rfl)
abbrev cJ2_contains : ByteArray := prog_46_method_10_code
def yJ2_contains : MethodName := ⟨RJ2, "contains", "(Ljava/lang/Object;)Z"⟩
def dkwJ2_contains_0 : List UInt8 := [42, 43, 182, 0, 85, 155, 0, 7, 4, 167, 0, 4, 3, 172]
abbrev dktJ2_contains_0 : List UInt8 := dkwJ2_contains_0 ++ []
theorem dksJ2_contains_0 : cJ2_contains.data.toList.drop 0 = dktJ2_contains_0 := by decide +kernel
theorem dJ2_contains_0 : decode cJ2_contains 0 = .ok (.aload_n 0, 1) := dk_42 (dk_at dksJ2_contains_0 0 rfl rfl)
theorem dJ2_contains_1 : decode cJ2_contains 1 = .ok (.aload_n 1, 1) := dk_43 (dk_at dksJ2_contains_0 1 rfl rfl)
theorem dJ2_contains_2 : decode cJ2_contains 2 = .ok (.invokevirtual 85, 3) := dk_182 0 85 (dk_at dksJ2_contains_0 2 rfl rfl)
theorem dJ2_contains_5 : decode cJ2_contains 5 = .ok (.ifCond .lt 7, 3) := dk_155 0 7 (dk_at dksJ2_contains_0 5 rfl rfl)
theorem dJ2_contains_8 : decode cJ2_contains 8 = .ok (.iconst 1, 1) := dk_4 (dk_at dksJ2_contains_0 8 rfl rfl)
theorem dJ2_contains_9 : decode cJ2_contains 9 = .ok (.goto 4, 3) := dk_167 0 4 (dk_at dksJ2_contains_0 9 rfl rfl)
theorem dJ2_contains_12 : decode cJ2_contains 12 = .ok (.iconst 0, 1) := dk_3 (dk_at dksJ2_contains_0 12 rfl rfl)
theorem dJ2_contains_13 : decode cJ2_contains 13 = .ok (.ireturn, 1) := dk_172 (dk_at dksJ2_contains_0 13 rfl rfl)
abbrev cJ2_isEmpty : ByteArray := prog_46_method_9_code
def yJ2_isEmpty : MethodName := ⟨RJ2, "isEmpty", "()Z"⟩
def dkwJ2_isEmpty_0 : List UInt8 := [42, 180, 0, 48, 154, 0, 7, 4, 167, 0, 4, 3, 172]
abbrev dktJ2_isEmpty_0 : List UInt8 := dkwJ2_isEmpty_0 ++ []
theorem dksJ2_isEmpty_0 : cJ2_isEmpty.data.toList.drop 0 = dktJ2_isEmpty_0 := by decide +kernel
theorem dJ2_isEmpty_0 : decode cJ2_isEmpty 0 = .ok (.aload_n 0, 1) := dk_42 (dk_at dksJ2_isEmpty_0 0 rfl rfl)
theorem dJ2_isEmpty_1 : decode cJ2_isEmpty 1 = .ok (.getfield 48, 3) := dk_180 0 48 (dk_at dksJ2_isEmpty_0 1 rfl rfl)
theorem dJ2_isEmpty_4 : decode cJ2_isEmpty 4 = .ok (.ifCond .ne 7, 3) := dk_154 0 7 (dk_at dksJ2_isEmpty_0 4 rfl rfl)
theorem dJ2_isEmpty_7 : decode cJ2_isEmpty 7 = .ok (.iconst 1, 1) := dk_4 (dk_at dksJ2_isEmpty_0 7 rfl rfl)
theorem dJ2_isEmpty_8 : decode cJ2_isEmpty 8 = .ok (.goto 4, 3) := dk_167 0 4 (dk_at dksJ2_isEmpty_0 8 rfl rfl)
theorem dJ2_isEmpty_11 : decode cJ2_isEmpty 11 = .ok (.iconst 0, 1) := dk_3 (dk_at dksJ2_isEmpty_0 11 rfl rfl)
theorem dJ2_isEmpty_12 : decode cJ2_isEmpty 12 = .ok (.ireturn, 1) := dk_172 (dk_at dksJ2_isEmpty_0 12 rfl rfl)
abbrev cJ20_copyOf : ByteArray := prog_49_method_121_code
def yJ20_copyOf : MethodName := ⟨RJ20, "copyOf", "([BI)[B"⟩
def dkwJ20_copyOf_1 : List UInt8 := [27, 184, 1, 48, 184, 0, 150, 44, 176]
abbrev dktJ20_copyOf_1 : List UInt8 := dkwJ20_copyOf_1 ++ []
def dkwJ20_copyOf_0 : List UInt8 := [27, 42, 190, 160, 0, 11, 42, 182, 1, 54, 192, 1, 55, 176, 27, 188, 8, 77, 42, 3, 44, 3, 42, 190]
abbrev dktJ20_copyOf_0 : List UInt8 := dkwJ20_copyOf_0 ++ dktJ20_copyOf_1
theorem dksJ20_copyOf_0 : cJ20_copyOf.data.toList.drop 0 = dktJ20_copyOf_0 := by decide +kernel
theorem dksJ20_copyOf_1 : cJ20_copyOf.data.toList.drop 24 = dktJ20_copyOf_1 := dk_seg dksJ20_copyOf_0 24 rfl rfl
theorem dJ20_copyOf_0 : decode cJ20_copyOf 0 = .ok (.iload_n 1, 1) := dk_27 (dk_at dksJ20_copyOf_0 0 rfl rfl)
theorem dJ20_copyOf_1 : decode cJ20_copyOf 1 = .ok (.aload_n 0, 1) := dk_42 (dk_at dksJ20_copyOf_0 1 rfl rfl)
theorem dJ20_copyOf_2 : decode cJ20_copyOf 2 = .ok (.arraylength, 1) := dk_190 (dk_at dksJ20_copyOf_0 2 rfl rfl)
theorem dJ20_copyOf_3 : decode cJ20_copyOf 3 = .ok (.if_icmp .ne 11, 3) := dk_160 0 11 (dk_at dksJ20_copyOf_0 3 rfl rfl)
theorem dJ20_copyOf_6 : decode cJ20_copyOf 6 = .ok (.aload_n 0, 1) := dk_42 (dk_at dksJ20_copyOf_0 6 rfl rfl)
theorem dJ20_copyOf_7 : decode cJ20_copyOf 7 = .ok (.invokevirtual 310, 3) := dk_182 1 54 (dk_at dksJ20_copyOf_0 7 rfl rfl)
theorem dJ20_copyOf_10 : decode cJ20_copyOf 10 = .ok (.checkcast 311, 3) := dk_192 1 55 (dk_at dksJ20_copyOf_0 10 rfl rfl)
theorem dJ20_copyOf_13 : decode cJ20_copyOf 13 = .ok (.areturn, 1) := dk_176 (dk_at dksJ20_copyOf_0 13 rfl rfl)
theorem dJ20_copyOf_14 : decode cJ20_copyOf 14 = .ok (.iload_n 1, 1) := dk_27 (dk_at dksJ20_copyOf_0 14 rfl rfl)
theorem dJ20_copyOf_15 : decode cJ20_copyOf 15 = .ok (.newarray .byte, 2) := dk_188_8 (dk_at dksJ20_copyOf_0 15 rfl rfl)
theorem dJ20_copyOf_17 : decode cJ20_copyOf 17 = .ok (.astore_n 2, 1) := dk_77 (dk_at dksJ20_copyOf_0 17 rfl rfl)
theorem dJ20_copyOf_18 : decode cJ20_copyOf 18 = .ok (.aload_n 0, 1) := dk_42 (dk_at dksJ20_copyOf_0 18 rfl rfl)
theorem dJ20_copyOf_19 : decode cJ20_copyOf 19 = .ok (.iconst 0, 1) := dk_3 (dk_at dksJ20_copyOf_0 19 rfl rfl)
theorem dJ20_copyOf_20 : decode cJ20_copyOf 20 = .ok (.aload_n 2, 1) := dk_44 (dk_at dksJ20_copyOf_0 20 rfl rfl)
theorem dJ20_copyOf_21 : decode cJ20_copyOf 21 = .ok (.iconst 0, 1) := dk_3 (dk_at dksJ20_copyOf_0 21 rfl rfl)
theorem dJ20_copyOf_22 : decode cJ20_copyOf 22 = .ok (.aload_n 0, 1) := dk_42 (dk_at dksJ20_copyOf_0 22 rfl rfl)
theorem dJ20_copyOf_23 : decode cJ20_copyOf 23 = .ok (.arraylength, 1) := dk_190 (dk_at dksJ20_copyOf_0 23 rfl rfl)
theorem dJ20_copyOf_24 : decode cJ20_copyOf 24 = .ok (.iload_n 1, 1) := dk_27 (dk_at dksJ20_copyOf_1 0 rfl rfl)
theorem dJ20_copyOf_25 : decode cJ20_copyOf 25 = .ok (.invokestatic 304, 3) := dk_184 1 48 (dk_at dksJ20_copyOf_1 1 rfl rfl)
theorem dJ20_copyOf_28 : decode cJ20_copyOf 28 = .ok (.invokestatic 150, 3) := dk_184 0 150 (dk_at dksJ20_copyOf_1 4 rfl rfl)
theorem dJ20_copyOf_31 : decode cJ20_copyOf 31 = .ok (.aload_n 2, 1) := dk_44 (dk_at dksJ20_copyOf_1 7 rfl rfl)
theorem dJ20_copyOf_32 : decode cJ20_copyOf 32 = .ok (.areturn, 1) := dk_176 (dk_at dksJ20_copyOf_1 8 rfl rfl)
abbrev cJ20_copyOfRange : ByteArray := prog_49_method_132_code
def yJ20_copyOfRange : MethodName := ⟨RJ20, "copyOfRange", "([BII)[B"⟩
def dkwJ20_copyOfRange_1 : List UInt8 := [176]
abbrev dktJ20_copyOfRange_1 : List UInt8 := dkwJ20_copyOfRange_1 ++ []
def dkwJ20_copyOfRange_0 : List UInt8 := [27, 154, 0, 9, 28, 42, 190, 159, 0, 10, 42, 27, 28, 184, 1, 83, 176, 42, 182, 1, 54, 192, 1, 55]
abbrev dktJ20_copyOfRange_0 : List UInt8 := dkwJ20_copyOfRange_0 ++ dktJ20_copyOfRange_1
theorem dksJ20_copyOfRange_0 : cJ20_copyOfRange.data.toList.drop 0 = dktJ20_copyOfRange_0 := by decide +kernel
theorem dksJ20_copyOfRange_1 : cJ20_copyOfRange.data.toList.drop 24 = dktJ20_copyOfRange_1 := dk_seg dksJ20_copyOfRange_0 24 rfl rfl
theorem dJ20_copyOfRange_0 : decode cJ20_copyOfRange 0 = .ok (.iload_n 1, 1) := dk_27 (dk_at dksJ20_copyOfRange_0 0 rfl rfl)
theorem dJ20_copyOfRange_1 : decode cJ20_copyOfRange 1 = .ok (.ifCond .ne 9, 3) := dk_154 0 9 (dk_at dksJ20_copyOfRange_0 1 rfl rfl)
theorem dJ20_copyOfRange_4 : decode cJ20_copyOfRange 4 = .ok (.iload_n 2, 1) := dk_28 (dk_at dksJ20_copyOfRange_0 4 rfl rfl)
theorem dJ20_copyOfRange_5 : decode cJ20_copyOfRange 5 = .ok (.aload_n 0, 1) := dk_42 (dk_at dksJ20_copyOfRange_0 5 rfl rfl)
theorem dJ20_copyOfRange_6 : decode cJ20_copyOfRange 6 = .ok (.arraylength, 1) := dk_190 (dk_at dksJ20_copyOfRange_0 6 rfl rfl)
theorem dJ20_copyOfRange_7 : decode cJ20_copyOfRange 7 = .ok (.if_icmp .eq 10, 3) := dk_159 0 10 (dk_at dksJ20_copyOfRange_0 7 rfl rfl)
theorem dJ20_copyOfRange_10 : decode cJ20_copyOfRange 10 = .ok (.aload_n 0, 1) := dk_42 (dk_at dksJ20_copyOfRange_0 10 rfl rfl)
theorem dJ20_copyOfRange_11 : decode cJ20_copyOfRange 11 = .ok (.iload_n 1, 1) := dk_27 (dk_at dksJ20_copyOfRange_0 11 rfl rfl)
theorem dJ20_copyOfRange_12 : decode cJ20_copyOfRange 12 = .ok (.iload_n 2, 1) := dk_28 (dk_at dksJ20_copyOfRange_0 12 rfl rfl)
theorem dJ20_copyOfRange_13 : decode cJ20_copyOfRange 13 = .ok (.invokestatic 339, 3) := dk_184 1 83 (dk_at dksJ20_copyOfRange_0 13 rfl rfl)
theorem dJ20_copyOfRange_16 : decode cJ20_copyOfRange 16 = .ok (.areturn, 1) := dk_176 (dk_at dksJ20_copyOfRange_0 16 rfl rfl)
theorem dJ20_copyOfRange_17 : decode cJ20_copyOfRange 17 = .ok (.aload_n 0, 1) := dk_42 (dk_at dksJ20_copyOfRange_0 17 rfl rfl)
theorem dJ20_copyOfRange_18 : decode cJ20_copyOfRange 18 = .ok (.invokevirtual 310, 3) := dk_182 1 54 (dk_at dksJ20_copyOfRange_0 18 rfl rfl)
theorem dJ20_copyOfRange_21 : decode cJ20_copyOfRange 21 = .ok (.checkcast 311, 3) := dk_192 1 55 (dk_at dksJ20_copyOfRange_0 21 rfl rfl)
theorem dJ20_copyOfRange_24 : decode cJ20_copyOfRange 24 = .ok (.areturn, 1) := dk_176 (dk_at dksJ20_copyOfRange_1 0 rfl rfl)
abbrev cJ20_copyOfRangeByte : ByteArray := prog_49_method_133_code
def yJ20_copyOfRangeByte : MethodName := ⟨RJ20, "copyOfRangeByte", "([BII)[B"⟩
def dkwJ20_copyOfRangeByte_1 : List UInt8 := [184, 1, 48, 184, 0, 150, 25, 4, 176]
abbrev dktJ20_copyOfRangeByte_1 : List UInt8 := dkwJ20_copyOfRangeByte_1 ++ []
def dkwJ20_copyOfRangeByte_0 : List UInt8 := [27, 28, 184, 1, 87, 28, 27, 100, 62, 29, 188, 8, 58, 4, 42, 27, 25, 4, 3, 42, 190, 27, 100, 29]
abbrev dktJ20_copyOfRangeByte_0 : List UInt8 := dkwJ20_copyOfRangeByte_0 ++ dktJ20_copyOfRangeByte_1
theorem dksJ20_copyOfRangeByte_0 : cJ20_copyOfRangeByte.data.toList.drop 0 = dktJ20_copyOfRangeByte_0 := by decide +kernel
theorem dksJ20_copyOfRangeByte_1 : cJ20_copyOfRangeByte.data.toList.drop 24 = dktJ20_copyOfRangeByte_1 := dk_seg dksJ20_copyOfRangeByte_0 24 rfl rfl
theorem dJ20_copyOfRangeByte_0 : decode cJ20_copyOfRangeByte 0 = .ok (.iload_n 1, 1) := dk_27 (dk_at dksJ20_copyOfRangeByte_0 0 rfl rfl)
theorem dJ20_copyOfRangeByte_1 : decode cJ20_copyOfRangeByte 1 = .ok (.iload_n 2, 1) := dk_28 (dk_at dksJ20_copyOfRangeByte_0 1 rfl rfl)
theorem dJ20_copyOfRangeByte_2 : decode cJ20_copyOfRangeByte 2 = .ok (.invokestatic 343, 3) := dk_184 1 87 (dk_at dksJ20_copyOfRangeByte_0 2 rfl rfl)
theorem dJ20_copyOfRangeByte_5 : decode cJ20_copyOfRangeByte 5 = .ok (.iload_n 2, 1) := dk_28 (dk_at dksJ20_copyOfRangeByte_0 5 rfl rfl)
theorem dJ20_copyOfRangeByte_6 : decode cJ20_copyOfRangeByte 6 = .ok (.iload_n 1, 1) := dk_27 (dk_at dksJ20_copyOfRangeByte_0 6 rfl rfl)
theorem dJ20_copyOfRangeByte_7 : decode cJ20_copyOfRangeByte 7 = .ok (.isub, 1) := dk_100 (dk_at dksJ20_copyOfRangeByte_0 7 rfl rfl)
theorem dJ20_copyOfRangeByte_8 : decode cJ20_copyOfRangeByte 8 = .ok (.istore_n 3, 1) := dk_62 (dk_at dksJ20_copyOfRangeByte_0 8 rfl rfl)
theorem dJ20_copyOfRangeByte_9 : decode cJ20_copyOfRangeByte 9 = .ok (.iload_n 3, 1) := dk_29 (dk_at dksJ20_copyOfRangeByte_0 9 rfl rfl)
theorem dJ20_copyOfRangeByte_10 : decode cJ20_copyOfRangeByte 10 = .ok (.newarray .byte, 2) := dk_188_8 (dk_at dksJ20_copyOfRangeByte_0 10 rfl rfl)
theorem dJ20_copyOfRangeByte_12 : decode cJ20_copyOfRangeByte 12 = .ok (.astore 4, 2) := dk_58 4 (dk_at dksJ20_copyOfRangeByte_0 12 rfl rfl)
theorem dJ20_copyOfRangeByte_14 : decode cJ20_copyOfRangeByte 14 = .ok (.aload_n 0, 1) := dk_42 (dk_at dksJ20_copyOfRangeByte_0 14 rfl rfl)
theorem dJ20_copyOfRangeByte_15 : decode cJ20_copyOfRangeByte 15 = .ok (.iload_n 1, 1) := dk_27 (dk_at dksJ20_copyOfRangeByte_0 15 rfl rfl)
theorem dJ20_copyOfRangeByte_16 : decode cJ20_copyOfRangeByte 16 = .ok (.aload 4, 2) := dk_25 4 (dk_at dksJ20_copyOfRangeByte_0 16 rfl rfl)
theorem dJ20_copyOfRangeByte_18 : decode cJ20_copyOfRangeByte 18 = .ok (.iconst 0, 1) := dk_3 (dk_at dksJ20_copyOfRangeByte_0 18 rfl rfl)
theorem dJ20_copyOfRangeByte_19 : decode cJ20_copyOfRangeByte 19 = .ok (.aload_n 0, 1) := dk_42 (dk_at dksJ20_copyOfRangeByte_0 19 rfl rfl)
theorem dJ20_copyOfRangeByte_20 : decode cJ20_copyOfRangeByte 20 = .ok (.arraylength, 1) := dk_190 (dk_at dksJ20_copyOfRangeByte_0 20 rfl rfl)
theorem dJ20_copyOfRangeByte_21 : decode cJ20_copyOfRangeByte 21 = .ok (.iload_n 1, 1) := dk_27 (dk_at dksJ20_copyOfRangeByte_0 21 rfl rfl)
theorem dJ20_copyOfRangeByte_22 : decode cJ20_copyOfRangeByte 22 = .ok (.isub, 1) := dk_100 (dk_at dksJ20_copyOfRangeByte_0 22 rfl rfl)
theorem dJ20_copyOfRangeByte_23 : decode cJ20_copyOfRangeByte 23 = .ok (.iload_n 3, 1) := dk_29 (dk_at dksJ20_copyOfRangeByte_0 23 rfl rfl)
theorem dJ20_copyOfRangeByte_24 : decode cJ20_copyOfRangeByte 24 = .ok (.invokestatic 304, 3) := dk_184 1 48 (dk_at dksJ20_copyOfRangeByte_1 0 rfl rfl)
theorem dJ20_copyOfRangeByte_27 : decode cJ20_copyOfRangeByte 27 = .ok (.invokestatic 150, 3) := dk_184 0 150 (dk_at dksJ20_copyOfRangeByte_1 3 rfl rfl)
theorem dJ20_copyOfRangeByte_30 : decode cJ20_copyOfRangeByte 30 = .ok (.aload 4, 2) := dk_25 4 (dk_at dksJ20_copyOfRangeByte_1 6 rfl rfl)
theorem dJ20_copyOfRangeByte_32 : decode cJ20_copyOfRangeByte 32 = .ok (.areturn, 1) := dk_176 (dk_at dksJ20_copyOfRangeByte_1 8 rfl rfl)
abbrev cJ20_checkLength : ByteArray := prog_49_method_131_code
def yJ20_checkLength : MethodName := ⟨RJ20, "checkLength", "(II)V"⟩
def dkwJ20_checkLength_1 : List UInt8 := [182, 0, 50, 27, 182, 0, 54, 182, 0, 61, 183, 0, 65, 191, 177]
abbrev dktJ20_checkLength_1 : List UInt8 := dkwJ20_checkLength_1 ++ []
def dkwJ20_checkLength_0 : List UInt8 := [27, 26, 162, 0, 35, 187, 0, 43, 89, 187, 0, 45, 89, 183, 0, 47, 26, 182, 0, 54, 19, 1, 81]
abbrev dktJ20_checkLength_0 : List UInt8 := dkwJ20_checkLength_0 ++ dktJ20_checkLength_1
theorem dksJ20_checkLength_0 : cJ20_checkLength.data.toList.drop 0 = dktJ20_checkLength_0 := by decide +kernel
theorem dksJ20_checkLength_1 : cJ20_checkLength.data.toList.drop 23 = dktJ20_checkLength_1 := dk_seg dksJ20_checkLength_0 23 rfl rfl
theorem dJ20_checkLength_0 : decode cJ20_checkLength 0 = .ok (.iload_n 1, 1) := dk_27 (dk_at dksJ20_checkLength_0 0 rfl rfl)
theorem dJ20_checkLength_1 : decode cJ20_checkLength 1 = .ok (.iload_n 0, 1) := dk_26 (dk_at dksJ20_checkLength_0 1 rfl rfl)
theorem dJ20_checkLength_2 : decode cJ20_checkLength 2 = .ok (.if_icmp .ge 35, 3) := dk_162 0 35 (dk_at dksJ20_checkLength_0 2 rfl rfl)
theorem dJ20_checkLength_5 : decode cJ20_checkLength 5 = .ok (.new 43, 3) := dk_187 0 43 (dk_at dksJ20_checkLength_0 5 rfl rfl)
theorem dJ20_checkLength_8 : decode cJ20_checkLength 8 = .ok (.dup, 1) := dk_89 (dk_at dksJ20_checkLength_0 8 rfl rfl)
theorem dJ20_checkLength_9 : decode cJ20_checkLength 9 = .ok (.new 45, 3) := dk_187 0 45 (dk_at dksJ20_checkLength_0 9 rfl rfl)
theorem dJ20_checkLength_12 : decode cJ20_checkLength 12 = .ok (.dup, 1) := dk_89 (dk_at dksJ20_checkLength_0 12 rfl rfl)
theorem dJ20_checkLength_13 : decode cJ20_checkLength 13 = .ok (.invokespecial 47, 3) := dk_183 0 47 (dk_at dksJ20_checkLength_0 13 rfl rfl)
theorem dJ20_checkLength_16 : decode cJ20_checkLength 16 = .ok (.iload_n 0, 1) := dk_26 (dk_at dksJ20_checkLength_0 16 rfl rfl)
theorem dJ20_checkLength_17 : decode cJ20_checkLength 17 = .ok (.invokevirtual 54, 3) := dk_182 0 54 (dk_at dksJ20_checkLength_0 17 rfl rfl)
theorem dJ20_checkLength_20 : decode cJ20_checkLength 20 = .ok (.ldc_w 337, 3) := dk_19 1 81 (dk_at dksJ20_checkLength_0 20 rfl rfl)
theorem dJ20_checkLength_23 : decode cJ20_checkLength 23 = .ok (.invokevirtual 50, 3) := dk_182 0 50 (dk_at dksJ20_checkLength_1 0 rfl rfl)
theorem dJ20_checkLength_26 : decode cJ20_checkLength 26 = .ok (.iload_n 1, 1) := dk_27 (dk_at dksJ20_checkLength_1 3 rfl rfl)
theorem dJ20_checkLength_27 : decode cJ20_checkLength 27 = .ok (.invokevirtual 54, 3) := dk_182 0 54 (dk_at dksJ20_checkLength_1 4 rfl rfl)
theorem dJ20_checkLength_30 : decode cJ20_checkLength 30 = .ok (.invokevirtual 61, 3) := dk_182 0 61 (dk_at dksJ20_checkLength_1 7 rfl rfl)
theorem dJ20_checkLength_33 : decode cJ20_checkLength 33 = .ok (.invokespecial 65, 3) := dk_183 0 65 (dk_at dksJ20_checkLength_1 10 rfl rfl)
theorem dJ20_checkLength_36 : decode cJ20_checkLength 36 = .ok (.athrow, 1) := dk_191 (dk_at dksJ20_checkLength_1 13 rfl rfl)
theorem dJ20_checkLength_37 : decode cJ20_checkLength 37 = .ok (.return_, 1) := dk_177 (dk_at dksJ20_checkLength_1 14 rfl rfl)
abbrev cJ20_fill : ByteArray := prog_49_method_110_code
def yJ20_fill : MethodName := ⟨RJ20, "fill", "([BIIB)V"⟩
def dkwJ20_fill_1 : List UInt8 := [167, 255, 242, 177]
abbrev dktJ20_fill_1 : List UInt8 := dkwJ20_fill_1 ++ []
def dkwJ20_fill_0 : List UInt8 := [42, 190, 27, 28, 184, 0, 13, 27, 54, 4, 21, 4, 28, 162, 0, 14, 42, 21, 4, 29, 84, 132, 4, 1]
abbrev dktJ20_fill_0 : List UInt8 := dkwJ20_fill_0 ++ dktJ20_fill_1
theorem dksJ20_fill_0 : cJ20_fill.data.toList.drop 0 = dktJ20_fill_0 := by decide +kernel
theorem dksJ20_fill_1 : cJ20_fill.data.toList.drop 24 = dktJ20_fill_1 := dk_seg dksJ20_fill_0 24 rfl rfl
theorem dJ20_fill_0 : decode cJ20_fill 0 = .ok (.aload_n 0, 1) := dk_42 (dk_at dksJ20_fill_0 0 rfl rfl)
theorem dJ20_fill_1 : decode cJ20_fill 1 = .ok (.arraylength, 1) := dk_190 (dk_at dksJ20_fill_0 1 rfl rfl)
theorem dJ20_fill_2 : decode cJ20_fill 2 = .ok (.iload_n 1, 1) := dk_27 (dk_at dksJ20_fill_0 2 rfl rfl)
theorem dJ20_fill_3 : decode cJ20_fill 3 = .ok (.iload_n 2, 1) := dk_28 (dk_at dksJ20_fill_0 3 rfl rfl)
theorem dJ20_fill_4 : decode cJ20_fill 4 = .ok (.invokestatic 13, 3) := dk_184 0 13 (dk_at dksJ20_fill_0 4 rfl rfl)
theorem dJ20_fill_7 : decode cJ20_fill 7 = .ok (.iload_n 1, 1) := dk_27 (dk_at dksJ20_fill_0 7 rfl rfl)
theorem dJ20_fill_8 : decode cJ20_fill 8 = .ok (.istore 4, 2) := dk_54 4 (dk_at dksJ20_fill_0 8 rfl rfl)
theorem dJ20_fill_10 : decode cJ20_fill 10 = .ok (.iload 4, 2) := dk_21 4 (dk_at dksJ20_fill_0 10 rfl rfl)
theorem dJ20_fill_12 : decode cJ20_fill 12 = .ok (.iload_n 2, 1) := dk_28 (dk_at dksJ20_fill_0 12 rfl rfl)
theorem dJ20_fill_13 : decode cJ20_fill 13 = .ok (.if_icmp .ge 14, 3) := dk_162 0 14 (dk_at dksJ20_fill_0 13 rfl rfl)
theorem dJ20_fill_16 : decode cJ20_fill 16 = .ok (.aload_n 0, 1) := dk_42 (dk_at dksJ20_fill_0 16 rfl rfl)
theorem dJ20_fill_17 : decode cJ20_fill 17 = .ok (.iload 4, 2) := dk_21 4 (dk_at dksJ20_fill_0 17 rfl rfl)
theorem dJ20_fill_19 : decode cJ20_fill 19 = .ok (.iload_n 3, 1) := dk_29 (dk_at dksJ20_fill_0 19 rfl rfl)
theorem dJ20_fill_20 : decode cJ20_fill 20 = .ok (.bastore, 1) := dk_84 (dk_at dksJ20_fill_0 20 rfl rfl)
theorem dJ20_fill_21 : decode cJ20_fill 21 = .ok (.iinc 4 1, 3) := dk_132 4 1 (dk_at dksJ20_fill_0 21 rfl rfl)
theorem dJ20_fill_24 : decode cJ20_fill 24 = .ok (.goto (-14), 3) := dk_167 255 242 (dk_at dksJ20_fill_1 0 rfl rfl)
theorem dJ20_fill_27 : decode cJ20_fill 27 = .ok (.return_, 1) := dk_177 (dk_at dksJ20_fill_1 3 rfl rfl)
abbrev cJ20_rangeCheck : ByteArray := prog_49_method_30_code
def yJ20_rangeCheck : MethodName := ⟨RJ20, "rangeCheck", "(III)V"⟩
def dkwJ20_rangeCheck_3 : List UInt8 := [183, 0, 70, 191, 177]
abbrev dktJ20_rangeCheck_3 : List UInt8 := dkwJ20_rangeCheck_3 ++ []
def dkwJ20_rangeCheck_2 : List UInt8 := [27, 156, 0, 12, 187, 0, 68, 89, 27, 183, 0, 70, 191, 28, 26, 164, 0, 12, 187, 0, 68, 89, 28]
abbrev dktJ20_rangeCheck_2 : List UInt8 := dkwJ20_rangeCheck_2 ++ dktJ20_rangeCheck_3
def dkwJ20_rangeCheck_1 : List UInt8 := [182, 0, 54, 18, 57, 182, 0, 50, 28, 182, 0, 54, 18, 59, 182, 0, 50, 182, 0, 61, 183, 0, 65, 191]
abbrev dktJ20_rangeCheck_1 : List UInt8 := dkwJ20_rangeCheck_1 ++ dktJ20_rangeCheck_2
def dkwJ20_rangeCheck_0 : List UInt8 := [27, 28, 164, 0, 44, 187, 0, 43, 89, 187, 0, 45, 89, 183, 0, 47, 18, 48, 182, 0, 50, 27]
abbrev dktJ20_rangeCheck_0 : List UInt8 := dkwJ20_rangeCheck_0 ++ dktJ20_rangeCheck_1
theorem dksJ20_rangeCheck_0 : cJ20_rangeCheck.data.toList.drop 0 = dktJ20_rangeCheck_0 := by decide +kernel
theorem dksJ20_rangeCheck_1 : cJ20_rangeCheck.data.toList.drop 22 = dktJ20_rangeCheck_1 := dk_seg dksJ20_rangeCheck_0 22 rfl rfl
theorem dksJ20_rangeCheck_2 : cJ20_rangeCheck.data.toList.drop 46 = dktJ20_rangeCheck_2 := dk_seg dksJ20_rangeCheck_1 24 rfl rfl
theorem dksJ20_rangeCheck_3 : cJ20_rangeCheck.data.toList.drop 69 = dktJ20_rangeCheck_3 := dk_seg dksJ20_rangeCheck_2 23 rfl rfl
theorem dJ20_rangeCheck_0 : decode cJ20_rangeCheck 0 = .ok (.iload_n 1, 1) := dk_27 (dk_at dksJ20_rangeCheck_0 0 rfl rfl)
theorem dJ20_rangeCheck_1 : decode cJ20_rangeCheck 1 = .ok (.iload_n 2, 1) := dk_28 (dk_at dksJ20_rangeCheck_0 1 rfl rfl)
theorem dJ20_rangeCheck_2 : decode cJ20_rangeCheck 2 = .ok (.if_icmp .le 44, 3) := dk_164 0 44 (dk_at dksJ20_rangeCheck_0 2 rfl rfl)
theorem dJ20_rangeCheck_5 : decode cJ20_rangeCheck 5 = .ok (.new 43, 3) := dk_187 0 43 (dk_at dksJ20_rangeCheck_0 5 rfl rfl)
theorem dJ20_rangeCheck_8 : decode cJ20_rangeCheck 8 = .ok (.dup, 1) := dk_89 (dk_at dksJ20_rangeCheck_0 8 rfl rfl)
theorem dJ20_rangeCheck_9 : decode cJ20_rangeCheck 9 = .ok (.new 45, 3) := dk_187 0 45 (dk_at dksJ20_rangeCheck_0 9 rfl rfl)
theorem dJ20_rangeCheck_12 : decode cJ20_rangeCheck 12 = .ok (.dup, 1) := dk_89 (dk_at dksJ20_rangeCheck_0 12 rfl rfl)
theorem dJ20_rangeCheck_13 : decode cJ20_rangeCheck 13 = .ok (.invokespecial 47, 3) := dk_183 0 47 (dk_at dksJ20_rangeCheck_0 13 rfl rfl)
theorem dJ20_rangeCheck_16 : decode cJ20_rangeCheck 16 = .ok (.ldc 48, 2) := dk_18 48 (dk_at dksJ20_rangeCheck_0 16 rfl rfl)
theorem dJ20_rangeCheck_18 : decode cJ20_rangeCheck 18 = .ok (.invokevirtual 50, 3) := dk_182 0 50 (dk_at dksJ20_rangeCheck_0 18 rfl rfl)
theorem dJ20_rangeCheck_21 : decode cJ20_rangeCheck 21 = .ok (.iload_n 1, 1) := dk_27 (dk_at dksJ20_rangeCheck_0 21 rfl rfl)
theorem dJ20_rangeCheck_22 : decode cJ20_rangeCheck 22 = .ok (.invokevirtual 54, 3) := dk_182 0 54 (dk_at dksJ20_rangeCheck_1 0 rfl rfl)
theorem dJ20_rangeCheck_25 : decode cJ20_rangeCheck 25 = .ok (.ldc 57, 2) := dk_18 57 (dk_at dksJ20_rangeCheck_1 3 rfl rfl)
theorem dJ20_rangeCheck_27 : decode cJ20_rangeCheck 27 = .ok (.invokevirtual 50, 3) := dk_182 0 50 (dk_at dksJ20_rangeCheck_1 5 rfl rfl)
theorem dJ20_rangeCheck_30 : decode cJ20_rangeCheck 30 = .ok (.iload_n 2, 1) := dk_28 (dk_at dksJ20_rangeCheck_1 8 rfl rfl)
theorem dJ20_rangeCheck_31 : decode cJ20_rangeCheck 31 = .ok (.invokevirtual 54, 3) := dk_182 0 54 (dk_at dksJ20_rangeCheck_1 9 rfl rfl)
theorem dJ20_rangeCheck_34 : decode cJ20_rangeCheck 34 = .ok (.ldc 59, 2) := dk_18 59 (dk_at dksJ20_rangeCheck_1 12 rfl rfl)
theorem dJ20_rangeCheck_36 : decode cJ20_rangeCheck 36 = .ok (.invokevirtual 50, 3) := dk_182 0 50 (dk_at dksJ20_rangeCheck_1 14 rfl rfl)
theorem dJ20_rangeCheck_39 : decode cJ20_rangeCheck 39 = .ok (.invokevirtual 61, 3) := dk_182 0 61 (dk_at dksJ20_rangeCheck_1 17 rfl rfl)
theorem dJ20_rangeCheck_42 : decode cJ20_rangeCheck 42 = .ok (.invokespecial 65, 3) := dk_183 0 65 (dk_at dksJ20_rangeCheck_1 20 rfl rfl)
theorem dJ20_rangeCheck_45 : decode cJ20_rangeCheck 45 = .ok (.athrow, 1) := dk_191 (dk_at dksJ20_rangeCheck_1 23 rfl rfl)
theorem dJ20_rangeCheck_46 : decode cJ20_rangeCheck 46 = .ok (.iload_n 1, 1) := dk_27 (dk_at dksJ20_rangeCheck_2 0 rfl rfl)
theorem dJ20_rangeCheck_47 : decode cJ20_rangeCheck 47 = .ok (.ifCond .ge 12, 3) := dk_156 0 12 (dk_at dksJ20_rangeCheck_2 1 rfl rfl)
theorem dJ20_rangeCheck_50 : decode cJ20_rangeCheck 50 = .ok (.new 68, 3) := dk_187 0 68 (dk_at dksJ20_rangeCheck_2 4 rfl rfl)
theorem dJ20_rangeCheck_53 : decode cJ20_rangeCheck 53 = .ok (.dup, 1) := dk_89 (dk_at dksJ20_rangeCheck_2 7 rfl rfl)
theorem dJ20_rangeCheck_54 : decode cJ20_rangeCheck 54 = .ok (.iload_n 1, 1) := dk_27 (dk_at dksJ20_rangeCheck_2 8 rfl rfl)
theorem dJ20_rangeCheck_55 : decode cJ20_rangeCheck 55 = .ok (.invokespecial 70, 3) := dk_183 0 70 (dk_at dksJ20_rangeCheck_2 9 rfl rfl)
theorem dJ20_rangeCheck_58 : decode cJ20_rangeCheck 58 = .ok (.athrow, 1) := dk_191 (dk_at dksJ20_rangeCheck_2 12 rfl rfl)
theorem dJ20_rangeCheck_59 : decode cJ20_rangeCheck 59 = .ok (.iload_n 2, 1) := dk_28 (dk_at dksJ20_rangeCheck_2 13 rfl rfl)
theorem dJ20_rangeCheck_60 : decode cJ20_rangeCheck 60 = .ok (.iload_n 0, 1) := dk_26 (dk_at dksJ20_rangeCheck_2 14 rfl rfl)
theorem dJ20_rangeCheck_61 : decode cJ20_rangeCheck 61 = .ok (.if_icmp .le 12, 3) := dk_164 0 12 (dk_at dksJ20_rangeCheck_2 15 rfl rfl)
theorem dJ20_rangeCheck_64 : decode cJ20_rangeCheck 64 = .ok (.new 68, 3) := dk_187 0 68 (dk_at dksJ20_rangeCheck_2 18 rfl rfl)
theorem dJ20_rangeCheck_67 : decode cJ20_rangeCheck 67 = .ok (.dup, 1) := dk_89 (dk_at dksJ20_rangeCheck_2 21 rfl rfl)
theorem dJ20_rangeCheck_68 : decode cJ20_rangeCheck 68 = .ok (.iload_n 2, 1) := dk_28 (dk_at dksJ20_rangeCheck_2 22 rfl rfl)
theorem dJ20_rangeCheck_69 : decode cJ20_rangeCheck 69 = .ok (.invokespecial 70, 3) := dk_183 0 70 (dk_at dksJ20_rangeCheck_3 0 rfl rfl)
theorem dJ20_rangeCheck_72 : decode cJ20_rangeCheck 72 = .ok (.athrow, 1) := dk_191 (dk_at dksJ20_rangeCheck_3 3 rfl rfl)
theorem dJ20_rangeCheck_73 : decode cJ20_rangeCheck 73 = .ok (.return_, 1) := dk_177 (dk_at dksJ20_rangeCheck_3 4 rfl rfl)
abbrev cJ20_copyOf_2 : ByteArray := prog_49_method_119_code
def yJ20_copyOf_2 : MethodName := ⟨RJ20, "copyOf", "([Ljava/lang/Object;I)[Ljava/lang/Object;"⟩
def dkwJ20_copyOf_2_0 : List UInt8 := [42, 27, 42, 182, 0, 86, 184, 1, 44, 176]
abbrev dktJ20_copyOf_2_0 : List UInt8 := dkwJ20_copyOf_2_0 ++ []
theorem dksJ20_copyOf_2_0 : cJ20_copyOf_2.data.toList.drop 0 = dktJ20_copyOf_2_0 := by decide +kernel
theorem dJ20_copyOf_2_0 : decode cJ20_copyOf_2 0 = .ok (.aload_n 0, 1) := dk_42 (dk_at dksJ20_copyOf_2_0 0 rfl rfl)
theorem dJ20_copyOf_2_1 : decode cJ20_copyOf_2 1 = .ok (.iload_n 1, 1) := dk_27 (dk_at dksJ20_copyOf_2_0 1 rfl rfl)
theorem dJ20_copyOf_2_2 : decode cJ20_copyOf_2 2 = .ok (.aload_n 0, 1) := dk_42 (dk_at dksJ20_copyOf_2_0 2 rfl rfl)
theorem dJ20_copyOf_2_3 : decode cJ20_copyOf_2 3 = .ok (.invokevirtual 86, 3) := dk_182 0 86 (dk_at dksJ20_copyOf_2_0 3 rfl rfl)
theorem dJ20_copyOf_2_6 : decode cJ20_copyOf_2 6 = .ok (.invokestatic 300, 3) := dk_184 1 44 (dk_at dksJ20_copyOf_2_0 6 rfl rfl)
theorem dJ20_copyOf_2_9 : decode cJ20_copyOf_2 9 = .ok (.areturn, 1) := dk_176 (dk_at dksJ20_copyOf_2_0 9 rfl rfl)
abbrev cJ20_copyOf_3 : ByteArray := prog_49_method_120_code
def yJ20_copyOf_3 : MethodName := ⟨RJ20, "copyOf", "([Ljava/lang/Object;ILjava/lang/Class;)[Ljava/lang/Object;"⟩
def dkwJ20_copyOf_3_1 : List UInt8 := [78, 42, 3, 45, 3, 42, 190, 27, 184, 1, 48, 184, 0, 150, 45, 176]
abbrev dktJ20_copyOf_3_1 : List UInt8 := dkwJ20_copyOf_3_1 ++ []
def dkwJ20_copyOf_3_0 : List UInt8 := [44, 18, 110, 166, 0, 10, 27, 189, 0, 2, 167, 0, 14, 44, 182, 0, 90, 27, 184, 0, 95, 192, 0, 110]
abbrev dktJ20_copyOf_3_0 : List UInt8 := dkwJ20_copyOf_3_0 ++ dktJ20_copyOf_3_1
theorem dksJ20_copyOf_3_0 : cJ20_copyOf_3.data.toList.drop 0 = dktJ20_copyOf_3_0 := by decide +kernel
theorem dksJ20_copyOf_3_1 : cJ20_copyOf_3.data.toList.drop 24 = dktJ20_copyOf_3_1 := dk_seg dksJ20_copyOf_3_0 24 rfl rfl
theorem dJ20_copyOf_3_0 : decode cJ20_copyOf_3 0 = .ok (.aload_n 2, 1) := dk_44 (dk_at dksJ20_copyOf_3_0 0 rfl rfl)
theorem dJ20_copyOf_3_1 : decode cJ20_copyOf_3 1 = .ok (.ldc 110, 2) := dk_18 110 (dk_at dksJ20_copyOf_3_0 1 rfl rfl)
theorem dJ20_copyOf_3_3 : decode cJ20_copyOf_3 3 = .ok (.if_acmp .ne 10, 3) := dk_166 0 10 (dk_at dksJ20_copyOf_3_0 3 rfl rfl)
theorem dJ20_copyOf_3_6 : decode cJ20_copyOf_3 6 = .ok (.iload_n 1, 1) := dk_27 (dk_at dksJ20_copyOf_3_0 6 rfl rfl)
theorem dJ20_copyOf_3_7 : decode cJ20_copyOf_3 7 = .ok (.anewarray 2, 3) := dk_189 0 2 (dk_at dksJ20_copyOf_3_0 7 rfl rfl)
theorem dJ20_copyOf_3_10 : decode cJ20_copyOf_3 10 = .ok (.goto 14, 3) := dk_167 0 14 (dk_at dksJ20_copyOf_3_0 10 rfl rfl)
theorem dJ20_copyOf_3_13 : decode cJ20_copyOf_3 13 = .ok (.aload_n 2, 1) := dk_44 (dk_at dksJ20_copyOf_3_0 13 rfl rfl)
theorem dJ20_copyOf_3_14 : decode cJ20_copyOf_3 14 = .ok (.invokevirtual 90, 3) := dk_182 0 90 (dk_at dksJ20_copyOf_3_0 14 rfl rfl)
theorem dJ20_copyOf_3_17 : decode cJ20_copyOf_3 17 = .ok (.iload_n 1, 1) := dk_27 (dk_at dksJ20_copyOf_3_0 17 rfl rfl)
theorem dJ20_copyOf_3_18 : decode cJ20_copyOf_3 18 = .ok (.invokestatic 95, 3) := dk_184 0 95 (dk_at dksJ20_copyOf_3_0 18 rfl rfl)
theorem dJ20_copyOf_3_21 : decode cJ20_copyOf_3 21 = .ok (.checkcast 110, 3) := dk_192 0 110 (dk_at dksJ20_copyOf_3_0 21 rfl rfl)
theorem dJ20_copyOf_3_24 : decode cJ20_copyOf_3 24 = .ok (.astore_n 3, 1) := dk_78 (dk_at dksJ20_copyOf_3_1 0 rfl rfl)
theorem dJ20_copyOf_3_25 : decode cJ20_copyOf_3 25 = .ok (.aload_n 0, 1) := dk_42 (dk_at dksJ20_copyOf_3_1 1 rfl rfl)
theorem dJ20_copyOf_3_26 : decode cJ20_copyOf_3 26 = .ok (.iconst 0, 1) := dk_3 (dk_at dksJ20_copyOf_3_1 2 rfl rfl)
theorem dJ20_copyOf_3_27 : decode cJ20_copyOf_3 27 = .ok (.aload_n 3, 1) := dk_45 (dk_at dksJ20_copyOf_3_1 3 rfl rfl)
theorem dJ20_copyOf_3_28 : decode cJ20_copyOf_3 28 = .ok (.iconst 0, 1) := dk_3 (dk_at dksJ20_copyOf_3_1 4 rfl rfl)
theorem dJ20_copyOf_3_29 : decode cJ20_copyOf_3 29 = .ok (.aload_n 0, 1) := dk_42 (dk_at dksJ20_copyOf_3_1 5 rfl rfl)
theorem dJ20_copyOf_3_30 : decode cJ20_copyOf_3 30 = .ok (.arraylength, 1) := dk_190 (dk_at dksJ20_copyOf_3_1 6 rfl rfl)
theorem dJ20_copyOf_3_31 : decode cJ20_copyOf_3 31 = .ok (.iload_n 1, 1) := dk_27 (dk_at dksJ20_copyOf_3_1 7 rfl rfl)
theorem dJ20_copyOf_3_32 : decode cJ20_copyOf_3 32 = .ok (.invokestatic 304, 3) := dk_184 1 48 (dk_at dksJ20_copyOf_3_1 8 rfl rfl)
theorem dJ20_copyOf_3_35 : decode cJ20_copyOf_3 35 = .ok (.invokestatic 150, 3) := dk_184 0 150 (dk_at dksJ20_copyOf_3_1 11 rfl rfl)
theorem dJ20_copyOf_3_38 : decode cJ20_copyOf_3 38 = .ok (.aload_n 3, 1) := dk_45 (dk_at dksJ20_copyOf_3_1 14 rfl rfl)
theorem dJ20_copyOf_3_39 : decode cJ20_copyOf_3 39 = .ok (.areturn, 1) := dk_176 (dk_at dksJ20_copyOf_3_1 15 rfl rfl)
abbrev cJ20_copyOf_4 : ByteArray := prog_49_method_124_code
def yJ20_copyOf_4 : MethodName := ⟨RJ20, "copyOf", "([JI)[J"⟩
def dkwJ20_copyOf_4_1 : List UInt8 := [27, 184, 1, 48, 184, 0, 150, 44, 176]
abbrev dktJ20_copyOf_4_1 : List UInt8 := dkwJ20_copyOf_4_1 ++ []
def dkwJ20_copyOf_4_0 : List UInt8 := [27, 42, 190, 160, 0, 11, 42, 182, 1, 63, 192, 1, 64, 176, 27, 188, 11, 77, 42, 3, 44, 3, 42, 190]
abbrev dktJ20_copyOf_4_0 : List UInt8 := dkwJ20_copyOf_4_0 ++ dktJ20_copyOf_4_1
theorem dksJ20_copyOf_4_0 : cJ20_copyOf_4.data.toList.drop 0 = dktJ20_copyOf_4_0 := by decide +kernel
theorem dksJ20_copyOf_4_1 : cJ20_copyOf_4.data.toList.drop 24 = dktJ20_copyOf_4_1 := dk_seg dksJ20_copyOf_4_0 24 rfl rfl
theorem dJ20_copyOf_4_0 : decode cJ20_copyOf_4 0 = .ok (.iload_n 1, 1) := dk_27 (dk_at dksJ20_copyOf_4_0 0 rfl rfl)
theorem dJ20_copyOf_4_1 : decode cJ20_copyOf_4 1 = .ok (.aload_n 0, 1) := dk_42 (dk_at dksJ20_copyOf_4_0 1 rfl rfl)
theorem dJ20_copyOf_4_2 : decode cJ20_copyOf_4 2 = .ok (.arraylength, 1) := dk_190 (dk_at dksJ20_copyOf_4_0 2 rfl rfl)
theorem dJ20_copyOf_4_3 : decode cJ20_copyOf_4 3 = .ok (.if_icmp .ne 11, 3) := dk_160 0 11 (dk_at dksJ20_copyOf_4_0 3 rfl rfl)
theorem dJ20_copyOf_4_6 : decode cJ20_copyOf_4 6 = .ok (.aload_n 0, 1) := dk_42 (dk_at dksJ20_copyOf_4_0 6 rfl rfl)
theorem dJ20_copyOf_4_7 : decode cJ20_copyOf_4 7 = .ok (.invokevirtual 319, 3) := dk_182 1 63 (dk_at dksJ20_copyOf_4_0 7 rfl rfl)
theorem dJ20_copyOf_4_10 : decode cJ20_copyOf_4 10 = .ok (.checkcast 320, 3) := dk_192 1 64 (dk_at dksJ20_copyOf_4_0 10 rfl rfl)
theorem dJ20_copyOf_4_13 : decode cJ20_copyOf_4 13 = .ok (.areturn, 1) := dk_176 (dk_at dksJ20_copyOf_4_0 13 rfl rfl)
theorem dJ20_copyOf_4_14 : decode cJ20_copyOf_4 14 = .ok (.iload_n 1, 1) := dk_27 (dk_at dksJ20_copyOf_4_0 14 rfl rfl)
theorem dJ20_copyOf_4_15 : decode cJ20_copyOf_4 15 = .ok (.newarray .long, 2) := dk_188_11 (dk_at dksJ20_copyOf_4_0 15 rfl rfl)
theorem dJ20_copyOf_4_17 : decode cJ20_copyOf_4 17 = .ok (.astore_n 2, 1) := dk_77 (dk_at dksJ20_copyOf_4_0 17 rfl rfl)
theorem dJ20_copyOf_4_18 : decode cJ20_copyOf_4 18 = .ok (.aload_n 0, 1) := dk_42 (dk_at dksJ20_copyOf_4_0 18 rfl rfl)
theorem dJ20_copyOf_4_19 : decode cJ20_copyOf_4 19 = .ok (.iconst 0, 1) := dk_3 (dk_at dksJ20_copyOf_4_0 19 rfl rfl)
theorem dJ20_copyOf_4_20 : decode cJ20_copyOf_4 20 = .ok (.aload_n 2, 1) := dk_44 (dk_at dksJ20_copyOf_4_0 20 rfl rfl)
theorem dJ20_copyOf_4_21 : decode cJ20_copyOf_4 21 = .ok (.iconst 0, 1) := dk_3 (dk_at dksJ20_copyOf_4_0 21 rfl rfl)
theorem dJ20_copyOf_4_22 : decode cJ20_copyOf_4 22 = .ok (.aload_n 0, 1) := dk_42 (dk_at dksJ20_copyOf_4_0 22 rfl rfl)
theorem dJ20_copyOf_4_23 : decode cJ20_copyOf_4 23 = .ok (.arraylength, 1) := dk_190 (dk_at dksJ20_copyOf_4_0 23 rfl rfl)
theorem dJ20_copyOf_4_24 : decode cJ20_copyOf_4 24 = .ok (.iload_n 1, 1) := dk_27 (dk_at dksJ20_copyOf_4_1 0 rfl rfl)
theorem dJ20_copyOf_4_25 : decode cJ20_copyOf_4 25 = .ok (.invokestatic 304, 3) := dk_184 1 48 (dk_at dksJ20_copyOf_4_1 1 rfl rfl)
theorem dJ20_copyOf_4_28 : decode cJ20_copyOf_4 28 = .ok (.invokestatic 150, 3) := dk_184 0 150 (dk_at dksJ20_copyOf_4_1 4 rfl rfl)
theorem dJ20_copyOf_4_31 : decode cJ20_copyOf_4 31 = .ok (.aload_n 2, 1) := dk_44 (dk_at dksJ20_copyOf_4_1 7 rfl rfl)
theorem dJ20_copyOf_4_32 : decode cJ20_copyOf_4 32 = .ok (.areturn, 1) := dk_176 (dk_at dksJ20_copyOf_4_1 8 rfl rfl)
abbrev cJ21_inflate : ByteArray := prog_32_method_50_code
def yJ21_inflate : MethodName := ⟨RJ21, "inflate", "([BI[BII)V"⟩
def dkwJ21_inflate_0 : List UInt8 := [42, 27, 44, 29, 21, 4, 184, 0, 240, 177]
abbrev dktJ21_inflate_0 : List UInt8 := dkwJ21_inflate_0 ++ []
theorem dksJ21_inflate_0 : cJ21_inflate.data.toList.drop 0 = dktJ21_inflate_0 := by decide +kernel
theorem dJ21_inflate_0 : decode cJ21_inflate 0 = .ok (.aload_n 0, 1) := dk_42 (dk_at dksJ21_inflate_0 0 rfl rfl)
theorem dJ21_inflate_1 : decode cJ21_inflate 1 = .ok (.iload_n 1, 1) := dk_27 (dk_at dksJ21_inflate_0 1 rfl rfl)
theorem dJ21_inflate_2 : decode cJ21_inflate 2 = .ok (.aload_n 2, 1) := dk_44 (dk_at dksJ21_inflate_0 2 rfl rfl)
theorem dJ21_inflate_3 : decode cJ21_inflate 3 = .ok (.iload_n 3, 1) := dk_29 (dk_at dksJ21_inflate_0 3 rfl rfl)
theorem dJ21_inflate_4 : decode cJ21_inflate 4 = .ok (.iload 4, 2) := dk_21 4 (dk_at dksJ21_inflate_0 4 rfl rfl)
theorem dJ21_inflate_6 : decode cJ21_inflate 6 = .ok (.invokestatic 240, 3) := dk_184 0 240 (dk_at dksJ21_inflate_0 6 rfl rfl)
theorem dJ21_inflate_9 : decode cJ21_inflate 9 = .ok (.return_, 1) := dk_177 (dk_at dksJ21_inflate_0 9 rfl rfl)
abbrev cJ21_fillNull : ByteArray := prog_32_method_48_code
def yJ21_fillNull : MethodName := ⟨RJ21, "fillNull", "([BII)V"⟩
def dkwJ21_fillNull_0 : List UInt8 := [42, 27, 28, 3, 184, 0, 236, 177]
abbrev dktJ21_fillNull_0 : List UInt8 := dkwJ21_fillNull_0 ++ []
theorem dksJ21_fillNull_0 : cJ21_fillNull.data.toList.drop 0 = dktJ21_fillNull_0 := by decide +kernel
theorem dJ21_fillNull_0 : decode cJ21_fillNull 0 = .ok (.aload_n 0, 1) := dk_42 (dk_at dksJ21_fillNull_0 0 rfl rfl)
theorem dJ21_fillNull_1 : decode cJ21_fillNull 1 = .ok (.iload_n 1, 1) := dk_27 (dk_at dksJ21_fillNull_0 1 rfl rfl)
theorem dJ21_fillNull_2 : decode cJ21_fillNull 2 = .ok (.iload_n 2, 1) := dk_28 (dk_at dksJ21_fillNull_0 2 rfl rfl)
theorem dJ21_fillNull_3 : decode cJ21_fillNull 3 = .ok (.iconst 0, 1) := dk_3 (dk_at dksJ21_fillNull_0 3 rfl rfl)
theorem dJ21_fillNull_4 : decode cJ21_fillNull 4 = .ok (.invokestatic 236, 3) := dk_184 0 236 (dk_at dksJ21_fillNull_0 4 rfl rfl)
theorem dJ21_fillNull_7 : decode cJ21_fillNull 7 = .ok (.return_, 1) := dk_177 (dk_at dksJ21_fillNull_0 7 rfl rfl)
abbrev cJ21_canEncode : ByteArray := prog_32_method_3_code
def yJ21_canEncode : MethodName := ⟨RJ21, "canEncode", "(C)Z"⟩
def dkwJ21_canEncode_0 : List UInt8 := [26, 17, 0, 255, 163, 0, 7, 4, 167, 0, 4, 3, 172]
abbrev dktJ21_canEncode_0 : List UInt8 := dkwJ21_canEncode_0 ++ []
theorem dksJ21_canEncode_0 : cJ21_canEncode.data.toList.drop 0 = dktJ21_canEncode_0 := by decide +kernel
theorem dJ21_canEncode_0 : decode cJ21_canEncode 0 = .ok (.iload_n 0, 1) := dk_26 (dk_at dksJ21_canEncode_0 0 rfl rfl)
theorem dJ21_canEncode_1 : decode cJ21_canEncode 1 = .ok (.sipush 255, 3) := dk_17 0 255 (dk_at dksJ21_canEncode_0 1 rfl rfl)
theorem dJ21_canEncode_4 : decode cJ21_canEncode 4 = .ok (.if_icmp .gt 7, 3) := dk_163 0 7 (dk_at dksJ21_canEncode_0 4 rfl rfl)
theorem dJ21_canEncode_7 : decode cJ21_canEncode 7 = .ok (.iconst 1, 1) := dk_4 (dk_at dksJ21_canEncode_0 7 rfl rfl)
theorem dJ21_canEncode_8 : decode cJ21_canEncode 8 = .ok (.goto 4, 3) := dk_167 0 4 (dk_at dksJ21_canEncode_0 8 rfl rfl)
theorem dJ21_canEncode_11 : decode cJ21_canEncode 11 = .ok (.iconst 0, 1) := dk_3 (dk_at dksJ21_canEncode_0 11 rfl rfl)
theorem dJ21_canEncode_12 : decode cJ21_canEncode 12 = .ok (.ireturn, 1) := dk_172 (dk_at dksJ21_canEncode_0 12 rfl rfl)
abbrev cJ21_equals : ByteArray := prog_32_method_13_code
def yJ21_equals : MethodName := ⟨RJ21, "equals", "([B[B)Z"⟩
def dkwJ21_equals_1 : List UInt8 := [3, 172, 132, 2, 1, 167, 255, 236, 4, 172, 3, 172]
abbrev dktJ21_equals_1 : List UInt8 := dkwJ21_equals_1 ++ []
def dkwJ21_equals_0 : List UInt8 := [42, 190, 43, 190, 160, 0, 30, 3, 61, 28, 42, 190, 162, 0, 20, 42, 28, 51, 43, 28, 51, 159, 0, 5]
abbrev dktJ21_equals_0 : List UInt8 := dkwJ21_equals_0 ++ dktJ21_equals_1
theorem dksJ21_equals_0 : cJ21_equals.data.toList.drop 0 = dktJ21_equals_0 := by decide +kernel
theorem dksJ21_equals_1 : cJ21_equals.data.toList.drop 24 = dktJ21_equals_1 := dk_seg dksJ21_equals_0 24 rfl rfl
theorem dJ21_equals_0 : decode cJ21_equals 0 = .ok (.aload_n 0, 1) := dk_42 (dk_at dksJ21_equals_0 0 rfl rfl)
theorem dJ21_equals_1 : decode cJ21_equals 1 = .ok (.arraylength, 1) := dk_190 (dk_at dksJ21_equals_0 1 rfl rfl)
theorem dJ21_equals_2 : decode cJ21_equals 2 = .ok (.aload_n 1, 1) := dk_43 (dk_at dksJ21_equals_0 2 rfl rfl)
theorem dJ21_equals_3 : decode cJ21_equals 3 = .ok (.arraylength, 1) := dk_190 (dk_at dksJ21_equals_0 3 rfl rfl)
theorem dJ21_equals_4 : decode cJ21_equals 4 = .ok (.if_icmp .ne 30, 3) := dk_160 0 30 (dk_at dksJ21_equals_0 4 rfl rfl)
theorem dJ21_equals_7 : decode cJ21_equals 7 = .ok (.iconst 0, 1) := dk_3 (dk_at dksJ21_equals_0 7 rfl rfl)
theorem dJ21_equals_8 : decode cJ21_equals 8 = .ok (.istore_n 2, 1) := dk_61 (dk_at dksJ21_equals_0 8 rfl rfl)
theorem dJ21_equals_9 : decode cJ21_equals 9 = .ok (.iload_n 2, 1) := dk_28 (dk_at dksJ21_equals_0 9 rfl rfl)
theorem dJ21_equals_10 : decode cJ21_equals 10 = .ok (.aload_n 0, 1) := dk_42 (dk_at dksJ21_equals_0 10 rfl rfl)
theorem dJ21_equals_11 : decode cJ21_equals 11 = .ok (.arraylength, 1) := dk_190 (dk_at dksJ21_equals_0 11 rfl rfl)
theorem dJ21_equals_12 : decode cJ21_equals 12 = .ok (.if_icmp .ge 20, 3) := dk_162 0 20 (dk_at dksJ21_equals_0 12 rfl rfl)
theorem dJ21_equals_15 : decode cJ21_equals 15 = .ok (.aload_n 0, 1) := dk_42 (dk_at dksJ21_equals_0 15 rfl rfl)
theorem dJ21_equals_16 : decode cJ21_equals 16 = .ok (.iload_n 2, 1) := dk_28 (dk_at dksJ21_equals_0 16 rfl rfl)
theorem dJ21_equals_17 : decode cJ21_equals 17 = .ok (.baload, 1) := dk_51 (dk_at dksJ21_equals_0 17 rfl rfl)
theorem dJ21_equals_18 : decode cJ21_equals 18 = .ok (.aload_n 1, 1) := dk_43 (dk_at dksJ21_equals_0 18 rfl rfl)
theorem dJ21_equals_19 : decode cJ21_equals 19 = .ok (.iload_n 2, 1) := dk_28 (dk_at dksJ21_equals_0 19 rfl rfl)
theorem dJ21_equals_20 : decode cJ21_equals 20 = .ok (.baload, 1) := dk_51 (dk_at dksJ21_equals_0 20 rfl rfl)
theorem dJ21_equals_21 : decode cJ21_equals 21 = .ok (.if_icmp .eq 5, 3) := dk_159 0 5 (dk_at dksJ21_equals_0 21 rfl rfl)
theorem dJ21_equals_24 : decode cJ21_equals 24 = .ok (.iconst 0, 1) := dk_3 (dk_at dksJ21_equals_1 0 rfl rfl)
theorem dJ21_equals_25 : decode cJ21_equals 25 = .ok (.ireturn, 1) := dk_172 (dk_at dksJ21_equals_1 1 rfl rfl)
theorem dJ21_equals_26 : decode cJ21_equals 26 = .ok (.iinc 2 1, 3) := dk_132 2 1 (dk_at dksJ21_equals_1 2 rfl rfl)
theorem dJ21_equals_29 : decode cJ21_equals 29 = .ok (.goto (-20), 3) := dk_167 255 236 (dk_at dksJ21_equals_1 5 rfl rfl)
theorem dJ21_equals_32 : decode cJ21_equals 32 = .ok (.iconst 1, 1) := dk_4 (dk_at dksJ21_equals_1 8 rfl rfl)
theorem dJ21_equals_33 : decode cJ21_equals 33 = .ok (.ireturn, 1) := dk_172 (dk_at dksJ21_equals_1 9 rfl rfl)
theorem dJ21_equals_34 : decode cJ21_equals 34 = .ok (.iconst 0, 1) := dk_3 (dk_at dksJ21_equals_1 10 rfl rfl)
theorem dJ21_equals_35 : decode cJ21_equals 35 = .ok (.ireturn, 1) := dk_172 (dk_at dksJ21_equals_1 11 rfl rfl)
abbrev cJ21_newString : ByteArray := prog_32_method_47_code
def yJ21_newString : MethodName := ⟨RJ21, "newString", "([BII)Ljava/lang/String;"⟩
def dkwJ21_newString_0 : List UInt8 := [28, 154, 0, 6, 18, 151, 176, 187, 0, 1, 89, 42, 27, 27, 28, 96, 184, 0, 232, 3, 183, 0, 112, 176]
abbrev dktJ21_newString_0 : List UInt8 := dkwJ21_newString_0 ++ []
theorem dksJ21_newString_0 : cJ21_newString.data.toList.drop 0 = dktJ21_newString_0 := by decide +kernel
theorem dJ21_newString_0 : decode cJ21_newString 0 = .ok (.iload_n 2, 1) := dk_28 (dk_at dksJ21_newString_0 0 rfl rfl)
theorem dJ21_newString_1 : decode cJ21_newString 1 = .ok (.ifCond .ne 6, 3) := dk_154 0 6 (dk_at dksJ21_newString_0 1 rfl rfl)
theorem dJ21_newString_4 : decode cJ21_newString 4 = .ok (.ldc 151, 2) := dk_18 151 (dk_at dksJ21_newString_0 4 rfl rfl)
theorem dJ21_newString_6 : decode cJ21_newString 6 = .ok (.areturn, 1) := dk_176 (dk_at dksJ21_newString_0 6 rfl rfl)
theorem dJ21_newString_7 : decode cJ21_newString 7 = .ok (.new 1, 3) := dk_187 0 1 (dk_at dksJ21_newString_0 7 rfl rfl)
theorem dJ21_newString_10 : decode cJ21_newString 10 = .ok (.dup, 1) := dk_89 (dk_at dksJ21_newString_0 10 rfl rfl)
theorem dJ21_newString_11 : decode cJ21_newString 11 = .ok (.aload_n 0, 1) := dk_42 (dk_at dksJ21_newString_0 11 rfl rfl)
theorem dJ21_newString_12 : decode cJ21_newString 12 = .ok (.iload_n 1, 1) := dk_27 (dk_at dksJ21_newString_0 12 rfl rfl)
theorem dJ21_newString_13 : decode cJ21_newString 13 = .ok (.iload_n 1, 1) := dk_27 (dk_at dksJ21_newString_0 13 rfl rfl)
theorem dJ21_newString_14 : decode cJ21_newString 14 = .ok (.iload_n 2, 1) := dk_28 (dk_at dksJ21_newString_0 14 rfl rfl)
theorem dJ21_newString_15 : decode cJ21_newString 15 = .ok (.iadd, 1) := dk_96 (dk_at dksJ21_newString_0 15 rfl rfl)
theorem dJ21_newString_16 : decode cJ21_newString 16 = .ok (.invokestatic 232, 3) := dk_184 0 232 (dk_at dksJ21_newString_0 16 rfl rfl)
theorem dJ21_newString_19 : decode cJ21_newString 19 = .ok (.iconst 0, 1) := dk_3 (dk_at dksJ21_newString_0 19 rfl rfl)
theorem dJ21_newString_20 : decode cJ21_newString 20 = .ok (.invokespecial 112, 3) := dk_183 0 112 (dk_at dksJ21_newString_0 20 rfl rfl)
theorem dJ21_newString_23 : decode cJ21_newString 23 = .ok (.areturn, 1) := dk_176 (dk_at dksJ21_newString_0 23 rfl rfl)
abbrev cJ21_charAt : ByteArray := prog_32_method_2_code
def yJ21_charAt : MethodName := ⟨RJ21, "charAt", "([BI)C"⟩
def dkwJ21_charAt_0 : List UInt8 := [27, 42, 190, 184, 0, 9, 42, 27, 51, 17, 0, 255, 126, 146, 172]
abbrev dktJ21_charAt_0 : List UInt8 := dkwJ21_charAt_0 ++ []
theorem dksJ21_charAt_0 : cJ21_charAt.data.toList.drop 0 = dktJ21_charAt_0 := by decide +kernel
theorem dJ21_charAt_0 : decode cJ21_charAt 0 = .ok (.iload_n 1, 1) := dk_27 (dk_at dksJ21_charAt_0 0 rfl rfl)
theorem dJ21_charAt_1 : decode cJ21_charAt 1 = .ok (.aload_n 0, 1) := dk_42 (dk_at dksJ21_charAt_0 1 rfl rfl)
theorem dJ21_charAt_2 : decode cJ21_charAt 2 = .ok (.arraylength, 1) := dk_190 (dk_at dksJ21_charAt_0 2 rfl rfl)
theorem dJ21_charAt_3 : decode cJ21_charAt 3 = .ok (.invokestatic 9, 3) := dk_184 0 9 (dk_at dksJ21_charAt_0 3 rfl rfl)
theorem dJ21_charAt_6 : decode cJ21_charAt 6 = .ok (.aload_n 0, 1) := dk_42 (dk_at dksJ21_charAt_0 6 rfl rfl)
theorem dJ21_charAt_7 : decode cJ21_charAt 7 = .ok (.iload_n 1, 1) := dk_27 (dk_at dksJ21_charAt_0 7 rfl rfl)
theorem dJ21_charAt_8 : decode cJ21_charAt 8 = .ok (.baload, 1) := dk_51 (dk_at dksJ21_charAt_0 8 rfl rfl)
theorem dJ21_charAt_9 : decode cJ21_charAt 9 = .ok (.sipush 255, 3) := dk_17 0 255 (dk_at dksJ21_charAt_0 9 rfl rfl)
theorem dJ21_charAt_12 : decode cJ21_charAt 12 = .ok (.iand, 1) := dk_126 (dk_at dksJ21_charAt_0 12 rfl rfl)
theorem dJ21_charAt_13 : decode cJ21_charAt 13 = .ok (.i2c, 1) := dk_146 (dk_at dksJ21_charAt_0 13 rfl rfl)
theorem dJ21_charAt_14 : decode cJ21_charAt 14 = .ok (.ireturn, 1) := dk_172 (dk_at dksJ21_charAt_0 14 rfl rfl)
abbrev cJ21_hashCode : ByteArray := prog_32_method_21_code
def yJ21_hashCode : MethodName := ⟨RJ21, "hashCode", "([B)I"⟩
def dkwJ21_hashCode_2 : List UInt8 := [3, 167, 0, 22, 42, 3, 51, 17, 0, 255, 126, 167, 0, 12, 42, 3, 42, 190, 3, 7, 184, 0, 84, 172]
abbrev dktJ21_hashCode_2 : List UInt8 := dkwJ21_hashCode_2 ++ []
def dkwJ21_hashCode_1 : List UInt8 := [171, 0, 0, 0, 0, 40, 0, 0, 0, 2, 0, 0, 0, 0, 0, 0, 0, 26, 0, 0, 0, 1, 0, 0, 0, 30]
abbrev dktJ21_hashCode_1 : List UInt8 := dkwJ21_hashCode_1 ++ dktJ21_hashCode_2
def dkwJ21_hashCode_0 : List UInt8 := [42, 190]
abbrev dktJ21_hashCode_0 : List UInt8 := dkwJ21_hashCode_0 ++ dktJ21_hashCode_1
theorem dksJ21_hashCode_0 : cJ21_hashCode.data.toList.drop 0 = dktJ21_hashCode_0 := by decide +kernel
theorem dksJ21_hashCode_1 : cJ21_hashCode.data.toList.drop 2 = dktJ21_hashCode_1 := dk_seg dksJ21_hashCode_0 2 rfl rfl
theorem dksJ21_hashCode_2 : cJ21_hashCode.data.toList.drop 28 = dktJ21_hashCode_2 := dk_seg dksJ21_hashCode_1 26 rfl rfl
theorem dJ21_hashCode_0 : decode cJ21_hashCode 0 = .ok (.aload_n 0, 1) := dk_42 (dk_at dksJ21_hashCode_0 0 rfl rfl)
theorem dJ21_hashCode_1 : decode cJ21_hashCode 1 = .ok (.arraylength, 1) := dk_190 (dk_at dksJ21_hashCode_0 1 rfl rfl)
theorem dJ21_hashCode_2 : decode cJ21_hashCode 2 = .ok (.lookupswitch 40 #[(0, 26), (1, 30)], 26) := by decide +kernel
theorem dJ21_hashCode_28 : decode cJ21_hashCode 28 = .ok (.iconst 0, 1) := dk_3 (dk_at dksJ21_hashCode_2 0 rfl rfl)
theorem dJ21_hashCode_29 : decode cJ21_hashCode 29 = .ok (.goto 22, 3) := dk_167 0 22 (dk_at dksJ21_hashCode_2 1 rfl rfl)
theorem dJ21_hashCode_32 : decode cJ21_hashCode 32 = .ok (.aload_n 0, 1) := dk_42 (dk_at dksJ21_hashCode_2 4 rfl rfl)
theorem dJ21_hashCode_33 : decode cJ21_hashCode 33 = .ok (.iconst 0, 1) := dk_3 (dk_at dksJ21_hashCode_2 5 rfl rfl)
theorem dJ21_hashCode_34 : decode cJ21_hashCode 34 = .ok (.baload, 1) := dk_51 (dk_at dksJ21_hashCode_2 6 rfl rfl)
theorem dJ21_hashCode_35 : decode cJ21_hashCode 35 = .ok (.sipush 255, 3) := dk_17 0 255 (dk_at dksJ21_hashCode_2 7 rfl rfl)
theorem dJ21_hashCode_38 : decode cJ21_hashCode 38 = .ok (.iand, 1) := dk_126 (dk_at dksJ21_hashCode_2 10 rfl rfl)
theorem dJ21_hashCode_39 : decode cJ21_hashCode 39 = .ok (.goto 12, 3) := dk_167 0 12 (dk_at dksJ21_hashCode_2 11 rfl rfl)
theorem dJ21_hashCode_42 : decode cJ21_hashCode 42 = .ok (.aload_n 0, 1) := dk_42 (dk_at dksJ21_hashCode_2 14 rfl rfl)
theorem dJ21_hashCode_43 : decode cJ21_hashCode 43 = .ok (.iconst 0, 1) := dk_3 (dk_at dksJ21_hashCode_2 15 rfl rfl)
theorem dJ21_hashCode_44 : decode cJ21_hashCode 44 = .ok (.aload_n 0, 1) := dk_42 (dk_at dksJ21_hashCode_2 16 rfl rfl)
theorem dJ21_hashCode_45 : decode cJ21_hashCode 45 = .ok (.arraylength, 1) := dk_190 (dk_at dksJ21_hashCode_2 17 rfl rfl)
theorem dJ21_hashCode_46 : decode cJ21_hashCode 46 = .ok (.iconst 0, 1) := dk_3 (dk_at dksJ21_hashCode_2 18 rfl rfl)
theorem dJ21_hashCode_47 : decode cJ21_hashCode 47 = .ok (.iconst 4, 1) := dk_7 (dk_at dksJ21_hashCode_2 19 rfl rfl)
theorem dJ21_hashCode_48 : decode cJ21_hashCode 48 = .ok (.invokestatic 84, 3) := dk_184 0 84 (dk_at dksJ21_hashCode_2 20 rfl rfl)
theorem dJ21_hashCode_51 : decode cJ21_hashCode 51 = .ok (.ireturn, 1) := dk_172 (dk_at dksJ21_hashCode_2 23 rfl rfl)
abbrev cJ22_init : ByteArray := prog_27_method_1_code
def yJ22_init : MethodName := ⟨RJ22, "<init>", "()V"⟩
theorem dJ22_init_0 : decode cJ22_init 0 = .ok (.aload_n 0, 1) := by decide +kernel
theorem dJ22_init_1 : decode cJ22_init 1 = .ok (.invokespecial 1, 3) := by decide +kernel
theorem dJ22_init_4 : decode cJ22_init 4 = .ok (.return_, 1) := by decide +kernel
abbrev cJ23_valueOf : ByteArray := prog_22_method_22_code
def yJ23_valueOf : MethodName := ⟨RJ23, "valueOf", "(I)Ljava/lang/Integer;"⟩
def dkwJ23_valueOf_1 : List UInt8 := [187, 0, 1, 89, 26, 183, 0, 199, 176]
abbrev dktJ23_valueOf_1 : List UInt8 := dkwJ23_valueOf_1 ++ []
def dkwJ23_valueOf_0 : List UInt8 := [26, 16, 128, 161, 0, 20, 26, 178, 0, 191, 163, 0, 13, 178, 0, 195, 26, 17, 0, 128, 96, 50, 176]
abbrev dktJ23_valueOf_0 : List UInt8 := dkwJ23_valueOf_0 ++ dktJ23_valueOf_1
theorem dksJ23_valueOf_0 : cJ23_valueOf.data.toList.drop 0 = dktJ23_valueOf_0 := by decide +kernel
theorem dksJ23_valueOf_1 : cJ23_valueOf.data.toList.drop 23 = dktJ23_valueOf_1 := dk_seg dksJ23_valueOf_0 23 rfl rfl
theorem dJ23_valueOf_0 : decode cJ23_valueOf 0 = .ok (.iload_n 0, 1) := dk_26 (dk_at dksJ23_valueOf_0 0 rfl rfl)
theorem dJ23_valueOf_1 : decode cJ23_valueOf 1 = .ok (.bipush (-128), 2) := dk_16 128 (dk_at dksJ23_valueOf_0 1 rfl rfl)
theorem dJ23_valueOf_3 : decode cJ23_valueOf 3 = .ok (.if_icmp .lt 20, 3) := dk_161 0 20 (dk_at dksJ23_valueOf_0 3 rfl rfl)
theorem dJ23_valueOf_6 : decode cJ23_valueOf 6 = .ok (.iload_n 0, 1) := dk_26 (dk_at dksJ23_valueOf_0 6 rfl rfl)
theorem dJ23_valueOf_7 : decode cJ23_valueOf 7 = .ok (.getstatic 191, 3) := dk_178 0 191 (dk_at dksJ23_valueOf_0 7 rfl rfl)
theorem dJ23_valueOf_10 : decode cJ23_valueOf 10 = .ok (.if_icmp .gt 13, 3) := dk_163 0 13 (dk_at dksJ23_valueOf_0 10 rfl rfl)
theorem dJ23_valueOf_13 : decode cJ23_valueOf 13 = .ok (.getstatic 195, 3) := dk_178 0 195 (dk_at dksJ23_valueOf_0 13 rfl rfl)
theorem dJ23_valueOf_16 : decode cJ23_valueOf 16 = .ok (.iload_n 0, 1) := dk_26 (dk_at dksJ23_valueOf_0 16 rfl rfl)
theorem dJ23_valueOf_17 : decode cJ23_valueOf 17 = .ok (.sipush 128, 3) := dk_17 0 128 (dk_at dksJ23_valueOf_0 17 rfl rfl)
theorem dJ23_valueOf_20 : decode cJ23_valueOf 20 = .ok (.iadd, 1) := dk_96 (dk_at dksJ23_valueOf_0 20 rfl rfl)
theorem dJ23_valueOf_21 : decode cJ23_valueOf 21 = .ok (.aaload, 1) := dk_50 (dk_at dksJ23_valueOf_0 21 rfl rfl)
theorem dJ23_valueOf_22 : decode cJ23_valueOf 22 = .ok (.areturn, 1) := dk_176 (dk_at dksJ23_valueOf_0 22 rfl rfl)
theorem dJ23_valueOf_23 : decode cJ23_valueOf 23 = .ok (.new 1, 3) := dk_187 0 1 (dk_at dksJ23_valueOf_1 0 rfl rfl)
theorem dJ23_valueOf_26 : decode cJ23_valueOf 26 = .ok (.dup, 1) := dk_89 (dk_at dksJ23_valueOf_1 3 rfl rfl)
theorem dJ23_valueOf_27 : decode cJ23_valueOf 27 = .ok (.iload_n 0, 1) := dk_26 (dk_at dksJ23_valueOf_1 4 rfl rfl)
theorem dJ23_valueOf_28 : decode cJ23_valueOf 28 = .ok (.invokespecial 199, 3) := dk_183 0 199 (dk_at dksJ23_valueOf_1 5 rfl rfl)
theorem dJ23_valueOf_31 : decode cJ23_valueOf 31 = .ok (.areturn, 1) := dk_176 (dk_at dksJ23_valueOf_1 8 rfl rfl)
abbrev cJ23_init : ByteArray := prog_22_method_23_code
def yJ23_init : MethodName := ⟨RJ23, "<init>", "(I)V"⟩
def dkwJ23_init_0 : List UInt8 := [42, 183, 0, 202, 42, 27, 181, 0, 205, 177]
abbrev dktJ23_init_0 : List UInt8 := dkwJ23_init_0 ++ []
theorem dksJ23_init_0 : cJ23_init.data.toList.drop 0 = dktJ23_init_0 := by decide +kernel
theorem dJ23_init_0 : decode cJ23_init 0 = .ok (.aload_n 0, 1) := dk_42 (dk_at dksJ23_init_0 0 rfl rfl)
theorem dJ23_init_1 : decode cJ23_init 1 = .ok (.invokespecial 202, 3) := dk_183 0 202 (dk_at dksJ23_init_0 1 rfl rfl)
theorem dJ23_init_4 : decode cJ23_init 4 = .ok (.aload_n 0, 1) := dk_42 (dk_at dksJ23_init_0 4 rfl rfl)
theorem dJ23_init_5 : decode cJ23_init 5 = .ok (.iload_n 1, 1) := dk_27 (dk_at dksJ23_init_0 5 rfl rfl)
theorem dJ23_init_6 : decode cJ23_init 6 = .ok (.putfield 205, 3) := dk_181 0 205 (dk_at dksJ23_init_0 6 rfl rfl)
theorem dJ23_init_9 : decode cJ23_init 9 = .ok (.return_, 1) := dk_177 (dk_at dksJ23_init_0 9 rfl rfl)
abbrev cJ23_stringSize : ByteArray := prog_22_method_13_code
def yJ23_stringSize : MethodName := ⟨RJ23, "stringSize", "(I)I"⟩
def dkwJ23_stringSize_1 : List UInt8 := [164, 0, 7, 29, 27, 96, 172, 16, 10, 28, 104, 61, 132, 3, 1, 167, 255, 233, 16, 10, 27, 96, 172]
abbrev dktJ23_stringSize_1 : List UInt8 := dkwJ23_stringSize_1 ++ []
def dkwJ23_stringSize_0 : List UInt8 := [4, 60, 26, 155, 0, 8, 3, 60, 26, 116, 59, 16, 246, 61, 4, 62, 29, 16, 10, 162, 0, 23, 26, 28]
abbrev dktJ23_stringSize_0 : List UInt8 := dkwJ23_stringSize_0 ++ dktJ23_stringSize_1
theorem dksJ23_stringSize_0 : cJ23_stringSize.data.toList.drop 0 = dktJ23_stringSize_0 := by decide +kernel
theorem dksJ23_stringSize_1 : cJ23_stringSize.data.toList.drop 24 = dktJ23_stringSize_1 := dk_seg dksJ23_stringSize_0 24 rfl rfl
theorem dJ23_stringSize_0 : decode cJ23_stringSize 0 = .ok (.iconst 1, 1) := dk_4 (dk_at dksJ23_stringSize_0 0 rfl rfl)
theorem dJ23_stringSize_1 : decode cJ23_stringSize 1 = .ok (.istore_n 1, 1) := dk_60 (dk_at dksJ23_stringSize_0 1 rfl rfl)
theorem dJ23_stringSize_2 : decode cJ23_stringSize 2 = .ok (.iload_n 0, 1) := dk_26 (dk_at dksJ23_stringSize_0 2 rfl rfl)
theorem dJ23_stringSize_3 : decode cJ23_stringSize 3 = .ok (.ifCond .lt 8, 3) := dk_155 0 8 (dk_at dksJ23_stringSize_0 3 rfl rfl)
theorem dJ23_stringSize_6 : decode cJ23_stringSize 6 = .ok (.iconst 0, 1) := dk_3 (dk_at dksJ23_stringSize_0 6 rfl rfl)
theorem dJ23_stringSize_7 : decode cJ23_stringSize 7 = .ok (.istore_n 1, 1) := dk_60 (dk_at dksJ23_stringSize_0 7 rfl rfl)
theorem dJ23_stringSize_8 : decode cJ23_stringSize 8 = .ok (.iload_n 0, 1) := dk_26 (dk_at dksJ23_stringSize_0 8 rfl rfl)
theorem dJ23_stringSize_9 : decode cJ23_stringSize 9 = .ok (.ineg, 1) := dk_116 (dk_at dksJ23_stringSize_0 9 rfl rfl)
theorem dJ23_stringSize_10 : decode cJ23_stringSize 10 = .ok (.istore_n 0, 1) := dk_59 (dk_at dksJ23_stringSize_0 10 rfl rfl)
theorem dJ23_stringSize_11 : decode cJ23_stringSize 11 = .ok (.bipush (-10), 2) := dk_16 246 (dk_at dksJ23_stringSize_0 11 rfl rfl)
theorem dJ23_stringSize_13 : decode cJ23_stringSize 13 = .ok (.istore_n 2, 1) := dk_61 (dk_at dksJ23_stringSize_0 13 rfl rfl)
theorem dJ23_stringSize_14 : decode cJ23_stringSize 14 = .ok (.iconst 1, 1) := dk_4 (dk_at dksJ23_stringSize_0 14 rfl rfl)
theorem dJ23_stringSize_15 : decode cJ23_stringSize 15 = .ok (.istore_n 3, 1) := dk_62 (dk_at dksJ23_stringSize_0 15 rfl rfl)
theorem dJ23_stringSize_16 : decode cJ23_stringSize 16 = .ok (.iload_n 3, 1) := dk_29 (dk_at dksJ23_stringSize_0 16 rfl rfl)
theorem dJ23_stringSize_17 : decode cJ23_stringSize 17 = .ok (.bipush 10, 2) := dk_16 10 (dk_at dksJ23_stringSize_0 17 rfl rfl)
theorem dJ23_stringSize_19 : decode cJ23_stringSize 19 = .ok (.if_icmp .ge 23, 3) := dk_162 0 23 (dk_at dksJ23_stringSize_0 19 rfl rfl)
theorem dJ23_stringSize_22 : decode cJ23_stringSize 22 = .ok (.iload_n 0, 1) := dk_26 (dk_at dksJ23_stringSize_0 22 rfl rfl)
theorem dJ23_stringSize_23 : decode cJ23_stringSize 23 = .ok (.iload_n 2, 1) := dk_28 (dk_at dksJ23_stringSize_0 23 rfl rfl)
theorem dJ23_stringSize_24 : decode cJ23_stringSize 24 = .ok (.if_icmp .le 7, 3) := dk_164 0 7 (dk_at dksJ23_stringSize_1 0 rfl rfl)
theorem dJ23_stringSize_27 : decode cJ23_stringSize 27 = .ok (.iload_n 3, 1) := dk_29 (dk_at dksJ23_stringSize_1 3 rfl rfl)
theorem dJ23_stringSize_28 : decode cJ23_stringSize 28 = .ok (.iload_n 1, 1) := dk_27 (dk_at dksJ23_stringSize_1 4 rfl rfl)
theorem dJ23_stringSize_29 : decode cJ23_stringSize 29 = .ok (.iadd, 1) := dk_96 (dk_at dksJ23_stringSize_1 5 rfl rfl)
theorem dJ23_stringSize_30 : decode cJ23_stringSize 30 = .ok (.ireturn, 1) := dk_172 (dk_at dksJ23_stringSize_1 6 rfl rfl)
theorem dJ23_stringSize_31 : decode cJ23_stringSize 31 = .ok (.bipush 10, 2) := dk_16 10 (dk_at dksJ23_stringSize_1 7 rfl rfl)
theorem dJ23_stringSize_33 : decode cJ23_stringSize 33 = .ok (.iload_n 2, 1) := dk_28 (dk_at dksJ23_stringSize_1 9 rfl rfl)
theorem dJ23_stringSize_34 : decode cJ23_stringSize 34 = .ok (.imul, 1) := dk_104 (dk_at dksJ23_stringSize_1 10 rfl rfl)
theorem dJ23_stringSize_35 : decode cJ23_stringSize 35 = .ok (.istore_n 2, 1) := dk_61 (dk_at dksJ23_stringSize_1 11 rfl rfl)
theorem dJ23_stringSize_36 : decode cJ23_stringSize 36 = .ok (.iinc 3 1, 3) := dk_132 3 1 (dk_at dksJ23_stringSize_1 12 rfl rfl)
theorem dJ23_stringSize_39 : decode cJ23_stringSize 39 = .ok (.goto (-23), 3) := dk_167 255 233 (dk_at dksJ23_stringSize_1 15 rfl rfl)
theorem dJ23_stringSize_42 : decode cJ23_stringSize 42 = .ok (.bipush 10, 2) := dk_16 10 (dk_at dksJ23_stringSize_1 18 rfl rfl)
theorem dJ23_stringSize_44 : decode cJ23_stringSize 44 = .ok (.iload_n 1, 1) := dk_27 (dk_at dksJ23_stringSize_1 20 rfl rfl)
theorem dJ23_stringSize_45 : decode cJ23_stringSize 45 = .ok (.iadd, 1) := dk_96 (dk_at dksJ23_stringSize_1 21 rfl rfl)
theorem dJ23_stringSize_46 : decode cJ23_stringSize 46 = .ok (.ireturn, 1) := dk_172 (dk_at dksJ23_stringSize_1 22 rfl rfl)
abbrev cJ23_getChars : ByteArray := prog_22_method_12_code
def yJ23_getChars : MethodName := ⟨RJ23, "getChars", "(II[B)I"⟩
def dkwJ23_getChars_5 : List UInt8 := [16, 45, 84, 21, 5, 172]
abbrev dktJ23_getChars_5 : List UInt8 := dkwJ23_getChars_5 ++ []
def dkwJ23_getChars_4 : List UInt8 := [132, 5, 255, 21, 5, 178, 0, 87, 26, 116, 51, 84, 21, 6, 153, 0, 12, 44, 132, 5, 255, 21, 5]
abbrev dktJ23_getChars_4 : List UInt8 := dkwJ23_getChars_4 ++ dktJ23_getChars_5
def dkwJ23_getChars_3 : List UInt8 := [167, 255, 209, 44, 132, 5, 255, 21, 5, 178, 0, 83, 26, 116, 51, 84, 26, 16, 247, 162, 0, 16, 44]
abbrev dktJ23_getChars_3 : List UInt8 := dkwJ23_getChars_3 ++ dktJ23_getChars_4
def dkwJ23_getChars_2 : List UInt8 := [21, 5, 178, 0, 83, 21, 4, 51, 84, 44, 132, 5, 255, 21, 5, 178, 0, 87, 21, 4, 51, 84]
abbrev dktJ23_getChars_2 : List UInt8 := dkwJ23_getChars_2 ++ dktJ23_getChars_3
def dkwJ23_getChars_1 : List UInt8 := [16, 156, 163, 0, 47, 26, 16, 100, 108, 62, 29, 16, 100, 104, 26, 100, 54, 4, 29, 59, 44, 132, 5, 255]
abbrev dktJ23_getChars_1 : List UInt8 := dkwJ23_getChars_1 ++ dktJ23_getChars_2
def dkwJ23_getChars_0 : List UInt8 := [27, 54, 5, 26, 156, 0, 7, 4, 167, 0, 4, 3, 54, 6, 21, 6, 154, 0, 6, 26, 116, 59, 26]
abbrev dktJ23_getChars_0 : List UInt8 := dkwJ23_getChars_0 ++ dktJ23_getChars_1
theorem dksJ23_getChars_0 : cJ23_getChars.data.toList.drop 0 = dktJ23_getChars_0 := by decide +kernel
theorem dksJ23_getChars_1 : cJ23_getChars.data.toList.drop 23 = dktJ23_getChars_1 := dk_seg dksJ23_getChars_0 23 rfl rfl
theorem dksJ23_getChars_2 : cJ23_getChars.data.toList.drop 47 = dktJ23_getChars_2 := dk_seg dksJ23_getChars_1 24 rfl rfl
theorem dksJ23_getChars_3 : cJ23_getChars.data.toList.drop 69 = dktJ23_getChars_3 := dk_seg dksJ23_getChars_2 22 rfl rfl
theorem dksJ23_getChars_4 : cJ23_getChars.data.toList.drop 92 = dktJ23_getChars_4 := dk_seg dksJ23_getChars_3 23 rfl rfl
theorem dksJ23_getChars_5 : cJ23_getChars.data.toList.drop 115 = dktJ23_getChars_5 := dk_seg dksJ23_getChars_4 23 rfl rfl
theorem dJ23_getChars_0 : decode cJ23_getChars 0 = .ok (.iload_n 1, 1) := dk_27 (dk_at dksJ23_getChars_0 0 rfl rfl)
theorem dJ23_getChars_1 : decode cJ23_getChars 1 = .ok (.istore 5, 2) := dk_54 5 (dk_at dksJ23_getChars_0 1 rfl rfl)
theorem dJ23_getChars_3 : decode cJ23_getChars 3 = .ok (.iload_n 0, 1) := dk_26 (dk_at dksJ23_getChars_0 3 rfl rfl)
theorem dJ23_getChars_4 : decode cJ23_getChars 4 = .ok (.ifCond .ge 7, 3) := dk_156 0 7 (dk_at dksJ23_getChars_0 4 rfl rfl)
theorem dJ23_getChars_7 : decode cJ23_getChars 7 = .ok (.iconst 1, 1) := dk_4 (dk_at dksJ23_getChars_0 7 rfl rfl)
theorem dJ23_getChars_8 : decode cJ23_getChars 8 = .ok (.goto 4, 3) := dk_167 0 4 (dk_at dksJ23_getChars_0 8 rfl rfl)
theorem dJ23_getChars_11 : decode cJ23_getChars 11 = .ok (.iconst 0, 1) := dk_3 (dk_at dksJ23_getChars_0 11 rfl rfl)
theorem dJ23_getChars_12 : decode cJ23_getChars 12 = .ok (.istore 6, 2) := dk_54 6 (dk_at dksJ23_getChars_0 12 rfl rfl)
theorem dJ23_getChars_14 : decode cJ23_getChars 14 = .ok (.iload 6, 2) := dk_21 6 (dk_at dksJ23_getChars_0 14 rfl rfl)
theorem dJ23_getChars_16 : decode cJ23_getChars 16 = .ok (.ifCond .ne 6, 3) := dk_154 0 6 (dk_at dksJ23_getChars_0 16 rfl rfl)
theorem dJ23_getChars_19 : decode cJ23_getChars 19 = .ok (.iload_n 0, 1) := dk_26 (dk_at dksJ23_getChars_0 19 rfl rfl)
theorem dJ23_getChars_20 : decode cJ23_getChars 20 = .ok (.ineg, 1) := dk_116 (dk_at dksJ23_getChars_0 20 rfl rfl)
theorem dJ23_getChars_21 : decode cJ23_getChars 21 = .ok (.istore_n 0, 1) := dk_59 (dk_at dksJ23_getChars_0 21 rfl rfl)
theorem dJ23_getChars_22 : decode cJ23_getChars 22 = .ok (.iload_n 0, 1) := dk_26 (dk_at dksJ23_getChars_0 22 rfl rfl)
theorem dJ23_getChars_23 : decode cJ23_getChars 23 = .ok (.bipush (-100), 2) := dk_16 156 (dk_at dksJ23_getChars_1 0 rfl rfl)
theorem dJ23_getChars_25 : decode cJ23_getChars 25 = .ok (.if_icmp .gt 47, 3) := dk_163 0 47 (dk_at dksJ23_getChars_1 2 rfl rfl)
theorem dJ23_getChars_28 : decode cJ23_getChars 28 = .ok (.iload_n 0, 1) := dk_26 (dk_at dksJ23_getChars_1 5 rfl rfl)
theorem dJ23_getChars_29 : decode cJ23_getChars 29 = .ok (.bipush 100, 2) := dk_16 100 (dk_at dksJ23_getChars_1 6 rfl rfl)
theorem dJ23_getChars_31 : decode cJ23_getChars 31 = .ok (.idiv, 1) := dk_108 (dk_at dksJ23_getChars_1 8 rfl rfl)
theorem dJ23_getChars_32 : decode cJ23_getChars 32 = .ok (.istore_n 3, 1) := dk_62 (dk_at dksJ23_getChars_1 9 rfl rfl)
theorem dJ23_getChars_33 : decode cJ23_getChars 33 = .ok (.iload_n 3, 1) := dk_29 (dk_at dksJ23_getChars_1 10 rfl rfl)
theorem dJ23_getChars_34 : decode cJ23_getChars 34 = .ok (.bipush 100, 2) := dk_16 100 (dk_at dksJ23_getChars_1 11 rfl rfl)
theorem dJ23_getChars_36 : decode cJ23_getChars 36 = .ok (.imul, 1) := dk_104 (dk_at dksJ23_getChars_1 13 rfl rfl)
theorem dJ23_getChars_37 : decode cJ23_getChars 37 = .ok (.iload_n 0, 1) := dk_26 (dk_at dksJ23_getChars_1 14 rfl rfl)
theorem dJ23_getChars_38 : decode cJ23_getChars 38 = .ok (.isub, 1) := dk_100 (dk_at dksJ23_getChars_1 15 rfl rfl)
theorem dJ23_getChars_39 : decode cJ23_getChars 39 = .ok (.istore 4, 2) := dk_54 4 (dk_at dksJ23_getChars_1 16 rfl rfl)
theorem dJ23_getChars_41 : decode cJ23_getChars 41 = .ok (.iload_n 3, 1) := dk_29 (dk_at dksJ23_getChars_1 18 rfl rfl)
theorem dJ23_getChars_42 : decode cJ23_getChars 42 = .ok (.istore_n 0, 1) := dk_59 (dk_at dksJ23_getChars_1 19 rfl rfl)
theorem dJ23_getChars_43 : decode cJ23_getChars 43 = .ok (.aload_n 2, 1) := dk_44 (dk_at dksJ23_getChars_1 20 rfl rfl)
theorem dJ23_getChars_44 : decode cJ23_getChars 44 = .ok (.iinc 5 (-1), 3) := dk_132 5 255 (dk_at dksJ23_getChars_1 21 rfl rfl)
theorem dJ23_getChars_47 : decode cJ23_getChars 47 = .ok (.iload 5, 2) := dk_21 5 (dk_at dksJ23_getChars_2 0 rfl rfl)
theorem dJ23_getChars_49 : decode cJ23_getChars 49 = .ok (.getstatic 83, 3) := dk_178 0 83 (dk_at dksJ23_getChars_2 2 rfl rfl)
theorem dJ23_getChars_52 : decode cJ23_getChars 52 = .ok (.iload 4, 2) := dk_21 4 (dk_at dksJ23_getChars_2 5 rfl rfl)
theorem dJ23_getChars_54 : decode cJ23_getChars 54 = .ok (.baload, 1) := dk_51 (dk_at dksJ23_getChars_2 7 rfl rfl)
theorem dJ23_getChars_55 : decode cJ23_getChars 55 = .ok (.bastore, 1) := dk_84 (dk_at dksJ23_getChars_2 8 rfl rfl)
theorem dJ23_getChars_56 : decode cJ23_getChars 56 = .ok (.aload_n 2, 1) := dk_44 (dk_at dksJ23_getChars_2 9 rfl rfl)
theorem dJ23_getChars_57 : decode cJ23_getChars 57 = .ok (.iinc 5 (-1), 3) := dk_132 5 255 (dk_at dksJ23_getChars_2 10 rfl rfl)
theorem dJ23_getChars_60 : decode cJ23_getChars 60 = .ok (.iload 5, 2) := dk_21 5 (dk_at dksJ23_getChars_2 13 rfl rfl)
theorem dJ23_getChars_62 : decode cJ23_getChars 62 = .ok (.getstatic 87, 3) := dk_178 0 87 (dk_at dksJ23_getChars_2 15 rfl rfl)
theorem dJ23_getChars_65 : decode cJ23_getChars 65 = .ok (.iload 4, 2) := dk_21 4 (dk_at dksJ23_getChars_2 18 rfl rfl)
theorem dJ23_getChars_67 : decode cJ23_getChars 67 = .ok (.baload, 1) := dk_51 (dk_at dksJ23_getChars_2 20 rfl rfl)
theorem dJ23_getChars_68 : decode cJ23_getChars 68 = .ok (.bastore, 1) := dk_84 (dk_at dksJ23_getChars_2 21 rfl rfl)
theorem dJ23_getChars_69 : decode cJ23_getChars 69 = .ok (.goto (-47), 3) := dk_167 255 209 (dk_at dksJ23_getChars_3 0 rfl rfl)
theorem dJ23_getChars_72 : decode cJ23_getChars 72 = .ok (.aload_n 2, 1) := dk_44 (dk_at dksJ23_getChars_3 3 rfl rfl)
theorem dJ23_getChars_73 : decode cJ23_getChars 73 = .ok (.iinc 5 (-1), 3) := dk_132 5 255 (dk_at dksJ23_getChars_3 4 rfl rfl)
theorem dJ23_getChars_76 : decode cJ23_getChars 76 = .ok (.iload 5, 2) := dk_21 5 (dk_at dksJ23_getChars_3 7 rfl rfl)
theorem dJ23_getChars_78 : decode cJ23_getChars 78 = .ok (.getstatic 83, 3) := dk_178 0 83 (dk_at dksJ23_getChars_3 9 rfl rfl)
theorem dJ23_getChars_81 : decode cJ23_getChars 81 = .ok (.iload_n 0, 1) := dk_26 (dk_at dksJ23_getChars_3 12 rfl rfl)
theorem dJ23_getChars_82 : decode cJ23_getChars 82 = .ok (.ineg, 1) := dk_116 (dk_at dksJ23_getChars_3 13 rfl rfl)
theorem dJ23_getChars_83 : decode cJ23_getChars 83 = .ok (.baload, 1) := dk_51 (dk_at dksJ23_getChars_3 14 rfl rfl)
theorem dJ23_getChars_84 : decode cJ23_getChars 84 = .ok (.bastore, 1) := dk_84 (dk_at dksJ23_getChars_3 15 rfl rfl)
theorem dJ23_getChars_85 : decode cJ23_getChars 85 = .ok (.iload_n 0, 1) := dk_26 (dk_at dksJ23_getChars_3 16 rfl rfl)
theorem dJ23_getChars_86 : decode cJ23_getChars 86 = .ok (.bipush (-9), 2) := dk_16 247 (dk_at dksJ23_getChars_3 17 rfl rfl)
theorem dJ23_getChars_88 : decode cJ23_getChars 88 = .ok (.if_icmp .ge 16, 3) := dk_162 0 16 (dk_at dksJ23_getChars_3 19 rfl rfl)
theorem dJ23_getChars_91 : decode cJ23_getChars 91 = .ok (.aload_n 2, 1) := dk_44 (dk_at dksJ23_getChars_3 22 rfl rfl)
theorem dJ23_getChars_92 : decode cJ23_getChars 92 = .ok (.iinc 5 (-1), 3) := dk_132 5 255 (dk_at dksJ23_getChars_4 0 rfl rfl)
theorem dJ23_getChars_95 : decode cJ23_getChars 95 = .ok (.iload 5, 2) := dk_21 5 (dk_at dksJ23_getChars_4 3 rfl rfl)
theorem dJ23_getChars_97 : decode cJ23_getChars 97 = .ok (.getstatic 87, 3) := dk_178 0 87 (dk_at dksJ23_getChars_4 5 rfl rfl)
theorem dJ23_getChars_100 : decode cJ23_getChars 100 = .ok (.iload_n 0, 1) := dk_26 (dk_at dksJ23_getChars_4 8 rfl rfl)
theorem dJ23_getChars_101 : decode cJ23_getChars 101 = .ok (.ineg, 1) := dk_116 (dk_at dksJ23_getChars_4 9 rfl rfl)
theorem dJ23_getChars_102 : decode cJ23_getChars 102 = .ok (.baload, 1) := dk_51 (dk_at dksJ23_getChars_4 10 rfl rfl)
theorem dJ23_getChars_103 : decode cJ23_getChars 103 = .ok (.bastore, 1) := dk_84 (dk_at dksJ23_getChars_4 11 rfl rfl)
theorem dJ23_getChars_104 : decode cJ23_getChars 104 = .ok (.iload 6, 2) := dk_21 6 (dk_at dksJ23_getChars_4 12 rfl rfl)
theorem dJ23_getChars_106 : decode cJ23_getChars 106 = .ok (.ifCond .eq 12, 3) := dk_153 0 12 (dk_at dksJ23_getChars_4 14 rfl rfl)
theorem dJ23_getChars_109 : decode cJ23_getChars 109 = .ok (.aload_n 2, 1) := dk_44 (dk_at dksJ23_getChars_4 17 rfl rfl)
theorem dJ23_getChars_110 : decode cJ23_getChars 110 = .ok (.iinc 5 (-1), 3) := dk_132 5 255 (dk_at dksJ23_getChars_4 18 rfl rfl)
theorem dJ23_getChars_113 : decode cJ23_getChars 113 = .ok (.iload 5, 2) := dk_21 5 (dk_at dksJ23_getChars_4 21 rfl rfl)
theorem dJ23_getChars_115 : decode cJ23_getChars 115 = .ok (.bipush 45, 2) := dk_16 45 (dk_at dksJ23_getChars_5 0 rfl rfl)
theorem dJ23_getChars_117 : decode cJ23_getChars 117 = .ok (.bastore, 1) := dk_84 (dk_at dksJ23_getChars_5 2 rfl rfl)
theorem dJ23_getChars_118 : decode cJ23_getChars 118 = .ok (.iload 5, 2) := dk_21 5 (dk_at dksJ23_getChars_5 3 rfl rfl)
theorem dJ23_getChars_120 : decode cJ23_getChars 120 = .ok (.ireturn, 1) := dk_172 (dk_at dksJ23_getChars_5 5 rfl rfl)
abbrev cJ23_intValue : ByteArray := prog_22_method_27_code
def yJ23_intValue : MethodName := ⟨RJ23, "intValue", "()I"⟩
theorem dJ23_intValue_0 : decode cJ23_intValue 0 = .ok (.aload_n 0, 1) := by decide +kernel
theorem dJ23_intValue_1 : decode cJ23_intValue 1 = .ok (.getfield 205, 3) := by decide +kernel
theorem dJ23_intValue_4 : decode cJ23_intValue 4 = .ok (.ireturn, 1) := by decide +kernel
abbrev cJ23_equals : ByteArray := prog_22_method_34_code
def yJ23_equals : MethodName := ⟨RJ23, "equals", "(Ljava/lang/Object;)Z"⟩
def dkwJ23_equals_1 : List UInt8 := [167, 0, 4, 3, 172, 3, 172]
abbrev dktJ23_equals_1 : List UInt8 := dkwJ23_equals_1 ++ []
def dkwJ23_equals_0 : List UInt8 := [43, 193, 0, 1, 153, 0, 23, 42, 180, 0, 205, 43, 192, 0, 1, 182, 0, 211, 160, 0, 7, 4]
abbrev dktJ23_equals_0 : List UInt8 := dkwJ23_equals_0 ++ dktJ23_equals_1
theorem dksJ23_equals_0 : cJ23_equals.data.toList.drop 0 = dktJ23_equals_0 := by decide +kernel
theorem dksJ23_equals_1 : cJ23_equals.data.toList.drop 22 = dktJ23_equals_1 := dk_seg dksJ23_equals_0 22 rfl rfl
theorem dJ23_equals_0 : decode cJ23_equals 0 = .ok (.aload_n 1, 1) := dk_43 (dk_at dksJ23_equals_0 0 rfl rfl)
theorem dJ23_equals_1 : decode cJ23_equals 1 = .ok (.instanceof 1, 3) := dk_193 0 1 (dk_at dksJ23_equals_0 1 rfl rfl)
theorem dJ23_equals_4 : decode cJ23_equals 4 = .ok (.ifCond .eq 23, 3) := dk_153 0 23 (dk_at dksJ23_equals_0 4 rfl rfl)
theorem dJ23_equals_7 : decode cJ23_equals 7 = .ok (.aload_n 0, 1) := dk_42 (dk_at dksJ23_equals_0 7 rfl rfl)
theorem dJ23_equals_8 : decode cJ23_equals 8 = .ok (.getfield 205, 3) := dk_180 0 205 (dk_at dksJ23_equals_0 8 rfl rfl)
theorem dJ23_equals_11 : decode cJ23_equals 11 = .ok (.aload_n 1, 1) := dk_43 (dk_at dksJ23_equals_0 11 rfl rfl)
theorem dJ23_equals_12 : decode cJ23_equals 12 = .ok (.checkcast 1, 3) := dk_192 0 1 (dk_at dksJ23_equals_0 12 rfl rfl)
theorem dJ23_equals_15 : decode cJ23_equals 15 = .ok (.invokevirtual 211, 3) := dk_182 0 211 (dk_at dksJ23_equals_0 15 rfl rfl)
theorem dJ23_equals_18 : decode cJ23_equals 18 = .ok (.if_icmp .ne 7, 3) := dk_160 0 7 (dk_at dksJ23_equals_0 18 rfl rfl)
theorem dJ23_equals_21 : decode cJ23_equals 21 = .ok (.iconst 1, 1) := dk_4 (dk_at dksJ23_equals_0 21 rfl rfl)
theorem dJ23_equals_22 : decode cJ23_equals 22 = .ok (.goto 4, 3) := dk_167 0 4 (dk_at dksJ23_equals_1 0 rfl rfl)
theorem dJ23_equals_25 : decode cJ23_equals 25 = .ok (.iconst 0, 1) := dk_3 (dk_at dksJ23_equals_1 3 rfl rfl)
theorem dJ23_equals_26 : decode cJ23_equals 26 = .ok (.ireturn, 1) := dk_172 (dk_at dksJ23_equals_1 4 rfl rfl)
theorem dJ23_equals_27 : decode cJ23_equals 27 = .ok (.iconst 0, 1) := dk_3 (dk_at dksJ23_equals_1 5 rfl rfl)
theorem dJ23_equals_28 : decode cJ23_equals 28 = .ok (.ireturn, 1) := dk_172 (dk_at dksJ23_equals_1 6 rfl rfl)
abbrev cJ23_numberOfTrailingZeros : ByteArray := prog_22_method_48_code
def yJ23_numberOfTrailingZeros : MethodName := ⟨RJ23, "numberOfTrailingZeros", "(I)I"⟩
def dkwJ23_numberOfTrailingZeros_3 : List UInt8 := [5, 124, 59, 27, 26, 4, 124, 96, 172]
abbrev dktJ23_numberOfTrailingZeros_3 : List UInt8 := dkwJ23_numberOfTrailingZeros_3 ++ []
def dkwJ23_numberOfTrailingZeros_2 : List UInt8 := [124, 59, 26, 16, 16, 164, 0, 10, 132, 1, 4, 26, 7, 124, 59, 26, 7, 164, 0, 10, 132, 1, 2, 26]
abbrev dktJ23_numberOfTrailingZeros_2 : List UInt8 := dkwJ23_numberOfTrailingZeros_2 ++ dktJ23_numberOfTrailingZeros_3
def dkwJ23_numberOfTrailingZeros_1 : List UInt8 := [164, 0, 11, 132, 1, 16, 26, 16, 16, 124, 59, 26, 17, 1, 0, 164, 0, 11, 132, 1, 8, 26, 16, 8]
abbrev dktJ23_numberOfTrailingZeros_1 : List UInt8 := dkwJ23_numberOfTrailingZeros_1 ++ dktJ23_numberOfTrailingZeros_2
def dkwJ23_numberOfTrailingZeros_0 : List UInt8 := [26, 2, 130, 26, 4, 100, 126, 59, 26, 157, 0, 8, 26, 16, 32, 126, 172, 4, 60, 26, 19, 1, 8]
abbrev dktJ23_numberOfTrailingZeros_0 : List UInt8 := dkwJ23_numberOfTrailingZeros_0 ++ dktJ23_numberOfTrailingZeros_1
theorem dksJ23_numberOfTrailingZeros_0 : cJ23_numberOfTrailingZeros.data.toList.drop 0 = dktJ23_numberOfTrailingZeros_0 := by decide +kernel
theorem dksJ23_numberOfTrailingZeros_1 : cJ23_numberOfTrailingZeros.data.toList.drop 23 = dktJ23_numberOfTrailingZeros_1 := dk_seg dksJ23_numberOfTrailingZeros_0 23 rfl rfl
theorem dksJ23_numberOfTrailingZeros_2 : cJ23_numberOfTrailingZeros.data.toList.drop 47 = dktJ23_numberOfTrailingZeros_2 := dk_seg dksJ23_numberOfTrailingZeros_1 24 rfl rfl
theorem dksJ23_numberOfTrailingZeros_3 : cJ23_numberOfTrailingZeros.data.toList.drop 71 = dktJ23_numberOfTrailingZeros_3 := dk_seg dksJ23_numberOfTrailingZeros_2 24 rfl rfl
theorem dJ23_numberOfTrailingZeros_0 : decode cJ23_numberOfTrailingZeros 0 = .ok (.iload_n 0, 1) := dk_26 (dk_at dksJ23_numberOfTrailingZeros_0 0 rfl rfl)
theorem dJ23_numberOfTrailingZeros_1 : decode cJ23_numberOfTrailingZeros 1 = .ok (.iconst (-1), 1) := dk_2 (dk_at dksJ23_numberOfTrailingZeros_0 1 rfl rfl)
theorem dJ23_numberOfTrailingZeros_2 : decode cJ23_numberOfTrailingZeros 2 = .ok (.ixor, 1) := dk_130 (dk_at dksJ23_numberOfTrailingZeros_0 2 rfl rfl)
theorem dJ23_numberOfTrailingZeros_3 : decode cJ23_numberOfTrailingZeros 3 = .ok (.iload_n 0, 1) := dk_26 (dk_at dksJ23_numberOfTrailingZeros_0 3 rfl rfl)
theorem dJ23_numberOfTrailingZeros_4 : decode cJ23_numberOfTrailingZeros 4 = .ok (.iconst 1, 1) := dk_4 (dk_at dksJ23_numberOfTrailingZeros_0 4 rfl rfl)
theorem dJ23_numberOfTrailingZeros_5 : decode cJ23_numberOfTrailingZeros 5 = .ok (.isub, 1) := dk_100 (dk_at dksJ23_numberOfTrailingZeros_0 5 rfl rfl)
theorem dJ23_numberOfTrailingZeros_6 : decode cJ23_numberOfTrailingZeros 6 = .ok (.iand, 1) := dk_126 (dk_at dksJ23_numberOfTrailingZeros_0 6 rfl rfl)
theorem dJ23_numberOfTrailingZeros_7 : decode cJ23_numberOfTrailingZeros 7 = .ok (.istore_n 0, 1) := dk_59 (dk_at dksJ23_numberOfTrailingZeros_0 7 rfl rfl)
theorem dJ23_numberOfTrailingZeros_8 : decode cJ23_numberOfTrailingZeros 8 = .ok (.iload_n 0, 1) := dk_26 (dk_at dksJ23_numberOfTrailingZeros_0 8 rfl rfl)
theorem dJ23_numberOfTrailingZeros_9 : decode cJ23_numberOfTrailingZeros 9 = .ok (.ifCond .gt 8, 3) := dk_157 0 8 (dk_at dksJ23_numberOfTrailingZeros_0 9 rfl rfl)
theorem dJ23_numberOfTrailingZeros_12 : decode cJ23_numberOfTrailingZeros 12 = .ok (.iload_n 0, 1) := dk_26 (dk_at dksJ23_numberOfTrailingZeros_0 12 rfl rfl)
theorem dJ23_numberOfTrailingZeros_13 : decode cJ23_numberOfTrailingZeros 13 = .ok (.bipush 32, 2) := dk_16 32 (dk_at dksJ23_numberOfTrailingZeros_0 13 rfl rfl)
theorem dJ23_numberOfTrailingZeros_15 : decode cJ23_numberOfTrailingZeros 15 = .ok (.iand, 1) := dk_126 (dk_at dksJ23_numberOfTrailingZeros_0 15 rfl rfl)
theorem dJ23_numberOfTrailingZeros_16 : decode cJ23_numberOfTrailingZeros 16 = .ok (.ireturn, 1) := dk_172 (dk_at dksJ23_numberOfTrailingZeros_0 16 rfl rfl)
theorem dJ23_numberOfTrailingZeros_17 : decode cJ23_numberOfTrailingZeros 17 = .ok (.iconst 1, 1) := dk_4 (dk_at dksJ23_numberOfTrailingZeros_0 17 rfl rfl)
theorem dJ23_numberOfTrailingZeros_18 : decode cJ23_numberOfTrailingZeros 18 = .ok (.istore_n 1, 1) := dk_60 (dk_at dksJ23_numberOfTrailingZeros_0 18 rfl rfl)
theorem dJ23_numberOfTrailingZeros_19 : decode cJ23_numberOfTrailingZeros 19 = .ok (.iload_n 0, 1) := dk_26 (dk_at dksJ23_numberOfTrailingZeros_0 19 rfl rfl)
theorem dJ23_numberOfTrailingZeros_20 : decode cJ23_numberOfTrailingZeros 20 = .ok (.ldc_w 264, 3) := dk_19 1 8 (dk_at dksJ23_numberOfTrailingZeros_0 20 rfl rfl)
theorem dJ23_numberOfTrailingZeros_23 : decode cJ23_numberOfTrailingZeros 23 = .ok (.if_icmp .le 11, 3) := dk_164 0 11 (dk_at dksJ23_numberOfTrailingZeros_1 0 rfl rfl)
theorem dJ23_numberOfTrailingZeros_26 : decode cJ23_numberOfTrailingZeros 26 = .ok (.iinc 1 16, 3) := dk_132 1 16 (dk_at dksJ23_numberOfTrailingZeros_1 3 rfl rfl)
theorem dJ23_numberOfTrailingZeros_29 : decode cJ23_numberOfTrailingZeros 29 = .ok (.iload_n 0, 1) := dk_26 (dk_at dksJ23_numberOfTrailingZeros_1 6 rfl rfl)
theorem dJ23_numberOfTrailingZeros_30 : decode cJ23_numberOfTrailingZeros 30 = .ok (.bipush 16, 2) := dk_16 16 (dk_at dksJ23_numberOfTrailingZeros_1 7 rfl rfl)
theorem dJ23_numberOfTrailingZeros_32 : decode cJ23_numberOfTrailingZeros 32 = .ok (.iushr, 1) := dk_124 (dk_at dksJ23_numberOfTrailingZeros_1 9 rfl rfl)
theorem dJ23_numberOfTrailingZeros_33 : decode cJ23_numberOfTrailingZeros 33 = .ok (.istore_n 0, 1) := dk_59 (dk_at dksJ23_numberOfTrailingZeros_1 10 rfl rfl)
theorem dJ23_numberOfTrailingZeros_34 : decode cJ23_numberOfTrailingZeros 34 = .ok (.iload_n 0, 1) := dk_26 (dk_at dksJ23_numberOfTrailingZeros_1 11 rfl rfl)
theorem dJ23_numberOfTrailingZeros_35 : decode cJ23_numberOfTrailingZeros 35 = .ok (.sipush 256, 3) := dk_17 1 0 (dk_at dksJ23_numberOfTrailingZeros_1 12 rfl rfl)
theorem dJ23_numberOfTrailingZeros_38 : decode cJ23_numberOfTrailingZeros 38 = .ok (.if_icmp .le 11, 3) := dk_164 0 11 (dk_at dksJ23_numberOfTrailingZeros_1 15 rfl rfl)
theorem dJ23_numberOfTrailingZeros_41 : decode cJ23_numberOfTrailingZeros 41 = .ok (.iinc 1 8, 3) := dk_132 1 8 (dk_at dksJ23_numberOfTrailingZeros_1 18 rfl rfl)
theorem dJ23_numberOfTrailingZeros_44 : decode cJ23_numberOfTrailingZeros 44 = .ok (.iload_n 0, 1) := dk_26 (dk_at dksJ23_numberOfTrailingZeros_1 21 rfl rfl)
theorem dJ23_numberOfTrailingZeros_45 : decode cJ23_numberOfTrailingZeros 45 = .ok (.bipush 8, 2) := dk_16 8 (dk_at dksJ23_numberOfTrailingZeros_1 22 rfl rfl)
theorem dJ23_numberOfTrailingZeros_47 : decode cJ23_numberOfTrailingZeros 47 = .ok (.iushr, 1) := dk_124 (dk_at dksJ23_numberOfTrailingZeros_2 0 rfl rfl)
theorem dJ23_numberOfTrailingZeros_48 : decode cJ23_numberOfTrailingZeros 48 = .ok (.istore_n 0, 1) := dk_59 (dk_at dksJ23_numberOfTrailingZeros_2 1 rfl rfl)
theorem dJ23_numberOfTrailingZeros_49 : decode cJ23_numberOfTrailingZeros 49 = .ok (.iload_n 0, 1) := dk_26 (dk_at dksJ23_numberOfTrailingZeros_2 2 rfl rfl)
theorem dJ23_numberOfTrailingZeros_50 : decode cJ23_numberOfTrailingZeros 50 = .ok (.bipush 16, 2) := dk_16 16 (dk_at dksJ23_numberOfTrailingZeros_2 3 rfl rfl)
theorem dJ23_numberOfTrailingZeros_52 : decode cJ23_numberOfTrailingZeros 52 = .ok (.if_icmp .le 10, 3) := dk_164 0 10 (dk_at dksJ23_numberOfTrailingZeros_2 5 rfl rfl)
theorem dJ23_numberOfTrailingZeros_55 : decode cJ23_numberOfTrailingZeros 55 = .ok (.iinc 1 4, 3) := dk_132 1 4 (dk_at dksJ23_numberOfTrailingZeros_2 8 rfl rfl)
theorem dJ23_numberOfTrailingZeros_58 : decode cJ23_numberOfTrailingZeros 58 = .ok (.iload_n 0, 1) := dk_26 (dk_at dksJ23_numberOfTrailingZeros_2 11 rfl rfl)
theorem dJ23_numberOfTrailingZeros_59 : decode cJ23_numberOfTrailingZeros 59 = .ok (.iconst 4, 1) := dk_7 (dk_at dksJ23_numberOfTrailingZeros_2 12 rfl rfl)
theorem dJ23_numberOfTrailingZeros_60 : decode cJ23_numberOfTrailingZeros 60 = .ok (.iushr, 1) := dk_124 (dk_at dksJ23_numberOfTrailingZeros_2 13 rfl rfl)
theorem dJ23_numberOfTrailingZeros_61 : decode cJ23_numberOfTrailingZeros 61 = .ok (.istore_n 0, 1) := dk_59 (dk_at dksJ23_numberOfTrailingZeros_2 14 rfl rfl)
theorem dJ23_numberOfTrailingZeros_62 : decode cJ23_numberOfTrailingZeros 62 = .ok (.iload_n 0, 1) := dk_26 (dk_at dksJ23_numberOfTrailingZeros_2 15 rfl rfl)
theorem dJ23_numberOfTrailingZeros_63 : decode cJ23_numberOfTrailingZeros 63 = .ok (.iconst 4, 1) := dk_7 (dk_at dksJ23_numberOfTrailingZeros_2 16 rfl rfl)
theorem dJ23_numberOfTrailingZeros_64 : decode cJ23_numberOfTrailingZeros 64 = .ok (.if_icmp .le 10, 3) := dk_164 0 10 (dk_at dksJ23_numberOfTrailingZeros_2 17 rfl rfl)
theorem dJ23_numberOfTrailingZeros_67 : decode cJ23_numberOfTrailingZeros 67 = .ok (.iinc 1 2, 3) := dk_132 1 2 (dk_at dksJ23_numberOfTrailingZeros_2 20 rfl rfl)
theorem dJ23_numberOfTrailingZeros_70 : decode cJ23_numberOfTrailingZeros 70 = .ok (.iload_n 0, 1) := dk_26 (dk_at dksJ23_numberOfTrailingZeros_2 23 rfl rfl)
theorem dJ23_numberOfTrailingZeros_71 : decode cJ23_numberOfTrailingZeros 71 = .ok (.iconst 2, 1) := dk_5 (dk_at dksJ23_numberOfTrailingZeros_3 0 rfl rfl)
theorem dJ23_numberOfTrailingZeros_72 : decode cJ23_numberOfTrailingZeros 72 = .ok (.iushr, 1) := dk_124 (dk_at dksJ23_numberOfTrailingZeros_3 1 rfl rfl)
theorem dJ23_numberOfTrailingZeros_73 : decode cJ23_numberOfTrailingZeros 73 = .ok (.istore_n 0, 1) := dk_59 (dk_at dksJ23_numberOfTrailingZeros_3 2 rfl rfl)
theorem dJ23_numberOfTrailingZeros_74 : decode cJ23_numberOfTrailingZeros 74 = .ok (.iload_n 1, 1) := dk_27 (dk_at dksJ23_numberOfTrailingZeros_3 3 rfl rfl)
theorem dJ23_numberOfTrailingZeros_75 : decode cJ23_numberOfTrailingZeros 75 = .ok (.iload_n 0, 1) := dk_26 (dk_at dksJ23_numberOfTrailingZeros_3 4 rfl rfl)
theorem dJ23_numberOfTrailingZeros_76 : decode cJ23_numberOfTrailingZeros 76 = .ok (.iconst 1, 1) := dk_4 (dk_at dksJ23_numberOfTrailingZeros_3 5 rfl rfl)
theorem dJ23_numberOfTrailingZeros_77 : decode cJ23_numberOfTrailingZeros 77 = .ok (.iushr, 1) := dk_124 (dk_at dksJ23_numberOfTrailingZeros_3 6 rfl rfl)
theorem dJ23_numberOfTrailingZeros_78 : decode cJ23_numberOfTrailingZeros 78 = .ok (.iadd, 1) := dk_96 (dk_at dksJ23_numberOfTrailingZeros_3 7 rfl rfl)
theorem dJ23_numberOfTrailingZeros_79 : decode cJ23_numberOfTrailingZeros 79 = .ok (.ireturn, 1) := dk_172 (dk_at dksJ23_numberOfTrailingZeros_3 8 rfl rfl)
abbrev cJ23_numberOfLeadingZeros : ByteArray := prog_22_method_47_code
def yJ23_numberOfLeadingZeros : MethodName := ⟨RJ23, "numberOfLeadingZeros", "(I)I"⟩
def dkwJ23_numberOfLeadingZeros_3 : List UInt8 := [5, 124, 59, 27, 26, 4, 124, 100, 172]
abbrev dktJ23_numberOfLeadingZeros_3 : List UInt8 := dkwJ23_numberOfLeadingZeros_3 ++ []
def dkwJ23_numberOfLeadingZeros_2 : List UInt8 := [124, 59, 26, 16, 16, 161, 0, 10, 132, 1, 252, 26, 7, 124, 59, 26, 7, 161, 0, 10, 132, 1, 254, 26]
abbrev dktJ23_numberOfLeadingZeros_2 : List UInt8 := dkwJ23_numberOfLeadingZeros_2 ++ dktJ23_numberOfLeadingZeros_3
def dkwJ23_numberOfLeadingZeros_1 : List UInt8 := [161, 0, 11, 132, 1, 240, 26, 16, 16, 124, 59, 26, 17, 1, 0, 161, 0, 11, 132, 1, 248, 26, 16, 8]
abbrev dktJ23_numberOfLeadingZeros_1 : List UInt8 := dkwJ23_numberOfLeadingZeros_1 ++ dktJ23_numberOfLeadingZeros_2
def dkwJ23_numberOfLeadingZeros_0 : List UInt8 := [26, 157, 0, 14, 26, 154, 0, 8, 16, 32, 167, 0, 4, 3, 172, 16, 31, 60, 26, 19, 1, 8]
abbrev dktJ23_numberOfLeadingZeros_0 : List UInt8 := dkwJ23_numberOfLeadingZeros_0 ++ dktJ23_numberOfLeadingZeros_1
theorem dksJ23_numberOfLeadingZeros_0 : cJ23_numberOfLeadingZeros.data.toList.drop 0 = dktJ23_numberOfLeadingZeros_0 := by decide +kernel
theorem dksJ23_numberOfLeadingZeros_1 : cJ23_numberOfLeadingZeros.data.toList.drop 22 = dktJ23_numberOfLeadingZeros_1 := dk_seg dksJ23_numberOfLeadingZeros_0 22 rfl rfl
theorem dksJ23_numberOfLeadingZeros_2 : cJ23_numberOfLeadingZeros.data.toList.drop 46 = dktJ23_numberOfLeadingZeros_2 := dk_seg dksJ23_numberOfLeadingZeros_1 24 rfl rfl
theorem dksJ23_numberOfLeadingZeros_3 : cJ23_numberOfLeadingZeros.data.toList.drop 70 = dktJ23_numberOfLeadingZeros_3 := dk_seg dksJ23_numberOfLeadingZeros_2 24 rfl rfl
theorem dJ23_numberOfLeadingZeros_0 : decode cJ23_numberOfLeadingZeros 0 = .ok (.iload_n 0, 1) := dk_26 (dk_at dksJ23_numberOfLeadingZeros_0 0 rfl rfl)
theorem dJ23_numberOfLeadingZeros_1 : decode cJ23_numberOfLeadingZeros 1 = .ok (.ifCond .gt 14, 3) := dk_157 0 14 (dk_at dksJ23_numberOfLeadingZeros_0 1 rfl rfl)
theorem dJ23_numberOfLeadingZeros_4 : decode cJ23_numberOfLeadingZeros 4 = .ok (.iload_n 0, 1) := dk_26 (dk_at dksJ23_numberOfLeadingZeros_0 4 rfl rfl)
theorem dJ23_numberOfLeadingZeros_5 : decode cJ23_numberOfLeadingZeros 5 = .ok (.ifCond .ne 8, 3) := dk_154 0 8 (dk_at dksJ23_numberOfLeadingZeros_0 5 rfl rfl)
theorem dJ23_numberOfLeadingZeros_8 : decode cJ23_numberOfLeadingZeros 8 = .ok (.bipush 32, 2) := dk_16 32 (dk_at dksJ23_numberOfLeadingZeros_0 8 rfl rfl)
theorem dJ23_numberOfLeadingZeros_10 : decode cJ23_numberOfLeadingZeros 10 = .ok (.goto 4, 3) := dk_167 0 4 (dk_at dksJ23_numberOfLeadingZeros_0 10 rfl rfl)
theorem dJ23_numberOfLeadingZeros_13 : decode cJ23_numberOfLeadingZeros 13 = .ok (.iconst 0, 1) := dk_3 (dk_at dksJ23_numberOfLeadingZeros_0 13 rfl rfl)
theorem dJ23_numberOfLeadingZeros_14 : decode cJ23_numberOfLeadingZeros 14 = .ok (.ireturn, 1) := dk_172 (dk_at dksJ23_numberOfLeadingZeros_0 14 rfl rfl)
theorem dJ23_numberOfLeadingZeros_15 : decode cJ23_numberOfLeadingZeros 15 = .ok (.bipush 31, 2) := dk_16 31 (dk_at dksJ23_numberOfLeadingZeros_0 15 rfl rfl)
theorem dJ23_numberOfLeadingZeros_17 : decode cJ23_numberOfLeadingZeros 17 = .ok (.istore_n 1, 1) := dk_60 (dk_at dksJ23_numberOfLeadingZeros_0 17 rfl rfl)
theorem dJ23_numberOfLeadingZeros_18 : decode cJ23_numberOfLeadingZeros 18 = .ok (.iload_n 0, 1) := dk_26 (dk_at dksJ23_numberOfLeadingZeros_0 18 rfl rfl)
theorem dJ23_numberOfLeadingZeros_19 : decode cJ23_numberOfLeadingZeros 19 = .ok (.ldc_w 264, 3) := dk_19 1 8 (dk_at dksJ23_numberOfLeadingZeros_0 19 rfl rfl)
theorem dJ23_numberOfLeadingZeros_22 : decode cJ23_numberOfLeadingZeros 22 = .ok (.if_icmp .lt 11, 3) := dk_161 0 11 (dk_at dksJ23_numberOfLeadingZeros_1 0 rfl rfl)
theorem dJ23_numberOfLeadingZeros_25 : decode cJ23_numberOfLeadingZeros 25 = .ok (.iinc 1 (-16), 3) := dk_132 1 240 (dk_at dksJ23_numberOfLeadingZeros_1 3 rfl rfl)
theorem dJ23_numberOfLeadingZeros_28 : decode cJ23_numberOfLeadingZeros 28 = .ok (.iload_n 0, 1) := dk_26 (dk_at dksJ23_numberOfLeadingZeros_1 6 rfl rfl)
theorem dJ23_numberOfLeadingZeros_29 : decode cJ23_numberOfLeadingZeros 29 = .ok (.bipush 16, 2) := dk_16 16 (dk_at dksJ23_numberOfLeadingZeros_1 7 rfl rfl)
theorem dJ23_numberOfLeadingZeros_31 : decode cJ23_numberOfLeadingZeros 31 = .ok (.iushr, 1) := dk_124 (dk_at dksJ23_numberOfLeadingZeros_1 9 rfl rfl)
theorem dJ23_numberOfLeadingZeros_32 : decode cJ23_numberOfLeadingZeros 32 = .ok (.istore_n 0, 1) := dk_59 (dk_at dksJ23_numberOfLeadingZeros_1 10 rfl rfl)
theorem dJ23_numberOfLeadingZeros_33 : decode cJ23_numberOfLeadingZeros 33 = .ok (.iload_n 0, 1) := dk_26 (dk_at dksJ23_numberOfLeadingZeros_1 11 rfl rfl)
theorem dJ23_numberOfLeadingZeros_34 : decode cJ23_numberOfLeadingZeros 34 = .ok (.sipush 256, 3) := dk_17 1 0 (dk_at dksJ23_numberOfLeadingZeros_1 12 rfl rfl)
theorem dJ23_numberOfLeadingZeros_37 : decode cJ23_numberOfLeadingZeros 37 = .ok (.if_icmp .lt 11, 3) := dk_161 0 11 (dk_at dksJ23_numberOfLeadingZeros_1 15 rfl rfl)
theorem dJ23_numberOfLeadingZeros_40 : decode cJ23_numberOfLeadingZeros 40 = .ok (.iinc 1 (-8), 3) := dk_132 1 248 (dk_at dksJ23_numberOfLeadingZeros_1 18 rfl rfl)
theorem dJ23_numberOfLeadingZeros_43 : decode cJ23_numberOfLeadingZeros 43 = .ok (.iload_n 0, 1) := dk_26 (dk_at dksJ23_numberOfLeadingZeros_1 21 rfl rfl)
theorem dJ23_numberOfLeadingZeros_44 : decode cJ23_numberOfLeadingZeros 44 = .ok (.bipush 8, 2) := dk_16 8 (dk_at dksJ23_numberOfLeadingZeros_1 22 rfl rfl)
theorem dJ23_numberOfLeadingZeros_46 : decode cJ23_numberOfLeadingZeros 46 = .ok (.iushr, 1) := dk_124 (dk_at dksJ23_numberOfLeadingZeros_2 0 rfl rfl)
theorem dJ23_numberOfLeadingZeros_47 : decode cJ23_numberOfLeadingZeros 47 = .ok (.istore_n 0, 1) := dk_59 (dk_at dksJ23_numberOfLeadingZeros_2 1 rfl rfl)
theorem dJ23_numberOfLeadingZeros_48 : decode cJ23_numberOfLeadingZeros 48 = .ok (.iload_n 0, 1) := dk_26 (dk_at dksJ23_numberOfLeadingZeros_2 2 rfl rfl)
theorem dJ23_numberOfLeadingZeros_49 : decode cJ23_numberOfLeadingZeros 49 = .ok (.bipush 16, 2) := dk_16 16 (dk_at dksJ23_numberOfLeadingZeros_2 3 rfl rfl)
theorem dJ23_numberOfLeadingZeros_51 : decode cJ23_numberOfLeadingZeros 51 = .ok (.if_icmp .lt 10, 3) := dk_161 0 10 (dk_at dksJ23_numberOfLeadingZeros_2 5 rfl rfl)
theorem dJ23_numberOfLeadingZeros_54 : decode cJ23_numberOfLeadingZeros 54 = .ok (.iinc 1 (-4), 3) := dk_132 1 252 (dk_at dksJ23_numberOfLeadingZeros_2 8 rfl rfl)
theorem dJ23_numberOfLeadingZeros_57 : decode cJ23_numberOfLeadingZeros 57 = .ok (.iload_n 0, 1) := dk_26 (dk_at dksJ23_numberOfLeadingZeros_2 11 rfl rfl)
theorem dJ23_numberOfLeadingZeros_58 : decode cJ23_numberOfLeadingZeros 58 = .ok (.iconst 4, 1) := dk_7 (dk_at dksJ23_numberOfLeadingZeros_2 12 rfl rfl)
theorem dJ23_numberOfLeadingZeros_59 : decode cJ23_numberOfLeadingZeros 59 = .ok (.iushr, 1) := dk_124 (dk_at dksJ23_numberOfLeadingZeros_2 13 rfl rfl)
theorem dJ23_numberOfLeadingZeros_60 : decode cJ23_numberOfLeadingZeros 60 = .ok (.istore_n 0, 1) := dk_59 (dk_at dksJ23_numberOfLeadingZeros_2 14 rfl rfl)
theorem dJ23_numberOfLeadingZeros_61 : decode cJ23_numberOfLeadingZeros 61 = .ok (.iload_n 0, 1) := dk_26 (dk_at dksJ23_numberOfLeadingZeros_2 15 rfl rfl)
theorem dJ23_numberOfLeadingZeros_62 : decode cJ23_numberOfLeadingZeros 62 = .ok (.iconst 4, 1) := dk_7 (dk_at dksJ23_numberOfLeadingZeros_2 16 rfl rfl)
theorem dJ23_numberOfLeadingZeros_63 : decode cJ23_numberOfLeadingZeros 63 = .ok (.if_icmp .lt 10, 3) := dk_161 0 10 (dk_at dksJ23_numberOfLeadingZeros_2 17 rfl rfl)
theorem dJ23_numberOfLeadingZeros_66 : decode cJ23_numberOfLeadingZeros 66 = .ok (.iinc 1 (-2), 3) := dk_132 1 254 (dk_at dksJ23_numberOfLeadingZeros_2 20 rfl rfl)
theorem dJ23_numberOfLeadingZeros_69 : decode cJ23_numberOfLeadingZeros 69 = .ok (.iload_n 0, 1) := dk_26 (dk_at dksJ23_numberOfLeadingZeros_2 23 rfl rfl)
theorem dJ23_numberOfLeadingZeros_70 : decode cJ23_numberOfLeadingZeros 70 = .ok (.iconst 2, 1) := dk_5 (dk_at dksJ23_numberOfLeadingZeros_3 0 rfl rfl)
theorem dJ23_numberOfLeadingZeros_71 : decode cJ23_numberOfLeadingZeros 71 = .ok (.iushr, 1) := dk_124 (dk_at dksJ23_numberOfLeadingZeros_3 1 rfl rfl)
theorem dJ23_numberOfLeadingZeros_72 : decode cJ23_numberOfLeadingZeros 72 = .ok (.istore_n 0, 1) := dk_59 (dk_at dksJ23_numberOfLeadingZeros_3 2 rfl rfl)
theorem dJ23_numberOfLeadingZeros_73 : decode cJ23_numberOfLeadingZeros 73 = .ok (.iload_n 1, 1) := dk_27 (dk_at dksJ23_numberOfLeadingZeros_3 3 rfl rfl)
theorem dJ23_numberOfLeadingZeros_74 : decode cJ23_numberOfLeadingZeros 74 = .ok (.iload_n 0, 1) := dk_26 (dk_at dksJ23_numberOfLeadingZeros_3 4 rfl rfl)
theorem dJ23_numberOfLeadingZeros_75 : decode cJ23_numberOfLeadingZeros 75 = .ok (.iconst 1, 1) := dk_4 (dk_at dksJ23_numberOfLeadingZeros_3 5 rfl rfl)
theorem dJ23_numberOfLeadingZeros_76 : decode cJ23_numberOfLeadingZeros 76 = .ok (.iushr, 1) := dk_124 (dk_at dksJ23_numberOfLeadingZeros_3 6 rfl rfl)
theorem dJ23_numberOfLeadingZeros_77 : decode cJ23_numberOfLeadingZeros 77 = .ok (.isub, 1) := dk_100 (dk_at dksJ23_numberOfLeadingZeros_3 7 rfl rfl)
theorem dJ23_numberOfLeadingZeros_78 : decode cJ23_numberOfLeadingZeros 78 = .ok (.ireturn, 1) := dk_172 (dk_at dksJ23_numberOfLeadingZeros_3 8 rfl rfl)
abbrev cJ24_init : ByteArray := prog_19_method_2_code
def yJ24_init : MethodName := ⟨RJ24, "<init>", "(Ljava/lang/String;)V"⟩
def dkwJ24_init_0 : List UInt8 := [42, 43, 183, 0, 7, 177]
abbrev dktJ24_init_0 : List UInt8 := dkwJ24_init_0 ++ []
theorem dksJ24_init_0 : cJ24_init.data.toList.drop 0 = dktJ24_init_0 := by decide +kernel
theorem dJ24_init_0 : decode cJ24_init 0 = .ok (.aload_n 0, 1) := dk_42 (dk_at dksJ24_init_0 0 rfl rfl)
theorem dJ24_init_1 : decode cJ24_init 1 = .ok (.aload_n 1, 1) := dk_43 (dk_at dksJ24_init_0 1 rfl rfl)
theorem dJ24_init_2 : decode cJ24_init 2 = .ok (.invokespecial 7, 3) := dk_183 0 7 (dk_at dksJ24_init_0 2 rfl rfl)
theorem dJ24_init_5 : decode cJ24_init 5 = .ok (.return_, 1) := dk_177 (dk_at dksJ24_init_0 5 rfl rfl)
abbrev cJ24_init_2 : ByteArray := prog_19_method_1_code
def yJ24_init_2 : MethodName := ⟨RJ24, "<init>", "()V"⟩
theorem dJ24_init_2_0 : decode cJ24_init_2 0 = .ok (.aload_n 0, 1) := by decide +kernel
theorem dJ24_init_2_1 : decode cJ24_init_2 1 = .ok (.invokespecial 1, 3) := by decide +kernel
theorem dJ24_init_2_4 : decode cJ24_init_2 4 = .ok (.return_, 1) := by decide +kernel
abbrev cJ25_bitCount : ByteArray := prog_25_method_50_code
def yJ25_bitCount : MethodName := ⟨RJ25, "bitCount", "(J)I"⟩
def dkwJ25_bitCount_2 : List UInt8 := [30, 30, 16, 32, 125, 97, 63, 30, 136, 16, 127, 126, 172]
abbrev dktJ25_bitCount_2 : List UInt8 := dkwJ25_bitCount_2 ++ []
def dkwJ25_bitCount_1 : List UInt8 := [30, 30, 7, 125, 97, 20, 1, 62, 127, 63, 30, 30, 16, 8, 125, 97, 63, 30, 30, 16, 16, 125, 97, 63]
abbrev dktJ25_bitCount_1 : List UInt8 := dkwJ25_bitCount_1 ++ dktJ25_bitCount_2
def dkwJ25_bitCount_0 : List UInt8 := [30, 30, 4, 125, 20, 1, 58, 127, 101, 63, 30, 20, 1, 60, 127, 30, 5, 125, 20, 1, 60, 127, 97, 63]
abbrev dktJ25_bitCount_0 : List UInt8 := dkwJ25_bitCount_0 ++ dktJ25_bitCount_1
theorem dksJ25_bitCount_0 : cJ25_bitCount.data.toList.drop 0 = dktJ25_bitCount_0 := by decide +kernel
theorem dksJ25_bitCount_1 : cJ25_bitCount.data.toList.drop 24 = dktJ25_bitCount_1 := dk_seg dksJ25_bitCount_0 24 rfl rfl
theorem dksJ25_bitCount_2 : cJ25_bitCount.data.toList.drop 48 = dktJ25_bitCount_2 := dk_seg dksJ25_bitCount_1 24 rfl rfl
theorem dJ25_bitCount_0 : decode cJ25_bitCount 0 = .ok (.lload_n 0, 1) := dk_30 (dk_at dksJ25_bitCount_0 0 rfl rfl)
theorem dJ25_bitCount_1 : decode cJ25_bitCount 1 = .ok (.lload_n 0, 1) := dk_30 (dk_at dksJ25_bitCount_0 1 rfl rfl)
theorem dJ25_bitCount_2 : decode cJ25_bitCount 2 = .ok (.iconst 1, 1) := dk_4 (dk_at dksJ25_bitCount_0 2 rfl rfl)
theorem dJ25_bitCount_3 : decode cJ25_bitCount 3 = .ok (.lushr, 1) := dk_125 (dk_at dksJ25_bitCount_0 3 rfl rfl)
theorem dJ25_bitCount_4 : decode cJ25_bitCount 4 = .ok (.ldc2_w 314, 3) := dk_20 1 58 (dk_at dksJ25_bitCount_0 4 rfl rfl)
theorem dJ25_bitCount_7 : decode cJ25_bitCount 7 = .ok (.land, 1) := dk_127 (dk_at dksJ25_bitCount_0 7 rfl rfl)
theorem dJ25_bitCount_8 : decode cJ25_bitCount 8 = .ok (.lsub, 1) := dk_101 (dk_at dksJ25_bitCount_0 8 rfl rfl)
theorem dJ25_bitCount_9 : decode cJ25_bitCount 9 = .ok (.lstore_n 0, 1) := dk_63 (dk_at dksJ25_bitCount_0 9 rfl rfl)
theorem dJ25_bitCount_10 : decode cJ25_bitCount 10 = .ok (.lload_n 0, 1) := dk_30 (dk_at dksJ25_bitCount_0 10 rfl rfl)
theorem dJ25_bitCount_11 : decode cJ25_bitCount 11 = .ok (.ldc2_w 316, 3) := dk_20 1 60 (dk_at dksJ25_bitCount_0 11 rfl rfl)
theorem dJ25_bitCount_14 : decode cJ25_bitCount 14 = .ok (.land, 1) := dk_127 (dk_at dksJ25_bitCount_0 14 rfl rfl)
theorem dJ25_bitCount_15 : decode cJ25_bitCount 15 = .ok (.lload_n 0, 1) := dk_30 (dk_at dksJ25_bitCount_0 15 rfl rfl)
theorem dJ25_bitCount_16 : decode cJ25_bitCount 16 = .ok (.iconst 2, 1) := dk_5 (dk_at dksJ25_bitCount_0 16 rfl rfl)
theorem dJ25_bitCount_17 : decode cJ25_bitCount 17 = .ok (.lushr, 1) := dk_125 (dk_at dksJ25_bitCount_0 17 rfl rfl)
theorem dJ25_bitCount_18 : decode cJ25_bitCount 18 = .ok (.ldc2_w 316, 3) := dk_20 1 60 (dk_at dksJ25_bitCount_0 18 rfl rfl)
theorem dJ25_bitCount_21 : decode cJ25_bitCount 21 = .ok (.land, 1) := dk_127 (dk_at dksJ25_bitCount_0 21 rfl rfl)
theorem dJ25_bitCount_22 : decode cJ25_bitCount 22 = .ok (.ladd, 1) := dk_97 (dk_at dksJ25_bitCount_0 22 rfl rfl)
theorem dJ25_bitCount_23 : decode cJ25_bitCount 23 = .ok (.lstore_n 0, 1) := dk_63 (dk_at dksJ25_bitCount_0 23 rfl rfl)
theorem dJ25_bitCount_24 : decode cJ25_bitCount 24 = .ok (.lload_n 0, 1) := dk_30 (dk_at dksJ25_bitCount_1 0 rfl rfl)
theorem dJ25_bitCount_25 : decode cJ25_bitCount 25 = .ok (.lload_n 0, 1) := dk_30 (dk_at dksJ25_bitCount_1 1 rfl rfl)
theorem dJ25_bitCount_26 : decode cJ25_bitCount 26 = .ok (.iconst 4, 1) := dk_7 (dk_at dksJ25_bitCount_1 2 rfl rfl)
theorem dJ25_bitCount_27 : decode cJ25_bitCount 27 = .ok (.lushr, 1) := dk_125 (dk_at dksJ25_bitCount_1 3 rfl rfl)
theorem dJ25_bitCount_28 : decode cJ25_bitCount 28 = .ok (.ladd, 1) := dk_97 (dk_at dksJ25_bitCount_1 4 rfl rfl)
theorem dJ25_bitCount_29 : decode cJ25_bitCount 29 = .ok (.ldc2_w 318, 3) := dk_20 1 62 (dk_at dksJ25_bitCount_1 5 rfl rfl)
theorem dJ25_bitCount_32 : decode cJ25_bitCount 32 = .ok (.land, 1) := dk_127 (dk_at dksJ25_bitCount_1 8 rfl rfl)
theorem dJ25_bitCount_33 : decode cJ25_bitCount 33 = .ok (.lstore_n 0, 1) := dk_63 (dk_at dksJ25_bitCount_1 9 rfl rfl)
theorem dJ25_bitCount_34 : decode cJ25_bitCount 34 = .ok (.lload_n 0, 1) := dk_30 (dk_at dksJ25_bitCount_1 10 rfl rfl)
theorem dJ25_bitCount_35 : decode cJ25_bitCount 35 = .ok (.lload_n 0, 1) := dk_30 (dk_at dksJ25_bitCount_1 11 rfl rfl)
theorem dJ25_bitCount_36 : decode cJ25_bitCount 36 = .ok (.bipush 8, 2) := dk_16 8 (dk_at dksJ25_bitCount_1 12 rfl rfl)
theorem dJ25_bitCount_38 : decode cJ25_bitCount 38 = .ok (.lushr, 1) := dk_125 (dk_at dksJ25_bitCount_1 14 rfl rfl)
theorem dJ25_bitCount_39 : decode cJ25_bitCount 39 = .ok (.ladd, 1) := dk_97 (dk_at dksJ25_bitCount_1 15 rfl rfl)
theorem dJ25_bitCount_40 : decode cJ25_bitCount 40 = .ok (.lstore_n 0, 1) := dk_63 (dk_at dksJ25_bitCount_1 16 rfl rfl)
theorem dJ25_bitCount_41 : decode cJ25_bitCount 41 = .ok (.lload_n 0, 1) := dk_30 (dk_at dksJ25_bitCount_1 17 rfl rfl)
theorem dJ25_bitCount_42 : decode cJ25_bitCount 42 = .ok (.lload_n 0, 1) := dk_30 (dk_at dksJ25_bitCount_1 18 rfl rfl)
theorem dJ25_bitCount_43 : decode cJ25_bitCount 43 = .ok (.bipush 16, 2) := dk_16 16 (dk_at dksJ25_bitCount_1 19 rfl rfl)
theorem dJ25_bitCount_45 : decode cJ25_bitCount 45 = .ok (.lushr, 1) := dk_125 (dk_at dksJ25_bitCount_1 21 rfl rfl)
theorem dJ25_bitCount_46 : decode cJ25_bitCount 46 = .ok (.ladd, 1) := dk_97 (dk_at dksJ25_bitCount_1 22 rfl rfl)
theorem dJ25_bitCount_47 : decode cJ25_bitCount 47 = .ok (.lstore_n 0, 1) := dk_63 (dk_at dksJ25_bitCount_1 23 rfl rfl)
theorem dJ25_bitCount_48 : decode cJ25_bitCount 48 = .ok (.lload_n 0, 1) := dk_30 (dk_at dksJ25_bitCount_2 0 rfl rfl)
theorem dJ25_bitCount_49 : decode cJ25_bitCount 49 = .ok (.lload_n 0, 1) := dk_30 (dk_at dksJ25_bitCount_2 1 rfl rfl)
theorem dJ25_bitCount_50 : decode cJ25_bitCount 50 = .ok (.bipush 32, 2) := dk_16 32 (dk_at dksJ25_bitCount_2 2 rfl rfl)
theorem dJ25_bitCount_52 : decode cJ25_bitCount 52 = .ok (.lushr, 1) := dk_125 (dk_at dksJ25_bitCount_2 4 rfl rfl)
theorem dJ25_bitCount_53 : decode cJ25_bitCount 53 = .ok (.ladd, 1) := dk_97 (dk_at dksJ25_bitCount_2 5 rfl rfl)
theorem dJ25_bitCount_54 : decode cJ25_bitCount 54 = .ok (.lstore_n 0, 1) := dk_63 (dk_at dksJ25_bitCount_2 6 rfl rfl)
theorem dJ25_bitCount_55 : decode cJ25_bitCount 55 = .ok (.lload_n 0, 1) := dk_30 (dk_at dksJ25_bitCount_2 7 rfl rfl)
theorem dJ25_bitCount_56 : decode cJ25_bitCount 56 = .ok (.l2i, 1) := dk_136 (dk_at dksJ25_bitCount_2 8 rfl rfl)
theorem dJ25_bitCount_57 : decode cJ25_bitCount 57 = .ok (.bipush 127, 2) := dk_16 127 (dk_at dksJ25_bitCount_2 9 rfl rfl)
theorem dJ25_bitCount_59 : decode cJ25_bitCount 59 = .ok (.iand, 1) := dk_126 (dk_at dksJ25_bitCount_2 11 rfl rfl)
theorem dJ25_bitCount_60 : decode cJ25_bitCount 60 = .ok (.ireturn, 1) := dk_172 (dk_at dksJ25_bitCount_2 12 rfl rfl)
abbrev cJ25_numberOfTrailingZeros : ByteArray := prog_25_method_49_code
def yJ25_numberOfTrailingZeros : MethodName := ⟨RJ25, "numberOfTrailingZeros", "(J)I"⟩
def dkwJ25_numberOfTrailingZeros_1 : List UInt8 := [184, 1, 55, 172]
abbrev dktJ25_numberOfTrailingZeros_1 : List UInt8 := dkwJ25_numberOfTrailingZeros_1 ++ []
def dkwJ25_numberOfTrailingZeros_0 : List UInt8 := [30, 136, 61, 28, 154, 0, 17, 16, 32, 30, 16, 32, 125, 136, 184, 1, 55, 96, 167, 0, 7, 28]
abbrev dktJ25_numberOfTrailingZeros_0 : List UInt8 := dkwJ25_numberOfTrailingZeros_0 ++ dktJ25_numberOfTrailingZeros_1
theorem dksJ25_numberOfTrailingZeros_0 : cJ25_numberOfTrailingZeros.data.toList.drop 0 = dktJ25_numberOfTrailingZeros_0 := by decide +kernel
theorem dksJ25_numberOfTrailingZeros_1 : cJ25_numberOfTrailingZeros.data.toList.drop 22 = dktJ25_numberOfTrailingZeros_1 := dk_seg dksJ25_numberOfTrailingZeros_0 22 rfl rfl
theorem dJ25_numberOfTrailingZeros_0 : decode cJ25_numberOfTrailingZeros 0 = .ok (.lload_n 0, 1) := dk_30 (dk_at dksJ25_numberOfTrailingZeros_0 0 rfl rfl)
theorem dJ25_numberOfTrailingZeros_1 : decode cJ25_numberOfTrailingZeros 1 = .ok (.l2i, 1) := dk_136 (dk_at dksJ25_numberOfTrailingZeros_0 1 rfl rfl)
theorem dJ25_numberOfTrailingZeros_2 : decode cJ25_numberOfTrailingZeros 2 = .ok (.istore_n 2, 1) := dk_61 (dk_at dksJ25_numberOfTrailingZeros_0 2 rfl rfl)
theorem dJ25_numberOfTrailingZeros_3 : decode cJ25_numberOfTrailingZeros 3 = .ok (.iload_n 2, 1) := dk_28 (dk_at dksJ25_numberOfTrailingZeros_0 3 rfl rfl)
theorem dJ25_numberOfTrailingZeros_4 : decode cJ25_numberOfTrailingZeros 4 = .ok (.ifCond .ne 17, 3) := dk_154 0 17 (dk_at dksJ25_numberOfTrailingZeros_0 4 rfl rfl)
theorem dJ25_numberOfTrailingZeros_7 : decode cJ25_numberOfTrailingZeros 7 = .ok (.bipush 32, 2) := dk_16 32 (dk_at dksJ25_numberOfTrailingZeros_0 7 rfl rfl)
theorem dJ25_numberOfTrailingZeros_9 : decode cJ25_numberOfTrailingZeros 9 = .ok (.lload_n 0, 1) := dk_30 (dk_at dksJ25_numberOfTrailingZeros_0 9 rfl rfl)
theorem dJ25_numberOfTrailingZeros_10 : decode cJ25_numberOfTrailingZeros 10 = .ok (.bipush 32, 2) := dk_16 32 (dk_at dksJ25_numberOfTrailingZeros_0 10 rfl rfl)
theorem dJ25_numberOfTrailingZeros_12 : decode cJ25_numberOfTrailingZeros 12 = .ok (.lushr, 1) := dk_125 (dk_at dksJ25_numberOfTrailingZeros_0 12 rfl rfl)
theorem dJ25_numberOfTrailingZeros_13 : decode cJ25_numberOfTrailingZeros 13 = .ok (.l2i, 1) := dk_136 (dk_at dksJ25_numberOfTrailingZeros_0 13 rfl rfl)
theorem dJ25_numberOfTrailingZeros_14 : decode cJ25_numberOfTrailingZeros 14 = .ok (.invokestatic 311, 3) := dk_184 1 55 (dk_at dksJ25_numberOfTrailingZeros_0 14 rfl rfl)
theorem dJ25_numberOfTrailingZeros_17 : decode cJ25_numberOfTrailingZeros 17 = .ok (.iadd, 1) := dk_96 (dk_at dksJ25_numberOfTrailingZeros_0 17 rfl rfl)
theorem dJ25_numberOfTrailingZeros_18 : decode cJ25_numberOfTrailingZeros 18 = .ok (.goto 7, 3) := dk_167 0 7 (dk_at dksJ25_numberOfTrailingZeros_0 18 rfl rfl)
theorem dJ25_numberOfTrailingZeros_21 : decode cJ25_numberOfTrailingZeros 21 = .ok (.iload_n 2, 1) := dk_28 (dk_at dksJ25_numberOfTrailingZeros_0 21 rfl rfl)
theorem dJ25_numberOfTrailingZeros_22 : decode cJ25_numberOfTrailingZeros 22 = .ok (.invokestatic 311, 3) := dk_184 1 55 (dk_at dksJ25_numberOfTrailingZeros_1 0 rfl rfl)
theorem dJ25_numberOfTrailingZeros_25 : decode cJ25_numberOfTrailingZeros 25 = .ok (.ireturn, 1) := dk_172 (dk_at dksJ25_numberOfTrailingZeros_1 3 rfl rfl)
abbrev cJ25_numberOfLeadingZeros : ByteArray := prog_25_method_48_code
def yJ25_numberOfLeadingZeros : MethodName := ⟨RJ25, "numberOfLeadingZeros", "(J)I"⟩
def dkwJ25_numberOfLeadingZeros_1 : List UInt8 := [184, 1, 52, 172]
abbrev dktJ25_numberOfLeadingZeros_1 : List UInt8 := dkwJ25_numberOfLeadingZeros_1 ++ []
def dkwJ25_numberOfLeadingZeros_0 : List UInt8 := [30, 16, 32, 125, 136, 61, 28, 154, 0, 14, 16, 32, 30, 136, 184, 1, 52, 96, 167, 0, 7, 28]
abbrev dktJ25_numberOfLeadingZeros_0 : List UInt8 := dkwJ25_numberOfLeadingZeros_0 ++ dktJ25_numberOfLeadingZeros_1
theorem dksJ25_numberOfLeadingZeros_0 : cJ25_numberOfLeadingZeros.data.toList.drop 0 = dktJ25_numberOfLeadingZeros_0 := by decide +kernel
theorem dksJ25_numberOfLeadingZeros_1 : cJ25_numberOfLeadingZeros.data.toList.drop 22 = dktJ25_numberOfLeadingZeros_1 := dk_seg dksJ25_numberOfLeadingZeros_0 22 rfl rfl
theorem dJ25_numberOfLeadingZeros_0 : decode cJ25_numberOfLeadingZeros 0 = .ok (.lload_n 0, 1) := dk_30 (dk_at dksJ25_numberOfLeadingZeros_0 0 rfl rfl)
theorem dJ25_numberOfLeadingZeros_1 : decode cJ25_numberOfLeadingZeros 1 = .ok (.bipush 32, 2) := dk_16 32 (dk_at dksJ25_numberOfLeadingZeros_0 1 rfl rfl)
theorem dJ25_numberOfLeadingZeros_3 : decode cJ25_numberOfLeadingZeros 3 = .ok (.lushr, 1) := dk_125 (dk_at dksJ25_numberOfLeadingZeros_0 3 rfl rfl)
theorem dJ25_numberOfLeadingZeros_4 : decode cJ25_numberOfLeadingZeros 4 = .ok (.l2i, 1) := dk_136 (dk_at dksJ25_numberOfLeadingZeros_0 4 rfl rfl)
theorem dJ25_numberOfLeadingZeros_5 : decode cJ25_numberOfLeadingZeros 5 = .ok (.istore_n 2, 1) := dk_61 (dk_at dksJ25_numberOfLeadingZeros_0 5 rfl rfl)
theorem dJ25_numberOfLeadingZeros_6 : decode cJ25_numberOfLeadingZeros 6 = .ok (.iload_n 2, 1) := dk_28 (dk_at dksJ25_numberOfLeadingZeros_0 6 rfl rfl)
theorem dJ25_numberOfLeadingZeros_7 : decode cJ25_numberOfLeadingZeros 7 = .ok (.ifCond .ne 14, 3) := dk_154 0 14 (dk_at dksJ25_numberOfLeadingZeros_0 7 rfl rfl)
theorem dJ25_numberOfLeadingZeros_10 : decode cJ25_numberOfLeadingZeros 10 = .ok (.bipush 32, 2) := dk_16 32 (dk_at dksJ25_numberOfLeadingZeros_0 10 rfl rfl)
theorem dJ25_numberOfLeadingZeros_12 : decode cJ25_numberOfLeadingZeros 12 = .ok (.lload_n 0, 1) := dk_30 (dk_at dksJ25_numberOfLeadingZeros_0 12 rfl rfl)
theorem dJ25_numberOfLeadingZeros_13 : decode cJ25_numberOfLeadingZeros 13 = .ok (.l2i, 1) := dk_136 (dk_at dksJ25_numberOfLeadingZeros_0 13 rfl rfl)
theorem dJ25_numberOfLeadingZeros_14 : decode cJ25_numberOfLeadingZeros 14 = .ok (.invokestatic 308, 3) := dk_184 1 52 (dk_at dksJ25_numberOfLeadingZeros_0 14 rfl rfl)
theorem dJ25_numberOfLeadingZeros_17 : decode cJ25_numberOfLeadingZeros 17 = .ok (.iadd, 1) := dk_96 (dk_at dksJ25_numberOfLeadingZeros_0 17 rfl rfl)
theorem dJ25_numberOfLeadingZeros_18 : decode cJ25_numberOfLeadingZeros 18 = .ok (.goto 7, 3) := dk_167 0 7 (dk_at dksJ25_numberOfLeadingZeros_0 18 rfl rfl)
theorem dJ25_numberOfLeadingZeros_21 : decode cJ25_numberOfLeadingZeros 21 = .ok (.iload_n 2, 1) := dk_28 (dk_at dksJ25_numberOfLeadingZeros_0 21 rfl rfl)
theorem dJ25_numberOfLeadingZeros_22 : decode cJ25_numberOfLeadingZeros 22 = .ok (.invokestatic 308, 3) := dk_184 1 52 (dk_at dksJ25_numberOfLeadingZeros_1 0 rfl rfl)
theorem dJ25_numberOfLeadingZeros_25 : decode cJ25_numberOfLeadingZeros 25 = .ok (.ireturn, 1) := dk_172 (dk_at dksJ25_numberOfLeadingZeros_1 3 rfl rfl)
abbrev cJ26_init : ByteArray := prog_47_method_1_code
def yJ26_init : MethodName := ⟨RJ26, "<init>", "(Ljava/util/ArrayList;)V"⟩
def dkwJ26_init_1 : List UInt8 := [181, 0, 22, 177]
abbrev dktJ26_init_1 : List UInt8 := dkwJ26_init_1 ++ []
def dkwJ26_init_0 : List UInt8 := [42, 43, 181, 0, 1, 42, 183, 0, 7, 42, 2, 181, 0, 13, 42, 42, 180, 0, 1, 180, 0, 17]
abbrev dktJ26_init_0 : List UInt8 := dkwJ26_init_0 ++ dktJ26_init_1
theorem dksJ26_init_0 : cJ26_init.data.toList.drop 0 = dktJ26_init_0 := by decide +kernel
theorem dksJ26_init_1 : cJ26_init.data.toList.drop 22 = dktJ26_init_1 := dk_seg dksJ26_init_0 22 rfl rfl
theorem dJ26_init_0 : decode cJ26_init 0 = .ok (.aload_n 0, 1) := dk_42 (dk_at dksJ26_init_0 0 rfl rfl)
theorem dJ26_init_1 : decode cJ26_init 1 = .ok (.aload_n 1, 1) := dk_43 (dk_at dksJ26_init_0 1 rfl rfl)
theorem dJ26_init_2 : decode cJ26_init 2 = .ok (.putfield 1, 3) := dk_181 0 1 (dk_at dksJ26_init_0 2 rfl rfl)
theorem dJ26_init_5 : decode cJ26_init 5 = .ok (.aload_n 0, 1) := dk_42 (dk_at dksJ26_init_0 5 rfl rfl)
theorem dJ26_init_6 : decode cJ26_init 6 = .ok (.invokespecial 7, 3) := dk_183 0 7 (dk_at dksJ26_init_0 6 rfl rfl)
theorem dJ26_init_9 : decode cJ26_init 9 = .ok (.aload_n 0, 1) := dk_42 (dk_at dksJ26_init_0 9 rfl rfl)
theorem dJ26_init_10 : decode cJ26_init 10 = .ok (.iconst (-1), 1) := dk_2 (dk_at dksJ26_init_0 10 rfl rfl)
theorem dJ26_init_11 : decode cJ26_init 11 = .ok (.putfield 13, 3) := dk_181 0 13 (dk_at dksJ26_init_0 11 rfl rfl)
theorem dJ26_init_14 : decode cJ26_init 14 = .ok (.aload_n 0, 1) := dk_42 (dk_at dksJ26_init_0 14 rfl rfl)
theorem dJ26_init_15 : decode cJ26_init 15 = .ok (.aload_n 0, 1) := dk_42 (dk_at dksJ26_init_0 15 rfl rfl)
theorem dJ26_init_16 : decode cJ26_init 16 = .ok (.getfield 1, 3) := dk_180 0 1 (dk_at dksJ26_init_0 16 rfl rfl)
theorem dJ26_init_19 : decode cJ26_init 19 = .ok (.getfield 17, 3) := dk_180 0 17 (dk_at dksJ26_init_0 19 rfl rfl)
theorem dJ26_init_22 : decode cJ26_init 22 = .ok (.putfield 22, 3) := dk_181 0 22 (dk_at dksJ26_init_1 0 rfl rfl)
theorem dJ26_init_25 : decode cJ26_init 25 = .ok (.return_, 1) := dk_177 (dk_at dksJ26_init_1 3 rfl rfl)
abbrev cJ26_hasNext : ByteArray := prog_47_method_2_code
def yJ26_hasNext : MethodName := ⟨RJ26, "hasNext", "()Z"⟩
def dkwJ26_hasNext_0 : List UInt8 := [42, 180, 0, 25, 42, 180, 0, 1, 180, 0, 28, 159, 0, 7, 4, 167, 0, 4, 3, 172]
abbrev dktJ26_hasNext_0 : List UInt8 := dkwJ26_hasNext_0 ++ []
theorem dksJ26_hasNext_0 : cJ26_hasNext.data.toList.drop 0 = dktJ26_hasNext_0 := by decide +kernel
theorem dJ26_hasNext_0 : decode cJ26_hasNext 0 = .ok (.aload_n 0, 1) := dk_42 (dk_at dksJ26_hasNext_0 0 rfl rfl)
theorem dJ26_hasNext_1 : decode cJ26_hasNext 1 = .ok (.getfield 25, 3) := dk_180 0 25 (dk_at dksJ26_hasNext_0 1 rfl rfl)
theorem dJ26_hasNext_4 : decode cJ26_hasNext 4 = .ok (.aload_n 0, 1) := dk_42 (dk_at dksJ26_hasNext_0 4 rfl rfl)
theorem dJ26_hasNext_5 : decode cJ26_hasNext 5 = .ok (.getfield 1, 3) := dk_180 0 1 (dk_at dksJ26_hasNext_0 5 rfl rfl)
theorem dJ26_hasNext_8 : decode cJ26_hasNext 8 = .ok (.getfield 28, 3) := dk_180 0 28 (dk_at dksJ26_hasNext_0 8 rfl rfl)
theorem dJ26_hasNext_11 : decode cJ26_hasNext 11 = .ok (.if_icmp .eq 7, 3) := dk_159 0 7 (dk_at dksJ26_hasNext_0 11 rfl rfl)
theorem dJ26_hasNext_14 : decode cJ26_hasNext 14 = .ok (.iconst 1, 1) := dk_4 (dk_at dksJ26_hasNext_0 14 rfl rfl)
theorem dJ26_hasNext_15 : decode cJ26_hasNext 15 = .ok (.goto 4, 3) := dk_167 0 4 (dk_at dksJ26_hasNext_0 15 rfl rfl)
theorem dJ26_hasNext_18 : decode cJ26_hasNext 18 = .ok (.iconst 0, 1) := dk_3 (dk_at dksJ26_hasNext_0 18 rfl rfl)
theorem dJ26_hasNext_19 : decode cJ26_hasNext 19 = .ok (.ireturn, 1) := dk_172 (dk_at dksJ26_hasNext_0 19 rfl rfl)
abbrev cJ26_next : ByteArray := prog_47_method_3_code
def yJ26_next : MethodName := ⟨RJ26, "next", "()Ljava/lang/Object;"⟩
def dkwJ26_next_2 : List UInt8 := [183, 0, 43, 191, 42, 27, 4, 96, 181, 0, 25, 44, 42, 27, 90, 181, 0, 13, 50, 176]
abbrev dktJ26_next_2 : List UInt8 := dkwJ26_next_2 ++ []
def dkwJ26_next_1 : List UInt8 := [183, 0, 36, 191, 42, 180, 0, 1, 180, 0, 37, 77, 27, 44, 190, 161, 0, 11, 187, 0, 41, 89]
abbrev dktJ26_next_1 : List UInt8 := dkwJ26_next_1 ++ dktJ26_next_2
def dkwJ26_next_0 : List UInt8 := [42, 182, 0, 31, 42, 180, 0, 25, 60, 27, 42, 180, 0, 1, 180, 0, 28, 161, 0, 11, 187, 0, 34, 89]
abbrev dktJ26_next_0 : List UInt8 := dkwJ26_next_0 ++ dktJ26_next_1
theorem dksJ26_next_0 : cJ26_next.data.toList.drop 0 = dktJ26_next_0 := by decide +kernel
theorem dksJ26_next_1 : cJ26_next.data.toList.drop 24 = dktJ26_next_1 := dk_seg dksJ26_next_0 24 rfl rfl
theorem dksJ26_next_2 : cJ26_next.data.toList.drop 46 = dktJ26_next_2 := dk_seg dksJ26_next_1 22 rfl rfl
theorem dJ26_next_0 : decode cJ26_next 0 = .ok (.aload_n 0, 1) := dk_42 (dk_at dksJ26_next_0 0 rfl rfl)
theorem dJ26_next_1 : decode cJ26_next 1 = .ok (.invokevirtual 31, 3) := dk_182 0 31 (dk_at dksJ26_next_0 1 rfl rfl)
theorem dJ26_next_4 : decode cJ26_next 4 = .ok (.aload_n 0, 1) := dk_42 (dk_at dksJ26_next_0 4 rfl rfl)
theorem dJ26_next_5 : decode cJ26_next 5 = .ok (.getfield 25, 3) := dk_180 0 25 (dk_at dksJ26_next_0 5 rfl rfl)
theorem dJ26_next_8 : decode cJ26_next 8 = .ok (.istore_n 1, 1) := dk_60 (dk_at dksJ26_next_0 8 rfl rfl)
theorem dJ26_next_9 : decode cJ26_next 9 = .ok (.iload_n 1, 1) := dk_27 (dk_at dksJ26_next_0 9 rfl rfl)
theorem dJ26_next_10 : decode cJ26_next 10 = .ok (.aload_n 0, 1) := dk_42 (dk_at dksJ26_next_0 10 rfl rfl)
theorem dJ26_next_11 : decode cJ26_next 11 = .ok (.getfield 1, 3) := dk_180 0 1 (dk_at dksJ26_next_0 11 rfl rfl)
theorem dJ26_next_14 : decode cJ26_next 14 = .ok (.getfield 28, 3) := dk_180 0 28 (dk_at dksJ26_next_0 14 rfl rfl)
theorem dJ26_next_17 : decode cJ26_next 17 = .ok (.if_icmp .lt 11, 3) := dk_161 0 11 (dk_at dksJ26_next_0 17 rfl rfl)
theorem dJ26_next_20 : decode cJ26_next 20 = .ok (.new 34, 3) := dk_187 0 34 (dk_at dksJ26_next_0 20 rfl rfl)
theorem dJ26_next_23 : decode cJ26_next 23 = .ok (.dup, 1) := dk_89 (dk_at dksJ26_next_0 23 rfl rfl)
theorem dJ26_next_24 : decode cJ26_next 24 = .ok (.invokespecial 36, 3) := dk_183 0 36 (dk_at dksJ26_next_1 0 rfl rfl)
theorem dJ26_next_27 : decode cJ26_next 27 = .ok (.athrow, 1) := dk_191 (dk_at dksJ26_next_1 3 rfl rfl)
theorem dJ26_next_28 : decode cJ26_next 28 = .ok (.aload_n 0, 1) := dk_42 (dk_at dksJ26_next_1 4 rfl rfl)
theorem dJ26_next_29 : decode cJ26_next 29 = .ok (.getfield 1, 3) := dk_180 0 1 (dk_at dksJ26_next_1 5 rfl rfl)
theorem dJ26_next_32 : decode cJ26_next 32 = .ok (.getfield 37, 3) := dk_180 0 37 (dk_at dksJ26_next_1 8 rfl rfl)
theorem dJ26_next_35 : decode cJ26_next 35 = .ok (.astore_n 2, 1) := dk_77 (dk_at dksJ26_next_1 11 rfl rfl)
theorem dJ26_next_36 : decode cJ26_next 36 = .ok (.iload_n 1, 1) := dk_27 (dk_at dksJ26_next_1 12 rfl rfl)
theorem dJ26_next_37 : decode cJ26_next 37 = .ok (.aload_n 2, 1) := dk_44 (dk_at dksJ26_next_1 13 rfl rfl)
theorem dJ26_next_38 : decode cJ26_next 38 = .ok (.arraylength, 1) := dk_190 (dk_at dksJ26_next_1 14 rfl rfl)
theorem dJ26_next_39 : decode cJ26_next 39 = .ok (.if_icmp .lt 11, 3) := dk_161 0 11 (dk_at dksJ26_next_1 15 rfl rfl)
theorem dJ26_next_42 : decode cJ26_next 42 = .ok (.new 41, 3) := dk_187 0 41 (dk_at dksJ26_next_1 18 rfl rfl)
theorem dJ26_next_45 : decode cJ26_next 45 = .ok (.dup, 1) := dk_89 (dk_at dksJ26_next_1 21 rfl rfl)
theorem dJ26_next_46 : decode cJ26_next 46 = .ok (.invokespecial 43, 3) := dk_183 0 43 (dk_at dksJ26_next_2 0 rfl rfl)
theorem dJ26_next_49 : decode cJ26_next 49 = .ok (.athrow, 1) := dk_191 (dk_at dksJ26_next_2 3 rfl rfl)
theorem dJ26_next_50 : decode cJ26_next 50 = .ok (.aload_n 0, 1) := dk_42 (dk_at dksJ26_next_2 4 rfl rfl)
theorem dJ26_next_51 : decode cJ26_next 51 = .ok (.iload_n 1, 1) := dk_27 (dk_at dksJ26_next_2 5 rfl rfl)
theorem dJ26_next_52 : decode cJ26_next 52 = .ok (.iconst 1, 1) := dk_4 (dk_at dksJ26_next_2 6 rfl rfl)
theorem dJ26_next_53 : decode cJ26_next 53 = .ok (.iadd, 1) := dk_96 (dk_at dksJ26_next_2 7 rfl rfl)
theorem dJ26_next_54 : decode cJ26_next 54 = .ok (.putfield 25, 3) := dk_181 0 25 (dk_at dksJ26_next_2 8 rfl rfl)
theorem dJ26_next_57 : decode cJ26_next 57 = .ok (.aload_n 2, 1) := dk_44 (dk_at dksJ26_next_2 11 rfl rfl)
theorem dJ26_next_58 : decode cJ26_next 58 = .ok (.aload_n 0, 1) := dk_42 (dk_at dksJ26_next_2 12 rfl rfl)
theorem dJ26_next_59 : decode cJ26_next 59 = .ok (.iload_n 1, 1) := dk_27 (dk_at dksJ26_next_2 13 rfl rfl)
theorem dJ26_next_60 : decode cJ26_next 60 = .ok (.dup_x1, 1) := dk_90 (dk_at dksJ26_next_2 14 rfl rfl)
theorem dJ26_next_61 : decode cJ26_next 61 = .ok (.putfield 13, 3) := dk_181 0 13 (dk_at dksJ26_next_2 15 rfl rfl)
theorem dJ26_next_64 : decode cJ26_next 64 = .ok (.aaload, 1) := dk_50 (dk_at dksJ26_next_2 18 rfl rfl)
theorem dJ26_next_65 : decode cJ26_next 65 = .ok (.areturn, 1) := dk_176 (dk_at dksJ26_next_2 19 rfl rfl)
abbrev cJ26_checkForComodification : ByteArray := prog_47_method_6_code
def yJ26_checkForComodification : MethodName := ⟨RJ26, "checkForComodification", "()V"⟩
def dkwJ26_checkForComodification_0 : List UInt8 := [42, 180, 0, 1, 180, 0, 17, 42, 180, 0, 22, 159, 0, 11, 187, 0, 41, 89, 183, 0, 43, 191, 177]
abbrev dktJ26_checkForComodification_0 : List UInt8 := dkwJ26_checkForComodification_0 ++ []
theorem dksJ26_checkForComodification_0 : cJ26_checkForComodification.data.toList.drop 0 = dktJ26_checkForComodification_0 := by decide +kernel
theorem dJ26_checkForComodification_0 : decode cJ26_checkForComodification 0 = .ok (.aload_n 0, 1) := dk_42 (dk_at dksJ26_checkForComodification_0 0 rfl rfl)
theorem dJ26_checkForComodification_1 : decode cJ26_checkForComodification 1 = .ok (.getfield 1, 3) := dk_180 0 1 (dk_at dksJ26_checkForComodification_0 1 rfl rfl)
theorem dJ26_checkForComodification_4 : decode cJ26_checkForComodification 4 = .ok (.getfield 17, 3) := dk_180 0 17 (dk_at dksJ26_checkForComodification_0 4 rfl rfl)
theorem dJ26_checkForComodification_7 : decode cJ26_checkForComodification 7 = .ok (.aload_n 0, 1) := dk_42 (dk_at dksJ26_checkForComodification_0 7 rfl rfl)
theorem dJ26_checkForComodification_8 : decode cJ26_checkForComodification 8 = .ok (.getfield 22, 3) := dk_180 0 22 (dk_at dksJ26_checkForComodification_0 8 rfl rfl)
theorem dJ26_checkForComodification_11 : decode cJ26_checkForComodification 11 = .ok (.if_icmp .eq 11, 3) := dk_159 0 11 (dk_at dksJ26_checkForComodification_0 11 rfl rfl)
theorem dJ26_checkForComodification_14 : decode cJ26_checkForComodification 14 = .ok (.new 41, 3) := dk_187 0 41 (dk_at dksJ26_checkForComodification_0 14 rfl rfl)
theorem dJ26_checkForComodification_17 : decode cJ26_checkForComodification 17 = .ok (.dup, 1) := dk_89 (dk_at dksJ26_checkForComodification_0 17 rfl rfl)
theorem dJ26_checkForComodification_18 : decode cJ26_checkForComodification 18 = .ok (.invokespecial 43, 3) := dk_183 0 43 (dk_at dksJ26_checkForComodification_0 18 rfl rfl)
theorem dJ26_checkForComodification_21 : decode cJ26_checkForComodification 21 = .ok (.athrow, 1) := dk_191 (dk_at dksJ26_checkForComodification_0 21 rfl rfl)
theorem dJ26_checkForComodification_22 : decode cJ26_checkForComodification 22 = .ok (.return_, 1) := dk_177 (dk_at dksJ26_checkForComodification_0 22 rfl rfl)
abbrev cJ26_remove : ByteArray := prog_47_method_4_code
def yJ26_remove : MethodName := ⟨RJ26, "remove", "()V"⟩
def dkwJ26_remove_2 : List UInt8 := [180, 0, 1, 180, 0, 17, 181, 0, 22, 167, 0, 12, 76, 187, 0, 41, 89, 183, 0, 43, 191, 177]
abbrev dktJ26_remove_2 : List UInt8 := dkwJ26_remove_2 ++ []
def dkwJ26_remove_1 : List UInt8 := [180, 0, 13, 182, 0, 47, 87, 42, 42, 180, 0, 13, 181, 0, 25, 42, 2, 181, 0, 13, 42, 42]
abbrev dktJ26_remove_1 : List UInt8 := dkwJ26_remove_1 ++ dktJ26_remove_2
def dkwJ26_remove_0 : List UInt8 := [42, 180, 0, 13, 156, 0, 11, 187, 0, 44, 89, 183, 0, 46, 191, 42, 182, 0, 31, 42, 180, 0, 1, 42]
abbrev dktJ26_remove_0 : List UInt8 := dkwJ26_remove_0 ++ dktJ26_remove_1
theorem dksJ26_remove_0 : cJ26_remove.data.toList.drop 0 = dktJ26_remove_0 := by decide +kernel
theorem dksJ26_remove_1 : cJ26_remove.data.toList.drop 24 = dktJ26_remove_1 := dk_seg dksJ26_remove_0 24 rfl rfl
theorem dksJ26_remove_2 : cJ26_remove.data.toList.drop 46 = dktJ26_remove_2 := dk_seg dksJ26_remove_1 22 rfl rfl
theorem dJ26_remove_0 : decode cJ26_remove 0 = .ok (.aload_n 0, 1) := dk_42 (dk_at dksJ26_remove_0 0 rfl rfl)
theorem dJ26_remove_1 : decode cJ26_remove 1 = .ok (.getfield 13, 3) := dk_180 0 13 (dk_at dksJ26_remove_0 1 rfl rfl)
theorem dJ26_remove_4 : decode cJ26_remove 4 = .ok (.ifCond .ge 11, 3) := dk_156 0 11 (dk_at dksJ26_remove_0 4 rfl rfl)
theorem dJ26_remove_7 : decode cJ26_remove 7 = .ok (.new 44, 3) := dk_187 0 44 (dk_at dksJ26_remove_0 7 rfl rfl)
theorem dJ26_remove_10 : decode cJ26_remove 10 = .ok (.dup, 1) := dk_89 (dk_at dksJ26_remove_0 10 rfl rfl)
theorem dJ26_remove_11 : decode cJ26_remove 11 = .ok (.invokespecial 46, 3) := dk_183 0 46 (dk_at dksJ26_remove_0 11 rfl rfl)
theorem dJ26_remove_14 : decode cJ26_remove 14 = .ok (.athrow, 1) := dk_191 (dk_at dksJ26_remove_0 14 rfl rfl)
theorem dJ26_remove_15 : decode cJ26_remove 15 = .ok (.aload_n 0, 1) := dk_42 (dk_at dksJ26_remove_0 15 rfl rfl)
theorem dJ26_remove_16 : decode cJ26_remove 16 = .ok (.invokevirtual 31, 3) := dk_182 0 31 (dk_at dksJ26_remove_0 16 rfl rfl)
theorem dJ26_remove_19 : decode cJ26_remove 19 = .ok (.aload_n 0, 1) := dk_42 (dk_at dksJ26_remove_0 19 rfl rfl)
theorem dJ26_remove_20 : decode cJ26_remove 20 = .ok (.getfield 1, 3) := dk_180 0 1 (dk_at dksJ26_remove_0 20 rfl rfl)
theorem dJ26_remove_23 : decode cJ26_remove 23 = .ok (.aload_n 0, 1) := dk_42 (dk_at dksJ26_remove_0 23 rfl rfl)
theorem dJ26_remove_24 : decode cJ26_remove 24 = .ok (.getfield 13, 3) := dk_180 0 13 (dk_at dksJ26_remove_1 0 rfl rfl)
theorem dJ26_remove_27 : decode cJ26_remove 27 = .ok (.invokevirtual 47, 3) := dk_182 0 47 (dk_at dksJ26_remove_1 3 rfl rfl)
theorem dJ26_remove_30 : decode cJ26_remove 30 = .ok (.pop, 1) := dk_87 (dk_at dksJ26_remove_1 6 rfl rfl)
theorem dJ26_remove_31 : decode cJ26_remove 31 = .ok (.aload_n 0, 1) := dk_42 (dk_at dksJ26_remove_1 7 rfl rfl)
theorem dJ26_remove_32 : decode cJ26_remove 32 = .ok (.aload_n 0, 1) := dk_42 (dk_at dksJ26_remove_1 8 rfl rfl)
theorem dJ26_remove_33 : decode cJ26_remove 33 = .ok (.getfield 13, 3) := dk_180 0 13 (dk_at dksJ26_remove_1 9 rfl rfl)
theorem dJ26_remove_36 : decode cJ26_remove 36 = .ok (.putfield 25, 3) := dk_181 0 25 (dk_at dksJ26_remove_1 12 rfl rfl)
theorem dJ26_remove_39 : decode cJ26_remove 39 = .ok (.aload_n 0, 1) := dk_42 (dk_at dksJ26_remove_1 15 rfl rfl)
theorem dJ26_remove_40 : decode cJ26_remove 40 = .ok (.iconst (-1), 1) := dk_2 (dk_at dksJ26_remove_1 16 rfl rfl)
theorem dJ26_remove_41 : decode cJ26_remove 41 = .ok (.putfield 13, 3) := dk_181 0 13 (dk_at dksJ26_remove_1 17 rfl rfl)
theorem dJ26_remove_44 : decode cJ26_remove 44 = .ok (.aload_n 0, 1) := dk_42 (dk_at dksJ26_remove_1 20 rfl rfl)
theorem dJ26_remove_45 : decode cJ26_remove 45 = .ok (.aload_n 0, 1) := dk_42 (dk_at dksJ26_remove_1 21 rfl rfl)
theorem dJ26_remove_46 : decode cJ26_remove 46 = .ok (.getfield 1, 3) := dk_180 0 1 (dk_at dksJ26_remove_2 0 rfl rfl)
theorem dJ26_remove_49 : decode cJ26_remove 49 = .ok (.getfield 17, 3) := dk_180 0 17 (dk_at dksJ26_remove_2 3 rfl rfl)
theorem dJ26_remove_52 : decode cJ26_remove 52 = .ok (.putfield 22, 3) := dk_181 0 22 (dk_at dksJ26_remove_2 6 rfl rfl)
theorem dJ26_remove_55 : decode cJ26_remove 55 = .ok (.goto 12, 3) := dk_167 0 12 (dk_at dksJ26_remove_2 9 rfl rfl)
theorem dJ26_remove_58 : decode cJ26_remove 58 = .ok (.astore_n 1, 1) := dk_76 (dk_at dksJ26_remove_2 12 rfl rfl)
theorem dJ26_remove_59 : decode cJ26_remove 59 = .ok (.new 41, 3) := dk_187 0 41 (dk_at dksJ26_remove_2 13 rfl rfl)
theorem dJ26_remove_62 : decode cJ26_remove 62 = .ok (.dup, 1) := dk_89 (dk_at dksJ26_remove_2 16 rfl rfl)
theorem dJ26_remove_63 : decode cJ26_remove 63 = .ok (.invokespecial 43, 3) := dk_183 0 43 (dk_at dksJ26_remove_2 17 rfl rfl)
theorem dJ26_remove_66 : decode cJ26_remove 66 = .ok (.athrow, 1) := dk_191 (dk_at dksJ26_remove_2 20 rfl rfl)
theorem dJ26_remove_67 : decode cJ26_remove 67 = .ok (.return_, 1) := dk_177 (dk_at dksJ26_remove_2 21 rfl rfl)
abbrev cJ27_init : ByteArray := prog_66_method_3_code
def yJ27_init : MethodName := ⟨RJ27, "<init>", "(Ljava/lang/Throwable;)V"⟩
def dkwJ27_init_0 : List UInt8 := [42, 43, 183, 0, 10, 177]
abbrev dktJ27_init_0 : List UInt8 := dkwJ27_init_0 ++ []
theorem dksJ27_init_0 : cJ27_init.data.toList.drop 0 = dktJ27_init_0 := by decide +kernel
theorem dJ27_init_0 : decode cJ27_init 0 = .ok (.aload_n 0, 1) := dk_42 (dk_at dksJ27_init_0 0 rfl rfl)
theorem dJ27_init_1 : decode cJ27_init 1 = .ok (.aload_n 1, 1) := dk_43 (dk_at dksJ27_init_0 1 rfl rfl)
theorem dJ27_init_2 : decode cJ27_init 2 = .ok (.invokespecial 10, 3) := dk_183 0 10 (dk_at dksJ27_init_0 2 rfl rfl)
theorem dJ27_init_5 : decode cJ27_init 5 = .ok (.return_, 1) := dk_177 (dk_at dksJ27_init_0 5 rfl rfl)
abbrev cJ27_init_2 : ByteArray := prog_66_method_1_code
def yJ27_init_2 : MethodName := ⟨RJ27, "<init>", "()V"⟩
theorem dJ27_init_2_0 : decode cJ27_init_2 0 = .ok (.aload_n 0, 1) := by decide +kernel
theorem dJ27_init_2_1 : decode cJ27_init_2 1 = .ok (.invokespecial 1, 3) := by decide +kernel
theorem dJ27_init_2_4 : decode cJ27_init_2 4 = .ok (.return_, 1) := by decide +kernel
abbrev cJ28_listFromTrustedArray : ByteArray := prog_54_method_5_code
def yJ28_listFromTrustedArray : MethodName := ⟨RJ28, "listFromTrustedArray", "([Ljava/lang/Object;)Ljava/util/List;"⟩
def dkwJ28_listFromTrustedArray_5 : List UInt8 := [3, 50, 42, 4, 50, 183, 0, 67, 167, 0, 12, 187, 0, 12, 89, 42, 3, 183, 0, 43, 176]
abbrev dktJ28_listFromTrustedArray_5 : List UInt8 := dkwJ28_listFromTrustedArray_5 ++ []
def dkwJ28_listFromTrustedArray_4 : List UInt8 := [178, 0, 60, 167, 0, 41, 187, 0, 10, 89, 42, 3, 50, 183, 0, 64, 167, 0, 28, 187, 0, 10, 89, 42]
abbrev dktJ28_listFromTrustedArray_4 : List UInt8 := dkwJ28_listFromTrustedArray_4 ++ dktJ28_listFromTrustedArray_5
def dkwJ28_listFromTrustedArray_3 : List UInt8 := [170, 0, 0, 0, 0, 61, 0, 0, 0, 0, 0, 0, 0, 2, 0, 0, 0, 26, 0, 0, 0, 32, 0, 0, 0, 45]
abbrev dktJ28_listFromTrustedArray_3 : List UInt8 := dkwJ28_listFromTrustedArray_3 ++ dktJ28_listFromTrustedArray_4
def dkwJ28_listFromTrustedArray_2 : List UInt8 := [132, 3, 1, 167, 255, 237, 42, 190]
abbrev dktJ28_listFromTrustedArray_2 : List UInt8 := dkwJ28_listFromTrustedArray_2 ++ dktJ28_listFromTrustedArray_3
def dkwJ28_listFromTrustedArray_1 : List UInt8 := [76, 43, 190, 61, 3, 62, 29, 28, 162, 0, 20, 43, 29, 50, 58, 4, 25, 4, 184, 0, 37, 87]
abbrev dktJ28_listFromTrustedArray_1 : List UInt8 := dkwJ28_listFromTrustedArray_1 ++ dktJ28_listFromTrustedArray_2
def dkwJ28_listFromTrustedArray_0 : List UInt8 := [178, 0, 46, 154, 0, 20, 42, 182, 0, 51, 18, 55, 165, 0, 11, 187, 0, 57, 89, 183, 0, 59, 191, 42]
abbrev dktJ28_listFromTrustedArray_0 : List UInt8 := dkwJ28_listFromTrustedArray_0 ++ dktJ28_listFromTrustedArray_1
theorem dksJ28_listFromTrustedArray_0 : cJ28_listFromTrustedArray.data.toList.drop 0 = dktJ28_listFromTrustedArray_0 := by decide +kernel
theorem dksJ28_listFromTrustedArray_1 : cJ28_listFromTrustedArray.data.toList.drop 24 = dktJ28_listFromTrustedArray_1 := dk_seg dksJ28_listFromTrustedArray_0 24 rfl rfl
theorem dksJ28_listFromTrustedArray_2 : cJ28_listFromTrustedArray.data.toList.drop 46 = dktJ28_listFromTrustedArray_2 := dk_seg dksJ28_listFromTrustedArray_1 22 rfl rfl
theorem dksJ28_listFromTrustedArray_3 : cJ28_listFromTrustedArray.data.toList.drop 54 = dktJ28_listFromTrustedArray_3 := dk_seg dksJ28_listFromTrustedArray_2 8 rfl rfl
theorem dksJ28_listFromTrustedArray_4 : cJ28_listFromTrustedArray.data.toList.drop 80 = dktJ28_listFromTrustedArray_4 := dk_seg dksJ28_listFromTrustedArray_3 26 rfl rfl
theorem dksJ28_listFromTrustedArray_5 : cJ28_listFromTrustedArray.data.toList.drop 104 = dktJ28_listFromTrustedArray_5 := dk_seg dksJ28_listFromTrustedArray_4 24 rfl rfl
theorem dJ28_listFromTrustedArray_0 : decode cJ28_listFromTrustedArray 0 = .ok (.getstatic 46, 3) := dk_178 0 46 (dk_at dksJ28_listFromTrustedArray_0 0 rfl rfl)
theorem dJ28_listFromTrustedArray_3 : decode cJ28_listFromTrustedArray 3 = .ok (.ifCond .ne 20, 3) := dk_154 0 20 (dk_at dksJ28_listFromTrustedArray_0 3 rfl rfl)
theorem dJ28_listFromTrustedArray_6 : decode cJ28_listFromTrustedArray 6 = .ok (.aload_n 0, 1) := dk_42 (dk_at dksJ28_listFromTrustedArray_0 6 rfl rfl)
theorem dJ28_listFromTrustedArray_7 : decode cJ28_listFromTrustedArray 7 = .ok (.invokevirtual 51, 3) := dk_182 0 51 (dk_at dksJ28_listFromTrustedArray_0 7 rfl rfl)
theorem dJ28_listFromTrustedArray_10 : decode cJ28_listFromTrustedArray 10 = .ok (.ldc 55, 2) := dk_18 55 (dk_at dksJ28_listFromTrustedArray_0 10 rfl rfl)
theorem dJ28_listFromTrustedArray_12 : decode cJ28_listFromTrustedArray 12 = .ok (.if_acmp .eq 11, 3) := dk_165 0 11 (dk_at dksJ28_listFromTrustedArray_0 12 rfl rfl)
theorem dJ28_listFromTrustedArray_15 : decode cJ28_listFromTrustedArray 15 = .ok (.new 57, 3) := dk_187 0 57 (dk_at dksJ28_listFromTrustedArray_0 15 rfl rfl)
theorem dJ28_listFromTrustedArray_18 : decode cJ28_listFromTrustedArray 18 = .ok (.dup, 1) := dk_89 (dk_at dksJ28_listFromTrustedArray_0 18 rfl rfl)
theorem dJ28_listFromTrustedArray_19 : decode cJ28_listFromTrustedArray 19 = .ok (.invokespecial 59, 3) := dk_183 0 59 (dk_at dksJ28_listFromTrustedArray_0 19 rfl rfl)
theorem dJ28_listFromTrustedArray_22 : decode cJ28_listFromTrustedArray 22 = .ok (.athrow, 1) := dk_191 (dk_at dksJ28_listFromTrustedArray_0 22 rfl rfl)
theorem dJ28_listFromTrustedArray_23 : decode cJ28_listFromTrustedArray 23 = .ok (.aload_n 0, 1) := dk_42 (dk_at dksJ28_listFromTrustedArray_0 23 rfl rfl)
theorem dJ28_listFromTrustedArray_24 : decode cJ28_listFromTrustedArray 24 = .ok (.astore_n 1, 1) := dk_76 (dk_at dksJ28_listFromTrustedArray_1 0 rfl rfl)
theorem dJ28_listFromTrustedArray_25 : decode cJ28_listFromTrustedArray 25 = .ok (.aload_n 1, 1) := dk_43 (dk_at dksJ28_listFromTrustedArray_1 1 rfl rfl)
theorem dJ28_listFromTrustedArray_26 : decode cJ28_listFromTrustedArray 26 = .ok (.arraylength, 1) := dk_190 (dk_at dksJ28_listFromTrustedArray_1 2 rfl rfl)
theorem dJ28_listFromTrustedArray_27 : decode cJ28_listFromTrustedArray 27 = .ok (.istore_n 2, 1) := dk_61 (dk_at dksJ28_listFromTrustedArray_1 3 rfl rfl)
theorem dJ28_listFromTrustedArray_28 : decode cJ28_listFromTrustedArray 28 = .ok (.iconst 0, 1) := dk_3 (dk_at dksJ28_listFromTrustedArray_1 4 rfl rfl)
theorem dJ28_listFromTrustedArray_29 : decode cJ28_listFromTrustedArray 29 = .ok (.istore_n 3, 1) := dk_62 (dk_at dksJ28_listFromTrustedArray_1 5 rfl rfl)
theorem dJ28_listFromTrustedArray_30 : decode cJ28_listFromTrustedArray 30 = .ok (.iload_n 3, 1) := dk_29 (dk_at dksJ28_listFromTrustedArray_1 6 rfl rfl)
theorem dJ28_listFromTrustedArray_31 : decode cJ28_listFromTrustedArray 31 = .ok (.iload_n 2, 1) := dk_28 (dk_at dksJ28_listFromTrustedArray_1 7 rfl rfl)
theorem dJ28_listFromTrustedArray_32 : decode cJ28_listFromTrustedArray 32 = .ok (.if_icmp .ge 20, 3) := dk_162 0 20 (dk_at dksJ28_listFromTrustedArray_1 8 rfl rfl)
theorem dJ28_listFromTrustedArray_35 : decode cJ28_listFromTrustedArray 35 = .ok (.aload_n 1, 1) := dk_43 (dk_at dksJ28_listFromTrustedArray_1 11 rfl rfl)
theorem dJ28_listFromTrustedArray_36 : decode cJ28_listFromTrustedArray 36 = .ok (.iload_n 3, 1) := dk_29 (dk_at dksJ28_listFromTrustedArray_1 12 rfl rfl)
theorem dJ28_listFromTrustedArray_37 : decode cJ28_listFromTrustedArray 37 = .ok (.aaload, 1) := dk_50 (dk_at dksJ28_listFromTrustedArray_1 13 rfl rfl)
theorem dJ28_listFromTrustedArray_38 : decode cJ28_listFromTrustedArray 38 = .ok (.astore 4, 2) := dk_58 4 (dk_at dksJ28_listFromTrustedArray_1 14 rfl rfl)
theorem dJ28_listFromTrustedArray_40 : decode cJ28_listFromTrustedArray 40 = .ok (.aload 4, 2) := dk_25 4 (dk_at dksJ28_listFromTrustedArray_1 16 rfl rfl)
theorem dJ28_listFromTrustedArray_42 : decode cJ28_listFromTrustedArray 42 = .ok (.invokestatic 37, 3) := dk_184 0 37 (dk_at dksJ28_listFromTrustedArray_1 18 rfl rfl)
theorem dJ28_listFromTrustedArray_45 : decode cJ28_listFromTrustedArray 45 = .ok (.pop, 1) := dk_87 (dk_at dksJ28_listFromTrustedArray_1 21 rfl rfl)
theorem dJ28_listFromTrustedArray_46 : decode cJ28_listFromTrustedArray 46 = .ok (.iinc 3 1, 3) := dk_132 3 1 (dk_at dksJ28_listFromTrustedArray_2 0 rfl rfl)
theorem dJ28_listFromTrustedArray_49 : decode cJ28_listFromTrustedArray 49 = .ok (.goto (-19), 3) := dk_167 255 237 (dk_at dksJ28_listFromTrustedArray_2 3 rfl rfl)
theorem dJ28_listFromTrustedArray_52 : decode cJ28_listFromTrustedArray 52 = .ok (.aload_n 0, 1) := dk_42 (dk_at dksJ28_listFromTrustedArray_2 6 rfl rfl)
theorem dJ28_listFromTrustedArray_53 : decode cJ28_listFromTrustedArray 53 = .ok (.arraylength, 1) := dk_190 (dk_at dksJ28_listFromTrustedArray_2 7 rfl rfl)
theorem dJ28_listFromTrustedArray_54 : decode cJ28_listFromTrustedArray 54 = .ok (.tableswitch 61 0 2 #[26, 32, 45], 26) := by decide +kernel
theorem dJ28_listFromTrustedArray_80 : decode cJ28_listFromTrustedArray 80 = .ok (.getstatic 60, 3) := dk_178 0 60 (dk_at dksJ28_listFromTrustedArray_4 0 rfl rfl)
theorem dJ28_listFromTrustedArray_83 : decode cJ28_listFromTrustedArray 83 = .ok (.goto 41, 3) := dk_167 0 41 (dk_at dksJ28_listFromTrustedArray_4 3 rfl rfl)
theorem dJ28_listFromTrustedArray_86 : decode cJ28_listFromTrustedArray 86 = .ok (.new 10, 3) := dk_187 0 10 (dk_at dksJ28_listFromTrustedArray_4 6 rfl rfl)
theorem dJ28_listFromTrustedArray_89 : decode cJ28_listFromTrustedArray 89 = .ok (.dup, 1) := dk_89 (dk_at dksJ28_listFromTrustedArray_4 9 rfl rfl)
theorem dJ28_listFromTrustedArray_90 : decode cJ28_listFromTrustedArray 90 = .ok (.aload_n 0, 1) := dk_42 (dk_at dksJ28_listFromTrustedArray_4 10 rfl rfl)
theorem dJ28_listFromTrustedArray_91 : decode cJ28_listFromTrustedArray 91 = .ok (.iconst 0, 1) := dk_3 (dk_at dksJ28_listFromTrustedArray_4 11 rfl rfl)
theorem dJ28_listFromTrustedArray_92 : decode cJ28_listFromTrustedArray 92 = .ok (.aaload, 1) := dk_50 (dk_at dksJ28_listFromTrustedArray_4 12 rfl rfl)
theorem dJ28_listFromTrustedArray_93 : decode cJ28_listFromTrustedArray 93 = .ok (.invokespecial 64, 3) := dk_183 0 64 (dk_at dksJ28_listFromTrustedArray_4 13 rfl rfl)
theorem dJ28_listFromTrustedArray_96 : decode cJ28_listFromTrustedArray 96 = .ok (.goto 28, 3) := dk_167 0 28 (dk_at dksJ28_listFromTrustedArray_4 16 rfl rfl)
theorem dJ28_listFromTrustedArray_99 : decode cJ28_listFromTrustedArray 99 = .ok (.new 10, 3) := dk_187 0 10 (dk_at dksJ28_listFromTrustedArray_4 19 rfl rfl)
theorem dJ28_listFromTrustedArray_102 : decode cJ28_listFromTrustedArray 102 = .ok (.dup, 1) := dk_89 (dk_at dksJ28_listFromTrustedArray_4 22 rfl rfl)
theorem dJ28_listFromTrustedArray_103 : decode cJ28_listFromTrustedArray 103 = .ok (.aload_n 0, 1) := dk_42 (dk_at dksJ28_listFromTrustedArray_4 23 rfl rfl)
theorem dJ28_listFromTrustedArray_104 : decode cJ28_listFromTrustedArray 104 = .ok (.iconst 0, 1) := dk_3 (dk_at dksJ28_listFromTrustedArray_5 0 rfl rfl)
theorem dJ28_listFromTrustedArray_105 : decode cJ28_listFromTrustedArray 105 = .ok (.aaload, 1) := dk_50 (dk_at dksJ28_listFromTrustedArray_5 1 rfl rfl)
theorem dJ28_listFromTrustedArray_106 : decode cJ28_listFromTrustedArray 106 = .ok (.aload_n 0, 1) := dk_42 (dk_at dksJ28_listFromTrustedArray_5 2 rfl rfl)
theorem dJ28_listFromTrustedArray_107 : decode cJ28_listFromTrustedArray 107 = .ok (.iconst 1, 1) := dk_4 (dk_at dksJ28_listFromTrustedArray_5 3 rfl rfl)
theorem dJ28_listFromTrustedArray_108 : decode cJ28_listFromTrustedArray 108 = .ok (.aaload, 1) := dk_50 (dk_at dksJ28_listFromTrustedArray_5 4 rfl rfl)
theorem dJ28_listFromTrustedArray_109 : decode cJ28_listFromTrustedArray 109 = .ok (.invokespecial 67, 3) := dk_183 0 67 (dk_at dksJ28_listFromTrustedArray_5 5 rfl rfl)
theorem dJ28_listFromTrustedArray_112 : decode cJ28_listFromTrustedArray 112 = .ok (.goto 12, 3) := dk_167 0 12 (dk_at dksJ28_listFromTrustedArray_5 8 rfl rfl)
theorem dJ28_listFromTrustedArray_115 : decode cJ28_listFromTrustedArray 115 = .ok (.new 12, 3) := dk_187 0 12 (dk_at dksJ28_listFromTrustedArray_5 11 rfl rfl)
theorem dJ28_listFromTrustedArray_118 : decode cJ28_listFromTrustedArray 118 = .ok (.dup, 1) := dk_89 (dk_at dksJ28_listFromTrustedArray_5 14 rfl rfl)
theorem dJ28_listFromTrustedArray_119 : decode cJ28_listFromTrustedArray 119 = .ok (.aload_n 0, 1) := dk_42 (dk_at dksJ28_listFromTrustedArray_5 15 rfl rfl)
theorem dJ28_listFromTrustedArray_120 : decode cJ28_listFromTrustedArray 120 = .ok (.iconst 0, 1) := dk_3 (dk_at dksJ28_listFromTrustedArray_5 16 rfl rfl)
theorem dJ28_listFromTrustedArray_121 : decode cJ28_listFromTrustedArray 121 = .ok (.invokespecial 43, 3) := dk_183 0 43 (dk_at dksJ28_listFromTrustedArray_5 17 rfl rfl)
theorem dJ28_listFromTrustedArray_124 : decode cJ28_listFromTrustedArray 124 = .ok (.areturn, 1) := dk_176 (dk_at dksJ28_listFromTrustedArray_5 20 rfl rfl)
abbrev cJ28_uoe : ByteArray := prog_54_method_2_code
def yJ28_uoe : MethodName := ⟨RJ28, "uoe", "()Ljava/lang/UnsupportedOperationException;"⟩
def dkwJ28_uoe_0 : List UInt8 := [187, 0, 7, 89, 183, 0, 9, 176]
abbrev dktJ28_uoe_0 : List UInt8 := dkwJ28_uoe_0 ++ []
theorem dksJ28_uoe_0 : cJ28_uoe.data.toList.drop 0 = dktJ28_uoe_0 := by decide +kernel
theorem dJ28_uoe_0 : decode cJ28_uoe 0 = .ok (.new 7, 3) := dk_187 0 7 (dk_at dksJ28_uoe_0 0 rfl rfl)
theorem dJ28_uoe_3 : decode cJ28_uoe 3 = .ok (.dup, 1) := dk_89 (dk_at dksJ28_uoe_0 3 rfl rfl)
theorem dJ28_uoe_4 : decode cJ28_uoe 4 = .ok (.invokespecial 9, 3) := dk_183 0 9 (dk_at dksJ28_uoe_0 4 rfl rfl)
theorem dJ28_uoe_7 : decode cJ28_uoe 7 = .ok (.areturn, 1) := dk_176 (dk_at dksJ28_uoe_0 7 rfl rfl)
abbrev cJ29_hasNext : ByteArray := prog_42_method_2_code
def yJ29_hasNext : MethodName := ⟨RJ29, "hasNext", "()Z"⟩
def dkwJ29_hasNext_0 : List UInt8 := [42, 180, 0, 13, 42, 180, 0, 1, 182, 0, 28, 159, 0, 7, 4, 167, 0, 4, 3, 172]
abbrev dktJ29_hasNext_0 : List UInt8 := dkwJ29_hasNext_0 ++ []
theorem dksJ29_hasNext_0 : cJ29_hasNext.data.toList.drop 0 = dktJ29_hasNext_0 := by decide +kernel
theorem dJ29_hasNext_0 : decode cJ29_hasNext 0 = .ok (.aload_n 0, 1) := dk_42 (dk_at dksJ29_hasNext_0 0 rfl rfl)
theorem dJ29_hasNext_1 : decode cJ29_hasNext 1 = .ok (.getfield 13, 3) := dk_180 0 13 (dk_at dksJ29_hasNext_0 1 rfl rfl)
theorem dJ29_hasNext_4 : decode cJ29_hasNext 4 = .ok (.aload_n 0, 1) := dk_42 (dk_at dksJ29_hasNext_0 4 rfl rfl)
theorem dJ29_hasNext_5 : decode cJ29_hasNext 5 = .ok (.getfield 1, 3) := dk_180 0 1 (dk_at dksJ29_hasNext_0 5 rfl rfl)
theorem dJ29_hasNext_8 : decode cJ29_hasNext 8 = .ok (.invokevirtual 28, 3) := dk_182 0 28 (dk_at dksJ29_hasNext_0 8 rfl rfl)
theorem dJ29_hasNext_11 : decode cJ29_hasNext 11 = .ok (.if_icmp .eq 7, 3) := dk_159 0 7 (dk_at dksJ29_hasNext_0 11 rfl rfl)
theorem dJ29_hasNext_14 : decode cJ29_hasNext 14 = .ok (.iconst 1, 1) := dk_4 (dk_at dksJ29_hasNext_0 14 rfl rfl)
theorem dJ29_hasNext_15 : decode cJ29_hasNext 15 = .ok (.goto 4, 3) := dk_167 0 4 (dk_at dksJ29_hasNext_0 15 rfl rfl)
theorem dJ29_hasNext_18 : decode cJ29_hasNext 18 = .ok (.iconst 0, 1) := dk_3 (dk_at dksJ29_hasNext_0 18 rfl rfl)
theorem dJ29_hasNext_19 : decode cJ29_hasNext 19 = .ok (.ireturn, 1) := dk_172 (dk_at dksJ29_hasNext_0 19 rfl rfl)
abbrev cJ29_next : ByteArray := prog_42_method_3_code
def yJ29_next : MethodName := ⟨RJ29, "next", "()Ljava/lang/Object;"⟩
def dkwJ29_next_1 : List UInt8 := [27, 4, 96, 181, 0, 13, 44, 176, 76, 42, 182, 0, 32, 187, 0, 41, 89, 43, 183, 0, 43, 191]
abbrev dktJ29_next_1 : List UInt8 := dkwJ29_next_1 ++ []
def dkwJ29_next_0 : List UInt8 := [42, 182, 0, 32, 42, 180, 0, 13, 60, 42, 180, 0, 1, 27, 182, 0, 35, 77, 42, 27, 181, 0, 17, 42]
abbrev dktJ29_next_0 : List UInt8 := dkwJ29_next_0 ++ dktJ29_next_1
theorem dksJ29_next_0 : cJ29_next.data.toList.drop 0 = dktJ29_next_0 := by decide +kernel
theorem dksJ29_next_1 : cJ29_next.data.toList.drop 24 = dktJ29_next_1 := dk_seg dksJ29_next_0 24 rfl rfl
theorem dJ29_next_0 : decode cJ29_next 0 = .ok (.aload_n 0, 1) := dk_42 (dk_at dksJ29_next_0 0 rfl rfl)
theorem dJ29_next_1 : decode cJ29_next 1 = .ok (.invokevirtual 32, 3) := dk_182 0 32 (dk_at dksJ29_next_0 1 rfl rfl)
theorem dJ29_next_4 : decode cJ29_next 4 = .ok (.aload_n 0, 1) := dk_42 (dk_at dksJ29_next_0 4 rfl rfl)
theorem dJ29_next_5 : decode cJ29_next 5 = .ok (.getfield 13, 3) := dk_180 0 13 (dk_at dksJ29_next_0 5 rfl rfl)
theorem dJ29_next_8 : decode cJ29_next 8 = .ok (.istore_n 1, 1) := dk_60 (dk_at dksJ29_next_0 8 rfl rfl)
theorem dJ29_next_9 : decode cJ29_next 9 = .ok (.aload_n 0, 1) := dk_42 (dk_at dksJ29_next_0 9 rfl rfl)
theorem dJ29_next_10 : decode cJ29_next 10 = .ok (.getfield 1, 3) := dk_180 0 1 (dk_at dksJ29_next_0 10 rfl rfl)
theorem dJ29_next_13 : decode cJ29_next 13 = .ok (.iload_n 1, 1) := dk_27 (dk_at dksJ29_next_0 13 rfl rfl)
theorem dJ29_next_14 : decode cJ29_next 14 = .ok (.invokevirtual 35, 3) := dk_182 0 35 (dk_at dksJ29_next_0 14 rfl rfl)
theorem dJ29_next_17 : decode cJ29_next 17 = .ok (.astore_n 2, 1) := dk_77 (dk_at dksJ29_next_0 17 rfl rfl)
theorem dJ29_next_18 : decode cJ29_next 18 = .ok (.aload_n 0, 1) := dk_42 (dk_at dksJ29_next_0 18 rfl rfl)
theorem dJ29_next_19 : decode cJ29_next 19 = .ok (.iload_n 1, 1) := dk_27 (dk_at dksJ29_next_0 19 rfl rfl)
theorem dJ29_next_20 : decode cJ29_next 20 = .ok (.putfield 17, 3) := dk_181 0 17 (dk_at dksJ29_next_0 20 rfl rfl)
theorem dJ29_next_23 : decode cJ29_next 23 = .ok (.aload_n 0, 1) := dk_42 (dk_at dksJ29_next_0 23 rfl rfl)
theorem dJ29_next_24 : decode cJ29_next 24 = .ok (.iload_n 1, 1) := dk_27 (dk_at dksJ29_next_1 0 rfl rfl)
theorem dJ29_next_25 : decode cJ29_next 25 = .ok (.iconst 1, 1) := dk_4 (dk_at dksJ29_next_1 1 rfl rfl)
theorem dJ29_next_26 : decode cJ29_next 26 = .ok (.iadd, 1) := dk_96 (dk_at dksJ29_next_1 2 rfl rfl)
theorem dJ29_next_27 : decode cJ29_next 27 = .ok (.putfield 13, 3) := dk_181 0 13 (dk_at dksJ29_next_1 3 rfl rfl)
theorem dJ29_next_30 : decode cJ29_next 30 = .ok (.aload_n 2, 1) := dk_44 (dk_at dksJ29_next_1 6 rfl rfl)
theorem dJ29_next_31 : decode cJ29_next 31 = .ok (.areturn, 1) := dk_176 (dk_at dksJ29_next_1 7 rfl rfl)
theorem dJ29_next_32 : decode cJ29_next 32 = .ok (.astore_n 1, 1) := dk_76 (dk_at dksJ29_next_1 8 rfl rfl)
theorem dJ29_next_33 : decode cJ29_next 33 = .ok (.aload_n 0, 1) := dk_42 (dk_at dksJ29_next_1 9 rfl rfl)
theorem dJ29_next_34 : decode cJ29_next 34 = .ok (.invokevirtual 32, 3) := dk_182 0 32 (dk_at dksJ29_next_1 10 rfl rfl)
theorem dJ29_next_37 : decode cJ29_next 37 = .ok (.new 41, 3) := dk_187 0 41 (dk_at dksJ29_next_1 13 rfl rfl)
theorem dJ29_next_40 : decode cJ29_next 40 = .ok (.dup, 1) := dk_89 (dk_at dksJ29_next_1 16 rfl rfl)
theorem dJ29_next_41 : decode cJ29_next 41 = .ok (.aload_n 1, 1) := dk_43 (dk_at dksJ29_next_1 17 rfl rfl)
theorem dJ29_next_42 : decode cJ29_next 42 = .ok (.invokespecial 43, 3) := dk_183 0 43 (dk_at dksJ29_next_1 18 rfl rfl)
theorem dJ29_next_45 : decode cJ29_next 45 = .ok (.athrow, 1) := dk_191 (dk_at dksJ29_next_1 21 rfl rfl)
abbrev cJ29_checkForComodification : ByteArray := prog_42_method_5_code
def yJ29_checkForComodification : MethodName := ⟨RJ29, "checkForComodification", "()V"⟩
def dkwJ29_checkForComodification_0 : List UInt8 := [42, 180, 0, 1, 180, 0, 20, 42, 180, 0, 25, 159, 0, 11, 187, 0, 52, 89, 183, 0, 54, 191, 177]
abbrev dktJ29_checkForComodification_0 : List UInt8 := dkwJ29_checkForComodification_0 ++ []
theorem dksJ29_checkForComodification_0 : cJ29_checkForComodification.data.toList.drop 0 = dktJ29_checkForComodification_0 := by decide +kernel
theorem dJ29_checkForComodification_0 : decode cJ29_checkForComodification 0 = .ok (.aload_n 0, 1) := dk_42 (dk_at dksJ29_checkForComodification_0 0 rfl rfl)
theorem dJ29_checkForComodification_1 : decode cJ29_checkForComodification 1 = .ok (.getfield 1, 3) := dk_180 0 1 (dk_at dksJ29_checkForComodification_0 1 rfl rfl)
theorem dJ29_checkForComodification_4 : decode cJ29_checkForComodification 4 = .ok (.getfield 20, 3) := dk_180 0 20 (dk_at dksJ29_checkForComodification_0 4 rfl rfl)
theorem dJ29_checkForComodification_7 : decode cJ29_checkForComodification 7 = .ok (.aload_n 0, 1) := dk_42 (dk_at dksJ29_checkForComodification_0 7 rfl rfl)
theorem dJ29_checkForComodification_8 : decode cJ29_checkForComodification 8 = .ok (.getfield 25, 3) := dk_180 0 25 (dk_at dksJ29_checkForComodification_0 8 rfl rfl)
theorem dJ29_checkForComodification_11 : decode cJ29_checkForComodification 11 = .ok (.if_icmp .eq 11, 3) := dk_159 0 11 (dk_at dksJ29_checkForComodification_0 11 rfl rfl)
theorem dJ29_checkForComodification_14 : decode cJ29_checkForComodification 14 = .ok (.new 52, 3) := dk_187 0 52 (dk_at dksJ29_checkForComodification_0 14 rfl rfl)
theorem dJ29_checkForComodification_17 : decode cJ29_checkForComodification 17 = .ok (.dup, 1) := dk_89 (dk_at dksJ29_checkForComodification_0 17 rfl rfl)
theorem dJ29_checkForComodification_18 : decode cJ29_checkForComodification 18 = .ok (.invokespecial 54, 3) := dk_183 0 54 (dk_at dksJ29_checkForComodification_0 18 rfl rfl)
theorem dJ29_checkForComodification_21 : decode cJ29_checkForComodification 21 = .ok (.athrow, 1) := dk_191 (dk_at dksJ29_checkForComodification_0 21 rfl rfl)
theorem dJ29_checkForComodification_22 : decode cJ29_checkForComodification 22 = .ok (.return_, 1) := dk_177 (dk_at dksJ29_checkForComodification_0 22 rfl rfl)
abbrev cJ29_remove : ByteArray := prog_42_method_4_code
def yJ29_remove : MethodName := ⟨RJ29, "remove", "()V"⟩
def dkwJ29_remove_3 : List UInt8 := [187, 0, 52, 89, 183, 0, 54, 191, 177]
abbrev dktJ29_remove_3 : List UInt8 := dkwJ29_remove_3 ++ []
def dkwJ29_remove_2 : List UInt8 := [100, 181, 0, 13, 42, 2, 181, 0, 17, 42, 42, 180, 0, 1, 180, 0, 20, 181, 0, 25, 167, 0, 12, 76]
abbrev dktJ29_remove_2 : List UInt8 := dkwJ29_remove_2 ++ dktJ29_remove_3
def dkwJ29_remove_1 : List UInt8 := [180, 0, 17, 182, 0, 49, 87, 42, 180, 0, 17, 42, 180, 0, 13, 162, 0, 13, 42, 89, 180, 0, 13, 4]
abbrev dktJ29_remove_1 : List UInt8 := dkwJ29_remove_1 ++ dktJ29_remove_2
def dkwJ29_remove_0 : List UInt8 := [42, 180, 0, 17, 156, 0, 11, 187, 0, 46, 89, 183, 0, 48, 191, 42, 182, 0, 32, 42, 180, 0, 1, 42]
abbrev dktJ29_remove_0 : List UInt8 := dkwJ29_remove_0 ++ dktJ29_remove_1
theorem dksJ29_remove_0 : cJ29_remove.data.toList.drop 0 = dktJ29_remove_0 := by decide +kernel
theorem dksJ29_remove_1 : cJ29_remove.data.toList.drop 24 = dktJ29_remove_1 := dk_seg dksJ29_remove_0 24 rfl rfl
theorem dksJ29_remove_2 : cJ29_remove.data.toList.drop 48 = dktJ29_remove_2 := dk_seg dksJ29_remove_1 24 rfl rfl
theorem dksJ29_remove_3 : cJ29_remove.data.toList.drop 72 = dktJ29_remove_3 := dk_seg dksJ29_remove_2 24 rfl rfl
theorem dJ29_remove_0 : decode cJ29_remove 0 = .ok (.aload_n 0, 1) := dk_42 (dk_at dksJ29_remove_0 0 rfl rfl)
theorem dJ29_remove_1 : decode cJ29_remove 1 = .ok (.getfield 17, 3) := dk_180 0 17 (dk_at dksJ29_remove_0 1 rfl rfl)
theorem dJ29_remove_4 : decode cJ29_remove 4 = .ok (.ifCond .ge 11, 3) := dk_156 0 11 (dk_at dksJ29_remove_0 4 rfl rfl)
theorem dJ29_remove_7 : decode cJ29_remove 7 = .ok (.new 46, 3) := dk_187 0 46 (dk_at dksJ29_remove_0 7 rfl rfl)
theorem dJ29_remove_10 : decode cJ29_remove 10 = .ok (.dup, 1) := dk_89 (dk_at dksJ29_remove_0 10 rfl rfl)
theorem dJ29_remove_11 : decode cJ29_remove 11 = .ok (.invokespecial 48, 3) := dk_183 0 48 (dk_at dksJ29_remove_0 11 rfl rfl)
theorem dJ29_remove_14 : decode cJ29_remove 14 = .ok (.athrow, 1) := dk_191 (dk_at dksJ29_remove_0 14 rfl rfl)
theorem dJ29_remove_15 : decode cJ29_remove 15 = .ok (.aload_n 0, 1) := dk_42 (dk_at dksJ29_remove_0 15 rfl rfl)
theorem dJ29_remove_16 : decode cJ29_remove 16 = .ok (.invokevirtual 32, 3) := dk_182 0 32 (dk_at dksJ29_remove_0 16 rfl rfl)
theorem dJ29_remove_19 : decode cJ29_remove 19 = .ok (.aload_n 0, 1) := dk_42 (dk_at dksJ29_remove_0 19 rfl rfl)
theorem dJ29_remove_20 : decode cJ29_remove 20 = .ok (.getfield 1, 3) := dk_180 0 1 (dk_at dksJ29_remove_0 20 rfl rfl)
theorem dJ29_remove_23 : decode cJ29_remove 23 = .ok (.aload_n 0, 1) := dk_42 (dk_at dksJ29_remove_0 23 rfl rfl)
theorem dJ29_remove_24 : decode cJ29_remove 24 = .ok (.getfield 17, 3) := dk_180 0 17 (dk_at dksJ29_remove_1 0 rfl rfl)
theorem dJ29_remove_27 : decode cJ29_remove 27 = .ok (.invokevirtual 49, 3) := dk_182 0 49 (dk_at dksJ29_remove_1 3 rfl rfl)
theorem dJ29_remove_30 : decode cJ29_remove 30 = .ok (.pop, 1) := dk_87 (dk_at dksJ29_remove_1 6 rfl rfl)
theorem dJ29_remove_31 : decode cJ29_remove 31 = .ok (.aload_n 0, 1) := dk_42 (dk_at dksJ29_remove_1 7 rfl rfl)
theorem dJ29_remove_32 : decode cJ29_remove 32 = .ok (.getfield 17, 3) := dk_180 0 17 (dk_at dksJ29_remove_1 8 rfl rfl)
theorem dJ29_remove_35 : decode cJ29_remove 35 = .ok (.aload_n 0, 1) := dk_42 (dk_at dksJ29_remove_1 11 rfl rfl)
theorem dJ29_remove_36 : decode cJ29_remove 36 = .ok (.getfield 13, 3) := dk_180 0 13 (dk_at dksJ29_remove_1 12 rfl rfl)
theorem dJ29_remove_39 : decode cJ29_remove 39 = .ok (.if_icmp .ge 13, 3) := dk_162 0 13 (dk_at dksJ29_remove_1 15 rfl rfl)
theorem dJ29_remove_42 : decode cJ29_remove 42 = .ok (.aload_n 0, 1) := dk_42 (dk_at dksJ29_remove_1 18 rfl rfl)
theorem dJ29_remove_43 : decode cJ29_remove 43 = .ok (.dup, 1) := dk_89 (dk_at dksJ29_remove_1 19 rfl rfl)
theorem dJ29_remove_44 : decode cJ29_remove 44 = .ok (.getfield 13, 3) := dk_180 0 13 (dk_at dksJ29_remove_1 20 rfl rfl)
theorem dJ29_remove_47 : decode cJ29_remove 47 = .ok (.iconst 1, 1) := dk_4 (dk_at dksJ29_remove_1 23 rfl rfl)
theorem dJ29_remove_48 : decode cJ29_remove 48 = .ok (.isub, 1) := dk_100 (dk_at dksJ29_remove_2 0 rfl rfl)
theorem dJ29_remove_49 : decode cJ29_remove 49 = .ok (.putfield 13, 3) := dk_181 0 13 (dk_at dksJ29_remove_2 1 rfl rfl)
theorem dJ29_remove_52 : decode cJ29_remove 52 = .ok (.aload_n 0, 1) := dk_42 (dk_at dksJ29_remove_2 4 rfl rfl)
theorem dJ29_remove_53 : decode cJ29_remove 53 = .ok (.iconst (-1), 1) := dk_2 (dk_at dksJ29_remove_2 5 rfl rfl)
theorem dJ29_remove_54 : decode cJ29_remove 54 = .ok (.putfield 17, 3) := dk_181 0 17 (dk_at dksJ29_remove_2 6 rfl rfl)
theorem dJ29_remove_57 : decode cJ29_remove 57 = .ok (.aload_n 0, 1) := dk_42 (dk_at dksJ29_remove_2 9 rfl rfl)
theorem dJ29_remove_58 : decode cJ29_remove 58 = .ok (.aload_n 0, 1) := dk_42 (dk_at dksJ29_remove_2 10 rfl rfl)
theorem dJ29_remove_59 : decode cJ29_remove 59 = .ok (.getfield 1, 3) := dk_180 0 1 (dk_at dksJ29_remove_2 11 rfl rfl)
theorem dJ29_remove_62 : decode cJ29_remove 62 = .ok (.getfield 20, 3) := dk_180 0 20 (dk_at dksJ29_remove_2 14 rfl rfl)
theorem dJ29_remove_65 : decode cJ29_remove 65 = .ok (.putfield 25, 3) := dk_181 0 25 (dk_at dksJ29_remove_2 17 rfl rfl)
theorem dJ29_remove_68 : decode cJ29_remove 68 = .ok (.goto 12, 3) := dk_167 0 12 (dk_at dksJ29_remove_2 20 rfl rfl)
theorem dJ29_remove_71 : decode cJ29_remove 71 = .ok (.astore_n 1, 1) := dk_76 (dk_at dksJ29_remove_2 23 rfl rfl)
theorem dJ29_remove_72 : decode cJ29_remove 72 = .ok (.new 52, 3) := dk_187 0 52 (dk_at dksJ29_remove_3 0 rfl rfl)
theorem dJ29_remove_75 : decode cJ29_remove 75 = .ok (.dup, 1) := dk_89 (dk_at dksJ29_remove_3 3 rfl rfl)
theorem dJ29_remove_76 : decode cJ29_remove 76 = .ok (.invokespecial 54, 3) := dk_183 0 54 (dk_at dksJ29_remove_3 4 rfl rfl)
theorem dJ29_remove_79 : decode cJ29_remove 79 = .ok (.athrow, 1) := dk_191 (dk_at dksJ29_remove_3 7 rfl rfl)
theorem dJ29_remove_80 : decode cJ29_remove 80 = .ok (.return_, 1) := dk_177 (dk_at dksJ29_remove_3 8 rfl rfl)
abbrev cJ3_init : ByteArray := prog_44_method_1_code
def yJ3_init : MethodName := ⟨RJ3, "<init>", "()V"⟩
theorem dJ3_init_0 : decode cJ3_init 0 = .ok (.aload_n 0, 1) := by decide +kernel
theorem dJ3_init_1 : decode cJ3_init 1 = .ok (.invokespecial 1, 3) := by decide +kernel
theorem dJ3_init_4 : decode cJ3_init 4 = .ok (.return_, 1) := by decide +kernel
abbrev cJ3_iterator : ByteArray := prog_44_method_7_code
def yJ3_iterator : MethodName := ⟨RJ3, "iterator", "()Ljava/util/Iterator;"⟩
theorem dJ3_iterator_0 : decode cJ3_iterator 0 = .ok (.aload_n 0, 1) := by decide +kernel
theorem dJ3_iterator_1 : decode cJ3_iterator 1 = .ok (.invokevirtual 65, 3) := by decide +kernel
theorem dJ3_iterator_4 : decode cJ3_iterator 4 = .ok (.areturn, 1) := by decide +kernel
abbrev cJ30_init : ByteArray := prog_48_method_1_code
def yJ30_init : MethodName := ⟨RJ30, "<init>", "(Ljava/util/ArrayList;I)V"⟩
def dkwJ30_init_0 : List UInt8 := [42, 43, 181, 0, 1, 42, 43, 183, 0, 7, 42, 28, 181, 0, 13, 177]
abbrev dktJ30_init_0 : List UInt8 := dkwJ30_init_0 ++ []
theorem dksJ30_init_0 : cJ30_init.data.toList.drop 0 = dktJ30_init_0 := by decide +kernel
theorem dJ30_init_0 : decode cJ30_init 0 = .ok (.aload_n 0, 1) := dk_42 (dk_at dksJ30_init_0 0 rfl rfl)
theorem dJ30_init_1 : decode cJ30_init 1 = .ok (.aload_n 1, 1) := dk_43 (dk_at dksJ30_init_0 1 rfl rfl)
theorem dJ30_init_2 : decode cJ30_init 2 = .ok (.putfield 1, 3) := dk_181 0 1 (dk_at dksJ30_init_0 2 rfl rfl)
theorem dJ30_init_5 : decode cJ30_init 5 = .ok (.aload_n 0, 1) := dk_42 (dk_at dksJ30_init_0 5 rfl rfl)
theorem dJ30_init_6 : decode cJ30_init 6 = .ok (.aload_n 1, 1) := dk_43 (dk_at dksJ30_init_0 6 rfl rfl)
theorem dJ30_init_7 : decode cJ30_init 7 = .ok (.invokespecial 7, 3) := dk_183 0 7 (dk_at dksJ30_init_0 7 rfl rfl)
theorem dJ30_init_10 : decode cJ30_init 10 = .ok (.aload_n 0, 1) := dk_42 (dk_at dksJ30_init_0 10 rfl rfl)
theorem dJ30_init_11 : decode cJ30_init 11 = .ok (.iload_n 2, 1) := dk_28 (dk_at dksJ30_init_0 11 rfl rfl)
theorem dJ30_init_12 : decode cJ30_init 12 = .ok (.putfield 13, 3) := dk_181 0 13 (dk_at dksJ30_init_0 12 rfl rfl)
theorem dJ30_init_15 : decode cJ30_init 15 = .ok (.return_, 1) := dk_177 (dk_at dksJ30_init_0 15 rfl rfl)
abbrev cJ31_hasNext : ByteArray := prog_62_method_2_code
def yJ31_hasNext : MethodName := ⟨RJ31, "hasNext", "()Z"⟩
def dkwJ31_hasNext_0 : List UInt8 := [42, 180, 0, 33, 42, 180, 0, 1, 180, 0, 22, 162, 0, 7, 4, 167, 0, 4, 3, 172]
abbrev dktJ31_hasNext_0 : List UInt8 := dkwJ31_hasNext_0 ++ []
theorem dksJ31_hasNext_0 : cJ31_hasNext.data.toList.drop 0 = dktJ31_hasNext_0 := by decide +kernel
theorem dJ31_hasNext_0 : decode cJ31_hasNext 0 = .ok (.aload_n 0, 1) := dk_42 (dk_at dksJ31_hasNext_0 0 rfl rfl)
theorem dJ31_hasNext_1 : decode cJ31_hasNext 1 = .ok (.getfield 33, 3) := dk_180 0 33 (dk_at dksJ31_hasNext_0 1 rfl rfl)
theorem dJ31_hasNext_4 : decode cJ31_hasNext 4 = .ok (.aload_n 0, 1) := dk_42 (dk_at dksJ31_hasNext_0 4 rfl rfl)
theorem dJ31_hasNext_5 : decode cJ31_hasNext 5 = .ok (.getfield 1, 3) := dk_180 0 1 (dk_at dksJ31_hasNext_0 5 rfl rfl)
theorem dJ31_hasNext_8 : decode cJ31_hasNext 8 = .ok (.getfield 22, 3) := dk_180 0 22 (dk_at dksJ31_hasNext_0 8 rfl rfl)
theorem dJ31_hasNext_11 : decode cJ31_hasNext 11 = .ok (.if_icmp .ge 7, 3) := dk_162 0 7 (dk_at dksJ31_hasNext_0 11 rfl rfl)
theorem dJ31_hasNext_14 : decode cJ31_hasNext 14 = .ok (.iconst 1, 1) := dk_4 (dk_at dksJ31_hasNext_0 14 rfl rfl)
theorem dJ31_hasNext_15 : decode cJ31_hasNext 15 = .ok (.goto 4, 3) := dk_167 0 4 (dk_at dksJ31_hasNext_0 15 rfl rfl)
theorem dJ31_hasNext_18 : decode cJ31_hasNext 18 = .ok (.iconst 0, 1) := dk_3 (dk_at dksJ31_hasNext_0 18 rfl rfl)
theorem dJ31_hasNext_19 : decode cJ31_hasNext 19 = .ok (.ireturn, 1) := dk_172 (dk_at dksJ31_hasNext_0 19 rfl rfl)
abbrev cJ31_next : ByteArray := prog_62_method_3_code
def yJ31_next : MethodName := ⟨RJ31, "next", "()Ljava/lang/Object;"⟩
def dkwJ31_next_2 : List UInt8 := [42, 180, 0, 46, 180, 0, 52, 176]
abbrev dktJ31_next_2 : List UInt8 := dkwJ31_next_2 ++ []
def dkwJ31_next_1 : List UInt8 := [181, 0, 46, 42, 42, 180, 0, 29, 180, 0, 49, 181, 0, 29, 42, 89, 180, 0, 33, 4, 96, 181, 0, 33]
abbrev dktJ31_next_1 : List UInt8 := dkwJ31_next_1 ++ dktJ31_next_2
def dkwJ31_next_0 : List UInt8 := [42, 182, 0, 36, 42, 182, 0, 39, 154, 0, 11, 187, 0, 43, 89, 183, 0, 45, 191, 42, 42, 180, 0, 29]
abbrev dktJ31_next_0 : List UInt8 := dkwJ31_next_0 ++ dktJ31_next_1
theorem dksJ31_next_0 : cJ31_next.data.toList.drop 0 = dktJ31_next_0 := by decide +kernel
theorem dksJ31_next_1 : cJ31_next.data.toList.drop 24 = dktJ31_next_1 := dk_seg dksJ31_next_0 24 rfl rfl
theorem dksJ31_next_2 : cJ31_next.data.toList.drop 48 = dktJ31_next_2 := dk_seg dksJ31_next_1 24 rfl rfl
theorem dJ31_next_0 : decode cJ31_next 0 = .ok (.aload_n 0, 1) := dk_42 (dk_at dksJ31_next_0 0 rfl rfl)
theorem dJ31_next_1 : decode cJ31_next 1 = .ok (.invokevirtual 36, 3) := dk_182 0 36 (dk_at dksJ31_next_0 1 rfl rfl)
theorem dJ31_next_4 : decode cJ31_next 4 = .ok (.aload_n 0, 1) := dk_42 (dk_at dksJ31_next_0 4 rfl rfl)
theorem dJ31_next_5 : decode cJ31_next 5 = .ok (.invokevirtual 39, 3) := dk_182 0 39 (dk_at dksJ31_next_0 5 rfl rfl)
theorem dJ31_next_8 : decode cJ31_next 8 = .ok (.ifCond .ne 11, 3) := dk_154 0 11 (dk_at dksJ31_next_0 8 rfl rfl)
theorem dJ31_next_11 : decode cJ31_next 11 = .ok (.new 43, 3) := dk_187 0 43 (dk_at dksJ31_next_0 11 rfl rfl)
theorem dJ31_next_14 : decode cJ31_next 14 = .ok (.dup, 1) := dk_89 (dk_at dksJ31_next_0 14 rfl rfl)
theorem dJ31_next_15 : decode cJ31_next 15 = .ok (.invokespecial 45, 3) := dk_183 0 45 (dk_at dksJ31_next_0 15 rfl rfl)
theorem dJ31_next_18 : decode cJ31_next 18 = .ok (.athrow, 1) := dk_191 (dk_at dksJ31_next_0 18 rfl rfl)
theorem dJ31_next_19 : decode cJ31_next 19 = .ok (.aload_n 0, 1) := dk_42 (dk_at dksJ31_next_0 19 rfl rfl)
theorem dJ31_next_20 : decode cJ31_next 20 = .ok (.aload_n 0, 1) := dk_42 (dk_at dksJ31_next_0 20 rfl rfl)
theorem dJ31_next_21 : decode cJ31_next 21 = .ok (.getfield 29, 3) := dk_180 0 29 (dk_at dksJ31_next_0 21 rfl rfl)
theorem dJ31_next_24 : decode cJ31_next 24 = .ok (.putfield 46, 3) := dk_181 0 46 (dk_at dksJ31_next_1 0 rfl rfl)
theorem dJ31_next_27 : decode cJ31_next 27 = .ok (.aload_n 0, 1) := dk_42 (dk_at dksJ31_next_1 3 rfl rfl)
theorem dJ31_next_28 : decode cJ31_next 28 = .ok (.aload_n 0, 1) := dk_42 (dk_at dksJ31_next_1 4 rfl rfl)
theorem dJ31_next_29 : decode cJ31_next 29 = .ok (.getfield 29, 3) := dk_180 0 29 (dk_at dksJ31_next_1 5 rfl rfl)
theorem dJ31_next_32 : decode cJ31_next 32 = .ok (.getfield 49, 3) := dk_180 0 49 (dk_at dksJ31_next_1 8 rfl rfl)
theorem dJ31_next_35 : decode cJ31_next 35 = .ok (.putfield 29, 3) := dk_181 0 29 (dk_at dksJ31_next_1 11 rfl rfl)
theorem dJ31_next_38 : decode cJ31_next 38 = .ok (.aload_n 0, 1) := dk_42 (dk_at dksJ31_next_1 14 rfl rfl)
theorem dJ31_next_39 : decode cJ31_next 39 = .ok (.dup, 1) := dk_89 (dk_at dksJ31_next_1 15 rfl rfl)
theorem dJ31_next_40 : decode cJ31_next 40 = .ok (.getfield 33, 3) := dk_180 0 33 (dk_at dksJ31_next_1 16 rfl rfl)
theorem dJ31_next_43 : decode cJ31_next 43 = .ok (.iconst 1, 1) := dk_4 (dk_at dksJ31_next_1 19 rfl rfl)
theorem dJ31_next_44 : decode cJ31_next 44 = .ok (.iadd, 1) := dk_96 (dk_at dksJ31_next_1 20 rfl rfl)
theorem dJ31_next_45 : decode cJ31_next 45 = .ok (.putfield 33, 3) := dk_181 0 33 (dk_at dksJ31_next_1 21 rfl rfl)
theorem dJ31_next_48 : decode cJ31_next 48 = .ok (.aload_n 0, 1) := dk_42 (dk_at dksJ31_next_2 0 rfl rfl)
theorem dJ31_next_49 : decode cJ31_next 49 = .ok (.getfield 46, 3) := dk_180 0 46 (dk_at dksJ31_next_2 1 rfl rfl)
theorem dJ31_next_52 : decode cJ31_next 52 = .ok (.getfield 52, 3) := dk_180 0 52 (dk_at dksJ31_next_2 4 rfl rfl)
theorem dJ31_next_55 : decode cJ31_next 55 = .ok (.areturn, 1) := dk_176 (dk_at dksJ31_next_2 7 rfl rfl)
abbrev cJ31_checkForComodification : ByteArray := prog_62_method_12_code
def yJ31_checkForComodification : MethodName := ⟨RJ31, "checkForComodification", "()V"⟩
def dkwJ31_checkForComodification_0 : List UInt8 := [42, 180, 0, 1, 180, 0, 13, 42, 180, 0, 19, 159, 0, 11, 187, 0, 91, 89, 183, 0, 93, 191, 177]
abbrev dktJ31_checkForComodification_0 : List UInt8 := dkwJ31_checkForComodification_0 ++ []
theorem dksJ31_checkForComodification_0 : cJ31_checkForComodification.data.toList.drop 0 = dktJ31_checkForComodification_0 := by decide +kernel
theorem dJ31_checkForComodification_0 : decode cJ31_checkForComodification 0 = .ok (.aload_n 0, 1) := dk_42 (dk_at dksJ31_checkForComodification_0 0 rfl rfl)
theorem dJ31_checkForComodification_1 : decode cJ31_checkForComodification 1 = .ok (.getfield 1, 3) := dk_180 0 1 (dk_at dksJ31_checkForComodification_0 1 rfl rfl)
theorem dJ31_checkForComodification_4 : decode cJ31_checkForComodification 4 = .ok (.getfield 13, 3) := dk_180 0 13 (dk_at dksJ31_checkForComodification_0 4 rfl rfl)
theorem dJ31_checkForComodification_7 : decode cJ31_checkForComodification 7 = .ok (.aload_n 0, 1) := dk_42 (dk_at dksJ31_checkForComodification_0 7 rfl rfl)
theorem dJ31_checkForComodification_8 : decode cJ31_checkForComodification 8 = .ok (.getfield 19, 3) := dk_180 0 19 (dk_at dksJ31_checkForComodification_0 8 rfl rfl)
theorem dJ31_checkForComodification_11 : decode cJ31_checkForComodification 11 = .ok (.if_icmp .eq 11, 3) := dk_159 0 11 (dk_at dksJ31_checkForComodification_0 11 rfl rfl)
theorem dJ31_checkForComodification_14 : decode cJ31_checkForComodification 14 = .ok (.new 91, 3) := dk_187 0 91 (dk_at dksJ31_checkForComodification_0 14 rfl rfl)
theorem dJ31_checkForComodification_17 : decode cJ31_checkForComodification 17 = .ok (.dup, 1) := dk_89 (dk_at dksJ31_checkForComodification_0 17 rfl rfl)
theorem dJ31_checkForComodification_18 : decode cJ31_checkForComodification 18 = .ok (.invokespecial 93, 3) := dk_183 0 93 (dk_at dksJ31_checkForComodification_0 18 rfl rfl)
theorem dJ31_checkForComodification_21 : decode cJ31_checkForComodification 21 = .ok (.athrow, 1) := dk_191 (dk_at dksJ31_checkForComodification_0 21 rfl rfl)
theorem dJ31_checkForComodification_22 : decode cJ31_checkForComodification 22 = .ok (.return_, 1) := dk_177 (dk_at dksJ31_checkForComodification_0 22 rfl rfl)
abbrev cJ31_init : ByteArray := prog_62_method_1_code
def yJ31_init : MethodName := ⟨RJ31, "<init>", "(Ljava/util/LinkedList;I)V"⟩
def dkwJ31_init_1 : List UInt8 := [180, 0, 22, 160, 0, 7, 1, 167, 0, 8, 43, 28, 182, 0, 25, 181, 0, 29, 42, 28, 181, 0, 33, 177]
abbrev dktJ31_init_1 : List UInt8 := dkwJ31_init_1 ++ []
def dkwJ31_init_0 : List UInt8 := [42, 43, 181, 0, 1, 42, 183, 0, 7, 42, 42, 180, 0, 1, 180, 0, 13, 181, 0, 19, 42, 28, 43]
abbrev dktJ31_init_0 : List UInt8 := dkwJ31_init_0 ++ dktJ31_init_1
theorem dksJ31_init_0 : cJ31_init.data.toList.drop 0 = dktJ31_init_0 := by decide +kernel
theorem dksJ31_init_1 : cJ31_init.data.toList.drop 23 = dktJ31_init_1 := dk_seg dksJ31_init_0 23 rfl rfl
theorem dJ31_init_0 : decode cJ31_init 0 = .ok (.aload_n 0, 1) := dk_42 (dk_at dksJ31_init_0 0 rfl rfl)
theorem dJ31_init_1 : decode cJ31_init 1 = .ok (.aload_n 1, 1) := dk_43 (dk_at dksJ31_init_0 1 rfl rfl)
theorem dJ31_init_2 : decode cJ31_init 2 = .ok (.putfield 1, 3) := dk_181 0 1 (dk_at dksJ31_init_0 2 rfl rfl)
theorem dJ31_init_5 : decode cJ31_init 5 = .ok (.aload_n 0, 1) := dk_42 (dk_at dksJ31_init_0 5 rfl rfl)
theorem dJ31_init_6 : decode cJ31_init 6 = .ok (.invokespecial 7, 3) := dk_183 0 7 (dk_at dksJ31_init_0 6 rfl rfl)
theorem dJ31_init_9 : decode cJ31_init 9 = .ok (.aload_n 0, 1) := dk_42 (dk_at dksJ31_init_0 9 rfl rfl)
theorem dJ31_init_10 : decode cJ31_init 10 = .ok (.aload_n 0, 1) := dk_42 (dk_at dksJ31_init_0 10 rfl rfl)
theorem dJ31_init_11 : decode cJ31_init 11 = .ok (.getfield 1, 3) := dk_180 0 1 (dk_at dksJ31_init_0 11 rfl rfl)
theorem dJ31_init_14 : decode cJ31_init 14 = .ok (.getfield 13, 3) := dk_180 0 13 (dk_at dksJ31_init_0 14 rfl rfl)
theorem dJ31_init_17 : decode cJ31_init 17 = .ok (.putfield 19, 3) := dk_181 0 19 (dk_at dksJ31_init_0 17 rfl rfl)
theorem dJ31_init_20 : decode cJ31_init 20 = .ok (.aload_n 0, 1) := dk_42 (dk_at dksJ31_init_0 20 rfl rfl)
theorem dJ31_init_21 : decode cJ31_init 21 = .ok (.iload_n 2, 1) := dk_28 (dk_at dksJ31_init_0 21 rfl rfl)
theorem dJ31_init_22 : decode cJ31_init 22 = .ok (.aload_n 1, 1) := dk_43 (dk_at dksJ31_init_0 22 rfl rfl)
theorem dJ31_init_23 : decode cJ31_init 23 = .ok (.getfield 22, 3) := dk_180 0 22 (dk_at dksJ31_init_1 0 rfl rfl)
theorem dJ31_init_26 : decode cJ31_init 26 = .ok (.if_icmp .ne 7, 3) := dk_160 0 7 (dk_at dksJ31_init_1 3 rfl rfl)
theorem dJ31_init_29 : decode cJ31_init 29 = .ok (.aconst_null, 1) := dk_1 (dk_at dksJ31_init_1 6 rfl rfl)
theorem dJ31_init_30 : decode cJ31_init 30 = .ok (.goto 8, 3) := dk_167 0 8 (dk_at dksJ31_init_1 7 rfl rfl)
theorem dJ31_init_33 : decode cJ31_init 33 = .ok (.aload_n 1, 1) := dk_43 (dk_at dksJ31_init_1 10 rfl rfl)
theorem dJ31_init_34 : decode cJ31_init 34 = .ok (.iload_n 2, 1) := dk_28 (dk_at dksJ31_init_1 11 rfl rfl)
theorem dJ31_init_35 : decode cJ31_init 35 = .ok (.invokevirtual 25, 3) := dk_182 0 25 (dk_at dksJ31_init_1 12 rfl rfl)
theorem dJ31_init_38 : decode cJ31_init 38 = .ok (.putfield 29, 3) := dk_181 0 29 (dk_at dksJ31_init_1 15 rfl rfl)
theorem dJ31_init_41 : decode cJ31_init 41 = .ok (.aload_n 0, 1) := dk_42 (dk_at dksJ31_init_1 18 rfl rfl)
theorem dJ31_init_42 : decode cJ31_init 42 = .ok (.iload_n 2, 1) := dk_28 (dk_at dksJ31_init_1 19 rfl rfl)
theorem dJ31_init_43 : decode cJ31_init 43 = .ok (.putfield 33, 3) := dk_181 0 33 (dk_at dksJ31_init_1 20 rfl rfl)
theorem dJ31_init_46 : decode cJ31_init 46 = .ok (.return_, 1) := dk_177 (dk_at dksJ31_init_1 23 rfl rfl)
abbrev cJ31_remove : ByteArray := prog_62_method_8_code
def yJ31_remove : MethodName := ⟨RJ31, "remove", "()V"⟩
def dkwJ31_remove_3 : List UInt8 := [181, 0, 46, 42, 89, 180, 0, 19, 4, 96, 181, 0, 19, 177]
abbrev dktJ31_remove_3 : List UInt8 := dkwJ31_remove_3 ++ []
def dkwJ31_remove_2 : List UInt8 := [166, 0, 11, 42, 43, 181, 0, 29, 167, 0, 13, 42, 89, 180, 0, 33, 4, 100, 181, 0, 33, 42, 1]
abbrev dktJ31_remove_2 : List UInt8 := dkwJ31_remove_2 ++ dktJ31_remove_3
def dkwJ31_remove_1 : List UInt8 := [180, 0, 49, 76, 42, 180, 0, 1, 42, 180, 0, 46, 182, 0, 68, 87, 42, 180, 0, 29, 42, 180, 0, 46]
abbrev dktJ31_remove_1 : List UInt8 := dkwJ31_remove_1 ++ dktJ31_remove_2
def dkwJ31_remove_0 : List UInt8 := [42, 182, 0, 36, 42, 180, 0, 46, 199, 0, 11, 187, 0, 65, 89, 183, 0, 67, 191, 42, 180, 0, 46]
abbrev dktJ31_remove_0 : List UInt8 := dkwJ31_remove_0 ++ dktJ31_remove_1
theorem dksJ31_remove_0 : cJ31_remove.data.toList.drop 0 = dktJ31_remove_0 := by decide +kernel
theorem dksJ31_remove_1 : cJ31_remove.data.toList.drop 23 = dktJ31_remove_1 := dk_seg dksJ31_remove_0 23 rfl rfl
theorem dksJ31_remove_2 : cJ31_remove.data.toList.drop 47 = dktJ31_remove_2 := dk_seg dksJ31_remove_1 24 rfl rfl
theorem dksJ31_remove_3 : cJ31_remove.data.toList.drop 70 = dktJ31_remove_3 := dk_seg dksJ31_remove_2 23 rfl rfl
theorem dJ31_remove_0 : decode cJ31_remove 0 = .ok (.aload_n 0, 1) := dk_42 (dk_at dksJ31_remove_0 0 rfl rfl)
theorem dJ31_remove_1 : decode cJ31_remove 1 = .ok (.invokevirtual 36, 3) := dk_182 0 36 (dk_at dksJ31_remove_0 1 rfl rfl)
theorem dJ31_remove_4 : decode cJ31_remove 4 = .ok (.aload_n 0, 1) := dk_42 (dk_at dksJ31_remove_0 4 rfl rfl)
theorem dJ31_remove_5 : decode cJ31_remove 5 = .ok (.getfield 46, 3) := dk_180 0 46 (dk_at dksJ31_remove_0 5 rfl rfl)
theorem dJ31_remove_8 : decode cJ31_remove 8 = .ok (.ifnonnull 11, 3) := dk_199 0 11 (dk_at dksJ31_remove_0 8 rfl rfl)
theorem dJ31_remove_11 : decode cJ31_remove 11 = .ok (.new 65, 3) := dk_187 0 65 (dk_at dksJ31_remove_0 11 rfl rfl)
theorem dJ31_remove_14 : decode cJ31_remove 14 = .ok (.dup, 1) := dk_89 (dk_at dksJ31_remove_0 14 rfl rfl)
theorem dJ31_remove_15 : decode cJ31_remove 15 = .ok (.invokespecial 67, 3) := dk_183 0 67 (dk_at dksJ31_remove_0 15 rfl rfl)
theorem dJ31_remove_18 : decode cJ31_remove 18 = .ok (.athrow, 1) := dk_191 (dk_at dksJ31_remove_0 18 rfl rfl)
theorem dJ31_remove_19 : decode cJ31_remove 19 = .ok (.aload_n 0, 1) := dk_42 (dk_at dksJ31_remove_0 19 rfl rfl)
theorem dJ31_remove_20 : decode cJ31_remove 20 = .ok (.getfield 46, 3) := dk_180 0 46 (dk_at dksJ31_remove_0 20 rfl rfl)
theorem dJ31_remove_23 : decode cJ31_remove 23 = .ok (.getfield 49, 3) := dk_180 0 49 (dk_at dksJ31_remove_1 0 rfl rfl)
theorem dJ31_remove_26 : decode cJ31_remove 26 = .ok (.astore_n 1, 1) := dk_76 (dk_at dksJ31_remove_1 3 rfl rfl)
theorem dJ31_remove_27 : decode cJ31_remove 27 = .ok (.aload_n 0, 1) := dk_42 (dk_at dksJ31_remove_1 4 rfl rfl)
theorem dJ31_remove_28 : decode cJ31_remove 28 = .ok (.getfield 1, 3) := dk_180 0 1 (dk_at dksJ31_remove_1 5 rfl rfl)
theorem dJ31_remove_31 : decode cJ31_remove 31 = .ok (.aload_n 0, 1) := dk_42 (dk_at dksJ31_remove_1 8 rfl rfl)
theorem dJ31_remove_32 : decode cJ31_remove 32 = .ok (.getfield 46, 3) := dk_180 0 46 (dk_at dksJ31_remove_1 9 rfl rfl)
theorem dJ31_remove_35 : decode cJ31_remove 35 = .ok (.invokevirtual 68, 3) := dk_182 0 68 (dk_at dksJ31_remove_1 12 rfl rfl)
theorem dJ31_remove_38 : decode cJ31_remove 38 = .ok (.pop, 1) := dk_87 (dk_at dksJ31_remove_1 15 rfl rfl)
theorem dJ31_remove_39 : decode cJ31_remove 39 = .ok (.aload_n 0, 1) := dk_42 (dk_at dksJ31_remove_1 16 rfl rfl)
theorem dJ31_remove_40 : decode cJ31_remove 40 = .ok (.getfield 29, 3) := dk_180 0 29 (dk_at dksJ31_remove_1 17 rfl rfl)
theorem dJ31_remove_43 : decode cJ31_remove 43 = .ok (.aload_n 0, 1) := dk_42 (dk_at dksJ31_remove_1 20 rfl rfl)
theorem dJ31_remove_44 : decode cJ31_remove 44 = .ok (.getfield 46, 3) := dk_180 0 46 (dk_at dksJ31_remove_1 21 rfl rfl)
theorem dJ31_remove_47 : decode cJ31_remove 47 = .ok (.if_acmp .ne 11, 3) := dk_166 0 11 (dk_at dksJ31_remove_2 0 rfl rfl)
theorem dJ31_remove_50 : decode cJ31_remove 50 = .ok (.aload_n 0, 1) := dk_42 (dk_at dksJ31_remove_2 3 rfl rfl)
theorem dJ31_remove_51 : decode cJ31_remove 51 = .ok (.aload_n 1, 1) := dk_43 (dk_at dksJ31_remove_2 4 rfl rfl)
theorem dJ31_remove_52 : decode cJ31_remove 52 = .ok (.putfield 29, 3) := dk_181 0 29 (dk_at dksJ31_remove_2 5 rfl rfl)
theorem dJ31_remove_55 : decode cJ31_remove 55 = .ok (.goto 13, 3) := dk_167 0 13 (dk_at dksJ31_remove_2 8 rfl rfl)
theorem dJ31_remove_58 : decode cJ31_remove 58 = .ok (.aload_n 0, 1) := dk_42 (dk_at dksJ31_remove_2 11 rfl rfl)
theorem dJ31_remove_59 : decode cJ31_remove 59 = .ok (.dup, 1) := dk_89 (dk_at dksJ31_remove_2 12 rfl rfl)
theorem dJ31_remove_60 : decode cJ31_remove 60 = .ok (.getfield 33, 3) := dk_180 0 33 (dk_at dksJ31_remove_2 13 rfl rfl)
theorem dJ31_remove_63 : decode cJ31_remove 63 = .ok (.iconst 1, 1) := dk_4 (dk_at dksJ31_remove_2 16 rfl rfl)
theorem dJ31_remove_64 : decode cJ31_remove 64 = .ok (.isub, 1) := dk_100 (dk_at dksJ31_remove_2 17 rfl rfl)
theorem dJ31_remove_65 : decode cJ31_remove 65 = .ok (.putfield 33, 3) := dk_181 0 33 (dk_at dksJ31_remove_2 18 rfl rfl)
theorem dJ31_remove_68 : decode cJ31_remove 68 = .ok (.aload_n 0, 1) := dk_42 (dk_at dksJ31_remove_2 21 rfl rfl)
theorem dJ31_remove_69 : decode cJ31_remove 69 = .ok (.aconst_null, 1) := dk_1 (dk_at dksJ31_remove_2 22 rfl rfl)
theorem dJ31_remove_70 : decode cJ31_remove 70 = .ok (.putfield 46, 3) := dk_181 0 46 (dk_at dksJ31_remove_3 0 rfl rfl)
theorem dJ31_remove_73 : decode cJ31_remove 73 = .ok (.aload_n 0, 1) := dk_42 (dk_at dksJ31_remove_3 3 rfl rfl)
theorem dJ31_remove_74 : decode cJ31_remove 74 = .ok (.dup, 1) := dk_89 (dk_at dksJ31_remove_3 4 rfl rfl)
theorem dJ31_remove_75 : decode cJ31_remove 75 = .ok (.getfield 19, 3) := dk_180 0 19 (dk_at dksJ31_remove_3 5 rfl rfl)
theorem dJ31_remove_78 : decode cJ31_remove 78 = .ok (.iconst 1, 1) := dk_4 (dk_at dksJ31_remove_3 8 rfl rfl)
theorem dJ31_remove_79 : decode cJ31_remove 79 = .ok (.iadd, 1) := dk_96 (dk_at dksJ31_remove_3 9 rfl rfl)
theorem dJ31_remove_80 : decode cJ31_remove 80 = .ok (.putfield 19, 3) := dk_181 0 19 (dk_at dksJ31_remove_3 10 rfl rfl)
theorem dJ31_remove_83 : decode cJ31_remove 83 = .ok (.return_, 1) := dk_177 (dk_at dksJ31_remove_3 13 rfl rfl)
abbrev cJ32_init : ByteArray := prog_63_method_1_code
def yJ32_init : MethodName := ⟨RJ32, "<init>", "(Ljava/util/LinkedList$Node;Ljava/lang/Object;Ljava/util/LinkedList$Node;)V"⟩
def dkwJ32_init_0 : List UInt8 := [42, 183, 0, 1, 42, 44, 181, 0, 7, 42, 45, 181, 0, 13, 42, 43, 181, 0, 17, 177]
abbrev dktJ32_init_0 : List UInt8 := dkwJ32_init_0 ++ []
theorem dksJ32_init_0 : cJ32_init.data.toList.drop 0 = dktJ32_init_0 := by decide +kernel
theorem dJ32_init_0 : decode cJ32_init 0 = .ok (.aload_n 0, 1) := dk_42 (dk_at dksJ32_init_0 0 rfl rfl)
theorem dJ32_init_1 : decode cJ32_init 1 = .ok (.invokespecial 1, 3) := dk_183 0 1 (dk_at dksJ32_init_0 1 rfl rfl)
theorem dJ32_init_4 : decode cJ32_init 4 = .ok (.aload_n 0, 1) := dk_42 (dk_at dksJ32_init_0 4 rfl rfl)
theorem dJ32_init_5 : decode cJ32_init 5 = .ok (.aload_n 2, 1) := dk_44 (dk_at dksJ32_init_0 5 rfl rfl)
theorem dJ32_init_6 : decode cJ32_init 6 = .ok (.putfield 7, 3) := dk_181 0 7 (dk_at dksJ32_init_0 6 rfl rfl)
theorem dJ32_init_9 : decode cJ32_init 9 = .ok (.aload_n 0, 1) := dk_42 (dk_at dksJ32_init_0 9 rfl rfl)
theorem dJ32_init_10 : decode cJ32_init 10 = .ok (.aload_n 3, 1) := dk_45 (dk_at dksJ32_init_0 10 rfl rfl)
theorem dJ32_init_11 : decode cJ32_init 11 = .ok (.putfield 13, 3) := dk_181 0 13 (dk_at dksJ32_init_0 11 rfl rfl)
theorem dJ32_init_14 : decode cJ32_init 14 = .ok (.aload_n 0, 1) := dk_42 (dk_at dksJ32_init_0 14 rfl rfl)
theorem dJ32_init_15 : decode cJ32_init 15 = .ok (.aload_n 1, 1) := dk_43 (dk_at dksJ32_init_0 15 rfl rfl)
theorem dJ32_init_16 : decode cJ32_init 16 = .ok (.putfield 17, 3) := dk_181 0 17 (dk_at dksJ32_init_0 16 rfl rfl)
theorem dJ32_init_19 : decode cJ32_init 19 = .ok (.return_, 1) := dk_177 (dk_at dksJ32_init_0 19 rfl rfl)
abbrev cJ33_init : ByteArray := prog_20_method_2_code
def yJ33_init : MethodName := ⟨RJ33, "<init>", "(Ljava/lang/String;)V"⟩
def dkwJ33_init_0 : List UInt8 := [42, 43, 183, 0, 7, 177]
abbrev dktJ33_init_0 : List UInt8 := dkwJ33_init_0 ++ []
theorem dksJ33_init_0 : cJ33_init.data.toList.drop 0 = dktJ33_init_0 := by decide +kernel
theorem dJ33_init_0 : decode cJ33_init 0 = .ok (.aload_n 0, 1) := dk_42 (dk_at dksJ33_init_0 0 rfl rfl)
theorem dJ33_init_1 : decode cJ33_init 1 = .ok (.aload_n 1, 1) := dk_43 (dk_at dksJ33_init_0 1 rfl rfl)
theorem dJ33_init_2 : decode cJ33_init 2 = .ok (.invokespecial 7, 3) := dk_183 0 7 (dk_at dksJ33_init_0 2 rfl rfl)
theorem dJ33_init_5 : decode cJ33_init 5 = .ok (.return_, 1) := dk_177 (dk_at dksJ33_init_0 5 rfl rfl)
abbrev cJ33_init_2 : ByteArray := prog_20_method_1_code
def yJ33_init_2 : MethodName := ⟨RJ33, "<init>", "()V"⟩
theorem dJ33_init_2_0 : decode cJ33_init_2 0 = .ok (.aload_n 0, 1) := by decide +kernel
theorem dJ33_init_2_1 : decode cJ33_init_2 1 = .ok (.invokespecial 1, 3) := by decide +kernel
theorem dJ33_init_2_4 : decode cJ33_init_2 4 = .ok (.return_, 1) := by decide +kernel
abbrev cJ34_init : ByteArray := prog_52_method_1_code
def yJ34_init : MethodName := ⟨RJ34, "<init>", "()V"⟩
theorem dJ34_init_0 : decode cJ34_init 0 = .ok (.aload_n 0, 1) := by decide +kernel
theorem dJ34_init_1 : decode cJ34_init 1 = .ok (.invokespecial 1, 3) := by decide +kernel
theorem dJ34_init_4 : decode cJ34_init 4 = .ok (.return_, 1) := by decide +kernel
abbrev cJ35_init : ByteArray := prog_14_method_3_code
def yJ35_init : MethodName := ⟨RJ35, "<init>", "(I)V"⟩
def dkwJ35_init_0 : List UInt8 := [42, 187, 0, 10, 89, 183, 0, 12, 18, 13, 182, 0, 15, 27, 182, 0, 19, 182, 0, 22, 183, 0, 7, 177]
abbrev dktJ35_init_0 : List UInt8 := dkwJ35_init_0 ++ []
theorem dksJ35_init_0 : cJ35_init.data.toList.drop 0 = dktJ35_init_0 := by decide +kernel
theorem dJ35_init_0 : decode cJ35_init 0 = .ok (.aload_n 0, 1) := dk_42 (dk_at dksJ35_init_0 0 rfl rfl)
theorem dJ35_init_1 : decode cJ35_init 1 = .ok (.new 10, 3) := dk_187 0 10 (dk_at dksJ35_init_0 1 rfl rfl)
theorem dJ35_init_4 : decode cJ35_init 4 = .ok (.dup, 1) := dk_89 (dk_at dksJ35_init_0 4 rfl rfl)
theorem dJ35_init_5 : decode cJ35_init 5 = .ok (.invokespecial 12, 3) := dk_183 0 12 (dk_at dksJ35_init_0 5 rfl rfl)
theorem dJ35_init_8 : decode cJ35_init 8 = .ok (.ldc 13, 2) := dk_18 13 (dk_at dksJ35_init_0 8 rfl rfl)
theorem dJ35_init_10 : decode cJ35_init 10 = .ok (.invokevirtual 15, 3) := dk_182 0 15 (dk_at dksJ35_init_0 10 rfl rfl)
theorem dJ35_init_13 : decode cJ35_init 13 = .ok (.iload_n 1, 1) := dk_27 (dk_at dksJ35_init_0 13 rfl rfl)
theorem dJ35_init_14 : decode cJ35_init 14 = .ok (.invokevirtual 19, 3) := dk_182 0 19 (dk_at dksJ35_init_0 14 rfl rfl)
theorem dJ35_init_17 : decode cJ35_init 17 = .ok (.invokevirtual 22, 3) := dk_182 0 22 (dk_at dksJ35_init_0 17 rfl rfl)
theorem dJ35_init_20 : decode cJ35_init 20 = .ok (.invokespecial 7, 3) := dk_183 0 7 (dk_at dksJ35_init_0 20 rfl rfl)
theorem dJ35_init_23 : decode cJ35_init 23 = .ok (.return_, 1) := dk_177 (dk_at dksJ35_init_0 23 rfl rfl)
abbrev cJ35_init_2 : ByteArray := prog_14_method_2_code
def yJ35_init_2 : MethodName := ⟨RJ35, "<init>", "(Ljava/lang/String;)V"⟩
def dkwJ35_init_2_0 : List UInt8 := [42, 43, 183, 0, 7, 177]
abbrev dktJ35_init_2_0 : List UInt8 := dkwJ35_init_2_0 ++ []
theorem dksJ35_init_2_0 : cJ35_init_2.data.toList.drop 0 = dktJ35_init_2_0 := by decide +kernel
theorem dJ35_init_2_0 : decode cJ35_init_2 0 = .ok (.aload_n 0, 1) := dk_42 (dk_at dksJ35_init_2_0 0 rfl rfl)
theorem dJ35_init_2_1 : decode cJ35_init_2 1 = .ok (.aload_n 1, 1) := dk_43 (dk_at dksJ35_init_2_0 1 rfl rfl)
theorem dJ35_init_2_2 : decode cJ35_init_2 2 = .ok (.invokespecial 7, 3) := dk_183 0 7 (dk_at dksJ35_init_2_0 2 rfl rfl)
theorem dJ35_init_2_5 : decode cJ35_init_2 5 = .ok (.return_, 1) := dk_177 (dk_at dksJ35_init_2_0 5 rfl rfl)
abbrev cJ36_of : ByteArray := prog_64_method_39_code
def yJ36_of : MethodName := ⟨RJ36, "of", "(Ljava/lang/Object;Ljava/lang/Object;Ljava/lang/Object;)Ljava/util/List;"⟩
def dkwJ36_of_0 : List UInt8 := [6, 189, 0, 103, 89, 3, 42, 83, 89, 4, 43, 83, 89, 5, 44, 83, 184, 0, 105, 176]
abbrev dktJ36_of_0 : List UInt8 := dkwJ36_of_0 ++ []
theorem dksJ36_of_0 : cJ36_of.data.toList.drop 0 = dktJ36_of_0 := by decide +kernel
theorem dJ36_of_0 : decode cJ36_of 0 = .ok (.iconst 3, 1) := dk_6 (dk_at dksJ36_of_0 0 rfl rfl)
theorem dJ36_of_1 : decode cJ36_of 1 = .ok (.anewarray 103, 3) := dk_189 0 103 (dk_at dksJ36_of_0 1 rfl rfl)
theorem dJ36_of_4 : decode cJ36_of 4 = .ok (.dup, 1) := dk_89 (dk_at dksJ36_of_0 4 rfl rfl)
theorem dJ36_of_5 : decode cJ36_of 5 = .ok (.iconst 0, 1) := dk_3 (dk_at dksJ36_of_0 5 rfl rfl)
theorem dJ36_of_6 : decode cJ36_of 6 = .ok (.aload_n 0, 1) := dk_42 (dk_at dksJ36_of_0 6 rfl rfl)
theorem dJ36_of_7 : decode cJ36_of 7 = .ok (.aastore, 1) := dk_83 (dk_at dksJ36_of_0 7 rfl rfl)
theorem dJ36_of_8 : decode cJ36_of 8 = .ok (.dup, 1) := dk_89 (dk_at dksJ36_of_0 8 rfl rfl)
theorem dJ36_of_9 : decode cJ36_of 9 = .ok (.iconst 1, 1) := dk_4 (dk_at dksJ36_of_0 9 rfl rfl)
theorem dJ36_of_10 : decode cJ36_of 10 = .ok (.aload_n 1, 1) := dk_43 (dk_at dksJ36_of_0 10 rfl rfl)
theorem dJ36_of_11 : decode cJ36_of 11 = .ok (.aastore, 1) := dk_83 (dk_at dksJ36_of_0 11 rfl rfl)
theorem dJ36_of_12 : decode cJ36_of 12 = .ok (.dup, 1) := dk_89 (dk_at dksJ36_of_0 12 rfl rfl)
theorem dJ36_of_13 : decode cJ36_of 13 = .ok (.iconst 2, 1) := dk_5 (dk_at dksJ36_of_0 13 rfl rfl)
theorem dJ36_of_14 : decode cJ36_of 14 = .ok (.aload_n 2, 1) := dk_44 (dk_at dksJ36_of_0 14 rfl rfl)
theorem dJ36_of_15 : decode cJ36_of 15 = .ok (.aastore, 1) := dk_83 (dk_at dksJ36_of_0 15 rfl rfl)
theorem dJ36_of_16 : decode cJ36_of 16 = .ok (.invokestatic 105, 3) := dk_184 0 105 (dk_at dksJ36_of_0 16 rfl rfl)
theorem dJ36_of_19 : decode cJ36_of 19 = .ok (.areturn, 1) := dk_176 (dk_at dksJ36_of_0 19 rfl rfl)
abbrev cJ36_of_2 : ByteArray := prog_64_method_44_code
def yJ36_of_2 : MethodName := ⟨RJ36, "of", "(Ljava/lang/Object;Ljava/lang/Object;Ljava/lang/Object;Ljava/lang/Object;Ljava/lang/Object;Ljava/lang/Object;Ljava/lang/Object;Ljava/lang/Object;)Ljava/util/List;"⟩
def dkwJ36_of_2_1 : List UInt8 := [25, 4, 83, 89, 8, 25, 5, 83, 89, 16, 6, 25, 6, 83, 89, 16, 7, 25, 7, 83, 184, 0, 105, 176]
abbrev dktJ36_of_2_1 : List UInt8 := dkwJ36_of_2_1 ++ []
def dkwJ36_of_2_0 : List UInt8 := [16, 8, 189, 0, 103, 89, 3, 42, 83, 89, 4, 43, 83, 89, 5, 44, 83, 89, 6, 45, 83, 89, 7]
abbrev dktJ36_of_2_0 : List UInt8 := dkwJ36_of_2_0 ++ dktJ36_of_2_1
theorem dksJ36_of_2_0 : cJ36_of_2.data.toList.drop 0 = dktJ36_of_2_0 := by decide +kernel
theorem dksJ36_of_2_1 : cJ36_of_2.data.toList.drop 23 = dktJ36_of_2_1 := dk_seg dksJ36_of_2_0 23 rfl rfl
theorem dJ36_of_2_0 : decode cJ36_of_2 0 = .ok (.bipush 8, 2) := dk_16 8 (dk_at dksJ36_of_2_0 0 rfl rfl)
theorem dJ36_of_2_2 : decode cJ36_of_2 2 = .ok (.anewarray 103, 3) := dk_189 0 103 (dk_at dksJ36_of_2_0 2 rfl rfl)
theorem dJ36_of_2_5 : decode cJ36_of_2 5 = .ok (.dup, 1) := dk_89 (dk_at dksJ36_of_2_0 5 rfl rfl)
theorem dJ36_of_2_6 : decode cJ36_of_2 6 = .ok (.iconst 0, 1) := dk_3 (dk_at dksJ36_of_2_0 6 rfl rfl)
theorem dJ36_of_2_7 : decode cJ36_of_2 7 = .ok (.aload_n 0, 1) := dk_42 (dk_at dksJ36_of_2_0 7 rfl rfl)
theorem dJ36_of_2_8 : decode cJ36_of_2 8 = .ok (.aastore, 1) := dk_83 (dk_at dksJ36_of_2_0 8 rfl rfl)
theorem dJ36_of_2_9 : decode cJ36_of_2 9 = .ok (.dup, 1) := dk_89 (dk_at dksJ36_of_2_0 9 rfl rfl)
theorem dJ36_of_2_10 : decode cJ36_of_2 10 = .ok (.iconst 1, 1) := dk_4 (dk_at dksJ36_of_2_0 10 rfl rfl)
theorem dJ36_of_2_11 : decode cJ36_of_2 11 = .ok (.aload_n 1, 1) := dk_43 (dk_at dksJ36_of_2_0 11 rfl rfl)
theorem dJ36_of_2_12 : decode cJ36_of_2 12 = .ok (.aastore, 1) := dk_83 (dk_at dksJ36_of_2_0 12 rfl rfl)
theorem dJ36_of_2_13 : decode cJ36_of_2 13 = .ok (.dup, 1) := dk_89 (dk_at dksJ36_of_2_0 13 rfl rfl)
theorem dJ36_of_2_14 : decode cJ36_of_2 14 = .ok (.iconst 2, 1) := dk_5 (dk_at dksJ36_of_2_0 14 rfl rfl)
theorem dJ36_of_2_15 : decode cJ36_of_2 15 = .ok (.aload_n 2, 1) := dk_44 (dk_at dksJ36_of_2_0 15 rfl rfl)
theorem dJ36_of_2_16 : decode cJ36_of_2 16 = .ok (.aastore, 1) := dk_83 (dk_at dksJ36_of_2_0 16 rfl rfl)
theorem dJ36_of_2_17 : decode cJ36_of_2 17 = .ok (.dup, 1) := dk_89 (dk_at dksJ36_of_2_0 17 rfl rfl)
theorem dJ36_of_2_18 : decode cJ36_of_2 18 = .ok (.iconst 3, 1) := dk_6 (dk_at dksJ36_of_2_0 18 rfl rfl)
theorem dJ36_of_2_19 : decode cJ36_of_2 19 = .ok (.aload_n 3, 1) := dk_45 (dk_at dksJ36_of_2_0 19 rfl rfl)
theorem dJ36_of_2_20 : decode cJ36_of_2 20 = .ok (.aastore, 1) := dk_83 (dk_at dksJ36_of_2_0 20 rfl rfl)
theorem dJ36_of_2_21 : decode cJ36_of_2 21 = .ok (.dup, 1) := dk_89 (dk_at dksJ36_of_2_0 21 rfl rfl)
theorem dJ36_of_2_22 : decode cJ36_of_2 22 = .ok (.iconst 4, 1) := dk_7 (dk_at dksJ36_of_2_0 22 rfl rfl)
theorem dJ36_of_2_23 : decode cJ36_of_2 23 = .ok (.aload 4, 2) := dk_25 4 (dk_at dksJ36_of_2_1 0 rfl rfl)
theorem dJ36_of_2_25 : decode cJ36_of_2 25 = .ok (.aastore, 1) := dk_83 (dk_at dksJ36_of_2_1 2 rfl rfl)
theorem dJ36_of_2_26 : decode cJ36_of_2 26 = .ok (.dup, 1) := dk_89 (dk_at dksJ36_of_2_1 3 rfl rfl)
theorem dJ36_of_2_27 : decode cJ36_of_2 27 = .ok (.iconst 5, 1) := dk_8 (dk_at dksJ36_of_2_1 4 rfl rfl)
theorem dJ36_of_2_28 : decode cJ36_of_2 28 = .ok (.aload 5, 2) := dk_25 5 (dk_at dksJ36_of_2_1 5 rfl rfl)
theorem dJ36_of_2_30 : decode cJ36_of_2 30 = .ok (.aastore, 1) := dk_83 (dk_at dksJ36_of_2_1 7 rfl rfl)
theorem dJ36_of_2_31 : decode cJ36_of_2 31 = .ok (.dup, 1) := dk_89 (dk_at dksJ36_of_2_1 8 rfl rfl)
theorem dJ36_of_2_32 : decode cJ36_of_2 32 = .ok (.bipush 6, 2) := dk_16 6 (dk_at dksJ36_of_2_1 9 rfl rfl)
theorem dJ36_of_2_34 : decode cJ36_of_2 34 = .ok (.aload 6, 2) := dk_25 6 (dk_at dksJ36_of_2_1 11 rfl rfl)
theorem dJ36_of_2_36 : decode cJ36_of_2 36 = .ok (.aastore, 1) := dk_83 (dk_at dksJ36_of_2_1 13 rfl rfl)
theorem dJ36_of_2_37 : decode cJ36_of_2 37 = .ok (.dup, 1) := dk_89 (dk_at dksJ36_of_2_1 14 rfl rfl)
theorem dJ36_of_2_38 : decode cJ36_of_2 38 = .ok (.bipush 7, 2) := dk_16 7 (dk_at dksJ36_of_2_1 15 rfl rfl)
theorem dJ36_of_2_40 : decode cJ36_of_2 40 = .ok (.aload 7, 2) := dk_25 7 (dk_at dksJ36_of_2_1 17 rfl rfl)
theorem dJ36_of_2_42 : decode cJ36_of_2 42 = .ok (.aastore, 1) := dk_83 (dk_at dksJ36_of_2_1 19 rfl rfl)
theorem dJ36_of_2_43 : decode cJ36_of_2 43 = .ok (.invokestatic 105, 3) := dk_184 0 105 (dk_at dksJ36_of_2_1 20 rfl rfl)
theorem dJ36_of_2_46 : decode cJ36_of_2 46 = .ok (.areturn, 1) := dk_176 (dk_at dksJ36_of_2_1 23 rfl rfl)
abbrev cJ37_init : ByteArray := prog_55_method_1_code
def yJ37_init : MethodName := ⟨RJ37, "<init>", "()V"⟩
theorem dJ37_init_0 : decode cJ37_init 0 = .ok (.aload_n 0, 1) := by decide +kernel
theorem dJ37_init_1 : decode cJ37_init 1 = .ok (.invokespecial 1, 3) := by decide +kernel
theorem dJ37_init_4 : decode cJ37_init 4 = .ok (.return_, 1) := by decide +kernel
abbrev cJ38_init : ByteArray := prog_56_method_1_code
def yJ38_init : MethodName := ⟨RJ38, "<init>", "()V"⟩
theorem dJ38_init_0 : decode cJ38_init 0 = .ok (.aload_n 0, 1) := by decide +kernel
theorem dJ38_init_1 : decode cJ38_init 1 = .ok (.invokespecial 1, 3) := by decide +kernel
theorem dJ38_init_4 : decode cJ38_init 4 = .ok (.return_, 1) := by decide +kernel
abbrev cJ38_outOfBounds : ByteArray := prog_56_method_17_code
def yJ38_outOfBounds : MethodName := ⟨RJ38, "outOfBounds", "(I)Ljava/lang/IndexOutOfBoundsException;"⟩
def dkwJ38_outOfBounds_1 : List UInt8 := [182, 0, 36, 42, 182, 0, 13, 182, 0, 40, 182, 0, 43, 183, 0, 47, 176]
abbrev dktJ38_outOfBounds_1 : List UInt8 := dkwJ38_outOfBounds_1 ++ []
def dkwJ38_outOfBounds_0 : List UInt8 := [187, 0, 29, 89, 187, 0, 31, 89, 183, 0, 33, 18, 116, 182, 0, 36, 27, 182, 0, 40, 18, 118]
abbrev dktJ38_outOfBounds_0 : List UInt8 := dkwJ38_outOfBounds_0 ++ dktJ38_outOfBounds_1
theorem dksJ38_outOfBounds_0 : cJ38_outOfBounds.data.toList.drop 0 = dktJ38_outOfBounds_0 := by decide +kernel
theorem dksJ38_outOfBounds_1 : cJ38_outOfBounds.data.toList.drop 22 = dktJ38_outOfBounds_1 := dk_seg dksJ38_outOfBounds_0 22 rfl rfl
theorem dJ38_outOfBounds_0 : decode cJ38_outOfBounds 0 = .ok (.new 29, 3) := dk_187 0 29 (dk_at dksJ38_outOfBounds_0 0 rfl rfl)
theorem dJ38_outOfBounds_3 : decode cJ38_outOfBounds 3 = .ok (.dup, 1) := dk_89 (dk_at dksJ38_outOfBounds_0 3 rfl rfl)
theorem dJ38_outOfBounds_4 : decode cJ38_outOfBounds 4 = .ok (.new 31, 3) := dk_187 0 31 (dk_at dksJ38_outOfBounds_0 4 rfl rfl)
theorem dJ38_outOfBounds_7 : decode cJ38_outOfBounds 7 = .ok (.dup, 1) := dk_89 (dk_at dksJ38_outOfBounds_0 7 rfl rfl)
theorem dJ38_outOfBounds_8 : decode cJ38_outOfBounds 8 = .ok (.invokespecial 33, 3) := dk_183 0 33 (dk_at dksJ38_outOfBounds_0 8 rfl rfl)
theorem dJ38_outOfBounds_11 : decode cJ38_outOfBounds 11 = .ok (.ldc 116, 2) := dk_18 116 (dk_at dksJ38_outOfBounds_0 11 rfl rfl)
theorem dJ38_outOfBounds_13 : decode cJ38_outOfBounds 13 = .ok (.invokevirtual 36, 3) := dk_182 0 36 (dk_at dksJ38_outOfBounds_0 13 rfl rfl)
theorem dJ38_outOfBounds_16 : decode cJ38_outOfBounds 16 = .ok (.iload_n 1, 1) := dk_27 (dk_at dksJ38_outOfBounds_0 16 rfl rfl)
theorem dJ38_outOfBounds_17 : decode cJ38_outOfBounds 17 = .ok (.invokevirtual 40, 3) := dk_182 0 40 (dk_at dksJ38_outOfBounds_0 17 rfl rfl)
theorem dJ38_outOfBounds_20 : decode cJ38_outOfBounds 20 = .ok (.ldc 118, 2) := dk_18 118 (dk_at dksJ38_outOfBounds_0 20 rfl rfl)
theorem dJ38_outOfBounds_22 : decode cJ38_outOfBounds 22 = .ok (.invokevirtual 36, 3) := dk_182 0 36 (dk_at dksJ38_outOfBounds_1 0 rfl rfl)
theorem dJ38_outOfBounds_25 : decode cJ38_outOfBounds 25 = .ok (.aload_n 0, 1) := dk_42 (dk_at dksJ38_outOfBounds_1 3 rfl rfl)
theorem dJ38_outOfBounds_26 : decode cJ38_outOfBounds 26 = .ok (.invokevirtual 13, 3) := dk_182 0 13 (dk_at dksJ38_outOfBounds_1 4 rfl rfl)
theorem dJ38_outOfBounds_29 : decode cJ38_outOfBounds 29 = .ok (.invokevirtual 40, 3) := dk_182 0 40 (dk_at dksJ38_outOfBounds_1 7 rfl rfl)
theorem dJ38_outOfBounds_32 : decode cJ38_outOfBounds 32 = .ok (.invokevirtual 43, 3) := dk_182 0 43 (dk_at dksJ38_outOfBounds_1 10 rfl rfl)
theorem dJ38_outOfBounds_35 : decode cJ38_outOfBounds 35 = .ok (.invokespecial 47, 3) := dk_183 0 47 (dk_at dksJ38_outOfBounds_1 13 rfl rfl)
theorem dJ38_outOfBounds_38 : decode cJ38_outOfBounds 38 = .ok (.areturn, 1) := dk_176 (dk_at dksJ38_outOfBounds_1 16 rfl rfl)
abbrev cJ38_iterator : ByteArray := prog_56_method_10_code
def yJ38_iterator : MethodName := ⟨RJ38, "iterator", "()Ljava/util/Iterator;"⟩
def dkwJ38_iterator_0 : List UInt8 := [187, 0, 61, 89, 42, 42, 182, 0, 13, 183, 0, 63, 176]
abbrev dktJ38_iterator_0 : List UInt8 := dkwJ38_iterator_0 ++ []
theorem dksJ38_iterator_0 : cJ38_iterator.data.toList.drop 0 = dktJ38_iterator_0 := by decide +kernel
theorem dJ38_iterator_0 : decode cJ38_iterator 0 = .ok (.new 61, 3) := dk_187 0 61 (dk_at dksJ38_iterator_0 0 rfl rfl)
theorem dJ38_iterator_3 : decode cJ38_iterator 3 = .ok (.dup, 1) := dk_89 (dk_at dksJ38_iterator_0 3 rfl rfl)
theorem dJ38_iterator_4 : decode cJ38_iterator 4 = .ok (.aload_n 0, 1) := dk_42 (dk_at dksJ38_iterator_0 4 rfl rfl)
theorem dJ38_iterator_5 : decode cJ38_iterator 5 = .ok (.aload_n 0, 1) := dk_42 (dk_at dksJ38_iterator_0 5 rfl rfl)
theorem dJ38_iterator_6 : decode cJ38_iterator 6 = .ok (.invokevirtual 13, 3) := dk_182 0 13 (dk_at dksJ38_iterator_0 6 rfl rfl)
theorem dJ38_iterator_9 : decode cJ38_iterator 9 = .ok (.invokespecial 63, 3) := dk_183 0 63 (dk_at dksJ38_iterator_0 9 rfl rfl)
theorem dJ38_iterator_12 : decode cJ38_iterator 12 = .ok (.areturn, 1) := dk_176 (dk_at dksJ38_iterator_0 12 rfl rfl)
abbrev cJ38_contains : ByteArray := prog_56_method_15_code
def yJ38_contains : MethodName := ⟨RJ38, "contains", "(Ljava/lang/Object;)Z"⟩
def dkwJ38_contains_0 : List UInt8 := [42, 43, 182, 0, 107, 155, 0, 7, 4, 167, 0, 4, 3, 172]
abbrev dktJ38_contains_0 : List UInt8 := dkwJ38_contains_0 ++ []
theorem dksJ38_contains_0 : cJ38_contains.data.toList.drop 0 = dktJ38_contains_0 := by decide +kernel
theorem dJ38_contains_0 : decode cJ38_contains 0 = .ok (.aload_n 0, 1) := dk_42 (dk_at dksJ38_contains_0 0 rfl rfl)
theorem dJ38_contains_1 : decode cJ38_contains 1 = .ok (.aload_n 1, 1) := dk_43 (dk_at dksJ38_contains_0 1 rfl rfl)
theorem dJ38_contains_2 : decode cJ38_contains 2 = .ok (.invokevirtual 107, 3) := dk_182 0 107 (dk_at dksJ38_contains_0 2 rfl rfl)
theorem dJ38_contains_5 : decode cJ38_contains 5 = .ok (.ifCond .lt 7, 3) := dk_155 0 7 (dk_at dksJ38_contains_0 5 rfl rfl)
theorem dJ38_contains_8 : decode cJ38_contains 8 = .ok (.iconst 1, 1) := dk_4 (dk_at dksJ38_contains_0 8 rfl rfl)
theorem dJ38_contains_9 : decode cJ38_contains 9 = .ok (.goto 4, 3) := dk_167 0 4 (dk_at dksJ38_contains_0 9 rfl rfl)
theorem dJ38_contains_12 : decode cJ38_contains 12 = .ok (.iconst 0, 1) := dk_3 (dk_at dksJ38_contains_0 12 rfl rfl)
theorem dJ38_contains_13 : decode cJ38_contains 13 = .ok (.ireturn, 1) := dk_172 (dk_at dksJ38_contains_0 13 rfl rfl)
abbrev cJ39_init : ByteArray := prog_57_method_1_code
def yJ39_init : MethodName := ⟨RJ39, "<init>", "(Ljava/lang/Object;)V"⟩
def dkwJ39_init_0 : List UInt8 := [42, 183, 0, 1, 42, 43, 184, 0, 7, 181, 0, 13, 42, 178, 0, 19, 181, 0, 24, 177]
abbrev dktJ39_init_0 : List UInt8 := dkwJ39_init_0 ++ []
theorem dksJ39_init_0 : cJ39_init.data.toList.drop 0 = dktJ39_init_0 := by decide +kernel
theorem dJ39_init_0 : decode cJ39_init 0 = .ok (.aload_n 0, 1) := dk_42 (dk_at dksJ39_init_0 0 rfl rfl)
theorem dJ39_init_1 : decode cJ39_init 1 = .ok (.invokespecial 1, 3) := dk_183 0 1 (dk_at dksJ39_init_0 1 rfl rfl)
theorem dJ39_init_4 : decode cJ39_init 4 = .ok (.aload_n 0, 1) := dk_42 (dk_at dksJ39_init_0 4 rfl rfl)
theorem dJ39_init_5 : decode cJ39_init 5 = .ok (.aload_n 1, 1) := dk_43 (dk_at dksJ39_init_0 5 rfl rfl)
theorem dJ39_init_6 : decode cJ39_init 6 = .ok (.invokestatic 7, 3) := dk_184 0 7 (dk_at dksJ39_init_0 6 rfl rfl)
theorem dJ39_init_9 : decode cJ39_init 9 = .ok (.putfield 13, 3) := dk_181 0 13 (dk_at dksJ39_init_0 9 rfl rfl)
theorem dJ39_init_12 : decode cJ39_init 12 = .ok (.aload_n 0, 1) := dk_42 (dk_at dksJ39_init_0 12 rfl rfl)
theorem dJ39_init_13 : decode cJ39_init 13 = .ok (.getstatic 19, 3) := dk_178 0 19 (dk_at dksJ39_init_0 13 rfl rfl)
theorem dJ39_init_16 : decode cJ39_init 16 = .ok (.putfield 24, 3) := dk_181 0 24 (dk_at dksJ39_init_0 16 rfl rfl)
theorem dJ39_init_19 : decode cJ39_init 19 = .ok (.return_, 1) := dk_177 (dk_at dksJ39_init_0 19 rfl rfl)
abbrev cJ39_init_2 : ByteArray := prog_57_method_2_code
def yJ39_init_2 : MethodName := ⟨RJ39, "<init>", "(Ljava/lang/Object;Ljava/lang/Object;)V"⟩
def dkwJ39_init_2_0 : List UInt8 := [42, 183, 0, 1, 42, 43, 184, 0, 7, 181, 0, 13, 42, 44, 184, 0, 7, 181, 0, 24, 177]
abbrev dktJ39_init_2_0 : List UInt8 := dkwJ39_init_2_0 ++ []
theorem dksJ39_init_2_0 : cJ39_init_2.data.toList.drop 0 = dktJ39_init_2_0 := by decide +kernel
theorem dJ39_init_2_0 : decode cJ39_init_2 0 = .ok (.aload_n 0, 1) := dk_42 (dk_at dksJ39_init_2_0 0 rfl rfl)
theorem dJ39_init_2_1 : decode cJ39_init_2 1 = .ok (.invokespecial 1, 3) := dk_183 0 1 (dk_at dksJ39_init_2_0 1 rfl rfl)
theorem dJ39_init_2_4 : decode cJ39_init_2 4 = .ok (.aload_n 0, 1) := dk_42 (dk_at dksJ39_init_2_0 4 rfl rfl)
theorem dJ39_init_2_5 : decode cJ39_init_2 5 = .ok (.aload_n 1, 1) := dk_43 (dk_at dksJ39_init_2_0 5 rfl rfl)
theorem dJ39_init_2_6 : decode cJ39_init_2 6 = .ok (.invokestatic 7, 3) := dk_184 0 7 (dk_at dksJ39_init_2_0 6 rfl rfl)
theorem dJ39_init_2_9 : decode cJ39_init_2 9 = .ok (.putfield 13, 3) := dk_181 0 13 (dk_at dksJ39_init_2_0 9 rfl rfl)
theorem dJ39_init_2_12 : decode cJ39_init_2 12 = .ok (.aload_n 0, 1) := dk_42 (dk_at dksJ39_init_2_0 12 rfl rfl)
theorem dJ39_init_2_13 : decode cJ39_init_2 13 = .ok (.aload_n 2, 1) := dk_44 (dk_at dksJ39_init_2_0 13 rfl rfl)
theorem dJ39_init_2_14 : decode cJ39_init_2 14 = .ok (.invokestatic 7, 3) := dk_184 0 7 (dk_at dksJ39_init_2_0 14 rfl rfl)
theorem dJ39_init_2_17 : decode cJ39_init_2 17 = .ok (.putfield 24, 3) := dk_181 0 24 (dk_at dksJ39_init_2_0 17 rfl rfl)
theorem dJ39_init_2_20 : decode cJ39_init_2 20 = .ok (.return_, 1) := dk_177 (dk_at dksJ39_init_2_0 20 rfl rfl)
abbrev cJ39_get : ByteArray := prog_57_method_5_code
def yJ39_get : MethodName := ⟨RJ39, "get", "(I)Ljava/lang/Object;"⟩
def dkwJ39_get_1 : List UInt8 := [42, 180, 0, 24, 176, 42, 27, 182, 0, 27, 191]
abbrev dktJ39_get_1 : List UInt8 := dkwJ39_get_1 ++ []
def dkwJ39_get_0 : List UInt8 := [27, 154, 0, 8, 42, 180, 0, 13, 176, 27, 4, 160, 0, 18, 42, 180, 0, 24, 178, 0, 19, 165, 0, 8]
abbrev dktJ39_get_0 : List UInt8 := dkwJ39_get_0 ++ dktJ39_get_1
theorem dksJ39_get_0 : cJ39_get.data.toList.drop 0 = dktJ39_get_0 := by decide +kernel
theorem dksJ39_get_1 : cJ39_get.data.toList.drop 24 = dktJ39_get_1 := dk_seg dksJ39_get_0 24 rfl rfl
theorem dJ39_get_0 : decode cJ39_get 0 = .ok (.iload_n 1, 1) := dk_27 (dk_at dksJ39_get_0 0 rfl rfl)
theorem dJ39_get_1 : decode cJ39_get 1 = .ok (.ifCond .ne 8, 3) := dk_154 0 8 (dk_at dksJ39_get_0 1 rfl rfl)
theorem dJ39_get_4 : decode cJ39_get 4 = .ok (.aload_n 0, 1) := dk_42 (dk_at dksJ39_get_0 4 rfl rfl)
theorem dJ39_get_5 : decode cJ39_get 5 = .ok (.getfield 13, 3) := dk_180 0 13 (dk_at dksJ39_get_0 5 rfl rfl)
theorem dJ39_get_8 : decode cJ39_get 8 = .ok (.areturn, 1) := dk_176 (dk_at dksJ39_get_0 8 rfl rfl)
theorem dJ39_get_9 : decode cJ39_get 9 = .ok (.iload_n 1, 1) := dk_27 (dk_at dksJ39_get_0 9 rfl rfl)
theorem dJ39_get_10 : decode cJ39_get 10 = .ok (.iconst 1, 1) := dk_4 (dk_at dksJ39_get_0 10 rfl rfl)
theorem dJ39_get_11 : decode cJ39_get 11 = .ok (.if_icmp .ne 18, 3) := dk_160 0 18 (dk_at dksJ39_get_0 11 rfl rfl)
theorem dJ39_get_14 : decode cJ39_get 14 = .ok (.aload_n 0, 1) := dk_42 (dk_at dksJ39_get_0 14 rfl rfl)
theorem dJ39_get_15 : decode cJ39_get 15 = .ok (.getfield 24, 3) := dk_180 0 24 (dk_at dksJ39_get_0 15 rfl rfl)
theorem dJ39_get_18 : decode cJ39_get 18 = .ok (.getstatic 19, 3) := dk_178 0 19 (dk_at dksJ39_get_0 18 rfl rfl)
theorem dJ39_get_21 : decode cJ39_get 21 = .ok (.if_acmp .eq 8, 3) := dk_165 0 8 (dk_at dksJ39_get_0 21 rfl rfl)
theorem dJ39_get_24 : decode cJ39_get 24 = .ok (.aload_n 0, 1) := dk_42 (dk_at dksJ39_get_1 0 rfl rfl)
theorem dJ39_get_25 : decode cJ39_get 25 = .ok (.getfield 24, 3) := dk_180 0 24 (dk_at dksJ39_get_1 1 rfl rfl)
theorem dJ39_get_28 : decode cJ39_get 28 = .ok (.areturn, 1) := dk_176 (dk_at dksJ39_get_1 4 rfl rfl)
theorem dJ39_get_29 : decode cJ39_get 29 = .ok (.aload_n 0, 1) := dk_42 (dk_at dksJ39_get_1 5 rfl rfl)
theorem dJ39_get_30 : decode cJ39_get 30 = .ok (.iload_n 1, 1) := dk_27 (dk_at dksJ39_get_1 6 rfl rfl)
theorem dJ39_get_31 : decode cJ39_get 31 = .ok (.invokevirtual 27, 3) := dk_182 0 27 (dk_at dksJ39_get_1 7 rfl rfl)
theorem dJ39_get_34 : decode cJ39_get 34 = .ok (.athrow, 1) := dk_191 (dk_at dksJ39_get_1 10 rfl rfl)
abbrev cJ39_size : ByteArray := prog_57_method_3_code
def yJ39_size : MethodName := ⟨RJ39, "size", "()I"⟩
def dkwJ39_size_0 : List UInt8 := [42, 180, 0, 24, 178, 0, 19, 165, 0, 7, 5, 167, 0, 4, 4, 172]
abbrev dktJ39_size_0 : List UInt8 := dkwJ39_size_0 ++ []
theorem dksJ39_size_0 : cJ39_size.data.toList.drop 0 = dktJ39_size_0 := by decide +kernel
theorem dJ39_size_0 : decode cJ39_size 0 = .ok (.aload_n 0, 1) := dk_42 (dk_at dksJ39_size_0 0 rfl rfl)
theorem dJ39_size_1 : decode cJ39_size 1 = .ok (.getfield 24, 3) := dk_180 0 24 (dk_at dksJ39_size_0 1 rfl rfl)
theorem dJ39_size_4 : decode cJ39_size 4 = .ok (.getstatic 19, 3) := dk_178 0 19 (dk_at dksJ39_size_0 4 rfl rfl)
theorem dJ39_size_7 : decode cJ39_size 7 = .ok (.if_acmp .eq 7, 3) := dk_165 0 7 (dk_at dksJ39_size_0 7 rfl rfl)
theorem dJ39_size_10 : decode cJ39_size 10 = .ok (.iconst 2, 1) := dk_5 (dk_at dksJ39_size_0 10 rfl rfl)
theorem dJ39_size_11 : decode cJ39_size 11 = .ok (.goto 4, 3) := dk_167 0 4 (dk_at dksJ39_size_0 11 rfl rfl)
theorem dJ39_size_14 : decode cJ39_size 14 = .ok (.iconst 1, 1) := dk_4 (dk_at dksJ39_size_0 14 rfl rfl)
theorem dJ39_size_15 : decode cJ39_size 15 = .ok (.ireturn, 1) := dk_172 (dk_at dksJ39_size_0 15 rfl rfl)
abbrev cJ39_indexOf : ByteArray := prog_57_method_6_code
def yJ39_indexOf : MethodName := ⟨RJ39, "indexOf", "(Ljava/lang/Object;)I"⟩
def dkwJ39_indexOf_1 : List UInt8 := [178, 0, 19, 165, 0, 16, 43, 42, 180, 0, 24, 182, 0, 31, 153, 0, 5, 4, 172, 2, 172]
abbrev dktJ39_indexOf_1 : List UInt8 := dkwJ39_indexOf_1 ++ []
def dkwJ39_indexOf_0 : List UInt8 := [43, 184, 0, 7, 87, 43, 42, 180, 0, 13, 182, 0, 31, 153, 0, 5, 3, 172, 42, 180, 0, 24]
abbrev dktJ39_indexOf_0 : List UInt8 := dkwJ39_indexOf_0 ++ dktJ39_indexOf_1
theorem dksJ39_indexOf_0 : cJ39_indexOf.data.toList.drop 0 = dktJ39_indexOf_0 := by decide +kernel
theorem dksJ39_indexOf_1 : cJ39_indexOf.data.toList.drop 22 = dktJ39_indexOf_1 := dk_seg dksJ39_indexOf_0 22 rfl rfl
theorem dJ39_indexOf_0 : decode cJ39_indexOf 0 = .ok (.aload_n 1, 1) := dk_43 (dk_at dksJ39_indexOf_0 0 rfl rfl)
theorem dJ39_indexOf_1 : decode cJ39_indexOf 1 = .ok (.invokestatic 7, 3) := dk_184 0 7 (dk_at dksJ39_indexOf_0 1 rfl rfl)
theorem dJ39_indexOf_4 : decode cJ39_indexOf 4 = .ok (.pop, 1) := dk_87 (dk_at dksJ39_indexOf_0 4 rfl rfl)
theorem dJ39_indexOf_5 : decode cJ39_indexOf 5 = .ok (.aload_n 1, 1) := dk_43 (dk_at dksJ39_indexOf_0 5 rfl rfl)
theorem dJ39_indexOf_6 : decode cJ39_indexOf 6 = .ok (.aload_n 0, 1) := dk_42 (dk_at dksJ39_indexOf_0 6 rfl rfl)
theorem dJ39_indexOf_7 : decode cJ39_indexOf 7 = .ok (.getfield 13, 3) := dk_180 0 13 (dk_at dksJ39_indexOf_0 7 rfl rfl)
theorem dJ39_indexOf_10 : decode cJ39_indexOf 10 = .ok (.invokevirtual 31, 3) := dk_182 0 31 (dk_at dksJ39_indexOf_0 10 rfl rfl)
theorem dJ39_indexOf_13 : decode cJ39_indexOf 13 = .ok (.ifCond .eq 5, 3) := dk_153 0 5 (dk_at dksJ39_indexOf_0 13 rfl rfl)
theorem dJ39_indexOf_16 : decode cJ39_indexOf 16 = .ok (.iconst 0, 1) := dk_3 (dk_at dksJ39_indexOf_0 16 rfl rfl)
theorem dJ39_indexOf_17 : decode cJ39_indexOf 17 = .ok (.ireturn, 1) := dk_172 (dk_at dksJ39_indexOf_0 17 rfl rfl)
theorem dJ39_indexOf_18 : decode cJ39_indexOf 18 = .ok (.aload_n 0, 1) := dk_42 (dk_at dksJ39_indexOf_0 18 rfl rfl)
theorem dJ39_indexOf_19 : decode cJ39_indexOf 19 = .ok (.getfield 24, 3) := dk_180 0 24 (dk_at dksJ39_indexOf_0 19 rfl rfl)
theorem dJ39_indexOf_22 : decode cJ39_indexOf 22 = .ok (.getstatic 19, 3) := dk_178 0 19 (dk_at dksJ39_indexOf_1 0 rfl rfl)
theorem dJ39_indexOf_25 : decode cJ39_indexOf 25 = .ok (.if_acmp .eq 16, 3) := dk_165 0 16 (dk_at dksJ39_indexOf_1 3 rfl rfl)
theorem dJ39_indexOf_28 : decode cJ39_indexOf 28 = .ok (.aload_n 1, 1) := dk_43 (dk_at dksJ39_indexOf_1 6 rfl rfl)
theorem dJ39_indexOf_29 : decode cJ39_indexOf 29 = .ok (.aload_n 0, 1) := dk_42 (dk_at dksJ39_indexOf_1 7 rfl rfl)
theorem dJ39_indexOf_30 : decode cJ39_indexOf 30 = .ok (.getfield 24, 3) := dk_180 0 24 (dk_at dksJ39_indexOf_1 8 rfl rfl)
theorem dJ39_indexOf_33 : decode cJ39_indexOf 33 = .ok (.invokevirtual 31, 3) := dk_182 0 31 (dk_at dksJ39_indexOf_1 11 rfl rfl)
theorem dJ39_indexOf_36 : decode cJ39_indexOf 36 = .ok (.ifCond .eq 5, 3) := dk_153 0 5 (dk_at dksJ39_indexOf_1 14 rfl rfl)
theorem dJ39_indexOf_39 : decode cJ39_indexOf 39 = .ok (.iconst 1, 1) := dk_4 (dk_at dksJ39_indexOf_1 17 rfl rfl)
theorem dJ39_indexOf_40 : decode cJ39_indexOf 40 = .ok (.ireturn, 1) := dk_172 (dk_at dksJ39_indexOf_1 18 rfl rfl)
theorem dJ39_indexOf_41 : decode cJ39_indexOf 41 = .ok (.iconst (-1), 1) := dk_2 (dk_at dksJ39_indexOf_1 19 rfl rfl)
theorem dJ39_indexOf_42 : decode cJ39_indexOf 42 = .ok (.ireturn, 1) := dk_172 (dk_at dksJ39_indexOf_1 20 rfl rfl)
abbrev cJ4_init : ByteArray := prog_61_method_1_code
def yJ4_init : MethodName := ⟨RJ4, "<init>", "()V"⟩
def dkwJ4_init_0 : List UInt8 := [42, 183, 0, 1, 42, 3, 181, 0, 7, 177]
abbrev dktJ4_init_0 : List UInt8 := dkwJ4_init_0 ++ []
theorem dksJ4_init_0 : cJ4_init.data.toList.drop 0 = dktJ4_init_0 := by decide +kernel
theorem dJ4_init_0 : decode cJ4_init 0 = .ok (.aload_n 0, 1) := dk_42 (dk_at dksJ4_init_0 0 rfl rfl)
theorem dJ4_init_1 : decode cJ4_init 1 = .ok (.invokespecial 1, 3) := dk_183 0 1 (dk_at dksJ4_init_0 1 rfl rfl)
theorem dJ4_init_4 : decode cJ4_init 4 = .ok (.aload_n 0, 1) := dk_42 (dk_at dksJ4_init_0 4 rfl rfl)
theorem dJ4_init_5 : decode cJ4_init 5 = .ok (.iconst 0, 1) := dk_3 (dk_at dksJ4_init_0 5 rfl rfl)
theorem dJ4_init_6 : decode cJ4_init 6 = .ok (.putfield 7, 3) := dk_181 0 7 (dk_at dksJ4_init_0 6 rfl rfl)
theorem dJ4_init_9 : decode cJ4_init 9 = .ok (.return_, 1) := dk_177 (dk_at dksJ4_init_0 9 rfl rfl)
abbrev cJ4_size : ByteArray := prog_61_method_16_code
def yJ4_size : MethodName := ⟨RJ4, "size", "()I"⟩
theorem dJ4_size_0 : decode cJ4_size 0 = .ok (.aload_n 0, 1) := by decide +kernel
theorem dJ4_size_1 : decode cJ4_size 1 = .ok (.getfield 7, 3) := by decide +kernel
theorem dJ4_size_4 : decode cJ4_size 4 = .ok (.ireturn, 1) := by decide +kernel
abbrev cJ4_get : ByteArray := prog_61_method_22_code
def yJ4_get : MethodName := ⟨RJ4, "get", "(I)Ljava/lang/Object;"⟩
def dkwJ4_get_0 : List UInt8 := [42, 27, 182, 0, 90, 42, 27, 182, 0, 86, 180, 0, 39, 176]
abbrev dktJ4_get_0 : List UInt8 := dkwJ4_get_0 ++ []
theorem dksJ4_get_0 : cJ4_get.data.toList.drop 0 = dktJ4_get_0 := by decide +kernel
theorem dJ4_get_0 : decode cJ4_get 0 = .ok (.aload_n 0, 1) := dk_42 (dk_at dksJ4_get_0 0 rfl rfl)
theorem dJ4_get_1 : decode cJ4_get 1 = .ok (.iload_n 1, 1) := dk_27 (dk_at dksJ4_get_0 1 rfl rfl)
theorem dJ4_get_2 : decode cJ4_get 2 = .ok (.invokevirtual 90, 3) := dk_182 0 90 (dk_at dksJ4_get_0 2 rfl rfl)
theorem dJ4_get_5 : decode cJ4_get 5 = .ok (.aload_n 0, 1) := dk_42 (dk_at dksJ4_get_0 5 rfl rfl)
theorem dJ4_get_6 : decode cJ4_get 6 = .ok (.iload_n 1, 1) := dk_27 (dk_at dksJ4_get_0 6 rfl rfl)
theorem dJ4_get_7 : decode cJ4_get 7 = .ok (.invokevirtual 86, 3) := dk_182 0 86 (dk_at dksJ4_get_0 7 rfl rfl)
theorem dJ4_get_10 : decode cJ4_get 10 = .ok (.getfield 39, 3) := dk_180 0 39 (dk_at dksJ4_get_0 10 rfl rfl)
theorem dJ4_get_13 : decode cJ4_get 13 = .ok (.areturn, 1) := dk_176 (dk_at dksJ4_get_0 13 rfl rfl)
abbrev cJ4_checkElementIndex : ByteArray := prog_61_method_29_code
def yJ4_checkElementIndex : MethodName := ⟨RJ4, "checkElementIndex", "(I)V"⟩
def dkwJ4_checkElementIndex_0 : List UInt8 := [42, 27, 182, 0, 115, 154, 0, 16, 187, 0, 119, 89, 42, 27, 182, 0, 121, 183, 0, 125, 191, 177]
abbrev dktJ4_checkElementIndex_0 : List UInt8 := dkwJ4_checkElementIndex_0 ++ []
theorem dksJ4_checkElementIndex_0 : cJ4_checkElementIndex.data.toList.drop 0 = dktJ4_checkElementIndex_0 := by decide +kernel
theorem dJ4_checkElementIndex_0 : decode cJ4_checkElementIndex 0 = .ok (.aload_n 0, 1) := dk_42 (dk_at dksJ4_checkElementIndex_0 0 rfl rfl)
theorem dJ4_checkElementIndex_1 : decode cJ4_checkElementIndex 1 = .ok (.iload_n 1, 1) := dk_27 (dk_at dksJ4_checkElementIndex_0 1 rfl rfl)
theorem dJ4_checkElementIndex_2 : decode cJ4_checkElementIndex 2 = .ok (.invokevirtual 115, 3) := dk_182 0 115 (dk_at dksJ4_checkElementIndex_0 2 rfl rfl)
theorem dJ4_checkElementIndex_5 : decode cJ4_checkElementIndex 5 = .ok (.ifCond .ne 16, 3) := dk_154 0 16 (dk_at dksJ4_checkElementIndex_0 5 rfl rfl)
theorem dJ4_checkElementIndex_8 : decode cJ4_checkElementIndex 8 = .ok (.new 119, 3) := dk_187 0 119 (dk_at dksJ4_checkElementIndex_0 8 rfl rfl)
theorem dJ4_checkElementIndex_11 : decode cJ4_checkElementIndex 11 = .ok (.dup, 1) := dk_89 (dk_at dksJ4_checkElementIndex_0 11 rfl rfl)
theorem dJ4_checkElementIndex_12 : decode cJ4_checkElementIndex 12 = .ok (.aload_n 0, 1) := dk_42 (dk_at dksJ4_checkElementIndex_0 12 rfl rfl)
theorem dJ4_checkElementIndex_13 : decode cJ4_checkElementIndex 13 = .ok (.iload_n 1, 1) := dk_27 (dk_at dksJ4_checkElementIndex_0 13 rfl rfl)
theorem dJ4_checkElementIndex_14 : decode cJ4_checkElementIndex 14 = .ok (.invokevirtual 121, 3) := dk_182 0 121 (dk_at dksJ4_checkElementIndex_0 14 rfl rfl)
theorem dJ4_checkElementIndex_17 : decode cJ4_checkElementIndex 17 = .ok (.invokespecial 125, 3) := dk_183 0 125 (dk_at dksJ4_checkElementIndex_0 17 rfl rfl)
theorem dJ4_checkElementIndex_20 : decode cJ4_checkElementIndex 20 = .ok (.athrow, 1) := dk_191 (dk_at dksJ4_checkElementIndex_0 20 rfl rfl)
theorem dJ4_checkElementIndex_21 : decode cJ4_checkElementIndex 21 = .ok (.return_, 1) := dk_177 (dk_at dksJ4_checkElementIndex_0 21 rfl rfl)
abbrev cJ4_isElementIndex : ByteArray := prog_61_method_26_code
def yJ4_isElementIndex : MethodName := ⟨RJ4, "isElementIndex", "(I)Z"⟩
def dkwJ4_isElementIndex_0 : List UInt8 := [27, 155, 0, 15, 27, 42, 180, 0, 7, 162, 0, 7, 4, 167, 0, 4, 3, 172]
abbrev dktJ4_isElementIndex_0 : List UInt8 := dkwJ4_isElementIndex_0 ++ []
theorem dksJ4_isElementIndex_0 : cJ4_isElementIndex.data.toList.drop 0 = dktJ4_isElementIndex_0 := by decide +kernel
theorem dJ4_isElementIndex_0 : decode cJ4_isElementIndex 0 = .ok (.iload_n 1, 1) := dk_27 (dk_at dksJ4_isElementIndex_0 0 rfl rfl)
theorem dJ4_isElementIndex_1 : decode cJ4_isElementIndex 1 = .ok (.ifCond .lt 15, 3) := dk_155 0 15 (dk_at dksJ4_isElementIndex_0 1 rfl rfl)
theorem dJ4_isElementIndex_4 : decode cJ4_isElementIndex 4 = .ok (.iload_n 1, 1) := dk_27 (dk_at dksJ4_isElementIndex_0 4 rfl rfl)
theorem dJ4_isElementIndex_5 : decode cJ4_isElementIndex 5 = .ok (.aload_n 0, 1) := dk_42 (dk_at dksJ4_isElementIndex_0 5 rfl rfl)
theorem dJ4_isElementIndex_6 : decode cJ4_isElementIndex 6 = .ok (.getfield 7, 3) := dk_180 0 7 (dk_at dksJ4_isElementIndex_0 6 rfl rfl)
theorem dJ4_isElementIndex_9 : decode cJ4_isElementIndex 9 = .ok (.if_icmp .ge 7, 3) := dk_162 0 7 (dk_at dksJ4_isElementIndex_0 9 rfl rfl)
theorem dJ4_isElementIndex_12 : decode cJ4_isElementIndex 12 = .ok (.iconst 1, 1) := dk_4 (dk_at dksJ4_isElementIndex_0 12 rfl rfl)
theorem dJ4_isElementIndex_13 : decode cJ4_isElementIndex 13 = .ok (.goto 4, 3) := dk_167 0 4 (dk_at dksJ4_isElementIndex_0 13 rfl rfl)
theorem dJ4_isElementIndex_16 : decode cJ4_isElementIndex 16 = .ok (.iconst 0, 1) := dk_3 (dk_at dksJ4_isElementIndex_0 16 rfl rfl)
theorem dJ4_isElementIndex_17 : decode cJ4_isElementIndex 17 = .ok (.ireturn, 1) := dk_172 (dk_at dksJ4_isElementIndex_0 17 rfl rfl)
abbrev cJ4_outOfBoundsMsg : ByteArray := prog_61_method_28_code
def yJ4_outOfBoundsMsg : MethodName := ⟨RJ4, "outOfBoundsMsg", "(I)Ljava/lang/String;"⟩
def dkwJ4_outOfBoundsMsg_1 : List UInt8 := [180, 0, 7, 182, 0, 106, 182, 0, 111, 176]
abbrev dktJ4_outOfBoundsMsg_1 : List UInt8 := dkwJ4_outOfBoundsMsg_1 ++ []
def dkwJ4_outOfBoundsMsg_0 : List UInt8 := [187, 0, 97, 89, 183, 0, 99, 18, 100, 182, 0, 102, 27, 182, 0, 106, 18, 109, 182, 0, 102, 42]
abbrev dktJ4_outOfBoundsMsg_0 : List UInt8 := dkwJ4_outOfBoundsMsg_0 ++ dktJ4_outOfBoundsMsg_1
theorem dksJ4_outOfBoundsMsg_0 : cJ4_outOfBoundsMsg.data.toList.drop 0 = dktJ4_outOfBoundsMsg_0 := by decide +kernel
theorem dksJ4_outOfBoundsMsg_1 : cJ4_outOfBoundsMsg.data.toList.drop 22 = dktJ4_outOfBoundsMsg_1 := dk_seg dksJ4_outOfBoundsMsg_0 22 rfl rfl
theorem dJ4_outOfBoundsMsg_0 : decode cJ4_outOfBoundsMsg 0 = .ok (.new 97, 3) := dk_187 0 97 (dk_at dksJ4_outOfBoundsMsg_0 0 rfl rfl)
theorem dJ4_outOfBoundsMsg_3 : decode cJ4_outOfBoundsMsg 3 = .ok (.dup, 1) := dk_89 (dk_at dksJ4_outOfBoundsMsg_0 3 rfl rfl)
theorem dJ4_outOfBoundsMsg_4 : decode cJ4_outOfBoundsMsg 4 = .ok (.invokespecial 99, 3) := dk_183 0 99 (dk_at dksJ4_outOfBoundsMsg_0 4 rfl rfl)
theorem dJ4_outOfBoundsMsg_7 : decode cJ4_outOfBoundsMsg 7 = .ok (.ldc 100, 2) := dk_18 100 (dk_at dksJ4_outOfBoundsMsg_0 7 rfl rfl)
theorem dJ4_outOfBoundsMsg_9 : decode cJ4_outOfBoundsMsg 9 = .ok (.invokevirtual 102, 3) := dk_182 0 102 (dk_at dksJ4_outOfBoundsMsg_0 9 rfl rfl)
theorem dJ4_outOfBoundsMsg_12 : decode cJ4_outOfBoundsMsg 12 = .ok (.iload_n 1, 1) := dk_27 (dk_at dksJ4_outOfBoundsMsg_0 12 rfl rfl)
theorem dJ4_outOfBoundsMsg_13 : decode cJ4_outOfBoundsMsg 13 = .ok (.invokevirtual 106, 3) := dk_182 0 106 (dk_at dksJ4_outOfBoundsMsg_0 13 rfl rfl)
theorem dJ4_outOfBoundsMsg_16 : decode cJ4_outOfBoundsMsg 16 = .ok (.ldc 109, 2) := dk_18 109 (dk_at dksJ4_outOfBoundsMsg_0 16 rfl rfl)
theorem dJ4_outOfBoundsMsg_18 : decode cJ4_outOfBoundsMsg 18 = .ok (.invokevirtual 102, 3) := dk_182 0 102 (dk_at dksJ4_outOfBoundsMsg_0 18 rfl rfl)
theorem dJ4_outOfBoundsMsg_21 : decode cJ4_outOfBoundsMsg 21 = .ok (.aload_n 0, 1) := dk_42 (dk_at dksJ4_outOfBoundsMsg_0 21 rfl rfl)
theorem dJ4_outOfBoundsMsg_22 : decode cJ4_outOfBoundsMsg 22 = .ok (.getfield 7, 3) := dk_180 0 7 (dk_at dksJ4_outOfBoundsMsg_1 0 rfl rfl)
theorem dJ4_outOfBoundsMsg_25 : decode cJ4_outOfBoundsMsg 25 = .ok (.invokevirtual 106, 3) := dk_182 0 106 (dk_at dksJ4_outOfBoundsMsg_1 3 rfl rfl)
theorem dJ4_outOfBoundsMsg_28 : decode cJ4_outOfBoundsMsg 28 = .ok (.invokevirtual 111, 3) := dk_182 0 111 (dk_at dksJ4_outOfBoundsMsg_1 6 rfl rfl)
theorem dJ4_outOfBoundsMsg_31 : decode cJ4_outOfBoundsMsg 31 = .ok (.areturn, 1) := dk_176 (dk_at dksJ4_outOfBoundsMsg_1 9 rfl rfl)
abbrev cJ4_node : ByteArray := prog_61_method_31_code
def yJ4_node : MethodName := ⟨RJ4, "node", "(I)Ljava/util/LinkedList$Node;"⟩
def dkwJ4_node_2 : List UInt8 := [29, 27, 164, 0, 14, 44, 180, 0, 30, 77, 132, 3, 255, 167, 255, 243, 44, 176]
abbrev dktJ4_node_2 : List UInt8 := dkwJ4_node_2 ++ []
def dkwJ4_node_1 : List UInt8 := [180, 0, 36, 77, 132, 3, 1, 167, 255, 243, 44, 176, 42, 180, 0, 27, 77, 42, 180, 0, 7, 4, 100, 62]
abbrev dktJ4_node_1 : List UInt8 := dkwJ4_node_1 ++ dktJ4_node_2
def dkwJ4_node_0 : List UInt8 := [27, 42, 180, 0, 7, 4, 122, 162, 0, 28, 42, 180, 0, 18, 77, 3, 62, 29, 27, 162, 0, 14, 44]
abbrev dktJ4_node_0 : List UInt8 := dkwJ4_node_0 ++ dktJ4_node_1
theorem dksJ4_node_0 : cJ4_node.data.toList.drop 0 = dktJ4_node_0 := by decide +kernel
theorem dksJ4_node_1 : cJ4_node.data.toList.drop 23 = dktJ4_node_1 := dk_seg dksJ4_node_0 23 rfl rfl
theorem dksJ4_node_2 : cJ4_node.data.toList.drop 47 = dktJ4_node_2 := dk_seg dksJ4_node_1 24 rfl rfl
theorem dJ4_node_0 : decode cJ4_node 0 = .ok (.iload_n 1, 1) := dk_27 (dk_at dksJ4_node_0 0 rfl rfl)
theorem dJ4_node_1 : decode cJ4_node 1 = .ok (.aload_n 0, 1) := dk_42 (dk_at dksJ4_node_0 1 rfl rfl)
theorem dJ4_node_2 : decode cJ4_node 2 = .ok (.getfield 7, 3) := dk_180 0 7 (dk_at dksJ4_node_0 2 rfl rfl)
theorem dJ4_node_5 : decode cJ4_node 5 = .ok (.iconst 1, 1) := dk_4 (dk_at dksJ4_node_0 5 rfl rfl)
theorem dJ4_node_6 : decode cJ4_node 6 = .ok (.ishr, 1) := dk_122 (dk_at dksJ4_node_0 6 rfl rfl)
theorem dJ4_node_7 : decode cJ4_node 7 = .ok (.if_icmp .ge 28, 3) := dk_162 0 28 (dk_at dksJ4_node_0 7 rfl rfl)
theorem dJ4_node_10 : decode cJ4_node 10 = .ok (.aload_n 0, 1) := dk_42 (dk_at dksJ4_node_0 10 rfl rfl)
theorem dJ4_node_11 : decode cJ4_node 11 = .ok (.getfield 18, 3) := dk_180 0 18 (dk_at dksJ4_node_0 11 rfl rfl)
theorem dJ4_node_14 : decode cJ4_node 14 = .ok (.astore_n 2, 1) := dk_77 (dk_at dksJ4_node_0 14 rfl rfl)
theorem dJ4_node_15 : decode cJ4_node 15 = .ok (.iconst 0, 1) := dk_3 (dk_at dksJ4_node_0 15 rfl rfl)
theorem dJ4_node_16 : decode cJ4_node 16 = .ok (.istore_n 3, 1) := dk_62 (dk_at dksJ4_node_0 16 rfl rfl)
theorem dJ4_node_17 : decode cJ4_node 17 = .ok (.iload_n 3, 1) := dk_29 (dk_at dksJ4_node_0 17 rfl rfl)
theorem dJ4_node_18 : decode cJ4_node 18 = .ok (.iload_n 1, 1) := dk_27 (dk_at dksJ4_node_0 18 rfl rfl)
theorem dJ4_node_19 : decode cJ4_node 19 = .ok (.if_icmp .ge 14, 3) := dk_162 0 14 (dk_at dksJ4_node_0 19 rfl rfl)
theorem dJ4_node_22 : decode cJ4_node 22 = .ok (.aload_n 2, 1) := dk_44 (dk_at dksJ4_node_0 22 rfl rfl)
theorem dJ4_node_23 : decode cJ4_node 23 = .ok (.getfield 36, 3) := dk_180 0 36 (dk_at dksJ4_node_1 0 rfl rfl)
theorem dJ4_node_26 : decode cJ4_node 26 = .ok (.astore_n 2, 1) := dk_77 (dk_at dksJ4_node_1 3 rfl rfl)
theorem dJ4_node_27 : decode cJ4_node 27 = .ok (.iinc 3 1, 3) := dk_132 3 1 (dk_at dksJ4_node_1 4 rfl rfl)
theorem dJ4_node_30 : decode cJ4_node 30 = .ok (.goto (-13), 3) := dk_167 255 243 (dk_at dksJ4_node_1 7 rfl rfl)
theorem dJ4_node_33 : decode cJ4_node 33 = .ok (.aload_n 2, 1) := dk_44 (dk_at dksJ4_node_1 10 rfl rfl)
theorem dJ4_node_34 : decode cJ4_node 34 = .ok (.areturn, 1) := dk_176 (dk_at dksJ4_node_1 11 rfl rfl)
theorem dJ4_node_35 : decode cJ4_node 35 = .ok (.aload_n 0, 1) := dk_42 (dk_at dksJ4_node_1 12 rfl rfl)
theorem dJ4_node_36 : decode cJ4_node 36 = .ok (.getfield 27, 3) := dk_180 0 27 (dk_at dksJ4_node_1 13 rfl rfl)
theorem dJ4_node_39 : decode cJ4_node 39 = .ok (.astore_n 2, 1) := dk_77 (dk_at dksJ4_node_1 16 rfl rfl)
theorem dJ4_node_40 : decode cJ4_node 40 = .ok (.aload_n 0, 1) := dk_42 (dk_at dksJ4_node_1 17 rfl rfl)
theorem dJ4_node_41 : decode cJ4_node 41 = .ok (.getfield 7, 3) := dk_180 0 7 (dk_at dksJ4_node_1 18 rfl rfl)
theorem dJ4_node_44 : decode cJ4_node 44 = .ok (.iconst 1, 1) := dk_4 (dk_at dksJ4_node_1 21 rfl rfl)
theorem dJ4_node_45 : decode cJ4_node 45 = .ok (.isub, 1) := dk_100 (dk_at dksJ4_node_1 22 rfl rfl)
theorem dJ4_node_46 : decode cJ4_node 46 = .ok (.istore_n 3, 1) := dk_62 (dk_at dksJ4_node_1 23 rfl rfl)
theorem dJ4_node_47 : decode cJ4_node 47 = .ok (.iload_n 3, 1) := dk_29 (dk_at dksJ4_node_2 0 rfl rfl)
theorem dJ4_node_48 : decode cJ4_node 48 = .ok (.iload_n 1, 1) := dk_27 (dk_at dksJ4_node_2 1 rfl rfl)
theorem dJ4_node_49 : decode cJ4_node 49 = .ok (.if_icmp .le 14, 3) := dk_164 0 14 (dk_at dksJ4_node_2 2 rfl rfl)
theorem dJ4_node_52 : decode cJ4_node 52 = .ok (.aload_n 2, 1) := dk_44 (dk_at dksJ4_node_2 5 rfl rfl)
theorem dJ4_node_53 : decode cJ4_node 53 = .ok (.getfield 30, 3) := dk_180 0 30 (dk_at dksJ4_node_2 6 rfl rfl)
theorem dJ4_node_56 : decode cJ4_node 56 = .ok (.astore_n 2, 1) := dk_77 (dk_at dksJ4_node_2 9 rfl rfl)
theorem dJ4_node_57 : decode cJ4_node 57 = .ok (.iinc 3 (-1), 3) := dk_132 3 255 (dk_at dksJ4_node_2 10 rfl rfl)
theorem dJ4_node_60 : decode cJ4_node 60 = .ok (.goto (-13), 3) := dk_167 255 243 (dk_at dksJ4_node_2 13 rfl rfl)
theorem dJ4_node_63 : decode cJ4_node 63 = .ok (.aload_n 2, 1) := dk_44 (dk_at dksJ4_node_2 16 rfl rfl)
theorem dJ4_node_64 : decode cJ4_node 64 = .ok (.areturn, 1) := dk_176 (dk_at dksJ4_node_2 17 rfl rfl)
abbrev cJ4_listIterator : ByteArray := prog_61_method_49_code
def yJ4_listIterator : MethodName := ⟨RJ4, "listIterator", "(I)Ljava/util/ListIterator;"⟩
def dkwJ4_listIterator_0 : List UInt8 := [42, 27, 182, 0, 76, 187, 0, 150, 89, 42, 27, 183, 0, 152, 176]
abbrev dktJ4_listIterator_0 : List UInt8 := dkwJ4_listIterator_0 ++ []
theorem dksJ4_listIterator_0 : cJ4_listIterator.data.toList.drop 0 = dktJ4_listIterator_0 := by decide +kernel
theorem dJ4_listIterator_0 : decode cJ4_listIterator 0 = .ok (.aload_n 0, 1) := dk_42 (dk_at dksJ4_listIterator_0 0 rfl rfl)
theorem dJ4_listIterator_1 : decode cJ4_listIterator 1 = .ok (.iload_n 1, 1) := dk_27 (dk_at dksJ4_listIterator_0 1 rfl rfl)
theorem dJ4_listIterator_2 : decode cJ4_listIterator 2 = .ok (.invokevirtual 76, 3) := dk_182 0 76 (dk_at dksJ4_listIterator_0 2 rfl rfl)
theorem dJ4_listIterator_5 : decode cJ4_listIterator 5 = .ok (.new 150, 3) := dk_187 0 150 (dk_at dksJ4_listIterator_0 5 rfl rfl)
theorem dJ4_listIterator_8 : decode cJ4_listIterator 8 = .ok (.dup, 1) := dk_89 (dk_at dksJ4_listIterator_0 8 rfl rfl)
theorem dJ4_listIterator_9 : decode cJ4_listIterator 9 = .ok (.aload_n 0, 1) := dk_42 (dk_at dksJ4_listIterator_0 9 rfl rfl)
theorem dJ4_listIterator_10 : decode cJ4_listIterator 10 = .ok (.iload_n 1, 1) := dk_27 (dk_at dksJ4_listIterator_0 10 rfl rfl)
theorem dJ4_listIterator_11 : decode cJ4_listIterator 11 = .ok (.invokespecial 152, 3) := dk_183 0 152 (dk_at dksJ4_listIterator_0 11 rfl rfl)
theorem dJ4_listIterator_14 : decode cJ4_listIterator 14 = .ok (.areturn, 1) := dk_176 (dk_at dksJ4_listIterator_0 14 rfl rfl)
abbrev cJ4_checkPositionIndex : ByteArray := prog_61_method_30_code
def yJ4_checkPositionIndex : MethodName := ⟨RJ4, "checkPositionIndex", "(I)V"⟩
def dkwJ4_checkPositionIndex_0 : List UInt8 := [42, 27, 182, 0, 128, 154, 0, 16, 187, 0, 119, 89, 42, 27, 182, 0, 121, 183, 0, 125, 191, 177]
abbrev dktJ4_checkPositionIndex_0 : List UInt8 := dkwJ4_checkPositionIndex_0 ++ []
theorem dksJ4_checkPositionIndex_0 : cJ4_checkPositionIndex.data.toList.drop 0 = dktJ4_checkPositionIndex_0 := by decide +kernel
theorem dJ4_checkPositionIndex_0 : decode cJ4_checkPositionIndex 0 = .ok (.aload_n 0, 1) := dk_42 (dk_at dksJ4_checkPositionIndex_0 0 rfl rfl)
theorem dJ4_checkPositionIndex_1 : decode cJ4_checkPositionIndex 1 = .ok (.iload_n 1, 1) := dk_27 (dk_at dksJ4_checkPositionIndex_0 1 rfl rfl)
theorem dJ4_checkPositionIndex_2 : decode cJ4_checkPositionIndex 2 = .ok (.invokevirtual 128, 3) := dk_182 0 128 (dk_at dksJ4_checkPositionIndex_0 2 rfl rfl)
theorem dJ4_checkPositionIndex_5 : decode cJ4_checkPositionIndex 5 = .ok (.ifCond .ne 16, 3) := dk_154 0 16 (dk_at dksJ4_checkPositionIndex_0 5 rfl rfl)
theorem dJ4_checkPositionIndex_8 : decode cJ4_checkPositionIndex 8 = .ok (.new 119, 3) := dk_187 0 119 (dk_at dksJ4_checkPositionIndex_0 8 rfl rfl)
theorem dJ4_checkPositionIndex_11 : decode cJ4_checkPositionIndex 11 = .ok (.dup, 1) := dk_89 (dk_at dksJ4_checkPositionIndex_0 11 rfl rfl)
theorem dJ4_checkPositionIndex_12 : decode cJ4_checkPositionIndex 12 = .ok (.aload_n 0, 1) := dk_42 (dk_at dksJ4_checkPositionIndex_0 12 rfl rfl)
theorem dJ4_checkPositionIndex_13 : decode cJ4_checkPositionIndex 13 = .ok (.iload_n 1, 1) := dk_27 (dk_at dksJ4_checkPositionIndex_0 13 rfl rfl)
theorem dJ4_checkPositionIndex_14 : decode cJ4_checkPositionIndex 14 = .ok (.invokevirtual 121, 3) := dk_182 0 121 (dk_at dksJ4_checkPositionIndex_0 14 rfl rfl)
theorem dJ4_checkPositionIndex_17 : decode cJ4_checkPositionIndex 17 = .ok (.invokespecial 125, 3) := dk_183 0 125 (dk_at dksJ4_checkPositionIndex_0 17 rfl rfl)
theorem dJ4_checkPositionIndex_20 : decode cJ4_checkPositionIndex 20 = .ok (.athrow, 1) := dk_191 (dk_at dksJ4_checkPositionIndex_0 20 rfl rfl)
theorem dJ4_checkPositionIndex_21 : decode cJ4_checkPositionIndex 21 = .ok (.return_, 1) := dk_177 (dk_at dksJ4_checkPositionIndex_0 21 rfl rfl)
abbrev cJ4_isPositionIndex : ByteArray := prog_61_method_27_code
def yJ4_isPositionIndex : MethodName := ⟨RJ4, "isPositionIndex", "(I)Z"⟩
def dkwJ4_isPositionIndex_0 : List UInt8 := [27, 155, 0, 15, 27, 42, 180, 0, 7, 163, 0, 7, 4, 167, 0, 4, 3, 172]
abbrev dktJ4_isPositionIndex_0 : List UInt8 := dkwJ4_isPositionIndex_0 ++ []
theorem dksJ4_isPositionIndex_0 : cJ4_isPositionIndex.data.toList.drop 0 = dktJ4_isPositionIndex_0 := by decide +kernel
theorem dJ4_isPositionIndex_0 : decode cJ4_isPositionIndex 0 = .ok (.iload_n 1, 1) := dk_27 (dk_at dksJ4_isPositionIndex_0 0 rfl rfl)
theorem dJ4_isPositionIndex_1 : decode cJ4_isPositionIndex 1 = .ok (.ifCond .lt 15, 3) := dk_155 0 15 (dk_at dksJ4_isPositionIndex_0 1 rfl rfl)
theorem dJ4_isPositionIndex_4 : decode cJ4_isPositionIndex 4 = .ok (.iload_n 1, 1) := dk_27 (dk_at dksJ4_isPositionIndex_0 4 rfl rfl)
theorem dJ4_isPositionIndex_5 : decode cJ4_isPositionIndex 5 = .ok (.aload_n 0, 1) := dk_42 (dk_at dksJ4_isPositionIndex_0 5 rfl rfl)
theorem dJ4_isPositionIndex_6 : decode cJ4_isPositionIndex 6 = .ok (.getfield 7, 3) := dk_180 0 7 (dk_at dksJ4_isPositionIndex_0 6 rfl rfl)
theorem dJ4_isPositionIndex_9 : decode cJ4_isPositionIndex 9 = .ok (.if_icmp .gt 7, 3) := dk_163 0 7 (dk_at dksJ4_isPositionIndex_0 9 rfl rfl)
theorem dJ4_isPositionIndex_12 : decode cJ4_isPositionIndex 12 = .ok (.iconst 1, 1) := dk_4 (dk_at dksJ4_isPositionIndex_0 12 rfl rfl)
theorem dJ4_isPositionIndex_13 : decode cJ4_isPositionIndex 13 = .ok (.goto 4, 3) := dk_167 0 4 (dk_at dksJ4_isPositionIndex_0 13 rfl rfl)
theorem dJ4_isPositionIndex_16 : decode cJ4_isPositionIndex 16 = .ok (.iconst 0, 1) := dk_3 (dk_at dksJ4_isPositionIndex_0 16 rfl rfl)
theorem dJ4_isPositionIndex_17 : decode cJ4_isPositionIndex 17 = .ok (.ireturn, 1) := dk_172 (dk_at dksJ4_isPositionIndex_0 17 rfl rfl)
abbrev cJ4_addLast : ByteArray := prog_61_method_14_code
def yJ4_addLast : MethodName := ⟨RJ4, "addLast", "(Ljava/lang/Object;)V"⟩
def dkwJ4_addLast_0 : List UInt8 := [42, 43, 182, 0, 57, 177]
abbrev dktJ4_addLast_0 : List UInt8 := dkwJ4_addLast_0 ++ []
theorem dksJ4_addLast_0 : cJ4_addLast.data.toList.drop 0 = dktJ4_addLast_0 := by decide +kernel
theorem dJ4_addLast_0 : decode cJ4_addLast 0 = .ok (.aload_n 0, 1) := dk_42 (dk_at dksJ4_addLast_0 0 rfl rfl)
theorem dJ4_addLast_1 : decode cJ4_addLast 1 = .ok (.aload_n 1, 1) := dk_43 (dk_at dksJ4_addLast_0 1 rfl rfl)
theorem dJ4_addLast_2 : decode cJ4_addLast 2 = .ok (.invokevirtual 57, 3) := dk_182 0 57 (dk_at dksJ4_addLast_0 2 rfl rfl)
theorem dJ4_addLast_5 : decode cJ4_addLast 5 = .ok (.return_, 1) := dk_177 (dk_at dksJ4_addLast_0 5 rfl rfl)
abbrev cJ4_linkLast : ByteArray := prog_61_method_4_code
def yJ4_linkLast : MethodName := ⟨RJ4, "linkLast", "(Ljava/lang/Object;)V"⟩
def dkwJ4_linkLast_2 : List UInt8 := [181, 0, 7, 42, 89, 180, 0, 33, 4, 96, 181, 0, 33, 177]
abbrev dktJ4_linkLast_2 : List UInt8 := dkwJ4_linkLast_2 ++ []
def dkwJ4_linkLast_1 : List UInt8 := [199, 0, 11, 42, 45, 181, 0, 18, 167, 0, 8, 44, 45, 181, 0, 36, 42, 89, 180, 0, 7, 4, 96]
abbrev dktJ4_linkLast_1 : List UInt8 := dkwJ4_linkLast_1 ++ dktJ4_linkLast_2
def dkwJ4_linkLast_0 : List UInt8 := [42, 180, 0, 27, 77, 187, 0, 22, 89, 44, 43, 1, 183, 0, 24, 78, 42, 45, 181, 0, 27, 44]
abbrev dktJ4_linkLast_0 : List UInt8 := dkwJ4_linkLast_0 ++ dktJ4_linkLast_1
theorem dksJ4_linkLast_0 : cJ4_linkLast.data.toList.drop 0 = dktJ4_linkLast_0 := by decide +kernel
theorem dksJ4_linkLast_1 : cJ4_linkLast.data.toList.drop 22 = dktJ4_linkLast_1 := dk_seg dksJ4_linkLast_0 22 rfl rfl
theorem dksJ4_linkLast_2 : cJ4_linkLast.data.toList.drop 45 = dktJ4_linkLast_2 := dk_seg dksJ4_linkLast_1 23 rfl rfl
theorem dJ4_linkLast_0 : decode cJ4_linkLast 0 = .ok (.aload_n 0, 1) := dk_42 (dk_at dksJ4_linkLast_0 0 rfl rfl)
theorem dJ4_linkLast_1 : decode cJ4_linkLast 1 = .ok (.getfield 27, 3) := dk_180 0 27 (dk_at dksJ4_linkLast_0 1 rfl rfl)
theorem dJ4_linkLast_4 : decode cJ4_linkLast 4 = .ok (.astore_n 2, 1) := dk_77 (dk_at dksJ4_linkLast_0 4 rfl rfl)
theorem dJ4_linkLast_5 : decode cJ4_linkLast 5 = .ok (.new 22, 3) := dk_187 0 22 (dk_at dksJ4_linkLast_0 5 rfl rfl)
theorem dJ4_linkLast_8 : decode cJ4_linkLast 8 = .ok (.dup, 1) := dk_89 (dk_at dksJ4_linkLast_0 8 rfl rfl)
theorem dJ4_linkLast_9 : decode cJ4_linkLast 9 = .ok (.aload_n 2, 1) := dk_44 (dk_at dksJ4_linkLast_0 9 rfl rfl)
theorem dJ4_linkLast_10 : decode cJ4_linkLast 10 = .ok (.aload_n 1, 1) := dk_43 (dk_at dksJ4_linkLast_0 10 rfl rfl)
theorem dJ4_linkLast_11 : decode cJ4_linkLast 11 = .ok (.aconst_null, 1) := dk_1 (dk_at dksJ4_linkLast_0 11 rfl rfl)
theorem dJ4_linkLast_12 : decode cJ4_linkLast 12 = .ok (.invokespecial 24, 3) := dk_183 0 24 (dk_at dksJ4_linkLast_0 12 rfl rfl)
theorem dJ4_linkLast_15 : decode cJ4_linkLast 15 = .ok (.astore_n 3, 1) := dk_78 (dk_at dksJ4_linkLast_0 15 rfl rfl)
theorem dJ4_linkLast_16 : decode cJ4_linkLast 16 = .ok (.aload_n 0, 1) := dk_42 (dk_at dksJ4_linkLast_0 16 rfl rfl)
theorem dJ4_linkLast_17 : decode cJ4_linkLast 17 = .ok (.aload_n 3, 1) := dk_45 (dk_at dksJ4_linkLast_0 17 rfl rfl)
theorem dJ4_linkLast_18 : decode cJ4_linkLast 18 = .ok (.putfield 27, 3) := dk_181 0 27 (dk_at dksJ4_linkLast_0 18 rfl rfl)
theorem dJ4_linkLast_21 : decode cJ4_linkLast 21 = .ok (.aload_n 2, 1) := dk_44 (dk_at dksJ4_linkLast_0 21 rfl rfl)
theorem dJ4_linkLast_22 : decode cJ4_linkLast 22 = .ok (.ifnonnull 11, 3) := dk_199 0 11 (dk_at dksJ4_linkLast_1 0 rfl rfl)
theorem dJ4_linkLast_25 : decode cJ4_linkLast 25 = .ok (.aload_n 0, 1) := dk_42 (dk_at dksJ4_linkLast_1 3 rfl rfl)
theorem dJ4_linkLast_26 : decode cJ4_linkLast 26 = .ok (.aload_n 3, 1) := dk_45 (dk_at dksJ4_linkLast_1 4 rfl rfl)
theorem dJ4_linkLast_27 : decode cJ4_linkLast 27 = .ok (.putfield 18, 3) := dk_181 0 18 (dk_at dksJ4_linkLast_1 5 rfl rfl)
theorem dJ4_linkLast_30 : decode cJ4_linkLast 30 = .ok (.goto 8, 3) := dk_167 0 8 (dk_at dksJ4_linkLast_1 8 rfl rfl)
theorem dJ4_linkLast_33 : decode cJ4_linkLast 33 = .ok (.aload_n 2, 1) := dk_44 (dk_at dksJ4_linkLast_1 11 rfl rfl)
theorem dJ4_linkLast_34 : decode cJ4_linkLast 34 = .ok (.aload_n 3, 1) := dk_45 (dk_at dksJ4_linkLast_1 12 rfl rfl)
theorem dJ4_linkLast_35 : decode cJ4_linkLast 35 = .ok (.putfield 36, 3) := dk_181 0 36 (dk_at dksJ4_linkLast_1 13 rfl rfl)
theorem dJ4_linkLast_38 : decode cJ4_linkLast 38 = .ok (.aload_n 0, 1) := dk_42 (dk_at dksJ4_linkLast_1 16 rfl rfl)
theorem dJ4_linkLast_39 : decode cJ4_linkLast 39 = .ok (.dup, 1) := dk_89 (dk_at dksJ4_linkLast_1 17 rfl rfl)
theorem dJ4_linkLast_40 : decode cJ4_linkLast 40 = .ok (.getfield 7, 3) := dk_180 0 7 (dk_at dksJ4_linkLast_1 18 rfl rfl)
theorem dJ4_linkLast_43 : decode cJ4_linkLast 43 = .ok (.iconst 1, 1) := dk_4 (dk_at dksJ4_linkLast_1 21 rfl rfl)
theorem dJ4_linkLast_44 : decode cJ4_linkLast 44 = .ok (.iadd, 1) := dk_96 (dk_at dksJ4_linkLast_1 22 rfl rfl)
theorem dJ4_linkLast_45 : decode cJ4_linkLast 45 = .ok (.putfield 7, 3) := dk_181 0 7 (dk_at dksJ4_linkLast_2 0 rfl rfl)
theorem dJ4_linkLast_48 : decode cJ4_linkLast 48 = .ok (.aload_n 0, 1) := dk_42 (dk_at dksJ4_linkLast_2 3 rfl rfl)
theorem dJ4_linkLast_49 : decode cJ4_linkLast 49 = .ok (.dup, 1) := dk_89 (dk_at dksJ4_linkLast_2 4 rfl rfl)
theorem dJ4_linkLast_50 : decode cJ4_linkLast 50 = .ok (.getfield 33, 3) := dk_180 0 33 (dk_at dksJ4_linkLast_2 5 rfl rfl)
theorem dJ4_linkLast_53 : decode cJ4_linkLast 53 = .ok (.iconst 1, 1) := dk_4 (dk_at dksJ4_linkLast_2 8 rfl rfl)
theorem dJ4_linkLast_54 : decode cJ4_linkLast 54 = .ok (.iadd, 1) := dk_96 (dk_at dksJ4_linkLast_2 9 rfl rfl)
theorem dJ4_linkLast_55 : decode cJ4_linkLast 55 = .ok (.putfield 33, 3) := dk_181 0 33 (dk_at dksJ4_linkLast_2 10 rfl rfl)
theorem dJ4_linkLast_58 : decode cJ4_linkLast 58 = .ok (.return_, 1) := dk_177 (dk_at dksJ4_linkLast_2 13 rfl rfl)
abbrev cJ4_indexOf : ByteArray := prog_61_method_32_code
def yJ4_indexOf : MethodName := ⟨RJ4, "indexOf", "(Ljava/lang/Object;)I"⟩
def dkwJ4_indexOf_3 : List UInt8 := [172]
abbrev dktJ4_indexOf_3 : List UInt8 := dkwJ4_indexOf_3 ++ []
def dkwJ4_indexOf_2 : List UInt8 := [45, 180, 0, 39, 182, 0, 67, 153, 0, 5, 28, 172, 132, 2, 1, 45, 180, 0, 36, 78, 167, 255, 231, 2]
abbrev dktJ4_indexOf_2 : List UInt8 := dkwJ4_indexOf_2 ++ dktJ4_indexOf_3
def dkwJ4_indexOf_1 : List UInt8 := [132, 2, 1, 45, 180, 0, 36, 78, 167, 255, 235, 167, 0, 36, 42, 180, 0, 18, 78, 45, 198, 0, 27, 43]
abbrev dktJ4_indexOf_1 : List UInt8 := dkwJ4_indexOf_1 ++ dktJ4_indexOf_2
def dkwJ4_indexOf_0 : List UInt8 := [3, 61, 43, 199, 0, 35, 42, 180, 0, 18, 78, 45, 198, 0, 23, 45, 180, 0, 39, 199, 0, 5, 28, 172]
abbrev dktJ4_indexOf_0 : List UInt8 := dkwJ4_indexOf_0 ++ dktJ4_indexOf_1
theorem dksJ4_indexOf_0 : cJ4_indexOf.data.toList.drop 0 = dktJ4_indexOf_0 := by decide +kernel
theorem dksJ4_indexOf_1 : cJ4_indexOf.data.toList.drop 24 = dktJ4_indexOf_1 := dk_seg dksJ4_indexOf_0 24 rfl rfl
theorem dksJ4_indexOf_2 : cJ4_indexOf.data.toList.drop 48 = dktJ4_indexOf_2 := dk_seg dksJ4_indexOf_1 24 rfl rfl
theorem dksJ4_indexOf_3 : cJ4_indexOf.data.toList.drop 72 = dktJ4_indexOf_3 := dk_seg dksJ4_indexOf_2 24 rfl rfl
theorem dJ4_indexOf_0 : decode cJ4_indexOf 0 = .ok (.iconst 0, 1) := dk_3 (dk_at dksJ4_indexOf_0 0 rfl rfl)
theorem dJ4_indexOf_1 : decode cJ4_indexOf 1 = .ok (.istore_n 2, 1) := dk_61 (dk_at dksJ4_indexOf_0 1 rfl rfl)
theorem dJ4_indexOf_2 : decode cJ4_indexOf 2 = .ok (.aload_n 1, 1) := dk_43 (dk_at dksJ4_indexOf_0 2 rfl rfl)
theorem dJ4_indexOf_3 : decode cJ4_indexOf 3 = .ok (.ifnonnull 35, 3) := dk_199 0 35 (dk_at dksJ4_indexOf_0 3 rfl rfl)
theorem dJ4_indexOf_6 : decode cJ4_indexOf 6 = .ok (.aload_n 0, 1) := dk_42 (dk_at dksJ4_indexOf_0 6 rfl rfl)
theorem dJ4_indexOf_7 : decode cJ4_indexOf 7 = .ok (.getfield 18, 3) := dk_180 0 18 (dk_at dksJ4_indexOf_0 7 rfl rfl)
theorem dJ4_indexOf_10 : decode cJ4_indexOf 10 = .ok (.astore_n 3, 1) := dk_78 (dk_at dksJ4_indexOf_0 10 rfl rfl)
theorem dJ4_indexOf_11 : decode cJ4_indexOf 11 = .ok (.aload_n 3, 1) := dk_45 (dk_at dksJ4_indexOf_0 11 rfl rfl)
theorem dJ4_indexOf_12 : decode cJ4_indexOf 12 = .ok (.ifnull 23, 3) := dk_198 0 23 (dk_at dksJ4_indexOf_0 12 rfl rfl)
theorem dJ4_indexOf_15 : decode cJ4_indexOf 15 = .ok (.aload_n 3, 1) := dk_45 (dk_at dksJ4_indexOf_0 15 rfl rfl)
theorem dJ4_indexOf_16 : decode cJ4_indexOf 16 = .ok (.getfield 39, 3) := dk_180 0 39 (dk_at dksJ4_indexOf_0 16 rfl rfl)
theorem dJ4_indexOf_19 : decode cJ4_indexOf 19 = .ok (.ifnonnull 5, 3) := dk_199 0 5 (dk_at dksJ4_indexOf_0 19 rfl rfl)
theorem dJ4_indexOf_22 : decode cJ4_indexOf 22 = .ok (.iload_n 2, 1) := dk_28 (dk_at dksJ4_indexOf_0 22 rfl rfl)
theorem dJ4_indexOf_23 : decode cJ4_indexOf 23 = .ok (.ireturn, 1) := dk_172 (dk_at dksJ4_indexOf_0 23 rfl rfl)
theorem dJ4_indexOf_24 : decode cJ4_indexOf 24 = .ok (.iinc 2 1, 3) := dk_132 2 1 (dk_at dksJ4_indexOf_1 0 rfl rfl)
theorem dJ4_indexOf_27 : decode cJ4_indexOf 27 = .ok (.aload_n 3, 1) := dk_45 (dk_at dksJ4_indexOf_1 3 rfl rfl)
theorem dJ4_indexOf_28 : decode cJ4_indexOf 28 = .ok (.getfield 36, 3) := dk_180 0 36 (dk_at dksJ4_indexOf_1 4 rfl rfl)
theorem dJ4_indexOf_31 : decode cJ4_indexOf 31 = .ok (.astore_n 3, 1) := dk_78 (dk_at dksJ4_indexOf_1 7 rfl rfl)
theorem dJ4_indexOf_32 : decode cJ4_indexOf 32 = .ok (.goto (-21), 3) := dk_167 255 235 (dk_at dksJ4_indexOf_1 8 rfl rfl)
theorem dJ4_indexOf_35 : decode cJ4_indexOf 35 = .ok (.goto 36, 3) := dk_167 0 36 (dk_at dksJ4_indexOf_1 11 rfl rfl)
theorem dJ4_indexOf_38 : decode cJ4_indexOf 38 = .ok (.aload_n 0, 1) := dk_42 (dk_at dksJ4_indexOf_1 14 rfl rfl)
theorem dJ4_indexOf_39 : decode cJ4_indexOf 39 = .ok (.getfield 18, 3) := dk_180 0 18 (dk_at dksJ4_indexOf_1 15 rfl rfl)
theorem dJ4_indexOf_42 : decode cJ4_indexOf 42 = .ok (.astore_n 3, 1) := dk_78 (dk_at dksJ4_indexOf_1 18 rfl rfl)
theorem dJ4_indexOf_43 : decode cJ4_indexOf 43 = .ok (.aload_n 3, 1) := dk_45 (dk_at dksJ4_indexOf_1 19 rfl rfl)
theorem dJ4_indexOf_44 : decode cJ4_indexOf 44 = .ok (.ifnull 27, 3) := dk_198 0 27 (dk_at dksJ4_indexOf_1 20 rfl rfl)
theorem dJ4_indexOf_47 : decode cJ4_indexOf 47 = .ok (.aload_n 1, 1) := dk_43 (dk_at dksJ4_indexOf_1 23 rfl rfl)
theorem dJ4_indexOf_48 : decode cJ4_indexOf 48 = .ok (.aload_n 3, 1) := dk_45 (dk_at dksJ4_indexOf_2 0 rfl rfl)
theorem dJ4_indexOf_49 : decode cJ4_indexOf 49 = .ok (.getfield 39, 3) := dk_180 0 39 (dk_at dksJ4_indexOf_2 1 rfl rfl)
theorem dJ4_indexOf_52 : decode cJ4_indexOf 52 = .ok (.invokevirtual 67, 3) := dk_182 0 67 (dk_at dksJ4_indexOf_2 4 rfl rfl)
theorem dJ4_indexOf_55 : decode cJ4_indexOf 55 = .ok (.ifCond .eq 5, 3) := dk_153 0 5 (dk_at dksJ4_indexOf_2 7 rfl rfl)
theorem dJ4_indexOf_58 : decode cJ4_indexOf 58 = .ok (.iload_n 2, 1) := dk_28 (dk_at dksJ4_indexOf_2 10 rfl rfl)
theorem dJ4_indexOf_59 : decode cJ4_indexOf 59 = .ok (.ireturn, 1) := dk_172 (dk_at dksJ4_indexOf_2 11 rfl rfl)
theorem dJ4_indexOf_60 : decode cJ4_indexOf 60 = .ok (.iinc 2 1, 3) := dk_132 2 1 (dk_at dksJ4_indexOf_2 12 rfl rfl)
theorem dJ4_indexOf_63 : decode cJ4_indexOf 63 = .ok (.aload_n 3, 1) := dk_45 (dk_at dksJ4_indexOf_2 15 rfl rfl)
theorem dJ4_indexOf_64 : decode cJ4_indexOf 64 = .ok (.getfield 36, 3) := dk_180 0 36 (dk_at dksJ4_indexOf_2 16 rfl rfl)
theorem dJ4_indexOf_67 : decode cJ4_indexOf 67 = .ok (.astore_n 3, 1) := dk_78 (dk_at dksJ4_indexOf_2 19 rfl rfl)
theorem dJ4_indexOf_68 : decode cJ4_indexOf 68 = .ok (.goto (-25), 3) := dk_167 255 231 (dk_at dksJ4_indexOf_2 20 rfl rfl)
theorem dJ4_indexOf_71 : decode cJ4_indexOf 71 = .ok (.iconst (-1), 1) := dk_2 (dk_at dksJ4_indexOf_2 23 rfl rfl)
theorem dJ4_indexOf_72 : decode cJ4_indexOf 72 = .ok (.ireturn, 1) := dk_172 (dk_at dksJ4_indexOf_3 0 rfl rfl)
abbrev cJ4_remove : ByteArray := prog_61_method_25_code
def yJ4_remove : MethodName := ⟨RJ4, "remove", "(I)Ljava/lang/Object;"⟩
def dkwJ4_remove_0 : List UInt8 := [42, 27, 182, 0, 90, 42, 42, 27, 182, 0, 86, 182, 0, 64, 176]
abbrev dktJ4_remove_0 : List UInt8 := dkwJ4_remove_0 ++ []
theorem dksJ4_remove_0 : cJ4_remove.data.toList.drop 0 = dktJ4_remove_0 := by decide +kernel
theorem dJ4_remove_0 : decode cJ4_remove 0 = .ok (.aload_n 0, 1) := dk_42 (dk_at dksJ4_remove_0 0 rfl rfl)
theorem dJ4_remove_1 : decode cJ4_remove 1 = .ok (.iload_n 1, 1) := dk_27 (dk_at dksJ4_remove_0 1 rfl rfl)
theorem dJ4_remove_2 : decode cJ4_remove 2 = .ok (.invokevirtual 90, 3) := dk_182 0 90 (dk_at dksJ4_remove_0 2 rfl rfl)
theorem dJ4_remove_5 : decode cJ4_remove 5 = .ok (.aload_n 0, 1) := dk_42 (dk_at dksJ4_remove_0 5 rfl rfl)
theorem dJ4_remove_6 : decode cJ4_remove 6 = .ok (.aload_n 0, 1) := dk_42 (dk_at dksJ4_remove_0 6 rfl rfl)
theorem dJ4_remove_7 : decode cJ4_remove 7 = .ok (.iload_n 1, 1) := dk_27 (dk_at dksJ4_remove_0 7 rfl rfl)
theorem dJ4_remove_8 : decode cJ4_remove 8 = .ok (.invokevirtual 86, 3) := dk_182 0 86 (dk_at dksJ4_remove_0 8 rfl rfl)
theorem dJ4_remove_11 : decode cJ4_remove 11 = .ok (.invokevirtual 64, 3) := dk_182 0 64 (dk_at dksJ4_remove_0 11 rfl rfl)
theorem dJ4_remove_14 : decode cJ4_remove 14 = .ok (.areturn, 1) := dk_176 (dk_at dksJ4_remove_0 14 rfl rfl)
abbrev cJ4_unlink : ByteArray := prog_61_method_8_code
def yJ4_unlink : MethodName := ⟨RJ4, "unlink", "(Ljava/util/LinkedList$Node;)Ljava/lang/Object;"⟩
def dkwJ4_unlink_3 : List UInt8 := [180, 0, 7, 4, 100, 181, 0, 7, 42, 89, 180, 0, 33, 4, 96, 181, 0, 33, 44, 176]
abbrev dktJ4_unlink_3 : List UInt8 := dkwJ4_unlink_3 ++ []
def dkwJ4_unlink_2 : List UInt8 := [181, 0, 27, 167, 0, 14, 45, 25, 4, 181, 0, 30, 43, 1, 181, 0, 36, 43, 1, 181, 0, 39, 42, 89]
abbrev dktJ4_unlink_2 : List UInt8 := dkwJ4_unlink_2 ++ dktJ4_unlink_3
def dkwJ4_unlink_1 : List UInt8 := [181, 0, 18, 167, 0, 14, 25, 4, 45, 181, 0, 36, 43, 1, 181, 0, 30, 45, 199, 0, 12, 42, 25, 4]
abbrev dktJ4_unlink_1 : List UInt8 := dkwJ4_unlink_1 ++ dktJ4_unlink_2
def dkwJ4_unlink_0 : List UInt8 := [43, 180, 0, 39, 77, 43, 180, 0, 36, 78, 43, 180, 0, 30, 58, 4, 25, 4, 199, 0, 11, 42, 45]
abbrev dktJ4_unlink_0 : List UInt8 := dkwJ4_unlink_0 ++ dktJ4_unlink_1
theorem dksJ4_unlink_0 : cJ4_unlink.data.toList.drop 0 = dktJ4_unlink_0 := by decide +kernel
theorem dksJ4_unlink_1 : cJ4_unlink.data.toList.drop 23 = dktJ4_unlink_1 := dk_seg dksJ4_unlink_0 23 rfl rfl
theorem dksJ4_unlink_2 : cJ4_unlink.data.toList.drop 47 = dktJ4_unlink_2 := dk_seg dksJ4_unlink_1 24 rfl rfl
theorem dksJ4_unlink_3 : cJ4_unlink.data.toList.drop 71 = dktJ4_unlink_3 := dk_seg dksJ4_unlink_2 24 rfl rfl
theorem dJ4_unlink_0 : decode cJ4_unlink 0 = .ok (.aload_n 1, 1) := dk_43 (dk_at dksJ4_unlink_0 0 rfl rfl)
theorem dJ4_unlink_1 : decode cJ4_unlink 1 = .ok (.getfield 39, 3) := dk_180 0 39 (dk_at dksJ4_unlink_0 1 rfl rfl)
theorem dJ4_unlink_4 : decode cJ4_unlink 4 = .ok (.astore_n 2, 1) := dk_77 (dk_at dksJ4_unlink_0 4 rfl rfl)
theorem dJ4_unlink_5 : decode cJ4_unlink 5 = .ok (.aload_n 1, 1) := dk_43 (dk_at dksJ4_unlink_0 5 rfl rfl)
theorem dJ4_unlink_6 : decode cJ4_unlink 6 = .ok (.getfield 36, 3) := dk_180 0 36 (dk_at dksJ4_unlink_0 6 rfl rfl)
theorem dJ4_unlink_9 : decode cJ4_unlink 9 = .ok (.astore_n 3, 1) := dk_78 (dk_at dksJ4_unlink_0 9 rfl rfl)
theorem dJ4_unlink_10 : decode cJ4_unlink 10 = .ok (.aload_n 1, 1) := dk_43 (dk_at dksJ4_unlink_0 10 rfl rfl)
theorem dJ4_unlink_11 : decode cJ4_unlink 11 = .ok (.getfield 30, 3) := dk_180 0 30 (dk_at dksJ4_unlink_0 11 rfl rfl)
theorem dJ4_unlink_14 : decode cJ4_unlink 14 = .ok (.astore 4, 2) := dk_58 4 (dk_at dksJ4_unlink_0 14 rfl rfl)
theorem dJ4_unlink_16 : decode cJ4_unlink 16 = .ok (.aload 4, 2) := dk_25 4 (dk_at dksJ4_unlink_0 16 rfl rfl)
theorem dJ4_unlink_18 : decode cJ4_unlink 18 = .ok (.ifnonnull 11, 3) := dk_199 0 11 (dk_at dksJ4_unlink_0 18 rfl rfl)
theorem dJ4_unlink_21 : decode cJ4_unlink 21 = .ok (.aload_n 0, 1) := dk_42 (dk_at dksJ4_unlink_0 21 rfl rfl)
theorem dJ4_unlink_22 : decode cJ4_unlink 22 = .ok (.aload_n 3, 1) := dk_45 (dk_at dksJ4_unlink_0 22 rfl rfl)
theorem dJ4_unlink_23 : decode cJ4_unlink 23 = .ok (.putfield 18, 3) := dk_181 0 18 (dk_at dksJ4_unlink_1 0 rfl rfl)
theorem dJ4_unlink_26 : decode cJ4_unlink 26 = .ok (.goto 14, 3) := dk_167 0 14 (dk_at dksJ4_unlink_1 3 rfl rfl)
theorem dJ4_unlink_29 : decode cJ4_unlink 29 = .ok (.aload 4, 2) := dk_25 4 (dk_at dksJ4_unlink_1 6 rfl rfl)
theorem dJ4_unlink_31 : decode cJ4_unlink 31 = .ok (.aload_n 3, 1) := dk_45 (dk_at dksJ4_unlink_1 8 rfl rfl)
theorem dJ4_unlink_32 : decode cJ4_unlink 32 = .ok (.putfield 36, 3) := dk_181 0 36 (dk_at dksJ4_unlink_1 9 rfl rfl)
theorem dJ4_unlink_35 : decode cJ4_unlink 35 = .ok (.aload_n 1, 1) := dk_43 (dk_at dksJ4_unlink_1 12 rfl rfl)
theorem dJ4_unlink_36 : decode cJ4_unlink 36 = .ok (.aconst_null, 1) := dk_1 (dk_at dksJ4_unlink_1 13 rfl rfl)
theorem dJ4_unlink_37 : decode cJ4_unlink 37 = .ok (.putfield 30, 3) := dk_181 0 30 (dk_at dksJ4_unlink_1 14 rfl rfl)
theorem dJ4_unlink_40 : decode cJ4_unlink 40 = .ok (.aload_n 3, 1) := dk_45 (dk_at dksJ4_unlink_1 17 rfl rfl)
theorem dJ4_unlink_41 : decode cJ4_unlink 41 = .ok (.ifnonnull 12, 3) := dk_199 0 12 (dk_at dksJ4_unlink_1 18 rfl rfl)
theorem dJ4_unlink_44 : decode cJ4_unlink 44 = .ok (.aload_n 0, 1) := dk_42 (dk_at dksJ4_unlink_1 21 rfl rfl)
theorem dJ4_unlink_45 : decode cJ4_unlink 45 = .ok (.aload 4, 2) := dk_25 4 (dk_at dksJ4_unlink_1 22 rfl rfl)
theorem dJ4_unlink_47 : decode cJ4_unlink 47 = .ok (.putfield 27, 3) := dk_181 0 27 (dk_at dksJ4_unlink_2 0 rfl rfl)
theorem dJ4_unlink_50 : decode cJ4_unlink 50 = .ok (.goto 14, 3) := dk_167 0 14 (dk_at dksJ4_unlink_2 3 rfl rfl)
theorem dJ4_unlink_53 : decode cJ4_unlink 53 = .ok (.aload_n 3, 1) := dk_45 (dk_at dksJ4_unlink_2 6 rfl rfl)
theorem dJ4_unlink_54 : decode cJ4_unlink 54 = .ok (.aload 4, 2) := dk_25 4 (dk_at dksJ4_unlink_2 7 rfl rfl)
theorem dJ4_unlink_56 : decode cJ4_unlink 56 = .ok (.putfield 30, 3) := dk_181 0 30 (dk_at dksJ4_unlink_2 9 rfl rfl)
theorem dJ4_unlink_59 : decode cJ4_unlink 59 = .ok (.aload_n 1, 1) := dk_43 (dk_at dksJ4_unlink_2 12 rfl rfl)
theorem dJ4_unlink_60 : decode cJ4_unlink 60 = .ok (.aconst_null, 1) := dk_1 (dk_at dksJ4_unlink_2 13 rfl rfl)
theorem dJ4_unlink_61 : decode cJ4_unlink 61 = .ok (.putfield 36, 3) := dk_181 0 36 (dk_at dksJ4_unlink_2 14 rfl rfl)
theorem dJ4_unlink_64 : decode cJ4_unlink 64 = .ok (.aload_n 1, 1) := dk_43 (dk_at dksJ4_unlink_2 17 rfl rfl)
theorem dJ4_unlink_65 : decode cJ4_unlink 65 = .ok (.aconst_null, 1) := dk_1 (dk_at dksJ4_unlink_2 18 rfl rfl)
theorem dJ4_unlink_66 : decode cJ4_unlink 66 = .ok (.putfield 39, 3) := dk_181 0 39 (dk_at dksJ4_unlink_2 19 rfl rfl)
theorem dJ4_unlink_69 : decode cJ4_unlink 69 = .ok (.aload_n 0, 1) := dk_42 (dk_at dksJ4_unlink_2 22 rfl rfl)
theorem dJ4_unlink_70 : decode cJ4_unlink 70 = .ok (.dup, 1) := dk_89 (dk_at dksJ4_unlink_2 23 rfl rfl)
theorem dJ4_unlink_71 : decode cJ4_unlink 71 = .ok (.getfield 7, 3) := dk_180 0 7 (dk_at dksJ4_unlink_3 0 rfl rfl)
theorem dJ4_unlink_74 : decode cJ4_unlink 74 = .ok (.iconst 1, 1) := dk_4 (dk_at dksJ4_unlink_3 3 rfl rfl)
theorem dJ4_unlink_75 : decode cJ4_unlink 75 = .ok (.isub, 1) := dk_100 (dk_at dksJ4_unlink_3 4 rfl rfl)
theorem dJ4_unlink_76 : decode cJ4_unlink 76 = .ok (.putfield 7, 3) := dk_181 0 7 (dk_at dksJ4_unlink_3 5 rfl rfl)
theorem dJ4_unlink_79 : decode cJ4_unlink 79 = .ok (.aload_n 0, 1) := dk_42 (dk_at dksJ4_unlink_3 8 rfl rfl)
theorem dJ4_unlink_80 : decode cJ4_unlink 80 = .ok (.dup, 1) := dk_89 (dk_at dksJ4_unlink_3 9 rfl rfl)
theorem dJ4_unlink_81 : decode cJ4_unlink 81 = .ok (.getfield 33, 3) := dk_180 0 33 (dk_at dksJ4_unlink_3 10 rfl rfl)
theorem dJ4_unlink_84 : decode cJ4_unlink 84 = .ok (.iconst 1, 1) := dk_4 (dk_at dksJ4_unlink_3 13 rfl rfl)
theorem dJ4_unlink_85 : decode cJ4_unlink 85 = .ok (.iadd, 1) := dk_96 (dk_at dksJ4_unlink_3 14 rfl rfl)
theorem dJ4_unlink_86 : decode cJ4_unlink 86 = .ok (.putfield 33, 3) := dk_181 0 33 (dk_at dksJ4_unlink_3 15 rfl rfl)
theorem dJ4_unlink_89 : decode cJ4_unlink 89 = .ok (.aload_n 2, 1) := dk_44 (dk_at dksJ4_unlink_3 18 rfl rfl)
theorem dJ4_unlink_90 : decode cJ4_unlink 90 = .ok (.areturn, 1) := dk_176 (dk_at dksJ4_unlink_3 19 rfl rfl)
abbrev cJ4_removeFirst : ByteArray := prog_61_method_11_code
def yJ4_removeFirst : MethodName := ⟨RJ4, "removeFirst", "()Ljava/lang/Object;"⟩
def dkwJ4_removeFirst_0 : List UInt8 := [42, 180, 0, 18, 76, 43, 199, 0, 11, 187, 0, 43, 89, 183, 0, 45, 191, 42, 43, 182, 0, 46, 176]
abbrev dktJ4_removeFirst_0 : List UInt8 := dkwJ4_removeFirst_0 ++ []
theorem dksJ4_removeFirst_0 : cJ4_removeFirst.data.toList.drop 0 = dktJ4_removeFirst_0 := by decide +kernel
theorem dJ4_removeFirst_0 : decode cJ4_removeFirst 0 = .ok (.aload_n 0, 1) := dk_42 (dk_at dksJ4_removeFirst_0 0 rfl rfl)
theorem dJ4_removeFirst_1 : decode cJ4_removeFirst 1 = .ok (.getfield 18, 3) := dk_180 0 18 (dk_at dksJ4_removeFirst_0 1 rfl rfl)
theorem dJ4_removeFirst_4 : decode cJ4_removeFirst 4 = .ok (.astore_n 1, 1) := dk_76 (dk_at dksJ4_removeFirst_0 4 rfl rfl)
theorem dJ4_removeFirst_5 : decode cJ4_removeFirst 5 = .ok (.aload_n 1, 1) := dk_43 (dk_at dksJ4_removeFirst_0 5 rfl rfl)
theorem dJ4_removeFirst_6 : decode cJ4_removeFirst 6 = .ok (.ifnonnull 11, 3) := dk_199 0 11 (dk_at dksJ4_removeFirst_0 6 rfl rfl)
theorem dJ4_removeFirst_9 : decode cJ4_removeFirst 9 = .ok (.new 43, 3) := dk_187 0 43 (dk_at dksJ4_removeFirst_0 9 rfl rfl)
theorem dJ4_removeFirst_12 : decode cJ4_removeFirst 12 = .ok (.dup, 1) := dk_89 (dk_at dksJ4_removeFirst_0 12 rfl rfl)
theorem dJ4_removeFirst_13 : decode cJ4_removeFirst 13 = .ok (.invokespecial 45, 3) := dk_183 0 45 (dk_at dksJ4_removeFirst_0 13 rfl rfl)
theorem dJ4_removeFirst_16 : decode cJ4_removeFirst 16 = .ok (.athrow, 1) := dk_191 (dk_at dksJ4_removeFirst_0 16 rfl rfl)
theorem dJ4_removeFirst_17 : decode cJ4_removeFirst 17 = .ok (.aload_n 0, 1) := dk_42 (dk_at dksJ4_removeFirst_0 17 rfl rfl)
theorem dJ4_removeFirst_18 : decode cJ4_removeFirst 18 = .ok (.aload_n 1, 1) := dk_43 (dk_at dksJ4_removeFirst_0 18 rfl rfl)
theorem dJ4_removeFirst_19 : decode cJ4_removeFirst 19 = .ok (.invokevirtual 46, 3) := dk_182 0 46 (dk_at dksJ4_removeFirst_0 19 rfl rfl)
theorem dJ4_removeFirst_22 : decode cJ4_removeFirst 22 = .ok (.areturn, 1) := dk_176 (dk_at dksJ4_removeFirst_0 22 rfl rfl)
abbrev cJ4_unlinkFirst : ByteArray := prog_61_method_6_code
def yJ4_unlinkFirst : MethodName := ⟨RJ4, "unlinkFirst", "(Ljava/util/LinkedList$Node;)Ljava/lang/Object;"⟩
def dkwJ4_unlinkFirst_2 : List UInt8 := [180, 0, 7, 4, 100, 181, 0, 7, 42, 89, 180, 0, 33, 4, 96, 181, 0, 33, 44, 176]
abbrev dktJ4_unlinkFirst_2 : List UInt8 := dkwJ4_unlinkFirst_2 ++ []
def dkwJ4_unlinkFirst_1 : List UInt8 := [181, 0, 18, 45, 199, 0, 11, 42, 1, 181, 0, 27, 167, 0, 8, 45, 1, 181, 0, 30, 42, 89]
abbrev dktJ4_unlinkFirst_1 : List UInt8 := dkwJ4_unlinkFirst_1 ++ dktJ4_unlinkFirst_2
def dkwJ4_unlinkFirst_0 : List UInt8 := [43, 180, 0, 39, 77, 43, 180, 0, 36, 78, 43, 1, 181, 0, 39, 43, 1, 181, 0, 36, 42, 45]
abbrev dktJ4_unlinkFirst_0 : List UInt8 := dkwJ4_unlinkFirst_0 ++ dktJ4_unlinkFirst_1
theorem dksJ4_unlinkFirst_0 : cJ4_unlinkFirst.data.toList.drop 0 = dktJ4_unlinkFirst_0 := by decide +kernel
theorem dksJ4_unlinkFirst_1 : cJ4_unlinkFirst.data.toList.drop 22 = dktJ4_unlinkFirst_1 := dk_seg dksJ4_unlinkFirst_0 22 rfl rfl
theorem dksJ4_unlinkFirst_2 : cJ4_unlinkFirst.data.toList.drop 44 = dktJ4_unlinkFirst_2 := dk_seg dksJ4_unlinkFirst_1 22 rfl rfl
theorem dJ4_unlinkFirst_0 : decode cJ4_unlinkFirst 0 = .ok (.aload_n 1, 1) := dk_43 (dk_at dksJ4_unlinkFirst_0 0 rfl rfl)
theorem dJ4_unlinkFirst_1 : decode cJ4_unlinkFirst 1 = .ok (.getfield 39, 3) := dk_180 0 39 (dk_at dksJ4_unlinkFirst_0 1 rfl rfl)
theorem dJ4_unlinkFirst_4 : decode cJ4_unlinkFirst 4 = .ok (.astore_n 2, 1) := dk_77 (dk_at dksJ4_unlinkFirst_0 4 rfl rfl)
theorem dJ4_unlinkFirst_5 : decode cJ4_unlinkFirst 5 = .ok (.aload_n 1, 1) := dk_43 (dk_at dksJ4_unlinkFirst_0 5 rfl rfl)
theorem dJ4_unlinkFirst_6 : decode cJ4_unlinkFirst 6 = .ok (.getfield 36, 3) := dk_180 0 36 (dk_at dksJ4_unlinkFirst_0 6 rfl rfl)
theorem dJ4_unlinkFirst_9 : decode cJ4_unlinkFirst 9 = .ok (.astore_n 3, 1) := dk_78 (dk_at dksJ4_unlinkFirst_0 9 rfl rfl)
theorem dJ4_unlinkFirst_10 : decode cJ4_unlinkFirst 10 = .ok (.aload_n 1, 1) := dk_43 (dk_at dksJ4_unlinkFirst_0 10 rfl rfl)
theorem dJ4_unlinkFirst_11 : decode cJ4_unlinkFirst 11 = .ok (.aconst_null, 1) := dk_1 (dk_at dksJ4_unlinkFirst_0 11 rfl rfl)
theorem dJ4_unlinkFirst_12 : decode cJ4_unlinkFirst 12 = .ok (.putfield 39, 3) := dk_181 0 39 (dk_at dksJ4_unlinkFirst_0 12 rfl rfl)
theorem dJ4_unlinkFirst_15 : decode cJ4_unlinkFirst 15 = .ok (.aload_n 1, 1) := dk_43 (dk_at dksJ4_unlinkFirst_0 15 rfl rfl)
theorem dJ4_unlinkFirst_16 : decode cJ4_unlinkFirst 16 = .ok (.aconst_null, 1) := dk_1 (dk_at dksJ4_unlinkFirst_0 16 rfl rfl)
theorem dJ4_unlinkFirst_17 : decode cJ4_unlinkFirst 17 = .ok (.putfield 36, 3) := dk_181 0 36 (dk_at dksJ4_unlinkFirst_0 17 rfl rfl)
theorem dJ4_unlinkFirst_20 : decode cJ4_unlinkFirst 20 = .ok (.aload_n 0, 1) := dk_42 (dk_at dksJ4_unlinkFirst_0 20 rfl rfl)
theorem dJ4_unlinkFirst_21 : decode cJ4_unlinkFirst 21 = .ok (.aload_n 3, 1) := dk_45 (dk_at dksJ4_unlinkFirst_0 21 rfl rfl)
theorem dJ4_unlinkFirst_22 : decode cJ4_unlinkFirst 22 = .ok (.putfield 18, 3) := dk_181 0 18 (dk_at dksJ4_unlinkFirst_1 0 rfl rfl)
theorem dJ4_unlinkFirst_25 : decode cJ4_unlinkFirst 25 = .ok (.aload_n 3, 1) := dk_45 (dk_at dksJ4_unlinkFirst_1 3 rfl rfl)
theorem dJ4_unlinkFirst_26 : decode cJ4_unlinkFirst 26 = .ok (.ifnonnull 11, 3) := dk_199 0 11 (dk_at dksJ4_unlinkFirst_1 4 rfl rfl)
theorem dJ4_unlinkFirst_29 : decode cJ4_unlinkFirst 29 = .ok (.aload_n 0, 1) := dk_42 (dk_at dksJ4_unlinkFirst_1 7 rfl rfl)
theorem dJ4_unlinkFirst_30 : decode cJ4_unlinkFirst 30 = .ok (.aconst_null, 1) := dk_1 (dk_at dksJ4_unlinkFirst_1 8 rfl rfl)
theorem dJ4_unlinkFirst_31 : decode cJ4_unlinkFirst 31 = .ok (.putfield 27, 3) := dk_181 0 27 (dk_at dksJ4_unlinkFirst_1 9 rfl rfl)
theorem dJ4_unlinkFirst_34 : decode cJ4_unlinkFirst 34 = .ok (.goto 8, 3) := dk_167 0 8 (dk_at dksJ4_unlinkFirst_1 12 rfl rfl)
theorem dJ4_unlinkFirst_37 : decode cJ4_unlinkFirst 37 = .ok (.aload_n 3, 1) := dk_45 (dk_at dksJ4_unlinkFirst_1 15 rfl rfl)
theorem dJ4_unlinkFirst_38 : decode cJ4_unlinkFirst 38 = .ok (.aconst_null, 1) := dk_1 (dk_at dksJ4_unlinkFirst_1 16 rfl rfl)
theorem dJ4_unlinkFirst_39 : decode cJ4_unlinkFirst 39 = .ok (.putfield 30, 3) := dk_181 0 30 (dk_at dksJ4_unlinkFirst_1 17 rfl rfl)
theorem dJ4_unlinkFirst_42 : decode cJ4_unlinkFirst 42 = .ok (.aload_n 0, 1) := dk_42 (dk_at dksJ4_unlinkFirst_1 20 rfl rfl)
theorem dJ4_unlinkFirst_43 : decode cJ4_unlinkFirst 43 = .ok (.dup, 1) := dk_89 (dk_at dksJ4_unlinkFirst_1 21 rfl rfl)
theorem dJ4_unlinkFirst_44 : decode cJ4_unlinkFirst 44 = .ok (.getfield 7, 3) := dk_180 0 7 (dk_at dksJ4_unlinkFirst_2 0 rfl rfl)
theorem dJ4_unlinkFirst_47 : decode cJ4_unlinkFirst 47 = .ok (.iconst 1, 1) := dk_4 (dk_at dksJ4_unlinkFirst_2 3 rfl rfl)
theorem dJ4_unlinkFirst_48 : decode cJ4_unlinkFirst 48 = .ok (.isub, 1) := dk_100 (dk_at dksJ4_unlinkFirst_2 4 rfl rfl)
theorem dJ4_unlinkFirst_49 : decode cJ4_unlinkFirst 49 = .ok (.putfield 7, 3) := dk_181 0 7 (dk_at dksJ4_unlinkFirst_2 5 rfl rfl)
theorem dJ4_unlinkFirst_52 : decode cJ4_unlinkFirst 52 = .ok (.aload_n 0, 1) := dk_42 (dk_at dksJ4_unlinkFirst_2 8 rfl rfl)
theorem dJ4_unlinkFirst_53 : decode cJ4_unlinkFirst 53 = .ok (.dup, 1) := dk_89 (dk_at dksJ4_unlinkFirst_2 9 rfl rfl)
theorem dJ4_unlinkFirst_54 : decode cJ4_unlinkFirst 54 = .ok (.getfield 33, 3) := dk_180 0 33 (dk_at dksJ4_unlinkFirst_2 10 rfl rfl)
theorem dJ4_unlinkFirst_57 : decode cJ4_unlinkFirst 57 = .ok (.iconst 1, 1) := dk_4 (dk_at dksJ4_unlinkFirst_2 13 rfl rfl)
theorem dJ4_unlinkFirst_58 : decode cJ4_unlinkFirst 58 = .ok (.iadd, 1) := dk_96 (dk_at dksJ4_unlinkFirst_2 14 rfl rfl)
theorem dJ4_unlinkFirst_59 : decode cJ4_unlinkFirst 59 = .ok (.putfield 33, 3) := dk_181 0 33 (dk_at dksJ4_unlinkFirst_2 15 rfl rfl)
theorem dJ4_unlinkFirst_62 : decode cJ4_unlinkFirst 62 = .ok (.aload_n 2, 1) := dk_44 (dk_at dksJ4_unlinkFirst_2 18 rfl rfl)
theorem dJ4_unlinkFirst_63 : decode cJ4_unlinkFirst 63 = .ok (.areturn, 1) := dk_176 (dk_at dksJ4_unlinkFirst_2 19 rfl rfl)
abbrev cJ4_contains : ByteArray := prog_61_method_15_code
def yJ4_contains : MethodName := ⟨RJ4, "contains", "(Ljava/lang/Object;)Z"⟩
def dkwJ4_contains_0 : List UInt8 := [42, 43, 182, 0, 60, 155, 0, 7, 4, 167, 0, 4, 3, 172]
abbrev dktJ4_contains_0 : List UInt8 := dkwJ4_contains_0 ++ []
theorem dksJ4_contains_0 : cJ4_contains.data.toList.drop 0 = dktJ4_contains_0 := by decide +kernel
theorem dJ4_contains_0 : decode cJ4_contains 0 = .ok (.aload_n 0, 1) := dk_42 (dk_at dksJ4_contains_0 0 rfl rfl)
theorem dJ4_contains_1 : decode cJ4_contains 1 = .ok (.aload_n 1, 1) := dk_43 (dk_at dksJ4_contains_0 1 rfl rfl)
theorem dJ4_contains_2 : decode cJ4_contains 2 = .ok (.invokevirtual 60, 3) := dk_182 0 60 (dk_at dksJ4_contains_0 2 rfl rfl)
theorem dJ4_contains_5 : decode cJ4_contains 5 = .ok (.ifCond .lt 7, 3) := dk_155 0 7 (dk_at dksJ4_contains_0 5 rfl rfl)
theorem dJ4_contains_8 : decode cJ4_contains 8 = .ok (.iconst 1, 1) := dk_4 (dk_at dksJ4_contains_0 8 rfl rfl)
theorem dJ4_contains_9 : decode cJ4_contains 9 = .ok (.goto 4, 3) := dk_167 0 4 (dk_at dksJ4_contains_0 9 rfl rfl)
theorem dJ4_contains_12 : decode cJ4_contains 12 = .ok (.iconst 0, 1) := dk_3 (dk_at dksJ4_contains_0 12 rfl rfl)
theorem dJ4_contains_13 : decode cJ4_contains 13 = .ok (.ireturn, 1) := dk_172 (dk_at dksJ4_contains_0 13 rfl rfl)
abbrev cJ40_init : ByteArray := prog_59_method_1_code
def yJ40_init : MethodName := ⟨RJ40, "<init>", "([Ljava/lang/Object;Z)V"⟩
def dkwJ40_init_0 : List UInt8 := [42, 183, 0, 1, 42, 43, 181, 0, 7, 42, 28, 181, 0, 13, 177]
abbrev dktJ40_init_0 : List UInt8 := dkwJ40_init_0 ++ []
theorem dksJ40_init_0 : cJ40_init.data.toList.drop 0 = dktJ40_init_0 := by decide +kernel
theorem dJ40_init_0 : decode cJ40_init 0 = .ok (.aload_n 0, 1) := dk_42 (dk_at dksJ40_init_0 0 rfl rfl)
theorem dJ40_init_1 : decode cJ40_init 1 = .ok (.invokespecial 1, 3) := dk_183 0 1 (dk_at dksJ40_init_0 1 rfl rfl)
theorem dJ40_init_4 : decode cJ40_init 4 = .ok (.aload_n 0, 1) := dk_42 (dk_at dksJ40_init_0 4 rfl rfl)
theorem dJ40_init_5 : decode cJ40_init 5 = .ok (.aload_n 1, 1) := dk_43 (dk_at dksJ40_init_0 5 rfl rfl)
theorem dJ40_init_6 : decode cJ40_init 6 = .ok (.putfield 7, 3) := dk_181 0 7 (dk_at dksJ40_init_0 6 rfl rfl)
theorem dJ40_init_9 : decode cJ40_init 9 = .ok (.aload_n 0, 1) := dk_42 (dk_at dksJ40_init_0 9 rfl rfl)
theorem dJ40_init_10 : decode cJ40_init 10 = .ok (.iload_n 2, 1) := dk_28 (dk_at dksJ40_init_0 10 rfl rfl)
theorem dJ40_init_11 : decode cJ40_init 11 = .ok (.putfield 13, 3) := dk_181 0 13 (dk_at dksJ40_init_0 11 rfl rfl)
theorem dJ40_init_14 : decode cJ40_init 14 = .ok (.return_, 1) := dk_177 (dk_at dksJ40_init_0 14 rfl rfl)
abbrev cJ40_size : ByteArray := prog_59_method_3_code
def yJ40_size : MethodName := ⟨RJ40, "size", "()I"⟩
def dkwJ40_size_0 : List UInt8 := [42, 180, 0, 7, 190, 172]
abbrev dktJ40_size_0 : List UInt8 := dkwJ40_size_0 ++ []
theorem dksJ40_size_0 : cJ40_size.data.toList.drop 0 = dktJ40_size_0 := by decide +kernel
theorem dJ40_size_0 : decode cJ40_size 0 = .ok (.aload_n 0, 1) := dk_42 (dk_at dksJ40_size_0 0 rfl rfl)
theorem dJ40_size_1 : decode cJ40_size 1 = .ok (.getfield 7, 3) := dk_180 0 7 (dk_at dksJ40_size_0 1 rfl rfl)
theorem dJ40_size_4 : decode cJ40_size 4 = .ok (.arraylength, 1) := dk_190 (dk_at dksJ40_size_0 4 rfl rfl)
theorem dJ40_size_5 : decode cJ40_size 5 = .ok (.ireturn, 1) := dk_172 (dk_at dksJ40_size_0 5 rfl rfl)
abbrev cJ40_get : ByteArray := prog_59_method_4_code
def yJ40_get : MethodName := ⟨RJ40, "get", "(I)Ljava/lang/Object;"⟩
def dkwJ40_get_0 : List UInt8 := [42, 180, 0, 7, 27, 50, 176]
abbrev dktJ40_get_0 : List UInt8 := dkwJ40_get_0 ++ []
theorem dksJ40_get_0 : cJ40_get.data.toList.drop 0 = dktJ40_get_0 := by decide +kernel
theorem dJ40_get_0 : decode cJ40_get 0 = .ok (.aload_n 0, 1) := dk_42 (dk_at dksJ40_get_0 0 rfl rfl)
theorem dJ40_get_1 : decode cJ40_get 1 = .ok (.getfield 7, 3) := dk_180 0 7 (dk_at dksJ40_get_0 1 rfl rfl)
theorem dJ40_get_4 : decode cJ40_get 4 = .ok (.iload_n 1, 1) := dk_27 (dk_at dksJ40_get_0 4 rfl rfl)
theorem dJ40_get_5 : decode cJ40_get 5 = .ok (.aaload, 1) := dk_50 (dk_at dksJ40_get_0 5 rfl rfl)
theorem dJ40_get_6 : decode cJ40_get 6 = .ok (.areturn, 1) := dk_176 (dk_at dksJ40_get_0 6 rfl rfl)
abbrev cJ40_indexOf : ByteArray := prog_59_method_9_code
def yJ40_indexOf : MethodName := ⟨RJ40, "indexOf", "(Ljava/lang/Object;)I"⟩
def dkwJ40_indexOf_2 : List UInt8 := [167, 255, 235, 2, 172]
abbrev dktJ40_indexOf_2 : List UInt8 := dkwJ40_indexOf_2 ++ []
def dkwJ40_indexOf_1 : List UInt8 := [3, 62, 29, 44, 190, 162, 0, 21, 43, 44, 29, 50, 184, 0, 53, 153, 0, 5, 29, 172, 132, 3, 1]
abbrev dktJ40_indexOf_1 : List UInt8 := dkwJ40_indexOf_1 ++ dktJ40_indexOf_2
def dkwJ40_indexOf_0 : List UInt8 := [42, 180, 0, 13, 154, 0, 15, 43, 199, 0, 11, 187, 0, 50, 89, 183, 0, 52, 191, 42, 180, 0, 7, 77]
abbrev dktJ40_indexOf_0 : List UInt8 := dkwJ40_indexOf_0 ++ dktJ40_indexOf_1
theorem dksJ40_indexOf_0 : cJ40_indexOf.data.toList.drop 0 = dktJ40_indexOf_0 := by decide +kernel
theorem dksJ40_indexOf_1 : cJ40_indexOf.data.toList.drop 24 = dktJ40_indexOf_1 := dk_seg dksJ40_indexOf_0 24 rfl rfl
theorem dksJ40_indexOf_2 : cJ40_indexOf.data.toList.drop 47 = dktJ40_indexOf_2 := dk_seg dksJ40_indexOf_1 23 rfl rfl
theorem dJ40_indexOf_0 : decode cJ40_indexOf 0 = .ok (.aload_n 0, 1) := dk_42 (dk_at dksJ40_indexOf_0 0 rfl rfl)
theorem dJ40_indexOf_1 : decode cJ40_indexOf 1 = .ok (.getfield 13, 3) := dk_180 0 13 (dk_at dksJ40_indexOf_0 1 rfl rfl)
theorem dJ40_indexOf_4 : decode cJ40_indexOf 4 = .ok (.ifCond .ne 15, 3) := dk_154 0 15 (dk_at dksJ40_indexOf_0 4 rfl rfl)
theorem dJ40_indexOf_7 : decode cJ40_indexOf 7 = .ok (.aload_n 1, 1) := dk_43 (dk_at dksJ40_indexOf_0 7 rfl rfl)
theorem dJ40_indexOf_8 : decode cJ40_indexOf 8 = .ok (.ifnonnull 11, 3) := dk_199 0 11 (dk_at dksJ40_indexOf_0 8 rfl rfl)
theorem dJ40_indexOf_11 : decode cJ40_indexOf 11 = .ok (.new 50, 3) := dk_187 0 50 (dk_at dksJ40_indexOf_0 11 rfl rfl)
theorem dJ40_indexOf_14 : decode cJ40_indexOf 14 = .ok (.dup, 1) := dk_89 (dk_at dksJ40_indexOf_0 14 rfl rfl)
theorem dJ40_indexOf_15 : decode cJ40_indexOf 15 = .ok (.invokespecial 52, 3) := dk_183 0 52 (dk_at dksJ40_indexOf_0 15 rfl rfl)
theorem dJ40_indexOf_18 : decode cJ40_indexOf 18 = .ok (.athrow, 1) := dk_191 (dk_at dksJ40_indexOf_0 18 rfl rfl)
theorem dJ40_indexOf_19 : decode cJ40_indexOf 19 = .ok (.aload_n 0, 1) := dk_42 (dk_at dksJ40_indexOf_0 19 rfl rfl)
theorem dJ40_indexOf_20 : decode cJ40_indexOf 20 = .ok (.getfield 7, 3) := dk_180 0 7 (dk_at dksJ40_indexOf_0 20 rfl rfl)
theorem dJ40_indexOf_23 : decode cJ40_indexOf 23 = .ok (.astore_n 2, 1) := dk_77 (dk_at dksJ40_indexOf_0 23 rfl rfl)
theorem dJ40_indexOf_24 : decode cJ40_indexOf 24 = .ok (.iconst 0, 1) := dk_3 (dk_at dksJ40_indexOf_1 0 rfl rfl)
theorem dJ40_indexOf_25 : decode cJ40_indexOf 25 = .ok (.istore_n 3, 1) := dk_62 (dk_at dksJ40_indexOf_1 1 rfl rfl)
theorem dJ40_indexOf_26 : decode cJ40_indexOf 26 = .ok (.iload_n 3, 1) := dk_29 (dk_at dksJ40_indexOf_1 2 rfl rfl)
theorem dJ40_indexOf_27 : decode cJ40_indexOf 27 = .ok (.aload_n 2, 1) := dk_44 (dk_at dksJ40_indexOf_1 3 rfl rfl)
theorem dJ40_indexOf_28 : decode cJ40_indexOf 28 = .ok (.arraylength, 1) := dk_190 (dk_at dksJ40_indexOf_1 4 rfl rfl)
theorem dJ40_indexOf_29 : decode cJ40_indexOf 29 = .ok (.if_icmp .ge 21, 3) := dk_162 0 21 (dk_at dksJ40_indexOf_1 5 rfl rfl)
theorem dJ40_indexOf_32 : decode cJ40_indexOf 32 = .ok (.aload_n 1, 1) := dk_43 (dk_at dksJ40_indexOf_1 8 rfl rfl)
theorem dJ40_indexOf_33 : decode cJ40_indexOf 33 = .ok (.aload_n 2, 1) := dk_44 (dk_at dksJ40_indexOf_1 9 rfl rfl)
theorem dJ40_indexOf_34 : decode cJ40_indexOf 34 = .ok (.iload_n 3, 1) := dk_29 (dk_at dksJ40_indexOf_1 10 rfl rfl)
theorem dJ40_indexOf_35 : decode cJ40_indexOf 35 = .ok (.aaload, 1) := dk_50 (dk_at dksJ40_indexOf_1 11 rfl rfl)
theorem dJ40_indexOf_36 : decode cJ40_indexOf 36 = .ok (.invokestatic 53, 3) := dk_184 0 53 (dk_at dksJ40_indexOf_1 12 rfl rfl)
theorem dJ40_indexOf_39 : decode cJ40_indexOf 39 = .ok (.ifCond .eq 5, 3) := dk_153 0 5 (dk_at dksJ40_indexOf_1 15 rfl rfl)
theorem dJ40_indexOf_42 : decode cJ40_indexOf 42 = .ok (.iload_n 3, 1) := dk_29 (dk_at dksJ40_indexOf_1 18 rfl rfl)
theorem dJ40_indexOf_43 : decode cJ40_indexOf 43 = .ok (.ireturn, 1) := dk_172 (dk_at dksJ40_indexOf_1 19 rfl rfl)
theorem dJ40_indexOf_44 : decode cJ40_indexOf 44 = .ok (.iinc 3 1, 3) := dk_132 3 1 (dk_at dksJ40_indexOf_1 20 rfl rfl)
theorem dJ40_indexOf_47 : decode cJ40_indexOf 47 = .ok (.goto (-21), 3) := dk_167 255 235 (dk_at dksJ40_indexOf_2 0 rfl rfl)
theorem dJ40_indexOf_50 : decode cJ40_indexOf 50 = .ok (.iconst (-1), 1) := dk_2 (dk_at dksJ40_indexOf_2 3 rfl rfl)
theorem dJ40_indexOf_51 : decode cJ40_indexOf 51 = .ok (.ireturn, 1) := dk_172 (dk_at dksJ40_indexOf_2 4 rfl rfl)
abbrev cJ41_hasNext : ByteArray := prog_58_method_3_code
def yJ41_hasNext : MethodName := ⟨RJ41, "hasNext", "()Z"⟩
def dkwJ41_hasNext_0 : List UInt8 := [42, 180, 0, 17, 42, 180, 0, 13, 159, 0, 7, 4, 167, 0, 4, 3, 172]
abbrev dktJ41_hasNext_0 : List UInt8 := dkwJ41_hasNext_0 ++ []
theorem dksJ41_hasNext_0 : cJ41_hasNext.data.toList.drop 0 = dktJ41_hasNext_0 := by decide +kernel
theorem dJ41_hasNext_0 : decode cJ41_hasNext 0 = .ok (.aload_n 0, 1) := dk_42 (dk_at dksJ41_hasNext_0 0 rfl rfl)
theorem dJ41_hasNext_1 : decode cJ41_hasNext 1 = .ok (.getfield 17, 3) := dk_180 0 17 (dk_at dksJ41_hasNext_0 1 rfl rfl)
theorem dJ41_hasNext_4 : decode cJ41_hasNext 4 = .ok (.aload_n 0, 1) := dk_42 (dk_at dksJ41_hasNext_0 4 rfl rfl)
theorem dJ41_hasNext_5 : decode cJ41_hasNext 5 = .ok (.getfield 13, 3) := dk_180 0 13 (dk_at dksJ41_hasNext_0 5 rfl rfl)
theorem dJ41_hasNext_8 : decode cJ41_hasNext 8 = .ok (.if_icmp .eq 7, 3) := dk_159 0 7 (dk_at dksJ41_hasNext_0 8 rfl rfl)
theorem dJ41_hasNext_11 : decode cJ41_hasNext 11 = .ok (.iconst 1, 1) := dk_4 (dk_at dksJ41_hasNext_0 11 rfl rfl)
theorem dJ41_hasNext_12 : decode cJ41_hasNext 12 = .ok (.goto 4, 3) := dk_167 0 4 (dk_at dksJ41_hasNext_0 12 rfl rfl)
theorem dJ41_hasNext_15 : decode cJ41_hasNext 15 = .ok (.iconst 0, 1) := dk_3 (dk_at dksJ41_hasNext_0 15 rfl rfl)
theorem dJ41_hasNext_16 : decode cJ41_hasNext 16 = .ok (.ireturn, 1) := dk_172 (dk_at dksJ41_hasNext_0 16 rfl rfl)
abbrev cJ41_next : ByteArray := prog_58_method_4_code
def yJ41_next : MethodName := ⟨RJ41, "next", "()Ljava/lang/Object;"⟩
def dkwJ41_next_1 : List UInt8 := [176, 76, 187, 0, 32, 89, 183, 0, 34, 191]
abbrev dktJ41_next_1 : List UInt8 := dkwJ41_next_1 ++ []
def dkwJ41_next_0 : List UInt8 := [42, 180, 0, 17, 60, 42, 180, 0, 7, 27, 185, 0, 24, 2, 0, 77, 42, 27, 4, 96, 181, 0, 17, 44]
abbrev dktJ41_next_0 : List UInt8 := dkwJ41_next_0 ++ dktJ41_next_1
theorem dksJ41_next_0 : cJ41_next.data.toList.drop 0 = dktJ41_next_0 := by decide +kernel
theorem dksJ41_next_1 : cJ41_next.data.toList.drop 24 = dktJ41_next_1 := dk_seg dksJ41_next_0 24 rfl rfl
theorem dJ41_next_0 : decode cJ41_next 0 = .ok (.aload_n 0, 1) := dk_42 (dk_at dksJ41_next_0 0 rfl rfl)
theorem dJ41_next_1 : decode cJ41_next 1 = .ok (.getfield 17, 3) := dk_180 0 17 (dk_at dksJ41_next_0 1 rfl rfl)
theorem dJ41_next_4 : decode cJ41_next 4 = .ok (.istore_n 1, 1) := dk_60 (dk_at dksJ41_next_0 4 rfl rfl)
theorem dJ41_next_5 : decode cJ41_next 5 = .ok (.aload_n 0, 1) := dk_42 (dk_at dksJ41_next_0 5 rfl rfl)
theorem dJ41_next_6 : decode cJ41_next 6 = .ok (.getfield 7, 3) := dk_180 0 7 (dk_at dksJ41_next_0 6 rfl rfl)
theorem dJ41_next_9 : decode cJ41_next 9 = .ok (.iload_n 1, 1) := dk_27 (dk_at dksJ41_next_0 9 rfl rfl)
theorem dJ41_next_10 : decode cJ41_next 10 = .ok (.invokeinterface 24 2, 5) := by decide +kernel
theorem dJ41_next_15 : decode cJ41_next 15 = .ok (.astore_n 2, 1) := dk_77 (dk_at dksJ41_next_0 15 rfl rfl)
theorem dJ41_next_16 : decode cJ41_next 16 = .ok (.aload_n 0, 1) := dk_42 (dk_at dksJ41_next_0 16 rfl rfl)
theorem dJ41_next_17 : decode cJ41_next 17 = .ok (.iload_n 1, 1) := dk_27 (dk_at dksJ41_next_0 17 rfl rfl)
theorem dJ41_next_18 : decode cJ41_next 18 = .ok (.iconst 1, 1) := dk_4 (dk_at dksJ41_next_0 18 rfl rfl)
theorem dJ41_next_19 : decode cJ41_next 19 = .ok (.iadd, 1) := dk_96 (dk_at dksJ41_next_0 19 rfl rfl)
theorem dJ41_next_20 : decode cJ41_next 20 = .ok (.putfield 17, 3) := dk_181 0 17 (dk_at dksJ41_next_0 20 rfl rfl)
theorem dJ41_next_23 : decode cJ41_next 23 = .ok (.aload_n 2, 1) := dk_44 (dk_at dksJ41_next_0 23 rfl rfl)
theorem dJ41_next_24 : decode cJ41_next 24 = .ok (.areturn, 1) := dk_176 (dk_at dksJ41_next_1 0 rfl rfl)
theorem dJ41_next_25 : decode cJ41_next 25 = .ok (.astore_n 1, 1) := dk_76 (dk_at dksJ41_next_1 1 rfl rfl)
theorem dJ41_next_26 : decode cJ41_next 26 = .ok (.new 32, 3) := dk_187 0 32 (dk_at dksJ41_next_1 2 rfl rfl)
theorem dJ41_next_29 : decode cJ41_next 29 = .ok (.dup, 1) := dk_89 (dk_at dksJ41_next_1 5 rfl rfl)
theorem dJ41_next_30 : decode cJ41_next 30 = .ok (.invokespecial 34, 3) := dk_183 0 34 (dk_at dksJ41_next_1 6 rfl rfl)
theorem dJ41_next_33 : decode cJ41_next 33 = .ok (.athrow, 1) := dk_191 (dk_at dksJ41_next_1 9 rfl rfl)
abbrev cJ41_init : ByteArray := prog_58_method_1_code
def yJ41_init : MethodName := ⟨RJ41, "<init>", "(Ljava/util/List;I)V"⟩
def dkwJ41_init_1 : List UInt8 := [177]
abbrev dktJ41_init_1 : List UInt8 := dkwJ41_init_1 ++ []
def dkwJ41_init_0 : List UInt8 := [42, 183, 0, 1, 42, 43, 181, 0, 7, 42, 28, 181, 0, 13, 42, 3, 181, 0, 17, 42, 3, 181, 0, 20]
abbrev dktJ41_init_0 : List UInt8 := dkwJ41_init_0 ++ dktJ41_init_1
theorem dksJ41_init_0 : cJ41_init.data.toList.drop 0 = dktJ41_init_0 := by decide +kernel
theorem dksJ41_init_1 : cJ41_init.data.toList.drop 24 = dktJ41_init_1 := dk_seg dksJ41_init_0 24 rfl rfl
theorem dJ41_init_0 : decode cJ41_init 0 = .ok (.aload_n 0, 1) := dk_42 (dk_at dksJ41_init_0 0 rfl rfl)
theorem dJ41_init_1 : decode cJ41_init 1 = .ok (.invokespecial 1, 3) := dk_183 0 1 (dk_at dksJ41_init_0 1 rfl rfl)
theorem dJ41_init_4 : decode cJ41_init 4 = .ok (.aload_n 0, 1) := dk_42 (dk_at dksJ41_init_0 4 rfl rfl)
theorem dJ41_init_5 : decode cJ41_init 5 = .ok (.aload_n 1, 1) := dk_43 (dk_at dksJ41_init_0 5 rfl rfl)
theorem dJ41_init_6 : decode cJ41_init 6 = .ok (.putfield 7, 3) := dk_181 0 7 (dk_at dksJ41_init_0 6 rfl rfl)
theorem dJ41_init_9 : decode cJ41_init 9 = .ok (.aload_n 0, 1) := dk_42 (dk_at dksJ41_init_0 9 rfl rfl)
theorem dJ41_init_10 : decode cJ41_init 10 = .ok (.iload_n 2, 1) := dk_28 (dk_at dksJ41_init_0 10 rfl rfl)
theorem dJ41_init_11 : decode cJ41_init 11 = .ok (.putfield 13, 3) := dk_181 0 13 (dk_at dksJ41_init_0 11 rfl rfl)
theorem dJ41_init_14 : decode cJ41_init 14 = .ok (.aload_n 0, 1) := dk_42 (dk_at dksJ41_init_0 14 rfl rfl)
theorem dJ41_init_15 : decode cJ41_init 15 = .ok (.iconst 0, 1) := dk_3 (dk_at dksJ41_init_0 15 rfl rfl)
theorem dJ41_init_16 : decode cJ41_init 16 = .ok (.putfield 17, 3) := dk_181 0 17 (dk_at dksJ41_init_0 16 rfl rfl)
theorem dJ41_init_19 : decode cJ41_init 19 = .ok (.aload_n 0, 1) := dk_42 (dk_at dksJ41_init_0 19 rfl rfl)
theorem dJ41_init_20 : decode cJ41_init 20 = .ok (.iconst 0, 1) := dk_3 (dk_at dksJ41_init_0 20 rfl rfl)
theorem dJ41_init_21 : decode cJ41_init 21 = .ok (.putfield 20, 3) := dk_181 0 20 (dk_at dksJ41_init_0 21 rfl rfl)
theorem dJ41_init_24 : decode cJ41_init 24 = .ok (.return_, 1) := dk_177 (dk_at dksJ41_init_1 0 rfl rfl)
abbrev cJ41_remove : ByteArray := prog_58_method_5_code
def yJ41_remove : MethodName := ⟨RJ41, "remove", "()V"⟩
theorem dJ41_remove_0 : decode cJ41_remove 0 = .ok (.invokestatic 35, 3) := by decide +kernel
theorem dJ41_remove_3 : decode cJ41_remove 3 = .ok (.athrow, 1) := by decide +kernel
abbrev cJ42_init : ByteArray := prog_31_method_3_code
def yJ42_init : MethodName := ⟨RJ42, "<init>", "(I)V"⟩
def dkwJ42_init_0 : List UInt8 := [42, 187, 0, 10, 89, 183, 0, 12, 18, 13, 182, 0, 15, 27, 182, 0, 19, 182, 0, 22, 183, 0, 7, 177]
abbrev dktJ42_init_0 : List UInt8 := dkwJ42_init_0 ++ []
theorem dksJ42_init_0 : cJ42_init.data.toList.drop 0 = dktJ42_init_0 := by decide +kernel
theorem dJ42_init_0 : decode cJ42_init 0 = .ok (.aload_n 0, 1) := dk_42 (dk_at dksJ42_init_0 0 rfl rfl)
theorem dJ42_init_1 : decode cJ42_init 1 = .ok (.new 10, 3) := dk_187 0 10 (dk_at dksJ42_init_0 1 rfl rfl)
theorem dJ42_init_4 : decode cJ42_init 4 = .ok (.dup, 1) := dk_89 (dk_at dksJ42_init_0 4 rfl rfl)
theorem dJ42_init_5 : decode cJ42_init 5 = .ok (.invokespecial 12, 3) := dk_183 0 12 (dk_at dksJ42_init_0 5 rfl rfl)
theorem dJ42_init_8 : decode cJ42_init 8 = .ok (.ldc 13, 2) := dk_18 13 (dk_at dksJ42_init_0 8 rfl rfl)
theorem dJ42_init_10 : decode cJ42_init 10 = .ok (.invokevirtual 15, 3) := dk_182 0 15 (dk_at dksJ42_init_0 10 rfl rfl)
theorem dJ42_init_13 : decode cJ42_init 13 = .ok (.iload_n 1, 1) := dk_27 (dk_at dksJ42_init_0 13 rfl rfl)
theorem dJ42_init_14 : decode cJ42_init 14 = .ok (.invokevirtual 19, 3) := dk_182 0 19 (dk_at dksJ42_init_0 14 rfl rfl)
theorem dJ42_init_17 : decode cJ42_init 17 = .ok (.invokevirtual 22, 3) := dk_182 0 22 (dk_at dksJ42_init_0 17 rfl rfl)
theorem dJ42_init_20 : decode cJ42_init 20 = .ok (.invokespecial 7, 3) := dk_183 0 7 (dk_at dksJ42_init_0 20 rfl rfl)
theorem dJ42_init_23 : decode cJ42_init 23 = .ok (.return_, 1) := dk_177 (dk_at dksJ42_init_0 23 rfl rfl)
abbrev cJ43_getLongUnaligned : ByteArray := prog_72_method_334_code
def yJ43_getLongUnaligned : MethodName := ⟨RJ43, "getLongUnaligned", "(Ljava/lang/Object;J)J"⟩
def dkwJ43_getLongUnaligned_7 : List UInt8 := [182, 0, 39, 184, 2, 197, 173]
abbrev dktJ43_getLongUnaligned_7 : List UInt8 := dkwJ43_getLongUnaligned_7 ++ []
def dkwJ43_getLongUnaligned_6 : List UInt8 := [20, 2, 195, 97, 182, 0, 39, 42, 43, 32, 20, 2, 190, 97, 182, 0, 39, 42, 43, 32, 20, 2, 184, 97]
abbrev dktJ43_getLongUnaligned_6 : List UInt8 := dkwJ43_getLongUnaligned_6 ++ dktJ43_getLongUnaligned_7
def dkwJ43_getLongUnaligned_5 : List UInt8 := [43, 32, 20, 1, 93, 97, 182, 0, 39, 42, 43, 32, 20, 0, 205, 97, 182, 0, 39, 42, 43, 32]
abbrev dktJ43_getLongUnaligned_5 : List UInt8 := dkwJ43_getLongUnaligned_5 ++ dktJ43_getLongUnaligned_6
def dkwJ43_getLongUnaligned_4 : List UInt8 := [43, 32, 182, 0, 39, 42, 43, 32, 10, 97, 182, 0, 39, 42, 43, 32, 20, 0, 203, 97, 182, 0, 39, 42]
abbrev dktJ43_getLongUnaligned_4 : List UInt8 := dkwJ43_getLongUnaligned_4 ++ dktJ43_getLongUnaligned_5
def dkwJ43_getLongUnaligned_3 : List UInt8 := [43, 32, 20, 0, 205, 97, 182, 0, 47, 42, 43, 32, 20, 2, 190, 97, 182, 0, 47, 184, 2, 192, 173, 42]
abbrev dktJ43_getLongUnaligned_3 : List UInt8 := dkwJ43_getLongUnaligned_3 ++ dktJ43_getLongUnaligned_4
def dkwJ43_getLongUnaligned_2 : List UInt8 := [10, 127, 9, 148, 154, 0, 43, 42, 43, 32, 182, 0, 47, 42, 43, 32, 20, 0, 203, 97, 182, 0, 47, 42]
abbrev dktJ43_getLongUnaligned_2 : List UInt8 := dkwJ43_getLongUnaligned_2 ++ dktJ43_getLongUnaligned_3
def dkwJ43_getLongUnaligned_1 : List UInt8 := [154, 0, 23, 42, 43, 32, 182, 0, 17, 42, 43, 32, 20, 0, 205, 97, 182, 0, 17, 184, 2, 186, 173, 32]
abbrev dktJ43_getLongUnaligned_1 : List UInt8 := dkwJ43_getLongUnaligned_1 ++ dktJ43_getLongUnaligned_2
def dkwJ43_getLongUnaligned_0 : List UInt8 := [32, 20, 2, 184, 127, 9, 148, 154, 0, 10, 42, 43, 32, 182, 0, 27, 173, 32, 20, 1, 93, 127, 9, 148]
abbrev dktJ43_getLongUnaligned_0 : List UInt8 := dkwJ43_getLongUnaligned_0 ++ dktJ43_getLongUnaligned_1
theorem dksJ43_getLongUnaligned_0 : cJ43_getLongUnaligned.data.toList.drop 0 = dktJ43_getLongUnaligned_0 := by decide +kernel
theorem dksJ43_getLongUnaligned_1 : cJ43_getLongUnaligned.data.toList.drop 24 = dktJ43_getLongUnaligned_1 := dk_seg dksJ43_getLongUnaligned_0 24 rfl rfl
theorem dksJ43_getLongUnaligned_2 : cJ43_getLongUnaligned.data.toList.drop 48 = dktJ43_getLongUnaligned_2 := dk_seg dksJ43_getLongUnaligned_1 24 rfl rfl
theorem dksJ43_getLongUnaligned_3 : cJ43_getLongUnaligned.data.toList.drop 72 = dktJ43_getLongUnaligned_3 := dk_seg dksJ43_getLongUnaligned_2 24 rfl rfl
theorem dksJ43_getLongUnaligned_4 : cJ43_getLongUnaligned.data.toList.drop 96 = dktJ43_getLongUnaligned_4 := dk_seg dksJ43_getLongUnaligned_3 24 rfl rfl
theorem dksJ43_getLongUnaligned_5 : cJ43_getLongUnaligned.data.toList.drop 120 = dktJ43_getLongUnaligned_5 := dk_seg dksJ43_getLongUnaligned_4 24 rfl rfl
theorem dksJ43_getLongUnaligned_6 : cJ43_getLongUnaligned.data.toList.drop 142 = dktJ43_getLongUnaligned_6 := dk_seg dksJ43_getLongUnaligned_5 22 rfl rfl
theorem dksJ43_getLongUnaligned_7 : cJ43_getLongUnaligned.data.toList.drop 166 = dktJ43_getLongUnaligned_7 := dk_seg dksJ43_getLongUnaligned_6 24 rfl rfl
theorem dJ43_getLongUnaligned_0 : decode cJ43_getLongUnaligned 0 = .ok (.lload_n 2, 1) := dk_32 (dk_at dksJ43_getLongUnaligned_0 0 rfl rfl)
theorem dJ43_getLongUnaligned_1 : decode cJ43_getLongUnaligned 1 = .ok (.ldc2_w 696, 3) := dk_20 2 184 (dk_at dksJ43_getLongUnaligned_0 1 rfl rfl)
theorem dJ43_getLongUnaligned_4 : decode cJ43_getLongUnaligned 4 = .ok (.land, 1) := dk_127 (dk_at dksJ43_getLongUnaligned_0 4 rfl rfl)
theorem dJ43_getLongUnaligned_5 : decode cJ43_getLongUnaligned 5 = .ok (.lconst 0, 1) := dk_9 (dk_at dksJ43_getLongUnaligned_0 5 rfl rfl)
theorem dJ43_getLongUnaligned_6 : decode cJ43_getLongUnaligned 6 = .ok (.lcmp, 1) := dk_148 (dk_at dksJ43_getLongUnaligned_0 6 rfl rfl)
theorem dJ43_getLongUnaligned_7 : decode cJ43_getLongUnaligned 7 = .ok (.ifCond .ne 10, 3) := dk_154 0 10 (dk_at dksJ43_getLongUnaligned_0 7 rfl rfl)
theorem dJ43_getLongUnaligned_10 : decode cJ43_getLongUnaligned 10 = .ok (.aload_n 0, 1) := dk_42 (dk_at dksJ43_getLongUnaligned_0 10 rfl rfl)
theorem dJ43_getLongUnaligned_11 : decode cJ43_getLongUnaligned 11 = .ok (.aload_n 1, 1) := dk_43 (dk_at dksJ43_getLongUnaligned_0 11 rfl rfl)
theorem dJ43_getLongUnaligned_12 : decode cJ43_getLongUnaligned 12 = .ok (.lload_n 2, 1) := dk_32 (dk_at dksJ43_getLongUnaligned_0 12 rfl rfl)
theorem dJ43_getLongUnaligned_13 : decode cJ43_getLongUnaligned 13 = .ok (.invokevirtual 27, 3) := dk_182 0 27 (dk_at dksJ43_getLongUnaligned_0 13 rfl rfl)
theorem dJ43_getLongUnaligned_16 : decode cJ43_getLongUnaligned 16 = .ok (.lreturn, 1) := dk_173 (dk_at dksJ43_getLongUnaligned_0 16 rfl rfl)
theorem dJ43_getLongUnaligned_17 : decode cJ43_getLongUnaligned 17 = .ok (.lload_n 2, 1) := dk_32 (dk_at dksJ43_getLongUnaligned_0 17 rfl rfl)
theorem dJ43_getLongUnaligned_18 : decode cJ43_getLongUnaligned 18 = .ok (.ldc2_w 349, 3) := dk_20 1 93 (dk_at dksJ43_getLongUnaligned_0 18 rfl rfl)
theorem dJ43_getLongUnaligned_21 : decode cJ43_getLongUnaligned 21 = .ok (.land, 1) := dk_127 (dk_at dksJ43_getLongUnaligned_0 21 rfl rfl)
theorem dJ43_getLongUnaligned_22 : decode cJ43_getLongUnaligned 22 = .ok (.lconst 0, 1) := dk_9 (dk_at dksJ43_getLongUnaligned_0 22 rfl rfl)
theorem dJ43_getLongUnaligned_23 : decode cJ43_getLongUnaligned 23 = .ok (.lcmp, 1) := dk_148 (dk_at dksJ43_getLongUnaligned_0 23 rfl rfl)
theorem dJ43_getLongUnaligned_24 : decode cJ43_getLongUnaligned 24 = .ok (.ifCond .ne 23, 3) := dk_154 0 23 (dk_at dksJ43_getLongUnaligned_1 0 rfl rfl)
theorem dJ43_getLongUnaligned_27 : decode cJ43_getLongUnaligned 27 = .ok (.aload_n 0, 1) := dk_42 (dk_at dksJ43_getLongUnaligned_1 3 rfl rfl)
theorem dJ43_getLongUnaligned_28 : decode cJ43_getLongUnaligned 28 = .ok (.aload_n 1, 1) := dk_43 (dk_at dksJ43_getLongUnaligned_1 4 rfl rfl)
theorem dJ43_getLongUnaligned_29 : decode cJ43_getLongUnaligned 29 = .ok (.lload_n 2, 1) := dk_32 (dk_at dksJ43_getLongUnaligned_1 5 rfl rfl)
theorem dJ43_getLongUnaligned_30 : decode cJ43_getLongUnaligned 30 = .ok (.invokevirtual 17, 3) := dk_182 0 17 (dk_at dksJ43_getLongUnaligned_1 6 rfl rfl)
theorem dJ43_getLongUnaligned_33 : decode cJ43_getLongUnaligned 33 = .ok (.aload_n 0, 1) := dk_42 (dk_at dksJ43_getLongUnaligned_1 9 rfl rfl)
theorem dJ43_getLongUnaligned_34 : decode cJ43_getLongUnaligned 34 = .ok (.aload_n 1, 1) := dk_43 (dk_at dksJ43_getLongUnaligned_1 10 rfl rfl)
theorem dJ43_getLongUnaligned_35 : decode cJ43_getLongUnaligned 35 = .ok (.lload_n 2, 1) := dk_32 (dk_at dksJ43_getLongUnaligned_1 11 rfl rfl)
theorem dJ43_getLongUnaligned_36 : decode cJ43_getLongUnaligned 36 = .ok (.ldc2_w 205, 3) := dk_20 0 205 (dk_at dksJ43_getLongUnaligned_1 12 rfl rfl)
theorem dJ43_getLongUnaligned_39 : decode cJ43_getLongUnaligned 39 = .ok (.ladd, 1) := dk_97 (dk_at dksJ43_getLongUnaligned_1 15 rfl rfl)
theorem dJ43_getLongUnaligned_40 : decode cJ43_getLongUnaligned 40 = .ok (.invokevirtual 17, 3) := dk_182 0 17 (dk_at dksJ43_getLongUnaligned_1 16 rfl rfl)
theorem dJ43_getLongUnaligned_43 : decode cJ43_getLongUnaligned 43 = .ok (.invokestatic 698, 3) := dk_184 2 186 (dk_at dksJ43_getLongUnaligned_1 19 rfl rfl)
theorem dJ43_getLongUnaligned_46 : decode cJ43_getLongUnaligned 46 = .ok (.lreturn, 1) := dk_173 (dk_at dksJ43_getLongUnaligned_1 22 rfl rfl)
theorem dJ43_getLongUnaligned_47 : decode cJ43_getLongUnaligned 47 = .ok (.lload_n 2, 1) := dk_32 (dk_at dksJ43_getLongUnaligned_1 23 rfl rfl)
theorem dJ43_getLongUnaligned_48 : decode cJ43_getLongUnaligned 48 = .ok (.lconst 1, 1) := dk_10 (dk_at dksJ43_getLongUnaligned_2 0 rfl rfl)
theorem dJ43_getLongUnaligned_49 : decode cJ43_getLongUnaligned 49 = .ok (.land, 1) := dk_127 (dk_at dksJ43_getLongUnaligned_2 1 rfl rfl)
theorem dJ43_getLongUnaligned_50 : decode cJ43_getLongUnaligned 50 = .ok (.lconst 0, 1) := dk_9 (dk_at dksJ43_getLongUnaligned_2 2 rfl rfl)
theorem dJ43_getLongUnaligned_51 : decode cJ43_getLongUnaligned 51 = .ok (.lcmp, 1) := dk_148 (dk_at dksJ43_getLongUnaligned_2 3 rfl rfl)
theorem dJ43_getLongUnaligned_52 : decode cJ43_getLongUnaligned 52 = .ok (.ifCond .ne 43, 3) := dk_154 0 43 (dk_at dksJ43_getLongUnaligned_2 4 rfl rfl)
theorem dJ43_getLongUnaligned_55 : decode cJ43_getLongUnaligned 55 = .ok (.aload_n 0, 1) := dk_42 (dk_at dksJ43_getLongUnaligned_2 7 rfl rfl)
theorem dJ43_getLongUnaligned_56 : decode cJ43_getLongUnaligned 56 = .ok (.aload_n 1, 1) := dk_43 (dk_at dksJ43_getLongUnaligned_2 8 rfl rfl)
theorem dJ43_getLongUnaligned_57 : decode cJ43_getLongUnaligned 57 = .ok (.lload_n 2, 1) := dk_32 (dk_at dksJ43_getLongUnaligned_2 9 rfl rfl)
theorem dJ43_getLongUnaligned_58 : decode cJ43_getLongUnaligned 58 = .ok (.invokevirtual 47, 3) := dk_182 0 47 (dk_at dksJ43_getLongUnaligned_2 10 rfl rfl)
theorem dJ43_getLongUnaligned_61 : decode cJ43_getLongUnaligned 61 = .ok (.aload_n 0, 1) := dk_42 (dk_at dksJ43_getLongUnaligned_2 13 rfl rfl)
theorem dJ43_getLongUnaligned_62 : decode cJ43_getLongUnaligned 62 = .ok (.aload_n 1, 1) := dk_43 (dk_at dksJ43_getLongUnaligned_2 14 rfl rfl)
theorem dJ43_getLongUnaligned_63 : decode cJ43_getLongUnaligned 63 = .ok (.lload_n 2, 1) := dk_32 (dk_at dksJ43_getLongUnaligned_2 15 rfl rfl)
theorem dJ43_getLongUnaligned_64 : decode cJ43_getLongUnaligned 64 = .ok (.ldc2_w 203, 3) := dk_20 0 203 (dk_at dksJ43_getLongUnaligned_2 16 rfl rfl)
theorem dJ43_getLongUnaligned_67 : decode cJ43_getLongUnaligned 67 = .ok (.ladd, 1) := dk_97 (dk_at dksJ43_getLongUnaligned_2 19 rfl rfl)
theorem dJ43_getLongUnaligned_68 : decode cJ43_getLongUnaligned 68 = .ok (.invokevirtual 47, 3) := dk_182 0 47 (dk_at dksJ43_getLongUnaligned_2 20 rfl rfl)
theorem dJ43_getLongUnaligned_71 : decode cJ43_getLongUnaligned 71 = .ok (.aload_n 0, 1) := dk_42 (dk_at dksJ43_getLongUnaligned_2 23 rfl rfl)
theorem dJ43_getLongUnaligned_72 : decode cJ43_getLongUnaligned 72 = .ok (.aload_n 1, 1) := dk_43 (dk_at dksJ43_getLongUnaligned_3 0 rfl rfl)
theorem dJ43_getLongUnaligned_73 : decode cJ43_getLongUnaligned 73 = .ok (.lload_n 2, 1) := dk_32 (dk_at dksJ43_getLongUnaligned_3 1 rfl rfl)
theorem dJ43_getLongUnaligned_74 : decode cJ43_getLongUnaligned 74 = .ok (.ldc2_w 205, 3) := dk_20 0 205 (dk_at dksJ43_getLongUnaligned_3 2 rfl rfl)
theorem dJ43_getLongUnaligned_77 : decode cJ43_getLongUnaligned 77 = .ok (.ladd, 1) := dk_97 (dk_at dksJ43_getLongUnaligned_3 5 rfl rfl)
theorem dJ43_getLongUnaligned_78 : decode cJ43_getLongUnaligned 78 = .ok (.invokevirtual 47, 3) := dk_182 0 47 (dk_at dksJ43_getLongUnaligned_3 6 rfl rfl)
theorem dJ43_getLongUnaligned_81 : decode cJ43_getLongUnaligned 81 = .ok (.aload_n 0, 1) := dk_42 (dk_at dksJ43_getLongUnaligned_3 9 rfl rfl)
theorem dJ43_getLongUnaligned_82 : decode cJ43_getLongUnaligned 82 = .ok (.aload_n 1, 1) := dk_43 (dk_at dksJ43_getLongUnaligned_3 10 rfl rfl)
theorem dJ43_getLongUnaligned_83 : decode cJ43_getLongUnaligned 83 = .ok (.lload_n 2, 1) := dk_32 (dk_at dksJ43_getLongUnaligned_3 11 rfl rfl)
theorem dJ43_getLongUnaligned_84 : decode cJ43_getLongUnaligned 84 = .ok (.ldc2_w 702, 3) := dk_20 2 190 (dk_at dksJ43_getLongUnaligned_3 12 rfl rfl)
theorem dJ43_getLongUnaligned_87 : decode cJ43_getLongUnaligned 87 = .ok (.ladd, 1) := dk_97 (dk_at dksJ43_getLongUnaligned_3 15 rfl rfl)
theorem dJ43_getLongUnaligned_88 : decode cJ43_getLongUnaligned 88 = .ok (.invokevirtual 47, 3) := dk_182 0 47 (dk_at dksJ43_getLongUnaligned_3 16 rfl rfl)
theorem dJ43_getLongUnaligned_91 : decode cJ43_getLongUnaligned 91 = .ok (.invokestatic 704, 3) := dk_184 2 192 (dk_at dksJ43_getLongUnaligned_3 19 rfl rfl)
theorem dJ43_getLongUnaligned_94 : decode cJ43_getLongUnaligned 94 = .ok (.lreturn, 1) := dk_173 (dk_at dksJ43_getLongUnaligned_3 22 rfl rfl)
theorem dJ43_getLongUnaligned_95 : decode cJ43_getLongUnaligned 95 = .ok (.aload_n 0, 1) := dk_42 (dk_at dksJ43_getLongUnaligned_3 23 rfl rfl)
theorem dJ43_getLongUnaligned_96 : decode cJ43_getLongUnaligned 96 = .ok (.aload_n 1, 1) := dk_43 (dk_at dksJ43_getLongUnaligned_4 0 rfl rfl)
theorem dJ43_getLongUnaligned_97 : decode cJ43_getLongUnaligned 97 = .ok (.lload_n 2, 1) := dk_32 (dk_at dksJ43_getLongUnaligned_4 1 rfl rfl)
theorem dJ43_getLongUnaligned_98 : decode cJ43_getLongUnaligned 98 = .ok (.invokevirtual 39, 3) := dk_182 0 39 (dk_at dksJ43_getLongUnaligned_4 2 rfl rfl)
theorem dJ43_getLongUnaligned_101 : decode cJ43_getLongUnaligned 101 = .ok (.aload_n 0, 1) := dk_42 (dk_at dksJ43_getLongUnaligned_4 5 rfl rfl)
theorem dJ43_getLongUnaligned_102 : decode cJ43_getLongUnaligned 102 = .ok (.aload_n 1, 1) := dk_43 (dk_at dksJ43_getLongUnaligned_4 6 rfl rfl)
theorem dJ43_getLongUnaligned_103 : decode cJ43_getLongUnaligned 103 = .ok (.lload_n 2, 1) := dk_32 (dk_at dksJ43_getLongUnaligned_4 7 rfl rfl)
theorem dJ43_getLongUnaligned_104 : decode cJ43_getLongUnaligned 104 = .ok (.lconst 1, 1) := dk_10 (dk_at dksJ43_getLongUnaligned_4 8 rfl rfl)
theorem dJ43_getLongUnaligned_105 : decode cJ43_getLongUnaligned 105 = .ok (.ladd, 1) := dk_97 (dk_at dksJ43_getLongUnaligned_4 9 rfl rfl)
theorem dJ43_getLongUnaligned_106 : decode cJ43_getLongUnaligned 106 = .ok (.invokevirtual 39, 3) := dk_182 0 39 (dk_at dksJ43_getLongUnaligned_4 10 rfl rfl)
theorem dJ43_getLongUnaligned_109 : decode cJ43_getLongUnaligned 109 = .ok (.aload_n 0, 1) := dk_42 (dk_at dksJ43_getLongUnaligned_4 13 rfl rfl)
theorem dJ43_getLongUnaligned_110 : decode cJ43_getLongUnaligned 110 = .ok (.aload_n 1, 1) := dk_43 (dk_at dksJ43_getLongUnaligned_4 14 rfl rfl)
theorem dJ43_getLongUnaligned_111 : decode cJ43_getLongUnaligned 111 = .ok (.lload_n 2, 1) := dk_32 (dk_at dksJ43_getLongUnaligned_4 15 rfl rfl)
theorem dJ43_getLongUnaligned_112 : decode cJ43_getLongUnaligned 112 = .ok (.ldc2_w 203, 3) := dk_20 0 203 (dk_at dksJ43_getLongUnaligned_4 16 rfl rfl)
theorem dJ43_getLongUnaligned_115 : decode cJ43_getLongUnaligned 115 = .ok (.ladd, 1) := dk_97 (dk_at dksJ43_getLongUnaligned_4 19 rfl rfl)
theorem dJ43_getLongUnaligned_116 : decode cJ43_getLongUnaligned 116 = .ok (.invokevirtual 39, 3) := dk_182 0 39 (dk_at dksJ43_getLongUnaligned_4 20 rfl rfl)
theorem dJ43_getLongUnaligned_119 : decode cJ43_getLongUnaligned 119 = .ok (.aload_n 0, 1) := dk_42 (dk_at dksJ43_getLongUnaligned_4 23 rfl rfl)
theorem dJ43_getLongUnaligned_120 : decode cJ43_getLongUnaligned 120 = .ok (.aload_n 1, 1) := dk_43 (dk_at dksJ43_getLongUnaligned_5 0 rfl rfl)
theorem dJ43_getLongUnaligned_121 : decode cJ43_getLongUnaligned 121 = .ok (.lload_n 2, 1) := dk_32 (dk_at dksJ43_getLongUnaligned_5 1 rfl rfl)
theorem dJ43_getLongUnaligned_122 : decode cJ43_getLongUnaligned 122 = .ok (.ldc2_w 349, 3) := dk_20 1 93 (dk_at dksJ43_getLongUnaligned_5 2 rfl rfl)
theorem dJ43_getLongUnaligned_125 : decode cJ43_getLongUnaligned 125 = .ok (.ladd, 1) := dk_97 (dk_at dksJ43_getLongUnaligned_5 5 rfl rfl)
theorem dJ43_getLongUnaligned_126 : decode cJ43_getLongUnaligned 126 = .ok (.invokevirtual 39, 3) := dk_182 0 39 (dk_at dksJ43_getLongUnaligned_5 6 rfl rfl)
theorem dJ43_getLongUnaligned_129 : decode cJ43_getLongUnaligned 129 = .ok (.aload_n 0, 1) := dk_42 (dk_at dksJ43_getLongUnaligned_5 9 rfl rfl)
theorem dJ43_getLongUnaligned_130 : decode cJ43_getLongUnaligned 130 = .ok (.aload_n 1, 1) := dk_43 (dk_at dksJ43_getLongUnaligned_5 10 rfl rfl)
theorem dJ43_getLongUnaligned_131 : decode cJ43_getLongUnaligned 131 = .ok (.lload_n 2, 1) := dk_32 (dk_at dksJ43_getLongUnaligned_5 11 rfl rfl)
theorem dJ43_getLongUnaligned_132 : decode cJ43_getLongUnaligned 132 = .ok (.ldc2_w 205, 3) := dk_20 0 205 (dk_at dksJ43_getLongUnaligned_5 12 rfl rfl)
theorem dJ43_getLongUnaligned_135 : decode cJ43_getLongUnaligned 135 = .ok (.ladd, 1) := dk_97 (dk_at dksJ43_getLongUnaligned_5 15 rfl rfl)
theorem dJ43_getLongUnaligned_136 : decode cJ43_getLongUnaligned 136 = .ok (.invokevirtual 39, 3) := dk_182 0 39 (dk_at dksJ43_getLongUnaligned_5 16 rfl rfl)
theorem dJ43_getLongUnaligned_139 : decode cJ43_getLongUnaligned 139 = .ok (.aload_n 0, 1) := dk_42 (dk_at dksJ43_getLongUnaligned_5 19 rfl rfl)
theorem dJ43_getLongUnaligned_140 : decode cJ43_getLongUnaligned 140 = .ok (.aload_n 1, 1) := dk_43 (dk_at dksJ43_getLongUnaligned_5 20 rfl rfl)
theorem dJ43_getLongUnaligned_141 : decode cJ43_getLongUnaligned 141 = .ok (.lload_n 2, 1) := dk_32 (dk_at dksJ43_getLongUnaligned_5 21 rfl rfl)
theorem dJ43_getLongUnaligned_142 : decode cJ43_getLongUnaligned 142 = .ok (.ldc2_w 707, 3) := dk_20 2 195 (dk_at dksJ43_getLongUnaligned_6 0 rfl rfl)
theorem dJ43_getLongUnaligned_145 : decode cJ43_getLongUnaligned 145 = .ok (.ladd, 1) := dk_97 (dk_at dksJ43_getLongUnaligned_6 3 rfl rfl)
theorem dJ43_getLongUnaligned_146 : decode cJ43_getLongUnaligned 146 = .ok (.invokevirtual 39, 3) := dk_182 0 39 (dk_at dksJ43_getLongUnaligned_6 4 rfl rfl)
theorem dJ43_getLongUnaligned_149 : decode cJ43_getLongUnaligned 149 = .ok (.aload_n 0, 1) := dk_42 (dk_at dksJ43_getLongUnaligned_6 7 rfl rfl)
theorem dJ43_getLongUnaligned_150 : decode cJ43_getLongUnaligned 150 = .ok (.aload_n 1, 1) := dk_43 (dk_at dksJ43_getLongUnaligned_6 8 rfl rfl)
theorem dJ43_getLongUnaligned_151 : decode cJ43_getLongUnaligned 151 = .ok (.lload_n 2, 1) := dk_32 (dk_at dksJ43_getLongUnaligned_6 9 rfl rfl)
theorem dJ43_getLongUnaligned_152 : decode cJ43_getLongUnaligned 152 = .ok (.ldc2_w 702, 3) := dk_20 2 190 (dk_at dksJ43_getLongUnaligned_6 10 rfl rfl)
theorem dJ43_getLongUnaligned_155 : decode cJ43_getLongUnaligned 155 = .ok (.ladd, 1) := dk_97 (dk_at dksJ43_getLongUnaligned_6 13 rfl rfl)
theorem dJ43_getLongUnaligned_156 : decode cJ43_getLongUnaligned 156 = .ok (.invokevirtual 39, 3) := dk_182 0 39 (dk_at dksJ43_getLongUnaligned_6 14 rfl rfl)
theorem dJ43_getLongUnaligned_159 : decode cJ43_getLongUnaligned 159 = .ok (.aload_n 0, 1) := dk_42 (dk_at dksJ43_getLongUnaligned_6 17 rfl rfl)
theorem dJ43_getLongUnaligned_160 : decode cJ43_getLongUnaligned 160 = .ok (.aload_n 1, 1) := dk_43 (dk_at dksJ43_getLongUnaligned_6 18 rfl rfl)
theorem dJ43_getLongUnaligned_161 : decode cJ43_getLongUnaligned 161 = .ok (.lload_n 2, 1) := dk_32 (dk_at dksJ43_getLongUnaligned_6 19 rfl rfl)
theorem dJ43_getLongUnaligned_162 : decode cJ43_getLongUnaligned 162 = .ok (.ldc2_w 696, 3) := dk_20 2 184 (dk_at dksJ43_getLongUnaligned_6 20 rfl rfl)
theorem dJ43_getLongUnaligned_165 : decode cJ43_getLongUnaligned 165 = .ok (.ladd, 1) := dk_97 (dk_at dksJ43_getLongUnaligned_6 23 rfl rfl)
theorem dJ43_getLongUnaligned_166 : decode cJ43_getLongUnaligned 166 = .ok (.invokevirtual 39, 3) := dk_182 0 39 (dk_at dksJ43_getLongUnaligned_7 0 rfl rfl)
theorem dJ43_getLongUnaligned_169 : decode cJ43_getLongUnaligned 169 = .ok (.invokestatic 709, 3) := dk_184 2 197 (dk_at dksJ43_getLongUnaligned_7 3 rfl rfl)
theorem dJ43_getLongUnaligned_172 : decode cJ43_getLongUnaligned 172 = .ok (.lreturn, 1) := dk_173 (dk_at dksJ43_getLongUnaligned_7 6 rfl rfl)
abbrev cJ43_makeLong : ByteArray := prog_72_method_353_code
def yJ43_makeLong : MethodName := ⟨RJ43, "makeLong", "(II)J"⟩
def dkwJ43_makeLong_1 : List UInt8 := [173]
abbrev dktJ43_makeLong_1 : List UInt8 := dkwJ43_makeLong_1 ++ []
def dkwJ43_makeLong_0 : List UInt8 := [26, 184, 3, 23, 16, 32, 3, 184, 3, 16, 121, 27, 184, 3, 23, 16, 32, 16, 32, 184, 3, 16, 121, 129]
abbrev dktJ43_makeLong_0 : List UInt8 := dkwJ43_makeLong_0 ++ dktJ43_makeLong_1
theorem dksJ43_makeLong_0 : cJ43_makeLong.data.toList.drop 0 = dktJ43_makeLong_0 := by decide +kernel
theorem dksJ43_makeLong_1 : cJ43_makeLong.data.toList.drop 24 = dktJ43_makeLong_1 := dk_seg dksJ43_makeLong_0 24 rfl rfl
theorem dJ43_makeLong_0 : decode cJ43_makeLong 0 = .ok (.iload_n 0, 1) := dk_26 (dk_at dksJ43_makeLong_0 0 rfl rfl)
theorem dJ43_makeLong_1 : decode cJ43_makeLong 1 = .ok (.invokestatic 791, 3) := dk_184 3 23 (dk_at dksJ43_makeLong_0 1 rfl rfl)
theorem dJ43_makeLong_4 : decode cJ43_makeLong 4 = .ok (.bipush 32, 2) := dk_16 32 (dk_at dksJ43_makeLong_0 4 rfl rfl)
theorem dJ43_makeLong_6 : decode cJ43_makeLong 6 = .ok (.iconst 0, 1) := dk_3 (dk_at dksJ43_makeLong_0 6 rfl rfl)
theorem dJ43_makeLong_7 : decode cJ43_makeLong 7 = .ok (.invokestatic 784, 3) := dk_184 3 16 (dk_at dksJ43_makeLong_0 7 rfl rfl)
theorem dJ43_makeLong_10 : decode cJ43_makeLong 10 = .ok (.lshl, 1) := dk_121 (dk_at dksJ43_makeLong_0 10 rfl rfl)
theorem dJ43_makeLong_11 : decode cJ43_makeLong 11 = .ok (.iload_n 1, 1) := dk_27 (dk_at dksJ43_makeLong_0 11 rfl rfl)
theorem dJ43_makeLong_12 : decode cJ43_makeLong 12 = .ok (.invokestatic 791, 3) := dk_184 3 23 (dk_at dksJ43_makeLong_0 12 rfl rfl)
theorem dJ43_makeLong_15 : decode cJ43_makeLong 15 = .ok (.bipush 32, 2) := dk_16 32 (dk_at dksJ43_makeLong_0 15 rfl rfl)
theorem dJ43_makeLong_17 : decode cJ43_makeLong 17 = .ok (.bipush 32, 2) := dk_16 32 (dk_at dksJ43_makeLong_0 17 rfl rfl)
theorem dJ43_makeLong_19 : decode cJ43_makeLong 19 = .ok (.invokestatic 784, 3) := dk_184 3 16 (dk_at dksJ43_makeLong_0 19 rfl rfl)
theorem dJ43_makeLong_22 : decode cJ43_makeLong 22 = .ok (.lshl, 1) := dk_121 (dk_at dksJ43_makeLong_0 22 rfl rfl)
theorem dJ43_makeLong_23 : decode cJ43_makeLong 23 = .ok (.lor, 1) := dk_129 (dk_at dksJ43_makeLong_0 23 rfl rfl)
theorem dJ43_makeLong_24 : decode cJ43_makeLong 24 = .ok (.lreturn, 1) := dk_173 (dk_at dksJ43_makeLong_1 0 rfl rfl)
abbrev cJ43_toUnsignedLong : ByteArray := prog_72_method_370_code
def yJ43_toUnsignedLong : MethodName := ⟨RJ43, "toUnsignedLong", "(I)J"⟩
def dkwJ43_toUnsignedLong_0 : List UInt8 := [26, 133, 20, 3, 44, 127, 173]
abbrev dktJ43_toUnsignedLong_0 : List UInt8 := dkwJ43_toUnsignedLong_0 ++ []
theorem dksJ43_toUnsignedLong_0 : cJ43_toUnsignedLong.data.toList.drop 0 = dktJ43_toUnsignedLong_0 := by decide +kernel
theorem dJ43_toUnsignedLong_0 : decode cJ43_toUnsignedLong 0 = .ok (.iload_n 0, 1) := dk_26 (dk_at dksJ43_toUnsignedLong_0 0 rfl rfl)
theorem dJ43_toUnsignedLong_1 : decode cJ43_toUnsignedLong 1 = .ok (.i2l, 1) := dk_133 (dk_at dksJ43_toUnsignedLong_0 1 rfl rfl)
theorem dJ43_toUnsignedLong_2 : decode cJ43_toUnsignedLong 2 = .ok (.ldc2_w 812, 3) := dk_20 3 44 (dk_at dksJ43_toUnsignedLong_0 2 rfl rfl)
theorem dJ43_toUnsignedLong_5 : decode cJ43_toUnsignedLong 5 = .ok (.land, 1) := dk_127 (dk_at dksJ43_toUnsignedLong_0 5 rfl rfl)
theorem dJ43_toUnsignedLong_6 : decode cJ43_toUnsignedLong 6 = .ok (.lreturn, 1) := dk_173 (dk_at dksJ43_toUnsignedLong_0 6 rfl rfl)
abbrev cJ43_pickPos : ByteArray := prog_72_method_350_code
def yJ43_pickPos : MethodName := ⟨RJ43, "pickPos", "(II)I"⟩
def dkwJ43_pickPos_0 : List UInt8 := [178, 1, 95, 153, 0, 9, 26, 27, 100, 167, 0, 4, 27, 172]
abbrev dktJ43_pickPos_0 : List UInt8 := dkwJ43_pickPos_0 ++ []
theorem dksJ43_pickPos_0 : cJ43_pickPos.data.toList.drop 0 = dktJ43_pickPos_0 := by decide +kernel
theorem dJ43_pickPos_0 : decode cJ43_pickPos 0 = .ok (.getstatic 351, 3) := dk_178 1 95 (dk_at dksJ43_pickPos_0 0 rfl rfl)
theorem dJ43_pickPos_3 : decode cJ43_pickPos 3 = .ok (.ifCond .eq 9, 3) := dk_153 0 9 (dk_at dksJ43_pickPos_0 3 rfl rfl)
theorem dJ43_pickPos_6 : decode cJ43_pickPos 6 = .ok (.iload_n 0, 1) := dk_26 (dk_at dksJ43_pickPos_0 6 rfl rfl)
theorem dJ43_pickPos_7 : decode cJ43_pickPos 7 = .ok (.iload_n 1, 1) := dk_27 (dk_at dksJ43_pickPos_0 7 rfl rfl)
theorem dJ43_pickPos_8 : decode cJ43_pickPos 8 = .ok (.isub, 1) := dk_100 (dk_at dksJ43_pickPos_0 8 rfl rfl)
theorem dJ43_pickPos_9 : decode cJ43_pickPos 9 = .ok (.goto 4, 3) := dk_167 0 4 (dk_at dksJ43_pickPos_0 9 rfl rfl)
theorem dJ43_pickPos_12 : decode cJ43_pickPos 12 = .ok (.iload_n 1, 1) := dk_27 (dk_at dksJ43_pickPos_0 12 rfl rfl)
theorem dJ43_pickPos_13 : decode cJ43_pickPos 13 = .ok (.ireturn, 1) := dk_172 (dk_at dksJ43_pickPos_0 13 rfl rfl)
abbrev cJ43_makeLong_2 : ByteArray := prog_72_method_352_code
def yJ43_makeLong_2 : MethodName := ⟨RJ43, "makeLong", "(SSSS)J"⟩
def dkwJ43_makeLong_2_2 : List UInt8 := [121, 129, 173]
abbrev dktJ43_makeLong_2_2 : List UInt8 := dkwJ43_makeLong_2_2 ++ []
def dkwJ43_makeLong_2_1 : List UInt8 := [28, 184, 3, 20, 16, 48, 16, 32, 184, 3, 16, 121, 129, 29, 184, 3, 20, 16, 48, 16, 48, 184, 3, 16]
abbrev dktJ43_makeLong_2_1 : List UInt8 := dkwJ43_makeLong_2_1 ++ dktJ43_makeLong_2_2
def dkwJ43_makeLong_2_0 : List UInt8 := [26, 184, 3, 20, 16, 48, 3, 184, 3, 16, 121, 27, 184, 3, 20, 16, 48, 16, 16, 184, 3, 16, 121, 129]
abbrev dktJ43_makeLong_2_0 : List UInt8 := dkwJ43_makeLong_2_0 ++ dktJ43_makeLong_2_1
theorem dksJ43_makeLong_2_0 : cJ43_makeLong_2.data.toList.drop 0 = dktJ43_makeLong_2_0 := by decide +kernel
theorem dksJ43_makeLong_2_1 : cJ43_makeLong_2.data.toList.drop 24 = dktJ43_makeLong_2_1 := dk_seg dksJ43_makeLong_2_0 24 rfl rfl
theorem dksJ43_makeLong_2_2 : cJ43_makeLong_2.data.toList.drop 48 = dktJ43_makeLong_2_2 := dk_seg dksJ43_makeLong_2_1 24 rfl rfl
theorem dJ43_makeLong_2_0 : decode cJ43_makeLong_2 0 = .ok (.iload_n 0, 1) := dk_26 (dk_at dksJ43_makeLong_2_0 0 rfl rfl)
theorem dJ43_makeLong_2_1 : decode cJ43_makeLong_2 1 = .ok (.invokestatic 788, 3) := dk_184 3 20 (dk_at dksJ43_makeLong_2_0 1 rfl rfl)
theorem dJ43_makeLong_2_4 : decode cJ43_makeLong_2 4 = .ok (.bipush 48, 2) := dk_16 48 (dk_at dksJ43_makeLong_2_0 4 rfl rfl)
theorem dJ43_makeLong_2_6 : decode cJ43_makeLong_2 6 = .ok (.iconst 0, 1) := dk_3 (dk_at dksJ43_makeLong_2_0 6 rfl rfl)
theorem dJ43_makeLong_2_7 : decode cJ43_makeLong_2 7 = .ok (.invokestatic 784, 3) := dk_184 3 16 (dk_at dksJ43_makeLong_2_0 7 rfl rfl)
theorem dJ43_makeLong_2_10 : decode cJ43_makeLong_2 10 = .ok (.lshl, 1) := dk_121 (dk_at dksJ43_makeLong_2_0 10 rfl rfl)
theorem dJ43_makeLong_2_11 : decode cJ43_makeLong_2 11 = .ok (.iload_n 1, 1) := dk_27 (dk_at dksJ43_makeLong_2_0 11 rfl rfl)
theorem dJ43_makeLong_2_12 : decode cJ43_makeLong_2 12 = .ok (.invokestatic 788, 3) := dk_184 3 20 (dk_at dksJ43_makeLong_2_0 12 rfl rfl)
theorem dJ43_makeLong_2_15 : decode cJ43_makeLong_2 15 = .ok (.bipush 48, 2) := dk_16 48 (dk_at dksJ43_makeLong_2_0 15 rfl rfl)
theorem dJ43_makeLong_2_17 : decode cJ43_makeLong_2 17 = .ok (.bipush 16, 2) := dk_16 16 (dk_at dksJ43_makeLong_2_0 17 rfl rfl)
theorem dJ43_makeLong_2_19 : decode cJ43_makeLong_2 19 = .ok (.invokestatic 784, 3) := dk_184 3 16 (dk_at dksJ43_makeLong_2_0 19 rfl rfl)
theorem dJ43_makeLong_2_22 : decode cJ43_makeLong_2 22 = .ok (.lshl, 1) := dk_121 (dk_at dksJ43_makeLong_2_0 22 rfl rfl)
theorem dJ43_makeLong_2_23 : decode cJ43_makeLong_2 23 = .ok (.lor, 1) := dk_129 (dk_at dksJ43_makeLong_2_0 23 rfl rfl)
theorem dJ43_makeLong_2_24 : decode cJ43_makeLong_2 24 = .ok (.iload_n 2, 1) := dk_28 (dk_at dksJ43_makeLong_2_1 0 rfl rfl)
theorem dJ43_makeLong_2_25 : decode cJ43_makeLong_2 25 = .ok (.invokestatic 788, 3) := dk_184 3 20 (dk_at dksJ43_makeLong_2_1 1 rfl rfl)
theorem dJ43_makeLong_2_28 : decode cJ43_makeLong_2 28 = .ok (.bipush 48, 2) := dk_16 48 (dk_at dksJ43_makeLong_2_1 4 rfl rfl)
theorem dJ43_makeLong_2_30 : decode cJ43_makeLong_2 30 = .ok (.bipush 32, 2) := dk_16 32 (dk_at dksJ43_makeLong_2_1 6 rfl rfl)
theorem dJ43_makeLong_2_32 : decode cJ43_makeLong_2 32 = .ok (.invokestatic 784, 3) := dk_184 3 16 (dk_at dksJ43_makeLong_2_1 8 rfl rfl)
theorem dJ43_makeLong_2_35 : decode cJ43_makeLong_2 35 = .ok (.lshl, 1) := dk_121 (dk_at dksJ43_makeLong_2_1 11 rfl rfl)
theorem dJ43_makeLong_2_36 : decode cJ43_makeLong_2 36 = .ok (.lor, 1) := dk_129 (dk_at dksJ43_makeLong_2_1 12 rfl rfl)
theorem dJ43_makeLong_2_37 : decode cJ43_makeLong_2 37 = .ok (.iload_n 3, 1) := dk_29 (dk_at dksJ43_makeLong_2_1 13 rfl rfl)
theorem dJ43_makeLong_2_38 : decode cJ43_makeLong_2 38 = .ok (.invokestatic 788, 3) := dk_184 3 20 (dk_at dksJ43_makeLong_2_1 14 rfl rfl)
theorem dJ43_makeLong_2_41 : decode cJ43_makeLong_2 41 = .ok (.bipush 48, 2) := dk_16 48 (dk_at dksJ43_makeLong_2_1 17 rfl rfl)
theorem dJ43_makeLong_2_43 : decode cJ43_makeLong_2 43 = .ok (.bipush 48, 2) := dk_16 48 (dk_at dksJ43_makeLong_2_1 19 rfl rfl)
theorem dJ43_makeLong_2_45 : decode cJ43_makeLong_2 45 = .ok (.invokestatic 784, 3) := dk_184 3 16 (dk_at dksJ43_makeLong_2_1 21 rfl rfl)
theorem dJ43_makeLong_2_48 : decode cJ43_makeLong_2 48 = .ok (.lshl, 1) := dk_121 (dk_at dksJ43_makeLong_2_2 0 rfl rfl)
theorem dJ43_makeLong_2_49 : decode cJ43_makeLong_2 49 = .ok (.lor, 1) := dk_129 (dk_at dksJ43_makeLong_2_2 1 rfl rfl)
theorem dJ43_makeLong_2_50 : decode cJ43_makeLong_2 50 = .ok (.lreturn, 1) := dk_173 (dk_at dksJ43_makeLong_2_2 2 rfl rfl)
abbrev cJ43_toUnsignedLong_2 : ByteArray := prog_72_method_369_code
def yJ43_toUnsignedLong_2 : MethodName := ⟨RJ43, "toUnsignedLong", "(S)J"⟩
def dkwJ43_toUnsignedLong_2_0 : List UInt8 := [26, 133, 20, 3, 42, 127, 173]
abbrev dktJ43_toUnsignedLong_2_0 : List UInt8 := dkwJ43_toUnsignedLong_2_0 ++ []
theorem dksJ43_toUnsignedLong_2_0 : cJ43_toUnsignedLong_2.data.toList.drop 0 = dktJ43_toUnsignedLong_2_0 := by decide +kernel
theorem dJ43_toUnsignedLong_2_0 : decode cJ43_toUnsignedLong_2 0 = .ok (.iload_n 0, 1) := dk_26 (dk_at dksJ43_toUnsignedLong_2_0 0 rfl rfl)
theorem dJ43_toUnsignedLong_2_1 : decode cJ43_toUnsignedLong_2 1 = .ok (.i2l, 1) := dk_133 (dk_at dksJ43_toUnsignedLong_2_0 1 rfl rfl)
theorem dJ43_toUnsignedLong_2_2 : decode cJ43_toUnsignedLong_2 2 = .ok (.ldc2_w 810, 3) := dk_20 3 42 (dk_at dksJ43_toUnsignedLong_2_0 2 rfl rfl)
theorem dJ43_toUnsignedLong_2_5 : decode cJ43_toUnsignedLong_2 5 = .ok (.land, 1) := dk_127 (dk_at dksJ43_toUnsignedLong_2_0 5 rfl rfl)
theorem dJ43_toUnsignedLong_2_6 : decode cJ43_toUnsignedLong_2 6 = .ok (.lreturn, 1) := dk_173 (dk_at dksJ43_toUnsignedLong_2_0 6 rfl rfl)
abbrev cJ43_makeLong_3 : ByteArray := prog_72_method_351_code
def yJ43_makeLong_3 : MethodName := ⟨RJ43, "makeLong", "(BBBBBBBB)J"⟩
def dkwJ43_makeLong_3_4 : List UInt8 := [184, 3, 13, 16, 56, 16, 56, 184, 3, 16, 121, 129, 173]
abbrev dktJ43_makeLong_3_4 : List UInt8 := dkwJ43_makeLong_3_4 ++ []
def dkwJ43_makeLong_3_3 : List UInt8 := [16, 40, 184, 3, 16, 121, 129, 21, 6, 184, 3, 13, 16, 56, 16, 48, 184, 3, 16, 121, 129, 21, 7]
abbrev dktJ43_makeLong_3_3 : List UInt8 := dkwJ43_makeLong_3_3 ++ dktJ43_makeLong_3_4
def dkwJ43_makeLong_3_2 : List UInt8 := [121, 129, 21, 4, 184, 3, 13, 16, 56, 16, 32, 184, 3, 16, 121, 129, 21, 5, 184, 3, 13, 16, 56]
abbrev dktJ43_makeLong_3_2 : List UInt8 := dkwJ43_makeLong_3_2 ++ dktJ43_makeLong_3_3
def dkwJ43_makeLong_3_1 : List UInt8 := [28, 184, 3, 13, 16, 56, 16, 16, 184, 3, 16, 121, 129, 29, 184, 3, 13, 16, 56, 16, 24, 184, 3, 16]
abbrev dktJ43_makeLong_3_1 : List UInt8 := dkwJ43_makeLong_3_1 ++ dktJ43_makeLong_3_2
def dkwJ43_makeLong_3_0 : List UInt8 := [26, 184, 3, 13, 16, 56, 3, 184, 3, 16, 121, 27, 184, 3, 13, 16, 56, 16, 8, 184, 3, 16, 121, 129]
abbrev dktJ43_makeLong_3_0 : List UInt8 := dkwJ43_makeLong_3_0 ++ dktJ43_makeLong_3_1
theorem dksJ43_makeLong_3_0 : cJ43_makeLong_3.data.toList.drop 0 = dktJ43_makeLong_3_0 := by decide +kernel
theorem dksJ43_makeLong_3_1 : cJ43_makeLong_3.data.toList.drop 24 = dktJ43_makeLong_3_1 := dk_seg dksJ43_makeLong_3_0 24 rfl rfl
theorem dksJ43_makeLong_3_2 : cJ43_makeLong_3.data.toList.drop 48 = dktJ43_makeLong_3_2 := dk_seg dksJ43_makeLong_3_1 24 rfl rfl
theorem dksJ43_makeLong_3_3 : cJ43_makeLong_3.data.toList.drop 71 = dktJ43_makeLong_3_3 := dk_seg dksJ43_makeLong_3_2 23 rfl rfl
theorem dksJ43_makeLong_3_4 : cJ43_makeLong_3.data.toList.drop 94 = dktJ43_makeLong_3_4 := dk_seg dksJ43_makeLong_3_3 23 rfl rfl
theorem dJ43_makeLong_3_0 : decode cJ43_makeLong_3 0 = .ok (.iload_n 0, 1) := dk_26 (dk_at dksJ43_makeLong_3_0 0 rfl rfl)
theorem dJ43_makeLong_3_1 : decode cJ43_makeLong_3 1 = .ok (.invokestatic 781, 3) := dk_184 3 13 (dk_at dksJ43_makeLong_3_0 1 rfl rfl)
theorem dJ43_makeLong_3_4 : decode cJ43_makeLong_3 4 = .ok (.bipush 56, 2) := dk_16 56 (dk_at dksJ43_makeLong_3_0 4 rfl rfl)
theorem dJ43_makeLong_3_6 : decode cJ43_makeLong_3 6 = .ok (.iconst 0, 1) := dk_3 (dk_at dksJ43_makeLong_3_0 6 rfl rfl)
theorem dJ43_makeLong_3_7 : decode cJ43_makeLong_3 7 = .ok (.invokestatic 784, 3) := dk_184 3 16 (dk_at dksJ43_makeLong_3_0 7 rfl rfl)
theorem dJ43_makeLong_3_10 : decode cJ43_makeLong_3 10 = .ok (.lshl, 1) := dk_121 (dk_at dksJ43_makeLong_3_0 10 rfl rfl)
theorem dJ43_makeLong_3_11 : decode cJ43_makeLong_3 11 = .ok (.iload_n 1, 1) := dk_27 (dk_at dksJ43_makeLong_3_0 11 rfl rfl)
theorem dJ43_makeLong_3_12 : decode cJ43_makeLong_3 12 = .ok (.invokestatic 781, 3) := dk_184 3 13 (dk_at dksJ43_makeLong_3_0 12 rfl rfl)
theorem dJ43_makeLong_3_15 : decode cJ43_makeLong_3 15 = .ok (.bipush 56, 2) := dk_16 56 (dk_at dksJ43_makeLong_3_0 15 rfl rfl)
theorem dJ43_makeLong_3_17 : decode cJ43_makeLong_3 17 = .ok (.bipush 8, 2) := dk_16 8 (dk_at dksJ43_makeLong_3_0 17 rfl rfl)
theorem dJ43_makeLong_3_19 : decode cJ43_makeLong_3 19 = .ok (.invokestatic 784, 3) := dk_184 3 16 (dk_at dksJ43_makeLong_3_0 19 rfl rfl)
theorem dJ43_makeLong_3_22 : decode cJ43_makeLong_3 22 = .ok (.lshl, 1) := dk_121 (dk_at dksJ43_makeLong_3_0 22 rfl rfl)
theorem dJ43_makeLong_3_23 : decode cJ43_makeLong_3 23 = .ok (.lor, 1) := dk_129 (dk_at dksJ43_makeLong_3_0 23 rfl rfl)
theorem dJ43_makeLong_3_24 : decode cJ43_makeLong_3 24 = .ok (.iload_n 2, 1) := dk_28 (dk_at dksJ43_makeLong_3_1 0 rfl rfl)
theorem dJ43_makeLong_3_25 : decode cJ43_makeLong_3 25 = .ok (.invokestatic 781, 3) := dk_184 3 13 (dk_at dksJ43_makeLong_3_1 1 rfl rfl)
theorem dJ43_makeLong_3_28 : decode cJ43_makeLong_3 28 = .ok (.bipush 56, 2) := dk_16 56 (dk_at dksJ43_makeLong_3_1 4 rfl rfl)
theorem dJ43_makeLong_3_30 : decode cJ43_makeLong_3 30 = .ok (.bipush 16, 2) := dk_16 16 (dk_at dksJ43_makeLong_3_1 6 rfl rfl)
theorem dJ43_makeLong_3_32 : decode cJ43_makeLong_3 32 = .ok (.invokestatic 784, 3) := dk_184 3 16 (dk_at dksJ43_makeLong_3_1 8 rfl rfl)
theorem dJ43_makeLong_3_35 : decode cJ43_makeLong_3 35 = .ok (.lshl, 1) := dk_121 (dk_at dksJ43_makeLong_3_1 11 rfl rfl)
theorem dJ43_makeLong_3_36 : decode cJ43_makeLong_3 36 = .ok (.lor, 1) := dk_129 (dk_at dksJ43_makeLong_3_1 12 rfl rfl)
theorem dJ43_makeLong_3_37 : decode cJ43_makeLong_3 37 = .ok (.iload_n 3, 1) := dk_29 (dk_at dksJ43_makeLong_3_1 13 rfl rfl)
theorem dJ43_makeLong_3_38 : decode cJ43_makeLong_3 38 = .ok (.invokestatic 781, 3) := dk_184 3 13 (dk_at dksJ43_makeLong_3_1 14 rfl rfl)
theorem dJ43_makeLong_3_41 : decode cJ43_makeLong_3 41 = .ok (.bipush 56, 2) := dk_16 56 (dk_at dksJ43_makeLong_3_1 17 rfl rfl)
theorem dJ43_makeLong_3_43 : decode cJ43_makeLong_3 43 = .ok (.bipush 24, 2) := dk_16 24 (dk_at dksJ43_makeLong_3_1 19 rfl rfl)
theorem dJ43_makeLong_3_45 : decode cJ43_makeLong_3 45 = .ok (.invokestatic 784, 3) := dk_184 3 16 (dk_at dksJ43_makeLong_3_1 21 rfl rfl)
theorem dJ43_makeLong_3_48 : decode cJ43_makeLong_3 48 = .ok (.lshl, 1) := dk_121 (dk_at dksJ43_makeLong_3_2 0 rfl rfl)
theorem dJ43_makeLong_3_49 : decode cJ43_makeLong_3 49 = .ok (.lor, 1) := dk_129 (dk_at dksJ43_makeLong_3_2 1 rfl rfl)
theorem dJ43_makeLong_3_50 : decode cJ43_makeLong_3 50 = .ok (.iload 4, 2) := dk_21 4 (dk_at dksJ43_makeLong_3_2 2 rfl rfl)
theorem dJ43_makeLong_3_52 : decode cJ43_makeLong_3 52 = .ok (.invokestatic 781, 3) := dk_184 3 13 (dk_at dksJ43_makeLong_3_2 4 rfl rfl)
theorem dJ43_makeLong_3_55 : decode cJ43_makeLong_3 55 = .ok (.bipush 56, 2) := dk_16 56 (dk_at dksJ43_makeLong_3_2 7 rfl rfl)
theorem dJ43_makeLong_3_57 : decode cJ43_makeLong_3 57 = .ok (.bipush 32, 2) := dk_16 32 (dk_at dksJ43_makeLong_3_2 9 rfl rfl)
theorem dJ43_makeLong_3_59 : decode cJ43_makeLong_3 59 = .ok (.invokestatic 784, 3) := dk_184 3 16 (dk_at dksJ43_makeLong_3_2 11 rfl rfl)
theorem dJ43_makeLong_3_62 : decode cJ43_makeLong_3 62 = .ok (.lshl, 1) := dk_121 (dk_at dksJ43_makeLong_3_2 14 rfl rfl)
theorem dJ43_makeLong_3_63 : decode cJ43_makeLong_3 63 = .ok (.lor, 1) := dk_129 (dk_at dksJ43_makeLong_3_2 15 rfl rfl)
theorem dJ43_makeLong_3_64 : decode cJ43_makeLong_3 64 = .ok (.iload 5, 2) := dk_21 5 (dk_at dksJ43_makeLong_3_2 16 rfl rfl)
theorem dJ43_makeLong_3_66 : decode cJ43_makeLong_3 66 = .ok (.invokestatic 781, 3) := dk_184 3 13 (dk_at dksJ43_makeLong_3_2 18 rfl rfl)
theorem dJ43_makeLong_3_69 : decode cJ43_makeLong_3 69 = .ok (.bipush 56, 2) := dk_16 56 (dk_at dksJ43_makeLong_3_2 21 rfl rfl)
theorem dJ43_makeLong_3_71 : decode cJ43_makeLong_3 71 = .ok (.bipush 40, 2) := dk_16 40 (dk_at dksJ43_makeLong_3_3 0 rfl rfl)
theorem dJ43_makeLong_3_73 : decode cJ43_makeLong_3 73 = .ok (.invokestatic 784, 3) := dk_184 3 16 (dk_at dksJ43_makeLong_3_3 2 rfl rfl)
theorem dJ43_makeLong_3_76 : decode cJ43_makeLong_3 76 = .ok (.lshl, 1) := dk_121 (dk_at dksJ43_makeLong_3_3 5 rfl rfl)
theorem dJ43_makeLong_3_77 : decode cJ43_makeLong_3 77 = .ok (.lor, 1) := dk_129 (dk_at dksJ43_makeLong_3_3 6 rfl rfl)
theorem dJ43_makeLong_3_78 : decode cJ43_makeLong_3 78 = .ok (.iload 6, 2) := dk_21 6 (dk_at dksJ43_makeLong_3_3 7 rfl rfl)
theorem dJ43_makeLong_3_80 : decode cJ43_makeLong_3 80 = .ok (.invokestatic 781, 3) := dk_184 3 13 (dk_at dksJ43_makeLong_3_3 9 rfl rfl)
theorem dJ43_makeLong_3_83 : decode cJ43_makeLong_3 83 = .ok (.bipush 56, 2) := dk_16 56 (dk_at dksJ43_makeLong_3_3 12 rfl rfl)
theorem dJ43_makeLong_3_85 : decode cJ43_makeLong_3 85 = .ok (.bipush 48, 2) := dk_16 48 (dk_at dksJ43_makeLong_3_3 14 rfl rfl)
theorem dJ43_makeLong_3_87 : decode cJ43_makeLong_3 87 = .ok (.invokestatic 784, 3) := dk_184 3 16 (dk_at dksJ43_makeLong_3_3 16 rfl rfl)
theorem dJ43_makeLong_3_90 : decode cJ43_makeLong_3 90 = .ok (.lshl, 1) := dk_121 (dk_at dksJ43_makeLong_3_3 19 rfl rfl)
theorem dJ43_makeLong_3_91 : decode cJ43_makeLong_3 91 = .ok (.lor, 1) := dk_129 (dk_at dksJ43_makeLong_3_3 20 rfl rfl)
theorem dJ43_makeLong_3_92 : decode cJ43_makeLong_3 92 = .ok (.iload 7, 2) := dk_21 7 (dk_at dksJ43_makeLong_3_3 21 rfl rfl)
theorem dJ43_makeLong_3_94 : decode cJ43_makeLong_3 94 = .ok (.invokestatic 781, 3) := dk_184 3 13 (dk_at dksJ43_makeLong_3_4 0 rfl rfl)
theorem dJ43_makeLong_3_97 : decode cJ43_makeLong_3 97 = .ok (.bipush 56, 2) := dk_16 56 (dk_at dksJ43_makeLong_3_4 3 rfl rfl)
theorem dJ43_makeLong_3_99 : decode cJ43_makeLong_3 99 = .ok (.bipush 56, 2) := dk_16 56 (dk_at dksJ43_makeLong_3_4 5 rfl rfl)
theorem dJ43_makeLong_3_101 : decode cJ43_makeLong_3 101 = .ok (.invokestatic 784, 3) := dk_184 3 16 (dk_at dksJ43_makeLong_3_4 7 rfl rfl)
theorem dJ43_makeLong_3_104 : decode cJ43_makeLong_3 104 = .ok (.lshl, 1) := dk_121 (dk_at dksJ43_makeLong_3_4 10 rfl rfl)
theorem dJ43_makeLong_3_105 : decode cJ43_makeLong_3 105 = .ok (.lor, 1) := dk_129 (dk_at dksJ43_makeLong_3_4 11 rfl rfl)
theorem dJ43_makeLong_3_106 : decode cJ43_makeLong_3 106 = .ok (.lreturn, 1) := dk_173 (dk_at dksJ43_makeLong_3_4 12 rfl rfl)
abbrev cJ43_toUnsignedLong_3 : ByteArray := prog_72_method_368_code
def yJ43_toUnsignedLong_3 : MethodName := ⟨RJ43, "toUnsignedLong", "(B)J"⟩
def dkwJ43_toUnsignedLong_3_0 : List UInt8 := [26, 133, 20, 3, 40, 127, 173]
abbrev dktJ43_toUnsignedLong_3_0 : List UInt8 := dkwJ43_toUnsignedLong_3_0 ++ []
theorem dksJ43_toUnsignedLong_3_0 : cJ43_toUnsignedLong_3.data.toList.drop 0 = dktJ43_toUnsignedLong_3_0 := by decide +kernel
theorem dJ43_toUnsignedLong_3_0 : decode cJ43_toUnsignedLong_3 0 = .ok (.iload_n 0, 1) := dk_26 (dk_at dksJ43_toUnsignedLong_3_0 0 rfl rfl)
theorem dJ43_toUnsignedLong_3_1 : decode cJ43_toUnsignedLong_3 1 = .ok (.i2l, 1) := dk_133 (dk_at dksJ43_toUnsignedLong_3_0 1 rfl rfl)
theorem dJ43_toUnsignedLong_3_2 : decode cJ43_toUnsignedLong_3 2 = .ok (.ldc2_w 808, 3) := dk_20 3 40 (dk_at dksJ43_toUnsignedLong_3_0 2 rfl rfl)
theorem dJ43_toUnsignedLong_3_5 : decode cJ43_toUnsignedLong_3 5 = .ok (.land, 1) := dk_127 (dk_at dksJ43_toUnsignedLong_3_0 5 rfl rfl)
theorem dJ43_toUnsignedLong_3_6 : decode cJ43_toUnsignedLong_3 6 = .ok (.lreturn, 1) := dk_173 (dk_at dksJ43_toUnsignedLong_3_0 6 rfl rfl)
abbrev cJ43_getIntUnaligned : ByteArray := prog_72_method_336_code
def yJ43_getIntUnaligned : MethodName := ⟨RJ43, "getIntUnaligned", "(Ljava/lang/Object;J)I"⟩
def dkwJ43_getIntUnaligned_3 : List UInt8 := [43, 32, 20, 1, 93, 97, 182, 0, 39, 184, 2, 211, 172]
abbrev dktJ43_getIntUnaligned_3 : List UInt8 := dkwJ43_getIntUnaligned_3 ++ []
def dkwJ43_getIntUnaligned_2 : List UInt8 := [43, 32, 182, 0, 39, 42, 43, 32, 10, 97, 182, 0, 39, 42, 43, 32, 20, 0, 203, 97, 182, 0, 39, 42]
abbrev dktJ43_getIntUnaligned_2 : List UInt8 := dkwJ43_getIntUnaligned_2 ++ dktJ43_getIntUnaligned_3
def dkwJ43_getIntUnaligned_1 : List UInt8 := [154, 0, 23, 42, 43, 32, 182, 0, 47, 42, 43, 32, 20, 0, 203, 97, 182, 0, 47, 184, 2, 207, 172, 42]
abbrev dktJ43_getIntUnaligned_1 : List UInt8 := dkwJ43_getIntUnaligned_1 ++ dktJ43_getIntUnaligned_2
def dkwJ43_getIntUnaligned_0 : List UInt8 := [32, 20, 1, 93, 127, 9, 148, 154, 0, 10, 42, 43, 32, 182, 0, 17, 172, 32, 10, 127, 9, 148]
abbrev dktJ43_getIntUnaligned_0 : List UInt8 := dkwJ43_getIntUnaligned_0 ++ dktJ43_getIntUnaligned_1
theorem dksJ43_getIntUnaligned_0 : cJ43_getIntUnaligned.data.toList.drop 0 = dktJ43_getIntUnaligned_0 := by decide +kernel
theorem dksJ43_getIntUnaligned_1 : cJ43_getIntUnaligned.data.toList.drop 22 = dktJ43_getIntUnaligned_1 := dk_seg dksJ43_getIntUnaligned_0 22 rfl rfl
theorem dksJ43_getIntUnaligned_2 : cJ43_getIntUnaligned.data.toList.drop 46 = dktJ43_getIntUnaligned_2 := dk_seg dksJ43_getIntUnaligned_1 24 rfl rfl
theorem dksJ43_getIntUnaligned_3 : cJ43_getIntUnaligned.data.toList.drop 70 = dktJ43_getIntUnaligned_3 := dk_seg dksJ43_getIntUnaligned_2 24 rfl rfl
theorem dJ43_getIntUnaligned_0 : decode cJ43_getIntUnaligned 0 = .ok (.lload_n 2, 1) := dk_32 (dk_at dksJ43_getIntUnaligned_0 0 rfl rfl)
theorem dJ43_getIntUnaligned_1 : decode cJ43_getIntUnaligned 1 = .ok (.ldc2_w 349, 3) := dk_20 1 93 (dk_at dksJ43_getIntUnaligned_0 1 rfl rfl)
theorem dJ43_getIntUnaligned_4 : decode cJ43_getIntUnaligned 4 = .ok (.land, 1) := dk_127 (dk_at dksJ43_getIntUnaligned_0 4 rfl rfl)
theorem dJ43_getIntUnaligned_5 : decode cJ43_getIntUnaligned 5 = .ok (.lconst 0, 1) := dk_9 (dk_at dksJ43_getIntUnaligned_0 5 rfl rfl)
theorem dJ43_getIntUnaligned_6 : decode cJ43_getIntUnaligned 6 = .ok (.lcmp, 1) := dk_148 (dk_at dksJ43_getIntUnaligned_0 6 rfl rfl)
theorem dJ43_getIntUnaligned_7 : decode cJ43_getIntUnaligned 7 = .ok (.ifCond .ne 10, 3) := dk_154 0 10 (dk_at dksJ43_getIntUnaligned_0 7 rfl rfl)
theorem dJ43_getIntUnaligned_10 : decode cJ43_getIntUnaligned 10 = .ok (.aload_n 0, 1) := dk_42 (dk_at dksJ43_getIntUnaligned_0 10 rfl rfl)
theorem dJ43_getIntUnaligned_11 : decode cJ43_getIntUnaligned 11 = .ok (.aload_n 1, 1) := dk_43 (dk_at dksJ43_getIntUnaligned_0 11 rfl rfl)
theorem dJ43_getIntUnaligned_12 : decode cJ43_getIntUnaligned 12 = .ok (.lload_n 2, 1) := dk_32 (dk_at dksJ43_getIntUnaligned_0 12 rfl rfl)
theorem dJ43_getIntUnaligned_13 : decode cJ43_getIntUnaligned 13 = .ok (.invokevirtual 17, 3) := dk_182 0 17 (dk_at dksJ43_getIntUnaligned_0 13 rfl rfl)
theorem dJ43_getIntUnaligned_16 : decode cJ43_getIntUnaligned 16 = .ok (.ireturn, 1) := dk_172 (dk_at dksJ43_getIntUnaligned_0 16 rfl rfl)
theorem dJ43_getIntUnaligned_17 : decode cJ43_getIntUnaligned 17 = .ok (.lload_n 2, 1) := dk_32 (dk_at dksJ43_getIntUnaligned_0 17 rfl rfl)
theorem dJ43_getIntUnaligned_18 : decode cJ43_getIntUnaligned 18 = .ok (.lconst 1, 1) := dk_10 (dk_at dksJ43_getIntUnaligned_0 18 rfl rfl)
theorem dJ43_getIntUnaligned_19 : decode cJ43_getIntUnaligned 19 = .ok (.land, 1) := dk_127 (dk_at dksJ43_getIntUnaligned_0 19 rfl rfl)
theorem dJ43_getIntUnaligned_20 : decode cJ43_getIntUnaligned 20 = .ok (.lconst 0, 1) := dk_9 (dk_at dksJ43_getIntUnaligned_0 20 rfl rfl)
theorem dJ43_getIntUnaligned_21 : decode cJ43_getIntUnaligned 21 = .ok (.lcmp, 1) := dk_148 (dk_at dksJ43_getIntUnaligned_0 21 rfl rfl)
theorem dJ43_getIntUnaligned_22 : decode cJ43_getIntUnaligned 22 = .ok (.ifCond .ne 23, 3) := dk_154 0 23 (dk_at dksJ43_getIntUnaligned_1 0 rfl rfl)
theorem dJ43_getIntUnaligned_25 : decode cJ43_getIntUnaligned 25 = .ok (.aload_n 0, 1) := dk_42 (dk_at dksJ43_getIntUnaligned_1 3 rfl rfl)
theorem dJ43_getIntUnaligned_26 : decode cJ43_getIntUnaligned 26 = .ok (.aload_n 1, 1) := dk_43 (dk_at dksJ43_getIntUnaligned_1 4 rfl rfl)
theorem dJ43_getIntUnaligned_27 : decode cJ43_getIntUnaligned 27 = .ok (.lload_n 2, 1) := dk_32 (dk_at dksJ43_getIntUnaligned_1 5 rfl rfl)
theorem dJ43_getIntUnaligned_28 : decode cJ43_getIntUnaligned 28 = .ok (.invokevirtual 47, 3) := dk_182 0 47 (dk_at dksJ43_getIntUnaligned_1 6 rfl rfl)
theorem dJ43_getIntUnaligned_31 : decode cJ43_getIntUnaligned 31 = .ok (.aload_n 0, 1) := dk_42 (dk_at dksJ43_getIntUnaligned_1 9 rfl rfl)
theorem dJ43_getIntUnaligned_32 : decode cJ43_getIntUnaligned 32 = .ok (.aload_n 1, 1) := dk_43 (dk_at dksJ43_getIntUnaligned_1 10 rfl rfl)
theorem dJ43_getIntUnaligned_33 : decode cJ43_getIntUnaligned 33 = .ok (.lload_n 2, 1) := dk_32 (dk_at dksJ43_getIntUnaligned_1 11 rfl rfl)
theorem dJ43_getIntUnaligned_34 : decode cJ43_getIntUnaligned 34 = .ok (.ldc2_w 203, 3) := dk_20 0 203 (dk_at dksJ43_getIntUnaligned_1 12 rfl rfl)
theorem dJ43_getIntUnaligned_37 : decode cJ43_getIntUnaligned 37 = .ok (.ladd, 1) := dk_97 (dk_at dksJ43_getIntUnaligned_1 15 rfl rfl)
theorem dJ43_getIntUnaligned_38 : decode cJ43_getIntUnaligned 38 = .ok (.invokevirtual 47, 3) := dk_182 0 47 (dk_at dksJ43_getIntUnaligned_1 16 rfl rfl)
theorem dJ43_getIntUnaligned_41 : decode cJ43_getIntUnaligned 41 = .ok (.invokestatic 719, 3) := dk_184 2 207 (dk_at dksJ43_getIntUnaligned_1 19 rfl rfl)
theorem dJ43_getIntUnaligned_44 : decode cJ43_getIntUnaligned 44 = .ok (.ireturn, 1) := dk_172 (dk_at dksJ43_getIntUnaligned_1 22 rfl rfl)
theorem dJ43_getIntUnaligned_45 : decode cJ43_getIntUnaligned 45 = .ok (.aload_n 0, 1) := dk_42 (dk_at dksJ43_getIntUnaligned_1 23 rfl rfl)
theorem dJ43_getIntUnaligned_46 : decode cJ43_getIntUnaligned 46 = .ok (.aload_n 1, 1) := dk_43 (dk_at dksJ43_getIntUnaligned_2 0 rfl rfl)
theorem dJ43_getIntUnaligned_47 : decode cJ43_getIntUnaligned 47 = .ok (.lload_n 2, 1) := dk_32 (dk_at dksJ43_getIntUnaligned_2 1 rfl rfl)
theorem dJ43_getIntUnaligned_48 : decode cJ43_getIntUnaligned 48 = .ok (.invokevirtual 39, 3) := dk_182 0 39 (dk_at dksJ43_getIntUnaligned_2 2 rfl rfl)
theorem dJ43_getIntUnaligned_51 : decode cJ43_getIntUnaligned 51 = .ok (.aload_n 0, 1) := dk_42 (dk_at dksJ43_getIntUnaligned_2 5 rfl rfl)
theorem dJ43_getIntUnaligned_52 : decode cJ43_getIntUnaligned 52 = .ok (.aload_n 1, 1) := dk_43 (dk_at dksJ43_getIntUnaligned_2 6 rfl rfl)
theorem dJ43_getIntUnaligned_53 : decode cJ43_getIntUnaligned 53 = .ok (.lload_n 2, 1) := dk_32 (dk_at dksJ43_getIntUnaligned_2 7 rfl rfl)
theorem dJ43_getIntUnaligned_54 : decode cJ43_getIntUnaligned 54 = .ok (.lconst 1, 1) := dk_10 (dk_at dksJ43_getIntUnaligned_2 8 rfl rfl)
theorem dJ43_getIntUnaligned_55 : decode cJ43_getIntUnaligned 55 = .ok (.ladd, 1) := dk_97 (dk_at dksJ43_getIntUnaligned_2 9 rfl rfl)
theorem dJ43_getIntUnaligned_56 : decode cJ43_getIntUnaligned 56 = .ok (.invokevirtual 39, 3) := dk_182 0 39 (dk_at dksJ43_getIntUnaligned_2 10 rfl rfl)
theorem dJ43_getIntUnaligned_59 : decode cJ43_getIntUnaligned 59 = .ok (.aload_n 0, 1) := dk_42 (dk_at dksJ43_getIntUnaligned_2 13 rfl rfl)
theorem dJ43_getIntUnaligned_60 : decode cJ43_getIntUnaligned 60 = .ok (.aload_n 1, 1) := dk_43 (dk_at dksJ43_getIntUnaligned_2 14 rfl rfl)
theorem dJ43_getIntUnaligned_61 : decode cJ43_getIntUnaligned 61 = .ok (.lload_n 2, 1) := dk_32 (dk_at dksJ43_getIntUnaligned_2 15 rfl rfl)
theorem dJ43_getIntUnaligned_62 : decode cJ43_getIntUnaligned 62 = .ok (.ldc2_w 203, 3) := dk_20 0 203 (dk_at dksJ43_getIntUnaligned_2 16 rfl rfl)
theorem dJ43_getIntUnaligned_65 : decode cJ43_getIntUnaligned 65 = .ok (.ladd, 1) := dk_97 (dk_at dksJ43_getIntUnaligned_2 19 rfl rfl)
theorem dJ43_getIntUnaligned_66 : decode cJ43_getIntUnaligned 66 = .ok (.invokevirtual 39, 3) := dk_182 0 39 (dk_at dksJ43_getIntUnaligned_2 20 rfl rfl)
theorem dJ43_getIntUnaligned_69 : decode cJ43_getIntUnaligned 69 = .ok (.aload_n 0, 1) := dk_42 (dk_at dksJ43_getIntUnaligned_2 23 rfl rfl)
theorem dJ43_getIntUnaligned_70 : decode cJ43_getIntUnaligned 70 = .ok (.aload_n 1, 1) := dk_43 (dk_at dksJ43_getIntUnaligned_3 0 rfl rfl)
theorem dJ43_getIntUnaligned_71 : decode cJ43_getIntUnaligned 71 = .ok (.lload_n 2, 1) := dk_32 (dk_at dksJ43_getIntUnaligned_3 1 rfl rfl)
theorem dJ43_getIntUnaligned_72 : decode cJ43_getIntUnaligned 72 = .ok (.ldc2_w 349, 3) := dk_20 1 93 (dk_at dksJ43_getIntUnaligned_3 2 rfl rfl)
theorem dJ43_getIntUnaligned_75 : decode cJ43_getIntUnaligned 75 = .ok (.ladd, 1) := dk_97 (dk_at dksJ43_getIntUnaligned_3 5 rfl rfl)
theorem dJ43_getIntUnaligned_76 : decode cJ43_getIntUnaligned 76 = .ok (.invokevirtual 39, 3) := dk_182 0 39 (dk_at dksJ43_getIntUnaligned_3 6 rfl rfl)
theorem dJ43_getIntUnaligned_79 : decode cJ43_getIntUnaligned 79 = .ok (.invokestatic 723, 3) := dk_184 2 211 (dk_at dksJ43_getIntUnaligned_3 9 rfl rfl)
theorem dJ43_getIntUnaligned_82 : decode cJ43_getIntUnaligned 82 = .ok (.ireturn, 1) := dk_172 (dk_at dksJ43_getIntUnaligned_3 12 rfl rfl)
abbrev cJ43_makeInt : ByteArray := prog_72_method_354_code
def yJ43_makeInt : MethodName := ⟨RJ43, "makeInt", "(SS)I"⟩
def dkwJ43_makeInt_1 : List UInt8 := [172]
abbrev dktJ43_makeInt_1 : List UInt8 := dkwJ43_makeInt_1 ++ []
def dkwJ43_makeInt_0 : List UInt8 := [26, 184, 3, 24, 16, 16, 3, 184, 3, 16, 120, 27, 184, 3, 24, 16, 16, 16, 16, 184, 3, 16, 120, 128]
abbrev dktJ43_makeInt_0 : List UInt8 := dkwJ43_makeInt_0 ++ dktJ43_makeInt_1
theorem dksJ43_makeInt_0 : cJ43_makeInt.data.toList.drop 0 = dktJ43_makeInt_0 := by decide +kernel
theorem dksJ43_makeInt_1 : cJ43_makeInt.data.toList.drop 24 = dktJ43_makeInt_1 := dk_seg dksJ43_makeInt_0 24 rfl rfl
theorem dJ43_makeInt_0 : decode cJ43_makeInt 0 = .ok (.iload_n 0, 1) := dk_26 (dk_at dksJ43_makeInt_0 0 rfl rfl)
theorem dJ43_makeInt_1 : decode cJ43_makeInt 1 = .ok (.invokestatic 792, 3) := dk_184 3 24 (dk_at dksJ43_makeInt_0 1 rfl rfl)
theorem dJ43_makeInt_4 : decode cJ43_makeInt 4 = .ok (.bipush 16, 2) := dk_16 16 (dk_at dksJ43_makeInt_0 4 rfl rfl)
theorem dJ43_makeInt_6 : decode cJ43_makeInt 6 = .ok (.iconst 0, 1) := dk_3 (dk_at dksJ43_makeInt_0 6 rfl rfl)
theorem dJ43_makeInt_7 : decode cJ43_makeInt 7 = .ok (.invokestatic 784, 3) := dk_184 3 16 (dk_at dksJ43_makeInt_0 7 rfl rfl)
theorem dJ43_makeInt_10 : decode cJ43_makeInt 10 = .ok (.ishl, 1) := dk_120 (dk_at dksJ43_makeInt_0 10 rfl rfl)
theorem dJ43_makeInt_11 : decode cJ43_makeInt 11 = .ok (.iload_n 1, 1) := dk_27 (dk_at dksJ43_makeInt_0 11 rfl rfl)
theorem dJ43_makeInt_12 : decode cJ43_makeInt 12 = .ok (.invokestatic 792, 3) := dk_184 3 24 (dk_at dksJ43_makeInt_0 12 rfl rfl)
theorem dJ43_makeInt_15 : decode cJ43_makeInt 15 = .ok (.bipush 16, 2) := dk_16 16 (dk_at dksJ43_makeInt_0 15 rfl rfl)
theorem dJ43_makeInt_17 : decode cJ43_makeInt 17 = .ok (.bipush 16, 2) := dk_16 16 (dk_at dksJ43_makeInt_0 17 rfl rfl)
theorem dJ43_makeInt_19 : decode cJ43_makeInt 19 = .ok (.invokestatic 784, 3) := dk_184 3 16 (dk_at dksJ43_makeInt_0 19 rfl rfl)
theorem dJ43_makeInt_22 : decode cJ43_makeInt 22 = .ok (.ishl, 1) := dk_120 (dk_at dksJ43_makeInt_0 22 rfl rfl)
theorem dJ43_makeInt_23 : decode cJ43_makeInt 23 = .ok (.ior, 1) := dk_128 (dk_at dksJ43_makeInt_0 23 rfl rfl)
theorem dJ43_makeInt_24 : decode cJ43_makeInt 24 = .ok (.ireturn, 1) := dk_172 (dk_at dksJ43_makeInt_1 0 rfl rfl)
abbrev cJ43_toUnsignedInt : ByteArray := prog_72_method_367_code
def yJ43_toUnsignedInt : MethodName := ⟨RJ43, "toUnsignedInt", "(S)I"⟩
def dkwJ43_toUnsignedInt_0 : List UInt8 := [26, 19, 1, 118, 126, 172]
abbrev dktJ43_toUnsignedInt_0 : List UInt8 := dkwJ43_toUnsignedInt_0 ++ []
theorem dksJ43_toUnsignedInt_0 : cJ43_toUnsignedInt.data.toList.drop 0 = dktJ43_toUnsignedInt_0 := by decide +kernel
theorem dJ43_toUnsignedInt_0 : decode cJ43_toUnsignedInt 0 = .ok (.iload_n 0, 1) := dk_26 (dk_at dksJ43_toUnsignedInt_0 0 rfl rfl)
theorem dJ43_toUnsignedInt_1 : decode cJ43_toUnsignedInt 1 = .ok (.ldc_w 374, 3) := dk_19 1 118 (dk_at dksJ43_toUnsignedInt_0 1 rfl rfl)
theorem dJ43_toUnsignedInt_4 : decode cJ43_toUnsignedInt 4 = .ok (.iand, 1) := dk_126 (dk_at dksJ43_toUnsignedInt_0 4 rfl rfl)
theorem dJ43_toUnsignedInt_5 : decode cJ43_toUnsignedInt 5 = .ok (.ireturn, 1) := dk_172 (dk_at dksJ43_toUnsignedInt_0 5 rfl rfl)
abbrev cJ43_makeInt_2 : ByteArray := prog_72_method_355_code
def yJ43_makeInt_2 : MethodName := ⟨RJ43, "makeInt", "(BBBB)I"⟩
def dkwJ43_makeInt_2_2 : List UInt8 := [120, 128, 172]
abbrev dktJ43_makeInt_2_2 : List UInt8 := dkwJ43_makeInt_2_2 ++ []
def dkwJ43_makeInt_2_1 : List UInt8 := [28, 184, 3, 28, 16, 24, 16, 16, 184, 3, 16, 120, 128, 29, 184, 3, 28, 16, 24, 16, 24, 184, 3, 16]
abbrev dktJ43_makeInt_2_1 : List UInt8 := dkwJ43_makeInt_2_1 ++ dktJ43_makeInt_2_2
def dkwJ43_makeInt_2_0 : List UInt8 := [26, 184, 3, 28, 16, 24, 3, 184, 3, 16, 120, 27, 184, 3, 28, 16, 24, 16, 8, 184, 3, 16, 120, 128]
abbrev dktJ43_makeInt_2_0 : List UInt8 := dkwJ43_makeInt_2_0 ++ dktJ43_makeInt_2_1
theorem dksJ43_makeInt_2_0 : cJ43_makeInt_2.data.toList.drop 0 = dktJ43_makeInt_2_0 := by decide +kernel
theorem dksJ43_makeInt_2_1 : cJ43_makeInt_2.data.toList.drop 24 = dktJ43_makeInt_2_1 := dk_seg dksJ43_makeInt_2_0 24 rfl rfl
theorem dksJ43_makeInt_2_2 : cJ43_makeInt_2.data.toList.drop 48 = dktJ43_makeInt_2_2 := dk_seg dksJ43_makeInt_2_1 24 rfl rfl
theorem dJ43_makeInt_2_0 : decode cJ43_makeInt_2 0 = .ok (.iload_n 0, 1) := dk_26 (dk_at dksJ43_makeInt_2_0 0 rfl rfl)
theorem dJ43_makeInt_2_1 : decode cJ43_makeInt_2 1 = .ok (.invokestatic 796, 3) := dk_184 3 28 (dk_at dksJ43_makeInt_2_0 1 rfl rfl)
theorem dJ43_makeInt_2_4 : decode cJ43_makeInt_2 4 = .ok (.bipush 24, 2) := dk_16 24 (dk_at dksJ43_makeInt_2_0 4 rfl rfl)
theorem dJ43_makeInt_2_6 : decode cJ43_makeInt_2 6 = .ok (.iconst 0, 1) := dk_3 (dk_at dksJ43_makeInt_2_0 6 rfl rfl)
theorem dJ43_makeInt_2_7 : decode cJ43_makeInt_2 7 = .ok (.invokestatic 784, 3) := dk_184 3 16 (dk_at dksJ43_makeInt_2_0 7 rfl rfl)
theorem dJ43_makeInt_2_10 : decode cJ43_makeInt_2 10 = .ok (.ishl, 1) := dk_120 (dk_at dksJ43_makeInt_2_0 10 rfl rfl)
theorem dJ43_makeInt_2_11 : decode cJ43_makeInt_2 11 = .ok (.iload_n 1, 1) := dk_27 (dk_at dksJ43_makeInt_2_0 11 rfl rfl)
theorem dJ43_makeInt_2_12 : decode cJ43_makeInt_2 12 = .ok (.invokestatic 796, 3) := dk_184 3 28 (dk_at dksJ43_makeInt_2_0 12 rfl rfl)
theorem dJ43_makeInt_2_15 : decode cJ43_makeInt_2 15 = .ok (.bipush 24, 2) := dk_16 24 (dk_at dksJ43_makeInt_2_0 15 rfl rfl)
theorem dJ43_makeInt_2_17 : decode cJ43_makeInt_2 17 = .ok (.bipush 8, 2) := dk_16 8 (dk_at dksJ43_makeInt_2_0 17 rfl rfl)
theorem dJ43_makeInt_2_19 : decode cJ43_makeInt_2 19 = .ok (.invokestatic 784, 3) := dk_184 3 16 (dk_at dksJ43_makeInt_2_0 19 rfl rfl)
theorem dJ43_makeInt_2_22 : decode cJ43_makeInt_2 22 = .ok (.ishl, 1) := dk_120 (dk_at dksJ43_makeInt_2_0 22 rfl rfl)
theorem dJ43_makeInt_2_23 : decode cJ43_makeInt_2 23 = .ok (.ior, 1) := dk_128 (dk_at dksJ43_makeInt_2_0 23 rfl rfl)
theorem dJ43_makeInt_2_24 : decode cJ43_makeInt_2 24 = .ok (.iload_n 2, 1) := dk_28 (dk_at dksJ43_makeInt_2_1 0 rfl rfl)
theorem dJ43_makeInt_2_25 : decode cJ43_makeInt_2 25 = .ok (.invokestatic 796, 3) := dk_184 3 28 (dk_at dksJ43_makeInt_2_1 1 rfl rfl)
theorem dJ43_makeInt_2_28 : decode cJ43_makeInt_2 28 = .ok (.bipush 24, 2) := dk_16 24 (dk_at dksJ43_makeInt_2_1 4 rfl rfl)
theorem dJ43_makeInt_2_30 : decode cJ43_makeInt_2 30 = .ok (.bipush 16, 2) := dk_16 16 (dk_at dksJ43_makeInt_2_1 6 rfl rfl)
theorem dJ43_makeInt_2_32 : decode cJ43_makeInt_2 32 = .ok (.invokestatic 784, 3) := dk_184 3 16 (dk_at dksJ43_makeInt_2_1 8 rfl rfl)
theorem dJ43_makeInt_2_35 : decode cJ43_makeInt_2 35 = .ok (.ishl, 1) := dk_120 (dk_at dksJ43_makeInt_2_1 11 rfl rfl)
theorem dJ43_makeInt_2_36 : decode cJ43_makeInt_2 36 = .ok (.ior, 1) := dk_128 (dk_at dksJ43_makeInt_2_1 12 rfl rfl)
theorem dJ43_makeInt_2_37 : decode cJ43_makeInt_2 37 = .ok (.iload_n 3, 1) := dk_29 (dk_at dksJ43_makeInt_2_1 13 rfl rfl)
theorem dJ43_makeInt_2_38 : decode cJ43_makeInt_2 38 = .ok (.invokestatic 796, 3) := dk_184 3 28 (dk_at dksJ43_makeInt_2_1 14 rfl rfl)
theorem dJ43_makeInt_2_41 : decode cJ43_makeInt_2 41 = .ok (.bipush 24, 2) := dk_16 24 (dk_at dksJ43_makeInt_2_1 17 rfl rfl)
theorem dJ43_makeInt_2_43 : decode cJ43_makeInt_2 43 = .ok (.bipush 24, 2) := dk_16 24 (dk_at dksJ43_makeInt_2_1 19 rfl rfl)
theorem dJ43_makeInt_2_45 : decode cJ43_makeInt_2 45 = .ok (.invokestatic 784, 3) := dk_184 3 16 (dk_at dksJ43_makeInt_2_1 21 rfl rfl)
theorem dJ43_makeInt_2_48 : decode cJ43_makeInt_2 48 = .ok (.ishl, 1) := dk_120 (dk_at dksJ43_makeInt_2_2 0 rfl rfl)
theorem dJ43_makeInt_2_49 : decode cJ43_makeInt_2 49 = .ok (.ior, 1) := dk_128 (dk_at dksJ43_makeInt_2_2 1 rfl rfl)
theorem dJ43_makeInt_2_50 : decode cJ43_makeInt_2 50 = .ok (.ireturn, 1) := dk_172 (dk_at dksJ43_makeInt_2_2 2 rfl rfl)
abbrev cJ43_toUnsignedInt_2 : ByteArray := prog_72_method_366_code
def yJ43_toUnsignedInt_2 : MethodName := ⟨RJ43, "toUnsignedInt", "(B)I"⟩
def dkwJ43_toUnsignedInt_2_0 : List UInt8 := [26, 17, 0, 255, 126, 172]
abbrev dktJ43_toUnsignedInt_2_0 : List UInt8 := dkwJ43_toUnsignedInt_2_0 ++ []
theorem dksJ43_toUnsignedInt_2_0 : cJ43_toUnsignedInt_2.data.toList.drop 0 = dktJ43_toUnsignedInt_2_0 := by decide +kernel
theorem dJ43_toUnsignedInt_2_0 : decode cJ43_toUnsignedInt_2 0 = .ok (.iload_n 0, 1) := dk_26 (dk_at dksJ43_toUnsignedInt_2_0 0 rfl rfl)
theorem dJ43_toUnsignedInt_2_1 : decode cJ43_toUnsignedInt_2 1 = .ok (.sipush 255, 3) := dk_17 0 255 (dk_at dksJ43_toUnsignedInt_2_0 1 rfl rfl)
theorem dJ43_toUnsignedInt_2_4 : decode cJ43_toUnsignedInt_2 4 = .ok (.iand, 1) := dk_126 (dk_at dksJ43_toUnsignedInt_2_0 4 rfl rfl)
theorem dJ43_toUnsignedInt_2_5 : decode cJ43_toUnsignedInt_2 5 = .ok (.ireturn, 1) := dk_172 (dk_at dksJ43_toUnsignedInt_2_0 5 rfl rfl)
abbrev cJ44_init : ByteArray := prog_13_method_2_code
def yJ44_init : MethodName := ⟨RJ44, "<init>", "(Ljava/lang/String;)V"⟩
def dkwJ44_init_0 : List UInt8 := [42, 43, 183, 0, 7, 177]
abbrev dktJ44_init_0 : List UInt8 := dkwJ44_init_0 ++ []
theorem dksJ44_init_0 : cJ44_init.data.toList.drop 0 = dktJ44_init_0 := by decide +kernel
theorem dJ44_init_0 : decode cJ44_init 0 = .ok (.aload_n 0, 1) := dk_42 (dk_at dksJ44_init_0 0 rfl rfl)
theorem dJ44_init_1 : decode cJ44_init 1 = .ok (.aload_n 1, 1) := dk_43 (dk_at dksJ44_init_0 1 rfl rfl)
theorem dJ44_init_2 : decode cJ44_init 2 = .ok (.invokespecial 7, 3) := dk_183 0 7 (dk_at dksJ44_init_0 2 rfl rfl)
theorem dJ44_init_5 : decode cJ44_init 5 = .ok (.return_, 1) := dk_177 (dk_at dksJ44_init_0 5 rfl rfl)
abbrev cJ44_init_2 : ByteArray := prog_13_method_1_code
def yJ44_init_2 : MethodName := ⟨RJ44, "<init>", "()V"⟩
theorem dJ44_init_2_0 : decode cJ44_init_2 0 = .ok (.aload_n 0, 1) := by decide +kernel
theorem dJ44_init_2_1 : decode cJ44_init_2 1 = .ok (.invokespecial 1, 3) := by decide +kernel
theorem dJ44_init_2_4 : decode cJ44_init_2 4 = .ok (.return_, 1) := by decide +kernel
abbrev cJ45_init : ByteArray := object_method_1_code
def yJ45_init : MethodName := ⟨RJ45, "<init>", "()V"⟩
theorem dJ45_init_0 : decode cJ45_init 0 = .ok (.return_, 1) := by decide +kernel
abbrev cJ45_equals : ByteArray := object_method_4_code
def yJ45_equals : MethodName := ⟨RJ45, "equals", "(Ljava/lang/Object;)Z"⟩
def dkwJ45_equals_0 : List UInt8 := [42, 43, 166, 0, 7, 4, 167, 0, 4, 3, 172]
abbrev dktJ45_equals_0 : List UInt8 := dkwJ45_equals_0 ++ []
theorem dksJ45_equals_0 : cJ45_equals.data.toList.drop 0 = dktJ45_equals_0 := by decide +kernel
theorem dJ45_equals_0 : decode cJ45_equals 0 = .ok (.aload_n 0, 1) := dk_42 (dk_at dksJ45_equals_0 0 rfl rfl)
theorem dJ45_equals_1 : decode cJ45_equals 1 = .ok (.aload_n 1, 1) := dk_43 (dk_at dksJ45_equals_0 1 rfl rfl)
theorem dJ45_equals_2 : decode cJ45_equals 2 = .ok (.if_acmp .ne 7, 3) := dk_166 0 7 (dk_at dksJ45_equals_0 2 rfl rfl)
theorem dJ45_equals_5 : decode cJ45_equals 5 = .ok (.iconst 1, 1) := dk_4 (dk_at dksJ45_equals_0 5 rfl rfl)
theorem dJ45_equals_6 : decode cJ45_equals 6 = .ok (.goto 4, 3) := dk_167 0 4 (dk_at dksJ45_equals_0 6 rfl rfl)
theorem dJ45_equals_9 : decode cJ45_equals 9 = .ok (.iconst 0, 1) := dk_3 (dk_at dksJ45_equals_0 9 rfl rfl)
theorem dJ45_equals_10 : decode cJ45_equals 10 = .ok (.ireturn, 1) := dk_172 (dk_at dksJ45_equals_0 10 rfl rfl)
abbrev cJ46_getUTF16Char : ByteArray := prog_35_method_45_code
def yJ46_getUTF16Char : MethodName := ⟨RJ46, "getUTF16Char", "([BI)C"⟩
def dkwJ46_getUTF16Char_0 : List UInt8 := [43, 28, 184, 0, 185, 172]
abbrev dktJ46_getUTF16Char_0 : List UInt8 := dkwJ46_getUTF16Char_0 ++ []
theorem dksJ46_getUTF16Char_0 : cJ46_getUTF16Char.data.toList.drop 0 = dktJ46_getUTF16Char_0 := by decide +kernel
theorem dJ46_getUTF16Char_0 : decode cJ46_getUTF16Char 0 = .ok (.aload_n 1, 1) := dk_43 (dk_at dksJ46_getUTF16Char_0 0 rfl rfl)
theorem dJ46_getUTF16Char_1 : decode cJ46_getUTF16Char 1 = .ok (.iload_n 2, 1) := dk_28 (dk_at dksJ46_getUTF16Char_0 1 rfl rfl)
theorem dJ46_getUTF16Char_2 : decode cJ46_getUTF16Char 2 = .ok (.invokestatic 185, 3) := dk_184 0 185 (dk_at dksJ46_getUTF16Char_0 2 rfl rfl)
theorem dJ46_getUTF16Char_5 : decode cJ46_getUTF16Char 5 = .ok (.ireturn, 1) := dk_172 (dk_at dksJ46_getUTF16Char_0 5 rfl rfl)
abbrev cJ47_isEmpty : ByteArray := prog_15_method_3_code
def yJ47_isEmpty : MethodName := ⟨RJ47, "isEmpty", "()Z"⟩
def dkwJ47_isEmpty_0 : List UInt8 := [42, 185, 0, 1, 1, 0, 154, 0, 7, 4, 167, 0, 4, 3, 172]
abbrev dktJ47_isEmpty_0 : List UInt8 := dkwJ47_isEmpty_0 ++ []
theorem dksJ47_isEmpty_0 : cJ47_isEmpty.data.toList.drop 0 = dktJ47_isEmpty_0 := by decide +kernel
theorem dJ47_isEmpty_0 : decode cJ47_isEmpty 0 = .ok (.aload_n 0, 1) := dk_42 (dk_at dksJ47_isEmpty_0 0 rfl rfl)
theorem dJ47_isEmpty_1 : decode cJ47_isEmpty 1 = .ok (.invokeinterface 1 1, 5) := by decide +kernel
theorem dJ47_isEmpty_6 : decode cJ47_isEmpty 6 = .ok (.ifCond .ne 7, 3) := dk_154 0 7 (dk_at dksJ47_isEmpty_0 6 rfl rfl)
theorem dJ47_isEmpty_9 : decode cJ47_isEmpty 9 = .ok (.iconst 1, 1) := dk_4 (dk_at dksJ47_isEmpty_0 9 rfl rfl)
theorem dJ47_isEmpty_10 : decode cJ47_isEmpty 10 = .ok (.goto 4, 3) := dk_167 0 4 (dk_at dksJ47_isEmpty_0 10 rfl rfl)
theorem dJ47_isEmpty_13 : decode cJ47_isEmpty 13 = .ok (.iconst 0, 1) := dk_3 (dk_at dksJ47_isEmpty_0 13 rfl rfl)
theorem dJ47_isEmpty_14 : decode cJ47_isEmpty 14 = .ok (.ireturn, 1) := dk_172 (dk_at dksJ47_isEmpty_0 14 rfl rfl)
abbrev cJ5_init : ByteArray := prog_45_method_3_code
def yJ5_init : MethodName := ⟨RJ5, "<init>", "()V"⟩
def dkwJ5_init_0 : List UInt8 := [42, 183, 0, 42, 42, 16, 17, 189, 0, 47, 181, 0, 3, 177]
abbrev dktJ5_init_0 : List UInt8 := dkwJ5_init_0 ++ []
theorem dksJ5_init_0 : cJ5_init.data.toList.drop 0 = dktJ5_init_0 := by decide +kernel
theorem dJ5_init_0 : decode cJ5_init 0 = .ok (.aload_n 0, 1) := dk_42 (dk_at dksJ5_init_0 0 rfl rfl)
theorem dJ5_init_1 : decode cJ5_init 1 = .ok (.invokespecial 42, 3) := dk_183 0 42 (dk_at dksJ5_init_0 1 rfl rfl)
theorem dJ5_init_4 : decode cJ5_init 4 = .ok (.aload_n 0, 1) := dk_42 (dk_at dksJ5_init_0 4 rfl rfl)
theorem dJ5_init_5 : decode cJ5_init 5 = .ok (.bipush 17, 2) := dk_16 17 (dk_at dksJ5_init_0 5 rfl rfl)
theorem dJ5_init_7 : decode cJ5_init 7 = .ok (.anewarray 47, 3) := dk_189 0 47 (dk_at dksJ5_init_0 7 rfl rfl)
theorem dJ5_init_10 : decode cJ5_init 10 = .ok (.putfield 3, 3) := dk_181 0 3 (dk_at dksJ5_init_0 10 rfl rfl)
theorem dJ5_init_13 : decode cJ5_init 13 = .ok (.return_, 1) := dk_177 (dk_at dksJ5_init_0 13 rfl rfl)
abbrev cJ5_addLast : ByteArray := prog_45_method_13_code
def yJ5_addLast : MethodName := ⟨RJ5, "addLast", "(Ljava/lang/Object;)V"⟩
def dkwJ5_addLast_2 : List UInt8 := [182, 0, 71, 177]
abbrev dktJ5_addLast_2 : List UInt8 := dkwJ5_addLast_2 ++ []
def dkwJ5_addLast_1 : List UInt8 := [42, 180, 0, 24, 42, 42, 180, 0, 20, 44, 190, 184, 0, 74, 90, 181, 0, 20, 160, 0, 8, 42, 4]
abbrev dktJ5_addLast_1 : List UInt8 := dkwJ5_addLast_1 ++ dktJ5_addLast_2
def dkwJ5_addLast_0 : List UInt8 := [43, 199, 0, 11, 187, 0, 65, 89, 183, 0, 67, 191, 42, 180, 0, 3, 77, 44, 42, 180, 0, 20, 43, 83]
abbrev dktJ5_addLast_0 : List UInt8 := dkwJ5_addLast_0 ++ dktJ5_addLast_1
theorem dksJ5_addLast_0 : cJ5_addLast.data.toList.drop 0 = dktJ5_addLast_0 := by decide +kernel
theorem dksJ5_addLast_1 : cJ5_addLast.data.toList.drop 24 = dktJ5_addLast_1 := dk_seg dksJ5_addLast_0 24 rfl rfl
theorem dksJ5_addLast_2 : cJ5_addLast.data.toList.drop 47 = dktJ5_addLast_2 := dk_seg dksJ5_addLast_1 23 rfl rfl
theorem dJ5_addLast_0 : decode cJ5_addLast 0 = .ok (.aload_n 1, 1) := dk_43 (dk_at dksJ5_addLast_0 0 rfl rfl)
theorem dJ5_addLast_1 : decode cJ5_addLast 1 = .ok (.ifnonnull 11, 3) := dk_199 0 11 (dk_at dksJ5_addLast_0 1 rfl rfl)
theorem dJ5_addLast_4 : decode cJ5_addLast 4 = .ok (.new 65, 3) := dk_187 0 65 (dk_at dksJ5_addLast_0 4 rfl rfl)
theorem dJ5_addLast_7 : decode cJ5_addLast 7 = .ok (.dup, 1) := dk_89 (dk_at dksJ5_addLast_0 7 rfl rfl)
theorem dJ5_addLast_8 : decode cJ5_addLast 8 = .ok (.invokespecial 67, 3) := dk_183 0 67 (dk_at dksJ5_addLast_0 8 rfl rfl)
theorem dJ5_addLast_11 : decode cJ5_addLast 11 = .ok (.athrow, 1) := dk_191 (dk_at dksJ5_addLast_0 11 rfl rfl)
theorem dJ5_addLast_12 : decode cJ5_addLast 12 = .ok (.aload_n 0, 1) := dk_42 (dk_at dksJ5_addLast_0 12 rfl rfl)
theorem dJ5_addLast_13 : decode cJ5_addLast 13 = .ok (.getfield 3, 3) := dk_180 0 3 (dk_at dksJ5_addLast_0 13 rfl rfl)
theorem dJ5_addLast_16 : decode cJ5_addLast 16 = .ok (.astore_n 2, 1) := dk_77 (dk_at dksJ5_addLast_0 16 rfl rfl)
theorem dJ5_addLast_17 : decode cJ5_addLast 17 = .ok (.aload_n 2, 1) := dk_44 (dk_at dksJ5_addLast_0 17 rfl rfl)
theorem dJ5_addLast_18 : decode cJ5_addLast 18 = .ok (.aload_n 0, 1) := dk_42 (dk_at dksJ5_addLast_0 18 rfl rfl)
theorem dJ5_addLast_19 : decode cJ5_addLast 19 = .ok (.getfield 20, 3) := dk_180 0 20 (dk_at dksJ5_addLast_0 19 rfl rfl)
theorem dJ5_addLast_22 : decode cJ5_addLast 22 = .ok (.aload_n 1, 1) := dk_43 (dk_at dksJ5_addLast_0 22 rfl rfl)
theorem dJ5_addLast_23 : decode cJ5_addLast 23 = .ok (.aastore, 1) := dk_83 (dk_at dksJ5_addLast_0 23 rfl rfl)
theorem dJ5_addLast_24 : decode cJ5_addLast 24 = .ok (.aload_n 0, 1) := dk_42 (dk_at dksJ5_addLast_1 0 rfl rfl)
theorem dJ5_addLast_25 : decode cJ5_addLast 25 = .ok (.getfield 24, 3) := dk_180 0 24 (dk_at dksJ5_addLast_1 1 rfl rfl)
theorem dJ5_addLast_28 : decode cJ5_addLast 28 = .ok (.aload_n 0, 1) := dk_42 (dk_at dksJ5_addLast_1 4 rfl rfl)
theorem dJ5_addLast_29 : decode cJ5_addLast 29 = .ok (.aload_n 0, 1) := dk_42 (dk_at dksJ5_addLast_1 5 rfl rfl)
theorem dJ5_addLast_30 : decode cJ5_addLast 30 = .ok (.getfield 20, 3) := dk_180 0 20 (dk_at dksJ5_addLast_1 6 rfl rfl)
theorem dJ5_addLast_33 : decode cJ5_addLast 33 = .ok (.aload_n 2, 1) := dk_44 (dk_at dksJ5_addLast_1 9 rfl rfl)
theorem dJ5_addLast_34 : decode cJ5_addLast 34 = .ok (.arraylength, 1) := dk_190 (dk_at dksJ5_addLast_1 10 rfl rfl)
theorem dJ5_addLast_35 : decode cJ5_addLast 35 = .ok (.invokestatic 74, 3) := dk_184 0 74 (dk_at dksJ5_addLast_1 11 rfl rfl)
theorem dJ5_addLast_38 : decode cJ5_addLast 38 = .ok (.dup_x1, 1) := dk_90 (dk_at dksJ5_addLast_1 14 rfl rfl)
theorem dJ5_addLast_39 : decode cJ5_addLast 39 = .ok (.putfield 20, 3) := dk_181 0 20 (dk_at dksJ5_addLast_1 15 rfl rfl)
theorem dJ5_addLast_42 : decode cJ5_addLast 42 = .ok (.if_icmp .ne 8, 3) := dk_160 0 8 (dk_at dksJ5_addLast_1 18 rfl rfl)
theorem dJ5_addLast_45 : decode cJ5_addLast 45 = .ok (.aload_n 0, 1) := dk_42 (dk_at dksJ5_addLast_1 21 rfl rfl)
theorem dJ5_addLast_46 : decode cJ5_addLast 46 = .ok (.iconst 1, 1) := dk_4 (dk_at dksJ5_addLast_1 22 rfl rfl)
theorem dJ5_addLast_47 : decode cJ5_addLast 47 = .ok (.invokevirtual 71, 3) := dk_182 0 71 (dk_at dksJ5_addLast_2 0 rfl rfl)
theorem dJ5_addLast_50 : decode cJ5_addLast 50 = .ok (.return_, 1) := dk_177 (dk_at dksJ5_addLast_2 3 rfl rfl)
abbrev cJ5_inc : ByteArray := prog_45_method_6_code
def yJ5_inc : MethodName := ⟨RJ5, "inc", "(II)I"⟩
def dkwJ5_inc_0 : List UInt8 := [132, 0, 1, 26, 27, 161, 0, 5, 3, 59, 26, 172]
abbrev dktJ5_inc_0 : List UInt8 := dkwJ5_inc_0 ++ []
theorem dksJ5_inc_0 : cJ5_inc.data.toList.drop 0 = dktJ5_inc_0 := by decide +kernel
theorem dJ5_inc_0 : decode cJ5_inc 0 = .ok (.iinc 0 1, 3) := dk_132 0 1 (dk_at dksJ5_inc_0 0 rfl rfl)
theorem dJ5_inc_3 : decode cJ5_inc 3 = .ok (.iload_n 0, 1) := dk_26 (dk_at dksJ5_inc_0 3 rfl rfl)
theorem dJ5_inc_4 : decode cJ5_inc 4 = .ok (.iload_n 1, 1) := dk_27 (dk_at dksJ5_inc_0 4 rfl rfl)
theorem dJ5_inc_5 : decode cJ5_inc 5 = .ok (.if_icmp .lt 5, 3) := dk_161 0 5 (dk_at dksJ5_inc_0 5 rfl rfl)
theorem dJ5_inc_8 : decode cJ5_inc 8 = .ok (.iconst 0, 1) := dk_3 (dk_at dksJ5_inc_0 8 rfl rfl)
theorem dJ5_inc_9 : decode cJ5_inc 9 = .ok (.istore_n 0, 1) := dk_59 (dk_at dksJ5_inc_0 9 rfl rfl)
theorem dJ5_inc_10 : decode cJ5_inc 10 = .ok (.iload_n 0, 1) := dk_26 (dk_at dksJ5_inc_0 10 rfl rfl)
theorem dJ5_inc_11 : decode cJ5_inc 11 = .ok (.ireturn, 1) := dk_172 (dk_at dksJ5_inc_0 11 rfl rfl)
abbrev cJ5_grow : ByteArray := prog_45_method_1_code
def yJ5_grow : MethodName := ⟨RJ5, "grow", "(I)V"⟩
def dkwJ5_grow_7 : List UInt8 := [177]
abbrev dktJ5_grow_7 : List UInt8 := dkwJ5_grow_7 ++ []
def dkwJ5_grow_6 : List UInt8 := [181, 0, 24, 54, 8, 21, 7, 21, 8, 162, 0, 15, 25, 5, 21, 7, 1, 83, 132, 7, 1, 167, 255, 240]
abbrev dktJ5_grow_6 : List UInt8 := dkwJ5_grow_6 ++ dktJ5_grow_7
def dkwJ5_grow_5 : List UInt8 := [42, 180, 0, 24, 100, 184, 0, 27, 42, 180, 0, 24, 54, 7, 42, 89, 180, 0, 24, 21, 6, 96, 90]
abbrev dktJ5_grow_5 : List UInt8 := dkwJ5_grow_5 ++ dktJ5_grow_6
def dkwJ5_grow_4 : List UInt8 := [198, 0, 71, 29, 28, 100, 54, 6, 25, 5, 42, 180, 0, 24, 25, 5, 42, 180, 0, 24, 21, 6, 96, 28]
abbrev dktJ5_grow_4 : List UInt8 := dkwJ5_grow_4 ++ dktJ5_grow_5
def dkwJ5_grow_3 : List UInt8 := [180, 0, 24, 161, 0, 24, 42, 180, 0, 20, 42, 180, 0, 24, 160, 0, 81, 25, 5, 42, 180, 0, 24, 50]
abbrev dktJ5_grow_3 : List UInt8 := dkwJ5_grow_3 ++ dktJ5_grow_4
def dkwJ5_grow_2 : List UInt8 := [182, 0, 10, 62, 42, 42, 180, 0, 3, 29, 184, 0, 14, 90, 181, 0, 3, 58, 5, 42, 180, 0, 20, 42]
abbrev dktJ5_grow_2 : List UInt8 := dkwJ5_grow_2 ++ dktJ5_grow_3
def dkwJ5_grow_1 : List UInt8 := [21, 4, 27, 161, 0, 15, 28, 21, 4, 96, 89, 62, 18, 9, 100, 158, 0, 11, 42, 27, 21, 4]
abbrev dktJ5_grow_1 : List UInt8 := dkwJ5_grow_1 ++ dktJ5_grow_2
def dkwJ5_grow_0 : List UInt8 := [42, 180, 0, 3, 190, 61, 28, 16, 64, 162, 0, 9, 28, 5, 96, 167, 0, 6, 28, 4, 122, 54, 4]
abbrev dktJ5_grow_0 : List UInt8 := dkwJ5_grow_0 ++ dktJ5_grow_1
theorem dksJ5_grow_0 : cJ5_grow.data.toList.drop 0 = dktJ5_grow_0 := by decide +kernel
theorem dksJ5_grow_1 : cJ5_grow.data.toList.drop 23 = dktJ5_grow_1 := dk_seg dksJ5_grow_0 23 rfl rfl
theorem dksJ5_grow_2 : cJ5_grow.data.toList.drop 45 = dktJ5_grow_2 := dk_seg dksJ5_grow_1 22 rfl rfl
theorem dksJ5_grow_3 : cJ5_grow.data.toList.drop 69 = dktJ5_grow_3 := dk_seg dksJ5_grow_2 24 rfl rfl
theorem dksJ5_grow_4 : cJ5_grow.data.toList.drop 93 = dktJ5_grow_4 := dk_seg dksJ5_grow_3 24 rfl rfl
theorem dksJ5_grow_5 : cJ5_grow.data.toList.drop 117 = dktJ5_grow_5 := dk_seg dksJ5_grow_4 24 rfl rfl
theorem dksJ5_grow_6 : cJ5_grow.data.toList.drop 140 = dktJ5_grow_6 := dk_seg dksJ5_grow_5 23 rfl rfl
theorem dksJ5_grow_7 : cJ5_grow.data.toList.drop 164 = dktJ5_grow_7 := dk_seg dksJ5_grow_6 24 rfl rfl
theorem dJ5_grow_0 : decode cJ5_grow 0 = .ok (.aload_n 0, 1) := dk_42 (dk_at dksJ5_grow_0 0 rfl rfl)
theorem dJ5_grow_1 : decode cJ5_grow 1 = .ok (.getfield 3, 3) := dk_180 0 3 (dk_at dksJ5_grow_0 1 rfl rfl)
theorem dJ5_grow_4 : decode cJ5_grow 4 = .ok (.arraylength, 1) := dk_190 (dk_at dksJ5_grow_0 4 rfl rfl)
theorem dJ5_grow_5 : decode cJ5_grow 5 = .ok (.istore_n 2, 1) := dk_61 (dk_at dksJ5_grow_0 5 rfl rfl)
theorem dJ5_grow_6 : decode cJ5_grow 6 = .ok (.iload_n 2, 1) := dk_28 (dk_at dksJ5_grow_0 6 rfl rfl)
theorem dJ5_grow_7 : decode cJ5_grow 7 = .ok (.bipush 64, 2) := dk_16 64 (dk_at dksJ5_grow_0 7 rfl rfl)
theorem dJ5_grow_9 : decode cJ5_grow 9 = .ok (.if_icmp .ge 9, 3) := dk_162 0 9 (dk_at dksJ5_grow_0 9 rfl rfl)
theorem dJ5_grow_12 : decode cJ5_grow 12 = .ok (.iload_n 2, 1) := dk_28 (dk_at dksJ5_grow_0 12 rfl rfl)
theorem dJ5_grow_13 : decode cJ5_grow 13 = .ok (.iconst 2, 1) := dk_5 (dk_at dksJ5_grow_0 13 rfl rfl)
theorem dJ5_grow_14 : decode cJ5_grow 14 = .ok (.iadd, 1) := dk_96 (dk_at dksJ5_grow_0 14 rfl rfl)
theorem dJ5_grow_15 : decode cJ5_grow 15 = .ok (.goto 6, 3) := dk_167 0 6 (dk_at dksJ5_grow_0 15 rfl rfl)
theorem dJ5_grow_18 : decode cJ5_grow 18 = .ok (.iload_n 2, 1) := dk_28 (dk_at dksJ5_grow_0 18 rfl rfl)
theorem dJ5_grow_19 : decode cJ5_grow 19 = .ok (.iconst 1, 1) := dk_4 (dk_at dksJ5_grow_0 19 rfl rfl)
theorem dJ5_grow_20 : decode cJ5_grow 20 = .ok (.ishr, 1) := dk_122 (dk_at dksJ5_grow_0 20 rfl rfl)
theorem dJ5_grow_21 : decode cJ5_grow 21 = .ok (.istore 4, 2) := dk_54 4 (dk_at dksJ5_grow_0 21 rfl rfl)
theorem dJ5_grow_23 : decode cJ5_grow 23 = .ok (.iload 4, 2) := dk_21 4 (dk_at dksJ5_grow_1 0 rfl rfl)
theorem dJ5_grow_25 : decode cJ5_grow 25 = .ok (.iload_n 1, 1) := dk_27 (dk_at dksJ5_grow_1 2 rfl rfl)
theorem dJ5_grow_26 : decode cJ5_grow 26 = .ok (.if_icmp .lt 15, 3) := dk_161 0 15 (dk_at dksJ5_grow_1 3 rfl rfl)
theorem dJ5_grow_29 : decode cJ5_grow 29 = .ok (.iload_n 2, 1) := dk_28 (dk_at dksJ5_grow_1 6 rfl rfl)
theorem dJ5_grow_30 : decode cJ5_grow 30 = .ok (.iload 4, 2) := dk_21 4 (dk_at dksJ5_grow_1 7 rfl rfl)
theorem dJ5_grow_32 : decode cJ5_grow 32 = .ok (.iadd, 1) := dk_96 (dk_at dksJ5_grow_1 9 rfl rfl)
theorem dJ5_grow_33 : decode cJ5_grow 33 = .ok (.dup, 1) := dk_89 (dk_at dksJ5_grow_1 10 rfl rfl)
theorem dJ5_grow_34 : decode cJ5_grow 34 = .ok (.istore_n 3, 1) := dk_62 (dk_at dksJ5_grow_1 11 rfl rfl)
theorem dJ5_grow_35 : decode cJ5_grow 35 = .ok (.ldc 9, 2) := dk_18 9 (dk_at dksJ5_grow_1 12 rfl rfl)
theorem dJ5_grow_37 : decode cJ5_grow 37 = .ok (.isub, 1) := dk_100 (dk_at dksJ5_grow_1 14 rfl rfl)
theorem dJ5_grow_38 : decode cJ5_grow 38 = .ok (.ifCond .le 11, 3) := dk_158 0 11 (dk_at dksJ5_grow_1 15 rfl rfl)
theorem dJ5_grow_41 : decode cJ5_grow 41 = .ok (.aload_n 0, 1) := dk_42 (dk_at dksJ5_grow_1 18 rfl rfl)
theorem dJ5_grow_42 : decode cJ5_grow 42 = .ok (.iload_n 1, 1) := dk_27 (dk_at dksJ5_grow_1 19 rfl rfl)
theorem dJ5_grow_43 : decode cJ5_grow 43 = .ok (.iload 4, 2) := dk_21 4 (dk_at dksJ5_grow_1 20 rfl rfl)
theorem dJ5_grow_45 : decode cJ5_grow 45 = .ok (.invokevirtual 10, 3) := dk_182 0 10 (dk_at dksJ5_grow_2 0 rfl rfl)
theorem dJ5_grow_48 : decode cJ5_grow 48 = .ok (.istore_n 3, 1) := dk_62 (dk_at dksJ5_grow_2 3 rfl rfl)
theorem dJ5_grow_49 : decode cJ5_grow 49 = .ok (.aload_n 0, 1) := dk_42 (dk_at dksJ5_grow_2 4 rfl rfl)
theorem dJ5_grow_50 : decode cJ5_grow 50 = .ok (.aload_n 0, 1) := dk_42 (dk_at dksJ5_grow_2 5 rfl rfl)
theorem dJ5_grow_51 : decode cJ5_grow 51 = .ok (.getfield 3, 3) := dk_180 0 3 (dk_at dksJ5_grow_2 6 rfl rfl)
theorem dJ5_grow_54 : decode cJ5_grow 54 = .ok (.iload_n 3, 1) := dk_29 (dk_at dksJ5_grow_2 9 rfl rfl)
theorem dJ5_grow_55 : decode cJ5_grow 55 = .ok (.invokestatic 14, 3) := dk_184 0 14 (dk_at dksJ5_grow_2 10 rfl rfl)
theorem dJ5_grow_58 : decode cJ5_grow 58 = .ok (.dup_x1, 1) := dk_90 (dk_at dksJ5_grow_2 13 rfl rfl)
theorem dJ5_grow_59 : decode cJ5_grow 59 = .ok (.putfield 3, 3) := dk_181 0 3 (dk_at dksJ5_grow_2 14 rfl rfl)
theorem dJ5_grow_62 : decode cJ5_grow 62 = .ok (.astore 5, 2) := dk_58 5 (dk_at dksJ5_grow_2 17 rfl rfl)
theorem dJ5_grow_64 : decode cJ5_grow 64 = .ok (.aload_n 0, 1) := dk_42 (dk_at dksJ5_grow_2 19 rfl rfl)
theorem dJ5_grow_65 : decode cJ5_grow 65 = .ok (.getfield 20, 3) := dk_180 0 20 (dk_at dksJ5_grow_2 20 rfl rfl)
theorem dJ5_grow_68 : decode cJ5_grow 68 = .ok (.aload_n 0, 1) := dk_42 (dk_at dksJ5_grow_2 23 rfl rfl)
theorem dJ5_grow_69 : decode cJ5_grow 69 = .ok (.getfield 24, 3) := dk_180 0 24 (dk_at dksJ5_grow_3 0 rfl rfl)
theorem dJ5_grow_72 : decode cJ5_grow 72 = .ok (.if_icmp .lt 24, 3) := dk_161 0 24 (dk_at dksJ5_grow_3 3 rfl rfl)
theorem dJ5_grow_75 : decode cJ5_grow 75 = .ok (.aload_n 0, 1) := dk_42 (dk_at dksJ5_grow_3 6 rfl rfl)
theorem dJ5_grow_76 : decode cJ5_grow 76 = .ok (.getfield 20, 3) := dk_180 0 20 (dk_at dksJ5_grow_3 7 rfl rfl)
theorem dJ5_grow_79 : decode cJ5_grow 79 = .ok (.aload_n 0, 1) := dk_42 (dk_at dksJ5_grow_3 10 rfl rfl)
theorem dJ5_grow_80 : decode cJ5_grow 80 = .ok (.getfield 24, 3) := dk_180 0 24 (dk_at dksJ5_grow_3 11 rfl rfl)
theorem dJ5_grow_83 : decode cJ5_grow 83 = .ok (.if_icmp .ne 81, 3) := dk_160 0 81 (dk_at dksJ5_grow_3 14 rfl rfl)
theorem dJ5_grow_86 : decode cJ5_grow 86 = .ok (.aload 5, 2) := dk_25 5 (dk_at dksJ5_grow_3 17 rfl rfl)
theorem dJ5_grow_88 : decode cJ5_grow 88 = .ok (.aload_n 0, 1) := dk_42 (dk_at dksJ5_grow_3 19 rfl rfl)
theorem dJ5_grow_89 : decode cJ5_grow 89 = .ok (.getfield 24, 3) := dk_180 0 24 (dk_at dksJ5_grow_3 20 rfl rfl)
theorem dJ5_grow_92 : decode cJ5_grow 92 = .ok (.aaload, 1) := dk_50 (dk_at dksJ5_grow_3 23 rfl rfl)
theorem dJ5_grow_93 : decode cJ5_grow 93 = .ok (.ifnull 71, 3) := dk_198 0 71 (dk_at dksJ5_grow_4 0 rfl rfl)
theorem dJ5_grow_96 : decode cJ5_grow 96 = .ok (.iload_n 3, 1) := dk_29 (dk_at dksJ5_grow_4 3 rfl rfl)
theorem dJ5_grow_97 : decode cJ5_grow 97 = .ok (.iload_n 2, 1) := dk_28 (dk_at dksJ5_grow_4 4 rfl rfl)
theorem dJ5_grow_98 : decode cJ5_grow 98 = .ok (.isub, 1) := dk_100 (dk_at dksJ5_grow_4 5 rfl rfl)
theorem dJ5_grow_99 : decode cJ5_grow 99 = .ok (.istore 6, 2) := dk_54 6 (dk_at dksJ5_grow_4 6 rfl rfl)
theorem dJ5_grow_101 : decode cJ5_grow 101 = .ok (.aload 5, 2) := dk_25 5 (dk_at dksJ5_grow_4 8 rfl rfl)
theorem dJ5_grow_103 : decode cJ5_grow 103 = .ok (.aload_n 0, 1) := dk_42 (dk_at dksJ5_grow_4 10 rfl rfl)
theorem dJ5_grow_104 : decode cJ5_grow 104 = .ok (.getfield 24, 3) := dk_180 0 24 (dk_at dksJ5_grow_4 11 rfl rfl)
theorem dJ5_grow_107 : decode cJ5_grow 107 = .ok (.aload 5, 2) := dk_25 5 (dk_at dksJ5_grow_4 14 rfl rfl)
theorem dJ5_grow_109 : decode cJ5_grow 109 = .ok (.aload_n 0, 1) := dk_42 (dk_at dksJ5_grow_4 16 rfl rfl)
theorem dJ5_grow_110 : decode cJ5_grow 110 = .ok (.getfield 24, 3) := dk_180 0 24 (dk_at dksJ5_grow_4 17 rfl rfl)
theorem dJ5_grow_113 : decode cJ5_grow 113 = .ok (.iload 6, 2) := dk_21 6 (dk_at dksJ5_grow_4 20 rfl rfl)
theorem dJ5_grow_115 : decode cJ5_grow 115 = .ok (.iadd, 1) := dk_96 (dk_at dksJ5_grow_4 22 rfl rfl)
theorem dJ5_grow_116 : decode cJ5_grow 116 = .ok (.iload_n 2, 1) := dk_28 (dk_at dksJ5_grow_4 23 rfl rfl)
theorem dJ5_grow_117 : decode cJ5_grow 117 = .ok (.aload_n 0, 1) := dk_42 (dk_at dksJ5_grow_5 0 rfl rfl)
theorem dJ5_grow_118 : decode cJ5_grow 118 = .ok (.getfield 24, 3) := dk_180 0 24 (dk_at dksJ5_grow_5 1 rfl rfl)
theorem dJ5_grow_121 : decode cJ5_grow 121 = .ok (.isub, 1) := dk_100 (dk_at dksJ5_grow_5 4 rfl rfl)
theorem dJ5_grow_122 : decode cJ5_grow 122 = .ok (.invokestatic 27, 3) := dk_184 0 27 (dk_at dksJ5_grow_5 5 rfl rfl)
theorem dJ5_grow_125 : decode cJ5_grow 125 = .ok (.aload_n 0, 1) := dk_42 (dk_at dksJ5_grow_5 8 rfl rfl)
theorem dJ5_grow_126 : decode cJ5_grow 126 = .ok (.getfield 24, 3) := dk_180 0 24 (dk_at dksJ5_grow_5 9 rfl rfl)
theorem dJ5_grow_129 : decode cJ5_grow 129 = .ok (.istore 7, 2) := dk_54 7 (dk_at dksJ5_grow_5 12 rfl rfl)
theorem dJ5_grow_131 : decode cJ5_grow 131 = .ok (.aload_n 0, 1) := dk_42 (dk_at dksJ5_grow_5 14 rfl rfl)
theorem dJ5_grow_132 : decode cJ5_grow 132 = .ok (.dup, 1) := dk_89 (dk_at dksJ5_grow_5 15 rfl rfl)
theorem dJ5_grow_133 : decode cJ5_grow 133 = .ok (.getfield 24, 3) := dk_180 0 24 (dk_at dksJ5_grow_5 16 rfl rfl)
theorem dJ5_grow_136 : decode cJ5_grow 136 = .ok (.iload 6, 2) := dk_21 6 (dk_at dksJ5_grow_5 19 rfl rfl)
theorem dJ5_grow_138 : decode cJ5_grow 138 = .ok (.iadd, 1) := dk_96 (dk_at dksJ5_grow_5 21 rfl rfl)
theorem dJ5_grow_139 : decode cJ5_grow 139 = .ok (.dup_x1, 1) := dk_90 (dk_at dksJ5_grow_5 22 rfl rfl)
theorem dJ5_grow_140 : decode cJ5_grow 140 = .ok (.putfield 24, 3) := dk_181 0 24 (dk_at dksJ5_grow_6 0 rfl rfl)
theorem dJ5_grow_143 : decode cJ5_grow 143 = .ok (.istore 8, 2) := dk_54 8 (dk_at dksJ5_grow_6 3 rfl rfl)
theorem dJ5_grow_145 : decode cJ5_grow 145 = .ok (.iload 7, 2) := dk_21 7 (dk_at dksJ5_grow_6 5 rfl rfl)
theorem dJ5_grow_147 : decode cJ5_grow 147 = .ok (.iload 8, 2) := dk_21 8 (dk_at dksJ5_grow_6 7 rfl rfl)
theorem dJ5_grow_149 : decode cJ5_grow 149 = .ok (.if_icmp .ge 15, 3) := dk_162 0 15 (dk_at dksJ5_grow_6 9 rfl rfl)
theorem dJ5_grow_152 : decode cJ5_grow 152 = .ok (.aload 5, 2) := dk_25 5 (dk_at dksJ5_grow_6 12 rfl rfl)
theorem dJ5_grow_154 : decode cJ5_grow 154 = .ok (.iload 7, 2) := dk_21 7 (dk_at dksJ5_grow_6 14 rfl rfl)
theorem dJ5_grow_156 : decode cJ5_grow 156 = .ok (.aconst_null, 1) := dk_1 (dk_at dksJ5_grow_6 16 rfl rfl)
theorem dJ5_grow_157 : decode cJ5_grow 157 = .ok (.aastore, 1) := dk_83 (dk_at dksJ5_grow_6 17 rfl rfl)
theorem dJ5_grow_158 : decode cJ5_grow 158 = .ok (.iinc 7 1, 3) := dk_132 7 1 (dk_at dksJ5_grow_6 18 rfl rfl)
theorem dJ5_grow_161 : decode cJ5_grow 161 = .ok (.goto (-16), 3) := dk_167 255 240 (dk_at dksJ5_grow_6 21 rfl rfl)
theorem dJ5_grow_164 : decode cJ5_grow 164 = .ok (.return_, 1) := dk_177 (dk_at dksJ5_grow_7 0 rfl rfl)
abbrev cJ5_newCapacity : ByteArray := prog_45_method_2_code
def yJ5_newCapacity : MethodName := ⟨RJ5, "newCapacity", "(II)I"⟩
def dkwJ5_newCapacity_2 : List UInt8 := [18, 9, 100, 156, 0, 9, 29, 28, 96, 167, 0, 5, 18, 9, 172]
abbrev dktJ5_newCapacity_2 : List UInt8 := dkwJ5_newCapacity_2 ++ []
def dkwJ5_newCapacity_1 : List UInt8 := [187, 0, 33, 89, 18, 35, 183, 0, 37, 191, 18, 41, 172, 27, 28, 164, 0, 6, 21, 4, 172, 29, 28, 96]
abbrev dktJ5_newCapacity_1 : List UInt8 := dkwJ5_newCapacity_1 ++ dktJ5_newCapacity_2
def dkwJ5_newCapacity_0 : List UInt8 := [42, 180, 0, 3, 190, 62, 29, 27, 96, 89, 54, 4, 18, 9, 100, 158, 0, 21, 21, 4, 156, 0, 13]
abbrev dktJ5_newCapacity_0 : List UInt8 := dkwJ5_newCapacity_0 ++ dktJ5_newCapacity_1
theorem dksJ5_newCapacity_0 : cJ5_newCapacity.data.toList.drop 0 = dktJ5_newCapacity_0 := by decide +kernel
theorem dksJ5_newCapacity_1 : cJ5_newCapacity.data.toList.drop 23 = dktJ5_newCapacity_1 := dk_seg dksJ5_newCapacity_0 23 rfl rfl
theorem dksJ5_newCapacity_2 : cJ5_newCapacity.data.toList.drop 47 = dktJ5_newCapacity_2 := dk_seg dksJ5_newCapacity_1 24 rfl rfl
theorem dJ5_newCapacity_0 : decode cJ5_newCapacity 0 = .ok (.aload_n 0, 1) := dk_42 (dk_at dksJ5_newCapacity_0 0 rfl rfl)
theorem dJ5_newCapacity_1 : decode cJ5_newCapacity 1 = .ok (.getfield 3, 3) := dk_180 0 3 (dk_at dksJ5_newCapacity_0 1 rfl rfl)
theorem dJ5_newCapacity_4 : decode cJ5_newCapacity 4 = .ok (.arraylength, 1) := dk_190 (dk_at dksJ5_newCapacity_0 4 rfl rfl)
theorem dJ5_newCapacity_5 : decode cJ5_newCapacity 5 = .ok (.istore_n 3, 1) := dk_62 (dk_at dksJ5_newCapacity_0 5 rfl rfl)
theorem dJ5_newCapacity_6 : decode cJ5_newCapacity 6 = .ok (.iload_n 3, 1) := dk_29 (dk_at dksJ5_newCapacity_0 6 rfl rfl)
theorem dJ5_newCapacity_7 : decode cJ5_newCapacity 7 = .ok (.iload_n 1, 1) := dk_27 (dk_at dksJ5_newCapacity_0 7 rfl rfl)
theorem dJ5_newCapacity_8 : decode cJ5_newCapacity 8 = .ok (.iadd, 1) := dk_96 (dk_at dksJ5_newCapacity_0 8 rfl rfl)
theorem dJ5_newCapacity_9 : decode cJ5_newCapacity 9 = .ok (.dup, 1) := dk_89 (dk_at dksJ5_newCapacity_0 9 rfl rfl)
theorem dJ5_newCapacity_10 : decode cJ5_newCapacity 10 = .ok (.istore 4, 2) := dk_54 4 (dk_at dksJ5_newCapacity_0 10 rfl rfl)
theorem dJ5_newCapacity_12 : decode cJ5_newCapacity 12 = .ok (.ldc 9, 2) := dk_18 9 (dk_at dksJ5_newCapacity_0 12 rfl rfl)
theorem dJ5_newCapacity_14 : decode cJ5_newCapacity 14 = .ok (.isub, 1) := dk_100 (dk_at dksJ5_newCapacity_0 14 rfl rfl)
theorem dJ5_newCapacity_15 : decode cJ5_newCapacity 15 = .ok (.ifCond .le 21, 3) := dk_158 0 21 (dk_at dksJ5_newCapacity_0 15 rfl rfl)
theorem dJ5_newCapacity_18 : decode cJ5_newCapacity 18 = .ok (.iload 4, 2) := dk_21 4 (dk_at dksJ5_newCapacity_0 18 rfl rfl)
theorem dJ5_newCapacity_20 : decode cJ5_newCapacity 20 = .ok (.ifCond .ge 13, 3) := dk_156 0 13 (dk_at dksJ5_newCapacity_0 20 rfl rfl)
theorem dJ5_newCapacity_23 : decode cJ5_newCapacity 23 = .ok (.new 33, 3) := dk_187 0 33 (dk_at dksJ5_newCapacity_1 0 rfl rfl)
theorem dJ5_newCapacity_26 : decode cJ5_newCapacity 26 = .ok (.dup, 1) := dk_89 (dk_at dksJ5_newCapacity_1 3 rfl rfl)
theorem dJ5_newCapacity_27 : decode cJ5_newCapacity 27 = .ok (.ldc 35, 2) := dk_18 35 (dk_at dksJ5_newCapacity_1 4 rfl rfl)
theorem dJ5_newCapacity_29 : decode cJ5_newCapacity 29 = .ok (.invokespecial 37, 3) := dk_183 0 37 (dk_at dksJ5_newCapacity_1 6 rfl rfl)
theorem dJ5_newCapacity_32 : decode cJ5_newCapacity 32 = .ok (.athrow, 1) := dk_191 (dk_at dksJ5_newCapacity_1 9 rfl rfl)
theorem dJ5_newCapacity_33 : decode cJ5_newCapacity 33 = .ok (.ldc 41, 2) := dk_18 41 (dk_at dksJ5_newCapacity_1 10 rfl rfl)
theorem dJ5_newCapacity_35 : decode cJ5_newCapacity 35 = .ok (.ireturn, 1) := dk_172 (dk_at dksJ5_newCapacity_1 12 rfl rfl)
theorem dJ5_newCapacity_36 : decode cJ5_newCapacity 36 = .ok (.iload_n 1, 1) := dk_27 (dk_at dksJ5_newCapacity_1 13 rfl rfl)
theorem dJ5_newCapacity_37 : decode cJ5_newCapacity 37 = .ok (.iload_n 2, 1) := dk_28 (dk_at dksJ5_newCapacity_1 14 rfl rfl)
theorem dJ5_newCapacity_38 : decode cJ5_newCapacity 38 = .ok (.if_icmp .le 6, 3) := dk_164 0 6 (dk_at dksJ5_newCapacity_1 15 rfl rfl)
theorem dJ5_newCapacity_41 : decode cJ5_newCapacity 41 = .ok (.iload 4, 2) := dk_21 4 (dk_at dksJ5_newCapacity_1 18 rfl rfl)
theorem dJ5_newCapacity_43 : decode cJ5_newCapacity 43 = .ok (.ireturn, 1) := dk_172 (dk_at dksJ5_newCapacity_1 20 rfl rfl)
theorem dJ5_newCapacity_44 : decode cJ5_newCapacity 44 = .ok (.iload_n 3, 1) := dk_29 (dk_at dksJ5_newCapacity_1 21 rfl rfl)
theorem dJ5_newCapacity_45 : decode cJ5_newCapacity 45 = .ok (.iload_n 2, 1) := dk_28 (dk_at dksJ5_newCapacity_1 22 rfl rfl)
theorem dJ5_newCapacity_46 : decode cJ5_newCapacity 46 = .ok (.iadd, 1) := dk_96 (dk_at dksJ5_newCapacity_1 23 rfl rfl)
theorem dJ5_newCapacity_47 : decode cJ5_newCapacity 47 = .ok (.ldc 9, 2) := dk_18 9 (dk_at dksJ5_newCapacity_2 0 rfl rfl)
theorem dJ5_newCapacity_49 : decode cJ5_newCapacity 49 = .ok (.isub, 1) := dk_100 (dk_at dksJ5_newCapacity_2 2 rfl rfl)
theorem dJ5_newCapacity_50 : decode cJ5_newCapacity 50 = .ok (.ifCond .ge 9, 3) := dk_156 0 9 (dk_at dksJ5_newCapacity_2 3 rfl rfl)
theorem dJ5_newCapacity_53 : decode cJ5_newCapacity 53 = .ok (.iload_n 3, 1) := dk_29 (dk_at dksJ5_newCapacity_2 6 rfl rfl)
theorem dJ5_newCapacity_54 : decode cJ5_newCapacity 54 = .ok (.iload_n 2, 1) := dk_28 (dk_at dksJ5_newCapacity_2 7 rfl rfl)
theorem dJ5_newCapacity_55 : decode cJ5_newCapacity 55 = .ok (.iadd, 1) := dk_96 (dk_at dksJ5_newCapacity_2 8 rfl rfl)
theorem dJ5_newCapacity_56 : decode cJ5_newCapacity 56 = .ok (.goto 5, 3) := dk_167 0 5 (dk_at dksJ5_newCapacity_2 9 rfl rfl)
theorem dJ5_newCapacity_59 : decode cJ5_newCapacity 59 = .ok (.ldc 9, 2) := dk_18 9 (dk_at dksJ5_newCapacity_2 12 rfl rfl)
theorem dJ5_newCapacity_61 : decode cJ5_newCapacity 61 = .ok (.ireturn, 1) := dk_172 (dk_at dksJ5_newCapacity_2 14 rfl rfl)
abbrev cJ5_size : ByteArray := prog_45_method_37_code
def yJ5_size : MethodName := ⟨RJ5, "size", "()I"⟩
def dkwJ5_size_0 : List UInt8 := [42, 180, 0, 20, 42, 180, 0, 24, 42, 180, 0, 3, 190, 184, 0, 127, 172]
abbrev dktJ5_size_0 : List UInt8 := dkwJ5_size_0 ++ []
theorem dksJ5_size_0 : cJ5_size.data.toList.drop 0 = dktJ5_size_0 := by decide +kernel
theorem dJ5_size_0 : decode cJ5_size 0 = .ok (.aload_n 0, 1) := dk_42 (dk_at dksJ5_size_0 0 rfl rfl)
theorem dJ5_size_1 : decode cJ5_size 1 = .ok (.getfield 20, 3) := dk_180 0 20 (dk_at dksJ5_size_0 1 rfl rfl)
theorem dJ5_size_4 : decode cJ5_size 4 = .ok (.aload_n 0, 1) := dk_42 (dk_at dksJ5_size_0 4 rfl rfl)
theorem dJ5_size_5 : decode cJ5_size 5 = .ok (.getfield 24, 3) := dk_180 0 24 (dk_at dksJ5_size_0 5 rfl rfl)
theorem dJ5_size_8 : decode cJ5_size 8 = .ok (.aload_n 0, 1) := dk_42 (dk_at dksJ5_size_0 8 rfl rfl)
theorem dJ5_size_9 : decode cJ5_size 9 = .ok (.getfield 3, 3) := dk_180 0 3 (dk_at dksJ5_size_0 9 rfl rfl)
theorem dJ5_size_12 : decode cJ5_size 12 = .ok (.arraylength, 1) := dk_190 (dk_at dksJ5_size_0 12 rfl rfl)
theorem dJ5_size_13 : decode cJ5_size 13 = .ok (.invokestatic 127, 3) := dk_184 0 127 (dk_at dksJ5_size_0 13 rfl rfl)
theorem dJ5_size_16 : decode cJ5_size 16 = .ok (.ireturn, 1) := dk_172 (dk_at dksJ5_size_0 16 rfl rfl)
abbrev cJ5_sub : ByteArray := prog_45_method_9_code
def yJ5_sub : MethodName := ⟨RJ5, "sub", "(III)I"⟩
def dkwJ5_sub_0 : List UInt8 := [26, 27, 100, 89, 59, 156, 0, 7, 26, 28, 96, 59, 26, 172]
abbrev dktJ5_sub_0 : List UInt8 := dkwJ5_sub_0 ++ []
theorem dksJ5_sub_0 : cJ5_sub.data.toList.drop 0 = dktJ5_sub_0 := by decide +kernel
theorem dJ5_sub_0 : decode cJ5_sub 0 = .ok (.iload_n 0, 1) := dk_26 (dk_at dksJ5_sub_0 0 rfl rfl)
theorem dJ5_sub_1 : decode cJ5_sub 1 = .ok (.iload_n 1, 1) := dk_27 (dk_at dksJ5_sub_0 1 rfl rfl)
theorem dJ5_sub_2 : decode cJ5_sub 2 = .ok (.isub, 1) := dk_100 (dk_at dksJ5_sub_0 2 rfl rfl)
theorem dJ5_sub_3 : decode cJ5_sub 3 = .ok (.dup, 1) := dk_89 (dk_at dksJ5_sub_0 3 rfl rfl)
theorem dJ5_sub_4 : decode cJ5_sub 4 = .ok (.istore_n 0, 1) := dk_59 (dk_at dksJ5_sub_0 4 rfl rfl)
theorem dJ5_sub_5 : decode cJ5_sub 5 = .ok (.ifCond .ge 7, 3) := dk_156 0 7 (dk_at dksJ5_sub_0 5 rfl rfl)
theorem dJ5_sub_8 : decode cJ5_sub 8 = .ok (.iload_n 0, 1) := dk_26 (dk_at dksJ5_sub_0 8 rfl rfl)
theorem dJ5_sub_9 : decode cJ5_sub 9 = .ok (.iload_n 2, 1) := dk_28 (dk_at dksJ5_sub_0 9 rfl rfl)
theorem dJ5_sub_10 : decode cJ5_sub 10 = .ok (.iadd, 1) := dk_96 (dk_at dksJ5_sub_0 10 rfl rfl)
theorem dJ5_sub_11 : decode cJ5_sub 11 = .ok (.istore_n 0, 1) := dk_59 (dk_at dksJ5_sub_0 11 rfl rfl)
theorem dJ5_sub_12 : decode cJ5_sub 12 = .ok (.iload_n 0, 1) := dk_26 (dk_at dksJ5_sub_0 12 rfl rfl)
theorem dJ5_sub_13 : decode cJ5_sub 13 = .ok (.ireturn, 1) := dk_172 (dk_at dksJ5_sub_0 13 rfl rfl)
abbrev cJ5_removeFirst : ByteArray := prog_45_method_18_code
def yJ5_removeFirst : MethodName := ⟨RJ5, "removeFirst", "()Ljava/lang/Object;"⟩
def dkwJ5_removeFirst_0 : List UInt8 := [42, 182, 0, 93, 76, 43, 199, 0, 11, 187, 0, 97, 89, 183, 0, 99, 191, 43, 176]
abbrev dktJ5_removeFirst_0 : List UInt8 := dkwJ5_removeFirst_0 ++ []
theorem dksJ5_removeFirst_0 : cJ5_removeFirst.data.toList.drop 0 = dktJ5_removeFirst_0 := by decide +kernel
theorem dJ5_removeFirst_0 : decode cJ5_removeFirst 0 = .ok (.aload_n 0, 1) := dk_42 (dk_at dksJ5_removeFirst_0 0 rfl rfl)
theorem dJ5_removeFirst_1 : decode cJ5_removeFirst 1 = .ok (.invokevirtual 93, 3) := dk_182 0 93 (dk_at dksJ5_removeFirst_0 1 rfl rfl)
theorem dJ5_removeFirst_4 : decode cJ5_removeFirst 4 = .ok (.astore_n 1, 1) := dk_76 (dk_at dksJ5_removeFirst_0 4 rfl rfl)
theorem dJ5_removeFirst_5 : decode cJ5_removeFirst 5 = .ok (.aload_n 1, 1) := dk_43 (dk_at dksJ5_removeFirst_0 5 rfl rfl)
theorem dJ5_removeFirst_6 : decode cJ5_removeFirst 6 = .ok (.ifnonnull 11, 3) := dk_199 0 11 (dk_at dksJ5_removeFirst_0 6 rfl rfl)
theorem dJ5_removeFirst_9 : decode cJ5_removeFirst 9 = .ok (.new 97, 3) := dk_187 0 97 (dk_at dksJ5_removeFirst_0 9 rfl rfl)
theorem dJ5_removeFirst_12 : decode cJ5_removeFirst 12 = .ok (.dup, 1) := dk_89 (dk_at dksJ5_removeFirst_0 12 rfl rfl)
theorem dJ5_removeFirst_13 : decode cJ5_removeFirst 13 = .ok (.invokespecial 99, 3) := dk_183 0 99 (dk_at dksJ5_removeFirst_0 13 rfl rfl)
theorem dJ5_removeFirst_16 : decode cJ5_removeFirst 16 = .ok (.athrow, 1) := dk_191 (dk_at dksJ5_removeFirst_0 16 rfl rfl)
theorem dJ5_removeFirst_17 : decode cJ5_removeFirst 17 = .ok (.aload_n 1, 1) := dk_43 (dk_at dksJ5_removeFirst_0 17 rfl rfl)
theorem dJ5_removeFirst_18 : decode cJ5_removeFirst 18 = .ok (.areturn, 1) := dk_176 (dk_at dksJ5_removeFirst_0 18 rfl rfl)
abbrev cJ5_pollFirst : ByteArray := prog_45_method_20_code
def yJ5_pollFirst : MethodName := ⟨RJ5, "pollFirst", "()Ljava/lang/Object;"⟩
def dkwJ5_pollFirst_1 : List UInt8 := [42, 28, 43, 190, 184, 0, 74, 181, 0, 24, 45, 176]
abbrev dktJ5_pollFirst_1 : List UInt8 := dkwJ5_pollFirst_1 ++ []
def dkwJ5_pollFirst_0 : List UInt8 := [42, 180, 0, 3, 89, 76, 42, 180, 0, 24, 89, 61, 184, 0, 103, 78, 45, 198, 0, 17, 43, 28, 1, 83]
abbrev dktJ5_pollFirst_0 : List UInt8 := dkwJ5_pollFirst_0 ++ dktJ5_pollFirst_1
theorem dksJ5_pollFirst_0 : cJ5_pollFirst.data.toList.drop 0 = dktJ5_pollFirst_0 := by decide +kernel
theorem dksJ5_pollFirst_1 : cJ5_pollFirst.data.toList.drop 24 = dktJ5_pollFirst_1 := dk_seg dksJ5_pollFirst_0 24 rfl rfl
theorem dJ5_pollFirst_0 : decode cJ5_pollFirst 0 = .ok (.aload_n 0, 1) := dk_42 (dk_at dksJ5_pollFirst_0 0 rfl rfl)
theorem dJ5_pollFirst_1 : decode cJ5_pollFirst 1 = .ok (.getfield 3, 3) := dk_180 0 3 (dk_at dksJ5_pollFirst_0 1 rfl rfl)
theorem dJ5_pollFirst_4 : decode cJ5_pollFirst 4 = .ok (.dup, 1) := dk_89 (dk_at dksJ5_pollFirst_0 4 rfl rfl)
theorem dJ5_pollFirst_5 : decode cJ5_pollFirst 5 = .ok (.astore_n 1, 1) := dk_76 (dk_at dksJ5_pollFirst_0 5 rfl rfl)
theorem dJ5_pollFirst_6 : decode cJ5_pollFirst 6 = .ok (.aload_n 0, 1) := dk_42 (dk_at dksJ5_pollFirst_0 6 rfl rfl)
theorem dJ5_pollFirst_7 : decode cJ5_pollFirst 7 = .ok (.getfield 24, 3) := dk_180 0 24 (dk_at dksJ5_pollFirst_0 7 rfl rfl)
theorem dJ5_pollFirst_10 : decode cJ5_pollFirst 10 = .ok (.dup, 1) := dk_89 (dk_at dksJ5_pollFirst_0 10 rfl rfl)
theorem dJ5_pollFirst_11 : decode cJ5_pollFirst 11 = .ok (.istore_n 2, 1) := dk_61 (dk_at dksJ5_pollFirst_0 11 rfl rfl)
theorem dJ5_pollFirst_12 : decode cJ5_pollFirst 12 = .ok (.invokestatic 103, 3) := dk_184 0 103 (dk_at dksJ5_pollFirst_0 12 rfl rfl)
theorem dJ5_pollFirst_15 : decode cJ5_pollFirst 15 = .ok (.astore_n 3, 1) := dk_78 (dk_at dksJ5_pollFirst_0 15 rfl rfl)
theorem dJ5_pollFirst_16 : decode cJ5_pollFirst 16 = .ok (.aload_n 3, 1) := dk_45 (dk_at dksJ5_pollFirst_0 16 rfl rfl)
theorem dJ5_pollFirst_17 : decode cJ5_pollFirst 17 = .ok (.ifnull 17, 3) := dk_198 0 17 (dk_at dksJ5_pollFirst_0 17 rfl rfl)
theorem dJ5_pollFirst_20 : decode cJ5_pollFirst 20 = .ok (.aload_n 1, 1) := dk_43 (dk_at dksJ5_pollFirst_0 20 rfl rfl)
theorem dJ5_pollFirst_21 : decode cJ5_pollFirst 21 = .ok (.iload_n 2, 1) := dk_28 (dk_at dksJ5_pollFirst_0 21 rfl rfl)
theorem dJ5_pollFirst_22 : decode cJ5_pollFirst 22 = .ok (.aconst_null, 1) := dk_1 (dk_at dksJ5_pollFirst_0 22 rfl rfl)
theorem dJ5_pollFirst_23 : decode cJ5_pollFirst 23 = .ok (.aastore, 1) := dk_83 (dk_at dksJ5_pollFirst_0 23 rfl rfl)
theorem dJ5_pollFirst_24 : decode cJ5_pollFirst 24 = .ok (.aload_n 0, 1) := dk_42 (dk_at dksJ5_pollFirst_1 0 rfl rfl)
theorem dJ5_pollFirst_25 : decode cJ5_pollFirst 25 = .ok (.iload_n 2, 1) := dk_28 (dk_at dksJ5_pollFirst_1 1 rfl rfl)
theorem dJ5_pollFirst_26 : decode cJ5_pollFirst 26 = .ok (.aload_n 1, 1) := dk_43 (dk_at dksJ5_pollFirst_1 2 rfl rfl)
theorem dJ5_pollFirst_27 : decode cJ5_pollFirst 27 = .ok (.arraylength, 1) := dk_190 (dk_at dksJ5_pollFirst_1 3 rfl rfl)
theorem dJ5_pollFirst_28 : decode cJ5_pollFirst 28 = .ok (.invokestatic 74, 3) := dk_184 0 74 (dk_at dksJ5_pollFirst_1 4 rfl rfl)
theorem dJ5_pollFirst_31 : decode cJ5_pollFirst 31 = .ok (.putfield 24, 3) := dk_181 0 24 (dk_at dksJ5_pollFirst_1 7 rfl rfl)
theorem dJ5_pollFirst_34 : decode cJ5_pollFirst 34 = .ok (.aload_n 3, 1) := dk_45 (dk_at dksJ5_pollFirst_1 10 rfl rfl)
theorem dJ5_pollFirst_35 : decode cJ5_pollFirst 35 = .ok (.areturn, 1) := dk_176 (dk_at dksJ5_pollFirst_1 11 rfl rfl)
abbrev cJ5_elementAt : ByteArray := prog_45_method_10_code
def yJ5_elementAt : MethodName := ⟨RJ5, "elementAt", "([Ljava/lang/Object;I)Ljava/lang/Object;"⟩
def dkwJ5_elementAt_0 : List UInt8 := [42, 27, 50, 176]
abbrev dktJ5_elementAt_0 : List UInt8 := dkwJ5_elementAt_0 ++ []
theorem dksJ5_elementAt_0 : cJ5_elementAt.data.toList.drop 0 = dktJ5_elementAt_0 := by decide +kernel
theorem dJ5_elementAt_0 : decode cJ5_elementAt 0 = .ok (.aload_n 0, 1) := dk_42 (dk_at dksJ5_elementAt_0 0 rfl rfl)
theorem dJ5_elementAt_1 : decode cJ5_elementAt 1 = .ok (.iload_n 1, 1) := dk_27 (dk_at dksJ5_elementAt_0 1 rfl rfl)
theorem dJ5_elementAt_2 : decode cJ5_elementAt 2 = .ok (.aaload, 1) := dk_50 (dk_at dksJ5_elementAt_0 2 rfl rfl)
theorem dJ5_elementAt_3 : decode cJ5_elementAt 3 = .ok (.areturn, 1) := dk_176 (dk_at dksJ5_elementAt_0 3 rfl rfl)
abbrev cJ5_isEmpty : ByteArray := prog_45_method_38_code
def yJ5_isEmpty : MethodName := ⟨RJ5, "isEmpty", "()Z"⟩
def dkwJ5_isEmpty_0 : List UInt8 := [42, 180, 0, 24, 42, 180, 0, 20, 160, 0, 7, 4, 167, 0, 4, 3, 172]
abbrev dktJ5_isEmpty_0 : List UInt8 := dkwJ5_isEmpty_0 ++ []
theorem dksJ5_isEmpty_0 : cJ5_isEmpty.data.toList.drop 0 = dktJ5_isEmpty_0 := by decide +kernel
theorem dJ5_isEmpty_0 : decode cJ5_isEmpty 0 = .ok (.aload_n 0, 1) := dk_42 (dk_at dksJ5_isEmpty_0 0 rfl rfl)
theorem dJ5_isEmpty_1 : decode cJ5_isEmpty 1 = .ok (.getfield 24, 3) := dk_180 0 24 (dk_at dksJ5_isEmpty_0 1 rfl rfl)
theorem dJ5_isEmpty_4 : decode cJ5_isEmpty 4 = .ok (.aload_n 0, 1) := dk_42 (dk_at dksJ5_isEmpty_0 4 rfl rfl)
theorem dJ5_isEmpty_5 : decode cJ5_isEmpty 5 = .ok (.getfield 20, 3) := dk_180 0 20 (dk_at dksJ5_isEmpty_0 5 rfl rfl)
theorem dJ5_isEmpty_8 : decode cJ5_isEmpty 8 = .ok (.if_icmp .ne 7, 3) := dk_160 0 7 (dk_at dksJ5_isEmpty_0 8 rfl rfl)
theorem dJ5_isEmpty_11 : decode cJ5_isEmpty 11 = .ok (.iconst 1, 1) := dk_4 (dk_at dksJ5_isEmpty_0 11 rfl rfl)
theorem dJ5_isEmpty_12 : decode cJ5_isEmpty 12 = .ok (.goto 4, 3) := dk_167 0 4 (dk_at dksJ5_isEmpty_0 12 rfl rfl)
theorem dJ5_isEmpty_15 : decode cJ5_isEmpty 15 = .ok (.iconst 0, 1) := dk_3 (dk_at dksJ5_isEmpty_0 15 rfl rfl)
theorem dJ5_isEmpty_16 : decode cJ5_isEmpty 16 = .ok (.ireturn, 1) := dk_172 (dk_at dksJ5_isEmpty_0 16 rfl rfl)
abbrev cJ5_removeLast : ByteArray := prog_45_method_19_code
def yJ5_removeLast : MethodName := ⟨RJ5, "removeLast", "()Ljava/lang/Object;"⟩
def dkwJ5_removeLast_0 : List UInt8 := [42, 182, 0, 100, 76, 43, 199, 0, 11, 187, 0, 97, 89, 183, 0, 99, 191, 43, 176]
abbrev dktJ5_removeLast_0 : List UInt8 := dkwJ5_removeLast_0 ++ []
theorem dksJ5_removeLast_0 : cJ5_removeLast.data.toList.drop 0 = dktJ5_removeLast_0 := by decide +kernel
theorem dJ5_removeLast_0 : decode cJ5_removeLast 0 = .ok (.aload_n 0, 1) := dk_42 (dk_at dksJ5_removeLast_0 0 rfl rfl)
theorem dJ5_removeLast_1 : decode cJ5_removeLast 1 = .ok (.invokevirtual 100, 3) := dk_182 0 100 (dk_at dksJ5_removeLast_0 1 rfl rfl)
theorem dJ5_removeLast_4 : decode cJ5_removeLast 4 = .ok (.astore_n 1, 1) := dk_76 (dk_at dksJ5_removeLast_0 4 rfl rfl)
theorem dJ5_removeLast_5 : decode cJ5_removeLast 5 = .ok (.aload_n 1, 1) := dk_43 (dk_at dksJ5_removeLast_0 5 rfl rfl)
theorem dJ5_removeLast_6 : decode cJ5_removeLast 6 = .ok (.ifnonnull 11, 3) := dk_199 0 11 (dk_at dksJ5_removeLast_0 6 rfl rfl)
theorem dJ5_removeLast_9 : decode cJ5_removeLast 9 = .ok (.new 97, 3) := dk_187 0 97 (dk_at dksJ5_removeLast_0 9 rfl rfl)
theorem dJ5_removeLast_12 : decode cJ5_removeLast 12 = .ok (.dup, 1) := dk_89 (dk_at dksJ5_removeLast_0 12 rfl rfl)
theorem dJ5_removeLast_13 : decode cJ5_removeLast 13 = .ok (.invokespecial 99, 3) := dk_183 0 99 (dk_at dksJ5_removeLast_0 13 rfl rfl)
theorem dJ5_removeLast_16 : decode cJ5_removeLast 16 = .ok (.athrow, 1) := dk_191 (dk_at dksJ5_removeLast_0 16 rfl rfl)
theorem dJ5_removeLast_17 : decode cJ5_removeLast 17 = .ok (.aload_n 1, 1) := dk_43 (dk_at dksJ5_removeLast_0 17 rfl rfl)
theorem dJ5_removeLast_18 : decode cJ5_removeLast 18 = .ok (.areturn, 1) := dk_176 (dk_at dksJ5_removeLast_0 18 rfl rfl)
abbrev cJ5_pollLast : ByteArray := prog_45_method_21_code
def yJ5_pollLast : MethodName := ⟨RJ5, "pollLast", "()Ljava/lang/Object;"⟩
def dkwJ5_pollLast_1 : List UInt8 := [198, 0, 12, 43, 42, 28, 90, 181, 0, 20, 1, 83, 45, 176]
abbrev dktJ5_pollLast_1 : List UInt8 := dkwJ5_pollLast_1 ++ []
def dkwJ5_pollLast_0 : List UInt8 := [42, 180, 0, 3, 89, 76, 42, 180, 0, 20, 43, 190, 184, 0, 68, 89, 61, 184, 0, 103, 78, 45]
abbrev dktJ5_pollLast_0 : List UInt8 := dkwJ5_pollLast_0 ++ dktJ5_pollLast_1
theorem dksJ5_pollLast_0 : cJ5_pollLast.data.toList.drop 0 = dktJ5_pollLast_0 := by decide +kernel
theorem dksJ5_pollLast_1 : cJ5_pollLast.data.toList.drop 22 = dktJ5_pollLast_1 := dk_seg dksJ5_pollLast_0 22 rfl rfl
theorem dJ5_pollLast_0 : decode cJ5_pollLast 0 = .ok (.aload_n 0, 1) := dk_42 (dk_at dksJ5_pollLast_0 0 rfl rfl)
theorem dJ5_pollLast_1 : decode cJ5_pollLast 1 = .ok (.getfield 3, 3) := dk_180 0 3 (dk_at dksJ5_pollLast_0 1 rfl rfl)
theorem dJ5_pollLast_4 : decode cJ5_pollLast 4 = .ok (.dup, 1) := dk_89 (dk_at dksJ5_pollLast_0 4 rfl rfl)
theorem dJ5_pollLast_5 : decode cJ5_pollLast 5 = .ok (.astore_n 1, 1) := dk_76 (dk_at dksJ5_pollLast_0 5 rfl rfl)
theorem dJ5_pollLast_6 : decode cJ5_pollLast 6 = .ok (.aload_n 0, 1) := dk_42 (dk_at dksJ5_pollLast_0 6 rfl rfl)
theorem dJ5_pollLast_7 : decode cJ5_pollLast 7 = .ok (.getfield 20, 3) := dk_180 0 20 (dk_at dksJ5_pollLast_0 7 rfl rfl)
theorem dJ5_pollLast_10 : decode cJ5_pollLast 10 = .ok (.aload_n 1, 1) := dk_43 (dk_at dksJ5_pollLast_0 10 rfl rfl)
theorem dJ5_pollLast_11 : decode cJ5_pollLast 11 = .ok (.arraylength, 1) := dk_190 (dk_at dksJ5_pollLast_0 11 rfl rfl)
theorem dJ5_pollLast_12 : decode cJ5_pollLast 12 = .ok (.invokestatic 68, 3) := dk_184 0 68 (dk_at dksJ5_pollLast_0 12 rfl rfl)
theorem dJ5_pollLast_15 : decode cJ5_pollLast 15 = .ok (.dup, 1) := dk_89 (dk_at dksJ5_pollLast_0 15 rfl rfl)
theorem dJ5_pollLast_16 : decode cJ5_pollLast 16 = .ok (.istore_n 2, 1) := dk_61 (dk_at dksJ5_pollLast_0 16 rfl rfl)
theorem dJ5_pollLast_17 : decode cJ5_pollLast 17 = .ok (.invokestatic 103, 3) := dk_184 0 103 (dk_at dksJ5_pollLast_0 17 rfl rfl)
theorem dJ5_pollLast_20 : decode cJ5_pollLast 20 = .ok (.astore_n 3, 1) := dk_78 (dk_at dksJ5_pollLast_0 20 rfl rfl)
theorem dJ5_pollLast_21 : decode cJ5_pollLast 21 = .ok (.aload_n 3, 1) := dk_45 (dk_at dksJ5_pollLast_0 21 rfl rfl)
theorem dJ5_pollLast_22 : decode cJ5_pollLast 22 = .ok (.ifnull 12, 3) := dk_198 0 12 (dk_at dksJ5_pollLast_1 0 rfl rfl)
theorem dJ5_pollLast_25 : decode cJ5_pollLast 25 = .ok (.aload_n 1, 1) := dk_43 (dk_at dksJ5_pollLast_1 3 rfl rfl)
theorem dJ5_pollLast_26 : decode cJ5_pollLast 26 = .ok (.aload_n 0, 1) := dk_42 (dk_at dksJ5_pollLast_1 4 rfl rfl)
theorem dJ5_pollLast_27 : decode cJ5_pollLast 27 = .ok (.iload_n 2, 1) := dk_28 (dk_at dksJ5_pollLast_1 5 rfl rfl)
theorem dJ5_pollLast_28 : decode cJ5_pollLast 28 = .ok (.dup_x1, 1) := dk_90 (dk_at dksJ5_pollLast_1 6 rfl rfl)
theorem dJ5_pollLast_29 : decode cJ5_pollLast 29 = .ok (.putfield 20, 3) := dk_181 0 20 (dk_at dksJ5_pollLast_1 7 rfl rfl)
theorem dJ5_pollLast_32 : decode cJ5_pollLast 32 = .ok (.aconst_null, 1) := dk_1 (dk_at dksJ5_pollLast_1 10 rfl rfl)
theorem dJ5_pollLast_33 : decode cJ5_pollLast 33 = .ok (.aastore, 1) := dk_83 (dk_at dksJ5_pollLast_1 11 rfl rfl)
theorem dJ5_pollLast_34 : decode cJ5_pollLast 34 = .ok (.aload_n 3, 1) := dk_45 (dk_at dksJ5_pollLast_1 12 rfl rfl)
theorem dJ5_pollLast_35 : decode cJ5_pollLast 35 = .ok (.areturn, 1) := dk_176 (dk_at dksJ5_pollLast_1 13 rfl rfl)
abbrev cJ5_dec : ByteArray := prog_45_method_7_code
def yJ5_dec : MethodName := ⟨RJ5, "dec", "(II)I"⟩
def dkwJ5_dec_0 : List UInt8 := [132, 0, 255, 26, 156, 0, 7, 27, 4, 100, 59, 26, 172]
abbrev dktJ5_dec_0 : List UInt8 := dkwJ5_dec_0 ++ []
theorem dksJ5_dec_0 : cJ5_dec.data.toList.drop 0 = dktJ5_dec_0 := by decide +kernel
theorem dJ5_dec_0 : decode cJ5_dec 0 = .ok (.iinc 0 (-1), 3) := dk_132 0 255 (dk_at dksJ5_dec_0 0 rfl rfl)
theorem dJ5_dec_3 : decode cJ5_dec 3 = .ok (.iload_n 0, 1) := dk_26 (dk_at dksJ5_dec_0 3 rfl rfl)
theorem dJ5_dec_4 : decode cJ5_dec 4 = .ok (.ifCond .ge 7, 3) := dk_156 0 7 (dk_at dksJ5_dec_0 4 rfl rfl)
theorem dJ5_dec_7 : decode cJ5_dec 7 = .ok (.iload_n 1, 1) := dk_27 (dk_at dksJ5_dec_0 7 rfl rfl)
theorem dJ5_dec_8 : decode cJ5_dec 8 = .ok (.iconst 1, 1) := dk_4 (dk_at dksJ5_dec_0 8 rfl rfl)
theorem dJ5_dec_9 : decode cJ5_dec 9 = .ok (.isub, 1) := dk_100 (dk_at dksJ5_dec_0 9 rfl rfl)
theorem dJ5_dec_10 : decode cJ5_dec 10 = .ok (.istore_n 0, 1) := dk_59 (dk_at dksJ5_dec_0 10 rfl rfl)
theorem dJ5_dec_11 : decode cJ5_dec 11 = .ok (.iload_n 0, 1) := dk_26 (dk_at dksJ5_dec_0 11 rfl rfl)
theorem dJ5_dec_12 : decode cJ5_dec 12 = .ok (.ireturn, 1) := dk_172 (dk_at dksJ5_dec_0 12 rfl rfl)
abbrev cJ5_clear : ByteArray := prog_45_method_53_code
def yJ5_clear : MethodName := ⟨RJ5, "clear", "()V"⟩
def dkwJ5_clear_1 : List UInt8 := [181, 0, 24, 177]
abbrev dktJ5_clear_1 : List UInt8 := dkwJ5_clear_1 ++ []
def dkwJ5_clear_0 : List UInt8 := [42, 180, 0, 3, 42, 180, 0, 24, 42, 180, 0, 20, 184, 0, 181, 42, 42, 3, 90, 181, 0, 20]
abbrev dktJ5_clear_0 : List UInt8 := dkwJ5_clear_0 ++ dktJ5_clear_1
theorem dksJ5_clear_0 : cJ5_clear.data.toList.drop 0 = dktJ5_clear_0 := by decide +kernel
theorem dksJ5_clear_1 : cJ5_clear.data.toList.drop 22 = dktJ5_clear_1 := dk_seg dksJ5_clear_0 22 rfl rfl
theorem dJ5_clear_0 : decode cJ5_clear 0 = .ok (.aload_n 0, 1) := dk_42 (dk_at dksJ5_clear_0 0 rfl rfl)
theorem dJ5_clear_1 : decode cJ5_clear 1 = .ok (.getfield 3, 3) := dk_180 0 3 (dk_at dksJ5_clear_0 1 rfl rfl)
theorem dJ5_clear_4 : decode cJ5_clear 4 = .ok (.aload_n 0, 1) := dk_42 (dk_at dksJ5_clear_0 4 rfl rfl)
theorem dJ5_clear_5 : decode cJ5_clear 5 = .ok (.getfield 24, 3) := dk_180 0 24 (dk_at dksJ5_clear_0 5 rfl rfl)
theorem dJ5_clear_8 : decode cJ5_clear 8 = .ok (.aload_n 0, 1) := dk_42 (dk_at dksJ5_clear_0 8 rfl rfl)
theorem dJ5_clear_9 : decode cJ5_clear 9 = .ok (.getfield 20, 3) := dk_180 0 20 (dk_at dksJ5_clear_0 9 rfl rfl)
theorem dJ5_clear_12 : decode cJ5_clear 12 = .ok (.invokestatic 181, 3) := dk_184 0 181 (dk_at dksJ5_clear_0 12 rfl rfl)
theorem dJ5_clear_15 : decode cJ5_clear 15 = .ok (.aload_n 0, 1) := dk_42 (dk_at dksJ5_clear_0 15 rfl rfl)
theorem dJ5_clear_16 : decode cJ5_clear 16 = .ok (.aload_n 0, 1) := dk_42 (dk_at dksJ5_clear_0 16 rfl rfl)
theorem dJ5_clear_17 : decode cJ5_clear 17 = .ok (.iconst 0, 1) := dk_3 (dk_at dksJ5_clear_0 17 rfl rfl)
theorem dJ5_clear_18 : decode cJ5_clear 18 = .ok (.dup_x1, 1) := dk_90 (dk_at dksJ5_clear_0 18 rfl rfl)
theorem dJ5_clear_19 : decode cJ5_clear 19 = .ok (.putfield 20, 3) := dk_181 0 20 (dk_at dksJ5_clear_0 19 rfl rfl)
theorem dJ5_clear_22 : decode cJ5_clear 22 = .ok (.putfield 24, 3) := dk_181 0 24 (dk_at dksJ5_clear_1 0 rfl rfl)
theorem dJ5_clear_25 : decode cJ5_clear 25 = .ok (.return_, 1) := dk_177 (dk_at dksJ5_clear_1 3 rfl rfl)
abbrev cJ5_circularClear : ByteArray := prog_45_method_54_code
def yJ5_circularClear : MethodName := ⟨RJ5, "circularClear", "([Ljava/lang/Object;II)V"⟩
def dkwJ5_circularClear_1 : List UInt8 := [167, 255, 244, 29, 28, 160, 0, 6, 167, 0, 10, 3, 60, 28, 62, 167, 255, 229, 177]
abbrev dktJ5_circularClear_1 : List UInt8 := dkwJ5_circularClear_1 ++ []
def dkwJ5_circularClear_0 : List UInt8 := [27, 28, 163, 0, 7, 28, 167, 0, 5, 42, 190, 62, 27, 29, 162, 0, 13, 42, 27, 1, 83, 132, 1, 1]
abbrev dktJ5_circularClear_0 : List UInt8 := dkwJ5_circularClear_0 ++ dktJ5_circularClear_1
theorem dksJ5_circularClear_0 : cJ5_circularClear.data.toList.drop 0 = dktJ5_circularClear_0 := by decide +kernel
theorem dksJ5_circularClear_1 : cJ5_circularClear.data.toList.drop 24 = dktJ5_circularClear_1 := dk_seg dksJ5_circularClear_0 24 rfl rfl
theorem dJ5_circularClear_0 : decode cJ5_circularClear 0 = .ok (.iload_n 1, 1) := dk_27 (dk_at dksJ5_circularClear_0 0 rfl rfl)
theorem dJ5_circularClear_1 : decode cJ5_circularClear 1 = .ok (.iload_n 2, 1) := dk_28 (dk_at dksJ5_circularClear_0 1 rfl rfl)
theorem dJ5_circularClear_2 : decode cJ5_circularClear 2 = .ok (.if_icmp .gt 7, 3) := dk_163 0 7 (dk_at dksJ5_circularClear_0 2 rfl rfl)
theorem dJ5_circularClear_5 : decode cJ5_circularClear 5 = .ok (.iload_n 2, 1) := dk_28 (dk_at dksJ5_circularClear_0 5 rfl rfl)
theorem dJ5_circularClear_6 : decode cJ5_circularClear 6 = .ok (.goto 5, 3) := dk_167 0 5 (dk_at dksJ5_circularClear_0 6 rfl rfl)
theorem dJ5_circularClear_9 : decode cJ5_circularClear 9 = .ok (.aload_n 0, 1) := dk_42 (dk_at dksJ5_circularClear_0 9 rfl rfl)
theorem dJ5_circularClear_10 : decode cJ5_circularClear 10 = .ok (.arraylength, 1) := dk_190 (dk_at dksJ5_circularClear_0 10 rfl rfl)
theorem dJ5_circularClear_11 : decode cJ5_circularClear 11 = .ok (.istore_n 3, 1) := dk_62 (dk_at dksJ5_circularClear_0 11 rfl rfl)
theorem dJ5_circularClear_12 : decode cJ5_circularClear 12 = .ok (.iload_n 1, 1) := dk_27 (dk_at dksJ5_circularClear_0 12 rfl rfl)
theorem dJ5_circularClear_13 : decode cJ5_circularClear 13 = .ok (.iload_n 3, 1) := dk_29 (dk_at dksJ5_circularClear_0 13 rfl rfl)
theorem dJ5_circularClear_14 : decode cJ5_circularClear 14 = .ok (.if_icmp .ge 13, 3) := dk_162 0 13 (dk_at dksJ5_circularClear_0 14 rfl rfl)
theorem dJ5_circularClear_17 : decode cJ5_circularClear 17 = .ok (.aload_n 0, 1) := dk_42 (dk_at dksJ5_circularClear_0 17 rfl rfl)
theorem dJ5_circularClear_18 : decode cJ5_circularClear 18 = .ok (.iload_n 1, 1) := dk_27 (dk_at dksJ5_circularClear_0 18 rfl rfl)
theorem dJ5_circularClear_19 : decode cJ5_circularClear 19 = .ok (.aconst_null, 1) := dk_1 (dk_at dksJ5_circularClear_0 19 rfl rfl)
theorem dJ5_circularClear_20 : decode cJ5_circularClear 20 = .ok (.aastore, 1) := dk_83 (dk_at dksJ5_circularClear_0 20 rfl rfl)
theorem dJ5_circularClear_21 : decode cJ5_circularClear 21 = .ok (.iinc 1 1, 3) := dk_132 1 1 (dk_at dksJ5_circularClear_0 21 rfl rfl)
theorem dJ5_circularClear_24 : decode cJ5_circularClear 24 = .ok (.goto (-12), 3) := dk_167 255 244 (dk_at dksJ5_circularClear_1 0 rfl rfl)
theorem dJ5_circularClear_27 : decode cJ5_circularClear 27 = .ok (.iload_n 3, 1) := dk_29 (dk_at dksJ5_circularClear_1 3 rfl rfl)
theorem dJ5_circularClear_28 : decode cJ5_circularClear 28 = .ok (.iload_n 2, 1) := dk_28 (dk_at dksJ5_circularClear_1 4 rfl rfl)
theorem dJ5_circularClear_29 : decode cJ5_circularClear 29 = .ok (.if_icmp .ne 6, 3) := dk_160 0 6 (dk_at dksJ5_circularClear_1 5 rfl rfl)
theorem dJ5_circularClear_32 : decode cJ5_circularClear 32 = .ok (.goto 10, 3) := dk_167 0 10 (dk_at dksJ5_circularClear_1 8 rfl rfl)
theorem dJ5_circularClear_35 : decode cJ5_circularClear 35 = .ok (.iconst 0, 1) := dk_3 (dk_at dksJ5_circularClear_1 11 rfl rfl)
theorem dJ5_circularClear_36 : decode cJ5_circularClear 36 = .ok (.istore_n 1, 1) := dk_60 (dk_at dksJ5_circularClear_1 12 rfl rfl)
theorem dJ5_circularClear_37 : decode cJ5_circularClear 37 = .ok (.iload_n 2, 1) := dk_28 (dk_at dksJ5_circularClear_1 13 rfl rfl)
theorem dJ5_circularClear_38 : decode cJ5_circularClear 38 = .ok (.istore_n 3, 1) := dk_62 (dk_at dksJ5_circularClear_1 14 rfl rfl)
theorem dJ5_circularClear_39 : decode cJ5_circularClear 39 = .ok (.goto (-27), 3) := dk_167 255 229 (dk_at dksJ5_circularClear_1 15 rfl rfl)
theorem dJ5_circularClear_42 : decode cJ5_circularClear 42 = .ok (.return_, 1) := dk_177 (dk_at dksJ5_circularClear_1 18 rfl rfl)
abbrev cJ6_init : ByteArray := prog_11_method_2_code
def yJ6_init : MethodName := ⟨RJ6, "<init>", "(I)V"⟩
def dkwJ6_init_1 : List UInt8 := [167, 0, 16, 42, 27, 184, 0, 26, 181, 0, 15, 42, 4, 181, 0, 22, 177]
abbrev dktJ6_init_1 : List UInt8 := dkwJ6_init_1 ++ []
def dkwJ6_init_0 : List UInt8 := [42, 183, 0, 3, 178, 0, 18, 153, 0, 18, 42, 27, 188, 8, 181, 0, 15, 42, 3, 181, 0, 22]
abbrev dktJ6_init_0 : List UInt8 := dkwJ6_init_0 ++ dktJ6_init_1
theorem dksJ6_init_0 : cJ6_init.data.toList.drop 0 = dktJ6_init_0 := by decide +kernel
theorem dksJ6_init_1 : cJ6_init.data.toList.drop 22 = dktJ6_init_1 := dk_seg dksJ6_init_0 22 rfl rfl
theorem dJ6_init_0 : decode cJ6_init 0 = .ok (.aload_n 0, 1) := dk_42 (dk_at dksJ6_init_0 0 rfl rfl)
theorem dJ6_init_1 : decode cJ6_init 1 = .ok (.invokespecial 3, 3) := dk_183 0 3 (dk_at dksJ6_init_0 1 rfl rfl)
theorem dJ6_init_4 : decode cJ6_init 4 = .ok (.getstatic 18, 3) := dk_178 0 18 (dk_at dksJ6_init_0 4 rfl rfl)
theorem dJ6_init_7 : decode cJ6_init 7 = .ok (.ifCond .eq 18, 3) := dk_153 0 18 (dk_at dksJ6_init_0 7 rfl rfl)
theorem dJ6_init_10 : decode cJ6_init 10 = .ok (.aload_n 0, 1) := dk_42 (dk_at dksJ6_init_0 10 rfl rfl)
theorem dJ6_init_11 : decode cJ6_init 11 = .ok (.iload_n 1, 1) := dk_27 (dk_at dksJ6_init_0 11 rfl rfl)
theorem dJ6_init_12 : decode cJ6_init 12 = .ok (.newarray .byte, 2) := dk_188_8 (dk_at dksJ6_init_0 12 rfl rfl)
theorem dJ6_init_14 : decode cJ6_init 14 = .ok (.putfield 15, 3) := dk_181 0 15 (dk_at dksJ6_init_0 14 rfl rfl)
theorem dJ6_init_17 : decode cJ6_init 17 = .ok (.aload_n 0, 1) := dk_42 (dk_at dksJ6_init_0 17 rfl rfl)
theorem dJ6_init_18 : decode cJ6_init 18 = .ok (.iconst 0, 1) := dk_3 (dk_at dksJ6_init_0 18 rfl rfl)
theorem dJ6_init_19 : decode cJ6_init 19 = .ok (.putfield 22, 3) := dk_181 0 22 (dk_at dksJ6_init_0 19 rfl rfl)
theorem dJ6_init_22 : decode cJ6_init 22 = .ok (.goto 16, 3) := dk_167 0 16 (dk_at dksJ6_init_1 0 rfl rfl)
theorem dJ6_init_25 : decode cJ6_init 25 = .ok (.aload_n 0, 1) := dk_42 (dk_at dksJ6_init_1 3 rfl rfl)
theorem dJ6_init_26 : decode cJ6_init 26 = .ok (.iload_n 1, 1) := dk_27 (dk_at dksJ6_init_1 4 rfl rfl)
theorem dJ6_init_27 : decode cJ6_init 27 = .ok (.invokestatic 26, 3) := dk_184 0 26 (dk_at dksJ6_init_1 5 rfl rfl)
theorem dJ6_init_30 : decode cJ6_init 30 = .ok (.putfield 15, 3) := dk_181 0 15 (dk_at dksJ6_init_1 8 rfl rfl)
theorem dJ6_init_33 : decode cJ6_init 33 = .ok (.aload_n 0, 1) := dk_42 (dk_at dksJ6_init_1 11 rfl rfl)
theorem dJ6_init_34 : decode cJ6_init 34 = .ok (.iconst 1, 1) := dk_4 (dk_at dksJ6_init_1 12 rfl rfl)
theorem dJ6_init_35 : decode cJ6_init 35 = .ok (.putfield 22, 3) := dk_181 0 22 (dk_at dksJ6_init_1 13 rfl rfl)
theorem dJ6_init_38 : decode cJ6_init 38 = .ok (.return_, 1) := dk_177 (dk_at dksJ6_init_1 16 rfl rfl)
abbrev cJ6_append : ByteArray := prog_11_method_22_code
def yJ6_append : MethodName := ⟨RJ6, "append", "(Ljava/lang/String;)Ljava/lang/AbstractStringBuilder;"⟩
def dkwJ6_append_1 : List UInt8 := [42, 42, 180, 0, 79, 43, 182, 0, 208, 42, 89, 180, 0, 79, 28, 96, 181, 0, 79, 42, 176]
abbrev dktJ6_append_1 : List UInt8 := dkwJ6_append_1 ++ []
def dkwJ6_append_0 : List UInt8 := [43, 199, 0, 8, 42, 182, 0, 204, 176, 43, 182, 0, 32, 61, 42, 42, 180, 0, 79, 28, 96, 182, 0, 100]
abbrev dktJ6_append_0 : List UInt8 := dkwJ6_append_0 ++ dktJ6_append_1
theorem dksJ6_append_0 : cJ6_append.data.toList.drop 0 = dktJ6_append_0 := by decide +kernel
theorem dksJ6_append_1 : cJ6_append.data.toList.drop 24 = dktJ6_append_1 := dk_seg dksJ6_append_0 24 rfl rfl
theorem dJ6_append_0 : decode cJ6_append 0 = .ok (.aload_n 1, 1) := dk_43 (dk_at dksJ6_append_0 0 rfl rfl)
theorem dJ6_append_1 : decode cJ6_append 1 = .ok (.ifnonnull 8, 3) := dk_199 0 8 (dk_at dksJ6_append_0 1 rfl rfl)
theorem dJ6_append_4 : decode cJ6_append 4 = .ok (.aload_n 0, 1) := dk_42 (dk_at dksJ6_append_0 4 rfl rfl)
theorem dJ6_append_5 : decode cJ6_append 5 = .ok (.invokevirtual 204, 3) := dk_182 0 204 (dk_at dksJ6_append_0 5 rfl rfl)
theorem dJ6_append_8 : decode cJ6_append 8 = .ok (.areturn, 1) := dk_176 (dk_at dksJ6_append_0 8 rfl rfl)
theorem dJ6_append_9 : decode cJ6_append 9 = .ok (.aload_n 1, 1) := dk_43 (dk_at dksJ6_append_0 9 rfl rfl)
theorem dJ6_append_10 : decode cJ6_append 10 = .ok (.invokevirtual 32, 3) := dk_182 0 32 (dk_at dksJ6_append_0 10 rfl rfl)
theorem dJ6_append_13 : decode cJ6_append 13 = .ok (.istore_n 2, 1) := dk_61 (dk_at dksJ6_append_0 13 rfl rfl)
theorem dJ6_append_14 : decode cJ6_append 14 = .ok (.aload_n 0, 1) := dk_42 (dk_at dksJ6_append_0 14 rfl rfl)
theorem dJ6_append_15 : decode cJ6_append 15 = .ok (.aload_n 0, 1) := dk_42 (dk_at dksJ6_append_0 15 rfl rfl)
theorem dJ6_append_16 : decode cJ6_append 16 = .ok (.getfield 79, 3) := dk_180 0 79 (dk_at dksJ6_append_0 16 rfl rfl)
theorem dJ6_append_19 : decode cJ6_append 19 = .ok (.iload_n 2, 1) := dk_28 (dk_at dksJ6_append_0 19 rfl rfl)
theorem dJ6_append_20 : decode cJ6_append 20 = .ok (.iadd, 1) := dk_96 (dk_at dksJ6_append_0 20 rfl rfl)
theorem dJ6_append_21 : decode cJ6_append 21 = .ok (.invokevirtual 100, 3) := dk_182 0 100 (dk_at dksJ6_append_0 21 rfl rfl)
theorem dJ6_append_24 : decode cJ6_append 24 = .ok (.aload_n 0, 1) := dk_42 (dk_at dksJ6_append_1 0 rfl rfl)
theorem dJ6_append_25 : decode cJ6_append 25 = .ok (.aload_n 0, 1) := dk_42 (dk_at dksJ6_append_1 1 rfl rfl)
theorem dJ6_append_26 : decode cJ6_append 26 = .ok (.getfield 79, 3) := dk_180 0 79 (dk_at dksJ6_append_1 2 rfl rfl)
theorem dJ6_append_29 : decode cJ6_append 29 = .ok (.aload_n 1, 1) := dk_43 (dk_at dksJ6_append_1 5 rfl rfl)
theorem dJ6_append_30 : decode cJ6_append 30 = .ok (.invokevirtual 208, 3) := dk_182 0 208 (dk_at dksJ6_append_1 6 rfl rfl)
theorem dJ6_append_33 : decode cJ6_append 33 = .ok (.aload_n 0, 1) := dk_42 (dk_at dksJ6_append_1 9 rfl rfl)
theorem dJ6_append_34 : decode cJ6_append 34 = .ok (.dup, 1) := dk_89 (dk_at dksJ6_append_1 10 rfl rfl)
theorem dJ6_append_35 : decode cJ6_append 35 = .ok (.getfield 79, 3) := dk_180 0 79 (dk_at dksJ6_append_1 11 rfl rfl)
theorem dJ6_append_38 : decode cJ6_append 38 = .ok (.iload_n 2, 1) := dk_28 (dk_at dksJ6_append_1 14 rfl rfl)
theorem dJ6_append_39 : decode cJ6_append 39 = .ok (.iadd, 1) := dk_96 (dk_at dksJ6_append_1 15 rfl rfl)
theorem dJ6_append_40 : decode cJ6_append 40 = .ok (.putfield 79, 3) := dk_181 0 79 (dk_at dksJ6_append_1 16 rfl rfl)
theorem dJ6_append_43 : decode cJ6_append 43 = .ok (.aload_n 0, 1) := dk_42 (dk_at dksJ6_append_1 19 rfl rfl)
theorem dJ6_append_44 : decode cJ6_append 44 = .ok (.areturn, 1) := dk_176 (dk_at dksJ6_append_1 20 rfl rfl)
abbrev cJ6_appendNull : ByteArray := prog_11_method_26_code
def yJ6_appendNull : MethodName := ⟨RJ6, "appendNull", "()Ljava/lang/AbstractStringBuilder;"⟩
def dkwJ6_appendNull_3 : List UInt8 := [184, 0, 226, 60, 42, 27, 181, 0, 79, 42, 176]
abbrev dktJ6_appendNull_3 : List UInt8 := dkwJ6_appendNull_3 ++ []
def dkwJ6_appendNull_2 : List UInt8 := [16, 108, 84, 44, 27, 132, 1, 1, 16, 108, 84, 167, 0, 17, 44, 27, 16, 110, 16, 117, 16, 108, 16, 108]
abbrev dktJ6_appendNull_2 : List UInt8 := dkwJ6_appendNull_2 ++ dktJ6_appendNull_3
def dkwJ6_appendNull_1 : List UInt8 := [153, 0, 38, 44, 27, 132, 1, 1, 16, 110, 84, 44, 27, 132, 1, 1, 16, 117, 84, 44, 27, 132, 1, 1]
abbrev dktJ6_appendNull_1 : List UInt8 := dkwJ6_appendNull_1 ++ dktJ6_appendNull_2
def dkwJ6_appendNull_0 : List UInt8 := [42, 42, 180, 0, 79, 7, 96, 182, 0, 100, 42, 180, 0, 79, 60, 42, 180, 0, 15, 77, 42, 182, 0, 83]
abbrev dktJ6_appendNull_0 : List UInt8 := dkwJ6_appendNull_0 ++ dktJ6_appendNull_1
theorem dksJ6_appendNull_0 : cJ6_appendNull.data.toList.drop 0 = dktJ6_appendNull_0 := by decide +kernel
theorem dksJ6_appendNull_1 : cJ6_appendNull.data.toList.drop 24 = dktJ6_appendNull_1 := dk_seg dksJ6_appendNull_0 24 rfl rfl
theorem dksJ6_appendNull_2 : cJ6_appendNull.data.toList.drop 48 = dktJ6_appendNull_2 := dk_seg dksJ6_appendNull_1 24 rfl rfl
theorem dksJ6_appendNull_3 : cJ6_appendNull.data.toList.drop 72 = dktJ6_appendNull_3 := dk_seg dksJ6_appendNull_2 24 rfl rfl
theorem dJ6_appendNull_0 : decode cJ6_appendNull 0 = .ok (.aload_n 0, 1) := dk_42 (dk_at dksJ6_appendNull_0 0 rfl rfl)
theorem dJ6_appendNull_1 : decode cJ6_appendNull 1 = .ok (.aload_n 0, 1) := dk_42 (dk_at dksJ6_appendNull_0 1 rfl rfl)
theorem dJ6_appendNull_2 : decode cJ6_appendNull 2 = .ok (.getfield 79, 3) := dk_180 0 79 (dk_at dksJ6_appendNull_0 2 rfl rfl)
theorem dJ6_appendNull_5 : decode cJ6_appendNull 5 = .ok (.iconst 4, 1) := dk_7 (dk_at dksJ6_appendNull_0 5 rfl rfl)
theorem dJ6_appendNull_6 : decode cJ6_appendNull 6 = .ok (.iadd, 1) := dk_96 (dk_at dksJ6_appendNull_0 6 rfl rfl)
theorem dJ6_appendNull_7 : decode cJ6_appendNull 7 = .ok (.invokevirtual 100, 3) := dk_182 0 100 (dk_at dksJ6_appendNull_0 7 rfl rfl)
theorem dJ6_appendNull_10 : decode cJ6_appendNull 10 = .ok (.aload_n 0, 1) := dk_42 (dk_at dksJ6_appendNull_0 10 rfl rfl)
theorem dJ6_appendNull_11 : decode cJ6_appendNull 11 = .ok (.getfield 79, 3) := dk_180 0 79 (dk_at dksJ6_appendNull_0 11 rfl rfl)
theorem dJ6_appendNull_14 : decode cJ6_appendNull 14 = .ok (.istore_n 1, 1) := dk_60 (dk_at dksJ6_appendNull_0 14 rfl rfl)
theorem dJ6_appendNull_15 : decode cJ6_appendNull 15 = .ok (.aload_n 0, 1) := dk_42 (dk_at dksJ6_appendNull_0 15 rfl rfl)
theorem dJ6_appendNull_16 : decode cJ6_appendNull 16 = .ok (.getfield 15, 3) := dk_180 0 15 (dk_at dksJ6_appendNull_0 16 rfl rfl)
theorem dJ6_appendNull_19 : decode cJ6_appendNull 19 = .ok (.astore_n 2, 1) := dk_77 (dk_at dksJ6_appendNull_0 19 rfl rfl)
theorem dJ6_appendNull_20 : decode cJ6_appendNull 20 = .ok (.aload_n 0, 1) := dk_42 (dk_at dksJ6_appendNull_0 20 rfl rfl)
theorem dJ6_appendNull_21 : decode cJ6_appendNull 21 = .ok (.invokevirtual 83, 3) := dk_182 0 83 (dk_at dksJ6_appendNull_0 21 rfl rfl)
theorem dJ6_appendNull_24 : decode cJ6_appendNull 24 = .ok (.ifCond .eq 38, 3) := dk_153 0 38 (dk_at dksJ6_appendNull_1 0 rfl rfl)
theorem dJ6_appendNull_27 : decode cJ6_appendNull 27 = .ok (.aload_n 2, 1) := dk_44 (dk_at dksJ6_appendNull_1 3 rfl rfl)
theorem dJ6_appendNull_28 : decode cJ6_appendNull 28 = .ok (.iload_n 1, 1) := dk_27 (dk_at dksJ6_appendNull_1 4 rfl rfl)
theorem dJ6_appendNull_29 : decode cJ6_appendNull 29 = .ok (.iinc 1 1, 3) := dk_132 1 1 (dk_at dksJ6_appendNull_1 5 rfl rfl)
theorem dJ6_appendNull_32 : decode cJ6_appendNull 32 = .ok (.bipush 110, 2) := dk_16 110 (dk_at dksJ6_appendNull_1 8 rfl rfl)
theorem dJ6_appendNull_34 : decode cJ6_appendNull 34 = .ok (.bastore, 1) := dk_84 (dk_at dksJ6_appendNull_1 10 rfl rfl)
theorem dJ6_appendNull_35 : decode cJ6_appendNull 35 = .ok (.aload_n 2, 1) := dk_44 (dk_at dksJ6_appendNull_1 11 rfl rfl)
theorem dJ6_appendNull_36 : decode cJ6_appendNull 36 = .ok (.iload_n 1, 1) := dk_27 (dk_at dksJ6_appendNull_1 12 rfl rfl)
theorem dJ6_appendNull_37 : decode cJ6_appendNull 37 = .ok (.iinc 1 1, 3) := dk_132 1 1 (dk_at dksJ6_appendNull_1 13 rfl rfl)
theorem dJ6_appendNull_40 : decode cJ6_appendNull 40 = .ok (.bipush 117, 2) := dk_16 117 (dk_at dksJ6_appendNull_1 16 rfl rfl)
theorem dJ6_appendNull_42 : decode cJ6_appendNull 42 = .ok (.bastore, 1) := dk_84 (dk_at dksJ6_appendNull_1 18 rfl rfl)
theorem dJ6_appendNull_43 : decode cJ6_appendNull 43 = .ok (.aload_n 2, 1) := dk_44 (dk_at dksJ6_appendNull_1 19 rfl rfl)
theorem dJ6_appendNull_44 : decode cJ6_appendNull 44 = .ok (.iload_n 1, 1) := dk_27 (dk_at dksJ6_appendNull_1 20 rfl rfl)
theorem dJ6_appendNull_45 : decode cJ6_appendNull 45 = .ok (.iinc 1 1, 3) := dk_132 1 1 (dk_at dksJ6_appendNull_1 21 rfl rfl)
theorem dJ6_appendNull_48 : decode cJ6_appendNull 48 = .ok (.bipush 108, 2) := dk_16 108 (dk_at dksJ6_appendNull_2 0 rfl rfl)
theorem dJ6_appendNull_50 : decode cJ6_appendNull 50 = .ok (.bastore, 1) := dk_84 (dk_at dksJ6_appendNull_2 2 rfl rfl)
theorem dJ6_appendNull_51 : decode cJ6_appendNull 51 = .ok (.aload_n 2, 1) := dk_44 (dk_at dksJ6_appendNull_2 3 rfl rfl)
theorem dJ6_appendNull_52 : decode cJ6_appendNull 52 = .ok (.iload_n 1, 1) := dk_27 (dk_at dksJ6_appendNull_2 4 rfl rfl)
theorem dJ6_appendNull_53 : decode cJ6_appendNull 53 = .ok (.iinc 1 1, 3) := dk_132 1 1 (dk_at dksJ6_appendNull_2 5 rfl rfl)
theorem dJ6_appendNull_56 : decode cJ6_appendNull 56 = .ok (.bipush 108, 2) := dk_16 108 (dk_at dksJ6_appendNull_2 8 rfl rfl)
theorem dJ6_appendNull_58 : decode cJ6_appendNull 58 = .ok (.bastore, 1) := dk_84 (dk_at dksJ6_appendNull_2 10 rfl rfl)
theorem dJ6_appendNull_59 : decode cJ6_appendNull 59 = .ok (.goto 17, 3) := dk_167 0 17 (dk_at dksJ6_appendNull_2 11 rfl rfl)
theorem dJ6_appendNull_62 : decode cJ6_appendNull 62 = .ok (.aload_n 2, 1) := dk_44 (dk_at dksJ6_appendNull_2 14 rfl rfl)
theorem dJ6_appendNull_63 : decode cJ6_appendNull 63 = .ok (.iload_n 1, 1) := dk_27 (dk_at dksJ6_appendNull_2 15 rfl rfl)
theorem dJ6_appendNull_64 : decode cJ6_appendNull 64 = .ok (.bipush 110, 2) := dk_16 110 (dk_at dksJ6_appendNull_2 16 rfl rfl)
theorem dJ6_appendNull_66 : decode cJ6_appendNull 66 = .ok (.bipush 117, 2) := dk_16 117 (dk_at dksJ6_appendNull_2 18 rfl rfl)
theorem dJ6_appendNull_68 : decode cJ6_appendNull 68 = .ok (.bipush 108, 2) := dk_16 108 (dk_at dksJ6_appendNull_2 20 rfl rfl)
theorem dJ6_appendNull_70 : decode cJ6_appendNull 70 = .ok (.bipush 108, 2) := dk_16 108 (dk_at dksJ6_appendNull_2 22 rfl rfl)
theorem dJ6_appendNull_72 : decode cJ6_appendNull 72 = .ok (.invokestatic 226, 3) := dk_184 0 226 (dk_at dksJ6_appendNull_3 0 rfl rfl)
theorem dJ6_appendNull_75 : decode cJ6_appendNull 75 = .ok (.istore_n 1, 1) := dk_60 (dk_at dksJ6_appendNull_3 3 rfl rfl)
theorem dJ6_appendNull_76 : decode cJ6_appendNull 76 = .ok (.aload_n 0, 1) := dk_42 (dk_at dksJ6_appendNull_3 4 rfl rfl)
theorem dJ6_appendNull_77 : decode cJ6_appendNull 77 = .ok (.iload_n 1, 1) := dk_27 (dk_at dksJ6_appendNull_3 5 rfl rfl)
theorem dJ6_appendNull_78 : decode cJ6_appendNull 78 = .ok (.putfield 79, 3) := dk_181 0 79 (dk_at dksJ6_appendNull_3 6 rfl rfl)
theorem dJ6_appendNull_81 : decode cJ6_appendNull 81 = .ok (.aload_n 0, 1) := dk_42 (dk_at dksJ6_appendNull_3 9 rfl rfl)
theorem dJ6_appendNull_82 : decode cJ6_appendNull 82 = .ok (.areturn, 1) := dk_176 (dk_at dksJ6_appendNull_3 10 rfl rfl)
abbrev cJ6_ensureCapacityInternal : ByteArray := prog_11_method_9_code
def yJ6_ensureCapacityInternal : MethodName := ⟨RJ6, "ensureCapacityInternal", "(I)V"⟩
def dkwJ6_ensureCapacityInternal_1 : List UInt8 := [182, 0, 104, 42, 180, 0, 22, 120, 184, 0, 108, 181, 0, 15, 177]
abbrev dktJ6_ensureCapacityInternal_1 : List UInt8 := dkwJ6_ensureCapacityInternal_1 ++ []
def dkwJ6_ensureCapacityInternal_0 : List UInt8 := [42, 180, 0, 15, 190, 42, 180, 0, 22, 122, 61, 27, 28, 100, 158, 0, 24, 42, 42, 180, 0, 15, 42, 27]
abbrev dktJ6_ensureCapacityInternal_0 : List UInt8 := dkwJ6_ensureCapacityInternal_0 ++ dktJ6_ensureCapacityInternal_1
theorem dksJ6_ensureCapacityInternal_0 : cJ6_ensureCapacityInternal.data.toList.drop 0 = dktJ6_ensureCapacityInternal_0 := by decide +kernel
theorem dksJ6_ensureCapacityInternal_1 : cJ6_ensureCapacityInternal.data.toList.drop 24 = dktJ6_ensureCapacityInternal_1 := dk_seg dksJ6_ensureCapacityInternal_0 24 rfl rfl
theorem dJ6_ensureCapacityInternal_0 : decode cJ6_ensureCapacityInternal 0 = .ok (.aload_n 0, 1) := dk_42 (dk_at dksJ6_ensureCapacityInternal_0 0 rfl rfl)
theorem dJ6_ensureCapacityInternal_1 : decode cJ6_ensureCapacityInternal 1 = .ok (.getfield 15, 3) := dk_180 0 15 (dk_at dksJ6_ensureCapacityInternal_0 1 rfl rfl)
theorem dJ6_ensureCapacityInternal_4 : decode cJ6_ensureCapacityInternal 4 = .ok (.arraylength, 1) := dk_190 (dk_at dksJ6_ensureCapacityInternal_0 4 rfl rfl)
theorem dJ6_ensureCapacityInternal_5 : decode cJ6_ensureCapacityInternal 5 = .ok (.aload_n 0, 1) := dk_42 (dk_at dksJ6_ensureCapacityInternal_0 5 rfl rfl)
theorem dJ6_ensureCapacityInternal_6 : decode cJ6_ensureCapacityInternal 6 = .ok (.getfield 22, 3) := dk_180 0 22 (dk_at dksJ6_ensureCapacityInternal_0 6 rfl rfl)
theorem dJ6_ensureCapacityInternal_9 : decode cJ6_ensureCapacityInternal 9 = .ok (.ishr, 1) := dk_122 (dk_at dksJ6_ensureCapacityInternal_0 9 rfl rfl)
theorem dJ6_ensureCapacityInternal_10 : decode cJ6_ensureCapacityInternal 10 = .ok (.istore_n 2, 1) := dk_61 (dk_at dksJ6_ensureCapacityInternal_0 10 rfl rfl)
theorem dJ6_ensureCapacityInternal_11 : decode cJ6_ensureCapacityInternal 11 = .ok (.iload_n 1, 1) := dk_27 (dk_at dksJ6_ensureCapacityInternal_0 11 rfl rfl)
theorem dJ6_ensureCapacityInternal_12 : decode cJ6_ensureCapacityInternal 12 = .ok (.iload_n 2, 1) := dk_28 (dk_at dksJ6_ensureCapacityInternal_0 12 rfl rfl)
theorem dJ6_ensureCapacityInternal_13 : decode cJ6_ensureCapacityInternal 13 = .ok (.isub, 1) := dk_100 (dk_at dksJ6_ensureCapacityInternal_0 13 rfl rfl)
theorem dJ6_ensureCapacityInternal_14 : decode cJ6_ensureCapacityInternal 14 = .ok (.ifCond .le 24, 3) := dk_158 0 24 (dk_at dksJ6_ensureCapacityInternal_0 14 rfl rfl)
theorem dJ6_ensureCapacityInternal_17 : decode cJ6_ensureCapacityInternal 17 = .ok (.aload_n 0, 1) := dk_42 (dk_at dksJ6_ensureCapacityInternal_0 17 rfl rfl)
theorem dJ6_ensureCapacityInternal_18 : decode cJ6_ensureCapacityInternal 18 = .ok (.aload_n 0, 1) := dk_42 (dk_at dksJ6_ensureCapacityInternal_0 18 rfl rfl)
theorem dJ6_ensureCapacityInternal_19 : decode cJ6_ensureCapacityInternal 19 = .ok (.getfield 15, 3) := dk_180 0 15 (dk_at dksJ6_ensureCapacityInternal_0 19 rfl rfl)
theorem dJ6_ensureCapacityInternal_22 : decode cJ6_ensureCapacityInternal 22 = .ok (.aload_n 0, 1) := dk_42 (dk_at dksJ6_ensureCapacityInternal_0 22 rfl rfl)
theorem dJ6_ensureCapacityInternal_23 : decode cJ6_ensureCapacityInternal 23 = .ok (.iload_n 1, 1) := dk_27 (dk_at dksJ6_ensureCapacityInternal_0 23 rfl rfl)
theorem dJ6_ensureCapacityInternal_24 : decode cJ6_ensureCapacityInternal 24 = .ok (.invokevirtual 104, 3) := dk_182 0 104 (dk_at dksJ6_ensureCapacityInternal_1 0 rfl rfl)
theorem dJ6_ensureCapacityInternal_27 : decode cJ6_ensureCapacityInternal 27 = .ok (.aload_n 0, 1) := dk_42 (dk_at dksJ6_ensureCapacityInternal_1 3 rfl rfl)
theorem dJ6_ensureCapacityInternal_28 : decode cJ6_ensureCapacityInternal 28 = .ok (.getfield 22, 3) := dk_180 0 22 (dk_at dksJ6_ensureCapacityInternal_1 4 rfl rfl)
theorem dJ6_ensureCapacityInternal_31 : decode cJ6_ensureCapacityInternal 31 = .ok (.ishl, 1) := dk_120 (dk_at dksJ6_ensureCapacityInternal_1 7 rfl rfl)
theorem dJ6_ensureCapacityInternal_32 : decode cJ6_ensureCapacityInternal 32 = .ok (.invokestatic 108, 3) := dk_184 0 108 (dk_at dksJ6_ensureCapacityInternal_1 8 rfl rfl)
theorem dJ6_ensureCapacityInternal_35 : decode cJ6_ensureCapacityInternal 35 = .ok (.putfield 15, 3) := dk_181 0 15 (dk_at dksJ6_ensureCapacityInternal_1 11 rfl rfl)
theorem dJ6_ensureCapacityInternal_38 : decode cJ6_ensureCapacityInternal 38 = .ok (.return_, 1) := dk_177 (dk_at dksJ6_ensureCapacityInternal_1 14 rfl rfl)
abbrev cJ6_newCapacity : ByteArray := prog_11_method_10_code
def yJ6_newCapacity : MethodName := ⟨RJ6, "newCapacity", "(I)I"⟩
def dkwJ6_newCapacity_2 : List UInt8 := [183, 0, 124, 191, 21, 5, 42, 180, 0, 22, 122, 172]
abbrev dktJ6_newCapacity_2 : List UInt8 := dkwJ6_newCapacity_2 ++ []
def dkwJ6_newCapacity_1 : List UInt8 := [180, 0, 22, 120, 96, 184, 0, 114, 54, 5, 21, 5, 18, 39, 160, 0, 13, 187, 0, 120, 89, 18, 122]
abbrev dktJ6_newCapacity_1 : List UInt8 := dkwJ6_newCapacity_1 ++ dktJ6_newCapacity_2
def dkwJ6_newCapacity_0 : List UInt8 := [42, 180, 0, 15, 190, 61, 27, 42, 180, 0, 22, 120, 62, 29, 28, 100, 54, 4, 28, 21, 4, 28, 5, 42]
abbrev dktJ6_newCapacity_0 : List UInt8 := dkwJ6_newCapacity_0 ++ dktJ6_newCapacity_1
theorem dksJ6_newCapacity_0 : cJ6_newCapacity.data.toList.drop 0 = dktJ6_newCapacity_0 := by decide +kernel
theorem dksJ6_newCapacity_1 : cJ6_newCapacity.data.toList.drop 24 = dktJ6_newCapacity_1 := dk_seg dksJ6_newCapacity_0 24 rfl rfl
theorem dksJ6_newCapacity_2 : cJ6_newCapacity.data.toList.drop 47 = dktJ6_newCapacity_2 := dk_seg dksJ6_newCapacity_1 23 rfl rfl
theorem dJ6_newCapacity_0 : decode cJ6_newCapacity 0 = .ok (.aload_n 0, 1) := dk_42 (dk_at dksJ6_newCapacity_0 0 rfl rfl)
theorem dJ6_newCapacity_1 : decode cJ6_newCapacity 1 = .ok (.getfield 15, 3) := dk_180 0 15 (dk_at dksJ6_newCapacity_0 1 rfl rfl)
theorem dJ6_newCapacity_4 : decode cJ6_newCapacity 4 = .ok (.arraylength, 1) := dk_190 (dk_at dksJ6_newCapacity_0 4 rfl rfl)
theorem dJ6_newCapacity_5 : decode cJ6_newCapacity 5 = .ok (.istore_n 2, 1) := dk_61 (dk_at dksJ6_newCapacity_0 5 rfl rfl)
theorem dJ6_newCapacity_6 : decode cJ6_newCapacity 6 = .ok (.iload_n 1, 1) := dk_27 (dk_at dksJ6_newCapacity_0 6 rfl rfl)
theorem dJ6_newCapacity_7 : decode cJ6_newCapacity 7 = .ok (.aload_n 0, 1) := dk_42 (dk_at dksJ6_newCapacity_0 7 rfl rfl)
theorem dJ6_newCapacity_8 : decode cJ6_newCapacity 8 = .ok (.getfield 22, 3) := dk_180 0 22 (dk_at dksJ6_newCapacity_0 8 rfl rfl)
theorem dJ6_newCapacity_11 : decode cJ6_newCapacity 11 = .ok (.ishl, 1) := dk_120 (dk_at dksJ6_newCapacity_0 11 rfl rfl)
theorem dJ6_newCapacity_12 : decode cJ6_newCapacity 12 = .ok (.istore_n 3, 1) := dk_62 (dk_at dksJ6_newCapacity_0 12 rfl rfl)
theorem dJ6_newCapacity_13 : decode cJ6_newCapacity 13 = .ok (.iload_n 3, 1) := dk_29 (dk_at dksJ6_newCapacity_0 13 rfl rfl)
theorem dJ6_newCapacity_14 : decode cJ6_newCapacity 14 = .ok (.iload_n 2, 1) := dk_28 (dk_at dksJ6_newCapacity_0 14 rfl rfl)
theorem dJ6_newCapacity_15 : decode cJ6_newCapacity 15 = .ok (.isub, 1) := dk_100 (dk_at dksJ6_newCapacity_0 15 rfl rfl)
theorem dJ6_newCapacity_16 : decode cJ6_newCapacity 16 = .ok (.istore 4, 2) := dk_54 4 (dk_at dksJ6_newCapacity_0 16 rfl rfl)
theorem dJ6_newCapacity_18 : decode cJ6_newCapacity 18 = .ok (.iload_n 2, 1) := dk_28 (dk_at dksJ6_newCapacity_0 18 rfl rfl)
theorem dJ6_newCapacity_19 : decode cJ6_newCapacity 19 = .ok (.iload 4, 2) := dk_21 4 (dk_at dksJ6_newCapacity_0 19 rfl rfl)
theorem dJ6_newCapacity_21 : decode cJ6_newCapacity 21 = .ok (.iload_n 2, 1) := dk_28 (dk_at dksJ6_newCapacity_0 21 rfl rfl)
theorem dJ6_newCapacity_22 : decode cJ6_newCapacity 22 = .ok (.iconst 2, 1) := dk_5 (dk_at dksJ6_newCapacity_0 22 rfl rfl)
theorem dJ6_newCapacity_23 : decode cJ6_newCapacity 23 = .ok (.aload_n 0, 1) := dk_42 (dk_at dksJ6_newCapacity_0 23 rfl rfl)
theorem dJ6_newCapacity_24 : decode cJ6_newCapacity 24 = .ok (.getfield 22, 3) := dk_180 0 22 (dk_at dksJ6_newCapacity_1 0 rfl rfl)
theorem dJ6_newCapacity_27 : decode cJ6_newCapacity 27 = .ok (.ishl, 1) := dk_120 (dk_at dksJ6_newCapacity_1 3 rfl rfl)
theorem dJ6_newCapacity_28 : decode cJ6_newCapacity 28 = .ok (.iadd, 1) := dk_96 (dk_at dksJ6_newCapacity_1 4 rfl rfl)
theorem dJ6_newCapacity_29 : decode cJ6_newCapacity 29 = .ok (.invokestatic 114, 3) := dk_184 0 114 (dk_at dksJ6_newCapacity_1 5 rfl rfl)
theorem dJ6_newCapacity_32 : decode cJ6_newCapacity 32 = .ok (.istore 5, 2) := dk_54 5 (dk_at dksJ6_newCapacity_1 8 rfl rfl)
theorem dJ6_newCapacity_34 : decode cJ6_newCapacity 34 = .ok (.iload 5, 2) := dk_21 5 (dk_at dksJ6_newCapacity_1 10 rfl rfl)
theorem dJ6_newCapacity_36 : decode cJ6_newCapacity 36 = .ok (.ldc 39, 2) := dk_18 39 (dk_at dksJ6_newCapacity_1 12 rfl rfl)
theorem dJ6_newCapacity_38 : decode cJ6_newCapacity 38 = .ok (.if_icmp .ne 13, 3) := dk_160 0 13 (dk_at dksJ6_newCapacity_1 14 rfl rfl)
theorem dJ6_newCapacity_41 : decode cJ6_newCapacity 41 = .ok (.new 120, 3) := dk_187 0 120 (dk_at dksJ6_newCapacity_1 17 rfl rfl)
theorem dJ6_newCapacity_44 : decode cJ6_newCapacity 44 = .ok (.dup, 1) := dk_89 (dk_at dksJ6_newCapacity_1 20 rfl rfl)
theorem dJ6_newCapacity_45 : decode cJ6_newCapacity 45 = .ok (.ldc 122, 2) := dk_18 122 (dk_at dksJ6_newCapacity_1 21 rfl rfl)
theorem dJ6_newCapacity_47 : decode cJ6_newCapacity 47 = .ok (.invokespecial 124, 3) := dk_183 0 124 (dk_at dksJ6_newCapacity_2 0 rfl rfl)
theorem dJ6_newCapacity_50 : decode cJ6_newCapacity 50 = .ok (.athrow, 1) := dk_191 (dk_at dksJ6_newCapacity_2 3 rfl rfl)
theorem dJ6_newCapacity_51 : decode cJ6_newCapacity 51 = .ok (.iload 5, 2) := dk_21 5 (dk_at dksJ6_newCapacity_2 4 rfl rfl)
theorem dJ6_newCapacity_53 : decode cJ6_newCapacity 53 = .ok (.aload_n 0, 1) := dk_42 (dk_at dksJ6_newCapacity_2 6 rfl rfl)
theorem dJ6_newCapacity_54 : decode cJ6_newCapacity 54 = .ok (.getfield 22, 3) := dk_180 0 22 (dk_at dksJ6_newCapacity_2 7 rfl rfl)
theorem dJ6_newCapacity_57 : decode cJ6_newCapacity 57 = .ok (.ishr, 1) := dk_122 (dk_at dksJ6_newCapacity_2 10 rfl rfl)
theorem dJ6_newCapacity_58 : decode cJ6_newCapacity 58 = .ok (.ireturn, 1) := dk_172 (dk_at dksJ6_newCapacity_2 11 rfl rfl)
abbrev cJ6_isLatin1 : ByteArray := prog_11_method_68_code
def yJ6_isLatin1 : MethodName := ⟨RJ6, "isLatin1", "()Z"⟩
def dkwJ6_isLatin1_0 : List UInt8 := [178, 0, 18, 153, 0, 14, 42, 180, 0, 22, 154, 0, 7, 4, 167, 0, 4, 3, 172]
abbrev dktJ6_isLatin1_0 : List UInt8 := dkwJ6_isLatin1_0 ++ []
theorem dksJ6_isLatin1_0 : cJ6_isLatin1.data.toList.drop 0 = dktJ6_isLatin1_0 := by decide +kernel
theorem dJ6_isLatin1_0 : decode cJ6_isLatin1 0 = .ok (.getstatic 18, 3) := dk_178 0 18 (dk_at dksJ6_isLatin1_0 0 rfl rfl)
theorem dJ6_isLatin1_3 : decode cJ6_isLatin1 3 = .ok (.ifCond .eq 14, 3) := dk_153 0 14 (dk_at dksJ6_isLatin1_0 3 rfl rfl)
theorem dJ6_isLatin1_6 : decode cJ6_isLatin1 6 = .ok (.aload_n 0, 1) := dk_42 (dk_at dksJ6_isLatin1_0 6 rfl rfl)
theorem dJ6_isLatin1_7 : decode cJ6_isLatin1 7 = .ok (.getfield 22, 3) := dk_180 0 22 (dk_at dksJ6_isLatin1_0 7 rfl rfl)
theorem dJ6_isLatin1_10 : decode cJ6_isLatin1 10 = .ok (.ifCond .ne 7, 3) := dk_154 0 7 (dk_at dksJ6_isLatin1_0 10 rfl rfl)
theorem dJ6_isLatin1_13 : decode cJ6_isLatin1 13 = .ok (.iconst 1, 1) := dk_4 (dk_at dksJ6_isLatin1_0 13 rfl rfl)
theorem dJ6_isLatin1_14 : decode cJ6_isLatin1 14 = .ok (.goto 4, 3) := dk_167 0 4 (dk_at dksJ6_isLatin1_0 14 rfl rfl)
theorem dJ6_isLatin1_17 : decode cJ6_isLatin1 17 = .ok (.iconst 0, 1) := dk_3 (dk_at dksJ6_isLatin1_0 17 rfl rfl)
theorem dJ6_isLatin1_18 : decode cJ6_isLatin1 18 = .ok (.ireturn, 1) := dk_172 (dk_at dksJ6_isLatin1_0 18 rfl rfl)
abbrev cJ6_putStringAt : ByteArray := prog_11_method_73_code
def yJ6_putStringAt : MethodName := ⟨RJ6, "putStringAt", "(ILjava/lang/String;)V"⟩
def dkwJ6_putStringAt_0 : List UInt8 := [42, 44, 182, 1, 141, 44, 42, 180, 0, 15, 27, 42, 180, 0, 22, 182, 1, 143, 177]
abbrev dktJ6_putStringAt_0 : List UInt8 := dkwJ6_putStringAt_0 ++ []
theorem dksJ6_putStringAt_0 : cJ6_putStringAt.data.toList.drop 0 = dktJ6_putStringAt_0 := by decide +kernel
theorem dJ6_putStringAt_0 : decode cJ6_putStringAt 0 = .ok (.aload_n 0, 1) := dk_42 (dk_at dksJ6_putStringAt_0 0 rfl rfl)
theorem dJ6_putStringAt_1 : decode cJ6_putStringAt 1 = .ok (.aload_n 2, 1) := dk_44 (dk_at dksJ6_putStringAt_0 1 rfl rfl)
theorem dJ6_putStringAt_2 : decode cJ6_putStringAt 2 = .ok (.invokevirtual 397, 3) := dk_182 1 141 (dk_at dksJ6_putStringAt_0 2 rfl rfl)
theorem dJ6_putStringAt_5 : decode cJ6_putStringAt 5 = .ok (.aload_n 2, 1) := dk_44 (dk_at dksJ6_putStringAt_0 5 rfl rfl)
theorem dJ6_putStringAt_6 : decode cJ6_putStringAt 6 = .ok (.aload_n 0, 1) := dk_42 (dk_at dksJ6_putStringAt_0 6 rfl rfl)
theorem dJ6_putStringAt_7 : decode cJ6_putStringAt 7 = .ok (.getfield 15, 3) := dk_180 0 15 (dk_at dksJ6_putStringAt_0 7 rfl rfl)
theorem dJ6_putStringAt_10 : decode cJ6_putStringAt 10 = .ok (.iload_n 1, 1) := dk_27 (dk_at dksJ6_putStringAt_0 10 rfl rfl)
theorem dJ6_putStringAt_11 : decode cJ6_putStringAt 11 = .ok (.aload_n 0, 1) := dk_42 (dk_at dksJ6_putStringAt_0 11 rfl rfl)
theorem dJ6_putStringAt_12 : decode cJ6_putStringAt 12 = .ok (.getfield 22, 3) := dk_180 0 22 (dk_at dksJ6_putStringAt_0 12 rfl rfl)
theorem dJ6_putStringAt_15 : decode cJ6_putStringAt 15 = .ok (.invokevirtual 399, 3) := dk_182 1 143 (dk_at dksJ6_putStringAt_0 15 rfl rfl)
theorem dJ6_putStringAt_18 : decode cJ6_putStringAt 18 = .ok (.return_, 1) := dk_177 (dk_at dksJ6_putStringAt_0 18 rfl rfl)
abbrev cJ6_inflateIfNeededFor : ByteArray := prog_11_method_71_code
def yJ6_inflateIfNeededFor : MethodName := ⟨RJ6, "inflateIfNeededFor", "(Ljava/lang/String;)V"⟩
def dkwJ6_inflateIfNeededFor_0 : List UInt8 := [178, 0, 18, 153, 0, 18, 42, 180, 0, 22, 43, 182, 0, 40, 159, 0, 7, 42, 182, 0, 195, 177]
abbrev dktJ6_inflateIfNeededFor_0 : List UInt8 := dkwJ6_inflateIfNeededFor_0 ++ []
theorem dksJ6_inflateIfNeededFor_0 : cJ6_inflateIfNeededFor.data.toList.drop 0 = dktJ6_inflateIfNeededFor_0 := by decide +kernel
theorem dJ6_inflateIfNeededFor_0 : decode cJ6_inflateIfNeededFor 0 = .ok (.getstatic 18, 3) := dk_178 0 18 (dk_at dksJ6_inflateIfNeededFor_0 0 rfl rfl)
theorem dJ6_inflateIfNeededFor_3 : decode cJ6_inflateIfNeededFor 3 = .ok (.ifCond .eq 18, 3) := dk_153 0 18 (dk_at dksJ6_inflateIfNeededFor_0 3 rfl rfl)
theorem dJ6_inflateIfNeededFor_6 : decode cJ6_inflateIfNeededFor 6 = .ok (.aload_n 0, 1) := dk_42 (dk_at dksJ6_inflateIfNeededFor_0 6 rfl rfl)
theorem dJ6_inflateIfNeededFor_7 : decode cJ6_inflateIfNeededFor 7 = .ok (.getfield 22, 3) := dk_180 0 22 (dk_at dksJ6_inflateIfNeededFor_0 7 rfl rfl)
theorem dJ6_inflateIfNeededFor_10 : decode cJ6_inflateIfNeededFor 10 = .ok (.aload_n 1, 1) := dk_43 (dk_at dksJ6_inflateIfNeededFor_0 10 rfl rfl)
theorem dJ6_inflateIfNeededFor_11 : decode cJ6_inflateIfNeededFor 11 = .ok (.invokevirtual 40, 3) := dk_182 0 40 (dk_at dksJ6_inflateIfNeededFor_0 11 rfl rfl)
theorem dJ6_inflateIfNeededFor_14 : decode cJ6_inflateIfNeededFor 14 = .ok (.if_icmp .eq 7, 3) := dk_159 0 7 (dk_at dksJ6_inflateIfNeededFor_0 14 rfl rfl)
theorem dJ6_inflateIfNeededFor_17 : decode cJ6_inflateIfNeededFor 17 = .ok (.aload_n 0, 1) := dk_42 (dk_at dksJ6_inflateIfNeededFor_0 17 rfl rfl)
theorem dJ6_inflateIfNeededFor_18 : decode cJ6_inflateIfNeededFor 18 = .ok (.invokevirtual 195, 3) := dk_182 0 195 (dk_at dksJ6_inflateIfNeededFor_0 18 rfl rfl)
theorem dJ6_inflateIfNeededFor_21 : decode cJ6_inflateIfNeededFor 21 = .ok (.return_, 1) := dk_177 (dk_at dksJ6_inflateIfNeededFor_0 21 rfl rfl)
abbrev cJ6_inflate : ByteArray := prog_11_method_11_code
def yJ6_inflate : MethodName := ⟨RJ6, "inflate", "()V"⟩
def dkwJ6_inflate_1 : List UInt8 := [42, 180, 0, 79, 184, 0, 125, 42, 43, 181, 0, 15, 42, 4, 181, 0, 22, 177]
abbrev dktJ6_inflate_1 : List UInt8 := dkwJ6_inflate_1 ++ []
def dkwJ6_inflate_0 : List UInt8 := [42, 182, 0, 83, 154, 0, 4, 177, 42, 180, 0, 15, 190, 184, 0, 26, 76, 42, 180, 0, 15, 3, 43, 3]
abbrev dktJ6_inflate_0 : List UInt8 := dkwJ6_inflate_0 ++ dktJ6_inflate_1
theorem dksJ6_inflate_0 : cJ6_inflate.data.toList.drop 0 = dktJ6_inflate_0 := by decide +kernel
theorem dksJ6_inflate_1 : cJ6_inflate.data.toList.drop 24 = dktJ6_inflate_1 := dk_seg dksJ6_inflate_0 24 rfl rfl
theorem dJ6_inflate_0 : decode cJ6_inflate 0 = .ok (.aload_n 0, 1) := dk_42 (dk_at dksJ6_inflate_0 0 rfl rfl)
theorem dJ6_inflate_1 : decode cJ6_inflate 1 = .ok (.invokevirtual 83, 3) := dk_182 0 83 (dk_at dksJ6_inflate_0 1 rfl rfl)
theorem dJ6_inflate_4 : decode cJ6_inflate 4 = .ok (.ifCond .ne 4, 3) := dk_154 0 4 (dk_at dksJ6_inflate_0 4 rfl rfl)
theorem dJ6_inflate_7 : decode cJ6_inflate 7 = .ok (.return_, 1) := dk_177 (dk_at dksJ6_inflate_0 7 rfl rfl)
theorem dJ6_inflate_8 : decode cJ6_inflate 8 = .ok (.aload_n 0, 1) := dk_42 (dk_at dksJ6_inflate_0 8 rfl rfl)
theorem dJ6_inflate_9 : decode cJ6_inflate 9 = .ok (.getfield 15, 3) := dk_180 0 15 (dk_at dksJ6_inflate_0 9 rfl rfl)
theorem dJ6_inflate_12 : decode cJ6_inflate 12 = .ok (.arraylength, 1) := dk_190 (dk_at dksJ6_inflate_0 12 rfl rfl)
theorem dJ6_inflate_13 : decode cJ6_inflate 13 = .ok (.invokestatic 26, 3) := dk_184 0 26 (dk_at dksJ6_inflate_0 13 rfl rfl)
theorem dJ6_inflate_16 : decode cJ6_inflate 16 = .ok (.astore_n 1, 1) := dk_76 (dk_at dksJ6_inflate_0 16 rfl rfl)
theorem dJ6_inflate_17 : decode cJ6_inflate 17 = .ok (.aload_n 0, 1) := dk_42 (dk_at dksJ6_inflate_0 17 rfl rfl)
theorem dJ6_inflate_18 : decode cJ6_inflate 18 = .ok (.getfield 15, 3) := dk_180 0 15 (dk_at dksJ6_inflate_0 18 rfl rfl)
theorem dJ6_inflate_21 : decode cJ6_inflate 21 = .ok (.iconst 0, 1) := dk_3 (dk_at dksJ6_inflate_0 21 rfl rfl)
theorem dJ6_inflate_22 : decode cJ6_inflate 22 = .ok (.aload_n 1, 1) := dk_43 (dk_at dksJ6_inflate_0 22 rfl rfl)
theorem dJ6_inflate_23 : decode cJ6_inflate 23 = .ok (.iconst 0, 1) := dk_3 (dk_at dksJ6_inflate_0 23 rfl rfl)
theorem dJ6_inflate_24 : decode cJ6_inflate 24 = .ok (.aload_n 0, 1) := dk_42 (dk_at dksJ6_inflate_1 0 rfl rfl)
theorem dJ6_inflate_25 : decode cJ6_inflate 25 = .ok (.getfield 79, 3) := dk_180 0 79 (dk_at dksJ6_inflate_1 1 rfl rfl)
theorem dJ6_inflate_28 : decode cJ6_inflate 28 = .ok (.invokestatic 125, 3) := dk_184 0 125 (dk_at dksJ6_inflate_1 4 rfl rfl)
theorem dJ6_inflate_31 : decode cJ6_inflate 31 = .ok (.aload_n 0, 1) := dk_42 (dk_at dksJ6_inflate_1 7 rfl rfl)
theorem dJ6_inflate_32 : decode cJ6_inflate 32 = .ok (.aload_n 1, 1) := dk_43 (dk_at dksJ6_inflate_1 8 rfl rfl)
theorem dJ6_inflate_33 : decode cJ6_inflate 33 = .ok (.putfield 15, 3) := dk_181 0 15 (dk_at dksJ6_inflate_1 9 rfl rfl)
theorem dJ6_inflate_36 : decode cJ6_inflate 36 = .ok (.aload_n 0, 1) := dk_42 (dk_at dksJ6_inflate_1 12 rfl rfl)
theorem dJ6_inflate_37 : decode cJ6_inflate 37 = .ok (.iconst 1, 1) := dk_4 (dk_at dksJ6_inflate_1 13 rfl rfl)
theorem dJ6_inflate_38 : decode cJ6_inflate 38 = .ok (.putfield 22, 3) := dk_181 0 22 (dk_at dksJ6_inflate_1 14 rfl rfl)
theorem dJ6_inflate_41 : decode cJ6_inflate 41 = .ok (.return_, 1) := dk_177 (dk_at dksJ6_inflate_1 17 rfl rfl)
abbrev cJ6_append_2 : ByteArray := prog_11_method_32_code
def yJ6_append_2 : MethodName := ⟨RJ6, "append", "(I)Ljava/lang/AbstractStringBuilder;"⟩
def dkwJ6_append_2_2 : List UInt8 := [42, 29, 181, 0, 79, 42, 176]
abbrev dktJ6_append_2_2 : List UInt8 := dkwJ6_append_2_2 ++ []
def dkwJ6_append_2_1 : List UInt8 := [27, 29, 42, 180, 0, 15, 184, 0, 248, 87, 167, 0, 14, 27, 28, 29, 42, 180, 0, 15, 184, 0, 251, 87]
abbrev dktJ6_append_2_1 : List UInt8 := dkwJ6_append_2_1 ++ dktJ6_append_2_2
def dkwJ6_append_2_0 : List UInt8 := [42, 180, 0, 79, 61, 28, 27, 184, 0, 245, 96, 62, 42, 29, 182, 0, 100, 42, 182, 0, 83, 153, 0, 16]
abbrev dktJ6_append_2_0 : List UInt8 := dkwJ6_append_2_0 ++ dktJ6_append_2_1
theorem dksJ6_append_2_0 : cJ6_append_2.data.toList.drop 0 = dktJ6_append_2_0 := by decide +kernel
theorem dksJ6_append_2_1 : cJ6_append_2.data.toList.drop 24 = dktJ6_append_2_1 := dk_seg dksJ6_append_2_0 24 rfl rfl
theorem dksJ6_append_2_2 : cJ6_append_2.data.toList.drop 48 = dktJ6_append_2_2 := dk_seg dksJ6_append_2_1 24 rfl rfl
theorem dJ6_append_2_0 : decode cJ6_append_2 0 = .ok (.aload_n 0, 1) := dk_42 (dk_at dksJ6_append_2_0 0 rfl rfl)
theorem dJ6_append_2_1 : decode cJ6_append_2 1 = .ok (.getfield 79, 3) := dk_180 0 79 (dk_at dksJ6_append_2_0 1 rfl rfl)
theorem dJ6_append_2_4 : decode cJ6_append_2 4 = .ok (.istore_n 2, 1) := dk_61 (dk_at dksJ6_append_2_0 4 rfl rfl)
theorem dJ6_append_2_5 : decode cJ6_append_2 5 = .ok (.iload_n 2, 1) := dk_28 (dk_at dksJ6_append_2_0 5 rfl rfl)
theorem dJ6_append_2_6 : decode cJ6_append_2 6 = .ok (.iload_n 1, 1) := dk_27 (dk_at dksJ6_append_2_0 6 rfl rfl)
theorem dJ6_append_2_7 : decode cJ6_append_2 7 = .ok (.invokestatic 245, 3) := dk_184 0 245 (dk_at dksJ6_append_2_0 7 rfl rfl)
theorem dJ6_append_2_10 : decode cJ6_append_2 10 = .ok (.iadd, 1) := dk_96 (dk_at dksJ6_append_2_0 10 rfl rfl)
theorem dJ6_append_2_11 : decode cJ6_append_2 11 = .ok (.istore_n 3, 1) := dk_62 (dk_at dksJ6_append_2_0 11 rfl rfl)
theorem dJ6_append_2_12 : decode cJ6_append_2 12 = .ok (.aload_n 0, 1) := dk_42 (dk_at dksJ6_append_2_0 12 rfl rfl)
theorem dJ6_append_2_13 : decode cJ6_append_2 13 = .ok (.iload_n 3, 1) := dk_29 (dk_at dksJ6_append_2_0 13 rfl rfl)
theorem dJ6_append_2_14 : decode cJ6_append_2 14 = .ok (.invokevirtual 100, 3) := dk_182 0 100 (dk_at dksJ6_append_2_0 14 rfl rfl)
theorem dJ6_append_2_17 : decode cJ6_append_2 17 = .ok (.aload_n 0, 1) := dk_42 (dk_at dksJ6_append_2_0 17 rfl rfl)
theorem dJ6_append_2_18 : decode cJ6_append_2 18 = .ok (.invokevirtual 83, 3) := dk_182 0 83 (dk_at dksJ6_append_2_0 18 rfl rfl)
theorem dJ6_append_2_21 : decode cJ6_append_2 21 = .ok (.ifCond .eq 16, 3) := dk_153 0 16 (dk_at dksJ6_append_2_0 21 rfl rfl)
theorem dJ6_append_2_24 : decode cJ6_append_2 24 = .ok (.iload_n 1, 1) := dk_27 (dk_at dksJ6_append_2_1 0 rfl rfl)
theorem dJ6_append_2_25 : decode cJ6_append_2 25 = .ok (.iload_n 3, 1) := dk_29 (dk_at dksJ6_append_2_1 1 rfl rfl)
theorem dJ6_append_2_26 : decode cJ6_append_2 26 = .ok (.aload_n 0, 1) := dk_42 (dk_at dksJ6_append_2_1 2 rfl rfl)
theorem dJ6_append_2_27 : decode cJ6_append_2 27 = .ok (.getfield 15, 3) := dk_180 0 15 (dk_at dksJ6_append_2_1 3 rfl rfl)
theorem dJ6_append_2_30 : decode cJ6_append_2 30 = .ok (.invokestatic 248, 3) := dk_184 0 248 (dk_at dksJ6_append_2_1 6 rfl rfl)
theorem dJ6_append_2_33 : decode cJ6_append_2 33 = .ok (.pop, 1) := dk_87 (dk_at dksJ6_append_2_1 9 rfl rfl)
theorem dJ6_append_2_34 : decode cJ6_append_2 34 = .ok (.goto 14, 3) := dk_167 0 14 (dk_at dksJ6_append_2_1 10 rfl rfl)
theorem dJ6_append_2_37 : decode cJ6_append_2 37 = .ok (.iload_n 1, 1) := dk_27 (dk_at dksJ6_append_2_1 13 rfl rfl)
theorem dJ6_append_2_38 : decode cJ6_append_2 38 = .ok (.iload_n 2, 1) := dk_28 (dk_at dksJ6_append_2_1 14 rfl rfl)
theorem dJ6_append_2_39 : decode cJ6_append_2 39 = .ok (.iload_n 3, 1) := dk_29 (dk_at dksJ6_append_2_1 15 rfl rfl)
theorem dJ6_append_2_40 : decode cJ6_append_2 40 = .ok (.aload_n 0, 1) := dk_42 (dk_at dksJ6_append_2_1 16 rfl rfl)
theorem dJ6_append_2_41 : decode cJ6_append_2 41 = .ok (.getfield 15, 3) := dk_180 0 15 (dk_at dksJ6_append_2_1 17 rfl rfl)
theorem dJ6_append_2_44 : decode cJ6_append_2 44 = .ok (.invokestatic 251, 3) := dk_184 0 251 (dk_at dksJ6_append_2_1 20 rfl rfl)
theorem dJ6_append_2_47 : decode cJ6_append_2 47 = .ok (.pop, 1) := dk_87 (dk_at dksJ6_append_2_1 23 rfl rfl)
theorem dJ6_append_2_48 : decode cJ6_append_2 48 = .ok (.aload_n 0, 1) := dk_42 (dk_at dksJ6_append_2_2 0 rfl rfl)
theorem dJ6_append_2_49 : decode cJ6_append_2 49 = .ok (.iload_n 3, 1) := dk_29 (dk_at dksJ6_append_2_2 1 rfl rfl)
theorem dJ6_append_2_50 : decode cJ6_append_2 50 = .ok (.putfield 79, 3) := dk_181 0 79 (dk_at dksJ6_append_2_2 2 rfl rfl)
theorem dJ6_append_2_53 : decode cJ6_append_2 53 = .ok (.aload_n 0, 1) := dk_42 (dk_at dksJ6_append_2_2 5 rfl rfl)
theorem dJ6_append_2_54 : decode cJ6_append_2 54 = .ok (.areturn, 1) := dk_176 (dk_at dksJ6_append_2_2 6 rfl rfl)
abbrev cJ6_getValue : ByteArray := prog_11_method_64_code
def yJ6_getValue : MethodName := ⟨RJ6, "getValue", "()[B"⟩
theorem dJ6_getValue_0 : decode cJ6_getValue 0 = .ok (.aload_n 0, 1) := by decide +kernel
theorem dJ6_getValue_1 : decode cJ6_getValue 1 = .ok (.getfield 15, 3) := by decide +kernel
theorem dJ6_getValue_4 : decode cJ6_getValue 4 = .ok (.areturn, 1) := by decide +kernel
abbrev cJ6_length : ByteArray := prog_11_method_6_code
def yJ6_length : MethodName := ⟨RJ6, "length", "()I"⟩
theorem dJ6_length_0 : decode cJ6_length 0 = .ok (.aload_n 0, 1) := by decide +kernel
theorem dJ6_length_1 : decode cJ6_length 1 = .ok (.getfield 79, 3) := by decide +kernel
theorem dJ6_length_4 : decode cJ6_length 4 = .ok (.ireturn, 1) := by decide +kernel
abbrev cJ6_setLength : ByteArray := prog_11_method_13_code
def yJ6_setLength : MethodName := ⟨RJ6, "setLength", "(I)V"⟩
def dkwJ6_setLength_3 : List UInt8 := [164, 0, 8, 42, 4, 181, 0, 73, 42, 27, 181, 0, 79, 177]
abbrev dktJ6_setLength_3 : List UInt8 := dkwJ6_setLength_3 ++ []
def dkwJ6_setLength_2 : List UInt8 := [167, 0, 31, 42, 180, 0, 15, 42, 180, 0, 79, 27, 184, 0, 137, 167, 0, 16, 42, 180, 0, 79, 27]
abbrev dktJ6_setLength_2 : List UInt8 := dkwJ6_setLength_2 ++ dktJ6_setLength_3
def dkwJ6_setLength_1 : List UInt8 := [162, 0, 40, 42, 182, 0, 83, 153, 0, 18, 42, 180, 0, 15, 42, 180, 0, 79, 27, 184, 0, 133]
abbrev dktJ6_setLength_1 : List UInt8 := dkwJ6_setLength_1 ++ dktJ6_setLength_2
def dkwJ6_setLength_0 : List UInt8 := [27, 156, 0, 12, 187, 0, 129, 89, 27, 183, 0, 131, 191, 42, 27, 182, 0, 100, 42, 180, 0, 79, 27]
abbrev dktJ6_setLength_0 : List UInt8 := dkwJ6_setLength_0 ++ dktJ6_setLength_1
theorem dksJ6_setLength_0 : cJ6_setLength.data.toList.drop 0 = dktJ6_setLength_0 := by decide +kernel
theorem dksJ6_setLength_1 : cJ6_setLength.data.toList.drop 23 = dktJ6_setLength_1 := dk_seg dksJ6_setLength_0 23 rfl rfl
theorem dksJ6_setLength_2 : cJ6_setLength.data.toList.drop 45 = dktJ6_setLength_2 := dk_seg dksJ6_setLength_1 22 rfl rfl
theorem dksJ6_setLength_3 : cJ6_setLength.data.toList.drop 68 = dktJ6_setLength_3 := dk_seg dksJ6_setLength_2 23 rfl rfl
theorem dJ6_setLength_0 : decode cJ6_setLength 0 = .ok (.iload_n 1, 1) := dk_27 (dk_at dksJ6_setLength_0 0 rfl rfl)
theorem dJ6_setLength_1 : decode cJ6_setLength 1 = .ok (.ifCond .ge 12, 3) := dk_156 0 12 (dk_at dksJ6_setLength_0 1 rfl rfl)
theorem dJ6_setLength_4 : decode cJ6_setLength 4 = .ok (.new 129, 3) := dk_187 0 129 (dk_at dksJ6_setLength_0 4 rfl rfl)
theorem dJ6_setLength_7 : decode cJ6_setLength 7 = .ok (.dup, 1) := dk_89 (dk_at dksJ6_setLength_0 7 rfl rfl)
theorem dJ6_setLength_8 : decode cJ6_setLength 8 = .ok (.iload_n 1, 1) := dk_27 (dk_at dksJ6_setLength_0 8 rfl rfl)
theorem dJ6_setLength_9 : decode cJ6_setLength 9 = .ok (.invokespecial 131, 3) := dk_183 0 131 (dk_at dksJ6_setLength_0 9 rfl rfl)
theorem dJ6_setLength_12 : decode cJ6_setLength 12 = .ok (.athrow, 1) := dk_191 (dk_at dksJ6_setLength_0 12 rfl rfl)
theorem dJ6_setLength_13 : decode cJ6_setLength 13 = .ok (.aload_n 0, 1) := dk_42 (dk_at dksJ6_setLength_0 13 rfl rfl)
theorem dJ6_setLength_14 : decode cJ6_setLength 14 = .ok (.iload_n 1, 1) := dk_27 (dk_at dksJ6_setLength_0 14 rfl rfl)
theorem dJ6_setLength_15 : decode cJ6_setLength 15 = .ok (.invokevirtual 100, 3) := dk_182 0 100 (dk_at dksJ6_setLength_0 15 rfl rfl)
theorem dJ6_setLength_18 : decode cJ6_setLength 18 = .ok (.aload_n 0, 1) := dk_42 (dk_at dksJ6_setLength_0 18 rfl rfl)
theorem dJ6_setLength_19 : decode cJ6_setLength 19 = .ok (.getfield 79, 3) := dk_180 0 79 (dk_at dksJ6_setLength_0 19 rfl rfl)
theorem dJ6_setLength_22 : decode cJ6_setLength 22 = .ok (.iload_n 1, 1) := dk_27 (dk_at dksJ6_setLength_0 22 rfl rfl)
theorem dJ6_setLength_23 : decode cJ6_setLength 23 = .ok (.if_icmp .ge 40, 3) := dk_162 0 40 (dk_at dksJ6_setLength_1 0 rfl rfl)
theorem dJ6_setLength_26 : decode cJ6_setLength 26 = .ok (.aload_n 0, 1) := dk_42 (dk_at dksJ6_setLength_1 3 rfl rfl)
theorem dJ6_setLength_27 : decode cJ6_setLength 27 = .ok (.invokevirtual 83, 3) := dk_182 0 83 (dk_at dksJ6_setLength_1 4 rfl rfl)
theorem dJ6_setLength_30 : decode cJ6_setLength 30 = .ok (.ifCond .eq 18, 3) := dk_153 0 18 (dk_at dksJ6_setLength_1 7 rfl rfl)
theorem dJ6_setLength_33 : decode cJ6_setLength 33 = .ok (.aload_n 0, 1) := dk_42 (dk_at dksJ6_setLength_1 10 rfl rfl)
theorem dJ6_setLength_34 : decode cJ6_setLength 34 = .ok (.getfield 15, 3) := dk_180 0 15 (dk_at dksJ6_setLength_1 11 rfl rfl)
theorem dJ6_setLength_37 : decode cJ6_setLength 37 = .ok (.aload_n 0, 1) := dk_42 (dk_at dksJ6_setLength_1 14 rfl rfl)
theorem dJ6_setLength_38 : decode cJ6_setLength 38 = .ok (.getfield 79, 3) := dk_180 0 79 (dk_at dksJ6_setLength_1 15 rfl rfl)
theorem dJ6_setLength_41 : decode cJ6_setLength 41 = .ok (.iload_n 1, 1) := dk_27 (dk_at dksJ6_setLength_1 18 rfl rfl)
theorem dJ6_setLength_42 : decode cJ6_setLength 42 = .ok (.invokestatic 133, 3) := dk_184 0 133 (dk_at dksJ6_setLength_1 19 rfl rfl)
theorem dJ6_setLength_45 : decode cJ6_setLength 45 = .ok (.goto 31, 3) := dk_167 0 31 (dk_at dksJ6_setLength_2 0 rfl rfl)
theorem dJ6_setLength_48 : decode cJ6_setLength 48 = .ok (.aload_n 0, 1) := dk_42 (dk_at dksJ6_setLength_2 3 rfl rfl)
theorem dJ6_setLength_49 : decode cJ6_setLength 49 = .ok (.getfield 15, 3) := dk_180 0 15 (dk_at dksJ6_setLength_2 4 rfl rfl)
theorem dJ6_setLength_52 : decode cJ6_setLength 52 = .ok (.aload_n 0, 1) := dk_42 (dk_at dksJ6_setLength_2 7 rfl rfl)
theorem dJ6_setLength_53 : decode cJ6_setLength 53 = .ok (.getfield 79, 3) := dk_180 0 79 (dk_at dksJ6_setLength_2 8 rfl rfl)
theorem dJ6_setLength_56 : decode cJ6_setLength 56 = .ok (.iload_n 1, 1) := dk_27 (dk_at dksJ6_setLength_2 11 rfl rfl)
theorem dJ6_setLength_57 : decode cJ6_setLength 57 = .ok (.invokestatic 137, 3) := dk_184 0 137 (dk_at dksJ6_setLength_2 12 rfl rfl)
theorem dJ6_setLength_60 : decode cJ6_setLength 60 = .ok (.goto 16, 3) := dk_167 0 16 (dk_at dksJ6_setLength_2 15 rfl rfl)
theorem dJ6_setLength_63 : decode cJ6_setLength 63 = .ok (.aload_n 0, 1) := dk_42 (dk_at dksJ6_setLength_2 18 rfl rfl)
theorem dJ6_setLength_64 : decode cJ6_setLength 64 = .ok (.getfield 79, 3) := dk_180 0 79 (dk_at dksJ6_setLength_2 19 rfl rfl)
theorem dJ6_setLength_67 : decode cJ6_setLength 67 = .ok (.iload_n 1, 1) := dk_27 (dk_at dksJ6_setLength_2 22 rfl rfl)
theorem dJ6_setLength_68 : decode cJ6_setLength 68 = .ok (.if_icmp .le 8, 3) := dk_164 0 8 (dk_at dksJ6_setLength_3 0 rfl rfl)
theorem dJ6_setLength_71 : decode cJ6_setLength 71 = .ok (.aload_n 0, 1) := dk_42 (dk_at dksJ6_setLength_3 3 rfl rfl)
theorem dJ6_setLength_72 : decode cJ6_setLength 72 = .ok (.iconst 1, 1) := dk_4 (dk_at dksJ6_setLength_3 4 rfl rfl)
theorem dJ6_setLength_73 : decode cJ6_setLength 73 = .ok (.putfield 73, 3) := dk_181 0 73 (dk_at dksJ6_setLength_3 5 rfl rfl)
theorem dJ6_setLength_76 : decode cJ6_setLength 76 = .ok (.aload_n 0, 1) := dk_42 (dk_at dksJ6_setLength_3 8 rfl rfl)
theorem dJ6_setLength_77 : decode cJ6_setLength 77 = .ok (.iload_n 1, 1) := dk_27 (dk_at dksJ6_setLength_3 9 rfl rfl)
theorem dJ6_setLength_78 : decode cJ6_setLength 78 = .ok (.putfield 79, 3) := dk_181 0 79 (dk_at dksJ6_setLength_3 10 rfl rfl)
theorem dJ6_setLength_81 : decode cJ6_setLength 81 = .ok (.return_, 1) := dk_177 (dk_at dksJ6_setLength_3 13 rfl rfl)
abbrev cJ6_append_3 : ByteArray := prog_11_method_31_code
def yJ6_append_3 : MethodName := ⟨RJ6, "append", "(C)Ljava/lang/AbstractStringBuilder;"⟩
def dkwJ6_append_3_3 : List UInt8 := [181, 0, 79, 27, 184, 0, 197, 42, 176]
abbrev dktJ6_append_3_3 : List UInt8 := dkwJ6_append_3_3 ++ []
def dkwJ6_append_3_2 : List UInt8 := [182, 0, 83, 153, 0, 7, 42, 182, 0, 195, 42, 180, 0, 15, 42, 89, 180, 0, 79, 90, 4, 96]
abbrev dktJ6_append_3_2 : List UInt8 := dkwJ6_append_3_2 ++ dktJ6_append_3_3
def dkwJ6_append_3_1 : List UInt8 := [42, 180, 0, 15, 42, 89, 180, 0, 79, 90, 4, 96, 181, 0, 79, 27, 145, 84, 167, 0, 33, 42]
abbrev dktJ6_append_3_1 : List UInt8 := dkwJ6_append_3_1 ++ dktJ6_append_3_2
def dkwJ6_append_3_0 : List UInt8 := [42, 42, 180, 0, 79, 4, 96, 182, 0, 100, 42, 182, 0, 83, 153, 0, 31, 27, 184, 0, 191, 153, 0, 24]
abbrev dktJ6_append_3_0 : List UInt8 := dkwJ6_append_3_0 ++ dktJ6_append_3_1
theorem dksJ6_append_3_0 : cJ6_append_3.data.toList.drop 0 = dktJ6_append_3_0 := by decide +kernel
theorem dksJ6_append_3_1 : cJ6_append_3.data.toList.drop 24 = dktJ6_append_3_1 := dk_seg dksJ6_append_3_0 24 rfl rfl
theorem dksJ6_append_3_2 : cJ6_append_3.data.toList.drop 46 = dktJ6_append_3_2 := dk_seg dksJ6_append_3_1 22 rfl rfl
theorem dksJ6_append_3_3 : cJ6_append_3.data.toList.drop 68 = dktJ6_append_3_3 := dk_seg dksJ6_append_3_2 22 rfl rfl
theorem dJ6_append_3_0 : decode cJ6_append_3 0 = .ok (.aload_n 0, 1) := dk_42 (dk_at dksJ6_append_3_0 0 rfl rfl)
theorem dJ6_append_3_1 : decode cJ6_append_3 1 = .ok (.aload_n 0, 1) := dk_42 (dk_at dksJ6_append_3_0 1 rfl rfl)
theorem dJ6_append_3_2 : decode cJ6_append_3 2 = .ok (.getfield 79, 3) := dk_180 0 79 (dk_at dksJ6_append_3_0 2 rfl rfl)
theorem dJ6_append_3_5 : decode cJ6_append_3 5 = .ok (.iconst 1, 1) := dk_4 (dk_at dksJ6_append_3_0 5 rfl rfl)
theorem dJ6_append_3_6 : decode cJ6_append_3 6 = .ok (.iadd, 1) := dk_96 (dk_at dksJ6_append_3_0 6 rfl rfl)
theorem dJ6_append_3_7 : decode cJ6_append_3 7 = .ok (.invokevirtual 100, 3) := dk_182 0 100 (dk_at dksJ6_append_3_0 7 rfl rfl)
theorem dJ6_append_3_10 : decode cJ6_append_3 10 = .ok (.aload_n 0, 1) := dk_42 (dk_at dksJ6_append_3_0 10 rfl rfl)
theorem dJ6_append_3_11 : decode cJ6_append_3 11 = .ok (.invokevirtual 83, 3) := dk_182 0 83 (dk_at dksJ6_append_3_0 11 rfl rfl)
theorem dJ6_append_3_14 : decode cJ6_append_3 14 = .ok (.ifCond .eq 31, 3) := dk_153 0 31 (dk_at dksJ6_append_3_0 14 rfl rfl)
theorem dJ6_append_3_17 : decode cJ6_append_3 17 = .ok (.iload_n 1, 1) := dk_27 (dk_at dksJ6_append_3_0 17 rfl rfl)
theorem dJ6_append_3_18 : decode cJ6_append_3 18 = .ok (.invokestatic 191, 3) := dk_184 0 191 (dk_at dksJ6_append_3_0 18 rfl rfl)
theorem dJ6_append_3_21 : decode cJ6_append_3 21 = .ok (.ifCond .eq 24, 3) := dk_153 0 24 (dk_at dksJ6_append_3_0 21 rfl rfl)
theorem dJ6_append_3_24 : decode cJ6_append_3 24 = .ok (.aload_n 0, 1) := dk_42 (dk_at dksJ6_append_3_1 0 rfl rfl)
theorem dJ6_append_3_25 : decode cJ6_append_3 25 = .ok (.getfield 15, 3) := dk_180 0 15 (dk_at dksJ6_append_3_1 1 rfl rfl)
theorem dJ6_append_3_28 : decode cJ6_append_3 28 = .ok (.aload_n 0, 1) := dk_42 (dk_at dksJ6_append_3_1 4 rfl rfl)
theorem dJ6_append_3_29 : decode cJ6_append_3 29 = .ok (.dup, 1) := dk_89 (dk_at dksJ6_append_3_1 5 rfl rfl)
theorem dJ6_append_3_30 : decode cJ6_append_3 30 = .ok (.getfield 79, 3) := dk_180 0 79 (dk_at dksJ6_append_3_1 6 rfl rfl)
theorem dJ6_append_3_33 : decode cJ6_append_3 33 = .ok (.dup_x1, 1) := dk_90 (dk_at dksJ6_append_3_1 9 rfl rfl)
theorem dJ6_append_3_34 : decode cJ6_append_3 34 = .ok (.iconst 1, 1) := dk_4 (dk_at dksJ6_append_3_1 10 rfl rfl)
theorem dJ6_append_3_35 : decode cJ6_append_3 35 = .ok (.iadd, 1) := dk_96 (dk_at dksJ6_append_3_1 11 rfl rfl)
theorem dJ6_append_3_36 : decode cJ6_append_3 36 = .ok (.putfield 79, 3) := dk_181 0 79 (dk_at dksJ6_append_3_1 12 rfl rfl)
theorem dJ6_append_3_39 : decode cJ6_append_3 39 = .ok (.iload_n 1, 1) := dk_27 (dk_at dksJ6_append_3_1 15 rfl rfl)
theorem dJ6_append_3_40 : decode cJ6_append_3 40 = .ok (.i2b, 1) := dk_145 (dk_at dksJ6_append_3_1 16 rfl rfl)
theorem dJ6_append_3_41 : decode cJ6_append_3 41 = .ok (.bastore, 1) := dk_84 (dk_at dksJ6_append_3_1 17 rfl rfl)
theorem dJ6_append_3_42 : decode cJ6_append_3 42 = .ok (.goto 33, 3) := dk_167 0 33 (dk_at dksJ6_append_3_1 18 rfl rfl)
theorem dJ6_append_3_45 : decode cJ6_append_3 45 = .ok (.aload_n 0, 1) := dk_42 (dk_at dksJ6_append_3_1 21 rfl rfl)
theorem dJ6_append_3_46 : decode cJ6_append_3 46 = .ok (.invokevirtual 83, 3) := dk_182 0 83 (dk_at dksJ6_append_3_2 0 rfl rfl)
theorem dJ6_append_3_49 : decode cJ6_append_3 49 = .ok (.ifCond .eq 7, 3) := dk_153 0 7 (dk_at dksJ6_append_3_2 3 rfl rfl)
theorem dJ6_append_3_52 : decode cJ6_append_3 52 = .ok (.aload_n 0, 1) := dk_42 (dk_at dksJ6_append_3_2 6 rfl rfl)
theorem dJ6_append_3_53 : decode cJ6_append_3 53 = .ok (.invokevirtual 195, 3) := dk_182 0 195 (dk_at dksJ6_append_3_2 7 rfl rfl)
theorem dJ6_append_3_56 : decode cJ6_append_3 56 = .ok (.aload_n 0, 1) := dk_42 (dk_at dksJ6_append_3_2 10 rfl rfl)
theorem dJ6_append_3_57 : decode cJ6_append_3 57 = .ok (.getfield 15, 3) := dk_180 0 15 (dk_at dksJ6_append_3_2 11 rfl rfl)
theorem dJ6_append_3_60 : decode cJ6_append_3 60 = .ok (.aload_n 0, 1) := dk_42 (dk_at dksJ6_append_3_2 14 rfl rfl)
theorem dJ6_append_3_61 : decode cJ6_append_3 61 = .ok (.dup, 1) := dk_89 (dk_at dksJ6_append_3_2 15 rfl rfl)
theorem dJ6_append_3_62 : decode cJ6_append_3 62 = .ok (.getfield 79, 3) := dk_180 0 79 (dk_at dksJ6_append_3_2 16 rfl rfl)
theorem dJ6_append_3_65 : decode cJ6_append_3 65 = .ok (.dup_x1, 1) := dk_90 (dk_at dksJ6_append_3_2 19 rfl rfl)
theorem dJ6_append_3_66 : decode cJ6_append_3 66 = .ok (.iconst 1, 1) := dk_4 (dk_at dksJ6_append_3_2 20 rfl rfl)
theorem dJ6_append_3_67 : decode cJ6_append_3 67 = .ok (.iadd, 1) := dk_96 (dk_at dksJ6_append_3_2 21 rfl rfl)
theorem dJ6_append_3_68 : decode cJ6_append_3 68 = .ok (.putfield 79, 3) := dk_181 0 79 (dk_at dksJ6_append_3_3 0 rfl rfl)
theorem dJ6_append_3_71 : decode cJ6_append_3 71 = .ok (.iload_n 1, 1) := dk_27 (dk_at dksJ6_append_3_3 3 rfl rfl)
theorem dJ6_append_3_72 : decode cJ6_append_3 72 = .ok (.invokestatic 197, 3) := dk_184 0 197 (dk_at dksJ6_append_3_3 4 rfl rfl)
theorem dJ6_append_3_75 : decode cJ6_append_3 75 = .ok (.aload_n 0, 1) := dk_42 (dk_at dksJ6_append_3_3 7 rfl rfl)
theorem dJ6_append_3_76 : decode cJ6_append_3 76 = .ok (.areturn, 1) := dk_176 (dk_at dksJ6_append_3_3 8 rfl rfl)
abbrev cJ6_charAt : ByteArray := prog_11_method_14_code
def yJ6_charAt : MethodName := ⟨RJ6, "charAt", "(I)C"⟩
def dkwJ6_charAt_1 : List UInt8 := [21, 4, 184, 0, 144, 28, 154, 0, 12, 45, 27, 51, 17, 0, 255, 126, 146, 172, 45, 27, 184, 0, 148, 172]
abbrev dktJ6_charAt_1 : List UInt8 := dkwJ6_charAt_1 ++ []
def dkwJ6_charAt_0 : List UInt8 := [42, 180, 0, 22, 61, 42, 180, 0, 15, 78, 42, 180, 0, 79, 45, 190, 28, 122, 184, 0, 138, 54, 4, 27]
abbrev dktJ6_charAt_0 : List UInt8 := dkwJ6_charAt_0 ++ dktJ6_charAt_1
theorem dksJ6_charAt_0 : cJ6_charAt.data.toList.drop 0 = dktJ6_charAt_0 := by decide +kernel
theorem dksJ6_charAt_1 : cJ6_charAt.data.toList.drop 24 = dktJ6_charAt_1 := dk_seg dksJ6_charAt_0 24 rfl rfl
theorem dJ6_charAt_0 : decode cJ6_charAt 0 = .ok (.aload_n 0, 1) := dk_42 (dk_at dksJ6_charAt_0 0 rfl rfl)
theorem dJ6_charAt_1 : decode cJ6_charAt 1 = .ok (.getfield 22, 3) := dk_180 0 22 (dk_at dksJ6_charAt_0 1 rfl rfl)
theorem dJ6_charAt_4 : decode cJ6_charAt 4 = .ok (.istore_n 2, 1) := dk_61 (dk_at dksJ6_charAt_0 4 rfl rfl)
theorem dJ6_charAt_5 : decode cJ6_charAt 5 = .ok (.aload_n 0, 1) := dk_42 (dk_at dksJ6_charAt_0 5 rfl rfl)
theorem dJ6_charAt_6 : decode cJ6_charAt 6 = .ok (.getfield 15, 3) := dk_180 0 15 (dk_at dksJ6_charAt_0 6 rfl rfl)
theorem dJ6_charAt_9 : decode cJ6_charAt 9 = .ok (.astore_n 3, 1) := dk_78 (dk_at dksJ6_charAt_0 9 rfl rfl)
theorem dJ6_charAt_10 : decode cJ6_charAt 10 = .ok (.aload_n 0, 1) := dk_42 (dk_at dksJ6_charAt_0 10 rfl rfl)
theorem dJ6_charAt_11 : decode cJ6_charAt 11 = .ok (.getfield 79, 3) := dk_180 0 79 (dk_at dksJ6_charAt_0 11 rfl rfl)
theorem dJ6_charAt_14 : decode cJ6_charAt 14 = .ok (.aload_n 3, 1) := dk_45 (dk_at dksJ6_charAt_0 14 rfl rfl)
theorem dJ6_charAt_15 : decode cJ6_charAt 15 = .ok (.arraylength, 1) := dk_190 (dk_at dksJ6_charAt_0 15 rfl rfl)
theorem dJ6_charAt_16 : decode cJ6_charAt 16 = .ok (.iload_n 2, 1) := dk_28 (dk_at dksJ6_charAt_0 16 rfl rfl)
theorem dJ6_charAt_17 : decode cJ6_charAt 17 = .ok (.ishr, 1) := dk_122 (dk_at dksJ6_charAt_0 17 rfl rfl)
theorem dJ6_charAt_18 : decode cJ6_charAt 18 = .ok (.invokestatic 138, 3) := dk_184 0 138 (dk_at dksJ6_charAt_0 18 rfl rfl)
theorem dJ6_charAt_21 : decode cJ6_charAt 21 = .ok (.istore 4, 2) := dk_54 4 (dk_at dksJ6_charAt_0 21 rfl rfl)
theorem dJ6_charAt_23 : decode cJ6_charAt 23 = .ok (.iload_n 1, 1) := dk_27 (dk_at dksJ6_charAt_0 23 rfl rfl)
theorem dJ6_charAt_24 : decode cJ6_charAt 24 = .ok (.iload 4, 2) := dk_21 4 (dk_at dksJ6_charAt_1 0 rfl rfl)
theorem dJ6_charAt_26 : decode cJ6_charAt 26 = .ok (.invokestatic 144, 3) := dk_184 0 144 (dk_at dksJ6_charAt_1 2 rfl rfl)
theorem dJ6_charAt_29 : decode cJ6_charAt 29 = .ok (.iload_n 2, 1) := dk_28 (dk_at dksJ6_charAt_1 5 rfl rfl)
theorem dJ6_charAt_30 : decode cJ6_charAt 30 = .ok (.ifCond .ne 12, 3) := dk_154 0 12 (dk_at dksJ6_charAt_1 6 rfl rfl)
theorem dJ6_charAt_33 : decode cJ6_charAt 33 = .ok (.aload_n 3, 1) := dk_45 (dk_at dksJ6_charAt_1 9 rfl rfl)
theorem dJ6_charAt_34 : decode cJ6_charAt 34 = .ok (.iload_n 1, 1) := dk_27 (dk_at dksJ6_charAt_1 10 rfl rfl)
theorem dJ6_charAt_35 : decode cJ6_charAt 35 = .ok (.baload, 1) := dk_51 (dk_at dksJ6_charAt_1 11 rfl rfl)
theorem dJ6_charAt_36 : decode cJ6_charAt 36 = .ok (.sipush 255, 3) := dk_17 0 255 (dk_at dksJ6_charAt_1 12 rfl rfl)
theorem dJ6_charAt_39 : decode cJ6_charAt 39 = .ok (.iand, 1) := dk_126 (dk_at dksJ6_charAt_1 15 rfl rfl)
theorem dJ6_charAt_40 : decode cJ6_charAt 40 = .ok (.i2c, 1) := dk_146 (dk_at dksJ6_charAt_1 16 rfl rfl)
theorem dJ6_charAt_41 : decode cJ6_charAt 41 = .ok (.ireturn, 1) := dk_172 (dk_at dksJ6_charAt_1 17 rfl rfl)
theorem dJ6_charAt_42 : decode cJ6_charAt 42 = .ok (.aload_n 3, 1) := dk_45 (dk_at dksJ6_charAt_1 18 rfl rfl)
theorem dJ6_charAt_43 : decode cJ6_charAt 43 = .ok (.iload_n 1, 1) := dk_27 (dk_at dksJ6_charAt_1 19 rfl rfl)
theorem dJ6_charAt_44 : decode cJ6_charAt 44 = .ok (.invokestatic 148, 3) := dk_184 0 148 (dk_at dksJ6_charAt_1 20 rfl rfl)
theorem dJ6_charAt_47 : decode cJ6_charAt 47 = .ok (.ireturn, 1) := dk_172 (dk_at dksJ6_charAt_1 23 rfl rfl)
abbrev cJ7_init : ByteArray := prog_30_method_1_code
def yJ7_init : MethodName := ⟨RJ7, "<init>", "()V"⟩
def dkwJ7_init_0 : List UInt8 := [42, 16, 16, 183, 0, 1, 177]
abbrev dktJ7_init_0 : List UInt8 := dkwJ7_init_0 ++ []
theorem dksJ7_init_0 : cJ7_init.data.toList.drop 0 = dktJ7_init_0 := by decide +kernel
theorem dJ7_init_0 : decode cJ7_init 0 = .ok (.aload_n 0, 1) := dk_42 (dk_at dksJ7_init_0 0 rfl rfl)
theorem dJ7_init_1 : decode cJ7_init 1 = .ok (.bipush 16, 2) := dk_16 16 (dk_at dksJ7_init_0 1 rfl rfl)
theorem dJ7_init_3 : decode cJ7_init 3 = .ok (.invokespecial 1, 3) := dk_183 0 1 (dk_at dksJ7_init_0 3 rfl rfl)
theorem dJ7_init_6 : decode cJ7_init 6 = .ok (.return_, 1) := dk_177 (dk_at dksJ7_init_0 6 rfl rfl)
abbrev cJ7_append : ByteArray := prog_30_method_7_code
def yJ7_append : MethodName := ⟨RJ7, "append", "(Ljava/lang/String;)Ljava/lang/StringBuilder;"⟩
def dkwJ7_append_0 : List UInt8 := [42, 43, 183, 0, 29, 87, 42, 176]
abbrev dktJ7_append_0 : List UInt8 := dkwJ7_append_0 ++ []
theorem dksJ7_append_0 : cJ7_append.data.toList.drop 0 = dktJ7_append_0 := by decide +kernel
theorem dJ7_append_0 : decode cJ7_append 0 = .ok (.aload_n 0, 1) := dk_42 (dk_at dksJ7_append_0 0 rfl rfl)
theorem dJ7_append_1 : decode cJ7_append 1 = .ok (.aload_n 1, 1) := dk_43 (dk_at dksJ7_append_0 1 rfl rfl)
theorem dJ7_append_2 : decode cJ7_append 2 = .ok (.invokespecial 29, 3) := dk_183 0 29 (dk_at dksJ7_append_0 2 rfl rfl)
theorem dJ7_append_5 : decode cJ7_append 5 = .ok (.pop, 1) := dk_87 (dk_at dksJ7_append_0 5 rfl rfl)
theorem dJ7_append_6 : decode cJ7_append 6 = .ok (.aload_n 0, 1) := dk_42 (dk_at dksJ7_append_0 6 rfl rfl)
theorem dJ7_append_7 : decode cJ7_append 7 = .ok (.areturn, 1) := dk_176 (dk_at dksJ7_append_0 7 rfl rfl)
abbrev cJ7_append_2 : ByteArray := prog_30_method_15_code
def yJ7_append_2 : MethodName := ⟨RJ7, "append", "(I)Ljava/lang/StringBuilder;"⟩
def dkwJ7_append_2_0 : List UInt8 := [42, 27, 183, 0, 53, 87, 42, 176]
abbrev dktJ7_append_2_0 : List UInt8 := dkwJ7_append_2_0 ++ []
theorem dksJ7_append_2_0 : cJ7_append_2.data.toList.drop 0 = dktJ7_append_2_0 := by decide +kernel
theorem dJ7_append_2_0 : decode cJ7_append_2 0 = .ok (.aload_n 0, 1) := dk_42 (dk_at dksJ7_append_2_0 0 rfl rfl)
theorem dJ7_append_2_1 : decode cJ7_append_2 1 = .ok (.iload_n 1, 1) := dk_27 (dk_at dksJ7_append_2_0 1 rfl rfl)
theorem dJ7_append_2_2 : decode cJ7_append_2 2 = .ok (.invokespecial 53, 3) := dk_183 0 53 (dk_at dksJ7_append_2_0 2 rfl rfl)
theorem dJ7_append_2_5 : decode cJ7_append_2 5 = .ok (.pop, 1) := dk_87 (dk_at dksJ7_append_2_0 5 rfl rfl)
theorem dJ7_append_2_6 : decode cJ7_append_2 6 = .ok (.aload_n 0, 1) := dk_42 (dk_at dksJ7_append_2_0 6 rfl rfl)
theorem dJ7_append_2_7 : decode cJ7_append_2 7 = .ok (.areturn, 1) := dk_176 (dk_at dksJ7_append_2_0 7 rfl rfl)
abbrev cJ7_toString : ByteArray := prog_30_method_42_code
def yJ7_toString : MethodName := ⟨RJ7, "toString", "()Ljava/lang/String;"⟩
def dkwJ7_toString_0 : List UInt8 := [187, 0, 18, 89, 42, 183, 0, 137, 176]
abbrev dktJ7_toString_0 : List UInt8 := dkwJ7_toString_0 ++ []
theorem dksJ7_toString_0 : cJ7_toString.data.toList.drop 0 = dktJ7_toString_0 := by decide +kernel
theorem dJ7_toString_0 : decode cJ7_toString 0 = .ok (.new 18, 3) := dk_187 0 18 (dk_at dksJ7_toString_0 0 rfl rfl)
theorem dJ7_toString_3 : decode cJ7_toString 3 = .ok (.dup, 1) := dk_89 (dk_at dksJ7_toString_0 3 rfl rfl)
theorem dJ7_toString_4 : decode cJ7_toString 4 = .ok (.aload_n 0, 1) := dk_42 (dk_at dksJ7_toString_0 4 rfl rfl)
theorem dJ7_toString_5 : decode cJ7_toString 5 = .ok (.invokespecial 137, 3) := dk_183 0 137 (dk_at dksJ7_toString_0 5 rfl rfl)
theorem dJ7_toString_8 : decode cJ7_toString 8 = .ok (.areturn, 1) := dk_176 (dk_at dksJ7_toString_0 8 rfl rfl)
abbrev cJ7_length : ByteArray := prog_30_method_93_code
def yJ7_length : MethodName := ⟨RJ7, "length", "()I"⟩
theorem dJ7_length_0 : decode cJ7_length 0 = .ok (.aload_n 0, 1) := by decide +kernel
theorem dJ7_length_1 : decode cJ7_length 1 = .ok (.invokespecial 343, 3) := by decide +kernel
theorem dJ7_length_4 : decode cJ7_length 4 = .ok (.ireturn, 1) := by decide +kernel
abbrev cJ7_setLength : ByteArray := prog_30_method_89_code
def yJ7_setLength : MethodName := ⟨RJ7, "setLength", "(I)V"⟩
def dkwJ7_setLength_0 : List UInt8 := [42, 27, 183, 1, 77, 177]
abbrev dktJ7_setLength_0 : List UInt8 := dkwJ7_setLength_0 ++ []
theorem dksJ7_setLength_0 : cJ7_setLength.data.toList.drop 0 = dktJ7_setLength_0 := by decide +kernel
theorem dJ7_setLength_0 : decode cJ7_setLength 0 = .ok (.aload_n 0, 1) := dk_42 (dk_at dksJ7_setLength_0 0 rfl rfl)
theorem dJ7_setLength_1 : decode cJ7_setLength 1 = .ok (.iload_n 1, 1) := dk_27 (dk_at dksJ7_setLength_0 1 rfl rfl)
theorem dJ7_setLength_2 : decode cJ7_setLength 2 = .ok (.invokespecial 333, 3) := dk_183 1 77 (dk_at dksJ7_setLength_0 2 rfl rfl)
theorem dJ7_setLength_5 : decode cJ7_setLength 5 = .ok (.return_, 1) := dk_177 (dk_at dksJ7_setLength_0 5 rfl rfl)
abbrev cJ7_append_3 : ByteArray := prog_30_method_14_code
def yJ7_append_3 : MethodName := ⟨RJ7, "append", "(C)Ljava/lang/StringBuilder;"⟩
def dkwJ7_append_3_0 : List UInt8 := [42, 27, 183, 0, 50, 87, 42, 176]
abbrev dktJ7_append_3_0 : List UInt8 := dkwJ7_append_3_0 ++ []
theorem dksJ7_append_3_0 : cJ7_append_3.data.toList.drop 0 = dktJ7_append_3_0 := by decide +kernel
theorem dJ7_append_3_0 : decode cJ7_append_3 0 = .ok (.aload_n 0, 1) := dk_42 (dk_at dksJ7_append_3_0 0 rfl rfl)
theorem dJ7_append_3_1 : decode cJ7_append_3 1 = .ok (.iload_n 1, 1) := dk_27 (dk_at dksJ7_append_3_0 1 rfl rfl)
theorem dJ7_append_3_2 : decode cJ7_append_3 2 = .ok (.invokespecial 50, 3) := dk_183 0 50 (dk_at dksJ7_append_3_0 2 rfl rfl)
theorem dJ7_append_3_5 : decode cJ7_append_3 5 = .ok (.pop, 1) := dk_87 (dk_at dksJ7_append_3_0 5 rfl rfl)
theorem dJ7_append_3_6 : decode cJ7_append_3 6 = .ok (.aload_n 0, 1) := dk_42 (dk_at dksJ7_append_3_0 6 rfl rfl)
theorem dJ7_append_3_7 : decode cJ7_append_3 7 = .ok (.areturn, 1) := dk_176 (dk_at dksJ7_append_3_0 7 rfl rfl)
abbrev cJ7_charAt : ByteArray := prog_30_method_88_code
def yJ7_charAt : MethodName := ⟨RJ7, "charAt", "(I)C"⟩
def dkwJ7_charAt_0 : List UInt8 := [42, 27, 183, 1, 73, 172]
abbrev dktJ7_charAt_0 : List UInt8 := dkwJ7_charAt_0 ++ []
theorem dksJ7_charAt_0 : cJ7_charAt.data.toList.drop 0 = dktJ7_charAt_0 := by decide +kernel
theorem dJ7_charAt_0 : decode cJ7_charAt 0 = .ok (.aload_n 0, 1) := dk_42 (dk_at dksJ7_charAt_0 0 rfl rfl)
theorem dJ7_charAt_1 : decode cJ7_charAt 1 = .ok (.iload_n 1, 1) := dk_27 (dk_at dksJ7_charAt_0 1 rfl rfl)
theorem dJ7_charAt_2 : decode cJ7_charAt 2 = .ok (.invokespecial 329, 3) := dk_183 1 73 (dk_at dksJ7_charAt_0 2 rfl rfl)
theorem dJ7_charAt_5 : decode cJ7_charAt 5 = .ok (.ireturn, 1) := dk_172 (dk_at dksJ7_charAt_0 5 rfl rfl)
abbrev cJ8_checkBoundsBeginEnd : ByteArray := prog_29_method_158_code
def yJ8_checkBoundsBeginEnd : MethodName := ⟨RJ8, "checkBoundsBeginEnd", "(III)V"⟩
def dkwJ8_checkBoundsBeginEnd_0 : List UInt8 := [26, 27, 28, 178, 4, 29, 184, 4, 38, 87, 177]
abbrev dktJ8_checkBoundsBeginEnd_0 : List UInt8 := dkwJ8_checkBoundsBeginEnd_0 ++ []
theorem dksJ8_checkBoundsBeginEnd_0 : cJ8_checkBoundsBeginEnd.data.toList.drop 0 = dktJ8_checkBoundsBeginEnd_0 := by decide +kernel
theorem dJ8_checkBoundsBeginEnd_0 : decode cJ8_checkBoundsBeginEnd 0 = .ok (.iload_n 0, 1) := dk_26 (dk_at dksJ8_checkBoundsBeginEnd_0 0 rfl rfl)
theorem dJ8_checkBoundsBeginEnd_1 : decode cJ8_checkBoundsBeginEnd 1 = .ok (.iload_n 1, 1) := dk_27 (dk_at dksJ8_checkBoundsBeginEnd_0 1 rfl rfl)
theorem dJ8_checkBoundsBeginEnd_2 : decode cJ8_checkBoundsBeginEnd 2 = .ok (.iload_n 2, 1) := dk_28 (dk_at dksJ8_checkBoundsBeginEnd_0 2 rfl rfl)
theorem dJ8_checkBoundsBeginEnd_3 : decode cJ8_checkBoundsBeginEnd 3 = .ok (.getstatic 1053, 3) := dk_178 4 29 (dk_at dksJ8_checkBoundsBeginEnd_0 3 rfl rfl)
theorem dJ8_checkBoundsBeginEnd_6 : decode cJ8_checkBoundsBeginEnd 6 = .ok (.invokestatic 1062, 3) := dk_184 4 38 (dk_at dksJ8_checkBoundsBeginEnd_0 6 rfl rfl)
theorem dJ8_checkBoundsBeginEnd_9 : decode cJ8_checkBoundsBeginEnd 9 = .ok (.pop, 1) := dk_87 (dk_at dksJ8_checkBoundsBeginEnd_0 9 rfl rfl)
theorem dJ8_checkBoundsBeginEnd_10 : decode cJ8_checkBoundsBeginEnd 10 = .ok (.return_, 1) := dk_177 (dk_at dksJ8_checkBoundsBeginEnd_0 10 rfl rfl)
abbrev cJ8_length : ByteArray := prog_29_method_54_code
def yJ8_length : MethodName := ⟨RJ8, "length", "()I"⟩
def dkwJ8_length_0 : List UInt8 := [42, 180, 0, 9, 190, 42, 182, 1, 79, 122, 172]
abbrev dktJ8_length_0 : List UInt8 := dkwJ8_length_0 ++ []
theorem dksJ8_length_0 : cJ8_length.data.toList.drop 0 = dktJ8_length_0 := by decide +kernel
theorem dJ8_length_0 : decode cJ8_length 0 = .ok (.aload_n 0, 1) := dk_42 (dk_at dksJ8_length_0 0 rfl rfl)
theorem dJ8_length_1 : decode cJ8_length 1 = .ok (.getfield 9, 3) := dk_180 0 9 (dk_at dksJ8_length_0 1 rfl rfl)
theorem dJ8_length_4 : decode cJ8_length 4 = .ok (.arraylength, 1) := dk_190 (dk_at dksJ8_length_0 4 rfl rfl)
theorem dJ8_length_5 : decode cJ8_length 5 = .ok (.aload_n 0, 1) := dk_42 (dk_at dksJ8_length_0 5 rfl rfl)
theorem dJ8_length_6 : decode cJ8_length 6 = .ok (.invokevirtual 335, 3) := dk_182 1 79 (dk_at dksJ8_length_0 6 rfl rfl)
theorem dJ8_length_9 : decode cJ8_length 9 = .ok (.ishr, 1) := dk_122 (dk_at dksJ8_length_0 9 rfl rfl)
theorem dJ8_length_10 : decode cJ8_length 10 = .ok (.ireturn, 1) := dk_172 (dk_at dksJ8_length_0 10 rfl rfl)
abbrev cJ8_coder : ByteArray := prog_29_method_152_code
def yJ8_coder : MethodName := ⟨RJ8, "coder", "()B"⟩
def dkwJ8_coder_0 : List UInt8 := [178, 0, 38, 153, 0, 10, 42, 180, 0, 15, 167, 0, 4, 4, 172]
abbrev dktJ8_coder_0 : List UInt8 := dkwJ8_coder_0 ++ []
theorem dksJ8_coder_0 : cJ8_coder.data.toList.drop 0 = dktJ8_coder_0 := by decide +kernel
theorem dJ8_coder_0 : decode cJ8_coder 0 = .ok (.getstatic 38, 3) := dk_178 0 38 (dk_at dksJ8_coder_0 0 rfl rfl)
theorem dJ8_coder_3 : decode cJ8_coder 3 = .ok (.ifCond .eq 10, 3) := dk_153 0 10 (dk_at dksJ8_coder_0 3 rfl rfl)
theorem dJ8_coder_6 : decode cJ8_coder 6 = .ok (.aload_n 0, 1) := dk_42 (dk_at dksJ8_coder_0 6 rfl rfl)
theorem dJ8_coder_7 : decode cJ8_coder 7 = .ok (.getfield 15, 3) := dk_180 0 15 (dk_at dksJ8_coder_0 7 rfl rfl)
theorem dJ8_coder_10 : decode cJ8_coder 10 = .ok (.goto 4, 3) := dk_167 0 4 (dk_at dksJ8_coder_0 10 rfl rfl)
theorem dJ8_coder_13 : decode cJ8_coder 13 = .ok (.iconst 1, 1) := dk_4 (dk_at dksJ8_coder_0 13 rfl rfl)
theorem dJ8_coder_14 : decode cJ8_coder 14 = .ok (.ireturn, 1) := dk_172 (dk_at dksJ8_coder_0 14 rfl rfl)
abbrev cJ8_checkBoundsOffCount : ByteArray := prog_29_method_157_code
def yJ8_checkBoundsOffCount : MethodName := ⟨RJ8, "checkBoundsOffCount", "(III)I"⟩
def dkwJ8_checkBoundsOffCount_0 : List UInt8 := [26, 27, 28, 178, 4, 29, 184, 4, 41, 172]
abbrev dktJ8_checkBoundsOffCount_0 : List UInt8 := dkwJ8_checkBoundsOffCount_0 ++ []
theorem dksJ8_checkBoundsOffCount_0 : cJ8_checkBoundsOffCount.data.toList.drop 0 = dktJ8_checkBoundsOffCount_0 := by decide +kernel
theorem dJ8_checkBoundsOffCount_0 : decode cJ8_checkBoundsOffCount 0 = .ok (.iload_n 0, 1) := dk_26 (dk_at dksJ8_checkBoundsOffCount_0 0 rfl rfl)
theorem dJ8_checkBoundsOffCount_1 : decode cJ8_checkBoundsOffCount 1 = .ok (.iload_n 1, 1) := dk_27 (dk_at dksJ8_checkBoundsOffCount_0 1 rfl rfl)
theorem dJ8_checkBoundsOffCount_2 : decode cJ8_checkBoundsOffCount 2 = .ok (.iload_n 2, 1) := dk_28 (dk_at dksJ8_checkBoundsOffCount_0 2 rfl rfl)
theorem dJ8_checkBoundsOffCount_3 : decode cJ8_checkBoundsOffCount 3 = .ok (.getstatic 1053, 3) := dk_178 4 29 (dk_at dksJ8_checkBoundsOffCount_0 3 rfl rfl)
theorem dJ8_checkBoundsOffCount_6 : decode cJ8_checkBoundsOffCount 6 = .ok (.invokestatic 1065, 3) := dk_184 4 41 (dk_at dksJ8_checkBoundsOffCount_0 6 rfl rfl)
theorem dJ8_checkBoundsOffCount_9 : decode cJ8_checkBoundsOffCount 9 = .ok (.ireturn, 1) := dk_172 (dk_at dksJ8_checkBoundsOffCount_0 9 rfl rfl)
abbrev cJ8_getBytes : ByteArray := prog_29_method_147_code
def yJ8_getBytes : MethodName := ⟨RJ8, "getBytes", "([BIB)V"⟩
def dkwJ8_getBytes_1 : List UInt8 := [184, 0, 212, 167, 0, 18, 42, 180, 0, 9, 3, 43, 28, 42, 180, 0, 9, 190, 184, 0, 106, 177]
abbrev dktJ8_getBytes_1 : List UInt8 := dkwJ8_getBytes_1 ++ []
def dkwJ8_getBytes_0 : List UInt8 := [42, 182, 1, 79, 29, 160, 0, 23, 42, 180, 0, 9, 3, 43, 28, 29, 120, 42, 180, 0, 9, 190]
abbrev dktJ8_getBytes_0 : List UInt8 := dkwJ8_getBytes_0 ++ dktJ8_getBytes_1
theorem dksJ8_getBytes_0 : cJ8_getBytes.data.toList.drop 0 = dktJ8_getBytes_0 := by decide +kernel
theorem dksJ8_getBytes_1 : cJ8_getBytes.data.toList.drop 22 = dktJ8_getBytes_1 := dk_seg dksJ8_getBytes_0 22 rfl rfl
theorem dJ8_getBytes_0 : decode cJ8_getBytes 0 = .ok (.aload_n 0, 1) := dk_42 (dk_at dksJ8_getBytes_0 0 rfl rfl)
theorem dJ8_getBytes_1 : decode cJ8_getBytes 1 = .ok (.invokevirtual 335, 3) := dk_182 1 79 (dk_at dksJ8_getBytes_0 1 rfl rfl)
theorem dJ8_getBytes_4 : decode cJ8_getBytes 4 = .ok (.iload_n 3, 1) := dk_29 (dk_at dksJ8_getBytes_0 4 rfl rfl)
theorem dJ8_getBytes_5 : decode cJ8_getBytes 5 = .ok (.if_icmp .ne 23, 3) := dk_160 0 23 (dk_at dksJ8_getBytes_0 5 rfl rfl)
theorem dJ8_getBytes_8 : decode cJ8_getBytes 8 = .ok (.aload_n 0, 1) := dk_42 (dk_at dksJ8_getBytes_0 8 rfl rfl)
theorem dJ8_getBytes_9 : decode cJ8_getBytes 9 = .ok (.getfield 9, 3) := dk_180 0 9 (dk_at dksJ8_getBytes_0 9 rfl rfl)
theorem dJ8_getBytes_12 : decode cJ8_getBytes 12 = .ok (.iconst 0, 1) := dk_3 (dk_at dksJ8_getBytes_0 12 rfl rfl)
theorem dJ8_getBytes_13 : decode cJ8_getBytes 13 = .ok (.aload_n 1, 1) := dk_43 (dk_at dksJ8_getBytes_0 13 rfl rfl)
theorem dJ8_getBytes_14 : decode cJ8_getBytes 14 = .ok (.iload_n 2, 1) := dk_28 (dk_at dksJ8_getBytes_0 14 rfl rfl)
theorem dJ8_getBytes_15 : decode cJ8_getBytes 15 = .ok (.iload_n 3, 1) := dk_29 (dk_at dksJ8_getBytes_0 15 rfl rfl)
theorem dJ8_getBytes_16 : decode cJ8_getBytes 16 = .ok (.ishl, 1) := dk_120 (dk_at dksJ8_getBytes_0 16 rfl rfl)
theorem dJ8_getBytes_17 : decode cJ8_getBytes 17 = .ok (.aload_n 0, 1) := dk_42 (dk_at dksJ8_getBytes_0 17 rfl rfl)
theorem dJ8_getBytes_18 : decode cJ8_getBytes 18 = .ok (.getfield 9, 3) := dk_180 0 9 (dk_at dksJ8_getBytes_0 18 rfl rfl)
theorem dJ8_getBytes_21 : decode cJ8_getBytes 21 = .ok (.arraylength, 1) := dk_190 (dk_at dksJ8_getBytes_0 21 rfl rfl)
theorem dJ8_getBytes_22 : decode cJ8_getBytes 22 = .ok (.invokestatic 212, 3) := dk_184 0 212 (dk_at dksJ8_getBytes_1 0 rfl rfl)
theorem dJ8_getBytes_25 : decode cJ8_getBytes 25 = .ok (.goto 18, 3) := dk_167 0 18 (dk_at dksJ8_getBytes_1 3 rfl rfl)
theorem dJ8_getBytes_28 : decode cJ8_getBytes 28 = .ok (.aload_n 0, 1) := dk_42 (dk_at dksJ8_getBytes_1 6 rfl rfl)
theorem dJ8_getBytes_29 : decode cJ8_getBytes 29 = .ok (.getfield 9, 3) := dk_180 0 9 (dk_at dksJ8_getBytes_1 7 rfl rfl)
theorem dJ8_getBytes_32 : decode cJ8_getBytes 32 = .ok (.iconst 0, 1) := dk_3 (dk_at dksJ8_getBytes_1 10 rfl rfl)
theorem dJ8_getBytes_33 : decode cJ8_getBytes 33 = .ok (.aload_n 1, 1) := dk_43 (dk_at dksJ8_getBytes_1 11 rfl rfl)
theorem dJ8_getBytes_34 : decode cJ8_getBytes 34 = .ok (.iload_n 2, 1) := dk_28 (dk_at dksJ8_getBytes_1 12 rfl rfl)
theorem dJ8_getBytes_35 : decode cJ8_getBytes 35 = .ok (.aload_n 0, 1) := dk_42 (dk_at dksJ8_getBytes_1 13 rfl rfl)
theorem dJ8_getBytes_36 : decode cJ8_getBytes 36 = .ok (.getfield 9, 3) := dk_180 0 9 (dk_at dksJ8_getBytes_1 14 rfl rfl)
theorem dJ8_getBytes_39 : decode cJ8_getBytes 39 = .ok (.arraylength, 1) := dk_190 (dk_at dksJ8_getBytes_1 17 rfl rfl)
theorem dJ8_getBytes_40 : decode cJ8_getBytes 40 = .ok (.invokestatic 106, 3) := dk_184 0 106 (dk_at dksJ8_getBytes_1 18 rfl rfl)
theorem dJ8_getBytes_43 : decode cJ8_getBytes 43 = .ok (.return_, 1) := dk_177 (dk_at dksJ8_getBytes_1 21 rfl rfl)
abbrev cJ8_init : ByteArray := prog_29_method_53_code
def yJ8_init : MethodName := ⟨RJ8, "<init>", "(Ljava/lang/StringBuilder;)V"⟩
def dkwJ8_init_0 : List UInt8 := [42, 43, 1, 183, 1, 233, 177]
abbrev dktJ8_init_0 : List UInt8 := dkwJ8_init_0 ++ []
theorem dksJ8_init_0 : cJ8_init.data.toList.drop 0 = dktJ8_init_0 := by decide +kernel
theorem dJ8_init_0 : decode cJ8_init 0 = .ok (.aload_n 0, 1) := dk_42 (dk_at dksJ8_init_0 0 rfl rfl)
theorem dJ8_init_1 : decode cJ8_init 1 = .ok (.aload_n 1, 1) := dk_43 (dk_at dksJ8_init_0 1 rfl rfl)
theorem dJ8_init_2 : decode cJ8_init 2 = .ok (.aconst_null, 1) := dk_1 (dk_at dksJ8_init_0 2 rfl rfl)
theorem dJ8_init_3 : decode cJ8_init 3 = .ok (.invokespecial 489, 3) := dk_183 1 233 (dk_at dksJ8_init_0 3 rfl rfl)
theorem dJ8_init_6 : decode cJ8_init 6 = .ok (.return_, 1) := dk_177 (dk_at dksJ8_init_0 6 rfl rfl)
abbrev cJ8_init_2 : ByteArray := prog_29_method_150_code
def yJ8_init_2 : MethodName := ⟨RJ8, "<init>", "(Ljava/lang/AbstractStringBuilder;Ljava/lang/Void;)V"⟩
def dkwJ8_init_2_4 : List UInt8 := [181, 0, 9, 177]
abbrev dktJ8_init_2_4 : List UInt8 := dkwJ8_init_2_4 ++ []
def dkwJ8_init_2_3 : List UInt8 := [184, 0, 47, 181, 0, 15, 177, 42, 4, 181, 0, 15, 42, 45, 3, 21, 4, 4, 120, 184, 0, 54]
abbrev dktJ8_init_2_3 : List UInt8 := dkwJ8_init_2_3 ++ dktJ8_init_2_4
def dkwJ8_init_2_2 : List UInt8 := [180, 4, 24, 153, 0, 28, 42, 45, 3, 21, 4, 184, 4, 27, 181, 0, 9, 42, 42, 180, 0, 9, 21, 4]
abbrev dktJ8_init_2_2 : List UInt8 := dkwJ8_init_2_2 ++ dktJ8_init_2_3
def dkwJ8_init_2_1 : List UInt8 := [181, 0, 15, 42, 45, 3, 21, 4, 184, 0, 54, 181, 0, 9, 167, 0, 59, 178, 0, 38, 153, 0, 35, 43]
abbrev dktJ8_init_2_1 : List UInt8 := dkwJ8_init_2_1 ++ dktJ8_init_2_2
def dkwJ8_init_2_0 : List UInt8 := [42, 183, 0, 1, 43, 182, 2, 40, 78, 43, 182, 2, 37, 54, 4, 43, 182, 4, 23, 153, 0, 22, 42, 3]
abbrev dktJ8_init_2_0 : List UInt8 := dkwJ8_init_2_0 ++ dktJ8_init_2_1
theorem dksJ8_init_2_0 : cJ8_init_2.data.toList.drop 0 = dktJ8_init_2_0 := by decide +kernel
theorem dksJ8_init_2_1 : cJ8_init_2.data.toList.drop 24 = dktJ8_init_2_1 := dk_seg dksJ8_init_2_0 24 rfl rfl
theorem dksJ8_init_2_2 : cJ8_init_2.data.toList.drop 48 = dktJ8_init_2_2 := dk_seg dksJ8_init_2_1 24 rfl rfl
theorem dksJ8_init_2_3 : cJ8_init_2.data.toList.drop 72 = dktJ8_init_2_3 := dk_seg dksJ8_init_2_2 24 rfl rfl
theorem dksJ8_init_2_4 : cJ8_init_2.data.toList.drop 94 = dktJ8_init_2_4 := dk_seg dksJ8_init_2_3 22 rfl rfl
theorem dJ8_init_2_0 : decode cJ8_init_2 0 = .ok (.aload_n 0, 1) := dk_42 (dk_at dksJ8_init_2_0 0 rfl rfl)
theorem dJ8_init_2_1 : decode cJ8_init_2 1 = .ok (.invokespecial 1, 3) := dk_183 0 1 (dk_at dksJ8_init_2_0 1 rfl rfl)
theorem dJ8_init_2_4 : decode cJ8_init_2 4 = .ok (.aload_n 1, 1) := dk_43 (dk_at dksJ8_init_2_0 4 rfl rfl)
theorem dJ8_init_2_5 : decode cJ8_init_2 5 = .ok (.invokevirtual 552, 3) := dk_182 2 40 (dk_at dksJ8_init_2_0 5 rfl rfl)
theorem dJ8_init_2_8 : decode cJ8_init_2 8 = .ok (.astore_n 3, 1) := dk_78 (dk_at dksJ8_init_2_0 8 rfl rfl)
theorem dJ8_init_2_9 : decode cJ8_init_2 9 = .ok (.aload_n 1, 1) := dk_43 (dk_at dksJ8_init_2_0 9 rfl rfl)
theorem dJ8_init_2_10 : decode cJ8_init_2 10 = .ok (.invokevirtual 549, 3) := dk_182 2 37 (dk_at dksJ8_init_2_0 10 rfl rfl)
theorem dJ8_init_2_13 : decode cJ8_init_2 13 = .ok (.istore 4, 2) := dk_54 4 (dk_at dksJ8_init_2_0 13 rfl rfl)
theorem dJ8_init_2_15 : decode cJ8_init_2 15 = .ok (.aload_n 1, 1) := dk_43 (dk_at dksJ8_init_2_0 15 rfl rfl)
theorem dJ8_init_2_16 : decode cJ8_init_2 16 = .ok (.invokevirtual 1047, 3) := dk_182 4 23 (dk_at dksJ8_init_2_0 16 rfl rfl)
theorem dJ8_init_2_19 : decode cJ8_init_2 19 = .ok (.ifCond .eq 22, 3) := dk_153 0 22 (dk_at dksJ8_init_2_0 19 rfl rfl)
theorem dJ8_init_2_22 : decode cJ8_init_2 22 = .ok (.aload_n 0, 1) := dk_42 (dk_at dksJ8_init_2_0 22 rfl rfl)
theorem dJ8_init_2_23 : decode cJ8_init_2 23 = .ok (.iconst 0, 1) := dk_3 (dk_at dksJ8_init_2_0 23 rfl rfl)
theorem dJ8_init_2_24 : decode cJ8_init_2 24 = .ok (.putfield 15, 3) := dk_181 0 15 (dk_at dksJ8_init_2_1 0 rfl rfl)
theorem dJ8_init_2_27 : decode cJ8_init_2 27 = .ok (.aload_n 0, 1) := dk_42 (dk_at dksJ8_init_2_1 3 rfl rfl)
theorem dJ8_init_2_28 : decode cJ8_init_2 28 = .ok (.aload_n 3, 1) := dk_45 (dk_at dksJ8_init_2_1 4 rfl rfl)
theorem dJ8_init_2_29 : decode cJ8_init_2 29 = .ok (.iconst 0, 1) := dk_3 (dk_at dksJ8_init_2_1 5 rfl rfl)
theorem dJ8_init_2_30 : decode cJ8_init_2 30 = .ok (.iload 4, 2) := dk_21 4 (dk_at dksJ8_init_2_1 6 rfl rfl)
theorem dJ8_init_2_32 : decode cJ8_init_2 32 = .ok (.invokestatic 54, 3) := dk_184 0 54 (dk_at dksJ8_init_2_1 8 rfl rfl)
theorem dJ8_init_2_35 : decode cJ8_init_2 35 = .ok (.putfield 9, 3) := dk_181 0 9 (dk_at dksJ8_init_2_1 11 rfl rfl)
theorem dJ8_init_2_38 : decode cJ8_init_2 38 = .ok (.goto 59, 3) := dk_167 0 59 (dk_at dksJ8_init_2_1 14 rfl rfl)
theorem dJ8_init_2_41 : decode cJ8_init_2 41 = .ok (.getstatic 38, 3) := dk_178 0 38 (dk_at dksJ8_init_2_1 17 rfl rfl)
theorem dJ8_init_2_44 : decode cJ8_init_2 44 = .ok (.ifCond .eq 35, 3) := dk_153 0 35 (dk_at dksJ8_init_2_1 20 rfl rfl)
theorem dJ8_init_2_47 : decode cJ8_init_2 47 = .ok (.aload_n 1, 1) := dk_43 (dk_at dksJ8_init_2_1 23 rfl rfl)
theorem dJ8_init_2_48 : decode cJ8_init_2 48 = .ok (.getfield 1048, 3) := dk_180 4 24 (dk_at dksJ8_init_2_2 0 rfl rfl)
theorem dJ8_init_2_51 : decode cJ8_init_2 51 = .ok (.ifCond .eq 28, 3) := dk_153 0 28 (dk_at dksJ8_init_2_2 3 rfl rfl)
theorem dJ8_init_2_54 : decode cJ8_init_2 54 = .ok (.aload_n 0, 1) := dk_42 (dk_at dksJ8_init_2_2 6 rfl rfl)
theorem dJ8_init_2_55 : decode cJ8_init_2 55 = .ok (.aload_n 3, 1) := dk_45 (dk_at dksJ8_init_2_2 7 rfl rfl)
theorem dJ8_init_2_56 : decode cJ8_init_2 56 = .ok (.iconst 0, 1) := dk_3 (dk_at dksJ8_init_2_2 8 rfl rfl)
theorem dJ8_init_2_57 : decode cJ8_init_2 57 = .ok (.iload 4, 2) := dk_21 4 (dk_at dksJ8_init_2_2 9 rfl rfl)
theorem dJ8_init_2_59 : decode cJ8_init_2 59 = .ok (.invokestatic 1051, 3) := dk_184 4 27 (dk_at dksJ8_init_2_2 11 rfl rfl)
theorem dJ8_init_2_62 : decode cJ8_init_2 62 = .ok (.putfield 9, 3) := dk_181 0 9 (dk_at dksJ8_init_2_2 14 rfl rfl)
theorem dJ8_init_2_65 : decode cJ8_init_2 65 = .ok (.aload_n 0, 1) := dk_42 (dk_at dksJ8_init_2_2 17 rfl rfl)
theorem dJ8_init_2_66 : decode cJ8_init_2 66 = .ok (.aload_n 0, 1) := dk_42 (dk_at dksJ8_init_2_2 18 rfl rfl)
theorem dJ8_init_2_67 : decode cJ8_init_2 67 = .ok (.getfield 9, 3) := dk_180 0 9 (dk_at dksJ8_init_2_2 19 rfl rfl)
theorem dJ8_init_2_70 : decode cJ8_init_2 70 = .ok (.iload 4, 2) := dk_21 4 (dk_at dksJ8_init_2_2 22 rfl rfl)
theorem dJ8_init_2_72 : decode cJ8_init_2 72 = .ok (.invokestatic 47, 3) := dk_184 0 47 (dk_at dksJ8_init_2_3 0 rfl rfl)
theorem dJ8_init_2_75 : decode cJ8_init_2 75 = .ok (.putfield 15, 3) := dk_181 0 15 (dk_at dksJ8_init_2_3 3 rfl rfl)
theorem dJ8_init_2_78 : decode cJ8_init_2 78 = .ok (.return_, 1) := dk_177 (dk_at dksJ8_init_2_3 6 rfl rfl)
theorem dJ8_init_2_79 : decode cJ8_init_2 79 = .ok (.aload_n 0, 1) := dk_42 (dk_at dksJ8_init_2_3 7 rfl rfl)
theorem dJ8_init_2_80 : decode cJ8_init_2 80 = .ok (.iconst 1, 1) := dk_4 (dk_at dksJ8_init_2_3 8 rfl rfl)
theorem dJ8_init_2_81 : decode cJ8_init_2 81 = .ok (.putfield 15, 3) := dk_181 0 15 (dk_at dksJ8_init_2_3 9 rfl rfl)
theorem dJ8_init_2_84 : decode cJ8_init_2 84 = .ok (.aload_n 0, 1) := dk_42 (dk_at dksJ8_init_2_3 12 rfl rfl)
theorem dJ8_init_2_85 : decode cJ8_init_2 85 = .ok (.aload_n 3, 1) := dk_45 (dk_at dksJ8_init_2_3 13 rfl rfl)
theorem dJ8_init_2_86 : decode cJ8_init_2 86 = .ok (.iconst 0, 1) := dk_3 (dk_at dksJ8_init_2_3 14 rfl rfl)
theorem dJ8_init_2_87 : decode cJ8_init_2 87 = .ok (.iload 4, 2) := dk_21 4 (dk_at dksJ8_init_2_3 15 rfl rfl)
theorem dJ8_init_2_89 : decode cJ8_init_2 89 = .ok (.iconst 1, 1) := dk_4 (dk_at dksJ8_init_2_3 17 rfl rfl)
theorem dJ8_init_2_90 : decode cJ8_init_2 90 = .ok (.ishl, 1) := dk_120 (dk_at dksJ8_init_2_3 18 rfl rfl)
theorem dJ8_init_2_91 : decode cJ8_init_2 91 = .ok (.invokestatic 54, 3) := dk_184 0 54 (dk_at dksJ8_init_2_3 19 rfl rfl)
theorem dJ8_init_2_94 : decode cJ8_init_2 94 = .ok (.putfield 9, 3) := dk_181 0 9 (dk_at dksJ8_init_2_4 0 rfl rfl)
theorem dJ8_init_2_97 : decode cJ8_init_2 97 = .ok (.return_, 1) := dk_177 (dk_at dksJ8_init_2_4 3 rfl rfl)
abbrev cJ8_checkIndex : ByteArray := prog_29_method_155_code
def yJ8_checkIndex : MethodName := ⟨RJ8, "checkIndex", "(II)V"⟩
def dkwJ8_checkIndex_0 : List UInt8 := [26, 27, 178, 4, 29, 184, 4, 35, 87, 177]
abbrev dktJ8_checkIndex_0 : List UInt8 := dkwJ8_checkIndex_0 ++ []
theorem dksJ8_checkIndex_0 : cJ8_checkIndex.data.toList.drop 0 = dktJ8_checkIndex_0 := by decide +kernel
theorem dJ8_checkIndex_0 : decode cJ8_checkIndex 0 = .ok (.iload_n 0, 1) := dk_26 (dk_at dksJ8_checkIndex_0 0 rfl rfl)
theorem dJ8_checkIndex_1 : decode cJ8_checkIndex 1 = .ok (.iload_n 1, 1) := dk_27 (dk_at dksJ8_checkIndex_0 1 rfl rfl)
theorem dJ8_checkIndex_2 : decode cJ8_checkIndex 2 = .ok (.getstatic 1053, 3) := dk_178 4 29 (dk_at dksJ8_checkIndex_0 2 rfl rfl)
theorem dJ8_checkIndex_5 : decode cJ8_checkIndex 5 = .ok (.invokestatic 1059, 3) := dk_184 4 35 (dk_at dksJ8_checkIndex_0 5 rfl rfl)
theorem dJ8_checkIndex_8 : decode cJ8_checkIndex 8 = .ok (.pop, 1) := dk_87 (dk_at dksJ8_checkIndex_0 8 rfl rfl)
theorem dJ8_checkIndex_9 : decode cJ8_checkIndex 9 = .ok (.return_, 1) := dk_177 (dk_at dksJ8_checkIndex_0 9 rfl rfl)
abbrev cJ8_equals : ByteArray := prog_29_method_66_code
def yJ8_equals : MethodName := ⟨RJ8, "equals", "(Ljava/lang/Object;)Z"⟩
def dkwJ8_equals_2 : List UInt8 := [184, 2, 29, 153, 0, 7, 4, 167, 0, 4, 3, 172]
abbrev dktJ8_equals_2 : List UInt8 := dkwJ8_equals_2 ++ []
def dkwJ8_equals_1 : List UInt8 := [153, 0, 14, 42, 180, 0, 15, 44, 180, 0, 15, 160, 0, 21, 42, 180, 0, 9, 44, 180, 0, 9]
abbrev dktJ8_equals_1 : List UInt8 := dkwJ8_equals_1 ++ dktJ8_equals_2
def dkwJ8_equals_0 : List UInt8 := [42, 43, 166, 0, 5, 4, 172, 43, 193, 0, 10, 153, 0, 43, 43, 192, 0, 10, 77, 178, 0, 38]
abbrev dktJ8_equals_0 : List UInt8 := dkwJ8_equals_0 ++ dktJ8_equals_1
theorem dksJ8_equals_0 : cJ8_equals.data.toList.drop 0 = dktJ8_equals_0 := by decide +kernel
theorem dksJ8_equals_1 : cJ8_equals.data.toList.drop 22 = dktJ8_equals_1 := dk_seg dksJ8_equals_0 22 rfl rfl
theorem dksJ8_equals_2 : cJ8_equals.data.toList.drop 44 = dktJ8_equals_2 := dk_seg dksJ8_equals_1 22 rfl rfl
theorem dJ8_equals_0 : decode cJ8_equals 0 = .ok (.aload_n 0, 1) := dk_42 (dk_at dksJ8_equals_0 0 rfl rfl)
theorem dJ8_equals_1 : decode cJ8_equals 1 = .ok (.aload_n 1, 1) := dk_43 (dk_at dksJ8_equals_0 1 rfl rfl)
theorem dJ8_equals_2 : decode cJ8_equals 2 = .ok (.if_acmp .ne 5, 3) := dk_166 0 5 (dk_at dksJ8_equals_0 2 rfl rfl)
theorem dJ8_equals_5 : decode cJ8_equals 5 = .ok (.iconst 1, 1) := dk_4 (dk_at dksJ8_equals_0 5 rfl rfl)
theorem dJ8_equals_6 : decode cJ8_equals 6 = .ok (.ireturn, 1) := dk_172 (dk_at dksJ8_equals_0 6 rfl rfl)
theorem dJ8_equals_7 : decode cJ8_equals 7 = .ok (.aload_n 1, 1) := dk_43 (dk_at dksJ8_equals_0 7 rfl rfl)
theorem dJ8_equals_8 : decode cJ8_equals 8 = .ok (.instanceof 10, 3) := dk_193 0 10 (dk_at dksJ8_equals_0 8 rfl rfl)
theorem dJ8_equals_11 : decode cJ8_equals 11 = .ok (.ifCond .eq 43, 3) := dk_153 0 43 (dk_at dksJ8_equals_0 11 rfl rfl)
theorem dJ8_equals_14 : decode cJ8_equals 14 = .ok (.aload_n 1, 1) := dk_43 (dk_at dksJ8_equals_0 14 rfl rfl)
theorem dJ8_equals_15 : decode cJ8_equals 15 = .ok (.checkcast 10, 3) := dk_192 0 10 (dk_at dksJ8_equals_0 15 rfl rfl)
theorem dJ8_equals_18 : decode cJ8_equals 18 = .ok (.astore_n 2, 1) := dk_77 (dk_at dksJ8_equals_0 18 rfl rfl)
theorem dJ8_equals_19 : decode cJ8_equals 19 = .ok (.getstatic 38, 3) := dk_178 0 38 (dk_at dksJ8_equals_0 19 rfl rfl)
theorem dJ8_equals_22 : decode cJ8_equals 22 = .ok (.ifCond .eq 14, 3) := dk_153 0 14 (dk_at dksJ8_equals_1 0 rfl rfl)
theorem dJ8_equals_25 : decode cJ8_equals 25 = .ok (.aload_n 0, 1) := dk_42 (dk_at dksJ8_equals_1 3 rfl rfl)
theorem dJ8_equals_26 : decode cJ8_equals 26 = .ok (.getfield 15, 3) := dk_180 0 15 (dk_at dksJ8_equals_1 4 rfl rfl)
theorem dJ8_equals_29 : decode cJ8_equals 29 = .ok (.aload_n 2, 1) := dk_44 (dk_at dksJ8_equals_1 7 rfl rfl)
theorem dJ8_equals_30 : decode cJ8_equals 30 = .ok (.getfield 15, 3) := dk_180 0 15 (dk_at dksJ8_equals_1 8 rfl rfl)
theorem dJ8_equals_33 : decode cJ8_equals 33 = .ok (.if_icmp .ne 21, 3) := dk_160 0 21 (dk_at dksJ8_equals_1 11 rfl rfl)
theorem dJ8_equals_36 : decode cJ8_equals 36 = .ok (.aload_n 0, 1) := dk_42 (dk_at dksJ8_equals_1 14 rfl rfl)
theorem dJ8_equals_37 : decode cJ8_equals 37 = .ok (.getfield 9, 3) := dk_180 0 9 (dk_at dksJ8_equals_1 15 rfl rfl)
theorem dJ8_equals_40 : decode cJ8_equals 40 = .ok (.aload_n 2, 1) := dk_44 (dk_at dksJ8_equals_1 18 rfl rfl)
theorem dJ8_equals_41 : decode cJ8_equals 41 = .ok (.getfield 9, 3) := dk_180 0 9 (dk_at dksJ8_equals_1 19 rfl rfl)
theorem dJ8_equals_44 : decode cJ8_equals 44 = .ok (.invokestatic 541, 3) := dk_184 2 29 (dk_at dksJ8_equals_2 0 rfl rfl)
theorem dJ8_equals_47 : decode cJ8_equals 47 = .ok (.ifCond .eq 7, 3) := dk_153 0 7 (dk_at dksJ8_equals_2 3 rfl rfl)
theorem dJ8_equals_50 : decode cJ8_equals 50 = .ok (.iconst 1, 1) := dk_4 (dk_at dksJ8_equals_2 6 rfl rfl)
theorem dJ8_equals_51 : decode cJ8_equals 51 = .ok (.goto 4, 3) := dk_167 0 4 (dk_at dksJ8_equals_2 7 rfl rfl)
theorem dJ8_equals_54 : decode cJ8_equals 54 = .ok (.iconst 0, 1) := dk_3 (dk_at dksJ8_equals_2 10 rfl rfl)
theorem dJ8_equals_55 : decode cJ8_equals 55 = .ok (.ireturn, 1) := dk_172 (dk_at dksJ8_equals_2 11 rfl rfl)
abbrev cJ8_substring : ByteArray := prog_29_method_92_code
def yJ8_substring : MethodName := ⟨RJ8, "substring", "(II)Ljava/lang/String;"⟩
def dkwJ8_substring_2 : List UInt8 := [180, 0, 9, 27, 21, 4, 184, 2, 177, 176]
abbrev dktJ8_substring_2 : List UInt8 := dkwJ8_substring_2 ++ []
def dkwJ8_substring_1 : List UInt8 := [100, 54, 4, 42, 182, 1, 236, 153, 0, 16, 42, 180, 0, 9, 27, 21, 4, 184, 2, 173, 167, 0, 13, 42]
abbrev dktJ8_substring_1 : List UInt8 := dkwJ8_substring_1 ++ dktJ8_substring_2
def dkwJ8_substring_0 : List UInt8 := [42, 182, 1, 249, 62, 27, 28, 29, 184, 2, 9, 27, 154, 0, 10, 28, 29, 160, 0, 5, 42, 176, 28, 27]
abbrev dktJ8_substring_0 : List UInt8 := dkwJ8_substring_0 ++ dktJ8_substring_1
theorem dksJ8_substring_0 : cJ8_substring.data.toList.drop 0 = dktJ8_substring_0 := by decide +kernel
theorem dksJ8_substring_1 : cJ8_substring.data.toList.drop 24 = dktJ8_substring_1 := dk_seg dksJ8_substring_0 24 rfl rfl
theorem dksJ8_substring_2 : cJ8_substring.data.toList.drop 48 = dktJ8_substring_2 := dk_seg dksJ8_substring_1 24 rfl rfl
theorem dJ8_substring_0 : decode cJ8_substring 0 = .ok (.aload_n 0, 1) := dk_42 (dk_at dksJ8_substring_0 0 rfl rfl)
theorem dJ8_substring_1 : decode cJ8_substring 1 = .ok (.invokevirtual 505, 3) := dk_182 1 249 (dk_at dksJ8_substring_0 1 rfl rfl)
theorem dJ8_substring_4 : decode cJ8_substring 4 = .ok (.istore_n 3, 1) := dk_62 (dk_at dksJ8_substring_0 4 rfl rfl)
theorem dJ8_substring_5 : decode cJ8_substring 5 = .ok (.iload_n 1, 1) := dk_27 (dk_at dksJ8_substring_0 5 rfl rfl)
theorem dJ8_substring_6 : decode cJ8_substring 6 = .ok (.iload_n 2, 1) := dk_28 (dk_at dksJ8_substring_0 6 rfl rfl)
theorem dJ8_substring_7 : decode cJ8_substring 7 = .ok (.iload_n 3, 1) := dk_29 (dk_at dksJ8_substring_0 7 rfl rfl)
theorem dJ8_substring_8 : decode cJ8_substring 8 = .ok (.invokestatic 521, 3) := dk_184 2 9 (dk_at dksJ8_substring_0 8 rfl rfl)
theorem dJ8_substring_11 : decode cJ8_substring 11 = .ok (.iload_n 1, 1) := dk_27 (dk_at dksJ8_substring_0 11 rfl rfl)
theorem dJ8_substring_12 : decode cJ8_substring 12 = .ok (.ifCond .ne 10, 3) := dk_154 0 10 (dk_at dksJ8_substring_0 12 rfl rfl)
theorem dJ8_substring_15 : decode cJ8_substring 15 = .ok (.iload_n 2, 1) := dk_28 (dk_at dksJ8_substring_0 15 rfl rfl)
theorem dJ8_substring_16 : decode cJ8_substring 16 = .ok (.iload_n 3, 1) := dk_29 (dk_at dksJ8_substring_0 16 rfl rfl)
theorem dJ8_substring_17 : decode cJ8_substring 17 = .ok (.if_icmp .ne 5, 3) := dk_160 0 5 (dk_at dksJ8_substring_0 17 rfl rfl)
theorem dJ8_substring_20 : decode cJ8_substring 20 = .ok (.aload_n 0, 1) := dk_42 (dk_at dksJ8_substring_0 20 rfl rfl)
theorem dJ8_substring_21 : decode cJ8_substring 21 = .ok (.areturn, 1) := dk_176 (dk_at dksJ8_substring_0 21 rfl rfl)
theorem dJ8_substring_22 : decode cJ8_substring 22 = .ok (.iload_n 2, 1) := dk_28 (dk_at dksJ8_substring_0 22 rfl rfl)
theorem dJ8_substring_23 : decode cJ8_substring 23 = .ok (.iload_n 1, 1) := dk_27 (dk_at dksJ8_substring_0 23 rfl rfl)
theorem dJ8_substring_24 : decode cJ8_substring 24 = .ok (.isub, 1) := dk_100 (dk_at dksJ8_substring_1 0 rfl rfl)
theorem dJ8_substring_25 : decode cJ8_substring 25 = .ok (.istore 4, 2) := dk_54 4 (dk_at dksJ8_substring_1 1 rfl rfl)
theorem dJ8_substring_27 : decode cJ8_substring 27 = .ok (.aload_n 0, 1) := dk_42 (dk_at dksJ8_substring_1 3 rfl rfl)
theorem dJ8_substring_28 : decode cJ8_substring 28 = .ok (.invokevirtual 492, 3) := dk_182 1 236 (dk_at dksJ8_substring_1 4 rfl rfl)
theorem dJ8_substring_31 : decode cJ8_substring 31 = .ok (.ifCond .eq 16, 3) := dk_153 0 16 (dk_at dksJ8_substring_1 7 rfl rfl)
theorem dJ8_substring_34 : decode cJ8_substring 34 = .ok (.aload_n 0, 1) := dk_42 (dk_at dksJ8_substring_1 10 rfl rfl)
theorem dJ8_substring_35 : decode cJ8_substring 35 = .ok (.getfield 9, 3) := dk_180 0 9 (dk_at dksJ8_substring_1 11 rfl rfl)
theorem dJ8_substring_38 : decode cJ8_substring 38 = .ok (.iload_n 1, 1) := dk_27 (dk_at dksJ8_substring_1 14 rfl rfl)
theorem dJ8_substring_39 : decode cJ8_substring 39 = .ok (.iload 4, 2) := dk_21 4 (dk_at dksJ8_substring_1 15 rfl rfl)
theorem dJ8_substring_41 : decode cJ8_substring 41 = .ok (.invokestatic 685, 3) := dk_184 2 173 (dk_at dksJ8_substring_1 17 rfl rfl)
theorem dJ8_substring_44 : decode cJ8_substring 44 = .ok (.goto 13, 3) := dk_167 0 13 (dk_at dksJ8_substring_1 20 rfl rfl)
theorem dJ8_substring_47 : decode cJ8_substring 47 = .ok (.aload_n 0, 1) := dk_42 (dk_at dksJ8_substring_1 23 rfl rfl)
theorem dJ8_substring_48 : decode cJ8_substring 48 = .ok (.getfield 9, 3) := dk_180 0 9 (dk_at dksJ8_substring_2 0 rfl rfl)
theorem dJ8_substring_51 : decode cJ8_substring 51 = .ok (.iload_n 1, 1) := dk_27 (dk_at dksJ8_substring_2 3 rfl rfl)
theorem dJ8_substring_52 : decode cJ8_substring 52 = .ok (.iload 4, 2) := dk_21 4 (dk_at dksJ8_substring_2 4 rfl rfl)
theorem dJ8_substring_54 : decode cJ8_substring 54 = .ok (.invokestatic 689, 3) := dk_184 2 177 (dk_at dksJ8_substring_2 6 rfl rfl)
theorem dJ8_substring_57 : decode cJ8_substring 57 = .ok (.areturn, 1) := dk_176 (dk_at dksJ8_substring_2 9 rfl rfl)
abbrev cJ8_isLatin1 : ByteArray := prog_29_method_154_code
def yJ8_isLatin1 : MethodName := ⟨RJ8, "isLatin1", "()Z"⟩
def dkwJ8_isLatin1_0 : List UInt8 := [178, 0, 38, 153, 0, 14, 42, 180, 0, 15, 154, 0, 7, 4, 167, 0, 4, 3, 172]
abbrev dktJ8_isLatin1_0 : List UInt8 := dkwJ8_isLatin1_0 ++ []
theorem dksJ8_isLatin1_0 : cJ8_isLatin1.data.toList.drop 0 = dktJ8_isLatin1_0 := by decide +kernel
theorem dJ8_isLatin1_0 : decode cJ8_isLatin1 0 = .ok (.getstatic 38, 3) := dk_178 0 38 (dk_at dksJ8_isLatin1_0 0 rfl rfl)
theorem dJ8_isLatin1_3 : decode cJ8_isLatin1 3 = .ok (.ifCond .eq 14, 3) := dk_153 0 14 (dk_at dksJ8_isLatin1_0 3 rfl rfl)
theorem dJ8_isLatin1_6 : decode cJ8_isLatin1 6 = .ok (.aload_n 0, 1) := dk_42 (dk_at dksJ8_isLatin1_0 6 rfl rfl)
theorem dJ8_isLatin1_7 : decode cJ8_isLatin1 7 = .ok (.getfield 15, 3) := dk_180 0 15 (dk_at dksJ8_isLatin1_0 7 rfl rfl)
theorem dJ8_isLatin1_10 : decode cJ8_isLatin1 10 = .ok (.ifCond .ne 7, 3) := dk_154 0 7 (dk_at dksJ8_isLatin1_0 10 rfl rfl)
theorem dJ8_isLatin1_13 : decode cJ8_isLatin1 13 = .ok (.iconst 1, 1) := dk_4 (dk_at dksJ8_isLatin1_0 13 rfl rfl)
theorem dJ8_isLatin1_14 : decode cJ8_isLatin1 14 = .ok (.goto 4, 3) := dk_167 0 4 (dk_at dksJ8_isLatin1_0 14 rfl rfl)
theorem dJ8_isLatin1_17 : decode cJ8_isLatin1 17 = .ok (.iconst 0, 1) := dk_3 (dk_at dksJ8_isLatin1_0 17 rfl rfl)
theorem dJ8_isLatin1_18 : decode cJ8_isLatin1 18 = .ok (.ireturn, 1) := dk_172 (dk_at dksJ8_isLatin1_0 18 rfl rfl)
abbrev cJ8_init_3 : ByteArray := prog_29_method_151_code
def yJ8_init_3 : MethodName := ⟨RJ8, "<init>", "([BB)V"⟩
def dkwJ8_init_3_0 : List UInt8 := [42, 183, 0, 1, 42, 43, 181, 0, 9, 42, 28, 181, 0, 15, 177]
abbrev dktJ8_init_3_0 : List UInt8 := dkwJ8_init_3_0 ++ []
theorem dksJ8_init_3_0 : cJ8_init_3.data.toList.drop 0 = dktJ8_init_3_0 := by decide +kernel
theorem dJ8_init_3_0 : decode cJ8_init_3 0 = .ok (.aload_n 0, 1) := dk_42 (dk_at dksJ8_init_3_0 0 rfl rfl)
theorem dJ8_init_3_1 : decode cJ8_init_3 1 = .ok (.invokespecial 1, 3) := dk_183 0 1 (dk_at dksJ8_init_3_0 1 rfl rfl)
theorem dJ8_init_3_4 : decode cJ8_init_3 4 = .ok (.aload_n 0, 1) := dk_42 (dk_at dksJ8_init_3_0 4 rfl rfl)
theorem dJ8_init_3_5 : decode cJ8_init_3 5 = .ok (.aload_n 1, 1) := dk_43 (dk_at dksJ8_init_3_0 5 rfl rfl)
theorem dJ8_init_3_6 : decode cJ8_init_3 6 = .ok (.putfield 9, 3) := dk_181 0 9 (dk_at dksJ8_init_3_0 6 rfl rfl)
theorem dJ8_init_3_9 : decode cJ8_init_3 9 = .ok (.aload_n 0, 1) := dk_42 (dk_at dksJ8_init_3_0 9 rfl rfl)
theorem dJ8_init_3_10 : decode cJ8_init_3 10 = .ok (.iload_n 2, 1) := dk_28 (dk_at dksJ8_init_3_0 10 rfl rfl)
theorem dJ8_init_3_11 : decode cJ8_init_3 11 = .ok (.putfield 15, 3) := dk_181 0 15 (dk_at dksJ8_init_3_0 11 rfl rfl)
theorem dJ8_init_3_14 : decode cJ8_init_3 14 = .ok (.return_, 1) := dk_177 (dk_at dksJ8_init_3_0 14 rfl rfl)
abbrev cJ8_charAt : ByteArray := prog_29_method_56_code
def yJ8_charAt : MethodName := ⟨RJ8, "charAt", "(I)C"⟩
def dkwJ8_charAt_1 : List UInt8 := [172]
abbrev dktJ8_charAt_1 : List UInt8 := dkwJ8_charAt_1 ++ []
def dkwJ8_charAt_0 : List UInt8 := [42, 182, 1, 236, 153, 0, 12, 42, 180, 0, 9, 27, 184, 1, 239, 172, 42, 180, 0, 9, 27, 184, 1, 242]
abbrev dktJ8_charAt_0 : List UInt8 := dkwJ8_charAt_0 ++ dktJ8_charAt_1
theorem dksJ8_charAt_0 : cJ8_charAt.data.toList.drop 0 = dktJ8_charAt_0 := by decide +kernel
theorem dksJ8_charAt_1 : cJ8_charAt.data.toList.drop 24 = dktJ8_charAt_1 := dk_seg dksJ8_charAt_0 24 rfl rfl
theorem dJ8_charAt_0 : decode cJ8_charAt 0 = .ok (.aload_n 0, 1) := dk_42 (dk_at dksJ8_charAt_0 0 rfl rfl)
theorem dJ8_charAt_1 : decode cJ8_charAt 1 = .ok (.invokevirtual 492, 3) := dk_182 1 236 (dk_at dksJ8_charAt_0 1 rfl rfl)
theorem dJ8_charAt_4 : decode cJ8_charAt 4 = .ok (.ifCond .eq 12, 3) := dk_153 0 12 (dk_at dksJ8_charAt_0 4 rfl rfl)
theorem dJ8_charAt_7 : decode cJ8_charAt 7 = .ok (.aload_n 0, 1) := dk_42 (dk_at dksJ8_charAt_0 7 rfl rfl)
theorem dJ8_charAt_8 : decode cJ8_charAt 8 = .ok (.getfield 9, 3) := dk_180 0 9 (dk_at dksJ8_charAt_0 8 rfl rfl)
theorem dJ8_charAt_11 : decode cJ8_charAt 11 = .ok (.iload_n 1, 1) := dk_27 (dk_at dksJ8_charAt_0 11 rfl rfl)
theorem dJ8_charAt_12 : decode cJ8_charAt 12 = .ok (.invokestatic 495, 3) := dk_184 1 239 (dk_at dksJ8_charAt_0 12 rfl rfl)
theorem dJ8_charAt_15 : decode cJ8_charAt 15 = .ok (.ireturn, 1) := dk_172 (dk_at dksJ8_charAt_0 15 rfl rfl)
theorem dJ8_charAt_16 : decode cJ8_charAt 16 = .ok (.aload_n 0, 1) := dk_42 (dk_at dksJ8_charAt_0 16 rfl rfl)
theorem dJ8_charAt_17 : decode cJ8_charAt 17 = .ok (.getfield 9, 3) := dk_180 0 9 (dk_at dksJ8_charAt_0 17 rfl rfl)
theorem dJ8_charAt_20 : decode cJ8_charAt 20 = .ok (.iload_n 1, 1) := dk_27 (dk_at dksJ8_charAt_0 20 rfl rfl)
theorem dJ8_charAt_21 : decode cJ8_charAt 21 = .ok (.invokestatic 498, 3) := dk_184 1 242 (dk_at dksJ8_charAt_0 21 rfl rfl)
theorem dJ8_charAt_24 : decode cJ8_charAt 24 = .ok (.ireturn, 1) := dk_172 (dk_at dksJ8_charAt_1 0 rfl rfl)
abbrev cJ8_startsWith : ByteArray := prog_29_method_76_code
def yJ8_startsWith : MethodName := ⟨RJ8, "startsWith", "(Ljava/lang/String;)Z"⟩
def dkwJ8_startsWith_0 : List UInt8 := [42, 43, 3, 182, 2, 112, 172]
abbrev dktJ8_startsWith_0 : List UInt8 := dkwJ8_startsWith_0 ++ []
theorem dksJ8_startsWith_0 : cJ8_startsWith.data.toList.drop 0 = dktJ8_startsWith_0 := by decide +kernel
theorem dJ8_startsWith_0 : decode cJ8_startsWith 0 = .ok (.aload_n 0, 1) := dk_42 (dk_at dksJ8_startsWith_0 0 rfl rfl)
theorem dJ8_startsWith_1 : decode cJ8_startsWith 1 = .ok (.aload_n 1, 1) := dk_43 (dk_at dksJ8_startsWith_0 1 rfl rfl)
theorem dJ8_startsWith_2 : decode cJ8_startsWith 2 = .ok (.iconst 0, 1) := dk_3 (dk_at dksJ8_startsWith_0 2 rfl rfl)
theorem dJ8_startsWith_3 : decode cJ8_startsWith 3 = .ok (.invokevirtual 624, 3) := dk_182 2 112 (dk_at dksJ8_startsWith_0 3 rfl rfl)
theorem dJ8_startsWith_6 : decode cJ8_startsWith 6 = .ok (.ireturn, 1) := dk_172 (dk_at dksJ8_startsWith_0 6 rfl rfl)
abbrev cJ8_startsWith_2 : ByteArray := prog_29_method_75_code
def yJ8_startsWith_2 : MethodName := ⟨RJ8, "startsWith", "(Ljava/lang/String;I)Z"⟩
def dkwJ8_startsWith_2_5 : List UInt8 := [159, 255, 229, 3, 172, 4, 172]
abbrev dktJ8_startsWith_2_5 : List UInt8 := dkwJ8_startsWith_2_5 ++ []
def dkwJ8_startsWith_2_4 : List UInt8 := [162, 0, 28, 45, 28, 132, 2, 1, 184, 1, 104, 25, 4, 21, 5, 132, 5, 1, 51, 17, 0, 255, 126]
abbrev dktJ8_startsWith_2_4 : List UInt8 := dkwJ8_startsWith_2_4 ++ dktJ8_startsWith_2_5
def dkwJ8_startsWith_2_3 : List UInt8 := [184, 2, 95, 156, 0, 7, 4, 167, 0, 4, 3, 172, 21, 7, 154, 0, 5, 3, 172, 21, 5, 21, 6]
abbrev dktJ8_startsWith_2_3 : List UInt8 := dkwJ8_startsWith_2_3 ++ dktJ8_startsWith_2_4
def dkwJ8_startsWith_2_2 : List UInt8 := [182, 1, 79, 160, 0, 32, 21, 7, 4, 160, 0, 7, 28, 4, 120, 61, 45, 28, 25, 4, 3, 21, 6]
abbrev dktJ8_startsWith_2_2 : List UInt8 := dkwJ8_startsWith_2_2 ++ dktJ8_startsWith_2_3
def dkwJ8_startsWith_2_1 : List UInt8 := [43, 180, 0, 9, 58, 4, 3, 54, 5, 25, 4, 190, 54, 6, 42, 182, 1, 79, 54, 7, 21, 7, 43]
abbrev dktJ8_startsWith_2_1 : List UInt8 := dkwJ8_startsWith_2_1 ++ dktJ8_startsWith_2_2
def dkwJ8_startsWith_2_0 : List UInt8 := [28, 155, 0, 16, 28, 42, 182, 1, 249, 43, 182, 1, 249, 100, 164, 0, 5, 3, 172, 42, 180, 0, 9, 78]
abbrev dktJ8_startsWith_2_0 : List UInt8 := dkwJ8_startsWith_2_0 ++ dktJ8_startsWith_2_1
theorem dksJ8_startsWith_2_0 : cJ8_startsWith_2.data.toList.drop 0 = dktJ8_startsWith_2_0 := by decide +kernel
theorem dksJ8_startsWith_2_1 : cJ8_startsWith_2.data.toList.drop 24 = dktJ8_startsWith_2_1 := dk_seg dksJ8_startsWith_2_0 24 rfl rfl
theorem dksJ8_startsWith_2_2 : cJ8_startsWith_2.data.toList.drop 47 = dktJ8_startsWith_2_2 := dk_seg dksJ8_startsWith_2_1 23 rfl rfl
theorem dksJ8_startsWith_2_3 : cJ8_startsWith_2.data.toList.drop 70 = dktJ8_startsWith_2_3 := dk_seg dksJ8_startsWith_2_2 23 rfl rfl
theorem dksJ8_startsWith_2_4 : cJ8_startsWith_2.data.toList.drop 93 = dktJ8_startsWith_2_4 := dk_seg dksJ8_startsWith_2_3 23 rfl rfl
theorem dksJ8_startsWith_2_5 : cJ8_startsWith_2.data.toList.drop 116 = dktJ8_startsWith_2_5 := dk_seg dksJ8_startsWith_2_4 23 rfl rfl
theorem dJ8_startsWith_2_0 : decode cJ8_startsWith_2 0 = .ok (.iload_n 2, 1) := dk_28 (dk_at dksJ8_startsWith_2_0 0 rfl rfl)
theorem dJ8_startsWith_2_1 : decode cJ8_startsWith_2 1 = .ok (.ifCond .lt 16, 3) := dk_155 0 16 (dk_at dksJ8_startsWith_2_0 1 rfl rfl)
theorem dJ8_startsWith_2_4 : decode cJ8_startsWith_2 4 = .ok (.iload_n 2, 1) := dk_28 (dk_at dksJ8_startsWith_2_0 4 rfl rfl)
theorem dJ8_startsWith_2_5 : decode cJ8_startsWith_2 5 = .ok (.aload_n 0, 1) := dk_42 (dk_at dksJ8_startsWith_2_0 5 rfl rfl)
theorem dJ8_startsWith_2_6 : decode cJ8_startsWith_2 6 = .ok (.invokevirtual 505, 3) := dk_182 1 249 (dk_at dksJ8_startsWith_2_0 6 rfl rfl)
theorem dJ8_startsWith_2_9 : decode cJ8_startsWith_2 9 = .ok (.aload_n 1, 1) := dk_43 (dk_at dksJ8_startsWith_2_0 9 rfl rfl)
theorem dJ8_startsWith_2_10 : decode cJ8_startsWith_2 10 = .ok (.invokevirtual 505, 3) := dk_182 1 249 (dk_at dksJ8_startsWith_2_0 10 rfl rfl)
theorem dJ8_startsWith_2_13 : decode cJ8_startsWith_2 13 = .ok (.isub, 1) := dk_100 (dk_at dksJ8_startsWith_2_0 13 rfl rfl)
theorem dJ8_startsWith_2_14 : decode cJ8_startsWith_2 14 = .ok (.if_icmp .le 5, 3) := dk_164 0 5 (dk_at dksJ8_startsWith_2_0 14 rfl rfl)
theorem dJ8_startsWith_2_17 : decode cJ8_startsWith_2 17 = .ok (.iconst 0, 1) := dk_3 (dk_at dksJ8_startsWith_2_0 17 rfl rfl)
theorem dJ8_startsWith_2_18 : decode cJ8_startsWith_2 18 = .ok (.ireturn, 1) := dk_172 (dk_at dksJ8_startsWith_2_0 18 rfl rfl)
theorem dJ8_startsWith_2_19 : decode cJ8_startsWith_2 19 = .ok (.aload_n 0, 1) := dk_42 (dk_at dksJ8_startsWith_2_0 19 rfl rfl)
theorem dJ8_startsWith_2_20 : decode cJ8_startsWith_2 20 = .ok (.getfield 9, 3) := dk_180 0 9 (dk_at dksJ8_startsWith_2_0 20 rfl rfl)
theorem dJ8_startsWith_2_23 : decode cJ8_startsWith_2 23 = .ok (.astore_n 3, 1) := dk_78 (dk_at dksJ8_startsWith_2_0 23 rfl rfl)
theorem dJ8_startsWith_2_24 : decode cJ8_startsWith_2 24 = .ok (.aload_n 1, 1) := dk_43 (dk_at dksJ8_startsWith_2_1 0 rfl rfl)
theorem dJ8_startsWith_2_25 : decode cJ8_startsWith_2 25 = .ok (.getfield 9, 3) := dk_180 0 9 (dk_at dksJ8_startsWith_2_1 1 rfl rfl)
theorem dJ8_startsWith_2_28 : decode cJ8_startsWith_2 28 = .ok (.astore 4, 2) := dk_58 4 (dk_at dksJ8_startsWith_2_1 4 rfl rfl)
theorem dJ8_startsWith_2_30 : decode cJ8_startsWith_2 30 = .ok (.iconst 0, 1) := dk_3 (dk_at dksJ8_startsWith_2_1 6 rfl rfl)
theorem dJ8_startsWith_2_31 : decode cJ8_startsWith_2 31 = .ok (.istore 5, 2) := dk_54 5 (dk_at dksJ8_startsWith_2_1 7 rfl rfl)
theorem dJ8_startsWith_2_33 : decode cJ8_startsWith_2 33 = .ok (.aload 4, 2) := dk_25 4 (dk_at dksJ8_startsWith_2_1 9 rfl rfl)
theorem dJ8_startsWith_2_35 : decode cJ8_startsWith_2 35 = .ok (.arraylength, 1) := dk_190 (dk_at dksJ8_startsWith_2_1 11 rfl rfl)
theorem dJ8_startsWith_2_36 : decode cJ8_startsWith_2 36 = .ok (.istore 6, 2) := dk_54 6 (dk_at dksJ8_startsWith_2_1 12 rfl rfl)
theorem dJ8_startsWith_2_38 : decode cJ8_startsWith_2 38 = .ok (.aload_n 0, 1) := dk_42 (dk_at dksJ8_startsWith_2_1 14 rfl rfl)
theorem dJ8_startsWith_2_39 : decode cJ8_startsWith_2 39 = .ok (.invokevirtual 335, 3) := dk_182 1 79 (dk_at dksJ8_startsWith_2_1 15 rfl rfl)
theorem dJ8_startsWith_2_42 : decode cJ8_startsWith_2 42 = .ok (.istore 7, 2) := dk_54 7 (dk_at dksJ8_startsWith_2_1 18 rfl rfl)
theorem dJ8_startsWith_2_44 : decode cJ8_startsWith_2 44 = .ok (.iload 7, 2) := dk_21 7 (dk_at dksJ8_startsWith_2_1 20 rfl rfl)
theorem dJ8_startsWith_2_46 : decode cJ8_startsWith_2 46 = .ok (.aload_n 1, 1) := dk_43 (dk_at dksJ8_startsWith_2_1 22 rfl rfl)
theorem dJ8_startsWith_2_47 : decode cJ8_startsWith_2 47 = .ok (.invokevirtual 335, 3) := dk_182 1 79 (dk_at dksJ8_startsWith_2_2 0 rfl rfl)
theorem dJ8_startsWith_2_50 : decode cJ8_startsWith_2 50 = .ok (.if_icmp .ne 32, 3) := dk_160 0 32 (dk_at dksJ8_startsWith_2_2 3 rfl rfl)
theorem dJ8_startsWith_2_53 : decode cJ8_startsWith_2 53 = .ok (.iload 7, 2) := dk_21 7 (dk_at dksJ8_startsWith_2_2 6 rfl rfl)
theorem dJ8_startsWith_2_55 : decode cJ8_startsWith_2 55 = .ok (.iconst 1, 1) := dk_4 (dk_at dksJ8_startsWith_2_2 8 rfl rfl)
theorem dJ8_startsWith_2_56 : decode cJ8_startsWith_2 56 = .ok (.if_icmp .ne 7, 3) := dk_160 0 7 (dk_at dksJ8_startsWith_2_2 9 rfl rfl)
theorem dJ8_startsWith_2_59 : decode cJ8_startsWith_2 59 = .ok (.iload_n 2, 1) := dk_28 (dk_at dksJ8_startsWith_2_2 12 rfl rfl)
theorem dJ8_startsWith_2_60 : decode cJ8_startsWith_2 60 = .ok (.iconst 1, 1) := dk_4 (dk_at dksJ8_startsWith_2_2 13 rfl rfl)
theorem dJ8_startsWith_2_61 : decode cJ8_startsWith_2 61 = .ok (.ishl, 1) := dk_120 (dk_at dksJ8_startsWith_2_2 14 rfl rfl)
theorem dJ8_startsWith_2_62 : decode cJ8_startsWith_2 62 = .ok (.istore_n 2, 1) := dk_61 (dk_at dksJ8_startsWith_2_2 15 rfl rfl)
theorem dJ8_startsWith_2_63 : decode cJ8_startsWith_2 63 = .ok (.aload_n 3, 1) := dk_45 (dk_at dksJ8_startsWith_2_2 16 rfl rfl)
theorem dJ8_startsWith_2_64 : decode cJ8_startsWith_2 64 = .ok (.iload_n 2, 1) := dk_28 (dk_at dksJ8_startsWith_2_2 17 rfl rfl)
theorem dJ8_startsWith_2_65 : decode cJ8_startsWith_2 65 = .ok (.aload 4, 2) := dk_25 4 (dk_at dksJ8_startsWith_2_2 18 rfl rfl)
theorem dJ8_startsWith_2_67 : decode cJ8_startsWith_2 67 = .ok (.iconst 0, 1) := dk_3 (dk_at dksJ8_startsWith_2_2 20 rfl rfl)
theorem dJ8_startsWith_2_68 : decode cJ8_startsWith_2 68 = .ok (.iload 6, 2) := dk_21 6 (dk_at dksJ8_startsWith_2_2 21 rfl rfl)
theorem dJ8_startsWith_2_70 : decode cJ8_startsWith_2 70 = .ok (.invokestatic 607, 3) := dk_184 2 95 (dk_at dksJ8_startsWith_2_3 0 rfl rfl)
theorem dJ8_startsWith_2_73 : decode cJ8_startsWith_2 73 = .ok (.ifCond .ge 7, 3) := dk_156 0 7 (dk_at dksJ8_startsWith_2_3 3 rfl rfl)
theorem dJ8_startsWith_2_76 : decode cJ8_startsWith_2 76 = .ok (.iconst 1, 1) := dk_4 (dk_at dksJ8_startsWith_2_3 6 rfl rfl)
theorem dJ8_startsWith_2_77 : decode cJ8_startsWith_2 77 = .ok (.goto 4, 3) := dk_167 0 4 (dk_at dksJ8_startsWith_2_3 7 rfl rfl)
theorem dJ8_startsWith_2_80 : decode cJ8_startsWith_2 80 = .ok (.iconst 0, 1) := dk_3 (dk_at dksJ8_startsWith_2_3 10 rfl rfl)
theorem dJ8_startsWith_2_81 : decode cJ8_startsWith_2 81 = .ok (.ireturn, 1) := dk_172 (dk_at dksJ8_startsWith_2_3 11 rfl rfl)
theorem dJ8_startsWith_2_82 : decode cJ8_startsWith_2 82 = .ok (.iload 7, 2) := dk_21 7 (dk_at dksJ8_startsWith_2_3 12 rfl rfl)
theorem dJ8_startsWith_2_84 : decode cJ8_startsWith_2 84 = .ok (.ifCond .ne 5, 3) := dk_154 0 5 (dk_at dksJ8_startsWith_2_3 14 rfl rfl)
theorem dJ8_startsWith_2_87 : decode cJ8_startsWith_2 87 = .ok (.iconst 0, 1) := dk_3 (dk_at dksJ8_startsWith_2_3 17 rfl rfl)
theorem dJ8_startsWith_2_88 : decode cJ8_startsWith_2 88 = .ok (.ireturn, 1) := dk_172 (dk_at dksJ8_startsWith_2_3 18 rfl rfl)
theorem dJ8_startsWith_2_89 : decode cJ8_startsWith_2 89 = .ok (.iload 5, 2) := dk_21 5 (dk_at dksJ8_startsWith_2_3 19 rfl rfl)
theorem dJ8_startsWith_2_91 : decode cJ8_startsWith_2 91 = .ok (.iload 6, 2) := dk_21 6 (dk_at dksJ8_startsWith_2_3 21 rfl rfl)
theorem dJ8_startsWith_2_93 : decode cJ8_startsWith_2 93 = .ok (.if_icmp .ge 28, 3) := dk_162 0 28 (dk_at dksJ8_startsWith_2_4 0 rfl rfl)
theorem dJ8_startsWith_2_96 : decode cJ8_startsWith_2 96 = .ok (.aload_n 3, 1) := dk_45 (dk_at dksJ8_startsWith_2_4 3 rfl rfl)
theorem dJ8_startsWith_2_97 : decode cJ8_startsWith_2 97 = .ok (.iload_n 2, 1) := dk_28 (dk_at dksJ8_startsWith_2_4 4 rfl rfl)
theorem dJ8_startsWith_2_98 : decode cJ8_startsWith_2 98 = .ok (.iinc 2 1, 3) := dk_132 2 1 (dk_at dksJ8_startsWith_2_4 5 rfl rfl)
theorem dJ8_startsWith_2_101 : decode cJ8_startsWith_2 101 = .ok (.invokestatic 360, 3) := dk_184 1 104 (dk_at dksJ8_startsWith_2_4 8 rfl rfl)
theorem dJ8_startsWith_2_104 : decode cJ8_startsWith_2 104 = .ok (.aload 4, 2) := dk_25 4 (dk_at dksJ8_startsWith_2_4 11 rfl rfl)
theorem dJ8_startsWith_2_106 : decode cJ8_startsWith_2 106 = .ok (.iload 5, 2) := dk_21 5 (dk_at dksJ8_startsWith_2_4 13 rfl rfl)
theorem dJ8_startsWith_2_108 : decode cJ8_startsWith_2 108 = .ok (.iinc 5 1, 3) := dk_132 5 1 (dk_at dksJ8_startsWith_2_4 15 rfl rfl)
theorem dJ8_startsWith_2_111 : decode cJ8_startsWith_2 111 = .ok (.baload, 1) := dk_51 (dk_at dksJ8_startsWith_2_4 18 rfl rfl)
theorem dJ8_startsWith_2_112 : decode cJ8_startsWith_2 112 = .ok (.sipush 255, 3) := dk_17 0 255 (dk_at dksJ8_startsWith_2_4 19 rfl rfl)
theorem dJ8_startsWith_2_115 : decode cJ8_startsWith_2 115 = .ok (.iand, 1) := dk_126 (dk_at dksJ8_startsWith_2_4 22 rfl rfl)
theorem dJ8_startsWith_2_116 : decode cJ8_startsWith_2 116 = .ok (.if_icmp .eq (-27), 3) := dk_159 255 229 (dk_at dksJ8_startsWith_2_5 0 rfl rfl)
theorem dJ8_startsWith_2_119 : decode cJ8_startsWith_2 119 = .ok (.iconst 0, 1) := dk_3 (dk_at dksJ8_startsWith_2_5 3 rfl rfl)
theorem dJ8_startsWith_2_120 : decode cJ8_startsWith_2 120 = .ok (.ireturn, 1) := dk_172 (dk_at dksJ8_startsWith_2_5 4 rfl rfl)
theorem dJ8_startsWith_2_121 : decode cJ8_startsWith_2 121 = .ok (.iconst 1, 1) := dk_4 (dk_at dksJ8_startsWith_2_5 5 rfl rfl)
theorem dJ8_startsWith_2_122 : decode cJ8_startsWith_2 122 = .ok (.ireturn, 1) := dk_172 (dk_at dksJ8_startsWith_2_5 6 rfl rfl)
abbrev cJ8_hashCode : ByteArray := prog_29_method_78_code
def yJ8_hashCode : MethodName := ⟨RJ8, "hashCode", "()I"⟩
def dkwJ8_hashCode_2 : List UInt8 := [181, 0, 23, 167, 0, 8, 42, 27, 181, 0, 19, 27, 172]
abbrev dktJ8_hashCode_2 : List UInt8 := dkwJ8_hashCode_2 ++ []
def dkwJ8_hashCode_1 : List UInt8 := [180, 0, 9, 184, 2, 116, 167, 0, 10, 42, 180, 0, 9, 184, 2, 120, 60, 27, 154, 0, 11, 42, 4]
abbrev dktJ8_hashCode_1 : List UInt8 := dkwJ8_hashCode_1 ++ dktJ8_hashCode_2
def dkwJ8_hashCode_0 : List UInt8 := [42, 180, 0, 19, 60, 27, 154, 0, 52, 42, 180, 0, 23, 154, 0, 45, 42, 182, 1, 236, 153, 0, 13, 42]
abbrev dktJ8_hashCode_0 : List UInt8 := dkwJ8_hashCode_0 ++ dktJ8_hashCode_1
theorem dksJ8_hashCode_0 : cJ8_hashCode.data.toList.drop 0 = dktJ8_hashCode_0 := by decide +kernel
theorem dksJ8_hashCode_1 : cJ8_hashCode.data.toList.drop 24 = dktJ8_hashCode_1 := dk_seg dksJ8_hashCode_0 24 rfl rfl
theorem dksJ8_hashCode_2 : cJ8_hashCode.data.toList.drop 47 = dktJ8_hashCode_2 := dk_seg dksJ8_hashCode_1 23 rfl rfl
theorem dJ8_hashCode_0 : decode cJ8_hashCode 0 = .ok (.aload_n 0, 1) := dk_42 (dk_at dksJ8_hashCode_0 0 rfl rfl)
theorem dJ8_hashCode_1 : decode cJ8_hashCode 1 = .ok (.getfield 19, 3) := dk_180 0 19 (dk_at dksJ8_hashCode_0 1 rfl rfl)
theorem dJ8_hashCode_4 : decode cJ8_hashCode 4 = .ok (.istore_n 1, 1) := dk_60 (dk_at dksJ8_hashCode_0 4 rfl rfl)
theorem dJ8_hashCode_5 : decode cJ8_hashCode 5 = .ok (.iload_n 1, 1) := dk_27 (dk_at dksJ8_hashCode_0 5 rfl rfl)
theorem dJ8_hashCode_6 : decode cJ8_hashCode 6 = .ok (.ifCond .ne 52, 3) := dk_154 0 52 (dk_at dksJ8_hashCode_0 6 rfl rfl)
theorem dJ8_hashCode_9 : decode cJ8_hashCode 9 = .ok (.aload_n 0, 1) := dk_42 (dk_at dksJ8_hashCode_0 9 rfl rfl)
theorem dJ8_hashCode_10 : decode cJ8_hashCode 10 = .ok (.getfield 23, 3) := dk_180 0 23 (dk_at dksJ8_hashCode_0 10 rfl rfl)
theorem dJ8_hashCode_13 : decode cJ8_hashCode 13 = .ok (.ifCond .ne 45, 3) := dk_154 0 45 (dk_at dksJ8_hashCode_0 13 rfl rfl)
theorem dJ8_hashCode_16 : decode cJ8_hashCode 16 = .ok (.aload_n 0, 1) := dk_42 (dk_at dksJ8_hashCode_0 16 rfl rfl)
theorem dJ8_hashCode_17 : decode cJ8_hashCode 17 = .ok (.invokevirtual 492, 3) := dk_182 1 236 (dk_at dksJ8_hashCode_0 17 rfl rfl)
theorem dJ8_hashCode_20 : decode cJ8_hashCode 20 = .ok (.ifCond .eq 13, 3) := dk_153 0 13 (dk_at dksJ8_hashCode_0 20 rfl rfl)
theorem dJ8_hashCode_23 : decode cJ8_hashCode 23 = .ok (.aload_n 0, 1) := dk_42 (dk_at dksJ8_hashCode_0 23 rfl rfl)
theorem dJ8_hashCode_24 : decode cJ8_hashCode 24 = .ok (.getfield 9, 3) := dk_180 0 9 (dk_at dksJ8_hashCode_1 0 rfl rfl)
theorem dJ8_hashCode_27 : decode cJ8_hashCode 27 = .ok (.invokestatic 628, 3) := dk_184 2 116 (dk_at dksJ8_hashCode_1 3 rfl rfl)
theorem dJ8_hashCode_30 : decode cJ8_hashCode 30 = .ok (.goto 10, 3) := dk_167 0 10 (dk_at dksJ8_hashCode_1 6 rfl rfl)
theorem dJ8_hashCode_33 : decode cJ8_hashCode 33 = .ok (.aload_n 0, 1) := dk_42 (dk_at dksJ8_hashCode_1 9 rfl rfl)
theorem dJ8_hashCode_34 : decode cJ8_hashCode 34 = .ok (.getfield 9, 3) := dk_180 0 9 (dk_at dksJ8_hashCode_1 10 rfl rfl)
theorem dJ8_hashCode_37 : decode cJ8_hashCode 37 = .ok (.invokestatic 632, 3) := dk_184 2 120 (dk_at dksJ8_hashCode_1 13 rfl rfl)
theorem dJ8_hashCode_40 : decode cJ8_hashCode 40 = .ok (.istore_n 1, 1) := dk_60 (dk_at dksJ8_hashCode_1 16 rfl rfl)
theorem dJ8_hashCode_41 : decode cJ8_hashCode 41 = .ok (.iload_n 1, 1) := dk_27 (dk_at dksJ8_hashCode_1 17 rfl rfl)
theorem dJ8_hashCode_42 : decode cJ8_hashCode 42 = .ok (.ifCond .ne 11, 3) := dk_154 0 11 (dk_at dksJ8_hashCode_1 18 rfl rfl)
theorem dJ8_hashCode_45 : decode cJ8_hashCode 45 = .ok (.aload_n 0, 1) := dk_42 (dk_at dksJ8_hashCode_1 21 rfl rfl)
theorem dJ8_hashCode_46 : decode cJ8_hashCode 46 = .ok (.iconst 1, 1) := dk_4 (dk_at dksJ8_hashCode_1 22 rfl rfl)
theorem dJ8_hashCode_47 : decode cJ8_hashCode 47 = .ok (.putfield 23, 3) := dk_181 0 23 (dk_at dksJ8_hashCode_2 0 rfl rfl)
theorem dJ8_hashCode_50 : decode cJ8_hashCode 50 = .ok (.goto 8, 3) := dk_167 0 8 (dk_at dksJ8_hashCode_2 3 rfl rfl)
theorem dJ8_hashCode_53 : decode cJ8_hashCode 53 = .ok (.aload_n 0, 1) := dk_42 (dk_at dksJ8_hashCode_2 6 rfl rfl)
theorem dJ8_hashCode_54 : decode cJ8_hashCode 54 = .ok (.iload_n 1, 1) := dk_27 (dk_at dksJ8_hashCode_2 7 rfl rfl)
theorem dJ8_hashCode_55 : decode cJ8_hashCode 55 = .ok (.putfield 19, 3) := dk_181 0 19 (dk_at dksJ8_hashCode_2 8 rfl rfl)
theorem dJ8_hashCode_58 : decode cJ8_hashCode 58 = .ok (.iload_n 1, 1) := dk_27 (dk_at dksJ8_hashCode_2 11 rfl rfl)
theorem dJ8_hashCode_59 : decode cJ8_hashCode 59 = .ok (.ireturn, 1) := dk_172 (dk_at dksJ8_hashCode_2 12 rfl rfl)
abbrev cJ9_newBytesFor : ByteArray := prog_33_method_2_code
def yJ9_newBytesFor : MethodName := ⟨RJ9, "newBytesFor", "(I)[B"⟩
def dkwJ9_newBytesFor_0 : List UInt8 := [26, 184, 0, 11, 188, 8, 176]
abbrev dktJ9_newBytesFor_0 : List UInt8 := dkwJ9_newBytesFor_0 ++ []
theorem dksJ9_newBytesFor_0 : cJ9_newBytesFor.data.toList.drop 0 = dktJ9_newBytesFor_0 := by decide +kernel
theorem dJ9_newBytesFor_0 : decode cJ9_newBytesFor 0 = .ok (.iload_n 0, 1) := dk_26 (dk_at dksJ9_newBytesFor_0 0 rfl rfl)
theorem dJ9_newBytesFor_1 : decode cJ9_newBytesFor 1 = .ok (.invokestatic 11, 3) := dk_184 0 11 (dk_at dksJ9_newBytesFor_0 1 rfl rfl)
theorem dJ9_newBytesFor_4 : decode cJ9_newBytesFor 4 = .ok (.newarray .byte, 2) := dk_188_8 (dk_at dksJ9_newBytesFor_0 4 rfl rfl)
theorem dJ9_newBytesFor_6 : decode cJ9_newBytesFor 6 = .ok (.areturn, 1) := dk_176 (dk_at dksJ9_newBytesFor_0 6 rfl rfl)
abbrev cJ9_newBytesLength : ByteArray := prog_33_method_3_code
def yJ9_newBytesLength : MethodName := ⟨RJ9, "newBytesLength", "(I)I"⟩
def dkwJ9_newBytesLength_2 : List UInt8 := [182, 0, 32, 182, 0, 37, 183, 0, 41, 191, 26, 4, 120, 172]
abbrev dktJ9_newBytesLength_2 : List UInt8 := dkwJ9_newBytesLength_2 ++ []
def dkwJ9_newBytesLength_1 : List UInt8 := [187, 0, 23, 89, 183, 0, 25, 18, 26, 182, 0, 28, 26, 182, 0, 32, 18, 35, 182, 0, 28, 18, 20]
abbrev dktJ9_newBytesLength_1 : List UInt8 := dkwJ9_newBytesLength_1 ++ dktJ9_newBytesLength_2
def dkwJ9_newBytesLength_0 : List UInt8 := [26, 156, 0, 11, 187, 0, 17, 89, 183, 0, 19, 191, 26, 18, 20, 161, 0, 40, 187, 0, 21, 89]
abbrev dktJ9_newBytesLength_0 : List UInt8 := dkwJ9_newBytesLength_0 ++ dktJ9_newBytesLength_1
theorem dksJ9_newBytesLength_0 : cJ9_newBytesLength.data.toList.drop 0 = dktJ9_newBytesLength_0 := by decide +kernel
theorem dksJ9_newBytesLength_1 : cJ9_newBytesLength.data.toList.drop 22 = dktJ9_newBytesLength_1 := dk_seg dksJ9_newBytesLength_0 22 rfl rfl
theorem dksJ9_newBytesLength_2 : cJ9_newBytesLength.data.toList.drop 45 = dktJ9_newBytesLength_2 := dk_seg dksJ9_newBytesLength_1 23 rfl rfl
theorem dJ9_newBytesLength_0 : decode cJ9_newBytesLength 0 = .ok (.iload_n 0, 1) := dk_26 (dk_at dksJ9_newBytesLength_0 0 rfl rfl)
theorem dJ9_newBytesLength_1 : decode cJ9_newBytesLength 1 = .ok (.ifCond .ge 11, 3) := dk_156 0 11 (dk_at dksJ9_newBytesLength_0 1 rfl rfl)
theorem dJ9_newBytesLength_4 : decode cJ9_newBytesLength 4 = .ok (.new 17, 3) := dk_187 0 17 (dk_at dksJ9_newBytesLength_0 4 rfl rfl)
theorem dJ9_newBytesLength_7 : decode cJ9_newBytesLength 7 = .ok (.dup, 1) := dk_89 (dk_at dksJ9_newBytesLength_0 7 rfl rfl)
theorem dJ9_newBytesLength_8 : decode cJ9_newBytesLength 8 = .ok (.invokespecial 19, 3) := dk_183 0 19 (dk_at dksJ9_newBytesLength_0 8 rfl rfl)
theorem dJ9_newBytesLength_11 : decode cJ9_newBytesLength 11 = .ok (.athrow, 1) := dk_191 (dk_at dksJ9_newBytesLength_0 11 rfl rfl)
theorem dJ9_newBytesLength_12 : decode cJ9_newBytesLength 12 = .ok (.iload_n 0, 1) := dk_26 (dk_at dksJ9_newBytesLength_0 12 rfl rfl)
theorem dJ9_newBytesLength_13 : decode cJ9_newBytesLength 13 = .ok (.ldc 20, 2) := dk_18 20 (dk_at dksJ9_newBytesLength_0 13 rfl rfl)
theorem dJ9_newBytesLength_15 : decode cJ9_newBytesLength 15 = .ok (.if_icmp .lt 40, 3) := dk_161 0 40 (dk_at dksJ9_newBytesLength_0 15 rfl rfl)
theorem dJ9_newBytesLength_18 : decode cJ9_newBytesLength 18 = .ok (.new 21, 3) := dk_187 0 21 (dk_at dksJ9_newBytesLength_0 18 rfl rfl)
theorem dJ9_newBytesLength_21 : decode cJ9_newBytesLength 21 = .ok (.dup, 1) := dk_89 (dk_at dksJ9_newBytesLength_0 21 rfl rfl)
theorem dJ9_newBytesLength_22 : decode cJ9_newBytesLength 22 = .ok (.new 23, 3) := dk_187 0 23 (dk_at dksJ9_newBytesLength_1 0 rfl rfl)
theorem dJ9_newBytesLength_25 : decode cJ9_newBytesLength 25 = .ok (.dup, 1) := dk_89 (dk_at dksJ9_newBytesLength_1 3 rfl rfl)
theorem dJ9_newBytesLength_26 : decode cJ9_newBytesLength 26 = .ok (.invokespecial 25, 3) := dk_183 0 25 (dk_at dksJ9_newBytesLength_1 4 rfl rfl)
theorem dJ9_newBytesLength_29 : decode cJ9_newBytesLength 29 = .ok (.ldc 26, 2) := dk_18 26 (dk_at dksJ9_newBytesLength_1 7 rfl rfl)
theorem dJ9_newBytesLength_31 : decode cJ9_newBytesLength 31 = .ok (.invokevirtual 28, 3) := dk_182 0 28 (dk_at dksJ9_newBytesLength_1 9 rfl rfl)
theorem dJ9_newBytesLength_34 : decode cJ9_newBytesLength 34 = .ok (.iload_n 0, 1) := dk_26 (dk_at dksJ9_newBytesLength_1 12 rfl rfl)
theorem dJ9_newBytesLength_35 : decode cJ9_newBytesLength 35 = .ok (.invokevirtual 32, 3) := dk_182 0 32 (dk_at dksJ9_newBytesLength_1 13 rfl rfl)
theorem dJ9_newBytesLength_38 : decode cJ9_newBytesLength 38 = .ok (.ldc 35, 2) := dk_18 35 (dk_at dksJ9_newBytesLength_1 16 rfl rfl)
theorem dJ9_newBytesLength_40 : decode cJ9_newBytesLength 40 = .ok (.invokevirtual 28, 3) := dk_182 0 28 (dk_at dksJ9_newBytesLength_1 18 rfl rfl)
theorem dJ9_newBytesLength_43 : decode cJ9_newBytesLength 43 = .ok (.ldc 20, 2) := dk_18 20 (dk_at dksJ9_newBytesLength_1 21 rfl rfl)
theorem dJ9_newBytesLength_45 : decode cJ9_newBytesLength 45 = .ok (.invokevirtual 32, 3) := dk_182 0 32 (dk_at dksJ9_newBytesLength_2 0 rfl rfl)
theorem dJ9_newBytesLength_48 : decode cJ9_newBytesLength 48 = .ok (.invokevirtual 37, 3) := dk_182 0 37 (dk_at dksJ9_newBytesLength_2 3 rfl rfl)
theorem dJ9_newBytesLength_51 : decode cJ9_newBytesLength 51 = .ok (.invokespecial 41, 3) := dk_183 0 41 (dk_at dksJ9_newBytesLength_2 6 rfl rfl)
theorem dJ9_newBytesLength_54 : decode cJ9_newBytesLength 54 = .ok (.athrow, 1) := dk_191 (dk_at dksJ9_newBytesLength_2 9 rfl rfl)
theorem dJ9_newBytesLength_55 : decode cJ9_newBytesLength 55 = .ok (.iload_n 0, 1) := dk_26 (dk_at dksJ9_newBytesLength_2 10 rfl rfl)
theorem dJ9_newBytesLength_56 : decode cJ9_newBytesLength 56 = .ok (.iconst 1, 1) := dk_4 (dk_at dksJ9_newBytesLength_2 11 rfl rfl)
theorem dJ9_newBytesLength_57 : decode cJ9_newBytesLength 57 = .ok (.ishl, 1) := dk_120 (dk_at dksJ9_newBytesLength_2 12 rfl rfl)
theorem dJ9_newBytesLength_58 : decode cJ9_newBytesLength 58 = .ok (.ireturn, 1) := dk_172 (dk_at dksJ9_newBytesLength_2 13 rfl rfl)
abbrev cJ9_putCharsAt : ByteArray := prog_33_method_81_code
def yJ9_putCharsAt : MethodName := ⟨RJ9, "putCharsAt", "([BICCCC)I"⟩
def dkwJ9_putCharsAt_3 : List UInt8 := [21, 6, 172]
abbrev dktJ9_putCharsAt_3 : List UInt8 := dkwJ9_putCharsAt_3 ++ []
def dkwJ9_putCharsAt_2 : List UInt8 := [184, 0, 111, 178, 0, 44, 154, 0, 17, 27, 21, 6, 159, 0, 11, 187, 0, 52, 89, 183, 0, 66, 191]
abbrev dktJ9_putCharsAt_2 : List UInt8 := dkwJ9_putCharsAt_2 ++ dktJ9_putCharsAt_3
def dkwJ9_putCharsAt_1 : List UInt8 := [132, 1, 1, 29, 184, 0, 111, 42, 27, 132, 1, 1, 21, 4, 184, 0, 111, 42, 27, 132, 1, 1, 21, 5]
abbrev dktJ9_putCharsAt_1 : List UInt8 := dkwJ9_putCharsAt_1 ++ dktJ9_putCharsAt_2
def dkwJ9_putCharsAt_0 : List UInt8 := [27, 7, 96, 54, 6, 27, 21, 6, 42, 184, 0, 96, 42, 27, 132, 1, 1, 28, 184, 0, 111, 42, 27]
abbrev dktJ9_putCharsAt_0 : List UInt8 := dkwJ9_putCharsAt_0 ++ dktJ9_putCharsAt_1
theorem dksJ9_putCharsAt_0 : cJ9_putCharsAt.data.toList.drop 0 = dktJ9_putCharsAt_0 := by decide +kernel
theorem dksJ9_putCharsAt_1 : cJ9_putCharsAt.data.toList.drop 23 = dktJ9_putCharsAt_1 := dk_seg dksJ9_putCharsAt_0 23 rfl rfl
theorem dksJ9_putCharsAt_2 : cJ9_putCharsAt.data.toList.drop 47 = dktJ9_putCharsAt_2 := dk_seg dksJ9_putCharsAt_1 24 rfl rfl
theorem dksJ9_putCharsAt_3 : cJ9_putCharsAt.data.toList.drop 70 = dktJ9_putCharsAt_3 := dk_seg dksJ9_putCharsAt_2 23 rfl rfl
theorem dJ9_putCharsAt_0 : decode cJ9_putCharsAt 0 = .ok (.iload_n 1, 1) := dk_27 (dk_at dksJ9_putCharsAt_0 0 rfl rfl)
theorem dJ9_putCharsAt_1 : decode cJ9_putCharsAt 1 = .ok (.iconst 4, 1) := dk_7 (dk_at dksJ9_putCharsAt_0 1 rfl rfl)
theorem dJ9_putCharsAt_2 : decode cJ9_putCharsAt 2 = .ok (.iadd, 1) := dk_96 (dk_at dksJ9_putCharsAt_0 2 rfl rfl)
theorem dJ9_putCharsAt_3 : decode cJ9_putCharsAt 3 = .ok (.istore 6, 2) := dk_54 6 (dk_at dksJ9_putCharsAt_0 3 rfl rfl)
theorem dJ9_putCharsAt_5 : decode cJ9_putCharsAt 5 = .ok (.iload_n 1, 1) := dk_27 (dk_at dksJ9_putCharsAt_0 5 rfl rfl)
theorem dJ9_putCharsAt_6 : decode cJ9_putCharsAt 6 = .ok (.iload 6, 2) := dk_21 6 (dk_at dksJ9_putCharsAt_0 6 rfl rfl)
theorem dJ9_putCharsAt_8 : decode cJ9_putCharsAt 8 = .ok (.aload_n 0, 1) := dk_42 (dk_at dksJ9_putCharsAt_0 8 rfl rfl)
theorem dJ9_putCharsAt_9 : decode cJ9_putCharsAt 9 = .ok (.invokestatic 96, 3) := dk_184 0 96 (dk_at dksJ9_putCharsAt_0 9 rfl rfl)
theorem dJ9_putCharsAt_12 : decode cJ9_putCharsAt 12 = .ok (.aload_n 0, 1) := dk_42 (dk_at dksJ9_putCharsAt_0 12 rfl rfl)
theorem dJ9_putCharsAt_13 : decode cJ9_putCharsAt 13 = .ok (.iload_n 1, 1) := dk_27 (dk_at dksJ9_putCharsAt_0 13 rfl rfl)
theorem dJ9_putCharsAt_14 : decode cJ9_putCharsAt 14 = .ok (.iinc 1 1, 3) := dk_132 1 1 (dk_at dksJ9_putCharsAt_0 14 rfl rfl)
theorem dJ9_putCharsAt_17 : decode cJ9_putCharsAt 17 = .ok (.iload_n 2, 1) := dk_28 (dk_at dksJ9_putCharsAt_0 17 rfl rfl)
theorem dJ9_putCharsAt_18 : decode cJ9_putCharsAt 18 = .ok (.invokestatic 111, 3) := dk_184 0 111 (dk_at dksJ9_putCharsAt_0 18 rfl rfl)
theorem dJ9_putCharsAt_21 : decode cJ9_putCharsAt 21 = .ok (.aload_n 0, 1) := dk_42 (dk_at dksJ9_putCharsAt_0 21 rfl rfl)
theorem dJ9_putCharsAt_22 : decode cJ9_putCharsAt 22 = .ok (.iload_n 1, 1) := dk_27 (dk_at dksJ9_putCharsAt_0 22 rfl rfl)
theorem dJ9_putCharsAt_23 : decode cJ9_putCharsAt 23 = .ok (.iinc 1 1, 3) := dk_132 1 1 (dk_at dksJ9_putCharsAt_1 0 rfl rfl)
theorem dJ9_putCharsAt_26 : decode cJ9_putCharsAt 26 = .ok (.iload_n 3, 1) := dk_29 (dk_at dksJ9_putCharsAt_1 3 rfl rfl)
theorem dJ9_putCharsAt_27 : decode cJ9_putCharsAt 27 = .ok (.invokestatic 111, 3) := dk_184 0 111 (dk_at dksJ9_putCharsAt_1 4 rfl rfl)
theorem dJ9_putCharsAt_30 : decode cJ9_putCharsAt 30 = .ok (.aload_n 0, 1) := dk_42 (dk_at dksJ9_putCharsAt_1 7 rfl rfl)
theorem dJ9_putCharsAt_31 : decode cJ9_putCharsAt 31 = .ok (.iload_n 1, 1) := dk_27 (dk_at dksJ9_putCharsAt_1 8 rfl rfl)
theorem dJ9_putCharsAt_32 : decode cJ9_putCharsAt 32 = .ok (.iinc 1 1, 3) := dk_132 1 1 (dk_at dksJ9_putCharsAt_1 9 rfl rfl)
theorem dJ9_putCharsAt_35 : decode cJ9_putCharsAt 35 = .ok (.iload 4, 2) := dk_21 4 (dk_at dksJ9_putCharsAt_1 12 rfl rfl)
theorem dJ9_putCharsAt_37 : decode cJ9_putCharsAt 37 = .ok (.invokestatic 111, 3) := dk_184 0 111 (dk_at dksJ9_putCharsAt_1 14 rfl rfl)
theorem dJ9_putCharsAt_40 : decode cJ9_putCharsAt 40 = .ok (.aload_n 0, 1) := dk_42 (dk_at dksJ9_putCharsAt_1 17 rfl rfl)
theorem dJ9_putCharsAt_41 : decode cJ9_putCharsAt 41 = .ok (.iload_n 1, 1) := dk_27 (dk_at dksJ9_putCharsAt_1 18 rfl rfl)
theorem dJ9_putCharsAt_42 : decode cJ9_putCharsAt 42 = .ok (.iinc 1 1, 3) := dk_132 1 1 (dk_at dksJ9_putCharsAt_1 19 rfl rfl)
theorem dJ9_putCharsAt_45 : decode cJ9_putCharsAt 45 = .ok (.iload 5, 2) := dk_21 5 (dk_at dksJ9_putCharsAt_1 22 rfl rfl)
theorem dJ9_putCharsAt_47 : decode cJ9_putCharsAt 47 = .ok (.invokestatic 111, 3) := dk_184 0 111 (dk_at dksJ9_putCharsAt_2 0 rfl rfl)
theorem dJ9_putCharsAt_50 : decode cJ9_putCharsAt 50 = .ok (.getstatic 44, 3) := dk_178 0 44 (dk_at dksJ9_putCharsAt_2 3 rfl rfl)
theorem dJ9_putCharsAt_53 : decode cJ9_putCharsAt 53 = .ok (.ifCond .ne 17, 3) := dk_154 0 17 (dk_at dksJ9_putCharsAt_2 6 rfl rfl)
theorem dJ9_putCharsAt_56 : decode cJ9_putCharsAt 56 = .ok (.iload_n 1, 1) := dk_27 (dk_at dksJ9_putCharsAt_2 9 rfl rfl)
theorem dJ9_putCharsAt_57 : decode cJ9_putCharsAt 57 = .ok (.iload 6, 2) := dk_21 6 (dk_at dksJ9_putCharsAt_2 10 rfl rfl)
theorem dJ9_putCharsAt_59 : decode cJ9_putCharsAt 59 = .ok (.if_icmp .eq 11, 3) := dk_159 0 11 (dk_at dksJ9_putCharsAt_2 12 rfl rfl)
theorem dJ9_putCharsAt_62 : decode cJ9_putCharsAt 62 = .ok (.new 52, 3) := dk_187 0 52 (dk_at dksJ9_putCharsAt_2 15 rfl rfl)
theorem dJ9_putCharsAt_65 : decode cJ9_putCharsAt 65 = .ok (.dup, 1) := dk_89 (dk_at dksJ9_putCharsAt_2 18 rfl rfl)
theorem dJ9_putCharsAt_66 : decode cJ9_putCharsAt 66 = .ok (.invokespecial 66, 3) := dk_183 0 66 (dk_at dksJ9_putCharsAt_2 19 rfl rfl)
theorem dJ9_putCharsAt_69 : decode cJ9_putCharsAt 69 = .ok (.athrow, 1) := dk_191 (dk_at dksJ9_putCharsAt_2 22 rfl rfl)
theorem dJ9_putCharsAt_70 : decode cJ9_putCharsAt 70 = .ok (.iload 6, 2) := dk_21 6 (dk_at dksJ9_putCharsAt_3 0 rfl rfl)
theorem dJ9_putCharsAt_72 : decode cJ9_putCharsAt 72 = .ok (.ireturn, 1) := dk_172 (dk_at dksJ9_putCharsAt_3 2 rfl rfl)
abbrev cJ9_checkBoundsBeginEnd : ByteArray := prog_33_method_93_code
def yJ9_checkBoundsBeginEnd : MethodName := ⟨RJ9, "checkBoundsBeginEnd", "(II[B)V"⟩
def dkwJ9_checkBoundsBeginEnd_0 : List UInt8 := [26, 27, 44, 184, 0, 48, 184, 0, 241, 177]
abbrev dktJ9_checkBoundsBeginEnd_0 : List UInt8 := dkwJ9_checkBoundsBeginEnd_0 ++ []
theorem dksJ9_checkBoundsBeginEnd_0 : cJ9_checkBoundsBeginEnd.data.toList.drop 0 = dktJ9_checkBoundsBeginEnd_0 := by decide +kernel
theorem dJ9_checkBoundsBeginEnd_0 : decode cJ9_checkBoundsBeginEnd 0 = .ok (.iload_n 0, 1) := dk_26 (dk_at dksJ9_checkBoundsBeginEnd_0 0 rfl rfl)
theorem dJ9_checkBoundsBeginEnd_1 : decode cJ9_checkBoundsBeginEnd 1 = .ok (.iload_n 1, 1) := dk_27 (dk_at dksJ9_checkBoundsBeginEnd_0 1 rfl rfl)
theorem dJ9_checkBoundsBeginEnd_2 : decode cJ9_checkBoundsBeginEnd 2 = .ok (.aload_n 2, 1) := dk_44 (dk_at dksJ9_checkBoundsBeginEnd_0 2 rfl rfl)
theorem dJ9_checkBoundsBeginEnd_3 : decode cJ9_checkBoundsBeginEnd 3 = .ok (.invokestatic 48, 3) := dk_184 0 48 (dk_at dksJ9_checkBoundsBeginEnd_0 3 rfl rfl)
theorem dJ9_checkBoundsBeginEnd_6 : decode cJ9_checkBoundsBeginEnd 6 = .ok (.invokestatic 241, 3) := dk_184 0 241 (dk_at dksJ9_checkBoundsBeginEnd_0 6 rfl rfl)
theorem dJ9_checkBoundsBeginEnd_9 : decode cJ9_checkBoundsBeginEnd 9 = .ok (.return_, 1) := dk_177 (dk_at dksJ9_checkBoundsBeginEnd_0 9 rfl rfl)
abbrev cJ9_length : ByteArray := prog_33_method_6_code
def yJ9_length : MethodName := ⟨RJ9, "length", "([B)I"⟩
def dkwJ9_length_0 : List UInt8 := [42, 190, 4, 122, 172]
abbrev dktJ9_length_0 : List UInt8 := dkwJ9_length_0 ++ []
theorem dksJ9_length_0 : cJ9_length.data.toList.drop 0 = dktJ9_length_0 := by decide +kernel
theorem dJ9_length_0 : decode cJ9_length 0 = .ok (.aload_n 0, 1) := dk_42 (dk_at dksJ9_length_0 0 rfl rfl)
theorem dJ9_length_1 : decode cJ9_length 1 = .ok (.arraylength, 1) := dk_190 (dk_at dksJ9_length_0 1 rfl rfl)
theorem dJ9_length_2 : decode cJ9_length 2 = .ok (.iconst 1, 1) := dk_4 (dk_at dksJ9_length_0 2 rfl rfl)
theorem dJ9_length_3 : decode cJ9_length 3 = .ok (.ishr, 1) := dk_122 (dk_at dksJ9_length_0 3 rfl rfl)
theorem dJ9_length_4 : decode cJ9_length 4 = .ok (.ireturn, 1) := dk_172 (dk_at dksJ9_length_0 4 rfl rfl)
abbrev cJ9_putChar : ByteArray := prog_33_method_4_code
def yJ9_putChar : MethodName := ⟨RJ9, "putChar", "([BII)V"⟩
def dkwJ9_putChar_2 : List UInt8 := [178, 0, 63, 122, 145, 84, 177]
abbrev dktJ9_putChar_2 : List UInt8 := dkwJ9_putChar_2 ++ []
def dkwJ9_putChar_1 : List UInt8 := [183, 0, 56, 191, 27, 4, 120, 60, 42, 27, 132, 1, 1, 28, 178, 0, 59, 122, 145, 84, 42, 27, 28]
abbrev dktJ9_putChar_1 : List UInt8 := dkwJ9_putChar_1 ++ dktJ9_putChar_2
def dkwJ9_putChar_0 : List UInt8 := [178, 0, 44, 154, 0, 25, 27, 155, 0, 11, 27, 42, 184, 0, 48, 161, 0, 13, 187, 0, 52, 89, 18, 54]
abbrev dktJ9_putChar_0 : List UInt8 := dkwJ9_putChar_0 ++ dktJ9_putChar_1
theorem dksJ9_putChar_0 : cJ9_putChar.data.toList.drop 0 = dktJ9_putChar_0 := by decide +kernel
theorem dksJ9_putChar_1 : cJ9_putChar.data.toList.drop 24 = dktJ9_putChar_1 := dk_seg dksJ9_putChar_0 24 rfl rfl
theorem dksJ9_putChar_2 : cJ9_putChar.data.toList.drop 47 = dktJ9_putChar_2 := dk_seg dksJ9_putChar_1 23 rfl rfl
theorem dJ9_putChar_0 : decode cJ9_putChar 0 = .ok (.getstatic 44, 3) := dk_178 0 44 (dk_at dksJ9_putChar_0 0 rfl rfl)
theorem dJ9_putChar_3 : decode cJ9_putChar 3 = .ok (.ifCond .ne 25, 3) := dk_154 0 25 (dk_at dksJ9_putChar_0 3 rfl rfl)
theorem dJ9_putChar_6 : decode cJ9_putChar 6 = .ok (.iload_n 1, 1) := dk_27 (dk_at dksJ9_putChar_0 6 rfl rfl)
theorem dJ9_putChar_7 : decode cJ9_putChar 7 = .ok (.ifCond .lt 11, 3) := dk_155 0 11 (dk_at dksJ9_putChar_0 7 rfl rfl)
theorem dJ9_putChar_10 : decode cJ9_putChar 10 = .ok (.iload_n 1, 1) := dk_27 (dk_at dksJ9_putChar_0 10 rfl rfl)
theorem dJ9_putChar_11 : decode cJ9_putChar 11 = .ok (.aload_n 0, 1) := dk_42 (dk_at dksJ9_putChar_0 11 rfl rfl)
theorem dJ9_putChar_12 : decode cJ9_putChar 12 = .ok (.invokestatic 48, 3) := dk_184 0 48 (dk_at dksJ9_putChar_0 12 rfl rfl)
theorem dJ9_putChar_15 : decode cJ9_putChar 15 = .ok (.if_icmp .lt 13, 3) := dk_161 0 13 (dk_at dksJ9_putChar_0 15 rfl rfl)
theorem dJ9_putChar_18 : decode cJ9_putChar 18 = .ok (.new 52, 3) := dk_187 0 52 (dk_at dksJ9_putChar_0 18 rfl rfl)
theorem dJ9_putChar_21 : decode cJ9_putChar 21 = .ok (.dup, 1) := dk_89 (dk_at dksJ9_putChar_0 21 rfl rfl)
theorem dJ9_putChar_22 : decode cJ9_putChar 22 = .ok (.ldc 54, 2) := dk_18 54 (dk_at dksJ9_putChar_0 22 rfl rfl)
theorem dJ9_putChar_24 : decode cJ9_putChar 24 = .ok (.invokespecial 56, 3) := dk_183 0 56 (dk_at dksJ9_putChar_1 0 rfl rfl)
theorem dJ9_putChar_27 : decode cJ9_putChar 27 = .ok (.athrow, 1) := dk_191 (dk_at dksJ9_putChar_1 3 rfl rfl)
theorem dJ9_putChar_28 : decode cJ9_putChar 28 = .ok (.iload_n 1, 1) := dk_27 (dk_at dksJ9_putChar_1 4 rfl rfl)
theorem dJ9_putChar_29 : decode cJ9_putChar 29 = .ok (.iconst 1, 1) := dk_4 (dk_at dksJ9_putChar_1 5 rfl rfl)
theorem dJ9_putChar_30 : decode cJ9_putChar 30 = .ok (.ishl, 1) := dk_120 (dk_at dksJ9_putChar_1 6 rfl rfl)
theorem dJ9_putChar_31 : decode cJ9_putChar 31 = .ok (.istore_n 1, 1) := dk_60 (dk_at dksJ9_putChar_1 7 rfl rfl)
theorem dJ9_putChar_32 : decode cJ9_putChar 32 = .ok (.aload_n 0, 1) := dk_42 (dk_at dksJ9_putChar_1 8 rfl rfl)
theorem dJ9_putChar_33 : decode cJ9_putChar 33 = .ok (.iload_n 1, 1) := dk_27 (dk_at dksJ9_putChar_1 9 rfl rfl)
theorem dJ9_putChar_34 : decode cJ9_putChar 34 = .ok (.iinc 1 1, 3) := dk_132 1 1 (dk_at dksJ9_putChar_1 10 rfl rfl)
theorem dJ9_putChar_37 : decode cJ9_putChar 37 = .ok (.iload_n 2, 1) := dk_28 (dk_at dksJ9_putChar_1 13 rfl rfl)
theorem dJ9_putChar_38 : decode cJ9_putChar 38 = .ok (.getstatic 59, 3) := dk_178 0 59 (dk_at dksJ9_putChar_1 14 rfl rfl)
theorem dJ9_putChar_41 : decode cJ9_putChar 41 = .ok (.ishr, 1) := dk_122 (dk_at dksJ9_putChar_1 17 rfl rfl)
theorem dJ9_putChar_42 : decode cJ9_putChar 42 = .ok (.i2b, 1) := dk_145 (dk_at dksJ9_putChar_1 18 rfl rfl)
theorem dJ9_putChar_43 : decode cJ9_putChar 43 = .ok (.bastore, 1) := dk_84 (dk_at dksJ9_putChar_1 19 rfl rfl)
theorem dJ9_putChar_44 : decode cJ9_putChar 44 = .ok (.aload_n 0, 1) := dk_42 (dk_at dksJ9_putChar_1 20 rfl rfl)
theorem dJ9_putChar_45 : decode cJ9_putChar 45 = .ok (.iload_n 1, 1) := dk_27 (dk_at dksJ9_putChar_1 21 rfl rfl)
theorem dJ9_putChar_46 : decode cJ9_putChar 46 = .ok (.iload_n 2, 1) := dk_28 (dk_at dksJ9_putChar_1 22 rfl rfl)
theorem dJ9_putChar_47 : decode cJ9_putChar 47 = .ok (.getstatic 63, 3) := dk_178 0 63 (dk_at dksJ9_putChar_2 0 rfl rfl)
theorem dJ9_putChar_50 : decode cJ9_putChar 50 = .ok (.ishr, 1) := dk_122 (dk_at dksJ9_putChar_2 3 rfl rfl)
theorem dJ9_putChar_51 : decode cJ9_putChar 51 = .ok (.i2b, 1) := dk_145 (dk_at dksJ9_putChar_2 4 rfl rfl)
theorem dJ9_putChar_52 : decode cJ9_putChar 52 = .ok (.bastore, 1) := dk_84 (dk_at dksJ9_putChar_2 5 rfl rfl)
theorem dJ9_putChar_53 : decode cJ9_putChar 53 = .ok (.return_, 1) := dk_177 (dk_at dksJ9_putChar_2 6 rfl rfl)
abbrev cJ9_inflate : ByteArray := prog_33_method_86_code
def yJ9_inflate : MethodName := ⟨RJ9, "inflate", "([BI[BII)V"⟩
def dkwJ9_inflate_1 : List UInt8 := [132, 1, 1, 51, 17, 0, 255, 126, 184, 0, 111, 132, 5, 1, 167, 255, 228, 177]
abbrev dktJ9_inflate_1 : List UInt8 := dkwJ9_inflate_1 ++ []
def dkwJ9_inflate_0 : List UInt8 := [29, 21, 4, 44, 184, 0, 173, 3, 54, 5, 21, 5, 21, 4, 162, 0, 27, 44, 29, 132, 3, 1, 42, 27]
abbrev dktJ9_inflate_0 : List UInt8 := dkwJ9_inflate_0 ++ dktJ9_inflate_1
theorem dksJ9_inflate_0 : cJ9_inflate.data.toList.drop 0 = dktJ9_inflate_0 := by decide +kernel
theorem dksJ9_inflate_1 : cJ9_inflate.data.toList.drop 24 = dktJ9_inflate_1 := dk_seg dksJ9_inflate_0 24 rfl rfl
theorem dJ9_inflate_0 : decode cJ9_inflate 0 = .ok (.iload_n 3, 1) := dk_29 (dk_at dksJ9_inflate_0 0 rfl rfl)
theorem dJ9_inflate_1 : decode cJ9_inflate 1 = .ok (.iload 4, 2) := dk_21 4 (dk_at dksJ9_inflate_0 1 rfl rfl)
theorem dJ9_inflate_3 : decode cJ9_inflate 3 = .ok (.aload_n 2, 1) := dk_44 (dk_at dksJ9_inflate_0 3 rfl rfl)
theorem dJ9_inflate_4 : decode cJ9_inflate 4 = .ok (.invokestatic 173, 3) := dk_184 0 173 (dk_at dksJ9_inflate_0 4 rfl rfl)
theorem dJ9_inflate_7 : decode cJ9_inflate 7 = .ok (.iconst 0, 1) := dk_3 (dk_at dksJ9_inflate_0 7 rfl rfl)
theorem dJ9_inflate_8 : decode cJ9_inflate 8 = .ok (.istore 5, 2) := dk_54 5 (dk_at dksJ9_inflate_0 8 rfl rfl)
theorem dJ9_inflate_10 : decode cJ9_inflate 10 = .ok (.iload 5, 2) := dk_21 5 (dk_at dksJ9_inflate_0 10 rfl rfl)
theorem dJ9_inflate_12 : decode cJ9_inflate 12 = .ok (.iload 4, 2) := dk_21 4 (dk_at dksJ9_inflate_0 12 rfl rfl)
theorem dJ9_inflate_14 : decode cJ9_inflate 14 = .ok (.if_icmp .ge 27, 3) := dk_162 0 27 (dk_at dksJ9_inflate_0 14 rfl rfl)
theorem dJ9_inflate_17 : decode cJ9_inflate 17 = .ok (.aload_n 2, 1) := dk_44 (dk_at dksJ9_inflate_0 17 rfl rfl)
theorem dJ9_inflate_18 : decode cJ9_inflate 18 = .ok (.iload_n 3, 1) := dk_29 (dk_at dksJ9_inflate_0 18 rfl rfl)
theorem dJ9_inflate_19 : decode cJ9_inflate 19 = .ok (.iinc 3 1, 3) := dk_132 3 1 (dk_at dksJ9_inflate_0 19 rfl rfl)
theorem dJ9_inflate_22 : decode cJ9_inflate 22 = .ok (.aload_n 0, 1) := dk_42 (dk_at dksJ9_inflate_0 22 rfl rfl)
theorem dJ9_inflate_23 : decode cJ9_inflate 23 = .ok (.iload_n 1, 1) := dk_27 (dk_at dksJ9_inflate_0 23 rfl rfl)
theorem dJ9_inflate_24 : decode cJ9_inflate 24 = .ok (.iinc 1 1, 3) := dk_132 1 1 (dk_at dksJ9_inflate_1 0 rfl rfl)
theorem dJ9_inflate_27 : decode cJ9_inflate 27 = .ok (.baload, 1) := dk_51 (dk_at dksJ9_inflate_1 3 rfl rfl)
theorem dJ9_inflate_28 : decode cJ9_inflate 28 = .ok (.sipush 255, 3) := dk_17 0 255 (dk_at dksJ9_inflate_1 4 rfl rfl)
theorem dJ9_inflate_31 : decode cJ9_inflate 31 = .ok (.iand, 1) := dk_126 (dk_at dksJ9_inflate_1 7 rfl rfl)
theorem dJ9_inflate_32 : decode cJ9_inflate 32 = .ok (.invokestatic 111, 3) := dk_184 0 111 (dk_at dksJ9_inflate_1 8 rfl rfl)
theorem dJ9_inflate_35 : decode cJ9_inflate 35 = .ok (.iinc 5 1, 3) := dk_132 5 1 (dk_at dksJ9_inflate_1 11 rfl rfl)
theorem dJ9_inflate_38 : decode cJ9_inflate 38 = .ok (.goto (-28), 3) := dk_167 255 228 (dk_at dksJ9_inflate_1 14 rfl rfl)
theorem dJ9_inflate_41 : decode cJ9_inflate 41 = .ok (.return_, 1) := dk_177 (dk_at dksJ9_inflate_1 17 rfl rfl)
abbrev cJ9_checkBoundsOffCount : ByteArray := prog_33_method_94_code
def yJ9_checkBoundsOffCount : MethodName := ⟨RJ9, "checkBoundsOffCount", "(II[B)V"⟩
def dkwJ9_checkBoundsOffCount_0 : List UInt8 := [26, 27, 44, 184, 0, 48, 184, 1, 163, 87, 177]
abbrev dktJ9_checkBoundsOffCount_0 : List UInt8 := dkwJ9_checkBoundsOffCount_0 ++ []
theorem dksJ9_checkBoundsOffCount_0 : cJ9_checkBoundsOffCount.data.toList.drop 0 = dktJ9_checkBoundsOffCount_0 := by decide +kernel
theorem dJ9_checkBoundsOffCount_0 : decode cJ9_checkBoundsOffCount 0 = .ok (.iload_n 0, 1) := dk_26 (dk_at dksJ9_checkBoundsOffCount_0 0 rfl rfl)
theorem dJ9_checkBoundsOffCount_1 : decode cJ9_checkBoundsOffCount 1 = .ok (.iload_n 1, 1) := dk_27 (dk_at dksJ9_checkBoundsOffCount_0 1 rfl rfl)
theorem dJ9_checkBoundsOffCount_2 : decode cJ9_checkBoundsOffCount 2 = .ok (.aload_n 2, 1) := dk_44 (dk_at dksJ9_checkBoundsOffCount_0 2 rfl rfl)
theorem dJ9_checkBoundsOffCount_3 : decode cJ9_checkBoundsOffCount 3 = .ok (.invokestatic 48, 3) := dk_184 0 48 (dk_at dksJ9_checkBoundsOffCount_0 3 rfl rfl)
theorem dJ9_checkBoundsOffCount_6 : decode cJ9_checkBoundsOffCount 6 = .ok (.invokestatic 419, 3) := dk_184 1 163 (dk_at dksJ9_checkBoundsOffCount_0 6 rfl rfl)
theorem dJ9_checkBoundsOffCount_9 : decode cJ9_checkBoundsOffCount 9 = .ok (.pop, 1) := dk_87 (dk_at dksJ9_checkBoundsOffCount_0 9 rfl rfl)
theorem dJ9_checkBoundsOffCount_10 : decode cJ9_checkBoundsOffCount 10 = .ok (.return_, 1) := dk_177 (dk_at dksJ9_checkBoundsOffCount_0 10 rfl rfl)
abbrev cJ9_getChars : ByteArray := prog_33_method_77_code
def yJ9_getChars : MethodName := ⟨RJ9, "getChars", "(III[B)I"⟩
def dkwJ9_getChars_1 : List UInt8 := [159, 0, 11, 187, 0, 52, 89, 183, 0, 66, 191, 21, 4, 172]
abbrev dktJ9_getChars_1 : List UInt8 := dkwJ9_getChars_1 ++ []
def dkwJ9_getChars_0 : List UInt8 := [27, 28, 45, 184, 0, 96, 26, 28, 45, 184, 1, 137, 54, 4, 178, 0, 44, 154, 0, 17, 27, 21, 4]
abbrev dktJ9_getChars_0 : List UInt8 := dkwJ9_getChars_0 ++ dktJ9_getChars_1
theorem dksJ9_getChars_0 : cJ9_getChars.data.toList.drop 0 = dktJ9_getChars_0 := by decide +kernel
theorem dksJ9_getChars_1 : cJ9_getChars.data.toList.drop 23 = dktJ9_getChars_1 := dk_seg dksJ9_getChars_0 23 rfl rfl
theorem dJ9_getChars_0 : decode cJ9_getChars 0 = .ok (.iload_n 1, 1) := dk_27 (dk_at dksJ9_getChars_0 0 rfl rfl)
theorem dJ9_getChars_1 : decode cJ9_getChars 1 = .ok (.iload_n 2, 1) := dk_28 (dk_at dksJ9_getChars_0 1 rfl rfl)
theorem dJ9_getChars_2 : decode cJ9_getChars 2 = .ok (.aload_n 3, 1) := dk_45 (dk_at dksJ9_getChars_0 2 rfl rfl)
theorem dJ9_getChars_3 : decode cJ9_getChars 3 = .ok (.invokestatic 96, 3) := dk_184 0 96 (dk_at dksJ9_getChars_0 3 rfl rfl)
theorem dJ9_getChars_6 : decode cJ9_getChars 6 = .ok (.iload_n 0, 1) := dk_26 (dk_at dksJ9_getChars_0 6 rfl rfl)
theorem dJ9_getChars_7 : decode cJ9_getChars 7 = .ok (.iload_n 2, 1) := dk_28 (dk_at dksJ9_getChars_0 7 rfl rfl)
theorem dJ9_getChars_8 : decode cJ9_getChars 8 = .ok (.aload_n 3, 1) := dk_45 (dk_at dksJ9_getChars_0 8 rfl rfl)
theorem dJ9_getChars_9 : decode cJ9_getChars 9 = .ok (.invokestatic 393, 3) := dk_184 1 137 (dk_at dksJ9_getChars_0 9 rfl rfl)
theorem dJ9_getChars_12 : decode cJ9_getChars 12 = .ok (.istore 4, 2) := dk_54 4 (dk_at dksJ9_getChars_0 12 rfl rfl)
theorem dJ9_getChars_14 : decode cJ9_getChars 14 = .ok (.getstatic 44, 3) := dk_178 0 44 (dk_at dksJ9_getChars_0 14 rfl rfl)
theorem dJ9_getChars_17 : decode cJ9_getChars 17 = .ok (.ifCond .ne 17, 3) := dk_154 0 17 (dk_at dksJ9_getChars_0 17 rfl rfl)
theorem dJ9_getChars_20 : decode cJ9_getChars 20 = .ok (.iload_n 1, 1) := dk_27 (dk_at dksJ9_getChars_0 20 rfl rfl)
theorem dJ9_getChars_21 : decode cJ9_getChars 21 = .ok (.iload 4, 2) := dk_21 4 (dk_at dksJ9_getChars_0 21 rfl rfl)
theorem dJ9_getChars_23 : decode cJ9_getChars 23 = .ok (.if_icmp .eq 11, 3) := dk_159 0 11 (dk_at dksJ9_getChars_1 0 rfl rfl)
theorem dJ9_getChars_26 : decode cJ9_getChars 26 = .ok (.new 52, 3) := dk_187 0 52 (dk_at dksJ9_getChars_1 3 rfl rfl)
theorem dJ9_getChars_29 : decode cJ9_getChars 29 = .ok (.dup, 1) := dk_89 (dk_at dksJ9_getChars_1 6 rfl rfl)
theorem dJ9_getChars_30 : decode cJ9_getChars 30 = .ok (.invokespecial 66, 3) := dk_183 0 66 (dk_at dksJ9_getChars_1 7 rfl rfl)
theorem dJ9_getChars_33 : decode cJ9_getChars 33 = .ok (.athrow, 1) := dk_191 (dk_at dksJ9_getChars_1 10 rfl rfl)
theorem dJ9_getChars_34 : decode cJ9_getChars 34 = .ok (.iload 4, 2) := dk_21 4 (dk_at dksJ9_getChars_1 11 rfl rfl)
theorem dJ9_getChars_36 : decode cJ9_getChars 36 = .ok (.ireturn, 1) := dk_172 (dk_at dksJ9_getChars_1 13 rfl rfl)
abbrev cJ9_getChars_2 : ByteArray := prog_33_method_89_code
def yJ9_getChars_2 : MethodName := ⟨RJ9, "getChars", "(II[B)I"⟩
def dkwJ9_getChars_2_5 : List UInt8 := [132, 5, 255, 21, 5, 16, 45, 184, 0, 111, 21, 5, 172]
abbrev dktJ9_getChars_2_5 : List UInt8 := dkwJ9_getChars_2_5 ++ []
def dkwJ9_getChars_2_4 : List UInt8 := [162, 0, 18, 44, 132, 5, 255, 21, 5, 178, 1, 151, 26, 116, 51, 184, 0, 111, 21, 6, 153, 0, 14, 44]
abbrev dktJ9_getChars_2_4 : List UInt8 := dkwJ9_getChars_2_4 ++ dktJ9_getChars_2_5
def dkwJ9_getChars_2_3 : List UInt8 := [184, 0, 111, 167, 255, 205, 44, 132, 5, 255, 21, 5, 178, 1, 147, 26, 116, 51, 184, 0, 111, 26, 16, 247]
abbrev dktJ9_getChars_2_3 : List UInt8 := dkwJ9_getChars_2_3 ++ dktJ9_getChars_2_4
def dkwJ9_getChars_2_2 : List UInt8 := [21, 5, 178, 1, 147, 21, 4, 51, 184, 0, 111, 44, 132, 5, 255, 21, 5, 178, 1, 151, 21, 4, 51]
abbrev dktJ9_getChars_2_2 : List UInt8 := dkwJ9_getChars_2_2 ++ dktJ9_getChars_2_3
def dkwJ9_getChars_2_1 : List UInt8 := [16, 156, 163, 0, 51, 26, 16, 100, 108, 62, 29, 16, 100, 104, 26, 100, 54, 4, 29, 59, 44, 132, 5, 255]
abbrev dktJ9_getChars_2_1 : List UInt8 := dkwJ9_getChars_2_1 ++ dktJ9_getChars_2_2
def dkwJ9_getChars_2_0 : List UInt8 := [27, 54, 5, 26, 156, 0, 7, 4, 167, 0, 4, 3, 54, 6, 21, 6, 154, 0, 6, 26, 116, 59, 26]
abbrev dktJ9_getChars_2_0 : List UInt8 := dkwJ9_getChars_2_0 ++ dktJ9_getChars_2_1
theorem dksJ9_getChars_2_0 : cJ9_getChars_2.data.toList.drop 0 = dktJ9_getChars_2_0 := by decide +kernel
theorem dksJ9_getChars_2_1 : cJ9_getChars_2.data.toList.drop 23 = dktJ9_getChars_2_1 := dk_seg dksJ9_getChars_2_0 23 rfl rfl
theorem dksJ9_getChars_2_2 : cJ9_getChars_2.data.toList.drop 47 = dktJ9_getChars_2_2 := dk_seg dksJ9_getChars_2_1 24 rfl rfl
theorem dksJ9_getChars_2_3 : cJ9_getChars_2.data.toList.drop 70 = dktJ9_getChars_2_3 := dk_seg dksJ9_getChars_2_2 23 rfl rfl
theorem dksJ9_getChars_2_4 : cJ9_getChars_2.data.toList.drop 94 = dktJ9_getChars_2_4 := dk_seg dksJ9_getChars_2_3 24 rfl rfl
theorem dksJ9_getChars_2_5 : cJ9_getChars_2.data.toList.drop 118 = dktJ9_getChars_2_5 := dk_seg dksJ9_getChars_2_4 24 rfl rfl
theorem dJ9_getChars_2_0 : decode cJ9_getChars_2 0 = .ok (.iload_n 1, 1) := dk_27 (dk_at dksJ9_getChars_2_0 0 rfl rfl)
theorem dJ9_getChars_2_1 : decode cJ9_getChars_2 1 = .ok (.istore 5, 2) := dk_54 5 (dk_at dksJ9_getChars_2_0 1 rfl rfl)
theorem dJ9_getChars_2_3 : decode cJ9_getChars_2 3 = .ok (.iload_n 0, 1) := dk_26 (dk_at dksJ9_getChars_2_0 3 rfl rfl)
theorem dJ9_getChars_2_4 : decode cJ9_getChars_2 4 = .ok (.ifCond .ge 7, 3) := dk_156 0 7 (dk_at dksJ9_getChars_2_0 4 rfl rfl)
theorem dJ9_getChars_2_7 : decode cJ9_getChars_2 7 = .ok (.iconst 1, 1) := dk_4 (dk_at dksJ9_getChars_2_0 7 rfl rfl)
theorem dJ9_getChars_2_8 : decode cJ9_getChars_2 8 = .ok (.goto 4, 3) := dk_167 0 4 (dk_at dksJ9_getChars_2_0 8 rfl rfl)
theorem dJ9_getChars_2_11 : decode cJ9_getChars_2 11 = .ok (.iconst 0, 1) := dk_3 (dk_at dksJ9_getChars_2_0 11 rfl rfl)
theorem dJ9_getChars_2_12 : decode cJ9_getChars_2 12 = .ok (.istore 6, 2) := dk_54 6 (dk_at dksJ9_getChars_2_0 12 rfl rfl)
theorem dJ9_getChars_2_14 : decode cJ9_getChars_2 14 = .ok (.iload 6, 2) := dk_21 6 (dk_at dksJ9_getChars_2_0 14 rfl rfl)
theorem dJ9_getChars_2_16 : decode cJ9_getChars_2 16 = .ok (.ifCond .ne 6, 3) := dk_154 0 6 (dk_at dksJ9_getChars_2_0 16 rfl rfl)
theorem dJ9_getChars_2_19 : decode cJ9_getChars_2 19 = .ok (.iload_n 0, 1) := dk_26 (dk_at dksJ9_getChars_2_0 19 rfl rfl)
theorem dJ9_getChars_2_20 : decode cJ9_getChars_2 20 = .ok (.ineg, 1) := dk_116 (dk_at dksJ9_getChars_2_0 20 rfl rfl)
theorem dJ9_getChars_2_21 : decode cJ9_getChars_2 21 = .ok (.istore_n 0, 1) := dk_59 (dk_at dksJ9_getChars_2_0 21 rfl rfl)
theorem dJ9_getChars_2_22 : decode cJ9_getChars_2 22 = .ok (.iload_n 0, 1) := dk_26 (dk_at dksJ9_getChars_2_0 22 rfl rfl)
theorem dJ9_getChars_2_23 : decode cJ9_getChars_2 23 = .ok (.bipush (-100), 2) := dk_16 156 (dk_at dksJ9_getChars_2_1 0 rfl rfl)
theorem dJ9_getChars_2_25 : decode cJ9_getChars_2 25 = .ok (.if_icmp .gt 51, 3) := dk_163 0 51 (dk_at dksJ9_getChars_2_1 2 rfl rfl)
theorem dJ9_getChars_2_28 : decode cJ9_getChars_2 28 = .ok (.iload_n 0, 1) := dk_26 (dk_at dksJ9_getChars_2_1 5 rfl rfl)
theorem dJ9_getChars_2_29 : decode cJ9_getChars_2 29 = .ok (.bipush 100, 2) := dk_16 100 (dk_at dksJ9_getChars_2_1 6 rfl rfl)
theorem dJ9_getChars_2_31 : decode cJ9_getChars_2 31 = .ok (.idiv, 1) := dk_108 (dk_at dksJ9_getChars_2_1 8 rfl rfl)
theorem dJ9_getChars_2_32 : decode cJ9_getChars_2 32 = .ok (.istore_n 3, 1) := dk_62 (dk_at dksJ9_getChars_2_1 9 rfl rfl)
theorem dJ9_getChars_2_33 : decode cJ9_getChars_2 33 = .ok (.iload_n 3, 1) := dk_29 (dk_at dksJ9_getChars_2_1 10 rfl rfl)
theorem dJ9_getChars_2_34 : decode cJ9_getChars_2 34 = .ok (.bipush 100, 2) := dk_16 100 (dk_at dksJ9_getChars_2_1 11 rfl rfl)
theorem dJ9_getChars_2_36 : decode cJ9_getChars_2 36 = .ok (.imul, 1) := dk_104 (dk_at dksJ9_getChars_2_1 13 rfl rfl)
theorem dJ9_getChars_2_37 : decode cJ9_getChars_2 37 = .ok (.iload_n 0, 1) := dk_26 (dk_at dksJ9_getChars_2_1 14 rfl rfl)
theorem dJ9_getChars_2_38 : decode cJ9_getChars_2 38 = .ok (.isub, 1) := dk_100 (dk_at dksJ9_getChars_2_1 15 rfl rfl)
theorem dJ9_getChars_2_39 : decode cJ9_getChars_2 39 = .ok (.istore 4, 2) := dk_54 4 (dk_at dksJ9_getChars_2_1 16 rfl rfl)
theorem dJ9_getChars_2_41 : decode cJ9_getChars_2 41 = .ok (.iload_n 3, 1) := dk_29 (dk_at dksJ9_getChars_2_1 18 rfl rfl)
theorem dJ9_getChars_2_42 : decode cJ9_getChars_2 42 = .ok (.istore_n 0, 1) := dk_59 (dk_at dksJ9_getChars_2_1 19 rfl rfl)
theorem dJ9_getChars_2_43 : decode cJ9_getChars_2 43 = .ok (.aload_n 2, 1) := dk_44 (dk_at dksJ9_getChars_2_1 20 rfl rfl)
theorem dJ9_getChars_2_44 : decode cJ9_getChars_2 44 = .ok (.iinc 5 (-1), 3) := dk_132 5 255 (dk_at dksJ9_getChars_2_1 21 rfl rfl)
theorem dJ9_getChars_2_47 : decode cJ9_getChars_2 47 = .ok (.iload 5, 2) := dk_21 5 (dk_at dksJ9_getChars_2_2 0 rfl rfl)
theorem dJ9_getChars_2_49 : decode cJ9_getChars_2 49 = .ok (.getstatic 403, 3) := dk_178 1 147 (dk_at dksJ9_getChars_2_2 2 rfl rfl)
theorem dJ9_getChars_2_52 : decode cJ9_getChars_2 52 = .ok (.iload 4, 2) := dk_21 4 (dk_at dksJ9_getChars_2_2 5 rfl rfl)
theorem dJ9_getChars_2_54 : decode cJ9_getChars_2 54 = .ok (.baload, 1) := dk_51 (dk_at dksJ9_getChars_2_2 7 rfl rfl)
theorem dJ9_getChars_2_55 : decode cJ9_getChars_2 55 = .ok (.invokestatic 111, 3) := dk_184 0 111 (dk_at dksJ9_getChars_2_2 8 rfl rfl)
theorem dJ9_getChars_2_58 : decode cJ9_getChars_2 58 = .ok (.aload_n 2, 1) := dk_44 (dk_at dksJ9_getChars_2_2 11 rfl rfl)
theorem dJ9_getChars_2_59 : decode cJ9_getChars_2 59 = .ok (.iinc 5 (-1), 3) := dk_132 5 255 (dk_at dksJ9_getChars_2_2 12 rfl rfl)
theorem dJ9_getChars_2_62 : decode cJ9_getChars_2 62 = .ok (.iload 5, 2) := dk_21 5 (dk_at dksJ9_getChars_2_2 15 rfl rfl)
theorem dJ9_getChars_2_64 : decode cJ9_getChars_2 64 = .ok (.getstatic 407, 3) := dk_178 1 151 (dk_at dksJ9_getChars_2_2 17 rfl rfl)
theorem dJ9_getChars_2_67 : decode cJ9_getChars_2 67 = .ok (.iload 4, 2) := dk_21 4 (dk_at dksJ9_getChars_2_2 20 rfl rfl)
theorem dJ9_getChars_2_69 : decode cJ9_getChars_2 69 = .ok (.baload, 1) := dk_51 (dk_at dksJ9_getChars_2_2 22 rfl rfl)
theorem dJ9_getChars_2_70 : decode cJ9_getChars_2 70 = .ok (.invokestatic 111, 3) := dk_184 0 111 (dk_at dksJ9_getChars_2_3 0 rfl rfl)
theorem dJ9_getChars_2_73 : decode cJ9_getChars_2 73 = .ok (.goto (-51), 3) := dk_167 255 205 (dk_at dksJ9_getChars_2_3 3 rfl rfl)
theorem dJ9_getChars_2_76 : decode cJ9_getChars_2 76 = .ok (.aload_n 2, 1) := dk_44 (dk_at dksJ9_getChars_2_3 6 rfl rfl)
theorem dJ9_getChars_2_77 : decode cJ9_getChars_2 77 = .ok (.iinc 5 (-1), 3) := dk_132 5 255 (dk_at dksJ9_getChars_2_3 7 rfl rfl)
theorem dJ9_getChars_2_80 : decode cJ9_getChars_2 80 = .ok (.iload 5, 2) := dk_21 5 (dk_at dksJ9_getChars_2_3 10 rfl rfl)
theorem dJ9_getChars_2_82 : decode cJ9_getChars_2 82 = .ok (.getstatic 403, 3) := dk_178 1 147 (dk_at dksJ9_getChars_2_3 12 rfl rfl)
theorem dJ9_getChars_2_85 : decode cJ9_getChars_2 85 = .ok (.iload_n 0, 1) := dk_26 (dk_at dksJ9_getChars_2_3 15 rfl rfl)
theorem dJ9_getChars_2_86 : decode cJ9_getChars_2 86 = .ok (.ineg, 1) := dk_116 (dk_at dksJ9_getChars_2_3 16 rfl rfl)
theorem dJ9_getChars_2_87 : decode cJ9_getChars_2 87 = .ok (.baload, 1) := dk_51 (dk_at dksJ9_getChars_2_3 17 rfl rfl)
theorem dJ9_getChars_2_88 : decode cJ9_getChars_2 88 = .ok (.invokestatic 111, 3) := dk_184 0 111 (dk_at dksJ9_getChars_2_3 18 rfl rfl)
theorem dJ9_getChars_2_91 : decode cJ9_getChars_2 91 = .ok (.iload_n 0, 1) := dk_26 (dk_at dksJ9_getChars_2_3 21 rfl rfl)
theorem dJ9_getChars_2_92 : decode cJ9_getChars_2 92 = .ok (.bipush (-9), 2) := dk_16 247 (dk_at dksJ9_getChars_2_3 22 rfl rfl)
theorem dJ9_getChars_2_94 : decode cJ9_getChars_2 94 = .ok (.if_icmp .ge 18, 3) := dk_162 0 18 (dk_at dksJ9_getChars_2_4 0 rfl rfl)
theorem dJ9_getChars_2_97 : decode cJ9_getChars_2 97 = .ok (.aload_n 2, 1) := dk_44 (dk_at dksJ9_getChars_2_4 3 rfl rfl)
theorem dJ9_getChars_2_98 : decode cJ9_getChars_2 98 = .ok (.iinc 5 (-1), 3) := dk_132 5 255 (dk_at dksJ9_getChars_2_4 4 rfl rfl)
theorem dJ9_getChars_2_101 : decode cJ9_getChars_2 101 = .ok (.iload 5, 2) := dk_21 5 (dk_at dksJ9_getChars_2_4 7 rfl rfl)
theorem dJ9_getChars_2_103 : decode cJ9_getChars_2 103 = .ok (.getstatic 407, 3) := dk_178 1 151 (dk_at dksJ9_getChars_2_4 9 rfl rfl)
theorem dJ9_getChars_2_106 : decode cJ9_getChars_2 106 = .ok (.iload_n 0, 1) := dk_26 (dk_at dksJ9_getChars_2_4 12 rfl rfl)
theorem dJ9_getChars_2_107 : decode cJ9_getChars_2 107 = .ok (.ineg, 1) := dk_116 (dk_at dksJ9_getChars_2_4 13 rfl rfl)
theorem dJ9_getChars_2_108 : decode cJ9_getChars_2 108 = .ok (.baload, 1) := dk_51 (dk_at dksJ9_getChars_2_4 14 rfl rfl)
theorem dJ9_getChars_2_109 : decode cJ9_getChars_2 109 = .ok (.invokestatic 111, 3) := dk_184 0 111 (dk_at dksJ9_getChars_2_4 15 rfl rfl)
theorem dJ9_getChars_2_112 : decode cJ9_getChars_2 112 = .ok (.iload 6, 2) := dk_21 6 (dk_at dksJ9_getChars_2_4 18 rfl rfl)
theorem dJ9_getChars_2_114 : decode cJ9_getChars_2 114 = .ok (.ifCond .eq 14, 3) := dk_153 0 14 (dk_at dksJ9_getChars_2_4 20 rfl rfl)
theorem dJ9_getChars_2_117 : decode cJ9_getChars_2 117 = .ok (.aload_n 2, 1) := dk_44 (dk_at dksJ9_getChars_2_4 23 rfl rfl)
theorem dJ9_getChars_2_118 : decode cJ9_getChars_2 118 = .ok (.iinc 5 (-1), 3) := dk_132 5 255 (dk_at dksJ9_getChars_2_5 0 rfl rfl)
theorem dJ9_getChars_2_121 : decode cJ9_getChars_2 121 = .ok (.iload 5, 2) := dk_21 5 (dk_at dksJ9_getChars_2_5 3 rfl rfl)
theorem dJ9_getChars_2_123 : decode cJ9_getChars_2 123 = .ok (.bipush 45, 2) := dk_16 45 (dk_at dksJ9_getChars_2_5 5 rfl rfl)
theorem dJ9_getChars_2_125 : decode cJ9_getChars_2 125 = .ok (.invokestatic 111, 3) := dk_184 0 111 (dk_at dksJ9_getChars_2_5 7 rfl rfl)
theorem dJ9_getChars_2_128 : decode cJ9_getChars_2 128 = .ok (.iload 5, 2) := dk_21 5 (dk_at dksJ9_getChars_2_5 10 rfl rfl)
theorem dJ9_getChars_2_130 : decode cJ9_getChars_2 130 = .ok (.ireturn, 1) := dk_172 (dk_at dksJ9_getChars_2_5 12 rfl rfl)
abbrev cJ9_compress : ByteArray := prog_33_method_17_code
def yJ9_compress : MethodName := ⟨RJ9, "compress", "([BII)[B"⟩
def dkwJ9_compress_2 : List UInt8 := [25, 5, 3, 45, 3, 28, 184, 0, 123, 28, 159, 0, 6, 25, 5, 176, 45, 176]
abbrev dktJ9_compress_2 : List UInt8 := dkwJ9_compress_2 ++ []
def dkwJ9_compress_1 : List UInt8 := [27, 28, 96, 184, 0, 11, 184, 0, 126, 58, 5, 25, 5, 21, 4, 184, 0, 71, 17, 0, 255, 163, 0, 16]
abbrev dktJ9_compress_1 : List UInt8 := dkwJ9_compress_1 ++ dktJ9_compress_2
def dkwJ9_compress_0 : List UInt8 := [28, 188, 8, 78, 42, 27, 45, 3, 28, 184, 0, 123, 54, 4, 21, 4, 28, 159, 0, 47, 42, 27, 4, 120]
abbrev dktJ9_compress_0 : List UInt8 := dkwJ9_compress_0 ++ dktJ9_compress_1
theorem dksJ9_compress_0 : cJ9_compress.data.toList.drop 0 = dktJ9_compress_0 := by decide +kernel
theorem dksJ9_compress_1 : cJ9_compress.data.toList.drop 24 = dktJ9_compress_1 := dk_seg dksJ9_compress_0 24 rfl rfl
theorem dksJ9_compress_2 : cJ9_compress.data.toList.drop 48 = dktJ9_compress_2 := dk_seg dksJ9_compress_1 24 rfl rfl
theorem dJ9_compress_0 : decode cJ9_compress 0 = .ok (.iload_n 2, 1) := dk_28 (dk_at dksJ9_compress_0 0 rfl rfl)
theorem dJ9_compress_1 : decode cJ9_compress 1 = .ok (.newarray .byte, 2) := dk_188_8 (dk_at dksJ9_compress_0 1 rfl rfl)
theorem dJ9_compress_3 : decode cJ9_compress 3 = .ok (.astore_n 3, 1) := dk_78 (dk_at dksJ9_compress_0 3 rfl rfl)
theorem dJ9_compress_4 : decode cJ9_compress 4 = .ok (.aload_n 0, 1) := dk_42 (dk_at dksJ9_compress_0 4 rfl rfl)
theorem dJ9_compress_5 : decode cJ9_compress 5 = .ok (.iload_n 1, 1) := dk_27 (dk_at dksJ9_compress_0 5 rfl rfl)
theorem dJ9_compress_6 : decode cJ9_compress 6 = .ok (.aload_n 3, 1) := dk_45 (dk_at dksJ9_compress_0 6 rfl rfl)
theorem dJ9_compress_7 : decode cJ9_compress 7 = .ok (.iconst 0, 1) := dk_3 (dk_at dksJ9_compress_0 7 rfl rfl)
theorem dJ9_compress_8 : decode cJ9_compress 8 = .ok (.iload_n 2, 1) := dk_28 (dk_at dksJ9_compress_0 8 rfl rfl)
theorem dJ9_compress_9 : decode cJ9_compress 9 = .ok (.invokestatic 123, 3) := dk_184 0 123 (dk_at dksJ9_compress_0 9 rfl rfl)
theorem dJ9_compress_12 : decode cJ9_compress 12 = .ok (.istore 4, 2) := dk_54 4 (dk_at dksJ9_compress_0 12 rfl rfl)
theorem dJ9_compress_14 : decode cJ9_compress 14 = .ok (.iload 4, 2) := dk_21 4 (dk_at dksJ9_compress_0 14 rfl rfl)
theorem dJ9_compress_16 : decode cJ9_compress 16 = .ok (.iload_n 2, 1) := dk_28 (dk_at dksJ9_compress_0 16 rfl rfl)
theorem dJ9_compress_17 : decode cJ9_compress 17 = .ok (.if_icmp .eq 47, 3) := dk_159 0 47 (dk_at dksJ9_compress_0 17 rfl rfl)
theorem dJ9_compress_20 : decode cJ9_compress 20 = .ok (.aload_n 0, 1) := dk_42 (dk_at dksJ9_compress_0 20 rfl rfl)
theorem dJ9_compress_21 : decode cJ9_compress 21 = .ok (.iload_n 1, 1) := dk_27 (dk_at dksJ9_compress_0 21 rfl rfl)
theorem dJ9_compress_22 : decode cJ9_compress 22 = .ok (.iconst 1, 1) := dk_4 (dk_at dksJ9_compress_0 22 rfl rfl)
theorem dJ9_compress_23 : decode cJ9_compress 23 = .ok (.ishl, 1) := dk_120 (dk_at dksJ9_compress_0 23 rfl rfl)
theorem dJ9_compress_24 : decode cJ9_compress 24 = .ok (.iload_n 1, 1) := dk_27 (dk_at dksJ9_compress_1 0 rfl rfl)
theorem dJ9_compress_25 : decode cJ9_compress 25 = .ok (.iload_n 2, 1) := dk_28 (dk_at dksJ9_compress_1 1 rfl rfl)
theorem dJ9_compress_26 : decode cJ9_compress 26 = .ok (.iadd, 1) := dk_96 (dk_at dksJ9_compress_1 2 rfl rfl)
theorem dJ9_compress_27 : decode cJ9_compress 27 = .ok (.invokestatic 11, 3) := dk_184 0 11 (dk_at dksJ9_compress_1 3 rfl rfl)
theorem dJ9_compress_30 : decode cJ9_compress 30 = .ok (.invokestatic 126, 3) := dk_184 0 126 (dk_at dksJ9_compress_1 6 rfl rfl)
theorem dJ9_compress_33 : decode cJ9_compress 33 = .ok (.astore 5, 2) := dk_58 5 (dk_at dksJ9_compress_1 9 rfl rfl)
theorem dJ9_compress_35 : decode cJ9_compress 35 = .ok (.aload 5, 2) := dk_25 5 (dk_at dksJ9_compress_1 11 rfl rfl)
theorem dJ9_compress_37 : decode cJ9_compress 37 = .ok (.iload 4, 2) := dk_21 4 (dk_at dksJ9_compress_1 13 rfl rfl)
theorem dJ9_compress_39 : decode cJ9_compress 39 = .ok (.invokestatic 71, 3) := dk_184 0 71 (dk_at dksJ9_compress_1 15 rfl rfl)
theorem dJ9_compress_42 : decode cJ9_compress 42 = .ok (.sipush 255, 3) := dk_17 0 255 (dk_at dksJ9_compress_1 18 rfl rfl)
theorem dJ9_compress_45 : decode cJ9_compress 45 = .ok (.if_icmp .gt 16, 3) := dk_163 0 16 (dk_at dksJ9_compress_1 21 rfl rfl)
theorem dJ9_compress_48 : decode cJ9_compress 48 = .ok (.aload 5, 2) := dk_25 5 (dk_at dksJ9_compress_2 0 rfl rfl)
theorem dJ9_compress_50 : decode cJ9_compress 50 = .ok (.iconst 0, 1) := dk_3 (dk_at dksJ9_compress_2 2 rfl rfl)
theorem dJ9_compress_51 : decode cJ9_compress 51 = .ok (.aload_n 3, 1) := dk_45 (dk_at dksJ9_compress_2 3 rfl rfl)
theorem dJ9_compress_52 : decode cJ9_compress 52 = .ok (.iconst 0, 1) := dk_3 (dk_at dksJ9_compress_2 4 rfl rfl)
theorem dJ9_compress_53 : decode cJ9_compress 53 = .ok (.iload_n 2, 1) := dk_28 (dk_at dksJ9_compress_2 5 rfl rfl)
theorem dJ9_compress_54 : decode cJ9_compress 54 = .ok (.invokestatic 123, 3) := dk_184 0 123 (dk_at dksJ9_compress_2 6 rfl rfl)
theorem dJ9_compress_57 : decode cJ9_compress 57 = .ok (.iload_n 2, 1) := dk_28 (dk_at dksJ9_compress_2 9 rfl rfl)
theorem dJ9_compress_58 : decode cJ9_compress 58 = .ok (.if_icmp .eq 6, 3) := dk_159 0 6 (dk_at dksJ9_compress_2 10 rfl rfl)
theorem dJ9_compress_61 : decode cJ9_compress 61 = .ok (.aload 5, 2) := dk_25 5 (dk_at dksJ9_compress_2 13 rfl rfl)
theorem dJ9_compress_63 : decode cJ9_compress 63 = .ok (.areturn, 1) := dk_176 (dk_at dksJ9_compress_2 15 rfl rfl)
theorem dJ9_compress_64 : decode cJ9_compress 64 = .ok (.aload_n 3, 1) := dk_45 (dk_at dksJ9_compress_2 16 rfl rfl)
theorem dJ9_compress_65 : decode cJ9_compress 65 = .ok (.areturn, 1) := dk_176 (dk_at dksJ9_compress_2 17 rfl rfl)
abbrev cJ9_compress_2 : ByteArray := prog_33_method_22_code
def yJ9_compress_2 : MethodName := ⟨RJ9, "compress", "([BI[BII)I"⟩
def dkwJ9_compress_2_2 : List UInt8 := [132, 5, 1, 167, 255, 216, 21, 4, 172]
abbrev dktJ9_compress_2_2 : List UInt8 := dkwJ9_compress_2_2 ++ []
def dkwJ9_compress_2_1 : List UInt8 := [21, 6, 17, 0, 255, 164, 0, 6, 21, 5, 172, 44, 29, 21, 6, 145, 84, 132, 1, 1, 132, 3, 1]
abbrev dktJ9_compress_2_1 : List UInt8 := dkwJ9_compress_2_1 ++ dktJ9_compress_2_2
def dkwJ9_compress_2_0 : List UInt8 := [27, 21, 4, 42, 184, 0, 173, 3, 54, 5, 21, 5, 21, 4, 162, 0, 39, 42, 27, 184, 0, 71, 54, 6]
abbrev dktJ9_compress_2_0 : List UInt8 := dkwJ9_compress_2_0 ++ dktJ9_compress_2_1
theorem dksJ9_compress_2_0 : cJ9_compress_2.data.toList.drop 0 = dktJ9_compress_2_0 := by decide +kernel
theorem dksJ9_compress_2_1 : cJ9_compress_2.data.toList.drop 24 = dktJ9_compress_2_1 := dk_seg dksJ9_compress_2_0 24 rfl rfl
theorem dksJ9_compress_2_2 : cJ9_compress_2.data.toList.drop 47 = dktJ9_compress_2_2 := dk_seg dksJ9_compress_2_1 23 rfl rfl
theorem dJ9_compress_2_0 : decode cJ9_compress_2 0 = .ok (.iload_n 1, 1) := dk_27 (dk_at dksJ9_compress_2_0 0 rfl rfl)
theorem dJ9_compress_2_1 : decode cJ9_compress_2 1 = .ok (.iload 4, 2) := dk_21 4 (dk_at dksJ9_compress_2_0 1 rfl rfl)
theorem dJ9_compress_2_3 : decode cJ9_compress_2 3 = .ok (.aload_n 0, 1) := dk_42 (dk_at dksJ9_compress_2_0 3 rfl rfl)
theorem dJ9_compress_2_4 : decode cJ9_compress_2 4 = .ok (.invokestatic 173, 3) := dk_184 0 173 (dk_at dksJ9_compress_2_0 4 rfl rfl)
theorem dJ9_compress_2_7 : decode cJ9_compress_2 7 = .ok (.iconst 0, 1) := dk_3 (dk_at dksJ9_compress_2_0 7 rfl rfl)
theorem dJ9_compress_2_8 : decode cJ9_compress_2 8 = .ok (.istore 5, 2) := dk_54 5 (dk_at dksJ9_compress_2_0 8 rfl rfl)
theorem dJ9_compress_2_10 : decode cJ9_compress_2 10 = .ok (.iload 5, 2) := dk_21 5 (dk_at dksJ9_compress_2_0 10 rfl rfl)
theorem dJ9_compress_2_12 : decode cJ9_compress_2 12 = .ok (.iload 4, 2) := dk_21 4 (dk_at dksJ9_compress_2_0 12 rfl rfl)
theorem dJ9_compress_2_14 : decode cJ9_compress_2 14 = .ok (.if_icmp .ge 39, 3) := dk_162 0 39 (dk_at dksJ9_compress_2_0 14 rfl rfl)
theorem dJ9_compress_2_17 : decode cJ9_compress_2 17 = .ok (.aload_n 0, 1) := dk_42 (dk_at dksJ9_compress_2_0 17 rfl rfl)
theorem dJ9_compress_2_18 : decode cJ9_compress_2 18 = .ok (.iload_n 1, 1) := dk_27 (dk_at dksJ9_compress_2_0 18 rfl rfl)
theorem dJ9_compress_2_19 : decode cJ9_compress_2 19 = .ok (.invokestatic 71, 3) := dk_184 0 71 (dk_at dksJ9_compress_2_0 19 rfl rfl)
theorem dJ9_compress_2_22 : decode cJ9_compress_2 22 = .ok (.istore 6, 2) := dk_54 6 (dk_at dksJ9_compress_2_0 22 rfl rfl)
theorem dJ9_compress_2_24 : decode cJ9_compress_2 24 = .ok (.iload 6, 2) := dk_21 6 (dk_at dksJ9_compress_2_1 0 rfl rfl)
theorem dJ9_compress_2_26 : decode cJ9_compress_2 26 = .ok (.sipush 255, 3) := dk_17 0 255 (dk_at dksJ9_compress_2_1 2 rfl rfl)
theorem dJ9_compress_2_29 : decode cJ9_compress_2 29 = .ok (.if_icmp .le 6, 3) := dk_164 0 6 (dk_at dksJ9_compress_2_1 5 rfl rfl)
theorem dJ9_compress_2_32 : decode cJ9_compress_2 32 = .ok (.iload 5, 2) := dk_21 5 (dk_at dksJ9_compress_2_1 8 rfl rfl)
theorem dJ9_compress_2_34 : decode cJ9_compress_2 34 = .ok (.ireturn, 1) := dk_172 (dk_at dksJ9_compress_2_1 10 rfl rfl)
theorem dJ9_compress_2_35 : decode cJ9_compress_2 35 = .ok (.aload_n 2, 1) := dk_44 (dk_at dksJ9_compress_2_1 11 rfl rfl)
theorem dJ9_compress_2_36 : decode cJ9_compress_2 36 = .ok (.iload_n 3, 1) := dk_29 (dk_at dksJ9_compress_2_1 12 rfl rfl)
theorem dJ9_compress_2_37 : decode cJ9_compress_2 37 = .ok (.iload 6, 2) := dk_21 6 (dk_at dksJ9_compress_2_1 13 rfl rfl)
theorem dJ9_compress_2_39 : decode cJ9_compress_2 39 = .ok (.i2b, 1) := dk_145 (dk_at dksJ9_compress_2_1 15 rfl rfl)
theorem dJ9_compress_2_40 : decode cJ9_compress_2 40 = .ok (.bastore, 1) := dk_84 (dk_at dksJ9_compress_2_1 16 rfl rfl)
theorem dJ9_compress_2_41 : decode cJ9_compress_2 41 = .ok (.iinc 1 1, 3) := dk_132 1 1 (dk_at dksJ9_compress_2_1 17 rfl rfl)
theorem dJ9_compress_2_44 : decode cJ9_compress_2 44 = .ok (.iinc 3 1, 3) := dk_132 3 1 (dk_at dksJ9_compress_2_1 20 rfl rfl)
theorem dJ9_compress_2_47 : decode cJ9_compress_2 47 = .ok (.iinc 5 1, 3) := dk_132 5 1 (dk_at dksJ9_compress_2_2 0 rfl rfl)
theorem dJ9_compress_2_50 : decode cJ9_compress_2 50 = .ok (.goto (-40), 3) := dk_167 255 216 (dk_at dksJ9_compress_2_2 3 rfl rfl)
theorem dJ9_compress_2_53 : decode cJ9_compress_2 53 = .ok (.iload 4, 2) := dk_21 4 (dk_at dksJ9_compress_2_2 6 rfl rfl)
theorem dJ9_compress_2_55 : decode cJ9_compress_2 55 = .ok (.ireturn, 1) := dk_172 (dk_at dksJ9_compress_2_2 8 rfl rfl)
abbrev cJ9_getChar : ByteArray := prog_33_method_5_code
def yJ9_getChar : MethodName := ⟨RJ9, "getChar", "([BI)C"⟩
def dkwJ9_getChar_2 : List UInt8 := [51, 17, 0, 255, 126, 178, 0, 63, 120, 128, 146, 172]
abbrev dktJ9_getChar_2 : List UInt8 := dkwJ9_getChar_2 ++ []
def dkwJ9_getChar_1 : List UInt8 := [183, 0, 56, 191, 27, 4, 120, 60, 42, 27, 132, 1, 1, 51, 17, 0, 255, 126, 178, 0, 59, 120, 42, 27]
abbrev dktJ9_getChar_1 : List UInt8 := dkwJ9_getChar_1 ++ dktJ9_getChar_2
def dkwJ9_getChar_0 : List UInt8 := [178, 0, 44, 154, 0, 25, 27, 155, 0, 11, 27, 42, 184, 0, 48, 161, 0, 13, 187, 0, 52, 89, 18, 54]
abbrev dktJ9_getChar_0 : List UInt8 := dkwJ9_getChar_0 ++ dktJ9_getChar_1
theorem dksJ9_getChar_0 : cJ9_getChar.data.toList.drop 0 = dktJ9_getChar_0 := by decide +kernel
theorem dksJ9_getChar_1 : cJ9_getChar.data.toList.drop 24 = dktJ9_getChar_1 := dk_seg dksJ9_getChar_0 24 rfl rfl
theorem dksJ9_getChar_2 : cJ9_getChar.data.toList.drop 48 = dktJ9_getChar_2 := dk_seg dksJ9_getChar_1 24 rfl rfl
theorem dJ9_getChar_0 : decode cJ9_getChar 0 = .ok (.getstatic 44, 3) := dk_178 0 44 (dk_at dksJ9_getChar_0 0 rfl rfl)
theorem dJ9_getChar_3 : decode cJ9_getChar 3 = .ok (.ifCond .ne 25, 3) := dk_154 0 25 (dk_at dksJ9_getChar_0 3 rfl rfl)
theorem dJ9_getChar_6 : decode cJ9_getChar 6 = .ok (.iload_n 1, 1) := dk_27 (dk_at dksJ9_getChar_0 6 rfl rfl)
theorem dJ9_getChar_7 : decode cJ9_getChar 7 = .ok (.ifCond .lt 11, 3) := dk_155 0 11 (dk_at dksJ9_getChar_0 7 rfl rfl)
theorem dJ9_getChar_10 : decode cJ9_getChar 10 = .ok (.iload_n 1, 1) := dk_27 (dk_at dksJ9_getChar_0 10 rfl rfl)
theorem dJ9_getChar_11 : decode cJ9_getChar 11 = .ok (.aload_n 0, 1) := dk_42 (dk_at dksJ9_getChar_0 11 rfl rfl)
theorem dJ9_getChar_12 : decode cJ9_getChar 12 = .ok (.invokestatic 48, 3) := dk_184 0 48 (dk_at dksJ9_getChar_0 12 rfl rfl)
theorem dJ9_getChar_15 : decode cJ9_getChar 15 = .ok (.if_icmp .lt 13, 3) := dk_161 0 13 (dk_at dksJ9_getChar_0 15 rfl rfl)
theorem dJ9_getChar_18 : decode cJ9_getChar 18 = .ok (.new 52, 3) := dk_187 0 52 (dk_at dksJ9_getChar_0 18 rfl rfl)
theorem dJ9_getChar_21 : decode cJ9_getChar 21 = .ok (.dup, 1) := dk_89 (dk_at dksJ9_getChar_0 21 rfl rfl)
theorem dJ9_getChar_22 : decode cJ9_getChar 22 = .ok (.ldc 54, 2) := dk_18 54 (dk_at dksJ9_getChar_0 22 rfl rfl)
theorem dJ9_getChar_24 : decode cJ9_getChar 24 = .ok (.invokespecial 56, 3) := dk_183 0 56 (dk_at dksJ9_getChar_1 0 rfl rfl)
theorem dJ9_getChar_27 : decode cJ9_getChar 27 = .ok (.athrow, 1) := dk_191 (dk_at dksJ9_getChar_1 3 rfl rfl)
theorem dJ9_getChar_28 : decode cJ9_getChar 28 = .ok (.iload_n 1, 1) := dk_27 (dk_at dksJ9_getChar_1 4 rfl rfl)
theorem dJ9_getChar_29 : decode cJ9_getChar 29 = .ok (.iconst 1, 1) := dk_4 (dk_at dksJ9_getChar_1 5 rfl rfl)
theorem dJ9_getChar_30 : decode cJ9_getChar 30 = .ok (.ishl, 1) := dk_120 (dk_at dksJ9_getChar_1 6 rfl rfl)
theorem dJ9_getChar_31 : decode cJ9_getChar 31 = .ok (.istore_n 1, 1) := dk_60 (dk_at dksJ9_getChar_1 7 rfl rfl)
theorem dJ9_getChar_32 : decode cJ9_getChar 32 = .ok (.aload_n 0, 1) := dk_42 (dk_at dksJ9_getChar_1 8 rfl rfl)
theorem dJ9_getChar_33 : decode cJ9_getChar 33 = .ok (.iload_n 1, 1) := dk_27 (dk_at dksJ9_getChar_1 9 rfl rfl)
theorem dJ9_getChar_34 : decode cJ9_getChar 34 = .ok (.iinc 1 1, 3) := dk_132 1 1 (dk_at dksJ9_getChar_1 10 rfl rfl)
theorem dJ9_getChar_37 : decode cJ9_getChar 37 = .ok (.baload, 1) := dk_51 (dk_at dksJ9_getChar_1 13 rfl rfl)
theorem dJ9_getChar_38 : decode cJ9_getChar 38 = .ok (.sipush 255, 3) := dk_17 0 255 (dk_at dksJ9_getChar_1 14 rfl rfl)
theorem dJ9_getChar_41 : decode cJ9_getChar 41 = .ok (.iand, 1) := dk_126 (dk_at dksJ9_getChar_1 17 rfl rfl)
theorem dJ9_getChar_42 : decode cJ9_getChar 42 = .ok (.getstatic 59, 3) := dk_178 0 59 (dk_at dksJ9_getChar_1 18 rfl rfl)
theorem dJ9_getChar_45 : decode cJ9_getChar 45 = .ok (.ishl, 1) := dk_120 (dk_at dksJ9_getChar_1 21 rfl rfl)
theorem dJ9_getChar_46 : decode cJ9_getChar 46 = .ok (.aload_n 0, 1) := dk_42 (dk_at dksJ9_getChar_1 22 rfl rfl)
theorem dJ9_getChar_47 : decode cJ9_getChar 47 = .ok (.iload_n 1, 1) := dk_27 (dk_at dksJ9_getChar_1 23 rfl rfl)
theorem dJ9_getChar_48 : decode cJ9_getChar 48 = .ok (.baload, 1) := dk_51 (dk_at dksJ9_getChar_2 0 rfl rfl)
theorem dJ9_getChar_49 : decode cJ9_getChar 49 = .ok (.sipush 255, 3) := dk_17 0 255 (dk_at dksJ9_getChar_2 1 rfl rfl)
theorem dJ9_getChar_52 : decode cJ9_getChar 52 = .ok (.iand, 1) := dk_126 (dk_at dksJ9_getChar_2 4 rfl rfl)
theorem dJ9_getChar_53 : decode cJ9_getChar 53 = .ok (.getstatic 63, 3) := dk_178 0 63 (dk_at dksJ9_getChar_2 5 rfl rfl)
theorem dJ9_getChar_56 : decode cJ9_getChar 56 = .ok (.ishl, 1) := dk_120 (dk_at dksJ9_getChar_2 8 rfl rfl)
theorem dJ9_getChar_57 : decode cJ9_getChar 57 = .ok (.ior, 1) := dk_128 (dk_at dksJ9_getChar_2 9 rfl rfl)
theorem dJ9_getChar_58 : decode cJ9_getChar 58 = .ok (.i2c, 1) := dk_146 (dk_at dksJ9_getChar_2 10 rfl rfl)
theorem dJ9_getChar_59 : decode cJ9_getChar 59 = .ok (.ireturn, 1) := dk_172 (dk_at dksJ9_getChar_2 11 rfl rfl)
abbrev cJ9_coderFromArrayLen : ByteArray := prog_33_method_15_code
def yJ9_coderFromArrayLen : MethodName := ⟨RJ9, "coderFromArrayLen", "([BI)B"⟩
def dkwJ9_coderFromArrayLen_0 : List UInt8 := [27, 42, 190, 100, 16, 31, 124, 145, 172]
abbrev dktJ9_coderFromArrayLen_0 : List UInt8 := dkwJ9_coderFromArrayLen_0 ++ []
theorem dksJ9_coderFromArrayLen_0 : cJ9_coderFromArrayLen.data.toList.drop 0 = dktJ9_coderFromArrayLen_0 := by decide +kernel
theorem dJ9_coderFromArrayLen_0 : decode cJ9_coderFromArrayLen 0 = .ok (.iload_n 1, 1) := dk_27 (dk_at dksJ9_coderFromArrayLen_0 0 rfl rfl)
theorem dJ9_coderFromArrayLen_1 : decode cJ9_coderFromArrayLen 1 = .ok (.aload_n 0, 1) := dk_42 (dk_at dksJ9_coderFromArrayLen_0 1 rfl rfl)
theorem dJ9_coderFromArrayLen_2 : decode cJ9_coderFromArrayLen 2 = .ok (.arraylength, 1) := dk_190 (dk_at dksJ9_coderFromArrayLen_0 2 rfl rfl)
theorem dJ9_coderFromArrayLen_3 : decode cJ9_coderFromArrayLen 3 = .ok (.isub, 1) := dk_100 (dk_at dksJ9_coderFromArrayLen_0 3 rfl rfl)
theorem dJ9_coderFromArrayLen_4 : decode cJ9_coderFromArrayLen 4 = .ok (.bipush 31, 2) := dk_16 31 (dk_at dksJ9_coderFromArrayLen_0 4 rfl rfl)
theorem dJ9_coderFromArrayLen_6 : decode cJ9_coderFromArrayLen 6 = .ok (.iushr, 1) := dk_124 (dk_at dksJ9_coderFromArrayLen_0 6 rfl rfl)
theorem dJ9_coderFromArrayLen_7 : decode cJ9_coderFromArrayLen 7 = .ok (.i2b, 1) := dk_145 (dk_at dksJ9_coderFromArrayLen_0 7 rfl rfl)
theorem dJ9_coderFromArrayLen_8 : decode cJ9_coderFromArrayLen 8 = .ok (.ireturn, 1) := dk_172 (dk_at dksJ9_coderFromArrayLen_0 8 rfl rfl)
abbrev cJ9_fillNull : ByteArray := prog_33_method_70_code
def yJ9_fillNull : MethodName := ⟨RJ9, "fillNull", "([BII)V"⟩
def dkwJ9_fillNull_0 : List UInt8 := [42, 27, 4, 120, 28, 4, 120, 3, 184, 1, 124, 177]
abbrev dktJ9_fillNull_0 : List UInt8 := dkwJ9_fillNull_0 ++ []
theorem dksJ9_fillNull_0 : cJ9_fillNull.data.toList.drop 0 = dktJ9_fillNull_0 := by decide +kernel
theorem dJ9_fillNull_0 : decode cJ9_fillNull 0 = .ok (.aload_n 0, 1) := dk_42 (dk_at dksJ9_fillNull_0 0 rfl rfl)
theorem dJ9_fillNull_1 : decode cJ9_fillNull 1 = .ok (.iload_n 1, 1) := dk_27 (dk_at dksJ9_fillNull_0 1 rfl rfl)
theorem dJ9_fillNull_2 : decode cJ9_fillNull 2 = .ok (.iconst 1, 1) := dk_4 (dk_at dksJ9_fillNull_0 2 rfl rfl)
theorem dJ9_fillNull_3 : decode cJ9_fillNull 3 = .ok (.ishl, 1) := dk_120 (dk_at dksJ9_fillNull_0 3 rfl rfl)
theorem dJ9_fillNull_4 : decode cJ9_fillNull 4 = .ok (.iload_n 2, 1) := dk_28 (dk_at dksJ9_fillNull_0 4 rfl rfl)
theorem dJ9_fillNull_5 : decode cJ9_fillNull 5 = .ok (.iconst 1, 1) := dk_4 (dk_at dksJ9_fillNull_0 5 rfl rfl)
theorem dJ9_fillNull_6 : decode cJ9_fillNull 6 = .ok (.ishl, 1) := dk_120 (dk_at dksJ9_fillNull_0 6 rfl rfl)
theorem dJ9_fillNull_7 : decode cJ9_fillNull 7 = .ok (.iconst 0, 1) := dk_3 (dk_at dksJ9_fillNull_0 7 rfl rfl)
theorem dJ9_fillNull_8 : decode cJ9_fillNull 8 = .ok (.invokestatic 380, 3) := dk_184 1 124 (dk_at dksJ9_fillNull_0 8 rfl rfl)
theorem dJ9_fillNull_11 : decode cJ9_fillNull 11 = .ok (.return_, 1) := dk_177 (dk_at dksJ9_fillNull_0 11 rfl rfl)
abbrev cJ9_putCharSB : ByteArray := prog_33_method_71_code
def yJ9_putCharSB : MethodName := ⟨RJ9, "putCharSB", "([BII)V"⟩
def dkwJ9_putCharSB_0 : List UInt8 := [27, 42, 184, 0, 67, 42, 27, 28, 184, 0, 111, 177]
abbrev dktJ9_putCharSB_0 : List UInt8 := dkwJ9_putCharSB_0 ++ []
theorem dksJ9_putCharSB_0 : cJ9_putCharSB.data.toList.drop 0 = dktJ9_putCharSB_0 := by decide +kernel
theorem dJ9_putCharSB_0 : decode cJ9_putCharSB 0 = .ok (.iload_n 1, 1) := dk_27 (dk_at dksJ9_putCharSB_0 0 rfl rfl)
theorem dJ9_putCharSB_1 : decode cJ9_putCharSB 1 = .ok (.aload_n 0, 1) := dk_42 (dk_at dksJ9_putCharSB_0 1 rfl rfl)
theorem dJ9_putCharSB_2 : decode cJ9_putCharSB 2 = .ok (.invokestatic 67, 3) := dk_184 0 67 (dk_at dksJ9_putCharSB_0 2 rfl rfl)
theorem dJ9_putCharSB_5 : decode cJ9_putCharSB 5 = .ok (.aload_n 0, 1) := dk_42 (dk_at dksJ9_putCharSB_0 5 rfl rfl)
theorem dJ9_putCharSB_6 : decode cJ9_putCharSB 6 = .ok (.iload_n 1, 1) := dk_27 (dk_at dksJ9_putCharSB_0 6 rfl rfl)
theorem dJ9_putCharSB_7 : decode cJ9_putCharSB 7 = .ok (.iload_n 2, 1) := dk_28 (dk_at dksJ9_putCharSB_0 7 rfl rfl)
theorem dJ9_putCharSB_8 : decode cJ9_putCharSB 8 = .ok (.invokestatic 111, 3) := dk_184 0 111 (dk_at dksJ9_putCharSB_0 8 rfl rfl)
theorem dJ9_putCharSB_11 : decode cJ9_putCharSB 11 = .ok (.return_, 1) := dk_177 (dk_at dksJ9_putCharSB_0 11 rfl rfl)
abbrev cJ9_checkIndex : ByteArray := prog_33_method_91_code
def yJ9_checkIndex : MethodName := ⟨RJ9, "checkIndex", "(I[B)V"⟩
def dkwJ9_checkIndex_0 : List UInt8 := [26, 43, 184, 0, 48, 184, 1, 158, 177]
abbrev dktJ9_checkIndex_0 : List UInt8 := dkwJ9_checkIndex_0 ++ []
theorem dksJ9_checkIndex_0 : cJ9_checkIndex.data.toList.drop 0 = dktJ9_checkIndex_0 := by decide +kernel
theorem dJ9_checkIndex_0 : decode cJ9_checkIndex 0 = .ok (.iload_n 0, 1) := dk_26 (dk_at dksJ9_checkIndex_0 0 rfl rfl)
theorem dJ9_checkIndex_1 : decode cJ9_checkIndex 1 = .ok (.aload_n 1, 1) := dk_43 (dk_at dksJ9_checkIndex_0 1 rfl rfl)
theorem dJ9_checkIndex_2 : decode cJ9_checkIndex 2 = .ok (.invokestatic 48, 3) := dk_184 0 48 (dk_at dksJ9_checkIndex_0 2 rfl rfl)
theorem dJ9_checkIndex_5 : decode cJ9_checkIndex 5 = .ok (.invokestatic 414, 3) := dk_184 1 158 (dk_at dksJ9_checkIndex_0 5 rfl rfl)
theorem dJ9_checkIndex_8 : decode cJ9_checkIndex 8 = .ok (.return_, 1) := dk_177 (dk_at dksJ9_checkIndex_0 8 rfl rfl)
abbrev cJ9_newString : ByteArray := prog_33_method_69_code
def yJ9_newString : MethodName := ⟨RJ9, "newString", "([BII)Ljava/lang/String;"⟩
def dkwJ9_newString_2 : List UInt8 := [42, 27, 4, 120, 29, 4, 120, 184, 0, 126, 4, 183, 1, 7, 176]
abbrev dktJ9_newString_2 : List UInt8 := dkwJ9_newString_2 ++ []
def dkwJ9_newString_1 : List UInt8 := [184, 1, 3, 54, 4, 187, 0, 3, 89, 45, 21, 4, 183, 1, 7, 176, 27, 28, 96, 62, 187, 0, 3, 89]
abbrev dktJ9_newString_1 : List UInt8 := dkwJ9_newString_1 ++ dktJ9_newString_2
def dkwJ9_newString_0 : List UInt8 := [28, 154, 0, 7, 19, 1, 39, 176, 178, 0, 251, 153, 0, 28, 42, 27, 28, 184, 1, 1, 78, 45, 28]
abbrev dktJ9_newString_0 : List UInt8 := dkwJ9_newString_0 ++ dktJ9_newString_1
theorem dksJ9_newString_0 : cJ9_newString.data.toList.drop 0 = dktJ9_newString_0 := by decide +kernel
theorem dksJ9_newString_1 : cJ9_newString.data.toList.drop 23 = dktJ9_newString_1 := dk_seg dksJ9_newString_0 23 rfl rfl
theorem dksJ9_newString_2 : cJ9_newString.data.toList.drop 47 = dktJ9_newString_2 := dk_seg dksJ9_newString_1 24 rfl rfl
theorem dJ9_newString_0 : decode cJ9_newString 0 = .ok (.iload_n 2, 1) := dk_28 (dk_at dksJ9_newString_0 0 rfl rfl)
theorem dJ9_newString_1 : decode cJ9_newString 1 = .ok (.ifCond .ne 7, 3) := dk_154 0 7 (dk_at dksJ9_newString_0 1 rfl rfl)
theorem dJ9_newString_4 : decode cJ9_newString 4 = .ok (.ldc_w 295, 3) := dk_19 1 39 (dk_at dksJ9_newString_0 4 rfl rfl)
theorem dJ9_newString_7 : decode cJ9_newString 7 = .ok (.areturn, 1) := dk_176 (dk_at dksJ9_newString_0 7 rfl rfl)
theorem dJ9_newString_8 : decode cJ9_newString 8 = .ok (.getstatic 251, 3) := dk_178 0 251 (dk_at dksJ9_newString_0 8 rfl rfl)
theorem dJ9_newString_11 : decode cJ9_newString 11 = .ok (.ifCond .eq 28, 3) := dk_153 0 28 (dk_at dksJ9_newString_0 11 rfl rfl)
theorem dJ9_newString_14 : decode cJ9_newString 14 = .ok (.aload_n 0, 1) := dk_42 (dk_at dksJ9_newString_0 14 rfl rfl)
theorem dJ9_newString_15 : decode cJ9_newString 15 = .ok (.iload_n 1, 1) := dk_27 (dk_at dksJ9_newString_0 15 rfl rfl)
theorem dJ9_newString_16 : decode cJ9_newString 16 = .ok (.iload_n 2, 1) := dk_28 (dk_at dksJ9_newString_0 16 rfl rfl)
theorem dJ9_newString_17 : decode cJ9_newString 17 = .ok (.invokestatic 257, 3) := dk_184 1 1 (dk_at dksJ9_newString_0 17 rfl rfl)
theorem dJ9_newString_20 : decode cJ9_newString 20 = .ok (.astore_n 3, 1) := dk_78 (dk_at dksJ9_newString_0 20 rfl rfl)
theorem dJ9_newString_21 : decode cJ9_newString 21 = .ok (.aload_n 3, 1) := dk_45 (dk_at dksJ9_newString_0 21 rfl rfl)
theorem dJ9_newString_22 : decode cJ9_newString 22 = .ok (.iload_n 2, 1) := dk_28 (dk_at dksJ9_newString_0 22 rfl rfl)
theorem dJ9_newString_23 : decode cJ9_newString 23 = .ok (.invokestatic 259, 3) := dk_184 1 3 (dk_at dksJ9_newString_1 0 rfl rfl)
theorem dJ9_newString_26 : decode cJ9_newString 26 = .ok (.istore 4, 2) := dk_54 4 (dk_at dksJ9_newString_1 3 rfl rfl)
theorem dJ9_newString_28 : decode cJ9_newString 28 = .ok (.new 3, 3) := dk_187 0 3 (dk_at dksJ9_newString_1 5 rfl rfl)
theorem dJ9_newString_31 : decode cJ9_newString 31 = .ok (.dup, 1) := dk_89 (dk_at dksJ9_newString_1 8 rfl rfl)
theorem dJ9_newString_32 : decode cJ9_newString 32 = .ok (.aload_n 3, 1) := dk_45 (dk_at dksJ9_newString_1 9 rfl rfl)
theorem dJ9_newString_33 : decode cJ9_newString 33 = .ok (.iload 4, 2) := dk_21 4 (dk_at dksJ9_newString_1 10 rfl rfl)
theorem dJ9_newString_35 : decode cJ9_newString 35 = .ok (.invokespecial 263, 3) := dk_183 1 7 (dk_at dksJ9_newString_1 12 rfl rfl)
theorem dJ9_newString_38 : decode cJ9_newString 38 = .ok (.areturn, 1) := dk_176 (dk_at dksJ9_newString_1 15 rfl rfl)
theorem dJ9_newString_39 : decode cJ9_newString 39 = .ok (.iload_n 1, 1) := dk_27 (dk_at dksJ9_newString_1 16 rfl rfl)
theorem dJ9_newString_40 : decode cJ9_newString 40 = .ok (.iload_n 2, 1) := dk_28 (dk_at dksJ9_newString_1 17 rfl rfl)
theorem dJ9_newString_41 : decode cJ9_newString 41 = .ok (.iadd, 1) := dk_96 (dk_at dksJ9_newString_1 18 rfl rfl)
theorem dJ9_newString_42 : decode cJ9_newString 42 = .ok (.istore_n 3, 1) := dk_62 (dk_at dksJ9_newString_1 19 rfl rfl)
theorem dJ9_newString_43 : decode cJ9_newString 43 = .ok (.new 3, 3) := dk_187 0 3 (dk_at dksJ9_newString_1 20 rfl rfl)
theorem dJ9_newString_46 : decode cJ9_newString 46 = .ok (.dup, 1) := dk_89 (dk_at dksJ9_newString_1 23 rfl rfl)
theorem dJ9_newString_47 : decode cJ9_newString 47 = .ok (.aload_n 0, 1) := dk_42 (dk_at dksJ9_newString_2 0 rfl rfl)
theorem dJ9_newString_48 : decode cJ9_newString 48 = .ok (.iload_n 1, 1) := dk_27 (dk_at dksJ9_newString_2 1 rfl rfl)
theorem dJ9_newString_49 : decode cJ9_newString 49 = .ok (.iconst 1, 1) := dk_4 (dk_at dksJ9_newString_2 2 rfl rfl)
theorem dJ9_newString_50 : decode cJ9_newString 50 = .ok (.ishl, 1) := dk_120 (dk_at dksJ9_newString_2 3 rfl rfl)
theorem dJ9_newString_51 : decode cJ9_newString 51 = .ok (.iload_n 3, 1) := dk_29 (dk_at dksJ9_newString_2 4 rfl rfl)
theorem dJ9_newString_52 : decode cJ9_newString 52 = .ok (.iconst 1, 1) := dk_4 (dk_at dksJ9_newString_2 5 rfl rfl)
theorem dJ9_newString_53 : decode cJ9_newString 53 = .ok (.ishl, 1) := dk_120 (dk_at dksJ9_newString_2 6 rfl rfl)
theorem dJ9_newString_54 : decode cJ9_newString 54 = .ok (.invokestatic 126, 3) := dk_184 0 126 (dk_at dksJ9_newString_2 7 rfl rfl)
theorem dJ9_newString_57 : decode cJ9_newString 57 = .ok (.iconst 1, 1) := dk_4 (dk_at dksJ9_newString_2 10 rfl rfl)
theorem dJ9_newString_58 : decode cJ9_newString 58 = .ok (.invokespecial 263, 3) := dk_183 1 7 (dk_at dksJ9_newString_2 11 rfl rfl)
theorem dJ9_newString_61 : decode cJ9_newString 61 = .ok (.areturn, 1) := dk_176 (dk_at dksJ9_newString_2 14 rfl rfl)
abbrev cJ9_charAt : ByteArray := prog_33_method_83_code
def yJ9_charAt : MethodName := ⟨RJ9, "charAt", "([BI)C"⟩
def dkwJ9_charAt_0 : List UInt8 := [27, 42, 184, 0, 67, 42, 27, 184, 0, 71, 172]
abbrev dktJ9_charAt_0 : List UInt8 := dkwJ9_charAt_0 ++ []
theorem dksJ9_charAt_0 : cJ9_charAt.data.toList.drop 0 = dktJ9_charAt_0 := by decide +kernel
theorem dJ9_charAt_0 : decode cJ9_charAt 0 = .ok (.iload_n 1, 1) := dk_27 (dk_at dksJ9_charAt_0 0 rfl rfl)
theorem dJ9_charAt_1 : decode cJ9_charAt 1 = .ok (.aload_n 0, 1) := dk_42 (dk_at dksJ9_charAt_0 1 rfl rfl)
theorem dJ9_charAt_2 : decode cJ9_charAt 2 = .ok (.invokestatic 67, 3) := dk_184 0 67 (dk_at dksJ9_charAt_0 2 rfl rfl)
theorem dJ9_charAt_5 : decode cJ9_charAt 5 = .ok (.aload_n 0, 1) := dk_42 (dk_at dksJ9_charAt_0 5 rfl rfl)
theorem dJ9_charAt_6 : decode cJ9_charAt 6 = .ok (.iload_n 1, 1) := dk_27 (dk_at dksJ9_charAt_0 6 rfl rfl)
theorem dJ9_charAt_7 : decode cJ9_charAt 7 = .ok (.invokestatic 71, 3) := dk_184 0 71 (dk_at dksJ9_charAt_0 7 rfl rfl)
theorem dJ9_charAt_10 : decode cJ9_charAt 10 = .ok (.ireturn, 1) := dk_172 (dk_at dksJ9_charAt_0 10 rfl rfl)
abbrev cJ9_hashCode : ByteArray := prog_33_method_39_code
def yJ9_hashCode : MethodName := ⟨RJ9, "hashCode", "([B)I"⟩
def dkwJ9_hashCode_2 : List UInt8 := [3, 167, 0, 22, 42, 3, 184, 0, 71, 167, 0, 14, 42, 3, 42, 190, 4, 122, 3, 8, 184, 0, 220, 172]
abbrev dktJ9_hashCode_2 : List UInt8 := dkwJ9_hashCode_2 ++ []
def dkwJ9_hashCode_1 : List UInt8 := [171, 0, 0, 0, 0, 38, 0, 0, 0, 2, 0, 0, 0, 0, 0, 0, 0, 26, 0, 0, 0, 2, 0, 0, 0, 30]
abbrev dktJ9_hashCode_1 : List UInt8 := dkwJ9_hashCode_1 ++ dktJ9_hashCode_2
def dkwJ9_hashCode_0 : List UInt8 := [42, 190]
abbrev dktJ9_hashCode_0 : List UInt8 := dkwJ9_hashCode_0 ++ dktJ9_hashCode_1
theorem dksJ9_hashCode_0 : cJ9_hashCode.data.toList.drop 0 = dktJ9_hashCode_0 := by decide +kernel
theorem dksJ9_hashCode_1 : cJ9_hashCode.data.toList.drop 2 = dktJ9_hashCode_1 := dk_seg dksJ9_hashCode_0 2 rfl rfl
theorem dksJ9_hashCode_2 : cJ9_hashCode.data.toList.drop 28 = dktJ9_hashCode_2 := dk_seg dksJ9_hashCode_1 26 rfl rfl
theorem dJ9_hashCode_0 : decode cJ9_hashCode 0 = .ok (.aload_n 0, 1) := dk_42 (dk_at dksJ9_hashCode_0 0 rfl rfl)
theorem dJ9_hashCode_1 : decode cJ9_hashCode 1 = .ok (.arraylength, 1) := dk_190 (dk_at dksJ9_hashCode_0 1 rfl rfl)
theorem dJ9_hashCode_2 : decode cJ9_hashCode 2 = .ok (.lookupswitch 38 #[(0, 26), (2, 30)], 26) := by decide +kernel
theorem dJ9_hashCode_28 : decode cJ9_hashCode 28 = .ok (.iconst 0, 1) := dk_3 (dk_at dksJ9_hashCode_2 0 rfl rfl)
theorem dJ9_hashCode_29 : decode cJ9_hashCode 29 = .ok (.goto 22, 3) := dk_167 0 22 (dk_at dksJ9_hashCode_2 1 rfl rfl)
theorem dJ9_hashCode_32 : decode cJ9_hashCode 32 = .ok (.aload_n 0, 1) := dk_42 (dk_at dksJ9_hashCode_2 4 rfl rfl)
theorem dJ9_hashCode_33 : decode cJ9_hashCode 33 = .ok (.iconst 0, 1) := dk_3 (dk_at dksJ9_hashCode_2 5 rfl rfl)
theorem dJ9_hashCode_34 : decode cJ9_hashCode 34 = .ok (.invokestatic 71, 3) := dk_184 0 71 (dk_at dksJ9_hashCode_2 6 rfl rfl)
theorem dJ9_hashCode_37 : decode cJ9_hashCode 37 = .ok (.goto 14, 3) := dk_167 0 14 (dk_at dksJ9_hashCode_2 9 rfl rfl)
theorem dJ9_hashCode_40 : decode cJ9_hashCode 40 = .ok (.aload_n 0, 1) := dk_42 (dk_at dksJ9_hashCode_2 12 rfl rfl)
theorem dJ9_hashCode_41 : decode cJ9_hashCode 41 = .ok (.iconst 0, 1) := dk_3 (dk_at dksJ9_hashCode_2 13 rfl rfl)
theorem dJ9_hashCode_42 : decode cJ9_hashCode 42 = .ok (.aload_n 0, 1) := dk_42 (dk_at dksJ9_hashCode_2 14 rfl rfl)
theorem dJ9_hashCode_43 : decode cJ9_hashCode 43 = .ok (.arraylength, 1) := dk_190 (dk_at dksJ9_hashCode_2 15 rfl rfl)
theorem dJ9_hashCode_44 : decode cJ9_hashCode 44 = .ok (.iconst 1, 1) := dk_4 (dk_at dksJ9_hashCode_2 16 rfl rfl)
theorem dJ9_hashCode_45 : decode cJ9_hashCode 45 = .ok (.ishr, 1) := dk_122 (dk_at dksJ9_hashCode_2 17 rfl rfl)
theorem dJ9_hashCode_46 : decode cJ9_hashCode 46 = .ok (.iconst 0, 1) := dk_3 (dk_at dksJ9_hashCode_2 18 rfl rfl)
theorem dJ9_hashCode_47 : decode cJ9_hashCode 47 = .ok (.iconst 5, 1) := dk_8 (dk_at dksJ9_hashCode_2 19 rfl rfl)
theorem dJ9_hashCode_48 : decode cJ9_hashCode 48 = .ok (.invokestatic 220, 3) := dk_184 0 220 (dk_at dksJ9_hashCode_2 20 rfl rfl)
theorem dJ9_hashCode_51 : decode cJ9_hashCode 51 = .ok (.ireturn, 1) := dk_172 (dk_at dksJ9_hashCode_2 23 rfl rfl)
