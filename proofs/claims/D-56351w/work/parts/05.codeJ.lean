set_option maxRecDepth 100000
abbrev cJ0_init : ByteArray := prog_46_method_1_code
def yJ0_init : MethodName := ⟨RJ0, "<init>", "()V"⟩
theorem dJ0_init_0 : decode cJ0_init 0 = .ok (.aload_n 0, 1) := by decide +kernel
theorem dJ0_init_1 : decode cJ0_init 1 = .ok (.invokespecial 1, 3) := by decide +kernel
theorem dJ0_init_4 : decode cJ0_init 4 = .ok (.return_, 1) := by decide +kernel
abbrev cJ1_init : ByteArray := prog_50_method_1_code
def yJ1_init : MethodName := ⟨RJ1, "<init>", "()V"⟩
theorem dJ1_init_0 : decode cJ1_init 0 = .ok (.aload_n 0, 1) := by decide +kernel
theorem dJ1_init_1 : decode cJ1_init 1 = .ok (.invokespecial 1, 3) := by decide +kernel
theorem dJ1_init_4 : decode cJ1_init 4 = .ok (.return_, 1) := by decide +kernel
abbrev cJ2_init : ByteArray := prog_82_method_3_code
def yJ2_init : MethodName := ⟨RJ2, "<init>", "(Ljava/util/Comparator;)V"⟩
def dkwJ2_init_0 : List UInt8 := [42, 187, 0, 13, 89, 43, 183, 0, 19, 183, 0, 16, 177]
abbrev dktJ2_init_0 : List UInt8 := dkwJ2_init_0 ++ []
theorem dksJ2_init_0 : cJ2_init.data.toList.drop 0 = dktJ2_init_0 := by decide +kernel
theorem dJ2_init_0 : decode cJ2_init 0 = .ok (.aload_n 0, 1) := dk_42 (dk_at dksJ2_init_0 0 rfl rfl)
theorem dJ2_init_1 : decode cJ2_init 1 = .ok (.new 13, 3) := dk_187 0 13 (dk_at dksJ2_init_0 1 rfl rfl)
theorem dJ2_init_4 : decode cJ2_init 4 = .ok (.dup, 1) := dk_89 (dk_at dksJ2_init_0 4 rfl rfl)
theorem dJ2_init_5 : decode cJ2_init 5 = .ok (.aload_n 1, 1) := dk_43 (dk_at dksJ2_init_0 5 rfl rfl)
theorem dJ2_init_6 : decode cJ2_init 6 = .ok (.invokespecial 19, 3) := dk_183 0 19 (dk_at dksJ2_init_0 6 rfl rfl)
theorem dJ2_init_9 : decode cJ2_init 9 = .ok (.invokespecial 16, 3) := dk_183 0 16 (dk_at dksJ2_init_0 9 rfl rfl)
theorem dJ2_init_12 : decode cJ2_init 12 = .ok (.return_, 1) := dk_177 (dk_at dksJ2_init_0 12 rfl rfl)
abbrev cJ2_init_2 : ByteArray := prog_82_method_1_code
def yJ2_init_2 : MethodName := ⟨RJ2, "<init>", "(Ljava/util/NavigableMap;)V"⟩
def dkwJ2_init_2_0 : List UInt8 := [42, 183, 0, 1, 42, 43, 181, 0, 7, 177]
abbrev dktJ2_init_2_0 : List UInt8 := dkwJ2_init_2_0 ++ []
theorem dksJ2_init_2_0 : cJ2_init_2.data.toList.drop 0 = dktJ2_init_2_0 := by decide +kernel
theorem dJ2_init_2_0 : decode cJ2_init_2 0 = .ok (.aload_n 0, 1) := dk_42 (dk_at dksJ2_init_2_0 0 rfl rfl)
theorem dJ2_init_2_1 : decode cJ2_init_2 1 = .ok (.invokespecial 1, 3) := dk_183 0 1 (dk_at dksJ2_init_2_0 1 rfl rfl)
theorem dJ2_init_2_4 : decode cJ2_init_2 4 = .ok (.aload_n 0, 1) := dk_42 (dk_at dksJ2_init_2_0 4 rfl rfl)
theorem dJ2_init_2_5 : decode cJ2_init_2 5 = .ok (.aload_n 1, 1) := dk_43 (dk_at dksJ2_init_2_0 5 rfl rfl)
theorem dJ2_init_2_6 : decode cJ2_init_2 6 = .ok (.putfield 7, 3) := dk_181 0 7 (dk_at dksJ2_init_2_0 6 rfl rfl)
theorem dJ2_init_2_9 : decode cJ2_init_2 9 = .ok (.return_, 1) := dk_177 (dk_at dksJ2_init_2_0 9 rfl rfl)
abbrev cJ2_size : ByteArray := prog_82_method_9_code
def yJ2_size : MethodName := ⟨RJ2, "size", "()I"⟩
def dkwJ2_size_0 : List UInt8 := [42, 180, 0, 7, 185, 0, 53, 1, 0, 172]
abbrev dktJ2_size_0 : List UInt8 := dkwJ2_size_0 ++ []
theorem dksJ2_size_0 : cJ2_size.data.toList.drop 0 = dktJ2_size_0 := by decide +kernel
theorem dJ2_size_0 : decode cJ2_size 0 = .ok (.aload_n 0, 1) := dk_42 (dk_at dksJ2_size_0 0 rfl rfl)
theorem dJ2_size_1 : decode cJ2_size 1 = .ok (.getfield 7, 3) := dk_180 0 7 (dk_at dksJ2_size_0 1 rfl rfl)
theorem dJ2_size_4 : decode cJ2_size 4 = .ok (.invokeinterface 53 1, 5) := by decide +kernel
theorem dJ2_size_9 : decode cJ2_size 9 = .ok (.ireturn, 1) := dk_172 (dk_at dksJ2_size_0 9 rfl rfl)
abbrev cJ2_iterator : ByteArray := prog_82_method_6_code
def yJ2_iterator : MethodName := ⟨RJ2, "iterator", "()Ljava/util/Iterator;"⟩
def dkwJ2_iterator_0 : List UInt8 := [42, 180, 0, 7, 185, 0, 34, 1, 0, 185, 0, 40, 1, 0, 176]
abbrev dktJ2_iterator_0 : List UInt8 := dkwJ2_iterator_0 ++ []
theorem dksJ2_iterator_0 : cJ2_iterator.data.toList.drop 0 = dktJ2_iterator_0 := by decide +kernel
theorem dJ2_iterator_0 : decode cJ2_iterator 0 = .ok (.aload_n 0, 1) := dk_42 (dk_at dksJ2_iterator_0 0 rfl rfl)
theorem dJ2_iterator_1 : decode cJ2_iterator 1 = .ok (.getfield 7, 3) := dk_180 0 7 (dk_at dksJ2_iterator_0 1 rfl rfl)
theorem dJ2_iterator_4 : decode cJ2_iterator 4 = .ok (.invokeinterface 34 1, 5) := by decide +kernel
theorem dJ2_iterator_9 : decode cJ2_iterator 9 = .ok (.invokeinterface 40 1, 5) := by decide +kernel
theorem dJ2_iterator_14 : decode cJ2_iterator 14 = .ok (.areturn, 1) := dk_176 (dk_at dksJ2_iterator_0 14 rfl rfl)
abbrev cJ2_add : ByteArray := prog_82_method_12_code
def yJ2_add : MethodName := ⟨RJ2, "add", "(Ljava/lang/Object;)Z"⟩
def dkwJ2_add_0 : List UInt8 := [42, 180, 0, 7, 43, 178, 0, 65, 185, 0, 69, 3, 0, 199, 0, 7, 4, 167, 0, 4, 3, 172]
abbrev dktJ2_add_0 : List UInt8 := dkwJ2_add_0 ++ []
theorem dksJ2_add_0 : cJ2_add.data.toList.drop 0 = dktJ2_add_0 := by decide +kernel
theorem dJ2_add_0 : decode cJ2_add 0 = .ok (.aload_n 0, 1) := dk_42 (dk_at dksJ2_add_0 0 rfl rfl)
theorem dJ2_add_1 : decode cJ2_add 1 = .ok (.getfield 7, 3) := dk_180 0 7 (dk_at dksJ2_add_0 1 rfl rfl)
theorem dJ2_add_4 : decode cJ2_add 4 = .ok (.aload_n 1, 1) := dk_43 (dk_at dksJ2_add_0 4 rfl rfl)
theorem dJ2_add_5 : decode cJ2_add 5 = .ok (.getstatic 65, 3) := dk_178 0 65 (dk_at dksJ2_add_0 5 rfl rfl)
theorem dJ2_add_8 : decode cJ2_add 8 = .ok (.invokeinterface 69 3, 5) := by decide +kernel
theorem dJ2_add_13 : decode cJ2_add 13 = .ok (.ifnonnull 7, 3) := dk_199 0 7 (dk_at dksJ2_add_0 13 rfl rfl)
theorem dJ2_add_16 : decode cJ2_add 16 = .ok (.iconst 1, 1) := dk_4 (dk_at dksJ2_add_0 16 rfl rfl)
theorem dJ2_add_17 : decode cJ2_add 17 = .ok (.goto 4, 3) := dk_167 0 4 (dk_at dksJ2_add_0 17 rfl rfl)
theorem dJ2_add_20 : decode cJ2_add 20 = .ok (.iconst 0, 1) := dk_3 (dk_at dksJ2_add_0 20 rfl rfl)
theorem dJ2_add_21 : decode cJ2_add 21 = .ok (.ireturn, 1) := dk_172 (dk_at dksJ2_add_0 21 rfl rfl)
abbrev cJ2_remove : ByteArray := prog_82_method_13_code
def yJ2_remove : MethodName := ⟨RJ2, "remove", "(Ljava/lang/Object;)Z"⟩
def dkwJ2_remove_0 : List UInt8 := [42, 180, 0, 7, 43, 185, 0, 73, 2, 0, 178, 0, 65, 166, 0, 7, 4, 167, 0, 4, 3, 172]
abbrev dktJ2_remove_0 : List UInt8 := dkwJ2_remove_0 ++ []
theorem dksJ2_remove_0 : cJ2_remove.data.toList.drop 0 = dktJ2_remove_0 := by decide +kernel
theorem dJ2_remove_0 : decode cJ2_remove 0 = .ok (.aload_n 0, 1) := dk_42 (dk_at dksJ2_remove_0 0 rfl rfl)
theorem dJ2_remove_1 : decode cJ2_remove 1 = .ok (.getfield 7, 3) := dk_180 0 7 (dk_at dksJ2_remove_0 1 rfl rfl)
theorem dJ2_remove_4 : decode cJ2_remove 4 = .ok (.aload_n 1, 1) := dk_43 (dk_at dksJ2_remove_0 4 rfl rfl)
theorem dJ2_remove_5 : decode cJ2_remove 5 = .ok (.invokeinterface 73 2, 5) := by decide +kernel
theorem dJ2_remove_10 : decode cJ2_remove 10 = .ok (.getstatic 65, 3) := dk_178 0 65 (dk_at dksJ2_remove_0 10 rfl rfl)
theorem dJ2_remove_13 : decode cJ2_remove 13 = .ok (.if_acmp .ne 7, 3) := dk_166 0 7 (dk_at dksJ2_remove_0 13 rfl rfl)
theorem dJ2_remove_16 : decode cJ2_remove 16 = .ok (.iconst 1, 1) := dk_4 (dk_at dksJ2_remove_0 16 rfl rfl)
theorem dJ2_remove_17 : decode cJ2_remove 17 = .ok (.goto 4, 3) := dk_167 0 4 (dk_at dksJ2_remove_0 17 rfl rfl)
theorem dJ2_remove_20 : decode cJ2_remove 20 = .ok (.iconst 0, 1) := dk_3 (dk_at dksJ2_remove_0 20 rfl rfl)
theorem dJ2_remove_21 : decode cJ2_remove 21 = .ok (.ireturn, 1) := dk_172 (dk_at dksJ2_remove_0 21 rfl rfl)
abbrev cJ2_pollFirst : ByteArray := prog_82_method_29_code
def yJ2_pollFirst : MethodName := ⟨RJ2, "pollFirst", "()Ljava/lang/Object;"⟩
def dkwJ2_pollFirst_1 : List UInt8 := [176]
abbrev dktJ2_pollFirst_1 : List UInt8 := dkwJ2_pollFirst_1 ++ []
def dkwJ2_pollFirst_0 : List UInt8 := [42, 180, 0, 7, 185, 0, 137, 1, 0, 76, 43, 199, 0, 7, 1, 167, 0, 9, 43, 185, 0, 141, 1, 0]
abbrev dktJ2_pollFirst_0 : List UInt8 := dkwJ2_pollFirst_0 ++ dktJ2_pollFirst_1
theorem dksJ2_pollFirst_0 : cJ2_pollFirst.data.toList.drop 0 = dktJ2_pollFirst_0 := by decide +kernel
theorem dksJ2_pollFirst_1 : cJ2_pollFirst.data.toList.drop 24 = dktJ2_pollFirst_1 := dk_seg dksJ2_pollFirst_0 24 rfl rfl
theorem dJ2_pollFirst_0 : decode cJ2_pollFirst 0 = .ok (.aload_n 0, 1) := dk_42 (dk_at dksJ2_pollFirst_0 0 rfl rfl)
theorem dJ2_pollFirst_1 : decode cJ2_pollFirst 1 = .ok (.getfield 7, 3) := dk_180 0 7 (dk_at dksJ2_pollFirst_0 1 rfl rfl)
theorem dJ2_pollFirst_4 : decode cJ2_pollFirst 4 = .ok (.invokeinterface 137 1, 5) := by decide +kernel
theorem dJ2_pollFirst_9 : decode cJ2_pollFirst 9 = .ok (.astore_n 1, 1) := dk_76 (dk_at dksJ2_pollFirst_0 9 rfl rfl)
theorem dJ2_pollFirst_10 : decode cJ2_pollFirst 10 = .ok (.aload_n 1, 1) := dk_43 (dk_at dksJ2_pollFirst_0 10 rfl rfl)
theorem dJ2_pollFirst_11 : decode cJ2_pollFirst 11 = .ok (.ifnonnull 7, 3) := dk_199 0 7 (dk_at dksJ2_pollFirst_0 11 rfl rfl)
theorem dJ2_pollFirst_14 : decode cJ2_pollFirst 14 = .ok (.aconst_null, 1) := dk_1 (dk_at dksJ2_pollFirst_0 14 rfl rfl)
theorem dJ2_pollFirst_15 : decode cJ2_pollFirst 15 = .ok (.goto 9, 3) := dk_167 0 9 (dk_at dksJ2_pollFirst_0 15 rfl rfl)
theorem dJ2_pollFirst_18 : decode cJ2_pollFirst 18 = .ok (.aload_n 1, 1) := dk_43 (dk_at dksJ2_pollFirst_0 18 rfl rfl)
theorem dJ2_pollFirst_19 : decode cJ2_pollFirst 19 = .ok (.invokeinterface 141 1, 5) := by decide +kernel
theorem dJ2_pollFirst_24 : decode cJ2_pollFirst 24 = .ok (.areturn, 1) := dk_176 (dk_at dksJ2_pollFirst_1 0 rfl rfl)
abbrev cJ2_first : ByteArray := prog_82_method_23_code
def yJ2_first : MethodName := ⟨RJ2, "first", "()Ljava/lang/Object;"⟩
def dkwJ2_first_0 : List UInt8 := [42, 180, 0, 7, 185, 0, 118, 1, 0, 176]
abbrev dktJ2_first_0 : List UInt8 := dkwJ2_first_0 ++ []
theorem dksJ2_first_0 : cJ2_first.data.toList.drop 0 = dktJ2_first_0 := by decide +kernel
theorem dJ2_first_0 : decode cJ2_first 0 = .ok (.aload_n 0, 1) := dk_42 (dk_at dksJ2_first_0 0 rfl rfl)
theorem dJ2_first_1 : decode cJ2_first 1 = .ok (.getfield 7, 3) := dk_180 0 7 (dk_at dksJ2_first_0 1 rfl rfl)
theorem dJ2_first_4 : decode cJ2_first 4 = .ok (.invokeinterface 118 1, 5) := by decide +kernel
theorem dJ2_first_9 : decode cJ2_first 9 = .ok (.areturn, 1) := dk_176 (dk_at dksJ2_first_0 9 rfl rfl)
abbrev cJ2_isEmpty : ByteArray := prog_82_method_10_code
def yJ2_isEmpty : MethodName := ⟨RJ2, "isEmpty", "()Z"⟩
def dkwJ2_isEmpty_0 : List UInt8 := [42, 180, 0, 7, 185, 0, 57, 1, 0, 172]
abbrev dktJ2_isEmpty_0 : List UInt8 := dkwJ2_isEmpty_0 ++ []
theorem dksJ2_isEmpty_0 : cJ2_isEmpty.data.toList.drop 0 = dktJ2_isEmpty_0 := by decide +kernel
theorem dJ2_isEmpty_0 : decode cJ2_isEmpty 0 = .ok (.aload_n 0, 1) := dk_42 (dk_at dksJ2_isEmpty_0 0 rfl rfl)
theorem dJ2_isEmpty_1 : decode cJ2_isEmpty 1 = .ok (.getfield 7, 3) := dk_180 0 7 (dk_at dksJ2_isEmpty_0 1 rfl rfl)
theorem dJ2_isEmpty_4 : decode cJ2_isEmpty 4 = .ok (.invokeinterface 57 1, 5) := by decide +kernel
theorem dJ2_isEmpty_9 : decode cJ2_isEmpty 9 = .ok (.ireturn, 1) := dk_172 (dk_at dksJ2_isEmpty_0 9 rfl rfl)
abbrev cJ2_init_3 : ByteArray := prog_82_method_2_code
def yJ2_init_3 : MethodName := ⟨RJ2, "<init>", "()V"⟩
def dkwJ2_init_3_0 : List UInt8 := [42, 187, 0, 13, 89, 183, 0, 15, 183, 0, 16, 177]
abbrev dktJ2_init_3_0 : List UInt8 := dkwJ2_init_3_0 ++ []
theorem dksJ2_init_3_0 : cJ2_init_3.data.toList.drop 0 = dktJ2_init_3_0 := by decide +kernel
theorem dJ2_init_3_0 : decode cJ2_init_3 0 = .ok (.aload_n 0, 1) := dk_42 (dk_at dksJ2_init_3_0 0 rfl rfl)
theorem dJ2_init_3_1 : decode cJ2_init_3 1 = .ok (.new 13, 3) := dk_187 0 13 (dk_at dksJ2_init_3_0 1 rfl rfl)
theorem dJ2_init_3_4 : decode cJ2_init_3 4 = .ok (.dup, 1) := dk_89 (dk_at dksJ2_init_3_0 4 rfl rfl)
theorem dJ2_init_3_5 : decode cJ2_init_3 5 = .ok (.invokespecial 15, 3) := dk_183 0 15 (dk_at dksJ2_init_3_0 5 rfl rfl)
theorem dJ2_init_3_8 : decode cJ2_init_3 8 = .ok (.invokespecial 16, 3) := dk_183 0 16 (dk_at dksJ2_init_3_0 8 rfl rfl)
theorem dJ2_init_3_11 : decode cJ2_init_3 11 = .ok (.return_, 1) := dk_177 (dk_at dksJ2_init_3_0 11 rfl rfl)
abbrev cJ3_init : ByteArray := prog_48_method_1_code
def yJ3_init : MethodName := ⟨RJ3, "<init>", "()V"⟩
theorem dJ3_init_0 : decode cJ3_init 0 = .ok (.aload_n 0, 1) := by decide +kernel
theorem dJ3_init_1 : decode cJ3_init 1 = .ok (.invokespecial 1, 3) := by decide +kernel
theorem dJ3_init_4 : decode cJ3_init 4 = .ok (.return_, 1) := by decide +kernel
abbrev cJ3_isEmpty : ByteArray := prog_48_method_3_code
def yJ3_isEmpty : MethodName := ⟨RJ3, "isEmpty", "()Z"⟩
def dkwJ3_isEmpty_0 : List UInt8 := [42, 182, 0, 19, 154, 0, 7, 4, 167, 0, 4, 3, 172]
abbrev dktJ3_isEmpty_0 : List UInt8 := dkwJ3_isEmpty_0 ++ []
theorem dksJ3_isEmpty_0 : cJ3_isEmpty.data.toList.drop 0 = dktJ3_isEmpty_0 := by decide +kernel
theorem dJ3_isEmpty_0 : decode cJ3_isEmpty 0 = .ok (.aload_n 0, 1) := dk_42 (dk_at dksJ3_isEmpty_0 0 rfl rfl)
theorem dJ3_isEmpty_1 : decode cJ3_isEmpty 1 = .ok (.invokevirtual 19, 3) := dk_182 0 19 (dk_at dksJ3_isEmpty_0 1 rfl rfl)
theorem dJ3_isEmpty_4 : decode cJ3_isEmpty 4 = .ok (.ifCond .ne 7, 3) := dk_154 0 7 (dk_at dksJ3_isEmpty_0 4 rfl rfl)
theorem dJ3_isEmpty_7 : decode cJ3_isEmpty 7 = .ok (.iconst 1, 1) := dk_4 (dk_at dksJ3_isEmpty_0 7 rfl rfl)
theorem dJ3_isEmpty_8 : decode cJ3_isEmpty 8 = .ok (.goto 4, 3) := dk_167 0 4 (dk_at dksJ3_isEmpty_0 8 rfl rfl)
theorem dJ3_isEmpty_11 : decode cJ3_isEmpty 11 = .ok (.iconst 0, 1) := dk_3 (dk_at dksJ3_isEmpty_0 11 rfl rfl)
theorem dJ3_isEmpty_12 : decode cJ3_isEmpty 12 = .ok (.ireturn, 1) := dk_172 (dk_at dksJ3_isEmpty_0 12 rfl rfl)
abbrev cJ4_init : ByteArray := prog_75_method_2_code
def yJ4_init : MethodName := ⟨RJ4, "<init>", "(Ljava/util/Comparator;)V"⟩
def dkwJ4_init_0 : List UInt8 := [42, 183, 0, 1, 42, 3, 181, 0, 7, 42, 3, 181, 0, 13, 42, 43, 181, 0, 16, 177]
abbrev dktJ4_init_0 : List UInt8 := dkwJ4_init_0 ++ []
theorem dksJ4_init_0 : cJ4_init.data.toList.drop 0 = dktJ4_init_0 := by decide +kernel
theorem dJ4_init_0 : decode cJ4_init 0 = .ok (.aload_n 0, 1) := dk_42 (dk_at dksJ4_init_0 0 rfl rfl)
theorem dJ4_init_1 : decode cJ4_init 1 = .ok (.invokespecial 1, 3) := dk_183 0 1 (dk_at dksJ4_init_0 1 rfl rfl)
theorem dJ4_init_4 : decode cJ4_init 4 = .ok (.aload_n 0, 1) := dk_42 (dk_at dksJ4_init_0 4 rfl rfl)
theorem dJ4_init_5 : decode cJ4_init 5 = .ok (.iconst 0, 1) := dk_3 (dk_at dksJ4_init_0 5 rfl rfl)
theorem dJ4_init_6 : decode cJ4_init 6 = .ok (.putfield 7, 3) := dk_181 0 7 (dk_at dksJ4_init_0 6 rfl rfl)
theorem dJ4_init_9 : decode cJ4_init 9 = .ok (.aload_n 0, 1) := dk_42 (dk_at dksJ4_init_0 9 rfl rfl)
theorem dJ4_init_10 : decode cJ4_init 10 = .ok (.iconst 0, 1) := dk_3 (dk_at dksJ4_init_0 10 rfl rfl)
theorem dJ4_init_11 : decode cJ4_init 11 = .ok (.putfield 13, 3) := dk_181 0 13 (dk_at dksJ4_init_0 11 rfl rfl)
theorem dJ4_init_14 : decode cJ4_init 14 = .ok (.aload_n 0, 1) := dk_42 (dk_at dksJ4_init_0 14 rfl rfl)
theorem dJ4_init_15 : decode cJ4_init 15 = .ok (.aload_n 1, 1) := dk_43 (dk_at dksJ4_init_0 15 rfl rfl)
theorem dJ4_init_16 : decode cJ4_init 16 = .ok (.putfield 16, 3) := dk_181 0 16 (dk_at dksJ4_init_0 16 rfl rfl)
theorem dJ4_init_19 : decode cJ4_init 19 = .ok (.return_, 1) := dk_177 (dk_at dksJ4_init_0 19 rfl rfl)
abbrev cJ4_size : ByteArray := prog_75_method_5_code
def yJ4_size : MethodName := ⟨RJ4, "size", "()I"⟩
theorem dJ4_size_0 : decode cJ4_size 0 = .ok (.aload_n 0, 1) := by decide +kernel
theorem dJ4_size_1 : decode cJ4_size 1 = .ok (.getfield 7, 3) := by decide +kernel
theorem dJ4_size_4 : decode cJ4_size 4 = .ok (.ireturn, 1) := by decide +kernel
abbrev cJ4_navigableKeySet : ByteArray := prog_75_method_50_code
def yJ4_navigableKeySet : MethodName := ⟨RJ4, "navigableKeySet", "()Ljava/util/NavigableSet;"⟩
def dkwJ4_navigableKeySet_1 : List UInt8 := [181, 0, 191, 176]
abbrev dktJ4_navigableKeySet_1 : List UInt8 := dkwJ4_navigableKeySet_1 ++ []
def dkwJ4_navigableKeySet_0 : List UInt8 := [42, 180, 0, 191, 76, 43, 198, 0, 7, 43, 167, 0, 16, 42, 187, 0, 222, 89, 42, 183, 0, 224, 90]
abbrev dktJ4_navigableKeySet_0 : List UInt8 := dkwJ4_navigableKeySet_0 ++ dktJ4_navigableKeySet_1
theorem dksJ4_navigableKeySet_0 : cJ4_navigableKeySet.data.toList.drop 0 = dktJ4_navigableKeySet_0 := by decide +kernel
theorem dksJ4_navigableKeySet_1 : cJ4_navigableKeySet.data.toList.drop 23 = dktJ4_navigableKeySet_1 := dk_seg dksJ4_navigableKeySet_0 23 rfl rfl
theorem dJ4_navigableKeySet_0 : decode cJ4_navigableKeySet 0 = .ok (.aload_n 0, 1) := dk_42 (dk_at dksJ4_navigableKeySet_0 0 rfl rfl)
theorem dJ4_navigableKeySet_1 : decode cJ4_navigableKeySet 1 = .ok (.getfield 191, 3) := dk_180 0 191 (dk_at dksJ4_navigableKeySet_0 1 rfl rfl)
theorem dJ4_navigableKeySet_4 : decode cJ4_navigableKeySet 4 = .ok (.astore_n 1, 1) := dk_76 (dk_at dksJ4_navigableKeySet_0 4 rfl rfl)
theorem dJ4_navigableKeySet_5 : decode cJ4_navigableKeySet 5 = .ok (.aload_n 1, 1) := dk_43 (dk_at dksJ4_navigableKeySet_0 5 rfl rfl)
theorem dJ4_navigableKeySet_6 : decode cJ4_navigableKeySet 6 = .ok (.ifnull 7, 3) := dk_198 0 7 (dk_at dksJ4_navigableKeySet_0 6 rfl rfl)
theorem dJ4_navigableKeySet_9 : decode cJ4_navigableKeySet 9 = .ok (.aload_n 1, 1) := dk_43 (dk_at dksJ4_navigableKeySet_0 9 rfl rfl)
theorem dJ4_navigableKeySet_10 : decode cJ4_navigableKeySet 10 = .ok (.goto 16, 3) := dk_167 0 16 (dk_at dksJ4_navigableKeySet_0 10 rfl rfl)
theorem dJ4_navigableKeySet_13 : decode cJ4_navigableKeySet 13 = .ok (.aload_n 0, 1) := dk_42 (dk_at dksJ4_navigableKeySet_0 13 rfl rfl)
theorem dJ4_navigableKeySet_14 : decode cJ4_navigableKeySet 14 = .ok (.new 222, 3) := dk_187 0 222 (dk_at dksJ4_navigableKeySet_0 14 rfl rfl)
theorem dJ4_navigableKeySet_17 : decode cJ4_navigableKeySet 17 = .ok (.dup, 1) := dk_89 (dk_at dksJ4_navigableKeySet_0 17 rfl rfl)
theorem dJ4_navigableKeySet_18 : decode cJ4_navigableKeySet 18 = .ok (.aload_n 0, 1) := dk_42 (dk_at dksJ4_navigableKeySet_0 18 rfl rfl)
theorem dJ4_navigableKeySet_19 : decode cJ4_navigableKeySet 19 = .ok (.invokespecial 224, 3) := dk_183 0 224 (dk_at dksJ4_navigableKeySet_0 19 rfl rfl)
theorem dJ4_navigableKeySet_22 : decode cJ4_navigableKeySet 22 = .ok (.dup_x1, 1) := dk_90 (dk_at dksJ4_navigableKeySet_0 22 rfl rfl)
theorem dJ4_navigableKeySet_23 : decode cJ4_navigableKeySet 23 = .ok (.putfield 191, 3) := dk_181 0 191 (dk_at dksJ4_navigableKeySet_1 0 rfl rfl)
theorem dJ4_navigableKeySet_26 : decode cJ4_navigableKeySet 26 = .ok (.areturn, 1) := dk_176 (dk_at dksJ4_navigableKeySet_1 3 rfl rfl)
abbrev cJ4_keyIterator : ByteArray := prog_75_method_65_code
def yJ4_keyIterator : MethodName := ⟨RJ4, "keyIterator", "()Ljava/util/Iterator;"⟩
def dkwJ4_keyIterator_0 : List UInt8 := [187, 1, 13, 89, 42, 42, 182, 0, 54, 183, 1, 15, 176]
abbrev dktJ4_keyIterator_0 : List UInt8 := dkwJ4_keyIterator_0 ++ []
theorem dksJ4_keyIterator_0 : cJ4_keyIterator.data.toList.drop 0 = dktJ4_keyIterator_0 := by decide +kernel
theorem dJ4_keyIterator_0 : decode cJ4_keyIterator 0 = .ok (.new 269, 3) := dk_187 1 13 (dk_at dksJ4_keyIterator_0 0 rfl rfl)
theorem dJ4_keyIterator_3 : decode cJ4_keyIterator 3 = .ok (.dup, 1) := dk_89 (dk_at dksJ4_keyIterator_0 3 rfl rfl)
theorem dJ4_keyIterator_4 : decode cJ4_keyIterator 4 = .ok (.aload_n 0, 1) := dk_42 (dk_at dksJ4_keyIterator_0 4 rfl rfl)
theorem dJ4_keyIterator_5 : decode cJ4_keyIterator 5 = .ok (.aload_n 0, 1) := dk_42 (dk_at dksJ4_keyIterator_0 5 rfl rfl)
theorem dJ4_keyIterator_6 : decode cJ4_keyIterator 6 = .ok (.invokevirtual 54, 3) := dk_182 0 54 (dk_at dksJ4_keyIterator_0 6 rfl rfl)
theorem dJ4_keyIterator_9 : decode cJ4_keyIterator 9 = .ok (.invokespecial 271, 3) := dk_183 1 15 (dk_at dksJ4_keyIterator_0 9 rfl rfl)
theorem dJ4_keyIterator_12 : decode cJ4_keyIterator 12 = .ok (.areturn, 1) := dk_176 (dk_at dksJ4_keyIterator_0 12 rfl rfl)
abbrev cJ4_getFirstEntry : ByteArray := prog_75_method_72_code
def yJ4_getFirstEntry : MethodName := ⟨RJ4, "getFirstEntry", "()Ljava/util/TreeMap$Entry;"⟩
def dkwJ4_getFirstEntry_1 : List UInt8 := [43, 176]
abbrev dktJ4_getFirstEntry_1 : List UInt8 := dkwJ4_getFirstEntry_1 ++ []
def dkwJ4_getFirstEntry_0 : List UInt8 := [42, 180, 0, 101, 76, 43, 198, 0, 18, 43, 180, 0, 111, 198, 0, 11, 43, 180, 0, 111, 76, 167, 255, 244]
abbrev dktJ4_getFirstEntry_0 : List UInt8 := dkwJ4_getFirstEntry_0 ++ dktJ4_getFirstEntry_1
theorem dksJ4_getFirstEntry_0 : cJ4_getFirstEntry.data.toList.drop 0 = dktJ4_getFirstEntry_0 := by decide +kernel
theorem dksJ4_getFirstEntry_1 : cJ4_getFirstEntry.data.toList.drop 24 = dktJ4_getFirstEntry_1 := dk_seg dksJ4_getFirstEntry_0 24 rfl rfl
theorem dJ4_getFirstEntry_0 : decode cJ4_getFirstEntry 0 = .ok (.aload_n 0, 1) := dk_42 (dk_at dksJ4_getFirstEntry_0 0 rfl rfl)
theorem dJ4_getFirstEntry_1 : decode cJ4_getFirstEntry 1 = .ok (.getfield 101, 3) := dk_180 0 101 (dk_at dksJ4_getFirstEntry_0 1 rfl rfl)
theorem dJ4_getFirstEntry_4 : decode cJ4_getFirstEntry 4 = .ok (.astore_n 1, 1) := dk_76 (dk_at dksJ4_getFirstEntry_0 4 rfl rfl)
theorem dJ4_getFirstEntry_5 : decode cJ4_getFirstEntry 5 = .ok (.aload_n 1, 1) := dk_43 (dk_at dksJ4_getFirstEntry_0 5 rfl rfl)
theorem dJ4_getFirstEntry_6 : decode cJ4_getFirstEntry 6 = .ok (.ifnull 18, 3) := dk_198 0 18 (dk_at dksJ4_getFirstEntry_0 6 rfl rfl)
theorem dJ4_getFirstEntry_9 : decode cJ4_getFirstEntry 9 = .ok (.aload_n 1, 1) := dk_43 (dk_at dksJ4_getFirstEntry_0 9 rfl rfl)
theorem dJ4_getFirstEntry_10 : decode cJ4_getFirstEntry 10 = .ok (.getfield 111, 3) := dk_180 0 111 (dk_at dksJ4_getFirstEntry_0 10 rfl rfl)
theorem dJ4_getFirstEntry_13 : decode cJ4_getFirstEntry 13 = .ok (.ifnull 11, 3) := dk_198 0 11 (dk_at dksJ4_getFirstEntry_0 13 rfl rfl)
theorem dJ4_getFirstEntry_16 : decode cJ4_getFirstEntry 16 = .ok (.aload_n 1, 1) := dk_43 (dk_at dksJ4_getFirstEntry_0 16 rfl rfl)
theorem dJ4_getFirstEntry_17 : decode cJ4_getFirstEntry 17 = .ok (.getfield 111, 3) := dk_180 0 111 (dk_at dksJ4_getFirstEntry_0 17 rfl rfl)
theorem dJ4_getFirstEntry_20 : decode cJ4_getFirstEntry 20 = .ok (.astore_n 1, 1) := dk_76 (dk_at dksJ4_getFirstEntry_0 20 rfl rfl)
theorem dJ4_getFirstEntry_21 : decode cJ4_getFirstEntry 21 = .ok (.goto (-12), 3) := dk_167 255 244 (dk_at dksJ4_getFirstEntry_0 21 rfl rfl)
theorem dJ4_getFirstEntry_24 : decode cJ4_getFirstEntry 24 = .ok (.aload_n 1, 1) := dk_43 (dk_at dksJ4_getFirstEntry_1 0 rfl rfl)
theorem dJ4_getFirstEntry_25 : decode cJ4_getFirstEntry 25 = .ok (.areturn, 1) := dk_176 (dk_at dksJ4_getFirstEntry_1 1 rfl rfl)
abbrev cJ4_successor : ByteArray := prog_75_method_74_code
def yJ4_successor : MethodName := ⟨RJ4, "successor", "(Ljava/util/TreeMap$Entry;)Ljava/util/TreeMap$Entry;"⟩
def dkwJ4_successor_2 : List UInt8 := [44, 43, 180, 0, 114, 166, 0, 13, 43, 77, 43, 180, 0, 124, 76, 167, 255, 237, 43, 176]
abbrev dktJ4_successor_2 : List UInt8 := dkwJ4_successor_2 ++ []
def dkwJ4_successor_1 : List UInt8 := [198, 0, 11, 43, 180, 0, 111, 76, 167, 255, 244, 43, 176, 42, 180, 0, 124, 76, 42, 77, 43, 198, 0, 21]
abbrev dktJ4_successor_1 : List UInt8 := dkwJ4_successor_1 ++ dktJ4_successor_2
def dkwJ4_successor_0 : List UInt8 := [42, 199, 0, 5, 1, 176, 42, 180, 0, 114, 198, 0, 25, 42, 180, 0, 114, 76, 43, 180, 0, 111]
abbrev dktJ4_successor_0 : List UInt8 := dkwJ4_successor_0 ++ dktJ4_successor_1
theorem dksJ4_successor_0 : cJ4_successor.data.toList.drop 0 = dktJ4_successor_0 := by decide +kernel
theorem dksJ4_successor_1 : cJ4_successor.data.toList.drop 22 = dktJ4_successor_1 := dk_seg dksJ4_successor_0 22 rfl rfl
theorem dksJ4_successor_2 : cJ4_successor.data.toList.drop 46 = dktJ4_successor_2 := dk_seg dksJ4_successor_1 24 rfl rfl
theorem dJ4_successor_0 : decode cJ4_successor 0 = .ok (.aload_n 0, 1) := dk_42 (dk_at dksJ4_successor_0 0 rfl rfl)
theorem dJ4_successor_1 : decode cJ4_successor 1 = .ok (.ifnonnull 5, 3) := dk_199 0 5 (dk_at dksJ4_successor_0 1 rfl rfl)
theorem dJ4_successor_4 : decode cJ4_successor 4 = .ok (.aconst_null, 1) := dk_1 (dk_at dksJ4_successor_0 4 rfl rfl)
theorem dJ4_successor_5 : decode cJ4_successor 5 = .ok (.areturn, 1) := dk_176 (dk_at dksJ4_successor_0 5 rfl rfl)
theorem dJ4_successor_6 : decode cJ4_successor 6 = .ok (.aload_n 0, 1) := dk_42 (dk_at dksJ4_successor_0 6 rfl rfl)
theorem dJ4_successor_7 : decode cJ4_successor 7 = .ok (.getfield 114, 3) := dk_180 0 114 (dk_at dksJ4_successor_0 7 rfl rfl)
theorem dJ4_successor_10 : decode cJ4_successor 10 = .ok (.ifnull 25, 3) := dk_198 0 25 (dk_at dksJ4_successor_0 10 rfl rfl)
theorem dJ4_successor_13 : decode cJ4_successor 13 = .ok (.aload_n 0, 1) := dk_42 (dk_at dksJ4_successor_0 13 rfl rfl)
theorem dJ4_successor_14 : decode cJ4_successor 14 = .ok (.getfield 114, 3) := dk_180 0 114 (dk_at dksJ4_successor_0 14 rfl rfl)
theorem dJ4_successor_17 : decode cJ4_successor 17 = .ok (.astore_n 1, 1) := dk_76 (dk_at dksJ4_successor_0 17 rfl rfl)
theorem dJ4_successor_18 : decode cJ4_successor 18 = .ok (.aload_n 1, 1) := dk_43 (dk_at dksJ4_successor_0 18 rfl rfl)
theorem dJ4_successor_19 : decode cJ4_successor 19 = .ok (.getfield 111, 3) := dk_180 0 111 (dk_at dksJ4_successor_0 19 rfl rfl)
theorem dJ4_successor_22 : decode cJ4_successor 22 = .ok (.ifnull 11, 3) := dk_198 0 11 (dk_at dksJ4_successor_1 0 rfl rfl)
theorem dJ4_successor_25 : decode cJ4_successor 25 = .ok (.aload_n 1, 1) := dk_43 (dk_at dksJ4_successor_1 3 rfl rfl)
theorem dJ4_successor_26 : decode cJ4_successor 26 = .ok (.getfield 111, 3) := dk_180 0 111 (dk_at dksJ4_successor_1 4 rfl rfl)
theorem dJ4_successor_29 : decode cJ4_successor 29 = .ok (.astore_n 1, 1) := dk_76 (dk_at dksJ4_successor_1 7 rfl rfl)
theorem dJ4_successor_30 : decode cJ4_successor 30 = .ok (.goto (-12), 3) := dk_167 255 244 (dk_at dksJ4_successor_1 8 rfl rfl)
theorem dJ4_successor_33 : decode cJ4_successor 33 = .ok (.aload_n 1, 1) := dk_43 (dk_at dksJ4_successor_1 11 rfl rfl)
theorem dJ4_successor_34 : decode cJ4_successor 34 = .ok (.areturn, 1) := dk_176 (dk_at dksJ4_successor_1 12 rfl rfl)
theorem dJ4_successor_35 : decode cJ4_successor 35 = .ok (.aload_n 0, 1) := dk_42 (dk_at dksJ4_successor_1 13 rfl rfl)
theorem dJ4_successor_36 : decode cJ4_successor 36 = .ok (.getfield 124, 3) := dk_180 0 124 (dk_at dksJ4_successor_1 14 rfl rfl)
theorem dJ4_successor_39 : decode cJ4_successor 39 = .ok (.astore_n 1, 1) := dk_76 (dk_at dksJ4_successor_1 17 rfl rfl)
theorem dJ4_successor_40 : decode cJ4_successor 40 = .ok (.aload_n 0, 1) := dk_42 (dk_at dksJ4_successor_1 18 rfl rfl)
theorem dJ4_successor_41 : decode cJ4_successor 41 = .ok (.astore_n 2, 1) := dk_77 (dk_at dksJ4_successor_1 19 rfl rfl)
theorem dJ4_successor_42 : decode cJ4_successor 42 = .ok (.aload_n 1, 1) := dk_43 (dk_at dksJ4_successor_1 20 rfl rfl)
theorem dJ4_successor_43 : decode cJ4_successor 43 = .ok (.ifnull 21, 3) := dk_198 0 21 (dk_at dksJ4_successor_1 21 rfl rfl)
theorem dJ4_successor_46 : decode cJ4_successor 46 = .ok (.aload_n 2, 1) := dk_44 (dk_at dksJ4_successor_2 0 rfl rfl)
theorem dJ4_successor_47 : decode cJ4_successor 47 = .ok (.aload_n 1, 1) := dk_43 (dk_at dksJ4_successor_2 1 rfl rfl)
theorem dJ4_successor_48 : decode cJ4_successor 48 = .ok (.getfield 114, 3) := dk_180 0 114 (dk_at dksJ4_successor_2 2 rfl rfl)
theorem dJ4_successor_51 : decode cJ4_successor 51 = .ok (.if_acmp .ne 13, 3) := dk_166 0 13 (dk_at dksJ4_successor_2 5 rfl rfl)
theorem dJ4_successor_54 : decode cJ4_successor 54 = .ok (.aload_n 1, 1) := dk_43 (dk_at dksJ4_successor_2 8 rfl rfl)
theorem dJ4_successor_55 : decode cJ4_successor 55 = .ok (.astore_n 2, 1) := dk_77 (dk_at dksJ4_successor_2 9 rfl rfl)
theorem dJ4_successor_56 : decode cJ4_successor 56 = .ok (.aload_n 1, 1) := dk_43 (dk_at dksJ4_successor_2 10 rfl rfl)
theorem dJ4_successor_57 : decode cJ4_successor 57 = .ok (.getfield 124, 3) := dk_180 0 124 (dk_at dksJ4_successor_2 11 rfl rfl)
theorem dJ4_successor_60 : decode cJ4_successor 60 = .ok (.astore_n 1, 1) := dk_76 (dk_at dksJ4_successor_2 14 rfl rfl)
theorem dJ4_successor_61 : decode cJ4_successor 61 = .ok (.goto (-19), 3) := dk_167 255 237 (dk_at dksJ4_successor_2 15 rfl rfl)
theorem dJ4_successor_64 : decode cJ4_successor 64 = .ok (.aload_n 1, 1) := dk_43 (dk_at dksJ4_successor_2 18 rfl rfl)
theorem dJ4_successor_65 : decode cJ4_successor 65 = .ok (.areturn, 1) := dk_176 (dk_at dksJ4_successor_2 19 rfl rfl)
abbrev cJ4_put : ByteArray := prog_75_method_21_code
def yJ4_put : MethodName := ⟨RJ4, "put", "(Ljava/lang/Object;Ljava/lang/Object;)Ljava/lang/Object;"⟩
def dkwJ4_put_0 : List UInt8 := [42, 43, 44, 4, 182, 0, 127, 176]
abbrev dktJ4_put_0 : List UInt8 := dkwJ4_put_0 ++ []
theorem dksJ4_put_0 : cJ4_put.data.toList.drop 0 = dktJ4_put_0 := by decide +kernel
theorem dJ4_put_0 : decode cJ4_put 0 = .ok (.aload_n 0, 1) := dk_42 (dk_at dksJ4_put_0 0 rfl rfl)
theorem dJ4_put_1 : decode cJ4_put 1 = .ok (.aload_n 1, 1) := dk_43 (dk_at dksJ4_put_0 1 rfl rfl)
theorem dJ4_put_2 : decode cJ4_put 2 = .ok (.aload_n 2, 1) := dk_44 (dk_at dksJ4_put_0 2 rfl rfl)
theorem dJ4_put_3 : decode cJ4_put 3 = .ok (.iconst 1, 1) := dk_4 (dk_at dksJ4_put_0 3 rfl rfl)
theorem dJ4_put_4 : decode cJ4_put 4 = .ok (.invokevirtual 127, 3) := dk_182 0 127 (dk_at dksJ4_put_0 4 rfl rfl)
theorem dJ4_put_7 : decode cJ4_put 7 = .ok (.areturn, 1) := dk_176 (dk_at dksJ4_put_0 7 rfl rfl)
abbrev cJ4_put_2 : ByteArray := prog_75_method_31_code
def yJ4_put_2 : MethodName := ⟨RJ4, "put", "(Ljava/lang/Object;Ljava/lang/Object;Z)Ljava/lang/Object;"⟩
def dkwJ4_put_2_9 : List UInt8 := [4, 167, 0, 4, 3, 182, 0, 139, 1, 176]
abbrev dktJ4_put_2_9 : List UInt8 := dkwJ4_put_2_9 ++ []
def dkwJ4_put_2_8 : List UInt8 := [25, 4, 44, 181, 0, 58, 25, 9, 176, 25, 4, 199, 255, 181, 42, 43, 44, 25, 6, 21, 5, 156, 0, 7]
abbrev dktJ4_put_2_8 : List UInt8 := dkwJ4_put_2_8 ++ dktJ4_put_2_9
def dkwJ4_put_2_7 : List UInt8 := [180, 0, 114, 58, 4, 167, 0, 28, 25, 4, 180, 0, 58, 58, 9, 29, 154, 0, 8, 25, 9, 199, 0, 9]
abbrev dktJ4_put_2_7 : List UInt8 := dkwJ4_put_2_7 ++ dktJ4_put_2_8
def dkwJ4_put_2_6 : List UInt8 := [21, 5, 156, 0, 13, 25, 4, 180, 0, 111, 58, 4, 167, 0, 43, 21, 5, 158, 0, 13, 25, 4]
abbrev dktJ4_put_2_6 : List UInt8 := dkwJ4_put_2_6 ++ dktJ4_put_2_7
def dkwJ4_put_2_5 : List UInt8 := [192, 0, 99, 58, 8, 25, 4, 58, 6, 25, 8, 25, 4, 180, 0, 105, 185, 0, 107, 2, 0, 54, 5]
abbrev dktJ4_put_2_5 : List UInt8 := dkwJ4_put_2_5 ++ dktJ4_put_2_6
def dkwJ4_put_2_4 : List UInt8 := [25, 4, 44, 181, 0, 58, 25, 8, 176, 25, 4, 199, 255, 180, 167, 0, 92, 43, 184, 0, 95, 87, 43]
abbrev dktJ4_put_2_4 : List UInt8 := dkwJ4_put_2_4 ++ dktJ4_put_2_5
def dkwJ4_put_2_3 : List UInt8 := [180, 0, 114, 58, 4, 167, 0, 28, 25, 4, 180, 0, 58, 58, 8, 29, 154, 0, 8, 25, 8, 199, 0, 9]
abbrev dktJ4_put_2_3 : List UInt8 := dkwJ4_put_2_3 ++ dktJ4_put_2_4
def dkwJ4_put_2_2 : List UInt8 := [54, 5, 21, 5, 156, 0, 13, 25, 4, 180, 0, 111, 58, 4, 167, 0, 43, 21, 5, 158, 0, 13, 25, 4]
abbrev dktJ4_put_2_2 : List UInt8 := dkwJ4_put_2_2 ++ dktJ4_put_2_3
def dkwJ4_put_2_1 : List UInt8 := [58, 7, 25, 7, 198, 0, 85, 25, 4, 58, 6, 25, 7, 43, 25, 4, 180, 0, 105, 185, 0, 117, 3, 0]
abbrev dktJ4_put_2_1 : List UInt8 := dkwJ4_put_2_1 ++ dktJ4_put_2_2
def dkwJ4_put_2_0 : List UInt8 := [42, 180, 0, 101, 58, 4, 25, 4, 199, 0, 11, 42, 43, 44, 182, 0, 135, 1, 176, 42, 180, 0, 16]
abbrev dktJ4_put_2_0 : List UInt8 := dkwJ4_put_2_0 ++ dktJ4_put_2_1
theorem dksJ4_put_2_0 : cJ4_put_2.data.toList.drop 0 = dktJ4_put_2_0 := by decide +kernel
theorem dksJ4_put_2_1 : cJ4_put_2.data.toList.drop 23 = dktJ4_put_2_1 := dk_seg dksJ4_put_2_0 23 rfl rfl
theorem dksJ4_put_2_2 : cJ4_put_2.data.toList.drop 47 = dktJ4_put_2_2 := dk_seg dksJ4_put_2_1 24 rfl rfl
theorem dksJ4_put_2_3 : cJ4_put_2.data.toList.drop 71 = dktJ4_put_2_3 := dk_seg dksJ4_put_2_2 24 rfl rfl
theorem dksJ4_put_2_4 : cJ4_put_2.data.toList.drop 95 = dktJ4_put_2_4 := dk_seg dksJ4_put_2_3 24 rfl rfl
theorem dksJ4_put_2_5 : cJ4_put_2.data.toList.drop 118 = dktJ4_put_2_5 := dk_seg dksJ4_put_2_4 23 rfl rfl
theorem dksJ4_put_2_6 : cJ4_put_2.data.toList.drop 141 = dktJ4_put_2_6 := dk_seg dksJ4_put_2_5 23 rfl rfl
theorem dksJ4_put_2_7 : cJ4_put_2.data.toList.drop 163 = dktJ4_put_2_7 := dk_seg dksJ4_put_2_6 22 rfl rfl
theorem dksJ4_put_2_8 : cJ4_put_2.data.toList.drop 187 = dktJ4_put_2_8 := dk_seg dksJ4_put_2_7 24 rfl rfl
theorem dksJ4_put_2_9 : cJ4_put_2.data.toList.drop 211 = dktJ4_put_2_9 := dk_seg dksJ4_put_2_8 24 rfl rfl
theorem dJ4_put_2_0 : decode cJ4_put_2 0 = .ok (.aload_n 0, 1) := dk_42 (dk_at dksJ4_put_2_0 0 rfl rfl)
theorem dJ4_put_2_1 : decode cJ4_put_2 1 = .ok (.getfield 101, 3) := dk_180 0 101 (dk_at dksJ4_put_2_0 1 rfl rfl)
theorem dJ4_put_2_4 : decode cJ4_put_2 4 = .ok (.astore 4, 2) := dk_58 4 (dk_at dksJ4_put_2_0 4 rfl rfl)
theorem dJ4_put_2_6 : decode cJ4_put_2 6 = .ok (.aload 4, 2) := dk_25 4 (dk_at dksJ4_put_2_0 6 rfl rfl)
theorem dJ4_put_2_8 : decode cJ4_put_2 8 = .ok (.ifnonnull 11, 3) := dk_199 0 11 (dk_at dksJ4_put_2_0 8 rfl rfl)
theorem dJ4_put_2_11 : decode cJ4_put_2 11 = .ok (.aload_n 0, 1) := dk_42 (dk_at dksJ4_put_2_0 11 rfl rfl)
theorem dJ4_put_2_12 : decode cJ4_put_2 12 = .ok (.aload_n 1, 1) := dk_43 (dk_at dksJ4_put_2_0 12 rfl rfl)
theorem dJ4_put_2_13 : decode cJ4_put_2 13 = .ok (.aload_n 2, 1) := dk_44 (dk_at dksJ4_put_2_0 13 rfl rfl)
theorem dJ4_put_2_14 : decode cJ4_put_2 14 = .ok (.invokevirtual 135, 3) := dk_182 0 135 (dk_at dksJ4_put_2_0 14 rfl rfl)
theorem dJ4_put_2_17 : decode cJ4_put_2 17 = .ok (.aconst_null, 1) := dk_1 (dk_at dksJ4_put_2_0 17 rfl rfl)
theorem dJ4_put_2_18 : decode cJ4_put_2 18 = .ok (.areturn, 1) := dk_176 (dk_at dksJ4_put_2_0 18 rfl rfl)
theorem dJ4_put_2_19 : decode cJ4_put_2 19 = .ok (.aload_n 0, 1) := dk_42 (dk_at dksJ4_put_2_0 19 rfl rfl)
theorem dJ4_put_2_20 : decode cJ4_put_2 20 = .ok (.getfield 16, 3) := dk_180 0 16 (dk_at dksJ4_put_2_0 20 rfl rfl)
theorem dJ4_put_2_23 : decode cJ4_put_2 23 = .ok (.astore 7, 2) := dk_58 7 (dk_at dksJ4_put_2_1 0 rfl rfl)
theorem dJ4_put_2_25 : decode cJ4_put_2 25 = .ok (.aload 7, 2) := dk_25 7 (dk_at dksJ4_put_2_1 2 rfl rfl)
theorem dJ4_put_2_27 : decode cJ4_put_2 27 = .ok (.ifnull 85, 3) := dk_198 0 85 (dk_at dksJ4_put_2_1 4 rfl rfl)
theorem dJ4_put_2_30 : decode cJ4_put_2 30 = .ok (.aload 4, 2) := dk_25 4 (dk_at dksJ4_put_2_1 7 rfl rfl)
theorem dJ4_put_2_32 : decode cJ4_put_2 32 = .ok (.astore 6, 2) := dk_58 6 (dk_at dksJ4_put_2_1 9 rfl rfl)
theorem dJ4_put_2_34 : decode cJ4_put_2 34 = .ok (.aload 7, 2) := dk_25 7 (dk_at dksJ4_put_2_1 11 rfl rfl)
theorem dJ4_put_2_36 : decode cJ4_put_2 36 = .ok (.aload_n 1, 1) := dk_43 (dk_at dksJ4_put_2_1 13 rfl rfl)
theorem dJ4_put_2_37 : decode cJ4_put_2 37 = .ok (.aload 4, 2) := dk_25 4 (dk_at dksJ4_put_2_1 14 rfl rfl)
theorem dJ4_put_2_39 : decode cJ4_put_2 39 = .ok (.getfield 105, 3) := dk_180 0 105 (dk_at dksJ4_put_2_1 16 rfl rfl)
theorem dJ4_put_2_42 : decode cJ4_put_2 42 = .ok (.invokeinterface 117 3, 5) := by decide +kernel
theorem dJ4_put_2_47 : decode cJ4_put_2 47 = .ok (.istore 5, 2) := dk_54 5 (dk_at dksJ4_put_2_2 0 rfl rfl)
theorem dJ4_put_2_49 : decode cJ4_put_2 49 = .ok (.iload 5, 2) := dk_21 5 (dk_at dksJ4_put_2_2 2 rfl rfl)
theorem dJ4_put_2_51 : decode cJ4_put_2 51 = .ok (.ifCond .ge 13, 3) := dk_156 0 13 (dk_at dksJ4_put_2_2 4 rfl rfl)
theorem dJ4_put_2_54 : decode cJ4_put_2 54 = .ok (.aload 4, 2) := dk_25 4 (dk_at dksJ4_put_2_2 7 rfl rfl)
theorem dJ4_put_2_56 : decode cJ4_put_2 56 = .ok (.getfield 111, 3) := dk_180 0 111 (dk_at dksJ4_put_2_2 9 rfl rfl)
theorem dJ4_put_2_59 : decode cJ4_put_2 59 = .ok (.astore 4, 2) := dk_58 4 (dk_at dksJ4_put_2_2 12 rfl rfl)
theorem dJ4_put_2_61 : decode cJ4_put_2 61 = .ok (.goto 43, 3) := dk_167 0 43 (dk_at dksJ4_put_2_2 14 rfl rfl)
theorem dJ4_put_2_64 : decode cJ4_put_2 64 = .ok (.iload 5, 2) := dk_21 5 (dk_at dksJ4_put_2_2 17 rfl rfl)
theorem dJ4_put_2_66 : decode cJ4_put_2 66 = .ok (.ifCond .le 13, 3) := dk_158 0 13 (dk_at dksJ4_put_2_2 19 rfl rfl)
theorem dJ4_put_2_69 : decode cJ4_put_2 69 = .ok (.aload 4, 2) := dk_25 4 (dk_at dksJ4_put_2_2 22 rfl rfl)
theorem dJ4_put_2_71 : decode cJ4_put_2 71 = .ok (.getfield 114, 3) := dk_180 0 114 (dk_at dksJ4_put_2_3 0 rfl rfl)
theorem dJ4_put_2_74 : decode cJ4_put_2 74 = .ok (.astore 4, 2) := dk_58 4 (dk_at dksJ4_put_2_3 3 rfl rfl)
theorem dJ4_put_2_76 : decode cJ4_put_2 76 = .ok (.goto 28, 3) := dk_167 0 28 (dk_at dksJ4_put_2_3 5 rfl rfl)
theorem dJ4_put_2_79 : decode cJ4_put_2 79 = .ok (.aload 4, 2) := dk_25 4 (dk_at dksJ4_put_2_3 8 rfl rfl)
theorem dJ4_put_2_81 : decode cJ4_put_2 81 = .ok (.getfield 58, 3) := dk_180 0 58 (dk_at dksJ4_put_2_3 10 rfl rfl)
theorem dJ4_put_2_84 : decode cJ4_put_2 84 = .ok (.astore 8, 2) := dk_58 8 (dk_at dksJ4_put_2_3 13 rfl rfl)
theorem dJ4_put_2_86 : decode cJ4_put_2 86 = .ok (.iload_n 3, 1) := dk_29 (dk_at dksJ4_put_2_3 15 rfl rfl)
theorem dJ4_put_2_87 : decode cJ4_put_2 87 = .ok (.ifCond .ne 8, 3) := dk_154 0 8 (dk_at dksJ4_put_2_3 16 rfl rfl)
theorem dJ4_put_2_90 : decode cJ4_put_2 90 = .ok (.aload 8, 2) := dk_25 8 (dk_at dksJ4_put_2_3 19 rfl rfl)
theorem dJ4_put_2_92 : decode cJ4_put_2 92 = .ok (.ifnonnull 9, 3) := dk_199 0 9 (dk_at dksJ4_put_2_3 21 rfl rfl)
theorem dJ4_put_2_95 : decode cJ4_put_2 95 = .ok (.aload 4, 2) := dk_25 4 (dk_at dksJ4_put_2_4 0 rfl rfl)
theorem dJ4_put_2_97 : decode cJ4_put_2 97 = .ok (.aload_n 2, 1) := dk_44 (dk_at dksJ4_put_2_4 2 rfl rfl)
theorem dJ4_put_2_98 : decode cJ4_put_2 98 = .ok (.putfield 58, 3) := dk_181 0 58 (dk_at dksJ4_put_2_4 3 rfl rfl)
theorem dJ4_put_2_101 : decode cJ4_put_2 101 = .ok (.aload 8, 2) := dk_25 8 (dk_at dksJ4_put_2_4 6 rfl rfl)
theorem dJ4_put_2_103 : decode cJ4_put_2 103 = .ok (.areturn, 1) := dk_176 (dk_at dksJ4_put_2_4 8 rfl rfl)
theorem dJ4_put_2_104 : decode cJ4_put_2 104 = .ok (.aload 4, 2) := dk_25 4 (dk_at dksJ4_put_2_4 9 rfl rfl)
theorem dJ4_put_2_106 : decode cJ4_put_2 106 = .ok (.ifnonnull (-76), 3) := dk_199 255 180 (dk_at dksJ4_put_2_4 11 rfl rfl)
theorem dJ4_put_2_109 : decode cJ4_put_2 109 = .ok (.goto 92, 3) := dk_167 0 92 (dk_at dksJ4_put_2_4 14 rfl rfl)
theorem dJ4_put_2_112 : decode cJ4_put_2 112 = .ok (.aload_n 1, 1) := dk_43 (dk_at dksJ4_put_2_4 17 rfl rfl)
theorem dJ4_put_2_113 : decode cJ4_put_2 113 = .ok (.invokestatic 95, 3) := dk_184 0 95 (dk_at dksJ4_put_2_4 18 rfl rfl)
theorem dJ4_put_2_116 : decode cJ4_put_2 116 = .ok (.pop, 1) := dk_87 (dk_at dksJ4_put_2_4 21 rfl rfl)
theorem dJ4_put_2_117 : decode cJ4_put_2 117 = .ok (.aload_n 1, 1) := dk_43 (dk_at dksJ4_put_2_4 22 rfl rfl)
theorem dJ4_put_2_118 : decode cJ4_put_2 118 = .ok (.checkcast 99, 3) := dk_192 0 99 (dk_at dksJ4_put_2_5 0 rfl rfl)
theorem dJ4_put_2_121 : decode cJ4_put_2 121 = .ok (.astore 8, 2) := dk_58 8 (dk_at dksJ4_put_2_5 3 rfl rfl)
theorem dJ4_put_2_123 : decode cJ4_put_2 123 = .ok (.aload 4, 2) := dk_25 4 (dk_at dksJ4_put_2_5 5 rfl rfl)
theorem dJ4_put_2_125 : decode cJ4_put_2 125 = .ok (.astore 6, 2) := dk_58 6 (dk_at dksJ4_put_2_5 7 rfl rfl)
theorem dJ4_put_2_127 : decode cJ4_put_2 127 = .ok (.aload 8, 2) := dk_25 8 (dk_at dksJ4_put_2_5 9 rfl rfl)
theorem dJ4_put_2_129 : decode cJ4_put_2 129 = .ok (.aload 4, 2) := dk_25 4 (dk_at dksJ4_put_2_5 11 rfl rfl)
theorem dJ4_put_2_131 : decode cJ4_put_2 131 = .ok (.getfield 105, 3) := dk_180 0 105 (dk_at dksJ4_put_2_5 13 rfl rfl)
theorem dJ4_put_2_134 : decode cJ4_put_2 134 = .ok (.invokeinterface 107 2, 5) := by decide +kernel
theorem dJ4_put_2_139 : decode cJ4_put_2 139 = .ok (.istore 5, 2) := dk_54 5 (dk_at dksJ4_put_2_5 21 rfl rfl)
theorem dJ4_put_2_141 : decode cJ4_put_2 141 = .ok (.iload 5, 2) := dk_21 5 (dk_at dksJ4_put_2_6 0 rfl rfl)
theorem dJ4_put_2_143 : decode cJ4_put_2 143 = .ok (.ifCond .ge 13, 3) := dk_156 0 13 (dk_at dksJ4_put_2_6 2 rfl rfl)
theorem dJ4_put_2_146 : decode cJ4_put_2 146 = .ok (.aload 4, 2) := dk_25 4 (dk_at dksJ4_put_2_6 5 rfl rfl)
theorem dJ4_put_2_148 : decode cJ4_put_2 148 = .ok (.getfield 111, 3) := dk_180 0 111 (dk_at dksJ4_put_2_6 7 rfl rfl)
theorem dJ4_put_2_151 : decode cJ4_put_2 151 = .ok (.astore 4, 2) := dk_58 4 (dk_at dksJ4_put_2_6 10 rfl rfl)
theorem dJ4_put_2_153 : decode cJ4_put_2 153 = .ok (.goto 43, 3) := dk_167 0 43 (dk_at dksJ4_put_2_6 12 rfl rfl)
theorem dJ4_put_2_156 : decode cJ4_put_2 156 = .ok (.iload 5, 2) := dk_21 5 (dk_at dksJ4_put_2_6 15 rfl rfl)
theorem dJ4_put_2_158 : decode cJ4_put_2 158 = .ok (.ifCond .le 13, 3) := dk_158 0 13 (dk_at dksJ4_put_2_6 17 rfl rfl)
theorem dJ4_put_2_161 : decode cJ4_put_2 161 = .ok (.aload 4, 2) := dk_25 4 (dk_at dksJ4_put_2_6 20 rfl rfl)
theorem dJ4_put_2_163 : decode cJ4_put_2 163 = .ok (.getfield 114, 3) := dk_180 0 114 (dk_at dksJ4_put_2_7 0 rfl rfl)
theorem dJ4_put_2_166 : decode cJ4_put_2 166 = .ok (.astore 4, 2) := dk_58 4 (dk_at dksJ4_put_2_7 3 rfl rfl)
theorem dJ4_put_2_168 : decode cJ4_put_2 168 = .ok (.goto 28, 3) := dk_167 0 28 (dk_at dksJ4_put_2_7 5 rfl rfl)
theorem dJ4_put_2_171 : decode cJ4_put_2 171 = .ok (.aload 4, 2) := dk_25 4 (dk_at dksJ4_put_2_7 8 rfl rfl)
theorem dJ4_put_2_173 : decode cJ4_put_2 173 = .ok (.getfield 58, 3) := dk_180 0 58 (dk_at dksJ4_put_2_7 10 rfl rfl)
theorem dJ4_put_2_176 : decode cJ4_put_2 176 = .ok (.astore 9, 2) := dk_58 9 (dk_at dksJ4_put_2_7 13 rfl rfl)
theorem dJ4_put_2_178 : decode cJ4_put_2 178 = .ok (.iload_n 3, 1) := dk_29 (dk_at dksJ4_put_2_7 15 rfl rfl)
theorem dJ4_put_2_179 : decode cJ4_put_2 179 = .ok (.ifCond .ne 8, 3) := dk_154 0 8 (dk_at dksJ4_put_2_7 16 rfl rfl)
theorem dJ4_put_2_182 : decode cJ4_put_2 182 = .ok (.aload 9, 2) := dk_25 9 (dk_at dksJ4_put_2_7 19 rfl rfl)
theorem dJ4_put_2_184 : decode cJ4_put_2 184 = .ok (.ifnonnull 9, 3) := dk_199 0 9 (dk_at dksJ4_put_2_7 21 rfl rfl)
theorem dJ4_put_2_187 : decode cJ4_put_2 187 = .ok (.aload 4, 2) := dk_25 4 (dk_at dksJ4_put_2_8 0 rfl rfl)
theorem dJ4_put_2_189 : decode cJ4_put_2 189 = .ok (.aload_n 2, 1) := dk_44 (dk_at dksJ4_put_2_8 2 rfl rfl)
theorem dJ4_put_2_190 : decode cJ4_put_2 190 = .ok (.putfield 58, 3) := dk_181 0 58 (dk_at dksJ4_put_2_8 3 rfl rfl)
theorem dJ4_put_2_193 : decode cJ4_put_2 193 = .ok (.aload 9, 2) := dk_25 9 (dk_at dksJ4_put_2_8 6 rfl rfl)
theorem dJ4_put_2_195 : decode cJ4_put_2 195 = .ok (.areturn, 1) := dk_176 (dk_at dksJ4_put_2_8 8 rfl rfl)
theorem dJ4_put_2_196 : decode cJ4_put_2 196 = .ok (.aload 4, 2) := dk_25 4 (dk_at dksJ4_put_2_8 9 rfl rfl)
theorem dJ4_put_2_198 : decode cJ4_put_2 198 = .ok (.ifnonnull (-75), 3) := dk_199 255 181 (dk_at dksJ4_put_2_8 11 rfl rfl)
theorem dJ4_put_2_201 : decode cJ4_put_2 201 = .ok (.aload_n 0, 1) := dk_42 (dk_at dksJ4_put_2_8 14 rfl rfl)
theorem dJ4_put_2_202 : decode cJ4_put_2 202 = .ok (.aload_n 1, 1) := dk_43 (dk_at dksJ4_put_2_8 15 rfl rfl)
theorem dJ4_put_2_203 : decode cJ4_put_2 203 = .ok (.aload_n 2, 1) := dk_44 (dk_at dksJ4_put_2_8 16 rfl rfl)
theorem dJ4_put_2_204 : decode cJ4_put_2 204 = .ok (.aload 6, 2) := dk_25 6 (dk_at dksJ4_put_2_8 17 rfl rfl)
theorem dJ4_put_2_206 : decode cJ4_put_2 206 = .ok (.iload 5, 2) := dk_21 5 (dk_at dksJ4_put_2_8 19 rfl rfl)
theorem dJ4_put_2_208 : decode cJ4_put_2 208 = .ok (.ifCond .ge 7, 3) := dk_156 0 7 (dk_at dksJ4_put_2_8 21 rfl rfl)
theorem dJ4_put_2_211 : decode cJ4_put_2 211 = .ok (.iconst 1, 1) := dk_4 (dk_at dksJ4_put_2_9 0 rfl rfl)
theorem dJ4_put_2_212 : decode cJ4_put_2 212 = .ok (.goto 4, 3) := dk_167 0 4 (dk_at dksJ4_put_2_9 1 rfl rfl)
theorem dJ4_put_2_215 : decode cJ4_put_2 215 = .ok (.iconst 0, 1) := dk_3 (dk_at dksJ4_put_2_9 4 rfl rfl)
theorem dJ4_put_2_216 : decode cJ4_put_2 216 = .ok (.invokevirtual 139, 3) := dk_182 0 139 (dk_at dksJ4_put_2_9 5 rfl rfl)
theorem dJ4_put_2_219 : decode cJ4_put_2 219 = .ok (.aconst_null, 1) := dk_1 (dk_at dksJ4_put_2_9 8 rfl rfl)
theorem dJ4_put_2_220 : decode cJ4_put_2 220 = .ok (.areturn, 1) := dk_176 (dk_at dksJ4_put_2_9 9 rfl rfl)
abbrev cJ4_addEntryToEmptyMap : ByteArray := prog_75_method_30_code
def yJ4_addEntryToEmptyMap : MethodName := ⟨RJ4, "addEntryToEmptyMap", "(Ljava/lang/Object;Ljava/lang/Object;)V"⟩
def dkwJ4_addEntryToEmptyMap_1 : List UInt8 := [181, 0, 7, 42, 89, 180, 0, 13, 4, 96, 181, 0, 13, 177]
abbrev dktJ4_addEntryToEmptyMap_1 : List UInt8 := dkwJ4_addEntryToEmptyMap_1 ++ []
def dkwJ4_addEntryToEmptyMap_0 : List UInt8 := [42, 43, 43, 182, 0, 123, 87, 42, 187, 0, 59, 89, 43, 44, 1, 183, 0, 167, 181, 0, 101, 42, 4]
abbrev dktJ4_addEntryToEmptyMap_0 : List UInt8 := dkwJ4_addEntryToEmptyMap_0 ++ dktJ4_addEntryToEmptyMap_1
theorem dksJ4_addEntryToEmptyMap_0 : cJ4_addEntryToEmptyMap.data.toList.drop 0 = dktJ4_addEntryToEmptyMap_0 := by decide +kernel
theorem dksJ4_addEntryToEmptyMap_1 : cJ4_addEntryToEmptyMap.data.toList.drop 23 = dktJ4_addEntryToEmptyMap_1 := dk_seg dksJ4_addEntryToEmptyMap_0 23 rfl rfl
theorem dJ4_addEntryToEmptyMap_0 : decode cJ4_addEntryToEmptyMap 0 = .ok (.aload_n 0, 1) := dk_42 (dk_at dksJ4_addEntryToEmptyMap_0 0 rfl rfl)
theorem dJ4_addEntryToEmptyMap_1 : decode cJ4_addEntryToEmptyMap 1 = .ok (.aload_n 1, 1) := dk_43 (dk_at dksJ4_addEntryToEmptyMap_0 1 rfl rfl)
theorem dJ4_addEntryToEmptyMap_2 : decode cJ4_addEntryToEmptyMap 2 = .ok (.aload_n 1, 1) := dk_43 (dk_at dksJ4_addEntryToEmptyMap_0 2 rfl rfl)
theorem dJ4_addEntryToEmptyMap_3 : decode cJ4_addEntryToEmptyMap 3 = .ok (.invokevirtual 123, 3) := dk_182 0 123 (dk_at dksJ4_addEntryToEmptyMap_0 3 rfl rfl)
theorem dJ4_addEntryToEmptyMap_6 : decode cJ4_addEntryToEmptyMap 6 = .ok (.pop, 1) := dk_87 (dk_at dksJ4_addEntryToEmptyMap_0 6 rfl rfl)
theorem dJ4_addEntryToEmptyMap_7 : decode cJ4_addEntryToEmptyMap 7 = .ok (.aload_n 0, 1) := dk_42 (dk_at dksJ4_addEntryToEmptyMap_0 7 rfl rfl)
theorem dJ4_addEntryToEmptyMap_8 : decode cJ4_addEntryToEmptyMap 8 = .ok (.new 59, 3) := dk_187 0 59 (dk_at dksJ4_addEntryToEmptyMap_0 8 rfl rfl)
theorem dJ4_addEntryToEmptyMap_11 : decode cJ4_addEntryToEmptyMap 11 = .ok (.dup, 1) := dk_89 (dk_at dksJ4_addEntryToEmptyMap_0 11 rfl rfl)
theorem dJ4_addEntryToEmptyMap_12 : decode cJ4_addEntryToEmptyMap 12 = .ok (.aload_n 1, 1) := dk_43 (dk_at dksJ4_addEntryToEmptyMap_0 12 rfl rfl)
theorem dJ4_addEntryToEmptyMap_13 : decode cJ4_addEntryToEmptyMap 13 = .ok (.aload_n 2, 1) := dk_44 (dk_at dksJ4_addEntryToEmptyMap_0 13 rfl rfl)
theorem dJ4_addEntryToEmptyMap_14 : decode cJ4_addEntryToEmptyMap 14 = .ok (.aconst_null, 1) := dk_1 (dk_at dksJ4_addEntryToEmptyMap_0 14 rfl rfl)
theorem dJ4_addEntryToEmptyMap_15 : decode cJ4_addEntryToEmptyMap 15 = .ok (.invokespecial 167, 3) := dk_183 0 167 (dk_at dksJ4_addEntryToEmptyMap_0 15 rfl rfl)
theorem dJ4_addEntryToEmptyMap_18 : decode cJ4_addEntryToEmptyMap 18 = .ok (.putfield 101, 3) := dk_181 0 101 (dk_at dksJ4_addEntryToEmptyMap_0 18 rfl rfl)
theorem dJ4_addEntryToEmptyMap_21 : decode cJ4_addEntryToEmptyMap 21 = .ok (.aload_n 0, 1) := dk_42 (dk_at dksJ4_addEntryToEmptyMap_0 21 rfl rfl)
theorem dJ4_addEntryToEmptyMap_22 : decode cJ4_addEntryToEmptyMap 22 = .ok (.iconst 1, 1) := dk_4 (dk_at dksJ4_addEntryToEmptyMap_0 22 rfl rfl)
theorem dJ4_addEntryToEmptyMap_23 : decode cJ4_addEntryToEmptyMap 23 = .ok (.putfield 7, 3) := dk_181 0 7 (dk_at dksJ4_addEntryToEmptyMap_1 0 rfl rfl)
theorem dJ4_addEntryToEmptyMap_26 : decode cJ4_addEntryToEmptyMap 26 = .ok (.aload_n 0, 1) := dk_42 (dk_at dksJ4_addEntryToEmptyMap_1 3 rfl rfl)
theorem dJ4_addEntryToEmptyMap_27 : decode cJ4_addEntryToEmptyMap 27 = .ok (.dup, 1) := dk_89 (dk_at dksJ4_addEntryToEmptyMap_1 4 rfl rfl)
theorem dJ4_addEntryToEmptyMap_28 : decode cJ4_addEntryToEmptyMap 28 = .ok (.getfield 13, 3) := dk_180 0 13 (dk_at dksJ4_addEntryToEmptyMap_1 5 rfl rfl)
theorem dJ4_addEntryToEmptyMap_31 : decode cJ4_addEntryToEmptyMap 31 = .ok (.iconst 1, 1) := dk_4 (dk_at dksJ4_addEntryToEmptyMap_1 8 rfl rfl)
theorem dJ4_addEntryToEmptyMap_32 : decode cJ4_addEntryToEmptyMap 32 = .ok (.iadd, 1) := dk_96 (dk_at dksJ4_addEntryToEmptyMap_1 9 rfl rfl)
theorem dJ4_addEntryToEmptyMap_33 : decode cJ4_addEntryToEmptyMap 33 = .ok (.putfield 13, 3) := dk_181 0 13 (dk_at dksJ4_addEntryToEmptyMap_1 10 rfl rfl)
theorem dJ4_addEntryToEmptyMap_36 : decode cJ4_addEntryToEmptyMap 36 = .ok (.return_, 1) := dk_177 (dk_at dksJ4_addEntryToEmptyMap_1 13 rfl rfl)
abbrev cJ4_compare : ByteArray := prog_75_method_67_code
def yJ4_compare : MethodName := ⟨RJ4, "compare", "(Ljava/lang/Object;Ljava/lang/Object;)I"⟩
def dkwJ4_compare_1 : List UInt8 := [43, 44, 185, 0, 117, 3, 0, 172]
abbrev dktJ4_compare_1 : List UInt8 := dkwJ4_compare_1 ++ []
def dkwJ4_compare_0 : List UInt8 := [42, 180, 0, 16, 199, 0, 16, 43, 192, 0, 99, 44, 185, 0, 107, 2, 0, 167, 0, 14, 42, 180, 0, 16]
abbrev dktJ4_compare_0 : List UInt8 := dkwJ4_compare_0 ++ dktJ4_compare_1
theorem dksJ4_compare_0 : cJ4_compare.data.toList.drop 0 = dktJ4_compare_0 := by decide +kernel
theorem dksJ4_compare_1 : cJ4_compare.data.toList.drop 24 = dktJ4_compare_1 := dk_seg dksJ4_compare_0 24 rfl rfl
theorem dJ4_compare_0 : decode cJ4_compare 0 = .ok (.aload_n 0, 1) := dk_42 (dk_at dksJ4_compare_0 0 rfl rfl)
theorem dJ4_compare_1 : decode cJ4_compare 1 = .ok (.getfield 16, 3) := dk_180 0 16 (dk_at dksJ4_compare_0 1 rfl rfl)
theorem dJ4_compare_4 : decode cJ4_compare 4 = .ok (.ifnonnull 16, 3) := dk_199 0 16 (dk_at dksJ4_compare_0 4 rfl rfl)
theorem dJ4_compare_7 : decode cJ4_compare 7 = .ok (.aload_n 1, 1) := dk_43 (dk_at dksJ4_compare_0 7 rfl rfl)
theorem dJ4_compare_8 : decode cJ4_compare 8 = .ok (.checkcast 99, 3) := dk_192 0 99 (dk_at dksJ4_compare_0 8 rfl rfl)
theorem dJ4_compare_11 : decode cJ4_compare 11 = .ok (.aload_n 2, 1) := dk_44 (dk_at dksJ4_compare_0 11 rfl rfl)
theorem dJ4_compare_12 : decode cJ4_compare 12 = .ok (.invokeinterface 107 2, 5) := by decide +kernel
theorem dJ4_compare_17 : decode cJ4_compare 17 = .ok (.goto 14, 3) := dk_167 0 14 (dk_at dksJ4_compare_0 17 rfl rfl)
theorem dJ4_compare_20 : decode cJ4_compare 20 = .ok (.aload_n 0, 1) := dk_42 (dk_at dksJ4_compare_0 20 rfl rfl)
theorem dJ4_compare_21 : decode cJ4_compare 21 = .ok (.getfield 16, 3) := dk_180 0 16 (dk_at dksJ4_compare_0 21 rfl rfl)
theorem dJ4_compare_24 : decode cJ4_compare 24 = .ok (.aload_n 1, 1) := dk_43 (dk_at dksJ4_compare_1 0 rfl rfl)
theorem dJ4_compare_25 : decode cJ4_compare 25 = .ok (.aload_n 2, 1) := dk_44 (dk_at dksJ4_compare_1 1 rfl rfl)
theorem dJ4_compare_26 : decode cJ4_compare 26 = .ok (.invokeinterface 117 3, 5) := by decide +kernel
theorem dJ4_compare_31 : decode cJ4_compare 31 = .ok (.ireturn, 1) := dk_172 (dk_at dksJ4_compare_1 7 rfl rfl)
abbrev cJ4_addEntry : ByteArray := prog_75_method_29_code
def yJ4_addEntry : MethodName := ⟨RJ4, "addEntry", "(Ljava/lang/Object;Ljava/lang/Object;Ljava/util/TreeMap$Entry;Z)V"⟩
def dkwJ4_addEntry_2 : List UInt8 := [181, 0, 7, 42, 89, 180, 0, 13, 4, 96, 181, 0, 13, 177]
abbrev dktJ4_addEntry_2 : List UInt8 := dkwJ4_addEntry_2 ++ []
def dkwJ4_addEntry_1 : List UInt8 := [167, 0, 9, 45, 25, 5, 181, 0, 114, 42, 25, 5, 182, 0, 170, 42, 89, 180, 0, 7, 4, 96]
abbrev dktJ4_addEntry_1 : List UInt8 := dkwJ4_addEntry_1 ++ dktJ4_addEntry_2
def dkwJ4_addEntry_0 : List UInt8 := [187, 0, 59, 89, 43, 44, 45, 183, 0, 167, 58, 5, 21, 4, 153, 0, 12, 45, 25, 5, 181, 0, 111]
abbrev dktJ4_addEntry_0 : List UInt8 := dkwJ4_addEntry_0 ++ dktJ4_addEntry_1
theorem dksJ4_addEntry_0 : cJ4_addEntry.data.toList.drop 0 = dktJ4_addEntry_0 := by decide +kernel
theorem dksJ4_addEntry_1 : cJ4_addEntry.data.toList.drop 23 = dktJ4_addEntry_1 := dk_seg dksJ4_addEntry_0 23 rfl rfl
theorem dksJ4_addEntry_2 : cJ4_addEntry.data.toList.drop 45 = dktJ4_addEntry_2 := dk_seg dksJ4_addEntry_1 22 rfl rfl
theorem dJ4_addEntry_0 : decode cJ4_addEntry 0 = .ok (.new 59, 3) := dk_187 0 59 (dk_at dksJ4_addEntry_0 0 rfl rfl)
theorem dJ4_addEntry_3 : decode cJ4_addEntry 3 = .ok (.dup, 1) := dk_89 (dk_at dksJ4_addEntry_0 3 rfl rfl)
theorem dJ4_addEntry_4 : decode cJ4_addEntry 4 = .ok (.aload_n 1, 1) := dk_43 (dk_at dksJ4_addEntry_0 4 rfl rfl)
theorem dJ4_addEntry_5 : decode cJ4_addEntry 5 = .ok (.aload_n 2, 1) := dk_44 (dk_at dksJ4_addEntry_0 5 rfl rfl)
theorem dJ4_addEntry_6 : decode cJ4_addEntry 6 = .ok (.aload_n 3, 1) := dk_45 (dk_at dksJ4_addEntry_0 6 rfl rfl)
theorem dJ4_addEntry_7 : decode cJ4_addEntry 7 = .ok (.invokespecial 167, 3) := dk_183 0 167 (dk_at dksJ4_addEntry_0 7 rfl rfl)
theorem dJ4_addEntry_10 : decode cJ4_addEntry 10 = .ok (.astore 5, 2) := dk_58 5 (dk_at dksJ4_addEntry_0 10 rfl rfl)
theorem dJ4_addEntry_12 : decode cJ4_addEntry 12 = .ok (.iload 4, 2) := dk_21 4 (dk_at dksJ4_addEntry_0 12 rfl rfl)
theorem dJ4_addEntry_14 : decode cJ4_addEntry 14 = .ok (.ifCond .eq 12, 3) := dk_153 0 12 (dk_at dksJ4_addEntry_0 14 rfl rfl)
theorem dJ4_addEntry_17 : decode cJ4_addEntry 17 = .ok (.aload_n 3, 1) := dk_45 (dk_at dksJ4_addEntry_0 17 rfl rfl)
theorem dJ4_addEntry_18 : decode cJ4_addEntry 18 = .ok (.aload 5, 2) := dk_25 5 (dk_at dksJ4_addEntry_0 18 rfl rfl)
theorem dJ4_addEntry_20 : decode cJ4_addEntry 20 = .ok (.putfield 111, 3) := dk_181 0 111 (dk_at dksJ4_addEntry_0 20 rfl rfl)
theorem dJ4_addEntry_23 : decode cJ4_addEntry 23 = .ok (.goto 9, 3) := dk_167 0 9 (dk_at dksJ4_addEntry_1 0 rfl rfl)
theorem dJ4_addEntry_26 : decode cJ4_addEntry 26 = .ok (.aload_n 3, 1) := dk_45 (dk_at dksJ4_addEntry_1 3 rfl rfl)
theorem dJ4_addEntry_27 : decode cJ4_addEntry 27 = .ok (.aload 5, 2) := dk_25 5 (dk_at dksJ4_addEntry_1 4 rfl rfl)
theorem dJ4_addEntry_29 : decode cJ4_addEntry 29 = .ok (.putfield 114, 3) := dk_181 0 114 (dk_at dksJ4_addEntry_1 6 rfl rfl)
theorem dJ4_addEntry_32 : decode cJ4_addEntry 32 = .ok (.aload_n 0, 1) := dk_42 (dk_at dksJ4_addEntry_1 9 rfl rfl)
theorem dJ4_addEntry_33 : decode cJ4_addEntry 33 = .ok (.aload 5, 2) := dk_25 5 (dk_at dksJ4_addEntry_1 10 rfl rfl)
theorem dJ4_addEntry_35 : decode cJ4_addEntry 35 = .ok (.invokevirtual 170, 3) := dk_182 0 170 (dk_at dksJ4_addEntry_1 12 rfl rfl)
theorem dJ4_addEntry_38 : decode cJ4_addEntry 38 = .ok (.aload_n 0, 1) := dk_42 (dk_at dksJ4_addEntry_1 15 rfl rfl)
theorem dJ4_addEntry_39 : decode cJ4_addEntry 39 = .ok (.dup, 1) := dk_89 (dk_at dksJ4_addEntry_1 16 rfl rfl)
theorem dJ4_addEntry_40 : decode cJ4_addEntry 40 = .ok (.getfield 7, 3) := dk_180 0 7 (dk_at dksJ4_addEntry_1 17 rfl rfl)
theorem dJ4_addEntry_43 : decode cJ4_addEntry 43 = .ok (.iconst 1, 1) := dk_4 (dk_at dksJ4_addEntry_1 20 rfl rfl)
theorem dJ4_addEntry_44 : decode cJ4_addEntry 44 = .ok (.iadd, 1) := dk_96 (dk_at dksJ4_addEntry_1 21 rfl rfl)
theorem dJ4_addEntry_45 : decode cJ4_addEntry 45 = .ok (.putfield 7, 3) := dk_181 0 7 (dk_at dksJ4_addEntry_2 0 rfl rfl)
theorem dJ4_addEntry_48 : decode cJ4_addEntry 48 = .ok (.aload_n 0, 1) := dk_42 (dk_at dksJ4_addEntry_2 3 rfl rfl)
theorem dJ4_addEntry_49 : decode cJ4_addEntry 49 = .ok (.dup, 1) := dk_89 (dk_at dksJ4_addEntry_2 4 rfl rfl)
theorem dJ4_addEntry_50 : decode cJ4_addEntry 50 = .ok (.getfield 13, 3) := dk_180 0 13 (dk_at dksJ4_addEntry_2 5 rfl rfl)
theorem dJ4_addEntry_53 : decode cJ4_addEntry 53 = .ok (.iconst 1, 1) := dk_4 (dk_at dksJ4_addEntry_2 8 rfl rfl)
theorem dJ4_addEntry_54 : decode cJ4_addEntry 54 = .ok (.iadd, 1) := dk_96 (dk_at dksJ4_addEntry_2 9 rfl rfl)
theorem dJ4_addEntry_55 : decode cJ4_addEntry 55 = .ok (.putfield 13, 3) := dk_181 0 13 (dk_at dksJ4_addEntry_2 10 rfl rfl)
theorem dJ4_addEntry_58 : decode cJ4_addEntry 58 = .ok (.return_, 1) := dk_177 (dk_at dksJ4_addEntry_2 13 rfl rfl)
abbrev cJ4_fixAfterInsertion : ByteArray := prog_75_method_83_code
def yJ4_fixAfterInsertion : MethodName := ⟨RJ4, "fixAfterInsertion", "(Ljava/util/TreeMap$Entry;)V"⟩
def dkwJ4_fixAfterInsertion_11 : List UInt8 := [42, 180, 0, 101, 4, 181, 1, 34, 177]
abbrev dktJ4_fixAfterInsertion_11 : List UInt8 := dkwJ4_fixAfterInsertion_11 ++ []
def dkwJ4_fixAfterInsertion_10 : List UInt8 := [184, 1, 38, 184, 1, 38, 3, 184, 1, 51, 42, 43, 184, 1, 38, 184, 1, 38, 182, 1, 55, 167, 255, 6]
abbrev dktJ4_fixAfterInsertion_10 : List UInt8 := dkwJ4_fixAfterInsertion_10 ++ dktJ4_fixAfterInsertion_11
def dkwJ4_fixAfterInsertion_9 : List UInt8 := [166, 0, 13, 43, 184, 1, 38, 76, 42, 43, 182, 1, 58, 43, 184, 1, 38, 4, 184, 1, 51, 43]
abbrev dktJ4_fixAfterInsertion_9 : List UInt8 := dkwJ4_fixAfterInsertion_9 ++ dktJ4_fixAfterInsertion_10
def dkwJ4_fixAfterInsertion_8 : List UInt8 := [184, 1, 51, 43, 184, 1, 38, 184, 1, 38, 76, 167, 0, 54, 43, 43, 184, 1, 38, 184, 1, 41]
abbrev dktJ4_fixAfterInsertion_8 : List UInt8 := dkwJ4_fixAfterInsertion_8 ++ dktJ4_fixAfterInsertion_9
def dkwJ4_fixAfterInsertion_7 : List UInt8 := [154, 0, 38, 43, 184, 1, 38, 4, 184, 1, 51, 44, 4, 184, 1, 51, 43, 184, 1, 38, 184, 1, 38, 3]
abbrev dktJ4_fixAfterInsertion_7 : List UInt8 := dkwJ4_fixAfterInsertion_7 ++ dktJ4_fixAfterInsertion_8
def dkwJ4_fixAfterInsertion_6 : List UInt8 := [184, 1, 38, 182, 1, 58, 167, 255, 113, 43, 184, 1, 38, 184, 1, 38, 184, 1, 41, 77, 44, 184, 1, 47]
abbrev dktJ4_fixAfterInsertion_6 : List UInt8 := dkwJ4_fixAfterInsertion_6 ++ dktJ4_fixAfterInsertion_7
def dkwJ4_fixAfterInsertion_5 : List UInt8 := [43, 184, 1, 38, 4, 184, 1, 51, 43, 184, 1, 38, 184, 1, 38, 3, 184, 1, 51, 42, 43, 184, 1, 38]
abbrev dktJ4_fixAfterInsertion_5 : List UInt8 := dkwJ4_fixAfterInsertion_5 ++ dktJ4_fixAfterInsertion_6
def dkwJ4_fixAfterInsertion_4 : List UInt8 := [167, 0, 54, 43, 43, 184, 1, 38, 184, 1, 44, 166, 0, 13, 43, 184, 1, 38, 76, 42, 43, 182, 1, 55]
abbrev dktJ4_fixAfterInsertion_4 : List UInt8 := dkwJ4_fixAfterInsertion_4 ++ dktJ4_fixAfterInsertion_5
def dkwJ4_fixAfterInsertion_3 : List UInt8 := [184, 1, 51, 43, 184, 1, 38, 184, 1, 38, 3, 184, 1, 51, 43, 184, 1, 38, 184, 1, 38, 76]
abbrev dktJ4_fixAfterInsertion_3 : List UInt8 := dkwJ4_fixAfterInsertion_3 ++ dktJ4_fixAfterInsertion_4
def dkwJ4_fixAfterInsertion_2 : List UInt8 := [184, 1, 38, 184, 1, 44, 77, 44, 184, 1, 47, 154, 0, 38, 43, 184, 1, 38, 4, 184, 1, 51, 44, 4]
abbrev dktJ4_fixAfterInsertion_2 : List UInt8 := dkwJ4_fixAfterInsertion_2 ++ dktJ4_fixAfterInsertion_3
def dkwJ4_fixAfterInsertion_1 : List UInt8 := [154, 0, 234, 43, 184, 1, 38, 43, 184, 1, 38, 184, 1, 38, 184, 1, 41, 166, 0, 110, 43, 184, 1, 38]
abbrev dktJ4_fixAfterInsertion_1 : List UInt8 := dkwJ4_fixAfterInsertion_1 ++ dktJ4_fixAfterInsertion_2
def dkwJ4_fixAfterInsertion_0 : List UInt8 := [43, 3, 181, 1, 34, 43, 198, 0, 252, 43, 42, 180, 0, 101, 165, 0, 244, 43, 180, 0, 124, 180, 1, 34]
abbrev dktJ4_fixAfterInsertion_0 : List UInt8 := dkwJ4_fixAfterInsertion_0 ++ dktJ4_fixAfterInsertion_1
theorem dksJ4_fixAfterInsertion_0 : cJ4_fixAfterInsertion.data.toList.drop 0 = dktJ4_fixAfterInsertion_0 := by decide +kernel
theorem dksJ4_fixAfterInsertion_1 : cJ4_fixAfterInsertion.data.toList.drop 24 = dktJ4_fixAfterInsertion_1 := dk_seg dksJ4_fixAfterInsertion_0 24 rfl rfl
theorem dksJ4_fixAfterInsertion_2 : cJ4_fixAfterInsertion.data.toList.drop 48 = dktJ4_fixAfterInsertion_2 := dk_seg dksJ4_fixAfterInsertion_1 24 rfl rfl
theorem dksJ4_fixAfterInsertion_3 : cJ4_fixAfterInsertion.data.toList.drop 72 = dktJ4_fixAfterInsertion_3 := dk_seg dksJ4_fixAfterInsertion_2 24 rfl rfl
theorem dksJ4_fixAfterInsertion_4 : cJ4_fixAfterInsertion.data.toList.drop 94 = dktJ4_fixAfterInsertion_4 := dk_seg dksJ4_fixAfterInsertion_3 22 rfl rfl
theorem dksJ4_fixAfterInsertion_5 : cJ4_fixAfterInsertion.data.toList.drop 118 = dktJ4_fixAfterInsertion_5 := dk_seg dksJ4_fixAfterInsertion_4 24 rfl rfl
theorem dksJ4_fixAfterInsertion_6 : cJ4_fixAfterInsertion.data.toList.drop 142 = dktJ4_fixAfterInsertion_6 := dk_seg dksJ4_fixAfterInsertion_5 24 rfl rfl
theorem dksJ4_fixAfterInsertion_7 : cJ4_fixAfterInsertion.data.toList.drop 166 = dktJ4_fixAfterInsertion_7 := dk_seg dksJ4_fixAfterInsertion_6 24 rfl rfl
theorem dksJ4_fixAfterInsertion_8 : cJ4_fixAfterInsertion.data.toList.drop 190 = dktJ4_fixAfterInsertion_8 := dk_seg dksJ4_fixAfterInsertion_7 24 rfl rfl
theorem dksJ4_fixAfterInsertion_9 : cJ4_fixAfterInsertion.data.toList.drop 212 = dktJ4_fixAfterInsertion_9 := dk_seg dksJ4_fixAfterInsertion_8 22 rfl rfl
theorem dksJ4_fixAfterInsertion_10 : cJ4_fixAfterInsertion.data.toList.drop 234 = dktJ4_fixAfterInsertion_10 := dk_seg dksJ4_fixAfterInsertion_9 22 rfl rfl
theorem dksJ4_fixAfterInsertion_11 : cJ4_fixAfterInsertion.data.toList.drop 258 = dktJ4_fixAfterInsertion_11 := dk_seg dksJ4_fixAfterInsertion_10 24 rfl rfl
theorem dJ4_fixAfterInsertion_0 : decode cJ4_fixAfterInsertion 0 = .ok (.aload_n 1, 1) := dk_43 (dk_at dksJ4_fixAfterInsertion_0 0 rfl rfl)
theorem dJ4_fixAfterInsertion_1 : decode cJ4_fixAfterInsertion 1 = .ok (.iconst 0, 1) := dk_3 (dk_at dksJ4_fixAfterInsertion_0 1 rfl rfl)
theorem dJ4_fixAfterInsertion_2 : decode cJ4_fixAfterInsertion 2 = .ok (.putfield 290, 3) := dk_181 1 34 (dk_at dksJ4_fixAfterInsertion_0 2 rfl rfl)
theorem dJ4_fixAfterInsertion_5 : decode cJ4_fixAfterInsertion 5 = .ok (.aload_n 1, 1) := dk_43 (dk_at dksJ4_fixAfterInsertion_0 5 rfl rfl)
theorem dJ4_fixAfterInsertion_6 : decode cJ4_fixAfterInsertion 6 = .ok (.ifnull 252, 3) := dk_198 0 252 (dk_at dksJ4_fixAfterInsertion_0 6 rfl rfl)
theorem dJ4_fixAfterInsertion_9 : decode cJ4_fixAfterInsertion 9 = .ok (.aload_n 1, 1) := dk_43 (dk_at dksJ4_fixAfterInsertion_0 9 rfl rfl)
theorem dJ4_fixAfterInsertion_10 : decode cJ4_fixAfterInsertion 10 = .ok (.aload_n 0, 1) := dk_42 (dk_at dksJ4_fixAfterInsertion_0 10 rfl rfl)
theorem dJ4_fixAfterInsertion_11 : decode cJ4_fixAfterInsertion 11 = .ok (.getfield 101, 3) := dk_180 0 101 (dk_at dksJ4_fixAfterInsertion_0 11 rfl rfl)
theorem dJ4_fixAfterInsertion_14 : decode cJ4_fixAfterInsertion 14 = .ok (.if_acmp .eq 244, 3) := dk_165 0 244 (dk_at dksJ4_fixAfterInsertion_0 14 rfl rfl)
theorem dJ4_fixAfterInsertion_17 : decode cJ4_fixAfterInsertion 17 = .ok (.aload_n 1, 1) := dk_43 (dk_at dksJ4_fixAfterInsertion_0 17 rfl rfl)
theorem dJ4_fixAfterInsertion_18 : decode cJ4_fixAfterInsertion 18 = .ok (.getfield 124, 3) := dk_180 0 124 (dk_at dksJ4_fixAfterInsertion_0 18 rfl rfl)
theorem dJ4_fixAfterInsertion_21 : decode cJ4_fixAfterInsertion 21 = .ok (.getfield 290, 3) := dk_180 1 34 (dk_at dksJ4_fixAfterInsertion_0 21 rfl rfl)
theorem dJ4_fixAfterInsertion_24 : decode cJ4_fixAfterInsertion 24 = .ok (.ifCond .ne 234, 3) := dk_154 0 234 (dk_at dksJ4_fixAfterInsertion_1 0 rfl rfl)
theorem dJ4_fixAfterInsertion_27 : decode cJ4_fixAfterInsertion 27 = .ok (.aload_n 1, 1) := dk_43 (dk_at dksJ4_fixAfterInsertion_1 3 rfl rfl)
theorem dJ4_fixAfterInsertion_28 : decode cJ4_fixAfterInsertion 28 = .ok (.invokestatic 294, 3) := dk_184 1 38 (dk_at dksJ4_fixAfterInsertion_1 4 rfl rfl)
theorem dJ4_fixAfterInsertion_31 : decode cJ4_fixAfterInsertion 31 = .ok (.aload_n 1, 1) := dk_43 (dk_at dksJ4_fixAfterInsertion_1 7 rfl rfl)
theorem dJ4_fixAfterInsertion_32 : decode cJ4_fixAfterInsertion 32 = .ok (.invokestatic 294, 3) := dk_184 1 38 (dk_at dksJ4_fixAfterInsertion_1 8 rfl rfl)
theorem dJ4_fixAfterInsertion_35 : decode cJ4_fixAfterInsertion 35 = .ok (.invokestatic 294, 3) := dk_184 1 38 (dk_at dksJ4_fixAfterInsertion_1 11 rfl rfl)
theorem dJ4_fixAfterInsertion_38 : decode cJ4_fixAfterInsertion 38 = .ok (.invokestatic 297, 3) := dk_184 1 41 (dk_at dksJ4_fixAfterInsertion_1 14 rfl rfl)
theorem dJ4_fixAfterInsertion_41 : decode cJ4_fixAfterInsertion 41 = .ok (.if_acmp .ne 110, 3) := dk_166 0 110 (dk_at dksJ4_fixAfterInsertion_1 17 rfl rfl)
theorem dJ4_fixAfterInsertion_44 : decode cJ4_fixAfterInsertion 44 = .ok (.aload_n 1, 1) := dk_43 (dk_at dksJ4_fixAfterInsertion_1 20 rfl rfl)
theorem dJ4_fixAfterInsertion_45 : decode cJ4_fixAfterInsertion 45 = .ok (.invokestatic 294, 3) := dk_184 1 38 (dk_at dksJ4_fixAfterInsertion_1 21 rfl rfl)
theorem dJ4_fixAfterInsertion_48 : decode cJ4_fixAfterInsertion 48 = .ok (.invokestatic 294, 3) := dk_184 1 38 (dk_at dksJ4_fixAfterInsertion_2 0 rfl rfl)
theorem dJ4_fixAfterInsertion_51 : decode cJ4_fixAfterInsertion 51 = .ok (.invokestatic 300, 3) := dk_184 1 44 (dk_at dksJ4_fixAfterInsertion_2 3 rfl rfl)
theorem dJ4_fixAfterInsertion_54 : decode cJ4_fixAfterInsertion 54 = .ok (.astore_n 2, 1) := dk_77 (dk_at dksJ4_fixAfterInsertion_2 6 rfl rfl)
theorem dJ4_fixAfterInsertion_55 : decode cJ4_fixAfterInsertion 55 = .ok (.aload_n 2, 1) := dk_44 (dk_at dksJ4_fixAfterInsertion_2 7 rfl rfl)
theorem dJ4_fixAfterInsertion_56 : decode cJ4_fixAfterInsertion 56 = .ok (.invokestatic 303, 3) := dk_184 1 47 (dk_at dksJ4_fixAfterInsertion_2 8 rfl rfl)
theorem dJ4_fixAfterInsertion_59 : decode cJ4_fixAfterInsertion 59 = .ok (.ifCond .ne 38, 3) := dk_154 0 38 (dk_at dksJ4_fixAfterInsertion_2 11 rfl rfl)
theorem dJ4_fixAfterInsertion_62 : decode cJ4_fixAfterInsertion 62 = .ok (.aload_n 1, 1) := dk_43 (dk_at dksJ4_fixAfterInsertion_2 14 rfl rfl)
theorem dJ4_fixAfterInsertion_63 : decode cJ4_fixAfterInsertion 63 = .ok (.invokestatic 294, 3) := dk_184 1 38 (dk_at dksJ4_fixAfterInsertion_2 15 rfl rfl)
theorem dJ4_fixAfterInsertion_66 : decode cJ4_fixAfterInsertion 66 = .ok (.iconst 1, 1) := dk_4 (dk_at dksJ4_fixAfterInsertion_2 18 rfl rfl)
theorem dJ4_fixAfterInsertion_67 : decode cJ4_fixAfterInsertion 67 = .ok (.invokestatic 307, 3) := dk_184 1 51 (dk_at dksJ4_fixAfterInsertion_2 19 rfl rfl)
theorem dJ4_fixAfterInsertion_70 : decode cJ4_fixAfterInsertion 70 = .ok (.aload_n 2, 1) := dk_44 (dk_at dksJ4_fixAfterInsertion_2 22 rfl rfl)
theorem dJ4_fixAfterInsertion_71 : decode cJ4_fixAfterInsertion 71 = .ok (.iconst 1, 1) := dk_4 (dk_at dksJ4_fixAfterInsertion_2 23 rfl rfl)
theorem dJ4_fixAfterInsertion_72 : decode cJ4_fixAfterInsertion 72 = .ok (.invokestatic 307, 3) := dk_184 1 51 (dk_at dksJ4_fixAfterInsertion_3 0 rfl rfl)
theorem dJ4_fixAfterInsertion_75 : decode cJ4_fixAfterInsertion 75 = .ok (.aload_n 1, 1) := dk_43 (dk_at dksJ4_fixAfterInsertion_3 3 rfl rfl)
theorem dJ4_fixAfterInsertion_76 : decode cJ4_fixAfterInsertion 76 = .ok (.invokestatic 294, 3) := dk_184 1 38 (dk_at dksJ4_fixAfterInsertion_3 4 rfl rfl)
theorem dJ4_fixAfterInsertion_79 : decode cJ4_fixAfterInsertion 79 = .ok (.invokestatic 294, 3) := dk_184 1 38 (dk_at dksJ4_fixAfterInsertion_3 7 rfl rfl)
theorem dJ4_fixAfterInsertion_82 : decode cJ4_fixAfterInsertion 82 = .ok (.iconst 0, 1) := dk_3 (dk_at dksJ4_fixAfterInsertion_3 10 rfl rfl)
theorem dJ4_fixAfterInsertion_83 : decode cJ4_fixAfterInsertion 83 = .ok (.invokestatic 307, 3) := dk_184 1 51 (dk_at dksJ4_fixAfterInsertion_3 11 rfl rfl)
theorem dJ4_fixAfterInsertion_86 : decode cJ4_fixAfterInsertion 86 = .ok (.aload_n 1, 1) := dk_43 (dk_at dksJ4_fixAfterInsertion_3 14 rfl rfl)
theorem dJ4_fixAfterInsertion_87 : decode cJ4_fixAfterInsertion 87 = .ok (.invokestatic 294, 3) := dk_184 1 38 (dk_at dksJ4_fixAfterInsertion_3 15 rfl rfl)
theorem dJ4_fixAfterInsertion_90 : decode cJ4_fixAfterInsertion 90 = .ok (.invokestatic 294, 3) := dk_184 1 38 (dk_at dksJ4_fixAfterInsertion_3 18 rfl rfl)
theorem dJ4_fixAfterInsertion_93 : decode cJ4_fixAfterInsertion 93 = .ok (.astore_n 1, 1) := dk_76 (dk_at dksJ4_fixAfterInsertion_3 21 rfl rfl)
theorem dJ4_fixAfterInsertion_94 : decode cJ4_fixAfterInsertion 94 = .ok (.goto 54, 3) := dk_167 0 54 (dk_at dksJ4_fixAfterInsertion_4 0 rfl rfl)
theorem dJ4_fixAfterInsertion_97 : decode cJ4_fixAfterInsertion 97 = .ok (.aload_n 1, 1) := dk_43 (dk_at dksJ4_fixAfterInsertion_4 3 rfl rfl)
theorem dJ4_fixAfterInsertion_98 : decode cJ4_fixAfterInsertion 98 = .ok (.aload_n 1, 1) := dk_43 (dk_at dksJ4_fixAfterInsertion_4 4 rfl rfl)
theorem dJ4_fixAfterInsertion_99 : decode cJ4_fixAfterInsertion 99 = .ok (.invokestatic 294, 3) := dk_184 1 38 (dk_at dksJ4_fixAfterInsertion_4 5 rfl rfl)
theorem dJ4_fixAfterInsertion_102 : decode cJ4_fixAfterInsertion 102 = .ok (.invokestatic 300, 3) := dk_184 1 44 (dk_at dksJ4_fixAfterInsertion_4 8 rfl rfl)
theorem dJ4_fixAfterInsertion_105 : decode cJ4_fixAfterInsertion 105 = .ok (.if_acmp .ne 13, 3) := dk_166 0 13 (dk_at dksJ4_fixAfterInsertion_4 11 rfl rfl)
theorem dJ4_fixAfterInsertion_108 : decode cJ4_fixAfterInsertion 108 = .ok (.aload_n 1, 1) := dk_43 (dk_at dksJ4_fixAfterInsertion_4 14 rfl rfl)
theorem dJ4_fixAfterInsertion_109 : decode cJ4_fixAfterInsertion 109 = .ok (.invokestatic 294, 3) := dk_184 1 38 (dk_at dksJ4_fixAfterInsertion_4 15 rfl rfl)
theorem dJ4_fixAfterInsertion_112 : decode cJ4_fixAfterInsertion 112 = .ok (.astore_n 1, 1) := dk_76 (dk_at dksJ4_fixAfterInsertion_4 18 rfl rfl)
theorem dJ4_fixAfterInsertion_113 : decode cJ4_fixAfterInsertion 113 = .ok (.aload_n 0, 1) := dk_42 (dk_at dksJ4_fixAfterInsertion_4 19 rfl rfl)
theorem dJ4_fixAfterInsertion_114 : decode cJ4_fixAfterInsertion 114 = .ok (.aload_n 1, 1) := dk_43 (dk_at dksJ4_fixAfterInsertion_4 20 rfl rfl)
theorem dJ4_fixAfterInsertion_115 : decode cJ4_fixAfterInsertion 115 = .ok (.invokevirtual 311, 3) := dk_182 1 55 (dk_at dksJ4_fixAfterInsertion_4 21 rfl rfl)
theorem dJ4_fixAfterInsertion_118 : decode cJ4_fixAfterInsertion 118 = .ok (.aload_n 1, 1) := dk_43 (dk_at dksJ4_fixAfterInsertion_5 0 rfl rfl)
theorem dJ4_fixAfterInsertion_119 : decode cJ4_fixAfterInsertion 119 = .ok (.invokestatic 294, 3) := dk_184 1 38 (dk_at dksJ4_fixAfterInsertion_5 1 rfl rfl)
theorem dJ4_fixAfterInsertion_122 : decode cJ4_fixAfterInsertion 122 = .ok (.iconst 1, 1) := dk_4 (dk_at dksJ4_fixAfterInsertion_5 4 rfl rfl)
theorem dJ4_fixAfterInsertion_123 : decode cJ4_fixAfterInsertion 123 = .ok (.invokestatic 307, 3) := dk_184 1 51 (dk_at dksJ4_fixAfterInsertion_5 5 rfl rfl)
theorem dJ4_fixAfterInsertion_126 : decode cJ4_fixAfterInsertion 126 = .ok (.aload_n 1, 1) := dk_43 (dk_at dksJ4_fixAfterInsertion_5 8 rfl rfl)
theorem dJ4_fixAfterInsertion_127 : decode cJ4_fixAfterInsertion 127 = .ok (.invokestatic 294, 3) := dk_184 1 38 (dk_at dksJ4_fixAfterInsertion_5 9 rfl rfl)
theorem dJ4_fixAfterInsertion_130 : decode cJ4_fixAfterInsertion 130 = .ok (.invokestatic 294, 3) := dk_184 1 38 (dk_at dksJ4_fixAfterInsertion_5 12 rfl rfl)
theorem dJ4_fixAfterInsertion_133 : decode cJ4_fixAfterInsertion 133 = .ok (.iconst 0, 1) := dk_3 (dk_at dksJ4_fixAfterInsertion_5 15 rfl rfl)
theorem dJ4_fixAfterInsertion_134 : decode cJ4_fixAfterInsertion 134 = .ok (.invokestatic 307, 3) := dk_184 1 51 (dk_at dksJ4_fixAfterInsertion_5 16 rfl rfl)
theorem dJ4_fixAfterInsertion_137 : decode cJ4_fixAfterInsertion 137 = .ok (.aload_n 0, 1) := dk_42 (dk_at dksJ4_fixAfterInsertion_5 19 rfl rfl)
theorem dJ4_fixAfterInsertion_138 : decode cJ4_fixAfterInsertion 138 = .ok (.aload_n 1, 1) := dk_43 (dk_at dksJ4_fixAfterInsertion_5 20 rfl rfl)
theorem dJ4_fixAfterInsertion_139 : decode cJ4_fixAfterInsertion 139 = .ok (.invokestatic 294, 3) := dk_184 1 38 (dk_at dksJ4_fixAfterInsertion_5 21 rfl rfl)
theorem dJ4_fixAfterInsertion_142 : decode cJ4_fixAfterInsertion 142 = .ok (.invokestatic 294, 3) := dk_184 1 38 (dk_at dksJ4_fixAfterInsertion_6 0 rfl rfl)
theorem dJ4_fixAfterInsertion_145 : decode cJ4_fixAfterInsertion 145 = .ok (.invokevirtual 314, 3) := dk_182 1 58 (dk_at dksJ4_fixAfterInsertion_6 3 rfl rfl)
theorem dJ4_fixAfterInsertion_148 : decode cJ4_fixAfterInsertion 148 = .ok (.goto (-143), 3) := dk_167 255 113 (dk_at dksJ4_fixAfterInsertion_6 6 rfl rfl)
theorem dJ4_fixAfterInsertion_151 : decode cJ4_fixAfterInsertion 151 = .ok (.aload_n 1, 1) := dk_43 (dk_at dksJ4_fixAfterInsertion_6 9 rfl rfl)
theorem dJ4_fixAfterInsertion_152 : decode cJ4_fixAfterInsertion 152 = .ok (.invokestatic 294, 3) := dk_184 1 38 (dk_at dksJ4_fixAfterInsertion_6 10 rfl rfl)
theorem dJ4_fixAfterInsertion_155 : decode cJ4_fixAfterInsertion 155 = .ok (.invokestatic 294, 3) := dk_184 1 38 (dk_at dksJ4_fixAfterInsertion_6 13 rfl rfl)
theorem dJ4_fixAfterInsertion_158 : decode cJ4_fixAfterInsertion 158 = .ok (.invokestatic 297, 3) := dk_184 1 41 (dk_at dksJ4_fixAfterInsertion_6 16 rfl rfl)
theorem dJ4_fixAfterInsertion_161 : decode cJ4_fixAfterInsertion 161 = .ok (.astore_n 2, 1) := dk_77 (dk_at dksJ4_fixAfterInsertion_6 19 rfl rfl)
theorem dJ4_fixAfterInsertion_162 : decode cJ4_fixAfterInsertion 162 = .ok (.aload_n 2, 1) := dk_44 (dk_at dksJ4_fixAfterInsertion_6 20 rfl rfl)
theorem dJ4_fixAfterInsertion_163 : decode cJ4_fixAfterInsertion 163 = .ok (.invokestatic 303, 3) := dk_184 1 47 (dk_at dksJ4_fixAfterInsertion_6 21 rfl rfl)
theorem dJ4_fixAfterInsertion_166 : decode cJ4_fixAfterInsertion 166 = .ok (.ifCond .ne 38, 3) := dk_154 0 38 (dk_at dksJ4_fixAfterInsertion_7 0 rfl rfl)
theorem dJ4_fixAfterInsertion_169 : decode cJ4_fixAfterInsertion 169 = .ok (.aload_n 1, 1) := dk_43 (dk_at dksJ4_fixAfterInsertion_7 3 rfl rfl)
theorem dJ4_fixAfterInsertion_170 : decode cJ4_fixAfterInsertion 170 = .ok (.invokestatic 294, 3) := dk_184 1 38 (dk_at dksJ4_fixAfterInsertion_7 4 rfl rfl)
theorem dJ4_fixAfterInsertion_173 : decode cJ4_fixAfterInsertion 173 = .ok (.iconst 1, 1) := dk_4 (dk_at dksJ4_fixAfterInsertion_7 7 rfl rfl)
theorem dJ4_fixAfterInsertion_174 : decode cJ4_fixAfterInsertion 174 = .ok (.invokestatic 307, 3) := dk_184 1 51 (dk_at dksJ4_fixAfterInsertion_7 8 rfl rfl)
theorem dJ4_fixAfterInsertion_177 : decode cJ4_fixAfterInsertion 177 = .ok (.aload_n 2, 1) := dk_44 (dk_at dksJ4_fixAfterInsertion_7 11 rfl rfl)
theorem dJ4_fixAfterInsertion_178 : decode cJ4_fixAfterInsertion 178 = .ok (.iconst 1, 1) := dk_4 (dk_at dksJ4_fixAfterInsertion_7 12 rfl rfl)
theorem dJ4_fixAfterInsertion_179 : decode cJ4_fixAfterInsertion 179 = .ok (.invokestatic 307, 3) := dk_184 1 51 (dk_at dksJ4_fixAfterInsertion_7 13 rfl rfl)
theorem dJ4_fixAfterInsertion_182 : decode cJ4_fixAfterInsertion 182 = .ok (.aload_n 1, 1) := dk_43 (dk_at dksJ4_fixAfterInsertion_7 16 rfl rfl)
theorem dJ4_fixAfterInsertion_183 : decode cJ4_fixAfterInsertion 183 = .ok (.invokestatic 294, 3) := dk_184 1 38 (dk_at dksJ4_fixAfterInsertion_7 17 rfl rfl)
theorem dJ4_fixAfterInsertion_186 : decode cJ4_fixAfterInsertion 186 = .ok (.invokestatic 294, 3) := dk_184 1 38 (dk_at dksJ4_fixAfterInsertion_7 20 rfl rfl)
theorem dJ4_fixAfterInsertion_189 : decode cJ4_fixAfterInsertion 189 = .ok (.iconst 0, 1) := dk_3 (dk_at dksJ4_fixAfterInsertion_7 23 rfl rfl)
theorem dJ4_fixAfterInsertion_190 : decode cJ4_fixAfterInsertion 190 = .ok (.invokestatic 307, 3) := dk_184 1 51 (dk_at dksJ4_fixAfterInsertion_8 0 rfl rfl)
theorem dJ4_fixAfterInsertion_193 : decode cJ4_fixAfterInsertion 193 = .ok (.aload_n 1, 1) := dk_43 (dk_at dksJ4_fixAfterInsertion_8 3 rfl rfl)
theorem dJ4_fixAfterInsertion_194 : decode cJ4_fixAfterInsertion 194 = .ok (.invokestatic 294, 3) := dk_184 1 38 (dk_at dksJ4_fixAfterInsertion_8 4 rfl rfl)
theorem dJ4_fixAfterInsertion_197 : decode cJ4_fixAfterInsertion 197 = .ok (.invokestatic 294, 3) := dk_184 1 38 (dk_at dksJ4_fixAfterInsertion_8 7 rfl rfl)
theorem dJ4_fixAfterInsertion_200 : decode cJ4_fixAfterInsertion 200 = .ok (.astore_n 1, 1) := dk_76 (dk_at dksJ4_fixAfterInsertion_8 10 rfl rfl)
theorem dJ4_fixAfterInsertion_201 : decode cJ4_fixAfterInsertion 201 = .ok (.goto 54, 3) := dk_167 0 54 (dk_at dksJ4_fixAfterInsertion_8 11 rfl rfl)
theorem dJ4_fixAfterInsertion_204 : decode cJ4_fixAfterInsertion 204 = .ok (.aload_n 1, 1) := dk_43 (dk_at dksJ4_fixAfterInsertion_8 14 rfl rfl)
theorem dJ4_fixAfterInsertion_205 : decode cJ4_fixAfterInsertion 205 = .ok (.aload_n 1, 1) := dk_43 (dk_at dksJ4_fixAfterInsertion_8 15 rfl rfl)
theorem dJ4_fixAfterInsertion_206 : decode cJ4_fixAfterInsertion 206 = .ok (.invokestatic 294, 3) := dk_184 1 38 (dk_at dksJ4_fixAfterInsertion_8 16 rfl rfl)
theorem dJ4_fixAfterInsertion_209 : decode cJ4_fixAfterInsertion 209 = .ok (.invokestatic 297, 3) := dk_184 1 41 (dk_at dksJ4_fixAfterInsertion_8 19 rfl rfl)
theorem dJ4_fixAfterInsertion_212 : decode cJ4_fixAfterInsertion 212 = .ok (.if_acmp .ne 13, 3) := dk_166 0 13 (dk_at dksJ4_fixAfterInsertion_9 0 rfl rfl)
theorem dJ4_fixAfterInsertion_215 : decode cJ4_fixAfterInsertion 215 = .ok (.aload_n 1, 1) := dk_43 (dk_at dksJ4_fixAfterInsertion_9 3 rfl rfl)
theorem dJ4_fixAfterInsertion_216 : decode cJ4_fixAfterInsertion 216 = .ok (.invokestatic 294, 3) := dk_184 1 38 (dk_at dksJ4_fixAfterInsertion_9 4 rfl rfl)
theorem dJ4_fixAfterInsertion_219 : decode cJ4_fixAfterInsertion 219 = .ok (.astore_n 1, 1) := dk_76 (dk_at dksJ4_fixAfterInsertion_9 7 rfl rfl)
theorem dJ4_fixAfterInsertion_220 : decode cJ4_fixAfterInsertion 220 = .ok (.aload_n 0, 1) := dk_42 (dk_at dksJ4_fixAfterInsertion_9 8 rfl rfl)
theorem dJ4_fixAfterInsertion_221 : decode cJ4_fixAfterInsertion 221 = .ok (.aload_n 1, 1) := dk_43 (dk_at dksJ4_fixAfterInsertion_9 9 rfl rfl)
theorem dJ4_fixAfterInsertion_222 : decode cJ4_fixAfterInsertion 222 = .ok (.invokevirtual 314, 3) := dk_182 1 58 (dk_at dksJ4_fixAfterInsertion_9 10 rfl rfl)
theorem dJ4_fixAfterInsertion_225 : decode cJ4_fixAfterInsertion 225 = .ok (.aload_n 1, 1) := dk_43 (dk_at dksJ4_fixAfterInsertion_9 13 rfl rfl)
theorem dJ4_fixAfterInsertion_226 : decode cJ4_fixAfterInsertion 226 = .ok (.invokestatic 294, 3) := dk_184 1 38 (dk_at dksJ4_fixAfterInsertion_9 14 rfl rfl)
theorem dJ4_fixAfterInsertion_229 : decode cJ4_fixAfterInsertion 229 = .ok (.iconst 1, 1) := dk_4 (dk_at dksJ4_fixAfterInsertion_9 17 rfl rfl)
theorem dJ4_fixAfterInsertion_230 : decode cJ4_fixAfterInsertion 230 = .ok (.invokestatic 307, 3) := dk_184 1 51 (dk_at dksJ4_fixAfterInsertion_9 18 rfl rfl)
theorem dJ4_fixAfterInsertion_233 : decode cJ4_fixAfterInsertion 233 = .ok (.aload_n 1, 1) := dk_43 (dk_at dksJ4_fixAfterInsertion_9 21 rfl rfl)
theorem dJ4_fixAfterInsertion_234 : decode cJ4_fixAfterInsertion 234 = .ok (.invokestatic 294, 3) := dk_184 1 38 (dk_at dksJ4_fixAfterInsertion_10 0 rfl rfl)
theorem dJ4_fixAfterInsertion_237 : decode cJ4_fixAfterInsertion 237 = .ok (.invokestatic 294, 3) := dk_184 1 38 (dk_at dksJ4_fixAfterInsertion_10 3 rfl rfl)
theorem dJ4_fixAfterInsertion_240 : decode cJ4_fixAfterInsertion 240 = .ok (.iconst 0, 1) := dk_3 (dk_at dksJ4_fixAfterInsertion_10 6 rfl rfl)
theorem dJ4_fixAfterInsertion_241 : decode cJ4_fixAfterInsertion 241 = .ok (.invokestatic 307, 3) := dk_184 1 51 (dk_at dksJ4_fixAfterInsertion_10 7 rfl rfl)
theorem dJ4_fixAfterInsertion_244 : decode cJ4_fixAfterInsertion 244 = .ok (.aload_n 0, 1) := dk_42 (dk_at dksJ4_fixAfterInsertion_10 10 rfl rfl)
theorem dJ4_fixAfterInsertion_245 : decode cJ4_fixAfterInsertion 245 = .ok (.aload_n 1, 1) := dk_43 (dk_at dksJ4_fixAfterInsertion_10 11 rfl rfl)
theorem dJ4_fixAfterInsertion_246 : decode cJ4_fixAfterInsertion 246 = .ok (.invokestatic 294, 3) := dk_184 1 38 (dk_at dksJ4_fixAfterInsertion_10 12 rfl rfl)
theorem dJ4_fixAfterInsertion_249 : decode cJ4_fixAfterInsertion 249 = .ok (.invokestatic 294, 3) := dk_184 1 38 (dk_at dksJ4_fixAfterInsertion_10 15 rfl rfl)
theorem dJ4_fixAfterInsertion_252 : decode cJ4_fixAfterInsertion 252 = .ok (.invokevirtual 311, 3) := dk_182 1 55 (dk_at dksJ4_fixAfterInsertion_10 18 rfl rfl)
theorem dJ4_fixAfterInsertion_255 : decode cJ4_fixAfterInsertion 255 = .ok (.goto (-250), 3) := dk_167 255 6 (dk_at dksJ4_fixAfterInsertion_10 21 rfl rfl)
theorem dJ4_fixAfterInsertion_258 : decode cJ4_fixAfterInsertion 258 = .ok (.aload_n 0, 1) := dk_42 (dk_at dksJ4_fixAfterInsertion_11 0 rfl rfl)
theorem dJ4_fixAfterInsertion_259 : decode cJ4_fixAfterInsertion 259 = .ok (.getfield 101, 3) := dk_180 0 101 (dk_at dksJ4_fixAfterInsertion_11 1 rfl rfl)
theorem dJ4_fixAfterInsertion_262 : decode cJ4_fixAfterInsertion 262 = .ok (.iconst 1, 1) := dk_4 (dk_at dksJ4_fixAfterInsertion_11 4 rfl rfl)
theorem dJ4_fixAfterInsertion_263 : decode cJ4_fixAfterInsertion 263 = .ok (.putfield 290, 3) := dk_181 1 34 (dk_at dksJ4_fixAfterInsertion_11 5 rfl rfl)
theorem dJ4_fixAfterInsertion_266 : decode cJ4_fixAfterInsertion 266 = .ok (.return_, 1) := dk_177 (dk_at dksJ4_fixAfterInsertion_11 8 rfl rfl)
abbrev cJ4_parentOf : ByteArray := prog_75_method_77_code
def yJ4_parentOf : MethodName := ⟨RJ4, "parentOf", "(Ljava/util/TreeMap$Entry;)Ljava/util/TreeMap$Entry;"⟩
def dkwJ4_parentOf_0 : List UInt8 := [42, 199, 0, 7, 1, 167, 0, 7, 42, 180, 0, 124, 176]
abbrev dktJ4_parentOf_0 : List UInt8 := dkwJ4_parentOf_0 ++ []
theorem dksJ4_parentOf_0 : cJ4_parentOf.data.toList.drop 0 = dktJ4_parentOf_0 := by decide +kernel
theorem dJ4_parentOf_0 : decode cJ4_parentOf 0 = .ok (.aload_n 0, 1) := dk_42 (dk_at dksJ4_parentOf_0 0 rfl rfl)
theorem dJ4_parentOf_1 : decode cJ4_parentOf 1 = .ok (.ifnonnull 7, 3) := dk_199 0 7 (dk_at dksJ4_parentOf_0 1 rfl rfl)
theorem dJ4_parentOf_4 : decode cJ4_parentOf 4 = .ok (.aconst_null, 1) := dk_1 (dk_at dksJ4_parentOf_0 4 rfl rfl)
theorem dJ4_parentOf_5 : decode cJ4_parentOf 5 = .ok (.goto 7, 3) := dk_167 0 7 (dk_at dksJ4_parentOf_0 5 rfl rfl)
theorem dJ4_parentOf_8 : decode cJ4_parentOf 8 = .ok (.aload_n 0, 1) := dk_42 (dk_at dksJ4_parentOf_0 8 rfl rfl)
theorem dJ4_parentOf_9 : decode cJ4_parentOf 9 = .ok (.getfield 124, 3) := dk_180 0 124 (dk_at dksJ4_parentOf_0 9 rfl rfl)
theorem dJ4_parentOf_12 : decode cJ4_parentOf 12 = .ok (.areturn, 1) := dk_176 (dk_at dksJ4_parentOf_0 12 rfl rfl)
abbrev cJ4_leftOf : ByteArray := prog_75_method_79_code
def yJ4_leftOf : MethodName := ⟨RJ4, "leftOf", "(Ljava/util/TreeMap$Entry;)Ljava/util/TreeMap$Entry;"⟩
def dkwJ4_leftOf_0 : List UInt8 := [42, 199, 0, 7, 1, 167, 0, 7, 42, 180, 0, 111, 176]
abbrev dktJ4_leftOf_0 : List UInt8 := dkwJ4_leftOf_0 ++ []
theorem dksJ4_leftOf_0 : cJ4_leftOf.data.toList.drop 0 = dktJ4_leftOf_0 := by decide +kernel
theorem dJ4_leftOf_0 : decode cJ4_leftOf 0 = .ok (.aload_n 0, 1) := dk_42 (dk_at dksJ4_leftOf_0 0 rfl rfl)
theorem dJ4_leftOf_1 : decode cJ4_leftOf 1 = .ok (.ifnonnull 7, 3) := dk_199 0 7 (dk_at dksJ4_leftOf_0 1 rfl rfl)
theorem dJ4_leftOf_4 : decode cJ4_leftOf 4 = .ok (.aconst_null, 1) := dk_1 (dk_at dksJ4_leftOf_0 4 rfl rfl)
theorem dJ4_leftOf_5 : decode cJ4_leftOf 5 = .ok (.goto 7, 3) := dk_167 0 7 (dk_at dksJ4_leftOf_0 5 rfl rfl)
theorem dJ4_leftOf_8 : decode cJ4_leftOf 8 = .ok (.aload_n 0, 1) := dk_42 (dk_at dksJ4_leftOf_0 8 rfl rfl)
theorem dJ4_leftOf_9 : decode cJ4_leftOf 9 = .ok (.getfield 111, 3) := dk_180 0 111 (dk_at dksJ4_leftOf_0 9 rfl rfl)
theorem dJ4_leftOf_12 : decode cJ4_leftOf 12 = .ok (.areturn, 1) := dk_176 (dk_at dksJ4_leftOf_0 12 rfl rfl)
abbrev cJ4_rightOf : ByteArray := prog_75_method_80_code
def yJ4_rightOf : MethodName := ⟨RJ4, "rightOf", "(Ljava/util/TreeMap$Entry;)Ljava/util/TreeMap$Entry;"⟩
def dkwJ4_rightOf_0 : List UInt8 := [42, 199, 0, 7, 1, 167, 0, 7, 42, 180, 0, 114, 176]
abbrev dktJ4_rightOf_0 : List UInt8 := dkwJ4_rightOf_0 ++ []
theorem dksJ4_rightOf_0 : cJ4_rightOf.data.toList.drop 0 = dktJ4_rightOf_0 := by decide +kernel
theorem dJ4_rightOf_0 : decode cJ4_rightOf 0 = .ok (.aload_n 0, 1) := dk_42 (dk_at dksJ4_rightOf_0 0 rfl rfl)
theorem dJ4_rightOf_1 : decode cJ4_rightOf 1 = .ok (.ifnonnull 7, 3) := dk_199 0 7 (dk_at dksJ4_rightOf_0 1 rfl rfl)
theorem dJ4_rightOf_4 : decode cJ4_rightOf 4 = .ok (.aconst_null, 1) := dk_1 (dk_at dksJ4_rightOf_0 4 rfl rfl)
theorem dJ4_rightOf_5 : decode cJ4_rightOf 5 = .ok (.goto 7, 3) := dk_167 0 7 (dk_at dksJ4_rightOf_0 5 rfl rfl)
theorem dJ4_rightOf_8 : decode cJ4_rightOf 8 = .ok (.aload_n 0, 1) := dk_42 (dk_at dksJ4_rightOf_0 8 rfl rfl)
theorem dJ4_rightOf_9 : decode cJ4_rightOf 9 = .ok (.getfield 114, 3) := dk_180 0 114 (dk_at dksJ4_rightOf_0 9 rfl rfl)
theorem dJ4_rightOf_12 : decode cJ4_rightOf 12 = .ok (.areturn, 1) := dk_176 (dk_at dksJ4_rightOf_0 12 rfl rfl)
abbrev cJ4_colorOf : ByteArray := prog_75_method_76_code
def yJ4_colorOf : MethodName := ⟨RJ4, "colorOf", "(Ljava/util/TreeMap$Entry;)Z"⟩
def dkwJ4_colorOf_0 : List UInt8 := [42, 199, 0, 7, 4, 167, 0, 7, 42, 180, 1, 34, 172]
abbrev dktJ4_colorOf_0 : List UInt8 := dkwJ4_colorOf_0 ++ []
theorem dksJ4_colorOf_0 : cJ4_colorOf.data.toList.drop 0 = dktJ4_colorOf_0 := by decide +kernel
theorem dJ4_colorOf_0 : decode cJ4_colorOf 0 = .ok (.aload_n 0, 1) := dk_42 (dk_at dksJ4_colorOf_0 0 rfl rfl)
theorem dJ4_colorOf_1 : decode cJ4_colorOf 1 = .ok (.ifnonnull 7, 3) := dk_199 0 7 (dk_at dksJ4_colorOf_0 1 rfl rfl)
theorem dJ4_colorOf_4 : decode cJ4_colorOf 4 = .ok (.iconst 1, 1) := dk_4 (dk_at dksJ4_colorOf_0 4 rfl rfl)
theorem dJ4_colorOf_5 : decode cJ4_colorOf 5 = .ok (.goto 7, 3) := dk_167 0 7 (dk_at dksJ4_colorOf_0 5 rfl rfl)
theorem dJ4_colorOf_8 : decode cJ4_colorOf 8 = .ok (.aload_n 0, 1) := dk_42 (dk_at dksJ4_colorOf_0 8 rfl rfl)
theorem dJ4_colorOf_9 : decode cJ4_colorOf 9 = .ok (.getfield 290, 3) := dk_180 1 34 (dk_at dksJ4_colorOf_0 9 rfl rfl)
theorem dJ4_colorOf_12 : decode cJ4_colorOf 12 = .ok (.ireturn, 1) := dk_172 (dk_at dksJ4_colorOf_0 12 rfl rfl)
abbrev cJ4_setColor : ByteArray := prog_75_method_78_code
def yJ4_setColor : MethodName := ⟨RJ4, "setColor", "(Ljava/util/TreeMap$Entry;Z)V"⟩
def dkwJ4_setColor_0 : List UInt8 := [42, 198, 0, 8, 42, 27, 181, 1, 34, 177]
abbrev dktJ4_setColor_0 : List UInt8 := dkwJ4_setColor_0 ++ []
theorem dksJ4_setColor_0 : cJ4_setColor.data.toList.drop 0 = dktJ4_setColor_0 := by decide +kernel
theorem dJ4_setColor_0 : decode cJ4_setColor 0 = .ok (.aload_n 0, 1) := dk_42 (dk_at dksJ4_setColor_0 0 rfl rfl)
theorem dJ4_setColor_1 : decode cJ4_setColor 1 = .ok (.ifnull 8, 3) := dk_198 0 8 (dk_at dksJ4_setColor_0 1 rfl rfl)
theorem dJ4_setColor_4 : decode cJ4_setColor 4 = .ok (.aload_n 0, 1) := dk_42 (dk_at dksJ4_setColor_0 4 rfl rfl)
theorem dJ4_setColor_5 : decode cJ4_setColor 5 = .ok (.iload_n 1, 1) := dk_27 (dk_at dksJ4_setColor_0 5 rfl rfl)
theorem dJ4_setColor_6 : decode cJ4_setColor 6 = .ok (.putfield 290, 3) := dk_181 1 34 (dk_at dksJ4_setColor_0 6 rfl rfl)
theorem dJ4_setColor_9 : decode cJ4_setColor 9 = .ok (.return_, 1) := dk_177 (dk_at dksJ4_setColor_0 9 rfl rfl)
abbrev cJ4_rotateLeft : ByteArray := prog_75_method_81_code
def yJ4_rotateLeft : MethodName := ⟨RJ4, "rotateLeft", "(Ljava/util/TreeMap$Entry;)V"⟩
def dkwJ4_rotateLeft_4 : List UInt8 := [177]
abbrev dktJ4_rotateLeft_4 : List UInt8 := dkwJ4_rotateLeft_4 ++ []
def dkwJ4_rotateLeft_3 : List UInt8 := [181, 0, 111, 167, 0, 11, 43, 180, 0, 124, 44, 181, 0, 114, 44, 43, 181, 0, 111, 43, 44, 181, 0, 124]
abbrev dktJ4_rotateLeft_3 : List UInt8 := dkwJ4_rotateLeft_3 ++ dktJ4_rotateLeft_4
def dkwJ4_rotateLeft_2 : List UInt8 := [44, 181, 0, 101, 167, 0, 33, 43, 180, 0, 124, 180, 0, 111, 43, 166, 0, 14, 43, 180, 0, 124, 44]
abbrev dktJ4_rotateLeft_2 : List UInt8 := dkwJ4_rotateLeft_2 ++ dktJ4_rotateLeft_3
def dkwJ4_rotateLeft_1 : List UInt8 := [44, 180, 0, 111, 43, 181, 0, 124, 44, 43, 180, 0, 124, 181, 0, 124, 43, 180, 0, 124, 199, 0, 11, 42]
abbrev dktJ4_rotateLeft_1 : List UInt8 := dkwJ4_rotateLeft_1 ++ dktJ4_rotateLeft_2
def dkwJ4_rotateLeft_0 : List UInt8 := [43, 198, 0, 94, 43, 180, 0, 114, 77, 43, 44, 180, 0, 111, 181, 0, 114, 44, 180, 0, 111, 198, 0, 11]
abbrev dktJ4_rotateLeft_0 : List UInt8 := dkwJ4_rotateLeft_0 ++ dktJ4_rotateLeft_1
theorem dksJ4_rotateLeft_0 : cJ4_rotateLeft.data.toList.drop 0 = dktJ4_rotateLeft_0 := by decide +kernel
theorem dksJ4_rotateLeft_1 : cJ4_rotateLeft.data.toList.drop 24 = dktJ4_rotateLeft_1 := dk_seg dksJ4_rotateLeft_0 24 rfl rfl
theorem dksJ4_rotateLeft_2 : cJ4_rotateLeft.data.toList.drop 48 = dktJ4_rotateLeft_2 := dk_seg dksJ4_rotateLeft_1 24 rfl rfl
theorem dksJ4_rotateLeft_3 : cJ4_rotateLeft.data.toList.drop 71 = dktJ4_rotateLeft_3 := dk_seg dksJ4_rotateLeft_2 23 rfl rfl
theorem dksJ4_rotateLeft_4 : cJ4_rotateLeft.data.toList.drop 95 = dktJ4_rotateLeft_4 := dk_seg dksJ4_rotateLeft_3 24 rfl rfl
theorem dJ4_rotateLeft_0 : decode cJ4_rotateLeft 0 = .ok (.aload_n 1, 1) := dk_43 (dk_at dksJ4_rotateLeft_0 0 rfl rfl)
theorem dJ4_rotateLeft_1 : decode cJ4_rotateLeft 1 = .ok (.ifnull 94, 3) := dk_198 0 94 (dk_at dksJ4_rotateLeft_0 1 rfl rfl)
theorem dJ4_rotateLeft_4 : decode cJ4_rotateLeft 4 = .ok (.aload_n 1, 1) := dk_43 (dk_at dksJ4_rotateLeft_0 4 rfl rfl)
theorem dJ4_rotateLeft_5 : decode cJ4_rotateLeft 5 = .ok (.getfield 114, 3) := dk_180 0 114 (dk_at dksJ4_rotateLeft_0 5 rfl rfl)
theorem dJ4_rotateLeft_8 : decode cJ4_rotateLeft 8 = .ok (.astore_n 2, 1) := dk_77 (dk_at dksJ4_rotateLeft_0 8 rfl rfl)
theorem dJ4_rotateLeft_9 : decode cJ4_rotateLeft 9 = .ok (.aload_n 1, 1) := dk_43 (dk_at dksJ4_rotateLeft_0 9 rfl rfl)
theorem dJ4_rotateLeft_10 : decode cJ4_rotateLeft 10 = .ok (.aload_n 2, 1) := dk_44 (dk_at dksJ4_rotateLeft_0 10 rfl rfl)
theorem dJ4_rotateLeft_11 : decode cJ4_rotateLeft 11 = .ok (.getfield 111, 3) := dk_180 0 111 (dk_at dksJ4_rotateLeft_0 11 rfl rfl)
theorem dJ4_rotateLeft_14 : decode cJ4_rotateLeft 14 = .ok (.putfield 114, 3) := dk_181 0 114 (dk_at dksJ4_rotateLeft_0 14 rfl rfl)
theorem dJ4_rotateLeft_17 : decode cJ4_rotateLeft 17 = .ok (.aload_n 2, 1) := dk_44 (dk_at dksJ4_rotateLeft_0 17 rfl rfl)
theorem dJ4_rotateLeft_18 : decode cJ4_rotateLeft 18 = .ok (.getfield 111, 3) := dk_180 0 111 (dk_at dksJ4_rotateLeft_0 18 rfl rfl)
theorem dJ4_rotateLeft_21 : decode cJ4_rotateLeft 21 = .ok (.ifnull 11, 3) := dk_198 0 11 (dk_at dksJ4_rotateLeft_0 21 rfl rfl)
theorem dJ4_rotateLeft_24 : decode cJ4_rotateLeft 24 = .ok (.aload_n 2, 1) := dk_44 (dk_at dksJ4_rotateLeft_1 0 rfl rfl)
theorem dJ4_rotateLeft_25 : decode cJ4_rotateLeft 25 = .ok (.getfield 111, 3) := dk_180 0 111 (dk_at dksJ4_rotateLeft_1 1 rfl rfl)
theorem dJ4_rotateLeft_28 : decode cJ4_rotateLeft 28 = .ok (.aload_n 1, 1) := dk_43 (dk_at dksJ4_rotateLeft_1 4 rfl rfl)
theorem dJ4_rotateLeft_29 : decode cJ4_rotateLeft 29 = .ok (.putfield 124, 3) := dk_181 0 124 (dk_at dksJ4_rotateLeft_1 5 rfl rfl)
theorem dJ4_rotateLeft_32 : decode cJ4_rotateLeft 32 = .ok (.aload_n 2, 1) := dk_44 (dk_at dksJ4_rotateLeft_1 8 rfl rfl)
theorem dJ4_rotateLeft_33 : decode cJ4_rotateLeft 33 = .ok (.aload_n 1, 1) := dk_43 (dk_at dksJ4_rotateLeft_1 9 rfl rfl)
theorem dJ4_rotateLeft_34 : decode cJ4_rotateLeft 34 = .ok (.getfield 124, 3) := dk_180 0 124 (dk_at dksJ4_rotateLeft_1 10 rfl rfl)
theorem dJ4_rotateLeft_37 : decode cJ4_rotateLeft 37 = .ok (.putfield 124, 3) := dk_181 0 124 (dk_at dksJ4_rotateLeft_1 13 rfl rfl)
theorem dJ4_rotateLeft_40 : decode cJ4_rotateLeft 40 = .ok (.aload_n 1, 1) := dk_43 (dk_at dksJ4_rotateLeft_1 16 rfl rfl)
theorem dJ4_rotateLeft_41 : decode cJ4_rotateLeft 41 = .ok (.getfield 124, 3) := dk_180 0 124 (dk_at dksJ4_rotateLeft_1 17 rfl rfl)
theorem dJ4_rotateLeft_44 : decode cJ4_rotateLeft 44 = .ok (.ifnonnull 11, 3) := dk_199 0 11 (dk_at dksJ4_rotateLeft_1 20 rfl rfl)
theorem dJ4_rotateLeft_47 : decode cJ4_rotateLeft 47 = .ok (.aload_n 0, 1) := dk_42 (dk_at dksJ4_rotateLeft_1 23 rfl rfl)
theorem dJ4_rotateLeft_48 : decode cJ4_rotateLeft 48 = .ok (.aload_n 2, 1) := dk_44 (dk_at dksJ4_rotateLeft_2 0 rfl rfl)
theorem dJ4_rotateLeft_49 : decode cJ4_rotateLeft 49 = .ok (.putfield 101, 3) := dk_181 0 101 (dk_at dksJ4_rotateLeft_2 1 rfl rfl)
theorem dJ4_rotateLeft_52 : decode cJ4_rotateLeft 52 = .ok (.goto 33, 3) := dk_167 0 33 (dk_at dksJ4_rotateLeft_2 4 rfl rfl)
theorem dJ4_rotateLeft_55 : decode cJ4_rotateLeft 55 = .ok (.aload_n 1, 1) := dk_43 (dk_at dksJ4_rotateLeft_2 7 rfl rfl)
theorem dJ4_rotateLeft_56 : decode cJ4_rotateLeft 56 = .ok (.getfield 124, 3) := dk_180 0 124 (dk_at dksJ4_rotateLeft_2 8 rfl rfl)
theorem dJ4_rotateLeft_59 : decode cJ4_rotateLeft 59 = .ok (.getfield 111, 3) := dk_180 0 111 (dk_at dksJ4_rotateLeft_2 11 rfl rfl)
theorem dJ4_rotateLeft_62 : decode cJ4_rotateLeft 62 = .ok (.aload_n 1, 1) := dk_43 (dk_at dksJ4_rotateLeft_2 14 rfl rfl)
theorem dJ4_rotateLeft_63 : decode cJ4_rotateLeft 63 = .ok (.if_acmp .ne 14, 3) := dk_166 0 14 (dk_at dksJ4_rotateLeft_2 15 rfl rfl)
theorem dJ4_rotateLeft_66 : decode cJ4_rotateLeft 66 = .ok (.aload_n 1, 1) := dk_43 (dk_at dksJ4_rotateLeft_2 18 rfl rfl)
theorem dJ4_rotateLeft_67 : decode cJ4_rotateLeft 67 = .ok (.getfield 124, 3) := dk_180 0 124 (dk_at dksJ4_rotateLeft_2 19 rfl rfl)
theorem dJ4_rotateLeft_70 : decode cJ4_rotateLeft 70 = .ok (.aload_n 2, 1) := dk_44 (dk_at dksJ4_rotateLeft_2 22 rfl rfl)
theorem dJ4_rotateLeft_71 : decode cJ4_rotateLeft 71 = .ok (.putfield 111, 3) := dk_181 0 111 (dk_at dksJ4_rotateLeft_3 0 rfl rfl)
theorem dJ4_rotateLeft_74 : decode cJ4_rotateLeft 74 = .ok (.goto 11, 3) := dk_167 0 11 (dk_at dksJ4_rotateLeft_3 3 rfl rfl)
theorem dJ4_rotateLeft_77 : decode cJ4_rotateLeft 77 = .ok (.aload_n 1, 1) := dk_43 (dk_at dksJ4_rotateLeft_3 6 rfl rfl)
theorem dJ4_rotateLeft_78 : decode cJ4_rotateLeft 78 = .ok (.getfield 124, 3) := dk_180 0 124 (dk_at dksJ4_rotateLeft_3 7 rfl rfl)
theorem dJ4_rotateLeft_81 : decode cJ4_rotateLeft 81 = .ok (.aload_n 2, 1) := dk_44 (dk_at dksJ4_rotateLeft_3 10 rfl rfl)
theorem dJ4_rotateLeft_82 : decode cJ4_rotateLeft 82 = .ok (.putfield 114, 3) := dk_181 0 114 (dk_at dksJ4_rotateLeft_3 11 rfl rfl)
theorem dJ4_rotateLeft_85 : decode cJ4_rotateLeft 85 = .ok (.aload_n 2, 1) := dk_44 (dk_at dksJ4_rotateLeft_3 14 rfl rfl)
theorem dJ4_rotateLeft_86 : decode cJ4_rotateLeft 86 = .ok (.aload_n 1, 1) := dk_43 (dk_at dksJ4_rotateLeft_3 15 rfl rfl)
theorem dJ4_rotateLeft_87 : decode cJ4_rotateLeft 87 = .ok (.putfield 111, 3) := dk_181 0 111 (dk_at dksJ4_rotateLeft_3 16 rfl rfl)
theorem dJ4_rotateLeft_90 : decode cJ4_rotateLeft 90 = .ok (.aload_n 1, 1) := dk_43 (dk_at dksJ4_rotateLeft_3 19 rfl rfl)
theorem dJ4_rotateLeft_91 : decode cJ4_rotateLeft 91 = .ok (.aload_n 2, 1) := dk_44 (dk_at dksJ4_rotateLeft_3 20 rfl rfl)
theorem dJ4_rotateLeft_92 : decode cJ4_rotateLeft 92 = .ok (.putfield 124, 3) := dk_181 0 124 (dk_at dksJ4_rotateLeft_3 21 rfl rfl)
theorem dJ4_rotateLeft_95 : decode cJ4_rotateLeft 95 = .ok (.return_, 1) := dk_177 (dk_at dksJ4_rotateLeft_4 0 rfl rfl)
abbrev cJ4_rotateRight : ByteArray := prog_75_method_82_code
def yJ4_rotateRight : MethodName := ⟨RJ4, "rotateRight", "(Ljava/util/TreeMap$Entry;)V"⟩
def dkwJ4_rotateRight_4 : List UInt8 := [177]
abbrev dktJ4_rotateRight_4 : List UInt8 := dkwJ4_rotateRight_4 ++ []
def dkwJ4_rotateRight_3 : List UInt8 := [181, 0, 114, 167, 0, 11, 43, 180, 0, 124, 44, 181, 0, 111, 44, 43, 181, 0, 114, 43, 44, 181, 0, 124]
abbrev dktJ4_rotateRight_3 : List UInt8 := dkwJ4_rotateRight_3 ++ dktJ4_rotateRight_4
def dkwJ4_rotateRight_2 : List UInt8 := [44, 181, 0, 101, 167, 0, 33, 43, 180, 0, 124, 180, 0, 114, 43, 166, 0, 14, 43, 180, 0, 124, 44]
abbrev dktJ4_rotateRight_2 : List UInt8 := dkwJ4_rotateRight_2 ++ dktJ4_rotateRight_3
def dkwJ4_rotateRight_1 : List UInt8 := [44, 180, 0, 114, 43, 181, 0, 124, 44, 43, 180, 0, 124, 181, 0, 124, 43, 180, 0, 124, 199, 0, 11, 42]
abbrev dktJ4_rotateRight_1 : List UInt8 := dkwJ4_rotateRight_1 ++ dktJ4_rotateRight_2
def dkwJ4_rotateRight_0 : List UInt8 := [43, 198, 0, 94, 43, 180, 0, 111, 77, 43, 44, 180, 0, 114, 181, 0, 111, 44, 180, 0, 114, 198, 0, 11]
abbrev dktJ4_rotateRight_0 : List UInt8 := dkwJ4_rotateRight_0 ++ dktJ4_rotateRight_1
theorem dksJ4_rotateRight_0 : cJ4_rotateRight.data.toList.drop 0 = dktJ4_rotateRight_0 := by decide +kernel
theorem dksJ4_rotateRight_1 : cJ4_rotateRight.data.toList.drop 24 = dktJ4_rotateRight_1 := dk_seg dksJ4_rotateRight_0 24 rfl rfl
theorem dksJ4_rotateRight_2 : cJ4_rotateRight.data.toList.drop 48 = dktJ4_rotateRight_2 := dk_seg dksJ4_rotateRight_1 24 rfl rfl
theorem dksJ4_rotateRight_3 : cJ4_rotateRight.data.toList.drop 71 = dktJ4_rotateRight_3 := dk_seg dksJ4_rotateRight_2 23 rfl rfl
theorem dksJ4_rotateRight_4 : cJ4_rotateRight.data.toList.drop 95 = dktJ4_rotateRight_4 := dk_seg dksJ4_rotateRight_3 24 rfl rfl
theorem dJ4_rotateRight_0 : decode cJ4_rotateRight 0 = .ok (.aload_n 1, 1) := dk_43 (dk_at dksJ4_rotateRight_0 0 rfl rfl)
theorem dJ4_rotateRight_1 : decode cJ4_rotateRight 1 = .ok (.ifnull 94, 3) := dk_198 0 94 (dk_at dksJ4_rotateRight_0 1 rfl rfl)
theorem dJ4_rotateRight_4 : decode cJ4_rotateRight 4 = .ok (.aload_n 1, 1) := dk_43 (dk_at dksJ4_rotateRight_0 4 rfl rfl)
theorem dJ4_rotateRight_5 : decode cJ4_rotateRight 5 = .ok (.getfield 111, 3) := dk_180 0 111 (dk_at dksJ4_rotateRight_0 5 rfl rfl)
theorem dJ4_rotateRight_8 : decode cJ4_rotateRight 8 = .ok (.astore_n 2, 1) := dk_77 (dk_at dksJ4_rotateRight_0 8 rfl rfl)
theorem dJ4_rotateRight_9 : decode cJ4_rotateRight 9 = .ok (.aload_n 1, 1) := dk_43 (dk_at dksJ4_rotateRight_0 9 rfl rfl)
theorem dJ4_rotateRight_10 : decode cJ4_rotateRight 10 = .ok (.aload_n 2, 1) := dk_44 (dk_at dksJ4_rotateRight_0 10 rfl rfl)
theorem dJ4_rotateRight_11 : decode cJ4_rotateRight 11 = .ok (.getfield 114, 3) := dk_180 0 114 (dk_at dksJ4_rotateRight_0 11 rfl rfl)
theorem dJ4_rotateRight_14 : decode cJ4_rotateRight 14 = .ok (.putfield 111, 3) := dk_181 0 111 (dk_at dksJ4_rotateRight_0 14 rfl rfl)
theorem dJ4_rotateRight_17 : decode cJ4_rotateRight 17 = .ok (.aload_n 2, 1) := dk_44 (dk_at dksJ4_rotateRight_0 17 rfl rfl)
theorem dJ4_rotateRight_18 : decode cJ4_rotateRight 18 = .ok (.getfield 114, 3) := dk_180 0 114 (dk_at dksJ4_rotateRight_0 18 rfl rfl)
theorem dJ4_rotateRight_21 : decode cJ4_rotateRight 21 = .ok (.ifnull 11, 3) := dk_198 0 11 (dk_at dksJ4_rotateRight_0 21 rfl rfl)
theorem dJ4_rotateRight_24 : decode cJ4_rotateRight 24 = .ok (.aload_n 2, 1) := dk_44 (dk_at dksJ4_rotateRight_1 0 rfl rfl)
theorem dJ4_rotateRight_25 : decode cJ4_rotateRight 25 = .ok (.getfield 114, 3) := dk_180 0 114 (dk_at dksJ4_rotateRight_1 1 rfl rfl)
theorem dJ4_rotateRight_28 : decode cJ4_rotateRight 28 = .ok (.aload_n 1, 1) := dk_43 (dk_at dksJ4_rotateRight_1 4 rfl rfl)
theorem dJ4_rotateRight_29 : decode cJ4_rotateRight 29 = .ok (.putfield 124, 3) := dk_181 0 124 (dk_at dksJ4_rotateRight_1 5 rfl rfl)
theorem dJ4_rotateRight_32 : decode cJ4_rotateRight 32 = .ok (.aload_n 2, 1) := dk_44 (dk_at dksJ4_rotateRight_1 8 rfl rfl)
theorem dJ4_rotateRight_33 : decode cJ4_rotateRight 33 = .ok (.aload_n 1, 1) := dk_43 (dk_at dksJ4_rotateRight_1 9 rfl rfl)
theorem dJ4_rotateRight_34 : decode cJ4_rotateRight 34 = .ok (.getfield 124, 3) := dk_180 0 124 (dk_at dksJ4_rotateRight_1 10 rfl rfl)
theorem dJ4_rotateRight_37 : decode cJ4_rotateRight 37 = .ok (.putfield 124, 3) := dk_181 0 124 (dk_at dksJ4_rotateRight_1 13 rfl rfl)
theorem dJ4_rotateRight_40 : decode cJ4_rotateRight 40 = .ok (.aload_n 1, 1) := dk_43 (dk_at dksJ4_rotateRight_1 16 rfl rfl)
theorem dJ4_rotateRight_41 : decode cJ4_rotateRight 41 = .ok (.getfield 124, 3) := dk_180 0 124 (dk_at dksJ4_rotateRight_1 17 rfl rfl)
theorem dJ4_rotateRight_44 : decode cJ4_rotateRight 44 = .ok (.ifnonnull 11, 3) := dk_199 0 11 (dk_at dksJ4_rotateRight_1 20 rfl rfl)
theorem dJ4_rotateRight_47 : decode cJ4_rotateRight 47 = .ok (.aload_n 0, 1) := dk_42 (dk_at dksJ4_rotateRight_1 23 rfl rfl)
theorem dJ4_rotateRight_48 : decode cJ4_rotateRight 48 = .ok (.aload_n 2, 1) := dk_44 (dk_at dksJ4_rotateRight_2 0 rfl rfl)
theorem dJ4_rotateRight_49 : decode cJ4_rotateRight 49 = .ok (.putfield 101, 3) := dk_181 0 101 (dk_at dksJ4_rotateRight_2 1 rfl rfl)
theorem dJ4_rotateRight_52 : decode cJ4_rotateRight 52 = .ok (.goto 33, 3) := dk_167 0 33 (dk_at dksJ4_rotateRight_2 4 rfl rfl)
theorem dJ4_rotateRight_55 : decode cJ4_rotateRight 55 = .ok (.aload_n 1, 1) := dk_43 (dk_at dksJ4_rotateRight_2 7 rfl rfl)
theorem dJ4_rotateRight_56 : decode cJ4_rotateRight 56 = .ok (.getfield 124, 3) := dk_180 0 124 (dk_at dksJ4_rotateRight_2 8 rfl rfl)
theorem dJ4_rotateRight_59 : decode cJ4_rotateRight 59 = .ok (.getfield 114, 3) := dk_180 0 114 (dk_at dksJ4_rotateRight_2 11 rfl rfl)
theorem dJ4_rotateRight_62 : decode cJ4_rotateRight 62 = .ok (.aload_n 1, 1) := dk_43 (dk_at dksJ4_rotateRight_2 14 rfl rfl)
theorem dJ4_rotateRight_63 : decode cJ4_rotateRight 63 = .ok (.if_acmp .ne 14, 3) := dk_166 0 14 (dk_at dksJ4_rotateRight_2 15 rfl rfl)
theorem dJ4_rotateRight_66 : decode cJ4_rotateRight 66 = .ok (.aload_n 1, 1) := dk_43 (dk_at dksJ4_rotateRight_2 18 rfl rfl)
theorem dJ4_rotateRight_67 : decode cJ4_rotateRight 67 = .ok (.getfield 124, 3) := dk_180 0 124 (dk_at dksJ4_rotateRight_2 19 rfl rfl)
theorem dJ4_rotateRight_70 : decode cJ4_rotateRight 70 = .ok (.aload_n 2, 1) := dk_44 (dk_at dksJ4_rotateRight_2 22 rfl rfl)
theorem dJ4_rotateRight_71 : decode cJ4_rotateRight 71 = .ok (.putfield 114, 3) := dk_181 0 114 (dk_at dksJ4_rotateRight_3 0 rfl rfl)
theorem dJ4_rotateRight_74 : decode cJ4_rotateRight 74 = .ok (.goto 11, 3) := dk_167 0 11 (dk_at dksJ4_rotateRight_3 3 rfl rfl)
theorem dJ4_rotateRight_77 : decode cJ4_rotateRight 77 = .ok (.aload_n 1, 1) := dk_43 (dk_at dksJ4_rotateRight_3 6 rfl rfl)
theorem dJ4_rotateRight_78 : decode cJ4_rotateRight 78 = .ok (.getfield 124, 3) := dk_180 0 124 (dk_at dksJ4_rotateRight_3 7 rfl rfl)
theorem dJ4_rotateRight_81 : decode cJ4_rotateRight 81 = .ok (.aload_n 2, 1) := dk_44 (dk_at dksJ4_rotateRight_3 10 rfl rfl)
theorem dJ4_rotateRight_82 : decode cJ4_rotateRight 82 = .ok (.putfield 111, 3) := dk_181 0 111 (dk_at dksJ4_rotateRight_3 11 rfl rfl)
theorem dJ4_rotateRight_85 : decode cJ4_rotateRight 85 = .ok (.aload_n 2, 1) := dk_44 (dk_at dksJ4_rotateRight_3 14 rfl rfl)
theorem dJ4_rotateRight_86 : decode cJ4_rotateRight 86 = .ok (.aload_n 1, 1) := dk_43 (dk_at dksJ4_rotateRight_3 15 rfl rfl)
theorem dJ4_rotateRight_87 : decode cJ4_rotateRight 87 = .ok (.putfield 114, 3) := dk_181 0 114 (dk_at dksJ4_rotateRight_3 16 rfl rfl)
theorem dJ4_rotateRight_90 : decode cJ4_rotateRight 90 = .ok (.aload_n 1, 1) := dk_43 (dk_at dksJ4_rotateRight_3 19 rfl rfl)
theorem dJ4_rotateRight_91 : decode cJ4_rotateRight 91 = .ok (.aload_n 2, 1) := dk_44 (dk_at dksJ4_rotateRight_3 20 rfl rfl)
theorem dJ4_rotateRight_92 : decode cJ4_rotateRight 92 = .ok (.putfield 124, 3) := dk_181 0 124 (dk_at dksJ4_rotateRight_3 21 rfl rfl)
theorem dJ4_rotateRight_95 : decode cJ4_rotateRight 95 = .ok (.return_, 1) := dk_177 (dk_at dksJ4_rotateRight_4 0 rfl rfl)
abbrev cJ4_remove : ByteArray := prog_75_method_34_code
def yJ4_remove : MethodName := ⟨RJ4, "remove", "(Ljava/lang/Object;)Ljava/lang/Object;"⟩
def dkwJ4_remove_0 : List UInt8 := [42, 43, 182, 0, 50, 77, 44, 199, 0, 5, 1, 176, 44, 180, 0, 58, 78, 42, 44, 182, 0, 174, 45, 176]
abbrev dktJ4_remove_0 : List UInt8 := dkwJ4_remove_0 ++ []
theorem dksJ4_remove_0 : cJ4_remove.data.toList.drop 0 = dktJ4_remove_0 := by decide +kernel
theorem dJ4_remove_0 : decode cJ4_remove 0 = .ok (.aload_n 0, 1) := dk_42 (dk_at dksJ4_remove_0 0 rfl rfl)
theorem dJ4_remove_1 : decode cJ4_remove 1 = .ok (.aload_n 1, 1) := dk_43 (dk_at dksJ4_remove_0 1 rfl rfl)
theorem dJ4_remove_2 : decode cJ4_remove 2 = .ok (.invokevirtual 50, 3) := dk_182 0 50 (dk_at dksJ4_remove_0 2 rfl rfl)
theorem dJ4_remove_5 : decode cJ4_remove 5 = .ok (.astore_n 2, 1) := dk_77 (dk_at dksJ4_remove_0 5 rfl rfl)
theorem dJ4_remove_6 : decode cJ4_remove 6 = .ok (.aload_n 2, 1) := dk_44 (dk_at dksJ4_remove_0 6 rfl rfl)
theorem dJ4_remove_7 : decode cJ4_remove 7 = .ok (.ifnonnull 5, 3) := dk_199 0 5 (dk_at dksJ4_remove_0 7 rfl rfl)
theorem dJ4_remove_10 : decode cJ4_remove 10 = .ok (.aconst_null, 1) := dk_1 (dk_at dksJ4_remove_0 10 rfl rfl)
theorem dJ4_remove_11 : decode cJ4_remove 11 = .ok (.areturn, 1) := dk_176 (dk_at dksJ4_remove_0 11 rfl rfl)
theorem dJ4_remove_12 : decode cJ4_remove 12 = .ok (.aload_n 2, 1) := dk_44 (dk_at dksJ4_remove_0 12 rfl rfl)
theorem dJ4_remove_13 : decode cJ4_remove 13 = .ok (.getfield 58, 3) := dk_180 0 58 (dk_at dksJ4_remove_0 13 rfl rfl)
theorem dJ4_remove_16 : decode cJ4_remove 16 = .ok (.astore_n 3, 1) := dk_78 (dk_at dksJ4_remove_0 16 rfl rfl)
theorem dJ4_remove_17 : decode cJ4_remove 17 = .ok (.aload_n 0, 1) := dk_42 (dk_at dksJ4_remove_0 17 rfl rfl)
theorem dJ4_remove_18 : decode cJ4_remove 18 = .ok (.aload_n 2, 1) := dk_44 (dk_at dksJ4_remove_0 18 rfl rfl)
theorem dJ4_remove_19 : decode cJ4_remove 19 = .ok (.invokevirtual 174, 3) := dk_182 0 174 (dk_at dksJ4_remove_0 19 rfl rfl)
theorem dJ4_remove_22 : decode cJ4_remove 22 = .ok (.aload_n 3, 1) := dk_45 (dk_at dksJ4_remove_0 22 rfl rfl)
theorem dJ4_remove_23 : decode cJ4_remove 23 = .ok (.areturn, 1) := dk_176 (dk_at dksJ4_remove_0 23 rfl rfl)
abbrev cJ4_getEntry : ByteArray := prog_75_method_15_code
def yJ4_getEntry : MethodName := ⟨RJ4, "getEntry", "(Ljava/lang/Object;)Ljava/util/TreeMap$Entry;"⟩
def dkwJ4_getEntry_3 : List UInt8 := [45, 176, 167, 255, 212, 1, 176]
abbrev dktJ4_getEntry_3 : List UInt8 := dkwJ4_getEntry_3 ++ []
def dkwJ4_getEntry_2 : List UInt8 := [156, 0, 11, 45, 180, 0, 111, 78, 167, 0, 18, 21, 4, 158, 0, 11, 45, 180, 0, 114, 78, 167, 0, 5]
abbrev dktJ4_getEntry_2 : List UInt8 := dkwJ4_getEntry_2 ++ dktJ4_getEntry_3
def dkwJ4_getEntry_1 : List UInt8 := [180, 0, 101, 78, 45, 198, 0, 46, 44, 45, 180, 0, 105, 185, 0, 107, 2, 0, 54, 4, 21, 4]
abbrev dktJ4_getEntry_1 : List UInt8 := dkwJ4_getEntry_1 ++ dktJ4_getEntry_2
def dkwJ4_getEntry_0 : List UInt8 := [42, 180, 0, 16, 198, 0, 9, 42, 43, 182, 0, 92, 176, 43, 184, 0, 95, 87, 43, 192, 0, 99, 77, 42]
abbrev dktJ4_getEntry_0 : List UInt8 := dkwJ4_getEntry_0 ++ dktJ4_getEntry_1
theorem dksJ4_getEntry_0 : cJ4_getEntry.data.toList.drop 0 = dktJ4_getEntry_0 := by decide +kernel
theorem dksJ4_getEntry_1 : cJ4_getEntry.data.toList.drop 24 = dktJ4_getEntry_1 := dk_seg dksJ4_getEntry_0 24 rfl rfl
theorem dksJ4_getEntry_2 : cJ4_getEntry.data.toList.drop 46 = dktJ4_getEntry_2 := dk_seg dksJ4_getEntry_1 22 rfl rfl
theorem dksJ4_getEntry_3 : cJ4_getEntry.data.toList.drop 70 = dktJ4_getEntry_3 := dk_seg dksJ4_getEntry_2 24 rfl rfl
theorem dJ4_getEntry_0 : decode cJ4_getEntry 0 = .ok (.aload_n 0, 1) := dk_42 (dk_at dksJ4_getEntry_0 0 rfl rfl)
theorem dJ4_getEntry_1 : decode cJ4_getEntry 1 = .ok (.getfield 16, 3) := dk_180 0 16 (dk_at dksJ4_getEntry_0 1 rfl rfl)
theorem dJ4_getEntry_4 : decode cJ4_getEntry 4 = .ok (.ifnull 9, 3) := dk_198 0 9 (dk_at dksJ4_getEntry_0 4 rfl rfl)
theorem dJ4_getEntry_7 : decode cJ4_getEntry 7 = .ok (.aload_n 0, 1) := dk_42 (dk_at dksJ4_getEntry_0 7 rfl rfl)
theorem dJ4_getEntry_8 : decode cJ4_getEntry 8 = .ok (.aload_n 1, 1) := dk_43 (dk_at dksJ4_getEntry_0 8 rfl rfl)
theorem dJ4_getEntry_9 : decode cJ4_getEntry 9 = .ok (.invokevirtual 92, 3) := dk_182 0 92 (dk_at dksJ4_getEntry_0 9 rfl rfl)
theorem dJ4_getEntry_12 : decode cJ4_getEntry 12 = .ok (.areturn, 1) := dk_176 (dk_at dksJ4_getEntry_0 12 rfl rfl)
theorem dJ4_getEntry_13 : decode cJ4_getEntry 13 = .ok (.aload_n 1, 1) := dk_43 (dk_at dksJ4_getEntry_0 13 rfl rfl)
theorem dJ4_getEntry_14 : decode cJ4_getEntry 14 = .ok (.invokestatic 95, 3) := dk_184 0 95 (dk_at dksJ4_getEntry_0 14 rfl rfl)
theorem dJ4_getEntry_17 : decode cJ4_getEntry 17 = .ok (.pop, 1) := dk_87 (dk_at dksJ4_getEntry_0 17 rfl rfl)
theorem dJ4_getEntry_18 : decode cJ4_getEntry 18 = .ok (.aload_n 1, 1) := dk_43 (dk_at dksJ4_getEntry_0 18 rfl rfl)
theorem dJ4_getEntry_19 : decode cJ4_getEntry 19 = .ok (.checkcast 99, 3) := dk_192 0 99 (dk_at dksJ4_getEntry_0 19 rfl rfl)
theorem dJ4_getEntry_22 : decode cJ4_getEntry 22 = .ok (.astore_n 2, 1) := dk_77 (dk_at dksJ4_getEntry_0 22 rfl rfl)
theorem dJ4_getEntry_23 : decode cJ4_getEntry 23 = .ok (.aload_n 0, 1) := dk_42 (dk_at dksJ4_getEntry_0 23 rfl rfl)
theorem dJ4_getEntry_24 : decode cJ4_getEntry 24 = .ok (.getfield 101, 3) := dk_180 0 101 (dk_at dksJ4_getEntry_1 0 rfl rfl)
theorem dJ4_getEntry_27 : decode cJ4_getEntry 27 = .ok (.astore_n 3, 1) := dk_78 (dk_at dksJ4_getEntry_1 3 rfl rfl)
theorem dJ4_getEntry_28 : decode cJ4_getEntry 28 = .ok (.aload_n 3, 1) := dk_45 (dk_at dksJ4_getEntry_1 4 rfl rfl)
theorem dJ4_getEntry_29 : decode cJ4_getEntry 29 = .ok (.ifnull 46, 3) := dk_198 0 46 (dk_at dksJ4_getEntry_1 5 rfl rfl)
theorem dJ4_getEntry_32 : decode cJ4_getEntry 32 = .ok (.aload_n 2, 1) := dk_44 (dk_at dksJ4_getEntry_1 8 rfl rfl)
theorem dJ4_getEntry_33 : decode cJ4_getEntry 33 = .ok (.aload_n 3, 1) := dk_45 (dk_at dksJ4_getEntry_1 9 rfl rfl)
theorem dJ4_getEntry_34 : decode cJ4_getEntry 34 = .ok (.getfield 105, 3) := dk_180 0 105 (dk_at dksJ4_getEntry_1 10 rfl rfl)
theorem dJ4_getEntry_37 : decode cJ4_getEntry 37 = .ok (.invokeinterface 107 2, 5) := by decide +kernel
theorem dJ4_getEntry_42 : decode cJ4_getEntry 42 = .ok (.istore 4, 2) := dk_54 4 (dk_at dksJ4_getEntry_1 18 rfl rfl)
theorem dJ4_getEntry_44 : decode cJ4_getEntry 44 = .ok (.iload 4, 2) := dk_21 4 (dk_at dksJ4_getEntry_1 20 rfl rfl)
theorem dJ4_getEntry_46 : decode cJ4_getEntry 46 = .ok (.ifCond .ge 11, 3) := dk_156 0 11 (dk_at dksJ4_getEntry_2 0 rfl rfl)
theorem dJ4_getEntry_49 : decode cJ4_getEntry 49 = .ok (.aload_n 3, 1) := dk_45 (dk_at dksJ4_getEntry_2 3 rfl rfl)
theorem dJ4_getEntry_50 : decode cJ4_getEntry 50 = .ok (.getfield 111, 3) := dk_180 0 111 (dk_at dksJ4_getEntry_2 4 rfl rfl)
theorem dJ4_getEntry_53 : decode cJ4_getEntry 53 = .ok (.astore_n 3, 1) := dk_78 (dk_at dksJ4_getEntry_2 7 rfl rfl)
theorem dJ4_getEntry_54 : decode cJ4_getEntry 54 = .ok (.goto 18, 3) := dk_167 0 18 (dk_at dksJ4_getEntry_2 8 rfl rfl)
theorem dJ4_getEntry_57 : decode cJ4_getEntry 57 = .ok (.iload 4, 2) := dk_21 4 (dk_at dksJ4_getEntry_2 11 rfl rfl)
theorem dJ4_getEntry_59 : decode cJ4_getEntry 59 = .ok (.ifCond .le 11, 3) := dk_158 0 11 (dk_at dksJ4_getEntry_2 13 rfl rfl)
theorem dJ4_getEntry_62 : decode cJ4_getEntry 62 = .ok (.aload_n 3, 1) := dk_45 (dk_at dksJ4_getEntry_2 16 rfl rfl)
theorem dJ4_getEntry_63 : decode cJ4_getEntry 63 = .ok (.getfield 114, 3) := dk_180 0 114 (dk_at dksJ4_getEntry_2 17 rfl rfl)
theorem dJ4_getEntry_66 : decode cJ4_getEntry 66 = .ok (.astore_n 3, 1) := dk_78 (dk_at dksJ4_getEntry_2 20 rfl rfl)
theorem dJ4_getEntry_67 : decode cJ4_getEntry 67 = .ok (.goto 5, 3) := dk_167 0 5 (dk_at dksJ4_getEntry_2 21 rfl rfl)
theorem dJ4_getEntry_70 : decode cJ4_getEntry 70 = .ok (.aload_n 3, 1) := dk_45 (dk_at dksJ4_getEntry_3 0 rfl rfl)
theorem dJ4_getEntry_71 : decode cJ4_getEntry 71 = .ok (.areturn, 1) := dk_176 (dk_at dksJ4_getEntry_3 1 rfl rfl)
theorem dJ4_getEntry_72 : decode cJ4_getEntry 72 = .ok (.goto (-44), 3) := dk_167 255 212 (dk_at dksJ4_getEntry_3 2 rfl rfl)
theorem dJ4_getEntry_75 : decode cJ4_getEntry 75 = .ok (.aconst_null, 1) := dk_1 (dk_at dksJ4_getEntry_3 5 rfl rfl)
theorem dJ4_getEntry_76 : decode cJ4_getEntry 76 = .ok (.areturn, 1) := dk_176 (dk_at dksJ4_getEntry_3 6 rfl rfl)
abbrev cJ4_getEntryUsingComparator : ByteArray := prog_75_method_16_code
def yJ4_getEntryUsingComparator : MethodName := ⟨RJ4, "getEntryUsingComparator", "(Ljava/lang/Object;)Ljava/util/TreeMap$Entry;"⟩
def dkwJ4_getEntryUsingComparator_3 : List UInt8 := [1, 176]
abbrev dktJ4_getEntryUsingComparator_3 : List UInt8 := dkwJ4_getEntryUsingComparator_3 ++ []
def dkwJ4_getEntryUsingComparator_2 : List UInt8 := [167, 0, 21, 21, 5, 158, 0, 13, 25, 4, 180, 0, 114, 58, 4, 167, 0, 6, 25, 4, 176, 167, 255, 204]
abbrev dktJ4_getEntryUsingComparator_2 : List UInt8 := dkwJ4_getEntryUsingComparator_2 ++ dktJ4_getEntryUsingComparator_3
def dkwJ4_getEntryUsingComparator_1 : List UInt8 := [25, 4, 180, 0, 105, 185, 0, 117, 3, 0, 54, 5, 21, 5, 156, 0, 13, 25, 4, 180, 0, 111, 58, 4]
abbrev dktJ4_getEntryUsingComparator_1 : List UInt8 := dkwJ4_getEntryUsingComparator_1 ++ dktJ4_getEntryUsingComparator_2
def dkwJ4_getEntryUsingComparator_0 : List UInt8 := [43, 77, 42, 180, 0, 16, 78, 45, 198, 0, 64, 42, 180, 0, 101, 58, 4, 25, 4, 198, 0, 53, 45, 44]
abbrev dktJ4_getEntryUsingComparator_0 : List UInt8 := dkwJ4_getEntryUsingComparator_0 ++ dktJ4_getEntryUsingComparator_1
theorem dksJ4_getEntryUsingComparator_0 : cJ4_getEntryUsingComparator.data.toList.drop 0 = dktJ4_getEntryUsingComparator_0 := by decide +kernel
theorem dksJ4_getEntryUsingComparator_1 : cJ4_getEntryUsingComparator.data.toList.drop 24 = dktJ4_getEntryUsingComparator_1 := dk_seg dksJ4_getEntryUsingComparator_0 24 rfl rfl
theorem dksJ4_getEntryUsingComparator_2 : cJ4_getEntryUsingComparator.data.toList.drop 48 = dktJ4_getEntryUsingComparator_2 := dk_seg dksJ4_getEntryUsingComparator_1 24 rfl rfl
theorem dksJ4_getEntryUsingComparator_3 : cJ4_getEntryUsingComparator.data.toList.drop 72 = dktJ4_getEntryUsingComparator_3 := dk_seg dksJ4_getEntryUsingComparator_2 24 rfl rfl
theorem dJ4_getEntryUsingComparator_0 : decode cJ4_getEntryUsingComparator 0 = .ok (.aload_n 1, 1) := dk_43 (dk_at dksJ4_getEntryUsingComparator_0 0 rfl rfl)
theorem dJ4_getEntryUsingComparator_1 : decode cJ4_getEntryUsingComparator 1 = .ok (.astore_n 2, 1) := dk_77 (dk_at dksJ4_getEntryUsingComparator_0 1 rfl rfl)
theorem dJ4_getEntryUsingComparator_2 : decode cJ4_getEntryUsingComparator 2 = .ok (.aload_n 0, 1) := dk_42 (dk_at dksJ4_getEntryUsingComparator_0 2 rfl rfl)
theorem dJ4_getEntryUsingComparator_3 : decode cJ4_getEntryUsingComparator 3 = .ok (.getfield 16, 3) := dk_180 0 16 (dk_at dksJ4_getEntryUsingComparator_0 3 rfl rfl)
theorem dJ4_getEntryUsingComparator_6 : decode cJ4_getEntryUsingComparator 6 = .ok (.astore_n 3, 1) := dk_78 (dk_at dksJ4_getEntryUsingComparator_0 6 rfl rfl)
theorem dJ4_getEntryUsingComparator_7 : decode cJ4_getEntryUsingComparator 7 = .ok (.aload_n 3, 1) := dk_45 (dk_at dksJ4_getEntryUsingComparator_0 7 rfl rfl)
theorem dJ4_getEntryUsingComparator_8 : decode cJ4_getEntryUsingComparator 8 = .ok (.ifnull 64, 3) := dk_198 0 64 (dk_at dksJ4_getEntryUsingComparator_0 8 rfl rfl)
theorem dJ4_getEntryUsingComparator_11 : decode cJ4_getEntryUsingComparator 11 = .ok (.aload_n 0, 1) := dk_42 (dk_at dksJ4_getEntryUsingComparator_0 11 rfl rfl)
theorem dJ4_getEntryUsingComparator_12 : decode cJ4_getEntryUsingComparator 12 = .ok (.getfield 101, 3) := dk_180 0 101 (dk_at dksJ4_getEntryUsingComparator_0 12 rfl rfl)
theorem dJ4_getEntryUsingComparator_15 : decode cJ4_getEntryUsingComparator 15 = .ok (.astore 4, 2) := dk_58 4 (dk_at dksJ4_getEntryUsingComparator_0 15 rfl rfl)
theorem dJ4_getEntryUsingComparator_17 : decode cJ4_getEntryUsingComparator 17 = .ok (.aload 4, 2) := dk_25 4 (dk_at dksJ4_getEntryUsingComparator_0 17 rfl rfl)
theorem dJ4_getEntryUsingComparator_19 : decode cJ4_getEntryUsingComparator 19 = .ok (.ifnull 53, 3) := dk_198 0 53 (dk_at dksJ4_getEntryUsingComparator_0 19 rfl rfl)
theorem dJ4_getEntryUsingComparator_22 : decode cJ4_getEntryUsingComparator 22 = .ok (.aload_n 3, 1) := dk_45 (dk_at dksJ4_getEntryUsingComparator_0 22 rfl rfl)
theorem dJ4_getEntryUsingComparator_23 : decode cJ4_getEntryUsingComparator 23 = .ok (.aload_n 2, 1) := dk_44 (dk_at dksJ4_getEntryUsingComparator_0 23 rfl rfl)
theorem dJ4_getEntryUsingComparator_24 : decode cJ4_getEntryUsingComparator 24 = .ok (.aload 4, 2) := dk_25 4 (dk_at dksJ4_getEntryUsingComparator_1 0 rfl rfl)
theorem dJ4_getEntryUsingComparator_26 : decode cJ4_getEntryUsingComparator 26 = .ok (.getfield 105, 3) := dk_180 0 105 (dk_at dksJ4_getEntryUsingComparator_1 2 rfl rfl)
theorem dJ4_getEntryUsingComparator_29 : decode cJ4_getEntryUsingComparator 29 = .ok (.invokeinterface 117 3, 5) := by decide +kernel
theorem dJ4_getEntryUsingComparator_34 : decode cJ4_getEntryUsingComparator 34 = .ok (.istore 5, 2) := dk_54 5 (dk_at dksJ4_getEntryUsingComparator_1 10 rfl rfl)
theorem dJ4_getEntryUsingComparator_36 : decode cJ4_getEntryUsingComparator 36 = .ok (.iload 5, 2) := dk_21 5 (dk_at dksJ4_getEntryUsingComparator_1 12 rfl rfl)
theorem dJ4_getEntryUsingComparator_38 : decode cJ4_getEntryUsingComparator 38 = .ok (.ifCond .ge 13, 3) := dk_156 0 13 (dk_at dksJ4_getEntryUsingComparator_1 14 rfl rfl)
theorem dJ4_getEntryUsingComparator_41 : decode cJ4_getEntryUsingComparator 41 = .ok (.aload 4, 2) := dk_25 4 (dk_at dksJ4_getEntryUsingComparator_1 17 rfl rfl)
theorem dJ4_getEntryUsingComparator_43 : decode cJ4_getEntryUsingComparator 43 = .ok (.getfield 111, 3) := dk_180 0 111 (dk_at dksJ4_getEntryUsingComparator_1 19 rfl rfl)
theorem dJ4_getEntryUsingComparator_46 : decode cJ4_getEntryUsingComparator 46 = .ok (.astore 4, 2) := dk_58 4 (dk_at dksJ4_getEntryUsingComparator_1 22 rfl rfl)
theorem dJ4_getEntryUsingComparator_48 : decode cJ4_getEntryUsingComparator 48 = .ok (.goto 21, 3) := dk_167 0 21 (dk_at dksJ4_getEntryUsingComparator_2 0 rfl rfl)
theorem dJ4_getEntryUsingComparator_51 : decode cJ4_getEntryUsingComparator 51 = .ok (.iload 5, 2) := dk_21 5 (dk_at dksJ4_getEntryUsingComparator_2 3 rfl rfl)
theorem dJ4_getEntryUsingComparator_53 : decode cJ4_getEntryUsingComparator 53 = .ok (.ifCond .le 13, 3) := dk_158 0 13 (dk_at dksJ4_getEntryUsingComparator_2 5 rfl rfl)
theorem dJ4_getEntryUsingComparator_56 : decode cJ4_getEntryUsingComparator 56 = .ok (.aload 4, 2) := dk_25 4 (dk_at dksJ4_getEntryUsingComparator_2 8 rfl rfl)
theorem dJ4_getEntryUsingComparator_58 : decode cJ4_getEntryUsingComparator 58 = .ok (.getfield 114, 3) := dk_180 0 114 (dk_at dksJ4_getEntryUsingComparator_2 10 rfl rfl)
theorem dJ4_getEntryUsingComparator_61 : decode cJ4_getEntryUsingComparator 61 = .ok (.astore 4, 2) := dk_58 4 (dk_at dksJ4_getEntryUsingComparator_2 13 rfl rfl)
theorem dJ4_getEntryUsingComparator_63 : decode cJ4_getEntryUsingComparator 63 = .ok (.goto 6, 3) := dk_167 0 6 (dk_at dksJ4_getEntryUsingComparator_2 15 rfl rfl)
theorem dJ4_getEntryUsingComparator_66 : decode cJ4_getEntryUsingComparator 66 = .ok (.aload 4, 2) := dk_25 4 (dk_at dksJ4_getEntryUsingComparator_2 18 rfl rfl)
theorem dJ4_getEntryUsingComparator_68 : decode cJ4_getEntryUsingComparator 68 = .ok (.areturn, 1) := dk_176 (dk_at dksJ4_getEntryUsingComparator_2 20 rfl rfl)
theorem dJ4_getEntryUsingComparator_69 : decode cJ4_getEntryUsingComparator 69 = .ok (.goto (-52), 3) := dk_167 255 204 (dk_at dksJ4_getEntryUsingComparator_2 21 rfl rfl)
theorem dJ4_getEntryUsingComparator_72 : decode cJ4_getEntryUsingComparator 72 = .ok (.aconst_null, 1) := dk_1 (dk_at dksJ4_getEntryUsingComparator_3 0 rfl rfl)
theorem dJ4_getEntryUsingComparator_73 : decode cJ4_getEntryUsingComparator 73 = .ok (.areturn, 1) := dk_176 (dk_at dksJ4_getEntryUsingComparator_3 1 rfl rfl)
abbrev cJ4_deleteEntry : ByteArray := prog_75_method_84_code
def yJ4_deleteEntry : MethodName := ⟨RJ4, "deleteEntry", "(Ljava/util/TreeMap$Entry;)V"⟩
def dkwJ4_deleteEntry_10 : List UInt8 := [180, 0, 124, 1, 181, 0, 114, 43, 1, 181, 0, 124, 177]
abbrev dktJ4_deleteEntry_10 : List UInt8 := dkwJ4_deleteEntry_10 ++ []
def dkwJ4_deleteEntry_9 : List UInt8 := [180, 0, 124, 1, 181, 0, 111, 167, 0, 22, 43, 43, 180, 0, 124, 180, 0, 114, 166, 0, 11, 43]
abbrev dktJ4_deleteEntry_9 : List UInt8 := dkwJ4_deleteEntry_9 ++ dktJ4_deleteEntry_10
def dkwJ4_deleteEntry_8 : List UInt8 := [182, 1, 61, 43, 180, 0, 124, 198, 0, 49, 43, 43, 180, 0, 124, 180, 0, 111, 166, 0, 14, 43]
abbrev dktJ4_deleteEntry_8 : List UInt8 := dkwJ4_deleteEntry_8 ++ dktJ4_deleteEntry_9
def dkwJ4_deleteEntry_7 : List UInt8 := [180, 0, 124, 199, 0, 11, 42, 1, 181, 0, 101, 167, 0, 69, 43, 180, 1, 34, 4, 160, 0, 8, 42, 43]
abbrev dktJ4_deleteEntry_7 : List UInt8 := dkwJ4_deleteEntry_7 ++ dktJ4_deleteEntry_8
def dkwJ4_deleteEntry_6 : List UInt8 := [181, 0, 114, 181, 0, 111, 43, 180, 1, 34, 4, 160, 0, 92, 42, 44, 182, 1, 61, 167, 0, 84, 43]
abbrev dktJ4_deleteEntry_6 : List UInt8 := dkwJ4_deleteEntry_6 ++ dktJ4_deleteEntry_7
def dkwJ4_deleteEntry_5 : List UInt8 := [181, 0, 111, 167, 0, 11, 43, 180, 0, 124, 44, 181, 0, 114, 43, 43, 43, 1, 90, 181, 0, 124, 90]
abbrev dktJ4_deleteEntry_5 : List UInt8 := dkwJ4_deleteEntry_5 ++ dktJ4_deleteEntry_6
def dkwJ4_deleteEntry_4 : List UInt8 := [44, 181, 0, 101, 167, 0, 33, 43, 43, 180, 0, 124, 180, 0, 111, 166, 0, 14, 43, 180, 0, 124, 44]
abbrev dktJ4_deleteEntry_4 : List UInt8 := dkwJ4_deleteEntry_4 ++ dktJ4_deleteEntry_5
def dkwJ4_deleteEntry_3 : List UInt8 := [180, 0, 114, 77, 44, 198, 0, 87, 44, 43, 180, 0, 124, 181, 0, 124, 43, 180, 0, 124, 199, 0, 11, 42]
abbrev dktJ4_deleteEntry_3 : List UInt8 := dkwJ4_deleteEntry_3 ++ dktJ4_deleteEntry_4
def dkwJ4_deleteEntry_2 : List UInt8 := [44, 180, 0, 58, 181, 0, 58, 44, 76, 43, 180, 0, 111, 198, 0, 10, 43, 180, 0, 111, 167, 0, 7, 43]
abbrev dktJ4_deleteEntry_2 : List UInt8 := dkwJ4_deleteEntry_2 ++ dktJ4_deleteEntry_3
def dkwJ4_deleteEntry_1 : List UInt8 := [198, 0, 33, 43, 180, 0, 114, 198, 0, 26, 43, 184, 0, 68, 77, 43, 44, 180, 0, 105, 181, 0, 105, 43]
abbrev dktJ4_deleteEntry_1 : List UInt8 := dkwJ4_deleteEntry_1 ++ dktJ4_deleteEntry_2
def dkwJ4_deleteEntry_0 : List UInt8 := [42, 89, 180, 0, 13, 4, 96, 181, 0, 13, 42, 89, 180, 0, 7, 4, 100, 181, 0, 7, 43, 180, 0, 111]
abbrev dktJ4_deleteEntry_0 : List UInt8 := dkwJ4_deleteEntry_0 ++ dktJ4_deleteEntry_1
theorem dksJ4_deleteEntry_0 : cJ4_deleteEntry.data.toList.drop 0 = dktJ4_deleteEntry_0 := by decide +kernel
theorem dksJ4_deleteEntry_1 : cJ4_deleteEntry.data.toList.drop 24 = dktJ4_deleteEntry_1 := dk_seg dksJ4_deleteEntry_0 24 rfl rfl
theorem dksJ4_deleteEntry_2 : cJ4_deleteEntry.data.toList.drop 48 = dktJ4_deleteEntry_2 := dk_seg dksJ4_deleteEntry_1 24 rfl rfl
theorem dksJ4_deleteEntry_3 : cJ4_deleteEntry.data.toList.drop 72 = dktJ4_deleteEntry_3 := dk_seg dksJ4_deleteEntry_2 24 rfl rfl
theorem dksJ4_deleteEntry_4 : cJ4_deleteEntry.data.toList.drop 96 = dktJ4_deleteEntry_4 := dk_seg dksJ4_deleteEntry_3 24 rfl rfl
theorem dksJ4_deleteEntry_5 : cJ4_deleteEntry.data.toList.drop 119 = dktJ4_deleteEntry_5 := dk_seg dksJ4_deleteEntry_4 23 rfl rfl
theorem dksJ4_deleteEntry_6 : cJ4_deleteEntry.data.toList.drop 142 = dktJ4_deleteEntry_6 := dk_seg dksJ4_deleteEntry_5 23 rfl rfl
theorem dksJ4_deleteEntry_7 : cJ4_deleteEntry.data.toList.drop 165 = dktJ4_deleteEntry_7 := dk_seg dksJ4_deleteEntry_6 23 rfl rfl
theorem dksJ4_deleteEntry_8 : cJ4_deleteEntry.data.toList.drop 189 = dktJ4_deleteEntry_8 := dk_seg dksJ4_deleteEntry_7 24 rfl rfl
theorem dksJ4_deleteEntry_9 : cJ4_deleteEntry.data.toList.drop 211 = dktJ4_deleteEntry_9 := dk_seg dksJ4_deleteEntry_8 22 rfl rfl
theorem dksJ4_deleteEntry_10 : cJ4_deleteEntry.data.toList.drop 233 = dktJ4_deleteEntry_10 := dk_seg dksJ4_deleteEntry_9 22 rfl rfl
theorem dJ4_deleteEntry_0 : decode cJ4_deleteEntry 0 = .ok (.aload_n 0, 1) := dk_42 (dk_at dksJ4_deleteEntry_0 0 rfl rfl)
theorem dJ4_deleteEntry_1 : decode cJ4_deleteEntry 1 = .ok (.dup, 1) := dk_89 (dk_at dksJ4_deleteEntry_0 1 rfl rfl)
theorem dJ4_deleteEntry_2 : decode cJ4_deleteEntry 2 = .ok (.getfield 13, 3) := dk_180 0 13 (dk_at dksJ4_deleteEntry_0 2 rfl rfl)
theorem dJ4_deleteEntry_5 : decode cJ4_deleteEntry 5 = .ok (.iconst 1, 1) := dk_4 (dk_at dksJ4_deleteEntry_0 5 rfl rfl)
theorem dJ4_deleteEntry_6 : decode cJ4_deleteEntry 6 = .ok (.iadd, 1) := dk_96 (dk_at dksJ4_deleteEntry_0 6 rfl rfl)
theorem dJ4_deleteEntry_7 : decode cJ4_deleteEntry 7 = .ok (.putfield 13, 3) := dk_181 0 13 (dk_at dksJ4_deleteEntry_0 7 rfl rfl)
theorem dJ4_deleteEntry_10 : decode cJ4_deleteEntry 10 = .ok (.aload_n 0, 1) := dk_42 (dk_at dksJ4_deleteEntry_0 10 rfl rfl)
theorem dJ4_deleteEntry_11 : decode cJ4_deleteEntry 11 = .ok (.dup, 1) := dk_89 (dk_at dksJ4_deleteEntry_0 11 rfl rfl)
theorem dJ4_deleteEntry_12 : decode cJ4_deleteEntry 12 = .ok (.getfield 7, 3) := dk_180 0 7 (dk_at dksJ4_deleteEntry_0 12 rfl rfl)
theorem dJ4_deleteEntry_15 : decode cJ4_deleteEntry 15 = .ok (.iconst 1, 1) := dk_4 (dk_at dksJ4_deleteEntry_0 15 rfl rfl)
theorem dJ4_deleteEntry_16 : decode cJ4_deleteEntry 16 = .ok (.isub, 1) := dk_100 (dk_at dksJ4_deleteEntry_0 16 rfl rfl)
theorem dJ4_deleteEntry_17 : decode cJ4_deleteEntry 17 = .ok (.putfield 7, 3) := dk_181 0 7 (dk_at dksJ4_deleteEntry_0 17 rfl rfl)
theorem dJ4_deleteEntry_20 : decode cJ4_deleteEntry 20 = .ok (.aload_n 1, 1) := dk_43 (dk_at dksJ4_deleteEntry_0 20 rfl rfl)
theorem dJ4_deleteEntry_21 : decode cJ4_deleteEntry 21 = .ok (.getfield 111, 3) := dk_180 0 111 (dk_at dksJ4_deleteEntry_0 21 rfl rfl)
theorem dJ4_deleteEntry_24 : decode cJ4_deleteEntry 24 = .ok (.ifnull 33, 3) := dk_198 0 33 (dk_at dksJ4_deleteEntry_1 0 rfl rfl)
theorem dJ4_deleteEntry_27 : decode cJ4_deleteEntry 27 = .ok (.aload_n 1, 1) := dk_43 (dk_at dksJ4_deleteEntry_1 3 rfl rfl)
theorem dJ4_deleteEntry_28 : decode cJ4_deleteEntry 28 = .ok (.getfield 114, 3) := dk_180 0 114 (dk_at dksJ4_deleteEntry_1 4 rfl rfl)
theorem dJ4_deleteEntry_31 : decode cJ4_deleteEntry 31 = .ok (.ifnull 26, 3) := dk_198 0 26 (dk_at dksJ4_deleteEntry_1 7 rfl rfl)
theorem dJ4_deleteEntry_34 : decode cJ4_deleteEntry 34 = .ok (.aload_n 1, 1) := dk_43 (dk_at dksJ4_deleteEntry_1 10 rfl rfl)
theorem dJ4_deleteEntry_35 : decode cJ4_deleteEntry 35 = .ok (.invokestatic 68, 3) := dk_184 0 68 (dk_at dksJ4_deleteEntry_1 11 rfl rfl)
theorem dJ4_deleteEntry_38 : decode cJ4_deleteEntry 38 = .ok (.astore_n 2, 1) := dk_77 (dk_at dksJ4_deleteEntry_1 14 rfl rfl)
theorem dJ4_deleteEntry_39 : decode cJ4_deleteEntry 39 = .ok (.aload_n 1, 1) := dk_43 (dk_at dksJ4_deleteEntry_1 15 rfl rfl)
theorem dJ4_deleteEntry_40 : decode cJ4_deleteEntry 40 = .ok (.aload_n 2, 1) := dk_44 (dk_at dksJ4_deleteEntry_1 16 rfl rfl)
theorem dJ4_deleteEntry_41 : decode cJ4_deleteEntry 41 = .ok (.getfield 105, 3) := dk_180 0 105 (dk_at dksJ4_deleteEntry_1 17 rfl rfl)
theorem dJ4_deleteEntry_44 : decode cJ4_deleteEntry 44 = .ok (.putfield 105, 3) := dk_181 0 105 (dk_at dksJ4_deleteEntry_1 20 rfl rfl)
theorem dJ4_deleteEntry_47 : decode cJ4_deleteEntry 47 = .ok (.aload_n 1, 1) := dk_43 (dk_at dksJ4_deleteEntry_1 23 rfl rfl)
theorem dJ4_deleteEntry_48 : decode cJ4_deleteEntry 48 = .ok (.aload_n 2, 1) := dk_44 (dk_at dksJ4_deleteEntry_2 0 rfl rfl)
theorem dJ4_deleteEntry_49 : decode cJ4_deleteEntry 49 = .ok (.getfield 58, 3) := dk_180 0 58 (dk_at dksJ4_deleteEntry_2 1 rfl rfl)
theorem dJ4_deleteEntry_52 : decode cJ4_deleteEntry 52 = .ok (.putfield 58, 3) := dk_181 0 58 (dk_at dksJ4_deleteEntry_2 4 rfl rfl)
theorem dJ4_deleteEntry_55 : decode cJ4_deleteEntry 55 = .ok (.aload_n 2, 1) := dk_44 (dk_at dksJ4_deleteEntry_2 7 rfl rfl)
theorem dJ4_deleteEntry_56 : decode cJ4_deleteEntry 56 = .ok (.astore_n 1, 1) := dk_76 (dk_at dksJ4_deleteEntry_2 8 rfl rfl)
theorem dJ4_deleteEntry_57 : decode cJ4_deleteEntry 57 = .ok (.aload_n 1, 1) := dk_43 (dk_at dksJ4_deleteEntry_2 9 rfl rfl)
theorem dJ4_deleteEntry_58 : decode cJ4_deleteEntry 58 = .ok (.getfield 111, 3) := dk_180 0 111 (dk_at dksJ4_deleteEntry_2 10 rfl rfl)
theorem dJ4_deleteEntry_61 : decode cJ4_deleteEntry 61 = .ok (.ifnull 10, 3) := dk_198 0 10 (dk_at dksJ4_deleteEntry_2 13 rfl rfl)
theorem dJ4_deleteEntry_64 : decode cJ4_deleteEntry 64 = .ok (.aload_n 1, 1) := dk_43 (dk_at dksJ4_deleteEntry_2 16 rfl rfl)
theorem dJ4_deleteEntry_65 : decode cJ4_deleteEntry 65 = .ok (.getfield 111, 3) := dk_180 0 111 (dk_at dksJ4_deleteEntry_2 17 rfl rfl)
theorem dJ4_deleteEntry_68 : decode cJ4_deleteEntry 68 = .ok (.goto 7, 3) := dk_167 0 7 (dk_at dksJ4_deleteEntry_2 20 rfl rfl)
theorem dJ4_deleteEntry_71 : decode cJ4_deleteEntry 71 = .ok (.aload_n 1, 1) := dk_43 (dk_at dksJ4_deleteEntry_2 23 rfl rfl)
theorem dJ4_deleteEntry_72 : decode cJ4_deleteEntry 72 = .ok (.getfield 114, 3) := dk_180 0 114 (dk_at dksJ4_deleteEntry_3 0 rfl rfl)
theorem dJ4_deleteEntry_75 : decode cJ4_deleteEntry 75 = .ok (.astore_n 2, 1) := dk_77 (dk_at dksJ4_deleteEntry_3 3 rfl rfl)
theorem dJ4_deleteEntry_76 : decode cJ4_deleteEntry 76 = .ok (.aload_n 2, 1) := dk_44 (dk_at dksJ4_deleteEntry_3 4 rfl rfl)
theorem dJ4_deleteEntry_77 : decode cJ4_deleteEntry 77 = .ok (.ifnull 87, 3) := dk_198 0 87 (dk_at dksJ4_deleteEntry_3 5 rfl rfl)
theorem dJ4_deleteEntry_80 : decode cJ4_deleteEntry 80 = .ok (.aload_n 2, 1) := dk_44 (dk_at dksJ4_deleteEntry_3 8 rfl rfl)
theorem dJ4_deleteEntry_81 : decode cJ4_deleteEntry 81 = .ok (.aload_n 1, 1) := dk_43 (dk_at dksJ4_deleteEntry_3 9 rfl rfl)
theorem dJ4_deleteEntry_82 : decode cJ4_deleteEntry 82 = .ok (.getfield 124, 3) := dk_180 0 124 (dk_at dksJ4_deleteEntry_3 10 rfl rfl)
theorem dJ4_deleteEntry_85 : decode cJ4_deleteEntry 85 = .ok (.putfield 124, 3) := dk_181 0 124 (dk_at dksJ4_deleteEntry_3 13 rfl rfl)
theorem dJ4_deleteEntry_88 : decode cJ4_deleteEntry 88 = .ok (.aload_n 1, 1) := dk_43 (dk_at dksJ4_deleteEntry_3 16 rfl rfl)
theorem dJ4_deleteEntry_89 : decode cJ4_deleteEntry 89 = .ok (.getfield 124, 3) := dk_180 0 124 (dk_at dksJ4_deleteEntry_3 17 rfl rfl)
theorem dJ4_deleteEntry_92 : decode cJ4_deleteEntry 92 = .ok (.ifnonnull 11, 3) := dk_199 0 11 (dk_at dksJ4_deleteEntry_3 20 rfl rfl)
theorem dJ4_deleteEntry_95 : decode cJ4_deleteEntry 95 = .ok (.aload_n 0, 1) := dk_42 (dk_at dksJ4_deleteEntry_3 23 rfl rfl)
theorem dJ4_deleteEntry_96 : decode cJ4_deleteEntry 96 = .ok (.aload_n 2, 1) := dk_44 (dk_at dksJ4_deleteEntry_4 0 rfl rfl)
theorem dJ4_deleteEntry_97 : decode cJ4_deleteEntry 97 = .ok (.putfield 101, 3) := dk_181 0 101 (dk_at dksJ4_deleteEntry_4 1 rfl rfl)
theorem dJ4_deleteEntry_100 : decode cJ4_deleteEntry 100 = .ok (.goto 33, 3) := dk_167 0 33 (dk_at dksJ4_deleteEntry_4 4 rfl rfl)
theorem dJ4_deleteEntry_103 : decode cJ4_deleteEntry 103 = .ok (.aload_n 1, 1) := dk_43 (dk_at dksJ4_deleteEntry_4 7 rfl rfl)
theorem dJ4_deleteEntry_104 : decode cJ4_deleteEntry 104 = .ok (.aload_n 1, 1) := dk_43 (dk_at dksJ4_deleteEntry_4 8 rfl rfl)
theorem dJ4_deleteEntry_105 : decode cJ4_deleteEntry 105 = .ok (.getfield 124, 3) := dk_180 0 124 (dk_at dksJ4_deleteEntry_4 9 rfl rfl)
theorem dJ4_deleteEntry_108 : decode cJ4_deleteEntry 108 = .ok (.getfield 111, 3) := dk_180 0 111 (dk_at dksJ4_deleteEntry_4 12 rfl rfl)
theorem dJ4_deleteEntry_111 : decode cJ4_deleteEntry 111 = .ok (.if_acmp .ne 14, 3) := dk_166 0 14 (dk_at dksJ4_deleteEntry_4 15 rfl rfl)
theorem dJ4_deleteEntry_114 : decode cJ4_deleteEntry 114 = .ok (.aload_n 1, 1) := dk_43 (dk_at dksJ4_deleteEntry_4 18 rfl rfl)
theorem dJ4_deleteEntry_115 : decode cJ4_deleteEntry 115 = .ok (.getfield 124, 3) := dk_180 0 124 (dk_at dksJ4_deleteEntry_4 19 rfl rfl)
theorem dJ4_deleteEntry_118 : decode cJ4_deleteEntry 118 = .ok (.aload_n 2, 1) := dk_44 (dk_at dksJ4_deleteEntry_4 22 rfl rfl)
theorem dJ4_deleteEntry_119 : decode cJ4_deleteEntry 119 = .ok (.putfield 111, 3) := dk_181 0 111 (dk_at dksJ4_deleteEntry_5 0 rfl rfl)
theorem dJ4_deleteEntry_122 : decode cJ4_deleteEntry 122 = .ok (.goto 11, 3) := dk_167 0 11 (dk_at dksJ4_deleteEntry_5 3 rfl rfl)
theorem dJ4_deleteEntry_125 : decode cJ4_deleteEntry 125 = .ok (.aload_n 1, 1) := dk_43 (dk_at dksJ4_deleteEntry_5 6 rfl rfl)
theorem dJ4_deleteEntry_126 : decode cJ4_deleteEntry 126 = .ok (.getfield 124, 3) := dk_180 0 124 (dk_at dksJ4_deleteEntry_5 7 rfl rfl)
theorem dJ4_deleteEntry_129 : decode cJ4_deleteEntry 129 = .ok (.aload_n 2, 1) := dk_44 (dk_at dksJ4_deleteEntry_5 10 rfl rfl)
theorem dJ4_deleteEntry_130 : decode cJ4_deleteEntry 130 = .ok (.putfield 114, 3) := dk_181 0 114 (dk_at dksJ4_deleteEntry_5 11 rfl rfl)
theorem dJ4_deleteEntry_133 : decode cJ4_deleteEntry 133 = .ok (.aload_n 1, 1) := dk_43 (dk_at dksJ4_deleteEntry_5 14 rfl rfl)
theorem dJ4_deleteEntry_134 : decode cJ4_deleteEntry 134 = .ok (.aload_n 1, 1) := dk_43 (dk_at dksJ4_deleteEntry_5 15 rfl rfl)
theorem dJ4_deleteEntry_135 : decode cJ4_deleteEntry 135 = .ok (.aload_n 1, 1) := dk_43 (dk_at dksJ4_deleteEntry_5 16 rfl rfl)
theorem dJ4_deleteEntry_136 : decode cJ4_deleteEntry 136 = .ok (.aconst_null, 1) := dk_1 (dk_at dksJ4_deleteEntry_5 17 rfl rfl)
theorem dJ4_deleteEntry_137 : decode cJ4_deleteEntry 137 = .ok (.dup_x1, 1) := dk_90 (dk_at dksJ4_deleteEntry_5 18 rfl rfl)
theorem dJ4_deleteEntry_138 : decode cJ4_deleteEntry 138 = .ok (.putfield 124, 3) := dk_181 0 124 (dk_at dksJ4_deleteEntry_5 19 rfl rfl)
theorem dJ4_deleteEntry_141 : decode cJ4_deleteEntry 141 = .ok (.dup_x1, 1) := dk_90 (dk_at dksJ4_deleteEntry_5 22 rfl rfl)
theorem dJ4_deleteEntry_142 : decode cJ4_deleteEntry 142 = .ok (.putfield 114, 3) := dk_181 0 114 (dk_at dksJ4_deleteEntry_6 0 rfl rfl)
theorem dJ4_deleteEntry_145 : decode cJ4_deleteEntry 145 = .ok (.putfield 111, 3) := dk_181 0 111 (dk_at dksJ4_deleteEntry_6 3 rfl rfl)
theorem dJ4_deleteEntry_148 : decode cJ4_deleteEntry 148 = .ok (.aload_n 1, 1) := dk_43 (dk_at dksJ4_deleteEntry_6 6 rfl rfl)
theorem dJ4_deleteEntry_149 : decode cJ4_deleteEntry 149 = .ok (.getfield 290, 3) := dk_180 1 34 (dk_at dksJ4_deleteEntry_6 7 rfl rfl)
theorem dJ4_deleteEntry_152 : decode cJ4_deleteEntry 152 = .ok (.iconst 1, 1) := dk_4 (dk_at dksJ4_deleteEntry_6 10 rfl rfl)
theorem dJ4_deleteEntry_153 : decode cJ4_deleteEntry 153 = .ok (.if_icmp .ne 92, 3) := dk_160 0 92 (dk_at dksJ4_deleteEntry_6 11 rfl rfl)
theorem dJ4_deleteEntry_156 : decode cJ4_deleteEntry 156 = .ok (.aload_n 0, 1) := dk_42 (dk_at dksJ4_deleteEntry_6 14 rfl rfl)
theorem dJ4_deleteEntry_157 : decode cJ4_deleteEntry 157 = .ok (.aload_n 2, 1) := dk_44 (dk_at dksJ4_deleteEntry_6 15 rfl rfl)
theorem dJ4_deleteEntry_158 : decode cJ4_deleteEntry 158 = .ok (.invokevirtual 317, 3) := dk_182 1 61 (dk_at dksJ4_deleteEntry_6 16 rfl rfl)
theorem dJ4_deleteEntry_161 : decode cJ4_deleteEntry 161 = .ok (.goto 84, 3) := dk_167 0 84 (dk_at dksJ4_deleteEntry_6 19 rfl rfl)
theorem dJ4_deleteEntry_164 : decode cJ4_deleteEntry 164 = .ok (.aload_n 1, 1) := dk_43 (dk_at dksJ4_deleteEntry_6 22 rfl rfl)
theorem dJ4_deleteEntry_165 : decode cJ4_deleteEntry 165 = .ok (.getfield 124, 3) := dk_180 0 124 (dk_at dksJ4_deleteEntry_7 0 rfl rfl)
theorem dJ4_deleteEntry_168 : decode cJ4_deleteEntry 168 = .ok (.ifnonnull 11, 3) := dk_199 0 11 (dk_at dksJ4_deleteEntry_7 3 rfl rfl)
theorem dJ4_deleteEntry_171 : decode cJ4_deleteEntry 171 = .ok (.aload_n 0, 1) := dk_42 (dk_at dksJ4_deleteEntry_7 6 rfl rfl)
theorem dJ4_deleteEntry_172 : decode cJ4_deleteEntry 172 = .ok (.aconst_null, 1) := dk_1 (dk_at dksJ4_deleteEntry_7 7 rfl rfl)
theorem dJ4_deleteEntry_173 : decode cJ4_deleteEntry 173 = .ok (.putfield 101, 3) := dk_181 0 101 (dk_at dksJ4_deleteEntry_7 8 rfl rfl)
theorem dJ4_deleteEntry_176 : decode cJ4_deleteEntry 176 = .ok (.goto 69, 3) := dk_167 0 69 (dk_at dksJ4_deleteEntry_7 11 rfl rfl)
theorem dJ4_deleteEntry_179 : decode cJ4_deleteEntry 179 = .ok (.aload_n 1, 1) := dk_43 (dk_at dksJ4_deleteEntry_7 14 rfl rfl)
theorem dJ4_deleteEntry_180 : decode cJ4_deleteEntry 180 = .ok (.getfield 290, 3) := dk_180 1 34 (dk_at dksJ4_deleteEntry_7 15 rfl rfl)
theorem dJ4_deleteEntry_183 : decode cJ4_deleteEntry 183 = .ok (.iconst 1, 1) := dk_4 (dk_at dksJ4_deleteEntry_7 18 rfl rfl)
theorem dJ4_deleteEntry_184 : decode cJ4_deleteEntry 184 = .ok (.if_icmp .ne 8, 3) := dk_160 0 8 (dk_at dksJ4_deleteEntry_7 19 rfl rfl)
theorem dJ4_deleteEntry_187 : decode cJ4_deleteEntry 187 = .ok (.aload_n 0, 1) := dk_42 (dk_at dksJ4_deleteEntry_7 22 rfl rfl)
theorem dJ4_deleteEntry_188 : decode cJ4_deleteEntry 188 = .ok (.aload_n 1, 1) := dk_43 (dk_at dksJ4_deleteEntry_7 23 rfl rfl)
theorem dJ4_deleteEntry_189 : decode cJ4_deleteEntry 189 = .ok (.invokevirtual 317, 3) := dk_182 1 61 (dk_at dksJ4_deleteEntry_8 0 rfl rfl)
theorem dJ4_deleteEntry_192 : decode cJ4_deleteEntry 192 = .ok (.aload_n 1, 1) := dk_43 (dk_at dksJ4_deleteEntry_8 3 rfl rfl)
theorem dJ4_deleteEntry_193 : decode cJ4_deleteEntry 193 = .ok (.getfield 124, 3) := dk_180 0 124 (dk_at dksJ4_deleteEntry_8 4 rfl rfl)
theorem dJ4_deleteEntry_196 : decode cJ4_deleteEntry 196 = .ok (.ifnull 49, 3) := dk_198 0 49 (dk_at dksJ4_deleteEntry_8 7 rfl rfl)
theorem dJ4_deleteEntry_199 : decode cJ4_deleteEntry 199 = .ok (.aload_n 1, 1) := dk_43 (dk_at dksJ4_deleteEntry_8 10 rfl rfl)
theorem dJ4_deleteEntry_200 : decode cJ4_deleteEntry 200 = .ok (.aload_n 1, 1) := dk_43 (dk_at dksJ4_deleteEntry_8 11 rfl rfl)
theorem dJ4_deleteEntry_201 : decode cJ4_deleteEntry 201 = .ok (.getfield 124, 3) := dk_180 0 124 (dk_at dksJ4_deleteEntry_8 12 rfl rfl)
theorem dJ4_deleteEntry_204 : decode cJ4_deleteEntry 204 = .ok (.getfield 111, 3) := dk_180 0 111 (dk_at dksJ4_deleteEntry_8 15 rfl rfl)
theorem dJ4_deleteEntry_207 : decode cJ4_deleteEntry 207 = .ok (.if_acmp .ne 14, 3) := dk_166 0 14 (dk_at dksJ4_deleteEntry_8 18 rfl rfl)
theorem dJ4_deleteEntry_210 : decode cJ4_deleteEntry 210 = .ok (.aload_n 1, 1) := dk_43 (dk_at dksJ4_deleteEntry_8 21 rfl rfl)
theorem dJ4_deleteEntry_211 : decode cJ4_deleteEntry 211 = .ok (.getfield 124, 3) := dk_180 0 124 (dk_at dksJ4_deleteEntry_9 0 rfl rfl)
theorem dJ4_deleteEntry_214 : decode cJ4_deleteEntry 214 = .ok (.aconst_null, 1) := dk_1 (dk_at dksJ4_deleteEntry_9 3 rfl rfl)
theorem dJ4_deleteEntry_215 : decode cJ4_deleteEntry 215 = .ok (.putfield 111, 3) := dk_181 0 111 (dk_at dksJ4_deleteEntry_9 4 rfl rfl)
theorem dJ4_deleteEntry_218 : decode cJ4_deleteEntry 218 = .ok (.goto 22, 3) := dk_167 0 22 (dk_at dksJ4_deleteEntry_9 7 rfl rfl)
theorem dJ4_deleteEntry_221 : decode cJ4_deleteEntry 221 = .ok (.aload_n 1, 1) := dk_43 (dk_at dksJ4_deleteEntry_9 10 rfl rfl)
theorem dJ4_deleteEntry_222 : decode cJ4_deleteEntry 222 = .ok (.aload_n 1, 1) := dk_43 (dk_at dksJ4_deleteEntry_9 11 rfl rfl)
theorem dJ4_deleteEntry_223 : decode cJ4_deleteEntry 223 = .ok (.getfield 124, 3) := dk_180 0 124 (dk_at dksJ4_deleteEntry_9 12 rfl rfl)
theorem dJ4_deleteEntry_226 : decode cJ4_deleteEntry 226 = .ok (.getfield 114, 3) := dk_180 0 114 (dk_at dksJ4_deleteEntry_9 15 rfl rfl)
theorem dJ4_deleteEntry_229 : decode cJ4_deleteEntry 229 = .ok (.if_acmp .ne 11, 3) := dk_166 0 11 (dk_at dksJ4_deleteEntry_9 18 rfl rfl)
theorem dJ4_deleteEntry_232 : decode cJ4_deleteEntry 232 = .ok (.aload_n 1, 1) := dk_43 (dk_at dksJ4_deleteEntry_9 21 rfl rfl)
theorem dJ4_deleteEntry_233 : decode cJ4_deleteEntry 233 = .ok (.getfield 124, 3) := dk_180 0 124 (dk_at dksJ4_deleteEntry_10 0 rfl rfl)
theorem dJ4_deleteEntry_236 : decode cJ4_deleteEntry 236 = .ok (.aconst_null, 1) := dk_1 (dk_at dksJ4_deleteEntry_10 3 rfl rfl)
theorem dJ4_deleteEntry_237 : decode cJ4_deleteEntry 237 = .ok (.putfield 114, 3) := dk_181 0 114 (dk_at dksJ4_deleteEntry_10 4 rfl rfl)
theorem dJ4_deleteEntry_240 : decode cJ4_deleteEntry 240 = .ok (.aload_n 1, 1) := dk_43 (dk_at dksJ4_deleteEntry_10 7 rfl rfl)
theorem dJ4_deleteEntry_241 : decode cJ4_deleteEntry 241 = .ok (.aconst_null, 1) := dk_1 (dk_at dksJ4_deleteEntry_10 8 rfl rfl)
theorem dJ4_deleteEntry_242 : decode cJ4_deleteEntry 242 = .ok (.putfield 124, 3) := dk_181 0 124 (dk_at dksJ4_deleteEntry_10 9 rfl rfl)
theorem dJ4_deleteEntry_245 : decode cJ4_deleteEntry 245 = .ok (.return_, 1) := dk_177 (dk_at dksJ4_deleteEntry_10 12 rfl rfl)
abbrev cJ4_fixAfterDeletion : ByteArray := prog_75_method_85_code
def yJ4_fixAfterDeletion : MethodName := ⟨RJ4, "fixAfterDeletion", "(Ljava/util/TreeMap$Entry;)V"⟩
def dkwJ4_fixAfterDeletion_14 : List UInt8 := [182, 1, 58, 42, 180, 0, 101, 76, 167, 254, 170, 43, 4, 184, 1, 51, 177]
abbrev dktJ4_fixAfterDeletion_14 : List UInt8 := dkwJ4_fixAfterDeletion_14 ++ []
def dkwJ4_fixAfterDeletion_13 : List UInt8 := [184, 1, 51, 43, 184, 1, 38, 4, 184, 1, 51, 44, 184, 1, 41, 4, 184, 1, 51, 42, 43, 184, 1, 38]
abbrev dktJ4_fixAfterDeletion_13 : List UInt8 := dkwJ4_fixAfterDeletion_13 ++ dktJ4_fixAfterDeletion_14
def dkwJ4_fixAfterDeletion_12 : List UInt8 := [184, 1, 51, 42, 44, 182, 1, 55, 43, 184, 1, 38, 184, 1, 41, 77, 44, 43, 184, 1, 38, 184, 1, 47]
abbrev dktJ4_fixAfterDeletion_12 : List UInt8 := dkwJ4_fixAfterDeletion_12 ++ dktJ4_fixAfterDeletion_13
def dkwJ4_fixAfterDeletion_11 : List UInt8 := [167, 0, 80, 44, 184, 1, 41, 184, 1, 47, 4, 160, 0, 29, 44, 184, 1, 44, 4, 184, 1, 51, 44, 3]
abbrev dktJ4_fixAfterDeletion_11 : List UInt8 := dkwJ4_fixAfterDeletion_11 ++ dktJ4_fixAfterDeletion_12
def dkwJ4_fixAfterDeletion_10 : List UInt8 := [160, 0, 27, 44, 184, 1, 41, 184, 1, 47, 4, 160, 0, 16, 44, 3, 184, 1, 51, 43, 184, 1, 38, 76]
abbrev dktJ4_fixAfterDeletion_10 : List UInt8 := dkwJ4_fixAfterDeletion_10 ++ dktJ4_fixAfterDeletion_11
def dkwJ4_fixAfterDeletion_9 : List UInt8 := [42, 43, 184, 1, 38, 182, 1, 58, 43, 184, 1, 38, 184, 1, 41, 77, 44, 184, 1, 44, 184, 1, 47, 4]
abbrev dktJ4_fixAfterDeletion_9 : List UInt8 := dkwJ4_fixAfterDeletion_9 ++ dktJ4_fixAfterDeletion_10
def dkwJ4_fixAfterDeletion_8 : List UInt8 := [184, 1, 41, 77, 44, 184, 1, 47, 154, 0, 32, 44, 4, 184, 1, 51, 43, 184, 1, 38, 3, 184, 1, 51]
abbrev dktJ4_fixAfterDeletion_8 : List UInt8 := dkwJ4_fixAfterDeletion_8 ++ dktJ4_fixAfterDeletion_9
def dkwJ4_fixAfterDeletion_7 : List UInt8 := [4, 184, 1, 51, 42, 43, 184, 1, 38, 182, 1, 55, 42, 180, 0, 101, 76, 167, 255, 73, 43, 184, 1, 38]
abbrev dktJ4_fixAfterDeletion_7 : List UInt8 := dkwJ4_fixAfterDeletion_7 ++ dktJ4_fixAfterDeletion_8
def dkwJ4_fixAfterDeletion_6 : List UInt8 := [77, 44, 43, 184, 1, 38, 184, 1, 47, 184, 1, 51, 43, 184, 1, 38, 4, 184, 1, 51, 44, 184, 1, 44]
abbrev dktJ4_fixAfterDeletion_6 : List UInt8 := dkwJ4_fixAfterDeletion_6 ++ dktJ4_fixAfterDeletion_7
def dkwJ4_fixAfterDeletion_5 : List UInt8 := [184, 1, 41, 4, 184, 1, 51, 44, 3, 184, 1, 51, 42, 44, 182, 1, 58, 43, 184, 1, 38, 184, 1, 44]
abbrev dktJ4_fixAfterDeletion_5 : List UInt8 := dkwJ4_fixAfterDeletion_5 ++ dktJ4_fixAfterDeletion_6
def dkwJ4_fixAfterDeletion_4 : List UInt8 := [184, 1, 51, 43, 184, 1, 38, 76, 167, 0, 80, 44, 184, 1, 44, 184, 1, 47, 4, 160, 0, 29, 44]
abbrev dktJ4_fixAfterDeletion_4 : List UInt8 := dkwJ4_fixAfterDeletion_4 ++ dktJ4_fixAfterDeletion_5
def dkwJ4_fixAfterDeletion_3 : List UInt8 := [184, 1, 41, 184, 1, 47, 4, 160, 0, 27, 44, 184, 1, 44, 184, 1, 47, 4, 160, 0, 16, 44, 3]
abbrev dktJ4_fixAfterDeletion_3 : List UInt8 := dkwJ4_fixAfterDeletion_3 ++ dktJ4_fixAfterDeletion_4
def dkwJ4_fixAfterDeletion_2 : List UInt8 := [184, 1, 38, 3, 184, 1, 51, 42, 43, 184, 1, 38, 182, 1, 55, 43, 184, 1, 38, 184, 1, 44, 77, 44]
abbrev dktJ4_fixAfterDeletion_2 : List UInt8 := dkwJ4_fixAfterDeletion_2 ++ dktJ4_fixAfterDeletion_3
def dkwJ4_fixAfterDeletion_1 : List UInt8 := [166, 0, 162, 43, 184, 1, 38, 184, 1, 44, 77, 44, 184, 1, 47, 154, 0, 32, 44, 4, 184, 1, 51, 43]
abbrev dktJ4_fixAfterDeletion_1 : List UInt8 := dkwJ4_fixAfterDeletion_1 ++ dktJ4_fixAfterDeletion_2
def dkwJ4_fixAfterDeletion_0 : List UInt8 := [43, 42, 180, 0, 101, 165, 1, 84, 43, 184, 1, 47, 4, 160, 1, 76, 43, 43, 184, 1, 38, 184, 1, 41]
abbrev dktJ4_fixAfterDeletion_0 : List UInt8 := dkwJ4_fixAfterDeletion_0 ++ dktJ4_fixAfterDeletion_1
theorem dksJ4_fixAfterDeletion_0 : cJ4_fixAfterDeletion.data.toList.drop 0 = dktJ4_fixAfterDeletion_0 := by decide +kernel
theorem dksJ4_fixAfterDeletion_1 : cJ4_fixAfterDeletion.data.toList.drop 24 = dktJ4_fixAfterDeletion_1 := dk_seg dksJ4_fixAfterDeletion_0 24 rfl rfl
theorem dksJ4_fixAfterDeletion_2 : cJ4_fixAfterDeletion.data.toList.drop 48 = dktJ4_fixAfterDeletion_2 := dk_seg dksJ4_fixAfterDeletion_1 24 rfl rfl
theorem dksJ4_fixAfterDeletion_3 : cJ4_fixAfterDeletion.data.toList.drop 72 = dktJ4_fixAfterDeletion_3 := dk_seg dksJ4_fixAfterDeletion_2 24 rfl rfl
theorem dksJ4_fixAfterDeletion_4 : cJ4_fixAfterDeletion.data.toList.drop 95 = dktJ4_fixAfterDeletion_4 := dk_seg dksJ4_fixAfterDeletion_3 23 rfl rfl
theorem dksJ4_fixAfterDeletion_5 : cJ4_fixAfterDeletion.data.toList.drop 118 = dktJ4_fixAfterDeletion_5 := dk_seg dksJ4_fixAfterDeletion_4 23 rfl rfl
theorem dksJ4_fixAfterDeletion_6 : cJ4_fixAfterDeletion.data.toList.drop 142 = dktJ4_fixAfterDeletion_6 := dk_seg dksJ4_fixAfterDeletion_5 24 rfl rfl
theorem dksJ4_fixAfterDeletion_7 : cJ4_fixAfterDeletion.data.toList.drop 166 = dktJ4_fixAfterDeletion_7 := dk_seg dksJ4_fixAfterDeletion_6 24 rfl rfl
theorem dksJ4_fixAfterDeletion_8 : cJ4_fixAfterDeletion.data.toList.drop 190 = dktJ4_fixAfterDeletion_8 := dk_seg dksJ4_fixAfterDeletion_7 24 rfl rfl
theorem dksJ4_fixAfterDeletion_9 : cJ4_fixAfterDeletion.data.toList.drop 214 = dktJ4_fixAfterDeletion_9 := dk_seg dksJ4_fixAfterDeletion_8 24 rfl rfl
theorem dksJ4_fixAfterDeletion_10 : cJ4_fixAfterDeletion.data.toList.drop 238 = dktJ4_fixAfterDeletion_10 := dk_seg dksJ4_fixAfterDeletion_9 24 rfl rfl
theorem dksJ4_fixAfterDeletion_11 : cJ4_fixAfterDeletion.data.toList.drop 262 = dktJ4_fixAfterDeletion_11 := dk_seg dksJ4_fixAfterDeletion_10 24 rfl rfl
theorem dksJ4_fixAfterDeletion_12 : cJ4_fixAfterDeletion.data.toList.drop 286 = dktJ4_fixAfterDeletion_12 := dk_seg dksJ4_fixAfterDeletion_11 24 rfl rfl
theorem dksJ4_fixAfterDeletion_13 : cJ4_fixAfterDeletion.data.toList.drop 310 = dktJ4_fixAfterDeletion_13 := dk_seg dksJ4_fixAfterDeletion_12 24 rfl rfl
theorem dksJ4_fixAfterDeletion_14 : cJ4_fixAfterDeletion.data.toList.drop 334 = dktJ4_fixAfterDeletion_14 := dk_seg dksJ4_fixAfterDeletion_13 24 rfl rfl
theorem dJ4_fixAfterDeletion_0 : decode cJ4_fixAfterDeletion 0 = .ok (.aload_n 1, 1) := dk_43 (dk_at dksJ4_fixAfterDeletion_0 0 rfl rfl)
theorem dJ4_fixAfterDeletion_1 : decode cJ4_fixAfterDeletion 1 = .ok (.aload_n 0, 1) := dk_42 (dk_at dksJ4_fixAfterDeletion_0 1 rfl rfl)
theorem dJ4_fixAfterDeletion_2 : decode cJ4_fixAfterDeletion 2 = .ok (.getfield 101, 3) := dk_180 0 101 (dk_at dksJ4_fixAfterDeletion_0 2 rfl rfl)
theorem dJ4_fixAfterDeletion_5 : decode cJ4_fixAfterDeletion 5 = .ok (.if_acmp .eq 340, 3) := dk_165 1 84 (dk_at dksJ4_fixAfterDeletion_0 5 rfl rfl)
theorem dJ4_fixAfterDeletion_8 : decode cJ4_fixAfterDeletion 8 = .ok (.aload_n 1, 1) := dk_43 (dk_at dksJ4_fixAfterDeletion_0 8 rfl rfl)
theorem dJ4_fixAfterDeletion_9 : decode cJ4_fixAfterDeletion 9 = .ok (.invokestatic 303, 3) := dk_184 1 47 (dk_at dksJ4_fixAfterDeletion_0 9 rfl rfl)
theorem dJ4_fixAfterDeletion_12 : decode cJ4_fixAfterDeletion 12 = .ok (.iconst 1, 1) := dk_4 (dk_at dksJ4_fixAfterDeletion_0 12 rfl rfl)
theorem dJ4_fixAfterDeletion_13 : decode cJ4_fixAfterDeletion 13 = .ok (.if_icmp .ne 332, 3) := dk_160 1 76 (dk_at dksJ4_fixAfterDeletion_0 13 rfl rfl)
theorem dJ4_fixAfterDeletion_16 : decode cJ4_fixAfterDeletion 16 = .ok (.aload_n 1, 1) := dk_43 (dk_at dksJ4_fixAfterDeletion_0 16 rfl rfl)
theorem dJ4_fixAfterDeletion_17 : decode cJ4_fixAfterDeletion 17 = .ok (.aload_n 1, 1) := dk_43 (dk_at dksJ4_fixAfterDeletion_0 17 rfl rfl)
theorem dJ4_fixAfterDeletion_18 : decode cJ4_fixAfterDeletion 18 = .ok (.invokestatic 294, 3) := dk_184 1 38 (dk_at dksJ4_fixAfterDeletion_0 18 rfl rfl)
theorem dJ4_fixAfterDeletion_21 : decode cJ4_fixAfterDeletion 21 = .ok (.invokestatic 297, 3) := dk_184 1 41 (dk_at dksJ4_fixAfterDeletion_0 21 rfl rfl)
theorem dJ4_fixAfterDeletion_24 : decode cJ4_fixAfterDeletion 24 = .ok (.if_acmp .ne 162, 3) := dk_166 0 162 (dk_at dksJ4_fixAfterDeletion_1 0 rfl rfl)
theorem dJ4_fixAfterDeletion_27 : decode cJ4_fixAfterDeletion 27 = .ok (.aload_n 1, 1) := dk_43 (dk_at dksJ4_fixAfterDeletion_1 3 rfl rfl)
theorem dJ4_fixAfterDeletion_28 : decode cJ4_fixAfterDeletion 28 = .ok (.invokestatic 294, 3) := dk_184 1 38 (dk_at dksJ4_fixAfterDeletion_1 4 rfl rfl)
theorem dJ4_fixAfterDeletion_31 : decode cJ4_fixAfterDeletion 31 = .ok (.invokestatic 300, 3) := dk_184 1 44 (dk_at dksJ4_fixAfterDeletion_1 7 rfl rfl)
theorem dJ4_fixAfterDeletion_34 : decode cJ4_fixAfterDeletion 34 = .ok (.astore_n 2, 1) := dk_77 (dk_at dksJ4_fixAfterDeletion_1 10 rfl rfl)
theorem dJ4_fixAfterDeletion_35 : decode cJ4_fixAfterDeletion 35 = .ok (.aload_n 2, 1) := dk_44 (dk_at dksJ4_fixAfterDeletion_1 11 rfl rfl)
theorem dJ4_fixAfterDeletion_36 : decode cJ4_fixAfterDeletion 36 = .ok (.invokestatic 303, 3) := dk_184 1 47 (dk_at dksJ4_fixAfterDeletion_1 12 rfl rfl)
theorem dJ4_fixAfterDeletion_39 : decode cJ4_fixAfterDeletion 39 = .ok (.ifCond .ne 32, 3) := dk_154 0 32 (dk_at dksJ4_fixAfterDeletion_1 15 rfl rfl)
theorem dJ4_fixAfterDeletion_42 : decode cJ4_fixAfterDeletion 42 = .ok (.aload_n 2, 1) := dk_44 (dk_at dksJ4_fixAfterDeletion_1 18 rfl rfl)
theorem dJ4_fixAfterDeletion_43 : decode cJ4_fixAfterDeletion 43 = .ok (.iconst 1, 1) := dk_4 (dk_at dksJ4_fixAfterDeletion_1 19 rfl rfl)
theorem dJ4_fixAfterDeletion_44 : decode cJ4_fixAfterDeletion 44 = .ok (.invokestatic 307, 3) := dk_184 1 51 (dk_at dksJ4_fixAfterDeletion_1 20 rfl rfl)
theorem dJ4_fixAfterDeletion_47 : decode cJ4_fixAfterDeletion 47 = .ok (.aload_n 1, 1) := dk_43 (dk_at dksJ4_fixAfterDeletion_1 23 rfl rfl)
theorem dJ4_fixAfterDeletion_48 : decode cJ4_fixAfterDeletion 48 = .ok (.invokestatic 294, 3) := dk_184 1 38 (dk_at dksJ4_fixAfterDeletion_2 0 rfl rfl)
theorem dJ4_fixAfterDeletion_51 : decode cJ4_fixAfterDeletion 51 = .ok (.iconst 0, 1) := dk_3 (dk_at dksJ4_fixAfterDeletion_2 3 rfl rfl)
theorem dJ4_fixAfterDeletion_52 : decode cJ4_fixAfterDeletion 52 = .ok (.invokestatic 307, 3) := dk_184 1 51 (dk_at dksJ4_fixAfterDeletion_2 4 rfl rfl)
theorem dJ4_fixAfterDeletion_55 : decode cJ4_fixAfterDeletion 55 = .ok (.aload_n 0, 1) := dk_42 (dk_at dksJ4_fixAfterDeletion_2 7 rfl rfl)
theorem dJ4_fixAfterDeletion_56 : decode cJ4_fixAfterDeletion 56 = .ok (.aload_n 1, 1) := dk_43 (dk_at dksJ4_fixAfterDeletion_2 8 rfl rfl)
theorem dJ4_fixAfterDeletion_57 : decode cJ4_fixAfterDeletion 57 = .ok (.invokestatic 294, 3) := dk_184 1 38 (dk_at dksJ4_fixAfterDeletion_2 9 rfl rfl)
theorem dJ4_fixAfterDeletion_60 : decode cJ4_fixAfterDeletion 60 = .ok (.invokevirtual 311, 3) := dk_182 1 55 (dk_at dksJ4_fixAfterDeletion_2 12 rfl rfl)
theorem dJ4_fixAfterDeletion_63 : decode cJ4_fixAfterDeletion 63 = .ok (.aload_n 1, 1) := dk_43 (dk_at dksJ4_fixAfterDeletion_2 15 rfl rfl)
theorem dJ4_fixAfterDeletion_64 : decode cJ4_fixAfterDeletion 64 = .ok (.invokestatic 294, 3) := dk_184 1 38 (dk_at dksJ4_fixAfterDeletion_2 16 rfl rfl)
theorem dJ4_fixAfterDeletion_67 : decode cJ4_fixAfterDeletion 67 = .ok (.invokestatic 300, 3) := dk_184 1 44 (dk_at dksJ4_fixAfterDeletion_2 19 rfl rfl)
theorem dJ4_fixAfterDeletion_70 : decode cJ4_fixAfterDeletion 70 = .ok (.astore_n 2, 1) := dk_77 (dk_at dksJ4_fixAfterDeletion_2 22 rfl rfl)
theorem dJ4_fixAfterDeletion_71 : decode cJ4_fixAfterDeletion 71 = .ok (.aload_n 2, 1) := dk_44 (dk_at dksJ4_fixAfterDeletion_2 23 rfl rfl)
theorem dJ4_fixAfterDeletion_72 : decode cJ4_fixAfterDeletion 72 = .ok (.invokestatic 297, 3) := dk_184 1 41 (dk_at dksJ4_fixAfterDeletion_3 0 rfl rfl)
theorem dJ4_fixAfterDeletion_75 : decode cJ4_fixAfterDeletion 75 = .ok (.invokestatic 303, 3) := dk_184 1 47 (dk_at dksJ4_fixAfterDeletion_3 3 rfl rfl)
theorem dJ4_fixAfterDeletion_78 : decode cJ4_fixAfterDeletion 78 = .ok (.iconst 1, 1) := dk_4 (dk_at dksJ4_fixAfterDeletion_3 6 rfl rfl)
theorem dJ4_fixAfterDeletion_79 : decode cJ4_fixAfterDeletion 79 = .ok (.if_icmp .ne 27, 3) := dk_160 0 27 (dk_at dksJ4_fixAfterDeletion_3 7 rfl rfl)
theorem dJ4_fixAfterDeletion_82 : decode cJ4_fixAfterDeletion 82 = .ok (.aload_n 2, 1) := dk_44 (dk_at dksJ4_fixAfterDeletion_3 10 rfl rfl)
theorem dJ4_fixAfterDeletion_83 : decode cJ4_fixAfterDeletion 83 = .ok (.invokestatic 300, 3) := dk_184 1 44 (dk_at dksJ4_fixAfterDeletion_3 11 rfl rfl)
theorem dJ4_fixAfterDeletion_86 : decode cJ4_fixAfterDeletion 86 = .ok (.invokestatic 303, 3) := dk_184 1 47 (dk_at dksJ4_fixAfterDeletion_3 14 rfl rfl)
theorem dJ4_fixAfterDeletion_89 : decode cJ4_fixAfterDeletion 89 = .ok (.iconst 1, 1) := dk_4 (dk_at dksJ4_fixAfterDeletion_3 17 rfl rfl)
theorem dJ4_fixAfterDeletion_90 : decode cJ4_fixAfterDeletion 90 = .ok (.if_icmp .ne 16, 3) := dk_160 0 16 (dk_at dksJ4_fixAfterDeletion_3 18 rfl rfl)
theorem dJ4_fixAfterDeletion_93 : decode cJ4_fixAfterDeletion 93 = .ok (.aload_n 2, 1) := dk_44 (dk_at dksJ4_fixAfterDeletion_3 21 rfl rfl)
theorem dJ4_fixAfterDeletion_94 : decode cJ4_fixAfterDeletion 94 = .ok (.iconst 0, 1) := dk_3 (dk_at dksJ4_fixAfterDeletion_3 22 rfl rfl)
theorem dJ4_fixAfterDeletion_95 : decode cJ4_fixAfterDeletion 95 = .ok (.invokestatic 307, 3) := dk_184 1 51 (dk_at dksJ4_fixAfterDeletion_4 0 rfl rfl)
theorem dJ4_fixAfterDeletion_98 : decode cJ4_fixAfterDeletion 98 = .ok (.aload_n 1, 1) := dk_43 (dk_at dksJ4_fixAfterDeletion_4 3 rfl rfl)
theorem dJ4_fixAfterDeletion_99 : decode cJ4_fixAfterDeletion 99 = .ok (.invokestatic 294, 3) := dk_184 1 38 (dk_at dksJ4_fixAfterDeletion_4 4 rfl rfl)
theorem dJ4_fixAfterDeletion_102 : decode cJ4_fixAfterDeletion 102 = .ok (.astore_n 1, 1) := dk_76 (dk_at dksJ4_fixAfterDeletion_4 7 rfl rfl)
theorem dJ4_fixAfterDeletion_103 : decode cJ4_fixAfterDeletion 103 = .ok (.goto 80, 3) := dk_167 0 80 (dk_at dksJ4_fixAfterDeletion_4 8 rfl rfl)
theorem dJ4_fixAfterDeletion_106 : decode cJ4_fixAfterDeletion 106 = .ok (.aload_n 2, 1) := dk_44 (dk_at dksJ4_fixAfterDeletion_4 11 rfl rfl)
theorem dJ4_fixAfterDeletion_107 : decode cJ4_fixAfterDeletion 107 = .ok (.invokestatic 300, 3) := dk_184 1 44 (dk_at dksJ4_fixAfterDeletion_4 12 rfl rfl)
theorem dJ4_fixAfterDeletion_110 : decode cJ4_fixAfterDeletion 110 = .ok (.invokestatic 303, 3) := dk_184 1 47 (dk_at dksJ4_fixAfterDeletion_4 15 rfl rfl)
theorem dJ4_fixAfterDeletion_113 : decode cJ4_fixAfterDeletion 113 = .ok (.iconst 1, 1) := dk_4 (dk_at dksJ4_fixAfterDeletion_4 18 rfl rfl)
theorem dJ4_fixAfterDeletion_114 : decode cJ4_fixAfterDeletion 114 = .ok (.if_icmp .ne 29, 3) := dk_160 0 29 (dk_at dksJ4_fixAfterDeletion_4 19 rfl rfl)
theorem dJ4_fixAfterDeletion_117 : decode cJ4_fixAfterDeletion 117 = .ok (.aload_n 2, 1) := dk_44 (dk_at dksJ4_fixAfterDeletion_4 22 rfl rfl)
theorem dJ4_fixAfterDeletion_118 : decode cJ4_fixAfterDeletion 118 = .ok (.invokestatic 297, 3) := dk_184 1 41 (dk_at dksJ4_fixAfterDeletion_5 0 rfl rfl)
theorem dJ4_fixAfterDeletion_121 : decode cJ4_fixAfterDeletion 121 = .ok (.iconst 1, 1) := dk_4 (dk_at dksJ4_fixAfterDeletion_5 3 rfl rfl)
theorem dJ4_fixAfterDeletion_122 : decode cJ4_fixAfterDeletion 122 = .ok (.invokestatic 307, 3) := dk_184 1 51 (dk_at dksJ4_fixAfterDeletion_5 4 rfl rfl)
theorem dJ4_fixAfterDeletion_125 : decode cJ4_fixAfterDeletion 125 = .ok (.aload_n 2, 1) := dk_44 (dk_at dksJ4_fixAfterDeletion_5 7 rfl rfl)
theorem dJ4_fixAfterDeletion_126 : decode cJ4_fixAfterDeletion 126 = .ok (.iconst 0, 1) := dk_3 (dk_at dksJ4_fixAfterDeletion_5 8 rfl rfl)
theorem dJ4_fixAfterDeletion_127 : decode cJ4_fixAfterDeletion 127 = .ok (.invokestatic 307, 3) := dk_184 1 51 (dk_at dksJ4_fixAfterDeletion_5 9 rfl rfl)
theorem dJ4_fixAfterDeletion_130 : decode cJ4_fixAfterDeletion 130 = .ok (.aload_n 0, 1) := dk_42 (dk_at dksJ4_fixAfterDeletion_5 12 rfl rfl)
theorem dJ4_fixAfterDeletion_131 : decode cJ4_fixAfterDeletion 131 = .ok (.aload_n 2, 1) := dk_44 (dk_at dksJ4_fixAfterDeletion_5 13 rfl rfl)
theorem dJ4_fixAfterDeletion_132 : decode cJ4_fixAfterDeletion 132 = .ok (.invokevirtual 314, 3) := dk_182 1 58 (dk_at dksJ4_fixAfterDeletion_5 14 rfl rfl)
theorem dJ4_fixAfterDeletion_135 : decode cJ4_fixAfterDeletion 135 = .ok (.aload_n 1, 1) := dk_43 (dk_at dksJ4_fixAfterDeletion_5 17 rfl rfl)
theorem dJ4_fixAfterDeletion_136 : decode cJ4_fixAfterDeletion 136 = .ok (.invokestatic 294, 3) := dk_184 1 38 (dk_at dksJ4_fixAfterDeletion_5 18 rfl rfl)
theorem dJ4_fixAfterDeletion_139 : decode cJ4_fixAfterDeletion 139 = .ok (.invokestatic 300, 3) := dk_184 1 44 (dk_at dksJ4_fixAfterDeletion_5 21 rfl rfl)
theorem dJ4_fixAfterDeletion_142 : decode cJ4_fixAfterDeletion 142 = .ok (.astore_n 2, 1) := dk_77 (dk_at dksJ4_fixAfterDeletion_6 0 rfl rfl)
theorem dJ4_fixAfterDeletion_143 : decode cJ4_fixAfterDeletion 143 = .ok (.aload_n 2, 1) := dk_44 (dk_at dksJ4_fixAfterDeletion_6 1 rfl rfl)
theorem dJ4_fixAfterDeletion_144 : decode cJ4_fixAfterDeletion 144 = .ok (.aload_n 1, 1) := dk_43 (dk_at dksJ4_fixAfterDeletion_6 2 rfl rfl)
theorem dJ4_fixAfterDeletion_145 : decode cJ4_fixAfterDeletion 145 = .ok (.invokestatic 294, 3) := dk_184 1 38 (dk_at dksJ4_fixAfterDeletion_6 3 rfl rfl)
theorem dJ4_fixAfterDeletion_148 : decode cJ4_fixAfterDeletion 148 = .ok (.invokestatic 303, 3) := dk_184 1 47 (dk_at dksJ4_fixAfterDeletion_6 6 rfl rfl)
theorem dJ4_fixAfterDeletion_151 : decode cJ4_fixAfterDeletion 151 = .ok (.invokestatic 307, 3) := dk_184 1 51 (dk_at dksJ4_fixAfterDeletion_6 9 rfl rfl)
theorem dJ4_fixAfterDeletion_154 : decode cJ4_fixAfterDeletion 154 = .ok (.aload_n 1, 1) := dk_43 (dk_at dksJ4_fixAfterDeletion_6 12 rfl rfl)
theorem dJ4_fixAfterDeletion_155 : decode cJ4_fixAfterDeletion 155 = .ok (.invokestatic 294, 3) := dk_184 1 38 (dk_at dksJ4_fixAfterDeletion_6 13 rfl rfl)
theorem dJ4_fixAfterDeletion_158 : decode cJ4_fixAfterDeletion 158 = .ok (.iconst 1, 1) := dk_4 (dk_at dksJ4_fixAfterDeletion_6 16 rfl rfl)
theorem dJ4_fixAfterDeletion_159 : decode cJ4_fixAfterDeletion 159 = .ok (.invokestatic 307, 3) := dk_184 1 51 (dk_at dksJ4_fixAfterDeletion_6 17 rfl rfl)
theorem dJ4_fixAfterDeletion_162 : decode cJ4_fixAfterDeletion 162 = .ok (.aload_n 2, 1) := dk_44 (dk_at dksJ4_fixAfterDeletion_6 20 rfl rfl)
theorem dJ4_fixAfterDeletion_163 : decode cJ4_fixAfterDeletion 163 = .ok (.invokestatic 300, 3) := dk_184 1 44 (dk_at dksJ4_fixAfterDeletion_6 21 rfl rfl)
theorem dJ4_fixAfterDeletion_166 : decode cJ4_fixAfterDeletion 166 = .ok (.iconst 1, 1) := dk_4 (dk_at dksJ4_fixAfterDeletion_7 0 rfl rfl)
theorem dJ4_fixAfterDeletion_167 : decode cJ4_fixAfterDeletion 167 = .ok (.invokestatic 307, 3) := dk_184 1 51 (dk_at dksJ4_fixAfterDeletion_7 1 rfl rfl)
theorem dJ4_fixAfterDeletion_170 : decode cJ4_fixAfterDeletion 170 = .ok (.aload_n 0, 1) := dk_42 (dk_at dksJ4_fixAfterDeletion_7 4 rfl rfl)
theorem dJ4_fixAfterDeletion_171 : decode cJ4_fixAfterDeletion 171 = .ok (.aload_n 1, 1) := dk_43 (dk_at dksJ4_fixAfterDeletion_7 5 rfl rfl)
theorem dJ4_fixAfterDeletion_172 : decode cJ4_fixAfterDeletion 172 = .ok (.invokestatic 294, 3) := dk_184 1 38 (dk_at dksJ4_fixAfterDeletion_7 6 rfl rfl)
theorem dJ4_fixAfterDeletion_175 : decode cJ4_fixAfterDeletion 175 = .ok (.invokevirtual 311, 3) := dk_182 1 55 (dk_at dksJ4_fixAfterDeletion_7 9 rfl rfl)
theorem dJ4_fixAfterDeletion_178 : decode cJ4_fixAfterDeletion 178 = .ok (.aload_n 0, 1) := dk_42 (dk_at dksJ4_fixAfterDeletion_7 12 rfl rfl)
theorem dJ4_fixAfterDeletion_179 : decode cJ4_fixAfterDeletion 179 = .ok (.getfield 101, 3) := dk_180 0 101 (dk_at dksJ4_fixAfterDeletion_7 13 rfl rfl)
theorem dJ4_fixAfterDeletion_182 : decode cJ4_fixAfterDeletion 182 = .ok (.astore_n 1, 1) := dk_76 (dk_at dksJ4_fixAfterDeletion_7 16 rfl rfl)
theorem dJ4_fixAfterDeletion_183 : decode cJ4_fixAfterDeletion 183 = .ok (.goto (-183), 3) := dk_167 255 73 (dk_at dksJ4_fixAfterDeletion_7 17 rfl rfl)
theorem dJ4_fixAfterDeletion_186 : decode cJ4_fixAfterDeletion 186 = .ok (.aload_n 1, 1) := dk_43 (dk_at dksJ4_fixAfterDeletion_7 20 rfl rfl)
theorem dJ4_fixAfterDeletion_187 : decode cJ4_fixAfterDeletion 187 = .ok (.invokestatic 294, 3) := dk_184 1 38 (dk_at dksJ4_fixAfterDeletion_7 21 rfl rfl)
theorem dJ4_fixAfterDeletion_190 : decode cJ4_fixAfterDeletion 190 = .ok (.invokestatic 297, 3) := dk_184 1 41 (dk_at dksJ4_fixAfterDeletion_8 0 rfl rfl)
theorem dJ4_fixAfterDeletion_193 : decode cJ4_fixAfterDeletion 193 = .ok (.astore_n 2, 1) := dk_77 (dk_at dksJ4_fixAfterDeletion_8 3 rfl rfl)
theorem dJ4_fixAfterDeletion_194 : decode cJ4_fixAfterDeletion 194 = .ok (.aload_n 2, 1) := dk_44 (dk_at dksJ4_fixAfterDeletion_8 4 rfl rfl)
theorem dJ4_fixAfterDeletion_195 : decode cJ4_fixAfterDeletion 195 = .ok (.invokestatic 303, 3) := dk_184 1 47 (dk_at dksJ4_fixAfterDeletion_8 5 rfl rfl)
theorem dJ4_fixAfterDeletion_198 : decode cJ4_fixAfterDeletion 198 = .ok (.ifCond .ne 32, 3) := dk_154 0 32 (dk_at dksJ4_fixAfterDeletion_8 8 rfl rfl)
theorem dJ4_fixAfterDeletion_201 : decode cJ4_fixAfterDeletion 201 = .ok (.aload_n 2, 1) := dk_44 (dk_at dksJ4_fixAfterDeletion_8 11 rfl rfl)
theorem dJ4_fixAfterDeletion_202 : decode cJ4_fixAfterDeletion 202 = .ok (.iconst 1, 1) := dk_4 (dk_at dksJ4_fixAfterDeletion_8 12 rfl rfl)
theorem dJ4_fixAfterDeletion_203 : decode cJ4_fixAfterDeletion 203 = .ok (.invokestatic 307, 3) := dk_184 1 51 (dk_at dksJ4_fixAfterDeletion_8 13 rfl rfl)
theorem dJ4_fixAfterDeletion_206 : decode cJ4_fixAfterDeletion 206 = .ok (.aload_n 1, 1) := dk_43 (dk_at dksJ4_fixAfterDeletion_8 16 rfl rfl)
theorem dJ4_fixAfterDeletion_207 : decode cJ4_fixAfterDeletion 207 = .ok (.invokestatic 294, 3) := dk_184 1 38 (dk_at dksJ4_fixAfterDeletion_8 17 rfl rfl)
theorem dJ4_fixAfterDeletion_210 : decode cJ4_fixAfterDeletion 210 = .ok (.iconst 0, 1) := dk_3 (dk_at dksJ4_fixAfterDeletion_8 20 rfl rfl)
theorem dJ4_fixAfterDeletion_211 : decode cJ4_fixAfterDeletion 211 = .ok (.invokestatic 307, 3) := dk_184 1 51 (dk_at dksJ4_fixAfterDeletion_8 21 rfl rfl)
theorem dJ4_fixAfterDeletion_214 : decode cJ4_fixAfterDeletion 214 = .ok (.aload_n 0, 1) := dk_42 (dk_at dksJ4_fixAfterDeletion_9 0 rfl rfl)
theorem dJ4_fixAfterDeletion_215 : decode cJ4_fixAfterDeletion 215 = .ok (.aload_n 1, 1) := dk_43 (dk_at dksJ4_fixAfterDeletion_9 1 rfl rfl)
theorem dJ4_fixAfterDeletion_216 : decode cJ4_fixAfterDeletion 216 = .ok (.invokestatic 294, 3) := dk_184 1 38 (dk_at dksJ4_fixAfterDeletion_9 2 rfl rfl)
theorem dJ4_fixAfterDeletion_219 : decode cJ4_fixAfterDeletion 219 = .ok (.invokevirtual 314, 3) := dk_182 1 58 (dk_at dksJ4_fixAfterDeletion_9 5 rfl rfl)
theorem dJ4_fixAfterDeletion_222 : decode cJ4_fixAfterDeletion 222 = .ok (.aload_n 1, 1) := dk_43 (dk_at dksJ4_fixAfterDeletion_9 8 rfl rfl)
theorem dJ4_fixAfterDeletion_223 : decode cJ4_fixAfterDeletion 223 = .ok (.invokestatic 294, 3) := dk_184 1 38 (dk_at dksJ4_fixAfterDeletion_9 9 rfl rfl)
theorem dJ4_fixAfterDeletion_226 : decode cJ4_fixAfterDeletion 226 = .ok (.invokestatic 297, 3) := dk_184 1 41 (dk_at dksJ4_fixAfterDeletion_9 12 rfl rfl)
theorem dJ4_fixAfterDeletion_229 : decode cJ4_fixAfterDeletion 229 = .ok (.astore_n 2, 1) := dk_77 (dk_at dksJ4_fixAfterDeletion_9 15 rfl rfl)
theorem dJ4_fixAfterDeletion_230 : decode cJ4_fixAfterDeletion 230 = .ok (.aload_n 2, 1) := dk_44 (dk_at dksJ4_fixAfterDeletion_9 16 rfl rfl)
theorem dJ4_fixAfterDeletion_231 : decode cJ4_fixAfterDeletion 231 = .ok (.invokestatic 300, 3) := dk_184 1 44 (dk_at dksJ4_fixAfterDeletion_9 17 rfl rfl)
theorem dJ4_fixAfterDeletion_234 : decode cJ4_fixAfterDeletion 234 = .ok (.invokestatic 303, 3) := dk_184 1 47 (dk_at dksJ4_fixAfterDeletion_9 20 rfl rfl)
theorem dJ4_fixAfterDeletion_237 : decode cJ4_fixAfterDeletion 237 = .ok (.iconst 1, 1) := dk_4 (dk_at dksJ4_fixAfterDeletion_9 23 rfl rfl)
theorem dJ4_fixAfterDeletion_238 : decode cJ4_fixAfterDeletion 238 = .ok (.if_icmp .ne 27, 3) := dk_160 0 27 (dk_at dksJ4_fixAfterDeletion_10 0 rfl rfl)
theorem dJ4_fixAfterDeletion_241 : decode cJ4_fixAfterDeletion 241 = .ok (.aload_n 2, 1) := dk_44 (dk_at dksJ4_fixAfterDeletion_10 3 rfl rfl)
theorem dJ4_fixAfterDeletion_242 : decode cJ4_fixAfterDeletion 242 = .ok (.invokestatic 297, 3) := dk_184 1 41 (dk_at dksJ4_fixAfterDeletion_10 4 rfl rfl)
theorem dJ4_fixAfterDeletion_245 : decode cJ4_fixAfterDeletion 245 = .ok (.invokestatic 303, 3) := dk_184 1 47 (dk_at dksJ4_fixAfterDeletion_10 7 rfl rfl)
theorem dJ4_fixAfterDeletion_248 : decode cJ4_fixAfterDeletion 248 = .ok (.iconst 1, 1) := dk_4 (dk_at dksJ4_fixAfterDeletion_10 10 rfl rfl)
theorem dJ4_fixAfterDeletion_249 : decode cJ4_fixAfterDeletion 249 = .ok (.if_icmp .ne 16, 3) := dk_160 0 16 (dk_at dksJ4_fixAfterDeletion_10 11 rfl rfl)
theorem dJ4_fixAfterDeletion_252 : decode cJ4_fixAfterDeletion 252 = .ok (.aload_n 2, 1) := dk_44 (dk_at dksJ4_fixAfterDeletion_10 14 rfl rfl)
theorem dJ4_fixAfterDeletion_253 : decode cJ4_fixAfterDeletion 253 = .ok (.iconst 0, 1) := dk_3 (dk_at dksJ4_fixAfterDeletion_10 15 rfl rfl)
theorem dJ4_fixAfterDeletion_254 : decode cJ4_fixAfterDeletion 254 = .ok (.invokestatic 307, 3) := dk_184 1 51 (dk_at dksJ4_fixAfterDeletion_10 16 rfl rfl)
theorem dJ4_fixAfterDeletion_257 : decode cJ4_fixAfterDeletion 257 = .ok (.aload_n 1, 1) := dk_43 (dk_at dksJ4_fixAfterDeletion_10 19 rfl rfl)
theorem dJ4_fixAfterDeletion_258 : decode cJ4_fixAfterDeletion 258 = .ok (.invokestatic 294, 3) := dk_184 1 38 (dk_at dksJ4_fixAfterDeletion_10 20 rfl rfl)
theorem dJ4_fixAfterDeletion_261 : decode cJ4_fixAfterDeletion 261 = .ok (.astore_n 1, 1) := dk_76 (dk_at dksJ4_fixAfterDeletion_10 23 rfl rfl)
theorem dJ4_fixAfterDeletion_262 : decode cJ4_fixAfterDeletion 262 = .ok (.goto 80, 3) := dk_167 0 80 (dk_at dksJ4_fixAfterDeletion_11 0 rfl rfl)
theorem dJ4_fixAfterDeletion_265 : decode cJ4_fixAfterDeletion 265 = .ok (.aload_n 2, 1) := dk_44 (dk_at dksJ4_fixAfterDeletion_11 3 rfl rfl)
theorem dJ4_fixAfterDeletion_266 : decode cJ4_fixAfterDeletion 266 = .ok (.invokestatic 297, 3) := dk_184 1 41 (dk_at dksJ4_fixAfterDeletion_11 4 rfl rfl)
theorem dJ4_fixAfterDeletion_269 : decode cJ4_fixAfterDeletion 269 = .ok (.invokestatic 303, 3) := dk_184 1 47 (dk_at dksJ4_fixAfterDeletion_11 7 rfl rfl)
theorem dJ4_fixAfterDeletion_272 : decode cJ4_fixAfterDeletion 272 = .ok (.iconst 1, 1) := dk_4 (dk_at dksJ4_fixAfterDeletion_11 10 rfl rfl)
theorem dJ4_fixAfterDeletion_273 : decode cJ4_fixAfterDeletion 273 = .ok (.if_icmp .ne 29, 3) := dk_160 0 29 (dk_at dksJ4_fixAfterDeletion_11 11 rfl rfl)
theorem dJ4_fixAfterDeletion_276 : decode cJ4_fixAfterDeletion 276 = .ok (.aload_n 2, 1) := dk_44 (dk_at dksJ4_fixAfterDeletion_11 14 rfl rfl)
theorem dJ4_fixAfterDeletion_277 : decode cJ4_fixAfterDeletion 277 = .ok (.invokestatic 300, 3) := dk_184 1 44 (dk_at dksJ4_fixAfterDeletion_11 15 rfl rfl)
theorem dJ4_fixAfterDeletion_280 : decode cJ4_fixAfterDeletion 280 = .ok (.iconst 1, 1) := dk_4 (dk_at dksJ4_fixAfterDeletion_11 18 rfl rfl)
theorem dJ4_fixAfterDeletion_281 : decode cJ4_fixAfterDeletion 281 = .ok (.invokestatic 307, 3) := dk_184 1 51 (dk_at dksJ4_fixAfterDeletion_11 19 rfl rfl)
theorem dJ4_fixAfterDeletion_284 : decode cJ4_fixAfterDeletion 284 = .ok (.aload_n 2, 1) := dk_44 (dk_at dksJ4_fixAfterDeletion_11 22 rfl rfl)
theorem dJ4_fixAfterDeletion_285 : decode cJ4_fixAfterDeletion 285 = .ok (.iconst 0, 1) := dk_3 (dk_at dksJ4_fixAfterDeletion_11 23 rfl rfl)
theorem dJ4_fixAfterDeletion_286 : decode cJ4_fixAfterDeletion 286 = .ok (.invokestatic 307, 3) := dk_184 1 51 (dk_at dksJ4_fixAfterDeletion_12 0 rfl rfl)
theorem dJ4_fixAfterDeletion_289 : decode cJ4_fixAfterDeletion 289 = .ok (.aload_n 0, 1) := dk_42 (dk_at dksJ4_fixAfterDeletion_12 3 rfl rfl)
theorem dJ4_fixAfterDeletion_290 : decode cJ4_fixAfterDeletion 290 = .ok (.aload_n 2, 1) := dk_44 (dk_at dksJ4_fixAfterDeletion_12 4 rfl rfl)
theorem dJ4_fixAfterDeletion_291 : decode cJ4_fixAfterDeletion 291 = .ok (.invokevirtual 311, 3) := dk_182 1 55 (dk_at dksJ4_fixAfterDeletion_12 5 rfl rfl)
theorem dJ4_fixAfterDeletion_294 : decode cJ4_fixAfterDeletion 294 = .ok (.aload_n 1, 1) := dk_43 (dk_at dksJ4_fixAfterDeletion_12 8 rfl rfl)
theorem dJ4_fixAfterDeletion_295 : decode cJ4_fixAfterDeletion 295 = .ok (.invokestatic 294, 3) := dk_184 1 38 (dk_at dksJ4_fixAfterDeletion_12 9 rfl rfl)
theorem dJ4_fixAfterDeletion_298 : decode cJ4_fixAfterDeletion 298 = .ok (.invokestatic 297, 3) := dk_184 1 41 (dk_at dksJ4_fixAfterDeletion_12 12 rfl rfl)
theorem dJ4_fixAfterDeletion_301 : decode cJ4_fixAfterDeletion 301 = .ok (.astore_n 2, 1) := dk_77 (dk_at dksJ4_fixAfterDeletion_12 15 rfl rfl)
theorem dJ4_fixAfterDeletion_302 : decode cJ4_fixAfterDeletion 302 = .ok (.aload_n 2, 1) := dk_44 (dk_at dksJ4_fixAfterDeletion_12 16 rfl rfl)
theorem dJ4_fixAfterDeletion_303 : decode cJ4_fixAfterDeletion 303 = .ok (.aload_n 1, 1) := dk_43 (dk_at dksJ4_fixAfterDeletion_12 17 rfl rfl)
theorem dJ4_fixAfterDeletion_304 : decode cJ4_fixAfterDeletion 304 = .ok (.invokestatic 294, 3) := dk_184 1 38 (dk_at dksJ4_fixAfterDeletion_12 18 rfl rfl)
theorem dJ4_fixAfterDeletion_307 : decode cJ4_fixAfterDeletion 307 = .ok (.invokestatic 303, 3) := dk_184 1 47 (dk_at dksJ4_fixAfterDeletion_12 21 rfl rfl)
theorem dJ4_fixAfterDeletion_310 : decode cJ4_fixAfterDeletion 310 = .ok (.invokestatic 307, 3) := dk_184 1 51 (dk_at dksJ4_fixAfterDeletion_13 0 rfl rfl)
theorem dJ4_fixAfterDeletion_313 : decode cJ4_fixAfterDeletion 313 = .ok (.aload_n 1, 1) := dk_43 (dk_at dksJ4_fixAfterDeletion_13 3 rfl rfl)
theorem dJ4_fixAfterDeletion_314 : decode cJ4_fixAfterDeletion 314 = .ok (.invokestatic 294, 3) := dk_184 1 38 (dk_at dksJ4_fixAfterDeletion_13 4 rfl rfl)
theorem dJ4_fixAfterDeletion_317 : decode cJ4_fixAfterDeletion 317 = .ok (.iconst 1, 1) := dk_4 (dk_at dksJ4_fixAfterDeletion_13 7 rfl rfl)
theorem dJ4_fixAfterDeletion_318 : decode cJ4_fixAfterDeletion 318 = .ok (.invokestatic 307, 3) := dk_184 1 51 (dk_at dksJ4_fixAfterDeletion_13 8 rfl rfl)
theorem dJ4_fixAfterDeletion_321 : decode cJ4_fixAfterDeletion 321 = .ok (.aload_n 2, 1) := dk_44 (dk_at dksJ4_fixAfterDeletion_13 11 rfl rfl)
theorem dJ4_fixAfterDeletion_322 : decode cJ4_fixAfterDeletion 322 = .ok (.invokestatic 297, 3) := dk_184 1 41 (dk_at dksJ4_fixAfterDeletion_13 12 rfl rfl)
theorem dJ4_fixAfterDeletion_325 : decode cJ4_fixAfterDeletion 325 = .ok (.iconst 1, 1) := dk_4 (dk_at dksJ4_fixAfterDeletion_13 15 rfl rfl)
theorem dJ4_fixAfterDeletion_326 : decode cJ4_fixAfterDeletion 326 = .ok (.invokestatic 307, 3) := dk_184 1 51 (dk_at dksJ4_fixAfterDeletion_13 16 rfl rfl)
theorem dJ4_fixAfterDeletion_329 : decode cJ4_fixAfterDeletion 329 = .ok (.aload_n 0, 1) := dk_42 (dk_at dksJ4_fixAfterDeletion_13 19 rfl rfl)
theorem dJ4_fixAfterDeletion_330 : decode cJ4_fixAfterDeletion 330 = .ok (.aload_n 1, 1) := dk_43 (dk_at dksJ4_fixAfterDeletion_13 20 rfl rfl)
theorem dJ4_fixAfterDeletion_331 : decode cJ4_fixAfterDeletion 331 = .ok (.invokestatic 294, 3) := dk_184 1 38 (dk_at dksJ4_fixAfterDeletion_13 21 rfl rfl)
theorem dJ4_fixAfterDeletion_334 : decode cJ4_fixAfterDeletion 334 = .ok (.invokevirtual 314, 3) := dk_182 1 58 (dk_at dksJ4_fixAfterDeletion_14 0 rfl rfl)
theorem dJ4_fixAfterDeletion_337 : decode cJ4_fixAfterDeletion 337 = .ok (.aload_n 0, 1) := dk_42 (dk_at dksJ4_fixAfterDeletion_14 3 rfl rfl)
theorem dJ4_fixAfterDeletion_338 : decode cJ4_fixAfterDeletion 338 = .ok (.getfield 101, 3) := dk_180 0 101 (dk_at dksJ4_fixAfterDeletion_14 4 rfl rfl)
theorem dJ4_fixAfterDeletion_341 : decode cJ4_fixAfterDeletion 341 = .ok (.astore_n 1, 1) := dk_76 (dk_at dksJ4_fixAfterDeletion_14 7 rfl rfl)
theorem dJ4_fixAfterDeletion_342 : decode cJ4_fixAfterDeletion 342 = .ok (.goto (-342), 3) := dk_167 254 170 (dk_at dksJ4_fixAfterDeletion_14 8 rfl rfl)
theorem dJ4_fixAfterDeletion_345 : decode cJ4_fixAfterDeletion 345 = .ok (.aload_n 1, 1) := dk_43 (dk_at dksJ4_fixAfterDeletion_14 11 rfl rfl)
theorem dJ4_fixAfterDeletion_346 : decode cJ4_fixAfterDeletion 346 = .ok (.iconst 1, 1) := dk_4 (dk_at dksJ4_fixAfterDeletion_14 12 rfl rfl)
theorem dJ4_fixAfterDeletion_347 : decode cJ4_fixAfterDeletion 347 = .ok (.invokestatic 307, 3) := dk_184 1 51 (dk_at dksJ4_fixAfterDeletion_14 13 rfl rfl)
theorem dJ4_fixAfterDeletion_350 : decode cJ4_fixAfterDeletion 350 = .ok (.return_, 1) := dk_177 (dk_at dksJ4_fixAfterDeletion_14 16 rfl rfl)
abbrev cJ4_pollFirstEntry : ByteArray := prog_75_method_39_code
def yJ4_pollFirstEntry : MethodName := ⟨RJ4, "pollFirstEntry", "()Ljava/util/Map$Entry;"⟩
def dkwJ4_pollFirstEntry_0 : List UInt8 := [42, 182, 0, 54, 76, 43, 184, 0, 200, 77, 43, 198, 0, 8, 42, 43, 182, 0, 174, 44, 176]
abbrev dktJ4_pollFirstEntry_0 : List UInt8 := dkwJ4_pollFirstEntry_0 ++ []
theorem dksJ4_pollFirstEntry_0 : cJ4_pollFirstEntry.data.toList.drop 0 = dktJ4_pollFirstEntry_0 := by decide +kernel
theorem dJ4_pollFirstEntry_0 : decode cJ4_pollFirstEntry 0 = .ok (.aload_n 0, 1) := dk_42 (dk_at dksJ4_pollFirstEntry_0 0 rfl rfl)
theorem dJ4_pollFirstEntry_1 : decode cJ4_pollFirstEntry 1 = .ok (.invokevirtual 54, 3) := dk_182 0 54 (dk_at dksJ4_pollFirstEntry_0 1 rfl rfl)
theorem dJ4_pollFirstEntry_4 : decode cJ4_pollFirstEntry 4 = .ok (.astore_n 1, 1) := dk_76 (dk_at dksJ4_pollFirstEntry_0 4 rfl rfl)
theorem dJ4_pollFirstEntry_5 : decode cJ4_pollFirstEntry 5 = .ok (.aload_n 1, 1) := dk_43 (dk_at dksJ4_pollFirstEntry_0 5 rfl rfl)
theorem dJ4_pollFirstEntry_6 : decode cJ4_pollFirstEntry 6 = .ok (.invokestatic 200, 3) := dk_184 0 200 (dk_at dksJ4_pollFirstEntry_0 6 rfl rfl)
theorem dJ4_pollFirstEntry_9 : decode cJ4_pollFirstEntry 9 = .ok (.astore_n 2, 1) := dk_77 (dk_at dksJ4_pollFirstEntry_0 9 rfl rfl)
theorem dJ4_pollFirstEntry_10 : decode cJ4_pollFirstEntry 10 = .ok (.aload_n 1, 1) := dk_43 (dk_at dksJ4_pollFirstEntry_0 10 rfl rfl)
theorem dJ4_pollFirstEntry_11 : decode cJ4_pollFirstEntry 11 = .ok (.ifnull 8, 3) := dk_198 0 8 (dk_at dksJ4_pollFirstEntry_0 11 rfl rfl)
theorem dJ4_pollFirstEntry_14 : decode cJ4_pollFirstEntry 14 = .ok (.aload_n 0, 1) := dk_42 (dk_at dksJ4_pollFirstEntry_0 14 rfl rfl)
theorem dJ4_pollFirstEntry_15 : decode cJ4_pollFirstEntry 15 = .ok (.aload_n 1, 1) := dk_43 (dk_at dksJ4_pollFirstEntry_0 15 rfl rfl)
theorem dJ4_pollFirstEntry_16 : decode cJ4_pollFirstEntry 16 = .ok (.invokevirtual 174, 3) := dk_182 0 174 (dk_at dksJ4_pollFirstEntry_0 16 rfl rfl)
theorem dJ4_pollFirstEntry_19 : decode cJ4_pollFirstEntry 19 = .ok (.aload_n 2, 1) := dk_44 (dk_at dksJ4_pollFirstEntry_0 19 rfl rfl)
theorem dJ4_pollFirstEntry_20 : decode cJ4_pollFirstEntry 20 = .ok (.areturn, 1) := dk_176 (dk_at dksJ4_pollFirstEntry_0 20 rfl rfl)
abbrev cJ4_exportEntry : ByteArray := prog_75_method_69_code
def yJ4_exportEntry : MethodName := ⟨RJ4, "exportEntry", "(Ljava/util/TreeMap$Entry;)Ljava/util/Map$Entry;"⟩
def dkwJ4_exportEntry_0 : List UInt8 := [42, 199, 0, 7, 1, 167, 0, 11, 187, 1, 26, 89, 42, 183, 1, 28, 176]
abbrev dktJ4_exportEntry_0 : List UInt8 := dkwJ4_exportEntry_0 ++ []
theorem dksJ4_exportEntry_0 : cJ4_exportEntry.data.toList.drop 0 = dktJ4_exportEntry_0 := by decide +kernel
theorem dJ4_exportEntry_0 : decode cJ4_exportEntry 0 = .ok (.aload_n 0, 1) := dk_42 (dk_at dksJ4_exportEntry_0 0 rfl rfl)
theorem dJ4_exportEntry_1 : decode cJ4_exportEntry 1 = .ok (.ifnonnull 7, 3) := dk_199 0 7 (dk_at dksJ4_exportEntry_0 1 rfl rfl)
theorem dJ4_exportEntry_4 : decode cJ4_exportEntry 4 = .ok (.aconst_null, 1) := dk_1 (dk_at dksJ4_exportEntry_0 4 rfl rfl)
theorem dJ4_exportEntry_5 : decode cJ4_exportEntry 5 = .ok (.goto 11, 3) := dk_167 0 11 (dk_at dksJ4_exportEntry_0 5 rfl rfl)
theorem dJ4_exportEntry_8 : decode cJ4_exportEntry 8 = .ok (.new 282, 3) := dk_187 1 26 (dk_at dksJ4_exportEntry_0 8 rfl rfl)
theorem dJ4_exportEntry_11 : decode cJ4_exportEntry 11 = .ok (.dup, 1) := dk_89 (dk_at dksJ4_exportEntry_0 11 rfl rfl)
theorem dJ4_exportEntry_12 : decode cJ4_exportEntry 12 = .ok (.aload_n 0, 1) := dk_42 (dk_at dksJ4_exportEntry_0 12 rfl rfl)
theorem dJ4_exportEntry_13 : decode cJ4_exportEntry 13 = .ok (.invokespecial 284, 3) := dk_183 1 28 (dk_at dksJ4_exportEntry_0 13 rfl rfl)
theorem dJ4_exportEntry_16 : decode cJ4_exportEntry 16 = .ok (.areturn, 1) := dk_176 (dk_at dksJ4_exportEntry_0 16 rfl rfl)
abbrev cJ4_firstKey : ByteArray := prog_75_method_10_code
def yJ4_firstKey : MethodName := ⟨RJ4, "firstKey", "()Ljava/lang/Object;"⟩
def dkwJ4_firstKey_0 : List UInt8 := [42, 182, 0, 54, 184, 0, 72, 176]
abbrev dktJ4_firstKey_0 : List UInt8 := dkwJ4_firstKey_0 ++ []
theorem dksJ4_firstKey_0 : cJ4_firstKey.data.toList.drop 0 = dktJ4_firstKey_0 := by decide +kernel
theorem dJ4_firstKey_0 : decode cJ4_firstKey 0 = .ok (.aload_n 0, 1) := dk_42 (dk_at dksJ4_firstKey_0 0 rfl rfl)
theorem dJ4_firstKey_1 : decode cJ4_firstKey 1 = .ok (.invokevirtual 54, 3) := dk_182 0 54 (dk_at dksJ4_firstKey_0 1 rfl rfl)
theorem dJ4_firstKey_4 : decode cJ4_firstKey 4 = .ok (.invokestatic 72, 3) := dk_184 0 72 (dk_at dksJ4_firstKey_0 4 rfl rfl)
theorem dJ4_firstKey_7 : decode cJ4_firstKey 7 = .ok (.areturn, 1) := dk_176 (dk_at dksJ4_firstKey_0 7 rfl rfl)
abbrev cJ4_key : ByteArray := prog_75_method_71_code
def yJ4_key : MethodName := ⟨RJ4, "key", "(Ljava/util/TreeMap$Entry;)Ljava/lang/Object;"⟩
def dkwJ4_key_0 : List UInt8 := [42, 199, 0, 11, 187, 1, 31, 89, 183, 1, 33, 191, 42, 180, 0, 105, 176]
abbrev dktJ4_key_0 : List UInt8 := dkwJ4_key_0 ++ []
theorem dksJ4_key_0 : cJ4_key.data.toList.drop 0 = dktJ4_key_0 := by decide +kernel
theorem dJ4_key_0 : decode cJ4_key 0 = .ok (.aload_n 0, 1) := dk_42 (dk_at dksJ4_key_0 0 rfl rfl)
theorem dJ4_key_1 : decode cJ4_key 1 = .ok (.ifnonnull 11, 3) := dk_199 0 11 (dk_at dksJ4_key_0 1 rfl rfl)
theorem dJ4_key_4 : decode cJ4_key 4 = .ok (.new 287, 3) := dk_187 1 31 (dk_at dksJ4_key_0 4 rfl rfl)
theorem dJ4_key_7 : decode cJ4_key 7 = .ok (.dup, 1) := dk_89 (dk_at dksJ4_key_0 7 rfl rfl)
theorem dJ4_key_8 : decode cJ4_key 8 = .ok (.invokespecial 289, 3) := dk_183 1 33 (dk_at dksJ4_key_0 8 rfl rfl)
theorem dJ4_key_11 : decode cJ4_key 11 = .ok (.athrow, 1) := dk_191 (dk_at dksJ4_key_0 11 rfl rfl)
theorem dJ4_key_12 : decode cJ4_key 12 = .ok (.aload_n 0, 1) := dk_42 (dk_at dksJ4_key_0 12 rfl rfl)
theorem dJ4_key_13 : decode cJ4_key 13 = .ok (.getfield 105, 3) := dk_180 0 105 (dk_at dksJ4_key_0 13 rfl rfl)
theorem dJ4_key_16 : decode cJ4_key 16 = .ok (.areturn, 1) := dk_176 (dk_at dksJ4_key_0 16 rfl rfl)
abbrev cJ4_init_2 : ByteArray := prog_75_method_1_code
def yJ4_init_2 : MethodName := ⟨RJ4, "<init>", "()V"⟩
def dkwJ4_init_2_0 : List UInt8 := [42, 183, 0, 1, 42, 3, 181, 0, 7, 42, 3, 181, 0, 13, 42, 1, 181, 0, 16, 177]
abbrev dktJ4_init_2_0 : List UInt8 := dkwJ4_init_2_0 ++ []
theorem dksJ4_init_2_0 : cJ4_init_2.data.toList.drop 0 = dktJ4_init_2_0 := by decide +kernel
theorem dJ4_init_2_0 : decode cJ4_init_2 0 = .ok (.aload_n 0, 1) := dk_42 (dk_at dksJ4_init_2_0 0 rfl rfl)
theorem dJ4_init_2_1 : decode cJ4_init_2 1 = .ok (.invokespecial 1, 3) := dk_183 0 1 (dk_at dksJ4_init_2_0 1 rfl rfl)
theorem dJ4_init_2_4 : decode cJ4_init_2 4 = .ok (.aload_n 0, 1) := dk_42 (dk_at dksJ4_init_2_0 4 rfl rfl)
theorem dJ4_init_2_5 : decode cJ4_init_2 5 = .ok (.iconst 0, 1) := dk_3 (dk_at dksJ4_init_2_0 5 rfl rfl)
theorem dJ4_init_2_6 : decode cJ4_init_2 6 = .ok (.putfield 7, 3) := dk_181 0 7 (dk_at dksJ4_init_2_0 6 rfl rfl)
theorem dJ4_init_2_9 : decode cJ4_init_2 9 = .ok (.aload_n 0, 1) := dk_42 (dk_at dksJ4_init_2_0 9 rfl rfl)
theorem dJ4_init_2_10 : decode cJ4_init_2 10 = .ok (.iconst 0, 1) := dk_3 (dk_at dksJ4_init_2_0 10 rfl rfl)
theorem dJ4_init_2_11 : decode cJ4_init_2 11 = .ok (.putfield 13, 3) := dk_181 0 13 (dk_at dksJ4_init_2_0 11 rfl rfl)
theorem dJ4_init_2_14 : decode cJ4_init_2 14 = .ok (.aload_n 0, 1) := dk_42 (dk_at dksJ4_init_2_0 14 rfl rfl)
theorem dJ4_init_2_15 : decode cJ4_init_2 15 = .ok (.aconst_null, 1) := dk_1 (dk_at dksJ4_init_2_0 15 rfl rfl)
theorem dJ4_init_2_16 : decode cJ4_init_2 16 = .ok (.putfield 16, 3) := dk_181 0 16 (dk_at dksJ4_init_2_0 16 rfl rfl)
theorem dJ4_init_2_19 : decode cJ4_init_2 19 = .ok (.return_, 1) := dk_177 (dk_at dksJ4_init_2_0 19 rfl rfl)
abbrev cJ5_init : ByteArray := prog_16_method_2_code
def yJ5_init : MethodName := ⟨RJ5, "<init>", "(I)V"⟩
def dkwJ5_init_1 : List UInt8 := [167, 0, 16, 42, 27, 184, 0, 26, 181, 0, 15, 42, 4, 181, 0, 22, 177]
abbrev dktJ5_init_1 : List UInt8 := dkwJ5_init_1 ++ []
def dkwJ5_init_0 : List UInt8 := [42, 183, 0, 3, 178, 0, 18, 153, 0, 18, 42, 27, 188, 8, 181, 0, 15, 42, 3, 181, 0, 22]
abbrev dktJ5_init_0 : List UInt8 := dkwJ5_init_0 ++ dktJ5_init_1
theorem dksJ5_init_0 : cJ5_init.data.toList.drop 0 = dktJ5_init_0 := by decide +kernel
theorem dksJ5_init_1 : cJ5_init.data.toList.drop 22 = dktJ5_init_1 := dk_seg dksJ5_init_0 22 rfl rfl
theorem dJ5_init_0 : decode cJ5_init 0 = .ok (.aload_n 0, 1) := dk_42 (dk_at dksJ5_init_0 0 rfl rfl)
theorem dJ5_init_1 : decode cJ5_init 1 = .ok (.invokespecial 3, 3) := dk_183 0 3 (dk_at dksJ5_init_0 1 rfl rfl)
theorem dJ5_init_4 : decode cJ5_init 4 = .ok (.getstatic 18, 3) := dk_178 0 18 (dk_at dksJ5_init_0 4 rfl rfl)
theorem dJ5_init_7 : decode cJ5_init 7 = .ok (.ifCond .eq 18, 3) := dk_153 0 18 (dk_at dksJ5_init_0 7 rfl rfl)
theorem dJ5_init_10 : decode cJ5_init 10 = .ok (.aload_n 0, 1) := dk_42 (dk_at dksJ5_init_0 10 rfl rfl)
theorem dJ5_init_11 : decode cJ5_init 11 = .ok (.iload_n 1, 1) := dk_27 (dk_at dksJ5_init_0 11 rfl rfl)
theorem dJ5_init_12 : decode cJ5_init 12 = .ok (.newarray .byte, 2) := dk_188_8 (dk_at dksJ5_init_0 12 rfl rfl)
theorem dJ5_init_14 : decode cJ5_init 14 = .ok (.putfield 15, 3) := dk_181 0 15 (dk_at dksJ5_init_0 14 rfl rfl)
theorem dJ5_init_17 : decode cJ5_init 17 = .ok (.aload_n 0, 1) := dk_42 (dk_at dksJ5_init_0 17 rfl rfl)
theorem dJ5_init_18 : decode cJ5_init 18 = .ok (.iconst 0, 1) := dk_3 (dk_at dksJ5_init_0 18 rfl rfl)
theorem dJ5_init_19 : decode cJ5_init 19 = .ok (.putfield 22, 3) := dk_181 0 22 (dk_at dksJ5_init_0 19 rfl rfl)
theorem dJ5_init_22 : decode cJ5_init 22 = .ok (.goto 16, 3) := dk_167 0 16 (dk_at dksJ5_init_1 0 rfl rfl)
theorem dJ5_init_25 : decode cJ5_init 25 = .ok (.aload_n 0, 1) := dk_42 (dk_at dksJ5_init_1 3 rfl rfl)
theorem dJ5_init_26 : decode cJ5_init 26 = .ok (.iload_n 1, 1) := dk_27 (dk_at dksJ5_init_1 4 rfl rfl)
theorem dJ5_init_27 : decode cJ5_init 27 = .ok (.invokestatic 26, 3) := dk_184 0 26 (dk_at dksJ5_init_1 5 rfl rfl)
theorem dJ5_init_30 : decode cJ5_init 30 = .ok (.putfield 15, 3) := dk_181 0 15 (dk_at dksJ5_init_1 8 rfl rfl)
theorem dJ5_init_33 : decode cJ5_init 33 = .ok (.aload_n 0, 1) := dk_42 (dk_at dksJ5_init_1 11 rfl rfl)
theorem dJ5_init_34 : decode cJ5_init 34 = .ok (.iconst 1, 1) := dk_4 (dk_at dksJ5_init_1 12 rfl rfl)
theorem dJ5_init_35 : decode cJ5_init 35 = .ok (.putfield 22, 3) := dk_181 0 22 (dk_at dksJ5_init_1 13 rfl rfl)
theorem dJ5_init_38 : decode cJ5_init 38 = .ok (.return_, 1) := dk_177 (dk_at dksJ5_init_1 16 rfl rfl)
abbrev cJ5_getValue : ByteArray := prog_16_method_64_code
def yJ5_getValue : MethodName := ⟨RJ5, "getValue", "()[B"⟩
theorem dJ5_getValue_0 : decode cJ5_getValue 0 = .ok (.aload_n 0, 1) := by decide +kernel
theorem dJ5_getValue_1 : decode cJ5_getValue 1 = .ok (.getfield 15, 3) := by decide +kernel
theorem dJ5_getValue_4 : decode cJ5_getValue 4 = .ok (.areturn, 1) := by decide +kernel
abbrev cJ5_length : ByteArray := prog_16_method_6_code
def yJ5_length : MethodName := ⟨RJ5, "length", "()I"⟩
theorem dJ5_length_0 : decode cJ5_length 0 = .ok (.aload_n 0, 1) := by decide +kernel
theorem dJ5_length_1 : decode cJ5_length 1 = .ok (.getfield 79, 3) := by decide +kernel
theorem dJ5_length_4 : decode cJ5_length 4 = .ok (.ireturn, 1) := by decide +kernel
abbrev cJ5_isLatin1 : ByteArray := prog_16_method_68_code
def yJ5_isLatin1 : MethodName := ⟨RJ5, "isLatin1", "()Z"⟩
def dkwJ5_isLatin1_0 : List UInt8 := [178, 0, 18, 153, 0, 14, 42, 180, 0, 22, 154, 0, 7, 4, 167, 0, 4, 3, 172]
abbrev dktJ5_isLatin1_0 : List UInt8 := dkwJ5_isLatin1_0 ++ []
theorem dksJ5_isLatin1_0 : cJ5_isLatin1.data.toList.drop 0 = dktJ5_isLatin1_0 := by decide +kernel
theorem dJ5_isLatin1_0 : decode cJ5_isLatin1 0 = .ok (.getstatic 18, 3) := dk_178 0 18 (dk_at dksJ5_isLatin1_0 0 rfl rfl)
theorem dJ5_isLatin1_3 : decode cJ5_isLatin1 3 = .ok (.ifCond .eq 14, 3) := dk_153 0 14 (dk_at dksJ5_isLatin1_0 3 rfl rfl)
theorem dJ5_isLatin1_6 : decode cJ5_isLatin1 6 = .ok (.aload_n 0, 1) := dk_42 (dk_at dksJ5_isLatin1_0 6 rfl rfl)
theorem dJ5_isLatin1_7 : decode cJ5_isLatin1 7 = .ok (.getfield 22, 3) := dk_180 0 22 (dk_at dksJ5_isLatin1_0 7 rfl rfl)
theorem dJ5_isLatin1_10 : decode cJ5_isLatin1 10 = .ok (.ifCond .ne 7, 3) := dk_154 0 7 (dk_at dksJ5_isLatin1_0 10 rfl rfl)
theorem dJ5_isLatin1_13 : decode cJ5_isLatin1 13 = .ok (.iconst 1, 1) := dk_4 (dk_at dksJ5_isLatin1_0 13 rfl rfl)
theorem dJ5_isLatin1_14 : decode cJ5_isLatin1 14 = .ok (.goto 4, 3) := dk_167 0 4 (dk_at dksJ5_isLatin1_0 14 rfl rfl)
theorem dJ5_isLatin1_17 : decode cJ5_isLatin1 17 = .ok (.iconst 0, 1) := dk_3 (dk_at dksJ5_isLatin1_0 17 rfl rfl)
theorem dJ5_isLatin1_18 : decode cJ5_isLatin1 18 = .ok (.ireturn, 1) := dk_172 (dk_at dksJ5_isLatin1_0 18 rfl rfl)
abbrev cJ5_append : ByteArray := prog_16_method_32_code
def yJ5_append : MethodName := ⟨RJ5, "append", "(I)Ljava/lang/AbstractStringBuilder;"⟩
def dkwJ5_append_2 : List UInt8 := [42, 29, 181, 0, 79, 42, 176]
abbrev dktJ5_append_2 : List UInt8 := dkwJ5_append_2 ++ []
def dkwJ5_append_1 : List UInt8 := [27, 29, 42, 180, 0, 15, 184, 0, 248, 87, 167, 0, 14, 27, 28, 29, 42, 180, 0, 15, 184, 0, 251, 87]
abbrev dktJ5_append_1 : List UInt8 := dkwJ5_append_1 ++ dktJ5_append_2
def dkwJ5_append_0 : List UInt8 := [42, 180, 0, 79, 61, 28, 27, 184, 0, 245, 96, 62, 42, 29, 182, 0, 100, 42, 182, 0, 83, 153, 0, 16]
abbrev dktJ5_append_0 : List UInt8 := dkwJ5_append_0 ++ dktJ5_append_1
theorem dksJ5_append_0 : cJ5_append.data.toList.drop 0 = dktJ5_append_0 := by decide +kernel
theorem dksJ5_append_1 : cJ5_append.data.toList.drop 24 = dktJ5_append_1 := dk_seg dksJ5_append_0 24 rfl rfl
theorem dksJ5_append_2 : cJ5_append.data.toList.drop 48 = dktJ5_append_2 := dk_seg dksJ5_append_1 24 rfl rfl
theorem dJ5_append_0 : decode cJ5_append 0 = .ok (.aload_n 0, 1) := dk_42 (dk_at dksJ5_append_0 0 rfl rfl)
theorem dJ5_append_1 : decode cJ5_append 1 = .ok (.getfield 79, 3) := dk_180 0 79 (dk_at dksJ5_append_0 1 rfl rfl)
theorem dJ5_append_4 : decode cJ5_append 4 = .ok (.istore_n 2, 1) := dk_61 (dk_at dksJ5_append_0 4 rfl rfl)
theorem dJ5_append_5 : decode cJ5_append 5 = .ok (.iload_n 2, 1) := dk_28 (dk_at dksJ5_append_0 5 rfl rfl)
theorem dJ5_append_6 : decode cJ5_append 6 = .ok (.iload_n 1, 1) := dk_27 (dk_at dksJ5_append_0 6 rfl rfl)
theorem dJ5_append_7 : decode cJ5_append 7 = .ok (.invokestatic 245, 3) := dk_184 0 245 (dk_at dksJ5_append_0 7 rfl rfl)
theorem dJ5_append_10 : decode cJ5_append 10 = .ok (.iadd, 1) := dk_96 (dk_at dksJ5_append_0 10 rfl rfl)
theorem dJ5_append_11 : decode cJ5_append 11 = .ok (.istore_n 3, 1) := dk_62 (dk_at dksJ5_append_0 11 rfl rfl)
theorem dJ5_append_12 : decode cJ5_append 12 = .ok (.aload_n 0, 1) := dk_42 (dk_at dksJ5_append_0 12 rfl rfl)
theorem dJ5_append_13 : decode cJ5_append 13 = .ok (.iload_n 3, 1) := dk_29 (dk_at dksJ5_append_0 13 rfl rfl)
theorem dJ5_append_14 : decode cJ5_append 14 = .ok (.invokevirtual 100, 3) := dk_182 0 100 (dk_at dksJ5_append_0 14 rfl rfl)
theorem dJ5_append_17 : decode cJ5_append 17 = .ok (.aload_n 0, 1) := dk_42 (dk_at dksJ5_append_0 17 rfl rfl)
theorem dJ5_append_18 : decode cJ5_append 18 = .ok (.invokevirtual 83, 3) := dk_182 0 83 (dk_at dksJ5_append_0 18 rfl rfl)
theorem dJ5_append_21 : decode cJ5_append 21 = .ok (.ifCond .eq 16, 3) := dk_153 0 16 (dk_at dksJ5_append_0 21 rfl rfl)
theorem dJ5_append_24 : decode cJ5_append 24 = .ok (.iload_n 1, 1) := dk_27 (dk_at dksJ5_append_1 0 rfl rfl)
theorem dJ5_append_25 : decode cJ5_append 25 = .ok (.iload_n 3, 1) := dk_29 (dk_at dksJ5_append_1 1 rfl rfl)
theorem dJ5_append_26 : decode cJ5_append 26 = .ok (.aload_n 0, 1) := dk_42 (dk_at dksJ5_append_1 2 rfl rfl)
theorem dJ5_append_27 : decode cJ5_append 27 = .ok (.getfield 15, 3) := dk_180 0 15 (dk_at dksJ5_append_1 3 rfl rfl)
theorem dJ5_append_30 : decode cJ5_append 30 = .ok (.invokestatic 248, 3) := dk_184 0 248 (dk_at dksJ5_append_1 6 rfl rfl)
theorem dJ5_append_33 : decode cJ5_append 33 = .ok (.pop, 1) := dk_87 (dk_at dksJ5_append_1 9 rfl rfl)
theorem dJ5_append_34 : decode cJ5_append 34 = .ok (.goto 14, 3) := dk_167 0 14 (dk_at dksJ5_append_1 10 rfl rfl)
theorem dJ5_append_37 : decode cJ5_append 37 = .ok (.iload_n 1, 1) := dk_27 (dk_at dksJ5_append_1 13 rfl rfl)
theorem dJ5_append_38 : decode cJ5_append 38 = .ok (.iload_n 2, 1) := dk_28 (dk_at dksJ5_append_1 14 rfl rfl)
theorem dJ5_append_39 : decode cJ5_append 39 = .ok (.iload_n 3, 1) := dk_29 (dk_at dksJ5_append_1 15 rfl rfl)
theorem dJ5_append_40 : decode cJ5_append 40 = .ok (.aload_n 0, 1) := dk_42 (dk_at dksJ5_append_1 16 rfl rfl)
theorem dJ5_append_41 : decode cJ5_append 41 = .ok (.getfield 15, 3) := dk_180 0 15 (dk_at dksJ5_append_1 17 rfl rfl)
theorem dJ5_append_44 : decode cJ5_append 44 = .ok (.invokestatic 251, 3) := dk_184 0 251 (dk_at dksJ5_append_1 20 rfl rfl)
theorem dJ5_append_47 : decode cJ5_append 47 = .ok (.pop, 1) := dk_87 (dk_at dksJ5_append_1 23 rfl rfl)
theorem dJ5_append_48 : decode cJ5_append 48 = .ok (.aload_n 0, 1) := dk_42 (dk_at dksJ5_append_2 0 rfl rfl)
theorem dJ5_append_49 : decode cJ5_append 49 = .ok (.iload_n 3, 1) := dk_29 (dk_at dksJ5_append_2 1 rfl rfl)
theorem dJ5_append_50 : decode cJ5_append 50 = .ok (.putfield 79, 3) := dk_181 0 79 (dk_at dksJ5_append_2 2 rfl rfl)
theorem dJ5_append_53 : decode cJ5_append 53 = .ok (.aload_n 0, 1) := dk_42 (dk_at dksJ5_append_2 5 rfl rfl)
theorem dJ5_append_54 : decode cJ5_append 54 = .ok (.areturn, 1) := dk_176 (dk_at dksJ5_append_2 6 rfl rfl)
abbrev cJ5_ensureCapacityInternal : ByteArray := prog_16_method_9_code
def yJ5_ensureCapacityInternal : MethodName := ⟨RJ5, "ensureCapacityInternal", "(I)V"⟩
def dkwJ5_ensureCapacityInternal_1 : List UInt8 := [182, 0, 104, 42, 180, 0, 22, 120, 184, 0, 108, 181, 0, 15, 177]
abbrev dktJ5_ensureCapacityInternal_1 : List UInt8 := dkwJ5_ensureCapacityInternal_1 ++ []
def dkwJ5_ensureCapacityInternal_0 : List UInt8 := [42, 180, 0, 15, 190, 42, 180, 0, 22, 122, 61, 27, 28, 100, 158, 0, 24, 42, 42, 180, 0, 15, 42, 27]
abbrev dktJ5_ensureCapacityInternal_0 : List UInt8 := dkwJ5_ensureCapacityInternal_0 ++ dktJ5_ensureCapacityInternal_1
theorem dksJ5_ensureCapacityInternal_0 : cJ5_ensureCapacityInternal.data.toList.drop 0 = dktJ5_ensureCapacityInternal_0 := by decide +kernel
theorem dksJ5_ensureCapacityInternal_1 : cJ5_ensureCapacityInternal.data.toList.drop 24 = dktJ5_ensureCapacityInternal_1 := dk_seg dksJ5_ensureCapacityInternal_0 24 rfl rfl
theorem dJ5_ensureCapacityInternal_0 : decode cJ5_ensureCapacityInternal 0 = .ok (.aload_n 0, 1) := dk_42 (dk_at dksJ5_ensureCapacityInternal_0 0 rfl rfl)
theorem dJ5_ensureCapacityInternal_1 : decode cJ5_ensureCapacityInternal 1 = .ok (.getfield 15, 3) := dk_180 0 15 (dk_at dksJ5_ensureCapacityInternal_0 1 rfl rfl)
theorem dJ5_ensureCapacityInternal_4 : decode cJ5_ensureCapacityInternal 4 = .ok (.arraylength, 1) := dk_190 (dk_at dksJ5_ensureCapacityInternal_0 4 rfl rfl)
theorem dJ5_ensureCapacityInternal_5 : decode cJ5_ensureCapacityInternal 5 = .ok (.aload_n 0, 1) := dk_42 (dk_at dksJ5_ensureCapacityInternal_0 5 rfl rfl)
theorem dJ5_ensureCapacityInternal_6 : decode cJ5_ensureCapacityInternal 6 = .ok (.getfield 22, 3) := dk_180 0 22 (dk_at dksJ5_ensureCapacityInternal_0 6 rfl rfl)
theorem dJ5_ensureCapacityInternal_9 : decode cJ5_ensureCapacityInternal 9 = .ok (.ishr, 1) := dk_122 (dk_at dksJ5_ensureCapacityInternal_0 9 rfl rfl)
theorem dJ5_ensureCapacityInternal_10 : decode cJ5_ensureCapacityInternal 10 = .ok (.istore_n 2, 1) := dk_61 (dk_at dksJ5_ensureCapacityInternal_0 10 rfl rfl)
theorem dJ5_ensureCapacityInternal_11 : decode cJ5_ensureCapacityInternal 11 = .ok (.iload_n 1, 1) := dk_27 (dk_at dksJ5_ensureCapacityInternal_0 11 rfl rfl)
theorem dJ5_ensureCapacityInternal_12 : decode cJ5_ensureCapacityInternal 12 = .ok (.iload_n 2, 1) := dk_28 (dk_at dksJ5_ensureCapacityInternal_0 12 rfl rfl)
theorem dJ5_ensureCapacityInternal_13 : decode cJ5_ensureCapacityInternal 13 = .ok (.isub, 1) := dk_100 (dk_at dksJ5_ensureCapacityInternal_0 13 rfl rfl)
theorem dJ5_ensureCapacityInternal_14 : decode cJ5_ensureCapacityInternal 14 = .ok (.ifCond .le 24, 3) := dk_158 0 24 (dk_at dksJ5_ensureCapacityInternal_0 14 rfl rfl)
theorem dJ5_ensureCapacityInternal_17 : decode cJ5_ensureCapacityInternal 17 = .ok (.aload_n 0, 1) := dk_42 (dk_at dksJ5_ensureCapacityInternal_0 17 rfl rfl)
theorem dJ5_ensureCapacityInternal_18 : decode cJ5_ensureCapacityInternal 18 = .ok (.aload_n 0, 1) := dk_42 (dk_at dksJ5_ensureCapacityInternal_0 18 rfl rfl)
theorem dJ5_ensureCapacityInternal_19 : decode cJ5_ensureCapacityInternal 19 = .ok (.getfield 15, 3) := dk_180 0 15 (dk_at dksJ5_ensureCapacityInternal_0 19 rfl rfl)
theorem dJ5_ensureCapacityInternal_22 : decode cJ5_ensureCapacityInternal 22 = .ok (.aload_n 0, 1) := dk_42 (dk_at dksJ5_ensureCapacityInternal_0 22 rfl rfl)
theorem dJ5_ensureCapacityInternal_23 : decode cJ5_ensureCapacityInternal 23 = .ok (.iload_n 1, 1) := dk_27 (dk_at dksJ5_ensureCapacityInternal_0 23 rfl rfl)
theorem dJ5_ensureCapacityInternal_24 : decode cJ5_ensureCapacityInternal 24 = .ok (.invokevirtual 104, 3) := dk_182 0 104 (dk_at dksJ5_ensureCapacityInternal_1 0 rfl rfl)
theorem dJ5_ensureCapacityInternal_27 : decode cJ5_ensureCapacityInternal 27 = .ok (.aload_n 0, 1) := dk_42 (dk_at dksJ5_ensureCapacityInternal_1 3 rfl rfl)
theorem dJ5_ensureCapacityInternal_28 : decode cJ5_ensureCapacityInternal 28 = .ok (.getfield 22, 3) := dk_180 0 22 (dk_at dksJ5_ensureCapacityInternal_1 4 rfl rfl)
theorem dJ5_ensureCapacityInternal_31 : decode cJ5_ensureCapacityInternal 31 = .ok (.ishl, 1) := dk_120 (dk_at dksJ5_ensureCapacityInternal_1 7 rfl rfl)
theorem dJ5_ensureCapacityInternal_32 : decode cJ5_ensureCapacityInternal 32 = .ok (.invokestatic 108, 3) := dk_184 0 108 (dk_at dksJ5_ensureCapacityInternal_1 8 rfl rfl)
theorem dJ5_ensureCapacityInternal_35 : decode cJ5_ensureCapacityInternal 35 = .ok (.putfield 15, 3) := dk_181 0 15 (dk_at dksJ5_ensureCapacityInternal_1 11 rfl rfl)
theorem dJ5_ensureCapacityInternal_38 : decode cJ5_ensureCapacityInternal 38 = .ok (.return_, 1) := dk_177 (dk_at dksJ5_ensureCapacityInternal_1 14 rfl rfl)
abbrev cJ5_newCapacity : ByteArray := prog_16_method_10_code
def yJ5_newCapacity : MethodName := ⟨RJ5, "newCapacity", "(I)I"⟩
def dkwJ5_newCapacity_2 : List UInt8 := [183, 0, 124, 191, 21, 5, 42, 180, 0, 22, 122, 172]
abbrev dktJ5_newCapacity_2 : List UInt8 := dkwJ5_newCapacity_2 ++ []
def dkwJ5_newCapacity_1 : List UInt8 := [180, 0, 22, 120, 96, 184, 0, 114, 54, 5, 21, 5, 18, 39, 160, 0, 13, 187, 0, 120, 89, 18, 122]
abbrev dktJ5_newCapacity_1 : List UInt8 := dkwJ5_newCapacity_1 ++ dktJ5_newCapacity_2
def dkwJ5_newCapacity_0 : List UInt8 := [42, 180, 0, 15, 190, 61, 27, 42, 180, 0, 22, 120, 62, 29, 28, 100, 54, 4, 28, 21, 4, 28, 5, 42]
abbrev dktJ5_newCapacity_0 : List UInt8 := dkwJ5_newCapacity_0 ++ dktJ5_newCapacity_1
theorem dksJ5_newCapacity_0 : cJ5_newCapacity.data.toList.drop 0 = dktJ5_newCapacity_0 := by decide +kernel
theorem dksJ5_newCapacity_1 : cJ5_newCapacity.data.toList.drop 24 = dktJ5_newCapacity_1 := dk_seg dksJ5_newCapacity_0 24 rfl rfl
theorem dksJ5_newCapacity_2 : cJ5_newCapacity.data.toList.drop 47 = dktJ5_newCapacity_2 := dk_seg dksJ5_newCapacity_1 23 rfl rfl
theorem dJ5_newCapacity_0 : decode cJ5_newCapacity 0 = .ok (.aload_n 0, 1) := dk_42 (dk_at dksJ5_newCapacity_0 0 rfl rfl)
theorem dJ5_newCapacity_1 : decode cJ5_newCapacity 1 = .ok (.getfield 15, 3) := dk_180 0 15 (dk_at dksJ5_newCapacity_0 1 rfl rfl)
theorem dJ5_newCapacity_4 : decode cJ5_newCapacity 4 = .ok (.arraylength, 1) := dk_190 (dk_at dksJ5_newCapacity_0 4 rfl rfl)
theorem dJ5_newCapacity_5 : decode cJ5_newCapacity 5 = .ok (.istore_n 2, 1) := dk_61 (dk_at dksJ5_newCapacity_0 5 rfl rfl)
theorem dJ5_newCapacity_6 : decode cJ5_newCapacity 6 = .ok (.iload_n 1, 1) := dk_27 (dk_at dksJ5_newCapacity_0 6 rfl rfl)
theorem dJ5_newCapacity_7 : decode cJ5_newCapacity 7 = .ok (.aload_n 0, 1) := dk_42 (dk_at dksJ5_newCapacity_0 7 rfl rfl)
theorem dJ5_newCapacity_8 : decode cJ5_newCapacity 8 = .ok (.getfield 22, 3) := dk_180 0 22 (dk_at dksJ5_newCapacity_0 8 rfl rfl)
theorem dJ5_newCapacity_11 : decode cJ5_newCapacity 11 = .ok (.ishl, 1) := dk_120 (dk_at dksJ5_newCapacity_0 11 rfl rfl)
theorem dJ5_newCapacity_12 : decode cJ5_newCapacity 12 = .ok (.istore_n 3, 1) := dk_62 (dk_at dksJ5_newCapacity_0 12 rfl rfl)
theorem dJ5_newCapacity_13 : decode cJ5_newCapacity 13 = .ok (.iload_n 3, 1) := dk_29 (dk_at dksJ5_newCapacity_0 13 rfl rfl)
theorem dJ5_newCapacity_14 : decode cJ5_newCapacity 14 = .ok (.iload_n 2, 1) := dk_28 (dk_at dksJ5_newCapacity_0 14 rfl rfl)
theorem dJ5_newCapacity_15 : decode cJ5_newCapacity 15 = .ok (.isub, 1) := dk_100 (dk_at dksJ5_newCapacity_0 15 rfl rfl)
theorem dJ5_newCapacity_16 : decode cJ5_newCapacity 16 = .ok (.istore 4, 2) := dk_54 4 (dk_at dksJ5_newCapacity_0 16 rfl rfl)
theorem dJ5_newCapacity_18 : decode cJ5_newCapacity 18 = .ok (.iload_n 2, 1) := dk_28 (dk_at dksJ5_newCapacity_0 18 rfl rfl)
theorem dJ5_newCapacity_19 : decode cJ5_newCapacity 19 = .ok (.iload 4, 2) := dk_21 4 (dk_at dksJ5_newCapacity_0 19 rfl rfl)
theorem dJ5_newCapacity_21 : decode cJ5_newCapacity 21 = .ok (.iload_n 2, 1) := dk_28 (dk_at dksJ5_newCapacity_0 21 rfl rfl)
theorem dJ5_newCapacity_22 : decode cJ5_newCapacity 22 = .ok (.iconst 2, 1) := dk_5 (dk_at dksJ5_newCapacity_0 22 rfl rfl)
theorem dJ5_newCapacity_23 : decode cJ5_newCapacity 23 = .ok (.aload_n 0, 1) := dk_42 (dk_at dksJ5_newCapacity_0 23 rfl rfl)
theorem dJ5_newCapacity_24 : decode cJ5_newCapacity 24 = .ok (.getfield 22, 3) := dk_180 0 22 (dk_at dksJ5_newCapacity_1 0 rfl rfl)
theorem dJ5_newCapacity_27 : decode cJ5_newCapacity 27 = .ok (.ishl, 1) := dk_120 (dk_at dksJ5_newCapacity_1 3 rfl rfl)
theorem dJ5_newCapacity_28 : decode cJ5_newCapacity 28 = .ok (.iadd, 1) := dk_96 (dk_at dksJ5_newCapacity_1 4 rfl rfl)
theorem dJ5_newCapacity_29 : decode cJ5_newCapacity 29 = .ok (.invokestatic 114, 3) := dk_184 0 114 (dk_at dksJ5_newCapacity_1 5 rfl rfl)
theorem dJ5_newCapacity_32 : decode cJ5_newCapacity 32 = .ok (.istore 5, 2) := dk_54 5 (dk_at dksJ5_newCapacity_1 8 rfl rfl)
theorem dJ5_newCapacity_34 : decode cJ5_newCapacity 34 = .ok (.iload 5, 2) := dk_21 5 (dk_at dksJ5_newCapacity_1 10 rfl rfl)
theorem dJ5_newCapacity_36 : decode cJ5_newCapacity 36 = .ok (.ldc 39, 2) := dk_18 39 (dk_at dksJ5_newCapacity_1 12 rfl rfl)
theorem dJ5_newCapacity_38 : decode cJ5_newCapacity 38 = .ok (.if_icmp .ne 13, 3) := dk_160 0 13 (dk_at dksJ5_newCapacity_1 14 rfl rfl)
theorem dJ5_newCapacity_41 : decode cJ5_newCapacity 41 = .ok (.new 120, 3) := dk_187 0 120 (dk_at dksJ5_newCapacity_1 17 rfl rfl)
theorem dJ5_newCapacity_44 : decode cJ5_newCapacity 44 = .ok (.dup, 1) := dk_89 (dk_at dksJ5_newCapacity_1 20 rfl rfl)
theorem dJ5_newCapacity_45 : decode cJ5_newCapacity 45 = .ok (.ldc 122, 2) := dk_18 122 (dk_at dksJ5_newCapacity_1 21 rfl rfl)
theorem dJ5_newCapacity_47 : decode cJ5_newCapacity 47 = .ok (.invokespecial 124, 3) := dk_183 0 124 (dk_at dksJ5_newCapacity_2 0 rfl rfl)
theorem dJ5_newCapacity_50 : decode cJ5_newCapacity 50 = .ok (.athrow, 1) := dk_191 (dk_at dksJ5_newCapacity_2 3 rfl rfl)
theorem dJ5_newCapacity_51 : decode cJ5_newCapacity 51 = .ok (.iload 5, 2) := dk_21 5 (dk_at dksJ5_newCapacity_2 4 rfl rfl)
theorem dJ5_newCapacity_53 : decode cJ5_newCapacity 53 = .ok (.aload_n 0, 1) := dk_42 (dk_at dksJ5_newCapacity_2 6 rfl rfl)
theorem dJ5_newCapacity_54 : decode cJ5_newCapacity 54 = .ok (.getfield 22, 3) := dk_180 0 22 (dk_at dksJ5_newCapacity_2 7 rfl rfl)
theorem dJ5_newCapacity_57 : decode cJ5_newCapacity 57 = .ok (.ishr, 1) := dk_122 (dk_at dksJ5_newCapacity_2 10 rfl rfl)
theorem dJ5_newCapacity_58 : decode cJ5_newCapacity 58 = .ok (.ireturn, 1) := dk_172 (dk_at dksJ5_newCapacity_2 11 rfl rfl)
abbrev cJ5_append_2 : ByteArray := prog_16_method_22_code
def yJ5_append_2 : MethodName := ⟨RJ5, "append", "(Ljava/lang/String;)Ljava/lang/AbstractStringBuilder;"⟩
def dkwJ5_append_2_1 : List UInt8 := [42, 42, 180, 0, 79, 43, 182, 0, 208, 42, 89, 180, 0, 79, 28, 96, 181, 0, 79, 42, 176]
abbrev dktJ5_append_2_1 : List UInt8 := dkwJ5_append_2_1 ++ []
def dkwJ5_append_2_0 : List UInt8 := [43, 199, 0, 8, 42, 182, 0, 204, 176, 43, 182, 0, 32, 61, 42, 42, 180, 0, 79, 28, 96, 182, 0, 100]
abbrev dktJ5_append_2_0 : List UInt8 := dkwJ5_append_2_0 ++ dktJ5_append_2_1
theorem dksJ5_append_2_0 : cJ5_append_2.data.toList.drop 0 = dktJ5_append_2_0 := by decide +kernel
theorem dksJ5_append_2_1 : cJ5_append_2.data.toList.drop 24 = dktJ5_append_2_1 := dk_seg dksJ5_append_2_0 24 rfl rfl
theorem dJ5_append_2_0 : decode cJ5_append_2 0 = .ok (.aload_n 1, 1) := dk_43 (dk_at dksJ5_append_2_0 0 rfl rfl)
theorem dJ5_append_2_1 : decode cJ5_append_2 1 = .ok (.ifnonnull 8, 3) := dk_199 0 8 (dk_at dksJ5_append_2_0 1 rfl rfl)
theorem dJ5_append_2_4 : decode cJ5_append_2 4 = .ok (.aload_n 0, 1) := dk_42 (dk_at dksJ5_append_2_0 4 rfl rfl)
theorem dJ5_append_2_5 : decode cJ5_append_2 5 = .ok (.invokevirtual 204, 3) := dk_182 0 204 (dk_at dksJ5_append_2_0 5 rfl rfl)
theorem dJ5_append_2_8 : decode cJ5_append_2 8 = .ok (.areturn, 1) := dk_176 (dk_at dksJ5_append_2_0 8 rfl rfl)
theorem dJ5_append_2_9 : decode cJ5_append_2 9 = .ok (.aload_n 1, 1) := dk_43 (dk_at dksJ5_append_2_0 9 rfl rfl)
theorem dJ5_append_2_10 : decode cJ5_append_2 10 = .ok (.invokevirtual 32, 3) := dk_182 0 32 (dk_at dksJ5_append_2_0 10 rfl rfl)
theorem dJ5_append_2_13 : decode cJ5_append_2 13 = .ok (.istore_n 2, 1) := dk_61 (dk_at dksJ5_append_2_0 13 rfl rfl)
theorem dJ5_append_2_14 : decode cJ5_append_2 14 = .ok (.aload_n 0, 1) := dk_42 (dk_at dksJ5_append_2_0 14 rfl rfl)
theorem dJ5_append_2_15 : decode cJ5_append_2 15 = .ok (.aload_n 0, 1) := dk_42 (dk_at dksJ5_append_2_0 15 rfl rfl)
theorem dJ5_append_2_16 : decode cJ5_append_2 16 = .ok (.getfield 79, 3) := dk_180 0 79 (dk_at dksJ5_append_2_0 16 rfl rfl)
theorem dJ5_append_2_19 : decode cJ5_append_2 19 = .ok (.iload_n 2, 1) := dk_28 (dk_at dksJ5_append_2_0 19 rfl rfl)
theorem dJ5_append_2_20 : decode cJ5_append_2 20 = .ok (.iadd, 1) := dk_96 (dk_at dksJ5_append_2_0 20 rfl rfl)
theorem dJ5_append_2_21 : decode cJ5_append_2 21 = .ok (.invokevirtual 100, 3) := dk_182 0 100 (dk_at dksJ5_append_2_0 21 rfl rfl)
theorem dJ5_append_2_24 : decode cJ5_append_2 24 = .ok (.aload_n 0, 1) := dk_42 (dk_at dksJ5_append_2_1 0 rfl rfl)
theorem dJ5_append_2_25 : decode cJ5_append_2 25 = .ok (.aload_n 0, 1) := dk_42 (dk_at dksJ5_append_2_1 1 rfl rfl)
theorem dJ5_append_2_26 : decode cJ5_append_2 26 = .ok (.getfield 79, 3) := dk_180 0 79 (dk_at dksJ5_append_2_1 2 rfl rfl)
theorem dJ5_append_2_29 : decode cJ5_append_2 29 = .ok (.aload_n 1, 1) := dk_43 (dk_at dksJ5_append_2_1 5 rfl rfl)
theorem dJ5_append_2_30 : decode cJ5_append_2 30 = .ok (.invokevirtual 208, 3) := dk_182 0 208 (dk_at dksJ5_append_2_1 6 rfl rfl)
theorem dJ5_append_2_33 : decode cJ5_append_2 33 = .ok (.aload_n 0, 1) := dk_42 (dk_at dksJ5_append_2_1 9 rfl rfl)
theorem dJ5_append_2_34 : decode cJ5_append_2 34 = .ok (.dup, 1) := dk_89 (dk_at dksJ5_append_2_1 10 rfl rfl)
theorem dJ5_append_2_35 : decode cJ5_append_2 35 = .ok (.getfield 79, 3) := dk_180 0 79 (dk_at dksJ5_append_2_1 11 rfl rfl)
theorem dJ5_append_2_38 : decode cJ5_append_2 38 = .ok (.iload_n 2, 1) := dk_28 (dk_at dksJ5_append_2_1 14 rfl rfl)
theorem dJ5_append_2_39 : decode cJ5_append_2 39 = .ok (.iadd, 1) := dk_96 (dk_at dksJ5_append_2_1 15 rfl rfl)
theorem dJ5_append_2_40 : decode cJ5_append_2 40 = .ok (.putfield 79, 3) := dk_181 0 79 (dk_at dksJ5_append_2_1 16 rfl rfl)
theorem dJ5_append_2_43 : decode cJ5_append_2 43 = .ok (.aload_n 0, 1) := dk_42 (dk_at dksJ5_append_2_1 19 rfl rfl)
theorem dJ5_append_2_44 : decode cJ5_append_2 44 = .ok (.areturn, 1) := dk_176 (dk_at dksJ5_append_2_1 20 rfl rfl)
abbrev cJ5_appendNull : ByteArray := prog_16_method_26_code
def yJ5_appendNull : MethodName := ⟨RJ5, "appendNull", "()Ljava/lang/AbstractStringBuilder;"⟩
def dkwJ5_appendNull_3 : List UInt8 := [184, 0, 226, 60, 42, 27, 181, 0, 79, 42, 176]
abbrev dktJ5_appendNull_3 : List UInt8 := dkwJ5_appendNull_3 ++ []
def dkwJ5_appendNull_2 : List UInt8 := [16, 108, 84, 44, 27, 132, 1, 1, 16, 108, 84, 167, 0, 17, 44, 27, 16, 110, 16, 117, 16, 108, 16, 108]
abbrev dktJ5_appendNull_2 : List UInt8 := dkwJ5_appendNull_2 ++ dktJ5_appendNull_3
def dkwJ5_appendNull_1 : List UInt8 := [153, 0, 38, 44, 27, 132, 1, 1, 16, 110, 84, 44, 27, 132, 1, 1, 16, 117, 84, 44, 27, 132, 1, 1]
abbrev dktJ5_appendNull_1 : List UInt8 := dkwJ5_appendNull_1 ++ dktJ5_appendNull_2
def dkwJ5_appendNull_0 : List UInt8 := [42, 42, 180, 0, 79, 7, 96, 182, 0, 100, 42, 180, 0, 79, 60, 42, 180, 0, 15, 77, 42, 182, 0, 83]
abbrev dktJ5_appendNull_0 : List UInt8 := dkwJ5_appendNull_0 ++ dktJ5_appendNull_1
theorem dksJ5_appendNull_0 : cJ5_appendNull.data.toList.drop 0 = dktJ5_appendNull_0 := by decide +kernel
theorem dksJ5_appendNull_1 : cJ5_appendNull.data.toList.drop 24 = dktJ5_appendNull_1 := dk_seg dksJ5_appendNull_0 24 rfl rfl
theorem dksJ5_appendNull_2 : cJ5_appendNull.data.toList.drop 48 = dktJ5_appendNull_2 := dk_seg dksJ5_appendNull_1 24 rfl rfl
theorem dksJ5_appendNull_3 : cJ5_appendNull.data.toList.drop 72 = dktJ5_appendNull_3 := dk_seg dksJ5_appendNull_2 24 rfl rfl
theorem dJ5_appendNull_0 : decode cJ5_appendNull 0 = .ok (.aload_n 0, 1) := dk_42 (dk_at dksJ5_appendNull_0 0 rfl rfl)
theorem dJ5_appendNull_1 : decode cJ5_appendNull 1 = .ok (.aload_n 0, 1) := dk_42 (dk_at dksJ5_appendNull_0 1 rfl rfl)
theorem dJ5_appendNull_2 : decode cJ5_appendNull 2 = .ok (.getfield 79, 3) := dk_180 0 79 (dk_at dksJ5_appendNull_0 2 rfl rfl)
theorem dJ5_appendNull_5 : decode cJ5_appendNull 5 = .ok (.iconst 4, 1) := dk_7 (dk_at dksJ5_appendNull_0 5 rfl rfl)
theorem dJ5_appendNull_6 : decode cJ5_appendNull 6 = .ok (.iadd, 1) := dk_96 (dk_at dksJ5_appendNull_0 6 rfl rfl)
theorem dJ5_appendNull_7 : decode cJ5_appendNull 7 = .ok (.invokevirtual 100, 3) := dk_182 0 100 (dk_at dksJ5_appendNull_0 7 rfl rfl)
theorem dJ5_appendNull_10 : decode cJ5_appendNull 10 = .ok (.aload_n 0, 1) := dk_42 (dk_at dksJ5_appendNull_0 10 rfl rfl)
theorem dJ5_appendNull_11 : decode cJ5_appendNull 11 = .ok (.getfield 79, 3) := dk_180 0 79 (dk_at dksJ5_appendNull_0 11 rfl rfl)
theorem dJ5_appendNull_14 : decode cJ5_appendNull 14 = .ok (.istore_n 1, 1) := dk_60 (dk_at dksJ5_appendNull_0 14 rfl rfl)
theorem dJ5_appendNull_15 : decode cJ5_appendNull 15 = .ok (.aload_n 0, 1) := dk_42 (dk_at dksJ5_appendNull_0 15 rfl rfl)
theorem dJ5_appendNull_16 : decode cJ5_appendNull 16 = .ok (.getfield 15, 3) := dk_180 0 15 (dk_at dksJ5_appendNull_0 16 rfl rfl)
theorem dJ5_appendNull_19 : decode cJ5_appendNull 19 = .ok (.astore_n 2, 1) := dk_77 (dk_at dksJ5_appendNull_0 19 rfl rfl)
theorem dJ5_appendNull_20 : decode cJ5_appendNull 20 = .ok (.aload_n 0, 1) := dk_42 (dk_at dksJ5_appendNull_0 20 rfl rfl)
theorem dJ5_appendNull_21 : decode cJ5_appendNull 21 = .ok (.invokevirtual 83, 3) := dk_182 0 83 (dk_at dksJ5_appendNull_0 21 rfl rfl)
theorem dJ5_appendNull_24 : decode cJ5_appendNull 24 = .ok (.ifCond .eq 38, 3) := dk_153 0 38 (dk_at dksJ5_appendNull_1 0 rfl rfl)
theorem dJ5_appendNull_27 : decode cJ5_appendNull 27 = .ok (.aload_n 2, 1) := dk_44 (dk_at dksJ5_appendNull_1 3 rfl rfl)
theorem dJ5_appendNull_28 : decode cJ5_appendNull 28 = .ok (.iload_n 1, 1) := dk_27 (dk_at dksJ5_appendNull_1 4 rfl rfl)
theorem dJ5_appendNull_29 : decode cJ5_appendNull 29 = .ok (.iinc 1 1, 3) := dk_132 1 1 (dk_at dksJ5_appendNull_1 5 rfl rfl)
theorem dJ5_appendNull_32 : decode cJ5_appendNull 32 = .ok (.bipush 110, 2) := dk_16 110 (dk_at dksJ5_appendNull_1 8 rfl rfl)
theorem dJ5_appendNull_34 : decode cJ5_appendNull 34 = .ok (.bastore, 1) := dk_84 (dk_at dksJ5_appendNull_1 10 rfl rfl)
theorem dJ5_appendNull_35 : decode cJ5_appendNull 35 = .ok (.aload_n 2, 1) := dk_44 (dk_at dksJ5_appendNull_1 11 rfl rfl)
theorem dJ5_appendNull_36 : decode cJ5_appendNull 36 = .ok (.iload_n 1, 1) := dk_27 (dk_at dksJ5_appendNull_1 12 rfl rfl)
theorem dJ5_appendNull_37 : decode cJ5_appendNull 37 = .ok (.iinc 1 1, 3) := dk_132 1 1 (dk_at dksJ5_appendNull_1 13 rfl rfl)
theorem dJ5_appendNull_40 : decode cJ5_appendNull 40 = .ok (.bipush 117, 2) := dk_16 117 (dk_at dksJ5_appendNull_1 16 rfl rfl)
theorem dJ5_appendNull_42 : decode cJ5_appendNull 42 = .ok (.bastore, 1) := dk_84 (dk_at dksJ5_appendNull_1 18 rfl rfl)
theorem dJ5_appendNull_43 : decode cJ5_appendNull 43 = .ok (.aload_n 2, 1) := dk_44 (dk_at dksJ5_appendNull_1 19 rfl rfl)
theorem dJ5_appendNull_44 : decode cJ5_appendNull 44 = .ok (.iload_n 1, 1) := dk_27 (dk_at dksJ5_appendNull_1 20 rfl rfl)
theorem dJ5_appendNull_45 : decode cJ5_appendNull 45 = .ok (.iinc 1 1, 3) := dk_132 1 1 (dk_at dksJ5_appendNull_1 21 rfl rfl)
theorem dJ5_appendNull_48 : decode cJ5_appendNull 48 = .ok (.bipush 108, 2) := dk_16 108 (dk_at dksJ5_appendNull_2 0 rfl rfl)
theorem dJ5_appendNull_50 : decode cJ5_appendNull 50 = .ok (.bastore, 1) := dk_84 (dk_at dksJ5_appendNull_2 2 rfl rfl)
theorem dJ5_appendNull_51 : decode cJ5_appendNull 51 = .ok (.aload_n 2, 1) := dk_44 (dk_at dksJ5_appendNull_2 3 rfl rfl)
theorem dJ5_appendNull_52 : decode cJ5_appendNull 52 = .ok (.iload_n 1, 1) := dk_27 (dk_at dksJ5_appendNull_2 4 rfl rfl)
theorem dJ5_appendNull_53 : decode cJ5_appendNull 53 = .ok (.iinc 1 1, 3) := dk_132 1 1 (dk_at dksJ5_appendNull_2 5 rfl rfl)
theorem dJ5_appendNull_56 : decode cJ5_appendNull 56 = .ok (.bipush 108, 2) := dk_16 108 (dk_at dksJ5_appendNull_2 8 rfl rfl)
theorem dJ5_appendNull_58 : decode cJ5_appendNull 58 = .ok (.bastore, 1) := dk_84 (dk_at dksJ5_appendNull_2 10 rfl rfl)
theorem dJ5_appendNull_59 : decode cJ5_appendNull 59 = .ok (.goto 17, 3) := dk_167 0 17 (dk_at dksJ5_appendNull_2 11 rfl rfl)
theorem dJ5_appendNull_62 : decode cJ5_appendNull 62 = .ok (.aload_n 2, 1) := dk_44 (dk_at dksJ5_appendNull_2 14 rfl rfl)
theorem dJ5_appendNull_63 : decode cJ5_appendNull 63 = .ok (.iload_n 1, 1) := dk_27 (dk_at dksJ5_appendNull_2 15 rfl rfl)
theorem dJ5_appendNull_64 : decode cJ5_appendNull 64 = .ok (.bipush 110, 2) := dk_16 110 (dk_at dksJ5_appendNull_2 16 rfl rfl)
theorem dJ5_appendNull_66 : decode cJ5_appendNull 66 = .ok (.bipush 117, 2) := dk_16 117 (dk_at dksJ5_appendNull_2 18 rfl rfl)
theorem dJ5_appendNull_68 : decode cJ5_appendNull 68 = .ok (.bipush 108, 2) := dk_16 108 (dk_at dksJ5_appendNull_2 20 rfl rfl)
theorem dJ5_appendNull_70 : decode cJ5_appendNull 70 = .ok (.bipush 108, 2) := dk_16 108 (dk_at dksJ5_appendNull_2 22 rfl rfl)
theorem dJ5_appendNull_72 : decode cJ5_appendNull 72 = .ok (.invokestatic 226, 3) := dk_184 0 226 (dk_at dksJ5_appendNull_3 0 rfl rfl)
theorem dJ5_appendNull_75 : decode cJ5_appendNull 75 = .ok (.istore_n 1, 1) := dk_60 (dk_at dksJ5_appendNull_3 3 rfl rfl)
theorem dJ5_appendNull_76 : decode cJ5_appendNull 76 = .ok (.aload_n 0, 1) := dk_42 (dk_at dksJ5_appendNull_3 4 rfl rfl)
theorem dJ5_appendNull_77 : decode cJ5_appendNull 77 = .ok (.iload_n 1, 1) := dk_27 (dk_at dksJ5_appendNull_3 5 rfl rfl)
theorem dJ5_appendNull_78 : decode cJ5_appendNull 78 = .ok (.putfield 79, 3) := dk_181 0 79 (dk_at dksJ5_appendNull_3 6 rfl rfl)
theorem dJ5_appendNull_81 : decode cJ5_appendNull 81 = .ok (.aload_n 0, 1) := dk_42 (dk_at dksJ5_appendNull_3 9 rfl rfl)
theorem dJ5_appendNull_82 : decode cJ5_appendNull 82 = .ok (.areturn, 1) := dk_176 (dk_at dksJ5_appendNull_3 10 rfl rfl)
abbrev cJ5_putStringAt : ByteArray := prog_16_method_73_code
def yJ5_putStringAt : MethodName := ⟨RJ5, "putStringAt", "(ILjava/lang/String;)V"⟩
def dkwJ5_putStringAt_0 : List UInt8 := [42, 44, 182, 1, 141, 44, 42, 180, 0, 15, 27, 42, 180, 0, 22, 182, 1, 143, 177]
abbrev dktJ5_putStringAt_0 : List UInt8 := dkwJ5_putStringAt_0 ++ []
theorem dksJ5_putStringAt_0 : cJ5_putStringAt.data.toList.drop 0 = dktJ5_putStringAt_0 := by decide +kernel
theorem dJ5_putStringAt_0 : decode cJ5_putStringAt 0 = .ok (.aload_n 0, 1) := dk_42 (dk_at dksJ5_putStringAt_0 0 rfl rfl)
theorem dJ5_putStringAt_1 : decode cJ5_putStringAt 1 = .ok (.aload_n 2, 1) := dk_44 (dk_at dksJ5_putStringAt_0 1 rfl rfl)
theorem dJ5_putStringAt_2 : decode cJ5_putStringAt 2 = .ok (.invokevirtual 397, 3) := dk_182 1 141 (dk_at dksJ5_putStringAt_0 2 rfl rfl)
theorem dJ5_putStringAt_5 : decode cJ5_putStringAt 5 = .ok (.aload_n 2, 1) := dk_44 (dk_at dksJ5_putStringAt_0 5 rfl rfl)
theorem dJ5_putStringAt_6 : decode cJ5_putStringAt 6 = .ok (.aload_n 0, 1) := dk_42 (dk_at dksJ5_putStringAt_0 6 rfl rfl)
theorem dJ5_putStringAt_7 : decode cJ5_putStringAt 7 = .ok (.getfield 15, 3) := dk_180 0 15 (dk_at dksJ5_putStringAt_0 7 rfl rfl)
theorem dJ5_putStringAt_10 : decode cJ5_putStringAt 10 = .ok (.iload_n 1, 1) := dk_27 (dk_at dksJ5_putStringAt_0 10 rfl rfl)
theorem dJ5_putStringAt_11 : decode cJ5_putStringAt 11 = .ok (.aload_n 0, 1) := dk_42 (dk_at dksJ5_putStringAt_0 11 rfl rfl)
theorem dJ5_putStringAt_12 : decode cJ5_putStringAt 12 = .ok (.getfield 22, 3) := dk_180 0 22 (dk_at dksJ5_putStringAt_0 12 rfl rfl)
theorem dJ5_putStringAt_15 : decode cJ5_putStringAt 15 = .ok (.invokevirtual 399, 3) := dk_182 1 143 (dk_at dksJ5_putStringAt_0 15 rfl rfl)
theorem dJ5_putStringAt_18 : decode cJ5_putStringAt 18 = .ok (.return_, 1) := dk_177 (dk_at dksJ5_putStringAt_0 18 rfl rfl)
abbrev cJ5_inflateIfNeededFor : ByteArray := prog_16_method_71_code
def yJ5_inflateIfNeededFor : MethodName := ⟨RJ5, "inflateIfNeededFor", "(Ljava/lang/String;)V"⟩
def dkwJ5_inflateIfNeededFor_0 : List UInt8 := [178, 0, 18, 153, 0, 18, 42, 180, 0, 22, 43, 182, 0, 40, 159, 0, 7, 42, 182, 0, 195, 177]
abbrev dktJ5_inflateIfNeededFor_0 : List UInt8 := dkwJ5_inflateIfNeededFor_0 ++ []
theorem dksJ5_inflateIfNeededFor_0 : cJ5_inflateIfNeededFor.data.toList.drop 0 = dktJ5_inflateIfNeededFor_0 := by decide +kernel
theorem dJ5_inflateIfNeededFor_0 : decode cJ5_inflateIfNeededFor 0 = .ok (.getstatic 18, 3) := dk_178 0 18 (dk_at dksJ5_inflateIfNeededFor_0 0 rfl rfl)
theorem dJ5_inflateIfNeededFor_3 : decode cJ5_inflateIfNeededFor 3 = .ok (.ifCond .eq 18, 3) := dk_153 0 18 (dk_at dksJ5_inflateIfNeededFor_0 3 rfl rfl)
theorem dJ5_inflateIfNeededFor_6 : decode cJ5_inflateIfNeededFor 6 = .ok (.aload_n 0, 1) := dk_42 (dk_at dksJ5_inflateIfNeededFor_0 6 rfl rfl)
theorem dJ5_inflateIfNeededFor_7 : decode cJ5_inflateIfNeededFor 7 = .ok (.getfield 22, 3) := dk_180 0 22 (dk_at dksJ5_inflateIfNeededFor_0 7 rfl rfl)
theorem dJ5_inflateIfNeededFor_10 : decode cJ5_inflateIfNeededFor 10 = .ok (.aload_n 1, 1) := dk_43 (dk_at dksJ5_inflateIfNeededFor_0 10 rfl rfl)
theorem dJ5_inflateIfNeededFor_11 : decode cJ5_inflateIfNeededFor 11 = .ok (.invokevirtual 40, 3) := dk_182 0 40 (dk_at dksJ5_inflateIfNeededFor_0 11 rfl rfl)
theorem dJ5_inflateIfNeededFor_14 : decode cJ5_inflateIfNeededFor 14 = .ok (.if_icmp .eq 7, 3) := dk_159 0 7 (dk_at dksJ5_inflateIfNeededFor_0 14 rfl rfl)
theorem dJ5_inflateIfNeededFor_17 : decode cJ5_inflateIfNeededFor 17 = .ok (.aload_n 0, 1) := dk_42 (dk_at dksJ5_inflateIfNeededFor_0 17 rfl rfl)
theorem dJ5_inflateIfNeededFor_18 : decode cJ5_inflateIfNeededFor 18 = .ok (.invokevirtual 195, 3) := dk_182 0 195 (dk_at dksJ5_inflateIfNeededFor_0 18 rfl rfl)
theorem dJ5_inflateIfNeededFor_21 : decode cJ5_inflateIfNeededFor 21 = .ok (.return_, 1) := dk_177 (dk_at dksJ5_inflateIfNeededFor_0 21 rfl rfl)
abbrev cJ5_inflate : ByteArray := prog_16_method_11_code
def yJ5_inflate : MethodName := ⟨RJ5, "inflate", "()V"⟩
def dkwJ5_inflate_1 : List UInt8 := [42, 180, 0, 79, 184, 0, 125, 42, 43, 181, 0, 15, 42, 4, 181, 0, 22, 177]
abbrev dktJ5_inflate_1 : List UInt8 := dkwJ5_inflate_1 ++ []
def dkwJ5_inflate_0 : List UInt8 := [42, 182, 0, 83, 154, 0, 4, 177, 42, 180, 0, 15, 190, 184, 0, 26, 76, 42, 180, 0, 15, 3, 43, 3]
abbrev dktJ5_inflate_0 : List UInt8 := dkwJ5_inflate_0 ++ dktJ5_inflate_1
theorem dksJ5_inflate_0 : cJ5_inflate.data.toList.drop 0 = dktJ5_inflate_0 := by decide +kernel
theorem dksJ5_inflate_1 : cJ5_inflate.data.toList.drop 24 = dktJ5_inflate_1 := dk_seg dksJ5_inflate_0 24 rfl rfl
theorem dJ5_inflate_0 : decode cJ5_inflate 0 = .ok (.aload_n 0, 1) := dk_42 (dk_at dksJ5_inflate_0 0 rfl rfl)
theorem dJ5_inflate_1 : decode cJ5_inflate 1 = .ok (.invokevirtual 83, 3) := dk_182 0 83 (dk_at dksJ5_inflate_0 1 rfl rfl)
theorem dJ5_inflate_4 : decode cJ5_inflate 4 = .ok (.ifCond .ne 4, 3) := dk_154 0 4 (dk_at dksJ5_inflate_0 4 rfl rfl)
theorem dJ5_inflate_7 : decode cJ5_inflate 7 = .ok (.return_, 1) := dk_177 (dk_at dksJ5_inflate_0 7 rfl rfl)
theorem dJ5_inflate_8 : decode cJ5_inflate 8 = .ok (.aload_n 0, 1) := dk_42 (dk_at dksJ5_inflate_0 8 rfl rfl)
theorem dJ5_inflate_9 : decode cJ5_inflate 9 = .ok (.getfield 15, 3) := dk_180 0 15 (dk_at dksJ5_inflate_0 9 rfl rfl)
theorem dJ5_inflate_12 : decode cJ5_inflate 12 = .ok (.arraylength, 1) := dk_190 (dk_at dksJ5_inflate_0 12 rfl rfl)
theorem dJ5_inflate_13 : decode cJ5_inflate 13 = .ok (.invokestatic 26, 3) := dk_184 0 26 (dk_at dksJ5_inflate_0 13 rfl rfl)
theorem dJ5_inflate_16 : decode cJ5_inflate 16 = .ok (.astore_n 1, 1) := dk_76 (dk_at dksJ5_inflate_0 16 rfl rfl)
theorem dJ5_inflate_17 : decode cJ5_inflate 17 = .ok (.aload_n 0, 1) := dk_42 (dk_at dksJ5_inflate_0 17 rfl rfl)
theorem dJ5_inflate_18 : decode cJ5_inflate 18 = .ok (.getfield 15, 3) := dk_180 0 15 (dk_at dksJ5_inflate_0 18 rfl rfl)
theorem dJ5_inflate_21 : decode cJ5_inflate 21 = .ok (.iconst 0, 1) := dk_3 (dk_at dksJ5_inflate_0 21 rfl rfl)
theorem dJ5_inflate_22 : decode cJ5_inflate 22 = .ok (.aload_n 1, 1) := dk_43 (dk_at dksJ5_inflate_0 22 rfl rfl)
theorem dJ5_inflate_23 : decode cJ5_inflate 23 = .ok (.iconst 0, 1) := dk_3 (dk_at dksJ5_inflate_0 23 rfl rfl)
theorem dJ5_inflate_24 : decode cJ5_inflate 24 = .ok (.aload_n 0, 1) := dk_42 (dk_at dksJ5_inflate_1 0 rfl rfl)
theorem dJ5_inflate_25 : decode cJ5_inflate 25 = .ok (.getfield 79, 3) := dk_180 0 79 (dk_at dksJ5_inflate_1 1 rfl rfl)
theorem dJ5_inflate_28 : decode cJ5_inflate 28 = .ok (.invokestatic 125, 3) := dk_184 0 125 (dk_at dksJ5_inflate_1 4 rfl rfl)
theorem dJ5_inflate_31 : decode cJ5_inflate 31 = .ok (.aload_n 0, 1) := dk_42 (dk_at dksJ5_inflate_1 7 rfl rfl)
theorem dJ5_inflate_32 : decode cJ5_inflate 32 = .ok (.aload_n 1, 1) := dk_43 (dk_at dksJ5_inflate_1 8 rfl rfl)
theorem dJ5_inflate_33 : decode cJ5_inflate 33 = .ok (.putfield 15, 3) := dk_181 0 15 (dk_at dksJ5_inflate_1 9 rfl rfl)
theorem dJ5_inflate_36 : decode cJ5_inflate 36 = .ok (.aload_n 0, 1) := dk_42 (dk_at dksJ5_inflate_1 12 rfl rfl)
theorem dJ5_inflate_37 : decode cJ5_inflate 37 = .ok (.iconst 1, 1) := dk_4 (dk_at dksJ5_inflate_1 13 rfl rfl)
theorem dJ5_inflate_38 : decode cJ5_inflate 38 = .ok (.putfield 22, 3) := dk_181 0 22 (dk_at dksJ5_inflate_1 14 rfl rfl)
theorem dJ5_inflate_41 : decode cJ5_inflate 41 = .ok (.return_, 1) := dk_177 (dk_at dksJ5_inflate_1 17 rfl rfl)
abbrev cJ5_compareTo : ByteArray := prog_16_method_5_code
def yJ5_compareTo : MethodName := ⟨RJ5, "compareTo", "(Ljava/lang/AbstractStringBuilder;)I"⟩
def dkwJ5_compareTo_4 : List UInt8 := [184, 0, 97, 172]
abbrev dktJ5_compareTo_4 : List UInt8 := dkwJ5_compareTo_4 ++ []
def dkwJ5_compareTo_3 : List UInt8 := [182, 0, 83, 153, 0, 15, 44, 45, 21, 4, 21, 5, 184, 0, 94, 167, 0, 12, 44, 45, 21, 4, 21, 5]
abbrev dktJ5_compareTo_3 : List UInt8 := dkwJ5_compareTo_3 ++ dktJ5_compareTo_4
def dkwJ5_compareTo_2 : List UInt8 := [45, 21, 4, 21, 5, 184, 0, 87, 167, 0, 12, 44, 45, 21, 4, 21, 5, 184, 0, 93, 172, 42]
abbrev dktJ5_compareTo_2 : List UInt8 := dkwJ5_compareTo_2 ++ dktJ5_compareTo_3
def dkwJ5_compareTo_1 : List UInt8 := [180, 0, 79, 54, 5, 42, 180, 0, 22, 43, 180, 0, 22, 160, 0, 32, 42, 182, 0, 83, 153, 0, 15, 44]
abbrev dktJ5_compareTo_1 : List UInt8 := dkwJ5_compareTo_1 ++ dktJ5_compareTo_2
def dkwJ5_compareTo_0 : List UInt8 := [42, 43, 166, 0, 5, 3, 172, 42, 180, 0, 15, 77, 43, 180, 0, 15, 78, 42, 180, 0, 79, 54, 4, 43]
abbrev dktJ5_compareTo_0 : List UInt8 := dkwJ5_compareTo_0 ++ dktJ5_compareTo_1
theorem dksJ5_compareTo_0 : cJ5_compareTo.data.toList.drop 0 = dktJ5_compareTo_0 := by decide +kernel
theorem dksJ5_compareTo_1 : cJ5_compareTo.data.toList.drop 24 = dktJ5_compareTo_1 := dk_seg dksJ5_compareTo_0 24 rfl rfl
theorem dksJ5_compareTo_2 : cJ5_compareTo.data.toList.drop 48 = dktJ5_compareTo_2 := dk_seg dksJ5_compareTo_1 24 rfl rfl
theorem dksJ5_compareTo_3 : cJ5_compareTo.data.toList.drop 70 = dktJ5_compareTo_3 := dk_seg dksJ5_compareTo_2 22 rfl rfl
theorem dksJ5_compareTo_4 : cJ5_compareTo.data.toList.drop 94 = dktJ5_compareTo_4 := dk_seg dksJ5_compareTo_3 24 rfl rfl
theorem dJ5_compareTo_0 : decode cJ5_compareTo 0 = .ok (.aload_n 0, 1) := dk_42 (dk_at dksJ5_compareTo_0 0 rfl rfl)
theorem dJ5_compareTo_1 : decode cJ5_compareTo 1 = .ok (.aload_n 1, 1) := dk_43 (dk_at dksJ5_compareTo_0 1 rfl rfl)
theorem dJ5_compareTo_2 : decode cJ5_compareTo 2 = .ok (.if_acmp .ne 5, 3) := dk_166 0 5 (dk_at dksJ5_compareTo_0 2 rfl rfl)
theorem dJ5_compareTo_5 : decode cJ5_compareTo 5 = .ok (.iconst 0, 1) := dk_3 (dk_at dksJ5_compareTo_0 5 rfl rfl)
theorem dJ5_compareTo_6 : decode cJ5_compareTo 6 = .ok (.ireturn, 1) := dk_172 (dk_at dksJ5_compareTo_0 6 rfl rfl)
theorem dJ5_compareTo_7 : decode cJ5_compareTo 7 = .ok (.aload_n 0, 1) := dk_42 (dk_at dksJ5_compareTo_0 7 rfl rfl)
theorem dJ5_compareTo_8 : decode cJ5_compareTo 8 = .ok (.getfield 15, 3) := dk_180 0 15 (dk_at dksJ5_compareTo_0 8 rfl rfl)
theorem dJ5_compareTo_11 : decode cJ5_compareTo 11 = .ok (.astore_n 2, 1) := dk_77 (dk_at dksJ5_compareTo_0 11 rfl rfl)
theorem dJ5_compareTo_12 : decode cJ5_compareTo 12 = .ok (.aload_n 1, 1) := dk_43 (dk_at dksJ5_compareTo_0 12 rfl rfl)
theorem dJ5_compareTo_13 : decode cJ5_compareTo 13 = .ok (.getfield 15, 3) := dk_180 0 15 (dk_at dksJ5_compareTo_0 13 rfl rfl)
theorem dJ5_compareTo_16 : decode cJ5_compareTo 16 = .ok (.astore_n 3, 1) := dk_78 (dk_at dksJ5_compareTo_0 16 rfl rfl)
theorem dJ5_compareTo_17 : decode cJ5_compareTo 17 = .ok (.aload_n 0, 1) := dk_42 (dk_at dksJ5_compareTo_0 17 rfl rfl)
theorem dJ5_compareTo_18 : decode cJ5_compareTo 18 = .ok (.getfield 79, 3) := dk_180 0 79 (dk_at dksJ5_compareTo_0 18 rfl rfl)
theorem dJ5_compareTo_21 : decode cJ5_compareTo 21 = .ok (.istore 4, 2) := dk_54 4 (dk_at dksJ5_compareTo_0 21 rfl rfl)
theorem dJ5_compareTo_23 : decode cJ5_compareTo 23 = .ok (.aload_n 1, 1) := dk_43 (dk_at dksJ5_compareTo_0 23 rfl rfl)
theorem dJ5_compareTo_24 : decode cJ5_compareTo 24 = .ok (.getfield 79, 3) := dk_180 0 79 (dk_at dksJ5_compareTo_1 0 rfl rfl)
theorem dJ5_compareTo_27 : decode cJ5_compareTo 27 = .ok (.istore 5, 2) := dk_54 5 (dk_at dksJ5_compareTo_1 3 rfl rfl)
theorem dJ5_compareTo_29 : decode cJ5_compareTo 29 = .ok (.aload_n 0, 1) := dk_42 (dk_at dksJ5_compareTo_1 5 rfl rfl)
theorem dJ5_compareTo_30 : decode cJ5_compareTo 30 = .ok (.getfield 22, 3) := dk_180 0 22 (dk_at dksJ5_compareTo_1 6 rfl rfl)
theorem dJ5_compareTo_33 : decode cJ5_compareTo 33 = .ok (.aload_n 1, 1) := dk_43 (dk_at dksJ5_compareTo_1 9 rfl rfl)
theorem dJ5_compareTo_34 : decode cJ5_compareTo 34 = .ok (.getfield 22, 3) := dk_180 0 22 (dk_at dksJ5_compareTo_1 10 rfl rfl)
theorem dJ5_compareTo_37 : decode cJ5_compareTo 37 = .ok (.if_icmp .ne 32, 3) := dk_160 0 32 (dk_at dksJ5_compareTo_1 13 rfl rfl)
theorem dJ5_compareTo_40 : decode cJ5_compareTo 40 = .ok (.aload_n 0, 1) := dk_42 (dk_at dksJ5_compareTo_1 16 rfl rfl)
theorem dJ5_compareTo_41 : decode cJ5_compareTo 41 = .ok (.invokevirtual 83, 3) := dk_182 0 83 (dk_at dksJ5_compareTo_1 17 rfl rfl)
theorem dJ5_compareTo_44 : decode cJ5_compareTo 44 = .ok (.ifCond .eq 15, 3) := dk_153 0 15 (dk_at dksJ5_compareTo_1 20 rfl rfl)
theorem dJ5_compareTo_47 : decode cJ5_compareTo 47 = .ok (.aload_n 2, 1) := dk_44 (dk_at dksJ5_compareTo_1 23 rfl rfl)
theorem dJ5_compareTo_48 : decode cJ5_compareTo 48 = .ok (.aload_n 3, 1) := dk_45 (dk_at dksJ5_compareTo_2 0 rfl rfl)
theorem dJ5_compareTo_49 : decode cJ5_compareTo 49 = .ok (.iload 4, 2) := dk_21 4 (dk_at dksJ5_compareTo_2 1 rfl rfl)
theorem dJ5_compareTo_51 : decode cJ5_compareTo 51 = .ok (.iload 5, 2) := dk_21 5 (dk_at dksJ5_compareTo_2 3 rfl rfl)
theorem dJ5_compareTo_53 : decode cJ5_compareTo 53 = .ok (.invokestatic 87, 3) := dk_184 0 87 (dk_at dksJ5_compareTo_2 5 rfl rfl)
theorem dJ5_compareTo_56 : decode cJ5_compareTo 56 = .ok (.goto 12, 3) := dk_167 0 12 (dk_at dksJ5_compareTo_2 8 rfl rfl)
theorem dJ5_compareTo_59 : decode cJ5_compareTo 59 = .ok (.aload_n 2, 1) := dk_44 (dk_at dksJ5_compareTo_2 11 rfl rfl)
theorem dJ5_compareTo_60 : decode cJ5_compareTo 60 = .ok (.aload_n 3, 1) := dk_45 (dk_at dksJ5_compareTo_2 12 rfl rfl)
theorem dJ5_compareTo_61 : decode cJ5_compareTo 61 = .ok (.iload 4, 2) := dk_21 4 (dk_at dksJ5_compareTo_2 13 rfl rfl)
theorem dJ5_compareTo_63 : decode cJ5_compareTo 63 = .ok (.iload 5, 2) := dk_21 5 (dk_at dksJ5_compareTo_2 15 rfl rfl)
theorem dJ5_compareTo_65 : decode cJ5_compareTo 65 = .ok (.invokestatic 93, 3) := dk_184 0 93 (dk_at dksJ5_compareTo_2 17 rfl rfl)
theorem dJ5_compareTo_68 : decode cJ5_compareTo 68 = .ok (.ireturn, 1) := dk_172 (dk_at dksJ5_compareTo_2 20 rfl rfl)
theorem dJ5_compareTo_69 : decode cJ5_compareTo 69 = .ok (.aload_n 0, 1) := dk_42 (dk_at dksJ5_compareTo_2 21 rfl rfl)
theorem dJ5_compareTo_70 : decode cJ5_compareTo 70 = .ok (.invokevirtual 83, 3) := dk_182 0 83 (dk_at dksJ5_compareTo_3 0 rfl rfl)
theorem dJ5_compareTo_73 : decode cJ5_compareTo 73 = .ok (.ifCond .eq 15, 3) := dk_153 0 15 (dk_at dksJ5_compareTo_3 3 rfl rfl)
theorem dJ5_compareTo_76 : decode cJ5_compareTo 76 = .ok (.aload_n 2, 1) := dk_44 (dk_at dksJ5_compareTo_3 6 rfl rfl)
theorem dJ5_compareTo_77 : decode cJ5_compareTo 77 = .ok (.aload_n 3, 1) := dk_45 (dk_at dksJ5_compareTo_3 7 rfl rfl)
theorem dJ5_compareTo_78 : decode cJ5_compareTo 78 = .ok (.iload 4, 2) := dk_21 4 (dk_at dksJ5_compareTo_3 8 rfl rfl)
theorem dJ5_compareTo_80 : decode cJ5_compareTo 80 = .ok (.iload 5, 2) := dk_21 5 (dk_at dksJ5_compareTo_3 10 rfl rfl)
theorem dJ5_compareTo_82 : decode cJ5_compareTo 82 = .ok (.invokestatic 94, 3) := dk_184 0 94 (dk_at dksJ5_compareTo_3 12 rfl rfl)
theorem dJ5_compareTo_85 : decode cJ5_compareTo 85 = .ok (.goto 12, 3) := dk_167 0 12 (dk_at dksJ5_compareTo_3 15 rfl rfl)
theorem dJ5_compareTo_88 : decode cJ5_compareTo 88 = .ok (.aload_n 2, 1) := dk_44 (dk_at dksJ5_compareTo_3 18 rfl rfl)
theorem dJ5_compareTo_89 : decode cJ5_compareTo 89 = .ok (.aload_n 3, 1) := dk_45 (dk_at dksJ5_compareTo_3 19 rfl rfl)
theorem dJ5_compareTo_90 : decode cJ5_compareTo 90 = .ok (.iload 4, 2) := dk_21 4 (dk_at dksJ5_compareTo_3 20 rfl rfl)
theorem dJ5_compareTo_92 : decode cJ5_compareTo 92 = .ok (.iload 5, 2) := dk_21 5 (dk_at dksJ5_compareTo_3 22 rfl rfl)
theorem dJ5_compareTo_94 : decode cJ5_compareTo 94 = .ok (.invokestatic 97, 3) := dk_184 0 97 (dk_at dksJ5_compareTo_4 0 rfl rfl)
theorem dJ5_compareTo_97 : decode cJ5_compareTo 97 = .ok (.ireturn, 1) := dk_172 (dk_at dksJ5_compareTo_4 3 rfl rfl)
abbrev cJ5_append_3 : ByteArray := prog_16_method_25_code
def yJ5_append_3 : MethodName := ⟨RJ5, "append", "(Ljava/lang/CharSequence;)Ljava/lang/AbstractStringBuilder;"⟩
def dkwJ5_append_3_2 : List UInt8 := [185, 0, 47, 1, 0, 182, 0, 223, 176]
abbrev dktJ5_append_3_2 : List UInt8 := dkwJ5_append_3_2 ++ []
def dkwJ5_append_3_1 : List UInt8 := [176, 43, 193, 0, 10, 153, 0, 12, 42, 43, 192, 0, 10, 182, 0, 212, 176, 42, 43, 3, 43]
abbrev dktJ5_append_3_1 : List UInt8 := dkwJ5_append_3_1 ++ dktJ5_append_3_2
def dkwJ5_append_3_0 : List UInt8 := [43, 199, 0, 8, 42, 182, 0, 204, 176, 43, 193, 0, 1, 153, 0, 12, 42, 43, 192, 0, 1, 182, 0, 43]
abbrev dktJ5_append_3_0 : List UInt8 := dkwJ5_append_3_0 ++ dktJ5_append_3_1
theorem dksJ5_append_3_0 : cJ5_append_3.data.toList.drop 0 = dktJ5_append_3_0 := by decide +kernel
theorem dksJ5_append_3_1 : cJ5_append_3.data.toList.drop 24 = dktJ5_append_3_1 := dk_seg dksJ5_append_3_0 24 rfl rfl
theorem dksJ5_append_3_2 : cJ5_append_3.data.toList.drop 45 = dktJ5_append_3_2 := dk_seg dksJ5_append_3_1 21 rfl rfl
theorem dJ5_append_3_0 : decode cJ5_append_3 0 = .ok (.aload_n 1, 1) := dk_43 (dk_at dksJ5_append_3_0 0 rfl rfl)
theorem dJ5_append_3_1 : decode cJ5_append_3 1 = .ok (.ifnonnull 8, 3) := dk_199 0 8 (dk_at dksJ5_append_3_0 1 rfl rfl)
theorem dJ5_append_3_4 : decode cJ5_append_3 4 = .ok (.aload_n 0, 1) := dk_42 (dk_at dksJ5_append_3_0 4 rfl rfl)
theorem dJ5_append_3_5 : decode cJ5_append_3 5 = .ok (.invokevirtual 204, 3) := dk_182 0 204 (dk_at dksJ5_append_3_0 5 rfl rfl)
theorem dJ5_append_3_8 : decode cJ5_append_3 8 = .ok (.areturn, 1) := dk_176 (dk_at dksJ5_append_3_0 8 rfl rfl)
theorem dJ5_append_3_9 : decode cJ5_append_3 9 = .ok (.aload_n 1, 1) := dk_43 (dk_at dksJ5_append_3_0 9 rfl rfl)
theorem dJ5_append_3_10 : decode cJ5_append_3 10 = .ok (.instanceof 1, 3) := dk_193 0 1 (dk_at dksJ5_append_3_0 10 rfl rfl)
theorem dJ5_append_3_13 : decode cJ5_append_3 13 = .ok (.ifCond .eq 12, 3) := dk_153 0 12 (dk_at dksJ5_append_3_0 13 rfl rfl)
theorem dJ5_append_3_16 : decode cJ5_append_3 16 = .ok (.aload_n 0, 1) := dk_42 (dk_at dksJ5_append_3_0 16 rfl rfl)
theorem dJ5_append_3_17 : decode cJ5_append_3 17 = .ok (.aload_n 1, 1) := dk_43 (dk_at dksJ5_append_3_0 17 rfl rfl)
theorem dJ5_append_3_18 : decode cJ5_append_3 18 = .ok (.checkcast 1, 3) := dk_192 0 1 (dk_at dksJ5_append_3_0 18 rfl rfl)
theorem dJ5_append_3_21 : decode cJ5_append_3 21 = .ok (.invokevirtual 43, 3) := dk_182 0 43 (dk_at dksJ5_append_3_0 21 rfl rfl)
theorem dJ5_append_3_24 : decode cJ5_append_3 24 = .ok (.areturn, 1) := dk_176 (dk_at dksJ5_append_3_1 0 rfl rfl)
theorem dJ5_append_3_25 : decode cJ5_append_3 25 = .ok (.aload_n 1, 1) := dk_43 (dk_at dksJ5_append_3_1 1 rfl rfl)
theorem dJ5_append_3_26 : decode cJ5_append_3 26 = .ok (.instanceof 10, 3) := dk_193 0 10 (dk_at dksJ5_append_3_1 2 rfl rfl)
theorem dJ5_append_3_29 : decode cJ5_append_3 29 = .ok (.ifCond .eq 12, 3) := dk_153 0 12 (dk_at dksJ5_append_3_1 5 rfl rfl)
theorem dJ5_append_3_32 : decode cJ5_append_3 32 = .ok (.aload_n 0, 1) := dk_42 (dk_at dksJ5_append_3_1 8 rfl rfl)
theorem dJ5_append_3_33 : decode cJ5_append_3 33 = .ok (.aload_n 1, 1) := dk_43 (dk_at dksJ5_append_3_1 9 rfl rfl)
theorem dJ5_append_3_34 : decode cJ5_append_3 34 = .ok (.checkcast 10, 3) := dk_192 0 10 (dk_at dksJ5_append_3_1 10 rfl rfl)
theorem dJ5_append_3_37 : decode cJ5_append_3 37 = .ok (.invokevirtual 212, 3) := dk_182 0 212 (dk_at dksJ5_append_3_1 13 rfl rfl)
theorem dJ5_append_3_40 : decode cJ5_append_3 40 = .ok (.areturn, 1) := dk_176 (dk_at dksJ5_append_3_1 16 rfl rfl)
theorem dJ5_append_3_41 : decode cJ5_append_3 41 = .ok (.aload_n 0, 1) := dk_42 (dk_at dksJ5_append_3_1 17 rfl rfl)
theorem dJ5_append_3_42 : decode cJ5_append_3 42 = .ok (.aload_n 1, 1) := dk_43 (dk_at dksJ5_append_3_1 18 rfl rfl)
theorem dJ5_append_3_43 : decode cJ5_append_3 43 = .ok (.iconst 0, 1) := dk_3 (dk_at dksJ5_append_3_1 19 rfl rfl)
theorem dJ5_append_3_44 : decode cJ5_append_3 44 = .ok (.aload_n 1, 1) := dk_43 (dk_at dksJ5_append_3_1 20 rfl rfl)
theorem dJ5_append_3_45 : decode cJ5_append_3 45 = .ok (.invokeinterface 47 1, 5) := by decide +kernel
theorem dJ5_append_3_50 : decode cJ5_append_3 50 = .ok (.invokevirtual 223, 3) := dk_182 0 223 (dk_at dksJ5_append_3_2 5 rfl rfl)
theorem dJ5_append_3_53 : decode cJ5_append_3 53 = .ok (.areturn, 1) := dk_176 (dk_at dksJ5_append_3_2 8 rfl rfl)
abbrev cJ5_append_4 : ByteArray := prog_16_method_24_code
def yJ5_append_4 : MethodName := ⟨RJ5, "append", "(Ljava/lang/AbstractStringBuilder;)Ljava/lang/AbstractStringBuilder;"⟩
def dkwJ5_append_4_2 : List UInt8 := [180, 0, 79, 28, 96, 181, 0, 79, 42, 89, 180, 0, 73, 43, 180, 0, 73, 128, 181, 0, 73, 42, 176]
abbrev dktJ5_append_4_2 : List UInt8 := dkwJ5_append_4_2 ++ []
def dkwJ5_append_4_1 : List UInt8 := [42, 43, 182, 0, 215, 43, 42, 180, 0, 15, 42, 180, 0, 79, 42, 180, 0, 22, 182, 0, 219, 42, 89]
abbrev dktJ5_append_4_1 : List UInt8 := dkwJ5_append_4_1 ++ dktJ5_append_4_2
def dkwJ5_append_4_0 : List UInt8 := [43, 199, 0, 8, 42, 182, 0, 204, 176, 43, 182, 0, 160, 61, 42, 42, 180, 0, 79, 28, 96, 182, 0, 100]
abbrev dktJ5_append_4_0 : List UInt8 := dkwJ5_append_4_0 ++ dktJ5_append_4_1
theorem dksJ5_append_4_0 : cJ5_append_4.data.toList.drop 0 = dktJ5_append_4_0 := by decide +kernel
theorem dksJ5_append_4_1 : cJ5_append_4.data.toList.drop 24 = dktJ5_append_4_1 := dk_seg dksJ5_append_4_0 24 rfl rfl
theorem dksJ5_append_4_2 : cJ5_append_4.data.toList.drop 47 = dktJ5_append_4_2 := dk_seg dksJ5_append_4_1 23 rfl rfl
theorem dJ5_append_4_0 : decode cJ5_append_4 0 = .ok (.aload_n 1, 1) := dk_43 (dk_at dksJ5_append_4_0 0 rfl rfl)
theorem dJ5_append_4_1 : decode cJ5_append_4 1 = .ok (.ifnonnull 8, 3) := dk_199 0 8 (dk_at dksJ5_append_4_0 1 rfl rfl)
theorem dJ5_append_4_4 : decode cJ5_append_4 4 = .ok (.aload_n 0, 1) := dk_42 (dk_at dksJ5_append_4_0 4 rfl rfl)
theorem dJ5_append_4_5 : decode cJ5_append_4 5 = .ok (.invokevirtual 204, 3) := dk_182 0 204 (dk_at dksJ5_append_4_0 5 rfl rfl)
theorem dJ5_append_4_8 : decode cJ5_append_4 8 = .ok (.areturn, 1) := dk_176 (dk_at dksJ5_append_4_0 8 rfl rfl)
theorem dJ5_append_4_9 : decode cJ5_append_4 9 = .ok (.aload_n 1, 1) := dk_43 (dk_at dksJ5_append_4_0 9 rfl rfl)
theorem dJ5_append_4_10 : decode cJ5_append_4 10 = .ok (.invokevirtual 160, 3) := dk_182 0 160 (dk_at dksJ5_append_4_0 10 rfl rfl)
theorem dJ5_append_4_13 : decode cJ5_append_4 13 = .ok (.istore_n 2, 1) := dk_61 (dk_at dksJ5_append_4_0 13 rfl rfl)
theorem dJ5_append_4_14 : decode cJ5_append_4 14 = .ok (.aload_n 0, 1) := dk_42 (dk_at dksJ5_append_4_0 14 rfl rfl)
theorem dJ5_append_4_15 : decode cJ5_append_4 15 = .ok (.aload_n 0, 1) := dk_42 (dk_at dksJ5_append_4_0 15 rfl rfl)
theorem dJ5_append_4_16 : decode cJ5_append_4 16 = .ok (.getfield 79, 3) := dk_180 0 79 (dk_at dksJ5_append_4_0 16 rfl rfl)
theorem dJ5_append_4_19 : decode cJ5_append_4 19 = .ok (.iload_n 2, 1) := dk_28 (dk_at dksJ5_append_4_0 19 rfl rfl)
theorem dJ5_append_4_20 : decode cJ5_append_4 20 = .ok (.iadd, 1) := dk_96 (dk_at dksJ5_append_4_0 20 rfl rfl)
theorem dJ5_append_4_21 : decode cJ5_append_4 21 = .ok (.invokevirtual 100, 3) := dk_182 0 100 (dk_at dksJ5_append_4_0 21 rfl rfl)
theorem dJ5_append_4_24 : decode cJ5_append_4 24 = .ok (.aload_n 0, 1) := dk_42 (dk_at dksJ5_append_4_1 0 rfl rfl)
theorem dJ5_append_4_25 : decode cJ5_append_4 25 = .ok (.aload_n 1, 1) := dk_43 (dk_at dksJ5_append_4_1 1 rfl rfl)
theorem dJ5_append_4_26 : decode cJ5_append_4 26 = .ok (.invokevirtual 215, 3) := dk_182 0 215 (dk_at dksJ5_append_4_1 2 rfl rfl)
theorem dJ5_append_4_29 : decode cJ5_append_4 29 = .ok (.aload_n 1, 1) := dk_43 (dk_at dksJ5_append_4_1 5 rfl rfl)
theorem dJ5_append_4_30 : decode cJ5_append_4 30 = .ok (.aload_n 0, 1) := dk_42 (dk_at dksJ5_append_4_1 6 rfl rfl)
theorem dJ5_append_4_31 : decode cJ5_append_4 31 = .ok (.getfield 15, 3) := dk_180 0 15 (dk_at dksJ5_append_4_1 7 rfl rfl)
theorem dJ5_append_4_34 : decode cJ5_append_4 34 = .ok (.aload_n 0, 1) := dk_42 (dk_at dksJ5_append_4_1 10 rfl rfl)
theorem dJ5_append_4_35 : decode cJ5_append_4 35 = .ok (.getfield 79, 3) := dk_180 0 79 (dk_at dksJ5_append_4_1 11 rfl rfl)
theorem dJ5_append_4_38 : decode cJ5_append_4 38 = .ok (.aload_n 0, 1) := dk_42 (dk_at dksJ5_append_4_1 14 rfl rfl)
theorem dJ5_append_4_39 : decode cJ5_append_4 39 = .ok (.getfield 22, 3) := dk_180 0 22 (dk_at dksJ5_append_4_1 15 rfl rfl)
theorem dJ5_append_4_42 : decode cJ5_append_4 42 = .ok (.invokevirtual 219, 3) := dk_182 0 219 (dk_at dksJ5_append_4_1 18 rfl rfl)
theorem dJ5_append_4_45 : decode cJ5_append_4 45 = .ok (.aload_n 0, 1) := dk_42 (dk_at dksJ5_append_4_1 21 rfl rfl)
theorem dJ5_append_4_46 : decode cJ5_append_4 46 = .ok (.dup, 1) := dk_89 (dk_at dksJ5_append_4_1 22 rfl rfl)
theorem dJ5_append_4_47 : decode cJ5_append_4 47 = .ok (.getfield 79, 3) := dk_180 0 79 (dk_at dksJ5_append_4_2 0 rfl rfl)
theorem dJ5_append_4_50 : decode cJ5_append_4 50 = .ok (.iload_n 2, 1) := dk_28 (dk_at dksJ5_append_4_2 3 rfl rfl)
theorem dJ5_append_4_51 : decode cJ5_append_4 51 = .ok (.iadd, 1) := dk_96 (dk_at dksJ5_append_4_2 4 rfl rfl)
theorem dJ5_append_4_52 : decode cJ5_append_4 52 = .ok (.putfield 79, 3) := dk_181 0 79 (dk_at dksJ5_append_4_2 5 rfl rfl)
theorem dJ5_append_4_55 : decode cJ5_append_4 55 = .ok (.aload_n 0, 1) := dk_42 (dk_at dksJ5_append_4_2 8 rfl rfl)
theorem dJ5_append_4_56 : decode cJ5_append_4 56 = .ok (.dup, 1) := dk_89 (dk_at dksJ5_append_4_2 9 rfl rfl)
theorem dJ5_append_4_57 : decode cJ5_append_4 57 = .ok (.getfield 73, 3) := dk_180 0 73 (dk_at dksJ5_append_4_2 10 rfl rfl)
theorem dJ5_append_4_60 : decode cJ5_append_4 60 = .ok (.aload_n 1, 1) := dk_43 (dk_at dksJ5_append_4_2 13 rfl rfl)
theorem dJ5_append_4_61 : decode cJ5_append_4 61 = .ok (.getfield 73, 3) := dk_180 0 73 (dk_at dksJ5_append_4_2 14 rfl rfl)
theorem dJ5_append_4_64 : decode cJ5_append_4 64 = .ok (.ior, 1) := dk_128 (dk_at dksJ5_append_4_2 17 rfl rfl)
theorem dJ5_append_4_65 : decode cJ5_append_4 65 = .ok (.putfield 73, 3) := dk_181 0 73 (dk_at dksJ5_append_4_2 18 rfl rfl)
theorem dJ5_append_4_68 : decode cJ5_append_4 68 = .ok (.aload_n 0, 1) := dk_42 (dk_at dksJ5_append_4_2 21 rfl rfl)
theorem dJ5_append_4_69 : decode cJ5_append_4 69 = .ok (.areturn, 1) := dk_176 (dk_at dksJ5_append_4_2 22 rfl rfl)
abbrev cJ5_inflateIfNeededFor_2 : ByteArray := prog_16_method_72_code
def yJ5_inflateIfNeededFor_2 : MethodName := ⟨RJ5, "inflateIfNeededFor", "(Ljava/lang/AbstractStringBuilder;)V"⟩
def dkwJ5_inflateIfNeededFor_2_0 : List UInt8 := [178, 0, 18, 153, 0, 18, 42, 180, 0, 22, 43, 182, 0, 70, 159, 0, 7, 42, 182, 0, 195, 177]
abbrev dktJ5_inflateIfNeededFor_2_0 : List UInt8 := dkwJ5_inflateIfNeededFor_2_0 ++ []
theorem dksJ5_inflateIfNeededFor_2_0 : cJ5_inflateIfNeededFor_2.data.toList.drop 0 = dktJ5_inflateIfNeededFor_2_0 := by decide +kernel
theorem dJ5_inflateIfNeededFor_2_0 : decode cJ5_inflateIfNeededFor_2 0 = .ok (.getstatic 18, 3) := dk_178 0 18 (dk_at dksJ5_inflateIfNeededFor_2_0 0 rfl rfl)
theorem dJ5_inflateIfNeededFor_2_3 : decode cJ5_inflateIfNeededFor_2 3 = .ok (.ifCond .eq 18, 3) := dk_153 0 18 (dk_at dksJ5_inflateIfNeededFor_2_0 3 rfl rfl)
theorem dJ5_inflateIfNeededFor_2_6 : decode cJ5_inflateIfNeededFor_2 6 = .ok (.aload_n 0, 1) := dk_42 (dk_at dksJ5_inflateIfNeededFor_2_0 6 rfl rfl)
theorem dJ5_inflateIfNeededFor_2_7 : decode cJ5_inflateIfNeededFor_2 7 = .ok (.getfield 22, 3) := dk_180 0 22 (dk_at dksJ5_inflateIfNeededFor_2_0 7 rfl rfl)
theorem dJ5_inflateIfNeededFor_2_10 : decode cJ5_inflateIfNeededFor_2 10 = .ok (.aload_n 1, 1) := dk_43 (dk_at dksJ5_inflateIfNeededFor_2_0 10 rfl rfl)
theorem dJ5_inflateIfNeededFor_2_11 : decode cJ5_inflateIfNeededFor_2 11 = .ok (.invokevirtual 70, 3) := dk_182 0 70 (dk_at dksJ5_inflateIfNeededFor_2_0 11 rfl rfl)
theorem dJ5_inflateIfNeededFor_2_14 : decode cJ5_inflateIfNeededFor_2 14 = .ok (.if_icmp .eq 7, 3) := dk_159 0 7 (dk_at dksJ5_inflateIfNeededFor_2_0 14 rfl rfl)
theorem dJ5_inflateIfNeededFor_2_17 : decode cJ5_inflateIfNeededFor_2 17 = .ok (.aload_n 0, 1) := dk_42 (dk_at dksJ5_inflateIfNeededFor_2_0 17 rfl rfl)
theorem dJ5_inflateIfNeededFor_2_18 : decode cJ5_inflateIfNeededFor_2 18 = .ok (.invokevirtual 195, 3) := dk_182 0 195 (dk_at dksJ5_inflateIfNeededFor_2_0 18 rfl rfl)
theorem dJ5_inflateIfNeededFor_2_21 : decode cJ5_inflateIfNeededFor_2 21 = .ok (.return_, 1) := dk_177 (dk_at dksJ5_inflateIfNeededFor_2_0 21 rfl rfl)
abbrev cJ5_getCoder : ByteArray := prog_16_method_67_code
def yJ5_getCoder : MethodName := ⟨RJ5, "getCoder", "()B"⟩
def dkwJ5_getCoder_0 : List UInt8 := [178, 0, 18, 153, 0, 10, 42, 180, 0, 22, 167, 0, 4, 4, 172]
abbrev dktJ5_getCoder_0 : List UInt8 := dkwJ5_getCoder_0 ++ []
theorem dksJ5_getCoder_0 : cJ5_getCoder.data.toList.drop 0 = dktJ5_getCoder_0 := by decide +kernel
theorem dJ5_getCoder_0 : decode cJ5_getCoder 0 = .ok (.getstatic 18, 3) := dk_178 0 18 (dk_at dksJ5_getCoder_0 0 rfl rfl)
theorem dJ5_getCoder_3 : decode cJ5_getCoder 3 = .ok (.ifCond .eq 10, 3) := dk_153 0 10 (dk_at dksJ5_getCoder_0 3 rfl rfl)
theorem dJ5_getCoder_6 : decode cJ5_getCoder 6 = .ok (.aload_n 0, 1) := dk_42 (dk_at dksJ5_getCoder_0 6 rfl rfl)
theorem dJ5_getCoder_7 : decode cJ5_getCoder 7 = .ok (.getfield 22, 3) := dk_180 0 22 (dk_at dksJ5_getCoder_0 7 rfl rfl)
theorem dJ5_getCoder_10 : decode cJ5_getCoder 10 = .ok (.goto 4, 3) := dk_167 0 4 (dk_at dksJ5_getCoder_0 10 rfl rfl)
theorem dJ5_getCoder_13 : decode cJ5_getCoder 13 = .ok (.iconst 1, 1) := dk_4 (dk_at dksJ5_getCoder_0 13 rfl rfl)
theorem dJ5_getCoder_14 : decode cJ5_getCoder 14 = .ok (.ireturn, 1) := dk_172 (dk_at dksJ5_getCoder_0 14 rfl rfl)
abbrev cJ5_getBytes : ByteArray := prog_16_method_65_code
def yJ5_getBytes : MethodName := ⟨RJ5, "getBytes", "([BIB)V"⟩
def dkwJ5_getBytes_1 : List UInt8 := [184, 1, 53, 167, 0, 17, 42, 180, 0, 15, 3, 43, 28, 42, 180, 0, 79, 184, 0, 125, 177]
abbrev dktJ5_getBytes_1 : List UInt8 := dkwJ5_getBytes_1 ++ []
def dkwJ5_getBytes_0 : List UInt8 := [42, 180, 0, 22, 29, 160, 0, 24, 42, 180, 0, 15, 3, 43, 28, 29, 120, 42, 180, 0, 79, 29, 120]
abbrev dktJ5_getBytes_0 : List UInt8 := dkwJ5_getBytes_0 ++ dktJ5_getBytes_1
theorem dksJ5_getBytes_0 : cJ5_getBytes.data.toList.drop 0 = dktJ5_getBytes_0 := by decide +kernel
theorem dksJ5_getBytes_1 : cJ5_getBytes.data.toList.drop 23 = dktJ5_getBytes_1 := dk_seg dksJ5_getBytes_0 23 rfl rfl
theorem dJ5_getBytes_0 : decode cJ5_getBytes 0 = .ok (.aload_n 0, 1) := dk_42 (dk_at dksJ5_getBytes_0 0 rfl rfl)
theorem dJ5_getBytes_1 : decode cJ5_getBytes 1 = .ok (.getfield 22, 3) := dk_180 0 22 (dk_at dksJ5_getBytes_0 1 rfl rfl)
theorem dJ5_getBytes_4 : decode cJ5_getBytes 4 = .ok (.iload_n 3, 1) := dk_29 (dk_at dksJ5_getBytes_0 4 rfl rfl)
theorem dJ5_getBytes_5 : decode cJ5_getBytes 5 = .ok (.if_icmp .ne 24, 3) := dk_160 0 24 (dk_at dksJ5_getBytes_0 5 rfl rfl)
theorem dJ5_getBytes_8 : decode cJ5_getBytes 8 = .ok (.aload_n 0, 1) := dk_42 (dk_at dksJ5_getBytes_0 8 rfl rfl)
theorem dJ5_getBytes_9 : decode cJ5_getBytes 9 = .ok (.getfield 15, 3) := dk_180 0 15 (dk_at dksJ5_getBytes_0 9 rfl rfl)
theorem dJ5_getBytes_12 : decode cJ5_getBytes 12 = .ok (.iconst 0, 1) := dk_3 (dk_at dksJ5_getBytes_0 12 rfl rfl)
theorem dJ5_getBytes_13 : decode cJ5_getBytes 13 = .ok (.aload_n 1, 1) := dk_43 (dk_at dksJ5_getBytes_0 13 rfl rfl)
theorem dJ5_getBytes_14 : decode cJ5_getBytes 14 = .ok (.iload_n 2, 1) := dk_28 (dk_at dksJ5_getBytes_0 14 rfl rfl)
theorem dJ5_getBytes_15 : decode cJ5_getBytes 15 = .ok (.iload_n 3, 1) := dk_29 (dk_at dksJ5_getBytes_0 15 rfl rfl)
theorem dJ5_getBytes_16 : decode cJ5_getBytes 16 = .ok (.ishl, 1) := dk_120 (dk_at dksJ5_getBytes_0 16 rfl rfl)
theorem dJ5_getBytes_17 : decode cJ5_getBytes 17 = .ok (.aload_n 0, 1) := dk_42 (dk_at dksJ5_getBytes_0 17 rfl rfl)
theorem dJ5_getBytes_18 : decode cJ5_getBytes 18 = .ok (.getfield 79, 3) := dk_180 0 79 (dk_at dksJ5_getBytes_0 18 rfl rfl)
theorem dJ5_getBytes_21 : decode cJ5_getBytes 21 = .ok (.iload_n 3, 1) := dk_29 (dk_at dksJ5_getBytes_0 21 rfl rfl)
theorem dJ5_getBytes_22 : decode cJ5_getBytes 22 = .ok (.ishl, 1) := dk_120 (dk_at dksJ5_getBytes_0 22 rfl rfl)
theorem dJ5_getBytes_23 : decode cJ5_getBytes 23 = .ok (.invokestatic 309, 3) := dk_184 1 53 (dk_at dksJ5_getBytes_1 0 rfl rfl)
theorem dJ5_getBytes_26 : decode cJ5_getBytes 26 = .ok (.goto 17, 3) := dk_167 0 17 (dk_at dksJ5_getBytes_1 3 rfl rfl)
theorem dJ5_getBytes_29 : decode cJ5_getBytes 29 = .ok (.aload_n 0, 1) := dk_42 (dk_at dksJ5_getBytes_1 6 rfl rfl)
theorem dJ5_getBytes_30 : decode cJ5_getBytes 30 = .ok (.getfield 15, 3) := dk_180 0 15 (dk_at dksJ5_getBytes_1 7 rfl rfl)
theorem dJ5_getBytes_33 : decode cJ5_getBytes 33 = .ok (.iconst 0, 1) := dk_3 (dk_at dksJ5_getBytes_1 10 rfl rfl)
theorem dJ5_getBytes_34 : decode cJ5_getBytes 34 = .ok (.aload_n 1, 1) := dk_43 (dk_at dksJ5_getBytes_1 11 rfl rfl)
theorem dJ5_getBytes_35 : decode cJ5_getBytes 35 = .ok (.iload_n 2, 1) := dk_28 (dk_at dksJ5_getBytes_1 12 rfl rfl)
theorem dJ5_getBytes_36 : decode cJ5_getBytes 36 = .ok (.aload_n 0, 1) := dk_42 (dk_at dksJ5_getBytes_1 13 rfl rfl)
theorem dJ5_getBytes_37 : decode cJ5_getBytes 37 = .ok (.getfield 79, 3) := dk_180 0 79 (dk_at dksJ5_getBytes_1 14 rfl rfl)
theorem dJ5_getBytes_40 : decode cJ5_getBytes 40 = .ok (.invokestatic 125, 3) := dk_184 0 125 (dk_at dksJ5_getBytes_1 17 rfl rfl)
theorem dJ5_getBytes_43 : decode cJ5_getBytes 43 = .ok (.return_, 1) := dk_177 (dk_at dksJ5_getBytes_1 20 rfl rfl)
abbrev cJ5_append_5 : ByteArray := prog_16_method_27_code
def yJ5_append_5 : MethodName := ⟨RJ5, "append", "(Ljava/lang/CharSequence;II)Ljava/lang/AbstractStringBuilder;"⟩
def dkwJ5_append_5_2 : List UInt8 := [192, 0, 1, 28, 29, 182, 0, 232, 167, 0, 10, 42, 43, 28, 29, 182, 0, 236, 42, 176]
abbrev dktJ5_append_5_2 : List UInt8 := dkwJ5_append_5_2 ++ []
def dkwJ5_append_5_1 : List UInt8 := [100, 54, 4, 42, 42, 180, 0, 79, 21, 4, 96, 182, 0, 100, 43, 193, 0, 1, 153, 0, 16, 42, 43]
abbrev dktJ5_append_5_1 : List UInt8 := dkwJ5_append_5_1 ++ dktJ5_append_5_2
def dkwJ5_append_5_0 : List UInt8 := [43, 199, 0, 6, 18, 230, 76, 28, 29, 43, 185, 0, 47, 1, 0, 178, 0, 183, 184, 0, 161, 87, 29, 28]
abbrev dktJ5_append_5_0 : List UInt8 := dkwJ5_append_5_0 ++ dktJ5_append_5_1
theorem dksJ5_append_5_0 : cJ5_append_5.data.toList.drop 0 = dktJ5_append_5_0 := by decide +kernel
theorem dksJ5_append_5_1 : cJ5_append_5.data.toList.drop 24 = dktJ5_append_5_1 := dk_seg dksJ5_append_5_0 24 rfl rfl
theorem dksJ5_append_5_2 : cJ5_append_5.data.toList.drop 47 = dktJ5_append_5_2 := dk_seg dksJ5_append_5_1 23 rfl rfl
theorem dJ5_append_5_0 : decode cJ5_append_5 0 = .ok (.aload_n 1, 1) := dk_43 (dk_at dksJ5_append_5_0 0 rfl rfl)
theorem dJ5_append_5_1 : decode cJ5_append_5 1 = .ok (.ifnonnull 6, 3) := dk_199 0 6 (dk_at dksJ5_append_5_0 1 rfl rfl)
theorem dJ5_append_5_4 : decode cJ5_append_5 4 = .ok (.ldc 230, 2) := dk_18 230 (dk_at dksJ5_append_5_0 4 rfl rfl)
theorem dJ5_append_5_6 : decode cJ5_append_5 6 = .ok (.astore_n 1, 1) := dk_76 (dk_at dksJ5_append_5_0 6 rfl rfl)
theorem dJ5_append_5_7 : decode cJ5_append_5 7 = .ok (.iload_n 2, 1) := dk_28 (dk_at dksJ5_append_5_0 7 rfl rfl)
theorem dJ5_append_5_8 : decode cJ5_append_5 8 = .ok (.iload_n 3, 1) := dk_29 (dk_at dksJ5_append_5_0 8 rfl rfl)
theorem dJ5_append_5_9 : decode cJ5_append_5 9 = .ok (.aload_n 1, 1) := dk_43 (dk_at dksJ5_append_5_0 9 rfl rfl)
theorem dJ5_append_5_10 : decode cJ5_append_5 10 = .ok (.invokeinterface 47 1, 5) := by decide +kernel
theorem dJ5_append_5_15 : decode cJ5_append_5 15 = .ok (.getstatic 183, 3) := dk_178 0 183 (dk_at dksJ5_append_5_0 15 rfl rfl)
theorem dJ5_append_5_18 : decode cJ5_append_5 18 = .ok (.invokestatic 161, 3) := dk_184 0 161 (dk_at dksJ5_append_5_0 18 rfl rfl)
theorem dJ5_append_5_21 : decode cJ5_append_5 21 = .ok (.pop, 1) := dk_87 (dk_at dksJ5_append_5_0 21 rfl rfl)
theorem dJ5_append_5_22 : decode cJ5_append_5 22 = .ok (.iload_n 3, 1) := dk_29 (dk_at dksJ5_append_5_0 22 rfl rfl)
theorem dJ5_append_5_23 : decode cJ5_append_5 23 = .ok (.iload_n 2, 1) := dk_28 (dk_at dksJ5_append_5_0 23 rfl rfl)
theorem dJ5_append_5_24 : decode cJ5_append_5 24 = .ok (.isub, 1) := dk_100 (dk_at dksJ5_append_5_1 0 rfl rfl)
theorem dJ5_append_5_25 : decode cJ5_append_5 25 = .ok (.istore 4, 2) := dk_54 4 (dk_at dksJ5_append_5_1 1 rfl rfl)
theorem dJ5_append_5_27 : decode cJ5_append_5 27 = .ok (.aload_n 0, 1) := dk_42 (dk_at dksJ5_append_5_1 3 rfl rfl)
theorem dJ5_append_5_28 : decode cJ5_append_5 28 = .ok (.aload_n 0, 1) := dk_42 (dk_at dksJ5_append_5_1 4 rfl rfl)
theorem dJ5_append_5_29 : decode cJ5_append_5 29 = .ok (.getfield 79, 3) := dk_180 0 79 (dk_at dksJ5_append_5_1 5 rfl rfl)
theorem dJ5_append_5_32 : decode cJ5_append_5 32 = .ok (.iload 4, 2) := dk_21 4 (dk_at dksJ5_append_5_1 8 rfl rfl)
theorem dJ5_append_5_34 : decode cJ5_append_5 34 = .ok (.iadd, 1) := dk_96 (dk_at dksJ5_append_5_1 10 rfl rfl)
theorem dJ5_append_5_35 : decode cJ5_append_5 35 = .ok (.invokevirtual 100, 3) := dk_182 0 100 (dk_at dksJ5_append_5_1 11 rfl rfl)
theorem dJ5_append_5_38 : decode cJ5_append_5 38 = .ok (.aload_n 1, 1) := dk_43 (dk_at dksJ5_append_5_1 14 rfl rfl)
theorem dJ5_append_5_39 : decode cJ5_append_5 39 = .ok (.instanceof 1, 3) := dk_193 0 1 (dk_at dksJ5_append_5_1 15 rfl rfl)
theorem dJ5_append_5_42 : decode cJ5_append_5 42 = .ok (.ifCond .eq 16, 3) := dk_153 0 16 (dk_at dksJ5_append_5_1 18 rfl rfl)
theorem dJ5_append_5_45 : decode cJ5_append_5 45 = .ok (.aload_n 0, 1) := dk_42 (dk_at dksJ5_append_5_1 21 rfl rfl)
theorem dJ5_append_5_46 : decode cJ5_append_5 46 = .ok (.aload_n 1, 1) := dk_43 (dk_at dksJ5_append_5_1 22 rfl rfl)
theorem dJ5_append_5_47 : decode cJ5_append_5 47 = .ok (.checkcast 1, 3) := dk_192 0 1 (dk_at dksJ5_append_5_2 0 rfl rfl)
theorem dJ5_append_5_50 : decode cJ5_append_5 50 = .ok (.iload_n 2, 1) := dk_28 (dk_at dksJ5_append_5_2 3 rfl rfl)
theorem dJ5_append_5_51 : decode cJ5_append_5 51 = .ok (.iload_n 3, 1) := dk_29 (dk_at dksJ5_append_5_2 4 rfl rfl)
theorem dJ5_append_5_52 : decode cJ5_append_5 52 = .ok (.invokevirtual 232, 3) := dk_182 0 232 (dk_at dksJ5_append_5_2 5 rfl rfl)
theorem dJ5_append_5_55 : decode cJ5_append_5 55 = .ok (.goto 10, 3) := dk_167 0 10 (dk_at dksJ5_append_5_2 8 rfl rfl)
theorem dJ5_append_5_58 : decode cJ5_append_5 58 = .ok (.aload_n 0, 1) := dk_42 (dk_at dksJ5_append_5_2 11 rfl rfl)
theorem dJ5_append_5_59 : decode cJ5_append_5 59 = .ok (.aload_n 1, 1) := dk_43 (dk_at dksJ5_append_5_2 12 rfl rfl)
theorem dJ5_append_5_60 : decode cJ5_append_5 60 = .ok (.iload_n 2, 1) := dk_28 (dk_at dksJ5_append_5_2 13 rfl rfl)
theorem dJ5_append_5_61 : decode cJ5_append_5 61 = .ok (.iload_n 3, 1) := dk_29 (dk_at dksJ5_append_5_2 14 rfl rfl)
theorem dJ5_append_5_62 : decode cJ5_append_5 62 = .ok (.invokevirtual 236, 3) := dk_182 0 236 (dk_at dksJ5_append_5_2 15 rfl rfl)
theorem dJ5_append_5_65 : decode cJ5_append_5 65 = .ok (.aload_n 0, 1) := dk_42 (dk_at dksJ5_append_5_2 18 rfl rfl)
theorem dJ5_append_5_66 : decode cJ5_append_5 66 = .ok (.areturn, 1) := dk_176 (dk_at dksJ5_append_5_2 19 rfl rfl)
abbrev cJ5_appendChars : ByteArray := prog_16_method_75_code
def yJ5_appendChars : MethodName := ⟨RJ5, "appendChars", "(Ljava/lang/String;II)V"⟩
def dkwJ5_appendChars_8 : List UInt8 := [120, 184, 1, 53, 42, 89, 180, 0, 79, 29, 28, 100, 96, 181, 0, 79, 177]
abbrev dktJ5_appendChars_8 : List UInt8 := dkwJ5_appendChars_8 ++ []
def dkwJ5_appendChars_7 : List UInt8 := [167, 0, 28, 43, 182, 1, 145, 28, 4, 120, 42, 180, 0, 15, 42, 180, 0, 79, 4, 120, 29, 28, 100, 4]
abbrev dktJ5_appendChars_7 : List UInt8 := dkwJ5_appendChars_7 ++ dktJ5_appendChars_8
def dkwJ5_appendChars_6 : List UInt8 := [167, 0, 52, 43, 182, 1, 144, 153, 0, 20, 42, 180, 0, 15, 42, 180, 0, 79, 43, 28, 29, 184, 1, 138]
abbrev dktJ5_appendChars_6 : List UInt8 := dkwJ5_appendChars_6 ++ dktJ5_appendChars_7
def dkwJ5_appendChars_5 : List UInt8 := [120, 184, 1, 53, 42, 89, 180, 0, 79, 29, 21, 5, 100, 96, 181, 0, 79, 177, 132, 5, 1, 167, 255, 168]
abbrev dktJ5_appendChars_5 : List UInt8 := dkwJ5_appendChars_5 ++ dktJ5_appendChars_6
def dkwJ5_appendChars_4 : List UInt8 := [182, 0, 195, 43, 182, 1, 145, 21, 5, 4, 120, 42, 180, 0, 15, 21, 6, 4, 120, 29, 21, 5, 100, 4]
abbrev dktJ5_appendChars_4 : List UInt8 := dkwJ5_appendChars_4 ++ dktJ5_appendChars_5
def dkwJ5_appendChars_3 : List UInt8 := [153, 0, 17, 25, 4, 21, 6, 132, 6, 1, 21, 7, 145, 84, 167, 0, 52, 42, 21, 6, 181, 0, 79, 42]
abbrev dktJ5_appendChars_3 : List UInt8 := dkwJ5_appendChars_3 ++ dktJ5_appendChars_4
def dkwJ5_appendChars_2 : List UInt8 := [180, 0, 79, 54, 6, 21, 5, 29, 162, 0, 88, 43, 21, 5, 182, 1, 148, 54, 7, 21, 7, 184, 0, 191]
abbrev dktJ5_appendChars_2 : List UInt8 := dkwJ5_appendChars_2 ++ dktJ5_appendChars_3
def dkwJ5_appendChars_1 : List UInt8 := [180, 0, 79, 29, 28, 100, 184, 1, 53, 167, 0, 161, 42, 180, 0, 15, 58, 4, 28, 54, 5, 42]
abbrev dktJ5_appendChars_1 : List UInt8 := dkwJ5_appendChars_1 ++ dktJ5_appendChars_2
def dkwJ5_appendChars_0 : List UInt8 := [42, 182, 0, 83, 153, 0, 141, 43, 182, 1, 144, 153, 0, 25, 43, 182, 1, 145, 28, 42, 180, 0, 15, 42]
abbrev dktJ5_appendChars_0 : List UInt8 := dkwJ5_appendChars_0 ++ dktJ5_appendChars_1
theorem dksJ5_appendChars_0 : cJ5_appendChars.data.toList.drop 0 = dktJ5_appendChars_0 := by decide +kernel
theorem dksJ5_appendChars_1 : cJ5_appendChars.data.toList.drop 24 = dktJ5_appendChars_1 := dk_seg dksJ5_appendChars_0 24 rfl rfl
theorem dksJ5_appendChars_2 : cJ5_appendChars.data.toList.drop 46 = dktJ5_appendChars_2 := dk_seg dksJ5_appendChars_1 22 rfl rfl
theorem dksJ5_appendChars_3 : cJ5_appendChars.data.toList.drop 70 = dktJ5_appendChars_3 := dk_seg dksJ5_appendChars_2 24 rfl rfl
theorem dksJ5_appendChars_4 : cJ5_appendChars.data.toList.drop 94 = dktJ5_appendChars_4 := dk_seg dksJ5_appendChars_3 24 rfl rfl
theorem dksJ5_appendChars_5 : cJ5_appendChars.data.toList.drop 118 = dktJ5_appendChars_5 := dk_seg dksJ5_appendChars_4 24 rfl rfl
theorem dksJ5_appendChars_6 : cJ5_appendChars.data.toList.drop 142 = dktJ5_appendChars_6 := dk_seg dksJ5_appendChars_5 24 rfl rfl
theorem dksJ5_appendChars_7 : cJ5_appendChars.data.toList.drop 166 = dktJ5_appendChars_7 := dk_seg dksJ5_appendChars_6 24 rfl rfl
theorem dksJ5_appendChars_8 : cJ5_appendChars.data.toList.drop 190 = dktJ5_appendChars_8 := dk_seg dksJ5_appendChars_7 24 rfl rfl
theorem dJ5_appendChars_0 : decode cJ5_appendChars 0 = .ok (.aload_n 0, 1) := dk_42 (dk_at dksJ5_appendChars_0 0 rfl rfl)
theorem dJ5_appendChars_1 : decode cJ5_appendChars 1 = .ok (.invokevirtual 83, 3) := dk_182 0 83 (dk_at dksJ5_appendChars_0 1 rfl rfl)
theorem dJ5_appendChars_4 : decode cJ5_appendChars 4 = .ok (.ifCond .eq 141, 3) := dk_153 0 141 (dk_at dksJ5_appendChars_0 4 rfl rfl)
theorem dJ5_appendChars_7 : decode cJ5_appendChars 7 = .ok (.aload_n 1, 1) := dk_43 (dk_at dksJ5_appendChars_0 7 rfl rfl)
theorem dJ5_appendChars_8 : decode cJ5_appendChars 8 = .ok (.invokevirtual 400, 3) := dk_182 1 144 (dk_at dksJ5_appendChars_0 8 rfl rfl)
theorem dJ5_appendChars_11 : decode cJ5_appendChars 11 = .ok (.ifCond .eq 25, 3) := dk_153 0 25 (dk_at dksJ5_appendChars_0 11 rfl rfl)
theorem dJ5_appendChars_14 : decode cJ5_appendChars 14 = .ok (.aload_n 1, 1) := dk_43 (dk_at dksJ5_appendChars_0 14 rfl rfl)
theorem dJ5_appendChars_15 : decode cJ5_appendChars 15 = .ok (.invokevirtual 401, 3) := dk_182 1 145 (dk_at dksJ5_appendChars_0 15 rfl rfl)
theorem dJ5_appendChars_18 : decode cJ5_appendChars 18 = .ok (.iload_n 2, 1) := dk_28 (dk_at dksJ5_appendChars_0 18 rfl rfl)
theorem dJ5_appendChars_19 : decode cJ5_appendChars 19 = .ok (.aload_n 0, 1) := dk_42 (dk_at dksJ5_appendChars_0 19 rfl rfl)
theorem dJ5_appendChars_20 : decode cJ5_appendChars 20 = .ok (.getfield 15, 3) := dk_180 0 15 (dk_at dksJ5_appendChars_0 20 rfl rfl)
theorem dJ5_appendChars_23 : decode cJ5_appendChars 23 = .ok (.aload_n 0, 1) := dk_42 (dk_at dksJ5_appendChars_0 23 rfl rfl)
theorem dJ5_appendChars_24 : decode cJ5_appendChars 24 = .ok (.getfield 79, 3) := dk_180 0 79 (dk_at dksJ5_appendChars_1 0 rfl rfl)
theorem dJ5_appendChars_27 : decode cJ5_appendChars 27 = .ok (.iload_n 3, 1) := dk_29 (dk_at dksJ5_appendChars_1 3 rfl rfl)
theorem dJ5_appendChars_28 : decode cJ5_appendChars 28 = .ok (.iload_n 2, 1) := dk_28 (dk_at dksJ5_appendChars_1 4 rfl rfl)
theorem dJ5_appendChars_29 : decode cJ5_appendChars 29 = .ok (.isub, 1) := dk_100 (dk_at dksJ5_appendChars_1 5 rfl rfl)
theorem dJ5_appendChars_30 : decode cJ5_appendChars 30 = .ok (.invokestatic 309, 3) := dk_184 1 53 (dk_at dksJ5_appendChars_1 6 rfl rfl)
theorem dJ5_appendChars_33 : decode cJ5_appendChars 33 = .ok (.goto 161, 3) := dk_167 0 161 (dk_at dksJ5_appendChars_1 9 rfl rfl)
theorem dJ5_appendChars_36 : decode cJ5_appendChars 36 = .ok (.aload_n 0, 1) := dk_42 (dk_at dksJ5_appendChars_1 12 rfl rfl)
theorem dJ5_appendChars_37 : decode cJ5_appendChars 37 = .ok (.getfield 15, 3) := dk_180 0 15 (dk_at dksJ5_appendChars_1 13 rfl rfl)
theorem dJ5_appendChars_40 : decode cJ5_appendChars 40 = .ok (.astore 4, 2) := dk_58 4 (dk_at dksJ5_appendChars_1 16 rfl rfl)
theorem dJ5_appendChars_42 : decode cJ5_appendChars 42 = .ok (.iload_n 2, 1) := dk_28 (dk_at dksJ5_appendChars_1 18 rfl rfl)
theorem dJ5_appendChars_43 : decode cJ5_appendChars 43 = .ok (.istore 5, 2) := dk_54 5 (dk_at dksJ5_appendChars_1 19 rfl rfl)
theorem dJ5_appendChars_45 : decode cJ5_appendChars 45 = .ok (.aload_n 0, 1) := dk_42 (dk_at dksJ5_appendChars_1 21 rfl rfl)
theorem dJ5_appendChars_46 : decode cJ5_appendChars 46 = .ok (.getfield 79, 3) := dk_180 0 79 (dk_at dksJ5_appendChars_2 0 rfl rfl)
theorem dJ5_appendChars_49 : decode cJ5_appendChars 49 = .ok (.istore 6, 2) := dk_54 6 (dk_at dksJ5_appendChars_2 3 rfl rfl)
theorem dJ5_appendChars_51 : decode cJ5_appendChars 51 = .ok (.iload 5, 2) := dk_21 5 (dk_at dksJ5_appendChars_2 5 rfl rfl)
theorem dJ5_appendChars_53 : decode cJ5_appendChars 53 = .ok (.iload_n 3, 1) := dk_29 (dk_at dksJ5_appendChars_2 7 rfl rfl)
theorem dJ5_appendChars_54 : decode cJ5_appendChars 54 = .ok (.if_icmp .ge 88, 3) := dk_162 0 88 (dk_at dksJ5_appendChars_2 8 rfl rfl)
theorem dJ5_appendChars_57 : decode cJ5_appendChars 57 = .ok (.aload_n 1, 1) := dk_43 (dk_at dksJ5_appendChars_2 11 rfl rfl)
theorem dJ5_appendChars_58 : decode cJ5_appendChars 58 = .ok (.iload 5, 2) := dk_21 5 (dk_at dksJ5_appendChars_2 12 rfl rfl)
theorem dJ5_appendChars_60 : decode cJ5_appendChars 60 = .ok (.invokevirtual 404, 3) := dk_182 1 148 (dk_at dksJ5_appendChars_2 14 rfl rfl)
theorem dJ5_appendChars_63 : decode cJ5_appendChars 63 = .ok (.istore 7, 2) := dk_54 7 (dk_at dksJ5_appendChars_2 17 rfl rfl)
theorem dJ5_appendChars_65 : decode cJ5_appendChars 65 = .ok (.iload 7, 2) := dk_21 7 (dk_at dksJ5_appendChars_2 19 rfl rfl)
theorem dJ5_appendChars_67 : decode cJ5_appendChars 67 = .ok (.invokestatic 191, 3) := dk_184 0 191 (dk_at dksJ5_appendChars_2 21 rfl rfl)
theorem dJ5_appendChars_70 : decode cJ5_appendChars 70 = .ok (.ifCond .eq 17, 3) := dk_153 0 17 (dk_at dksJ5_appendChars_3 0 rfl rfl)
theorem dJ5_appendChars_73 : decode cJ5_appendChars 73 = .ok (.aload 4, 2) := dk_25 4 (dk_at dksJ5_appendChars_3 3 rfl rfl)
theorem dJ5_appendChars_75 : decode cJ5_appendChars 75 = .ok (.iload 6, 2) := dk_21 6 (dk_at dksJ5_appendChars_3 5 rfl rfl)
theorem dJ5_appendChars_77 : decode cJ5_appendChars 77 = .ok (.iinc 6 1, 3) := dk_132 6 1 (dk_at dksJ5_appendChars_3 7 rfl rfl)
theorem dJ5_appendChars_80 : decode cJ5_appendChars 80 = .ok (.iload 7, 2) := dk_21 7 (dk_at dksJ5_appendChars_3 10 rfl rfl)
theorem dJ5_appendChars_82 : decode cJ5_appendChars 82 = .ok (.i2b, 1) := dk_145 (dk_at dksJ5_appendChars_3 12 rfl rfl)
theorem dJ5_appendChars_83 : decode cJ5_appendChars 83 = .ok (.bastore, 1) := dk_84 (dk_at dksJ5_appendChars_3 13 rfl rfl)
theorem dJ5_appendChars_84 : decode cJ5_appendChars 84 = .ok (.goto 52, 3) := dk_167 0 52 (dk_at dksJ5_appendChars_3 14 rfl rfl)
theorem dJ5_appendChars_87 : decode cJ5_appendChars 87 = .ok (.aload_n 0, 1) := dk_42 (dk_at dksJ5_appendChars_3 17 rfl rfl)
theorem dJ5_appendChars_88 : decode cJ5_appendChars 88 = .ok (.iload 6, 2) := dk_21 6 (dk_at dksJ5_appendChars_3 18 rfl rfl)
theorem dJ5_appendChars_90 : decode cJ5_appendChars 90 = .ok (.putfield 79, 3) := dk_181 0 79 (dk_at dksJ5_appendChars_3 20 rfl rfl)
theorem dJ5_appendChars_93 : decode cJ5_appendChars 93 = .ok (.aload_n 0, 1) := dk_42 (dk_at dksJ5_appendChars_3 23 rfl rfl)
theorem dJ5_appendChars_94 : decode cJ5_appendChars 94 = .ok (.invokevirtual 195, 3) := dk_182 0 195 (dk_at dksJ5_appendChars_4 0 rfl rfl)
theorem dJ5_appendChars_97 : decode cJ5_appendChars 97 = .ok (.aload_n 1, 1) := dk_43 (dk_at dksJ5_appendChars_4 3 rfl rfl)
theorem dJ5_appendChars_98 : decode cJ5_appendChars 98 = .ok (.invokevirtual 401, 3) := dk_182 1 145 (dk_at dksJ5_appendChars_4 4 rfl rfl)
theorem dJ5_appendChars_101 : decode cJ5_appendChars 101 = .ok (.iload 5, 2) := dk_21 5 (dk_at dksJ5_appendChars_4 7 rfl rfl)
theorem dJ5_appendChars_103 : decode cJ5_appendChars 103 = .ok (.iconst 1, 1) := dk_4 (dk_at dksJ5_appendChars_4 9 rfl rfl)
theorem dJ5_appendChars_104 : decode cJ5_appendChars 104 = .ok (.ishl, 1) := dk_120 (dk_at dksJ5_appendChars_4 10 rfl rfl)
theorem dJ5_appendChars_105 : decode cJ5_appendChars 105 = .ok (.aload_n 0, 1) := dk_42 (dk_at dksJ5_appendChars_4 11 rfl rfl)
theorem dJ5_appendChars_106 : decode cJ5_appendChars 106 = .ok (.getfield 15, 3) := dk_180 0 15 (dk_at dksJ5_appendChars_4 12 rfl rfl)
theorem dJ5_appendChars_109 : decode cJ5_appendChars 109 = .ok (.iload 6, 2) := dk_21 6 (dk_at dksJ5_appendChars_4 15 rfl rfl)
theorem dJ5_appendChars_111 : decode cJ5_appendChars 111 = .ok (.iconst 1, 1) := dk_4 (dk_at dksJ5_appendChars_4 17 rfl rfl)
theorem dJ5_appendChars_112 : decode cJ5_appendChars 112 = .ok (.ishl, 1) := dk_120 (dk_at dksJ5_appendChars_4 18 rfl rfl)
theorem dJ5_appendChars_113 : decode cJ5_appendChars 113 = .ok (.iload_n 3, 1) := dk_29 (dk_at dksJ5_appendChars_4 19 rfl rfl)
theorem dJ5_appendChars_114 : decode cJ5_appendChars 114 = .ok (.iload 5, 2) := dk_21 5 (dk_at dksJ5_appendChars_4 20 rfl rfl)
theorem dJ5_appendChars_116 : decode cJ5_appendChars 116 = .ok (.isub, 1) := dk_100 (dk_at dksJ5_appendChars_4 22 rfl rfl)
theorem dJ5_appendChars_117 : decode cJ5_appendChars 117 = .ok (.iconst 1, 1) := dk_4 (dk_at dksJ5_appendChars_4 23 rfl rfl)
theorem dJ5_appendChars_118 : decode cJ5_appendChars 118 = .ok (.ishl, 1) := dk_120 (dk_at dksJ5_appendChars_5 0 rfl rfl)
theorem dJ5_appendChars_119 : decode cJ5_appendChars 119 = .ok (.invokestatic 309, 3) := dk_184 1 53 (dk_at dksJ5_appendChars_5 1 rfl rfl)
theorem dJ5_appendChars_122 : decode cJ5_appendChars 122 = .ok (.aload_n 0, 1) := dk_42 (dk_at dksJ5_appendChars_5 4 rfl rfl)
theorem dJ5_appendChars_123 : decode cJ5_appendChars 123 = .ok (.dup, 1) := dk_89 (dk_at dksJ5_appendChars_5 5 rfl rfl)
theorem dJ5_appendChars_124 : decode cJ5_appendChars 124 = .ok (.getfield 79, 3) := dk_180 0 79 (dk_at dksJ5_appendChars_5 6 rfl rfl)
theorem dJ5_appendChars_127 : decode cJ5_appendChars 127 = .ok (.iload_n 3, 1) := dk_29 (dk_at dksJ5_appendChars_5 9 rfl rfl)
theorem dJ5_appendChars_128 : decode cJ5_appendChars 128 = .ok (.iload 5, 2) := dk_21 5 (dk_at dksJ5_appendChars_5 10 rfl rfl)
theorem dJ5_appendChars_130 : decode cJ5_appendChars 130 = .ok (.isub, 1) := dk_100 (dk_at dksJ5_appendChars_5 12 rfl rfl)
theorem dJ5_appendChars_131 : decode cJ5_appendChars 131 = .ok (.iadd, 1) := dk_96 (dk_at dksJ5_appendChars_5 13 rfl rfl)
theorem dJ5_appendChars_132 : decode cJ5_appendChars 132 = .ok (.putfield 79, 3) := dk_181 0 79 (dk_at dksJ5_appendChars_5 14 rfl rfl)
theorem dJ5_appendChars_135 : decode cJ5_appendChars 135 = .ok (.return_, 1) := dk_177 (dk_at dksJ5_appendChars_5 17 rfl rfl)
theorem dJ5_appendChars_136 : decode cJ5_appendChars 136 = .ok (.iinc 5 1, 3) := dk_132 5 1 (dk_at dksJ5_appendChars_5 18 rfl rfl)
theorem dJ5_appendChars_139 : decode cJ5_appendChars 139 = .ok (.goto (-88), 3) := dk_167 255 168 (dk_at dksJ5_appendChars_5 21 rfl rfl)
theorem dJ5_appendChars_142 : decode cJ5_appendChars 142 = .ok (.goto 52, 3) := dk_167 0 52 (dk_at dksJ5_appendChars_6 0 rfl rfl)
theorem dJ5_appendChars_145 : decode cJ5_appendChars 145 = .ok (.aload_n 1, 1) := dk_43 (dk_at dksJ5_appendChars_6 3 rfl rfl)
theorem dJ5_appendChars_146 : decode cJ5_appendChars 146 = .ok (.invokevirtual 400, 3) := dk_182 1 144 (dk_at dksJ5_appendChars_6 4 rfl rfl)
theorem dJ5_appendChars_149 : decode cJ5_appendChars 149 = .ok (.ifCond .eq 20, 3) := dk_153 0 20 (dk_at dksJ5_appendChars_6 7 rfl rfl)
theorem dJ5_appendChars_152 : decode cJ5_appendChars 152 = .ok (.aload_n 0, 1) := dk_42 (dk_at dksJ5_appendChars_6 10 rfl rfl)
theorem dJ5_appendChars_153 : decode cJ5_appendChars 153 = .ok (.getfield 15, 3) := dk_180 0 15 (dk_at dksJ5_appendChars_6 11 rfl rfl)
theorem dJ5_appendChars_156 : decode cJ5_appendChars 156 = .ok (.aload_n 0, 1) := dk_42 (dk_at dksJ5_appendChars_6 14 rfl rfl)
theorem dJ5_appendChars_157 : decode cJ5_appendChars 157 = .ok (.getfield 79, 3) := dk_180 0 79 (dk_at dksJ5_appendChars_6 15 rfl rfl)
theorem dJ5_appendChars_160 : decode cJ5_appendChars 160 = .ok (.aload_n 1, 1) := dk_43 (dk_at dksJ5_appendChars_6 18 rfl rfl)
theorem dJ5_appendChars_161 : decode cJ5_appendChars 161 = .ok (.iload_n 2, 1) := dk_28 (dk_at dksJ5_appendChars_6 19 rfl rfl)
theorem dJ5_appendChars_162 : decode cJ5_appendChars 162 = .ok (.iload_n 3, 1) := dk_29 (dk_at dksJ5_appendChars_6 20 rfl rfl)
theorem dJ5_appendChars_163 : decode cJ5_appendChars 163 = .ok (.invokestatic 394, 3) := dk_184 1 138 (dk_at dksJ5_appendChars_6 21 rfl rfl)
theorem dJ5_appendChars_166 : decode cJ5_appendChars 166 = .ok (.goto 28, 3) := dk_167 0 28 (dk_at dksJ5_appendChars_7 0 rfl rfl)
theorem dJ5_appendChars_169 : decode cJ5_appendChars 169 = .ok (.aload_n 1, 1) := dk_43 (dk_at dksJ5_appendChars_7 3 rfl rfl)
theorem dJ5_appendChars_170 : decode cJ5_appendChars 170 = .ok (.invokevirtual 401, 3) := dk_182 1 145 (dk_at dksJ5_appendChars_7 4 rfl rfl)
theorem dJ5_appendChars_173 : decode cJ5_appendChars 173 = .ok (.iload_n 2, 1) := dk_28 (dk_at dksJ5_appendChars_7 7 rfl rfl)
theorem dJ5_appendChars_174 : decode cJ5_appendChars 174 = .ok (.iconst 1, 1) := dk_4 (dk_at dksJ5_appendChars_7 8 rfl rfl)
theorem dJ5_appendChars_175 : decode cJ5_appendChars 175 = .ok (.ishl, 1) := dk_120 (dk_at dksJ5_appendChars_7 9 rfl rfl)
theorem dJ5_appendChars_176 : decode cJ5_appendChars 176 = .ok (.aload_n 0, 1) := dk_42 (dk_at dksJ5_appendChars_7 10 rfl rfl)
theorem dJ5_appendChars_177 : decode cJ5_appendChars 177 = .ok (.getfield 15, 3) := dk_180 0 15 (dk_at dksJ5_appendChars_7 11 rfl rfl)
theorem dJ5_appendChars_180 : decode cJ5_appendChars 180 = .ok (.aload_n 0, 1) := dk_42 (dk_at dksJ5_appendChars_7 14 rfl rfl)
theorem dJ5_appendChars_181 : decode cJ5_appendChars 181 = .ok (.getfield 79, 3) := dk_180 0 79 (dk_at dksJ5_appendChars_7 15 rfl rfl)
theorem dJ5_appendChars_184 : decode cJ5_appendChars 184 = .ok (.iconst 1, 1) := dk_4 (dk_at dksJ5_appendChars_7 18 rfl rfl)
theorem dJ5_appendChars_185 : decode cJ5_appendChars 185 = .ok (.ishl, 1) := dk_120 (dk_at dksJ5_appendChars_7 19 rfl rfl)
theorem dJ5_appendChars_186 : decode cJ5_appendChars 186 = .ok (.iload_n 3, 1) := dk_29 (dk_at dksJ5_appendChars_7 20 rfl rfl)
theorem dJ5_appendChars_187 : decode cJ5_appendChars 187 = .ok (.iload_n 2, 1) := dk_28 (dk_at dksJ5_appendChars_7 21 rfl rfl)
theorem dJ5_appendChars_188 : decode cJ5_appendChars 188 = .ok (.isub, 1) := dk_100 (dk_at dksJ5_appendChars_7 22 rfl rfl)
theorem dJ5_appendChars_189 : decode cJ5_appendChars 189 = .ok (.iconst 1, 1) := dk_4 (dk_at dksJ5_appendChars_7 23 rfl rfl)
theorem dJ5_appendChars_190 : decode cJ5_appendChars 190 = .ok (.ishl, 1) := dk_120 (dk_at dksJ5_appendChars_8 0 rfl rfl)
theorem dJ5_appendChars_191 : decode cJ5_appendChars 191 = .ok (.invokestatic 309, 3) := dk_184 1 53 (dk_at dksJ5_appendChars_8 1 rfl rfl)
theorem dJ5_appendChars_194 : decode cJ5_appendChars 194 = .ok (.aload_n 0, 1) := dk_42 (dk_at dksJ5_appendChars_8 4 rfl rfl)
theorem dJ5_appendChars_195 : decode cJ5_appendChars 195 = .ok (.dup, 1) := dk_89 (dk_at dksJ5_appendChars_8 5 rfl rfl)
theorem dJ5_appendChars_196 : decode cJ5_appendChars 196 = .ok (.getfield 79, 3) := dk_180 0 79 (dk_at dksJ5_appendChars_8 6 rfl rfl)
theorem dJ5_appendChars_199 : decode cJ5_appendChars 199 = .ok (.iload_n 3, 1) := dk_29 (dk_at dksJ5_appendChars_8 9 rfl rfl)
theorem dJ5_appendChars_200 : decode cJ5_appendChars 200 = .ok (.iload_n 2, 1) := dk_28 (dk_at dksJ5_appendChars_8 10 rfl rfl)
theorem dJ5_appendChars_201 : decode cJ5_appendChars 201 = .ok (.isub, 1) := dk_100 (dk_at dksJ5_appendChars_8 11 rfl rfl)
theorem dJ5_appendChars_202 : decode cJ5_appendChars 202 = .ok (.iadd, 1) := dk_96 (dk_at dksJ5_appendChars_8 12 rfl rfl)
theorem dJ5_appendChars_203 : decode cJ5_appendChars 203 = .ok (.putfield 79, 3) := dk_181 0 79 (dk_at dksJ5_appendChars_8 13 rfl rfl)
theorem dJ5_appendChars_206 : decode cJ5_appendChars 206 = .ok (.return_, 1) := dk_177 (dk_at dksJ5_appendChars_8 16 rfl rfl)
abbrev cJ5_charAt : ByteArray := prog_16_method_14_code
def yJ5_charAt : MethodName := ⟨RJ5, "charAt", "(I)C"⟩
def dkwJ5_charAt_1 : List UInt8 := [21, 4, 184, 0, 144, 28, 154, 0, 12, 45, 27, 51, 17, 0, 255, 126, 146, 172, 45, 27, 184, 0, 148, 172]
abbrev dktJ5_charAt_1 : List UInt8 := dkwJ5_charAt_1 ++ []
def dkwJ5_charAt_0 : List UInt8 := [42, 180, 0, 22, 61, 42, 180, 0, 15, 78, 42, 180, 0, 79, 45, 190, 28, 122, 184, 0, 138, 54, 4, 27]
abbrev dktJ5_charAt_0 : List UInt8 := dkwJ5_charAt_0 ++ dktJ5_charAt_1
theorem dksJ5_charAt_0 : cJ5_charAt.data.toList.drop 0 = dktJ5_charAt_0 := by decide +kernel
theorem dksJ5_charAt_1 : cJ5_charAt.data.toList.drop 24 = dktJ5_charAt_1 := dk_seg dksJ5_charAt_0 24 rfl rfl
theorem dJ5_charAt_0 : decode cJ5_charAt 0 = .ok (.aload_n 0, 1) := dk_42 (dk_at dksJ5_charAt_0 0 rfl rfl)
theorem dJ5_charAt_1 : decode cJ5_charAt 1 = .ok (.getfield 22, 3) := dk_180 0 22 (dk_at dksJ5_charAt_0 1 rfl rfl)
theorem dJ5_charAt_4 : decode cJ5_charAt 4 = .ok (.istore_n 2, 1) := dk_61 (dk_at dksJ5_charAt_0 4 rfl rfl)
theorem dJ5_charAt_5 : decode cJ5_charAt 5 = .ok (.aload_n 0, 1) := dk_42 (dk_at dksJ5_charAt_0 5 rfl rfl)
theorem dJ5_charAt_6 : decode cJ5_charAt 6 = .ok (.getfield 15, 3) := dk_180 0 15 (dk_at dksJ5_charAt_0 6 rfl rfl)
theorem dJ5_charAt_9 : decode cJ5_charAt 9 = .ok (.astore_n 3, 1) := dk_78 (dk_at dksJ5_charAt_0 9 rfl rfl)
theorem dJ5_charAt_10 : decode cJ5_charAt 10 = .ok (.aload_n 0, 1) := dk_42 (dk_at dksJ5_charAt_0 10 rfl rfl)
theorem dJ5_charAt_11 : decode cJ5_charAt 11 = .ok (.getfield 79, 3) := dk_180 0 79 (dk_at dksJ5_charAt_0 11 rfl rfl)
theorem dJ5_charAt_14 : decode cJ5_charAt 14 = .ok (.aload_n 3, 1) := dk_45 (dk_at dksJ5_charAt_0 14 rfl rfl)
theorem dJ5_charAt_15 : decode cJ5_charAt 15 = .ok (.arraylength, 1) := dk_190 (dk_at dksJ5_charAt_0 15 rfl rfl)
theorem dJ5_charAt_16 : decode cJ5_charAt 16 = .ok (.iload_n 2, 1) := dk_28 (dk_at dksJ5_charAt_0 16 rfl rfl)
theorem dJ5_charAt_17 : decode cJ5_charAt 17 = .ok (.ishr, 1) := dk_122 (dk_at dksJ5_charAt_0 17 rfl rfl)
theorem dJ5_charAt_18 : decode cJ5_charAt 18 = .ok (.invokestatic 138, 3) := dk_184 0 138 (dk_at dksJ5_charAt_0 18 rfl rfl)
theorem dJ5_charAt_21 : decode cJ5_charAt 21 = .ok (.istore 4, 2) := dk_54 4 (dk_at dksJ5_charAt_0 21 rfl rfl)
theorem dJ5_charAt_23 : decode cJ5_charAt 23 = .ok (.iload_n 1, 1) := dk_27 (dk_at dksJ5_charAt_0 23 rfl rfl)
theorem dJ5_charAt_24 : decode cJ5_charAt 24 = .ok (.iload 4, 2) := dk_21 4 (dk_at dksJ5_charAt_1 0 rfl rfl)
theorem dJ5_charAt_26 : decode cJ5_charAt 26 = .ok (.invokestatic 144, 3) := dk_184 0 144 (dk_at dksJ5_charAt_1 2 rfl rfl)
theorem dJ5_charAt_29 : decode cJ5_charAt 29 = .ok (.iload_n 2, 1) := dk_28 (dk_at dksJ5_charAt_1 5 rfl rfl)
theorem dJ5_charAt_30 : decode cJ5_charAt 30 = .ok (.ifCond .ne 12, 3) := dk_154 0 12 (dk_at dksJ5_charAt_1 6 rfl rfl)
theorem dJ5_charAt_33 : decode cJ5_charAt 33 = .ok (.aload_n 3, 1) := dk_45 (dk_at dksJ5_charAt_1 9 rfl rfl)
theorem dJ5_charAt_34 : decode cJ5_charAt 34 = .ok (.iload_n 1, 1) := dk_27 (dk_at dksJ5_charAt_1 10 rfl rfl)
theorem dJ5_charAt_35 : decode cJ5_charAt 35 = .ok (.baload, 1) := dk_51 (dk_at dksJ5_charAt_1 11 rfl rfl)
theorem dJ5_charAt_36 : decode cJ5_charAt 36 = .ok (.sipush 255, 3) := dk_17 0 255 (dk_at dksJ5_charAt_1 12 rfl rfl)
theorem dJ5_charAt_39 : decode cJ5_charAt 39 = .ok (.iand, 1) := dk_126 (dk_at dksJ5_charAt_1 15 rfl rfl)
theorem dJ5_charAt_40 : decode cJ5_charAt 40 = .ok (.i2c, 1) := dk_146 (dk_at dksJ5_charAt_1 16 rfl rfl)
theorem dJ5_charAt_41 : decode cJ5_charAt 41 = .ok (.ireturn, 1) := dk_172 (dk_at dksJ5_charAt_1 17 rfl rfl)
theorem dJ5_charAt_42 : decode cJ5_charAt 42 = .ok (.aload_n 3, 1) := dk_45 (dk_at dksJ5_charAt_1 18 rfl rfl)
theorem dJ5_charAt_43 : decode cJ5_charAt 43 = .ok (.iload_n 1, 1) := dk_27 (dk_at dksJ5_charAt_1 19 rfl rfl)
theorem dJ5_charAt_44 : decode cJ5_charAt 44 = .ok (.invokestatic 148, 3) := dk_184 0 148 (dk_at dksJ5_charAt_1 20 rfl rfl)
theorem dJ5_charAt_47 : decode cJ5_charAt 47 = .ok (.ireturn, 1) := dk_172 (dk_at dksJ5_charAt_1 23 rfl rfl)
abbrev cJ5_appendChars_2 : ByteArray := prog_16_method_76_code
def yJ5_appendChars_2 : MethodName := ⟨RJ5, "appendChars", "(Ljava/lang/CharSequence;II)V"⟩
def dkwJ5_appendChars_2_6 : List UInt8 := [184, 1, 138, 42, 89, 180, 0, 79, 29, 28, 100, 96, 181, 0, 79, 177]
abbrev dktJ5_appendChars_2_6 : List UInt8 := dkwJ5_appendChars_2_6 ++ []
def dkwJ5_appendChars_2_5 : List UInt8 := [181, 0, 79, 177, 132, 5, 1, 167, 255, 155, 167, 0, 17, 42, 180, 0, 15, 42, 180, 0, 79, 43, 28, 29]
abbrev dktJ5_appendChars_2_5 : List UInt8 := dkwJ5_appendChars_2_5 ++ dktJ5_appendChars_2_6
def dkwJ5_appendChars_2_4 : List UInt8 := [180, 0, 15, 21, 6, 43, 21, 5, 29, 184, 1, 138, 42, 89, 180, 0, 79, 29, 21, 5, 100, 96]
abbrev dktJ5_appendChars_2_4 : List UInt8 := dkwJ5_appendChars_2_4 ++ dktJ5_appendChars_2_5
def dkwJ5_appendChars_2_3 : List UInt8 := [180, 0, 15, 21, 6, 132, 6, 1, 21, 7, 184, 0, 197, 42, 21, 6, 181, 0, 79, 132, 5, 1, 42]
abbrev dktJ5_appendChars_2_3 : List UInt8 := dkwJ5_appendChars_2_3 ++ dktJ5_appendChars_2_4
def dkwJ5_appendChars_2_2 : List UInt8 := [21, 6, 132, 6, 1, 21, 7, 145, 84, 167, 0, 63, 42, 21, 6, 181, 0, 79, 42, 182, 0, 195, 42]
abbrev dktJ5_appendChars_2_2 : List UInt8 := dkwJ5_appendChars_2_2 ++ dktJ5_appendChars_2_3
def dkwJ5_appendChars_2_1 : List UInt8 := [29, 162, 0, 101, 43, 21, 5, 185, 1, 134, 2, 0, 54, 7, 21, 7, 184, 0, 191, 153, 0, 17, 25, 4]
abbrev dktJ5_appendChars_2_1 : List UInt8 := dkwJ5_appendChars_2_1 ++ dktJ5_appendChars_2_2
def dkwJ5_appendChars_2_0 : List UInt8 := [42, 182, 0, 83, 153, 0, 125, 42, 180, 0, 15, 58, 4, 28, 54, 5, 42, 180, 0, 79, 54, 6, 21, 5]
abbrev dktJ5_appendChars_2_0 : List UInt8 := dkwJ5_appendChars_2_0 ++ dktJ5_appendChars_2_1
theorem dksJ5_appendChars_2_0 : cJ5_appendChars_2.data.toList.drop 0 = dktJ5_appendChars_2_0 := by decide +kernel
theorem dksJ5_appendChars_2_1 : cJ5_appendChars_2.data.toList.drop 24 = dktJ5_appendChars_2_1 := dk_seg dksJ5_appendChars_2_0 24 rfl rfl
theorem dksJ5_appendChars_2_2 : cJ5_appendChars_2.data.toList.drop 48 = dktJ5_appendChars_2_2 := dk_seg dksJ5_appendChars_2_1 24 rfl rfl
theorem dksJ5_appendChars_2_3 : cJ5_appendChars_2.data.toList.drop 71 = dktJ5_appendChars_2_3 := dk_seg dksJ5_appendChars_2_2 23 rfl rfl
theorem dksJ5_appendChars_2_4 : cJ5_appendChars_2.data.toList.drop 94 = dktJ5_appendChars_2_4 := dk_seg dksJ5_appendChars_2_3 23 rfl rfl
theorem dksJ5_appendChars_2_5 : cJ5_appendChars_2.data.toList.drop 116 = dktJ5_appendChars_2_5 := dk_seg dksJ5_appendChars_2_4 22 rfl rfl
theorem dksJ5_appendChars_2_6 : cJ5_appendChars_2.data.toList.drop 140 = dktJ5_appendChars_2_6 := dk_seg dksJ5_appendChars_2_5 24 rfl rfl
theorem dJ5_appendChars_2_0 : decode cJ5_appendChars_2 0 = .ok (.aload_n 0, 1) := dk_42 (dk_at dksJ5_appendChars_2_0 0 rfl rfl)
theorem dJ5_appendChars_2_1 : decode cJ5_appendChars_2 1 = .ok (.invokevirtual 83, 3) := dk_182 0 83 (dk_at dksJ5_appendChars_2_0 1 rfl rfl)
theorem dJ5_appendChars_2_4 : decode cJ5_appendChars_2 4 = .ok (.ifCond .eq 125, 3) := dk_153 0 125 (dk_at dksJ5_appendChars_2_0 4 rfl rfl)
theorem dJ5_appendChars_2_7 : decode cJ5_appendChars_2 7 = .ok (.aload_n 0, 1) := dk_42 (dk_at dksJ5_appendChars_2_0 7 rfl rfl)
theorem dJ5_appendChars_2_8 : decode cJ5_appendChars_2 8 = .ok (.getfield 15, 3) := dk_180 0 15 (dk_at dksJ5_appendChars_2_0 8 rfl rfl)
theorem dJ5_appendChars_2_11 : decode cJ5_appendChars_2 11 = .ok (.astore 4, 2) := dk_58 4 (dk_at dksJ5_appendChars_2_0 11 rfl rfl)
theorem dJ5_appendChars_2_13 : decode cJ5_appendChars_2 13 = .ok (.iload_n 2, 1) := dk_28 (dk_at dksJ5_appendChars_2_0 13 rfl rfl)
theorem dJ5_appendChars_2_14 : decode cJ5_appendChars_2 14 = .ok (.istore 5, 2) := dk_54 5 (dk_at dksJ5_appendChars_2_0 14 rfl rfl)
theorem dJ5_appendChars_2_16 : decode cJ5_appendChars_2 16 = .ok (.aload_n 0, 1) := dk_42 (dk_at dksJ5_appendChars_2_0 16 rfl rfl)
theorem dJ5_appendChars_2_17 : decode cJ5_appendChars_2 17 = .ok (.getfield 79, 3) := dk_180 0 79 (dk_at dksJ5_appendChars_2_0 17 rfl rfl)
theorem dJ5_appendChars_2_20 : decode cJ5_appendChars_2 20 = .ok (.istore 6, 2) := dk_54 6 (dk_at dksJ5_appendChars_2_0 20 rfl rfl)
theorem dJ5_appendChars_2_22 : decode cJ5_appendChars_2 22 = .ok (.iload 5, 2) := dk_21 5 (dk_at dksJ5_appendChars_2_0 22 rfl rfl)
theorem dJ5_appendChars_2_24 : decode cJ5_appendChars_2 24 = .ok (.iload_n 3, 1) := dk_29 (dk_at dksJ5_appendChars_2_1 0 rfl rfl)
theorem dJ5_appendChars_2_25 : decode cJ5_appendChars_2 25 = .ok (.if_icmp .ge 101, 3) := dk_162 0 101 (dk_at dksJ5_appendChars_2_1 1 rfl rfl)
theorem dJ5_appendChars_2_28 : decode cJ5_appendChars_2 28 = .ok (.aload_n 1, 1) := dk_43 (dk_at dksJ5_appendChars_2_1 4 rfl rfl)
theorem dJ5_appendChars_2_29 : decode cJ5_appendChars_2 29 = .ok (.iload 5, 2) := dk_21 5 (dk_at dksJ5_appendChars_2_1 5 rfl rfl)
theorem dJ5_appendChars_2_31 : decode cJ5_appendChars_2 31 = .ok (.invokeinterface 390 2, 5) := by decide +kernel
theorem dJ5_appendChars_2_36 : decode cJ5_appendChars_2 36 = .ok (.istore 7, 2) := dk_54 7 (dk_at dksJ5_appendChars_2_1 12 rfl rfl)
theorem dJ5_appendChars_2_38 : decode cJ5_appendChars_2 38 = .ok (.iload 7, 2) := dk_21 7 (dk_at dksJ5_appendChars_2_1 14 rfl rfl)
theorem dJ5_appendChars_2_40 : decode cJ5_appendChars_2 40 = .ok (.invokestatic 191, 3) := dk_184 0 191 (dk_at dksJ5_appendChars_2_1 16 rfl rfl)
theorem dJ5_appendChars_2_43 : decode cJ5_appendChars_2 43 = .ok (.ifCond .eq 17, 3) := dk_153 0 17 (dk_at dksJ5_appendChars_2_1 19 rfl rfl)
theorem dJ5_appendChars_2_46 : decode cJ5_appendChars_2 46 = .ok (.aload 4, 2) := dk_25 4 (dk_at dksJ5_appendChars_2_1 22 rfl rfl)
theorem dJ5_appendChars_2_48 : decode cJ5_appendChars_2 48 = .ok (.iload 6, 2) := dk_21 6 (dk_at dksJ5_appendChars_2_2 0 rfl rfl)
theorem dJ5_appendChars_2_50 : decode cJ5_appendChars_2 50 = .ok (.iinc 6 1, 3) := dk_132 6 1 (dk_at dksJ5_appendChars_2_2 2 rfl rfl)
theorem dJ5_appendChars_2_53 : decode cJ5_appendChars_2 53 = .ok (.iload 7, 2) := dk_21 7 (dk_at dksJ5_appendChars_2_2 5 rfl rfl)
theorem dJ5_appendChars_2_55 : decode cJ5_appendChars_2 55 = .ok (.i2b, 1) := dk_145 (dk_at dksJ5_appendChars_2_2 7 rfl rfl)
theorem dJ5_appendChars_2_56 : decode cJ5_appendChars_2 56 = .ok (.bastore, 1) := dk_84 (dk_at dksJ5_appendChars_2_2 8 rfl rfl)
theorem dJ5_appendChars_2_57 : decode cJ5_appendChars_2 57 = .ok (.goto 63, 3) := dk_167 0 63 (dk_at dksJ5_appendChars_2_2 9 rfl rfl)
theorem dJ5_appendChars_2_60 : decode cJ5_appendChars_2 60 = .ok (.aload_n 0, 1) := dk_42 (dk_at dksJ5_appendChars_2_2 12 rfl rfl)
theorem dJ5_appendChars_2_61 : decode cJ5_appendChars_2 61 = .ok (.iload 6, 2) := dk_21 6 (dk_at dksJ5_appendChars_2_2 13 rfl rfl)
theorem dJ5_appendChars_2_63 : decode cJ5_appendChars_2 63 = .ok (.putfield 79, 3) := dk_181 0 79 (dk_at dksJ5_appendChars_2_2 15 rfl rfl)
theorem dJ5_appendChars_2_66 : decode cJ5_appendChars_2 66 = .ok (.aload_n 0, 1) := dk_42 (dk_at dksJ5_appendChars_2_2 18 rfl rfl)
theorem dJ5_appendChars_2_67 : decode cJ5_appendChars_2 67 = .ok (.invokevirtual 195, 3) := dk_182 0 195 (dk_at dksJ5_appendChars_2_2 19 rfl rfl)
theorem dJ5_appendChars_2_70 : decode cJ5_appendChars_2 70 = .ok (.aload_n 0, 1) := dk_42 (dk_at dksJ5_appendChars_2_2 22 rfl rfl)
theorem dJ5_appendChars_2_71 : decode cJ5_appendChars_2 71 = .ok (.getfield 15, 3) := dk_180 0 15 (dk_at dksJ5_appendChars_2_3 0 rfl rfl)
theorem dJ5_appendChars_2_74 : decode cJ5_appendChars_2 74 = .ok (.iload 6, 2) := dk_21 6 (dk_at dksJ5_appendChars_2_3 3 rfl rfl)
theorem dJ5_appendChars_2_76 : decode cJ5_appendChars_2 76 = .ok (.iinc 6 1, 3) := dk_132 6 1 (dk_at dksJ5_appendChars_2_3 5 rfl rfl)
theorem dJ5_appendChars_2_79 : decode cJ5_appendChars_2 79 = .ok (.iload 7, 2) := dk_21 7 (dk_at dksJ5_appendChars_2_3 8 rfl rfl)
theorem dJ5_appendChars_2_81 : decode cJ5_appendChars_2 81 = .ok (.invokestatic 197, 3) := dk_184 0 197 (dk_at dksJ5_appendChars_2_3 10 rfl rfl)
theorem dJ5_appendChars_2_84 : decode cJ5_appendChars_2 84 = .ok (.aload_n 0, 1) := dk_42 (dk_at dksJ5_appendChars_2_3 13 rfl rfl)
theorem dJ5_appendChars_2_85 : decode cJ5_appendChars_2 85 = .ok (.iload 6, 2) := dk_21 6 (dk_at dksJ5_appendChars_2_3 14 rfl rfl)
theorem dJ5_appendChars_2_87 : decode cJ5_appendChars_2 87 = .ok (.putfield 79, 3) := dk_181 0 79 (dk_at dksJ5_appendChars_2_3 16 rfl rfl)
theorem dJ5_appendChars_2_90 : decode cJ5_appendChars_2 90 = .ok (.iinc 5 1, 3) := dk_132 5 1 (dk_at dksJ5_appendChars_2_3 19 rfl rfl)
theorem dJ5_appendChars_2_93 : decode cJ5_appendChars_2 93 = .ok (.aload_n 0, 1) := dk_42 (dk_at dksJ5_appendChars_2_3 22 rfl rfl)
theorem dJ5_appendChars_2_94 : decode cJ5_appendChars_2 94 = .ok (.getfield 15, 3) := dk_180 0 15 (dk_at dksJ5_appendChars_2_4 0 rfl rfl)
theorem dJ5_appendChars_2_97 : decode cJ5_appendChars_2 97 = .ok (.iload 6, 2) := dk_21 6 (dk_at dksJ5_appendChars_2_4 3 rfl rfl)
theorem dJ5_appendChars_2_99 : decode cJ5_appendChars_2 99 = .ok (.aload_n 1, 1) := dk_43 (dk_at dksJ5_appendChars_2_4 5 rfl rfl)
theorem dJ5_appendChars_2_100 : decode cJ5_appendChars_2 100 = .ok (.iload 5, 2) := dk_21 5 (dk_at dksJ5_appendChars_2_4 6 rfl rfl)
theorem dJ5_appendChars_2_102 : decode cJ5_appendChars_2 102 = .ok (.iload_n 3, 1) := dk_29 (dk_at dksJ5_appendChars_2_4 8 rfl rfl)
theorem dJ5_appendChars_2_103 : decode cJ5_appendChars_2 103 = .ok (.invokestatic 394, 3) := dk_184 1 138 (dk_at dksJ5_appendChars_2_4 9 rfl rfl)
theorem dJ5_appendChars_2_106 : decode cJ5_appendChars_2 106 = .ok (.aload_n 0, 1) := dk_42 (dk_at dksJ5_appendChars_2_4 12 rfl rfl)
theorem dJ5_appendChars_2_107 : decode cJ5_appendChars_2 107 = .ok (.dup, 1) := dk_89 (dk_at dksJ5_appendChars_2_4 13 rfl rfl)
theorem dJ5_appendChars_2_108 : decode cJ5_appendChars_2 108 = .ok (.getfield 79, 3) := dk_180 0 79 (dk_at dksJ5_appendChars_2_4 14 rfl rfl)
theorem dJ5_appendChars_2_111 : decode cJ5_appendChars_2 111 = .ok (.iload_n 3, 1) := dk_29 (dk_at dksJ5_appendChars_2_4 17 rfl rfl)
theorem dJ5_appendChars_2_112 : decode cJ5_appendChars_2 112 = .ok (.iload 5, 2) := dk_21 5 (dk_at dksJ5_appendChars_2_4 18 rfl rfl)
theorem dJ5_appendChars_2_114 : decode cJ5_appendChars_2 114 = .ok (.isub, 1) := dk_100 (dk_at dksJ5_appendChars_2_4 20 rfl rfl)
theorem dJ5_appendChars_2_115 : decode cJ5_appendChars_2 115 = .ok (.iadd, 1) := dk_96 (dk_at dksJ5_appendChars_2_4 21 rfl rfl)
theorem dJ5_appendChars_2_116 : decode cJ5_appendChars_2 116 = .ok (.putfield 79, 3) := dk_181 0 79 (dk_at dksJ5_appendChars_2_5 0 rfl rfl)
theorem dJ5_appendChars_2_119 : decode cJ5_appendChars_2 119 = .ok (.return_, 1) := dk_177 (dk_at dksJ5_appendChars_2_5 3 rfl rfl)
theorem dJ5_appendChars_2_120 : decode cJ5_appendChars_2 120 = .ok (.iinc 5 1, 3) := dk_132 5 1 (dk_at dksJ5_appendChars_2_5 4 rfl rfl)
theorem dJ5_appendChars_2_123 : decode cJ5_appendChars_2 123 = .ok (.goto (-101), 3) := dk_167 255 155 (dk_at dksJ5_appendChars_2_5 7 rfl rfl)
theorem dJ5_appendChars_2_126 : decode cJ5_appendChars_2 126 = .ok (.goto 17, 3) := dk_167 0 17 (dk_at dksJ5_appendChars_2_5 10 rfl rfl)
theorem dJ5_appendChars_2_129 : decode cJ5_appendChars_2 129 = .ok (.aload_n 0, 1) := dk_42 (dk_at dksJ5_appendChars_2_5 13 rfl rfl)
theorem dJ5_appendChars_2_130 : decode cJ5_appendChars_2 130 = .ok (.getfield 15, 3) := dk_180 0 15 (dk_at dksJ5_appendChars_2_5 14 rfl rfl)
theorem dJ5_appendChars_2_133 : decode cJ5_appendChars_2 133 = .ok (.aload_n 0, 1) := dk_42 (dk_at dksJ5_appendChars_2_5 17 rfl rfl)
theorem dJ5_appendChars_2_134 : decode cJ5_appendChars_2 134 = .ok (.getfield 79, 3) := dk_180 0 79 (dk_at dksJ5_appendChars_2_5 18 rfl rfl)
theorem dJ5_appendChars_2_137 : decode cJ5_appendChars_2 137 = .ok (.aload_n 1, 1) := dk_43 (dk_at dksJ5_appendChars_2_5 21 rfl rfl)
theorem dJ5_appendChars_2_138 : decode cJ5_appendChars_2 138 = .ok (.iload_n 2, 1) := dk_28 (dk_at dksJ5_appendChars_2_5 22 rfl rfl)
theorem dJ5_appendChars_2_139 : decode cJ5_appendChars_2 139 = .ok (.iload_n 3, 1) := dk_29 (dk_at dksJ5_appendChars_2_5 23 rfl rfl)
theorem dJ5_appendChars_2_140 : decode cJ5_appendChars_2 140 = .ok (.invokestatic 394, 3) := dk_184 1 138 (dk_at dksJ5_appendChars_2_6 0 rfl rfl)
theorem dJ5_appendChars_2_143 : decode cJ5_appendChars_2 143 = .ok (.aload_n 0, 1) := dk_42 (dk_at dksJ5_appendChars_2_6 3 rfl rfl)
theorem dJ5_appendChars_2_144 : decode cJ5_appendChars_2 144 = .ok (.dup, 1) := dk_89 (dk_at dksJ5_appendChars_2_6 4 rfl rfl)
theorem dJ5_appendChars_2_145 : decode cJ5_appendChars_2 145 = .ok (.getfield 79, 3) := dk_180 0 79 (dk_at dksJ5_appendChars_2_6 5 rfl rfl)
theorem dJ5_appendChars_2_148 : decode cJ5_appendChars_2 148 = .ok (.iload_n 3, 1) := dk_29 (dk_at dksJ5_appendChars_2_6 8 rfl rfl)
theorem dJ5_appendChars_2_149 : decode cJ5_appendChars_2 149 = .ok (.iload_n 2, 1) := dk_28 (dk_at dksJ5_appendChars_2_6 9 rfl rfl)
theorem dJ5_appendChars_2_150 : decode cJ5_appendChars_2 150 = .ok (.isub, 1) := dk_100 (dk_at dksJ5_appendChars_2_6 10 rfl rfl)
theorem dJ5_appendChars_2_151 : decode cJ5_appendChars_2 151 = .ok (.iadd, 1) := dk_96 (dk_at dksJ5_appendChars_2_6 11 rfl rfl)
theorem dJ5_appendChars_2_152 : decode cJ5_appendChars_2 152 = .ok (.putfield 79, 3) := dk_181 0 79 (dk_at dksJ5_appendChars_2_6 12 rfl rfl)
theorem dJ5_appendChars_2_155 : decode cJ5_appendChars_2 155 = .ok (.return_, 1) := dk_177 (dk_at dksJ5_appendChars_2_6 15 rfl rfl)
abbrev cJ5_setLength : ByteArray := prog_16_method_13_code
def yJ5_setLength : MethodName := ⟨RJ5, "setLength", "(I)V"⟩
def dkwJ5_setLength_3 : List UInt8 := [164, 0, 8, 42, 4, 181, 0, 73, 42, 27, 181, 0, 79, 177]
abbrev dktJ5_setLength_3 : List UInt8 := dkwJ5_setLength_3 ++ []
def dkwJ5_setLength_2 : List UInt8 := [167, 0, 31, 42, 180, 0, 15, 42, 180, 0, 79, 27, 184, 0, 137, 167, 0, 16, 42, 180, 0, 79, 27]
abbrev dktJ5_setLength_2 : List UInt8 := dkwJ5_setLength_2 ++ dktJ5_setLength_3
def dkwJ5_setLength_1 : List UInt8 := [162, 0, 40, 42, 182, 0, 83, 153, 0, 18, 42, 180, 0, 15, 42, 180, 0, 79, 27, 184, 0, 133]
abbrev dktJ5_setLength_1 : List UInt8 := dkwJ5_setLength_1 ++ dktJ5_setLength_2
def dkwJ5_setLength_0 : List UInt8 := [27, 156, 0, 12, 187, 0, 129, 89, 27, 183, 0, 131, 191, 42, 27, 182, 0, 100, 42, 180, 0, 79, 27]
abbrev dktJ5_setLength_0 : List UInt8 := dkwJ5_setLength_0 ++ dktJ5_setLength_1
theorem dksJ5_setLength_0 : cJ5_setLength.data.toList.drop 0 = dktJ5_setLength_0 := by decide +kernel
theorem dksJ5_setLength_1 : cJ5_setLength.data.toList.drop 23 = dktJ5_setLength_1 := dk_seg dksJ5_setLength_0 23 rfl rfl
theorem dksJ5_setLength_2 : cJ5_setLength.data.toList.drop 45 = dktJ5_setLength_2 := dk_seg dksJ5_setLength_1 22 rfl rfl
theorem dksJ5_setLength_3 : cJ5_setLength.data.toList.drop 68 = dktJ5_setLength_3 := dk_seg dksJ5_setLength_2 23 rfl rfl
theorem dJ5_setLength_0 : decode cJ5_setLength 0 = .ok (.iload_n 1, 1) := dk_27 (dk_at dksJ5_setLength_0 0 rfl rfl)
theorem dJ5_setLength_1 : decode cJ5_setLength 1 = .ok (.ifCond .ge 12, 3) := dk_156 0 12 (dk_at dksJ5_setLength_0 1 rfl rfl)
theorem dJ5_setLength_4 : decode cJ5_setLength 4 = .ok (.new 129, 3) := dk_187 0 129 (dk_at dksJ5_setLength_0 4 rfl rfl)
theorem dJ5_setLength_7 : decode cJ5_setLength 7 = .ok (.dup, 1) := dk_89 (dk_at dksJ5_setLength_0 7 rfl rfl)
theorem dJ5_setLength_8 : decode cJ5_setLength 8 = .ok (.iload_n 1, 1) := dk_27 (dk_at dksJ5_setLength_0 8 rfl rfl)
theorem dJ5_setLength_9 : decode cJ5_setLength 9 = .ok (.invokespecial 131, 3) := dk_183 0 131 (dk_at dksJ5_setLength_0 9 rfl rfl)
theorem dJ5_setLength_12 : decode cJ5_setLength 12 = .ok (.athrow, 1) := dk_191 (dk_at dksJ5_setLength_0 12 rfl rfl)
theorem dJ5_setLength_13 : decode cJ5_setLength 13 = .ok (.aload_n 0, 1) := dk_42 (dk_at dksJ5_setLength_0 13 rfl rfl)
theorem dJ5_setLength_14 : decode cJ5_setLength 14 = .ok (.iload_n 1, 1) := dk_27 (dk_at dksJ5_setLength_0 14 rfl rfl)
theorem dJ5_setLength_15 : decode cJ5_setLength 15 = .ok (.invokevirtual 100, 3) := dk_182 0 100 (dk_at dksJ5_setLength_0 15 rfl rfl)
theorem dJ5_setLength_18 : decode cJ5_setLength 18 = .ok (.aload_n 0, 1) := dk_42 (dk_at dksJ5_setLength_0 18 rfl rfl)
theorem dJ5_setLength_19 : decode cJ5_setLength 19 = .ok (.getfield 79, 3) := dk_180 0 79 (dk_at dksJ5_setLength_0 19 rfl rfl)
theorem dJ5_setLength_22 : decode cJ5_setLength 22 = .ok (.iload_n 1, 1) := dk_27 (dk_at dksJ5_setLength_0 22 rfl rfl)
theorem dJ5_setLength_23 : decode cJ5_setLength 23 = .ok (.if_icmp .ge 40, 3) := dk_162 0 40 (dk_at dksJ5_setLength_1 0 rfl rfl)
theorem dJ5_setLength_26 : decode cJ5_setLength 26 = .ok (.aload_n 0, 1) := dk_42 (dk_at dksJ5_setLength_1 3 rfl rfl)
theorem dJ5_setLength_27 : decode cJ5_setLength 27 = .ok (.invokevirtual 83, 3) := dk_182 0 83 (dk_at dksJ5_setLength_1 4 rfl rfl)
theorem dJ5_setLength_30 : decode cJ5_setLength 30 = .ok (.ifCond .eq 18, 3) := dk_153 0 18 (dk_at dksJ5_setLength_1 7 rfl rfl)
theorem dJ5_setLength_33 : decode cJ5_setLength 33 = .ok (.aload_n 0, 1) := dk_42 (dk_at dksJ5_setLength_1 10 rfl rfl)
theorem dJ5_setLength_34 : decode cJ5_setLength 34 = .ok (.getfield 15, 3) := dk_180 0 15 (dk_at dksJ5_setLength_1 11 rfl rfl)
theorem dJ5_setLength_37 : decode cJ5_setLength 37 = .ok (.aload_n 0, 1) := dk_42 (dk_at dksJ5_setLength_1 14 rfl rfl)
theorem dJ5_setLength_38 : decode cJ5_setLength 38 = .ok (.getfield 79, 3) := dk_180 0 79 (dk_at dksJ5_setLength_1 15 rfl rfl)
theorem dJ5_setLength_41 : decode cJ5_setLength 41 = .ok (.iload_n 1, 1) := dk_27 (dk_at dksJ5_setLength_1 18 rfl rfl)
theorem dJ5_setLength_42 : decode cJ5_setLength 42 = .ok (.invokestatic 133, 3) := dk_184 0 133 (dk_at dksJ5_setLength_1 19 rfl rfl)
theorem dJ5_setLength_45 : decode cJ5_setLength 45 = .ok (.goto 31, 3) := dk_167 0 31 (dk_at dksJ5_setLength_2 0 rfl rfl)
theorem dJ5_setLength_48 : decode cJ5_setLength 48 = .ok (.aload_n 0, 1) := dk_42 (dk_at dksJ5_setLength_2 3 rfl rfl)
theorem dJ5_setLength_49 : decode cJ5_setLength 49 = .ok (.getfield 15, 3) := dk_180 0 15 (dk_at dksJ5_setLength_2 4 rfl rfl)
theorem dJ5_setLength_52 : decode cJ5_setLength 52 = .ok (.aload_n 0, 1) := dk_42 (dk_at dksJ5_setLength_2 7 rfl rfl)
theorem dJ5_setLength_53 : decode cJ5_setLength 53 = .ok (.getfield 79, 3) := dk_180 0 79 (dk_at dksJ5_setLength_2 8 rfl rfl)
theorem dJ5_setLength_56 : decode cJ5_setLength 56 = .ok (.iload_n 1, 1) := dk_27 (dk_at dksJ5_setLength_2 11 rfl rfl)
theorem dJ5_setLength_57 : decode cJ5_setLength 57 = .ok (.invokestatic 137, 3) := dk_184 0 137 (dk_at dksJ5_setLength_2 12 rfl rfl)
theorem dJ5_setLength_60 : decode cJ5_setLength 60 = .ok (.goto 16, 3) := dk_167 0 16 (dk_at dksJ5_setLength_2 15 rfl rfl)
theorem dJ5_setLength_63 : decode cJ5_setLength 63 = .ok (.aload_n 0, 1) := dk_42 (dk_at dksJ5_setLength_2 18 rfl rfl)
theorem dJ5_setLength_64 : decode cJ5_setLength 64 = .ok (.getfield 79, 3) := dk_180 0 79 (dk_at dksJ5_setLength_2 19 rfl rfl)
theorem dJ5_setLength_67 : decode cJ5_setLength 67 = .ok (.iload_n 1, 1) := dk_27 (dk_at dksJ5_setLength_2 22 rfl rfl)
theorem dJ5_setLength_68 : decode cJ5_setLength 68 = .ok (.if_icmp .le 8, 3) := dk_164 0 8 (dk_at dksJ5_setLength_3 0 rfl rfl)
theorem dJ5_setLength_71 : decode cJ5_setLength 71 = .ok (.aload_n 0, 1) := dk_42 (dk_at dksJ5_setLength_3 3 rfl rfl)
theorem dJ5_setLength_72 : decode cJ5_setLength 72 = .ok (.iconst 1, 1) := dk_4 (dk_at dksJ5_setLength_3 4 rfl rfl)
theorem dJ5_setLength_73 : decode cJ5_setLength 73 = .ok (.putfield 73, 3) := dk_181 0 73 (dk_at dksJ5_setLength_3 5 rfl rfl)
theorem dJ5_setLength_76 : decode cJ5_setLength 76 = .ok (.aload_n 0, 1) := dk_42 (dk_at dksJ5_setLength_3 8 rfl rfl)
theorem dJ5_setLength_77 : decode cJ5_setLength 77 = .ok (.iload_n 1, 1) := dk_27 (dk_at dksJ5_setLength_3 9 rfl rfl)
theorem dJ5_setLength_78 : decode cJ5_setLength 78 = .ok (.putfield 79, 3) := dk_181 0 79 (dk_at dksJ5_setLength_3 10 rfl rfl)
theorem dJ5_setLength_81 : decode cJ5_setLength 81 = .ok (.return_, 1) := dk_177 (dk_at dksJ5_setLength_3 13 rfl rfl)
abbrev cJ5_init_2 : ByteArray := prog_16_method_3_code
def yJ5_init_2 : MethodName := ⟨RJ5, "<init>", "(Ljava/lang/String;)V"⟩
def dkwJ5_init_2_2 : List UInt8 := [167, 0, 7, 29, 184, 0, 26, 181, 0, 15, 42, 43, 182, 0, 43, 87, 177]
abbrev dktJ5_init_2_2 : List UInt8 := dkwJ5_init_2_2 ++ []
def dkwJ5_init_2_1 : List UInt8 := [62, 43, 182, 0, 40, 54, 4, 42, 21, 4, 181, 0, 22, 42, 21, 4, 154, 0, 9, 29, 188, 8]
abbrev dktJ5_init_2_1 : List UInt8 := dkwJ5_init_2_1 ++ dktJ5_init_2_2
def dkwJ5_init_2_0 : List UInt8 := [42, 183, 0, 3, 43, 182, 0, 32, 61, 28, 18, 38, 162, 0, 10, 28, 16, 16, 96, 167, 0, 5, 18, 39]
abbrev dktJ5_init_2_0 : List UInt8 := dkwJ5_init_2_0 ++ dktJ5_init_2_1
theorem dksJ5_init_2_0 : cJ5_init_2.data.toList.drop 0 = dktJ5_init_2_0 := by decide +kernel
theorem dksJ5_init_2_1 : cJ5_init_2.data.toList.drop 24 = dktJ5_init_2_1 := dk_seg dksJ5_init_2_0 24 rfl rfl
theorem dksJ5_init_2_2 : cJ5_init_2.data.toList.drop 46 = dktJ5_init_2_2 := dk_seg dksJ5_init_2_1 22 rfl rfl
theorem dJ5_init_2_0 : decode cJ5_init_2 0 = .ok (.aload_n 0, 1) := dk_42 (dk_at dksJ5_init_2_0 0 rfl rfl)
theorem dJ5_init_2_1 : decode cJ5_init_2 1 = .ok (.invokespecial 3, 3) := dk_183 0 3 (dk_at dksJ5_init_2_0 1 rfl rfl)
theorem dJ5_init_2_4 : decode cJ5_init_2 4 = .ok (.aload_n 1, 1) := dk_43 (dk_at dksJ5_init_2_0 4 rfl rfl)
theorem dJ5_init_2_5 : decode cJ5_init_2 5 = .ok (.invokevirtual 32, 3) := dk_182 0 32 (dk_at dksJ5_init_2_0 5 rfl rfl)
theorem dJ5_init_2_8 : decode cJ5_init_2 8 = .ok (.istore_n 2, 1) := dk_61 (dk_at dksJ5_init_2_0 8 rfl rfl)
theorem dJ5_init_2_9 : decode cJ5_init_2 9 = .ok (.iload_n 2, 1) := dk_28 (dk_at dksJ5_init_2_0 9 rfl rfl)
theorem dJ5_init_2_10 : decode cJ5_init_2 10 = .ok (.ldc 38, 2) := dk_18 38 (dk_at dksJ5_init_2_0 10 rfl rfl)
theorem dJ5_init_2_12 : decode cJ5_init_2 12 = .ok (.if_icmp .ge 10, 3) := dk_162 0 10 (dk_at dksJ5_init_2_0 12 rfl rfl)
theorem dJ5_init_2_15 : decode cJ5_init_2 15 = .ok (.iload_n 2, 1) := dk_28 (dk_at dksJ5_init_2_0 15 rfl rfl)
theorem dJ5_init_2_16 : decode cJ5_init_2 16 = .ok (.bipush 16, 2) := dk_16 16 (dk_at dksJ5_init_2_0 16 rfl rfl)
theorem dJ5_init_2_18 : decode cJ5_init_2 18 = .ok (.iadd, 1) := dk_96 (dk_at dksJ5_init_2_0 18 rfl rfl)
theorem dJ5_init_2_19 : decode cJ5_init_2 19 = .ok (.goto 5, 3) := dk_167 0 5 (dk_at dksJ5_init_2_0 19 rfl rfl)
theorem dJ5_init_2_22 : decode cJ5_init_2 22 = .ok (.ldc 39, 2) := dk_18 39 (dk_at dksJ5_init_2_0 22 rfl rfl)
theorem dJ5_init_2_24 : decode cJ5_init_2 24 = .ok (.istore_n 3, 1) := dk_62 (dk_at dksJ5_init_2_1 0 rfl rfl)
theorem dJ5_init_2_25 : decode cJ5_init_2 25 = .ok (.aload_n 1, 1) := dk_43 (dk_at dksJ5_init_2_1 1 rfl rfl)
theorem dJ5_init_2_26 : decode cJ5_init_2 26 = .ok (.invokevirtual 40, 3) := dk_182 0 40 (dk_at dksJ5_init_2_1 2 rfl rfl)
theorem dJ5_init_2_29 : decode cJ5_init_2 29 = .ok (.istore 4, 2) := dk_54 4 (dk_at dksJ5_init_2_1 5 rfl rfl)
theorem dJ5_init_2_31 : decode cJ5_init_2 31 = .ok (.aload_n 0, 1) := dk_42 (dk_at dksJ5_init_2_1 7 rfl rfl)
theorem dJ5_init_2_32 : decode cJ5_init_2 32 = .ok (.iload 4, 2) := dk_21 4 (dk_at dksJ5_init_2_1 8 rfl rfl)
theorem dJ5_init_2_34 : decode cJ5_init_2 34 = .ok (.putfield 22, 3) := dk_181 0 22 (dk_at dksJ5_init_2_1 10 rfl rfl)
theorem dJ5_init_2_37 : decode cJ5_init_2 37 = .ok (.aload_n 0, 1) := dk_42 (dk_at dksJ5_init_2_1 13 rfl rfl)
theorem dJ5_init_2_38 : decode cJ5_init_2 38 = .ok (.iload 4, 2) := dk_21 4 (dk_at dksJ5_init_2_1 14 rfl rfl)
theorem dJ5_init_2_40 : decode cJ5_init_2 40 = .ok (.ifCond .ne 9, 3) := dk_154 0 9 (dk_at dksJ5_init_2_1 16 rfl rfl)
theorem dJ5_init_2_43 : decode cJ5_init_2 43 = .ok (.iload_n 3, 1) := dk_29 (dk_at dksJ5_init_2_1 19 rfl rfl)
theorem dJ5_init_2_44 : decode cJ5_init_2 44 = .ok (.newarray .byte, 2) := dk_188_8 (dk_at dksJ5_init_2_1 20 rfl rfl)
theorem dJ5_init_2_46 : decode cJ5_init_2 46 = .ok (.goto 7, 3) := dk_167 0 7 (dk_at dksJ5_init_2_2 0 rfl rfl)
theorem dJ5_init_2_49 : decode cJ5_init_2 49 = .ok (.iload_n 3, 1) := dk_29 (dk_at dksJ5_init_2_2 3 rfl rfl)
theorem dJ5_init_2_50 : decode cJ5_init_2 50 = .ok (.invokestatic 26, 3) := dk_184 0 26 (dk_at dksJ5_init_2_2 4 rfl rfl)
theorem dJ5_init_2_53 : decode cJ5_init_2 53 = .ok (.putfield 15, 3) := dk_181 0 15 (dk_at dksJ5_init_2_2 7 rfl rfl)
theorem dJ5_init_2_56 : decode cJ5_init_2 56 = .ok (.aload_n 0, 1) := dk_42 (dk_at dksJ5_init_2_2 10 rfl rfl)
theorem dJ5_init_2_57 : decode cJ5_init_2 57 = .ok (.aload_n 1, 1) := dk_43 (dk_at dksJ5_init_2_2 11 rfl rfl)
theorem dJ5_init_2_58 : decode cJ5_init_2 58 = .ok (.invokevirtual 43, 3) := dk_182 0 43 (dk_at dksJ5_init_2_2 12 rfl rfl)
theorem dJ5_init_2_61 : decode cJ5_init_2 61 = .ok (.pop, 1) := dk_87 (dk_at dksJ5_init_2_2 15 rfl rfl)
theorem dJ5_init_2_62 : decode cJ5_init_2 62 = .ok (.return_, 1) := dk_177 (dk_at dksJ5_init_2_2 16 rfl rfl)
abbrev cJ5_append_6 : ByteArray := prog_16_method_31_code
def yJ5_append_6 : MethodName := ⟨RJ5, "append", "(C)Ljava/lang/AbstractStringBuilder;"⟩
def dkwJ5_append_6_3 : List UInt8 := [181, 0, 79, 27, 184, 0, 197, 42, 176]
abbrev dktJ5_append_6_3 : List UInt8 := dkwJ5_append_6_3 ++ []
def dkwJ5_append_6_2 : List UInt8 := [182, 0, 83, 153, 0, 7, 42, 182, 0, 195, 42, 180, 0, 15, 42, 89, 180, 0, 79, 90, 4, 96]
abbrev dktJ5_append_6_2 : List UInt8 := dkwJ5_append_6_2 ++ dktJ5_append_6_3
def dkwJ5_append_6_1 : List UInt8 := [42, 180, 0, 15, 42, 89, 180, 0, 79, 90, 4, 96, 181, 0, 79, 27, 145, 84, 167, 0, 33, 42]
abbrev dktJ5_append_6_1 : List UInt8 := dkwJ5_append_6_1 ++ dktJ5_append_6_2
def dkwJ5_append_6_0 : List UInt8 := [42, 42, 180, 0, 79, 4, 96, 182, 0, 100, 42, 182, 0, 83, 153, 0, 31, 27, 184, 0, 191, 153, 0, 24]
abbrev dktJ5_append_6_0 : List UInt8 := dkwJ5_append_6_0 ++ dktJ5_append_6_1
theorem dksJ5_append_6_0 : cJ5_append_6.data.toList.drop 0 = dktJ5_append_6_0 := by decide +kernel
theorem dksJ5_append_6_1 : cJ5_append_6.data.toList.drop 24 = dktJ5_append_6_1 := dk_seg dksJ5_append_6_0 24 rfl rfl
theorem dksJ5_append_6_2 : cJ5_append_6.data.toList.drop 46 = dktJ5_append_6_2 := dk_seg dksJ5_append_6_1 22 rfl rfl
theorem dksJ5_append_6_3 : cJ5_append_6.data.toList.drop 68 = dktJ5_append_6_3 := dk_seg dksJ5_append_6_2 22 rfl rfl
theorem dJ5_append_6_0 : decode cJ5_append_6 0 = .ok (.aload_n 0, 1) := dk_42 (dk_at dksJ5_append_6_0 0 rfl rfl)
theorem dJ5_append_6_1 : decode cJ5_append_6 1 = .ok (.aload_n 0, 1) := dk_42 (dk_at dksJ5_append_6_0 1 rfl rfl)
theorem dJ5_append_6_2 : decode cJ5_append_6 2 = .ok (.getfield 79, 3) := dk_180 0 79 (dk_at dksJ5_append_6_0 2 rfl rfl)
theorem dJ5_append_6_5 : decode cJ5_append_6 5 = .ok (.iconst 1, 1) := dk_4 (dk_at dksJ5_append_6_0 5 rfl rfl)
theorem dJ5_append_6_6 : decode cJ5_append_6 6 = .ok (.iadd, 1) := dk_96 (dk_at dksJ5_append_6_0 6 rfl rfl)
theorem dJ5_append_6_7 : decode cJ5_append_6 7 = .ok (.invokevirtual 100, 3) := dk_182 0 100 (dk_at dksJ5_append_6_0 7 rfl rfl)
theorem dJ5_append_6_10 : decode cJ5_append_6 10 = .ok (.aload_n 0, 1) := dk_42 (dk_at dksJ5_append_6_0 10 rfl rfl)
theorem dJ5_append_6_11 : decode cJ5_append_6 11 = .ok (.invokevirtual 83, 3) := dk_182 0 83 (dk_at dksJ5_append_6_0 11 rfl rfl)
theorem dJ5_append_6_14 : decode cJ5_append_6 14 = .ok (.ifCond .eq 31, 3) := dk_153 0 31 (dk_at dksJ5_append_6_0 14 rfl rfl)
theorem dJ5_append_6_17 : decode cJ5_append_6 17 = .ok (.iload_n 1, 1) := dk_27 (dk_at dksJ5_append_6_0 17 rfl rfl)
theorem dJ5_append_6_18 : decode cJ5_append_6 18 = .ok (.invokestatic 191, 3) := dk_184 0 191 (dk_at dksJ5_append_6_0 18 rfl rfl)
theorem dJ5_append_6_21 : decode cJ5_append_6 21 = .ok (.ifCond .eq 24, 3) := dk_153 0 24 (dk_at dksJ5_append_6_0 21 rfl rfl)
theorem dJ5_append_6_24 : decode cJ5_append_6 24 = .ok (.aload_n 0, 1) := dk_42 (dk_at dksJ5_append_6_1 0 rfl rfl)
theorem dJ5_append_6_25 : decode cJ5_append_6 25 = .ok (.getfield 15, 3) := dk_180 0 15 (dk_at dksJ5_append_6_1 1 rfl rfl)
theorem dJ5_append_6_28 : decode cJ5_append_6 28 = .ok (.aload_n 0, 1) := dk_42 (dk_at dksJ5_append_6_1 4 rfl rfl)
theorem dJ5_append_6_29 : decode cJ5_append_6 29 = .ok (.dup, 1) := dk_89 (dk_at dksJ5_append_6_1 5 rfl rfl)
theorem dJ5_append_6_30 : decode cJ5_append_6 30 = .ok (.getfield 79, 3) := dk_180 0 79 (dk_at dksJ5_append_6_1 6 rfl rfl)
theorem dJ5_append_6_33 : decode cJ5_append_6 33 = .ok (.dup_x1, 1) := dk_90 (dk_at dksJ5_append_6_1 9 rfl rfl)
theorem dJ5_append_6_34 : decode cJ5_append_6 34 = .ok (.iconst 1, 1) := dk_4 (dk_at dksJ5_append_6_1 10 rfl rfl)
theorem dJ5_append_6_35 : decode cJ5_append_6 35 = .ok (.iadd, 1) := dk_96 (dk_at dksJ5_append_6_1 11 rfl rfl)
theorem dJ5_append_6_36 : decode cJ5_append_6 36 = .ok (.putfield 79, 3) := dk_181 0 79 (dk_at dksJ5_append_6_1 12 rfl rfl)
theorem dJ5_append_6_39 : decode cJ5_append_6 39 = .ok (.iload_n 1, 1) := dk_27 (dk_at dksJ5_append_6_1 15 rfl rfl)
theorem dJ5_append_6_40 : decode cJ5_append_6 40 = .ok (.i2b, 1) := dk_145 (dk_at dksJ5_append_6_1 16 rfl rfl)
theorem dJ5_append_6_41 : decode cJ5_append_6 41 = .ok (.bastore, 1) := dk_84 (dk_at dksJ5_append_6_1 17 rfl rfl)
theorem dJ5_append_6_42 : decode cJ5_append_6 42 = .ok (.goto 33, 3) := dk_167 0 33 (dk_at dksJ5_append_6_1 18 rfl rfl)
theorem dJ5_append_6_45 : decode cJ5_append_6 45 = .ok (.aload_n 0, 1) := dk_42 (dk_at dksJ5_append_6_1 21 rfl rfl)
theorem dJ5_append_6_46 : decode cJ5_append_6 46 = .ok (.invokevirtual 83, 3) := dk_182 0 83 (dk_at dksJ5_append_6_2 0 rfl rfl)
theorem dJ5_append_6_49 : decode cJ5_append_6 49 = .ok (.ifCond .eq 7, 3) := dk_153 0 7 (dk_at dksJ5_append_6_2 3 rfl rfl)
theorem dJ5_append_6_52 : decode cJ5_append_6 52 = .ok (.aload_n 0, 1) := dk_42 (dk_at dksJ5_append_6_2 6 rfl rfl)
theorem dJ5_append_6_53 : decode cJ5_append_6 53 = .ok (.invokevirtual 195, 3) := dk_182 0 195 (dk_at dksJ5_append_6_2 7 rfl rfl)
theorem dJ5_append_6_56 : decode cJ5_append_6 56 = .ok (.aload_n 0, 1) := dk_42 (dk_at dksJ5_append_6_2 10 rfl rfl)
theorem dJ5_append_6_57 : decode cJ5_append_6 57 = .ok (.getfield 15, 3) := dk_180 0 15 (dk_at dksJ5_append_6_2 11 rfl rfl)
theorem dJ5_append_6_60 : decode cJ5_append_6 60 = .ok (.aload_n 0, 1) := dk_42 (dk_at dksJ5_append_6_2 14 rfl rfl)
theorem dJ5_append_6_61 : decode cJ5_append_6 61 = .ok (.dup, 1) := dk_89 (dk_at dksJ5_append_6_2 15 rfl rfl)
theorem dJ5_append_6_62 : decode cJ5_append_6 62 = .ok (.getfield 79, 3) := dk_180 0 79 (dk_at dksJ5_append_6_2 16 rfl rfl)
theorem dJ5_append_6_65 : decode cJ5_append_6 65 = .ok (.dup_x1, 1) := dk_90 (dk_at dksJ5_append_6_2 19 rfl rfl)
theorem dJ5_append_6_66 : decode cJ5_append_6 66 = .ok (.iconst 1, 1) := dk_4 (dk_at dksJ5_append_6_2 20 rfl rfl)
theorem dJ5_append_6_67 : decode cJ5_append_6 67 = .ok (.iadd, 1) := dk_96 (dk_at dksJ5_append_6_2 21 rfl rfl)
theorem dJ5_append_6_68 : decode cJ5_append_6 68 = .ok (.putfield 79, 3) := dk_181 0 79 (dk_at dksJ5_append_6_3 0 rfl rfl)
theorem dJ5_append_6_71 : decode cJ5_append_6 71 = .ok (.iload_n 1, 1) := dk_27 (dk_at dksJ5_append_6_3 3 rfl rfl)
theorem dJ5_append_6_72 : decode cJ5_append_6 72 = .ok (.invokestatic 197, 3) := dk_184 0 197 (dk_at dksJ5_append_6_3 4 rfl rfl)
theorem dJ5_append_6_75 : decode cJ5_append_6 75 = .ok (.aload_n 0, 1) := dk_42 (dk_at dksJ5_append_6_3 7 rfl rfl)
theorem dJ5_append_6_76 : decode cJ5_append_6 76 = .ok (.areturn, 1) := dk_176 (dk_at dksJ5_append_6_3 8 rfl rfl)
abbrev cJ6_init : ByteArray := prog_36_method_1_code
def yJ6_init : MethodName := ⟨RJ6, "<init>", "()V"⟩
def dkwJ6_init_0 : List UInt8 := [42, 16, 16, 183, 0, 1, 177]
abbrev dktJ6_init_0 : List UInt8 := dkwJ6_init_0 ++ []
theorem dksJ6_init_0 : cJ6_init.data.toList.drop 0 = dktJ6_init_0 := by decide +kernel
theorem dJ6_init_0 : decode cJ6_init 0 = .ok (.aload_n 0, 1) := dk_42 (dk_at dksJ6_init_0 0 rfl rfl)
theorem dJ6_init_1 : decode cJ6_init 1 = .ok (.bipush 16, 2) := dk_16 16 (dk_at dksJ6_init_0 1 rfl rfl)
theorem dJ6_init_3 : decode cJ6_init 3 = .ok (.invokespecial 1, 3) := dk_183 0 1 (dk_at dksJ6_init_0 3 rfl rfl)
theorem dJ6_init_6 : decode cJ6_init 6 = .ok (.return_, 1) := dk_177 (dk_at dksJ6_init_0 6 rfl rfl)
abbrev cJ6_toString : ByteArray := prog_36_method_42_code
def yJ6_toString : MethodName := ⟨RJ6, "toString", "()Ljava/lang/String;"⟩
def dkwJ6_toString_0 : List UInt8 := [187, 0, 18, 89, 42, 183, 0, 137, 176]
abbrev dktJ6_toString_0 : List UInt8 := dkwJ6_toString_0 ++ []
theorem dksJ6_toString_0 : cJ6_toString.data.toList.drop 0 = dktJ6_toString_0 := by decide +kernel
theorem dJ6_toString_0 : decode cJ6_toString 0 = .ok (.new 18, 3) := dk_187 0 18 (dk_at dksJ6_toString_0 0 rfl rfl)
theorem dJ6_toString_3 : decode cJ6_toString 3 = .ok (.dup, 1) := dk_89 (dk_at dksJ6_toString_0 3 rfl rfl)
theorem dJ6_toString_4 : decode cJ6_toString 4 = .ok (.aload_n 0, 1) := dk_42 (dk_at dksJ6_toString_0 4 rfl rfl)
theorem dJ6_toString_5 : decode cJ6_toString 5 = .ok (.invokespecial 137, 3) := dk_183 0 137 (dk_at dksJ6_toString_0 5 rfl rfl)
theorem dJ6_toString_8 : decode cJ6_toString 8 = .ok (.areturn, 1) := dk_176 (dk_at dksJ6_toString_0 8 rfl rfl)
abbrev cJ6_length : ByteArray := prog_36_method_93_code
def yJ6_length : MethodName := ⟨RJ6, "length", "()I"⟩
theorem dJ6_length_0 : decode cJ6_length 0 = .ok (.aload_n 0, 1) := by decide +kernel
theorem dJ6_length_1 : decode cJ6_length 1 = .ok (.invokespecial 343, 3) := by decide +kernel
theorem dJ6_length_4 : decode cJ6_length 4 = .ok (.ireturn, 1) := by decide +kernel
abbrev cJ6_append : ByteArray := prog_36_method_15_code
def yJ6_append : MethodName := ⟨RJ6, "append", "(I)Ljava/lang/StringBuilder;"⟩
def dkwJ6_append_0 : List UInt8 := [42, 27, 183, 0, 53, 87, 42, 176]
abbrev dktJ6_append_0 : List UInt8 := dkwJ6_append_0 ++ []
theorem dksJ6_append_0 : cJ6_append.data.toList.drop 0 = dktJ6_append_0 := by decide +kernel
theorem dJ6_append_0 : decode cJ6_append 0 = .ok (.aload_n 0, 1) := dk_42 (dk_at dksJ6_append_0 0 rfl rfl)
theorem dJ6_append_1 : decode cJ6_append 1 = .ok (.iload_n 1, 1) := dk_27 (dk_at dksJ6_append_0 1 rfl rfl)
theorem dJ6_append_2 : decode cJ6_append 2 = .ok (.invokespecial 53, 3) := dk_183 0 53 (dk_at dksJ6_append_0 2 rfl rfl)
theorem dJ6_append_5 : decode cJ6_append 5 = .ok (.pop, 1) := dk_87 (dk_at dksJ6_append_0 5 rfl rfl)
theorem dJ6_append_6 : decode cJ6_append 6 = .ok (.aload_n 0, 1) := dk_42 (dk_at dksJ6_append_0 6 rfl rfl)
theorem dJ6_append_7 : decode cJ6_append 7 = .ok (.areturn, 1) := dk_176 (dk_at dksJ6_append_0 7 rfl rfl)
abbrev cJ6_append_2 : ByteArray := prog_36_method_7_code
def yJ6_append_2 : MethodName := ⟨RJ6, "append", "(Ljava/lang/String;)Ljava/lang/StringBuilder;"⟩
def dkwJ6_append_2_0 : List UInt8 := [42, 43, 183, 0, 29, 87, 42, 176]
abbrev dktJ6_append_2_0 : List UInt8 := dkwJ6_append_2_0 ++ []
theorem dksJ6_append_2_0 : cJ6_append_2.data.toList.drop 0 = dktJ6_append_2_0 := by decide +kernel
theorem dJ6_append_2_0 : decode cJ6_append_2 0 = .ok (.aload_n 0, 1) := dk_42 (dk_at dksJ6_append_2_0 0 rfl rfl)
theorem dJ6_append_2_1 : decode cJ6_append_2 1 = .ok (.aload_n 1, 1) := dk_43 (dk_at dksJ6_append_2_0 1 rfl rfl)
theorem dJ6_append_2_2 : decode cJ6_append_2 2 = .ok (.invokespecial 29, 3) := dk_183 0 29 (dk_at dksJ6_append_2_0 2 rfl rfl)
theorem dJ6_append_2_5 : decode cJ6_append_2 5 = .ok (.pop, 1) := dk_87 (dk_at dksJ6_append_2_0 5 rfl rfl)
theorem dJ6_append_2_6 : decode cJ6_append_2 6 = .ok (.aload_n 0, 1) := dk_42 (dk_at dksJ6_append_2_0 6 rfl rfl)
theorem dJ6_append_2_7 : decode cJ6_append_2 7 = .ok (.areturn, 1) := dk_176 (dk_at dksJ6_append_2_0 7 rfl rfl)
abbrev cJ6_compareTo : ByteArray := prog_36_method_97_code
def yJ6_compareTo : MethodName := ⟨RJ6, "compareTo", "(Ljava/lang/Object;)I"⟩
def dkwJ6_compareTo_0 : List UInt8 := [42, 43, 192, 0, 24, 182, 1, 90, 172]
abbrev dktJ6_compareTo_0 : List UInt8 := dkwJ6_compareTo_0 ++ []
theorem dksJ6_compareTo_0 : cJ6_compareTo.data.toList.drop 0 = dktJ6_compareTo_0 := by decide +kernel
theorem dJ6_compareTo_0 : decode cJ6_compareTo 0 = .ok (.aload_n 0, 1) := dk_42 (dk_at dksJ6_compareTo_0 0 rfl rfl)
theorem dJ6_compareTo_1 : decode cJ6_compareTo 1 = .ok (.aload_n 1, 1) := dk_43 (dk_at dksJ6_compareTo_0 1 rfl rfl)
theorem dJ6_compareTo_2 : decode cJ6_compareTo 2 = .ok (.checkcast 24, 3) := dk_192 0 24 (dk_at dksJ6_compareTo_0 2 rfl rfl)
theorem dJ6_compareTo_5 : decode cJ6_compareTo 5 = .ok (.invokevirtual 346, 3) := dk_182 1 90 (dk_at dksJ6_compareTo_0 5 rfl rfl)
theorem dJ6_compareTo_8 : decode cJ6_compareTo 8 = .ok (.ireturn, 1) := dk_172 (dk_at dksJ6_compareTo_0 8 rfl rfl)
abbrev cJ6_compareTo_2 : ByteArray := prog_36_method_5_code
def yJ6_compareTo_2 : MethodName := ⟨RJ6, "compareTo", "(Ljava/lang/StringBuilder;)I"⟩
def dkwJ6_compareTo_2_0 : List UInt8 := [42, 43, 183, 0, 13, 172]
abbrev dktJ6_compareTo_2_0 : List UInt8 := dkwJ6_compareTo_2_0 ++ []
theorem dksJ6_compareTo_2_0 : cJ6_compareTo_2.data.toList.drop 0 = dktJ6_compareTo_2_0 := by decide +kernel
theorem dJ6_compareTo_2_0 : decode cJ6_compareTo_2 0 = .ok (.aload_n 0, 1) := dk_42 (dk_at dksJ6_compareTo_2_0 0 rfl rfl)
theorem dJ6_compareTo_2_1 : decode cJ6_compareTo_2 1 = .ok (.aload_n 1, 1) := dk_43 (dk_at dksJ6_compareTo_2_0 1 rfl rfl)
theorem dJ6_compareTo_2_2 : decode cJ6_compareTo_2 2 = .ok (.invokespecial 13, 3) := dk_183 0 13 (dk_at dksJ6_compareTo_2_0 2 rfl rfl)
theorem dJ6_compareTo_2_5 : decode cJ6_compareTo_2 5 = .ok (.ireturn, 1) := dk_172 (dk_at dksJ6_compareTo_2_0 5 rfl rfl)
abbrev cJ6_append_3 : ByteArray := prog_36_method_9_code
def yJ6_append_3 : MethodName := ⟨RJ6, "append", "(Ljava/lang/CharSequence;)Ljava/lang/StringBuilder;"⟩
def dkwJ6_append_3_0 : List UInt8 := [42, 43, 183, 0, 35, 87, 42, 176]
abbrev dktJ6_append_3_0 : List UInt8 := dkwJ6_append_3_0 ++ []
theorem dksJ6_append_3_0 : cJ6_append_3.data.toList.drop 0 = dktJ6_append_3_0 := by decide +kernel
theorem dJ6_append_3_0 : decode cJ6_append_3 0 = .ok (.aload_n 0, 1) := dk_42 (dk_at dksJ6_append_3_0 0 rfl rfl)
theorem dJ6_append_3_1 : decode cJ6_append_3 1 = .ok (.aload_n 1, 1) := dk_43 (dk_at dksJ6_append_3_0 1 rfl rfl)
theorem dJ6_append_3_2 : decode cJ6_append_3 2 = .ok (.invokespecial 35, 3) := dk_183 0 35 (dk_at dksJ6_append_3_0 2 rfl rfl)
theorem dJ6_append_3_5 : decode cJ6_append_3 5 = .ok (.pop, 1) := dk_87 (dk_at dksJ6_append_3_0 5 rfl rfl)
theorem dJ6_append_3_6 : decode cJ6_append_3 6 = .ok (.aload_n 0, 1) := dk_42 (dk_at dksJ6_append_3_0 6 rfl rfl)
theorem dJ6_append_3_7 : decode cJ6_append_3 7 = .ok (.areturn, 1) := dk_176 (dk_at dksJ6_append_3_0 7 rfl rfl)
abbrev cJ6_append_4 : ByteArray := prog_36_method_80_code
def yJ6_append_4 : MethodName := ⟨RJ6, "append", "(Ljava/lang/String;)Ljava/lang/AbstractStringBuilder;"⟩
def dkwJ6_append_4_0 : List UInt8 := [42, 43, 182, 0, 23, 176]
abbrev dktJ6_append_4_0 : List UInt8 := dkwJ6_append_4_0 ++ []
theorem dksJ6_append_4_0 : cJ6_append_4.data.toList.drop 0 = dktJ6_append_4_0 := by decide +kernel
theorem dJ6_append_4_0 : decode cJ6_append_4 0 = .ok (.aload_n 0, 1) := dk_42 (dk_at dksJ6_append_4_0 0 rfl rfl)
theorem dJ6_append_4_1 : decode cJ6_append_4 1 = .ok (.aload_n 1, 1) := dk_43 (dk_at dksJ6_append_4_0 1 rfl rfl)
theorem dJ6_append_4_2 : decode cJ6_append_4 2 = .ok (.invokevirtual 23, 3) := dk_182 0 23 (dk_at dksJ6_append_4_0 2 rfl rfl)
theorem dJ6_append_4_5 : decode cJ6_append_4 5 = .ok (.areturn, 1) := dk_176 (dk_at dksJ6_append_4_0 5 rfl rfl)
abbrev cJ6_append_5 : ByteArray := prog_36_method_77_code
def yJ6_append_5 : MethodName := ⟨RJ6, "append", "(Ljava/lang/CharSequence;II)Ljava/lang/AbstractStringBuilder;"⟩
def dkwJ6_append_5_0 : List UInt8 := [42, 43, 28, 29, 182, 1, 40, 176]
abbrev dktJ6_append_5_0 : List UInt8 := dkwJ6_append_5_0 ++ []
theorem dksJ6_append_5_0 : cJ6_append_5.data.toList.drop 0 = dktJ6_append_5_0 := by decide +kernel
theorem dJ6_append_5_0 : decode cJ6_append_5 0 = .ok (.aload_n 0, 1) := dk_42 (dk_at dksJ6_append_5_0 0 rfl rfl)
theorem dJ6_append_5_1 : decode cJ6_append_5 1 = .ok (.aload_n 1, 1) := dk_43 (dk_at dksJ6_append_5_0 1 rfl rfl)
theorem dJ6_append_5_2 : decode cJ6_append_5 2 = .ok (.iload_n 2, 1) := dk_28 (dk_at dksJ6_append_5_0 2 rfl rfl)
theorem dJ6_append_5_3 : decode cJ6_append_5 3 = .ok (.iload_n 3, 1) := dk_29 (dk_at dksJ6_append_5_0 3 rfl rfl)
theorem dJ6_append_5_4 : decode cJ6_append_5 4 = .ok (.invokevirtual 296, 3) := dk_182 1 40 (dk_at dksJ6_append_5_0 4 rfl rfl)
theorem dJ6_append_5_7 : decode cJ6_append_5 7 = .ok (.areturn, 1) := dk_176 (dk_at dksJ6_append_5_0 7 rfl rfl)
abbrev cJ6_append_6 : ByteArray := prog_36_method_10_code
def yJ6_append_6 : MethodName := ⟨RJ6, "append", "(Ljava/lang/CharSequence;II)Ljava/lang/StringBuilder;"⟩
def dkwJ6_append_6_0 : List UInt8 := [42, 43, 28, 29, 183, 0, 38, 87, 42, 176]
abbrev dktJ6_append_6_0 : List UInt8 := dkwJ6_append_6_0 ++ []
theorem dksJ6_append_6_0 : cJ6_append_6.data.toList.drop 0 = dktJ6_append_6_0 := by decide +kernel
theorem dJ6_append_6_0 : decode cJ6_append_6 0 = .ok (.aload_n 0, 1) := dk_42 (dk_at dksJ6_append_6_0 0 rfl rfl)
theorem dJ6_append_6_1 : decode cJ6_append_6 1 = .ok (.aload_n 1, 1) := dk_43 (dk_at dksJ6_append_6_0 1 rfl rfl)
theorem dJ6_append_6_2 : decode cJ6_append_6 2 = .ok (.iload_n 2, 1) := dk_28 (dk_at dksJ6_append_6_0 2 rfl rfl)
theorem dJ6_append_6_3 : decode cJ6_append_6 3 = .ok (.iload_n 3, 1) := dk_29 (dk_at dksJ6_append_6_0 3 rfl rfl)
theorem dJ6_append_6_4 : decode cJ6_append_6 4 = .ok (.invokespecial 38, 3) := dk_183 0 38 (dk_at dksJ6_append_6_0 4 rfl rfl)
theorem dJ6_append_6_7 : decode cJ6_append_6 7 = .ok (.pop, 1) := dk_87 (dk_at dksJ6_append_6_0 7 rfl rfl)
theorem dJ6_append_6_8 : decode cJ6_append_6 8 = .ok (.aload_n 0, 1) := dk_42 (dk_at dksJ6_append_6_0 8 rfl rfl)
theorem dJ6_append_6_9 : decode cJ6_append_6 9 = .ok (.areturn, 1) := dk_176 (dk_at dksJ6_append_6_0 9 rfl rfl)
abbrev cJ6_charAt : ByteArray := prog_36_method_88_code
def yJ6_charAt : MethodName := ⟨RJ6, "charAt", "(I)C"⟩
def dkwJ6_charAt_0 : List UInt8 := [42, 27, 183, 1, 73, 172]
abbrev dktJ6_charAt_0 : List UInt8 := dkwJ6_charAt_0 ++ []
theorem dksJ6_charAt_0 : cJ6_charAt.data.toList.drop 0 = dktJ6_charAt_0 := by decide +kernel
theorem dJ6_charAt_0 : decode cJ6_charAt 0 = .ok (.aload_n 0, 1) := dk_42 (dk_at dksJ6_charAt_0 0 rfl rfl)
theorem dJ6_charAt_1 : decode cJ6_charAt 1 = .ok (.iload_n 1, 1) := dk_27 (dk_at dksJ6_charAt_0 1 rfl rfl)
theorem dJ6_charAt_2 : decode cJ6_charAt 2 = .ok (.invokespecial 329, 3) := dk_183 1 73 (dk_at dksJ6_charAt_0 2 rfl rfl)
theorem dJ6_charAt_5 : decode cJ6_charAt 5 = .ok (.ireturn, 1) := dk_172 (dk_at dksJ6_charAt_0 5 rfl rfl)
abbrev cJ6_setLength : ByteArray := prog_36_method_89_code
def yJ6_setLength : MethodName := ⟨RJ6, "setLength", "(I)V"⟩
def dkwJ6_setLength_0 : List UInt8 := [42, 27, 183, 1, 77, 177]
abbrev dktJ6_setLength_0 : List UInt8 := dkwJ6_setLength_0 ++ []
theorem dksJ6_setLength_0 : cJ6_setLength.data.toList.drop 0 = dktJ6_setLength_0 := by decide +kernel
theorem dJ6_setLength_0 : decode cJ6_setLength 0 = .ok (.aload_n 0, 1) := dk_42 (dk_at dksJ6_setLength_0 0 rfl rfl)
theorem dJ6_setLength_1 : decode cJ6_setLength 1 = .ok (.iload_n 1, 1) := dk_27 (dk_at dksJ6_setLength_0 1 rfl rfl)
theorem dJ6_setLength_2 : decode cJ6_setLength 2 = .ok (.invokespecial 333, 3) := dk_183 1 77 (dk_at dksJ6_setLength_0 2 rfl rfl)
theorem dJ6_setLength_5 : decode cJ6_setLength 5 = .ok (.return_, 1) := dk_177 (dk_at dksJ6_setLength_0 5 rfl rfl)
abbrev cJ6_init_2 : ByteArray := prog_36_method_3_code
def yJ6_init_2 : MethodName := ⟨RJ6, "<init>", "(Ljava/lang/String;)V"⟩
def dkwJ6_init_2_0 : List UInt8 := [42, 43, 183, 0, 7, 177]
abbrev dktJ6_init_2_0 : List UInt8 := dkwJ6_init_2_0 ++ []
theorem dksJ6_init_2_0 : cJ6_init_2.data.toList.drop 0 = dktJ6_init_2_0 := by decide +kernel
theorem dJ6_init_2_0 : decode cJ6_init_2 0 = .ok (.aload_n 0, 1) := dk_42 (dk_at dksJ6_init_2_0 0 rfl rfl)
theorem dJ6_init_2_1 : decode cJ6_init_2 1 = .ok (.aload_n 1, 1) := dk_43 (dk_at dksJ6_init_2_0 1 rfl rfl)
theorem dJ6_init_2_2 : decode cJ6_init_2 2 = .ok (.invokespecial 7, 3) := dk_183 0 7 (dk_at dksJ6_init_2_0 2 rfl rfl)
theorem dJ6_init_2_5 : decode cJ6_init_2 5 = .ok (.return_, 1) := dk_177 (dk_at dksJ6_init_2_0 5 rfl rfl)
abbrev cJ6_append_7 : ByteArray := prog_36_method_14_code
def yJ6_append_7 : MethodName := ⟨RJ6, "append", "(C)Ljava/lang/StringBuilder;"⟩
def dkwJ6_append_7_0 : List UInt8 := [42, 27, 183, 0, 50, 87, 42, 176]
abbrev dktJ6_append_7_0 : List UInt8 := dkwJ6_append_7_0 ++ []
theorem dksJ6_append_7_0 : cJ6_append_7.data.toList.drop 0 = dktJ6_append_7_0 := by decide +kernel
theorem dJ6_append_7_0 : decode cJ6_append_7 0 = .ok (.aload_n 0, 1) := dk_42 (dk_at dksJ6_append_7_0 0 rfl rfl)
theorem dJ6_append_7_1 : decode cJ6_append_7 1 = .ok (.iload_n 1, 1) := dk_27 (dk_at dksJ6_append_7_0 1 rfl rfl)
theorem dJ6_append_7_2 : decode cJ6_append_7 2 = .ok (.invokespecial 50, 3) := dk_183 0 50 (dk_at dksJ6_append_7_0 2 rfl rfl)
theorem dJ6_append_7_5 : decode cJ6_append_7 5 = .ok (.pop, 1) := dk_87 (dk_at dksJ6_append_7_0 5 rfl rfl)
theorem dJ6_append_7_6 : decode cJ6_append_7 6 = .ok (.aload_n 0, 1) := dk_42 (dk_at dksJ6_append_7_0 6 rfl rfl)
theorem dJ6_append_7_7 : decode cJ6_append_7 7 = .ok (.areturn, 1) := dk_176 (dk_at dksJ6_append_7_0 7 rfl rfl)
abbrev cJ7_indexOf : ByteArray := prog_35_method_79_code
def yJ7_indexOf : MethodName := ⟨RJ7, "indexOf", "(I)I"⟩
def dkwJ7_indexOf_0 : List UInt8 := [42, 27, 3, 182, 2, 121, 172]
abbrev dktJ7_indexOf_0 : List UInt8 := dkwJ7_indexOf_0 ++ []
theorem dksJ7_indexOf_0 : cJ7_indexOf.data.toList.drop 0 = dktJ7_indexOf_0 := by decide +kernel
theorem dJ7_indexOf_0 : decode cJ7_indexOf 0 = .ok (.aload_n 0, 1) := dk_42 (dk_at dksJ7_indexOf_0 0 rfl rfl)
theorem dJ7_indexOf_1 : decode cJ7_indexOf 1 = .ok (.iload_n 1, 1) := dk_27 (dk_at dksJ7_indexOf_0 1 rfl rfl)
theorem dJ7_indexOf_2 : decode cJ7_indexOf 2 = .ok (.iconst 0, 1) := dk_3 (dk_at dksJ7_indexOf_0 2 rfl rfl)
theorem dJ7_indexOf_3 : decode cJ7_indexOf 3 = .ok (.invokevirtual 633, 3) := dk_182 2 121 (dk_at dksJ7_indexOf_0 3 rfl rfl)
theorem dJ7_indexOf_6 : decode cJ7_indexOf 6 = .ok (.ireturn, 1) := dk_172 (dk_at dksJ7_indexOf_0 6 rfl rfl)
abbrev cJ7_indexOf_2 : ByteArray := prog_35_method_80_code
def yJ7_indexOf_2 : MethodName := ⟨RJ7, "indexOf", "(II)I"⟩
def dkwJ7_indexOf_2_1 : List UInt8 := [180, 0, 9, 27, 28, 42, 182, 1, 249, 184, 2, 128, 172]
abbrev dktJ7_indexOf_2_1 : List UInt8 := dkwJ7_indexOf_2_1 ++ []
def dkwJ7_indexOf_2_0 : List UInt8 := [42, 182, 1, 236, 153, 0, 19, 42, 180, 0, 9, 27, 28, 42, 182, 1, 249, 184, 2, 125, 167, 0, 16, 42]
abbrev dktJ7_indexOf_2_0 : List UInt8 := dkwJ7_indexOf_2_0 ++ dktJ7_indexOf_2_1
theorem dksJ7_indexOf_2_0 : cJ7_indexOf_2.data.toList.drop 0 = dktJ7_indexOf_2_0 := by decide +kernel
theorem dksJ7_indexOf_2_1 : cJ7_indexOf_2.data.toList.drop 24 = dktJ7_indexOf_2_1 := dk_seg dksJ7_indexOf_2_0 24 rfl rfl
theorem dJ7_indexOf_2_0 : decode cJ7_indexOf_2 0 = .ok (.aload_n 0, 1) := dk_42 (dk_at dksJ7_indexOf_2_0 0 rfl rfl)
theorem dJ7_indexOf_2_1 : decode cJ7_indexOf_2 1 = .ok (.invokevirtual 492, 3) := dk_182 1 236 (dk_at dksJ7_indexOf_2_0 1 rfl rfl)
theorem dJ7_indexOf_2_4 : decode cJ7_indexOf_2 4 = .ok (.ifCond .eq 19, 3) := dk_153 0 19 (dk_at dksJ7_indexOf_2_0 4 rfl rfl)
theorem dJ7_indexOf_2_7 : decode cJ7_indexOf_2 7 = .ok (.aload_n 0, 1) := dk_42 (dk_at dksJ7_indexOf_2_0 7 rfl rfl)
theorem dJ7_indexOf_2_8 : decode cJ7_indexOf_2 8 = .ok (.getfield 9, 3) := dk_180 0 9 (dk_at dksJ7_indexOf_2_0 8 rfl rfl)
theorem dJ7_indexOf_2_11 : decode cJ7_indexOf_2 11 = .ok (.iload_n 1, 1) := dk_27 (dk_at dksJ7_indexOf_2_0 11 rfl rfl)
theorem dJ7_indexOf_2_12 : decode cJ7_indexOf_2 12 = .ok (.iload_n 2, 1) := dk_28 (dk_at dksJ7_indexOf_2_0 12 rfl rfl)
theorem dJ7_indexOf_2_13 : decode cJ7_indexOf_2 13 = .ok (.aload_n 0, 1) := dk_42 (dk_at dksJ7_indexOf_2_0 13 rfl rfl)
theorem dJ7_indexOf_2_14 : decode cJ7_indexOf_2 14 = .ok (.invokevirtual 505, 3) := dk_182 1 249 (dk_at dksJ7_indexOf_2_0 14 rfl rfl)
theorem dJ7_indexOf_2_17 : decode cJ7_indexOf_2 17 = .ok (.invokestatic 637, 3) := dk_184 2 125 (dk_at dksJ7_indexOf_2_0 17 rfl rfl)
theorem dJ7_indexOf_2_20 : decode cJ7_indexOf_2 20 = .ok (.goto 16, 3) := dk_167 0 16 (dk_at dksJ7_indexOf_2_0 20 rfl rfl)
theorem dJ7_indexOf_2_23 : decode cJ7_indexOf_2 23 = .ok (.aload_n 0, 1) := dk_42 (dk_at dksJ7_indexOf_2_0 23 rfl rfl)
theorem dJ7_indexOf_2_24 : decode cJ7_indexOf_2 24 = .ok (.getfield 9, 3) := dk_180 0 9 (dk_at dksJ7_indexOf_2_1 0 rfl rfl)
theorem dJ7_indexOf_2_27 : decode cJ7_indexOf_2 27 = .ok (.iload_n 1, 1) := dk_27 (dk_at dksJ7_indexOf_2_1 3 rfl rfl)
theorem dJ7_indexOf_2_28 : decode cJ7_indexOf_2 28 = .ok (.iload_n 2, 1) := dk_28 (dk_at dksJ7_indexOf_2_1 4 rfl rfl)
theorem dJ7_indexOf_2_29 : decode cJ7_indexOf_2 29 = .ok (.aload_n 0, 1) := dk_42 (dk_at dksJ7_indexOf_2_1 5 rfl rfl)
theorem dJ7_indexOf_2_30 : decode cJ7_indexOf_2 30 = .ok (.invokevirtual 505, 3) := dk_182 1 249 (dk_at dksJ7_indexOf_2_1 6 rfl rfl)
theorem dJ7_indexOf_2_33 : decode cJ7_indexOf_2 33 = .ok (.invokestatic 640, 3) := dk_184 2 128 (dk_at dksJ7_indexOf_2_1 9 rfl rfl)
theorem dJ7_indexOf_2_36 : decode cJ7_indexOf_2 36 = .ok (.ireturn, 1) := dk_172 (dk_at dksJ7_indexOf_2_1 12 rfl rfl)
abbrev cJ7_isLatin1 : ByteArray := prog_35_method_154_code
def yJ7_isLatin1 : MethodName := ⟨RJ7, "isLatin1", "()Z"⟩
def dkwJ7_isLatin1_0 : List UInt8 := [178, 0, 38, 153, 0, 14, 42, 180, 0, 15, 154, 0, 7, 4, 167, 0, 4, 3, 172]
abbrev dktJ7_isLatin1_0 : List UInt8 := dkwJ7_isLatin1_0 ++ []
theorem dksJ7_isLatin1_0 : cJ7_isLatin1.data.toList.drop 0 = dktJ7_isLatin1_0 := by decide +kernel
theorem dJ7_isLatin1_0 : decode cJ7_isLatin1 0 = .ok (.getstatic 38, 3) := dk_178 0 38 (dk_at dksJ7_isLatin1_0 0 rfl rfl)
theorem dJ7_isLatin1_3 : decode cJ7_isLatin1 3 = .ok (.ifCond .eq 14, 3) := dk_153 0 14 (dk_at dksJ7_isLatin1_0 3 rfl rfl)
theorem dJ7_isLatin1_6 : decode cJ7_isLatin1 6 = .ok (.aload_n 0, 1) := dk_42 (dk_at dksJ7_isLatin1_0 6 rfl rfl)
theorem dJ7_isLatin1_7 : decode cJ7_isLatin1 7 = .ok (.getfield 15, 3) := dk_180 0 15 (dk_at dksJ7_isLatin1_0 7 rfl rfl)
theorem dJ7_isLatin1_10 : decode cJ7_isLatin1 10 = .ok (.ifCond .ne 7, 3) := dk_154 0 7 (dk_at dksJ7_isLatin1_0 10 rfl rfl)
theorem dJ7_isLatin1_13 : decode cJ7_isLatin1 13 = .ok (.iconst 1, 1) := dk_4 (dk_at dksJ7_isLatin1_0 13 rfl rfl)
theorem dJ7_isLatin1_14 : decode cJ7_isLatin1 14 = .ok (.goto 4, 3) := dk_167 0 4 (dk_at dksJ7_isLatin1_0 14 rfl rfl)
theorem dJ7_isLatin1_17 : decode cJ7_isLatin1 17 = .ok (.iconst 0, 1) := dk_3 (dk_at dksJ7_isLatin1_0 17 rfl rfl)
theorem dJ7_isLatin1_18 : decode cJ7_isLatin1 18 = .ok (.ireturn, 1) := dk_172 (dk_at dksJ7_isLatin1_0 18 rfl rfl)
abbrev cJ7_length : ByteArray := prog_35_method_54_code
def yJ7_length : MethodName := ⟨RJ7, "length", "()I"⟩
def dkwJ7_length_0 : List UInt8 := [42, 180, 0, 9, 190, 42, 182, 1, 79, 122, 172]
abbrev dktJ7_length_0 : List UInt8 := dkwJ7_length_0 ++ []
theorem dksJ7_length_0 : cJ7_length.data.toList.drop 0 = dktJ7_length_0 := by decide +kernel
theorem dJ7_length_0 : decode cJ7_length 0 = .ok (.aload_n 0, 1) := dk_42 (dk_at dksJ7_length_0 0 rfl rfl)
theorem dJ7_length_1 : decode cJ7_length 1 = .ok (.getfield 9, 3) := dk_180 0 9 (dk_at dksJ7_length_0 1 rfl rfl)
theorem dJ7_length_4 : decode cJ7_length 4 = .ok (.arraylength, 1) := dk_190 (dk_at dksJ7_length_0 4 rfl rfl)
theorem dJ7_length_5 : decode cJ7_length 5 = .ok (.aload_n 0, 1) := dk_42 (dk_at dksJ7_length_0 5 rfl rfl)
theorem dJ7_length_6 : decode cJ7_length 6 = .ok (.invokevirtual 335, 3) := dk_182 1 79 (dk_at dksJ7_length_0 6 rfl rfl)
theorem dJ7_length_9 : decode cJ7_length 9 = .ok (.ishr, 1) := dk_122 (dk_at dksJ7_length_0 9 rfl rfl)
theorem dJ7_length_10 : decode cJ7_length 10 = .ok (.ireturn, 1) := dk_172 (dk_at dksJ7_length_0 10 rfl rfl)
abbrev cJ7_coder : ByteArray := prog_35_method_152_code
def yJ7_coder : MethodName := ⟨RJ7, "coder", "()B"⟩
def dkwJ7_coder_0 : List UInt8 := [178, 0, 38, 153, 0, 10, 42, 180, 0, 15, 167, 0, 4, 4, 172]
abbrev dktJ7_coder_0 : List UInt8 := dkwJ7_coder_0 ++ []
theorem dksJ7_coder_0 : cJ7_coder.data.toList.drop 0 = dktJ7_coder_0 := by decide +kernel
theorem dJ7_coder_0 : decode cJ7_coder 0 = .ok (.getstatic 38, 3) := dk_178 0 38 (dk_at dksJ7_coder_0 0 rfl rfl)
theorem dJ7_coder_3 : decode cJ7_coder 3 = .ok (.ifCond .eq 10, 3) := dk_153 0 10 (dk_at dksJ7_coder_0 3 rfl rfl)
theorem dJ7_coder_6 : decode cJ7_coder 6 = .ok (.aload_n 0, 1) := dk_42 (dk_at dksJ7_coder_0 6 rfl rfl)
theorem dJ7_coder_7 : decode cJ7_coder 7 = .ok (.getfield 15, 3) := dk_180 0 15 (dk_at dksJ7_coder_0 7 rfl rfl)
theorem dJ7_coder_10 : decode cJ7_coder 10 = .ok (.goto 4, 3) := dk_167 0 4 (dk_at dksJ7_coder_0 10 rfl rfl)
theorem dJ7_coder_13 : decode cJ7_coder 13 = .ok (.iconst 1, 1) := dk_4 (dk_at dksJ7_coder_0 13 rfl rfl)
theorem dJ7_coder_14 : decode cJ7_coder 14 = .ok (.ireturn, 1) := dk_172 (dk_at dksJ7_coder_0 14 rfl rfl)
abbrev cJ7_checkBoundsBeginEnd : ByteArray := prog_35_method_158_code
def yJ7_checkBoundsBeginEnd : MethodName := ⟨RJ7, "checkBoundsBeginEnd", "(III)V"⟩
def dkwJ7_checkBoundsBeginEnd_0 : List UInt8 := [26, 27, 28, 178, 4, 29, 184, 4, 38, 87, 177]
abbrev dktJ7_checkBoundsBeginEnd_0 : List UInt8 := dkwJ7_checkBoundsBeginEnd_0 ++ []
theorem dksJ7_checkBoundsBeginEnd_0 : cJ7_checkBoundsBeginEnd.data.toList.drop 0 = dktJ7_checkBoundsBeginEnd_0 := by decide +kernel
theorem dJ7_checkBoundsBeginEnd_0 : decode cJ7_checkBoundsBeginEnd 0 = .ok (.iload_n 0, 1) := dk_26 (dk_at dksJ7_checkBoundsBeginEnd_0 0 rfl rfl)
theorem dJ7_checkBoundsBeginEnd_1 : decode cJ7_checkBoundsBeginEnd 1 = .ok (.iload_n 1, 1) := dk_27 (dk_at dksJ7_checkBoundsBeginEnd_0 1 rfl rfl)
theorem dJ7_checkBoundsBeginEnd_2 : decode cJ7_checkBoundsBeginEnd 2 = .ok (.iload_n 2, 1) := dk_28 (dk_at dksJ7_checkBoundsBeginEnd_0 2 rfl rfl)
theorem dJ7_checkBoundsBeginEnd_3 : decode cJ7_checkBoundsBeginEnd 3 = .ok (.getstatic 1053, 3) := dk_178 4 29 (dk_at dksJ7_checkBoundsBeginEnd_0 3 rfl rfl)
theorem dJ7_checkBoundsBeginEnd_6 : decode cJ7_checkBoundsBeginEnd 6 = .ok (.invokestatic 1062, 3) := dk_184 4 38 (dk_at dksJ7_checkBoundsBeginEnd_0 6 rfl rfl)
theorem dJ7_checkBoundsBeginEnd_9 : decode cJ7_checkBoundsBeginEnd 9 = .ok (.pop, 1) := dk_87 (dk_at dksJ7_checkBoundsBeginEnd_0 9 rfl rfl)
theorem dJ7_checkBoundsBeginEnd_10 : decode cJ7_checkBoundsBeginEnd 10 = .ok (.return_, 1) := dk_177 (dk_at dksJ7_checkBoundsBeginEnd_0 10 rfl rfl)
abbrev cJ7_init : ByteArray := prog_35_method_53_code
def yJ7_init : MethodName := ⟨RJ7, "<init>", "(Ljava/lang/StringBuilder;)V"⟩
def dkwJ7_init_0 : List UInt8 := [42, 43, 1, 183, 1, 233, 177]
abbrev dktJ7_init_0 : List UInt8 := dkwJ7_init_0 ++ []
theorem dksJ7_init_0 : cJ7_init.data.toList.drop 0 = dktJ7_init_0 := by decide +kernel
theorem dJ7_init_0 : decode cJ7_init 0 = .ok (.aload_n 0, 1) := dk_42 (dk_at dksJ7_init_0 0 rfl rfl)
theorem dJ7_init_1 : decode cJ7_init 1 = .ok (.aload_n 1, 1) := dk_43 (dk_at dksJ7_init_0 1 rfl rfl)
theorem dJ7_init_2 : decode cJ7_init 2 = .ok (.aconst_null, 1) := dk_1 (dk_at dksJ7_init_0 2 rfl rfl)
theorem dJ7_init_3 : decode cJ7_init 3 = .ok (.invokespecial 489, 3) := dk_183 1 233 (dk_at dksJ7_init_0 3 rfl rfl)
theorem dJ7_init_6 : decode cJ7_init 6 = .ok (.return_, 1) := dk_177 (dk_at dksJ7_init_0 6 rfl rfl)
abbrev cJ7_init_2 : ByteArray := prog_35_method_150_code
def yJ7_init_2 : MethodName := ⟨RJ7, "<init>", "(Ljava/lang/AbstractStringBuilder;Ljava/lang/Void;)V"⟩
def dkwJ7_init_2_4 : List UInt8 := [181, 0, 9, 177]
abbrev dktJ7_init_2_4 : List UInt8 := dkwJ7_init_2_4 ++ []
def dkwJ7_init_2_3 : List UInt8 := [184, 0, 47, 181, 0, 15, 177, 42, 4, 181, 0, 15, 42, 45, 3, 21, 4, 4, 120, 184, 0, 54]
abbrev dktJ7_init_2_3 : List UInt8 := dkwJ7_init_2_3 ++ dktJ7_init_2_4
def dkwJ7_init_2_2 : List UInt8 := [180, 4, 24, 153, 0, 28, 42, 45, 3, 21, 4, 184, 4, 27, 181, 0, 9, 42, 42, 180, 0, 9, 21, 4]
abbrev dktJ7_init_2_2 : List UInt8 := dkwJ7_init_2_2 ++ dktJ7_init_2_3
def dkwJ7_init_2_1 : List UInt8 := [181, 0, 15, 42, 45, 3, 21, 4, 184, 0, 54, 181, 0, 9, 167, 0, 59, 178, 0, 38, 153, 0, 35, 43]
abbrev dktJ7_init_2_1 : List UInt8 := dkwJ7_init_2_1 ++ dktJ7_init_2_2
def dkwJ7_init_2_0 : List UInt8 := [42, 183, 0, 1, 43, 182, 2, 40, 78, 43, 182, 2, 37, 54, 4, 43, 182, 4, 23, 153, 0, 22, 42, 3]
abbrev dktJ7_init_2_0 : List UInt8 := dkwJ7_init_2_0 ++ dktJ7_init_2_1
theorem dksJ7_init_2_0 : cJ7_init_2.data.toList.drop 0 = dktJ7_init_2_0 := by decide +kernel
theorem dksJ7_init_2_1 : cJ7_init_2.data.toList.drop 24 = dktJ7_init_2_1 := dk_seg dksJ7_init_2_0 24 rfl rfl
theorem dksJ7_init_2_2 : cJ7_init_2.data.toList.drop 48 = dktJ7_init_2_2 := dk_seg dksJ7_init_2_1 24 rfl rfl
theorem dksJ7_init_2_3 : cJ7_init_2.data.toList.drop 72 = dktJ7_init_2_3 := dk_seg dksJ7_init_2_2 24 rfl rfl
theorem dksJ7_init_2_4 : cJ7_init_2.data.toList.drop 94 = dktJ7_init_2_4 := dk_seg dksJ7_init_2_3 22 rfl rfl
theorem dJ7_init_2_0 : decode cJ7_init_2 0 = .ok (.aload_n 0, 1) := dk_42 (dk_at dksJ7_init_2_0 0 rfl rfl)
theorem dJ7_init_2_1 : decode cJ7_init_2 1 = .ok (.invokespecial 1, 3) := dk_183 0 1 (dk_at dksJ7_init_2_0 1 rfl rfl)
theorem dJ7_init_2_4 : decode cJ7_init_2 4 = .ok (.aload_n 1, 1) := dk_43 (dk_at dksJ7_init_2_0 4 rfl rfl)
theorem dJ7_init_2_5 : decode cJ7_init_2 5 = .ok (.invokevirtual 552, 3) := dk_182 2 40 (dk_at dksJ7_init_2_0 5 rfl rfl)
theorem dJ7_init_2_8 : decode cJ7_init_2 8 = .ok (.astore_n 3, 1) := dk_78 (dk_at dksJ7_init_2_0 8 rfl rfl)
theorem dJ7_init_2_9 : decode cJ7_init_2 9 = .ok (.aload_n 1, 1) := dk_43 (dk_at dksJ7_init_2_0 9 rfl rfl)
theorem dJ7_init_2_10 : decode cJ7_init_2 10 = .ok (.invokevirtual 549, 3) := dk_182 2 37 (dk_at dksJ7_init_2_0 10 rfl rfl)
theorem dJ7_init_2_13 : decode cJ7_init_2 13 = .ok (.istore 4, 2) := dk_54 4 (dk_at dksJ7_init_2_0 13 rfl rfl)
theorem dJ7_init_2_15 : decode cJ7_init_2 15 = .ok (.aload_n 1, 1) := dk_43 (dk_at dksJ7_init_2_0 15 rfl rfl)
theorem dJ7_init_2_16 : decode cJ7_init_2 16 = .ok (.invokevirtual 1047, 3) := dk_182 4 23 (dk_at dksJ7_init_2_0 16 rfl rfl)
theorem dJ7_init_2_19 : decode cJ7_init_2 19 = .ok (.ifCond .eq 22, 3) := dk_153 0 22 (dk_at dksJ7_init_2_0 19 rfl rfl)
theorem dJ7_init_2_22 : decode cJ7_init_2 22 = .ok (.aload_n 0, 1) := dk_42 (dk_at dksJ7_init_2_0 22 rfl rfl)
theorem dJ7_init_2_23 : decode cJ7_init_2 23 = .ok (.iconst 0, 1) := dk_3 (dk_at dksJ7_init_2_0 23 rfl rfl)
theorem dJ7_init_2_24 : decode cJ7_init_2 24 = .ok (.putfield 15, 3) := dk_181 0 15 (dk_at dksJ7_init_2_1 0 rfl rfl)
theorem dJ7_init_2_27 : decode cJ7_init_2 27 = .ok (.aload_n 0, 1) := dk_42 (dk_at dksJ7_init_2_1 3 rfl rfl)
theorem dJ7_init_2_28 : decode cJ7_init_2 28 = .ok (.aload_n 3, 1) := dk_45 (dk_at dksJ7_init_2_1 4 rfl rfl)
theorem dJ7_init_2_29 : decode cJ7_init_2 29 = .ok (.iconst 0, 1) := dk_3 (dk_at dksJ7_init_2_1 5 rfl rfl)
theorem dJ7_init_2_30 : decode cJ7_init_2 30 = .ok (.iload 4, 2) := dk_21 4 (dk_at dksJ7_init_2_1 6 rfl rfl)
theorem dJ7_init_2_32 : decode cJ7_init_2 32 = .ok (.invokestatic 54, 3) := dk_184 0 54 (dk_at dksJ7_init_2_1 8 rfl rfl)
theorem dJ7_init_2_35 : decode cJ7_init_2 35 = .ok (.putfield 9, 3) := dk_181 0 9 (dk_at dksJ7_init_2_1 11 rfl rfl)
theorem dJ7_init_2_38 : decode cJ7_init_2 38 = .ok (.goto 59, 3) := dk_167 0 59 (dk_at dksJ7_init_2_1 14 rfl rfl)
theorem dJ7_init_2_41 : decode cJ7_init_2 41 = .ok (.getstatic 38, 3) := dk_178 0 38 (dk_at dksJ7_init_2_1 17 rfl rfl)
theorem dJ7_init_2_44 : decode cJ7_init_2 44 = .ok (.ifCond .eq 35, 3) := dk_153 0 35 (dk_at dksJ7_init_2_1 20 rfl rfl)
theorem dJ7_init_2_47 : decode cJ7_init_2 47 = .ok (.aload_n 1, 1) := dk_43 (dk_at dksJ7_init_2_1 23 rfl rfl)
theorem dJ7_init_2_48 : decode cJ7_init_2 48 = .ok (.getfield 1048, 3) := dk_180 4 24 (dk_at dksJ7_init_2_2 0 rfl rfl)
theorem dJ7_init_2_51 : decode cJ7_init_2 51 = .ok (.ifCond .eq 28, 3) := dk_153 0 28 (dk_at dksJ7_init_2_2 3 rfl rfl)
theorem dJ7_init_2_54 : decode cJ7_init_2 54 = .ok (.aload_n 0, 1) := dk_42 (dk_at dksJ7_init_2_2 6 rfl rfl)
theorem dJ7_init_2_55 : decode cJ7_init_2 55 = .ok (.aload_n 3, 1) := dk_45 (dk_at dksJ7_init_2_2 7 rfl rfl)
theorem dJ7_init_2_56 : decode cJ7_init_2 56 = .ok (.iconst 0, 1) := dk_3 (dk_at dksJ7_init_2_2 8 rfl rfl)
theorem dJ7_init_2_57 : decode cJ7_init_2 57 = .ok (.iload 4, 2) := dk_21 4 (dk_at dksJ7_init_2_2 9 rfl rfl)
theorem dJ7_init_2_59 : decode cJ7_init_2 59 = .ok (.invokestatic 1051, 3) := dk_184 4 27 (dk_at dksJ7_init_2_2 11 rfl rfl)
theorem dJ7_init_2_62 : decode cJ7_init_2 62 = .ok (.putfield 9, 3) := dk_181 0 9 (dk_at dksJ7_init_2_2 14 rfl rfl)
theorem dJ7_init_2_65 : decode cJ7_init_2 65 = .ok (.aload_n 0, 1) := dk_42 (dk_at dksJ7_init_2_2 17 rfl rfl)
theorem dJ7_init_2_66 : decode cJ7_init_2 66 = .ok (.aload_n 0, 1) := dk_42 (dk_at dksJ7_init_2_2 18 rfl rfl)
theorem dJ7_init_2_67 : decode cJ7_init_2 67 = .ok (.getfield 9, 3) := dk_180 0 9 (dk_at dksJ7_init_2_2 19 rfl rfl)
theorem dJ7_init_2_70 : decode cJ7_init_2 70 = .ok (.iload 4, 2) := dk_21 4 (dk_at dksJ7_init_2_2 22 rfl rfl)
theorem dJ7_init_2_72 : decode cJ7_init_2 72 = .ok (.invokestatic 47, 3) := dk_184 0 47 (dk_at dksJ7_init_2_3 0 rfl rfl)
theorem dJ7_init_2_75 : decode cJ7_init_2 75 = .ok (.putfield 15, 3) := dk_181 0 15 (dk_at dksJ7_init_2_3 3 rfl rfl)
theorem dJ7_init_2_78 : decode cJ7_init_2 78 = .ok (.return_, 1) := dk_177 (dk_at dksJ7_init_2_3 6 rfl rfl)
theorem dJ7_init_2_79 : decode cJ7_init_2 79 = .ok (.aload_n 0, 1) := dk_42 (dk_at dksJ7_init_2_3 7 rfl rfl)
theorem dJ7_init_2_80 : decode cJ7_init_2 80 = .ok (.iconst 1, 1) := dk_4 (dk_at dksJ7_init_2_3 8 rfl rfl)
theorem dJ7_init_2_81 : decode cJ7_init_2 81 = .ok (.putfield 15, 3) := dk_181 0 15 (dk_at dksJ7_init_2_3 9 rfl rfl)
theorem dJ7_init_2_84 : decode cJ7_init_2 84 = .ok (.aload_n 0, 1) := dk_42 (dk_at dksJ7_init_2_3 12 rfl rfl)
theorem dJ7_init_2_85 : decode cJ7_init_2 85 = .ok (.aload_n 3, 1) := dk_45 (dk_at dksJ7_init_2_3 13 rfl rfl)
theorem dJ7_init_2_86 : decode cJ7_init_2 86 = .ok (.iconst 0, 1) := dk_3 (dk_at dksJ7_init_2_3 14 rfl rfl)
theorem dJ7_init_2_87 : decode cJ7_init_2 87 = .ok (.iload 4, 2) := dk_21 4 (dk_at dksJ7_init_2_3 15 rfl rfl)
theorem dJ7_init_2_89 : decode cJ7_init_2 89 = .ok (.iconst 1, 1) := dk_4 (dk_at dksJ7_init_2_3 17 rfl rfl)
theorem dJ7_init_2_90 : decode cJ7_init_2 90 = .ok (.ishl, 1) := dk_120 (dk_at dksJ7_init_2_3 18 rfl rfl)
theorem dJ7_init_2_91 : decode cJ7_init_2 91 = .ok (.invokestatic 54, 3) := dk_184 0 54 (dk_at dksJ7_init_2_3 19 rfl rfl)
theorem dJ7_init_2_94 : decode cJ7_init_2 94 = .ok (.putfield 9, 3) := dk_181 0 9 (dk_at dksJ7_init_2_4 0 rfl rfl)
theorem dJ7_init_2_97 : decode cJ7_init_2 97 = .ok (.return_, 1) := dk_177 (dk_at dksJ7_init_2_4 3 rfl rfl)
abbrev cJ7_checkBoundsOffCount : ByteArray := prog_35_method_157_code
def yJ7_checkBoundsOffCount : MethodName := ⟨RJ7, "checkBoundsOffCount", "(III)I"⟩
def dkwJ7_checkBoundsOffCount_0 : List UInt8 := [26, 27, 28, 178, 4, 29, 184, 4, 41, 172]
abbrev dktJ7_checkBoundsOffCount_0 : List UInt8 := dkwJ7_checkBoundsOffCount_0 ++ []
theorem dksJ7_checkBoundsOffCount_0 : cJ7_checkBoundsOffCount.data.toList.drop 0 = dktJ7_checkBoundsOffCount_0 := by decide +kernel
theorem dJ7_checkBoundsOffCount_0 : decode cJ7_checkBoundsOffCount 0 = .ok (.iload_n 0, 1) := dk_26 (dk_at dksJ7_checkBoundsOffCount_0 0 rfl rfl)
theorem dJ7_checkBoundsOffCount_1 : decode cJ7_checkBoundsOffCount 1 = .ok (.iload_n 1, 1) := dk_27 (dk_at dksJ7_checkBoundsOffCount_0 1 rfl rfl)
theorem dJ7_checkBoundsOffCount_2 : decode cJ7_checkBoundsOffCount 2 = .ok (.iload_n 2, 1) := dk_28 (dk_at dksJ7_checkBoundsOffCount_0 2 rfl rfl)
theorem dJ7_checkBoundsOffCount_3 : decode cJ7_checkBoundsOffCount 3 = .ok (.getstatic 1053, 3) := dk_178 4 29 (dk_at dksJ7_checkBoundsOffCount_0 3 rfl rfl)
theorem dJ7_checkBoundsOffCount_6 : decode cJ7_checkBoundsOffCount 6 = .ok (.invokestatic 1065, 3) := dk_184 4 41 (dk_at dksJ7_checkBoundsOffCount_0 6 rfl rfl)
theorem dJ7_checkBoundsOffCount_9 : decode cJ7_checkBoundsOffCount 9 = .ok (.ireturn, 1) := dk_172 (dk_at dksJ7_checkBoundsOffCount_0 9 rfl rfl)
abbrev cJ7_getBytes : ByteArray := prog_35_method_147_code
def yJ7_getBytes : MethodName := ⟨RJ7, "getBytes", "([BIB)V"⟩
def dkwJ7_getBytes_1 : List UInt8 := [184, 0, 212, 167, 0, 18, 42, 180, 0, 9, 3, 43, 28, 42, 180, 0, 9, 190, 184, 0, 106, 177]
abbrev dktJ7_getBytes_1 : List UInt8 := dkwJ7_getBytes_1 ++ []
def dkwJ7_getBytes_0 : List UInt8 := [42, 182, 1, 79, 29, 160, 0, 23, 42, 180, 0, 9, 3, 43, 28, 29, 120, 42, 180, 0, 9, 190]
abbrev dktJ7_getBytes_0 : List UInt8 := dkwJ7_getBytes_0 ++ dktJ7_getBytes_1
theorem dksJ7_getBytes_0 : cJ7_getBytes.data.toList.drop 0 = dktJ7_getBytes_0 := by decide +kernel
theorem dksJ7_getBytes_1 : cJ7_getBytes.data.toList.drop 22 = dktJ7_getBytes_1 := dk_seg dksJ7_getBytes_0 22 rfl rfl
theorem dJ7_getBytes_0 : decode cJ7_getBytes 0 = .ok (.aload_n 0, 1) := dk_42 (dk_at dksJ7_getBytes_0 0 rfl rfl)
theorem dJ7_getBytes_1 : decode cJ7_getBytes 1 = .ok (.invokevirtual 335, 3) := dk_182 1 79 (dk_at dksJ7_getBytes_0 1 rfl rfl)
theorem dJ7_getBytes_4 : decode cJ7_getBytes 4 = .ok (.iload_n 3, 1) := dk_29 (dk_at dksJ7_getBytes_0 4 rfl rfl)
theorem dJ7_getBytes_5 : decode cJ7_getBytes 5 = .ok (.if_icmp .ne 23, 3) := dk_160 0 23 (dk_at dksJ7_getBytes_0 5 rfl rfl)
theorem dJ7_getBytes_8 : decode cJ7_getBytes 8 = .ok (.aload_n 0, 1) := dk_42 (dk_at dksJ7_getBytes_0 8 rfl rfl)
theorem dJ7_getBytes_9 : decode cJ7_getBytes 9 = .ok (.getfield 9, 3) := dk_180 0 9 (dk_at dksJ7_getBytes_0 9 rfl rfl)
theorem dJ7_getBytes_12 : decode cJ7_getBytes 12 = .ok (.iconst 0, 1) := dk_3 (dk_at dksJ7_getBytes_0 12 rfl rfl)
theorem dJ7_getBytes_13 : decode cJ7_getBytes 13 = .ok (.aload_n 1, 1) := dk_43 (dk_at dksJ7_getBytes_0 13 rfl rfl)
theorem dJ7_getBytes_14 : decode cJ7_getBytes 14 = .ok (.iload_n 2, 1) := dk_28 (dk_at dksJ7_getBytes_0 14 rfl rfl)
theorem dJ7_getBytes_15 : decode cJ7_getBytes 15 = .ok (.iload_n 3, 1) := dk_29 (dk_at dksJ7_getBytes_0 15 rfl rfl)
theorem dJ7_getBytes_16 : decode cJ7_getBytes 16 = .ok (.ishl, 1) := dk_120 (dk_at dksJ7_getBytes_0 16 rfl rfl)
theorem dJ7_getBytes_17 : decode cJ7_getBytes 17 = .ok (.aload_n 0, 1) := dk_42 (dk_at dksJ7_getBytes_0 17 rfl rfl)
theorem dJ7_getBytes_18 : decode cJ7_getBytes 18 = .ok (.getfield 9, 3) := dk_180 0 9 (dk_at dksJ7_getBytes_0 18 rfl rfl)
theorem dJ7_getBytes_21 : decode cJ7_getBytes 21 = .ok (.arraylength, 1) := dk_190 (dk_at dksJ7_getBytes_0 21 rfl rfl)
theorem dJ7_getBytes_22 : decode cJ7_getBytes 22 = .ok (.invokestatic 212, 3) := dk_184 0 212 (dk_at dksJ7_getBytes_1 0 rfl rfl)
theorem dJ7_getBytes_25 : decode cJ7_getBytes 25 = .ok (.goto 18, 3) := dk_167 0 18 (dk_at dksJ7_getBytes_1 3 rfl rfl)
theorem dJ7_getBytes_28 : decode cJ7_getBytes 28 = .ok (.aload_n 0, 1) := dk_42 (dk_at dksJ7_getBytes_1 6 rfl rfl)
theorem dJ7_getBytes_29 : decode cJ7_getBytes 29 = .ok (.getfield 9, 3) := dk_180 0 9 (dk_at dksJ7_getBytes_1 7 rfl rfl)
theorem dJ7_getBytes_32 : decode cJ7_getBytes 32 = .ok (.iconst 0, 1) := dk_3 (dk_at dksJ7_getBytes_1 10 rfl rfl)
theorem dJ7_getBytes_33 : decode cJ7_getBytes 33 = .ok (.aload_n 1, 1) := dk_43 (dk_at dksJ7_getBytes_1 11 rfl rfl)
theorem dJ7_getBytes_34 : decode cJ7_getBytes 34 = .ok (.iload_n 2, 1) := dk_28 (dk_at dksJ7_getBytes_1 12 rfl rfl)
theorem dJ7_getBytes_35 : decode cJ7_getBytes 35 = .ok (.aload_n 0, 1) := dk_42 (dk_at dksJ7_getBytes_1 13 rfl rfl)
theorem dJ7_getBytes_36 : decode cJ7_getBytes 36 = .ok (.getfield 9, 3) := dk_180 0 9 (dk_at dksJ7_getBytes_1 14 rfl rfl)
theorem dJ7_getBytes_39 : decode cJ7_getBytes 39 = .ok (.arraylength, 1) := dk_190 (dk_at dksJ7_getBytes_1 17 rfl rfl)
theorem dJ7_getBytes_40 : decode cJ7_getBytes 40 = .ok (.invokestatic 106, 3) := dk_184 0 106 (dk_at dksJ7_getBytes_1 18 rfl rfl)
theorem dJ7_getBytes_43 : decode cJ7_getBytes 43 = .ok (.return_, 1) := dk_177 (dk_at dksJ7_getBytes_1 21 rfl rfl)
abbrev cJ7_compareTo : ByteArray := prog_35_method_162_code
def yJ7_compareTo : MethodName := ⟨RJ7, "compareTo", "(Ljava/lang/Object;)I"⟩
def dkwJ7_compareTo_0 : List UInt8 := [42, 43, 192, 0, 10, 182, 4, 60, 172]
abbrev dktJ7_compareTo_0 : List UInt8 := dkwJ7_compareTo_0 ++ []
theorem dksJ7_compareTo_0 : cJ7_compareTo.data.toList.drop 0 = dktJ7_compareTo_0 := by decide +kernel
theorem dJ7_compareTo_0 : decode cJ7_compareTo 0 = .ok (.aload_n 0, 1) := dk_42 (dk_at dksJ7_compareTo_0 0 rfl rfl)
theorem dJ7_compareTo_1 : decode cJ7_compareTo 1 = .ok (.aload_n 1, 1) := dk_43 (dk_at dksJ7_compareTo_0 1 rfl rfl)
theorem dJ7_compareTo_2 : decode cJ7_compareTo 2 = .ok (.checkcast 10, 3) := dk_192 0 10 (dk_at dksJ7_compareTo_0 2 rfl rfl)
theorem dJ7_compareTo_5 : decode cJ7_compareTo 5 = .ok (.invokevirtual 1084, 3) := dk_182 4 60 (dk_at dksJ7_compareTo_0 5 rfl rfl)
theorem dJ7_compareTo_8 : decode cJ7_compareTo 8 = .ok (.ireturn, 1) := dk_172 (dk_at dksJ7_compareTo_0 8 rfl rfl)
abbrev cJ7_compareTo_2 : ByteArray := prog_35_method_71_code
def yJ7_compareTo_2 : MethodName := ⟨RJ7, "compareTo", "(Ljava/lang/String;)I"⟩
def dkwJ7_compareTo_2_2 : List UInt8 := [154, 0, 11, 44, 45, 184, 2, 79, 167, 0, 8, 44, 45, 184, 2, 82, 172]
abbrev dktJ7_compareTo_2_2 : List UInt8 := dkwJ7_compareTo_2_2 ++ []
def dkwJ7_compareTo_2_1 : List UInt8 := [160, 0, 22, 21, 4, 154, 0, 11, 44, 45, 184, 2, 74, 167, 0, 8, 44, 45, 184, 2, 78, 172, 21, 4]
abbrev dktJ7_compareTo_2_1 : List UInt8 := dkwJ7_compareTo_2_1 ++ dktJ7_compareTo_2_2
def dkwJ7_compareTo_2_0 : List UInt8 := [42, 180, 0, 9, 77, 43, 180, 0, 9, 78, 42, 182, 1, 79, 54, 4, 21, 4, 43, 182, 1, 79]
abbrev dktJ7_compareTo_2_0 : List UInt8 := dkwJ7_compareTo_2_0 ++ dktJ7_compareTo_2_1
theorem dksJ7_compareTo_2_0 : cJ7_compareTo_2.data.toList.drop 0 = dktJ7_compareTo_2_0 := by decide +kernel
theorem dksJ7_compareTo_2_1 : cJ7_compareTo_2.data.toList.drop 22 = dktJ7_compareTo_2_1 := dk_seg dksJ7_compareTo_2_0 22 rfl rfl
theorem dksJ7_compareTo_2_2 : cJ7_compareTo_2.data.toList.drop 46 = dktJ7_compareTo_2_2 := dk_seg dksJ7_compareTo_2_1 24 rfl rfl
theorem dJ7_compareTo_2_0 : decode cJ7_compareTo_2 0 = .ok (.aload_n 0, 1) := dk_42 (dk_at dksJ7_compareTo_2_0 0 rfl rfl)
theorem dJ7_compareTo_2_1 : decode cJ7_compareTo_2 1 = .ok (.getfield 9, 3) := dk_180 0 9 (dk_at dksJ7_compareTo_2_0 1 rfl rfl)
theorem dJ7_compareTo_2_4 : decode cJ7_compareTo_2 4 = .ok (.astore_n 2, 1) := dk_77 (dk_at dksJ7_compareTo_2_0 4 rfl rfl)
theorem dJ7_compareTo_2_5 : decode cJ7_compareTo_2 5 = .ok (.aload_n 1, 1) := dk_43 (dk_at dksJ7_compareTo_2_0 5 rfl rfl)
theorem dJ7_compareTo_2_6 : decode cJ7_compareTo_2 6 = .ok (.getfield 9, 3) := dk_180 0 9 (dk_at dksJ7_compareTo_2_0 6 rfl rfl)
theorem dJ7_compareTo_2_9 : decode cJ7_compareTo_2 9 = .ok (.astore_n 3, 1) := dk_78 (dk_at dksJ7_compareTo_2_0 9 rfl rfl)
theorem dJ7_compareTo_2_10 : decode cJ7_compareTo_2 10 = .ok (.aload_n 0, 1) := dk_42 (dk_at dksJ7_compareTo_2_0 10 rfl rfl)
theorem dJ7_compareTo_2_11 : decode cJ7_compareTo_2 11 = .ok (.invokevirtual 335, 3) := dk_182 1 79 (dk_at dksJ7_compareTo_2_0 11 rfl rfl)
theorem dJ7_compareTo_2_14 : decode cJ7_compareTo_2 14 = .ok (.istore 4, 2) := dk_54 4 (dk_at dksJ7_compareTo_2_0 14 rfl rfl)
theorem dJ7_compareTo_2_16 : decode cJ7_compareTo_2 16 = .ok (.iload 4, 2) := dk_21 4 (dk_at dksJ7_compareTo_2_0 16 rfl rfl)
theorem dJ7_compareTo_2_18 : decode cJ7_compareTo_2 18 = .ok (.aload_n 1, 1) := dk_43 (dk_at dksJ7_compareTo_2_0 18 rfl rfl)
theorem dJ7_compareTo_2_19 : decode cJ7_compareTo_2 19 = .ok (.invokevirtual 335, 3) := dk_182 1 79 (dk_at dksJ7_compareTo_2_0 19 rfl rfl)
theorem dJ7_compareTo_2_22 : decode cJ7_compareTo_2 22 = .ok (.if_icmp .ne 22, 3) := dk_160 0 22 (dk_at dksJ7_compareTo_2_1 0 rfl rfl)
theorem dJ7_compareTo_2_25 : decode cJ7_compareTo_2 25 = .ok (.iload 4, 2) := dk_21 4 (dk_at dksJ7_compareTo_2_1 3 rfl rfl)
theorem dJ7_compareTo_2_27 : decode cJ7_compareTo_2 27 = .ok (.ifCond .ne 11, 3) := dk_154 0 11 (dk_at dksJ7_compareTo_2_1 5 rfl rfl)
theorem dJ7_compareTo_2_30 : decode cJ7_compareTo_2 30 = .ok (.aload_n 2, 1) := dk_44 (dk_at dksJ7_compareTo_2_1 8 rfl rfl)
theorem dJ7_compareTo_2_31 : decode cJ7_compareTo_2 31 = .ok (.aload_n 3, 1) := dk_45 (dk_at dksJ7_compareTo_2_1 9 rfl rfl)
theorem dJ7_compareTo_2_32 : decode cJ7_compareTo_2 32 = .ok (.invokestatic 586, 3) := dk_184 2 74 (dk_at dksJ7_compareTo_2_1 10 rfl rfl)
theorem dJ7_compareTo_2_35 : decode cJ7_compareTo_2 35 = .ok (.goto 8, 3) := dk_167 0 8 (dk_at dksJ7_compareTo_2_1 13 rfl rfl)
theorem dJ7_compareTo_2_38 : decode cJ7_compareTo_2 38 = .ok (.aload_n 2, 1) := dk_44 (dk_at dksJ7_compareTo_2_1 16 rfl rfl)
theorem dJ7_compareTo_2_39 : decode cJ7_compareTo_2 39 = .ok (.aload_n 3, 1) := dk_45 (dk_at dksJ7_compareTo_2_1 17 rfl rfl)
theorem dJ7_compareTo_2_40 : decode cJ7_compareTo_2 40 = .ok (.invokestatic 590, 3) := dk_184 2 78 (dk_at dksJ7_compareTo_2_1 18 rfl rfl)
theorem dJ7_compareTo_2_43 : decode cJ7_compareTo_2 43 = .ok (.ireturn, 1) := dk_172 (dk_at dksJ7_compareTo_2_1 21 rfl rfl)
theorem dJ7_compareTo_2_44 : decode cJ7_compareTo_2 44 = .ok (.iload 4, 2) := dk_21 4 (dk_at dksJ7_compareTo_2_1 22 rfl rfl)
theorem dJ7_compareTo_2_46 : decode cJ7_compareTo_2 46 = .ok (.ifCond .ne 11, 3) := dk_154 0 11 (dk_at dksJ7_compareTo_2_2 0 rfl rfl)
theorem dJ7_compareTo_2_49 : decode cJ7_compareTo_2 49 = .ok (.aload_n 2, 1) := dk_44 (dk_at dksJ7_compareTo_2_2 3 rfl rfl)
theorem dJ7_compareTo_2_50 : decode cJ7_compareTo_2 50 = .ok (.aload_n 3, 1) := dk_45 (dk_at dksJ7_compareTo_2_2 4 rfl rfl)
theorem dJ7_compareTo_2_51 : decode cJ7_compareTo_2 51 = .ok (.invokestatic 591, 3) := dk_184 2 79 (dk_at dksJ7_compareTo_2_2 5 rfl rfl)
theorem dJ7_compareTo_2_54 : decode cJ7_compareTo_2 54 = .ok (.goto 8, 3) := dk_167 0 8 (dk_at dksJ7_compareTo_2_2 8 rfl rfl)
theorem dJ7_compareTo_2_57 : decode cJ7_compareTo_2 57 = .ok (.aload_n 2, 1) := dk_44 (dk_at dksJ7_compareTo_2_2 11 rfl rfl)
theorem dJ7_compareTo_2_58 : decode cJ7_compareTo_2 58 = .ok (.aload_n 3, 1) := dk_45 (dk_at dksJ7_compareTo_2_2 12 rfl rfl)
theorem dJ7_compareTo_2_59 : decode cJ7_compareTo_2 59 = .ok (.invokestatic 594, 3) := dk_184 2 82 (dk_at dksJ7_compareTo_2_2 13 rfl rfl)
theorem dJ7_compareTo_2_62 : decode cJ7_compareTo_2 62 = .ok (.ireturn, 1) := dk_172 (dk_at dksJ7_compareTo_2_2 16 rfl rfl)
abbrev cJ7_checkOffset : ByteArray := prog_35_method_156_code
def yJ7_checkOffset : MethodName := ⟨RJ7, "checkOffset", "(II)V"⟩
def dkwJ7_checkOffset_0 : List UInt8 := [26, 27, 27, 178, 4, 29, 184, 4, 38, 87, 177]
abbrev dktJ7_checkOffset_0 : List UInt8 := dkwJ7_checkOffset_0 ++ []
theorem dksJ7_checkOffset_0 : cJ7_checkOffset.data.toList.drop 0 = dktJ7_checkOffset_0 := by decide +kernel
theorem dJ7_checkOffset_0 : decode cJ7_checkOffset 0 = .ok (.iload_n 0, 1) := dk_26 (dk_at dksJ7_checkOffset_0 0 rfl rfl)
theorem dJ7_checkOffset_1 : decode cJ7_checkOffset 1 = .ok (.iload_n 1, 1) := dk_27 (dk_at dksJ7_checkOffset_0 1 rfl rfl)
theorem dJ7_checkOffset_2 : decode cJ7_checkOffset 2 = .ok (.iload_n 1, 1) := dk_27 (dk_at dksJ7_checkOffset_0 2 rfl rfl)
theorem dJ7_checkOffset_3 : decode cJ7_checkOffset 3 = .ok (.getstatic 1053, 3) := dk_178 4 29 (dk_at dksJ7_checkOffset_0 3 rfl rfl)
theorem dJ7_checkOffset_6 : decode cJ7_checkOffset 6 = .ok (.invokestatic 1062, 3) := dk_184 4 38 (dk_at dksJ7_checkOffset_0 6 rfl rfl)
theorem dJ7_checkOffset_9 : decode cJ7_checkOffset 9 = .ok (.pop, 1) := dk_87 (dk_at dksJ7_checkOffset_0 9 rfl rfl)
theorem dJ7_checkOffset_10 : decode cJ7_checkOffset 10 = .ok (.return_, 1) := dk_177 (dk_at dksJ7_checkOffset_0 10 rfl rfl)
abbrev cJ7_value : ByteArray := prog_35_method_153_code
def yJ7_value : MethodName := ⟨RJ7, "value", "()[B"⟩
theorem dJ7_value_0 : decode cJ7_value 0 = .ok (.aload_n 0, 1) := by decide +kernel
theorem dJ7_value_1 : decode cJ7_value 1 = .ok (.getfield 9, 3) := by decide +kernel
theorem dJ7_value_4 : decode cJ7_value 4 = .ok (.areturn, 1) := by decide +kernel
abbrev cJ7_charAt : ByteArray := prog_35_method_56_code
def yJ7_charAt : MethodName := ⟨RJ7, "charAt", "(I)C"⟩
def dkwJ7_charAt_1 : List UInt8 := [172]
abbrev dktJ7_charAt_1 : List UInt8 := dkwJ7_charAt_1 ++ []
def dkwJ7_charAt_0 : List UInt8 := [42, 182, 1, 236, 153, 0, 12, 42, 180, 0, 9, 27, 184, 1, 239, 172, 42, 180, 0, 9, 27, 184, 1, 242]
abbrev dktJ7_charAt_0 : List UInt8 := dkwJ7_charAt_0 ++ dktJ7_charAt_1
theorem dksJ7_charAt_0 : cJ7_charAt.data.toList.drop 0 = dktJ7_charAt_0 := by decide +kernel
theorem dksJ7_charAt_1 : cJ7_charAt.data.toList.drop 24 = dktJ7_charAt_1 := dk_seg dksJ7_charAt_0 24 rfl rfl
theorem dJ7_charAt_0 : decode cJ7_charAt 0 = .ok (.aload_n 0, 1) := dk_42 (dk_at dksJ7_charAt_0 0 rfl rfl)
theorem dJ7_charAt_1 : decode cJ7_charAt 1 = .ok (.invokevirtual 492, 3) := dk_182 1 236 (dk_at dksJ7_charAt_0 1 rfl rfl)
theorem dJ7_charAt_4 : decode cJ7_charAt 4 = .ok (.ifCond .eq 12, 3) := dk_153 0 12 (dk_at dksJ7_charAt_0 4 rfl rfl)
theorem dJ7_charAt_7 : decode cJ7_charAt 7 = .ok (.aload_n 0, 1) := dk_42 (dk_at dksJ7_charAt_0 7 rfl rfl)
theorem dJ7_charAt_8 : decode cJ7_charAt 8 = .ok (.getfield 9, 3) := dk_180 0 9 (dk_at dksJ7_charAt_0 8 rfl rfl)
theorem dJ7_charAt_11 : decode cJ7_charAt 11 = .ok (.iload_n 1, 1) := dk_27 (dk_at dksJ7_charAt_0 11 rfl rfl)
theorem dJ7_charAt_12 : decode cJ7_charAt 12 = .ok (.invokestatic 495, 3) := dk_184 1 239 (dk_at dksJ7_charAt_0 12 rfl rfl)
theorem dJ7_charAt_15 : decode cJ7_charAt 15 = .ok (.ireturn, 1) := dk_172 (dk_at dksJ7_charAt_0 15 rfl rfl)
theorem dJ7_charAt_16 : decode cJ7_charAt 16 = .ok (.aload_n 0, 1) := dk_42 (dk_at dksJ7_charAt_0 16 rfl rfl)
theorem dJ7_charAt_17 : decode cJ7_charAt 17 = .ok (.getfield 9, 3) := dk_180 0 9 (dk_at dksJ7_charAt_0 17 rfl rfl)
theorem dJ7_charAt_20 : decode cJ7_charAt 20 = .ok (.iload_n 1, 1) := dk_27 (dk_at dksJ7_charAt_0 20 rfl rfl)
theorem dJ7_charAt_21 : decode cJ7_charAt 21 = .ok (.invokestatic 498, 3) := dk_184 1 242 (dk_at dksJ7_charAt_0 21 rfl rfl)
theorem dJ7_charAt_24 : decode cJ7_charAt 24 = .ok (.ireturn, 1) := dk_172 (dk_at dksJ7_charAt_1 0 rfl rfl)
abbrev cJ7_checkIndex : ByteArray := prog_35_method_155_code
def yJ7_checkIndex : MethodName := ⟨RJ7, "checkIndex", "(II)V"⟩
def dkwJ7_checkIndex_0 : List UInt8 := [26, 27, 178, 4, 29, 184, 4, 35, 87, 177]
abbrev dktJ7_checkIndex_0 : List UInt8 := dkwJ7_checkIndex_0 ++ []
theorem dksJ7_checkIndex_0 : cJ7_checkIndex.data.toList.drop 0 = dktJ7_checkIndex_0 := by decide +kernel
theorem dJ7_checkIndex_0 : decode cJ7_checkIndex 0 = .ok (.iload_n 0, 1) := dk_26 (dk_at dksJ7_checkIndex_0 0 rfl rfl)
theorem dJ7_checkIndex_1 : decode cJ7_checkIndex 1 = .ok (.iload_n 1, 1) := dk_27 (dk_at dksJ7_checkIndex_0 1 rfl rfl)
theorem dJ7_checkIndex_2 : decode cJ7_checkIndex 2 = .ok (.getstatic 1053, 3) := dk_178 4 29 (dk_at dksJ7_checkIndex_0 2 rfl rfl)
theorem dJ7_checkIndex_5 : decode cJ7_checkIndex 5 = .ok (.invokestatic 1059, 3) := dk_184 4 35 (dk_at dksJ7_checkIndex_0 5 rfl rfl)
theorem dJ7_checkIndex_8 : decode cJ7_checkIndex 8 = .ok (.pop, 1) := dk_87 (dk_at dksJ7_checkIndex_0 8 rfl rfl)
theorem dJ7_checkIndex_9 : decode cJ7_checkIndex 9 = .ok (.return_, 1) := dk_177 (dk_at dksJ7_checkIndex_0 9 rfl rfl)
abbrev cJ7_hashCode : ByteArray := prog_35_method_78_code
def yJ7_hashCode : MethodName := ⟨RJ7, "hashCode", "()I"⟩
def dkwJ7_hashCode_2 : List UInt8 := [181, 0, 23, 167, 0, 8, 42, 27, 181, 0, 19, 27, 172]
abbrev dktJ7_hashCode_2 : List UInt8 := dkwJ7_hashCode_2 ++ []
def dkwJ7_hashCode_1 : List UInt8 := [180, 0, 9, 184, 2, 116, 167, 0, 10, 42, 180, 0, 9, 184, 2, 120, 60, 27, 154, 0, 11, 42, 4]
abbrev dktJ7_hashCode_1 : List UInt8 := dkwJ7_hashCode_1 ++ dktJ7_hashCode_2
def dkwJ7_hashCode_0 : List UInt8 := [42, 180, 0, 19, 60, 27, 154, 0, 52, 42, 180, 0, 23, 154, 0, 45, 42, 182, 1, 236, 153, 0, 13, 42]
abbrev dktJ7_hashCode_0 : List UInt8 := dkwJ7_hashCode_0 ++ dktJ7_hashCode_1
theorem dksJ7_hashCode_0 : cJ7_hashCode.data.toList.drop 0 = dktJ7_hashCode_0 := by decide +kernel
theorem dksJ7_hashCode_1 : cJ7_hashCode.data.toList.drop 24 = dktJ7_hashCode_1 := dk_seg dksJ7_hashCode_0 24 rfl rfl
theorem dksJ7_hashCode_2 : cJ7_hashCode.data.toList.drop 47 = dktJ7_hashCode_2 := dk_seg dksJ7_hashCode_1 23 rfl rfl
theorem dJ7_hashCode_0 : decode cJ7_hashCode 0 = .ok (.aload_n 0, 1) := dk_42 (dk_at dksJ7_hashCode_0 0 rfl rfl)
theorem dJ7_hashCode_1 : decode cJ7_hashCode 1 = .ok (.getfield 19, 3) := dk_180 0 19 (dk_at dksJ7_hashCode_0 1 rfl rfl)
theorem dJ7_hashCode_4 : decode cJ7_hashCode 4 = .ok (.istore_n 1, 1) := dk_60 (dk_at dksJ7_hashCode_0 4 rfl rfl)
theorem dJ7_hashCode_5 : decode cJ7_hashCode 5 = .ok (.iload_n 1, 1) := dk_27 (dk_at dksJ7_hashCode_0 5 rfl rfl)
theorem dJ7_hashCode_6 : decode cJ7_hashCode 6 = .ok (.ifCond .ne 52, 3) := dk_154 0 52 (dk_at dksJ7_hashCode_0 6 rfl rfl)
theorem dJ7_hashCode_9 : decode cJ7_hashCode 9 = .ok (.aload_n 0, 1) := dk_42 (dk_at dksJ7_hashCode_0 9 rfl rfl)
theorem dJ7_hashCode_10 : decode cJ7_hashCode 10 = .ok (.getfield 23, 3) := dk_180 0 23 (dk_at dksJ7_hashCode_0 10 rfl rfl)
theorem dJ7_hashCode_13 : decode cJ7_hashCode 13 = .ok (.ifCond .ne 45, 3) := dk_154 0 45 (dk_at dksJ7_hashCode_0 13 rfl rfl)
theorem dJ7_hashCode_16 : decode cJ7_hashCode 16 = .ok (.aload_n 0, 1) := dk_42 (dk_at dksJ7_hashCode_0 16 rfl rfl)
theorem dJ7_hashCode_17 : decode cJ7_hashCode 17 = .ok (.invokevirtual 492, 3) := dk_182 1 236 (dk_at dksJ7_hashCode_0 17 rfl rfl)
theorem dJ7_hashCode_20 : decode cJ7_hashCode 20 = .ok (.ifCond .eq 13, 3) := dk_153 0 13 (dk_at dksJ7_hashCode_0 20 rfl rfl)
theorem dJ7_hashCode_23 : decode cJ7_hashCode 23 = .ok (.aload_n 0, 1) := dk_42 (dk_at dksJ7_hashCode_0 23 rfl rfl)
theorem dJ7_hashCode_24 : decode cJ7_hashCode 24 = .ok (.getfield 9, 3) := dk_180 0 9 (dk_at dksJ7_hashCode_1 0 rfl rfl)
theorem dJ7_hashCode_27 : decode cJ7_hashCode 27 = .ok (.invokestatic 628, 3) := dk_184 2 116 (dk_at dksJ7_hashCode_1 3 rfl rfl)
theorem dJ7_hashCode_30 : decode cJ7_hashCode 30 = .ok (.goto 10, 3) := dk_167 0 10 (dk_at dksJ7_hashCode_1 6 rfl rfl)
theorem dJ7_hashCode_33 : decode cJ7_hashCode 33 = .ok (.aload_n 0, 1) := dk_42 (dk_at dksJ7_hashCode_1 9 rfl rfl)
theorem dJ7_hashCode_34 : decode cJ7_hashCode 34 = .ok (.getfield 9, 3) := dk_180 0 9 (dk_at dksJ7_hashCode_1 10 rfl rfl)
theorem dJ7_hashCode_37 : decode cJ7_hashCode 37 = .ok (.invokestatic 632, 3) := dk_184 2 120 (dk_at dksJ7_hashCode_1 13 rfl rfl)
theorem dJ7_hashCode_40 : decode cJ7_hashCode 40 = .ok (.istore_n 1, 1) := dk_60 (dk_at dksJ7_hashCode_1 16 rfl rfl)
theorem dJ7_hashCode_41 : decode cJ7_hashCode 41 = .ok (.iload_n 1, 1) := dk_27 (dk_at dksJ7_hashCode_1 17 rfl rfl)
theorem dJ7_hashCode_42 : decode cJ7_hashCode 42 = .ok (.ifCond .ne 11, 3) := dk_154 0 11 (dk_at dksJ7_hashCode_1 18 rfl rfl)
theorem dJ7_hashCode_45 : decode cJ7_hashCode 45 = .ok (.aload_n 0, 1) := dk_42 (dk_at dksJ7_hashCode_1 21 rfl rfl)
theorem dJ7_hashCode_46 : decode cJ7_hashCode 46 = .ok (.iconst 1, 1) := dk_4 (dk_at dksJ7_hashCode_1 22 rfl rfl)
theorem dJ7_hashCode_47 : decode cJ7_hashCode 47 = .ok (.putfield 23, 3) := dk_181 0 23 (dk_at dksJ7_hashCode_2 0 rfl rfl)
theorem dJ7_hashCode_50 : decode cJ7_hashCode 50 = .ok (.goto 8, 3) := dk_167 0 8 (dk_at dksJ7_hashCode_2 3 rfl rfl)
theorem dJ7_hashCode_53 : decode cJ7_hashCode 53 = .ok (.aload_n 0, 1) := dk_42 (dk_at dksJ7_hashCode_2 6 rfl rfl)
theorem dJ7_hashCode_54 : decode cJ7_hashCode 54 = .ok (.iload_n 1, 1) := dk_27 (dk_at dksJ7_hashCode_2 7 rfl rfl)
theorem dJ7_hashCode_55 : decode cJ7_hashCode 55 = .ok (.putfield 19, 3) := dk_181 0 19 (dk_at dksJ7_hashCode_2 8 rfl rfl)
theorem dJ7_hashCode_58 : decode cJ7_hashCode 58 = .ok (.iload_n 1, 1) := dk_27 (dk_at dksJ7_hashCode_2 11 rfl rfl)
theorem dJ7_hashCode_59 : decode cJ7_hashCode 59 = .ok (.ireturn, 1) := dk_172 (dk_at dksJ7_hashCode_2 12 rfl rfl)
abbrev cJ7_equals : ByteArray := prog_35_method_66_code
def yJ7_equals : MethodName := ⟨RJ7, "equals", "(Ljava/lang/Object;)Z"⟩
def dkwJ7_equals_2 : List UInt8 := [184, 2, 29, 153, 0, 7, 4, 167, 0, 4, 3, 172]
abbrev dktJ7_equals_2 : List UInt8 := dkwJ7_equals_2 ++ []
def dkwJ7_equals_1 : List UInt8 := [153, 0, 14, 42, 180, 0, 15, 44, 180, 0, 15, 160, 0, 21, 42, 180, 0, 9, 44, 180, 0, 9]
abbrev dktJ7_equals_1 : List UInt8 := dkwJ7_equals_1 ++ dktJ7_equals_2
def dkwJ7_equals_0 : List UInt8 := [42, 43, 166, 0, 5, 4, 172, 43, 193, 0, 10, 153, 0, 43, 43, 192, 0, 10, 77, 178, 0, 38]
abbrev dktJ7_equals_0 : List UInt8 := dkwJ7_equals_0 ++ dktJ7_equals_1
theorem dksJ7_equals_0 : cJ7_equals.data.toList.drop 0 = dktJ7_equals_0 := by decide +kernel
theorem dksJ7_equals_1 : cJ7_equals.data.toList.drop 22 = dktJ7_equals_1 := dk_seg dksJ7_equals_0 22 rfl rfl
theorem dksJ7_equals_2 : cJ7_equals.data.toList.drop 44 = dktJ7_equals_2 := dk_seg dksJ7_equals_1 22 rfl rfl
theorem dJ7_equals_0 : decode cJ7_equals 0 = .ok (.aload_n 0, 1) := dk_42 (dk_at dksJ7_equals_0 0 rfl rfl)
theorem dJ7_equals_1 : decode cJ7_equals 1 = .ok (.aload_n 1, 1) := dk_43 (dk_at dksJ7_equals_0 1 rfl rfl)
theorem dJ7_equals_2 : decode cJ7_equals 2 = .ok (.if_acmp .ne 5, 3) := dk_166 0 5 (dk_at dksJ7_equals_0 2 rfl rfl)
theorem dJ7_equals_5 : decode cJ7_equals 5 = .ok (.iconst 1, 1) := dk_4 (dk_at dksJ7_equals_0 5 rfl rfl)
theorem dJ7_equals_6 : decode cJ7_equals 6 = .ok (.ireturn, 1) := dk_172 (dk_at dksJ7_equals_0 6 rfl rfl)
theorem dJ7_equals_7 : decode cJ7_equals 7 = .ok (.aload_n 1, 1) := dk_43 (dk_at dksJ7_equals_0 7 rfl rfl)
theorem dJ7_equals_8 : decode cJ7_equals 8 = .ok (.instanceof 10, 3) := dk_193 0 10 (dk_at dksJ7_equals_0 8 rfl rfl)
theorem dJ7_equals_11 : decode cJ7_equals 11 = .ok (.ifCond .eq 43, 3) := dk_153 0 43 (dk_at dksJ7_equals_0 11 rfl rfl)
theorem dJ7_equals_14 : decode cJ7_equals 14 = .ok (.aload_n 1, 1) := dk_43 (dk_at dksJ7_equals_0 14 rfl rfl)
theorem dJ7_equals_15 : decode cJ7_equals 15 = .ok (.checkcast 10, 3) := dk_192 0 10 (dk_at dksJ7_equals_0 15 rfl rfl)
theorem dJ7_equals_18 : decode cJ7_equals 18 = .ok (.astore_n 2, 1) := dk_77 (dk_at dksJ7_equals_0 18 rfl rfl)
theorem dJ7_equals_19 : decode cJ7_equals 19 = .ok (.getstatic 38, 3) := dk_178 0 38 (dk_at dksJ7_equals_0 19 rfl rfl)
theorem dJ7_equals_22 : decode cJ7_equals 22 = .ok (.ifCond .eq 14, 3) := dk_153 0 14 (dk_at dksJ7_equals_1 0 rfl rfl)
theorem dJ7_equals_25 : decode cJ7_equals 25 = .ok (.aload_n 0, 1) := dk_42 (dk_at dksJ7_equals_1 3 rfl rfl)
theorem dJ7_equals_26 : decode cJ7_equals 26 = .ok (.getfield 15, 3) := dk_180 0 15 (dk_at dksJ7_equals_1 4 rfl rfl)
theorem dJ7_equals_29 : decode cJ7_equals 29 = .ok (.aload_n 2, 1) := dk_44 (dk_at dksJ7_equals_1 7 rfl rfl)
theorem dJ7_equals_30 : decode cJ7_equals 30 = .ok (.getfield 15, 3) := dk_180 0 15 (dk_at dksJ7_equals_1 8 rfl rfl)
theorem dJ7_equals_33 : decode cJ7_equals 33 = .ok (.if_icmp .ne 21, 3) := dk_160 0 21 (dk_at dksJ7_equals_1 11 rfl rfl)
theorem dJ7_equals_36 : decode cJ7_equals 36 = .ok (.aload_n 0, 1) := dk_42 (dk_at dksJ7_equals_1 14 rfl rfl)
theorem dJ7_equals_37 : decode cJ7_equals 37 = .ok (.getfield 9, 3) := dk_180 0 9 (dk_at dksJ7_equals_1 15 rfl rfl)
theorem dJ7_equals_40 : decode cJ7_equals 40 = .ok (.aload_n 2, 1) := dk_44 (dk_at dksJ7_equals_1 18 rfl rfl)
theorem dJ7_equals_41 : decode cJ7_equals 41 = .ok (.getfield 9, 3) := dk_180 0 9 (dk_at dksJ7_equals_1 19 rfl rfl)
theorem dJ7_equals_44 : decode cJ7_equals 44 = .ok (.invokestatic 541, 3) := dk_184 2 29 (dk_at dksJ7_equals_2 0 rfl rfl)
theorem dJ7_equals_47 : decode cJ7_equals 47 = .ok (.ifCond .eq 7, 3) := dk_153 0 7 (dk_at dksJ7_equals_2 3 rfl rfl)
theorem dJ7_equals_50 : decode cJ7_equals 50 = .ok (.iconst 1, 1) := dk_4 (dk_at dksJ7_equals_2 6 rfl rfl)
theorem dJ7_equals_51 : decode cJ7_equals 51 = .ok (.goto 4, 3) := dk_167 0 4 (dk_at dksJ7_equals_2 7 rfl rfl)
theorem dJ7_equals_54 : decode cJ7_equals 54 = .ok (.iconst 0, 1) := dk_3 (dk_at dksJ7_equals_2 10 rfl rfl)
theorem dJ7_equals_55 : decode cJ7_equals 55 = .ok (.ireturn, 1) := dk_172 (dk_at dksJ7_equals_2 11 rfl rfl)
abbrev cJ7_substring : ByteArray := prog_35_method_91_code
def yJ7_substring : MethodName := ⟨RJ7, "substring", "(I)Ljava/lang/String;"⟩
def dkwJ7_substring_0 : List UInt8 := [42, 27, 42, 182, 1, 249, 182, 2, 169, 176]
abbrev dktJ7_substring_0 : List UInt8 := dkwJ7_substring_0 ++ []
theorem dksJ7_substring_0 : cJ7_substring.data.toList.drop 0 = dktJ7_substring_0 := by decide +kernel
theorem dJ7_substring_0 : decode cJ7_substring 0 = .ok (.aload_n 0, 1) := dk_42 (dk_at dksJ7_substring_0 0 rfl rfl)
theorem dJ7_substring_1 : decode cJ7_substring 1 = .ok (.iload_n 1, 1) := dk_27 (dk_at dksJ7_substring_0 1 rfl rfl)
theorem dJ7_substring_2 : decode cJ7_substring 2 = .ok (.aload_n 0, 1) := dk_42 (dk_at dksJ7_substring_0 2 rfl rfl)
theorem dJ7_substring_3 : decode cJ7_substring 3 = .ok (.invokevirtual 505, 3) := dk_182 1 249 (dk_at dksJ7_substring_0 3 rfl rfl)
theorem dJ7_substring_6 : decode cJ7_substring 6 = .ok (.invokevirtual 681, 3) := dk_182 2 169 (dk_at dksJ7_substring_0 6 rfl rfl)
theorem dJ7_substring_9 : decode cJ7_substring 9 = .ok (.areturn, 1) := dk_176 (dk_at dksJ7_substring_0 9 rfl rfl)
abbrev cJ7_substring_2 : ByteArray := prog_35_method_92_code
def yJ7_substring_2 : MethodName := ⟨RJ7, "substring", "(II)Ljava/lang/String;"⟩
def dkwJ7_substring_2_2 : List UInt8 := [180, 0, 9, 27, 21, 4, 184, 2, 177, 176]
abbrev dktJ7_substring_2_2 : List UInt8 := dkwJ7_substring_2_2 ++ []
def dkwJ7_substring_2_1 : List UInt8 := [100, 54, 4, 42, 182, 1, 236, 153, 0, 16, 42, 180, 0, 9, 27, 21, 4, 184, 2, 173, 167, 0, 13, 42]
abbrev dktJ7_substring_2_1 : List UInt8 := dkwJ7_substring_2_1 ++ dktJ7_substring_2_2
def dkwJ7_substring_2_0 : List UInt8 := [42, 182, 1, 249, 62, 27, 28, 29, 184, 2, 9, 27, 154, 0, 10, 28, 29, 160, 0, 5, 42, 176, 28, 27]
abbrev dktJ7_substring_2_0 : List UInt8 := dkwJ7_substring_2_0 ++ dktJ7_substring_2_1
theorem dksJ7_substring_2_0 : cJ7_substring_2.data.toList.drop 0 = dktJ7_substring_2_0 := by decide +kernel
theorem dksJ7_substring_2_1 : cJ7_substring_2.data.toList.drop 24 = dktJ7_substring_2_1 := dk_seg dksJ7_substring_2_0 24 rfl rfl
theorem dksJ7_substring_2_2 : cJ7_substring_2.data.toList.drop 48 = dktJ7_substring_2_2 := dk_seg dksJ7_substring_2_1 24 rfl rfl
theorem dJ7_substring_2_0 : decode cJ7_substring_2 0 = .ok (.aload_n 0, 1) := dk_42 (dk_at dksJ7_substring_2_0 0 rfl rfl)
theorem dJ7_substring_2_1 : decode cJ7_substring_2 1 = .ok (.invokevirtual 505, 3) := dk_182 1 249 (dk_at dksJ7_substring_2_0 1 rfl rfl)
theorem dJ7_substring_2_4 : decode cJ7_substring_2 4 = .ok (.istore_n 3, 1) := dk_62 (dk_at dksJ7_substring_2_0 4 rfl rfl)
theorem dJ7_substring_2_5 : decode cJ7_substring_2 5 = .ok (.iload_n 1, 1) := dk_27 (dk_at dksJ7_substring_2_0 5 rfl rfl)
theorem dJ7_substring_2_6 : decode cJ7_substring_2 6 = .ok (.iload_n 2, 1) := dk_28 (dk_at dksJ7_substring_2_0 6 rfl rfl)
theorem dJ7_substring_2_7 : decode cJ7_substring_2 7 = .ok (.iload_n 3, 1) := dk_29 (dk_at dksJ7_substring_2_0 7 rfl rfl)
theorem dJ7_substring_2_8 : decode cJ7_substring_2 8 = .ok (.invokestatic 521, 3) := dk_184 2 9 (dk_at dksJ7_substring_2_0 8 rfl rfl)
theorem dJ7_substring_2_11 : decode cJ7_substring_2 11 = .ok (.iload_n 1, 1) := dk_27 (dk_at dksJ7_substring_2_0 11 rfl rfl)
theorem dJ7_substring_2_12 : decode cJ7_substring_2 12 = .ok (.ifCond .ne 10, 3) := dk_154 0 10 (dk_at dksJ7_substring_2_0 12 rfl rfl)
theorem dJ7_substring_2_15 : decode cJ7_substring_2 15 = .ok (.iload_n 2, 1) := dk_28 (dk_at dksJ7_substring_2_0 15 rfl rfl)
theorem dJ7_substring_2_16 : decode cJ7_substring_2 16 = .ok (.iload_n 3, 1) := dk_29 (dk_at dksJ7_substring_2_0 16 rfl rfl)
theorem dJ7_substring_2_17 : decode cJ7_substring_2 17 = .ok (.if_icmp .ne 5, 3) := dk_160 0 5 (dk_at dksJ7_substring_2_0 17 rfl rfl)
theorem dJ7_substring_2_20 : decode cJ7_substring_2 20 = .ok (.aload_n 0, 1) := dk_42 (dk_at dksJ7_substring_2_0 20 rfl rfl)
theorem dJ7_substring_2_21 : decode cJ7_substring_2 21 = .ok (.areturn, 1) := dk_176 (dk_at dksJ7_substring_2_0 21 rfl rfl)
theorem dJ7_substring_2_22 : decode cJ7_substring_2 22 = .ok (.iload_n 2, 1) := dk_28 (dk_at dksJ7_substring_2_0 22 rfl rfl)
theorem dJ7_substring_2_23 : decode cJ7_substring_2 23 = .ok (.iload_n 1, 1) := dk_27 (dk_at dksJ7_substring_2_0 23 rfl rfl)
theorem dJ7_substring_2_24 : decode cJ7_substring_2 24 = .ok (.isub, 1) := dk_100 (dk_at dksJ7_substring_2_1 0 rfl rfl)
theorem dJ7_substring_2_25 : decode cJ7_substring_2 25 = .ok (.istore 4, 2) := dk_54 4 (dk_at dksJ7_substring_2_1 1 rfl rfl)
theorem dJ7_substring_2_27 : decode cJ7_substring_2 27 = .ok (.aload_n 0, 1) := dk_42 (dk_at dksJ7_substring_2_1 3 rfl rfl)
theorem dJ7_substring_2_28 : decode cJ7_substring_2 28 = .ok (.invokevirtual 492, 3) := dk_182 1 236 (dk_at dksJ7_substring_2_1 4 rfl rfl)
theorem dJ7_substring_2_31 : decode cJ7_substring_2 31 = .ok (.ifCond .eq 16, 3) := dk_153 0 16 (dk_at dksJ7_substring_2_1 7 rfl rfl)
theorem dJ7_substring_2_34 : decode cJ7_substring_2 34 = .ok (.aload_n 0, 1) := dk_42 (dk_at dksJ7_substring_2_1 10 rfl rfl)
theorem dJ7_substring_2_35 : decode cJ7_substring_2 35 = .ok (.getfield 9, 3) := dk_180 0 9 (dk_at dksJ7_substring_2_1 11 rfl rfl)
theorem dJ7_substring_2_38 : decode cJ7_substring_2 38 = .ok (.iload_n 1, 1) := dk_27 (dk_at dksJ7_substring_2_1 14 rfl rfl)
theorem dJ7_substring_2_39 : decode cJ7_substring_2 39 = .ok (.iload 4, 2) := dk_21 4 (dk_at dksJ7_substring_2_1 15 rfl rfl)
theorem dJ7_substring_2_41 : decode cJ7_substring_2 41 = .ok (.invokestatic 685, 3) := dk_184 2 173 (dk_at dksJ7_substring_2_1 17 rfl rfl)
theorem dJ7_substring_2_44 : decode cJ7_substring_2 44 = .ok (.goto 13, 3) := dk_167 0 13 (dk_at dksJ7_substring_2_1 20 rfl rfl)
theorem dJ7_substring_2_47 : decode cJ7_substring_2 47 = .ok (.aload_n 0, 1) := dk_42 (dk_at dksJ7_substring_2_1 23 rfl rfl)
theorem dJ7_substring_2_48 : decode cJ7_substring_2 48 = .ok (.getfield 9, 3) := dk_180 0 9 (dk_at dksJ7_substring_2_2 0 rfl rfl)
theorem dJ7_substring_2_51 : decode cJ7_substring_2 51 = .ok (.iload_n 1, 1) := dk_27 (dk_at dksJ7_substring_2_2 3 rfl rfl)
theorem dJ7_substring_2_52 : decode cJ7_substring_2 52 = .ok (.iload 4, 2) := dk_21 4 (dk_at dksJ7_substring_2_2 4 rfl rfl)
theorem dJ7_substring_2_54 : decode cJ7_substring_2 54 = .ok (.invokestatic 689, 3) := dk_184 2 177 (dk_at dksJ7_substring_2_2 6 rfl rfl)
theorem dJ7_substring_2_57 : decode cJ7_substring_2 57 = .ok (.areturn, 1) := dk_176 (dk_at dksJ7_substring_2_2 9 rfl rfl)
abbrev cJ7_init_3 : ByteArray := prog_35_method_151_code
def yJ7_init_3 : MethodName := ⟨RJ7, "<init>", "([BB)V"⟩
def dkwJ7_init_3_0 : List UInt8 := [42, 183, 0, 1, 42, 43, 181, 0, 9, 42, 28, 181, 0, 15, 177]
abbrev dktJ7_init_3_0 : List UInt8 := dkwJ7_init_3_0 ++ []
theorem dksJ7_init_3_0 : cJ7_init_3.data.toList.drop 0 = dktJ7_init_3_0 := by decide +kernel
theorem dJ7_init_3_0 : decode cJ7_init_3 0 = .ok (.aload_n 0, 1) := dk_42 (dk_at dksJ7_init_3_0 0 rfl rfl)
theorem dJ7_init_3_1 : decode cJ7_init_3 1 = .ok (.invokespecial 1, 3) := dk_183 0 1 (dk_at dksJ7_init_3_0 1 rfl rfl)
theorem dJ7_init_3_4 : decode cJ7_init_3 4 = .ok (.aload_n 0, 1) := dk_42 (dk_at dksJ7_init_3_0 4 rfl rfl)
theorem dJ7_init_3_5 : decode cJ7_init_3 5 = .ok (.aload_n 1, 1) := dk_43 (dk_at dksJ7_init_3_0 5 rfl rfl)
theorem dJ7_init_3_6 : decode cJ7_init_3 6 = .ok (.putfield 9, 3) := dk_181 0 9 (dk_at dksJ7_init_3_0 6 rfl rfl)
theorem dJ7_init_3_9 : decode cJ7_init_3 9 = .ok (.aload_n 0, 1) := dk_42 (dk_at dksJ7_init_3_0 9 rfl rfl)
theorem dJ7_init_3_10 : decode cJ7_init_3 10 = .ok (.iload_n 2, 1) := dk_28 (dk_at dksJ7_init_3_0 10 rfl rfl)
theorem dJ7_init_3_11 : decode cJ7_init_3 11 = .ok (.putfield 15, 3) := dk_181 0 15 (dk_at dksJ7_init_3_0 11 rfl rfl)
theorem dJ7_init_3_14 : decode cJ7_init_3 14 = .ok (.return_, 1) := dk_177 (dk_at dksJ7_init_3_0 14 rfl rfl)
abbrev cJ7_indexOf_3 : ByteArray := prog_35_method_84_code
def yJ7_indexOf_3 : MethodName := ⟨RJ7, "indexOf", "(Ljava/lang/String;)I"⟩
def dkwJ7_indexOf_3_2 : List UInt8 := [154, 0, 5, 2, 172, 42, 180, 0, 9, 43, 180, 0, 9, 184, 2, 138, 172]
abbrev dktJ7_indexOf_3_2 : List UInt8 := dkwJ7_indexOf_3_2 ++ []
def dkwJ7_indexOf_3_1 : List UInt8 := [43, 180, 0, 9, 184, 2, 135, 167, 0, 14, 42, 180, 0, 9, 43, 180, 0, 9, 184, 2, 137, 172, 28]
abbrev dktJ7_indexOf_3_1 : List UInt8 := dkwJ7_indexOf_3_1 ++ dktJ7_indexOf_3_2
def dkwJ7_indexOf_3_0 : List UInt8 := [42, 182, 1, 79, 61, 28, 43, 182, 1, 79, 160, 0, 36, 42, 182, 1, 236, 153, 0, 17, 42, 180, 0, 9]
abbrev dktJ7_indexOf_3_0 : List UInt8 := dkwJ7_indexOf_3_0 ++ dktJ7_indexOf_3_1
theorem dksJ7_indexOf_3_0 : cJ7_indexOf_3.data.toList.drop 0 = dktJ7_indexOf_3_0 := by decide +kernel
theorem dksJ7_indexOf_3_1 : cJ7_indexOf_3.data.toList.drop 24 = dktJ7_indexOf_3_1 := dk_seg dksJ7_indexOf_3_0 24 rfl rfl
theorem dksJ7_indexOf_3_2 : cJ7_indexOf_3.data.toList.drop 47 = dktJ7_indexOf_3_2 := dk_seg dksJ7_indexOf_3_1 23 rfl rfl
theorem dJ7_indexOf_3_0 : decode cJ7_indexOf_3 0 = .ok (.aload_n 0, 1) := dk_42 (dk_at dksJ7_indexOf_3_0 0 rfl rfl)
theorem dJ7_indexOf_3_1 : decode cJ7_indexOf_3 1 = .ok (.invokevirtual 335, 3) := dk_182 1 79 (dk_at dksJ7_indexOf_3_0 1 rfl rfl)
theorem dJ7_indexOf_3_4 : decode cJ7_indexOf_3 4 = .ok (.istore_n 2, 1) := dk_61 (dk_at dksJ7_indexOf_3_0 4 rfl rfl)
theorem dJ7_indexOf_3_5 : decode cJ7_indexOf_3 5 = .ok (.iload_n 2, 1) := dk_28 (dk_at dksJ7_indexOf_3_0 5 rfl rfl)
theorem dJ7_indexOf_3_6 : decode cJ7_indexOf_3 6 = .ok (.aload_n 1, 1) := dk_43 (dk_at dksJ7_indexOf_3_0 6 rfl rfl)
theorem dJ7_indexOf_3_7 : decode cJ7_indexOf_3 7 = .ok (.invokevirtual 335, 3) := dk_182 1 79 (dk_at dksJ7_indexOf_3_0 7 rfl rfl)
theorem dJ7_indexOf_3_10 : decode cJ7_indexOf_3 10 = .ok (.if_icmp .ne 36, 3) := dk_160 0 36 (dk_at dksJ7_indexOf_3_0 10 rfl rfl)
theorem dJ7_indexOf_3_13 : decode cJ7_indexOf_3 13 = .ok (.aload_n 0, 1) := dk_42 (dk_at dksJ7_indexOf_3_0 13 rfl rfl)
theorem dJ7_indexOf_3_14 : decode cJ7_indexOf_3 14 = .ok (.invokevirtual 492, 3) := dk_182 1 236 (dk_at dksJ7_indexOf_3_0 14 rfl rfl)
theorem dJ7_indexOf_3_17 : decode cJ7_indexOf_3 17 = .ok (.ifCond .eq 17, 3) := dk_153 0 17 (dk_at dksJ7_indexOf_3_0 17 rfl rfl)
theorem dJ7_indexOf_3_20 : decode cJ7_indexOf_3 20 = .ok (.aload_n 0, 1) := dk_42 (dk_at dksJ7_indexOf_3_0 20 rfl rfl)
theorem dJ7_indexOf_3_21 : decode cJ7_indexOf_3 21 = .ok (.getfield 9, 3) := dk_180 0 9 (dk_at dksJ7_indexOf_3_0 21 rfl rfl)
theorem dJ7_indexOf_3_24 : decode cJ7_indexOf_3 24 = .ok (.aload_n 1, 1) := dk_43 (dk_at dksJ7_indexOf_3_1 0 rfl rfl)
theorem dJ7_indexOf_3_25 : decode cJ7_indexOf_3 25 = .ok (.getfield 9, 3) := dk_180 0 9 (dk_at dksJ7_indexOf_3_1 1 rfl rfl)
theorem dJ7_indexOf_3_28 : decode cJ7_indexOf_3 28 = .ok (.invokestatic 647, 3) := dk_184 2 135 (dk_at dksJ7_indexOf_3_1 4 rfl rfl)
theorem dJ7_indexOf_3_31 : decode cJ7_indexOf_3 31 = .ok (.goto 14, 3) := dk_167 0 14 (dk_at dksJ7_indexOf_3_1 7 rfl rfl)
theorem dJ7_indexOf_3_34 : decode cJ7_indexOf_3 34 = .ok (.aload_n 0, 1) := dk_42 (dk_at dksJ7_indexOf_3_1 10 rfl rfl)
theorem dJ7_indexOf_3_35 : decode cJ7_indexOf_3 35 = .ok (.getfield 9, 3) := dk_180 0 9 (dk_at dksJ7_indexOf_3_1 11 rfl rfl)
theorem dJ7_indexOf_3_38 : decode cJ7_indexOf_3 38 = .ok (.aload_n 1, 1) := dk_43 (dk_at dksJ7_indexOf_3_1 14 rfl rfl)
theorem dJ7_indexOf_3_39 : decode cJ7_indexOf_3 39 = .ok (.getfield 9, 3) := dk_180 0 9 (dk_at dksJ7_indexOf_3_1 15 rfl rfl)
theorem dJ7_indexOf_3_42 : decode cJ7_indexOf_3 42 = .ok (.invokestatic 649, 3) := dk_184 2 137 (dk_at dksJ7_indexOf_3_1 18 rfl rfl)
theorem dJ7_indexOf_3_45 : decode cJ7_indexOf_3 45 = .ok (.ireturn, 1) := dk_172 (dk_at dksJ7_indexOf_3_1 21 rfl rfl)
theorem dJ7_indexOf_3_46 : decode cJ7_indexOf_3 46 = .ok (.iload_n 2, 1) := dk_28 (dk_at dksJ7_indexOf_3_1 22 rfl rfl)
theorem dJ7_indexOf_3_47 : decode cJ7_indexOf_3 47 = .ok (.ifCond .ne 5, 3) := dk_154 0 5 (dk_at dksJ7_indexOf_3_2 0 rfl rfl)
theorem dJ7_indexOf_3_50 : decode cJ7_indexOf_3 50 = .ok (.iconst (-1), 1) := dk_2 (dk_at dksJ7_indexOf_3_2 3 rfl rfl)
theorem dJ7_indexOf_3_51 : decode cJ7_indexOf_3 51 = .ok (.ireturn, 1) := dk_172 (dk_at dksJ7_indexOf_3_2 4 rfl rfl)
theorem dJ7_indexOf_3_52 : decode cJ7_indexOf_3 52 = .ok (.aload_n 0, 1) := dk_42 (dk_at dksJ7_indexOf_3_2 5 rfl rfl)
theorem dJ7_indexOf_3_53 : decode cJ7_indexOf_3 53 = .ok (.getfield 9, 3) := dk_180 0 9 (dk_at dksJ7_indexOf_3_2 6 rfl rfl)
theorem dJ7_indexOf_3_56 : decode cJ7_indexOf_3 56 = .ok (.aload_n 1, 1) := dk_43 (dk_at dksJ7_indexOf_3_2 9 rfl rfl)
theorem dJ7_indexOf_3_57 : decode cJ7_indexOf_3 57 = .ok (.getfield 9, 3) := dk_180 0 9 (dk_at dksJ7_indexOf_3_2 10 rfl rfl)
theorem dJ7_indexOf_3_60 : decode cJ7_indexOf_3 60 = .ok (.invokestatic 650, 3) := dk_184 2 138 (dk_at dksJ7_indexOf_3_2 13 rfl rfl)
theorem dJ7_indexOf_3_63 : decode cJ7_indexOf_3 63 = .ok (.ireturn, 1) := dk_172 (dk_at dksJ7_indexOf_3_2 16 rfl rfl)
abbrev cJ8_newBytesFor : ByteArray := prog_39_method_2_code
def yJ8_newBytesFor : MethodName := ⟨RJ8, "newBytesFor", "(I)[B"⟩
def dkwJ8_newBytesFor_0 : List UInt8 := [26, 184, 0, 11, 188, 8, 176]
abbrev dktJ8_newBytesFor_0 : List UInt8 := dkwJ8_newBytesFor_0 ++ []
theorem dksJ8_newBytesFor_0 : cJ8_newBytesFor.data.toList.drop 0 = dktJ8_newBytesFor_0 := by decide +kernel
theorem dJ8_newBytesFor_0 : decode cJ8_newBytesFor 0 = .ok (.iload_n 0, 1) := dk_26 (dk_at dksJ8_newBytesFor_0 0 rfl rfl)
theorem dJ8_newBytesFor_1 : decode cJ8_newBytesFor 1 = .ok (.invokestatic 11, 3) := dk_184 0 11 (dk_at dksJ8_newBytesFor_0 1 rfl rfl)
theorem dJ8_newBytesFor_4 : decode cJ8_newBytesFor 4 = .ok (.newarray .byte, 2) := dk_188_8 (dk_at dksJ8_newBytesFor_0 4 rfl rfl)
theorem dJ8_newBytesFor_6 : decode cJ8_newBytesFor 6 = .ok (.areturn, 1) := dk_176 (dk_at dksJ8_newBytesFor_0 6 rfl rfl)
abbrev cJ8_newBytesLength : ByteArray := prog_39_method_3_code
def yJ8_newBytesLength : MethodName := ⟨RJ8, "newBytesLength", "(I)I"⟩
def dkwJ8_newBytesLength_2 : List UInt8 := [182, 0, 32, 182, 0, 37, 183, 0, 41, 191, 26, 4, 120, 172]
abbrev dktJ8_newBytesLength_2 : List UInt8 := dkwJ8_newBytesLength_2 ++ []
def dkwJ8_newBytesLength_1 : List UInt8 := [187, 0, 23, 89, 183, 0, 25, 18, 26, 182, 0, 28, 26, 182, 0, 32, 18, 35, 182, 0, 28, 18, 20]
abbrev dktJ8_newBytesLength_1 : List UInt8 := dkwJ8_newBytesLength_1 ++ dktJ8_newBytesLength_2
def dkwJ8_newBytesLength_0 : List UInt8 := [26, 156, 0, 11, 187, 0, 17, 89, 183, 0, 19, 191, 26, 18, 20, 161, 0, 40, 187, 0, 21, 89]
abbrev dktJ8_newBytesLength_0 : List UInt8 := dkwJ8_newBytesLength_0 ++ dktJ8_newBytesLength_1
theorem dksJ8_newBytesLength_0 : cJ8_newBytesLength.data.toList.drop 0 = dktJ8_newBytesLength_0 := by decide +kernel
theorem dksJ8_newBytesLength_1 : cJ8_newBytesLength.data.toList.drop 22 = dktJ8_newBytesLength_1 := dk_seg dksJ8_newBytesLength_0 22 rfl rfl
theorem dksJ8_newBytesLength_2 : cJ8_newBytesLength.data.toList.drop 45 = dktJ8_newBytesLength_2 := dk_seg dksJ8_newBytesLength_1 23 rfl rfl
theorem dJ8_newBytesLength_0 : decode cJ8_newBytesLength 0 = .ok (.iload_n 0, 1) := dk_26 (dk_at dksJ8_newBytesLength_0 0 rfl rfl)
theorem dJ8_newBytesLength_1 : decode cJ8_newBytesLength 1 = .ok (.ifCond .ge 11, 3) := dk_156 0 11 (dk_at dksJ8_newBytesLength_0 1 rfl rfl)
theorem dJ8_newBytesLength_4 : decode cJ8_newBytesLength 4 = .ok (.new 17, 3) := dk_187 0 17 (dk_at dksJ8_newBytesLength_0 4 rfl rfl)
theorem dJ8_newBytesLength_7 : decode cJ8_newBytesLength 7 = .ok (.dup, 1) := dk_89 (dk_at dksJ8_newBytesLength_0 7 rfl rfl)
theorem dJ8_newBytesLength_8 : decode cJ8_newBytesLength 8 = .ok (.invokespecial 19, 3) := dk_183 0 19 (dk_at dksJ8_newBytesLength_0 8 rfl rfl)
theorem dJ8_newBytesLength_11 : decode cJ8_newBytesLength 11 = .ok (.athrow, 1) := dk_191 (dk_at dksJ8_newBytesLength_0 11 rfl rfl)
theorem dJ8_newBytesLength_12 : decode cJ8_newBytesLength 12 = .ok (.iload_n 0, 1) := dk_26 (dk_at dksJ8_newBytesLength_0 12 rfl rfl)
theorem dJ8_newBytesLength_13 : decode cJ8_newBytesLength 13 = .ok (.ldc 20, 2) := dk_18 20 (dk_at dksJ8_newBytesLength_0 13 rfl rfl)
theorem dJ8_newBytesLength_15 : decode cJ8_newBytesLength 15 = .ok (.if_icmp .lt 40, 3) := dk_161 0 40 (dk_at dksJ8_newBytesLength_0 15 rfl rfl)
theorem dJ8_newBytesLength_18 : decode cJ8_newBytesLength 18 = .ok (.new 21, 3) := dk_187 0 21 (dk_at dksJ8_newBytesLength_0 18 rfl rfl)
theorem dJ8_newBytesLength_21 : decode cJ8_newBytesLength 21 = .ok (.dup, 1) := dk_89 (dk_at dksJ8_newBytesLength_0 21 rfl rfl)
theorem dJ8_newBytesLength_22 : decode cJ8_newBytesLength 22 = .ok (.new 23, 3) := dk_187 0 23 (dk_at dksJ8_newBytesLength_1 0 rfl rfl)
theorem dJ8_newBytesLength_25 : decode cJ8_newBytesLength 25 = .ok (.dup, 1) := dk_89 (dk_at dksJ8_newBytesLength_1 3 rfl rfl)
theorem dJ8_newBytesLength_26 : decode cJ8_newBytesLength 26 = .ok (.invokespecial 25, 3) := dk_183 0 25 (dk_at dksJ8_newBytesLength_1 4 rfl rfl)
theorem dJ8_newBytesLength_29 : decode cJ8_newBytesLength 29 = .ok (.ldc 26, 2) := dk_18 26 (dk_at dksJ8_newBytesLength_1 7 rfl rfl)
theorem dJ8_newBytesLength_31 : decode cJ8_newBytesLength 31 = .ok (.invokevirtual 28, 3) := dk_182 0 28 (dk_at dksJ8_newBytesLength_1 9 rfl rfl)
theorem dJ8_newBytesLength_34 : decode cJ8_newBytesLength 34 = .ok (.iload_n 0, 1) := dk_26 (dk_at dksJ8_newBytesLength_1 12 rfl rfl)
theorem dJ8_newBytesLength_35 : decode cJ8_newBytesLength 35 = .ok (.invokevirtual 32, 3) := dk_182 0 32 (dk_at dksJ8_newBytesLength_1 13 rfl rfl)
theorem dJ8_newBytesLength_38 : decode cJ8_newBytesLength 38 = .ok (.ldc 35, 2) := dk_18 35 (dk_at dksJ8_newBytesLength_1 16 rfl rfl)
theorem dJ8_newBytesLength_40 : decode cJ8_newBytesLength 40 = .ok (.invokevirtual 28, 3) := dk_182 0 28 (dk_at dksJ8_newBytesLength_1 18 rfl rfl)
theorem dJ8_newBytesLength_43 : decode cJ8_newBytesLength 43 = .ok (.ldc 20, 2) := dk_18 20 (dk_at dksJ8_newBytesLength_1 21 rfl rfl)
theorem dJ8_newBytesLength_45 : decode cJ8_newBytesLength 45 = .ok (.invokevirtual 32, 3) := dk_182 0 32 (dk_at dksJ8_newBytesLength_2 0 rfl rfl)
theorem dJ8_newBytesLength_48 : decode cJ8_newBytesLength 48 = .ok (.invokevirtual 37, 3) := dk_182 0 37 (dk_at dksJ8_newBytesLength_2 3 rfl rfl)
theorem dJ8_newBytesLength_51 : decode cJ8_newBytesLength 51 = .ok (.invokespecial 41, 3) := dk_183 0 41 (dk_at dksJ8_newBytesLength_2 6 rfl rfl)
theorem dJ8_newBytesLength_54 : decode cJ8_newBytesLength 54 = .ok (.athrow, 1) := dk_191 (dk_at dksJ8_newBytesLength_2 9 rfl rfl)
theorem dJ8_newBytesLength_55 : decode cJ8_newBytesLength 55 = .ok (.iload_n 0, 1) := dk_26 (dk_at dksJ8_newBytesLength_2 10 rfl rfl)
theorem dJ8_newBytesLength_56 : decode cJ8_newBytesLength 56 = .ok (.iconst 1, 1) := dk_4 (dk_at dksJ8_newBytesLength_2 11 rfl rfl)
theorem dJ8_newBytesLength_57 : decode cJ8_newBytesLength 57 = .ok (.ishl, 1) := dk_120 (dk_at dksJ8_newBytesLength_2 12 rfl rfl)
theorem dJ8_newBytesLength_58 : decode cJ8_newBytesLength 58 = .ok (.ireturn, 1) := dk_172 (dk_at dksJ8_newBytesLength_2 13 rfl rfl)
abbrev cJ8_indexOf : ByteArray := prog_39_method_40_code
def yJ8_indexOf : MethodName := ⟨RJ8, "indexOf", "([BIII)I"⟩
def dkwJ8_indexOf_1 : List UInt8 := [18, 227, 162, 0, 11, 42, 27, 28, 29, 184, 0, 228, 172, 42, 27, 28, 29, 184, 0, 232, 172]
abbrev dktJ8_indexOf_1 : List UInt8 := dkwJ8_indexOf_1 ++ []
def dkwJ8_indexOf_0 : List UInt8 := [28, 3, 184, 0, 224, 61, 29, 42, 190, 4, 122, 184, 0, 183, 62, 28, 29, 161, 0, 5, 2, 172, 27]
abbrev dktJ8_indexOf_0 : List UInt8 := dkwJ8_indexOf_0 ++ dktJ8_indexOf_1
theorem dksJ8_indexOf_0 : cJ8_indexOf.data.toList.drop 0 = dktJ8_indexOf_0 := by decide +kernel
theorem dksJ8_indexOf_1 : cJ8_indexOf.data.toList.drop 23 = dktJ8_indexOf_1 := dk_seg dksJ8_indexOf_0 23 rfl rfl
theorem dJ8_indexOf_0 : decode cJ8_indexOf 0 = .ok (.iload_n 2, 1) := dk_28 (dk_at dksJ8_indexOf_0 0 rfl rfl)
theorem dJ8_indexOf_1 : decode cJ8_indexOf 1 = .ok (.iconst 0, 1) := dk_3 (dk_at dksJ8_indexOf_0 1 rfl rfl)
theorem dJ8_indexOf_2 : decode cJ8_indexOf 2 = .ok (.invokestatic 224, 3) := dk_184 0 224 (dk_at dksJ8_indexOf_0 2 rfl rfl)
theorem dJ8_indexOf_5 : decode cJ8_indexOf 5 = .ok (.istore_n 2, 1) := dk_61 (dk_at dksJ8_indexOf_0 5 rfl rfl)
theorem dJ8_indexOf_6 : decode cJ8_indexOf 6 = .ok (.iload_n 3, 1) := dk_29 (dk_at dksJ8_indexOf_0 6 rfl rfl)
theorem dJ8_indexOf_7 : decode cJ8_indexOf 7 = .ok (.aload_n 0, 1) := dk_42 (dk_at dksJ8_indexOf_0 7 rfl rfl)
theorem dJ8_indexOf_8 : decode cJ8_indexOf 8 = .ok (.arraylength, 1) := dk_190 (dk_at dksJ8_indexOf_0 8 rfl rfl)
theorem dJ8_indexOf_9 : decode cJ8_indexOf 9 = .ok (.iconst 1, 1) := dk_4 (dk_at dksJ8_indexOf_0 9 rfl rfl)
theorem dJ8_indexOf_10 : decode cJ8_indexOf 10 = .ok (.ishr, 1) := dk_122 (dk_at dksJ8_indexOf_0 10 rfl rfl)
theorem dJ8_indexOf_11 : decode cJ8_indexOf 11 = .ok (.invokestatic 183, 3) := dk_184 0 183 (dk_at dksJ8_indexOf_0 11 rfl rfl)
theorem dJ8_indexOf_14 : decode cJ8_indexOf 14 = .ok (.istore_n 3, 1) := dk_62 (dk_at dksJ8_indexOf_0 14 rfl rfl)
theorem dJ8_indexOf_15 : decode cJ8_indexOf 15 = .ok (.iload_n 2, 1) := dk_28 (dk_at dksJ8_indexOf_0 15 rfl rfl)
theorem dJ8_indexOf_16 : decode cJ8_indexOf 16 = .ok (.iload_n 3, 1) := dk_29 (dk_at dksJ8_indexOf_0 16 rfl rfl)
theorem dJ8_indexOf_17 : decode cJ8_indexOf 17 = .ok (.if_icmp .lt 5, 3) := dk_161 0 5 (dk_at dksJ8_indexOf_0 17 rfl rfl)
theorem dJ8_indexOf_20 : decode cJ8_indexOf 20 = .ok (.iconst (-1), 1) := dk_2 (dk_at dksJ8_indexOf_0 20 rfl rfl)
theorem dJ8_indexOf_21 : decode cJ8_indexOf 21 = .ok (.ireturn, 1) := dk_172 (dk_at dksJ8_indexOf_0 21 rfl rfl)
theorem dJ8_indexOf_22 : decode cJ8_indexOf 22 = .ok (.iload_n 1, 1) := dk_27 (dk_at dksJ8_indexOf_0 22 rfl rfl)
theorem dJ8_indexOf_23 : decode cJ8_indexOf 23 = .ok (.ldc 227, 2) := dk_18 227 (dk_at dksJ8_indexOf_1 0 rfl rfl)
theorem dJ8_indexOf_25 : decode cJ8_indexOf 25 = .ok (.if_icmp .ge 11, 3) := dk_162 0 11 (dk_at dksJ8_indexOf_1 2 rfl rfl)
theorem dJ8_indexOf_28 : decode cJ8_indexOf 28 = .ok (.aload_n 0, 1) := dk_42 (dk_at dksJ8_indexOf_1 5 rfl rfl)
theorem dJ8_indexOf_29 : decode cJ8_indexOf 29 = .ok (.iload_n 1, 1) := dk_27 (dk_at dksJ8_indexOf_1 6 rfl rfl)
theorem dJ8_indexOf_30 : decode cJ8_indexOf 30 = .ok (.iload_n 2, 1) := dk_28 (dk_at dksJ8_indexOf_1 7 rfl rfl)
theorem dJ8_indexOf_31 : decode cJ8_indexOf 31 = .ok (.iload_n 3, 1) := dk_29 (dk_at dksJ8_indexOf_1 8 rfl rfl)
theorem dJ8_indexOf_32 : decode cJ8_indexOf 32 = .ok (.invokestatic 228, 3) := dk_184 0 228 (dk_at dksJ8_indexOf_1 9 rfl rfl)
theorem dJ8_indexOf_35 : decode cJ8_indexOf 35 = .ok (.ireturn, 1) := dk_172 (dk_at dksJ8_indexOf_1 12 rfl rfl)
theorem dJ8_indexOf_36 : decode cJ8_indexOf 36 = .ok (.aload_n 0, 1) := dk_42 (dk_at dksJ8_indexOf_1 13 rfl rfl)
theorem dJ8_indexOf_37 : decode cJ8_indexOf 37 = .ok (.iload_n 1, 1) := dk_27 (dk_at dksJ8_indexOf_1 14 rfl rfl)
theorem dJ8_indexOf_38 : decode cJ8_indexOf 38 = .ok (.iload_n 2, 1) := dk_28 (dk_at dksJ8_indexOf_1 15 rfl rfl)
theorem dJ8_indexOf_39 : decode cJ8_indexOf 39 = .ok (.iload_n 3, 1) := dk_29 (dk_at dksJ8_indexOf_1 16 rfl rfl)
theorem dJ8_indexOf_40 : decode cJ8_indexOf 40 = .ok (.invokestatic 232, 3) := dk_184 0 232 (dk_at dksJ8_indexOf_1 17 rfl rfl)
theorem dJ8_indexOf_43 : decode cJ8_indexOf 43 = .ok (.ireturn, 1) := dk_172 (dk_at dksJ8_indexOf_1 20 rfl rfl)
abbrev cJ8_indexOfChar : ByteArray := prog_39_method_47_code
def yJ8_indexOfChar : MethodName := ⟨RJ8, "indexOfChar", "([BIII)I"⟩
def dkwJ8_indexOfChar_0 : List UInt8 := [28, 29, 42, 184, 0, 96, 42, 27, 28, 29, 184, 0, 244, 172]
abbrev dktJ8_indexOfChar_0 : List UInt8 := dkwJ8_indexOfChar_0 ++ []
theorem dksJ8_indexOfChar_0 : cJ8_indexOfChar.data.toList.drop 0 = dktJ8_indexOfChar_0 := by decide +kernel
theorem dJ8_indexOfChar_0 : decode cJ8_indexOfChar 0 = .ok (.iload_n 2, 1) := dk_28 (dk_at dksJ8_indexOfChar_0 0 rfl rfl)
theorem dJ8_indexOfChar_1 : decode cJ8_indexOfChar 1 = .ok (.iload_n 3, 1) := dk_29 (dk_at dksJ8_indexOfChar_0 1 rfl rfl)
theorem dJ8_indexOfChar_2 : decode cJ8_indexOfChar 2 = .ok (.aload_n 0, 1) := dk_42 (dk_at dksJ8_indexOfChar_0 2 rfl rfl)
theorem dJ8_indexOfChar_3 : decode cJ8_indexOfChar 3 = .ok (.invokestatic 96, 3) := dk_184 0 96 (dk_at dksJ8_indexOfChar_0 3 rfl rfl)
theorem dJ8_indexOfChar_6 : decode cJ8_indexOfChar 6 = .ok (.aload_n 0, 1) := dk_42 (dk_at dksJ8_indexOfChar_0 6 rfl rfl)
theorem dJ8_indexOfChar_7 : decode cJ8_indexOfChar 7 = .ok (.iload_n 1, 1) := dk_27 (dk_at dksJ8_indexOfChar_0 7 rfl rfl)
theorem dJ8_indexOfChar_8 : decode cJ8_indexOfChar 8 = .ok (.iload_n 2, 1) := dk_28 (dk_at dksJ8_indexOfChar_0 8 rfl rfl)
theorem dJ8_indexOfChar_9 : decode cJ8_indexOfChar 9 = .ok (.iload_n 3, 1) := dk_29 (dk_at dksJ8_indexOfChar_0 9 rfl rfl)
theorem dJ8_indexOfChar_10 : decode cJ8_indexOfChar 10 = .ok (.invokestatic 244, 3) := dk_184 0 244 (dk_at dksJ8_indexOfChar_0 10 rfl rfl)
theorem dJ8_indexOfChar_13 : decode cJ8_indexOfChar 13 = .ok (.ireturn, 1) := dk_172 (dk_at dksJ8_indexOfChar_0 13 rfl rfl)
abbrev cJ8_checkBoundsBeginEnd : ByteArray := prog_39_method_93_code
def yJ8_checkBoundsBeginEnd : MethodName := ⟨RJ8, "checkBoundsBeginEnd", "(II[B)V"⟩
def dkwJ8_checkBoundsBeginEnd_0 : List UInt8 := [26, 27, 44, 184, 0, 48, 184, 0, 241, 177]
abbrev dktJ8_checkBoundsBeginEnd_0 : List UInt8 := dkwJ8_checkBoundsBeginEnd_0 ++ []
theorem dksJ8_checkBoundsBeginEnd_0 : cJ8_checkBoundsBeginEnd.data.toList.drop 0 = dktJ8_checkBoundsBeginEnd_0 := by decide +kernel
theorem dJ8_checkBoundsBeginEnd_0 : decode cJ8_checkBoundsBeginEnd 0 = .ok (.iload_n 0, 1) := dk_26 (dk_at dksJ8_checkBoundsBeginEnd_0 0 rfl rfl)
theorem dJ8_checkBoundsBeginEnd_1 : decode cJ8_checkBoundsBeginEnd 1 = .ok (.iload_n 1, 1) := dk_27 (dk_at dksJ8_checkBoundsBeginEnd_0 1 rfl rfl)
theorem dJ8_checkBoundsBeginEnd_2 : decode cJ8_checkBoundsBeginEnd 2 = .ok (.aload_n 2, 1) := dk_44 (dk_at dksJ8_checkBoundsBeginEnd_0 2 rfl rfl)
theorem dJ8_checkBoundsBeginEnd_3 : decode cJ8_checkBoundsBeginEnd 3 = .ok (.invokestatic 48, 3) := dk_184 0 48 (dk_at dksJ8_checkBoundsBeginEnd_0 3 rfl rfl)
theorem dJ8_checkBoundsBeginEnd_6 : decode cJ8_checkBoundsBeginEnd 6 = .ok (.invokestatic 241, 3) := dk_184 0 241 (dk_at dksJ8_checkBoundsBeginEnd_0 6 rfl rfl)
theorem dJ8_checkBoundsBeginEnd_9 : decode cJ8_checkBoundsBeginEnd 9 = .ok (.return_, 1) := dk_177 (dk_at dksJ8_checkBoundsBeginEnd_0 9 rfl rfl)
abbrev cJ8_length : ByteArray := prog_39_method_6_code
def yJ8_length : MethodName := ⟨RJ8, "length", "([B)I"⟩
def dkwJ8_length_0 : List UInt8 := [42, 190, 4, 122, 172]
abbrev dktJ8_length_0 : List UInt8 := dkwJ8_length_0 ++ []
theorem dksJ8_length_0 : cJ8_length.data.toList.drop 0 = dktJ8_length_0 := by decide +kernel
theorem dJ8_length_0 : decode cJ8_length 0 = .ok (.aload_n 0, 1) := dk_42 (dk_at dksJ8_length_0 0 rfl rfl)
theorem dJ8_length_1 : decode cJ8_length 1 = .ok (.arraylength, 1) := dk_190 (dk_at dksJ8_length_0 1 rfl rfl)
theorem dJ8_length_2 : decode cJ8_length 2 = .ok (.iconst 1, 1) := dk_4 (dk_at dksJ8_length_0 2 rfl rfl)
theorem dJ8_length_3 : decode cJ8_length 3 = .ok (.ishr, 1) := dk_122 (dk_at dksJ8_length_0 3 rfl rfl)
theorem dJ8_length_4 : decode cJ8_length 4 = .ok (.ireturn, 1) := dk_172 (dk_at dksJ8_length_0 4 rfl rfl)
abbrev cJ8_indexOfCharUnsafe : ByteArray := prog_39_method_48_code
def yJ8_indexOfCharUnsafe : MethodName := ⟨RJ8, "indexOfCharUnsafe", "([BIII)I"⟩
def dkwJ8_indexOfCharUnsafe_1 : List UInt8 := [132, 4, 1, 167, 255, 234, 2, 172]
abbrev dktJ8_indexOfCharUnsafe_1 : List UInt8 := dkwJ8_indexOfCharUnsafe_1 ++ []
def dkwJ8_indexOfCharUnsafe_0 : List UInt8 := [28, 54, 4, 21, 4, 29, 162, 0, 22, 42, 21, 4, 184, 0, 71, 27, 160, 0, 6, 21, 4, 172]
abbrev dktJ8_indexOfCharUnsafe_0 : List UInt8 := dkwJ8_indexOfCharUnsafe_0 ++ dktJ8_indexOfCharUnsafe_1
theorem dksJ8_indexOfCharUnsafe_0 : cJ8_indexOfCharUnsafe.data.toList.drop 0 = dktJ8_indexOfCharUnsafe_0 := by decide +kernel
theorem dksJ8_indexOfCharUnsafe_1 : cJ8_indexOfCharUnsafe.data.toList.drop 22 = dktJ8_indexOfCharUnsafe_1 := dk_seg dksJ8_indexOfCharUnsafe_0 22 rfl rfl
theorem dJ8_indexOfCharUnsafe_0 : decode cJ8_indexOfCharUnsafe 0 = .ok (.iload_n 2, 1) := dk_28 (dk_at dksJ8_indexOfCharUnsafe_0 0 rfl rfl)
theorem dJ8_indexOfCharUnsafe_1 : decode cJ8_indexOfCharUnsafe 1 = .ok (.istore 4, 2) := dk_54 4 (dk_at dksJ8_indexOfCharUnsafe_0 1 rfl rfl)
theorem dJ8_indexOfCharUnsafe_3 : decode cJ8_indexOfCharUnsafe 3 = .ok (.iload 4, 2) := dk_21 4 (dk_at dksJ8_indexOfCharUnsafe_0 3 rfl rfl)
theorem dJ8_indexOfCharUnsafe_5 : decode cJ8_indexOfCharUnsafe 5 = .ok (.iload_n 3, 1) := dk_29 (dk_at dksJ8_indexOfCharUnsafe_0 5 rfl rfl)
theorem dJ8_indexOfCharUnsafe_6 : decode cJ8_indexOfCharUnsafe 6 = .ok (.if_icmp .ge 22, 3) := dk_162 0 22 (dk_at dksJ8_indexOfCharUnsafe_0 6 rfl rfl)
theorem dJ8_indexOfCharUnsafe_9 : decode cJ8_indexOfCharUnsafe 9 = .ok (.aload_n 0, 1) := dk_42 (dk_at dksJ8_indexOfCharUnsafe_0 9 rfl rfl)
theorem dJ8_indexOfCharUnsafe_10 : decode cJ8_indexOfCharUnsafe 10 = .ok (.iload 4, 2) := dk_21 4 (dk_at dksJ8_indexOfCharUnsafe_0 10 rfl rfl)
theorem dJ8_indexOfCharUnsafe_12 : decode cJ8_indexOfCharUnsafe 12 = .ok (.invokestatic 71, 3) := dk_184 0 71 (dk_at dksJ8_indexOfCharUnsafe_0 12 rfl rfl)
theorem dJ8_indexOfCharUnsafe_15 : decode cJ8_indexOfCharUnsafe 15 = .ok (.iload_n 1, 1) := dk_27 (dk_at dksJ8_indexOfCharUnsafe_0 15 rfl rfl)
theorem dJ8_indexOfCharUnsafe_16 : decode cJ8_indexOfCharUnsafe 16 = .ok (.if_icmp .ne 6, 3) := dk_160 0 6 (dk_at dksJ8_indexOfCharUnsafe_0 16 rfl rfl)
theorem dJ8_indexOfCharUnsafe_19 : decode cJ8_indexOfCharUnsafe 19 = .ok (.iload 4, 2) := dk_21 4 (dk_at dksJ8_indexOfCharUnsafe_0 19 rfl rfl)
theorem dJ8_indexOfCharUnsafe_21 : decode cJ8_indexOfCharUnsafe 21 = .ok (.ireturn, 1) := dk_172 (dk_at dksJ8_indexOfCharUnsafe_0 21 rfl rfl)
theorem dJ8_indexOfCharUnsafe_22 : decode cJ8_indexOfCharUnsafe 22 = .ok (.iinc 4 1, 3) := dk_132 4 1 (dk_at dksJ8_indexOfCharUnsafe_1 0 rfl rfl)
theorem dJ8_indexOfCharUnsafe_25 : decode cJ8_indexOfCharUnsafe 25 = .ok (.goto (-22), 3) := dk_167 255 234 (dk_at dksJ8_indexOfCharUnsafe_1 3 rfl rfl)
theorem dJ8_indexOfCharUnsafe_28 : decode cJ8_indexOfCharUnsafe 28 = .ok (.iconst (-1), 1) := dk_2 (dk_at dksJ8_indexOfCharUnsafe_1 6 rfl rfl)
theorem dJ8_indexOfCharUnsafe_29 : decode cJ8_indexOfCharUnsafe 29 = .ok (.ireturn, 1) := dk_172 (dk_at dksJ8_indexOfCharUnsafe_1 7 rfl rfl)
abbrev cJ8_getChar : ByteArray := prog_39_method_5_code
def yJ8_getChar : MethodName := ⟨RJ8, "getChar", "([BI)C"⟩
def dkwJ8_getChar_2 : List UInt8 := [51, 17, 0, 255, 126, 178, 0, 63, 120, 128, 146, 172]
abbrev dktJ8_getChar_2 : List UInt8 := dkwJ8_getChar_2 ++ []
def dkwJ8_getChar_1 : List UInt8 := [183, 0, 56, 191, 27, 4, 120, 60, 42, 27, 132, 1, 1, 51, 17, 0, 255, 126, 178, 0, 59, 120, 42, 27]
abbrev dktJ8_getChar_1 : List UInt8 := dkwJ8_getChar_1 ++ dktJ8_getChar_2
def dkwJ8_getChar_0 : List UInt8 := [178, 0, 44, 154, 0, 25, 27, 155, 0, 11, 27, 42, 184, 0, 48, 161, 0, 13, 187, 0, 52, 89, 18, 54]
abbrev dktJ8_getChar_0 : List UInt8 := dkwJ8_getChar_0 ++ dktJ8_getChar_1
theorem dksJ8_getChar_0 : cJ8_getChar.data.toList.drop 0 = dktJ8_getChar_0 := by decide +kernel
theorem dksJ8_getChar_1 : cJ8_getChar.data.toList.drop 24 = dktJ8_getChar_1 := dk_seg dksJ8_getChar_0 24 rfl rfl
theorem dksJ8_getChar_2 : cJ8_getChar.data.toList.drop 48 = dktJ8_getChar_2 := dk_seg dksJ8_getChar_1 24 rfl rfl
theorem dJ8_getChar_0 : decode cJ8_getChar 0 = .ok (.getstatic 44, 3) := dk_178 0 44 (dk_at dksJ8_getChar_0 0 rfl rfl)
theorem dJ8_getChar_3 : decode cJ8_getChar 3 = .ok (.ifCond .ne 25, 3) := dk_154 0 25 (dk_at dksJ8_getChar_0 3 rfl rfl)
theorem dJ8_getChar_6 : decode cJ8_getChar 6 = .ok (.iload_n 1, 1) := dk_27 (dk_at dksJ8_getChar_0 6 rfl rfl)
theorem dJ8_getChar_7 : decode cJ8_getChar 7 = .ok (.ifCond .lt 11, 3) := dk_155 0 11 (dk_at dksJ8_getChar_0 7 rfl rfl)
theorem dJ8_getChar_10 : decode cJ8_getChar 10 = .ok (.iload_n 1, 1) := dk_27 (dk_at dksJ8_getChar_0 10 rfl rfl)
theorem dJ8_getChar_11 : decode cJ8_getChar 11 = .ok (.aload_n 0, 1) := dk_42 (dk_at dksJ8_getChar_0 11 rfl rfl)
theorem dJ8_getChar_12 : decode cJ8_getChar 12 = .ok (.invokestatic 48, 3) := dk_184 0 48 (dk_at dksJ8_getChar_0 12 rfl rfl)
theorem dJ8_getChar_15 : decode cJ8_getChar 15 = .ok (.if_icmp .lt 13, 3) := dk_161 0 13 (dk_at dksJ8_getChar_0 15 rfl rfl)
theorem dJ8_getChar_18 : decode cJ8_getChar 18 = .ok (.new 52, 3) := dk_187 0 52 (dk_at dksJ8_getChar_0 18 rfl rfl)
theorem dJ8_getChar_21 : decode cJ8_getChar 21 = .ok (.dup, 1) := dk_89 (dk_at dksJ8_getChar_0 21 rfl rfl)
theorem dJ8_getChar_22 : decode cJ8_getChar 22 = .ok (.ldc 54, 2) := dk_18 54 (dk_at dksJ8_getChar_0 22 rfl rfl)
theorem dJ8_getChar_24 : decode cJ8_getChar 24 = .ok (.invokespecial 56, 3) := dk_183 0 56 (dk_at dksJ8_getChar_1 0 rfl rfl)
theorem dJ8_getChar_27 : decode cJ8_getChar 27 = .ok (.athrow, 1) := dk_191 (dk_at dksJ8_getChar_1 3 rfl rfl)
theorem dJ8_getChar_28 : decode cJ8_getChar 28 = .ok (.iload_n 1, 1) := dk_27 (dk_at dksJ8_getChar_1 4 rfl rfl)
theorem dJ8_getChar_29 : decode cJ8_getChar 29 = .ok (.iconst 1, 1) := dk_4 (dk_at dksJ8_getChar_1 5 rfl rfl)
theorem dJ8_getChar_30 : decode cJ8_getChar 30 = .ok (.ishl, 1) := dk_120 (dk_at dksJ8_getChar_1 6 rfl rfl)
theorem dJ8_getChar_31 : decode cJ8_getChar 31 = .ok (.istore_n 1, 1) := dk_60 (dk_at dksJ8_getChar_1 7 rfl rfl)
theorem dJ8_getChar_32 : decode cJ8_getChar 32 = .ok (.aload_n 0, 1) := dk_42 (dk_at dksJ8_getChar_1 8 rfl rfl)
theorem dJ8_getChar_33 : decode cJ8_getChar 33 = .ok (.iload_n 1, 1) := dk_27 (dk_at dksJ8_getChar_1 9 rfl rfl)
theorem dJ8_getChar_34 : decode cJ8_getChar 34 = .ok (.iinc 1 1, 3) := dk_132 1 1 (dk_at dksJ8_getChar_1 10 rfl rfl)
theorem dJ8_getChar_37 : decode cJ8_getChar 37 = .ok (.baload, 1) := dk_51 (dk_at dksJ8_getChar_1 13 rfl rfl)
theorem dJ8_getChar_38 : decode cJ8_getChar 38 = .ok (.sipush 255, 3) := dk_17 0 255 (dk_at dksJ8_getChar_1 14 rfl rfl)
theorem dJ8_getChar_41 : decode cJ8_getChar 41 = .ok (.iand, 1) := dk_126 (dk_at dksJ8_getChar_1 17 rfl rfl)
theorem dJ8_getChar_42 : decode cJ8_getChar 42 = .ok (.getstatic 59, 3) := dk_178 0 59 (dk_at dksJ8_getChar_1 18 rfl rfl)
theorem dJ8_getChar_45 : decode cJ8_getChar 45 = .ok (.ishl, 1) := dk_120 (dk_at dksJ8_getChar_1 21 rfl rfl)
theorem dJ8_getChar_46 : decode cJ8_getChar 46 = .ok (.aload_n 0, 1) := dk_42 (dk_at dksJ8_getChar_1 22 rfl rfl)
theorem dJ8_getChar_47 : decode cJ8_getChar 47 = .ok (.iload_n 1, 1) := dk_27 (dk_at dksJ8_getChar_1 23 rfl rfl)
theorem dJ8_getChar_48 : decode cJ8_getChar 48 = .ok (.baload, 1) := dk_51 (dk_at dksJ8_getChar_2 0 rfl rfl)
theorem dJ8_getChar_49 : decode cJ8_getChar 49 = .ok (.sipush 255, 3) := dk_17 0 255 (dk_at dksJ8_getChar_2 1 rfl rfl)
theorem dJ8_getChar_52 : decode cJ8_getChar 52 = .ok (.iand, 1) := dk_126 (dk_at dksJ8_getChar_2 4 rfl rfl)
theorem dJ8_getChar_53 : decode cJ8_getChar 53 = .ok (.getstatic 63, 3) := dk_178 0 63 (dk_at dksJ8_getChar_2 5 rfl rfl)
theorem dJ8_getChar_56 : decode cJ8_getChar 56 = .ok (.ishl, 1) := dk_120 (dk_at dksJ8_getChar_2 8 rfl rfl)
theorem dJ8_getChar_57 : decode cJ8_getChar 57 = .ok (.ior, 1) := dk_128 (dk_at dksJ8_getChar_2 9 rfl rfl)
theorem dJ8_getChar_58 : decode cJ8_getChar 58 = .ok (.i2c, 1) := dk_146 (dk_at dksJ8_getChar_2 10 rfl rfl)
theorem dJ8_getChar_59 : decode cJ8_getChar 59 = .ok (.ireturn, 1) := dk_172 (dk_at dksJ8_getChar_2 11 rfl rfl)
abbrev cJ8_indexOfSupplementary : ByteArray := prog_39_method_49_code
def yJ8_indexOfSupplementary : MethodName := ⟨RJ8, "indexOfSupplementary", "([BIII)I"⟩
def dkwJ8_indexOfSupplementary_3 : List UInt8 := [167, 255, 218, 2, 172]
abbrev dktJ8_indexOfSupplementary_3 : List UInt8 := dkwJ8_indexOfSupplementary_3 ++ []
def dkwJ8_indexOfSupplementary_2 : List UInt8 := [160, 0, 19, 42, 21, 6, 4, 96, 184, 0, 71, 21, 5, 160, 0, 6, 21, 6, 172, 132, 6, 1]
abbrev dktJ8_indexOfSupplementary_2 : List UInt8 := dkwJ8_indexOfSupplementary_2 ++ dktJ8_indexOfSupplementary_3
def dkwJ8_indexOfSupplementary_1 : List UInt8 := [184, 0, 96, 28, 54, 6, 21, 6, 29, 4, 100, 162, 0, 36, 42, 21, 6, 184, 0, 71, 21, 4]
abbrev dktJ8_indexOfSupplementary_1 : List UInt8 := dkwJ8_indexOfSupplementary_1 ++ dktJ8_indexOfSupplementary_2
def dkwJ8_indexOfSupplementary_0 : List UInt8 := [27, 184, 0, 164, 153, 0, 65, 27, 184, 0, 157, 54, 4, 27, 184, 0, 161, 54, 5, 28, 29, 42]
abbrev dktJ8_indexOfSupplementary_0 : List UInt8 := dkwJ8_indexOfSupplementary_0 ++ dktJ8_indexOfSupplementary_1
theorem dksJ8_indexOfSupplementary_0 : cJ8_indexOfSupplementary.data.toList.drop 0 = dktJ8_indexOfSupplementary_0 := by decide +kernel
theorem dksJ8_indexOfSupplementary_1 : cJ8_indexOfSupplementary.data.toList.drop 22 = dktJ8_indexOfSupplementary_1 := dk_seg dksJ8_indexOfSupplementary_0 22 rfl rfl
theorem dksJ8_indexOfSupplementary_2 : cJ8_indexOfSupplementary.data.toList.drop 44 = dktJ8_indexOfSupplementary_2 := dk_seg dksJ8_indexOfSupplementary_1 22 rfl rfl
theorem dksJ8_indexOfSupplementary_3 : cJ8_indexOfSupplementary.data.toList.drop 66 = dktJ8_indexOfSupplementary_3 := dk_seg dksJ8_indexOfSupplementary_2 22 rfl rfl
theorem dJ8_indexOfSupplementary_0 : decode cJ8_indexOfSupplementary 0 = .ok (.iload_n 1, 1) := dk_27 (dk_at dksJ8_indexOfSupplementary_0 0 rfl rfl)
theorem dJ8_indexOfSupplementary_1 : decode cJ8_indexOfSupplementary 1 = .ok (.invokestatic 164, 3) := dk_184 0 164 (dk_at dksJ8_indexOfSupplementary_0 1 rfl rfl)
theorem dJ8_indexOfSupplementary_4 : decode cJ8_indexOfSupplementary 4 = .ok (.ifCond .eq 65, 3) := dk_153 0 65 (dk_at dksJ8_indexOfSupplementary_0 4 rfl rfl)
theorem dJ8_indexOfSupplementary_7 : decode cJ8_indexOfSupplementary 7 = .ok (.iload_n 1, 1) := dk_27 (dk_at dksJ8_indexOfSupplementary_0 7 rfl rfl)
theorem dJ8_indexOfSupplementary_8 : decode cJ8_indexOfSupplementary 8 = .ok (.invokestatic 157, 3) := dk_184 0 157 (dk_at dksJ8_indexOfSupplementary_0 8 rfl rfl)
theorem dJ8_indexOfSupplementary_11 : decode cJ8_indexOfSupplementary 11 = .ok (.istore 4, 2) := dk_54 4 (dk_at dksJ8_indexOfSupplementary_0 11 rfl rfl)
theorem dJ8_indexOfSupplementary_13 : decode cJ8_indexOfSupplementary 13 = .ok (.iload_n 1, 1) := dk_27 (dk_at dksJ8_indexOfSupplementary_0 13 rfl rfl)
theorem dJ8_indexOfSupplementary_14 : decode cJ8_indexOfSupplementary 14 = .ok (.invokestatic 161, 3) := dk_184 0 161 (dk_at dksJ8_indexOfSupplementary_0 14 rfl rfl)
theorem dJ8_indexOfSupplementary_17 : decode cJ8_indexOfSupplementary 17 = .ok (.istore 5, 2) := dk_54 5 (dk_at dksJ8_indexOfSupplementary_0 17 rfl rfl)
theorem dJ8_indexOfSupplementary_19 : decode cJ8_indexOfSupplementary 19 = .ok (.iload_n 2, 1) := dk_28 (dk_at dksJ8_indexOfSupplementary_0 19 rfl rfl)
theorem dJ8_indexOfSupplementary_20 : decode cJ8_indexOfSupplementary 20 = .ok (.iload_n 3, 1) := dk_29 (dk_at dksJ8_indexOfSupplementary_0 20 rfl rfl)
theorem dJ8_indexOfSupplementary_21 : decode cJ8_indexOfSupplementary 21 = .ok (.aload_n 0, 1) := dk_42 (dk_at dksJ8_indexOfSupplementary_0 21 rfl rfl)
theorem dJ8_indexOfSupplementary_22 : decode cJ8_indexOfSupplementary 22 = .ok (.invokestatic 96, 3) := dk_184 0 96 (dk_at dksJ8_indexOfSupplementary_1 0 rfl rfl)
theorem dJ8_indexOfSupplementary_25 : decode cJ8_indexOfSupplementary 25 = .ok (.iload_n 2, 1) := dk_28 (dk_at dksJ8_indexOfSupplementary_1 3 rfl rfl)
theorem dJ8_indexOfSupplementary_26 : decode cJ8_indexOfSupplementary 26 = .ok (.istore 6, 2) := dk_54 6 (dk_at dksJ8_indexOfSupplementary_1 4 rfl rfl)
theorem dJ8_indexOfSupplementary_28 : decode cJ8_indexOfSupplementary 28 = .ok (.iload 6, 2) := dk_21 6 (dk_at dksJ8_indexOfSupplementary_1 6 rfl rfl)
theorem dJ8_indexOfSupplementary_30 : decode cJ8_indexOfSupplementary 30 = .ok (.iload_n 3, 1) := dk_29 (dk_at dksJ8_indexOfSupplementary_1 8 rfl rfl)
theorem dJ8_indexOfSupplementary_31 : decode cJ8_indexOfSupplementary 31 = .ok (.iconst 1, 1) := dk_4 (dk_at dksJ8_indexOfSupplementary_1 9 rfl rfl)
theorem dJ8_indexOfSupplementary_32 : decode cJ8_indexOfSupplementary 32 = .ok (.isub, 1) := dk_100 (dk_at dksJ8_indexOfSupplementary_1 10 rfl rfl)
theorem dJ8_indexOfSupplementary_33 : decode cJ8_indexOfSupplementary 33 = .ok (.if_icmp .ge 36, 3) := dk_162 0 36 (dk_at dksJ8_indexOfSupplementary_1 11 rfl rfl)
theorem dJ8_indexOfSupplementary_36 : decode cJ8_indexOfSupplementary 36 = .ok (.aload_n 0, 1) := dk_42 (dk_at dksJ8_indexOfSupplementary_1 14 rfl rfl)
theorem dJ8_indexOfSupplementary_37 : decode cJ8_indexOfSupplementary 37 = .ok (.iload 6, 2) := dk_21 6 (dk_at dksJ8_indexOfSupplementary_1 15 rfl rfl)
theorem dJ8_indexOfSupplementary_39 : decode cJ8_indexOfSupplementary 39 = .ok (.invokestatic 71, 3) := dk_184 0 71 (dk_at dksJ8_indexOfSupplementary_1 17 rfl rfl)
theorem dJ8_indexOfSupplementary_42 : decode cJ8_indexOfSupplementary 42 = .ok (.iload 4, 2) := dk_21 4 (dk_at dksJ8_indexOfSupplementary_1 20 rfl rfl)
theorem dJ8_indexOfSupplementary_44 : decode cJ8_indexOfSupplementary 44 = .ok (.if_icmp .ne 19, 3) := dk_160 0 19 (dk_at dksJ8_indexOfSupplementary_2 0 rfl rfl)
theorem dJ8_indexOfSupplementary_47 : decode cJ8_indexOfSupplementary 47 = .ok (.aload_n 0, 1) := dk_42 (dk_at dksJ8_indexOfSupplementary_2 3 rfl rfl)
theorem dJ8_indexOfSupplementary_48 : decode cJ8_indexOfSupplementary 48 = .ok (.iload 6, 2) := dk_21 6 (dk_at dksJ8_indexOfSupplementary_2 4 rfl rfl)
theorem dJ8_indexOfSupplementary_50 : decode cJ8_indexOfSupplementary 50 = .ok (.iconst 1, 1) := dk_4 (dk_at dksJ8_indexOfSupplementary_2 6 rfl rfl)
theorem dJ8_indexOfSupplementary_51 : decode cJ8_indexOfSupplementary 51 = .ok (.iadd, 1) := dk_96 (dk_at dksJ8_indexOfSupplementary_2 7 rfl rfl)
theorem dJ8_indexOfSupplementary_52 : decode cJ8_indexOfSupplementary 52 = .ok (.invokestatic 71, 3) := dk_184 0 71 (dk_at dksJ8_indexOfSupplementary_2 8 rfl rfl)
theorem dJ8_indexOfSupplementary_55 : decode cJ8_indexOfSupplementary 55 = .ok (.iload 5, 2) := dk_21 5 (dk_at dksJ8_indexOfSupplementary_2 11 rfl rfl)
theorem dJ8_indexOfSupplementary_57 : decode cJ8_indexOfSupplementary 57 = .ok (.if_icmp .ne 6, 3) := dk_160 0 6 (dk_at dksJ8_indexOfSupplementary_2 13 rfl rfl)
theorem dJ8_indexOfSupplementary_60 : decode cJ8_indexOfSupplementary 60 = .ok (.iload 6, 2) := dk_21 6 (dk_at dksJ8_indexOfSupplementary_2 16 rfl rfl)
theorem dJ8_indexOfSupplementary_62 : decode cJ8_indexOfSupplementary 62 = .ok (.ireturn, 1) := dk_172 (dk_at dksJ8_indexOfSupplementary_2 18 rfl rfl)
theorem dJ8_indexOfSupplementary_63 : decode cJ8_indexOfSupplementary 63 = .ok (.iinc 6 1, 3) := dk_132 6 1 (dk_at dksJ8_indexOfSupplementary_2 19 rfl rfl)
theorem dJ8_indexOfSupplementary_66 : decode cJ8_indexOfSupplementary 66 = .ok (.goto (-38), 3) := dk_167 255 218 (dk_at dksJ8_indexOfSupplementary_3 0 rfl rfl)
theorem dJ8_indexOfSupplementary_69 : decode cJ8_indexOfSupplementary 69 = .ok (.iconst (-1), 1) := dk_2 (dk_at dksJ8_indexOfSupplementary_3 3 rfl rfl)
theorem dJ8_indexOfSupplementary_70 : decode cJ8_indexOfSupplementary 70 = .ok (.ireturn, 1) := dk_172 (dk_at dksJ8_indexOfSupplementary_3 4 rfl rfl)
abbrev cJ8_getChars : ByteArray := prog_39_method_77_code
def yJ8_getChars : MethodName := ⟨RJ8, "getChars", "(III[B)I"⟩
def dkwJ8_getChars_1 : List UInt8 := [159, 0, 11, 187, 0, 52, 89, 183, 0, 66, 191, 21, 4, 172]
abbrev dktJ8_getChars_1 : List UInt8 := dkwJ8_getChars_1 ++ []
def dkwJ8_getChars_0 : List UInt8 := [27, 28, 45, 184, 0, 96, 26, 28, 45, 184, 1, 137, 54, 4, 178, 0, 44, 154, 0, 17, 27, 21, 4]
abbrev dktJ8_getChars_0 : List UInt8 := dkwJ8_getChars_0 ++ dktJ8_getChars_1
theorem dksJ8_getChars_0 : cJ8_getChars.data.toList.drop 0 = dktJ8_getChars_0 := by decide +kernel
theorem dksJ8_getChars_1 : cJ8_getChars.data.toList.drop 23 = dktJ8_getChars_1 := dk_seg dksJ8_getChars_0 23 rfl rfl
theorem dJ8_getChars_0 : decode cJ8_getChars 0 = .ok (.iload_n 1, 1) := dk_27 (dk_at dksJ8_getChars_0 0 rfl rfl)
theorem dJ8_getChars_1 : decode cJ8_getChars 1 = .ok (.iload_n 2, 1) := dk_28 (dk_at dksJ8_getChars_0 1 rfl rfl)
theorem dJ8_getChars_2 : decode cJ8_getChars 2 = .ok (.aload_n 3, 1) := dk_45 (dk_at dksJ8_getChars_0 2 rfl rfl)
theorem dJ8_getChars_3 : decode cJ8_getChars 3 = .ok (.invokestatic 96, 3) := dk_184 0 96 (dk_at dksJ8_getChars_0 3 rfl rfl)
theorem dJ8_getChars_6 : decode cJ8_getChars 6 = .ok (.iload_n 0, 1) := dk_26 (dk_at dksJ8_getChars_0 6 rfl rfl)
theorem dJ8_getChars_7 : decode cJ8_getChars 7 = .ok (.iload_n 2, 1) := dk_28 (dk_at dksJ8_getChars_0 7 rfl rfl)
theorem dJ8_getChars_8 : decode cJ8_getChars 8 = .ok (.aload_n 3, 1) := dk_45 (dk_at dksJ8_getChars_0 8 rfl rfl)
theorem dJ8_getChars_9 : decode cJ8_getChars 9 = .ok (.invokestatic 393, 3) := dk_184 1 137 (dk_at dksJ8_getChars_0 9 rfl rfl)
theorem dJ8_getChars_12 : decode cJ8_getChars 12 = .ok (.istore 4, 2) := dk_54 4 (dk_at dksJ8_getChars_0 12 rfl rfl)
theorem dJ8_getChars_14 : decode cJ8_getChars 14 = .ok (.getstatic 44, 3) := dk_178 0 44 (dk_at dksJ8_getChars_0 14 rfl rfl)
theorem dJ8_getChars_17 : decode cJ8_getChars 17 = .ok (.ifCond .ne 17, 3) := dk_154 0 17 (dk_at dksJ8_getChars_0 17 rfl rfl)
theorem dJ8_getChars_20 : decode cJ8_getChars 20 = .ok (.iload_n 1, 1) := dk_27 (dk_at dksJ8_getChars_0 20 rfl rfl)
theorem dJ8_getChars_21 : decode cJ8_getChars 21 = .ok (.iload 4, 2) := dk_21 4 (dk_at dksJ8_getChars_0 21 rfl rfl)
theorem dJ8_getChars_23 : decode cJ8_getChars 23 = .ok (.if_icmp .eq 11, 3) := dk_159 0 11 (dk_at dksJ8_getChars_1 0 rfl rfl)
theorem dJ8_getChars_26 : decode cJ8_getChars 26 = .ok (.new 52, 3) := dk_187 0 52 (dk_at dksJ8_getChars_1 3 rfl rfl)
theorem dJ8_getChars_29 : decode cJ8_getChars 29 = .ok (.dup, 1) := dk_89 (dk_at dksJ8_getChars_1 6 rfl rfl)
theorem dJ8_getChars_30 : decode cJ8_getChars 30 = .ok (.invokespecial 66, 3) := dk_183 0 66 (dk_at dksJ8_getChars_1 7 rfl rfl)
theorem dJ8_getChars_33 : decode cJ8_getChars 33 = .ok (.athrow, 1) := dk_191 (dk_at dksJ8_getChars_1 10 rfl rfl)
theorem dJ8_getChars_34 : decode cJ8_getChars 34 = .ok (.iload 4, 2) := dk_21 4 (dk_at dksJ8_getChars_1 11 rfl rfl)
theorem dJ8_getChars_36 : decode cJ8_getChars 36 = .ok (.ireturn, 1) := dk_172 (dk_at dksJ8_getChars_1 13 rfl rfl)
abbrev cJ8_getChars_2 : ByteArray := prog_39_method_89_code
def yJ8_getChars_2 : MethodName := ⟨RJ8, "getChars", "(II[B)I"⟩
def dkwJ8_getChars_2_5 : List UInt8 := [132, 5, 255, 21, 5, 16, 45, 184, 0, 111, 21, 5, 172]
abbrev dktJ8_getChars_2_5 : List UInt8 := dkwJ8_getChars_2_5 ++ []
def dkwJ8_getChars_2_4 : List UInt8 := [162, 0, 18, 44, 132, 5, 255, 21, 5, 178, 1, 151, 26, 116, 51, 184, 0, 111, 21, 6, 153, 0, 14, 44]
abbrev dktJ8_getChars_2_4 : List UInt8 := dkwJ8_getChars_2_4 ++ dktJ8_getChars_2_5
def dkwJ8_getChars_2_3 : List UInt8 := [184, 0, 111, 167, 255, 205, 44, 132, 5, 255, 21, 5, 178, 1, 147, 26, 116, 51, 184, 0, 111, 26, 16, 247]
abbrev dktJ8_getChars_2_3 : List UInt8 := dkwJ8_getChars_2_3 ++ dktJ8_getChars_2_4
def dkwJ8_getChars_2_2 : List UInt8 := [21, 5, 178, 1, 147, 21, 4, 51, 184, 0, 111, 44, 132, 5, 255, 21, 5, 178, 1, 151, 21, 4, 51]
abbrev dktJ8_getChars_2_2 : List UInt8 := dkwJ8_getChars_2_2 ++ dktJ8_getChars_2_3
def dkwJ8_getChars_2_1 : List UInt8 := [16, 156, 163, 0, 51, 26, 16, 100, 108, 62, 29, 16, 100, 104, 26, 100, 54, 4, 29, 59, 44, 132, 5, 255]
abbrev dktJ8_getChars_2_1 : List UInt8 := dkwJ8_getChars_2_1 ++ dktJ8_getChars_2_2
def dkwJ8_getChars_2_0 : List UInt8 := [27, 54, 5, 26, 156, 0, 7, 4, 167, 0, 4, 3, 54, 6, 21, 6, 154, 0, 6, 26, 116, 59, 26]
abbrev dktJ8_getChars_2_0 : List UInt8 := dkwJ8_getChars_2_0 ++ dktJ8_getChars_2_1
theorem dksJ8_getChars_2_0 : cJ8_getChars_2.data.toList.drop 0 = dktJ8_getChars_2_0 := by decide +kernel
theorem dksJ8_getChars_2_1 : cJ8_getChars_2.data.toList.drop 23 = dktJ8_getChars_2_1 := dk_seg dksJ8_getChars_2_0 23 rfl rfl
theorem dksJ8_getChars_2_2 : cJ8_getChars_2.data.toList.drop 47 = dktJ8_getChars_2_2 := dk_seg dksJ8_getChars_2_1 24 rfl rfl
theorem dksJ8_getChars_2_3 : cJ8_getChars_2.data.toList.drop 70 = dktJ8_getChars_2_3 := dk_seg dksJ8_getChars_2_2 23 rfl rfl
theorem dksJ8_getChars_2_4 : cJ8_getChars_2.data.toList.drop 94 = dktJ8_getChars_2_4 := dk_seg dksJ8_getChars_2_3 24 rfl rfl
theorem dksJ8_getChars_2_5 : cJ8_getChars_2.data.toList.drop 118 = dktJ8_getChars_2_5 := dk_seg dksJ8_getChars_2_4 24 rfl rfl
theorem dJ8_getChars_2_0 : decode cJ8_getChars_2 0 = .ok (.iload_n 1, 1) := dk_27 (dk_at dksJ8_getChars_2_0 0 rfl rfl)
theorem dJ8_getChars_2_1 : decode cJ8_getChars_2 1 = .ok (.istore 5, 2) := dk_54 5 (dk_at dksJ8_getChars_2_0 1 rfl rfl)
theorem dJ8_getChars_2_3 : decode cJ8_getChars_2 3 = .ok (.iload_n 0, 1) := dk_26 (dk_at dksJ8_getChars_2_0 3 rfl rfl)
theorem dJ8_getChars_2_4 : decode cJ8_getChars_2 4 = .ok (.ifCond .ge 7, 3) := dk_156 0 7 (dk_at dksJ8_getChars_2_0 4 rfl rfl)
theorem dJ8_getChars_2_7 : decode cJ8_getChars_2 7 = .ok (.iconst 1, 1) := dk_4 (dk_at dksJ8_getChars_2_0 7 rfl rfl)
theorem dJ8_getChars_2_8 : decode cJ8_getChars_2 8 = .ok (.goto 4, 3) := dk_167 0 4 (dk_at dksJ8_getChars_2_0 8 rfl rfl)
theorem dJ8_getChars_2_11 : decode cJ8_getChars_2 11 = .ok (.iconst 0, 1) := dk_3 (dk_at dksJ8_getChars_2_0 11 rfl rfl)
theorem dJ8_getChars_2_12 : decode cJ8_getChars_2 12 = .ok (.istore 6, 2) := dk_54 6 (dk_at dksJ8_getChars_2_0 12 rfl rfl)
theorem dJ8_getChars_2_14 : decode cJ8_getChars_2 14 = .ok (.iload 6, 2) := dk_21 6 (dk_at dksJ8_getChars_2_0 14 rfl rfl)
theorem dJ8_getChars_2_16 : decode cJ8_getChars_2 16 = .ok (.ifCond .ne 6, 3) := dk_154 0 6 (dk_at dksJ8_getChars_2_0 16 rfl rfl)
theorem dJ8_getChars_2_19 : decode cJ8_getChars_2 19 = .ok (.iload_n 0, 1) := dk_26 (dk_at dksJ8_getChars_2_0 19 rfl rfl)
theorem dJ8_getChars_2_20 : decode cJ8_getChars_2 20 = .ok (.ineg, 1) := dk_116 (dk_at dksJ8_getChars_2_0 20 rfl rfl)
theorem dJ8_getChars_2_21 : decode cJ8_getChars_2 21 = .ok (.istore_n 0, 1) := dk_59 (dk_at dksJ8_getChars_2_0 21 rfl rfl)
theorem dJ8_getChars_2_22 : decode cJ8_getChars_2 22 = .ok (.iload_n 0, 1) := dk_26 (dk_at dksJ8_getChars_2_0 22 rfl rfl)
theorem dJ8_getChars_2_23 : decode cJ8_getChars_2 23 = .ok (.bipush (-100), 2) := dk_16 156 (dk_at dksJ8_getChars_2_1 0 rfl rfl)
theorem dJ8_getChars_2_25 : decode cJ8_getChars_2 25 = .ok (.if_icmp .gt 51, 3) := dk_163 0 51 (dk_at dksJ8_getChars_2_1 2 rfl rfl)
theorem dJ8_getChars_2_28 : decode cJ8_getChars_2 28 = .ok (.iload_n 0, 1) := dk_26 (dk_at dksJ8_getChars_2_1 5 rfl rfl)
theorem dJ8_getChars_2_29 : decode cJ8_getChars_2 29 = .ok (.bipush 100, 2) := dk_16 100 (dk_at dksJ8_getChars_2_1 6 rfl rfl)
theorem dJ8_getChars_2_31 : decode cJ8_getChars_2 31 = .ok (.idiv, 1) := dk_108 (dk_at dksJ8_getChars_2_1 8 rfl rfl)
theorem dJ8_getChars_2_32 : decode cJ8_getChars_2 32 = .ok (.istore_n 3, 1) := dk_62 (dk_at dksJ8_getChars_2_1 9 rfl rfl)
theorem dJ8_getChars_2_33 : decode cJ8_getChars_2 33 = .ok (.iload_n 3, 1) := dk_29 (dk_at dksJ8_getChars_2_1 10 rfl rfl)
theorem dJ8_getChars_2_34 : decode cJ8_getChars_2 34 = .ok (.bipush 100, 2) := dk_16 100 (dk_at dksJ8_getChars_2_1 11 rfl rfl)
theorem dJ8_getChars_2_36 : decode cJ8_getChars_2 36 = .ok (.imul, 1) := dk_104 (dk_at dksJ8_getChars_2_1 13 rfl rfl)
theorem dJ8_getChars_2_37 : decode cJ8_getChars_2 37 = .ok (.iload_n 0, 1) := dk_26 (dk_at dksJ8_getChars_2_1 14 rfl rfl)
theorem dJ8_getChars_2_38 : decode cJ8_getChars_2 38 = .ok (.isub, 1) := dk_100 (dk_at dksJ8_getChars_2_1 15 rfl rfl)
theorem dJ8_getChars_2_39 : decode cJ8_getChars_2 39 = .ok (.istore 4, 2) := dk_54 4 (dk_at dksJ8_getChars_2_1 16 rfl rfl)
theorem dJ8_getChars_2_41 : decode cJ8_getChars_2 41 = .ok (.iload_n 3, 1) := dk_29 (dk_at dksJ8_getChars_2_1 18 rfl rfl)
theorem dJ8_getChars_2_42 : decode cJ8_getChars_2 42 = .ok (.istore_n 0, 1) := dk_59 (dk_at dksJ8_getChars_2_1 19 rfl rfl)
theorem dJ8_getChars_2_43 : decode cJ8_getChars_2 43 = .ok (.aload_n 2, 1) := dk_44 (dk_at dksJ8_getChars_2_1 20 rfl rfl)
theorem dJ8_getChars_2_44 : decode cJ8_getChars_2 44 = .ok (.iinc 5 (-1), 3) := dk_132 5 255 (dk_at dksJ8_getChars_2_1 21 rfl rfl)
theorem dJ8_getChars_2_47 : decode cJ8_getChars_2 47 = .ok (.iload 5, 2) := dk_21 5 (dk_at dksJ8_getChars_2_2 0 rfl rfl)
theorem dJ8_getChars_2_49 : decode cJ8_getChars_2 49 = .ok (.getstatic 403, 3) := dk_178 1 147 (dk_at dksJ8_getChars_2_2 2 rfl rfl)
theorem dJ8_getChars_2_52 : decode cJ8_getChars_2 52 = .ok (.iload 4, 2) := dk_21 4 (dk_at dksJ8_getChars_2_2 5 rfl rfl)
theorem dJ8_getChars_2_54 : decode cJ8_getChars_2 54 = .ok (.baload, 1) := dk_51 (dk_at dksJ8_getChars_2_2 7 rfl rfl)
theorem dJ8_getChars_2_55 : decode cJ8_getChars_2 55 = .ok (.invokestatic 111, 3) := dk_184 0 111 (dk_at dksJ8_getChars_2_2 8 rfl rfl)
theorem dJ8_getChars_2_58 : decode cJ8_getChars_2 58 = .ok (.aload_n 2, 1) := dk_44 (dk_at dksJ8_getChars_2_2 11 rfl rfl)
theorem dJ8_getChars_2_59 : decode cJ8_getChars_2 59 = .ok (.iinc 5 (-1), 3) := dk_132 5 255 (dk_at dksJ8_getChars_2_2 12 rfl rfl)
theorem dJ8_getChars_2_62 : decode cJ8_getChars_2 62 = .ok (.iload 5, 2) := dk_21 5 (dk_at dksJ8_getChars_2_2 15 rfl rfl)
theorem dJ8_getChars_2_64 : decode cJ8_getChars_2 64 = .ok (.getstatic 407, 3) := dk_178 1 151 (dk_at dksJ8_getChars_2_2 17 rfl rfl)
theorem dJ8_getChars_2_67 : decode cJ8_getChars_2 67 = .ok (.iload 4, 2) := dk_21 4 (dk_at dksJ8_getChars_2_2 20 rfl rfl)
theorem dJ8_getChars_2_69 : decode cJ8_getChars_2 69 = .ok (.baload, 1) := dk_51 (dk_at dksJ8_getChars_2_2 22 rfl rfl)
theorem dJ8_getChars_2_70 : decode cJ8_getChars_2 70 = .ok (.invokestatic 111, 3) := dk_184 0 111 (dk_at dksJ8_getChars_2_3 0 rfl rfl)
theorem dJ8_getChars_2_73 : decode cJ8_getChars_2 73 = .ok (.goto (-51), 3) := dk_167 255 205 (dk_at dksJ8_getChars_2_3 3 rfl rfl)
theorem dJ8_getChars_2_76 : decode cJ8_getChars_2 76 = .ok (.aload_n 2, 1) := dk_44 (dk_at dksJ8_getChars_2_3 6 rfl rfl)
theorem dJ8_getChars_2_77 : decode cJ8_getChars_2 77 = .ok (.iinc 5 (-1), 3) := dk_132 5 255 (dk_at dksJ8_getChars_2_3 7 rfl rfl)
theorem dJ8_getChars_2_80 : decode cJ8_getChars_2 80 = .ok (.iload 5, 2) := dk_21 5 (dk_at dksJ8_getChars_2_3 10 rfl rfl)
theorem dJ8_getChars_2_82 : decode cJ8_getChars_2 82 = .ok (.getstatic 403, 3) := dk_178 1 147 (dk_at dksJ8_getChars_2_3 12 rfl rfl)
theorem dJ8_getChars_2_85 : decode cJ8_getChars_2 85 = .ok (.iload_n 0, 1) := dk_26 (dk_at dksJ8_getChars_2_3 15 rfl rfl)
theorem dJ8_getChars_2_86 : decode cJ8_getChars_2 86 = .ok (.ineg, 1) := dk_116 (dk_at dksJ8_getChars_2_3 16 rfl rfl)
theorem dJ8_getChars_2_87 : decode cJ8_getChars_2 87 = .ok (.baload, 1) := dk_51 (dk_at dksJ8_getChars_2_3 17 rfl rfl)
theorem dJ8_getChars_2_88 : decode cJ8_getChars_2 88 = .ok (.invokestatic 111, 3) := dk_184 0 111 (dk_at dksJ8_getChars_2_3 18 rfl rfl)
theorem dJ8_getChars_2_91 : decode cJ8_getChars_2 91 = .ok (.iload_n 0, 1) := dk_26 (dk_at dksJ8_getChars_2_3 21 rfl rfl)
theorem dJ8_getChars_2_92 : decode cJ8_getChars_2 92 = .ok (.bipush (-9), 2) := dk_16 247 (dk_at dksJ8_getChars_2_3 22 rfl rfl)
theorem dJ8_getChars_2_94 : decode cJ8_getChars_2 94 = .ok (.if_icmp .ge 18, 3) := dk_162 0 18 (dk_at dksJ8_getChars_2_4 0 rfl rfl)
theorem dJ8_getChars_2_97 : decode cJ8_getChars_2 97 = .ok (.aload_n 2, 1) := dk_44 (dk_at dksJ8_getChars_2_4 3 rfl rfl)
theorem dJ8_getChars_2_98 : decode cJ8_getChars_2 98 = .ok (.iinc 5 (-1), 3) := dk_132 5 255 (dk_at dksJ8_getChars_2_4 4 rfl rfl)
theorem dJ8_getChars_2_101 : decode cJ8_getChars_2 101 = .ok (.iload 5, 2) := dk_21 5 (dk_at dksJ8_getChars_2_4 7 rfl rfl)
theorem dJ8_getChars_2_103 : decode cJ8_getChars_2 103 = .ok (.getstatic 407, 3) := dk_178 1 151 (dk_at dksJ8_getChars_2_4 9 rfl rfl)
theorem dJ8_getChars_2_106 : decode cJ8_getChars_2 106 = .ok (.iload_n 0, 1) := dk_26 (dk_at dksJ8_getChars_2_4 12 rfl rfl)
theorem dJ8_getChars_2_107 : decode cJ8_getChars_2 107 = .ok (.ineg, 1) := dk_116 (dk_at dksJ8_getChars_2_4 13 rfl rfl)
theorem dJ8_getChars_2_108 : decode cJ8_getChars_2 108 = .ok (.baload, 1) := dk_51 (dk_at dksJ8_getChars_2_4 14 rfl rfl)
theorem dJ8_getChars_2_109 : decode cJ8_getChars_2 109 = .ok (.invokestatic 111, 3) := dk_184 0 111 (dk_at dksJ8_getChars_2_4 15 rfl rfl)
theorem dJ8_getChars_2_112 : decode cJ8_getChars_2 112 = .ok (.iload 6, 2) := dk_21 6 (dk_at dksJ8_getChars_2_4 18 rfl rfl)
theorem dJ8_getChars_2_114 : decode cJ8_getChars_2 114 = .ok (.ifCond .eq 14, 3) := dk_153 0 14 (dk_at dksJ8_getChars_2_4 20 rfl rfl)
theorem dJ8_getChars_2_117 : decode cJ8_getChars_2 117 = .ok (.aload_n 2, 1) := dk_44 (dk_at dksJ8_getChars_2_4 23 rfl rfl)
theorem dJ8_getChars_2_118 : decode cJ8_getChars_2 118 = .ok (.iinc 5 (-1), 3) := dk_132 5 255 (dk_at dksJ8_getChars_2_5 0 rfl rfl)
theorem dJ8_getChars_2_121 : decode cJ8_getChars_2 121 = .ok (.iload 5, 2) := dk_21 5 (dk_at dksJ8_getChars_2_5 3 rfl rfl)
theorem dJ8_getChars_2_123 : decode cJ8_getChars_2 123 = .ok (.bipush 45, 2) := dk_16 45 (dk_at dksJ8_getChars_2_5 5 rfl rfl)
theorem dJ8_getChars_2_125 : decode cJ8_getChars_2 125 = .ok (.invokestatic 111, 3) := dk_184 0 111 (dk_at dksJ8_getChars_2_5 7 rfl rfl)
theorem dJ8_getChars_2_128 : decode cJ8_getChars_2 128 = .ok (.iload 5, 2) := dk_21 5 (dk_at dksJ8_getChars_2_5 10 rfl rfl)
theorem dJ8_getChars_2_130 : decode cJ8_getChars_2 130 = .ok (.ireturn, 1) := dk_172 (dk_at dksJ8_getChars_2_5 12 rfl rfl)
abbrev cJ8_putChar : ByteArray := prog_39_method_4_code
def yJ8_putChar : MethodName := ⟨RJ8, "putChar", "([BII)V"⟩
def dkwJ8_putChar_2 : List UInt8 := [178, 0, 63, 122, 145, 84, 177]
abbrev dktJ8_putChar_2 : List UInt8 := dkwJ8_putChar_2 ++ []
def dkwJ8_putChar_1 : List UInt8 := [183, 0, 56, 191, 27, 4, 120, 60, 42, 27, 132, 1, 1, 28, 178, 0, 59, 122, 145, 84, 42, 27, 28]
abbrev dktJ8_putChar_1 : List UInt8 := dkwJ8_putChar_1 ++ dktJ8_putChar_2
def dkwJ8_putChar_0 : List UInt8 := [178, 0, 44, 154, 0, 25, 27, 155, 0, 11, 27, 42, 184, 0, 48, 161, 0, 13, 187, 0, 52, 89, 18, 54]
abbrev dktJ8_putChar_0 : List UInt8 := dkwJ8_putChar_0 ++ dktJ8_putChar_1
theorem dksJ8_putChar_0 : cJ8_putChar.data.toList.drop 0 = dktJ8_putChar_0 := by decide +kernel
theorem dksJ8_putChar_1 : cJ8_putChar.data.toList.drop 24 = dktJ8_putChar_1 := dk_seg dksJ8_putChar_0 24 rfl rfl
theorem dksJ8_putChar_2 : cJ8_putChar.data.toList.drop 47 = dktJ8_putChar_2 := dk_seg dksJ8_putChar_1 23 rfl rfl
theorem dJ8_putChar_0 : decode cJ8_putChar 0 = .ok (.getstatic 44, 3) := dk_178 0 44 (dk_at dksJ8_putChar_0 0 rfl rfl)
theorem dJ8_putChar_3 : decode cJ8_putChar 3 = .ok (.ifCond .ne 25, 3) := dk_154 0 25 (dk_at dksJ8_putChar_0 3 rfl rfl)
theorem dJ8_putChar_6 : decode cJ8_putChar 6 = .ok (.iload_n 1, 1) := dk_27 (dk_at dksJ8_putChar_0 6 rfl rfl)
theorem dJ8_putChar_7 : decode cJ8_putChar 7 = .ok (.ifCond .lt 11, 3) := dk_155 0 11 (dk_at dksJ8_putChar_0 7 rfl rfl)
theorem dJ8_putChar_10 : decode cJ8_putChar 10 = .ok (.iload_n 1, 1) := dk_27 (dk_at dksJ8_putChar_0 10 rfl rfl)
theorem dJ8_putChar_11 : decode cJ8_putChar 11 = .ok (.aload_n 0, 1) := dk_42 (dk_at dksJ8_putChar_0 11 rfl rfl)
theorem dJ8_putChar_12 : decode cJ8_putChar 12 = .ok (.invokestatic 48, 3) := dk_184 0 48 (dk_at dksJ8_putChar_0 12 rfl rfl)
theorem dJ8_putChar_15 : decode cJ8_putChar 15 = .ok (.if_icmp .lt 13, 3) := dk_161 0 13 (dk_at dksJ8_putChar_0 15 rfl rfl)
theorem dJ8_putChar_18 : decode cJ8_putChar 18 = .ok (.new 52, 3) := dk_187 0 52 (dk_at dksJ8_putChar_0 18 rfl rfl)
theorem dJ8_putChar_21 : decode cJ8_putChar 21 = .ok (.dup, 1) := dk_89 (dk_at dksJ8_putChar_0 21 rfl rfl)
theorem dJ8_putChar_22 : decode cJ8_putChar 22 = .ok (.ldc 54, 2) := dk_18 54 (dk_at dksJ8_putChar_0 22 rfl rfl)
theorem dJ8_putChar_24 : decode cJ8_putChar 24 = .ok (.invokespecial 56, 3) := dk_183 0 56 (dk_at dksJ8_putChar_1 0 rfl rfl)
theorem dJ8_putChar_27 : decode cJ8_putChar 27 = .ok (.athrow, 1) := dk_191 (dk_at dksJ8_putChar_1 3 rfl rfl)
theorem dJ8_putChar_28 : decode cJ8_putChar 28 = .ok (.iload_n 1, 1) := dk_27 (dk_at dksJ8_putChar_1 4 rfl rfl)
theorem dJ8_putChar_29 : decode cJ8_putChar 29 = .ok (.iconst 1, 1) := dk_4 (dk_at dksJ8_putChar_1 5 rfl rfl)
theorem dJ8_putChar_30 : decode cJ8_putChar 30 = .ok (.ishl, 1) := dk_120 (dk_at dksJ8_putChar_1 6 rfl rfl)
theorem dJ8_putChar_31 : decode cJ8_putChar 31 = .ok (.istore_n 1, 1) := dk_60 (dk_at dksJ8_putChar_1 7 rfl rfl)
theorem dJ8_putChar_32 : decode cJ8_putChar 32 = .ok (.aload_n 0, 1) := dk_42 (dk_at dksJ8_putChar_1 8 rfl rfl)
theorem dJ8_putChar_33 : decode cJ8_putChar 33 = .ok (.iload_n 1, 1) := dk_27 (dk_at dksJ8_putChar_1 9 rfl rfl)
theorem dJ8_putChar_34 : decode cJ8_putChar 34 = .ok (.iinc 1 1, 3) := dk_132 1 1 (dk_at dksJ8_putChar_1 10 rfl rfl)
theorem dJ8_putChar_37 : decode cJ8_putChar 37 = .ok (.iload_n 2, 1) := dk_28 (dk_at dksJ8_putChar_1 13 rfl rfl)
theorem dJ8_putChar_38 : decode cJ8_putChar 38 = .ok (.getstatic 59, 3) := dk_178 0 59 (dk_at dksJ8_putChar_1 14 rfl rfl)
theorem dJ8_putChar_41 : decode cJ8_putChar 41 = .ok (.ishr, 1) := dk_122 (dk_at dksJ8_putChar_1 17 rfl rfl)
theorem dJ8_putChar_42 : decode cJ8_putChar 42 = .ok (.i2b, 1) := dk_145 (dk_at dksJ8_putChar_1 18 rfl rfl)
theorem dJ8_putChar_43 : decode cJ8_putChar 43 = .ok (.bastore, 1) := dk_84 (dk_at dksJ8_putChar_1 19 rfl rfl)
theorem dJ8_putChar_44 : decode cJ8_putChar 44 = .ok (.aload_n 0, 1) := dk_42 (dk_at dksJ8_putChar_1 20 rfl rfl)
theorem dJ8_putChar_45 : decode cJ8_putChar 45 = .ok (.iload_n 1, 1) := dk_27 (dk_at dksJ8_putChar_1 21 rfl rfl)
theorem dJ8_putChar_46 : decode cJ8_putChar 46 = .ok (.iload_n 2, 1) := dk_28 (dk_at dksJ8_putChar_1 22 rfl rfl)
theorem dJ8_putChar_47 : decode cJ8_putChar 47 = .ok (.getstatic 63, 3) := dk_178 0 63 (dk_at dksJ8_putChar_2 0 rfl rfl)
theorem dJ8_putChar_50 : decode cJ8_putChar 50 = .ok (.ishr, 1) := dk_122 (dk_at dksJ8_putChar_2 3 rfl rfl)
theorem dJ8_putChar_51 : decode cJ8_putChar 51 = .ok (.i2b, 1) := dk_145 (dk_at dksJ8_putChar_2 4 rfl rfl)
theorem dJ8_putChar_52 : decode cJ8_putChar 52 = .ok (.bastore, 1) := dk_84 (dk_at dksJ8_putChar_2 5 rfl rfl)
theorem dJ8_putChar_53 : decode cJ8_putChar 53 = .ok (.return_, 1) := dk_177 (dk_at dksJ8_putChar_2 6 rfl rfl)
abbrev cJ8_putCharsAt : ByteArray := prog_39_method_81_code
def yJ8_putCharsAt : MethodName := ⟨RJ8, "putCharsAt", "([BICCCC)I"⟩
def dkwJ8_putCharsAt_3 : List UInt8 := [21, 6, 172]
abbrev dktJ8_putCharsAt_3 : List UInt8 := dkwJ8_putCharsAt_3 ++ []
def dkwJ8_putCharsAt_2 : List UInt8 := [184, 0, 111, 178, 0, 44, 154, 0, 17, 27, 21, 6, 159, 0, 11, 187, 0, 52, 89, 183, 0, 66, 191]
abbrev dktJ8_putCharsAt_2 : List UInt8 := dkwJ8_putCharsAt_2 ++ dktJ8_putCharsAt_3
def dkwJ8_putCharsAt_1 : List UInt8 := [132, 1, 1, 29, 184, 0, 111, 42, 27, 132, 1, 1, 21, 4, 184, 0, 111, 42, 27, 132, 1, 1, 21, 5]
abbrev dktJ8_putCharsAt_1 : List UInt8 := dkwJ8_putCharsAt_1 ++ dktJ8_putCharsAt_2
def dkwJ8_putCharsAt_0 : List UInt8 := [27, 7, 96, 54, 6, 27, 21, 6, 42, 184, 0, 96, 42, 27, 132, 1, 1, 28, 184, 0, 111, 42, 27]
abbrev dktJ8_putCharsAt_0 : List UInt8 := dkwJ8_putCharsAt_0 ++ dktJ8_putCharsAt_1
theorem dksJ8_putCharsAt_0 : cJ8_putCharsAt.data.toList.drop 0 = dktJ8_putCharsAt_0 := by decide +kernel
theorem dksJ8_putCharsAt_1 : cJ8_putCharsAt.data.toList.drop 23 = dktJ8_putCharsAt_1 := dk_seg dksJ8_putCharsAt_0 23 rfl rfl
theorem dksJ8_putCharsAt_2 : cJ8_putCharsAt.data.toList.drop 47 = dktJ8_putCharsAt_2 := dk_seg dksJ8_putCharsAt_1 24 rfl rfl
theorem dksJ8_putCharsAt_3 : cJ8_putCharsAt.data.toList.drop 70 = dktJ8_putCharsAt_3 := dk_seg dksJ8_putCharsAt_2 23 rfl rfl
theorem dJ8_putCharsAt_0 : decode cJ8_putCharsAt 0 = .ok (.iload_n 1, 1) := dk_27 (dk_at dksJ8_putCharsAt_0 0 rfl rfl)
theorem dJ8_putCharsAt_1 : decode cJ8_putCharsAt 1 = .ok (.iconst 4, 1) := dk_7 (dk_at dksJ8_putCharsAt_0 1 rfl rfl)
theorem dJ8_putCharsAt_2 : decode cJ8_putCharsAt 2 = .ok (.iadd, 1) := dk_96 (dk_at dksJ8_putCharsAt_0 2 rfl rfl)
theorem dJ8_putCharsAt_3 : decode cJ8_putCharsAt 3 = .ok (.istore 6, 2) := dk_54 6 (dk_at dksJ8_putCharsAt_0 3 rfl rfl)
theorem dJ8_putCharsAt_5 : decode cJ8_putCharsAt 5 = .ok (.iload_n 1, 1) := dk_27 (dk_at dksJ8_putCharsAt_0 5 rfl rfl)
theorem dJ8_putCharsAt_6 : decode cJ8_putCharsAt 6 = .ok (.iload 6, 2) := dk_21 6 (dk_at dksJ8_putCharsAt_0 6 rfl rfl)
theorem dJ8_putCharsAt_8 : decode cJ8_putCharsAt 8 = .ok (.aload_n 0, 1) := dk_42 (dk_at dksJ8_putCharsAt_0 8 rfl rfl)
theorem dJ8_putCharsAt_9 : decode cJ8_putCharsAt 9 = .ok (.invokestatic 96, 3) := dk_184 0 96 (dk_at dksJ8_putCharsAt_0 9 rfl rfl)
theorem dJ8_putCharsAt_12 : decode cJ8_putCharsAt 12 = .ok (.aload_n 0, 1) := dk_42 (dk_at dksJ8_putCharsAt_0 12 rfl rfl)
theorem dJ8_putCharsAt_13 : decode cJ8_putCharsAt 13 = .ok (.iload_n 1, 1) := dk_27 (dk_at dksJ8_putCharsAt_0 13 rfl rfl)
theorem dJ8_putCharsAt_14 : decode cJ8_putCharsAt 14 = .ok (.iinc 1 1, 3) := dk_132 1 1 (dk_at dksJ8_putCharsAt_0 14 rfl rfl)
theorem dJ8_putCharsAt_17 : decode cJ8_putCharsAt 17 = .ok (.iload_n 2, 1) := dk_28 (dk_at dksJ8_putCharsAt_0 17 rfl rfl)
theorem dJ8_putCharsAt_18 : decode cJ8_putCharsAt 18 = .ok (.invokestatic 111, 3) := dk_184 0 111 (dk_at dksJ8_putCharsAt_0 18 rfl rfl)
theorem dJ8_putCharsAt_21 : decode cJ8_putCharsAt 21 = .ok (.aload_n 0, 1) := dk_42 (dk_at dksJ8_putCharsAt_0 21 rfl rfl)
theorem dJ8_putCharsAt_22 : decode cJ8_putCharsAt 22 = .ok (.iload_n 1, 1) := dk_27 (dk_at dksJ8_putCharsAt_0 22 rfl rfl)
theorem dJ8_putCharsAt_23 : decode cJ8_putCharsAt 23 = .ok (.iinc 1 1, 3) := dk_132 1 1 (dk_at dksJ8_putCharsAt_1 0 rfl rfl)
theorem dJ8_putCharsAt_26 : decode cJ8_putCharsAt 26 = .ok (.iload_n 3, 1) := dk_29 (dk_at dksJ8_putCharsAt_1 3 rfl rfl)
theorem dJ8_putCharsAt_27 : decode cJ8_putCharsAt 27 = .ok (.invokestatic 111, 3) := dk_184 0 111 (dk_at dksJ8_putCharsAt_1 4 rfl rfl)
theorem dJ8_putCharsAt_30 : decode cJ8_putCharsAt 30 = .ok (.aload_n 0, 1) := dk_42 (dk_at dksJ8_putCharsAt_1 7 rfl rfl)
theorem dJ8_putCharsAt_31 : decode cJ8_putCharsAt 31 = .ok (.iload_n 1, 1) := dk_27 (dk_at dksJ8_putCharsAt_1 8 rfl rfl)
theorem dJ8_putCharsAt_32 : decode cJ8_putCharsAt 32 = .ok (.iinc 1 1, 3) := dk_132 1 1 (dk_at dksJ8_putCharsAt_1 9 rfl rfl)
theorem dJ8_putCharsAt_35 : decode cJ8_putCharsAt 35 = .ok (.iload 4, 2) := dk_21 4 (dk_at dksJ8_putCharsAt_1 12 rfl rfl)
theorem dJ8_putCharsAt_37 : decode cJ8_putCharsAt 37 = .ok (.invokestatic 111, 3) := dk_184 0 111 (dk_at dksJ8_putCharsAt_1 14 rfl rfl)
theorem dJ8_putCharsAt_40 : decode cJ8_putCharsAt 40 = .ok (.aload_n 0, 1) := dk_42 (dk_at dksJ8_putCharsAt_1 17 rfl rfl)
theorem dJ8_putCharsAt_41 : decode cJ8_putCharsAt 41 = .ok (.iload_n 1, 1) := dk_27 (dk_at dksJ8_putCharsAt_1 18 rfl rfl)
theorem dJ8_putCharsAt_42 : decode cJ8_putCharsAt 42 = .ok (.iinc 1 1, 3) := dk_132 1 1 (dk_at dksJ8_putCharsAt_1 19 rfl rfl)
theorem dJ8_putCharsAt_45 : decode cJ8_putCharsAt 45 = .ok (.iload 5, 2) := dk_21 5 (dk_at dksJ8_putCharsAt_1 22 rfl rfl)
theorem dJ8_putCharsAt_47 : decode cJ8_putCharsAt 47 = .ok (.invokestatic 111, 3) := dk_184 0 111 (dk_at dksJ8_putCharsAt_2 0 rfl rfl)
theorem dJ8_putCharsAt_50 : decode cJ8_putCharsAt 50 = .ok (.getstatic 44, 3) := dk_178 0 44 (dk_at dksJ8_putCharsAt_2 3 rfl rfl)
theorem dJ8_putCharsAt_53 : decode cJ8_putCharsAt 53 = .ok (.ifCond .ne 17, 3) := dk_154 0 17 (dk_at dksJ8_putCharsAt_2 6 rfl rfl)
theorem dJ8_putCharsAt_56 : decode cJ8_putCharsAt 56 = .ok (.iload_n 1, 1) := dk_27 (dk_at dksJ8_putCharsAt_2 9 rfl rfl)
theorem dJ8_putCharsAt_57 : decode cJ8_putCharsAt 57 = .ok (.iload 6, 2) := dk_21 6 (dk_at dksJ8_putCharsAt_2 10 rfl rfl)
theorem dJ8_putCharsAt_59 : decode cJ8_putCharsAt 59 = .ok (.if_icmp .eq 11, 3) := dk_159 0 11 (dk_at dksJ8_putCharsAt_2 12 rfl rfl)
theorem dJ8_putCharsAt_62 : decode cJ8_putCharsAt 62 = .ok (.new 52, 3) := dk_187 0 52 (dk_at dksJ8_putCharsAt_2 15 rfl rfl)
theorem dJ8_putCharsAt_65 : decode cJ8_putCharsAt 65 = .ok (.dup, 1) := dk_89 (dk_at dksJ8_putCharsAt_2 18 rfl rfl)
theorem dJ8_putCharsAt_66 : decode cJ8_putCharsAt 66 = .ok (.invokespecial 66, 3) := dk_183 0 66 (dk_at dksJ8_putCharsAt_2 19 rfl rfl)
theorem dJ8_putCharsAt_69 : decode cJ8_putCharsAt 69 = .ok (.athrow, 1) := dk_191 (dk_at dksJ8_putCharsAt_2 22 rfl rfl)
theorem dJ8_putCharsAt_70 : decode cJ8_putCharsAt 70 = .ok (.iload 6, 2) := dk_21 6 (dk_at dksJ8_putCharsAt_3 0 rfl rfl)
theorem dJ8_putCharsAt_72 : decode cJ8_putCharsAt 72 = .ok (.ireturn, 1) := dk_172 (dk_at dksJ8_putCharsAt_3 2 rfl rfl)
abbrev cJ8_inflate : ByteArray := prog_39_method_86_code
def yJ8_inflate : MethodName := ⟨RJ8, "inflate", "([BI[BII)V"⟩
def dkwJ8_inflate_1 : List UInt8 := [132, 1, 1, 51, 17, 0, 255, 126, 184, 0, 111, 132, 5, 1, 167, 255, 228, 177]
abbrev dktJ8_inflate_1 : List UInt8 := dkwJ8_inflate_1 ++ []
def dkwJ8_inflate_0 : List UInt8 := [29, 21, 4, 44, 184, 0, 173, 3, 54, 5, 21, 5, 21, 4, 162, 0, 27, 44, 29, 132, 3, 1, 42, 27]
abbrev dktJ8_inflate_0 : List UInt8 := dkwJ8_inflate_0 ++ dktJ8_inflate_1
theorem dksJ8_inflate_0 : cJ8_inflate.data.toList.drop 0 = dktJ8_inflate_0 := by decide +kernel
theorem dksJ8_inflate_1 : cJ8_inflate.data.toList.drop 24 = dktJ8_inflate_1 := dk_seg dksJ8_inflate_0 24 rfl rfl
theorem dJ8_inflate_0 : decode cJ8_inflate 0 = .ok (.iload_n 3, 1) := dk_29 (dk_at dksJ8_inflate_0 0 rfl rfl)
theorem dJ8_inflate_1 : decode cJ8_inflate 1 = .ok (.iload 4, 2) := dk_21 4 (dk_at dksJ8_inflate_0 1 rfl rfl)
theorem dJ8_inflate_3 : decode cJ8_inflate 3 = .ok (.aload_n 2, 1) := dk_44 (dk_at dksJ8_inflate_0 3 rfl rfl)
theorem dJ8_inflate_4 : decode cJ8_inflate 4 = .ok (.invokestatic 173, 3) := dk_184 0 173 (dk_at dksJ8_inflate_0 4 rfl rfl)
theorem dJ8_inflate_7 : decode cJ8_inflate 7 = .ok (.iconst 0, 1) := dk_3 (dk_at dksJ8_inflate_0 7 rfl rfl)
theorem dJ8_inflate_8 : decode cJ8_inflate 8 = .ok (.istore 5, 2) := dk_54 5 (dk_at dksJ8_inflate_0 8 rfl rfl)
theorem dJ8_inflate_10 : decode cJ8_inflate 10 = .ok (.iload 5, 2) := dk_21 5 (dk_at dksJ8_inflate_0 10 rfl rfl)
theorem dJ8_inflate_12 : decode cJ8_inflate 12 = .ok (.iload 4, 2) := dk_21 4 (dk_at dksJ8_inflate_0 12 rfl rfl)
theorem dJ8_inflate_14 : decode cJ8_inflate 14 = .ok (.if_icmp .ge 27, 3) := dk_162 0 27 (dk_at dksJ8_inflate_0 14 rfl rfl)
theorem dJ8_inflate_17 : decode cJ8_inflate 17 = .ok (.aload_n 2, 1) := dk_44 (dk_at dksJ8_inflate_0 17 rfl rfl)
theorem dJ8_inflate_18 : decode cJ8_inflate 18 = .ok (.iload_n 3, 1) := dk_29 (dk_at dksJ8_inflate_0 18 rfl rfl)
theorem dJ8_inflate_19 : decode cJ8_inflate 19 = .ok (.iinc 3 1, 3) := dk_132 3 1 (dk_at dksJ8_inflate_0 19 rfl rfl)
theorem dJ8_inflate_22 : decode cJ8_inflate 22 = .ok (.aload_n 0, 1) := dk_42 (dk_at dksJ8_inflate_0 22 rfl rfl)
theorem dJ8_inflate_23 : decode cJ8_inflate 23 = .ok (.iload_n 1, 1) := dk_27 (dk_at dksJ8_inflate_0 23 rfl rfl)
theorem dJ8_inflate_24 : decode cJ8_inflate 24 = .ok (.iinc 1 1, 3) := dk_132 1 1 (dk_at dksJ8_inflate_1 0 rfl rfl)
theorem dJ8_inflate_27 : decode cJ8_inflate 27 = .ok (.baload, 1) := dk_51 (dk_at dksJ8_inflate_1 3 rfl rfl)
theorem dJ8_inflate_28 : decode cJ8_inflate 28 = .ok (.sipush 255, 3) := dk_17 0 255 (dk_at dksJ8_inflate_1 4 rfl rfl)
theorem dJ8_inflate_31 : decode cJ8_inflate 31 = .ok (.iand, 1) := dk_126 (dk_at dksJ8_inflate_1 7 rfl rfl)
theorem dJ8_inflate_32 : decode cJ8_inflate 32 = .ok (.invokestatic 111, 3) := dk_184 0 111 (dk_at dksJ8_inflate_1 8 rfl rfl)
theorem dJ8_inflate_35 : decode cJ8_inflate 35 = .ok (.iinc 5 1, 3) := dk_132 5 1 (dk_at dksJ8_inflate_1 11 rfl rfl)
theorem dJ8_inflate_38 : decode cJ8_inflate 38 = .ok (.goto (-28), 3) := dk_167 255 228 (dk_at dksJ8_inflate_1 14 rfl rfl)
theorem dJ8_inflate_41 : decode cJ8_inflate 41 = .ok (.return_, 1) := dk_177 (dk_at dksJ8_inflate_1 17 rfl rfl)
abbrev cJ8_checkBoundsOffCount : ByteArray := prog_39_method_94_code
def yJ8_checkBoundsOffCount : MethodName := ⟨RJ8, "checkBoundsOffCount", "(II[B)V"⟩
def dkwJ8_checkBoundsOffCount_0 : List UInt8 := [26, 27, 44, 184, 0, 48, 184, 1, 163, 87, 177]
abbrev dktJ8_checkBoundsOffCount_0 : List UInt8 := dkwJ8_checkBoundsOffCount_0 ++ []
theorem dksJ8_checkBoundsOffCount_0 : cJ8_checkBoundsOffCount.data.toList.drop 0 = dktJ8_checkBoundsOffCount_0 := by decide +kernel
theorem dJ8_checkBoundsOffCount_0 : decode cJ8_checkBoundsOffCount 0 = .ok (.iload_n 0, 1) := dk_26 (dk_at dksJ8_checkBoundsOffCount_0 0 rfl rfl)
theorem dJ8_checkBoundsOffCount_1 : decode cJ8_checkBoundsOffCount 1 = .ok (.iload_n 1, 1) := dk_27 (dk_at dksJ8_checkBoundsOffCount_0 1 rfl rfl)
theorem dJ8_checkBoundsOffCount_2 : decode cJ8_checkBoundsOffCount 2 = .ok (.aload_n 2, 1) := dk_44 (dk_at dksJ8_checkBoundsOffCount_0 2 rfl rfl)
theorem dJ8_checkBoundsOffCount_3 : decode cJ8_checkBoundsOffCount 3 = .ok (.invokestatic 48, 3) := dk_184 0 48 (dk_at dksJ8_checkBoundsOffCount_0 3 rfl rfl)
theorem dJ8_checkBoundsOffCount_6 : decode cJ8_checkBoundsOffCount 6 = .ok (.invokestatic 419, 3) := dk_184 1 163 (dk_at dksJ8_checkBoundsOffCount_0 6 rfl rfl)
theorem dJ8_checkBoundsOffCount_9 : decode cJ8_checkBoundsOffCount 9 = .ok (.pop, 1) := dk_87 (dk_at dksJ8_checkBoundsOffCount_0 9 rfl rfl)
theorem dJ8_checkBoundsOffCount_10 : decode cJ8_checkBoundsOffCount 10 = .ok (.return_, 1) := dk_177 (dk_at dksJ8_checkBoundsOffCount_0 10 rfl rfl)
abbrev cJ8_compress : ByteArray := prog_39_method_17_code
def yJ8_compress : MethodName := ⟨RJ8, "compress", "([BII)[B"⟩
def dkwJ8_compress_2 : List UInt8 := [25, 5, 3, 45, 3, 28, 184, 0, 123, 28, 159, 0, 6, 25, 5, 176, 45, 176]
abbrev dktJ8_compress_2 : List UInt8 := dkwJ8_compress_2 ++ []
def dkwJ8_compress_1 : List UInt8 := [27, 28, 96, 184, 0, 11, 184, 0, 126, 58, 5, 25, 5, 21, 4, 184, 0, 71, 17, 0, 255, 163, 0, 16]
abbrev dktJ8_compress_1 : List UInt8 := dkwJ8_compress_1 ++ dktJ8_compress_2
def dkwJ8_compress_0 : List UInt8 := [28, 188, 8, 78, 42, 27, 45, 3, 28, 184, 0, 123, 54, 4, 21, 4, 28, 159, 0, 47, 42, 27, 4, 120]
abbrev dktJ8_compress_0 : List UInt8 := dkwJ8_compress_0 ++ dktJ8_compress_1
theorem dksJ8_compress_0 : cJ8_compress.data.toList.drop 0 = dktJ8_compress_0 := by decide +kernel
theorem dksJ8_compress_1 : cJ8_compress.data.toList.drop 24 = dktJ8_compress_1 := dk_seg dksJ8_compress_0 24 rfl rfl
theorem dksJ8_compress_2 : cJ8_compress.data.toList.drop 48 = dktJ8_compress_2 := dk_seg dksJ8_compress_1 24 rfl rfl
theorem dJ8_compress_0 : decode cJ8_compress 0 = .ok (.iload_n 2, 1) := dk_28 (dk_at dksJ8_compress_0 0 rfl rfl)
theorem dJ8_compress_1 : decode cJ8_compress 1 = .ok (.newarray .byte, 2) := dk_188_8 (dk_at dksJ8_compress_0 1 rfl rfl)
theorem dJ8_compress_3 : decode cJ8_compress 3 = .ok (.astore_n 3, 1) := dk_78 (dk_at dksJ8_compress_0 3 rfl rfl)
theorem dJ8_compress_4 : decode cJ8_compress 4 = .ok (.aload_n 0, 1) := dk_42 (dk_at dksJ8_compress_0 4 rfl rfl)
theorem dJ8_compress_5 : decode cJ8_compress 5 = .ok (.iload_n 1, 1) := dk_27 (dk_at dksJ8_compress_0 5 rfl rfl)
theorem dJ8_compress_6 : decode cJ8_compress 6 = .ok (.aload_n 3, 1) := dk_45 (dk_at dksJ8_compress_0 6 rfl rfl)
theorem dJ8_compress_7 : decode cJ8_compress 7 = .ok (.iconst 0, 1) := dk_3 (dk_at dksJ8_compress_0 7 rfl rfl)
theorem dJ8_compress_8 : decode cJ8_compress 8 = .ok (.iload_n 2, 1) := dk_28 (dk_at dksJ8_compress_0 8 rfl rfl)
theorem dJ8_compress_9 : decode cJ8_compress 9 = .ok (.invokestatic 123, 3) := dk_184 0 123 (dk_at dksJ8_compress_0 9 rfl rfl)
theorem dJ8_compress_12 : decode cJ8_compress 12 = .ok (.istore 4, 2) := dk_54 4 (dk_at dksJ8_compress_0 12 rfl rfl)
theorem dJ8_compress_14 : decode cJ8_compress 14 = .ok (.iload 4, 2) := dk_21 4 (dk_at dksJ8_compress_0 14 rfl rfl)
theorem dJ8_compress_16 : decode cJ8_compress 16 = .ok (.iload_n 2, 1) := dk_28 (dk_at dksJ8_compress_0 16 rfl rfl)
theorem dJ8_compress_17 : decode cJ8_compress 17 = .ok (.if_icmp .eq 47, 3) := dk_159 0 47 (dk_at dksJ8_compress_0 17 rfl rfl)
theorem dJ8_compress_20 : decode cJ8_compress 20 = .ok (.aload_n 0, 1) := dk_42 (dk_at dksJ8_compress_0 20 rfl rfl)
theorem dJ8_compress_21 : decode cJ8_compress 21 = .ok (.iload_n 1, 1) := dk_27 (dk_at dksJ8_compress_0 21 rfl rfl)
theorem dJ8_compress_22 : decode cJ8_compress 22 = .ok (.iconst 1, 1) := dk_4 (dk_at dksJ8_compress_0 22 rfl rfl)
theorem dJ8_compress_23 : decode cJ8_compress 23 = .ok (.ishl, 1) := dk_120 (dk_at dksJ8_compress_0 23 rfl rfl)
theorem dJ8_compress_24 : decode cJ8_compress 24 = .ok (.iload_n 1, 1) := dk_27 (dk_at dksJ8_compress_1 0 rfl rfl)
theorem dJ8_compress_25 : decode cJ8_compress 25 = .ok (.iload_n 2, 1) := dk_28 (dk_at dksJ8_compress_1 1 rfl rfl)
theorem dJ8_compress_26 : decode cJ8_compress 26 = .ok (.iadd, 1) := dk_96 (dk_at dksJ8_compress_1 2 rfl rfl)
theorem dJ8_compress_27 : decode cJ8_compress 27 = .ok (.invokestatic 11, 3) := dk_184 0 11 (dk_at dksJ8_compress_1 3 rfl rfl)
theorem dJ8_compress_30 : decode cJ8_compress 30 = .ok (.invokestatic 126, 3) := dk_184 0 126 (dk_at dksJ8_compress_1 6 rfl rfl)
theorem dJ8_compress_33 : decode cJ8_compress 33 = .ok (.astore 5, 2) := dk_58 5 (dk_at dksJ8_compress_1 9 rfl rfl)
theorem dJ8_compress_35 : decode cJ8_compress 35 = .ok (.aload 5, 2) := dk_25 5 (dk_at dksJ8_compress_1 11 rfl rfl)
theorem dJ8_compress_37 : decode cJ8_compress 37 = .ok (.iload 4, 2) := dk_21 4 (dk_at dksJ8_compress_1 13 rfl rfl)
theorem dJ8_compress_39 : decode cJ8_compress 39 = .ok (.invokestatic 71, 3) := dk_184 0 71 (dk_at dksJ8_compress_1 15 rfl rfl)
theorem dJ8_compress_42 : decode cJ8_compress 42 = .ok (.sipush 255, 3) := dk_17 0 255 (dk_at dksJ8_compress_1 18 rfl rfl)
theorem dJ8_compress_45 : decode cJ8_compress 45 = .ok (.if_icmp .gt 16, 3) := dk_163 0 16 (dk_at dksJ8_compress_1 21 rfl rfl)
theorem dJ8_compress_48 : decode cJ8_compress 48 = .ok (.aload 5, 2) := dk_25 5 (dk_at dksJ8_compress_2 0 rfl rfl)
theorem dJ8_compress_50 : decode cJ8_compress 50 = .ok (.iconst 0, 1) := dk_3 (dk_at dksJ8_compress_2 2 rfl rfl)
theorem dJ8_compress_51 : decode cJ8_compress 51 = .ok (.aload_n 3, 1) := dk_45 (dk_at dksJ8_compress_2 3 rfl rfl)
theorem dJ8_compress_52 : decode cJ8_compress 52 = .ok (.iconst 0, 1) := dk_3 (dk_at dksJ8_compress_2 4 rfl rfl)
theorem dJ8_compress_53 : decode cJ8_compress 53 = .ok (.iload_n 2, 1) := dk_28 (dk_at dksJ8_compress_2 5 rfl rfl)
theorem dJ8_compress_54 : decode cJ8_compress 54 = .ok (.invokestatic 123, 3) := dk_184 0 123 (dk_at dksJ8_compress_2 6 rfl rfl)
theorem dJ8_compress_57 : decode cJ8_compress 57 = .ok (.iload_n 2, 1) := dk_28 (dk_at dksJ8_compress_2 9 rfl rfl)
theorem dJ8_compress_58 : decode cJ8_compress 58 = .ok (.if_icmp .eq 6, 3) := dk_159 0 6 (dk_at dksJ8_compress_2 10 rfl rfl)
theorem dJ8_compress_61 : decode cJ8_compress 61 = .ok (.aload 5, 2) := dk_25 5 (dk_at dksJ8_compress_2 13 rfl rfl)
theorem dJ8_compress_63 : decode cJ8_compress 63 = .ok (.areturn, 1) := dk_176 (dk_at dksJ8_compress_2 15 rfl rfl)
theorem dJ8_compress_64 : decode cJ8_compress 64 = .ok (.aload_n 3, 1) := dk_45 (dk_at dksJ8_compress_2 16 rfl rfl)
theorem dJ8_compress_65 : decode cJ8_compress 65 = .ok (.areturn, 1) := dk_176 (dk_at dksJ8_compress_2 17 rfl rfl)
abbrev cJ8_compress_2 : ByteArray := prog_39_method_22_code
def yJ8_compress_2 : MethodName := ⟨RJ8, "compress", "([BI[BII)I"⟩
def dkwJ8_compress_2_2 : List UInt8 := [132, 5, 1, 167, 255, 216, 21, 4, 172]
abbrev dktJ8_compress_2_2 : List UInt8 := dkwJ8_compress_2_2 ++ []
def dkwJ8_compress_2_1 : List UInt8 := [21, 6, 17, 0, 255, 164, 0, 6, 21, 5, 172, 44, 29, 21, 6, 145, 84, 132, 1, 1, 132, 3, 1]
abbrev dktJ8_compress_2_1 : List UInt8 := dkwJ8_compress_2_1 ++ dktJ8_compress_2_2
def dkwJ8_compress_2_0 : List UInt8 := [27, 21, 4, 42, 184, 0, 173, 3, 54, 5, 21, 5, 21, 4, 162, 0, 39, 42, 27, 184, 0, 71, 54, 6]
abbrev dktJ8_compress_2_0 : List UInt8 := dkwJ8_compress_2_0 ++ dktJ8_compress_2_1
theorem dksJ8_compress_2_0 : cJ8_compress_2.data.toList.drop 0 = dktJ8_compress_2_0 := by decide +kernel
theorem dksJ8_compress_2_1 : cJ8_compress_2.data.toList.drop 24 = dktJ8_compress_2_1 := dk_seg dksJ8_compress_2_0 24 rfl rfl
theorem dksJ8_compress_2_2 : cJ8_compress_2.data.toList.drop 47 = dktJ8_compress_2_2 := dk_seg dksJ8_compress_2_1 23 rfl rfl
theorem dJ8_compress_2_0 : decode cJ8_compress_2 0 = .ok (.iload_n 1, 1) := dk_27 (dk_at dksJ8_compress_2_0 0 rfl rfl)
theorem dJ8_compress_2_1 : decode cJ8_compress_2 1 = .ok (.iload 4, 2) := dk_21 4 (dk_at dksJ8_compress_2_0 1 rfl rfl)
theorem dJ8_compress_2_3 : decode cJ8_compress_2 3 = .ok (.aload_n 0, 1) := dk_42 (dk_at dksJ8_compress_2_0 3 rfl rfl)
theorem dJ8_compress_2_4 : decode cJ8_compress_2 4 = .ok (.invokestatic 173, 3) := dk_184 0 173 (dk_at dksJ8_compress_2_0 4 rfl rfl)
theorem dJ8_compress_2_7 : decode cJ8_compress_2 7 = .ok (.iconst 0, 1) := dk_3 (dk_at dksJ8_compress_2_0 7 rfl rfl)
theorem dJ8_compress_2_8 : decode cJ8_compress_2 8 = .ok (.istore 5, 2) := dk_54 5 (dk_at dksJ8_compress_2_0 8 rfl rfl)
theorem dJ8_compress_2_10 : decode cJ8_compress_2 10 = .ok (.iload 5, 2) := dk_21 5 (dk_at dksJ8_compress_2_0 10 rfl rfl)
theorem dJ8_compress_2_12 : decode cJ8_compress_2 12 = .ok (.iload 4, 2) := dk_21 4 (dk_at dksJ8_compress_2_0 12 rfl rfl)
theorem dJ8_compress_2_14 : decode cJ8_compress_2 14 = .ok (.if_icmp .ge 39, 3) := dk_162 0 39 (dk_at dksJ8_compress_2_0 14 rfl rfl)
theorem dJ8_compress_2_17 : decode cJ8_compress_2 17 = .ok (.aload_n 0, 1) := dk_42 (dk_at dksJ8_compress_2_0 17 rfl rfl)
theorem dJ8_compress_2_18 : decode cJ8_compress_2 18 = .ok (.iload_n 1, 1) := dk_27 (dk_at dksJ8_compress_2_0 18 rfl rfl)
theorem dJ8_compress_2_19 : decode cJ8_compress_2 19 = .ok (.invokestatic 71, 3) := dk_184 0 71 (dk_at dksJ8_compress_2_0 19 rfl rfl)
theorem dJ8_compress_2_22 : decode cJ8_compress_2 22 = .ok (.istore 6, 2) := dk_54 6 (dk_at dksJ8_compress_2_0 22 rfl rfl)
theorem dJ8_compress_2_24 : decode cJ8_compress_2 24 = .ok (.iload 6, 2) := dk_21 6 (dk_at dksJ8_compress_2_1 0 rfl rfl)
theorem dJ8_compress_2_26 : decode cJ8_compress_2 26 = .ok (.sipush 255, 3) := dk_17 0 255 (dk_at dksJ8_compress_2_1 2 rfl rfl)
theorem dJ8_compress_2_29 : decode cJ8_compress_2 29 = .ok (.if_icmp .le 6, 3) := dk_164 0 6 (dk_at dksJ8_compress_2_1 5 rfl rfl)
theorem dJ8_compress_2_32 : decode cJ8_compress_2 32 = .ok (.iload 5, 2) := dk_21 5 (dk_at dksJ8_compress_2_1 8 rfl rfl)
theorem dJ8_compress_2_34 : decode cJ8_compress_2 34 = .ok (.ireturn, 1) := dk_172 (dk_at dksJ8_compress_2_1 10 rfl rfl)
theorem dJ8_compress_2_35 : decode cJ8_compress_2 35 = .ok (.aload_n 2, 1) := dk_44 (dk_at dksJ8_compress_2_1 11 rfl rfl)
theorem dJ8_compress_2_36 : decode cJ8_compress_2 36 = .ok (.iload_n 3, 1) := dk_29 (dk_at dksJ8_compress_2_1 12 rfl rfl)
theorem dJ8_compress_2_37 : decode cJ8_compress_2 37 = .ok (.iload 6, 2) := dk_21 6 (dk_at dksJ8_compress_2_1 13 rfl rfl)
theorem dJ8_compress_2_39 : decode cJ8_compress_2 39 = .ok (.i2b, 1) := dk_145 (dk_at dksJ8_compress_2_1 15 rfl rfl)
theorem dJ8_compress_2_40 : decode cJ8_compress_2 40 = .ok (.bastore, 1) := dk_84 (dk_at dksJ8_compress_2_1 16 rfl rfl)
theorem dJ8_compress_2_41 : decode cJ8_compress_2 41 = .ok (.iinc 1 1, 3) := dk_132 1 1 (dk_at dksJ8_compress_2_1 17 rfl rfl)
theorem dJ8_compress_2_44 : decode cJ8_compress_2 44 = .ok (.iinc 3 1, 3) := dk_132 3 1 (dk_at dksJ8_compress_2_1 20 rfl rfl)
theorem dJ8_compress_2_47 : decode cJ8_compress_2 47 = .ok (.iinc 5 1, 3) := dk_132 5 1 (dk_at dksJ8_compress_2_2 0 rfl rfl)
theorem dJ8_compress_2_50 : decode cJ8_compress_2 50 = .ok (.goto (-40), 3) := dk_167 255 216 (dk_at dksJ8_compress_2_2 3 rfl rfl)
theorem dJ8_compress_2_53 : decode cJ8_compress_2 53 = .ok (.iload 4, 2) := dk_21 4 (dk_at dksJ8_compress_2_2 6 rfl rfl)
theorem dJ8_compress_2_55 : decode cJ8_compress_2 55 = .ok (.ireturn, 1) := dk_172 (dk_at dksJ8_compress_2_2 8 rfl rfl)
abbrev cJ8_coderFromArrayLen : ByteArray := prog_39_method_15_code
def yJ8_coderFromArrayLen : MethodName := ⟨RJ8, "coderFromArrayLen", "([BI)B"⟩
def dkwJ8_coderFromArrayLen_0 : List UInt8 := [27, 42, 190, 100, 16, 31, 124, 145, 172]
abbrev dktJ8_coderFromArrayLen_0 : List UInt8 := dkwJ8_coderFromArrayLen_0 ++ []
theorem dksJ8_coderFromArrayLen_0 : cJ8_coderFromArrayLen.data.toList.drop 0 = dktJ8_coderFromArrayLen_0 := by decide +kernel
theorem dJ8_coderFromArrayLen_0 : decode cJ8_coderFromArrayLen 0 = .ok (.iload_n 1, 1) := dk_27 (dk_at dksJ8_coderFromArrayLen_0 0 rfl rfl)
theorem dJ8_coderFromArrayLen_1 : decode cJ8_coderFromArrayLen 1 = .ok (.aload_n 0, 1) := dk_42 (dk_at dksJ8_coderFromArrayLen_0 1 rfl rfl)
theorem dJ8_coderFromArrayLen_2 : decode cJ8_coderFromArrayLen 2 = .ok (.arraylength, 1) := dk_190 (dk_at dksJ8_coderFromArrayLen_0 2 rfl rfl)
theorem dJ8_coderFromArrayLen_3 : decode cJ8_coderFromArrayLen 3 = .ok (.isub, 1) := dk_100 (dk_at dksJ8_coderFromArrayLen_0 3 rfl rfl)
theorem dJ8_coderFromArrayLen_4 : decode cJ8_coderFromArrayLen 4 = .ok (.bipush 31, 2) := dk_16 31 (dk_at dksJ8_coderFromArrayLen_0 4 rfl rfl)
theorem dJ8_coderFromArrayLen_6 : decode cJ8_coderFromArrayLen 6 = .ok (.iushr, 1) := dk_124 (dk_at dksJ8_coderFromArrayLen_0 6 rfl rfl)
theorem dJ8_coderFromArrayLen_7 : decode cJ8_coderFromArrayLen 7 = .ok (.i2b, 1) := dk_145 (dk_at dksJ8_coderFromArrayLen_0 7 rfl rfl)
theorem dJ8_coderFromArrayLen_8 : decode cJ8_coderFromArrayLen 8 = .ok (.ireturn, 1) := dk_172 (dk_at dksJ8_coderFromArrayLen_0 8 rfl rfl)
abbrev cJ8_compareTo : ByteArray := prog_39_method_29_code
def yJ8_compareTo : MethodName := ⟨RJ8, "compareTo", "([B[B)I"⟩
def dkwJ8_compareTo_0 : List UInt8 := [42, 184, 0, 48, 61, 43, 184, 0, 48, 62, 42, 43, 28, 29, 184, 0, 176, 172]
abbrev dktJ8_compareTo_0 : List UInt8 := dkwJ8_compareTo_0 ++ []
theorem dksJ8_compareTo_0 : cJ8_compareTo.data.toList.drop 0 = dktJ8_compareTo_0 := by decide +kernel
theorem dJ8_compareTo_0 : decode cJ8_compareTo 0 = .ok (.aload_n 0, 1) := dk_42 (dk_at dksJ8_compareTo_0 0 rfl rfl)
theorem dJ8_compareTo_1 : decode cJ8_compareTo 1 = .ok (.invokestatic 48, 3) := dk_184 0 48 (dk_at dksJ8_compareTo_0 1 rfl rfl)
theorem dJ8_compareTo_4 : decode cJ8_compareTo 4 = .ok (.istore_n 2, 1) := dk_61 (dk_at dksJ8_compareTo_0 4 rfl rfl)
theorem dJ8_compareTo_5 : decode cJ8_compareTo 5 = .ok (.aload_n 1, 1) := dk_43 (dk_at dksJ8_compareTo_0 5 rfl rfl)
theorem dJ8_compareTo_6 : decode cJ8_compareTo 6 = .ok (.invokestatic 48, 3) := dk_184 0 48 (dk_at dksJ8_compareTo_0 6 rfl rfl)
theorem dJ8_compareTo_9 : decode cJ8_compareTo 9 = .ok (.istore_n 3, 1) := dk_62 (dk_at dksJ8_compareTo_0 9 rfl rfl)
theorem dJ8_compareTo_10 : decode cJ8_compareTo 10 = .ok (.aload_n 0, 1) := dk_42 (dk_at dksJ8_compareTo_0 10 rfl rfl)
theorem dJ8_compareTo_11 : decode cJ8_compareTo 11 = .ok (.aload_n 1, 1) := dk_43 (dk_at dksJ8_compareTo_0 11 rfl rfl)
theorem dJ8_compareTo_12 : decode cJ8_compareTo 12 = .ok (.iload_n 2, 1) := dk_28 (dk_at dksJ8_compareTo_0 12 rfl rfl)
theorem dJ8_compareTo_13 : decode cJ8_compareTo 13 = .ok (.iload_n 3, 1) := dk_29 (dk_at dksJ8_compareTo_0 13 rfl rfl)
theorem dJ8_compareTo_14 : decode cJ8_compareTo 14 = .ok (.invokestatic 176, 3) := dk_184 0 176 (dk_at dksJ8_compareTo_0 14 rfl rfl)
theorem dJ8_compareTo_17 : decode cJ8_compareTo 17 = .ok (.ireturn, 1) := dk_172 (dk_at dksJ8_compareTo_0 17 rfl rfl)
abbrev cJ8_compareValues : ByteArray := prog_39_method_31_code
def yJ8_compareValues : MethodName := ⟨RJ8, "compareValues", "([B[BII)I"⟩
def dkwJ8_compareValues_2 : List UInt8 := [132, 5, 1, 167, 255, 217, 28, 29, 100, 172]
abbrev dktJ8_compareValues_2 : List UInt8 := dkwJ8_compareValues_2 ++ []
def dkwJ8_compareValues_1 : List UInt8 := [54, 6, 43, 21, 5, 184, 0, 71, 54, 7, 21, 6, 21, 7, 159, 0, 9, 21, 6, 21, 7, 100, 172]
abbrev dktJ8_compareValues_1 : List UInt8 := dkwJ8_compareValues_1 ++ dktJ8_compareValues_2
def dkwJ8_compareValues_0 : List UInt8 := [28, 29, 184, 0, 183, 54, 4, 3, 54, 5, 21, 5, 21, 4, 162, 0, 38, 42, 21, 5, 184, 0, 71]
abbrev dktJ8_compareValues_0 : List UInt8 := dkwJ8_compareValues_0 ++ dktJ8_compareValues_1
theorem dksJ8_compareValues_0 : cJ8_compareValues.data.toList.drop 0 = dktJ8_compareValues_0 := by decide +kernel
theorem dksJ8_compareValues_1 : cJ8_compareValues.data.toList.drop 23 = dktJ8_compareValues_1 := dk_seg dksJ8_compareValues_0 23 rfl rfl
theorem dksJ8_compareValues_2 : cJ8_compareValues.data.toList.drop 46 = dktJ8_compareValues_2 := dk_seg dksJ8_compareValues_1 23 rfl rfl
theorem dJ8_compareValues_0 : decode cJ8_compareValues 0 = .ok (.iload_n 2, 1) := dk_28 (dk_at dksJ8_compareValues_0 0 rfl rfl)
theorem dJ8_compareValues_1 : decode cJ8_compareValues 1 = .ok (.iload_n 3, 1) := dk_29 (dk_at dksJ8_compareValues_0 1 rfl rfl)
theorem dJ8_compareValues_2 : decode cJ8_compareValues 2 = .ok (.invokestatic 183, 3) := dk_184 0 183 (dk_at dksJ8_compareValues_0 2 rfl rfl)
theorem dJ8_compareValues_5 : decode cJ8_compareValues 5 = .ok (.istore 4, 2) := dk_54 4 (dk_at dksJ8_compareValues_0 5 rfl rfl)
theorem dJ8_compareValues_7 : decode cJ8_compareValues 7 = .ok (.iconst 0, 1) := dk_3 (dk_at dksJ8_compareValues_0 7 rfl rfl)
theorem dJ8_compareValues_8 : decode cJ8_compareValues 8 = .ok (.istore 5, 2) := dk_54 5 (dk_at dksJ8_compareValues_0 8 rfl rfl)
theorem dJ8_compareValues_10 : decode cJ8_compareValues 10 = .ok (.iload 5, 2) := dk_21 5 (dk_at dksJ8_compareValues_0 10 rfl rfl)
theorem dJ8_compareValues_12 : decode cJ8_compareValues 12 = .ok (.iload 4, 2) := dk_21 4 (dk_at dksJ8_compareValues_0 12 rfl rfl)
theorem dJ8_compareValues_14 : decode cJ8_compareValues 14 = .ok (.if_icmp .ge 38, 3) := dk_162 0 38 (dk_at dksJ8_compareValues_0 14 rfl rfl)
theorem dJ8_compareValues_17 : decode cJ8_compareValues 17 = .ok (.aload_n 0, 1) := dk_42 (dk_at dksJ8_compareValues_0 17 rfl rfl)
theorem dJ8_compareValues_18 : decode cJ8_compareValues 18 = .ok (.iload 5, 2) := dk_21 5 (dk_at dksJ8_compareValues_0 18 rfl rfl)
theorem dJ8_compareValues_20 : decode cJ8_compareValues 20 = .ok (.invokestatic 71, 3) := dk_184 0 71 (dk_at dksJ8_compareValues_0 20 rfl rfl)
theorem dJ8_compareValues_23 : decode cJ8_compareValues 23 = .ok (.istore 6, 2) := dk_54 6 (dk_at dksJ8_compareValues_1 0 rfl rfl)
theorem dJ8_compareValues_25 : decode cJ8_compareValues 25 = .ok (.aload_n 1, 1) := dk_43 (dk_at dksJ8_compareValues_1 2 rfl rfl)
theorem dJ8_compareValues_26 : decode cJ8_compareValues 26 = .ok (.iload 5, 2) := dk_21 5 (dk_at dksJ8_compareValues_1 3 rfl rfl)
theorem dJ8_compareValues_28 : decode cJ8_compareValues 28 = .ok (.invokestatic 71, 3) := dk_184 0 71 (dk_at dksJ8_compareValues_1 5 rfl rfl)
theorem dJ8_compareValues_31 : decode cJ8_compareValues 31 = .ok (.istore 7, 2) := dk_54 7 (dk_at dksJ8_compareValues_1 8 rfl rfl)
theorem dJ8_compareValues_33 : decode cJ8_compareValues 33 = .ok (.iload 6, 2) := dk_21 6 (dk_at dksJ8_compareValues_1 10 rfl rfl)
theorem dJ8_compareValues_35 : decode cJ8_compareValues 35 = .ok (.iload 7, 2) := dk_21 7 (dk_at dksJ8_compareValues_1 12 rfl rfl)
theorem dJ8_compareValues_37 : decode cJ8_compareValues 37 = .ok (.if_icmp .eq 9, 3) := dk_159 0 9 (dk_at dksJ8_compareValues_1 14 rfl rfl)
theorem dJ8_compareValues_40 : decode cJ8_compareValues 40 = .ok (.iload 6, 2) := dk_21 6 (dk_at dksJ8_compareValues_1 17 rfl rfl)
theorem dJ8_compareValues_42 : decode cJ8_compareValues 42 = .ok (.iload 7, 2) := dk_21 7 (dk_at dksJ8_compareValues_1 19 rfl rfl)
theorem dJ8_compareValues_44 : decode cJ8_compareValues 44 = .ok (.isub, 1) := dk_100 (dk_at dksJ8_compareValues_1 21 rfl rfl)
theorem dJ8_compareValues_45 : decode cJ8_compareValues 45 = .ok (.ireturn, 1) := dk_172 (dk_at dksJ8_compareValues_1 22 rfl rfl)
theorem dJ8_compareValues_46 : decode cJ8_compareValues 46 = .ok (.iinc 5 1, 3) := dk_132 5 1 (dk_at dksJ8_compareValues_2 0 rfl rfl)
theorem dJ8_compareValues_49 : decode cJ8_compareValues 49 = .ok (.goto (-39), 3) := dk_167 255 217 (dk_at dksJ8_compareValues_2 3 rfl rfl)
theorem dJ8_compareValues_52 : decode cJ8_compareValues 52 = .ok (.iload_n 2, 1) := dk_28 (dk_at dksJ8_compareValues_2 6 rfl rfl)
theorem dJ8_compareValues_53 : decode cJ8_compareValues 53 = .ok (.iload_n 3, 1) := dk_29 (dk_at dksJ8_compareValues_2 7 rfl rfl)
theorem dJ8_compareValues_54 : decode cJ8_compareValues 54 = .ok (.isub, 1) := dk_100 (dk_at dksJ8_compareValues_2 8 rfl rfl)
theorem dJ8_compareValues_55 : decode cJ8_compareValues 55 = .ok (.ireturn, 1) := dk_172 (dk_at dksJ8_compareValues_2 9 rfl rfl)
abbrev cJ8_compareToLatin1 : ByteArray := prog_39_method_32_code
def yJ8_compareToLatin1 : MethodName := ⟨RJ8, "compareToLatin1", "([B[B)I"⟩
def dkwJ8_compareToLatin1_0 : List UInt8 := [43, 42, 184, 0, 189, 116, 172]
abbrev dktJ8_compareToLatin1_0 : List UInt8 := dkwJ8_compareToLatin1_0 ++ []
theorem dksJ8_compareToLatin1_0 : cJ8_compareToLatin1.data.toList.drop 0 = dktJ8_compareToLatin1_0 := by decide +kernel
theorem dJ8_compareToLatin1_0 : decode cJ8_compareToLatin1 0 = .ok (.aload_n 1, 1) := dk_43 (dk_at dksJ8_compareToLatin1_0 0 rfl rfl)
theorem dJ8_compareToLatin1_1 : decode cJ8_compareToLatin1 1 = .ok (.aload_n 0, 1) := dk_42 (dk_at dksJ8_compareToLatin1_0 1 rfl rfl)
theorem dJ8_compareToLatin1_2 : decode cJ8_compareToLatin1 2 = .ok (.invokestatic 189, 3) := dk_184 0 189 (dk_at dksJ8_compareToLatin1_0 2 rfl rfl)
theorem dJ8_compareToLatin1_5 : decode cJ8_compareToLatin1 5 = .ok (.ineg, 1) := dk_116 (dk_at dksJ8_compareToLatin1_0 5 rfl rfl)
theorem dJ8_compareToLatin1_6 : decode cJ8_compareToLatin1 6 = .ok (.ireturn, 1) := dk_172 (dk_at dksJ8_compareToLatin1_0 6 rfl rfl)
abbrev cJ8_compareTo_2 : ByteArray := prog_39_method_30_code
def yJ8_compareTo_2 : MethodName := ⟨RJ8, "compareTo", "([B[BII)I"⟩
def dkwJ8_compareTo_2_0 : List UInt8 := [28, 42, 184, 0, 180, 29, 43, 184, 0, 180, 42, 43, 28, 29, 184, 0, 176, 172]
abbrev dktJ8_compareTo_2_0 : List UInt8 := dkwJ8_compareTo_2_0 ++ []
theorem dksJ8_compareTo_2_0 : cJ8_compareTo_2.data.toList.drop 0 = dktJ8_compareTo_2_0 := by decide +kernel
theorem dJ8_compareTo_2_0 : decode cJ8_compareTo_2 0 = .ok (.iload_n 2, 1) := dk_28 (dk_at dksJ8_compareTo_2_0 0 rfl rfl)
theorem dJ8_compareTo_2_1 : decode cJ8_compareTo_2 1 = .ok (.aload_n 0, 1) := dk_42 (dk_at dksJ8_compareTo_2_0 1 rfl rfl)
theorem dJ8_compareTo_2_2 : decode cJ8_compareTo_2 2 = .ok (.invokestatic 180, 3) := dk_184 0 180 (dk_at dksJ8_compareTo_2_0 2 rfl rfl)
theorem dJ8_compareTo_2_5 : decode cJ8_compareTo_2 5 = .ok (.iload_n 3, 1) := dk_29 (dk_at dksJ8_compareTo_2_0 5 rfl rfl)
theorem dJ8_compareTo_2_6 : decode cJ8_compareTo_2 6 = .ok (.aload_n 1, 1) := dk_43 (dk_at dksJ8_compareTo_2_0 6 rfl rfl)
theorem dJ8_compareTo_2_7 : decode cJ8_compareTo_2 7 = .ok (.invokestatic 180, 3) := dk_184 0 180 (dk_at dksJ8_compareTo_2_0 7 rfl rfl)
theorem dJ8_compareTo_2_10 : decode cJ8_compareTo_2 10 = .ok (.aload_n 0, 1) := dk_42 (dk_at dksJ8_compareTo_2_0 10 rfl rfl)
theorem dJ8_compareTo_2_11 : decode cJ8_compareTo_2 11 = .ok (.aload_n 1, 1) := dk_43 (dk_at dksJ8_compareTo_2_0 11 rfl rfl)
theorem dJ8_compareTo_2_12 : decode cJ8_compareTo_2 12 = .ok (.iload_n 2, 1) := dk_28 (dk_at dksJ8_compareTo_2_0 12 rfl rfl)
theorem dJ8_compareTo_2_13 : decode cJ8_compareTo_2 13 = .ok (.iload_n 3, 1) := dk_29 (dk_at dksJ8_compareTo_2_0 13 rfl rfl)
theorem dJ8_compareTo_2_14 : decode cJ8_compareTo_2 14 = .ok (.invokestatic 176, 3) := dk_184 0 176 (dk_at dksJ8_compareTo_2_0 14 rfl rfl)
theorem dJ8_compareTo_2_17 : decode cJ8_compareTo_2 17 = .ok (.ireturn, 1) := dk_172 (dk_at dksJ8_compareTo_2_0 17 rfl rfl)
abbrev cJ8_checkOffset : ByteArray := prog_39_method_92_code
def yJ8_checkOffset : MethodName := ⟨RJ8, "checkOffset", "(I[B)V"⟩
def dkwJ8_checkOffset_0 : List UInt8 := [26, 43, 184, 0, 48, 184, 1, 161, 177]
abbrev dktJ8_checkOffset_0 : List UInt8 := dkwJ8_checkOffset_0 ++ []
theorem dksJ8_checkOffset_0 : cJ8_checkOffset.data.toList.drop 0 = dktJ8_checkOffset_0 := by decide +kernel
theorem dJ8_checkOffset_0 : decode cJ8_checkOffset 0 = .ok (.iload_n 0, 1) := dk_26 (dk_at dksJ8_checkOffset_0 0 rfl rfl)
theorem dJ8_checkOffset_1 : decode cJ8_checkOffset 1 = .ok (.aload_n 1, 1) := dk_43 (dk_at dksJ8_checkOffset_0 1 rfl rfl)
theorem dJ8_checkOffset_2 : decode cJ8_checkOffset 2 = .ok (.invokestatic 48, 3) := dk_184 0 48 (dk_at dksJ8_checkOffset_0 2 rfl rfl)
theorem dJ8_checkOffset_5 : decode cJ8_checkOffset 5 = .ok (.invokestatic 417, 3) := dk_184 1 161 (dk_at dksJ8_checkOffset_0 5 rfl rfl)
theorem dJ8_checkOffset_8 : decode cJ8_checkOffset 8 = .ok (.return_, 1) := dk_177 (dk_at dksJ8_checkOffset_0 8 rfl rfl)
abbrev cJ8_compareToLatin1_2 : ByteArray := prog_39_method_33_code
def yJ8_compareToLatin1_2 : MethodName := ⟨RJ8, "compareToLatin1", "([B[BII)I"⟩
def dkwJ8_compareToLatin1_2_0 : List UInt8 := [43, 42, 29, 28, 184, 0, 193, 116, 172]
abbrev dktJ8_compareToLatin1_2_0 : List UInt8 := dkwJ8_compareToLatin1_2_0 ++ []
theorem dksJ8_compareToLatin1_2_0 : cJ8_compareToLatin1_2.data.toList.drop 0 = dktJ8_compareToLatin1_2_0 := by decide +kernel
theorem dJ8_compareToLatin1_2_0 : decode cJ8_compareToLatin1_2 0 = .ok (.aload_n 1, 1) := dk_43 (dk_at dksJ8_compareToLatin1_2_0 0 rfl rfl)
theorem dJ8_compareToLatin1_2_1 : decode cJ8_compareToLatin1_2 1 = .ok (.aload_n 0, 1) := dk_42 (dk_at dksJ8_compareToLatin1_2_0 1 rfl rfl)
theorem dJ8_compareToLatin1_2_2 : decode cJ8_compareToLatin1_2 2 = .ok (.iload_n 3, 1) := dk_29 (dk_at dksJ8_compareToLatin1_2_0 2 rfl rfl)
theorem dJ8_compareToLatin1_2_3 : decode cJ8_compareToLatin1_2 3 = .ok (.iload_n 2, 1) := dk_28 (dk_at dksJ8_compareToLatin1_2_0 3 rfl rfl)
theorem dJ8_compareToLatin1_2_4 : decode cJ8_compareToLatin1_2 4 = .ok (.invokestatic 193, 3) := dk_184 0 193 (dk_at dksJ8_compareToLatin1_2_0 4 rfl rfl)
theorem dJ8_compareToLatin1_2_7 : decode cJ8_compareToLatin1_2 7 = .ok (.ineg, 1) := dk_116 (dk_at dksJ8_compareToLatin1_2_0 7 rfl rfl)
theorem dJ8_compareToLatin1_2_8 : decode cJ8_compareToLatin1_2 8 = .ok (.ireturn, 1) := dk_172 (dk_at dksJ8_compareToLatin1_2_0 8 rfl rfl)
abbrev cJ8_charAt : ByteArray := prog_39_method_83_code
def yJ8_charAt : MethodName := ⟨RJ8, "charAt", "([BI)C"⟩
def dkwJ8_charAt_0 : List UInt8 := [27, 42, 184, 0, 67, 42, 27, 184, 0, 71, 172]
abbrev dktJ8_charAt_0 : List UInt8 := dkwJ8_charAt_0 ++ []
theorem dksJ8_charAt_0 : cJ8_charAt.data.toList.drop 0 = dktJ8_charAt_0 := by decide +kernel
theorem dJ8_charAt_0 : decode cJ8_charAt 0 = .ok (.iload_n 1, 1) := dk_27 (dk_at dksJ8_charAt_0 0 rfl rfl)
theorem dJ8_charAt_1 : decode cJ8_charAt 1 = .ok (.aload_n 0, 1) := dk_42 (dk_at dksJ8_charAt_0 1 rfl rfl)
theorem dJ8_charAt_2 : decode cJ8_charAt 2 = .ok (.invokestatic 67, 3) := dk_184 0 67 (dk_at dksJ8_charAt_0 2 rfl rfl)
theorem dJ8_charAt_5 : decode cJ8_charAt 5 = .ok (.aload_n 0, 1) := dk_42 (dk_at dksJ8_charAt_0 5 rfl rfl)
theorem dJ8_charAt_6 : decode cJ8_charAt 6 = .ok (.iload_n 1, 1) := dk_27 (dk_at dksJ8_charAt_0 6 rfl rfl)
theorem dJ8_charAt_7 : decode cJ8_charAt 7 = .ok (.invokestatic 71, 3) := dk_184 0 71 (dk_at dksJ8_charAt_0 7 rfl rfl)
theorem dJ8_charAt_10 : decode cJ8_charAt 10 = .ok (.ireturn, 1) := dk_172 (dk_at dksJ8_charAt_0 10 rfl rfl)
abbrev cJ8_checkIndex : ByteArray := prog_39_method_91_code
def yJ8_checkIndex : MethodName := ⟨RJ8, "checkIndex", "(I[B)V"⟩
def dkwJ8_checkIndex_0 : List UInt8 := [26, 43, 184, 0, 48, 184, 1, 158, 177]
abbrev dktJ8_checkIndex_0 : List UInt8 := dkwJ8_checkIndex_0 ++ []
theorem dksJ8_checkIndex_0 : cJ8_checkIndex.data.toList.drop 0 = dktJ8_checkIndex_0 := by decide +kernel
theorem dJ8_checkIndex_0 : decode cJ8_checkIndex 0 = .ok (.iload_n 0, 1) := dk_26 (dk_at dksJ8_checkIndex_0 0 rfl rfl)
theorem dJ8_checkIndex_1 : decode cJ8_checkIndex 1 = .ok (.aload_n 1, 1) := dk_43 (dk_at dksJ8_checkIndex_0 1 rfl rfl)
theorem dJ8_checkIndex_2 : decode cJ8_checkIndex 2 = .ok (.invokestatic 48, 3) := dk_184 0 48 (dk_at dksJ8_checkIndex_0 2 rfl rfl)
theorem dJ8_checkIndex_5 : decode cJ8_checkIndex 5 = .ok (.invokestatic 414, 3) := dk_184 1 158 (dk_at dksJ8_checkIndex_0 5 rfl rfl)
theorem dJ8_checkIndex_8 : decode cJ8_checkIndex 8 = .ok (.return_, 1) := dk_177 (dk_at dksJ8_checkIndex_0 8 rfl rfl)
abbrev cJ8_putCharsSB : ByteArray := prog_39_method_73_code
def yJ8_putCharsSB : MethodName := ⟨RJ8, "putCharsSB", "([BILjava/lang/CharSequence;II)V"⟩
def dkwJ8_putCharsSB_1 : List UInt8 := [132, 1, 1, 44, 21, 5, 185, 1, 132, 2, 0, 184, 0, 111, 132, 5, 1, 167, 255, 230, 177]
abbrev dktJ8_putCharsSB_1 : List UInt8 := dkwJ8_putCharsSB_1 ++ []
def dkwJ8_putCharsSB_0 : List UInt8 := [27, 27, 21, 4, 96, 29, 100, 42, 184, 0, 96, 29, 54, 5, 21, 5, 21, 4, 162, 0, 25, 42, 27]
abbrev dktJ8_putCharsSB_0 : List UInt8 := dkwJ8_putCharsSB_0 ++ dktJ8_putCharsSB_1
theorem dksJ8_putCharsSB_0 : cJ8_putCharsSB.data.toList.drop 0 = dktJ8_putCharsSB_0 := by decide +kernel
theorem dksJ8_putCharsSB_1 : cJ8_putCharsSB.data.toList.drop 23 = dktJ8_putCharsSB_1 := dk_seg dksJ8_putCharsSB_0 23 rfl rfl
theorem dJ8_putCharsSB_0 : decode cJ8_putCharsSB 0 = .ok (.iload_n 1, 1) := dk_27 (dk_at dksJ8_putCharsSB_0 0 rfl rfl)
theorem dJ8_putCharsSB_1 : decode cJ8_putCharsSB 1 = .ok (.iload_n 1, 1) := dk_27 (dk_at dksJ8_putCharsSB_0 1 rfl rfl)
theorem dJ8_putCharsSB_2 : decode cJ8_putCharsSB 2 = .ok (.iload 4, 2) := dk_21 4 (dk_at dksJ8_putCharsSB_0 2 rfl rfl)
theorem dJ8_putCharsSB_4 : decode cJ8_putCharsSB 4 = .ok (.iadd, 1) := dk_96 (dk_at dksJ8_putCharsSB_0 4 rfl rfl)
theorem dJ8_putCharsSB_5 : decode cJ8_putCharsSB 5 = .ok (.iload_n 3, 1) := dk_29 (dk_at dksJ8_putCharsSB_0 5 rfl rfl)
theorem dJ8_putCharsSB_6 : decode cJ8_putCharsSB 6 = .ok (.isub, 1) := dk_100 (dk_at dksJ8_putCharsSB_0 6 rfl rfl)
theorem dJ8_putCharsSB_7 : decode cJ8_putCharsSB 7 = .ok (.aload_n 0, 1) := dk_42 (dk_at dksJ8_putCharsSB_0 7 rfl rfl)
theorem dJ8_putCharsSB_8 : decode cJ8_putCharsSB 8 = .ok (.invokestatic 96, 3) := dk_184 0 96 (dk_at dksJ8_putCharsSB_0 8 rfl rfl)
theorem dJ8_putCharsSB_11 : decode cJ8_putCharsSB 11 = .ok (.iload_n 3, 1) := dk_29 (dk_at dksJ8_putCharsSB_0 11 rfl rfl)
theorem dJ8_putCharsSB_12 : decode cJ8_putCharsSB 12 = .ok (.istore 5, 2) := dk_54 5 (dk_at dksJ8_putCharsSB_0 12 rfl rfl)
theorem dJ8_putCharsSB_14 : decode cJ8_putCharsSB 14 = .ok (.iload 5, 2) := dk_21 5 (dk_at dksJ8_putCharsSB_0 14 rfl rfl)
theorem dJ8_putCharsSB_16 : decode cJ8_putCharsSB 16 = .ok (.iload 4, 2) := dk_21 4 (dk_at dksJ8_putCharsSB_0 16 rfl rfl)
theorem dJ8_putCharsSB_18 : decode cJ8_putCharsSB 18 = .ok (.if_icmp .ge 25, 3) := dk_162 0 25 (dk_at dksJ8_putCharsSB_0 18 rfl rfl)
theorem dJ8_putCharsSB_21 : decode cJ8_putCharsSB 21 = .ok (.aload_n 0, 1) := dk_42 (dk_at dksJ8_putCharsSB_0 21 rfl rfl)
theorem dJ8_putCharsSB_22 : decode cJ8_putCharsSB 22 = .ok (.iload_n 1, 1) := dk_27 (dk_at dksJ8_putCharsSB_0 22 rfl rfl)
theorem dJ8_putCharsSB_23 : decode cJ8_putCharsSB 23 = .ok (.iinc 1 1, 3) := dk_132 1 1 (dk_at dksJ8_putCharsSB_1 0 rfl rfl)
theorem dJ8_putCharsSB_26 : decode cJ8_putCharsSB 26 = .ok (.aload_n 2, 1) := dk_44 (dk_at dksJ8_putCharsSB_1 3 rfl rfl)
theorem dJ8_putCharsSB_27 : decode cJ8_putCharsSB 27 = .ok (.iload 5, 2) := dk_21 5 (dk_at dksJ8_putCharsSB_1 4 rfl rfl)
theorem dJ8_putCharsSB_29 : decode cJ8_putCharsSB 29 = .ok (.invokeinterface 388 2, 5) := by decide +kernel
theorem dJ8_putCharsSB_34 : decode cJ8_putCharsSB 34 = .ok (.invokestatic 111, 3) := dk_184 0 111 (dk_at dksJ8_putCharsSB_1 11 rfl rfl)
theorem dJ8_putCharsSB_37 : decode cJ8_putCharsSB 37 = .ok (.iinc 5 1, 3) := dk_132 5 1 (dk_at dksJ8_putCharsSB_1 14 rfl rfl)
theorem dJ8_putCharsSB_40 : decode cJ8_putCharsSB 40 = .ok (.goto (-26), 3) := dk_167 255 230 (dk_at dksJ8_putCharsSB_1 17 rfl rfl)
theorem dJ8_putCharsSB_43 : decode cJ8_putCharsSB 43 = .ok (.return_, 1) := dk_177 (dk_at dksJ8_putCharsSB_1 20 rfl rfl)
abbrev cJ8_putCharSB : ByteArray := prog_39_method_71_code
def yJ8_putCharSB : MethodName := ⟨RJ8, "putCharSB", "([BII)V"⟩
def dkwJ8_putCharSB_0 : List UInt8 := [27, 42, 184, 0, 67, 42, 27, 28, 184, 0, 111, 177]
abbrev dktJ8_putCharSB_0 : List UInt8 := dkwJ8_putCharSB_0 ++ []
theorem dksJ8_putCharSB_0 : cJ8_putCharSB.data.toList.drop 0 = dktJ8_putCharSB_0 := by decide +kernel
theorem dJ8_putCharSB_0 : decode cJ8_putCharSB 0 = .ok (.iload_n 1, 1) := dk_27 (dk_at dksJ8_putCharSB_0 0 rfl rfl)
theorem dJ8_putCharSB_1 : decode cJ8_putCharSB 1 = .ok (.aload_n 0, 1) := dk_42 (dk_at dksJ8_putCharSB_0 1 rfl rfl)
theorem dJ8_putCharSB_2 : decode cJ8_putCharSB 2 = .ok (.invokestatic 67, 3) := dk_184 0 67 (dk_at dksJ8_putCharSB_0 2 rfl rfl)
theorem dJ8_putCharSB_5 : decode cJ8_putCharSB 5 = .ok (.aload_n 0, 1) := dk_42 (dk_at dksJ8_putCharSB_0 5 rfl rfl)
theorem dJ8_putCharSB_6 : decode cJ8_putCharSB 6 = .ok (.iload_n 1, 1) := dk_27 (dk_at dksJ8_putCharSB_0 6 rfl rfl)
theorem dJ8_putCharSB_7 : decode cJ8_putCharSB 7 = .ok (.iload_n 2, 1) := dk_28 (dk_at dksJ8_putCharSB_0 7 rfl rfl)
theorem dJ8_putCharSB_8 : decode cJ8_putCharSB 8 = .ok (.invokestatic 111, 3) := dk_184 0 111 (dk_at dksJ8_putCharSB_0 8 rfl rfl)
theorem dJ8_putCharSB_11 : decode cJ8_putCharSB 11 = .ok (.return_, 1) := dk_177 (dk_at dksJ8_putCharSB_0 11 rfl rfl)
abbrev cJ8_hashCode : ByteArray := prog_39_method_39_code
def yJ8_hashCode : MethodName := ⟨RJ8, "hashCode", "([B)I"⟩
def dkwJ8_hashCode_2 : List UInt8 := [3, 167, 0, 22, 42, 3, 184, 0, 71, 167, 0, 14, 42, 3, 42, 190, 4, 122, 3, 8, 184, 0, 220, 172]
abbrev dktJ8_hashCode_2 : List UInt8 := dkwJ8_hashCode_2 ++ []
def dkwJ8_hashCode_1 : List UInt8 := [171, 0, 0, 0, 0, 38, 0, 0, 0, 2, 0, 0, 0, 0, 0, 0, 0, 26, 0, 0, 0, 2, 0, 0, 0, 30]
abbrev dktJ8_hashCode_1 : List UInt8 := dkwJ8_hashCode_1 ++ dktJ8_hashCode_2
def dkwJ8_hashCode_0 : List UInt8 := [42, 190]
abbrev dktJ8_hashCode_0 : List UInt8 := dkwJ8_hashCode_0 ++ dktJ8_hashCode_1
theorem dksJ8_hashCode_0 : cJ8_hashCode.data.toList.drop 0 = dktJ8_hashCode_0 := by decide +kernel
theorem dksJ8_hashCode_1 : cJ8_hashCode.data.toList.drop 2 = dktJ8_hashCode_1 := dk_seg dksJ8_hashCode_0 2 rfl rfl
theorem dksJ8_hashCode_2 : cJ8_hashCode.data.toList.drop 28 = dktJ8_hashCode_2 := dk_seg dksJ8_hashCode_1 26 rfl rfl
theorem dJ8_hashCode_0 : decode cJ8_hashCode 0 = .ok (.aload_n 0, 1) := dk_42 (dk_at dksJ8_hashCode_0 0 rfl rfl)
theorem dJ8_hashCode_1 : decode cJ8_hashCode 1 = .ok (.arraylength, 1) := dk_190 (dk_at dksJ8_hashCode_0 1 rfl rfl)
theorem dJ8_hashCode_2 : decode cJ8_hashCode 2 = .ok (.lookupswitch 38 #[(0, 26), (2, 30)], 26) := by decide +kernel
theorem dJ8_hashCode_28 : decode cJ8_hashCode 28 = .ok (.iconst 0, 1) := dk_3 (dk_at dksJ8_hashCode_2 0 rfl rfl)
theorem dJ8_hashCode_29 : decode cJ8_hashCode 29 = .ok (.goto 22, 3) := dk_167 0 22 (dk_at dksJ8_hashCode_2 1 rfl rfl)
theorem dJ8_hashCode_32 : decode cJ8_hashCode 32 = .ok (.aload_n 0, 1) := dk_42 (dk_at dksJ8_hashCode_2 4 rfl rfl)
theorem dJ8_hashCode_33 : decode cJ8_hashCode 33 = .ok (.iconst 0, 1) := dk_3 (dk_at dksJ8_hashCode_2 5 rfl rfl)
theorem dJ8_hashCode_34 : decode cJ8_hashCode 34 = .ok (.invokestatic 71, 3) := dk_184 0 71 (dk_at dksJ8_hashCode_2 6 rfl rfl)
theorem dJ8_hashCode_37 : decode cJ8_hashCode 37 = .ok (.goto 14, 3) := dk_167 0 14 (dk_at dksJ8_hashCode_2 9 rfl rfl)
theorem dJ8_hashCode_40 : decode cJ8_hashCode 40 = .ok (.aload_n 0, 1) := dk_42 (dk_at dksJ8_hashCode_2 12 rfl rfl)
theorem dJ8_hashCode_41 : decode cJ8_hashCode 41 = .ok (.iconst 0, 1) := dk_3 (dk_at dksJ8_hashCode_2 13 rfl rfl)
theorem dJ8_hashCode_42 : decode cJ8_hashCode 42 = .ok (.aload_n 0, 1) := dk_42 (dk_at dksJ8_hashCode_2 14 rfl rfl)
theorem dJ8_hashCode_43 : decode cJ8_hashCode 43 = .ok (.arraylength, 1) := dk_190 (dk_at dksJ8_hashCode_2 15 rfl rfl)
theorem dJ8_hashCode_44 : decode cJ8_hashCode 44 = .ok (.iconst 1, 1) := dk_4 (dk_at dksJ8_hashCode_2 16 rfl rfl)
theorem dJ8_hashCode_45 : decode cJ8_hashCode 45 = .ok (.ishr, 1) := dk_122 (dk_at dksJ8_hashCode_2 17 rfl rfl)
theorem dJ8_hashCode_46 : decode cJ8_hashCode 46 = .ok (.iconst 0, 1) := dk_3 (dk_at dksJ8_hashCode_2 18 rfl rfl)
theorem dJ8_hashCode_47 : decode cJ8_hashCode 47 = .ok (.iconst 5, 1) := dk_8 (dk_at dksJ8_hashCode_2 19 rfl rfl)
theorem dJ8_hashCode_48 : decode cJ8_hashCode 48 = .ok (.invokestatic 220, 3) := dk_184 0 220 (dk_at dksJ8_hashCode_2 20 rfl rfl)
theorem dJ8_hashCode_51 : decode cJ8_hashCode 51 = .ok (.ireturn, 1) := dk_172 (dk_at dksJ8_hashCode_2 23 rfl rfl)
abbrev cJ8_fillNull : ByteArray := prog_39_method_70_code
def yJ8_fillNull : MethodName := ⟨RJ8, "fillNull", "([BII)V"⟩
def dkwJ8_fillNull_0 : List UInt8 := [42, 27, 4, 120, 28, 4, 120, 3, 184, 1, 124, 177]
abbrev dktJ8_fillNull_0 : List UInt8 := dkwJ8_fillNull_0 ++ []
theorem dksJ8_fillNull_0 : cJ8_fillNull.data.toList.drop 0 = dktJ8_fillNull_0 := by decide +kernel
theorem dJ8_fillNull_0 : decode cJ8_fillNull 0 = .ok (.aload_n 0, 1) := dk_42 (dk_at dksJ8_fillNull_0 0 rfl rfl)
theorem dJ8_fillNull_1 : decode cJ8_fillNull 1 = .ok (.iload_n 1, 1) := dk_27 (dk_at dksJ8_fillNull_0 1 rfl rfl)
theorem dJ8_fillNull_2 : decode cJ8_fillNull 2 = .ok (.iconst 1, 1) := dk_4 (dk_at dksJ8_fillNull_0 2 rfl rfl)
theorem dJ8_fillNull_3 : decode cJ8_fillNull 3 = .ok (.ishl, 1) := dk_120 (dk_at dksJ8_fillNull_0 3 rfl rfl)
theorem dJ8_fillNull_4 : decode cJ8_fillNull 4 = .ok (.iload_n 2, 1) := dk_28 (dk_at dksJ8_fillNull_0 4 rfl rfl)
theorem dJ8_fillNull_5 : decode cJ8_fillNull 5 = .ok (.iconst 1, 1) := dk_4 (dk_at dksJ8_fillNull_0 5 rfl rfl)
theorem dJ8_fillNull_6 : decode cJ8_fillNull 6 = .ok (.ishl, 1) := dk_120 (dk_at dksJ8_fillNull_0 6 rfl rfl)
theorem dJ8_fillNull_7 : decode cJ8_fillNull 7 = .ok (.iconst 0, 1) := dk_3 (dk_at dksJ8_fillNull_0 7 rfl rfl)
theorem dJ8_fillNull_8 : decode cJ8_fillNull 8 = .ok (.invokestatic 380, 3) := dk_184 1 124 (dk_at dksJ8_fillNull_0 8 rfl rfl)
theorem dJ8_fillNull_11 : decode cJ8_fillNull 11 = .ok (.return_, 1) := dk_177 (dk_at dksJ8_fillNull_0 11 rfl rfl)
abbrev cJ8_newString : ByteArray := prog_39_method_69_code
def yJ8_newString : MethodName := ⟨RJ8, "newString", "([BII)Ljava/lang/String;"⟩
def dkwJ8_newString_2 : List UInt8 := [42, 27, 4, 120, 29, 4, 120, 184, 0, 126, 4, 183, 1, 7, 176]
abbrev dktJ8_newString_2 : List UInt8 := dkwJ8_newString_2 ++ []
def dkwJ8_newString_1 : List UInt8 := [184, 1, 3, 54, 4, 187, 0, 3, 89, 45, 21, 4, 183, 1, 7, 176, 27, 28, 96, 62, 187, 0, 3, 89]
abbrev dktJ8_newString_1 : List UInt8 := dkwJ8_newString_1 ++ dktJ8_newString_2
def dkwJ8_newString_0 : List UInt8 := [28, 154, 0, 7, 19, 1, 39, 176, 178, 0, 251, 153, 0, 28, 42, 27, 28, 184, 1, 1, 78, 45, 28]
abbrev dktJ8_newString_0 : List UInt8 := dkwJ8_newString_0 ++ dktJ8_newString_1
theorem dksJ8_newString_0 : cJ8_newString.data.toList.drop 0 = dktJ8_newString_0 := by decide +kernel
theorem dksJ8_newString_1 : cJ8_newString.data.toList.drop 23 = dktJ8_newString_1 := dk_seg dksJ8_newString_0 23 rfl rfl
theorem dksJ8_newString_2 : cJ8_newString.data.toList.drop 47 = dktJ8_newString_2 := dk_seg dksJ8_newString_1 24 rfl rfl
theorem dJ8_newString_0 : decode cJ8_newString 0 = .ok (.iload_n 2, 1) := dk_28 (dk_at dksJ8_newString_0 0 rfl rfl)
theorem dJ8_newString_1 : decode cJ8_newString 1 = .ok (.ifCond .ne 7, 3) := dk_154 0 7 (dk_at dksJ8_newString_0 1 rfl rfl)
theorem dJ8_newString_4 : decode cJ8_newString 4 = .ok (.ldc_w 295, 3) := dk_19 1 39 (dk_at dksJ8_newString_0 4 rfl rfl)
theorem dJ8_newString_7 : decode cJ8_newString 7 = .ok (.areturn, 1) := dk_176 (dk_at dksJ8_newString_0 7 rfl rfl)
theorem dJ8_newString_8 : decode cJ8_newString 8 = .ok (.getstatic 251, 3) := dk_178 0 251 (dk_at dksJ8_newString_0 8 rfl rfl)
theorem dJ8_newString_11 : decode cJ8_newString 11 = .ok (.ifCond .eq 28, 3) := dk_153 0 28 (dk_at dksJ8_newString_0 11 rfl rfl)
theorem dJ8_newString_14 : decode cJ8_newString 14 = .ok (.aload_n 0, 1) := dk_42 (dk_at dksJ8_newString_0 14 rfl rfl)
theorem dJ8_newString_15 : decode cJ8_newString 15 = .ok (.iload_n 1, 1) := dk_27 (dk_at dksJ8_newString_0 15 rfl rfl)
theorem dJ8_newString_16 : decode cJ8_newString 16 = .ok (.iload_n 2, 1) := dk_28 (dk_at dksJ8_newString_0 16 rfl rfl)
theorem dJ8_newString_17 : decode cJ8_newString 17 = .ok (.invokestatic 257, 3) := dk_184 1 1 (dk_at dksJ8_newString_0 17 rfl rfl)
theorem dJ8_newString_20 : decode cJ8_newString 20 = .ok (.astore_n 3, 1) := dk_78 (dk_at dksJ8_newString_0 20 rfl rfl)
theorem dJ8_newString_21 : decode cJ8_newString 21 = .ok (.aload_n 3, 1) := dk_45 (dk_at dksJ8_newString_0 21 rfl rfl)
theorem dJ8_newString_22 : decode cJ8_newString 22 = .ok (.iload_n 2, 1) := dk_28 (dk_at dksJ8_newString_0 22 rfl rfl)
theorem dJ8_newString_23 : decode cJ8_newString 23 = .ok (.invokestatic 259, 3) := dk_184 1 3 (dk_at dksJ8_newString_1 0 rfl rfl)
theorem dJ8_newString_26 : decode cJ8_newString 26 = .ok (.istore 4, 2) := dk_54 4 (dk_at dksJ8_newString_1 3 rfl rfl)
theorem dJ8_newString_28 : decode cJ8_newString 28 = .ok (.new 3, 3) := dk_187 0 3 (dk_at dksJ8_newString_1 5 rfl rfl)
theorem dJ8_newString_31 : decode cJ8_newString 31 = .ok (.dup, 1) := dk_89 (dk_at dksJ8_newString_1 8 rfl rfl)
theorem dJ8_newString_32 : decode cJ8_newString 32 = .ok (.aload_n 3, 1) := dk_45 (dk_at dksJ8_newString_1 9 rfl rfl)
theorem dJ8_newString_33 : decode cJ8_newString 33 = .ok (.iload 4, 2) := dk_21 4 (dk_at dksJ8_newString_1 10 rfl rfl)
theorem dJ8_newString_35 : decode cJ8_newString 35 = .ok (.invokespecial 263, 3) := dk_183 1 7 (dk_at dksJ8_newString_1 12 rfl rfl)
theorem dJ8_newString_38 : decode cJ8_newString 38 = .ok (.areturn, 1) := dk_176 (dk_at dksJ8_newString_1 15 rfl rfl)
theorem dJ8_newString_39 : decode cJ8_newString 39 = .ok (.iload_n 1, 1) := dk_27 (dk_at dksJ8_newString_1 16 rfl rfl)
theorem dJ8_newString_40 : decode cJ8_newString 40 = .ok (.iload_n 2, 1) := dk_28 (dk_at dksJ8_newString_1 17 rfl rfl)
theorem dJ8_newString_41 : decode cJ8_newString 41 = .ok (.iadd, 1) := dk_96 (dk_at dksJ8_newString_1 18 rfl rfl)
theorem dJ8_newString_42 : decode cJ8_newString 42 = .ok (.istore_n 3, 1) := dk_62 (dk_at dksJ8_newString_1 19 rfl rfl)
theorem dJ8_newString_43 : decode cJ8_newString 43 = .ok (.new 3, 3) := dk_187 0 3 (dk_at dksJ8_newString_1 20 rfl rfl)
theorem dJ8_newString_46 : decode cJ8_newString 46 = .ok (.dup, 1) := dk_89 (dk_at dksJ8_newString_1 23 rfl rfl)
theorem dJ8_newString_47 : decode cJ8_newString 47 = .ok (.aload_n 0, 1) := dk_42 (dk_at dksJ8_newString_2 0 rfl rfl)
theorem dJ8_newString_48 : decode cJ8_newString 48 = .ok (.iload_n 1, 1) := dk_27 (dk_at dksJ8_newString_2 1 rfl rfl)
theorem dJ8_newString_49 : decode cJ8_newString 49 = .ok (.iconst 1, 1) := dk_4 (dk_at dksJ8_newString_2 2 rfl rfl)
theorem dJ8_newString_50 : decode cJ8_newString 50 = .ok (.ishl, 1) := dk_120 (dk_at dksJ8_newString_2 3 rfl rfl)
theorem dJ8_newString_51 : decode cJ8_newString 51 = .ok (.iload_n 3, 1) := dk_29 (dk_at dksJ8_newString_2 4 rfl rfl)
theorem dJ8_newString_52 : decode cJ8_newString 52 = .ok (.iconst 1, 1) := dk_4 (dk_at dksJ8_newString_2 5 rfl rfl)
theorem dJ8_newString_53 : decode cJ8_newString 53 = .ok (.ishl, 1) := dk_120 (dk_at dksJ8_newString_2 6 rfl rfl)
theorem dJ8_newString_54 : decode cJ8_newString 54 = .ok (.invokestatic 126, 3) := dk_184 0 126 (dk_at dksJ8_newString_2 7 rfl rfl)
theorem dJ8_newString_57 : decode cJ8_newString 57 = .ok (.iconst 1, 1) := dk_4 (dk_at dksJ8_newString_2 10 rfl rfl)
theorem dJ8_newString_58 : decode cJ8_newString 58 = .ok (.invokespecial 263, 3) := dk_183 1 7 (dk_at dksJ8_newString_2 11 rfl rfl)
theorem dJ8_newString_61 : decode cJ8_newString 61 = .ok (.areturn, 1) := dk_176 (dk_at dksJ8_newString_2 14 rfl rfl)
abbrev cJ8_indexOf_2 : ByteArray := prog_39_method_41_code
def yJ8_indexOf_2 : MethodName := ⟨RJ8, "indexOf", "([B[B)I"⟩
def dkwJ8_indexOf_2_1 : List UInt8 := [184, 0, 48, 3, 184, 0, 235, 172]
abbrev dktJ8_indexOf_2_1 : List UInt8 := dkwJ8_indexOf_2_1 ++ []
def dkwJ8_indexOf_2_0 : List UInt8 := [43, 190, 154, 0, 5, 3, 172, 42, 190, 43, 190, 162, 0, 5, 2, 172, 42, 42, 184, 0, 48, 43, 43]
abbrev dktJ8_indexOf_2_0 : List UInt8 := dkwJ8_indexOf_2_0 ++ dktJ8_indexOf_2_1
theorem dksJ8_indexOf_2_0 : cJ8_indexOf_2.data.toList.drop 0 = dktJ8_indexOf_2_0 := by decide +kernel
theorem dksJ8_indexOf_2_1 : cJ8_indexOf_2.data.toList.drop 23 = dktJ8_indexOf_2_1 := dk_seg dksJ8_indexOf_2_0 23 rfl rfl
theorem dJ8_indexOf_2_0 : decode cJ8_indexOf_2 0 = .ok (.aload_n 1, 1) := dk_43 (dk_at dksJ8_indexOf_2_0 0 rfl rfl)
theorem dJ8_indexOf_2_1 : decode cJ8_indexOf_2 1 = .ok (.arraylength, 1) := dk_190 (dk_at dksJ8_indexOf_2_0 1 rfl rfl)
theorem dJ8_indexOf_2_2 : decode cJ8_indexOf_2 2 = .ok (.ifCond .ne 5, 3) := dk_154 0 5 (dk_at dksJ8_indexOf_2_0 2 rfl rfl)
theorem dJ8_indexOf_2_5 : decode cJ8_indexOf_2 5 = .ok (.iconst 0, 1) := dk_3 (dk_at dksJ8_indexOf_2_0 5 rfl rfl)
theorem dJ8_indexOf_2_6 : decode cJ8_indexOf_2 6 = .ok (.ireturn, 1) := dk_172 (dk_at dksJ8_indexOf_2_0 6 rfl rfl)
theorem dJ8_indexOf_2_7 : decode cJ8_indexOf_2 7 = .ok (.aload_n 0, 1) := dk_42 (dk_at dksJ8_indexOf_2_0 7 rfl rfl)
theorem dJ8_indexOf_2_8 : decode cJ8_indexOf_2 8 = .ok (.arraylength, 1) := dk_190 (dk_at dksJ8_indexOf_2_0 8 rfl rfl)
theorem dJ8_indexOf_2_9 : decode cJ8_indexOf_2 9 = .ok (.aload_n 1, 1) := dk_43 (dk_at dksJ8_indexOf_2_0 9 rfl rfl)
theorem dJ8_indexOf_2_10 : decode cJ8_indexOf_2 10 = .ok (.arraylength, 1) := dk_190 (dk_at dksJ8_indexOf_2_0 10 rfl rfl)
theorem dJ8_indexOf_2_11 : decode cJ8_indexOf_2 11 = .ok (.if_icmp .ge 5, 3) := dk_162 0 5 (dk_at dksJ8_indexOf_2_0 11 rfl rfl)
theorem dJ8_indexOf_2_14 : decode cJ8_indexOf_2 14 = .ok (.iconst (-1), 1) := dk_2 (dk_at dksJ8_indexOf_2_0 14 rfl rfl)
theorem dJ8_indexOf_2_15 : decode cJ8_indexOf_2 15 = .ok (.ireturn, 1) := dk_172 (dk_at dksJ8_indexOf_2_0 15 rfl rfl)
theorem dJ8_indexOf_2_16 : decode cJ8_indexOf_2 16 = .ok (.aload_n 0, 1) := dk_42 (dk_at dksJ8_indexOf_2_0 16 rfl rfl)
theorem dJ8_indexOf_2_17 : decode cJ8_indexOf_2 17 = .ok (.aload_n 0, 1) := dk_42 (dk_at dksJ8_indexOf_2_0 17 rfl rfl)
theorem dJ8_indexOf_2_18 : decode cJ8_indexOf_2 18 = .ok (.invokestatic 48, 3) := dk_184 0 48 (dk_at dksJ8_indexOf_2_0 18 rfl rfl)
theorem dJ8_indexOf_2_21 : decode cJ8_indexOf_2 21 = .ok (.aload_n 1, 1) := dk_43 (dk_at dksJ8_indexOf_2_0 21 rfl rfl)
theorem dJ8_indexOf_2_22 : decode cJ8_indexOf_2 22 = .ok (.aload_n 1, 1) := dk_43 (dk_at dksJ8_indexOf_2_0 22 rfl rfl)
theorem dJ8_indexOf_2_23 : decode cJ8_indexOf_2 23 = .ok (.invokestatic 48, 3) := dk_184 0 48 (dk_at dksJ8_indexOf_2_1 0 rfl rfl)
theorem dJ8_indexOf_2_26 : decode cJ8_indexOf_2 26 = .ok (.iconst 0, 1) := dk_3 (dk_at dksJ8_indexOf_2_1 3 rfl rfl)
theorem dJ8_indexOf_2_27 : decode cJ8_indexOf_2 27 = .ok (.invokestatic 235, 3) := dk_184 0 235 (dk_at dksJ8_indexOf_2_1 4 rfl rfl)
theorem dJ8_indexOf_2_30 : decode cJ8_indexOf_2 30 = .ok (.ireturn, 1) := dk_172 (dk_at dksJ8_indexOf_2_1 7 rfl rfl)
abbrev cJ8_indexOfUnsafe : ByteArray := prog_39_method_43_code
def yJ8_indexOfUnsafe : MethodName := ⟨RJ8, "indexOfUnsafe", "([BI[BII)I"⟩
def dkwJ8_indexOfUnsafe_9 : List UInt8 := [167, 255, 146, 2, 172]
abbrev dktJ8_indexOfUnsafe_9 : List UInt8 := dkwJ8_indexOfUnsafe_9 ++ []
def dkwJ8_indexOfUnsafe_8 : List UInt8 := [132, 8, 1, 132, 10, 1, 167, 255, 228, 21, 8, 21, 9, 160, 0, 6, 21, 7, 172, 132, 7, 1]
abbrev dktJ8_indexOfUnsafe_8 : List UInt8 := dkwJ8_indexOfUnsafe_8 ++ dktJ8_indexOfUnsafe_9
def dkwJ8_indexOfUnsafe_7 : List UInt8 := [21, 8, 21, 9, 162, 0, 27, 42, 21, 8, 184, 0, 71, 44, 21, 10, 184, 0, 71, 160, 0, 12]
abbrev dktJ8_indexOfUnsafe_7 : List UInt8 := dkwJ8_indexOfUnsafe_7 ++ dktJ8_indexOfUnsafe_8
def dkwJ8_indexOfUnsafe_6 : List UInt8 := [21, 7, 21, 6, 163, 0, 61, 21, 7, 4, 96, 54, 8, 21, 8, 29, 96, 4, 100, 54, 9, 4, 54, 10]
abbrev dktJ8_indexOfUnsafe_6 : List UInt8 := dkwJ8_indexOfUnsafe_6 ++ dktJ8_indexOfUnsafe_7
def dkwJ8_indexOfUnsafe_5 : List UInt8 := [132, 7, 1, 21, 7, 21, 6, 163, 0, 17, 42, 21, 7, 184, 0, 71, 21, 5, 159, 0, 6, 167, 255, 235]
abbrev dktJ8_indexOfUnsafe_5 : List UInt8 := dkwJ8_indexOfUnsafe_5 ++ dktJ8_indexOfUnsafe_6
def dkwJ8_indexOfUnsafe_4 : List UInt8 := [21, 4, 54, 7, 21, 7, 21, 6, 163, 0, 109, 42, 21, 7, 184, 0, 71, 21, 5, 159, 0, 27]
abbrev dktJ8_indexOfUnsafe_4 : List UInt8 := dkwJ8_indexOfUnsafe_4 ++ dktJ8_indexOfUnsafe_5
def dkwJ8_indexOfUnsafe_3 : List UInt8 := [162, 0, 11, 187, 0, 52, 89, 183, 0, 66, 191, 44, 3, 184, 0, 71, 54, 5, 27, 29, 100, 54, 6]
abbrev dktJ8_indexOfUnsafe_3 : List UInt8 := dkwJ8_indexOfUnsafe_3 ++ dktJ8_indexOfUnsafe_4
def dkwJ8_indexOfUnsafe_2 : List UInt8 := [184, 0, 48, 164, 0, 11, 187, 0, 52, 89, 183, 0, 66, 191, 178, 0, 44, 154, 0, 16, 27, 29]
abbrev dktJ8_indexOfUnsafe_2 : List UInt8 := dkwJ8_indexOfUnsafe_2 ++ dktJ8_indexOfUnsafe_3
def dkwJ8_indexOfUnsafe_1 : List UInt8 := [154, 0, 15, 29, 157, 0, 11, 187, 0, 52, 89, 183, 0, 66, 191, 178, 0, 44, 154, 0, 19, 29, 44]
abbrev dktJ8_indexOfUnsafe_1 : List UInt8 := dkwJ8_indexOfUnsafe_1 ++ dktJ8_indexOfUnsafe_2
def dkwJ8_indexOfUnsafe_0 : List UInt8 := [178, 0, 44, 154, 0, 16, 21, 4, 156, 0, 11, 187, 0, 52, 89, 183, 0, 66, 191, 178, 0, 44]
abbrev dktJ8_indexOfUnsafe_0 : List UInt8 := dkwJ8_indexOfUnsafe_0 ++ dktJ8_indexOfUnsafe_1
theorem dksJ8_indexOfUnsafe_0 : cJ8_indexOfUnsafe.data.toList.drop 0 = dktJ8_indexOfUnsafe_0 := by decide +kernel
theorem dksJ8_indexOfUnsafe_1 : cJ8_indexOfUnsafe.data.toList.drop 22 = dktJ8_indexOfUnsafe_1 := dk_seg dksJ8_indexOfUnsafe_0 22 rfl rfl
theorem dksJ8_indexOfUnsafe_2 : cJ8_indexOfUnsafe.data.toList.drop 45 = dktJ8_indexOfUnsafe_2 := dk_seg dksJ8_indexOfUnsafe_1 23 rfl rfl
theorem dksJ8_indexOfUnsafe_3 : cJ8_indexOfUnsafe.data.toList.drop 67 = dktJ8_indexOfUnsafe_3 := dk_seg dksJ8_indexOfUnsafe_2 22 rfl rfl
theorem dksJ8_indexOfUnsafe_4 : cJ8_indexOfUnsafe.data.toList.drop 90 = dktJ8_indexOfUnsafe_4 := dk_seg dksJ8_indexOfUnsafe_3 23 rfl rfl
theorem dksJ8_indexOfUnsafe_5 : cJ8_indexOfUnsafe.data.toList.drop 112 = dktJ8_indexOfUnsafe_5 := dk_seg dksJ8_indexOfUnsafe_4 22 rfl rfl
theorem dksJ8_indexOfUnsafe_6 : cJ8_indexOfUnsafe.data.toList.drop 136 = dktJ8_indexOfUnsafe_6 := dk_seg dksJ8_indexOfUnsafe_5 24 rfl rfl
theorem dksJ8_indexOfUnsafe_7 : cJ8_indexOfUnsafe.data.toList.drop 160 = dktJ8_indexOfUnsafe_7 := dk_seg dksJ8_indexOfUnsafe_6 24 rfl rfl
theorem dksJ8_indexOfUnsafe_8 : cJ8_indexOfUnsafe.data.toList.drop 182 = dktJ8_indexOfUnsafe_8 := dk_seg dksJ8_indexOfUnsafe_7 22 rfl rfl
theorem dksJ8_indexOfUnsafe_9 : cJ8_indexOfUnsafe.data.toList.drop 204 = dktJ8_indexOfUnsafe_9 := dk_seg dksJ8_indexOfUnsafe_8 22 rfl rfl
theorem dJ8_indexOfUnsafe_0 : decode cJ8_indexOfUnsafe 0 = .ok (.getstatic 44, 3) := dk_178 0 44 (dk_at dksJ8_indexOfUnsafe_0 0 rfl rfl)
theorem dJ8_indexOfUnsafe_3 : decode cJ8_indexOfUnsafe 3 = .ok (.ifCond .ne 16, 3) := dk_154 0 16 (dk_at dksJ8_indexOfUnsafe_0 3 rfl rfl)
theorem dJ8_indexOfUnsafe_6 : decode cJ8_indexOfUnsafe 6 = .ok (.iload 4, 2) := dk_21 4 (dk_at dksJ8_indexOfUnsafe_0 6 rfl rfl)
theorem dJ8_indexOfUnsafe_8 : decode cJ8_indexOfUnsafe 8 = .ok (.ifCond .ge 11, 3) := dk_156 0 11 (dk_at dksJ8_indexOfUnsafe_0 8 rfl rfl)
theorem dJ8_indexOfUnsafe_11 : decode cJ8_indexOfUnsafe 11 = .ok (.new 52, 3) := dk_187 0 52 (dk_at dksJ8_indexOfUnsafe_0 11 rfl rfl)
theorem dJ8_indexOfUnsafe_14 : decode cJ8_indexOfUnsafe 14 = .ok (.dup, 1) := dk_89 (dk_at dksJ8_indexOfUnsafe_0 14 rfl rfl)
theorem dJ8_indexOfUnsafe_15 : decode cJ8_indexOfUnsafe 15 = .ok (.invokespecial 66, 3) := dk_183 0 66 (dk_at dksJ8_indexOfUnsafe_0 15 rfl rfl)
theorem dJ8_indexOfUnsafe_18 : decode cJ8_indexOfUnsafe 18 = .ok (.athrow, 1) := dk_191 (dk_at dksJ8_indexOfUnsafe_0 18 rfl rfl)
theorem dJ8_indexOfUnsafe_19 : decode cJ8_indexOfUnsafe 19 = .ok (.getstatic 44, 3) := dk_178 0 44 (dk_at dksJ8_indexOfUnsafe_0 19 rfl rfl)
theorem dJ8_indexOfUnsafe_22 : decode cJ8_indexOfUnsafe 22 = .ok (.ifCond .ne 15, 3) := dk_154 0 15 (dk_at dksJ8_indexOfUnsafe_1 0 rfl rfl)
theorem dJ8_indexOfUnsafe_25 : decode cJ8_indexOfUnsafe 25 = .ok (.iload_n 3, 1) := dk_29 (dk_at dksJ8_indexOfUnsafe_1 3 rfl rfl)
theorem dJ8_indexOfUnsafe_26 : decode cJ8_indexOfUnsafe 26 = .ok (.ifCond .gt 11, 3) := dk_157 0 11 (dk_at dksJ8_indexOfUnsafe_1 4 rfl rfl)
theorem dJ8_indexOfUnsafe_29 : decode cJ8_indexOfUnsafe 29 = .ok (.new 52, 3) := dk_187 0 52 (dk_at dksJ8_indexOfUnsafe_1 7 rfl rfl)
theorem dJ8_indexOfUnsafe_32 : decode cJ8_indexOfUnsafe 32 = .ok (.dup, 1) := dk_89 (dk_at dksJ8_indexOfUnsafe_1 10 rfl rfl)
theorem dJ8_indexOfUnsafe_33 : decode cJ8_indexOfUnsafe 33 = .ok (.invokespecial 66, 3) := dk_183 0 66 (dk_at dksJ8_indexOfUnsafe_1 11 rfl rfl)
theorem dJ8_indexOfUnsafe_36 : decode cJ8_indexOfUnsafe 36 = .ok (.athrow, 1) := dk_191 (dk_at dksJ8_indexOfUnsafe_1 14 rfl rfl)
theorem dJ8_indexOfUnsafe_37 : decode cJ8_indexOfUnsafe 37 = .ok (.getstatic 44, 3) := dk_178 0 44 (dk_at dksJ8_indexOfUnsafe_1 15 rfl rfl)
theorem dJ8_indexOfUnsafe_40 : decode cJ8_indexOfUnsafe 40 = .ok (.ifCond .ne 19, 3) := dk_154 0 19 (dk_at dksJ8_indexOfUnsafe_1 18 rfl rfl)
theorem dJ8_indexOfUnsafe_43 : decode cJ8_indexOfUnsafe 43 = .ok (.iload_n 3, 1) := dk_29 (dk_at dksJ8_indexOfUnsafe_1 21 rfl rfl)
theorem dJ8_indexOfUnsafe_44 : decode cJ8_indexOfUnsafe 44 = .ok (.aload_n 2, 1) := dk_44 (dk_at dksJ8_indexOfUnsafe_1 22 rfl rfl)
theorem dJ8_indexOfUnsafe_45 : decode cJ8_indexOfUnsafe 45 = .ok (.invokestatic 48, 3) := dk_184 0 48 (dk_at dksJ8_indexOfUnsafe_2 0 rfl rfl)
theorem dJ8_indexOfUnsafe_48 : decode cJ8_indexOfUnsafe 48 = .ok (.if_icmp .le 11, 3) := dk_164 0 11 (dk_at dksJ8_indexOfUnsafe_2 3 rfl rfl)
theorem dJ8_indexOfUnsafe_51 : decode cJ8_indexOfUnsafe 51 = .ok (.new 52, 3) := dk_187 0 52 (dk_at dksJ8_indexOfUnsafe_2 6 rfl rfl)
theorem dJ8_indexOfUnsafe_54 : decode cJ8_indexOfUnsafe 54 = .ok (.dup, 1) := dk_89 (dk_at dksJ8_indexOfUnsafe_2 9 rfl rfl)
theorem dJ8_indexOfUnsafe_55 : decode cJ8_indexOfUnsafe 55 = .ok (.invokespecial 66, 3) := dk_183 0 66 (dk_at dksJ8_indexOfUnsafe_2 10 rfl rfl)
theorem dJ8_indexOfUnsafe_58 : decode cJ8_indexOfUnsafe 58 = .ok (.athrow, 1) := dk_191 (dk_at dksJ8_indexOfUnsafe_2 13 rfl rfl)
theorem dJ8_indexOfUnsafe_59 : decode cJ8_indexOfUnsafe 59 = .ok (.getstatic 44, 3) := dk_178 0 44 (dk_at dksJ8_indexOfUnsafe_2 14 rfl rfl)
theorem dJ8_indexOfUnsafe_62 : decode cJ8_indexOfUnsafe 62 = .ok (.ifCond .ne 16, 3) := dk_154 0 16 (dk_at dksJ8_indexOfUnsafe_2 17 rfl rfl)
theorem dJ8_indexOfUnsafe_65 : decode cJ8_indexOfUnsafe 65 = .ok (.iload_n 1, 1) := dk_27 (dk_at dksJ8_indexOfUnsafe_2 20 rfl rfl)
theorem dJ8_indexOfUnsafe_66 : decode cJ8_indexOfUnsafe 66 = .ok (.iload_n 3, 1) := dk_29 (dk_at dksJ8_indexOfUnsafe_2 21 rfl rfl)
theorem dJ8_indexOfUnsafe_67 : decode cJ8_indexOfUnsafe 67 = .ok (.if_icmp .ge 11, 3) := dk_162 0 11 (dk_at dksJ8_indexOfUnsafe_3 0 rfl rfl)
theorem dJ8_indexOfUnsafe_70 : decode cJ8_indexOfUnsafe 70 = .ok (.new 52, 3) := dk_187 0 52 (dk_at dksJ8_indexOfUnsafe_3 3 rfl rfl)
theorem dJ8_indexOfUnsafe_73 : decode cJ8_indexOfUnsafe 73 = .ok (.dup, 1) := dk_89 (dk_at dksJ8_indexOfUnsafe_3 6 rfl rfl)
theorem dJ8_indexOfUnsafe_74 : decode cJ8_indexOfUnsafe 74 = .ok (.invokespecial 66, 3) := dk_183 0 66 (dk_at dksJ8_indexOfUnsafe_3 7 rfl rfl)
theorem dJ8_indexOfUnsafe_77 : decode cJ8_indexOfUnsafe 77 = .ok (.athrow, 1) := dk_191 (dk_at dksJ8_indexOfUnsafe_3 10 rfl rfl)
theorem dJ8_indexOfUnsafe_78 : decode cJ8_indexOfUnsafe 78 = .ok (.aload_n 2, 1) := dk_44 (dk_at dksJ8_indexOfUnsafe_3 11 rfl rfl)
theorem dJ8_indexOfUnsafe_79 : decode cJ8_indexOfUnsafe 79 = .ok (.iconst 0, 1) := dk_3 (dk_at dksJ8_indexOfUnsafe_3 12 rfl rfl)
theorem dJ8_indexOfUnsafe_80 : decode cJ8_indexOfUnsafe 80 = .ok (.invokestatic 71, 3) := dk_184 0 71 (dk_at dksJ8_indexOfUnsafe_3 13 rfl rfl)
theorem dJ8_indexOfUnsafe_83 : decode cJ8_indexOfUnsafe 83 = .ok (.istore 5, 2) := dk_54 5 (dk_at dksJ8_indexOfUnsafe_3 16 rfl rfl)
theorem dJ8_indexOfUnsafe_85 : decode cJ8_indexOfUnsafe 85 = .ok (.iload_n 1, 1) := dk_27 (dk_at dksJ8_indexOfUnsafe_3 18 rfl rfl)
theorem dJ8_indexOfUnsafe_86 : decode cJ8_indexOfUnsafe 86 = .ok (.iload_n 3, 1) := dk_29 (dk_at dksJ8_indexOfUnsafe_3 19 rfl rfl)
theorem dJ8_indexOfUnsafe_87 : decode cJ8_indexOfUnsafe 87 = .ok (.isub, 1) := dk_100 (dk_at dksJ8_indexOfUnsafe_3 20 rfl rfl)
theorem dJ8_indexOfUnsafe_88 : decode cJ8_indexOfUnsafe 88 = .ok (.istore 6, 2) := dk_54 6 (dk_at dksJ8_indexOfUnsafe_3 21 rfl rfl)
theorem dJ8_indexOfUnsafe_90 : decode cJ8_indexOfUnsafe 90 = .ok (.iload 4, 2) := dk_21 4 (dk_at dksJ8_indexOfUnsafe_4 0 rfl rfl)
theorem dJ8_indexOfUnsafe_92 : decode cJ8_indexOfUnsafe 92 = .ok (.istore 7, 2) := dk_54 7 (dk_at dksJ8_indexOfUnsafe_4 2 rfl rfl)
theorem dJ8_indexOfUnsafe_94 : decode cJ8_indexOfUnsafe 94 = .ok (.iload 7, 2) := dk_21 7 (dk_at dksJ8_indexOfUnsafe_4 4 rfl rfl)
theorem dJ8_indexOfUnsafe_96 : decode cJ8_indexOfUnsafe 96 = .ok (.iload 6, 2) := dk_21 6 (dk_at dksJ8_indexOfUnsafe_4 6 rfl rfl)
theorem dJ8_indexOfUnsafe_98 : decode cJ8_indexOfUnsafe 98 = .ok (.if_icmp .gt 109, 3) := dk_163 0 109 (dk_at dksJ8_indexOfUnsafe_4 8 rfl rfl)
theorem dJ8_indexOfUnsafe_101 : decode cJ8_indexOfUnsafe 101 = .ok (.aload_n 0, 1) := dk_42 (dk_at dksJ8_indexOfUnsafe_4 11 rfl rfl)
theorem dJ8_indexOfUnsafe_102 : decode cJ8_indexOfUnsafe 102 = .ok (.iload 7, 2) := dk_21 7 (dk_at dksJ8_indexOfUnsafe_4 12 rfl rfl)
theorem dJ8_indexOfUnsafe_104 : decode cJ8_indexOfUnsafe 104 = .ok (.invokestatic 71, 3) := dk_184 0 71 (dk_at dksJ8_indexOfUnsafe_4 14 rfl rfl)
theorem dJ8_indexOfUnsafe_107 : decode cJ8_indexOfUnsafe 107 = .ok (.iload 5, 2) := dk_21 5 (dk_at dksJ8_indexOfUnsafe_4 17 rfl rfl)
theorem dJ8_indexOfUnsafe_109 : decode cJ8_indexOfUnsafe 109 = .ok (.if_icmp .eq 27, 3) := dk_159 0 27 (dk_at dksJ8_indexOfUnsafe_4 19 rfl rfl)
theorem dJ8_indexOfUnsafe_112 : decode cJ8_indexOfUnsafe 112 = .ok (.iinc 7 1, 3) := dk_132 7 1 (dk_at dksJ8_indexOfUnsafe_5 0 rfl rfl)
theorem dJ8_indexOfUnsafe_115 : decode cJ8_indexOfUnsafe 115 = .ok (.iload 7, 2) := dk_21 7 (dk_at dksJ8_indexOfUnsafe_5 3 rfl rfl)
theorem dJ8_indexOfUnsafe_117 : decode cJ8_indexOfUnsafe 117 = .ok (.iload 6, 2) := dk_21 6 (dk_at dksJ8_indexOfUnsafe_5 5 rfl rfl)
theorem dJ8_indexOfUnsafe_119 : decode cJ8_indexOfUnsafe 119 = .ok (.if_icmp .gt 17, 3) := dk_163 0 17 (dk_at dksJ8_indexOfUnsafe_5 7 rfl rfl)
theorem dJ8_indexOfUnsafe_122 : decode cJ8_indexOfUnsafe 122 = .ok (.aload_n 0, 1) := dk_42 (dk_at dksJ8_indexOfUnsafe_5 10 rfl rfl)
theorem dJ8_indexOfUnsafe_123 : decode cJ8_indexOfUnsafe 123 = .ok (.iload 7, 2) := dk_21 7 (dk_at dksJ8_indexOfUnsafe_5 11 rfl rfl)
theorem dJ8_indexOfUnsafe_125 : decode cJ8_indexOfUnsafe 125 = .ok (.invokestatic 71, 3) := dk_184 0 71 (dk_at dksJ8_indexOfUnsafe_5 13 rfl rfl)
theorem dJ8_indexOfUnsafe_128 : decode cJ8_indexOfUnsafe 128 = .ok (.iload 5, 2) := dk_21 5 (dk_at dksJ8_indexOfUnsafe_5 16 rfl rfl)
theorem dJ8_indexOfUnsafe_130 : decode cJ8_indexOfUnsafe 130 = .ok (.if_icmp .eq 6, 3) := dk_159 0 6 (dk_at dksJ8_indexOfUnsafe_5 18 rfl rfl)
theorem dJ8_indexOfUnsafe_133 : decode cJ8_indexOfUnsafe 133 = .ok (.goto (-21), 3) := dk_167 255 235 (dk_at dksJ8_indexOfUnsafe_5 21 rfl rfl)
theorem dJ8_indexOfUnsafe_136 : decode cJ8_indexOfUnsafe 136 = .ok (.iload 7, 2) := dk_21 7 (dk_at dksJ8_indexOfUnsafe_6 0 rfl rfl)
theorem dJ8_indexOfUnsafe_138 : decode cJ8_indexOfUnsafe 138 = .ok (.iload 6, 2) := dk_21 6 (dk_at dksJ8_indexOfUnsafe_6 2 rfl rfl)
theorem dJ8_indexOfUnsafe_140 : decode cJ8_indexOfUnsafe 140 = .ok (.if_icmp .gt 61, 3) := dk_163 0 61 (dk_at dksJ8_indexOfUnsafe_6 4 rfl rfl)
theorem dJ8_indexOfUnsafe_143 : decode cJ8_indexOfUnsafe 143 = .ok (.iload 7, 2) := dk_21 7 (dk_at dksJ8_indexOfUnsafe_6 7 rfl rfl)
theorem dJ8_indexOfUnsafe_145 : decode cJ8_indexOfUnsafe 145 = .ok (.iconst 1, 1) := dk_4 (dk_at dksJ8_indexOfUnsafe_6 9 rfl rfl)
theorem dJ8_indexOfUnsafe_146 : decode cJ8_indexOfUnsafe 146 = .ok (.iadd, 1) := dk_96 (dk_at dksJ8_indexOfUnsafe_6 10 rfl rfl)
theorem dJ8_indexOfUnsafe_147 : decode cJ8_indexOfUnsafe 147 = .ok (.istore 8, 2) := dk_54 8 (dk_at dksJ8_indexOfUnsafe_6 11 rfl rfl)
theorem dJ8_indexOfUnsafe_149 : decode cJ8_indexOfUnsafe 149 = .ok (.iload 8, 2) := dk_21 8 (dk_at dksJ8_indexOfUnsafe_6 13 rfl rfl)
theorem dJ8_indexOfUnsafe_151 : decode cJ8_indexOfUnsafe 151 = .ok (.iload_n 3, 1) := dk_29 (dk_at dksJ8_indexOfUnsafe_6 15 rfl rfl)
theorem dJ8_indexOfUnsafe_152 : decode cJ8_indexOfUnsafe 152 = .ok (.iadd, 1) := dk_96 (dk_at dksJ8_indexOfUnsafe_6 16 rfl rfl)
theorem dJ8_indexOfUnsafe_153 : decode cJ8_indexOfUnsafe 153 = .ok (.iconst 1, 1) := dk_4 (dk_at dksJ8_indexOfUnsafe_6 17 rfl rfl)
theorem dJ8_indexOfUnsafe_154 : decode cJ8_indexOfUnsafe 154 = .ok (.isub, 1) := dk_100 (dk_at dksJ8_indexOfUnsafe_6 18 rfl rfl)
theorem dJ8_indexOfUnsafe_155 : decode cJ8_indexOfUnsafe 155 = .ok (.istore 9, 2) := dk_54 9 (dk_at dksJ8_indexOfUnsafe_6 19 rfl rfl)
theorem dJ8_indexOfUnsafe_157 : decode cJ8_indexOfUnsafe 157 = .ok (.iconst 1, 1) := dk_4 (dk_at dksJ8_indexOfUnsafe_6 21 rfl rfl)
theorem dJ8_indexOfUnsafe_158 : decode cJ8_indexOfUnsafe 158 = .ok (.istore 10, 2) := dk_54 10 (dk_at dksJ8_indexOfUnsafe_6 22 rfl rfl)
theorem dJ8_indexOfUnsafe_160 : decode cJ8_indexOfUnsafe 160 = .ok (.iload 8, 2) := dk_21 8 (dk_at dksJ8_indexOfUnsafe_7 0 rfl rfl)
theorem dJ8_indexOfUnsafe_162 : decode cJ8_indexOfUnsafe 162 = .ok (.iload 9, 2) := dk_21 9 (dk_at dksJ8_indexOfUnsafe_7 2 rfl rfl)
theorem dJ8_indexOfUnsafe_164 : decode cJ8_indexOfUnsafe 164 = .ok (.if_icmp .ge 27, 3) := dk_162 0 27 (dk_at dksJ8_indexOfUnsafe_7 4 rfl rfl)
theorem dJ8_indexOfUnsafe_167 : decode cJ8_indexOfUnsafe 167 = .ok (.aload_n 0, 1) := dk_42 (dk_at dksJ8_indexOfUnsafe_7 7 rfl rfl)
theorem dJ8_indexOfUnsafe_168 : decode cJ8_indexOfUnsafe 168 = .ok (.iload 8, 2) := dk_21 8 (dk_at dksJ8_indexOfUnsafe_7 8 rfl rfl)
theorem dJ8_indexOfUnsafe_170 : decode cJ8_indexOfUnsafe 170 = .ok (.invokestatic 71, 3) := dk_184 0 71 (dk_at dksJ8_indexOfUnsafe_7 10 rfl rfl)
theorem dJ8_indexOfUnsafe_173 : decode cJ8_indexOfUnsafe 173 = .ok (.aload_n 2, 1) := dk_44 (dk_at dksJ8_indexOfUnsafe_7 13 rfl rfl)
theorem dJ8_indexOfUnsafe_174 : decode cJ8_indexOfUnsafe 174 = .ok (.iload 10, 2) := dk_21 10 (dk_at dksJ8_indexOfUnsafe_7 14 rfl rfl)
theorem dJ8_indexOfUnsafe_176 : decode cJ8_indexOfUnsafe 176 = .ok (.invokestatic 71, 3) := dk_184 0 71 (dk_at dksJ8_indexOfUnsafe_7 16 rfl rfl)
theorem dJ8_indexOfUnsafe_179 : decode cJ8_indexOfUnsafe 179 = .ok (.if_icmp .ne 12, 3) := dk_160 0 12 (dk_at dksJ8_indexOfUnsafe_7 19 rfl rfl)
theorem dJ8_indexOfUnsafe_182 : decode cJ8_indexOfUnsafe 182 = .ok (.iinc 8 1, 3) := dk_132 8 1 (dk_at dksJ8_indexOfUnsafe_8 0 rfl rfl)
theorem dJ8_indexOfUnsafe_185 : decode cJ8_indexOfUnsafe 185 = .ok (.iinc 10 1, 3) := dk_132 10 1 (dk_at dksJ8_indexOfUnsafe_8 3 rfl rfl)
theorem dJ8_indexOfUnsafe_188 : decode cJ8_indexOfUnsafe 188 = .ok (.goto (-28), 3) := dk_167 255 228 (dk_at dksJ8_indexOfUnsafe_8 6 rfl rfl)
theorem dJ8_indexOfUnsafe_191 : decode cJ8_indexOfUnsafe 191 = .ok (.iload 8, 2) := dk_21 8 (dk_at dksJ8_indexOfUnsafe_8 9 rfl rfl)
theorem dJ8_indexOfUnsafe_193 : decode cJ8_indexOfUnsafe 193 = .ok (.iload 9, 2) := dk_21 9 (dk_at dksJ8_indexOfUnsafe_8 11 rfl rfl)
theorem dJ8_indexOfUnsafe_195 : decode cJ8_indexOfUnsafe 195 = .ok (.if_icmp .ne 6, 3) := dk_160 0 6 (dk_at dksJ8_indexOfUnsafe_8 13 rfl rfl)
theorem dJ8_indexOfUnsafe_198 : decode cJ8_indexOfUnsafe 198 = .ok (.iload 7, 2) := dk_21 7 (dk_at dksJ8_indexOfUnsafe_8 16 rfl rfl)
theorem dJ8_indexOfUnsafe_200 : decode cJ8_indexOfUnsafe 200 = .ok (.ireturn, 1) := dk_172 (dk_at dksJ8_indexOfUnsafe_8 18 rfl rfl)
theorem dJ8_indexOfUnsafe_201 : decode cJ8_indexOfUnsafe 201 = .ok (.iinc 7 1, 3) := dk_132 7 1 (dk_at dksJ8_indexOfUnsafe_8 19 rfl rfl)
theorem dJ8_indexOfUnsafe_204 : decode cJ8_indexOfUnsafe 204 = .ok (.goto (-110), 3) := dk_167 255 146 (dk_at dksJ8_indexOfUnsafe_9 0 rfl rfl)
theorem dJ8_indexOfUnsafe_207 : decode cJ8_indexOfUnsafe 207 = .ok (.iconst (-1), 1) := dk_2 (dk_at dksJ8_indexOfUnsafe_9 3 rfl rfl)
theorem dJ8_indexOfUnsafe_208 : decode cJ8_indexOfUnsafe 208 = .ok (.ireturn, 1) := dk_172 (dk_at dksJ8_indexOfUnsafe_9 4 rfl rfl)
abbrev cJ8_indexOfLatin1 : ByteArray := prog_39_method_44_code
def yJ8_indexOfLatin1 : MethodName := ⟨RJ8, "indexOfLatin1", "([B[B)I"⟩
def dkwJ8_indexOfLatin1_1 : List UInt8 := [43, 190, 3, 184, 0, 238, 172]
abbrev dktJ8_indexOfLatin1_1 : List UInt8 := dkwJ8_indexOfLatin1_1 ++ []
def dkwJ8_indexOfLatin1_0 : List UInt8 := [43, 190, 154, 0, 5, 3, 172, 42, 184, 0, 48, 43, 190, 162, 0, 5, 2, 172, 42, 42, 184, 0, 48, 43]
abbrev dktJ8_indexOfLatin1_0 : List UInt8 := dkwJ8_indexOfLatin1_0 ++ dktJ8_indexOfLatin1_1
theorem dksJ8_indexOfLatin1_0 : cJ8_indexOfLatin1.data.toList.drop 0 = dktJ8_indexOfLatin1_0 := by decide +kernel
theorem dksJ8_indexOfLatin1_1 : cJ8_indexOfLatin1.data.toList.drop 24 = dktJ8_indexOfLatin1_1 := dk_seg dksJ8_indexOfLatin1_0 24 rfl rfl
theorem dJ8_indexOfLatin1_0 : decode cJ8_indexOfLatin1 0 = .ok (.aload_n 1, 1) := dk_43 (dk_at dksJ8_indexOfLatin1_0 0 rfl rfl)
theorem dJ8_indexOfLatin1_1 : decode cJ8_indexOfLatin1 1 = .ok (.arraylength, 1) := dk_190 (dk_at dksJ8_indexOfLatin1_0 1 rfl rfl)
theorem dJ8_indexOfLatin1_2 : decode cJ8_indexOfLatin1 2 = .ok (.ifCond .ne 5, 3) := dk_154 0 5 (dk_at dksJ8_indexOfLatin1_0 2 rfl rfl)
theorem dJ8_indexOfLatin1_5 : decode cJ8_indexOfLatin1 5 = .ok (.iconst 0, 1) := dk_3 (dk_at dksJ8_indexOfLatin1_0 5 rfl rfl)
theorem dJ8_indexOfLatin1_6 : decode cJ8_indexOfLatin1 6 = .ok (.ireturn, 1) := dk_172 (dk_at dksJ8_indexOfLatin1_0 6 rfl rfl)
theorem dJ8_indexOfLatin1_7 : decode cJ8_indexOfLatin1 7 = .ok (.aload_n 0, 1) := dk_42 (dk_at dksJ8_indexOfLatin1_0 7 rfl rfl)
theorem dJ8_indexOfLatin1_8 : decode cJ8_indexOfLatin1 8 = .ok (.invokestatic 48, 3) := dk_184 0 48 (dk_at dksJ8_indexOfLatin1_0 8 rfl rfl)
theorem dJ8_indexOfLatin1_11 : decode cJ8_indexOfLatin1 11 = .ok (.aload_n 1, 1) := dk_43 (dk_at dksJ8_indexOfLatin1_0 11 rfl rfl)
theorem dJ8_indexOfLatin1_12 : decode cJ8_indexOfLatin1 12 = .ok (.arraylength, 1) := dk_190 (dk_at dksJ8_indexOfLatin1_0 12 rfl rfl)
theorem dJ8_indexOfLatin1_13 : decode cJ8_indexOfLatin1 13 = .ok (.if_icmp .ge 5, 3) := dk_162 0 5 (dk_at dksJ8_indexOfLatin1_0 13 rfl rfl)
theorem dJ8_indexOfLatin1_16 : decode cJ8_indexOfLatin1 16 = .ok (.iconst (-1), 1) := dk_2 (dk_at dksJ8_indexOfLatin1_0 16 rfl rfl)
theorem dJ8_indexOfLatin1_17 : decode cJ8_indexOfLatin1 17 = .ok (.ireturn, 1) := dk_172 (dk_at dksJ8_indexOfLatin1_0 17 rfl rfl)
theorem dJ8_indexOfLatin1_18 : decode cJ8_indexOfLatin1 18 = .ok (.aload_n 0, 1) := dk_42 (dk_at dksJ8_indexOfLatin1_0 18 rfl rfl)
theorem dJ8_indexOfLatin1_19 : decode cJ8_indexOfLatin1 19 = .ok (.aload_n 0, 1) := dk_42 (dk_at dksJ8_indexOfLatin1_0 19 rfl rfl)
theorem dJ8_indexOfLatin1_20 : decode cJ8_indexOfLatin1 20 = .ok (.invokestatic 48, 3) := dk_184 0 48 (dk_at dksJ8_indexOfLatin1_0 20 rfl rfl)
theorem dJ8_indexOfLatin1_23 : decode cJ8_indexOfLatin1 23 = .ok (.aload_n 1, 1) := dk_43 (dk_at dksJ8_indexOfLatin1_0 23 rfl rfl)
theorem dJ8_indexOfLatin1_24 : decode cJ8_indexOfLatin1 24 = .ok (.aload_n 1, 1) := dk_43 (dk_at dksJ8_indexOfLatin1_1 0 rfl rfl)
theorem dJ8_indexOfLatin1_25 : decode cJ8_indexOfLatin1 25 = .ok (.arraylength, 1) := dk_190 (dk_at dksJ8_indexOfLatin1_1 1 rfl rfl)
theorem dJ8_indexOfLatin1_26 : decode cJ8_indexOfLatin1 26 = .ok (.iconst 0, 1) := dk_3 (dk_at dksJ8_indexOfLatin1_1 2 rfl rfl)
theorem dJ8_indexOfLatin1_27 : decode cJ8_indexOfLatin1 27 = .ok (.invokestatic 238, 3) := dk_184 0 238 (dk_at dksJ8_indexOfLatin1_1 3 rfl rfl)
theorem dJ8_indexOfLatin1_30 : decode cJ8_indexOfLatin1 30 = .ok (.ireturn, 1) := dk_172 (dk_at dksJ8_indexOfLatin1_1 6 rfl rfl)
abbrev cJ8_indexOfLatin1Unsafe : ByteArray := prog_39_method_46_code
def yJ8_indexOfLatin1Unsafe : MethodName := ⟨RJ8, "indexOfLatin1Unsafe", "([BI[BII)I"⟩
def dkwJ8_indexOfLatin1Unsafe_9 : List UInt8 := [167, 255, 144, 2, 172]
abbrev dktJ8_indexOfLatin1Unsafe_9 : List UInt8 := dkwJ8_indexOfLatin1Unsafe_9 ++ []
def dkwJ8_indexOfLatin1Unsafe_8 : List UInt8 := [132, 8, 1, 132, 10, 1, 167, 255, 226, 21, 8, 21, 9, 160, 0, 6, 21, 7, 172, 132, 7, 1]
abbrev dktJ8_indexOfLatin1Unsafe_8 : List UInt8 := dkwJ8_indexOfLatin1Unsafe_8 ++ dktJ8_indexOfLatin1Unsafe_9
def dkwJ8_indexOfLatin1Unsafe_7 : List UInt8 := [21, 8, 21, 9, 162, 0, 29, 42, 21, 8, 184, 0, 71, 44, 21, 10, 51, 17, 0, 255, 126, 160, 0, 12]
abbrev dktJ8_indexOfLatin1Unsafe_7 : List UInt8 := dkwJ8_indexOfLatin1Unsafe_7 ++ dktJ8_indexOfLatin1Unsafe_8
def dkwJ8_indexOfLatin1Unsafe_6 : List UInt8 := [21, 7, 21, 6, 163, 0, 63, 21, 7, 4, 96, 54, 8, 21, 8, 29, 96, 4, 100, 54, 9, 4, 54, 10]
abbrev dktJ8_indexOfLatin1Unsafe_6 : List UInt8 := dkwJ8_indexOfLatin1Unsafe_6 ++ dktJ8_indexOfLatin1Unsafe_7
def dkwJ8_indexOfLatin1Unsafe_5 : List UInt8 := [132, 7, 1, 21, 7, 21, 6, 163, 0, 17, 42, 21, 7, 184, 0, 71, 21, 5, 159, 0, 6, 167, 255, 235]
abbrev dktJ8_indexOfLatin1Unsafe_5 : List UInt8 := dkwJ8_indexOfLatin1Unsafe_5 ++ dktJ8_indexOfLatin1Unsafe_6
def dkwJ8_indexOfLatin1Unsafe_4 : List UInt8 := [21, 4, 54, 7, 21, 7, 21, 6, 163, 0, 111, 42, 21, 7, 184, 0, 71, 21, 5, 159, 0, 27]
abbrev dktJ8_indexOfLatin1Unsafe_4 : List UInt8 := dkwJ8_indexOfLatin1Unsafe_4 ++ dktJ8_indexOfLatin1Unsafe_5
def dkwJ8_indexOfLatin1Unsafe_3 : List UInt8 := [187, 0, 52, 89, 183, 0, 66, 191, 44, 3, 51, 17, 0, 255, 126, 146, 54, 5, 27, 29, 100, 54, 6]
abbrev dktJ8_indexOfLatin1Unsafe_3 : List UInt8 := dkwJ8_indexOfLatin1Unsafe_3 ++ dktJ8_indexOfLatin1Unsafe_4
def dkwJ8_indexOfLatin1Unsafe_2 : List UInt8 := [164, 0, 11, 187, 0, 52, 89, 183, 0, 66, 191, 178, 0, 44, 154, 0, 16, 27, 29, 162, 0, 11]
abbrev dktJ8_indexOfLatin1Unsafe_2 : List UInt8 := dkwJ8_indexOfLatin1Unsafe_2 ++ dktJ8_indexOfLatin1Unsafe_3
def dkwJ8_indexOfLatin1Unsafe_1 : List UInt8 := [154, 0, 15, 29, 157, 0, 11, 187, 0, 52, 89, 183, 0, 66, 191, 178, 0, 44, 154, 0, 17, 29, 44, 190]
abbrev dktJ8_indexOfLatin1Unsafe_1 : List UInt8 := dkwJ8_indexOfLatin1Unsafe_1 ++ dktJ8_indexOfLatin1Unsafe_2
def dkwJ8_indexOfLatin1Unsafe_0 : List UInt8 := [178, 0, 44, 154, 0, 16, 21, 4, 156, 0, 11, 187, 0, 52, 89, 183, 0, 66, 191, 178, 0, 44]
abbrev dktJ8_indexOfLatin1Unsafe_0 : List UInt8 := dkwJ8_indexOfLatin1Unsafe_0 ++ dktJ8_indexOfLatin1Unsafe_1
theorem dksJ8_indexOfLatin1Unsafe_0 : cJ8_indexOfLatin1Unsafe.data.toList.drop 0 = dktJ8_indexOfLatin1Unsafe_0 := by decide +kernel
theorem dksJ8_indexOfLatin1Unsafe_1 : cJ8_indexOfLatin1Unsafe.data.toList.drop 22 = dktJ8_indexOfLatin1Unsafe_1 := dk_seg dksJ8_indexOfLatin1Unsafe_0 22 rfl rfl
theorem dksJ8_indexOfLatin1Unsafe_2 : cJ8_indexOfLatin1Unsafe.data.toList.drop 46 = dktJ8_indexOfLatin1Unsafe_2 := dk_seg dksJ8_indexOfLatin1Unsafe_1 24 rfl rfl
theorem dksJ8_indexOfLatin1Unsafe_3 : cJ8_indexOfLatin1Unsafe.data.toList.drop 68 = dktJ8_indexOfLatin1Unsafe_3 := dk_seg dksJ8_indexOfLatin1Unsafe_2 22 rfl rfl
theorem dksJ8_indexOfLatin1Unsafe_4 : cJ8_indexOfLatin1Unsafe.data.toList.drop 91 = dktJ8_indexOfLatin1Unsafe_4 := dk_seg dksJ8_indexOfLatin1Unsafe_3 23 rfl rfl
theorem dksJ8_indexOfLatin1Unsafe_5 : cJ8_indexOfLatin1Unsafe.data.toList.drop 113 = dktJ8_indexOfLatin1Unsafe_5 := dk_seg dksJ8_indexOfLatin1Unsafe_4 22 rfl rfl
theorem dksJ8_indexOfLatin1Unsafe_6 : cJ8_indexOfLatin1Unsafe.data.toList.drop 137 = dktJ8_indexOfLatin1Unsafe_6 := dk_seg dksJ8_indexOfLatin1Unsafe_5 24 rfl rfl
theorem dksJ8_indexOfLatin1Unsafe_7 : cJ8_indexOfLatin1Unsafe.data.toList.drop 161 = dktJ8_indexOfLatin1Unsafe_7 := dk_seg dksJ8_indexOfLatin1Unsafe_6 24 rfl rfl
theorem dksJ8_indexOfLatin1Unsafe_8 : cJ8_indexOfLatin1Unsafe.data.toList.drop 185 = dktJ8_indexOfLatin1Unsafe_8 := dk_seg dksJ8_indexOfLatin1Unsafe_7 24 rfl rfl
theorem dksJ8_indexOfLatin1Unsafe_9 : cJ8_indexOfLatin1Unsafe.data.toList.drop 207 = dktJ8_indexOfLatin1Unsafe_9 := dk_seg dksJ8_indexOfLatin1Unsafe_8 22 rfl rfl
theorem dJ8_indexOfLatin1Unsafe_0 : decode cJ8_indexOfLatin1Unsafe 0 = .ok (.getstatic 44, 3) := dk_178 0 44 (dk_at dksJ8_indexOfLatin1Unsafe_0 0 rfl rfl)
theorem dJ8_indexOfLatin1Unsafe_3 : decode cJ8_indexOfLatin1Unsafe 3 = .ok (.ifCond .ne 16, 3) := dk_154 0 16 (dk_at dksJ8_indexOfLatin1Unsafe_0 3 rfl rfl)
theorem dJ8_indexOfLatin1Unsafe_6 : decode cJ8_indexOfLatin1Unsafe 6 = .ok (.iload 4, 2) := dk_21 4 (dk_at dksJ8_indexOfLatin1Unsafe_0 6 rfl rfl)
theorem dJ8_indexOfLatin1Unsafe_8 : decode cJ8_indexOfLatin1Unsafe 8 = .ok (.ifCond .ge 11, 3) := dk_156 0 11 (dk_at dksJ8_indexOfLatin1Unsafe_0 8 rfl rfl)
theorem dJ8_indexOfLatin1Unsafe_11 : decode cJ8_indexOfLatin1Unsafe 11 = .ok (.new 52, 3) := dk_187 0 52 (dk_at dksJ8_indexOfLatin1Unsafe_0 11 rfl rfl)
theorem dJ8_indexOfLatin1Unsafe_14 : decode cJ8_indexOfLatin1Unsafe 14 = .ok (.dup, 1) := dk_89 (dk_at dksJ8_indexOfLatin1Unsafe_0 14 rfl rfl)
theorem dJ8_indexOfLatin1Unsafe_15 : decode cJ8_indexOfLatin1Unsafe 15 = .ok (.invokespecial 66, 3) := dk_183 0 66 (dk_at dksJ8_indexOfLatin1Unsafe_0 15 rfl rfl)
theorem dJ8_indexOfLatin1Unsafe_18 : decode cJ8_indexOfLatin1Unsafe 18 = .ok (.athrow, 1) := dk_191 (dk_at dksJ8_indexOfLatin1Unsafe_0 18 rfl rfl)
theorem dJ8_indexOfLatin1Unsafe_19 : decode cJ8_indexOfLatin1Unsafe 19 = .ok (.getstatic 44, 3) := dk_178 0 44 (dk_at dksJ8_indexOfLatin1Unsafe_0 19 rfl rfl)
theorem dJ8_indexOfLatin1Unsafe_22 : decode cJ8_indexOfLatin1Unsafe 22 = .ok (.ifCond .ne 15, 3) := dk_154 0 15 (dk_at dksJ8_indexOfLatin1Unsafe_1 0 rfl rfl)
theorem dJ8_indexOfLatin1Unsafe_25 : decode cJ8_indexOfLatin1Unsafe 25 = .ok (.iload_n 3, 1) := dk_29 (dk_at dksJ8_indexOfLatin1Unsafe_1 3 rfl rfl)
theorem dJ8_indexOfLatin1Unsafe_26 : decode cJ8_indexOfLatin1Unsafe 26 = .ok (.ifCond .gt 11, 3) := dk_157 0 11 (dk_at dksJ8_indexOfLatin1Unsafe_1 4 rfl rfl)
theorem dJ8_indexOfLatin1Unsafe_29 : decode cJ8_indexOfLatin1Unsafe 29 = .ok (.new 52, 3) := dk_187 0 52 (dk_at dksJ8_indexOfLatin1Unsafe_1 7 rfl rfl)
theorem dJ8_indexOfLatin1Unsafe_32 : decode cJ8_indexOfLatin1Unsafe 32 = .ok (.dup, 1) := dk_89 (dk_at dksJ8_indexOfLatin1Unsafe_1 10 rfl rfl)
theorem dJ8_indexOfLatin1Unsafe_33 : decode cJ8_indexOfLatin1Unsafe 33 = .ok (.invokespecial 66, 3) := dk_183 0 66 (dk_at dksJ8_indexOfLatin1Unsafe_1 11 rfl rfl)
theorem dJ8_indexOfLatin1Unsafe_36 : decode cJ8_indexOfLatin1Unsafe 36 = .ok (.athrow, 1) := dk_191 (dk_at dksJ8_indexOfLatin1Unsafe_1 14 rfl rfl)
theorem dJ8_indexOfLatin1Unsafe_37 : decode cJ8_indexOfLatin1Unsafe 37 = .ok (.getstatic 44, 3) := dk_178 0 44 (dk_at dksJ8_indexOfLatin1Unsafe_1 15 rfl rfl)
theorem dJ8_indexOfLatin1Unsafe_40 : decode cJ8_indexOfLatin1Unsafe 40 = .ok (.ifCond .ne 17, 3) := dk_154 0 17 (dk_at dksJ8_indexOfLatin1Unsafe_1 18 rfl rfl)
theorem dJ8_indexOfLatin1Unsafe_43 : decode cJ8_indexOfLatin1Unsafe 43 = .ok (.iload_n 3, 1) := dk_29 (dk_at dksJ8_indexOfLatin1Unsafe_1 21 rfl rfl)
theorem dJ8_indexOfLatin1Unsafe_44 : decode cJ8_indexOfLatin1Unsafe 44 = .ok (.aload_n 2, 1) := dk_44 (dk_at dksJ8_indexOfLatin1Unsafe_1 22 rfl rfl)
theorem dJ8_indexOfLatin1Unsafe_45 : decode cJ8_indexOfLatin1Unsafe 45 = .ok (.arraylength, 1) := dk_190 (dk_at dksJ8_indexOfLatin1Unsafe_1 23 rfl rfl)
theorem dJ8_indexOfLatin1Unsafe_46 : decode cJ8_indexOfLatin1Unsafe 46 = .ok (.if_icmp .le 11, 3) := dk_164 0 11 (dk_at dksJ8_indexOfLatin1Unsafe_2 0 rfl rfl)
theorem dJ8_indexOfLatin1Unsafe_49 : decode cJ8_indexOfLatin1Unsafe 49 = .ok (.new 52, 3) := dk_187 0 52 (dk_at dksJ8_indexOfLatin1Unsafe_2 3 rfl rfl)
theorem dJ8_indexOfLatin1Unsafe_52 : decode cJ8_indexOfLatin1Unsafe 52 = .ok (.dup, 1) := dk_89 (dk_at dksJ8_indexOfLatin1Unsafe_2 6 rfl rfl)
theorem dJ8_indexOfLatin1Unsafe_53 : decode cJ8_indexOfLatin1Unsafe 53 = .ok (.invokespecial 66, 3) := dk_183 0 66 (dk_at dksJ8_indexOfLatin1Unsafe_2 7 rfl rfl)
theorem dJ8_indexOfLatin1Unsafe_56 : decode cJ8_indexOfLatin1Unsafe 56 = .ok (.athrow, 1) := dk_191 (dk_at dksJ8_indexOfLatin1Unsafe_2 10 rfl rfl)
theorem dJ8_indexOfLatin1Unsafe_57 : decode cJ8_indexOfLatin1Unsafe 57 = .ok (.getstatic 44, 3) := dk_178 0 44 (dk_at dksJ8_indexOfLatin1Unsafe_2 11 rfl rfl)
theorem dJ8_indexOfLatin1Unsafe_60 : decode cJ8_indexOfLatin1Unsafe 60 = .ok (.ifCond .ne 16, 3) := dk_154 0 16 (dk_at dksJ8_indexOfLatin1Unsafe_2 14 rfl rfl)
theorem dJ8_indexOfLatin1Unsafe_63 : decode cJ8_indexOfLatin1Unsafe 63 = .ok (.iload_n 1, 1) := dk_27 (dk_at dksJ8_indexOfLatin1Unsafe_2 17 rfl rfl)
theorem dJ8_indexOfLatin1Unsafe_64 : decode cJ8_indexOfLatin1Unsafe 64 = .ok (.iload_n 3, 1) := dk_29 (dk_at dksJ8_indexOfLatin1Unsafe_2 18 rfl rfl)
theorem dJ8_indexOfLatin1Unsafe_65 : decode cJ8_indexOfLatin1Unsafe 65 = .ok (.if_icmp .ge 11, 3) := dk_162 0 11 (dk_at dksJ8_indexOfLatin1Unsafe_2 19 rfl rfl)
theorem dJ8_indexOfLatin1Unsafe_68 : decode cJ8_indexOfLatin1Unsafe 68 = .ok (.new 52, 3) := dk_187 0 52 (dk_at dksJ8_indexOfLatin1Unsafe_3 0 rfl rfl)
theorem dJ8_indexOfLatin1Unsafe_71 : decode cJ8_indexOfLatin1Unsafe 71 = .ok (.dup, 1) := dk_89 (dk_at dksJ8_indexOfLatin1Unsafe_3 3 rfl rfl)
theorem dJ8_indexOfLatin1Unsafe_72 : decode cJ8_indexOfLatin1Unsafe 72 = .ok (.invokespecial 66, 3) := dk_183 0 66 (dk_at dksJ8_indexOfLatin1Unsafe_3 4 rfl rfl)
theorem dJ8_indexOfLatin1Unsafe_75 : decode cJ8_indexOfLatin1Unsafe 75 = .ok (.athrow, 1) := dk_191 (dk_at dksJ8_indexOfLatin1Unsafe_3 7 rfl rfl)
theorem dJ8_indexOfLatin1Unsafe_76 : decode cJ8_indexOfLatin1Unsafe 76 = .ok (.aload_n 2, 1) := dk_44 (dk_at dksJ8_indexOfLatin1Unsafe_3 8 rfl rfl)
theorem dJ8_indexOfLatin1Unsafe_77 : decode cJ8_indexOfLatin1Unsafe 77 = .ok (.iconst 0, 1) := dk_3 (dk_at dksJ8_indexOfLatin1Unsafe_3 9 rfl rfl)
theorem dJ8_indexOfLatin1Unsafe_78 : decode cJ8_indexOfLatin1Unsafe 78 = .ok (.baload, 1) := dk_51 (dk_at dksJ8_indexOfLatin1Unsafe_3 10 rfl rfl)
theorem dJ8_indexOfLatin1Unsafe_79 : decode cJ8_indexOfLatin1Unsafe 79 = .ok (.sipush 255, 3) := dk_17 0 255 (dk_at dksJ8_indexOfLatin1Unsafe_3 11 rfl rfl)
theorem dJ8_indexOfLatin1Unsafe_82 : decode cJ8_indexOfLatin1Unsafe 82 = .ok (.iand, 1) := dk_126 (dk_at dksJ8_indexOfLatin1Unsafe_3 14 rfl rfl)
theorem dJ8_indexOfLatin1Unsafe_83 : decode cJ8_indexOfLatin1Unsafe 83 = .ok (.i2c, 1) := dk_146 (dk_at dksJ8_indexOfLatin1Unsafe_3 15 rfl rfl)
theorem dJ8_indexOfLatin1Unsafe_84 : decode cJ8_indexOfLatin1Unsafe 84 = .ok (.istore 5, 2) := dk_54 5 (dk_at dksJ8_indexOfLatin1Unsafe_3 16 rfl rfl)
theorem dJ8_indexOfLatin1Unsafe_86 : decode cJ8_indexOfLatin1Unsafe 86 = .ok (.iload_n 1, 1) := dk_27 (dk_at dksJ8_indexOfLatin1Unsafe_3 18 rfl rfl)
theorem dJ8_indexOfLatin1Unsafe_87 : decode cJ8_indexOfLatin1Unsafe 87 = .ok (.iload_n 3, 1) := dk_29 (dk_at dksJ8_indexOfLatin1Unsafe_3 19 rfl rfl)
theorem dJ8_indexOfLatin1Unsafe_88 : decode cJ8_indexOfLatin1Unsafe 88 = .ok (.isub, 1) := dk_100 (dk_at dksJ8_indexOfLatin1Unsafe_3 20 rfl rfl)
theorem dJ8_indexOfLatin1Unsafe_89 : decode cJ8_indexOfLatin1Unsafe 89 = .ok (.istore 6, 2) := dk_54 6 (dk_at dksJ8_indexOfLatin1Unsafe_3 21 rfl rfl)
theorem dJ8_indexOfLatin1Unsafe_91 : decode cJ8_indexOfLatin1Unsafe 91 = .ok (.iload 4, 2) := dk_21 4 (dk_at dksJ8_indexOfLatin1Unsafe_4 0 rfl rfl)
theorem dJ8_indexOfLatin1Unsafe_93 : decode cJ8_indexOfLatin1Unsafe 93 = .ok (.istore 7, 2) := dk_54 7 (dk_at dksJ8_indexOfLatin1Unsafe_4 2 rfl rfl)
theorem dJ8_indexOfLatin1Unsafe_95 : decode cJ8_indexOfLatin1Unsafe 95 = .ok (.iload 7, 2) := dk_21 7 (dk_at dksJ8_indexOfLatin1Unsafe_4 4 rfl rfl)
theorem dJ8_indexOfLatin1Unsafe_97 : decode cJ8_indexOfLatin1Unsafe 97 = .ok (.iload 6, 2) := dk_21 6 (dk_at dksJ8_indexOfLatin1Unsafe_4 6 rfl rfl)
theorem dJ8_indexOfLatin1Unsafe_99 : decode cJ8_indexOfLatin1Unsafe 99 = .ok (.if_icmp .gt 111, 3) := dk_163 0 111 (dk_at dksJ8_indexOfLatin1Unsafe_4 8 rfl rfl)
theorem dJ8_indexOfLatin1Unsafe_102 : decode cJ8_indexOfLatin1Unsafe 102 = .ok (.aload_n 0, 1) := dk_42 (dk_at dksJ8_indexOfLatin1Unsafe_4 11 rfl rfl)
theorem dJ8_indexOfLatin1Unsafe_103 : decode cJ8_indexOfLatin1Unsafe 103 = .ok (.iload 7, 2) := dk_21 7 (dk_at dksJ8_indexOfLatin1Unsafe_4 12 rfl rfl)
theorem dJ8_indexOfLatin1Unsafe_105 : decode cJ8_indexOfLatin1Unsafe 105 = .ok (.invokestatic 71, 3) := dk_184 0 71 (dk_at dksJ8_indexOfLatin1Unsafe_4 14 rfl rfl)
theorem dJ8_indexOfLatin1Unsafe_108 : decode cJ8_indexOfLatin1Unsafe 108 = .ok (.iload 5, 2) := dk_21 5 (dk_at dksJ8_indexOfLatin1Unsafe_4 17 rfl rfl)
theorem dJ8_indexOfLatin1Unsafe_110 : decode cJ8_indexOfLatin1Unsafe 110 = .ok (.if_icmp .eq 27, 3) := dk_159 0 27 (dk_at dksJ8_indexOfLatin1Unsafe_4 19 rfl rfl)
theorem dJ8_indexOfLatin1Unsafe_113 : decode cJ8_indexOfLatin1Unsafe 113 = .ok (.iinc 7 1, 3) := dk_132 7 1 (dk_at dksJ8_indexOfLatin1Unsafe_5 0 rfl rfl)
theorem dJ8_indexOfLatin1Unsafe_116 : decode cJ8_indexOfLatin1Unsafe 116 = .ok (.iload 7, 2) := dk_21 7 (dk_at dksJ8_indexOfLatin1Unsafe_5 3 rfl rfl)
theorem dJ8_indexOfLatin1Unsafe_118 : decode cJ8_indexOfLatin1Unsafe 118 = .ok (.iload 6, 2) := dk_21 6 (dk_at dksJ8_indexOfLatin1Unsafe_5 5 rfl rfl)
theorem dJ8_indexOfLatin1Unsafe_120 : decode cJ8_indexOfLatin1Unsafe 120 = .ok (.if_icmp .gt 17, 3) := dk_163 0 17 (dk_at dksJ8_indexOfLatin1Unsafe_5 7 rfl rfl)
theorem dJ8_indexOfLatin1Unsafe_123 : decode cJ8_indexOfLatin1Unsafe 123 = .ok (.aload_n 0, 1) := dk_42 (dk_at dksJ8_indexOfLatin1Unsafe_5 10 rfl rfl)
theorem dJ8_indexOfLatin1Unsafe_124 : decode cJ8_indexOfLatin1Unsafe 124 = .ok (.iload 7, 2) := dk_21 7 (dk_at dksJ8_indexOfLatin1Unsafe_5 11 rfl rfl)
theorem dJ8_indexOfLatin1Unsafe_126 : decode cJ8_indexOfLatin1Unsafe 126 = .ok (.invokestatic 71, 3) := dk_184 0 71 (dk_at dksJ8_indexOfLatin1Unsafe_5 13 rfl rfl)
theorem dJ8_indexOfLatin1Unsafe_129 : decode cJ8_indexOfLatin1Unsafe 129 = .ok (.iload 5, 2) := dk_21 5 (dk_at dksJ8_indexOfLatin1Unsafe_5 16 rfl rfl)
theorem dJ8_indexOfLatin1Unsafe_131 : decode cJ8_indexOfLatin1Unsafe 131 = .ok (.if_icmp .eq 6, 3) := dk_159 0 6 (dk_at dksJ8_indexOfLatin1Unsafe_5 18 rfl rfl)
theorem dJ8_indexOfLatin1Unsafe_134 : decode cJ8_indexOfLatin1Unsafe 134 = .ok (.goto (-21), 3) := dk_167 255 235 (dk_at dksJ8_indexOfLatin1Unsafe_5 21 rfl rfl)
theorem dJ8_indexOfLatin1Unsafe_137 : decode cJ8_indexOfLatin1Unsafe 137 = .ok (.iload 7, 2) := dk_21 7 (dk_at dksJ8_indexOfLatin1Unsafe_6 0 rfl rfl)
theorem dJ8_indexOfLatin1Unsafe_139 : decode cJ8_indexOfLatin1Unsafe 139 = .ok (.iload 6, 2) := dk_21 6 (dk_at dksJ8_indexOfLatin1Unsafe_6 2 rfl rfl)
theorem dJ8_indexOfLatin1Unsafe_141 : decode cJ8_indexOfLatin1Unsafe 141 = .ok (.if_icmp .gt 63, 3) := dk_163 0 63 (dk_at dksJ8_indexOfLatin1Unsafe_6 4 rfl rfl)
theorem dJ8_indexOfLatin1Unsafe_144 : decode cJ8_indexOfLatin1Unsafe 144 = .ok (.iload 7, 2) := dk_21 7 (dk_at dksJ8_indexOfLatin1Unsafe_6 7 rfl rfl)
theorem dJ8_indexOfLatin1Unsafe_146 : decode cJ8_indexOfLatin1Unsafe 146 = .ok (.iconst 1, 1) := dk_4 (dk_at dksJ8_indexOfLatin1Unsafe_6 9 rfl rfl)
theorem dJ8_indexOfLatin1Unsafe_147 : decode cJ8_indexOfLatin1Unsafe 147 = .ok (.iadd, 1) := dk_96 (dk_at dksJ8_indexOfLatin1Unsafe_6 10 rfl rfl)
theorem dJ8_indexOfLatin1Unsafe_148 : decode cJ8_indexOfLatin1Unsafe 148 = .ok (.istore 8, 2) := dk_54 8 (dk_at dksJ8_indexOfLatin1Unsafe_6 11 rfl rfl)
theorem dJ8_indexOfLatin1Unsafe_150 : decode cJ8_indexOfLatin1Unsafe 150 = .ok (.iload 8, 2) := dk_21 8 (dk_at dksJ8_indexOfLatin1Unsafe_6 13 rfl rfl)
theorem dJ8_indexOfLatin1Unsafe_152 : decode cJ8_indexOfLatin1Unsafe 152 = .ok (.iload_n 3, 1) := dk_29 (dk_at dksJ8_indexOfLatin1Unsafe_6 15 rfl rfl)
theorem dJ8_indexOfLatin1Unsafe_153 : decode cJ8_indexOfLatin1Unsafe 153 = .ok (.iadd, 1) := dk_96 (dk_at dksJ8_indexOfLatin1Unsafe_6 16 rfl rfl)
theorem dJ8_indexOfLatin1Unsafe_154 : decode cJ8_indexOfLatin1Unsafe 154 = .ok (.iconst 1, 1) := dk_4 (dk_at dksJ8_indexOfLatin1Unsafe_6 17 rfl rfl)
theorem dJ8_indexOfLatin1Unsafe_155 : decode cJ8_indexOfLatin1Unsafe 155 = .ok (.isub, 1) := dk_100 (dk_at dksJ8_indexOfLatin1Unsafe_6 18 rfl rfl)
theorem dJ8_indexOfLatin1Unsafe_156 : decode cJ8_indexOfLatin1Unsafe 156 = .ok (.istore 9, 2) := dk_54 9 (dk_at dksJ8_indexOfLatin1Unsafe_6 19 rfl rfl)
theorem dJ8_indexOfLatin1Unsafe_158 : decode cJ8_indexOfLatin1Unsafe 158 = .ok (.iconst 1, 1) := dk_4 (dk_at dksJ8_indexOfLatin1Unsafe_6 21 rfl rfl)
theorem dJ8_indexOfLatin1Unsafe_159 : decode cJ8_indexOfLatin1Unsafe 159 = .ok (.istore 10, 2) := dk_54 10 (dk_at dksJ8_indexOfLatin1Unsafe_6 22 rfl rfl)
theorem dJ8_indexOfLatin1Unsafe_161 : decode cJ8_indexOfLatin1Unsafe 161 = .ok (.iload 8, 2) := dk_21 8 (dk_at dksJ8_indexOfLatin1Unsafe_7 0 rfl rfl)
theorem dJ8_indexOfLatin1Unsafe_163 : decode cJ8_indexOfLatin1Unsafe 163 = .ok (.iload 9, 2) := dk_21 9 (dk_at dksJ8_indexOfLatin1Unsafe_7 2 rfl rfl)
theorem dJ8_indexOfLatin1Unsafe_165 : decode cJ8_indexOfLatin1Unsafe 165 = .ok (.if_icmp .ge 29, 3) := dk_162 0 29 (dk_at dksJ8_indexOfLatin1Unsafe_7 4 rfl rfl)
theorem dJ8_indexOfLatin1Unsafe_168 : decode cJ8_indexOfLatin1Unsafe 168 = .ok (.aload_n 0, 1) := dk_42 (dk_at dksJ8_indexOfLatin1Unsafe_7 7 rfl rfl)
theorem dJ8_indexOfLatin1Unsafe_169 : decode cJ8_indexOfLatin1Unsafe 169 = .ok (.iload 8, 2) := dk_21 8 (dk_at dksJ8_indexOfLatin1Unsafe_7 8 rfl rfl)
theorem dJ8_indexOfLatin1Unsafe_171 : decode cJ8_indexOfLatin1Unsafe 171 = .ok (.invokestatic 71, 3) := dk_184 0 71 (dk_at dksJ8_indexOfLatin1Unsafe_7 10 rfl rfl)
theorem dJ8_indexOfLatin1Unsafe_174 : decode cJ8_indexOfLatin1Unsafe 174 = .ok (.aload_n 2, 1) := dk_44 (dk_at dksJ8_indexOfLatin1Unsafe_7 13 rfl rfl)
theorem dJ8_indexOfLatin1Unsafe_175 : decode cJ8_indexOfLatin1Unsafe 175 = .ok (.iload 10, 2) := dk_21 10 (dk_at dksJ8_indexOfLatin1Unsafe_7 14 rfl rfl)
theorem dJ8_indexOfLatin1Unsafe_177 : decode cJ8_indexOfLatin1Unsafe 177 = .ok (.baload, 1) := dk_51 (dk_at dksJ8_indexOfLatin1Unsafe_7 16 rfl rfl)
theorem dJ8_indexOfLatin1Unsafe_178 : decode cJ8_indexOfLatin1Unsafe 178 = .ok (.sipush 255, 3) := dk_17 0 255 (dk_at dksJ8_indexOfLatin1Unsafe_7 17 rfl rfl)
theorem dJ8_indexOfLatin1Unsafe_181 : decode cJ8_indexOfLatin1Unsafe 181 = .ok (.iand, 1) := dk_126 (dk_at dksJ8_indexOfLatin1Unsafe_7 20 rfl rfl)
theorem dJ8_indexOfLatin1Unsafe_182 : decode cJ8_indexOfLatin1Unsafe 182 = .ok (.if_icmp .ne 12, 3) := dk_160 0 12 (dk_at dksJ8_indexOfLatin1Unsafe_7 21 rfl rfl)
theorem dJ8_indexOfLatin1Unsafe_185 : decode cJ8_indexOfLatin1Unsafe 185 = .ok (.iinc 8 1, 3) := dk_132 8 1 (dk_at dksJ8_indexOfLatin1Unsafe_8 0 rfl rfl)
theorem dJ8_indexOfLatin1Unsafe_188 : decode cJ8_indexOfLatin1Unsafe 188 = .ok (.iinc 10 1, 3) := dk_132 10 1 (dk_at dksJ8_indexOfLatin1Unsafe_8 3 rfl rfl)
theorem dJ8_indexOfLatin1Unsafe_191 : decode cJ8_indexOfLatin1Unsafe 191 = .ok (.goto (-30), 3) := dk_167 255 226 (dk_at dksJ8_indexOfLatin1Unsafe_8 6 rfl rfl)
theorem dJ8_indexOfLatin1Unsafe_194 : decode cJ8_indexOfLatin1Unsafe 194 = .ok (.iload 8, 2) := dk_21 8 (dk_at dksJ8_indexOfLatin1Unsafe_8 9 rfl rfl)
theorem dJ8_indexOfLatin1Unsafe_196 : decode cJ8_indexOfLatin1Unsafe 196 = .ok (.iload 9, 2) := dk_21 9 (dk_at dksJ8_indexOfLatin1Unsafe_8 11 rfl rfl)
theorem dJ8_indexOfLatin1Unsafe_198 : decode cJ8_indexOfLatin1Unsafe 198 = .ok (.if_icmp .ne 6, 3) := dk_160 0 6 (dk_at dksJ8_indexOfLatin1Unsafe_8 13 rfl rfl)
theorem dJ8_indexOfLatin1Unsafe_201 : decode cJ8_indexOfLatin1Unsafe 201 = .ok (.iload 7, 2) := dk_21 7 (dk_at dksJ8_indexOfLatin1Unsafe_8 16 rfl rfl)
theorem dJ8_indexOfLatin1Unsafe_203 : decode cJ8_indexOfLatin1Unsafe 203 = .ok (.ireturn, 1) := dk_172 (dk_at dksJ8_indexOfLatin1Unsafe_8 18 rfl rfl)
theorem dJ8_indexOfLatin1Unsafe_204 : decode cJ8_indexOfLatin1Unsafe 204 = .ok (.iinc 7 1, 3) := dk_132 7 1 (dk_at dksJ8_indexOfLatin1Unsafe_8 19 rfl rfl)
theorem dJ8_indexOfLatin1Unsafe_207 : decode cJ8_indexOfLatin1Unsafe 207 = .ok (.goto (-112), 3) := dk_167 255 144 (dk_at dksJ8_indexOfLatin1Unsafe_9 0 rfl rfl)
theorem dJ8_indexOfLatin1Unsafe_210 : decode cJ8_indexOfLatin1Unsafe 210 = .ok (.iconst (-1), 1) := dk_2 (dk_at dksJ8_indexOfLatin1Unsafe_9 3 rfl rfl)
theorem dJ8_indexOfLatin1Unsafe_211 : decode cJ8_indexOfLatin1Unsafe 211 = .ok (.ireturn, 1) := dk_172 (dk_at dksJ8_indexOfLatin1Unsafe_9 4 rfl rfl)
abbrev cJ9_init : ByteArray := prog_51_method_3_code
def yJ9_init : MethodName := ⟨RJ9, "<init>", "()V"⟩
def dkwJ9_init_0 : List UInt8 := [42, 183, 0, 42, 42, 16, 17, 189, 0, 47, 181, 0, 3, 177]
abbrev dktJ9_init_0 : List UInt8 := dkwJ9_init_0 ++ []
theorem dksJ9_init_0 : cJ9_init.data.toList.drop 0 = dktJ9_init_0 := by decide +kernel
theorem dJ9_init_0 : decode cJ9_init 0 = .ok (.aload_n 0, 1) := dk_42 (dk_at dksJ9_init_0 0 rfl rfl)
theorem dJ9_init_1 : decode cJ9_init 1 = .ok (.invokespecial 42, 3) := dk_183 0 42 (dk_at dksJ9_init_0 1 rfl rfl)
theorem dJ9_init_4 : decode cJ9_init 4 = .ok (.aload_n 0, 1) := dk_42 (dk_at dksJ9_init_0 4 rfl rfl)
theorem dJ9_init_5 : decode cJ9_init 5 = .ok (.bipush 17, 2) := dk_16 17 (dk_at dksJ9_init_0 5 rfl rfl)
theorem dJ9_init_7 : decode cJ9_init 7 = .ok (.anewarray 47, 3) := dk_189 0 47 (dk_at dksJ9_init_0 7 rfl rfl)
theorem dJ9_init_10 : decode cJ9_init 10 = .ok (.putfield 3, 3) := dk_181 0 3 (dk_at dksJ9_init_0 10 rfl rfl)
theorem dJ9_init_13 : decode cJ9_init 13 = .ok (.return_, 1) := dk_177 (dk_at dksJ9_init_0 13 rfl rfl)
abbrev cJ9_size : ByteArray := prog_51_method_37_code
def yJ9_size : MethodName := ⟨RJ9, "size", "()I"⟩
def dkwJ9_size_0 : List UInt8 := [42, 180, 0, 20, 42, 180, 0, 24, 42, 180, 0, 3, 190, 184, 0, 127, 172]
abbrev dktJ9_size_0 : List UInt8 := dkwJ9_size_0 ++ []
theorem dksJ9_size_0 : cJ9_size.data.toList.drop 0 = dktJ9_size_0 := by decide +kernel
theorem dJ9_size_0 : decode cJ9_size 0 = .ok (.aload_n 0, 1) := dk_42 (dk_at dksJ9_size_0 0 rfl rfl)
theorem dJ9_size_1 : decode cJ9_size 1 = .ok (.getfield 20, 3) := dk_180 0 20 (dk_at dksJ9_size_0 1 rfl rfl)
theorem dJ9_size_4 : decode cJ9_size 4 = .ok (.aload_n 0, 1) := dk_42 (dk_at dksJ9_size_0 4 rfl rfl)
theorem dJ9_size_5 : decode cJ9_size 5 = .ok (.getfield 24, 3) := dk_180 0 24 (dk_at dksJ9_size_0 5 rfl rfl)
theorem dJ9_size_8 : decode cJ9_size 8 = .ok (.aload_n 0, 1) := dk_42 (dk_at dksJ9_size_0 8 rfl rfl)
theorem dJ9_size_9 : decode cJ9_size 9 = .ok (.getfield 3, 3) := dk_180 0 3 (dk_at dksJ9_size_0 9 rfl rfl)
theorem dJ9_size_12 : decode cJ9_size 12 = .ok (.arraylength, 1) := dk_190 (dk_at dksJ9_size_0 12 rfl rfl)
theorem dJ9_size_13 : decode cJ9_size 13 = .ok (.invokestatic 127, 3) := dk_184 0 127 (dk_at dksJ9_size_0 13 rfl rfl)
theorem dJ9_size_16 : decode cJ9_size 16 = .ok (.ireturn, 1) := dk_172 (dk_at dksJ9_size_0 16 rfl rfl)
abbrev cJ9_sub : ByteArray := prog_51_method_9_code
def yJ9_sub : MethodName := ⟨RJ9, "sub", "(III)I"⟩
def dkwJ9_sub_0 : List UInt8 := [26, 27, 100, 89, 59, 156, 0, 7, 26, 28, 96, 59, 26, 172]
abbrev dktJ9_sub_0 : List UInt8 := dkwJ9_sub_0 ++ []
theorem dksJ9_sub_0 : cJ9_sub.data.toList.drop 0 = dktJ9_sub_0 := by decide +kernel
theorem dJ9_sub_0 : decode cJ9_sub 0 = .ok (.iload_n 0, 1) := dk_26 (dk_at dksJ9_sub_0 0 rfl rfl)
theorem dJ9_sub_1 : decode cJ9_sub 1 = .ok (.iload_n 1, 1) := dk_27 (dk_at dksJ9_sub_0 1 rfl rfl)
theorem dJ9_sub_2 : decode cJ9_sub 2 = .ok (.isub, 1) := dk_100 (dk_at dksJ9_sub_0 2 rfl rfl)
theorem dJ9_sub_3 : decode cJ9_sub 3 = .ok (.dup, 1) := dk_89 (dk_at dksJ9_sub_0 3 rfl rfl)
theorem dJ9_sub_4 : decode cJ9_sub 4 = .ok (.istore_n 0, 1) := dk_59 (dk_at dksJ9_sub_0 4 rfl rfl)
theorem dJ9_sub_5 : decode cJ9_sub 5 = .ok (.ifCond .ge 7, 3) := dk_156 0 7 (dk_at dksJ9_sub_0 5 rfl rfl)
theorem dJ9_sub_8 : decode cJ9_sub 8 = .ok (.iload_n 0, 1) := dk_26 (dk_at dksJ9_sub_0 8 rfl rfl)
theorem dJ9_sub_9 : decode cJ9_sub 9 = .ok (.iload_n 2, 1) := dk_28 (dk_at dksJ9_sub_0 9 rfl rfl)
theorem dJ9_sub_10 : decode cJ9_sub 10 = .ok (.iadd, 1) := dk_96 (dk_at dksJ9_sub_0 10 rfl rfl)
theorem dJ9_sub_11 : decode cJ9_sub 11 = .ok (.istore_n 0, 1) := dk_59 (dk_at dksJ9_sub_0 11 rfl rfl)
theorem dJ9_sub_12 : decode cJ9_sub 12 = .ok (.iload_n 0, 1) := dk_26 (dk_at dksJ9_sub_0 12 rfl rfl)
theorem dJ9_sub_13 : decode cJ9_sub 13 = .ok (.ireturn, 1) := dk_172 (dk_at dksJ9_sub_0 13 rfl rfl)
abbrev cJ9_removeLast : ByteArray := prog_51_method_19_code
def yJ9_removeLast : MethodName := ⟨RJ9, "removeLast", "()Ljava/lang/Object;"⟩
def dkwJ9_removeLast_0 : List UInt8 := [42, 182, 0, 100, 76, 43, 199, 0, 11, 187, 0, 97, 89, 183, 0, 99, 191, 43, 176]
abbrev dktJ9_removeLast_0 : List UInt8 := dkwJ9_removeLast_0 ++ []
theorem dksJ9_removeLast_0 : cJ9_removeLast.data.toList.drop 0 = dktJ9_removeLast_0 := by decide +kernel
theorem dJ9_removeLast_0 : decode cJ9_removeLast 0 = .ok (.aload_n 0, 1) := dk_42 (dk_at dksJ9_removeLast_0 0 rfl rfl)
theorem dJ9_removeLast_1 : decode cJ9_removeLast 1 = .ok (.invokevirtual 100, 3) := dk_182 0 100 (dk_at dksJ9_removeLast_0 1 rfl rfl)
theorem dJ9_removeLast_4 : decode cJ9_removeLast 4 = .ok (.astore_n 1, 1) := dk_76 (dk_at dksJ9_removeLast_0 4 rfl rfl)
theorem dJ9_removeLast_5 : decode cJ9_removeLast 5 = .ok (.aload_n 1, 1) := dk_43 (dk_at dksJ9_removeLast_0 5 rfl rfl)
theorem dJ9_removeLast_6 : decode cJ9_removeLast 6 = .ok (.ifnonnull 11, 3) := dk_199 0 11 (dk_at dksJ9_removeLast_0 6 rfl rfl)
theorem dJ9_removeLast_9 : decode cJ9_removeLast 9 = .ok (.new 97, 3) := dk_187 0 97 (dk_at dksJ9_removeLast_0 9 rfl rfl)
theorem dJ9_removeLast_12 : decode cJ9_removeLast 12 = .ok (.dup, 1) := dk_89 (dk_at dksJ9_removeLast_0 12 rfl rfl)
theorem dJ9_removeLast_13 : decode cJ9_removeLast 13 = .ok (.invokespecial 99, 3) := dk_183 0 99 (dk_at dksJ9_removeLast_0 13 rfl rfl)
theorem dJ9_removeLast_16 : decode cJ9_removeLast 16 = .ok (.athrow, 1) := dk_191 (dk_at dksJ9_removeLast_0 16 rfl rfl)
theorem dJ9_removeLast_17 : decode cJ9_removeLast 17 = .ok (.aload_n 1, 1) := dk_43 (dk_at dksJ9_removeLast_0 17 rfl rfl)
theorem dJ9_removeLast_18 : decode cJ9_removeLast 18 = .ok (.areturn, 1) := dk_176 (dk_at dksJ9_removeLast_0 18 rfl rfl)
abbrev cJ9_pollLast : ByteArray := prog_51_method_21_code
def yJ9_pollLast : MethodName := ⟨RJ9, "pollLast", "()Ljava/lang/Object;"⟩
def dkwJ9_pollLast_1 : List UInt8 := [198, 0, 12, 43, 42, 28, 90, 181, 0, 20, 1, 83, 45, 176]
abbrev dktJ9_pollLast_1 : List UInt8 := dkwJ9_pollLast_1 ++ []
def dkwJ9_pollLast_0 : List UInt8 := [42, 180, 0, 3, 89, 76, 42, 180, 0, 20, 43, 190, 184, 0, 68, 89, 61, 184, 0, 103, 78, 45]
abbrev dktJ9_pollLast_0 : List UInt8 := dkwJ9_pollLast_0 ++ dktJ9_pollLast_1
theorem dksJ9_pollLast_0 : cJ9_pollLast.data.toList.drop 0 = dktJ9_pollLast_0 := by decide +kernel
theorem dksJ9_pollLast_1 : cJ9_pollLast.data.toList.drop 22 = dktJ9_pollLast_1 := dk_seg dksJ9_pollLast_0 22 rfl rfl
theorem dJ9_pollLast_0 : decode cJ9_pollLast 0 = .ok (.aload_n 0, 1) := dk_42 (dk_at dksJ9_pollLast_0 0 rfl rfl)
theorem dJ9_pollLast_1 : decode cJ9_pollLast 1 = .ok (.getfield 3, 3) := dk_180 0 3 (dk_at dksJ9_pollLast_0 1 rfl rfl)
theorem dJ9_pollLast_4 : decode cJ9_pollLast 4 = .ok (.dup, 1) := dk_89 (dk_at dksJ9_pollLast_0 4 rfl rfl)
theorem dJ9_pollLast_5 : decode cJ9_pollLast 5 = .ok (.astore_n 1, 1) := dk_76 (dk_at dksJ9_pollLast_0 5 rfl rfl)
theorem dJ9_pollLast_6 : decode cJ9_pollLast 6 = .ok (.aload_n 0, 1) := dk_42 (dk_at dksJ9_pollLast_0 6 rfl rfl)
theorem dJ9_pollLast_7 : decode cJ9_pollLast 7 = .ok (.getfield 20, 3) := dk_180 0 20 (dk_at dksJ9_pollLast_0 7 rfl rfl)
theorem dJ9_pollLast_10 : decode cJ9_pollLast 10 = .ok (.aload_n 1, 1) := dk_43 (dk_at dksJ9_pollLast_0 10 rfl rfl)
theorem dJ9_pollLast_11 : decode cJ9_pollLast 11 = .ok (.arraylength, 1) := dk_190 (dk_at dksJ9_pollLast_0 11 rfl rfl)
theorem dJ9_pollLast_12 : decode cJ9_pollLast 12 = .ok (.invokestatic 68, 3) := dk_184 0 68 (dk_at dksJ9_pollLast_0 12 rfl rfl)
theorem dJ9_pollLast_15 : decode cJ9_pollLast 15 = .ok (.dup, 1) := dk_89 (dk_at dksJ9_pollLast_0 15 rfl rfl)
theorem dJ9_pollLast_16 : decode cJ9_pollLast 16 = .ok (.istore_n 2, 1) := dk_61 (dk_at dksJ9_pollLast_0 16 rfl rfl)
theorem dJ9_pollLast_17 : decode cJ9_pollLast 17 = .ok (.invokestatic 103, 3) := dk_184 0 103 (dk_at dksJ9_pollLast_0 17 rfl rfl)
theorem dJ9_pollLast_20 : decode cJ9_pollLast 20 = .ok (.astore_n 3, 1) := dk_78 (dk_at dksJ9_pollLast_0 20 rfl rfl)
theorem dJ9_pollLast_21 : decode cJ9_pollLast 21 = .ok (.aload_n 3, 1) := dk_45 (dk_at dksJ9_pollLast_0 21 rfl rfl)
theorem dJ9_pollLast_22 : decode cJ9_pollLast 22 = .ok (.ifnull 12, 3) := dk_198 0 12 (dk_at dksJ9_pollLast_1 0 rfl rfl)
theorem dJ9_pollLast_25 : decode cJ9_pollLast 25 = .ok (.aload_n 1, 1) := dk_43 (dk_at dksJ9_pollLast_1 3 rfl rfl)
theorem dJ9_pollLast_26 : decode cJ9_pollLast 26 = .ok (.aload_n 0, 1) := dk_42 (dk_at dksJ9_pollLast_1 4 rfl rfl)
theorem dJ9_pollLast_27 : decode cJ9_pollLast 27 = .ok (.iload_n 2, 1) := dk_28 (dk_at dksJ9_pollLast_1 5 rfl rfl)
theorem dJ9_pollLast_28 : decode cJ9_pollLast 28 = .ok (.dup_x1, 1) := dk_90 (dk_at dksJ9_pollLast_1 6 rfl rfl)
theorem dJ9_pollLast_29 : decode cJ9_pollLast 29 = .ok (.putfield 20, 3) := dk_181 0 20 (dk_at dksJ9_pollLast_1 7 rfl rfl)
theorem dJ9_pollLast_32 : decode cJ9_pollLast 32 = .ok (.aconst_null, 1) := dk_1 (dk_at dksJ9_pollLast_1 10 rfl rfl)
theorem dJ9_pollLast_33 : decode cJ9_pollLast 33 = .ok (.aastore, 1) := dk_83 (dk_at dksJ9_pollLast_1 11 rfl rfl)
theorem dJ9_pollLast_34 : decode cJ9_pollLast 34 = .ok (.aload_n 3, 1) := dk_45 (dk_at dksJ9_pollLast_1 12 rfl rfl)
theorem dJ9_pollLast_35 : decode cJ9_pollLast 35 = .ok (.areturn, 1) := dk_176 (dk_at dksJ9_pollLast_1 13 rfl rfl)
abbrev cJ9_dec : ByteArray := prog_51_method_7_code
def yJ9_dec : MethodName := ⟨RJ9, "dec", "(II)I"⟩
def dkwJ9_dec_0 : List UInt8 := [132, 0, 255, 26, 156, 0, 7, 27, 4, 100, 59, 26, 172]
abbrev dktJ9_dec_0 : List UInt8 := dkwJ9_dec_0 ++ []
theorem dksJ9_dec_0 : cJ9_dec.data.toList.drop 0 = dktJ9_dec_0 := by decide +kernel
theorem dJ9_dec_0 : decode cJ9_dec 0 = .ok (.iinc 0 (-1), 3) := dk_132 0 255 (dk_at dksJ9_dec_0 0 rfl rfl)
theorem dJ9_dec_3 : decode cJ9_dec 3 = .ok (.iload_n 0, 1) := dk_26 (dk_at dksJ9_dec_0 3 rfl rfl)
theorem dJ9_dec_4 : decode cJ9_dec 4 = .ok (.ifCond .ge 7, 3) := dk_156 0 7 (dk_at dksJ9_dec_0 4 rfl rfl)
theorem dJ9_dec_7 : decode cJ9_dec 7 = .ok (.iload_n 1, 1) := dk_27 (dk_at dksJ9_dec_0 7 rfl rfl)
theorem dJ9_dec_8 : decode cJ9_dec 8 = .ok (.iconst 1, 1) := dk_4 (dk_at dksJ9_dec_0 8 rfl rfl)
theorem dJ9_dec_9 : decode cJ9_dec 9 = .ok (.isub, 1) := dk_100 (dk_at dksJ9_dec_0 9 rfl rfl)
theorem dJ9_dec_10 : decode cJ9_dec 10 = .ok (.istore_n 0, 1) := dk_59 (dk_at dksJ9_dec_0 10 rfl rfl)
theorem dJ9_dec_11 : decode cJ9_dec 11 = .ok (.iload_n 0, 1) := dk_26 (dk_at dksJ9_dec_0 11 rfl rfl)
theorem dJ9_dec_12 : decode cJ9_dec 12 = .ok (.ireturn, 1) := dk_172 (dk_at dksJ9_dec_0 12 rfl rfl)
abbrev cJ9_elementAt : ByteArray := prog_51_method_10_code
def yJ9_elementAt : MethodName := ⟨RJ9, "elementAt", "([Ljava/lang/Object;I)Ljava/lang/Object;"⟩
def dkwJ9_elementAt_0 : List UInt8 := [42, 27, 50, 176]
abbrev dktJ9_elementAt_0 : List UInt8 := dkwJ9_elementAt_0 ++ []
theorem dksJ9_elementAt_0 : cJ9_elementAt.data.toList.drop 0 = dktJ9_elementAt_0 := by decide +kernel
theorem dJ9_elementAt_0 : decode cJ9_elementAt 0 = .ok (.aload_n 0, 1) := dk_42 (dk_at dksJ9_elementAt_0 0 rfl rfl)
theorem dJ9_elementAt_1 : decode cJ9_elementAt 1 = .ok (.iload_n 1, 1) := dk_27 (dk_at dksJ9_elementAt_0 1 rfl rfl)
theorem dJ9_elementAt_2 : decode cJ9_elementAt 2 = .ok (.aaload, 1) := dk_50 (dk_at dksJ9_elementAt_0 2 rfl rfl)
theorem dJ9_elementAt_3 : decode cJ9_elementAt 3 = .ok (.areturn, 1) := dk_176 (dk_at dksJ9_elementAt_0 3 rfl rfl)
abbrev cJ9_push : ByteArray := prog_51_method_34_code
def yJ9_push : MethodName := ⟨RJ9, "push", "(Ljava/lang/Object;)V"⟩
def dkwJ9_push_0 : List UInt8 := [42, 43, 182, 0, 86, 177]
abbrev dktJ9_push_0 : List UInt8 := dkwJ9_push_0 ++ []
theorem dksJ9_push_0 : cJ9_push.data.toList.drop 0 = dktJ9_push_0 := by decide +kernel
theorem dJ9_push_0 : decode cJ9_push 0 = .ok (.aload_n 0, 1) := dk_42 (dk_at dksJ9_push_0 0 rfl rfl)
theorem dJ9_push_1 : decode cJ9_push 1 = .ok (.aload_n 1, 1) := dk_43 (dk_at dksJ9_push_0 1 rfl rfl)
theorem dJ9_push_2 : decode cJ9_push 2 = .ok (.invokevirtual 86, 3) := dk_182 0 86 (dk_at dksJ9_push_0 2 rfl rfl)
theorem dJ9_push_5 : decode cJ9_push 5 = .ok (.return_, 1) := dk_177 (dk_at dksJ9_push_0 5 rfl rfl)
abbrev cJ9_addFirst : ByteArray := prog_51_method_12_code
def yJ9_addFirst : MethodName := ⟨RJ9, "addFirst", "(Ljava/lang/Object;)V"⟩
def dkwJ9_addFirst_2 : List UInt8 := [182, 0, 71, 177]
abbrev dktJ9_addFirst_2 : List UInt8 := dkwJ9_addFirst_2 ++ []
def dkwJ9_addFirst_1 : List UInt8 := [190, 184, 0, 68, 90, 181, 0, 24, 43, 83, 42, 180, 0, 24, 42, 180, 0, 20, 160, 0, 8, 42, 4]
abbrev dktJ9_addFirst_1 : List UInt8 := dkwJ9_addFirst_1 ++ dktJ9_addFirst_2
def dkwJ9_addFirst_0 : List UInt8 := [43, 199, 0, 11, 187, 0, 65, 89, 183, 0, 67, 191, 42, 180, 0, 3, 77, 44, 42, 42, 180, 0, 24, 44]
abbrev dktJ9_addFirst_0 : List UInt8 := dkwJ9_addFirst_0 ++ dktJ9_addFirst_1
theorem dksJ9_addFirst_0 : cJ9_addFirst.data.toList.drop 0 = dktJ9_addFirst_0 := by decide +kernel
theorem dksJ9_addFirst_1 : cJ9_addFirst.data.toList.drop 24 = dktJ9_addFirst_1 := dk_seg dksJ9_addFirst_0 24 rfl rfl
theorem dksJ9_addFirst_2 : cJ9_addFirst.data.toList.drop 47 = dktJ9_addFirst_2 := dk_seg dksJ9_addFirst_1 23 rfl rfl
theorem dJ9_addFirst_0 : decode cJ9_addFirst 0 = .ok (.aload_n 1, 1) := dk_43 (dk_at dksJ9_addFirst_0 0 rfl rfl)
theorem dJ9_addFirst_1 : decode cJ9_addFirst 1 = .ok (.ifnonnull 11, 3) := dk_199 0 11 (dk_at dksJ9_addFirst_0 1 rfl rfl)
theorem dJ9_addFirst_4 : decode cJ9_addFirst 4 = .ok (.new 65, 3) := dk_187 0 65 (dk_at dksJ9_addFirst_0 4 rfl rfl)
theorem dJ9_addFirst_7 : decode cJ9_addFirst 7 = .ok (.dup, 1) := dk_89 (dk_at dksJ9_addFirst_0 7 rfl rfl)
theorem dJ9_addFirst_8 : decode cJ9_addFirst 8 = .ok (.invokespecial 67, 3) := dk_183 0 67 (dk_at dksJ9_addFirst_0 8 rfl rfl)
theorem dJ9_addFirst_11 : decode cJ9_addFirst 11 = .ok (.athrow, 1) := dk_191 (dk_at dksJ9_addFirst_0 11 rfl rfl)
theorem dJ9_addFirst_12 : decode cJ9_addFirst 12 = .ok (.aload_n 0, 1) := dk_42 (dk_at dksJ9_addFirst_0 12 rfl rfl)
theorem dJ9_addFirst_13 : decode cJ9_addFirst 13 = .ok (.getfield 3, 3) := dk_180 0 3 (dk_at dksJ9_addFirst_0 13 rfl rfl)
theorem dJ9_addFirst_16 : decode cJ9_addFirst 16 = .ok (.astore_n 2, 1) := dk_77 (dk_at dksJ9_addFirst_0 16 rfl rfl)
theorem dJ9_addFirst_17 : decode cJ9_addFirst 17 = .ok (.aload_n 2, 1) := dk_44 (dk_at dksJ9_addFirst_0 17 rfl rfl)
theorem dJ9_addFirst_18 : decode cJ9_addFirst 18 = .ok (.aload_n 0, 1) := dk_42 (dk_at dksJ9_addFirst_0 18 rfl rfl)
theorem dJ9_addFirst_19 : decode cJ9_addFirst 19 = .ok (.aload_n 0, 1) := dk_42 (dk_at dksJ9_addFirst_0 19 rfl rfl)
theorem dJ9_addFirst_20 : decode cJ9_addFirst 20 = .ok (.getfield 24, 3) := dk_180 0 24 (dk_at dksJ9_addFirst_0 20 rfl rfl)
theorem dJ9_addFirst_23 : decode cJ9_addFirst 23 = .ok (.aload_n 2, 1) := dk_44 (dk_at dksJ9_addFirst_0 23 rfl rfl)
theorem dJ9_addFirst_24 : decode cJ9_addFirst 24 = .ok (.arraylength, 1) := dk_190 (dk_at dksJ9_addFirst_1 0 rfl rfl)
theorem dJ9_addFirst_25 : decode cJ9_addFirst 25 = .ok (.invokestatic 68, 3) := dk_184 0 68 (dk_at dksJ9_addFirst_1 1 rfl rfl)
theorem dJ9_addFirst_28 : decode cJ9_addFirst 28 = .ok (.dup_x1, 1) := dk_90 (dk_at dksJ9_addFirst_1 4 rfl rfl)
theorem dJ9_addFirst_29 : decode cJ9_addFirst 29 = .ok (.putfield 24, 3) := dk_181 0 24 (dk_at dksJ9_addFirst_1 5 rfl rfl)
theorem dJ9_addFirst_32 : decode cJ9_addFirst 32 = .ok (.aload_n 1, 1) := dk_43 (dk_at dksJ9_addFirst_1 8 rfl rfl)
theorem dJ9_addFirst_33 : decode cJ9_addFirst 33 = .ok (.aastore, 1) := dk_83 (dk_at dksJ9_addFirst_1 9 rfl rfl)
theorem dJ9_addFirst_34 : decode cJ9_addFirst 34 = .ok (.aload_n 0, 1) := dk_42 (dk_at dksJ9_addFirst_1 10 rfl rfl)
theorem dJ9_addFirst_35 : decode cJ9_addFirst 35 = .ok (.getfield 24, 3) := dk_180 0 24 (dk_at dksJ9_addFirst_1 11 rfl rfl)
theorem dJ9_addFirst_38 : decode cJ9_addFirst 38 = .ok (.aload_n 0, 1) := dk_42 (dk_at dksJ9_addFirst_1 14 rfl rfl)
theorem dJ9_addFirst_39 : decode cJ9_addFirst 39 = .ok (.getfield 20, 3) := dk_180 0 20 (dk_at dksJ9_addFirst_1 15 rfl rfl)
theorem dJ9_addFirst_42 : decode cJ9_addFirst 42 = .ok (.if_icmp .ne 8, 3) := dk_160 0 8 (dk_at dksJ9_addFirst_1 18 rfl rfl)
theorem dJ9_addFirst_45 : decode cJ9_addFirst 45 = .ok (.aload_n 0, 1) := dk_42 (dk_at dksJ9_addFirst_1 21 rfl rfl)
theorem dJ9_addFirst_46 : decode cJ9_addFirst 46 = .ok (.iconst 1, 1) := dk_4 (dk_at dksJ9_addFirst_1 22 rfl rfl)
theorem dJ9_addFirst_47 : decode cJ9_addFirst 47 = .ok (.invokevirtual 71, 3) := dk_182 0 71 (dk_at dksJ9_addFirst_2 0 rfl rfl)
theorem dJ9_addFirst_50 : decode cJ9_addFirst 50 = .ok (.return_, 1) := dk_177 (dk_at dksJ9_addFirst_2 3 rfl rfl)
abbrev cJ9_grow : ByteArray := prog_51_method_1_code
def yJ9_grow : MethodName := ⟨RJ9, "grow", "(I)V"⟩
def dkwJ9_grow_7 : List UInt8 := [177]
abbrev dktJ9_grow_7 : List UInt8 := dkwJ9_grow_7 ++ []
def dkwJ9_grow_6 : List UInt8 := [181, 0, 24, 54, 8, 21, 7, 21, 8, 162, 0, 15, 25, 5, 21, 7, 1, 83, 132, 7, 1, 167, 255, 240]
abbrev dktJ9_grow_6 : List UInt8 := dkwJ9_grow_6 ++ dktJ9_grow_7
def dkwJ9_grow_5 : List UInt8 := [42, 180, 0, 24, 100, 184, 0, 27, 42, 180, 0, 24, 54, 7, 42, 89, 180, 0, 24, 21, 6, 96, 90]
abbrev dktJ9_grow_5 : List UInt8 := dkwJ9_grow_5 ++ dktJ9_grow_6
def dkwJ9_grow_4 : List UInt8 := [198, 0, 71, 29, 28, 100, 54, 6, 25, 5, 42, 180, 0, 24, 25, 5, 42, 180, 0, 24, 21, 6, 96, 28]
abbrev dktJ9_grow_4 : List UInt8 := dkwJ9_grow_4 ++ dktJ9_grow_5
def dkwJ9_grow_3 : List UInt8 := [180, 0, 24, 161, 0, 24, 42, 180, 0, 20, 42, 180, 0, 24, 160, 0, 81, 25, 5, 42, 180, 0, 24, 50]
abbrev dktJ9_grow_3 : List UInt8 := dkwJ9_grow_3 ++ dktJ9_grow_4
def dkwJ9_grow_2 : List UInt8 := [182, 0, 10, 62, 42, 42, 180, 0, 3, 29, 184, 0, 14, 90, 181, 0, 3, 58, 5, 42, 180, 0, 20, 42]
abbrev dktJ9_grow_2 : List UInt8 := dkwJ9_grow_2 ++ dktJ9_grow_3
def dkwJ9_grow_1 : List UInt8 := [21, 4, 27, 161, 0, 15, 28, 21, 4, 96, 89, 62, 18, 9, 100, 158, 0, 11, 42, 27, 21, 4]
abbrev dktJ9_grow_1 : List UInt8 := dkwJ9_grow_1 ++ dktJ9_grow_2
def dkwJ9_grow_0 : List UInt8 := [42, 180, 0, 3, 190, 61, 28, 16, 64, 162, 0, 9, 28, 5, 96, 167, 0, 6, 28, 4, 122, 54, 4]
abbrev dktJ9_grow_0 : List UInt8 := dkwJ9_grow_0 ++ dktJ9_grow_1
theorem dksJ9_grow_0 : cJ9_grow.data.toList.drop 0 = dktJ9_grow_0 := by decide +kernel
theorem dksJ9_grow_1 : cJ9_grow.data.toList.drop 23 = dktJ9_grow_1 := dk_seg dksJ9_grow_0 23 rfl rfl
theorem dksJ9_grow_2 : cJ9_grow.data.toList.drop 45 = dktJ9_grow_2 := dk_seg dksJ9_grow_1 22 rfl rfl
theorem dksJ9_grow_3 : cJ9_grow.data.toList.drop 69 = dktJ9_grow_3 := dk_seg dksJ9_grow_2 24 rfl rfl
theorem dksJ9_grow_4 : cJ9_grow.data.toList.drop 93 = dktJ9_grow_4 := dk_seg dksJ9_grow_3 24 rfl rfl
theorem dksJ9_grow_5 : cJ9_grow.data.toList.drop 117 = dktJ9_grow_5 := dk_seg dksJ9_grow_4 24 rfl rfl
theorem dksJ9_grow_6 : cJ9_grow.data.toList.drop 140 = dktJ9_grow_6 := dk_seg dksJ9_grow_5 23 rfl rfl
theorem dksJ9_grow_7 : cJ9_grow.data.toList.drop 164 = dktJ9_grow_7 := dk_seg dksJ9_grow_6 24 rfl rfl
theorem dJ9_grow_0 : decode cJ9_grow 0 = .ok (.aload_n 0, 1) := dk_42 (dk_at dksJ9_grow_0 0 rfl rfl)
theorem dJ9_grow_1 : decode cJ9_grow 1 = .ok (.getfield 3, 3) := dk_180 0 3 (dk_at dksJ9_grow_0 1 rfl rfl)
theorem dJ9_grow_4 : decode cJ9_grow 4 = .ok (.arraylength, 1) := dk_190 (dk_at dksJ9_grow_0 4 rfl rfl)
theorem dJ9_grow_5 : decode cJ9_grow 5 = .ok (.istore_n 2, 1) := dk_61 (dk_at dksJ9_grow_0 5 rfl rfl)
theorem dJ9_grow_6 : decode cJ9_grow 6 = .ok (.iload_n 2, 1) := dk_28 (dk_at dksJ9_grow_0 6 rfl rfl)
theorem dJ9_grow_7 : decode cJ9_grow 7 = .ok (.bipush 64, 2) := dk_16 64 (dk_at dksJ9_grow_0 7 rfl rfl)
theorem dJ9_grow_9 : decode cJ9_grow 9 = .ok (.if_icmp .ge 9, 3) := dk_162 0 9 (dk_at dksJ9_grow_0 9 rfl rfl)
theorem dJ9_grow_12 : decode cJ9_grow 12 = .ok (.iload_n 2, 1) := dk_28 (dk_at dksJ9_grow_0 12 rfl rfl)
theorem dJ9_grow_13 : decode cJ9_grow 13 = .ok (.iconst 2, 1) := dk_5 (dk_at dksJ9_grow_0 13 rfl rfl)
theorem dJ9_grow_14 : decode cJ9_grow 14 = .ok (.iadd, 1) := dk_96 (dk_at dksJ9_grow_0 14 rfl rfl)
theorem dJ9_grow_15 : decode cJ9_grow 15 = .ok (.goto 6, 3) := dk_167 0 6 (dk_at dksJ9_grow_0 15 rfl rfl)
theorem dJ9_grow_18 : decode cJ9_grow 18 = .ok (.iload_n 2, 1) := dk_28 (dk_at dksJ9_grow_0 18 rfl rfl)
theorem dJ9_grow_19 : decode cJ9_grow 19 = .ok (.iconst 1, 1) := dk_4 (dk_at dksJ9_grow_0 19 rfl rfl)
theorem dJ9_grow_20 : decode cJ9_grow 20 = .ok (.ishr, 1) := dk_122 (dk_at dksJ9_grow_0 20 rfl rfl)
theorem dJ9_grow_21 : decode cJ9_grow 21 = .ok (.istore 4, 2) := dk_54 4 (dk_at dksJ9_grow_0 21 rfl rfl)
theorem dJ9_grow_23 : decode cJ9_grow 23 = .ok (.iload 4, 2) := dk_21 4 (dk_at dksJ9_grow_1 0 rfl rfl)
theorem dJ9_grow_25 : decode cJ9_grow 25 = .ok (.iload_n 1, 1) := dk_27 (dk_at dksJ9_grow_1 2 rfl rfl)
theorem dJ9_grow_26 : decode cJ9_grow 26 = .ok (.if_icmp .lt 15, 3) := dk_161 0 15 (dk_at dksJ9_grow_1 3 rfl rfl)
theorem dJ9_grow_29 : decode cJ9_grow 29 = .ok (.iload_n 2, 1) := dk_28 (dk_at dksJ9_grow_1 6 rfl rfl)
theorem dJ9_grow_30 : decode cJ9_grow 30 = .ok (.iload 4, 2) := dk_21 4 (dk_at dksJ9_grow_1 7 rfl rfl)
theorem dJ9_grow_32 : decode cJ9_grow 32 = .ok (.iadd, 1) := dk_96 (dk_at dksJ9_grow_1 9 rfl rfl)
theorem dJ9_grow_33 : decode cJ9_grow 33 = .ok (.dup, 1) := dk_89 (dk_at dksJ9_grow_1 10 rfl rfl)
theorem dJ9_grow_34 : decode cJ9_grow 34 = .ok (.istore_n 3, 1) := dk_62 (dk_at dksJ9_grow_1 11 rfl rfl)
theorem dJ9_grow_35 : decode cJ9_grow 35 = .ok (.ldc 9, 2) := dk_18 9 (dk_at dksJ9_grow_1 12 rfl rfl)
theorem dJ9_grow_37 : decode cJ9_grow 37 = .ok (.isub, 1) := dk_100 (dk_at dksJ9_grow_1 14 rfl rfl)
theorem dJ9_grow_38 : decode cJ9_grow 38 = .ok (.ifCond .le 11, 3) := dk_158 0 11 (dk_at dksJ9_grow_1 15 rfl rfl)
theorem dJ9_grow_41 : decode cJ9_grow 41 = .ok (.aload_n 0, 1) := dk_42 (dk_at dksJ9_grow_1 18 rfl rfl)
theorem dJ9_grow_42 : decode cJ9_grow 42 = .ok (.iload_n 1, 1) := dk_27 (dk_at dksJ9_grow_1 19 rfl rfl)
theorem dJ9_grow_43 : decode cJ9_grow 43 = .ok (.iload 4, 2) := dk_21 4 (dk_at dksJ9_grow_1 20 rfl rfl)
theorem dJ9_grow_45 : decode cJ9_grow 45 = .ok (.invokevirtual 10, 3) := dk_182 0 10 (dk_at dksJ9_grow_2 0 rfl rfl)
theorem dJ9_grow_48 : decode cJ9_grow 48 = .ok (.istore_n 3, 1) := dk_62 (dk_at dksJ9_grow_2 3 rfl rfl)
theorem dJ9_grow_49 : decode cJ9_grow 49 = .ok (.aload_n 0, 1) := dk_42 (dk_at dksJ9_grow_2 4 rfl rfl)
theorem dJ9_grow_50 : decode cJ9_grow 50 = .ok (.aload_n 0, 1) := dk_42 (dk_at dksJ9_grow_2 5 rfl rfl)
theorem dJ9_grow_51 : decode cJ9_grow 51 = .ok (.getfield 3, 3) := dk_180 0 3 (dk_at dksJ9_grow_2 6 rfl rfl)
theorem dJ9_grow_54 : decode cJ9_grow 54 = .ok (.iload_n 3, 1) := dk_29 (dk_at dksJ9_grow_2 9 rfl rfl)
theorem dJ9_grow_55 : decode cJ9_grow 55 = .ok (.invokestatic 14, 3) := dk_184 0 14 (dk_at dksJ9_grow_2 10 rfl rfl)
theorem dJ9_grow_58 : decode cJ9_grow 58 = .ok (.dup_x1, 1) := dk_90 (dk_at dksJ9_grow_2 13 rfl rfl)
theorem dJ9_grow_59 : decode cJ9_grow 59 = .ok (.putfield 3, 3) := dk_181 0 3 (dk_at dksJ9_grow_2 14 rfl rfl)
theorem dJ9_grow_62 : decode cJ9_grow 62 = .ok (.astore 5, 2) := dk_58 5 (dk_at dksJ9_grow_2 17 rfl rfl)
theorem dJ9_grow_64 : decode cJ9_grow 64 = .ok (.aload_n 0, 1) := dk_42 (dk_at dksJ9_grow_2 19 rfl rfl)
theorem dJ9_grow_65 : decode cJ9_grow 65 = .ok (.getfield 20, 3) := dk_180 0 20 (dk_at dksJ9_grow_2 20 rfl rfl)
theorem dJ9_grow_68 : decode cJ9_grow 68 = .ok (.aload_n 0, 1) := dk_42 (dk_at dksJ9_grow_2 23 rfl rfl)
theorem dJ9_grow_69 : decode cJ9_grow 69 = .ok (.getfield 24, 3) := dk_180 0 24 (dk_at dksJ9_grow_3 0 rfl rfl)
theorem dJ9_grow_72 : decode cJ9_grow 72 = .ok (.if_icmp .lt 24, 3) := dk_161 0 24 (dk_at dksJ9_grow_3 3 rfl rfl)
theorem dJ9_grow_75 : decode cJ9_grow 75 = .ok (.aload_n 0, 1) := dk_42 (dk_at dksJ9_grow_3 6 rfl rfl)
theorem dJ9_grow_76 : decode cJ9_grow 76 = .ok (.getfield 20, 3) := dk_180 0 20 (dk_at dksJ9_grow_3 7 rfl rfl)
theorem dJ9_grow_79 : decode cJ9_grow 79 = .ok (.aload_n 0, 1) := dk_42 (dk_at dksJ9_grow_3 10 rfl rfl)
theorem dJ9_grow_80 : decode cJ9_grow 80 = .ok (.getfield 24, 3) := dk_180 0 24 (dk_at dksJ9_grow_3 11 rfl rfl)
theorem dJ9_grow_83 : decode cJ9_grow 83 = .ok (.if_icmp .ne 81, 3) := dk_160 0 81 (dk_at dksJ9_grow_3 14 rfl rfl)
theorem dJ9_grow_86 : decode cJ9_grow 86 = .ok (.aload 5, 2) := dk_25 5 (dk_at dksJ9_grow_3 17 rfl rfl)
theorem dJ9_grow_88 : decode cJ9_grow 88 = .ok (.aload_n 0, 1) := dk_42 (dk_at dksJ9_grow_3 19 rfl rfl)
theorem dJ9_grow_89 : decode cJ9_grow 89 = .ok (.getfield 24, 3) := dk_180 0 24 (dk_at dksJ9_grow_3 20 rfl rfl)
theorem dJ9_grow_92 : decode cJ9_grow 92 = .ok (.aaload, 1) := dk_50 (dk_at dksJ9_grow_3 23 rfl rfl)
theorem dJ9_grow_93 : decode cJ9_grow 93 = .ok (.ifnull 71, 3) := dk_198 0 71 (dk_at dksJ9_grow_4 0 rfl rfl)
theorem dJ9_grow_96 : decode cJ9_grow 96 = .ok (.iload_n 3, 1) := dk_29 (dk_at dksJ9_grow_4 3 rfl rfl)
theorem dJ9_grow_97 : decode cJ9_grow 97 = .ok (.iload_n 2, 1) := dk_28 (dk_at dksJ9_grow_4 4 rfl rfl)
theorem dJ9_grow_98 : decode cJ9_grow 98 = .ok (.isub, 1) := dk_100 (dk_at dksJ9_grow_4 5 rfl rfl)
theorem dJ9_grow_99 : decode cJ9_grow 99 = .ok (.istore 6, 2) := dk_54 6 (dk_at dksJ9_grow_4 6 rfl rfl)
theorem dJ9_grow_101 : decode cJ9_grow 101 = .ok (.aload 5, 2) := dk_25 5 (dk_at dksJ9_grow_4 8 rfl rfl)
theorem dJ9_grow_103 : decode cJ9_grow 103 = .ok (.aload_n 0, 1) := dk_42 (dk_at dksJ9_grow_4 10 rfl rfl)
theorem dJ9_grow_104 : decode cJ9_grow 104 = .ok (.getfield 24, 3) := dk_180 0 24 (dk_at dksJ9_grow_4 11 rfl rfl)
theorem dJ9_grow_107 : decode cJ9_grow 107 = .ok (.aload 5, 2) := dk_25 5 (dk_at dksJ9_grow_4 14 rfl rfl)
theorem dJ9_grow_109 : decode cJ9_grow 109 = .ok (.aload_n 0, 1) := dk_42 (dk_at dksJ9_grow_4 16 rfl rfl)
theorem dJ9_grow_110 : decode cJ9_grow 110 = .ok (.getfield 24, 3) := dk_180 0 24 (dk_at dksJ9_grow_4 17 rfl rfl)
theorem dJ9_grow_113 : decode cJ9_grow 113 = .ok (.iload 6, 2) := dk_21 6 (dk_at dksJ9_grow_4 20 rfl rfl)
theorem dJ9_grow_115 : decode cJ9_grow 115 = .ok (.iadd, 1) := dk_96 (dk_at dksJ9_grow_4 22 rfl rfl)
theorem dJ9_grow_116 : decode cJ9_grow 116 = .ok (.iload_n 2, 1) := dk_28 (dk_at dksJ9_grow_4 23 rfl rfl)
theorem dJ9_grow_117 : decode cJ9_grow 117 = .ok (.aload_n 0, 1) := dk_42 (dk_at dksJ9_grow_5 0 rfl rfl)
theorem dJ9_grow_118 : decode cJ9_grow 118 = .ok (.getfield 24, 3) := dk_180 0 24 (dk_at dksJ9_grow_5 1 rfl rfl)
theorem dJ9_grow_121 : decode cJ9_grow 121 = .ok (.isub, 1) := dk_100 (dk_at dksJ9_grow_5 4 rfl rfl)
theorem dJ9_grow_122 : decode cJ9_grow 122 = .ok (.invokestatic 27, 3) := dk_184 0 27 (dk_at dksJ9_grow_5 5 rfl rfl)
theorem dJ9_grow_125 : decode cJ9_grow 125 = .ok (.aload_n 0, 1) := dk_42 (dk_at dksJ9_grow_5 8 rfl rfl)
theorem dJ9_grow_126 : decode cJ9_grow 126 = .ok (.getfield 24, 3) := dk_180 0 24 (dk_at dksJ9_grow_5 9 rfl rfl)
theorem dJ9_grow_129 : decode cJ9_grow 129 = .ok (.istore 7, 2) := dk_54 7 (dk_at dksJ9_grow_5 12 rfl rfl)
theorem dJ9_grow_131 : decode cJ9_grow 131 = .ok (.aload_n 0, 1) := dk_42 (dk_at dksJ9_grow_5 14 rfl rfl)
theorem dJ9_grow_132 : decode cJ9_grow 132 = .ok (.dup, 1) := dk_89 (dk_at dksJ9_grow_5 15 rfl rfl)
theorem dJ9_grow_133 : decode cJ9_grow 133 = .ok (.getfield 24, 3) := dk_180 0 24 (dk_at dksJ9_grow_5 16 rfl rfl)
theorem dJ9_grow_136 : decode cJ9_grow 136 = .ok (.iload 6, 2) := dk_21 6 (dk_at dksJ9_grow_5 19 rfl rfl)
theorem dJ9_grow_138 : decode cJ9_grow 138 = .ok (.iadd, 1) := dk_96 (dk_at dksJ9_grow_5 21 rfl rfl)
theorem dJ9_grow_139 : decode cJ9_grow 139 = .ok (.dup_x1, 1) := dk_90 (dk_at dksJ9_grow_5 22 rfl rfl)
theorem dJ9_grow_140 : decode cJ9_grow 140 = .ok (.putfield 24, 3) := dk_181 0 24 (dk_at dksJ9_grow_6 0 rfl rfl)
theorem dJ9_grow_143 : decode cJ9_grow 143 = .ok (.istore 8, 2) := dk_54 8 (dk_at dksJ9_grow_6 3 rfl rfl)
theorem dJ9_grow_145 : decode cJ9_grow 145 = .ok (.iload 7, 2) := dk_21 7 (dk_at dksJ9_grow_6 5 rfl rfl)
theorem dJ9_grow_147 : decode cJ9_grow 147 = .ok (.iload 8, 2) := dk_21 8 (dk_at dksJ9_grow_6 7 rfl rfl)
theorem dJ9_grow_149 : decode cJ9_grow 149 = .ok (.if_icmp .ge 15, 3) := dk_162 0 15 (dk_at dksJ9_grow_6 9 rfl rfl)
theorem dJ9_grow_152 : decode cJ9_grow 152 = .ok (.aload 5, 2) := dk_25 5 (dk_at dksJ9_grow_6 12 rfl rfl)
theorem dJ9_grow_154 : decode cJ9_grow 154 = .ok (.iload 7, 2) := dk_21 7 (dk_at dksJ9_grow_6 14 rfl rfl)
theorem dJ9_grow_156 : decode cJ9_grow 156 = .ok (.aconst_null, 1) := dk_1 (dk_at dksJ9_grow_6 16 rfl rfl)
theorem dJ9_grow_157 : decode cJ9_grow 157 = .ok (.aastore, 1) := dk_83 (dk_at dksJ9_grow_6 17 rfl rfl)
theorem dJ9_grow_158 : decode cJ9_grow 158 = .ok (.iinc 7 1, 3) := dk_132 7 1 (dk_at dksJ9_grow_6 18 rfl rfl)
theorem dJ9_grow_161 : decode cJ9_grow 161 = .ok (.goto (-16), 3) := dk_167 255 240 (dk_at dksJ9_grow_6 21 rfl rfl)
theorem dJ9_grow_164 : decode cJ9_grow 164 = .ok (.return_, 1) := dk_177 (dk_at dksJ9_grow_7 0 rfl rfl)
abbrev cJ9_newCapacity : ByteArray := prog_51_method_2_code
def yJ9_newCapacity : MethodName := ⟨RJ9, "newCapacity", "(II)I"⟩
def dkwJ9_newCapacity_2 : List UInt8 := [18, 9, 100, 156, 0, 9, 29, 28, 96, 167, 0, 5, 18, 9, 172]
abbrev dktJ9_newCapacity_2 : List UInt8 := dkwJ9_newCapacity_2 ++ []
def dkwJ9_newCapacity_1 : List UInt8 := [187, 0, 33, 89, 18, 35, 183, 0, 37, 191, 18, 41, 172, 27, 28, 164, 0, 6, 21, 4, 172, 29, 28, 96]
abbrev dktJ9_newCapacity_1 : List UInt8 := dkwJ9_newCapacity_1 ++ dktJ9_newCapacity_2
def dkwJ9_newCapacity_0 : List UInt8 := [42, 180, 0, 3, 190, 62, 29, 27, 96, 89, 54, 4, 18, 9, 100, 158, 0, 21, 21, 4, 156, 0, 13]
abbrev dktJ9_newCapacity_0 : List UInt8 := dkwJ9_newCapacity_0 ++ dktJ9_newCapacity_1
theorem dksJ9_newCapacity_0 : cJ9_newCapacity.data.toList.drop 0 = dktJ9_newCapacity_0 := by decide +kernel
theorem dksJ9_newCapacity_1 : cJ9_newCapacity.data.toList.drop 23 = dktJ9_newCapacity_1 := dk_seg dksJ9_newCapacity_0 23 rfl rfl
theorem dksJ9_newCapacity_2 : cJ9_newCapacity.data.toList.drop 47 = dktJ9_newCapacity_2 := dk_seg dksJ9_newCapacity_1 24 rfl rfl
theorem dJ9_newCapacity_0 : decode cJ9_newCapacity 0 = .ok (.aload_n 0, 1) := dk_42 (dk_at dksJ9_newCapacity_0 0 rfl rfl)
theorem dJ9_newCapacity_1 : decode cJ9_newCapacity 1 = .ok (.getfield 3, 3) := dk_180 0 3 (dk_at dksJ9_newCapacity_0 1 rfl rfl)
theorem dJ9_newCapacity_4 : decode cJ9_newCapacity 4 = .ok (.arraylength, 1) := dk_190 (dk_at dksJ9_newCapacity_0 4 rfl rfl)
theorem dJ9_newCapacity_5 : decode cJ9_newCapacity 5 = .ok (.istore_n 3, 1) := dk_62 (dk_at dksJ9_newCapacity_0 5 rfl rfl)
theorem dJ9_newCapacity_6 : decode cJ9_newCapacity 6 = .ok (.iload_n 3, 1) := dk_29 (dk_at dksJ9_newCapacity_0 6 rfl rfl)
theorem dJ9_newCapacity_7 : decode cJ9_newCapacity 7 = .ok (.iload_n 1, 1) := dk_27 (dk_at dksJ9_newCapacity_0 7 rfl rfl)
theorem dJ9_newCapacity_8 : decode cJ9_newCapacity 8 = .ok (.iadd, 1) := dk_96 (dk_at dksJ9_newCapacity_0 8 rfl rfl)
theorem dJ9_newCapacity_9 : decode cJ9_newCapacity 9 = .ok (.dup, 1) := dk_89 (dk_at dksJ9_newCapacity_0 9 rfl rfl)
theorem dJ9_newCapacity_10 : decode cJ9_newCapacity 10 = .ok (.istore 4, 2) := dk_54 4 (dk_at dksJ9_newCapacity_0 10 rfl rfl)
theorem dJ9_newCapacity_12 : decode cJ9_newCapacity 12 = .ok (.ldc 9, 2) := dk_18 9 (dk_at dksJ9_newCapacity_0 12 rfl rfl)
theorem dJ9_newCapacity_14 : decode cJ9_newCapacity 14 = .ok (.isub, 1) := dk_100 (dk_at dksJ9_newCapacity_0 14 rfl rfl)
theorem dJ9_newCapacity_15 : decode cJ9_newCapacity 15 = .ok (.ifCond .le 21, 3) := dk_158 0 21 (dk_at dksJ9_newCapacity_0 15 rfl rfl)
theorem dJ9_newCapacity_18 : decode cJ9_newCapacity 18 = .ok (.iload 4, 2) := dk_21 4 (dk_at dksJ9_newCapacity_0 18 rfl rfl)
theorem dJ9_newCapacity_20 : decode cJ9_newCapacity 20 = .ok (.ifCond .ge 13, 3) := dk_156 0 13 (dk_at dksJ9_newCapacity_0 20 rfl rfl)
theorem dJ9_newCapacity_23 : decode cJ9_newCapacity 23 = .ok (.new 33, 3) := dk_187 0 33 (dk_at dksJ9_newCapacity_1 0 rfl rfl)
theorem dJ9_newCapacity_26 : decode cJ9_newCapacity 26 = .ok (.dup, 1) := dk_89 (dk_at dksJ9_newCapacity_1 3 rfl rfl)
theorem dJ9_newCapacity_27 : decode cJ9_newCapacity 27 = .ok (.ldc 35, 2) := dk_18 35 (dk_at dksJ9_newCapacity_1 4 rfl rfl)
theorem dJ9_newCapacity_29 : decode cJ9_newCapacity 29 = .ok (.invokespecial 37, 3) := dk_183 0 37 (dk_at dksJ9_newCapacity_1 6 rfl rfl)
theorem dJ9_newCapacity_32 : decode cJ9_newCapacity 32 = .ok (.athrow, 1) := dk_191 (dk_at dksJ9_newCapacity_1 9 rfl rfl)
theorem dJ9_newCapacity_33 : decode cJ9_newCapacity 33 = .ok (.ldc 41, 2) := dk_18 41 (dk_at dksJ9_newCapacity_1 10 rfl rfl)
theorem dJ9_newCapacity_35 : decode cJ9_newCapacity 35 = .ok (.ireturn, 1) := dk_172 (dk_at dksJ9_newCapacity_1 12 rfl rfl)
theorem dJ9_newCapacity_36 : decode cJ9_newCapacity 36 = .ok (.iload_n 1, 1) := dk_27 (dk_at dksJ9_newCapacity_1 13 rfl rfl)
theorem dJ9_newCapacity_37 : decode cJ9_newCapacity 37 = .ok (.iload_n 2, 1) := dk_28 (dk_at dksJ9_newCapacity_1 14 rfl rfl)
theorem dJ9_newCapacity_38 : decode cJ9_newCapacity 38 = .ok (.if_icmp .le 6, 3) := dk_164 0 6 (dk_at dksJ9_newCapacity_1 15 rfl rfl)
theorem dJ9_newCapacity_41 : decode cJ9_newCapacity 41 = .ok (.iload 4, 2) := dk_21 4 (dk_at dksJ9_newCapacity_1 18 rfl rfl)
theorem dJ9_newCapacity_43 : decode cJ9_newCapacity 43 = .ok (.ireturn, 1) := dk_172 (dk_at dksJ9_newCapacity_1 20 rfl rfl)
theorem dJ9_newCapacity_44 : decode cJ9_newCapacity 44 = .ok (.iload_n 3, 1) := dk_29 (dk_at dksJ9_newCapacity_1 21 rfl rfl)
theorem dJ9_newCapacity_45 : decode cJ9_newCapacity 45 = .ok (.iload_n 2, 1) := dk_28 (dk_at dksJ9_newCapacity_1 22 rfl rfl)
theorem dJ9_newCapacity_46 : decode cJ9_newCapacity 46 = .ok (.iadd, 1) := dk_96 (dk_at dksJ9_newCapacity_1 23 rfl rfl)
theorem dJ9_newCapacity_47 : decode cJ9_newCapacity 47 = .ok (.ldc 9, 2) := dk_18 9 (dk_at dksJ9_newCapacity_2 0 rfl rfl)
theorem dJ9_newCapacity_49 : decode cJ9_newCapacity 49 = .ok (.isub, 1) := dk_100 (dk_at dksJ9_newCapacity_2 2 rfl rfl)
theorem dJ9_newCapacity_50 : decode cJ9_newCapacity 50 = .ok (.ifCond .ge 9, 3) := dk_156 0 9 (dk_at dksJ9_newCapacity_2 3 rfl rfl)
theorem dJ9_newCapacity_53 : decode cJ9_newCapacity 53 = .ok (.iload_n 3, 1) := dk_29 (dk_at dksJ9_newCapacity_2 6 rfl rfl)
theorem dJ9_newCapacity_54 : decode cJ9_newCapacity 54 = .ok (.iload_n 2, 1) := dk_28 (dk_at dksJ9_newCapacity_2 7 rfl rfl)
theorem dJ9_newCapacity_55 : decode cJ9_newCapacity 55 = .ok (.iadd, 1) := dk_96 (dk_at dksJ9_newCapacity_2 8 rfl rfl)
theorem dJ9_newCapacity_56 : decode cJ9_newCapacity 56 = .ok (.goto 5, 3) := dk_167 0 5 (dk_at dksJ9_newCapacity_2 9 rfl rfl)
theorem dJ9_newCapacity_59 : decode cJ9_newCapacity 59 = .ok (.ldc 9, 2) := dk_18 9 (dk_at dksJ9_newCapacity_2 12 rfl rfl)
theorem dJ9_newCapacity_61 : decode cJ9_newCapacity 61 = .ok (.ireturn, 1) := dk_172 (dk_at dksJ9_newCapacity_2 14 rfl rfl)
abbrev cJ9_isEmpty : ByteArray := prog_51_method_38_code
def yJ9_isEmpty : MethodName := ⟨RJ9, "isEmpty", "()Z"⟩
def dkwJ9_isEmpty_0 : List UInt8 := [42, 180, 0, 24, 42, 180, 0, 20, 160, 0, 7, 4, 167, 0, 4, 3, 172]
abbrev dktJ9_isEmpty_0 : List UInt8 := dkwJ9_isEmpty_0 ++ []
theorem dksJ9_isEmpty_0 : cJ9_isEmpty.data.toList.drop 0 = dktJ9_isEmpty_0 := by decide +kernel
theorem dJ9_isEmpty_0 : decode cJ9_isEmpty 0 = .ok (.aload_n 0, 1) := dk_42 (dk_at dksJ9_isEmpty_0 0 rfl rfl)
theorem dJ9_isEmpty_1 : decode cJ9_isEmpty 1 = .ok (.getfield 24, 3) := dk_180 0 24 (dk_at dksJ9_isEmpty_0 1 rfl rfl)
theorem dJ9_isEmpty_4 : decode cJ9_isEmpty 4 = .ok (.aload_n 0, 1) := dk_42 (dk_at dksJ9_isEmpty_0 4 rfl rfl)
theorem dJ9_isEmpty_5 : decode cJ9_isEmpty 5 = .ok (.getfield 20, 3) := dk_180 0 20 (dk_at dksJ9_isEmpty_0 5 rfl rfl)
theorem dJ9_isEmpty_8 : decode cJ9_isEmpty 8 = .ok (.if_icmp .ne 7, 3) := dk_160 0 7 (dk_at dksJ9_isEmpty_0 8 rfl rfl)
theorem dJ9_isEmpty_11 : decode cJ9_isEmpty 11 = .ok (.iconst 1, 1) := dk_4 (dk_at dksJ9_isEmpty_0 11 rfl rfl)
theorem dJ9_isEmpty_12 : decode cJ9_isEmpty 12 = .ok (.goto 4, 3) := dk_167 0 4 (dk_at dksJ9_isEmpty_0 12 rfl rfl)
theorem dJ9_isEmpty_15 : decode cJ9_isEmpty 15 = .ok (.iconst 0, 1) := dk_3 (dk_at dksJ9_isEmpty_0 15 rfl rfl)
theorem dJ9_isEmpty_16 : decode cJ9_isEmpty 16 = .ok (.ireturn, 1) := dk_172 (dk_at dksJ9_isEmpty_0 16 rfl rfl)
abbrev cJ9_pop : ByteArray := prog_51_method_35_code
def yJ9_pop : MethodName := ⟨RJ9, "pop", "()Ljava/lang/Object;"⟩
theorem dJ9_pop_0 : decode cJ9_pop 0 = .ok (.aload_n 0, 1) := by decide +kernel
theorem dJ9_pop_1 : decode cJ9_pop 1 = .ok (.invokevirtual 118, 3) := by decide +kernel
theorem dJ9_pop_4 : decode cJ9_pop 4 = .ok (.areturn, 1) := by decide +kernel
abbrev cJ9_removeFirst : ByteArray := prog_51_method_18_code
def yJ9_removeFirst : MethodName := ⟨RJ9, "removeFirst", "()Ljava/lang/Object;"⟩
def dkwJ9_removeFirst_0 : List UInt8 := [42, 182, 0, 93, 76, 43, 199, 0, 11, 187, 0, 97, 89, 183, 0, 99, 191, 43, 176]
abbrev dktJ9_removeFirst_0 : List UInt8 := dkwJ9_removeFirst_0 ++ []
theorem dksJ9_removeFirst_0 : cJ9_removeFirst.data.toList.drop 0 = dktJ9_removeFirst_0 := by decide +kernel
theorem dJ9_removeFirst_0 : decode cJ9_removeFirst 0 = .ok (.aload_n 0, 1) := dk_42 (dk_at dksJ9_removeFirst_0 0 rfl rfl)
theorem dJ9_removeFirst_1 : decode cJ9_removeFirst 1 = .ok (.invokevirtual 93, 3) := dk_182 0 93 (dk_at dksJ9_removeFirst_0 1 rfl rfl)
theorem dJ9_removeFirst_4 : decode cJ9_removeFirst 4 = .ok (.astore_n 1, 1) := dk_76 (dk_at dksJ9_removeFirst_0 4 rfl rfl)
theorem dJ9_removeFirst_5 : decode cJ9_removeFirst 5 = .ok (.aload_n 1, 1) := dk_43 (dk_at dksJ9_removeFirst_0 5 rfl rfl)
theorem dJ9_removeFirst_6 : decode cJ9_removeFirst 6 = .ok (.ifnonnull 11, 3) := dk_199 0 11 (dk_at dksJ9_removeFirst_0 6 rfl rfl)
theorem dJ9_removeFirst_9 : decode cJ9_removeFirst 9 = .ok (.new 97, 3) := dk_187 0 97 (dk_at dksJ9_removeFirst_0 9 rfl rfl)
theorem dJ9_removeFirst_12 : decode cJ9_removeFirst 12 = .ok (.dup, 1) := dk_89 (dk_at dksJ9_removeFirst_0 12 rfl rfl)
theorem dJ9_removeFirst_13 : decode cJ9_removeFirst 13 = .ok (.invokespecial 99, 3) := dk_183 0 99 (dk_at dksJ9_removeFirst_0 13 rfl rfl)
theorem dJ9_removeFirst_16 : decode cJ9_removeFirst 16 = .ok (.athrow, 1) := dk_191 (dk_at dksJ9_removeFirst_0 16 rfl rfl)
theorem dJ9_removeFirst_17 : decode cJ9_removeFirst 17 = .ok (.aload_n 1, 1) := dk_43 (dk_at dksJ9_removeFirst_0 17 rfl rfl)
theorem dJ9_removeFirst_18 : decode cJ9_removeFirst 18 = .ok (.areturn, 1) := dk_176 (dk_at dksJ9_removeFirst_0 18 rfl rfl)
abbrev cJ9_pollFirst : ByteArray := prog_51_method_20_code
def yJ9_pollFirst : MethodName := ⟨RJ9, "pollFirst", "()Ljava/lang/Object;"⟩
def dkwJ9_pollFirst_1 : List UInt8 := [42, 28, 43, 190, 184, 0, 74, 181, 0, 24, 45, 176]
abbrev dktJ9_pollFirst_1 : List UInt8 := dkwJ9_pollFirst_1 ++ []
def dkwJ9_pollFirst_0 : List UInt8 := [42, 180, 0, 3, 89, 76, 42, 180, 0, 24, 89, 61, 184, 0, 103, 78, 45, 198, 0, 17, 43, 28, 1, 83]
abbrev dktJ9_pollFirst_0 : List UInt8 := dkwJ9_pollFirst_0 ++ dktJ9_pollFirst_1
theorem dksJ9_pollFirst_0 : cJ9_pollFirst.data.toList.drop 0 = dktJ9_pollFirst_0 := by decide +kernel
theorem dksJ9_pollFirst_1 : cJ9_pollFirst.data.toList.drop 24 = dktJ9_pollFirst_1 := dk_seg dksJ9_pollFirst_0 24 rfl rfl
theorem dJ9_pollFirst_0 : decode cJ9_pollFirst 0 = .ok (.aload_n 0, 1) := dk_42 (dk_at dksJ9_pollFirst_0 0 rfl rfl)
theorem dJ9_pollFirst_1 : decode cJ9_pollFirst 1 = .ok (.getfield 3, 3) := dk_180 0 3 (dk_at dksJ9_pollFirst_0 1 rfl rfl)
theorem dJ9_pollFirst_4 : decode cJ9_pollFirst 4 = .ok (.dup, 1) := dk_89 (dk_at dksJ9_pollFirst_0 4 rfl rfl)
theorem dJ9_pollFirst_5 : decode cJ9_pollFirst 5 = .ok (.astore_n 1, 1) := dk_76 (dk_at dksJ9_pollFirst_0 5 rfl rfl)
theorem dJ9_pollFirst_6 : decode cJ9_pollFirst 6 = .ok (.aload_n 0, 1) := dk_42 (dk_at dksJ9_pollFirst_0 6 rfl rfl)
theorem dJ9_pollFirst_7 : decode cJ9_pollFirst 7 = .ok (.getfield 24, 3) := dk_180 0 24 (dk_at dksJ9_pollFirst_0 7 rfl rfl)
theorem dJ9_pollFirst_10 : decode cJ9_pollFirst 10 = .ok (.dup, 1) := dk_89 (dk_at dksJ9_pollFirst_0 10 rfl rfl)
theorem dJ9_pollFirst_11 : decode cJ9_pollFirst 11 = .ok (.istore_n 2, 1) := dk_61 (dk_at dksJ9_pollFirst_0 11 rfl rfl)
theorem dJ9_pollFirst_12 : decode cJ9_pollFirst 12 = .ok (.invokestatic 103, 3) := dk_184 0 103 (dk_at dksJ9_pollFirst_0 12 rfl rfl)
theorem dJ9_pollFirst_15 : decode cJ9_pollFirst 15 = .ok (.astore_n 3, 1) := dk_78 (dk_at dksJ9_pollFirst_0 15 rfl rfl)
theorem dJ9_pollFirst_16 : decode cJ9_pollFirst 16 = .ok (.aload_n 3, 1) := dk_45 (dk_at dksJ9_pollFirst_0 16 rfl rfl)
theorem dJ9_pollFirst_17 : decode cJ9_pollFirst 17 = .ok (.ifnull 17, 3) := dk_198 0 17 (dk_at dksJ9_pollFirst_0 17 rfl rfl)
theorem dJ9_pollFirst_20 : decode cJ9_pollFirst 20 = .ok (.aload_n 1, 1) := dk_43 (dk_at dksJ9_pollFirst_0 20 rfl rfl)
theorem dJ9_pollFirst_21 : decode cJ9_pollFirst 21 = .ok (.iload_n 2, 1) := dk_28 (dk_at dksJ9_pollFirst_0 21 rfl rfl)
theorem dJ9_pollFirst_22 : decode cJ9_pollFirst 22 = .ok (.aconst_null, 1) := dk_1 (dk_at dksJ9_pollFirst_0 22 rfl rfl)
theorem dJ9_pollFirst_23 : decode cJ9_pollFirst 23 = .ok (.aastore, 1) := dk_83 (dk_at dksJ9_pollFirst_0 23 rfl rfl)
theorem dJ9_pollFirst_24 : decode cJ9_pollFirst 24 = .ok (.aload_n 0, 1) := dk_42 (dk_at dksJ9_pollFirst_1 0 rfl rfl)
theorem dJ9_pollFirst_25 : decode cJ9_pollFirst 25 = .ok (.iload_n 2, 1) := dk_28 (dk_at dksJ9_pollFirst_1 1 rfl rfl)
theorem dJ9_pollFirst_26 : decode cJ9_pollFirst 26 = .ok (.aload_n 1, 1) := dk_43 (dk_at dksJ9_pollFirst_1 2 rfl rfl)
theorem dJ9_pollFirst_27 : decode cJ9_pollFirst 27 = .ok (.arraylength, 1) := dk_190 (dk_at dksJ9_pollFirst_1 3 rfl rfl)
theorem dJ9_pollFirst_28 : decode cJ9_pollFirst 28 = .ok (.invokestatic 74, 3) := dk_184 0 74 (dk_at dksJ9_pollFirst_1 4 rfl rfl)
theorem dJ9_pollFirst_31 : decode cJ9_pollFirst 31 = .ok (.putfield 24, 3) := dk_181 0 24 (dk_at dksJ9_pollFirst_1 7 rfl rfl)
theorem dJ9_pollFirst_34 : decode cJ9_pollFirst 34 = .ok (.aload_n 3, 1) := dk_45 (dk_at dksJ9_pollFirst_1 10 rfl rfl)
theorem dJ9_pollFirst_35 : decode cJ9_pollFirst 35 = .ok (.areturn, 1) := dk_176 (dk_at dksJ9_pollFirst_1 11 rfl rfl)
abbrev cJ9_inc : ByteArray := prog_51_method_6_code
def yJ9_inc : MethodName := ⟨RJ9, "inc", "(II)I"⟩
def dkwJ9_inc_0 : List UInt8 := [132, 0, 1, 26, 27, 161, 0, 5, 3, 59, 26, 172]
abbrev dktJ9_inc_0 : List UInt8 := dkwJ9_inc_0 ++ []
theorem dksJ9_inc_0 : cJ9_inc.data.toList.drop 0 = dktJ9_inc_0 := by decide +kernel
theorem dJ9_inc_0 : decode cJ9_inc 0 = .ok (.iinc 0 1, 3) := dk_132 0 1 (dk_at dksJ9_inc_0 0 rfl rfl)
theorem dJ9_inc_3 : decode cJ9_inc 3 = .ok (.iload_n 0, 1) := dk_26 (dk_at dksJ9_inc_0 3 rfl rfl)
theorem dJ9_inc_4 : decode cJ9_inc 4 = .ok (.iload_n 1, 1) := dk_27 (dk_at dksJ9_inc_0 4 rfl rfl)
theorem dJ9_inc_5 : decode cJ9_inc 5 = .ok (.if_icmp .lt 5, 3) := dk_161 0 5 (dk_at dksJ9_inc_0 5 rfl rfl)
theorem dJ9_inc_8 : decode cJ9_inc 8 = .ok (.iconst 0, 1) := dk_3 (dk_at dksJ9_inc_0 8 rfl rfl)
theorem dJ9_inc_9 : decode cJ9_inc 9 = .ok (.istore_n 0, 1) := dk_59 (dk_at dksJ9_inc_0 9 rfl rfl)
theorem dJ9_inc_10 : decode cJ9_inc 10 = .ok (.iload_n 0, 1) := dk_26 (dk_at dksJ9_inc_0 10 rfl rfl)
theorem dJ9_inc_11 : decode cJ9_inc 11 = .ok (.ireturn, 1) := dk_172 (dk_at dksJ9_inc_0 11 rfl rfl)
abbrev cJ9_clear : ByteArray := prog_51_method_53_code
def yJ9_clear : MethodName := ⟨RJ9, "clear", "()V"⟩
def dkwJ9_clear_1 : List UInt8 := [181, 0, 24, 177]
abbrev dktJ9_clear_1 : List UInt8 := dkwJ9_clear_1 ++ []
def dkwJ9_clear_0 : List UInt8 := [42, 180, 0, 3, 42, 180, 0, 24, 42, 180, 0, 20, 184, 0, 181, 42, 42, 3, 90, 181, 0, 20]
abbrev dktJ9_clear_0 : List UInt8 := dkwJ9_clear_0 ++ dktJ9_clear_1
theorem dksJ9_clear_0 : cJ9_clear.data.toList.drop 0 = dktJ9_clear_0 := by decide +kernel
theorem dksJ9_clear_1 : cJ9_clear.data.toList.drop 22 = dktJ9_clear_1 := dk_seg dksJ9_clear_0 22 rfl rfl
theorem dJ9_clear_0 : decode cJ9_clear 0 = .ok (.aload_n 0, 1) := dk_42 (dk_at dksJ9_clear_0 0 rfl rfl)
theorem dJ9_clear_1 : decode cJ9_clear 1 = .ok (.getfield 3, 3) := dk_180 0 3 (dk_at dksJ9_clear_0 1 rfl rfl)
theorem dJ9_clear_4 : decode cJ9_clear 4 = .ok (.aload_n 0, 1) := dk_42 (dk_at dksJ9_clear_0 4 rfl rfl)
theorem dJ9_clear_5 : decode cJ9_clear 5 = .ok (.getfield 24, 3) := dk_180 0 24 (dk_at dksJ9_clear_0 5 rfl rfl)
theorem dJ9_clear_8 : decode cJ9_clear 8 = .ok (.aload_n 0, 1) := dk_42 (dk_at dksJ9_clear_0 8 rfl rfl)
theorem dJ9_clear_9 : decode cJ9_clear 9 = .ok (.getfield 20, 3) := dk_180 0 20 (dk_at dksJ9_clear_0 9 rfl rfl)
theorem dJ9_clear_12 : decode cJ9_clear 12 = .ok (.invokestatic 181, 3) := dk_184 0 181 (dk_at dksJ9_clear_0 12 rfl rfl)
theorem dJ9_clear_15 : decode cJ9_clear 15 = .ok (.aload_n 0, 1) := dk_42 (dk_at dksJ9_clear_0 15 rfl rfl)
theorem dJ9_clear_16 : decode cJ9_clear 16 = .ok (.aload_n 0, 1) := dk_42 (dk_at dksJ9_clear_0 16 rfl rfl)
theorem dJ9_clear_17 : decode cJ9_clear 17 = .ok (.iconst 0, 1) := dk_3 (dk_at dksJ9_clear_0 17 rfl rfl)
theorem dJ9_clear_18 : decode cJ9_clear 18 = .ok (.dup_x1, 1) := dk_90 (dk_at dksJ9_clear_0 18 rfl rfl)
theorem dJ9_clear_19 : decode cJ9_clear 19 = .ok (.putfield 20, 3) := dk_181 0 20 (dk_at dksJ9_clear_0 19 rfl rfl)
theorem dJ9_clear_22 : decode cJ9_clear 22 = .ok (.putfield 24, 3) := dk_181 0 24 (dk_at dksJ9_clear_1 0 rfl rfl)
theorem dJ9_clear_25 : decode cJ9_clear 25 = .ok (.return_, 1) := dk_177 (dk_at dksJ9_clear_1 3 rfl rfl)
abbrev cJ9_circularClear : ByteArray := prog_51_method_54_code
def yJ9_circularClear : MethodName := ⟨RJ9, "circularClear", "([Ljava/lang/Object;II)V"⟩
def dkwJ9_circularClear_1 : List UInt8 := [167, 255, 244, 29, 28, 160, 0, 6, 167, 0, 10, 3, 60, 28, 62, 167, 255, 229, 177]
abbrev dktJ9_circularClear_1 : List UInt8 := dkwJ9_circularClear_1 ++ []
def dkwJ9_circularClear_0 : List UInt8 := [27, 28, 163, 0, 7, 28, 167, 0, 5, 42, 190, 62, 27, 29, 162, 0, 13, 42, 27, 1, 83, 132, 1, 1]
abbrev dktJ9_circularClear_0 : List UInt8 := dkwJ9_circularClear_0 ++ dktJ9_circularClear_1
theorem dksJ9_circularClear_0 : cJ9_circularClear.data.toList.drop 0 = dktJ9_circularClear_0 := by decide +kernel
theorem dksJ9_circularClear_1 : cJ9_circularClear.data.toList.drop 24 = dktJ9_circularClear_1 := dk_seg dksJ9_circularClear_0 24 rfl rfl
theorem dJ9_circularClear_0 : decode cJ9_circularClear 0 = .ok (.iload_n 1, 1) := dk_27 (dk_at dksJ9_circularClear_0 0 rfl rfl)
theorem dJ9_circularClear_1 : decode cJ9_circularClear 1 = .ok (.iload_n 2, 1) := dk_28 (dk_at dksJ9_circularClear_0 1 rfl rfl)
theorem dJ9_circularClear_2 : decode cJ9_circularClear 2 = .ok (.if_icmp .gt 7, 3) := dk_163 0 7 (dk_at dksJ9_circularClear_0 2 rfl rfl)
theorem dJ9_circularClear_5 : decode cJ9_circularClear 5 = .ok (.iload_n 2, 1) := dk_28 (dk_at dksJ9_circularClear_0 5 rfl rfl)
theorem dJ9_circularClear_6 : decode cJ9_circularClear 6 = .ok (.goto 5, 3) := dk_167 0 5 (dk_at dksJ9_circularClear_0 6 rfl rfl)
theorem dJ9_circularClear_9 : decode cJ9_circularClear 9 = .ok (.aload_n 0, 1) := dk_42 (dk_at dksJ9_circularClear_0 9 rfl rfl)
theorem dJ9_circularClear_10 : decode cJ9_circularClear 10 = .ok (.arraylength, 1) := dk_190 (dk_at dksJ9_circularClear_0 10 rfl rfl)
theorem dJ9_circularClear_11 : decode cJ9_circularClear 11 = .ok (.istore_n 3, 1) := dk_62 (dk_at dksJ9_circularClear_0 11 rfl rfl)
theorem dJ9_circularClear_12 : decode cJ9_circularClear 12 = .ok (.iload_n 1, 1) := dk_27 (dk_at dksJ9_circularClear_0 12 rfl rfl)
theorem dJ9_circularClear_13 : decode cJ9_circularClear 13 = .ok (.iload_n 3, 1) := dk_29 (dk_at dksJ9_circularClear_0 13 rfl rfl)
theorem dJ9_circularClear_14 : decode cJ9_circularClear 14 = .ok (.if_icmp .ge 13, 3) := dk_162 0 13 (dk_at dksJ9_circularClear_0 14 rfl rfl)
theorem dJ9_circularClear_17 : decode cJ9_circularClear 17 = .ok (.aload_n 0, 1) := dk_42 (dk_at dksJ9_circularClear_0 17 rfl rfl)
theorem dJ9_circularClear_18 : decode cJ9_circularClear 18 = .ok (.iload_n 1, 1) := dk_27 (dk_at dksJ9_circularClear_0 18 rfl rfl)
theorem dJ9_circularClear_19 : decode cJ9_circularClear 19 = .ok (.aconst_null, 1) := dk_1 (dk_at dksJ9_circularClear_0 19 rfl rfl)
theorem dJ9_circularClear_20 : decode cJ9_circularClear 20 = .ok (.aastore, 1) := dk_83 (dk_at dksJ9_circularClear_0 20 rfl rfl)
theorem dJ9_circularClear_21 : decode cJ9_circularClear 21 = .ok (.iinc 1 1, 3) := dk_132 1 1 (dk_at dksJ9_circularClear_0 21 rfl rfl)
theorem dJ9_circularClear_24 : decode cJ9_circularClear 24 = .ok (.goto (-12), 3) := dk_167 255 244 (dk_at dksJ9_circularClear_1 0 rfl rfl)
theorem dJ9_circularClear_27 : decode cJ9_circularClear 27 = .ok (.iload_n 3, 1) := dk_29 (dk_at dksJ9_circularClear_1 3 rfl rfl)
theorem dJ9_circularClear_28 : decode cJ9_circularClear 28 = .ok (.iload_n 2, 1) := dk_28 (dk_at dksJ9_circularClear_1 4 rfl rfl)
theorem dJ9_circularClear_29 : decode cJ9_circularClear 29 = .ok (.if_icmp .ne 6, 3) := dk_160 0 6 (dk_at dksJ9_circularClear_1 5 rfl rfl)
theorem dJ9_circularClear_32 : decode cJ9_circularClear 32 = .ok (.goto 10, 3) := dk_167 0 10 (dk_at dksJ9_circularClear_1 8 rfl rfl)
theorem dJ9_circularClear_35 : decode cJ9_circularClear 35 = .ok (.iconst 0, 1) := dk_3 (dk_at dksJ9_circularClear_1 11 rfl rfl)
theorem dJ9_circularClear_36 : decode cJ9_circularClear 36 = .ok (.istore_n 1, 1) := dk_60 (dk_at dksJ9_circularClear_1 12 rfl rfl)
theorem dJ9_circularClear_37 : decode cJ9_circularClear 37 = .ok (.iload_n 2, 1) := dk_28 (dk_at dksJ9_circularClear_1 13 rfl rfl)
theorem dJ9_circularClear_38 : decode cJ9_circularClear 38 = .ok (.istore_n 3, 1) := dk_62 (dk_at dksJ9_circularClear_1 14 rfl rfl)
theorem dJ9_circularClear_39 : decode cJ9_circularClear 39 = .ok (.goto (-27), 3) := dk_167 255 229 (dk_at dksJ9_circularClear_1 15 rfl rfl)
theorem dJ9_circularClear_42 : decode cJ9_circularClear 42 = .ok (.return_, 1) := dk_177 (dk_at dksJ9_circularClear_1 18 rfl rfl)
abbrev cJ10_init : ByteArray := prog_79_method_1_code
def yJ10_init : MethodName := ⟨RJ10, "<init>", "(Ljava/util/NavigableMap;)V"⟩
def dkwJ10_init_0 : List UInt8 := [42, 183, 0, 1, 42, 43, 181, 0, 7, 177]
abbrev dktJ10_init_0 : List UInt8 := dkwJ10_init_0 ++ []
theorem dksJ10_init_0 : cJ10_init.data.toList.drop 0 = dktJ10_init_0 := by decide +kernel
theorem dJ10_init_0 : decode cJ10_init 0 = .ok (.aload_n 0, 1) := dk_42 (dk_at dksJ10_init_0 0 rfl rfl)
theorem dJ10_init_1 : decode cJ10_init 1 = .ok (.invokespecial 1, 3) := dk_183 0 1 (dk_at dksJ10_init_0 1 rfl rfl)
theorem dJ10_init_4 : decode cJ10_init 4 = .ok (.aload_n 0, 1) := dk_42 (dk_at dksJ10_init_0 4 rfl rfl)
theorem dJ10_init_5 : decode cJ10_init 5 = .ok (.aload_n 1, 1) := dk_43 (dk_at dksJ10_init_0 5 rfl rfl)
theorem dJ10_init_6 : decode cJ10_init 6 = .ok (.putfield 7, 3) := dk_181 0 7 (dk_at dksJ10_init_0 6 rfl rfl)
theorem dJ10_init_9 : decode cJ10_init 9 = .ok (.return_, 1) := dk_177 (dk_at dksJ10_init_0 9 rfl rfl)
abbrev cJ10_iterator : ByteArray := prog_79_method_2_code
def yJ10_iterator : MethodName := ⟨RJ10, "iterator", "()Ljava/util/Iterator;"⟩
def dkwJ10_iterator_1 : List UInt8 := [180, 0, 7, 192, 0, 19, 182, 0, 21, 176]
abbrev dktJ10_iterator_1 : List UInt8 := dkwJ10_iterator_1 ++ []
def dkwJ10_iterator_0 : List UInt8 := [42, 180, 0, 7, 193, 0, 13, 153, 0, 14, 42, 180, 0, 7, 192, 0, 13, 182, 0, 15, 176, 42]
abbrev dktJ10_iterator_0 : List UInt8 := dkwJ10_iterator_0 ++ dktJ10_iterator_1
theorem dksJ10_iterator_0 : cJ10_iterator.data.toList.drop 0 = dktJ10_iterator_0 := by decide +kernel
theorem dksJ10_iterator_1 : cJ10_iterator.data.toList.drop 22 = dktJ10_iterator_1 := dk_seg dksJ10_iterator_0 22 rfl rfl
theorem dJ10_iterator_0 : decode cJ10_iterator 0 = .ok (.aload_n 0, 1) := dk_42 (dk_at dksJ10_iterator_0 0 rfl rfl)
theorem dJ10_iterator_1 : decode cJ10_iterator 1 = .ok (.getfield 7, 3) := dk_180 0 7 (dk_at dksJ10_iterator_0 1 rfl rfl)
theorem dJ10_iterator_4 : decode cJ10_iterator 4 = .ok (.instanceof 13, 3) := dk_193 0 13 (dk_at dksJ10_iterator_0 4 rfl rfl)
theorem dJ10_iterator_7 : decode cJ10_iterator 7 = .ok (.ifCond .eq 14, 3) := dk_153 0 14 (dk_at dksJ10_iterator_0 7 rfl rfl)
theorem dJ10_iterator_10 : decode cJ10_iterator 10 = .ok (.aload_n 0, 1) := dk_42 (dk_at dksJ10_iterator_0 10 rfl rfl)
theorem dJ10_iterator_11 : decode cJ10_iterator 11 = .ok (.getfield 7, 3) := dk_180 0 7 (dk_at dksJ10_iterator_0 11 rfl rfl)
theorem dJ10_iterator_14 : decode cJ10_iterator 14 = .ok (.checkcast 13, 3) := dk_192 0 13 (dk_at dksJ10_iterator_0 14 rfl rfl)
theorem dJ10_iterator_17 : decode cJ10_iterator 17 = .ok (.invokevirtual 15, 3) := dk_182 0 15 (dk_at dksJ10_iterator_0 17 rfl rfl)
theorem dJ10_iterator_20 : decode cJ10_iterator 20 = .ok (.areturn, 1) := dk_176 (dk_at dksJ10_iterator_0 20 rfl rfl)
theorem dJ10_iterator_21 : decode cJ10_iterator 21 = .ok (.aload_n 0, 1) := dk_42 (dk_at dksJ10_iterator_0 21 rfl rfl)
theorem dJ10_iterator_22 : decode cJ10_iterator 22 = .ok (.getfield 7, 3) := dk_180 0 7 (dk_at dksJ10_iterator_1 0 rfl rfl)
theorem dJ10_iterator_25 : decode cJ10_iterator 25 = .ok (.checkcast 19, 3) := dk_192 0 19 (dk_at dksJ10_iterator_1 3 rfl rfl)
theorem dJ10_iterator_28 : decode cJ10_iterator 28 = .ok (.invokevirtual 21, 3) := dk_182 0 21 (dk_at dksJ10_iterator_1 6 rfl rfl)
theorem dJ10_iterator_31 : decode cJ10_iterator 31 = .ok (.areturn, 1) := dk_176 (dk_at dksJ10_iterator_1 9 rfl rfl)
abbrev cJ11_init : ByteArray := prog_81_method_1_code
def yJ11_init : MethodName := ⟨RJ11, "<init>", "(Ljava/util/TreeMap;Ljava/util/TreeMap$Entry;)V"⟩
def dkwJ11_init_1 : List UInt8 := [181, 0, 26, 177]
abbrev dktJ11_init_1 : List UInt8 := dkwJ11_init_1 ++ []
def dkwJ11_init_0 : List UInt8 := [42, 43, 181, 0, 1, 42, 183, 0, 7, 42, 43, 180, 0, 13, 181, 0, 19, 42, 1, 181, 0, 22, 42, 44]
abbrev dktJ11_init_0 : List UInt8 := dkwJ11_init_0 ++ dktJ11_init_1
theorem dksJ11_init_0 : cJ11_init.data.toList.drop 0 = dktJ11_init_0 := by decide +kernel
theorem dksJ11_init_1 : cJ11_init.data.toList.drop 24 = dktJ11_init_1 := dk_seg dksJ11_init_0 24 rfl rfl
theorem dJ11_init_0 : decode cJ11_init 0 = .ok (.aload_n 0, 1) := dk_42 (dk_at dksJ11_init_0 0 rfl rfl)
theorem dJ11_init_1 : decode cJ11_init 1 = .ok (.aload_n 1, 1) := dk_43 (dk_at dksJ11_init_0 1 rfl rfl)
theorem dJ11_init_2 : decode cJ11_init 2 = .ok (.putfield 1, 3) := dk_181 0 1 (dk_at dksJ11_init_0 2 rfl rfl)
theorem dJ11_init_5 : decode cJ11_init 5 = .ok (.aload_n 0, 1) := dk_42 (dk_at dksJ11_init_0 5 rfl rfl)
theorem dJ11_init_6 : decode cJ11_init 6 = .ok (.invokespecial 7, 3) := dk_183 0 7 (dk_at dksJ11_init_0 6 rfl rfl)
theorem dJ11_init_9 : decode cJ11_init 9 = .ok (.aload_n 0, 1) := dk_42 (dk_at dksJ11_init_0 9 rfl rfl)
theorem dJ11_init_10 : decode cJ11_init 10 = .ok (.aload_n 1, 1) := dk_43 (dk_at dksJ11_init_0 10 rfl rfl)
theorem dJ11_init_11 : decode cJ11_init 11 = .ok (.getfield 13, 3) := dk_180 0 13 (dk_at dksJ11_init_0 11 rfl rfl)
theorem dJ11_init_14 : decode cJ11_init 14 = .ok (.putfield 19, 3) := dk_181 0 19 (dk_at dksJ11_init_0 14 rfl rfl)
theorem dJ11_init_17 : decode cJ11_init 17 = .ok (.aload_n 0, 1) := dk_42 (dk_at dksJ11_init_0 17 rfl rfl)
theorem dJ11_init_18 : decode cJ11_init 18 = .ok (.aconst_null, 1) := dk_1 (dk_at dksJ11_init_0 18 rfl rfl)
theorem dJ11_init_19 : decode cJ11_init 19 = .ok (.putfield 22, 3) := dk_181 0 22 (dk_at dksJ11_init_0 19 rfl rfl)
theorem dJ11_init_22 : decode cJ11_init 22 = .ok (.aload_n 0, 1) := dk_42 (dk_at dksJ11_init_0 22 rfl rfl)
theorem dJ11_init_23 : decode cJ11_init 23 = .ok (.aload_n 2, 1) := dk_44 (dk_at dksJ11_init_0 23 rfl rfl)
theorem dJ11_init_24 : decode cJ11_init 24 = .ok (.putfield 26, 3) := dk_181 0 26 (dk_at dksJ11_init_1 0 rfl rfl)
theorem dJ11_init_27 : decode cJ11_init 27 = .ok (.return_, 1) := dk_177 (dk_at dksJ11_init_1 3 rfl rfl)
abbrev cJ11_hasNext : ByteArray := prog_81_method_2_code
def yJ11_hasNext : MethodName := ⟨RJ11, "hasNext", "()Z"⟩
def dkwJ11_hasNext_0 : List UInt8 := [42, 180, 0, 26, 198, 0, 7, 4, 167, 0, 4, 3, 172]
abbrev dktJ11_hasNext_0 : List UInt8 := dkwJ11_hasNext_0 ++ []
theorem dksJ11_hasNext_0 : cJ11_hasNext.data.toList.drop 0 = dktJ11_hasNext_0 := by decide +kernel
theorem dJ11_hasNext_0 : decode cJ11_hasNext 0 = .ok (.aload_n 0, 1) := dk_42 (dk_at dksJ11_hasNext_0 0 rfl rfl)
theorem dJ11_hasNext_1 : decode cJ11_hasNext 1 = .ok (.getfield 26, 3) := dk_180 0 26 (dk_at dksJ11_hasNext_0 1 rfl rfl)
theorem dJ11_hasNext_4 : decode cJ11_hasNext 4 = .ok (.ifnull 7, 3) := dk_198 0 7 (dk_at dksJ11_hasNext_0 4 rfl rfl)
theorem dJ11_hasNext_7 : decode cJ11_hasNext 7 = .ok (.iconst 1, 1) := dk_4 (dk_at dksJ11_hasNext_0 7 rfl rfl)
theorem dJ11_hasNext_8 : decode cJ11_hasNext 8 = .ok (.goto 4, 3) := dk_167 0 4 (dk_at dksJ11_hasNext_0 8 rfl rfl)
theorem dJ11_hasNext_11 : decode cJ11_hasNext 11 = .ok (.iconst 0, 1) := dk_3 (dk_at dksJ11_hasNext_0 11 rfl rfl)
theorem dJ11_hasNext_12 : decode cJ11_hasNext 12 = .ok (.ireturn, 1) := dk_172 (dk_at dksJ11_hasNext_0 12 rfl rfl)
abbrev cJ11_nextEntry : ByteArray := prog_81_method_3_code
def yJ11_nextEntry : MethodName := ⟨RJ11, "nextEntry", "()Ljava/util/TreeMap$Entry;"⟩
def dkwJ11_nextEntry_2 : List UInt8 := [43, 181, 0, 22, 43, 176]
abbrev dktJ11_nextEntry_2 : List UInt8 := dkwJ11_nextEntry_2 ++ []
def dkwJ11_nextEntry_1 : List UInt8 := [42, 180, 0, 19, 159, 0, 11, 187, 0, 32, 89, 183, 0, 34, 191, 42, 43, 184, 0, 35, 181, 0, 26, 42]
abbrev dktJ11_nextEntry_1 : List UInt8 := dkwJ11_nextEntry_1 ++ dktJ11_nextEntry_2
def dkwJ11_nextEntry_0 : List UInt8 := [42, 180, 0, 26, 76, 43, 199, 0, 11, 187, 0, 29, 89, 183, 0, 31, 191, 42, 180, 0, 1, 180, 0, 13]
abbrev dktJ11_nextEntry_0 : List UInt8 := dkwJ11_nextEntry_0 ++ dktJ11_nextEntry_1
theorem dksJ11_nextEntry_0 : cJ11_nextEntry.data.toList.drop 0 = dktJ11_nextEntry_0 := by decide +kernel
theorem dksJ11_nextEntry_1 : cJ11_nextEntry.data.toList.drop 24 = dktJ11_nextEntry_1 := dk_seg dksJ11_nextEntry_0 24 rfl rfl
theorem dksJ11_nextEntry_2 : cJ11_nextEntry.data.toList.drop 48 = dktJ11_nextEntry_2 := dk_seg dksJ11_nextEntry_1 24 rfl rfl
theorem dJ11_nextEntry_0 : decode cJ11_nextEntry 0 = .ok (.aload_n 0, 1) := dk_42 (dk_at dksJ11_nextEntry_0 0 rfl rfl)
theorem dJ11_nextEntry_1 : decode cJ11_nextEntry 1 = .ok (.getfield 26, 3) := dk_180 0 26 (dk_at dksJ11_nextEntry_0 1 rfl rfl)
theorem dJ11_nextEntry_4 : decode cJ11_nextEntry 4 = .ok (.astore_n 1, 1) := dk_76 (dk_at dksJ11_nextEntry_0 4 rfl rfl)
theorem dJ11_nextEntry_5 : decode cJ11_nextEntry 5 = .ok (.aload_n 1, 1) := dk_43 (dk_at dksJ11_nextEntry_0 5 rfl rfl)
theorem dJ11_nextEntry_6 : decode cJ11_nextEntry 6 = .ok (.ifnonnull 11, 3) := dk_199 0 11 (dk_at dksJ11_nextEntry_0 6 rfl rfl)
theorem dJ11_nextEntry_9 : decode cJ11_nextEntry 9 = .ok (.new 29, 3) := dk_187 0 29 (dk_at dksJ11_nextEntry_0 9 rfl rfl)
theorem dJ11_nextEntry_12 : decode cJ11_nextEntry 12 = .ok (.dup, 1) := dk_89 (dk_at dksJ11_nextEntry_0 12 rfl rfl)
theorem dJ11_nextEntry_13 : decode cJ11_nextEntry 13 = .ok (.invokespecial 31, 3) := dk_183 0 31 (dk_at dksJ11_nextEntry_0 13 rfl rfl)
theorem dJ11_nextEntry_16 : decode cJ11_nextEntry 16 = .ok (.athrow, 1) := dk_191 (dk_at dksJ11_nextEntry_0 16 rfl rfl)
theorem dJ11_nextEntry_17 : decode cJ11_nextEntry 17 = .ok (.aload_n 0, 1) := dk_42 (dk_at dksJ11_nextEntry_0 17 rfl rfl)
theorem dJ11_nextEntry_18 : decode cJ11_nextEntry 18 = .ok (.getfield 1, 3) := dk_180 0 1 (dk_at dksJ11_nextEntry_0 18 rfl rfl)
theorem dJ11_nextEntry_21 : decode cJ11_nextEntry 21 = .ok (.getfield 13, 3) := dk_180 0 13 (dk_at dksJ11_nextEntry_0 21 rfl rfl)
theorem dJ11_nextEntry_24 : decode cJ11_nextEntry 24 = .ok (.aload_n 0, 1) := dk_42 (dk_at dksJ11_nextEntry_1 0 rfl rfl)
theorem dJ11_nextEntry_25 : decode cJ11_nextEntry 25 = .ok (.getfield 19, 3) := dk_180 0 19 (dk_at dksJ11_nextEntry_1 1 rfl rfl)
theorem dJ11_nextEntry_28 : decode cJ11_nextEntry 28 = .ok (.if_icmp .eq 11, 3) := dk_159 0 11 (dk_at dksJ11_nextEntry_1 4 rfl rfl)
theorem dJ11_nextEntry_31 : decode cJ11_nextEntry 31 = .ok (.new 32, 3) := dk_187 0 32 (dk_at dksJ11_nextEntry_1 7 rfl rfl)
theorem dJ11_nextEntry_34 : decode cJ11_nextEntry 34 = .ok (.dup, 1) := dk_89 (dk_at dksJ11_nextEntry_1 10 rfl rfl)
theorem dJ11_nextEntry_35 : decode cJ11_nextEntry 35 = .ok (.invokespecial 34, 3) := dk_183 0 34 (dk_at dksJ11_nextEntry_1 11 rfl rfl)
theorem dJ11_nextEntry_38 : decode cJ11_nextEntry 38 = .ok (.athrow, 1) := dk_191 (dk_at dksJ11_nextEntry_1 14 rfl rfl)
theorem dJ11_nextEntry_39 : decode cJ11_nextEntry 39 = .ok (.aload_n 0, 1) := dk_42 (dk_at dksJ11_nextEntry_1 15 rfl rfl)
theorem dJ11_nextEntry_40 : decode cJ11_nextEntry 40 = .ok (.aload_n 1, 1) := dk_43 (dk_at dksJ11_nextEntry_1 16 rfl rfl)
theorem dJ11_nextEntry_41 : decode cJ11_nextEntry 41 = .ok (.invokestatic 35, 3) := dk_184 0 35 (dk_at dksJ11_nextEntry_1 17 rfl rfl)
theorem dJ11_nextEntry_44 : decode cJ11_nextEntry 44 = .ok (.putfield 26, 3) := dk_181 0 26 (dk_at dksJ11_nextEntry_1 20 rfl rfl)
theorem dJ11_nextEntry_47 : decode cJ11_nextEntry 47 = .ok (.aload_n 0, 1) := dk_42 (dk_at dksJ11_nextEntry_1 23 rfl rfl)
theorem dJ11_nextEntry_48 : decode cJ11_nextEntry 48 = .ok (.aload_n 1, 1) := dk_43 (dk_at dksJ11_nextEntry_2 0 rfl rfl)
theorem dJ11_nextEntry_49 : decode cJ11_nextEntry 49 = .ok (.putfield 22, 3) := dk_181 0 22 (dk_at dksJ11_nextEntry_2 1 rfl rfl)
theorem dJ11_nextEntry_52 : decode cJ11_nextEntry 52 = .ok (.aload_n 1, 1) := dk_43 (dk_at dksJ11_nextEntry_2 4 rfl rfl)
theorem dJ11_nextEntry_53 : decode cJ11_nextEntry 53 = .ok (.areturn, 1) := dk_176 (dk_at dksJ11_nextEntry_2 5 rfl rfl)
abbrev cJ12_init : ByteArray := prog_78_method_1_code
def yJ12_init : MethodName := ⟨RJ12, "<init>", "(Ljava/util/TreeMap;Ljava/util/TreeMap$Entry;)V"⟩
def dkwJ12_init_0 : List UInt8 := [42, 43, 44, 183, 0, 1, 177]
abbrev dktJ12_init_0 : List UInt8 := dkwJ12_init_0 ++ []
theorem dksJ12_init_0 : cJ12_init.data.toList.drop 0 = dktJ12_init_0 := by decide +kernel
theorem dJ12_init_0 : decode cJ12_init 0 = .ok (.aload_n 0, 1) := dk_42 (dk_at dksJ12_init_0 0 rfl rfl)
theorem dJ12_init_1 : decode cJ12_init 1 = .ok (.aload_n 1, 1) := dk_43 (dk_at dksJ12_init_0 1 rfl rfl)
theorem dJ12_init_2 : decode cJ12_init 2 = .ok (.aload_n 2, 1) := dk_44 (dk_at dksJ12_init_0 2 rfl rfl)
theorem dJ12_init_3 : decode cJ12_init 3 = .ok (.invokespecial 1, 3) := dk_183 0 1 (dk_at dksJ12_init_0 3 rfl rfl)
theorem dJ12_init_6 : decode cJ12_init 6 = .ok (.return_, 1) := dk_177 (dk_at dksJ12_init_0 6 rfl rfl)
abbrev cJ12_next : ByteArray := prog_78_method_2_code
def yJ12_next : MethodName := ⟨RJ12, "next", "()Ljava/lang/Object;"⟩
def dkwJ12_next_0 : List UInt8 := [42, 182, 0, 7, 180, 0, 13, 176]
abbrev dktJ12_next_0 : List UInt8 := dkwJ12_next_0 ++ []
theorem dksJ12_next_0 : cJ12_next.data.toList.drop 0 = dktJ12_next_0 := by decide +kernel
theorem dJ12_next_0 : decode cJ12_next 0 = .ok (.aload_n 0, 1) := dk_42 (dk_at dksJ12_next_0 0 rfl rfl)
theorem dJ12_next_1 : decode cJ12_next 1 = .ok (.invokevirtual 7, 3) := dk_182 0 7 (dk_at dksJ12_next_0 1 rfl rfl)
theorem dJ12_next_4 : decode cJ12_next 4 = .ok (.getfield 13, 3) := dk_180 0 13 (dk_at dksJ12_next_0 4 rfl rfl)
theorem dJ12_next_7 : decode cJ12_next 7 = .ok (.areturn, 1) := dk_176 (dk_at dksJ12_next_0 7 rfl rfl)
abbrev cJ13_init : ByteArray := prog_42_method_1_code
def yJ13_init : MethodName := ⟨RJ13, "<init>", "()V"⟩
def dkwJ13_init_1 : List UInt8 := [182, 0, 27, 87, 177]
abbrev dktJ13_init_1 : List UInt8 := dkwJ13_init_1 ++ []
def dkwJ13_init_0 : List UInt8 := [42, 183, 0, 1, 42, 42, 181, 0, 7, 42, 178, 0, 13, 181, 0, 17, 42, 178, 0, 20, 181, 0, 24, 42]
abbrev dktJ13_init_0 : List UInt8 := dkwJ13_init_0 ++ dktJ13_init_1
theorem dksJ13_init_0 : cJ13_init.data.toList.drop 0 = dktJ13_init_0 := by decide +kernel
theorem dksJ13_init_1 : cJ13_init.data.toList.drop 24 = dktJ13_init_1 := dk_seg dksJ13_init_0 24 rfl rfl
theorem dJ13_init_0 : decode cJ13_init 0 = .ok (.aload_n 0, 1) := dk_42 (dk_at dksJ13_init_0 0 rfl rfl)
theorem dJ13_init_1 : decode cJ13_init 1 = .ok (.invokespecial 1, 3) := dk_183 0 1 (dk_at dksJ13_init_0 1 rfl rfl)
theorem dJ13_init_4 : decode cJ13_init 4 = .ok (.aload_n 0, 1) := dk_42 (dk_at dksJ13_init_0 4 rfl rfl)
theorem dJ13_init_5 : decode cJ13_init 5 = .ok (.aload_n 0, 1) := dk_42 (dk_at dksJ13_init_0 5 rfl rfl)
theorem dJ13_init_6 : decode cJ13_init 6 = .ok (.putfield 7, 3) := dk_181 0 7 (dk_at dksJ13_init_0 6 rfl rfl)
theorem dJ13_init_9 : decode cJ13_init 9 = .ok (.aload_n 0, 1) := dk_42 (dk_at dksJ13_init_0 9 rfl rfl)
theorem dJ13_init_10 : decode cJ13_init 10 = .ok (.getstatic 13, 3) := dk_178 0 13 (dk_at dksJ13_init_0 10 rfl rfl)
theorem dJ13_init_13 : decode cJ13_init 13 = .ok (.putfield 17, 3) := dk_181 0 17 (dk_at dksJ13_init_0 13 rfl rfl)
theorem dJ13_init_16 : decode cJ13_init 16 = .ok (.aload_n 0, 1) := dk_42 (dk_at dksJ13_init_0 16 rfl rfl)
theorem dJ13_init_17 : decode cJ13_init 17 = .ok (.getstatic 20, 3) := dk_178 0 20 (dk_at dksJ13_init_0 17 rfl rfl)
theorem dJ13_init_20 : decode cJ13_init 20 = .ok (.putfield 24, 3) := dk_181 0 24 (dk_at dksJ13_init_0 20 rfl rfl)
theorem dJ13_init_23 : decode cJ13_init 23 = .ok (.aload_n 0, 1) := dk_42 (dk_at dksJ13_init_0 23 rfl rfl)
theorem dJ13_init_24 : decode cJ13_init 24 = .ok (.invokevirtual 27, 3) := dk_182 0 27 (dk_at dksJ13_init_1 0 rfl rfl)
theorem dJ13_init_27 : decode cJ13_init 27 = .ok (.pop, 1) := dk_87 (dk_at dksJ13_init_1 3 rfl rfl)
theorem dJ13_init_28 : decode cJ13_init 28 = .ok (.return_, 1) := dk_177 (dk_at dksJ13_init_1 4 rfl rfl)
abbrev cJ13_init_2 : ByteArray := prog_42_method_2_code
def yJ13_init_2 : MethodName := ⟨RJ13, "<init>", "(Ljava/lang/String;)V"⟩
def dkwJ13_init_2_1 : List UInt8 := [182, 0, 27, 87, 42, 43, 181, 0, 31, 177]
abbrev dktJ13_init_2_1 : List UInt8 := dkwJ13_init_2_1 ++ []
def dkwJ13_init_2_0 : List UInt8 := [42, 183, 0, 1, 42, 42, 181, 0, 7, 42, 178, 0, 13, 181, 0, 17, 42, 178, 0, 20, 181, 0, 24, 42]
abbrev dktJ13_init_2_0 : List UInt8 := dkwJ13_init_2_0 ++ dktJ13_init_2_1
theorem dksJ13_init_2_0 : cJ13_init_2.data.toList.drop 0 = dktJ13_init_2_0 := by decide +kernel
theorem dksJ13_init_2_1 : cJ13_init_2.data.toList.drop 24 = dktJ13_init_2_1 := dk_seg dksJ13_init_2_0 24 rfl rfl
theorem dJ13_init_2_0 : decode cJ13_init_2 0 = .ok (.aload_n 0, 1) := dk_42 (dk_at dksJ13_init_2_0 0 rfl rfl)
theorem dJ13_init_2_1 : decode cJ13_init_2 1 = .ok (.invokespecial 1, 3) := dk_183 0 1 (dk_at dksJ13_init_2_0 1 rfl rfl)
theorem dJ13_init_2_4 : decode cJ13_init_2 4 = .ok (.aload_n 0, 1) := dk_42 (dk_at dksJ13_init_2_0 4 rfl rfl)
theorem dJ13_init_2_5 : decode cJ13_init_2 5 = .ok (.aload_n 0, 1) := dk_42 (dk_at dksJ13_init_2_0 5 rfl rfl)
theorem dJ13_init_2_6 : decode cJ13_init_2 6 = .ok (.putfield 7, 3) := dk_181 0 7 (dk_at dksJ13_init_2_0 6 rfl rfl)
theorem dJ13_init_2_9 : decode cJ13_init_2 9 = .ok (.aload_n 0, 1) := dk_42 (dk_at dksJ13_init_2_0 9 rfl rfl)
theorem dJ13_init_2_10 : decode cJ13_init_2 10 = .ok (.getstatic 13, 3) := dk_178 0 13 (dk_at dksJ13_init_2_0 10 rfl rfl)
theorem dJ13_init_2_13 : decode cJ13_init_2 13 = .ok (.putfield 17, 3) := dk_181 0 17 (dk_at dksJ13_init_2_0 13 rfl rfl)
theorem dJ13_init_2_16 : decode cJ13_init_2 16 = .ok (.aload_n 0, 1) := dk_42 (dk_at dksJ13_init_2_0 16 rfl rfl)
theorem dJ13_init_2_17 : decode cJ13_init_2 17 = .ok (.getstatic 20, 3) := dk_178 0 20 (dk_at dksJ13_init_2_0 17 rfl rfl)
theorem dJ13_init_2_20 : decode cJ13_init_2 20 = .ok (.putfield 24, 3) := dk_181 0 24 (dk_at dksJ13_init_2_0 20 rfl rfl)
theorem dJ13_init_2_23 : decode cJ13_init_2 23 = .ok (.aload_n 0, 1) := dk_42 (dk_at dksJ13_init_2_0 23 rfl rfl)
theorem dJ13_init_2_24 : decode cJ13_init_2 24 = .ok (.invokevirtual 27, 3) := dk_182 0 27 (dk_at dksJ13_init_2_1 0 rfl rfl)
theorem dJ13_init_2_27 : decode cJ13_init_2 27 = .ok (.pop, 1) := dk_87 (dk_at dksJ13_init_2_1 3 rfl rfl)
theorem dJ13_init_2_28 : decode cJ13_init_2 28 = .ok (.aload_n 0, 1) := dk_42 (dk_at dksJ13_init_2_1 4 rfl rfl)
theorem dJ13_init_2_29 : decode cJ13_init_2 29 = .ok (.aload_n 1, 1) := dk_43 (dk_at dksJ13_init_2_1 5 rfl rfl)
theorem dJ13_init_2_30 : decode cJ13_init_2 30 = .ok (.putfield 31, 3) := dk_181 0 31 (dk_at dksJ13_init_2_1 6 rfl rfl)
theorem dJ13_init_2_33 : decode cJ13_init_2 33 = .ok (.return_, 1) := dk_177 (dk_at dksJ13_init_2_1 9 rfl rfl)
abbrev cJ13_init_3 : ByteArray := prog_42_method_5_code
def yJ13_init_3 : MethodName := ⟨RJ13, "<init>", "(Ljava/lang/String;Ljava/lang/Throwable;ZZ)V"⟩
def dkwJ13_init_3_2 : List UInt8 := [44, 181, 0, 7, 29, 154, 0, 8, 42, 1, 181, 0, 24, 177]
abbrev dktJ13_init_3_2 : List UInt8 := dkwJ13_init_3_2 ++ []
def dkwJ13_init_3_1 : List UInt8 := [21, 4, 153, 0, 11, 42, 182, 0, 27, 87, 167, 0, 8, 42, 1, 181, 0, 17, 42, 43, 181, 0, 31, 42]
abbrev dktJ13_init_3_1 : List UInt8 := dkwJ13_init_3_1 ++ dktJ13_init_3_2
def dkwJ13_init_3_0 : List UInt8 := [42, 183, 0, 1, 42, 42, 181, 0, 7, 42, 178, 0, 13, 181, 0, 17, 42, 178, 0, 20, 181, 0, 24]
abbrev dktJ13_init_3_0 : List UInt8 := dkwJ13_init_3_0 ++ dktJ13_init_3_1
theorem dksJ13_init_3_0 : cJ13_init_3.data.toList.drop 0 = dktJ13_init_3_0 := by decide +kernel
theorem dksJ13_init_3_1 : cJ13_init_3.data.toList.drop 23 = dktJ13_init_3_1 := dk_seg dksJ13_init_3_0 23 rfl rfl
theorem dksJ13_init_3_2 : cJ13_init_3.data.toList.drop 47 = dktJ13_init_3_2 := dk_seg dksJ13_init_3_1 24 rfl rfl
theorem dJ13_init_3_0 : decode cJ13_init_3 0 = .ok (.aload_n 0, 1) := dk_42 (dk_at dksJ13_init_3_0 0 rfl rfl)
theorem dJ13_init_3_1 : decode cJ13_init_3 1 = .ok (.invokespecial 1, 3) := dk_183 0 1 (dk_at dksJ13_init_3_0 1 rfl rfl)
theorem dJ13_init_3_4 : decode cJ13_init_3 4 = .ok (.aload_n 0, 1) := dk_42 (dk_at dksJ13_init_3_0 4 rfl rfl)
theorem dJ13_init_3_5 : decode cJ13_init_3 5 = .ok (.aload_n 0, 1) := dk_42 (dk_at dksJ13_init_3_0 5 rfl rfl)
theorem dJ13_init_3_6 : decode cJ13_init_3 6 = .ok (.putfield 7, 3) := dk_181 0 7 (dk_at dksJ13_init_3_0 6 rfl rfl)
theorem dJ13_init_3_9 : decode cJ13_init_3 9 = .ok (.aload_n 0, 1) := dk_42 (dk_at dksJ13_init_3_0 9 rfl rfl)
theorem dJ13_init_3_10 : decode cJ13_init_3 10 = .ok (.getstatic 13, 3) := dk_178 0 13 (dk_at dksJ13_init_3_0 10 rfl rfl)
theorem dJ13_init_3_13 : decode cJ13_init_3 13 = .ok (.putfield 17, 3) := dk_181 0 17 (dk_at dksJ13_init_3_0 13 rfl rfl)
theorem dJ13_init_3_16 : decode cJ13_init_3 16 = .ok (.aload_n 0, 1) := dk_42 (dk_at dksJ13_init_3_0 16 rfl rfl)
theorem dJ13_init_3_17 : decode cJ13_init_3 17 = .ok (.getstatic 20, 3) := dk_178 0 20 (dk_at dksJ13_init_3_0 17 rfl rfl)
theorem dJ13_init_3_20 : decode cJ13_init_3 20 = .ok (.putfield 24, 3) := dk_181 0 24 (dk_at dksJ13_init_3_0 20 rfl rfl)
theorem dJ13_init_3_23 : decode cJ13_init_3 23 = .ok (.iload 4, 2) := dk_21 4 (dk_at dksJ13_init_3_1 0 rfl rfl)
theorem dJ13_init_3_25 : decode cJ13_init_3 25 = .ok (.ifCond .eq 11, 3) := dk_153 0 11 (dk_at dksJ13_init_3_1 2 rfl rfl)
theorem dJ13_init_3_28 : decode cJ13_init_3 28 = .ok (.aload_n 0, 1) := dk_42 (dk_at dksJ13_init_3_1 5 rfl rfl)
theorem dJ13_init_3_29 : decode cJ13_init_3 29 = .ok (.invokevirtual 27, 3) := dk_182 0 27 (dk_at dksJ13_init_3_1 6 rfl rfl)
theorem dJ13_init_3_32 : decode cJ13_init_3 32 = .ok (.pop, 1) := dk_87 (dk_at dksJ13_init_3_1 9 rfl rfl)
theorem dJ13_init_3_33 : decode cJ13_init_3 33 = .ok (.goto 8, 3) := dk_167 0 8 (dk_at dksJ13_init_3_1 10 rfl rfl)
theorem dJ13_init_3_36 : decode cJ13_init_3 36 = .ok (.aload_n 0, 1) := dk_42 (dk_at dksJ13_init_3_1 13 rfl rfl)
theorem dJ13_init_3_37 : decode cJ13_init_3 37 = .ok (.aconst_null, 1) := dk_1 (dk_at dksJ13_init_3_1 14 rfl rfl)
theorem dJ13_init_3_38 : decode cJ13_init_3 38 = .ok (.putfield 17, 3) := dk_181 0 17 (dk_at dksJ13_init_3_1 15 rfl rfl)
theorem dJ13_init_3_41 : decode cJ13_init_3 41 = .ok (.aload_n 0, 1) := dk_42 (dk_at dksJ13_init_3_1 18 rfl rfl)
theorem dJ13_init_3_42 : decode cJ13_init_3 42 = .ok (.aload_n 1, 1) := dk_43 (dk_at dksJ13_init_3_1 19 rfl rfl)
theorem dJ13_init_3_43 : decode cJ13_init_3 43 = .ok (.putfield 31, 3) := dk_181 0 31 (dk_at dksJ13_init_3_1 20 rfl rfl)
theorem dJ13_init_3_46 : decode cJ13_init_3 46 = .ok (.aload_n 0, 1) := dk_42 (dk_at dksJ13_init_3_1 23 rfl rfl)
theorem dJ13_init_3_47 : decode cJ13_init_3 47 = .ok (.aload_n 2, 1) := dk_44 (dk_at dksJ13_init_3_2 0 rfl rfl)
theorem dJ13_init_3_48 : decode cJ13_init_3 48 = .ok (.putfield 7, 3) := dk_181 0 7 (dk_at dksJ13_init_3_2 1 rfl rfl)
theorem dJ13_init_3_51 : decode cJ13_init_3 51 = .ok (.iload_n 3, 1) := dk_29 (dk_at dksJ13_init_3_2 4 rfl rfl)
theorem dJ13_init_3_52 : decode cJ13_init_3 52 = .ok (.ifCond .ne 8, 3) := dk_154 0 8 (dk_at dksJ13_init_3_2 5 rfl rfl)
theorem dJ13_init_3_55 : decode cJ13_init_3 55 = .ok (.aload_n 0, 1) := dk_42 (dk_at dksJ13_init_3_2 8 rfl rfl)
theorem dJ13_init_3_56 : decode cJ13_init_3 56 = .ok (.aconst_null, 1) := dk_1 (dk_at dksJ13_init_3_2 9 rfl rfl)
theorem dJ13_init_3_57 : decode cJ13_init_3 57 = .ok (.putfield 24, 3) := dk_181 0 24 (dk_at dksJ13_init_3_2 10 rfl rfl)
theorem dJ13_init_3_60 : decode cJ13_init_3 60 = .ok (.return_, 1) := dk_177 (dk_at dksJ13_init_3_2 13 rfl rfl)
abbrev cJ13_init_4 : ByteArray := prog_42_method_3_code
def yJ13_init_4 : MethodName := ⟨RJ13, "<init>", "(Ljava/lang/String;Ljava/lang/Throwable;)V"⟩
def dkwJ13_init_4_1 : List UInt8 := [182, 0, 27, 87, 42, 43, 181, 0, 31, 42, 44, 181, 0, 7, 177]
abbrev dktJ13_init_4_1 : List UInt8 := dkwJ13_init_4_1 ++ []
def dkwJ13_init_4_0 : List UInt8 := [42, 183, 0, 1, 42, 42, 181, 0, 7, 42, 178, 0, 13, 181, 0, 17, 42, 178, 0, 20, 181, 0, 24, 42]
abbrev dktJ13_init_4_0 : List UInt8 := dkwJ13_init_4_0 ++ dktJ13_init_4_1
theorem dksJ13_init_4_0 : cJ13_init_4.data.toList.drop 0 = dktJ13_init_4_0 := by decide +kernel
theorem dksJ13_init_4_1 : cJ13_init_4.data.toList.drop 24 = dktJ13_init_4_1 := dk_seg dksJ13_init_4_0 24 rfl rfl
theorem dJ13_init_4_0 : decode cJ13_init_4 0 = .ok (.aload_n 0, 1) := dk_42 (dk_at dksJ13_init_4_0 0 rfl rfl)
theorem dJ13_init_4_1 : decode cJ13_init_4 1 = .ok (.invokespecial 1, 3) := dk_183 0 1 (dk_at dksJ13_init_4_0 1 rfl rfl)
theorem dJ13_init_4_4 : decode cJ13_init_4 4 = .ok (.aload_n 0, 1) := dk_42 (dk_at dksJ13_init_4_0 4 rfl rfl)
theorem dJ13_init_4_5 : decode cJ13_init_4 5 = .ok (.aload_n 0, 1) := dk_42 (dk_at dksJ13_init_4_0 5 rfl rfl)
theorem dJ13_init_4_6 : decode cJ13_init_4 6 = .ok (.putfield 7, 3) := dk_181 0 7 (dk_at dksJ13_init_4_0 6 rfl rfl)
theorem dJ13_init_4_9 : decode cJ13_init_4 9 = .ok (.aload_n 0, 1) := dk_42 (dk_at dksJ13_init_4_0 9 rfl rfl)
theorem dJ13_init_4_10 : decode cJ13_init_4 10 = .ok (.getstatic 13, 3) := dk_178 0 13 (dk_at dksJ13_init_4_0 10 rfl rfl)
theorem dJ13_init_4_13 : decode cJ13_init_4 13 = .ok (.putfield 17, 3) := dk_181 0 17 (dk_at dksJ13_init_4_0 13 rfl rfl)
theorem dJ13_init_4_16 : decode cJ13_init_4 16 = .ok (.aload_n 0, 1) := dk_42 (dk_at dksJ13_init_4_0 16 rfl rfl)
theorem dJ13_init_4_17 : decode cJ13_init_4 17 = .ok (.getstatic 20, 3) := dk_178 0 20 (dk_at dksJ13_init_4_0 17 rfl rfl)
theorem dJ13_init_4_20 : decode cJ13_init_4 20 = .ok (.putfield 24, 3) := dk_181 0 24 (dk_at dksJ13_init_4_0 20 rfl rfl)
theorem dJ13_init_4_23 : decode cJ13_init_4 23 = .ok (.aload_n 0, 1) := dk_42 (dk_at dksJ13_init_4_0 23 rfl rfl)
theorem dJ13_init_4_24 : decode cJ13_init_4 24 = .ok (.invokevirtual 27, 3) := dk_182 0 27 (dk_at dksJ13_init_4_1 0 rfl rfl)
theorem dJ13_init_4_27 : decode cJ13_init_4 27 = .ok (.pop, 1) := dk_87 (dk_at dksJ13_init_4_1 3 rfl rfl)
theorem dJ13_init_4_28 : decode cJ13_init_4 28 = .ok (.aload_n 0, 1) := dk_42 (dk_at dksJ13_init_4_1 4 rfl rfl)
theorem dJ13_init_4_29 : decode cJ13_init_4 29 = .ok (.aload_n 1, 1) := dk_43 (dk_at dksJ13_init_4_1 5 rfl rfl)
theorem dJ13_init_4_30 : decode cJ13_init_4 30 = .ok (.putfield 31, 3) := dk_181 0 31 (dk_at dksJ13_init_4_1 6 rfl rfl)
theorem dJ13_init_4_33 : decode cJ13_init_4 33 = .ok (.aload_n 0, 1) := dk_42 (dk_at dksJ13_init_4_1 9 rfl rfl)
theorem dJ13_init_4_34 : decode cJ13_init_4 34 = .ok (.aload_n 2, 1) := dk_44 (dk_at dksJ13_init_4_1 10 rfl rfl)
theorem dJ13_init_4_35 : decode cJ13_init_4 35 = .ok (.putfield 7, 3) := dk_181 0 7 (dk_at dksJ13_init_4_1 11 rfl rfl)
theorem dJ13_init_4_38 : decode cJ13_init_4 38 = .ok (.return_, 1) := dk_177 (dk_at dksJ13_init_4_1 14 rfl rfl)
abbrev cJ14_init : ByteArray := prog_24_method_2_code
def yJ14_init : MethodName := ⟨RJ14, "<init>", "(Ljava/lang/String;)V"⟩
def dkwJ14_init_0 : List UInt8 := [42, 43, 183, 0, 7, 177]
abbrev dktJ14_init_0 : List UInt8 := dkwJ14_init_0 ++ []
theorem dksJ14_init_0 : cJ14_init.data.toList.drop 0 = dktJ14_init_0 := by decide +kernel
theorem dJ14_init_0 : decode cJ14_init 0 = .ok (.aload_n 0, 1) := dk_42 (dk_at dksJ14_init_0 0 rfl rfl)
theorem dJ14_init_1 : decode cJ14_init 1 = .ok (.aload_n 1, 1) := dk_43 (dk_at dksJ14_init_0 1 rfl rfl)
theorem dJ14_init_2 : decode cJ14_init 2 = .ok (.invokespecial 7, 3) := dk_183 0 7 (dk_at dksJ14_init_0 2 rfl rfl)
theorem dJ14_init_5 : decode cJ14_init 5 = .ok (.return_, 1) := dk_177 (dk_at dksJ14_init_0 5 rfl rfl)
abbrev cJ14_init_2 : ByteArray := prog_24_method_1_code
def yJ14_init_2 : MethodName := ⟨RJ14, "<init>", "()V"⟩
theorem dJ14_init_2_0 : decode cJ14_init_2 0 = .ok (.aload_n 0, 1) := by decide +kernel
theorem dJ14_init_2_1 : decode cJ14_init_2 1 = .ok (.invokespecial 1, 3) := by decide +kernel
theorem dJ14_init_2_4 : decode cJ14_init_2 4 = .ok (.return_, 1) := by decide +kernel
abbrev cJ14_init_3 : ByteArray := prog_24_method_5_code
def yJ14_init_3 : MethodName := ⟨RJ14, "<init>", "(Ljava/lang/String;Ljava/lang/Throwable;ZZ)V"⟩
def dkwJ14_init_3_0 : List UInt8 := [42, 43, 44, 29, 21, 4, 183, 0, 16, 177]
abbrev dktJ14_init_3_0 : List UInt8 := dkwJ14_init_3_0 ++ []
theorem dksJ14_init_3_0 : cJ14_init_3.data.toList.drop 0 = dktJ14_init_3_0 := by decide +kernel
theorem dJ14_init_3_0 : decode cJ14_init_3 0 = .ok (.aload_n 0, 1) := dk_42 (dk_at dksJ14_init_3_0 0 rfl rfl)
theorem dJ14_init_3_1 : decode cJ14_init_3 1 = .ok (.aload_n 1, 1) := dk_43 (dk_at dksJ14_init_3_0 1 rfl rfl)
theorem dJ14_init_3_2 : decode cJ14_init_3 2 = .ok (.aload_n 2, 1) := dk_44 (dk_at dksJ14_init_3_0 2 rfl rfl)
theorem dJ14_init_3_3 : decode cJ14_init_3 3 = .ok (.iload_n 3, 1) := dk_29 (dk_at dksJ14_init_3_0 3 rfl rfl)
theorem dJ14_init_3_4 : decode cJ14_init_3 4 = .ok (.iload 4, 2) := dk_21 4 (dk_at dksJ14_init_3_0 4 rfl rfl)
theorem dJ14_init_3_6 : decode cJ14_init_3 6 = .ok (.invokespecial 16, 3) := dk_183 0 16 (dk_at dksJ14_init_3_0 6 rfl rfl)
theorem dJ14_init_3_9 : decode cJ14_init_3 9 = .ok (.return_, 1) := dk_177 (dk_at dksJ14_init_3_0 9 rfl rfl)
abbrev cJ14_init_4 : ByteArray := prog_24_method_3_code
def yJ14_init_4 : MethodName := ⟨RJ14, "<init>", "(Ljava/lang/String;Ljava/lang/Throwable;)V"⟩
def dkwJ14_init_4_0 : List UInt8 := [42, 43, 44, 183, 0, 10, 177]
abbrev dktJ14_init_4_0 : List UInt8 := dkwJ14_init_4_0 ++ []
theorem dksJ14_init_4_0 : cJ14_init_4.data.toList.drop 0 = dktJ14_init_4_0 := by decide +kernel
theorem dJ14_init_4_0 : decode cJ14_init_4 0 = .ok (.aload_n 0, 1) := dk_42 (dk_at dksJ14_init_4_0 0 rfl rfl)
theorem dJ14_init_4_1 : decode cJ14_init_4 1 = .ok (.aload_n 1, 1) := dk_43 (dk_at dksJ14_init_4_0 1 rfl rfl)
theorem dJ14_init_4_2 : decode cJ14_init_4 2 = .ok (.aload_n 2, 1) := dk_44 (dk_at dksJ14_init_4_0 2 rfl rfl)
theorem dJ14_init_4_3 : decode cJ14_init_4 3 = .ok (.invokespecial 10, 3) := dk_183 0 10 (dk_at dksJ14_init_4_0 3 rfl rfl)
theorem dJ14_init_4_6 : decode cJ14_init_4 6 = .ok (.return_, 1) := dk_177 (dk_at dksJ14_init_4_0 6 rfl rfl)
abbrev cJ15_init : ByteArray := prog_34_method_2_code
def yJ15_init : MethodName := ⟨RJ15, "<init>", "(Ljava/lang/String;)V"⟩
def dkwJ15_init_0 : List UInt8 := [42, 43, 183, 0, 7, 177]
abbrev dktJ15_init_0 : List UInt8 := dkwJ15_init_0 ++ []
theorem dksJ15_init_0 : cJ15_init.data.toList.drop 0 = dktJ15_init_0 := by decide +kernel
theorem dJ15_init_0 : decode cJ15_init 0 = .ok (.aload_n 0, 1) := dk_42 (dk_at dksJ15_init_0 0 rfl rfl)
theorem dJ15_init_1 : decode cJ15_init 1 = .ok (.aload_n 1, 1) := dk_43 (dk_at dksJ15_init_0 1 rfl rfl)
theorem dJ15_init_2 : decode cJ15_init 2 = .ok (.invokespecial 7, 3) := dk_183 0 7 (dk_at dksJ15_init_0 2 rfl rfl)
theorem dJ15_init_5 : decode cJ15_init 5 = .ok (.return_, 1) := dk_177 (dk_at dksJ15_init_0 5 rfl rfl)
abbrev cJ15_init_2 : ByteArray := prog_34_method_1_code
def yJ15_init_2 : MethodName := ⟨RJ15, "<init>", "()V"⟩
theorem dJ15_init_2_0 : decode cJ15_init_2 0 = .ok (.aload_n 0, 1) := by decide +kernel
theorem dJ15_init_2_1 : decode cJ15_init_2 1 = .ok (.invokespecial 1, 3) := by decide +kernel
theorem dJ15_init_2_4 : decode cJ15_init_2 4 = .ok (.return_, 1) := by decide +kernel
abbrev cJ15_init_3 : ByteArray := prog_34_method_3_code
def yJ15_init_3 : MethodName := ⟨RJ15, "<init>", "(Ljava/lang/String;Ljava/lang/Throwable;)V"⟩
def dkwJ15_init_3_0 : List UInt8 := [42, 43, 44, 183, 0, 10, 177]
abbrev dktJ15_init_3_0 : List UInt8 := dkwJ15_init_3_0 ++ []
theorem dksJ15_init_3_0 : cJ15_init_3.data.toList.drop 0 = dktJ15_init_3_0 := by decide +kernel
theorem dJ15_init_3_0 : decode cJ15_init_3 0 = .ok (.aload_n 0, 1) := dk_42 (dk_at dksJ15_init_3_0 0 rfl rfl)
theorem dJ15_init_3_1 : decode cJ15_init_3 1 = .ok (.aload_n 1, 1) := dk_43 (dk_at dksJ15_init_3_0 1 rfl rfl)
theorem dJ15_init_3_2 : decode cJ15_init_3 2 = .ok (.aload_n 2, 1) := dk_44 (dk_at dksJ15_init_3_0 2 rfl rfl)
theorem dJ15_init_3_3 : decode cJ15_init_3 3 = .ok (.invokespecial 10, 3) := dk_183 0 10 (dk_at dksJ15_init_3_0 3 rfl rfl)
theorem dJ15_init_3_6 : decode cJ15_init_3 6 = .ok (.return_, 1) := dk_177 (dk_at dksJ15_init_3_0 6 rfl rfl)
abbrev cJ16_init : ByteArray := prog_64_method_1_code
def yJ16_init : MethodName := ⟨RJ16, "<init>", "()V"⟩
theorem dJ16_init_0 : decode cJ16_init 0 = .ok (.aload_n 0, 1) := by decide +kernel
theorem dJ16_init_1 : decode cJ16_init 1 = .ok (.invokespecial 1, 3) := by decide +kernel
theorem dJ16_init_4 : decode cJ16_init 4 = .ok (.return_, 1) := by decide +kernel
abbrev cJ16_init_2 : ByteArray := prog_64_method_4_code
def yJ16_init_2 : MethodName := ⟨RJ16, "<init>", "(Ljava/lang/String;)V"⟩
def dkwJ16_init_2_0 : List UInt8 := [42, 43, 183, 0, 13, 177]
abbrev dktJ16_init_2_0 : List UInt8 := dkwJ16_init_2_0 ++ []
theorem dksJ16_init_2_0 : cJ16_init_2.data.toList.drop 0 = dktJ16_init_2_0 := by decide +kernel
theorem dJ16_init_2_0 : decode cJ16_init_2 0 = .ok (.aload_n 0, 1) := dk_42 (dk_at dksJ16_init_2_0 0 rfl rfl)
theorem dJ16_init_2_1 : decode cJ16_init_2 1 = .ok (.aload_n 1, 1) := dk_43 (dk_at dksJ16_init_2_0 1 rfl rfl)
theorem dJ16_init_2_2 : decode cJ16_init_2 2 = .ok (.invokespecial 13, 3) := dk_183 0 13 (dk_at dksJ16_init_2_0 2 rfl rfl)
theorem dJ16_init_2_5 : decode cJ16_init_2 5 = .ok (.return_, 1) := dk_177 (dk_at dksJ16_init_2_0 5 rfl rfl)
abbrev cJ17_init : ByteArray := prog_33_method_1_code
def yJ17_init : MethodName := ⟨RJ17, "<init>", "()V"⟩
theorem dJ17_init_0 : decode cJ17_init 0 = .ok (.aload_n 0, 1) := by decide +kernel
theorem dJ17_init_1 : decode cJ17_init 1 = .ok (.invokespecial 1, 3) := by decide +kernel
theorem dJ17_init_4 : decode cJ17_init 4 = .ok (.return_, 1) := by decide +kernel
abbrev cJ18_stringSize : ByteArray := prog_28_method_13_code
def yJ18_stringSize : MethodName := ⟨RJ18, "stringSize", "(I)I"⟩
def dkwJ18_stringSize_1 : List UInt8 := [164, 0, 7, 29, 27, 96, 172, 16, 10, 28, 104, 61, 132, 3, 1, 167, 255, 233, 16, 10, 27, 96, 172]
abbrev dktJ18_stringSize_1 : List UInt8 := dkwJ18_stringSize_1 ++ []
def dkwJ18_stringSize_0 : List UInt8 := [4, 60, 26, 155, 0, 8, 3, 60, 26, 116, 59, 16, 246, 61, 4, 62, 29, 16, 10, 162, 0, 23, 26, 28]
abbrev dktJ18_stringSize_0 : List UInt8 := dkwJ18_stringSize_0 ++ dktJ18_stringSize_1
theorem dksJ18_stringSize_0 : cJ18_stringSize.data.toList.drop 0 = dktJ18_stringSize_0 := by decide +kernel
theorem dksJ18_stringSize_1 : cJ18_stringSize.data.toList.drop 24 = dktJ18_stringSize_1 := dk_seg dksJ18_stringSize_0 24 rfl rfl
theorem dJ18_stringSize_0 : decode cJ18_stringSize 0 = .ok (.iconst 1, 1) := dk_4 (dk_at dksJ18_stringSize_0 0 rfl rfl)
theorem dJ18_stringSize_1 : decode cJ18_stringSize 1 = .ok (.istore_n 1, 1) := dk_60 (dk_at dksJ18_stringSize_0 1 rfl rfl)
theorem dJ18_stringSize_2 : decode cJ18_stringSize 2 = .ok (.iload_n 0, 1) := dk_26 (dk_at dksJ18_stringSize_0 2 rfl rfl)
theorem dJ18_stringSize_3 : decode cJ18_stringSize 3 = .ok (.ifCond .lt 8, 3) := dk_155 0 8 (dk_at dksJ18_stringSize_0 3 rfl rfl)
theorem dJ18_stringSize_6 : decode cJ18_stringSize 6 = .ok (.iconst 0, 1) := dk_3 (dk_at dksJ18_stringSize_0 6 rfl rfl)
theorem dJ18_stringSize_7 : decode cJ18_stringSize 7 = .ok (.istore_n 1, 1) := dk_60 (dk_at dksJ18_stringSize_0 7 rfl rfl)
theorem dJ18_stringSize_8 : decode cJ18_stringSize 8 = .ok (.iload_n 0, 1) := dk_26 (dk_at dksJ18_stringSize_0 8 rfl rfl)
theorem dJ18_stringSize_9 : decode cJ18_stringSize 9 = .ok (.ineg, 1) := dk_116 (dk_at dksJ18_stringSize_0 9 rfl rfl)
theorem dJ18_stringSize_10 : decode cJ18_stringSize 10 = .ok (.istore_n 0, 1) := dk_59 (dk_at dksJ18_stringSize_0 10 rfl rfl)
theorem dJ18_stringSize_11 : decode cJ18_stringSize 11 = .ok (.bipush (-10), 2) := dk_16 246 (dk_at dksJ18_stringSize_0 11 rfl rfl)
theorem dJ18_stringSize_13 : decode cJ18_stringSize 13 = .ok (.istore_n 2, 1) := dk_61 (dk_at dksJ18_stringSize_0 13 rfl rfl)
theorem dJ18_stringSize_14 : decode cJ18_stringSize 14 = .ok (.iconst 1, 1) := dk_4 (dk_at dksJ18_stringSize_0 14 rfl rfl)
theorem dJ18_stringSize_15 : decode cJ18_stringSize 15 = .ok (.istore_n 3, 1) := dk_62 (dk_at dksJ18_stringSize_0 15 rfl rfl)
theorem dJ18_stringSize_16 : decode cJ18_stringSize 16 = .ok (.iload_n 3, 1) := dk_29 (dk_at dksJ18_stringSize_0 16 rfl rfl)
theorem dJ18_stringSize_17 : decode cJ18_stringSize 17 = .ok (.bipush 10, 2) := dk_16 10 (dk_at dksJ18_stringSize_0 17 rfl rfl)
theorem dJ18_stringSize_19 : decode cJ18_stringSize 19 = .ok (.if_icmp .ge 23, 3) := dk_162 0 23 (dk_at dksJ18_stringSize_0 19 rfl rfl)
theorem dJ18_stringSize_22 : decode cJ18_stringSize 22 = .ok (.iload_n 0, 1) := dk_26 (dk_at dksJ18_stringSize_0 22 rfl rfl)
theorem dJ18_stringSize_23 : decode cJ18_stringSize 23 = .ok (.iload_n 2, 1) := dk_28 (dk_at dksJ18_stringSize_0 23 rfl rfl)
theorem dJ18_stringSize_24 : decode cJ18_stringSize 24 = .ok (.if_icmp .le 7, 3) := dk_164 0 7 (dk_at dksJ18_stringSize_1 0 rfl rfl)
theorem dJ18_stringSize_27 : decode cJ18_stringSize 27 = .ok (.iload_n 3, 1) := dk_29 (dk_at dksJ18_stringSize_1 3 rfl rfl)
theorem dJ18_stringSize_28 : decode cJ18_stringSize 28 = .ok (.iload_n 1, 1) := dk_27 (dk_at dksJ18_stringSize_1 4 rfl rfl)
theorem dJ18_stringSize_29 : decode cJ18_stringSize 29 = .ok (.iadd, 1) := dk_96 (dk_at dksJ18_stringSize_1 5 rfl rfl)
theorem dJ18_stringSize_30 : decode cJ18_stringSize 30 = .ok (.ireturn, 1) := dk_172 (dk_at dksJ18_stringSize_1 6 rfl rfl)
theorem dJ18_stringSize_31 : decode cJ18_stringSize 31 = .ok (.bipush 10, 2) := dk_16 10 (dk_at dksJ18_stringSize_1 7 rfl rfl)
theorem dJ18_stringSize_33 : decode cJ18_stringSize 33 = .ok (.iload_n 2, 1) := dk_28 (dk_at dksJ18_stringSize_1 9 rfl rfl)
theorem dJ18_stringSize_34 : decode cJ18_stringSize 34 = .ok (.imul, 1) := dk_104 (dk_at dksJ18_stringSize_1 10 rfl rfl)
theorem dJ18_stringSize_35 : decode cJ18_stringSize 35 = .ok (.istore_n 2, 1) := dk_61 (dk_at dksJ18_stringSize_1 11 rfl rfl)
theorem dJ18_stringSize_36 : decode cJ18_stringSize 36 = .ok (.iinc 3 1, 3) := dk_132 3 1 (dk_at dksJ18_stringSize_1 12 rfl rfl)
theorem dJ18_stringSize_39 : decode cJ18_stringSize 39 = .ok (.goto (-23), 3) := dk_167 255 233 (dk_at dksJ18_stringSize_1 15 rfl rfl)
theorem dJ18_stringSize_42 : decode cJ18_stringSize 42 = .ok (.bipush 10, 2) := dk_16 10 (dk_at dksJ18_stringSize_1 18 rfl rfl)
theorem dJ18_stringSize_44 : decode cJ18_stringSize 44 = .ok (.iload_n 1, 1) := dk_27 (dk_at dksJ18_stringSize_1 20 rfl rfl)
theorem dJ18_stringSize_45 : decode cJ18_stringSize 45 = .ok (.iadd, 1) := dk_96 (dk_at dksJ18_stringSize_1 21 rfl rfl)
theorem dJ18_stringSize_46 : decode cJ18_stringSize 46 = .ok (.ireturn, 1) := dk_172 (dk_at dksJ18_stringSize_1 22 rfl rfl)
abbrev cJ18_getChars : ByteArray := prog_28_method_12_code
def yJ18_getChars : MethodName := ⟨RJ18, "getChars", "(II[B)I"⟩
def dkwJ18_getChars_5 : List UInt8 := [16, 45, 84, 21, 5, 172]
abbrev dktJ18_getChars_5 : List UInt8 := dkwJ18_getChars_5 ++ []
def dkwJ18_getChars_4 : List UInt8 := [132, 5, 255, 21, 5, 178, 0, 87, 26, 116, 51, 84, 21, 6, 153, 0, 12, 44, 132, 5, 255, 21, 5]
abbrev dktJ18_getChars_4 : List UInt8 := dkwJ18_getChars_4 ++ dktJ18_getChars_5
def dkwJ18_getChars_3 : List UInt8 := [167, 255, 209, 44, 132, 5, 255, 21, 5, 178, 0, 83, 26, 116, 51, 84, 26, 16, 247, 162, 0, 16, 44]
abbrev dktJ18_getChars_3 : List UInt8 := dkwJ18_getChars_3 ++ dktJ18_getChars_4
def dkwJ18_getChars_2 : List UInt8 := [21, 5, 178, 0, 83, 21, 4, 51, 84, 44, 132, 5, 255, 21, 5, 178, 0, 87, 21, 4, 51, 84]
abbrev dktJ18_getChars_2 : List UInt8 := dkwJ18_getChars_2 ++ dktJ18_getChars_3
def dkwJ18_getChars_1 : List UInt8 := [16, 156, 163, 0, 47, 26, 16, 100, 108, 62, 29, 16, 100, 104, 26, 100, 54, 4, 29, 59, 44, 132, 5, 255]
abbrev dktJ18_getChars_1 : List UInt8 := dkwJ18_getChars_1 ++ dktJ18_getChars_2
def dkwJ18_getChars_0 : List UInt8 := [27, 54, 5, 26, 156, 0, 7, 4, 167, 0, 4, 3, 54, 6, 21, 6, 154, 0, 6, 26, 116, 59, 26]
abbrev dktJ18_getChars_0 : List UInt8 := dkwJ18_getChars_0 ++ dktJ18_getChars_1
theorem dksJ18_getChars_0 : cJ18_getChars.data.toList.drop 0 = dktJ18_getChars_0 := by decide +kernel
theorem dksJ18_getChars_1 : cJ18_getChars.data.toList.drop 23 = dktJ18_getChars_1 := dk_seg dksJ18_getChars_0 23 rfl rfl
theorem dksJ18_getChars_2 : cJ18_getChars.data.toList.drop 47 = dktJ18_getChars_2 := dk_seg dksJ18_getChars_1 24 rfl rfl
theorem dksJ18_getChars_3 : cJ18_getChars.data.toList.drop 69 = dktJ18_getChars_3 := dk_seg dksJ18_getChars_2 22 rfl rfl
theorem dksJ18_getChars_4 : cJ18_getChars.data.toList.drop 92 = dktJ18_getChars_4 := dk_seg dksJ18_getChars_3 23 rfl rfl
theorem dksJ18_getChars_5 : cJ18_getChars.data.toList.drop 115 = dktJ18_getChars_5 := dk_seg dksJ18_getChars_4 23 rfl rfl
theorem dJ18_getChars_0 : decode cJ18_getChars 0 = .ok (.iload_n 1, 1) := dk_27 (dk_at dksJ18_getChars_0 0 rfl rfl)
theorem dJ18_getChars_1 : decode cJ18_getChars 1 = .ok (.istore 5, 2) := dk_54 5 (dk_at dksJ18_getChars_0 1 rfl rfl)
theorem dJ18_getChars_3 : decode cJ18_getChars 3 = .ok (.iload_n 0, 1) := dk_26 (dk_at dksJ18_getChars_0 3 rfl rfl)
theorem dJ18_getChars_4 : decode cJ18_getChars 4 = .ok (.ifCond .ge 7, 3) := dk_156 0 7 (dk_at dksJ18_getChars_0 4 rfl rfl)
theorem dJ18_getChars_7 : decode cJ18_getChars 7 = .ok (.iconst 1, 1) := dk_4 (dk_at dksJ18_getChars_0 7 rfl rfl)
theorem dJ18_getChars_8 : decode cJ18_getChars 8 = .ok (.goto 4, 3) := dk_167 0 4 (dk_at dksJ18_getChars_0 8 rfl rfl)
theorem dJ18_getChars_11 : decode cJ18_getChars 11 = .ok (.iconst 0, 1) := dk_3 (dk_at dksJ18_getChars_0 11 rfl rfl)
theorem dJ18_getChars_12 : decode cJ18_getChars 12 = .ok (.istore 6, 2) := dk_54 6 (dk_at dksJ18_getChars_0 12 rfl rfl)
theorem dJ18_getChars_14 : decode cJ18_getChars 14 = .ok (.iload 6, 2) := dk_21 6 (dk_at dksJ18_getChars_0 14 rfl rfl)
theorem dJ18_getChars_16 : decode cJ18_getChars 16 = .ok (.ifCond .ne 6, 3) := dk_154 0 6 (dk_at dksJ18_getChars_0 16 rfl rfl)
theorem dJ18_getChars_19 : decode cJ18_getChars 19 = .ok (.iload_n 0, 1) := dk_26 (dk_at dksJ18_getChars_0 19 rfl rfl)
theorem dJ18_getChars_20 : decode cJ18_getChars 20 = .ok (.ineg, 1) := dk_116 (dk_at dksJ18_getChars_0 20 rfl rfl)
theorem dJ18_getChars_21 : decode cJ18_getChars 21 = .ok (.istore_n 0, 1) := dk_59 (dk_at dksJ18_getChars_0 21 rfl rfl)
theorem dJ18_getChars_22 : decode cJ18_getChars 22 = .ok (.iload_n 0, 1) := dk_26 (dk_at dksJ18_getChars_0 22 rfl rfl)
theorem dJ18_getChars_23 : decode cJ18_getChars 23 = .ok (.bipush (-100), 2) := dk_16 156 (dk_at dksJ18_getChars_1 0 rfl rfl)
theorem dJ18_getChars_25 : decode cJ18_getChars 25 = .ok (.if_icmp .gt 47, 3) := dk_163 0 47 (dk_at dksJ18_getChars_1 2 rfl rfl)
theorem dJ18_getChars_28 : decode cJ18_getChars 28 = .ok (.iload_n 0, 1) := dk_26 (dk_at dksJ18_getChars_1 5 rfl rfl)
theorem dJ18_getChars_29 : decode cJ18_getChars 29 = .ok (.bipush 100, 2) := dk_16 100 (dk_at dksJ18_getChars_1 6 rfl rfl)
theorem dJ18_getChars_31 : decode cJ18_getChars 31 = .ok (.idiv, 1) := dk_108 (dk_at dksJ18_getChars_1 8 rfl rfl)
theorem dJ18_getChars_32 : decode cJ18_getChars 32 = .ok (.istore_n 3, 1) := dk_62 (dk_at dksJ18_getChars_1 9 rfl rfl)
theorem dJ18_getChars_33 : decode cJ18_getChars 33 = .ok (.iload_n 3, 1) := dk_29 (dk_at dksJ18_getChars_1 10 rfl rfl)
theorem dJ18_getChars_34 : decode cJ18_getChars 34 = .ok (.bipush 100, 2) := dk_16 100 (dk_at dksJ18_getChars_1 11 rfl rfl)
theorem dJ18_getChars_36 : decode cJ18_getChars 36 = .ok (.imul, 1) := dk_104 (dk_at dksJ18_getChars_1 13 rfl rfl)
theorem dJ18_getChars_37 : decode cJ18_getChars 37 = .ok (.iload_n 0, 1) := dk_26 (dk_at dksJ18_getChars_1 14 rfl rfl)
theorem dJ18_getChars_38 : decode cJ18_getChars 38 = .ok (.isub, 1) := dk_100 (dk_at dksJ18_getChars_1 15 rfl rfl)
theorem dJ18_getChars_39 : decode cJ18_getChars 39 = .ok (.istore 4, 2) := dk_54 4 (dk_at dksJ18_getChars_1 16 rfl rfl)
theorem dJ18_getChars_41 : decode cJ18_getChars 41 = .ok (.iload_n 3, 1) := dk_29 (dk_at dksJ18_getChars_1 18 rfl rfl)
theorem dJ18_getChars_42 : decode cJ18_getChars 42 = .ok (.istore_n 0, 1) := dk_59 (dk_at dksJ18_getChars_1 19 rfl rfl)
theorem dJ18_getChars_43 : decode cJ18_getChars 43 = .ok (.aload_n 2, 1) := dk_44 (dk_at dksJ18_getChars_1 20 rfl rfl)
theorem dJ18_getChars_44 : decode cJ18_getChars 44 = .ok (.iinc 5 (-1), 3) := dk_132 5 255 (dk_at dksJ18_getChars_1 21 rfl rfl)
theorem dJ18_getChars_47 : decode cJ18_getChars 47 = .ok (.iload 5, 2) := dk_21 5 (dk_at dksJ18_getChars_2 0 rfl rfl)
theorem dJ18_getChars_49 : decode cJ18_getChars 49 = .ok (.getstatic 83, 3) := dk_178 0 83 (dk_at dksJ18_getChars_2 2 rfl rfl)
theorem dJ18_getChars_52 : decode cJ18_getChars 52 = .ok (.iload 4, 2) := dk_21 4 (dk_at dksJ18_getChars_2 5 rfl rfl)
theorem dJ18_getChars_54 : decode cJ18_getChars 54 = .ok (.baload, 1) := dk_51 (dk_at dksJ18_getChars_2 7 rfl rfl)
theorem dJ18_getChars_55 : decode cJ18_getChars 55 = .ok (.bastore, 1) := dk_84 (dk_at dksJ18_getChars_2 8 rfl rfl)
theorem dJ18_getChars_56 : decode cJ18_getChars 56 = .ok (.aload_n 2, 1) := dk_44 (dk_at dksJ18_getChars_2 9 rfl rfl)
theorem dJ18_getChars_57 : decode cJ18_getChars 57 = .ok (.iinc 5 (-1), 3) := dk_132 5 255 (dk_at dksJ18_getChars_2 10 rfl rfl)
theorem dJ18_getChars_60 : decode cJ18_getChars 60 = .ok (.iload 5, 2) := dk_21 5 (dk_at dksJ18_getChars_2 13 rfl rfl)
theorem dJ18_getChars_62 : decode cJ18_getChars 62 = .ok (.getstatic 87, 3) := dk_178 0 87 (dk_at dksJ18_getChars_2 15 rfl rfl)
theorem dJ18_getChars_65 : decode cJ18_getChars 65 = .ok (.iload 4, 2) := dk_21 4 (dk_at dksJ18_getChars_2 18 rfl rfl)
theorem dJ18_getChars_67 : decode cJ18_getChars 67 = .ok (.baload, 1) := dk_51 (dk_at dksJ18_getChars_2 20 rfl rfl)
theorem dJ18_getChars_68 : decode cJ18_getChars 68 = .ok (.bastore, 1) := dk_84 (dk_at dksJ18_getChars_2 21 rfl rfl)
theorem dJ18_getChars_69 : decode cJ18_getChars 69 = .ok (.goto (-47), 3) := dk_167 255 209 (dk_at dksJ18_getChars_3 0 rfl rfl)
theorem dJ18_getChars_72 : decode cJ18_getChars 72 = .ok (.aload_n 2, 1) := dk_44 (dk_at dksJ18_getChars_3 3 rfl rfl)
theorem dJ18_getChars_73 : decode cJ18_getChars 73 = .ok (.iinc 5 (-1), 3) := dk_132 5 255 (dk_at dksJ18_getChars_3 4 rfl rfl)
theorem dJ18_getChars_76 : decode cJ18_getChars 76 = .ok (.iload 5, 2) := dk_21 5 (dk_at dksJ18_getChars_3 7 rfl rfl)
theorem dJ18_getChars_78 : decode cJ18_getChars 78 = .ok (.getstatic 83, 3) := dk_178 0 83 (dk_at dksJ18_getChars_3 9 rfl rfl)
theorem dJ18_getChars_81 : decode cJ18_getChars 81 = .ok (.iload_n 0, 1) := dk_26 (dk_at dksJ18_getChars_3 12 rfl rfl)
theorem dJ18_getChars_82 : decode cJ18_getChars 82 = .ok (.ineg, 1) := dk_116 (dk_at dksJ18_getChars_3 13 rfl rfl)
theorem dJ18_getChars_83 : decode cJ18_getChars 83 = .ok (.baload, 1) := dk_51 (dk_at dksJ18_getChars_3 14 rfl rfl)
theorem dJ18_getChars_84 : decode cJ18_getChars 84 = .ok (.bastore, 1) := dk_84 (dk_at dksJ18_getChars_3 15 rfl rfl)
theorem dJ18_getChars_85 : decode cJ18_getChars 85 = .ok (.iload_n 0, 1) := dk_26 (dk_at dksJ18_getChars_3 16 rfl rfl)
theorem dJ18_getChars_86 : decode cJ18_getChars 86 = .ok (.bipush (-9), 2) := dk_16 247 (dk_at dksJ18_getChars_3 17 rfl rfl)
theorem dJ18_getChars_88 : decode cJ18_getChars 88 = .ok (.if_icmp .ge 16, 3) := dk_162 0 16 (dk_at dksJ18_getChars_3 19 rfl rfl)
theorem dJ18_getChars_91 : decode cJ18_getChars 91 = .ok (.aload_n 2, 1) := dk_44 (dk_at dksJ18_getChars_3 22 rfl rfl)
theorem dJ18_getChars_92 : decode cJ18_getChars 92 = .ok (.iinc 5 (-1), 3) := dk_132 5 255 (dk_at dksJ18_getChars_4 0 rfl rfl)
theorem dJ18_getChars_95 : decode cJ18_getChars 95 = .ok (.iload 5, 2) := dk_21 5 (dk_at dksJ18_getChars_4 3 rfl rfl)
theorem dJ18_getChars_97 : decode cJ18_getChars 97 = .ok (.getstatic 87, 3) := dk_178 0 87 (dk_at dksJ18_getChars_4 5 rfl rfl)
theorem dJ18_getChars_100 : decode cJ18_getChars 100 = .ok (.iload_n 0, 1) := dk_26 (dk_at dksJ18_getChars_4 8 rfl rfl)
theorem dJ18_getChars_101 : decode cJ18_getChars 101 = .ok (.ineg, 1) := dk_116 (dk_at dksJ18_getChars_4 9 rfl rfl)
theorem dJ18_getChars_102 : decode cJ18_getChars 102 = .ok (.baload, 1) := dk_51 (dk_at dksJ18_getChars_4 10 rfl rfl)
theorem dJ18_getChars_103 : decode cJ18_getChars 103 = .ok (.bastore, 1) := dk_84 (dk_at dksJ18_getChars_4 11 rfl rfl)
theorem dJ18_getChars_104 : decode cJ18_getChars 104 = .ok (.iload 6, 2) := dk_21 6 (dk_at dksJ18_getChars_4 12 rfl rfl)
theorem dJ18_getChars_106 : decode cJ18_getChars 106 = .ok (.ifCond .eq 12, 3) := dk_153 0 12 (dk_at dksJ18_getChars_4 14 rfl rfl)
theorem dJ18_getChars_109 : decode cJ18_getChars 109 = .ok (.aload_n 2, 1) := dk_44 (dk_at dksJ18_getChars_4 17 rfl rfl)
theorem dJ18_getChars_110 : decode cJ18_getChars 110 = .ok (.iinc 5 (-1), 3) := dk_132 5 255 (dk_at dksJ18_getChars_4 18 rfl rfl)
theorem dJ18_getChars_113 : decode cJ18_getChars 113 = .ok (.iload 5, 2) := dk_21 5 (dk_at dksJ18_getChars_4 21 rfl rfl)
theorem dJ18_getChars_115 : decode cJ18_getChars 115 = .ok (.bipush 45, 2) := dk_16 45 (dk_at dksJ18_getChars_5 0 rfl rfl)
theorem dJ18_getChars_117 : decode cJ18_getChars 117 = .ok (.bastore, 1) := dk_84 (dk_at dksJ18_getChars_5 2 rfl rfl)
theorem dJ18_getChars_118 : decode cJ18_getChars 118 = .ok (.iload 5, 2) := dk_21 5 (dk_at dksJ18_getChars_5 3 rfl rfl)
theorem dJ18_getChars_120 : decode cJ18_getChars 120 = .ok (.ireturn, 1) := dk_172 (dk_at dksJ18_getChars_5 5 rfl rfl)
abbrev cJ18_compareTo : ByteArray := prog_28_method_63_code
def yJ18_compareTo : MethodName := ⟨RJ18, "compareTo", "(Ljava/lang/Object;)I"⟩
def dkwJ18_compareTo_0 : List UInt8 := [42, 43, 192, 0, 1, 182, 1, 28, 172]
abbrev dktJ18_compareTo_0 : List UInt8 := dkwJ18_compareTo_0 ++ []
theorem dksJ18_compareTo_0 : cJ18_compareTo.data.toList.drop 0 = dktJ18_compareTo_0 := by decide +kernel
theorem dJ18_compareTo_0 : decode cJ18_compareTo 0 = .ok (.aload_n 0, 1) := dk_42 (dk_at dksJ18_compareTo_0 0 rfl rfl)
theorem dJ18_compareTo_1 : decode cJ18_compareTo 1 = .ok (.aload_n 1, 1) := dk_43 (dk_at dksJ18_compareTo_0 1 rfl rfl)
theorem dJ18_compareTo_2 : decode cJ18_compareTo 2 = .ok (.checkcast 1, 3) := dk_192 0 1 (dk_at dksJ18_compareTo_0 2 rfl rfl)
theorem dJ18_compareTo_5 : decode cJ18_compareTo 5 = .ok (.invokevirtual 284, 3) := dk_182 1 28 (dk_at dksJ18_compareTo_0 5 rfl rfl)
theorem dJ18_compareTo_8 : decode cJ18_compareTo 8 = .ok (.ireturn, 1) := dk_172 (dk_at dksJ18_compareTo_0 8 rfl rfl)
abbrev cJ18_compareTo_2 : ByteArray := prog_28_method_39_code
def yJ18_compareTo_2 : MethodName := ⟨RJ18, "compareTo", "(Ljava/lang/Integer;)I"⟩
def dkwJ18_compareTo_2_0 : List UInt8 := [42, 180, 0, 205, 43, 180, 0, 205, 184, 1, 3, 172]
abbrev dktJ18_compareTo_2_0 : List UInt8 := dkwJ18_compareTo_2_0 ++ []
theorem dksJ18_compareTo_2_0 : cJ18_compareTo_2.data.toList.drop 0 = dktJ18_compareTo_2_0 := by decide +kernel
theorem dJ18_compareTo_2_0 : decode cJ18_compareTo_2 0 = .ok (.aload_n 0, 1) := dk_42 (dk_at dksJ18_compareTo_2_0 0 rfl rfl)
theorem dJ18_compareTo_2_1 : decode cJ18_compareTo_2 1 = .ok (.getfield 205, 3) := dk_180 0 205 (dk_at dksJ18_compareTo_2_0 1 rfl rfl)
theorem dJ18_compareTo_2_4 : decode cJ18_compareTo_2 4 = .ok (.aload_n 1, 1) := dk_43 (dk_at dksJ18_compareTo_2_0 4 rfl rfl)
theorem dJ18_compareTo_2_5 : decode cJ18_compareTo_2 5 = .ok (.getfield 205, 3) := dk_180 0 205 (dk_at dksJ18_compareTo_2_0 5 rfl rfl)
theorem dJ18_compareTo_2_8 : decode cJ18_compareTo_2 8 = .ok (.invokestatic 259, 3) := dk_184 1 3 (dk_at dksJ18_compareTo_2_0 8 rfl rfl)
theorem dJ18_compareTo_2_11 : decode cJ18_compareTo_2 11 = .ok (.ireturn, 1) := dk_172 (dk_at dksJ18_compareTo_2_0 11 rfl rfl)
abbrev cJ18_compare : ByteArray := prog_28_method_40_code
def yJ18_compare : MethodName := ⟨RJ18, "compare", "(II)I"⟩
def dkwJ18_compare_0 : List UInt8 := [26, 27, 162, 0, 7, 2, 167, 0, 13, 26, 27, 160, 0, 7, 3, 167, 0, 4, 4, 172]
abbrev dktJ18_compare_0 : List UInt8 := dkwJ18_compare_0 ++ []
theorem dksJ18_compare_0 : cJ18_compare.data.toList.drop 0 = dktJ18_compare_0 := by decide +kernel
theorem dJ18_compare_0 : decode cJ18_compare 0 = .ok (.iload_n 0, 1) := dk_26 (dk_at dksJ18_compare_0 0 rfl rfl)
theorem dJ18_compare_1 : decode cJ18_compare 1 = .ok (.iload_n 1, 1) := dk_27 (dk_at dksJ18_compare_0 1 rfl rfl)
theorem dJ18_compare_2 : decode cJ18_compare 2 = .ok (.if_icmp .ge 7, 3) := dk_162 0 7 (dk_at dksJ18_compare_0 2 rfl rfl)
theorem dJ18_compare_5 : decode cJ18_compare 5 = .ok (.iconst (-1), 1) := dk_2 (dk_at dksJ18_compare_0 5 rfl rfl)
theorem dJ18_compare_6 : decode cJ18_compare 6 = .ok (.goto 13, 3) := dk_167 0 13 (dk_at dksJ18_compare_0 6 rfl rfl)
theorem dJ18_compare_9 : decode cJ18_compare 9 = .ok (.iload_n 0, 1) := dk_26 (dk_at dksJ18_compare_0 9 rfl rfl)
theorem dJ18_compare_10 : decode cJ18_compare 10 = .ok (.iload_n 1, 1) := dk_27 (dk_at dksJ18_compare_0 10 rfl rfl)
theorem dJ18_compare_11 : decode cJ18_compare 11 = .ok (.if_icmp .ne 7, 3) := dk_160 0 7 (dk_at dksJ18_compare_0 11 rfl rfl)
theorem dJ18_compare_14 : decode cJ18_compare 14 = .ok (.iconst 0, 1) := dk_3 (dk_at dksJ18_compare_0 14 rfl rfl)
theorem dJ18_compare_15 : decode cJ18_compare 15 = .ok (.goto 4, 3) := dk_167 0 4 (dk_at dksJ18_compare_0 15 rfl rfl)
theorem dJ18_compare_18 : decode cJ18_compare 18 = .ok (.iconst 1, 1) := dk_4 (dk_at dksJ18_compare_0 18 rfl rfl)
theorem dJ18_compare_19 : decode cJ18_compare 19 = .ok (.ireturn, 1) := dk_172 (dk_at dksJ18_compare_0 19 rfl rfl)
abbrev cJ18_numberOfLeadingZeros : ByteArray := prog_28_method_47_code
def yJ18_numberOfLeadingZeros : MethodName := ⟨RJ18, "numberOfLeadingZeros", "(I)I"⟩
def dkwJ18_numberOfLeadingZeros_3 : List UInt8 := [5, 124, 59, 27, 26, 4, 124, 100, 172]
abbrev dktJ18_numberOfLeadingZeros_3 : List UInt8 := dkwJ18_numberOfLeadingZeros_3 ++ []
def dkwJ18_numberOfLeadingZeros_2 : List UInt8 := [124, 59, 26, 16, 16, 161, 0, 10, 132, 1, 252, 26, 7, 124, 59, 26, 7, 161, 0, 10, 132, 1, 254, 26]
abbrev dktJ18_numberOfLeadingZeros_2 : List UInt8 := dkwJ18_numberOfLeadingZeros_2 ++ dktJ18_numberOfLeadingZeros_3
def dkwJ18_numberOfLeadingZeros_1 : List UInt8 := [161, 0, 11, 132, 1, 240, 26, 16, 16, 124, 59, 26, 17, 1, 0, 161, 0, 11, 132, 1, 248, 26, 16, 8]
abbrev dktJ18_numberOfLeadingZeros_1 : List UInt8 := dkwJ18_numberOfLeadingZeros_1 ++ dktJ18_numberOfLeadingZeros_2
def dkwJ18_numberOfLeadingZeros_0 : List UInt8 := [26, 157, 0, 14, 26, 154, 0, 8, 16, 32, 167, 0, 4, 3, 172, 16, 31, 60, 26, 19, 1, 8]
abbrev dktJ18_numberOfLeadingZeros_0 : List UInt8 := dkwJ18_numberOfLeadingZeros_0 ++ dktJ18_numberOfLeadingZeros_1
theorem dksJ18_numberOfLeadingZeros_0 : cJ18_numberOfLeadingZeros.data.toList.drop 0 = dktJ18_numberOfLeadingZeros_0 := by decide +kernel
theorem dksJ18_numberOfLeadingZeros_1 : cJ18_numberOfLeadingZeros.data.toList.drop 22 = dktJ18_numberOfLeadingZeros_1 := dk_seg dksJ18_numberOfLeadingZeros_0 22 rfl rfl
theorem dksJ18_numberOfLeadingZeros_2 : cJ18_numberOfLeadingZeros.data.toList.drop 46 = dktJ18_numberOfLeadingZeros_2 := dk_seg dksJ18_numberOfLeadingZeros_1 24 rfl rfl
theorem dksJ18_numberOfLeadingZeros_3 : cJ18_numberOfLeadingZeros.data.toList.drop 70 = dktJ18_numberOfLeadingZeros_3 := dk_seg dksJ18_numberOfLeadingZeros_2 24 rfl rfl
theorem dJ18_numberOfLeadingZeros_0 : decode cJ18_numberOfLeadingZeros 0 = .ok (.iload_n 0, 1) := dk_26 (dk_at dksJ18_numberOfLeadingZeros_0 0 rfl rfl)
theorem dJ18_numberOfLeadingZeros_1 : decode cJ18_numberOfLeadingZeros 1 = .ok (.ifCond .gt 14, 3) := dk_157 0 14 (dk_at dksJ18_numberOfLeadingZeros_0 1 rfl rfl)
theorem dJ18_numberOfLeadingZeros_4 : decode cJ18_numberOfLeadingZeros 4 = .ok (.iload_n 0, 1) := dk_26 (dk_at dksJ18_numberOfLeadingZeros_0 4 rfl rfl)
theorem dJ18_numberOfLeadingZeros_5 : decode cJ18_numberOfLeadingZeros 5 = .ok (.ifCond .ne 8, 3) := dk_154 0 8 (dk_at dksJ18_numberOfLeadingZeros_0 5 rfl rfl)
theorem dJ18_numberOfLeadingZeros_8 : decode cJ18_numberOfLeadingZeros 8 = .ok (.bipush 32, 2) := dk_16 32 (dk_at dksJ18_numberOfLeadingZeros_0 8 rfl rfl)
theorem dJ18_numberOfLeadingZeros_10 : decode cJ18_numberOfLeadingZeros 10 = .ok (.goto 4, 3) := dk_167 0 4 (dk_at dksJ18_numberOfLeadingZeros_0 10 rfl rfl)
theorem dJ18_numberOfLeadingZeros_13 : decode cJ18_numberOfLeadingZeros 13 = .ok (.iconst 0, 1) := dk_3 (dk_at dksJ18_numberOfLeadingZeros_0 13 rfl rfl)
theorem dJ18_numberOfLeadingZeros_14 : decode cJ18_numberOfLeadingZeros 14 = .ok (.ireturn, 1) := dk_172 (dk_at dksJ18_numberOfLeadingZeros_0 14 rfl rfl)
theorem dJ18_numberOfLeadingZeros_15 : decode cJ18_numberOfLeadingZeros 15 = .ok (.bipush 31, 2) := dk_16 31 (dk_at dksJ18_numberOfLeadingZeros_0 15 rfl rfl)
theorem dJ18_numberOfLeadingZeros_17 : decode cJ18_numberOfLeadingZeros 17 = .ok (.istore_n 1, 1) := dk_60 (dk_at dksJ18_numberOfLeadingZeros_0 17 rfl rfl)
theorem dJ18_numberOfLeadingZeros_18 : decode cJ18_numberOfLeadingZeros 18 = .ok (.iload_n 0, 1) := dk_26 (dk_at dksJ18_numberOfLeadingZeros_0 18 rfl rfl)
theorem dJ18_numberOfLeadingZeros_19 : decode cJ18_numberOfLeadingZeros 19 = .ok (.ldc_w 264, 3) := dk_19 1 8 (dk_at dksJ18_numberOfLeadingZeros_0 19 rfl rfl)
theorem dJ18_numberOfLeadingZeros_22 : decode cJ18_numberOfLeadingZeros 22 = .ok (.if_icmp .lt 11, 3) := dk_161 0 11 (dk_at dksJ18_numberOfLeadingZeros_1 0 rfl rfl)
theorem dJ18_numberOfLeadingZeros_25 : decode cJ18_numberOfLeadingZeros 25 = .ok (.iinc 1 (-16), 3) := dk_132 1 240 (dk_at dksJ18_numberOfLeadingZeros_1 3 rfl rfl)
theorem dJ18_numberOfLeadingZeros_28 : decode cJ18_numberOfLeadingZeros 28 = .ok (.iload_n 0, 1) := dk_26 (dk_at dksJ18_numberOfLeadingZeros_1 6 rfl rfl)
theorem dJ18_numberOfLeadingZeros_29 : decode cJ18_numberOfLeadingZeros 29 = .ok (.bipush 16, 2) := dk_16 16 (dk_at dksJ18_numberOfLeadingZeros_1 7 rfl rfl)
theorem dJ18_numberOfLeadingZeros_31 : decode cJ18_numberOfLeadingZeros 31 = .ok (.iushr, 1) := dk_124 (dk_at dksJ18_numberOfLeadingZeros_1 9 rfl rfl)
theorem dJ18_numberOfLeadingZeros_32 : decode cJ18_numberOfLeadingZeros 32 = .ok (.istore_n 0, 1) := dk_59 (dk_at dksJ18_numberOfLeadingZeros_1 10 rfl rfl)
theorem dJ18_numberOfLeadingZeros_33 : decode cJ18_numberOfLeadingZeros 33 = .ok (.iload_n 0, 1) := dk_26 (dk_at dksJ18_numberOfLeadingZeros_1 11 rfl rfl)
theorem dJ18_numberOfLeadingZeros_34 : decode cJ18_numberOfLeadingZeros 34 = .ok (.sipush 256, 3) := dk_17 1 0 (dk_at dksJ18_numberOfLeadingZeros_1 12 rfl rfl)
theorem dJ18_numberOfLeadingZeros_37 : decode cJ18_numberOfLeadingZeros 37 = .ok (.if_icmp .lt 11, 3) := dk_161 0 11 (dk_at dksJ18_numberOfLeadingZeros_1 15 rfl rfl)
theorem dJ18_numberOfLeadingZeros_40 : decode cJ18_numberOfLeadingZeros 40 = .ok (.iinc 1 (-8), 3) := dk_132 1 248 (dk_at dksJ18_numberOfLeadingZeros_1 18 rfl rfl)
theorem dJ18_numberOfLeadingZeros_43 : decode cJ18_numberOfLeadingZeros 43 = .ok (.iload_n 0, 1) := dk_26 (dk_at dksJ18_numberOfLeadingZeros_1 21 rfl rfl)
theorem dJ18_numberOfLeadingZeros_44 : decode cJ18_numberOfLeadingZeros 44 = .ok (.bipush 8, 2) := dk_16 8 (dk_at dksJ18_numberOfLeadingZeros_1 22 rfl rfl)
theorem dJ18_numberOfLeadingZeros_46 : decode cJ18_numberOfLeadingZeros 46 = .ok (.iushr, 1) := dk_124 (dk_at dksJ18_numberOfLeadingZeros_2 0 rfl rfl)
theorem dJ18_numberOfLeadingZeros_47 : decode cJ18_numberOfLeadingZeros 47 = .ok (.istore_n 0, 1) := dk_59 (dk_at dksJ18_numberOfLeadingZeros_2 1 rfl rfl)
theorem dJ18_numberOfLeadingZeros_48 : decode cJ18_numberOfLeadingZeros 48 = .ok (.iload_n 0, 1) := dk_26 (dk_at dksJ18_numberOfLeadingZeros_2 2 rfl rfl)
theorem dJ18_numberOfLeadingZeros_49 : decode cJ18_numberOfLeadingZeros 49 = .ok (.bipush 16, 2) := dk_16 16 (dk_at dksJ18_numberOfLeadingZeros_2 3 rfl rfl)
theorem dJ18_numberOfLeadingZeros_51 : decode cJ18_numberOfLeadingZeros 51 = .ok (.if_icmp .lt 10, 3) := dk_161 0 10 (dk_at dksJ18_numberOfLeadingZeros_2 5 rfl rfl)
theorem dJ18_numberOfLeadingZeros_54 : decode cJ18_numberOfLeadingZeros 54 = .ok (.iinc 1 (-4), 3) := dk_132 1 252 (dk_at dksJ18_numberOfLeadingZeros_2 8 rfl rfl)
theorem dJ18_numberOfLeadingZeros_57 : decode cJ18_numberOfLeadingZeros 57 = .ok (.iload_n 0, 1) := dk_26 (dk_at dksJ18_numberOfLeadingZeros_2 11 rfl rfl)
theorem dJ18_numberOfLeadingZeros_58 : decode cJ18_numberOfLeadingZeros 58 = .ok (.iconst 4, 1) := dk_7 (dk_at dksJ18_numberOfLeadingZeros_2 12 rfl rfl)
theorem dJ18_numberOfLeadingZeros_59 : decode cJ18_numberOfLeadingZeros 59 = .ok (.iushr, 1) := dk_124 (dk_at dksJ18_numberOfLeadingZeros_2 13 rfl rfl)
theorem dJ18_numberOfLeadingZeros_60 : decode cJ18_numberOfLeadingZeros 60 = .ok (.istore_n 0, 1) := dk_59 (dk_at dksJ18_numberOfLeadingZeros_2 14 rfl rfl)
theorem dJ18_numberOfLeadingZeros_61 : decode cJ18_numberOfLeadingZeros 61 = .ok (.iload_n 0, 1) := dk_26 (dk_at dksJ18_numberOfLeadingZeros_2 15 rfl rfl)
theorem dJ18_numberOfLeadingZeros_62 : decode cJ18_numberOfLeadingZeros 62 = .ok (.iconst 4, 1) := dk_7 (dk_at dksJ18_numberOfLeadingZeros_2 16 rfl rfl)
theorem dJ18_numberOfLeadingZeros_63 : decode cJ18_numberOfLeadingZeros 63 = .ok (.if_icmp .lt 10, 3) := dk_161 0 10 (dk_at dksJ18_numberOfLeadingZeros_2 17 rfl rfl)
theorem dJ18_numberOfLeadingZeros_66 : decode cJ18_numberOfLeadingZeros 66 = .ok (.iinc 1 (-2), 3) := dk_132 1 254 (dk_at dksJ18_numberOfLeadingZeros_2 20 rfl rfl)
theorem dJ18_numberOfLeadingZeros_69 : decode cJ18_numberOfLeadingZeros 69 = .ok (.iload_n 0, 1) := dk_26 (dk_at dksJ18_numberOfLeadingZeros_2 23 rfl rfl)
theorem dJ18_numberOfLeadingZeros_70 : decode cJ18_numberOfLeadingZeros 70 = .ok (.iconst 2, 1) := dk_5 (dk_at dksJ18_numberOfLeadingZeros_3 0 rfl rfl)
theorem dJ18_numberOfLeadingZeros_71 : decode cJ18_numberOfLeadingZeros 71 = .ok (.iushr, 1) := dk_124 (dk_at dksJ18_numberOfLeadingZeros_3 1 rfl rfl)
theorem dJ18_numberOfLeadingZeros_72 : decode cJ18_numberOfLeadingZeros 72 = .ok (.istore_n 0, 1) := dk_59 (dk_at dksJ18_numberOfLeadingZeros_3 2 rfl rfl)
theorem dJ18_numberOfLeadingZeros_73 : decode cJ18_numberOfLeadingZeros 73 = .ok (.iload_n 1, 1) := dk_27 (dk_at dksJ18_numberOfLeadingZeros_3 3 rfl rfl)
theorem dJ18_numberOfLeadingZeros_74 : decode cJ18_numberOfLeadingZeros 74 = .ok (.iload_n 0, 1) := dk_26 (dk_at dksJ18_numberOfLeadingZeros_3 4 rfl rfl)
theorem dJ18_numberOfLeadingZeros_75 : decode cJ18_numberOfLeadingZeros 75 = .ok (.iconst 1, 1) := dk_4 (dk_at dksJ18_numberOfLeadingZeros_3 5 rfl rfl)
theorem dJ18_numberOfLeadingZeros_76 : decode cJ18_numberOfLeadingZeros 76 = .ok (.iushr, 1) := dk_124 (dk_at dksJ18_numberOfLeadingZeros_3 6 rfl rfl)
theorem dJ18_numberOfLeadingZeros_77 : decode cJ18_numberOfLeadingZeros 77 = .ok (.isub, 1) := dk_100 (dk_at dksJ18_numberOfLeadingZeros_3 7 rfl rfl)
theorem dJ18_numberOfLeadingZeros_78 : decode cJ18_numberOfLeadingZeros 78 = .ok (.ireturn, 1) := dk_172 (dk_at dksJ18_numberOfLeadingZeros_3 8 rfl rfl)
abbrev cJ18_numberOfTrailingZeros : ByteArray := prog_28_method_48_code
def yJ18_numberOfTrailingZeros : MethodName := ⟨RJ18, "numberOfTrailingZeros", "(I)I"⟩
def dkwJ18_numberOfTrailingZeros_3 : List UInt8 := [5, 124, 59, 27, 26, 4, 124, 96, 172]
abbrev dktJ18_numberOfTrailingZeros_3 : List UInt8 := dkwJ18_numberOfTrailingZeros_3 ++ []
def dkwJ18_numberOfTrailingZeros_2 : List UInt8 := [124, 59, 26, 16, 16, 164, 0, 10, 132, 1, 4, 26, 7, 124, 59, 26, 7, 164, 0, 10, 132, 1, 2, 26]
abbrev dktJ18_numberOfTrailingZeros_2 : List UInt8 := dkwJ18_numberOfTrailingZeros_2 ++ dktJ18_numberOfTrailingZeros_3
def dkwJ18_numberOfTrailingZeros_1 : List UInt8 := [164, 0, 11, 132, 1, 16, 26, 16, 16, 124, 59, 26, 17, 1, 0, 164, 0, 11, 132, 1, 8, 26, 16, 8]
abbrev dktJ18_numberOfTrailingZeros_1 : List UInt8 := dkwJ18_numberOfTrailingZeros_1 ++ dktJ18_numberOfTrailingZeros_2
def dkwJ18_numberOfTrailingZeros_0 : List UInt8 := [26, 2, 130, 26, 4, 100, 126, 59, 26, 157, 0, 8, 26, 16, 32, 126, 172, 4, 60, 26, 19, 1, 8]
abbrev dktJ18_numberOfTrailingZeros_0 : List UInt8 := dkwJ18_numberOfTrailingZeros_0 ++ dktJ18_numberOfTrailingZeros_1
theorem dksJ18_numberOfTrailingZeros_0 : cJ18_numberOfTrailingZeros.data.toList.drop 0 = dktJ18_numberOfTrailingZeros_0 := by decide +kernel
theorem dksJ18_numberOfTrailingZeros_1 : cJ18_numberOfTrailingZeros.data.toList.drop 23 = dktJ18_numberOfTrailingZeros_1 := dk_seg dksJ18_numberOfTrailingZeros_0 23 rfl rfl
theorem dksJ18_numberOfTrailingZeros_2 : cJ18_numberOfTrailingZeros.data.toList.drop 47 = dktJ18_numberOfTrailingZeros_2 := dk_seg dksJ18_numberOfTrailingZeros_1 24 rfl rfl
theorem dksJ18_numberOfTrailingZeros_3 : cJ18_numberOfTrailingZeros.data.toList.drop 71 = dktJ18_numberOfTrailingZeros_3 := dk_seg dksJ18_numberOfTrailingZeros_2 24 rfl rfl
theorem dJ18_numberOfTrailingZeros_0 : decode cJ18_numberOfTrailingZeros 0 = .ok (.iload_n 0, 1) := dk_26 (dk_at dksJ18_numberOfTrailingZeros_0 0 rfl rfl)
theorem dJ18_numberOfTrailingZeros_1 : decode cJ18_numberOfTrailingZeros 1 = .ok (.iconst (-1), 1) := dk_2 (dk_at dksJ18_numberOfTrailingZeros_0 1 rfl rfl)
theorem dJ18_numberOfTrailingZeros_2 : decode cJ18_numberOfTrailingZeros 2 = .ok (.ixor, 1) := dk_130 (dk_at dksJ18_numberOfTrailingZeros_0 2 rfl rfl)
theorem dJ18_numberOfTrailingZeros_3 : decode cJ18_numberOfTrailingZeros 3 = .ok (.iload_n 0, 1) := dk_26 (dk_at dksJ18_numberOfTrailingZeros_0 3 rfl rfl)
theorem dJ18_numberOfTrailingZeros_4 : decode cJ18_numberOfTrailingZeros 4 = .ok (.iconst 1, 1) := dk_4 (dk_at dksJ18_numberOfTrailingZeros_0 4 rfl rfl)
theorem dJ18_numberOfTrailingZeros_5 : decode cJ18_numberOfTrailingZeros 5 = .ok (.isub, 1) := dk_100 (dk_at dksJ18_numberOfTrailingZeros_0 5 rfl rfl)
theorem dJ18_numberOfTrailingZeros_6 : decode cJ18_numberOfTrailingZeros 6 = .ok (.iand, 1) := dk_126 (dk_at dksJ18_numberOfTrailingZeros_0 6 rfl rfl)
theorem dJ18_numberOfTrailingZeros_7 : decode cJ18_numberOfTrailingZeros 7 = .ok (.istore_n 0, 1) := dk_59 (dk_at dksJ18_numberOfTrailingZeros_0 7 rfl rfl)
theorem dJ18_numberOfTrailingZeros_8 : decode cJ18_numberOfTrailingZeros 8 = .ok (.iload_n 0, 1) := dk_26 (dk_at dksJ18_numberOfTrailingZeros_0 8 rfl rfl)
theorem dJ18_numberOfTrailingZeros_9 : decode cJ18_numberOfTrailingZeros 9 = .ok (.ifCond .gt 8, 3) := dk_157 0 8 (dk_at dksJ18_numberOfTrailingZeros_0 9 rfl rfl)
theorem dJ18_numberOfTrailingZeros_12 : decode cJ18_numberOfTrailingZeros 12 = .ok (.iload_n 0, 1) := dk_26 (dk_at dksJ18_numberOfTrailingZeros_0 12 rfl rfl)
theorem dJ18_numberOfTrailingZeros_13 : decode cJ18_numberOfTrailingZeros 13 = .ok (.bipush 32, 2) := dk_16 32 (dk_at dksJ18_numberOfTrailingZeros_0 13 rfl rfl)
theorem dJ18_numberOfTrailingZeros_15 : decode cJ18_numberOfTrailingZeros 15 = .ok (.iand, 1) := dk_126 (dk_at dksJ18_numberOfTrailingZeros_0 15 rfl rfl)
theorem dJ18_numberOfTrailingZeros_16 : decode cJ18_numberOfTrailingZeros 16 = .ok (.ireturn, 1) := dk_172 (dk_at dksJ18_numberOfTrailingZeros_0 16 rfl rfl)
theorem dJ18_numberOfTrailingZeros_17 : decode cJ18_numberOfTrailingZeros 17 = .ok (.iconst 1, 1) := dk_4 (dk_at dksJ18_numberOfTrailingZeros_0 17 rfl rfl)
theorem dJ18_numberOfTrailingZeros_18 : decode cJ18_numberOfTrailingZeros 18 = .ok (.istore_n 1, 1) := dk_60 (dk_at dksJ18_numberOfTrailingZeros_0 18 rfl rfl)
theorem dJ18_numberOfTrailingZeros_19 : decode cJ18_numberOfTrailingZeros 19 = .ok (.iload_n 0, 1) := dk_26 (dk_at dksJ18_numberOfTrailingZeros_0 19 rfl rfl)
theorem dJ18_numberOfTrailingZeros_20 : decode cJ18_numberOfTrailingZeros 20 = .ok (.ldc_w 264, 3) := dk_19 1 8 (dk_at dksJ18_numberOfTrailingZeros_0 20 rfl rfl)
theorem dJ18_numberOfTrailingZeros_23 : decode cJ18_numberOfTrailingZeros 23 = .ok (.if_icmp .le 11, 3) := dk_164 0 11 (dk_at dksJ18_numberOfTrailingZeros_1 0 rfl rfl)
theorem dJ18_numberOfTrailingZeros_26 : decode cJ18_numberOfTrailingZeros 26 = .ok (.iinc 1 16, 3) := dk_132 1 16 (dk_at dksJ18_numberOfTrailingZeros_1 3 rfl rfl)
theorem dJ18_numberOfTrailingZeros_29 : decode cJ18_numberOfTrailingZeros 29 = .ok (.iload_n 0, 1) := dk_26 (dk_at dksJ18_numberOfTrailingZeros_1 6 rfl rfl)
theorem dJ18_numberOfTrailingZeros_30 : decode cJ18_numberOfTrailingZeros 30 = .ok (.bipush 16, 2) := dk_16 16 (dk_at dksJ18_numberOfTrailingZeros_1 7 rfl rfl)
theorem dJ18_numberOfTrailingZeros_32 : decode cJ18_numberOfTrailingZeros 32 = .ok (.iushr, 1) := dk_124 (dk_at dksJ18_numberOfTrailingZeros_1 9 rfl rfl)
theorem dJ18_numberOfTrailingZeros_33 : decode cJ18_numberOfTrailingZeros 33 = .ok (.istore_n 0, 1) := dk_59 (dk_at dksJ18_numberOfTrailingZeros_1 10 rfl rfl)
theorem dJ18_numberOfTrailingZeros_34 : decode cJ18_numberOfTrailingZeros 34 = .ok (.iload_n 0, 1) := dk_26 (dk_at dksJ18_numberOfTrailingZeros_1 11 rfl rfl)
theorem dJ18_numberOfTrailingZeros_35 : decode cJ18_numberOfTrailingZeros 35 = .ok (.sipush 256, 3) := dk_17 1 0 (dk_at dksJ18_numberOfTrailingZeros_1 12 rfl rfl)
theorem dJ18_numberOfTrailingZeros_38 : decode cJ18_numberOfTrailingZeros 38 = .ok (.if_icmp .le 11, 3) := dk_164 0 11 (dk_at dksJ18_numberOfTrailingZeros_1 15 rfl rfl)
theorem dJ18_numberOfTrailingZeros_41 : decode cJ18_numberOfTrailingZeros 41 = .ok (.iinc 1 8, 3) := dk_132 1 8 (dk_at dksJ18_numberOfTrailingZeros_1 18 rfl rfl)
theorem dJ18_numberOfTrailingZeros_44 : decode cJ18_numberOfTrailingZeros 44 = .ok (.iload_n 0, 1) := dk_26 (dk_at dksJ18_numberOfTrailingZeros_1 21 rfl rfl)
theorem dJ18_numberOfTrailingZeros_45 : decode cJ18_numberOfTrailingZeros 45 = .ok (.bipush 8, 2) := dk_16 8 (dk_at dksJ18_numberOfTrailingZeros_1 22 rfl rfl)
theorem dJ18_numberOfTrailingZeros_47 : decode cJ18_numberOfTrailingZeros 47 = .ok (.iushr, 1) := dk_124 (dk_at dksJ18_numberOfTrailingZeros_2 0 rfl rfl)
theorem dJ18_numberOfTrailingZeros_48 : decode cJ18_numberOfTrailingZeros 48 = .ok (.istore_n 0, 1) := dk_59 (dk_at dksJ18_numberOfTrailingZeros_2 1 rfl rfl)
theorem dJ18_numberOfTrailingZeros_49 : decode cJ18_numberOfTrailingZeros 49 = .ok (.iload_n 0, 1) := dk_26 (dk_at dksJ18_numberOfTrailingZeros_2 2 rfl rfl)
theorem dJ18_numberOfTrailingZeros_50 : decode cJ18_numberOfTrailingZeros 50 = .ok (.bipush 16, 2) := dk_16 16 (dk_at dksJ18_numberOfTrailingZeros_2 3 rfl rfl)
theorem dJ18_numberOfTrailingZeros_52 : decode cJ18_numberOfTrailingZeros 52 = .ok (.if_icmp .le 10, 3) := dk_164 0 10 (dk_at dksJ18_numberOfTrailingZeros_2 5 rfl rfl)
theorem dJ18_numberOfTrailingZeros_55 : decode cJ18_numberOfTrailingZeros 55 = .ok (.iinc 1 4, 3) := dk_132 1 4 (dk_at dksJ18_numberOfTrailingZeros_2 8 rfl rfl)
theorem dJ18_numberOfTrailingZeros_58 : decode cJ18_numberOfTrailingZeros 58 = .ok (.iload_n 0, 1) := dk_26 (dk_at dksJ18_numberOfTrailingZeros_2 11 rfl rfl)
theorem dJ18_numberOfTrailingZeros_59 : decode cJ18_numberOfTrailingZeros 59 = .ok (.iconst 4, 1) := dk_7 (dk_at dksJ18_numberOfTrailingZeros_2 12 rfl rfl)
theorem dJ18_numberOfTrailingZeros_60 : decode cJ18_numberOfTrailingZeros 60 = .ok (.iushr, 1) := dk_124 (dk_at dksJ18_numberOfTrailingZeros_2 13 rfl rfl)
theorem dJ18_numberOfTrailingZeros_61 : decode cJ18_numberOfTrailingZeros 61 = .ok (.istore_n 0, 1) := dk_59 (dk_at dksJ18_numberOfTrailingZeros_2 14 rfl rfl)
theorem dJ18_numberOfTrailingZeros_62 : decode cJ18_numberOfTrailingZeros 62 = .ok (.iload_n 0, 1) := dk_26 (dk_at dksJ18_numberOfTrailingZeros_2 15 rfl rfl)
theorem dJ18_numberOfTrailingZeros_63 : decode cJ18_numberOfTrailingZeros 63 = .ok (.iconst 4, 1) := dk_7 (dk_at dksJ18_numberOfTrailingZeros_2 16 rfl rfl)
theorem dJ18_numberOfTrailingZeros_64 : decode cJ18_numberOfTrailingZeros 64 = .ok (.if_icmp .le 10, 3) := dk_164 0 10 (dk_at dksJ18_numberOfTrailingZeros_2 17 rfl rfl)
theorem dJ18_numberOfTrailingZeros_67 : decode cJ18_numberOfTrailingZeros 67 = .ok (.iinc 1 2, 3) := dk_132 1 2 (dk_at dksJ18_numberOfTrailingZeros_2 20 rfl rfl)
theorem dJ18_numberOfTrailingZeros_70 : decode cJ18_numberOfTrailingZeros 70 = .ok (.iload_n 0, 1) := dk_26 (dk_at dksJ18_numberOfTrailingZeros_2 23 rfl rfl)
theorem dJ18_numberOfTrailingZeros_71 : decode cJ18_numberOfTrailingZeros 71 = .ok (.iconst 2, 1) := dk_5 (dk_at dksJ18_numberOfTrailingZeros_3 0 rfl rfl)
theorem dJ18_numberOfTrailingZeros_72 : decode cJ18_numberOfTrailingZeros 72 = .ok (.iushr, 1) := dk_124 (dk_at dksJ18_numberOfTrailingZeros_3 1 rfl rfl)
theorem dJ18_numberOfTrailingZeros_73 : decode cJ18_numberOfTrailingZeros 73 = .ok (.istore_n 0, 1) := dk_59 (dk_at dksJ18_numberOfTrailingZeros_3 2 rfl rfl)
theorem dJ18_numberOfTrailingZeros_74 : decode cJ18_numberOfTrailingZeros 74 = .ok (.iload_n 1, 1) := dk_27 (dk_at dksJ18_numberOfTrailingZeros_3 3 rfl rfl)
theorem dJ18_numberOfTrailingZeros_75 : decode cJ18_numberOfTrailingZeros 75 = .ok (.iload_n 0, 1) := dk_26 (dk_at dksJ18_numberOfTrailingZeros_3 4 rfl rfl)
theorem dJ18_numberOfTrailingZeros_76 : decode cJ18_numberOfTrailingZeros 76 = .ok (.iconst 1, 1) := dk_4 (dk_at dksJ18_numberOfTrailingZeros_3 5 rfl rfl)
theorem dJ18_numberOfTrailingZeros_77 : decode cJ18_numberOfTrailingZeros 77 = .ok (.iushr, 1) := dk_124 (dk_at dksJ18_numberOfTrailingZeros_3 6 rfl rfl)
theorem dJ18_numberOfTrailingZeros_78 : decode cJ18_numberOfTrailingZeros 78 = .ok (.iadd, 1) := dk_96 (dk_at dksJ18_numberOfTrailingZeros_3 7 rfl rfl)
theorem dJ18_numberOfTrailingZeros_79 : decode cJ18_numberOfTrailingZeros 79 = .ok (.ireturn, 1) := dk_172 (dk_at dksJ18_numberOfTrailingZeros_3 8 rfl rfl)
abbrev cJ18_intValue : ByteArray := prog_28_method_27_code
def yJ18_intValue : MethodName := ⟨RJ18, "intValue", "()I"⟩
theorem dJ18_intValue_0 : decode cJ18_intValue 0 = .ok (.aload_n 0, 1) := by decide +kernel
theorem dJ18_intValue_1 : decode cJ18_intValue 1 = .ok (.getfield 205, 3) := by decide +kernel
theorem dJ18_intValue_4 : decode cJ18_intValue 4 = .ok (.ireturn, 1) := by decide +kernel
abbrev cJ18_valueOf : ByteArray := prog_28_method_22_code
def yJ18_valueOf : MethodName := ⟨RJ18, "valueOf", "(I)Ljava/lang/Integer;"⟩
def dkwJ18_valueOf_1 : List UInt8 := [187, 0, 1, 89, 26, 183, 0, 199, 176]
abbrev dktJ18_valueOf_1 : List UInt8 := dkwJ18_valueOf_1 ++ []
def dkwJ18_valueOf_0 : List UInt8 := [26, 16, 128, 161, 0, 20, 26, 178, 0, 191, 163, 0, 13, 178, 0, 195, 26, 17, 0, 128, 96, 50, 176]
abbrev dktJ18_valueOf_0 : List UInt8 := dkwJ18_valueOf_0 ++ dktJ18_valueOf_1
theorem dksJ18_valueOf_0 : cJ18_valueOf.data.toList.drop 0 = dktJ18_valueOf_0 := by decide +kernel
theorem dksJ18_valueOf_1 : cJ18_valueOf.data.toList.drop 23 = dktJ18_valueOf_1 := dk_seg dksJ18_valueOf_0 23 rfl rfl
theorem dJ18_valueOf_0 : decode cJ18_valueOf 0 = .ok (.iload_n 0, 1) := dk_26 (dk_at dksJ18_valueOf_0 0 rfl rfl)
theorem dJ18_valueOf_1 : decode cJ18_valueOf 1 = .ok (.bipush (-128), 2) := dk_16 128 (dk_at dksJ18_valueOf_0 1 rfl rfl)
theorem dJ18_valueOf_3 : decode cJ18_valueOf 3 = .ok (.if_icmp .lt 20, 3) := dk_161 0 20 (dk_at dksJ18_valueOf_0 3 rfl rfl)
theorem dJ18_valueOf_6 : decode cJ18_valueOf 6 = .ok (.iload_n 0, 1) := dk_26 (dk_at dksJ18_valueOf_0 6 rfl rfl)
theorem dJ18_valueOf_7 : decode cJ18_valueOf 7 = .ok (.getstatic 191, 3) := dk_178 0 191 (dk_at dksJ18_valueOf_0 7 rfl rfl)
theorem dJ18_valueOf_10 : decode cJ18_valueOf 10 = .ok (.if_icmp .gt 13, 3) := dk_163 0 13 (dk_at dksJ18_valueOf_0 10 rfl rfl)
theorem dJ18_valueOf_13 : decode cJ18_valueOf 13 = .ok (.getstatic 195, 3) := dk_178 0 195 (dk_at dksJ18_valueOf_0 13 rfl rfl)
theorem dJ18_valueOf_16 : decode cJ18_valueOf 16 = .ok (.iload_n 0, 1) := dk_26 (dk_at dksJ18_valueOf_0 16 rfl rfl)
theorem dJ18_valueOf_17 : decode cJ18_valueOf 17 = .ok (.sipush 128, 3) := dk_17 0 128 (dk_at dksJ18_valueOf_0 17 rfl rfl)
theorem dJ18_valueOf_20 : decode cJ18_valueOf 20 = .ok (.iadd, 1) := dk_96 (dk_at dksJ18_valueOf_0 20 rfl rfl)
theorem dJ18_valueOf_21 : decode cJ18_valueOf 21 = .ok (.aaload, 1) := dk_50 (dk_at dksJ18_valueOf_0 21 rfl rfl)
theorem dJ18_valueOf_22 : decode cJ18_valueOf 22 = .ok (.areturn, 1) := dk_176 (dk_at dksJ18_valueOf_0 22 rfl rfl)
theorem dJ18_valueOf_23 : decode cJ18_valueOf 23 = .ok (.new 1, 3) := dk_187 0 1 (dk_at dksJ18_valueOf_1 0 rfl rfl)
theorem dJ18_valueOf_26 : decode cJ18_valueOf 26 = .ok (.dup, 1) := dk_89 (dk_at dksJ18_valueOf_1 3 rfl rfl)
theorem dJ18_valueOf_27 : decode cJ18_valueOf 27 = .ok (.iload_n 0, 1) := dk_26 (dk_at dksJ18_valueOf_1 4 rfl rfl)
theorem dJ18_valueOf_28 : decode cJ18_valueOf 28 = .ok (.invokespecial 199, 3) := dk_183 0 199 (dk_at dksJ18_valueOf_1 5 rfl rfl)
theorem dJ18_valueOf_31 : decode cJ18_valueOf 31 = .ok (.areturn, 1) := dk_176 (dk_at dksJ18_valueOf_1 8 rfl rfl)
abbrev cJ18_init : ByteArray := prog_28_method_23_code
def yJ18_init : MethodName := ⟨RJ18, "<init>", "(I)V"⟩
def dkwJ18_init_0 : List UInt8 := [42, 183, 0, 202, 42, 27, 181, 0, 205, 177]
abbrev dktJ18_init_0 : List UInt8 := dkwJ18_init_0 ++ []
theorem dksJ18_init_0 : cJ18_init.data.toList.drop 0 = dktJ18_init_0 := by decide +kernel
theorem dJ18_init_0 : decode cJ18_init 0 = .ok (.aload_n 0, 1) := dk_42 (dk_at dksJ18_init_0 0 rfl rfl)
theorem dJ18_init_1 : decode cJ18_init 1 = .ok (.invokespecial 202, 3) := dk_183 0 202 (dk_at dksJ18_init_0 1 rfl rfl)
theorem dJ18_init_4 : decode cJ18_init 4 = .ok (.aload_n 0, 1) := dk_42 (dk_at dksJ18_init_0 4 rfl rfl)
theorem dJ18_init_5 : decode cJ18_init 5 = .ok (.iload_n 1, 1) := dk_27 (dk_at dksJ18_init_0 5 rfl rfl)
theorem dJ18_init_6 : decode cJ18_init 6 = .ok (.putfield 205, 3) := dk_181 0 205 (dk_at dksJ18_init_0 6 rfl rfl)
theorem dJ18_init_9 : decode cJ18_init 9 = .ok (.return_, 1) := dk_177 (dk_at dksJ18_init_0 9 rfl rfl)
abbrev cJ19_indexOf : ByteArray := prog_38_method_22_code
def yJ19_indexOf : MethodName := ⟨RJ19, "indexOf", "([BIII)I"⟩
def dkwJ19_indexOf_1 : List UInt8 := [161, 0, 5, 2, 172, 42, 27, 28, 29, 184, 0, 95, 172]
abbrev dktJ19_indexOf_1 : List UInt8 := dkwJ19_indexOf_1 ++ []
def dkwJ19_indexOf_0 : List UInt8 := [27, 184, 0, 88, 154, 0, 5, 2, 172, 28, 3, 184, 0, 92, 61, 29, 42, 190, 184, 0, 38, 62, 28, 29]
abbrev dktJ19_indexOf_0 : List UInt8 := dkwJ19_indexOf_0 ++ dktJ19_indexOf_1
theorem dksJ19_indexOf_0 : cJ19_indexOf.data.toList.drop 0 = dktJ19_indexOf_0 := by decide +kernel
theorem dksJ19_indexOf_1 : cJ19_indexOf.data.toList.drop 24 = dktJ19_indexOf_1 := dk_seg dksJ19_indexOf_0 24 rfl rfl
theorem dJ19_indexOf_0 : decode cJ19_indexOf 0 = .ok (.iload_n 1, 1) := dk_27 (dk_at dksJ19_indexOf_0 0 rfl rfl)
theorem dJ19_indexOf_1 : decode cJ19_indexOf 1 = .ok (.invokestatic 88, 3) := dk_184 0 88 (dk_at dksJ19_indexOf_0 1 rfl rfl)
theorem dJ19_indexOf_4 : decode cJ19_indexOf 4 = .ok (.ifCond .ne 5, 3) := dk_154 0 5 (dk_at dksJ19_indexOf_0 4 rfl rfl)
theorem dJ19_indexOf_7 : decode cJ19_indexOf 7 = .ok (.iconst (-1), 1) := dk_2 (dk_at dksJ19_indexOf_0 7 rfl rfl)
theorem dJ19_indexOf_8 : decode cJ19_indexOf 8 = .ok (.ireturn, 1) := dk_172 (dk_at dksJ19_indexOf_0 8 rfl rfl)
theorem dJ19_indexOf_9 : decode cJ19_indexOf 9 = .ok (.iload_n 2, 1) := dk_28 (dk_at dksJ19_indexOf_0 9 rfl rfl)
theorem dJ19_indexOf_10 : decode cJ19_indexOf 10 = .ok (.iconst 0, 1) := dk_3 (dk_at dksJ19_indexOf_0 10 rfl rfl)
theorem dJ19_indexOf_11 : decode cJ19_indexOf 11 = .ok (.invokestatic 92, 3) := dk_184 0 92 (dk_at dksJ19_indexOf_0 11 rfl rfl)
theorem dJ19_indexOf_14 : decode cJ19_indexOf 14 = .ok (.istore_n 2, 1) := dk_61 (dk_at dksJ19_indexOf_0 14 rfl rfl)
theorem dJ19_indexOf_15 : decode cJ19_indexOf 15 = .ok (.iload_n 3, 1) := dk_29 (dk_at dksJ19_indexOf_0 15 rfl rfl)
theorem dJ19_indexOf_16 : decode cJ19_indexOf 16 = .ok (.aload_n 0, 1) := dk_42 (dk_at dksJ19_indexOf_0 16 rfl rfl)
theorem dJ19_indexOf_17 : decode cJ19_indexOf 17 = .ok (.arraylength, 1) := dk_190 (dk_at dksJ19_indexOf_0 17 rfl rfl)
theorem dJ19_indexOf_18 : decode cJ19_indexOf 18 = .ok (.invokestatic 38, 3) := dk_184 0 38 (dk_at dksJ19_indexOf_0 18 rfl rfl)
theorem dJ19_indexOf_21 : decode cJ19_indexOf 21 = .ok (.istore_n 3, 1) := dk_62 (dk_at dksJ19_indexOf_0 21 rfl rfl)
theorem dJ19_indexOf_22 : decode cJ19_indexOf 22 = .ok (.iload_n 2, 1) := dk_28 (dk_at dksJ19_indexOf_0 22 rfl rfl)
theorem dJ19_indexOf_23 : decode cJ19_indexOf 23 = .ok (.iload_n 3, 1) := dk_29 (dk_at dksJ19_indexOf_0 23 rfl rfl)
theorem dJ19_indexOf_24 : decode cJ19_indexOf 24 = .ok (.if_icmp .lt 5, 3) := dk_161 0 5 (dk_at dksJ19_indexOf_1 0 rfl rfl)
theorem dJ19_indexOf_27 : decode cJ19_indexOf 27 = .ok (.iconst (-1), 1) := dk_2 (dk_at dksJ19_indexOf_1 3 rfl rfl)
theorem dJ19_indexOf_28 : decode cJ19_indexOf 28 = .ok (.ireturn, 1) := dk_172 (dk_at dksJ19_indexOf_1 4 rfl rfl)
theorem dJ19_indexOf_29 : decode cJ19_indexOf 29 = .ok (.aload_n 0, 1) := dk_42 (dk_at dksJ19_indexOf_1 5 rfl rfl)
theorem dJ19_indexOf_30 : decode cJ19_indexOf 30 = .ok (.iload_n 1, 1) := dk_27 (dk_at dksJ19_indexOf_1 6 rfl rfl)
theorem dJ19_indexOf_31 : decode cJ19_indexOf 31 = .ok (.iload_n 2, 1) := dk_28 (dk_at dksJ19_indexOf_1 7 rfl rfl)
theorem dJ19_indexOf_32 : decode cJ19_indexOf 32 = .ok (.iload_n 3, 1) := dk_29 (dk_at dksJ19_indexOf_1 8 rfl rfl)
theorem dJ19_indexOf_33 : decode cJ19_indexOf 33 = .ok (.invokestatic 95, 3) := dk_184 0 95 (dk_at dksJ19_indexOf_1 9 rfl rfl)
theorem dJ19_indexOf_36 : decode cJ19_indexOf 36 = .ok (.ireturn, 1) := dk_172 (dk_at dksJ19_indexOf_1 12 rfl rfl)
abbrev cJ19_canEncode : ByteArray := prog_38_method_4_code
def yJ19_canEncode : MethodName := ⟨RJ19, "canEncode", "(I)Z"⟩
def dkwJ19_canEncode_0 : List UInt8 := [26, 155, 0, 14, 26, 17, 0, 255, 163, 0, 7, 4, 167, 0, 4, 3, 172]
abbrev dktJ19_canEncode_0 : List UInt8 := dkwJ19_canEncode_0 ++ []
theorem dksJ19_canEncode_0 : cJ19_canEncode.data.toList.drop 0 = dktJ19_canEncode_0 := by decide +kernel
theorem dJ19_canEncode_0 : decode cJ19_canEncode 0 = .ok (.iload_n 0, 1) := dk_26 (dk_at dksJ19_canEncode_0 0 rfl rfl)
theorem dJ19_canEncode_1 : decode cJ19_canEncode 1 = .ok (.ifCond .lt 14, 3) := dk_155 0 14 (dk_at dksJ19_canEncode_0 1 rfl rfl)
theorem dJ19_canEncode_4 : decode cJ19_canEncode 4 = .ok (.iload_n 0, 1) := dk_26 (dk_at dksJ19_canEncode_0 4 rfl rfl)
theorem dJ19_canEncode_5 : decode cJ19_canEncode 5 = .ok (.sipush 255, 3) := dk_17 0 255 (dk_at dksJ19_canEncode_0 5 rfl rfl)
theorem dJ19_canEncode_8 : decode cJ19_canEncode 8 = .ok (.if_icmp .gt 7, 3) := dk_163 0 7 (dk_at dksJ19_canEncode_0 8 rfl rfl)
theorem dJ19_canEncode_11 : decode cJ19_canEncode 11 = .ok (.iconst 1, 1) := dk_4 (dk_at dksJ19_canEncode_0 11 rfl rfl)
theorem dJ19_canEncode_12 : decode cJ19_canEncode 12 = .ok (.goto 4, 3) := dk_167 0 4 (dk_at dksJ19_canEncode_0 12 rfl rfl)
theorem dJ19_canEncode_15 : decode cJ19_canEncode 15 = .ok (.iconst 0, 1) := dk_3 (dk_at dksJ19_canEncode_0 15 rfl rfl)
theorem dJ19_canEncode_16 : decode cJ19_canEncode 16 = .ok (.ireturn, 1) := dk_172 (dk_at dksJ19_canEncode_0 16 rfl rfl)
abbrev cJ19_indexOfChar : ByteArray := prog_38_method_23_code
def yJ19_indexOfChar : MethodName := ⟨RJ19, "indexOfChar", "([BIII)I"⟩
def dkwJ19_indexOfChar_1 : List UInt8 := [172, 132, 5, 1, 167, 255, 235, 2, 172]
abbrev dktJ19_indexOfChar_1 : List UInt8 := dkwJ19_indexOfChar_1 ++ []
def dkwJ19_indexOfChar_0 : List UInt8 := [27, 145, 54, 4, 28, 54, 5, 21, 5, 29, 162, 0, 21, 42, 21, 5, 51, 21, 4, 160, 0, 6, 21, 5]
abbrev dktJ19_indexOfChar_0 : List UInt8 := dkwJ19_indexOfChar_0 ++ dktJ19_indexOfChar_1
theorem dksJ19_indexOfChar_0 : cJ19_indexOfChar.data.toList.drop 0 = dktJ19_indexOfChar_0 := by decide +kernel
theorem dksJ19_indexOfChar_1 : cJ19_indexOfChar.data.toList.drop 24 = dktJ19_indexOfChar_1 := dk_seg dksJ19_indexOfChar_0 24 rfl rfl
theorem dJ19_indexOfChar_0 : decode cJ19_indexOfChar 0 = .ok (.iload_n 1, 1) := dk_27 (dk_at dksJ19_indexOfChar_0 0 rfl rfl)
theorem dJ19_indexOfChar_1 : decode cJ19_indexOfChar 1 = .ok (.i2b, 1) := dk_145 (dk_at dksJ19_indexOfChar_0 1 rfl rfl)
theorem dJ19_indexOfChar_2 : decode cJ19_indexOfChar 2 = .ok (.istore 4, 2) := dk_54 4 (dk_at dksJ19_indexOfChar_0 2 rfl rfl)
theorem dJ19_indexOfChar_4 : decode cJ19_indexOfChar 4 = .ok (.iload_n 2, 1) := dk_28 (dk_at dksJ19_indexOfChar_0 4 rfl rfl)
theorem dJ19_indexOfChar_5 : decode cJ19_indexOfChar 5 = .ok (.istore 5, 2) := dk_54 5 (dk_at dksJ19_indexOfChar_0 5 rfl rfl)
theorem dJ19_indexOfChar_7 : decode cJ19_indexOfChar 7 = .ok (.iload 5, 2) := dk_21 5 (dk_at dksJ19_indexOfChar_0 7 rfl rfl)
theorem dJ19_indexOfChar_9 : decode cJ19_indexOfChar 9 = .ok (.iload_n 3, 1) := dk_29 (dk_at dksJ19_indexOfChar_0 9 rfl rfl)
theorem dJ19_indexOfChar_10 : decode cJ19_indexOfChar 10 = .ok (.if_icmp .ge 21, 3) := dk_162 0 21 (dk_at dksJ19_indexOfChar_0 10 rfl rfl)
theorem dJ19_indexOfChar_13 : decode cJ19_indexOfChar 13 = .ok (.aload_n 0, 1) := dk_42 (dk_at dksJ19_indexOfChar_0 13 rfl rfl)
theorem dJ19_indexOfChar_14 : decode cJ19_indexOfChar 14 = .ok (.iload 5, 2) := dk_21 5 (dk_at dksJ19_indexOfChar_0 14 rfl rfl)
theorem dJ19_indexOfChar_16 : decode cJ19_indexOfChar 16 = .ok (.baload, 1) := dk_51 (dk_at dksJ19_indexOfChar_0 16 rfl rfl)
theorem dJ19_indexOfChar_17 : decode cJ19_indexOfChar 17 = .ok (.iload 4, 2) := dk_21 4 (dk_at dksJ19_indexOfChar_0 17 rfl rfl)
theorem dJ19_indexOfChar_19 : decode cJ19_indexOfChar 19 = .ok (.if_icmp .ne 6, 3) := dk_160 0 6 (dk_at dksJ19_indexOfChar_0 19 rfl rfl)
theorem dJ19_indexOfChar_22 : decode cJ19_indexOfChar 22 = .ok (.iload 5, 2) := dk_21 5 (dk_at dksJ19_indexOfChar_0 22 rfl rfl)
theorem dJ19_indexOfChar_24 : decode cJ19_indexOfChar 24 = .ok (.ireturn, 1) := dk_172 (dk_at dksJ19_indexOfChar_1 0 rfl rfl)
theorem dJ19_indexOfChar_25 : decode cJ19_indexOfChar 25 = .ok (.iinc 5 1, 3) := dk_132 5 1 (dk_at dksJ19_indexOfChar_1 1 rfl rfl)
theorem dJ19_indexOfChar_28 : decode cJ19_indexOfChar 28 = .ok (.goto (-21), 3) := dk_167 255 235 (dk_at dksJ19_indexOfChar_1 4 rfl rfl)
theorem dJ19_indexOfChar_31 : decode cJ19_indexOfChar 31 = .ok (.iconst (-1), 1) := dk_2 (dk_at dksJ19_indexOfChar_1 7 rfl rfl)
theorem dJ19_indexOfChar_32 : decode cJ19_indexOfChar 32 = .ok (.ireturn, 1) := dk_172 (dk_at dksJ19_indexOfChar_1 8 rfl rfl)
abbrev cJ19_inflate : ByteArray := prog_38_method_50_code
def yJ19_inflate : MethodName := ⟨RJ19, "inflate", "([BI[BII)V"⟩
def dkwJ19_inflate_0 : List UInt8 := [42, 27, 44, 29, 21, 4, 184, 0, 240, 177]
abbrev dktJ19_inflate_0 : List UInt8 := dkwJ19_inflate_0 ++ []
theorem dksJ19_inflate_0 : cJ19_inflate.data.toList.drop 0 = dktJ19_inflate_0 := by decide +kernel
theorem dJ19_inflate_0 : decode cJ19_inflate 0 = .ok (.aload_n 0, 1) := dk_42 (dk_at dksJ19_inflate_0 0 rfl rfl)
theorem dJ19_inflate_1 : decode cJ19_inflate 1 = .ok (.iload_n 1, 1) := dk_27 (dk_at dksJ19_inflate_0 1 rfl rfl)
theorem dJ19_inflate_2 : decode cJ19_inflate 2 = .ok (.aload_n 2, 1) := dk_44 (dk_at dksJ19_inflate_0 2 rfl rfl)
theorem dJ19_inflate_3 : decode cJ19_inflate 3 = .ok (.iload_n 3, 1) := dk_29 (dk_at dksJ19_inflate_0 3 rfl rfl)
theorem dJ19_inflate_4 : decode cJ19_inflate 4 = .ok (.iload 4, 2) := dk_21 4 (dk_at dksJ19_inflate_0 4 rfl rfl)
theorem dJ19_inflate_6 : decode cJ19_inflate 6 = .ok (.invokestatic 240, 3) := dk_184 0 240 (dk_at dksJ19_inflate_0 6 rfl rfl)
theorem dJ19_inflate_9 : decode cJ19_inflate 9 = .ok (.return_, 1) := dk_177 (dk_at dksJ19_inflate_0 9 rfl rfl)
abbrev cJ19_compareTo : ByteArray := prog_38_method_14_code
def yJ19_compareTo : MethodName := ⟨RJ19, "compareTo", "([B[B)I"⟩
def dkwJ19_compareTo_0 : List UInt8 := [42, 190, 61, 43, 190, 62, 42, 43, 28, 29, 184, 0, 34, 172]
abbrev dktJ19_compareTo_0 : List UInt8 := dkwJ19_compareTo_0 ++ []
theorem dksJ19_compareTo_0 : cJ19_compareTo.data.toList.drop 0 = dktJ19_compareTo_0 := by decide +kernel
theorem dJ19_compareTo_0 : decode cJ19_compareTo 0 = .ok (.aload_n 0, 1) := dk_42 (dk_at dksJ19_compareTo_0 0 rfl rfl)
theorem dJ19_compareTo_1 : decode cJ19_compareTo 1 = .ok (.arraylength, 1) := dk_190 (dk_at dksJ19_compareTo_0 1 rfl rfl)
theorem dJ19_compareTo_2 : decode cJ19_compareTo 2 = .ok (.istore_n 2, 1) := dk_61 (dk_at dksJ19_compareTo_0 2 rfl rfl)
theorem dJ19_compareTo_3 : decode cJ19_compareTo 3 = .ok (.aload_n 1, 1) := dk_43 (dk_at dksJ19_compareTo_0 3 rfl rfl)
theorem dJ19_compareTo_4 : decode cJ19_compareTo 4 = .ok (.arraylength, 1) := dk_190 (dk_at dksJ19_compareTo_0 4 rfl rfl)
theorem dJ19_compareTo_5 : decode cJ19_compareTo 5 = .ok (.istore_n 3, 1) := dk_62 (dk_at dksJ19_compareTo_0 5 rfl rfl)
theorem dJ19_compareTo_6 : decode cJ19_compareTo 6 = .ok (.aload_n 0, 1) := dk_42 (dk_at dksJ19_compareTo_0 6 rfl rfl)
theorem dJ19_compareTo_7 : decode cJ19_compareTo 7 = .ok (.aload_n 1, 1) := dk_43 (dk_at dksJ19_compareTo_0 7 rfl rfl)
theorem dJ19_compareTo_8 : decode cJ19_compareTo 8 = .ok (.iload_n 2, 1) := dk_28 (dk_at dksJ19_compareTo_0 8 rfl rfl)
theorem dJ19_compareTo_9 : decode cJ19_compareTo 9 = .ok (.iload_n 3, 1) := dk_29 (dk_at dksJ19_compareTo_0 9 rfl rfl)
theorem dJ19_compareTo_10 : decode cJ19_compareTo 10 = .ok (.invokestatic 34, 3) := dk_184 0 34 (dk_at dksJ19_compareTo_0 10 rfl rfl)
theorem dJ19_compareTo_13 : decode cJ19_compareTo 13 = .ok (.ireturn, 1) := dk_172 (dk_at dksJ19_compareTo_0 13 rfl rfl)
abbrev cJ19_compareTo_2 : ByteArray := prog_38_method_15_code
def yJ19_compareTo_2 : MethodName := ⟨RJ19, "compareTo", "([B[BII)I"⟩
def dkwJ19_compareTo_2_1 : List UInt8 := [167, 0, 16, 42, 21, 5, 184, 0, 50, 43, 21, 5, 184, 0, 50, 100, 172]
abbrev dktJ19_compareTo_2_1 : List UInt8 := dkwJ19_compareTo_2_1 ++ []
def dkwJ19_compareTo_2_0 : List UInt8 := [28, 29, 184, 0, 38, 54, 4, 42, 43, 21, 4, 184, 0, 44, 54, 5, 21, 5, 156, 0, 9, 28, 29, 100]
abbrev dktJ19_compareTo_2_0 : List UInt8 := dkwJ19_compareTo_2_0 ++ dktJ19_compareTo_2_1
theorem dksJ19_compareTo_2_0 : cJ19_compareTo_2.data.toList.drop 0 = dktJ19_compareTo_2_0 := by decide +kernel
theorem dksJ19_compareTo_2_1 : cJ19_compareTo_2.data.toList.drop 24 = dktJ19_compareTo_2_1 := dk_seg dksJ19_compareTo_2_0 24 rfl rfl
theorem dJ19_compareTo_2_0 : decode cJ19_compareTo_2 0 = .ok (.iload_n 2, 1) := dk_28 (dk_at dksJ19_compareTo_2_0 0 rfl rfl)
theorem dJ19_compareTo_2_1 : decode cJ19_compareTo_2 1 = .ok (.iload_n 3, 1) := dk_29 (dk_at dksJ19_compareTo_2_0 1 rfl rfl)
theorem dJ19_compareTo_2_2 : decode cJ19_compareTo_2 2 = .ok (.invokestatic 38, 3) := dk_184 0 38 (dk_at dksJ19_compareTo_2_0 2 rfl rfl)
theorem dJ19_compareTo_2_5 : decode cJ19_compareTo_2 5 = .ok (.istore 4, 2) := dk_54 4 (dk_at dksJ19_compareTo_2_0 5 rfl rfl)
theorem dJ19_compareTo_2_7 : decode cJ19_compareTo_2 7 = .ok (.aload_n 0, 1) := dk_42 (dk_at dksJ19_compareTo_2_0 7 rfl rfl)
theorem dJ19_compareTo_2_8 : decode cJ19_compareTo_2 8 = .ok (.aload_n 1, 1) := dk_43 (dk_at dksJ19_compareTo_2_0 8 rfl rfl)
theorem dJ19_compareTo_2_9 : decode cJ19_compareTo_2 9 = .ok (.iload 4, 2) := dk_21 4 (dk_at dksJ19_compareTo_2_0 9 rfl rfl)
theorem dJ19_compareTo_2_11 : decode cJ19_compareTo_2 11 = .ok (.invokestatic 44, 3) := dk_184 0 44 (dk_at dksJ19_compareTo_2_0 11 rfl rfl)
theorem dJ19_compareTo_2_14 : decode cJ19_compareTo_2 14 = .ok (.istore 5, 2) := dk_54 5 (dk_at dksJ19_compareTo_2_0 14 rfl rfl)
theorem dJ19_compareTo_2_16 : decode cJ19_compareTo_2 16 = .ok (.iload 5, 2) := dk_21 5 (dk_at dksJ19_compareTo_2_0 16 rfl rfl)
theorem dJ19_compareTo_2_18 : decode cJ19_compareTo_2 18 = .ok (.ifCond .ge 9, 3) := dk_156 0 9 (dk_at dksJ19_compareTo_2_0 18 rfl rfl)
theorem dJ19_compareTo_2_21 : decode cJ19_compareTo_2 21 = .ok (.iload_n 2, 1) := dk_28 (dk_at dksJ19_compareTo_2_0 21 rfl rfl)
theorem dJ19_compareTo_2_22 : decode cJ19_compareTo_2 22 = .ok (.iload_n 3, 1) := dk_29 (dk_at dksJ19_compareTo_2_0 22 rfl rfl)
theorem dJ19_compareTo_2_23 : decode cJ19_compareTo_2 23 = .ok (.isub, 1) := dk_100 (dk_at dksJ19_compareTo_2_0 23 rfl rfl)
theorem dJ19_compareTo_2_24 : decode cJ19_compareTo_2 24 = .ok (.goto 16, 3) := dk_167 0 16 (dk_at dksJ19_compareTo_2_1 0 rfl rfl)
theorem dJ19_compareTo_2_27 : decode cJ19_compareTo_2 27 = .ok (.aload_n 0, 1) := dk_42 (dk_at dksJ19_compareTo_2_1 3 rfl rfl)
theorem dJ19_compareTo_2_28 : decode cJ19_compareTo_2 28 = .ok (.iload 5, 2) := dk_21 5 (dk_at dksJ19_compareTo_2_1 4 rfl rfl)
theorem dJ19_compareTo_2_30 : decode cJ19_compareTo_2 30 = .ok (.invokestatic 50, 3) := dk_184 0 50 (dk_at dksJ19_compareTo_2_1 6 rfl rfl)
theorem dJ19_compareTo_2_33 : decode cJ19_compareTo_2 33 = .ok (.aload_n 1, 1) := dk_43 (dk_at dksJ19_compareTo_2_1 9 rfl rfl)
theorem dJ19_compareTo_2_34 : decode cJ19_compareTo_2 34 = .ok (.iload 5, 2) := dk_21 5 (dk_at dksJ19_compareTo_2_1 10 rfl rfl)
theorem dJ19_compareTo_2_36 : decode cJ19_compareTo_2 36 = .ok (.invokestatic 50, 3) := dk_184 0 50 (dk_at dksJ19_compareTo_2_1 12 rfl rfl)
theorem dJ19_compareTo_2_39 : decode cJ19_compareTo_2 39 = .ok (.isub, 1) := dk_100 (dk_at dksJ19_compareTo_2_1 15 rfl rfl)
theorem dJ19_compareTo_2_40 : decode cJ19_compareTo_2 40 = .ok (.ireturn, 1) := dk_172 (dk_at dksJ19_compareTo_2_1 16 rfl rfl)
abbrev cJ19_getChar : ByteArray := prog_38_method_44_code
def yJ19_getChar : MethodName := ⟨RJ19, "getChar", "([BI)C"⟩
def dkwJ19_getChar_0 : List UInt8 := [42, 27, 51, 17, 0, 255, 126, 146, 172]
abbrev dktJ19_getChar_0 : List UInt8 := dkwJ19_getChar_0 ++ []
theorem dksJ19_getChar_0 : cJ19_getChar.data.toList.drop 0 = dktJ19_getChar_0 := by decide +kernel
theorem dJ19_getChar_0 : decode cJ19_getChar 0 = .ok (.aload_n 0, 1) := dk_42 (dk_at dksJ19_getChar_0 0 rfl rfl)
theorem dJ19_getChar_1 : decode cJ19_getChar 1 = .ok (.iload_n 1, 1) := dk_27 (dk_at dksJ19_getChar_0 1 rfl rfl)
theorem dJ19_getChar_2 : decode cJ19_getChar 2 = .ok (.baload, 1) := dk_51 (dk_at dksJ19_getChar_0 2 rfl rfl)
theorem dJ19_getChar_3 : decode cJ19_getChar 3 = .ok (.sipush 255, 3) := dk_17 0 255 (dk_at dksJ19_getChar_0 3 rfl rfl)
theorem dJ19_getChar_6 : decode cJ19_getChar 6 = .ok (.iand, 1) := dk_126 (dk_at dksJ19_getChar_0 6 rfl rfl)
theorem dJ19_getChar_7 : decode cJ19_getChar 7 = .ok (.i2c, 1) := dk_146 (dk_at dksJ19_getChar_0 7 rfl rfl)
theorem dJ19_getChar_8 : decode cJ19_getChar 8 = .ok (.ireturn, 1) := dk_172 (dk_at dksJ19_getChar_0 8 rfl rfl)
abbrev cJ19_compareToUTF16 : ByteArray := prog_38_method_16_code
def yJ19_compareToUTF16 : MethodName := ⟨RJ19, "compareToUTF16", "([B[B)I"⟩
def dkwJ19_compareToUTF16_0 : List UInt8 := [42, 184, 0, 54, 61, 43, 184, 0, 58, 62, 42, 43, 28, 29, 184, 0, 59, 172]
abbrev dktJ19_compareToUTF16_0 : List UInt8 := dkwJ19_compareToUTF16_0 ++ []
theorem dksJ19_compareToUTF16_0 : cJ19_compareToUTF16.data.toList.drop 0 = dktJ19_compareToUTF16_0 := by decide +kernel
theorem dJ19_compareToUTF16_0 : decode cJ19_compareToUTF16 0 = .ok (.aload_n 0, 1) := dk_42 (dk_at dksJ19_compareToUTF16_0 0 rfl rfl)
theorem dJ19_compareToUTF16_1 : decode cJ19_compareToUTF16 1 = .ok (.invokestatic 54, 3) := dk_184 0 54 (dk_at dksJ19_compareToUTF16_0 1 rfl rfl)
theorem dJ19_compareToUTF16_4 : decode cJ19_compareToUTF16 4 = .ok (.istore_n 2, 1) := dk_61 (dk_at dksJ19_compareToUTF16_0 4 rfl rfl)
theorem dJ19_compareToUTF16_5 : decode cJ19_compareToUTF16 5 = .ok (.aload_n 1, 1) := dk_43 (dk_at dksJ19_compareToUTF16_0 5 rfl rfl)
theorem dJ19_compareToUTF16_6 : decode cJ19_compareToUTF16 6 = .ok (.invokestatic 58, 3) := dk_184 0 58 (dk_at dksJ19_compareToUTF16_0 6 rfl rfl)
theorem dJ19_compareToUTF16_9 : decode cJ19_compareToUTF16 9 = .ok (.istore_n 3, 1) := dk_62 (dk_at dksJ19_compareToUTF16_0 9 rfl rfl)
theorem dJ19_compareToUTF16_10 : decode cJ19_compareToUTF16 10 = .ok (.aload_n 0, 1) := dk_42 (dk_at dksJ19_compareToUTF16_0 10 rfl rfl)
theorem dJ19_compareToUTF16_11 : decode cJ19_compareToUTF16 11 = .ok (.aload_n 1, 1) := dk_43 (dk_at dksJ19_compareToUTF16_0 11 rfl rfl)
theorem dJ19_compareToUTF16_12 : decode cJ19_compareToUTF16 12 = .ok (.iload_n 2, 1) := dk_28 (dk_at dksJ19_compareToUTF16_0 12 rfl rfl)
theorem dJ19_compareToUTF16_13 : decode cJ19_compareToUTF16 13 = .ok (.iload_n 3, 1) := dk_29 (dk_at dksJ19_compareToUTF16_0 13 rfl rfl)
theorem dJ19_compareToUTF16_14 : decode cJ19_compareToUTF16 14 = .ok (.invokestatic 59, 3) := dk_184 0 59 (dk_at dksJ19_compareToUTF16_0 14 rfl rfl)
theorem dJ19_compareToUTF16_17 : decode cJ19_compareToUTF16 17 = .ok (.ireturn, 1) := dk_172 (dk_at dksJ19_compareToUTF16_0 17 rfl rfl)
abbrev cJ19_length : ByteArray := prog_38_method_5_code
def yJ19_length : MethodName := ⟨RJ19, "length", "([B)I"⟩
theorem dJ19_length_0 : decode cJ19_length 0 = .ok (.aload_n 0, 1) := by decide +kernel
theorem dJ19_length_1 : decode cJ19_length 1 = .ok (.arraylength, 1) := by decide +kernel
theorem dJ19_length_2 : decode cJ19_length 2 = .ok (.ireturn, 1) := by decide +kernel
abbrev cJ19_compareToUTF16Values : ByteArray := prog_38_method_18_code
def yJ19_compareToUTF16Values : MethodName := ⟨RJ19, "compareToUTF16Values", "([B[BII)I"⟩
def dkwJ19_compareToUTF16Values_2 : List UInt8 := [132, 5, 1, 167, 255, 217, 28, 29, 100, 172]
abbrev dktJ19_compareToUTF16Values_2 : List UInt8 := dkwJ19_compareToUTF16Values_2 ++ []
def dkwJ19_compareToUTF16Values_1 : List UInt8 := [54, 6, 43, 21, 5, 184, 0, 65, 54, 7, 21, 6, 21, 7, 159, 0, 9, 21, 6, 21, 7, 100, 172]
abbrev dktJ19_compareToUTF16Values_1 : List UInt8 := dkwJ19_compareToUTF16Values_1 ++ dktJ19_compareToUTF16Values_2
def dkwJ19_compareToUTF16Values_0 : List UInt8 := [28, 29, 184, 0, 38, 54, 4, 3, 54, 5, 21, 5, 21, 4, 162, 0, 38, 42, 21, 5, 184, 0, 50]
abbrev dktJ19_compareToUTF16Values_0 : List UInt8 := dkwJ19_compareToUTF16Values_0 ++ dktJ19_compareToUTF16Values_1
theorem dksJ19_compareToUTF16Values_0 : cJ19_compareToUTF16Values.data.toList.drop 0 = dktJ19_compareToUTF16Values_0 := by decide +kernel
theorem dksJ19_compareToUTF16Values_1 : cJ19_compareToUTF16Values.data.toList.drop 23 = dktJ19_compareToUTF16Values_1 := dk_seg dksJ19_compareToUTF16Values_0 23 rfl rfl
theorem dksJ19_compareToUTF16Values_2 : cJ19_compareToUTF16Values.data.toList.drop 46 = dktJ19_compareToUTF16Values_2 := dk_seg dksJ19_compareToUTF16Values_1 23 rfl rfl
theorem dJ19_compareToUTF16Values_0 : decode cJ19_compareToUTF16Values 0 = .ok (.iload_n 2, 1) := dk_28 (dk_at dksJ19_compareToUTF16Values_0 0 rfl rfl)
theorem dJ19_compareToUTF16Values_1 : decode cJ19_compareToUTF16Values 1 = .ok (.iload_n 3, 1) := dk_29 (dk_at dksJ19_compareToUTF16Values_0 1 rfl rfl)
theorem dJ19_compareToUTF16Values_2 : decode cJ19_compareToUTF16Values 2 = .ok (.invokestatic 38, 3) := dk_184 0 38 (dk_at dksJ19_compareToUTF16Values_0 2 rfl rfl)
theorem dJ19_compareToUTF16Values_5 : decode cJ19_compareToUTF16Values 5 = .ok (.istore 4, 2) := dk_54 4 (dk_at dksJ19_compareToUTF16Values_0 5 rfl rfl)
theorem dJ19_compareToUTF16Values_7 : decode cJ19_compareToUTF16Values 7 = .ok (.iconst 0, 1) := dk_3 (dk_at dksJ19_compareToUTF16Values_0 7 rfl rfl)
theorem dJ19_compareToUTF16Values_8 : decode cJ19_compareToUTF16Values 8 = .ok (.istore 5, 2) := dk_54 5 (dk_at dksJ19_compareToUTF16Values_0 8 rfl rfl)
theorem dJ19_compareToUTF16Values_10 : decode cJ19_compareToUTF16Values 10 = .ok (.iload 5, 2) := dk_21 5 (dk_at dksJ19_compareToUTF16Values_0 10 rfl rfl)
theorem dJ19_compareToUTF16Values_12 : decode cJ19_compareToUTF16Values 12 = .ok (.iload 4, 2) := dk_21 4 (dk_at dksJ19_compareToUTF16Values_0 12 rfl rfl)
theorem dJ19_compareToUTF16Values_14 : decode cJ19_compareToUTF16Values 14 = .ok (.if_icmp .ge 38, 3) := dk_162 0 38 (dk_at dksJ19_compareToUTF16Values_0 14 rfl rfl)
theorem dJ19_compareToUTF16Values_17 : decode cJ19_compareToUTF16Values 17 = .ok (.aload_n 0, 1) := dk_42 (dk_at dksJ19_compareToUTF16Values_0 17 rfl rfl)
theorem dJ19_compareToUTF16Values_18 : decode cJ19_compareToUTF16Values 18 = .ok (.iload 5, 2) := dk_21 5 (dk_at dksJ19_compareToUTF16Values_0 18 rfl rfl)
theorem dJ19_compareToUTF16Values_20 : decode cJ19_compareToUTF16Values 20 = .ok (.invokestatic 50, 3) := dk_184 0 50 (dk_at dksJ19_compareToUTF16Values_0 20 rfl rfl)
theorem dJ19_compareToUTF16Values_23 : decode cJ19_compareToUTF16Values 23 = .ok (.istore 6, 2) := dk_54 6 (dk_at dksJ19_compareToUTF16Values_1 0 rfl rfl)
theorem dJ19_compareToUTF16Values_25 : decode cJ19_compareToUTF16Values 25 = .ok (.aload_n 1, 1) := dk_43 (dk_at dksJ19_compareToUTF16Values_1 2 rfl rfl)
theorem dJ19_compareToUTF16Values_26 : decode cJ19_compareToUTF16Values 26 = .ok (.iload 5, 2) := dk_21 5 (dk_at dksJ19_compareToUTF16Values_1 3 rfl rfl)
theorem dJ19_compareToUTF16Values_28 : decode cJ19_compareToUTF16Values 28 = .ok (.invokestatic 65, 3) := dk_184 0 65 (dk_at dksJ19_compareToUTF16Values_1 5 rfl rfl)
theorem dJ19_compareToUTF16Values_31 : decode cJ19_compareToUTF16Values 31 = .ok (.istore 7, 2) := dk_54 7 (dk_at dksJ19_compareToUTF16Values_1 8 rfl rfl)
theorem dJ19_compareToUTF16Values_33 : decode cJ19_compareToUTF16Values 33 = .ok (.iload 6, 2) := dk_21 6 (dk_at dksJ19_compareToUTF16Values_1 10 rfl rfl)
theorem dJ19_compareToUTF16Values_35 : decode cJ19_compareToUTF16Values 35 = .ok (.iload 7, 2) := dk_21 7 (dk_at dksJ19_compareToUTF16Values_1 12 rfl rfl)
theorem dJ19_compareToUTF16Values_37 : decode cJ19_compareToUTF16Values 37 = .ok (.if_icmp .eq 9, 3) := dk_159 0 9 (dk_at dksJ19_compareToUTF16Values_1 14 rfl rfl)
theorem dJ19_compareToUTF16Values_40 : decode cJ19_compareToUTF16Values 40 = .ok (.iload 6, 2) := dk_21 6 (dk_at dksJ19_compareToUTF16Values_1 17 rfl rfl)
theorem dJ19_compareToUTF16Values_42 : decode cJ19_compareToUTF16Values 42 = .ok (.iload 7, 2) := dk_21 7 (dk_at dksJ19_compareToUTF16Values_1 19 rfl rfl)
theorem dJ19_compareToUTF16Values_44 : decode cJ19_compareToUTF16Values 44 = .ok (.isub, 1) := dk_100 (dk_at dksJ19_compareToUTF16Values_1 21 rfl rfl)
theorem dJ19_compareToUTF16Values_45 : decode cJ19_compareToUTF16Values 45 = .ok (.ireturn, 1) := dk_172 (dk_at dksJ19_compareToUTF16Values_1 22 rfl rfl)
theorem dJ19_compareToUTF16Values_46 : decode cJ19_compareToUTF16Values 46 = .ok (.iinc 5 1, 3) := dk_132 5 1 (dk_at dksJ19_compareToUTF16Values_2 0 rfl rfl)
theorem dJ19_compareToUTF16Values_49 : decode cJ19_compareToUTF16Values 49 = .ok (.goto (-39), 3) := dk_167 255 217 (dk_at dksJ19_compareToUTF16Values_2 3 rfl rfl)
theorem dJ19_compareToUTF16Values_52 : decode cJ19_compareToUTF16Values 52 = .ok (.iload_n 2, 1) := dk_28 (dk_at dksJ19_compareToUTF16Values_2 6 rfl rfl)
theorem dJ19_compareToUTF16Values_53 : decode cJ19_compareToUTF16Values 53 = .ok (.iload_n 3, 1) := dk_29 (dk_at dksJ19_compareToUTF16Values_2 7 rfl rfl)
theorem dJ19_compareToUTF16Values_54 : decode cJ19_compareToUTF16Values 54 = .ok (.isub, 1) := dk_100 (dk_at dksJ19_compareToUTF16Values_2 8 rfl rfl)
theorem dJ19_compareToUTF16Values_55 : decode cJ19_compareToUTF16Values 55 = .ok (.ireturn, 1) := dk_172 (dk_at dksJ19_compareToUTF16Values_2 9 rfl rfl)
abbrev cJ19_compareToUTF16_2 : ByteArray := prog_38_method_17_code
def yJ19_compareToUTF16_2 : MethodName := ⟨RJ19, "compareToUTF16", "([B[BII)I"⟩
def dkwJ19_compareToUTF16_2_0 : List UInt8 := [28, 42, 184, 0, 54, 184, 0, 62, 29, 43, 184, 0, 58, 184, 0, 62, 42, 43, 28, 29, 184, 0, 59, 172]
abbrev dktJ19_compareToUTF16_2_0 : List UInt8 := dkwJ19_compareToUTF16_2_0 ++ []
theorem dksJ19_compareToUTF16_2_0 : cJ19_compareToUTF16_2.data.toList.drop 0 = dktJ19_compareToUTF16_2_0 := by decide +kernel
theorem dJ19_compareToUTF16_2_0 : decode cJ19_compareToUTF16_2 0 = .ok (.iload_n 2, 1) := dk_28 (dk_at dksJ19_compareToUTF16_2_0 0 rfl rfl)
theorem dJ19_compareToUTF16_2_1 : decode cJ19_compareToUTF16_2 1 = .ok (.aload_n 0, 1) := dk_42 (dk_at dksJ19_compareToUTF16_2_0 1 rfl rfl)
theorem dJ19_compareToUTF16_2_2 : decode cJ19_compareToUTF16_2 2 = .ok (.invokestatic 54, 3) := dk_184 0 54 (dk_at dksJ19_compareToUTF16_2_0 2 rfl rfl)
theorem dJ19_compareToUTF16_2_5 : decode cJ19_compareToUTF16_2 5 = .ok (.invokestatic 62, 3) := dk_184 0 62 (dk_at dksJ19_compareToUTF16_2_0 5 rfl rfl)
theorem dJ19_compareToUTF16_2_8 : decode cJ19_compareToUTF16_2 8 = .ok (.iload_n 3, 1) := dk_29 (dk_at dksJ19_compareToUTF16_2_0 8 rfl rfl)
theorem dJ19_compareToUTF16_2_9 : decode cJ19_compareToUTF16_2 9 = .ok (.aload_n 1, 1) := dk_43 (dk_at dksJ19_compareToUTF16_2_0 9 rfl rfl)
theorem dJ19_compareToUTF16_2_10 : decode cJ19_compareToUTF16_2 10 = .ok (.invokestatic 58, 3) := dk_184 0 58 (dk_at dksJ19_compareToUTF16_2_0 10 rfl rfl)
theorem dJ19_compareToUTF16_2_13 : decode cJ19_compareToUTF16_2 13 = .ok (.invokestatic 62, 3) := dk_184 0 62 (dk_at dksJ19_compareToUTF16_2_0 13 rfl rfl)
theorem dJ19_compareToUTF16_2_16 : decode cJ19_compareToUTF16_2 16 = .ok (.aload_n 0, 1) := dk_42 (dk_at dksJ19_compareToUTF16_2_0 16 rfl rfl)
theorem dJ19_compareToUTF16_2_17 : decode cJ19_compareToUTF16_2 17 = .ok (.aload_n 1, 1) := dk_43 (dk_at dksJ19_compareToUTF16_2_0 17 rfl rfl)
theorem dJ19_compareToUTF16_2_18 : decode cJ19_compareToUTF16_2 18 = .ok (.iload_n 2, 1) := dk_28 (dk_at dksJ19_compareToUTF16_2_0 18 rfl rfl)
theorem dJ19_compareToUTF16_2_19 : decode cJ19_compareToUTF16_2 19 = .ok (.iload_n 3, 1) := dk_29 (dk_at dksJ19_compareToUTF16_2_0 19 rfl rfl)
theorem dJ19_compareToUTF16_2_20 : decode cJ19_compareToUTF16_2 20 = .ok (.invokestatic 59, 3) := dk_184 0 59 (dk_at dksJ19_compareToUTF16_2_0 20 rfl rfl)
theorem dJ19_compareToUTF16_2_23 : decode cJ19_compareToUTF16_2 23 = .ok (.ireturn, 1) := dk_172 (dk_at dksJ19_compareToUTF16_2_0 23 rfl rfl)
abbrev cJ19_charAt : ByteArray := prog_38_method_2_code
def yJ19_charAt : MethodName := ⟨RJ19, "charAt", "([BI)C"⟩
def dkwJ19_charAt_0 : List UInt8 := [27, 42, 190, 184, 0, 9, 42, 27, 51, 17, 0, 255, 126, 146, 172]
abbrev dktJ19_charAt_0 : List UInt8 := dkwJ19_charAt_0 ++ []
theorem dksJ19_charAt_0 : cJ19_charAt.data.toList.drop 0 = dktJ19_charAt_0 := by decide +kernel
theorem dJ19_charAt_0 : decode cJ19_charAt 0 = .ok (.iload_n 1, 1) := dk_27 (dk_at dksJ19_charAt_0 0 rfl rfl)
theorem dJ19_charAt_1 : decode cJ19_charAt 1 = .ok (.aload_n 0, 1) := dk_42 (dk_at dksJ19_charAt_0 1 rfl rfl)
theorem dJ19_charAt_2 : decode cJ19_charAt 2 = .ok (.arraylength, 1) := dk_190 (dk_at dksJ19_charAt_0 2 rfl rfl)
theorem dJ19_charAt_3 : decode cJ19_charAt 3 = .ok (.invokestatic 9, 3) := dk_184 0 9 (dk_at dksJ19_charAt_0 3 rfl rfl)
theorem dJ19_charAt_6 : decode cJ19_charAt 6 = .ok (.aload_n 0, 1) := dk_42 (dk_at dksJ19_charAt_0 6 rfl rfl)
theorem dJ19_charAt_7 : decode cJ19_charAt 7 = .ok (.iload_n 1, 1) := dk_27 (dk_at dksJ19_charAt_0 7 rfl rfl)
theorem dJ19_charAt_8 : decode cJ19_charAt 8 = .ok (.baload, 1) := dk_51 (dk_at dksJ19_charAt_0 8 rfl rfl)
theorem dJ19_charAt_9 : decode cJ19_charAt 9 = .ok (.sipush 255, 3) := dk_17 0 255 (dk_at dksJ19_charAt_0 9 rfl rfl)
theorem dJ19_charAt_12 : decode cJ19_charAt 12 = .ok (.iand, 1) := dk_126 (dk_at dksJ19_charAt_0 12 rfl rfl)
theorem dJ19_charAt_13 : decode cJ19_charAt 13 = .ok (.i2c, 1) := dk_146 (dk_at dksJ19_charAt_0 13 rfl rfl)
theorem dJ19_charAt_14 : decode cJ19_charAt 14 = .ok (.ireturn, 1) := dk_172 (dk_at dksJ19_charAt_0 14 rfl rfl)
abbrev cJ19_canEncode_2 : ByteArray := prog_38_method_3_code
def yJ19_canEncode_2 : MethodName := ⟨RJ19, "canEncode", "(C)Z"⟩
def dkwJ19_canEncode_2_0 : List UInt8 := [26, 17, 0, 255, 163, 0, 7, 4, 167, 0, 4, 3, 172]
abbrev dktJ19_canEncode_2_0 : List UInt8 := dkwJ19_canEncode_2_0 ++ []
theorem dksJ19_canEncode_2_0 : cJ19_canEncode_2.data.toList.drop 0 = dktJ19_canEncode_2_0 := by decide +kernel
theorem dJ19_canEncode_2_0 : decode cJ19_canEncode_2 0 = .ok (.iload_n 0, 1) := dk_26 (dk_at dksJ19_canEncode_2_0 0 rfl rfl)
theorem dJ19_canEncode_2_1 : decode cJ19_canEncode_2 1 = .ok (.sipush 255, 3) := dk_17 0 255 (dk_at dksJ19_canEncode_2_0 1 rfl rfl)
theorem dJ19_canEncode_2_4 : decode cJ19_canEncode_2 4 = .ok (.if_icmp .gt 7, 3) := dk_163 0 7 (dk_at dksJ19_canEncode_2_0 4 rfl rfl)
theorem dJ19_canEncode_2_7 : decode cJ19_canEncode_2 7 = .ok (.iconst 1, 1) := dk_4 (dk_at dksJ19_canEncode_2_0 7 rfl rfl)
theorem dJ19_canEncode_2_8 : decode cJ19_canEncode_2 8 = .ok (.goto 4, 3) := dk_167 0 4 (dk_at dksJ19_canEncode_2_0 8 rfl rfl)
theorem dJ19_canEncode_2_11 : decode cJ19_canEncode_2 11 = .ok (.iconst 0, 1) := dk_3 (dk_at dksJ19_canEncode_2_0 11 rfl rfl)
theorem dJ19_canEncode_2_12 : decode cJ19_canEncode_2 12 = .ok (.ireturn, 1) := dk_172 (dk_at dksJ19_canEncode_2_0 12 rfl rfl)
abbrev cJ19_hashCode : ByteArray := prog_38_method_21_code
def yJ19_hashCode : MethodName := ⟨RJ19, "hashCode", "([B)I"⟩
def dkwJ19_hashCode_2 : List UInt8 := [3, 167, 0, 22, 42, 3, 51, 17, 0, 255, 126, 167, 0, 12, 42, 3, 42, 190, 3, 7, 184, 0, 84, 172]
abbrev dktJ19_hashCode_2 : List UInt8 := dkwJ19_hashCode_2 ++ []
def dkwJ19_hashCode_1 : List UInt8 := [171, 0, 0, 0, 0, 40, 0, 0, 0, 2, 0, 0, 0, 0, 0, 0, 0, 26, 0, 0, 0, 1, 0, 0, 0, 30]
abbrev dktJ19_hashCode_1 : List UInt8 := dkwJ19_hashCode_1 ++ dktJ19_hashCode_2
def dkwJ19_hashCode_0 : List UInt8 := [42, 190]
abbrev dktJ19_hashCode_0 : List UInt8 := dkwJ19_hashCode_0 ++ dktJ19_hashCode_1
theorem dksJ19_hashCode_0 : cJ19_hashCode.data.toList.drop 0 = dktJ19_hashCode_0 := by decide +kernel
theorem dksJ19_hashCode_1 : cJ19_hashCode.data.toList.drop 2 = dktJ19_hashCode_1 := dk_seg dksJ19_hashCode_0 2 rfl rfl
theorem dksJ19_hashCode_2 : cJ19_hashCode.data.toList.drop 28 = dktJ19_hashCode_2 := dk_seg dksJ19_hashCode_1 26 rfl rfl
theorem dJ19_hashCode_0 : decode cJ19_hashCode 0 = .ok (.aload_n 0, 1) := dk_42 (dk_at dksJ19_hashCode_0 0 rfl rfl)
theorem dJ19_hashCode_1 : decode cJ19_hashCode 1 = .ok (.arraylength, 1) := dk_190 (dk_at dksJ19_hashCode_0 1 rfl rfl)
theorem dJ19_hashCode_2 : decode cJ19_hashCode 2 = .ok (.lookupswitch 40 #[(0, 26), (1, 30)], 26) := by decide +kernel
theorem dJ19_hashCode_28 : decode cJ19_hashCode 28 = .ok (.iconst 0, 1) := dk_3 (dk_at dksJ19_hashCode_2 0 rfl rfl)
theorem dJ19_hashCode_29 : decode cJ19_hashCode 29 = .ok (.goto 22, 3) := dk_167 0 22 (dk_at dksJ19_hashCode_2 1 rfl rfl)
theorem dJ19_hashCode_32 : decode cJ19_hashCode 32 = .ok (.aload_n 0, 1) := dk_42 (dk_at dksJ19_hashCode_2 4 rfl rfl)
theorem dJ19_hashCode_33 : decode cJ19_hashCode 33 = .ok (.iconst 0, 1) := dk_3 (dk_at dksJ19_hashCode_2 5 rfl rfl)
theorem dJ19_hashCode_34 : decode cJ19_hashCode 34 = .ok (.baload, 1) := dk_51 (dk_at dksJ19_hashCode_2 6 rfl rfl)
theorem dJ19_hashCode_35 : decode cJ19_hashCode 35 = .ok (.sipush 255, 3) := dk_17 0 255 (dk_at dksJ19_hashCode_2 7 rfl rfl)
theorem dJ19_hashCode_38 : decode cJ19_hashCode 38 = .ok (.iand, 1) := dk_126 (dk_at dksJ19_hashCode_2 10 rfl rfl)
theorem dJ19_hashCode_39 : decode cJ19_hashCode 39 = .ok (.goto 12, 3) := dk_167 0 12 (dk_at dksJ19_hashCode_2 11 rfl rfl)
theorem dJ19_hashCode_42 : decode cJ19_hashCode 42 = .ok (.aload_n 0, 1) := dk_42 (dk_at dksJ19_hashCode_2 14 rfl rfl)
theorem dJ19_hashCode_43 : decode cJ19_hashCode 43 = .ok (.iconst 0, 1) := dk_3 (dk_at dksJ19_hashCode_2 15 rfl rfl)
theorem dJ19_hashCode_44 : decode cJ19_hashCode 44 = .ok (.aload_n 0, 1) := dk_42 (dk_at dksJ19_hashCode_2 16 rfl rfl)
theorem dJ19_hashCode_45 : decode cJ19_hashCode 45 = .ok (.arraylength, 1) := dk_190 (dk_at dksJ19_hashCode_2 17 rfl rfl)
theorem dJ19_hashCode_46 : decode cJ19_hashCode 46 = .ok (.iconst 0, 1) := dk_3 (dk_at dksJ19_hashCode_2 18 rfl rfl)
theorem dJ19_hashCode_47 : decode cJ19_hashCode 47 = .ok (.iconst 4, 1) := dk_7 (dk_at dksJ19_hashCode_2 19 rfl rfl)
theorem dJ19_hashCode_48 : decode cJ19_hashCode 48 = .ok (.invokestatic 84, 3) := dk_184 0 84 (dk_at dksJ19_hashCode_2 20 rfl rfl)
theorem dJ19_hashCode_51 : decode cJ19_hashCode 51 = .ok (.ireturn, 1) := dk_172 (dk_at dksJ19_hashCode_2 23 rfl rfl)
abbrev cJ19_equals : ByteArray := prog_38_method_13_code
def yJ19_equals : MethodName := ⟨RJ19, "equals", "([B[B)Z"⟩
def dkwJ19_equals_1 : List UInt8 := [3, 172, 132, 2, 1, 167, 255, 236, 4, 172, 3, 172]
abbrev dktJ19_equals_1 : List UInt8 := dkwJ19_equals_1 ++ []
def dkwJ19_equals_0 : List UInt8 := [42, 190, 43, 190, 160, 0, 30, 3, 61, 28, 42, 190, 162, 0, 20, 42, 28, 51, 43, 28, 51, 159, 0, 5]
abbrev dktJ19_equals_0 : List UInt8 := dkwJ19_equals_0 ++ dktJ19_equals_1
theorem dksJ19_equals_0 : cJ19_equals.data.toList.drop 0 = dktJ19_equals_0 := by decide +kernel
theorem dksJ19_equals_1 : cJ19_equals.data.toList.drop 24 = dktJ19_equals_1 := dk_seg dksJ19_equals_0 24 rfl rfl
theorem dJ19_equals_0 : decode cJ19_equals 0 = .ok (.aload_n 0, 1) := dk_42 (dk_at dksJ19_equals_0 0 rfl rfl)
theorem dJ19_equals_1 : decode cJ19_equals 1 = .ok (.arraylength, 1) := dk_190 (dk_at dksJ19_equals_0 1 rfl rfl)
theorem dJ19_equals_2 : decode cJ19_equals 2 = .ok (.aload_n 1, 1) := dk_43 (dk_at dksJ19_equals_0 2 rfl rfl)
theorem dJ19_equals_3 : decode cJ19_equals 3 = .ok (.arraylength, 1) := dk_190 (dk_at dksJ19_equals_0 3 rfl rfl)
theorem dJ19_equals_4 : decode cJ19_equals 4 = .ok (.if_icmp .ne 30, 3) := dk_160 0 30 (dk_at dksJ19_equals_0 4 rfl rfl)
theorem dJ19_equals_7 : decode cJ19_equals 7 = .ok (.iconst 0, 1) := dk_3 (dk_at dksJ19_equals_0 7 rfl rfl)
theorem dJ19_equals_8 : decode cJ19_equals 8 = .ok (.istore_n 2, 1) := dk_61 (dk_at dksJ19_equals_0 8 rfl rfl)
theorem dJ19_equals_9 : decode cJ19_equals 9 = .ok (.iload_n 2, 1) := dk_28 (dk_at dksJ19_equals_0 9 rfl rfl)
theorem dJ19_equals_10 : decode cJ19_equals 10 = .ok (.aload_n 0, 1) := dk_42 (dk_at dksJ19_equals_0 10 rfl rfl)
theorem dJ19_equals_11 : decode cJ19_equals 11 = .ok (.arraylength, 1) := dk_190 (dk_at dksJ19_equals_0 11 rfl rfl)
theorem dJ19_equals_12 : decode cJ19_equals 12 = .ok (.if_icmp .ge 20, 3) := dk_162 0 20 (dk_at dksJ19_equals_0 12 rfl rfl)
theorem dJ19_equals_15 : decode cJ19_equals 15 = .ok (.aload_n 0, 1) := dk_42 (dk_at dksJ19_equals_0 15 rfl rfl)
theorem dJ19_equals_16 : decode cJ19_equals 16 = .ok (.iload_n 2, 1) := dk_28 (dk_at dksJ19_equals_0 16 rfl rfl)
theorem dJ19_equals_17 : decode cJ19_equals 17 = .ok (.baload, 1) := dk_51 (dk_at dksJ19_equals_0 17 rfl rfl)
theorem dJ19_equals_18 : decode cJ19_equals 18 = .ok (.aload_n 1, 1) := dk_43 (dk_at dksJ19_equals_0 18 rfl rfl)
theorem dJ19_equals_19 : decode cJ19_equals 19 = .ok (.iload_n 2, 1) := dk_28 (dk_at dksJ19_equals_0 19 rfl rfl)
theorem dJ19_equals_20 : decode cJ19_equals 20 = .ok (.baload, 1) := dk_51 (dk_at dksJ19_equals_0 20 rfl rfl)
theorem dJ19_equals_21 : decode cJ19_equals 21 = .ok (.if_icmp .eq 5, 3) := dk_159 0 5 (dk_at dksJ19_equals_0 21 rfl rfl)
theorem dJ19_equals_24 : decode cJ19_equals 24 = .ok (.iconst 0, 1) := dk_3 (dk_at dksJ19_equals_1 0 rfl rfl)
theorem dJ19_equals_25 : decode cJ19_equals 25 = .ok (.ireturn, 1) := dk_172 (dk_at dksJ19_equals_1 1 rfl rfl)
theorem dJ19_equals_26 : decode cJ19_equals 26 = .ok (.iinc 2 1, 3) := dk_132 2 1 (dk_at dksJ19_equals_1 2 rfl rfl)
theorem dJ19_equals_29 : decode cJ19_equals 29 = .ok (.goto (-20), 3) := dk_167 255 236 (dk_at dksJ19_equals_1 5 rfl rfl)
theorem dJ19_equals_32 : decode cJ19_equals 32 = .ok (.iconst 1, 1) := dk_4 (dk_at dksJ19_equals_1 8 rfl rfl)
theorem dJ19_equals_33 : decode cJ19_equals 33 = .ok (.ireturn, 1) := dk_172 (dk_at dksJ19_equals_1 9 rfl rfl)
theorem dJ19_equals_34 : decode cJ19_equals 34 = .ok (.iconst 0, 1) := dk_3 (dk_at dksJ19_equals_1 10 rfl rfl)
theorem dJ19_equals_35 : decode cJ19_equals 35 = .ok (.ireturn, 1) := dk_172 (dk_at dksJ19_equals_1 11 rfl rfl)
abbrev cJ19_fillNull : ByteArray := prog_38_method_48_code
def yJ19_fillNull : MethodName := ⟨RJ19, "fillNull", "([BII)V"⟩
def dkwJ19_fillNull_0 : List UInt8 := [42, 27, 28, 3, 184, 0, 236, 177]
abbrev dktJ19_fillNull_0 : List UInt8 := dkwJ19_fillNull_0 ++ []
theorem dksJ19_fillNull_0 : cJ19_fillNull.data.toList.drop 0 = dktJ19_fillNull_0 := by decide +kernel
theorem dJ19_fillNull_0 : decode cJ19_fillNull 0 = .ok (.aload_n 0, 1) := dk_42 (dk_at dksJ19_fillNull_0 0 rfl rfl)
theorem dJ19_fillNull_1 : decode cJ19_fillNull 1 = .ok (.iload_n 1, 1) := dk_27 (dk_at dksJ19_fillNull_0 1 rfl rfl)
theorem dJ19_fillNull_2 : decode cJ19_fillNull 2 = .ok (.iload_n 2, 1) := dk_28 (dk_at dksJ19_fillNull_0 2 rfl rfl)
theorem dJ19_fillNull_3 : decode cJ19_fillNull 3 = .ok (.iconst 0, 1) := dk_3 (dk_at dksJ19_fillNull_0 3 rfl rfl)
theorem dJ19_fillNull_4 : decode cJ19_fillNull 4 = .ok (.invokestatic 236, 3) := dk_184 0 236 (dk_at dksJ19_fillNull_0 4 rfl rfl)
theorem dJ19_fillNull_7 : decode cJ19_fillNull 7 = .ok (.return_, 1) := dk_177 (dk_at dksJ19_fillNull_0 7 rfl rfl)
abbrev cJ19_newString : ByteArray := prog_38_method_47_code
def yJ19_newString : MethodName := ⟨RJ19, "newString", "([BII)Ljava/lang/String;"⟩
def dkwJ19_newString_0 : List UInt8 := [28, 154, 0, 6, 18, 151, 176, 187, 0, 1, 89, 42, 27, 27, 28, 96, 184, 0, 232, 3, 183, 0, 112, 176]
abbrev dktJ19_newString_0 : List UInt8 := dkwJ19_newString_0 ++ []
theorem dksJ19_newString_0 : cJ19_newString.data.toList.drop 0 = dktJ19_newString_0 := by decide +kernel
theorem dJ19_newString_0 : decode cJ19_newString 0 = .ok (.iload_n 2, 1) := dk_28 (dk_at dksJ19_newString_0 0 rfl rfl)
theorem dJ19_newString_1 : decode cJ19_newString 1 = .ok (.ifCond .ne 6, 3) := dk_154 0 6 (dk_at dksJ19_newString_0 1 rfl rfl)
theorem dJ19_newString_4 : decode cJ19_newString 4 = .ok (.ldc 151, 2) := dk_18 151 (dk_at dksJ19_newString_0 4 rfl rfl)
theorem dJ19_newString_6 : decode cJ19_newString 6 = .ok (.areturn, 1) := dk_176 (dk_at dksJ19_newString_0 6 rfl rfl)
theorem dJ19_newString_7 : decode cJ19_newString 7 = .ok (.new 1, 3) := dk_187 0 1 (dk_at dksJ19_newString_0 7 rfl rfl)
theorem dJ19_newString_10 : decode cJ19_newString 10 = .ok (.dup, 1) := dk_89 (dk_at dksJ19_newString_0 10 rfl rfl)
theorem dJ19_newString_11 : decode cJ19_newString 11 = .ok (.aload_n 0, 1) := dk_42 (dk_at dksJ19_newString_0 11 rfl rfl)
theorem dJ19_newString_12 : decode cJ19_newString 12 = .ok (.iload_n 1, 1) := dk_27 (dk_at dksJ19_newString_0 12 rfl rfl)
theorem dJ19_newString_13 : decode cJ19_newString 13 = .ok (.iload_n 1, 1) := dk_27 (dk_at dksJ19_newString_0 13 rfl rfl)
theorem dJ19_newString_14 : decode cJ19_newString 14 = .ok (.iload_n 2, 1) := dk_28 (dk_at dksJ19_newString_0 14 rfl rfl)
theorem dJ19_newString_15 : decode cJ19_newString 15 = .ok (.iadd, 1) := dk_96 (dk_at dksJ19_newString_0 15 rfl rfl)
theorem dJ19_newString_16 : decode cJ19_newString 16 = .ok (.invokestatic 232, 3) := dk_184 0 232 (dk_at dksJ19_newString_0 16 rfl rfl)
theorem dJ19_newString_19 : decode cJ19_newString 19 = .ok (.iconst 0, 1) := dk_3 (dk_at dksJ19_newString_0 19 rfl rfl)
theorem dJ19_newString_20 : decode cJ19_newString 20 = .ok (.invokespecial 112, 3) := dk_183 0 112 (dk_at dksJ19_newString_0 20 rfl rfl)
theorem dJ19_newString_23 : decode cJ19_newString 23 = .ok (.areturn, 1) := dk_176 (dk_at dksJ19_newString_0 23 rfl rfl)
abbrev cJ19_indexOf_2 : ByteArray := prog_38_method_24_code
def yJ19_indexOf_2 : MethodName := ⟨RJ19, "indexOf", "([B[B)I"⟩
def dkwJ19_indexOf_2_1 : List UInt8 := [172]
abbrev dktJ19_indexOf_2_1 : List UInt8 := dkwJ19_indexOf_2_1 ++ []
def dkwJ19_indexOf_2_0 : List UInt8 := [43, 190, 154, 0, 5, 3, 172, 42, 190, 154, 0, 5, 2, 172, 42, 42, 190, 43, 43, 190, 3, 184, 0, 99]
abbrev dktJ19_indexOf_2_0 : List UInt8 := dkwJ19_indexOf_2_0 ++ dktJ19_indexOf_2_1
theorem dksJ19_indexOf_2_0 : cJ19_indexOf_2.data.toList.drop 0 = dktJ19_indexOf_2_0 := by decide +kernel
theorem dksJ19_indexOf_2_1 : cJ19_indexOf_2.data.toList.drop 24 = dktJ19_indexOf_2_1 := dk_seg dksJ19_indexOf_2_0 24 rfl rfl
theorem dJ19_indexOf_2_0 : decode cJ19_indexOf_2 0 = .ok (.aload_n 1, 1) := dk_43 (dk_at dksJ19_indexOf_2_0 0 rfl rfl)
theorem dJ19_indexOf_2_1 : decode cJ19_indexOf_2 1 = .ok (.arraylength, 1) := dk_190 (dk_at dksJ19_indexOf_2_0 1 rfl rfl)
theorem dJ19_indexOf_2_2 : decode cJ19_indexOf_2 2 = .ok (.ifCond .ne 5, 3) := dk_154 0 5 (dk_at dksJ19_indexOf_2_0 2 rfl rfl)
theorem dJ19_indexOf_2_5 : decode cJ19_indexOf_2 5 = .ok (.iconst 0, 1) := dk_3 (dk_at dksJ19_indexOf_2_0 5 rfl rfl)
theorem dJ19_indexOf_2_6 : decode cJ19_indexOf_2 6 = .ok (.ireturn, 1) := dk_172 (dk_at dksJ19_indexOf_2_0 6 rfl rfl)
theorem dJ19_indexOf_2_7 : decode cJ19_indexOf_2 7 = .ok (.aload_n 0, 1) := dk_42 (dk_at dksJ19_indexOf_2_0 7 rfl rfl)
theorem dJ19_indexOf_2_8 : decode cJ19_indexOf_2 8 = .ok (.arraylength, 1) := dk_190 (dk_at dksJ19_indexOf_2_0 8 rfl rfl)
theorem dJ19_indexOf_2_9 : decode cJ19_indexOf_2 9 = .ok (.ifCond .ne 5, 3) := dk_154 0 5 (dk_at dksJ19_indexOf_2_0 9 rfl rfl)
theorem dJ19_indexOf_2_12 : decode cJ19_indexOf_2 12 = .ok (.iconst (-1), 1) := dk_2 (dk_at dksJ19_indexOf_2_0 12 rfl rfl)
theorem dJ19_indexOf_2_13 : decode cJ19_indexOf_2 13 = .ok (.ireturn, 1) := dk_172 (dk_at dksJ19_indexOf_2_0 13 rfl rfl)
theorem dJ19_indexOf_2_14 : decode cJ19_indexOf_2 14 = .ok (.aload_n 0, 1) := dk_42 (dk_at dksJ19_indexOf_2_0 14 rfl rfl)
theorem dJ19_indexOf_2_15 : decode cJ19_indexOf_2 15 = .ok (.aload_n 0, 1) := dk_42 (dk_at dksJ19_indexOf_2_0 15 rfl rfl)
theorem dJ19_indexOf_2_16 : decode cJ19_indexOf_2 16 = .ok (.arraylength, 1) := dk_190 (dk_at dksJ19_indexOf_2_0 16 rfl rfl)
theorem dJ19_indexOf_2_17 : decode cJ19_indexOf_2 17 = .ok (.aload_n 1, 1) := dk_43 (dk_at dksJ19_indexOf_2_0 17 rfl rfl)
theorem dJ19_indexOf_2_18 : decode cJ19_indexOf_2 18 = .ok (.aload_n 1, 1) := dk_43 (dk_at dksJ19_indexOf_2_0 18 rfl rfl)
theorem dJ19_indexOf_2_19 : decode cJ19_indexOf_2 19 = .ok (.arraylength, 1) := dk_190 (dk_at dksJ19_indexOf_2_0 19 rfl rfl)
theorem dJ19_indexOf_2_20 : decode cJ19_indexOf_2 20 = .ok (.iconst 0, 1) := dk_3 (dk_at dksJ19_indexOf_2_0 20 rfl rfl)
theorem dJ19_indexOf_2_21 : decode cJ19_indexOf_2 21 = .ok (.invokestatic 99, 3) := dk_184 0 99 (dk_at dksJ19_indexOf_2_0 21 rfl rfl)
theorem dJ19_indexOf_2_24 : decode cJ19_indexOf_2 24 = .ok (.ireturn, 1) := dk_172 (dk_at dksJ19_indexOf_2_1 0 rfl rfl)
abbrev cJ19_indexOf_3 : ByteArray := prog_38_method_25_code
def yJ19_indexOf_3 : MethodName := ⟨RJ19, "indexOf", "([BI[BII)I"⟩
def dkwJ19_indexOf_3_5 : List UInt8 := [167, 255, 154, 2, 172]
abbrev dktJ19_indexOf_3_5 : List UInt8 := dkwJ19_indexOf_3_5 ++ []
def dkwJ19_indexOf_3_4 : List UInt8 := [132, 8, 1, 132, 10, 1, 167, 255, 232, 21, 8, 21, 9, 160, 0, 6, 21, 7, 172, 132, 7, 1]
abbrev dktJ19_indexOf_3_4 : List UInt8 := dkwJ19_indexOf_3_4 ++ dktJ19_indexOf_3_5
def dkwJ19_indexOf_3_3 : List UInt8 := [100, 54, 9, 4, 54, 10, 21, 8, 21, 9, 162, 0, 23, 42, 21, 8, 51, 44, 21, 10, 51, 160, 0, 12]
abbrev dktJ19_indexOf_3_3 : List UInt8 := dkwJ19_indexOf_3_3 ++ dktJ19_indexOf_3_4
def dkwJ19_indexOf_3_2 : List UInt8 := [159, 0, 6, 167, 255, 237, 21, 7, 21, 6, 163, 0, 57, 21, 7, 4, 96, 54, 8, 21, 8, 29, 96, 4]
abbrev dktJ19_indexOf_3_2 : List UInt8 := dkwJ19_indexOf_3_2 ++ dktJ19_indexOf_3_3
def dkwJ19_indexOf_3_1 : List UInt8 := [51, 21, 5, 159, 0, 25, 132, 7, 1, 21, 7, 21, 6, 163, 0, 15, 42, 21, 7, 51, 21, 5]
abbrev dktJ19_indexOf_3_1 : List UInt8 := dkwJ19_indexOf_3_1 ++ dktJ19_indexOf_3_2
def dkwJ19_indexOf_3_0 : List UInt8 := [44, 3, 51, 54, 5, 27, 29, 100, 54, 6, 21, 4, 54, 7, 21, 7, 21, 6, 163, 0, 101, 42, 21, 7]
abbrev dktJ19_indexOf_3_0 : List UInt8 := dkwJ19_indexOf_3_0 ++ dktJ19_indexOf_3_1
theorem dksJ19_indexOf_3_0 : cJ19_indexOf_3.data.toList.drop 0 = dktJ19_indexOf_3_0 := by decide +kernel
theorem dksJ19_indexOf_3_1 : cJ19_indexOf_3.data.toList.drop 24 = dktJ19_indexOf_3_1 := dk_seg dksJ19_indexOf_3_0 24 rfl rfl
theorem dksJ19_indexOf_3_2 : cJ19_indexOf_3.data.toList.drop 46 = dktJ19_indexOf_3_2 := dk_seg dksJ19_indexOf_3_1 22 rfl rfl
theorem dksJ19_indexOf_3_3 : cJ19_indexOf_3.data.toList.drop 70 = dktJ19_indexOf_3_3 := dk_seg dksJ19_indexOf_3_2 24 rfl rfl
theorem dksJ19_indexOf_3_4 : cJ19_indexOf_3.data.toList.drop 94 = dktJ19_indexOf_3_4 := dk_seg dksJ19_indexOf_3_3 24 rfl rfl
theorem dksJ19_indexOf_3_5 : cJ19_indexOf_3.data.toList.drop 116 = dktJ19_indexOf_3_5 := dk_seg dksJ19_indexOf_3_4 22 rfl rfl
theorem dJ19_indexOf_3_0 : decode cJ19_indexOf_3 0 = .ok (.aload_n 2, 1) := dk_44 (dk_at dksJ19_indexOf_3_0 0 rfl rfl)
theorem dJ19_indexOf_3_1 : decode cJ19_indexOf_3 1 = .ok (.iconst 0, 1) := dk_3 (dk_at dksJ19_indexOf_3_0 1 rfl rfl)
theorem dJ19_indexOf_3_2 : decode cJ19_indexOf_3 2 = .ok (.baload, 1) := dk_51 (dk_at dksJ19_indexOf_3_0 2 rfl rfl)
theorem dJ19_indexOf_3_3 : decode cJ19_indexOf_3 3 = .ok (.istore 5, 2) := dk_54 5 (dk_at dksJ19_indexOf_3_0 3 rfl rfl)
theorem dJ19_indexOf_3_5 : decode cJ19_indexOf_3 5 = .ok (.iload_n 1, 1) := dk_27 (dk_at dksJ19_indexOf_3_0 5 rfl rfl)
theorem dJ19_indexOf_3_6 : decode cJ19_indexOf_3 6 = .ok (.iload_n 3, 1) := dk_29 (dk_at dksJ19_indexOf_3_0 6 rfl rfl)
theorem dJ19_indexOf_3_7 : decode cJ19_indexOf_3 7 = .ok (.isub, 1) := dk_100 (dk_at dksJ19_indexOf_3_0 7 rfl rfl)
theorem dJ19_indexOf_3_8 : decode cJ19_indexOf_3 8 = .ok (.istore 6, 2) := dk_54 6 (dk_at dksJ19_indexOf_3_0 8 rfl rfl)
theorem dJ19_indexOf_3_10 : decode cJ19_indexOf_3 10 = .ok (.iload 4, 2) := dk_21 4 (dk_at dksJ19_indexOf_3_0 10 rfl rfl)
theorem dJ19_indexOf_3_12 : decode cJ19_indexOf_3 12 = .ok (.istore 7, 2) := dk_54 7 (dk_at dksJ19_indexOf_3_0 12 rfl rfl)
theorem dJ19_indexOf_3_14 : decode cJ19_indexOf_3 14 = .ok (.iload 7, 2) := dk_21 7 (dk_at dksJ19_indexOf_3_0 14 rfl rfl)
theorem dJ19_indexOf_3_16 : decode cJ19_indexOf_3 16 = .ok (.iload 6, 2) := dk_21 6 (dk_at dksJ19_indexOf_3_0 16 rfl rfl)
theorem dJ19_indexOf_3_18 : decode cJ19_indexOf_3 18 = .ok (.if_icmp .gt 101, 3) := dk_163 0 101 (dk_at dksJ19_indexOf_3_0 18 rfl rfl)
theorem dJ19_indexOf_3_21 : decode cJ19_indexOf_3 21 = .ok (.aload_n 0, 1) := dk_42 (dk_at dksJ19_indexOf_3_0 21 rfl rfl)
theorem dJ19_indexOf_3_22 : decode cJ19_indexOf_3 22 = .ok (.iload 7, 2) := dk_21 7 (dk_at dksJ19_indexOf_3_0 22 rfl rfl)
theorem dJ19_indexOf_3_24 : decode cJ19_indexOf_3 24 = .ok (.baload, 1) := dk_51 (dk_at dksJ19_indexOf_3_1 0 rfl rfl)
theorem dJ19_indexOf_3_25 : decode cJ19_indexOf_3 25 = .ok (.iload 5, 2) := dk_21 5 (dk_at dksJ19_indexOf_3_1 1 rfl rfl)
theorem dJ19_indexOf_3_27 : decode cJ19_indexOf_3 27 = .ok (.if_icmp .eq 25, 3) := dk_159 0 25 (dk_at dksJ19_indexOf_3_1 3 rfl rfl)
theorem dJ19_indexOf_3_30 : decode cJ19_indexOf_3 30 = .ok (.iinc 7 1, 3) := dk_132 7 1 (dk_at dksJ19_indexOf_3_1 6 rfl rfl)
theorem dJ19_indexOf_3_33 : decode cJ19_indexOf_3 33 = .ok (.iload 7, 2) := dk_21 7 (dk_at dksJ19_indexOf_3_1 9 rfl rfl)
theorem dJ19_indexOf_3_35 : decode cJ19_indexOf_3 35 = .ok (.iload 6, 2) := dk_21 6 (dk_at dksJ19_indexOf_3_1 11 rfl rfl)
theorem dJ19_indexOf_3_37 : decode cJ19_indexOf_3 37 = .ok (.if_icmp .gt 15, 3) := dk_163 0 15 (dk_at dksJ19_indexOf_3_1 13 rfl rfl)
theorem dJ19_indexOf_3_40 : decode cJ19_indexOf_3 40 = .ok (.aload_n 0, 1) := dk_42 (dk_at dksJ19_indexOf_3_1 16 rfl rfl)
theorem dJ19_indexOf_3_41 : decode cJ19_indexOf_3 41 = .ok (.iload 7, 2) := dk_21 7 (dk_at dksJ19_indexOf_3_1 17 rfl rfl)
theorem dJ19_indexOf_3_43 : decode cJ19_indexOf_3 43 = .ok (.baload, 1) := dk_51 (dk_at dksJ19_indexOf_3_1 19 rfl rfl)
theorem dJ19_indexOf_3_44 : decode cJ19_indexOf_3 44 = .ok (.iload 5, 2) := dk_21 5 (dk_at dksJ19_indexOf_3_1 20 rfl rfl)
theorem dJ19_indexOf_3_46 : decode cJ19_indexOf_3 46 = .ok (.if_icmp .eq 6, 3) := dk_159 0 6 (dk_at dksJ19_indexOf_3_2 0 rfl rfl)
theorem dJ19_indexOf_3_49 : decode cJ19_indexOf_3 49 = .ok (.goto (-19), 3) := dk_167 255 237 (dk_at dksJ19_indexOf_3_2 3 rfl rfl)
theorem dJ19_indexOf_3_52 : decode cJ19_indexOf_3 52 = .ok (.iload 7, 2) := dk_21 7 (dk_at dksJ19_indexOf_3_2 6 rfl rfl)
theorem dJ19_indexOf_3_54 : decode cJ19_indexOf_3 54 = .ok (.iload 6, 2) := dk_21 6 (dk_at dksJ19_indexOf_3_2 8 rfl rfl)
theorem dJ19_indexOf_3_56 : decode cJ19_indexOf_3 56 = .ok (.if_icmp .gt 57, 3) := dk_163 0 57 (dk_at dksJ19_indexOf_3_2 10 rfl rfl)
theorem dJ19_indexOf_3_59 : decode cJ19_indexOf_3 59 = .ok (.iload 7, 2) := dk_21 7 (dk_at dksJ19_indexOf_3_2 13 rfl rfl)
theorem dJ19_indexOf_3_61 : decode cJ19_indexOf_3 61 = .ok (.iconst 1, 1) := dk_4 (dk_at dksJ19_indexOf_3_2 15 rfl rfl)
theorem dJ19_indexOf_3_62 : decode cJ19_indexOf_3 62 = .ok (.iadd, 1) := dk_96 (dk_at dksJ19_indexOf_3_2 16 rfl rfl)
theorem dJ19_indexOf_3_63 : decode cJ19_indexOf_3 63 = .ok (.istore 8, 2) := dk_54 8 (dk_at dksJ19_indexOf_3_2 17 rfl rfl)
theorem dJ19_indexOf_3_65 : decode cJ19_indexOf_3 65 = .ok (.iload 8, 2) := dk_21 8 (dk_at dksJ19_indexOf_3_2 19 rfl rfl)
theorem dJ19_indexOf_3_67 : decode cJ19_indexOf_3 67 = .ok (.iload_n 3, 1) := dk_29 (dk_at dksJ19_indexOf_3_2 21 rfl rfl)
theorem dJ19_indexOf_3_68 : decode cJ19_indexOf_3 68 = .ok (.iadd, 1) := dk_96 (dk_at dksJ19_indexOf_3_2 22 rfl rfl)
theorem dJ19_indexOf_3_69 : decode cJ19_indexOf_3 69 = .ok (.iconst 1, 1) := dk_4 (dk_at dksJ19_indexOf_3_2 23 rfl rfl)
theorem dJ19_indexOf_3_70 : decode cJ19_indexOf_3 70 = .ok (.isub, 1) := dk_100 (dk_at dksJ19_indexOf_3_3 0 rfl rfl)
theorem dJ19_indexOf_3_71 : decode cJ19_indexOf_3 71 = .ok (.istore 9, 2) := dk_54 9 (dk_at dksJ19_indexOf_3_3 1 rfl rfl)
theorem dJ19_indexOf_3_73 : decode cJ19_indexOf_3 73 = .ok (.iconst 1, 1) := dk_4 (dk_at dksJ19_indexOf_3_3 3 rfl rfl)
theorem dJ19_indexOf_3_74 : decode cJ19_indexOf_3 74 = .ok (.istore 10, 2) := dk_54 10 (dk_at dksJ19_indexOf_3_3 4 rfl rfl)
theorem dJ19_indexOf_3_76 : decode cJ19_indexOf_3 76 = .ok (.iload 8, 2) := dk_21 8 (dk_at dksJ19_indexOf_3_3 6 rfl rfl)
theorem dJ19_indexOf_3_78 : decode cJ19_indexOf_3 78 = .ok (.iload 9, 2) := dk_21 9 (dk_at dksJ19_indexOf_3_3 8 rfl rfl)
theorem dJ19_indexOf_3_80 : decode cJ19_indexOf_3 80 = .ok (.if_icmp .ge 23, 3) := dk_162 0 23 (dk_at dksJ19_indexOf_3_3 10 rfl rfl)
theorem dJ19_indexOf_3_83 : decode cJ19_indexOf_3 83 = .ok (.aload_n 0, 1) := dk_42 (dk_at dksJ19_indexOf_3_3 13 rfl rfl)
theorem dJ19_indexOf_3_84 : decode cJ19_indexOf_3 84 = .ok (.iload 8, 2) := dk_21 8 (dk_at dksJ19_indexOf_3_3 14 rfl rfl)
theorem dJ19_indexOf_3_86 : decode cJ19_indexOf_3 86 = .ok (.baload, 1) := dk_51 (dk_at dksJ19_indexOf_3_3 16 rfl rfl)
theorem dJ19_indexOf_3_87 : decode cJ19_indexOf_3 87 = .ok (.aload_n 2, 1) := dk_44 (dk_at dksJ19_indexOf_3_3 17 rfl rfl)
theorem dJ19_indexOf_3_88 : decode cJ19_indexOf_3 88 = .ok (.iload 10, 2) := dk_21 10 (dk_at dksJ19_indexOf_3_3 18 rfl rfl)
theorem dJ19_indexOf_3_90 : decode cJ19_indexOf_3 90 = .ok (.baload, 1) := dk_51 (dk_at dksJ19_indexOf_3_3 20 rfl rfl)
theorem dJ19_indexOf_3_91 : decode cJ19_indexOf_3 91 = .ok (.if_icmp .ne 12, 3) := dk_160 0 12 (dk_at dksJ19_indexOf_3_3 21 rfl rfl)
theorem dJ19_indexOf_3_94 : decode cJ19_indexOf_3 94 = .ok (.iinc 8 1, 3) := dk_132 8 1 (dk_at dksJ19_indexOf_3_4 0 rfl rfl)
theorem dJ19_indexOf_3_97 : decode cJ19_indexOf_3 97 = .ok (.iinc 10 1, 3) := dk_132 10 1 (dk_at dksJ19_indexOf_3_4 3 rfl rfl)
theorem dJ19_indexOf_3_100 : decode cJ19_indexOf_3 100 = .ok (.goto (-24), 3) := dk_167 255 232 (dk_at dksJ19_indexOf_3_4 6 rfl rfl)
theorem dJ19_indexOf_3_103 : decode cJ19_indexOf_3 103 = .ok (.iload 8, 2) := dk_21 8 (dk_at dksJ19_indexOf_3_4 9 rfl rfl)
theorem dJ19_indexOf_3_105 : decode cJ19_indexOf_3 105 = .ok (.iload 9, 2) := dk_21 9 (dk_at dksJ19_indexOf_3_4 11 rfl rfl)
theorem dJ19_indexOf_3_107 : decode cJ19_indexOf_3 107 = .ok (.if_icmp .ne 6, 3) := dk_160 0 6 (dk_at dksJ19_indexOf_3_4 13 rfl rfl)
theorem dJ19_indexOf_3_110 : decode cJ19_indexOf_3 110 = .ok (.iload 7, 2) := dk_21 7 (dk_at dksJ19_indexOf_3_4 16 rfl rfl)
theorem dJ19_indexOf_3_112 : decode cJ19_indexOf_3 112 = .ok (.ireturn, 1) := dk_172 (dk_at dksJ19_indexOf_3_4 18 rfl rfl)
theorem dJ19_indexOf_3_113 : decode cJ19_indexOf_3 113 = .ok (.iinc 7 1, 3) := dk_132 7 1 (dk_at dksJ19_indexOf_3_4 19 rfl rfl)
theorem dJ19_indexOf_3_116 : decode cJ19_indexOf_3 116 = .ok (.goto (-102), 3) := dk_167 255 154 (dk_at dksJ19_indexOf_3_5 0 rfl rfl)
theorem dJ19_indexOf_3_119 : decode cJ19_indexOf_3 119 = .ok (.iconst (-1), 1) := dk_2 (dk_at dksJ19_indexOf_3_5 3 rfl rfl)
theorem dJ19_indexOf_3_120 : decode cJ19_indexOf_3 120 = .ok (.ireturn, 1) := dk_172 (dk_at dksJ19_indexOf_3_5 4 rfl rfl)
abbrev cJ20_max : ByteArray := prog_32_method_65_code
def yJ20_max : MethodName := ⟨RJ20, "max", "(II)I"⟩
def dkwJ20_max_0 : List UInt8 := [26, 27, 161, 0, 7, 26, 167, 0, 4, 27, 172]
abbrev dktJ20_max_0 : List UInt8 := dkwJ20_max_0 ++ []
theorem dksJ20_max_0 : cJ20_max.data.toList.drop 0 = dktJ20_max_0 := by decide +kernel
theorem dJ20_max_0 : decode cJ20_max 0 = .ok (.iload_n 0, 1) := dk_26 (dk_at dksJ20_max_0 0 rfl rfl)
theorem dJ20_max_1 : decode cJ20_max 1 = .ok (.iload_n 1, 1) := dk_27 (dk_at dksJ20_max_0 1 rfl rfl)
theorem dJ20_max_2 : decode cJ20_max 2 = .ok (.if_icmp .lt 7, 3) := dk_161 0 7 (dk_at dksJ20_max_0 2 rfl rfl)
theorem dJ20_max_5 : decode cJ20_max 5 = .ok (.iload_n 0, 1) := dk_26 (dk_at dksJ20_max_0 5 rfl rfl)
theorem dJ20_max_6 : decode cJ20_max 6 = .ok (.goto 4, 3) := dk_167 0 4 (dk_at dksJ20_max_0 6 rfl rfl)
theorem dJ20_max_9 : decode cJ20_max 9 = .ok (.iload_n 1, 1) := dk_27 (dk_at dksJ20_max_0 9 rfl rfl)
theorem dJ20_max_10 : decode cJ20_max 10 = .ok (.ireturn, 1) := dk_172 (dk_at dksJ20_max_0 10 rfl rfl)
abbrev cJ20_min : ByteArray := prog_32_method_69_code
def yJ20_min : MethodName := ⟨RJ20, "min", "(II)I"⟩
def dkwJ20_min_0 : List UInt8 := [26, 27, 163, 0, 7, 26, 167, 0, 4, 27, 172]
abbrev dktJ20_min_0 : List UInt8 := dkwJ20_min_0 ++ []
theorem dksJ20_min_0 : cJ20_min.data.toList.drop 0 = dktJ20_min_0 := by decide +kernel
theorem dJ20_min_0 : decode cJ20_min 0 = .ok (.iload_n 0, 1) := dk_26 (dk_at dksJ20_min_0 0 rfl rfl)
theorem dJ20_min_1 : decode cJ20_min 1 = .ok (.iload_n 1, 1) := dk_27 (dk_at dksJ20_min_0 1 rfl rfl)
theorem dJ20_min_2 : decode cJ20_min 2 = .ok (.if_icmp .gt 7, 3) := dk_163 0 7 (dk_at dksJ20_min_0 2 rfl rfl)
theorem dJ20_min_5 : decode cJ20_min 5 = .ok (.iload_n 0, 1) := dk_26 (dk_at dksJ20_min_0 5 rfl rfl)
theorem dJ20_min_6 : decode cJ20_min 6 = .ok (.goto 4, 3) := dk_167 0 4 (dk_at dksJ20_min_0 6 rfl rfl)
theorem dJ20_min_9 : decode cJ20_min 9 = .ok (.iload_n 1, 1) := dk_27 (dk_at dksJ20_min_0 9 rfl rfl)
theorem dJ20_min_10 : decode cJ20_min 10 = .ok (.ireturn, 1) := dk_172 (dk_at dksJ20_min_0 10 rfl rfl)
abbrev cJ21_newLength : ByteArray := prog_86_method_27_code
def yJ21_newLength : MethodName := ⟨RJ21, "newLength", "(III)I"⟩
def dkwJ21_newLength_1 : List UInt8 := [184, 0, 201, 172]
abbrev dktJ21_newLength_1 : List UInt8 := dkwJ21_newLength_1 ++ []
def dkwJ21_newLength_0 : List UInt8 := [26, 27, 28, 184, 0, 194, 96, 62, 3, 29, 162, 0, 11, 29, 18, 200, 163, 0, 5, 29, 172, 26, 27]
abbrev dktJ21_newLength_0 : List UInt8 := dkwJ21_newLength_0 ++ dktJ21_newLength_1
theorem dksJ21_newLength_0 : cJ21_newLength.data.toList.drop 0 = dktJ21_newLength_0 := by decide +kernel
theorem dksJ21_newLength_1 : cJ21_newLength.data.toList.drop 23 = dktJ21_newLength_1 := dk_seg dksJ21_newLength_0 23 rfl rfl
theorem dJ21_newLength_0 : decode cJ21_newLength 0 = .ok (.iload_n 0, 1) := dk_26 (dk_at dksJ21_newLength_0 0 rfl rfl)
theorem dJ21_newLength_1 : decode cJ21_newLength 1 = .ok (.iload_n 1, 1) := dk_27 (dk_at dksJ21_newLength_0 1 rfl rfl)
theorem dJ21_newLength_2 : decode cJ21_newLength 2 = .ok (.iload_n 2, 1) := dk_28 (dk_at dksJ21_newLength_0 2 rfl rfl)
theorem dJ21_newLength_3 : decode cJ21_newLength 3 = .ok (.invokestatic 194, 3) := dk_184 0 194 (dk_at dksJ21_newLength_0 3 rfl rfl)
theorem dJ21_newLength_6 : decode cJ21_newLength 6 = .ok (.iadd, 1) := dk_96 (dk_at dksJ21_newLength_0 6 rfl rfl)
theorem dJ21_newLength_7 : decode cJ21_newLength 7 = .ok (.istore_n 3, 1) := dk_62 (dk_at dksJ21_newLength_0 7 rfl rfl)
theorem dJ21_newLength_8 : decode cJ21_newLength 8 = .ok (.iconst 0, 1) := dk_3 (dk_at dksJ21_newLength_0 8 rfl rfl)
theorem dJ21_newLength_9 : decode cJ21_newLength 9 = .ok (.iload_n 3, 1) := dk_29 (dk_at dksJ21_newLength_0 9 rfl rfl)
theorem dJ21_newLength_10 : decode cJ21_newLength 10 = .ok (.if_icmp .ge 11, 3) := dk_162 0 11 (dk_at dksJ21_newLength_0 10 rfl rfl)
theorem dJ21_newLength_13 : decode cJ21_newLength 13 = .ok (.iload_n 3, 1) := dk_29 (dk_at dksJ21_newLength_0 13 rfl rfl)
theorem dJ21_newLength_14 : decode cJ21_newLength 14 = .ok (.ldc 200, 2) := dk_18 200 (dk_at dksJ21_newLength_0 14 rfl rfl)
theorem dJ21_newLength_16 : decode cJ21_newLength 16 = .ok (.if_icmp .gt 5, 3) := dk_163 0 5 (dk_at dksJ21_newLength_0 16 rfl rfl)
theorem dJ21_newLength_19 : decode cJ21_newLength 19 = .ok (.iload_n 3, 1) := dk_29 (dk_at dksJ21_newLength_0 19 rfl rfl)
theorem dJ21_newLength_20 : decode cJ21_newLength 20 = .ok (.ireturn, 1) := dk_172 (dk_at dksJ21_newLength_0 20 rfl rfl)
theorem dJ21_newLength_21 : decode cJ21_newLength 21 = .ok (.iload_n 0, 1) := dk_26 (dk_at dksJ21_newLength_0 21 rfl rfl)
theorem dJ21_newLength_22 : decode cJ21_newLength 22 = .ok (.iload_n 1, 1) := dk_27 (dk_at dksJ21_newLength_0 22 rfl rfl)
theorem dJ21_newLength_23 : decode cJ21_newLength 23 = .ok (.invokestatic 201, 3) := dk_184 0 201 (dk_at dksJ21_newLength_1 0 rfl rfl)
theorem dJ21_newLength_26 : decode cJ21_newLength 26 = .ok (.ireturn, 1) := dk_172 (dk_at dksJ21_newLength_1 3 rfl rfl)
abbrev cJ21_hugeLength : ByteArray := prog_86_method_28_code
def yJ21_hugeLength : MethodName := ⟨RJ21, "hugeLength", "(II)I"⟩
def dkwJ21_hugeLength_2 : List UInt8 := [191, 28, 18, 200, 163, 0, 6, 18, 200, 172, 28, 172]
abbrev dktJ21_hugeLength_2 : List UInt8 := dkwJ21_hugeLength_2 ++ []
def dkwJ21_hugeLength_1 : List UInt8 := [26, 182, 0, 98, 18, 208, 182, 0, 94, 27, 182, 0, 98, 18, 210, 182, 0, 94, 182, 0, 101, 183, 0, 212]
abbrev dktJ21_hugeLength_1 : List UInt8 := dkwJ21_hugeLength_1 ++ dktJ21_hugeLength_2
def dkwJ21_hugeLength_0 : List UInt8 := [26, 27, 96, 61, 28, 156, 0, 44, 187, 0, 204, 89, 187, 0, 89, 89, 183, 0, 91, 18, 206, 182, 0, 94]
abbrev dktJ21_hugeLength_0 : List UInt8 := dkwJ21_hugeLength_0 ++ dktJ21_hugeLength_1
theorem dksJ21_hugeLength_0 : cJ21_hugeLength.data.toList.drop 0 = dktJ21_hugeLength_0 := by decide +kernel
theorem dksJ21_hugeLength_1 : cJ21_hugeLength.data.toList.drop 24 = dktJ21_hugeLength_1 := dk_seg dksJ21_hugeLength_0 24 rfl rfl
theorem dksJ21_hugeLength_2 : cJ21_hugeLength.data.toList.drop 48 = dktJ21_hugeLength_2 := dk_seg dksJ21_hugeLength_1 24 rfl rfl
theorem dJ21_hugeLength_0 : decode cJ21_hugeLength 0 = .ok (.iload_n 0, 1) := dk_26 (dk_at dksJ21_hugeLength_0 0 rfl rfl)
theorem dJ21_hugeLength_1 : decode cJ21_hugeLength 1 = .ok (.iload_n 1, 1) := dk_27 (dk_at dksJ21_hugeLength_0 1 rfl rfl)
theorem dJ21_hugeLength_2 : decode cJ21_hugeLength 2 = .ok (.iadd, 1) := dk_96 (dk_at dksJ21_hugeLength_0 2 rfl rfl)
theorem dJ21_hugeLength_3 : decode cJ21_hugeLength 3 = .ok (.istore_n 2, 1) := dk_61 (dk_at dksJ21_hugeLength_0 3 rfl rfl)
theorem dJ21_hugeLength_4 : decode cJ21_hugeLength 4 = .ok (.iload_n 2, 1) := dk_28 (dk_at dksJ21_hugeLength_0 4 rfl rfl)
theorem dJ21_hugeLength_5 : decode cJ21_hugeLength 5 = .ok (.ifCond .ge 44, 3) := dk_156 0 44 (dk_at dksJ21_hugeLength_0 5 rfl rfl)
theorem dJ21_hugeLength_8 : decode cJ21_hugeLength 8 = .ok (.new 204, 3) := dk_187 0 204 (dk_at dksJ21_hugeLength_0 8 rfl rfl)
theorem dJ21_hugeLength_11 : decode cJ21_hugeLength 11 = .ok (.dup, 1) := dk_89 (dk_at dksJ21_hugeLength_0 11 rfl rfl)
theorem dJ21_hugeLength_12 : decode cJ21_hugeLength 12 = .ok (.new 89, 3) := dk_187 0 89 (dk_at dksJ21_hugeLength_0 12 rfl rfl)
theorem dJ21_hugeLength_15 : decode cJ21_hugeLength 15 = .ok (.dup, 1) := dk_89 (dk_at dksJ21_hugeLength_0 15 rfl rfl)
theorem dJ21_hugeLength_16 : decode cJ21_hugeLength 16 = .ok (.invokespecial 91, 3) := dk_183 0 91 (dk_at dksJ21_hugeLength_0 16 rfl rfl)
theorem dJ21_hugeLength_19 : decode cJ21_hugeLength 19 = .ok (.ldc 206, 2) := dk_18 206 (dk_at dksJ21_hugeLength_0 19 rfl rfl)
theorem dJ21_hugeLength_21 : decode cJ21_hugeLength 21 = .ok (.invokevirtual 94, 3) := dk_182 0 94 (dk_at dksJ21_hugeLength_0 21 rfl rfl)
theorem dJ21_hugeLength_24 : decode cJ21_hugeLength 24 = .ok (.iload_n 0, 1) := dk_26 (dk_at dksJ21_hugeLength_1 0 rfl rfl)
theorem dJ21_hugeLength_25 : decode cJ21_hugeLength 25 = .ok (.invokevirtual 98, 3) := dk_182 0 98 (dk_at dksJ21_hugeLength_1 1 rfl rfl)
theorem dJ21_hugeLength_28 : decode cJ21_hugeLength 28 = .ok (.ldc 208, 2) := dk_18 208 (dk_at dksJ21_hugeLength_1 4 rfl rfl)
theorem dJ21_hugeLength_30 : decode cJ21_hugeLength 30 = .ok (.invokevirtual 94, 3) := dk_182 0 94 (dk_at dksJ21_hugeLength_1 6 rfl rfl)
theorem dJ21_hugeLength_33 : decode cJ21_hugeLength 33 = .ok (.iload_n 1, 1) := dk_27 (dk_at dksJ21_hugeLength_1 9 rfl rfl)
theorem dJ21_hugeLength_34 : decode cJ21_hugeLength 34 = .ok (.invokevirtual 98, 3) := dk_182 0 98 (dk_at dksJ21_hugeLength_1 10 rfl rfl)
theorem dJ21_hugeLength_37 : decode cJ21_hugeLength 37 = .ok (.ldc 210, 2) := dk_18 210 (dk_at dksJ21_hugeLength_1 13 rfl rfl)
theorem dJ21_hugeLength_39 : decode cJ21_hugeLength 39 = .ok (.invokevirtual 94, 3) := dk_182 0 94 (dk_at dksJ21_hugeLength_1 15 rfl rfl)
theorem dJ21_hugeLength_42 : decode cJ21_hugeLength 42 = .ok (.invokevirtual 101, 3) := dk_182 0 101 (dk_at dksJ21_hugeLength_1 18 rfl rfl)
theorem dJ21_hugeLength_45 : decode cJ21_hugeLength 45 = .ok (.invokespecial 212, 3) := dk_183 0 212 (dk_at dksJ21_hugeLength_1 21 rfl rfl)
theorem dJ21_hugeLength_48 : decode cJ21_hugeLength 48 = .ok (.athrow, 1) := dk_191 (dk_at dksJ21_hugeLength_2 0 rfl rfl)
theorem dJ21_hugeLength_49 : decode cJ21_hugeLength 49 = .ok (.iload_n 2, 1) := dk_28 (dk_at dksJ21_hugeLength_2 1 rfl rfl)
theorem dJ21_hugeLength_50 : decode cJ21_hugeLength 50 = .ok (.ldc 200, 2) := dk_18 200 (dk_at dksJ21_hugeLength_2 2 rfl rfl)
theorem dJ21_hugeLength_52 : decode cJ21_hugeLength 52 = .ok (.if_icmp .gt 6, 3) := dk_163 0 6 (dk_at dksJ21_hugeLength_2 4 rfl rfl)
theorem dJ21_hugeLength_55 : decode cJ21_hugeLength 55 = .ok (.ldc 200, 2) := dk_18 200 (dk_at dksJ21_hugeLength_2 7 rfl rfl)
theorem dJ21_hugeLength_57 : decode cJ21_hugeLength 57 = .ok (.ireturn, 1) := dk_172 (dk_at dksJ21_hugeLength_2 9 rfl rfl)
theorem dJ21_hugeLength_58 : decode cJ21_hugeLength 58 = .ok (.iload_n 2, 1) := dk_28 (dk_at dksJ21_hugeLength_2 10 rfl rfl)
theorem dJ21_hugeLength_59 : decode cJ21_hugeLength 59 = .ok (.ireturn, 1) := dk_172 (dk_at dksJ21_hugeLength_2 11 rfl rfl)
abbrev cJ21_mismatch : ByteArray := prog_86_method_13_code
def yJ21_mismatch : MethodName := ⟨RJ21, "mismatch", "([B[BI)I"⟩
def dkwJ21_mismatch_3 : List UInt8 := [172]
abbrev dktJ21_mismatch_3 : List UInt8 := dkwJ21_mismatch_3 ++ []
def dkwJ21_mismatch_2 : List UInt8 := [62, 29, 28, 162, 0, 20, 42, 29, 51, 43, 29, 51, 159, 0, 5, 29, 172, 132, 3, 1, 167, 255, 237, 2]
abbrev dktJ21_mismatch_2 : List UInt8 := dkwJ21_mismatch_2 ++ dktJ21_mismatch_3
def dkwJ21_mismatch_1 : List UInt8 := [43, 178, 0, 126, 133, 28, 178, 0, 129, 184, 0, 122, 62, 29, 155, 0, 5, 29, 172, 28, 29, 2, 130, 100]
abbrev dktJ21_mismatch_1 : List UInt8 := dkwJ21_mismatch_1 ++ dktJ21_mismatch_2
def dkwJ21_mismatch_0 : List UInt8 := [3, 62, 28, 16, 7, 164, 0, 44, 42, 3, 51, 43, 3, 51, 159, 0, 5, 3, 172, 42, 178, 0, 126, 133]
abbrev dktJ21_mismatch_0 : List UInt8 := dkwJ21_mismatch_0 ++ dktJ21_mismatch_1
theorem dksJ21_mismatch_0 : cJ21_mismatch.data.toList.drop 0 = dktJ21_mismatch_0 := by decide +kernel
theorem dksJ21_mismatch_1 : cJ21_mismatch.data.toList.drop 24 = dktJ21_mismatch_1 := dk_seg dksJ21_mismatch_0 24 rfl rfl
theorem dksJ21_mismatch_2 : cJ21_mismatch.data.toList.drop 48 = dktJ21_mismatch_2 := dk_seg dksJ21_mismatch_1 24 rfl rfl
theorem dksJ21_mismatch_3 : cJ21_mismatch.data.toList.drop 72 = dktJ21_mismatch_3 := dk_seg dksJ21_mismatch_2 24 rfl rfl
theorem dJ21_mismatch_0 : decode cJ21_mismatch 0 = .ok (.iconst 0, 1) := dk_3 (dk_at dksJ21_mismatch_0 0 rfl rfl)
theorem dJ21_mismatch_1 : decode cJ21_mismatch 1 = .ok (.istore_n 3, 1) := dk_62 (dk_at dksJ21_mismatch_0 1 rfl rfl)
theorem dJ21_mismatch_2 : decode cJ21_mismatch 2 = .ok (.iload_n 2, 1) := dk_28 (dk_at dksJ21_mismatch_0 2 rfl rfl)
theorem dJ21_mismatch_3 : decode cJ21_mismatch 3 = .ok (.bipush 7, 2) := dk_16 7 (dk_at dksJ21_mismatch_0 3 rfl rfl)
theorem dJ21_mismatch_5 : decode cJ21_mismatch 5 = .ok (.if_icmp .le 44, 3) := dk_164 0 44 (dk_at dksJ21_mismatch_0 5 rfl rfl)
theorem dJ21_mismatch_8 : decode cJ21_mismatch 8 = .ok (.aload_n 0, 1) := dk_42 (dk_at dksJ21_mismatch_0 8 rfl rfl)
theorem dJ21_mismatch_9 : decode cJ21_mismatch 9 = .ok (.iconst 0, 1) := dk_3 (dk_at dksJ21_mismatch_0 9 rfl rfl)
theorem dJ21_mismatch_10 : decode cJ21_mismatch 10 = .ok (.baload, 1) := dk_51 (dk_at dksJ21_mismatch_0 10 rfl rfl)
theorem dJ21_mismatch_11 : decode cJ21_mismatch 11 = .ok (.aload_n 1, 1) := dk_43 (dk_at dksJ21_mismatch_0 11 rfl rfl)
theorem dJ21_mismatch_12 : decode cJ21_mismatch 12 = .ok (.iconst 0, 1) := dk_3 (dk_at dksJ21_mismatch_0 12 rfl rfl)
theorem dJ21_mismatch_13 : decode cJ21_mismatch 13 = .ok (.baload, 1) := dk_51 (dk_at dksJ21_mismatch_0 13 rfl rfl)
theorem dJ21_mismatch_14 : decode cJ21_mismatch 14 = .ok (.if_icmp .eq 5, 3) := dk_159 0 5 (dk_at dksJ21_mismatch_0 14 rfl rfl)
theorem dJ21_mismatch_17 : decode cJ21_mismatch 17 = .ok (.iconst 0, 1) := dk_3 (dk_at dksJ21_mismatch_0 17 rfl rfl)
theorem dJ21_mismatch_18 : decode cJ21_mismatch 18 = .ok (.ireturn, 1) := dk_172 (dk_at dksJ21_mismatch_0 18 rfl rfl)
theorem dJ21_mismatch_19 : decode cJ21_mismatch 19 = .ok (.aload_n 0, 1) := dk_42 (dk_at dksJ21_mismatch_0 19 rfl rfl)
theorem dJ21_mismatch_20 : decode cJ21_mismatch 20 = .ok (.getstatic 126, 3) := dk_178 0 126 (dk_at dksJ21_mismatch_0 20 rfl rfl)
theorem dJ21_mismatch_23 : decode cJ21_mismatch 23 = .ok (.i2l, 1) := dk_133 (dk_at dksJ21_mismatch_0 23 rfl rfl)
theorem dJ21_mismatch_24 : decode cJ21_mismatch 24 = .ok (.aload_n 1, 1) := dk_43 (dk_at dksJ21_mismatch_1 0 rfl rfl)
theorem dJ21_mismatch_25 : decode cJ21_mismatch 25 = .ok (.getstatic 126, 3) := dk_178 0 126 (dk_at dksJ21_mismatch_1 1 rfl rfl)
theorem dJ21_mismatch_28 : decode cJ21_mismatch 28 = .ok (.i2l, 1) := dk_133 (dk_at dksJ21_mismatch_1 4 rfl rfl)
theorem dJ21_mismatch_29 : decode cJ21_mismatch 29 = .ok (.iload_n 2, 1) := dk_28 (dk_at dksJ21_mismatch_1 5 rfl rfl)
theorem dJ21_mismatch_30 : decode cJ21_mismatch 30 = .ok (.getstatic 129, 3) := dk_178 0 129 (dk_at dksJ21_mismatch_1 6 rfl rfl)
theorem dJ21_mismatch_33 : decode cJ21_mismatch 33 = .ok (.invokestatic 122, 3) := dk_184 0 122 (dk_at dksJ21_mismatch_1 9 rfl rfl)
theorem dJ21_mismatch_36 : decode cJ21_mismatch 36 = .ok (.istore_n 3, 1) := dk_62 (dk_at dksJ21_mismatch_1 12 rfl rfl)
theorem dJ21_mismatch_37 : decode cJ21_mismatch 37 = .ok (.iload_n 3, 1) := dk_29 (dk_at dksJ21_mismatch_1 13 rfl rfl)
theorem dJ21_mismatch_38 : decode cJ21_mismatch 38 = .ok (.ifCond .lt 5, 3) := dk_155 0 5 (dk_at dksJ21_mismatch_1 14 rfl rfl)
theorem dJ21_mismatch_41 : decode cJ21_mismatch 41 = .ok (.iload_n 3, 1) := dk_29 (dk_at dksJ21_mismatch_1 17 rfl rfl)
theorem dJ21_mismatch_42 : decode cJ21_mismatch 42 = .ok (.ireturn, 1) := dk_172 (dk_at dksJ21_mismatch_1 18 rfl rfl)
theorem dJ21_mismatch_43 : decode cJ21_mismatch 43 = .ok (.iload_n 2, 1) := dk_28 (dk_at dksJ21_mismatch_1 19 rfl rfl)
theorem dJ21_mismatch_44 : decode cJ21_mismatch 44 = .ok (.iload_n 3, 1) := dk_29 (dk_at dksJ21_mismatch_1 20 rfl rfl)
theorem dJ21_mismatch_45 : decode cJ21_mismatch 45 = .ok (.iconst (-1), 1) := dk_2 (dk_at dksJ21_mismatch_1 21 rfl rfl)
theorem dJ21_mismatch_46 : decode cJ21_mismatch 46 = .ok (.ixor, 1) := dk_130 (dk_at dksJ21_mismatch_1 22 rfl rfl)
theorem dJ21_mismatch_47 : decode cJ21_mismatch 47 = .ok (.isub, 1) := dk_100 (dk_at dksJ21_mismatch_1 23 rfl rfl)
theorem dJ21_mismatch_48 : decode cJ21_mismatch 48 = .ok (.istore_n 3, 1) := dk_62 (dk_at dksJ21_mismatch_2 0 rfl rfl)
theorem dJ21_mismatch_49 : decode cJ21_mismatch 49 = .ok (.iload_n 3, 1) := dk_29 (dk_at dksJ21_mismatch_2 1 rfl rfl)
theorem dJ21_mismatch_50 : decode cJ21_mismatch 50 = .ok (.iload_n 2, 1) := dk_28 (dk_at dksJ21_mismatch_2 2 rfl rfl)
theorem dJ21_mismatch_51 : decode cJ21_mismatch 51 = .ok (.if_icmp .ge 20, 3) := dk_162 0 20 (dk_at dksJ21_mismatch_2 3 rfl rfl)
theorem dJ21_mismatch_54 : decode cJ21_mismatch 54 = .ok (.aload_n 0, 1) := dk_42 (dk_at dksJ21_mismatch_2 6 rfl rfl)
theorem dJ21_mismatch_55 : decode cJ21_mismatch 55 = .ok (.iload_n 3, 1) := dk_29 (dk_at dksJ21_mismatch_2 7 rfl rfl)
theorem dJ21_mismatch_56 : decode cJ21_mismatch 56 = .ok (.baload, 1) := dk_51 (dk_at dksJ21_mismatch_2 8 rfl rfl)
theorem dJ21_mismatch_57 : decode cJ21_mismatch 57 = .ok (.aload_n 1, 1) := dk_43 (dk_at dksJ21_mismatch_2 9 rfl rfl)
theorem dJ21_mismatch_58 : decode cJ21_mismatch 58 = .ok (.iload_n 3, 1) := dk_29 (dk_at dksJ21_mismatch_2 10 rfl rfl)
theorem dJ21_mismatch_59 : decode cJ21_mismatch 59 = .ok (.baload, 1) := dk_51 (dk_at dksJ21_mismatch_2 11 rfl rfl)
theorem dJ21_mismatch_60 : decode cJ21_mismatch 60 = .ok (.if_icmp .eq 5, 3) := dk_159 0 5 (dk_at dksJ21_mismatch_2 12 rfl rfl)
theorem dJ21_mismatch_63 : decode cJ21_mismatch 63 = .ok (.iload_n 3, 1) := dk_29 (dk_at dksJ21_mismatch_2 15 rfl rfl)
theorem dJ21_mismatch_64 : decode cJ21_mismatch 64 = .ok (.ireturn, 1) := dk_172 (dk_at dksJ21_mismatch_2 16 rfl rfl)
theorem dJ21_mismatch_65 : decode cJ21_mismatch 65 = .ok (.iinc 3 1, 3) := dk_132 3 1 (dk_at dksJ21_mismatch_2 17 rfl rfl)
theorem dJ21_mismatch_68 : decode cJ21_mismatch 68 = .ok (.goto (-19), 3) := dk_167 255 237 (dk_at dksJ21_mismatch_2 20 rfl rfl)
theorem dJ21_mismatch_71 : decode cJ21_mismatch 71 = .ok (.iconst (-1), 1) := dk_2 (dk_at dksJ21_mismatch_2 23 rfl rfl)
theorem dJ21_mismatch_72 : decode cJ21_mismatch 72 = .ok (.ireturn, 1) := dk_172 (dk_at dksJ21_mismatch_3 0 rfl rfl)
abbrev cJ21_vectorizedMismatch : ByteArray := prog_86_method_3_code
def yJ21_vectorizedMismatch : MethodName := ⟨RJ21, "vectorizedMismatch", "(Ljava/lang/Object;JLjava/lang/Object;JII)I"⟩
def dkwJ21_vectorizedMismatch_11 : List UInt8 := [54, 10, 21, 10, 2, 130, 172, 21, 10, 2, 130, 172]
abbrev dktJ21_vectorizedMismatch_11 : List UInt8 := dkwJ21_vectorizedMismatch_11 ++ []
def dkwJ21_vectorizedMismatch_10 : List UInt8 := [178, 0, 46, 21, 7, 96, 122, 54, 17, 21, 9, 21, 8, 120, 21, 17, 96, 172, 21, 10, 21, 11, 100]
abbrev dktJ21_vectorizedMismatch_10 : List UInt8 := dkwJ21_vectorizedMismatch_10 ++ dktJ21_vectorizedMismatch_11
def dkwJ21_vectorizedMismatch_9 : List UInt8 := [153, 0, 18, 21, 16, 184, 0, 58, 178, 0, 46, 21, 7, 96, 122, 167, 0, 15, 21, 16, 184, 0, 11]
abbrev dktJ21_vectorizedMismatch_9 : List UInt8 := dkwJ21_vectorizedMismatch_9 ++ dktJ21_vectorizedMismatch_10
def dkwJ21_vectorizedMismatch_8 : List UInt8 := [182, 0, 54, 54, 15, 21, 14, 21, 15, 159, 0, 54, 21, 14, 21, 15, 130, 54, 16, 178, 0, 36]
abbrev dktJ21_vectorizedMismatch_8 : List UInt8 := dkwJ21_vectorizedMismatch_8 ++ dktJ21_vectorizedMismatch_9
def dkwJ21_vectorizedMismatch_7 : List UInt8 := [55, 12, 178, 0, 26, 42, 31, 22, 12, 97, 182, 0, 54, 54, 14, 178, 0, 26, 45, 22, 4, 22, 12, 97]
abbrev dktJ21_vectorizedMismatch_7 : List UInt8 := dkwJ21_vectorizedMismatch_7 ++ dktJ21_vectorizedMismatch_8
def dkwJ21_vectorizedMismatch_6 : List UInt8 := [4, 178, 0, 51, 21, 7, 100, 120, 54, 11, 21, 10, 21, 11, 161, 0, 104, 21, 9, 133, 178, 0, 20, 121]
abbrev dktJ21_vectorizedMismatch_6 : List UInt8 := dkwJ21_vectorizedMismatch_6 ++ dktJ21_vectorizedMismatch_7
def dkwJ21_vectorizedMismatch_5 : List UInt8 := [132, 9, 1, 167, 255, 148, 21, 6, 21, 9, 21, 8, 120, 100, 54, 10, 21, 7, 178, 0, 51, 162, 0, 126]
abbrev dktJ21_vectorizedMismatch_5 : List UInt8 := dkwJ21_vectorizedMismatch_5 ++ dktJ21_vectorizedMismatch_6
def dkwJ21_vectorizedMismatch_4 : List UInt8 := [22, 16, 184, 0, 49, 178, 0, 46, 21, 7, 96, 122, 54, 18, 21, 9, 21, 8, 120, 21, 18, 96, 172]
abbrev dktJ21_vectorizedMismatch_4 : List UInt8 := dkwJ21_vectorizedMismatch_4 ++ dktJ21_vectorizedMismatch_5
def dkwJ21_vectorizedMismatch_3 : List UInt8 := [55, 16, 178, 0, 36, 153, 0, 18, 22, 16, 184, 0, 40, 178, 0, 46, 21, 7, 96, 122, 167, 0, 15]
abbrev dktJ21_vectorizedMismatch_3 : List UInt8 := dkwJ21_vectorizedMismatch_3 ++ dktJ21_vectorizedMismatch_4
def dkwJ21_vectorizedMismatch_2 : List UInt8 := [22, 4, 22, 10, 97, 182, 0, 30, 55, 14, 22, 12, 22, 14, 148, 153, 0, 54, 22, 12, 22, 14, 131]
abbrev dktJ21_vectorizedMismatch_2 : List UInt8 := dkwJ21_vectorizedMismatch_2 ++ dktJ21_vectorizedMismatch_3
def dkwJ21_vectorizedMismatch_1 : List UInt8 := [178, 0, 20, 121, 55, 10, 178, 0, 26, 42, 31, 22, 10, 97, 182, 0, 30, 55, 12, 178, 0, 26, 45]
abbrev dktJ21_vectorizedMismatch_1 : List UInt8 := dkwJ21_vectorizedMismatch_1 ++ dktJ21_vectorizedMismatch_2
def dkwJ21_vectorizedMismatch_0 : List UInt8 := [178, 0, 20, 21, 7, 100, 54, 8, 3, 54, 9, 21, 9, 21, 6, 21, 8, 122, 162, 0, 104, 21, 9, 133]
abbrev dktJ21_vectorizedMismatch_0 : List UInt8 := dkwJ21_vectorizedMismatch_0 ++ dktJ21_vectorizedMismatch_1
theorem dksJ21_vectorizedMismatch_0 : cJ21_vectorizedMismatch.data.toList.drop 0 = dktJ21_vectorizedMismatch_0 := by decide +kernel
theorem dksJ21_vectorizedMismatch_1 : cJ21_vectorizedMismatch.data.toList.drop 24 = dktJ21_vectorizedMismatch_1 := dk_seg dksJ21_vectorizedMismatch_0 24 rfl rfl
theorem dksJ21_vectorizedMismatch_2 : cJ21_vectorizedMismatch.data.toList.drop 47 = dktJ21_vectorizedMismatch_2 := dk_seg dksJ21_vectorizedMismatch_1 23 rfl rfl
theorem dksJ21_vectorizedMismatch_3 : cJ21_vectorizedMismatch.data.toList.drop 70 = dktJ21_vectorizedMismatch_3 := dk_seg dksJ21_vectorizedMismatch_2 23 rfl rfl
theorem dksJ21_vectorizedMismatch_4 : cJ21_vectorizedMismatch.data.toList.drop 93 = dktJ21_vectorizedMismatch_4 := dk_seg dksJ21_vectorizedMismatch_3 23 rfl rfl
theorem dksJ21_vectorizedMismatch_5 : cJ21_vectorizedMismatch.data.toList.drop 116 = dktJ21_vectorizedMismatch_5 := dk_seg dksJ21_vectorizedMismatch_4 23 rfl rfl
theorem dksJ21_vectorizedMismatch_6 : cJ21_vectorizedMismatch.data.toList.drop 140 = dktJ21_vectorizedMismatch_6 := dk_seg dksJ21_vectorizedMismatch_5 24 rfl rfl
theorem dksJ21_vectorizedMismatch_7 : cJ21_vectorizedMismatch.data.toList.drop 164 = dktJ21_vectorizedMismatch_7 := dk_seg dksJ21_vectorizedMismatch_6 24 rfl rfl
theorem dksJ21_vectorizedMismatch_8 : cJ21_vectorizedMismatch.data.toList.drop 188 = dktJ21_vectorizedMismatch_8 := dk_seg dksJ21_vectorizedMismatch_7 24 rfl rfl
theorem dksJ21_vectorizedMismatch_9 : cJ21_vectorizedMismatch.data.toList.drop 210 = dktJ21_vectorizedMismatch_9 := dk_seg dksJ21_vectorizedMismatch_8 22 rfl rfl
theorem dksJ21_vectorizedMismatch_10 : cJ21_vectorizedMismatch.data.toList.drop 233 = dktJ21_vectorizedMismatch_10 := dk_seg dksJ21_vectorizedMismatch_9 23 rfl rfl
theorem dksJ21_vectorizedMismatch_11 : cJ21_vectorizedMismatch.data.toList.drop 256 = dktJ21_vectorizedMismatch_11 := dk_seg dksJ21_vectorizedMismatch_10 23 rfl rfl
theorem dJ21_vectorizedMismatch_0 : decode cJ21_vectorizedMismatch 0 = .ok (.getstatic 20, 3) := dk_178 0 20 (dk_at dksJ21_vectorizedMismatch_0 0 rfl rfl)
theorem dJ21_vectorizedMismatch_3 : decode cJ21_vectorizedMismatch 3 = .ok (.iload 7, 2) := dk_21 7 (dk_at dksJ21_vectorizedMismatch_0 3 rfl rfl)
theorem dJ21_vectorizedMismatch_5 : decode cJ21_vectorizedMismatch 5 = .ok (.isub, 1) := dk_100 (dk_at dksJ21_vectorizedMismatch_0 5 rfl rfl)
theorem dJ21_vectorizedMismatch_6 : decode cJ21_vectorizedMismatch 6 = .ok (.istore 8, 2) := dk_54 8 (dk_at dksJ21_vectorizedMismatch_0 6 rfl rfl)
theorem dJ21_vectorizedMismatch_8 : decode cJ21_vectorizedMismatch 8 = .ok (.iconst 0, 1) := dk_3 (dk_at dksJ21_vectorizedMismatch_0 8 rfl rfl)
theorem dJ21_vectorizedMismatch_9 : decode cJ21_vectorizedMismatch 9 = .ok (.istore 9, 2) := dk_54 9 (dk_at dksJ21_vectorizedMismatch_0 9 rfl rfl)
theorem dJ21_vectorizedMismatch_11 : decode cJ21_vectorizedMismatch 11 = .ok (.iload 9, 2) := dk_21 9 (dk_at dksJ21_vectorizedMismatch_0 11 rfl rfl)
theorem dJ21_vectorizedMismatch_13 : decode cJ21_vectorizedMismatch 13 = .ok (.iload 6, 2) := dk_21 6 (dk_at dksJ21_vectorizedMismatch_0 13 rfl rfl)
theorem dJ21_vectorizedMismatch_15 : decode cJ21_vectorizedMismatch 15 = .ok (.iload 8, 2) := dk_21 8 (dk_at dksJ21_vectorizedMismatch_0 15 rfl rfl)
theorem dJ21_vectorizedMismatch_17 : decode cJ21_vectorizedMismatch 17 = .ok (.ishr, 1) := dk_122 (dk_at dksJ21_vectorizedMismatch_0 17 rfl rfl)
theorem dJ21_vectorizedMismatch_18 : decode cJ21_vectorizedMismatch 18 = .ok (.if_icmp .ge 104, 3) := dk_162 0 104 (dk_at dksJ21_vectorizedMismatch_0 18 rfl rfl)
theorem dJ21_vectorizedMismatch_21 : decode cJ21_vectorizedMismatch 21 = .ok (.iload 9, 2) := dk_21 9 (dk_at dksJ21_vectorizedMismatch_0 21 rfl rfl)
theorem dJ21_vectorizedMismatch_23 : decode cJ21_vectorizedMismatch 23 = .ok (.i2l, 1) := dk_133 (dk_at dksJ21_vectorizedMismatch_0 23 rfl rfl)
theorem dJ21_vectorizedMismatch_24 : decode cJ21_vectorizedMismatch 24 = .ok (.getstatic 20, 3) := dk_178 0 20 (dk_at dksJ21_vectorizedMismatch_1 0 rfl rfl)
theorem dJ21_vectorizedMismatch_27 : decode cJ21_vectorizedMismatch 27 = .ok (.lshl, 1) := dk_121 (dk_at dksJ21_vectorizedMismatch_1 3 rfl rfl)
theorem dJ21_vectorizedMismatch_28 : decode cJ21_vectorizedMismatch 28 = .ok (.lstore 10, 2) := dk_55 10 (dk_at dksJ21_vectorizedMismatch_1 4 rfl rfl)
theorem dJ21_vectorizedMismatch_30 : decode cJ21_vectorizedMismatch 30 = .ok (.getstatic 26, 3) := dk_178 0 26 (dk_at dksJ21_vectorizedMismatch_1 6 rfl rfl)
theorem dJ21_vectorizedMismatch_33 : decode cJ21_vectorizedMismatch 33 = .ok (.aload_n 0, 1) := dk_42 (dk_at dksJ21_vectorizedMismatch_1 9 rfl rfl)
theorem dJ21_vectorizedMismatch_34 : decode cJ21_vectorizedMismatch 34 = .ok (.lload_n 1, 1) := dk_31 (dk_at dksJ21_vectorizedMismatch_1 10 rfl rfl)
theorem dJ21_vectorizedMismatch_35 : decode cJ21_vectorizedMismatch 35 = .ok (.lload 10, 2) := dk_22 10 (dk_at dksJ21_vectorizedMismatch_1 11 rfl rfl)
theorem dJ21_vectorizedMismatch_37 : decode cJ21_vectorizedMismatch 37 = .ok (.ladd, 1) := dk_97 (dk_at dksJ21_vectorizedMismatch_1 13 rfl rfl)
theorem dJ21_vectorizedMismatch_38 : decode cJ21_vectorizedMismatch 38 = .ok (.invokevirtual 30, 3) := dk_182 0 30 (dk_at dksJ21_vectorizedMismatch_1 14 rfl rfl)
theorem dJ21_vectorizedMismatch_41 : decode cJ21_vectorizedMismatch 41 = .ok (.lstore 12, 2) := dk_55 12 (dk_at dksJ21_vectorizedMismatch_1 17 rfl rfl)
theorem dJ21_vectorizedMismatch_43 : decode cJ21_vectorizedMismatch 43 = .ok (.getstatic 26, 3) := dk_178 0 26 (dk_at dksJ21_vectorizedMismatch_1 19 rfl rfl)
theorem dJ21_vectorizedMismatch_46 : decode cJ21_vectorizedMismatch 46 = .ok (.aload_n 3, 1) := dk_45 (dk_at dksJ21_vectorizedMismatch_1 22 rfl rfl)
theorem dJ21_vectorizedMismatch_47 : decode cJ21_vectorizedMismatch 47 = .ok (.lload 4, 2) := dk_22 4 (dk_at dksJ21_vectorizedMismatch_2 0 rfl rfl)
theorem dJ21_vectorizedMismatch_49 : decode cJ21_vectorizedMismatch 49 = .ok (.lload 10, 2) := dk_22 10 (dk_at dksJ21_vectorizedMismatch_2 2 rfl rfl)
theorem dJ21_vectorizedMismatch_51 : decode cJ21_vectorizedMismatch 51 = .ok (.ladd, 1) := dk_97 (dk_at dksJ21_vectorizedMismatch_2 4 rfl rfl)
theorem dJ21_vectorizedMismatch_52 : decode cJ21_vectorizedMismatch 52 = .ok (.invokevirtual 30, 3) := dk_182 0 30 (dk_at dksJ21_vectorizedMismatch_2 5 rfl rfl)
theorem dJ21_vectorizedMismatch_55 : decode cJ21_vectorizedMismatch 55 = .ok (.lstore 14, 2) := dk_55 14 (dk_at dksJ21_vectorizedMismatch_2 8 rfl rfl)
theorem dJ21_vectorizedMismatch_57 : decode cJ21_vectorizedMismatch 57 = .ok (.lload 12, 2) := dk_22 12 (dk_at dksJ21_vectorizedMismatch_2 10 rfl rfl)
theorem dJ21_vectorizedMismatch_59 : decode cJ21_vectorizedMismatch 59 = .ok (.lload 14, 2) := dk_22 14 (dk_at dksJ21_vectorizedMismatch_2 12 rfl rfl)
theorem dJ21_vectorizedMismatch_61 : decode cJ21_vectorizedMismatch 61 = .ok (.lcmp, 1) := dk_148 (dk_at dksJ21_vectorizedMismatch_2 14 rfl rfl)
theorem dJ21_vectorizedMismatch_62 : decode cJ21_vectorizedMismatch 62 = .ok (.ifCond .eq 54, 3) := dk_153 0 54 (dk_at dksJ21_vectorizedMismatch_2 15 rfl rfl)
theorem dJ21_vectorizedMismatch_65 : decode cJ21_vectorizedMismatch 65 = .ok (.lload 12, 2) := dk_22 12 (dk_at dksJ21_vectorizedMismatch_2 18 rfl rfl)
theorem dJ21_vectorizedMismatch_67 : decode cJ21_vectorizedMismatch 67 = .ok (.lload 14, 2) := dk_22 14 (dk_at dksJ21_vectorizedMismatch_2 20 rfl rfl)
theorem dJ21_vectorizedMismatch_69 : decode cJ21_vectorizedMismatch 69 = .ok (.lxor, 1) := dk_131 (dk_at dksJ21_vectorizedMismatch_2 22 rfl rfl)
theorem dJ21_vectorizedMismatch_70 : decode cJ21_vectorizedMismatch 70 = .ok (.lstore 16, 2) := dk_55 16 (dk_at dksJ21_vectorizedMismatch_3 0 rfl rfl)
theorem dJ21_vectorizedMismatch_72 : decode cJ21_vectorizedMismatch 72 = .ok (.getstatic 36, 3) := dk_178 0 36 (dk_at dksJ21_vectorizedMismatch_3 2 rfl rfl)
theorem dJ21_vectorizedMismatch_75 : decode cJ21_vectorizedMismatch 75 = .ok (.ifCond .eq 18, 3) := dk_153 0 18 (dk_at dksJ21_vectorizedMismatch_3 5 rfl rfl)
theorem dJ21_vectorizedMismatch_78 : decode cJ21_vectorizedMismatch 78 = .ok (.lload 16, 2) := dk_22 16 (dk_at dksJ21_vectorizedMismatch_3 8 rfl rfl)
theorem dJ21_vectorizedMismatch_80 : decode cJ21_vectorizedMismatch 80 = .ok (.invokestatic 40, 3) := dk_184 0 40 (dk_at dksJ21_vectorizedMismatch_3 10 rfl rfl)
theorem dJ21_vectorizedMismatch_83 : decode cJ21_vectorizedMismatch 83 = .ok (.getstatic 46, 3) := dk_178 0 46 (dk_at dksJ21_vectorizedMismatch_3 13 rfl rfl)
theorem dJ21_vectorizedMismatch_86 : decode cJ21_vectorizedMismatch 86 = .ok (.iload 7, 2) := dk_21 7 (dk_at dksJ21_vectorizedMismatch_3 16 rfl rfl)
theorem dJ21_vectorizedMismatch_88 : decode cJ21_vectorizedMismatch 88 = .ok (.iadd, 1) := dk_96 (dk_at dksJ21_vectorizedMismatch_3 18 rfl rfl)
theorem dJ21_vectorizedMismatch_89 : decode cJ21_vectorizedMismatch 89 = .ok (.ishr, 1) := dk_122 (dk_at dksJ21_vectorizedMismatch_3 19 rfl rfl)
theorem dJ21_vectorizedMismatch_90 : decode cJ21_vectorizedMismatch 90 = .ok (.goto 15, 3) := dk_167 0 15 (dk_at dksJ21_vectorizedMismatch_3 20 rfl rfl)
theorem dJ21_vectorizedMismatch_93 : decode cJ21_vectorizedMismatch 93 = .ok (.lload 16, 2) := dk_22 16 (dk_at dksJ21_vectorizedMismatch_4 0 rfl rfl)
theorem dJ21_vectorizedMismatch_95 : decode cJ21_vectorizedMismatch 95 = .ok (.invokestatic 49, 3) := dk_184 0 49 (dk_at dksJ21_vectorizedMismatch_4 2 rfl rfl)
theorem dJ21_vectorizedMismatch_98 : decode cJ21_vectorizedMismatch 98 = .ok (.getstatic 46, 3) := dk_178 0 46 (dk_at dksJ21_vectorizedMismatch_4 5 rfl rfl)
theorem dJ21_vectorizedMismatch_101 : decode cJ21_vectorizedMismatch 101 = .ok (.iload 7, 2) := dk_21 7 (dk_at dksJ21_vectorizedMismatch_4 8 rfl rfl)
theorem dJ21_vectorizedMismatch_103 : decode cJ21_vectorizedMismatch 103 = .ok (.iadd, 1) := dk_96 (dk_at dksJ21_vectorizedMismatch_4 10 rfl rfl)
theorem dJ21_vectorizedMismatch_104 : decode cJ21_vectorizedMismatch 104 = .ok (.ishr, 1) := dk_122 (dk_at dksJ21_vectorizedMismatch_4 11 rfl rfl)
theorem dJ21_vectorizedMismatch_105 : decode cJ21_vectorizedMismatch 105 = .ok (.istore 18, 2) := dk_54 18 (dk_at dksJ21_vectorizedMismatch_4 12 rfl rfl)
theorem dJ21_vectorizedMismatch_107 : decode cJ21_vectorizedMismatch 107 = .ok (.iload 9, 2) := dk_21 9 (dk_at dksJ21_vectorizedMismatch_4 14 rfl rfl)
theorem dJ21_vectorizedMismatch_109 : decode cJ21_vectorizedMismatch 109 = .ok (.iload 8, 2) := dk_21 8 (dk_at dksJ21_vectorizedMismatch_4 16 rfl rfl)
theorem dJ21_vectorizedMismatch_111 : decode cJ21_vectorizedMismatch 111 = .ok (.ishl, 1) := dk_120 (dk_at dksJ21_vectorizedMismatch_4 18 rfl rfl)
theorem dJ21_vectorizedMismatch_112 : decode cJ21_vectorizedMismatch 112 = .ok (.iload 18, 2) := dk_21 18 (dk_at dksJ21_vectorizedMismatch_4 19 rfl rfl)
theorem dJ21_vectorizedMismatch_114 : decode cJ21_vectorizedMismatch 114 = .ok (.iadd, 1) := dk_96 (dk_at dksJ21_vectorizedMismatch_4 21 rfl rfl)
theorem dJ21_vectorizedMismatch_115 : decode cJ21_vectorizedMismatch 115 = .ok (.ireturn, 1) := dk_172 (dk_at dksJ21_vectorizedMismatch_4 22 rfl rfl)
theorem dJ21_vectorizedMismatch_116 : decode cJ21_vectorizedMismatch 116 = .ok (.iinc 9 1, 3) := dk_132 9 1 (dk_at dksJ21_vectorizedMismatch_5 0 rfl rfl)
theorem dJ21_vectorizedMismatch_119 : decode cJ21_vectorizedMismatch 119 = .ok (.goto (-108), 3) := dk_167 255 148 (dk_at dksJ21_vectorizedMismatch_5 3 rfl rfl)
theorem dJ21_vectorizedMismatch_122 : decode cJ21_vectorizedMismatch 122 = .ok (.iload 6, 2) := dk_21 6 (dk_at dksJ21_vectorizedMismatch_5 6 rfl rfl)
theorem dJ21_vectorizedMismatch_124 : decode cJ21_vectorizedMismatch 124 = .ok (.iload 9, 2) := dk_21 9 (dk_at dksJ21_vectorizedMismatch_5 8 rfl rfl)
theorem dJ21_vectorizedMismatch_126 : decode cJ21_vectorizedMismatch 126 = .ok (.iload 8, 2) := dk_21 8 (dk_at dksJ21_vectorizedMismatch_5 10 rfl rfl)
theorem dJ21_vectorizedMismatch_128 : decode cJ21_vectorizedMismatch 128 = .ok (.ishl, 1) := dk_120 (dk_at dksJ21_vectorizedMismatch_5 12 rfl rfl)
theorem dJ21_vectorizedMismatch_129 : decode cJ21_vectorizedMismatch 129 = .ok (.isub, 1) := dk_100 (dk_at dksJ21_vectorizedMismatch_5 13 rfl rfl)
theorem dJ21_vectorizedMismatch_130 : decode cJ21_vectorizedMismatch 130 = .ok (.istore 10, 2) := dk_54 10 (dk_at dksJ21_vectorizedMismatch_5 14 rfl rfl)
theorem dJ21_vectorizedMismatch_132 : decode cJ21_vectorizedMismatch 132 = .ok (.iload 7, 2) := dk_21 7 (dk_at dksJ21_vectorizedMismatch_5 16 rfl rfl)
theorem dJ21_vectorizedMismatch_134 : decode cJ21_vectorizedMismatch 134 = .ok (.getstatic 51, 3) := dk_178 0 51 (dk_at dksJ21_vectorizedMismatch_5 18 rfl rfl)
theorem dJ21_vectorizedMismatch_137 : decode cJ21_vectorizedMismatch 137 = .ok (.if_icmp .ge 126, 3) := dk_162 0 126 (dk_at dksJ21_vectorizedMismatch_5 21 rfl rfl)
theorem dJ21_vectorizedMismatch_140 : decode cJ21_vectorizedMismatch 140 = .ok (.iconst 1, 1) := dk_4 (dk_at dksJ21_vectorizedMismatch_6 0 rfl rfl)
theorem dJ21_vectorizedMismatch_141 : decode cJ21_vectorizedMismatch 141 = .ok (.getstatic 51, 3) := dk_178 0 51 (dk_at dksJ21_vectorizedMismatch_6 1 rfl rfl)
theorem dJ21_vectorizedMismatch_144 : decode cJ21_vectorizedMismatch 144 = .ok (.iload 7, 2) := dk_21 7 (dk_at dksJ21_vectorizedMismatch_6 4 rfl rfl)
theorem dJ21_vectorizedMismatch_146 : decode cJ21_vectorizedMismatch 146 = .ok (.isub, 1) := dk_100 (dk_at dksJ21_vectorizedMismatch_6 6 rfl rfl)
theorem dJ21_vectorizedMismatch_147 : decode cJ21_vectorizedMismatch 147 = .ok (.ishl, 1) := dk_120 (dk_at dksJ21_vectorizedMismatch_6 7 rfl rfl)
theorem dJ21_vectorizedMismatch_148 : decode cJ21_vectorizedMismatch 148 = .ok (.istore 11, 2) := dk_54 11 (dk_at dksJ21_vectorizedMismatch_6 8 rfl rfl)
theorem dJ21_vectorizedMismatch_150 : decode cJ21_vectorizedMismatch 150 = .ok (.iload 10, 2) := dk_21 10 (dk_at dksJ21_vectorizedMismatch_6 10 rfl rfl)
theorem dJ21_vectorizedMismatch_152 : decode cJ21_vectorizedMismatch 152 = .ok (.iload 11, 2) := dk_21 11 (dk_at dksJ21_vectorizedMismatch_6 12 rfl rfl)
theorem dJ21_vectorizedMismatch_154 : decode cJ21_vectorizedMismatch 154 = .ok (.if_icmp .lt 104, 3) := dk_161 0 104 (dk_at dksJ21_vectorizedMismatch_6 14 rfl rfl)
theorem dJ21_vectorizedMismatch_157 : decode cJ21_vectorizedMismatch 157 = .ok (.iload 9, 2) := dk_21 9 (dk_at dksJ21_vectorizedMismatch_6 17 rfl rfl)
theorem dJ21_vectorizedMismatch_159 : decode cJ21_vectorizedMismatch 159 = .ok (.i2l, 1) := dk_133 (dk_at dksJ21_vectorizedMismatch_6 19 rfl rfl)
theorem dJ21_vectorizedMismatch_160 : decode cJ21_vectorizedMismatch 160 = .ok (.getstatic 20, 3) := dk_178 0 20 (dk_at dksJ21_vectorizedMismatch_6 20 rfl rfl)
theorem dJ21_vectorizedMismatch_163 : decode cJ21_vectorizedMismatch 163 = .ok (.lshl, 1) := dk_121 (dk_at dksJ21_vectorizedMismatch_6 23 rfl rfl)
theorem dJ21_vectorizedMismatch_164 : decode cJ21_vectorizedMismatch 164 = .ok (.lstore 12, 2) := dk_55 12 (dk_at dksJ21_vectorizedMismatch_7 0 rfl rfl)
theorem dJ21_vectorizedMismatch_166 : decode cJ21_vectorizedMismatch 166 = .ok (.getstatic 26, 3) := dk_178 0 26 (dk_at dksJ21_vectorizedMismatch_7 2 rfl rfl)
theorem dJ21_vectorizedMismatch_169 : decode cJ21_vectorizedMismatch 169 = .ok (.aload_n 0, 1) := dk_42 (dk_at dksJ21_vectorizedMismatch_7 5 rfl rfl)
theorem dJ21_vectorizedMismatch_170 : decode cJ21_vectorizedMismatch 170 = .ok (.lload_n 1, 1) := dk_31 (dk_at dksJ21_vectorizedMismatch_7 6 rfl rfl)
theorem dJ21_vectorizedMismatch_171 : decode cJ21_vectorizedMismatch 171 = .ok (.lload 12, 2) := dk_22 12 (dk_at dksJ21_vectorizedMismatch_7 7 rfl rfl)
theorem dJ21_vectorizedMismatch_173 : decode cJ21_vectorizedMismatch 173 = .ok (.ladd, 1) := dk_97 (dk_at dksJ21_vectorizedMismatch_7 9 rfl rfl)
theorem dJ21_vectorizedMismatch_174 : decode cJ21_vectorizedMismatch 174 = .ok (.invokevirtual 54, 3) := dk_182 0 54 (dk_at dksJ21_vectorizedMismatch_7 10 rfl rfl)
theorem dJ21_vectorizedMismatch_177 : decode cJ21_vectorizedMismatch 177 = .ok (.istore 14, 2) := dk_54 14 (dk_at dksJ21_vectorizedMismatch_7 13 rfl rfl)
theorem dJ21_vectorizedMismatch_179 : decode cJ21_vectorizedMismatch 179 = .ok (.getstatic 26, 3) := dk_178 0 26 (dk_at dksJ21_vectorizedMismatch_7 15 rfl rfl)
theorem dJ21_vectorizedMismatch_182 : decode cJ21_vectorizedMismatch 182 = .ok (.aload_n 3, 1) := dk_45 (dk_at dksJ21_vectorizedMismatch_7 18 rfl rfl)
theorem dJ21_vectorizedMismatch_183 : decode cJ21_vectorizedMismatch 183 = .ok (.lload 4, 2) := dk_22 4 (dk_at dksJ21_vectorizedMismatch_7 19 rfl rfl)
theorem dJ21_vectorizedMismatch_185 : decode cJ21_vectorizedMismatch 185 = .ok (.lload 12, 2) := dk_22 12 (dk_at dksJ21_vectorizedMismatch_7 21 rfl rfl)
theorem dJ21_vectorizedMismatch_187 : decode cJ21_vectorizedMismatch 187 = .ok (.ladd, 1) := dk_97 (dk_at dksJ21_vectorizedMismatch_7 23 rfl rfl)
theorem dJ21_vectorizedMismatch_188 : decode cJ21_vectorizedMismatch 188 = .ok (.invokevirtual 54, 3) := dk_182 0 54 (dk_at dksJ21_vectorizedMismatch_8 0 rfl rfl)
theorem dJ21_vectorizedMismatch_191 : decode cJ21_vectorizedMismatch 191 = .ok (.istore 15, 2) := dk_54 15 (dk_at dksJ21_vectorizedMismatch_8 3 rfl rfl)
theorem dJ21_vectorizedMismatch_193 : decode cJ21_vectorizedMismatch 193 = .ok (.iload 14, 2) := dk_21 14 (dk_at dksJ21_vectorizedMismatch_8 5 rfl rfl)
theorem dJ21_vectorizedMismatch_195 : decode cJ21_vectorizedMismatch 195 = .ok (.iload 15, 2) := dk_21 15 (dk_at dksJ21_vectorizedMismatch_8 7 rfl rfl)
theorem dJ21_vectorizedMismatch_197 : decode cJ21_vectorizedMismatch 197 = .ok (.if_icmp .eq 54, 3) := dk_159 0 54 (dk_at dksJ21_vectorizedMismatch_8 9 rfl rfl)
theorem dJ21_vectorizedMismatch_200 : decode cJ21_vectorizedMismatch 200 = .ok (.iload 14, 2) := dk_21 14 (dk_at dksJ21_vectorizedMismatch_8 12 rfl rfl)
theorem dJ21_vectorizedMismatch_202 : decode cJ21_vectorizedMismatch 202 = .ok (.iload 15, 2) := dk_21 15 (dk_at dksJ21_vectorizedMismatch_8 14 rfl rfl)
theorem dJ21_vectorizedMismatch_204 : decode cJ21_vectorizedMismatch 204 = .ok (.ixor, 1) := dk_130 (dk_at dksJ21_vectorizedMismatch_8 16 rfl rfl)
theorem dJ21_vectorizedMismatch_205 : decode cJ21_vectorizedMismatch 205 = .ok (.istore 16, 2) := dk_54 16 (dk_at dksJ21_vectorizedMismatch_8 17 rfl rfl)
theorem dJ21_vectorizedMismatch_207 : decode cJ21_vectorizedMismatch 207 = .ok (.getstatic 36, 3) := dk_178 0 36 (dk_at dksJ21_vectorizedMismatch_8 19 rfl rfl)
theorem dJ21_vectorizedMismatch_210 : decode cJ21_vectorizedMismatch 210 = .ok (.ifCond .eq 18, 3) := dk_153 0 18 (dk_at dksJ21_vectorizedMismatch_9 0 rfl rfl)
theorem dJ21_vectorizedMismatch_213 : decode cJ21_vectorizedMismatch 213 = .ok (.iload 16, 2) := dk_21 16 (dk_at dksJ21_vectorizedMismatch_9 3 rfl rfl)
theorem dJ21_vectorizedMismatch_215 : decode cJ21_vectorizedMismatch 215 = .ok (.invokestatic 58, 3) := dk_184 0 58 (dk_at dksJ21_vectorizedMismatch_9 5 rfl rfl)
theorem dJ21_vectorizedMismatch_218 : decode cJ21_vectorizedMismatch 218 = .ok (.getstatic 46, 3) := dk_178 0 46 (dk_at dksJ21_vectorizedMismatch_9 8 rfl rfl)
theorem dJ21_vectorizedMismatch_221 : decode cJ21_vectorizedMismatch 221 = .ok (.iload 7, 2) := dk_21 7 (dk_at dksJ21_vectorizedMismatch_9 11 rfl rfl)
theorem dJ21_vectorizedMismatch_223 : decode cJ21_vectorizedMismatch 223 = .ok (.iadd, 1) := dk_96 (dk_at dksJ21_vectorizedMismatch_9 13 rfl rfl)
theorem dJ21_vectorizedMismatch_224 : decode cJ21_vectorizedMismatch 224 = .ok (.ishr, 1) := dk_122 (dk_at dksJ21_vectorizedMismatch_9 14 rfl rfl)
theorem dJ21_vectorizedMismatch_225 : decode cJ21_vectorizedMismatch 225 = .ok (.goto 15, 3) := dk_167 0 15 (dk_at dksJ21_vectorizedMismatch_9 15 rfl rfl)
theorem dJ21_vectorizedMismatch_228 : decode cJ21_vectorizedMismatch 228 = .ok (.iload 16, 2) := dk_21 16 (dk_at dksJ21_vectorizedMismatch_9 18 rfl rfl)
theorem dJ21_vectorizedMismatch_230 : decode cJ21_vectorizedMismatch 230 = .ok (.invokestatic 11, 3) := dk_184 0 11 (dk_at dksJ21_vectorizedMismatch_9 20 rfl rfl)
theorem dJ21_vectorizedMismatch_233 : decode cJ21_vectorizedMismatch 233 = .ok (.getstatic 46, 3) := dk_178 0 46 (dk_at dksJ21_vectorizedMismatch_10 0 rfl rfl)
theorem dJ21_vectorizedMismatch_236 : decode cJ21_vectorizedMismatch 236 = .ok (.iload 7, 2) := dk_21 7 (dk_at dksJ21_vectorizedMismatch_10 3 rfl rfl)
theorem dJ21_vectorizedMismatch_238 : decode cJ21_vectorizedMismatch 238 = .ok (.iadd, 1) := dk_96 (dk_at dksJ21_vectorizedMismatch_10 5 rfl rfl)
theorem dJ21_vectorizedMismatch_239 : decode cJ21_vectorizedMismatch 239 = .ok (.ishr, 1) := dk_122 (dk_at dksJ21_vectorizedMismatch_10 6 rfl rfl)
theorem dJ21_vectorizedMismatch_240 : decode cJ21_vectorizedMismatch 240 = .ok (.istore 17, 2) := dk_54 17 (dk_at dksJ21_vectorizedMismatch_10 7 rfl rfl)
theorem dJ21_vectorizedMismatch_242 : decode cJ21_vectorizedMismatch 242 = .ok (.iload 9, 2) := dk_21 9 (dk_at dksJ21_vectorizedMismatch_10 9 rfl rfl)
theorem dJ21_vectorizedMismatch_244 : decode cJ21_vectorizedMismatch 244 = .ok (.iload 8, 2) := dk_21 8 (dk_at dksJ21_vectorizedMismatch_10 11 rfl rfl)
theorem dJ21_vectorizedMismatch_246 : decode cJ21_vectorizedMismatch 246 = .ok (.ishl, 1) := dk_120 (dk_at dksJ21_vectorizedMismatch_10 13 rfl rfl)
theorem dJ21_vectorizedMismatch_247 : decode cJ21_vectorizedMismatch 247 = .ok (.iload 17, 2) := dk_21 17 (dk_at dksJ21_vectorizedMismatch_10 14 rfl rfl)
theorem dJ21_vectorizedMismatch_249 : decode cJ21_vectorizedMismatch 249 = .ok (.iadd, 1) := dk_96 (dk_at dksJ21_vectorizedMismatch_10 16 rfl rfl)
theorem dJ21_vectorizedMismatch_250 : decode cJ21_vectorizedMismatch 250 = .ok (.ireturn, 1) := dk_172 (dk_at dksJ21_vectorizedMismatch_10 17 rfl rfl)
theorem dJ21_vectorizedMismatch_251 : decode cJ21_vectorizedMismatch 251 = .ok (.iload 10, 2) := dk_21 10 (dk_at dksJ21_vectorizedMismatch_10 18 rfl rfl)
theorem dJ21_vectorizedMismatch_253 : decode cJ21_vectorizedMismatch 253 = .ok (.iload 11, 2) := dk_21 11 (dk_at dksJ21_vectorizedMismatch_10 20 rfl rfl)
theorem dJ21_vectorizedMismatch_255 : decode cJ21_vectorizedMismatch 255 = .ok (.isub, 1) := dk_100 (dk_at dksJ21_vectorizedMismatch_10 22 rfl rfl)
theorem dJ21_vectorizedMismatch_256 : decode cJ21_vectorizedMismatch 256 = .ok (.istore 10, 2) := dk_54 10 (dk_at dksJ21_vectorizedMismatch_11 0 rfl rfl)
theorem dJ21_vectorizedMismatch_258 : decode cJ21_vectorizedMismatch 258 = .ok (.iload 10, 2) := dk_21 10 (dk_at dksJ21_vectorizedMismatch_11 2 rfl rfl)
theorem dJ21_vectorizedMismatch_260 : decode cJ21_vectorizedMismatch 260 = .ok (.iconst (-1), 1) := dk_2 (dk_at dksJ21_vectorizedMismatch_11 4 rfl rfl)
theorem dJ21_vectorizedMismatch_261 : decode cJ21_vectorizedMismatch 261 = .ok (.ixor, 1) := dk_130 (dk_at dksJ21_vectorizedMismatch_11 5 rfl rfl)
theorem dJ21_vectorizedMismatch_262 : decode cJ21_vectorizedMismatch 262 = .ok (.ireturn, 1) := dk_172 (dk_at dksJ21_vectorizedMismatch_11 6 rfl rfl)
theorem dJ21_vectorizedMismatch_263 : decode cJ21_vectorizedMismatch 263 = .ok (.iload 10, 2) := dk_21 10 (dk_at dksJ21_vectorizedMismatch_11 7 rfl rfl)
theorem dJ21_vectorizedMismatch_265 : decode cJ21_vectorizedMismatch 265 = .ok (.iconst (-1), 1) := dk_2 (dk_at dksJ21_vectorizedMismatch_11 9 rfl rfl)
theorem dJ21_vectorizedMismatch_266 : decode cJ21_vectorizedMismatch 266 = .ok (.ixor, 1) := dk_130 (dk_at dksJ21_vectorizedMismatch_11 10 rfl rfl)
theorem dJ21_vectorizedMismatch_267 : decode cJ21_vectorizedMismatch 267 = .ok (.ireturn, 1) := dk_172 (dk_at dksJ21_vectorizedMismatch_11 11 rfl rfl)
abbrev cJ21_vectorizedHashCode : ByteArray := prog_86_method_4_code
def yJ21_vectorizedHashCode : MethodName := ⟨RJ21, "vectorizedHashCode", "(Ljava/lang/Object;IIII)I"⟩
def dkwJ21_vectorizedHashCode_6 : List UInt8 := [183, 0, 91, 18, 92, 182, 0, 94, 21, 4, 182, 0, 98, 182, 0, 101, 183, 0, 105, 191, 172]
abbrev dktJ21_vectorizedHashCode_6 : List UInt8 := dkwJ21_vectorizedHashCode_6 ++ []
def dkwJ21_vectorizedHashCode_5 : List UInt8 := [167, 0, 44, 29, 42, 192, 0, 82, 27, 28, 184, 0, 84, 167, 0, 31, 187, 0, 87, 89, 187, 0, 89, 89]
abbrev dktJ21_vectorizedHashCode_5 : List UInt8 := dkwJ21_vectorizedHashCode_5 ++ dktJ21_vectorizedHashCode_6
def dkwJ21_vectorizedHashCode_4 : List UInt8 := [29, 42, 192, 0, 60, 27, 28, 184, 0, 75, 167, 0, 57, 29, 42, 192, 0, 77, 27, 28, 184, 0, 79]
abbrev dktJ21_vectorizedHashCode_4 : List UInt8 := dkwJ21_vectorizedHashCode_4 ++ dktJ21_vectorizedHashCode_5
def dkwJ21_vectorizedHashCode_3 : List UInt8 := [192, 0, 60, 27, 28, 184, 0, 66, 167, 0, 83, 29, 42, 192, 0, 69, 27, 28, 184, 0, 71, 167, 0, 70]
abbrev dktJ21_vectorizedHashCode_3 : List UInt8 := dkwJ21_vectorizedHashCode_3 ++ dktJ21_vectorizedHashCode_4
def dkwJ21_vectorizedHashCode_2 : List UInt8 := [29, 42, 192, 0, 60, 27, 28, 184, 0, 62, 167, 0, 103, 42, 193, 0, 60, 153, 0, 16, 29, 42]
abbrev dktJ21_vectorizedHashCode_2 : List UInt8 := dkwJ21_vectorizedHashCode_2 ++ dktJ21_vectorizedHashCode_3
def dkwJ21_vectorizedHashCode_1 : List UInt8 := [170, 0, 0, 0, 0, 127, 0, 0, 0, 4, 0, 0, 0, 10, 0, 0, 0, 42, 0, 0, 0, 55, 0, 0, 0, 127, 0, 0, 0, 127, 0, 0, 0, 88, 0, 0, 0, 101, 0, 0, 0, 114]
abbrev dktJ21_vectorizedHashCode_1 : List UInt8 := dkwJ21_vectorizedHashCode_1 ++ dktJ21_vectorizedHashCode_2
def dkwJ21_vectorizedHashCode_0 : List UInt8 := [21, 4]
abbrev dktJ21_vectorizedHashCode_0 : List UInt8 := dkwJ21_vectorizedHashCode_0 ++ dktJ21_vectorizedHashCode_1
theorem dksJ21_vectorizedHashCode_0 : cJ21_vectorizedHashCode.data.toList.drop 0 = dktJ21_vectorizedHashCode_0 := by decide +kernel
theorem dksJ21_vectorizedHashCode_1 : cJ21_vectorizedHashCode.data.toList.drop 2 = dktJ21_vectorizedHashCode_1 := dk_seg dksJ21_vectorizedHashCode_0 2 rfl rfl
theorem dksJ21_vectorizedHashCode_2 : cJ21_vectorizedHashCode.data.toList.drop 44 = dktJ21_vectorizedHashCode_2 := dk_seg dksJ21_vectorizedHashCode_1 42 rfl rfl
theorem dksJ21_vectorizedHashCode_3 : cJ21_vectorizedHashCode.data.toList.drop 66 = dktJ21_vectorizedHashCode_3 := dk_seg dksJ21_vectorizedHashCode_2 22 rfl rfl
theorem dksJ21_vectorizedHashCode_4 : cJ21_vectorizedHashCode.data.toList.drop 90 = dktJ21_vectorizedHashCode_4 := dk_seg dksJ21_vectorizedHashCode_3 24 rfl rfl
theorem dksJ21_vectorizedHashCode_5 : cJ21_vectorizedHashCode.data.toList.drop 113 = dktJ21_vectorizedHashCode_5 := dk_seg dksJ21_vectorizedHashCode_4 23 rfl rfl
theorem dksJ21_vectorizedHashCode_6 : cJ21_vectorizedHashCode.data.toList.drop 137 = dktJ21_vectorizedHashCode_6 := dk_seg dksJ21_vectorizedHashCode_5 24 rfl rfl
theorem dJ21_vectorizedHashCode_0 : decode cJ21_vectorizedHashCode 0 = .ok (.iload 4, 2) := dk_21 4 (dk_at dksJ21_vectorizedHashCode_0 0 rfl rfl)
theorem dJ21_vectorizedHashCode_2 : decode cJ21_vectorizedHashCode 2 = .ok (.tableswitch 127 4 10 #[42, 55, 127, 127, 88, 101, 114], 42) := by decide +kernel
theorem dJ21_vectorizedHashCode_44 : decode cJ21_vectorizedHashCode 44 = .ok (.iload_n 3, 1) := dk_29 (dk_at dksJ21_vectorizedHashCode_2 0 rfl rfl)
theorem dJ21_vectorizedHashCode_45 : decode cJ21_vectorizedHashCode 45 = .ok (.aload_n 0, 1) := dk_42 (dk_at dksJ21_vectorizedHashCode_2 1 rfl rfl)
theorem dJ21_vectorizedHashCode_46 : decode cJ21_vectorizedHashCode 46 = .ok (.checkcast 60, 3) := dk_192 0 60 (dk_at dksJ21_vectorizedHashCode_2 2 rfl rfl)
theorem dJ21_vectorizedHashCode_49 : decode cJ21_vectorizedHashCode 49 = .ok (.iload_n 1, 1) := dk_27 (dk_at dksJ21_vectorizedHashCode_2 5 rfl rfl)
theorem dJ21_vectorizedHashCode_50 : decode cJ21_vectorizedHashCode 50 = .ok (.iload_n 2, 1) := dk_28 (dk_at dksJ21_vectorizedHashCode_2 6 rfl rfl)
theorem dJ21_vectorizedHashCode_51 : decode cJ21_vectorizedHashCode 51 = .ok (.invokestatic 62, 3) := dk_184 0 62 (dk_at dksJ21_vectorizedHashCode_2 7 rfl rfl)
theorem dJ21_vectorizedHashCode_54 : decode cJ21_vectorizedHashCode 54 = .ok (.goto 103, 3) := dk_167 0 103 (dk_at dksJ21_vectorizedHashCode_2 10 rfl rfl)
theorem dJ21_vectorizedHashCode_57 : decode cJ21_vectorizedHashCode 57 = .ok (.aload_n 0, 1) := dk_42 (dk_at dksJ21_vectorizedHashCode_2 13 rfl rfl)
theorem dJ21_vectorizedHashCode_58 : decode cJ21_vectorizedHashCode 58 = .ok (.instanceof 60, 3) := dk_193 0 60 (dk_at dksJ21_vectorizedHashCode_2 14 rfl rfl)
theorem dJ21_vectorizedHashCode_61 : decode cJ21_vectorizedHashCode 61 = .ok (.ifCond .eq 16, 3) := dk_153 0 16 (dk_at dksJ21_vectorizedHashCode_2 17 rfl rfl)
theorem dJ21_vectorizedHashCode_64 : decode cJ21_vectorizedHashCode 64 = .ok (.iload_n 3, 1) := dk_29 (dk_at dksJ21_vectorizedHashCode_2 20 rfl rfl)
theorem dJ21_vectorizedHashCode_65 : decode cJ21_vectorizedHashCode 65 = .ok (.aload_n 0, 1) := dk_42 (dk_at dksJ21_vectorizedHashCode_2 21 rfl rfl)
theorem dJ21_vectorizedHashCode_66 : decode cJ21_vectorizedHashCode 66 = .ok (.checkcast 60, 3) := dk_192 0 60 (dk_at dksJ21_vectorizedHashCode_3 0 rfl rfl)
theorem dJ21_vectorizedHashCode_69 : decode cJ21_vectorizedHashCode 69 = .ok (.iload_n 1, 1) := dk_27 (dk_at dksJ21_vectorizedHashCode_3 3 rfl rfl)
theorem dJ21_vectorizedHashCode_70 : decode cJ21_vectorizedHashCode 70 = .ok (.iload_n 2, 1) := dk_28 (dk_at dksJ21_vectorizedHashCode_3 4 rfl rfl)
theorem dJ21_vectorizedHashCode_71 : decode cJ21_vectorizedHashCode 71 = .ok (.invokestatic 66, 3) := dk_184 0 66 (dk_at dksJ21_vectorizedHashCode_3 5 rfl rfl)
theorem dJ21_vectorizedHashCode_74 : decode cJ21_vectorizedHashCode 74 = .ok (.goto 83, 3) := dk_167 0 83 (dk_at dksJ21_vectorizedHashCode_3 8 rfl rfl)
theorem dJ21_vectorizedHashCode_77 : decode cJ21_vectorizedHashCode 77 = .ok (.iload_n 3, 1) := dk_29 (dk_at dksJ21_vectorizedHashCode_3 11 rfl rfl)
theorem dJ21_vectorizedHashCode_78 : decode cJ21_vectorizedHashCode 78 = .ok (.aload_n 0, 1) := dk_42 (dk_at dksJ21_vectorizedHashCode_3 12 rfl rfl)
theorem dJ21_vectorizedHashCode_79 : decode cJ21_vectorizedHashCode 79 = .ok (.checkcast 69, 3) := dk_192 0 69 (dk_at dksJ21_vectorizedHashCode_3 13 rfl rfl)
theorem dJ21_vectorizedHashCode_82 : decode cJ21_vectorizedHashCode 82 = .ok (.iload_n 1, 1) := dk_27 (dk_at dksJ21_vectorizedHashCode_3 16 rfl rfl)
theorem dJ21_vectorizedHashCode_83 : decode cJ21_vectorizedHashCode 83 = .ok (.iload_n 2, 1) := dk_28 (dk_at dksJ21_vectorizedHashCode_3 17 rfl rfl)
theorem dJ21_vectorizedHashCode_84 : decode cJ21_vectorizedHashCode 84 = .ok (.invokestatic 71, 3) := dk_184 0 71 (dk_at dksJ21_vectorizedHashCode_3 18 rfl rfl)
theorem dJ21_vectorizedHashCode_87 : decode cJ21_vectorizedHashCode 87 = .ok (.goto 70, 3) := dk_167 0 70 (dk_at dksJ21_vectorizedHashCode_3 21 rfl rfl)
theorem dJ21_vectorizedHashCode_90 : decode cJ21_vectorizedHashCode 90 = .ok (.iload_n 3, 1) := dk_29 (dk_at dksJ21_vectorizedHashCode_4 0 rfl rfl)
theorem dJ21_vectorizedHashCode_91 : decode cJ21_vectorizedHashCode 91 = .ok (.aload_n 0, 1) := dk_42 (dk_at dksJ21_vectorizedHashCode_4 1 rfl rfl)
theorem dJ21_vectorizedHashCode_92 : decode cJ21_vectorizedHashCode 92 = .ok (.checkcast 60, 3) := dk_192 0 60 (dk_at dksJ21_vectorizedHashCode_4 2 rfl rfl)
theorem dJ21_vectorizedHashCode_95 : decode cJ21_vectorizedHashCode 95 = .ok (.iload_n 1, 1) := dk_27 (dk_at dksJ21_vectorizedHashCode_4 5 rfl rfl)
theorem dJ21_vectorizedHashCode_96 : decode cJ21_vectorizedHashCode 96 = .ok (.iload_n 2, 1) := dk_28 (dk_at dksJ21_vectorizedHashCode_4 6 rfl rfl)
theorem dJ21_vectorizedHashCode_97 : decode cJ21_vectorizedHashCode 97 = .ok (.invokestatic 75, 3) := dk_184 0 75 (dk_at dksJ21_vectorizedHashCode_4 7 rfl rfl)
theorem dJ21_vectorizedHashCode_100 : decode cJ21_vectorizedHashCode 100 = .ok (.goto 57, 3) := dk_167 0 57 (dk_at dksJ21_vectorizedHashCode_4 10 rfl rfl)
theorem dJ21_vectorizedHashCode_103 : decode cJ21_vectorizedHashCode 103 = .ok (.iload_n 3, 1) := dk_29 (dk_at dksJ21_vectorizedHashCode_4 13 rfl rfl)
theorem dJ21_vectorizedHashCode_104 : decode cJ21_vectorizedHashCode 104 = .ok (.aload_n 0, 1) := dk_42 (dk_at dksJ21_vectorizedHashCode_4 14 rfl rfl)
theorem dJ21_vectorizedHashCode_105 : decode cJ21_vectorizedHashCode 105 = .ok (.checkcast 77, 3) := dk_192 0 77 (dk_at dksJ21_vectorizedHashCode_4 15 rfl rfl)
theorem dJ21_vectorizedHashCode_108 : decode cJ21_vectorizedHashCode 108 = .ok (.iload_n 1, 1) := dk_27 (dk_at dksJ21_vectorizedHashCode_4 18 rfl rfl)
theorem dJ21_vectorizedHashCode_109 : decode cJ21_vectorizedHashCode 109 = .ok (.iload_n 2, 1) := dk_28 (dk_at dksJ21_vectorizedHashCode_4 19 rfl rfl)
theorem dJ21_vectorizedHashCode_110 : decode cJ21_vectorizedHashCode 110 = .ok (.invokestatic 79, 3) := dk_184 0 79 (dk_at dksJ21_vectorizedHashCode_4 20 rfl rfl)
theorem dJ21_vectorizedHashCode_113 : decode cJ21_vectorizedHashCode 113 = .ok (.goto 44, 3) := dk_167 0 44 (dk_at dksJ21_vectorizedHashCode_5 0 rfl rfl)
theorem dJ21_vectorizedHashCode_116 : decode cJ21_vectorizedHashCode 116 = .ok (.iload_n 3, 1) := dk_29 (dk_at dksJ21_vectorizedHashCode_5 3 rfl rfl)
theorem dJ21_vectorizedHashCode_117 : decode cJ21_vectorizedHashCode 117 = .ok (.aload_n 0, 1) := dk_42 (dk_at dksJ21_vectorizedHashCode_5 4 rfl rfl)
theorem dJ21_vectorizedHashCode_118 : decode cJ21_vectorizedHashCode 118 = .ok (.checkcast 82, 3) := dk_192 0 82 (dk_at dksJ21_vectorizedHashCode_5 5 rfl rfl)
theorem dJ21_vectorizedHashCode_121 : decode cJ21_vectorizedHashCode 121 = .ok (.iload_n 1, 1) := dk_27 (dk_at dksJ21_vectorizedHashCode_5 8 rfl rfl)
theorem dJ21_vectorizedHashCode_122 : decode cJ21_vectorizedHashCode 122 = .ok (.iload_n 2, 1) := dk_28 (dk_at dksJ21_vectorizedHashCode_5 9 rfl rfl)
theorem dJ21_vectorizedHashCode_123 : decode cJ21_vectorizedHashCode 123 = .ok (.invokestatic 84, 3) := dk_184 0 84 (dk_at dksJ21_vectorizedHashCode_5 10 rfl rfl)
theorem dJ21_vectorizedHashCode_126 : decode cJ21_vectorizedHashCode 126 = .ok (.goto 31, 3) := dk_167 0 31 (dk_at dksJ21_vectorizedHashCode_5 13 rfl rfl)
theorem dJ21_vectorizedHashCode_129 : decode cJ21_vectorizedHashCode 129 = .ok (.new 87, 3) := dk_187 0 87 (dk_at dksJ21_vectorizedHashCode_5 16 rfl rfl)
theorem dJ21_vectorizedHashCode_132 : decode cJ21_vectorizedHashCode 132 = .ok (.dup, 1) := dk_89 (dk_at dksJ21_vectorizedHashCode_5 19 rfl rfl)
theorem dJ21_vectorizedHashCode_133 : decode cJ21_vectorizedHashCode 133 = .ok (.new 89, 3) := dk_187 0 89 (dk_at dksJ21_vectorizedHashCode_5 20 rfl rfl)
theorem dJ21_vectorizedHashCode_136 : decode cJ21_vectorizedHashCode 136 = .ok (.dup, 1) := dk_89 (dk_at dksJ21_vectorizedHashCode_5 23 rfl rfl)
theorem dJ21_vectorizedHashCode_137 : decode cJ21_vectorizedHashCode 137 = .ok (.invokespecial 91, 3) := dk_183 0 91 (dk_at dksJ21_vectorizedHashCode_6 0 rfl rfl)
theorem dJ21_vectorizedHashCode_140 : decode cJ21_vectorizedHashCode 140 = .ok (.ldc 92, 2) := dk_18 92 (dk_at dksJ21_vectorizedHashCode_6 3 rfl rfl)
theorem dJ21_vectorizedHashCode_142 : decode cJ21_vectorizedHashCode 142 = .ok (.invokevirtual 94, 3) := dk_182 0 94 (dk_at dksJ21_vectorizedHashCode_6 5 rfl rfl)
theorem dJ21_vectorizedHashCode_145 : decode cJ21_vectorizedHashCode 145 = .ok (.iload 4, 2) := dk_21 4 (dk_at dksJ21_vectorizedHashCode_6 8 rfl rfl)
theorem dJ21_vectorizedHashCode_147 : decode cJ21_vectorizedHashCode 147 = .ok (.invokevirtual 98, 3) := dk_182 0 98 (dk_at dksJ21_vectorizedHashCode_6 10 rfl rfl)
theorem dJ21_vectorizedHashCode_150 : decode cJ21_vectorizedHashCode 150 = .ok (.invokevirtual 101, 3) := dk_182 0 101 (dk_at dksJ21_vectorizedHashCode_6 13 rfl rfl)
theorem dJ21_vectorizedHashCode_153 : decode cJ21_vectorizedHashCode 153 = .ok (.invokespecial 105, 3) := dk_183 0 105 (dk_at dksJ21_vectorizedHashCode_6 16 rfl rfl)
theorem dJ21_vectorizedHashCode_156 : decode cJ21_vectorizedHashCode 156 = .ok (.athrow, 1) := dk_191 (dk_at dksJ21_vectorizedHashCode_6 19 rfl rfl)
theorem dJ21_vectorizedHashCode_157 : decode cJ21_vectorizedHashCode 157 = .ok (.ireturn, 1) := dk_172 (dk_at dksJ21_vectorizedHashCode_6 20 rfl rfl)
abbrev cJ21_signedHashCode : ByteArray := prog_86_method_5_code
def yJ21_signedHashCode : MethodName := ⟨RJ21, "signedHashCode", "(I[BII)I"⟩
def dkwJ21_signedHashCode_1 : List UInt8 := [17, 0, 255, 126, 96, 59, 132, 5, 1, 167, 255, 232, 26, 172]
abbrev dktJ21_signedHashCode_1 : List UInt8 := dkwJ21_signedHashCode_1 ++ []
def dkwJ21_signedHashCode_0 : List UInt8 := [28, 29, 96, 54, 4, 28, 54, 5, 21, 5, 21, 4, 162, 0, 23, 16, 31, 26, 104, 43, 21, 5, 51]
abbrev dktJ21_signedHashCode_0 : List UInt8 := dkwJ21_signedHashCode_0 ++ dktJ21_signedHashCode_1
theorem dksJ21_signedHashCode_0 : cJ21_signedHashCode.data.toList.drop 0 = dktJ21_signedHashCode_0 := by decide +kernel
theorem dksJ21_signedHashCode_1 : cJ21_signedHashCode.data.toList.drop 23 = dktJ21_signedHashCode_1 := dk_seg dksJ21_signedHashCode_0 23 rfl rfl
theorem dJ21_signedHashCode_0 : decode cJ21_signedHashCode 0 = .ok (.iload_n 2, 1) := dk_28 (dk_at dksJ21_signedHashCode_0 0 rfl rfl)
theorem dJ21_signedHashCode_1 : decode cJ21_signedHashCode 1 = .ok (.iload_n 3, 1) := dk_29 (dk_at dksJ21_signedHashCode_0 1 rfl rfl)
theorem dJ21_signedHashCode_2 : decode cJ21_signedHashCode 2 = .ok (.iadd, 1) := dk_96 (dk_at dksJ21_signedHashCode_0 2 rfl rfl)
theorem dJ21_signedHashCode_3 : decode cJ21_signedHashCode 3 = .ok (.istore 4, 2) := dk_54 4 (dk_at dksJ21_signedHashCode_0 3 rfl rfl)
theorem dJ21_signedHashCode_5 : decode cJ21_signedHashCode 5 = .ok (.iload_n 2, 1) := dk_28 (dk_at dksJ21_signedHashCode_0 5 rfl rfl)
theorem dJ21_signedHashCode_6 : decode cJ21_signedHashCode 6 = .ok (.istore 5, 2) := dk_54 5 (dk_at dksJ21_signedHashCode_0 6 rfl rfl)
theorem dJ21_signedHashCode_8 : decode cJ21_signedHashCode 8 = .ok (.iload 5, 2) := dk_21 5 (dk_at dksJ21_signedHashCode_0 8 rfl rfl)
theorem dJ21_signedHashCode_10 : decode cJ21_signedHashCode 10 = .ok (.iload 4, 2) := dk_21 4 (dk_at dksJ21_signedHashCode_0 10 rfl rfl)
theorem dJ21_signedHashCode_12 : decode cJ21_signedHashCode 12 = .ok (.if_icmp .ge 23, 3) := dk_162 0 23 (dk_at dksJ21_signedHashCode_0 12 rfl rfl)
theorem dJ21_signedHashCode_15 : decode cJ21_signedHashCode 15 = .ok (.bipush 31, 2) := dk_16 31 (dk_at dksJ21_signedHashCode_0 15 rfl rfl)
theorem dJ21_signedHashCode_17 : decode cJ21_signedHashCode 17 = .ok (.iload_n 0, 1) := dk_26 (dk_at dksJ21_signedHashCode_0 17 rfl rfl)
theorem dJ21_signedHashCode_18 : decode cJ21_signedHashCode 18 = .ok (.imul, 1) := dk_104 (dk_at dksJ21_signedHashCode_0 18 rfl rfl)
theorem dJ21_signedHashCode_19 : decode cJ21_signedHashCode 19 = .ok (.aload_n 1, 1) := dk_43 (dk_at dksJ21_signedHashCode_0 19 rfl rfl)
theorem dJ21_signedHashCode_20 : decode cJ21_signedHashCode 20 = .ok (.iload 5, 2) := dk_21 5 (dk_at dksJ21_signedHashCode_0 20 rfl rfl)
theorem dJ21_signedHashCode_22 : decode cJ21_signedHashCode 22 = .ok (.baload, 1) := dk_51 (dk_at dksJ21_signedHashCode_0 22 rfl rfl)
theorem dJ21_signedHashCode_23 : decode cJ21_signedHashCode 23 = .ok (.sipush 255, 3) := dk_17 0 255 (dk_at dksJ21_signedHashCode_1 0 rfl rfl)
theorem dJ21_signedHashCode_26 : decode cJ21_signedHashCode 26 = .ok (.iand, 1) := dk_126 (dk_at dksJ21_signedHashCode_1 3 rfl rfl)
theorem dJ21_signedHashCode_27 : decode cJ21_signedHashCode 27 = .ok (.iadd, 1) := dk_96 (dk_at dksJ21_signedHashCode_1 4 rfl rfl)
theorem dJ21_signedHashCode_28 : decode cJ21_signedHashCode 28 = .ok (.istore_n 0, 1) := dk_59 (dk_at dksJ21_signedHashCode_1 5 rfl rfl)
theorem dJ21_signedHashCode_29 : decode cJ21_signedHashCode 29 = .ok (.iinc 5 1, 3) := dk_132 5 1 (dk_at dksJ21_signedHashCode_1 6 rfl rfl)
theorem dJ21_signedHashCode_32 : decode cJ21_signedHashCode 32 = .ok (.goto (-24), 3) := dk_167 255 232 (dk_at dksJ21_signedHashCode_1 9 rfl rfl)
theorem dJ21_signedHashCode_35 : decode cJ21_signedHashCode 35 = .ok (.iload_n 0, 1) := dk_26 (dk_at dksJ21_signedHashCode_1 12 rfl rfl)
theorem dJ21_signedHashCode_36 : decode cJ21_signedHashCode 36 = .ok (.ireturn, 1) := dk_172 (dk_at dksJ21_signedHashCode_1 13 rfl rfl)
abbrev cJ21_utf16hashCode : ByteArray := prog_86_method_10_code
def yJ21_utf16hashCode : MethodName := ⟨RJ21, "utf16hashCode", "(I[BII)I"⟩
def dkwJ21_utf16hashCode_1 : List UInt8 := [21, 5, 185, 0, 110, 3, 0, 96, 59, 132, 5, 1, 167, 255, 229, 26, 172]
abbrev dktJ21_utf16hashCode_1 : List UInt8 := dkwJ21_utf16hashCode_1 ++ []
def dkwJ21_utf16hashCode_0 : List UInt8 := [28, 29, 96, 54, 4, 28, 54, 5, 21, 5, 21, 4, 162, 0, 26, 16, 31, 26, 104, 178, 0, 106, 43]
abbrev dktJ21_utf16hashCode_0 : List UInt8 := dkwJ21_utf16hashCode_0 ++ dktJ21_utf16hashCode_1
theorem dksJ21_utf16hashCode_0 : cJ21_utf16hashCode.data.toList.drop 0 = dktJ21_utf16hashCode_0 := by decide +kernel
theorem dksJ21_utf16hashCode_1 : cJ21_utf16hashCode.data.toList.drop 23 = dktJ21_utf16hashCode_1 := dk_seg dksJ21_utf16hashCode_0 23 rfl rfl
theorem dJ21_utf16hashCode_0 : decode cJ21_utf16hashCode 0 = .ok (.iload_n 2, 1) := dk_28 (dk_at dksJ21_utf16hashCode_0 0 rfl rfl)
theorem dJ21_utf16hashCode_1 : decode cJ21_utf16hashCode 1 = .ok (.iload_n 3, 1) := dk_29 (dk_at dksJ21_utf16hashCode_0 1 rfl rfl)
theorem dJ21_utf16hashCode_2 : decode cJ21_utf16hashCode 2 = .ok (.iadd, 1) := dk_96 (dk_at dksJ21_utf16hashCode_0 2 rfl rfl)
theorem dJ21_utf16hashCode_3 : decode cJ21_utf16hashCode 3 = .ok (.istore 4, 2) := dk_54 4 (dk_at dksJ21_utf16hashCode_0 3 rfl rfl)
theorem dJ21_utf16hashCode_5 : decode cJ21_utf16hashCode 5 = .ok (.iload_n 2, 1) := dk_28 (dk_at dksJ21_utf16hashCode_0 5 rfl rfl)
theorem dJ21_utf16hashCode_6 : decode cJ21_utf16hashCode 6 = .ok (.istore 5, 2) := dk_54 5 (dk_at dksJ21_utf16hashCode_0 6 rfl rfl)
theorem dJ21_utf16hashCode_8 : decode cJ21_utf16hashCode 8 = .ok (.iload 5, 2) := dk_21 5 (dk_at dksJ21_utf16hashCode_0 8 rfl rfl)
theorem dJ21_utf16hashCode_10 : decode cJ21_utf16hashCode 10 = .ok (.iload 4, 2) := dk_21 4 (dk_at dksJ21_utf16hashCode_0 10 rfl rfl)
theorem dJ21_utf16hashCode_12 : decode cJ21_utf16hashCode 12 = .ok (.if_icmp .ge 26, 3) := dk_162 0 26 (dk_at dksJ21_utf16hashCode_0 12 rfl rfl)
theorem dJ21_utf16hashCode_15 : decode cJ21_utf16hashCode 15 = .ok (.bipush 31, 2) := dk_16 31 (dk_at dksJ21_utf16hashCode_0 15 rfl rfl)
theorem dJ21_utf16hashCode_17 : decode cJ21_utf16hashCode 17 = .ok (.iload_n 0, 1) := dk_26 (dk_at dksJ21_utf16hashCode_0 17 rfl rfl)
theorem dJ21_utf16hashCode_18 : decode cJ21_utf16hashCode 18 = .ok (.imul, 1) := dk_104 (dk_at dksJ21_utf16hashCode_0 18 rfl rfl)
theorem dJ21_utf16hashCode_19 : decode cJ21_utf16hashCode 19 = .ok (.getstatic 106, 3) := dk_178 0 106 (dk_at dksJ21_utf16hashCode_0 19 rfl rfl)
theorem dJ21_utf16hashCode_22 : decode cJ21_utf16hashCode 22 = .ok (.aload_n 1, 1) := dk_43 (dk_at dksJ21_utf16hashCode_0 22 rfl rfl)
theorem dJ21_utf16hashCode_23 : decode cJ21_utf16hashCode 23 = .ok (.iload 5, 2) := dk_21 5 (dk_at dksJ21_utf16hashCode_1 0 rfl rfl)
theorem dJ21_utf16hashCode_25 : decode cJ21_utf16hashCode 25 = .ok (.invokeinterface 110 3, 5) := by decide +kernel
theorem dJ21_utf16hashCode_30 : decode cJ21_utf16hashCode 30 = .ok (.iadd, 1) := dk_96 (dk_at dksJ21_utf16hashCode_1 7 rfl rfl)
theorem dJ21_utf16hashCode_31 : decode cJ21_utf16hashCode 31 = .ok (.istore_n 0, 1) := dk_59 (dk_at dksJ21_utf16hashCode_1 8 rfl rfl)
theorem dJ21_utf16hashCode_32 : decode cJ21_utf16hashCode 32 = .ok (.iinc 5 1, 3) := dk_132 5 1 (dk_at dksJ21_utf16hashCode_1 9 rfl rfl)
theorem dJ21_utf16hashCode_35 : decode cJ21_utf16hashCode 35 = .ok (.goto (-27), 3) := dk_167 255 229 (dk_at dksJ21_utf16hashCode_1 12 rfl rfl)
theorem dJ21_utf16hashCode_38 : decode cJ21_utf16hashCode 38 = .ok (.iload_n 0, 1) := dk_26 (dk_at dksJ21_utf16hashCode_1 15 rfl rfl)
theorem dJ21_utf16hashCode_39 : decode cJ21_utf16hashCode 39 = .ok (.ireturn, 1) := dk_172 (dk_at dksJ21_utf16hashCode_1 16 rfl rfl)
abbrev cJ21_hashCode : ByteArray := prog_86_method_7_code
def yJ21_hashCode : MethodName := ⟨RJ21, "hashCode", "(I[CII)I"⟩
def dkwJ21_hashCode_1 : List UInt8 := [59, 132, 5, 1, 167, 255, 236, 26, 172]
abbrev dktJ21_hashCode_1 : List UInt8 := dkwJ21_hashCode_1 ++ []
def dkwJ21_hashCode_0 : List UInt8 := [28, 29, 96, 54, 4, 28, 54, 5, 21, 5, 21, 4, 162, 0, 19, 16, 31, 26, 104, 43, 21, 5, 52, 96]
abbrev dktJ21_hashCode_0 : List UInt8 := dkwJ21_hashCode_0 ++ dktJ21_hashCode_1
theorem dksJ21_hashCode_0 : cJ21_hashCode.data.toList.drop 0 = dktJ21_hashCode_0 := by decide +kernel
theorem dksJ21_hashCode_1 : cJ21_hashCode.data.toList.drop 24 = dktJ21_hashCode_1 := dk_seg dksJ21_hashCode_0 24 rfl rfl
theorem dJ21_hashCode_0 : decode cJ21_hashCode 0 = .ok (.iload_n 2, 1) := dk_28 (dk_at dksJ21_hashCode_0 0 rfl rfl)
theorem dJ21_hashCode_1 : decode cJ21_hashCode 1 = .ok (.iload_n 3, 1) := dk_29 (dk_at dksJ21_hashCode_0 1 rfl rfl)
theorem dJ21_hashCode_2 : decode cJ21_hashCode 2 = .ok (.iadd, 1) := dk_96 (dk_at dksJ21_hashCode_0 2 rfl rfl)
theorem dJ21_hashCode_3 : decode cJ21_hashCode 3 = .ok (.istore 4, 2) := dk_54 4 (dk_at dksJ21_hashCode_0 3 rfl rfl)
theorem dJ21_hashCode_5 : decode cJ21_hashCode 5 = .ok (.iload_n 2, 1) := dk_28 (dk_at dksJ21_hashCode_0 5 rfl rfl)
theorem dJ21_hashCode_6 : decode cJ21_hashCode 6 = .ok (.istore 5, 2) := dk_54 5 (dk_at dksJ21_hashCode_0 6 rfl rfl)
theorem dJ21_hashCode_8 : decode cJ21_hashCode 8 = .ok (.iload 5, 2) := dk_21 5 (dk_at dksJ21_hashCode_0 8 rfl rfl)
theorem dJ21_hashCode_10 : decode cJ21_hashCode 10 = .ok (.iload 4, 2) := dk_21 4 (dk_at dksJ21_hashCode_0 10 rfl rfl)
theorem dJ21_hashCode_12 : decode cJ21_hashCode 12 = .ok (.if_icmp .ge 19, 3) := dk_162 0 19 (dk_at dksJ21_hashCode_0 12 rfl rfl)
theorem dJ21_hashCode_15 : decode cJ21_hashCode 15 = .ok (.bipush 31, 2) := dk_16 31 (dk_at dksJ21_hashCode_0 15 rfl rfl)
theorem dJ21_hashCode_17 : decode cJ21_hashCode 17 = .ok (.iload_n 0, 1) := dk_26 (dk_at dksJ21_hashCode_0 17 rfl rfl)
theorem dJ21_hashCode_18 : decode cJ21_hashCode 18 = .ok (.imul, 1) := dk_104 (dk_at dksJ21_hashCode_0 18 rfl rfl)
theorem dJ21_hashCode_19 : decode cJ21_hashCode 19 = .ok (.aload_n 1, 1) := dk_43 (dk_at dksJ21_hashCode_0 19 rfl rfl)
theorem dJ21_hashCode_20 : decode cJ21_hashCode 20 = .ok (.iload 5, 2) := dk_21 5 (dk_at dksJ21_hashCode_0 20 rfl rfl)
theorem dJ21_hashCode_22 : decode cJ21_hashCode 22 = .ok (.caload, 1) := dk_52 (dk_at dksJ21_hashCode_0 22 rfl rfl)
theorem dJ21_hashCode_23 : decode cJ21_hashCode 23 = .ok (.iadd, 1) := dk_96 (dk_at dksJ21_hashCode_0 23 rfl rfl)
theorem dJ21_hashCode_24 : decode cJ21_hashCode 24 = .ok (.istore_n 0, 1) := dk_59 (dk_at dksJ21_hashCode_1 0 rfl rfl)
theorem dJ21_hashCode_25 : decode cJ21_hashCode 25 = .ok (.iinc 5 1, 3) := dk_132 5 1 (dk_at dksJ21_hashCode_1 1 rfl rfl)
theorem dJ21_hashCode_28 : decode cJ21_hashCode 28 = .ok (.goto (-20), 3) := dk_167 255 236 (dk_at dksJ21_hashCode_1 4 rfl rfl)
theorem dJ21_hashCode_31 : decode cJ21_hashCode 31 = .ok (.iload_n 0, 1) := dk_26 (dk_at dksJ21_hashCode_1 7 rfl rfl)
theorem dJ21_hashCode_32 : decode cJ21_hashCode 32 = .ok (.ireturn, 1) := dk_172 (dk_at dksJ21_hashCode_1 8 rfl rfl)
abbrev cJ21_hashCode_2 : ByteArray := prog_86_method_6_code
def yJ21_hashCode_2 : MethodName := ⟨RJ21, "hashCode", "(I[BII)I"⟩
def dkwJ21_hashCode_2_1 : List UInt8 := [59, 132, 5, 1, 167, 255, 236, 26, 172]
abbrev dktJ21_hashCode_2_1 : List UInt8 := dkwJ21_hashCode_2_1 ++ []
def dkwJ21_hashCode_2_0 : List UInt8 := [28, 29, 96, 54, 4, 28, 54, 5, 21, 5, 21, 4, 162, 0, 19, 16, 31, 26, 104, 43, 21, 5, 51, 96]
abbrev dktJ21_hashCode_2_0 : List UInt8 := dkwJ21_hashCode_2_0 ++ dktJ21_hashCode_2_1
theorem dksJ21_hashCode_2_0 : cJ21_hashCode_2.data.toList.drop 0 = dktJ21_hashCode_2_0 := by decide +kernel
theorem dksJ21_hashCode_2_1 : cJ21_hashCode_2.data.toList.drop 24 = dktJ21_hashCode_2_1 := dk_seg dksJ21_hashCode_2_0 24 rfl rfl
theorem dJ21_hashCode_2_0 : decode cJ21_hashCode_2 0 = .ok (.iload_n 2, 1) := dk_28 (dk_at dksJ21_hashCode_2_0 0 rfl rfl)
theorem dJ21_hashCode_2_1 : decode cJ21_hashCode_2 1 = .ok (.iload_n 3, 1) := dk_29 (dk_at dksJ21_hashCode_2_0 1 rfl rfl)
theorem dJ21_hashCode_2_2 : decode cJ21_hashCode_2 2 = .ok (.iadd, 1) := dk_96 (dk_at dksJ21_hashCode_2_0 2 rfl rfl)
theorem dJ21_hashCode_2_3 : decode cJ21_hashCode_2 3 = .ok (.istore 4, 2) := dk_54 4 (dk_at dksJ21_hashCode_2_0 3 rfl rfl)
theorem dJ21_hashCode_2_5 : decode cJ21_hashCode_2 5 = .ok (.iload_n 2, 1) := dk_28 (dk_at dksJ21_hashCode_2_0 5 rfl rfl)
theorem dJ21_hashCode_2_6 : decode cJ21_hashCode_2 6 = .ok (.istore 5, 2) := dk_54 5 (dk_at dksJ21_hashCode_2_0 6 rfl rfl)
theorem dJ21_hashCode_2_8 : decode cJ21_hashCode_2 8 = .ok (.iload 5, 2) := dk_21 5 (dk_at dksJ21_hashCode_2_0 8 rfl rfl)
theorem dJ21_hashCode_2_10 : decode cJ21_hashCode_2 10 = .ok (.iload 4, 2) := dk_21 4 (dk_at dksJ21_hashCode_2_0 10 rfl rfl)
theorem dJ21_hashCode_2_12 : decode cJ21_hashCode_2 12 = .ok (.if_icmp .ge 19, 3) := dk_162 0 19 (dk_at dksJ21_hashCode_2_0 12 rfl rfl)
theorem dJ21_hashCode_2_15 : decode cJ21_hashCode_2 15 = .ok (.bipush 31, 2) := dk_16 31 (dk_at dksJ21_hashCode_2_0 15 rfl rfl)
theorem dJ21_hashCode_2_17 : decode cJ21_hashCode_2 17 = .ok (.iload_n 0, 1) := dk_26 (dk_at dksJ21_hashCode_2_0 17 rfl rfl)
theorem dJ21_hashCode_2_18 : decode cJ21_hashCode_2 18 = .ok (.imul, 1) := dk_104 (dk_at dksJ21_hashCode_2_0 18 rfl rfl)
theorem dJ21_hashCode_2_19 : decode cJ21_hashCode_2 19 = .ok (.aload_n 1, 1) := dk_43 (dk_at dksJ21_hashCode_2_0 19 rfl rfl)
theorem dJ21_hashCode_2_20 : decode cJ21_hashCode_2 20 = .ok (.iload 5, 2) := dk_21 5 (dk_at dksJ21_hashCode_2_0 20 rfl rfl)
theorem dJ21_hashCode_2_22 : decode cJ21_hashCode_2 22 = .ok (.baload, 1) := dk_51 (dk_at dksJ21_hashCode_2_0 22 rfl rfl)
theorem dJ21_hashCode_2_23 : decode cJ21_hashCode_2 23 = .ok (.iadd, 1) := dk_96 (dk_at dksJ21_hashCode_2_0 23 rfl rfl)
theorem dJ21_hashCode_2_24 : decode cJ21_hashCode_2 24 = .ok (.istore_n 0, 1) := dk_59 (dk_at dksJ21_hashCode_2_1 0 rfl rfl)
theorem dJ21_hashCode_2_25 : decode cJ21_hashCode_2 25 = .ok (.iinc 5 1, 3) := dk_132 5 1 (dk_at dksJ21_hashCode_2_1 1 rfl rfl)
theorem dJ21_hashCode_2_28 : decode cJ21_hashCode_2 28 = .ok (.goto (-20), 3) := dk_167 255 236 (dk_at dksJ21_hashCode_2_1 4 rfl rfl)
theorem dJ21_hashCode_2_31 : decode cJ21_hashCode_2 31 = .ok (.iload_n 0, 1) := dk_26 (dk_at dksJ21_hashCode_2_1 7 rfl rfl)
theorem dJ21_hashCode_2_32 : decode cJ21_hashCode_2 32 = .ok (.ireturn, 1) := dk_172 (dk_at dksJ21_hashCode_2_1 8 rfl rfl)
abbrev cJ21_hashCode_3 : ByteArray := prog_86_method_8_code
def yJ21_hashCode_3 : MethodName := ⟨RJ21, "hashCode", "(I[SII)I"⟩
def dkwJ21_hashCode_3_1 : List UInt8 := [59, 132, 5, 1, 167, 255, 236, 26, 172]
abbrev dktJ21_hashCode_3_1 : List UInt8 := dkwJ21_hashCode_3_1 ++ []
def dkwJ21_hashCode_3_0 : List UInt8 := [28, 29, 96, 54, 4, 28, 54, 5, 21, 5, 21, 4, 162, 0, 19, 16, 31, 26, 104, 43, 21, 5, 53, 96]
abbrev dktJ21_hashCode_3_0 : List UInt8 := dkwJ21_hashCode_3_0 ++ dktJ21_hashCode_3_1
theorem dksJ21_hashCode_3_0 : cJ21_hashCode_3.data.toList.drop 0 = dktJ21_hashCode_3_0 := by decide +kernel
theorem dksJ21_hashCode_3_1 : cJ21_hashCode_3.data.toList.drop 24 = dktJ21_hashCode_3_1 := dk_seg dksJ21_hashCode_3_0 24 rfl rfl
theorem dJ21_hashCode_3_0 : decode cJ21_hashCode_3 0 = .ok (.iload_n 2, 1) := dk_28 (dk_at dksJ21_hashCode_3_0 0 rfl rfl)
theorem dJ21_hashCode_3_1 : decode cJ21_hashCode_3 1 = .ok (.iload_n 3, 1) := dk_29 (dk_at dksJ21_hashCode_3_0 1 rfl rfl)
theorem dJ21_hashCode_3_2 : decode cJ21_hashCode_3 2 = .ok (.iadd, 1) := dk_96 (dk_at dksJ21_hashCode_3_0 2 rfl rfl)
theorem dJ21_hashCode_3_3 : decode cJ21_hashCode_3 3 = .ok (.istore 4, 2) := dk_54 4 (dk_at dksJ21_hashCode_3_0 3 rfl rfl)
theorem dJ21_hashCode_3_5 : decode cJ21_hashCode_3 5 = .ok (.iload_n 2, 1) := dk_28 (dk_at dksJ21_hashCode_3_0 5 rfl rfl)
theorem dJ21_hashCode_3_6 : decode cJ21_hashCode_3 6 = .ok (.istore 5, 2) := dk_54 5 (dk_at dksJ21_hashCode_3_0 6 rfl rfl)
theorem dJ21_hashCode_3_8 : decode cJ21_hashCode_3 8 = .ok (.iload 5, 2) := dk_21 5 (dk_at dksJ21_hashCode_3_0 8 rfl rfl)
theorem dJ21_hashCode_3_10 : decode cJ21_hashCode_3 10 = .ok (.iload 4, 2) := dk_21 4 (dk_at dksJ21_hashCode_3_0 10 rfl rfl)
theorem dJ21_hashCode_3_12 : decode cJ21_hashCode_3 12 = .ok (.if_icmp .ge 19, 3) := dk_162 0 19 (dk_at dksJ21_hashCode_3_0 12 rfl rfl)
theorem dJ21_hashCode_3_15 : decode cJ21_hashCode_3 15 = .ok (.bipush 31, 2) := dk_16 31 (dk_at dksJ21_hashCode_3_0 15 rfl rfl)
theorem dJ21_hashCode_3_17 : decode cJ21_hashCode_3 17 = .ok (.iload_n 0, 1) := dk_26 (dk_at dksJ21_hashCode_3_0 17 rfl rfl)
theorem dJ21_hashCode_3_18 : decode cJ21_hashCode_3 18 = .ok (.imul, 1) := dk_104 (dk_at dksJ21_hashCode_3_0 18 rfl rfl)
theorem dJ21_hashCode_3_19 : decode cJ21_hashCode_3 19 = .ok (.aload_n 1, 1) := dk_43 (dk_at dksJ21_hashCode_3_0 19 rfl rfl)
theorem dJ21_hashCode_3_20 : decode cJ21_hashCode_3 20 = .ok (.iload 5, 2) := dk_21 5 (dk_at dksJ21_hashCode_3_0 20 rfl rfl)
theorem dJ21_hashCode_3_22 : decode cJ21_hashCode_3 22 = .ok (.saload, 1) := dk_53 (dk_at dksJ21_hashCode_3_0 22 rfl rfl)
theorem dJ21_hashCode_3_23 : decode cJ21_hashCode_3 23 = .ok (.iadd, 1) := dk_96 (dk_at dksJ21_hashCode_3_0 23 rfl rfl)
theorem dJ21_hashCode_3_24 : decode cJ21_hashCode_3 24 = .ok (.istore_n 0, 1) := dk_59 (dk_at dksJ21_hashCode_3_1 0 rfl rfl)
theorem dJ21_hashCode_3_25 : decode cJ21_hashCode_3 25 = .ok (.iinc 5 1, 3) := dk_132 5 1 (dk_at dksJ21_hashCode_3_1 1 rfl rfl)
theorem dJ21_hashCode_3_28 : decode cJ21_hashCode_3 28 = .ok (.goto (-20), 3) := dk_167 255 236 (dk_at dksJ21_hashCode_3_1 4 rfl rfl)
theorem dJ21_hashCode_3_31 : decode cJ21_hashCode_3 31 = .ok (.iload_n 0, 1) := dk_26 (dk_at dksJ21_hashCode_3_1 7 rfl rfl)
theorem dJ21_hashCode_3_32 : decode cJ21_hashCode_3 32 = .ok (.ireturn, 1) := dk_172 (dk_at dksJ21_hashCode_3_1 8 rfl rfl)
abbrev cJ21_hashCode_4 : ByteArray := prog_86_method_9_code
def yJ21_hashCode_4 : MethodName := ⟨RJ21, "hashCode", "(I[III)I"⟩
def dkwJ21_hashCode_4_1 : List UInt8 := [59, 132, 5, 1, 167, 255, 236, 26, 172]
abbrev dktJ21_hashCode_4_1 : List UInt8 := dkwJ21_hashCode_4_1 ++ []
def dkwJ21_hashCode_4_0 : List UInt8 := [28, 29, 96, 54, 4, 28, 54, 5, 21, 5, 21, 4, 162, 0, 19, 16, 31, 26, 104, 43, 21, 5, 46, 96]
abbrev dktJ21_hashCode_4_0 : List UInt8 := dkwJ21_hashCode_4_0 ++ dktJ21_hashCode_4_1
theorem dksJ21_hashCode_4_0 : cJ21_hashCode_4.data.toList.drop 0 = dktJ21_hashCode_4_0 := by decide +kernel
theorem dksJ21_hashCode_4_1 : cJ21_hashCode_4.data.toList.drop 24 = dktJ21_hashCode_4_1 := dk_seg dksJ21_hashCode_4_0 24 rfl rfl
theorem dJ21_hashCode_4_0 : decode cJ21_hashCode_4 0 = .ok (.iload_n 2, 1) := dk_28 (dk_at dksJ21_hashCode_4_0 0 rfl rfl)
theorem dJ21_hashCode_4_1 : decode cJ21_hashCode_4 1 = .ok (.iload_n 3, 1) := dk_29 (dk_at dksJ21_hashCode_4_0 1 rfl rfl)
theorem dJ21_hashCode_4_2 : decode cJ21_hashCode_4 2 = .ok (.iadd, 1) := dk_96 (dk_at dksJ21_hashCode_4_0 2 rfl rfl)
theorem dJ21_hashCode_4_3 : decode cJ21_hashCode_4 3 = .ok (.istore 4, 2) := dk_54 4 (dk_at dksJ21_hashCode_4_0 3 rfl rfl)
theorem dJ21_hashCode_4_5 : decode cJ21_hashCode_4 5 = .ok (.iload_n 2, 1) := dk_28 (dk_at dksJ21_hashCode_4_0 5 rfl rfl)
theorem dJ21_hashCode_4_6 : decode cJ21_hashCode_4 6 = .ok (.istore 5, 2) := dk_54 5 (dk_at dksJ21_hashCode_4_0 6 rfl rfl)
theorem dJ21_hashCode_4_8 : decode cJ21_hashCode_4 8 = .ok (.iload 5, 2) := dk_21 5 (dk_at dksJ21_hashCode_4_0 8 rfl rfl)
theorem dJ21_hashCode_4_10 : decode cJ21_hashCode_4 10 = .ok (.iload 4, 2) := dk_21 4 (dk_at dksJ21_hashCode_4_0 10 rfl rfl)
theorem dJ21_hashCode_4_12 : decode cJ21_hashCode_4 12 = .ok (.if_icmp .ge 19, 3) := dk_162 0 19 (dk_at dksJ21_hashCode_4_0 12 rfl rfl)
theorem dJ21_hashCode_4_15 : decode cJ21_hashCode_4 15 = .ok (.bipush 31, 2) := dk_16 31 (dk_at dksJ21_hashCode_4_0 15 rfl rfl)
theorem dJ21_hashCode_4_17 : decode cJ21_hashCode_4 17 = .ok (.iload_n 0, 1) := dk_26 (dk_at dksJ21_hashCode_4_0 17 rfl rfl)
theorem dJ21_hashCode_4_18 : decode cJ21_hashCode_4 18 = .ok (.imul, 1) := dk_104 (dk_at dksJ21_hashCode_4_0 18 rfl rfl)
theorem dJ21_hashCode_4_19 : decode cJ21_hashCode_4 19 = .ok (.aload_n 1, 1) := dk_43 (dk_at dksJ21_hashCode_4_0 19 rfl rfl)
theorem dJ21_hashCode_4_20 : decode cJ21_hashCode_4 20 = .ok (.iload 5, 2) := dk_21 5 (dk_at dksJ21_hashCode_4_0 20 rfl rfl)
theorem dJ21_hashCode_4_22 : decode cJ21_hashCode_4 22 = .ok (.iaload, 1) := dk_46 (dk_at dksJ21_hashCode_4_0 22 rfl rfl)
theorem dJ21_hashCode_4_23 : decode cJ21_hashCode_4 23 = .ok (.iadd, 1) := dk_96 (dk_at dksJ21_hashCode_4_0 23 rfl rfl)
theorem dJ21_hashCode_4_24 : decode cJ21_hashCode_4 24 = .ok (.istore_n 0, 1) := dk_59 (dk_at dksJ21_hashCode_4_1 0 rfl rfl)
theorem dJ21_hashCode_4_25 : decode cJ21_hashCode_4 25 = .ok (.iinc 5 1, 3) := dk_132 5 1 (dk_at dksJ21_hashCode_4_1 1 rfl rfl)
theorem dJ21_hashCode_4_28 : decode cJ21_hashCode_4 28 = .ok (.goto (-20), 3) := dk_167 255 236 (dk_at dksJ21_hashCode_4_1 4 rfl rfl)
theorem dJ21_hashCode_4_31 : decode cJ21_hashCode_4 31 = .ok (.iload_n 0, 1) := dk_26 (dk_at dksJ21_hashCode_4_1 7 rfl rfl)
theorem dJ21_hashCode_4_32 : decode cJ21_hashCode_4 32 = .ok (.ireturn, 1) := dk_172 (dk_at dksJ21_hashCode_4_1 8 rfl rfl)
abbrev cJ22_getLongUnaligned : ByteArray := prog_84_method_334_code
def yJ22_getLongUnaligned : MethodName := ⟨RJ22, "getLongUnaligned", "(Ljava/lang/Object;J)J"⟩
def dkwJ22_getLongUnaligned_7 : List UInt8 := [182, 0, 39, 184, 2, 197, 173]
abbrev dktJ22_getLongUnaligned_7 : List UInt8 := dkwJ22_getLongUnaligned_7 ++ []
def dkwJ22_getLongUnaligned_6 : List UInt8 := [20, 2, 195, 97, 182, 0, 39, 42, 43, 32, 20, 2, 190, 97, 182, 0, 39, 42, 43, 32, 20, 2, 184, 97]
abbrev dktJ22_getLongUnaligned_6 : List UInt8 := dkwJ22_getLongUnaligned_6 ++ dktJ22_getLongUnaligned_7
def dkwJ22_getLongUnaligned_5 : List UInt8 := [43, 32, 20, 1, 93, 97, 182, 0, 39, 42, 43, 32, 20, 0, 205, 97, 182, 0, 39, 42, 43, 32]
abbrev dktJ22_getLongUnaligned_5 : List UInt8 := dkwJ22_getLongUnaligned_5 ++ dktJ22_getLongUnaligned_6
def dkwJ22_getLongUnaligned_4 : List UInt8 := [43, 32, 182, 0, 39, 42, 43, 32, 10, 97, 182, 0, 39, 42, 43, 32, 20, 0, 203, 97, 182, 0, 39, 42]
abbrev dktJ22_getLongUnaligned_4 : List UInt8 := dkwJ22_getLongUnaligned_4 ++ dktJ22_getLongUnaligned_5
def dkwJ22_getLongUnaligned_3 : List UInt8 := [43, 32, 20, 0, 205, 97, 182, 0, 47, 42, 43, 32, 20, 2, 190, 97, 182, 0, 47, 184, 2, 192, 173, 42]
abbrev dktJ22_getLongUnaligned_3 : List UInt8 := dkwJ22_getLongUnaligned_3 ++ dktJ22_getLongUnaligned_4
def dkwJ22_getLongUnaligned_2 : List UInt8 := [10, 127, 9, 148, 154, 0, 43, 42, 43, 32, 182, 0, 47, 42, 43, 32, 20, 0, 203, 97, 182, 0, 47, 42]
abbrev dktJ22_getLongUnaligned_2 : List UInt8 := dkwJ22_getLongUnaligned_2 ++ dktJ22_getLongUnaligned_3
def dkwJ22_getLongUnaligned_1 : List UInt8 := [154, 0, 23, 42, 43, 32, 182, 0, 17, 42, 43, 32, 20, 0, 205, 97, 182, 0, 17, 184, 2, 186, 173, 32]
abbrev dktJ22_getLongUnaligned_1 : List UInt8 := dkwJ22_getLongUnaligned_1 ++ dktJ22_getLongUnaligned_2
def dkwJ22_getLongUnaligned_0 : List UInt8 := [32, 20, 2, 184, 127, 9, 148, 154, 0, 10, 42, 43, 32, 182, 0, 27, 173, 32, 20, 1, 93, 127, 9, 148]
abbrev dktJ22_getLongUnaligned_0 : List UInt8 := dkwJ22_getLongUnaligned_0 ++ dktJ22_getLongUnaligned_1
theorem dksJ22_getLongUnaligned_0 : cJ22_getLongUnaligned.data.toList.drop 0 = dktJ22_getLongUnaligned_0 := by decide +kernel
theorem dksJ22_getLongUnaligned_1 : cJ22_getLongUnaligned.data.toList.drop 24 = dktJ22_getLongUnaligned_1 := dk_seg dksJ22_getLongUnaligned_0 24 rfl rfl
theorem dksJ22_getLongUnaligned_2 : cJ22_getLongUnaligned.data.toList.drop 48 = dktJ22_getLongUnaligned_2 := dk_seg dksJ22_getLongUnaligned_1 24 rfl rfl
theorem dksJ22_getLongUnaligned_3 : cJ22_getLongUnaligned.data.toList.drop 72 = dktJ22_getLongUnaligned_3 := dk_seg dksJ22_getLongUnaligned_2 24 rfl rfl
theorem dksJ22_getLongUnaligned_4 : cJ22_getLongUnaligned.data.toList.drop 96 = dktJ22_getLongUnaligned_4 := dk_seg dksJ22_getLongUnaligned_3 24 rfl rfl
theorem dksJ22_getLongUnaligned_5 : cJ22_getLongUnaligned.data.toList.drop 120 = dktJ22_getLongUnaligned_5 := dk_seg dksJ22_getLongUnaligned_4 24 rfl rfl
theorem dksJ22_getLongUnaligned_6 : cJ22_getLongUnaligned.data.toList.drop 142 = dktJ22_getLongUnaligned_6 := dk_seg dksJ22_getLongUnaligned_5 22 rfl rfl
theorem dksJ22_getLongUnaligned_7 : cJ22_getLongUnaligned.data.toList.drop 166 = dktJ22_getLongUnaligned_7 := dk_seg dksJ22_getLongUnaligned_6 24 rfl rfl
theorem dJ22_getLongUnaligned_0 : decode cJ22_getLongUnaligned 0 = .ok (.lload_n 2, 1) := dk_32 (dk_at dksJ22_getLongUnaligned_0 0 rfl rfl)
theorem dJ22_getLongUnaligned_1 : decode cJ22_getLongUnaligned 1 = .ok (.ldc2_w 696, 3) := dk_20 2 184 (dk_at dksJ22_getLongUnaligned_0 1 rfl rfl)
theorem dJ22_getLongUnaligned_4 : decode cJ22_getLongUnaligned 4 = .ok (.land, 1) := dk_127 (dk_at dksJ22_getLongUnaligned_0 4 rfl rfl)
theorem dJ22_getLongUnaligned_5 : decode cJ22_getLongUnaligned 5 = .ok (.lconst 0, 1) := dk_9 (dk_at dksJ22_getLongUnaligned_0 5 rfl rfl)
theorem dJ22_getLongUnaligned_6 : decode cJ22_getLongUnaligned 6 = .ok (.lcmp, 1) := dk_148 (dk_at dksJ22_getLongUnaligned_0 6 rfl rfl)
theorem dJ22_getLongUnaligned_7 : decode cJ22_getLongUnaligned 7 = .ok (.ifCond .ne 10, 3) := dk_154 0 10 (dk_at dksJ22_getLongUnaligned_0 7 rfl rfl)
theorem dJ22_getLongUnaligned_10 : decode cJ22_getLongUnaligned 10 = .ok (.aload_n 0, 1) := dk_42 (dk_at dksJ22_getLongUnaligned_0 10 rfl rfl)
theorem dJ22_getLongUnaligned_11 : decode cJ22_getLongUnaligned 11 = .ok (.aload_n 1, 1) := dk_43 (dk_at dksJ22_getLongUnaligned_0 11 rfl rfl)
theorem dJ22_getLongUnaligned_12 : decode cJ22_getLongUnaligned 12 = .ok (.lload_n 2, 1) := dk_32 (dk_at dksJ22_getLongUnaligned_0 12 rfl rfl)
theorem dJ22_getLongUnaligned_13 : decode cJ22_getLongUnaligned 13 = .ok (.invokevirtual 27, 3) := dk_182 0 27 (dk_at dksJ22_getLongUnaligned_0 13 rfl rfl)
theorem dJ22_getLongUnaligned_16 : decode cJ22_getLongUnaligned 16 = .ok (.lreturn, 1) := dk_173 (dk_at dksJ22_getLongUnaligned_0 16 rfl rfl)
theorem dJ22_getLongUnaligned_17 : decode cJ22_getLongUnaligned 17 = .ok (.lload_n 2, 1) := dk_32 (dk_at dksJ22_getLongUnaligned_0 17 rfl rfl)
theorem dJ22_getLongUnaligned_18 : decode cJ22_getLongUnaligned 18 = .ok (.ldc2_w 349, 3) := dk_20 1 93 (dk_at dksJ22_getLongUnaligned_0 18 rfl rfl)
theorem dJ22_getLongUnaligned_21 : decode cJ22_getLongUnaligned 21 = .ok (.land, 1) := dk_127 (dk_at dksJ22_getLongUnaligned_0 21 rfl rfl)
theorem dJ22_getLongUnaligned_22 : decode cJ22_getLongUnaligned 22 = .ok (.lconst 0, 1) := dk_9 (dk_at dksJ22_getLongUnaligned_0 22 rfl rfl)
theorem dJ22_getLongUnaligned_23 : decode cJ22_getLongUnaligned 23 = .ok (.lcmp, 1) := dk_148 (dk_at dksJ22_getLongUnaligned_0 23 rfl rfl)
theorem dJ22_getLongUnaligned_24 : decode cJ22_getLongUnaligned 24 = .ok (.ifCond .ne 23, 3) := dk_154 0 23 (dk_at dksJ22_getLongUnaligned_1 0 rfl rfl)
theorem dJ22_getLongUnaligned_27 : decode cJ22_getLongUnaligned 27 = .ok (.aload_n 0, 1) := dk_42 (dk_at dksJ22_getLongUnaligned_1 3 rfl rfl)
theorem dJ22_getLongUnaligned_28 : decode cJ22_getLongUnaligned 28 = .ok (.aload_n 1, 1) := dk_43 (dk_at dksJ22_getLongUnaligned_1 4 rfl rfl)
theorem dJ22_getLongUnaligned_29 : decode cJ22_getLongUnaligned 29 = .ok (.lload_n 2, 1) := dk_32 (dk_at dksJ22_getLongUnaligned_1 5 rfl rfl)
theorem dJ22_getLongUnaligned_30 : decode cJ22_getLongUnaligned 30 = .ok (.invokevirtual 17, 3) := dk_182 0 17 (dk_at dksJ22_getLongUnaligned_1 6 rfl rfl)
theorem dJ22_getLongUnaligned_33 : decode cJ22_getLongUnaligned 33 = .ok (.aload_n 0, 1) := dk_42 (dk_at dksJ22_getLongUnaligned_1 9 rfl rfl)
theorem dJ22_getLongUnaligned_34 : decode cJ22_getLongUnaligned 34 = .ok (.aload_n 1, 1) := dk_43 (dk_at dksJ22_getLongUnaligned_1 10 rfl rfl)
theorem dJ22_getLongUnaligned_35 : decode cJ22_getLongUnaligned 35 = .ok (.lload_n 2, 1) := dk_32 (dk_at dksJ22_getLongUnaligned_1 11 rfl rfl)
theorem dJ22_getLongUnaligned_36 : decode cJ22_getLongUnaligned 36 = .ok (.ldc2_w 205, 3) := dk_20 0 205 (dk_at dksJ22_getLongUnaligned_1 12 rfl rfl)
theorem dJ22_getLongUnaligned_39 : decode cJ22_getLongUnaligned 39 = .ok (.ladd, 1) := dk_97 (dk_at dksJ22_getLongUnaligned_1 15 rfl rfl)
theorem dJ22_getLongUnaligned_40 : decode cJ22_getLongUnaligned 40 = .ok (.invokevirtual 17, 3) := dk_182 0 17 (dk_at dksJ22_getLongUnaligned_1 16 rfl rfl)
theorem dJ22_getLongUnaligned_43 : decode cJ22_getLongUnaligned 43 = .ok (.invokestatic 698, 3) := dk_184 2 186 (dk_at dksJ22_getLongUnaligned_1 19 rfl rfl)
theorem dJ22_getLongUnaligned_46 : decode cJ22_getLongUnaligned 46 = .ok (.lreturn, 1) := dk_173 (dk_at dksJ22_getLongUnaligned_1 22 rfl rfl)
theorem dJ22_getLongUnaligned_47 : decode cJ22_getLongUnaligned 47 = .ok (.lload_n 2, 1) := dk_32 (dk_at dksJ22_getLongUnaligned_1 23 rfl rfl)
theorem dJ22_getLongUnaligned_48 : decode cJ22_getLongUnaligned 48 = .ok (.lconst 1, 1) := dk_10 (dk_at dksJ22_getLongUnaligned_2 0 rfl rfl)
theorem dJ22_getLongUnaligned_49 : decode cJ22_getLongUnaligned 49 = .ok (.land, 1) := dk_127 (dk_at dksJ22_getLongUnaligned_2 1 rfl rfl)
theorem dJ22_getLongUnaligned_50 : decode cJ22_getLongUnaligned 50 = .ok (.lconst 0, 1) := dk_9 (dk_at dksJ22_getLongUnaligned_2 2 rfl rfl)
theorem dJ22_getLongUnaligned_51 : decode cJ22_getLongUnaligned 51 = .ok (.lcmp, 1) := dk_148 (dk_at dksJ22_getLongUnaligned_2 3 rfl rfl)
theorem dJ22_getLongUnaligned_52 : decode cJ22_getLongUnaligned 52 = .ok (.ifCond .ne 43, 3) := dk_154 0 43 (dk_at dksJ22_getLongUnaligned_2 4 rfl rfl)
theorem dJ22_getLongUnaligned_55 : decode cJ22_getLongUnaligned 55 = .ok (.aload_n 0, 1) := dk_42 (dk_at dksJ22_getLongUnaligned_2 7 rfl rfl)
theorem dJ22_getLongUnaligned_56 : decode cJ22_getLongUnaligned 56 = .ok (.aload_n 1, 1) := dk_43 (dk_at dksJ22_getLongUnaligned_2 8 rfl rfl)
theorem dJ22_getLongUnaligned_57 : decode cJ22_getLongUnaligned 57 = .ok (.lload_n 2, 1) := dk_32 (dk_at dksJ22_getLongUnaligned_2 9 rfl rfl)
theorem dJ22_getLongUnaligned_58 : decode cJ22_getLongUnaligned 58 = .ok (.invokevirtual 47, 3) := dk_182 0 47 (dk_at dksJ22_getLongUnaligned_2 10 rfl rfl)
theorem dJ22_getLongUnaligned_61 : decode cJ22_getLongUnaligned 61 = .ok (.aload_n 0, 1) := dk_42 (dk_at dksJ22_getLongUnaligned_2 13 rfl rfl)
theorem dJ22_getLongUnaligned_62 : decode cJ22_getLongUnaligned 62 = .ok (.aload_n 1, 1) := dk_43 (dk_at dksJ22_getLongUnaligned_2 14 rfl rfl)
theorem dJ22_getLongUnaligned_63 : decode cJ22_getLongUnaligned 63 = .ok (.lload_n 2, 1) := dk_32 (dk_at dksJ22_getLongUnaligned_2 15 rfl rfl)
theorem dJ22_getLongUnaligned_64 : decode cJ22_getLongUnaligned 64 = .ok (.ldc2_w 203, 3) := dk_20 0 203 (dk_at dksJ22_getLongUnaligned_2 16 rfl rfl)
theorem dJ22_getLongUnaligned_67 : decode cJ22_getLongUnaligned 67 = .ok (.ladd, 1) := dk_97 (dk_at dksJ22_getLongUnaligned_2 19 rfl rfl)
theorem dJ22_getLongUnaligned_68 : decode cJ22_getLongUnaligned 68 = .ok (.invokevirtual 47, 3) := dk_182 0 47 (dk_at dksJ22_getLongUnaligned_2 20 rfl rfl)
theorem dJ22_getLongUnaligned_71 : decode cJ22_getLongUnaligned 71 = .ok (.aload_n 0, 1) := dk_42 (dk_at dksJ22_getLongUnaligned_2 23 rfl rfl)
theorem dJ22_getLongUnaligned_72 : decode cJ22_getLongUnaligned 72 = .ok (.aload_n 1, 1) := dk_43 (dk_at dksJ22_getLongUnaligned_3 0 rfl rfl)
theorem dJ22_getLongUnaligned_73 : decode cJ22_getLongUnaligned 73 = .ok (.lload_n 2, 1) := dk_32 (dk_at dksJ22_getLongUnaligned_3 1 rfl rfl)
theorem dJ22_getLongUnaligned_74 : decode cJ22_getLongUnaligned 74 = .ok (.ldc2_w 205, 3) := dk_20 0 205 (dk_at dksJ22_getLongUnaligned_3 2 rfl rfl)
theorem dJ22_getLongUnaligned_77 : decode cJ22_getLongUnaligned 77 = .ok (.ladd, 1) := dk_97 (dk_at dksJ22_getLongUnaligned_3 5 rfl rfl)
theorem dJ22_getLongUnaligned_78 : decode cJ22_getLongUnaligned 78 = .ok (.invokevirtual 47, 3) := dk_182 0 47 (dk_at dksJ22_getLongUnaligned_3 6 rfl rfl)
theorem dJ22_getLongUnaligned_81 : decode cJ22_getLongUnaligned 81 = .ok (.aload_n 0, 1) := dk_42 (dk_at dksJ22_getLongUnaligned_3 9 rfl rfl)
theorem dJ22_getLongUnaligned_82 : decode cJ22_getLongUnaligned 82 = .ok (.aload_n 1, 1) := dk_43 (dk_at dksJ22_getLongUnaligned_3 10 rfl rfl)
theorem dJ22_getLongUnaligned_83 : decode cJ22_getLongUnaligned 83 = .ok (.lload_n 2, 1) := dk_32 (dk_at dksJ22_getLongUnaligned_3 11 rfl rfl)
theorem dJ22_getLongUnaligned_84 : decode cJ22_getLongUnaligned 84 = .ok (.ldc2_w 702, 3) := dk_20 2 190 (dk_at dksJ22_getLongUnaligned_3 12 rfl rfl)
theorem dJ22_getLongUnaligned_87 : decode cJ22_getLongUnaligned 87 = .ok (.ladd, 1) := dk_97 (dk_at dksJ22_getLongUnaligned_3 15 rfl rfl)
theorem dJ22_getLongUnaligned_88 : decode cJ22_getLongUnaligned 88 = .ok (.invokevirtual 47, 3) := dk_182 0 47 (dk_at dksJ22_getLongUnaligned_3 16 rfl rfl)
theorem dJ22_getLongUnaligned_91 : decode cJ22_getLongUnaligned 91 = .ok (.invokestatic 704, 3) := dk_184 2 192 (dk_at dksJ22_getLongUnaligned_3 19 rfl rfl)
theorem dJ22_getLongUnaligned_94 : decode cJ22_getLongUnaligned 94 = .ok (.lreturn, 1) := dk_173 (dk_at dksJ22_getLongUnaligned_3 22 rfl rfl)
theorem dJ22_getLongUnaligned_95 : decode cJ22_getLongUnaligned 95 = .ok (.aload_n 0, 1) := dk_42 (dk_at dksJ22_getLongUnaligned_3 23 rfl rfl)
theorem dJ22_getLongUnaligned_96 : decode cJ22_getLongUnaligned 96 = .ok (.aload_n 1, 1) := dk_43 (dk_at dksJ22_getLongUnaligned_4 0 rfl rfl)
theorem dJ22_getLongUnaligned_97 : decode cJ22_getLongUnaligned 97 = .ok (.lload_n 2, 1) := dk_32 (dk_at dksJ22_getLongUnaligned_4 1 rfl rfl)
theorem dJ22_getLongUnaligned_98 : decode cJ22_getLongUnaligned 98 = .ok (.invokevirtual 39, 3) := dk_182 0 39 (dk_at dksJ22_getLongUnaligned_4 2 rfl rfl)
theorem dJ22_getLongUnaligned_101 : decode cJ22_getLongUnaligned 101 = .ok (.aload_n 0, 1) := dk_42 (dk_at dksJ22_getLongUnaligned_4 5 rfl rfl)
theorem dJ22_getLongUnaligned_102 : decode cJ22_getLongUnaligned 102 = .ok (.aload_n 1, 1) := dk_43 (dk_at dksJ22_getLongUnaligned_4 6 rfl rfl)
theorem dJ22_getLongUnaligned_103 : decode cJ22_getLongUnaligned 103 = .ok (.lload_n 2, 1) := dk_32 (dk_at dksJ22_getLongUnaligned_4 7 rfl rfl)
theorem dJ22_getLongUnaligned_104 : decode cJ22_getLongUnaligned 104 = .ok (.lconst 1, 1) := dk_10 (dk_at dksJ22_getLongUnaligned_4 8 rfl rfl)
theorem dJ22_getLongUnaligned_105 : decode cJ22_getLongUnaligned 105 = .ok (.ladd, 1) := dk_97 (dk_at dksJ22_getLongUnaligned_4 9 rfl rfl)
theorem dJ22_getLongUnaligned_106 : decode cJ22_getLongUnaligned 106 = .ok (.invokevirtual 39, 3) := dk_182 0 39 (dk_at dksJ22_getLongUnaligned_4 10 rfl rfl)
theorem dJ22_getLongUnaligned_109 : decode cJ22_getLongUnaligned 109 = .ok (.aload_n 0, 1) := dk_42 (dk_at dksJ22_getLongUnaligned_4 13 rfl rfl)
theorem dJ22_getLongUnaligned_110 : decode cJ22_getLongUnaligned 110 = .ok (.aload_n 1, 1) := dk_43 (dk_at dksJ22_getLongUnaligned_4 14 rfl rfl)
theorem dJ22_getLongUnaligned_111 : decode cJ22_getLongUnaligned 111 = .ok (.lload_n 2, 1) := dk_32 (dk_at dksJ22_getLongUnaligned_4 15 rfl rfl)
theorem dJ22_getLongUnaligned_112 : decode cJ22_getLongUnaligned 112 = .ok (.ldc2_w 203, 3) := dk_20 0 203 (dk_at dksJ22_getLongUnaligned_4 16 rfl rfl)
theorem dJ22_getLongUnaligned_115 : decode cJ22_getLongUnaligned 115 = .ok (.ladd, 1) := dk_97 (dk_at dksJ22_getLongUnaligned_4 19 rfl rfl)
theorem dJ22_getLongUnaligned_116 : decode cJ22_getLongUnaligned 116 = .ok (.invokevirtual 39, 3) := dk_182 0 39 (dk_at dksJ22_getLongUnaligned_4 20 rfl rfl)
theorem dJ22_getLongUnaligned_119 : decode cJ22_getLongUnaligned 119 = .ok (.aload_n 0, 1) := dk_42 (dk_at dksJ22_getLongUnaligned_4 23 rfl rfl)
theorem dJ22_getLongUnaligned_120 : decode cJ22_getLongUnaligned 120 = .ok (.aload_n 1, 1) := dk_43 (dk_at dksJ22_getLongUnaligned_5 0 rfl rfl)
theorem dJ22_getLongUnaligned_121 : decode cJ22_getLongUnaligned 121 = .ok (.lload_n 2, 1) := dk_32 (dk_at dksJ22_getLongUnaligned_5 1 rfl rfl)
theorem dJ22_getLongUnaligned_122 : decode cJ22_getLongUnaligned 122 = .ok (.ldc2_w 349, 3) := dk_20 1 93 (dk_at dksJ22_getLongUnaligned_5 2 rfl rfl)
theorem dJ22_getLongUnaligned_125 : decode cJ22_getLongUnaligned 125 = .ok (.ladd, 1) := dk_97 (dk_at dksJ22_getLongUnaligned_5 5 rfl rfl)
theorem dJ22_getLongUnaligned_126 : decode cJ22_getLongUnaligned 126 = .ok (.invokevirtual 39, 3) := dk_182 0 39 (dk_at dksJ22_getLongUnaligned_5 6 rfl rfl)
theorem dJ22_getLongUnaligned_129 : decode cJ22_getLongUnaligned 129 = .ok (.aload_n 0, 1) := dk_42 (dk_at dksJ22_getLongUnaligned_5 9 rfl rfl)
theorem dJ22_getLongUnaligned_130 : decode cJ22_getLongUnaligned 130 = .ok (.aload_n 1, 1) := dk_43 (dk_at dksJ22_getLongUnaligned_5 10 rfl rfl)
theorem dJ22_getLongUnaligned_131 : decode cJ22_getLongUnaligned 131 = .ok (.lload_n 2, 1) := dk_32 (dk_at dksJ22_getLongUnaligned_5 11 rfl rfl)
theorem dJ22_getLongUnaligned_132 : decode cJ22_getLongUnaligned 132 = .ok (.ldc2_w 205, 3) := dk_20 0 205 (dk_at dksJ22_getLongUnaligned_5 12 rfl rfl)
theorem dJ22_getLongUnaligned_135 : decode cJ22_getLongUnaligned 135 = .ok (.ladd, 1) := dk_97 (dk_at dksJ22_getLongUnaligned_5 15 rfl rfl)
theorem dJ22_getLongUnaligned_136 : decode cJ22_getLongUnaligned 136 = .ok (.invokevirtual 39, 3) := dk_182 0 39 (dk_at dksJ22_getLongUnaligned_5 16 rfl rfl)
theorem dJ22_getLongUnaligned_139 : decode cJ22_getLongUnaligned 139 = .ok (.aload_n 0, 1) := dk_42 (dk_at dksJ22_getLongUnaligned_5 19 rfl rfl)
theorem dJ22_getLongUnaligned_140 : decode cJ22_getLongUnaligned 140 = .ok (.aload_n 1, 1) := dk_43 (dk_at dksJ22_getLongUnaligned_5 20 rfl rfl)
theorem dJ22_getLongUnaligned_141 : decode cJ22_getLongUnaligned 141 = .ok (.lload_n 2, 1) := dk_32 (dk_at dksJ22_getLongUnaligned_5 21 rfl rfl)
theorem dJ22_getLongUnaligned_142 : decode cJ22_getLongUnaligned 142 = .ok (.ldc2_w 707, 3) := dk_20 2 195 (dk_at dksJ22_getLongUnaligned_6 0 rfl rfl)
theorem dJ22_getLongUnaligned_145 : decode cJ22_getLongUnaligned 145 = .ok (.ladd, 1) := dk_97 (dk_at dksJ22_getLongUnaligned_6 3 rfl rfl)
theorem dJ22_getLongUnaligned_146 : decode cJ22_getLongUnaligned 146 = .ok (.invokevirtual 39, 3) := dk_182 0 39 (dk_at dksJ22_getLongUnaligned_6 4 rfl rfl)
theorem dJ22_getLongUnaligned_149 : decode cJ22_getLongUnaligned 149 = .ok (.aload_n 0, 1) := dk_42 (dk_at dksJ22_getLongUnaligned_6 7 rfl rfl)
theorem dJ22_getLongUnaligned_150 : decode cJ22_getLongUnaligned 150 = .ok (.aload_n 1, 1) := dk_43 (dk_at dksJ22_getLongUnaligned_6 8 rfl rfl)
theorem dJ22_getLongUnaligned_151 : decode cJ22_getLongUnaligned 151 = .ok (.lload_n 2, 1) := dk_32 (dk_at dksJ22_getLongUnaligned_6 9 rfl rfl)
theorem dJ22_getLongUnaligned_152 : decode cJ22_getLongUnaligned 152 = .ok (.ldc2_w 702, 3) := dk_20 2 190 (dk_at dksJ22_getLongUnaligned_6 10 rfl rfl)
theorem dJ22_getLongUnaligned_155 : decode cJ22_getLongUnaligned 155 = .ok (.ladd, 1) := dk_97 (dk_at dksJ22_getLongUnaligned_6 13 rfl rfl)
theorem dJ22_getLongUnaligned_156 : decode cJ22_getLongUnaligned 156 = .ok (.invokevirtual 39, 3) := dk_182 0 39 (dk_at dksJ22_getLongUnaligned_6 14 rfl rfl)
theorem dJ22_getLongUnaligned_159 : decode cJ22_getLongUnaligned 159 = .ok (.aload_n 0, 1) := dk_42 (dk_at dksJ22_getLongUnaligned_6 17 rfl rfl)
theorem dJ22_getLongUnaligned_160 : decode cJ22_getLongUnaligned 160 = .ok (.aload_n 1, 1) := dk_43 (dk_at dksJ22_getLongUnaligned_6 18 rfl rfl)
theorem dJ22_getLongUnaligned_161 : decode cJ22_getLongUnaligned 161 = .ok (.lload_n 2, 1) := dk_32 (dk_at dksJ22_getLongUnaligned_6 19 rfl rfl)
theorem dJ22_getLongUnaligned_162 : decode cJ22_getLongUnaligned 162 = .ok (.ldc2_w 696, 3) := dk_20 2 184 (dk_at dksJ22_getLongUnaligned_6 20 rfl rfl)
theorem dJ22_getLongUnaligned_165 : decode cJ22_getLongUnaligned 165 = .ok (.ladd, 1) := dk_97 (dk_at dksJ22_getLongUnaligned_6 23 rfl rfl)
theorem dJ22_getLongUnaligned_166 : decode cJ22_getLongUnaligned 166 = .ok (.invokevirtual 39, 3) := dk_182 0 39 (dk_at dksJ22_getLongUnaligned_7 0 rfl rfl)
theorem dJ22_getLongUnaligned_169 : decode cJ22_getLongUnaligned 169 = .ok (.invokestatic 709, 3) := dk_184 2 197 (dk_at dksJ22_getLongUnaligned_7 3 rfl rfl)
theorem dJ22_getLongUnaligned_172 : decode cJ22_getLongUnaligned 172 = .ok (.lreturn, 1) := dk_173 (dk_at dksJ22_getLongUnaligned_7 6 rfl rfl)
abbrev cJ22_makeLong : ByteArray := prog_84_method_353_code
def yJ22_makeLong : MethodName := ⟨RJ22, "makeLong", "(II)J"⟩
def dkwJ22_makeLong_1 : List UInt8 := [173]
abbrev dktJ22_makeLong_1 : List UInt8 := dkwJ22_makeLong_1 ++ []
def dkwJ22_makeLong_0 : List UInt8 := [26, 184, 3, 23, 16, 32, 3, 184, 3, 16, 121, 27, 184, 3, 23, 16, 32, 16, 32, 184, 3, 16, 121, 129]
abbrev dktJ22_makeLong_0 : List UInt8 := dkwJ22_makeLong_0 ++ dktJ22_makeLong_1
theorem dksJ22_makeLong_0 : cJ22_makeLong.data.toList.drop 0 = dktJ22_makeLong_0 := by decide +kernel
theorem dksJ22_makeLong_1 : cJ22_makeLong.data.toList.drop 24 = dktJ22_makeLong_1 := dk_seg dksJ22_makeLong_0 24 rfl rfl
theorem dJ22_makeLong_0 : decode cJ22_makeLong 0 = .ok (.iload_n 0, 1) := dk_26 (dk_at dksJ22_makeLong_0 0 rfl rfl)
theorem dJ22_makeLong_1 : decode cJ22_makeLong 1 = .ok (.invokestatic 791, 3) := dk_184 3 23 (dk_at dksJ22_makeLong_0 1 rfl rfl)
theorem dJ22_makeLong_4 : decode cJ22_makeLong 4 = .ok (.bipush 32, 2) := dk_16 32 (dk_at dksJ22_makeLong_0 4 rfl rfl)
theorem dJ22_makeLong_6 : decode cJ22_makeLong 6 = .ok (.iconst 0, 1) := dk_3 (dk_at dksJ22_makeLong_0 6 rfl rfl)
theorem dJ22_makeLong_7 : decode cJ22_makeLong 7 = .ok (.invokestatic 784, 3) := dk_184 3 16 (dk_at dksJ22_makeLong_0 7 rfl rfl)
theorem dJ22_makeLong_10 : decode cJ22_makeLong 10 = .ok (.lshl, 1) := dk_121 (dk_at dksJ22_makeLong_0 10 rfl rfl)
theorem dJ22_makeLong_11 : decode cJ22_makeLong 11 = .ok (.iload_n 1, 1) := dk_27 (dk_at dksJ22_makeLong_0 11 rfl rfl)
theorem dJ22_makeLong_12 : decode cJ22_makeLong 12 = .ok (.invokestatic 791, 3) := dk_184 3 23 (dk_at dksJ22_makeLong_0 12 rfl rfl)
theorem dJ22_makeLong_15 : decode cJ22_makeLong 15 = .ok (.bipush 32, 2) := dk_16 32 (dk_at dksJ22_makeLong_0 15 rfl rfl)
theorem dJ22_makeLong_17 : decode cJ22_makeLong 17 = .ok (.bipush 32, 2) := dk_16 32 (dk_at dksJ22_makeLong_0 17 rfl rfl)
theorem dJ22_makeLong_19 : decode cJ22_makeLong 19 = .ok (.invokestatic 784, 3) := dk_184 3 16 (dk_at dksJ22_makeLong_0 19 rfl rfl)
theorem dJ22_makeLong_22 : decode cJ22_makeLong 22 = .ok (.lshl, 1) := dk_121 (dk_at dksJ22_makeLong_0 22 rfl rfl)
theorem dJ22_makeLong_23 : decode cJ22_makeLong 23 = .ok (.lor, 1) := dk_129 (dk_at dksJ22_makeLong_0 23 rfl rfl)
theorem dJ22_makeLong_24 : decode cJ22_makeLong 24 = .ok (.lreturn, 1) := dk_173 (dk_at dksJ22_makeLong_1 0 rfl rfl)
abbrev cJ22_toUnsignedLong : ByteArray := prog_84_method_370_code
def yJ22_toUnsignedLong : MethodName := ⟨RJ22, "toUnsignedLong", "(I)J"⟩
def dkwJ22_toUnsignedLong_0 : List UInt8 := [26, 133, 20, 3, 44, 127, 173]
abbrev dktJ22_toUnsignedLong_0 : List UInt8 := dkwJ22_toUnsignedLong_0 ++ []
theorem dksJ22_toUnsignedLong_0 : cJ22_toUnsignedLong.data.toList.drop 0 = dktJ22_toUnsignedLong_0 := by decide +kernel
theorem dJ22_toUnsignedLong_0 : decode cJ22_toUnsignedLong 0 = .ok (.iload_n 0, 1) := dk_26 (dk_at dksJ22_toUnsignedLong_0 0 rfl rfl)
theorem dJ22_toUnsignedLong_1 : decode cJ22_toUnsignedLong 1 = .ok (.i2l, 1) := dk_133 (dk_at dksJ22_toUnsignedLong_0 1 rfl rfl)
theorem dJ22_toUnsignedLong_2 : decode cJ22_toUnsignedLong 2 = .ok (.ldc2_w 812, 3) := dk_20 3 44 (dk_at dksJ22_toUnsignedLong_0 2 rfl rfl)
theorem dJ22_toUnsignedLong_5 : decode cJ22_toUnsignedLong 5 = .ok (.land, 1) := dk_127 (dk_at dksJ22_toUnsignedLong_0 5 rfl rfl)
theorem dJ22_toUnsignedLong_6 : decode cJ22_toUnsignedLong 6 = .ok (.lreturn, 1) := dk_173 (dk_at dksJ22_toUnsignedLong_0 6 rfl rfl)
abbrev cJ22_pickPos : ByteArray := prog_84_method_350_code
def yJ22_pickPos : MethodName := ⟨RJ22, "pickPos", "(II)I"⟩
def dkwJ22_pickPos_0 : List UInt8 := [178, 1, 95, 153, 0, 9, 26, 27, 100, 167, 0, 4, 27, 172]
abbrev dktJ22_pickPos_0 : List UInt8 := dkwJ22_pickPos_0 ++ []
theorem dksJ22_pickPos_0 : cJ22_pickPos.data.toList.drop 0 = dktJ22_pickPos_0 := by decide +kernel
theorem dJ22_pickPos_0 : decode cJ22_pickPos 0 = .ok (.getstatic 351, 3) := dk_178 1 95 (dk_at dksJ22_pickPos_0 0 rfl rfl)
theorem dJ22_pickPos_3 : decode cJ22_pickPos 3 = .ok (.ifCond .eq 9, 3) := dk_153 0 9 (dk_at dksJ22_pickPos_0 3 rfl rfl)
theorem dJ22_pickPos_6 : decode cJ22_pickPos 6 = .ok (.iload_n 0, 1) := dk_26 (dk_at dksJ22_pickPos_0 6 rfl rfl)
theorem dJ22_pickPos_7 : decode cJ22_pickPos 7 = .ok (.iload_n 1, 1) := dk_27 (dk_at dksJ22_pickPos_0 7 rfl rfl)
theorem dJ22_pickPos_8 : decode cJ22_pickPos 8 = .ok (.isub, 1) := dk_100 (dk_at dksJ22_pickPos_0 8 rfl rfl)
theorem dJ22_pickPos_9 : decode cJ22_pickPos 9 = .ok (.goto 4, 3) := dk_167 0 4 (dk_at dksJ22_pickPos_0 9 rfl rfl)
theorem dJ22_pickPos_12 : decode cJ22_pickPos 12 = .ok (.iload_n 1, 1) := dk_27 (dk_at dksJ22_pickPos_0 12 rfl rfl)
theorem dJ22_pickPos_13 : decode cJ22_pickPos 13 = .ok (.ireturn, 1) := dk_172 (dk_at dksJ22_pickPos_0 13 rfl rfl)
abbrev cJ22_makeLong_2 : ByteArray := prog_84_method_352_code
def yJ22_makeLong_2 : MethodName := ⟨RJ22, "makeLong", "(SSSS)J"⟩
def dkwJ22_makeLong_2_2 : List UInt8 := [121, 129, 173]
abbrev dktJ22_makeLong_2_2 : List UInt8 := dkwJ22_makeLong_2_2 ++ []
def dkwJ22_makeLong_2_1 : List UInt8 := [28, 184, 3, 20, 16, 48, 16, 32, 184, 3, 16, 121, 129, 29, 184, 3, 20, 16, 48, 16, 48, 184, 3, 16]
abbrev dktJ22_makeLong_2_1 : List UInt8 := dkwJ22_makeLong_2_1 ++ dktJ22_makeLong_2_2
def dkwJ22_makeLong_2_0 : List UInt8 := [26, 184, 3, 20, 16, 48, 3, 184, 3, 16, 121, 27, 184, 3, 20, 16, 48, 16, 16, 184, 3, 16, 121, 129]
abbrev dktJ22_makeLong_2_0 : List UInt8 := dkwJ22_makeLong_2_0 ++ dktJ22_makeLong_2_1
theorem dksJ22_makeLong_2_0 : cJ22_makeLong_2.data.toList.drop 0 = dktJ22_makeLong_2_0 := by decide +kernel
theorem dksJ22_makeLong_2_1 : cJ22_makeLong_2.data.toList.drop 24 = dktJ22_makeLong_2_1 := dk_seg dksJ22_makeLong_2_0 24 rfl rfl
theorem dksJ22_makeLong_2_2 : cJ22_makeLong_2.data.toList.drop 48 = dktJ22_makeLong_2_2 := dk_seg dksJ22_makeLong_2_1 24 rfl rfl
theorem dJ22_makeLong_2_0 : decode cJ22_makeLong_2 0 = .ok (.iload_n 0, 1) := dk_26 (dk_at dksJ22_makeLong_2_0 0 rfl rfl)
theorem dJ22_makeLong_2_1 : decode cJ22_makeLong_2 1 = .ok (.invokestatic 788, 3) := dk_184 3 20 (dk_at dksJ22_makeLong_2_0 1 rfl rfl)
theorem dJ22_makeLong_2_4 : decode cJ22_makeLong_2 4 = .ok (.bipush 48, 2) := dk_16 48 (dk_at dksJ22_makeLong_2_0 4 rfl rfl)
theorem dJ22_makeLong_2_6 : decode cJ22_makeLong_2 6 = .ok (.iconst 0, 1) := dk_3 (dk_at dksJ22_makeLong_2_0 6 rfl rfl)
theorem dJ22_makeLong_2_7 : decode cJ22_makeLong_2 7 = .ok (.invokestatic 784, 3) := dk_184 3 16 (dk_at dksJ22_makeLong_2_0 7 rfl rfl)
theorem dJ22_makeLong_2_10 : decode cJ22_makeLong_2 10 = .ok (.lshl, 1) := dk_121 (dk_at dksJ22_makeLong_2_0 10 rfl rfl)
theorem dJ22_makeLong_2_11 : decode cJ22_makeLong_2 11 = .ok (.iload_n 1, 1) := dk_27 (dk_at dksJ22_makeLong_2_0 11 rfl rfl)
theorem dJ22_makeLong_2_12 : decode cJ22_makeLong_2 12 = .ok (.invokestatic 788, 3) := dk_184 3 20 (dk_at dksJ22_makeLong_2_0 12 rfl rfl)
theorem dJ22_makeLong_2_15 : decode cJ22_makeLong_2 15 = .ok (.bipush 48, 2) := dk_16 48 (dk_at dksJ22_makeLong_2_0 15 rfl rfl)
theorem dJ22_makeLong_2_17 : decode cJ22_makeLong_2 17 = .ok (.bipush 16, 2) := dk_16 16 (dk_at dksJ22_makeLong_2_0 17 rfl rfl)
theorem dJ22_makeLong_2_19 : decode cJ22_makeLong_2 19 = .ok (.invokestatic 784, 3) := dk_184 3 16 (dk_at dksJ22_makeLong_2_0 19 rfl rfl)
theorem dJ22_makeLong_2_22 : decode cJ22_makeLong_2 22 = .ok (.lshl, 1) := dk_121 (dk_at dksJ22_makeLong_2_0 22 rfl rfl)
theorem dJ22_makeLong_2_23 : decode cJ22_makeLong_2 23 = .ok (.lor, 1) := dk_129 (dk_at dksJ22_makeLong_2_0 23 rfl rfl)
theorem dJ22_makeLong_2_24 : decode cJ22_makeLong_2 24 = .ok (.iload_n 2, 1) := dk_28 (dk_at dksJ22_makeLong_2_1 0 rfl rfl)
theorem dJ22_makeLong_2_25 : decode cJ22_makeLong_2 25 = .ok (.invokestatic 788, 3) := dk_184 3 20 (dk_at dksJ22_makeLong_2_1 1 rfl rfl)
theorem dJ22_makeLong_2_28 : decode cJ22_makeLong_2 28 = .ok (.bipush 48, 2) := dk_16 48 (dk_at dksJ22_makeLong_2_1 4 rfl rfl)
theorem dJ22_makeLong_2_30 : decode cJ22_makeLong_2 30 = .ok (.bipush 32, 2) := dk_16 32 (dk_at dksJ22_makeLong_2_1 6 rfl rfl)
theorem dJ22_makeLong_2_32 : decode cJ22_makeLong_2 32 = .ok (.invokestatic 784, 3) := dk_184 3 16 (dk_at dksJ22_makeLong_2_1 8 rfl rfl)
theorem dJ22_makeLong_2_35 : decode cJ22_makeLong_2 35 = .ok (.lshl, 1) := dk_121 (dk_at dksJ22_makeLong_2_1 11 rfl rfl)
theorem dJ22_makeLong_2_36 : decode cJ22_makeLong_2 36 = .ok (.lor, 1) := dk_129 (dk_at dksJ22_makeLong_2_1 12 rfl rfl)
theorem dJ22_makeLong_2_37 : decode cJ22_makeLong_2 37 = .ok (.iload_n 3, 1) := dk_29 (dk_at dksJ22_makeLong_2_1 13 rfl rfl)
theorem dJ22_makeLong_2_38 : decode cJ22_makeLong_2 38 = .ok (.invokestatic 788, 3) := dk_184 3 20 (dk_at dksJ22_makeLong_2_1 14 rfl rfl)
theorem dJ22_makeLong_2_41 : decode cJ22_makeLong_2 41 = .ok (.bipush 48, 2) := dk_16 48 (dk_at dksJ22_makeLong_2_1 17 rfl rfl)
theorem dJ22_makeLong_2_43 : decode cJ22_makeLong_2 43 = .ok (.bipush 48, 2) := dk_16 48 (dk_at dksJ22_makeLong_2_1 19 rfl rfl)
theorem dJ22_makeLong_2_45 : decode cJ22_makeLong_2 45 = .ok (.invokestatic 784, 3) := dk_184 3 16 (dk_at dksJ22_makeLong_2_1 21 rfl rfl)
theorem dJ22_makeLong_2_48 : decode cJ22_makeLong_2 48 = .ok (.lshl, 1) := dk_121 (dk_at dksJ22_makeLong_2_2 0 rfl rfl)
theorem dJ22_makeLong_2_49 : decode cJ22_makeLong_2 49 = .ok (.lor, 1) := dk_129 (dk_at dksJ22_makeLong_2_2 1 rfl rfl)
theorem dJ22_makeLong_2_50 : decode cJ22_makeLong_2 50 = .ok (.lreturn, 1) := dk_173 (dk_at dksJ22_makeLong_2_2 2 rfl rfl)
abbrev cJ22_toUnsignedLong_2 : ByteArray := prog_84_method_369_code
def yJ22_toUnsignedLong_2 : MethodName := ⟨RJ22, "toUnsignedLong", "(S)J"⟩
def dkwJ22_toUnsignedLong_2_0 : List UInt8 := [26, 133, 20, 3, 42, 127, 173]
abbrev dktJ22_toUnsignedLong_2_0 : List UInt8 := dkwJ22_toUnsignedLong_2_0 ++ []
theorem dksJ22_toUnsignedLong_2_0 : cJ22_toUnsignedLong_2.data.toList.drop 0 = dktJ22_toUnsignedLong_2_0 := by decide +kernel
theorem dJ22_toUnsignedLong_2_0 : decode cJ22_toUnsignedLong_2 0 = .ok (.iload_n 0, 1) := dk_26 (dk_at dksJ22_toUnsignedLong_2_0 0 rfl rfl)
theorem dJ22_toUnsignedLong_2_1 : decode cJ22_toUnsignedLong_2 1 = .ok (.i2l, 1) := dk_133 (dk_at dksJ22_toUnsignedLong_2_0 1 rfl rfl)
theorem dJ22_toUnsignedLong_2_2 : decode cJ22_toUnsignedLong_2 2 = .ok (.ldc2_w 810, 3) := dk_20 3 42 (dk_at dksJ22_toUnsignedLong_2_0 2 rfl rfl)
theorem dJ22_toUnsignedLong_2_5 : decode cJ22_toUnsignedLong_2 5 = .ok (.land, 1) := dk_127 (dk_at dksJ22_toUnsignedLong_2_0 5 rfl rfl)
theorem dJ22_toUnsignedLong_2_6 : decode cJ22_toUnsignedLong_2 6 = .ok (.lreturn, 1) := dk_173 (dk_at dksJ22_toUnsignedLong_2_0 6 rfl rfl)
abbrev cJ22_makeLong_3 : ByteArray := prog_84_method_351_code
def yJ22_makeLong_3 : MethodName := ⟨RJ22, "makeLong", "(BBBBBBBB)J"⟩
def dkwJ22_makeLong_3_4 : List UInt8 := [184, 3, 13, 16, 56, 16, 56, 184, 3, 16, 121, 129, 173]
abbrev dktJ22_makeLong_3_4 : List UInt8 := dkwJ22_makeLong_3_4 ++ []
def dkwJ22_makeLong_3_3 : List UInt8 := [16, 40, 184, 3, 16, 121, 129, 21, 6, 184, 3, 13, 16, 56, 16, 48, 184, 3, 16, 121, 129, 21, 7]
abbrev dktJ22_makeLong_3_3 : List UInt8 := dkwJ22_makeLong_3_3 ++ dktJ22_makeLong_3_4
def dkwJ22_makeLong_3_2 : List UInt8 := [121, 129, 21, 4, 184, 3, 13, 16, 56, 16, 32, 184, 3, 16, 121, 129, 21, 5, 184, 3, 13, 16, 56]
abbrev dktJ22_makeLong_3_2 : List UInt8 := dkwJ22_makeLong_3_2 ++ dktJ22_makeLong_3_3
def dkwJ22_makeLong_3_1 : List UInt8 := [28, 184, 3, 13, 16, 56, 16, 16, 184, 3, 16, 121, 129, 29, 184, 3, 13, 16, 56, 16, 24, 184, 3, 16]
abbrev dktJ22_makeLong_3_1 : List UInt8 := dkwJ22_makeLong_3_1 ++ dktJ22_makeLong_3_2
def dkwJ22_makeLong_3_0 : List UInt8 := [26, 184, 3, 13, 16, 56, 3, 184, 3, 16, 121, 27, 184, 3, 13, 16, 56, 16, 8, 184, 3, 16, 121, 129]
abbrev dktJ22_makeLong_3_0 : List UInt8 := dkwJ22_makeLong_3_0 ++ dktJ22_makeLong_3_1
theorem dksJ22_makeLong_3_0 : cJ22_makeLong_3.data.toList.drop 0 = dktJ22_makeLong_3_0 := by decide +kernel
theorem dksJ22_makeLong_3_1 : cJ22_makeLong_3.data.toList.drop 24 = dktJ22_makeLong_3_1 := dk_seg dksJ22_makeLong_3_0 24 rfl rfl
theorem dksJ22_makeLong_3_2 : cJ22_makeLong_3.data.toList.drop 48 = dktJ22_makeLong_3_2 := dk_seg dksJ22_makeLong_3_1 24 rfl rfl
theorem dksJ22_makeLong_3_3 : cJ22_makeLong_3.data.toList.drop 71 = dktJ22_makeLong_3_3 := dk_seg dksJ22_makeLong_3_2 23 rfl rfl
theorem dksJ22_makeLong_3_4 : cJ22_makeLong_3.data.toList.drop 94 = dktJ22_makeLong_3_4 := dk_seg dksJ22_makeLong_3_3 23 rfl rfl
theorem dJ22_makeLong_3_0 : decode cJ22_makeLong_3 0 = .ok (.iload_n 0, 1) := dk_26 (dk_at dksJ22_makeLong_3_0 0 rfl rfl)
theorem dJ22_makeLong_3_1 : decode cJ22_makeLong_3 1 = .ok (.invokestatic 781, 3) := dk_184 3 13 (dk_at dksJ22_makeLong_3_0 1 rfl rfl)
theorem dJ22_makeLong_3_4 : decode cJ22_makeLong_3 4 = .ok (.bipush 56, 2) := dk_16 56 (dk_at dksJ22_makeLong_3_0 4 rfl rfl)
theorem dJ22_makeLong_3_6 : decode cJ22_makeLong_3 6 = .ok (.iconst 0, 1) := dk_3 (dk_at dksJ22_makeLong_3_0 6 rfl rfl)
theorem dJ22_makeLong_3_7 : decode cJ22_makeLong_3 7 = .ok (.invokestatic 784, 3) := dk_184 3 16 (dk_at dksJ22_makeLong_3_0 7 rfl rfl)
theorem dJ22_makeLong_3_10 : decode cJ22_makeLong_3 10 = .ok (.lshl, 1) := dk_121 (dk_at dksJ22_makeLong_3_0 10 rfl rfl)
theorem dJ22_makeLong_3_11 : decode cJ22_makeLong_3 11 = .ok (.iload_n 1, 1) := dk_27 (dk_at dksJ22_makeLong_3_0 11 rfl rfl)
theorem dJ22_makeLong_3_12 : decode cJ22_makeLong_3 12 = .ok (.invokestatic 781, 3) := dk_184 3 13 (dk_at dksJ22_makeLong_3_0 12 rfl rfl)
theorem dJ22_makeLong_3_15 : decode cJ22_makeLong_3 15 = .ok (.bipush 56, 2) := dk_16 56 (dk_at dksJ22_makeLong_3_0 15 rfl rfl)
theorem dJ22_makeLong_3_17 : decode cJ22_makeLong_3 17 = .ok (.bipush 8, 2) := dk_16 8 (dk_at dksJ22_makeLong_3_0 17 rfl rfl)
theorem dJ22_makeLong_3_19 : decode cJ22_makeLong_3 19 = .ok (.invokestatic 784, 3) := dk_184 3 16 (dk_at dksJ22_makeLong_3_0 19 rfl rfl)
theorem dJ22_makeLong_3_22 : decode cJ22_makeLong_3 22 = .ok (.lshl, 1) := dk_121 (dk_at dksJ22_makeLong_3_0 22 rfl rfl)
theorem dJ22_makeLong_3_23 : decode cJ22_makeLong_3 23 = .ok (.lor, 1) := dk_129 (dk_at dksJ22_makeLong_3_0 23 rfl rfl)
theorem dJ22_makeLong_3_24 : decode cJ22_makeLong_3 24 = .ok (.iload_n 2, 1) := dk_28 (dk_at dksJ22_makeLong_3_1 0 rfl rfl)
theorem dJ22_makeLong_3_25 : decode cJ22_makeLong_3 25 = .ok (.invokestatic 781, 3) := dk_184 3 13 (dk_at dksJ22_makeLong_3_1 1 rfl rfl)
theorem dJ22_makeLong_3_28 : decode cJ22_makeLong_3 28 = .ok (.bipush 56, 2) := dk_16 56 (dk_at dksJ22_makeLong_3_1 4 rfl rfl)
theorem dJ22_makeLong_3_30 : decode cJ22_makeLong_3 30 = .ok (.bipush 16, 2) := dk_16 16 (dk_at dksJ22_makeLong_3_1 6 rfl rfl)
theorem dJ22_makeLong_3_32 : decode cJ22_makeLong_3 32 = .ok (.invokestatic 784, 3) := dk_184 3 16 (dk_at dksJ22_makeLong_3_1 8 rfl rfl)
theorem dJ22_makeLong_3_35 : decode cJ22_makeLong_3 35 = .ok (.lshl, 1) := dk_121 (dk_at dksJ22_makeLong_3_1 11 rfl rfl)
theorem dJ22_makeLong_3_36 : decode cJ22_makeLong_3 36 = .ok (.lor, 1) := dk_129 (dk_at dksJ22_makeLong_3_1 12 rfl rfl)
theorem dJ22_makeLong_3_37 : decode cJ22_makeLong_3 37 = .ok (.iload_n 3, 1) := dk_29 (dk_at dksJ22_makeLong_3_1 13 rfl rfl)
theorem dJ22_makeLong_3_38 : decode cJ22_makeLong_3 38 = .ok (.invokestatic 781, 3) := dk_184 3 13 (dk_at dksJ22_makeLong_3_1 14 rfl rfl)
theorem dJ22_makeLong_3_41 : decode cJ22_makeLong_3 41 = .ok (.bipush 56, 2) := dk_16 56 (dk_at dksJ22_makeLong_3_1 17 rfl rfl)
theorem dJ22_makeLong_3_43 : decode cJ22_makeLong_3 43 = .ok (.bipush 24, 2) := dk_16 24 (dk_at dksJ22_makeLong_3_1 19 rfl rfl)
theorem dJ22_makeLong_3_45 : decode cJ22_makeLong_3 45 = .ok (.invokestatic 784, 3) := dk_184 3 16 (dk_at dksJ22_makeLong_3_1 21 rfl rfl)
theorem dJ22_makeLong_3_48 : decode cJ22_makeLong_3 48 = .ok (.lshl, 1) := dk_121 (dk_at dksJ22_makeLong_3_2 0 rfl rfl)
theorem dJ22_makeLong_3_49 : decode cJ22_makeLong_3 49 = .ok (.lor, 1) := dk_129 (dk_at dksJ22_makeLong_3_2 1 rfl rfl)
theorem dJ22_makeLong_3_50 : decode cJ22_makeLong_3 50 = .ok (.iload 4, 2) := dk_21 4 (dk_at dksJ22_makeLong_3_2 2 rfl rfl)
theorem dJ22_makeLong_3_52 : decode cJ22_makeLong_3 52 = .ok (.invokestatic 781, 3) := dk_184 3 13 (dk_at dksJ22_makeLong_3_2 4 rfl rfl)
theorem dJ22_makeLong_3_55 : decode cJ22_makeLong_3 55 = .ok (.bipush 56, 2) := dk_16 56 (dk_at dksJ22_makeLong_3_2 7 rfl rfl)
theorem dJ22_makeLong_3_57 : decode cJ22_makeLong_3 57 = .ok (.bipush 32, 2) := dk_16 32 (dk_at dksJ22_makeLong_3_2 9 rfl rfl)
theorem dJ22_makeLong_3_59 : decode cJ22_makeLong_3 59 = .ok (.invokestatic 784, 3) := dk_184 3 16 (dk_at dksJ22_makeLong_3_2 11 rfl rfl)
theorem dJ22_makeLong_3_62 : decode cJ22_makeLong_3 62 = .ok (.lshl, 1) := dk_121 (dk_at dksJ22_makeLong_3_2 14 rfl rfl)
theorem dJ22_makeLong_3_63 : decode cJ22_makeLong_3 63 = .ok (.lor, 1) := dk_129 (dk_at dksJ22_makeLong_3_2 15 rfl rfl)
theorem dJ22_makeLong_3_64 : decode cJ22_makeLong_3 64 = .ok (.iload 5, 2) := dk_21 5 (dk_at dksJ22_makeLong_3_2 16 rfl rfl)
theorem dJ22_makeLong_3_66 : decode cJ22_makeLong_3 66 = .ok (.invokestatic 781, 3) := dk_184 3 13 (dk_at dksJ22_makeLong_3_2 18 rfl rfl)
theorem dJ22_makeLong_3_69 : decode cJ22_makeLong_3 69 = .ok (.bipush 56, 2) := dk_16 56 (dk_at dksJ22_makeLong_3_2 21 rfl rfl)
theorem dJ22_makeLong_3_71 : decode cJ22_makeLong_3 71 = .ok (.bipush 40, 2) := dk_16 40 (dk_at dksJ22_makeLong_3_3 0 rfl rfl)
theorem dJ22_makeLong_3_73 : decode cJ22_makeLong_3 73 = .ok (.invokestatic 784, 3) := dk_184 3 16 (dk_at dksJ22_makeLong_3_3 2 rfl rfl)
theorem dJ22_makeLong_3_76 : decode cJ22_makeLong_3 76 = .ok (.lshl, 1) := dk_121 (dk_at dksJ22_makeLong_3_3 5 rfl rfl)
theorem dJ22_makeLong_3_77 : decode cJ22_makeLong_3 77 = .ok (.lor, 1) := dk_129 (dk_at dksJ22_makeLong_3_3 6 rfl rfl)
theorem dJ22_makeLong_3_78 : decode cJ22_makeLong_3 78 = .ok (.iload 6, 2) := dk_21 6 (dk_at dksJ22_makeLong_3_3 7 rfl rfl)
theorem dJ22_makeLong_3_80 : decode cJ22_makeLong_3 80 = .ok (.invokestatic 781, 3) := dk_184 3 13 (dk_at dksJ22_makeLong_3_3 9 rfl rfl)
theorem dJ22_makeLong_3_83 : decode cJ22_makeLong_3 83 = .ok (.bipush 56, 2) := dk_16 56 (dk_at dksJ22_makeLong_3_3 12 rfl rfl)
theorem dJ22_makeLong_3_85 : decode cJ22_makeLong_3 85 = .ok (.bipush 48, 2) := dk_16 48 (dk_at dksJ22_makeLong_3_3 14 rfl rfl)
theorem dJ22_makeLong_3_87 : decode cJ22_makeLong_3 87 = .ok (.invokestatic 784, 3) := dk_184 3 16 (dk_at dksJ22_makeLong_3_3 16 rfl rfl)
theorem dJ22_makeLong_3_90 : decode cJ22_makeLong_3 90 = .ok (.lshl, 1) := dk_121 (dk_at dksJ22_makeLong_3_3 19 rfl rfl)
theorem dJ22_makeLong_3_91 : decode cJ22_makeLong_3 91 = .ok (.lor, 1) := dk_129 (dk_at dksJ22_makeLong_3_3 20 rfl rfl)
theorem dJ22_makeLong_3_92 : decode cJ22_makeLong_3 92 = .ok (.iload 7, 2) := dk_21 7 (dk_at dksJ22_makeLong_3_3 21 rfl rfl)
theorem dJ22_makeLong_3_94 : decode cJ22_makeLong_3 94 = .ok (.invokestatic 781, 3) := dk_184 3 13 (dk_at dksJ22_makeLong_3_4 0 rfl rfl)
theorem dJ22_makeLong_3_97 : decode cJ22_makeLong_3 97 = .ok (.bipush 56, 2) := dk_16 56 (dk_at dksJ22_makeLong_3_4 3 rfl rfl)
theorem dJ22_makeLong_3_99 : decode cJ22_makeLong_3 99 = .ok (.bipush 56, 2) := dk_16 56 (dk_at dksJ22_makeLong_3_4 5 rfl rfl)
theorem dJ22_makeLong_3_101 : decode cJ22_makeLong_3 101 = .ok (.invokestatic 784, 3) := dk_184 3 16 (dk_at dksJ22_makeLong_3_4 7 rfl rfl)
theorem dJ22_makeLong_3_104 : decode cJ22_makeLong_3 104 = .ok (.lshl, 1) := dk_121 (dk_at dksJ22_makeLong_3_4 10 rfl rfl)
theorem dJ22_makeLong_3_105 : decode cJ22_makeLong_3 105 = .ok (.lor, 1) := dk_129 (dk_at dksJ22_makeLong_3_4 11 rfl rfl)
theorem dJ22_makeLong_3_106 : decode cJ22_makeLong_3 106 = .ok (.lreturn, 1) := dk_173 (dk_at dksJ22_makeLong_3_4 12 rfl rfl)
abbrev cJ22_toUnsignedLong_3 : ByteArray := prog_84_method_368_code
def yJ22_toUnsignedLong_3 : MethodName := ⟨RJ22, "toUnsignedLong", "(B)J"⟩
def dkwJ22_toUnsignedLong_3_0 : List UInt8 := [26, 133, 20, 3, 40, 127, 173]
abbrev dktJ22_toUnsignedLong_3_0 : List UInt8 := dkwJ22_toUnsignedLong_3_0 ++ []
theorem dksJ22_toUnsignedLong_3_0 : cJ22_toUnsignedLong_3.data.toList.drop 0 = dktJ22_toUnsignedLong_3_0 := by decide +kernel
theorem dJ22_toUnsignedLong_3_0 : decode cJ22_toUnsignedLong_3 0 = .ok (.iload_n 0, 1) := dk_26 (dk_at dksJ22_toUnsignedLong_3_0 0 rfl rfl)
theorem dJ22_toUnsignedLong_3_1 : decode cJ22_toUnsignedLong_3 1 = .ok (.i2l, 1) := dk_133 (dk_at dksJ22_toUnsignedLong_3_0 1 rfl rfl)
theorem dJ22_toUnsignedLong_3_2 : decode cJ22_toUnsignedLong_3 2 = .ok (.ldc2_w 808, 3) := dk_20 3 40 (dk_at dksJ22_toUnsignedLong_3_0 2 rfl rfl)
theorem dJ22_toUnsignedLong_3_5 : decode cJ22_toUnsignedLong_3 5 = .ok (.land, 1) := dk_127 (dk_at dksJ22_toUnsignedLong_3_0 5 rfl rfl)
theorem dJ22_toUnsignedLong_3_6 : decode cJ22_toUnsignedLong_3 6 = .ok (.lreturn, 1) := dk_173 (dk_at dksJ22_toUnsignedLong_3_0 6 rfl rfl)
abbrev cJ22_getIntUnaligned : ByteArray := prog_84_method_336_code
def yJ22_getIntUnaligned : MethodName := ⟨RJ22, "getIntUnaligned", "(Ljava/lang/Object;J)I"⟩
def dkwJ22_getIntUnaligned_3 : List UInt8 := [43, 32, 20, 1, 93, 97, 182, 0, 39, 184, 2, 211, 172]
abbrev dktJ22_getIntUnaligned_3 : List UInt8 := dkwJ22_getIntUnaligned_3 ++ []
def dkwJ22_getIntUnaligned_2 : List UInt8 := [43, 32, 182, 0, 39, 42, 43, 32, 10, 97, 182, 0, 39, 42, 43, 32, 20, 0, 203, 97, 182, 0, 39, 42]
abbrev dktJ22_getIntUnaligned_2 : List UInt8 := dkwJ22_getIntUnaligned_2 ++ dktJ22_getIntUnaligned_3
def dkwJ22_getIntUnaligned_1 : List UInt8 := [154, 0, 23, 42, 43, 32, 182, 0, 47, 42, 43, 32, 20, 0, 203, 97, 182, 0, 47, 184, 2, 207, 172, 42]
abbrev dktJ22_getIntUnaligned_1 : List UInt8 := dkwJ22_getIntUnaligned_1 ++ dktJ22_getIntUnaligned_2
def dkwJ22_getIntUnaligned_0 : List UInt8 := [32, 20, 1, 93, 127, 9, 148, 154, 0, 10, 42, 43, 32, 182, 0, 17, 172, 32, 10, 127, 9, 148]
abbrev dktJ22_getIntUnaligned_0 : List UInt8 := dkwJ22_getIntUnaligned_0 ++ dktJ22_getIntUnaligned_1
theorem dksJ22_getIntUnaligned_0 : cJ22_getIntUnaligned.data.toList.drop 0 = dktJ22_getIntUnaligned_0 := by decide +kernel
theorem dksJ22_getIntUnaligned_1 : cJ22_getIntUnaligned.data.toList.drop 22 = dktJ22_getIntUnaligned_1 := dk_seg dksJ22_getIntUnaligned_0 22 rfl rfl
theorem dksJ22_getIntUnaligned_2 : cJ22_getIntUnaligned.data.toList.drop 46 = dktJ22_getIntUnaligned_2 := dk_seg dksJ22_getIntUnaligned_1 24 rfl rfl
theorem dksJ22_getIntUnaligned_3 : cJ22_getIntUnaligned.data.toList.drop 70 = dktJ22_getIntUnaligned_3 := dk_seg dksJ22_getIntUnaligned_2 24 rfl rfl
theorem dJ22_getIntUnaligned_0 : decode cJ22_getIntUnaligned 0 = .ok (.lload_n 2, 1) := dk_32 (dk_at dksJ22_getIntUnaligned_0 0 rfl rfl)
theorem dJ22_getIntUnaligned_1 : decode cJ22_getIntUnaligned 1 = .ok (.ldc2_w 349, 3) := dk_20 1 93 (dk_at dksJ22_getIntUnaligned_0 1 rfl rfl)
theorem dJ22_getIntUnaligned_4 : decode cJ22_getIntUnaligned 4 = .ok (.land, 1) := dk_127 (dk_at dksJ22_getIntUnaligned_0 4 rfl rfl)
theorem dJ22_getIntUnaligned_5 : decode cJ22_getIntUnaligned 5 = .ok (.lconst 0, 1) := dk_9 (dk_at dksJ22_getIntUnaligned_0 5 rfl rfl)
theorem dJ22_getIntUnaligned_6 : decode cJ22_getIntUnaligned 6 = .ok (.lcmp, 1) := dk_148 (dk_at dksJ22_getIntUnaligned_0 6 rfl rfl)
theorem dJ22_getIntUnaligned_7 : decode cJ22_getIntUnaligned 7 = .ok (.ifCond .ne 10, 3) := dk_154 0 10 (dk_at dksJ22_getIntUnaligned_0 7 rfl rfl)
theorem dJ22_getIntUnaligned_10 : decode cJ22_getIntUnaligned 10 = .ok (.aload_n 0, 1) := dk_42 (dk_at dksJ22_getIntUnaligned_0 10 rfl rfl)
theorem dJ22_getIntUnaligned_11 : decode cJ22_getIntUnaligned 11 = .ok (.aload_n 1, 1) := dk_43 (dk_at dksJ22_getIntUnaligned_0 11 rfl rfl)
theorem dJ22_getIntUnaligned_12 : decode cJ22_getIntUnaligned 12 = .ok (.lload_n 2, 1) := dk_32 (dk_at dksJ22_getIntUnaligned_0 12 rfl rfl)
theorem dJ22_getIntUnaligned_13 : decode cJ22_getIntUnaligned 13 = .ok (.invokevirtual 17, 3) := dk_182 0 17 (dk_at dksJ22_getIntUnaligned_0 13 rfl rfl)
theorem dJ22_getIntUnaligned_16 : decode cJ22_getIntUnaligned 16 = .ok (.ireturn, 1) := dk_172 (dk_at dksJ22_getIntUnaligned_0 16 rfl rfl)
theorem dJ22_getIntUnaligned_17 : decode cJ22_getIntUnaligned 17 = .ok (.lload_n 2, 1) := dk_32 (dk_at dksJ22_getIntUnaligned_0 17 rfl rfl)
theorem dJ22_getIntUnaligned_18 : decode cJ22_getIntUnaligned 18 = .ok (.lconst 1, 1) := dk_10 (dk_at dksJ22_getIntUnaligned_0 18 rfl rfl)
theorem dJ22_getIntUnaligned_19 : decode cJ22_getIntUnaligned 19 = .ok (.land, 1) := dk_127 (dk_at dksJ22_getIntUnaligned_0 19 rfl rfl)
theorem dJ22_getIntUnaligned_20 : decode cJ22_getIntUnaligned 20 = .ok (.lconst 0, 1) := dk_9 (dk_at dksJ22_getIntUnaligned_0 20 rfl rfl)
theorem dJ22_getIntUnaligned_21 : decode cJ22_getIntUnaligned 21 = .ok (.lcmp, 1) := dk_148 (dk_at dksJ22_getIntUnaligned_0 21 rfl rfl)
theorem dJ22_getIntUnaligned_22 : decode cJ22_getIntUnaligned 22 = .ok (.ifCond .ne 23, 3) := dk_154 0 23 (dk_at dksJ22_getIntUnaligned_1 0 rfl rfl)
theorem dJ22_getIntUnaligned_25 : decode cJ22_getIntUnaligned 25 = .ok (.aload_n 0, 1) := dk_42 (dk_at dksJ22_getIntUnaligned_1 3 rfl rfl)
theorem dJ22_getIntUnaligned_26 : decode cJ22_getIntUnaligned 26 = .ok (.aload_n 1, 1) := dk_43 (dk_at dksJ22_getIntUnaligned_1 4 rfl rfl)
theorem dJ22_getIntUnaligned_27 : decode cJ22_getIntUnaligned 27 = .ok (.lload_n 2, 1) := dk_32 (dk_at dksJ22_getIntUnaligned_1 5 rfl rfl)
theorem dJ22_getIntUnaligned_28 : decode cJ22_getIntUnaligned 28 = .ok (.invokevirtual 47, 3) := dk_182 0 47 (dk_at dksJ22_getIntUnaligned_1 6 rfl rfl)
theorem dJ22_getIntUnaligned_31 : decode cJ22_getIntUnaligned 31 = .ok (.aload_n 0, 1) := dk_42 (dk_at dksJ22_getIntUnaligned_1 9 rfl rfl)
theorem dJ22_getIntUnaligned_32 : decode cJ22_getIntUnaligned 32 = .ok (.aload_n 1, 1) := dk_43 (dk_at dksJ22_getIntUnaligned_1 10 rfl rfl)
theorem dJ22_getIntUnaligned_33 : decode cJ22_getIntUnaligned 33 = .ok (.lload_n 2, 1) := dk_32 (dk_at dksJ22_getIntUnaligned_1 11 rfl rfl)
theorem dJ22_getIntUnaligned_34 : decode cJ22_getIntUnaligned 34 = .ok (.ldc2_w 203, 3) := dk_20 0 203 (dk_at dksJ22_getIntUnaligned_1 12 rfl rfl)
theorem dJ22_getIntUnaligned_37 : decode cJ22_getIntUnaligned 37 = .ok (.ladd, 1) := dk_97 (dk_at dksJ22_getIntUnaligned_1 15 rfl rfl)
theorem dJ22_getIntUnaligned_38 : decode cJ22_getIntUnaligned 38 = .ok (.invokevirtual 47, 3) := dk_182 0 47 (dk_at dksJ22_getIntUnaligned_1 16 rfl rfl)
theorem dJ22_getIntUnaligned_41 : decode cJ22_getIntUnaligned 41 = .ok (.invokestatic 719, 3) := dk_184 2 207 (dk_at dksJ22_getIntUnaligned_1 19 rfl rfl)
theorem dJ22_getIntUnaligned_44 : decode cJ22_getIntUnaligned 44 = .ok (.ireturn, 1) := dk_172 (dk_at dksJ22_getIntUnaligned_1 22 rfl rfl)
theorem dJ22_getIntUnaligned_45 : decode cJ22_getIntUnaligned 45 = .ok (.aload_n 0, 1) := dk_42 (dk_at dksJ22_getIntUnaligned_1 23 rfl rfl)
theorem dJ22_getIntUnaligned_46 : decode cJ22_getIntUnaligned 46 = .ok (.aload_n 1, 1) := dk_43 (dk_at dksJ22_getIntUnaligned_2 0 rfl rfl)
theorem dJ22_getIntUnaligned_47 : decode cJ22_getIntUnaligned 47 = .ok (.lload_n 2, 1) := dk_32 (dk_at dksJ22_getIntUnaligned_2 1 rfl rfl)
theorem dJ22_getIntUnaligned_48 : decode cJ22_getIntUnaligned 48 = .ok (.invokevirtual 39, 3) := dk_182 0 39 (dk_at dksJ22_getIntUnaligned_2 2 rfl rfl)
theorem dJ22_getIntUnaligned_51 : decode cJ22_getIntUnaligned 51 = .ok (.aload_n 0, 1) := dk_42 (dk_at dksJ22_getIntUnaligned_2 5 rfl rfl)
theorem dJ22_getIntUnaligned_52 : decode cJ22_getIntUnaligned 52 = .ok (.aload_n 1, 1) := dk_43 (dk_at dksJ22_getIntUnaligned_2 6 rfl rfl)
theorem dJ22_getIntUnaligned_53 : decode cJ22_getIntUnaligned 53 = .ok (.lload_n 2, 1) := dk_32 (dk_at dksJ22_getIntUnaligned_2 7 rfl rfl)
theorem dJ22_getIntUnaligned_54 : decode cJ22_getIntUnaligned 54 = .ok (.lconst 1, 1) := dk_10 (dk_at dksJ22_getIntUnaligned_2 8 rfl rfl)
theorem dJ22_getIntUnaligned_55 : decode cJ22_getIntUnaligned 55 = .ok (.ladd, 1) := dk_97 (dk_at dksJ22_getIntUnaligned_2 9 rfl rfl)
theorem dJ22_getIntUnaligned_56 : decode cJ22_getIntUnaligned 56 = .ok (.invokevirtual 39, 3) := dk_182 0 39 (dk_at dksJ22_getIntUnaligned_2 10 rfl rfl)
theorem dJ22_getIntUnaligned_59 : decode cJ22_getIntUnaligned 59 = .ok (.aload_n 0, 1) := dk_42 (dk_at dksJ22_getIntUnaligned_2 13 rfl rfl)
theorem dJ22_getIntUnaligned_60 : decode cJ22_getIntUnaligned 60 = .ok (.aload_n 1, 1) := dk_43 (dk_at dksJ22_getIntUnaligned_2 14 rfl rfl)
theorem dJ22_getIntUnaligned_61 : decode cJ22_getIntUnaligned 61 = .ok (.lload_n 2, 1) := dk_32 (dk_at dksJ22_getIntUnaligned_2 15 rfl rfl)
theorem dJ22_getIntUnaligned_62 : decode cJ22_getIntUnaligned 62 = .ok (.ldc2_w 203, 3) := dk_20 0 203 (dk_at dksJ22_getIntUnaligned_2 16 rfl rfl)
theorem dJ22_getIntUnaligned_65 : decode cJ22_getIntUnaligned 65 = .ok (.ladd, 1) := dk_97 (dk_at dksJ22_getIntUnaligned_2 19 rfl rfl)
theorem dJ22_getIntUnaligned_66 : decode cJ22_getIntUnaligned 66 = .ok (.invokevirtual 39, 3) := dk_182 0 39 (dk_at dksJ22_getIntUnaligned_2 20 rfl rfl)
theorem dJ22_getIntUnaligned_69 : decode cJ22_getIntUnaligned 69 = .ok (.aload_n 0, 1) := dk_42 (dk_at dksJ22_getIntUnaligned_2 23 rfl rfl)
theorem dJ22_getIntUnaligned_70 : decode cJ22_getIntUnaligned 70 = .ok (.aload_n 1, 1) := dk_43 (dk_at dksJ22_getIntUnaligned_3 0 rfl rfl)
theorem dJ22_getIntUnaligned_71 : decode cJ22_getIntUnaligned 71 = .ok (.lload_n 2, 1) := dk_32 (dk_at dksJ22_getIntUnaligned_3 1 rfl rfl)
theorem dJ22_getIntUnaligned_72 : decode cJ22_getIntUnaligned 72 = .ok (.ldc2_w 349, 3) := dk_20 1 93 (dk_at dksJ22_getIntUnaligned_3 2 rfl rfl)
theorem dJ22_getIntUnaligned_75 : decode cJ22_getIntUnaligned 75 = .ok (.ladd, 1) := dk_97 (dk_at dksJ22_getIntUnaligned_3 5 rfl rfl)
theorem dJ22_getIntUnaligned_76 : decode cJ22_getIntUnaligned 76 = .ok (.invokevirtual 39, 3) := dk_182 0 39 (dk_at dksJ22_getIntUnaligned_3 6 rfl rfl)
theorem dJ22_getIntUnaligned_79 : decode cJ22_getIntUnaligned 79 = .ok (.invokestatic 723, 3) := dk_184 2 211 (dk_at dksJ22_getIntUnaligned_3 9 rfl rfl)
theorem dJ22_getIntUnaligned_82 : decode cJ22_getIntUnaligned 82 = .ok (.ireturn, 1) := dk_172 (dk_at dksJ22_getIntUnaligned_3 12 rfl rfl)
abbrev cJ22_makeInt : ByteArray := prog_84_method_354_code
def yJ22_makeInt : MethodName := ⟨RJ22, "makeInt", "(SS)I"⟩
def dkwJ22_makeInt_1 : List UInt8 := [172]
abbrev dktJ22_makeInt_1 : List UInt8 := dkwJ22_makeInt_1 ++ []
def dkwJ22_makeInt_0 : List UInt8 := [26, 184, 3, 24, 16, 16, 3, 184, 3, 16, 120, 27, 184, 3, 24, 16, 16, 16, 16, 184, 3, 16, 120, 128]
abbrev dktJ22_makeInt_0 : List UInt8 := dkwJ22_makeInt_0 ++ dktJ22_makeInt_1
theorem dksJ22_makeInt_0 : cJ22_makeInt.data.toList.drop 0 = dktJ22_makeInt_0 := by decide +kernel
theorem dksJ22_makeInt_1 : cJ22_makeInt.data.toList.drop 24 = dktJ22_makeInt_1 := dk_seg dksJ22_makeInt_0 24 rfl rfl
theorem dJ22_makeInt_0 : decode cJ22_makeInt 0 = .ok (.iload_n 0, 1) := dk_26 (dk_at dksJ22_makeInt_0 0 rfl rfl)
theorem dJ22_makeInt_1 : decode cJ22_makeInt 1 = .ok (.invokestatic 792, 3) := dk_184 3 24 (dk_at dksJ22_makeInt_0 1 rfl rfl)
theorem dJ22_makeInt_4 : decode cJ22_makeInt 4 = .ok (.bipush 16, 2) := dk_16 16 (dk_at dksJ22_makeInt_0 4 rfl rfl)
theorem dJ22_makeInt_6 : decode cJ22_makeInt 6 = .ok (.iconst 0, 1) := dk_3 (dk_at dksJ22_makeInt_0 6 rfl rfl)
theorem dJ22_makeInt_7 : decode cJ22_makeInt 7 = .ok (.invokestatic 784, 3) := dk_184 3 16 (dk_at dksJ22_makeInt_0 7 rfl rfl)
theorem dJ22_makeInt_10 : decode cJ22_makeInt 10 = .ok (.ishl, 1) := dk_120 (dk_at dksJ22_makeInt_0 10 rfl rfl)
theorem dJ22_makeInt_11 : decode cJ22_makeInt 11 = .ok (.iload_n 1, 1) := dk_27 (dk_at dksJ22_makeInt_0 11 rfl rfl)
theorem dJ22_makeInt_12 : decode cJ22_makeInt 12 = .ok (.invokestatic 792, 3) := dk_184 3 24 (dk_at dksJ22_makeInt_0 12 rfl rfl)
theorem dJ22_makeInt_15 : decode cJ22_makeInt 15 = .ok (.bipush 16, 2) := dk_16 16 (dk_at dksJ22_makeInt_0 15 rfl rfl)
theorem dJ22_makeInt_17 : decode cJ22_makeInt 17 = .ok (.bipush 16, 2) := dk_16 16 (dk_at dksJ22_makeInt_0 17 rfl rfl)
theorem dJ22_makeInt_19 : decode cJ22_makeInt 19 = .ok (.invokestatic 784, 3) := dk_184 3 16 (dk_at dksJ22_makeInt_0 19 rfl rfl)
theorem dJ22_makeInt_22 : decode cJ22_makeInt 22 = .ok (.ishl, 1) := dk_120 (dk_at dksJ22_makeInt_0 22 rfl rfl)
theorem dJ22_makeInt_23 : decode cJ22_makeInt 23 = .ok (.ior, 1) := dk_128 (dk_at dksJ22_makeInt_0 23 rfl rfl)
theorem dJ22_makeInt_24 : decode cJ22_makeInt 24 = .ok (.ireturn, 1) := dk_172 (dk_at dksJ22_makeInt_1 0 rfl rfl)
abbrev cJ22_toUnsignedInt : ByteArray := prog_84_method_367_code
def yJ22_toUnsignedInt : MethodName := ⟨RJ22, "toUnsignedInt", "(S)I"⟩
def dkwJ22_toUnsignedInt_0 : List UInt8 := [26, 19, 1, 118, 126, 172]
abbrev dktJ22_toUnsignedInt_0 : List UInt8 := dkwJ22_toUnsignedInt_0 ++ []
theorem dksJ22_toUnsignedInt_0 : cJ22_toUnsignedInt.data.toList.drop 0 = dktJ22_toUnsignedInt_0 := by decide +kernel
theorem dJ22_toUnsignedInt_0 : decode cJ22_toUnsignedInt 0 = .ok (.iload_n 0, 1) := dk_26 (dk_at dksJ22_toUnsignedInt_0 0 rfl rfl)
theorem dJ22_toUnsignedInt_1 : decode cJ22_toUnsignedInt 1 = .ok (.ldc_w 374, 3) := dk_19 1 118 (dk_at dksJ22_toUnsignedInt_0 1 rfl rfl)
theorem dJ22_toUnsignedInt_4 : decode cJ22_toUnsignedInt 4 = .ok (.iand, 1) := dk_126 (dk_at dksJ22_toUnsignedInt_0 4 rfl rfl)
theorem dJ22_toUnsignedInt_5 : decode cJ22_toUnsignedInt 5 = .ok (.ireturn, 1) := dk_172 (dk_at dksJ22_toUnsignedInt_0 5 rfl rfl)
abbrev cJ22_makeInt_2 : ByteArray := prog_84_method_355_code
def yJ22_makeInt_2 : MethodName := ⟨RJ22, "makeInt", "(BBBB)I"⟩
def dkwJ22_makeInt_2_2 : List UInt8 := [120, 128, 172]
abbrev dktJ22_makeInt_2_2 : List UInt8 := dkwJ22_makeInt_2_2 ++ []
def dkwJ22_makeInt_2_1 : List UInt8 := [28, 184, 3, 28, 16, 24, 16, 16, 184, 3, 16, 120, 128, 29, 184, 3, 28, 16, 24, 16, 24, 184, 3, 16]
abbrev dktJ22_makeInt_2_1 : List UInt8 := dkwJ22_makeInt_2_1 ++ dktJ22_makeInt_2_2
def dkwJ22_makeInt_2_0 : List UInt8 := [26, 184, 3, 28, 16, 24, 3, 184, 3, 16, 120, 27, 184, 3, 28, 16, 24, 16, 8, 184, 3, 16, 120, 128]
abbrev dktJ22_makeInt_2_0 : List UInt8 := dkwJ22_makeInt_2_0 ++ dktJ22_makeInt_2_1
theorem dksJ22_makeInt_2_0 : cJ22_makeInt_2.data.toList.drop 0 = dktJ22_makeInt_2_0 := by decide +kernel
theorem dksJ22_makeInt_2_1 : cJ22_makeInt_2.data.toList.drop 24 = dktJ22_makeInt_2_1 := dk_seg dksJ22_makeInt_2_0 24 rfl rfl
theorem dksJ22_makeInt_2_2 : cJ22_makeInt_2.data.toList.drop 48 = dktJ22_makeInt_2_2 := dk_seg dksJ22_makeInt_2_1 24 rfl rfl
theorem dJ22_makeInt_2_0 : decode cJ22_makeInt_2 0 = .ok (.iload_n 0, 1) := dk_26 (dk_at dksJ22_makeInt_2_0 0 rfl rfl)
theorem dJ22_makeInt_2_1 : decode cJ22_makeInt_2 1 = .ok (.invokestatic 796, 3) := dk_184 3 28 (dk_at dksJ22_makeInt_2_0 1 rfl rfl)
theorem dJ22_makeInt_2_4 : decode cJ22_makeInt_2 4 = .ok (.bipush 24, 2) := dk_16 24 (dk_at dksJ22_makeInt_2_0 4 rfl rfl)
theorem dJ22_makeInt_2_6 : decode cJ22_makeInt_2 6 = .ok (.iconst 0, 1) := dk_3 (dk_at dksJ22_makeInt_2_0 6 rfl rfl)
theorem dJ22_makeInt_2_7 : decode cJ22_makeInt_2 7 = .ok (.invokestatic 784, 3) := dk_184 3 16 (dk_at dksJ22_makeInt_2_0 7 rfl rfl)
theorem dJ22_makeInt_2_10 : decode cJ22_makeInt_2 10 = .ok (.ishl, 1) := dk_120 (dk_at dksJ22_makeInt_2_0 10 rfl rfl)
theorem dJ22_makeInt_2_11 : decode cJ22_makeInt_2 11 = .ok (.iload_n 1, 1) := dk_27 (dk_at dksJ22_makeInt_2_0 11 rfl rfl)
theorem dJ22_makeInt_2_12 : decode cJ22_makeInt_2 12 = .ok (.invokestatic 796, 3) := dk_184 3 28 (dk_at dksJ22_makeInt_2_0 12 rfl rfl)
theorem dJ22_makeInt_2_15 : decode cJ22_makeInt_2 15 = .ok (.bipush 24, 2) := dk_16 24 (dk_at dksJ22_makeInt_2_0 15 rfl rfl)
theorem dJ22_makeInt_2_17 : decode cJ22_makeInt_2 17 = .ok (.bipush 8, 2) := dk_16 8 (dk_at dksJ22_makeInt_2_0 17 rfl rfl)
theorem dJ22_makeInt_2_19 : decode cJ22_makeInt_2 19 = .ok (.invokestatic 784, 3) := dk_184 3 16 (dk_at dksJ22_makeInt_2_0 19 rfl rfl)
theorem dJ22_makeInt_2_22 : decode cJ22_makeInt_2 22 = .ok (.ishl, 1) := dk_120 (dk_at dksJ22_makeInt_2_0 22 rfl rfl)
theorem dJ22_makeInt_2_23 : decode cJ22_makeInt_2 23 = .ok (.ior, 1) := dk_128 (dk_at dksJ22_makeInt_2_0 23 rfl rfl)
theorem dJ22_makeInt_2_24 : decode cJ22_makeInt_2 24 = .ok (.iload_n 2, 1) := dk_28 (dk_at dksJ22_makeInt_2_1 0 rfl rfl)
theorem dJ22_makeInt_2_25 : decode cJ22_makeInt_2 25 = .ok (.invokestatic 796, 3) := dk_184 3 28 (dk_at dksJ22_makeInt_2_1 1 rfl rfl)
theorem dJ22_makeInt_2_28 : decode cJ22_makeInt_2 28 = .ok (.bipush 24, 2) := dk_16 24 (dk_at dksJ22_makeInt_2_1 4 rfl rfl)
theorem dJ22_makeInt_2_30 : decode cJ22_makeInt_2 30 = .ok (.bipush 16, 2) := dk_16 16 (dk_at dksJ22_makeInt_2_1 6 rfl rfl)
theorem dJ22_makeInt_2_32 : decode cJ22_makeInt_2 32 = .ok (.invokestatic 784, 3) := dk_184 3 16 (dk_at dksJ22_makeInt_2_1 8 rfl rfl)
theorem dJ22_makeInt_2_35 : decode cJ22_makeInt_2 35 = .ok (.ishl, 1) := dk_120 (dk_at dksJ22_makeInt_2_1 11 rfl rfl)
theorem dJ22_makeInt_2_36 : decode cJ22_makeInt_2 36 = .ok (.ior, 1) := dk_128 (dk_at dksJ22_makeInt_2_1 12 rfl rfl)
theorem dJ22_makeInt_2_37 : decode cJ22_makeInt_2 37 = .ok (.iload_n 3, 1) := dk_29 (dk_at dksJ22_makeInt_2_1 13 rfl rfl)
theorem dJ22_makeInt_2_38 : decode cJ22_makeInt_2 38 = .ok (.invokestatic 796, 3) := dk_184 3 28 (dk_at dksJ22_makeInt_2_1 14 rfl rfl)
theorem dJ22_makeInt_2_41 : decode cJ22_makeInt_2 41 = .ok (.bipush 24, 2) := dk_16 24 (dk_at dksJ22_makeInt_2_1 17 rfl rfl)
theorem dJ22_makeInt_2_43 : decode cJ22_makeInt_2 43 = .ok (.bipush 24, 2) := dk_16 24 (dk_at dksJ22_makeInt_2_1 19 rfl rfl)
theorem dJ22_makeInt_2_45 : decode cJ22_makeInt_2 45 = .ok (.invokestatic 784, 3) := dk_184 3 16 (dk_at dksJ22_makeInt_2_1 21 rfl rfl)
theorem dJ22_makeInt_2_48 : decode cJ22_makeInt_2 48 = .ok (.ishl, 1) := dk_120 (dk_at dksJ22_makeInt_2_2 0 rfl rfl)
theorem dJ22_makeInt_2_49 : decode cJ22_makeInt_2 49 = .ok (.ior, 1) := dk_128 (dk_at dksJ22_makeInt_2_2 1 rfl rfl)
theorem dJ22_makeInt_2_50 : decode cJ22_makeInt_2 50 = .ok (.ireturn, 1) := dk_172 (dk_at dksJ22_makeInt_2_2 2 rfl rfl)
abbrev cJ22_toUnsignedInt_2 : ByteArray := prog_84_method_366_code
def yJ22_toUnsignedInt_2 : MethodName := ⟨RJ22, "toUnsignedInt", "(B)I"⟩
def dkwJ22_toUnsignedInt_2_0 : List UInt8 := [26, 17, 0, 255, 126, 172]
abbrev dktJ22_toUnsignedInt_2_0 : List UInt8 := dkwJ22_toUnsignedInt_2_0 ++ []
theorem dksJ22_toUnsignedInt_2_0 : cJ22_toUnsignedInt_2.data.toList.drop 0 = dktJ22_toUnsignedInt_2_0 := by decide +kernel
theorem dJ22_toUnsignedInt_2_0 : decode cJ22_toUnsignedInt_2 0 = .ok (.iload_n 0, 1) := dk_26 (dk_at dksJ22_toUnsignedInt_2_0 0 rfl rfl)
theorem dJ22_toUnsignedInt_2_1 : decode cJ22_toUnsignedInt_2 1 = .ok (.sipush 255, 3) := dk_17 0 255 (dk_at dksJ22_toUnsignedInt_2_0 1 rfl rfl)
theorem dJ22_toUnsignedInt_2_4 : decode cJ22_toUnsignedInt_2 4 = .ok (.iand, 1) := dk_126 (dk_at dksJ22_toUnsignedInt_2_0 4 rfl rfl)
theorem dJ22_toUnsignedInt_2_5 : decode cJ22_toUnsignedInt_2 5 = .ok (.ireturn, 1) := dk_172 (dk_at dksJ22_toUnsignedInt_2_0 5 rfl rfl)
abbrev cJ23_numberOfLeadingZeros : ByteArray := prog_31_method_48_code
def yJ23_numberOfLeadingZeros : MethodName := ⟨RJ23, "numberOfLeadingZeros", "(J)I"⟩
def dkwJ23_numberOfLeadingZeros_1 : List UInt8 := [184, 1, 52, 172]
abbrev dktJ23_numberOfLeadingZeros_1 : List UInt8 := dkwJ23_numberOfLeadingZeros_1 ++ []
def dkwJ23_numberOfLeadingZeros_0 : List UInt8 := [30, 16, 32, 125, 136, 61, 28, 154, 0, 14, 16, 32, 30, 136, 184, 1, 52, 96, 167, 0, 7, 28]
abbrev dktJ23_numberOfLeadingZeros_0 : List UInt8 := dkwJ23_numberOfLeadingZeros_0 ++ dktJ23_numberOfLeadingZeros_1
theorem dksJ23_numberOfLeadingZeros_0 : cJ23_numberOfLeadingZeros.data.toList.drop 0 = dktJ23_numberOfLeadingZeros_0 := by decide +kernel
theorem dksJ23_numberOfLeadingZeros_1 : cJ23_numberOfLeadingZeros.data.toList.drop 22 = dktJ23_numberOfLeadingZeros_1 := dk_seg dksJ23_numberOfLeadingZeros_0 22 rfl rfl
theorem dJ23_numberOfLeadingZeros_0 : decode cJ23_numberOfLeadingZeros 0 = .ok (.lload_n 0, 1) := dk_30 (dk_at dksJ23_numberOfLeadingZeros_0 0 rfl rfl)
theorem dJ23_numberOfLeadingZeros_1 : decode cJ23_numberOfLeadingZeros 1 = .ok (.bipush 32, 2) := dk_16 32 (dk_at dksJ23_numberOfLeadingZeros_0 1 rfl rfl)
theorem dJ23_numberOfLeadingZeros_3 : decode cJ23_numberOfLeadingZeros 3 = .ok (.lushr, 1) := dk_125 (dk_at dksJ23_numberOfLeadingZeros_0 3 rfl rfl)
theorem dJ23_numberOfLeadingZeros_4 : decode cJ23_numberOfLeadingZeros 4 = .ok (.l2i, 1) := dk_136 (dk_at dksJ23_numberOfLeadingZeros_0 4 rfl rfl)
theorem dJ23_numberOfLeadingZeros_5 : decode cJ23_numberOfLeadingZeros 5 = .ok (.istore_n 2, 1) := dk_61 (dk_at dksJ23_numberOfLeadingZeros_0 5 rfl rfl)
theorem dJ23_numberOfLeadingZeros_6 : decode cJ23_numberOfLeadingZeros 6 = .ok (.iload_n 2, 1) := dk_28 (dk_at dksJ23_numberOfLeadingZeros_0 6 rfl rfl)
theorem dJ23_numberOfLeadingZeros_7 : decode cJ23_numberOfLeadingZeros 7 = .ok (.ifCond .ne 14, 3) := dk_154 0 14 (dk_at dksJ23_numberOfLeadingZeros_0 7 rfl rfl)
theorem dJ23_numberOfLeadingZeros_10 : decode cJ23_numberOfLeadingZeros 10 = .ok (.bipush 32, 2) := dk_16 32 (dk_at dksJ23_numberOfLeadingZeros_0 10 rfl rfl)
theorem dJ23_numberOfLeadingZeros_12 : decode cJ23_numberOfLeadingZeros 12 = .ok (.lload_n 0, 1) := dk_30 (dk_at dksJ23_numberOfLeadingZeros_0 12 rfl rfl)
theorem dJ23_numberOfLeadingZeros_13 : decode cJ23_numberOfLeadingZeros 13 = .ok (.l2i, 1) := dk_136 (dk_at dksJ23_numberOfLeadingZeros_0 13 rfl rfl)
theorem dJ23_numberOfLeadingZeros_14 : decode cJ23_numberOfLeadingZeros 14 = .ok (.invokestatic 308, 3) := dk_184 1 52 (dk_at dksJ23_numberOfLeadingZeros_0 14 rfl rfl)
theorem dJ23_numberOfLeadingZeros_17 : decode cJ23_numberOfLeadingZeros 17 = .ok (.iadd, 1) := dk_96 (dk_at dksJ23_numberOfLeadingZeros_0 17 rfl rfl)
theorem dJ23_numberOfLeadingZeros_18 : decode cJ23_numberOfLeadingZeros 18 = .ok (.goto 7, 3) := dk_167 0 7 (dk_at dksJ23_numberOfLeadingZeros_0 18 rfl rfl)
theorem dJ23_numberOfLeadingZeros_21 : decode cJ23_numberOfLeadingZeros 21 = .ok (.iload_n 2, 1) := dk_28 (dk_at dksJ23_numberOfLeadingZeros_0 21 rfl rfl)
theorem dJ23_numberOfLeadingZeros_22 : decode cJ23_numberOfLeadingZeros 22 = .ok (.invokestatic 308, 3) := dk_184 1 52 (dk_at dksJ23_numberOfLeadingZeros_1 0 rfl rfl)
theorem dJ23_numberOfLeadingZeros_25 : decode cJ23_numberOfLeadingZeros 25 = .ok (.ireturn, 1) := dk_172 (dk_at dksJ23_numberOfLeadingZeros_1 3 rfl rfl)
abbrev cJ23_numberOfTrailingZeros : ByteArray := prog_31_method_49_code
def yJ23_numberOfTrailingZeros : MethodName := ⟨RJ23, "numberOfTrailingZeros", "(J)I"⟩
def dkwJ23_numberOfTrailingZeros_1 : List UInt8 := [184, 1, 55, 172]
abbrev dktJ23_numberOfTrailingZeros_1 : List UInt8 := dkwJ23_numberOfTrailingZeros_1 ++ []
def dkwJ23_numberOfTrailingZeros_0 : List UInt8 := [30, 136, 61, 28, 154, 0, 17, 16, 32, 30, 16, 32, 125, 136, 184, 1, 55, 96, 167, 0, 7, 28]
abbrev dktJ23_numberOfTrailingZeros_0 : List UInt8 := dkwJ23_numberOfTrailingZeros_0 ++ dktJ23_numberOfTrailingZeros_1
theorem dksJ23_numberOfTrailingZeros_0 : cJ23_numberOfTrailingZeros.data.toList.drop 0 = dktJ23_numberOfTrailingZeros_0 := by decide +kernel
theorem dksJ23_numberOfTrailingZeros_1 : cJ23_numberOfTrailingZeros.data.toList.drop 22 = dktJ23_numberOfTrailingZeros_1 := dk_seg dksJ23_numberOfTrailingZeros_0 22 rfl rfl
theorem dJ23_numberOfTrailingZeros_0 : decode cJ23_numberOfTrailingZeros 0 = .ok (.lload_n 0, 1) := dk_30 (dk_at dksJ23_numberOfTrailingZeros_0 0 rfl rfl)
theorem dJ23_numberOfTrailingZeros_1 : decode cJ23_numberOfTrailingZeros 1 = .ok (.l2i, 1) := dk_136 (dk_at dksJ23_numberOfTrailingZeros_0 1 rfl rfl)
theorem dJ23_numberOfTrailingZeros_2 : decode cJ23_numberOfTrailingZeros 2 = .ok (.istore_n 2, 1) := dk_61 (dk_at dksJ23_numberOfTrailingZeros_0 2 rfl rfl)
theorem dJ23_numberOfTrailingZeros_3 : decode cJ23_numberOfTrailingZeros 3 = .ok (.iload_n 2, 1) := dk_28 (dk_at dksJ23_numberOfTrailingZeros_0 3 rfl rfl)
theorem dJ23_numberOfTrailingZeros_4 : decode cJ23_numberOfTrailingZeros 4 = .ok (.ifCond .ne 17, 3) := dk_154 0 17 (dk_at dksJ23_numberOfTrailingZeros_0 4 rfl rfl)
theorem dJ23_numberOfTrailingZeros_7 : decode cJ23_numberOfTrailingZeros 7 = .ok (.bipush 32, 2) := dk_16 32 (dk_at dksJ23_numberOfTrailingZeros_0 7 rfl rfl)
theorem dJ23_numberOfTrailingZeros_9 : decode cJ23_numberOfTrailingZeros 9 = .ok (.lload_n 0, 1) := dk_30 (dk_at dksJ23_numberOfTrailingZeros_0 9 rfl rfl)
theorem dJ23_numberOfTrailingZeros_10 : decode cJ23_numberOfTrailingZeros 10 = .ok (.bipush 32, 2) := dk_16 32 (dk_at dksJ23_numberOfTrailingZeros_0 10 rfl rfl)
theorem dJ23_numberOfTrailingZeros_12 : decode cJ23_numberOfTrailingZeros 12 = .ok (.lushr, 1) := dk_125 (dk_at dksJ23_numberOfTrailingZeros_0 12 rfl rfl)
theorem dJ23_numberOfTrailingZeros_13 : decode cJ23_numberOfTrailingZeros 13 = .ok (.l2i, 1) := dk_136 (dk_at dksJ23_numberOfTrailingZeros_0 13 rfl rfl)
theorem dJ23_numberOfTrailingZeros_14 : decode cJ23_numberOfTrailingZeros 14 = .ok (.invokestatic 311, 3) := dk_184 1 55 (dk_at dksJ23_numberOfTrailingZeros_0 14 rfl rfl)
theorem dJ23_numberOfTrailingZeros_17 : decode cJ23_numberOfTrailingZeros 17 = .ok (.iadd, 1) := dk_96 (dk_at dksJ23_numberOfTrailingZeros_0 17 rfl rfl)
theorem dJ23_numberOfTrailingZeros_18 : decode cJ23_numberOfTrailingZeros 18 = .ok (.goto 7, 3) := dk_167 0 7 (dk_at dksJ23_numberOfTrailingZeros_0 18 rfl rfl)
theorem dJ23_numberOfTrailingZeros_21 : decode cJ23_numberOfTrailingZeros 21 = .ok (.iload_n 2, 1) := dk_28 (dk_at dksJ23_numberOfTrailingZeros_0 21 rfl rfl)
theorem dJ23_numberOfTrailingZeros_22 : decode cJ23_numberOfTrailingZeros 22 = .ok (.invokestatic 311, 3) := dk_184 1 55 (dk_at dksJ23_numberOfTrailingZeros_1 0 rfl rfl)
theorem dJ23_numberOfTrailingZeros_25 : decode cJ23_numberOfTrailingZeros 25 = .ok (.ireturn, 1) := dk_172 (dk_at dksJ23_numberOfTrailingZeros_1 3 rfl rfl)
abbrev cJ24_checkFromToIndex : ByteArray := prog_87_method_12_code
def yJ24_checkFromToIndex : MethodName := ⟨RJ24, "checkFromToIndex", "(IIILjava/util/function/BiFunction;)I"⟩
def dkwJ24_checkFromToIndex_0 : List UInt8 := [26, 155, 0, 13, 26, 27, 163, 0, 8, 27, 28, 164, 0, 11, 45, 26, 27, 28, 184, 0, 99, 191, 26, 172]
abbrev dktJ24_checkFromToIndex_0 : List UInt8 := dkwJ24_checkFromToIndex_0 ++ []
theorem dksJ24_checkFromToIndex_0 : cJ24_checkFromToIndex.data.toList.drop 0 = dktJ24_checkFromToIndex_0 := by decide +kernel
theorem dJ24_checkFromToIndex_0 : decode cJ24_checkFromToIndex 0 = .ok (.iload_n 0, 1) := dk_26 (dk_at dksJ24_checkFromToIndex_0 0 rfl rfl)
theorem dJ24_checkFromToIndex_1 : decode cJ24_checkFromToIndex 1 = .ok (.ifCond .lt 13, 3) := dk_155 0 13 (dk_at dksJ24_checkFromToIndex_0 1 rfl rfl)
theorem dJ24_checkFromToIndex_4 : decode cJ24_checkFromToIndex 4 = .ok (.iload_n 0, 1) := dk_26 (dk_at dksJ24_checkFromToIndex_0 4 rfl rfl)
theorem dJ24_checkFromToIndex_5 : decode cJ24_checkFromToIndex 5 = .ok (.iload_n 1, 1) := dk_27 (dk_at dksJ24_checkFromToIndex_0 5 rfl rfl)
theorem dJ24_checkFromToIndex_6 : decode cJ24_checkFromToIndex 6 = .ok (.if_icmp .gt 8, 3) := dk_163 0 8 (dk_at dksJ24_checkFromToIndex_0 6 rfl rfl)
theorem dJ24_checkFromToIndex_9 : decode cJ24_checkFromToIndex 9 = .ok (.iload_n 1, 1) := dk_27 (dk_at dksJ24_checkFromToIndex_0 9 rfl rfl)
theorem dJ24_checkFromToIndex_10 : decode cJ24_checkFromToIndex 10 = .ok (.iload_n 2, 1) := dk_28 (dk_at dksJ24_checkFromToIndex_0 10 rfl rfl)
theorem dJ24_checkFromToIndex_11 : decode cJ24_checkFromToIndex 11 = .ok (.if_icmp .le 11, 3) := dk_164 0 11 (dk_at dksJ24_checkFromToIndex_0 11 rfl rfl)
theorem dJ24_checkFromToIndex_14 : decode cJ24_checkFromToIndex 14 = .ok (.aload_n 3, 1) := dk_45 (dk_at dksJ24_checkFromToIndex_0 14 rfl rfl)
theorem dJ24_checkFromToIndex_15 : decode cJ24_checkFromToIndex 15 = .ok (.iload_n 0, 1) := dk_26 (dk_at dksJ24_checkFromToIndex_0 15 rfl rfl)
theorem dJ24_checkFromToIndex_16 : decode cJ24_checkFromToIndex 16 = .ok (.iload_n 1, 1) := dk_27 (dk_at dksJ24_checkFromToIndex_0 16 rfl rfl)
theorem dJ24_checkFromToIndex_17 : decode cJ24_checkFromToIndex 17 = .ok (.iload_n 2, 1) := dk_28 (dk_at dksJ24_checkFromToIndex_0 17 rfl rfl)
theorem dJ24_checkFromToIndex_18 : decode cJ24_checkFromToIndex 18 = .ok (.invokestatic 99, 3) := dk_184 0 99 (dk_at dksJ24_checkFromToIndex_0 18 rfl rfl)
theorem dJ24_checkFromToIndex_21 : decode cJ24_checkFromToIndex 21 = .ok (.athrow, 1) := dk_191 (dk_at dksJ24_checkFromToIndex_0 21 rfl rfl)
theorem dJ24_checkFromToIndex_22 : decode cJ24_checkFromToIndex 22 = .ok (.iload_n 0, 1) := dk_26 (dk_at dksJ24_checkFromToIndex_0 22 rfl rfl)
theorem dJ24_checkFromToIndex_23 : decode cJ24_checkFromToIndex 23 = .ok (.ireturn, 1) := dk_172 (dk_at dksJ24_checkFromToIndex_0 23 rfl rfl)
abbrev cJ24_checkFromIndexSize : ByteArray := prog_87_method_13_code
def yJ24_checkFromIndexSize : MethodName := ⟨RJ24, "checkFromIndexSize", "(IIILjava/util/function/BiFunction;)I"⟩
def dkwJ24_checkFromIndexSize_1 : List UInt8 := [172]
abbrev dktJ24_checkFromIndexSize_1 : List UInt8 := dkwJ24_checkFromIndexSize_1 ++ []
def dkwJ24_checkFromIndexSize_0 : List UInt8 := [28, 26, 128, 27, 128, 155, 0, 10, 27, 28, 26, 100, 164, 0, 11, 45, 26, 27, 28, 184, 0, 103, 191, 26]
abbrev dktJ24_checkFromIndexSize_0 : List UInt8 := dkwJ24_checkFromIndexSize_0 ++ dktJ24_checkFromIndexSize_1
theorem dksJ24_checkFromIndexSize_0 : cJ24_checkFromIndexSize.data.toList.drop 0 = dktJ24_checkFromIndexSize_0 := by decide +kernel
theorem dksJ24_checkFromIndexSize_1 : cJ24_checkFromIndexSize.data.toList.drop 24 = dktJ24_checkFromIndexSize_1 := dk_seg dksJ24_checkFromIndexSize_0 24 rfl rfl
theorem dJ24_checkFromIndexSize_0 : decode cJ24_checkFromIndexSize 0 = .ok (.iload_n 2, 1) := dk_28 (dk_at dksJ24_checkFromIndexSize_0 0 rfl rfl)
theorem dJ24_checkFromIndexSize_1 : decode cJ24_checkFromIndexSize 1 = .ok (.iload_n 0, 1) := dk_26 (dk_at dksJ24_checkFromIndexSize_0 1 rfl rfl)
theorem dJ24_checkFromIndexSize_2 : decode cJ24_checkFromIndexSize 2 = .ok (.ior, 1) := dk_128 (dk_at dksJ24_checkFromIndexSize_0 2 rfl rfl)
theorem dJ24_checkFromIndexSize_3 : decode cJ24_checkFromIndexSize 3 = .ok (.iload_n 1, 1) := dk_27 (dk_at dksJ24_checkFromIndexSize_0 3 rfl rfl)
theorem dJ24_checkFromIndexSize_4 : decode cJ24_checkFromIndexSize 4 = .ok (.ior, 1) := dk_128 (dk_at dksJ24_checkFromIndexSize_0 4 rfl rfl)
theorem dJ24_checkFromIndexSize_5 : decode cJ24_checkFromIndexSize 5 = .ok (.ifCond .lt 10, 3) := dk_155 0 10 (dk_at dksJ24_checkFromIndexSize_0 5 rfl rfl)
theorem dJ24_checkFromIndexSize_8 : decode cJ24_checkFromIndexSize 8 = .ok (.iload_n 1, 1) := dk_27 (dk_at dksJ24_checkFromIndexSize_0 8 rfl rfl)
theorem dJ24_checkFromIndexSize_9 : decode cJ24_checkFromIndexSize 9 = .ok (.iload_n 2, 1) := dk_28 (dk_at dksJ24_checkFromIndexSize_0 9 rfl rfl)
theorem dJ24_checkFromIndexSize_10 : decode cJ24_checkFromIndexSize 10 = .ok (.iload_n 0, 1) := dk_26 (dk_at dksJ24_checkFromIndexSize_0 10 rfl rfl)
theorem dJ24_checkFromIndexSize_11 : decode cJ24_checkFromIndexSize 11 = .ok (.isub, 1) := dk_100 (dk_at dksJ24_checkFromIndexSize_0 11 rfl rfl)
theorem dJ24_checkFromIndexSize_12 : decode cJ24_checkFromIndexSize 12 = .ok (.if_icmp .le 11, 3) := dk_164 0 11 (dk_at dksJ24_checkFromIndexSize_0 12 rfl rfl)
theorem dJ24_checkFromIndexSize_15 : decode cJ24_checkFromIndexSize 15 = .ok (.aload_n 3, 1) := dk_45 (dk_at dksJ24_checkFromIndexSize_0 15 rfl rfl)
theorem dJ24_checkFromIndexSize_16 : decode cJ24_checkFromIndexSize 16 = .ok (.iload_n 0, 1) := dk_26 (dk_at dksJ24_checkFromIndexSize_0 16 rfl rfl)
theorem dJ24_checkFromIndexSize_17 : decode cJ24_checkFromIndexSize 17 = .ok (.iload_n 1, 1) := dk_27 (dk_at dksJ24_checkFromIndexSize_0 17 rfl rfl)
theorem dJ24_checkFromIndexSize_18 : decode cJ24_checkFromIndexSize 18 = .ok (.iload_n 2, 1) := dk_28 (dk_at dksJ24_checkFromIndexSize_0 18 rfl rfl)
theorem dJ24_checkFromIndexSize_19 : decode cJ24_checkFromIndexSize 19 = .ok (.invokestatic 103, 3) := dk_184 0 103 (dk_at dksJ24_checkFromIndexSize_0 19 rfl rfl)
theorem dJ24_checkFromIndexSize_22 : decode cJ24_checkFromIndexSize 22 = .ok (.athrow, 1) := dk_191 (dk_at dksJ24_checkFromIndexSize_0 22 rfl rfl)
theorem dJ24_checkFromIndexSize_23 : decode cJ24_checkFromIndexSize 23 = .ok (.iload_n 0, 1) := dk_26 (dk_at dksJ24_checkFromIndexSize_0 23 rfl rfl)
theorem dJ24_checkFromIndexSize_24 : decode cJ24_checkFromIndexSize 24 = .ok (.ireturn, 1) := dk_172 (dk_at dksJ24_checkFromIndexSize_1 0 rfl rfl)
abbrev cJ24_checkIndex : ByteArray := prog_87_method_11_code
def yJ24_checkIndex : MethodName := ⟨RJ24, "checkIndex", "(IILjava/util/function/BiFunction;)I"⟩
def dkwJ24_checkIndex_0 : List UInt8 := [26, 155, 0, 8, 26, 27, 161, 0, 10, 44, 26, 27, 184, 0, 95, 191, 26, 172]
abbrev dktJ24_checkIndex_0 : List UInt8 := dkwJ24_checkIndex_0 ++ []
theorem dksJ24_checkIndex_0 : cJ24_checkIndex.data.toList.drop 0 = dktJ24_checkIndex_0 := by decide +kernel
theorem dJ24_checkIndex_0 : decode cJ24_checkIndex 0 = .ok (.iload_n 0, 1) := dk_26 (dk_at dksJ24_checkIndex_0 0 rfl rfl)
theorem dJ24_checkIndex_1 : decode cJ24_checkIndex 1 = .ok (.ifCond .lt 8, 3) := dk_155 0 8 (dk_at dksJ24_checkIndex_0 1 rfl rfl)
theorem dJ24_checkIndex_4 : decode cJ24_checkIndex 4 = .ok (.iload_n 0, 1) := dk_26 (dk_at dksJ24_checkIndex_0 4 rfl rfl)
theorem dJ24_checkIndex_5 : decode cJ24_checkIndex 5 = .ok (.iload_n 1, 1) := dk_27 (dk_at dksJ24_checkIndex_0 5 rfl rfl)
theorem dJ24_checkIndex_6 : decode cJ24_checkIndex 6 = .ok (.if_icmp .lt 10, 3) := dk_161 0 10 (dk_at dksJ24_checkIndex_0 6 rfl rfl)
theorem dJ24_checkIndex_9 : decode cJ24_checkIndex 9 = .ok (.aload_n 2, 1) := dk_44 (dk_at dksJ24_checkIndex_0 9 rfl rfl)
theorem dJ24_checkIndex_10 : decode cJ24_checkIndex 10 = .ok (.iload_n 0, 1) := dk_26 (dk_at dksJ24_checkIndex_0 10 rfl rfl)
theorem dJ24_checkIndex_11 : decode cJ24_checkIndex 11 = .ok (.iload_n 1, 1) := dk_27 (dk_at dksJ24_checkIndex_0 11 rfl rfl)
theorem dJ24_checkIndex_12 : decode cJ24_checkIndex 12 = .ok (.invokestatic 95, 3) := dk_184 0 95 (dk_at dksJ24_checkIndex_0 12 rfl rfl)
theorem dJ24_checkIndex_15 : decode cJ24_checkIndex 15 = .ok (.athrow, 1) := dk_191 (dk_at dksJ24_checkIndex_0 15 rfl rfl)
theorem dJ24_checkIndex_16 : decode cJ24_checkIndex 16 = .ok (.iload_n 0, 1) := dk_26 (dk_at dksJ24_checkIndex_0 16 rfl rfl)
theorem dJ24_checkIndex_17 : decode cJ24_checkIndex 17 = .ok (.ireturn, 1) := dk_172 (dk_at dksJ24_checkIndex_0 17 rfl rfl)
abbrev cJ25_init : ByteArray := prog_76_method_1_code
def yJ25_init : MethodName := ⟨RJ25, "<init>", "(Ljava/lang/Object;Ljava/lang/Object;Ljava/util/TreeMap$Entry;)V"⟩
def dkwJ25_init_1 : List UInt8 := [177]
abbrev dktJ25_init_1 : List UInt8 := dkwJ25_init_1 ++ []
def dkwJ25_init_0 : List UInt8 := [42, 183, 0, 3, 42, 4, 181, 0, 9, 42, 43, 181, 0, 15, 42, 44, 181, 0, 19, 42, 45, 181, 0, 22]
abbrev dktJ25_init_0 : List UInt8 := dkwJ25_init_0 ++ dktJ25_init_1
theorem dksJ25_init_0 : cJ25_init.data.toList.drop 0 = dktJ25_init_0 := by decide +kernel
theorem dksJ25_init_1 : cJ25_init.data.toList.drop 24 = dktJ25_init_1 := dk_seg dksJ25_init_0 24 rfl rfl
theorem dJ25_init_0 : decode cJ25_init 0 = .ok (.aload_n 0, 1) := dk_42 (dk_at dksJ25_init_0 0 rfl rfl)
theorem dJ25_init_1 : decode cJ25_init 1 = .ok (.invokespecial 3, 3) := dk_183 0 3 (dk_at dksJ25_init_0 1 rfl rfl)
theorem dJ25_init_4 : decode cJ25_init 4 = .ok (.aload_n 0, 1) := dk_42 (dk_at dksJ25_init_0 4 rfl rfl)
theorem dJ25_init_5 : decode cJ25_init 5 = .ok (.iconst 1, 1) := dk_4 (dk_at dksJ25_init_0 5 rfl rfl)
theorem dJ25_init_6 : decode cJ25_init 6 = .ok (.putfield 9, 3) := dk_181 0 9 (dk_at dksJ25_init_0 6 rfl rfl)
theorem dJ25_init_9 : decode cJ25_init 9 = .ok (.aload_n 0, 1) := dk_42 (dk_at dksJ25_init_0 9 rfl rfl)
theorem dJ25_init_10 : decode cJ25_init 10 = .ok (.aload_n 1, 1) := dk_43 (dk_at dksJ25_init_0 10 rfl rfl)
theorem dJ25_init_11 : decode cJ25_init 11 = .ok (.putfield 15, 3) := dk_181 0 15 (dk_at dksJ25_init_0 11 rfl rfl)
theorem dJ25_init_14 : decode cJ25_init 14 = .ok (.aload_n 0, 1) := dk_42 (dk_at dksJ25_init_0 14 rfl rfl)
theorem dJ25_init_15 : decode cJ25_init 15 = .ok (.aload_n 2, 1) := dk_44 (dk_at dksJ25_init_0 15 rfl rfl)
theorem dJ25_init_16 : decode cJ25_init 16 = .ok (.putfield 19, 3) := dk_181 0 19 (dk_at dksJ25_init_0 16 rfl rfl)
theorem dJ25_init_19 : decode cJ25_init 19 = .ok (.aload_n 0, 1) := dk_42 (dk_at dksJ25_init_0 19 rfl rfl)
theorem dJ25_init_20 : decode cJ25_init 20 = .ok (.aload_n 3, 1) := dk_45 (dk_at dksJ25_init_0 20 rfl rfl)
theorem dJ25_init_21 : decode cJ25_init 21 = .ok (.putfield 22, 3) := dk_181 0 22 (dk_at dksJ25_init_0 21 rfl rfl)
theorem dJ25_init_24 : decode cJ25_init 24 = .ok (.return_, 1) := dk_177 (dk_at dksJ25_init_1 0 rfl rfl)
abbrev cJ25_getKey : ByteArray := prog_76_method_2_code
def yJ25_getKey : MethodName := ⟨RJ25, "getKey", "()Ljava/lang/Object;"⟩
theorem dJ25_getKey_0 : decode cJ25_getKey 0 = .ok (.aload_n 0, 1) := by decide +kernel
theorem dJ25_getKey_1 : decode cJ25_getKey 1 = .ok (.getfield 15, 3) := by decide +kernel
theorem dJ25_getKey_4 : decode cJ25_getKey 4 = .ok (.areturn, 1) := by decide +kernel
abbrev cJ25_getValue : ByteArray := prog_76_method_3_code
def yJ25_getValue : MethodName := ⟨RJ25, "getValue", "()Ljava/lang/Object;"⟩
theorem dJ25_getValue_0 : decode cJ25_getValue 0 = .ok (.aload_n 0, 1) := by decide +kernel
theorem dJ25_getValue_1 : decode cJ25_getValue 1 = .ok (.getfield 19, 3) := by decide +kernel
theorem dJ25_getValue_4 : decode cJ25_getValue 4 = .ok (.areturn, 1) := by decide +kernel
abbrev cJ26_requireNonNull : ByteArray := prog_65_method_10_code
def yJ26_requireNonNull : MethodName := ⟨RJ26, "requireNonNull", "(Ljava/lang/Object;)Ljava/lang/Object;"⟩
def dkwJ26_requireNonNull_0 : List UInt8 := [42, 199, 0, 11, 187, 0, 84, 89, 183, 0, 86, 191, 42, 176]
abbrev dktJ26_requireNonNull_0 : List UInt8 := dkwJ26_requireNonNull_0 ++ []
theorem dksJ26_requireNonNull_0 : cJ26_requireNonNull.data.toList.drop 0 = dktJ26_requireNonNull_0 := by decide +kernel
theorem dJ26_requireNonNull_0 : decode cJ26_requireNonNull 0 = .ok (.aload_n 0, 1) := dk_42 (dk_at dksJ26_requireNonNull_0 0 rfl rfl)
theorem dJ26_requireNonNull_1 : decode cJ26_requireNonNull 1 = .ok (.ifnonnull 11, 3) := dk_199 0 11 (dk_at dksJ26_requireNonNull_0 1 rfl rfl)
theorem dJ26_requireNonNull_4 : decode cJ26_requireNonNull 4 = .ok (.new 84, 3) := dk_187 0 84 (dk_at dksJ26_requireNonNull_0 4 rfl rfl)
theorem dJ26_requireNonNull_7 : decode cJ26_requireNonNull 7 = .ok (.dup, 1) := dk_89 (dk_at dksJ26_requireNonNull_0 7 rfl rfl)
theorem dJ26_requireNonNull_8 : decode cJ26_requireNonNull 8 = .ok (.invokespecial 86, 3) := dk_183 0 86 (dk_at dksJ26_requireNonNull_0 8 rfl rfl)
theorem dJ26_requireNonNull_11 : decode cJ26_requireNonNull 11 = .ok (.athrow, 1) := dk_191 (dk_at dksJ26_requireNonNull_0 11 rfl rfl)
theorem dJ26_requireNonNull_12 : decode cJ26_requireNonNull 12 = .ok (.aload_n 0, 1) := dk_42 (dk_at dksJ26_requireNonNull_0 12 rfl rfl)
theorem dJ26_requireNonNull_13 : decode cJ26_requireNonNull 13 = .ok (.areturn, 1) := dk_176 (dk_at dksJ26_requireNonNull_0 13 rfl rfl)
abbrev cJ26_checkIndex : ByteArray := prog_65_method_17_code
def yJ26_checkIndex : MethodName := ⟨RJ26, "checkIndex", "(II)I"⟩
def dkwJ26_checkIndex_0 : List UInt8 := [26, 27, 1, 184, 0, 105, 172]
abbrev dktJ26_checkIndex_0 : List UInt8 := dkwJ26_checkIndex_0 ++ []
theorem dksJ26_checkIndex_0 : cJ26_checkIndex.data.toList.drop 0 = dktJ26_checkIndex_0 := by decide +kernel
theorem dJ26_checkIndex_0 : decode cJ26_checkIndex 0 = .ok (.iload_n 0, 1) := dk_26 (dk_at dksJ26_checkIndex_0 0 rfl rfl)
theorem dJ26_checkIndex_1 : decode cJ26_checkIndex 1 = .ok (.iload_n 1, 1) := dk_27 (dk_at dksJ26_checkIndex_0 1 rfl rfl)
theorem dJ26_checkIndex_2 : decode cJ26_checkIndex 2 = .ok (.aconst_null, 1) := dk_1 (dk_at dksJ26_checkIndex_0 2 rfl rfl)
theorem dJ26_checkIndex_3 : decode cJ26_checkIndex 3 = .ok (.invokestatic 105, 3) := dk_184 0 105 (dk_at dksJ26_checkIndex_0 3 rfl rfl)
theorem dJ26_checkIndex_6 : decode cJ26_checkIndex 6 = .ok (.ireturn, 1) := dk_172 (dk_at dksJ26_checkIndex_0 6 rfl rfl)
abbrev cJ27_copyOfRange : ByteArray := prog_54_method_132_code
def yJ27_copyOfRange : MethodName := ⟨RJ27, "copyOfRange", "([BII)[B"⟩
def dkwJ27_copyOfRange_1 : List UInt8 := [176]
abbrev dktJ27_copyOfRange_1 : List UInt8 := dkwJ27_copyOfRange_1 ++ []
def dkwJ27_copyOfRange_0 : List UInt8 := [27, 154, 0, 9, 28, 42, 190, 159, 0, 10, 42, 27, 28, 184, 1, 83, 176, 42, 182, 1, 54, 192, 1, 55]
abbrev dktJ27_copyOfRange_0 : List UInt8 := dkwJ27_copyOfRange_0 ++ dktJ27_copyOfRange_1
theorem dksJ27_copyOfRange_0 : cJ27_copyOfRange.data.toList.drop 0 = dktJ27_copyOfRange_0 := by decide +kernel
theorem dksJ27_copyOfRange_1 : cJ27_copyOfRange.data.toList.drop 24 = dktJ27_copyOfRange_1 := dk_seg dksJ27_copyOfRange_0 24 rfl rfl
theorem dJ27_copyOfRange_0 : decode cJ27_copyOfRange 0 = .ok (.iload_n 1, 1) := dk_27 (dk_at dksJ27_copyOfRange_0 0 rfl rfl)
theorem dJ27_copyOfRange_1 : decode cJ27_copyOfRange 1 = .ok (.ifCond .ne 9, 3) := dk_154 0 9 (dk_at dksJ27_copyOfRange_0 1 rfl rfl)
theorem dJ27_copyOfRange_4 : decode cJ27_copyOfRange 4 = .ok (.iload_n 2, 1) := dk_28 (dk_at dksJ27_copyOfRange_0 4 rfl rfl)
theorem dJ27_copyOfRange_5 : decode cJ27_copyOfRange 5 = .ok (.aload_n 0, 1) := dk_42 (dk_at dksJ27_copyOfRange_0 5 rfl rfl)
theorem dJ27_copyOfRange_6 : decode cJ27_copyOfRange 6 = .ok (.arraylength, 1) := dk_190 (dk_at dksJ27_copyOfRange_0 6 rfl rfl)
theorem dJ27_copyOfRange_7 : decode cJ27_copyOfRange 7 = .ok (.if_icmp .eq 10, 3) := dk_159 0 10 (dk_at dksJ27_copyOfRange_0 7 rfl rfl)
theorem dJ27_copyOfRange_10 : decode cJ27_copyOfRange 10 = .ok (.aload_n 0, 1) := dk_42 (dk_at dksJ27_copyOfRange_0 10 rfl rfl)
theorem dJ27_copyOfRange_11 : decode cJ27_copyOfRange 11 = .ok (.iload_n 1, 1) := dk_27 (dk_at dksJ27_copyOfRange_0 11 rfl rfl)
theorem dJ27_copyOfRange_12 : decode cJ27_copyOfRange 12 = .ok (.iload_n 2, 1) := dk_28 (dk_at dksJ27_copyOfRange_0 12 rfl rfl)
theorem dJ27_copyOfRange_13 : decode cJ27_copyOfRange 13 = .ok (.invokestatic 339, 3) := dk_184 1 83 (dk_at dksJ27_copyOfRange_0 13 rfl rfl)
theorem dJ27_copyOfRange_16 : decode cJ27_copyOfRange 16 = .ok (.areturn, 1) := dk_176 (dk_at dksJ27_copyOfRange_0 16 rfl rfl)
theorem dJ27_copyOfRange_17 : decode cJ27_copyOfRange 17 = .ok (.aload_n 0, 1) := dk_42 (dk_at dksJ27_copyOfRange_0 17 rfl rfl)
theorem dJ27_copyOfRange_18 : decode cJ27_copyOfRange 18 = .ok (.invokevirtual 310, 3) := dk_182 1 54 (dk_at dksJ27_copyOfRange_0 18 rfl rfl)
theorem dJ27_copyOfRange_21 : decode cJ27_copyOfRange 21 = .ok (.checkcast 311, 3) := dk_192 1 55 (dk_at dksJ27_copyOfRange_0 21 rfl rfl)
theorem dJ27_copyOfRange_24 : decode cJ27_copyOfRange 24 = .ok (.areturn, 1) := dk_176 (dk_at dksJ27_copyOfRange_1 0 rfl rfl)
abbrev cJ27_copyOfRangeByte : ByteArray := prog_54_method_133_code
def yJ27_copyOfRangeByte : MethodName := ⟨RJ27, "copyOfRangeByte", "([BII)[B"⟩
def dkwJ27_copyOfRangeByte_1 : List UInt8 := [184, 1, 48, 184, 0, 150, 25, 4, 176]
abbrev dktJ27_copyOfRangeByte_1 : List UInt8 := dkwJ27_copyOfRangeByte_1 ++ []
def dkwJ27_copyOfRangeByte_0 : List UInt8 := [27, 28, 184, 1, 87, 28, 27, 100, 62, 29, 188, 8, 58, 4, 42, 27, 25, 4, 3, 42, 190, 27, 100, 29]
abbrev dktJ27_copyOfRangeByte_0 : List UInt8 := dkwJ27_copyOfRangeByte_0 ++ dktJ27_copyOfRangeByte_1
theorem dksJ27_copyOfRangeByte_0 : cJ27_copyOfRangeByte.data.toList.drop 0 = dktJ27_copyOfRangeByte_0 := by decide +kernel
theorem dksJ27_copyOfRangeByte_1 : cJ27_copyOfRangeByte.data.toList.drop 24 = dktJ27_copyOfRangeByte_1 := dk_seg dksJ27_copyOfRangeByte_0 24 rfl rfl
theorem dJ27_copyOfRangeByte_0 : decode cJ27_copyOfRangeByte 0 = .ok (.iload_n 1, 1) := dk_27 (dk_at dksJ27_copyOfRangeByte_0 0 rfl rfl)
theorem dJ27_copyOfRangeByte_1 : decode cJ27_copyOfRangeByte 1 = .ok (.iload_n 2, 1) := dk_28 (dk_at dksJ27_copyOfRangeByte_0 1 rfl rfl)
theorem dJ27_copyOfRangeByte_2 : decode cJ27_copyOfRangeByte 2 = .ok (.invokestatic 343, 3) := dk_184 1 87 (dk_at dksJ27_copyOfRangeByte_0 2 rfl rfl)
theorem dJ27_copyOfRangeByte_5 : decode cJ27_copyOfRangeByte 5 = .ok (.iload_n 2, 1) := dk_28 (dk_at dksJ27_copyOfRangeByte_0 5 rfl rfl)
theorem dJ27_copyOfRangeByte_6 : decode cJ27_copyOfRangeByte 6 = .ok (.iload_n 1, 1) := dk_27 (dk_at dksJ27_copyOfRangeByte_0 6 rfl rfl)
theorem dJ27_copyOfRangeByte_7 : decode cJ27_copyOfRangeByte 7 = .ok (.isub, 1) := dk_100 (dk_at dksJ27_copyOfRangeByte_0 7 rfl rfl)
theorem dJ27_copyOfRangeByte_8 : decode cJ27_copyOfRangeByte 8 = .ok (.istore_n 3, 1) := dk_62 (dk_at dksJ27_copyOfRangeByte_0 8 rfl rfl)
theorem dJ27_copyOfRangeByte_9 : decode cJ27_copyOfRangeByte 9 = .ok (.iload_n 3, 1) := dk_29 (dk_at dksJ27_copyOfRangeByte_0 9 rfl rfl)
theorem dJ27_copyOfRangeByte_10 : decode cJ27_copyOfRangeByte 10 = .ok (.newarray .byte, 2) := dk_188_8 (dk_at dksJ27_copyOfRangeByte_0 10 rfl rfl)
theorem dJ27_copyOfRangeByte_12 : decode cJ27_copyOfRangeByte 12 = .ok (.astore 4, 2) := dk_58 4 (dk_at dksJ27_copyOfRangeByte_0 12 rfl rfl)
theorem dJ27_copyOfRangeByte_14 : decode cJ27_copyOfRangeByte 14 = .ok (.aload_n 0, 1) := dk_42 (dk_at dksJ27_copyOfRangeByte_0 14 rfl rfl)
theorem dJ27_copyOfRangeByte_15 : decode cJ27_copyOfRangeByte 15 = .ok (.iload_n 1, 1) := dk_27 (dk_at dksJ27_copyOfRangeByte_0 15 rfl rfl)
theorem dJ27_copyOfRangeByte_16 : decode cJ27_copyOfRangeByte 16 = .ok (.aload 4, 2) := dk_25 4 (dk_at dksJ27_copyOfRangeByte_0 16 rfl rfl)
theorem dJ27_copyOfRangeByte_18 : decode cJ27_copyOfRangeByte 18 = .ok (.iconst 0, 1) := dk_3 (dk_at dksJ27_copyOfRangeByte_0 18 rfl rfl)
theorem dJ27_copyOfRangeByte_19 : decode cJ27_copyOfRangeByte 19 = .ok (.aload_n 0, 1) := dk_42 (dk_at dksJ27_copyOfRangeByte_0 19 rfl rfl)
theorem dJ27_copyOfRangeByte_20 : decode cJ27_copyOfRangeByte 20 = .ok (.arraylength, 1) := dk_190 (dk_at dksJ27_copyOfRangeByte_0 20 rfl rfl)
theorem dJ27_copyOfRangeByte_21 : decode cJ27_copyOfRangeByte 21 = .ok (.iload_n 1, 1) := dk_27 (dk_at dksJ27_copyOfRangeByte_0 21 rfl rfl)
theorem dJ27_copyOfRangeByte_22 : decode cJ27_copyOfRangeByte 22 = .ok (.isub, 1) := dk_100 (dk_at dksJ27_copyOfRangeByte_0 22 rfl rfl)
theorem dJ27_copyOfRangeByte_23 : decode cJ27_copyOfRangeByte 23 = .ok (.iload_n 3, 1) := dk_29 (dk_at dksJ27_copyOfRangeByte_0 23 rfl rfl)
theorem dJ27_copyOfRangeByte_24 : decode cJ27_copyOfRangeByte 24 = .ok (.invokestatic 304, 3) := dk_184 1 48 (dk_at dksJ27_copyOfRangeByte_1 0 rfl rfl)
theorem dJ27_copyOfRangeByte_27 : decode cJ27_copyOfRangeByte 27 = .ok (.invokestatic 150, 3) := dk_184 0 150 (dk_at dksJ27_copyOfRangeByte_1 3 rfl rfl)
theorem dJ27_copyOfRangeByte_30 : decode cJ27_copyOfRangeByte 30 = .ok (.aload 4, 2) := dk_25 4 (dk_at dksJ27_copyOfRangeByte_1 6 rfl rfl)
theorem dJ27_copyOfRangeByte_32 : decode cJ27_copyOfRangeByte 32 = .ok (.areturn, 1) := dk_176 (dk_at dksJ27_copyOfRangeByte_1 8 rfl rfl)
abbrev cJ27_checkLength : ByteArray := prog_54_method_131_code
def yJ27_checkLength : MethodName := ⟨RJ27, "checkLength", "(II)V"⟩
def dkwJ27_checkLength_1 : List UInt8 := [182, 0, 50, 27, 182, 0, 54, 182, 0, 61, 183, 0, 65, 191, 177]
abbrev dktJ27_checkLength_1 : List UInt8 := dkwJ27_checkLength_1 ++ []
def dkwJ27_checkLength_0 : List UInt8 := [27, 26, 162, 0, 35, 187, 0, 43, 89, 187, 0, 45, 89, 183, 0, 47, 26, 182, 0, 54, 19, 1, 81]
abbrev dktJ27_checkLength_0 : List UInt8 := dkwJ27_checkLength_0 ++ dktJ27_checkLength_1
theorem dksJ27_checkLength_0 : cJ27_checkLength.data.toList.drop 0 = dktJ27_checkLength_0 := by decide +kernel
theorem dksJ27_checkLength_1 : cJ27_checkLength.data.toList.drop 23 = dktJ27_checkLength_1 := dk_seg dksJ27_checkLength_0 23 rfl rfl
theorem dJ27_checkLength_0 : decode cJ27_checkLength 0 = .ok (.iload_n 1, 1) := dk_27 (dk_at dksJ27_checkLength_0 0 rfl rfl)
theorem dJ27_checkLength_1 : decode cJ27_checkLength 1 = .ok (.iload_n 0, 1) := dk_26 (dk_at dksJ27_checkLength_0 1 rfl rfl)
theorem dJ27_checkLength_2 : decode cJ27_checkLength 2 = .ok (.if_icmp .ge 35, 3) := dk_162 0 35 (dk_at dksJ27_checkLength_0 2 rfl rfl)
theorem dJ27_checkLength_5 : decode cJ27_checkLength 5 = .ok (.new 43, 3) := dk_187 0 43 (dk_at dksJ27_checkLength_0 5 rfl rfl)
theorem dJ27_checkLength_8 : decode cJ27_checkLength 8 = .ok (.dup, 1) := dk_89 (dk_at dksJ27_checkLength_0 8 rfl rfl)
theorem dJ27_checkLength_9 : decode cJ27_checkLength 9 = .ok (.new 45, 3) := dk_187 0 45 (dk_at dksJ27_checkLength_0 9 rfl rfl)
theorem dJ27_checkLength_12 : decode cJ27_checkLength 12 = .ok (.dup, 1) := dk_89 (dk_at dksJ27_checkLength_0 12 rfl rfl)
theorem dJ27_checkLength_13 : decode cJ27_checkLength 13 = .ok (.invokespecial 47, 3) := dk_183 0 47 (dk_at dksJ27_checkLength_0 13 rfl rfl)
theorem dJ27_checkLength_16 : decode cJ27_checkLength 16 = .ok (.iload_n 0, 1) := dk_26 (dk_at dksJ27_checkLength_0 16 rfl rfl)
theorem dJ27_checkLength_17 : decode cJ27_checkLength 17 = .ok (.invokevirtual 54, 3) := dk_182 0 54 (dk_at dksJ27_checkLength_0 17 rfl rfl)
theorem dJ27_checkLength_20 : decode cJ27_checkLength 20 = .ok (.ldc_w 337, 3) := dk_19 1 81 (dk_at dksJ27_checkLength_0 20 rfl rfl)
theorem dJ27_checkLength_23 : decode cJ27_checkLength 23 = .ok (.invokevirtual 50, 3) := dk_182 0 50 (dk_at dksJ27_checkLength_1 0 rfl rfl)
theorem dJ27_checkLength_26 : decode cJ27_checkLength 26 = .ok (.iload_n 1, 1) := dk_27 (dk_at dksJ27_checkLength_1 3 rfl rfl)
theorem dJ27_checkLength_27 : decode cJ27_checkLength 27 = .ok (.invokevirtual 54, 3) := dk_182 0 54 (dk_at dksJ27_checkLength_1 4 rfl rfl)
theorem dJ27_checkLength_30 : decode cJ27_checkLength 30 = .ok (.invokevirtual 61, 3) := dk_182 0 61 (dk_at dksJ27_checkLength_1 7 rfl rfl)
theorem dJ27_checkLength_33 : decode cJ27_checkLength 33 = .ok (.invokespecial 65, 3) := dk_183 0 65 (dk_at dksJ27_checkLength_1 10 rfl rfl)
theorem dJ27_checkLength_36 : decode cJ27_checkLength 36 = .ok (.athrow, 1) := dk_191 (dk_at dksJ27_checkLength_1 13 rfl rfl)
theorem dJ27_checkLength_37 : decode cJ27_checkLength 37 = .ok (.return_, 1) := dk_177 (dk_at dksJ27_checkLength_1 14 rfl rfl)
abbrev cJ27_copyOf : ByteArray := prog_54_method_121_code
def yJ27_copyOf : MethodName := ⟨RJ27, "copyOf", "([BI)[B"⟩
def dkwJ27_copyOf_1 : List UInt8 := [27, 184, 1, 48, 184, 0, 150, 44, 176]
abbrev dktJ27_copyOf_1 : List UInt8 := dkwJ27_copyOf_1 ++ []
def dkwJ27_copyOf_0 : List UInt8 := [27, 42, 190, 160, 0, 11, 42, 182, 1, 54, 192, 1, 55, 176, 27, 188, 8, 77, 42, 3, 44, 3, 42, 190]
abbrev dktJ27_copyOf_0 : List UInt8 := dkwJ27_copyOf_0 ++ dktJ27_copyOf_1
theorem dksJ27_copyOf_0 : cJ27_copyOf.data.toList.drop 0 = dktJ27_copyOf_0 := by decide +kernel
theorem dksJ27_copyOf_1 : cJ27_copyOf.data.toList.drop 24 = dktJ27_copyOf_1 := dk_seg dksJ27_copyOf_0 24 rfl rfl
theorem dJ27_copyOf_0 : decode cJ27_copyOf 0 = .ok (.iload_n 1, 1) := dk_27 (dk_at dksJ27_copyOf_0 0 rfl rfl)
theorem dJ27_copyOf_1 : decode cJ27_copyOf 1 = .ok (.aload_n 0, 1) := dk_42 (dk_at dksJ27_copyOf_0 1 rfl rfl)
theorem dJ27_copyOf_2 : decode cJ27_copyOf 2 = .ok (.arraylength, 1) := dk_190 (dk_at dksJ27_copyOf_0 2 rfl rfl)
theorem dJ27_copyOf_3 : decode cJ27_copyOf 3 = .ok (.if_icmp .ne 11, 3) := dk_160 0 11 (dk_at dksJ27_copyOf_0 3 rfl rfl)
theorem dJ27_copyOf_6 : decode cJ27_copyOf 6 = .ok (.aload_n 0, 1) := dk_42 (dk_at dksJ27_copyOf_0 6 rfl rfl)
theorem dJ27_copyOf_7 : decode cJ27_copyOf 7 = .ok (.invokevirtual 310, 3) := dk_182 1 54 (dk_at dksJ27_copyOf_0 7 rfl rfl)
theorem dJ27_copyOf_10 : decode cJ27_copyOf 10 = .ok (.checkcast 311, 3) := dk_192 1 55 (dk_at dksJ27_copyOf_0 10 rfl rfl)
theorem dJ27_copyOf_13 : decode cJ27_copyOf 13 = .ok (.areturn, 1) := dk_176 (dk_at dksJ27_copyOf_0 13 rfl rfl)
theorem dJ27_copyOf_14 : decode cJ27_copyOf 14 = .ok (.iload_n 1, 1) := dk_27 (dk_at dksJ27_copyOf_0 14 rfl rfl)
theorem dJ27_copyOf_15 : decode cJ27_copyOf 15 = .ok (.newarray .byte, 2) := dk_188_8 (dk_at dksJ27_copyOf_0 15 rfl rfl)
theorem dJ27_copyOf_17 : decode cJ27_copyOf 17 = .ok (.astore_n 2, 1) := dk_77 (dk_at dksJ27_copyOf_0 17 rfl rfl)
theorem dJ27_copyOf_18 : decode cJ27_copyOf 18 = .ok (.aload_n 0, 1) := dk_42 (dk_at dksJ27_copyOf_0 18 rfl rfl)
theorem dJ27_copyOf_19 : decode cJ27_copyOf 19 = .ok (.iconst 0, 1) := dk_3 (dk_at dksJ27_copyOf_0 19 rfl rfl)
theorem dJ27_copyOf_20 : decode cJ27_copyOf 20 = .ok (.aload_n 2, 1) := dk_44 (dk_at dksJ27_copyOf_0 20 rfl rfl)
theorem dJ27_copyOf_21 : decode cJ27_copyOf 21 = .ok (.iconst 0, 1) := dk_3 (dk_at dksJ27_copyOf_0 21 rfl rfl)
theorem dJ27_copyOf_22 : decode cJ27_copyOf 22 = .ok (.aload_n 0, 1) := dk_42 (dk_at dksJ27_copyOf_0 22 rfl rfl)
theorem dJ27_copyOf_23 : decode cJ27_copyOf 23 = .ok (.arraylength, 1) := dk_190 (dk_at dksJ27_copyOf_0 23 rfl rfl)
theorem dJ27_copyOf_24 : decode cJ27_copyOf 24 = .ok (.iload_n 1, 1) := dk_27 (dk_at dksJ27_copyOf_1 0 rfl rfl)
theorem dJ27_copyOf_25 : decode cJ27_copyOf 25 = .ok (.invokestatic 304, 3) := dk_184 1 48 (dk_at dksJ27_copyOf_1 1 rfl rfl)
theorem dJ27_copyOf_28 : decode cJ27_copyOf 28 = .ok (.invokestatic 150, 3) := dk_184 0 150 (dk_at dksJ27_copyOf_1 4 rfl rfl)
theorem dJ27_copyOf_31 : decode cJ27_copyOf 31 = .ok (.aload_n 2, 1) := dk_44 (dk_at dksJ27_copyOf_1 7 rfl rfl)
theorem dJ27_copyOf_32 : decode cJ27_copyOf 32 = .ok (.areturn, 1) := dk_176 (dk_at dksJ27_copyOf_1 8 rfl rfl)
abbrev cJ27_copyOf_2 : ByteArray := prog_54_method_119_code
def yJ27_copyOf_2 : MethodName := ⟨RJ27, "copyOf", "([Ljava/lang/Object;I)[Ljava/lang/Object;"⟩
def dkwJ27_copyOf_2_0 : List UInt8 := [42, 27, 42, 182, 0, 86, 184, 1, 44, 176]
abbrev dktJ27_copyOf_2_0 : List UInt8 := dkwJ27_copyOf_2_0 ++ []
theorem dksJ27_copyOf_2_0 : cJ27_copyOf_2.data.toList.drop 0 = dktJ27_copyOf_2_0 := by decide +kernel
theorem dJ27_copyOf_2_0 : decode cJ27_copyOf_2 0 = .ok (.aload_n 0, 1) := dk_42 (dk_at dksJ27_copyOf_2_0 0 rfl rfl)
theorem dJ27_copyOf_2_1 : decode cJ27_copyOf_2 1 = .ok (.iload_n 1, 1) := dk_27 (dk_at dksJ27_copyOf_2_0 1 rfl rfl)
theorem dJ27_copyOf_2_2 : decode cJ27_copyOf_2 2 = .ok (.aload_n 0, 1) := dk_42 (dk_at dksJ27_copyOf_2_0 2 rfl rfl)
theorem dJ27_copyOf_2_3 : decode cJ27_copyOf_2 3 = .ok (.invokevirtual 86, 3) := dk_182 0 86 (dk_at dksJ27_copyOf_2_0 3 rfl rfl)
theorem dJ27_copyOf_2_6 : decode cJ27_copyOf_2 6 = .ok (.invokestatic 300, 3) := dk_184 1 44 (dk_at dksJ27_copyOf_2_0 6 rfl rfl)
theorem dJ27_copyOf_2_9 : decode cJ27_copyOf_2 9 = .ok (.areturn, 1) := dk_176 (dk_at dksJ27_copyOf_2_0 9 rfl rfl)
abbrev cJ27_copyOf_3 : ByteArray := prog_54_method_120_code
def yJ27_copyOf_3 : MethodName := ⟨RJ27, "copyOf", "([Ljava/lang/Object;ILjava/lang/Class;)[Ljava/lang/Object;"⟩
def dkwJ27_copyOf_3_1 : List UInt8 := [78, 42, 3, 45, 3, 42, 190, 27, 184, 1, 48, 184, 0, 150, 45, 176]
abbrev dktJ27_copyOf_3_1 : List UInt8 := dkwJ27_copyOf_3_1 ++ []
def dkwJ27_copyOf_3_0 : List UInt8 := [44, 18, 110, 166, 0, 10, 27, 189, 0, 2, 167, 0, 14, 44, 182, 0, 90, 27, 184, 0, 95, 192, 0, 110]
abbrev dktJ27_copyOf_3_0 : List UInt8 := dkwJ27_copyOf_3_0 ++ dktJ27_copyOf_3_1
theorem dksJ27_copyOf_3_0 : cJ27_copyOf_3.data.toList.drop 0 = dktJ27_copyOf_3_0 := by decide +kernel
theorem dksJ27_copyOf_3_1 : cJ27_copyOf_3.data.toList.drop 24 = dktJ27_copyOf_3_1 := dk_seg dksJ27_copyOf_3_0 24 rfl rfl
theorem dJ27_copyOf_3_0 : decode cJ27_copyOf_3 0 = .ok (.aload_n 2, 1) := dk_44 (dk_at dksJ27_copyOf_3_0 0 rfl rfl)
theorem dJ27_copyOf_3_1 : decode cJ27_copyOf_3 1 = .ok (.ldc 110, 2) := dk_18 110 (dk_at dksJ27_copyOf_3_0 1 rfl rfl)
theorem dJ27_copyOf_3_3 : decode cJ27_copyOf_3 3 = .ok (.if_acmp .ne 10, 3) := dk_166 0 10 (dk_at dksJ27_copyOf_3_0 3 rfl rfl)
theorem dJ27_copyOf_3_6 : decode cJ27_copyOf_3 6 = .ok (.iload_n 1, 1) := dk_27 (dk_at dksJ27_copyOf_3_0 6 rfl rfl)
theorem dJ27_copyOf_3_7 : decode cJ27_copyOf_3 7 = .ok (.anewarray 2, 3) := dk_189 0 2 (dk_at dksJ27_copyOf_3_0 7 rfl rfl)
theorem dJ27_copyOf_3_10 : decode cJ27_copyOf_3 10 = .ok (.goto 14, 3) := dk_167 0 14 (dk_at dksJ27_copyOf_3_0 10 rfl rfl)
theorem dJ27_copyOf_3_13 : decode cJ27_copyOf_3 13 = .ok (.aload_n 2, 1) := dk_44 (dk_at dksJ27_copyOf_3_0 13 rfl rfl)
theorem dJ27_copyOf_3_14 : decode cJ27_copyOf_3 14 = .ok (.invokevirtual 90, 3) := dk_182 0 90 (dk_at dksJ27_copyOf_3_0 14 rfl rfl)
theorem dJ27_copyOf_3_17 : decode cJ27_copyOf_3 17 = .ok (.iload_n 1, 1) := dk_27 (dk_at dksJ27_copyOf_3_0 17 rfl rfl)
theorem dJ27_copyOf_3_18 : decode cJ27_copyOf_3 18 = .ok (.invokestatic 95, 3) := dk_184 0 95 (dk_at dksJ27_copyOf_3_0 18 rfl rfl)
theorem dJ27_copyOf_3_21 : decode cJ27_copyOf_3 21 = .ok (.checkcast 110, 3) := dk_192 0 110 (dk_at dksJ27_copyOf_3_0 21 rfl rfl)
theorem dJ27_copyOf_3_24 : decode cJ27_copyOf_3 24 = .ok (.astore_n 3, 1) := dk_78 (dk_at dksJ27_copyOf_3_1 0 rfl rfl)
theorem dJ27_copyOf_3_25 : decode cJ27_copyOf_3 25 = .ok (.aload_n 0, 1) := dk_42 (dk_at dksJ27_copyOf_3_1 1 rfl rfl)
theorem dJ27_copyOf_3_26 : decode cJ27_copyOf_3 26 = .ok (.iconst 0, 1) := dk_3 (dk_at dksJ27_copyOf_3_1 2 rfl rfl)
theorem dJ27_copyOf_3_27 : decode cJ27_copyOf_3 27 = .ok (.aload_n 3, 1) := dk_45 (dk_at dksJ27_copyOf_3_1 3 rfl rfl)
theorem dJ27_copyOf_3_28 : decode cJ27_copyOf_3 28 = .ok (.iconst 0, 1) := dk_3 (dk_at dksJ27_copyOf_3_1 4 rfl rfl)
theorem dJ27_copyOf_3_29 : decode cJ27_copyOf_3 29 = .ok (.aload_n 0, 1) := dk_42 (dk_at dksJ27_copyOf_3_1 5 rfl rfl)
theorem dJ27_copyOf_3_30 : decode cJ27_copyOf_3 30 = .ok (.arraylength, 1) := dk_190 (dk_at dksJ27_copyOf_3_1 6 rfl rfl)
theorem dJ27_copyOf_3_31 : decode cJ27_copyOf_3 31 = .ok (.iload_n 1, 1) := dk_27 (dk_at dksJ27_copyOf_3_1 7 rfl rfl)
theorem dJ27_copyOf_3_32 : decode cJ27_copyOf_3 32 = .ok (.invokestatic 304, 3) := dk_184 1 48 (dk_at dksJ27_copyOf_3_1 8 rfl rfl)
theorem dJ27_copyOf_3_35 : decode cJ27_copyOf_3 35 = .ok (.invokestatic 150, 3) := dk_184 0 150 (dk_at dksJ27_copyOf_3_1 11 rfl rfl)
theorem dJ27_copyOf_3_38 : decode cJ27_copyOf_3 38 = .ok (.aload_n 3, 1) := dk_45 (dk_at dksJ27_copyOf_3_1 14 rfl rfl)
theorem dJ27_copyOf_3_39 : decode cJ27_copyOf_3 39 = .ok (.areturn, 1) := dk_176 (dk_at dksJ27_copyOf_3_1 15 rfl rfl)
abbrev cJ27_fill : ByteArray := prog_54_method_110_code
def yJ27_fill : MethodName := ⟨RJ27, "fill", "([BIIB)V"⟩
def dkwJ27_fill_1 : List UInt8 := [167, 255, 242, 177]
abbrev dktJ27_fill_1 : List UInt8 := dkwJ27_fill_1 ++ []
def dkwJ27_fill_0 : List UInt8 := [42, 190, 27, 28, 184, 0, 13, 27, 54, 4, 21, 4, 28, 162, 0, 14, 42, 21, 4, 29, 84, 132, 4, 1]
abbrev dktJ27_fill_0 : List UInt8 := dkwJ27_fill_0 ++ dktJ27_fill_1
theorem dksJ27_fill_0 : cJ27_fill.data.toList.drop 0 = dktJ27_fill_0 := by decide +kernel
theorem dksJ27_fill_1 : cJ27_fill.data.toList.drop 24 = dktJ27_fill_1 := dk_seg dksJ27_fill_0 24 rfl rfl
theorem dJ27_fill_0 : decode cJ27_fill 0 = .ok (.aload_n 0, 1) := dk_42 (dk_at dksJ27_fill_0 0 rfl rfl)
theorem dJ27_fill_1 : decode cJ27_fill 1 = .ok (.arraylength, 1) := dk_190 (dk_at dksJ27_fill_0 1 rfl rfl)
theorem dJ27_fill_2 : decode cJ27_fill 2 = .ok (.iload_n 1, 1) := dk_27 (dk_at dksJ27_fill_0 2 rfl rfl)
theorem dJ27_fill_3 : decode cJ27_fill 3 = .ok (.iload_n 2, 1) := dk_28 (dk_at dksJ27_fill_0 3 rfl rfl)
theorem dJ27_fill_4 : decode cJ27_fill 4 = .ok (.invokestatic 13, 3) := dk_184 0 13 (dk_at dksJ27_fill_0 4 rfl rfl)
theorem dJ27_fill_7 : decode cJ27_fill 7 = .ok (.iload_n 1, 1) := dk_27 (dk_at dksJ27_fill_0 7 rfl rfl)
theorem dJ27_fill_8 : decode cJ27_fill 8 = .ok (.istore 4, 2) := dk_54 4 (dk_at dksJ27_fill_0 8 rfl rfl)
theorem dJ27_fill_10 : decode cJ27_fill 10 = .ok (.iload 4, 2) := dk_21 4 (dk_at dksJ27_fill_0 10 rfl rfl)
theorem dJ27_fill_12 : decode cJ27_fill 12 = .ok (.iload_n 2, 1) := dk_28 (dk_at dksJ27_fill_0 12 rfl rfl)
theorem dJ27_fill_13 : decode cJ27_fill 13 = .ok (.if_icmp .ge 14, 3) := dk_162 0 14 (dk_at dksJ27_fill_0 13 rfl rfl)
theorem dJ27_fill_16 : decode cJ27_fill 16 = .ok (.aload_n 0, 1) := dk_42 (dk_at dksJ27_fill_0 16 rfl rfl)
theorem dJ27_fill_17 : decode cJ27_fill 17 = .ok (.iload 4, 2) := dk_21 4 (dk_at dksJ27_fill_0 17 rfl rfl)
theorem dJ27_fill_19 : decode cJ27_fill 19 = .ok (.iload_n 3, 1) := dk_29 (dk_at dksJ27_fill_0 19 rfl rfl)
theorem dJ27_fill_20 : decode cJ27_fill 20 = .ok (.bastore, 1) := dk_84 (dk_at dksJ27_fill_0 20 rfl rfl)
theorem dJ27_fill_21 : decode cJ27_fill 21 = .ok (.iinc 4 1, 3) := dk_132 4 1 (dk_at dksJ27_fill_0 21 rfl rfl)
theorem dJ27_fill_24 : decode cJ27_fill 24 = .ok (.goto (-14), 3) := dk_167 255 242 (dk_at dksJ27_fill_1 0 rfl rfl)
theorem dJ27_fill_27 : decode cJ27_fill 27 = .ok (.return_, 1) := dk_177 (dk_at dksJ27_fill_1 3 rfl rfl)
abbrev cJ27_rangeCheck : ByteArray := prog_54_method_30_code
def yJ27_rangeCheck : MethodName := ⟨RJ27, "rangeCheck", "(III)V"⟩
def dkwJ27_rangeCheck_3 : List UInt8 := [183, 0, 70, 191, 177]
abbrev dktJ27_rangeCheck_3 : List UInt8 := dkwJ27_rangeCheck_3 ++ []
def dkwJ27_rangeCheck_2 : List UInt8 := [27, 156, 0, 12, 187, 0, 68, 89, 27, 183, 0, 70, 191, 28, 26, 164, 0, 12, 187, 0, 68, 89, 28]
abbrev dktJ27_rangeCheck_2 : List UInt8 := dkwJ27_rangeCheck_2 ++ dktJ27_rangeCheck_3
def dkwJ27_rangeCheck_1 : List UInt8 := [182, 0, 54, 18, 57, 182, 0, 50, 28, 182, 0, 54, 18, 59, 182, 0, 50, 182, 0, 61, 183, 0, 65, 191]
abbrev dktJ27_rangeCheck_1 : List UInt8 := dkwJ27_rangeCheck_1 ++ dktJ27_rangeCheck_2
def dkwJ27_rangeCheck_0 : List UInt8 := [27, 28, 164, 0, 44, 187, 0, 43, 89, 187, 0, 45, 89, 183, 0, 47, 18, 48, 182, 0, 50, 27]
abbrev dktJ27_rangeCheck_0 : List UInt8 := dkwJ27_rangeCheck_0 ++ dktJ27_rangeCheck_1
theorem dksJ27_rangeCheck_0 : cJ27_rangeCheck.data.toList.drop 0 = dktJ27_rangeCheck_0 := by decide +kernel
theorem dksJ27_rangeCheck_1 : cJ27_rangeCheck.data.toList.drop 22 = dktJ27_rangeCheck_1 := dk_seg dksJ27_rangeCheck_0 22 rfl rfl
theorem dksJ27_rangeCheck_2 : cJ27_rangeCheck.data.toList.drop 46 = dktJ27_rangeCheck_2 := dk_seg dksJ27_rangeCheck_1 24 rfl rfl
theorem dksJ27_rangeCheck_3 : cJ27_rangeCheck.data.toList.drop 69 = dktJ27_rangeCheck_3 := dk_seg dksJ27_rangeCheck_2 23 rfl rfl
theorem dJ27_rangeCheck_0 : decode cJ27_rangeCheck 0 = .ok (.iload_n 1, 1) := dk_27 (dk_at dksJ27_rangeCheck_0 0 rfl rfl)
theorem dJ27_rangeCheck_1 : decode cJ27_rangeCheck 1 = .ok (.iload_n 2, 1) := dk_28 (dk_at dksJ27_rangeCheck_0 1 rfl rfl)
theorem dJ27_rangeCheck_2 : decode cJ27_rangeCheck 2 = .ok (.if_icmp .le 44, 3) := dk_164 0 44 (dk_at dksJ27_rangeCheck_0 2 rfl rfl)
theorem dJ27_rangeCheck_5 : decode cJ27_rangeCheck 5 = .ok (.new 43, 3) := dk_187 0 43 (dk_at dksJ27_rangeCheck_0 5 rfl rfl)
theorem dJ27_rangeCheck_8 : decode cJ27_rangeCheck 8 = .ok (.dup, 1) := dk_89 (dk_at dksJ27_rangeCheck_0 8 rfl rfl)
theorem dJ27_rangeCheck_9 : decode cJ27_rangeCheck 9 = .ok (.new 45, 3) := dk_187 0 45 (dk_at dksJ27_rangeCheck_0 9 rfl rfl)
theorem dJ27_rangeCheck_12 : decode cJ27_rangeCheck 12 = .ok (.dup, 1) := dk_89 (dk_at dksJ27_rangeCheck_0 12 rfl rfl)
theorem dJ27_rangeCheck_13 : decode cJ27_rangeCheck 13 = .ok (.invokespecial 47, 3) := dk_183 0 47 (dk_at dksJ27_rangeCheck_0 13 rfl rfl)
theorem dJ27_rangeCheck_16 : decode cJ27_rangeCheck 16 = .ok (.ldc 48, 2) := dk_18 48 (dk_at dksJ27_rangeCheck_0 16 rfl rfl)
theorem dJ27_rangeCheck_18 : decode cJ27_rangeCheck 18 = .ok (.invokevirtual 50, 3) := dk_182 0 50 (dk_at dksJ27_rangeCheck_0 18 rfl rfl)
theorem dJ27_rangeCheck_21 : decode cJ27_rangeCheck 21 = .ok (.iload_n 1, 1) := dk_27 (dk_at dksJ27_rangeCheck_0 21 rfl rfl)
theorem dJ27_rangeCheck_22 : decode cJ27_rangeCheck 22 = .ok (.invokevirtual 54, 3) := dk_182 0 54 (dk_at dksJ27_rangeCheck_1 0 rfl rfl)
theorem dJ27_rangeCheck_25 : decode cJ27_rangeCheck 25 = .ok (.ldc 57, 2) := dk_18 57 (dk_at dksJ27_rangeCheck_1 3 rfl rfl)
theorem dJ27_rangeCheck_27 : decode cJ27_rangeCheck 27 = .ok (.invokevirtual 50, 3) := dk_182 0 50 (dk_at dksJ27_rangeCheck_1 5 rfl rfl)
theorem dJ27_rangeCheck_30 : decode cJ27_rangeCheck 30 = .ok (.iload_n 2, 1) := dk_28 (dk_at dksJ27_rangeCheck_1 8 rfl rfl)
theorem dJ27_rangeCheck_31 : decode cJ27_rangeCheck 31 = .ok (.invokevirtual 54, 3) := dk_182 0 54 (dk_at dksJ27_rangeCheck_1 9 rfl rfl)
theorem dJ27_rangeCheck_34 : decode cJ27_rangeCheck 34 = .ok (.ldc 59, 2) := dk_18 59 (dk_at dksJ27_rangeCheck_1 12 rfl rfl)
theorem dJ27_rangeCheck_36 : decode cJ27_rangeCheck 36 = .ok (.invokevirtual 50, 3) := dk_182 0 50 (dk_at dksJ27_rangeCheck_1 14 rfl rfl)
theorem dJ27_rangeCheck_39 : decode cJ27_rangeCheck 39 = .ok (.invokevirtual 61, 3) := dk_182 0 61 (dk_at dksJ27_rangeCheck_1 17 rfl rfl)
theorem dJ27_rangeCheck_42 : decode cJ27_rangeCheck 42 = .ok (.invokespecial 65, 3) := dk_183 0 65 (dk_at dksJ27_rangeCheck_1 20 rfl rfl)
theorem dJ27_rangeCheck_45 : decode cJ27_rangeCheck 45 = .ok (.athrow, 1) := dk_191 (dk_at dksJ27_rangeCheck_1 23 rfl rfl)
theorem dJ27_rangeCheck_46 : decode cJ27_rangeCheck 46 = .ok (.iload_n 1, 1) := dk_27 (dk_at dksJ27_rangeCheck_2 0 rfl rfl)
theorem dJ27_rangeCheck_47 : decode cJ27_rangeCheck 47 = .ok (.ifCond .ge 12, 3) := dk_156 0 12 (dk_at dksJ27_rangeCheck_2 1 rfl rfl)
theorem dJ27_rangeCheck_50 : decode cJ27_rangeCheck 50 = .ok (.new 68, 3) := dk_187 0 68 (dk_at dksJ27_rangeCheck_2 4 rfl rfl)
theorem dJ27_rangeCheck_53 : decode cJ27_rangeCheck 53 = .ok (.dup, 1) := dk_89 (dk_at dksJ27_rangeCheck_2 7 rfl rfl)
theorem dJ27_rangeCheck_54 : decode cJ27_rangeCheck 54 = .ok (.iload_n 1, 1) := dk_27 (dk_at dksJ27_rangeCheck_2 8 rfl rfl)
theorem dJ27_rangeCheck_55 : decode cJ27_rangeCheck 55 = .ok (.invokespecial 70, 3) := dk_183 0 70 (dk_at dksJ27_rangeCheck_2 9 rfl rfl)
theorem dJ27_rangeCheck_58 : decode cJ27_rangeCheck 58 = .ok (.athrow, 1) := dk_191 (dk_at dksJ27_rangeCheck_2 12 rfl rfl)
theorem dJ27_rangeCheck_59 : decode cJ27_rangeCheck 59 = .ok (.iload_n 2, 1) := dk_28 (dk_at dksJ27_rangeCheck_2 13 rfl rfl)
theorem dJ27_rangeCheck_60 : decode cJ27_rangeCheck 60 = .ok (.iload_n 0, 1) := dk_26 (dk_at dksJ27_rangeCheck_2 14 rfl rfl)
theorem dJ27_rangeCheck_61 : decode cJ27_rangeCheck 61 = .ok (.if_icmp .le 12, 3) := dk_164 0 12 (dk_at dksJ27_rangeCheck_2 15 rfl rfl)
theorem dJ27_rangeCheck_64 : decode cJ27_rangeCheck 64 = .ok (.new 68, 3) := dk_187 0 68 (dk_at dksJ27_rangeCheck_2 18 rfl rfl)
theorem dJ27_rangeCheck_67 : decode cJ27_rangeCheck 67 = .ok (.dup, 1) := dk_89 (dk_at dksJ27_rangeCheck_2 21 rfl rfl)
theorem dJ27_rangeCheck_68 : decode cJ27_rangeCheck 68 = .ok (.iload_n 2, 1) := dk_28 (dk_at dksJ27_rangeCheck_2 22 rfl rfl)
theorem dJ27_rangeCheck_69 : decode cJ27_rangeCheck 69 = .ok (.invokespecial 70, 3) := dk_183 0 70 (dk_at dksJ27_rangeCheck_3 0 rfl rfl)
theorem dJ27_rangeCheck_72 : decode cJ27_rangeCheck 72 = .ok (.athrow, 1) := dk_191 (dk_at dksJ27_rangeCheck_3 3 rfl rfl)
theorem dJ27_rangeCheck_73 : decode cJ27_rangeCheck 73 = .ok (.return_, 1) := dk_177 (dk_at dksJ27_rangeCheck_3 4 rfl rfl)
abbrev cJ28_init : ByteArray := prog_25_method_2_code
def yJ28_init : MethodName := ⟨RJ28, "<init>", "(Ljava/lang/String;)V"⟩
def dkwJ28_init_0 : List UInt8 := [42, 43, 183, 0, 7, 177]
abbrev dktJ28_init_0 : List UInt8 := dkwJ28_init_0 ++ []
theorem dksJ28_init_0 : cJ28_init.data.toList.drop 0 = dktJ28_init_0 := by decide +kernel
theorem dJ28_init_0 : decode cJ28_init 0 = .ok (.aload_n 0, 1) := dk_42 (dk_at dksJ28_init_0 0 rfl rfl)
theorem dJ28_init_1 : decode cJ28_init 1 = .ok (.aload_n 1, 1) := dk_43 (dk_at dksJ28_init_0 1 rfl rfl)
theorem dJ28_init_2 : decode cJ28_init 2 = .ok (.invokespecial 7, 3) := dk_183 0 7 (dk_at dksJ28_init_0 2 rfl rfl)
theorem dJ28_init_5 : decode cJ28_init 5 = .ok (.return_, 1) := dk_177 (dk_at dksJ28_init_0 5 rfl rfl)
abbrev cJ28_init_2 : ByteArray := prog_25_method_1_code
def yJ28_init_2 : MethodName := ⟨RJ28, "<init>", "()V"⟩
theorem dJ28_init_2_0 : decode cJ28_init_2 0 = .ok (.aload_n 0, 1) := by decide +kernel
theorem dJ28_init_2_1 : decode cJ28_init_2 1 = .ok (.invokespecial 1, 3) := by decide +kernel
theorem dJ28_init_2_4 : decode cJ28_init_2 4 = .ok (.return_, 1) := by decide +kernel
abbrev cJ29_isValidCodePoint : ByteArray := prog_21_method_11_code
def yJ29_isValidCodePoint : MethodName := ⟨RJ29, "isValidCodePoint", "(I)Z"⟩
def dkwJ29_isValidCodePoint_0 : List UInt8 := [26, 16, 16, 124, 60, 27, 16, 17, 162, 0, 7, 4, 167, 0, 4, 3, 172]
abbrev dktJ29_isValidCodePoint_0 : List UInt8 := dkwJ29_isValidCodePoint_0 ++ []
theorem dksJ29_isValidCodePoint_0 : cJ29_isValidCodePoint.data.toList.drop 0 = dktJ29_isValidCodePoint_0 := by decide +kernel
theorem dJ29_isValidCodePoint_0 : decode cJ29_isValidCodePoint 0 = .ok (.iload_n 0, 1) := dk_26 (dk_at dksJ29_isValidCodePoint_0 0 rfl rfl)
theorem dJ29_isValidCodePoint_1 : decode cJ29_isValidCodePoint 1 = .ok (.bipush 16, 2) := dk_16 16 (dk_at dksJ29_isValidCodePoint_0 1 rfl rfl)
theorem dJ29_isValidCodePoint_3 : decode cJ29_isValidCodePoint 3 = .ok (.iushr, 1) := dk_124 (dk_at dksJ29_isValidCodePoint_0 3 rfl rfl)
theorem dJ29_isValidCodePoint_4 : decode cJ29_isValidCodePoint 4 = .ok (.istore_n 1, 1) := dk_60 (dk_at dksJ29_isValidCodePoint_0 4 rfl rfl)
theorem dJ29_isValidCodePoint_5 : decode cJ29_isValidCodePoint 5 = .ok (.iload_n 1, 1) := dk_27 (dk_at dksJ29_isValidCodePoint_0 5 rfl rfl)
theorem dJ29_isValidCodePoint_6 : decode cJ29_isValidCodePoint 6 = .ok (.bipush 17, 2) := dk_16 17 (dk_at dksJ29_isValidCodePoint_0 6 rfl rfl)
theorem dJ29_isValidCodePoint_8 : decode cJ29_isValidCodePoint 8 = .ok (.if_icmp .ge 7, 3) := dk_162 0 7 (dk_at dksJ29_isValidCodePoint_0 8 rfl rfl)
theorem dJ29_isValidCodePoint_11 : decode cJ29_isValidCodePoint 11 = .ok (.iconst 1, 1) := dk_4 (dk_at dksJ29_isValidCodePoint_0 11 rfl rfl)
theorem dJ29_isValidCodePoint_12 : decode cJ29_isValidCodePoint 12 = .ok (.goto 4, 3) := dk_167 0 4 (dk_at dksJ29_isValidCodePoint_0 12 rfl rfl)
theorem dJ29_isValidCodePoint_15 : decode cJ29_isValidCodePoint 15 = .ok (.iconst 0, 1) := dk_3 (dk_at dksJ29_isValidCodePoint_0 15 rfl rfl)
theorem dJ29_isValidCodePoint_16 : decode cJ29_isValidCodePoint 16 = .ok (.ireturn, 1) := dk_172 (dk_at dksJ29_isValidCodePoint_0 16 rfl rfl)
abbrev cJ29_highSurrogate : ByteArray := prog_21_method_28_code
def yJ29_highSurrogate : MethodName := ⟨RJ29, "highSurrogate", "(I)C"⟩
def dkwJ29_highSurrogate_0 : List UInt8 := [26, 16, 10, 124, 18, 110, 96, 146, 172]
abbrev dktJ29_highSurrogate_0 : List UInt8 := dkwJ29_highSurrogate_0 ++ []
theorem dksJ29_highSurrogate_0 : cJ29_highSurrogate.data.toList.drop 0 = dktJ29_highSurrogate_0 := by decide +kernel
theorem dJ29_highSurrogate_0 : decode cJ29_highSurrogate 0 = .ok (.iload_n 0, 1) := dk_26 (dk_at dksJ29_highSurrogate_0 0 rfl rfl)
theorem dJ29_highSurrogate_1 : decode cJ29_highSurrogate 1 = .ok (.bipush 10, 2) := dk_16 10 (dk_at dksJ29_highSurrogate_0 1 rfl rfl)
theorem dJ29_highSurrogate_3 : decode cJ29_highSurrogate 3 = .ok (.iushr, 1) := dk_124 (dk_at dksJ29_highSurrogate_0 3 rfl rfl)
theorem dJ29_highSurrogate_4 : decode cJ29_highSurrogate 4 = .ok (.ldc 110, 2) := dk_18 110 (dk_at dksJ29_highSurrogate_0 4 rfl rfl)
theorem dJ29_highSurrogate_6 : decode cJ29_highSurrogate 6 = .ok (.iadd, 1) := dk_96 (dk_at dksJ29_highSurrogate_0 6 rfl rfl)
theorem dJ29_highSurrogate_7 : decode cJ29_highSurrogate 7 = .ok (.i2c, 1) := dk_146 (dk_at dksJ29_highSurrogate_0 7 rfl rfl)
theorem dJ29_highSurrogate_8 : decode cJ29_highSurrogate 8 = .ok (.ireturn, 1) := dk_172 (dk_at dksJ29_highSurrogate_0 8 rfl rfl)
abbrev cJ29_lowSurrogate : ByteArray := prog_21_method_29_code
def yJ29_lowSurrogate : MethodName := ⟨RJ29, "lowSurrogate", "(I)C"⟩
def dkwJ29_lowSurrogate_0 : List UInt8 := [26, 17, 3, 255, 126, 18, 76, 96, 146, 172]
abbrev dktJ29_lowSurrogate_0 : List UInt8 := dkwJ29_lowSurrogate_0 ++ []
theorem dksJ29_lowSurrogate_0 : cJ29_lowSurrogate.data.toList.drop 0 = dktJ29_lowSurrogate_0 := by decide +kernel
theorem dJ29_lowSurrogate_0 : decode cJ29_lowSurrogate 0 = .ok (.iload_n 0, 1) := dk_26 (dk_at dksJ29_lowSurrogate_0 0 rfl rfl)
theorem dJ29_lowSurrogate_1 : decode cJ29_lowSurrogate 1 = .ok (.sipush 1023, 3) := dk_17 3 255 (dk_at dksJ29_lowSurrogate_0 1 rfl rfl)
theorem dJ29_lowSurrogate_4 : decode cJ29_lowSurrogate 4 = .ok (.iand, 1) := dk_126 (dk_at dksJ29_lowSurrogate_0 4 rfl rfl)
theorem dJ29_lowSurrogate_5 : decode cJ29_lowSurrogate 5 = .ok (.ldc 76, 2) := dk_18 76 (dk_at dksJ29_lowSurrogate_0 5 rfl rfl)
theorem dJ29_lowSurrogate_7 : decode cJ29_lowSurrogate 7 = .ok (.iadd, 1) := dk_96 (dk_at dksJ29_lowSurrogate_0 7 rfl rfl)
theorem dJ29_lowSurrogate_8 : decode cJ29_lowSurrogate 8 = .ok (.i2c, 1) := dk_146 (dk_at dksJ29_lowSurrogate_0 8 rfl rfl)
theorem dJ29_lowSurrogate_9 : decode cJ29_lowSurrogate 9 = .ok (.ireturn, 1) := dk_172 (dk_at dksJ29_lowSurrogate_0 9 rfl rfl)
abbrev cJ30_init : ByteArray := prog_27_method_1_code
def yJ30_init : MethodName := ⟨RJ30, "<init>", "()V"⟩
theorem dJ30_init_0 : decode cJ30_init 0 = .ok (.aload_n 0, 1) := by decide +kernel
theorem dJ30_init_1 : decode cJ30_init 1 = .ok (.invokespecial 1, 3) := by decide +kernel
theorem dJ30_init_4 : decode cJ30_init 4 = .ok (.return_, 1) := by decide +kernel
abbrev cJ30_init_2 : ByteArray := prog_27_method_2_code
def yJ30_init_2 : MethodName := ⟨RJ30, "<init>", "(Ljava/lang/String;)V"⟩
def dkwJ30_init_2_0 : List UInt8 := [42, 43, 183, 0, 7, 177]
abbrev dktJ30_init_2_0 : List UInt8 := dkwJ30_init_2_0 ++ []
theorem dksJ30_init_2_0 : cJ30_init_2.data.toList.drop 0 = dktJ30_init_2_0 := by decide +kernel
theorem dJ30_init_2_0 : decode cJ30_init_2 0 = .ok (.aload_n 0, 1) := dk_42 (dk_at dksJ30_init_2_0 0 rfl rfl)
theorem dJ30_init_2_1 : decode cJ30_init_2 1 = .ok (.aload_n 1, 1) := dk_43 (dk_at dksJ30_init_2_0 1 rfl rfl)
theorem dJ30_init_2_2 : decode cJ30_init_2 2 = .ok (.invokespecial 7, 3) := dk_183 0 7 (dk_at dksJ30_init_2_0 2 rfl rfl)
theorem dJ30_init_2_5 : decode cJ30_init_2 5 = .ok (.return_, 1) := dk_177 (dk_at dksJ30_init_2_0 5 rfl rfl)
abbrev cJ31_init : ByteArray := prog_47_method_1_code
def yJ31_init : MethodName := ⟨RJ31, "<init>", "()V"⟩
def dkwJ31_init_0 : List UInt8 := [42, 183, 0, 1, 42, 3, 181, 0, 7, 177]
abbrev dktJ31_init_0 : List UInt8 := dkwJ31_init_0 ++ []
theorem dksJ31_init_0 : cJ31_init.data.toList.drop 0 = dktJ31_init_0 := by decide +kernel
theorem dJ31_init_0 : decode cJ31_init 0 = .ok (.aload_n 0, 1) := dk_42 (dk_at dksJ31_init_0 0 rfl rfl)
theorem dJ31_init_1 : decode cJ31_init 1 = .ok (.invokespecial 1, 3) := dk_183 0 1 (dk_at dksJ31_init_0 1 rfl rfl)
theorem dJ31_init_4 : decode cJ31_init 4 = .ok (.aload_n 0, 1) := dk_42 (dk_at dksJ31_init_0 4 rfl rfl)
theorem dJ31_init_5 : decode cJ31_init 5 = .ok (.iconst 0, 1) := dk_3 (dk_at dksJ31_init_0 5 rfl rfl)
theorem dJ31_init_6 : decode cJ31_init 6 = .ok (.putfield 7, 3) := dk_181 0 7 (dk_at dksJ31_init_0 6 rfl rfl)
theorem dJ31_init_9 : decode cJ31_init 9 = .ok (.return_, 1) := dk_177 (dk_at dksJ31_init_0 9 rfl rfl)
abbrev cJ32_init : ByteArray := prog_52_method_2_code
def yJ32_init : MethodName := ⟨RJ32, "<init>", "()V"⟩
def dkwJ32_init_0 : List UInt8 := [42, 183, 0, 1, 42, 178, 0, 39, 181, 0, 9, 177]
abbrev dktJ32_init_0 : List UInt8 := dkwJ32_init_0 ++ []
theorem dksJ32_init_0 : cJ32_init.data.toList.drop 0 = dktJ32_init_0 := by decide +kernel
theorem dJ32_init_0 : decode cJ32_init 0 = .ok (.aload_n 0, 1) := dk_42 (dk_at dksJ32_init_0 0 rfl rfl)
theorem dJ32_init_1 : decode cJ32_init 1 = .ok (.invokespecial 1, 3) := dk_183 0 1 (dk_at dksJ32_init_0 1 rfl rfl)
theorem dJ32_init_4 : decode cJ32_init 4 = .ok (.aload_n 0, 1) := dk_42 (dk_at dksJ32_init_0 4 rfl rfl)
theorem dJ32_init_5 : decode cJ32_init 5 = .ok (.getstatic 39, 3) := dk_178 0 39 (dk_at dksJ32_init_0 5 rfl rfl)
theorem dJ32_init_8 : decode cJ32_init 8 = .ok (.putfield 9, 3) := dk_181 0 9 (dk_at dksJ32_init_0 8 rfl rfl)
theorem dJ32_init_11 : decode cJ32_init 11 = .ok (.return_, 1) := dk_177 (dk_at dksJ32_init_0 11 rfl rfl)
abbrev cJ32_add : ByteArray := prog_52_method_25_code
def yJ32_add : MethodName := ⟨RJ32, "add", "(Ljava/lang/Object;)Z"⟩
def dkwJ32_add_1 : List UInt8 := [172]
abbrev dktJ32_add_1 : List UInt8 := dkwJ32_add_1 ++ []
def dkwJ32_add_0 : List UInt8 := [42, 89, 180, 0, 63, 4, 96, 181, 0, 63, 42, 43, 42, 180, 0, 9, 42, 180, 0, 48, 182, 0, 131, 4]
abbrev dktJ32_add_0 : List UInt8 := dkwJ32_add_0 ++ dktJ32_add_1
theorem dksJ32_add_0 : cJ32_add.data.toList.drop 0 = dktJ32_add_0 := by decide +kernel
theorem dksJ32_add_1 : cJ32_add.data.toList.drop 24 = dktJ32_add_1 := dk_seg dksJ32_add_0 24 rfl rfl
theorem dJ32_add_0 : decode cJ32_add 0 = .ok (.aload_n 0, 1) := dk_42 (dk_at dksJ32_add_0 0 rfl rfl)
theorem dJ32_add_1 : decode cJ32_add 1 = .ok (.dup, 1) := dk_89 (dk_at dksJ32_add_0 1 rfl rfl)
theorem dJ32_add_2 : decode cJ32_add 2 = .ok (.getfield 63, 3) := dk_180 0 63 (dk_at dksJ32_add_0 2 rfl rfl)
theorem dJ32_add_5 : decode cJ32_add 5 = .ok (.iconst 1, 1) := dk_4 (dk_at dksJ32_add_0 5 rfl rfl)
theorem dJ32_add_6 : decode cJ32_add 6 = .ok (.iadd, 1) := dk_96 (dk_at dksJ32_add_0 6 rfl rfl)
theorem dJ32_add_7 : decode cJ32_add 7 = .ok (.putfield 63, 3) := dk_181 0 63 (dk_at dksJ32_add_0 7 rfl rfl)
theorem dJ32_add_10 : decode cJ32_add 10 = .ok (.aload_n 0, 1) := dk_42 (dk_at dksJ32_add_0 10 rfl rfl)
theorem dJ32_add_11 : decode cJ32_add 11 = .ok (.aload_n 1, 1) := dk_43 (dk_at dksJ32_add_0 11 rfl rfl)
theorem dJ32_add_12 : decode cJ32_add 12 = .ok (.aload_n 0, 1) := dk_42 (dk_at dksJ32_add_0 12 rfl rfl)
theorem dJ32_add_13 : decode cJ32_add 13 = .ok (.getfield 9, 3) := dk_180 0 9 (dk_at dksJ32_add_0 13 rfl rfl)
theorem dJ32_add_16 : decode cJ32_add 16 = .ok (.aload_n 0, 1) := dk_42 (dk_at dksJ32_add_0 16 rfl rfl)
theorem dJ32_add_17 : decode cJ32_add 17 = .ok (.getfield 48, 3) := dk_180 0 48 (dk_at dksJ32_add_0 17 rfl rfl)
theorem dJ32_add_20 : decode cJ32_add 20 = .ok (.invokevirtual 131, 3) := dk_182 0 131 (dk_at dksJ32_add_0 20 rfl rfl)
theorem dJ32_add_23 : decode cJ32_add 23 = .ok (.iconst 1, 1) := dk_4 (dk_at dksJ32_add_0 23 rfl rfl)
theorem dJ32_add_24 : decode cJ32_add 24 = .ok (.ireturn, 1) := dk_172 (dk_at dksJ32_add_1 0 rfl rfl)
abbrev cJ32_add_2 : ByteArray := prog_52_method_24_code
def yJ32_add_2 : MethodName := ⟨RJ32, "add", "(Ljava/lang/Object;[Ljava/lang/Object;I)V"⟩
def dkwJ32_add_2_0 : List UInt8 := [29, 44, 190, 160, 0, 8, 42, 182, 0, 129, 77, 44, 29, 43, 83, 42, 29, 4, 96, 181, 0, 48, 177]
abbrev dktJ32_add_2_0 : List UInt8 := dkwJ32_add_2_0 ++ []
theorem dksJ32_add_2_0 : cJ32_add_2.data.toList.drop 0 = dktJ32_add_2_0 := by decide +kernel
theorem dJ32_add_2_0 : decode cJ32_add_2 0 = .ok (.iload_n 3, 1) := dk_29 (dk_at dksJ32_add_2_0 0 rfl rfl)
theorem dJ32_add_2_1 : decode cJ32_add_2 1 = .ok (.aload_n 2, 1) := dk_44 (dk_at dksJ32_add_2_0 1 rfl rfl)
theorem dJ32_add_2_2 : decode cJ32_add_2 2 = .ok (.arraylength, 1) := dk_190 (dk_at dksJ32_add_2_0 2 rfl rfl)
theorem dJ32_add_2_3 : decode cJ32_add_2 3 = .ok (.if_icmp .ne 8, 3) := dk_160 0 8 (dk_at dksJ32_add_2_0 3 rfl rfl)
theorem dJ32_add_2_6 : decode cJ32_add_2 6 = .ok (.aload_n 0, 1) := dk_42 (dk_at dksJ32_add_2_0 6 rfl rfl)
theorem dJ32_add_2_7 : decode cJ32_add_2 7 = .ok (.invokevirtual 129, 3) := dk_182 0 129 (dk_at dksJ32_add_2_0 7 rfl rfl)
theorem dJ32_add_2_10 : decode cJ32_add_2 10 = .ok (.astore_n 2, 1) := dk_77 (dk_at dksJ32_add_2_0 10 rfl rfl)
theorem dJ32_add_2_11 : decode cJ32_add_2 11 = .ok (.aload_n 2, 1) := dk_44 (dk_at dksJ32_add_2_0 11 rfl rfl)
theorem dJ32_add_2_12 : decode cJ32_add_2 12 = .ok (.iload_n 3, 1) := dk_29 (dk_at dksJ32_add_2_0 12 rfl rfl)
theorem dJ32_add_2_13 : decode cJ32_add_2 13 = .ok (.aload_n 1, 1) := dk_43 (dk_at dksJ32_add_2_0 13 rfl rfl)
theorem dJ32_add_2_14 : decode cJ32_add_2 14 = .ok (.aastore, 1) := dk_83 (dk_at dksJ32_add_2_0 14 rfl rfl)
theorem dJ32_add_2_15 : decode cJ32_add_2 15 = .ok (.aload_n 0, 1) := dk_42 (dk_at dksJ32_add_2_0 15 rfl rfl)
theorem dJ32_add_2_16 : decode cJ32_add_2 16 = .ok (.iload_n 3, 1) := dk_29 (dk_at dksJ32_add_2_0 16 rfl rfl)
theorem dJ32_add_2_17 : decode cJ32_add_2 17 = .ok (.iconst 1, 1) := dk_4 (dk_at dksJ32_add_2_0 17 rfl rfl)
theorem dJ32_add_2_18 : decode cJ32_add_2 18 = .ok (.iadd, 1) := dk_96 (dk_at dksJ32_add_2_0 18 rfl rfl)
theorem dJ32_add_2_19 : decode cJ32_add_2 19 = .ok (.putfield 48, 3) := dk_181 0 48 (dk_at dksJ32_add_2_0 19 rfl rfl)
theorem dJ32_add_2_22 : decode cJ32_add_2 22 = .ok (.return_, 1) := dk_177 (dk_at dksJ32_add_2_0 22 rfl rfl)
abbrev cJ32_grow : ByteArray := prog_52_method_7_code
def yJ32_grow : MethodName := ⟨RJ32, "grow", "()[Ljava/lang/Object;"⟩
def dkwJ32_grow_0 : List UInt8 := [42, 42, 180, 0, 48, 4, 96, 182, 0, 69, 176]
abbrev dktJ32_grow_0 : List UInt8 := dkwJ32_grow_0 ++ []
theorem dksJ32_grow_0 : cJ32_grow.data.toList.drop 0 = dktJ32_grow_0 := by decide +kernel
theorem dJ32_grow_0 : decode cJ32_grow 0 = .ok (.aload_n 0, 1) := dk_42 (dk_at dksJ32_grow_0 0 rfl rfl)
theorem dJ32_grow_1 : decode cJ32_grow 1 = .ok (.aload_n 0, 1) := dk_42 (dk_at dksJ32_grow_0 1 rfl rfl)
theorem dJ32_grow_2 : decode cJ32_grow 2 = .ok (.getfield 48, 3) := dk_180 0 48 (dk_at dksJ32_grow_0 2 rfl rfl)
theorem dJ32_grow_5 : decode cJ32_grow 5 = .ok (.iconst 1, 1) := dk_4 (dk_at dksJ32_grow_0 5 rfl rfl)
theorem dJ32_grow_6 : decode cJ32_grow 6 = .ok (.iadd, 1) := dk_96 (dk_at dksJ32_grow_0 6 rfl rfl)
theorem dJ32_grow_7 : decode cJ32_grow 7 = .ok (.invokevirtual 69, 3) := dk_182 0 69 (dk_at dksJ32_grow_0 7 rfl rfl)
theorem dJ32_grow_10 : decode cJ32_grow 10 = .ok (.areturn, 1) := dk_176 (dk_at dksJ32_grow_0 10 rfl rfl)
abbrev cJ32_grow_2 : ByteArray := prog_52_method_6_code
def yJ32_grow_2 : MethodName := ⟨RJ32, "grow", "(I)[Ljava/lang/Object;"⟩
def dkwJ32_grow_2_2 : List UInt8 := [27, 184, 0, 79, 189, 0, 7, 90, 181, 0, 9, 176]
abbrev dktJ32_grow_2_2 : List UInt8 := dkwJ32_grow_2_2 ++ []
def dkwJ32_grow_2_1 : List UInt8 := [28, 4, 122, 184, 0, 73, 62, 42, 42, 180, 0, 9, 29, 184, 0, 66, 90, 181, 0, 9, 176, 42, 16, 10]
abbrev dktJ32_grow_2_1 : List UInt8 := dkwJ32_grow_2_1 ++ dktJ32_grow_2_2
def dkwJ32_grow_2_0 : List UInt8 := [42, 180, 0, 9, 190, 61, 28, 157, 0, 13, 42, 180, 0, 9, 178, 0, 39, 165, 0, 28, 28, 27, 28, 100]
abbrev dktJ32_grow_2_0 : List UInt8 := dkwJ32_grow_2_0 ++ dktJ32_grow_2_1
theorem dksJ32_grow_2_0 : cJ32_grow_2.data.toList.drop 0 = dktJ32_grow_2_0 := by decide +kernel
theorem dksJ32_grow_2_1 : cJ32_grow_2.data.toList.drop 24 = dktJ32_grow_2_1 := dk_seg dksJ32_grow_2_0 24 rfl rfl
theorem dksJ32_grow_2_2 : cJ32_grow_2.data.toList.drop 48 = dktJ32_grow_2_2 := dk_seg dksJ32_grow_2_1 24 rfl rfl
theorem dJ32_grow_2_0 : decode cJ32_grow_2 0 = .ok (.aload_n 0, 1) := dk_42 (dk_at dksJ32_grow_2_0 0 rfl rfl)
theorem dJ32_grow_2_1 : decode cJ32_grow_2 1 = .ok (.getfield 9, 3) := dk_180 0 9 (dk_at dksJ32_grow_2_0 1 rfl rfl)
theorem dJ32_grow_2_4 : decode cJ32_grow_2 4 = .ok (.arraylength, 1) := dk_190 (dk_at dksJ32_grow_2_0 4 rfl rfl)
theorem dJ32_grow_2_5 : decode cJ32_grow_2 5 = .ok (.istore_n 2, 1) := dk_61 (dk_at dksJ32_grow_2_0 5 rfl rfl)
theorem dJ32_grow_2_6 : decode cJ32_grow_2 6 = .ok (.iload_n 2, 1) := dk_28 (dk_at dksJ32_grow_2_0 6 rfl rfl)
theorem dJ32_grow_2_7 : decode cJ32_grow_2 7 = .ok (.ifCond .gt 13, 3) := dk_157 0 13 (dk_at dksJ32_grow_2_0 7 rfl rfl)
theorem dJ32_grow_2_10 : decode cJ32_grow_2 10 = .ok (.aload_n 0, 1) := dk_42 (dk_at dksJ32_grow_2_0 10 rfl rfl)
theorem dJ32_grow_2_11 : decode cJ32_grow_2 11 = .ok (.getfield 9, 3) := dk_180 0 9 (dk_at dksJ32_grow_2_0 11 rfl rfl)
theorem dJ32_grow_2_14 : decode cJ32_grow_2 14 = .ok (.getstatic 39, 3) := dk_178 0 39 (dk_at dksJ32_grow_2_0 14 rfl rfl)
theorem dJ32_grow_2_17 : decode cJ32_grow_2 17 = .ok (.if_acmp .eq 28, 3) := dk_165 0 28 (dk_at dksJ32_grow_2_0 17 rfl rfl)
theorem dJ32_grow_2_20 : decode cJ32_grow_2 20 = .ok (.iload_n 2, 1) := dk_28 (dk_at dksJ32_grow_2_0 20 rfl rfl)
theorem dJ32_grow_2_21 : decode cJ32_grow_2 21 = .ok (.iload_n 1, 1) := dk_27 (dk_at dksJ32_grow_2_0 21 rfl rfl)
theorem dJ32_grow_2_22 : decode cJ32_grow_2 22 = .ok (.iload_n 2, 1) := dk_28 (dk_at dksJ32_grow_2_0 22 rfl rfl)
theorem dJ32_grow_2_23 : decode cJ32_grow_2 23 = .ok (.isub, 1) := dk_100 (dk_at dksJ32_grow_2_0 23 rfl rfl)
theorem dJ32_grow_2_24 : decode cJ32_grow_2 24 = .ok (.iload_n 2, 1) := dk_28 (dk_at dksJ32_grow_2_1 0 rfl rfl)
theorem dJ32_grow_2_25 : decode cJ32_grow_2 25 = .ok (.iconst 1, 1) := dk_4 (dk_at dksJ32_grow_2_1 1 rfl rfl)
theorem dJ32_grow_2_26 : decode cJ32_grow_2 26 = .ok (.ishr, 1) := dk_122 (dk_at dksJ32_grow_2_1 2 rfl rfl)
theorem dJ32_grow_2_27 : decode cJ32_grow_2 27 = .ok (.invokestatic 73, 3) := dk_184 0 73 (dk_at dksJ32_grow_2_1 3 rfl rfl)
theorem dJ32_grow_2_30 : decode cJ32_grow_2 30 = .ok (.istore_n 3, 1) := dk_62 (dk_at dksJ32_grow_2_1 6 rfl rfl)
theorem dJ32_grow_2_31 : decode cJ32_grow_2 31 = .ok (.aload_n 0, 1) := dk_42 (dk_at dksJ32_grow_2_1 7 rfl rfl)
theorem dJ32_grow_2_32 : decode cJ32_grow_2 32 = .ok (.aload_n 0, 1) := dk_42 (dk_at dksJ32_grow_2_1 8 rfl rfl)
theorem dJ32_grow_2_33 : decode cJ32_grow_2 33 = .ok (.getfield 9, 3) := dk_180 0 9 (dk_at dksJ32_grow_2_1 9 rfl rfl)
theorem dJ32_grow_2_36 : decode cJ32_grow_2 36 = .ok (.iload_n 3, 1) := dk_29 (dk_at dksJ32_grow_2_1 12 rfl rfl)
theorem dJ32_grow_2_37 : decode cJ32_grow_2 37 = .ok (.invokestatic 66, 3) := dk_184 0 66 (dk_at dksJ32_grow_2_1 13 rfl rfl)
theorem dJ32_grow_2_40 : decode cJ32_grow_2 40 = .ok (.dup_x1, 1) := dk_90 (dk_at dksJ32_grow_2_1 16 rfl rfl)
theorem dJ32_grow_2_41 : decode cJ32_grow_2 41 = .ok (.putfield 9, 3) := dk_181 0 9 (dk_at dksJ32_grow_2_1 17 rfl rfl)
theorem dJ32_grow_2_44 : decode cJ32_grow_2 44 = .ok (.areturn, 1) := dk_176 (dk_at dksJ32_grow_2_1 20 rfl rfl)
theorem dJ32_grow_2_45 : decode cJ32_grow_2 45 = .ok (.aload_n 0, 1) := dk_42 (dk_at dksJ32_grow_2_1 21 rfl rfl)
theorem dJ32_grow_2_46 : decode cJ32_grow_2 46 = .ok (.bipush 10, 2) := dk_16 10 (dk_at dksJ32_grow_2_1 22 rfl rfl)
theorem dJ32_grow_2_48 : decode cJ32_grow_2 48 = .ok (.iload_n 1, 1) := dk_27 (dk_at dksJ32_grow_2_2 0 rfl rfl)
theorem dJ32_grow_2_49 : decode cJ32_grow_2 49 = .ok (.invokestatic 79, 3) := dk_184 0 79 (dk_at dksJ32_grow_2_2 1 rfl rfl)
theorem dJ32_grow_2_52 : decode cJ32_grow_2 52 = .ok (.anewarray 7, 3) := dk_189 0 7 (dk_at dksJ32_grow_2_2 4 rfl rfl)
theorem dJ32_grow_2_55 : decode cJ32_grow_2 55 = .ok (.dup_x1, 1) := dk_90 (dk_at dksJ32_grow_2_2 7 rfl rfl)
theorem dJ32_grow_2_56 : decode cJ32_grow_2 56 = .ok (.putfield 9, 3) := dk_181 0 9 (dk_at dksJ32_grow_2_2 8 rfl rfl)
theorem dJ32_grow_2_59 : decode cJ32_grow_2 59 = .ok (.areturn, 1) := dk_176 (dk_at dksJ32_grow_2_2 11 rfl rfl)
abbrev cJ32_iterator : ByteArray := prog_52_method_55_code
def yJ32_iterator : MethodName := ⟨RJ32, "iterator", "()Ljava/util/Iterator;"⟩
def dkwJ32_iterator_0 : List UInt8 := [187, 1, 11, 89, 42, 183, 1, 13, 176]
abbrev dktJ32_iterator_0 : List UInt8 := dkwJ32_iterator_0 ++ []
theorem dksJ32_iterator_0 : cJ32_iterator.data.toList.drop 0 = dktJ32_iterator_0 := by decide +kernel
theorem dJ32_iterator_0 : decode cJ32_iterator 0 = .ok (.new 267, 3) := dk_187 1 11 (dk_at dksJ32_iterator_0 0 rfl rfl)
theorem dJ32_iterator_3 : decode cJ32_iterator 3 = .ok (.dup, 1) := dk_89 (dk_at dksJ32_iterator_0 3 rfl rfl)
theorem dJ32_iterator_4 : decode cJ32_iterator 4 = .ok (.aload_n 0, 1) := dk_42 (dk_at dksJ32_iterator_0 4 rfl rfl)
theorem dJ32_iterator_5 : decode cJ32_iterator 5 = .ok (.invokespecial 269, 3) := dk_183 1 13 (dk_at dksJ32_iterator_0 5 rfl rfl)
theorem dJ32_iterator_8 : decode cJ32_iterator 8 = .ok (.areturn, 1) := dk_176 (dk_at dksJ32_iterator_0 8 rfl rfl)
abbrev cJ32_get : ByteArray := prog_52_method_20_code
def yJ32_get : MethodName := ⟨RJ32, "get", "(I)Ljava/lang/Object;"⟩
def dkwJ32_get_0 : List UInt8 := [27, 42, 180, 0, 48, 184, 0, 118, 87, 42, 27, 182, 0, 123, 176]
abbrev dktJ32_get_0 : List UInt8 := dkwJ32_get_0 ++ []
theorem dksJ32_get_0 : cJ32_get.data.toList.drop 0 = dktJ32_get_0 := by decide +kernel
theorem dJ32_get_0 : decode cJ32_get 0 = .ok (.iload_n 1, 1) := dk_27 (dk_at dksJ32_get_0 0 rfl rfl)
theorem dJ32_get_1 : decode cJ32_get 1 = .ok (.aload_n 0, 1) := dk_42 (dk_at dksJ32_get_0 1 rfl rfl)
theorem dJ32_get_2 : decode cJ32_get 2 = .ok (.getfield 48, 3) := dk_180 0 48 (dk_at dksJ32_get_0 2 rfl rfl)
theorem dJ32_get_5 : decode cJ32_get 5 = .ok (.invokestatic 118, 3) := dk_184 0 118 (dk_at dksJ32_get_0 5 rfl rfl)
theorem dJ32_get_8 : decode cJ32_get 8 = .ok (.pop, 1) := dk_87 (dk_at dksJ32_get_0 8 rfl rfl)
theorem dJ32_get_9 : decode cJ32_get 9 = .ok (.aload_n 0, 1) := dk_42 (dk_at dksJ32_get_0 9 rfl rfl)
theorem dJ32_get_10 : decode cJ32_get 10 = .ok (.iload_n 1, 1) := dk_27 (dk_at dksJ32_get_0 10 rfl rfl)
theorem dJ32_get_11 : decode cJ32_get 11 = .ok (.invokevirtual 123, 3) := dk_182 0 123 (dk_at dksJ32_get_0 11 rfl rfl)
theorem dJ32_get_14 : decode cJ32_get 14 = .ok (.areturn, 1) := dk_176 (dk_at dksJ32_get_0 14 rfl rfl)
abbrev cJ32_elementData : ByteArray := prog_52_method_18_code
def yJ32_elementData : MethodName := ⟨RJ32, "elementData", "(I)Ljava/lang/Object;"⟩
def dkwJ32_elementData_0 : List UInt8 := [42, 180, 0, 9, 27, 50, 176]
abbrev dktJ32_elementData_0 : List UInt8 := dkwJ32_elementData_0 ++ []
theorem dksJ32_elementData_0 : cJ32_elementData.data.toList.drop 0 = dktJ32_elementData_0 := by decide +kernel
theorem dJ32_elementData_0 : decode cJ32_elementData 0 = .ok (.aload_n 0, 1) := dk_42 (dk_at dksJ32_elementData_0 0 rfl rfl)
theorem dJ32_elementData_1 : decode cJ32_elementData 1 = .ok (.getfield 9, 3) := dk_180 0 9 (dk_at dksJ32_elementData_0 1 rfl rfl)
theorem dJ32_elementData_4 : decode cJ32_elementData 4 = .ok (.iload_n 1, 1) := dk_27 (dk_at dksJ32_elementData_0 4 rfl rfl)
theorem dJ32_elementData_5 : decode cJ32_elementData 5 = .ok (.aaload, 1) := dk_50 (dk_at dksJ32_elementData_0 5 rfl rfl)
theorem dJ32_elementData_6 : decode cJ32_elementData 6 = .ok (.areturn, 1) := dk_176 (dk_at dksJ32_elementData_0 6 rfl rfl)
abbrev cJ32_size : ByteArray := prog_52_method_8_code
def yJ32_size : MethodName := ⟨RJ32, "size", "()I"⟩
theorem dJ32_size_0 : decode cJ32_size 0 = .ok (.aload_n 0, 1) := by decide +kernel
theorem dJ32_size_1 : decode cJ32_size 1 = .ok (.getfield 48, 3) := by decide +kernel
theorem dJ32_size_4 : decode cJ32_size 4 = .ok (.ireturn, 1) := by decide +kernel
abbrev cJ33_hasNext : ByteArray := prog_53_method_2_code
def yJ33_hasNext : MethodName := ⟨RJ33, "hasNext", "()Z"⟩
def dkwJ33_hasNext_0 : List UInt8 := [42, 180, 0, 25, 42, 180, 0, 1, 180, 0, 28, 159, 0, 7, 4, 167, 0, 4, 3, 172]
abbrev dktJ33_hasNext_0 : List UInt8 := dkwJ33_hasNext_0 ++ []
theorem dksJ33_hasNext_0 : cJ33_hasNext.data.toList.drop 0 = dktJ33_hasNext_0 := by decide +kernel
theorem dJ33_hasNext_0 : decode cJ33_hasNext 0 = .ok (.aload_n 0, 1) := dk_42 (dk_at dksJ33_hasNext_0 0 rfl rfl)
theorem dJ33_hasNext_1 : decode cJ33_hasNext 1 = .ok (.getfield 25, 3) := dk_180 0 25 (dk_at dksJ33_hasNext_0 1 rfl rfl)
theorem dJ33_hasNext_4 : decode cJ33_hasNext 4 = .ok (.aload_n 0, 1) := dk_42 (dk_at dksJ33_hasNext_0 4 rfl rfl)
theorem dJ33_hasNext_5 : decode cJ33_hasNext 5 = .ok (.getfield 1, 3) := dk_180 0 1 (dk_at dksJ33_hasNext_0 5 rfl rfl)
theorem dJ33_hasNext_8 : decode cJ33_hasNext 8 = .ok (.getfield 28, 3) := dk_180 0 28 (dk_at dksJ33_hasNext_0 8 rfl rfl)
theorem dJ33_hasNext_11 : decode cJ33_hasNext 11 = .ok (.if_icmp .eq 7, 3) := dk_159 0 7 (dk_at dksJ33_hasNext_0 11 rfl rfl)
theorem dJ33_hasNext_14 : decode cJ33_hasNext 14 = .ok (.iconst 1, 1) := dk_4 (dk_at dksJ33_hasNext_0 14 rfl rfl)
theorem dJ33_hasNext_15 : decode cJ33_hasNext 15 = .ok (.goto 4, 3) := dk_167 0 4 (dk_at dksJ33_hasNext_0 15 rfl rfl)
theorem dJ33_hasNext_18 : decode cJ33_hasNext 18 = .ok (.iconst 0, 1) := dk_3 (dk_at dksJ33_hasNext_0 18 rfl rfl)
theorem dJ33_hasNext_19 : decode cJ33_hasNext 19 = .ok (.ireturn, 1) := dk_172 (dk_at dksJ33_hasNext_0 19 rfl rfl)
abbrev cJ33_next : ByteArray := prog_53_method_3_code
def yJ33_next : MethodName := ⟨RJ33, "next", "()Ljava/lang/Object;"⟩
def dkwJ33_next_2 : List UInt8 := [183, 0, 43, 191, 42, 27, 4, 96, 181, 0, 25, 44, 42, 27, 90, 181, 0, 13, 50, 176]
abbrev dktJ33_next_2 : List UInt8 := dkwJ33_next_2 ++ []
def dkwJ33_next_1 : List UInt8 := [183, 0, 36, 191, 42, 180, 0, 1, 180, 0, 37, 77, 27, 44, 190, 161, 0, 11, 187, 0, 41, 89]
abbrev dktJ33_next_1 : List UInt8 := dkwJ33_next_1 ++ dktJ33_next_2
def dkwJ33_next_0 : List UInt8 := [42, 182, 0, 31, 42, 180, 0, 25, 60, 27, 42, 180, 0, 1, 180, 0, 28, 161, 0, 11, 187, 0, 34, 89]
abbrev dktJ33_next_0 : List UInt8 := dkwJ33_next_0 ++ dktJ33_next_1
theorem dksJ33_next_0 : cJ33_next.data.toList.drop 0 = dktJ33_next_0 := by decide +kernel
theorem dksJ33_next_1 : cJ33_next.data.toList.drop 24 = dktJ33_next_1 := dk_seg dksJ33_next_0 24 rfl rfl
theorem dksJ33_next_2 : cJ33_next.data.toList.drop 46 = dktJ33_next_2 := dk_seg dksJ33_next_1 22 rfl rfl
theorem dJ33_next_0 : decode cJ33_next 0 = .ok (.aload_n 0, 1) := dk_42 (dk_at dksJ33_next_0 0 rfl rfl)
theorem dJ33_next_1 : decode cJ33_next 1 = .ok (.invokevirtual 31, 3) := dk_182 0 31 (dk_at dksJ33_next_0 1 rfl rfl)
theorem dJ33_next_4 : decode cJ33_next 4 = .ok (.aload_n 0, 1) := dk_42 (dk_at dksJ33_next_0 4 rfl rfl)
theorem dJ33_next_5 : decode cJ33_next 5 = .ok (.getfield 25, 3) := dk_180 0 25 (dk_at dksJ33_next_0 5 rfl rfl)
theorem dJ33_next_8 : decode cJ33_next 8 = .ok (.istore_n 1, 1) := dk_60 (dk_at dksJ33_next_0 8 rfl rfl)
theorem dJ33_next_9 : decode cJ33_next 9 = .ok (.iload_n 1, 1) := dk_27 (dk_at dksJ33_next_0 9 rfl rfl)
theorem dJ33_next_10 : decode cJ33_next 10 = .ok (.aload_n 0, 1) := dk_42 (dk_at dksJ33_next_0 10 rfl rfl)
theorem dJ33_next_11 : decode cJ33_next 11 = .ok (.getfield 1, 3) := dk_180 0 1 (dk_at dksJ33_next_0 11 rfl rfl)
theorem dJ33_next_14 : decode cJ33_next 14 = .ok (.getfield 28, 3) := dk_180 0 28 (dk_at dksJ33_next_0 14 rfl rfl)
theorem dJ33_next_17 : decode cJ33_next 17 = .ok (.if_icmp .lt 11, 3) := dk_161 0 11 (dk_at dksJ33_next_0 17 rfl rfl)
theorem dJ33_next_20 : decode cJ33_next 20 = .ok (.new 34, 3) := dk_187 0 34 (dk_at dksJ33_next_0 20 rfl rfl)
theorem dJ33_next_23 : decode cJ33_next 23 = .ok (.dup, 1) := dk_89 (dk_at dksJ33_next_0 23 rfl rfl)
theorem dJ33_next_24 : decode cJ33_next 24 = .ok (.invokespecial 36, 3) := dk_183 0 36 (dk_at dksJ33_next_1 0 rfl rfl)
theorem dJ33_next_27 : decode cJ33_next 27 = .ok (.athrow, 1) := dk_191 (dk_at dksJ33_next_1 3 rfl rfl)
theorem dJ33_next_28 : decode cJ33_next 28 = .ok (.aload_n 0, 1) := dk_42 (dk_at dksJ33_next_1 4 rfl rfl)
theorem dJ33_next_29 : decode cJ33_next 29 = .ok (.getfield 1, 3) := dk_180 0 1 (dk_at dksJ33_next_1 5 rfl rfl)
theorem dJ33_next_32 : decode cJ33_next 32 = .ok (.getfield 37, 3) := dk_180 0 37 (dk_at dksJ33_next_1 8 rfl rfl)
theorem dJ33_next_35 : decode cJ33_next 35 = .ok (.astore_n 2, 1) := dk_77 (dk_at dksJ33_next_1 11 rfl rfl)
theorem dJ33_next_36 : decode cJ33_next 36 = .ok (.iload_n 1, 1) := dk_27 (dk_at dksJ33_next_1 12 rfl rfl)
theorem dJ33_next_37 : decode cJ33_next 37 = .ok (.aload_n 2, 1) := dk_44 (dk_at dksJ33_next_1 13 rfl rfl)
theorem dJ33_next_38 : decode cJ33_next 38 = .ok (.arraylength, 1) := dk_190 (dk_at dksJ33_next_1 14 rfl rfl)
theorem dJ33_next_39 : decode cJ33_next 39 = .ok (.if_icmp .lt 11, 3) := dk_161 0 11 (dk_at dksJ33_next_1 15 rfl rfl)
theorem dJ33_next_42 : decode cJ33_next 42 = .ok (.new 41, 3) := dk_187 0 41 (dk_at dksJ33_next_1 18 rfl rfl)
theorem dJ33_next_45 : decode cJ33_next 45 = .ok (.dup, 1) := dk_89 (dk_at dksJ33_next_1 21 rfl rfl)
theorem dJ33_next_46 : decode cJ33_next 46 = .ok (.invokespecial 43, 3) := dk_183 0 43 (dk_at dksJ33_next_2 0 rfl rfl)
theorem dJ33_next_49 : decode cJ33_next 49 = .ok (.athrow, 1) := dk_191 (dk_at dksJ33_next_2 3 rfl rfl)
theorem dJ33_next_50 : decode cJ33_next 50 = .ok (.aload_n 0, 1) := dk_42 (dk_at dksJ33_next_2 4 rfl rfl)
theorem dJ33_next_51 : decode cJ33_next 51 = .ok (.iload_n 1, 1) := dk_27 (dk_at dksJ33_next_2 5 rfl rfl)
theorem dJ33_next_52 : decode cJ33_next 52 = .ok (.iconst 1, 1) := dk_4 (dk_at dksJ33_next_2 6 rfl rfl)
theorem dJ33_next_53 : decode cJ33_next 53 = .ok (.iadd, 1) := dk_96 (dk_at dksJ33_next_2 7 rfl rfl)
theorem dJ33_next_54 : decode cJ33_next 54 = .ok (.putfield 25, 3) := dk_181 0 25 (dk_at dksJ33_next_2 8 rfl rfl)
theorem dJ33_next_57 : decode cJ33_next 57 = .ok (.aload_n 2, 1) := dk_44 (dk_at dksJ33_next_2 11 rfl rfl)
theorem dJ33_next_58 : decode cJ33_next 58 = .ok (.aload_n 0, 1) := dk_42 (dk_at dksJ33_next_2 12 rfl rfl)
theorem dJ33_next_59 : decode cJ33_next 59 = .ok (.iload_n 1, 1) := dk_27 (dk_at dksJ33_next_2 13 rfl rfl)
theorem dJ33_next_60 : decode cJ33_next 60 = .ok (.dup_x1, 1) := dk_90 (dk_at dksJ33_next_2 14 rfl rfl)
theorem dJ33_next_61 : decode cJ33_next 61 = .ok (.putfield 13, 3) := dk_181 0 13 (dk_at dksJ33_next_2 15 rfl rfl)
theorem dJ33_next_64 : decode cJ33_next 64 = .ok (.aaload, 1) := dk_50 (dk_at dksJ33_next_2 18 rfl rfl)
theorem dJ33_next_65 : decode cJ33_next 65 = .ok (.areturn, 1) := dk_176 (dk_at dksJ33_next_2 19 rfl rfl)
abbrev cJ33_checkForComodification : ByteArray := prog_53_method_6_code
def yJ33_checkForComodification : MethodName := ⟨RJ33, "checkForComodification", "()V"⟩
def dkwJ33_checkForComodification_0 : List UInt8 := [42, 180, 0, 1, 180, 0, 17, 42, 180, 0, 22, 159, 0, 11, 187, 0, 41, 89, 183, 0, 43, 191, 177]
abbrev dktJ33_checkForComodification_0 : List UInt8 := dkwJ33_checkForComodification_0 ++ []
theorem dksJ33_checkForComodification_0 : cJ33_checkForComodification.data.toList.drop 0 = dktJ33_checkForComodification_0 := by decide +kernel
theorem dJ33_checkForComodification_0 : decode cJ33_checkForComodification 0 = .ok (.aload_n 0, 1) := dk_42 (dk_at dksJ33_checkForComodification_0 0 rfl rfl)
theorem dJ33_checkForComodification_1 : decode cJ33_checkForComodification 1 = .ok (.getfield 1, 3) := dk_180 0 1 (dk_at dksJ33_checkForComodification_0 1 rfl rfl)
theorem dJ33_checkForComodification_4 : decode cJ33_checkForComodification 4 = .ok (.getfield 17, 3) := dk_180 0 17 (dk_at dksJ33_checkForComodification_0 4 rfl rfl)
theorem dJ33_checkForComodification_7 : decode cJ33_checkForComodification 7 = .ok (.aload_n 0, 1) := dk_42 (dk_at dksJ33_checkForComodification_0 7 rfl rfl)
theorem dJ33_checkForComodification_8 : decode cJ33_checkForComodification 8 = .ok (.getfield 22, 3) := dk_180 0 22 (dk_at dksJ33_checkForComodification_0 8 rfl rfl)
theorem dJ33_checkForComodification_11 : decode cJ33_checkForComodification 11 = .ok (.if_icmp .eq 11, 3) := dk_159 0 11 (dk_at dksJ33_checkForComodification_0 11 rfl rfl)
theorem dJ33_checkForComodification_14 : decode cJ33_checkForComodification 14 = .ok (.new 41, 3) := dk_187 0 41 (dk_at dksJ33_checkForComodification_0 14 rfl rfl)
theorem dJ33_checkForComodification_17 : decode cJ33_checkForComodification 17 = .ok (.dup, 1) := dk_89 (dk_at dksJ33_checkForComodification_0 17 rfl rfl)
theorem dJ33_checkForComodification_18 : decode cJ33_checkForComodification 18 = .ok (.invokespecial 43, 3) := dk_183 0 43 (dk_at dksJ33_checkForComodification_0 18 rfl rfl)
theorem dJ33_checkForComodification_21 : decode cJ33_checkForComodification 21 = .ok (.athrow, 1) := dk_191 (dk_at dksJ33_checkForComodification_0 21 rfl rfl)
theorem dJ33_checkForComodification_22 : decode cJ33_checkForComodification 22 = .ok (.return_, 1) := dk_177 (dk_at dksJ33_checkForComodification_0 22 rfl rfl)
abbrev cJ33_init : ByteArray := prog_53_method_1_code
def yJ33_init : MethodName := ⟨RJ33, "<init>", "(Ljava/util/ArrayList;)V"⟩
def dkwJ33_init_1 : List UInt8 := [181, 0, 22, 177]
abbrev dktJ33_init_1 : List UInt8 := dkwJ33_init_1 ++ []
def dkwJ33_init_0 : List UInt8 := [42, 43, 181, 0, 1, 42, 183, 0, 7, 42, 2, 181, 0, 13, 42, 42, 180, 0, 1, 180, 0, 17]
abbrev dktJ33_init_0 : List UInt8 := dkwJ33_init_0 ++ dktJ33_init_1
theorem dksJ33_init_0 : cJ33_init.data.toList.drop 0 = dktJ33_init_0 := by decide +kernel
theorem dksJ33_init_1 : cJ33_init.data.toList.drop 22 = dktJ33_init_1 := dk_seg dksJ33_init_0 22 rfl rfl
theorem dJ33_init_0 : decode cJ33_init 0 = .ok (.aload_n 0, 1) := dk_42 (dk_at dksJ33_init_0 0 rfl rfl)
theorem dJ33_init_1 : decode cJ33_init 1 = .ok (.aload_n 1, 1) := dk_43 (dk_at dksJ33_init_0 1 rfl rfl)
theorem dJ33_init_2 : decode cJ33_init 2 = .ok (.putfield 1, 3) := dk_181 0 1 (dk_at dksJ33_init_0 2 rfl rfl)
theorem dJ33_init_5 : decode cJ33_init 5 = .ok (.aload_n 0, 1) := dk_42 (dk_at dksJ33_init_0 5 rfl rfl)
theorem dJ33_init_6 : decode cJ33_init 6 = .ok (.invokespecial 7, 3) := dk_183 0 7 (dk_at dksJ33_init_0 6 rfl rfl)
theorem dJ33_init_9 : decode cJ33_init 9 = .ok (.aload_n 0, 1) := dk_42 (dk_at dksJ33_init_0 9 rfl rfl)
theorem dJ33_init_10 : decode cJ33_init 10 = .ok (.iconst (-1), 1) := dk_2 (dk_at dksJ33_init_0 10 rfl rfl)
theorem dJ33_init_11 : decode cJ33_init 11 = .ok (.putfield 13, 3) := dk_181 0 13 (dk_at dksJ33_init_0 11 rfl rfl)
theorem dJ33_init_14 : decode cJ33_init 14 = .ok (.aload_n 0, 1) := dk_42 (dk_at dksJ33_init_0 14 rfl rfl)
theorem dJ33_init_15 : decode cJ33_init 15 = .ok (.aload_n 0, 1) := dk_42 (dk_at dksJ33_init_0 15 rfl rfl)
theorem dJ33_init_16 : decode cJ33_init 16 = .ok (.getfield 1, 3) := dk_180 0 1 (dk_at dksJ33_init_0 16 rfl rfl)
theorem dJ33_init_19 : decode cJ33_init 19 = .ok (.getfield 17, 3) := dk_180 0 17 (dk_at dksJ33_init_0 19 rfl rfl)
theorem dJ33_init_22 : decode cJ33_init 22 = .ok (.putfield 22, 3) := dk_181 0 22 (dk_at dksJ33_init_1 0 rfl rfl)
theorem dJ33_init_25 : decode cJ33_init 25 = .ok (.return_, 1) := dk_177 (dk_at dksJ33_init_1 3 rfl rfl)
abbrev cJ34_init : ByteArray := prog_37_method_3_code
def yJ34_init : MethodName := ⟨RJ34, "<init>", "(I)V"⟩
def dkwJ34_init_0 : List UInt8 := [42, 187, 0, 10, 89, 183, 0, 12, 18, 13, 182, 0, 15, 27, 182, 0, 19, 182, 0, 22, 183, 0, 7, 177]
abbrev dktJ34_init_0 : List UInt8 := dkwJ34_init_0 ++ []
theorem dksJ34_init_0 : cJ34_init.data.toList.drop 0 = dktJ34_init_0 := by decide +kernel
theorem dJ34_init_0 : decode cJ34_init 0 = .ok (.aload_n 0, 1) := dk_42 (dk_at dksJ34_init_0 0 rfl rfl)
theorem dJ34_init_1 : decode cJ34_init 1 = .ok (.new 10, 3) := dk_187 0 10 (dk_at dksJ34_init_0 1 rfl rfl)
theorem dJ34_init_4 : decode cJ34_init 4 = .ok (.dup, 1) := dk_89 (dk_at dksJ34_init_0 4 rfl rfl)
theorem dJ34_init_5 : decode cJ34_init 5 = .ok (.invokespecial 12, 3) := dk_183 0 12 (dk_at dksJ34_init_0 5 rfl rfl)
theorem dJ34_init_8 : decode cJ34_init 8 = .ok (.ldc 13, 2) := dk_18 13 (dk_at dksJ34_init_0 8 rfl rfl)
theorem dJ34_init_10 : decode cJ34_init 10 = .ok (.invokevirtual 15, 3) := dk_182 0 15 (dk_at dksJ34_init_0 10 rfl rfl)
theorem dJ34_init_13 : decode cJ34_init 13 = .ok (.iload_n 1, 1) := dk_27 (dk_at dksJ34_init_0 13 rfl rfl)
theorem dJ34_init_14 : decode cJ34_init 14 = .ok (.invokevirtual 19, 3) := dk_182 0 19 (dk_at dksJ34_init_0 14 rfl rfl)
theorem dJ34_init_17 : decode cJ34_init 17 = .ok (.invokevirtual 22, 3) := dk_182 0 22 (dk_at dksJ34_init_0 17 rfl rfl)
theorem dJ34_init_20 : decode cJ34_init 20 = .ok (.invokespecial 7, 3) := dk_183 0 7 (dk_at dksJ34_init_0 20 rfl rfl)
theorem dJ34_init_23 : decode cJ34_init 23 = .ok (.return_, 1) := dk_177 (dk_at dksJ34_init_0 23 rfl rfl)
abbrev cJ35_init : ByteArray := prog_19_method_3_code
def yJ35_init : MethodName := ⟨RJ35, "<init>", "(I)V"⟩
def dkwJ35_init_0 : List UInt8 := [42, 187, 0, 10, 89, 183, 0, 12, 18, 13, 182, 0, 15, 27, 182, 0, 19, 182, 0, 22, 183, 0, 7, 177]
abbrev dktJ35_init_0 : List UInt8 := dkwJ35_init_0 ++ []
theorem dksJ35_init_0 : cJ35_init.data.toList.drop 0 = dktJ35_init_0 := by decide +kernel
theorem dJ35_init_0 : decode cJ35_init 0 = .ok (.aload_n 0, 1) := dk_42 (dk_at dksJ35_init_0 0 rfl rfl)
theorem dJ35_init_1 : decode cJ35_init 1 = .ok (.new 10, 3) := dk_187 0 10 (dk_at dksJ35_init_0 1 rfl rfl)
theorem dJ35_init_4 : decode cJ35_init 4 = .ok (.dup, 1) := dk_89 (dk_at dksJ35_init_0 4 rfl rfl)
theorem dJ35_init_5 : decode cJ35_init 5 = .ok (.invokespecial 12, 3) := dk_183 0 12 (dk_at dksJ35_init_0 5 rfl rfl)
theorem dJ35_init_8 : decode cJ35_init 8 = .ok (.ldc 13, 2) := dk_18 13 (dk_at dksJ35_init_0 8 rfl rfl)
theorem dJ35_init_10 : decode cJ35_init 10 = .ok (.invokevirtual 15, 3) := dk_182 0 15 (dk_at dksJ35_init_0 10 rfl rfl)
theorem dJ35_init_13 : decode cJ35_init 13 = .ok (.iload_n 1, 1) := dk_27 (dk_at dksJ35_init_0 13 rfl rfl)
theorem dJ35_init_14 : decode cJ35_init 14 = .ok (.invokevirtual 19, 3) := dk_182 0 19 (dk_at dksJ35_init_0 14 rfl rfl)
theorem dJ35_init_17 : decode cJ35_init 17 = .ok (.invokevirtual 22, 3) := dk_182 0 22 (dk_at dksJ35_init_0 17 rfl rfl)
theorem dJ35_init_20 : decode cJ35_init 20 = .ok (.invokespecial 7, 3) := dk_183 0 7 (dk_at dksJ35_init_0 20 rfl rfl)
theorem dJ35_init_23 : decode cJ35_init 23 = .ok (.return_, 1) := dk_177 (dk_at dksJ35_init_0 23 rfl rfl)
abbrev cJ35_init_2 : ByteArray := prog_19_method_2_code
def yJ35_init_2 : MethodName := ⟨RJ35, "<init>", "(Ljava/lang/String;)V"⟩
def dkwJ35_init_2_0 : List UInt8 := [42, 43, 183, 0, 7, 177]
abbrev dktJ35_init_2_0 : List UInt8 := dkwJ35_init_2_0 ++ []
theorem dksJ35_init_2_0 : cJ35_init_2.data.toList.drop 0 = dktJ35_init_2_0 := by decide +kernel
theorem dJ35_init_2_0 : decode cJ35_init_2 0 = .ok (.aload_n 0, 1) := dk_42 (dk_at dksJ35_init_2_0 0 rfl rfl)
theorem dJ35_init_2_1 : decode cJ35_init_2 1 = .ok (.aload_n 1, 1) := dk_43 (dk_at dksJ35_init_2_0 1 rfl rfl)
theorem dJ35_init_2_2 : decode cJ35_init_2 2 = .ok (.invokespecial 7, 3) := dk_183 0 7 (dk_at dksJ35_init_2_0 2 rfl rfl)
theorem dJ35_init_2_5 : decode cJ35_init_2 5 = .ok (.return_, 1) := dk_177 (dk_at dksJ35_init_2_0 5 rfl rfl)
abbrev cJ36_init : ByteArray := prog_26_method_2_code
def yJ36_init : MethodName := ⟨RJ36, "<init>", "(Ljava/lang/String;)V"⟩
def dkwJ36_init_0 : List UInt8 := [42, 43, 183, 0, 7, 177]
abbrev dktJ36_init_0 : List UInt8 := dkwJ36_init_0 ++ []
theorem dksJ36_init_0 : cJ36_init.data.toList.drop 0 = dktJ36_init_0 := by decide +kernel
theorem dJ36_init_0 : decode cJ36_init 0 = .ok (.aload_n 0, 1) := dk_42 (dk_at dksJ36_init_0 0 rfl rfl)
theorem dJ36_init_1 : decode cJ36_init 1 = .ok (.aload_n 1, 1) := dk_43 (dk_at dksJ36_init_0 1 rfl rfl)
theorem dJ36_init_2 : decode cJ36_init 2 = .ok (.invokespecial 7, 3) := dk_183 0 7 (dk_at dksJ36_init_0 2 rfl rfl)
theorem dJ36_init_5 : decode cJ36_init 5 = .ok (.return_, 1) := dk_177 (dk_at dksJ36_init_0 5 rfl rfl)
abbrev cJ36_init_2 : ByteArray := prog_26_method_1_code
def yJ36_init_2 : MethodName := ⟨RJ36, "<init>", "()V"⟩
theorem dJ36_init_2_0 : decode cJ36_init_2 0 = .ok (.aload_n 0, 1) := by decide +kernel
theorem dJ36_init_2_1 : decode cJ36_init_2 1 = .ok (.invokespecial 1, 3) := by decide +kernel
theorem dJ36_init_2_4 : decode cJ36_init_2 4 = .ok (.return_, 1) := by decide +kernel
abbrev cJ37_init : ByteArray := prog_43_method_3_code
def yJ37_init : MethodName := ⟨RJ37, "<init>", "(Ljava/lang/String;Ljava/lang/Throwable;)V"⟩
def dkwJ37_init_0 : List UInt8 := [42, 43, 44, 183, 0, 10, 177]
abbrev dktJ37_init_0 : List UInt8 := dkwJ37_init_0 ++ []
theorem dksJ37_init_0 : cJ37_init.data.toList.drop 0 = dktJ37_init_0 := by decide +kernel
theorem dJ37_init_0 : decode cJ37_init 0 = .ok (.aload_n 0, 1) := dk_42 (dk_at dksJ37_init_0 0 rfl rfl)
theorem dJ37_init_1 : decode cJ37_init 1 = .ok (.aload_n 1, 1) := dk_43 (dk_at dksJ37_init_0 1 rfl rfl)
theorem dJ37_init_2 : decode cJ37_init 2 = .ok (.aload_n 2, 1) := dk_44 (dk_at dksJ37_init_0 2 rfl rfl)
theorem dJ37_init_3 : decode cJ37_init 3 = .ok (.invokespecial 10, 3) := dk_183 0 10 (dk_at dksJ37_init_0 3 rfl rfl)
theorem dJ37_init_6 : decode cJ37_init 6 = .ok (.return_, 1) := dk_177 (dk_at dksJ37_init_0 6 rfl rfl)
abbrev cJ38_init : ByteArray := prog_49_method_2_code
def yJ38_init : MethodName := ⟨RJ38, "<init>", "(Ljava/util/Map$Entry;)V"⟩
def dkwJ38_init_1 : List UInt8 := [177]
abbrev dktJ38_init_1 : List UInt8 := dkwJ38_init_1 ++ []
def dkwJ38_init_0 : List UInt8 := [42, 183, 0, 1, 42, 43, 185, 0, 16, 1, 0, 181, 0, 7, 42, 43, 185, 0, 22, 1, 0, 181, 0, 13]
abbrev dktJ38_init_0 : List UInt8 := dkwJ38_init_0 ++ dktJ38_init_1
theorem dksJ38_init_0 : cJ38_init.data.toList.drop 0 = dktJ38_init_0 := by decide +kernel
theorem dksJ38_init_1 : cJ38_init.data.toList.drop 24 = dktJ38_init_1 := dk_seg dksJ38_init_0 24 rfl rfl
theorem dJ38_init_0 : decode cJ38_init 0 = .ok (.aload_n 0, 1) := dk_42 (dk_at dksJ38_init_0 0 rfl rfl)
theorem dJ38_init_1 : decode cJ38_init 1 = .ok (.invokespecial 1, 3) := dk_183 0 1 (dk_at dksJ38_init_0 1 rfl rfl)
theorem dJ38_init_4 : decode cJ38_init 4 = .ok (.aload_n 0, 1) := dk_42 (dk_at dksJ38_init_0 4 rfl rfl)
theorem dJ38_init_5 : decode cJ38_init 5 = .ok (.aload_n 1, 1) := dk_43 (dk_at dksJ38_init_0 5 rfl rfl)
theorem dJ38_init_6 : decode cJ38_init 6 = .ok (.invokeinterface 16 1, 5) := by decide +kernel
theorem dJ38_init_11 : decode cJ38_init 11 = .ok (.putfield 7, 3) := dk_181 0 7 (dk_at dksJ38_init_0 11 rfl rfl)
theorem dJ38_init_14 : decode cJ38_init 14 = .ok (.aload_n 0, 1) := dk_42 (dk_at dksJ38_init_0 14 rfl rfl)
theorem dJ38_init_15 : decode cJ38_init 15 = .ok (.aload_n 1, 1) := dk_43 (dk_at dksJ38_init_0 15 rfl rfl)
theorem dJ38_init_16 : decode cJ38_init 16 = .ok (.invokeinterface 22 1, 5) := by decide +kernel
theorem dJ38_init_21 : decode cJ38_init 21 = .ok (.putfield 13, 3) := dk_181 0 13 (dk_at dksJ38_init_0 21 rfl rfl)
theorem dJ38_init_24 : decode cJ38_init 24 = .ok (.return_, 1) := dk_177 (dk_at dksJ38_init_1 0 rfl rfl)
abbrev cJ38_getKey : ByteArray := prog_49_method_3_code
def yJ38_getKey : MethodName := ⟨RJ38, "getKey", "()Ljava/lang/Object;"⟩
theorem dJ38_getKey_0 : decode cJ38_getKey 0 = .ok (.aload_n 0, 1) := by decide +kernel
theorem dJ38_getKey_1 : decode cJ38_getKey 1 = .ok (.getfield 7, 3) := by decide +kernel
theorem dJ38_getKey_4 : decode cJ38_getKey 4 = .ok (.areturn, 1) := by decide +kernel
abbrev cJ38_getValue : ByteArray := prog_49_method_4_code
def yJ38_getValue : MethodName := ⟨RJ38, "getValue", "()Ljava/lang/Object;"⟩
theorem dJ38_getValue_0 : decode cJ38_getValue 0 = .ok (.aload_n 0, 1) := by decide +kernel
theorem dJ38_getValue_1 : decode cJ38_getValue 1 = .ok (.getfield 13, 3) := by decide +kernel
theorem dJ38_getValue_4 : decode cJ38_getValue 4 = .ok (.areturn, 1) := by decide +kernel
abbrev cJ39_init : ByteArray := prog_18_method_2_code
def yJ39_init : MethodName := ⟨RJ39, "<init>", "(Ljava/lang/String;)V"⟩
def dkwJ39_init_0 : List UInt8 := [42, 43, 183, 0, 7, 177]
abbrev dktJ39_init_0 : List UInt8 := dkwJ39_init_0 ++ []
theorem dksJ39_init_0 : cJ39_init.data.toList.drop 0 = dktJ39_init_0 := by decide +kernel
theorem dJ39_init_0 : decode cJ39_init 0 = .ok (.aload_n 0, 1) := dk_42 (dk_at dksJ39_init_0 0 rfl rfl)
theorem dJ39_init_1 : decode cJ39_init 1 = .ok (.aload_n 1, 1) := dk_43 (dk_at dksJ39_init_0 1 rfl rfl)
theorem dJ39_init_2 : decode cJ39_init 2 = .ok (.invokespecial 7, 3) := dk_183 0 7 (dk_at dksJ39_init_0 2 rfl rfl)
theorem dJ39_init_5 : decode cJ39_init 5 = .ok (.return_, 1) := dk_177 (dk_at dksJ39_init_0 5 rfl rfl)
abbrev cJ39_init_2 : ByteArray := prog_18_method_1_code
def yJ39_init_2 : MethodName := ⟨RJ39, "<init>", "()V"⟩
theorem dJ39_init_2_0 : decode cJ39_init_2 0 = .ok (.aload_n 0, 1) := by decide +kernel
theorem dJ39_init_2_1 : decode cJ39_init_2 1 = .ok (.invokespecial 1, 3) := by decide +kernel
theorem dJ39_init_2_4 : decode cJ39_init_2 4 = .ok (.return_, 1) := by decide +kernel
abbrev cJ40_of : ByteArray := prog_66_method_3_code
def yJ40_of : MethodName := ⟨RJ40, "of", "(Ljava/lang/Object;)Ljava/util/Optional;"⟩
def dkwJ40_of_0 : List UInt8 := [187, 0, 2, 89, 42, 184, 0, 17, 183, 0, 23, 176]
abbrev dktJ40_of_0 : List UInt8 := dkwJ40_of_0 ++ []
theorem dksJ40_of_0 : cJ40_of.data.toList.drop 0 = dktJ40_of_0 := by decide +kernel
theorem dJ40_of_0 : decode cJ40_of 0 = .ok (.new 2, 3) := dk_187 0 2 (dk_at dksJ40_of_0 0 rfl rfl)
theorem dJ40_of_3 : decode cJ40_of 3 = .ok (.dup, 1) := dk_89 (dk_at dksJ40_of_0 3 rfl rfl)
theorem dJ40_of_4 : decode cJ40_of 4 = .ok (.aload_n 0, 1) := dk_42 (dk_at dksJ40_of_0 4 rfl rfl)
theorem dJ40_of_5 : decode cJ40_of 5 = .ok (.invokestatic 17, 3) := dk_184 0 17 (dk_at dksJ40_of_0 5 rfl rfl)
theorem dJ40_of_8 : decode cJ40_of 8 = .ok (.invokespecial 23, 3) := dk_183 0 23 (dk_at dksJ40_of_0 8 rfl rfl)
theorem dJ40_of_11 : decode cJ40_of 11 = .ok (.areturn, 1) := dk_176 (dk_at dksJ40_of_0 11 rfl rfl)
abbrev cJ40_init : ByteArray := prog_66_method_2_code
def yJ40_init : MethodName := ⟨RJ40, "<init>", "(Ljava/lang/Object;)V"⟩
def dkwJ40_init_0 : List UInt8 := [42, 183, 0, 7, 42, 43, 181, 0, 13, 177]
abbrev dktJ40_init_0 : List UInt8 := dkwJ40_init_0 ++ []
theorem dksJ40_init_0 : cJ40_init.data.toList.drop 0 = dktJ40_init_0 := by decide +kernel
theorem dJ40_init_0 : decode cJ40_init 0 = .ok (.aload_n 0, 1) := dk_42 (dk_at dksJ40_init_0 0 rfl rfl)
theorem dJ40_init_1 : decode cJ40_init 1 = .ok (.invokespecial 7, 3) := dk_183 0 7 (dk_at dksJ40_init_0 1 rfl rfl)
theorem dJ40_init_4 : decode cJ40_init 4 = .ok (.aload_n 0, 1) := dk_42 (dk_at dksJ40_init_0 4 rfl rfl)
theorem dJ40_init_5 : decode cJ40_init 5 = .ok (.aload_n 1, 1) := dk_43 (dk_at dksJ40_init_0 5 rfl rfl)
theorem dJ40_init_6 : decode cJ40_init 6 = .ok (.putfield 13, 3) := dk_181 0 13 (dk_at dksJ40_init_0 6 rfl rfl)
theorem dJ40_init_9 : decode cJ40_init 9 = .ok (.return_, 1) := dk_177 (dk_at dksJ40_init_0 9 rfl rfl)
abbrev cJ40_empty : ByteArray := prog_66_method_1_code
def yJ40_empty : MethodName := ⟨RJ40, "empty", "()Ljava/util/Optional;"⟩
def dkwJ40_empty_0 : List UInt8 := [178, 0, 1, 75, 42, 176]
abbrev dktJ40_empty_0 : List UInt8 := dkwJ40_empty_0 ++ []
theorem dksJ40_empty_0 : cJ40_empty.data.toList.drop 0 = dktJ40_empty_0 := by decide +kernel
theorem dJ40_empty_0 : decode cJ40_empty 0 = .ok (.getstatic 1, 3) := dk_178 0 1 (dk_at dksJ40_empty_0 0 rfl rfl)
theorem dJ40_empty_3 : decode cJ40_empty 3 = .ok (.astore_n 0, 1) := dk_75 (dk_at dksJ40_empty_0 3 rfl rfl)
theorem dJ40_empty_4 : decode cJ40_empty 4 = .ok (.aload_n 0, 1) := dk_42 (dk_at dksJ40_empty_0 4 rfl rfl)
theorem dJ40_empty_5 : decode cJ40_empty 5 = .ok (.areturn, 1) := dk_176 (dk_at dksJ40_empty_0 5 rfl rfl)
abbrev cJ40_isPresent : ByteArray := prog_66_method_6_code
def yJ40_isPresent : MethodName := ⟨RJ40, "isPresent", "()Z"⟩
def dkwJ40_isPresent_0 : List UInt8 := [42, 180, 0, 13, 198, 0, 7, 4, 167, 0, 4, 3, 172]
abbrev dktJ40_isPresent_0 : List UInt8 := dkwJ40_isPresent_0 ++ []
theorem dksJ40_isPresent_0 : cJ40_isPresent.data.toList.drop 0 = dktJ40_isPresent_0 := by decide +kernel
theorem dJ40_isPresent_0 : decode cJ40_isPresent 0 = .ok (.aload_n 0, 1) := dk_42 (dk_at dksJ40_isPresent_0 0 rfl rfl)
theorem dJ40_isPresent_1 : decode cJ40_isPresent 1 = .ok (.getfield 13, 3) := dk_180 0 13 (dk_at dksJ40_isPresent_0 1 rfl rfl)
theorem dJ40_isPresent_4 : decode cJ40_isPresent 4 = .ok (.ifnull 7, 3) := dk_198 0 7 (dk_at dksJ40_isPresent_0 4 rfl rfl)
theorem dJ40_isPresent_7 : decode cJ40_isPresent 7 = .ok (.iconst 1, 1) := dk_4 (dk_at dksJ40_isPresent_0 7 rfl rfl)
theorem dJ40_isPresent_8 : decode cJ40_isPresent 8 = .ok (.goto 4, 3) := dk_167 0 4 (dk_at dksJ40_isPresent_0 8 rfl rfl)
theorem dJ40_isPresent_11 : decode cJ40_isPresent 11 = .ok (.iconst 0, 1) := dk_3 (dk_at dksJ40_isPresent_0 11 rfl rfl)
theorem dJ40_isPresent_12 : decode cJ40_isPresent 12 = .ok (.ireturn, 1) := dk_172 (dk_at dksJ40_isPresent_0 12 rfl rfl)
abbrev cJ40_get : ByteArray := prog_66_method_5_code
def yJ40_get : MethodName := ⟨RJ40, "get", "()Ljava/lang/Object;"⟩
def dkwJ40_get_0 : List UInt8 := [42, 180, 0, 13, 199, 0, 13, 187, 0, 26, 89, 18, 28, 183, 0, 30, 191, 42, 180, 0, 13, 176]
abbrev dktJ40_get_0 : List UInt8 := dkwJ40_get_0 ++ []
theorem dksJ40_get_0 : cJ40_get.data.toList.drop 0 = dktJ40_get_0 := by decide +kernel
theorem dJ40_get_0 : decode cJ40_get 0 = .ok (.aload_n 0, 1) := dk_42 (dk_at dksJ40_get_0 0 rfl rfl)
theorem dJ40_get_1 : decode cJ40_get 1 = .ok (.getfield 13, 3) := dk_180 0 13 (dk_at dksJ40_get_0 1 rfl rfl)
theorem dJ40_get_4 : decode cJ40_get 4 = .ok (.ifnonnull 13, 3) := dk_199 0 13 (dk_at dksJ40_get_0 4 rfl rfl)
theorem dJ40_get_7 : decode cJ40_get 7 = .ok (.new 26, 3) := dk_187 0 26 (dk_at dksJ40_get_0 7 rfl rfl)
theorem dJ40_get_10 : decode cJ40_get 10 = .ok (.dup, 1) := dk_89 (dk_at dksJ40_get_0 10 rfl rfl)
theorem dJ40_get_11 : decode cJ40_get 11 = .ok (.ldc 28, 2) := dk_18 28 (dk_at dksJ40_get_0 11 rfl rfl)
theorem dJ40_get_13 : decode cJ40_get 13 = .ok (.invokespecial 30, 3) := dk_183 0 30 (dk_at dksJ40_get_0 13 rfl rfl)
theorem dJ40_get_16 : decode cJ40_get 16 = .ok (.athrow, 1) := dk_191 (dk_at dksJ40_get_0 16 rfl rfl)
theorem dJ40_get_17 : decode cJ40_get 17 = .ok (.aload_n 0, 1) := dk_42 (dk_at dksJ40_get_0 17 rfl rfl)
theorem dJ40_get_18 : decode cJ40_get 18 = .ok (.getfield 13, 3) := dk_180 0 13 (dk_at dksJ40_get_0 18 rfl rfl)
theorem dJ40_get_21 : decode cJ40_get 21 = .ok (.areturn, 1) := dk_176 (dk_at dksJ40_get_0 21 rfl rfl)
abbrev cJ41_init : ByteArray := object_method_1_code
def yJ41_init : MethodName := ⟨RJ41, "<init>", "()V"⟩
theorem dJ41_init_0 : decode cJ41_init 0 = .ok (.return_, 1) := by decide +kernel
abbrev cJ42_getUTF16Char : ByteArray := prog_41_method_45_code
def yJ42_getUTF16Char : MethodName := ⟨RJ42, "getUTF16Char", "([BI)C"⟩
def dkwJ42_getUTF16Char_0 : List UInt8 := [43, 28, 184, 0, 185, 172]
abbrev dktJ42_getUTF16Char_0 : List UInt8 := dkwJ42_getUTF16Char_0 ++ []
theorem dksJ42_getUTF16Char_0 : cJ42_getUTF16Char.data.toList.drop 0 = dktJ42_getUTF16Char_0 := by decide +kernel
theorem dJ42_getUTF16Char_0 : decode cJ42_getUTF16Char 0 = .ok (.aload_n 1, 1) := dk_43 (dk_at dksJ42_getUTF16Char_0 0 rfl rfl)
theorem dJ42_getUTF16Char_1 : decode cJ42_getUTF16Char 1 = .ok (.iload_n 2, 1) := dk_28 (dk_at dksJ42_getUTF16Char_0 1 rfl rfl)
theorem dJ42_getUTF16Char_2 : decode cJ42_getUTF16Char 2 = .ok (.invokestatic 185, 3) := dk_184 0 185 (dk_at dksJ42_getUTF16Char_0 2 rfl rfl)
theorem dJ42_getUTF16Char_5 : decode cJ42_getUTF16Char 5 = .ok (.ireturn, 1) := dk_172 (dk_at dksJ42_getUTF16Char_0 5 rfl rfl)
