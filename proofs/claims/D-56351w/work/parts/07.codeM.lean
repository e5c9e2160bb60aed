set_option maxRecDepth 100000
abbrev cX6_thrown : ByteArray := prog_14_method_1_code
def yX6_thrown : MethodName := ⟨RX6, "thrown", "()I"⟩
theorem dX6_thrown_0 : decode cX6_thrown 0 = .ok (.aload_n 0, 1) := by decide +kernel
theorem dX6_thrown_1 : decode cX6_thrown 1 = .ok (.getfield 1, 3) := by decide +kernel
theorem dX6_thrown_4 : decode cX6_thrown 4 = .ok (.ireturn, 1) := by decide +kernel
abbrev cX6_init : ByteArray := prog_14_method_4_code
def yX6_init : MethodName := ⟨RX6, "<init>", "()V"⟩
def dkwX6_init_5 : List UInt8 := [79, 177]
abbrev dktX6_init_5 : List UInt8 := dkwX6_init_5 ++ []
def dkwX6_init_4 : List UInt8 := [181, 0, 45, 42, 6, 188, 10, 181, 0, 48, 42, 180, 0, 13, 4, 16, 112, 79, 42, 180, 0, 13, 5, 4]
abbrev dktX6_init_4 : List UInt8 := dkwX6_init_4 ++ dktX6_init_5
def dkwX6_init_3 : List UInt8 := [188, 10, 181, 0, 35, 42, 16, 100, 188, 5, 181, 0, 38, 42, 16, 60, 188, 5, 181, 0, 42, 42, 2]
abbrev dktX6_init_3 : List UInt8 := dkwX6_init_3 ++ dktX6_init_4
def dkwX6_init_2 : List UInt8 := [181, 0, 26, 42, 17, 6, 0, 188, 10, 181, 0, 29, 42, 16, 12, 188, 10, 181, 0, 32, 42, 17, 59, 16]
abbrev dktX6_init_2 : List UInt8 := dkwX6_init_2 ++ dktX6_init_3
def dkwX6_init_1 : List UInt8 := [17, 0, 189, 188, 10, 181, 0, 20, 42, 17, 0, 189, 188, 10, 181, 0, 23, 42, 17, 0, 189, 188, 10]
abbrev dktX6_init_1 : List UInt8 := dkwX6_init_1 ++ dktX6_init_2
def dkwX6_init_0 : List UInt8 := [42, 183, 0, 7, 42, 17, 0, 189, 188, 10, 181, 0, 13, 42, 17, 5, 232, 188, 10, 181, 0, 17, 42]
abbrev dktX6_init_0 : List UInt8 := dkwX6_init_0 ++ dktX6_init_1
theorem dksX6_init_0 : cX6_init.data.toList.drop 0 = dktX6_init_0 := by decide +kernel
theorem dksX6_init_1 : cX6_init.data.toList.drop 23 = dktX6_init_1 := dk_seg dksX6_init_0 23 rfl rfl
theorem dksX6_init_2 : cX6_init.data.toList.drop 46 = dktX6_init_2 := dk_seg dksX6_init_1 23 rfl rfl
theorem dksX6_init_3 : cX6_init.data.toList.drop 70 = dktX6_init_3 := dk_seg dksX6_init_2 24 rfl rfl
theorem dksX6_init_4 : cX6_init.data.toList.drop 93 = dktX6_init_4 := dk_seg dksX6_init_3 23 rfl rfl
theorem dksX6_init_5 : cX6_init.data.toList.drop 117 = dktX6_init_5 := dk_seg dksX6_init_4 24 rfl rfl
theorem dX6_init_0 : decode cX6_init 0 = .ok (.aload_n 0, 1) := dk_42 (dk_at dksX6_init_0 0 rfl rfl)
theorem dX6_init_1 : decode cX6_init 1 = .ok (.invokespecial 7, 3) := dk_183 0 7 (dk_at dksX6_init_0 1 rfl rfl)
theorem dX6_init_4 : decode cX6_init 4 = .ok (.aload_n 0, 1) := dk_42 (dk_at dksX6_init_0 4 rfl rfl)
theorem dX6_init_5 : decode cX6_init 5 = .ok (.sipush 189, 3) := dk_17 0 189 (dk_at dksX6_init_0 5 rfl rfl)
theorem dX6_init_8 : decode cX6_init 8 = .ok (.newarray .int, 2) := dk_188_10 (dk_at dksX6_init_0 8 rfl rfl)
theorem dX6_init_10 : decode cX6_init 10 = .ok (.putfield 13, 3) := dk_181 0 13 (dk_at dksX6_init_0 10 rfl rfl)
theorem dX6_init_13 : decode cX6_init 13 = .ok (.aload_n 0, 1) := dk_42 (dk_at dksX6_init_0 13 rfl rfl)
theorem dX6_init_14 : decode cX6_init 14 = .ok (.sipush 1512, 3) := dk_17 5 232 (dk_at dksX6_init_0 14 rfl rfl)
theorem dX6_init_17 : decode cX6_init 17 = .ok (.newarray .int, 2) := dk_188_10 (dk_at dksX6_init_0 17 rfl rfl)
theorem dX6_init_19 : decode cX6_init 19 = .ok (.putfield 17, 3) := dk_181 0 17 (dk_at dksX6_init_0 19 rfl rfl)
theorem dX6_init_22 : decode cX6_init 22 = .ok (.aload_n 0, 1) := dk_42 (dk_at dksX6_init_0 22 rfl rfl)
theorem dX6_init_23 : decode cX6_init 23 = .ok (.sipush 189, 3) := dk_17 0 189 (dk_at dksX6_init_1 0 rfl rfl)
theorem dX6_init_26 : decode cX6_init 26 = .ok (.newarray .int, 2) := dk_188_10 (dk_at dksX6_init_1 3 rfl rfl)
theorem dX6_init_28 : decode cX6_init 28 = .ok (.putfield 20, 3) := dk_181 0 20 (dk_at dksX6_init_1 5 rfl rfl)
theorem dX6_init_31 : decode cX6_init 31 = .ok (.aload_n 0, 1) := dk_42 (dk_at dksX6_init_1 8 rfl rfl)
theorem dX6_init_32 : decode cX6_init 32 = .ok (.sipush 189, 3) := dk_17 0 189 (dk_at dksX6_init_1 9 rfl rfl)
theorem dX6_init_35 : decode cX6_init 35 = .ok (.newarray .int, 2) := dk_188_10 (dk_at dksX6_init_1 12 rfl rfl)
theorem dX6_init_37 : decode cX6_init 37 = .ok (.putfield 23, 3) := dk_181 0 23 (dk_at dksX6_init_1 14 rfl rfl)
theorem dX6_init_40 : decode cX6_init 40 = .ok (.aload_n 0, 1) := dk_42 (dk_at dksX6_init_1 17 rfl rfl)
theorem dX6_init_41 : decode cX6_init 41 = .ok (.sipush 189, 3) := dk_17 0 189 (dk_at dksX6_init_1 18 rfl rfl)
theorem dX6_init_44 : decode cX6_init 44 = .ok (.newarray .int, 2) := dk_188_10 (dk_at dksX6_init_1 21 rfl rfl)
theorem dX6_init_46 : decode cX6_init 46 = .ok (.putfield 26, 3) := dk_181 0 26 (dk_at dksX6_init_2 0 rfl rfl)
theorem dX6_init_49 : decode cX6_init 49 = .ok (.aload_n 0, 1) := dk_42 (dk_at dksX6_init_2 3 rfl rfl)
theorem dX6_init_50 : decode cX6_init 50 = .ok (.sipush 1536, 3) := dk_17 6 0 (dk_at dksX6_init_2 4 rfl rfl)
theorem dX6_init_53 : decode cX6_init 53 = .ok (.newarray .int, 2) := dk_188_10 (dk_at dksX6_init_2 7 rfl rfl)
theorem dX6_init_55 : decode cX6_init 55 = .ok (.putfield 29, 3) := dk_181 0 29 (dk_at dksX6_init_2 9 rfl rfl)
theorem dX6_init_58 : decode cX6_init 58 = .ok (.aload_n 0, 1) := dk_42 (dk_at dksX6_init_2 12 rfl rfl)
theorem dX6_init_59 : decode cX6_init 59 = .ok (.bipush 12, 2) := dk_16 12 (dk_at dksX6_init_2 13 rfl rfl)
theorem dX6_init_61 : decode cX6_init 61 = .ok (.newarray .int, 2) := dk_188_10 (dk_at dksX6_init_2 15 rfl rfl)
theorem dX6_init_63 : decode cX6_init 63 = .ok (.putfield 32, 3) := dk_181 0 32 (dk_at dksX6_init_2 17 rfl rfl)
theorem dX6_init_66 : decode cX6_init 66 = .ok (.aload_n 0, 1) := dk_42 (dk_at dksX6_init_2 20 rfl rfl)
theorem dX6_init_67 : decode cX6_init 67 = .ok (.sipush 15120, 3) := dk_17 59 16 (dk_at dksX6_init_2 21 rfl rfl)
theorem dX6_init_70 : decode cX6_init 70 = .ok (.newarray .int, 2) := dk_188_10 (dk_at dksX6_init_3 0 rfl rfl)
theorem dX6_init_72 : decode cX6_init 72 = .ok (.putfield 35, 3) := dk_181 0 35 (dk_at dksX6_init_3 2 rfl rfl)
theorem dX6_init_75 : decode cX6_init 75 = .ok (.aload_n 0, 1) := dk_42 (dk_at dksX6_init_3 5 rfl rfl)
theorem dX6_init_76 : decode cX6_init 76 = .ok (.bipush 100, 2) := dk_16 100 (dk_at dksX6_init_3 6 rfl rfl)
theorem dX6_init_78 : decode cX6_init 78 = .ok (.newarray .char, 2) := dk_188_5 (dk_at dksX6_init_3 8 rfl rfl)
theorem dX6_init_80 : decode cX6_init 80 = .ok (.putfield 38, 3) := dk_181 0 38 (dk_at dksX6_init_3 10 rfl rfl)
theorem dX6_init_83 : decode cX6_init 83 = .ok (.aload_n 0, 1) := dk_42 (dk_at dksX6_init_3 13 rfl rfl)
theorem dX6_init_84 : decode cX6_init 84 = .ok (.bipush 60, 2) := dk_16 60 (dk_at dksX6_init_3 14 rfl rfl)
theorem dX6_init_86 : decode cX6_init 86 = .ok (.newarray .char, 2) := dk_188_5 (dk_at dksX6_init_3 16 rfl rfl)
theorem dX6_init_88 : decode cX6_init 88 = .ok (.putfield 42, 3) := dk_181 0 42 (dk_at dksX6_init_3 18 rfl rfl)
theorem dX6_init_91 : decode cX6_init 91 = .ok (.aload_n 0, 1) := dk_42 (dk_at dksX6_init_3 21 rfl rfl)
theorem dX6_init_92 : decode cX6_init 92 = .ok (.iconst (-1), 1) := dk_2 (dk_at dksX6_init_3 22 rfl rfl)
theorem dX6_init_93 : decode cX6_init 93 = .ok (.putfield 45, 3) := dk_181 0 45 (dk_at dksX6_init_4 0 rfl rfl)
theorem dX6_init_96 : decode cX6_init 96 = .ok (.aload_n 0, 1) := dk_42 (dk_at dksX6_init_4 3 rfl rfl)
theorem dX6_init_97 : decode cX6_init 97 = .ok (.iconst 3, 1) := dk_6 (dk_at dksX6_init_4 4 rfl rfl)
theorem dX6_init_98 : decode cX6_init 98 = .ok (.newarray .int, 2) := dk_188_10 (dk_at dksX6_init_4 5 rfl rfl)
theorem dX6_init_100 : decode cX6_init 100 = .ok (.putfield 48, 3) := dk_181 0 48 (dk_at dksX6_init_4 7 rfl rfl)
theorem dX6_init_103 : decode cX6_init 103 = .ok (.aload_n 0, 1) := dk_42 (dk_at dksX6_init_4 10 rfl rfl)
theorem dX6_init_104 : decode cX6_init 104 = .ok (.getfield 13, 3) := dk_180 0 13 (dk_at dksX6_init_4 11 rfl rfl)
theorem dX6_init_107 : decode cX6_init 107 = .ok (.iconst 1, 1) := dk_4 (dk_at dksX6_init_4 14 rfl rfl)
theorem dX6_init_108 : decode cX6_init 108 = .ok (.bipush 112, 2) := dk_16 112 (dk_at dksX6_init_4 15 rfl rfl)
theorem dX6_init_110 : decode cX6_init 110 = .ok (.iastore, 1) := dk_79 (dk_at dksX6_init_4 17 rfl rfl)
theorem dX6_init_111 : decode cX6_init 111 = .ok (.aload_n 0, 1) := dk_42 (dk_at dksX6_init_4 18 rfl rfl)
theorem dX6_init_112 : decode cX6_init 112 = .ok (.getfield 13, 3) := dk_180 0 13 (dk_at dksX6_init_4 19 rfl rfl)
theorem dX6_init_115 : decode cX6_init 115 = .ok (.iconst 2, 1) := dk_5 (dk_at dksX6_init_4 22 rfl rfl)
theorem dX6_init_116 : decode cX6_init 116 = .ok (.iconst 1, 1) := dk_4 (dk_at dksX6_init_4 23 rfl rfl)
theorem dX6_init_117 : decode cX6_init 117 = .ok (.iastore, 1) := dk_79 (dk_at dksX6_init_5 0 rfl rfl)
theorem dX6_init_118 : decode cX6_init 118 = .ok (.return_, 1) := dk_177 (dk_at dksX6_init_5 1 rfl rfl)
abbrev cX6_addActor : ByteArray := prog_14_method_23_code
def yX6_addActor : MethodName := ⟨RX6, "addActor", "(CI)I"⟩
def dkwX6_addActor_1 : List UInt8 := [182, 0, 112, 42, 27, 28, 182, 0, 115, 172]
abbrev dktX6_addActor_1 : List UInt8 := dkwX6_addActor_1 ++ []
def dkwX6_addActor_0 : List UInt8 := [42, 3, 181, 0, 1, 42, 27, 28, 182, 0, 106, 62, 29, 153, 0, 9, 42, 29, 182, 0, 109, 172, 42]
abbrev dktX6_addActor_0 : List UInt8 := dkwX6_addActor_0 ++ dktX6_addActor_1
theorem dksX6_addActor_0 : cX6_addActor.data.toList.drop 0 = dktX6_addActor_0 := by decide +kernel
theorem dksX6_addActor_1 : cX6_addActor.data.toList.drop 23 = dktX6_addActor_1 := dk_seg dksX6_addActor_0 23 rfl rfl
theorem dX6_addActor_0 : decode cX6_addActor 0 = .ok (.aload_n 0, 1) := dk_42 (dk_at dksX6_addActor_0 0 rfl rfl)
theorem dX6_addActor_1 : decode cX6_addActor 1 = .ok (.iconst 0, 1) := dk_3 (dk_at dksX6_addActor_0 1 rfl rfl)
theorem dX6_addActor_2 : decode cX6_addActor 2 = .ok (.putfield 1, 3) := dk_181 0 1 (dk_at dksX6_addActor_0 2 rfl rfl)
theorem dX6_addActor_5 : decode cX6_addActor 5 = .ok (.aload_n 0, 1) := dk_42 (dk_at dksX6_addActor_0 5 rfl rfl)
theorem dX6_addActor_6 : decode cX6_addActor 6 = .ok (.iload_n 1, 1) := dk_27 (dk_at dksX6_addActor_0 6 rfl rfl)
theorem dX6_addActor_7 : decode cX6_addActor 7 = .ok (.iload_n 2, 1) := dk_28 (dk_at dksX6_addActor_0 7 rfl rfl)
theorem dX6_addActor_8 : decode cX6_addActor 8 = .ok (.invokevirtual 106, 3) := dk_182 0 106 (dk_at dksX6_addActor_0 8 rfl rfl)
theorem dX6_addActor_11 : decode cX6_addActor 11 = .ok (.istore_n 3, 1) := dk_62 (dk_at dksX6_addActor_0 11 rfl rfl)
theorem dX6_addActor_12 : decode cX6_addActor 12 = .ok (.iload_n 3, 1) := dk_29 (dk_at dksX6_addActor_0 12 rfl rfl)
theorem dX6_addActor_13 : decode cX6_addActor 13 = .ok (.ifCond .eq 9, 3) := dk_153 0 9 (dk_at dksX6_addActor_0 13 rfl rfl)
theorem dX6_addActor_16 : decode cX6_addActor 16 = .ok (.aload_n 0, 1) := dk_42 (dk_at dksX6_addActor_0 16 rfl rfl)
theorem dX6_addActor_17 : decode cX6_addActor 17 = .ok (.iload_n 3, 1) := dk_29 (dk_at dksX6_addActor_0 17 rfl rfl)
theorem dX6_addActor_18 : decode cX6_addActor 18 = .ok (.invokevirtual 109, 3) := dk_182 0 109 (dk_at dksX6_addActor_0 18 rfl rfl)
theorem dX6_addActor_21 : decode cX6_addActor 21 = .ok (.ireturn, 1) := dk_172 (dk_at dksX6_addActor_0 21 rfl rfl)
theorem dX6_addActor_22 : decode cX6_addActor 22 = .ok (.aload_n 0, 1) := dk_42 (dk_at dksX6_addActor_0 22 rfl rfl)
theorem dX6_addActor_23 : decode cX6_addActor 23 = .ok (.invokevirtual 112, 3) := dk_182 0 112 (dk_at dksX6_addActor_1 0 rfl rfl)
theorem dX6_addActor_26 : decode cX6_addActor 26 = .ok (.aload_n 0, 1) := dk_42 (dk_at dksX6_addActor_1 3 rfl rfl)
theorem dX6_addActor_27 : decode cX6_addActor 27 = .ok (.iload_n 1, 1) := dk_27 (dk_at dksX6_addActor_1 4 rfl rfl)
theorem dX6_addActor_28 : decode cX6_addActor 28 = .ok (.iload_n 2, 1) := dk_28 (dk_at dksX6_addActor_1 5 rfl rfl)
theorem dX6_addActor_29 : decode cX6_addActor 29 = .ok (.invokevirtual 115, 3) := dk_182 0 115 (dk_at dksX6_addActor_1 6 rfl rfl)
theorem dX6_addActor_32 : decode cX6_addActor 32 = .ok (.ireturn, 1) := dk_172 (dk_at dksX6_addActor_1 9 rfl rfl)
abbrev cX6_notAdd : ByteArray := prog_14_method_21_code
def yX6_notAdd : MethodName := ⟨RX6, "notAdd", "(II)I"⟩
def dkwX6_notAdd_1 : List UInt8 := [46, 16, 8, 160, 0, 14, 42, 4, 16, 8, 5, 182, 0, 98, 167, 0, 4, 3, 172]
abbrev dktX6_notAdd_1 : List UInt8 := dkwX6_notAdd_1 ++ []
def dkwX6_notAdd_0 : List UInt8 := [27, 184, 0, 95, 153, 0, 13, 28, 4, 16, 6, 184, 0, 79, 154, 0, 5, 4, 172, 42, 180, 0, 13, 3]
abbrev dktX6_notAdd_0 : List UInt8 := dkwX6_notAdd_0 ++ dktX6_notAdd_1
theorem dksX6_notAdd_0 : cX6_notAdd.data.toList.drop 0 = dktX6_notAdd_0 := by decide +kernel
theorem dksX6_notAdd_1 : cX6_notAdd.data.toList.drop 24 = dktX6_notAdd_1 := dk_seg dksX6_notAdd_0 24 rfl rfl
theorem dX6_notAdd_0 : decode cX6_notAdd 0 = .ok (.iload_n 1, 1) := dk_27 (dk_at dksX6_notAdd_0 0 rfl rfl)
theorem dX6_notAdd_1 : decode cX6_notAdd 1 = .ok (.invokestatic 95, 3) := dk_184 0 95 (dk_at dksX6_notAdd_0 1 rfl rfl)
theorem dX6_notAdd_4 : decode cX6_notAdd 4 = .ok (.ifCond .eq 13, 3) := dk_153 0 13 (dk_at dksX6_notAdd_0 4 rfl rfl)
theorem dX6_notAdd_7 : decode cX6_notAdd 7 = .ok (.iload_n 2, 1) := dk_28 (dk_at dksX6_notAdd_0 7 rfl rfl)
theorem dX6_notAdd_8 : decode cX6_notAdd 8 = .ok (.iconst 1, 1) := dk_4 (dk_at dksX6_notAdd_0 8 rfl rfl)
theorem dX6_notAdd_9 : decode cX6_notAdd 9 = .ok (.bipush 6, 2) := dk_16 6 (dk_at dksX6_notAdd_0 9 rfl rfl)
theorem dX6_notAdd_11 : decode cX6_notAdd 11 = .ok (.invokestatic 79, 3) := dk_184 0 79 (dk_at dksX6_notAdd_0 11 rfl rfl)
theorem dX6_notAdd_14 : decode cX6_notAdd 14 = .ok (.ifCond .ne 5, 3) := dk_154 0 5 (dk_at dksX6_notAdd_0 14 rfl rfl)
theorem dX6_notAdd_17 : decode cX6_notAdd 17 = .ok (.iconst 1, 1) := dk_4 (dk_at dksX6_notAdd_0 17 rfl rfl)
theorem dX6_notAdd_18 : decode cX6_notAdd 18 = .ok (.ireturn, 1) := dk_172 (dk_at dksX6_notAdd_0 18 rfl rfl)
theorem dX6_notAdd_19 : decode cX6_notAdd 19 = .ok (.aload_n 0, 1) := dk_42 (dk_at dksX6_notAdd_0 19 rfl rfl)
theorem dX6_notAdd_20 : decode cX6_notAdd 20 = .ok (.getfield 13, 3) := dk_180 0 13 (dk_at dksX6_notAdd_0 20 rfl rfl)
theorem dX6_notAdd_23 : decode cX6_notAdd 23 = .ok (.iconst 0, 1) := dk_3 (dk_at dksX6_notAdd_0 23 rfl rfl)
theorem dX6_notAdd_24 : decode cX6_notAdd 24 = .ok (.iaload, 1) := dk_46 (dk_at dksX6_notAdd_1 0 rfl rfl)
theorem dX6_notAdd_25 : decode cX6_notAdd 25 = .ok (.bipush 8, 2) := dk_16 8 (dk_at dksX6_notAdd_1 1 rfl rfl)
theorem dX6_notAdd_27 : decode cX6_notAdd 27 = .ok (.if_icmp .ne 14, 3) := dk_160 0 14 (dk_at dksX6_notAdd_1 3 rfl rfl)
theorem dX6_notAdd_30 : decode cX6_notAdd 30 = .ok (.aload_n 0, 1) := dk_42 (dk_at dksX6_notAdd_1 6 rfl rfl)
theorem dX6_notAdd_31 : decode cX6_notAdd 31 = .ok (.iconst 1, 1) := dk_4 (dk_at dksX6_notAdd_1 7 rfl rfl)
theorem dX6_notAdd_32 : decode cX6_notAdd 32 = .ok (.bipush 8, 2) := dk_16 8 (dk_at dksX6_notAdd_1 8 rfl rfl)
theorem dX6_notAdd_34 : decode cX6_notAdd 34 = .ok (.iconst 2, 1) := dk_5 (dk_at dksX6_notAdd_1 10 rfl rfl)
theorem dX6_notAdd_35 : decode cX6_notAdd 35 = .ok (.invokevirtual 98, 3) := dk_182 0 98 (dk_at dksX6_notAdd_1 11 rfl rfl)
theorem dX6_notAdd_38 : decode cX6_notAdd 38 = .ok (.goto 4, 3) := dk_167 0 4 (dk_at dksX6_notAdd_1 14 rfl rfl)
theorem dX6_notAdd_41 : decode cX6_notAdd 41 = .ok (.iconst 0, 1) := dk_3 (dk_at dksX6_notAdd_1 17 rfl rfl)
theorem dX6_notAdd_42 : decode cX6_notAdd 42 = .ok (.ireturn, 1) := dk_172 (dk_at dksX6_notAdd_1 18 rfl rfl)
abbrev cX6_isKind : ByteArray := prog_14_method_20_code
def yX6_isKind : MethodName := ⟨RX6, "isKind", "(I)Z"⟩
def dkwX6_isKind_1 : List UInt8 := [26, 16, 100, 160, 0, 7, 4, 167, 0, 4, 3, 172]
abbrev dktX6_isKind_1 : List UInt8 := dkwX6_isKind_1 ++ []
def dkwX6_isKind_0 : List UInt8 := [26, 16, 97, 159, 0, 27, 26, 16, 107, 159, 0, 21, 26, 16, 120, 159, 0, 15, 26, 16, 102, 159, 0, 9]
abbrev dktX6_isKind_0 : List UInt8 := dkwX6_isKind_0 ++ dktX6_isKind_1
theorem dksX6_isKind_0 : cX6_isKind.data.toList.drop 0 = dktX6_isKind_0 := by decide +kernel
theorem dksX6_isKind_1 : cX6_isKind.data.toList.drop 24 = dktX6_isKind_1 := dk_seg dksX6_isKind_0 24 rfl rfl
theorem dX6_isKind_0 : decode cX6_isKind 0 = .ok (.iload_n 0, 1) := dk_26 (dk_at dksX6_isKind_0 0 rfl rfl)
theorem dX6_isKind_1 : decode cX6_isKind 1 = .ok (.bipush 97, 2) := dk_16 97 (dk_at dksX6_isKind_0 1 rfl rfl)
theorem dX6_isKind_3 : decode cX6_isKind 3 = .ok (.if_icmp .eq 27, 3) := dk_159 0 27 (dk_at dksX6_isKind_0 3 rfl rfl)
theorem dX6_isKind_6 : decode cX6_isKind 6 = .ok (.iload_n 0, 1) := dk_26 (dk_at dksX6_isKind_0 6 rfl rfl)
theorem dX6_isKind_7 : decode cX6_isKind 7 = .ok (.bipush 107, 2) := dk_16 107 (dk_at dksX6_isKind_0 7 rfl rfl)
theorem dX6_isKind_9 : decode cX6_isKind 9 = .ok (.if_icmp .eq 21, 3) := dk_159 0 21 (dk_at dksX6_isKind_0 9 rfl rfl)
theorem dX6_isKind_12 : decode cX6_isKind 12 = .ok (.iload_n 0, 1) := dk_26 (dk_at dksX6_isKind_0 12 rfl rfl)
theorem dX6_isKind_13 : decode cX6_isKind 13 = .ok (.bipush 120, 2) := dk_16 120 (dk_at dksX6_isKind_0 13 rfl rfl)
theorem dX6_isKind_15 : decode cX6_isKind 15 = .ok (.if_icmp .eq 15, 3) := dk_159 0 15 (dk_at dksX6_isKind_0 15 rfl rfl)
theorem dX6_isKind_18 : decode cX6_isKind 18 = .ok (.iload_n 0, 1) := dk_26 (dk_at dksX6_isKind_0 18 rfl rfl)
theorem dX6_isKind_19 : decode cX6_isKind 19 = .ok (.bipush 102, 2) := dk_16 102 (dk_at dksX6_isKind_0 19 rfl rfl)
theorem dX6_isKind_21 : decode cX6_isKind 21 = .ok (.if_icmp .eq 9, 3) := dk_159 0 9 (dk_at dksX6_isKind_0 21 rfl rfl)
theorem dX6_isKind_24 : decode cX6_isKind 24 = .ok (.iload_n 0, 1) := dk_26 (dk_at dksX6_isKind_1 0 rfl rfl)
theorem dX6_isKind_25 : decode cX6_isKind 25 = .ok (.bipush 100, 2) := dk_16 100 (dk_at dksX6_isKind_1 1 rfl rfl)
theorem dX6_isKind_27 : decode cX6_isKind 27 = .ok (.if_icmp .ne 7, 3) := dk_160 0 7 (dk_at dksX6_isKind_1 3 rfl rfl)
theorem dX6_isKind_30 : decode cX6_isKind 30 = .ok (.iconst 1, 1) := dk_4 (dk_at dksX6_isKind_1 6 rfl rfl)
theorem dX6_isKind_31 : decode cX6_isKind 31 = .ok (.goto 4, 3) := dk_167 0 4 (dk_at dksX6_isKind_1 7 rfl rfl)
theorem dX6_isKind_34 : decode cX6_isKind 34 = .ok (.iconst 0, 1) := dk_3 (dk_at dksX6_isKind_1 10 rfl rfl)
theorem dX6_isKind_35 : decode cX6_isKind 35 = .ok (.ireturn, 1) := dk_172 (dk_at dksX6_isKind_1 11 rfl rfl)
abbrev cX6_isBetween : ByteArray := prog_14_method_3_code
def yX6_isBetween : MethodName := ⟨RX6, "isBetween", "(III)Z"⟩
def dkwX6_isBetween_0 : List UInt8 := [27, 26, 163, 0, 12, 26, 28, 163, 0, 7, 4, 167, 0, 4, 3, 172]
abbrev dktX6_isBetween_0 : List UInt8 := dkwX6_isBetween_0 ++ []
theorem dksX6_isBetween_0 : cX6_isBetween.data.toList.drop 0 = dktX6_isBetween_0 := by decide +kernel
theorem dX6_isBetween_0 : decode cX6_isBetween 0 = .ok (.iload_n 1, 1) := dk_27 (dk_at dksX6_isBetween_0 0 rfl rfl)
theorem dX6_isBetween_1 : decode cX6_isBetween 1 = .ok (.iload_n 0, 1) := dk_26 (dk_at dksX6_isBetween_0 1 rfl rfl)
theorem dX6_isBetween_2 : decode cX6_isBetween 2 = .ok (.if_icmp .gt 12, 3) := dk_163 0 12 (dk_at dksX6_isBetween_0 2 rfl rfl)
theorem dX6_isBetween_5 : decode cX6_isBetween 5 = .ok (.iload_n 0, 1) := dk_26 (dk_at dksX6_isBetween_0 5 rfl rfl)
theorem dX6_isBetween_6 : decode cX6_isBetween 6 = .ok (.iload_n 2, 1) := dk_28 (dk_at dksX6_isBetween_0 6 rfl rfl)
theorem dX6_isBetween_7 : decode cX6_isBetween 7 = .ok (.if_icmp .gt 7, 3) := dk_163 0 7 (dk_at dksX6_isBetween_0 7 rfl rfl)
theorem dX6_isBetween_10 : decode cX6_isBetween 10 = .ok (.iconst 1, 1) := dk_4 (dk_at dksX6_isBetween_0 10 rfl rfl)
theorem dX6_isBetween_11 : decode cX6_isBetween 11 = .ok (.goto 4, 3) := dk_167 0 4 (dk_at dksX6_isBetween_0 11 rfl rfl)
theorem dX6_isBetween_14 : decode cX6_isBetween 14 = .ok (.iconst 0, 1) := dk_3 (dk_at dksX6_isBetween_0 14 rfl rfl)
theorem dX6_isBetween_15 : decode cX6_isBetween 15 = .ok (.ireturn, 1) := dk_172 (dk_at dksX6_isBetween_0 15 rfl rfl)
abbrev cX6_denies : ByteArray := prog_14_method_11_code
def yX6_denies : MethodName := ⟨RX6, "denies", "(III)I"⟩
def dkwX6_denies_0 : List UInt8 := [42, 28, 181, 0, 63, 16, 100, 27, 104, 29, 96, 172]
abbrev dktX6_denies_0 : List UInt8 := dkwX6_denies_0 ++ []
theorem dksX6_denies_0 : cX6_denies.data.toList.drop 0 = dktX6_denies_0 := by decide +kernel
theorem dX6_denies_0 : decode cX6_denies 0 = .ok (.aload_n 0, 1) := dk_42 (dk_at dksX6_denies_0 0 rfl rfl)
theorem dX6_denies_1 : decode cX6_denies 1 = .ok (.iload_n 2, 1) := dk_28 (dk_at dksX6_denies_0 1 rfl rfl)
theorem dX6_denies_2 : decode cX6_denies 2 = .ok (.putfield 63, 3) := dk_181 0 63 (dk_at dksX6_denies_0 2 rfl rfl)
theorem dX6_denies_5 : decode cX6_denies 5 = .ok (.bipush 100, 2) := dk_16 100 (dk_at dksX6_denies_0 5 rfl rfl)
theorem dX6_denies_7 : decode cX6_denies 7 = .ok (.iload_n 1, 1) := dk_27 (dk_at dksX6_denies_0 7 rfl rfl)
theorem dX6_denies_8 : decode cX6_denies 8 = .ok (.imul, 1) := dk_104 (dk_at dksX6_denies_0 8 rfl rfl)
theorem dX6_denies_9 : decode cX6_denies 9 = .ok (.iload_n 3, 1) := dk_29 (dk_at dksX6_denies_0 9 rfl rfl)
theorem dX6_denies_10 : decode cX6_denies 10 = .ok (.iadd, 1) := dk_96 (dk_at dksX6_denies_0 10 rfl rfl)
theorem dX6_denies_11 : decode cX6_denies 11 = .ok (.ireturn, 1) := dk_172 (dk_at dksX6_denies_0 11 rfl rfl)
abbrev cX6_failsBy : ByteArray := prog_14_method_12_code
def yX6_failsBy : MethodName := ⟨RX6, "failsBy", "(I)I"⟩
def dkwX6_failsBy_1 : List UInt8 := [181, 0, 72, 42, 27, 16, 100, 112, 182, 0, 75, 172]
abbrev dktX6_failsBy_1 : List UInt8 := dkwX6_failsBy_1 ++ []
def dkwX6_failsBy_0 : List UInt8 := [27, 16, 100, 164, 0, 24, 42, 27, 16, 100, 108, 181, 0, 66, 42, 42, 180, 0, 63, 181, 0, 69, 42, 3]
abbrev dktX6_failsBy_0 : List UInt8 := dkwX6_failsBy_0 ++ dktX6_failsBy_1
theorem dksX6_failsBy_0 : cX6_failsBy.data.toList.drop 0 = dktX6_failsBy_0 := by decide +kernel
theorem dksX6_failsBy_1 : cX6_failsBy.data.toList.drop 24 = dktX6_failsBy_1 := dk_seg dksX6_failsBy_0 24 rfl rfl
theorem dX6_failsBy_0 : decode cX6_failsBy 0 = .ok (.iload_n 1, 1) := dk_27 (dk_at dksX6_failsBy_0 0 rfl rfl)
theorem dX6_failsBy_1 : decode cX6_failsBy 1 = .ok (.bipush 100, 2) := dk_16 100 (dk_at dksX6_failsBy_0 1 rfl rfl)
theorem dX6_failsBy_3 : decode cX6_failsBy 3 = .ok (.if_icmp .le 24, 3) := dk_164 0 24 (dk_at dksX6_failsBy_0 3 rfl rfl)
theorem dX6_failsBy_6 : decode cX6_failsBy 6 = .ok (.aload_n 0, 1) := dk_42 (dk_at dksX6_failsBy_0 6 rfl rfl)
theorem dX6_failsBy_7 : decode cX6_failsBy 7 = .ok (.iload_n 1, 1) := dk_27 (dk_at dksX6_failsBy_0 7 rfl rfl)
theorem dX6_failsBy_8 : decode cX6_failsBy 8 = .ok (.bipush 100, 2) := dk_16 100 (dk_at dksX6_failsBy_0 8 rfl rfl)
theorem dX6_failsBy_10 : decode cX6_failsBy 10 = .ok (.idiv, 1) := dk_108 (dk_at dksX6_failsBy_0 10 rfl rfl)
theorem dX6_failsBy_11 : decode cX6_failsBy 11 = .ok (.putfield 66, 3) := dk_181 0 66 (dk_at dksX6_failsBy_0 11 rfl rfl)
theorem dX6_failsBy_14 : decode cX6_failsBy 14 = .ok (.aload_n 0, 1) := dk_42 (dk_at dksX6_failsBy_0 14 rfl rfl)
theorem dX6_failsBy_15 : decode cX6_failsBy 15 = .ok (.aload_n 0, 1) := dk_42 (dk_at dksX6_failsBy_0 15 rfl rfl)
theorem dX6_failsBy_16 : decode cX6_failsBy 16 = .ok (.getfield 63, 3) := dk_180 0 63 (dk_at dksX6_failsBy_0 16 rfl rfl)
theorem dX6_failsBy_19 : decode cX6_failsBy 19 = .ok (.putfield 69, 3) := dk_181 0 69 (dk_at dksX6_failsBy_0 19 rfl rfl)
theorem dX6_failsBy_22 : decode cX6_failsBy 22 = .ok (.aload_n 0, 1) := dk_42 (dk_at dksX6_failsBy_0 22 rfl rfl)
theorem dX6_failsBy_23 : decode cX6_failsBy 23 = .ok (.iconst 0, 1) := dk_3 (dk_at dksX6_failsBy_0 23 rfl rfl)
theorem dX6_failsBy_24 : decode cX6_failsBy 24 = .ok (.putfield 72, 3) := dk_181 0 72 (dk_at dksX6_failsBy_1 0 rfl rfl)
theorem dX6_failsBy_27 : decode cX6_failsBy 27 = .ok (.aload_n 0, 1) := dk_42 (dk_at dksX6_failsBy_1 3 rfl rfl)
theorem dX6_failsBy_28 : decode cX6_failsBy 28 = .ok (.iload_n 1, 1) := dk_27 (dk_at dksX6_failsBy_1 4 rfl rfl)
theorem dX6_failsBy_29 : decode cX6_failsBy 29 = .ok (.bipush 100, 2) := dk_16 100 (dk_at dksX6_failsBy_1 5 rfl rfl)
theorem dX6_failsBy_31 : decode cX6_failsBy 31 = .ok (.irem, 1) := dk_112 (dk_at dksX6_failsBy_1 7 rfl rfl)
theorem dX6_failsBy_32 : decode cX6_failsBy 32 = .ok (.invokevirtual 75, 3) := dk_182 0 75 (dk_at dksX6_failsBy_1 8 rfl rfl)
theorem dX6_failsBy_35 : decode cX6_failsBy 35 = .ok (.ireturn, 1) := dk_172 (dk_at dksX6_failsBy_1 11 rfl rfl)
abbrev cX6_fails : ByteArray := prog_14_method_2_code
def yX6_fails : MethodName := ⟨RX6, "fails", "(I)I"⟩
def dkwX6_fails_0 : List UInt8 := [42, 27, 181, 0, 1, 3, 172]
abbrev dktX6_fails_0 : List UInt8 := dkwX6_fails_0 ++ []
theorem dksX6_fails_0 : cX6_fails.data.toList.drop 0 = dktX6_fails_0 := by decide +kernel
theorem dX6_fails_0 : decode cX6_fails 0 = .ok (.aload_n 0, 1) := dk_42 (dk_at dksX6_fails_0 0 rfl rfl)
theorem dX6_fails_1 : decode cX6_fails 1 = .ok (.iload_n 1, 1) := dk_27 (dk_at dksX6_fails_0 1 rfl rfl)
theorem dX6_fails_2 : decode cX6_fails 2 = .ok (.putfield 1, 3) := dk_181 0 1 (dk_at dksX6_fails_0 2 rfl rfl)
theorem dX6_fails_5 : decode cX6_fails 5 = .ok (.iconst 0, 1) := dk_3 (dk_at dksX6_fails_0 5 rfl rfl)
theorem dX6_fails_6 : decode cX6_fails 6 = .ok (.ireturn, 1) := dk_172 (dk_at dksX6_fails_0 6 rfl rfl)
abbrev cX6_remembers : ByteArray := prog_14_method_10_code
def yX6_remembers : MethodName := ⟨RX6, "remembers", "()V"⟩
def dkwX6_remembers_0 : List UInt8 := [42, 182, 0, 57, 42, 182, 0, 60, 177]
abbrev dktX6_remembers_0 : List UInt8 := dkwX6_remembers_0 ++ []
theorem dksX6_remembers_0 : cX6_remembers.data.toList.drop 0 = dktX6_remembers_0 := by decide +kernel
theorem dX6_remembers_0 : decode cX6_remembers 0 = .ok (.aload_n 0, 1) := dk_42 (dk_at dksX6_remembers_0 0 rfl rfl)
theorem dX6_remembers_1 : decode cX6_remembers 1 = .ok (.invokevirtual 57, 3) := dk_182 0 57 (dk_at dksX6_remembers_0 1 rfl rfl)
theorem dX6_remembers_4 : decode cX6_remembers 4 = .ok (.aload_n 0, 1) := dk_42 (dk_at dksX6_remembers_0 4 rfl rfl)
theorem dX6_remembers_5 : decode cX6_remembers 5 = .ok (.invokevirtual 60, 3) := dk_182 0 60 (dk_at dksX6_remembers_0 5 rfl rfl)
theorem dX6_remembers_8 : decode cX6_remembers 8 = .ok (.return_, 1) := dk_177 (dk_at dksX6_remembers_0 8 rfl rfl)
abbrev cX6_copies : ByteArray := prog_14_method_5_code
def yX6_copies : MethodName := ⟨RX6, "copies", "()V"⟩
def dkwX6_copies_1 : List UInt8 := [167, 255, 234, 177]
abbrev dktX6_copies_1 : List UInt8 := dkwX6_copies_1 ++ []
def dkwX6_copies_0 : List UInt8 := [3, 60, 27, 17, 0, 189, 162, 0, 21, 42, 180, 0, 23, 27, 42, 180, 0, 13, 27, 46, 79, 132, 1, 1]
abbrev dktX6_copies_0 : List UInt8 := dkwX6_copies_0 ++ dktX6_copies_1
theorem dksX6_copies_0 : cX6_copies.data.toList.drop 0 = dktX6_copies_0 := by decide +kernel
theorem dksX6_copies_1 : cX6_copies.data.toList.drop 24 = dktX6_copies_1 := dk_seg dksX6_copies_0 24 rfl rfl
theorem dX6_copies_0 : decode cX6_copies 0 = .ok (.iconst 0, 1) := dk_3 (dk_at dksX6_copies_0 0 rfl rfl)
theorem dX6_copies_1 : decode cX6_copies 1 = .ok (.istore_n 1, 1) := dk_60 (dk_at dksX6_copies_0 1 rfl rfl)
theorem dX6_copies_2 : decode cX6_copies 2 = .ok (.iload_n 1, 1) := dk_27 (dk_at dksX6_copies_0 2 rfl rfl)
theorem dX6_copies_3 : decode cX6_copies 3 = .ok (.sipush 189, 3) := dk_17 0 189 (dk_at dksX6_copies_0 3 rfl rfl)
theorem dX6_copies_6 : decode cX6_copies 6 = .ok (.if_icmp .ge 21, 3) := dk_162 0 21 (dk_at dksX6_copies_0 6 rfl rfl)
theorem dX6_copies_9 : decode cX6_copies 9 = .ok (.aload_n 0, 1) := dk_42 (dk_at dksX6_copies_0 9 rfl rfl)
theorem dX6_copies_10 : decode cX6_copies 10 = .ok (.getfield 23, 3) := dk_180 0 23 (dk_at dksX6_copies_0 10 rfl rfl)
theorem dX6_copies_13 : decode cX6_copies 13 = .ok (.iload_n 1, 1) := dk_27 (dk_at dksX6_copies_0 13 rfl rfl)
theorem dX6_copies_14 : decode cX6_copies 14 = .ok (.aload_n 0, 1) := dk_42 (dk_at dksX6_copies_0 14 rfl rfl)
theorem dX6_copies_15 : decode cX6_copies 15 = .ok (.getfield 13, 3) := dk_180 0 13 (dk_at dksX6_copies_0 15 rfl rfl)
theorem dX6_copies_18 : decode cX6_copies 18 = .ok (.iload_n 1, 1) := dk_27 (dk_at dksX6_copies_0 18 rfl rfl)
theorem dX6_copies_19 : decode cX6_copies 19 = .ok (.iaload, 1) := dk_46 (dk_at dksX6_copies_0 19 rfl rfl)
theorem dX6_copies_20 : decode cX6_copies 20 = .ok (.iastore, 1) := dk_79 (dk_at dksX6_copies_0 20 rfl rfl)
theorem dX6_copies_21 : decode cX6_copies 21 = .ok (.iinc 1 1, 3) := dk_132 1 1 (dk_at dksX6_copies_0 21 rfl rfl)
theorem dX6_copies_24 : decode cX6_copies 24 = .ok (.goto (-22), 3) := dk_167 255 234 (dk_at dksX6_copies_1 0 rfl rfl)
theorem dX6_copies_27 : decode cX6_copies 27 = .ok (.return_, 1) := dk_177 (dk_at dksX6_copies_1 3 rfl rfl)
abbrev cX6_keeps : ByteArray := prog_14_method_9_code
def yX6_keeps : MethodName := ⟨RX6, "keeps", "()V"⟩
def dkwX6_keeps_3 : List UInt8 := [132, 2, 1, 167, 255, 228, 42, 89, 180, 0, 51, 4, 96, 181, 0, 51, 177]
abbrev dktX6_keeps_3 : List UInt8 := dkwX6_keeps_3 ++ []
def dkwX6_keeps_2 : List UInt8 := [17, 0, 189, 162, 0, 27, 42, 180, 0, 17, 17, 0, 189, 27, 104, 28, 96, 42, 180, 0, 23, 28, 46, 79]
abbrev dktX6_keeps_2 : List UInt8 := dkwX6_keeps_2 ++ dktX6_keeps_3
def dkwX6_keeps_1 : List UInt8 := [180, 0, 51, 4, 100, 181, 0, 51, 42, 180, 0, 54, 42, 180, 0, 51, 96, 16, 8, 112, 60, 3, 61, 28]
abbrev dktX6_keeps_1 : List UInt8 := dkwX6_keeps_1 ++ dktX6_keeps_2
def dkwX6_keeps_0 : List UInt8 := [42, 180, 0, 51, 16, 8, 160, 0, 26, 42, 42, 180, 0, 54, 4, 96, 16, 8, 112, 181, 0, 54, 42, 89]
abbrev dktX6_keeps_0 : List UInt8 := dkwX6_keeps_0 ++ dktX6_keeps_1
theorem dksX6_keeps_0 : cX6_keeps.data.toList.drop 0 = dktX6_keeps_0 := by decide +kernel
theorem dksX6_keeps_1 : cX6_keeps.data.toList.drop 24 = dktX6_keeps_1 := dk_seg dksX6_keeps_0 24 rfl rfl
theorem dksX6_keeps_2 : cX6_keeps.data.toList.drop 48 = dktX6_keeps_2 := dk_seg dksX6_keeps_1 24 rfl rfl
theorem dksX6_keeps_3 : cX6_keeps.data.toList.drop 72 = dktX6_keeps_3 := dk_seg dksX6_keeps_2 24 rfl rfl
theorem dX6_keeps_0 : decode cX6_keeps 0 = .ok (.aload_n 0, 1) := dk_42 (dk_at dksX6_keeps_0 0 rfl rfl)
theorem dX6_keeps_1 : decode cX6_keeps 1 = .ok (.getfield 51, 3) := dk_180 0 51 (dk_at dksX6_keeps_0 1 rfl rfl)
theorem dX6_keeps_4 : decode cX6_keeps 4 = .ok (.bipush 8, 2) := dk_16 8 (dk_at dksX6_keeps_0 4 rfl rfl)
theorem dX6_keeps_6 : decode cX6_keeps 6 = .ok (.if_icmp .ne 26, 3) := dk_160 0 26 (dk_at dksX6_keeps_0 6 rfl rfl)
theorem dX6_keeps_9 : decode cX6_keeps 9 = .ok (.aload_n 0, 1) := dk_42 (dk_at dksX6_keeps_0 9 rfl rfl)
theorem dX6_keeps_10 : decode cX6_keeps 10 = .ok (.aload_n 0, 1) := dk_42 (dk_at dksX6_keeps_0 10 rfl rfl)
theorem dX6_keeps_11 : decode cX6_keeps 11 = .ok (.getfield 54, 3) := dk_180 0 54 (dk_at dksX6_keeps_0 11 rfl rfl)
theorem dX6_keeps_14 : decode cX6_keeps 14 = .ok (.iconst 1, 1) := dk_4 (dk_at dksX6_keeps_0 14 rfl rfl)
theorem dX6_keeps_15 : decode cX6_keeps 15 = .ok (.iadd, 1) := dk_96 (dk_at dksX6_keeps_0 15 rfl rfl)
theorem dX6_keeps_16 : decode cX6_keeps 16 = .ok (.bipush 8, 2) := dk_16 8 (dk_at dksX6_keeps_0 16 rfl rfl)
theorem dX6_keeps_18 : decode cX6_keeps 18 = .ok (.irem, 1) := dk_112 (dk_at dksX6_keeps_0 18 rfl rfl)
theorem dX6_keeps_19 : decode cX6_keeps 19 = .ok (.putfield 54, 3) := dk_181 0 54 (dk_at dksX6_keeps_0 19 rfl rfl)
theorem dX6_keeps_22 : decode cX6_keeps 22 = .ok (.aload_n 0, 1) := dk_42 (dk_at dksX6_keeps_0 22 rfl rfl)
theorem dX6_keeps_23 : decode cX6_keeps 23 = .ok (.dup, 1) := dk_89 (dk_at dksX6_keeps_0 23 rfl rfl)
theorem dX6_keeps_24 : decode cX6_keeps 24 = .ok (.getfield 51, 3) := dk_180 0 51 (dk_at dksX6_keeps_1 0 rfl rfl)
theorem dX6_keeps_27 : decode cX6_keeps 27 = .ok (.iconst 1, 1) := dk_4 (dk_at dksX6_keeps_1 3 rfl rfl)
theorem dX6_keeps_28 : decode cX6_keeps 28 = .ok (.isub, 1) := dk_100 (dk_at dksX6_keeps_1 4 rfl rfl)
theorem dX6_keeps_29 : decode cX6_keeps 29 = .ok (.putfield 51, 3) := dk_181 0 51 (dk_at dksX6_keeps_1 5 rfl rfl)
theorem dX6_keeps_32 : decode cX6_keeps 32 = .ok (.aload_n 0, 1) := dk_42 (dk_at dksX6_keeps_1 8 rfl rfl)
theorem dX6_keeps_33 : decode cX6_keeps 33 = .ok (.getfield 54, 3) := dk_180 0 54 (dk_at dksX6_keeps_1 9 rfl rfl)
theorem dX6_keeps_36 : decode cX6_keeps 36 = .ok (.aload_n 0, 1) := dk_42 (dk_at dksX6_keeps_1 12 rfl rfl)
theorem dX6_keeps_37 : decode cX6_keeps 37 = .ok (.getfield 51, 3) := dk_180 0 51 (dk_at dksX6_keeps_1 13 rfl rfl)
theorem dX6_keeps_40 : decode cX6_keeps 40 = .ok (.iadd, 1) := dk_96 (dk_at dksX6_keeps_1 16 rfl rfl)
theorem dX6_keeps_41 : decode cX6_keeps 41 = .ok (.bipush 8, 2) := dk_16 8 (dk_at dksX6_keeps_1 17 rfl rfl)
theorem dX6_keeps_43 : decode cX6_keeps 43 = .ok (.irem, 1) := dk_112 (dk_at dksX6_keeps_1 19 rfl rfl)
theorem dX6_keeps_44 : decode cX6_keeps 44 = .ok (.istore_n 1, 1) := dk_60 (dk_at dksX6_keeps_1 20 rfl rfl)
theorem dX6_keeps_45 : decode cX6_keeps 45 = .ok (.iconst 0, 1) := dk_3 (dk_at dksX6_keeps_1 21 rfl rfl)
theorem dX6_keeps_46 : decode cX6_keeps 46 = .ok (.istore_n 2, 1) := dk_61 (dk_at dksX6_keeps_1 22 rfl rfl)
theorem dX6_keeps_47 : decode cX6_keeps 47 = .ok (.iload_n 2, 1) := dk_28 (dk_at dksX6_keeps_1 23 rfl rfl)
theorem dX6_keeps_48 : decode cX6_keeps 48 = .ok (.sipush 189, 3) := dk_17 0 189 (dk_at dksX6_keeps_2 0 rfl rfl)
theorem dX6_keeps_51 : decode cX6_keeps 51 = .ok (.if_icmp .ge 27, 3) := dk_162 0 27 (dk_at dksX6_keeps_2 3 rfl rfl)
theorem dX6_keeps_54 : decode cX6_keeps 54 = .ok (.aload_n 0, 1) := dk_42 (dk_at dksX6_keeps_2 6 rfl rfl)
theorem dX6_keeps_55 : decode cX6_keeps 55 = .ok (.getfield 17, 3) := dk_180 0 17 (dk_at dksX6_keeps_2 7 rfl rfl)
theorem dX6_keeps_58 : decode cX6_keeps 58 = .ok (.sipush 189, 3) := dk_17 0 189 (dk_at dksX6_keeps_2 10 rfl rfl)
theorem dX6_keeps_61 : decode cX6_keeps 61 = .ok (.iload_n 1, 1) := dk_27 (dk_at dksX6_keeps_2 13 rfl rfl)
theorem dX6_keeps_62 : decode cX6_keeps 62 = .ok (.imul, 1) := dk_104 (dk_at dksX6_keeps_2 14 rfl rfl)
theorem dX6_keeps_63 : decode cX6_keeps 63 = .ok (.iload_n 2, 1) := dk_28 (dk_at dksX6_keeps_2 15 rfl rfl)
theorem dX6_keeps_64 : decode cX6_keeps 64 = .ok (.iadd, 1) := dk_96 (dk_at dksX6_keeps_2 16 rfl rfl)
theorem dX6_keeps_65 : decode cX6_keeps 65 = .ok (.aload_n 0, 1) := dk_42 (dk_at dksX6_keeps_2 17 rfl rfl)
theorem dX6_keeps_66 : decode cX6_keeps 66 = .ok (.getfield 23, 3) := dk_180 0 23 (dk_at dksX6_keeps_2 18 rfl rfl)
theorem dX6_keeps_69 : decode cX6_keeps 69 = .ok (.iload_n 2, 1) := dk_28 (dk_at dksX6_keeps_2 21 rfl rfl)
theorem dX6_keeps_70 : decode cX6_keeps 70 = .ok (.iaload, 1) := dk_46 (dk_at dksX6_keeps_2 22 rfl rfl)
theorem dX6_keeps_71 : decode cX6_keeps 71 = .ok (.iastore, 1) := dk_79 (dk_at dksX6_keeps_2 23 rfl rfl)
theorem dX6_keeps_72 : decode cX6_keeps 72 = .ok (.iinc 2 1, 3) := dk_132 2 1 (dk_at dksX6_keeps_3 0 rfl rfl)
theorem dX6_keeps_75 : decode cX6_keeps 75 = .ok (.goto (-28), 3) := dk_167 255 228 (dk_at dksX6_keeps_3 3 rfl rfl)
theorem dX6_keeps_78 : decode cX6_keeps 78 = .ok (.aload_n 0, 1) := dk_42 (dk_at dksX6_keeps_3 6 rfl rfl)
theorem dX6_keeps_79 : decode cX6_keeps 79 = .ok (.dup, 1) := dk_89 (dk_at dksX6_keeps_3 7 rfl rfl)
theorem dX6_keeps_80 : decode cX6_keeps 80 = .ok (.getfield 51, 3) := dk_180 0 51 (dk_at dksX6_keeps_3 8 rfl rfl)
theorem dX6_keeps_83 : decode cX6_keeps 83 = .ok (.iconst 1, 1) := dk_4 (dk_at dksX6_keeps_3 11 rfl rfl)
theorem dX6_keeps_84 : decode cX6_keeps 84 = .ok (.iadd, 1) := dk_96 (dk_at dksX6_keeps_3 12 rfl rfl)
theorem dX6_keeps_85 : decode cX6_keeps 85 = .ok (.putfield 51, 3) := dk_181 0 51 (dk_at dksX6_keeps_3 13 rfl rfl)
theorem dX6_keeps_88 : decode cX6_keeps 88 = .ok (.return_, 1) := dk_177 (dk_at dksX6_keeps_3 16 rfl rfl)
abbrev cX6_adds : ByteArray := prog_14_method_22_code
def yX6_adds : MethodName := ⟨RX6, "adds", "(II)I"⟩
def dkwX6_adds_2 : List UInt8 := [16, 6, 2, 182, 0, 102, 29, 172]
abbrev dktX6_adds_2 : List UInt8 := dkwX6_adds_2 ++ []
def dkwX6_adds_1 : List UInt8 := [42, 29, 4, 28, 182, 0, 102, 42, 29, 7, 29, 182, 0, 102, 42, 29, 8, 16, 115, 182, 0, 102, 42, 29]
abbrev dktX6_adds_1 : List UInt8 := dkwX6_adds_1 ++ dktX6_adds_2
def dkwX6_adds_0 : List UInt8 := [42, 180, 0, 13, 3, 46, 62, 42, 180, 0, 13, 3, 92, 46, 4, 96, 79, 42, 29, 3, 27, 182, 0, 102]
abbrev dktX6_adds_0 : List UInt8 := dkwX6_adds_0 ++ dktX6_adds_1
theorem dksX6_adds_0 : cX6_adds.data.toList.drop 0 = dktX6_adds_0 := by decide +kernel
theorem dksX6_adds_1 : cX6_adds.data.toList.drop 24 = dktX6_adds_1 := dk_seg dksX6_adds_0 24 rfl rfl
theorem dksX6_adds_2 : cX6_adds.data.toList.drop 48 = dktX6_adds_2 := dk_seg dksX6_adds_1 24 rfl rfl
theorem dX6_adds_0 : decode cX6_adds 0 = .ok (.aload_n 0, 1) := dk_42 (dk_at dksX6_adds_0 0 rfl rfl)
theorem dX6_adds_1 : decode cX6_adds 1 = .ok (.getfield 13, 3) := dk_180 0 13 (dk_at dksX6_adds_0 1 rfl rfl)
theorem dX6_adds_4 : decode cX6_adds 4 = .ok (.iconst 0, 1) := dk_3 (dk_at dksX6_adds_0 4 rfl rfl)
theorem dX6_adds_5 : decode cX6_adds 5 = .ok (.iaload, 1) := dk_46 (dk_at dksX6_adds_0 5 rfl rfl)
theorem dX6_adds_6 : decode cX6_adds 6 = .ok (.istore_n 3, 1) := dk_62 (dk_at dksX6_adds_0 6 rfl rfl)
theorem dX6_adds_7 : decode cX6_adds 7 = .ok (.aload_n 0, 1) := dk_42 (dk_at dksX6_adds_0 7 rfl rfl)
theorem dX6_adds_8 : decode cX6_adds 8 = .ok (.getfield 13, 3) := dk_180 0 13 (dk_at dksX6_adds_0 8 rfl rfl)
theorem dX6_adds_11 : decode cX6_adds 11 = .ok (.iconst 0, 1) := dk_3 (dk_at dksX6_adds_0 11 rfl rfl)
theorem dX6_adds_12 : decode cX6_adds 12 = .ok (.dup2, 1) := dk_92 (dk_at dksX6_adds_0 12 rfl rfl)
theorem dX6_adds_13 : decode cX6_adds 13 = .ok (.iaload, 1) := dk_46 (dk_at dksX6_adds_0 13 rfl rfl)
theorem dX6_adds_14 : decode cX6_adds 14 = .ok (.iconst 1, 1) := dk_4 (dk_at dksX6_adds_0 14 rfl rfl)
theorem dX6_adds_15 : decode cX6_adds 15 = .ok (.iadd, 1) := dk_96 (dk_at dksX6_adds_0 15 rfl rfl)
theorem dX6_adds_16 : decode cX6_adds 16 = .ok (.iastore, 1) := dk_79 (dk_at dksX6_adds_0 16 rfl rfl)
theorem dX6_adds_17 : decode cX6_adds 17 = .ok (.aload_n 0, 1) := dk_42 (dk_at dksX6_adds_0 17 rfl rfl)
theorem dX6_adds_18 : decode cX6_adds 18 = .ok (.iload_n 3, 1) := dk_29 (dk_at dksX6_adds_0 18 rfl rfl)
theorem dX6_adds_19 : decode cX6_adds 19 = .ok (.iconst 0, 1) := dk_3 (dk_at dksX6_adds_0 19 rfl rfl)
theorem dX6_adds_20 : decode cX6_adds 20 = .ok (.iload_n 1, 1) := dk_27 (dk_at dksX6_adds_0 20 rfl rfl)
theorem dX6_adds_21 : decode cX6_adds 21 = .ok (.invokevirtual 102, 3) := dk_182 0 102 (dk_at dksX6_adds_0 21 rfl rfl)
theorem dX6_adds_24 : decode cX6_adds 24 = .ok (.aload_n 0, 1) := dk_42 (dk_at dksX6_adds_1 0 rfl rfl)
theorem dX6_adds_25 : decode cX6_adds 25 = .ok (.iload_n 3, 1) := dk_29 (dk_at dksX6_adds_1 1 rfl rfl)
theorem dX6_adds_26 : decode cX6_adds 26 = .ok (.iconst 1, 1) := dk_4 (dk_at dksX6_adds_1 2 rfl rfl)
theorem dX6_adds_27 : decode cX6_adds 27 = .ok (.iload_n 2, 1) := dk_28 (dk_at dksX6_adds_1 3 rfl rfl)
theorem dX6_adds_28 : decode cX6_adds 28 = .ok (.invokevirtual 102, 3) := dk_182 0 102 (dk_at dksX6_adds_1 4 rfl rfl)
theorem dX6_adds_31 : decode cX6_adds 31 = .ok (.aload_n 0, 1) := dk_42 (dk_at dksX6_adds_1 7 rfl rfl)
theorem dX6_adds_32 : decode cX6_adds 32 = .ok (.iload_n 3, 1) := dk_29 (dk_at dksX6_adds_1 8 rfl rfl)
theorem dX6_adds_33 : decode cX6_adds 33 = .ok (.iconst 4, 1) := dk_7 (dk_at dksX6_adds_1 9 rfl rfl)
theorem dX6_adds_34 : decode cX6_adds 34 = .ok (.iload_n 3, 1) := dk_29 (dk_at dksX6_adds_1 10 rfl rfl)
theorem dX6_adds_35 : decode cX6_adds 35 = .ok (.invokevirtual 102, 3) := dk_182 0 102 (dk_at dksX6_adds_1 11 rfl rfl)
theorem dX6_adds_38 : decode cX6_adds 38 = .ok (.aload_n 0, 1) := dk_42 (dk_at dksX6_adds_1 14 rfl rfl)
theorem dX6_adds_39 : decode cX6_adds 39 = .ok (.iload_n 3, 1) := dk_29 (dk_at dksX6_adds_1 15 rfl rfl)
theorem dX6_adds_40 : decode cX6_adds 40 = .ok (.iconst 5, 1) := dk_8 (dk_at dksX6_adds_1 16 rfl rfl)
theorem dX6_adds_41 : decode cX6_adds 41 = .ok (.bipush 115, 2) := dk_16 115 (dk_at dksX6_adds_1 17 rfl rfl)
theorem dX6_adds_43 : decode cX6_adds 43 = .ok (.invokevirtual 102, 3) := dk_182 0 102 (dk_at dksX6_adds_1 19 rfl rfl)
theorem dX6_adds_46 : decode cX6_adds 46 = .ok (.aload_n 0, 1) := dk_42 (dk_at dksX6_adds_1 22 rfl rfl)
theorem dX6_adds_47 : decode cX6_adds 47 = .ok (.iload_n 3, 1) := dk_29 (dk_at dksX6_adds_1 23 rfl rfl)
theorem dX6_adds_48 : decode cX6_adds 48 = .ok (.bipush 6, 2) := dk_16 6 (dk_at dksX6_adds_2 0 rfl rfl)
theorem dX6_adds_50 : decode cX6_adds 50 = .ok (.iconst (-1), 1) := dk_2 (dk_at dksX6_adds_2 2 rfl rfl)
theorem dX6_adds_51 : decode cX6_adds 51 = .ok (.invokevirtual 102, 3) := dk_182 0 102 (dk_at dksX6_adds_2 3 rfl rfl)
theorem dX6_adds_54 : decode cX6_adds 54 = .ok (.iload_n 3, 1) := dk_29 (dk_at dksX6_adds_2 6 rfl rfl)
theorem dX6_adds_55 : decode cX6_adds 55 = .ok (.ireturn, 1) := dk_172 (dk_at dksX6_adds_2 7 rfl rfl)
abbrev cX6_sets : ByteArray := prog_14_method_15_code
def yX6_sets : MethodName := ⟨RX6, "sets", "(III)V"⟩
def dkwX6_sets_0 : List UInt8 := [42, 180, 0, 13, 16, 61, 16, 16, 27, 104, 96, 28, 96, 29, 79, 177]
abbrev dktX6_sets_0 : List UInt8 := dkwX6_sets_0 ++ []
theorem dksX6_sets_0 : cX6_sets.data.toList.drop 0 = dktX6_sets_0 := by decide +kernel
theorem dX6_sets_0 : decode cX6_sets 0 = .ok (.aload_n 0, 1) := dk_42 (dk_at dksX6_sets_0 0 rfl rfl)
theorem dX6_sets_1 : decode cX6_sets 1 = .ok (.getfield 13, 3) := dk_180 0 13 (dk_at dksX6_sets_0 1 rfl rfl)
theorem dX6_sets_4 : decode cX6_sets 4 = .ok (.bipush 61, 2) := dk_16 61 (dk_at dksX6_sets_0 4 rfl rfl)
theorem dX6_sets_6 : decode cX6_sets 6 = .ok (.bipush 16, 2) := dk_16 16 (dk_at dksX6_sets_0 6 rfl rfl)
theorem dX6_sets_8 : decode cX6_sets 8 = .ok (.iload_n 1, 1) := dk_27 (dk_at dksX6_sets_0 8 rfl rfl)
theorem dX6_sets_9 : decode cX6_sets 9 = .ok (.imul, 1) := dk_104 (dk_at dksX6_sets_0 9 rfl rfl)
theorem dX6_sets_10 : decode cX6_sets 10 = .ok (.iadd, 1) := dk_96 (dk_at dksX6_sets_0 10 rfl rfl)
theorem dX6_sets_11 : decode cX6_sets 11 = .ok (.iload_n 2, 1) := dk_28 (dk_at dksX6_sets_0 11 rfl rfl)
theorem dX6_sets_12 : decode cX6_sets 12 = .ok (.iadd, 1) := dk_96 (dk_at dksX6_sets_0 12 rfl rfl)
theorem dX6_sets_13 : decode cX6_sets 13 = .ok (.iload_n 3, 1) := dk_29 (dk_at dksX6_sets_0 13 rfl rfl)
theorem dX6_sets_14 : decode cX6_sets 14 = .ok (.iastore, 1) := dk_79 (dk_at dksX6_sets_0 14 rfl rfl)
theorem dX6_sets_15 : decode cX6_sets 15 = .ok (.return_, 1) := dk_177 (dk_at dksX6_sets_0 15 rfl rfl)
abbrev cX6_setTarget : ByteArray := prog_14_method_26_code
def yX6_setTarget : MethodName := ⟨RX6, "setTarget", "(II)I"⟩
def dkwX6_setTarget_1 : List UInt8 := [42, 27, 7, 28, 182, 0, 124, 172]
abbrev dktX6_setTarget_1 : List UInt8 := dkwX6_setTarget_1 ++ []
def dkwX6_setTarget_0 : List UInt8 := [42, 3, 181, 0, 1, 42, 27, 28, 182, 0, 121, 153, 0, 9, 42, 4, 182, 0, 75, 172, 42, 182, 0, 112]
abbrev dktX6_setTarget_0 : List UInt8 := dkwX6_setTarget_0 ++ dktX6_setTarget_1
theorem dksX6_setTarget_0 : cX6_setTarget.data.toList.drop 0 = dktX6_setTarget_0 := by decide +kernel
theorem dksX6_setTarget_1 : cX6_setTarget.data.toList.drop 24 = dktX6_setTarget_1 := dk_seg dksX6_setTarget_0 24 rfl rfl
theorem dX6_setTarget_0 : decode cX6_setTarget 0 = .ok (.aload_n 0, 1) := dk_42 (dk_at dksX6_setTarget_0 0 rfl rfl)
theorem dX6_setTarget_1 : decode cX6_setTarget 1 = .ok (.iconst 0, 1) := dk_3 (dk_at dksX6_setTarget_0 1 rfl rfl)
theorem dX6_setTarget_2 : decode cX6_setTarget 2 = .ok (.putfield 1, 3) := dk_181 0 1 (dk_at dksX6_setTarget_0 2 rfl rfl)
theorem dX6_setTarget_5 : decode cX6_setTarget 5 = .ok (.aload_n 0, 1) := dk_42 (dk_at dksX6_setTarget_0 5 rfl rfl)
theorem dX6_setTarget_6 : decode cX6_setTarget 6 = .ok (.iload_n 1, 1) := dk_27 (dk_at dksX6_setTarget_0 6 rfl rfl)
theorem dX6_setTarget_7 : decode cX6_setTarget 7 = .ok (.iload_n 2, 1) := dk_28 (dk_at dksX6_setTarget_0 7 rfl rfl)
theorem dX6_setTarget_8 : decode cX6_setTarget 8 = .ok (.invokevirtual 121, 3) := dk_182 0 121 (dk_at dksX6_setTarget_0 8 rfl rfl)
theorem dX6_setTarget_11 : decode cX6_setTarget 11 = .ok (.ifCond .eq 9, 3) := dk_153 0 9 (dk_at dksX6_setTarget_0 11 rfl rfl)
theorem dX6_setTarget_14 : decode cX6_setTarget 14 = .ok (.aload_n 0, 1) := dk_42 (dk_at dksX6_setTarget_0 14 rfl rfl)
theorem dX6_setTarget_15 : decode cX6_setTarget 15 = .ok (.iconst 1, 1) := dk_4 (dk_at dksX6_setTarget_0 15 rfl rfl)
theorem dX6_setTarget_16 : decode cX6_setTarget 16 = .ok (.invokevirtual 75, 3) := dk_182 0 75 (dk_at dksX6_setTarget_0 16 rfl rfl)
theorem dX6_setTarget_19 : decode cX6_setTarget 19 = .ok (.ireturn, 1) := dk_172 (dk_at dksX6_setTarget_0 19 rfl rfl)
theorem dX6_setTarget_20 : decode cX6_setTarget 20 = .ok (.aload_n 0, 1) := dk_42 (dk_at dksX6_setTarget_0 20 rfl rfl)
theorem dX6_setTarget_21 : decode cX6_setTarget 21 = .ok (.invokevirtual 112, 3) := dk_182 0 112 (dk_at dksX6_setTarget_0 21 rfl rfl)
theorem dX6_setTarget_24 : decode cX6_setTarget 24 = .ok (.aload_n 0, 1) := dk_42 (dk_at dksX6_setTarget_1 0 rfl rfl)
theorem dX6_setTarget_25 : decode cX6_setTarget 25 = .ok (.iload_n 1, 1) := dk_27 (dk_at dksX6_setTarget_1 1 rfl rfl)
theorem dX6_setTarget_26 : decode cX6_setTarget 26 = .ok (.iconst 4, 1) := dk_7 (dk_at dksX6_setTarget_1 2 rfl rfl)
theorem dX6_setTarget_27 : decode cX6_setTarget 27 = .ok (.iload_n 2, 1) := dk_28 (dk_at dksX6_setTarget_1 3 rfl rfl)
theorem dX6_setTarget_28 : decode cX6_setTarget 28 = .ok (.invokevirtual 124, 3) := dk_182 0 124 (dk_at dksX6_setTarget_1 4 rfl rfl)
theorem dX6_setTarget_31 : decode cX6_setTarget 31 = .ok (.ireturn, 1) := dk_172 (dk_at dksX6_setTarget_1 7 rfl rfl)
abbrev cX6_notTarget : ByteArray := prog_14_method_25_code
def yX6_notTarget : MethodName := ⟨RX6, "notTarget", "(II)I"⟩
def dkwX6_notTarget_0 : List UInt8 := [42, 27, 182, 0, 118, 153, 0, 15, 42, 28, 182, 0, 118, 153, 0, 7, 3, 167, 0, 4, 4, 172]
abbrev dktX6_notTarget_0 : List UInt8 := dkwX6_notTarget_0 ++ []
theorem dksX6_notTarget_0 : cX6_notTarget.data.toList.drop 0 = dktX6_notTarget_0 := by decide +kernel
theorem dX6_notTarget_0 : decode cX6_notTarget 0 = .ok (.aload_n 0, 1) := dk_42 (dk_at dksX6_notTarget_0 0 rfl rfl)
theorem dX6_notTarget_1 : decode cX6_notTarget 1 = .ok (.iload_n 1, 1) := dk_27 (dk_at dksX6_notTarget_0 1 rfl rfl)
theorem dX6_notTarget_2 : decode cX6_notTarget 2 = .ok (.invokevirtual 118, 3) := dk_182 0 118 (dk_at dksX6_notTarget_0 2 rfl rfl)
theorem dX6_notTarget_5 : decode cX6_notTarget 5 = .ok (.ifCond .eq 15, 3) := dk_153 0 15 (dk_at dksX6_notTarget_0 5 rfl rfl)
theorem dX6_notTarget_8 : decode cX6_notTarget 8 = .ok (.aload_n 0, 1) := dk_42 (dk_at dksX6_notTarget_0 8 rfl rfl)
theorem dX6_notTarget_9 : decode cX6_notTarget 9 = .ok (.iload_n 2, 1) := dk_28 (dk_at dksX6_notTarget_0 9 rfl rfl)
theorem dX6_notTarget_10 : decode cX6_notTarget 10 = .ok (.invokevirtual 118, 3) := dk_182 0 118 (dk_at dksX6_notTarget_0 10 rfl rfl)
theorem dX6_notTarget_13 : decode cX6_notTarget 13 = .ok (.ifCond .eq 7, 3) := dk_153 0 7 (dk_at dksX6_notTarget_0 13 rfl rfl)
theorem dX6_notTarget_16 : decode cX6_notTarget 16 = .ok (.iconst 0, 1) := dk_3 (dk_at dksX6_notTarget_0 16 rfl rfl)
theorem dX6_notTarget_17 : decode cX6_notTarget 17 = .ok (.goto 4, 3) := dk_167 0 4 (dk_at dksX6_notTarget_0 17 rfl rfl)
theorem dX6_notTarget_20 : decode cX6_notTarget 20 = .ok (.iconst 1, 1) := dk_4 (dk_at dksX6_notTarget_0 20 rfl rfl)
theorem dX6_notTarget_21 : decode cX6_notTarget 21 = .ok (.ireturn, 1) := dk_172 (dk_at dksX6_notTarget_0 21 rfl rfl)
abbrev cX6_isActor : ByteArray := prog_14_method_13_code
def yX6_isActor : MethodName := ⟨RX6, "isActor", "(I)Z"⟩
def dkwX6_isActor_0 : List UInt8 := [27, 3, 42, 180, 0, 13, 3, 46, 4, 100, 184, 0, 79, 172]
abbrev dktX6_isActor_0 : List UInt8 := dkwX6_isActor_0 ++ []
theorem dksX6_isActor_0 : cX6_isActor.data.toList.drop 0 = dktX6_isActor_0 := by decide +kernel
theorem dX6_isActor_0 : decode cX6_isActor 0 = .ok (.iload_n 1, 1) := dk_27 (dk_at dksX6_isActor_0 0 rfl rfl)
theorem dX6_isActor_1 : decode cX6_isActor 1 = .ok (.iconst 0, 1) := dk_3 (dk_at dksX6_isActor_0 1 rfl rfl)
theorem dX6_isActor_2 : decode cX6_isActor 2 = .ok (.aload_n 0, 1) := dk_42 (dk_at dksX6_isActor_0 2 rfl rfl)
theorem dX6_isActor_3 : decode cX6_isActor 3 = .ok (.getfield 13, 3) := dk_180 0 13 (dk_at dksX6_isActor_0 3 rfl rfl)
theorem dX6_isActor_6 : decode cX6_isActor 6 = .ok (.iconst 0, 1) := dk_3 (dk_at dksX6_isActor_0 6 rfl rfl)
theorem dX6_isActor_7 : decode cX6_isActor 7 = .ok (.iaload, 1) := dk_46 (dk_at dksX6_isActor_0 7 rfl rfl)
theorem dX6_isActor_8 : decode cX6_isActor 8 = .ok (.iconst 1, 1) := dk_4 (dk_at dksX6_isActor_0 8 rfl rfl)
theorem dX6_isActor_9 : decode cX6_isActor 9 = .ok (.isub, 1) := dk_100 (dk_at dksX6_isActor_0 9 rfl rfl)
theorem dX6_isActor_10 : decode cX6_isActor 10 = .ok (.invokestatic 79, 3) := dk_184 0 79 (dk_at dksX6_isActor_0 10 rfl rfl)
theorem dX6_isActor_13 : decode cX6_isActor 13 = .ok (.ireturn, 1) := dk_172 (dk_at dksX6_isActor_0 13 rfl rfl)
abbrev cX6_takes : ByteArray := prog_14_method_24_code
def yX6_takes : MethodName := ⟨RX6, "takes", "(III)I"⟩
def dkwX6_takes_0 : List UInt8 := [42, 27, 28, 182, 0, 83, 54, 4, 42, 27, 28, 29, 182, 0, 102, 21, 4, 172]
abbrev dktX6_takes_0 : List UInt8 := dkwX6_takes_0 ++ []
theorem dksX6_takes_0 : cX6_takes.data.toList.drop 0 = dktX6_takes_0 := by decide +kernel
theorem dX6_takes_0 : decode cX6_takes 0 = .ok (.aload_n 0, 1) := dk_42 (dk_at dksX6_takes_0 0 rfl rfl)
theorem dX6_takes_1 : decode cX6_takes 1 = .ok (.iload_n 1, 1) := dk_27 (dk_at dksX6_takes_0 1 rfl rfl)
theorem dX6_takes_2 : decode cX6_takes 2 = .ok (.iload_n 2, 1) := dk_28 (dk_at dksX6_takes_0 2 rfl rfl)
theorem dX6_takes_3 : decode cX6_takes 3 = .ok (.invokevirtual 83, 3) := dk_182 0 83 (dk_at dksX6_takes_0 3 rfl rfl)
theorem dX6_takes_6 : decode cX6_takes 6 = .ok (.istore 4, 2) := dk_54 4 (dk_at dksX6_takes_0 6 rfl rfl)
theorem dX6_takes_8 : decode cX6_takes 8 = .ok (.aload_n 0, 1) := dk_42 (dk_at dksX6_takes_0 8 rfl rfl)
theorem dX6_takes_9 : decode cX6_takes 9 = .ok (.iload_n 1, 1) := dk_27 (dk_at dksX6_takes_0 9 rfl rfl)
theorem dX6_takes_10 : decode cX6_takes 10 = .ok (.iload_n 2, 1) := dk_28 (dk_at dksX6_takes_0 10 rfl rfl)
theorem dX6_takes_11 : decode cX6_takes 11 = .ok (.iload_n 3, 1) := dk_29 (dk_at dksX6_takes_0 11 rfl rfl)
theorem dX6_takes_12 : decode cX6_takes 12 = .ok (.invokevirtual 102, 3) := dk_182 0 102 (dk_at dksX6_takes_0 12 rfl rfl)
theorem dX6_takes_15 : decode cX6_takes 15 = .ok (.iload 4, 2) := dk_21 4 (dk_at dksX6_takes_0 15 rfl rfl)
theorem dX6_takes_17 : decode cX6_takes 17 = .ok (.ireturn, 1) := dk_172 (dk_at dksX6_takes_0 17 rfl rfl)
abbrev cX6_of : ByteArray := prog_14_method_14_code
def yX6_of : MethodName := ⟨RX6, "of", "(II)I"⟩
def dkwX6_of_0 : List UInt8 := [42, 180, 0, 13, 16, 61, 16, 16, 27, 104, 96, 28, 96, 46, 172]
abbrev dktX6_of_0 : List UInt8 := dkwX6_of_0 ++ []
theorem dksX6_of_0 : cX6_of.data.toList.drop 0 = dktX6_of_0 := by decide +kernel
theorem dX6_of_0 : decode cX6_of 0 = .ok (.aload_n 0, 1) := dk_42 (dk_at dksX6_of_0 0 rfl rfl)
theorem dX6_of_1 : decode cX6_of 1 = .ok (.getfield 13, 3) := dk_180 0 13 (dk_at dksX6_of_0 1 rfl rfl)
theorem dX6_of_4 : decode cX6_of 4 = .ok (.bipush 61, 2) := dk_16 61 (dk_at dksX6_of_0 4 rfl rfl)
theorem dX6_of_6 : decode cX6_of 6 = .ok (.bipush 16, 2) := dk_16 16 (dk_at dksX6_of_0 6 rfl rfl)
theorem dX6_of_8 : decode cX6_of 8 = .ok (.iload_n 1, 1) := dk_27 (dk_at dksX6_of_0 8 rfl rfl)
theorem dX6_of_9 : decode cX6_of 9 = .ok (.imul, 1) := dk_104 (dk_at dksX6_of_0 9 rfl rfl)
theorem dX6_of_10 : decode cX6_of 10 = .ok (.iadd, 1) := dk_96 (dk_at dksX6_of_0 10 rfl rfl)
theorem dX6_of_11 : decode cX6_of 11 = .ok (.iload_n 2, 1) := dk_28 (dk_at dksX6_of_0 11 rfl rfl)
theorem dX6_of_12 : decode cX6_of 12 = .ok (.iadd, 1) := dk_96 (dk_at dksX6_of_0 12 rfl rfl)
theorem dX6_of_13 : decode cX6_of 13 = .ok (.iaload, 1) := dk_46 (dk_at dksX6_of_0 13 rfl rfl)
theorem dX6_of_14 : decode cX6_of 14 = .ok (.ireturn, 1) := dk_172 (dk_at dksX6_of_0 14 rfl rfl)
abbrev cX6_setSupervisor : ByteArray := prog_14_method_29_code
def yX6_setSupervisor : MethodName := ⟨RX6, "setSupervisor", "(II)I"⟩
def dkwX6_setSupervisor_1 : List UInt8 := [182, 0, 112, 42, 27, 28, 182, 0, 133, 172]
abbrev dktX6_setSupervisor_1 : List UInt8 := dkwX6_setSupervisor_1 ++ []
def dkwX6_setSupervisor_0 : List UInt8 := [42, 3, 181, 0, 1, 42, 27, 28, 182, 0, 130, 62, 29, 153, 0, 9, 42, 29, 182, 0, 109, 172, 42]
abbrev dktX6_setSupervisor_0 : List UInt8 := dkwX6_setSupervisor_0 ++ dktX6_setSupervisor_1
theorem dksX6_setSupervisor_0 : cX6_setSupervisor.data.toList.drop 0 = dktX6_setSupervisor_0 := by decide +kernel
theorem dksX6_setSupervisor_1 : cX6_setSupervisor.data.toList.drop 23 = dktX6_setSupervisor_1 := dk_seg dksX6_setSupervisor_0 23 rfl rfl
theorem dX6_setSupervisor_0 : decode cX6_setSupervisor 0 = .ok (.aload_n 0, 1) := dk_42 (dk_at dksX6_setSupervisor_0 0 rfl rfl)
theorem dX6_setSupervisor_1 : decode cX6_setSupervisor 1 = .ok (.iconst 0, 1) := dk_3 (dk_at dksX6_setSupervisor_0 1 rfl rfl)
theorem dX6_setSupervisor_2 : decode cX6_setSupervisor 2 = .ok (.putfield 1, 3) := dk_181 0 1 (dk_at dksX6_setSupervisor_0 2 rfl rfl)
theorem dX6_setSupervisor_5 : decode cX6_setSupervisor 5 = .ok (.aload_n 0, 1) := dk_42 (dk_at dksX6_setSupervisor_0 5 rfl rfl)
theorem dX6_setSupervisor_6 : decode cX6_setSupervisor 6 = .ok (.iload_n 1, 1) := dk_27 (dk_at dksX6_setSupervisor_0 6 rfl rfl)
theorem dX6_setSupervisor_7 : decode cX6_setSupervisor 7 = .ok (.iload_n 2, 1) := dk_28 (dk_at dksX6_setSupervisor_0 7 rfl rfl)
theorem dX6_setSupervisor_8 : decode cX6_setSupervisor 8 = .ok (.invokevirtual 130, 3) := dk_182 0 130 (dk_at dksX6_setSupervisor_0 8 rfl rfl)
theorem dX6_setSupervisor_11 : decode cX6_setSupervisor 11 = .ok (.istore_n 3, 1) := dk_62 (dk_at dksX6_setSupervisor_0 11 rfl rfl)
theorem dX6_setSupervisor_12 : decode cX6_setSupervisor 12 = .ok (.iload_n 3, 1) := dk_29 (dk_at dksX6_setSupervisor_0 12 rfl rfl)
theorem dX6_setSupervisor_13 : decode cX6_setSupervisor 13 = .ok (.ifCond .eq 9, 3) := dk_153 0 9 (dk_at dksX6_setSupervisor_0 13 rfl rfl)
theorem dX6_setSupervisor_16 : decode cX6_setSupervisor 16 = .ok (.aload_n 0, 1) := dk_42 (dk_at dksX6_setSupervisor_0 16 rfl rfl)
theorem dX6_setSupervisor_17 : decode cX6_setSupervisor 17 = .ok (.iload_n 3, 1) := dk_29 (dk_at dksX6_setSupervisor_0 17 rfl rfl)
theorem dX6_setSupervisor_18 : decode cX6_setSupervisor 18 = .ok (.invokevirtual 109, 3) := dk_182 0 109 (dk_at dksX6_setSupervisor_0 18 rfl rfl)
theorem dX6_setSupervisor_21 : decode cX6_setSupervisor 21 = .ok (.ireturn, 1) := dk_172 (dk_at dksX6_setSupervisor_0 21 rfl rfl)
theorem dX6_setSupervisor_22 : decode cX6_setSupervisor 22 = .ok (.aload_n 0, 1) := dk_42 (dk_at dksX6_setSupervisor_0 22 rfl rfl)
theorem dX6_setSupervisor_23 : decode cX6_setSupervisor 23 = .ok (.invokevirtual 112, 3) := dk_182 0 112 (dk_at dksX6_setSupervisor_1 0 rfl rfl)
theorem dX6_setSupervisor_26 : decode cX6_setSupervisor 26 = .ok (.aload_n 0, 1) := dk_42 (dk_at dksX6_setSupervisor_1 3 rfl rfl)
theorem dX6_setSupervisor_27 : decode cX6_setSupervisor 27 = .ok (.iload_n 1, 1) := dk_27 (dk_at dksX6_setSupervisor_1 4 rfl rfl)
theorem dX6_setSupervisor_28 : decode cX6_setSupervisor 28 = .ok (.iload_n 2, 1) := dk_28 (dk_at dksX6_setSupervisor_1 5 rfl rfl)
theorem dX6_setSupervisor_29 : decode cX6_setSupervisor 29 = .ok (.invokevirtual 133, 3) := dk_182 0 133 (dk_at dksX6_setSupervisor_1 6 rfl rfl)
theorem dX6_setSupervisor_32 : decode cX6_setSupervisor 32 = .ok (.ireturn, 1) := dk_172 (dk_at dksX6_setSupervisor_1 9 rfl rfl)
abbrev cX6_notUnder : ByteArray := prog_14_method_27_code
def yX6_notUnder : MethodName := ⟨RX6, "notUnder", "(II)I"⟩
def dkwX6_notUnder_2 : List UInt8 := [167, 0, 4, 3, 172]
abbrev dktX6_notUnder_2 : List UInt8 := dkwX6_notUnder_2 ++ []
def dkwX6_notUnder_1 : List UInt8 := [172, 42, 28, 182, 0, 87, 154, 0, 21, 42, 27, 182, 0, 87, 153, 0, 13, 42, 7, 28, 6, 182, 0, 98]
abbrev dktX6_notUnder_1 : List UInt8 := dkwX6_notUnder_1 ++ dktX6_notUnder_2
def dkwX6_notUnder_0 : List UInt8 := [42, 27, 182, 0, 118, 153, 0, 11, 42, 28, 182, 0, 118, 154, 0, 5, 4, 172, 28, 27, 161, 0, 5, 5]
abbrev dktX6_notUnder_0 : List UInt8 := dkwX6_notUnder_0 ++ dktX6_notUnder_1
theorem dksX6_notUnder_0 : cX6_notUnder.data.toList.drop 0 = dktX6_notUnder_0 := by decide +kernel
theorem dksX6_notUnder_1 : cX6_notUnder.data.toList.drop 24 = dktX6_notUnder_1 := dk_seg dksX6_notUnder_0 24 rfl rfl
theorem dksX6_notUnder_2 : cX6_notUnder.data.toList.drop 48 = dktX6_notUnder_2 := dk_seg dksX6_notUnder_1 24 rfl rfl
theorem dX6_notUnder_0 : decode cX6_notUnder 0 = .ok (.aload_n 0, 1) := dk_42 (dk_at dksX6_notUnder_0 0 rfl rfl)
theorem dX6_notUnder_1 : decode cX6_notUnder 1 = .ok (.iload_n 1, 1) := dk_27 (dk_at dksX6_notUnder_0 1 rfl rfl)
theorem dX6_notUnder_2 : decode cX6_notUnder 2 = .ok (.invokevirtual 118, 3) := dk_182 0 118 (dk_at dksX6_notUnder_0 2 rfl rfl)
theorem dX6_notUnder_5 : decode cX6_notUnder 5 = .ok (.ifCond .eq 11, 3) := dk_153 0 11 (dk_at dksX6_notUnder_0 5 rfl rfl)
theorem dX6_notUnder_8 : decode cX6_notUnder 8 = .ok (.aload_n 0, 1) := dk_42 (dk_at dksX6_notUnder_0 8 rfl rfl)
theorem dX6_notUnder_9 : decode cX6_notUnder 9 = .ok (.iload_n 2, 1) := dk_28 (dk_at dksX6_notUnder_0 9 rfl rfl)
theorem dX6_notUnder_10 : decode cX6_notUnder 10 = .ok (.invokevirtual 118, 3) := dk_182 0 118 (dk_at dksX6_notUnder_0 10 rfl rfl)
theorem dX6_notUnder_13 : decode cX6_notUnder 13 = .ok (.ifCond .ne 5, 3) := dk_154 0 5 (dk_at dksX6_notUnder_0 13 rfl rfl)
theorem dX6_notUnder_16 : decode cX6_notUnder 16 = .ok (.iconst 1, 1) := dk_4 (dk_at dksX6_notUnder_0 16 rfl rfl)
theorem dX6_notUnder_17 : decode cX6_notUnder 17 = .ok (.ireturn, 1) := dk_172 (dk_at dksX6_notUnder_0 17 rfl rfl)
theorem dX6_notUnder_18 : decode cX6_notUnder 18 = .ok (.iload_n 2, 1) := dk_28 (dk_at dksX6_notUnder_0 18 rfl rfl)
theorem dX6_notUnder_19 : decode cX6_notUnder 19 = .ok (.iload_n 1, 1) := dk_27 (dk_at dksX6_notUnder_0 19 rfl rfl)
theorem dX6_notUnder_20 : decode cX6_notUnder 20 = .ok (.if_icmp .lt 5, 3) := dk_161 0 5 (dk_at dksX6_notUnder_0 20 rfl rfl)
theorem dX6_notUnder_23 : decode cX6_notUnder 23 = .ok (.iconst 2, 1) := dk_5 (dk_at dksX6_notUnder_0 23 rfl rfl)
theorem dX6_notUnder_24 : decode cX6_notUnder 24 = .ok (.ireturn, 1) := dk_172 (dk_at dksX6_notUnder_1 0 rfl rfl)
theorem dX6_notUnder_25 : decode cX6_notUnder 25 = .ok (.aload_n 0, 1) := dk_42 (dk_at dksX6_notUnder_1 1 rfl rfl)
theorem dX6_notUnder_26 : decode cX6_notUnder 26 = .ok (.iload_n 2, 1) := dk_28 (dk_at dksX6_notUnder_1 2 rfl rfl)
theorem dX6_notUnder_27 : decode cX6_notUnder 27 = .ok (.invokevirtual 87, 3) := dk_182 0 87 (dk_at dksX6_notUnder_1 3 rfl rfl)
theorem dX6_notUnder_30 : decode cX6_notUnder 30 = .ok (.ifCond .ne 21, 3) := dk_154 0 21 (dk_at dksX6_notUnder_1 6 rfl rfl)
theorem dX6_notUnder_33 : decode cX6_notUnder 33 = .ok (.aload_n 0, 1) := dk_42 (dk_at dksX6_notUnder_1 9 rfl rfl)
theorem dX6_notUnder_34 : decode cX6_notUnder 34 = .ok (.iload_n 1, 1) := dk_27 (dk_at dksX6_notUnder_1 10 rfl rfl)
theorem dX6_notUnder_35 : decode cX6_notUnder 35 = .ok (.invokevirtual 87, 3) := dk_182 0 87 (dk_at dksX6_notUnder_1 11 rfl rfl)
theorem dX6_notUnder_38 : decode cX6_notUnder 38 = .ok (.ifCond .eq 13, 3) := dk_153 0 13 (dk_at dksX6_notUnder_1 14 rfl rfl)
theorem dX6_notUnder_41 : decode cX6_notUnder 41 = .ok (.aload_n 0, 1) := dk_42 (dk_at dksX6_notUnder_1 17 rfl rfl)
theorem dX6_notUnder_42 : decode cX6_notUnder 42 = .ok (.iconst 4, 1) := dk_7 (dk_at dksX6_notUnder_1 18 rfl rfl)
theorem dX6_notUnder_43 : decode cX6_notUnder 43 = .ok (.iload_n 2, 1) := dk_28 (dk_at dksX6_notUnder_1 19 rfl rfl)
theorem dX6_notUnder_44 : decode cX6_notUnder 44 = .ok (.iconst 3, 1) := dk_6 (dk_at dksX6_notUnder_1 20 rfl rfl)
theorem dX6_notUnder_45 : decode cX6_notUnder 45 = .ok (.invokevirtual 98, 3) := dk_182 0 98 (dk_at dksX6_notUnder_1 21 rfl rfl)
theorem dX6_notUnder_48 : decode cX6_notUnder 48 = .ok (.goto 4, 3) := dk_167 0 4 (dk_at dksX6_notUnder_2 0 rfl rfl)
theorem dX6_notUnder_51 : decode cX6_notUnder 51 = .ok (.iconst 0, 1) := dk_3 (dk_at dksX6_notUnder_2 3 rfl rfl)
theorem dX6_notUnder_52 : decode cX6_notUnder 52 = .ok (.ireturn, 1) := dk_172 (dk_at dksX6_notUnder_2 4 rfl rfl)
abbrev cX6_runs : ByteArray := prog_14_method_16_code
def yX6_runs : MethodName := ⟨RX6, "runs", "(I)Z"⟩
def dkwX6_runs_0 : List UInt8 := [42, 27, 16, 7, 182, 0, 83, 154, 0, 7, 4, 167, 0, 4, 3, 172]
abbrev dktX6_runs_0 : List UInt8 := dkwX6_runs_0 ++ []
theorem dksX6_runs_0 : cX6_runs.data.toList.drop 0 = dktX6_runs_0 := by decide +kernel
theorem dX6_runs_0 : decode cX6_runs 0 = .ok (.aload_n 0, 1) := dk_42 (dk_at dksX6_runs_0 0 rfl rfl)
theorem dX6_runs_1 : decode cX6_runs 1 = .ok (.iload_n 1, 1) := dk_27 (dk_at dksX6_runs_0 1 rfl rfl)
theorem dX6_runs_2 : decode cX6_runs 2 = .ok (.bipush 7, 2) := dk_16 7 (dk_at dksX6_runs_0 2 rfl rfl)
theorem dX6_runs_4 : decode cX6_runs 4 = .ok (.invokevirtual 83, 3) := dk_182 0 83 (dk_at dksX6_runs_0 4 rfl rfl)
theorem dX6_runs_7 : decode cX6_runs 7 = .ok (.ifCond .ne 7, 3) := dk_154 0 7 (dk_at dksX6_runs_0 7 rfl rfl)
theorem dX6_runs_10 : decode cX6_runs 10 = .ok (.iconst 1, 1) := dk_4 (dk_at dksX6_runs_0 10 rfl rfl)
theorem dX6_runs_11 : decode cX6_runs 11 = .ok (.goto 4, 3) := dk_167 0 4 (dk_at dksX6_runs_0 11 rfl rfl)
theorem dX6_runs_14 : decode cX6_runs 14 = .ok (.iconst 0, 1) := dk_3 (dk_at dksX6_runs_0 14 rfl rfl)
theorem dX6_runs_15 : decode cX6_runs 15 = .ok (.ireturn, 1) := dk_172 (dk_at dksX6_runs_0 15 rfl rfl)
abbrev cX6_goesUnder : ByteArray := prog_14_method_28_code
def yX6_goesUnder : MethodName := ⟨RX6, "goesUnder", "(II)I"⟩
def dkwX6_goesUnder_0 : List UInt8 := [42, 27, 16, 6, 28, 182, 0, 102, 42, 28, 182, 0, 127, 172]
abbrev dktX6_goesUnder_0 : List UInt8 := dkwX6_goesUnder_0 ++ []
theorem dksX6_goesUnder_0 : cX6_goesUnder.data.toList.drop 0 = dktX6_goesUnder_0 := by decide +kernel
theorem dX6_goesUnder_0 : decode cX6_goesUnder 0 = .ok (.aload_n 0, 1) := dk_42 (dk_at dksX6_goesUnder_0 0 rfl rfl)
theorem dX6_goesUnder_1 : decode cX6_goesUnder 1 = .ok (.iload_n 1, 1) := dk_27 (dk_at dksX6_goesUnder_0 1 rfl rfl)
theorem dX6_goesUnder_2 : decode cX6_goesUnder 2 = .ok (.bipush 6, 2) := dk_16 6 (dk_at dksX6_goesUnder_0 2 rfl rfl)
theorem dX6_goesUnder_4 : decode cX6_goesUnder 4 = .ok (.iload_n 2, 1) := dk_28 (dk_at dksX6_goesUnder_0 4 rfl rfl)
theorem dX6_goesUnder_5 : decode cX6_goesUnder 5 = .ok (.invokevirtual 102, 3) := dk_182 0 102 (dk_at dksX6_goesUnder_0 5 rfl rfl)
theorem dX6_goesUnder_8 : decode cX6_goesUnder 8 = .ok (.aload_n 0, 1) := dk_42 (dk_at dksX6_goesUnder_0 8 rfl rfl)
theorem dX6_goesUnder_9 : decode cX6_goesUnder 9 = .ok (.iload_n 2, 1) := dk_28 (dk_at dksX6_goesUnder_0 9 rfl rfl)
theorem dX6_goesUnder_10 : decode cX6_goesUnder 10 = .ok (.invokevirtual 127, 3) := dk_182 0 127 (dk_at dksX6_goesUnder_0 10 rfl rfl)
theorem dX6_goesUnder_13 : decode cX6_goesUnder 13 = .ok (.ireturn, 1) := dk_172 (dk_at dksX6_goesUnder_0 13 rfl rfl)
abbrev cX6_belowNow : ByteArray := prog_14_method_19_code
def yX6_belowNow : MethodName := ⟨RX6, "belowNow", "(I)I"⟩
def dkwX6_belowNow_1 : List UInt8 := [4, 167, 0, 4, 3, 96, 61, 132, 3, 1, 167, 255, 226, 28, 172]
abbrev dktX6_belowNow_1 : List UInt8 := dkwX6_belowNow_1 ++ []
def dkwX6_belowNow_0 : List UInt8 := [3, 61, 3, 62, 29, 42, 180, 0, 13, 3, 46, 162, 0, 26, 28, 42, 29, 27, 182, 0, 91, 153, 0, 7]
abbrev dktX6_belowNow_0 : List UInt8 := dkwX6_belowNow_0 ++ dktX6_belowNow_1
theorem dksX6_belowNow_0 : cX6_belowNow.data.toList.drop 0 = dktX6_belowNow_0 := by decide +kernel
theorem dksX6_belowNow_1 : cX6_belowNow.data.toList.drop 24 = dktX6_belowNow_1 := dk_seg dksX6_belowNow_0 24 rfl rfl
theorem dX6_belowNow_0 : decode cX6_belowNow 0 = .ok (.iconst 0, 1) := dk_3 (dk_at dksX6_belowNow_0 0 rfl rfl)
theorem dX6_belowNow_1 : decode cX6_belowNow 1 = .ok (.istore_n 2, 1) := dk_61 (dk_at dksX6_belowNow_0 1 rfl rfl)
theorem dX6_belowNow_2 : decode cX6_belowNow 2 = .ok (.iconst 0, 1) := dk_3 (dk_at dksX6_belowNow_0 2 rfl rfl)
theorem dX6_belowNow_3 : decode cX6_belowNow 3 = .ok (.istore_n 3, 1) := dk_62 (dk_at dksX6_belowNow_0 3 rfl rfl)
theorem dX6_belowNow_4 : decode cX6_belowNow 4 = .ok (.iload_n 3, 1) := dk_29 (dk_at dksX6_belowNow_0 4 rfl rfl)
theorem dX6_belowNow_5 : decode cX6_belowNow 5 = .ok (.aload_n 0, 1) := dk_42 (dk_at dksX6_belowNow_0 5 rfl rfl)
theorem dX6_belowNow_6 : decode cX6_belowNow 6 = .ok (.getfield 13, 3) := dk_180 0 13 (dk_at dksX6_belowNow_0 6 rfl rfl)
theorem dX6_belowNow_9 : decode cX6_belowNow 9 = .ok (.iconst 0, 1) := dk_3 (dk_at dksX6_belowNow_0 9 rfl rfl)
theorem dX6_belowNow_10 : decode cX6_belowNow 10 = .ok (.iaload, 1) := dk_46 (dk_at dksX6_belowNow_0 10 rfl rfl)
theorem dX6_belowNow_11 : decode cX6_belowNow 11 = .ok (.if_icmp .ge 26, 3) := dk_162 0 26 (dk_at dksX6_belowNow_0 11 rfl rfl)
theorem dX6_belowNow_14 : decode cX6_belowNow 14 = .ok (.iload_n 2, 1) := dk_28 (dk_at dksX6_belowNow_0 14 rfl rfl)
theorem dX6_belowNow_15 : decode cX6_belowNow 15 = .ok (.aload_n 0, 1) := dk_42 (dk_at dksX6_belowNow_0 15 rfl rfl)
theorem dX6_belowNow_16 : decode cX6_belowNow 16 = .ok (.iload_n 3, 1) := dk_29 (dk_at dksX6_belowNow_0 16 rfl rfl)
theorem dX6_belowNow_17 : decode cX6_belowNow 17 = .ok (.iload_n 1, 1) := dk_27 (dk_at dksX6_belowNow_0 17 rfl rfl)
theorem dX6_belowNow_18 : decode cX6_belowNow 18 = .ok (.invokevirtual 91, 3) := dk_182 0 91 (dk_at dksX6_belowNow_0 18 rfl rfl)
theorem dX6_belowNow_21 : decode cX6_belowNow 21 = .ok (.ifCond .eq 7, 3) := dk_153 0 7 (dk_at dksX6_belowNow_0 21 rfl rfl)
theorem dX6_belowNow_24 : decode cX6_belowNow 24 = .ok (.iconst 1, 1) := dk_4 (dk_at dksX6_belowNow_1 0 rfl rfl)
theorem dX6_belowNow_25 : decode cX6_belowNow 25 = .ok (.goto 4, 3) := dk_167 0 4 (dk_at dksX6_belowNow_1 1 rfl rfl)
theorem dX6_belowNow_28 : decode cX6_belowNow 28 = .ok (.iconst 0, 1) := dk_3 (dk_at dksX6_belowNow_1 4 rfl rfl)
theorem dX6_belowNow_29 : decode cX6_belowNow 29 = .ok (.iadd, 1) := dk_96 (dk_at dksX6_belowNow_1 5 rfl rfl)
theorem dX6_belowNow_30 : decode cX6_belowNow 30 = .ok (.istore_n 2, 1) := dk_61 (dk_at dksX6_belowNow_1 6 rfl rfl)
theorem dX6_belowNow_31 : decode cX6_belowNow 31 = .ok (.iinc 3 1, 3) := dk_132 3 1 (dk_at dksX6_belowNow_1 7 rfl rfl)
theorem dX6_belowNow_34 : decode cX6_belowNow 34 = .ok (.goto (-30), 3) := dk_167 255 226 (dk_at dksX6_belowNow_1 10 rfl rfl)
theorem dX6_belowNow_37 : decode cX6_belowNow 37 = .ok (.iload_n 2, 1) := dk_28 (dk_at dksX6_belowNow_1 13 rfl rfl)
theorem dX6_belowNow_38 : decode cX6_belowNow 38 = .ok (.ireturn, 1) := dk_172 (dk_at dksX6_belowNow_1 14 rfl rfl)
abbrev cX6_isBelow : ByteArray := prog_14_method_18_code
def yX6_isBelow : MethodName := ⟨RX6, "isBelow", "(II)Z"⟩
def dkwX6_isBelow_1 : List UInt8 := [62, 167, 255, 239, 29, 28, 160, 0, 7, 4, 167, 0, 4, 3, 172]
abbrev dktX6_isBelow_1 : List UInt8 := dkwX6_isBelow_1 ++ []
def dkwX6_isBelow_0 : List UInt8 := [42, 27, 16, 6, 182, 0, 83, 62, 29, 155, 0, 19, 29, 28, 159, 0, 14, 42, 29, 16, 6, 182, 0, 83]
abbrev dktX6_isBelow_0 : List UInt8 := dkwX6_isBelow_0 ++ dktX6_isBelow_1
theorem dksX6_isBelow_0 : cX6_isBelow.data.toList.drop 0 = dktX6_isBelow_0 := by decide +kernel
theorem dksX6_isBelow_1 : cX6_isBelow.data.toList.drop 24 = dktX6_isBelow_1 := dk_seg dksX6_isBelow_0 24 rfl rfl
theorem dX6_isBelow_0 : decode cX6_isBelow 0 = .ok (.aload_n 0, 1) := dk_42 (dk_at dksX6_isBelow_0 0 rfl rfl)
theorem dX6_isBelow_1 : decode cX6_isBelow 1 = .ok (.iload_n 1, 1) := dk_27 (dk_at dksX6_isBelow_0 1 rfl rfl)
theorem dX6_isBelow_2 : decode cX6_isBelow 2 = .ok (.bipush 6, 2) := dk_16 6 (dk_at dksX6_isBelow_0 2 rfl rfl)
theorem dX6_isBelow_4 : decode cX6_isBelow 4 = .ok (.invokevirtual 83, 3) := dk_182 0 83 (dk_at dksX6_isBelow_0 4 rfl rfl)
theorem dX6_isBelow_7 : decode cX6_isBelow 7 = .ok (.istore_n 3, 1) := dk_62 (dk_at dksX6_isBelow_0 7 rfl rfl)
theorem dX6_isBelow_8 : decode cX6_isBelow 8 = .ok (.iload_n 3, 1) := dk_29 (dk_at dksX6_isBelow_0 8 rfl rfl)
theorem dX6_isBelow_9 : decode cX6_isBelow 9 = .ok (.ifCond .lt 19, 3) := dk_155 0 19 (dk_at dksX6_isBelow_0 9 rfl rfl)
theorem dX6_isBelow_12 : decode cX6_isBelow 12 = .ok (.iload_n 3, 1) := dk_29 (dk_at dksX6_isBelow_0 12 rfl rfl)
theorem dX6_isBelow_13 : decode cX6_isBelow 13 = .ok (.iload_n 2, 1) := dk_28 (dk_at dksX6_isBelow_0 13 rfl rfl)
theorem dX6_isBelow_14 : decode cX6_isBelow 14 = .ok (.if_icmp .eq 14, 3) := dk_159 0 14 (dk_at dksX6_isBelow_0 14 rfl rfl)
theorem dX6_isBelow_17 : decode cX6_isBelow 17 = .ok (.aload_n 0, 1) := dk_42 (dk_at dksX6_isBelow_0 17 rfl rfl)
theorem dX6_isBelow_18 : decode cX6_isBelow 18 = .ok (.iload_n 3, 1) := dk_29 (dk_at dksX6_isBelow_0 18 rfl rfl)
theorem dX6_isBelow_19 : decode cX6_isBelow 19 = .ok (.bipush 6, 2) := dk_16 6 (dk_at dksX6_isBelow_0 19 rfl rfl)
theorem dX6_isBelow_21 : decode cX6_isBelow 21 = .ok (.invokevirtual 83, 3) := dk_182 0 83 (dk_at dksX6_isBelow_0 21 rfl rfl)
theorem dX6_isBelow_24 : decode cX6_isBelow 24 = .ok (.istore_n 3, 1) := dk_62 (dk_at dksX6_isBelow_1 0 rfl rfl)
theorem dX6_isBelow_25 : decode cX6_isBelow 25 = .ok (.goto (-17), 3) := dk_167 255 239 (dk_at dksX6_isBelow_1 1 rfl rfl)
theorem dX6_isBelow_28 : decode cX6_isBelow 28 = .ok (.iload_n 3, 1) := dk_29 (dk_at dksX6_isBelow_1 4 rfl rfl)
theorem dX6_isBelow_29 : decode cX6_isBelow 29 = .ok (.iload_n 2, 1) := dk_28 (dk_at dksX6_isBelow_1 5 rfl rfl)
theorem dX6_isBelow_30 : decode cX6_isBelow 30 = .ok (.if_icmp .ne 7, 3) := dk_160 0 7 (dk_at dksX6_isBelow_1 6 rfl rfl)
theorem dX6_isBelow_33 : decode cX6_isBelow 33 = .ok (.iconst 1, 1) := dk_4 (dk_at dksX6_isBelow_1 9 rfl rfl)
theorem dX6_isBelow_34 : decode cX6_isBelow 34 = .ok (.goto 4, 3) := dk_167 0 4 (dk_at dksX6_isBelow_1 10 rfl rfl)
theorem dX6_isBelow_37 : decode cX6_isBelow 37 = .ok (.iconst 0, 1) := dk_3 (dk_at dksX6_isBelow_1 13 rfl rfl)
theorem dX6_isBelow_38 : decode cX6_isBelow 38 = .ok (.ireturn, 1) := dk_172 (dk_at dksX6_isBelow_1 14 rfl rfl)
abbrev cX6_setStrategy : ByteArray := prog_14_method_31_code
def yX6_setStrategy : MethodName := ⟨RX6, "setStrategy", "(IC)C"⟩
def dkwX6_setStrategy_1 : List UInt8 := [182, 0, 112, 42, 27, 8, 28, 182, 0, 124, 146, 172]
abbrev dktX6_setStrategy_1 : List UInt8 := dkwX6_setStrategy_1 ++ []
def dkwX6_setStrategy_0 : List UInt8 := [42, 3, 181, 0, 1, 42, 27, 28, 182, 0, 136, 62, 29, 153, 0, 10, 42, 29, 182, 0, 75, 146, 172, 42]
abbrev dktX6_setStrategy_0 : List UInt8 := dkwX6_setStrategy_0 ++ dktX6_setStrategy_1
theorem dksX6_setStrategy_0 : cX6_setStrategy.data.toList.drop 0 = dktX6_setStrategy_0 := by decide +kernel
theorem dksX6_setStrategy_1 : cX6_setStrategy.data.toList.drop 24 = dktX6_setStrategy_1 := dk_seg dksX6_setStrategy_0 24 rfl rfl
theorem dX6_setStrategy_0 : decode cX6_setStrategy 0 = .ok (.aload_n 0, 1) := dk_42 (dk_at dksX6_setStrategy_0 0 rfl rfl)
theorem dX6_setStrategy_1 : decode cX6_setStrategy 1 = .ok (.iconst 0, 1) := dk_3 (dk_at dksX6_setStrategy_0 1 rfl rfl)
theorem dX6_setStrategy_2 : decode cX6_setStrategy 2 = .ok (.putfield 1, 3) := dk_181 0 1 (dk_at dksX6_setStrategy_0 2 rfl rfl)
theorem dX6_setStrategy_5 : decode cX6_setStrategy 5 = .ok (.aload_n 0, 1) := dk_42 (dk_at dksX6_setStrategy_0 5 rfl rfl)
theorem dX6_setStrategy_6 : decode cX6_setStrategy 6 = .ok (.iload_n 1, 1) := dk_27 (dk_at dksX6_setStrategy_0 6 rfl rfl)
theorem dX6_setStrategy_7 : decode cX6_setStrategy 7 = .ok (.iload_n 2, 1) := dk_28 (dk_at dksX6_setStrategy_0 7 rfl rfl)
theorem dX6_setStrategy_8 : decode cX6_setStrategy 8 = .ok (.invokevirtual 136, 3) := dk_182 0 136 (dk_at dksX6_setStrategy_0 8 rfl rfl)
theorem dX6_setStrategy_11 : decode cX6_setStrategy 11 = .ok (.istore_n 3, 1) := dk_62 (dk_at dksX6_setStrategy_0 11 rfl rfl)
theorem dX6_setStrategy_12 : decode cX6_setStrategy 12 = .ok (.iload_n 3, 1) := dk_29 (dk_at dksX6_setStrategy_0 12 rfl rfl)
theorem dX6_setStrategy_13 : decode cX6_setStrategy 13 = .ok (.ifCond .eq 10, 3) := dk_153 0 10 (dk_at dksX6_setStrategy_0 13 rfl rfl)
theorem dX6_setStrategy_16 : decode cX6_setStrategy 16 = .ok (.aload_n 0, 1) := dk_42 (dk_at dksX6_setStrategy_0 16 rfl rfl)
theorem dX6_setStrategy_17 : decode cX6_setStrategy 17 = .ok (.iload_n 3, 1) := dk_29 (dk_at dksX6_setStrategy_0 17 rfl rfl)
theorem dX6_setStrategy_18 : decode cX6_setStrategy 18 = .ok (.invokevirtual 75, 3) := dk_182 0 75 (dk_at dksX6_setStrategy_0 18 rfl rfl)
theorem dX6_setStrategy_21 : decode cX6_setStrategy 21 = .ok (.i2c, 1) := dk_146 (dk_at dksX6_setStrategy_0 21 rfl rfl)
theorem dX6_setStrategy_22 : decode cX6_setStrategy 22 = .ok (.ireturn, 1) := dk_172 (dk_at dksX6_setStrategy_0 22 rfl rfl)
theorem dX6_setStrategy_23 : decode cX6_setStrategy 23 = .ok (.aload_n 0, 1) := dk_42 (dk_at dksX6_setStrategy_0 23 rfl rfl)
theorem dX6_setStrategy_24 : decode cX6_setStrategy 24 = .ok (.invokevirtual 112, 3) := dk_182 0 112 (dk_at dksX6_setStrategy_1 0 rfl rfl)
theorem dX6_setStrategy_27 : decode cX6_setStrategy 27 = .ok (.aload_n 0, 1) := dk_42 (dk_at dksX6_setStrategy_1 3 rfl rfl)
theorem dX6_setStrategy_28 : decode cX6_setStrategy 28 = .ok (.iload_n 1, 1) := dk_27 (dk_at dksX6_setStrategy_1 4 rfl rfl)
theorem dX6_setStrategy_29 : decode cX6_setStrategy 29 = .ok (.iconst 5, 1) := dk_8 (dk_at dksX6_setStrategy_1 5 rfl rfl)
theorem dX6_setStrategy_30 : decode cX6_setStrategy 30 = .ok (.iload_n 2, 1) := dk_28 (dk_at dksX6_setStrategy_1 6 rfl rfl)
theorem dX6_setStrategy_31 : decode cX6_setStrategy 31 = .ok (.invokevirtual 124, 3) := dk_182 0 124 (dk_at dksX6_setStrategy_1 7 rfl rfl)
theorem dX6_setStrategy_34 : decode cX6_setStrategy 34 = .ok (.i2c, 1) := dk_146 (dk_at dksX6_setStrategy_1 10 rfl rfl)
theorem dX6_setStrategy_35 : decode cX6_setStrategy 35 = .ok (.ireturn, 1) := dk_172 (dk_at dksX6_setStrategy_1 11 rfl rfl)
abbrev cX6_notStrategy : ByteArray := prog_14_method_30_code
def yX6_notStrategy : MethodName := ⟨RX6, "notStrategy", "(II)I"⟩
def dkwX6_notStrategy_1 : List UInt8 := [16, 101, 160, 0, 7, 3, 167, 0, 4, 5, 172]
abbrev dktX6_notStrategy_1 : List UInt8 := dkwX6_notStrategy_1 ++ []
def dkwX6_notStrategy_0 : List UInt8 := [42, 27, 182, 0, 118, 154, 0, 5, 4, 172, 28, 16, 114, 159, 0, 15, 28, 16, 115, 159, 0, 9, 28]
abbrev dktX6_notStrategy_0 : List UInt8 := dkwX6_notStrategy_0 ++ dktX6_notStrategy_1
theorem dksX6_notStrategy_0 : cX6_notStrategy.data.toList.drop 0 = dktX6_notStrategy_0 := by decide +kernel
theorem dksX6_notStrategy_1 : cX6_notStrategy.data.toList.drop 23 = dktX6_notStrategy_1 := dk_seg dksX6_notStrategy_0 23 rfl rfl
theorem dX6_notStrategy_0 : decode cX6_notStrategy 0 = .ok (.aload_n 0, 1) := dk_42 (dk_at dksX6_notStrategy_0 0 rfl rfl)
theorem dX6_notStrategy_1 : decode cX6_notStrategy 1 = .ok (.iload_n 1, 1) := dk_27 (dk_at dksX6_notStrategy_0 1 rfl rfl)
theorem dX6_notStrategy_2 : decode cX6_notStrategy 2 = .ok (.invokevirtual 118, 3) := dk_182 0 118 (dk_at dksX6_notStrategy_0 2 rfl rfl)
theorem dX6_notStrategy_5 : decode cX6_notStrategy 5 = .ok (.ifCond .ne 5, 3) := dk_154 0 5 (dk_at dksX6_notStrategy_0 5 rfl rfl)
theorem dX6_notStrategy_8 : decode cX6_notStrategy 8 = .ok (.iconst 1, 1) := dk_4 (dk_at dksX6_notStrategy_0 8 rfl rfl)
theorem dX6_notStrategy_9 : decode cX6_notStrategy 9 = .ok (.ireturn, 1) := dk_172 (dk_at dksX6_notStrategy_0 9 rfl rfl)
theorem dX6_notStrategy_10 : decode cX6_notStrategy 10 = .ok (.iload_n 2, 1) := dk_28 (dk_at dksX6_notStrategy_0 10 rfl rfl)
theorem dX6_notStrategy_11 : decode cX6_notStrategy 11 = .ok (.bipush 114, 2) := dk_16 114 (dk_at dksX6_notStrategy_0 11 rfl rfl)
theorem dX6_notStrategy_13 : decode cX6_notStrategy 13 = .ok (.if_icmp .eq 15, 3) := dk_159 0 15 (dk_at dksX6_notStrategy_0 13 rfl rfl)
theorem dX6_notStrategy_16 : decode cX6_notStrategy 16 = .ok (.iload_n 2, 1) := dk_28 (dk_at dksX6_notStrategy_0 16 rfl rfl)
theorem dX6_notStrategy_17 : decode cX6_notStrategy 17 = .ok (.bipush 115, 2) := dk_16 115 (dk_at dksX6_notStrategy_0 17 rfl rfl)
theorem dX6_notStrategy_19 : decode cX6_notStrategy 19 = .ok (.if_icmp .eq 9, 3) := dk_159 0 9 (dk_at dksX6_notStrategy_0 19 rfl rfl)
theorem dX6_notStrategy_22 : decode cX6_notStrategy 22 = .ok (.iload_n 2, 1) := dk_28 (dk_at dksX6_notStrategy_0 22 rfl rfl)
theorem dX6_notStrategy_23 : decode cX6_notStrategy 23 = .ok (.bipush 101, 2) := dk_16 101 (dk_at dksX6_notStrategy_1 0 rfl rfl)
theorem dX6_notStrategy_25 : decode cX6_notStrategy 25 = .ok (.if_icmp .ne 7, 3) := dk_160 0 7 (dk_at dksX6_notStrategy_1 2 rfl rfl)
theorem dX6_notStrategy_28 : decode cX6_notStrategy 28 = .ok (.iconst 0, 1) := dk_3 (dk_at dksX6_notStrategy_1 5 rfl rfl)
theorem dX6_notStrategy_29 : decode cX6_notStrategy 29 = .ok (.goto 4, 3) := dk_167 0 4 (dk_at dksX6_notStrategy_1 6 rfl rfl)
theorem dX6_notStrategy_32 : decode cX6_notStrategy 32 = .ok (.iconst 2, 1) := dk_5 (dk_at dksX6_notStrategy_1 9 rfl rfl)
theorem dX6_notStrategy_33 : decode cX6_notStrategy 33 = .ok (.ireturn, 1) := dk_172 (dk_at dksX6_notStrategy_1 10 rfl rfl)
abbrev cX6_setPriority : ByteArray := prog_14_method_33_code
def yX6_setPriority : MethodName := ⟨RX6, "setPriority", "(II)I"⟩
def dkwX6_setPriority_1 : List UInt8 := [182, 0, 112, 42, 27, 6, 28, 182, 0, 124, 172]
abbrev dktX6_setPriority_1 : List UInt8 := dkwX6_setPriority_1 ++ []
def dkwX6_setPriority_0 : List UInt8 := [42, 3, 181, 0, 1, 42, 27, 28, 182, 0, 139, 62, 29, 153, 0, 9, 42, 29, 182, 0, 75, 172, 42]
abbrev dktX6_setPriority_0 : List UInt8 := dkwX6_setPriority_0 ++ dktX6_setPriority_1
theorem dksX6_setPriority_0 : cX6_setPriority.data.toList.drop 0 = dktX6_setPriority_0 := by decide +kernel
theorem dksX6_setPriority_1 : cX6_setPriority.data.toList.drop 23 = dktX6_setPriority_1 := dk_seg dksX6_setPriority_0 23 rfl rfl
theorem dX6_setPriority_0 : decode cX6_setPriority 0 = .ok (.aload_n 0, 1) := dk_42 (dk_at dksX6_setPriority_0 0 rfl rfl)
theorem dX6_setPriority_1 : decode cX6_setPriority 1 = .ok (.iconst 0, 1) := dk_3 (dk_at dksX6_setPriority_0 1 rfl rfl)
theorem dX6_setPriority_2 : decode cX6_setPriority 2 = .ok (.putfield 1, 3) := dk_181 0 1 (dk_at dksX6_setPriority_0 2 rfl rfl)
theorem dX6_setPriority_5 : decode cX6_setPriority 5 = .ok (.aload_n 0, 1) := dk_42 (dk_at dksX6_setPriority_0 5 rfl rfl)
theorem dX6_setPriority_6 : decode cX6_setPriority 6 = .ok (.iload_n 1, 1) := dk_27 (dk_at dksX6_setPriority_0 6 rfl rfl)
theorem dX6_setPriority_7 : decode cX6_setPriority 7 = .ok (.iload_n 2, 1) := dk_28 (dk_at dksX6_setPriority_0 7 rfl rfl)
theorem dX6_setPriority_8 : decode cX6_setPriority 8 = .ok (.invokevirtual 139, 3) := dk_182 0 139 (dk_at dksX6_setPriority_0 8 rfl rfl)
theorem dX6_setPriority_11 : decode cX6_setPriority 11 = .ok (.istore_n 3, 1) := dk_62 (dk_at dksX6_setPriority_0 11 rfl rfl)
theorem dX6_setPriority_12 : decode cX6_setPriority 12 = .ok (.iload_n 3, 1) := dk_29 (dk_at dksX6_setPriority_0 12 rfl rfl)
theorem dX6_setPriority_13 : decode cX6_setPriority 13 = .ok (.ifCond .eq 9, 3) := dk_153 0 9 (dk_at dksX6_setPriority_0 13 rfl rfl)
theorem dX6_setPriority_16 : decode cX6_setPriority 16 = .ok (.aload_n 0, 1) := dk_42 (dk_at dksX6_setPriority_0 16 rfl rfl)
theorem dX6_setPriority_17 : decode cX6_setPriority 17 = .ok (.iload_n 3, 1) := dk_29 (dk_at dksX6_setPriority_0 17 rfl rfl)
theorem dX6_setPriority_18 : decode cX6_setPriority 18 = .ok (.invokevirtual 75, 3) := dk_182 0 75 (dk_at dksX6_setPriority_0 18 rfl rfl)
theorem dX6_setPriority_21 : decode cX6_setPriority 21 = .ok (.ireturn, 1) := dk_172 (dk_at dksX6_setPriority_0 21 rfl rfl)
theorem dX6_setPriority_22 : decode cX6_setPriority 22 = .ok (.aload_n 0, 1) := dk_42 (dk_at dksX6_setPriority_0 22 rfl rfl)
theorem dX6_setPriority_23 : decode cX6_setPriority 23 = .ok (.invokevirtual 112, 3) := dk_182 0 112 (dk_at dksX6_setPriority_1 0 rfl rfl)
theorem dX6_setPriority_26 : decode cX6_setPriority 26 = .ok (.aload_n 0, 1) := dk_42 (dk_at dksX6_setPriority_1 3 rfl rfl)
theorem dX6_setPriority_27 : decode cX6_setPriority 27 = .ok (.iload_n 1, 1) := dk_27 (dk_at dksX6_setPriority_1 4 rfl rfl)
theorem dX6_setPriority_28 : decode cX6_setPriority 28 = .ok (.iconst 3, 1) := dk_6 (dk_at dksX6_setPriority_1 5 rfl rfl)
theorem dX6_setPriority_29 : decode cX6_setPriority 29 = .ok (.iload_n 2, 1) := dk_28 (dk_at dksX6_setPriority_1 6 rfl rfl)
theorem dX6_setPriority_30 : decode cX6_setPriority 30 = .ok (.invokevirtual 124, 3) := dk_182 0 124 (dk_at dksX6_setPriority_1 7 rfl rfl)
theorem dX6_setPriority_33 : decode cX6_setPriority 33 = .ok (.ireturn, 1) := dk_172 (dk_at dksX6_setPriority_1 10 rfl rfl)
abbrev cX6_notPriority : ByteArray := prog_14_method_32_code
def yX6_notPriority : MethodName := ⟨RX6, "notPriority", "(II)I"⟩
def dkwX6_notPriority_1 : List UInt8 := [5, 172]
abbrev dktX6_notPriority_1 : List UInt8 := dkwX6_notPriority_1 ++ []
def dkwX6_notPriority_0 : List UInt8 := [42, 27, 182, 0, 118, 154, 0, 5, 4, 172, 28, 3, 16, 9, 184, 0, 79, 153, 0, 7, 3, 167, 0, 4]
abbrev dktX6_notPriority_0 : List UInt8 := dkwX6_notPriority_0 ++ dktX6_notPriority_1
theorem dksX6_notPriority_0 : cX6_notPriority.data.toList.drop 0 = dktX6_notPriority_0 := by decide +kernel
theorem dksX6_notPriority_1 : cX6_notPriority.data.toList.drop 24 = dktX6_notPriority_1 := dk_seg dksX6_notPriority_0 24 rfl rfl
theorem dX6_notPriority_0 : decode cX6_notPriority 0 = .ok (.aload_n 0, 1) := dk_42 (dk_at dksX6_notPriority_0 0 rfl rfl)
theorem dX6_notPriority_1 : decode cX6_notPriority 1 = .ok (.iload_n 1, 1) := dk_27 (dk_at dksX6_notPriority_0 1 rfl rfl)
theorem dX6_notPriority_2 : decode cX6_notPriority 2 = .ok (.invokevirtual 118, 3) := dk_182 0 118 (dk_at dksX6_notPriority_0 2 rfl rfl)
theorem dX6_notPriority_5 : decode cX6_notPriority 5 = .ok (.ifCond .ne 5, 3) := dk_154 0 5 (dk_at dksX6_notPriority_0 5 rfl rfl)
theorem dX6_notPriority_8 : decode cX6_notPriority 8 = .ok (.iconst 1, 1) := dk_4 (dk_at dksX6_notPriority_0 8 rfl rfl)
theorem dX6_notPriority_9 : decode cX6_notPriority 9 = .ok (.ireturn, 1) := dk_172 (dk_at dksX6_notPriority_0 9 rfl rfl)
theorem dX6_notPriority_10 : decode cX6_notPriority 10 = .ok (.iload_n 2, 1) := dk_28 (dk_at dksX6_notPriority_0 10 rfl rfl)
theorem dX6_notPriority_11 : decode cX6_notPriority 11 = .ok (.iconst 0, 1) := dk_3 (dk_at dksX6_notPriority_0 11 rfl rfl)
theorem dX6_notPriority_12 : decode cX6_notPriority 12 = .ok (.bipush 9, 2) := dk_16 9 (dk_at dksX6_notPriority_0 12 rfl rfl)
theorem dX6_notPriority_14 : decode cX6_notPriority 14 = .ok (.invokestatic 79, 3) := dk_184 0 79 (dk_at dksX6_notPriority_0 14 rfl rfl)
theorem dX6_notPriority_17 : decode cX6_notPriority 17 = .ok (.ifCond .eq 7, 3) := dk_153 0 7 (dk_at dksX6_notPriority_0 17 rfl rfl)
theorem dX6_notPriority_20 : decode cX6_notPriority 20 = .ok (.iconst 0, 1) := dk_3 (dk_at dksX6_notPriority_0 20 rfl rfl)
theorem dX6_notPriority_21 : decode cX6_notPriority 21 = .ok (.goto 4, 3) := dk_167 0 4 (dk_at dksX6_notPriority_0 21 rfl rfl)
theorem dX6_notPriority_24 : decode cX6_notPriority 24 = .ok (.iconst 2, 1) := dk_5 (dk_at dksX6_notPriority_1 0 rfl rfl)
theorem dX6_notPriority_25 : decode cX6_notPriority 25 = .ok (.ireturn, 1) := dk_172 (dk_at dksX6_notPriority_1 1 rfl rfl)
abbrev cX6_start : ByteArray := prog_14_method_36_code
def yX6_start : MethodName := ⟨RX6, "start", "(I)I"⟩
def dkwX6_start_1 : List UInt8 := [182, 0, 112, 42, 27, 182, 0, 145, 172]
abbrev dktX6_start_1 : List UInt8 := dkwX6_start_1 ++ []
def dkwX6_start_0 : List UInt8 := [42, 3, 181, 0, 1, 42, 27, 182, 0, 142, 61, 28, 153, 0, 9, 42, 28, 182, 0, 109, 172, 42]
abbrev dktX6_start_0 : List UInt8 := dkwX6_start_0 ++ dktX6_start_1
theorem dksX6_start_0 : cX6_start.data.toList.drop 0 = dktX6_start_0 := by decide +kernel
theorem dksX6_start_1 : cX6_start.data.toList.drop 22 = dktX6_start_1 := dk_seg dksX6_start_0 22 rfl rfl
theorem dX6_start_0 : decode cX6_start 0 = .ok (.aload_n 0, 1) := dk_42 (dk_at dksX6_start_0 0 rfl rfl)
theorem dX6_start_1 : decode cX6_start 1 = .ok (.iconst 0, 1) := dk_3 (dk_at dksX6_start_0 1 rfl rfl)
theorem dX6_start_2 : decode cX6_start 2 = .ok (.putfield 1, 3) := dk_181 0 1 (dk_at dksX6_start_0 2 rfl rfl)
theorem dX6_start_5 : decode cX6_start 5 = .ok (.aload_n 0, 1) := dk_42 (dk_at dksX6_start_0 5 rfl rfl)
theorem dX6_start_6 : decode cX6_start 6 = .ok (.iload_n 1, 1) := dk_27 (dk_at dksX6_start_0 6 rfl rfl)
theorem dX6_start_7 : decode cX6_start 7 = .ok (.invokevirtual 142, 3) := dk_182 0 142 (dk_at dksX6_start_0 7 rfl rfl)
theorem dX6_start_10 : decode cX6_start 10 = .ok (.istore_n 2, 1) := dk_61 (dk_at dksX6_start_0 10 rfl rfl)
theorem dX6_start_11 : decode cX6_start 11 = .ok (.iload_n 2, 1) := dk_28 (dk_at dksX6_start_0 11 rfl rfl)
theorem dX6_start_12 : decode cX6_start 12 = .ok (.ifCond .eq 9, 3) := dk_153 0 9 (dk_at dksX6_start_0 12 rfl rfl)
theorem dX6_start_15 : decode cX6_start 15 = .ok (.aload_n 0, 1) := dk_42 (dk_at dksX6_start_0 15 rfl rfl)
theorem dX6_start_16 : decode cX6_start 16 = .ok (.iload_n 2, 1) := dk_28 (dk_at dksX6_start_0 16 rfl rfl)
theorem dX6_start_17 : decode cX6_start 17 = .ok (.invokevirtual 109, 3) := dk_182 0 109 (dk_at dksX6_start_0 17 rfl rfl)
theorem dX6_start_20 : decode cX6_start 20 = .ok (.ireturn, 1) := dk_172 (dk_at dksX6_start_0 20 rfl rfl)
theorem dX6_start_21 : decode cX6_start 21 = .ok (.aload_n 0, 1) := dk_42 (dk_at dksX6_start_0 21 rfl rfl)
theorem dX6_start_22 : decode cX6_start 22 = .ok (.invokevirtual 112, 3) := dk_182 0 112 (dk_at dksX6_start_1 0 rfl rfl)
theorem dX6_start_25 : decode cX6_start 25 = .ok (.aload_n 0, 1) := dk_42 (dk_at dksX6_start_1 3 rfl rfl)
theorem dX6_start_26 : decode cX6_start 26 = .ok (.iload_n 1, 1) := dk_27 (dk_at dksX6_start_1 4 rfl rfl)
theorem dX6_start_27 : decode cX6_start 27 = .ok (.invokevirtual 145, 3) := dk_182 0 145 (dk_at dksX6_start_1 5 rfl rfl)
theorem dX6_start_30 : decode cX6_start 30 = .ok (.ireturn, 1) := dk_172 (dk_at dksX6_start_1 8 rfl rfl)
abbrev cX6_notStart : ByteArray := prog_14_method_34_code
def yX6_notStart : MethodName := ⟨RX6, "notStart", "(I)I"⟩
def dkwX6_notStart_1 : List UInt8 := [182, 0, 87, 154, 0, 13, 42, 7, 28, 5, 182, 0, 98, 167, 0, 4, 3, 172]
abbrev dktX6_notStart_1 : List UInt8 := dkwX6_notStart_1 ++ []
def dkwX6_notStart_0 : List UInt8 := [42, 27, 182, 0, 118, 154, 0, 5, 4, 172, 42, 27, 16, 6, 182, 0, 83, 61, 28, 155, 0, 21, 42, 28]
abbrev dktX6_notStart_0 : List UInt8 := dkwX6_notStart_0 ++ dktX6_notStart_1
theorem dksX6_notStart_0 : cX6_notStart.data.toList.drop 0 = dktX6_notStart_0 := by decide +kernel
theorem dksX6_notStart_1 : cX6_notStart.data.toList.drop 24 = dktX6_notStart_1 := dk_seg dksX6_notStart_0 24 rfl rfl
theorem dX6_notStart_0 : decode cX6_notStart 0 = .ok (.aload_n 0, 1) := dk_42 (dk_at dksX6_notStart_0 0 rfl rfl)
theorem dX6_notStart_1 : decode cX6_notStart 1 = .ok (.iload_n 1, 1) := dk_27 (dk_at dksX6_notStart_0 1 rfl rfl)
theorem dX6_notStart_2 : decode cX6_notStart 2 = .ok (.invokevirtual 118, 3) := dk_182 0 118 (dk_at dksX6_notStart_0 2 rfl rfl)
theorem dX6_notStart_5 : decode cX6_notStart 5 = .ok (.ifCond .ne 5, 3) := dk_154 0 5 (dk_at dksX6_notStart_0 5 rfl rfl)
theorem dX6_notStart_8 : decode cX6_notStart 8 = .ok (.iconst 1, 1) := dk_4 (dk_at dksX6_notStart_0 8 rfl rfl)
theorem dX6_notStart_9 : decode cX6_notStart 9 = .ok (.ireturn, 1) := dk_172 (dk_at dksX6_notStart_0 9 rfl rfl)
theorem dX6_notStart_10 : decode cX6_notStart 10 = .ok (.aload_n 0, 1) := dk_42 (dk_at dksX6_notStart_0 10 rfl rfl)
theorem dX6_notStart_11 : decode cX6_notStart 11 = .ok (.iload_n 1, 1) := dk_27 (dk_at dksX6_notStart_0 11 rfl rfl)
theorem dX6_notStart_12 : decode cX6_notStart 12 = .ok (.bipush 6, 2) := dk_16 6 (dk_at dksX6_notStart_0 12 rfl rfl)
theorem dX6_notStart_14 : decode cX6_notStart 14 = .ok (.invokevirtual 83, 3) := dk_182 0 83 (dk_at dksX6_notStart_0 14 rfl rfl)
theorem dX6_notStart_17 : decode cX6_notStart 17 = .ok (.istore_n 2, 1) := dk_61 (dk_at dksX6_notStart_0 17 rfl rfl)
theorem dX6_notStart_18 : decode cX6_notStart 18 = .ok (.iload_n 2, 1) := dk_28 (dk_at dksX6_notStart_0 18 rfl rfl)
theorem dX6_notStart_19 : decode cX6_notStart 19 = .ok (.ifCond .lt 21, 3) := dk_155 0 21 (dk_at dksX6_notStart_0 19 rfl rfl)
theorem dX6_notStart_22 : decode cX6_notStart 22 = .ok (.aload_n 0, 1) := dk_42 (dk_at dksX6_notStart_0 22 rfl rfl)
theorem dX6_notStart_23 : decode cX6_notStart 23 = .ok (.iload_n 2, 1) := dk_28 (dk_at dksX6_notStart_0 23 rfl rfl)
theorem dX6_notStart_24 : decode cX6_notStart 24 = .ok (.invokevirtual 87, 3) := dk_182 0 87 (dk_at dksX6_notStart_1 0 rfl rfl)
theorem dX6_notStart_27 : decode cX6_notStart 27 = .ok (.ifCond .ne 13, 3) := dk_154 0 13 (dk_at dksX6_notStart_1 3 rfl rfl)
theorem dX6_notStart_30 : decode cX6_notStart 30 = .ok (.aload_n 0, 1) := dk_42 (dk_at dksX6_notStart_1 6 rfl rfl)
theorem dX6_notStart_31 : decode cX6_notStart 31 = .ok (.iconst 4, 1) := dk_7 (dk_at dksX6_notStart_1 7 rfl rfl)
theorem dX6_notStart_32 : decode cX6_notStart 32 = .ok (.iload_n 2, 1) := dk_28 (dk_at dksX6_notStart_1 8 rfl rfl)
theorem dX6_notStart_33 : decode cX6_notStart 33 = .ok (.iconst 2, 1) := dk_5 (dk_at dksX6_notStart_1 9 rfl rfl)
theorem dX6_notStart_34 : decode cX6_notStart 34 = .ok (.invokevirtual 98, 3) := dk_182 0 98 (dk_at dksX6_notStart_1 10 rfl rfl)
theorem dX6_notStart_37 : decode cX6_notStart 37 = .ok (.goto 4, 3) := dk_167 0 4 (dk_at dksX6_notStart_1 13 rfl rfl)
theorem dX6_notStart_40 : decode cX6_notStart 40 = .ok (.iconst 0, 1) := dk_3 (dk_at dksX6_notStart_1 16 rfl rfl)
theorem dX6_notStart_41 : decode cX6_notStart 41 = .ok (.ireturn, 1) := dk_172 (dk_at dksX6_notStart_1 17 rfl rfl)
abbrev cX6_starts : ByteArray := prog_14_method_35_code
def yX6_starts : MethodName := ⟨RX6, "starts", "(I)I"⟩
def dkwX6_starts_1 : List UInt8 := [182, 0, 102, 42, 27, 16, 8, 3, 182, 0, 102, 4, 172]
abbrev dktX6_starts_1 : List UInt8 := dkwX6_starts_1 ++ []
def dkwX6_starts_0 : List UInt8 := [42, 27, 182, 0, 87, 153, 0, 5, 3, 172, 42, 27, 16, 7, 3, 182, 0, 102, 42, 27, 5, 3]
abbrev dktX6_starts_0 : List UInt8 := dkwX6_starts_0 ++ dktX6_starts_1
theorem dksX6_starts_0 : cX6_starts.data.toList.drop 0 = dktX6_starts_0 := by decide +kernel
theorem dksX6_starts_1 : cX6_starts.data.toList.drop 22 = dktX6_starts_1 := dk_seg dksX6_starts_0 22 rfl rfl
theorem dX6_starts_0 : decode cX6_starts 0 = .ok (.aload_n 0, 1) := dk_42 (dk_at dksX6_starts_0 0 rfl rfl)
theorem dX6_starts_1 : decode cX6_starts 1 = .ok (.iload_n 1, 1) := dk_27 (dk_at dksX6_starts_0 1 rfl rfl)
theorem dX6_starts_2 : decode cX6_starts 2 = .ok (.invokevirtual 87, 3) := dk_182 0 87 (dk_at dksX6_starts_0 2 rfl rfl)
theorem dX6_starts_5 : decode cX6_starts 5 = .ok (.ifCond .eq 5, 3) := dk_153 0 5 (dk_at dksX6_starts_0 5 rfl rfl)
theorem dX6_starts_8 : decode cX6_starts 8 = .ok (.iconst 0, 1) := dk_3 (dk_at dksX6_starts_0 8 rfl rfl)
theorem dX6_starts_9 : decode cX6_starts 9 = .ok (.ireturn, 1) := dk_172 (dk_at dksX6_starts_0 9 rfl rfl)
theorem dX6_starts_10 : decode cX6_starts 10 = .ok (.aload_n 0, 1) := dk_42 (dk_at dksX6_starts_0 10 rfl rfl)
theorem dX6_starts_11 : decode cX6_starts 11 = .ok (.iload_n 1, 1) := dk_27 (dk_at dksX6_starts_0 11 rfl rfl)
theorem dX6_starts_12 : decode cX6_starts 12 = .ok (.bipush 7, 2) := dk_16 7 (dk_at dksX6_starts_0 12 rfl rfl)
theorem dX6_starts_14 : decode cX6_starts 14 = .ok (.iconst 0, 1) := dk_3 (dk_at dksX6_starts_0 14 rfl rfl)
theorem dX6_starts_15 : decode cX6_starts 15 = .ok (.invokevirtual 102, 3) := dk_182 0 102 (dk_at dksX6_starts_0 15 rfl rfl)
theorem dX6_starts_18 : decode cX6_starts 18 = .ok (.aload_n 0, 1) := dk_42 (dk_at dksX6_starts_0 18 rfl rfl)
theorem dX6_starts_19 : decode cX6_starts 19 = .ok (.iload_n 1, 1) := dk_27 (dk_at dksX6_starts_0 19 rfl rfl)
theorem dX6_starts_20 : decode cX6_starts 20 = .ok (.iconst 2, 1) := dk_5 (dk_at dksX6_starts_0 20 rfl rfl)
theorem dX6_starts_21 : decode cX6_starts 21 = .ok (.iconst 0, 1) := dk_3 (dk_at dksX6_starts_0 21 rfl rfl)
theorem dX6_starts_22 : decode cX6_starts 22 = .ok (.invokevirtual 102, 3) := dk_182 0 102 (dk_at dksX6_starts_1 0 rfl rfl)
theorem dX6_starts_25 : decode cX6_starts 25 = .ok (.aload_n 0, 1) := dk_42 (dk_at dksX6_starts_1 3 rfl rfl)
theorem dX6_starts_26 : decode cX6_starts 26 = .ok (.iload_n 1, 1) := dk_27 (dk_at dksX6_starts_1 4 rfl rfl)
theorem dX6_starts_27 : decode cX6_starts 27 = .ok (.bipush 8, 2) := dk_16 8 (dk_at dksX6_starts_1 5 rfl rfl)
theorem dX6_starts_29 : decode cX6_starts 29 = .ok (.iconst 0, 1) := dk_3 (dk_at dksX6_starts_1 7 rfl rfl)
theorem dX6_starts_30 : decode cX6_starts 30 = .ok (.invokevirtual 102, 3) := dk_182 0 102 (dk_at dksX6_starts_1 8 rfl rfl)
theorem dX6_starts_33 : decode cX6_starts 33 = .ok (.iconst 1, 1) := dk_4 (dk_at dksX6_starts_1 11 rfl rfl)
theorem dX6_starts_34 : decode cX6_starts 34 = .ok (.ireturn, 1) := dk_172 (dk_at dksX6_starts_1 12 rfl rfl)
abbrev cX6_stop : ByteArray := prog_14_method_40_code
def yX6_stop : MethodName := ⟨RX6, "stop", "(I)I"⟩
def dkwX6_stop_1 : List UInt8 := [182, 0, 112, 42, 27, 182, 0, 158, 172]
abbrev dktX6_stop_1 : List UInt8 := dkwX6_stop_1 ++ []
def dkwX6_stop_0 : List UInt8 := [42, 3, 181, 0, 1, 42, 27, 182, 0, 155, 61, 28, 153, 0, 9, 42, 28, 182, 0, 109, 172, 42]
abbrev dktX6_stop_0 : List UInt8 := dkwX6_stop_0 ++ dktX6_stop_1
theorem dksX6_stop_0 : cX6_stop.data.toList.drop 0 = dktX6_stop_0 := by decide +kernel
theorem dksX6_stop_1 : cX6_stop.data.toList.drop 22 = dktX6_stop_1 := dk_seg dksX6_stop_0 22 rfl rfl
theorem dX6_stop_0 : decode cX6_stop 0 = .ok (.aload_n 0, 1) := dk_42 (dk_at dksX6_stop_0 0 rfl rfl)
theorem dX6_stop_1 : decode cX6_stop 1 = .ok (.iconst 0, 1) := dk_3 (dk_at dksX6_stop_0 1 rfl rfl)
theorem dX6_stop_2 : decode cX6_stop 2 = .ok (.putfield 1, 3) := dk_181 0 1 (dk_at dksX6_stop_0 2 rfl rfl)
theorem dX6_stop_5 : decode cX6_stop 5 = .ok (.aload_n 0, 1) := dk_42 (dk_at dksX6_stop_0 5 rfl rfl)
theorem dX6_stop_6 : decode cX6_stop 6 = .ok (.iload_n 1, 1) := dk_27 (dk_at dksX6_stop_0 6 rfl rfl)
theorem dX6_stop_7 : decode cX6_stop 7 = .ok (.invokevirtual 155, 3) := dk_182 0 155 (dk_at dksX6_stop_0 7 rfl rfl)
theorem dX6_stop_10 : decode cX6_stop 10 = .ok (.istore_n 2, 1) := dk_61 (dk_at dksX6_stop_0 10 rfl rfl)
theorem dX6_stop_11 : decode cX6_stop 11 = .ok (.iload_n 2, 1) := dk_28 (dk_at dksX6_stop_0 11 rfl rfl)
theorem dX6_stop_12 : decode cX6_stop 12 = .ok (.ifCond .eq 9, 3) := dk_153 0 9 (dk_at dksX6_stop_0 12 rfl rfl)
theorem dX6_stop_15 : decode cX6_stop 15 = .ok (.aload_n 0, 1) := dk_42 (dk_at dksX6_stop_0 15 rfl rfl)
theorem dX6_stop_16 : decode cX6_stop 16 = .ok (.iload_n 2, 1) := dk_28 (dk_at dksX6_stop_0 16 rfl rfl)
theorem dX6_stop_17 : decode cX6_stop 17 = .ok (.invokevirtual 109, 3) := dk_182 0 109 (dk_at dksX6_stop_0 17 rfl rfl)
theorem dX6_stop_20 : decode cX6_stop 20 = .ok (.ireturn, 1) := dk_172 (dk_at dksX6_stop_0 20 rfl rfl)
theorem dX6_stop_21 : decode cX6_stop 21 = .ok (.aload_n 0, 1) := dk_42 (dk_at dksX6_stop_0 21 rfl rfl)
theorem dX6_stop_22 : decode cX6_stop 22 = .ok (.invokevirtual 112, 3) := dk_182 0 112 (dk_at dksX6_stop_1 0 rfl rfl)
theorem dX6_stop_25 : decode cX6_stop 25 = .ok (.aload_n 0, 1) := dk_42 (dk_at dksX6_stop_1 3 rfl rfl)
theorem dX6_stop_26 : decode cX6_stop 26 = .ok (.iload_n 1, 1) := dk_27 (dk_at dksX6_stop_1 4 rfl rfl)
theorem dX6_stop_27 : decode cX6_stop 27 = .ok (.invokevirtual 158, 3) := dk_182 0 158 (dk_at dksX6_stop_1 5 rfl rfl)
theorem dX6_stop_30 : decode cX6_stop 30 = .ok (.ireturn, 1) := dk_172 (dk_at dksX6_stop_1 8 rfl rfl)
abbrev cX6_notStop : ByteArray := prog_14_method_37_code
def yX6_notStop : MethodName := ⟨RX6, "notStop", "(I)I"⟩
def dkwX6_notStop_1 : List UInt8 := [42, 182, 0, 148, 5, 182, 0, 98, 172]
abbrev dktX6_notStop_1 : List UInt8 := dkwX6_notStop_1 ++ []
def dkwX6_notStop_0 : List UInt8 := [42, 27, 182, 0, 118, 154, 0, 5, 4, 172, 42, 27, 182, 0, 87, 153, 0, 7, 3, 167, 0, 13, 42, 6]
abbrev dktX6_notStop_0 : List UInt8 := dkwX6_notStop_0 ++ dktX6_notStop_1
theorem dksX6_notStop_0 : cX6_notStop.data.toList.drop 0 = dktX6_notStop_0 := by decide +kernel
theorem dksX6_notStop_1 : cX6_notStop.data.toList.drop 24 = dktX6_notStop_1 := dk_seg dksX6_notStop_0 24 rfl rfl
theorem dX6_notStop_0 : decode cX6_notStop 0 = .ok (.aload_n 0, 1) := dk_42 (dk_at dksX6_notStop_0 0 rfl rfl)
theorem dX6_notStop_1 : decode cX6_notStop 1 = .ok (.iload_n 1, 1) := dk_27 (dk_at dksX6_notStop_0 1 rfl rfl)
theorem dX6_notStop_2 : decode cX6_notStop 2 = .ok (.invokevirtual 118, 3) := dk_182 0 118 (dk_at dksX6_notStop_0 2 rfl rfl)
theorem dX6_notStop_5 : decode cX6_notStop 5 = .ok (.ifCond .ne 5, 3) := dk_154 0 5 (dk_at dksX6_notStop_0 5 rfl rfl)
theorem dX6_notStop_8 : decode cX6_notStop 8 = .ok (.iconst 1, 1) := dk_4 (dk_at dksX6_notStop_0 8 rfl rfl)
theorem dX6_notStop_9 : decode cX6_notStop 9 = .ok (.ireturn, 1) := dk_172 (dk_at dksX6_notStop_0 9 rfl rfl)
theorem dX6_notStop_10 : decode cX6_notStop 10 = .ok (.aload_n 0, 1) := dk_42 (dk_at dksX6_notStop_0 10 rfl rfl)
theorem dX6_notStop_11 : decode cX6_notStop 11 = .ok (.iload_n 1, 1) := dk_27 (dk_at dksX6_notStop_0 11 rfl rfl)
theorem dX6_notStop_12 : decode cX6_notStop 12 = .ok (.invokevirtual 87, 3) := dk_182 0 87 (dk_at dksX6_notStop_0 12 rfl rfl)
theorem dX6_notStop_15 : decode cX6_notStop 15 = .ok (.ifCond .eq 7, 3) := dk_153 0 7 (dk_at dksX6_notStop_0 15 rfl rfl)
theorem dX6_notStop_18 : decode cX6_notStop 18 = .ok (.iconst 0, 1) := dk_3 (dk_at dksX6_notStop_0 18 rfl rfl)
theorem dX6_notStop_19 : decode cX6_notStop 19 = .ok (.goto 13, 3) := dk_167 0 13 (dk_at dksX6_notStop_0 19 rfl rfl)
theorem dX6_notStop_22 : decode cX6_notStop 22 = .ok (.aload_n 0, 1) := dk_42 (dk_at dksX6_notStop_0 22 rfl rfl)
theorem dX6_notStop_23 : decode cX6_notStop 23 = .ok (.iconst 3, 1) := dk_6 (dk_at dksX6_notStop_0 23 rfl rfl)
theorem dX6_notStop_24 : decode cX6_notStop 24 = .ok (.aload_n 0, 1) := dk_42 (dk_at dksX6_notStop_1 0 rfl rfl)
theorem dX6_notStop_25 : decode cX6_notStop 25 = .ok (.invokevirtual 148, 3) := dk_182 0 148 (dk_at dksX6_notStop_1 1 rfl rfl)
theorem dX6_notStop_28 : decode cX6_notStop 28 = .ok (.iconst 2, 1) := dk_5 (dk_at dksX6_notStop_1 4 rfl rfl)
theorem dX6_notStop_29 : decode cX6_notStop 29 = .ok (.invokevirtual 98, 3) := dk_182 0 98 (dk_at dksX6_notStop_1 5 rfl rfl)
theorem dX6_notStop_32 : decode cX6_notStop 32 = .ok (.ireturn, 1) := dk_172 (dk_at dksX6_notStop_1 8 rfl rfl)
abbrev cX6_runningNow : ByteArray := prog_14_method_17_code
def yX6_runningNow : MethodName := ⟨RX6, "runningNow", "()I"⟩
def dkwX6_runningNow_1 : List UInt8 := [167, 0, 4, 3, 96, 60, 132, 2, 1, 167, 255, 227, 27, 172]
abbrev dktX6_runningNow_1 : List UInt8 := dkwX6_runningNow_1 ++ []
def dkwX6_runningNow_0 : List UInt8 := [3, 60, 3, 61, 28, 42, 180, 0, 13, 3, 46, 162, 0, 25, 27, 42, 28, 182, 0, 87, 153, 0, 7, 4]
abbrev dktX6_runningNow_0 : List UInt8 := dkwX6_runningNow_0 ++ dktX6_runningNow_1
theorem dksX6_runningNow_0 : cX6_runningNow.data.toList.drop 0 = dktX6_runningNow_0 := by decide +kernel
theorem dksX6_runningNow_1 : cX6_runningNow.data.toList.drop 24 = dktX6_runningNow_1 := dk_seg dksX6_runningNow_0 24 rfl rfl
theorem dX6_runningNow_0 : decode cX6_runningNow 0 = .ok (.iconst 0, 1) := dk_3 (dk_at dksX6_runningNow_0 0 rfl rfl)
theorem dX6_runningNow_1 : decode cX6_runningNow 1 = .ok (.istore_n 1, 1) := dk_60 (dk_at dksX6_runningNow_0 1 rfl rfl)
theorem dX6_runningNow_2 : decode cX6_runningNow 2 = .ok (.iconst 0, 1) := dk_3 (dk_at dksX6_runningNow_0 2 rfl rfl)
theorem dX6_runningNow_3 : decode cX6_runningNow 3 = .ok (.istore_n 2, 1) := dk_61 (dk_at dksX6_runningNow_0 3 rfl rfl)
theorem dX6_runningNow_4 : decode cX6_runningNow 4 = .ok (.iload_n 2, 1) := dk_28 (dk_at dksX6_runningNow_0 4 rfl rfl)
theorem dX6_runningNow_5 : decode cX6_runningNow 5 = .ok (.aload_n 0, 1) := dk_42 (dk_at dksX6_runningNow_0 5 rfl rfl)
theorem dX6_runningNow_6 : decode cX6_runningNow 6 = .ok (.getfield 13, 3) := dk_180 0 13 (dk_at dksX6_runningNow_0 6 rfl rfl)
theorem dX6_runningNow_9 : decode cX6_runningNow 9 = .ok (.iconst 0, 1) := dk_3 (dk_at dksX6_runningNow_0 9 rfl rfl)
theorem dX6_runningNow_10 : decode cX6_runningNow 10 = .ok (.iaload, 1) := dk_46 (dk_at dksX6_runningNow_0 10 rfl rfl)
theorem dX6_runningNow_11 : decode cX6_runningNow 11 = .ok (.if_icmp .ge 25, 3) := dk_162 0 25 (dk_at dksX6_runningNow_0 11 rfl rfl)
theorem dX6_runningNow_14 : decode cX6_runningNow 14 = .ok (.iload_n 1, 1) := dk_27 (dk_at dksX6_runningNow_0 14 rfl rfl)
theorem dX6_runningNow_15 : decode cX6_runningNow 15 = .ok (.aload_n 0, 1) := dk_42 (dk_at dksX6_runningNow_0 15 rfl rfl)
theorem dX6_runningNow_16 : decode cX6_runningNow 16 = .ok (.iload_n 2, 1) := dk_28 (dk_at dksX6_runningNow_0 16 rfl rfl)
theorem dX6_runningNow_17 : decode cX6_runningNow 17 = .ok (.invokevirtual 87, 3) := dk_182 0 87 (dk_at dksX6_runningNow_0 17 rfl rfl)
theorem dX6_runningNow_20 : decode cX6_runningNow 20 = .ok (.ifCond .eq 7, 3) := dk_153 0 7 (dk_at dksX6_runningNow_0 20 rfl rfl)
theorem dX6_runningNow_23 : decode cX6_runningNow 23 = .ok (.iconst 1, 1) := dk_4 (dk_at dksX6_runningNow_0 23 rfl rfl)
theorem dX6_runningNow_24 : decode cX6_runningNow 24 = .ok (.goto 4, 3) := dk_167 0 4 (dk_at dksX6_runningNow_1 0 rfl rfl)
theorem dX6_runningNow_27 : decode cX6_runningNow 27 = .ok (.iconst 0, 1) := dk_3 (dk_at dksX6_runningNow_1 3 rfl rfl)
theorem dX6_runningNow_28 : decode cX6_runningNow 28 = .ok (.iadd, 1) := dk_96 (dk_at dksX6_runningNow_1 4 rfl rfl)
theorem dX6_runningNow_29 : decode cX6_runningNow 29 = .ok (.istore_n 1, 1) := dk_60 (dk_at dksX6_runningNow_1 5 rfl rfl)
theorem dX6_runningNow_30 : decode cX6_runningNow 30 = .ok (.iinc 2 1, 3) := dk_132 2 1 (dk_at dksX6_runningNow_1 6 rfl rfl)
theorem dX6_runningNow_33 : decode cX6_runningNow 33 = .ok (.goto (-29), 3) := dk_167 255 227 (dk_at dksX6_runningNow_1 9 rfl rfl)
theorem dX6_runningNow_36 : decode cX6_runningNow 36 = .ok (.iload_n 1, 1) := dk_27 (dk_at dksX6_runningNow_1 12 rfl rfl)
theorem dX6_runningNow_37 : decode cX6_runningNow 37 = .ok (.ireturn, 1) := dk_172 (dk_at dksX6_runningNow_1 13 rfl rfl)
abbrev cX6_stops : ByteArray := prog_14_method_39_code
def yX6_stops : MethodName := ⟨RX6, "stops", "(I)I"⟩
def dkwX6_stops_2 : List UInt8 := [132, 3, 1, 167, 255, 214, 28, 172]
abbrev dktX6_stops_2 : List UInt8 := dkwX6_stops_2 ++ []
def dkwX6_stops_1 : List UInt8 := [153, 0, 20, 42, 29, 27, 182, 0, 91, 153, 0, 11, 42, 29, 182, 0, 152, 167, 0, 4, 3, 96, 61]
abbrev dktX6_stops_1 : List UInt8 := dkwX6_stops_1 ++ dktX6_stops_2
def dkwX6_stops_0 : List UInt8 := [42, 27, 182, 0, 152, 61, 3, 62, 29, 42, 180, 0, 13, 3, 46, 162, 0, 38, 28, 42, 29, 182, 0, 87]
abbrev dktX6_stops_0 : List UInt8 := dkwX6_stops_0 ++ dktX6_stops_1
theorem dksX6_stops_0 : cX6_stops.data.toList.drop 0 = dktX6_stops_0 := by decide +kernel
theorem dksX6_stops_1 : cX6_stops.data.toList.drop 24 = dktX6_stops_1 := dk_seg dksX6_stops_0 24 rfl rfl
theorem dksX6_stops_2 : cX6_stops.data.toList.drop 47 = dktX6_stops_2 := dk_seg dksX6_stops_1 23 rfl rfl
theorem dX6_stops_0 : decode cX6_stops 0 = .ok (.aload_n 0, 1) := dk_42 (dk_at dksX6_stops_0 0 rfl rfl)
theorem dX6_stops_1 : decode cX6_stops 1 = .ok (.iload_n 1, 1) := dk_27 (dk_at dksX6_stops_0 1 rfl rfl)
theorem dX6_stops_2 : decode cX6_stops 2 = .ok (.invokevirtual 152, 3) := dk_182 0 152 (dk_at dksX6_stops_0 2 rfl rfl)
theorem dX6_stops_5 : decode cX6_stops 5 = .ok (.istore_n 2, 1) := dk_61 (dk_at dksX6_stops_0 5 rfl rfl)
theorem dX6_stops_6 : decode cX6_stops 6 = .ok (.iconst 0, 1) := dk_3 (dk_at dksX6_stops_0 6 rfl rfl)
theorem dX6_stops_7 : decode cX6_stops 7 = .ok (.istore_n 3, 1) := dk_62 (dk_at dksX6_stops_0 7 rfl rfl)
theorem dX6_stops_8 : decode cX6_stops 8 = .ok (.iload_n 3, 1) := dk_29 (dk_at dksX6_stops_0 8 rfl rfl)
theorem dX6_stops_9 : decode cX6_stops 9 = .ok (.aload_n 0, 1) := dk_42 (dk_at dksX6_stops_0 9 rfl rfl)
theorem dX6_stops_10 : decode cX6_stops 10 = .ok (.getfield 13, 3) := dk_180 0 13 (dk_at dksX6_stops_0 10 rfl rfl)
theorem dX6_stops_13 : decode cX6_stops 13 = .ok (.iconst 0, 1) := dk_3 (dk_at dksX6_stops_0 13 rfl rfl)
theorem dX6_stops_14 : decode cX6_stops 14 = .ok (.iaload, 1) := dk_46 (dk_at dksX6_stops_0 14 rfl rfl)
theorem dX6_stops_15 : decode cX6_stops 15 = .ok (.if_icmp .ge 38, 3) := dk_162 0 38 (dk_at dksX6_stops_0 15 rfl rfl)
theorem dX6_stops_18 : decode cX6_stops 18 = .ok (.iload_n 2, 1) := dk_28 (dk_at dksX6_stops_0 18 rfl rfl)
theorem dX6_stops_19 : decode cX6_stops 19 = .ok (.aload_n 0, 1) := dk_42 (dk_at dksX6_stops_0 19 rfl rfl)
theorem dX6_stops_20 : decode cX6_stops 20 = .ok (.iload_n 3, 1) := dk_29 (dk_at dksX6_stops_0 20 rfl rfl)
theorem dX6_stops_21 : decode cX6_stops 21 = .ok (.invokevirtual 87, 3) := dk_182 0 87 (dk_at dksX6_stops_0 21 rfl rfl)
theorem dX6_stops_24 : decode cX6_stops 24 = .ok (.ifCond .eq 20, 3) := dk_153 0 20 (dk_at dksX6_stops_1 0 rfl rfl)
theorem dX6_stops_27 : decode cX6_stops 27 = .ok (.aload_n 0, 1) := dk_42 (dk_at dksX6_stops_1 3 rfl rfl)
theorem dX6_stops_28 : decode cX6_stops 28 = .ok (.iload_n 3, 1) := dk_29 (dk_at dksX6_stops_1 4 rfl rfl)
theorem dX6_stops_29 : decode cX6_stops 29 = .ok (.iload_n 1, 1) := dk_27 (dk_at dksX6_stops_1 5 rfl rfl)
theorem dX6_stops_30 : decode cX6_stops 30 = .ok (.invokevirtual 91, 3) := dk_182 0 91 (dk_at dksX6_stops_1 6 rfl rfl)
theorem dX6_stops_33 : decode cX6_stops 33 = .ok (.ifCond .eq 11, 3) := dk_153 0 11 (dk_at dksX6_stops_1 9 rfl rfl)
theorem dX6_stops_36 : decode cX6_stops 36 = .ok (.aload_n 0, 1) := dk_42 (dk_at dksX6_stops_1 12 rfl rfl)
theorem dX6_stops_37 : decode cX6_stops 37 = .ok (.iload_n 3, 1) := dk_29 (dk_at dksX6_stops_1 13 rfl rfl)
theorem dX6_stops_38 : decode cX6_stops 38 = .ok (.invokevirtual 152, 3) := dk_182 0 152 (dk_at dksX6_stops_1 14 rfl rfl)
theorem dX6_stops_41 : decode cX6_stops 41 = .ok (.goto 4, 3) := dk_167 0 4 (dk_at dksX6_stops_1 17 rfl rfl)
theorem dX6_stops_44 : decode cX6_stops 44 = .ok (.iconst 0, 1) := dk_3 (dk_at dksX6_stops_1 20 rfl rfl)
theorem dX6_stops_45 : decode cX6_stops 45 = .ok (.iadd, 1) := dk_96 (dk_at dksX6_stops_1 21 rfl rfl)
theorem dX6_stops_46 : decode cX6_stops 46 = .ok (.istore_n 2, 1) := dk_61 (dk_at dksX6_stops_1 22 rfl rfl)
theorem dX6_stops_47 : decode cX6_stops 47 = .ok (.iinc 3 1, 3) := dk_132 3 1 (dk_at dksX6_stops_2 0 rfl rfl)
theorem dX6_stops_50 : decode cX6_stops 50 = .ok (.goto (-42), 3) := dk_167 255 214 (dk_at dksX6_stops_2 3 rfl rfl)
theorem dX6_stops_53 : decode cX6_stops 53 = .ok (.iload_n 2, 1) := dk_28 (dk_at dksX6_stops_2 6 rfl rfl)
theorem dX6_stops_54 : decode cX6_stops 54 = .ok (.ireturn, 1) := dk_172 (dk_at dksX6_stops_2 7 rfl rfl)
abbrev cX6_stopsOne : ByteArray := prog_14_method_38_code
def yX6_stopsOne : MethodName := ⟨RX6, "stopsOne", "(I)I"⟩
def dkwX6_stopsOne_2 : List UInt8 := [42, 180, 0, 13, 16, 6, 92, 46, 28, 96, 79, 28, 172]
abbrev dktX6_stopsOne_2 : List UInt8 := dkwX6_stopsOne_2 ++ []
def dkwX6_stopsOne_1 : List UInt8 := [42, 27, 16, 10, 29, 96, 3, 182, 0, 102, 132, 3, 1, 167, 255, 237, 42, 27, 16, 9, 3, 182, 0, 102]
abbrev dktX6_stopsOne_1 : List UInt8 := dkwX6_stopsOne_1 ++ dktX6_stopsOne_2
def dkwX6_stopsOne_0 : List UInt8 := [42, 27, 16, 9, 182, 0, 83, 61, 42, 27, 16, 7, 4, 182, 0, 102, 3, 62, 29, 16, 6, 162, 0, 19]
abbrev dktX6_stopsOne_0 : List UInt8 := dkwX6_stopsOne_0 ++ dktX6_stopsOne_1
theorem dksX6_stopsOne_0 : cX6_stopsOne.data.toList.drop 0 = dktX6_stopsOne_0 := by decide +kernel
theorem dksX6_stopsOne_1 : cX6_stopsOne.data.toList.drop 24 = dktX6_stopsOne_1 := dk_seg dksX6_stopsOne_0 24 rfl rfl
theorem dksX6_stopsOne_2 : cX6_stopsOne.data.toList.drop 48 = dktX6_stopsOne_2 := dk_seg dksX6_stopsOne_1 24 rfl rfl
theorem dX6_stopsOne_0 : decode cX6_stopsOne 0 = .ok (.aload_n 0, 1) := dk_42 (dk_at dksX6_stopsOne_0 0 rfl rfl)
theorem dX6_stopsOne_1 : decode cX6_stopsOne 1 = .ok (.iload_n 1, 1) := dk_27 (dk_at dksX6_stopsOne_0 1 rfl rfl)
theorem dX6_stopsOne_2 : decode cX6_stopsOne 2 = .ok (.bipush 9, 2) := dk_16 9 (dk_at dksX6_stopsOne_0 2 rfl rfl)
theorem dX6_stopsOne_4 : decode cX6_stopsOne 4 = .ok (.invokevirtual 83, 3) := dk_182 0 83 (dk_at dksX6_stopsOne_0 4 rfl rfl)
theorem dX6_stopsOne_7 : decode cX6_stopsOne 7 = .ok (.istore_n 2, 1) := dk_61 (dk_at dksX6_stopsOne_0 7 rfl rfl)
theorem dX6_stopsOne_8 : decode cX6_stopsOne 8 = .ok (.aload_n 0, 1) := dk_42 (dk_at dksX6_stopsOne_0 8 rfl rfl)
theorem dX6_stopsOne_9 : decode cX6_stopsOne 9 = .ok (.iload_n 1, 1) := dk_27 (dk_at dksX6_stopsOne_0 9 rfl rfl)
theorem dX6_stopsOne_10 : decode cX6_stopsOne 10 = .ok (.bipush 7, 2) := dk_16 7 (dk_at dksX6_stopsOne_0 10 rfl rfl)
theorem dX6_stopsOne_12 : decode cX6_stopsOne 12 = .ok (.iconst 1, 1) := dk_4 (dk_at dksX6_stopsOne_0 12 rfl rfl)
theorem dX6_stopsOne_13 : decode cX6_stopsOne 13 = .ok (.invokevirtual 102, 3) := dk_182 0 102 (dk_at dksX6_stopsOne_0 13 rfl rfl)
theorem dX6_stopsOne_16 : decode cX6_stopsOne 16 = .ok (.iconst 0, 1) := dk_3 (dk_at dksX6_stopsOne_0 16 rfl rfl)
theorem dX6_stopsOne_17 : decode cX6_stopsOne 17 = .ok (.istore_n 3, 1) := dk_62 (dk_at dksX6_stopsOne_0 17 rfl rfl)
theorem dX6_stopsOne_18 : decode cX6_stopsOne 18 = .ok (.iload_n 3, 1) := dk_29 (dk_at dksX6_stopsOne_0 18 rfl rfl)
theorem dX6_stopsOne_19 : decode cX6_stopsOne 19 = .ok (.bipush 6, 2) := dk_16 6 (dk_at dksX6_stopsOne_0 19 rfl rfl)
theorem dX6_stopsOne_21 : decode cX6_stopsOne 21 = .ok (.if_icmp .ge 19, 3) := dk_162 0 19 (dk_at dksX6_stopsOne_0 21 rfl rfl)
theorem dX6_stopsOne_24 : decode cX6_stopsOne 24 = .ok (.aload_n 0, 1) := dk_42 (dk_at dksX6_stopsOne_1 0 rfl rfl)
theorem dX6_stopsOne_25 : decode cX6_stopsOne 25 = .ok (.iload_n 1, 1) := dk_27 (dk_at dksX6_stopsOne_1 1 rfl rfl)
theorem dX6_stopsOne_26 : decode cX6_stopsOne 26 = .ok (.bipush 10, 2) := dk_16 10 (dk_at dksX6_stopsOne_1 2 rfl rfl)
theorem dX6_stopsOne_28 : decode cX6_stopsOne 28 = .ok (.iload_n 3, 1) := dk_29 (dk_at dksX6_stopsOne_1 4 rfl rfl)
theorem dX6_stopsOne_29 : decode cX6_stopsOne 29 = .ok (.iadd, 1) := dk_96 (dk_at dksX6_stopsOne_1 5 rfl rfl)
theorem dX6_stopsOne_30 : decode cX6_stopsOne 30 = .ok (.iconst 0, 1) := dk_3 (dk_at dksX6_stopsOne_1 6 rfl rfl)
theorem dX6_stopsOne_31 : decode cX6_stopsOne 31 = .ok (.invokevirtual 102, 3) := dk_182 0 102 (dk_at dksX6_stopsOne_1 7 rfl rfl)
theorem dX6_stopsOne_34 : decode cX6_stopsOne 34 = .ok (.iinc 3 1, 3) := dk_132 3 1 (dk_at dksX6_stopsOne_1 10 rfl rfl)
theorem dX6_stopsOne_37 : decode cX6_stopsOne 37 = .ok (.goto (-19), 3) := dk_167 255 237 (dk_at dksX6_stopsOne_1 13 rfl rfl)
theorem dX6_stopsOne_40 : decode cX6_stopsOne 40 = .ok (.aload_n 0, 1) := dk_42 (dk_at dksX6_stopsOne_1 16 rfl rfl)
theorem dX6_stopsOne_41 : decode cX6_stopsOne 41 = .ok (.iload_n 1, 1) := dk_27 (dk_at dksX6_stopsOne_1 17 rfl rfl)
theorem dX6_stopsOne_42 : decode cX6_stopsOne 42 = .ok (.bipush 9, 2) := dk_16 9 (dk_at dksX6_stopsOne_1 18 rfl rfl)
theorem dX6_stopsOne_44 : decode cX6_stopsOne 44 = .ok (.iconst 0, 1) := dk_3 (dk_at dksX6_stopsOne_1 20 rfl rfl)
theorem dX6_stopsOne_45 : decode cX6_stopsOne 45 = .ok (.invokevirtual 102, 3) := dk_182 0 102 (dk_at dksX6_stopsOne_1 21 rfl rfl)
theorem dX6_stopsOne_48 : decode cX6_stopsOne 48 = .ok (.aload_n 0, 1) := dk_42 (dk_at dksX6_stopsOne_2 0 rfl rfl)
theorem dX6_stopsOne_49 : decode cX6_stopsOne 49 = .ok (.getfield 13, 3) := dk_180 0 13 (dk_at dksX6_stopsOne_2 1 rfl rfl)
theorem dX6_stopsOne_52 : decode cX6_stopsOne 52 = .ok (.bipush 6, 2) := dk_16 6 (dk_at dksX6_stopsOne_2 4 rfl rfl)
theorem dX6_stopsOne_54 : decode cX6_stopsOne 54 = .ok (.dup2, 1) := dk_92 (dk_at dksX6_stopsOne_2 6 rfl rfl)
theorem dX6_stopsOne_55 : decode cX6_stopsOne 55 = .ok (.iaload, 1) := dk_46 (dk_at dksX6_stopsOne_2 7 rfl rfl)
theorem dX6_stopsOne_56 : decode cX6_stopsOne 56 = .ok (.iload_n 2, 1) := dk_28 (dk_at dksX6_stopsOne_2 8 rfl rfl)
theorem dX6_stopsOne_57 : decode cX6_stopsOne 57 = .ok (.iadd, 1) := dk_96 (dk_at dksX6_stopsOne_2 9 rfl rfl)
theorem dX6_stopsOne_58 : decode cX6_stopsOne 58 = .ok (.iastore, 1) := dk_79 (dk_at dksX6_stopsOne_2 10 rfl rfl)
theorem dX6_stopsOne_59 : decode cX6_stopsOne 59 = .ok (.iload_n 2, 1) := dk_28 (dk_at dksX6_stopsOne_2 11 rfl rfl)
theorem dX6_stopsOne_60 : decode cX6_stopsOne 60 = .ok (.ireturn, 1) := dk_172 (dk_at dksX6_stopsOne_2 12 rfl rfl)
abbrev cX6_send : ByteArray := prog_14_method_46_code
def yX6_send : MethodName := ⟨RX6, "send", "(II)I"⟩
def dkwX6_send_1 : List UInt8 := [182, 0, 112, 42, 27, 28, 182, 0, 171, 172]
abbrev dktX6_send_1 : List UInt8 := dkwX6_send_1 ++ []
def dkwX6_send_0 : List UInt8 := [42, 3, 181, 0, 1, 42, 27, 28, 182, 0, 168, 62, 29, 153, 0, 9, 42, 29, 182, 0, 109, 172, 42]
abbrev dktX6_send_0 : List UInt8 := dkwX6_send_0 ++ dktX6_send_1
theorem dksX6_send_0 : cX6_send.data.toList.drop 0 = dktX6_send_0 := by decide +kernel
theorem dksX6_send_1 : cX6_send.data.toList.drop 23 = dktX6_send_1 := dk_seg dksX6_send_0 23 rfl rfl
theorem dX6_send_0 : decode cX6_send 0 = .ok (.aload_n 0, 1) := dk_42 (dk_at dksX6_send_0 0 rfl rfl)
theorem dX6_send_1 : decode cX6_send 1 = .ok (.iconst 0, 1) := dk_3 (dk_at dksX6_send_0 1 rfl rfl)
theorem dX6_send_2 : decode cX6_send 2 = .ok (.putfield 1, 3) := dk_181 0 1 (dk_at dksX6_send_0 2 rfl rfl)
theorem dX6_send_5 : decode cX6_send 5 = .ok (.aload_n 0, 1) := dk_42 (dk_at dksX6_send_0 5 rfl rfl)
theorem dX6_send_6 : decode cX6_send 6 = .ok (.iload_n 1, 1) := dk_27 (dk_at dksX6_send_0 6 rfl rfl)
theorem dX6_send_7 : decode cX6_send 7 = .ok (.iload_n 2, 1) := dk_28 (dk_at dksX6_send_0 7 rfl rfl)
theorem dX6_send_8 : decode cX6_send 8 = .ok (.invokevirtual 168, 3) := dk_182 0 168 (dk_at dksX6_send_0 8 rfl rfl)
theorem dX6_send_11 : decode cX6_send 11 = .ok (.istore_n 3, 1) := dk_62 (dk_at dksX6_send_0 11 rfl rfl)
theorem dX6_send_12 : decode cX6_send 12 = .ok (.iload_n 3, 1) := dk_29 (dk_at dksX6_send_0 12 rfl rfl)
theorem dX6_send_13 : decode cX6_send 13 = .ok (.ifCond .eq 9, 3) := dk_153 0 9 (dk_at dksX6_send_0 13 rfl rfl)
theorem dX6_send_16 : decode cX6_send 16 = .ok (.aload_n 0, 1) := dk_42 (dk_at dksX6_send_0 16 rfl rfl)
theorem dX6_send_17 : decode cX6_send 17 = .ok (.iload_n 3, 1) := dk_29 (dk_at dksX6_send_0 17 rfl rfl)
theorem dX6_send_18 : decode cX6_send 18 = .ok (.invokevirtual 109, 3) := dk_182 0 109 (dk_at dksX6_send_0 18 rfl rfl)
theorem dX6_send_21 : decode cX6_send 21 = .ok (.ireturn, 1) := dk_172 (dk_at dksX6_send_0 21 rfl rfl)
theorem dX6_send_22 : decode cX6_send 22 = .ok (.aload_n 0, 1) := dk_42 (dk_at dksX6_send_0 22 rfl rfl)
theorem dX6_send_23 : decode cX6_send 23 = .ok (.invokevirtual 112, 3) := dk_182 0 112 (dk_at dksX6_send_1 0 rfl rfl)
theorem dX6_send_26 : decode cX6_send 26 = .ok (.aload_n 0, 1) := dk_42 (dk_at dksX6_send_1 3 rfl rfl)
theorem dX6_send_27 : decode cX6_send 27 = .ok (.iload_n 1, 1) := dk_27 (dk_at dksX6_send_1 4 rfl rfl)
theorem dX6_send_28 : decode cX6_send 28 = .ok (.iload_n 2, 1) := dk_28 (dk_at dksX6_send_1 5 rfl rfl)
theorem dX6_send_29 : decode cX6_send 29 = .ok (.invokevirtual 171, 3) := dk_182 0 171 (dk_at dksX6_send_1 6 rfl rfl)
theorem dX6_send_32 : decode cX6_send 32 = .ok (.ireturn, 1) := dk_172 (dk_at dksX6_send_1 9 rfl rfl)
abbrev cX6_notSend : ByteArray := prog_14_method_44_code
def yX6_notSend : MethodName := ⟨RX6, "notSend", "(II)I"⟩
def dkwX6_notSend_2 : List UInt8 := [153, 0, 18, 42, 5, 42, 27, 4, 182, 0, 83, 6, 182, 0, 98, 167, 0, 4, 3, 172]
abbrev dktX6_notSend_2 : List UInt8 := dkwX6_notSend_2 ++ []
def dkwX6_notSend_1 : List UInt8 := [182, 0, 87, 154, 0, 14, 42, 6, 42, 182, 0, 148, 6, 182, 0, 98, 172, 42, 27, 182, 0, 161]
abbrev dktX6_notSend_1 : List UInt8 := dkwX6_notSend_1 ++ dktX6_notSend_2
def dkwX6_notSend_0 : List UInt8 := [42, 27, 182, 0, 118, 154, 0, 5, 4, 172, 28, 3, 16, 99, 184, 0, 79, 154, 0, 5, 5, 172, 42, 27]
abbrev dktX6_notSend_0 : List UInt8 := dkwX6_notSend_0 ++ dktX6_notSend_1
theorem dksX6_notSend_0 : cX6_notSend.data.toList.drop 0 = dktX6_notSend_0 := by decide +kernel
theorem dksX6_notSend_1 : cX6_notSend.data.toList.drop 24 = dktX6_notSend_1 := dk_seg dksX6_notSend_0 24 rfl rfl
theorem dksX6_notSend_2 : cX6_notSend.data.toList.drop 46 = dktX6_notSend_2 := dk_seg dksX6_notSend_1 22 rfl rfl
theorem dX6_notSend_0 : decode cX6_notSend 0 = .ok (.aload_n 0, 1) := dk_42 (dk_at dksX6_notSend_0 0 rfl rfl)
theorem dX6_notSend_1 : decode cX6_notSend 1 = .ok (.iload_n 1, 1) := dk_27 (dk_at dksX6_notSend_0 1 rfl rfl)
theorem dX6_notSend_2 : decode cX6_notSend 2 = .ok (.invokevirtual 118, 3) := dk_182 0 118 (dk_at dksX6_notSend_0 2 rfl rfl)
theorem dX6_notSend_5 : decode cX6_notSend 5 = .ok (.ifCond .ne 5, 3) := dk_154 0 5 (dk_at dksX6_notSend_0 5 rfl rfl)
theorem dX6_notSend_8 : decode cX6_notSend 8 = .ok (.iconst 1, 1) := dk_4 (dk_at dksX6_notSend_0 8 rfl rfl)
theorem dX6_notSend_9 : decode cX6_notSend 9 = .ok (.ireturn, 1) := dk_172 (dk_at dksX6_notSend_0 9 rfl rfl)
theorem dX6_notSend_10 : decode cX6_notSend 10 = .ok (.iload_n 2, 1) := dk_28 (dk_at dksX6_notSend_0 10 rfl rfl)
theorem dX6_notSend_11 : decode cX6_notSend 11 = .ok (.iconst 0, 1) := dk_3 (dk_at dksX6_notSend_0 11 rfl rfl)
theorem dX6_notSend_12 : decode cX6_notSend 12 = .ok (.bipush 99, 2) := dk_16 99 (dk_at dksX6_notSend_0 12 rfl rfl)
theorem dX6_notSend_14 : decode cX6_notSend 14 = .ok (.invokestatic 79, 3) := dk_184 0 79 (dk_at dksX6_notSend_0 14 rfl rfl)
theorem dX6_notSend_17 : decode cX6_notSend 17 = .ok (.ifCond .ne 5, 3) := dk_154 0 5 (dk_at dksX6_notSend_0 17 rfl rfl)
theorem dX6_notSend_20 : decode cX6_notSend 20 = .ok (.iconst 2, 1) := dk_5 (dk_at dksX6_notSend_0 20 rfl rfl)
theorem dX6_notSend_21 : decode cX6_notSend 21 = .ok (.ireturn, 1) := dk_172 (dk_at dksX6_notSend_0 21 rfl rfl)
theorem dX6_notSend_22 : decode cX6_notSend 22 = .ok (.aload_n 0, 1) := dk_42 (dk_at dksX6_notSend_0 22 rfl rfl)
theorem dX6_notSend_23 : decode cX6_notSend 23 = .ok (.iload_n 1, 1) := dk_27 (dk_at dksX6_notSend_0 23 rfl rfl)
theorem dX6_notSend_24 : decode cX6_notSend 24 = .ok (.invokevirtual 87, 3) := dk_182 0 87 (dk_at dksX6_notSend_1 0 rfl rfl)
theorem dX6_notSend_27 : decode cX6_notSend 27 = .ok (.ifCond .ne 14, 3) := dk_154 0 14 (dk_at dksX6_notSend_1 3 rfl rfl)
theorem dX6_notSend_30 : decode cX6_notSend 30 = .ok (.aload_n 0, 1) := dk_42 (dk_at dksX6_notSend_1 6 rfl rfl)
theorem dX6_notSend_31 : decode cX6_notSend 31 = .ok (.iconst 3, 1) := dk_6 (dk_at dksX6_notSend_1 7 rfl rfl)
theorem dX6_notSend_32 : decode cX6_notSend 32 = .ok (.aload_n 0, 1) := dk_42 (dk_at dksX6_notSend_1 8 rfl rfl)
theorem dX6_notSend_33 : decode cX6_notSend 33 = .ok (.invokevirtual 148, 3) := dk_182 0 148 (dk_at dksX6_notSend_1 9 rfl rfl)
theorem dX6_notSend_36 : decode cX6_notSend 36 = .ok (.iconst 3, 1) := dk_6 (dk_at dksX6_notSend_1 12 rfl rfl)
theorem dX6_notSend_37 : decode cX6_notSend 37 = .ok (.invokevirtual 98, 3) := dk_182 0 98 (dk_at dksX6_notSend_1 13 rfl rfl)
theorem dX6_notSend_40 : decode cX6_notSend 40 = .ok (.ireturn, 1) := dk_172 (dk_at dksX6_notSend_1 16 rfl rfl)
theorem dX6_notSend_41 : decode cX6_notSend 41 = .ok (.aload_n 0, 1) := dk_42 (dk_at dksX6_notSend_1 17 rfl rfl)
theorem dX6_notSend_42 : decode cX6_notSend 42 = .ok (.iload_n 1, 1) := dk_27 (dk_at dksX6_notSend_1 18 rfl rfl)
theorem dX6_notSend_43 : decode cX6_notSend 43 = .ok (.invokevirtual 161, 3) := dk_182 0 161 (dk_at dksX6_notSend_1 19 rfl rfl)
theorem dX6_notSend_46 : decode cX6_notSend 46 = .ok (.ifCond .eq 18, 3) := dk_153 0 18 (dk_at dksX6_notSend_2 0 rfl rfl)
theorem dX6_notSend_49 : decode cX6_notSend 49 = .ok (.aload_n 0, 1) := dk_42 (dk_at dksX6_notSend_2 3 rfl rfl)
theorem dX6_notSend_50 : decode cX6_notSend 50 = .ok (.iconst 2, 1) := dk_5 (dk_at dksX6_notSend_2 4 rfl rfl)
theorem dX6_notSend_51 : decode cX6_notSend 51 = .ok (.aload_n 0, 1) := dk_42 (dk_at dksX6_notSend_2 5 rfl rfl)
theorem dX6_notSend_52 : decode cX6_notSend 52 = .ok (.iload_n 1, 1) := dk_27 (dk_at dksX6_notSend_2 6 rfl rfl)
theorem dX6_notSend_53 : decode cX6_notSend 53 = .ok (.iconst 1, 1) := dk_4 (dk_at dksX6_notSend_2 7 rfl rfl)
theorem dX6_notSend_54 : decode cX6_notSend 54 = .ok (.invokevirtual 83, 3) := dk_182 0 83 (dk_at dksX6_notSend_2 8 rfl rfl)
theorem dX6_notSend_57 : decode cX6_notSend 57 = .ok (.iconst 3, 1) := dk_6 (dk_at dksX6_notSend_2 11 rfl rfl)
theorem dX6_notSend_58 : decode cX6_notSend 58 = .ok (.invokevirtual 98, 3) := dk_182 0 98 (dk_at dksX6_notSend_2 12 rfl rfl)
theorem dX6_notSend_61 : decode cX6_notSend 61 = .ok (.goto 4, 3) := dk_167 0 4 (dk_at dksX6_notSend_2 15 rfl rfl)
theorem dX6_notSend_64 : decode cX6_notSend 64 = .ok (.iconst 0, 1) := dk_3 (dk_at dksX6_notSend_2 18 rfl rfl)
theorem dX6_notSend_65 : decode cX6_notSend 65 = .ok (.ireturn, 1) := dk_172 (dk_at dksX6_notSend_2 19 rfl rfl)
abbrev cX6_isFull : ByteArray := prog_14_method_43_code
def yX6_isFull : MethodName := ⟨RX6, "isFull", "(I)Z"⟩
def dkwX6_isFull_0 : List UInt8 := [42, 27, 16, 9, 182, 0, 83, 42, 27, 4, 182, 0, 83, 160, 0, 7, 4, 167, 0, 4, 3, 172]
abbrev dktX6_isFull_0 : List UInt8 := dkwX6_isFull_0 ++ []
theorem dksX6_isFull_0 : cX6_isFull.data.toList.drop 0 = dktX6_isFull_0 := by decide +kernel
theorem dX6_isFull_0 : decode cX6_isFull 0 = .ok (.aload_n 0, 1) := dk_42 (dk_at dksX6_isFull_0 0 rfl rfl)
theorem dX6_isFull_1 : decode cX6_isFull 1 = .ok (.iload_n 1, 1) := dk_27 (dk_at dksX6_isFull_0 1 rfl rfl)
theorem dX6_isFull_2 : decode cX6_isFull 2 = .ok (.bipush 9, 2) := dk_16 9 (dk_at dksX6_isFull_0 2 rfl rfl)
theorem dX6_isFull_4 : decode cX6_isFull 4 = .ok (.invokevirtual 83, 3) := dk_182 0 83 (dk_at dksX6_isFull_0 4 rfl rfl)
theorem dX6_isFull_7 : decode cX6_isFull 7 = .ok (.aload_n 0, 1) := dk_42 (dk_at dksX6_isFull_0 7 rfl rfl)
theorem dX6_isFull_8 : decode cX6_isFull 8 = .ok (.iload_n 1, 1) := dk_27 (dk_at dksX6_isFull_0 8 rfl rfl)
theorem dX6_isFull_9 : decode cX6_isFull 9 = .ok (.iconst 1, 1) := dk_4 (dk_at dksX6_isFull_0 9 rfl rfl)
theorem dX6_isFull_10 : decode cX6_isFull 10 = .ok (.invokevirtual 83, 3) := dk_182 0 83 (dk_at dksX6_isFull_0 10 rfl rfl)
theorem dX6_isFull_13 : decode cX6_isFull 13 = .ok (.if_icmp .ne 7, 3) := dk_160 0 7 (dk_at dksX6_isFull_0 13 rfl rfl)
theorem dX6_isFull_16 : decode cX6_isFull 16 = .ok (.iconst 1, 1) := dk_4 (dk_at dksX6_isFull_0 16 rfl rfl)
theorem dX6_isFull_17 : decode cX6_isFull 17 = .ok (.goto 4, 3) := dk_167 0 4 (dk_at dksX6_isFull_0 17 rfl rfl)
theorem dX6_isFull_20 : decode cX6_isFull 20 = .ok (.iconst 0, 1) := dk_3 (dk_at dksX6_isFull_0 20 rfl rfl)
theorem dX6_isFull_21 : decode cX6_isFull 21 = .ok (.ireturn, 1) := dk_172 (dk_at dksX6_isFull_0 21 rfl rfl)
abbrev cX6_sends : ByteArray := prog_14_method_45_code
def yX6_sends : MethodName := ⟨RX6, "sends", "(II)I"⟩
def dkwX6_sends_0 : List UInt8 := [42, 27, 7, 28, 104, 182, 0, 164, 42, 27, 16, 9, 182, 0, 83, 172]
abbrev dktX6_sends_0 : List UInt8 := dkwX6_sends_0 ++ []
theorem dksX6_sends_0 : cX6_sends.data.toList.drop 0 = dktX6_sends_0 := by decide +kernel
theorem dX6_sends_0 : decode cX6_sends 0 = .ok (.aload_n 0, 1) := dk_42 (dk_at dksX6_sends_0 0 rfl rfl)
theorem dX6_sends_1 : decode cX6_sends 1 = .ok (.iload_n 1, 1) := dk_27 (dk_at dksX6_sends_0 1 rfl rfl)
theorem dX6_sends_2 : decode cX6_sends 2 = .ok (.iconst 4, 1) := dk_7 (dk_at dksX6_sends_0 2 rfl rfl)
theorem dX6_sends_3 : decode cX6_sends 3 = .ok (.iload_n 2, 1) := dk_28 (dk_at dksX6_sends_0 3 rfl rfl)
theorem dX6_sends_4 : decode cX6_sends 4 = .ok (.imul, 1) := dk_104 (dk_at dksX6_sends_0 4 rfl rfl)
theorem dX6_sends_5 : decode cX6_sends 5 = .ok (.invokevirtual 164, 3) := dk_182 0 164 (dk_at dksX6_sends_0 5 rfl rfl)
theorem dX6_sends_8 : decode cX6_sends 8 = .ok (.aload_n 0, 1) := dk_42 (dk_at dksX6_sends_0 8 rfl rfl)
theorem dX6_sends_9 : decode cX6_sends 9 = .ok (.iload_n 1, 1) := dk_27 (dk_at dksX6_sends_0 9 rfl rfl)
theorem dX6_sends_10 : decode cX6_sends 10 = .ok (.bipush 9, 2) := dk_16 9 (dk_at dksX6_sends_0 10 rfl rfl)
theorem dX6_sends_12 : decode cX6_sends 12 = .ok (.invokevirtual 83, 3) := dk_182 0 83 (dk_at dksX6_sends_0 12 rfl rfl)
theorem dX6_sends_15 : decode cX6_sends 15 = .ok (.ireturn, 1) := dk_172 (dk_at dksX6_sends_0 15 rfl rfl)
abbrev cX6_puts : ByteArray := prog_14_method_41_code
def yX6_puts : MethodName := ⟨RX6, "puts", "(II)V"⟩
def dkwX6_puts_1 : List UInt8 := [182, 0, 83, 4, 96, 182, 0, 102, 42, 180, 0, 13, 16, 7, 92, 46, 4, 96, 79, 177]
abbrev dktX6_puts_1 : List UInt8 := dkwX6_puts_1 ++ []
def dkwX6_puts_0 : List UInt8 := [42, 27, 16, 10, 42, 27, 16, 9, 182, 0, 83, 96, 28, 182, 0, 102, 42, 27, 16, 9, 42, 27, 16, 9]
abbrev dktX6_puts_0 : List UInt8 := dkwX6_puts_0 ++ dktX6_puts_1
theorem dksX6_puts_0 : cX6_puts.data.toList.drop 0 = dktX6_puts_0 := by decide +kernel
theorem dksX6_puts_1 : cX6_puts.data.toList.drop 24 = dktX6_puts_1 := dk_seg dksX6_puts_0 24 rfl rfl
theorem dX6_puts_0 : decode cX6_puts 0 = .ok (.aload_n 0, 1) := dk_42 (dk_at dksX6_puts_0 0 rfl rfl)
theorem dX6_puts_1 : decode cX6_puts 1 = .ok (.iload_n 1, 1) := dk_27 (dk_at dksX6_puts_0 1 rfl rfl)
theorem dX6_puts_2 : decode cX6_puts 2 = .ok (.bipush 10, 2) := dk_16 10 (dk_at dksX6_puts_0 2 rfl rfl)
theorem dX6_puts_4 : decode cX6_puts 4 = .ok (.aload_n 0, 1) := dk_42 (dk_at dksX6_puts_0 4 rfl rfl)
theorem dX6_puts_5 : decode cX6_puts 5 = .ok (.iload_n 1, 1) := dk_27 (dk_at dksX6_puts_0 5 rfl rfl)
theorem dX6_puts_6 : decode cX6_puts 6 = .ok (.bipush 9, 2) := dk_16 9 (dk_at dksX6_puts_0 6 rfl rfl)
theorem dX6_puts_8 : decode cX6_puts 8 = .ok (.invokevirtual 83, 3) := dk_182 0 83 (dk_at dksX6_puts_0 8 rfl rfl)
theorem dX6_puts_11 : decode cX6_puts 11 = .ok (.iadd, 1) := dk_96 (dk_at dksX6_puts_0 11 rfl rfl)
theorem dX6_puts_12 : decode cX6_puts 12 = .ok (.iload_n 2, 1) := dk_28 (dk_at dksX6_puts_0 12 rfl rfl)
theorem dX6_puts_13 : decode cX6_puts 13 = .ok (.invokevirtual 102, 3) := dk_182 0 102 (dk_at dksX6_puts_0 13 rfl rfl)
theorem dX6_puts_16 : decode cX6_puts 16 = .ok (.aload_n 0, 1) := dk_42 (dk_at dksX6_puts_0 16 rfl rfl)
theorem dX6_puts_17 : decode cX6_puts 17 = .ok (.iload_n 1, 1) := dk_27 (dk_at dksX6_puts_0 17 rfl rfl)
theorem dX6_puts_18 : decode cX6_puts 18 = .ok (.bipush 9, 2) := dk_16 9 (dk_at dksX6_puts_0 18 rfl rfl)
theorem dX6_puts_20 : decode cX6_puts 20 = .ok (.aload_n 0, 1) := dk_42 (dk_at dksX6_puts_0 20 rfl rfl)
theorem dX6_puts_21 : decode cX6_puts 21 = .ok (.iload_n 1, 1) := dk_27 (dk_at dksX6_puts_0 21 rfl rfl)
theorem dX6_puts_22 : decode cX6_puts 22 = .ok (.bipush 9, 2) := dk_16 9 (dk_at dksX6_puts_0 22 rfl rfl)
theorem dX6_puts_24 : decode cX6_puts 24 = .ok (.invokevirtual 83, 3) := dk_182 0 83 (dk_at dksX6_puts_1 0 rfl rfl)
theorem dX6_puts_27 : decode cX6_puts 27 = .ok (.iconst 1, 1) := dk_4 (dk_at dksX6_puts_1 3 rfl rfl)
theorem dX6_puts_28 : decode cX6_puts 28 = .ok (.iadd, 1) := dk_96 (dk_at dksX6_puts_1 4 rfl rfl)
theorem dX6_puts_29 : decode cX6_puts 29 = .ok (.invokevirtual 102, 3) := dk_182 0 102 (dk_at dksX6_puts_1 5 rfl rfl)
theorem dX6_puts_32 : decode cX6_puts 32 = .ok (.aload_n 0, 1) := dk_42 (dk_at dksX6_puts_1 8 rfl rfl)
theorem dX6_puts_33 : decode cX6_puts 33 = .ok (.getfield 13, 3) := dk_180 0 13 (dk_at dksX6_puts_1 9 rfl rfl)
theorem dX6_puts_36 : decode cX6_puts 36 = .ok (.bipush 7, 2) := dk_16 7 (dk_at dksX6_puts_1 12 rfl rfl)
theorem dX6_puts_38 : decode cX6_puts 38 = .ok (.dup2, 1) := dk_92 (dk_at dksX6_puts_1 14 rfl rfl)
theorem dX6_puts_39 : decode cX6_puts 39 = .ok (.iaload, 1) := dk_46 (dk_at dksX6_puts_1 15 rfl rfl)
theorem dX6_puts_40 : decode cX6_puts 40 = .ok (.iconst 1, 1) := dk_4 (dk_at dksX6_puts_1 16 rfl rfl)
theorem dX6_puts_41 : decode cX6_puts 41 = .ok (.iadd, 1) := dk_96 (dk_at dksX6_puts_1 17 rfl rfl)
theorem dX6_puts_42 : decode cX6_puts 42 = .ok (.iastore, 1) := dk_79 (dk_at dksX6_puts_1 18 rfl rfl)
theorem dX6_puts_43 : decode cX6_puts 43 = .ok (.return_, 1) := dk_177 (dk_at dksX6_puts_1 19 rfl rfl)
abbrev cX6_setTimer : ByteArray := prog_14_method_49_code
def yX6_setTimer : MethodName := ⟨RX6, "setTimer", "(III)I"⟩
def dkwX6_setTimer_1 : List UInt8 := [182, 0, 109, 172, 42, 182, 0, 112, 42, 27, 28, 29, 182, 0, 177, 172]
abbrev dktX6_setTimer_1 : List UInt8 := dkwX6_setTimer_1 ++ []
def dkwX6_setTimer_0 : List UInt8 := [42, 3, 181, 0, 1, 42, 27, 28, 29, 182, 0, 174, 54, 4, 21, 4, 153, 0, 10, 42, 21, 4]
abbrev dktX6_setTimer_0 : List UInt8 := dkwX6_setTimer_0 ++ dktX6_setTimer_1
theorem dksX6_setTimer_0 : cX6_setTimer.data.toList.drop 0 = dktX6_setTimer_0 := by decide +kernel
theorem dksX6_setTimer_1 : cX6_setTimer.data.toList.drop 22 = dktX6_setTimer_1 := dk_seg dksX6_setTimer_0 22 rfl rfl
theorem dX6_setTimer_0 : decode cX6_setTimer 0 = .ok (.aload_n 0, 1) := dk_42 (dk_at dksX6_setTimer_0 0 rfl rfl)
theorem dX6_setTimer_1 : decode cX6_setTimer 1 = .ok (.iconst 0, 1) := dk_3 (dk_at dksX6_setTimer_0 1 rfl rfl)
theorem dX6_setTimer_2 : decode cX6_setTimer 2 = .ok (.putfield 1, 3) := dk_181 0 1 (dk_at dksX6_setTimer_0 2 rfl rfl)
theorem dX6_setTimer_5 : decode cX6_setTimer 5 = .ok (.aload_n 0, 1) := dk_42 (dk_at dksX6_setTimer_0 5 rfl rfl)
theorem dX6_setTimer_6 : decode cX6_setTimer 6 = .ok (.iload_n 1, 1) := dk_27 (dk_at dksX6_setTimer_0 6 rfl rfl)
theorem dX6_setTimer_7 : decode cX6_setTimer 7 = .ok (.iload_n 2, 1) := dk_28 (dk_at dksX6_setTimer_0 7 rfl rfl)
theorem dX6_setTimer_8 : decode cX6_setTimer 8 = .ok (.iload_n 3, 1) := dk_29 (dk_at dksX6_setTimer_0 8 rfl rfl)
theorem dX6_setTimer_9 : decode cX6_setTimer 9 = .ok (.invokevirtual 174, 3) := dk_182 0 174 (dk_at dksX6_setTimer_0 9 rfl rfl)
theorem dX6_setTimer_12 : decode cX6_setTimer 12 = .ok (.istore 4, 2) := dk_54 4 (dk_at dksX6_setTimer_0 12 rfl rfl)
theorem dX6_setTimer_14 : decode cX6_setTimer 14 = .ok (.iload 4, 2) := dk_21 4 (dk_at dksX6_setTimer_0 14 rfl rfl)
theorem dX6_setTimer_16 : decode cX6_setTimer 16 = .ok (.ifCond .eq 10, 3) := dk_153 0 10 (dk_at dksX6_setTimer_0 16 rfl rfl)
theorem dX6_setTimer_19 : decode cX6_setTimer 19 = .ok (.aload_n 0, 1) := dk_42 (dk_at dksX6_setTimer_0 19 rfl rfl)
theorem dX6_setTimer_20 : decode cX6_setTimer 20 = .ok (.iload 4, 2) := dk_21 4 (dk_at dksX6_setTimer_0 20 rfl rfl)
theorem dX6_setTimer_22 : decode cX6_setTimer 22 = .ok (.invokevirtual 109, 3) := dk_182 0 109 (dk_at dksX6_setTimer_1 0 rfl rfl)
theorem dX6_setTimer_25 : decode cX6_setTimer 25 = .ok (.ireturn, 1) := dk_172 (dk_at dksX6_setTimer_1 3 rfl rfl)
theorem dX6_setTimer_26 : decode cX6_setTimer 26 = .ok (.aload_n 0, 1) := dk_42 (dk_at dksX6_setTimer_1 4 rfl rfl)
theorem dX6_setTimer_27 : decode cX6_setTimer 27 = .ok (.invokevirtual 112, 3) := dk_182 0 112 (dk_at dksX6_setTimer_1 5 rfl rfl)
theorem dX6_setTimer_30 : decode cX6_setTimer 30 = .ok (.aload_n 0, 1) := dk_42 (dk_at dksX6_setTimer_1 8 rfl rfl)
theorem dX6_setTimer_31 : decode cX6_setTimer 31 = .ok (.iload_n 1, 1) := dk_27 (dk_at dksX6_setTimer_1 9 rfl rfl)
theorem dX6_setTimer_32 : decode cX6_setTimer 32 = .ok (.iload_n 2, 1) := dk_28 (dk_at dksX6_setTimer_1 10 rfl rfl)
theorem dX6_setTimer_33 : decode cX6_setTimer 33 = .ok (.iload_n 3, 1) := dk_29 (dk_at dksX6_setTimer_1 11 rfl rfl)
theorem dX6_setTimer_34 : decode cX6_setTimer 34 = .ok (.invokevirtual 177, 3) := dk_182 0 177 (dk_at dksX6_setTimer_1 12 rfl rfl)
theorem dX6_setTimer_37 : decode cX6_setTimer 37 = .ok (.ireturn, 1) := dk_172 (dk_at dksX6_setTimer_1 15 rfl rfl)
abbrev cX6_notTimer : ByteArray := prog_14_method_47_code
def yX6_notTimer : MethodName := ⟨RX6, "notTimer", "(III)I"⟩
def dkwX6_notTimer_2 : List UInt8 := [6, 182, 0, 98, 167, 0, 4, 3, 172]
abbrev dktX6_notTimer_2 : List UInt8 := dkwX6_notTimer_2 ++ []
def dkwX6_notTimer_1 : List UInt8 := [184, 0, 79, 154, 0, 5, 5, 172, 42, 180, 0, 13, 16, 9, 46, 16, 10, 160, 0, 14, 42, 4, 16, 10]
abbrev dktX6_notTimer_1 : List UInt8 := dkwX6_notTimer_1 ++ dktX6_notTimer_2
def dkwX6_notTimer_0 : List UInt8 := [42, 27, 182, 0, 118, 154, 0, 5, 4, 172, 28, 3, 16, 99, 184, 0, 79, 153, 0, 13, 29, 4, 16, 20]
abbrev dktX6_notTimer_0 : List UInt8 := dkwX6_notTimer_0 ++ dktX6_notTimer_1
theorem dksX6_notTimer_0 : cX6_notTimer.data.toList.drop 0 = dktX6_notTimer_0 := by decide +kernel
theorem dksX6_notTimer_1 : cX6_notTimer.data.toList.drop 24 = dktX6_notTimer_1 := dk_seg dksX6_notTimer_0 24 rfl rfl
theorem dksX6_notTimer_2 : cX6_notTimer.data.toList.drop 48 = dktX6_notTimer_2 := dk_seg dksX6_notTimer_1 24 rfl rfl
theorem dX6_notTimer_0 : decode cX6_notTimer 0 = .ok (.aload_n 0, 1) := dk_42 (dk_at dksX6_notTimer_0 0 rfl rfl)
theorem dX6_notTimer_1 : decode cX6_notTimer 1 = .ok (.iload_n 1, 1) := dk_27 (dk_at dksX6_notTimer_0 1 rfl rfl)
theorem dX6_notTimer_2 : decode cX6_notTimer 2 = .ok (.invokevirtual 118, 3) := dk_182 0 118 (dk_at dksX6_notTimer_0 2 rfl rfl)
theorem dX6_notTimer_5 : decode cX6_notTimer 5 = .ok (.ifCond .ne 5, 3) := dk_154 0 5 (dk_at dksX6_notTimer_0 5 rfl rfl)
theorem dX6_notTimer_8 : decode cX6_notTimer 8 = .ok (.iconst 1, 1) := dk_4 (dk_at dksX6_notTimer_0 8 rfl rfl)
theorem dX6_notTimer_9 : decode cX6_notTimer 9 = .ok (.ireturn, 1) := dk_172 (dk_at dksX6_notTimer_0 9 rfl rfl)
theorem dX6_notTimer_10 : decode cX6_notTimer 10 = .ok (.iload_n 2, 1) := dk_28 (dk_at dksX6_notTimer_0 10 rfl rfl)
theorem dX6_notTimer_11 : decode cX6_notTimer 11 = .ok (.iconst 0, 1) := dk_3 (dk_at dksX6_notTimer_0 11 rfl rfl)
theorem dX6_notTimer_12 : decode cX6_notTimer 12 = .ok (.bipush 99, 2) := dk_16 99 (dk_at dksX6_notTimer_0 12 rfl rfl)
theorem dX6_notTimer_14 : decode cX6_notTimer 14 = .ok (.invokestatic 79, 3) := dk_184 0 79 (dk_at dksX6_notTimer_0 14 rfl rfl)
theorem dX6_notTimer_17 : decode cX6_notTimer 17 = .ok (.ifCond .eq 13, 3) := dk_153 0 13 (dk_at dksX6_notTimer_0 17 rfl rfl)
theorem dX6_notTimer_20 : decode cX6_notTimer 20 = .ok (.iload_n 3, 1) := dk_29 (dk_at dksX6_notTimer_0 20 rfl rfl)
theorem dX6_notTimer_21 : decode cX6_notTimer 21 = .ok (.iconst 1, 1) := dk_4 (dk_at dksX6_notTimer_0 21 rfl rfl)
theorem dX6_notTimer_22 : decode cX6_notTimer 22 = .ok (.bipush 20, 2) := dk_16 20 (dk_at dksX6_notTimer_0 22 rfl rfl)
theorem dX6_notTimer_24 : decode cX6_notTimer 24 = .ok (.invokestatic 79, 3) := dk_184 0 79 (dk_at dksX6_notTimer_1 0 rfl rfl)
theorem dX6_notTimer_27 : decode cX6_notTimer 27 = .ok (.ifCond .ne 5, 3) := dk_154 0 5 (dk_at dksX6_notTimer_1 3 rfl rfl)
theorem dX6_notTimer_30 : decode cX6_notTimer 30 = .ok (.iconst 2, 1) := dk_5 (dk_at dksX6_notTimer_1 6 rfl rfl)
theorem dX6_notTimer_31 : decode cX6_notTimer 31 = .ok (.ireturn, 1) := dk_172 (dk_at dksX6_notTimer_1 7 rfl rfl)
theorem dX6_notTimer_32 : decode cX6_notTimer 32 = .ok (.aload_n 0, 1) := dk_42 (dk_at dksX6_notTimer_1 8 rfl rfl)
theorem dX6_notTimer_33 : decode cX6_notTimer 33 = .ok (.getfield 13, 3) := dk_180 0 13 (dk_at dksX6_notTimer_1 9 rfl rfl)
theorem dX6_notTimer_36 : decode cX6_notTimer 36 = .ok (.bipush 9, 2) := dk_16 9 (dk_at dksX6_notTimer_1 12 rfl rfl)
theorem dX6_notTimer_38 : decode cX6_notTimer 38 = .ok (.iaload, 1) := dk_46 (dk_at dksX6_notTimer_1 14 rfl rfl)
theorem dX6_notTimer_39 : decode cX6_notTimer 39 = .ok (.bipush 10, 2) := dk_16 10 (dk_at dksX6_notTimer_1 15 rfl rfl)
theorem dX6_notTimer_41 : decode cX6_notTimer 41 = .ok (.if_icmp .ne 14, 3) := dk_160 0 14 (dk_at dksX6_notTimer_1 17 rfl rfl)
theorem dX6_notTimer_44 : decode cX6_notTimer 44 = .ok (.aload_n 0, 1) := dk_42 (dk_at dksX6_notTimer_1 20 rfl rfl)
theorem dX6_notTimer_45 : decode cX6_notTimer 45 = .ok (.iconst 1, 1) := dk_4 (dk_at dksX6_notTimer_1 21 rfl rfl)
theorem dX6_notTimer_46 : decode cX6_notTimer 46 = .ok (.bipush 10, 2) := dk_16 10 (dk_at dksX6_notTimer_1 22 rfl rfl)
theorem dX6_notTimer_48 : decode cX6_notTimer 48 = .ok (.iconst 3, 1) := dk_6 (dk_at dksX6_notTimer_2 0 rfl rfl)
theorem dX6_notTimer_49 : decode cX6_notTimer 49 = .ok (.invokevirtual 98, 3) := dk_182 0 98 (dk_at dksX6_notTimer_2 1 rfl rfl)
theorem dX6_notTimer_52 : decode cX6_notTimer 52 = .ok (.goto 4, 3) := dk_167 0 4 (dk_at dksX6_notTimer_2 4 rfl rfl)
theorem dX6_notTimer_55 : decode cX6_notTimer 55 = .ok (.iconst 0, 1) := dk_3 (dk_at dksX6_notTimer_2 7 rfl rfl)
theorem dX6_notTimer_56 : decode cX6_notTimer 56 = .ok (.ireturn, 1) := dk_172 (dk_at dksX6_notTimer_2 8 rfl rfl)
abbrev cX6_setsTimer : ByteArray := prog_14_method_48_code
def yX6_setsTimer : MethodName := ⟨RX6, "setsTimer", "(III)I"⟩
def dkwX6_setsTimer_6 : List UInt8 := [16, 9, 92, 46, 4, 96, 79, 42, 180, 0, 13, 16, 9, 46, 172]
abbrev dktX6_setsTimer_6 : List UInt8 := dkwX6_setsTimer_6 ++ []
def dkwX6_setsTimer_5 : List UInt8 := [4, 96, 28, 79, 42, 180, 0, 13, 16, 31, 6, 21, 5, 104, 96, 5, 96, 21, 4, 79, 42, 180, 0, 13]
abbrev dktX6_setsTimer_5 : List UInt8 := dkwX6_setsTimer_5 ++ dktX6_setsTimer_6
def dkwX6_setsTimer_4 : List UInt8 := [42, 180, 0, 13, 16, 31, 6, 21, 5, 104, 96, 27, 79, 42, 180, 0, 13, 16, 31, 6, 21, 5, 104, 96]
abbrev dktX6_setsTimer_4 : List UInt8 := dkwX6_setsTimer_4 ++ dktX6_setsTimer_5
def dkwX6_setsTimer_3 : List UInt8 := [6, 21, 5, 104, 96, 6, 100, 21, 6, 96, 46, 79, 132, 6, 1, 167, 255, 215, 132, 5, 255, 167, 255, 182]
abbrev dktX6_setsTimer_3 : List UInt8 := dkwX6_setsTimer_3 ++ dktX6_setsTimer_4
def dkwX6_setsTimer_2 : List UInt8 := [6, 162, 0, 41, 42, 180, 0, 13, 16, 31, 6, 21, 5, 104, 96, 21, 6, 96, 42, 180, 0, 13, 16, 31]
abbrev dktX6_setsTimer_2 : List UInt8 := dkwX6_setsTimer_2 ++ dktX6_setsTimer_3
def dkwX6_setsTimer_1 : List UInt8 := [42, 180, 0, 13, 16, 31, 6, 21, 5, 104, 96, 4, 100, 46, 21, 4, 164, 0, 56, 3, 54, 6, 21, 6]
abbrev dktX6_setsTimer_1 : List UInt8 := dkwX6_setsTimer_1 ++ dktX6_setsTimer_2
def dkwX6_setsTimer_0 : List UInt8 := [42, 180, 0, 13, 6, 46, 29, 96, 54, 4, 42, 180, 0, 13, 16, 9, 46, 54, 5, 21, 5, 158, 0, 75]
abbrev dktX6_setsTimer_0 : List UInt8 := dkwX6_setsTimer_0 ++ dktX6_setsTimer_1
theorem dksX6_setsTimer_0 : cX6_setsTimer.data.toList.drop 0 = dktX6_setsTimer_0 := by decide +kernel
theorem dksX6_setsTimer_1 : cX6_setsTimer.data.toList.drop 24 = dktX6_setsTimer_1 := dk_seg dksX6_setsTimer_0 24 rfl rfl
theorem dksX6_setsTimer_2 : cX6_setsTimer.data.toList.drop 48 = dktX6_setsTimer_2 := dk_seg dksX6_setsTimer_1 24 rfl rfl
theorem dksX6_setsTimer_3 : cX6_setsTimer.data.toList.drop 72 = dktX6_setsTimer_3 := dk_seg dksX6_setsTimer_2 24 rfl rfl
theorem dksX6_setsTimer_4 : cX6_setsTimer.data.toList.drop 96 = dktX6_setsTimer_4 := dk_seg dksX6_setsTimer_3 24 rfl rfl
theorem dksX6_setsTimer_5 : cX6_setsTimer.data.toList.drop 120 = dktX6_setsTimer_5 := dk_seg dksX6_setsTimer_4 24 rfl rfl
theorem dksX6_setsTimer_6 : cX6_setsTimer.data.toList.drop 144 = dktX6_setsTimer_6 := dk_seg dksX6_setsTimer_5 24 rfl rfl
theorem dX6_setsTimer_0 : decode cX6_setsTimer 0 = .ok (.aload_n 0, 1) := dk_42 (dk_at dksX6_setsTimer_0 0 rfl rfl)
theorem dX6_setsTimer_1 : decode cX6_setsTimer 1 = .ok (.getfield 13, 3) := dk_180 0 13 (dk_at dksX6_setsTimer_0 1 rfl rfl)
theorem dX6_setsTimer_4 : decode cX6_setsTimer 4 = .ok (.iconst 3, 1) := dk_6 (dk_at dksX6_setsTimer_0 4 rfl rfl)
theorem dX6_setsTimer_5 : decode cX6_setsTimer 5 = .ok (.iaload, 1) := dk_46 (dk_at dksX6_setsTimer_0 5 rfl rfl)
theorem dX6_setsTimer_6 : decode cX6_setsTimer 6 = .ok (.iload_n 3, 1) := dk_29 (dk_at dksX6_setsTimer_0 6 rfl rfl)
theorem dX6_setsTimer_7 : decode cX6_setsTimer 7 = .ok (.iadd, 1) := dk_96 (dk_at dksX6_setsTimer_0 7 rfl rfl)
theorem dX6_setsTimer_8 : decode cX6_setsTimer 8 = .ok (.istore 4, 2) := dk_54 4 (dk_at dksX6_setsTimer_0 8 rfl rfl)
theorem dX6_setsTimer_10 : decode cX6_setsTimer 10 = .ok (.aload_n 0, 1) := dk_42 (dk_at dksX6_setsTimer_0 10 rfl rfl)
theorem dX6_setsTimer_11 : decode cX6_setsTimer 11 = .ok (.getfield 13, 3) := dk_180 0 13 (dk_at dksX6_setsTimer_0 11 rfl rfl)
theorem dX6_setsTimer_14 : decode cX6_setsTimer 14 = .ok (.bipush 9, 2) := dk_16 9 (dk_at dksX6_setsTimer_0 14 rfl rfl)
theorem dX6_setsTimer_16 : decode cX6_setsTimer 16 = .ok (.iaload, 1) := dk_46 (dk_at dksX6_setsTimer_0 16 rfl rfl)
theorem dX6_setsTimer_17 : decode cX6_setsTimer 17 = .ok (.istore 5, 2) := dk_54 5 (dk_at dksX6_setsTimer_0 17 rfl rfl)
theorem dX6_setsTimer_19 : decode cX6_setsTimer 19 = .ok (.iload 5, 2) := dk_21 5 (dk_at dksX6_setsTimer_0 19 rfl rfl)
theorem dX6_setsTimer_21 : decode cX6_setsTimer 21 = .ok (.ifCond .le 75, 3) := dk_158 0 75 (dk_at dksX6_setsTimer_0 21 rfl rfl)
theorem dX6_setsTimer_24 : decode cX6_setsTimer 24 = .ok (.aload_n 0, 1) := dk_42 (dk_at dksX6_setsTimer_1 0 rfl rfl)
theorem dX6_setsTimer_25 : decode cX6_setsTimer 25 = .ok (.getfield 13, 3) := dk_180 0 13 (dk_at dksX6_setsTimer_1 1 rfl rfl)
theorem dX6_setsTimer_28 : decode cX6_setsTimer 28 = .ok (.bipush 31, 2) := dk_16 31 (dk_at dksX6_setsTimer_1 4 rfl rfl)
theorem dX6_setsTimer_30 : decode cX6_setsTimer 30 = .ok (.iconst 3, 1) := dk_6 (dk_at dksX6_setsTimer_1 6 rfl rfl)
theorem dX6_setsTimer_31 : decode cX6_setsTimer 31 = .ok (.iload 5, 2) := dk_21 5 (dk_at dksX6_setsTimer_1 7 rfl rfl)
theorem dX6_setsTimer_33 : decode cX6_setsTimer 33 = .ok (.imul, 1) := dk_104 (dk_at dksX6_setsTimer_1 9 rfl rfl)
theorem dX6_setsTimer_34 : decode cX6_setsTimer 34 = .ok (.iadd, 1) := dk_96 (dk_at dksX6_setsTimer_1 10 rfl rfl)
theorem dX6_setsTimer_35 : decode cX6_setsTimer 35 = .ok (.iconst 1, 1) := dk_4 (dk_at dksX6_setsTimer_1 11 rfl rfl)
theorem dX6_setsTimer_36 : decode cX6_setsTimer 36 = .ok (.isub, 1) := dk_100 (dk_at dksX6_setsTimer_1 12 rfl rfl)
theorem dX6_setsTimer_37 : decode cX6_setsTimer 37 = .ok (.iaload, 1) := dk_46 (dk_at dksX6_setsTimer_1 13 rfl rfl)
theorem dX6_setsTimer_38 : decode cX6_setsTimer 38 = .ok (.iload 4, 2) := dk_21 4 (dk_at dksX6_setsTimer_1 14 rfl rfl)
theorem dX6_setsTimer_40 : decode cX6_setsTimer 40 = .ok (.if_icmp .le 56, 3) := dk_164 0 56 (dk_at dksX6_setsTimer_1 16 rfl rfl)
theorem dX6_setsTimer_43 : decode cX6_setsTimer 43 = .ok (.iconst 0, 1) := dk_3 (dk_at dksX6_setsTimer_1 19 rfl rfl)
theorem dX6_setsTimer_44 : decode cX6_setsTimer 44 = .ok (.istore 6, 2) := dk_54 6 (dk_at dksX6_setsTimer_1 20 rfl rfl)
theorem dX6_setsTimer_46 : decode cX6_setsTimer 46 = .ok (.iload 6, 2) := dk_21 6 (dk_at dksX6_setsTimer_1 22 rfl rfl)
theorem dX6_setsTimer_48 : decode cX6_setsTimer 48 = .ok (.iconst 3, 1) := dk_6 (dk_at dksX6_setsTimer_2 0 rfl rfl)
theorem dX6_setsTimer_49 : decode cX6_setsTimer 49 = .ok (.if_icmp .ge 41, 3) := dk_162 0 41 (dk_at dksX6_setsTimer_2 1 rfl rfl)
theorem dX6_setsTimer_52 : decode cX6_setsTimer 52 = .ok (.aload_n 0, 1) := dk_42 (dk_at dksX6_setsTimer_2 4 rfl rfl)
theorem dX6_setsTimer_53 : decode cX6_setsTimer 53 = .ok (.getfield 13, 3) := dk_180 0 13 (dk_at dksX6_setsTimer_2 5 rfl rfl)
theorem dX6_setsTimer_56 : decode cX6_setsTimer 56 = .ok (.bipush 31, 2) := dk_16 31 (dk_at dksX6_setsTimer_2 8 rfl rfl)
theorem dX6_setsTimer_58 : decode cX6_setsTimer 58 = .ok (.iconst 3, 1) := dk_6 (dk_at dksX6_setsTimer_2 10 rfl rfl)
theorem dX6_setsTimer_59 : decode cX6_setsTimer 59 = .ok (.iload 5, 2) := dk_21 5 (dk_at dksX6_setsTimer_2 11 rfl rfl)
theorem dX6_setsTimer_61 : decode cX6_setsTimer 61 = .ok (.imul, 1) := dk_104 (dk_at dksX6_setsTimer_2 13 rfl rfl)
theorem dX6_setsTimer_62 : decode cX6_setsTimer 62 = .ok (.iadd, 1) := dk_96 (dk_at dksX6_setsTimer_2 14 rfl rfl)
theorem dX6_setsTimer_63 : decode cX6_setsTimer 63 = .ok (.iload 6, 2) := dk_21 6 (dk_at dksX6_setsTimer_2 15 rfl rfl)
theorem dX6_setsTimer_65 : decode cX6_setsTimer 65 = .ok (.iadd, 1) := dk_96 (dk_at dksX6_setsTimer_2 17 rfl rfl)
theorem dX6_setsTimer_66 : decode cX6_setsTimer 66 = .ok (.aload_n 0, 1) := dk_42 (dk_at dksX6_setsTimer_2 18 rfl rfl)
theorem dX6_setsTimer_67 : decode cX6_setsTimer 67 = .ok (.getfield 13, 3) := dk_180 0 13 (dk_at dksX6_setsTimer_2 19 rfl rfl)
theorem dX6_setsTimer_70 : decode cX6_setsTimer 70 = .ok (.bipush 31, 2) := dk_16 31 (dk_at dksX6_setsTimer_2 22 rfl rfl)
theorem dX6_setsTimer_72 : decode cX6_setsTimer 72 = .ok (.iconst 3, 1) := dk_6 (dk_at dksX6_setsTimer_3 0 rfl rfl)
theorem dX6_setsTimer_73 : decode cX6_setsTimer 73 = .ok (.iload 5, 2) := dk_21 5 (dk_at dksX6_setsTimer_3 1 rfl rfl)
theorem dX6_setsTimer_75 : decode cX6_setsTimer 75 = .ok (.imul, 1) := dk_104 (dk_at dksX6_setsTimer_3 3 rfl rfl)
theorem dX6_setsTimer_76 : decode cX6_setsTimer 76 = .ok (.iadd, 1) := dk_96 (dk_at dksX6_setsTimer_3 4 rfl rfl)
theorem dX6_setsTimer_77 : decode cX6_setsTimer 77 = .ok (.iconst 3, 1) := dk_6 (dk_at dksX6_setsTimer_3 5 rfl rfl)
theorem dX6_setsTimer_78 : decode cX6_setsTimer 78 = .ok (.isub, 1) := dk_100 (dk_at dksX6_setsTimer_3 6 rfl rfl)
theorem dX6_setsTimer_79 : decode cX6_setsTimer 79 = .ok (.iload 6, 2) := dk_21 6 (dk_at dksX6_setsTimer_3 7 rfl rfl)
theorem dX6_setsTimer_81 : decode cX6_setsTimer 81 = .ok (.iadd, 1) := dk_96 (dk_at dksX6_setsTimer_3 9 rfl rfl)
theorem dX6_setsTimer_82 : decode cX6_setsTimer 82 = .ok (.iaload, 1) := dk_46 (dk_at dksX6_setsTimer_3 10 rfl rfl)
theorem dX6_setsTimer_83 : decode cX6_setsTimer 83 = .ok (.iastore, 1) := dk_79 (dk_at dksX6_setsTimer_3 11 rfl rfl)
theorem dX6_setsTimer_84 : decode cX6_setsTimer 84 = .ok (.iinc 6 1, 3) := dk_132 6 1 (dk_at dksX6_setsTimer_3 12 rfl rfl)
theorem dX6_setsTimer_87 : decode cX6_setsTimer 87 = .ok (.goto (-41), 3) := dk_167 255 215 (dk_at dksX6_setsTimer_3 15 rfl rfl)
theorem dX6_setsTimer_90 : decode cX6_setsTimer 90 = .ok (.iinc 5 (-1), 3) := dk_132 5 255 (dk_at dksX6_setsTimer_3 18 rfl rfl)
theorem dX6_setsTimer_93 : decode cX6_setsTimer 93 = .ok (.goto (-74), 3) := dk_167 255 182 (dk_at dksX6_setsTimer_3 21 rfl rfl)
theorem dX6_setsTimer_96 : decode cX6_setsTimer 96 = .ok (.aload_n 0, 1) := dk_42 (dk_at dksX6_setsTimer_4 0 rfl rfl)
theorem dX6_setsTimer_97 : decode cX6_setsTimer 97 = .ok (.getfield 13, 3) := dk_180 0 13 (dk_at dksX6_setsTimer_4 1 rfl rfl)
theorem dX6_setsTimer_100 : decode cX6_setsTimer 100 = .ok (.bipush 31, 2) := dk_16 31 (dk_at dksX6_setsTimer_4 4 rfl rfl)
theorem dX6_setsTimer_102 : decode cX6_setsTimer 102 = .ok (.iconst 3, 1) := dk_6 (dk_at dksX6_setsTimer_4 6 rfl rfl)
theorem dX6_setsTimer_103 : decode cX6_setsTimer 103 = .ok (.iload 5, 2) := dk_21 5 (dk_at dksX6_setsTimer_4 7 rfl rfl)
theorem dX6_setsTimer_105 : decode cX6_setsTimer 105 = .ok (.imul, 1) := dk_104 (dk_at dksX6_setsTimer_4 9 rfl rfl)
theorem dX6_setsTimer_106 : decode cX6_setsTimer 106 = .ok (.iadd, 1) := dk_96 (dk_at dksX6_setsTimer_4 10 rfl rfl)
theorem dX6_setsTimer_107 : decode cX6_setsTimer 107 = .ok (.iload_n 1, 1) := dk_27 (dk_at dksX6_setsTimer_4 11 rfl rfl)
theorem dX6_setsTimer_108 : decode cX6_setsTimer 108 = .ok (.iastore, 1) := dk_79 (dk_at dksX6_setsTimer_4 12 rfl rfl)
theorem dX6_setsTimer_109 : decode cX6_setsTimer 109 = .ok (.aload_n 0, 1) := dk_42 (dk_at dksX6_setsTimer_4 13 rfl rfl)
theorem dX6_setsTimer_110 : decode cX6_setsTimer 110 = .ok (.getfield 13, 3) := dk_180 0 13 (dk_at dksX6_setsTimer_4 14 rfl rfl)
theorem dX6_setsTimer_113 : decode cX6_setsTimer 113 = .ok (.bipush 31, 2) := dk_16 31 (dk_at dksX6_setsTimer_4 17 rfl rfl)
theorem dX6_setsTimer_115 : decode cX6_setsTimer 115 = .ok (.iconst 3, 1) := dk_6 (dk_at dksX6_setsTimer_4 19 rfl rfl)
theorem dX6_setsTimer_116 : decode cX6_setsTimer 116 = .ok (.iload 5, 2) := dk_21 5 (dk_at dksX6_setsTimer_4 20 rfl rfl)
theorem dX6_setsTimer_118 : decode cX6_setsTimer 118 = .ok (.imul, 1) := dk_104 (dk_at dksX6_setsTimer_4 22 rfl rfl)
theorem dX6_setsTimer_119 : decode cX6_setsTimer 119 = .ok (.iadd, 1) := dk_96 (dk_at dksX6_setsTimer_4 23 rfl rfl)
theorem dX6_setsTimer_120 : decode cX6_setsTimer 120 = .ok (.iconst 1, 1) := dk_4 (dk_at dksX6_setsTimer_5 0 rfl rfl)
theorem dX6_setsTimer_121 : decode cX6_setsTimer 121 = .ok (.iadd, 1) := dk_96 (dk_at dksX6_setsTimer_5 1 rfl rfl)
theorem dX6_setsTimer_122 : decode cX6_setsTimer 122 = .ok (.iload_n 2, 1) := dk_28 (dk_at dksX6_setsTimer_5 2 rfl rfl)
theorem dX6_setsTimer_123 : decode cX6_setsTimer 123 = .ok (.iastore, 1) := dk_79 (dk_at dksX6_setsTimer_5 3 rfl rfl)
theorem dX6_setsTimer_124 : decode cX6_setsTimer 124 = .ok (.aload_n 0, 1) := dk_42 (dk_at dksX6_setsTimer_5 4 rfl rfl)
theorem dX6_setsTimer_125 : decode cX6_setsTimer 125 = .ok (.getfield 13, 3) := dk_180 0 13 (dk_at dksX6_setsTimer_5 5 rfl rfl)
theorem dX6_setsTimer_128 : decode cX6_setsTimer 128 = .ok (.bipush 31, 2) := dk_16 31 (dk_at dksX6_setsTimer_5 8 rfl rfl)
theorem dX6_setsTimer_130 : decode cX6_setsTimer 130 = .ok (.iconst 3, 1) := dk_6 (dk_at dksX6_setsTimer_5 10 rfl rfl)
theorem dX6_setsTimer_131 : decode cX6_setsTimer 131 = .ok (.iload 5, 2) := dk_21 5 (dk_at dksX6_setsTimer_5 11 rfl rfl)
theorem dX6_setsTimer_133 : decode cX6_setsTimer 133 = .ok (.imul, 1) := dk_104 (dk_at dksX6_setsTimer_5 13 rfl rfl)
theorem dX6_setsTimer_134 : decode cX6_setsTimer 134 = .ok (.iadd, 1) := dk_96 (dk_at dksX6_setsTimer_5 14 rfl rfl)
theorem dX6_setsTimer_135 : decode cX6_setsTimer 135 = .ok (.iconst 2, 1) := dk_5 (dk_at dksX6_setsTimer_5 15 rfl rfl)
theorem dX6_setsTimer_136 : decode cX6_setsTimer 136 = .ok (.iadd, 1) := dk_96 (dk_at dksX6_setsTimer_5 16 rfl rfl)
theorem dX6_setsTimer_137 : decode cX6_setsTimer 137 = .ok (.iload 4, 2) := dk_21 4 (dk_at dksX6_setsTimer_5 17 rfl rfl)
theorem dX6_setsTimer_139 : decode cX6_setsTimer 139 = .ok (.iastore, 1) := dk_79 (dk_at dksX6_setsTimer_5 19 rfl rfl)
theorem dX6_setsTimer_140 : decode cX6_setsTimer 140 = .ok (.aload_n 0, 1) := dk_42 (dk_at dksX6_setsTimer_5 20 rfl rfl)
theorem dX6_setsTimer_141 : decode cX6_setsTimer 141 = .ok (.getfield 13, 3) := dk_180 0 13 (dk_at dksX6_setsTimer_5 21 rfl rfl)
theorem dX6_setsTimer_144 : decode cX6_setsTimer 144 = .ok (.bipush 9, 2) := dk_16 9 (dk_at dksX6_setsTimer_6 0 rfl rfl)
theorem dX6_setsTimer_146 : decode cX6_setsTimer 146 = .ok (.dup2, 1) := dk_92 (dk_at dksX6_setsTimer_6 2 rfl rfl)
theorem dX6_setsTimer_147 : decode cX6_setsTimer 147 = .ok (.iaload, 1) := dk_46 (dk_at dksX6_setsTimer_6 3 rfl rfl)
theorem dX6_setsTimer_148 : decode cX6_setsTimer 148 = .ok (.iconst 1, 1) := dk_4 (dk_at dksX6_setsTimer_6 4 rfl rfl)
theorem dX6_setsTimer_149 : decode cX6_setsTimer 149 = .ok (.iadd, 1) := dk_96 (dk_at dksX6_setsTimer_6 5 rfl rfl)
theorem dX6_setsTimer_150 : decode cX6_setsTimer 150 = .ok (.iastore, 1) := dk_79 (dk_at dksX6_setsTimer_6 6 rfl rfl)
theorem dX6_setsTimer_151 : decode cX6_setsTimer 151 = .ok (.aload_n 0, 1) := dk_42 (dk_at dksX6_setsTimer_6 7 rfl rfl)
theorem dX6_setsTimer_152 : decode cX6_setsTimer 152 = .ok (.getfield 13, 3) := dk_180 0 13 (dk_at dksX6_setsTimer_6 8 rfl rfl)
theorem dX6_setsTimer_155 : decode cX6_setsTimer 155 = .ok (.bipush 9, 2) := dk_16 9 (dk_at dksX6_setsTimer_6 11 rfl rfl)
theorem dX6_setsTimer_157 : decode cX6_setsTimer 157 = .ok (.iaload, 1) := dk_46 (dk_at dksX6_setsTimer_6 13 rfl rfl)
theorem dX6_setsTimer_158 : decode cX6_setsTimer 158 = .ok (.ireturn, 1) := dk_172 (dk_at dksX6_setsTimer_6 14 rfl rfl)
abbrev cX6_setSchedule : ByteArray := prog_14_method_53_code
def yX6_setSchedule : MethodName := ⟨RX6, "setSchedule", "(C)C"⟩
def dkwX6_setSchedule_1 : List UInt8 := [4, 27, 182, 0, 183, 146, 172]
abbrev dktX6_setSchedule_1 : List UInt8 := dkwX6_setSchedule_1 ++ []
def dkwX6_setSchedule_0 : List UInt8 := [42, 3, 181, 0, 1, 27, 184, 0, 180, 153, 0, 10, 42, 4, 182, 0, 75, 146, 172, 42, 182, 0, 112, 42]
abbrev dktX6_setSchedule_0 : List UInt8 := dkwX6_setSchedule_0 ++ dktX6_setSchedule_1
theorem dksX6_setSchedule_0 : cX6_setSchedule.data.toList.drop 0 = dktX6_setSchedule_0 := by decide +kernel
theorem dksX6_setSchedule_1 : cX6_setSchedule.data.toList.drop 24 = dktX6_setSchedule_1 := dk_seg dksX6_setSchedule_0 24 rfl rfl
theorem dX6_setSchedule_0 : decode cX6_setSchedule 0 = .ok (.aload_n 0, 1) := dk_42 (dk_at dksX6_setSchedule_0 0 rfl rfl)
theorem dX6_setSchedule_1 : decode cX6_setSchedule 1 = .ok (.iconst 0, 1) := dk_3 (dk_at dksX6_setSchedule_0 1 rfl rfl)
theorem dX6_setSchedule_2 : decode cX6_setSchedule 2 = .ok (.putfield 1, 3) := dk_181 0 1 (dk_at dksX6_setSchedule_0 2 rfl rfl)
theorem dX6_setSchedule_5 : decode cX6_setSchedule 5 = .ok (.iload_n 1, 1) := dk_27 (dk_at dksX6_setSchedule_0 5 rfl rfl)
theorem dX6_setSchedule_6 : decode cX6_setSchedule 6 = .ok (.invokestatic 180, 3) := dk_184 0 180 (dk_at dksX6_setSchedule_0 6 rfl rfl)
theorem dX6_setSchedule_9 : decode cX6_setSchedule 9 = .ok (.ifCond .eq 10, 3) := dk_153 0 10 (dk_at dksX6_setSchedule_0 9 rfl rfl)
theorem dX6_setSchedule_12 : decode cX6_setSchedule 12 = .ok (.aload_n 0, 1) := dk_42 (dk_at dksX6_setSchedule_0 12 rfl rfl)
theorem dX6_setSchedule_13 : decode cX6_setSchedule 13 = .ok (.iconst 1, 1) := dk_4 (dk_at dksX6_setSchedule_0 13 rfl rfl)
theorem dX6_setSchedule_14 : decode cX6_setSchedule 14 = .ok (.invokevirtual 75, 3) := dk_182 0 75 (dk_at dksX6_setSchedule_0 14 rfl rfl)
theorem dX6_setSchedule_17 : decode cX6_setSchedule 17 = .ok (.i2c, 1) := dk_146 (dk_at dksX6_setSchedule_0 17 rfl rfl)
theorem dX6_setSchedule_18 : decode cX6_setSchedule 18 = .ok (.ireturn, 1) := dk_172 (dk_at dksX6_setSchedule_0 18 rfl rfl)
theorem dX6_setSchedule_19 : decode cX6_setSchedule 19 = .ok (.aload_n 0, 1) := dk_42 (dk_at dksX6_setSchedule_0 19 rfl rfl)
theorem dX6_setSchedule_20 : decode cX6_setSchedule 20 = .ok (.invokevirtual 112, 3) := dk_182 0 112 (dk_at dksX6_setSchedule_0 20 rfl rfl)
theorem dX6_setSchedule_23 : decode cX6_setSchedule 23 = .ok (.aload_n 0, 1) := dk_42 (dk_at dksX6_setSchedule_0 23 rfl rfl)
theorem dX6_setSchedule_24 : decode cX6_setSchedule 24 = .ok (.iconst 1, 1) := dk_4 (dk_at dksX6_setSchedule_1 0 rfl rfl)
theorem dX6_setSchedule_25 : decode cX6_setSchedule 25 = .ok (.iload_n 1, 1) := dk_27 (dk_at dksX6_setSchedule_1 1 rfl rfl)
theorem dX6_setSchedule_26 : decode cX6_setSchedule 26 = .ok (.invokevirtual 183, 3) := dk_182 0 183 (dk_at dksX6_setSchedule_1 2 rfl rfl)
theorem dX6_setSchedule_29 : decode cX6_setSchedule 29 = .ok (.i2c, 1) := dk_146 (dk_at dksX6_setSchedule_1 5 rfl rfl)
theorem dX6_setSchedule_30 : decode cX6_setSchedule 30 = .ok (.ireturn, 1) := dk_172 (dk_at dksX6_setSchedule_1 6 rfl rfl)
abbrev cX6_notSchedule : ByteArray := prog_14_method_51_code
def yX6_notSchedule : MethodName := ⟨RX6, "notSchedule", "(I)I"⟩
def dkwX6_notSchedule_0 : List UInt8 := [26, 16, 112, 159, 0, 9, 26, 16, 115, 160, 0, 7, 3, 167, 0, 4, 4, 172]
abbrev dktX6_notSchedule_0 : List UInt8 := dkwX6_notSchedule_0 ++ []
theorem dksX6_notSchedule_0 : cX6_notSchedule.data.toList.drop 0 = dktX6_notSchedule_0 := by decide +kernel
theorem dX6_notSchedule_0 : decode cX6_notSchedule 0 = .ok (.iload_n 0, 1) := dk_26 (dk_at dksX6_notSchedule_0 0 rfl rfl)
theorem dX6_notSchedule_1 : decode cX6_notSchedule 1 = .ok (.bipush 112, 2) := dk_16 112 (dk_at dksX6_notSchedule_0 1 rfl rfl)
theorem dX6_notSchedule_3 : decode cX6_notSchedule 3 = .ok (.if_icmp .eq 9, 3) := dk_159 0 9 (dk_at dksX6_notSchedule_0 3 rfl rfl)
theorem dX6_notSchedule_6 : decode cX6_notSchedule 6 = .ok (.iload_n 0, 1) := dk_26 (dk_at dksX6_notSchedule_0 6 rfl rfl)
theorem dX6_notSchedule_7 : decode cX6_notSchedule 7 = .ok (.bipush 115, 2) := dk_16 115 (dk_at dksX6_notSchedule_0 7 rfl rfl)
theorem dX6_notSchedule_9 : decode cX6_notSchedule 9 = .ok (.if_icmp .ne 7, 3) := dk_160 0 7 (dk_at dksX6_notSchedule_0 9 rfl rfl)
theorem dX6_notSchedule_12 : decode cX6_notSchedule 12 = .ok (.iconst 0, 1) := dk_3 (dk_at dksX6_notSchedule_0 12 rfl rfl)
theorem dX6_notSchedule_13 : decode cX6_notSchedule 13 = .ok (.goto 4, 3) := dk_167 0 4 (dk_at dksX6_notSchedule_0 13 rfl rfl)
theorem dX6_notSchedule_16 : decode cX6_notSchedule 16 = .ok (.iconst 1, 1) := dk_4 (dk_at dksX6_notSchedule_0 16 rfl rfl)
theorem dX6_notSchedule_17 : decode cX6_notSchedule 17 = .ok (.ireturn, 1) := dk_172 (dk_at dksX6_notSchedule_0 17 rfl rfl)
abbrev cX6_takesNow : ByteArray := prog_14_method_52_code
def yX6_takesNow : MethodName := ⟨RX6, "takesNow", "(II)I"⟩
def dkwX6_takesNow_0 : List UInt8 := [42, 180, 0, 13, 27, 46, 62, 42, 180, 0, 13, 27, 28, 79, 29, 172]
abbrev dktX6_takesNow_0 : List UInt8 := dkwX6_takesNow_0 ++ []
theorem dksX6_takesNow_0 : cX6_takesNow.data.toList.drop 0 = dktX6_takesNow_0 := by decide +kernel
theorem dX6_takesNow_0 : decode cX6_takesNow 0 = .ok (.aload_n 0, 1) := dk_42 (dk_at dksX6_takesNow_0 0 rfl rfl)
theorem dX6_takesNow_1 : decode cX6_takesNow 1 = .ok (.getfield 13, 3) := dk_180 0 13 (dk_at dksX6_takesNow_0 1 rfl rfl)
theorem dX6_takesNow_4 : decode cX6_takesNow 4 = .ok (.iload_n 1, 1) := dk_27 (dk_at dksX6_takesNow_0 4 rfl rfl)
theorem dX6_takesNow_5 : decode cX6_takesNow 5 = .ok (.iaload, 1) := dk_46 (dk_at dksX6_takesNow_0 5 rfl rfl)
theorem dX6_takesNow_6 : decode cX6_takesNow 6 = .ok (.istore_n 3, 1) := dk_62 (dk_at dksX6_takesNow_0 6 rfl rfl)
theorem dX6_takesNow_7 : decode cX6_takesNow 7 = .ok (.aload_n 0, 1) := dk_42 (dk_at dksX6_takesNow_0 7 rfl rfl)
theorem dX6_takesNow_8 : decode cX6_takesNow 8 = .ok (.getfield 13, 3) := dk_180 0 13 (dk_at dksX6_takesNow_0 8 rfl rfl)
theorem dX6_takesNow_11 : decode cX6_takesNow 11 = .ok (.iload_n 1, 1) := dk_27 (dk_at dksX6_takesNow_0 11 rfl rfl)
theorem dX6_takesNow_12 : decode cX6_takesNow 12 = .ok (.iload_n 2, 1) := dk_28 (dk_at dksX6_takesNow_0 12 rfl rfl)
theorem dX6_takesNow_13 : decode cX6_takesNow 13 = .ok (.iastore, 1) := dk_79 (dk_at dksX6_takesNow_0 13 rfl rfl)
theorem dX6_takesNow_14 : decode cX6_takesNow 14 = .ok (.iload_n 3, 1) := dk_29 (dk_at dksX6_takesNow_0 14 rfl rfl)
theorem dX6_takesNow_15 : decode cX6_takesNow 15 = .ok (.ireturn, 1) := dk_172 (dk_at dksX6_takesNow_0 15 rfl rfl)
abbrev cX6_setSeed : ByteArray := prog_14_method_55_code
def yX6_setSeed : MethodName := ⟨RX6, "setSeed", "(I)I"⟩
def dkwX6_setSeed_1 : List UInt8 := [27, 182, 0, 183, 172]
abbrev dktX6_setSeed_1 : List UInt8 := dkwX6_setSeed_1 ++ []
def dkwX6_setSeed_0 : List UInt8 := [42, 3, 181, 0, 1, 27, 184, 0, 186, 153, 0, 9, 42, 4, 182, 0, 75, 172, 42, 182, 0, 112, 42, 5]
abbrev dktX6_setSeed_0 : List UInt8 := dkwX6_setSeed_0 ++ dktX6_setSeed_1
theorem dksX6_setSeed_0 : cX6_setSeed.data.toList.drop 0 = dktX6_setSeed_0 := by decide +kernel
theorem dksX6_setSeed_1 : cX6_setSeed.data.toList.drop 24 = dktX6_setSeed_1 := dk_seg dksX6_setSeed_0 24 rfl rfl
theorem dX6_setSeed_0 : decode cX6_setSeed 0 = .ok (.aload_n 0, 1) := dk_42 (dk_at dksX6_setSeed_0 0 rfl rfl)
theorem dX6_setSeed_1 : decode cX6_setSeed 1 = .ok (.iconst 0, 1) := dk_3 (dk_at dksX6_setSeed_0 1 rfl rfl)
theorem dX6_setSeed_2 : decode cX6_setSeed 2 = .ok (.putfield 1, 3) := dk_181 0 1 (dk_at dksX6_setSeed_0 2 rfl rfl)
theorem dX6_setSeed_5 : decode cX6_setSeed 5 = .ok (.iload_n 1, 1) := dk_27 (dk_at dksX6_setSeed_0 5 rfl rfl)
theorem dX6_setSeed_6 : decode cX6_setSeed 6 = .ok (.invokestatic 186, 3) := dk_184 0 186 (dk_at dksX6_setSeed_0 6 rfl rfl)
theorem dX6_setSeed_9 : decode cX6_setSeed 9 = .ok (.ifCond .eq 9, 3) := dk_153 0 9 (dk_at dksX6_setSeed_0 9 rfl rfl)
theorem dX6_setSeed_12 : decode cX6_setSeed 12 = .ok (.aload_n 0, 1) := dk_42 (dk_at dksX6_setSeed_0 12 rfl rfl)
theorem dX6_setSeed_13 : decode cX6_setSeed 13 = .ok (.iconst 1, 1) := dk_4 (dk_at dksX6_setSeed_0 13 rfl rfl)
theorem dX6_setSeed_14 : decode cX6_setSeed 14 = .ok (.invokevirtual 75, 3) := dk_182 0 75 (dk_at dksX6_setSeed_0 14 rfl rfl)
theorem dX6_setSeed_17 : decode cX6_setSeed 17 = .ok (.ireturn, 1) := dk_172 (dk_at dksX6_setSeed_0 17 rfl rfl)
theorem dX6_setSeed_18 : decode cX6_setSeed 18 = .ok (.aload_n 0, 1) := dk_42 (dk_at dksX6_setSeed_0 18 rfl rfl)
theorem dX6_setSeed_19 : decode cX6_setSeed 19 = .ok (.invokevirtual 112, 3) := dk_182 0 112 (dk_at dksX6_setSeed_0 19 rfl rfl)
theorem dX6_setSeed_22 : decode cX6_setSeed 22 = .ok (.aload_n 0, 1) := dk_42 (dk_at dksX6_setSeed_0 22 rfl rfl)
theorem dX6_setSeed_23 : decode cX6_setSeed 23 = .ok (.iconst 2, 1) := dk_5 (dk_at dksX6_setSeed_0 23 rfl rfl)
theorem dX6_setSeed_24 : decode cX6_setSeed 24 = .ok (.iload_n 1, 1) := dk_27 (dk_at dksX6_setSeed_1 0 rfl rfl)
theorem dX6_setSeed_25 : decode cX6_setSeed 25 = .ok (.invokevirtual 183, 3) := dk_182 0 183 (dk_at dksX6_setSeed_1 1 rfl rfl)
theorem dX6_setSeed_28 : decode cX6_setSeed 28 = .ok (.ireturn, 1) := dk_172 (dk_at dksX6_setSeed_1 4 rfl rfl)
abbrev cX6_notSeed : ByteArray := prog_14_method_54_code
def yX6_notSeed : MethodName := ⟨RX6, "notSeed", "(I)I"⟩
def dkwX6_notSeed_0 : List UInt8 := [26, 3, 16, 63, 184, 0, 79, 153, 0, 7, 3, 167, 0, 4, 4, 172]
abbrev dktX6_notSeed_0 : List UInt8 := dkwX6_notSeed_0 ++ []
theorem dksX6_notSeed_0 : cX6_notSeed.data.toList.drop 0 = dktX6_notSeed_0 := by decide +kernel
theorem dX6_notSeed_0 : decode cX6_notSeed 0 = .ok (.iload_n 0, 1) := dk_26 (dk_at dksX6_notSeed_0 0 rfl rfl)
theorem dX6_notSeed_1 : decode cX6_notSeed 1 = .ok (.iconst 0, 1) := dk_3 (dk_at dksX6_notSeed_0 1 rfl rfl)
theorem dX6_notSeed_2 : decode cX6_notSeed 2 = .ok (.bipush 63, 2) := dk_16 63 (dk_at dksX6_notSeed_0 2 rfl rfl)
theorem dX6_notSeed_4 : decode cX6_notSeed 4 = .ok (.invokestatic 79, 3) := dk_184 0 79 (dk_at dksX6_notSeed_0 4 rfl rfl)
theorem dX6_notSeed_7 : decode cX6_notSeed 7 = .ok (.ifCond .eq 7, 3) := dk_153 0 7 (dk_at dksX6_notSeed_0 7 rfl rfl)
theorem dX6_notSeed_10 : decode cX6_notSeed 10 = .ok (.iconst 0, 1) := dk_3 (dk_at dksX6_notSeed_0 10 rfl rfl)
theorem dX6_notSeed_11 : decode cX6_notSeed 11 = .ok (.goto 4, 3) := dk_167 0 4 (dk_at dksX6_notSeed_0 11 rfl rfl)
theorem dX6_notSeed_14 : decode cX6_notSeed 14 = .ok (.iconst 1, 1) := dk_4 (dk_at dksX6_notSeed_0 14 rfl rfl)
theorem dX6_notSeed_15 : decode cX6_notSeed 15 = .ok (.ireturn, 1) := dk_172 (dk_at dksX6_notSeed_0 15 rfl rfl)
abbrev cX6_step : ByteArray := prog_14_method_74_code
def yX6_step : MethodName := ⟨RX6, "step", "(I)I"⟩
def dkwX6_step_1 : List UInt8 := [182, 0, 247, 172]
abbrev dktX6_step_1 : List UInt8 := dkwX6_step_1 ++ []
def dkwX6_step_0 : List UInt8 := [42, 3, 181, 0, 1, 27, 184, 0, 244, 153, 0, 9, 42, 4, 182, 0, 75, 172, 42, 182, 0, 112, 42, 27]
abbrev dktX6_step_0 : List UInt8 := dkwX6_step_0 ++ dktX6_step_1
theorem dksX6_step_0 : cX6_step.data.toList.drop 0 = dktX6_step_0 := by decide +kernel
theorem dksX6_step_1 : cX6_step.data.toList.drop 24 = dktX6_step_1 := dk_seg dksX6_step_0 24 rfl rfl
theorem dX6_step_0 : decode cX6_step 0 = .ok (.aload_n 0, 1) := dk_42 (dk_at dksX6_step_0 0 rfl rfl)
theorem dX6_step_1 : decode cX6_step 1 = .ok (.iconst 0, 1) := dk_3 (dk_at dksX6_step_0 1 rfl rfl)
theorem dX6_step_2 : decode cX6_step 2 = .ok (.putfield 1, 3) := dk_181 0 1 (dk_at dksX6_step_0 2 rfl rfl)
theorem dX6_step_5 : decode cX6_step 5 = .ok (.iload_n 1, 1) := dk_27 (dk_at dksX6_step_0 5 rfl rfl)
theorem dX6_step_6 : decode cX6_step 6 = .ok (.invokestatic 244, 3) := dk_184 0 244 (dk_at dksX6_step_0 6 rfl rfl)
theorem dX6_step_9 : decode cX6_step 9 = .ok (.ifCond .eq 9, 3) := dk_153 0 9 (dk_at dksX6_step_0 9 rfl rfl)
theorem dX6_step_12 : decode cX6_step 12 = .ok (.aload_n 0, 1) := dk_42 (dk_at dksX6_step_0 12 rfl rfl)
theorem dX6_step_13 : decode cX6_step 13 = .ok (.iconst 1, 1) := dk_4 (dk_at dksX6_step_0 13 rfl rfl)
theorem dX6_step_14 : decode cX6_step 14 = .ok (.invokevirtual 75, 3) := dk_182 0 75 (dk_at dksX6_step_0 14 rfl rfl)
theorem dX6_step_17 : decode cX6_step 17 = .ok (.ireturn, 1) := dk_172 (dk_at dksX6_step_0 17 rfl rfl)
theorem dX6_step_18 : decode cX6_step 18 = .ok (.aload_n 0, 1) := dk_42 (dk_at dksX6_step_0 18 rfl rfl)
theorem dX6_step_19 : decode cX6_step 19 = .ok (.invokevirtual 112, 3) := dk_182 0 112 (dk_at dksX6_step_0 19 rfl rfl)
theorem dX6_step_22 : decode cX6_step 22 = .ok (.aload_n 0, 1) := dk_42 (dk_at dksX6_step_0 22 rfl rfl)
theorem dX6_step_23 : decode cX6_step 23 = .ok (.iload_n 1, 1) := dk_27 (dk_at dksX6_step_0 23 rfl rfl)
theorem dX6_step_24 : decode cX6_step 24 = .ok (.invokevirtual 247, 3) := dk_182 0 247 (dk_at dksX6_step_1 0 rfl rfl)
theorem dX6_step_27 : decode cX6_step 27 = .ok (.ireturn, 1) := dk_172 (dk_at dksX6_step_1 3 rfl rfl)
abbrev cX6_notStep : ByteArray := prog_14_method_72_code
def yX6_notStep : MethodName := ⟨RX6, "notStep", "(I)I"⟩
def dkwX6_notStep_0 : List UInt8 := [26, 4, 16, 50, 184, 0, 79, 153, 0, 7, 3, 167, 0, 4, 4, 172]
abbrev dktX6_notStep_0 : List UInt8 := dkwX6_notStep_0 ++ []
theorem dksX6_notStep_0 : cX6_notStep.data.toList.drop 0 = dktX6_notStep_0 := by decide +kernel
theorem dX6_notStep_0 : decode cX6_notStep 0 = .ok (.iload_n 0, 1) := dk_26 (dk_at dksX6_notStep_0 0 rfl rfl)
theorem dX6_notStep_1 : decode cX6_notStep 1 = .ok (.iconst 1, 1) := dk_4 (dk_at dksX6_notStep_0 1 rfl rfl)
theorem dX6_notStep_2 : decode cX6_notStep 2 = .ok (.bipush 50, 2) := dk_16 50 (dk_at dksX6_notStep_0 2 rfl rfl)
theorem dX6_notStep_4 : decode cX6_notStep 4 = .ok (.invokestatic 79, 3) := dk_184 0 79 (dk_at dksX6_notStep_0 4 rfl rfl)
theorem dX6_notStep_7 : decode cX6_notStep 7 = .ok (.ifCond .eq 7, 3) := dk_153 0 7 (dk_at dksX6_notStep_0 7 rfl rfl)
theorem dX6_notStep_10 : decode cX6_notStep 10 = .ok (.iconst 0, 1) := dk_3 (dk_at dksX6_notStep_0 10 rfl rfl)
theorem dX6_notStep_11 : decode cX6_notStep 11 = .ok (.goto 4, 3) := dk_167 0 4 (dk_at dksX6_notStep_0 11 rfl rfl)
theorem dX6_notStep_14 : decode cX6_notStep 14 = .ok (.iconst 1, 1) := dk_4 (dk_at dksX6_notStep_0 14 rfl rfl)
theorem dX6_notStep_15 : decode cX6_notStep 15 = .ok (.ireturn, 1) := dk_172 (dk_at dksX6_notStep_0 15 rfl rfl)
abbrev cX6_stepsOn : ByteArray := prog_14_method_73_code
def yX6_stepsOn : MethodName := ⟨RX6, "stepsOn", "(I)I"⟩
def dkwX6_stepsOn_0 : List UInt8 := [3, 61, 3, 62, 29, 27, 162, 0, 16, 28, 42, 182, 0, 241, 96, 61, 132, 3, 1, 167, 255, 241, 28, 172]
abbrev dktX6_stepsOn_0 : List UInt8 := dkwX6_stepsOn_0 ++ []
theorem dksX6_stepsOn_0 : cX6_stepsOn.data.toList.drop 0 = dktX6_stepsOn_0 := by decide +kernel
theorem dX6_stepsOn_0 : decode cX6_stepsOn 0 = .ok (.iconst 0, 1) := dk_3 (dk_at dksX6_stepsOn_0 0 rfl rfl)
theorem dX6_stepsOn_1 : decode cX6_stepsOn 1 = .ok (.istore_n 2, 1) := dk_61 (dk_at dksX6_stepsOn_0 1 rfl rfl)
theorem dX6_stepsOn_2 : decode cX6_stepsOn 2 = .ok (.iconst 0, 1) := dk_3 (dk_at dksX6_stepsOn_0 2 rfl rfl)
theorem dX6_stepsOn_3 : decode cX6_stepsOn 3 = .ok (.istore_n 3, 1) := dk_62 (dk_at dksX6_stepsOn_0 3 rfl rfl)
theorem dX6_stepsOn_4 : decode cX6_stepsOn 4 = .ok (.iload_n 3, 1) := dk_29 (dk_at dksX6_stepsOn_0 4 rfl rfl)
theorem dX6_stepsOn_5 : decode cX6_stepsOn 5 = .ok (.iload_n 1, 1) := dk_27 (dk_at dksX6_stepsOn_0 5 rfl rfl)
theorem dX6_stepsOn_6 : decode cX6_stepsOn 6 = .ok (.if_icmp .ge 16, 3) := dk_162 0 16 (dk_at dksX6_stepsOn_0 6 rfl rfl)
theorem dX6_stepsOn_9 : decode cX6_stepsOn 9 = .ok (.iload_n 2, 1) := dk_28 (dk_at dksX6_stepsOn_0 9 rfl rfl)
theorem dX6_stepsOn_10 : decode cX6_stepsOn 10 = .ok (.aload_n 0, 1) := dk_42 (dk_at dksX6_stepsOn_0 10 rfl rfl)
theorem dX6_stepsOn_11 : decode cX6_stepsOn 11 = .ok (.invokevirtual 241, 3) := dk_182 0 241 (dk_at dksX6_stepsOn_0 11 rfl rfl)
theorem dX6_stepsOn_14 : decode cX6_stepsOn 14 = .ok (.iadd, 1) := dk_96 (dk_at dksX6_stepsOn_0 14 rfl rfl)
theorem dX6_stepsOn_15 : decode cX6_stepsOn 15 = .ok (.istore_n 2, 1) := dk_61 (dk_at dksX6_stepsOn_0 15 rfl rfl)
theorem dX6_stepsOn_16 : decode cX6_stepsOn 16 = .ok (.iinc 3 1, 3) := dk_132 3 1 (dk_at dksX6_stepsOn_0 16 rfl rfl)
theorem dX6_stepsOn_19 : decode cX6_stepsOn 19 = .ok (.goto (-15), 3) := dk_167 255 241 (dk_at dksX6_stepsOn_0 19 rfl rfl)
theorem dX6_stepsOn_22 : decode cX6_stepsOn 22 = .ok (.iload_n 2, 1) := dk_28 (dk_at dksX6_stepsOn_0 22 rfl rfl)
theorem dX6_stepsOn_23 : decode cX6_stepsOn 23 = .ok (.ireturn, 1) := dk_172 (dk_at dksX6_stepsOn_0 23 rfl rfl)
abbrev cX6_stepsOnce : ByteArray := prog_14_method_71_code
def yX6_stepsOnce : MethodName := ⟨RX6, "stepsOnce", "()I"⟩
def dkwX6_stepsOnce_2 : List UInt8 := [160, 0, 13, 42, 180, 0, 13, 5, 42, 182, 0, 220, 79, 42, 27, 182, 0, 238, 4, 172]
abbrev dktX6_stepsOnce_2 : List UInt8 := dkwX6_stepsOnce_2 ++ []
def dkwX6_stepsOnce_1 : List UInt8 := [27, 156, 0, 15, 42, 180, 0, 13, 7, 92, 46, 4, 96, 79, 3, 172, 42, 180, 0, 13, 4, 46, 16, 115]
abbrev dktX6_stepsOnce_1 : List UInt8 := dkwX6_stepsOnce_1 ++ dktX6_stepsOnce_2
def dkwX6_stepsOnce_0 : List UInt8 := [42, 180, 0, 13, 6, 92, 46, 4, 96, 79, 42, 182, 0, 229, 42, 182, 0, 232, 60, 42, 27, 182, 0, 235]
abbrev dktX6_stepsOnce_0 : List UInt8 := dkwX6_stepsOnce_0 ++ dktX6_stepsOnce_1
theorem dksX6_stepsOnce_0 : cX6_stepsOnce.data.toList.drop 0 = dktX6_stepsOnce_0 := by decide +kernel
theorem dksX6_stepsOnce_1 : cX6_stepsOnce.data.toList.drop 24 = dktX6_stepsOnce_1 := dk_seg dksX6_stepsOnce_0 24 rfl rfl
theorem dksX6_stepsOnce_2 : cX6_stepsOnce.data.toList.drop 48 = dktX6_stepsOnce_2 := dk_seg dksX6_stepsOnce_1 24 rfl rfl
theorem dX6_stepsOnce_0 : decode cX6_stepsOnce 0 = .ok (.aload_n 0, 1) := dk_42 (dk_at dksX6_stepsOnce_0 0 rfl rfl)
theorem dX6_stepsOnce_1 : decode cX6_stepsOnce 1 = .ok (.getfield 13, 3) := dk_180 0 13 (dk_at dksX6_stepsOnce_0 1 rfl rfl)
theorem dX6_stepsOnce_4 : decode cX6_stepsOnce 4 = .ok (.iconst 3, 1) := dk_6 (dk_at dksX6_stepsOnce_0 4 rfl rfl)
theorem dX6_stepsOnce_5 : decode cX6_stepsOnce 5 = .ok (.dup2, 1) := dk_92 (dk_at dksX6_stepsOnce_0 5 rfl rfl)
theorem dX6_stepsOnce_6 : decode cX6_stepsOnce 6 = .ok (.iaload, 1) := dk_46 (dk_at dksX6_stepsOnce_0 6 rfl rfl)
theorem dX6_stepsOnce_7 : decode cX6_stepsOnce 7 = .ok (.iconst 1, 1) := dk_4 (dk_at dksX6_stepsOnce_0 7 rfl rfl)
theorem dX6_stepsOnce_8 : decode cX6_stepsOnce 8 = .ok (.iadd, 1) := dk_96 (dk_at dksX6_stepsOnce_0 8 rfl rfl)
theorem dX6_stepsOnce_9 : decode cX6_stepsOnce 9 = .ok (.iastore, 1) := dk_79 (dk_at dksX6_stepsOnce_0 9 rfl rfl)
theorem dX6_stepsOnce_10 : decode cX6_stepsOnce 10 = .ok (.aload_n 0, 1) := dk_42 (dk_at dksX6_stepsOnce_0 10 rfl rfl)
theorem dX6_stepsOnce_11 : decode cX6_stepsOnce 11 = .ok (.invokevirtual 229, 3) := dk_182 0 229 (dk_at dksX6_stepsOnce_0 11 rfl rfl)
theorem dX6_stepsOnce_14 : decode cX6_stepsOnce 14 = .ok (.aload_n 0, 1) := dk_42 (dk_at dksX6_stepsOnce_0 14 rfl rfl)
theorem dX6_stepsOnce_15 : decode cX6_stepsOnce 15 = .ok (.invokevirtual 232, 3) := dk_182 0 232 (dk_at dksX6_stepsOnce_0 15 rfl rfl)
theorem dX6_stepsOnce_18 : decode cX6_stepsOnce 18 = .ok (.istore_n 1, 1) := dk_60 (dk_at dksX6_stepsOnce_0 18 rfl rfl)
theorem dX6_stepsOnce_19 : decode cX6_stepsOnce 19 = .ok (.aload_n 0, 1) := dk_42 (dk_at dksX6_stepsOnce_0 19 rfl rfl)
theorem dX6_stepsOnce_20 : decode cX6_stepsOnce 20 = .ok (.iload_n 1, 1) := dk_27 (dk_at dksX6_stepsOnce_0 20 rfl rfl)
theorem dX6_stepsOnce_21 : decode cX6_stepsOnce 21 = .ok (.invokevirtual 235, 3) := dk_182 0 235 (dk_at dksX6_stepsOnce_0 21 rfl rfl)
theorem dX6_stepsOnce_24 : decode cX6_stepsOnce 24 = .ok (.iload_n 1, 1) := dk_27 (dk_at dksX6_stepsOnce_1 0 rfl rfl)
theorem dX6_stepsOnce_25 : decode cX6_stepsOnce 25 = .ok (.ifCond .ge 15, 3) := dk_156 0 15 (dk_at dksX6_stepsOnce_1 1 rfl rfl)
theorem dX6_stepsOnce_28 : decode cX6_stepsOnce 28 = .ok (.aload_n 0, 1) := dk_42 (dk_at dksX6_stepsOnce_1 4 rfl rfl)
theorem dX6_stepsOnce_29 : decode cX6_stepsOnce 29 = .ok (.getfield 13, 3) := dk_180 0 13 (dk_at dksX6_stepsOnce_1 5 rfl rfl)
theorem dX6_stepsOnce_32 : decode cX6_stepsOnce 32 = .ok (.iconst 4, 1) := dk_7 (dk_at dksX6_stepsOnce_1 8 rfl rfl)
theorem dX6_stepsOnce_33 : decode cX6_stepsOnce 33 = .ok (.dup2, 1) := dk_92 (dk_at dksX6_stepsOnce_1 9 rfl rfl)
theorem dX6_stepsOnce_34 : decode cX6_stepsOnce 34 = .ok (.iaload, 1) := dk_46 (dk_at dksX6_stepsOnce_1 10 rfl rfl)
theorem dX6_stepsOnce_35 : decode cX6_stepsOnce 35 = .ok (.iconst 1, 1) := dk_4 (dk_at dksX6_stepsOnce_1 11 rfl rfl)
theorem dX6_stepsOnce_36 : decode cX6_stepsOnce 36 = .ok (.iadd, 1) := dk_96 (dk_at dksX6_stepsOnce_1 12 rfl rfl)
theorem dX6_stepsOnce_37 : decode cX6_stepsOnce 37 = .ok (.iastore, 1) := dk_79 (dk_at dksX6_stepsOnce_1 13 rfl rfl)
theorem dX6_stepsOnce_38 : decode cX6_stepsOnce 38 = .ok (.iconst 0, 1) := dk_3 (dk_at dksX6_stepsOnce_1 14 rfl rfl)
theorem dX6_stepsOnce_39 : decode cX6_stepsOnce 39 = .ok (.ireturn, 1) := dk_172 (dk_at dksX6_stepsOnce_1 15 rfl rfl)
theorem dX6_stepsOnce_40 : decode cX6_stepsOnce 40 = .ok (.aload_n 0, 1) := dk_42 (dk_at dksX6_stepsOnce_1 16 rfl rfl)
theorem dX6_stepsOnce_41 : decode cX6_stepsOnce 41 = .ok (.getfield 13, 3) := dk_180 0 13 (dk_at dksX6_stepsOnce_1 17 rfl rfl)
theorem dX6_stepsOnce_44 : decode cX6_stepsOnce 44 = .ok (.iconst 1, 1) := dk_4 (dk_at dksX6_stepsOnce_1 20 rfl rfl)
theorem dX6_stepsOnce_45 : decode cX6_stepsOnce 45 = .ok (.iaload, 1) := dk_46 (dk_at dksX6_stepsOnce_1 21 rfl rfl)
theorem dX6_stepsOnce_46 : decode cX6_stepsOnce 46 = .ok (.bipush 115, 2) := dk_16 115 (dk_at dksX6_stepsOnce_1 22 rfl rfl)
theorem dX6_stepsOnce_48 : decode cX6_stepsOnce 48 = .ok (.if_icmp .ne 13, 3) := dk_160 0 13 (dk_at dksX6_stepsOnce_2 0 rfl rfl)
theorem dX6_stepsOnce_51 : decode cX6_stepsOnce 51 = .ok (.aload_n 0, 1) := dk_42 (dk_at dksX6_stepsOnce_2 3 rfl rfl)
theorem dX6_stepsOnce_52 : decode cX6_stepsOnce 52 = .ok (.getfield 13, 3) := dk_180 0 13 (dk_at dksX6_stepsOnce_2 4 rfl rfl)
theorem dX6_stepsOnce_55 : decode cX6_stepsOnce 55 = .ok (.iconst 2, 1) := dk_5 (dk_at dksX6_stepsOnce_2 7 rfl rfl)
theorem dX6_stepsOnce_56 : decode cX6_stepsOnce 56 = .ok (.aload_n 0, 1) := dk_42 (dk_at dksX6_stepsOnce_2 8 rfl rfl)
theorem dX6_stepsOnce_57 : decode cX6_stepsOnce 57 = .ok (.invokevirtual 220, 3) := dk_182 0 220 (dk_at dksX6_stepsOnce_2 9 rfl rfl)
theorem dX6_stepsOnce_60 : decode cX6_stepsOnce 60 = .ok (.iastore, 1) := dk_79 (dk_at dksX6_stepsOnce_2 12 rfl rfl)
theorem dX6_stepsOnce_61 : decode cX6_stepsOnce 61 = .ok (.aload_n 0, 1) := dk_42 (dk_at dksX6_stepsOnce_2 13 rfl rfl)
theorem dX6_stepsOnce_62 : decode cX6_stepsOnce 62 = .ok (.iload_n 1, 1) := dk_27 (dk_at dksX6_stepsOnce_2 14 rfl rfl)
theorem dX6_stepsOnce_63 : decode cX6_stepsOnce 63 = .ok (.invokevirtual 238, 3) := dk_182 0 238 (dk_at dksX6_stepsOnce_2 15 rfl rfl)
theorem dX6_stepsOnce_66 : decode cX6_stepsOnce 66 = .ok (.iconst 1, 1) := dk_4 (dk_at dksX6_stepsOnce_2 18 rfl rfl)
theorem dX6_stepsOnce_67 : decode cX6_stepsOnce 67 = .ok (.ireturn, 1) := dk_172 (dk_at dksX6_stepsOnce_2 19 rfl rfl)
abbrev cX6_fires : ByteArray := prog_14_method_69_code
def yX6_fires : MethodName := ⟨RX6, "fires", "()V"⟩
def dkwX6_fires_5 : List UInt8 := [167, 255, 142, 177]
abbrev dktX6_fires_5 : List UInt8 := dkwX6_fires_5 ++ []
def dkwX6_fires_4 : List UInt8 := [182, 0, 164, 167, 0, 14, 42, 180, 0, 13, 16, 6, 92, 46, 4, 96, 79, 42, 27, 182, 0, 226]
abbrev dktX6_fires_4 : List UInt8 := dkwX6_fires_4 ++ dktX6_fires_5
def dkwX6_fires_3 : List UInt8 := [182, 0, 87, 153, 0, 26, 42, 28, 7, 42, 180, 0, 13, 16, 31, 6, 27, 104, 96, 4, 96, 46, 104]
abbrev dktX6_fires_3 : List UInt8 := dkwX6_fires_3 ++ dktX6_fires_4
def dkwX6_fires_2 : List UInt8 := [28, 182, 0, 87, 153, 0, 17, 42, 28, 182, 0, 161, 153, 0, 9, 132, 1, 1, 167, 0, 50, 42, 28]
abbrev dktX6_fires_2 : List UInt8 := dkwX6_fires_2 ++ dktX6_fires_3
def dkwX6_fires_1 : List UInt8 := [96, 46, 42, 180, 0, 13, 6, 46, 163, 0, 87, 42, 180, 0, 13, 16, 31, 6, 27, 104, 96, 46, 61, 42]
abbrev dktX6_fires_1 : List UInt8 := dkwX6_fires_1 ++ dktX6_fires_2
def dkwX6_fires_0 : List UInt8 := [3, 60, 27, 42, 180, 0, 13, 16, 9, 46, 162, 0, 109, 42, 180, 0, 13, 16, 31, 6, 27, 104, 96, 5]
abbrev dktX6_fires_0 : List UInt8 := dkwX6_fires_0 ++ dktX6_fires_1
theorem dksX6_fires_0 : cX6_fires.data.toList.drop 0 = dktX6_fires_0 := by decide +kernel
theorem dksX6_fires_1 : cX6_fires.data.toList.drop 24 = dktX6_fires_1 := dk_seg dksX6_fires_0 24 rfl rfl
theorem dksX6_fires_2 : cX6_fires.data.toList.drop 48 = dktX6_fires_2 := dk_seg dksX6_fires_1 24 rfl rfl
theorem dksX6_fires_3 : cX6_fires.data.toList.drop 71 = dktX6_fires_3 := dk_seg dksX6_fires_2 23 rfl rfl
theorem dksX6_fires_4 : cX6_fires.data.toList.drop 94 = dktX6_fires_4 := dk_seg dksX6_fires_3 23 rfl rfl
theorem dksX6_fires_5 : cX6_fires.data.toList.drop 116 = dktX6_fires_5 := dk_seg dksX6_fires_4 22 rfl rfl
theorem dX6_fires_0 : decode cX6_fires 0 = .ok (.iconst 0, 1) := dk_3 (dk_at dksX6_fires_0 0 rfl rfl)
theorem dX6_fires_1 : decode cX6_fires 1 = .ok (.istore_n 1, 1) := dk_60 (dk_at dksX6_fires_0 1 rfl rfl)
theorem dX6_fires_2 : decode cX6_fires 2 = .ok (.iload_n 1, 1) := dk_27 (dk_at dksX6_fires_0 2 rfl rfl)
theorem dX6_fires_3 : decode cX6_fires 3 = .ok (.aload_n 0, 1) := dk_42 (dk_at dksX6_fires_0 3 rfl rfl)
theorem dX6_fires_4 : decode cX6_fires 4 = .ok (.getfield 13, 3) := dk_180 0 13 (dk_at dksX6_fires_0 4 rfl rfl)
theorem dX6_fires_7 : decode cX6_fires 7 = .ok (.bipush 9, 2) := dk_16 9 (dk_at dksX6_fires_0 7 rfl rfl)
theorem dX6_fires_9 : decode cX6_fires 9 = .ok (.iaload, 1) := dk_46 (dk_at dksX6_fires_0 9 rfl rfl)
theorem dX6_fires_10 : decode cX6_fires 10 = .ok (.if_icmp .ge 109, 3) := dk_162 0 109 (dk_at dksX6_fires_0 10 rfl rfl)
theorem dX6_fires_13 : decode cX6_fires 13 = .ok (.aload_n 0, 1) := dk_42 (dk_at dksX6_fires_0 13 rfl rfl)
theorem dX6_fires_14 : decode cX6_fires 14 = .ok (.getfield 13, 3) := dk_180 0 13 (dk_at dksX6_fires_0 14 rfl rfl)
theorem dX6_fires_17 : decode cX6_fires 17 = .ok (.bipush 31, 2) := dk_16 31 (dk_at dksX6_fires_0 17 rfl rfl)
theorem dX6_fires_19 : decode cX6_fires 19 = .ok (.iconst 3, 1) := dk_6 (dk_at dksX6_fires_0 19 rfl rfl)
theorem dX6_fires_20 : decode cX6_fires 20 = .ok (.iload_n 1, 1) := dk_27 (dk_at dksX6_fires_0 20 rfl rfl)
theorem dX6_fires_21 : decode cX6_fires 21 = .ok (.imul, 1) := dk_104 (dk_at dksX6_fires_0 21 rfl rfl)
theorem dX6_fires_22 : decode cX6_fires 22 = .ok (.iadd, 1) := dk_96 (dk_at dksX6_fires_0 22 rfl rfl)
theorem dX6_fires_23 : decode cX6_fires 23 = .ok (.iconst 2, 1) := dk_5 (dk_at dksX6_fires_0 23 rfl rfl)
theorem dX6_fires_24 : decode cX6_fires 24 = .ok (.iadd, 1) := dk_96 (dk_at dksX6_fires_1 0 rfl rfl)
theorem dX6_fires_25 : decode cX6_fires 25 = .ok (.iaload, 1) := dk_46 (dk_at dksX6_fires_1 1 rfl rfl)
theorem dX6_fires_26 : decode cX6_fires 26 = .ok (.aload_n 0, 1) := dk_42 (dk_at dksX6_fires_1 2 rfl rfl)
theorem dX6_fires_27 : decode cX6_fires 27 = .ok (.getfield 13, 3) := dk_180 0 13 (dk_at dksX6_fires_1 3 rfl rfl)
theorem dX6_fires_30 : decode cX6_fires 30 = .ok (.iconst 3, 1) := dk_6 (dk_at dksX6_fires_1 6 rfl rfl)
theorem dX6_fires_31 : decode cX6_fires 31 = .ok (.iaload, 1) := dk_46 (dk_at dksX6_fires_1 7 rfl rfl)
theorem dX6_fires_32 : decode cX6_fires 32 = .ok (.if_icmp .gt 87, 3) := dk_163 0 87 (dk_at dksX6_fires_1 8 rfl rfl)
theorem dX6_fires_35 : decode cX6_fires 35 = .ok (.aload_n 0, 1) := dk_42 (dk_at dksX6_fires_1 11 rfl rfl)
theorem dX6_fires_36 : decode cX6_fires 36 = .ok (.getfield 13, 3) := dk_180 0 13 (dk_at dksX6_fires_1 12 rfl rfl)
theorem dX6_fires_39 : decode cX6_fires 39 = .ok (.bipush 31, 2) := dk_16 31 (dk_at dksX6_fires_1 15 rfl rfl)
theorem dX6_fires_41 : decode cX6_fires 41 = .ok (.iconst 3, 1) := dk_6 (dk_at dksX6_fires_1 17 rfl rfl)
theorem dX6_fires_42 : decode cX6_fires 42 = .ok (.iload_n 1, 1) := dk_27 (dk_at dksX6_fires_1 18 rfl rfl)
theorem dX6_fires_43 : decode cX6_fires 43 = .ok (.imul, 1) := dk_104 (dk_at dksX6_fires_1 19 rfl rfl)
theorem dX6_fires_44 : decode cX6_fires 44 = .ok (.iadd, 1) := dk_96 (dk_at dksX6_fires_1 20 rfl rfl)
theorem dX6_fires_45 : decode cX6_fires 45 = .ok (.iaload, 1) := dk_46 (dk_at dksX6_fires_1 21 rfl rfl)
theorem dX6_fires_46 : decode cX6_fires 46 = .ok (.istore_n 2, 1) := dk_61 (dk_at dksX6_fires_1 22 rfl rfl)
theorem dX6_fires_47 : decode cX6_fires 47 = .ok (.aload_n 0, 1) := dk_42 (dk_at dksX6_fires_1 23 rfl rfl)
theorem dX6_fires_48 : decode cX6_fires 48 = .ok (.iload_n 2, 1) := dk_28 (dk_at dksX6_fires_2 0 rfl rfl)
theorem dX6_fires_49 : decode cX6_fires 49 = .ok (.invokevirtual 87, 3) := dk_182 0 87 (dk_at dksX6_fires_2 1 rfl rfl)
theorem dX6_fires_52 : decode cX6_fires 52 = .ok (.ifCond .eq 17, 3) := dk_153 0 17 (dk_at dksX6_fires_2 4 rfl rfl)
theorem dX6_fires_55 : decode cX6_fires 55 = .ok (.aload_n 0, 1) := dk_42 (dk_at dksX6_fires_2 7 rfl rfl)
theorem dX6_fires_56 : decode cX6_fires 56 = .ok (.iload_n 2, 1) := dk_28 (dk_at dksX6_fires_2 8 rfl rfl)
theorem dX6_fires_57 : decode cX6_fires 57 = .ok (.invokevirtual 161, 3) := dk_182 0 161 (dk_at dksX6_fires_2 9 rfl rfl)
theorem dX6_fires_60 : decode cX6_fires 60 = .ok (.ifCond .eq 9, 3) := dk_153 0 9 (dk_at dksX6_fires_2 12 rfl rfl)
theorem dX6_fires_63 : decode cX6_fires 63 = .ok (.iinc 1 1, 3) := dk_132 1 1 (dk_at dksX6_fires_2 15 rfl rfl)
theorem dX6_fires_66 : decode cX6_fires 66 = .ok (.goto 50, 3) := dk_167 0 50 (dk_at dksX6_fires_2 18 rfl rfl)
theorem dX6_fires_69 : decode cX6_fires 69 = .ok (.aload_n 0, 1) := dk_42 (dk_at dksX6_fires_2 21 rfl rfl)
theorem dX6_fires_70 : decode cX6_fires 70 = .ok (.iload_n 2, 1) := dk_28 (dk_at dksX6_fires_2 22 rfl rfl)
theorem dX6_fires_71 : decode cX6_fires 71 = .ok (.invokevirtual 87, 3) := dk_182 0 87 (dk_at dksX6_fires_3 0 rfl rfl)
theorem dX6_fires_74 : decode cX6_fires 74 = .ok (.ifCond .eq 26, 3) := dk_153 0 26 (dk_at dksX6_fires_3 3 rfl rfl)
theorem dX6_fires_77 : decode cX6_fires 77 = .ok (.aload_n 0, 1) := dk_42 (dk_at dksX6_fires_3 6 rfl rfl)
theorem dX6_fires_78 : decode cX6_fires 78 = .ok (.iload_n 2, 1) := dk_28 (dk_at dksX6_fires_3 7 rfl rfl)
theorem dX6_fires_79 : decode cX6_fires 79 = .ok (.iconst 4, 1) := dk_7 (dk_at dksX6_fires_3 8 rfl rfl)
theorem dX6_fires_80 : decode cX6_fires 80 = .ok (.aload_n 0, 1) := dk_42 (dk_at dksX6_fires_3 9 rfl rfl)
theorem dX6_fires_81 : decode cX6_fires 81 = .ok (.getfield 13, 3) := dk_180 0 13 (dk_at dksX6_fires_3 10 rfl rfl)
theorem dX6_fires_84 : decode cX6_fires 84 = .ok (.bipush 31, 2) := dk_16 31 (dk_at dksX6_fires_3 13 rfl rfl)
theorem dX6_fires_86 : decode cX6_fires 86 = .ok (.iconst 3, 1) := dk_6 (dk_at dksX6_fires_3 15 rfl rfl)
theorem dX6_fires_87 : decode cX6_fires 87 = .ok (.iload_n 1, 1) := dk_27 (dk_at dksX6_fires_3 16 rfl rfl)
theorem dX6_fires_88 : decode cX6_fires 88 = .ok (.imul, 1) := dk_104 (dk_at dksX6_fires_3 17 rfl rfl)
theorem dX6_fires_89 : decode cX6_fires 89 = .ok (.iadd, 1) := dk_96 (dk_at dksX6_fires_3 18 rfl rfl)
theorem dX6_fires_90 : decode cX6_fires 90 = .ok (.iconst 1, 1) := dk_4 (dk_at dksX6_fires_3 19 rfl rfl)
theorem dX6_fires_91 : decode cX6_fires 91 = .ok (.iadd, 1) := dk_96 (dk_at dksX6_fires_3 20 rfl rfl)
theorem dX6_fires_92 : decode cX6_fires 92 = .ok (.iaload, 1) := dk_46 (dk_at dksX6_fires_3 21 rfl rfl)
theorem dX6_fires_93 : decode cX6_fires 93 = .ok (.imul, 1) := dk_104 (dk_at dksX6_fires_3 22 rfl rfl)
theorem dX6_fires_94 : decode cX6_fires 94 = .ok (.invokevirtual 164, 3) := dk_182 0 164 (dk_at dksX6_fires_4 0 rfl rfl)
theorem dX6_fires_97 : decode cX6_fires 97 = .ok (.goto 14, 3) := dk_167 0 14 (dk_at dksX6_fires_4 3 rfl rfl)
theorem dX6_fires_100 : decode cX6_fires 100 = .ok (.aload_n 0, 1) := dk_42 (dk_at dksX6_fires_4 6 rfl rfl)
theorem dX6_fires_101 : decode cX6_fires 101 = .ok (.getfield 13, 3) := dk_180 0 13 (dk_at dksX6_fires_4 7 rfl rfl)
theorem dX6_fires_104 : decode cX6_fires 104 = .ok (.bipush 6, 2) := dk_16 6 (dk_at dksX6_fires_4 10 rfl rfl)
theorem dX6_fires_106 : decode cX6_fires 106 = .ok (.dup2, 1) := dk_92 (dk_at dksX6_fires_4 12 rfl rfl)
theorem dX6_fires_107 : decode cX6_fires 107 = .ok (.iaload, 1) := dk_46 (dk_at dksX6_fires_4 13 rfl rfl)
theorem dX6_fires_108 : decode cX6_fires 108 = .ok (.iconst 1, 1) := dk_4 (dk_at dksX6_fires_4 14 rfl rfl)
theorem dX6_fires_109 : decode cX6_fires 109 = .ok (.iadd, 1) := dk_96 (dk_at dksX6_fires_4 15 rfl rfl)
theorem dX6_fires_110 : decode cX6_fires 110 = .ok (.iastore, 1) := dk_79 (dk_at dksX6_fires_4 16 rfl rfl)
theorem dX6_fires_111 : decode cX6_fires 111 = .ok (.aload_n 0, 1) := dk_42 (dk_at dksX6_fires_4 17 rfl rfl)
theorem dX6_fires_112 : decode cX6_fires 112 = .ok (.iload_n 1, 1) := dk_27 (dk_at dksX6_fires_4 18 rfl rfl)
theorem dX6_fires_113 : decode cX6_fires 113 = .ok (.invokevirtual 226, 3) := dk_182 0 226 (dk_at dksX6_fires_4 19 rfl rfl)
theorem dX6_fires_116 : decode cX6_fires 116 = .ok (.goto (-114), 3) := dk_167 255 142 (dk_at dksX6_fires_5 0 rfl rfl)
theorem dX6_fires_119 : decode cX6_fires 119 = .ok (.return_, 1) := dk_177 (dk_at dksX6_fires_5 3 rfl rfl)
abbrev cX6_dropsTimer : ByteArray := prog_14_method_50_code
def yX6_dropsTimer : MethodName := ⟨RX6, "dropsTimer", "(I)V"⟩
def dkwX6_dropsTimer_3 : List UInt8 := [180, 0, 13, 16, 9, 46, 104, 96, 28, 96, 3, 79, 132, 2, 1, 167, 255, 228, 177]
abbrev dktX6_dropsTimer_3 : List UInt8 := dkwX6_dropsTimer_3 ++ []
def dkwX6_dropsTimer_2 : List UInt8 := [79, 132, 2, 1, 167, 255, 223, 3, 61, 28, 6, 162, 0, 29, 42, 180, 0, 13, 16, 31, 6, 42]
abbrev dktX6_dropsTimer_2 : List UInt8 := dkwX6_dropsTimer_2 ++ dktX6_dropsTimer_3
def dkwX6_dropsTimer_1 : List UInt8 := [180, 0, 13, 16, 9, 46, 104, 96, 162, 0, 23, 42, 180, 0, 13, 28, 42, 180, 0, 13, 28, 6, 96, 46]
abbrev dktX6_dropsTimer_1 : List UInt8 := dkwX6_dropsTimer_1 ++ dktX6_dropsTimer_2
def dkwX6_dropsTimer_0 : List UInt8 := [42, 180, 0, 13, 16, 9, 92, 46, 4, 100, 79, 16, 31, 6, 27, 104, 96, 61, 28, 16, 31, 6, 42]
abbrev dktX6_dropsTimer_0 : List UInt8 := dkwX6_dropsTimer_0 ++ dktX6_dropsTimer_1
theorem dksX6_dropsTimer_0 : cX6_dropsTimer.data.toList.drop 0 = dktX6_dropsTimer_0 := by decide +kernel
theorem dksX6_dropsTimer_1 : cX6_dropsTimer.data.toList.drop 23 = dktX6_dropsTimer_1 := dk_seg dksX6_dropsTimer_0 23 rfl rfl
theorem dksX6_dropsTimer_2 : cX6_dropsTimer.data.toList.drop 47 = dktX6_dropsTimer_2 := dk_seg dksX6_dropsTimer_1 24 rfl rfl
theorem dksX6_dropsTimer_3 : cX6_dropsTimer.data.toList.drop 69 = dktX6_dropsTimer_3 := dk_seg dksX6_dropsTimer_2 22 rfl rfl
theorem dX6_dropsTimer_0 : decode cX6_dropsTimer 0 = .ok (.aload_n 0, 1) := dk_42 (dk_at dksX6_dropsTimer_0 0 rfl rfl)
theorem dX6_dropsTimer_1 : decode cX6_dropsTimer 1 = .ok (.getfield 13, 3) := dk_180 0 13 (dk_at dksX6_dropsTimer_0 1 rfl rfl)
theorem dX6_dropsTimer_4 : decode cX6_dropsTimer 4 = .ok (.bipush 9, 2) := dk_16 9 (dk_at dksX6_dropsTimer_0 4 rfl rfl)
theorem dX6_dropsTimer_6 : decode cX6_dropsTimer 6 = .ok (.dup2, 1) := dk_92 (dk_at dksX6_dropsTimer_0 6 rfl rfl)
theorem dX6_dropsTimer_7 : decode cX6_dropsTimer 7 = .ok (.iaload, 1) := dk_46 (dk_at dksX6_dropsTimer_0 7 rfl rfl)
theorem dX6_dropsTimer_8 : decode cX6_dropsTimer 8 = .ok (.iconst 1, 1) := dk_4 (dk_at dksX6_dropsTimer_0 8 rfl rfl)
theorem dX6_dropsTimer_9 : decode cX6_dropsTimer 9 = .ok (.isub, 1) := dk_100 (dk_at dksX6_dropsTimer_0 9 rfl rfl)
theorem dX6_dropsTimer_10 : decode cX6_dropsTimer 10 = .ok (.iastore, 1) := dk_79 (dk_at dksX6_dropsTimer_0 10 rfl rfl)
theorem dX6_dropsTimer_11 : decode cX6_dropsTimer 11 = .ok (.bipush 31, 2) := dk_16 31 (dk_at dksX6_dropsTimer_0 11 rfl rfl)
theorem dX6_dropsTimer_13 : decode cX6_dropsTimer 13 = .ok (.iconst 3, 1) := dk_6 (dk_at dksX6_dropsTimer_0 13 rfl rfl)
theorem dX6_dropsTimer_14 : decode cX6_dropsTimer 14 = .ok (.iload_n 1, 1) := dk_27 (dk_at dksX6_dropsTimer_0 14 rfl rfl)
theorem dX6_dropsTimer_15 : decode cX6_dropsTimer 15 = .ok (.imul, 1) := dk_104 (dk_at dksX6_dropsTimer_0 15 rfl rfl)
theorem dX6_dropsTimer_16 : decode cX6_dropsTimer 16 = .ok (.iadd, 1) := dk_96 (dk_at dksX6_dropsTimer_0 16 rfl rfl)
theorem dX6_dropsTimer_17 : decode cX6_dropsTimer 17 = .ok (.istore_n 2, 1) := dk_61 (dk_at dksX6_dropsTimer_0 17 rfl rfl)
theorem dX6_dropsTimer_18 : decode cX6_dropsTimer 18 = .ok (.iload_n 2, 1) := dk_28 (dk_at dksX6_dropsTimer_0 18 rfl rfl)
theorem dX6_dropsTimer_19 : decode cX6_dropsTimer 19 = .ok (.bipush 31, 2) := dk_16 31 (dk_at dksX6_dropsTimer_0 19 rfl rfl)
theorem dX6_dropsTimer_21 : decode cX6_dropsTimer 21 = .ok (.iconst 3, 1) := dk_6 (dk_at dksX6_dropsTimer_0 21 rfl rfl)
theorem dX6_dropsTimer_22 : decode cX6_dropsTimer 22 = .ok (.aload_n 0, 1) := dk_42 (dk_at dksX6_dropsTimer_0 22 rfl rfl)
theorem dX6_dropsTimer_23 : decode cX6_dropsTimer 23 = .ok (.getfield 13, 3) := dk_180 0 13 (dk_at dksX6_dropsTimer_1 0 rfl rfl)
theorem dX6_dropsTimer_26 : decode cX6_dropsTimer 26 = .ok (.bipush 9, 2) := dk_16 9 (dk_at dksX6_dropsTimer_1 3 rfl rfl)
theorem dX6_dropsTimer_28 : decode cX6_dropsTimer 28 = .ok (.iaload, 1) := dk_46 (dk_at dksX6_dropsTimer_1 5 rfl rfl)
theorem dX6_dropsTimer_29 : decode cX6_dropsTimer 29 = .ok (.imul, 1) := dk_104 (dk_at dksX6_dropsTimer_1 6 rfl rfl)
theorem dX6_dropsTimer_30 : decode cX6_dropsTimer 30 = .ok (.iadd, 1) := dk_96 (dk_at dksX6_dropsTimer_1 7 rfl rfl)
theorem dX6_dropsTimer_31 : decode cX6_dropsTimer 31 = .ok (.if_icmp .ge 23, 3) := dk_162 0 23 (dk_at dksX6_dropsTimer_1 8 rfl rfl)
theorem dX6_dropsTimer_34 : decode cX6_dropsTimer 34 = .ok (.aload_n 0, 1) := dk_42 (dk_at dksX6_dropsTimer_1 11 rfl rfl)
theorem dX6_dropsTimer_35 : decode cX6_dropsTimer 35 = .ok (.getfield 13, 3) := dk_180 0 13 (dk_at dksX6_dropsTimer_1 12 rfl rfl)
theorem dX6_dropsTimer_38 : decode cX6_dropsTimer 38 = .ok (.iload_n 2, 1) := dk_28 (dk_at dksX6_dropsTimer_1 15 rfl rfl)
theorem dX6_dropsTimer_39 : decode cX6_dropsTimer 39 = .ok (.aload_n 0, 1) := dk_42 (dk_at dksX6_dropsTimer_1 16 rfl rfl)
theorem dX6_dropsTimer_40 : decode cX6_dropsTimer 40 = .ok (.getfield 13, 3) := dk_180 0 13 (dk_at dksX6_dropsTimer_1 17 rfl rfl)
theorem dX6_dropsTimer_43 : decode cX6_dropsTimer 43 = .ok (.iload_n 2, 1) := dk_28 (dk_at dksX6_dropsTimer_1 20 rfl rfl)
theorem dX6_dropsTimer_44 : decode cX6_dropsTimer 44 = .ok (.iconst 3, 1) := dk_6 (dk_at dksX6_dropsTimer_1 21 rfl rfl)
theorem dX6_dropsTimer_45 : decode cX6_dropsTimer 45 = .ok (.iadd, 1) := dk_96 (dk_at dksX6_dropsTimer_1 22 rfl rfl)
theorem dX6_dropsTimer_46 : decode cX6_dropsTimer 46 = .ok (.iaload, 1) := dk_46 (dk_at dksX6_dropsTimer_1 23 rfl rfl)
theorem dX6_dropsTimer_47 : decode cX6_dropsTimer 47 = .ok (.iastore, 1) := dk_79 (dk_at dksX6_dropsTimer_2 0 rfl rfl)
theorem dX6_dropsTimer_48 : decode cX6_dropsTimer 48 = .ok (.iinc 2 1, 3) := dk_132 2 1 (dk_at dksX6_dropsTimer_2 1 rfl rfl)
theorem dX6_dropsTimer_51 : decode cX6_dropsTimer 51 = .ok (.goto (-33), 3) := dk_167 255 223 (dk_at dksX6_dropsTimer_2 4 rfl rfl)
theorem dX6_dropsTimer_54 : decode cX6_dropsTimer 54 = .ok (.iconst 0, 1) := dk_3 (dk_at dksX6_dropsTimer_2 7 rfl rfl)
theorem dX6_dropsTimer_55 : decode cX6_dropsTimer 55 = .ok (.istore_n 2, 1) := dk_61 (dk_at dksX6_dropsTimer_2 8 rfl rfl)
theorem dX6_dropsTimer_56 : decode cX6_dropsTimer 56 = .ok (.iload_n 2, 1) := dk_28 (dk_at dksX6_dropsTimer_2 9 rfl rfl)
theorem dX6_dropsTimer_57 : decode cX6_dropsTimer 57 = .ok (.iconst 3, 1) := dk_6 (dk_at dksX6_dropsTimer_2 10 rfl rfl)
theorem dX6_dropsTimer_58 : decode cX6_dropsTimer 58 = .ok (.if_icmp .ge 29, 3) := dk_162 0 29 (dk_at dksX6_dropsTimer_2 11 rfl rfl)
theorem dX6_dropsTimer_61 : decode cX6_dropsTimer 61 = .ok (.aload_n 0, 1) := dk_42 (dk_at dksX6_dropsTimer_2 14 rfl rfl)
theorem dX6_dropsTimer_62 : decode cX6_dropsTimer 62 = .ok (.getfield 13, 3) := dk_180 0 13 (dk_at dksX6_dropsTimer_2 15 rfl rfl)
theorem dX6_dropsTimer_65 : decode cX6_dropsTimer 65 = .ok (.bipush 31, 2) := dk_16 31 (dk_at dksX6_dropsTimer_2 18 rfl rfl)
theorem dX6_dropsTimer_67 : decode cX6_dropsTimer 67 = .ok (.iconst 3, 1) := dk_6 (dk_at dksX6_dropsTimer_2 20 rfl rfl)
theorem dX6_dropsTimer_68 : decode cX6_dropsTimer 68 = .ok (.aload_n 0, 1) := dk_42 (dk_at dksX6_dropsTimer_2 21 rfl rfl)
theorem dX6_dropsTimer_69 : decode cX6_dropsTimer 69 = .ok (.getfield 13, 3) := dk_180 0 13 (dk_at dksX6_dropsTimer_3 0 rfl rfl)
theorem dX6_dropsTimer_72 : decode cX6_dropsTimer 72 = .ok (.bipush 9, 2) := dk_16 9 (dk_at dksX6_dropsTimer_3 3 rfl rfl)
theorem dX6_dropsTimer_74 : decode cX6_dropsTimer 74 = .ok (.iaload, 1) := dk_46 (dk_at dksX6_dropsTimer_3 5 rfl rfl)
theorem dX6_dropsTimer_75 : decode cX6_dropsTimer 75 = .ok (.imul, 1) := dk_104 (dk_at dksX6_dropsTimer_3 6 rfl rfl)
theorem dX6_dropsTimer_76 : decode cX6_dropsTimer 76 = .ok (.iadd, 1) := dk_96 (dk_at dksX6_dropsTimer_3 7 rfl rfl)
theorem dX6_dropsTimer_77 : decode cX6_dropsTimer 77 = .ok (.iload_n 2, 1) := dk_28 (dk_at dksX6_dropsTimer_3 8 rfl rfl)
theorem dX6_dropsTimer_78 : decode cX6_dropsTimer 78 = .ok (.iadd, 1) := dk_96 (dk_at dksX6_dropsTimer_3 9 rfl rfl)
theorem dX6_dropsTimer_79 : decode cX6_dropsTimer 79 = .ok (.iconst 0, 1) := dk_3 (dk_at dksX6_dropsTimer_3 10 rfl rfl)
theorem dX6_dropsTimer_80 : decode cX6_dropsTimer 80 = .ok (.iastore, 1) := dk_79 (dk_at dksX6_dropsTimer_3 11 rfl rfl)
theorem dX6_dropsTimer_81 : decode cX6_dropsTimer 81 = .ok (.iinc 2 1, 3) := dk_132 2 1 (dk_at dksX6_dropsTimer_3 12 rfl rfl)
theorem dX6_dropsTimer_84 : decode cX6_dropsTimer 84 = .ok (.goto (-28), 3) := dk_167 255 228 (dk_at dksX6_dropsTimer_3 15 rfl rfl)
theorem dX6_dropsTimer_87 : decode cX6_dropsTimer 87 = .ok (.return_, 1) := dk_177 (dk_at dksX6_dropsTimer_3 18 rfl rfl)
abbrev cX6_chosen : ByteArray := prog_14_method_68_code
def yX6_chosen : MethodName := ⟨RX6, "chosen", "()I"⟩
def dkwX6_chosen_1 : List UInt8 := [167, 0, 16, 42, 42, 182, 0, 220, 42, 182, 0, 214, 112, 182, 0, 223, 172]
abbrev dktX6_chosen_1 : List UInt8 := dkwX6_chosen_1 ++ []
def dkwX6_chosen_0 : List UInt8 := [42, 182, 0, 214, 154, 0, 5, 2, 172, 42, 180, 0, 13, 4, 46, 16, 112, 160, 0, 10, 42, 182, 0, 217]
abbrev dktX6_chosen_0 : List UInt8 := dkwX6_chosen_0 ++ dktX6_chosen_1
theorem dksX6_chosen_0 : cX6_chosen.data.toList.drop 0 = dktX6_chosen_0 := by decide +kernel
theorem dksX6_chosen_1 : cX6_chosen.data.toList.drop 24 = dktX6_chosen_1 := dk_seg dksX6_chosen_0 24 rfl rfl
theorem dX6_chosen_0 : decode cX6_chosen 0 = .ok (.aload_n 0, 1) := dk_42 (dk_at dksX6_chosen_0 0 rfl rfl)
theorem dX6_chosen_1 : decode cX6_chosen 1 = .ok (.invokevirtual 214, 3) := dk_182 0 214 (dk_at dksX6_chosen_0 1 rfl rfl)
theorem dX6_chosen_4 : decode cX6_chosen 4 = .ok (.ifCond .ne 5, 3) := dk_154 0 5 (dk_at dksX6_chosen_0 4 rfl rfl)
theorem dX6_chosen_7 : decode cX6_chosen 7 = .ok (.iconst (-1), 1) := dk_2 (dk_at dksX6_chosen_0 7 rfl rfl)
theorem dX6_chosen_8 : decode cX6_chosen 8 = .ok (.ireturn, 1) := dk_172 (dk_at dksX6_chosen_0 8 rfl rfl)
theorem dX6_chosen_9 : decode cX6_chosen 9 = .ok (.aload_n 0, 1) := dk_42 (dk_at dksX6_chosen_0 9 rfl rfl)
theorem dX6_chosen_10 : decode cX6_chosen 10 = .ok (.getfield 13, 3) := dk_180 0 13 (dk_at dksX6_chosen_0 10 rfl rfl)
theorem dX6_chosen_13 : decode cX6_chosen 13 = .ok (.iconst 1, 1) := dk_4 (dk_at dksX6_chosen_0 13 rfl rfl)
theorem dX6_chosen_14 : decode cX6_chosen 14 = .ok (.iaload, 1) := dk_46 (dk_at dksX6_chosen_0 14 rfl rfl)
theorem dX6_chosen_15 : decode cX6_chosen 15 = .ok (.bipush 112, 2) := dk_16 112 (dk_at dksX6_chosen_0 15 rfl rfl)
theorem dX6_chosen_17 : decode cX6_chosen 17 = .ok (.if_icmp .ne 10, 3) := dk_160 0 10 (dk_at dksX6_chosen_0 17 rfl rfl)
theorem dX6_chosen_20 : decode cX6_chosen 20 = .ok (.aload_n 0, 1) := dk_42 (dk_at dksX6_chosen_0 20 rfl rfl)
theorem dX6_chosen_21 : decode cX6_chosen 21 = .ok (.invokevirtual 217, 3) := dk_182 0 217 (dk_at dksX6_chosen_0 21 rfl rfl)
theorem dX6_chosen_24 : decode cX6_chosen 24 = .ok (.goto 16, 3) := dk_167 0 16 (dk_at dksX6_chosen_1 0 rfl rfl)
theorem dX6_chosen_27 : decode cX6_chosen 27 = .ok (.aload_n 0, 1) := dk_42 (dk_at dksX6_chosen_1 3 rfl rfl)
theorem dX6_chosen_28 : decode cX6_chosen 28 = .ok (.aload_n 0, 1) := dk_42 (dk_at dksX6_chosen_1 4 rfl rfl)
theorem dX6_chosen_29 : decode cX6_chosen 29 = .ok (.invokevirtual 220, 3) := dk_182 0 220 (dk_at dksX6_chosen_1 5 rfl rfl)
theorem dX6_chosen_32 : decode cX6_chosen 32 = .ok (.aload_n 0, 1) := dk_42 (dk_at dksX6_chosen_1 8 rfl rfl)
theorem dX6_chosen_33 : decode cX6_chosen 33 = .ok (.invokevirtual 214, 3) := dk_182 0 214 (dk_at dksX6_chosen_1 9 rfl rfl)
theorem dX6_chosen_36 : decode cX6_chosen 36 = .ok (.irem, 1) := dk_112 (dk_at dksX6_chosen_1 12 rfl rfl)
theorem dX6_chosen_37 : decode cX6_chosen 37 = .ok (.invokevirtual 223, 3) := dk_182 0 223 (dk_at dksX6_chosen_1 13 rfl rfl)
theorem dX6_chosen_40 : decode cX6_chosen 40 = .ok (.ireturn, 1) := dk_172 (dk_at dksX6_chosen_1 16 rfl rfl)
abbrev cX6_readyCount : ByteArray := prog_14_method_64_code
def yX6_readyCount : MethodName := ⟨RX6, "readyCount", "()I"⟩
def dkwX6_readyCount_1 : List UInt8 := [167, 0, 4, 3, 96, 60, 132, 2, 1, 167, 255, 227, 27, 172]
abbrev dktX6_readyCount_1 : List UInt8 := dkwX6_readyCount_1 ++ []
def dkwX6_readyCount_0 : List UInt8 := [3, 60, 3, 61, 28, 42, 180, 0, 13, 3, 46, 162, 0, 25, 27, 42, 28, 182, 0, 211, 153, 0, 7, 4]
abbrev dktX6_readyCount_0 : List UInt8 := dkwX6_readyCount_0 ++ dktX6_readyCount_1
theorem dksX6_readyCount_0 : cX6_readyCount.data.toList.drop 0 = dktX6_readyCount_0 := by decide +kernel
theorem dksX6_readyCount_1 : cX6_readyCount.data.toList.drop 24 = dktX6_readyCount_1 := dk_seg dksX6_readyCount_0 24 rfl rfl
theorem dX6_readyCount_0 : decode cX6_readyCount 0 = .ok (.iconst 0, 1) := dk_3 (dk_at dksX6_readyCount_0 0 rfl rfl)
theorem dX6_readyCount_1 : decode cX6_readyCount 1 = .ok (.istore_n 1, 1) := dk_60 (dk_at dksX6_readyCount_0 1 rfl rfl)
theorem dX6_readyCount_2 : decode cX6_readyCount 2 = .ok (.iconst 0, 1) := dk_3 (dk_at dksX6_readyCount_0 2 rfl rfl)
theorem dX6_readyCount_3 : decode cX6_readyCount 3 = .ok (.istore_n 2, 1) := dk_61 (dk_at dksX6_readyCount_0 3 rfl rfl)
theorem dX6_readyCount_4 : decode cX6_readyCount 4 = .ok (.iload_n 2, 1) := dk_28 (dk_at dksX6_readyCount_0 4 rfl rfl)
theorem dX6_readyCount_5 : decode cX6_readyCount 5 = .ok (.aload_n 0, 1) := dk_42 (dk_at dksX6_readyCount_0 5 rfl rfl)
theorem dX6_readyCount_6 : decode cX6_readyCount 6 = .ok (.getfield 13, 3) := dk_180 0 13 (dk_at dksX6_readyCount_0 6 rfl rfl)
theorem dX6_readyCount_9 : decode cX6_readyCount 9 = .ok (.iconst 0, 1) := dk_3 (dk_at dksX6_readyCount_0 9 rfl rfl)
theorem dX6_readyCount_10 : decode cX6_readyCount 10 = .ok (.iaload, 1) := dk_46 (dk_at dksX6_readyCount_0 10 rfl rfl)
theorem dX6_readyCount_11 : decode cX6_readyCount 11 = .ok (.if_icmp .ge 25, 3) := dk_162 0 25 (dk_at dksX6_readyCount_0 11 rfl rfl)
theorem dX6_readyCount_14 : decode cX6_readyCount 14 = .ok (.iload_n 1, 1) := dk_27 (dk_at dksX6_readyCount_0 14 rfl rfl)
theorem dX6_readyCount_15 : decode cX6_readyCount 15 = .ok (.aload_n 0, 1) := dk_42 (dk_at dksX6_readyCount_0 15 rfl rfl)
theorem dX6_readyCount_16 : decode cX6_readyCount 16 = .ok (.iload_n 2, 1) := dk_28 (dk_at dksX6_readyCount_0 16 rfl rfl)
theorem dX6_readyCount_17 : decode cX6_readyCount 17 = .ok (.invokevirtual 211, 3) := dk_182 0 211 (dk_at dksX6_readyCount_0 17 rfl rfl)
theorem dX6_readyCount_20 : decode cX6_readyCount 20 = .ok (.ifCond .eq 7, 3) := dk_153 0 7 (dk_at dksX6_readyCount_0 20 rfl rfl)
theorem dX6_readyCount_23 : decode cX6_readyCount 23 = .ok (.iconst 1, 1) := dk_4 (dk_at dksX6_readyCount_0 23 rfl rfl)
theorem dX6_readyCount_24 : decode cX6_readyCount 24 = .ok (.goto 4, 3) := dk_167 0 4 (dk_at dksX6_readyCount_1 0 rfl rfl)
theorem dX6_readyCount_27 : decode cX6_readyCount 27 = .ok (.iconst 0, 1) := dk_3 (dk_at dksX6_readyCount_1 3 rfl rfl)
theorem dX6_readyCount_28 : decode cX6_readyCount 28 = .ok (.iadd, 1) := dk_96 (dk_at dksX6_readyCount_1 4 rfl rfl)
theorem dX6_readyCount_29 : decode cX6_readyCount 29 = .ok (.istore_n 1, 1) := dk_60 (dk_at dksX6_readyCount_1 5 rfl rfl)
theorem dX6_readyCount_30 : decode cX6_readyCount 30 = .ok (.iinc 2 1, 3) := dk_132 2 1 (dk_at dksX6_readyCount_1 6 rfl rfl)
theorem dX6_readyCount_33 : decode cX6_readyCount 33 = .ok (.goto (-29), 3) := dk_167 255 227 (dk_at dksX6_readyCount_1 9 rfl rfl)
theorem dX6_readyCount_36 : decode cX6_readyCount 36 = .ok (.iload_n 1, 1) := dk_27 (dk_at dksX6_readyCount_1 12 rfl rfl)
theorem dX6_readyCount_37 : decode cX6_readyCount 37 = .ok (.ireturn, 1) := dk_172 (dk_at dksX6_readyCount_1 13 rfl rfl)
abbrev cX6_isReadyNow : ByteArray := prog_14_method_59_code
def yX6_isReadyNow : MethodName := ⟨RX6, "isReadyNow", "(I)Z"⟩
def dkwX6_isReadyNow_0 : List UInt8 := [42, 27, 182, 0, 192, 153, 0, 15, 42, 27, 182, 0, 195, 154, 0, 7, 4, 167, 0, 4, 3, 172]
abbrev dktX6_isReadyNow_0 : List UInt8 := dkwX6_isReadyNow_0 ++ []
theorem dksX6_isReadyNow_0 : cX6_isReadyNow.data.toList.drop 0 = dktX6_isReadyNow_0 := by decide +kernel
theorem dX6_isReadyNow_0 : decode cX6_isReadyNow 0 = .ok (.aload_n 0, 1) := dk_42 (dk_at dksX6_isReadyNow_0 0 rfl rfl)
theorem dX6_isReadyNow_1 : decode cX6_isReadyNow 1 = .ok (.iload_n 1, 1) := dk_27 (dk_at dksX6_isReadyNow_0 1 rfl rfl)
theorem dX6_isReadyNow_2 : decode cX6_isReadyNow 2 = .ok (.invokevirtual 192, 3) := dk_182 0 192 (dk_at dksX6_isReadyNow_0 2 rfl rfl)
theorem dX6_isReadyNow_5 : decode cX6_isReadyNow 5 = .ok (.ifCond .eq 15, 3) := dk_153 0 15 (dk_at dksX6_isReadyNow_0 5 rfl rfl)
theorem dX6_isReadyNow_8 : decode cX6_isReadyNow 8 = .ok (.aload_n 0, 1) := dk_42 (dk_at dksX6_isReadyNow_0 8 rfl rfl)
theorem dX6_isReadyNow_9 : decode cX6_isReadyNow 9 = .ok (.iload_n 1, 1) := dk_27 (dk_at dksX6_isReadyNow_0 9 rfl rfl)
theorem dX6_isReadyNow_10 : decode cX6_isReadyNow 10 = .ok (.invokevirtual 195, 3) := dk_182 0 195 (dk_at dksX6_isReadyNow_0 10 rfl rfl)
theorem dX6_isReadyNow_13 : decode cX6_isReadyNow 13 = .ok (.ifCond .ne 7, 3) := dk_154 0 7 (dk_at dksX6_isReadyNow_0 13 rfl rfl)
theorem dX6_isReadyNow_16 : decode cX6_isReadyNow 16 = .ok (.iconst 1, 1) := dk_4 (dk_at dksX6_isReadyNow_0 16 rfl rfl)
theorem dX6_isReadyNow_17 : decode cX6_isReadyNow 17 = .ok (.goto 4, 3) := dk_167 0 4 (dk_at dksX6_isReadyNow_0 17 rfl rfl)
theorem dX6_isReadyNow_20 : decode cX6_isReadyNow 20 = .ok (.iconst 0, 1) := dk_3 (dk_at dksX6_isReadyNow_0 20 rfl rfl)
theorem dX6_isReadyNow_21 : decode cX6_isReadyNow 21 = .ok (.ireturn, 1) := dk_172 (dk_at dksX6_isReadyNow_0 21 rfl rfl)
abbrev cX6_hasWork : ByteArray := prog_14_method_58_code
def yX6_hasWork : MethodName := ⟨RX6, "hasWork", "(I)Z"⟩
def dkwX6_hasWork_0 : List UInt8 := [42, 27, 182, 0, 87, 153, 0, 17, 42, 27, 16, 9, 182, 0, 83, 158, 0, 7, 4, 167, 0, 4, 3, 172]
abbrev dktX6_hasWork_0 : List UInt8 := dkwX6_hasWork_0 ++ []
theorem dksX6_hasWork_0 : cX6_hasWork.data.toList.drop 0 = dktX6_hasWork_0 := by decide +kernel
theorem dX6_hasWork_0 : decode cX6_hasWork 0 = .ok (.aload_n 0, 1) := dk_42 (dk_at dksX6_hasWork_0 0 rfl rfl)
theorem dX6_hasWork_1 : decode cX6_hasWork 1 = .ok (.iload_n 1, 1) := dk_27 (dk_at dksX6_hasWork_0 1 rfl rfl)
theorem dX6_hasWork_2 : decode cX6_hasWork 2 = .ok (.invokevirtual 87, 3) := dk_182 0 87 (dk_at dksX6_hasWork_0 2 rfl rfl)
theorem dX6_hasWork_5 : decode cX6_hasWork 5 = .ok (.ifCond .eq 17, 3) := dk_153 0 17 (dk_at dksX6_hasWork_0 5 rfl rfl)
theorem dX6_hasWork_8 : decode cX6_hasWork 8 = .ok (.aload_n 0, 1) := dk_42 (dk_at dksX6_hasWork_0 8 rfl rfl)
theorem dX6_hasWork_9 : decode cX6_hasWork 9 = .ok (.iload_n 1, 1) := dk_27 (dk_at dksX6_hasWork_0 9 rfl rfl)
theorem dX6_hasWork_10 : decode cX6_hasWork 10 = .ok (.bipush 9, 2) := dk_16 9 (dk_at dksX6_hasWork_0 10 rfl rfl)
theorem dX6_hasWork_12 : decode cX6_hasWork 12 = .ok (.invokevirtual 83, 3) := dk_182 0 83 (dk_at dksX6_hasWork_0 12 rfl rfl)
theorem dX6_hasWork_15 : decode cX6_hasWork 15 = .ok (.ifCond .le 7, 3) := dk_158 0 7 (dk_at dksX6_hasWork_0 15 rfl rfl)
theorem dX6_hasWork_18 : decode cX6_hasWork 18 = .ok (.iconst 1, 1) := dk_4 (dk_at dksX6_hasWork_0 18 rfl rfl)
theorem dX6_hasWork_19 : decode cX6_hasWork 19 = .ok (.goto 4, 3) := dk_167 0 4 (dk_at dksX6_hasWork_0 19 rfl rfl)
theorem dX6_hasWork_22 : decode cX6_hasWork 22 = .ok (.iconst 0, 1) := dk_3 (dk_at dksX6_hasWork_0 22 rfl rfl)
theorem dX6_hasWork_23 : decode cX6_hasWork 23 = .ok (.ireturn, 1) := dk_172 (dk_at dksX6_hasWork_0 23 rfl rfl)
abbrev cX6_waits : ByteArray := prog_14_method_57_code
def yX6_waits : MethodName := ⟨RX6, "waits", "(I)Z"⟩
def dkwX6_waits_2 : List UInt8 := [153, 0, 7, 4, 167, 0, 4, 3, 172]
abbrev dktX6_waits_2 : List UInt8 := dkwX6_waits_2 ++ []
def dkwX6_waits_1 : List UInt8 := [5, 162, 0, 28, 28, 27, 159, 0, 23, 42, 28, 182, 0, 87, 153, 0, 15, 42, 28, 182, 0, 161]
abbrev dktX6_waits_1 : List UInt8 := dkwX6_waits_1 ++ dktX6_waits_2
def dkwX6_waits_0 : List UInt8 := [42, 27, 7, 182, 0, 83, 61, 42, 27, 182, 0, 189, 153, 0, 41, 42, 27, 16, 10, 182, 0, 83, 7, 112]
abbrev dktX6_waits_0 : List UInt8 := dkwX6_waits_0 ++ dktX6_waits_1
theorem dksX6_waits_0 : cX6_waits.data.toList.drop 0 = dktX6_waits_0 := by decide +kernel
theorem dksX6_waits_1 : cX6_waits.data.toList.drop 24 = dktX6_waits_1 := dk_seg dksX6_waits_0 24 rfl rfl
theorem dksX6_waits_2 : cX6_waits.data.toList.drop 46 = dktX6_waits_2 := dk_seg dksX6_waits_1 22 rfl rfl
theorem dX6_waits_0 : decode cX6_waits 0 = .ok (.aload_n 0, 1) := dk_42 (dk_at dksX6_waits_0 0 rfl rfl)
theorem dX6_waits_1 : decode cX6_waits 1 = .ok (.iload_n 1, 1) := dk_27 (dk_at dksX6_waits_0 1 rfl rfl)
theorem dX6_waits_2 : decode cX6_waits 2 = .ok (.iconst 4, 1) := dk_7 (dk_at dksX6_waits_0 2 rfl rfl)
theorem dX6_waits_3 : decode cX6_waits 3 = .ok (.invokevirtual 83, 3) := dk_182 0 83 (dk_at dksX6_waits_0 3 rfl rfl)
theorem dX6_waits_6 : decode cX6_waits 6 = .ok (.istore_n 2, 1) := dk_61 (dk_at dksX6_waits_0 6 rfl rfl)
theorem dX6_waits_7 : decode cX6_waits 7 = .ok (.aload_n 0, 1) := dk_42 (dk_at dksX6_waits_0 7 rfl rfl)
theorem dX6_waits_8 : decode cX6_waits 8 = .ok (.iload_n 1, 1) := dk_27 (dk_at dksX6_waits_0 8 rfl rfl)
theorem dX6_waits_9 : decode cX6_waits 9 = .ok (.invokevirtual 189, 3) := dk_182 0 189 (dk_at dksX6_waits_0 9 rfl rfl)
theorem dX6_waits_12 : decode cX6_waits 12 = .ok (.ifCond .eq 41, 3) := dk_153 0 41 (dk_at dksX6_waits_0 12 rfl rfl)
theorem dX6_waits_15 : decode cX6_waits 15 = .ok (.aload_n 0, 1) := dk_42 (dk_at dksX6_waits_0 15 rfl rfl)
theorem dX6_waits_16 : decode cX6_waits 16 = .ok (.iload_n 1, 1) := dk_27 (dk_at dksX6_waits_0 16 rfl rfl)
theorem dX6_waits_17 : decode cX6_waits 17 = .ok (.bipush 10, 2) := dk_16 10 (dk_at dksX6_waits_0 17 rfl rfl)
theorem dX6_waits_19 : decode cX6_waits 19 = .ok (.invokevirtual 83, 3) := dk_182 0 83 (dk_at dksX6_waits_0 19 rfl rfl)
theorem dX6_waits_22 : decode cX6_waits 22 = .ok (.iconst 4, 1) := dk_7 (dk_at dksX6_waits_0 22 rfl rfl)
theorem dX6_waits_23 : decode cX6_waits 23 = .ok (.irem, 1) := dk_112 (dk_at dksX6_waits_0 23 rfl rfl)
theorem dX6_waits_24 : decode cX6_waits 24 = .ok (.iconst 2, 1) := dk_5 (dk_at dksX6_waits_1 0 rfl rfl)
theorem dX6_waits_25 : decode cX6_waits 25 = .ok (.if_icmp .ge 28, 3) := dk_162 0 28 (dk_at dksX6_waits_1 1 rfl rfl)
theorem dX6_waits_28 : decode cX6_waits 28 = .ok (.iload_n 2, 1) := dk_28 (dk_at dksX6_waits_1 4 rfl rfl)
theorem dX6_waits_29 : decode cX6_waits 29 = .ok (.iload_n 1, 1) := dk_27 (dk_at dksX6_waits_1 5 rfl rfl)
theorem dX6_waits_30 : decode cX6_waits 30 = .ok (.if_icmp .eq 23, 3) := dk_159 0 23 (dk_at dksX6_waits_1 6 rfl rfl)
theorem dX6_waits_33 : decode cX6_waits 33 = .ok (.aload_n 0, 1) := dk_42 (dk_at dksX6_waits_1 9 rfl rfl)
theorem dX6_waits_34 : decode cX6_waits 34 = .ok (.iload_n 2, 1) := dk_28 (dk_at dksX6_waits_1 10 rfl rfl)
theorem dX6_waits_35 : decode cX6_waits 35 = .ok (.invokevirtual 87, 3) := dk_182 0 87 (dk_at dksX6_waits_1 11 rfl rfl)
theorem dX6_waits_38 : decode cX6_waits 38 = .ok (.ifCond .eq 15, 3) := dk_153 0 15 (dk_at dksX6_waits_1 14 rfl rfl)
theorem dX6_waits_41 : decode cX6_waits 41 = .ok (.aload_n 0, 1) := dk_42 (dk_at dksX6_waits_1 17 rfl rfl)
theorem dX6_waits_42 : decode cX6_waits 42 = .ok (.iload_n 2, 1) := dk_28 (dk_at dksX6_waits_1 18 rfl rfl)
theorem dX6_waits_43 : decode cX6_waits 43 = .ok (.invokevirtual 161, 3) := dk_182 0 161 (dk_at dksX6_waits_1 19 rfl rfl)
theorem dX6_waits_46 : decode cX6_waits 46 = .ok (.ifCond .eq 7, 3) := dk_153 0 7 (dk_at dksX6_waits_2 0 rfl rfl)
theorem dX6_waits_49 : decode cX6_waits 49 = .ok (.iconst 1, 1) := dk_4 (dk_at dksX6_waits_2 3 rfl rfl)
theorem dX6_waits_50 : decode cX6_waits 50 = .ok (.goto 4, 3) := dk_167 0 4 (dk_at dksX6_waits_2 4 rfl rfl)
theorem dX6_waits_53 : decode cX6_waits 53 = .ok (.iconst 0, 1) := dk_3 (dk_at dksX6_waits_2 7 rfl rfl)
theorem dX6_waits_54 : decode cX6_waits 54 = .ok (.ireturn, 1) := dk_172 (dk_at dksX6_waits_2 8 rfl rfl)
abbrev cX6_passesOn : ByteArray := prog_14_method_56_code
def yX6_passesOn : MethodName := ⟨RX6, "passesOn", "(I)Z"⟩
def dkwX6_passesOn_1 : List UInt8 := [167, 0, 4, 3, 172]
abbrev dktX6_passesOn_1 : List UInt8 := dkwX6_passesOn_1 ++ []
def dkwX6_passesOn_0 : List UInt8 := [42, 27, 3, 182, 0, 83, 16, 102, 159, 0, 14, 42, 27, 3, 182, 0, 83, 16, 100, 160, 0, 7, 4]
abbrev dktX6_passesOn_0 : List UInt8 := dkwX6_passesOn_0 ++ dktX6_passesOn_1
theorem dksX6_passesOn_0 : cX6_passesOn.data.toList.drop 0 = dktX6_passesOn_0 := by decide +kernel
theorem dksX6_passesOn_1 : cX6_passesOn.data.toList.drop 23 = dktX6_passesOn_1 := dk_seg dksX6_passesOn_0 23 rfl rfl
theorem dX6_passesOn_0 : decode cX6_passesOn 0 = .ok (.aload_n 0, 1) := dk_42 (dk_at dksX6_passesOn_0 0 rfl rfl)
theorem dX6_passesOn_1 : decode cX6_passesOn 1 = .ok (.iload_n 1, 1) := dk_27 (dk_at dksX6_passesOn_0 1 rfl rfl)
theorem dX6_passesOn_2 : decode cX6_passesOn 2 = .ok (.iconst 0, 1) := dk_3 (dk_at dksX6_passesOn_0 2 rfl rfl)
theorem dX6_passesOn_3 : decode cX6_passesOn 3 = .ok (.invokevirtual 83, 3) := dk_182 0 83 (dk_at dksX6_passesOn_0 3 rfl rfl)
theorem dX6_passesOn_6 : decode cX6_passesOn 6 = .ok (.bipush 102, 2) := dk_16 102 (dk_at dksX6_passesOn_0 6 rfl rfl)
theorem dX6_passesOn_8 : decode cX6_passesOn 8 = .ok (.if_icmp .eq 14, 3) := dk_159 0 14 (dk_at dksX6_passesOn_0 8 rfl rfl)
theorem dX6_passesOn_11 : decode cX6_passesOn 11 = .ok (.aload_n 0, 1) := dk_42 (dk_at dksX6_passesOn_0 11 rfl rfl)
theorem dX6_passesOn_12 : decode cX6_passesOn 12 = .ok (.iload_n 1, 1) := dk_27 (dk_at dksX6_passesOn_0 12 rfl rfl)
theorem dX6_passesOn_13 : decode cX6_passesOn 13 = .ok (.iconst 0, 1) := dk_3 (dk_at dksX6_passesOn_0 13 rfl rfl)
theorem dX6_passesOn_14 : decode cX6_passesOn 14 = .ok (.invokevirtual 83, 3) := dk_182 0 83 (dk_at dksX6_passesOn_0 14 rfl rfl)
theorem dX6_passesOn_17 : decode cX6_passesOn 17 = .ok (.bipush 100, 2) := dk_16 100 (dk_at dksX6_passesOn_0 17 rfl rfl)
theorem dX6_passesOn_19 : decode cX6_passesOn 19 = .ok (.if_icmp .ne 7, 3) := dk_160 0 7 (dk_at dksX6_passesOn_0 19 rfl rfl)
theorem dX6_passesOn_22 : decode cX6_passesOn 22 = .ok (.iconst 1, 1) := dk_4 (dk_at dksX6_passesOn_0 22 rfl rfl)
theorem dX6_passesOn_23 : decode cX6_passesOn 23 = .ok (.goto 4, 3) := dk_167 0 4 (dk_at dksX6_passesOn_1 0 rfl rfl)
theorem dX6_passesOn_26 : decode cX6_passesOn 26 = .ok (.iconst 0, 1) := dk_3 (dk_at dksX6_passesOn_1 3 rfl rfl)
theorem dX6_passesOn_27 : decode cX6_passesOn 27 = .ok (.ireturn, 1) := dk_172 (dk_at dksX6_passesOn_1 4 rfl rfl)
abbrev cX6_firstReady : ByteArray := prog_14_method_66_code
def yX6_firstReady : MethodName := ⟨RX6, "firstReady", "()I"⟩
def dkwX6_firstReady_2 : List UInt8 := [132, 2, 1, 167, 255, 210, 27, 172]
abbrev dktX6_firstReady_2 : List UInt8 := dkwX6_firstReady_2 ++ []
def dkwX6_firstReady_1 : List UInt8 := [155, 0, 18, 42, 28, 6, 182, 0, 83, 42, 27, 6, 182, 0, 83, 164, 0, 7, 28, 167, 0, 4, 27, 60]
abbrev dktX6_firstReady_1 : List UInt8 := dkwX6_firstReady_1 ++ dktX6_firstReady_2
def dkwX6_firstReady_0 : List UInt8 := [2, 60, 3, 61, 28, 42, 180, 0, 13, 3, 46, 162, 0, 42, 42, 28, 182, 0, 211, 153, 0, 26, 27]
abbrev dktX6_firstReady_0 : List UInt8 := dkwX6_firstReady_0 ++ dktX6_firstReady_1
theorem dksX6_firstReady_0 : cX6_firstReady.data.toList.drop 0 = dktX6_firstReady_0 := by decide +kernel
theorem dksX6_firstReady_1 : cX6_firstReady.data.toList.drop 23 = dktX6_firstReady_1 := dk_seg dksX6_firstReady_0 23 rfl rfl
theorem dksX6_firstReady_2 : cX6_firstReady.data.toList.drop 47 = dktX6_firstReady_2 := dk_seg dksX6_firstReady_1 24 rfl rfl
theorem dX6_firstReady_0 : decode cX6_firstReady 0 = .ok (.iconst (-1), 1) := dk_2 (dk_at dksX6_firstReady_0 0 rfl rfl)
theorem dX6_firstReady_1 : decode cX6_firstReady 1 = .ok (.istore_n 1, 1) := dk_60 (dk_at dksX6_firstReady_0 1 rfl rfl)
theorem dX6_firstReady_2 : decode cX6_firstReady 2 = .ok (.iconst 0, 1) := dk_3 (dk_at dksX6_firstReady_0 2 rfl rfl)
theorem dX6_firstReady_3 : decode cX6_firstReady 3 = .ok (.istore_n 2, 1) := dk_61 (dk_at dksX6_firstReady_0 3 rfl rfl)
theorem dX6_firstReady_4 : decode cX6_firstReady 4 = .ok (.iload_n 2, 1) := dk_28 (dk_at dksX6_firstReady_0 4 rfl rfl)
theorem dX6_firstReady_5 : decode cX6_firstReady 5 = .ok (.aload_n 0, 1) := dk_42 (dk_at dksX6_firstReady_0 5 rfl rfl)
theorem dX6_firstReady_6 : decode cX6_firstReady 6 = .ok (.getfield 13, 3) := dk_180 0 13 (dk_at dksX6_firstReady_0 6 rfl rfl)
theorem dX6_firstReady_9 : decode cX6_firstReady 9 = .ok (.iconst 0, 1) := dk_3 (dk_at dksX6_firstReady_0 9 rfl rfl)
theorem dX6_firstReady_10 : decode cX6_firstReady 10 = .ok (.iaload, 1) := dk_46 (dk_at dksX6_firstReady_0 10 rfl rfl)
theorem dX6_firstReady_11 : decode cX6_firstReady 11 = .ok (.if_icmp .ge 42, 3) := dk_162 0 42 (dk_at dksX6_firstReady_0 11 rfl rfl)
theorem dX6_firstReady_14 : decode cX6_firstReady 14 = .ok (.aload_n 0, 1) := dk_42 (dk_at dksX6_firstReady_0 14 rfl rfl)
theorem dX6_firstReady_15 : decode cX6_firstReady 15 = .ok (.iload_n 2, 1) := dk_28 (dk_at dksX6_firstReady_0 15 rfl rfl)
theorem dX6_firstReady_16 : decode cX6_firstReady 16 = .ok (.invokevirtual 211, 3) := dk_182 0 211 (dk_at dksX6_firstReady_0 16 rfl rfl)
theorem dX6_firstReady_19 : decode cX6_firstReady 19 = .ok (.ifCond .eq 26, 3) := dk_153 0 26 (dk_at dksX6_firstReady_0 19 rfl rfl)
theorem dX6_firstReady_22 : decode cX6_firstReady 22 = .ok (.iload_n 1, 1) := dk_27 (dk_at dksX6_firstReady_0 22 rfl rfl)
theorem dX6_firstReady_23 : decode cX6_firstReady 23 = .ok (.ifCond .lt 18, 3) := dk_155 0 18 (dk_at dksX6_firstReady_1 0 rfl rfl)
theorem dX6_firstReady_26 : decode cX6_firstReady 26 = .ok (.aload_n 0, 1) := dk_42 (dk_at dksX6_firstReady_1 3 rfl rfl)
theorem dX6_firstReady_27 : decode cX6_firstReady 27 = .ok (.iload_n 2, 1) := dk_28 (dk_at dksX6_firstReady_1 4 rfl rfl)
theorem dX6_firstReady_28 : decode cX6_firstReady 28 = .ok (.iconst 3, 1) := dk_6 (dk_at dksX6_firstReady_1 5 rfl rfl)
theorem dX6_firstReady_29 : decode cX6_firstReady 29 = .ok (.invokevirtual 83, 3) := dk_182 0 83 (dk_at dksX6_firstReady_1 6 rfl rfl)
theorem dX6_firstReady_32 : decode cX6_firstReady 32 = .ok (.aload_n 0, 1) := dk_42 (dk_at dksX6_firstReady_1 9 rfl rfl)
theorem dX6_firstReady_33 : decode cX6_firstReady 33 = .ok (.iload_n 1, 1) := dk_27 (dk_at dksX6_firstReady_1 10 rfl rfl)
theorem dX6_firstReady_34 : decode cX6_firstReady 34 = .ok (.iconst 3, 1) := dk_6 (dk_at dksX6_firstReady_1 11 rfl rfl)
theorem dX6_firstReady_35 : decode cX6_firstReady 35 = .ok (.invokevirtual 83, 3) := dk_182 0 83 (dk_at dksX6_firstReady_1 12 rfl rfl)
theorem dX6_firstReady_38 : decode cX6_firstReady 38 = .ok (.if_icmp .le 7, 3) := dk_164 0 7 (dk_at dksX6_firstReady_1 15 rfl rfl)
theorem dX6_firstReady_41 : decode cX6_firstReady 41 = .ok (.iload_n 2, 1) := dk_28 (dk_at dksX6_firstReady_1 18 rfl rfl)
theorem dX6_firstReady_42 : decode cX6_firstReady 42 = .ok (.goto 4, 3) := dk_167 0 4 (dk_at dksX6_firstReady_1 19 rfl rfl)
theorem dX6_firstReady_45 : decode cX6_firstReady 45 = .ok (.iload_n 1, 1) := dk_27 (dk_at dksX6_firstReady_1 22 rfl rfl)
theorem dX6_firstReady_46 : decode cX6_firstReady 46 = .ok (.istore_n 1, 1) := dk_60 (dk_at dksX6_firstReady_1 23 rfl rfl)
theorem dX6_firstReady_47 : decode cX6_firstReady 47 = .ok (.iinc 2 1, 3) := dk_132 2 1 (dk_at dksX6_firstReady_2 0 rfl rfl)
theorem dX6_firstReady_50 : decode cX6_firstReady 50 = .ok (.goto (-46), 3) := dk_167 255 210 (dk_at dksX6_firstReady_2 3 rfl rfl)
theorem dX6_firstReady_53 : decode cX6_firstReady 53 = .ok (.iload_n 1, 1) := dk_27 (dk_at dksX6_firstReady_2 6 rfl rfl)
theorem dX6_firstReady_54 : decode cX6_firstReady 54 = .ok (.ireturn, 1) := dk_172 (dk_at dksX6_firstReady_2 7 rfl rfl)
abbrev cX6_nextSeed : ByteArray := prog_14_method_67_code
def yX6_nextSeed : MethodName := ⟨RX6, "nextSeed", "()I"⟩
def dkwX6_nextSeed_0 : List UInt8 := [8, 42, 180, 0, 13, 5, 46, 104, 6, 96, 16, 64, 112, 172]
abbrev dktX6_nextSeed_0 : List UInt8 := dkwX6_nextSeed_0 ++ []
theorem dksX6_nextSeed_0 : cX6_nextSeed.data.toList.drop 0 = dktX6_nextSeed_0 := by decide +kernel
theorem dX6_nextSeed_0 : decode cX6_nextSeed 0 = .ok (.iconst 5, 1) := dk_8 (dk_at dksX6_nextSeed_0 0 rfl rfl)
theorem dX6_nextSeed_1 : decode cX6_nextSeed 1 = .ok (.aload_n 0, 1) := dk_42 (dk_at dksX6_nextSeed_0 1 rfl rfl)
theorem dX6_nextSeed_2 : decode cX6_nextSeed 2 = .ok (.getfield 13, 3) := dk_180 0 13 (dk_at dksX6_nextSeed_0 2 rfl rfl)
theorem dX6_nextSeed_5 : decode cX6_nextSeed 5 = .ok (.iconst 2, 1) := dk_5 (dk_at dksX6_nextSeed_0 5 rfl rfl)
theorem dX6_nextSeed_6 : decode cX6_nextSeed 6 = .ok (.iaload, 1) := dk_46 (dk_at dksX6_nextSeed_0 6 rfl rfl)
theorem dX6_nextSeed_7 : decode cX6_nextSeed 7 = .ok (.imul, 1) := dk_104 (dk_at dksX6_nextSeed_0 7 rfl rfl)
theorem dX6_nextSeed_8 : decode cX6_nextSeed 8 = .ok (.iconst 3, 1) := dk_6 (dk_at dksX6_nextSeed_0 8 rfl rfl)
theorem dX6_nextSeed_9 : decode cX6_nextSeed 9 = .ok (.iadd, 1) := dk_96 (dk_at dksX6_nextSeed_0 9 rfl rfl)
theorem dX6_nextSeed_10 : decode cX6_nextSeed 10 = .ok (.bipush 64, 2) := dk_16 64 (dk_at dksX6_nextSeed_0 10 rfl rfl)
theorem dX6_nextSeed_12 : decode cX6_nextSeed 12 = .ok (.irem, 1) := dk_112 (dk_at dksX6_nextSeed_0 12 rfl rfl)
theorem dX6_nextSeed_13 : decode cX6_nextSeed 13 = .ok (.ireturn, 1) := dk_172 (dk_at dksX6_nextSeed_0 13 rfl rfl)
abbrev cX6_readyAt : ByteArray := prog_14_method_65_code
def yX6_readyAt : MethodName := ⟨RX6, "readyAt", "(I)I"⟩
def dkwX6_readyAt_1 : List UInt8 := [153, 0, 7, 4, 167, 0, 4, 3, 100, 61, 132, 3, 1, 167, 255, 225, 29, 172]
abbrev dktX6_readyAt_1 : List UInt8 := dkwX6_readyAt_1 ++ []
def dkwX6_readyAt_0 : List UInt8 := [27, 61, 3, 62, 42, 29, 182, 0, 211, 153, 0, 7, 28, 158, 0, 25, 28, 42, 29, 182, 0, 211]
abbrev dktX6_readyAt_0 : List UInt8 := dkwX6_readyAt_0 ++ dktX6_readyAt_1
theorem dksX6_readyAt_0 : cX6_readyAt.data.toList.drop 0 = dktX6_readyAt_0 := by decide +kernel
theorem dksX6_readyAt_1 : cX6_readyAt.data.toList.drop 22 = dktX6_readyAt_1 := dk_seg dksX6_readyAt_0 22 rfl rfl
theorem dX6_readyAt_0 : decode cX6_readyAt 0 = .ok (.iload_n 1, 1) := dk_27 (dk_at dksX6_readyAt_0 0 rfl rfl)
theorem dX6_readyAt_1 : decode cX6_readyAt 1 = .ok (.istore_n 2, 1) := dk_61 (dk_at dksX6_readyAt_0 1 rfl rfl)
theorem dX6_readyAt_2 : decode cX6_readyAt 2 = .ok (.iconst 0, 1) := dk_3 (dk_at dksX6_readyAt_0 2 rfl rfl)
theorem dX6_readyAt_3 : decode cX6_readyAt 3 = .ok (.istore_n 3, 1) := dk_62 (dk_at dksX6_readyAt_0 3 rfl rfl)
theorem dX6_readyAt_4 : decode cX6_readyAt 4 = .ok (.aload_n 0, 1) := dk_42 (dk_at dksX6_readyAt_0 4 rfl rfl)
theorem dX6_readyAt_5 : decode cX6_readyAt 5 = .ok (.iload_n 3, 1) := dk_29 (dk_at dksX6_readyAt_0 5 rfl rfl)
theorem dX6_readyAt_6 : decode cX6_readyAt 6 = .ok (.invokevirtual 211, 3) := dk_182 0 211 (dk_at dksX6_readyAt_0 6 rfl rfl)
theorem dX6_readyAt_9 : decode cX6_readyAt 9 = .ok (.ifCond .eq 7, 3) := dk_153 0 7 (dk_at dksX6_readyAt_0 9 rfl rfl)
theorem dX6_readyAt_12 : decode cX6_readyAt 12 = .ok (.iload_n 2, 1) := dk_28 (dk_at dksX6_readyAt_0 12 rfl rfl)
theorem dX6_readyAt_13 : decode cX6_readyAt 13 = .ok (.ifCond .le 25, 3) := dk_158 0 25 (dk_at dksX6_readyAt_0 13 rfl rfl)
theorem dX6_readyAt_16 : decode cX6_readyAt 16 = .ok (.iload_n 2, 1) := dk_28 (dk_at dksX6_readyAt_0 16 rfl rfl)
theorem dX6_readyAt_17 : decode cX6_readyAt 17 = .ok (.aload_n 0, 1) := dk_42 (dk_at dksX6_readyAt_0 17 rfl rfl)
theorem dX6_readyAt_18 : decode cX6_readyAt 18 = .ok (.iload_n 3, 1) := dk_29 (dk_at dksX6_readyAt_0 18 rfl rfl)
theorem dX6_readyAt_19 : decode cX6_readyAt 19 = .ok (.invokevirtual 211, 3) := dk_182 0 211 (dk_at dksX6_readyAt_0 19 rfl rfl)
theorem dX6_readyAt_22 : decode cX6_readyAt 22 = .ok (.ifCond .eq 7, 3) := dk_153 0 7 (dk_at dksX6_readyAt_1 0 rfl rfl)
theorem dX6_readyAt_25 : decode cX6_readyAt 25 = .ok (.iconst 1, 1) := dk_4 (dk_at dksX6_readyAt_1 3 rfl rfl)
theorem dX6_readyAt_26 : decode cX6_readyAt 26 = .ok (.goto 4, 3) := dk_167 0 4 (dk_at dksX6_readyAt_1 4 rfl rfl)
theorem dX6_readyAt_29 : decode cX6_readyAt 29 = .ok (.iconst 0, 1) := dk_3 (dk_at dksX6_readyAt_1 7 rfl rfl)
theorem dX6_readyAt_30 : decode cX6_readyAt 30 = .ok (.isub, 1) := dk_100 (dk_at dksX6_readyAt_1 8 rfl rfl)
theorem dX6_readyAt_31 : decode cX6_readyAt 31 = .ok (.istore_n 2, 1) := dk_61 (dk_at dksX6_readyAt_1 9 rfl rfl)
theorem dX6_readyAt_32 : decode cX6_readyAt 32 = .ok (.iinc 3 1, 3) := dk_132 3 1 (dk_at dksX6_readyAt_1 10 rfl rfl)
theorem dX6_readyAt_35 : decode cX6_readyAt 35 = .ok (.goto (-31), 3) := dk_167 255 225 (dk_at dksX6_readyAt_1 13 rfl rfl)
theorem dX6_readyAt_38 : decode cX6_readyAt 38 = .ok (.iload_n 3, 1) := dk_29 (dk_at dksX6_readyAt_1 16 rfl rfl)
theorem dX6_readyAt_39 : decode cX6_readyAt 39 = .ok (.ireturn, 1) := dk_172 (dk_at dksX6_readyAt_1 17 rfl rfl)
abbrev cX6_records : ByteArray := prog_14_method_70_code
def yX6_records : MethodName := ⟨RX6, "records", "(I)V"⟩
def dkwX6_records_3 : List UInt8 := [27, 79, 42, 180, 0, 13, 16, 10, 92, 46, 4, 96, 79, 177]
abbrev dktX6_records_3 : List UInt8 := dkwX6_records_3 ++ []
def dkwX6_records_2 : List UInt8 := [180, 0, 13, 16, 10, 92, 46, 4, 100, 79, 42, 180, 0, 13, 16, 11, 42, 180, 0, 13, 16, 10, 46, 96]
abbrev dktX6_records_2 : List UInt8 := dkwX6_records_2 ++ dktX6_records_3
def dkwX6_records_1 : List UInt8 := [16, 11, 28, 96, 42, 180, 0, 13, 16, 11, 28, 96, 4, 96, 46, 79, 132, 2, 1, 167, 255, 227, 42]
abbrev dktX6_records_1 : List UInt8 := dkwX6_records_1 ++ dktX6_records_2
def dkwX6_records_0 : List UInt8 := [42, 180, 0, 13, 16, 10, 46, 16, 20, 160, 0, 48, 3, 61, 28, 16, 19, 162, 0, 29, 42, 180, 0, 13]
abbrev dktX6_records_0 : List UInt8 := dkwX6_records_0 ++ dktX6_records_1
theorem dksX6_records_0 : cX6_records.data.toList.drop 0 = dktX6_records_0 := by decide +kernel
theorem dksX6_records_1 : cX6_records.data.toList.drop 24 = dktX6_records_1 := dk_seg dksX6_records_0 24 rfl rfl
theorem dksX6_records_2 : cX6_records.data.toList.drop 47 = dktX6_records_2 := dk_seg dksX6_records_1 23 rfl rfl
theorem dksX6_records_3 : cX6_records.data.toList.drop 71 = dktX6_records_3 := dk_seg dksX6_records_2 24 rfl rfl
theorem dX6_records_0 : decode cX6_records 0 = .ok (.aload_n 0, 1) := dk_42 (dk_at dksX6_records_0 0 rfl rfl)
theorem dX6_records_1 : decode cX6_records 1 = .ok (.getfield 13, 3) := dk_180 0 13 (dk_at dksX6_records_0 1 rfl rfl)
theorem dX6_records_4 : decode cX6_records 4 = .ok (.bipush 10, 2) := dk_16 10 (dk_at dksX6_records_0 4 rfl rfl)
theorem dX6_records_6 : decode cX6_records 6 = .ok (.iaload, 1) := dk_46 (dk_at dksX6_records_0 6 rfl rfl)
theorem dX6_records_7 : decode cX6_records 7 = .ok (.bipush 20, 2) := dk_16 20 (dk_at dksX6_records_0 7 rfl rfl)
theorem dX6_records_9 : decode cX6_records 9 = .ok (.if_icmp .ne 48, 3) := dk_160 0 48 (dk_at dksX6_records_0 9 rfl rfl)
theorem dX6_records_12 : decode cX6_records 12 = .ok (.iconst 0, 1) := dk_3 (dk_at dksX6_records_0 12 rfl rfl)
theorem dX6_records_13 : decode cX6_records 13 = .ok (.istore_n 2, 1) := dk_61 (dk_at dksX6_records_0 13 rfl rfl)
theorem dX6_records_14 : decode cX6_records 14 = .ok (.iload_n 2, 1) := dk_28 (dk_at dksX6_records_0 14 rfl rfl)
theorem dX6_records_15 : decode cX6_records 15 = .ok (.bipush 19, 2) := dk_16 19 (dk_at dksX6_records_0 15 rfl rfl)
theorem dX6_records_17 : decode cX6_records 17 = .ok (.if_icmp .ge 29, 3) := dk_162 0 29 (dk_at dksX6_records_0 17 rfl rfl)
theorem dX6_records_20 : decode cX6_records 20 = .ok (.aload_n 0, 1) := dk_42 (dk_at dksX6_records_0 20 rfl rfl)
theorem dX6_records_21 : decode cX6_records 21 = .ok (.getfield 13, 3) := dk_180 0 13 (dk_at dksX6_records_0 21 rfl rfl)
theorem dX6_records_24 : decode cX6_records 24 = .ok (.bipush 11, 2) := dk_16 11 (dk_at dksX6_records_1 0 rfl rfl)
theorem dX6_records_26 : decode cX6_records 26 = .ok (.iload_n 2, 1) := dk_28 (dk_at dksX6_records_1 2 rfl rfl)
theorem dX6_records_27 : decode cX6_records 27 = .ok (.iadd, 1) := dk_96 (dk_at dksX6_records_1 3 rfl rfl)
theorem dX6_records_28 : decode cX6_records 28 = .ok (.aload_n 0, 1) := dk_42 (dk_at dksX6_records_1 4 rfl rfl)
theorem dX6_records_29 : decode cX6_records 29 = .ok (.getfield 13, 3) := dk_180 0 13 (dk_at dksX6_records_1 5 rfl rfl)
theorem dX6_records_32 : decode cX6_records 32 = .ok (.bipush 11, 2) := dk_16 11 (dk_at dksX6_records_1 8 rfl rfl)
theorem dX6_records_34 : decode cX6_records 34 = .ok (.iload_n 2, 1) := dk_28 (dk_at dksX6_records_1 10 rfl rfl)
theorem dX6_records_35 : decode cX6_records 35 = .ok (.iadd, 1) := dk_96 (dk_at dksX6_records_1 11 rfl rfl)
theorem dX6_records_36 : decode cX6_records 36 = .ok (.iconst 1, 1) := dk_4 (dk_at dksX6_records_1 12 rfl rfl)
theorem dX6_records_37 : decode cX6_records 37 = .ok (.iadd, 1) := dk_96 (dk_at dksX6_records_1 13 rfl rfl)
theorem dX6_records_38 : decode cX6_records 38 = .ok (.iaload, 1) := dk_46 (dk_at dksX6_records_1 14 rfl rfl)
theorem dX6_records_39 : decode cX6_records 39 = .ok (.iastore, 1) := dk_79 (dk_at dksX6_records_1 15 rfl rfl)
theorem dX6_records_40 : decode cX6_records 40 = .ok (.iinc 2 1, 3) := dk_132 2 1 (dk_at dksX6_records_1 16 rfl rfl)
theorem dX6_records_43 : decode cX6_records 43 = .ok (.goto (-29), 3) := dk_167 255 227 (dk_at dksX6_records_1 19 rfl rfl)
theorem dX6_records_46 : decode cX6_records 46 = .ok (.aload_n 0, 1) := dk_42 (dk_at dksX6_records_1 22 rfl rfl)
theorem dX6_records_47 : decode cX6_records 47 = .ok (.getfield 13, 3) := dk_180 0 13 (dk_at dksX6_records_2 0 rfl rfl)
theorem dX6_records_50 : decode cX6_records 50 = .ok (.bipush 10, 2) := dk_16 10 (dk_at dksX6_records_2 3 rfl rfl)
theorem dX6_records_52 : decode cX6_records 52 = .ok (.dup2, 1) := dk_92 (dk_at dksX6_records_2 5 rfl rfl)
theorem dX6_records_53 : decode cX6_records 53 = .ok (.iaload, 1) := dk_46 (dk_at dksX6_records_2 6 rfl rfl)
theorem dX6_records_54 : decode cX6_records 54 = .ok (.iconst 1, 1) := dk_4 (dk_at dksX6_records_2 7 rfl rfl)
theorem dX6_records_55 : decode cX6_records 55 = .ok (.isub, 1) := dk_100 (dk_at dksX6_records_2 8 rfl rfl)
theorem dX6_records_56 : decode cX6_records 56 = .ok (.iastore, 1) := dk_79 (dk_at dksX6_records_2 9 rfl rfl)
theorem dX6_records_57 : decode cX6_records 57 = .ok (.aload_n 0, 1) := dk_42 (dk_at dksX6_records_2 10 rfl rfl)
theorem dX6_records_58 : decode cX6_records 58 = .ok (.getfield 13, 3) := dk_180 0 13 (dk_at dksX6_records_2 11 rfl rfl)
theorem dX6_records_61 : decode cX6_records 61 = .ok (.bipush 11, 2) := dk_16 11 (dk_at dksX6_records_2 14 rfl rfl)
theorem dX6_records_63 : decode cX6_records 63 = .ok (.aload_n 0, 1) := dk_42 (dk_at dksX6_records_2 16 rfl rfl)
theorem dX6_records_64 : decode cX6_records 64 = .ok (.getfield 13, 3) := dk_180 0 13 (dk_at dksX6_records_2 17 rfl rfl)
theorem dX6_records_67 : decode cX6_records 67 = .ok (.bipush 10, 2) := dk_16 10 (dk_at dksX6_records_2 20 rfl rfl)
theorem dX6_records_69 : decode cX6_records 69 = .ok (.iaload, 1) := dk_46 (dk_at dksX6_records_2 22 rfl rfl)
theorem dX6_records_70 : decode cX6_records 70 = .ok (.iadd, 1) := dk_96 (dk_at dksX6_records_2 23 rfl rfl)
theorem dX6_records_71 : decode cX6_records 71 = .ok (.iload_n 1, 1) := dk_27 (dk_at dksX6_records_3 0 rfl rfl)
theorem dX6_records_72 : decode cX6_records 72 = .ok (.iastore, 1) := dk_79 (dk_at dksX6_records_3 1 rfl rfl)
theorem dX6_records_73 : decode cX6_records 73 = .ok (.aload_n 0, 1) := dk_42 (dk_at dksX6_records_3 2 rfl rfl)
theorem dX6_records_74 : decode cX6_records 74 = .ok (.getfield 13, 3) := dk_180 0 13 (dk_at dksX6_records_3 3 rfl rfl)
theorem dX6_records_77 : decode cX6_records 77 = .ok (.bipush 10, 2) := dk_16 10 (dk_at dksX6_records_3 6 rfl rfl)
theorem dX6_records_79 : decode cX6_records 79 = .ok (.dup2, 1) := dk_92 (dk_at dksX6_records_3 8 rfl rfl)
theorem dX6_records_80 : decode cX6_records 80 = .ok (.iaload, 1) := dk_46 (dk_at dksX6_records_3 9 rfl rfl)
theorem dX6_records_81 : decode cX6_records 81 = .ok (.iconst 1, 1) := dk_4 (dk_at dksX6_records_3 10 rfl rfl)
theorem dX6_records_82 : decode cX6_records 82 = .ok (.iadd, 1) := dk_96 (dk_at dksX6_records_3 11 rfl rfl)
theorem dX6_records_83 : decode cX6_records 83 = .ok (.iastore, 1) := dk_79 (dk_at dksX6_records_3 12 rfl rfl)
theorem dX6_records_84 : decode cX6_records 84 = .ok (.return_, 1) := dk_177 (dk_at dksX6_records_3 13 rfl rfl)
abbrev cX6_handles : ByteArray := prog_14_method_63_code
def yX6_handles : MethodName := ⟨RX6, "handles", "(I)V"⟩
def dkwX6_handles_7 : List UInt8 := [16, 100, 112, 28, 7, 112, 182, 0, 208, 177]
abbrev dktX6_handles_7 : List UInt8 := dkwX6_handles_7 ++ []
def dkwX6_handles_6 : List UInt8 := [96, 182, 0, 102, 167, 0, 29, 42, 27, 29, 28, 7, 112, 182, 0, 208, 167, 0, 17, 42, 27, 5, 29, 104]
abbrev dktX6_handles_6 : List UInt8 := dkwX6_handles_6 ++ dktX6_handles_7
def dkwX6_handles_5 : List UInt8 := [16, 7, 112, 154, 0, 11, 42, 27, 182, 0, 205, 167, 0, 46, 42, 27, 5, 42, 27, 5, 182, 0, 83, 29]
abbrev dktX6_handles_5 : List UInt8 := dkwX6_handles_5 ++ dktX6_handles_6
def dkwX6_handles_4 : List UInt8 := [182, 0, 83, 164, 0, 7, 29, 167, 0, 9, 42, 27, 5, 182, 0, 83, 182, 0, 102, 167, 0, 61, 29]
abbrev dktX6_handles_4 : List UInt8 := dkwX6_handles_4 ++ dktX6_handles_5
def dkwX6_handles_3 : List UInt8 := [42, 27, 5, 42, 27, 5, 182, 0, 83, 29, 96, 182, 0, 102, 167, 0, 90, 42, 27, 5, 29, 42, 27, 5]
abbrev dktX6_handles_3 : List UInt8 := dkwX6_handles_3 ++ dktX6_handles_4
def dkwX6_handles_2 : List UInt8 := [171, 0, 0, 0, 0, 132, 0, 0, 0, 4, 0, 0, 0, 97, 0, 0, 0, 42, 0, 0, 0, 102, 0, 0, 0, 120, 0, 0, 0, 107, 0, 0, 0, 59, 0, 0, 0, 120, 0, 0, 0, 88]
abbrev dktX6_handles_2 : List UInt8 := dkwX6_handles_2 ++ dktX6_handles_3
def dkwX6_handles_1 : List UInt8 := [182, 0, 83]
abbrev dktX6_handles_1 : List UInt8 := dkwX6_handles_1 ++ dktX6_handles_2
def dkwX6_handles_0 : List UInt8 := [42, 27, 182, 0, 202, 61, 28, 7, 108, 62, 42, 180, 0, 13, 8, 92, 46, 4, 96, 79, 42, 27, 3]
abbrev dktX6_handles_0 : List UInt8 := dkwX6_handles_0 ++ dktX6_handles_1
theorem dksX6_handles_0 : cX6_handles.data.toList.drop 0 = dktX6_handles_0 := by decide +kernel
theorem dksX6_handles_1 : cX6_handles.data.toList.drop 23 = dktX6_handles_1 := dk_seg dksX6_handles_0 23 rfl rfl
theorem dksX6_handles_2 : cX6_handles.data.toList.drop 26 = dktX6_handles_2 := dk_seg dksX6_handles_1 3 rfl rfl
theorem dksX6_handles_3 : cX6_handles.data.toList.drop 68 = dktX6_handles_3 := dk_seg dksX6_handles_2 42 rfl rfl
theorem dksX6_handles_4 : cX6_handles.data.toList.drop 92 = dktX6_handles_4 := dk_seg dksX6_handles_3 24 rfl rfl
theorem dksX6_handles_5 : cX6_handles.data.toList.drop 115 = dktX6_handles_5 := dk_seg dksX6_handles_4 23 rfl rfl
theorem dksX6_handles_6 : cX6_handles.data.toList.drop 139 = dktX6_handles_6 := dk_seg dksX6_handles_5 24 rfl rfl
theorem dksX6_handles_7 : cX6_handles.data.toList.drop 163 = dktX6_handles_7 := dk_seg dksX6_handles_6 24 rfl rfl
theorem dX6_handles_0 : decode cX6_handles 0 = .ok (.aload_n 0, 1) := dk_42 (dk_at dksX6_handles_0 0 rfl rfl)
theorem dX6_handles_1 : decode cX6_handles 1 = .ok (.iload_n 1, 1) := dk_27 (dk_at dksX6_handles_0 1 rfl rfl)
theorem dX6_handles_2 : decode cX6_handles 2 = .ok (.invokevirtual 202, 3) := dk_182 0 202 (dk_at dksX6_handles_0 2 rfl rfl)
theorem dX6_handles_5 : decode cX6_handles 5 = .ok (.istore_n 2, 1) := dk_61 (dk_at dksX6_handles_0 5 rfl rfl)
theorem dX6_handles_6 : decode cX6_handles 6 = .ok (.iload_n 2, 1) := dk_28 (dk_at dksX6_handles_0 6 rfl rfl)
theorem dX6_handles_7 : decode cX6_handles 7 = .ok (.iconst 4, 1) := dk_7 (dk_at dksX6_handles_0 7 rfl rfl)
theorem dX6_handles_8 : decode cX6_handles 8 = .ok (.idiv, 1) := dk_108 (dk_at dksX6_handles_0 8 rfl rfl)
theorem dX6_handles_9 : decode cX6_handles 9 = .ok (.istore_n 3, 1) := dk_62 (dk_at dksX6_handles_0 9 rfl rfl)
theorem dX6_handles_10 : decode cX6_handles 10 = .ok (.aload_n 0, 1) := dk_42 (dk_at dksX6_handles_0 10 rfl rfl)
theorem dX6_handles_11 : decode cX6_handles 11 = .ok (.getfield 13, 3) := dk_180 0 13 (dk_at dksX6_handles_0 11 rfl rfl)
theorem dX6_handles_14 : decode cX6_handles 14 = .ok (.iconst 5, 1) := dk_8 (dk_at dksX6_handles_0 14 rfl rfl)
theorem dX6_handles_15 : decode cX6_handles 15 = .ok (.dup2, 1) := dk_92 (dk_at dksX6_handles_0 15 rfl rfl)
theorem dX6_handles_16 : decode cX6_handles 16 = .ok (.iaload, 1) := dk_46 (dk_at dksX6_handles_0 16 rfl rfl)
theorem dX6_handles_17 : decode cX6_handles 17 = .ok (.iconst 1, 1) := dk_4 (dk_at dksX6_handles_0 17 rfl rfl)
theorem dX6_handles_18 : decode cX6_handles 18 = .ok (.iadd, 1) := dk_96 (dk_at dksX6_handles_0 18 rfl rfl)
theorem dX6_handles_19 : decode cX6_handles 19 = .ok (.iastore, 1) := dk_79 (dk_at dksX6_handles_0 19 rfl rfl)
theorem dX6_handles_20 : decode cX6_handles 20 = .ok (.aload_n 0, 1) := dk_42 (dk_at dksX6_handles_0 20 rfl rfl)
theorem dX6_handles_21 : decode cX6_handles 21 = .ok (.iload_n 1, 1) := dk_27 (dk_at dksX6_handles_0 21 rfl rfl)
theorem dX6_handles_22 : decode cX6_handles 22 = .ok (.iconst 0, 1) := dk_3 (dk_at dksX6_handles_0 22 rfl rfl)
theorem dX6_handles_23 : decode cX6_handles 23 = .ok (.invokevirtual 83, 3) := dk_182 0 83 (dk_at dksX6_handles_1 0 rfl rfl)
theorem dX6_handles_26 : decode cX6_handles 26 = .ok (.lookupswitch 132 #[(97, 42), (102, 120), (107, 59), (120, 88)], 42) := by decide +kernel
theorem dX6_handles_68 : decode cX6_handles 68 = .ok (.aload_n 0, 1) := dk_42 (dk_at dksX6_handles_3 0 rfl rfl)
theorem dX6_handles_69 : decode cX6_handles 69 = .ok (.iload_n 1, 1) := dk_27 (dk_at dksX6_handles_3 1 rfl rfl)
theorem dX6_handles_70 : decode cX6_handles 70 = .ok (.iconst 2, 1) := dk_5 (dk_at dksX6_handles_3 2 rfl rfl)
theorem dX6_handles_71 : decode cX6_handles 71 = .ok (.aload_n 0, 1) := dk_42 (dk_at dksX6_handles_3 3 rfl rfl)
theorem dX6_handles_72 : decode cX6_handles 72 = .ok (.iload_n 1, 1) := dk_27 (dk_at dksX6_handles_3 4 rfl rfl)
theorem dX6_handles_73 : decode cX6_handles 73 = .ok (.iconst 2, 1) := dk_5 (dk_at dksX6_handles_3 5 rfl rfl)
theorem dX6_handles_74 : decode cX6_handles 74 = .ok (.invokevirtual 83, 3) := dk_182 0 83 (dk_at dksX6_handles_3 6 rfl rfl)
theorem dX6_handles_77 : decode cX6_handles 77 = .ok (.iload_n 3, 1) := dk_29 (dk_at dksX6_handles_3 9 rfl rfl)
theorem dX6_handles_78 : decode cX6_handles 78 = .ok (.iadd, 1) := dk_96 (dk_at dksX6_handles_3 10 rfl rfl)
theorem dX6_handles_79 : decode cX6_handles 79 = .ok (.invokevirtual 102, 3) := dk_182 0 102 (dk_at dksX6_handles_3 11 rfl rfl)
theorem dX6_handles_82 : decode cX6_handles 82 = .ok (.goto 90, 3) := dk_167 0 90 (dk_at dksX6_handles_3 14 rfl rfl)
theorem dX6_handles_85 : decode cX6_handles 85 = .ok (.aload_n 0, 1) := dk_42 (dk_at dksX6_handles_3 17 rfl rfl)
theorem dX6_handles_86 : decode cX6_handles 86 = .ok (.iload_n 1, 1) := dk_27 (dk_at dksX6_handles_3 18 rfl rfl)
theorem dX6_handles_87 : decode cX6_handles 87 = .ok (.iconst 2, 1) := dk_5 (dk_at dksX6_handles_3 19 rfl rfl)
theorem dX6_handles_88 : decode cX6_handles 88 = .ok (.iload_n 3, 1) := dk_29 (dk_at dksX6_handles_3 20 rfl rfl)
theorem dX6_handles_89 : decode cX6_handles 89 = .ok (.aload_n 0, 1) := dk_42 (dk_at dksX6_handles_3 21 rfl rfl)
theorem dX6_handles_90 : decode cX6_handles 90 = .ok (.iload_n 1, 1) := dk_27 (dk_at dksX6_handles_3 22 rfl rfl)
theorem dX6_handles_91 : decode cX6_handles 91 = .ok (.iconst 2, 1) := dk_5 (dk_at dksX6_handles_3 23 rfl rfl)
theorem dX6_handles_92 : decode cX6_handles 92 = .ok (.invokevirtual 83, 3) := dk_182 0 83 (dk_at dksX6_handles_4 0 rfl rfl)
theorem dX6_handles_95 : decode cX6_handles 95 = .ok (.if_icmp .le 7, 3) := dk_164 0 7 (dk_at dksX6_handles_4 3 rfl rfl)
theorem dX6_handles_98 : decode cX6_handles 98 = .ok (.iload_n 3, 1) := dk_29 (dk_at dksX6_handles_4 6 rfl rfl)
theorem dX6_handles_99 : decode cX6_handles 99 = .ok (.goto 9, 3) := dk_167 0 9 (dk_at dksX6_handles_4 7 rfl rfl)
theorem dX6_handles_102 : decode cX6_handles 102 = .ok (.aload_n 0, 1) := dk_42 (dk_at dksX6_handles_4 10 rfl rfl)
theorem dX6_handles_103 : decode cX6_handles 103 = .ok (.iload_n 1, 1) := dk_27 (dk_at dksX6_handles_4 11 rfl rfl)
theorem dX6_handles_104 : decode cX6_handles 104 = .ok (.iconst 2, 1) := dk_5 (dk_at dksX6_handles_4 12 rfl rfl)
theorem dX6_handles_105 : decode cX6_handles 105 = .ok (.invokevirtual 83, 3) := dk_182 0 83 (dk_at dksX6_handles_4 13 rfl rfl)
theorem dX6_handles_108 : decode cX6_handles 108 = .ok (.invokevirtual 102, 3) := dk_182 0 102 (dk_at dksX6_handles_4 16 rfl rfl)
theorem dX6_handles_111 : decode cX6_handles 111 = .ok (.goto 61, 3) := dk_167 0 61 (dk_at dksX6_handles_4 19 rfl rfl)
theorem dX6_handles_114 : decode cX6_handles 114 = .ok (.iload_n 3, 1) := dk_29 (dk_at dksX6_handles_4 22 rfl rfl)
theorem dX6_handles_115 : decode cX6_handles 115 = .ok (.bipush 7, 2) := dk_16 7 (dk_at dksX6_handles_5 0 rfl rfl)
theorem dX6_handles_117 : decode cX6_handles 117 = .ok (.irem, 1) := dk_112 (dk_at dksX6_handles_5 2 rfl rfl)
theorem dX6_handles_118 : decode cX6_handles 118 = .ok (.ifCond .ne 11, 3) := dk_154 0 11 (dk_at dksX6_handles_5 3 rfl rfl)
theorem dX6_handles_121 : decode cX6_handles 121 = .ok (.aload_n 0, 1) := dk_42 (dk_at dksX6_handles_5 6 rfl rfl)
theorem dX6_handles_122 : decode cX6_handles 122 = .ok (.iload_n 1, 1) := dk_27 (dk_at dksX6_handles_5 7 rfl rfl)
theorem dX6_handles_123 : decode cX6_handles 123 = .ok (.invokevirtual 205, 3) := dk_182 0 205 (dk_at dksX6_handles_5 8 rfl rfl)
theorem dX6_handles_126 : decode cX6_handles 126 = .ok (.goto 46, 3) := dk_167 0 46 (dk_at dksX6_handles_5 11 rfl rfl)
theorem dX6_handles_129 : decode cX6_handles 129 = .ok (.aload_n 0, 1) := dk_42 (dk_at dksX6_handles_5 14 rfl rfl)
theorem dX6_handles_130 : decode cX6_handles 130 = .ok (.iload_n 1, 1) := dk_27 (dk_at dksX6_handles_5 15 rfl rfl)
theorem dX6_handles_131 : decode cX6_handles 131 = .ok (.iconst 2, 1) := dk_5 (dk_at dksX6_handles_5 16 rfl rfl)
theorem dX6_handles_132 : decode cX6_handles 132 = .ok (.aload_n 0, 1) := dk_42 (dk_at dksX6_handles_5 17 rfl rfl)
theorem dX6_handles_133 : decode cX6_handles 133 = .ok (.iload_n 1, 1) := dk_27 (dk_at dksX6_handles_5 18 rfl rfl)
theorem dX6_handles_134 : decode cX6_handles 134 = .ok (.iconst 2, 1) := dk_5 (dk_at dksX6_handles_5 19 rfl rfl)
theorem dX6_handles_135 : decode cX6_handles 135 = .ok (.invokevirtual 83, 3) := dk_182 0 83 (dk_at dksX6_handles_5 20 rfl rfl)
theorem dX6_handles_138 : decode cX6_handles 138 = .ok (.iload_n 3, 1) := dk_29 (dk_at dksX6_handles_5 23 rfl rfl)
theorem dX6_handles_139 : decode cX6_handles 139 = .ok (.iadd, 1) := dk_96 (dk_at dksX6_handles_6 0 rfl rfl)
theorem dX6_handles_140 : decode cX6_handles 140 = .ok (.invokevirtual 102, 3) := dk_182 0 102 (dk_at dksX6_handles_6 1 rfl rfl)
theorem dX6_handles_143 : decode cX6_handles 143 = .ok (.goto 29, 3) := dk_167 0 29 (dk_at dksX6_handles_6 4 rfl rfl)
theorem dX6_handles_146 : decode cX6_handles 146 = .ok (.aload_n 0, 1) := dk_42 (dk_at dksX6_handles_6 7 rfl rfl)
theorem dX6_handles_147 : decode cX6_handles 147 = .ok (.iload_n 1, 1) := dk_27 (dk_at dksX6_handles_6 8 rfl rfl)
theorem dX6_handles_148 : decode cX6_handles 148 = .ok (.iload_n 3, 1) := dk_29 (dk_at dksX6_handles_6 9 rfl rfl)
theorem dX6_handles_149 : decode cX6_handles 149 = .ok (.iload_n 2, 1) := dk_28 (dk_at dksX6_handles_6 10 rfl rfl)
theorem dX6_handles_150 : decode cX6_handles 150 = .ok (.iconst 4, 1) := dk_7 (dk_at dksX6_handles_6 11 rfl rfl)
theorem dX6_handles_151 : decode cX6_handles 151 = .ok (.irem, 1) := dk_112 (dk_at dksX6_handles_6 12 rfl rfl)
theorem dX6_handles_152 : decode cX6_handles 152 = .ok (.invokevirtual 208, 3) := dk_182 0 208 (dk_at dksX6_handles_6 13 rfl rfl)
theorem dX6_handles_155 : decode cX6_handles 155 = .ok (.goto 17, 3) := dk_167 0 17 (dk_at dksX6_handles_6 16 rfl rfl)
theorem dX6_handles_158 : decode cX6_handles 158 = .ok (.aload_n 0, 1) := dk_42 (dk_at dksX6_handles_6 19 rfl rfl)
theorem dX6_handles_159 : decode cX6_handles 159 = .ok (.iload_n 1, 1) := dk_27 (dk_at dksX6_handles_6 20 rfl rfl)
theorem dX6_handles_160 : decode cX6_handles 160 = .ok (.iconst 2, 1) := dk_5 (dk_at dksX6_handles_6 21 rfl rfl)
theorem dX6_handles_161 : decode cX6_handles 161 = .ok (.iload_n 3, 1) := dk_29 (dk_at dksX6_handles_6 22 rfl rfl)
theorem dX6_handles_162 : decode cX6_handles 162 = .ok (.imul, 1) := dk_104 (dk_at dksX6_handles_6 23 rfl rfl)
theorem dX6_handles_163 : decode cX6_handles 163 = .ok (.bipush 100, 2) := dk_16 100 (dk_at dksX6_handles_7 0 rfl rfl)
theorem dX6_handles_165 : decode cX6_handles 165 = .ok (.irem, 1) := dk_112 (dk_at dksX6_handles_7 2 rfl rfl)
theorem dX6_handles_166 : decode cX6_handles 166 = .ok (.iload_n 2, 1) := dk_28 (dk_at dksX6_handles_7 3 rfl rfl)
theorem dX6_handles_167 : decode cX6_handles 167 = .ok (.iconst 4, 1) := dk_7 (dk_at dksX6_handles_7 4 rfl rfl)
theorem dX6_handles_168 : decode cX6_handles 168 = .ok (.irem, 1) := dk_112 (dk_at dksX6_handles_7 5 rfl rfl)
theorem dX6_handles_169 : decode cX6_handles 169 = .ok (.invokevirtual 208, 3) := dk_182 0 208 (dk_at dksX6_handles_7 6 rfl rfl)
theorem dX6_handles_172 : decode cX6_handles 172 = .ok (.return_, 1) := dk_177 (dk_at dksX6_handles_7 9 rfl rfl)
abbrev cX6_takesFirst : ByteArray := prog_14_method_42_code
def yX6_takesFirst : MethodName := ⟨RX6, "takesFirst", "(I)I"⟩
def dkwX6_takesFirst_2 : List UInt8 := [182, 0, 102, 42, 27, 16, 9, 42, 27, 16, 9, 182, 0, 83, 4, 100, 182, 0, 102, 28, 172]
abbrev dktX6_takesFirst_2 : List UInt8 := dkwX6_takesFirst_2 ++ []
def dkwX6_takesFirst_1 : List UInt8 := [16, 10, 29, 96, 4, 96, 182, 0, 83, 182, 0, 102, 132, 3, 1, 167, 255, 228, 42, 27, 16, 15, 3]
abbrev dktX6_takesFirst_1 : List UInt8 := dkwX6_takesFirst_1 ++ dktX6_takesFirst_2
def dkwX6_takesFirst_0 : List UInt8 := [42, 27, 16, 10, 182, 0, 83, 61, 3, 62, 29, 8, 162, 0, 29, 42, 27, 16, 10, 29, 96, 42, 27]
abbrev dktX6_takesFirst_0 : List UInt8 := dkwX6_takesFirst_0 ++ dktX6_takesFirst_1
theorem dksX6_takesFirst_0 : cX6_takesFirst.data.toList.drop 0 = dktX6_takesFirst_0 := by decide +kernel
theorem dksX6_takesFirst_1 : cX6_takesFirst.data.toList.drop 23 = dktX6_takesFirst_1 := dk_seg dksX6_takesFirst_0 23 rfl rfl
theorem dksX6_takesFirst_2 : cX6_takesFirst.data.toList.drop 46 = dktX6_takesFirst_2 := dk_seg dksX6_takesFirst_1 23 rfl rfl
theorem dX6_takesFirst_0 : decode cX6_takesFirst 0 = .ok (.aload_n 0, 1) := dk_42 (dk_at dksX6_takesFirst_0 0 rfl rfl)
theorem dX6_takesFirst_1 : decode cX6_takesFirst 1 = .ok (.iload_n 1, 1) := dk_27 (dk_at dksX6_takesFirst_0 1 rfl rfl)
theorem dX6_takesFirst_2 : decode cX6_takesFirst 2 = .ok (.bipush 10, 2) := dk_16 10 (dk_at dksX6_takesFirst_0 2 rfl rfl)
theorem dX6_takesFirst_4 : decode cX6_takesFirst 4 = .ok (.invokevirtual 83, 3) := dk_182 0 83 (dk_at dksX6_takesFirst_0 4 rfl rfl)
theorem dX6_takesFirst_7 : decode cX6_takesFirst 7 = .ok (.istore_n 2, 1) := dk_61 (dk_at dksX6_takesFirst_0 7 rfl rfl)
theorem dX6_takesFirst_8 : decode cX6_takesFirst 8 = .ok (.iconst 0, 1) := dk_3 (dk_at dksX6_takesFirst_0 8 rfl rfl)
theorem dX6_takesFirst_9 : decode cX6_takesFirst 9 = .ok (.istore_n 3, 1) := dk_62 (dk_at dksX6_takesFirst_0 9 rfl rfl)
theorem dX6_takesFirst_10 : decode cX6_takesFirst 10 = .ok (.iload_n 3, 1) := dk_29 (dk_at dksX6_takesFirst_0 10 rfl rfl)
theorem dX6_takesFirst_11 : decode cX6_takesFirst 11 = .ok (.iconst 5, 1) := dk_8 (dk_at dksX6_takesFirst_0 11 rfl rfl)
theorem dX6_takesFirst_12 : decode cX6_takesFirst 12 = .ok (.if_icmp .ge 29, 3) := dk_162 0 29 (dk_at dksX6_takesFirst_0 12 rfl rfl)
theorem dX6_takesFirst_15 : decode cX6_takesFirst 15 = .ok (.aload_n 0, 1) := dk_42 (dk_at dksX6_takesFirst_0 15 rfl rfl)
theorem dX6_takesFirst_16 : decode cX6_takesFirst 16 = .ok (.iload_n 1, 1) := dk_27 (dk_at dksX6_takesFirst_0 16 rfl rfl)
theorem dX6_takesFirst_17 : decode cX6_takesFirst 17 = .ok (.bipush 10, 2) := dk_16 10 (dk_at dksX6_takesFirst_0 17 rfl rfl)
theorem dX6_takesFirst_19 : decode cX6_takesFirst 19 = .ok (.iload_n 3, 1) := dk_29 (dk_at dksX6_takesFirst_0 19 rfl rfl)
theorem dX6_takesFirst_20 : decode cX6_takesFirst 20 = .ok (.iadd, 1) := dk_96 (dk_at dksX6_takesFirst_0 20 rfl rfl)
theorem dX6_takesFirst_21 : decode cX6_takesFirst 21 = .ok (.aload_n 0, 1) := dk_42 (dk_at dksX6_takesFirst_0 21 rfl rfl)
theorem dX6_takesFirst_22 : decode cX6_takesFirst 22 = .ok (.iload_n 1, 1) := dk_27 (dk_at dksX6_takesFirst_0 22 rfl rfl)
theorem dX6_takesFirst_23 : decode cX6_takesFirst 23 = .ok (.bipush 10, 2) := dk_16 10 (dk_at dksX6_takesFirst_1 0 rfl rfl)
theorem dX6_takesFirst_25 : decode cX6_takesFirst 25 = .ok (.iload_n 3, 1) := dk_29 (dk_at dksX6_takesFirst_1 2 rfl rfl)
theorem dX6_takesFirst_26 : decode cX6_takesFirst 26 = .ok (.iadd, 1) := dk_96 (dk_at dksX6_takesFirst_1 3 rfl rfl)
theorem dX6_takesFirst_27 : decode cX6_takesFirst 27 = .ok (.iconst 1, 1) := dk_4 (dk_at dksX6_takesFirst_1 4 rfl rfl)
theorem dX6_takesFirst_28 : decode cX6_takesFirst 28 = .ok (.iadd, 1) := dk_96 (dk_at dksX6_takesFirst_1 5 rfl rfl)
theorem dX6_takesFirst_29 : decode cX6_takesFirst 29 = .ok (.invokevirtual 83, 3) := dk_182 0 83 (dk_at dksX6_takesFirst_1 6 rfl rfl)
theorem dX6_takesFirst_32 : decode cX6_takesFirst 32 = .ok (.invokevirtual 102, 3) := dk_182 0 102 (dk_at dksX6_takesFirst_1 9 rfl rfl)
theorem dX6_takesFirst_35 : decode cX6_takesFirst 35 = .ok (.iinc 3 1, 3) := dk_132 3 1 (dk_at dksX6_takesFirst_1 12 rfl rfl)
theorem dX6_takesFirst_38 : decode cX6_takesFirst 38 = .ok (.goto (-28), 3) := dk_167 255 228 (dk_at dksX6_takesFirst_1 15 rfl rfl)
theorem dX6_takesFirst_41 : decode cX6_takesFirst 41 = .ok (.aload_n 0, 1) := dk_42 (dk_at dksX6_takesFirst_1 18 rfl rfl)
theorem dX6_takesFirst_42 : decode cX6_takesFirst 42 = .ok (.iload_n 1, 1) := dk_27 (dk_at dksX6_takesFirst_1 19 rfl rfl)
theorem dX6_takesFirst_43 : decode cX6_takesFirst 43 = .ok (.bipush 15, 2) := dk_16 15 (dk_at dksX6_takesFirst_1 20 rfl rfl)
theorem dX6_takesFirst_45 : decode cX6_takesFirst 45 = .ok (.iconst 0, 1) := dk_3 (dk_at dksX6_takesFirst_1 22 rfl rfl)
theorem dX6_takesFirst_46 : decode cX6_takesFirst 46 = .ok (.invokevirtual 102, 3) := dk_182 0 102 (dk_at dksX6_takesFirst_2 0 rfl rfl)
theorem dX6_takesFirst_49 : decode cX6_takesFirst 49 = .ok (.aload_n 0, 1) := dk_42 (dk_at dksX6_takesFirst_2 3 rfl rfl)
theorem dX6_takesFirst_50 : decode cX6_takesFirst 50 = .ok (.iload_n 1, 1) := dk_27 (dk_at dksX6_takesFirst_2 4 rfl rfl)
theorem dX6_takesFirst_51 : decode cX6_takesFirst 51 = .ok (.bipush 9, 2) := dk_16 9 (dk_at dksX6_takesFirst_2 5 rfl rfl)
theorem dX6_takesFirst_53 : decode cX6_takesFirst 53 = .ok (.aload_n 0, 1) := dk_42 (dk_at dksX6_takesFirst_2 7 rfl rfl)
theorem dX6_takesFirst_54 : decode cX6_takesFirst 54 = .ok (.iload_n 1, 1) := dk_27 (dk_at dksX6_takesFirst_2 8 rfl rfl)
theorem dX6_takesFirst_55 : decode cX6_takesFirst 55 = .ok (.bipush 9, 2) := dk_16 9 (dk_at dksX6_takesFirst_2 9 rfl rfl)
theorem dX6_takesFirst_57 : decode cX6_takesFirst 57 = .ok (.invokevirtual 83, 3) := dk_182 0 83 (dk_at dksX6_takesFirst_2 11 rfl rfl)
theorem dX6_takesFirst_60 : decode cX6_takesFirst 60 = .ok (.iconst 1, 1) := dk_4 (dk_at dksX6_takesFirst_2 14 rfl rfl)
theorem dX6_takesFirst_61 : decode cX6_takesFirst 61 = .ok (.isub, 1) := dk_100 (dk_at dksX6_takesFirst_2 15 rfl rfl)
theorem dX6_takesFirst_62 : decode cX6_takesFirst 62 = .ok (.invokevirtual 102, 3) := dk_182 0 102 (dk_at dksX6_takesFirst_2 16 rfl rfl)
theorem dX6_takesFirst_65 : decode cX6_takesFirst 65 = .ok (.iload_n 2, 1) := dk_28 (dk_at dksX6_takesFirst_2 19 rfl rfl)
theorem dX6_takesFirst_66 : decode cX6_takesFirst 66 = .ok (.ireturn, 1) := dk_172 (dk_at dksX6_takesFirst_2 20 rfl rfl)
abbrev cX6_failsActor : ByteArray := prog_14_method_61_code
def yX6_failsActor : MethodName := ⟨RX6, "failsActor", "(I)V"⟩
def dkwX6_failsActor_5 : List UInt8 := [167, 0, 9, 42, 28, 182, 0, 158, 87, 177]
abbrev dktX6_failsActor_5 : List UInt8 := dkwX6_failsActor_5 ++ []
def dkwX6_failsActor_4 : List UInt8 := [162, 0, 27, 42, 28, 16, 8, 42, 28, 16, 8, 182, 0, 83, 4, 96, 182, 0, 102, 42, 28, 182, 0, 198]
abbrev dktX6_failsActor_4 : List UInt8 := dkwX6_failsActor_4 ++ dktX6_failsActor_5
def dkwX6_failsActor_3 : List UInt8 := [155, 0, 49, 42, 29, 8, 182, 0, 83, 16, 114, 160, 0, 38, 42, 28, 16, 8, 182, 0, 83, 6]
abbrev dktX6_failsActor_3 : List UInt8 := dkwX6_failsActor_3 ++ dktX6_failsActor_4
def dkwX6_failsActor_2 : List UInt8 := [42, 180, 0, 13, 16, 8, 92, 46, 4, 96, 79, 167, 255, 210, 42, 28, 16, 6, 182, 0, 83, 62, 29]
abbrev dktX6_failsActor_2 : List UInt8 := dkwX6_failsActor_2 ++ dktX6_failsActor_3
def dkwX6_failsActor_1 : List UInt8 := [42, 28, 16, 6, 182, 0, 83, 8, 182, 0, 83, 16, 101, 160, 0, 25, 42, 28, 16, 6, 182, 0, 83, 61]
abbrev dktX6_failsActor_1 : List UInt8 := dkwX6_failsActor_1 ++ dktX6_failsActor_2
def dkwX6_failsActor_0 : List UInt8 := [27, 61, 42, 180, 0, 13, 16, 8, 92, 46, 4, 96, 79, 42, 28, 16, 6, 182, 0, 83, 155, 0, 42, 42]
abbrev dktX6_failsActor_0 : List UInt8 := dkwX6_failsActor_0 ++ dktX6_failsActor_1
theorem dksX6_failsActor_0 : cX6_failsActor.data.toList.drop 0 = dktX6_failsActor_0 := by decide +kernel
theorem dksX6_failsActor_1 : cX6_failsActor.data.toList.drop 24 = dktX6_failsActor_1 := dk_seg dksX6_failsActor_0 24 rfl rfl
theorem dksX6_failsActor_2 : cX6_failsActor.data.toList.drop 48 = dktX6_failsActor_2 := dk_seg dksX6_failsActor_1 24 rfl rfl
theorem dksX6_failsActor_3 : cX6_failsActor.data.toList.drop 71 = dktX6_failsActor_3 := dk_seg dksX6_failsActor_2 23 rfl rfl
theorem dksX6_failsActor_4 : cX6_failsActor.data.toList.drop 93 = dktX6_failsActor_4 := dk_seg dksX6_failsActor_3 22 rfl rfl
theorem dksX6_failsActor_5 : cX6_failsActor.data.toList.drop 117 = dktX6_failsActor_5 := dk_seg dksX6_failsActor_4 24 rfl rfl
theorem dX6_failsActor_0 : decode cX6_failsActor 0 = .ok (.iload_n 1, 1) := dk_27 (dk_at dksX6_failsActor_0 0 rfl rfl)
theorem dX6_failsActor_1 : decode cX6_failsActor 1 = .ok (.istore_n 2, 1) := dk_61 (dk_at dksX6_failsActor_0 1 rfl rfl)
theorem dX6_failsActor_2 : decode cX6_failsActor 2 = .ok (.aload_n 0, 1) := dk_42 (dk_at dksX6_failsActor_0 2 rfl rfl)
theorem dX6_failsActor_3 : decode cX6_failsActor 3 = .ok (.getfield 13, 3) := dk_180 0 13 (dk_at dksX6_failsActor_0 3 rfl rfl)
theorem dX6_failsActor_6 : decode cX6_failsActor 6 = .ok (.bipush 8, 2) := dk_16 8 (dk_at dksX6_failsActor_0 6 rfl rfl)
theorem dX6_failsActor_8 : decode cX6_failsActor 8 = .ok (.dup2, 1) := dk_92 (dk_at dksX6_failsActor_0 8 rfl rfl)
theorem dX6_failsActor_9 : decode cX6_failsActor 9 = .ok (.iaload, 1) := dk_46 (dk_at dksX6_failsActor_0 9 rfl rfl)
theorem dX6_failsActor_10 : decode cX6_failsActor 10 = .ok (.iconst 1, 1) := dk_4 (dk_at dksX6_failsActor_0 10 rfl rfl)
theorem dX6_failsActor_11 : decode cX6_failsActor 11 = .ok (.iadd, 1) := dk_96 (dk_at dksX6_failsActor_0 11 rfl rfl)
theorem dX6_failsActor_12 : decode cX6_failsActor 12 = .ok (.iastore, 1) := dk_79 (dk_at dksX6_failsActor_0 12 rfl rfl)
theorem dX6_failsActor_13 : decode cX6_failsActor 13 = .ok (.aload_n 0, 1) := dk_42 (dk_at dksX6_failsActor_0 13 rfl rfl)
theorem dX6_failsActor_14 : decode cX6_failsActor 14 = .ok (.iload_n 2, 1) := dk_28 (dk_at dksX6_failsActor_0 14 rfl rfl)
theorem dX6_failsActor_15 : decode cX6_failsActor 15 = .ok (.bipush 6, 2) := dk_16 6 (dk_at dksX6_failsActor_0 15 rfl rfl)
theorem dX6_failsActor_17 : decode cX6_failsActor 17 = .ok (.invokevirtual 83, 3) := dk_182 0 83 (dk_at dksX6_failsActor_0 17 rfl rfl)
theorem dX6_failsActor_20 : decode cX6_failsActor 20 = .ok (.ifCond .lt 42, 3) := dk_155 0 42 (dk_at dksX6_failsActor_0 20 rfl rfl)
theorem dX6_failsActor_23 : decode cX6_failsActor 23 = .ok (.aload_n 0, 1) := dk_42 (dk_at dksX6_failsActor_0 23 rfl rfl)
theorem dX6_failsActor_24 : decode cX6_failsActor 24 = .ok (.aload_n 0, 1) := dk_42 (dk_at dksX6_failsActor_1 0 rfl rfl)
theorem dX6_failsActor_25 : decode cX6_failsActor 25 = .ok (.iload_n 2, 1) := dk_28 (dk_at dksX6_failsActor_1 1 rfl rfl)
theorem dX6_failsActor_26 : decode cX6_failsActor 26 = .ok (.bipush 6, 2) := dk_16 6 (dk_at dksX6_failsActor_1 2 rfl rfl)
theorem dX6_failsActor_28 : decode cX6_failsActor 28 = .ok (.invokevirtual 83, 3) := dk_182 0 83 (dk_at dksX6_failsActor_1 4 rfl rfl)
theorem dX6_failsActor_31 : decode cX6_failsActor 31 = .ok (.iconst 5, 1) := dk_8 (dk_at dksX6_failsActor_1 7 rfl rfl)
theorem dX6_failsActor_32 : decode cX6_failsActor 32 = .ok (.invokevirtual 83, 3) := dk_182 0 83 (dk_at dksX6_failsActor_1 8 rfl rfl)
theorem dX6_failsActor_35 : decode cX6_failsActor 35 = .ok (.bipush 101, 2) := dk_16 101 (dk_at dksX6_failsActor_1 11 rfl rfl)
theorem dX6_failsActor_37 : decode cX6_failsActor 37 = .ok (.if_icmp .ne 25, 3) := dk_160 0 25 (dk_at dksX6_failsActor_1 13 rfl rfl)
theorem dX6_failsActor_40 : decode cX6_failsActor 40 = .ok (.aload_n 0, 1) := dk_42 (dk_at dksX6_failsActor_1 16 rfl rfl)
theorem dX6_failsActor_41 : decode cX6_failsActor 41 = .ok (.iload_n 2, 1) := dk_28 (dk_at dksX6_failsActor_1 17 rfl rfl)
theorem dX6_failsActor_42 : decode cX6_failsActor 42 = .ok (.bipush 6, 2) := dk_16 6 (dk_at dksX6_failsActor_1 18 rfl rfl)
theorem dX6_failsActor_44 : decode cX6_failsActor 44 = .ok (.invokevirtual 83, 3) := dk_182 0 83 (dk_at dksX6_failsActor_1 20 rfl rfl)
theorem dX6_failsActor_47 : decode cX6_failsActor 47 = .ok (.istore_n 2, 1) := dk_61 (dk_at dksX6_failsActor_1 23 rfl rfl)
theorem dX6_failsActor_48 : decode cX6_failsActor 48 = .ok (.aload_n 0, 1) := dk_42 (dk_at dksX6_failsActor_2 0 rfl rfl)
theorem dX6_failsActor_49 : decode cX6_failsActor 49 = .ok (.getfield 13, 3) := dk_180 0 13 (dk_at dksX6_failsActor_2 1 rfl rfl)
theorem dX6_failsActor_52 : decode cX6_failsActor 52 = .ok (.bipush 8, 2) := dk_16 8 (dk_at dksX6_failsActor_2 4 rfl rfl)
theorem dX6_failsActor_54 : decode cX6_failsActor 54 = .ok (.dup2, 1) := dk_92 (dk_at dksX6_failsActor_2 6 rfl rfl)
theorem dX6_failsActor_55 : decode cX6_failsActor 55 = .ok (.iaload, 1) := dk_46 (dk_at dksX6_failsActor_2 7 rfl rfl)
theorem dX6_failsActor_56 : decode cX6_failsActor 56 = .ok (.iconst 1, 1) := dk_4 (dk_at dksX6_failsActor_2 8 rfl rfl)
theorem dX6_failsActor_57 : decode cX6_failsActor 57 = .ok (.iadd, 1) := dk_96 (dk_at dksX6_failsActor_2 9 rfl rfl)
theorem dX6_failsActor_58 : decode cX6_failsActor 58 = .ok (.iastore, 1) := dk_79 (dk_at dksX6_failsActor_2 10 rfl rfl)
theorem dX6_failsActor_59 : decode cX6_failsActor 59 = .ok (.goto (-46), 3) := dk_167 255 210 (dk_at dksX6_failsActor_2 11 rfl rfl)
theorem dX6_failsActor_62 : decode cX6_failsActor 62 = .ok (.aload_n 0, 1) := dk_42 (dk_at dksX6_failsActor_2 14 rfl rfl)
theorem dX6_failsActor_63 : decode cX6_failsActor 63 = .ok (.iload_n 2, 1) := dk_28 (dk_at dksX6_failsActor_2 15 rfl rfl)
theorem dX6_failsActor_64 : decode cX6_failsActor 64 = .ok (.bipush 6, 2) := dk_16 6 (dk_at dksX6_failsActor_2 16 rfl rfl)
theorem dX6_failsActor_66 : decode cX6_failsActor 66 = .ok (.invokevirtual 83, 3) := dk_182 0 83 (dk_at dksX6_failsActor_2 18 rfl rfl)
theorem dX6_failsActor_69 : decode cX6_failsActor 69 = .ok (.istore_n 3, 1) := dk_62 (dk_at dksX6_failsActor_2 21 rfl rfl)
theorem dX6_failsActor_70 : decode cX6_failsActor 70 = .ok (.iload_n 3, 1) := dk_29 (dk_at dksX6_failsActor_2 22 rfl rfl)
theorem dX6_failsActor_71 : decode cX6_failsActor 71 = .ok (.ifCond .lt 49, 3) := dk_155 0 49 (dk_at dksX6_failsActor_3 0 rfl rfl)
theorem dX6_failsActor_74 : decode cX6_failsActor 74 = .ok (.aload_n 0, 1) := dk_42 (dk_at dksX6_failsActor_3 3 rfl rfl)
theorem dX6_failsActor_75 : decode cX6_failsActor 75 = .ok (.iload_n 3, 1) := dk_29 (dk_at dksX6_failsActor_3 4 rfl rfl)
theorem dX6_failsActor_76 : decode cX6_failsActor 76 = .ok (.iconst 5, 1) := dk_8 (dk_at dksX6_failsActor_3 5 rfl rfl)
theorem dX6_failsActor_77 : decode cX6_failsActor 77 = .ok (.invokevirtual 83, 3) := dk_182 0 83 (dk_at dksX6_failsActor_3 6 rfl rfl)
theorem dX6_failsActor_80 : decode cX6_failsActor 80 = .ok (.bipush 114, 2) := dk_16 114 (dk_at dksX6_failsActor_3 9 rfl rfl)
theorem dX6_failsActor_82 : decode cX6_failsActor 82 = .ok (.if_icmp .ne 38, 3) := dk_160 0 38 (dk_at dksX6_failsActor_3 11 rfl rfl)
theorem dX6_failsActor_85 : decode cX6_failsActor 85 = .ok (.aload_n 0, 1) := dk_42 (dk_at dksX6_failsActor_3 14 rfl rfl)
theorem dX6_failsActor_86 : decode cX6_failsActor 86 = .ok (.iload_n 2, 1) := dk_28 (dk_at dksX6_failsActor_3 15 rfl rfl)
theorem dX6_failsActor_87 : decode cX6_failsActor 87 = .ok (.bipush 8, 2) := dk_16 8 (dk_at dksX6_failsActor_3 16 rfl rfl)
theorem dX6_failsActor_89 : decode cX6_failsActor 89 = .ok (.invokevirtual 83, 3) := dk_182 0 83 (dk_at dksX6_failsActor_3 18 rfl rfl)
theorem dX6_failsActor_92 : decode cX6_failsActor 92 = .ok (.iconst 3, 1) := dk_6 (dk_at dksX6_failsActor_3 21 rfl rfl)
theorem dX6_failsActor_93 : decode cX6_failsActor 93 = .ok (.if_icmp .ge 27, 3) := dk_162 0 27 (dk_at dksX6_failsActor_4 0 rfl rfl)
theorem dX6_failsActor_96 : decode cX6_failsActor 96 = .ok (.aload_n 0, 1) := dk_42 (dk_at dksX6_failsActor_4 3 rfl rfl)
theorem dX6_failsActor_97 : decode cX6_failsActor 97 = .ok (.iload_n 2, 1) := dk_28 (dk_at dksX6_failsActor_4 4 rfl rfl)
theorem dX6_failsActor_98 : decode cX6_failsActor 98 = .ok (.bipush 8, 2) := dk_16 8 (dk_at dksX6_failsActor_4 5 rfl rfl)
theorem dX6_failsActor_100 : decode cX6_failsActor 100 = .ok (.aload_n 0, 1) := dk_42 (dk_at dksX6_failsActor_4 7 rfl rfl)
theorem dX6_failsActor_101 : decode cX6_failsActor 101 = .ok (.iload_n 2, 1) := dk_28 (dk_at dksX6_failsActor_4 8 rfl rfl)
theorem dX6_failsActor_102 : decode cX6_failsActor 102 = .ok (.bipush 8, 2) := dk_16 8 (dk_at dksX6_failsActor_4 9 rfl rfl)
theorem dX6_failsActor_104 : decode cX6_failsActor 104 = .ok (.invokevirtual 83, 3) := dk_182 0 83 (dk_at dksX6_failsActor_4 11 rfl rfl)
theorem dX6_failsActor_107 : decode cX6_failsActor 107 = .ok (.iconst 1, 1) := dk_4 (dk_at dksX6_failsActor_4 14 rfl rfl)
theorem dX6_failsActor_108 : decode cX6_failsActor 108 = .ok (.iadd, 1) := dk_96 (dk_at dksX6_failsActor_4 15 rfl rfl)
theorem dX6_failsActor_109 : decode cX6_failsActor 109 = .ok (.invokevirtual 102, 3) := dk_182 0 102 (dk_at dksX6_failsActor_4 16 rfl rfl)
theorem dX6_failsActor_112 : decode cX6_failsActor 112 = .ok (.aload_n 0, 1) := dk_42 (dk_at dksX6_failsActor_4 19 rfl rfl)
theorem dX6_failsActor_113 : decode cX6_failsActor 113 = .ok (.iload_n 2, 1) := dk_28 (dk_at dksX6_failsActor_4 20 rfl rfl)
theorem dX6_failsActor_114 : decode cX6_failsActor 114 = .ok (.invokevirtual 198, 3) := dk_182 0 198 (dk_at dksX6_failsActor_4 21 rfl rfl)
theorem dX6_failsActor_117 : decode cX6_failsActor 117 = .ok (.goto 9, 3) := dk_167 0 9 (dk_at dksX6_failsActor_5 0 rfl rfl)
theorem dX6_failsActor_120 : decode cX6_failsActor 120 = .ok (.aload_n 0, 1) := dk_42 (dk_at dksX6_failsActor_5 3 rfl rfl)
theorem dX6_failsActor_121 : decode cX6_failsActor 121 = .ok (.iload_n 2, 1) := dk_28 (dk_at dksX6_failsActor_5 4 rfl rfl)
theorem dX6_failsActor_122 : decode cX6_failsActor 122 = .ok (.invokevirtual 158, 3) := dk_182 0 158 (dk_at dksX6_failsActor_5 5 rfl rfl)
theorem dX6_failsActor_125 : decode cX6_failsActor 125 = .ok (.pop, 1) := dk_87 (dk_at dksX6_failsActor_5 8 rfl rfl)
theorem dX6_failsActor_126 : decode cX6_failsActor 126 = .ok (.return_, 1) := dk_177 (dk_at dksX6_failsActor_5 9 rfl rfl)
abbrev cX6_restarts : ByteArray := prog_14_method_60_code
def yX6_restarts : MethodName := ⟨RX6, "restarts", "(I)V"⟩
def dkwX6_restarts_2 : List UInt8 := [167, 255, 219, 177]
abbrev dktX6_restarts_2 : List UInt8 := dkwX6_restarts_2 ++ []
def dkwX6_restarts_1 : List UInt8 := [153, 0, 19, 42, 28, 27, 182, 0, 91, 153, 0, 10, 42, 28, 5, 3, 182, 0, 102, 132, 2, 1]
abbrev dktX6_restarts_1 : List UInt8 := dkwX6_restarts_1 ++ dktX6_restarts_2
def dkwX6_restarts_0 : List UInt8 := [42, 27, 5, 3, 182, 0, 102, 3, 61, 28, 42, 180, 0, 13, 3, 46, 162, 0, 33, 42, 28, 182, 0, 87]
abbrev dktX6_restarts_0 : List UInt8 := dkwX6_restarts_0 ++ dktX6_restarts_1
theorem dksX6_restarts_0 : cX6_restarts.data.toList.drop 0 = dktX6_restarts_0 := by decide +kernel
theorem dksX6_restarts_1 : cX6_restarts.data.toList.drop 24 = dktX6_restarts_1 := dk_seg dksX6_restarts_0 24 rfl rfl
theorem dksX6_restarts_2 : cX6_restarts.data.toList.drop 46 = dktX6_restarts_2 := dk_seg dksX6_restarts_1 22 rfl rfl
theorem dX6_restarts_0 : decode cX6_restarts 0 = .ok (.aload_n 0, 1) := dk_42 (dk_at dksX6_restarts_0 0 rfl rfl)
theorem dX6_restarts_1 : decode cX6_restarts 1 = .ok (.iload_n 1, 1) := dk_27 (dk_at dksX6_restarts_0 1 rfl rfl)
theorem dX6_restarts_2 : decode cX6_restarts 2 = .ok (.iconst 2, 1) := dk_5 (dk_at dksX6_restarts_0 2 rfl rfl)
theorem dX6_restarts_3 : decode cX6_restarts 3 = .ok (.iconst 0, 1) := dk_3 (dk_at dksX6_restarts_0 3 rfl rfl)
theorem dX6_restarts_4 : decode cX6_restarts 4 = .ok (.invokevirtual 102, 3) := dk_182 0 102 (dk_at dksX6_restarts_0 4 rfl rfl)
theorem dX6_restarts_7 : decode cX6_restarts 7 = .ok (.iconst 0, 1) := dk_3 (dk_at dksX6_restarts_0 7 rfl rfl)
theorem dX6_restarts_8 : decode cX6_restarts 8 = .ok (.istore_n 2, 1) := dk_61 (dk_at dksX6_restarts_0 8 rfl rfl)
theorem dX6_restarts_9 : decode cX6_restarts 9 = .ok (.iload_n 2, 1) := dk_28 (dk_at dksX6_restarts_0 9 rfl rfl)
theorem dX6_restarts_10 : decode cX6_restarts 10 = .ok (.aload_n 0, 1) := dk_42 (dk_at dksX6_restarts_0 10 rfl rfl)
theorem dX6_restarts_11 : decode cX6_restarts 11 = .ok (.getfield 13, 3) := dk_180 0 13 (dk_at dksX6_restarts_0 11 rfl rfl)
theorem dX6_restarts_14 : decode cX6_restarts 14 = .ok (.iconst 0, 1) := dk_3 (dk_at dksX6_restarts_0 14 rfl rfl)
theorem dX6_restarts_15 : decode cX6_restarts 15 = .ok (.iaload, 1) := dk_46 (dk_at dksX6_restarts_0 15 rfl rfl)
theorem dX6_restarts_16 : decode cX6_restarts 16 = .ok (.if_icmp .ge 33, 3) := dk_162 0 33 (dk_at dksX6_restarts_0 16 rfl rfl)
theorem dX6_restarts_19 : decode cX6_restarts 19 = .ok (.aload_n 0, 1) := dk_42 (dk_at dksX6_restarts_0 19 rfl rfl)
theorem dX6_restarts_20 : decode cX6_restarts 20 = .ok (.iload_n 2, 1) := dk_28 (dk_at dksX6_restarts_0 20 rfl rfl)
theorem dX6_restarts_21 : decode cX6_restarts 21 = .ok (.invokevirtual 87, 3) := dk_182 0 87 (dk_at dksX6_restarts_0 21 rfl rfl)
theorem dX6_restarts_24 : decode cX6_restarts 24 = .ok (.ifCond .eq 19, 3) := dk_153 0 19 (dk_at dksX6_restarts_1 0 rfl rfl)
theorem dX6_restarts_27 : decode cX6_restarts 27 = .ok (.aload_n 0, 1) := dk_42 (dk_at dksX6_restarts_1 3 rfl rfl)
theorem dX6_restarts_28 : decode cX6_restarts 28 = .ok (.iload_n 2, 1) := dk_28 (dk_at dksX6_restarts_1 4 rfl rfl)
theorem dX6_restarts_29 : decode cX6_restarts 29 = .ok (.iload_n 1, 1) := dk_27 (dk_at dksX6_restarts_1 5 rfl rfl)
theorem dX6_restarts_30 : decode cX6_restarts 30 = .ok (.invokevirtual 91, 3) := dk_182 0 91 (dk_at dksX6_restarts_1 6 rfl rfl)
theorem dX6_restarts_33 : decode cX6_restarts 33 = .ok (.ifCond .eq 10, 3) := dk_153 0 10 (dk_at dksX6_restarts_1 9 rfl rfl)
theorem dX6_restarts_36 : decode cX6_restarts 36 = .ok (.aload_n 0, 1) := dk_42 (dk_at dksX6_restarts_1 12 rfl rfl)
theorem dX6_restarts_37 : decode cX6_restarts 37 = .ok (.iload_n 2, 1) := dk_28 (dk_at dksX6_restarts_1 13 rfl rfl)
theorem dX6_restarts_38 : decode cX6_restarts 38 = .ok (.iconst 2, 1) := dk_5 (dk_at dksX6_restarts_1 14 rfl rfl)
theorem dX6_restarts_39 : decode cX6_restarts 39 = .ok (.iconst 0, 1) := dk_3 (dk_at dksX6_restarts_1 15 rfl rfl)
theorem dX6_restarts_40 : decode cX6_restarts 40 = .ok (.invokevirtual 102, 3) := dk_182 0 102 (dk_at dksX6_restarts_1 16 rfl rfl)
theorem dX6_restarts_43 : decode cX6_restarts 43 = .ok (.iinc 2 1, 3) := dk_132 2 1 (dk_at dksX6_restarts_1 19 rfl rfl)
theorem dX6_restarts_46 : decode cX6_restarts 46 = .ok (.goto (-37), 3) := dk_167 255 219 (dk_at dksX6_restarts_2 0 rfl rfl)
theorem dX6_restarts_49 : decode cX6_restarts 49 = .ok (.return_, 1) := dk_177 (dk_at dksX6_restarts_2 3 rfl rfl)
abbrev cX6_passes : ByteArray := prog_14_method_62_code
def yX6_passes : MethodName := ⟨RX6, "passes", "(III)V"⟩
def dkwX6_passes_2 : List UInt8 := [96, 79, 177]
abbrev dktX6_passes_2 : List UInt8 := dkwX6_passes_2 ++ []
def dkwX6_passes_1 : List UInt8 := [21, 4, 7, 28, 104, 29, 96, 4, 96, 182, 0, 164, 167, 0, 14, 42, 180, 0, 13, 16, 6, 92, 46, 4]
abbrev dktX6_passes_1 : List UInt8 := dkwX6_passes_1 ++ dktX6_passes_2
def dkwX6_passes_0 : List UInt8 := [29, 5, 161, 0, 4, 177, 42, 27, 7, 182, 0, 83, 54, 4, 42, 21, 4, 182, 0, 87, 153, 0, 19, 42]
abbrev dktX6_passes_0 : List UInt8 := dkwX6_passes_0 ++ dktX6_passes_1
theorem dksX6_passes_0 : cX6_passes.data.toList.drop 0 = dktX6_passes_0 := by decide +kernel
theorem dksX6_passes_1 : cX6_passes.data.toList.drop 24 = dktX6_passes_1 := dk_seg dksX6_passes_0 24 rfl rfl
theorem dksX6_passes_2 : cX6_passes.data.toList.drop 48 = dktX6_passes_2 := dk_seg dksX6_passes_1 24 rfl rfl
theorem dX6_passes_0 : decode cX6_passes 0 = .ok (.iload_n 3, 1) := dk_29 (dk_at dksX6_passes_0 0 rfl rfl)
theorem dX6_passes_1 : decode cX6_passes 1 = .ok (.iconst 2, 1) := dk_5 (dk_at dksX6_passes_0 1 rfl rfl)
theorem dX6_passes_2 : decode cX6_passes 2 = .ok (.if_icmp .lt 4, 3) := dk_161 0 4 (dk_at dksX6_passes_0 2 rfl rfl)
theorem dX6_passes_5 : decode cX6_passes 5 = .ok (.return_, 1) := dk_177 (dk_at dksX6_passes_0 5 rfl rfl)
theorem dX6_passes_6 : decode cX6_passes 6 = .ok (.aload_n 0, 1) := dk_42 (dk_at dksX6_passes_0 6 rfl rfl)
theorem dX6_passes_7 : decode cX6_passes 7 = .ok (.iload_n 1, 1) := dk_27 (dk_at dksX6_passes_0 7 rfl rfl)
theorem dX6_passes_8 : decode cX6_passes 8 = .ok (.iconst 4, 1) := dk_7 (dk_at dksX6_passes_0 8 rfl rfl)
theorem dX6_passes_9 : decode cX6_passes 9 = .ok (.invokevirtual 83, 3) := dk_182 0 83 (dk_at dksX6_passes_0 9 rfl rfl)
theorem dX6_passes_12 : decode cX6_passes 12 = .ok (.istore 4, 2) := dk_54 4 (dk_at dksX6_passes_0 12 rfl rfl)
theorem dX6_passes_14 : decode cX6_passes 14 = .ok (.aload_n 0, 1) := dk_42 (dk_at dksX6_passes_0 14 rfl rfl)
theorem dX6_passes_15 : decode cX6_passes 15 = .ok (.iload 4, 2) := dk_21 4 (dk_at dksX6_passes_0 15 rfl rfl)
theorem dX6_passes_17 : decode cX6_passes 17 = .ok (.invokevirtual 87, 3) := dk_182 0 87 (dk_at dksX6_passes_0 17 rfl rfl)
theorem dX6_passes_20 : decode cX6_passes 20 = .ok (.ifCond .eq 19, 3) := dk_153 0 19 (dk_at dksX6_passes_0 20 rfl rfl)
theorem dX6_passes_23 : decode cX6_passes 23 = .ok (.aload_n 0, 1) := dk_42 (dk_at dksX6_passes_0 23 rfl rfl)
theorem dX6_passes_24 : decode cX6_passes 24 = .ok (.iload 4, 2) := dk_21 4 (dk_at dksX6_passes_1 0 rfl rfl)
theorem dX6_passes_26 : decode cX6_passes 26 = .ok (.iconst 4, 1) := dk_7 (dk_at dksX6_passes_1 2 rfl rfl)
theorem dX6_passes_27 : decode cX6_passes 27 = .ok (.iload_n 2, 1) := dk_28 (dk_at dksX6_passes_1 3 rfl rfl)
theorem dX6_passes_28 : decode cX6_passes 28 = .ok (.imul, 1) := dk_104 (dk_at dksX6_passes_1 4 rfl rfl)
theorem dX6_passes_29 : decode cX6_passes 29 = .ok (.iload_n 3, 1) := dk_29 (dk_at dksX6_passes_1 5 rfl rfl)
theorem dX6_passes_30 : decode cX6_passes 30 = .ok (.iadd, 1) := dk_96 (dk_at dksX6_passes_1 6 rfl rfl)
theorem dX6_passes_31 : decode cX6_passes 31 = .ok (.iconst 1, 1) := dk_4 (dk_at dksX6_passes_1 7 rfl rfl)
theorem dX6_passes_32 : decode cX6_passes 32 = .ok (.iadd, 1) := dk_96 (dk_at dksX6_passes_1 8 rfl rfl)
theorem dX6_passes_33 : decode cX6_passes 33 = .ok (.invokevirtual 164, 3) := dk_182 0 164 (dk_at dksX6_passes_1 9 rfl rfl)
theorem dX6_passes_36 : decode cX6_passes 36 = .ok (.goto 14, 3) := dk_167 0 14 (dk_at dksX6_passes_1 12 rfl rfl)
theorem dX6_passes_39 : decode cX6_passes 39 = .ok (.aload_n 0, 1) := dk_42 (dk_at dksX6_passes_1 15 rfl rfl)
theorem dX6_passes_40 : decode cX6_passes 40 = .ok (.getfield 13, 3) := dk_180 0 13 (dk_at dksX6_passes_1 16 rfl rfl)
theorem dX6_passes_43 : decode cX6_passes 43 = .ok (.bipush 6, 2) := dk_16 6 (dk_at dksX6_passes_1 19 rfl rfl)
theorem dX6_passes_45 : decode cX6_passes 45 = .ok (.dup2, 1) := dk_92 (dk_at dksX6_passes_1 21 rfl rfl)
theorem dX6_passes_46 : decode cX6_passes 46 = .ok (.iaload, 1) := dk_46 (dk_at dksX6_passes_1 22 rfl rfl)
theorem dX6_passes_47 : decode cX6_passes 47 = .ok (.iconst 1, 1) := dk_4 (dk_at dksX6_passes_1 23 rfl rfl)
theorem dX6_passes_48 : decode cX6_passes 48 = .ok (.iadd, 1) := dk_96 (dk_at dksX6_passes_2 0 rfl rfl)
theorem dX6_passes_49 : decode cX6_passes 49 = .ok (.iastore, 1) := dk_79 (dk_at dksX6_passes_2 1 rfl rfl)
theorem dX6_passes_50 : decode cX6_passes 50 = .ok (.return_, 1) := dk_177 (dk_at dksX6_passes_2 2 rfl rfl)
abbrev cX6_actors : ByteArray := prog_14_method_77_code
def yX6_actors : MethodName := ⟨RX6, "actors", "()I"⟩
def dkwX6_actors_0 : List UInt8 := [42, 3, 182, 0, 250, 172]
abbrev dktX6_actors_0 : List UInt8 := dkwX6_actors_0 ++ []
theorem dksX6_actors_0 : cX6_actors.data.toList.drop 0 = dktX6_actors_0 := by decide +kernel
theorem dX6_actors_0 : decode cX6_actors 0 = .ok (.aload_n 0, 1) := dk_42 (dk_at dksX6_actors_0 0 rfl rfl)
theorem dX6_actors_1 : decode cX6_actors 1 = .ok (.iconst 0, 1) := dk_3 (dk_at dksX6_actors_0 1 rfl rfl)
theorem dX6_actors_2 : decode cX6_actors 2 = .ok (.invokevirtual 250, 3) := dk_182 0 250 (dk_at dksX6_actors_0 2 rfl rfl)
theorem dX6_actors_5 : decode cX6_actors 5 = .ok (.ireturn, 1) := dk_172 (dk_at dksX6_actors_0 5 rfl rfl)
abbrev cX6_told : ByteArray := prog_14_method_75_code
def yX6_told : MethodName := ⟨RX6, "told", "(I)I"⟩
def dkwX6_told_0 : List UInt8 := [42, 3, 181, 0, 1, 42, 180, 0, 13, 27, 46, 172]
abbrev dktX6_told_0 : List UInt8 := dkwX6_told_0 ++ []
theorem dksX6_told_0 : cX6_told.data.toList.drop 0 = dktX6_told_0 := by decide +kernel
theorem dX6_told_0 : decode cX6_told 0 = .ok (.aload_n 0, 1) := dk_42 (dk_at dksX6_told_0 0 rfl rfl)
theorem dX6_told_1 : decode cX6_told 1 = .ok (.iconst 0, 1) := dk_3 (dk_at dksX6_told_0 1 rfl rfl)
theorem dX6_told_2 : decode cX6_told 2 = .ok (.putfield 1, 3) := dk_181 0 1 (dk_at dksX6_told_0 2 rfl rfl)
theorem dX6_told_5 : decode cX6_told 5 = .ok (.aload_n 0, 1) := dk_42 (dk_at dksX6_told_0 5 rfl rfl)
theorem dX6_told_6 : decode cX6_told 6 = .ok (.getfield 13, 3) := dk_180 0 13 (dk_at dksX6_told_0 6 rfl rfl)
theorem dX6_told_9 : decode cX6_told 9 = .ok (.iload_n 1, 1) := dk_27 (dk_at dksX6_told_0 9 rfl rfl)
theorem dX6_told_10 : decode cX6_told 10 = .ok (.iaload, 1) := dk_46 (dk_at dksX6_told_0 10 rfl rfl)
theorem dX6_told_11 : decode cX6_told 11 = .ok (.ireturn, 1) := dk_172 (dk_at dksX6_told_0 11 rfl rfl)
abbrev cX6_running : ByteArray := prog_14_method_78_code
def yX6_running : MethodName := ⟨RX6, "running", "()I"⟩
def dkwX6_running_0 : List UInt8 := [42, 3, 181, 0, 1, 42, 182, 0, 148, 172]
abbrev dktX6_running_0 : List UInt8 := dkwX6_running_0 ++ []
theorem dksX6_running_0 : cX6_running.data.toList.drop 0 = dktX6_running_0 := by decide +kernel
theorem dX6_running_0 : decode cX6_running 0 = .ok (.aload_n 0, 1) := dk_42 (dk_at dksX6_running_0 0 rfl rfl)
theorem dX6_running_1 : decode cX6_running 1 = .ok (.iconst 0, 1) := dk_3 (dk_at dksX6_running_0 1 rfl rfl)
theorem dX6_running_2 : decode cX6_running 2 = .ok (.putfield 1, 3) := dk_181 0 1 (dk_at dksX6_running_0 2 rfl rfl)
theorem dX6_running_5 : decode cX6_running 5 = .ok (.aload_n 0, 1) := dk_42 (dk_at dksX6_running_0 5 rfl rfl)
theorem dX6_running_6 : decode cX6_running 6 = .ok (.invokevirtual 148, 3) := dk_182 0 148 (dk_at dksX6_running_0 6 rfl rfl)
theorem dX6_running_9 : decode cX6_running 9 = .ok (.ireturn, 1) := dk_172 (dk_at dksX6_running_0 9 rfl rfl)
abbrev cX6_isStopped : ByteArray := prog_14_method_79_code
def yX6_isStopped : MethodName := ⟨RX6, "isStopped", "(I)Z"⟩
def dkwX6_isStopped_0 : List UInt8 := [42, 27, 16, 7, 182, 0, 253, 4, 160, 0, 7, 4, 167, 0, 4, 3, 172]
abbrev dktX6_isStopped_0 : List UInt8 := dkwX6_isStopped_0 ++ []
theorem dksX6_isStopped_0 : cX6_isStopped.data.toList.drop 0 = dktX6_isStopped_0 := by decide +kernel
theorem dX6_isStopped_0 : decode cX6_isStopped 0 = .ok (.aload_n 0, 1) := dk_42 (dk_at dksX6_isStopped_0 0 rfl rfl)
theorem dX6_isStopped_1 : decode cX6_isStopped 1 = .ok (.iload_n 1, 1) := dk_27 (dk_at dksX6_isStopped_0 1 rfl rfl)
theorem dX6_isStopped_2 : decode cX6_isStopped 2 = .ok (.bipush 7, 2) := dk_16 7 (dk_at dksX6_isStopped_0 2 rfl rfl)
theorem dX6_isStopped_4 : decode cX6_isStopped 4 = .ok (.invokevirtual 253, 3) := dk_182 0 253 (dk_at dksX6_isStopped_0 4 rfl rfl)
theorem dX6_isStopped_7 : decode cX6_isStopped 7 = .ok (.iconst 1, 1) := dk_4 (dk_at dksX6_isStopped_0 7 rfl rfl)
theorem dX6_isStopped_8 : decode cX6_isStopped 8 = .ok (.if_icmp .ne 7, 3) := dk_160 0 7 (dk_at dksX6_isStopped_0 8 rfl rfl)
theorem dX6_isStopped_11 : decode cX6_isStopped 11 = .ok (.iconst 1, 1) := dk_4 (dk_at dksX6_isStopped_0 11 rfl rfl)
theorem dX6_isStopped_12 : decode cX6_isStopped 12 = .ok (.goto 4, 3) := dk_167 0 4 (dk_at dksX6_isStopped_0 12 rfl rfl)
theorem dX6_isStopped_15 : decode cX6_isStopped 15 = .ok (.iconst 0, 1) := dk_3 (dk_at dksX6_isStopped_0 15 rfl rfl)
theorem dX6_isStopped_16 : decode cX6_isStopped 16 = .ok (.ireturn, 1) := dk_172 (dk_at dksX6_isStopped_0 16 rfl rfl)
abbrev cX6_toldOf : ByteArray := prog_14_method_76_code
def yX6_toldOf : MethodName := ⟨RX6, "toldOf", "(II)I"⟩
def dkwX6_toldOf_1 : List UInt8 := [182, 0, 75, 172]
abbrev dktX6_toldOf_1 : List UInt8 := dkwX6_toldOf_1 ++ []
def dkwX6_toldOf_0 : List UInt8 := [42, 3, 181, 0, 1, 42, 27, 182, 0, 118, 153, 0, 12, 42, 27, 28, 182, 0, 83, 167, 0, 8, 42, 4]
abbrev dktX6_toldOf_0 : List UInt8 := dkwX6_toldOf_0 ++ dktX6_toldOf_1
theorem dksX6_toldOf_0 : cX6_toldOf.data.toList.drop 0 = dktX6_toldOf_0 := by decide +kernel
theorem dksX6_toldOf_1 : cX6_toldOf.data.toList.drop 24 = dktX6_toldOf_1 := dk_seg dksX6_toldOf_0 24 rfl rfl
theorem dX6_toldOf_0 : decode cX6_toldOf 0 = .ok (.aload_n 0, 1) := dk_42 (dk_at dksX6_toldOf_0 0 rfl rfl)
theorem dX6_toldOf_1 : decode cX6_toldOf 1 = .ok (.iconst 0, 1) := dk_3 (dk_at dksX6_toldOf_0 1 rfl rfl)
theorem dX6_toldOf_2 : decode cX6_toldOf 2 = .ok (.putfield 1, 3) := dk_181 0 1 (dk_at dksX6_toldOf_0 2 rfl rfl)
theorem dX6_toldOf_5 : decode cX6_toldOf 5 = .ok (.aload_n 0, 1) := dk_42 (dk_at dksX6_toldOf_0 5 rfl rfl)
theorem dX6_toldOf_6 : decode cX6_toldOf 6 = .ok (.iload_n 1, 1) := dk_27 (dk_at dksX6_toldOf_0 6 rfl rfl)
theorem dX6_toldOf_7 : decode cX6_toldOf 7 = .ok (.invokevirtual 118, 3) := dk_182 0 118 (dk_at dksX6_toldOf_0 7 rfl rfl)
theorem dX6_toldOf_10 : decode cX6_toldOf 10 = .ok (.ifCond .eq 12, 3) := dk_153 0 12 (dk_at dksX6_toldOf_0 10 rfl rfl)
theorem dX6_toldOf_13 : decode cX6_toldOf 13 = .ok (.aload_n 0, 1) := dk_42 (dk_at dksX6_toldOf_0 13 rfl rfl)
theorem dX6_toldOf_14 : decode cX6_toldOf 14 = .ok (.iload_n 1, 1) := dk_27 (dk_at dksX6_toldOf_0 14 rfl rfl)
theorem dX6_toldOf_15 : decode cX6_toldOf 15 = .ok (.iload_n 2, 1) := dk_28 (dk_at dksX6_toldOf_0 15 rfl rfl)
theorem dX6_toldOf_16 : decode cX6_toldOf 16 = .ok (.invokevirtual 83, 3) := dk_182 0 83 (dk_at dksX6_toldOf_0 16 rfl rfl)
theorem dX6_toldOf_19 : decode cX6_toldOf 19 = .ok (.goto 8, 3) := dk_167 0 8 (dk_at dksX6_toldOf_0 19 rfl rfl)
theorem dX6_toldOf_22 : decode cX6_toldOf 22 = .ok (.aload_n 0, 1) := dk_42 (dk_at dksX6_toldOf_0 22 rfl rfl)
theorem dX6_toldOf_23 : decode cX6_toldOf 23 = .ok (.iconst 1, 1) := dk_4 (dk_at dksX6_toldOf_0 23 rfl rfl)
theorem dX6_toldOf_24 : decode cX6_toldOf 24 = .ok (.invokevirtual 75, 3) := dk_182 0 75 (dk_at dksX6_toldOf_1 0 rfl rfl)
theorem dX6_toldOf_27 : decode cX6_toldOf 27 = .ok (.ireturn, 1) := dk_172 (dk_at dksX6_toldOf_1 3 rfl rfl)
abbrev cX6_kind : ByteArray := prog_14_method_80_code
def yX6_kind : MethodName := ⟨RX6, "kind", "(I)C"⟩
def dkwX6_kind_0 : List UInt8 := [42, 27, 3, 182, 0, 253, 146, 172]
abbrev dktX6_kind_0 : List UInt8 := dkwX6_kind_0 ++ []
theorem dksX6_kind_0 : cX6_kind.data.toList.drop 0 = dktX6_kind_0 := by decide +kernel
theorem dX6_kind_0 : decode cX6_kind 0 = .ok (.aload_n 0, 1) := dk_42 (dk_at dksX6_kind_0 0 rfl rfl)
theorem dX6_kind_1 : decode cX6_kind 1 = .ok (.iload_n 1, 1) := dk_27 (dk_at dksX6_kind_0 1 rfl rfl)
theorem dX6_kind_2 : decode cX6_kind 2 = .ok (.iconst 0, 1) := dk_3 (dk_at dksX6_kind_0 2 rfl rfl)
theorem dX6_kind_3 : decode cX6_kind 3 = .ok (.invokevirtual 253, 3) := dk_182 0 253 (dk_at dksX6_kind_0 3 rfl rfl)
theorem dX6_kind_6 : decode cX6_kind 6 = .ok (.i2c, 1) := dk_146 (dk_at dksX6_kind_0 6 rfl rfl)
theorem dX6_kind_7 : decode cX6_kind 7 = .ok (.ireturn, 1) := dk_172 (dk_at dksX6_kind_0 7 rfl rfl)
abbrev cX6_sum : ByteArray := prog_14_method_81_code
def yX6_sum : MethodName := ⟨RX6, "sum", "(I)I"⟩
def dkwX6_sum_0 : List UInt8 := [42, 27, 5, 182, 0, 253, 172]
abbrev dktX6_sum_0 : List UInt8 := dkwX6_sum_0 ++ []
theorem dksX6_sum_0 : cX6_sum.data.toList.drop 0 = dktX6_sum_0 := by decide +kernel
theorem dX6_sum_0 : decode cX6_sum 0 = .ok (.aload_n 0, 1) := dk_42 (dk_at dksX6_sum_0 0 rfl rfl)
theorem dX6_sum_1 : decode cX6_sum 1 = .ok (.iload_n 1, 1) := dk_27 (dk_at dksX6_sum_0 1 rfl rfl)
theorem dX6_sum_2 : decode cX6_sum 2 = .ok (.iconst 2, 1) := dk_5 (dk_at dksX6_sum_0 2 rfl rfl)
theorem dX6_sum_3 : decode cX6_sum 3 = .ok (.invokevirtual 253, 3) := dk_182 0 253 (dk_at dksX6_sum_0 3 rfl rfl)
theorem dX6_sum_6 : decode cX6_sum 6 = .ok (.ireturn, 1) := dk_172 (dk_at dksX6_sum_0 6 rfl rfl)
abbrev cX6_supervisor : ByteArray := prog_14_method_82_code
def yX6_supervisor : MethodName := ⟨RX6, "supervisor", "(I)I"⟩
def dkwX6_supervisor_1 : List UInt8 := [182, 0, 83, 156, 0, 11, 42, 5, 182, 0, 75, 167, 0, 10, 42, 27, 16, 6, 182, 0, 83, 172]
abbrev dktX6_supervisor_1 : List UInt8 := dkwX6_supervisor_1 ++ []
def dkwX6_supervisor_0 : List UInt8 := [42, 3, 181, 0, 1, 42, 27, 182, 0, 118, 154, 0, 9, 42, 4, 182, 0, 75, 172, 42, 27, 16, 6]
abbrev dktX6_supervisor_0 : List UInt8 := dkwX6_supervisor_0 ++ dktX6_supervisor_1
theorem dksX6_supervisor_0 : cX6_supervisor.data.toList.drop 0 = dktX6_supervisor_0 := by decide +kernel
theorem dksX6_supervisor_1 : cX6_supervisor.data.toList.drop 23 = dktX6_supervisor_1 := dk_seg dksX6_supervisor_0 23 rfl rfl
theorem dX6_supervisor_0 : decode cX6_supervisor 0 = .ok (.aload_n 0, 1) := dk_42 (dk_at dksX6_supervisor_0 0 rfl rfl)
theorem dX6_supervisor_1 : decode cX6_supervisor 1 = .ok (.iconst 0, 1) := dk_3 (dk_at dksX6_supervisor_0 1 rfl rfl)
theorem dX6_supervisor_2 : decode cX6_supervisor 2 = .ok (.putfield 1, 3) := dk_181 0 1 (dk_at dksX6_supervisor_0 2 rfl rfl)
theorem dX6_supervisor_5 : decode cX6_supervisor 5 = .ok (.aload_n 0, 1) := dk_42 (dk_at dksX6_supervisor_0 5 rfl rfl)
theorem dX6_supervisor_6 : decode cX6_supervisor 6 = .ok (.iload_n 1, 1) := dk_27 (dk_at dksX6_supervisor_0 6 rfl rfl)
theorem dX6_supervisor_7 : decode cX6_supervisor 7 = .ok (.invokevirtual 118, 3) := dk_182 0 118 (dk_at dksX6_supervisor_0 7 rfl rfl)
theorem dX6_supervisor_10 : decode cX6_supervisor 10 = .ok (.ifCond .ne 9, 3) := dk_154 0 9 (dk_at dksX6_supervisor_0 10 rfl rfl)
theorem dX6_supervisor_13 : decode cX6_supervisor 13 = .ok (.aload_n 0, 1) := dk_42 (dk_at dksX6_supervisor_0 13 rfl rfl)
theorem dX6_supervisor_14 : decode cX6_supervisor 14 = .ok (.iconst 1, 1) := dk_4 (dk_at dksX6_supervisor_0 14 rfl rfl)
theorem dX6_supervisor_15 : decode cX6_supervisor 15 = .ok (.invokevirtual 75, 3) := dk_182 0 75 (dk_at dksX6_supervisor_0 15 rfl rfl)
theorem dX6_supervisor_18 : decode cX6_supervisor 18 = .ok (.ireturn, 1) := dk_172 (dk_at dksX6_supervisor_0 18 rfl rfl)
theorem dX6_supervisor_19 : decode cX6_supervisor 19 = .ok (.aload_n 0, 1) := dk_42 (dk_at dksX6_supervisor_0 19 rfl rfl)
theorem dX6_supervisor_20 : decode cX6_supervisor 20 = .ok (.iload_n 1, 1) := dk_27 (dk_at dksX6_supervisor_0 20 rfl rfl)
theorem dX6_supervisor_21 : decode cX6_supervisor 21 = .ok (.bipush 6, 2) := dk_16 6 (dk_at dksX6_supervisor_0 21 rfl rfl)
theorem dX6_supervisor_23 : decode cX6_supervisor 23 = .ok (.invokevirtual 83, 3) := dk_182 0 83 (dk_at dksX6_supervisor_1 0 rfl rfl)
theorem dX6_supervisor_26 : decode cX6_supervisor 26 = .ok (.ifCond .ge 11, 3) := dk_156 0 11 (dk_at dksX6_supervisor_1 3 rfl rfl)
theorem dX6_supervisor_29 : decode cX6_supervisor 29 = .ok (.aload_n 0, 1) := dk_42 (dk_at dksX6_supervisor_1 6 rfl rfl)
theorem dX6_supervisor_30 : decode cX6_supervisor 30 = .ok (.iconst 2, 1) := dk_5 (dk_at dksX6_supervisor_1 7 rfl rfl)
theorem dX6_supervisor_31 : decode cX6_supervisor 31 = .ok (.invokevirtual 75, 3) := dk_182 0 75 (dk_at dksX6_supervisor_1 8 rfl rfl)
theorem dX6_supervisor_34 : decode cX6_supervisor 34 = .ok (.goto 10, 3) := dk_167 0 10 (dk_at dksX6_supervisor_1 11 rfl rfl)
theorem dX6_supervisor_37 : decode cX6_supervisor 37 = .ok (.aload_n 0, 1) := dk_42 (dk_at dksX6_supervisor_1 14 rfl rfl)
theorem dX6_supervisor_38 : decode cX6_supervisor 38 = .ok (.iload_n 1, 1) := dk_27 (dk_at dksX6_supervisor_1 15 rfl rfl)
theorem dX6_supervisor_39 : decode cX6_supervisor 39 = .ok (.bipush 6, 2) := dk_16 6 (dk_at dksX6_supervisor_1 16 rfl rfl)
theorem dX6_supervisor_41 : decode cX6_supervisor 41 = .ok (.invokevirtual 83, 3) := dk_182 0 83 (dk_at dksX6_supervisor_1 18 rfl rfl)
theorem dX6_supervisor_44 : decode cX6_supervisor 44 = .ok (.ireturn, 1) := dk_172 (dk_at dksX6_supervisor_1 21 rfl rfl)
abbrev cX6_below : ByteArray := prog_14_method_83_code
def yX6_below : MethodName := ⟨RX6, "below", "(I)I"⟩
def dkwX6_below_1 : List UInt8 := [182, 0, 75, 172]
abbrev dktX6_below_1 : List UInt8 := dkwX6_below_1 ++ []
def dkwX6_below_0 : List UInt8 := [42, 3, 181, 0, 1, 42, 27, 182, 0, 118, 153, 0, 11, 42, 27, 182, 0, 127, 167, 0, 8, 42, 4]
abbrev dktX6_below_0 : List UInt8 := dkwX6_below_0 ++ dktX6_below_1
theorem dksX6_below_0 : cX6_below.data.toList.drop 0 = dktX6_below_0 := by decide +kernel
theorem dksX6_below_1 : cX6_below.data.toList.drop 23 = dktX6_below_1 := dk_seg dksX6_below_0 23 rfl rfl
theorem dX6_below_0 : decode cX6_below 0 = .ok (.aload_n 0, 1) := dk_42 (dk_at dksX6_below_0 0 rfl rfl)
theorem dX6_below_1 : decode cX6_below 1 = .ok (.iconst 0, 1) := dk_3 (dk_at dksX6_below_0 1 rfl rfl)
theorem dX6_below_2 : decode cX6_below 2 = .ok (.putfield 1, 3) := dk_181 0 1 (dk_at dksX6_below_0 2 rfl rfl)
theorem dX6_below_5 : decode cX6_below 5 = .ok (.aload_n 0, 1) := dk_42 (dk_at dksX6_below_0 5 rfl rfl)
theorem dX6_below_6 : decode cX6_below 6 = .ok (.iload_n 1, 1) := dk_27 (dk_at dksX6_below_0 6 rfl rfl)
theorem dX6_below_7 : decode cX6_below 7 = .ok (.invokevirtual 118, 3) := dk_182 0 118 (dk_at dksX6_below_0 7 rfl rfl)
theorem dX6_below_10 : decode cX6_below 10 = .ok (.ifCond .eq 11, 3) := dk_153 0 11 (dk_at dksX6_below_0 10 rfl rfl)
theorem dX6_below_13 : decode cX6_below 13 = .ok (.aload_n 0, 1) := dk_42 (dk_at dksX6_below_0 13 rfl rfl)
theorem dX6_below_14 : decode cX6_below 14 = .ok (.iload_n 1, 1) := dk_27 (dk_at dksX6_below_0 14 rfl rfl)
theorem dX6_below_15 : decode cX6_below 15 = .ok (.invokevirtual 127, 3) := dk_182 0 127 (dk_at dksX6_below_0 15 rfl rfl)
theorem dX6_below_18 : decode cX6_below 18 = .ok (.goto 8, 3) := dk_167 0 8 (dk_at dksX6_below_0 18 rfl rfl)
theorem dX6_below_21 : decode cX6_below 21 = .ok (.aload_n 0, 1) := dk_42 (dk_at dksX6_below_0 21 rfl rfl)
theorem dX6_below_22 : decode cX6_below 22 = .ok (.iconst 1, 1) := dk_4 (dk_at dksX6_below_0 22 rfl rfl)
theorem dX6_below_23 : decode cX6_below 23 = .ok (.invokevirtual 75, 3) := dk_182 0 75 (dk_at dksX6_below_1 0 rfl rfl)
theorem dX6_below_26 : decode cX6_below 26 = .ok (.ireturn, 1) := dk_172 (dk_at dksX6_below_1 3 rfl rfl)
abbrev cX6_belowByGoingDown : ByteArray := prog_14_method_84_code
def yX6_belowByGoingDown : MethodName := ⟨RX6, "belowByGoingDown", "(I)I"⟩
def dkwX6_belowByGoingDown_0 : List UInt8 := [42, 27, 182, 1, 0, 172]
abbrev dktX6_belowByGoingDown_0 : List UInt8 := dkwX6_belowByGoingDown_0 ++ []
theorem dksX6_belowByGoingDown_0 : cX6_belowByGoingDown.data.toList.drop 0 = dktX6_belowByGoingDown_0 := by decide +kernel
theorem dX6_belowByGoingDown_0 : decode cX6_belowByGoingDown 0 = .ok (.aload_n 0, 1) := dk_42 (dk_at dksX6_belowByGoingDown_0 0 rfl rfl)
theorem dX6_belowByGoingDown_1 : decode cX6_belowByGoingDown 1 = .ok (.iload_n 1, 1) := dk_27 (dk_at dksX6_belowByGoingDown_0 1 rfl rfl)
theorem dX6_belowByGoingDown_2 : decode cX6_belowByGoingDown 2 = .ok (.invokevirtual 256, 3) := dk_182 1 0 (dk_at dksX6_belowByGoingDown_0 2 rfl rfl)
theorem dX6_belowByGoingDown_5 : decode cX6_belowByGoingDown 5 = .ok (.ireturn, 1) := dk_172 (dk_at dksX6_belowByGoingDown_0 5 rfl rfl)
abbrev cX6_actorBySum : ByteArray := prog_14_method_86_code
def yX6_actorBySum : MethodName := ⟨RX6, "actorBySum", "(I)I"⟩
def dkwX6_actorBySum_3 : List UInt8 := [182, 0, 75, 172]
abbrev dktX6_actorBySum_3 : List UInt8 := dkwX6_actorBySum_3 ++ []
def dkwX6_actorBySum_2 : List UInt8 := [3, 96, 62, 132, 4, 1, 167, 255, 224, 29, 27, 160, 0, 5, 28, 172, 132, 2, 1, 167, 255, 196, 42, 4]
abbrev dktX6_actorBySum_2 : List UInt8 := dkwX6_actorBySum_2 ++ dktX6_actorBySum_3
def dkwX6_actorBySum_1 : List UInt8 := [42, 180, 0, 13, 3, 46, 162, 0, 27, 29, 42, 21, 4, 28, 182, 1, 3, 153, 0, 7, 4, 167, 0, 4]
abbrev dktX6_actorBySum_1 : List UInt8 := dkwX6_actorBySum_1 ++ dktX6_actorBySum_2
def dkwX6_actorBySum_0 : List UInt8 := [42, 3, 181, 0, 1, 3, 61, 28, 42, 180, 0, 13, 3, 46, 162, 0, 56, 3, 62, 3, 54, 4, 21, 4]
abbrev dktX6_actorBySum_0 : List UInt8 := dkwX6_actorBySum_0 ++ dktX6_actorBySum_1
theorem dksX6_actorBySum_0 : cX6_actorBySum.data.toList.drop 0 = dktX6_actorBySum_0 := by decide +kernel
theorem dksX6_actorBySum_1 : cX6_actorBySum.data.toList.drop 24 = dktX6_actorBySum_1 := dk_seg dksX6_actorBySum_0 24 rfl rfl
theorem dksX6_actorBySum_2 : cX6_actorBySum.data.toList.drop 48 = dktX6_actorBySum_2 := dk_seg dksX6_actorBySum_1 24 rfl rfl
theorem dksX6_actorBySum_3 : cX6_actorBySum.data.toList.drop 72 = dktX6_actorBySum_3 := dk_seg dksX6_actorBySum_2 24 rfl rfl
theorem dX6_actorBySum_0 : decode cX6_actorBySum 0 = .ok (.aload_n 0, 1) := dk_42 (dk_at dksX6_actorBySum_0 0 rfl rfl)
theorem dX6_actorBySum_1 : decode cX6_actorBySum 1 = .ok (.iconst 0, 1) := dk_3 (dk_at dksX6_actorBySum_0 1 rfl rfl)
theorem dX6_actorBySum_2 : decode cX6_actorBySum 2 = .ok (.putfield 1, 3) := dk_181 0 1 (dk_at dksX6_actorBySum_0 2 rfl rfl)
theorem dX6_actorBySum_5 : decode cX6_actorBySum 5 = .ok (.iconst 0, 1) := dk_3 (dk_at dksX6_actorBySum_0 5 rfl rfl)
theorem dX6_actorBySum_6 : decode cX6_actorBySum 6 = .ok (.istore_n 2, 1) := dk_61 (dk_at dksX6_actorBySum_0 6 rfl rfl)
theorem dX6_actorBySum_7 : decode cX6_actorBySum 7 = .ok (.iload_n 2, 1) := dk_28 (dk_at dksX6_actorBySum_0 7 rfl rfl)
theorem dX6_actorBySum_8 : decode cX6_actorBySum 8 = .ok (.aload_n 0, 1) := dk_42 (dk_at dksX6_actorBySum_0 8 rfl rfl)
theorem dX6_actorBySum_9 : decode cX6_actorBySum 9 = .ok (.getfield 13, 3) := dk_180 0 13 (dk_at dksX6_actorBySum_0 9 rfl rfl)
theorem dX6_actorBySum_12 : decode cX6_actorBySum 12 = .ok (.iconst 0, 1) := dk_3 (dk_at dksX6_actorBySum_0 12 rfl rfl)
theorem dX6_actorBySum_13 : decode cX6_actorBySum 13 = .ok (.iaload, 1) := dk_46 (dk_at dksX6_actorBySum_0 13 rfl rfl)
theorem dX6_actorBySum_14 : decode cX6_actorBySum 14 = .ok (.if_icmp .ge 56, 3) := dk_162 0 56 (dk_at dksX6_actorBySum_0 14 rfl rfl)
theorem dX6_actorBySum_17 : decode cX6_actorBySum 17 = .ok (.iconst 0, 1) := dk_3 (dk_at dksX6_actorBySum_0 17 rfl rfl)
theorem dX6_actorBySum_18 : decode cX6_actorBySum 18 = .ok (.istore_n 3, 1) := dk_62 (dk_at dksX6_actorBySum_0 18 rfl rfl)
theorem dX6_actorBySum_19 : decode cX6_actorBySum 19 = .ok (.iconst 0, 1) := dk_3 (dk_at dksX6_actorBySum_0 19 rfl rfl)
theorem dX6_actorBySum_20 : decode cX6_actorBySum 20 = .ok (.istore 4, 2) := dk_54 4 (dk_at dksX6_actorBySum_0 20 rfl rfl)
theorem dX6_actorBySum_22 : decode cX6_actorBySum 22 = .ok (.iload 4, 2) := dk_21 4 (dk_at dksX6_actorBySum_0 22 rfl rfl)
theorem dX6_actorBySum_24 : decode cX6_actorBySum 24 = .ok (.aload_n 0, 1) := dk_42 (dk_at dksX6_actorBySum_1 0 rfl rfl)
theorem dX6_actorBySum_25 : decode cX6_actorBySum 25 = .ok (.getfield 13, 3) := dk_180 0 13 (dk_at dksX6_actorBySum_1 1 rfl rfl)
theorem dX6_actorBySum_28 : decode cX6_actorBySum 28 = .ok (.iconst 0, 1) := dk_3 (dk_at dksX6_actorBySum_1 4 rfl rfl)
theorem dX6_actorBySum_29 : decode cX6_actorBySum 29 = .ok (.iaload, 1) := dk_46 (dk_at dksX6_actorBySum_1 5 rfl rfl)
theorem dX6_actorBySum_30 : decode cX6_actorBySum 30 = .ok (.if_icmp .ge 27, 3) := dk_162 0 27 (dk_at dksX6_actorBySum_1 6 rfl rfl)
theorem dX6_actorBySum_33 : decode cX6_actorBySum 33 = .ok (.iload_n 3, 1) := dk_29 (dk_at dksX6_actorBySum_1 9 rfl rfl)
theorem dX6_actorBySum_34 : decode cX6_actorBySum 34 = .ok (.aload_n 0, 1) := dk_42 (dk_at dksX6_actorBySum_1 10 rfl rfl)
theorem dX6_actorBySum_35 : decode cX6_actorBySum 35 = .ok (.iload 4, 2) := dk_21 4 (dk_at dksX6_actorBySum_1 11 rfl rfl)
theorem dX6_actorBySum_37 : decode cX6_actorBySum 37 = .ok (.iload_n 2, 1) := dk_28 (dk_at dksX6_actorBySum_1 13 rfl rfl)
theorem dX6_actorBySum_38 : decode cX6_actorBySum 38 = .ok (.invokevirtual 259, 3) := dk_182 1 3 (dk_at dksX6_actorBySum_1 14 rfl rfl)
theorem dX6_actorBySum_41 : decode cX6_actorBySum 41 = .ok (.ifCond .eq 7, 3) := dk_153 0 7 (dk_at dksX6_actorBySum_1 17 rfl rfl)
theorem dX6_actorBySum_44 : decode cX6_actorBySum 44 = .ok (.iconst 1, 1) := dk_4 (dk_at dksX6_actorBySum_1 20 rfl rfl)
theorem dX6_actorBySum_45 : decode cX6_actorBySum 45 = .ok (.goto 4, 3) := dk_167 0 4 (dk_at dksX6_actorBySum_1 21 rfl rfl)
theorem dX6_actorBySum_48 : decode cX6_actorBySum 48 = .ok (.iconst 0, 1) := dk_3 (dk_at dksX6_actorBySum_2 0 rfl rfl)
theorem dX6_actorBySum_49 : decode cX6_actorBySum 49 = .ok (.iadd, 1) := dk_96 (dk_at dksX6_actorBySum_2 1 rfl rfl)
theorem dX6_actorBySum_50 : decode cX6_actorBySum 50 = .ok (.istore_n 3, 1) := dk_62 (dk_at dksX6_actorBySum_2 2 rfl rfl)
theorem dX6_actorBySum_51 : decode cX6_actorBySum 51 = .ok (.iinc 4 1, 3) := dk_132 4 1 (dk_at dksX6_actorBySum_2 3 rfl rfl)
theorem dX6_actorBySum_54 : decode cX6_actorBySum 54 = .ok (.goto (-32), 3) := dk_167 255 224 (dk_at dksX6_actorBySum_2 6 rfl rfl)
theorem dX6_actorBySum_57 : decode cX6_actorBySum 57 = .ok (.iload_n 3, 1) := dk_29 (dk_at dksX6_actorBySum_2 9 rfl rfl)
theorem dX6_actorBySum_58 : decode cX6_actorBySum 58 = .ok (.iload_n 1, 1) := dk_27 (dk_at dksX6_actorBySum_2 10 rfl rfl)
theorem dX6_actorBySum_59 : decode cX6_actorBySum 59 = .ok (.if_icmp .ne 5, 3) := dk_160 0 5 (dk_at dksX6_actorBySum_2 11 rfl rfl)
theorem dX6_actorBySum_62 : decode cX6_actorBySum 62 = .ok (.iload_n 2, 1) := dk_28 (dk_at dksX6_actorBySum_2 14 rfl rfl)
theorem dX6_actorBySum_63 : decode cX6_actorBySum 63 = .ok (.ireturn, 1) := dk_172 (dk_at dksX6_actorBySum_2 15 rfl rfl)
theorem dX6_actorBySum_64 : decode cX6_actorBySum 64 = .ok (.iinc 2 1, 3) := dk_132 2 1 (dk_at dksX6_actorBySum_2 16 rfl rfl)
theorem dX6_actorBySum_67 : decode cX6_actorBySum 67 = .ok (.goto (-60), 3) := dk_167 255 196 (dk_at dksX6_actorBySum_2 19 rfl rfl)
theorem dX6_actorBySum_70 : decode cX6_actorBySum 70 = .ok (.aload_n 0, 1) := dk_42 (dk_at dksX6_actorBySum_2 22 rfl rfl)
theorem dX6_actorBySum_71 : decode cX6_actorBySum 71 = .ok (.iconst 1, 1) := dk_4 (dk_at dksX6_actorBySum_2 23 rfl rfl)
theorem dX6_actorBySum_72 : decode cX6_actorBySum 72 = .ok (.invokevirtual 75, 3) := dk_182 0 75 (dk_at dksX6_actorBySum_3 0 rfl rfl)
theorem dX6_actorBySum_75 : decode cX6_actorBySum 75 = .ok (.ireturn, 1) := dk_172 (dk_at dksX6_actorBySum_3 3 rfl rfl)
abbrev cX6_isAhead : ByteArray := prog_14_method_85_code
def yX6_isAhead : MethodName := ⟨RX6, "isAhead", "(II)Z"⟩
def dkwX6_isAhead_3 : List UInt8 := [167, 0, 13, 27, 28, 162, 0, 7, 4, 167, 0, 4, 3, 172]
abbrev dktX6_isAhead_3 : List UInt8 := dkwX6_isAhead_3 ++ []
def dkwX6_isAhead_2 : List UInt8 := [159, 0, 26, 42, 27, 6, 182, 0, 83, 42, 28, 6, 182, 0, 83, 164, 0, 7, 4, 167, 0, 17, 3]
abbrev dktX6_isAhead_2 : List UInt8 := dkwX6_isAhead_2 ++ dktX6_isAhead_3
def dkwX6_isAhead_1 : List UInt8 := [182, 0, 83, 164, 0, 7, 4, 167, 0, 4, 3, 172, 42, 27, 6, 182, 0, 83, 42, 28, 6, 182, 0, 83]
abbrev dktX6_isAhead_1 : List UInt8 := dkwX6_isAhead_1 ++ dktX6_isAhead_2
def dkwX6_isAhead_0 : List UInt8 := [42, 27, 5, 182, 0, 83, 42, 28, 5, 182, 0, 83, 159, 0, 24, 42, 27, 5, 182, 0, 83, 42, 28, 5]
abbrev dktX6_isAhead_0 : List UInt8 := dkwX6_isAhead_0 ++ dktX6_isAhead_1
theorem dksX6_isAhead_0 : cX6_isAhead.data.toList.drop 0 = dktX6_isAhead_0 := by decide +kernel
theorem dksX6_isAhead_1 : cX6_isAhead.data.toList.drop 24 = dktX6_isAhead_1 := dk_seg dksX6_isAhead_0 24 rfl rfl
theorem dksX6_isAhead_2 : cX6_isAhead.data.toList.drop 48 = dktX6_isAhead_2 := dk_seg dksX6_isAhead_1 24 rfl rfl
theorem dksX6_isAhead_3 : cX6_isAhead.data.toList.drop 71 = dktX6_isAhead_3 := dk_seg dksX6_isAhead_2 23 rfl rfl
theorem dX6_isAhead_0 : decode cX6_isAhead 0 = .ok (.aload_n 0, 1) := dk_42 (dk_at dksX6_isAhead_0 0 rfl rfl)
theorem dX6_isAhead_1 : decode cX6_isAhead 1 = .ok (.iload_n 1, 1) := dk_27 (dk_at dksX6_isAhead_0 1 rfl rfl)
theorem dX6_isAhead_2 : decode cX6_isAhead 2 = .ok (.iconst 2, 1) := dk_5 (dk_at dksX6_isAhead_0 2 rfl rfl)
theorem dX6_isAhead_3 : decode cX6_isAhead 3 = .ok (.invokevirtual 83, 3) := dk_182 0 83 (dk_at dksX6_isAhead_0 3 rfl rfl)
theorem dX6_isAhead_6 : decode cX6_isAhead 6 = .ok (.aload_n 0, 1) := dk_42 (dk_at dksX6_isAhead_0 6 rfl rfl)
theorem dX6_isAhead_7 : decode cX6_isAhead 7 = .ok (.iload_n 2, 1) := dk_28 (dk_at dksX6_isAhead_0 7 rfl rfl)
theorem dX6_isAhead_8 : decode cX6_isAhead 8 = .ok (.iconst 2, 1) := dk_5 (dk_at dksX6_isAhead_0 8 rfl rfl)
theorem dX6_isAhead_9 : decode cX6_isAhead 9 = .ok (.invokevirtual 83, 3) := dk_182 0 83 (dk_at dksX6_isAhead_0 9 rfl rfl)
theorem dX6_isAhead_12 : decode cX6_isAhead 12 = .ok (.if_icmp .eq 24, 3) := dk_159 0 24 (dk_at dksX6_isAhead_0 12 rfl rfl)
theorem dX6_isAhead_15 : decode cX6_isAhead 15 = .ok (.aload_n 0, 1) := dk_42 (dk_at dksX6_isAhead_0 15 rfl rfl)
theorem dX6_isAhead_16 : decode cX6_isAhead 16 = .ok (.iload_n 1, 1) := dk_27 (dk_at dksX6_isAhead_0 16 rfl rfl)
theorem dX6_isAhead_17 : decode cX6_isAhead 17 = .ok (.iconst 2, 1) := dk_5 (dk_at dksX6_isAhead_0 17 rfl rfl)
theorem dX6_isAhead_18 : decode cX6_isAhead 18 = .ok (.invokevirtual 83, 3) := dk_182 0 83 (dk_at dksX6_isAhead_0 18 rfl rfl)
theorem dX6_isAhead_21 : decode cX6_isAhead 21 = .ok (.aload_n 0, 1) := dk_42 (dk_at dksX6_isAhead_0 21 rfl rfl)
theorem dX6_isAhead_22 : decode cX6_isAhead 22 = .ok (.iload_n 2, 1) := dk_28 (dk_at dksX6_isAhead_0 22 rfl rfl)
theorem dX6_isAhead_23 : decode cX6_isAhead 23 = .ok (.iconst 2, 1) := dk_5 (dk_at dksX6_isAhead_0 23 rfl rfl)
theorem dX6_isAhead_24 : decode cX6_isAhead 24 = .ok (.invokevirtual 83, 3) := dk_182 0 83 (dk_at dksX6_isAhead_1 0 rfl rfl)
theorem dX6_isAhead_27 : decode cX6_isAhead 27 = .ok (.if_icmp .le 7, 3) := dk_164 0 7 (dk_at dksX6_isAhead_1 3 rfl rfl)
theorem dX6_isAhead_30 : decode cX6_isAhead 30 = .ok (.iconst 1, 1) := dk_4 (dk_at dksX6_isAhead_1 6 rfl rfl)
theorem dX6_isAhead_31 : decode cX6_isAhead 31 = .ok (.goto 4, 3) := dk_167 0 4 (dk_at dksX6_isAhead_1 7 rfl rfl)
theorem dX6_isAhead_34 : decode cX6_isAhead 34 = .ok (.iconst 0, 1) := dk_3 (dk_at dksX6_isAhead_1 10 rfl rfl)
theorem dX6_isAhead_35 : decode cX6_isAhead 35 = .ok (.ireturn, 1) := dk_172 (dk_at dksX6_isAhead_1 11 rfl rfl)
theorem dX6_isAhead_36 : decode cX6_isAhead 36 = .ok (.aload_n 0, 1) := dk_42 (dk_at dksX6_isAhead_1 12 rfl rfl)
theorem dX6_isAhead_37 : decode cX6_isAhead 37 = .ok (.iload_n 1, 1) := dk_27 (dk_at dksX6_isAhead_1 13 rfl rfl)
theorem dX6_isAhead_38 : decode cX6_isAhead 38 = .ok (.iconst 3, 1) := dk_6 (dk_at dksX6_isAhead_1 14 rfl rfl)
theorem dX6_isAhead_39 : decode cX6_isAhead 39 = .ok (.invokevirtual 83, 3) := dk_182 0 83 (dk_at dksX6_isAhead_1 15 rfl rfl)
theorem dX6_isAhead_42 : decode cX6_isAhead 42 = .ok (.aload_n 0, 1) := dk_42 (dk_at dksX6_isAhead_1 18 rfl rfl)
theorem dX6_isAhead_43 : decode cX6_isAhead 43 = .ok (.iload_n 2, 1) := dk_28 (dk_at dksX6_isAhead_1 19 rfl rfl)
theorem dX6_isAhead_44 : decode cX6_isAhead 44 = .ok (.iconst 3, 1) := dk_6 (dk_at dksX6_isAhead_1 20 rfl rfl)
theorem dX6_isAhead_45 : decode cX6_isAhead 45 = .ok (.invokevirtual 83, 3) := dk_182 0 83 (dk_at dksX6_isAhead_1 21 rfl rfl)
theorem dX6_isAhead_48 : decode cX6_isAhead 48 = .ok (.if_icmp .eq 26, 3) := dk_159 0 26 (dk_at dksX6_isAhead_2 0 rfl rfl)
theorem dX6_isAhead_51 : decode cX6_isAhead 51 = .ok (.aload_n 0, 1) := dk_42 (dk_at dksX6_isAhead_2 3 rfl rfl)
theorem dX6_isAhead_52 : decode cX6_isAhead 52 = .ok (.iload_n 1, 1) := dk_27 (dk_at dksX6_isAhead_2 4 rfl rfl)
theorem dX6_isAhead_53 : decode cX6_isAhead 53 = .ok (.iconst 3, 1) := dk_6 (dk_at dksX6_isAhead_2 5 rfl rfl)
theorem dX6_isAhead_54 : decode cX6_isAhead 54 = .ok (.invokevirtual 83, 3) := dk_182 0 83 (dk_at dksX6_isAhead_2 6 rfl rfl)
theorem dX6_isAhead_57 : decode cX6_isAhead 57 = .ok (.aload_n 0, 1) := dk_42 (dk_at dksX6_isAhead_2 9 rfl rfl)
theorem dX6_isAhead_58 : decode cX6_isAhead 58 = .ok (.iload_n 2, 1) := dk_28 (dk_at dksX6_isAhead_2 10 rfl rfl)
theorem dX6_isAhead_59 : decode cX6_isAhead 59 = .ok (.iconst 3, 1) := dk_6 (dk_at dksX6_isAhead_2 11 rfl rfl)
theorem dX6_isAhead_60 : decode cX6_isAhead 60 = .ok (.invokevirtual 83, 3) := dk_182 0 83 (dk_at dksX6_isAhead_2 12 rfl rfl)
theorem dX6_isAhead_63 : decode cX6_isAhead 63 = .ok (.if_icmp .le 7, 3) := dk_164 0 7 (dk_at dksX6_isAhead_2 15 rfl rfl)
theorem dX6_isAhead_66 : decode cX6_isAhead 66 = .ok (.iconst 1, 1) := dk_4 (dk_at dksX6_isAhead_2 18 rfl rfl)
theorem dX6_isAhead_67 : decode cX6_isAhead 67 = .ok (.goto 17, 3) := dk_167 0 17 (dk_at dksX6_isAhead_2 19 rfl rfl)
theorem dX6_isAhead_70 : decode cX6_isAhead 70 = .ok (.iconst 0, 1) := dk_3 (dk_at dksX6_isAhead_2 22 rfl rfl)
theorem dX6_isAhead_71 : decode cX6_isAhead 71 = .ok (.goto 13, 3) := dk_167 0 13 (dk_at dksX6_isAhead_3 0 rfl rfl)
theorem dX6_isAhead_74 : decode cX6_isAhead 74 = .ok (.iload_n 1, 1) := dk_27 (dk_at dksX6_isAhead_3 3 rfl rfl)
theorem dX6_isAhead_75 : decode cX6_isAhead 75 = .ok (.iload_n 2, 1) := dk_28 (dk_at dksX6_isAhead_3 4 rfl rfl)
theorem dX6_isAhead_76 : decode cX6_isAhead 76 = .ok (.if_icmp .ge 7, 3) := dk_162 0 7 (dk_at dksX6_isAhead_3 5 rfl rfl)
theorem dX6_isAhead_79 : decode cX6_isAhead 79 = .ok (.iconst 1, 1) := dk_4 (dk_at dksX6_isAhead_3 8 rfl rfl)
theorem dX6_isAhead_80 : decode cX6_isAhead 80 = .ok (.goto 4, 3) := dk_167 0 4 (dk_at dksX6_isAhead_3 9 rfl rfl)
theorem dX6_isAhead_83 : decode cX6_isAhead 83 = .ok (.iconst 0, 1) := dk_3 (dk_at dksX6_isAhead_3 12 rfl rfl)
theorem dX6_isAhead_84 : decode cX6_isAhead 84 = .ok (.ireturn, 1) := dk_172 (dk_at dksX6_isAhead_3 13 rfl rfl)
abbrev cX6_messages : ByteArray := prog_14_method_87_code
def yX6_messages : MethodName := ⟨RX6, "messages", "(I)I"⟩
def dkwX6_messages_0 : List UInt8 := [42, 27, 16, 9, 182, 0, 253, 172]
abbrev dktX6_messages_0 : List UInt8 := dkwX6_messages_0 ++ []
theorem dksX6_messages_0 : cX6_messages.data.toList.drop 0 = dktX6_messages_0 := by decide +kernel
theorem dX6_messages_0 : decode cX6_messages 0 = .ok (.aload_n 0, 1) := dk_42 (dk_at dksX6_messages_0 0 rfl rfl)
theorem dX6_messages_1 : decode cX6_messages 1 = .ok (.iload_n 1, 1) := dk_27 (dk_at dksX6_messages_0 1 rfl rfl)
theorem dX6_messages_2 : decode cX6_messages 2 = .ok (.bipush 9, 2) := dk_16 9 (dk_at dksX6_messages_0 2 rfl rfl)
theorem dX6_messages_4 : decode cX6_messages 4 = .ok (.invokevirtual 253, 3) := dk_182 0 253 (dk_at dksX6_messages_0 4 rfl rfl)
theorem dX6_messages_7 : decode cX6_messages 7 = .ok (.ireturn, 1) := dk_172 (dk_at dksX6_messages_0 7 rfl rfl)
abbrev cX6_valueAt : ByteArray := prog_14_method_89_code
def yX6_valueAt : MethodName := ⟨RX6, "valueAt", "(II)I"⟩
def dkwX6_valueAt_1 : List UInt8 := [108, 167, 0, 8, 42, 4, 182, 0, 75, 172]
abbrev dktX6_valueAt_1 : List UInt8 := dkwX6_valueAt_1 ++ []
def dkwX6_valueAt_0 : List UInt8 := [42, 3, 181, 0, 1, 42, 27, 28, 182, 1, 6, 153, 0, 17, 42, 27, 16, 10, 28, 96, 182, 0, 83, 7]
abbrev dktX6_valueAt_0 : List UInt8 := dkwX6_valueAt_0 ++ dktX6_valueAt_1
theorem dksX6_valueAt_0 : cX6_valueAt.data.toList.drop 0 = dktX6_valueAt_0 := by decide +kernel
theorem dksX6_valueAt_1 : cX6_valueAt.data.toList.drop 24 = dktX6_valueAt_1 := dk_seg dksX6_valueAt_0 24 rfl rfl
theorem dX6_valueAt_0 : decode cX6_valueAt 0 = .ok (.aload_n 0, 1) := dk_42 (dk_at dksX6_valueAt_0 0 rfl rfl)
theorem dX6_valueAt_1 : decode cX6_valueAt 1 = .ok (.iconst 0, 1) := dk_3 (dk_at dksX6_valueAt_0 1 rfl rfl)
theorem dX6_valueAt_2 : decode cX6_valueAt 2 = .ok (.putfield 1, 3) := dk_181 0 1 (dk_at dksX6_valueAt_0 2 rfl rfl)
theorem dX6_valueAt_5 : decode cX6_valueAt 5 = .ok (.aload_n 0, 1) := dk_42 (dk_at dksX6_valueAt_0 5 rfl rfl)
theorem dX6_valueAt_6 : decode cX6_valueAt 6 = .ok (.iload_n 1, 1) := dk_27 (dk_at dksX6_valueAt_0 6 rfl rfl)
theorem dX6_valueAt_7 : decode cX6_valueAt 7 = .ok (.iload_n 2, 1) := dk_28 (dk_at dksX6_valueAt_0 7 rfl rfl)
theorem dX6_valueAt_8 : decode cX6_valueAt 8 = .ok (.invokevirtual 262, 3) := dk_182 1 6 (dk_at dksX6_valueAt_0 8 rfl rfl)
theorem dX6_valueAt_11 : decode cX6_valueAt 11 = .ok (.ifCond .eq 17, 3) := dk_153 0 17 (dk_at dksX6_valueAt_0 11 rfl rfl)
theorem dX6_valueAt_14 : decode cX6_valueAt 14 = .ok (.aload_n 0, 1) := dk_42 (dk_at dksX6_valueAt_0 14 rfl rfl)
theorem dX6_valueAt_15 : decode cX6_valueAt 15 = .ok (.iload_n 1, 1) := dk_27 (dk_at dksX6_valueAt_0 15 rfl rfl)
theorem dX6_valueAt_16 : decode cX6_valueAt 16 = .ok (.bipush 10, 2) := dk_16 10 (dk_at dksX6_valueAt_0 16 rfl rfl)
theorem dX6_valueAt_18 : decode cX6_valueAt 18 = .ok (.iload_n 2, 1) := dk_28 (dk_at dksX6_valueAt_0 18 rfl rfl)
theorem dX6_valueAt_19 : decode cX6_valueAt 19 = .ok (.iadd, 1) := dk_96 (dk_at dksX6_valueAt_0 19 rfl rfl)
theorem dX6_valueAt_20 : decode cX6_valueAt 20 = .ok (.invokevirtual 83, 3) := dk_182 0 83 (dk_at dksX6_valueAt_0 20 rfl rfl)
theorem dX6_valueAt_23 : decode cX6_valueAt 23 = .ok (.iconst 4, 1) := dk_7 (dk_at dksX6_valueAt_0 23 rfl rfl)
theorem dX6_valueAt_24 : decode cX6_valueAt 24 = .ok (.idiv, 1) := dk_108 (dk_at dksX6_valueAt_1 0 rfl rfl)
theorem dX6_valueAt_25 : decode cX6_valueAt 25 = .ok (.goto 8, 3) := dk_167 0 8 (dk_at dksX6_valueAt_1 1 rfl rfl)
theorem dX6_valueAt_28 : decode cX6_valueAt 28 = .ok (.aload_n 0, 1) := dk_42 (dk_at dksX6_valueAt_1 4 rfl rfl)
theorem dX6_valueAt_29 : decode cX6_valueAt 29 = .ok (.iconst 1, 1) := dk_4 (dk_at dksX6_valueAt_1 5 rfl rfl)
theorem dX6_valueAt_30 : decode cX6_valueAt 30 = .ok (.invokevirtual 75, 3) := dk_182 0 75 (dk_at dksX6_valueAt_1 6 rfl rfl)
theorem dX6_valueAt_33 : decode cX6_valueAt 33 = .ok (.ireturn, 1) := dk_172 (dk_at dksX6_valueAt_1 9 rfl rfl)
abbrev cX6_isMessage : ByteArray := prog_14_method_88_code
def yX6_isMessage : MethodName := ⟨RX6, "isMessage", "(II)Z"⟩
def dkwX6_isMessage_1 : List UInt8 := [153, 0, 7, 4, 167, 0, 4, 3, 172]
abbrev dktX6_isMessage_1 : List UInt8 := dkwX6_isMessage_1 ++ []
def dkwX6_isMessage_0 : List UInt8 := [42, 27, 182, 0, 118, 153, 0, 24, 28, 3, 42, 27, 16, 9, 182, 0, 83, 4, 100, 184, 0, 79]
abbrev dktX6_isMessage_0 : List UInt8 := dkwX6_isMessage_0 ++ dktX6_isMessage_1
theorem dksX6_isMessage_0 : cX6_isMessage.data.toList.drop 0 = dktX6_isMessage_0 := by decide +kernel
theorem dksX6_isMessage_1 : cX6_isMessage.data.toList.drop 22 = dktX6_isMessage_1 := dk_seg dksX6_isMessage_0 22 rfl rfl
theorem dX6_isMessage_0 : decode cX6_isMessage 0 = .ok (.aload_n 0, 1) := dk_42 (dk_at dksX6_isMessage_0 0 rfl rfl)
theorem dX6_isMessage_1 : decode cX6_isMessage 1 = .ok (.iload_n 1, 1) := dk_27 (dk_at dksX6_isMessage_0 1 rfl rfl)
theorem dX6_isMessage_2 : decode cX6_isMessage 2 = .ok (.invokevirtual 118, 3) := dk_182 0 118 (dk_at dksX6_isMessage_0 2 rfl rfl)
theorem dX6_isMessage_5 : decode cX6_isMessage 5 = .ok (.ifCond .eq 24, 3) := dk_153 0 24 (dk_at dksX6_isMessage_0 5 rfl rfl)
theorem dX6_isMessage_8 : decode cX6_isMessage 8 = .ok (.iload_n 2, 1) := dk_28 (dk_at dksX6_isMessage_0 8 rfl rfl)
theorem dX6_isMessage_9 : decode cX6_isMessage 9 = .ok (.iconst 0, 1) := dk_3 (dk_at dksX6_isMessage_0 9 rfl rfl)
theorem dX6_isMessage_10 : decode cX6_isMessage 10 = .ok (.aload_n 0, 1) := dk_42 (dk_at dksX6_isMessage_0 10 rfl rfl)
theorem dX6_isMessage_11 : decode cX6_isMessage 11 = .ok (.iload_n 1, 1) := dk_27 (dk_at dksX6_isMessage_0 11 rfl rfl)
theorem dX6_isMessage_12 : decode cX6_isMessage 12 = .ok (.bipush 9, 2) := dk_16 9 (dk_at dksX6_isMessage_0 12 rfl rfl)
theorem dX6_isMessage_14 : decode cX6_isMessage 14 = .ok (.invokevirtual 83, 3) := dk_182 0 83 (dk_at dksX6_isMessage_0 14 rfl rfl)
theorem dX6_isMessage_17 : decode cX6_isMessage 17 = .ok (.iconst 1, 1) := dk_4 (dk_at dksX6_isMessage_0 17 rfl rfl)
theorem dX6_isMessage_18 : decode cX6_isMessage 18 = .ok (.isub, 1) := dk_100 (dk_at dksX6_isMessage_0 18 rfl rfl)
theorem dX6_isMessage_19 : decode cX6_isMessage 19 = .ok (.invokestatic 79, 3) := dk_184 0 79 (dk_at dksX6_isMessage_0 19 rfl rfl)
theorem dX6_isMessage_22 : decode cX6_isMessage 22 = .ok (.ifCond .eq 7, 3) := dk_153 0 7 (dk_at dksX6_isMessage_1 0 rfl rfl)
theorem dX6_isMessage_25 : decode cX6_isMessage 25 = .ok (.iconst 1, 1) := dk_4 (dk_at dksX6_isMessage_1 3 rfl rfl)
theorem dX6_isMessage_26 : decode cX6_isMessage 26 = .ok (.goto 4, 3) := dk_167 0 4 (dk_at dksX6_isMessage_1 4 rfl rfl)
theorem dX6_isMessage_29 : decode cX6_isMessage 29 = .ok (.iconst 0, 1) := dk_3 (dk_at dksX6_isMessage_1 7 rfl rfl)
theorem dX6_isMessage_30 : decode cX6_isMessage 30 = .ok (.ireturn, 1) := dk_172 (dk_at dksX6_isMessage_1 8 rfl rfl)
abbrev cX6_hopsAt : ByteArray := prog_14_method_90_code
def yX6_hopsAt : MethodName := ⟨RX6, "hopsAt", "(II)I"⟩
def dkwX6_hopsAt_1 : List UInt8 := [112, 167, 0, 8, 42, 4, 182, 0, 75, 172]
abbrev dktX6_hopsAt_1 : List UInt8 := dkwX6_hopsAt_1 ++ []
def dkwX6_hopsAt_0 : List UInt8 := [42, 3, 181, 0, 1, 42, 27, 28, 182, 1, 6, 153, 0, 17, 42, 27, 16, 10, 28, 96, 182, 0, 83, 7]
abbrev dktX6_hopsAt_0 : List UInt8 := dkwX6_hopsAt_0 ++ dktX6_hopsAt_1
theorem dksX6_hopsAt_0 : cX6_hopsAt.data.toList.drop 0 = dktX6_hopsAt_0 := by decide +kernel
theorem dksX6_hopsAt_1 : cX6_hopsAt.data.toList.drop 24 = dktX6_hopsAt_1 := dk_seg dksX6_hopsAt_0 24 rfl rfl
theorem dX6_hopsAt_0 : decode cX6_hopsAt 0 = .ok (.aload_n 0, 1) := dk_42 (dk_at dksX6_hopsAt_0 0 rfl rfl)
theorem dX6_hopsAt_1 : decode cX6_hopsAt 1 = .ok (.iconst 0, 1) := dk_3 (dk_at dksX6_hopsAt_0 1 rfl rfl)
theorem dX6_hopsAt_2 : decode cX6_hopsAt 2 = .ok (.putfield 1, 3) := dk_181 0 1 (dk_at dksX6_hopsAt_0 2 rfl rfl)
theorem dX6_hopsAt_5 : decode cX6_hopsAt 5 = .ok (.aload_n 0, 1) := dk_42 (dk_at dksX6_hopsAt_0 5 rfl rfl)
theorem dX6_hopsAt_6 : decode cX6_hopsAt 6 = .ok (.iload_n 1, 1) := dk_27 (dk_at dksX6_hopsAt_0 6 rfl rfl)
theorem dX6_hopsAt_7 : decode cX6_hopsAt 7 = .ok (.iload_n 2, 1) := dk_28 (dk_at dksX6_hopsAt_0 7 rfl rfl)
theorem dX6_hopsAt_8 : decode cX6_hopsAt 8 = .ok (.invokevirtual 262, 3) := dk_182 1 6 (dk_at dksX6_hopsAt_0 8 rfl rfl)
theorem dX6_hopsAt_11 : decode cX6_hopsAt 11 = .ok (.ifCond .eq 17, 3) := dk_153 0 17 (dk_at dksX6_hopsAt_0 11 rfl rfl)
theorem dX6_hopsAt_14 : decode cX6_hopsAt 14 = .ok (.aload_n 0, 1) := dk_42 (dk_at dksX6_hopsAt_0 14 rfl rfl)
theorem dX6_hopsAt_15 : decode cX6_hopsAt 15 = .ok (.iload_n 1, 1) := dk_27 (dk_at dksX6_hopsAt_0 15 rfl rfl)
theorem dX6_hopsAt_16 : decode cX6_hopsAt 16 = .ok (.bipush 10, 2) := dk_16 10 (dk_at dksX6_hopsAt_0 16 rfl rfl)
theorem dX6_hopsAt_18 : decode cX6_hopsAt 18 = .ok (.iload_n 2, 1) := dk_28 (dk_at dksX6_hopsAt_0 18 rfl rfl)
theorem dX6_hopsAt_19 : decode cX6_hopsAt 19 = .ok (.iadd, 1) := dk_96 (dk_at dksX6_hopsAt_0 19 rfl rfl)
theorem dX6_hopsAt_20 : decode cX6_hopsAt 20 = .ok (.invokevirtual 83, 3) := dk_182 0 83 (dk_at dksX6_hopsAt_0 20 rfl rfl)
theorem dX6_hopsAt_23 : decode cX6_hopsAt 23 = .ok (.iconst 4, 1) := dk_7 (dk_at dksX6_hopsAt_0 23 rfl rfl)
theorem dX6_hopsAt_24 : decode cX6_hopsAt 24 = .ok (.irem, 1) := dk_112 (dk_at dksX6_hopsAt_1 0 rfl rfl)
theorem dX6_hopsAt_25 : decode cX6_hopsAt 25 = .ok (.goto 8, 3) := dk_167 0 8 (dk_at dksX6_hopsAt_1 1 rfl rfl)
theorem dX6_hopsAt_28 : decode cX6_hopsAt 28 = .ok (.aload_n 0, 1) := dk_42 (dk_at dksX6_hopsAt_1 4 rfl rfl)
theorem dX6_hopsAt_29 : decode cX6_hopsAt 29 = .ok (.iconst 1, 1) := dk_4 (dk_at dksX6_hopsAt_1 5 rfl rfl)
theorem dX6_hopsAt_30 : decode cX6_hopsAt 30 = .ok (.invokevirtual 75, 3) := dk_182 0 75 (dk_at dksX6_hopsAt_1 6 rfl rfl)
theorem dX6_hopsAt_33 : decode cX6_hopsAt 33 = .ok (.ireturn, 1) := dk_172 (dk_at dksX6_hopsAt_1 9 rfl rfl)
abbrev cX6_isReady : ByteArray := prog_14_method_91_code
def yX6_isReady : MethodName := ⟨RX6, "isReady", "(I)Z"⟩
def dkwX6_isReady_1 : List UInt8 := [182, 0, 75, 158, 0, 7, 4, 167, 0, 4, 3, 172]
abbrev dktX6_isReady_1 : List UInt8 := dkwX6_isReady_1 ++ []
def dkwX6_isReady_0 : List UInt8 := [42, 3, 181, 0, 1, 42, 27, 182, 0, 118, 153, 0, 11, 42, 27, 182, 0, 211, 167, 0, 16, 42, 4]
abbrev dktX6_isReady_0 : List UInt8 := dkwX6_isReady_0 ++ dktX6_isReady_1
theorem dksX6_isReady_0 : cX6_isReady.data.toList.drop 0 = dktX6_isReady_0 := by decide +kernel
theorem dksX6_isReady_1 : cX6_isReady.data.toList.drop 23 = dktX6_isReady_1 := dk_seg dksX6_isReady_0 23 rfl rfl
theorem dX6_isReady_0 : decode cX6_isReady 0 = .ok (.aload_n 0, 1) := dk_42 (dk_at dksX6_isReady_0 0 rfl rfl)
theorem dX6_isReady_1 : decode cX6_isReady 1 = .ok (.iconst 0, 1) := dk_3 (dk_at dksX6_isReady_0 1 rfl rfl)
theorem dX6_isReady_2 : decode cX6_isReady 2 = .ok (.putfield 1, 3) := dk_181 0 1 (dk_at dksX6_isReady_0 2 rfl rfl)
theorem dX6_isReady_5 : decode cX6_isReady 5 = .ok (.aload_n 0, 1) := dk_42 (dk_at dksX6_isReady_0 5 rfl rfl)
theorem dX6_isReady_6 : decode cX6_isReady 6 = .ok (.iload_n 1, 1) := dk_27 (dk_at dksX6_isReady_0 6 rfl rfl)
theorem dX6_isReady_7 : decode cX6_isReady 7 = .ok (.invokevirtual 118, 3) := dk_182 0 118 (dk_at dksX6_isReady_0 7 rfl rfl)
theorem dX6_isReady_10 : decode cX6_isReady 10 = .ok (.ifCond .eq 11, 3) := dk_153 0 11 (dk_at dksX6_isReady_0 10 rfl rfl)
theorem dX6_isReady_13 : decode cX6_isReady 13 = .ok (.aload_n 0, 1) := dk_42 (dk_at dksX6_isReady_0 13 rfl rfl)
theorem dX6_isReady_14 : decode cX6_isReady 14 = .ok (.iload_n 1, 1) := dk_27 (dk_at dksX6_isReady_0 14 rfl rfl)
theorem dX6_isReady_15 : decode cX6_isReady 15 = .ok (.invokevirtual 211, 3) := dk_182 0 211 (dk_at dksX6_isReady_0 15 rfl rfl)
theorem dX6_isReady_18 : decode cX6_isReady 18 = .ok (.goto 16, 3) := dk_167 0 16 (dk_at dksX6_isReady_0 18 rfl rfl)
theorem dX6_isReady_21 : decode cX6_isReady 21 = .ok (.aload_n 0, 1) := dk_42 (dk_at dksX6_isReady_0 21 rfl rfl)
theorem dX6_isReady_22 : decode cX6_isReady 22 = .ok (.iconst 1, 1) := dk_4 (dk_at dksX6_isReady_0 22 rfl rfl)
theorem dX6_isReady_23 : decode cX6_isReady 23 = .ok (.invokevirtual 75, 3) := dk_182 0 75 (dk_at dksX6_isReady_1 0 rfl rfl)
theorem dX6_isReady_26 : decode cX6_isReady 26 = .ok (.ifCond .le 7, 3) := dk_158 0 7 (dk_at dksX6_isReady_1 3 rfl rfl)
theorem dX6_isReady_29 : decode cX6_isReady 29 = .ok (.iconst 1, 1) := dk_4 (dk_at dksX6_isReady_1 6 rfl rfl)
theorem dX6_isReady_30 : decode cX6_isReady 30 = .ok (.goto 4, 3) := dk_167 0 4 (dk_at dksX6_isReady_1 7 rfl rfl)
theorem dX6_isReady_33 : decode cX6_isReady 33 = .ok (.iconst 0, 1) := dk_3 (dk_at dksX6_isReady_1 10 rfl rfl)
theorem dX6_isReady_34 : decode cX6_isReady 34 = .ok (.ireturn, 1) := dk_172 (dk_at dksX6_isReady_1 11 rfl rfl)
abbrev cX6_waiting : ByteArray := prog_14_method_92_code
def yX6_waiting : MethodName := ⟨RX6, "waiting", "()I"⟩
def dkwX6_waiting_2 : List UInt8 := [167, 255, 219, 27, 172]
abbrev dktX6_waiting_2 : List UInt8 := dkwX6_waiting_2 ++ []
def dkwX6_waiting_1 : List UInt8 := [182, 0, 192, 153, 0, 15, 42, 28, 182, 0, 195, 153, 0, 7, 4, 167, 0, 4, 3, 96, 60, 132, 2, 1]
abbrev dktX6_waiting_1 : List UInt8 := dkwX6_waiting_1 ++ dktX6_waiting_2
def dkwX6_waiting_0 : List UInt8 := [42, 3, 181, 0, 1, 3, 60, 3, 61, 28, 42, 180, 0, 13, 3, 46, 162, 0, 33, 27, 42, 28]
abbrev dktX6_waiting_0 : List UInt8 := dkwX6_waiting_0 ++ dktX6_waiting_1
theorem dksX6_waiting_0 : cX6_waiting.data.toList.drop 0 = dktX6_waiting_0 := by decide +kernel
theorem dksX6_waiting_1 : cX6_waiting.data.toList.drop 22 = dktX6_waiting_1 := dk_seg dksX6_waiting_0 22 rfl rfl
theorem dksX6_waiting_2 : cX6_waiting.data.toList.drop 46 = dktX6_waiting_2 := dk_seg dksX6_waiting_1 24 rfl rfl
theorem dX6_waiting_0 : decode cX6_waiting 0 = .ok (.aload_n 0, 1) := dk_42 (dk_at dksX6_waiting_0 0 rfl rfl)
theorem dX6_waiting_1 : decode cX6_waiting 1 = .ok (.iconst 0, 1) := dk_3 (dk_at dksX6_waiting_0 1 rfl rfl)
theorem dX6_waiting_2 : decode cX6_waiting 2 = .ok (.putfield 1, 3) := dk_181 0 1 (dk_at dksX6_waiting_0 2 rfl rfl)
theorem dX6_waiting_5 : decode cX6_waiting 5 = .ok (.iconst 0, 1) := dk_3 (dk_at dksX6_waiting_0 5 rfl rfl)
theorem dX6_waiting_6 : decode cX6_waiting 6 = .ok (.istore_n 1, 1) := dk_60 (dk_at dksX6_waiting_0 6 rfl rfl)
theorem dX6_waiting_7 : decode cX6_waiting 7 = .ok (.iconst 0, 1) := dk_3 (dk_at dksX6_waiting_0 7 rfl rfl)
theorem dX6_waiting_8 : decode cX6_waiting 8 = .ok (.istore_n 2, 1) := dk_61 (dk_at dksX6_waiting_0 8 rfl rfl)
theorem dX6_waiting_9 : decode cX6_waiting 9 = .ok (.iload_n 2, 1) := dk_28 (dk_at dksX6_waiting_0 9 rfl rfl)
theorem dX6_waiting_10 : decode cX6_waiting 10 = .ok (.aload_n 0, 1) := dk_42 (dk_at dksX6_waiting_0 10 rfl rfl)
theorem dX6_waiting_11 : decode cX6_waiting 11 = .ok (.getfield 13, 3) := dk_180 0 13 (dk_at dksX6_waiting_0 11 rfl rfl)
theorem dX6_waiting_14 : decode cX6_waiting 14 = .ok (.iconst 0, 1) := dk_3 (dk_at dksX6_waiting_0 14 rfl rfl)
theorem dX6_waiting_15 : decode cX6_waiting 15 = .ok (.iaload, 1) := dk_46 (dk_at dksX6_waiting_0 15 rfl rfl)
theorem dX6_waiting_16 : decode cX6_waiting 16 = .ok (.if_icmp .ge 33, 3) := dk_162 0 33 (dk_at dksX6_waiting_0 16 rfl rfl)
theorem dX6_waiting_19 : decode cX6_waiting 19 = .ok (.iload_n 1, 1) := dk_27 (dk_at dksX6_waiting_0 19 rfl rfl)
theorem dX6_waiting_20 : decode cX6_waiting 20 = .ok (.aload_n 0, 1) := dk_42 (dk_at dksX6_waiting_0 20 rfl rfl)
theorem dX6_waiting_21 : decode cX6_waiting 21 = .ok (.iload_n 2, 1) := dk_28 (dk_at dksX6_waiting_0 21 rfl rfl)
theorem dX6_waiting_22 : decode cX6_waiting 22 = .ok (.invokevirtual 192, 3) := dk_182 0 192 (dk_at dksX6_waiting_1 0 rfl rfl)
theorem dX6_waiting_25 : decode cX6_waiting 25 = .ok (.ifCond .eq 15, 3) := dk_153 0 15 (dk_at dksX6_waiting_1 3 rfl rfl)
theorem dX6_waiting_28 : decode cX6_waiting 28 = .ok (.aload_n 0, 1) := dk_42 (dk_at dksX6_waiting_1 6 rfl rfl)
theorem dX6_waiting_29 : decode cX6_waiting 29 = .ok (.iload_n 2, 1) := dk_28 (dk_at dksX6_waiting_1 7 rfl rfl)
theorem dX6_waiting_30 : decode cX6_waiting 30 = .ok (.invokevirtual 195, 3) := dk_182 0 195 (dk_at dksX6_waiting_1 8 rfl rfl)
theorem dX6_waiting_33 : decode cX6_waiting 33 = .ok (.ifCond .eq 7, 3) := dk_153 0 7 (dk_at dksX6_waiting_1 11 rfl rfl)
theorem dX6_waiting_36 : decode cX6_waiting 36 = .ok (.iconst 1, 1) := dk_4 (dk_at dksX6_waiting_1 14 rfl rfl)
theorem dX6_waiting_37 : decode cX6_waiting 37 = .ok (.goto 4, 3) := dk_167 0 4 (dk_at dksX6_waiting_1 15 rfl rfl)
theorem dX6_waiting_40 : decode cX6_waiting 40 = .ok (.iconst 0, 1) := dk_3 (dk_at dksX6_waiting_1 18 rfl rfl)
theorem dX6_waiting_41 : decode cX6_waiting 41 = .ok (.iadd, 1) := dk_96 (dk_at dksX6_waiting_1 19 rfl rfl)
theorem dX6_waiting_42 : decode cX6_waiting 42 = .ok (.istore_n 1, 1) := dk_60 (dk_at dksX6_waiting_1 20 rfl rfl)
theorem dX6_waiting_43 : decode cX6_waiting 43 = .ok (.iinc 2 1, 3) := dk_132 2 1 (dk_at dksX6_waiting_1 21 rfl rfl)
theorem dX6_waiting_46 : decode cX6_waiting 46 = .ok (.goto (-37), 3) := dk_167 255 219 (dk_at dksX6_waiting_2 0 rfl rfl)
theorem dX6_waiting_49 : decode cX6_waiting 49 = .ok (.iload_n 1, 1) := dk_27 (dk_at dksX6_waiting_2 3 rfl rfl)
theorem dX6_waiting_50 : decode cX6_waiting 50 = .ok (.ireturn, 1) := dk_172 (dk_at dksX6_waiting_2 4 rfl rfl)
abbrev cX6_timers : ByteArray := prog_14_method_93_code
def yX6_timers : MethodName := ⟨RX6, "timers", "()I"⟩
def dkwX6_timers_0 : List UInt8 := [42, 16, 9, 182, 0, 250, 172]
abbrev dktX6_timers_0 : List UInt8 := dkwX6_timers_0 ++ []
theorem dksX6_timers_0 : cX6_timers.data.toList.drop 0 = dktX6_timers_0 := by decide +kernel
theorem dX6_timers_0 : decode cX6_timers 0 = .ok (.aload_n 0, 1) := dk_42 (dk_at dksX6_timers_0 0 rfl rfl)
theorem dX6_timers_1 : decode cX6_timers 1 = .ok (.bipush 9, 2) := dk_16 9 (dk_at dksX6_timers_0 1 rfl rfl)
theorem dX6_timers_3 : decode cX6_timers 3 = .ok (.invokevirtual 250, 3) := dk_182 0 250 (dk_at dksX6_timers_0 3 rfl rfl)
theorem dX6_timers_6 : decode cX6_timers 6 = .ok (.ireturn, 1) := dk_172 (dk_at dksX6_timers_0 6 rfl rfl)
abbrev cX6_dueIn : ByteArray := prog_14_method_94_code
def yX6_dueIn : MethodName := ⟨RX6, "dueIn", "(I)I"⟩
def dkwX6_dueIn_2 : List UInt8 := [61, 28, 156, 0, 7, 3, 167, 0, 4, 28, 172]
abbrev dktX6_dueIn_2 : List UInt8 := dkwX6_dueIn_2 ++ []
def dkwX6_dueIn_1 : List UInt8 := [182, 0, 75, 172, 42, 180, 0, 13, 16, 31, 6, 27, 104, 96, 5, 96, 46, 42, 180, 0, 13, 6, 46, 100]
abbrev dktX6_dueIn_1 : List UInt8 := dkwX6_dueIn_1 ++ dktX6_dueIn_2
def dkwX6_dueIn_0 : List UInt8 := [42, 3, 181, 0, 1, 27, 3, 42, 180, 0, 13, 16, 9, 46, 4, 100, 184, 0, 79, 154, 0, 9, 42, 4]
abbrev dktX6_dueIn_0 : List UInt8 := dkwX6_dueIn_0 ++ dktX6_dueIn_1
theorem dksX6_dueIn_0 : cX6_dueIn.data.toList.drop 0 = dktX6_dueIn_0 := by decide +kernel
theorem dksX6_dueIn_1 : cX6_dueIn.data.toList.drop 24 = dktX6_dueIn_1 := dk_seg dksX6_dueIn_0 24 rfl rfl
theorem dksX6_dueIn_2 : cX6_dueIn.data.toList.drop 48 = dktX6_dueIn_2 := dk_seg dksX6_dueIn_1 24 rfl rfl
theorem dX6_dueIn_0 : decode cX6_dueIn 0 = .ok (.aload_n 0, 1) := dk_42 (dk_at dksX6_dueIn_0 0 rfl rfl)
theorem dX6_dueIn_1 : decode cX6_dueIn 1 = .ok (.iconst 0, 1) := dk_3 (dk_at dksX6_dueIn_0 1 rfl rfl)
theorem dX6_dueIn_2 : decode cX6_dueIn 2 = .ok (.putfield 1, 3) := dk_181 0 1 (dk_at dksX6_dueIn_0 2 rfl rfl)
theorem dX6_dueIn_5 : decode cX6_dueIn 5 = .ok (.iload_n 1, 1) := dk_27 (dk_at dksX6_dueIn_0 5 rfl rfl)
theorem dX6_dueIn_6 : decode cX6_dueIn 6 = .ok (.iconst 0, 1) := dk_3 (dk_at dksX6_dueIn_0 6 rfl rfl)
theorem dX6_dueIn_7 : decode cX6_dueIn 7 = .ok (.aload_n 0, 1) := dk_42 (dk_at dksX6_dueIn_0 7 rfl rfl)
theorem dX6_dueIn_8 : decode cX6_dueIn 8 = .ok (.getfield 13, 3) := dk_180 0 13 (dk_at dksX6_dueIn_0 8 rfl rfl)
theorem dX6_dueIn_11 : decode cX6_dueIn 11 = .ok (.bipush 9, 2) := dk_16 9 (dk_at dksX6_dueIn_0 11 rfl rfl)
theorem dX6_dueIn_13 : decode cX6_dueIn 13 = .ok (.iaload, 1) := dk_46 (dk_at dksX6_dueIn_0 13 rfl rfl)
theorem dX6_dueIn_14 : decode cX6_dueIn 14 = .ok (.iconst 1, 1) := dk_4 (dk_at dksX6_dueIn_0 14 rfl rfl)
theorem dX6_dueIn_15 : decode cX6_dueIn 15 = .ok (.isub, 1) := dk_100 (dk_at dksX6_dueIn_0 15 rfl rfl)
theorem dX6_dueIn_16 : decode cX6_dueIn 16 = .ok (.invokestatic 79, 3) := dk_184 0 79 (dk_at dksX6_dueIn_0 16 rfl rfl)
theorem dX6_dueIn_19 : decode cX6_dueIn 19 = .ok (.ifCond .ne 9, 3) := dk_154 0 9 (dk_at dksX6_dueIn_0 19 rfl rfl)
theorem dX6_dueIn_22 : decode cX6_dueIn 22 = .ok (.aload_n 0, 1) := dk_42 (dk_at dksX6_dueIn_0 22 rfl rfl)
theorem dX6_dueIn_23 : decode cX6_dueIn 23 = .ok (.iconst 1, 1) := dk_4 (dk_at dksX6_dueIn_0 23 rfl rfl)
theorem dX6_dueIn_24 : decode cX6_dueIn 24 = .ok (.invokevirtual 75, 3) := dk_182 0 75 (dk_at dksX6_dueIn_1 0 rfl rfl)
theorem dX6_dueIn_27 : decode cX6_dueIn 27 = .ok (.ireturn, 1) := dk_172 (dk_at dksX6_dueIn_1 3 rfl rfl)
theorem dX6_dueIn_28 : decode cX6_dueIn 28 = .ok (.aload_n 0, 1) := dk_42 (dk_at dksX6_dueIn_1 4 rfl rfl)
theorem dX6_dueIn_29 : decode cX6_dueIn 29 = .ok (.getfield 13, 3) := dk_180 0 13 (dk_at dksX6_dueIn_1 5 rfl rfl)
theorem dX6_dueIn_32 : decode cX6_dueIn 32 = .ok (.bipush 31, 2) := dk_16 31 (dk_at dksX6_dueIn_1 8 rfl rfl)
theorem dX6_dueIn_34 : decode cX6_dueIn 34 = .ok (.iconst 3, 1) := dk_6 (dk_at dksX6_dueIn_1 10 rfl rfl)
theorem dX6_dueIn_35 : decode cX6_dueIn 35 = .ok (.iload_n 1, 1) := dk_27 (dk_at dksX6_dueIn_1 11 rfl rfl)
theorem dX6_dueIn_36 : decode cX6_dueIn 36 = .ok (.imul, 1) := dk_104 (dk_at dksX6_dueIn_1 12 rfl rfl)
theorem dX6_dueIn_37 : decode cX6_dueIn 37 = .ok (.iadd, 1) := dk_96 (dk_at dksX6_dueIn_1 13 rfl rfl)
theorem dX6_dueIn_38 : decode cX6_dueIn 38 = .ok (.iconst 2, 1) := dk_5 (dk_at dksX6_dueIn_1 14 rfl rfl)
theorem dX6_dueIn_39 : decode cX6_dueIn 39 = .ok (.iadd, 1) := dk_96 (dk_at dksX6_dueIn_1 15 rfl rfl)
theorem dX6_dueIn_40 : decode cX6_dueIn 40 = .ok (.iaload, 1) := dk_46 (dk_at dksX6_dueIn_1 16 rfl rfl)
theorem dX6_dueIn_41 : decode cX6_dueIn 41 = .ok (.aload_n 0, 1) := dk_42 (dk_at dksX6_dueIn_1 17 rfl rfl)
theorem dX6_dueIn_42 : decode cX6_dueIn 42 = .ok (.getfield 13, 3) := dk_180 0 13 (dk_at dksX6_dueIn_1 18 rfl rfl)
theorem dX6_dueIn_45 : decode cX6_dueIn 45 = .ok (.iconst 3, 1) := dk_6 (dk_at dksX6_dueIn_1 21 rfl rfl)
theorem dX6_dueIn_46 : decode cX6_dueIn 46 = .ok (.iaload, 1) := dk_46 (dk_at dksX6_dueIn_1 22 rfl rfl)
theorem dX6_dueIn_47 : decode cX6_dueIn 47 = .ok (.isub, 1) := dk_100 (dk_at dksX6_dueIn_1 23 rfl rfl)
theorem dX6_dueIn_48 : decode cX6_dueIn 48 = .ok (.istore_n 2, 1) := dk_61 (dk_at dksX6_dueIn_2 0 rfl rfl)
theorem dX6_dueIn_49 : decode cX6_dueIn 49 = .ok (.iload_n 2, 1) := dk_28 (dk_at dksX6_dueIn_2 1 rfl rfl)
theorem dX6_dueIn_50 : decode cX6_dueIn 50 = .ok (.ifCond .ge 7, 3) := dk_156 0 7 (dk_at dksX6_dueIn_2 2 rfl rfl)
theorem dX6_dueIn_53 : decode cX6_dueIn 53 = .ok (.iconst 0, 1) := dk_3 (dk_at dksX6_dueIn_2 5 rfl rfl)
theorem dX6_dueIn_54 : decode cX6_dueIn 54 = .ok (.goto 4, 3) := dk_167 0 4 (dk_at dksX6_dueIn_2 6 rfl rfl)
theorem dX6_dueIn_57 : decode cX6_dueIn 57 = .ok (.iload_n 2, 1) := dk_28 (dk_at dksX6_dueIn_2 9 rfl rfl)
theorem dX6_dueIn_58 : decode cX6_dueIn 58 = .ok (.ireturn, 1) := dk_172 (dk_at dksX6_dueIn_2 10 rfl rfl)
abbrev cX6_next : ByteArray := prog_14_method_95_code
def yX6_next : MethodName := ⟨RX6, "next", "()I"⟩
def dkwX6_next_1 : List UInt8 := [172]
abbrev dktX6_next_1 : List UInt8 := dkwX6_next_1 ++ []
def dkwX6_next_0 : List UInt8 := [42, 3, 181, 0, 1, 42, 182, 0, 232, 156, 0, 11, 42, 4, 182, 0, 75, 167, 0, 7, 42, 182, 0, 232]
abbrev dktX6_next_0 : List UInt8 := dkwX6_next_0 ++ dktX6_next_1
theorem dksX6_next_0 : cX6_next.data.toList.drop 0 = dktX6_next_0 := by decide +kernel
theorem dksX6_next_1 : cX6_next.data.toList.drop 24 = dktX6_next_1 := dk_seg dksX6_next_0 24 rfl rfl
theorem dX6_next_0 : decode cX6_next 0 = .ok (.aload_n 0, 1) := dk_42 (dk_at dksX6_next_0 0 rfl rfl)
theorem dX6_next_1 : decode cX6_next 1 = .ok (.iconst 0, 1) := dk_3 (dk_at dksX6_next_0 1 rfl rfl)
theorem dX6_next_2 : decode cX6_next 2 = .ok (.putfield 1, 3) := dk_181 0 1 (dk_at dksX6_next_0 2 rfl rfl)
theorem dX6_next_5 : decode cX6_next 5 = .ok (.aload_n 0, 1) := dk_42 (dk_at dksX6_next_0 5 rfl rfl)
theorem dX6_next_6 : decode cX6_next 6 = .ok (.invokevirtual 232, 3) := dk_182 0 232 (dk_at dksX6_next_0 6 rfl rfl)
theorem dX6_next_9 : decode cX6_next 9 = .ok (.ifCond .ge 11, 3) := dk_156 0 11 (dk_at dksX6_next_0 9 rfl rfl)
theorem dX6_next_12 : decode cX6_next 12 = .ok (.aload_n 0, 1) := dk_42 (dk_at dksX6_next_0 12 rfl rfl)
theorem dX6_next_13 : decode cX6_next 13 = .ok (.iconst 1, 1) := dk_4 (dk_at dksX6_next_0 13 rfl rfl)
theorem dX6_next_14 : decode cX6_next 14 = .ok (.invokevirtual 75, 3) := dk_182 0 75 (dk_at dksX6_next_0 14 rfl rfl)
theorem dX6_next_17 : decode cX6_next 17 = .ok (.goto 7, 3) := dk_167 0 7 (dk_at dksX6_next_0 17 rfl rfl)
theorem dX6_next_20 : decode cX6_next 20 = .ok (.aload_n 0, 1) := dk_42 (dk_at dksX6_next_0 20 rfl rfl)
theorem dX6_next_21 : decode cX6_next 21 = .ok (.invokevirtual 232, 3) := dk_182 0 232 (dk_at dksX6_next_0 21 rfl rfl)
theorem dX6_next_24 : decode cX6_next 24 = .ok (.ireturn, 1) := dk_172 (dk_at dksX6_next_1 0 rfl rfl)
abbrev cX6_stepsUntilQuiet : ByteArray := prog_14_method_97_code
def yX6_stepsUntilQuiet : MethodName := ⟨RX6, "stepsUntilQuiet", "()I"⟩
def dkwX6_stepsUntilQuiet_2 : List UInt8 := [182, 1, 15, 27, 16, 100, 164, 0, 11, 42, 4, 182, 0, 75, 167, 0, 4, 27, 172]
abbrev dktX6_stepsUntilQuiet_2 : List UInt8 := dkwX6_stepsUntilQuiet_2 ++ []
def dkwX6_stepsUntilQuiet_1 : List UInt8 := [180, 0, 13, 16, 9, 46, 96, 158, 0, 14, 132, 1, 1, 42, 182, 0, 241, 87, 167, 255, 227, 42]
abbrev dktX6_stepsUntilQuiet_1 : List UInt8 := dkwX6_stepsUntilQuiet_1 ++ dktX6_stepsUntilQuiet_2
def dkwX6_stepsUntilQuiet_0 : List UInt8 := [42, 3, 181, 0, 1, 42, 182, 1, 9, 3, 60, 27, 16, 100, 163, 0, 29, 42, 182, 1, 12, 42]
abbrev dktX6_stepsUntilQuiet_0 : List UInt8 := dkwX6_stepsUntilQuiet_0 ++ dktX6_stepsUntilQuiet_1
theorem dksX6_stepsUntilQuiet_0 : cX6_stepsUntilQuiet.data.toList.drop 0 = dktX6_stepsUntilQuiet_0 := by decide +kernel
theorem dksX6_stepsUntilQuiet_1 : cX6_stepsUntilQuiet.data.toList.drop 22 = dktX6_stepsUntilQuiet_1 := dk_seg dksX6_stepsUntilQuiet_0 22 rfl rfl
theorem dksX6_stepsUntilQuiet_2 : cX6_stepsUntilQuiet.data.toList.drop 44 = dktX6_stepsUntilQuiet_2 := dk_seg dksX6_stepsUntilQuiet_1 22 rfl rfl
theorem dX6_stepsUntilQuiet_0 : decode cX6_stepsUntilQuiet 0 = .ok (.aload_n 0, 1) := dk_42 (dk_at dksX6_stepsUntilQuiet_0 0 rfl rfl)
theorem dX6_stepsUntilQuiet_1 : decode cX6_stepsUntilQuiet 1 = .ok (.iconst 0, 1) := dk_3 (dk_at dksX6_stepsUntilQuiet_0 1 rfl rfl)
theorem dX6_stepsUntilQuiet_2 : decode cX6_stepsUntilQuiet 2 = .ok (.putfield 1, 3) := dk_181 0 1 (dk_at dksX6_stepsUntilQuiet_0 2 rfl rfl)
theorem dX6_stepsUntilQuiet_5 : decode cX6_stepsUntilQuiet 5 = .ok (.aload_n 0, 1) := dk_42 (dk_at dksX6_stepsUntilQuiet_0 5 rfl rfl)
theorem dX6_stepsUntilQuiet_6 : decode cX6_stepsUntilQuiet 6 = .ok (.invokevirtual 265, 3) := dk_182 1 9 (dk_at dksX6_stepsUntilQuiet_0 6 rfl rfl)
theorem dX6_stepsUntilQuiet_9 : decode cX6_stepsUntilQuiet 9 = .ok (.iconst 0, 1) := dk_3 (dk_at dksX6_stepsUntilQuiet_0 9 rfl rfl)
theorem dX6_stepsUntilQuiet_10 : decode cX6_stepsUntilQuiet 10 = .ok (.istore_n 1, 1) := dk_60 (dk_at dksX6_stepsUntilQuiet_0 10 rfl rfl)
theorem dX6_stepsUntilQuiet_11 : decode cX6_stepsUntilQuiet 11 = .ok (.iload_n 1, 1) := dk_27 (dk_at dksX6_stepsUntilQuiet_0 11 rfl rfl)
theorem dX6_stepsUntilQuiet_12 : decode cX6_stepsUntilQuiet 12 = .ok (.bipush 100, 2) := dk_16 100 (dk_at dksX6_stepsUntilQuiet_0 12 rfl rfl)
theorem dX6_stepsUntilQuiet_14 : decode cX6_stepsUntilQuiet 14 = .ok (.if_icmp .gt 29, 3) := dk_163 0 29 (dk_at dksX6_stepsUntilQuiet_0 14 rfl rfl)
theorem dX6_stepsUntilQuiet_17 : decode cX6_stepsUntilQuiet 17 = .ok (.aload_n 0, 1) := dk_42 (dk_at dksX6_stepsUntilQuiet_0 17 rfl rfl)
theorem dX6_stepsUntilQuiet_18 : decode cX6_stepsUntilQuiet 18 = .ok (.invokevirtual 268, 3) := dk_182 1 12 (dk_at dksX6_stepsUntilQuiet_0 18 rfl rfl)
theorem dX6_stepsUntilQuiet_21 : decode cX6_stepsUntilQuiet 21 = .ok (.aload_n 0, 1) := dk_42 (dk_at dksX6_stepsUntilQuiet_0 21 rfl rfl)
theorem dX6_stepsUntilQuiet_22 : decode cX6_stepsUntilQuiet 22 = .ok (.getfield 13, 3) := dk_180 0 13 (dk_at dksX6_stepsUntilQuiet_1 0 rfl rfl)
theorem dX6_stepsUntilQuiet_25 : decode cX6_stepsUntilQuiet 25 = .ok (.bipush 9, 2) := dk_16 9 (dk_at dksX6_stepsUntilQuiet_1 3 rfl rfl)
theorem dX6_stepsUntilQuiet_27 : decode cX6_stepsUntilQuiet 27 = .ok (.iaload, 1) := dk_46 (dk_at dksX6_stepsUntilQuiet_1 5 rfl rfl)
theorem dX6_stepsUntilQuiet_28 : decode cX6_stepsUntilQuiet 28 = .ok (.iadd, 1) := dk_96 (dk_at dksX6_stepsUntilQuiet_1 6 rfl rfl)
theorem dX6_stepsUntilQuiet_29 : decode cX6_stepsUntilQuiet 29 = .ok (.ifCond .le 14, 3) := dk_158 0 14 (dk_at dksX6_stepsUntilQuiet_1 7 rfl rfl)
theorem dX6_stepsUntilQuiet_32 : decode cX6_stepsUntilQuiet 32 = .ok (.iinc 1 1, 3) := dk_132 1 1 (dk_at dksX6_stepsUntilQuiet_1 10 rfl rfl)
theorem dX6_stepsUntilQuiet_35 : decode cX6_stepsUntilQuiet 35 = .ok (.aload_n 0, 1) := dk_42 (dk_at dksX6_stepsUntilQuiet_1 13 rfl rfl)
theorem dX6_stepsUntilQuiet_36 : decode cX6_stepsUntilQuiet 36 = .ok (.invokevirtual 241, 3) := dk_182 0 241 (dk_at dksX6_stepsUntilQuiet_1 14 rfl rfl)
theorem dX6_stepsUntilQuiet_39 : decode cX6_stepsUntilQuiet 39 = .ok (.pop, 1) := dk_87 (dk_at dksX6_stepsUntilQuiet_1 17 rfl rfl)
theorem dX6_stepsUntilQuiet_40 : decode cX6_stepsUntilQuiet 40 = .ok (.goto (-29), 3) := dk_167 255 227 (dk_at dksX6_stepsUntilQuiet_1 18 rfl rfl)
theorem dX6_stepsUntilQuiet_43 : decode cX6_stepsUntilQuiet 43 = .ok (.aload_n 0, 1) := dk_42 (dk_at dksX6_stepsUntilQuiet_1 21 rfl rfl)
theorem dX6_stepsUntilQuiet_44 : decode cX6_stepsUntilQuiet 44 = .ok (.invokevirtual 271, 3) := dk_182 1 15 (dk_at dksX6_stepsUntilQuiet_2 0 rfl rfl)
theorem dX6_stepsUntilQuiet_47 : decode cX6_stepsUntilQuiet 47 = .ok (.iload_n 1, 1) := dk_27 (dk_at dksX6_stepsUntilQuiet_2 3 rfl rfl)
theorem dX6_stepsUntilQuiet_48 : decode cX6_stepsUntilQuiet 48 = .ok (.bipush 100, 2) := dk_16 100 (dk_at dksX6_stepsUntilQuiet_2 4 rfl rfl)
theorem dX6_stepsUntilQuiet_50 : decode cX6_stepsUntilQuiet 50 = .ok (.if_icmp .le 11, 3) := dk_164 0 11 (dk_at dksX6_stepsUntilQuiet_2 6 rfl rfl)
theorem dX6_stepsUntilQuiet_53 : decode cX6_stepsUntilQuiet 53 = .ok (.aload_n 0, 1) := dk_42 (dk_at dksX6_stepsUntilQuiet_2 9 rfl rfl)
theorem dX6_stepsUntilQuiet_54 : decode cX6_stepsUntilQuiet 54 = .ok (.iconst 1, 1) := dk_4 (dk_at dksX6_stepsUntilQuiet_2 10 rfl rfl)
theorem dX6_stepsUntilQuiet_55 : decode cX6_stepsUntilQuiet 55 = .ok (.invokevirtual 75, 3) := dk_182 0 75 (dk_at dksX6_stepsUntilQuiet_2 11 rfl rfl)
theorem dX6_stepsUntilQuiet_58 : decode cX6_stepsUntilQuiet 58 = .ok (.goto 4, 3) := dk_167 0 4 (dk_at dksX6_stepsUntilQuiet_2 14 rfl rfl)
theorem dX6_stepsUntilQuiet_61 : decode cX6_stepsUntilQuiet 61 = .ok (.iload_n 1, 1) := dk_27 (dk_at dksX6_stepsUntilQuiet_2 17 rfl rfl)
theorem dX6_stepsUntilQuiet_62 : decode cX6_stepsUntilQuiet 62 = .ok (.ireturn, 1) := dk_172 (dk_at dksX6_stepsUntilQuiet_2 18 rfl rfl)
abbrev cX6_thinks : ByteArray := prog_14_method_7_code
def yX6_thinks : MethodName := ⟨RX6, "thinks", "()V"⟩
def dkwX6_thinks_1 : List UInt8 := [167, 255, 234, 177]
abbrev dktX6_thinks_1 : List UInt8 := dkwX6_thinks_1 ++ []
def dkwX6_thinks_0 : List UInt8 := [3, 60, 27, 17, 0, 189, 162, 0, 21, 42, 180, 0, 26, 27, 42, 180, 0, 13, 27, 46, 79, 132, 1, 1]
abbrev dktX6_thinks_0 : List UInt8 := dkwX6_thinks_0 ++ dktX6_thinks_1
theorem dksX6_thinks_0 : cX6_thinks.data.toList.drop 0 = dktX6_thinks_0 := by decide +kernel
theorem dksX6_thinks_1 : cX6_thinks.data.toList.drop 24 = dktX6_thinks_1 := dk_seg dksX6_thinks_0 24 rfl rfl
theorem dX6_thinks_0 : decode cX6_thinks 0 = .ok (.iconst 0, 1) := dk_3 (dk_at dksX6_thinks_0 0 rfl rfl)
theorem dX6_thinks_1 : decode cX6_thinks 1 = .ok (.istore_n 1, 1) := dk_60 (dk_at dksX6_thinks_0 1 rfl rfl)
theorem dX6_thinks_2 : decode cX6_thinks 2 = .ok (.iload_n 1, 1) := dk_27 (dk_at dksX6_thinks_0 2 rfl rfl)
theorem dX6_thinks_3 : decode cX6_thinks 3 = .ok (.sipush 189, 3) := dk_17 0 189 (dk_at dksX6_thinks_0 3 rfl rfl)
theorem dX6_thinks_6 : decode cX6_thinks 6 = .ok (.if_icmp .ge 21, 3) := dk_162 0 21 (dk_at dksX6_thinks_0 6 rfl rfl)
theorem dX6_thinks_9 : decode cX6_thinks 9 = .ok (.aload_n 0, 1) := dk_42 (dk_at dksX6_thinks_0 9 rfl rfl)
theorem dX6_thinks_10 : decode cX6_thinks 10 = .ok (.getfield 26, 3) := dk_180 0 26 (dk_at dksX6_thinks_0 10 rfl rfl)
theorem dX6_thinks_13 : decode cX6_thinks 13 = .ok (.iload_n 1, 1) := dk_27 (dk_at dksX6_thinks_0 13 rfl rfl)
theorem dX6_thinks_14 : decode cX6_thinks 14 = .ok (.aload_n 0, 1) := dk_42 (dk_at dksX6_thinks_0 14 rfl rfl)
theorem dX6_thinks_15 : decode cX6_thinks 15 = .ok (.getfield 13, 3) := dk_180 0 13 (dk_at dksX6_thinks_0 15 rfl rfl)
theorem dX6_thinks_18 : decode cX6_thinks 18 = .ok (.iload_n 1, 1) := dk_27 (dk_at dksX6_thinks_0 18 rfl rfl)
theorem dX6_thinks_19 : decode cX6_thinks 19 = .ok (.iaload, 1) := dk_46 (dk_at dksX6_thinks_0 19 rfl rfl)
theorem dX6_thinks_20 : decode cX6_thinks 20 = .ok (.iastore, 1) := dk_79 (dk_at dksX6_thinks_0 20 rfl rfl)
theorem dX6_thinks_21 : decode cX6_thinks 21 = .ok (.iinc 1 1, 3) := dk_132 1 1 (dk_at dksX6_thinks_0 21 rfl rfl)
theorem dX6_thinks_24 : decode cX6_thinks 24 = .ok (.goto (-22), 3) := dk_167 255 234 (dk_at dksX6_thinks_1 0 rfl rfl)
theorem dX6_thinks_27 : decode cX6_thinks 27 = .ok (.return_, 1) := dk_177 (dk_at dksX6_thinks_1 3 rfl rfl)
abbrev cX6_messagesNow : ByteArray := prog_14_method_96_code
def yX6_messagesNow : MethodName := ⟨RX6, "messagesNow", "()I"⟩
def dkwX6_messagesNow_1 : List UInt8 := [132, 2, 1, 167, 255, 233, 27, 172]
abbrev dktX6_messagesNow_1 : List UInt8 := dkwX6_messagesNow_1 ++ []
def dkwX6_messagesNow_0 : List UInt8 := [3, 60, 3, 61, 28, 42, 180, 0, 13, 3, 46, 162, 0, 19, 27, 42, 28, 16, 9, 182, 0, 83, 96, 60]
abbrev dktX6_messagesNow_0 : List UInt8 := dkwX6_messagesNow_0 ++ dktX6_messagesNow_1
theorem dksX6_messagesNow_0 : cX6_messagesNow.data.toList.drop 0 = dktX6_messagesNow_0 := by decide +kernel
theorem dksX6_messagesNow_1 : cX6_messagesNow.data.toList.drop 24 = dktX6_messagesNow_1 := dk_seg dksX6_messagesNow_0 24 rfl rfl
theorem dX6_messagesNow_0 : decode cX6_messagesNow 0 = .ok (.iconst 0, 1) := dk_3 (dk_at dksX6_messagesNow_0 0 rfl rfl)
theorem dX6_messagesNow_1 : decode cX6_messagesNow 1 = .ok (.istore_n 1, 1) := dk_60 (dk_at dksX6_messagesNow_0 1 rfl rfl)
theorem dX6_messagesNow_2 : decode cX6_messagesNow 2 = .ok (.iconst 0, 1) := dk_3 (dk_at dksX6_messagesNow_0 2 rfl rfl)
theorem dX6_messagesNow_3 : decode cX6_messagesNow 3 = .ok (.istore_n 2, 1) := dk_61 (dk_at dksX6_messagesNow_0 3 rfl rfl)
theorem dX6_messagesNow_4 : decode cX6_messagesNow 4 = .ok (.iload_n 2, 1) := dk_28 (dk_at dksX6_messagesNow_0 4 rfl rfl)
theorem dX6_messagesNow_5 : decode cX6_messagesNow 5 = .ok (.aload_n 0, 1) := dk_42 (dk_at dksX6_messagesNow_0 5 rfl rfl)
theorem dX6_messagesNow_6 : decode cX6_messagesNow 6 = .ok (.getfield 13, 3) := dk_180 0 13 (dk_at dksX6_messagesNow_0 6 rfl rfl)
theorem dX6_messagesNow_9 : decode cX6_messagesNow 9 = .ok (.iconst 0, 1) := dk_3 (dk_at dksX6_messagesNow_0 9 rfl rfl)
theorem dX6_messagesNow_10 : decode cX6_messagesNow 10 = .ok (.iaload, 1) := dk_46 (dk_at dksX6_messagesNow_0 10 rfl rfl)
theorem dX6_messagesNow_11 : decode cX6_messagesNow 11 = .ok (.if_icmp .ge 19, 3) := dk_162 0 19 (dk_at dksX6_messagesNow_0 11 rfl rfl)
theorem dX6_messagesNow_14 : decode cX6_messagesNow 14 = .ok (.iload_n 1, 1) := dk_27 (dk_at dksX6_messagesNow_0 14 rfl rfl)
theorem dX6_messagesNow_15 : decode cX6_messagesNow 15 = .ok (.aload_n 0, 1) := dk_42 (dk_at dksX6_messagesNow_0 15 rfl rfl)
theorem dX6_messagesNow_16 : decode cX6_messagesNow 16 = .ok (.iload_n 2, 1) := dk_28 (dk_at dksX6_messagesNow_0 16 rfl rfl)
theorem dX6_messagesNow_17 : decode cX6_messagesNow 17 = .ok (.bipush 9, 2) := dk_16 9 (dk_at dksX6_messagesNow_0 17 rfl rfl)
theorem dX6_messagesNow_19 : decode cX6_messagesNow 19 = .ok (.invokevirtual 83, 3) := dk_182 0 83 (dk_at dksX6_messagesNow_0 19 rfl rfl)
theorem dX6_messagesNow_22 : decode cX6_messagesNow 22 = .ok (.iadd, 1) := dk_96 (dk_at dksX6_messagesNow_0 22 rfl rfl)
theorem dX6_messagesNow_23 : decode cX6_messagesNow 23 = .ok (.istore_n 1, 1) := dk_60 (dk_at dksX6_messagesNow_0 23 rfl rfl)
theorem dX6_messagesNow_24 : decode cX6_messagesNow 24 = .ok (.iinc 2 1, 3) := dk_132 2 1 (dk_at dksX6_messagesNow_1 0 rfl rfl)
theorem dX6_messagesNow_27 : decode cX6_messagesNow 27 = .ok (.goto (-23), 3) := dk_167 255 233 (dk_at dksX6_messagesNow_1 3 rfl rfl)
theorem dX6_messagesNow_30 : decode cX6_messagesNow 30 = .ok (.iload_n 1, 1) := dk_27 (dk_at dksX6_messagesNow_1 6 rfl rfl)
theorem dX6_messagesNow_31 : decode cX6_messagesNow 31 = .ok (.ireturn, 1) := dk_172 (dk_at dksX6_messagesNow_1 7 rfl rfl)
abbrev cX6_thinksBack : ByteArray := prog_14_method_8_code
def yX6_thinksBack : MethodName := ⟨RX6, "thinksBack", "()V"⟩
def dkwX6_thinksBack_1 : List UInt8 := [167, 255, 234, 177]
abbrev dktX6_thinksBack_1 : List UInt8 := dkwX6_thinksBack_1 ++ []
def dkwX6_thinksBack_0 : List UInt8 := [3, 60, 27, 17, 0, 189, 162, 0, 21, 42, 180, 0, 13, 27, 42, 180, 0, 26, 27, 46, 79, 132, 1, 1]
abbrev dktX6_thinksBack_0 : List UInt8 := dkwX6_thinksBack_0 ++ dktX6_thinksBack_1
theorem dksX6_thinksBack_0 : cX6_thinksBack.data.toList.drop 0 = dktX6_thinksBack_0 := by decide +kernel
theorem dksX6_thinksBack_1 : cX6_thinksBack.data.toList.drop 24 = dktX6_thinksBack_1 := dk_seg dksX6_thinksBack_0 24 rfl rfl
theorem dX6_thinksBack_0 : decode cX6_thinksBack 0 = .ok (.iconst 0, 1) := dk_3 (dk_at dksX6_thinksBack_0 0 rfl rfl)
theorem dX6_thinksBack_1 : decode cX6_thinksBack 1 = .ok (.istore_n 1, 1) := dk_60 (dk_at dksX6_thinksBack_0 1 rfl rfl)
theorem dX6_thinksBack_2 : decode cX6_thinksBack 2 = .ok (.iload_n 1, 1) := dk_27 (dk_at dksX6_thinksBack_0 2 rfl rfl)
theorem dX6_thinksBack_3 : decode cX6_thinksBack 3 = .ok (.sipush 189, 3) := dk_17 0 189 (dk_at dksX6_thinksBack_0 3 rfl rfl)
theorem dX6_thinksBack_6 : decode cX6_thinksBack 6 = .ok (.if_icmp .ge 21, 3) := dk_162 0 21 (dk_at dksX6_thinksBack_0 6 rfl rfl)
theorem dX6_thinksBack_9 : decode cX6_thinksBack 9 = .ok (.aload_n 0, 1) := dk_42 (dk_at dksX6_thinksBack_0 9 rfl rfl)
theorem dX6_thinksBack_10 : decode cX6_thinksBack 10 = .ok (.getfield 13, 3) := dk_180 0 13 (dk_at dksX6_thinksBack_0 10 rfl rfl)
theorem dX6_thinksBack_13 : decode cX6_thinksBack 13 = .ok (.iload_n 1, 1) := dk_27 (dk_at dksX6_thinksBack_0 13 rfl rfl)
theorem dX6_thinksBack_14 : decode cX6_thinksBack 14 = .ok (.aload_n 0, 1) := dk_42 (dk_at dksX6_thinksBack_0 14 rfl rfl)
theorem dX6_thinksBack_15 : decode cX6_thinksBack 15 = .ok (.getfield 26, 3) := dk_180 0 26 (dk_at dksX6_thinksBack_0 15 rfl rfl)
theorem dX6_thinksBack_18 : decode cX6_thinksBack 18 = .ok (.iload_n 1, 1) := dk_27 (dk_at dksX6_thinksBack_0 18 rfl rfl)
theorem dX6_thinksBack_19 : decode cX6_thinksBack 19 = .ok (.iaload, 1) := dk_46 (dk_at dksX6_thinksBack_0 19 rfl rfl)
theorem dX6_thinksBack_20 : decode cX6_thinksBack 20 = .ok (.iastore, 1) := dk_79 (dk_at dksX6_thinksBack_0 20 rfl rfl)
theorem dX6_thinksBack_21 : decode cX6_thinksBack 21 = .ok (.iinc 1 1, 3) := dk_132 1 1 (dk_at dksX6_thinksBack_0 21 rfl rfl)
theorem dX6_thinksBack_24 : decode cX6_thinksBack 24 = .ok (.goto (-22), 3) := dk_167 255 234 (dk_at dksX6_thinksBack_1 0 rfl rfl)
theorem dX6_thinksBack_27 : decode cX6_thinksBack 27 = .ok (.return_, 1) := dk_177 (dk_at dksX6_thinksBack_1 3 rfl rfl)
abbrev cX6_outcomes : ByteArray := prog_14_method_106_code
def yX6_outcomes : MethodName := ⟨RX6, "outcomes", "()I"⟩
def dkwX6_outcomes_0 : List UInt8 := [42, 182, 1, 42, 153, 0, 5, 3, 172, 42, 182, 1, 46, 42, 180, 1, 25, 172]
abbrev dktX6_outcomes_0 : List UInt8 := dkwX6_outcomes_0 ++ []
theorem dksX6_outcomes_0 : cX6_outcomes.data.toList.drop 0 = dktX6_outcomes_0 := by decide +kernel
theorem dX6_outcomes_0 : decode cX6_outcomes 0 = .ok (.aload_n 0, 1) := dk_42 (dk_at dksX6_outcomes_0 0 rfl rfl)
theorem dX6_outcomes_1 : decode cX6_outcomes 1 = .ok (.invokevirtual 298, 3) := dk_182 1 42 (dk_at dksX6_outcomes_0 1 rfl rfl)
theorem dX6_outcomes_4 : decode cX6_outcomes 4 = .ok (.ifCond .eq 5, 3) := dk_153 0 5 (dk_at dksX6_outcomes_0 4 rfl rfl)
theorem dX6_outcomes_7 : decode cX6_outcomes 7 = .ok (.iconst 0, 1) := dk_3 (dk_at dksX6_outcomes_0 7 rfl rfl)
theorem dX6_outcomes_8 : decode cX6_outcomes 8 = .ok (.ireturn, 1) := dk_172 (dk_at dksX6_outcomes_0 8 rfl rfl)
theorem dX6_outcomes_9 : decode cX6_outcomes 9 = .ok (.aload_n 0, 1) := dk_42 (dk_at dksX6_outcomes_0 9 rfl rfl)
theorem dX6_outcomes_10 : decode cX6_outcomes 10 = .ok (.invokevirtual 302, 3) := dk_182 1 46 (dk_at dksX6_outcomes_0 10 rfl rfl)
theorem dX6_outcomes_13 : decode cX6_outcomes 13 = .ok (.aload_n 0, 1) := dk_42 (dk_at dksX6_outcomes_0 13 rfl rfl)
theorem dX6_outcomes_14 : decode cX6_outcomes 14 = .ok (.getfield 281, 3) := dk_180 1 25 (dk_at dksX6_outcomes_0 14 rfl rfl)
theorem dX6_outcomes_17 : decode cX6_outcomes 17 = .ok (.ireturn, 1) := dk_172 (dk_at dksX6_outcomes_0 17 rfl rfl)
abbrev cX6_areMany : ByteArray := prog_14_method_105_code
def yX6_areMany : MethodName := ⟨RX6, "areMany", "()Z"⟩
def dkwX6_areMany_1 : List UInt8 := [182, 0, 98, 182, 0, 109, 154, 0, 7, 4, 167, 0, 4, 3, 172]
abbrev dktX6_areMany_1 : List UInt8 := dkwX6_areMany_1 ++ []
def dkwX6_areMany_0 : List UInt8 := [42, 3, 181, 0, 1, 42, 182, 1, 12, 6, 163, 0, 5, 3, 172, 42, 42, 8, 42, 182, 1, 12, 4]
abbrev dktX6_areMany_0 : List UInt8 := dkwX6_areMany_0 ++ dktX6_areMany_1
theorem dksX6_areMany_0 : cX6_areMany.data.toList.drop 0 = dktX6_areMany_0 := by decide +kernel
theorem dksX6_areMany_1 : cX6_areMany.data.toList.drop 23 = dktX6_areMany_1 := dk_seg dksX6_areMany_0 23 rfl rfl
theorem dX6_areMany_0 : decode cX6_areMany 0 = .ok (.aload_n 0, 1) := dk_42 (dk_at dksX6_areMany_0 0 rfl rfl)
theorem dX6_areMany_1 : decode cX6_areMany 1 = .ok (.iconst 0, 1) := dk_3 (dk_at dksX6_areMany_0 1 rfl rfl)
theorem dX6_areMany_2 : decode cX6_areMany 2 = .ok (.putfield 1, 3) := dk_181 0 1 (dk_at dksX6_areMany_0 2 rfl rfl)
theorem dX6_areMany_5 : decode cX6_areMany 5 = .ok (.aload_n 0, 1) := dk_42 (dk_at dksX6_areMany_0 5 rfl rfl)
theorem dX6_areMany_6 : decode cX6_areMany 6 = .ok (.invokevirtual 268, 3) := dk_182 1 12 (dk_at dksX6_areMany_0 6 rfl rfl)
theorem dX6_areMany_9 : decode cX6_areMany 9 = .ok (.iconst 3, 1) := dk_6 (dk_at dksX6_areMany_0 9 rfl rfl)
theorem dX6_areMany_10 : decode cX6_areMany 10 = .ok (.if_icmp .gt 5, 3) := dk_163 0 5 (dk_at dksX6_areMany_0 10 rfl rfl)
theorem dX6_areMany_13 : decode cX6_areMany 13 = .ok (.iconst 0, 1) := dk_3 (dk_at dksX6_areMany_0 13 rfl rfl)
theorem dX6_areMany_14 : decode cX6_areMany 14 = .ok (.ireturn, 1) := dk_172 (dk_at dksX6_areMany_0 14 rfl rfl)
theorem dX6_areMany_15 : decode cX6_areMany 15 = .ok (.aload_n 0, 1) := dk_42 (dk_at dksX6_areMany_0 15 rfl rfl)
theorem dX6_areMany_16 : decode cX6_areMany 16 = .ok (.aload_n 0, 1) := dk_42 (dk_at dksX6_areMany_0 16 rfl rfl)
theorem dX6_areMany_17 : decode cX6_areMany 17 = .ok (.iconst 5, 1) := dk_8 (dk_at dksX6_areMany_0 17 rfl rfl)
theorem dX6_areMany_18 : decode cX6_areMany 18 = .ok (.aload_n 0, 1) := dk_42 (dk_at dksX6_areMany_0 18 rfl rfl)
theorem dX6_areMany_19 : decode cX6_areMany 19 = .ok (.invokevirtual 268, 3) := dk_182 1 12 (dk_at dksX6_areMany_0 19 rfl rfl)
theorem dX6_areMany_22 : decode cX6_areMany 22 = .ok (.iconst 1, 1) := dk_4 (dk_at dksX6_areMany_0 22 rfl rfl)
theorem dX6_areMany_23 : decode cX6_areMany 23 = .ok (.invokevirtual 98, 3) := dk_182 0 98 (dk_at dksX6_areMany_1 0 rfl rfl)
theorem dX6_areMany_26 : decode cX6_areMany 26 = .ok (.invokevirtual 109, 3) := dk_182 0 109 (dk_at dksX6_areMany_1 3 rfl rfl)
theorem dX6_areMany_29 : decode cX6_areMany 29 = .ok (.ifCond .ne 7, 3) := dk_154 0 7 (dk_at dksX6_areMany_1 6 rfl rfl)
theorem dX6_areMany_32 : decode cX6_areMany 32 = .ok (.iconst 1, 1) := dk_4 (dk_at dksX6_areMany_1 9 rfl rfl)
theorem dX6_areMany_33 : decode cX6_areMany 33 = .ok (.goto 4, 3) := dk_167 0 4 (dk_at dksX6_areMany_1 10 rfl rfl)
theorem dX6_areMany_36 : decode cX6_areMany 36 = .ok (.iconst 0, 1) := dk_3 (dk_at dksX6_areMany_1 13 rfl rfl)
theorem dX6_areMany_37 : decode cX6_areMany 37 = .ok (.ireturn, 1) := dk_172 (dk_at dksX6_areMany_1 14 rfl rfl)
abbrev cX6_goesThrough : ByteArray := prog_14_method_104_code
def yX6_goesThrough : MethodName := ⟨RX6, "goesThrough", "()V"⟩
def dkwX6_goesThrough_3 : List UInt8 := [4, 96, 79, 42, 28, 182, 0, 238, 132, 1, 1, 42, 27, 182, 1, 31, 167, 255, 191, 42, 182, 1, 15, 177]
abbrev dktX6_goesThrough_3 : List UInt8 := dkwX6_goesThrough_3 ++ []
def dkwX6_goesThrough_2 : List UInt8 := [180, 0, 32, 27, 46, 154, 0, 7, 42, 182, 1, 40, 132, 1, 255, 167, 0, 25, 42, 180, 0, 32, 27, 28]
abbrev dktX6_goesThrough_2 : List UInt8 := dkwX6_goesThrough_2 ++ dktX6_goesThrough_3
def dkwX6_goesThrough_1 : List UInt8 := [155, 0, 67, 42, 27, 182, 1, 34, 42, 42, 180, 0, 32, 27, 46, 182, 1, 37, 61, 28, 156, 0, 22, 42]
abbrev dktX6_goesThrough_1 : List UInt8 := dkwX6_goesThrough_1 ++ dktX6_goesThrough_2
def dkwX6_goesThrough_0 : List UInt8 := [42, 182, 1, 9, 42, 9, 181, 1, 21, 42, 3, 181, 1, 25, 3, 60, 42, 3, 182, 1, 31, 27]
abbrev dktX6_goesThrough_0 : List UInt8 := dkwX6_goesThrough_0 ++ dktX6_goesThrough_1
theorem dksX6_goesThrough_0 : cX6_goesThrough.data.toList.drop 0 = dktX6_goesThrough_0 := by decide +kernel
theorem dksX6_goesThrough_1 : cX6_goesThrough.data.toList.drop 22 = dktX6_goesThrough_1 := dk_seg dksX6_goesThrough_0 22 rfl rfl
theorem dksX6_goesThrough_2 : cX6_goesThrough.data.toList.drop 46 = dktX6_goesThrough_2 := dk_seg dksX6_goesThrough_1 24 rfl rfl
theorem dksX6_goesThrough_3 : cX6_goesThrough.data.toList.drop 70 = dktX6_goesThrough_3 := dk_seg dksX6_goesThrough_2 24 rfl rfl
theorem dX6_goesThrough_0 : decode cX6_goesThrough 0 = .ok (.aload_n 0, 1) := dk_42 (dk_at dksX6_goesThrough_0 0 rfl rfl)
theorem dX6_goesThrough_1 : decode cX6_goesThrough 1 = .ok (.invokevirtual 265, 3) := dk_182 1 9 (dk_at dksX6_goesThrough_0 1 rfl rfl)
theorem dX6_goesThrough_4 : decode cX6_goesThrough 4 = .ok (.aload_n 0, 1) := dk_42 (dk_at dksX6_goesThrough_0 4 rfl rfl)
theorem dX6_goesThrough_5 : decode cX6_goesThrough 5 = .ok (.lconst 0, 1) := dk_9 (dk_at dksX6_goesThrough_0 5 rfl rfl)
theorem dX6_goesThrough_6 : decode cX6_goesThrough 6 = .ok (.putfield 277, 3) := dk_181 1 21 (dk_at dksX6_goesThrough_0 6 rfl rfl)
theorem dX6_goesThrough_9 : decode cX6_goesThrough 9 = .ok (.aload_n 0, 1) := dk_42 (dk_at dksX6_goesThrough_0 9 rfl rfl)
theorem dX6_goesThrough_10 : decode cX6_goesThrough 10 = .ok (.iconst 0, 1) := dk_3 (dk_at dksX6_goesThrough_0 10 rfl rfl)
theorem dX6_goesThrough_11 : decode cX6_goesThrough 11 = .ok (.putfield 281, 3) := dk_181 1 25 (dk_at dksX6_goesThrough_0 11 rfl rfl)
theorem dX6_goesThrough_14 : decode cX6_goesThrough 14 = .ok (.iconst 0, 1) := dk_3 (dk_at dksX6_goesThrough_0 14 rfl rfl)
theorem dX6_goesThrough_15 : decode cX6_goesThrough 15 = .ok (.istore_n 1, 1) := dk_60 (dk_at dksX6_goesThrough_0 15 rfl rfl)
theorem dX6_goesThrough_16 : decode cX6_goesThrough 16 = .ok (.aload_n 0, 1) := dk_42 (dk_at dksX6_goesThrough_0 16 rfl rfl)
theorem dX6_goesThrough_17 : decode cX6_goesThrough 17 = .ok (.iconst 0, 1) := dk_3 (dk_at dksX6_goesThrough_0 17 rfl rfl)
theorem dX6_goesThrough_18 : decode cX6_goesThrough 18 = .ok (.invokevirtual 287, 3) := dk_182 1 31 (dk_at dksX6_goesThrough_0 18 rfl rfl)
theorem dX6_goesThrough_21 : decode cX6_goesThrough 21 = .ok (.iload_n 1, 1) := dk_27 (dk_at dksX6_goesThrough_0 21 rfl rfl)
theorem dX6_goesThrough_22 : decode cX6_goesThrough 22 = .ok (.ifCond .lt 67, 3) := dk_155 0 67 (dk_at dksX6_goesThrough_1 0 rfl rfl)
theorem dX6_goesThrough_25 : decode cX6_goesThrough 25 = .ok (.aload_n 0, 1) := dk_42 (dk_at dksX6_goesThrough_1 3 rfl rfl)
theorem dX6_goesThrough_26 : decode cX6_goesThrough 26 = .ok (.iload_n 1, 1) := dk_27 (dk_at dksX6_goesThrough_1 4 rfl rfl)
theorem dX6_goesThrough_27 : decode cX6_goesThrough 27 = .ok (.invokevirtual 290, 3) := dk_182 1 34 (dk_at dksX6_goesThrough_1 5 rfl rfl)
theorem dX6_goesThrough_30 : decode cX6_goesThrough 30 = .ok (.aload_n 0, 1) := dk_42 (dk_at dksX6_goesThrough_1 8 rfl rfl)
theorem dX6_goesThrough_31 : decode cX6_goesThrough 31 = .ok (.aload_n 0, 1) := dk_42 (dk_at dksX6_goesThrough_1 9 rfl rfl)
theorem dX6_goesThrough_32 : decode cX6_goesThrough 32 = .ok (.getfield 32, 3) := dk_180 0 32 (dk_at dksX6_goesThrough_1 10 rfl rfl)
theorem dX6_goesThrough_35 : decode cX6_goesThrough 35 = .ok (.iload_n 1, 1) := dk_27 (dk_at dksX6_goesThrough_1 13 rfl rfl)
theorem dX6_goesThrough_36 : decode cX6_goesThrough 36 = .ok (.iaload, 1) := dk_46 (dk_at dksX6_goesThrough_1 14 rfl rfl)
theorem dX6_goesThrough_37 : decode cX6_goesThrough 37 = .ok (.invokevirtual 293, 3) := dk_182 1 37 (dk_at dksX6_goesThrough_1 15 rfl rfl)
theorem dX6_goesThrough_40 : decode cX6_goesThrough 40 = .ok (.istore_n 2, 1) := dk_61 (dk_at dksX6_goesThrough_1 18 rfl rfl)
theorem dX6_goesThrough_41 : decode cX6_goesThrough 41 = .ok (.iload_n 2, 1) := dk_28 (dk_at dksX6_goesThrough_1 19 rfl rfl)
theorem dX6_goesThrough_42 : decode cX6_goesThrough 42 = .ok (.ifCond .ge 22, 3) := dk_156 0 22 (dk_at dksX6_goesThrough_1 20 rfl rfl)
theorem dX6_goesThrough_45 : decode cX6_goesThrough 45 = .ok (.aload_n 0, 1) := dk_42 (dk_at dksX6_goesThrough_1 23 rfl rfl)
theorem dX6_goesThrough_46 : decode cX6_goesThrough 46 = .ok (.getfield 32, 3) := dk_180 0 32 (dk_at dksX6_goesThrough_2 0 rfl rfl)
theorem dX6_goesThrough_49 : decode cX6_goesThrough 49 = .ok (.iload_n 1, 1) := dk_27 (dk_at dksX6_goesThrough_2 3 rfl rfl)
theorem dX6_goesThrough_50 : decode cX6_goesThrough 50 = .ok (.iaload, 1) := dk_46 (dk_at dksX6_goesThrough_2 4 rfl rfl)
theorem dX6_goesThrough_51 : decode cX6_goesThrough 51 = .ok (.ifCond .ne 7, 3) := dk_154 0 7 (dk_at dksX6_goesThrough_2 5 rfl rfl)
theorem dX6_goesThrough_54 : decode cX6_goesThrough 54 = .ok (.aload_n 0, 1) := dk_42 (dk_at dksX6_goesThrough_2 8 rfl rfl)
theorem dX6_goesThrough_55 : decode cX6_goesThrough 55 = .ok (.invokevirtual 296, 3) := dk_182 1 40 (dk_at dksX6_goesThrough_2 9 rfl rfl)
theorem dX6_goesThrough_58 : decode cX6_goesThrough 58 = .ok (.iinc 1 (-1), 3) := dk_132 1 255 (dk_at dksX6_goesThrough_2 12 rfl rfl)
theorem dX6_goesThrough_61 : decode cX6_goesThrough 61 = .ok (.goto 25, 3) := dk_167 0 25 (dk_at dksX6_goesThrough_2 15 rfl rfl)
theorem dX6_goesThrough_64 : decode cX6_goesThrough 64 = .ok (.aload_n 0, 1) := dk_42 (dk_at dksX6_goesThrough_2 18 rfl rfl)
theorem dX6_goesThrough_65 : decode cX6_goesThrough 65 = .ok (.getfield 32, 3) := dk_180 0 32 (dk_at dksX6_goesThrough_2 19 rfl rfl)
theorem dX6_goesThrough_68 : decode cX6_goesThrough 68 = .ok (.iload_n 1, 1) := dk_27 (dk_at dksX6_goesThrough_2 22 rfl rfl)
theorem dX6_goesThrough_69 : decode cX6_goesThrough 69 = .ok (.iload_n 2, 1) := dk_28 (dk_at dksX6_goesThrough_2 23 rfl rfl)
theorem dX6_goesThrough_70 : decode cX6_goesThrough 70 = .ok (.iconst 1, 1) := dk_4 (dk_at dksX6_goesThrough_3 0 rfl rfl)
theorem dX6_goesThrough_71 : decode cX6_goesThrough 71 = .ok (.iadd, 1) := dk_96 (dk_at dksX6_goesThrough_3 1 rfl rfl)
theorem dX6_goesThrough_72 : decode cX6_goesThrough 72 = .ok (.iastore, 1) := dk_79 (dk_at dksX6_goesThrough_3 2 rfl rfl)
theorem dX6_goesThrough_73 : decode cX6_goesThrough 73 = .ok (.aload_n 0, 1) := dk_42 (dk_at dksX6_goesThrough_3 3 rfl rfl)
theorem dX6_goesThrough_74 : decode cX6_goesThrough 74 = .ok (.iload_n 2, 1) := dk_28 (dk_at dksX6_goesThrough_3 4 rfl rfl)
theorem dX6_goesThrough_75 : decode cX6_goesThrough 75 = .ok (.invokevirtual 238, 3) := dk_182 0 238 (dk_at dksX6_goesThrough_3 5 rfl rfl)
theorem dX6_goesThrough_78 : decode cX6_goesThrough 78 = .ok (.iinc 1 1, 3) := dk_132 1 1 (dk_at dksX6_goesThrough_3 8 rfl rfl)
theorem dX6_goesThrough_81 : decode cX6_goesThrough 81 = .ok (.aload_n 0, 1) := dk_42 (dk_at dksX6_goesThrough_3 11 rfl rfl)
theorem dX6_goesThrough_82 : decode cX6_goesThrough 82 = .ok (.iload_n 1, 1) := dk_27 (dk_at dksX6_goesThrough_3 12 rfl rfl)
theorem dX6_goesThrough_83 : decode cX6_goesThrough 83 = .ok (.invokevirtual 287, 3) := dk_182 1 31 (dk_at dksX6_goesThrough_3 13 rfl rfl)
theorem dX6_goesThrough_86 : decode cX6_goesThrough 86 = .ok (.goto (-65), 3) := dk_167 255 191 (dk_at dksX6_goesThrough_3 16 rfl rfl)
theorem dX6_goesThrough_89 : decode cX6_goesThrough 89 = .ok (.aload_n 0, 1) := dk_42 (dk_at dksX6_goesThrough_3 19 rfl rfl)
theorem dX6_goesThrough_90 : decode cX6_goesThrough 90 = .ok (.invokevirtual 271, 3) := dk_182 1 15 (dk_at dksX6_goesThrough_3 20 rfl rfl)
theorem dX6_goesThrough_93 : decode cX6_goesThrough 93 = .ok (.return_, 1) := dk_177 (dk_at dksX6_goesThrough_3 23 rfl rfl)
abbrev cX6_keepsLevel : ByteArray := prog_14_method_98_code
def yX6_keepsLevel : MethodName := ⟨RX6, "keepsLevel", "(I)V"⟩
def dkwX6_keepsLevel_1 : List UInt8 := [16, 61, 28, 96, 46, 79, 132, 2, 1, 167, 255, 225, 42, 180, 0, 32, 27, 3, 79, 177]
abbrev dktX6_keepsLevel_1 : List UInt8 := dkwX6_keepsLevel_1 ++ []
def dkwX6_keepsLevel_0 : List UInt8 := [3, 61, 28, 17, 0, 128, 162, 0, 30, 42, 180, 0, 29, 17, 0, 128, 27, 104, 28, 96, 42, 180, 0, 13]
abbrev dktX6_keepsLevel_0 : List UInt8 := dkwX6_keepsLevel_0 ++ dktX6_keepsLevel_1
theorem dksX6_keepsLevel_0 : cX6_keepsLevel.data.toList.drop 0 = dktX6_keepsLevel_0 := by decide +kernel
theorem dksX6_keepsLevel_1 : cX6_keepsLevel.data.toList.drop 24 = dktX6_keepsLevel_1 := dk_seg dksX6_keepsLevel_0 24 rfl rfl
theorem dX6_keepsLevel_0 : decode cX6_keepsLevel 0 = .ok (.iconst 0, 1) := dk_3 (dk_at dksX6_keepsLevel_0 0 rfl rfl)
theorem dX6_keepsLevel_1 : decode cX6_keepsLevel 1 = .ok (.istore_n 2, 1) := dk_61 (dk_at dksX6_keepsLevel_0 1 rfl rfl)
theorem dX6_keepsLevel_2 : decode cX6_keepsLevel 2 = .ok (.iload_n 2, 1) := dk_28 (dk_at dksX6_keepsLevel_0 2 rfl rfl)
theorem dX6_keepsLevel_3 : decode cX6_keepsLevel 3 = .ok (.sipush 128, 3) := dk_17 0 128 (dk_at dksX6_keepsLevel_0 3 rfl rfl)
theorem dX6_keepsLevel_6 : decode cX6_keepsLevel 6 = .ok (.if_icmp .ge 30, 3) := dk_162 0 30 (dk_at dksX6_keepsLevel_0 6 rfl rfl)
theorem dX6_keepsLevel_9 : decode cX6_keepsLevel 9 = .ok (.aload_n 0, 1) := dk_42 (dk_at dksX6_keepsLevel_0 9 rfl rfl)
theorem dX6_keepsLevel_10 : decode cX6_keepsLevel 10 = .ok (.getfield 29, 3) := dk_180 0 29 (dk_at dksX6_keepsLevel_0 10 rfl rfl)
theorem dX6_keepsLevel_13 : decode cX6_keepsLevel 13 = .ok (.sipush 128, 3) := dk_17 0 128 (dk_at dksX6_keepsLevel_0 13 rfl rfl)
theorem dX6_keepsLevel_16 : decode cX6_keepsLevel 16 = .ok (.iload_n 1, 1) := dk_27 (dk_at dksX6_keepsLevel_0 16 rfl rfl)
theorem dX6_keepsLevel_17 : decode cX6_keepsLevel 17 = .ok (.imul, 1) := dk_104 (dk_at dksX6_keepsLevel_0 17 rfl rfl)
theorem dX6_keepsLevel_18 : decode cX6_keepsLevel 18 = .ok (.iload_n 2, 1) := dk_28 (dk_at dksX6_keepsLevel_0 18 rfl rfl)
theorem dX6_keepsLevel_19 : decode cX6_keepsLevel 19 = .ok (.iadd, 1) := dk_96 (dk_at dksX6_keepsLevel_0 19 rfl rfl)
theorem dX6_keepsLevel_20 : decode cX6_keepsLevel 20 = .ok (.aload_n 0, 1) := dk_42 (dk_at dksX6_keepsLevel_0 20 rfl rfl)
theorem dX6_keepsLevel_21 : decode cX6_keepsLevel 21 = .ok (.getfield 13, 3) := dk_180 0 13 (dk_at dksX6_keepsLevel_0 21 rfl rfl)
theorem dX6_keepsLevel_24 : decode cX6_keepsLevel 24 = .ok (.bipush 61, 2) := dk_16 61 (dk_at dksX6_keepsLevel_1 0 rfl rfl)
theorem dX6_keepsLevel_26 : decode cX6_keepsLevel 26 = .ok (.iload_n 2, 1) := dk_28 (dk_at dksX6_keepsLevel_1 2 rfl rfl)
theorem dX6_keepsLevel_27 : decode cX6_keepsLevel 27 = .ok (.iadd, 1) := dk_96 (dk_at dksX6_keepsLevel_1 3 rfl rfl)
theorem dX6_keepsLevel_28 : decode cX6_keepsLevel 28 = .ok (.iaload, 1) := dk_46 (dk_at dksX6_keepsLevel_1 4 rfl rfl)
theorem dX6_keepsLevel_29 : decode cX6_keepsLevel 29 = .ok (.iastore, 1) := dk_79 (dk_at dksX6_keepsLevel_1 5 rfl rfl)
theorem dX6_keepsLevel_30 : decode cX6_keepsLevel 30 = .ok (.iinc 2 1, 3) := dk_132 2 1 (dk_at dksX6_keepsLevel_1 6 rfl rfl)
theorem dX6_keepsLevel_33 : decode cX6_keepsLevel 33 = .ok (.goto (-31), 3) := dk_167 255 225 (dk_at dksX6_keepsLevel_1 9 rfl rfl)
theorem dX6_keepsLevel_36 : decode cX6_keepsLevel 36 = .ok (.aload_n 0, 1) := dk_42 (dk_at dksX6_keepsLevel_1 12 rfl rfl)
theorem dX6_keepsLevel_37 : decode cX6_keepsLevel 37 = .ok (.getfield 32, 3) := dk_180 0 32 (dk_at dksX6_keepsLevel_1 13 rfl rfl)
theorem dX6_keepsLevel_40 : decode cX6_keepsLevel 40 = .ok (.iload_n 1, 1) := dk_27 (dk_at dksX6_keepsLevel_1 16 rfl rfl)
theorem dX6_keepsLevel_41 : decode cX6_keepsLevel 41 = .ok (.iconst 0, 1) := dk_3 (dk_at dksX6_keepsLevel_1 17 rfl rfl)
theorem dX6_keepsLevel_42 : decode cX6_keepsLevel 42 = .ok (.iastore, 1) := dk_79 (dk_at dksX6_keepsLevel_1 18 rfl rfl)
theorem dX6_keepsLevel_43 : decode cX6_keepsLevel 43 = .ok (.return_, 1) := dk_177 (dk_at dksX6_keepsLevel_1 19 rfl rfl)
abbrev cX6_backToLevel : ByteArray := prog_14_method_99_code
def yX6_backToLevel : MethodName := ⟨RX6, "backToLevel", "(I)V"⟩
def dkwX6_backToLevel_1 : List UInt8 := [27, 104, 28, 96, 46, 79, 132, 2, 1, 167, 255, 225, 177]
abbrev dktX6_backToLevel_1 : List UInt8 := dkwX6_backToLevel_1 ++ []
def dkwX6_backToLevel_0 : List UInt8 := [3, 61, 28, 17, 0, 128, 162, 0, 30, 42, 180, 0, 13, 16, 61, 28, 96, 42, 180, 0, 29, 17, 0, 128]
abbrev dktX6_backToLevel_0 : List UInt8 := dkwX6_backToLevel_0 ++ dktX6_backToLevel_1
theorem dksX6_backToLevel_0 : cX6_backToLevel.data.toList.drop 0 = dktX6_backToLevel_0 := by decide +kernel
theorem dksX6_backToLevel_1 : cX6_backToLevel.data.toList.drop 24 = dktX6_backToLevel_1 := dk_seg dksX6_backToLevel_0 24 rfl rfl
theorem dX6_backToLevel_0 : decode cX6_backToLevel 0 = .ok (.iconst 0, 1) := dk_3 (dk_at dksX6_backToLevel_0 0 rfl rfl)
theorem dX6_backToLevel_1 : decode cX6_backToLevel 1 = .ok (.istore_n 2, 1) := dk_61 (dk_at dksX6_backToLevel_0 1 rfl rfl)
theorem dX6_backToLevel_2 : decode cX6_backToLevel 2 = .ok (.iload_n 2, 1) := dk_28 (dk_at dksX6_backToLevel_0 2 rfl rfl)
theorem dX6_backToLevel_3 : decode cX6_backToLevel 3 = .ok (.sipush 128, 3) := dk_17 0 128 (dk_at dksX6_backToLevel_0 3 rfl rfl)
theorem dX6_backToLevel_6 : decode cX6_backToLevel 6 = .ok (.if_icmp .ge 30, 3) := dk_162 0 30 (dk_at dksX6_backToLevel_0 6 rfl rfl)
theorem dX6_backToLevel_9 : decode cX6_backToLevel 9 = .ok (.aload_n 0, 1) := dk_42 (dk_at dksX6_backToLevel_0 9 rfl rfl)
theorem dX6_backToLevel_10 : decode cX6_backToLevel 10 = .ok (.getfield 13, 3) := dk_180 0 13 (dk_at dksX6_backToLevel_0 10 rfl rfl)
theorem dX6_backToLevel_13 : decode cX6_backToLevel 13 = .ok (.bipush 61, 2) := dk_16 61 (dk_at dksX6_backToLevel_0 13 rfl rfl)
theorem dX6_backToLevel_15 : decode cX6_backToLevel 15 = .ok (.iload_n 2, 1) := dk_28 (dk_at dksX6_backToLevel_0 15 rfl rfl)
theorem dX6_backToLevel_16 : decode cX6_backToLevel 16 = .ok (.iadd, 1) := dk_96 (dk_at dksX6_backToLevel_0 16 rfl rfl)
theorem dX6_backToLevel_17 : decode cX6_backToLevel 17 = .ok (.aload_n 0, 1) := dk_42 (dk_at dksX6_backToLevel_0 17 rfl rfl)
theorem dX6_backToLevel_18 : decode cX6_backToLevel 18 = .ok (.getfield 29, 3) := dk_180 0 29 (dk_at dksX6_backToLevel_0 18 rfl rfl)
theorem dX6_backToLevel_21 : decode cX6_backToLevel 21 = .ok (.sipush 128, 3) := dk_17 0 128 (dk_at dksX6_backToLevel_0 21 rfl rfl)
theorem dX6_backToLevel_24 : decode cX6_backToLevel 24 = .ok (.iload_n 1, 1) := dk_27 (dk_at dksX6_backToLevel_1 0 rfl rfl)
theorem dX6_backToLevel_25 : decode cX6_backToLevel 25 = .ok (.imul, 1) := dk_104 (dk_at dksX6_backToLevel_1 1 rfl rfl)
theorem dX6_backToLevel_26 : decode cX6_backToLevel 26 = .ok (.iload_n 2, 1) := dk_28 (dk_at dksX6_backToLevel_1 2 rfl rfl)
theorem dX6_backToLevel_27 : decode cX6_backToLevel 27 = .ok (.iadd, 1) := dk_96 (dk_at dksX6_backToLevel_1 3 rfl rfl)
theorem dX6_backToLevel_28 : decode cX6_backToLevel 28 = .ok (.iaload, 1) := dk_46 (dk_at dksX6_backToLevel_1 4 rfl rfl)
theorem dX6_backToLevel_29 : decode cX6_backToLevel 29 = .ok (.iastore, 1) := dk_79 (dk_at dksX6_backToLevel_1 5 rfl rfl)
theorem dX6_backToLevel_30 : decode cX6_backToLevel 30 = .ok (.iinc 2 1, 3) := dk_132 2 1 (dk_at dksX6_backToLevel_1 6 rfl rfl)
theorem dX6_backToLevel_33 : decode cX6_backToLevel 33 = .ok (.goto (-31), 3) := dk_167 255 225 (dk_at dksX6_backToLevel_1 9 rfl rfl)
theorem dX6_backToLevel_36 : decode cX6_backToLevel 36 = .ok (.return_, 1) := dk_177 (dk_at dksX6_backToLevel_1 12 rfl rfl)
abbrev cX6_nextReady : ByteArray := prog_14_method_103_code
def yX6_nextReady : MethodName := ⟨RX6, "nextReady", "(I)I"⟩
def dkwX6_nextReady_1 : List UInt8 := [132, 2, 1, 167, 255, 233, 2, 172]
abbrev dktX6_nextReady_1 : List UInt8 := dkwX6_nextReady_1 ++ []
def dkwX6_nextReady_0 : List UInt8 := [27, 61, 28, 42, 180, 0, 13, 3, 46, 162, 0, 19, 42, 28, 182, 0, 211, 153, 0, 5, 28, 172]
abbrev dktX6_nextReady_0 : List UInt8 := dkwX6_nextReady_0 ++ dktX6_nextReady_1
theorem dksX6_nextReady_0 : cX6_nextReady.data.toList.drop 0 = dktX6_nextReady_0 := by decide +kernel
theorem dksX6_nextReady_1 : cX6_nextReady.data.toList.drop 22 = dktX6_nextReady_1 := dk_seg dksX6_nextReady_0 22 rfl rfl
theorem dX6_nextReady_0 : decode cX6_nextReady 0 = .ok (.iload_n 1, 1) := dk_27 (dk_at dksX6_nextReady_0 0 rfl rfl)
theorem dX6_nextReady_1 : decode cX6_nextReady 1 = .ok (.istore_n 2, 1) := dk_61 (dk_at dksX6_nextReady_0 1 rfl rfl)
theorem dX6_nextReady_2 : decode cX6_nextReady 2 = .ok (.iload_n 2, 1) := dk_28 (dk_at dksX6_nextReady_0 2 rfl rfl)
theorem dX6_nextReady_3 : decode cX6_nextReady 3 = .ok (.aload_n 0, 1) := dk_42 (dk_at dksX6_nextReady_0 3 rfl rfl)
theorem dX6_nextReady_4 : decode cX6_nextReady 4 = .ok (.getfield 13, 3) := dk_180 0 13 (dk_at dksX6_nextReady_0 4 rfl rfl)
theorem dX6_nextReady_7 : decode cX6_nextReady 7 = .ok (.iconst 0, 1) := dk_3 (dk_at dksX6_nextReady_0 7 rfl rfl)
theorem dX6_nextReady_8 : decode cX6_nextReady 8 = .ok (.iaload, 1) := dk_46 (dk_at dksX6_nextReady_0 8 rfl rfl)
theorem dX6_nextReady_9 : decode cX6_nextReady 9 = .ok (.if_icmp .ge 19, 3) := dk_162 0 19 (dk_at dksX6_nextReady_0 9 rfl rfl)
theorem dX6_nextReady_12 : decode cX6_nextReady 12 = .ok (.aload_n 0, 1) := dk_42 (dk_at dksX6_nextReady_0 12 rfl rfl)
theorem dX6_nextReady_13 : decode cX6_nextReady 13 = .ok (.iload_n 2, 1) := dk_28 (dk_at dksX6_nextReady_0 13 rfl rfl)
theorem dX6_nextReady_14 : decode cX6_nextReady 14 = .ok (.invokevirtual 211, 3) := dk_182 0 211 (dk_at dksX6_nextReady_0 14 rfl rfl)
theorem dX6_nextReady_17 : decode cX6_nextReady 17 = .ok (.ifCond .eq 5, 3) := dk_153 0 5 (dk_at dksX6_nextReady_0 17 rfl rfl)
theorem dX6_nextReady_20 : decode cX6_nextReady 20 = .ok (.iload_n 2, 1) := dk_28 (dk_at dksX6_nextReady_0 20 rfl rfl)
theorem dX6_nextReady_21 : decode cX6_nextReady 21 = .ok (.ireturn, 1) := dk_172 (dk_at dksX6_nextReady_0 21 rfl rfl)
theorem dX6_nextReady_22 : decode cX6_nextReady 22 = .ok (.iinc 2 1, 3) := dk_132 2 1 (dk_at dksX6_nextReady_1 0 rfl rfl)
theorem dX6_nextReady_25 : decode cX6_nextReady 25 = .ok (.goto (-23), 3) := dk_167 255 233 (dk_at dksX6_nextReady_1 3 rfl rfl)
theorem dX6_nextReady_28 : decode cX6_nextReady 28 = .ok (.iconst (-1), 1) := dk_2 (dk_at dksX6_nextReady_1 6 rfl rfl)
theorem dX6_nextReady_29 : decode cX6_nextReady 29 = .ok (.ireturn, 1) := dk_172 (dk_at dksX6_nextReady_1 7 rfl rfl)
abbrev cX6_ends : ByteArray := prog_14_method_102_code
def yX6_ends : MethodName := ⟨RX6, "ends", "()V"⟩
def dkwX6_ends_4 : List UInt8 := [132, 1, 1, 167, 255, 228, 42, 89, 180, 1, 25, 4, 96, 181, 1, 25, 177]
abbrev dktX6_ends_4 : List UInt8 := dkwX6_ends_4 ++ []
def dkwX6_ends_3 : List UInt8 := [162, 0, 28, 42, 180, 0, 35, 16, 9, 42, 180, 1, 25, 104, 27, 96, 42, 27, 182, 1, 28, 79]
abbrev dktX6_ends_3 : List UInt8 := dkwX6_ends_3 ++ dktX6_ends_4
def dkwX6_ends_2 : List UInt8 := [132, 2, 1, 167, 255, 228, 28, 16, 9, 160, 0, 4, 177, 132, 1, 1, 167, 255, 205, 3, 60, 27, 16, 9]
abbrev dktX6_ends_2 : List UInt8 := dkwX6_ends_2 ++ dktX6_ends_3
def dkwX6_ends_1 : List UInt8 := [16, 9, 162, 0, 28, 42, 180, 0, 35, 16, 9, 27, 104, 28, 96, 46, 42, 28, 182, 1, 28, 160, 0, 9]
abbrev dktX6_ends_1 : List UInt8 := dkwX6_ends_1 ++ dktX6_ends_2
def dkwX6_ends_0 : List UInt8 := [42, 89, 180, 1, 21, 10, 97, 181, 1, 21, 3, 60, 27, 42, 180, 1, 25, 162, 0, 49, 3, 61, 28]
abbrev dktX6_ends_0 : List UInt8 := dkwX6_ends_0 ++ dktX6_ends_1
theorem dksX6_ends_0 : cX6_ends.data.toList.drop 0 = dktX6_ends_0 := by decide +kernel
theorem dksX6_ends_1 : cX6_ends.data.toList.drop 23 = dktX6_ends_1 := dk_seg dksX6_ends_0 23 rfl rfl
theorem dksX6_ends_2 : cX6_ends.data.toList.drop 47 = dktX6_ends_2 := dk_seg dksX6_ends_1 24 rfl rfl
theorem dksX6_ends_3 : cX6_ends.data.toList.drop 71 = dktX6_ends_3 := dk_seg dksX6_ends_2 24 rfl rfl
theorem dksX6_ends_4 : cX6_ends.data.toList.drop 93 = dktX6_ends_4 := dk_seg dksX6_ends_3 22 rfl rfl
theorem dX6_ends_0 : decode cX6_ends 0 = .ok (.aload_n 0, 1) := dk_42 (dk_at dksX6_ends_0 0 rfl rfl)
theorem dX6_ends_1 : decode cX6_ends 1 = .ok (.dup, 1) := dk_89 (dk_at dksX6_ends_0 1 rfl rfl)
theorem dX6_ends_2 : decode cX6_ends 2 = .ok (.getfield 277, 3) := dk_180 1 21 (dk_at dksX6_ends_0 2 rfl rfl)
theorem dX6_ends_5 : decode cX6_ends 5 = .ok (.lconst 1, 1) := dk_10 (dk_at dksX6_ends_0 5 rfl rfl)
theorem dX6_ends_6 : decode cX6_ends 6 = .ok (.ladd, 1) := dk_97 (dk_at dksX6_ends_0 6 rfl rfl)
theorem dX6_ends_7 : decode cX6_ends 7 = .ok (.putfield 277, 3) := dk_181 1 21 (dk_at dksX6_ends_0 7 rfl rfl)
theorem dX6_ends_10 : decode cX6_ends 10 = .ok (.iconst 0, 1) := dk_3 (dk_at dksX6_ends_0 10 rfl rfl)
theorem dX6_ends_11 : decode cX6_ends 11 = .ok (.istore_n 1, 1) := dk_60 (dk_at dksX6_ends_0 11 rfl rfl)
theorem dX6_ends_12 : decode cX6_ends 12 = .ok (.iload_n 1, 1) := dk_27 (dk_at dksX6_ends_0 12 rfl rfl)
theorem dX6_ends_13 : decode cX6_ends 13 = .ok (.aload_n 0, 1) := dk_42 (dk_at dksX6_ends_0 13 rfl rfl)
theorem dX6_ends_14 : decode cX6_ends 14 = .ok (.getfield 281, 3) := dk_180 1 25 (dk_at dksX6_ends_0 14 rfl rfl)
theorem dX6_ends_17 : decode cX6_ends 17 = .ok (.if_icmp .ge 49, 3) := dk_162 0 49 (dk_at dksX6_ends_0 17 rfl rfl)
theorem dX6_ends_20 : decode cX6_ends 20 = .ok (.iconst 0, 1) := dk_3 (dk_at dksX6_ends_0 20 rfl rfl)
theorem dX6_ends_21 : decode cX6_ends 21 = .ok (.istore_n 2, 1) := dk_61 (dk_at dksX6_ends_0 21 rfl rfl)
theorem dX6_ends_22 : decode cX6_ends 22 = .ok (.iload_n 2, 1) := dk_28 (dk_at dksX6_ends_0 22 rfl rfl)
theorem dX6_ends_23 : decode cX6_ends 23 = .ok (.bipush 9, 2) := dk_16 9 (dk_at dksX6_ends_1 0 rfl rfl)
theorem dX6_ends_25 : decode cX6_ends 25 = .ok (.if_icmp .ge 28, 3) := dk_162 0 28 (dk_at dksX6_ends_1 2 rfl rfl)
theorem dX6_ends_28 : decode cX6_ends 28 = .ok (.aload_n 0, 1) := dk_42 (dk_at dksX6_ends_1 5 rfl rfl)
theorem dX6_ends_29 : decode cX6_ends 29 = .ok (.getfield 35, 3) := dk_180 0 35 (dk_at dksX6_ends_1 6 rfl rfl)
theorem dX6_ends_32 : decode cX6_ends 32 = .ok (.bipush 9, 2) := dk_16 9 (dk_at dksX6_ends_1 9 rfl rfl)
theorem dX6_ends_34 : decode cX6_ends 34 = .ok (.iload_n 1, 1) := dk_27 (dk_at dksX6_ends_1 11 rfl rfl)
theorem dX6_ends_35 : decode cX6_ends 35 = .ok (.imul, 1) := dk_104 (dk_at dksX6_ends_1 12 rfl rfl)
theorem dX6_ends_36 : decode cX6_ends 36 = .ok (.iload_n 2, 1) := dk_28 (dk_at dksX6_ends_1 13 rfl rfl)
theorem dX6_ends_37 : decode cX6_ends 37 = .ok (.iadd, 1) := dk_96 (dk_at dksX6_ends_1 14 rfl rfl)
theorem dX6_ends_38 : decode cX6_ends 38 = .ok (.iaload, 1) := dk_46 (dk_at dksX6_ends_1 15 rfl rfl)
theorem dX6_ends_39 : decode cX6_ends 39 = .ok (.aload_n 0, 1) := dk_42 (dk_at dksX6_ends_1 16 rfl rfl)
theorem dX6_ends_40 : decode cX6_ends 40 = .ok (.iload_n 2, 1) := dk_28 (dk_at dksX6_ends_1 17 rfl rfl)
theorem dX6_ends_41 : decode cX6_ends 41 = .ok (.invokevirtual 284, 3) := dk_182 1 28 (dk_at dksX6_ends_1 18 rfl rfl)
theorem dX6_ends_44 : decode cX6_ends 44 = .ok (.if_icmp .ne 9, 3) := dk_160 0 9 (dk_at dksX6_ends_1 21 rfl rfl)
theorem dX6_ends_47 : decode cX6_ends 47 = .ok (.iinc 2 1, 3) := dk_132 2 1 (dk_at dksX6_ends_2 0 rfl rfl)
theorem dX6_ends_50 : decode cX6_ends 50 = .ok (.goto (-28), 3) := dk_167 255 228 (dk_at dksX6_ends_2 3 rfl rfl)
theorem dX6_ends_53 : decode cX6_ends 53 = .ok (.iload_n 2, 1) := dk_28 (dk_at dksX6_ends_2 6 rfl rfl)
theorem dX6_ends_54 : decode cX6_ends 54 = .ok (.bipush 9, 2) := dk_16 9 (dk_at dksX6_ends_2 7 rfl rfl)
theorem dX6_ends_56 : decode cX6_ends 56 = .ok (.if_icmp .ne 4, 3) := dk_160 0 4 (dk_at dksX6_ends_2 9 rfl rfl)
theorem dX6_ends_59 : decode cX6_ends 59 = .ok (.return_, 1) := dk_177 (dk_at dksX6_ends_2 12 rfl rfl)
theorem dX6_ends_60 : decode cX6_ends 60 = .ok (.iinc 1 1, 3) := dk_132 1 1 (dk_at dksX6_ends_2 13 rfl rfl)
theorem dX6_ends_63 : decode cX6_ends 63 = .ok (.goto (-51), 3) := dk_167 255 205 (dk_at dksX6_ends_2 16 rfl rfl)
theorem dX6_ends_66 : decode cX6_ends 66 = .ok (.iconst 0, 1) := dk_3 (dk_at dksX6_ends_2 19 rfl rfl)
theorem dX6_ends_67 : decode cX6_ends 67 = .ok (.istore_n 1, 1) := dk_60 (dk_at dksX6_ends_2 20 rfl rfl)
theorem dX6_ends_68 : decode cX6_ends 68 = .ok (.iload_n 1, 1) := dk_27 (dk_at dksX6_ends_2 21 rfl rfl)
theorem dX6_ends_69 : decode cX6_ends 69 = .ok (.bipush 9, 2) := dk_16 9 (dk_at dksX6_ends_2 22 rfl rfl)
theorem dX6_ends_71 : decode cX6_ends 71 = .ok (.if_icmp .ge 28, 3) := dk_162 0 28 (dk_at dksX6_ends_3 0 rfl rfl)
theorem dX6_ends_74 : decode cX6_ends 74 = .ok (.aload_n 0, 1) := dk_42 (dk_at dksX6_ends_3 3 rfl rfl)
theorem dX6_ends_75 : decode cX6_ends 75 = .ok (.getfield 35, 3) := dk_180 0 35 (dk_at dksX6_ends_3 4 rfl rfl)
theorem dX6_ends_78 : decode cX6_ends 78 = .ok (.bipush 9, 2) := dk_16 9 (dk_at dksX6_ends_3 7 rfl rfl)
theorem dX6_ends_80 : decode cX6_ends 80 = .ok (.aload_n 0, 1) := dk_42 (dk_at dksX6_ends_3 9 rfl rfl)
theorem dX6_ends_81 : decode cX6_ends 81 = .ok (.getfield 281, 3) := dk_180 1 25 (dk_at dksX6_ends_3 10 rfl rfl)
theorem dX6_ends_84 : decode cX6_ends 84 = .ok (.imul, 1) := dk_104 (dk_at dksX6_ends_3 13 rfl rfl)
theorem dX6_ends_85 : decode cX6_ends 85 = .ok (.iload_n 1, 1) := dk_27 (dk_at dksX6_ends_3 14 rfl rfl)
theorem dX6_ends_86 : decode cX6_ends 86 = .ok (.iadd, 1) := dk_96 (dk_at dksX6_ends_3 15 rfl rfl)
theorem dX6_ends_87 : decode cX6_ends 87 = .ok (.aload_n 0, 1) := dk_42 (dk_at dksX6_ends_3 16 rfl rfl)
theorem dX6_ends_88 : decode cX6_ends 88 = .ok (.iload_n 1, 1) := dk_27 (dk_at dksX6_ends_3 17 rfl rfl)
theorem dX6_ends_89 : decode cX6_ends 89 = .ok (.invokevirtual 284, 3) := dk_182 1 28 (dk_at dksX6_ends_3 18 rfl rfl)
theorem dX6_ends_92 : decode cX6_ends 92 = .ok (.iastore, 1) := dk_79 (dk_at dksX6_ends_3 21 rfl rfl)
theorem dX6_ends_93 : decode cX6_ends 93 = .ok (.iinc 1 1, 3) := dk_132 1 1 (dk_at dksX6_ends_4 0 rfl rfl)
theorem dX6_ends_96 : decode cX6_ends 96 = .ok (.goto (-28), 3) := dk_167 255 228 (dk_at dksX6_ends_4 3 rfl rfl)
theorem dX6_ends_99 : decode cX6_ends 99 = .ok (.aload_n 0, 1) := dk_42 (dk_at dksX6_ends_4 6 rfl rfl)
theorem dX6_ends_100 : decode cX6_ends 100 = .ok (.dup, 1) := dk_89 (dk_at dksX6_ends_4 7 rfl rfl)
theorem dX6_ends_101 : decode cX6_ends 101 = .ok (.getfield 281, 3) := dk_180 1 25 (dk_at dksX6_ends_4 8 rfl rfl)
theorem dX6_ends_104 : decode cX6_ends 104 = .ok (.iconst 1, 1) := dk_4 (dk_at dksX6_ends_4 11 rfl rfl)
theorem dX6_ends_105 : decode cX6_ends 105 = .ok (.iadd, 1) := dk_96 (dk_at dksX6_ends_4 12 rfl rfl)
theorem dX6_ends_106 : decode cX6_ends 106 = .ok (.putfield 281, 3) := dk_181 1 25 (dk_at dksX6_ends_4 13 rfl rfl)
theorem dX6_ends_109 : decode cX6_ends 109 = .ok (.return_, 1) := dk_177 (dk_at dksX6_ends_4 16 rfl rfl)
abbrev cX6_endOf : ByteArray := prog_14_method_100_code
def yX6_endOf : MethodName := ⟨RX6, "endOf", "(I)I"⟩
def dkwX6_endOf_0 : List UInt8 := [27, 16, 8, 162, 0, 12, 42, 27, 5, 182, 0, 83, 167, 0, 7, 42, 182, 1, 18, 172]
abbrev dktX6_endOf_0 : List UInt8 := dkwX6_endOf_0 ++ []
theorem dksX6_endOf_0 : cX6_endOf.data.toList.drop 0 = dktX6_endOf_0 := by decide +kernel
theorem dX6_endOf_0 : decode cX6_endOf 0 = .ok (.iload_n 1, 1) := dk_27 (dk_at dksX6_endOf_0 0 rfl rfl)
theorem dX6_endOf_1 : decode cX6_endOf 1 = .ok (.bipush 8, 2) := dk_16 8 (dk_at dksX6_endOf_0 1 rfl rfl)
theorem dX6_endOf_3 : decode cX6_endOf 3 = .ok (.if_icmp .ge 12, 3) := dk_162 0 12 (dk_at dksX6_endOf_0 3 rfl rfl)
theorem dX6_endOf_6 : decode cX6_endOf 6 = .ok (.aload_n 0, 1) := dk_42 (dk_at dksX6_endOf_0 6 rfl rfl)
theorem dX6_endOf_7 : decode cX6_endOf 7 = .ok (.iload_n 1, 1) := dk_27 (dk_at dksX6_endOf_0 7 rfl rfl)
theorem dX6_endOf_8 : decode cX6_endOf 8 = .ok (.iconst 2, 1) := dk_5 (dk_at dksX6_endOf_0 8 rfl rfl)
theorem dX6_endOf_9 : decode cX6_endOf 9 = .ok (.invokevirtual 83, 3) := dk_182 0 83 (dk_at dksX6_endOf_0 9 rfl rfl)
theorem dX6_endOf_12 : decode cX6_endOf 12 = .ok (.goto 7, 3) := dk_167 0 7 (dk_at dksX6_endOf_0 12 rfl rfl)
theorem dX6_endOf_15 : decode cX6_endOf 15 = .ok (.aload_n 0, 1) := dk_42 (dk_at dksX6_endOf_0 15 rfl rfl)
theorem dX6_endOf_16 : decode cX6_endOf 16 = .ok (.invokevirtual 274, 3) := dk_182 1 18 (dk_at dksX6_endOf_0 16 rfl rfl)
theorem dX6_endOf_19 : decode cX6_endOf 19 = .ok (.ireturn, 1) := dk_172 (dk_at dksX6_endOf_0 19 rfl rfl)
abbrev cX6_stoppedSet : ByteArray := prog_14_method_101_code
def yX6_stoppedSet : MethodName := ⟨RX6, "stoppedSet", "()I"⟩
def dkwX6_stoppedSet_1 : List UInt8 := [128, 60, 132, 2, 1, 167, 255, 231, 27, 172]
abbrev dktX6_stoppedSet_1 : List UInt8 := dkwX6_stoppedSet_1 ++ []
def dkwX6_stoppedSet_0 : List UInt8 := [3, 60, 3, 61, 28, 42, 180, 0, 13, 3, 46, 162, 0, 21, 27, 42, 28, 16, 7, 182, 0, 83, 28, 120]
abbrev dktX6_stoppedSet_0 : List UInt8 := dkwX6_stoppedSet_0 ++ dktX6_stoppedSet_1
theorem dksX6_stoppedSet_0 : cX6_stoppedSet.data.toList.drop 0 = dktX6_stoppedSet_0 := by decide +kernel
theorem dksX6_stoppedSet_1 : cX6_stoppedSet.data.toList.drop 24 = dktX6_stoppedSet_1 := dk_seg dksX6_stoppedSet_0 24 rfl rfl
theorem dX6_stoppedSet_0 : decode cX6_stoppedSet 0 = .ok (.iconst 0, 1) := dk_3 (dk_at dksX6_stoppedSet_0 0 rfl rfl)
theorem dX6_stoppedSet_1 : decode cX6_stoppedSet 1 = .ok (.istore_n 1, 1) := dk_60 (dk_at dksX6_stoppedSet_0 1 rfl rfl)
theorem dX6_stoppedSet_2 : decode cX6_stoppedSet 2 = .ok (.iconst 0, 1) := dk_3 (dk_at dksX6_stoppedSet_0 2 rfl rfl)
theorem dX6_stoppedSet_3 : decode cX6_stoppedSet 3 = .ok (.istore_n 2, 1) := dk_61 (dk_at dksX6_stoppedSet_0 3 rfl rfl)
theorem dX6_stoppedSet_4 : decode cX6_stoppedSet 4 = .ok (.iload_n 2, 1) := dk_28 (dk_at dksX6_stoppedSet_0 4 rfl rfl)
theorem dX6_stoppedSet_5 : decode cX6_stoppedSet 5 = .ok (.aload_n 0, 1) := dk_42 (dk_at dksX6_stoppedSet_0 5 rfl rfl)
theorem dX6_stoppedSet_6 : decode cX6_stoppedSet 6 = .ok (.getfield 13, 3) := dk_180 0 13 (dk_at dksX6_stoppedSet_0 6 rfl rfl)
theorem dX6_stoppedSet_9 : decode cX6_stoppedSet 9 = .ok (.iconst 0, 1) := dk_3 (dk_at dksX6_stoppedSet_0 9 rfl rfl)
theorem dX6_stoppedSet_10 : decode cX6_stoppedSet 10 = .ok (.iaload, 1) := dk_46 (dk_at dksX6_stoppedSet_0 10 rfl rfl)
theorem dX6_stoppedSet_11 : decode cX6_stoppedSet 11 = .ok (.if_icmp .ge 21, 3) := dk_162 0 21 (dk_at dksX6_stoppedSet_0 11 rfl rfl)
theorem dX6_stoppedSet_14 : decode cX6_stoppedSet 14 = .ok (.iload_n 1, 1) := dk_27 (dk_at dksX6_stoppedSet_0 14 rfl rfl)
theorem dX6_stoppedSet_15 : decode cX6_stoppedSet 15 = .ok (.aload_n 0, 1) := dk_42 (dk_at dksX6_stoppedSet_0 15 rfl rfl)
theorem dX6_stoppedSet_16 : decode cX6_stoppedSet 16 = .ok (.iload_n 2, 1) := dk_28 (dk_at dksX6_stoppedSet_0 16 rfl rfl)
theorem dX6_stoppedSet_17 : decode cX6_stoppedSet 17 = .ok (.bipush 7, 2) := dk_16 7 (dk_at dksX6_stoppedSet_0 17 rfl rfl)
theorem dX6_stoppedSet_19 : decode cX6_stoppedSet 19 = .ok (.invokevirtual 83, 3) := dk_182 0 83 (dk_at dksX6_stoppedSet_0 19 rfl rfl)
theorem dX6_stoppedSet_22 : decode cX6_stoppedSet 22 = .ok (.iload_n 2, 1) := dk_28 (dk_at dksX6_stoppedSet_0 22 rfl rfl)
theorem dX6_stoppedSet_23 : decode cX6_stoppedSet 23 = .ok (.ishl, 1) := dk_120 (dk_at dksX6_stoppedSet_0 23 rfl rfl)
theorem dX6_stoppedSet_24 : decode cX6_stoppedSet 24 = .ok (.ior, 1) := dk_128 (dk_at dksX6_stoppedSet_1 0 rfl rfl)
theorem dX6_stoppedSet_25 : decode cX6_stoppedSet 25 = .ok (.istore_n 1, 1) := dk_60 (dk_at dksX6_stoppedSet_1 1 rfl rfl)
theorem dX6_stoppedSet_26 : decode cX6_stoppedSet 26 = .ok (.iinc 2 1, 3) := dk_132 2 1 (dk_at dksX6_stoppedSet_1 2 rfl rfl)
theorem dX6_stoppedSet_29 : decode cX6_stoppedSet 29 = .ok (.goto (-25), 3) := dk_167 255 231 (dk_at dksX6_stoppedSet_1 5 rfl rfl)
theorem dX6_stoppedSet_32 : decode cX6_stoppedSet 32 = .ok (.iload_n 1, 1) := dk_27 (dk_at dksX6_stoppedSet_1 8 rfl rfl)
theorem dX6_stoppedSet_33 : decode cX6_stoppedSet 33 = .ok (.ireturn, 1) := dk_172 (dk_at dksX6_stoppedSet_1 9 rfl rfl)
abbrev cX6_outcomesBySchedules : ByteArray := prog_14_method_107_code
def yX6_outcomesBySchedules : MethodName := ⟨RX6, "outcomesBySchedules", "()I"⟩
theorem dX6_outcomesBySchedules_0 : decode cX6_outcomesBySchedules 0 = .ok (.aload_n 0, 1) := by decide +kernel
theorem dX6_outcomesBySchedules_1 : decode cX6_outcomesBySchedules 1 = .ok (.invokevirtual 305, 3) := by decide +kernel
theorem dX6_outcomesBySchedules_4 : decode cX6_outcomesBySchedules 4 = .ok (.ireturn, 1) := by decide +kernel
abbrev cX6_schedules : ByteArray := prog_14_method_108_code
def yX6_schedules : MethodName := ⟨RX6, "schedules", "()J"⟩
def dkwX6_schedules_0 : List UInt8 := [42, 182, 1, 42, 153, 0, 5, 9, 173, 42, 182, 1, 46, 42, 180, 1, 21, 173]
abbrev dktX6_schedules_0 : List UInt8 := dkwX6_schedules_0 ++ []
theorem dksX6_schedules_0 : cX6_schedules.data.toList.drop 0 = dktX6_schedules_0 := by decide +kernel
theorem dX6_schedules_0 : decode cX6_schedules 0 = .ok (.aload_n 0, 1) := dk_42 (dk_at dksX6_schedules_0 0 rfl rfl)
theorem dX6_schedules_1 : decode cX6_schedules 1 = .ok (.invokevirtual 298, 3) := dk_182 1 42 (dk_at dksX6_schedules_0 1 rfl rfl)
theorem dX6_schedules_4 : decode cX6_schedules 4 = .ok (.ifCond .eq 5, 3) := dk_153 0 5 (dk_at dksX6_schedules_0 4 rfl rfl)
theorem dX6_schedules_7 : decode cX6_schedules 7 = .ok (.lconst 0, 1) := dk_9 (dk_at dksX6_schedules_0 7 rfl rfl)
theorem dX6_schedules_8 : decode cX6_schedules 8 = .ok (.lreturn, 1) := dk_173 (dk_at dksX6_schedules_0 8 rfl rfl)
theorem dX6_schedules_9 : decode cX6_schedules 9 = .ok (.aload_n 0, 1) := dk_42 (dk_at dksX6_schedules_0 9 rfl rfl)
theorem dX6_schedules_10 : decode cX6_schedules 10 = .ok (.invokevirtual 302, 3) := dk_182 1 46 (dk_at dksX6_schedules_0 10 rfl rfl)
theorem dX6_schedules_13 : decode cX6_schedules 13 = .ok (.aload_n 0, 1) := dk_42 (dk_at dksX6_schedules_0 13 rfl rfl)
theorem dX6_schedules_14 : decode cX6_schedules 14 = .ok (.getfield 277, 3) := dk_180 1 21 (dk_at dksX6_schedules_0 14 rfl rfl)
theorem dX6_schedules_17 : decode cX6_schedules 17 = .ok (.lreturn, 1) := dk_173 (dk_at dksX6_schedules_0 17 rfl rfl)
abbrev cX6_steps : ByteArray := prog_14_method_109_code
def yX6_steps : MethodName := ⟨RX6, "steps", "()I"⟩
def dkwX6_steps_0 : List UInt8 := [42, 6, 182, 0, 250, 172]
abbrev dktX6_steps_0 : List UInt8 := dkwX6_steps_0 ++ []
theorem dksX6_steps_0 : cX6_steps.data.toList.drop 0 = dktX6_steps_0 := by decide +kernel
theorem dX6_steps_0 : decode cX6_steps 0 = .ok (.aload_n 0, 1) := dk_42 (dk_at dksX6_steps_0 0 rfl rfl)
theorem dX6_steps_1 : decode cX6_steps 1 = .ok (.iconst 3, 1) := dk_6 (dk_at dksX6_steps_0 1 rfl rfl)
theorem dX6_steps_2 : decode cX6_steps 2 = .ok (.invokevirtual 250, 3) := dk_182 0 250 (dk_at dksX6_steps_0 2 rfl rfl)
theorem dX6_steps_5 : decode cX6_steps 5 = .ok (.ireturn, 1) := dk_172 (dk_at dksX6_steps_0 5 rfl rfl)
abbrev cX6_idle : ByteArray := prog_14_method_110_code
def yX6_idle : MethodName := ⟨RX6, "idle", "()I"⟩
def dkwX6_idle_0 : List UInt8 := [42, 7, 182, 0, 250, 172]
abbrev dktX6_idle_0 : List UInt8 := dkwX6_idle_0 ++ []
theorem dksX6_idle_0 : cX6_idle.data.toList.drop 0 = dktX6_idle_0 := by decide +kernel
theorem dX6_idle_0 : decode cX6_idle 0 = .ok (.aload_n 0, 1) := dk_42 (dk_at dksX6_idle_0 0 rfl rfl)
theorem dX6_idle_1 : decode cX6_idle 1 = .ok (.iconst 4, 1) := dk_7 (dk_at dksX6_idle_0 1 rfl rfl)
theorem dX6_idle_2 : decode cX6_idle 2 = .ok (.invokevirtual 250, 3) := dk_182 0 250 (dk_at dksX6_idle_0 2 rfl rfl)
theorem dX6_idle_5 : decode cX6_idle 5 = .ok (.ireturn, 1) := dk_172 (dk_at dksX6_idle_0 5 rfl rfl)
abbrev cX6_handled : ByteArray := prog_14_method_111_code
def yX6_handled : MethodName := ⟨RX6, "handled", "()I"⟩
def dkwX6_handled_0 : List UInt8 := [42, 8, 182, 0, 250, 172]
abbrev dktX6_handled_0 : List UInt8 := dkwX6_handled_0 ++ []
theorem dksX6_handled_0 : cX6_handled.data.toList.drop 0 = dktX6_handled_0 := by decide +kernel
theorem dX6_handled_0 : decode cX6_handled 0 = .ok (.aload_n 0, 1) := dk_42 (dk_at dksX6_handled_0 0 rfl rfl)
theorem dX6_handled_1 : decode cX6_handled 1 = .ok (.iconst 5, 1) := dk_8 (dk_at dksX6_handled_0 1 rfl rfl)
theorem dX6_handled_2 : decode cX6_handled 2 = .ok (.invokevirtual 250, 3) := dk_182 0 250 (dk_at dksX6_handled_0 2 rfl rfl)
theorem dX6_handled_5 : decode cX6_handled 5 = .ok (.ireturn, 1) := dk_172 (dk_at dksX6_handled_0 5 rfl rfl)
abbrev cX6_lost : ByteArray := prog_14_method_112_code
def yX6_lost : MethodName := ⟨RX6, "lost", "()I"⟩
def dkwX6_lost_0 : List UInt8 := [42, 16, 6, 182, 0, 250, 172]
abbrev dktX6_lost_0 : List UInt8 := dkwX6_lost_0 ++ []
theorem dksX6_lost_0 : cX6_lost.data.toList.drop 0 = dktX6_lost_0 := by decide +kernel
theorem dX6_lost_0 : decode cX6_lost 0 = .ok (.aload_n 0, 1) := dk_42 (dk_at dksX6_lost_0 0 rfl rfl)
theorem dX6_lost_1 : decode cX6_lost 1 = .ok (.bipush 6, 2) := dk_16 6 (dk_at dksX6_lost_0 1 rfl rfl)
theorem dX6_lost_3 : decode cX6_lost 3 = .ok (.invokevirtual 250, 3) := dk_182 0 250 (dk_at dksX6_lost_0 3 rfl rfl)
theorem dX6_lost_6 : decode cX6_lost 6 = .ok (.ireturn, 1) := dk_172 (dk_at dksX6_lost_0 6 rfl rfl)
abbrev cX6_put : ByteArray := prog_14_method_113_code
def yX6_put : MethodName := ⟨RX6, "put", "()I"⟩
def dkwX6_put_0 : List UInt8 := [42, 16, 7, 182, 0, 250, 172]
abbrev dktX6_put_0 : List UInt8 := dkwX6_put_0 ++ []
theorem dksX6_put_0 : cX6_put.data.toList.drop 0 = dktX6_put_0 := by decide +kernel
theorem dX6_put_0 : decode cX6_put 0 = .ok (.aload_n 0, 1) := dk_42 (dk_at dksX6_put_0 0 rfl rfl)
theorem dX6_put_1 : decode cX6_put 1 = .ok (.bipush 7, 2) := dk_16 7 (dk_at dksX6_put_0 1 rfl rfl)
theorem dX6_put_3 : decode cX6_put 3 = .ok (.invokevirtual 250, 3) := dk_182 0 250 (dk_at dksX6_put_0 3 rfl rfl)
theorem dX6_put_6 : decode cX6_put 6 = .ok (.ireturn, 1) := dk_172 (dk_at dksX6_put_0 6 rfl rfl)
abbrev cX6_failures : ByteArray := prog_14_method_114_code
def yX6_failures : MethodName := ⟨RX6, "failures", "()I"⟩
def dkwX6_failures_0 : List UInt8 := [42, 16, 8, 182, 0, 250, 172]
abbrev dktX6_failures_0 : List UInt8 := dkwX6_failures_0 ++ []
theorem dksX6_failures_0 : cX6_failures.data.toList.drop 0 = dktX6_failures_0 := by decide +kernel
theorem dX6_failures_0 : decode cX6_failures 0 = .ok (.aload_n 0, 1) := dk_42 (dk_at dksX6_failures_0 0 rfl rfl)
theorem dX6_failures_1 : decode cX6_failures 1 = .ok (.bipush 8, 2) := dk_16 8 (dk_at dksX6_failures_0 1 rfl rfl)
theorem dX6_failures_3 : decode cX6_failures 3 = .ok (.invokevirtual 250, 3) := dk_182 0 250 (dk_at dksX6_failures_0 3 rfl rfl)
theorem dX6_failures_6 : decode cX6_failures 6 = .ok (.ireturn, 1) := dk_172 (dk_at dksX6_failures_0 6 rfl rfl)
abbrev cX6_meanSum : ByteArray := prog_14_method_115_code
def yX6_meanSum : MethodName := ⟨RX6, "meanSum", "()D"⟩
def dkwX6_meanSum_2 : List UInt8 := [167, 255, 234, 27, 135, 42, 180, 0, 13, 3, 46, 135, 111, 175]
abbrev dktX6_meanSum_2 : List UInt8 := dkwX6_meanSum_2 ++ []
def dkwX6_meanSum_1 : List UInt8 := [61, 28, 42, 180, 0, 13, 3, 46, 162, 0, 18, 27, 42, 28, 5, 182, 0, 83, 96, 60, 132, 2, 1]
abbrev dktX6_meanSum_1 : List UInt8 := dkwX6_meanSum_1 ++ dktX6_meanSum_2
def dkwX6_meanSum_0 : List UInt8 := [42, 3, 181, 0, 1, 42, 180, 0, 13, 3, 46, 154, 0, 10, 42, 4, 182, 0, 75, 135, 175, 3, 60, 3]
abbrev dktX6_meanSum_0 : List UInt8 := dkwX6_meanSum_0 ++ dktX6_meanSum_1
theorem dksX6_meanSum_0 : cX6_meanSum.data.toList.drop 0 = dktX6_meanSum_0 := by decide +kernel
theorem dksX6_meanSum_1 : cX6_meanSum.data.toList.drop 24 = dktX6_meanSum_1 := dk_seg dksX6_meanSum_0 24 rfl rfl
theorem dksX6_meanSum_2 : cX6_meanSum.data.toList.drop 47 = dktX6_meanSum_2 := dk_seg dksX6_meanSum_1 23 rfl rfl
theorem dX6_meanSum_0 : decode cX6_meanSum 0 = .ok (.aload_n 0, 1) := dk_42 (dk_at dksX6_meanSum_0 0 rfl rfl)
theorem dX6_meanSum_1 : decode cX6_meanSum 1 = .ok (.iconst 0, 1) := dk_3 (dk_at dksX6_meanSum_0 1 rfl rfl)
theorem dX6_meanSum_2 : decode cX6_meanSum 2 = .ok (.putfield 1, 3) := dk_181 0 1 (dk_at dksX6_meanSum_0 2 rfl rfl)
theorem dX6_meanSum_5 : decode cX6_meanSum 5 = .ok (.aload_n 0, 1) := dk_42 (dk_at dksX6_meanSum_0 5 rfl rfl)
theorem dX6_meanSum_6 : decode cX6_meanSum 6 = .ok (.getfield 13, 3) := dk_180 0 13 (dk_at dksX6_meanSum_0 6 rfl rfl)
theorem dX6_meanSum_9 : decode cX6_meanSum 9 = .ok (.iconst 0, 1) := dk_3 (dk_at dksX6_meanSum_0 9 rfl rfl)
theorem dX6_meanSum_10 : decode cX6_meanSum 10 = .ok (.iaload, 1) := dk_46 (dk_at dksX6_meanSum_0 10 rfl rfl)
theorem dX6_meanSum_11 : decode cX6_meanSum 11 = .ok (.ifCond .ne 10, 3) := dk_154 0 10 (dk_at dksX6_meanSum_0 11 rfl rfl)
theorem dX6_meanSum_14 : decode cX6_meanSum 14 = .ok (.aload_n 0, 1) := dk_42 (dk_at dksX6_meanSum_0 14 rfl rfl)
theorem dX6_meanSum_15 : decode cX6_meanSum 15 = .ok (.iconst 1, 1) := dk_4 (dk_at dksX6_meanSum_0 15 rfl rfl)
theorem dX6_meanSum_16 : decode cX6_meanSum 16 = .ok (.invokevirtual 75, 3) := dk_182 0 75 (dk_at dksX6_meanSum_0 16 rfl rfl)
theorem dX6_meanSum_19 : decode cX6_meanSum 19 = .ok (.i2d, 1) := dk_135 (dk_at dksX6_meanSum_0 19 rfl rfl)
theorem dX6_meanSum_20 : decode cX6_meanSum 20 = .ok (.dreturn, 1) := dk_175 (dk_at dksX6_meanSum_0 20 rfl rfl)
theorem dX6_meanSum_21 : decode cX6_meanSum 21 = .ok (.iconst 0, 1) := dk_3 (dk_at dksX6_meanSum_0 21 rfl rfl)
theorem dX6_meanSum_22 : decode cX6_meanSum 22 = .ok (.istore_n 1, 1) := dk_60 (dk_at dksX6_meanSum_0 22 rfl rfl)
theorem dX6_meanSum_23 : decode cX6_meanSum 23 = .ok (.iconst 0, 1) := dk_3 (dk_at dksX6_meanSum_0 23 rfl rfl)
theorem dX6_meanSum_24 : decode cX6_meanSum 24 = .ok (.istore_n 2, 1) := dk_61 (dk_at dksX6_meanSum_1 0 rfl rfl)
theorem dX6_meanSum_25 : decode cX6_meanSum 25 = .ok (.iload_n 2, 1) := dk_28 (dk_at dksX6_meanSum_1 1 rfl rfl)
theorem dX6_meanSum_26 : decode cX6_meanSum 26 = .ok (.aload_n 0, 1) := dk_42 (dk_at dksX6_meanSum_1 2 rfl rfl)
theorem dX6_meanSum_27 : decode cX6_meanSum 27 = .ok (.getfield 13, 3) := dk_180 0 13 (dk_at dksX6_meanSum_1 3 rfl rfl)
theorem dX6_meanSum_30 : decode cX6_meanSum 30 = .ok (.iconst 0, 1) := dk_3 (dk_at dksX6_meanSum_1 6 rfl rfl)
theorem dX6_meanSum_31 : decode cX6_meanSum 31 = .ok (.iaload, 1) := dk_46 (dk_at dksX6_meanSum_1 7 rfl rfl)
theorem dX6_meanSum_32 : decode cX6_meanSum 32 = .ok (.if_icmp .ge 18, 3) := dk_162 0 18 (dk_at dksX6_meanSum_1 8 rfl rfl)
theorem dX6_meanSum_35 : decode cX6_meanSum 35 = .ok (.iload_n 1, 1) := dk_27 (dk_at dksX6_meanSum_1 11 rfl rfl)
theorem dX6_meanSum_36 : decode cX6_meanSum 36 = .ok (.aload_n 0, 1) := dk_42 (dk_at dksX6_meanSum_1 12 rfl rfl)
theorem dX6_meanSum_37 : decode cX6_meanSum 37 = .ok (.iload_n 2, 1) := dk_28 (dk_at dksX6_meanSum_1 13 rfl rfl)
theorem dX6_meanSum_38 : decode cX6_meanSum 38 = .ok (.iconst 2, 1) := dk_5 (dk_at dksX6_meanSum_1 14 rfl rfl)
theorem dX6_meanSum_39 : decode cX6_meanSum 39 = .ok (.invokevirtual 83, 3) := dk_182 0 83 (dk_at dksX6_meanSum_1 15 rfl rfl)
theorem dX6_meanSum_42 : decode cX6_meanSum 42 = .ok (.iadd, 1) := dk_96 (dk_at dksX6_meanSum_1 18 rfl rfl)
theorem dX6_meanSum_43 : decode cX6_meanSum 43 = .ok (.istore_n 1, 1) := dk_60 (dk_at dksX6_meanSum_1 19 rfl rfl)
theorem dX6_meanSum_44 : decode cX6_meanSum 44 = .ok (.iinc 2 1, 3) := dk_132 2 1 (dk_at dksX6_meanSum_1 20 rfl rfl)
theorem dX6_meanSum_47 : decode cX6_meanSum 47 = .ok (.goto (-22), 3) := dk_167 255 234 (dk_at dksX6_meanSum_2 0 rfl rfl)
theorem dX6_meanSum_50 : decode cX6_meanSum 50 = .ok (.iload_n 1, 1) := dk_27 (dk_at dksX6_meanSum_2 3 rfl rfl)
theorem dX6_meanSum_51 : decode cX6_meanSum 51 = .ok (.i2d, 1) := dk_135 (dk_at dksX6_meanSum_2 4 rfl rfl)
theorem dX6_meanSum_52 : decode cX6_meanSum 52 = .ok (.aload_n 0, 1) := dk_42 (dk_at dksX6_meanSum_2 5 rfl rfl)
theorem dX6_meanSum_53 : decode cX6_meanSum 53 = .ok (.getfield 13, 3) := dk_180 0 13 (dk_at dksX6_meanSum_2 6 rfl rfl)
theorem dX6_meanSum_56 : decode cX6_meanSum 56 = .ok (.iconst 0, 1) := dk_3 (dk_at dksX6_meanSum_2 9 rfl rfl)
theorem dX6_meanSum_57 : decode cX6_meanSum 57 = .ok (.iaload, 1) := dk_46 (dk_at dksX6_meanSum_2 10 rfl rfl)
theorem dX6_meanSum_58 : decode cX6_meanSum 58 = .ok (.i2d, 1) := dk_135 (dk_at dksX6_meanSum_2 11 rfl rfl)
theorem dX6_meanSum_59 : decode cX6_meanSum 59 = .ok (.ddiv, 1) := dk_111 (dk_at dksX6_meanSum_2 12 rfl rfl)
theorem dX6_meanSum_60 : decode cX6_meanSum 60 = .ok (.dreturn, 1) := dk_175 (dk_at dksX6_meanSum_2 13 rfl rfl)
abbrev cX6_handledShare : ByteArray := prog_14_method_116_code
def yX6_handledShare : MethodName := ⟨RX6, "handledShare", "()F"⟩
def dkwX6_handledShare_1 : List UInt8 := [42, 180, 0, 13, 8, 46, 134, 42, 180, 0, 13, 16, 7, 46, 134, 110, 174]
abbrev dktX6_handledShare_1 : List UInt8 := dkwX6_handledShare_1 ++ []
def dkwX6_handledShare_0 : List UInt8 := [42, 3, 181, 0, 1, 42, 180, 0, 13, 16, 7, 46, 154, 0, 12, 42, 4, 182, 0, 75, 134, 167, 0, 19]
abbrev dktX6_handledShare_0 : List UInt8 := dkwX6_handledShare_0 ++ dktX6_handledShare_1
theorem dksX6_handledShare_0 : cX6_handledShare.data.toList.drop 0 = dktX6_handledShare_0 := by decide +kernel
theorem dksX6_handledShare_1 : cX6_handledShare.data.toList.drop 24 = dktX6_handledShare_1 := dk_seg dksX6_handledShare_0 24 rfl rfl
theorem dX6_handledShare_0 : decode cX6_handledShare 0 = .ok (.aload_n 0, 1) := dk_42 (dk_at dksX6_handledShare_0 0 rfl rfl)
theorem dX6_handledShare_1 : decode cX6_handledShare 1 = .ok (.iconst 0, 1) := dk_3 (dk_at dksX6_handledShare_0 1 rfl rfl)
theorem dX6_handledShare_2 : decode cX6_handledShare 2 = .ok (.putfield 1, 3) := dk_181 0 1 (dk_at dksX6_handledShare_0 2 rfl rfl)
theorem dX6_handledShare_5 : decode cX6_handledShare 5 = .ok (.aload_n 0, 1) := dk_42 (dk_at dksX6_handledShare_0 5 rfl rfl)
theorem dX6_handledShare_6 : decode cX6_handledShare 6 = .ok (.getfield 13, 3) := dk_180 0 13 (dk_at dksX6_handledShare_0 6 rfl rfl)
theorem dX6_handledShare_9 : decode cX6_handledShare 9 = .ok (.bipush 7, 2) := dk_16 7 (dk_at dksX6_handledShare_0 9 rfl rfl)
theorem dX6_handledShare_11 : decode cX6_handledShare 11 = .ok (.iaload, 1) := dk_46 (dk_at dksX6_handledShare_0 11 rfl rfl)
theorem dX6_handledShare_12 : decode cX6_handledShare 12 = .ok (.ifCond .ne 12, 3) := dk_154 0 12 (dk_at dksX6_handledShare_0 12 rfl rfl)
theorem dX6_handledShare_15 : decode cX6_handledShare 15 = .ok (.aload_n 0, 1) := dk_42 (dk_at dksX6_handledShare_0 15 rfl rfl)
theorem dX6_handledShare_16 : decode cX6_handledShare 16 = .ok (.iconst 1, 1) := dk_4 (dk_at dksX6_handledShare_0 16 rfl rfl)
theorem dX6_handledShare_17 : decode cX6_handledShare 17 = .ok (.invokevirtual 75, 3) := dk_182 0 75 (dk_at dksX6_handledShare_0 17 rfl rfl)
theorem dX6_handledShare_20 : decode cX6_handledShare 20 = .ok (.i2f, 1) := dk_134 (dk_at dksX6_handledShare_0 20 rfl rfl)
theorem dX6_handledShare_21 : decode cX6_handledShare 21 = .ok (.goto 19, 3) := dk_167 0 19 (dk_at dksX6_handledShare_0 21 rfl rfl)
theorem dX6_handledShare_24 : decode cX6_handledShare 24 = .ok (.aload_n 0, 1) := dk_42 (dk_at dksX6_handledShare_1 0 rfl rfl)
theorem dX6_handledShare_25 : decode cX6_handledShare 25 = .ok (.getfield 13, 3) := dk_180 0 13 (dk_at dksX6_handledShare_1 1 rfl rfl)
theorem dX6_handledShare_28 : decode cX6_handledShare 28 = .ok (.iconst 5, 1) := dk_8 (dk_at dksX6_handledShare_1 4 rfl rfl)
theorem dX6_handledShare_29 : decode cX6_handledShare 29 = .ok (.iaload, 1) := dk_46 (dk_at dksX6_handledShare_1 5 rfl rfl)
theorem dX6_handledShare_30 : decode cX6_handledShare 30 = .ok (.i2f, 1) := dk_134 (dk_at dksX6_handledShare_1 6 rfl rfl)
theorem dX6_handledShare_31 : decode cX6_handledShare 31 = .ok (.aload_n 0, 1) := dk_42 (dk_at dksX6_handledShare_1 7 rfl rfl)
theorem dX6_handledShare_32 : decode cX6_handledShare 32 = .ok (.getfield 13, 3) := dk_180 0 13 (dk_at dksX6_handledShare_1 8 rfl rfl)
theorem dX6_handledShare_35 : decode cX6_handledShare 35 = .ok (.bipush 7, 2) := dk_16 7 (dk_at dksX6_handledShare_1 11 rfl rfl)
theorem dX6_handledShare_37 : decode cX6_handledShare 37 = .ok (.iaload, 1) := dk_46 (dk_at dksX6_handledShare_1 13 rfl rfl)
theorem dX6_handledShare_38 : decode cX6_handledShare 38 = .ok (.i2f, 1) := dk_134 (dk_at dksX6_handledShare_1 14 rfl rfl)
theorem dX6_handledShare_39 : decode cX6_handledShare 39 = .ok (.fdiv, 1) := dk_110 (dk_at dksX6_handledShare_1 15 rfl rfl)
theorem dX6_handledShare_40 : decode cX6_handledShare 40 = .ok (.freturn, 1) := dk_174 (dk_at dksX6_handledShare_1 16 rfl rfl)
abbrev cX6_writeActor : ByteArray := prog_14_method_120_code
def yX6_writeActor : MethodName := ⟨RX6, "writeActor", "(I)I"⟩
def dkwX6_writeActor_6 : List UInt8 := [27, 16, 10, 28, 96, 182, 0, 83, 182, 1, 61, 132, 2, 1, 167, 255, 229, 42, 180, 1, 52, 172]
abbrev dktX6_writeActor_6 : List UInt8 := dkwX6_writeActor_6 ++ []
def dkwX6_writeActor_5 : List UInt8 := [154, 0, 9, 42, 16, 33, 182, 1, 55, 3, 61, 28, 42, 27, 16, 9, 182, 0, 83, 162, 0, 22, 42, 42]
abbrev dktX6_writeActor_5 : List UInt8 := dkwX6_writeActor_5 ++ dktX6_writeActor_6
def dkwX6_writeActor_4 : List UInt8 := [16, 94, 182, 1, 55, 42, 16, 48, 42, 27, 16, 6, 182, 0, 83, 96, 182, 1, 55, 42, 27, 182, 0, 87]
abbrev dktX6_writeActor_4 : List UInt8 := dkwX6_writeActor_4 ++ dktX6_writeActor_5
def dkwX6_writeActor_3 : List UInt8 := [42, 16, 48, 42, 27, 7, 182, 0, 83, 96, 182, 1, 55, 42, 27, 16, 6, 182, 0, 83, 155, 0, 23, 42]
abbrev dktX6_writeActor_3 : List UInt8 := dkwX6_writeActor_3 ++ dktX6_writeActor_4
def dkwX6_writeActor_2 : List UInt8 := [42, 42, 27, 5, 182, 0, 83, 182, 1, 58, 42, 27, 182, 0, 189, 153, 0, 22, 42, 16, 62, 182, 1, 55]
abbrev dktX6_writeActor_2 : List UInt8 := dkwX6_writeActor_2 ++ dktX6_writeActor_3
def dkwX6_writeActor_1 : List UInt8 := [42, 16, 48, 27, 96, 182, 1, 55, 42, 42, 27, 3, 182, 0, 83, 182, 1, 55, 42, 16, 61, 182, 1, 55]
abbrev dktX6_writeActor_1 : List UInt8 := dkwX6_writeActor_1 ++ dktX6_writeActor_2
def dkwX6_writeActor_0 : List UInt8 := [42, 3, 181, 0, 1, 42, 27, 182, 0, 118, 154, 0, 9, 42, 4, 182, 0, 75, 172, 42, 3, 181, 1, 52]
abbrev dktX6_writeActor_0 : List UInt8 := dkwX6_writeActor_0 ++ dktX6_writeActor_1
theorem dksX6_writeActor_0 : cX6_writeActor.data.toList.drop 0 = dktX6_writeActor_0 := by decide +kernel
theorem dksX6_writeActor_1 : cX6_writeActor.data.toList.drop 24 = dktX6_writeActor_1 := dk_seg dksX6_writeActor_0 24 rfl rfl
theorem dksX6_writeActor_2 : cX6_writeActor.data.toList.drop 48 = dktX6_writeActor_2 := dk_seg dksX6_writeActor_1 24 rfl rfl
theorem dksX6_writeActor_3 : cX6_writeActor.data.toList.drop 72 = dktX6_writeActor_3 := dk_seg dksX6_writeActor_2 24 rfl rfl
theorem dksX6_writeActor_4 : cX6_writeActor.data.toList.drop 96 = dktX6_writeActor_4 := dk_seg dksX6_writeActor_3 24 rfl rfl
theorem dksX6_writeActor_5 : cX6_writeActor.data.toList.drop 120 = dktX6_writeActor_5 := dk_seg dksX6_writeActor_4 24 rfl rfl
theorem dksX6_writeActor_6 : cX6_writeActor.data.toList.drop 144 = dktX6_writeActor_6 := dk_seg dksX6_writeActor_5 24 rfl rfl
theorem dX6_writeActor_0 : decode cX6_writeActor 0 = .ok (.aload_n 0, 1) := dk_42 (dk_at dksX6_writeActor_0 0 rfl rfl)
theorem dX6_writeActor_1 : decode cX6_writeActor 1 = .ok (.iconst 0, 1) := dk_3 (dk_at dksX6_writeActor_0 1 rfl rfl)
theorem dX6_writeActor_2 : decode cX6_writeActor 2 = .ok (.putfield 1, 3) := dk_181 0 1 (dk_at dksX6_writeActor_0 2 rfl rfl)
theorem dX6_writeActor_5 : decode cX6_writeActor 5 = .ok (.aload_n 0, 1) := dk_42 (dk_at dksX6_writeActor_0 5 rfl rfl)
theorem dX6_writeActor_6 : decode cX6_writeActor 6 = .ok (.iload_n 1, 1) := dk_27 (dk_at dksX6_writeActor_0 6 rfl rfl)
theorem dX6_writeActor_7 : decode cX6_writeActor 7 = .ok (.invokevirtual 118, 3) := dk_182 0 118 (dk_at dksX6_writeActor_0 7 rfl rfl)
theorem dX6_writeActor_10 : decode cX6_writeActor 10 = .ok (.ifCond .ne 9, 3) := dk_154 0 9 (dk_at dksX6_writeActor_0 10 rfl rfl)
theorem dX6_writeActor_13 : decode cX6_writeActor 13 = .ok (.aload_n 0, 1) := dk_42 (dk_at dksX6_writeActor_0 13 rfl rfl)
theorem dX6_writeActor_14 : decode cX6_writeActor 14 = .ok (.iconst 1, 1) := dk_4 (dk_at dksX6_writeActor_0 14 rfl rfl)
theorem dX6_writeActor_15 : decode cX6_writeActor 15 = .ok (.invokevirtual 75, 3) := dk_182 0 75 (dk_at dksX6_writeActor_0 15 rfl rfl)
theorem dX6_writeActor_18 : decode cX6_writeActor 18 = .ok (.ireturn, 1) := dk_172 (dk_at dksX6_writeActor_0 18 rfl rfl)
theorem dX6_writeActor_19 : decode cX6_writeActor 19 = .ok (.aload_n 0, 1) := dk_42 (dk_at dksX6_writeActor_0 19 rfl rfl)
theorem dX6_writeActor_20 : decode cX6_writeActor 20 = .ok (.iconst 0, 1) := dk_3 (dk_at dksX6_writeActor_0 20 rfl rfl)
theorem dX6_writeActor_21 : decode cX6_writeActor 21 = .ok (.putfield 308, 3) := dk_181 1 52 (dk_at dksX6_writeActor_0 21 rfl rfl)
theorem dX6_writeActor_24 : decode cX6_writeActor 24 = .ok (.aload_n 0, 1) := dk_42 (dk_at dksX6_writeActor_1 0 rfl rfl)
theorem dX6_writeActor_25 : decode cX6_writeActor 25 = .ok (.bipush 48, 2) := dk_16 48 (dk_at dksX6_writeActor_1 1 rfl rfl)
theorem dX6_writeActor_27 : decode cX6_writeActor 27 = .ok (.iload_n 1, 1) := dk_27 (dk_at dksX6_writeActor_1 3 rfl rfl)
theorem dX6_writeActor_28 : decode cX6_writeActor 28 = .ok (.iadd, 1) := dk_96 (dk_at dksX6_writeActor_1 4 rfl rfl)
theorem dX6_writeActor_29 : decode cX6_writeActor 29 = .ok (.invokevirtual 311, 3) := dk_182 1 55 (dk_at dksX6_writeActor_1 5 rfl rfl)
theorem dX6_writeActor_32 : decode cX6_writeActor 32 = .ok (.aload_n 0, 1) := dk_42 (dk_at dksX6_writeActor_1 8 rfl rfl)
theorem dX6_writeActor_33 : decode cX6_writeActor 33 = .ok (.aload_n 0, 1) := dk_42 (dk_at dksX6_writeActor_1 9 rfl rfl)
theorem dX6_writeActor_34 : decode cX6_writeActor 34 = .ok (.iload_n 1, 1) := dk_27 (dk_at dksX6_writeActor_1 10 rfl rfl)
theorem dX6_writeActor_35 : decode cX6_writeActor 35 = .ok (.iconst 0, 1) := dk_3 (dk_at dksX6_writeActor_1 11 rfl rfl)
theorem dX6_writeActor_36 : decode cX6_writeActor 36 = .ok (.invokevirtual 83, 3) := dk_182 0 83 (dk_at dksX6_writeActor_1 12 rfl rfl)
theorem dX6_writeActor_39 : decode cX6_writeActor 39 = .ok (.invokevirtual 311, 3) := dk_182 1 55 (dk_at dksX6_writeActor_1 15 rfl rfl)
theorem dX6_writeActor_42 : decode cX6_writeActor 42 = .ok (.aload_n 0, 1) := dk_42 (dk_at dksX6_writeActor_1 18 rfl rfl)
theorem dX6_writeActor_43 : decode cX6_writeActor 43 = .ok (.bipush 61, 2) := dk_16 61 (dk_at dksX6_writeActor_1 19 rfl rfl)
theorem dX6_writeActor_45 : decode cX6_writeActor 45 = .ok (.invokevirtual 311, 3) := dk_182 1 55 (dk_at dksX6_writeActor_1 21 rfl rfl)
theorem dX6_writeActor_48 : decode cX6_writeActor 48 = .ok (.aload_n 0, 1) := dk_42 (dk_at dksX6_writeActor_2 0 rfl rfl)
theorem dX6_writeActor_49 : decode cX6_writeActor 49 = .ok (.aload_n 0, 1) := dk_42 (dk_at dksX6_writeActor_2 1 rfl rfl)
theorem dX6_writeActor_50 : decode cX6_writeActor 50 = .ok (.iload_n 1, 1) := dk_27 (dk_at dksX6_writeActor_2 2 rfl rfl)
theorem dX6_writeActor_51 : decode cX6_writeActor 51 = .ok (.iconst 2, 1) := dk_5 (dk_at dksX6_writeActor_2 3 rfl rfl)
theorem dX6_writeActor_52 : decode cX6_writeActor 52 = .ok (.invokevirtual 83, 3) := dk_182 0 83 (dk_at dksX6_writeActor_2 4 rfl rfl)
theorem dX6_writeActor_55 : decode cX6_writeActor 55 = .ok (.invokevirtual 314, 3) := dk_182 1 58 (dk_at dksX6_writeActor_2 7 rfl rfl)
theorem dX6_writeActor_58 : decode cX6_writeActor 58 = .ok (.aload_n 0, 1) := dk_42 (dk_at dksX6_writeActor_2 10 rfl rfl)
theorem dX6_writeActor_59 : decode cX6_writeActor 59 = .ok (.iload_n 1, 1) := dk_27 (dk_at dksX6_writeActor_2 11 rfl rfl)
theorem dX6_writeActor_60 : decode cX6_writeActor 60 = .ok (.invokevirtual 189, 3) := dk_182 0 189 (dk_at dksX6_writeActor_2 12 rfl rfl)
theorem dX6_writeActor_63 : decode cX6_writeActor 63 = .ok (.ifCond .eq 22, 3) := dk_153 0 22 (dk_at dksX6_writeActor_2 15 rfl rfl)
theorem dX6_writeActor_66 : decode cX6_writeActor 66 = .ok (.aload_n 0, 1) := dk_42 (dk_at dksX6_writeActor_2 18 rfl rfl)
theorem dX6_writeActor_67 : decode cX6_writeActor 67 = .ok (.bipush 62, 2) := dk_16 62 (dk_at dksX6_writeActor_2 19 rfl rfl)
theorem dX6_writeActor_69 : decode cX6_writeActor 69 = .ok (.invokevirtual 311, 3) := dk_182 1 55 (dk_at dksX6_writeActor_2 21 rfl rfl)
theorem dX6_writeActor_72 : decode cX6_writeActor 72 = .ok (.aload_n 0, 1) := dk_42 (dk_at dksX6_writeActor_3 0 rfl rfl)
theorem dX6_writeActor_73 : decode cX6_writeActor 73 = .ok (.bipush 48, 2) := dk_16 48 (dk_at dksX6_writeActor_3 1 rfl rfl)
theorem dX6_writeActor_75 : decode cX6_writeActor 75 = .ok (.aload_n 0, 1) := dk_42 (dk_at dksX6_writeActor_3 3 rfl rfl)
theorem dX6_writeActor_76 : decode cX6_writeActor 76 = .ok (.iload_n 1, 1) := dk_27 (dk_at dksX6_writeActor_3 4 rfl rfl)
theorem dX6_writeActor_77 : decode cX6_writeActor 77 = .ok (.iconst 4, 1) := dk_7 (dk_at dksX6_writeActor_3 5 rfl rfl)
theorem dX6_writeActor_78 : decode cX6_writeActor 78 = .ok (.invokevirtual 83, 3) := dk_182 0 83 (dk_at dksX6_writeActor_3 6 rfl rfl)
theorem dX6_writeActor_81 : decode cX6_writeActor 81 = .ok (.iadd, 1) := dk_96 (dk_at dksX6_writeActor_3 9 rfl rfl)
theorem dX6_writeActor_82 : decode cX6_writeActor 82 = .ok (.invokevirtual 311, 3) := dk_182 1 55 (dk_at dksX6_writeActor_3 10 rfl rfl)
theorem dX6_writeActor_85 : decode cX6_writeActor 85 = .ok (.aload_n 0, 1) := dk_42 (dk_at dksX6_writeActor_3 13 rfl rfl)
theorem dX6_writeActor_86 : decode cX6_writeActor 86 = .ok (.iload_n 1, 1) := dk_27 (dk_at dksX6_writeActor_3 14 rfl rfl)
theorem dX6_writeActor_87 : decode cX6_writeActor 87 = .ok (.bipush 6, 2) := dk_16 6 (dk_at dksX6_writeActor_3 15 rfl rfl)
theorem dX6_writeActor_89 : decode cX6_writeActor 89 = .ok (.invokevirtual 83, 3) := dk_182 0 83 (dk_at dksX6_writeActor_3 17 rfl rfl)
theorem dX6_writeActor_92 : decode cX6_writeActor 92 = .ok (.ifCond .lt 23, 3) := dk_155 0 23 (dk_at dksX6_writeActor_3 20 rfl rfl)
theorem dX6_writeActor_95 : decode cX6_writeActor 95 = .ok (.aload_n 0, 1) := dk_42 (dk_at dksX6_writeActor_3 23 rfl rfl)
theorem dX6_writeActor_96 : decode cX6_writeActor 96 = .ok (.bipush 94, 2) := dk_16 94 (dk_at dksX6_writeActor_4 0 rfl rfl)
theorem dX6_writeActor_98 : decode cX6_writeActor 98 = .ok (.invokevirtual 311, 3) := dk_182 1 55 (dk_at dksX6_writeActor_4 2 rfl rfl)
theorem dX6_writeActor_101 : decode cX6_writeActor 101 = .ok (.aload_n 0, 1) := dk_42 (dk_at dksX6_writeActor_4 5 rfl rfl)
theorem dX6_writeActor_102 : decode cX6_writeActor 102 = .ok (.bipush 48, 2) := dk_16 48 (dk_at dksX6_writeActor_4 6 rfl rfl)
theorem dX6_writeActor_104 : decode cX6_writeActor 104 = .ok (.aload_n 0, 1) := dk_42 (dk_at dksX6_writeActor_4 8 rfl rfl)
theorem dX6_writeActor_105 : decode cX6_writeActor 105 = .ok (.iload_n 1, 1) := dk_27 (dk_at dksX6_writeActor_4 9 rfl rfl)
theorem dX6_writeActor_106 : decode cX6_writeActor 106 = .ok (.bipush 6, 2) := dk_16 6 (dk_at dksX6_writeActor_4 10 rfl rfl)
theorem dX6_writeActor_108 : decode cX6_writeActor 108 = .ok (.invokevirtual 83, 3) := dk_182 0 83 (dk_at dksX6_writeActor_4 12 rfl rfl)
theorem dX6_writeActor_111 : decode cX6_writeActor 111 = .ok (.iadd, 1) := dk_96 (dk_at dksX6_writeActor_4 15 rfl rfl)
theorem dX6_writeActor_112 : decode cX6_writeActor 112 = .ok (.invokevirtual 311, 3) := dk_182 1 55 (dk_at dksX6_writeActor_4 16 rfl rfl)
theorem dX6_writeActor_115 : decode cX6_writeActor 115 = .ok (.aload_n 0, 1) := dk_42 (dk_at dksX6_writeActor_4 19 rfl rfl)
theorem dX6_writeActor_116 : decode cX6_writeActor 116 = .ok (.iload_n 1, 1) := dk_27 (dk_at dksX6_writeActor_4 20 rfl rfl)
theorem dX6_writeActor_117 : decode cX6_writeActor 117 = .ok (.invokevirtual 87, 3) := dk_182 0 87 (dk_at dksX6_writeActor_4 21 rfl rfl)
theorem dX6_writeActor_120 : decode cX6_writeActor 120 = .ok (.ifCond .ne 9, 3) := dk_154 0 9 (dk_at dksX6_writeActor_5 0 rfl rfl)
theorem dX6_writeActor_123 : decode cX6_writeActor 123 = .ok (.aload_n 0, 1) := dk_42 (dk_at dksX6_writeActor_5 3 rfl rfl)
theorem dX6_writeActor_124 : decode cX6_writeActor 124 = .ok (.bipush 33, 2) := dk_16 33 (dk_at dksX6_writeActor_5 4 rfl rfl)
theorem dX6_writeActor_126 : decode cX6_writeActor 126 = .ok (.invokevirtual 311, 3) := dk_182 1 55 (dk_at dksX6_writeActor_5 6 rfl rfl)
theorem dX6_writeActor_129 : decode cX6_writeActor 129 = .ok (.iconst 0, 1) := dk_3 (dk_at dksX6_writeActor_5 9 rfl rfl)
theorem dX6_writeActor_130 : decode cX6_writeActor 130 = .ok (.istore_n 2, 1) := dk_61 (dk_at dksX6_writeActor_5 10 rfl rfl)
theorem dX6_writeActor_131 : decode cX6_writeActor 131 = .ok (.iload_n 2, 1) := dk_28 (dk_at dksX6_writeActor_5 11 rfl rfl)
theorem dX6_writeActor_132 : decode cX6_writeActor 132 = .ok (.aload_n 0, 1) := dk_42 (dk_at dksX6_writeActor_5 12 rfl rfl)
theorem dX6_writeActor_133 : decode cX6_writeActor 133 = .ok (.iload_n 1, 1) := dk_27 (dk_at dksX6_writeActor_5 13 rfl rfl)
theorem dX6_writeActor_134 : decode cX6_writeActor 134 = .ok (.bipush 9, 2) := dk_16 9 (dk_at dksX6_writeActor_5 14 rfl rfl)
theorem dX6_writeActor_136 : decode cX6_writeActor 136 = .ok (.invokevirtual 83, 3) := dk_182 0 83 (dk_at dksX6_writeActor_5 16 rfl rfl)
theorem dX6_writeActor_139 : decode cX6_writeActor 139 = .ok (.if_icmp .ge 22, 3) := dk_162 0 22 (dk_at dksX6_writeActor_5 19 rfl rfl)
theorem dX6_writeActor_142 : decode cX6_writeActor 142 = .ok (.aload_n 0, 1) := dk_42 (dk_at dksX6_writeActor_5 22 rfl rfl)
theorem dX6_writeActor_143 : decode cX6_writeActor 143 = .ok (.aload_n 0, 1) := dk_42 (dk_at dksX6_writeActor_5 23 rfl rfl)
theorem dX6_writeActor_144 : decode cX6_writeActor 144 = .ok (.iload_n 1, 1) := dk_27 (dk_at dksX6_writeActor_6 0 rfl rfl)
theorem dX6_writeActor_145 : decode cX6_writeActor 145 = .ok (.bipush 10, 2) := dk_16 10 (dk_at dksX6_writeActor_6 1 rfl rfl)
theorem dX6_writeActor_147 : decode cX6_writeActor 147 = .ok (.iload_n 2, 1) := dk_28 (dk_at dksX6_writeActor_6 3 rfl rfl)
theorem dX6_writeActor_148 : decode cX6_writeActor 148 = .ok (.iadd, 1) := dk_96 (dk_at dksX6_writeActor_6 4 rfl rfl)
theorem dX6_writeActor_149 : decode cX6_writeActor 149 = .ok (.invokevirtual 83, 3) := dk_182 0 83 (dk_at dksX6_writeActor_6 5 rfl rfl)
theorem dX6_writeActor_152 : decode cX6_writeActor 152 = .ok (.invokevirtual 317, 3) := dk_182 1 61 (dk_at dksX6_writeActor_6 8 rfl rfl)
theorem dX6_writeActor_155 : decode cX6_writeActor 155 = .ok (.iinc 2 1, 3) := dk_132 2 1 (dk_at dksX6_writeActor_6 11 rfl rfl)
theorem dX6_writeActor_158 : decode cX6_writeActor 158 = .ok (.goto (-27), 3) := dk_167 255 229 (dk_at dksX6_writeActor_6 14 rfl rfl)
theorem dX6_writeActor_161 : decode cX6_writeActor 161 = .ok (.aload_n 0, 1) := dk_42 (dk_at dksX6_writeActor_6 17 rfl rfl)
theorem dX6_writeActor_162 : decode cX6_writeActor 162 = .ok (.getfield 308, 3) := dk_180 1 52 (dk_at dksX6_writeActor_6 18 rfl rfl)
theorem dX6_writeActor_165 : decode cX6_writeActor 165 = .ok (.ireturn, 1) := dk_172 (dk_at dksX6_writeActor_6 21 rfl rfl)
abbrev cX6_writes : ByteArray := prog_14_method_117_code
def yX6_writes : MethodName := ⟨RX6, "writes", "(I)V"⟩
def dkwX6_writes_0 : List UInt8 := [42, 180, 0, 38, 42, 180, 1, 52, 27, 146, 85, 42, 89, 180, 1, 52, 4, 96, 181, 1, 52, 177]
abbrev dktX6_writes_0 : List UInt8 := dkwX6_writes_0 ++ []
theorem dksX6_writes_0 : cX6_writes.data.toList.drop 0 = dktX6_writes_0 := by decide +kernel
theorem dX6_writes_0 : decode cX6_writes 0 = .ok (.aload_n 0, 1) := dk_42 (dk_at dksX6_writes_0 0 rfl rfl)
theorem dX6_writes_1 : decode cX6_writes 1 = .ok (.getfield 38, 3) := dk_180 0 38 (dk_at dksX6_writes_0 1 rfl rfl)
theorem dX6_writes_4 : decode cX6_writes 4 = .ok (.aload_n 0, 1) := dk_42 (dk_at dksX6_writes_0 4 rfl rfl)
theorem dX6_writes_5 : decode cX6_writes 5 = .ok (.getfield 308, 3) := dk_180 1 52 (dk_at dksX6_writes_0 5 rfl rfl)
theorem dX6_writes_8 : decode cX6_writes 8 = .ok (.iload_n 1, 1) := dk_27 (dk_at dksX6_writes_0 8 rfl rfl)
theorem dX6_writes_9 : decode cX6_writes 9 = .ok (.i2c, 1) := dk_146 (dk_at dksX6_writes_0 9 rfl rfl)
theorem dX6_writes_10 : decode cX6_writes 10 = .ok (.castore, 1) := dk_85 (dk_at dksX6_writes_0 10 rfl rfl)
theorem dX6_writes_11 : decode cX6_writes 11 = .ok (.aload_n 0, 1) := dk_42 (dk_at dksX6_writes_0 11 rfl rfl)
theorem dX6_writes_12 : decode cX6_writes 12 = .ok (.dup, 1) := dk_89 (dk_at dksX6_writes_0 12 rfl rfl)
theorem dX6_writes_13 : decode cX6_writes 13 = .ok (.getfield 308, 3) := dk_180 1 52 (dk_at dksX6_writes_0 13 rfl rfl)
theorem dX6_writes_16 : decode cX6_writes 16 = .ok (.iconst 1, 1) := dk_4 (dk_at dksX6_writes_0 16 rfl rfl)
theorem dX6_writes_17 : decode cX6_writes 17 = .ok (.iadd, 1) := dk_96 (dk_at dksX6_writes_0 17 rfl rfl)
theorem dX6_writes_18 : decode cX6_writes 18 = .ok (.putfield 308, 3) := dk_181 1 52 (dk_at dksX6_writes_0 18 rfl rfl)
theorem dX6_writes_21 : decode cX6_writes 21 = .ok (.return_, 1) := dk_177 (dk_at dksX6_writes_0 21 rfl rfl)
abbrev cX6_writesNumber : ByteArray := prog_14_method_118_code
def yX6_writesNumber : MethodName := ⟨RX6, "writesNumber", "(I)V"⟩
def dkwX6_writesNumber_1 : List UInt8 := [42, 16, 48, 27, 29, 108, 16, 10, 112, 96, 182, 1, 55, 29, 16, 10, 108, 62, 167, 255, 234, 177]
abbrev dktX6_writesNumber_1 : List UInt8 := dkwX6_writesNumber_1 ++ []
def dkwX6_writesNumber_0 : List UInt8 := [4, 61, 27, 28, 108, 16, 9, 164, 0, 11, 28, 16, 10, 104, 61, 167, 255, 243, 28, 62, 29, 158, 0, 24]
abbrev dktX6_writesNumber_0 : List UInt8 := dkwX6_writesNumber_0 ++ dktX6_writesNumber_1
theorem dksX6_writesNumber_0 : cX6_writesNumber.data.toList.drop 0 = dktX6_writesNumber_0 := by decide +kernel
theorem dksX6_writesNumber_1 : cX6_writesNumber.data.toList.drop 24 = dktX6_writesNumber_1 := dk_seg dksX6_writesNumber_0 24 rfl rfl
theorem dX6_writesNumber_0 : decode cX6_writesNumber 0 = .ok (.iconst 1, 1) := dk_4 (dk_at dksX6_writesNumber_0 0 rfl rfl)
theorem dX6_writesNumber_1 : decode cX6_writesNumber 1 = .ok (.istore_n 2, 1) := dk_61 (dk_at dksX6_writesNumber_0 1 rfl rfl)
theorem dX6_writesNumber_2 : decode cX6_writesNumber 2 = .ok (.iload_n 1, 1) := dk_27 (dk_at dksX6_writesNumber_0 2 rfl rfl)
theorem dX6_writesNumber_3 : decode cX6_writesNumber 3 = .ok (.iload_n 2, 1) := dk_28 (dk_at dksX6_writesNumber_0 3 rfl rfl)
theorem dX6_writesNumber_4 : decode cX6_writesNumber 4 = .ok (.idiv, 1) := dk_108 (dk_at dksX6_writesNumber_0 4 rfl rfl)
theorem dX6_writesNumber_5 : decode cX6_writesNumber 5 = .ok (.bipush 9, 2) := dk_16 9 (dk_at dksX6_writesNumber_0 5 rfl rfl)
theorem dX6_writesNumber_7 : decode cX6_writesNumber 7 = .ok (.if_icmp .le 11, 3) := dk_164 0 11 (dk_at dksX6_writesNumber_0 7 rfl rfl)
theorem dX6_writesNumber_10 : decode cX6_writesNumber 10 = .ok (.iload_n 2, 1) := dk_28 (dk_at dksX6_writesNumber_0 10 rfl rfl)
theorem dX6_writesNumber_11 : decode cX6_writesNumber 11 = .ok (.bipush 10, 2) := dk_16 10 (dk_at dksX6_writesNumber_0 11 rfl rfl)
theorem dX6_writesNumber_13 : decode cX6_writesNumber 13 = .ok (.imul, 1) := dk_104 (dk_at dksX6_writesNumber_0 13 rfl rfl)
theorem dX6_writesNumber_14 : decode cX6_writesNumber 14 = .ok (.istore_n 2, 1) := dk_61 (dk_at dksX6_writesNumber_0 14 rfl rfl)
theorem dX6_writesNumber_15 : decode cX6_writesNumber 15 = .ok (.goto (-13), 3) := dk_167 255 243 (dk_at dksX6_writesNumber_0 15 rfl rfl)
theorem dX6_writesNumber_18 : decode cX6_writesNumber 18 = .ok (.iload_n 2, 1) := dk_28 (dk_at dksX6_writesNumber_0 18 rfl rfl)
theorem dX6_writesNumber_19 : decode cX6_writesNumber 19 = .ok (.istore_n 3, 1) := dk_62 (dk_at dksX6_writesNumber_0 19 rfl rfl)
theorem dX6_writesNumber_20 : decode cX6_writesNumber 20 = .ok (.iload_n 3, 1) := dk_29 (dk_at dksX6_writesNumber_0 20 rfl rfl)
theorem dX6_writesNumber_21 : decode cX6_writesNumber 21 = .ok (.ifCond .le 24, 3) := dk_158 0 24 (dk_at dksX6_writesNumber_0 21 rfl rfl)
theorem dX6_writesNumber_24 : decode cX6_writesNumber 24 = .ok (.aload_n 0, 1) := dk_42 (dk_at dksX6_writesNumber_1 0 rfl rfl)
theorem dX6_writesNumber_25 : decode cX6_writesNumber 25 = .ok (.bipush 48, 2) := dk_16 48 (dk_at dksX6_writesNumber_1 1 rfl rfl)
theorem dX6_writesNumber_27 : decode cX6_writesNumber 27 = .ok (.iload_n 1, 1) := dk_27 (dk_at dksX6_writesNumber_1 3 rfl rfl)
theorem dX6_writesNumber_28 : decode cX6_writesNumber 28 = .ok (.iload_n 3, 1) := dk_29 (dk_at dksX6_writesNumber_1 4 rfl rfl)
theorem dX6_writesNumber_29 : decode cX6_writesNumber 29 = .ok (.idiv, 1) := dk_108 (dk_at dksX6_writesNumber_1 5 rfl rfl)
theorem dX6_writesNumber_30 : decode cX6_writesNumber 30 = .ok (.bipush 10, 2) := dk_16 10 (dk_at dksX6_writesNumber_1 6 rfl rfl)
theorem dX6_writesNumber_32 : decode cX6_writesNumber 32 = .ok (.irem, 1) := dk_112 (dk_at dksX6_writesNumber_1 8 rfl rfl)
theorem dX6_writesNumber_33 : decode cX6_writesNumber 33 = .ok (.iadd, 1) := dk_96 (dk_at dksX6_writesNumber_1 9 rfl rfl)
theorem dX6_writesNumber_34 : decode cX6_writesNumber 34 = .ok (.invokevirtual 311, 3) := dk_182 1 55 (dk_at dksX6_writesNumber_1 10 rfl rfl)
theorem dX6_writesNumber_37 : decode cX6_writesNumber 37 = .ok (.iload_n 3, 1) := dk_29 (dk_at dksX6_writesNumber_1 13 rfl rfl)
theorem dX6_writesNumber_38 : decode cX6_writesNumber 38 = .ok (.bipush 10, 2) := dk_16 10 (dk_at dksX6_writesNumber_1 14 rfl rfl)
theorem dX6_writesNumber_40 : decode cX6_writesNumber 40 = .ok (.idiv, 1) := dk_108 (dk_at dksX6_writesNumber_1 16 rfl rfl)
theorem dX6_writesNumber_41 : decode cX6_writesNumber 41 = .ok (.istore_n 3, 1) := dk_62 (dk_at dksX6_writesNumber_1 17 rfl rfl)
theorem dX6_writesNumber_42 : decode cX6_writesNumber 42 = .ok (.goto (-22), 3) := dk_167 255 234 (dk_at dksX6_writesNumber_1 18 rfl rfl)
theorem dX6_writesNumber_45 : decode cX6_writesNumber 45 = .ok (.return_, 1) := dk_177 (dk_at dksX6_writesNumber_1 21 rfl rfl)
abbrev cX6_writesMessage : ByteArray := prog_14_method_119_code
def yX6_writesMessage : MethodName := ⟨RX6, "writesMessage", "(I)V"⟩
def dkwX6_writesMessage_1 : List UInt8 := [16, 39, 182, 1, 55, 132, 2, 1, 167, 255, 240, 177]
abbrev dktX6_writesMessage_1 : List UInt8 := dkwX6_writesMessage_1 ++ []
def dkwX6_writesMessage_0 : List UInt8 := [42, 16, 32, 182, 1, 55, 42, 27, 7, 108, 182, 1, 58, 3, 61, 28, 27, 7, 112, 162, 0, 15, 42]
abbrev dktX6_writesMessage_0 : List UInt8 := dkwX6_writesMessage_0 ++ dktX6_writesMessage_1
theorem dksX6_writesMessage_0 : cX6_writesMessage.data.toList.drop 0 = dktX6_writesMessage_0 := by decide +kernel
theorem dksX6_writesMessage_1 : cX6_writesMessage.data.toList.drop 23 = dktX6_writesMessage_1 := dk_seg dksX6_writesMessage_0 23 rfl rfl
theorem dX6_writesMessage_0 : decode cX6_writesMessage 0 = .ok (.aload_n 0, 1) := dk_42 (dk_at dksX6_writesMessage_0 0 rfl rfl)
theorem dX6_writesMessage_1 : decode cX6_writesMessage 1 = .ok (.bipush 32, 2) := dk_16 32 (dk_at dksX6_writesMessage_0 1 rfl rfl)
theorem dX6_writesMessage_3 : decode cX6_writesMessage 3 = .ok (.invokevirtual 311, 3) := dk_182 1 55 (dk_at dksX6_writesMessage_0 3 rfl rfl)
theorem dX6_writesMessage_6 : decode cX6_writesMessage 6 = .ok (.aload_n 0, 1) := dk_42 (dk_at dksX6_writesMessage_0 6 rfl rfl)
theorem dX6_writesMessage_7 : decode cX6_writesMessage 7 = .ok (.iload_n 1, 1) := dk_27 (dk_at dksX6_writesMessage_0 7 rfl rfl)
theorem dX6_writesMessage_8 : decode cX6_writesMessage 8 = .ok (.iconst 4, 1) := dk_7 (dk_at dksX6_writesMessage_0 8 rfl rfl)
theorem dX6_writesMessage_9 : decode cX6_writesMessage 9 = .ok (.idiv, 1) := dk_108 (dk_at dksX6_writesMessage_0 9 rfl rfl)
theorem dX6_writesMessage_10 : decode cX6_writesMessage 10 = .ok (.invokevirtual 314, 3) := dk_182 1 58 (dk_at dksX6_writesMessage_0 10 rfl rfl)
theorem dX6_writesMessage_13 : decode cX6_writesMessage 13 = .ok (.iconst 0, 1) := dk_3 (dk_at dksX6_writesMessage_0 13 rfl rfl)
theorem dX6_writesMessage_14 : decode cX6_writesMessage 14 = .ok (.istore_n 2, 1) := dk_61 (dk_at dksX6_writesMessage_0 14 rfl rfl)
theorem dX6_writesMessage_15 : decode cX6_writesMessage 15 = .ok (.iload_n 2, 1) := dk_28 (dk_at dksX6_writesMessage_0 15 rfl rfl)
theorem dX6_writesMessage_16 : decode cX6_writesMessage 16 = .ok (.iload_n 1, 1) := dk_27 (dk_at dksX6_writesMessage_0 16 rfl rfl)
theorem dX6_writesMessage_17 : decode cX6_writesMessage 17 = .ok (.iconst 4, 1) := dk_7 (dk_at dksX6_writesMessage_0 17 rfl rfl)
theorem dX6_writesMessage_18 : decode cX6_writesMessage 18 = .ok (.irem, 1) := dk_112 (dk_at dksX6_writesMessage_0 18 rfl rfl)
theorem dX6_writesMessage_19 : decode cX6_writesMessage 19 = .ok (.if_icmp .ge 15, 3) := dk_162 0 15 (dk_at dksX6_writesMessage_0 19 rfl rfl)
theorem dX6_writesMessage_22 : decode cX6_writesMessage 22 = .ok (.aload_n 0, 1) := dk_42 (dk_at dksX6_writesMessage_0 22 rfl rfl)
theorem dX6_writesMessage_23 : decode cX6_writesMessage 23 = .ok (.bipush 39, 2) := dk_16 39 (dk_at dksX6_writesMessage_1 0 rfl rfl)
theorem dX6_writesMessage_25 : decode cX6_writesMessage 25 = .ok (.invokevirtual 311, 3) := dk_182 1 55 (dk_at dksX6_writesMessage_1 2 rfl rfl)
theorem dX6_writesMessage_28 : decode cX6_writesMessage 28 = .ok (.iinc 2 1, 3) := dk_132 2 1 (dk_at dksX6_writesMessage_1 5 rfl rfl)
theorem dX6_writesMessage_31 : decode cX6_writesMessage 31 = .ok (.goto (-16), 3) := dk_167 255 240 (dk_at dksX6_writesMessage_1 8 rfl rfl)
theorem dX6_writesMessage_34 : decode cX6_writesMessage 34 = .ok (.return_, 1) := dk_177 (dk_at dksX6_writesMessage_1 11 rfl rfl)
abbrev cX6_writeRecord : ByteArray := prog_14_method_121_code
def yX6_writeRecord : MethodName := ⟨RX6, "writeRecord", "()I"⟩
def dkwX6_writeRecord_2 : List UInt8 := [16, 11, 27, 96, 46, 96, 182, 1, 55, 132, 1, 1, 167, 255, 209, 42, 180, 1, 52, 172]
abbrev dktX6_writeRecord_2 : List UInt8 := dkwX6_writeRecord_2 ++ []
def dkwX6_writeRecord_1 : List UInt8 := [42, 180, 0, 13, 16, 11, 27, 96, 46, 156, 0, 8, 16, 45, 167, 0, 15, 16, 48, 42, 180, 0, 13]
abbrev dktX6_writeRecord_1 : List UInt8 := dkwX6_writeRecord_1 ++ dktX6_writeRecord_2
def dkwX6_writeRecord_0 : List UInt8 := [42, 3, 181, 0, 1, 42, 3, 181, 1, 52, 3, 60, 27, 42, 180, 0, 13, 16, 10, 46, 162, 0, 42, 42]
abbrev dktX6_writeRecord_0 : List UInt8 := dkwX6_writeRecord_0 ++ dktX6_writeRecord_1
theorem dksX6_writeRecord_0 : cX6_writeRecord.data.toList.drop 0 = dktX6_writeRecord_0 := by decide +kernel
theorem dksX6_writeRecord_1 : cX6_writeRecord.data.toList.drop 24 = dktX6_writeRecord_1 := dk_seg dksX6_writeRecord_0 24 rfl rfl
theorem dksX6_writeRecord_2 : cX6_writeRecord.data.toList.drop 47 = dktX6_writeRecord_2 := dk_seg dksX6_writeRecord_1 23 rfl rfl
theorem dX6_writeRecord_0 : decode cX6_writeRecord 0 = .ok (.aload_n 0, 1) := dk_42 (dk_at dksX6_writeRecord_0 0 rfl rfl)
theorem dX6_writeRecord_1 : decode cX6_writeRecord 1 = .ok (.iconst 0, 1) := dk_3 (dk_at dksX6_writeRecord_0 1 rfl rfl)
theorem dX6_writeRecord_2 : decode cX6_writeRecord 2 = .ok (.putfield 1, 3) := dk_181 0 1 (dk_at dksX6_writeRecord_0 2 rfl rfl)
theorem dX6_writeRecord_5 : decode cX6_writeRecord 5 = .ok (.aload_n 0, 1) := dk_42 (dk_at dksX6_writeRecord_0 5 rfl rfl)
theorem dX6_writeRecord_6 : decode cX6_writeRecord 6 = .ok (.iconst 0, 1) := dk_3 (dk_at dksX6_writeRecord_0 6 rfl rfl)
theorem dX6_writeRecord_7 : decode cX6_writeRecord 7 = .ok (.putfield 308, 3) := dk_181 1 52 (dk_at dksX6_writeRecord_0 7 rfl rfl)
theorem dX6_writeRecord_10 : decode cX6_writeRecord 10 = .ok (.iconst 0, 1) := dk_3 (dk_at dksX6_writeRecord_0 10 rfl rfl)
theorem dX6_writeRecord_11 : decode cX6_writeRecord 11 = .ok (.istore_n 1, 1) := dk_60 (dk_at dksX6_writeRecord_0 11 rfl rfl)
theorem dX6_writeRecord_12 : decode cX6_writeRecord 12 = .ok (.iload_n 1, 1) := dk_27 (dk_at dksX6_writeRecord_0 12 rfl rfl)
theorem dX6_writeRecord_13 : decode cX6_writeRecord 13 = .ok (.aload_n 0, 1) := dk_42 (dk_at dksX6_writeRecord_0 13 rfl rfl)
theorem dX6_writeRecord_14 : decode cX6_writeRecord 14 = .ok (.getfield 13, 3) := dk_180 0 13 (dk_at dksX6_writeRecord_0 14 rfl rfl)
theorem dX6_writeRecord_17 : decode cX6_writeRecord 17 = .ok (.bipush 10, 2) := dk_16 10 (dk_at dksX6_writeRecord_0 17 rfl rfl)
theorem dX6_writeRecord_19 : decode cX6_writeRecord 19 = .ok (.iaload, 1) := dk_46 (dk_at dksX6_writeRecord_0 19 rfl rfl)
theorem dX6_writeRecord_20 : decode cX6_writeRecord 20 = .ok (.if_icmp .ge 42, 3) := dk_162 0 42 (dk_at dksX6_writeRecord_0 20 rfl rfl)
theorem dX6_writeRecord_23 : decode cX6_writeRecord 23 = .ok (.aload_n 0, 1) := dk_42 (dk_at dksX6_writeRecord_0 23 rfl rfl)
theorem dX6_writeRecord_24 : decode cX6_writeRecord 24 = .ok (.aload_n 0, 1) := dk_42 (dk_at dksX6_writeRecord_1 0 rfl rfl)
theorem dX6_writeRecord_25 : decode cX6_writeRecord 25 = .ok (.getfield 13, 3) := dk_180 0 13 (dk_at dksX6_writeRecord_1 1 rfl rfl)
theorem dX6_writeRecord_28 : decode cX6_writeRecord 28 = .ok (.bipush 11, 2) := dk_16 11 (dk_at dksX6_writeRecord_1 4 rfl rfl)
theorem dX6_writeRecord_30 : decode cX6_writeRecord 30 = .ok (.iload_n 1, 1) := dk_27 (dk_at dksX6_writeRecord_1 6 rfl rfl)
theorem dX6_writeRecord_31 : decode cX6_writeRecord 31 = .ok (.iadd, 1) := dk_96 (dk_at dksX6_writeRecord_1 7 rfl rfl)
theorem dX6_writeRecord_32 : decode cX6_writeRecord 32 = .ok (.iaload, 1) := dk_46 (dk_at dksX6_writeRecord_1 8 rfl rfl)
theorem dX6_writeRecord_33 : decode cX6_writeRecord 33 = .ok (.ifCond .ge 8, 3) := dk_156 0 8 (dk_at dksX6_writeRecord_1 9 rfl rfl)
theorem dX6_writeRecord_36 : decode cX6_writeRecord 36 = .ok (.bipush 45, 2) := dk_16 45 (dk_at dksX6_writeRecord_1 12 rfl rfl)
theorem dX6_writeRecord_38 : decode cX6_writeRecord 38 = .ok (.goto 15, 3) := dk_167 0 15 (dk_at dksX6_writeRecord_1 14 rfl rfl)
theorem dX6_writeRecord_41 : decode cX6_writeRecord 41 = .ok (.bipush 48, 2) := dk_16 48 (dk_at dksX6_writeRecord_1 17 rfl rfl)
theorem dX6_writeRecord_43 : decode cX6_writeRecord 43 = .ok (.aload_n 0, 1) := dk_42 (dk_at dksX6_writeRecord_1 19 rfl rfl)
theorem dX6_writeRecord_44 : decode cX6_writeRecord 44 = .ok (.getfield 13, 3) := dk_180 0 13 (dk_at dksX6_writeRecord_1 20 rfl rfl)
theorem dX6_writeRecord_47 : decode cX6_writeRecord 47 = .ok (.bipush 11, 2) := dk_16 11 (dk_at dksX6_writeRecord_2 0 rfl rfl)
theorem dX6_writeRecord_49 : decode cX6_writeRecord 49 = .ok (.iload_n 1, 1) := dk_27 (dk_at dksX6_writeRecord_2 2 rfl rfl)
theorem dX6_writeRecord_50 : decode cX6_writeRecord 50 = .ok (.iadd, 1) := dk_96 (dk_at dksX6_writeRecord_2 3 rfl rfl)
theorem dX6_writeRecord_51 : decode cX6_writeRecord 51 = .ok (.iaload, 1) := dk_46 (dk_at dksX6_writeRecord_2 4 rfl rfl)
theorem dX6_writeRecord_52 : decode cX6_writeRecord 52 = .ok (.iadd, 1) := dk_96 (dk_at dksX6_writeRecord_2 5 rfl rfl)
theorem dX6_writeRecord_53 : decode cX6_writeRecord 53 = .ok (.invokevirtual 311, 3) := dk_182 1 55 (dk_at dksX6_writeRecord_2 6 rfl rfl)
theorem dX6_writeRecord_56 : decode cX6_writeRecord 56 = .ok (.iinc 1 1, 3) := dk_132 1 1 (dk_at dksX6_writeRecord_2 9 rfl rfl)
theorem dX6_writeRecord_59 : decode cX6_writeRecord 59 = .ok (.goto (-47), 3) := dk_167 255 209 (dk_at dksX6_writeRecord_2 12 rfl rfl)
theorem dX6_writeRecord_62 : decode cX6_writeRecord 62 = .ok (.aload_n 0, 1) := dk_42 (dk_at dksX6_writeRecord_2 15 rfl rfl)
theorem dX6_writeRecord_63 : decode cX6_writeRecord 63 = .ok (.getfield 308, 3) := dk_180 1 52 (dk_at dksX6_writeRecord_2 16 rfl rfl)
theorem dX6_writeRecord_66 : decode cX6_writeRecord 66 = .ok (.ireturn, 1) := dk_172 (dk_at dksX6_writeRecord_2 19 rfl rfl)
abbrev cX6_lineCharacter : ByteArray := prog_14_method_122_code
def yX6_lineCharacter : MethodName := ⟨RX6, "lineCharacter", "(I)C"⟩
def dkwX6_lineCharacter_1 : List UInt8 := [52, 172, 42, 4, 182, 0, 75, 146, 172]
abbrev dktX6_lineCharacter_1 : List UInt8 := dkwX6_lineCharacter_1 ++ []
def dkwX6_lineCharacter_0 : List UInt8 := [42, 3, 181, 0, 1, 27, 3, 42, 180, 1, 52, 4, 100, 184, 0, 79, 153, 0, 10, 42, 180, 0, 38, 27]
abbrev dktX6_lineCharacter_0 : List UInt8 := dkwX6_lineCharacter_0 ++ dktX6_lineCharacter_1
theorem dksX6_lineCharacter_0 : cX6_lineCharacter.data.toList.drop 0 = dktX6_lineCharacter_0 := by decide +kernel
theorem dksX6_lineCharacter_1 : cX6_lineCharacter.data.toList.drop 24 = dktX6_lineCharacter_1 := dk_seg dksX6_lineCharacter_0 24 rfl rfl
theorem dX6_lineCharacter_0 : decode cX6_lineCharacter 0 = .ok (.aload_n 0, 1) := dk_42 (dk_at dksX6_lineCharacter_0 0 rfl rfl)
theorem dX6_lineCharacter_1 : decode cX6_lineCharacter 1 = .ok (.iconst 0, 1) := dk_3 (dk_at dksX6_lineCharacter_0 1 rfl rfl)
theorem dX6_lineCharacter_2 : decode cX6_lineCharacter 2 = .ok (.putfield 1, 3) := dk_181 0 1 (dk_at dksX6_lineCharacter_0 2 rfl rfl)
theorem dX6_lineCharacter_5 : decode cX6_lineCharacter 5 = .ok (.iload_n 1, 1) := dk_27 (dk_at dksX6_lineCharacter_0 5 rfl rfl)
theorem dX6_lineCharacter_6 : decode cX6_lineCharacter 6 = .ok (.iconst 0, 1) := dk_3 (dk_at dksX6_lineCharacter_0 6 rfl rfl)
theorem dX6_lineCharacter_7 : decode cX6_lineCharacter 7 = .ok (.aload_n 0, 1) := dk_42 (dk_at dksX6_lineCharacter_0 7 rfl rfl)
theorem dX6_lineCharacter_8 : decode cX6_lineCharacter 8 = .ok (.getfield 308, 3) := dk_180 1 52 (dk_at dksX6_lineCharacter_0 8 rfl rfl)
theorem dX6_lineCharacter_11 : decode cX6_lineCharacter 11 = .ok (.iconst 1, 1) := dk_4 (dk_at dksX6_lineCharacter_0 11 rfl rfl)
theorem dX6_lineCharacter_12 : decode cX6_lineCharacter 12 = .ok (.isub, 1) := dk_100 (dk_at dksX6_lineCharacter_0 12 rfl rfl)
theorem dX6_lineCharacter_13 : decode cX6_lineCharacter 13 = .ok (.invokestatic 79, 3) := dk_184 0 79 (dk_at dksX6_lineCharacter_0 13 rfl rfl)
theorem dX6_lineCharacter_16 : decode cX6_lineCharacter 16 = .ok (.ifCond .eq 10, 3) := dk_153 0 10 (dk_at dksX6_lineCharacter_0 16 rfl rfl)
theorem dX6_lineCharacter_19 : decode cX6_lineCharacter 19 = .ok (.aload_n 0, 1) := dk_42 (dk_at dksX6_lineCharacter_0 19 rfl rfl)
theorem dX6_lineCharacter_20 : decode cX6_lineCharacter 20 = .ok (.getfield 38, 3) := dk_180 0 38 (dk_at dksX6_lineCharacter_0 20 rfl rfl)
theorem dX6_lineCharacter_23 : decode cX6_lineCharacter 23 = .ok (.iload_n 1, 1) := dk_27 (dk_at dksX6_lineCharacter_0 23 rfl rfl)
theorem dX6_lineCharacter_24 : decode cX6_lineCharacter 24 = .ok (.caload, 1) := dk_52 (dk_at dksX6_lineCharacter_1 0 rfl rfl)
theorem dX6_lineCharacter_25 : decode cX6_lineCharacter 25 = .ok (.ireturn, 1) := dk_172 (dk_at dksX6_lineCharacter_1 1 rfl rfl)
theorem dX6_lineCharacter_26 : decode cX6_lineCharacter 26 = .ok (.aload_n 0, 1) := dk_42 (dk_at dksX6_lineCharacter_1 2 rfl rfl)
theorem dX6_lineCharacter_27 : decode cX6_lineCharacter 27 = .ok (.iconst 1, 1) := dk_4 (dk_at dksX6_lineCharacter_1 3 rfl rfl)
theorem dX6_lineCharacter_28 : decode cX6_lineCharacter 28 = .ok (.invokevirtual 75, 3) := dk_182 0 75 (dk_at dksX6_lineCharacter_1 4 rfl rfl)
theorem dX6_lineCharacter_31 : decode cX6_lineCharacter 31 = .ok (.i2c, 1) := dk_146 (dk_at dksX6_lineCharacter_1 7 rfl rfl)
theorem dX6_lineCharacter_32 : decode cX6_lineCharacter 32 = .ok (.ireturn, 1) := dk_172 (dk_at dksX6_lineCharacter_1 8 rfl rfl)
abbrev cX6_feed : ByteArray := prog_14_method_123_code
def yX6_feed : MethodName := ⟨RX6, "feed", "(C)I"⟩
def dkwX6_feed_1 : List UInt8 := [42, 180, 1, 64, 27, 85, 42, 89, 180, 1, 64, 4, 96, 181, 1, 64, 42, 180, 1, 64, 172]
abbrev dktX6_feed_1 : List UInt8 := dkwX6_feed_1 ++ []
def dkwX6_feed_0 : List UInt8 := [42, 3, 181, 0, 1, 42, 180, 1, 64, 16, 60, 160, 0, 9, 42, 4, 182, 0, 75, 172, 42, 180, 0, 42]
abbrev dktX6_feed_0 : List UInt8 := dkwX6_feed_0 ++ dktX6_feed_1
theorem dksX6_feed_0 : cX6_feed.data.toList.drop 0 = dktX6_feed_0 := by decide +kernel
theorem dksX6_feed_1 : cX6_feed.data.toList.drop 24 = dktX6_feed_1 := dk_seg dksX6_feed_0 24 rfl rfl
theorem dX6_feed_0 : decode cX6_feed 0 = .ok (.aload_n 0, 1) := dk_42 (dk_at dksX6_feed_0 0 rfl rfl)
theorem dX6_feed_1 : decode cX6_feed 1 = .ok (.iconst 0, 1) := dk_3 (dk_at dksX6_feed_0 1 rfl rfl)
theorem dX6_feed_2 : decode cX6_feed 2 = .ok (.putfield 1, 3) := dk_181 0 1 (dk_at dksX6_feed_0 2 rfl rfl)
theorem dX6_feed_5 : decode cX6_feed 5 = .ok (.aload_n 0, 1) := dk_42 (dk_at dksX6_feed_0 5 rfl rfl)
theorem dX6_feed_6 : decode cX6_feed 6 = .ok (.getfield 320, 3) := dk_180 1 64 (dk_at dksX6_feed_0 6 rfl rfl)
theorem dX6_feed_9 : decode cX6_feed 9 = .ok (.bipush 60, 2) := dk_16 60 (dk_at dksX6_feed_0 9 rfl rfl)
theorem dX6_feed_11 : decode cX6_feed 11 = .ok (.if_icmp .ne 9, 3) := dk_160 0 9 (dk_at dksX6_feed_0 11 rfl rfl)
theorem dX6_feed_14 : decode cX6_feed 14 = .ok (.aload_n 0, 1) := dk_42 (dk_at dksX6_feed_0 14 rfl rfl)
theorem dX6_feed_15 : decode cX6_feed 15 = .ok (.iconst 1, 1) := dk_4 (dk_at dksX6_feed_0 15 rfl rfl)
theorem dX6_feed_16 : decode cX6_feed 16 = .ok (.invokevirtual 75, 3) := dk_182 0 75 (dk_at dksX6_feed_0 16 rfl rfl)
theorem dX6_feed_19 : decode cX6_feed 19 = .ok (.ireturn, 1) := dk_172 (dk_at dksX6_feed_0 19 rfl rfl)
theorem dX6_feed_20 : decode cX6_feed 20 = .ok (.aload_n 0, 1) := dk_42 (dk_at dksX6_feed_0 20 rfl rfl)
theorem dX6_feed_21 : decode cX6_feed 21 = .ok (.getfield 42, 3) := dk_180 0 42 (dk_at dksX6_feed_0 21 rfl rfl)
theorem dX6_feed_24 : decode cX6_feed 24 = .ok (.aload_n 0, 1) := dk_42 (dk_at dksX6_feed_1 0 rfl rfl)
theorem dX6_feed_25 : decode cX6_feed 25 = .ok (.getfield 320, 3) := dk_180 1 64 (dk_at dksX6_feed_1 1 rfl rfl)
theorem dX6_feed_28 : decode cX6_feed 28 = .ok (.iload_n 1, 1) := dk_27 (dk_at dksX6_feed_1 4 rfl rfl)
theorem dX6_feed_29 : decode cX6_feed 29 = .ok (.castore, 1) := dk_85 (dk_at dksX6_feed_1 5 rfl rfl)
theorem dX6_feed_30 : decode cX6_feed 30 = .ok (.aload_n 0, 1) := dk_42 (dk_at dksX6_feed_1 6 rfl rfl)
theorem dX6_feed_31 : decode cX6_feed 31 = .ok (.dup, 1) := dk_89 (dk_at dksX6_feed_1 7 rfl rfl)
theorem dX6_feed_32 : decode cX6_feed 32 = .ok (.getfield 320, 3) := dk_180 1 64 (dk_at dksX6_feed_1 8 rfl rfl)
theorem dX6_feed_35 : decode cX6_feed 35 = .ok (.iconst 1, 1) := dk_4 (dk_at dksX6_feed_1 11 rfl rfl)
theorem dX6_feed_36 : decode cX6_feed 36 = .ok (.iadd, 1) := dk_96 (dk_at dksX6_feed_1 12 rfl rfl)
theorem dX6_feed_37 : decode cX6_feed 37 = .ok (.putfield 320, 3) := dk_181 1 64 (dk_at dksX6_feed_1 13 rfl rfl)
theorem dX6_feed_40 : decode cX6_feed 40 = .ok (.aload_n 0, 1) := dk_42 (dk_at dksX6_feed_1 16 rfl rfl)
theorem dX6_feed_41 : decode cX6_feed 41 = .ok (.getfield 320, 3) := dk_180 1 64 (dk_at dksX6_feed_1 17 rfl rfl)
theorem dX6_feed_44 : decode cX6_feed 44 = .ok (.ireturn, 1) := dk_172 (dk_at dksX6_feed_1 20 rfl rfl)
abbrev cX6_execute : ByteArray := prog_14_method_139_code
def yX6_execute : MethodName := ⟨RX6, "execute", "()I"⟩
def dkwX6_execute_4 : List UInt8 := [167, 0, 5, 16, 7, 181, 0, 72, 42, 5, 182, 0, 75, 172]
abbrev dktX6_execute_4 : List UInt8 := dkwX6_execute_4 ++ []
def dkwX6_execute_3 : List UInt8 := [180, 1, 107, 181, 0, 69, 42, 42, 180, 1, 113, 16, 100, 164, 0, 13, 42, 180, 1, 113, 16, 100, 108]
abbrev dktX6_execute_3 : List UInt8 := dkwX6_execute_3 ++ dktX6_execute_4
def dkwX6_execute_2 : List UInt8 := [153, 0, 12, 42, 182, 0, 60, 42, 180, 1, 107, 172, 42, 182, 1, 125, 42, 16, 6, 181, 0, 66, 42, 42]
abbrev dktX6_execute_2 : List UInt8 := dkwX6_execute_2 ++ dktX6_execute_3
def dkwX6_execute_1 : List UInt8 := [181, 1, 64, 42, 4, 182, 0, 75, 172, 42, 182, 0, 57, 42, 182, 1, 122, 60, 42, 3, 181, 1, 64, 27]
abbrev dktX6_execute_1 : List UInt8 := dkwX6_execute_1 ++ dktX6_execute_2
def dkwX6_execute_0 : List UInt8 := [42, 3, 181, 0, 1, 42, 182, 1, 119, 154, 0, 22, 42, 42, 180, 1, 67, 181, 0, 45, 42, 3]
abbrev dktX6_execute_0 : List UInt8 := dkwX6_execute_0 ++ dktX6_execute_1
theorem dksX6_execute_0 : cX6_execute.data.toList.drop 0 = dktX6_execute_0 := by decide +kernel
theorem dksX6_execute_1 : cX6_execute.data.toList.drop 22 = dktX6_execute_1 := dk_seg dksX6_execute_0 22 rfl rfl
theorem dksX6_execute_2 : cX6_execute.data.toList.drop 46 = dktX6_execute_2 := dk_seg dksX6_execute_1 24 rfl rfl
theorem dksX6_execute_3 : cX6_execute.data.toList.drop 70 = dktX6_execute_3 := dk_seg dksX6_execute_2 24 rfl rfl
theorem dksX6_execute_4 : cX6_execute.data.toList.drop 93 = dktX6_execute_4 := dk_seg dksX6_execute_3 23 rfl rfl
theorem dX6_execute_0 : decode cX6_execute 0 = .ok (.aload_n 0, 1) := dk_42 (dk_at dksX6_execute_0 0 rfl rfl)
theorem dX6_execute_1 : decode cX6_execute 1 = .ok (.iconst 0, 1) := dk_3 (dk_at dksX6_execute_0 1 rfl rfl)
theorem dX6_execute_2 : decode cX6_execute 2 = .ok (.putfield 1, 3) := dk_181 0 1 (dk_at dksX6_execute_0 2 rfl rfl)
theorem dX6_execute_5 : decode cX6_execute 5 = .ok (.aload_n 0, 1) := dk_42 (dk_at dksX6_execute_0 5 rfl rfl)
theorem dX6_execute_6 : decode cX6_execute 6 = .ok (.invokevirtual 375, 3) := dk_182 1 119 (dk_at dksX6_execute_0 6 rfl rfl)
theorem dX6_execute_9 : decode cX6_execute 9 = .ok (.ifCond .ne 22, 3) := dk_154 0 22 (dk_at dksX6_execute_0 9 rfl rfl)
theorem dX6_execute_12 : decode cX6_execute 12 = .ok (.aload_n 0, 1) := dk_42 (dk_at dksX6_execute_0 12 rfl rfl)
theorem dX6_execute_13 : decode cX6_execute 13 = .ok (.aload_n 0, 1) := dk_42 (dk_at dksX6_execute_0 13 rfl rfl)
theorem dX6_execute_14 : decode cX6_execute 14 = .ok (.getfield 323, 3) := dk_180 1 67 (dk_at dksX6_execute_0 14 rfl rfl)
theorem dX6_execute_17 : decode cX6_execute 17 = .ok (.putfield 45, 3) := dk_181 0 45 (dk_at dksX6_execute_0 17 rfl rfl)
theorem dX6_execute_20 : decode cX6_execute 20 = .ok (.aload_n 0, 1) := dk_42 (dk_at dksX6_execute_0 20 rfl rfl)
theorem dX6_execute_21 : decode cX6_execute 21 = .ok (.iconst 0, 1) := dk_3 (dk_at dksX6_execute_0 21 rfl rfl)
theorem dX6_execute_22 : decode cX6_execute 22 = .ok (.putfield 320, 3) := dk_181 1 64 (dk_at dksX6_execute_1 0 rfl rfl)
theorem dX6_execute_25 : decode cX6_execute 25 = .ok (.aload_n 0, 1) := dk_42 (dk_at dksX6_execute_1 3 rfl rfl)
theorem dX6_execute_26 : decode cX6_execute 26 = .ok (.iconst 1, 1) := dk_4 (dk_at dksX6_execute_1 4 rfl rfl)
theorem dX6_execute_27 : decode cX6_execute 27 = .ok (.invokevirtual 75, 3) := dk_182 0 75 (dk_at dksX6_execute_1 5 rfl rfl)
theorem dX6_execute_30 : decode cX6_execute 30 = .ok (.ireturn, 1) := dk_172 (dk_at dksX6_execute_1 8 rfl rfl)
theorem dX6_execute_31 : decode cX6_execute 31 = .ok (.aload_n 0, 1) := dk_42 (dk_at dksX6_execute_1 9 rfl rfl)
theorem dX6_execute_32 : decode cX6_execute 32 = .ok (.invokevirtual 57, 3) := dk_182 0 57 (dk_at dksX6_execute_1 10 rfl rfl)
theorem dX6_execute_35 : decode cX6_execute 35 = .ok (.aload_n 0, 1) := dk_42 (dk_at dksX6_execute_1 13 rfl rfl)
theorem dX6_execute_36 : decode cX6_execute 36 = .ok (.invokevirtual 378, 3) := dk_182 1 122 (dk_at dksX6_execute_1 14 rfl rfl)
theorem dX6_execute_39 : decode cX6_execute 39 = .ok (.istore_n 1, 1) := dk_60 (dk_at dksX6_execute_1 17 rfl rfl)
theorem dX6_execute_40 : decode cX6_execute 40 = .ok (.aload_n 0, 1) := dk_42 (dk_at dksX6_execute_1 18 rfl rfl)
theorem dX6_execute_41 : decode cX6_execute 41 = .ok (.iconst 0, 1) := dk_3 (dk_at dksX6_execute_1 19 rfl rfl)
theorem dX6_execute_42 : decode cX6_execute 42 = .ok (.putfield 320, 3) := dk_181 1 64 (dk_at dksX6_execute_1 20 rfl rfl)
theorem dX6_execute_45 : decode cX6_execute 45 = .ok (.iload_n 1, 1) := dk_27 (dk_at dksX6_execute_1 23 rfl rfl)
theorem dX6_execute_46 : decode cX6_execute 46 = .ok (.ifCond .eq 12, 3) := dk_153 0 12 (dk_at dksX6_execute_2 0 rfl rfl)
theorem dX6_execute_49 : decode cX6_execute 49 = .ok (.aload_n 0, 1) := dk_42 (dk_at dksX6_execute_2 3 rfl rfl)
theorem dX6_execute_50 : decode cX6_execute 50 = .ok (.invokevirtual 60, 3) := dk_182 0 60 (dk_at dksX6_execute_2 4 rfl rfl)
theorem dX6_execute_53 : decode cX6_execute 53 = .ok (.aload_n 0, 1) := dk_42 (dk_at dksX6_execute_2 7 rfl rfl)
theorem dX6_execute_54 : decode cX6_execute 54 = .ok (.getfield 363, 3) := dk_180 1 107 (dk_at dksX6_execute_2 8 rfl rfl)
theorem dX6_execute_57 : decode cX6_execute 57 = .ok (.ireturn, 1) := dk_172 (dk_at dksX6_execute_2 11 rfl rfl)
theorem dX6_execute_58 : decode cX6_execute 58 = .ok (.aload_n 0, 1) := dk_42 (dk_at dksX6_execute_2 12 rfl rfl)
theorem dX6_execute_59 : decode cX6_execute 59 = .ok (.invokevirtual 381, 3) := dk_182 1 125 (dk_at dksX6_execute_2 13 rfl rfl)
theorem dX6_execute_62 : decode cX6_execute 62 = .ok (.aload_n 0, 1) := dk_42 (dk_at dksX6_execute_2 16 rfl rfl)
theorem dX6_execute_63 : decode cX6_execute 63 = .ok (.bipush 6, 2) := dk_16 6 (dk_at dksX6_execute_2 17 rfl rfl)
theorem dX6_execute_65 : decode cX6_execute 65 = .ok (.putfield 66, 3) := dk_181 0 66 (dk_at dksX6_execute_2 19 rfl rfl)
theorem dX6_execute_68 : decode cX6_execute 68 = .ok (.aload_n 0, 1) := dk_42 (dk_at dksX6_execute_2 22 rfl rfl)
theorem dX6_execute_69 : decode cX6_execute 69 = .ok (.aload_n 0, 1) := dk_42 (dk_at dksX6_execute_2 23 rfl rfl)
theorem dX6_execute_70 : decode cX6_execute 70 = .ok (.getfield 363, 3) := dk_180 1 107 (dk_at dksX6_execute_3 0 rfl rfl)
theorem dX6_execute_73 : decode cX6_execute 73 = .ok (.putfield 69, 3) := dk_181 0 69 (dk_at dksX6_execute_3 3 rfl rfl)
theorem dX6_execute_76 : decode cX6_execute 76 = .ok (.aload_n 0, 1) := dk_42 (dk_at dksX6_execute_3 6 rfl rfl)
theorem dX6_execute_77 : decode cX6_execute 77 = .ok (.aload_n 0, 1) := dk_42 (dk_at dksX6_execute_3 7 rfl rfl)
theorem dX6_execute_78 : decode cX6_execute 78 = .ok (.getfield 369, 3) := dk_180 1 113 (dk_at dksX6_execute_3 8 rfl rfl)
theorem dX6_execute_81 : decode cX6_execute 81 = .ok (.bipush 100, 2) := dk_16 100 (dk_at dksX6_execute_3 11 rfl rfl)
theorem dX6_execute_83 : decode cX6_execute 83 = .ok (.if_icmp .le 13, 3) := dk_164 0 13 (dk_at dksX6_execute_3 13 rfl rfl)
theorem dX6_execute_86 : decode cX6_execute 86 = .ok (.aload_n 0, 1) := dk_42 (dk_at dksX6_execute_3 16 rfl rfl)
theorem dX6_execute_87 : decode cX6_execute 87 = .ok (.getfield 369, 3) := dk_180 1 113 (dk_at dksX6_execute_3 17 rfl rfl)
theorem dX6_execute_90 : decode cX6_execute 90 = .ok (.bipush 100, 2) := dk_16 100 (dk_at dksX6_execute_3 20 rfl rfl)
theorem dX6_execute_92 : decode cX6_execute 92 = .ok (.idiv, 1) := dk_108 (dk_at dksX6_execute_3 22 rfl rfl)
theorem dX6_execute_93 : decode cX6_execute 93 = .ok (.goto 5, 3) := dk_167 0 5 (dk_at dksX6_execute_4 0 rfl rfl)
theorem dX6_execute_96 : decode cX6_execute 96 = .ok (.bipush 7, 2) := dk_16 7 (dk_at dksX6_execute_4 3 rfl rfl)
theorem dX6_execute_98 : decode cX6_execute 98 = .ok (.putfield 72, 3) := dk_181 0 72 (dk_at dksX6_execute_4 5 rfl rfl)
theorem dX6_execute_101 : decode cX6_execute 101 = .ok (.aload_n 0, 1) := dk_42 (dk_at dksX6_execute_4 8 rfl rfl)
theorem dX6_execute_102 : decode cX6_execute 102 = .ok (.iconst 2, 1) := dk_5 (dk_at dksX6_execute_4 9 rfl rfl)
theorem dX6_execute_103 : decode cX6_execute 103 = .ok (.invokevirtual 75, 3) := dk_182 0 75 (dk_at dksX6_execute_4 10 rfl rfl)
theorem dX6_execute_106 : decode cX6_execute 106 = .ok (.ireturn, 1) := dk_172 (dk_at dksX6_execute_4 13 rfl rfl)
abbrev cX6_readsAll : ByteArray := prog_14_method_135_code
def yX6_readsAll : MethodName := ⟨RX6, "readsAll", "()Z"⟩
def dkwX6_readsAll_1 : List UInt8 := [182, 1, 76, 60, 167, 255, 236, 42, 180, 1, 67, 42, 180, 1, 64, 160, 0, 7, 4, 167, 0, 4, 3, 172]
abbrev dktX6_readsAll_1 : List UInt8 := dkwX6_readsAll_1 ++ []
def dkwX6_readsAll_0 : List UInt8 := [42, 3, 181, 1, 67, 4, 60, 27, 153, 0, 22, 42, 182, 1, 104, 154, 0, 5, 3, 172, 42, 16, 59]
abbrev dktX6_readsAll_0 : List UInt8 := dkwX6_readsAll_0 ++ dktX6_readsAll_1
theorem dksX6_readsAll_0 : cX6_readsAll.data.toList.drop 0 = dktX6_readsAll_0 := by decide +kernel
theorem dksX6_readsAll_1 : cX6_readsAll.data.toList.drop 23 = dktX6_readsAll_1 := dk_seg dksX6_readsAll_0 23 rfl rfl
theorem dX6_readsAll_0 : decode cX6_readsAll 0 = .ok (.aload_n 0, 1) := dk_42 (dk_at dksX6_readsAll_0 0 rfl rfl)
theorem dX6_readsAll_1 : decode cX6_readsAll 1 = .ok (.iconst 0, 1) := dk_3 (dk_at dksX6_readsAll_0 1 rfl rfl)
theorem dX6_readsAll_2 : decode cX6_readsAll 2 = .ok (.putfield 323, 3) := dk_181 1 67 (dk_at dksX6_readsAll_0 2 rfl rfl)
theorem dX6_readsAll_5 : decode cX6_readsAll 5 = .ok (.iconst 1, 1) := dk_4 (dk_at dksX6_readsAll_0 5 rfl rfl)
theorem dX6_readsAll_6 : decode cX6_readsAll 6 = .ok (.istore_n 1, 1) := dk_60 (dk_at dksX6_readsAll_0 6 rfl rfl)
theorem dX6_readsAll_7 : decode cX6_readsAll 7 = .ok (.iload_n 1, 1) := dk_27 (dk_at dksX6_readsAll_0 7 rfl rfl)
theorem dX6_readsAll_8 : decode cX6_readsAll 8 = .ok (.ifCond .eq 22, 3) := dk_153 0 22 (dk_at dksX6_readsAll_0 8 rfl rfl)
theorem dX6_readsAll_11 : decode cX6_readsAll 11 = .ok (.aload_n 0, 1) := dk_42 (dk_at dksX6_readsAll_0 11 rfl rfl)
theorem dX6_readsAll_12 : decode cX6_readsAll 12 = .ok (.invokevirtual 360, 3) := dk_182 1 104 (dk_at dksX6_readsAll_0 12 rfl rfl)
theorem dX6_readsAll_15 : decode cX6_readsAll 15 = .ok (.ifCond .ne 5, 3) := dk_154 0 5 (dk_at dksX6_readsAll_0 15 rfl rfl)
theorem dX6_readsAll_18 : decode cX6_readsAll 18 = .ok (.iconst 0, 1) := dk_3 (dk_at dksX6_readsAll_0 18 rfl rfl)
theorem dX6_readsAll_19 : decode cX6_readsAll 19 = .ok (.ireturn, 1) := dk_172 (dk_at dksX6_readsAll_0 19 rfl rfl)
theorem dX6_readsAll_20 : decode cX6_readsAll 20 = .ok (.aload_n 0, 1) := dk_42 (dk_at dksX6_readsAll_0 20 rfl rfl)
theorem dX6_readsAll_21 : decode cX6_readsAll 21 = .ok (.bipush 59, 2) := dk_16 59 (dk_at dksX6_readsAll_0 21 rfl rfl)
theorem dX6_readsAll_23 : decode cX6_readsAll 23 = .ok (.invokevirtual 332, 3) := dk_182 1 76 (dk_at dksX6_readsAll_1 0 rfl rfl)
theorem dX6_readsAll_26 : decode cX6_readsAll 26 = .ok (.istore_n 1, 1) := dk_60 (dk_at dksX6_readsAll_1 3 rfl rfl)
theorem dX6_readsAll_27 : decode cX6_readsAll 27 = .ok (.goto (-20), 3) := dk_167 255 236 (dk_at dksX6_readsAll_1 4 rfl rfl)
theorem dX6_readsAll_30 : decode cX6_readsAll 30 = .ok (.aload_n 0, 1) := dk_42 (dk_at dksX6_readsAll_1 7 rfl rfl)
theorem dX6_readsAll_31 : decode cX6_readsAll 31 = .ok (.getfield 323, 3) := dk_180 1 67 (dk_at dksX6_readsAll_1 8 rfl rfl)
theorem dX6_readsAll_34 : decode cX6_readsAll 34 = .ok (.aload_n 0, 1) := dk_42 (dk_at dksX6_readsAll_1 11 rfl rfl)
theorem dX6_readsAll_35 : decode cX6_readsAll 35 = .ok (.getfield 320, 3) := dk_180 1 64 (dk_at dksX6_readsAll_1 12 rfl rfl)
theorem dX6_readsAll_38 : decode cX6_readsAll 38 = .ok (.if_icmp .ne 7, 3) := dk_160 0 7 (dk_at dksX6_readsAll_1 15 rfl rfl)
theorem dX6_readsAll_41 : decode cX6_readsAll 41 = .ok (.iconst 1, 1) := dk_4 (dk_at dksX6_readsAll_1 18 rfl rfl)
theorem dX6_readsAll_42 : decode cX6_readsAll 42 = .ok (.goto 4, 3) := dk_167 0 4 (dk_at dksX6_readsAll_1 19 rfl rfl)
theorem dX6_readsAll_45 : decode cX6_readsAll 45 = .ok (.iconst 0, 1) := dk_3 (dk_at dksX6_readsAll_1 22 rfl rfl)
theorem dX6_readsAll_46 : decode cX6_readsAll 46 = .ok (.ireturn, 1) := dk_172 (dk_at dksX6_readsAll_1 23 rfl rfl)
abbrev cX6_readsCommand : ByteArray := prog_14_method_134_code
def yX6_readsCommand : MethodName := ⟨RX6, "readsCommand", "()Z"⟩
def dkwX6_readsCommand_11 : List UInt8 := [182, 1, 101, 153, 0, 7, 4, 167, 0, 4, 3, 172]
abbrev dktX6_readsCommand_11 : List UInt8 := dkwX6_readsCommand_11 ++ []
def dkwX6_readsCommand_10 : List UInt8 := [42, 182, 1, 82, 153, 0, 7, 4, 167, 0, 4, 3, 172, 42, 16, 115, 182, 1, 76, 153, 0, 14, 42]
abbrev dktX6_readsCommand_10 : List UInt8 := dkwX6_readsCommand_10 ++ dktX6_readsCommand_11
def dkwX6_readsCommand_9 : List UInt8 := [182, 1, 76, 153, 0, 32, 42, 16, 116, 182, 1, 76, 153, 0, 23, 42, 16, 121, 182, 1, 76, 153, 0, 14]
abbrev dktX6_readsCommand_9 : List UInt8 := dkwX6_readsCommand_9 ++ dktX6_readsCommand_10
def dkwX6_readsCommand_8 : List UInt8 := [153, 0, 59, 42, 16, 111, 182, 1, 76, 153, 0, 50, 42, 16, 114, 182, 1, 76, 153, 0, 41, 42, 16, 105]
abbrev dktX6_readsCommand_8 : List UInt8 := dkwX6_readsCommand_8 ++ dktX6_readsCommand_9
def dkwX6_readsCommand_7 : List UInt8 := [16, 112, 182, 1, 76, 153, 0, 79, 42, 16, 114, 182, 1, 76, 153, 0, 68, 42, 16, 105, 182, 1, 76]
abbrev dktX6_readsCommand_7 : List UInt8 := dkwX6_readsCommand_7 ++ dktX6_readsCommand_8
def dkwX6_readsCommand_6 : List UInt8 := [42, 16, 114, 182, 1, 76, 153, 0, 14, 42, 182, 1, 82, 153, 0, 7, 4, 167, 0, 4, 3, 172, 42]
abbrev dktX6_readsCommand_6 : List UInt8 := dkwX6_readsCommand_6 ++ dktX6_readsCommand_7
def dkwX6_readsCommand_5 : List UInt8 := [182, 1, 76, 153, 0, 41, 42, 16, 100, 182, 1, 76, 153, 0, 32, 42, 16, 101, 182, 1, 76, 153, 0, 23]
abbrev dktX6_readsCommand_5 : List UInt8 := dkwX6_readsCommand_5 ++ dktX6_readsCommand_6
def dkwX6_readsCommand_4 : List UInt8 := [182, 1, 76, 153, 0, 8, 42, 182, 1, 98, 172, 42, 16, 117, 182, 1, 76, 153, 0, 52, 42, 16, 110]
abbrev dktX6_readsCommand_4 : List UInt8 := dkwX6_readsCommand_4 ++ dktX6_readsCommand_5
def dkwX6_readsCommand_3 : List UInt8 := [182, 1, 88, 153, 0, 15, 42, 4, 182, 1, 73, 153, 0, 7, 4, 167, 0, 4, 3, 172, 42, 16, 116]
abbrev dktX6_readsCommand_3 : List UInt8 := dkwX6_readsCommand_3 ++ dktX6_readsCommand_4
def dkwX6_readsCommand_2 : List UInt8 := [182, 1, 76, 153, 0, 39, 42, 16, 32, 182, 1, 76, 153, 0, 30, 42, 3, 42, 182, 1, 70, 184, 0, 95]
abbrev dktX6_readsCommand_2 : List UInt8 := dkwX6_readsCommand_2 ++ dktX6_readsCommand_3
def dkwX6_readsCommand_1 : List UInt8 := [153, 0, 66, 42, 16, 116, 182, 1, 76, 153, 0, 57, 42, 16, 111, 182, 1, 76, 153, 0, 48, 42, 16, 114]
abbrev dktX6_readsCommand_1 : List UInt8 := dkwX6_readsCommand_1 ++ dktX6_readsCommand_2
def dkwX6_readsCommand_0 : List UInt8 := [42, 42, 182, 1, 70, 181, 1, 79, 42, 16, 97, 182, 1, 76, 153, 0, 77, 42, 16, 99, 182, 1, 76]
abbrev dktX6_readsCommand_0 : List UInt8 := dkwX6_readsCommand_0 ++ dktX6_readsCommand_1
theorem dksX6_readsCommand_0 : cX6_readsCommand.data.toList.drop 0 = dktX6_readsCommand_0 := by decide +kernel
theorem dksX6_readsCommand_1 : cX6_readsCommand.data.toList.drop 23 = dktX6_readsCommand_1 := dk_seg dksX6_readsCommand_0 23 rfl rfl
theorem dksX6_readsCommand_2 : cX6_readsCommand.data.toList.drop 47 = dktX6_readsCommand_2 := dk_seg dksX6_readsCommand_1 24 rfl rfl
theorem dksX6_readsCommand_3 : cX6_readsCommand.data.toList.drop 71 = dktX6_readsCommand_3 := dk_seg dksX6_readsCommand_2 24 rfl rfl
theorem dksX6_readsCommand_4 : cX6_readsCommand.data.toList.drop 94 = dktX6_readsCommand_4 := dk_seg dksX6_readsCommand_3 23 rfl rfl
theorem dksX6_readsCommand_5 : cX6_readsCommand.data.toList.drop 117 = dktX6_readsCommand_5 := dk_seg dksX6_readsCommand_4 23 rfl rfl
theorem dksX6_readsCommand_6 : cX6_readsCommand.data.toList.drop 141 = dktX6_readsCommand_6 := dk_seg dksX6_readsCommand_5 24 rfl rfl
theorem dksX6_readsCommand_7 : cX6_readsCommand.data.toList.drop 164 = dktX6_readsCommand_7 := dk_seg dksX6_readsCommand_6 23 rfl rfl
theorem dksX6_readsCommand_8 : cX6_readsCommand.data.toList.drop 187 = dktX6_readsCommand_8 := dk_seg dksX6_readsCommand_7 23 rfl rfl
theorem dksX6_readsCommand_9 : cX6_readsCommand.data.toList.drop 211 = dktX6_readsCommand_9 := dk_seg dksX6_readsCommand_8 24 rfl rfl
theorem dksX6_readsCommand_10 : cX6_readsCommand.data.toList.drop 235 = dktX6_readsCommand_10 := dk_seg dksX6_readsCommand_9 24 rfl rfl
theorem dksX6_readsCommand_11 : cX6_readsCommand.data.toList.drop 258 = dktX6_readsCommand_11 := dk_seg dksX6_readsCommand_10 23 rfl rfl
theorem dX6_readsCommand_0 : decode cX6_readsCommand 0 = .ok (.aload_n 0, 1) := dk_42 (dk_at dksX6_readsCommand_0 0 rfl rfl)
theorem dX6_readsCommand_1 : decode cX6_readsCommand 1 = .ok (.aload_n 0, 1) := dk_42 (dk_at dksX6_readsCommand_0 1 rfl rfl)
theorem dX6_readsCommand_2 : decode cX6_readsCommand 2 = .ok (.invokevirtual 326, 3) := dk_182 1 70 (dk_at dksX6_readsCommand_0 2 rfl rfl)
theorem dX6_readsCommand_5 : decode cX6_readsCommand 5 = .ok (.putfield 335, 3) := dk_181 1 79 (dk_at dksX6_readsCommand_0 5 rfl rfl)
theorem dX6_readsCommand_8 : decode cX6_readsCommand 8 = .ok (.aload_n 0, 1) := dk_42 (dk_at dksX6_readsCommand_0 8 rfl rfl)
theorem dX6_readsCommand_9 : decode cX6_readsCommand 9 = .ok (.bipush 97, 2) := dk_16 97 (dk_at dksX6_readsCommand_0 9 rfl rfl)
theorem dX6_readsCommand_11 : decode cX6_readsCommand 11 = .ok (.invokevirtual 332, 3) := dk_182 1 76 (dk_at dksX6_readsCommand_0 11 rfl rfl)
theorem dX6_readsCommand_14 : decode cX6_readsCommand 14 = .ok (.ifCond .eq 77, 3) := dk_153 0 77 (dk_at dksX6_readsCommand_0 14 rfl rfl)
theorem dX6_readsCommand_17 : decode cX6_readsCommand 17 = .ok (.aload_n 0, 1) := dk_42 (dk_at dksX6_readsCommand_0 17 rfl rfl)
theorem dX6_readsCommand_18 : decode cX6_readsCommand 18 = .ok (.bipush 99, 2) := dk_16 99 (dk_at dksX6_readsCommand_0 18 rfl rfl)
theorem dX6_readsCommand_20 : decode cX6_readsCommand 20 = .ok (.invokevirtual 332, 3) := dk_182 1 76 (dk_at dksX6_readsCommand_0 20 rfl rfl)
theorem dX6_readsCommand_23 : decode cX6_readsCommand 23 = .ok (.ifCond .eq 66, 3) := dk_153 0 66 (dk_at dksX6_readsCommand_1 0 rfl rfl)
theorem dX6_readsCommand_26 : decode cX6_readsCommand 26 = .ok (.aload_n 0, 1) := dk_42 (dk_at dksX6_readsCommand_1 3 rfl rfl)
theorem dX6_readsCommand_27 : decode cX6_readsCommand 27 = .ok (.bipush 116, 2) := dk_16 116 (dk_at dksX6_readsCommand_1 4 rfl rfl)
theorem dX6_readsCommand_29 : decode cX6_readsCommand 29 = .ok (.invokevirtual 332, 3) := dk_182 1 76 (dk_at dksX6_readsCommand_1 6 rfl rfl)
theorem dX6_readsCommand_32 : decode cX6_readsCommand 32 = .ok (.ifCond .eq 57, 3) := dk_153 0 57 (dk_at dksX6_readsCommand_1 9 rfl rfl)
theorem dX6_readsCommand_35 : decode cX6_readsCommand 35 = .ok (.aload_n 0, 1) := dk_42 (dk_at dksX6_readsCommand_1 12 rfl rfl)
theorem dX6_readsCommand_36 : decode cX6_readsCommand 36 = .ok (.bipush 111, 2) := dk_16 111 (dk_at dksX6_readsCommand_1 13 rfl rfl)
theorem dX6_readsCommand_38 : decode cX6_readsCommand 38 = .ok (.invokevirtual 332, 3) := dk_182 1 76 (dk_at dksX6_readsCommand_1 15 rfl rfl)
theorem dX6_readsCommand_41 : decode cX6_readsCommand 41 = .ok (.ifCond .eq 48, 3) := dk_153 0 48 (dk_at dksX6_readsCommand_1 18 rfl rfl)
theorem dX6_readsCommand_44 : decode cX6_readsCommand 44 = .ok (.aload_n 0, 1) := dk_42 (dk_at dksX6_readsCommand_1 21 rfl rfl)
theorem dX6_readsCommand_45 : decode cX6_readsCommand 45 = .ok (.bipush 114, 2) := dk_16 114 (dk_at dksX6_readsCommand_1 22 rfl rfl)
theorem dX6_readsCommand_47 : decode cX6_readsCommand 47 = .ok (.invokevirtual 332, 3) := dk_182 1 76 (dk_at dksX6_readsCommand_2 0 rfl rfl)
theorem dX6_readsCommand_50 : decode cX6_readsCommand 50 = .ok (.ifCond .eq 39, 3) := dk_153 0 39 (dk_at dksX6_readsCommand_2 3 rfl rfl)
theorem dX6_readsCommand_53 : decode cX6_readsCommand 53 = .ok (.aload_n 0, 1) := dk_42 (dk_at dksX6_readsCommand_2 6 rfl rfl)
theorem dX6_readsCommand_54 : decode cX6_readsCommand 54 = .ok (.bipush 32, 2) := dk_16 32 (dk_at dksX6_readsCommand_2 7 rfl rfl)
theorem dX6_readsCommand_56 : decode cX6_readsCommand 56 = .ok (.invokevirtual 332, 3) := dk_182 1 76 (dk_at dksX6_readsCommand_2 9 rfl rfl)
theorem dX6_readsCommand_59 : decode cX6_readsCommand 59 = .ok (.ifCond .eq 30, 3) := dk_153 0 30 (dk_at dksX6_readsCommand_2 12 rfl rfl)
theorem dX6_readsCommand_62 : decode cX6_readsCommand 62 = .ok (.aload_n 0, 1) := dk_42 (dk_at dksX6_readsCommand_2 15 rfl rfl)
theorem dX6_readsCommand_63 : decode cX6_readsCommand 63 = .ok (.iconst 0, 1) := dk_3 (dk_at dksX6_readsCommand_2 16 rfl rfl)
theorem dX6_readsCommand_64 : decode cX6_readsCommand 64 = .ok (.aload_n 0, 1) := dk_42 (dk_at dksX6_readsCommand_2 17 rfl rfl)
theorem dX6_readsCommand_65 : decode cX6_readsCommand 65 = .ok (.invokevirtual 326, 3) := dk_182 1 70 (dk_at dksX6_readsCommand_2 18 rfl rfl)
theorem dX6_readsCommand_68 : decode cX6_readsCommand 68 = .ok (.invokestatic 95, 3) := dk_184 0 95 (dk_at dksX6_readsCommand_2 21 rfl rfl)
theorem dX6_readsCommand_71 : decode cX6_readsCommand 71 = .ok (.invokevirtual 344, 3) := dk_182 1 88 (dk_at dksX6_readsCommand_3 0 rfl rfl)
theorem dX6_readsCommand_74 : decode cX6_readsCommand 74 = .ok (.ifCond .eq 15, 3) := dk_153 0 15 (dk_at dksX6_readsCommand_3 3 rfl rfl)
theorem dX6_readsCommand_77 : decode cX6_readsCommand 77 = .ok (.aload_n 0, 1) := dk_42 (dk_at dksX6_readsCommand_3 6 rfl rfl)
theorem dX6_readsCommand_78 : decode cX6_readsCommand 78 = .ok (.iconst 1, 1) := dk_4 (dk_at dksX6_readsCommand_3 7 rfl rfl)
theorem dX6_readsCommand_79 : decode cX6_readsCommand 79 = .ok (.invokevirtual 329, 3) := dk_182 1 73 (dk_at dksX6_readsCommand_3 8 rfl rfl)
theorem dX6_readsCommand_82 : decode cX6_readsCommand 82 = .ok (.ifCond .eq 7, 3) := dk_153 0 7 (dk_at dksX6_readsCommand_3 11 rfl rfl)
theorem dX6_readsCommand_85 : decode cX6_readsCommand 85 = .ok (.iconst 1, 1) := dk_4 (dk_at dksX6_readsCommand_3 14 rfl rfl)
theorem dX6_readsCommand_86 : decode cX6_readsCommand 86 = .ok (.goto 4, 3) := dk_167 0 4 (dk_at dksX6_readsCommand_3 15 rfl rfl)
theorem dX6_readsCommand_89 : decode cX6_readsCommand 89 = .ok (.iconst 0, 1) := dk_3 (dk_at dksX6_readsCommand_3 18 rfl rfl)
theorem dX6_readsCommand_90 : decode cX6_readsCommand 90 = .ok (.ireturn, 1) := dk_172 (dk_at dksX6_readsCommand_3 19 rfl rfl)
theorem dX6_readsCommand_91 : decode cX6_readsCommand 91 = .ok (.aload_n 0, 1) := dk_42 (dk_at dksX6_readsCommand_3 20 rfl rfl)
theorem dX6_readsCommand_92 : decode cX6_readsCommand 92 = .ok (.bipush 116, 2) := dk_16 116 (dk_at dksX6_readsCommand_3 21 rfl rfl)
theorem dX6_readsCommand_94 : decode cX6_readsCommand 94 = .ok (.invokevirtual 332, 3) := dk_182 1 76 (dk_at dksX6_readsCommand_4 0 rfl rfl)
theorem dX6_readsCommand_97 : decode cX6_readsCommand 97 = .ok (.ifCond .eq 8, 3) := dk_153 0 8 (dk_at dksX6_readsCommand_4 3 rfl rfl)
theorem dX6_readsCommand_100 : decode cX6_readsCommand 100 = .ok (.aload_n 0, 1) := dk_42 (dk_at dksX6_readsCommand_4 6 rfl rfl)
theorem dX6_readsCommand_101 : decode cX6_readsCommand 101 = .ok (.invokevirtual 354, 3) := dk_182 1 98 (dk_at dksX6_readsCommand_4 7 rfl rfl)
theorem dX6_readsCommand_104 : decode cX6_readsCommand 104 = .ok (.ireturn, 1) := dk_172 (dk_at dksX6_readsCommand_4 10 rfl rfl)
theorem dX6_readsCommand_105 : decode cX6_readsCommand 105 = .ok (.aload_n 0, 1) := dk_42 (dk_at dksX6_readsCommand_4 11 rfl rfl)
theorem dX6_readsCommand_106 : decode cX6_readsCommand 106 = .ok (.bipush 117, 2) := dk_16 117 (dk_at dksX6_readsCommand_4 12 rfl rfl)
theorem dX6_readsCommand_108 : decode cX6_readsCommand 108 = .ok (.invokevirtual 332, 3) := dk_182 1 76 (dk_at dksX6_readsCommand_4 14 rfl rfl)
theorem dX6_readsCommand_111 : decode cX6_readsCommand 111 = .ok (.ifCond .eq 52, 3) := dk_153 0 52 (dk_at dksX6_readsCommand_4 17 rfl rfl)
theorem dX6_readsCommand_114 : decode cX6_readsCommand 114 = .ok (.aload_n 0, 1) := dk_42 (dk_at dksX6_readsCommand_4 20 rfl rfl)
theorem dX6_readsCommand_115 : decode cX6_readsCommand 115 = .ok (.bipush 110, 2) := dk_16 110 (dk_at dksX6_readsCommand_4 21 rfl rfl)
theorem dX6_readsCommand_117 : decode cX6_readsCommand 117 = .ok (.invokevirtual 332, 3) := dk_182 1 76 (dk_at dksX6_readsCommand_5 0 rfl rfl)
theorem dX6_readsCommand_120 : decode cX6_readsCommand 120 = .ok (.ifCond .eq 41, 3) := dk_153 0 41 (dk_at dksX6_readsCommand_5 3 rfl rfl)
theorem dX6_readsCommand_123 : decode cX6_readsCommand 123 = .ok (.aload_n 0, 1) := dk_42 (dk_at dksX6_readsCommand_5 6 rfl rfl)
theorem dX6_readsCommand_124 : decode cX6_readsCommand 124 = .ok (.bipush 100, 2) := dk_16 100 (dk_at dksX6_readsCommand_5 7 rfl rfl)
theorem dX6_readsCommand_126 : decode cX6_readsCommand 126 = .ok (.invokevirtual 332, 3) := dk_182 1 76 (dk_at dksX6_readsCommand_5 9 rfl rfl)
theorem dX6_readsCommand_129 : decode cX6_readsCommand 129 = .ok (.ifCond .eq 32, 3) := dk_153 0 32 (dk_at dksX6_readsCommand_5 12 rfl rfl)
theorem dX6_readsCommand_132 : decode cX6_readsCommand 132 = .ok (.aload_n 0, 1) := dk_42 (dk_at dksX6_readsCommand_5 15 rfl rfl)
theorem dX6_readsCommand_133 : decode cX6_readsCommand 133 = .ok (.bipush 101, 2) := dk_16 101 (dk_at dksX6_readsCommand_5 16 rfl rfl)
theorem dX6_readsCommand_135 : decode cX6_readsCommand 135 = .ok (.invokevirtual 332, 3) := dk_182 1 76 (dk_at dksX6_readsCommand_5 18 rfl rfl)
theorem dX6_readsCommand_138 : decode cX6_readsCommand 138 = .ok (.ifCond .eq 23, 3) := dk_153 0 23 (dk_at dksX6_readsCommand_5 21 rfl rfl)
theorem dX6_readsCommand_141 : decode cX6_readsCommand 141 = .ok (.aload_n 0, 1) := dk_42 (dk_at dksX6_readsCommand_6 0 rfl rfl)
theorem dX6_readsCommand_142 : decode cX6_readsCommand 142 = .ok (.bipush 114, 2) := dk_16 114 (dk_at dksX6_readsCommand_6 1 rfl rfl)
theorem dX6_readsCommand_144 : decode cX6_readsCommand 144 = .ok (.invokevirtual 332, 3) := dk_182 1 76 (dk_at dksX6_readsCommand_6 3 rfl rfl)
theorem dX6_readsCommand_147 : decode cX6_readsCommand 147 = .ok (.ifCond .eq 14, 3) := dk_153 0 14 (dk_at dksX6_readsCommand_6 6 rfl rfl)
theorem dX6_readsCommand_150 : decode cX6_readsCommand 150 = .ok (.aload_n 0, 1) := dk_42 (dk_at dksX6_readsCommand_6 9 rfl rfl)
theorem dX6_readsCommand_151 : decode cX6_readsCommand 151 = .ok (.invokevirtual 338, 3) := dk_182 1 82 (dk_at dksX6_readsCommand_6 10 rfl rfl)
theorem dX6_readsCommand_154 : decode cX6_readsCommand 154 = .ok (.ifCond .eq 7, 3) := dk_153 0 7 (dk_at dksX6_readsCommand_6 13 rfl rfl)
theorem dX6_readsCommand_157 : decode cX6_readsCommand 157 = .ok (.iconst 1, 1) := dk_4 (dk_at dksX6_readsCommand_6 16 rfl rfl)
theorem dX6_readsCommand_158 : decode cX6_readsCommand 158 = .ok (.goto 4, 3) := dk_167 0 4 (dk_at dksX6_readsCommand_6 17 rfl rfl)
theorem dX6_readsCommand_161 : decode cX6_readsCommand 161 = .ok (.iconst 0, 1) := dk_3 (dk_at dksX6_readsCommand_6 20 rfl rfl)
theorem dX6_readsCommand_162 : decode cX6_readsCommand 162 = .ok (.ireturn, 1) := dk_172 (dk_at dksX6_readsCommand_6 21 rfl rfl)
theorem dX6_readsCommand_163 : decode cX6_readsCommand 163 = .ok (.aload_n 0, 1) := dk_42 (dk_at dksX6_readsCommand_6 22 rfl rfl)
theorem dX6_readsCommand_164 : decode cX6_readsCommand 164 = .ok (.bipush 112, 2) := dk_16 112 (dk_at dksX6_readsCommand_7 0 rfl rfl)
theorem dX6_readsCommand_166 : decode cX6_readsCommand 166 = .ok (.invokevirtual 332, 3) := dk_182 1 76 (dk_at dksX6_readsCommand_7 2 rfl rfl)
theorem dX6_readsCommand_169 : decode cX6_readsCommand 169 = .ok (.ifCond .eq 79, 3) := dk_153 0 79 (dk_at dksX6_readsCommand_7 5 rfl rfl)
theorem dX6_readsCommand_172 : decode cX6_readsCommand 172 = .ok (.aload_n 0, 1) := dk_42 (dk_at dksX6_readsCommand_7 8 rfl rfl)
theorem dX6_readsCommand_173 : decode cX6_readsCommand 173 = .ok (.bipush 114, 2) := dk_16 114 (dk_at dksX6_readsCommand_7 9 rfl rfl)
theorem dX6_readsCommand_175 : decode cX6_readsCommand 175 = .ok (.invokevirtual 332, 3) := dk_182 1 76 (dk_at dksX6_readsCommand_7 11 rfl rfl)
theorem dX6_readsCommand_178 : decode cX6_readsCommand 178 = .ok (.ifCond .eq 68, 3) := dk_153 0 68 (dk_at dksX6_readsCommand_7 14 rfl rfl)
theorem dX6_readsCommand_181 : decode cX6_readsCommand 181 = .ok (.aload_n 0, 1) := dk_42 (dk_at dksX6_readsCommand_7 17 rfl rfl)
theorem dX6_readsCommand_182 : decode cX6_readsCommand 182 = .ok (.bipush 105, 2) := dk_16 105 (dk_at dksX6_readsCommand_7 18 rfl rfl)
theorem dX6_readsCommand_184 : decode cX6_readsCommand 184 = .ok (.invokevirtual 332, 3) := dk_182 1 76 (dk_at dksX6_readsCommand_7 20 rfl rfl)
theorem dX6_readsCommand_187 : decode cX6_readsCommand 187 = .ok (.ifCond .eq 59, 3) := dk_153 0 59 (dk_at dksX6_readsCommand_8 0 rfl rfl)
theorem dX6_readsCommand_190 : decode cX6_readsCommand 190 = .ok (.aload_n 0, 1) := dk_42 (dk_at dksX6_readsCommand_8 3 rfl rfl)
theorem dX6_readsCommand_191 : decode cX6_readsCommand 191 = .ok (.bipush 111, 2) := dk_16 111 (dk_at dksX6_readsCommand_8 4 rfl rfl)
theorem dX6_readsCommand_193 : decode cX6_readsCommand 193 = .ok (.invokevirtual 332, 3) := dk_182 1 76 (dk_at dksX6_readsCommand_8 6 rfl rfl)
theorem dX6_readsCommand_196 : decode cX6_readsCommand 196 = .ok (.ifCond .eq 50, 3) := dk_153 0 50 (dk_at dksX6_readsCommand_8 9 rfl rfl)
theorem dX6_readsCommand_199 : decode cX6_readsCommand 199 = .ok (.aload_n 0, 1) := dk_42 (dk_at dksX6_readsCommand_8 12 rfl rfl)
theorem dX6_readsCommand_200 : decode cX6_readsCommand 200 = .ok (.bipush 114, 2) := dk_16 114 (dk_at dksX6_readsCommand_8 13 rfl rfl)
theorem dX6_readsCommand_202 : decode cX6_readsCommand 202 = .ok (.invokevirtual 332, 3) := dk_182 1 76 (dk_at dksX6_readsCommand_8 15 rfl rfl)
theorem dX6_readsCommand_205 : decode cX6_readsCommand 205 = .ok (.ifCond .eq 41, 3) := dk_153 0 41 (dk_at dksX6_readsCommand_8 18 rfl rfl)
theorem dX6_readsCommand_208 : decode cX6_readsCommand 208 = .ok (.aload_n 0, 1) := dk_42 (dk_at dksX6_readsCommand_8 21 rfl rfl)
theorem dX6_readsCommand_209 : decode cX6_readsCommand 209 = .ok (.bipush 105, 2) := dk_16 105 (dk_at dksX6_readsCommand_8 22 rfl rfl)
theorem dX6_readsCommand_211 : decode cX6_readsCommand 211 = .ok (.invokevirtual 332, 3) := dk_182 1 76 (dk_at dksX6_readsCommand_9 0 rfl rfl)
theorem dX6_readsCommand_214 : decode cX6_readsCommand 214 = .ok (.ifCond .eq 32, 3) := dk_153 0 32 (dk_at dksX6_readsCommand_9 3 rfl rfl)
theorem dX6_readsCommand_217 : decode cX6_readsCommand 217 = .ok (.aload_n 0, 1) := dk_42 (dk_at dksX6_readsCommand_9 6 rfl rfl)
theorem dX6_readsCommand_218 : decode cX6_readsCommand 218 = .ok (.bipush 116, 2) := dk_16 116 (dk_at dksX6_readsCommand_9 7 rfl rfl)
theorem dX6_readsCommand_220 : decode cX6_readsCommand 220 = .ok (.invokevirtual 332, 3) := dk_182 1 76 (dk_at dksX6_readsCommand_9 9 rfl rfl)
theorem dX6_readsCommand_223 : decode cX6_readsCommand 223 = .ok (.ifCond .eq 23, 3) := dk_153 0 23 (dk_at dksX6_readsCommand_9 12 rfl rfl)
theorem dX6_readsCommand_226 : decode cX6_readsCommand 226 = .ok (.aload_n 0, 1) := dk_42 (dk_at dksX6_readsCommand_9 15 rfl rfl)
theorem dX6_readsCommand_227 : decode cX6_readsCommand 227 = .ok (.bipush 121, 2) := dk_16 121 (dk_at dksX6_readsCommand_9 16 rfl rfl)
theorem dX6_readsCommand_229 : decode cX6_readsCommand 229 = .ok (.invokevirtual 332, 3) := dk_182 1 76 (dk_at dksX6_readsCommand_9 18 rfl rfl)
theorem dX6_readsCommand_232 : decode cX6_readsCommand 232 = .ok (.ifCond .eq 14, 3) := dk_153 0 14 (dk_at dksX6_readsCommand_9 21 rfl rfl)
theorem dX6_readsCommand_235 : decode cX6_readsCommand 235 = .ok (.aload_n 0, 1) := dk_42 (dk_at dksX6_readsCommand_10 0 rfl rfl)
theorem dX6_readsCommand_236 : decode cX6_readsCommand 236 = .ok (.invokevirtual 338, 3) := dk_182 1 82 (dk_at dksX6_readsCommand_10 1 rfl rfl)
theorem dX6_readsCommand_239 : decode cX6_readsCommand 239 = .ok (.ifCond .eq 7, 3) := dk_153 0 7 (dk_at dksX6_readsCommand_10 4 rfl rfl)
theorem dX6_readsCommand_242 : decode cX6_readsCommand 242 = .ok (.iconst 1, 1) := dk_4 (dk_at dksX6_readsCommand_10 7 rfl rfl)
theorem dX6_readsCommand_243 : decode cX6_readsCommand 243 = .ok (.goto 4, 3) := dk_167 0 4 (dk_at dksX6_readsCommand_10 8 rfl rfl)
theorem dX6_readsCommand_246 : decode cX6_readsCommand 246 = .ok (.iconst 0, 1) := dk_3 (dk_at dksX6_readsCommand_10 11 rfl rfl)
theorem dX6_readsCommand_247 : decode cX6_readsCommand 247 = .ok (.ireturn, 1) := dk_172 (dk_at dksX6_readsCommand_10 12 rfl rfl)
theorem dX6_readsCommand_248 : decode cX6_readsCommand 248 = .ok (.aload_n 0, 1) := dk_42 (dk_at dksX6_readsCommand_10 13 rfl rfl)
theorem dX6_readsCommand_249 : decode cX6_readsCommand 249 = .ok (.bipush 115, 2) := dk_16 115 (dk_at dksX6_readsCommand_10 14 rfl rfl)
theorem dX6_readsCommand_251 : decode cX6_readsCommand 251 = .ok (.invokevirtual 332, 3) := dk_182 1 76 (dk_at dksX6_readsCommand_10 16 rfl rfl)
theorem dX6_readsCommand_254 : decode cX6_readsCommand 254 = .ok (.ifCond .eq 14, 3) := dk_153 0 14 (dk_at dksX6_readsCommand_10 19 rfl rfl)
theorem dX6_readsCommand_257 : decode cX6_readsCommand 257 = .ok (.aload_n 0, 1) := dk_42 (dk_at dksX6_readsCommand_10 22 rfl rfl)
theorem dX6_readsCommand_258 : decode cX6_readsCommand 258 = .ok (.invokevirtual 357, 3) := dk_182 1 101 (dk_at dksX6_readsCommand_11 0 rfl rfl)
theorem dX6_readsCommand_261 : decode cX6_readsCommand 261 = .ok (.ifCond .eq 7, 3) := dk_153 0 7 (dk_at dksX6_readsCommand_11 3 rfl rfl)
theorem dX6_readsCommand_264 : decode cX6_readsCommand 264 = .ok (.iconst 1, 1) := dk_4 (dk_at dksX6_readsCommand_11 6 rfl rfl)
theorem dX6_readsCommand_265 : decode cX6_readsCommand 265 = .ok (.goto 4, 3) := dk_167 0 4 (dk_at dksX6_readsCommand_11 7 rfl rfl)
theorem dX6_readsCommand_268 : decode cX6_readsCommand 268 = .ok (.iconst 0, 1) := dk_3 (dk_at dksX6_readsCommand_11 10 rfl rfl)
theorem dX6_readsCommand_269 : decode cX6_readsCommand 269 = .ok (.ireturn, 1) := dk_172 (dk_at dksX6_readsCommand_11 11 rfl rfl)
abbrev cX6_nextChar : ByteArray := prog_14_method_124_code
def yX6_nextChar : MethodName := ⟨RX6, "nextChar", "()I"⟩
def dkwX6_nextChar_1 : List UInt8 := [172]
abbrev dktX6_nextChar_1 : List UInt8 := dkwX6_nextChar_1 ++ []
def dkwX6_nextChar_0 : List UInt8 := [42, 180, 1, 67, 42, 180, 1, 64, 162, 0, 15, 42, 180, 0, 42, 42, 180, 1, 67, 52, 167, 0, 4, 2]
abbrev dktX6_nextChar_0 : List UInt8 := dkwX6_nextChar_0 ++ dktX6_nextChar_1
theorem dksX6_nextChar_0 : cX6_nextChar.data.toList.drop 0 = dktX6_nextChar_0 := by decide +kernel
theorem dksX6_nextChar_1 : cX6_nextChar.data.toList.drop 24 = dktX6_nextChar_1 := dk_seg dksX6_nextChar_0 24 rfl rfl
theorem dX6_nextChar_0 : decode cX6_nextChar 0 = .ok (.aload_n 0, 1) := dk_42 (dk_at dksX6_nextChar_0 0 rfl rfl)
theorem dX6_nextChar_1 : decode cX6_nextChar 1 = .ok (.getfield 323, 3) := dk_180 1 67 (dk_at dksX6_nextChar_0 1 rfl rfl)
theorem dX6_nextChar_4 : decode cX6_nextChar 4 = .ok (.aload_n 0, 1) := dk_42 (dk_at dksX6_nextChar_0 4 rfl rfl)
theorem dX6_nextChar_5 : decode cX6_nextChar 5 = .ok (.getfield 320, 3) := dk_180 1 64 (dk_at dksX6_nextChar_0 5 rfl rfl)
theorem dX6_nextChar_8 : decode cX6_nextChar 8 = .ok (.if_icmp .ge 15, 3) := dk_162 0 15 (dk_at dksX6_nextChar_0 8 rfl rfl)
theorem dX6_nextChar_11 : decode cX6_nextChar 11 = .ok (.aload_n 0, 1) := dk_42 (dk_at dksX6_nextChar_0 11 rfl rfl)
theorem dX6_nextChar_12 : decode cX6_nextChar 12 = .ok (.getfield 42, 3) := dk_180 0 42 (dk_at dksX6_nextChar_0 12 rfl rfl)
theorem dX6_nextChar_15 : decode cX6_nextChar 15 = .ok (.aload_n 0, 1) := dk_42 (dk_at dksX6_nextChar_0 15 rfl rfl)
theorem dX6_nextChar_16 : decode cX6_nextChar 16 = .ok (.getfield 323, 3) := dk_180 1 67 (dk_at dksX6_nextChar_0 16 rfl rfl)
theorem dX6_nextChar_19 : decode cX6_nextChar 19 = .ok (.caload, 1) := dk_52 (dk_at dksX6_nextChar_0 19 rfl rfl)
theorem dX6_nextChar_20 : decode cX6_nextChar 20 = .ok (.goto 4, 3) := dk_167 0 4 (dk_at dksX6_nextChar_0 20 rfl rfl)
theorem dX6_nextChar_23 : decode cX6_nextChar 23 = .ok (.iconst (-1), 1) := dk_2 (dk_at dksX6_nextChar_0 23 rfl rfl)
theorem dX6_nextChar_24 : decode cX6_nextChar 24 = .ok (.ireturn, 1) := dk_172 (dk_at dksX6_nextChar_1 0 rfl rfl)
abbrev cX6_reads : ByteArray := prog_14_method_125_code
def yX6_reads : MethodName := ⟨RX6, "reads", "(I)Z"⟩
def dkwX6_reads_0 : List UInt8 := [42, 182, 1, 70, 27, 159, 0, 5, 3, 172, 42, 89, 180, 1, 67, 4, 96, 181, 1, 67, 4, 172]
abbrev dktX6_reads_0 : List UInt8 := dkwX6_reads_0 ++ []
theorem dksX6_reads_0 : cX6_reads.data.toList.drop 0 = dktX6_reads_0 := by decide +kernel
theorem dX6_reads_0 : decode cX6_reads 0 = .ok (.aload_n 0, 1) := dk_42 (dk_at dksX6_reads_0 0 rfl rfl)
theorem dX6_reads_1 : decode cX6_reads 1 = .ok (.invokevirtual 326, 3) := dk_182 1 70 (dk_at dksX6_reads_0 1 rfl rfl)
theorem dX6_reads_4 : decode cX6_reads 4 = .ok (.iload_n 1, 1) := dk_27 (dk_at dksX6_reads_0 4 rfl rfl)
theorem dX6_reads_5 : decode cX6_reads 5 = .ok (.if_icmp .eq 5, 3) := dk_159 0 5 (dk_at dksX6_reads_0 5 rfl rfl)
theorem dX6_reads_8 : decode cX6_reads 8 = .ok (.iconst 0, 1) := dk_3 (dk_at dksX6_reads_0 8 rfl rfl)
theorem dX6_reads_9 : decode cX6_reads 9 = .ok (.ireturn, 1) := dk_172 (dk_at dksX6_reads_0 9 rfl rfl)
theorem dX6_reads_10 : decode cX6_reads 10 = .ok (.aload_n 0, 1) := dk_42 (dk_at dksX6_reads_0 10 rfl rfl)
theorem dX6_reads_11 : decode cX6_reads 11 = .ok (.dup, 1) := dk_89 (dk_at dksX6_reads_0 11 rfl rfl)
theorem dX6_reads_12 : decode cX6_reads 12 = .ok (.getfield 323, 3) := dk_180 1 67 (dk_at dksX6_reads_0 12 rfl rfl)
theorem dX6_reads_15 : decode cX6_reads 15 = .ok (.iconst 1, 1) := dk_4 (dk_at dksX6_reads_0 15 rfl rfl)
theorem dX6_reads_16 : decode cX6_reads 16 = .ok (.iadd, 1) := dk_96 (dk_at dksX6_reads_0 16 rfl rfl)
theorem dX6_reads_17 : decode cX6_reads 17 = .ok (.putfield 323, 3) := dk_181 1 67 (dk_at dksX6_reads_0 17 rfl rfl)
theorem dX6_reads_20 : decode cX6_reads 20 = .ok (.iconst 1, 1) := dk_4 (dk_at dksX6_reads_0 20 rfl rfl)
theorem dX6_reads_21 : decode cX6_reads 21 = .ok (.ireturn, 1) := dk_172 (dk_at dksX6_reads_0 21 rfl rfl)
abbrev cX6_readsSign : ByteArray := prog_14_method_128_code
def yX6_readsSign : MethodName := ⟨RX6, "readsSign", "(IZ)Z"⟩
def dkwX6_readsSign_1 : List UInt8 := [181, 1, 67, 4, 172]
abbrev dktX6_readsSign_1 : List UInt8 := dkwX6_readsSign_1 ++ []
def dkwX6_readsSign_0 : List UInt8 := [28, 154, 0, 5, 3, 172, 42, 180, 0, 48, 27, 42, 182, 1, 70, 79, 42, 89, 180, 1, 67, 4, 96]
abbrev dktX6_readsSign_0 : List UInt8 := dkwX6_readsSign_0 ++ dktX6_readsSign_1
theorem dksX6_readsSign_0 : cX6_readsSign.data.toList.drop 0 = dktX6_readsSign_0 := by decide +kernel
theorem dksX6_readsSign_1 : cX6_readsSign.data.toList.drop 23 = dktX6_readsSign_1 := dk_seg dksX6_readsSign_0 23 rfl rfl
theorem dX6_readsSign_0 : decode cX6_readsSign 0 = .ok (.iload_n 2, 1) := dk_28 (dk_at dksX6_readsSign_0 0 rfl rfl)
theorem dX6_readsSign_1 : decode cX6_readsSign 1 = .ok (.ifCond .ne 5, 3) := dk_154 0 5 (dk_at dksX6_readsSign_0 1 rfl rfl)
theorem dX6_readsSign_4 : decode cX6_readsSign 4 = .ok (.iconst 0, 1) := dk_3 (dk_at dksX6_readsSign_0 4 rfl rfl)
theorem dX6_readsSign_5 : decode cX6_readsSign 5 = .ok (.ireturn, 1) := dk_172 (dk_at dksX6_readsSign_0 5 rfl rfl)
theorem dX6_readsSign_6 : decode cX6_readsSign 6 = .ok (.aload_n 0, 1) := dk_42 (dk_at dksX6_readsSign_0 6 rfl rfl)
theorem dX6_readsSign_7 : decode cX6_readsSign 7 = .ok (.getfield 48, 3) := dk_180 0 48 (dk_at dksX6_readsSign_0 7 rfl rfl)
theorem dX6_readsSign_10 : decode cX6_readsSign 10 = .ok (.iload_n 1, 1) := dk_27 (dk_at dksX6_readsSign_0 10 rfl rfl)
theorem dX6_readsSign_11 : decode cX6_readsSign 11 = .ok (.aload_n 0, 1) := dk_42 (dk_at dksX6_readsSign_0 11 rfl rfl)
theorem dX6_readsSign_12 : decode cX6_readsSign 12 = .ok (.invokevirtual 326, 3) := dk_182 1 70 (dk_at dksX6_readsSign_0 12 rfl rfl)
theorem dX6_readsSign_15 : decode cX6_readsSign 15 = .ok (.iastore, 1) := dk_79 (dk_at dksX6_readsSign_0 15 rfl rfl)
theorem dX6_readsSign_16 : decode cX6_readsSign 16 = .ok (.aload_n 0, 1) := dk_42 (dk_at dksX6_readsSign_0 16 rfl rfl)
theorem dX6_readsSign_17 : decode cX6_readsSign 17 = .ok (.dup, 1) := dk_89 (dk_at dksX6_readsSign_0 17 rfl rfl)
theorem dX6_readsSign_18 : decode cX6_readsSign 18 = .ok (.getfield 323, 3) := dk_180 1 67 (dk_at dksX6_readsSign_0 18 rfl rfl)
theorem dX6_readsSign_21 : decode cX6_readsSign 21 = .ok (.iconst 1, 1) := dk_4 (dk_at dksX6_readsSign_0 21 rfl rfl)
theorem dX6_readsSign_22 : decode cX6_readsSign 22 = .ok (.iadd, 1) := dk_96 (dk_at dksX6_readsSign_0 22 rfl rfl)
theorem dX6_readsSign_23 : decode cX6_readsSign 23 = .ok (.putfield 323, 3) := dk_181 1 67 (dk_at dksX6_readsSign_1 0 rfl rfl)
theorem dX6_readsSign_26 : decode cX6_readsSign 26 = .ok (.iconst 1, 1) := dk_4 (dk_at dksX6_readsSign_1 3 rfl rfl)
theorem dX6_readsSign_27 : decode cX6_readsSign 27 = .ok (.ireturn, 1) := dk_172 (dk_at dksX6_readsSign_1 4 rfl rfl)
abbrev cX6_readsDigit : ByteArray := prog_14_method_126_code
def yX6_readsDigit : MethodName := ⟨RX6, "readsDigit", "(I)Z"⟩
def dkwX6_readsDigit_1 : List UInt8 := [182, 1, 70, 16, 48, 100, 79, 42, 89, 180, 1, 67, 4, 96, 181, 1, 67, 4, 172]
abbrev dktX6_readsDigit_1 : List UInt8 := dkwX6_readsDigit_1 ++ []
def dkwX6_readsDigit_0 : List UInt8 := [42, 182, 1, 70, 16, 48, 16, 57, 184, 0, 79, 154, 0, 5, 3, 172, 42, 180, 0, 48, 27, 42]
abbrev dktX6_readsDigit_0 : List UInt8 := dkwX6_readsDigit_0 ++ dktX6_readsDigit_1
theorem dksX6_readsDigit_0 : cX6_readsDigit.data.toList.drop 0 = dktX6_readsDigit_0 := by decide +kernel
theorem dksX6_readsDigit_1 : cX6_readsDigit.data.toList.drop 22 = dktX6_readsDigit_1 := dk_seg dksX6_readsDigit_0 22 rfl rfl
theorem dX6_readsDigit_0 : decode cX6_readsDigit 0 = .ok (.aload_n 0, 1) := dk_42 (dk_at dksX6_readsDigit_0 0 rfl rfl)
theorem dX6_readsDigit_1 : decode cX6_readsDigit 1 = .ok (.invokevirtual 326, 3) := dk_182 1 70 (dk_at dksX6_readsDigit_0 1 rfl rfl)
theorem dX6_readsDigit_4 : decode cX6_readsDigit 4 = .ok (.bipush 48, 2) := dk_16 48 (dk_at dksX6_readsDigit_0 4 rfl rfl)
theorem dX6_readsDigit_6 : decode cX6_readsDigit 6 = .ok (.bipush 57, 2) := dk_16 57 (dk_at dksX6_readsDigit_0 6 rfl rfl)
theorem dX6_readsDigit_8 : decode cX6_readsDigit 8 = .ok (.invokestatic 79, 3) := dk_184 0 79 (dk_at dksX6_readsDigit_0 8 rfl rfl)
theorem dX6_readsDigit_11 : decode cX6_readsDigit 11 = .ok (.ifCond .ne 5, 3) := dk_154 0 5 (dk_at dksX6_readsDigit_0 11 rfl rfl)
theorem dX6_readsDigit_14 : decode cX6_readsDigit 14 = .ok (.iconst 0, 1) := dk_3 (dk_at dksX6_readsDigit_0 14 rfl rfl)
theorem dX6_readsDigit_15 : decode cX6_readsDigit 15 = .ok (.ireturn, 1) := dk_172 (dk_at dksX6_readsDigit_0 15 rfl rfl)
theorem dX6_readsDigit_16 : decode cX6_readsDigit 16 = .ok (.aload_n 0, 1) := dk_42 (dk_at dksX6_readsDigit_0 16 rfl rfl)
theorem dX6_readsDigit_17 : decode cX6_readsDigit 17 = .ok (.getfield 48, 3) := dk_180 0 48 (dk_at dksX6_readsDigit_0 17 rfl rfl)
theorem dX6_readsDigit_20 : decode cX6_readsDigit 20 = .ok (.iload_n 1, 1) := dk_27 (dk_at dksX6_readsDigit_0 20 rfl rfl)
theorem dX6_readsDigit_21 : decode cX6_readsDigit 21 = .ok (.aload_n 0, 1) := dk_42 (dk_at dksX6_readsDigit_0 21 rfl rfl)
theorem dX6_readsDigit_22 : decode cX6_readsDigit 22 = .ok (.invokevirtual 326, 3) := dk_182 1 70 (dk_at dksX6_readsDigit_1 0 rfl rfl)
theorem dX6_readsDigit_25 : decode cX6_readsDigit 25 = .ok (.bipush 48, 2) := dk_16 48 (dk_at dksX6_readsDigit_1 3 rfl rfl)
theorem dX6_readsDigit_27 : decode cX6_readsDigit 27 = .ok (.isub, 1) := dk_100 (dk_at dksX6_readsDigit_1 5 rfl rfl)
theorem dX6_readsDigit_28 : decode cX6_readsDigit 28 = .ok (.iastore, 1) := dk_79 (dk_at dksX6_readsDigit_1 6 rfl rfl)
theorem dX6_readsDigit_29 : decode cX6_readsDigit 29 = .ok (.aload_n 0, 1) := dk_42 (dk_at dksX6_readsDigit_1 7 rfl rfl)
theorem dX6_readsDigit_30 : decode cX6_readsDigit 30 = .ok (.dup, 1) := dk_89 (dk_at dksX6_readsDigit_1 8 rfl rfl)
theorem dX6_readsDigit_31 : decode cX6_readsDigit 31 = .ok (.getfield 323, 3) := dk_180 1 67 (dk_at dksX6_readsDigit_1 9 rfl rfl)
theorem dX6_readsDigit_34 : decode cX6_readsDigit 34 = .ok (.iconst 1, 1) := dk_4 (dk_at dksX6_readsDigit_1 12 rfl rfl)
theorem dX6_readsDigit_35 : decode cX6_readsDigit 35 = .ok (.iadd, 1) := dk_96 (dk_at dksX6_readsDigit_1 13 rfl rfl)
theorem dX6_readsDigit_36 : decode cX6_readsDigit 36 = .ok (.putfield 323, 3) := dk_181 1 67 (dk_at dksX6_readsDigit_1 14 rfl rfl)
theorem dX6_readsDigit_39 : decode cX6_readsDigit 39 = .ok (.iconst 1, 1) := dk_4 (dk_at dksX6_readsDigit_1 17 rfl rfl)
theorem dX6_readsDigit_40 : decode cX6_readsDigit 40 = .ok (.ireturn, 1) := dk_172 (dk_at dksX6_readsDigit_1 18 rfl rfl)
abbrev cX6_readsT : ByteArray := prog_14_method_130_code
def yX6_readsT : MethodName := ⟨RX6, "readsT", "()Z"⟩
def dkwX6_readsT_6 : List UInt8 := [16, 43, 182, 1, 76, 153, 0, 15, 42, 5, 182, 1, 85, 153, 0, 7, 4, 167, 0, 4, 3, 172]
abbrev dktX6_readsT_6 : List UInt8 := dkwX6_readsT_6 ++ []
def dkwX6_readsT_5 : List UInt8 := [182, 1, 73, 153, 0, 41, 42, 16, 32, 182, 1, 76, 153, 0, 32, 42, 4, 182, 1, 85, 153, 0, 24, 42]
abbrev dktX6_readsT_5 : List UInt8 := dkwX6_readsT_5 ++ dktX6_readsT_6
def dkwX6_readsT_4 : List UInt8 := [153, 0, 67, 42, 16, 114, 182, 1, 76, 153, 0, 58, 42, 16, 32, 182, 1, 76, 153, 0, 49, 42, 3]
abbrev dktX6_readsT_4 : List UInt8 := dkwX6_readsT_4 ++ dktX6_readsT_5
def dkwX6_readsT_3 : List UInt8 := [16, 105, 182, 1, 76, 153, 0, 85, 42, 16, 109, 182, 1, 76, 153, 0, 76, 42, 16, 101, 182, 1, 76]
abbrev dktX6_readsT_3 : List UInt8 := dkwX6_readsT_3 ++ dktX6_readsT_4
def dkwX6_readsT_2 : List UInt8 := [153, 0, 14, 42, 182, 1, 82, 153, 0, 7, 4, 167, 0, 4, 3, 172, 42, 16, 105, 181, 1, 79, 42]
abbrev dktX6_readsT_2 : List UInt8 := dkwX6_readsT_2 ++ dktX6_readsT_3
def dkwX6_readsT_1 : List UInt8 := [42, 16, 103, 182, 1, 76, 153, 0, 32, 42, 16, 101, 182, 1, 76, 153, 0, 23, 42, 16, 116, 182, 1, 76]
abbrev dktX6_readsT_1 : List UInt8 := dkwX6_readsT_1 ++ dktX6_readsT_2
def dkwX6_readsT_0 : List UInt8 := [42, 16, 116, 181, 1, 79, 42, 16, 97, 182, 1, 76, 153, 0, 52, 42, 16, 114, 182, 1, 76, 153, 0, 41]
abbrev dktX6_readsT_0 : List UInt8 := dkwX6_readsT_0 ++ dktX6_readsT_1
theorem dksX6_readsT_0 : cX6_readsT.data.toList.drop 0 = dktX6_readsT_0 := by decide +kernel
theorem dksX6_readsT_1 : cX6_readsT.data.toList.drop 24 = dktX6_readsT_1 := dk_seg dksX6_readsT_0 24 rfl rfl
theorem dksX6_readsT_2 : cX6_readsT.data.toList.drop 48 = dktX6_readsT_2 := dk_seg dksX6_readsT_1 24 rfl rfl
theorem dksX6_readsT_3 : cX6_readsT.data.toList.drop 71 = dktX6_readsT_3 := dk_seg dksX6_readsT_2 23 rfl rfl
theorem dksX6_readsT_4 : cX6_readsT.data.toList.drop 94 = dktX6_readsT_4 := dk_seg dksX6_readsT_3 23 rfl rfl
theorem dksX6_readsT_5 : cX6_readsT.data.toList.drop 117 = dktX6_readsT_5 := dk_seg dksX6_readsT_4 23 rfl rfl
theorem dksX6_readsT_6 : cX6_readsT.data.toList.drop 141 = dktX6_readsT_6 := dk_seg dksX6_readsT_5 24 rfl rfl
theorem dX6_readsT_0 : decode cX6_readsT 0 = .ok (.aload_n 0, 1) := dk_42 (dk_at dksX6_readsT_0 0 rfl rfl)
theorem dX6_readsT_1 : decode cX6_readsT 1 = .ok (.bipush 116, 2) := dk_16 116 (dk_at dksX6_readsT_0 1 rfl rfl)
theorem dX6_readsT_3 : decode cX6_readsT 3 = .ok (.putfield 335, 3) := dk_181 1 79 (dk_at dksX6_readsT_0 3 rfl rfl)
theorem dX6_readsT_6 : decode cX6_readsT 6 = .ok (.aload_n 0, 1) := dk_42 (dk_at dksX6_readsT_0 6 rfl rfl)
theorem dX6_readsT_7 : decode cX6_readsT 7 = .ok (.bipush 97, 2) := dk_16 97 (dk_at dksX6_readsT_0 7 rfl rfl)
theorem dX6_readsT_9 : decode cX6_readsT 9 = .ok (.invokevirtual 332, 3) := dk_182 1 76 (dk_at dksX6_readsT_0 9 rfl rfl)
theorem dX6_readsT_12 : decode cX6_readsT 12 = .ok (.ifCond .eq 52, 3) := dk_153 0 52 (dk_at dksX6_readsT_0 12 rfl rfl)
theorem dX6_readsT_15 : decode cX6_readsT 15 = .ok (.aload_n 0, 1) := dk_42 (dk_at dksX6_readsT_0 15 rfl rfl)
theorem dX6_readsT_16 : decode cX6_readsT 16 = .ok (.bipush 114, 2) := dk_16 114 (dk_at dksX6_readsT_0 16 rfl rfl)
theorem dX6_readsT_18 : decode cX6_readsT 18 = .ok (.invokevirtual 332, 3) := dk_182 1 76 (dk_at dksX6_readsT_0 18 rfl rfl)
theorem dX6_readsT_21 : decode cX6_readsT 21 = .ok (.ifCond .eq 41, 3) := dk_153 0 41 (dk_at dksX6_readsT_0 21 rfl rfl)
theorem dX6_readsT_24 : decode cX6_readsT 24 = .ok (.aload_n 0, 1) := dk_42 (dk_at dksX6_readsT_1 0 rfl rfl)
theorem dX6_readsT_25 : decode cX6_readsT 25 = .ok (.bipush 103, 2) := dk_16 103 (dk_at dksX6_readsT_1 1 rfl rfl)
theorem dX6_readsT_27 : decode cX6_readsT 27 = .ok (.invokevirtual 332, 3) := dk_182 1 76 (dk_at dksX6_readsT_1 3 rfl rfl)
theorem dX6_readsT_30 : decode cX6_readsT 30 = .ok (.ifCond .eq 32, 3) := dk_153 0 32 (dk_at dksX6_readsT_1 6 rfl rfl)
theorem dX6_readsT_33 : decode cX6_readsT 33 = .ok (.aload_n 0, 1) := dk_42 (dk_at dksX6_readsT_1 9 rfl rfl)
theorem dX6_readsT_34 : decode cX6_readsT 34 = .ok (.bipush 101, 2) := dk_16 101 (dk_at dksX6_readsT_1 10 rfl rfl)
theorem dX6_readsT_36 : decode cX6_readsT 36 = .ok (.invokevirtual 332, 3) := dk_182 1 76 (dk_at dksX6_readsT_1 12 rfl rfl)
theorem dX6_readsT_39 : decode cX6_readsT 39 = .ok (.ifCond .eq 23, 3) := dk_153 0 23 (dk_at dksX6_readsT_1 15 rfl rfl)
theorem dX6_readsT_42 : decode cX6_readsT 42 = .ok (.aload_n 0, 1) := dk_42 (dk_at dksX6_readsT_1 18 rfl rfl)
theorem dX6_readsT_43 : decode cX6_readsT 43 = .ok (.bipush 116, 2) := dk_16 116 (dk_at dksX6_readsT_1 19 rfl rfl)
theorem dX6_readsT_45 : decode cX6_readsT 45 = .ok (.invokevirtual 332, 3) := dk_182 1 76 (dk_at dksX6_readsT_1 21 rfl rfl)
theorem dX6_readsT_48 : decode cX6_readsT 48 = .ok (.ifCond .eq 14, 3) := dk_153 0 14 (dk_at dksX6_readsT_2 0 rfl rfl)
theorem dX6_readsT_51 : decode cX6_readsT 51 = .ok (.aload_n 0, 1) := dk_42 (dk_at dksX6_readsT_2 3 rfl rfl)
theorem dX6_readsT_52 : decode cX6_readsT 52 = .ok (.invokevirtual 338, 3) := dk_182 1 82 (dk_at dksX6_readsT_2 4 rfl rfl)
theorem dX6_readsT_55 : decode cX6_readsT 55 = .ok (.ifCond .eq 7, 3) := dk_153 0 7 (dk_at dksX6_readsT_2 7 rfl rfl)
theorem dX6_readsT_58 : decode cX6_readsT 58 = .ok (.iconst 1, 1) := dk_4 (dk_at dksX6_readsT_2 10 rfl rfl)
theorem dX6_readsT_59 : decode cX6_readsT 59 = .ok (.goto 4, 3) := dk_167 0 4 (dk_at dksX6_readsT_2 11 rfl rfl)
theorem dX6_readsT_62 : decode cX6_readsT 62 = .ok (.iconst 0, 1) := dk_3 (dk_at dksX6_readsT_2 14 rfl rfl)
theorem dX6_readsT_63 : decode cX6_readsT 63 = .ok (.ireturn, 1) := dk_172 (dk_at dksX6_readsT_2 15 rfl rfl)
theorem dX6_readsT_64 : decode cX6_readsT 64 = .ok (.aload_n 0, 1) := dk_42 (dk_at dksX6_readsT_2 16 rfl rfl)
theorem dX6_readsT_65 : decode cX6_readsT 65 = .ok (.bipush 105, 2) := dk_16 105 (dk_at dksX6_readsT_2 17 rfl rfl)
theorem dX6_readsT_67 : decode cX6_readsT 67 = .ok (.putfield 335, 3) := dk_181 1 79 (dk_at dksX6_readsT_2 19 rfl rfl)
theorem dX6_readsT_70 : decode cX6_readsT 70 = .ok (.aload_n 0, 1) := dk_42 (dk_at dksX6_readsT_2 22 rfl rfl)
theorem dX6_readsT_71 : decode cX6_readsT 71 = .ok (.bipush 105, 2) := dk_16 105 (dk_at dksX6_readsT_3 0 rfl rfl)
theorem dX6_readsT_73 : decode cX6_readsT 73 = .ok (.invokevirtual 332, 3) := dk_182 1 76 (dk_at dksX6_readsT_3 2 rfl rfl)
theorem dX6_readsT_76 : decode cX6_readsT 76 = .ok (.ifCond .eq 85, 3) := dk_153 0 85 (dk_at dksX6_readsT_3 5 rfl rfl)
theorem dX6_readsT_79 : decode cX6_readsT 79 = .ok (.aload_n 0, 1) := dk_42 (dk_at dksX6_readsT_3 8 rfl rfl)
theorem dX6_readsT_80 : decode cX6_readsT 80 = .ok (.bipush 109, 2) := dk_16 109 (dk_at dksX6_readsT_3 9 rfl rfl)
theorem dX6_readsT_82 : decode cX6_readsT 82 = .ok (.invokevirtual 332, 3) := dk_182 1 76 (dk_at dksX6_readsT_3 11 rfl rfl)
theorem dX6_readsT_85 : decode cX6_readsT 85 = .ok (.ifCond .eq 76, 3) := dk_153 0 76 (dk_at dksX6_readsT_3 14 rfl rfl)
theorem dX6_readsT_88 : decode cX6_readsT 88 = .ok (.aload_n 0, 1) := dk_42 (dk_at dksX6_readsT_3 17 rfl rfl)
theorem dX6_readsT_89 : decode cX6_readsT 89 = .ok (.bipush 101, 2) := dk_16 101 (dk_at dksX6_readsT_3 18 rfl rfl)
theorem dX6_readsT_91 : decode cX6_readsT 91 = .ok (.invokevirtual 332, 3) := dk_182 1 76 (dk_at dksX6_readsT_3 20 rfl rfl)
theorem dX6_readsT_94 : decode cX6_readsT 94 = .ok (.ifCond .eq 67, 3) := dk_153 0 67 (dk_at dksX6_readsT_4 0 rfl rfl)
theorem dX6_readsT_97 : decode cX6_readsT 97 = .ok (.aload_n 0, 1) := dk_42 (dk_at dksX6_readsT_4 3 rfl rfl)
theorem dX6_readsT_98 : decode cX6_readsT 98 = .ok (.bipush 114, 2) := dk_16 114 (dk_at dksX6_readsT_4 4 rfl rfl)
theorem dX6_readsT_100 : decode cX6_readsT 100 = .ok (.invokevirtual 332, 3) := dk_182 1 76 (dk_at dksX6_readsT_4 6 rfl rfl)
theorem dX6_readsT_103 : decode cX6_readsT 103 = .ok (.ifCond .eq 58, 3) := dk_153 0 58 (dk_at dksX6_readsT_4 9 rfl rfl)
theorem dX6_readsT_106 : decode cX6_readsT 106 = .ok (.aload_n 0, 1) := dk_42 (dk_at dksX6_readsT_4 12 rfl rfl)
theorem dX6_readsT_107 : decode cX6_readsT 107 = .ok (.bipush 32, 2) := dk_16 32 (dk_at dksX6_readsT_4 13 rfl rfl)
theorem dX6_readsT_109 : decode cX6_readsT 109 = .ok (.invokevirtual 332, 3) := dk_182 1 76 (dk_at dksX6_readsT_4 15 rfl rfl)
theorem dX6_readsT_112 : decode cX6_readsT 112 = .ok (.ifCond .eq 49, 3) := dk_153 0 49 (dk_at dksX6_readsT_4 18 rfl rfl)
theorem dX6_readsT_115 : decode cX6_readsT 115 = .ok (.aload_n 0, 1) := dk_42 (dk_at dksX6_readsT_4 21 rfl rfl)
theorem dX6_readsT_116 : decode cX6_readsT 116 = .ok (.iconst 0, 1) := dk_3 (dk_at dksX6_readsT_4 22 rfl rfl)
theorem dX6_readsT_117 : decode cX6_readsT 117 = .ok (.invokevirtual 329, 3) := dk_182 1 73 (dk_at dksX6_readsT_5 0 rfl rfl)
theorem dX6_readsT_120 : decode cX6_readsT 120 = .ok (.ifCond .eq 41, 3) := dk_153 0 41 (dk_at dksX6_readsT_5 3 rfl rfl)
theorem dX6_readsT_123 : decode cX6_readsT 123 = .ok (.aload_n 0, 1) := dk_42 (dk_at dksX6_readsT_5 6 rfl rfl)
theorem dX6_readsT_124 : decode cX6_readsT 124 = .ok (.bipush 32, 2) := dk_16 32 (dk_at dksX6_readsT_5 7 rfl rfl)
theorem dX6_readsT_126 : decode cX6_readsT 126 = .ok (.invokevirtual 332, 3) := dk_182 1 76 (dk_at dksX6_readsT_5 9 rfl rfl)
theorem dX6_readsT_129 : decode cX6_readsT 129 = .ok (.ifCond .eq 32, 3) := dk_153 0 32 (dk_at dksX6_readsT_5 12 rfl rfl)
theorem dX6_readsT_132 : decode cX6_readsT 132 = .ok (.aload_n 0, 1) := dk_42 (dk_at dksX6_readsT_5 15 rfl rfl)
theorem dX6_readsT_133 : decode cX6_readsT 133 = .ok (.iconst 1, 1) := dk_4 (dk_at dksX6_readsT_5 16 rfl rfl)
theorem dX6_readsT_134 : decode cX6_readsT 134 = .ok (.invokevirtual 341, 3) := dk_182 1 85 (dk_at dksX6_readsT_5 17 rfl rfl)
theorem dX6_readsT_137 : decode cX6_readsT 137 = .ok (.ifCond .eq 24, 3) := dk_153 0 24 (dk_at dksX6_readsT_5 20 rfl rfl)
theorem dX6_readsT_140 : decode cX6_readsT 140 = .ok (.aload_n 0, 1) := dk_42 (dk_at dksX6_readsT_5 23 rfl rfl)
theorem dX6_readsT_141 : decode cX6_readsT 141 = .ok (.bipush 43, 2) := dk_16 43 (dk_at dksX6_readsT_6 0 rfl rfl)
theorem dX6_readsT_143 : decode cX6_readsT 143 = .ok (.invokevirtual 332, 3) := dk_182 1 76 (dk_at dksX6_readsT_6 2 rfl rfl)
theorem dX6_readsT_146 : decode cX6_readsT 146 = .ok (.ifCond .eq 15, 3) := dk_153 0 15 (dk_at dksX6_readsT_6 5 rfl rfl)
theorem dX6_readsT_149 : decode cX6_readsT 149 = .ok (.aload_n 0, 1) := dk_42 (dk_at dksX6_readsT_6 8 rfl rfl)
theorem dX6_readsT_150 : decode cX6_readsT 150 = .ok (.iconst 2, 1) := dk_5 (dk_at dksX6_readsT_6 9 rfl rfl)
theorem dX6_readsT_151 : decode cX6_readsT 151 = .ok (.invokevirtual 341, 3) := dk_182 1 85 (dk_at dksX6_readsT_6 10 rfl rfl)
theorem dX6_readsT_154 : decode cX6_readsT 154 = .ok (.ifCond .eq 7, 3) := dk_153 0 7 (dk_at dksX6_readsT_6 13 rfl rfl)
theorem dX6_readsT_157 : decode cX6_readsT 157 = .ok (.iconst 1, 1) := dk_4 (dk_at dksX6_readsT_6 16 rfl rfl)
theorem dX6_readsT_158 : decode cX6_readsT 158 = .ok (.goto 4, 3) := dk_167 0 4 (dk_at dksX6_readsT_6 17 rfl rfl)
theorem dX6_readsT_161 : decode cX6_readsT 161 = .ok (.iconst 0, 1) := dk_3 (dk_at dksX6_readsT_6 20 rfl rfl)
theorem dX6_readsT_162 : decode cX6_readsT 162 = .ok (.ireturn, 1) := dk_172 (dk_at dksX6_readsT_6 21 rfl rfl)
abbrev cX6_readsTwo : ByteArray := prog_14_method_129_code
def yX6_readsTwo : MethodName := ⟨RX6, "readsTwo", "()Z"⟩
def dkwX6_readsTwo_1 : List UInt8 := [153, 0, 7, 4, 167, 0, 4, 3, 172]
abbrev dktX6_readsTwo_1 : List UInt8 := dkwX6_readsTwo_1 ++ []
def dkwX6_readsTwo_0 : List UInt8 := [42, 16, 32, 182, 1, 76, 153, 0, 23, 42, 3, 182, 1, 73, 153, 0, 15, 42, 4, 182, 1, 73]
abbrev dktX6_readsTwo_0 : List UInt8 := dkwX6_readsTwo_0 ++ dktX6_readsTwo_1
theorem dksX6_readsTwo_0 : cX6_readsTwo.data.toList.drop 0 = dktX6_readsTwo_0 := by decide +kernel
theorem dksX6_readsTwo_1 : cX6_readsTwo.data.toList.drop 22 = dktX6_readsTwo_1 := dk_seg dksX6_readsTwo_0 22 rfl rfl
theorem dX6_readsTwo_0 : decode cX6_readsTwo 0 = .ok (.aload_n 0, 1) := dk_42 (dk_at dksX6_readsTwo_0 0 rfl rfl)
theorem dX6_readsTwo_1 : decode cX6_readsTwo 1 = .ok (.bipush 32, 2) := dk_16 32 (dk_at dksX6_readsTwo_0 1 rfl rfl)
theorem dX6_readsTwo_3 : decode cX6_readsTwo 3 = .ok (.invokevirtual 332, 3) := dk_182 1 76 (dk_at dksX6_readsTwo_0 3 rfl rfl)
theorem dX6_readsTwo_6 : decode cX6_readsTwo 6 = .ok (.ifCond .eq 23, 3) := dk_153 0 23 (dk_at dksX6_readsTwo_0 6 rfl rfl)
theorem dX6_readsTwo_9 : decode cX6_readsTwo 9 = .ok (.aload_n 0, 1) := dk_42 (dk_at dksX6_readsTwo_0 9 rfl rfl)
theorem dX6_readsTwo_10 : decode cX6_readsTwo 10 = .ok (.iconst 0, 1) := dk_3 (dk_at dksX6_readsTwo_0 10 rfl rfl)
theorem dX6_readsTwo_11 : decode cX6_readsTwo 11 = .ok (.invokevirtual 329, 3) := dk_182 1 73 (dk_at dksX6_readsTwo_0 11 rfl rfl)
theorem dX6_readsTwo_14 : decode cX6_readsTwo 14 = .ok (.ifCond .eq 15, 3) := dk_153 0 15 (dk_at dksX6_readsTwo_0 14 rfl rfl)
theorem dX6_readsTwo_17 : decode cX6_readsTwo 17 = .ok (.aload_n 0, 1) := dk_42 (dk_at dksX6_readsTwo_0 17 rfl rfl)
theorem dX6_readsTwo_18 : decode cX6_readsTwo 18 = .ok (.iconst 1, 1) := dk_4 (dk_at dksX6_readsTwo_0 18 rfl rfl)
theorem dX6_readsTwo_19 : decode cX6_readsTwo 19 = .ok (.invokevirtual 329, 3) := dk_182 1 73 (dk_at dksX6_readsTwo_0 19 rfl rfl)
theorem dX6_readsTwo_22 : decode cX6_readsTwo 22 = .ok (.ifCond .eq 7, 3) := dk_153 0 7 (dk_at dksX6_readsTwo_1 0 rfl rfl)
theorem dX6_readsTwo_25 : decode cX6_readsTwo 25 = .ok (.iconst 1, 1) := dk_4 (dk_at dksX6_readsTwo_1 3 rfl rfl)
theorem dX6_readsTwo_26 : decode cX6_readsTwo 26 = .ok (.goto 4, 3) := dk_167 0 4 (dk_at dksX6_readsTwo_1 4 rfl rfl)
theorem dX6_readsTwo_29 : decode cX6_readsTwo 29 = .ok (.iconst 0, 1) := dk_3 (dk_at dksX6_readsTwo_1 7 rfl rfl)
theorem dX6_readsTwo_30 : decode cX6_readsTwo 30 = .ok (.ireturn, 1) := dk_172 (dk_at dksX6_readsTwo_1 8 rfl rfl)
abbrev cX6_readsNumber : ByteArray := prog_14_method_127_code
def yX6_readsNumber : MethodName := ⟨RX6, "readsNumber", "(I)Z"⟩
def dkwX6_readsNumber_2 : List UInt8 := [79, 42, 89, 180, 1, 67, 4, 96, 181, 1, 67, 4, 172]
abbrev dktX6_readsNumber_2 : List UInt8 := dkwX6_readsNumber_2 ++ []
def dkwX6_readsNumber_1 : List UInt8 := [4, 172, 42, 180, 0, 48, 27, 16, 10, 42, 180, 0, 48, 27, 46, 104, 42, 182, 1, 70, 96, 16, 48, 100]
abbrev dktX6_readsNumber_1 : List UInt8 := dkwX6_readsNumber_1 ++ dktX6_readsNumber_2
def dkwX6_readsNumber_0 : List UInt8 := [42, 27, 182, 1, 73, 154, 0, 5, 3, 172, 42, 182, 1, 70, 16, 48, 16, 57, 184, 0, 79, 154, 0, 5]
abbrev dktX6_readsNumber_0 : List UInt8 := dkwX6_readsNumber_0 ++ dktX6_readsNumber_1
theorem dksX6_readsNumber_0 : cX6_readsNumber.data.toList.drop 0 = dktX6_readsNumber_0 := by decide +kernel
theorem dksX6_readsNumber_1 : cX6_readsNumber.data.toList.drop 24 = dktX6_readsNumber_1 := dk_seg dksX6_readsNumber_0 24 rfl rfl
theorem dksX6_readsNumber_2 : cX6_readsNumber.data.toList.drop 48 = dktX6_readsNumber_2 := dk_seg dksX6_readsNumber_1 24 rfl rfl
theorem dX6_readsNumber_0 : decode cX6_readsNumber 0 = .ok (.aload_n 0, 1) := dk_42 (dk_at dksX6_readsNumber_0 0 rfl rfl)
theorem dX6_readsNumber_1 : decode cX6_readsNumber 1 = .ok (.iload_n 1, 1) := dk_27 (dk_at dksX6_readsNumber_0 1 rfl rfl)
theorem dX6_readsNumber_2 : decode cX6_readsNumber 2 = .ok (.invokevirtual 329, 3) := dk_182 1 73 (dk_at dksX6_readsNumber_0 2 rfl rfl)
theorem dX6_readsNumber_5 : decode cX6_readsNumber 5 = .ok (.ifCond .ne 5, 3) := dk_154 0 5 (dk_at dksX6_readsNumber_0 5 rfl rfl)
theorem dX6_readsNumber_8 : decode cX6_readsNumber 8 = .ok (.iconst 0, 1) := dk_3 (dk_at dksX6_readsNumber_0 8 rfl rfl)
theorem dX6_readsNumber_9 : decode cX6_readsNumber 9 = .ok (.ireturn, 1) := dk_172 (dk_at dksX6_readsNumber_0 9 rfl rfl)
theorem dX6_readsNumber_10 : decode cX6_readsNumber 10 = .ok (.aload_n 0, 1) := dk_42 (dk_at dksX6_readsNumber_0 10 rfl rfl)
theorem dX6_readsNumber_11 : decode cX6_readsNumber 11 = .ok (.invokevirtual 326, 3) := dk_182 1 70 (dk_at dksX6_readsNumber_0 11 rfl rfl)
theorem dX6_readsNumber_14 : decode cX6_readsNumber 14 = .ok (.bipush 48, 2) := dk_16 48 (dk_at dksX6_readsNumber_0 14 rfl rfl)
theorem dX6_readsNumber_16 : decode cX6_readsNumber 16 = .ok (.bipush 57, 2) := dk_16 57 (dk_at dksX6_readsNumber_0 16 rfl rfl)
theorem dX6_readsNumber_18 : decode cX6_readsNumber 18 = .ok (.invokestatic 79, 3) := dk_184 0 79 (dk_at dksX6_readsNumber_0 18 rfl rfl)
theorem dX6_readsNumber_21 : decode cX6_readsNumber 21 = .ok (.ifCond .ne 5, 3) := dk_154 0 5 (dk_at dksX6_readsNumber_0 21 rfl rfl)
theorem dX6_readsNumber_24 : decode cX6_readsNumber 24 = .ok (.iconst 1, 1) := dk_4 (dk_at dksX6_readsNumber_1 0 rfl rfl)
theorem dX6_readsNumber_25 : decode cX6_readsNumber 25 = .ok (.ireturn, 1) := dk_172 (dk_at dksX6_readsNumber_1 1 rfl rfl)
theorem dX6_readsNumber_26 : decode cX6_readsNumber 26 = .ok (.aload_n 0, 1) := dk_42 (dk_at dksX6_readsNumber_1 2 rfl rfl)
theorem dX6_readsNumber_27 : decode cX6_readsNumber 27 = .ok (.getfield 48, 3) := dk_180 0 48 (dk_at dksX6_readsNumber_1 3 rfl rfl)
theorem dX6_readsNumber_30 : decode cX6_readsNumber 30 = .ok (.iload_n 1, 1) := dk_27 (dk_at dksX6_readsNumber_1 6 rfl rfl)
theorem dX6_readsNumber_31 : decode cX6_readsNumber 31 = .ok (.bipush 10, 2) := dk_16 10 (dk_at dksX6_readsNumber_1 7 rfl rfl)
theorem dX6_readsNumber_33 : decode cX6_readsNumber 33 = .ok (.aload_n 0, 1) := dk_42 (dk_at dksX6_readsNumber_1 9 rfl rfl)
theorem dX6_readsNumber_34 : decode cX6_readsNumber 34 = .ok (.getfield 48, 3) := dk_180 0 48 (dk_at dksX6_readsNumber_1 10 rfl rfl)
theorem dX6_readsNumber_37 : decode cX6_readsNumber 37 = .ok (.iload_n 1, 1) := dk_27 (dk_at dksX6_readsNumber_1 13 rfl rfl)
theorem dX6_readsNumber_38 : decode cX6_readsNumber 38 = .ok (.iaload, 1) := dk_46 (dk_at dksX6_readsNumber_1 14 rfl rfl)
theorem dX6_readsNumber_39 : decode cX6_readsNumber 39 = .ok (.imul, 1) := dk_104 (dk_at dksX6_readsNumber_1 15 rfl rfl)
theorem dX6_readsNumber_40 : decode cX6_readsNumber 40 = .ok (.aload_n 0, 1) := dk_42 (dk_at dksX6_readsNumber_1 16 rfl rfl)
theorem dX6_readsNumber_41 : decode cX6_readsNumber 41 = .ok (.invokevirtual 326, 3) := dk_182 1 70 (dk_at dksX6_readsNumber_1 17 rfl rfl)
theorem dX6_readsNumber_44 : decode cX6_readsNumber 44 = .ok (.iadd, 1) := dk_96 (dk_at dksX6_readsNumber_1 20 rfl rfl)
theorem dX6_readsNumber_45 : decode cX6_readsNumber 45 = .ok (.bipush 48, 2) := dk_16 48 (dk_at dksX6_readsNumber_1 21 rfl rfl)
theorem dX6_readsNumber_47 : decode cX6_readsNumber 47 = .ok (.isub, 1) := dk_100 (dk_at dksX6_readsNumber_1 23 rfl rfl)
theorem dX6_readsNumber_48 : decode cX6_readsNumber 48 = .ok (.iastore, 1) := dk_79 (dk_at dksX6_readsNumber_2 0 rfl rfl)
theorem dX6_readsNumber_49 : decode cX6_readsNumber 49 = .ok (.aload_n 0, 1) := dk_42 (dk_at dksX6_readsNumber_2 1 rfl rfl)
theorem dX6_readsNumber_50 : decode cX6_readsNumber 50 = .ok (.dup, 1) := dk_89 (dk_at dksX6_readsNumber_2 2 rfl rfl)
theorem dX6_readsNumber_51 : decode cX6_readsNumber 51 = .ok (.getfield 323, 3) := dk_180 1 67 (dk_at dksX6_readsNumber_2 3 rfl rfl)
theorem dX6_readsNumber_54 : decode cX6_readsNumber 54 = .ok (.iconst 1, 1) := dk_4 (dk_at dksX6_readsNumber_2 6 rfl rfl)
theorem dX6_readsNumber_55 : decode cX6_readsNumber 55 = .ok (.iadd, 1) := dk_96 (dk_at dksX6_readsNumber_2 7 rfl rfl)
theorem dX6_readsNumber_56 : decode cX6_readsNumber 56 = .ok (.putfield 323, 3) := dk_181 1 67 (dk_at dksX6_readsNumber_2 8 rfl rfl)
theorem dX6_readsNumber_59 : decode cX6_readsNumber 59 = .ok (.iconst 1, 1) := dk_4 (dk_at dksX6_readsNumber_2 11 rfl rfl)
theorem dX6_readsNumber_60 : decode cX6_readsNumber 60 = .ok (.ireturn, 1) := dk_172 (dk_at dksX6_readsNumber_2 12 rfl rfl)
abbrev cX6_readsS : ByteArray := prog_14_method_133_code
def yX6_readsS : MethodName := ⟨RX6, "readsS", "()Z"⟩
def dkwX6_readsS_6 : List UInt8 := [172]
abbrev dktX6_readsS_6 : List UInt8 := dkwX6_readsS_6 ++ []
def dkwX6_readsS_5 : List UInt8 := [182, 1, 70, 16, 115, 160, 0, 7, 4, 167, 0, 4, 3, 182, 1, 88, 153, 0, 7, 4, 167, 0, 4, 3]
abbrev dktX6_readsS_5 : List UInt8 := dkwX6_readsS_5 ++ dktX6_readsS_6
def dkwX6_readsS_4 : List UInt8 := [153, 0, 47, 42, 16, 32, 182, 1, 76, 153, 0, 38, 42, 3, 42, 182, 1, 70, 16, 112, 159, 0, 12, 42]
abbrev dktX6_readsS_4 : List UInt8 := dkwX6_readsS_4 ++ dktX6_readsS_5
def dkwX6_readsS_3 : List UInt8 := [42, 16, 117, 182, 1, 76, 153, 0, 65, 42, 16, 108, 182, 1, 76, 153, 0, 56, 42, 16, 101, 182, 1, 76]
abbrev dktX6_readsS_3 : List UInt8 := dkwX6_readsS_3 ++ dktX6_readsS_4
def dkwX6_readsS_2 : List UInt8 := [182, 1, 76, 153, 0, 92, 42, 16, 101, 182, 1, 76, 153, 0, 83, 42, 16, 100, 182, 1, 76, 153, 0, 74]
abbrev dktX6_readsS_2 : List UInt8 := dkwX6_readsS_2 ++ dktX6_readsS_3
def dkwX6_readsS_1 : List UInt8 := [182, 1, 95, 172, 42, 16, 99, 181, 1, 79, 42, 16, 99, 182, 1, 76, 153, 0, 101, 42, 16, 104]
abbrev dktX6_readsS_1 : List UInt8 := dkwX6_readsS_1 ++ dktX6_readsS_2
def dkwX6_readsS_0 : List UInt8 := [42, 16, 116, 182, 1, 76, 153, 0, 8, 42, 182, 1, 92, 172, 42, 16, 101, 182, 1, 76, 153, 0, 8, 42]
abbrev dktX6_readsS_0 : List UInt8 := dkwX6_readsS_0 ++ dktX6_readsS_1
theorem dksX6_readsS_0 : cX6_readsS.data.toList.drop 0 = dktX6_readsS_0 := by decide +kernel
theorem dksX6_readsS_1 : cX6_readsS.data.toList.drop 24 = dktX6_readsS_1 := dk_seg dksX6_readsS_0 24 rfl rfl
theorem dksX6_readsS_2 : cX6_readsS.data.toList.drop 46 = dktX6_readsS_2 := dk_seg dksX6_readsS_1 22 rfl rfl
theorem dksX6_readsS_3 : cX6_readsS.data.toList.drop 70 = dktX6_readsS_3 := dk_seg dksX6_readsS_2 24 rfl rfl
theorem dksX6_readsS_4 : cX6_readsS.data.toList.drop 94 = dktX6_readsS_4 := dk_seg dksX6_readsS_3 24 rfl rfl
theorem dksX6_readsS_5 : cX6_readsS.data.toList.drop 118 = dktX6_readsS_5 := dk_seg dksX6_readsS_4 24 rfl rfl
theorem dksX6_readsS_6 : cX6_readsS.data.toList.drop 142 = dktX6_readsS_6 := dk_seg dksX6_readsS_5 24 rfl rfl
theorem dX6_readsS_0 : decode cX6_readsS 0 = .ok (.aload_n 0, 1) := dk_42 (dk_at dksX6_readsS_0 0 rfl rfl)
theorem dX6_readsS_1 : decode cX6_readsS 1 = .ok (.bipush 116, 2) := dk_16 116 (dk_at dksX6_readsS_0 1 rfl rfl)
theorem dX6_readsS_3 : decode cX6_readsS 3 = .ok (.invokevirtual 332, 3) := dk_182 1 76 (dk_at dksX6_readsS_0 3 rfl rfl)
theorem dX6_readsS_6 : decode cX6_readsS 6 = .ok (.ifCond .eq 8, 3) := dk_153 0 8 (dk_at dksX6_readsS_0 6 rfl rfl)
theorem dX6_readsS_9 : decode cX6_readsS 9 = .ok (.aload_n 0, 1) := dk_42 (dk_at dksX6_readsS_0 9 rfl rfl)
theorem dX6_readsS_10 : decode cX6_readsS 10 = .ok (.invokevirtual 348, 3) := dk_182 1 92 (dk_at dksX6_readsS_0 10 rfl rfl)
theorem dX6_readsS_13 : decode cX6_readsS 13 = .ok (.ireturn, 1) := dk_172 (dk_at dksX6_readsS_0 13 rfl rfl)
theorem dX6_readsS_14 : decode cX6_readsS 14 = .ok (.aload_n 0, 1) := dk_42 (dk_at dksX6_readsS_0 14 rfl rfl)
theorem dX6_readsS_15 : decode cX6_readsS 15 = .ok (.bipush 101, 2) := dk_16 101 (dk_at dksX6_readsS_0 15 rfl rfl)
theorem dX6_readsS_17 : decode cX6_readsS 17 = .ok (.invokevirtual 332, 3) := dk_182 1 76 (dk_at dksX6_readsS_0 17 rfl rfl)
theorem dX6_readsS_20 : decode cX6_readsS 20 = .ok (.ifCond .eq 8, 3) := dk_153 0 8 (dk_at dksX6_readsS_0 20 rfl rfl)
theorem dX6_readsS_23 : decode cX6_readsS 23 = .ok (.aload_n 0, 1) := dk_42 (dk_at dksX6_readsS_0 23 rfl rfl)
theorem dX6_readsS_24 : decode cX6_readsS 24 = .ok (.invokevirtual 351, 3) := dk_182 1 95 (dk_at dksX6_readsS_1 0 rfl rfl)
theorem dX6_readsS_27 : decode cX6_readsS 27 = .ok (.ireturn, 1) := dk_172 (dk_at dksX6_readsS_1 3 rfl rfl)
theorem dX6_readsS_28 : decode cX6_readsS 28 = .ok (.aload_n 0, 1) := dk_42 (dk_at dksX6_readsS_1 4 rfl rfl)
theorem dX6_readsS_29 : decode cX6_readsS 29 = .ok (.bipush 99, 2) := dk_16 99 (dk_at dksX6_readsS_1 5 rfl rfl)
theorem dX6_readsS_31 : decode cX6_readsS 31 = .ok (.putfield 335, 3) := dk_181 1 79 (dk_at dksX6_readsS_1 7 rfl rfl)
theorem dX6_readsS_34 : decode cX6_readsS 34 = .ok (.aload_n 0, 1) := dk_42 (dk_at dksX6_readsS_1 10 rfl rfl)
theorem dX6_readsS_35 : decode cX6_readsS 35 = .ok (.bipush 99, 2) := dk_16 99 (dk_at dksX6_readsS_1 11 rfl rfl)
theorem dX6_readsS_37 : decode cX6_readsS 37 = .ok (.invokevirtual 332, 3) := dk_182 1 76 (dk_at dksX6_readsS_1 13 rfl rfl)
theorem dX6_readsS_40 : decode cX6_readsS 40 = .ok (.ifCond .eq 101, 3) := dk_153 0 101 (dk_at dksX6_readsS_1 16 rfl rfl)
theorem dX6_readsS_43 : decode cX6_readsS 43 = .ok (.aload_n 0, 1) := dk_42 (dk_at dksX6_readsS_1 19 rfl rfl)
theorem dX6_readsS_44 : decode cX6_readsS 44 = .ok (.bipush 104, 2) := dk_16 104 (dk_at dksX6_readsS_1 20 rfl rfl)
theorem dX6_readsS_46 : decode cX6_readsS 46 = .ok (.invokevirtual 332, 3) := dk_182 1 76 (dk_at dksX6_readsS_2 0 rfl rfl)
theorem dX6_readsS_49 : decode cX6_readsS 49 = .ok (.ifCond .eq 92, 3) := dk_153 0 92 (dk_at dksX6_readsS_2 3 rfl rfl)
theorem dX6_readsS_52 : decode cX6_readsS 52 = .ok (.aload_n 0, 1) := dk_42 (dk_at dksX6_readsS_2 6 rfl rfl)
theorem dX6_readsS_53 : decode cX6_readsS 53 = .ok (.bipush 101, 2) := dk_16 101 (dk_at dksX6_readsS_2 7 rfl rfl)
theorem dX6_readsS_55 : decode cX6_readsS 55 = .ok (.invokevirtual 332, 3) := dk_182 1 76 (dk_at dksX6_readsS_2 9 rfl rfl)
theorem dX6_readsS_58 : decode cX6_readsS 58 = .ok (.ifCond .eq 83, 3) := dk_153 0 83 (dk_at dksX6_readsS_2 12 rfl rfl)
theorem dX6_readsS_61 : decode cX6_readsS 61 = .ok (.aload_n 0, 1) := dk_42 (dk_at dksX6_readsS_2 15 rfl rfl)
theorem dX6_readsS_62 : decode cX6_readsS 62 = .ok (.bipush 100, 2) := dk_16 100 (dk_at dksX6_readsS_2 16 rfl rfl)
theorem dX6_readsS_64 : decode cX6_readsS 64 = .ok (.invokevirtual 332, 3) := dk_182 1 76 (dk_at dksX6_readsS_2 18 rfl rfl)
theorem dX6_readsS_67 : decode cX6_readsS 67 = .ok (.ifCond .eq 74, 3) := dk_153 0 74 (dk_at dksX6_readsS_2 21 rfl rfl)
theorem dX6_readsS_70 : decode cX6_readsS 70 = .ok (.aload_n 0, 1) := dk_42 (dk_at dksX6_readsS_3 0 rfl rfl)
theorem dX6_readsS_71 : decode cX6_readsS 71 = .ok (.bipush 117, 2) := dk_16 117 (dk_at dksX6_readsS_3 1 rfl rfl)
theorem dX6_readsS_73 : decode cX6_readsS 73 = .ok (.invokevirtual 332, 3) := dk_182 1 76 (dk_at dksX6_readsS_3 3 rfl rfl)
theorem dX6_readsS_76 : decode cX6_readsS 76 = .ok (.ifCond .eq 65, 3) := dk_153 0 65 (dk_at dksX6_readsS_3 6 rfl rfl)
theorem dX6_readsS_79 : decode cX6_readsS 79 = .ok (.aload_n 0, 1) := dk_42 (dk_at dksX6_readsS_3 9 rfl rfl)
theorem dX6_readsS_80 : decode cX6_readsS 80 = .ok (.bipush 108, 2) := dk_16 108 (dk_at dksX6_readsS_3 10 rfl rfl)
theorem dX6_readsS_82 : decode cX6_readsS 82 = .ok (.invokevirtual 332, 3) := dk_182 1 76 (dk_at dksX6_readsS_3 12 rfl rfl)
theorem dX6_readsS_85 : decode cX6_readsS 85 = .ok (.ifCond .eq 56, 3) := dk_153 0 56 (dk_at dksX6_readsS_3 15 rfl rfl)
theorem dX6_readsS_88 : decode cX6_readsS 88 = .ok (.aload_n 0, 1) := dk_42 (dk_at dksX6_readsS_3 18 rfl rfl)
theorem dX6_readsS_89 : decode cX6_readsS 89 = .ok (.bipush 101, 2) := dk_16 101 (dk_at dksX6_readsS_3 19 rfl rfl)
theorem dX6_readsS_91 : decode cX6_readsS 91 = .ok (.invokevirtual 332, 3) := dk_182 1 76 (dk_at dksX6_readsS_3 21 rfl rfl)
theorem dX6_readsS_94 : decode cX6_readsS 94 = .ok (.ifCond .eq 47, 3) := dk_153 0 47 (dk_at dksX6_readsS_4 0 rfl rfl)
theorem dX6_readsS_97 : decode cX6_readsS 97 = .ok (.aload_n 0, 1) := dk_42 (dk_at dksX6_readsS_4 3 rfl rfl)
theorem dX6_readsS_98 : decode cX6_readsS 98 = .ok (.bipush 32, 2) := dk_16 32 (dk_at dksX6_readsS_4 4 rfl rfl)
theorem dX6_readsS_100 : decode cX6_readsS 100 = .ok (.invokevirtual 332, 3) := dk_182 1 76 (dk_at dksX6_readsS_4 6 rfl rfl)
theorem dX6_readsS_103 : decode cX6_readsS 103 = .ok (.ifCond .eq 38, 3) := dk_153 0 38 (dk_at dksX6_readsS_4 9 rfl rfl)
theorem dX6_readsS_106 : decode cX6_readsS 106 = .ok (.aload_n 0, 1) := dk_42 (dk_at dksX6_readsS_4 12 rfl rfl)
theorem dX6_readsS_107 : decode cX6_readsS 107 = .ok (.iconst 0, 1) := dk_3 (dk_at dksX6_readsS_4 13 rfl rfl)
theorem dX6_readsS_108 : decode cX6_readsS 108 = .ok (.aload_n 0, 1) := dk_42 (dk_at dksX6_readsS_4 14 rfl rfl)
theorem dX6_readsS_109 : decode cX6_readsS 109 = .ok (.invokevirtual 326, 3) := dk_182 1 70 (dk_at dksX6_readsS_4 15 rfl rfl)
theorem dX6_readsS_112 : decode cX6_readsS 112 = .ok (.bipush 112, 2) := dk_16 112 (dk_at dksX6_readsS_4 18 rfl rfl)
theorem dX6_readsS_114 : decode cX6_readsS 114 = .ok (.if_icmp .eq 12, 3) := dk_159 0 12 (dk_at dksX6_readsS_4 20 rfl rfl)
theorem dX6_readsS_117 : decode cX6_readsS 117 = .ok (.aload_n 0, 1) := dk_42 (dk_at dksX6_readsS_4 23 rfl rfl)
theorem dX6_readsS_118 : decode cX6_readsS 118 = .ok (.invokevirtual 326, 3) := dk_182 1 70 (dk_at dksX6_readsS_5 0 rfl rfl)
theorem dX6_readsS_121 : decode cX6_readsS 121 = .ok (.bipush 115, 2) := dk_16 115 (dk_at dksX6_readsS_5 3 rfl rfl)
theorem dX6_readsS_123 : decode cX6_readsS 123 = .ok (.if_icmp .ne 7, 3) := dk_160 0 7 (dk_at dksX6_readsS_5 5 rfl rfl)
theorem dX6_readsS_126 : decode cX6_readsS 126 = .ok (.iconst 1, 1) := dk_4 (dk_at dksX6_readsS_5 8 rfl rfl)
theorem dX6_readsS_127 : decode cX6_readsS 127 = .ok (.goto 4, 3) := dk_167 0 4 (dk_at dksX6_readsS_5 9 rfl rfl)
theorem dX6_readsS_130 : decode cX6_readsS 130 = .ok (.iconst 0, 1) := dk_3 (dk_at dksX6_readsS_5 12 rfl rfl)
theorem dX6_readsS_131 : decode cX6_readsS 131 = .ok (.invokevirtual 344, 3) := dk_182 1 88 (dk_at dksX6_readsS_5 13 rfl rfl)
theorem dX6_readsS_134 : decode cX6_readsS 134 = .ok (.ifCond .eq 7, 3) := dk_153 0 7 (dk_at dksX6_readsS_5 16 rfl rfl)
theorem dX6_readsS_137 : decode cX6_readsS 137 = .ok (.iconst 1, 1) := dk_4 (dk_at dksX6_readsS_5 19 rfl rfl)
theorem dX6_readsS_138 : decode cX6_readsS 138 = .ok (.goto 4, 3) := dk_167 0 4 (dk_at dksX6_readsS_5 20 rfl rfl)
theorem dX6_readsS_141 : decode cX6_readsS 141 = .ok (.iconst 0, 1) := dk_3 (dk_at dksX6_readsS_5 23 rfl rfl)
theorem dX6_readsS_142 : decode cX6_readsS 142 = .ok (.ireturn, 1) := dk_172 (dk_at dksX6_readsS_6 0 rfl rfl)
abbrev cX6_readsSt : ByteArray := prog_14_method_131_code
def yX6_readsSt : MethodName := ⟨RX6, "readsSt", "()Z"⟩
def dkwX6_readsSt_12 : List UInt8 := [172]
abbrev dktX6_readsSt_12 : List UInt8 := dkwX6_readsSt_12 ++ []
def dkwX6_readsSt_11 : List UInt8 := [3, 172, 42, 16, 32, 182, 1, 76, 153, 0, 11, 42, 3, 182, 1, 85, 153, 0, 7, 4, 167, 0, 4, 3]
abbrev dktX6_readsSt_11 : List UInt8 := dkwX6_readsSt_11 ++ dktX6_readsSt_12
def dkwX6_readsSt_10 : List UInt8 := [180, 0, 48, 3, 4, 79, 42, 16, 101, 182, 1, 76, 153, 0, 12, 42, 16, 112, 182, 1, 76, 154, 0, 5]
abbrev dktX6_readsSt_10 : List UInt8 := dkwX6_readsSt_10 ++ dktX6_readsSt_11
def dkwX6_readsSt_9 : List UInt8 := [153, 0, 15, 42, 3, 182, 1, 73, 153, 0, 7, 4, 167, 0, 4, 3, 172, 42, 16, 110, 181, 1, 79, 42]
abbrev dktX6_readsSt_9 : List UInt8 := dkwX6_readsSt_9 ++ dktX6_readsSt_10
def dkwX6_readsSt_8 : List UInt8 := [16, 111, 182, 1, 76, 153, 0, 35, 42, 16, 112, 182, 1, 76, 153, 0, 24, 42, 16, 32, 182, 1, 76]
abbrev dktX6_readsSt_8 : List UInt8 := dkwX6_readsSt_8 ++ dktX6_readsSt_9
def dkwX6_readsSt_7 : List UInt8 := [153, 0, 15, 42, 3, 182, 1, 73, 153, 0, 7, 4, 167, 0, 4, 3, 172, 42, 16, 104, 181, 1, 79, 42]
abbrev dktX6_readsSt_7 : List UInt8 := dkwX6_readsSt_7 ++ dktX6_readsSt_8
def dkwX6_readsSt_6 : List UInt8 := [42, 16, 114, 182, 1, 76, 153, 0, 33, 42, 16, 116, 182, 1, 76, 153, 0, 24, 42, 16, 32, 182, 1, 76]
abbrev dktX6_readsSt_6 : List UInt8 := dkwX6_readsSt_6 ++ dktX6_readsSt_7
def dkwX6_readsSt_5 : List UInt8 := [153, 0, 7, 4, 167, 0, 4, 3, 172, 42, 16, 103, 181, 1, 79, 42, 16, 97, 182, 1, 76, 153, 0, 44]
abbrev dktX6_readsSt_5 : List UInt8 := dkwX6_readsSt_5 ++ dktX6_readsSt_6
def dkwX6_readsSt_4 : List UInt8 := [16, 115, 159, 0, 12, 42, 182, 1, 70, 16, 101, 160, 0, 7, 4, 167, 0, 4, 3, 182, 1, 88]
abbrev dktX6_readsSt_4 : List UInt8 := dkwX6_readsSt_4 ++ dktX6_readsSt_5
def dkwX6_readsSt_3 : List UInt8 := [42, 3, 182, 1, 73, 153, 0, 47, 42, 4, 42, 182, 1, 70, 16, 114, 159, 0, 21, 42, 182, 1, 70]
abbrev dktX6_readsSt_3 : List UInt8 := dkwX6_readsSt_3 ++ dktX6_readsSt_4
def dkwX6_readsSt_2 : List UInt8 := [182, 1, 76, 153, 0, 73, 42, 16, 121, 182, 1, 76, 153, 0, 64, 42, 16, 32, 182, 1, 76, 153, 0, 55]
abbrev dktX6_readsSt_2 : List UInt8 := dkwX6_readsSt_2 ++ dktX6_readsSt_3
def dkwX6_readsSt_1 : List UInt8 := [153, 0, 100, 42, 16, 116, 182, 1, 76, 153, 0, 91, 42, 16, 101, 182, 1, 76, 153, 0, 82, 42, 16, 103]
abbrev dktX6_readsSt_1 : List UInt8 := dkwX6_readsSt_1 ++ dktX6_readsSt_2
def dkwX6_readsSt_0 : List UInt8 := [42, 42, 182, 1, 70, 181, 1, 79, 42, 16, 114, 182, 1, 76, 153, 0, 111, 42, 16, 97, 182, 1, 76]
abbrev dktX6_readsSt_0 : List UInt8 := dkwX6_readsSt_0 ++ dktX6_readsSt_1
theorem dksX6_readsSt_0 : cX6_readsSt.data.toList.drop 0 = dktX6_readsSt_0 := by decide +kernel
theorem dksX6_readsSt_1 : cX6_readsSt.data.toList.drop 23 = dktX6_readsSt_1 := dk_seg dksX6_readsSt_0 23 rfl rfl
theorem dksX6_readsSt_2 : cX6_readsSt.data.toList.drop 47 = dktX6_readsSt_2 := dk_seg dksX6_readsSt_1 24 rfl rfl
theorem dksX6_readsSt_3 : cX6_readsSt.data.toList.drop 71 = dktX6_readsSt_3 := dk_seg dksX6_readsSt_2 24 rfl rfl
theorem dksX6_readsSt_4 : cX6_readsSt.data.toList.drop 94 = dktX6_readsSt_4 := dk_seg dksX6_readsSt_3 23 rfl rfl
theorem dksX6_readsSt_5 : cX6_readsSt.data.toList.drop 116 = dktX6_readsSt_5 := dk_seg dksX6_readsSt_4 22 rfl rfl
theorem dksX6_readsSt_6 : cX6_readsSt.data.toList.drop 140 = dktX6_readsSt_6 := dk_seg dksX6_readsSt_5 24 rfl rfl
theorem dksX6_readsSt_7 : cX6_readsSt.data.toList.drop 164 = dktX6_readsSt_7 := dk_seg dksX6_readsSt_6 24 rfl rfl
theorem dksX6_readsSt_8 : cX6_readsSt.data.toList.drop 188 = dktX6_readsSt_8 := dk_seg dksX6_readsSt_7 24 rfl rfl
theorem dksX6_readsSt_9 : cX6_readsSt.data.toList.drop 211 = dktX6_readsSt_9 := dk_seg dksX6_readsSt_8 23 rfl rfl
theorem dksX6_readsSt_10 : cX6_readsSt.data.toList.drop 235 = dktX6_readsSt_10 := dk_seg dksX6_readsSt_9 24 rfl rfl
theorem dksX6_readsSt_11 : cX6_readsSt.data.toList.drop 259 = dktX6_readsSt_11 := dk_seg dksX6_readsSt_10 24 rfl rfl
theorem dksX6_readsSt_12 : cX6_readsSt.data.toList.drop 283 = dktX6_readsSt_12 := dk_seg dksX6_readsSt_11 24 rfl rfl
theorem dX6_readsSt_0 : decode cX6_readsSt 0 = .ok (.aload_n 0, 1) := dk_42 (dk_at dksX6_readsSt_0 0 rfl rfl)
theorem dX6_readsSt_1 : decode cX6_readsSt 1 = .ok (.aload_n 0, 1) := dk_42 (dk_at dksX6_readsSt_0 1 rfl rfl)
theorem dX6_readsSt_2 : decode cX6_readsSt 2 = .ok (.invokevirtual 326, 3) := dk_182 1 70 (dk_at dksX6_readsSt_0 2 rfl rfl)
theorem dX6_readsSt_5 : decode cX6_readsSt 5 = .ok (.putfield 335, 3) := dk_181 1 79 (dk_at dksX6_readsSt_0 5 rfl rfl)
theorem dX6_readsSt_8 : decode cX6_readsSt 8 = .ok (.aload_n 0, 1) := dk_42 (dk_at dksX6_readsSt_0 8 rfl rfl)
theorem dX6_readsSt_9 : decode cX6_readsSt 9 = .ok (.bipush 114, 2) := dk_16 114 (dk_at dksX6_readsSt_0 9 rfl rfl)
theorem dX6_readsSt_11 : decode cX6_readsSt 11 = .ok (.invokevirtual 332, 3) := dk_182 1 76 (dk_at dksX6_readsSt_0 11 rfl rfl)
theorem dX6_readsSt_14 : decode cX6_readsSt 14 = .ok (.ifCond .eq 111, 3) := dk_153 0 111 (dk_at dksX6_readsSt_0 14 rfl rfl)
theorem dX6_readsSt_17 : decode cX6_readsSt 17 = .ok (.aload_n 0, 1) := dk_42 (dk_at dksX6_readsSt_0 17 rfl rfl)
theorem dX6_readsSt_18 : decode cX6_readsSt 18 = .ok (.bipush 97, 2) := dk_16 97 (dk_at dksX6_readsSt_0 18 rfl rfl)
theorem dX6_readsSt_20 : decode cX6_readsSt 20 = .ok (.invokevirtual 332, 3) := dk_182 1 76 (dk_at dksX6_readsSt_0 20 rfl rfl)
theorem dX6_readsSt_23 : decode cX6_readsSt 23 = .ok (.ifCond .eq 100, 3) := dk_153 0 100 (dk_at dksX6_readsSt_1 0 rfl rfl)
theorem dX6_readsSt_26 : decode cX6_readsSt 26 = .ok (.aload_n 0, 1) := dk_42 (dk_at dksX6_readsSt_1 3 rfl rfl)
theorem dX6_readsSt_27 : decode cX6_readsSt 27 = .ok (.bipush 116, 2) := dk_16 116 (dk_at dksX6_readsSt_1 4 rfl rfl)
theorem dX6_readsSt_29 : decode cX6_readsSt 29 = .ok (.invokevirtual 332, 3) := dk_182 1 76 (dk_at dksX6_readsSt_1 6 rfl rfl)
theorem dX6_readsSt_32 : decode cX6_readsSt 32 = .ok (.ifCond .eq 91, 3) := dk_153 0 91 (dk_at dksX6_readsSt_1 9 rfl rfl)
theorem dX6_readsSt_35 : decode cX6_readsSt 35 = .ok (.aload_n 0, 1) := dk_42 (dk_at dksX6_readsSt_1 12 rfl rfl)
theorem dX6_readsSt_36 : decode cX6_readsSt 36 = .ok (.bipush 101, 2) := dk_16 101 (dk_at dksX6_readsSt_1 13 rfl rfl)
theorem dX6_readsSt_38 : decode cX6_readsSt 38 = .ok (.invokevirtual 332, 3) := dk_182 1 76 (dk_at dksX6_readsSt_1 15 rfl rfl)
theorem dX6_readsSt_41 : decode cX6_readsSt 41 = .ok (.ifCond .eq 82, 3) := dk_153 0 82 (dk_at dksX6_readsSt_1 18 rfl rfl)
theorem dX6_readsSt_44 : decode cX6_readsSt 44 = .ok (.aload_n 0, 1) := dk_42 (dk_at dksX6_readsSt_1 21 rfl rfl)
theorem dX6_readsSt_45 : decode cX6_readsSt 45 = .ok (.bipush 103, 2) := dk_16 103 (dk_at dksX6_readsSt_1 22 rfl rfl)
theorem dX6_readsSt_47 : decode cX6_readsSt 47 = .ok (.invokevirtual 332, 3) := dk_182 1 76 (dk_at dksX6_readsSt_2 0 rfl rfl)
theorem dX6_readsSt_50 : decode cX6_readsSt 50 = .ok (.ifCond .eq 73, 3) := dk_153 0 73 (dk_at dksX6_readsSt_2 3 rfl rfl)
theorem dX6_readsSt_53 : decode cX6_readsSt 53 = .ok (.aload_n 0, 1) := dk_42 (dk_at dksX6_readsSt_2 6 rfl rfl)
theorem dX6_readsSt_54 : decode cX6_readsSt 54 = .ok (.bipush 121, 2) := dk_16 121 (dk_at dksX6_readsSt_2 7 rfl rfl)
theorem dX6_readsSt_56 : decode cX6_readsSt 56 = .ok (.invokevirtual 332, 3) := dk_182 1 76 (dk_at dksX6_readsSt_2 9 rfl rfl)
theorem dX6_readsSt_59 : decode cX6_readsSt 59 = .ok (.ifCond .eq 64, 3) := dk_153 0 64 (dk_at dksX6_readsSt_2 12 rfl rfl)
theorem dX6_readsSt_62 : decode cX6_readsSt 62 = .ok (.aload_n 0, 1) := dk_42 (dk_at dksX6_readsSt_2 15 rfl rfl)
theorem dX6_readsSt_63 : decode cX6_readsSt 63 = .ok (.bipush 32, 2) := dk_16 32 (dk_at dksX6_readsSt_2 16 rfl rfl)
theorem dX6_readsSt_65 : decode cX6_readsSt 65 = .ok (.invokevirtual 332, 3) := dk_182 1 76 (dk_at dksX6_readsSt_2 18 rfl rfl)
theorem dX6_readsSt_68 : decode cX6_readsSt 68 = .ok (.ifCond .eq 55, 3) := dk_153 0 55 (dk_at dksX6_readsSt_2 21 rfl rfl)
theorem dX6_readsSt_71 : decode cX6_readsSt 71 = .ok (.aload_n 0, 1) := dk_42 (dk_at dksX6_readsSt_3 0 rfl rfl)
theorem dX6_readsSt_72 : decode cX6_readsSt 72 = .ok (.iconst 0, 1) := dk_3 (dk_at dksX6_readsSt_3 1 rfl rfl)
theorem dX6_readsSt_73 : decode cX6_readsSt 73 = .ok (.invokevirtual 329, 3) := dk_182 1 73 (dk_at dksX6_readsSt_3 2 rfl rfl)
theorem dX6_readsSt_76 : decode cX6_readsSt 76 = .ok (.ifCond .eq 47, 3) := dk_153 0 47 (dk_at dksX6_readsSt_3 5 rfl rfl)
theorem dX6_readsSt_79 : decode cX6_readsSt 79 = .ok (.aload_n 0, 1) := dk_42 (dk_at dksX6_readsSt_3 8 rfl rfl)
theorem dX6_readsSt_80 : decode cX6_readsSt 80 = .ok (.iconst 1, 1) := dk_4 (dk_at dksX6_readsSt_3 9 rfl rfl)
theorem dX6_readsSt_81 : decode cX6_readsSt 81 = .ok (.aload_n 0, 1) := dk_42 (dk_at dksX6_readsSt_3 10 rfl rfl)
theorem dX6_readsSt_82 : decode cX6_readsSt 82 = .ok (.invokevirtual 326, 3) := dk_182 1 70 (dk_at dksX6_readsSt_3 11 rfl rfl)
theorem dX6_readsSt_85 : decode cX6_readsSt 85 = .ok (.bipush 114, 2) := dk_16 114 (dk_at dksX6_readsSt_3 14 rfl rfl)
theorem dX6_readsSt_87 : decode cX6_readsSt 87 = .ok (.if_icmp .eq 21, 3) := dk_159 0 21 (dk_at dksX6_readsSt_3 16 rfl rfl)
theorem dX6_readsSt_90 : decode cX6_readsSt 90 = .ok (.aload_n 0, 1) := dk_42 (dk_at dksX6_readsSt_3 19 rfl rfl)
theorem dX6_readsSt_91 : decode cX6_readsSt 91 = .ok (.invokevirtual 326, 3) := dk_182 1 70 (dk_at dksX6_readsSt_3 20 rfl rfl)
theorem dX6_readsSt_94 : decode cX6_readsSt 94 = .ok (.bipush 115, 2) := dk_16 115 (dk_at dksX6_readsSt_4 0 rfl rfl)
theorem dX6_readsSt_96 : decode cX6_readsSt 96 = .ok (.if_icmp .eq 12, 3) := dk_159 0 12 (dk_at dksX6_readsSt_4 2 rfl rfl)
theorem dX6_readsSt_99 : decode cX6_readsSt 99 = .ok (.aload_n 0, 1) := dk_42 (dk_at dksX6_readsSt_4 5 rfl rfl)
theorem dX6_readsSt_100 : decode cX6_readsSt 100 = .ok (.invokevirtual 326, 3) := dk_182 1 70 (dk_at dksX6_readsSt_4 6 rfl rfl)
theorem dX6_readsSt_103 : decode cX6_readsSt 103 = .ok (.bipush 101, 2) := dk_16 101 (dk_at dksX6_readsSt_4 9 rfl rfl)
theorem dX6_readsSt_105 : decode cX6_readsSt 105 = .ok (.if_icmp .ne 7, 3) := dk_160 0 7 (dk_at dksX6_readsSt_4 11 rfl rfl)
theorem dX6_readsSt_108 : decode cX6_readsSt 108 = .ok (.iconst 1, 1) := dk_4 (dk_at dksX6_readsSt_4 14 rfl rfl)
theorem dX6_readsSt_109 : decode cX6_readsSt 109 = .ok (.goto 4, 3) := dk_167 0 4 (dk_at dksX6_readsSt_4 15 rfl rfl)
theorem dX6_readsSt_112 : decode cX6_readsSt 112 = .ok (.iconst 0, 1) := dk_3 (dk_at dksX6_readsSt_4 18 rfl rfl)
theorem dX6_readsSt_113 : decode cX6_readsSt 113 = .ok (.invokevirtual 344, 3) := dk_182 1 88 (dk_at dksX6_readsSt_4 19 rfl rfl)
theorem dX6_readsSt_116 : decode cX6_readsSt 116 = .ok (.ifCond .eq 7, 3) := dk_153 0 7 (dk_at dksX6_readsSt_5 0 rfl rfl)
theorem dX6_readsSt_119 : decode cX6_readsSt 119 = .ok (.iconst 1, 1) := dk_4 (dk_at dksX6_readsSt_5 3 rfl rfl)
theorem dX6_readsSt_120 : decode cX6_readsSt 120 = .ok (.goto 4, 3) := dk_167 0 4 (dk_at dksX6_readsSt_5 4 rfl rfl)
theorem dX6_readsSt_123 : decode cX6_readsSt 123 = .ok (.iconst 0, 1) := dk_3 (dk_at dksX6_readsSt_5 7 rfl rfl)
theorem dX6_readsSt_124 : decode cX6_readsSt 124 = .ok (.ireturn, 1) := dk_172 (dk_at dksX6_readsSt_5 8 rfl rfl)
theorem dX6_readsSt_125 : decode cX6_readsSt 125 = .ok (.aload_n 0, 1) := dk_42 (dk_at dksX6_readsSt_5 9 rfl rfl)
theorem dX6_readsSt_126 : decode cX6_readsSt 126 = .ok (.bipush 103, 2) := dk_16 103 (dk_at dksX6_readsSt_5 10 rfl rfl)
theorem dX6_readsSt_128 : decode cX6_readsSt 128 = .ok (.putfield 335, 3) := dk_181 1 79 (dk_at dksX6_readsSt_5 12 rfl rfl)
theorem dX6_readsSt_131 : decode cX6_readsSt 131 = .ok (.aload_n 0, 1) := dk_42 (dk_at dksX6_readsSt_5 15 rfl rfl)
theorem dX6_readsSt_132 : decode cX6_readsSt 132 = .ok (.bipush 97, 2) := dk_16 97 (dk_at dksX6_readsSt_5 16 rfl rfl)
theorem dX6_readsSt_134 : decode cX6_readsSt 134 = .ok (.invokevirtual 332, 3) := dk_182 1 76 (dk_at dksX6_readsSt_5 18 rfl rfl)
theorem dX6_readsSt_137 : decode cX6_readsSt 137 = .ok (.ifCond .eq 44, 3) := dk_153 0 44 (dk_at dksX6_readsSt_5 21 rfl rfl)
theorem dX6_readsSt_140 : decode cX6_readsSt 140 = .ok (.aload_n 0, 1) := dk_42 (dk_at dksX6_readsSt_6 0 rfl rfl)
theorem dX6_readsSt_141 : decode cX6_readsSt 141 = .ok (.bipush 114, 2) := dk_16 114 (dk_at dksX6_readsSt_6 1 rfl rfl)
theorem dX6_readsSt_143 : decode cX6_readsSt 143 = .ok (.invokevirtual 332, 3) := dk_182 1 76 (dk_at dksX6_readsSt_6 3 rfl rfl)
theorem dX6_readsSt_146 : decode cX6_readsSt 146 = .ok (.ifCond .eq 33, 3) := dk_153 0 33 (dk_at dksX6_readsSt_6 6 rfl rfl)
theorem dX6_readsSt_149 : decode cX6_readsSt 149 = .ok (.aload_n 0, 1) := dk_42 (dk_at dksX6_readsSt_6 9 rfl rfl)
theorem dX6_readsSt_150 : decode cX6_readsSt 150 = .ok (.bipush 116, 2) := dk_16 116 (dk_at dksX6_readsSt_6 10 rfl rfl)
theorem dX6_readsSt_152 : decode cX6_readsSt 152 = .ok (.invokevirtual 332, 3) := dk_182 1 76 (dk_at dksX6_readsSt_6 12 rfl rfl)
theorem dX6_readsSt_155 : decode cX6_readsSt 155 = .ok (.ifCond .eq 24, 3) := dk_153 0 24 (dk_at dksX6_readsSt_6 15 rfl rfl)
theorem dX6_readsSt_158 : decode cX6_readsSt 158 = .ok (.aload_n 0, 1) := dk_42 (dk_at dksX6_readsSt_6 18 rfl rfl)
theorem dX6_readsSt_159 : decode cX6_readsSt 159 = .ok (.bipush 32, 2) := dk_16 32 (dk_at dksX6_readsSt_6 19 rfl rfl)
theorem dX6_readsSt_161 : decode cX6_readsSt 161 = .ok (.invokevirtual 332, 3) := dk_182 1 76 (dk_at dksX6_readsSt_6 21 rfl rfl)
theorem dX6_readsSt_164 : decode cX6_readsSt 164 = .ok (.ifCond .eq 15, 3) := dk_153 0 15 (dk_at dksX6_readsSt_7 0 rfl rfl)
theorem dX6_readsSt_167 : decode cX6_readsSt 167 = .ok (.aload_n 0, 1) := dk_42 (dk_at dksX6_readsSt_7 3 rfl rfl)
theorem dX6_readsSt_168 : decode cX6_readsSt 168 = .ok (.iconst 0, 1) := dk_3 (dk_at dksX6_readsSt_7 4 rfl rfl)
theorem dX6_readsSt_169 : decode cX6_readsSt 169 = .ok (.invokevirtual 329, 3) := dk_182 1 73 (dk_at dksX6_readsSt_7 5 rfl rfl)
theorem dX6_readsSt_172 : decode cX6_readsSt 172 = .ok (.ifCond .eq 7, 3) := dk_153 0 7 (dk_at dksX6_readsSt_7 8 rfl rfl)
theorem dX6_readsSt_175 : decode cX6_readsSt 175 = .ok (.iconst 1, 1) := dk_4 (dk_at dksX6_readsSt_7 11 rfl rfl)
theorem dX6_readsSt_176 : decode cX6_readsSt 176 = .ok (.goto 4, 3) := dk_167 0 4 (dk_at dksX6_readsSt_7 12 rfl rfl)
theorem dX6_readsSt_179 : decode cX6_readsSt 179 = .ok (.iconst 0, 1) := dk_3 (dk_at dksX6_readsSt_7 15 rfl rfl)
theorem dX6_readsSt_180 : decode cX6_readsSt 180 = .ok (.ireturn, 1) := dk_172 (dk_at dksX6_readsSt_7 16 rfl rfl)
theorem dX6_readsSt_181 : decode cX6_readsSt 181 = .ok (.aload_n 0, 1) := dk_42 (dk_at dksX6_readsSt_7 17 rfl rfl)
theorem dX6_readsSt_182 : decode cX6_readsSt 182 = .ok (.bipush 104, 2) := dk_16 104 (dk_at dksX6_readsSt_7 18 rfl rfl)
theorem dX6_readsSt_184 : decode cX6_readsSt 184 = .ok (.putfield 335, 3) := dk_181 1 79 (dk_at dksX6_readsSt_7 20 rfl rfl)
theorem dX6_readsSt_187 : decode cX6_readsSt 187 = .ok (.aload_n 0, 1) := dk_42 (dk_at dksX6_readsSt_7 23 rfl rfl)
theorem dX6_readsSt_188 : decode cX6_readsSt 188 = .ok (.bipush 111, 2) := dk_16 111 (dk_at dksX6_readsSt_8 0 rfl rfl)
theorem dX6_readsSt_190 : decode cX6_readsSt 190 = .ok (.invokevirtual 332, 3) := dk_182 1 76 (dk_at dksX6_readsSt_8 2 rfl rfl)
theorem dX6_readsSt_193 : decode cX6_readsSt 193 = .ok (.ifCond .eq 35, 3) := dk_153 0 35 (dk_at dksX6_readsSt_8 5 rfl rfl)
theorem dX6_readsSt_196 : decode cX6_readsSt 196 = .ok (.aload_n 0, 1) := dk_42 (dk_at dksX6_readsSt_8 8 rfl rfl)
theorem dX6_readsSt_197 : decode cX6_readsSt 197 = .ok (.bipush 112, 2) := dk_16 112 (dk_at dksX6_readsSt_8 9 rfl rfl)
theorem dX6_readsSt_199 : decode cX6_readsSt 199 = .ok (.invokevirtual 332, 3) := dk_182 1 76 (dk_at dksX6_readsSt_8 11 rfl rfl)
theorem dX6_readsSt_202 : decode cX6_readsSt 202 = .ok (.ifCond .eq 24, 3) := dk_153 0 24 (dk_at dksX6_readsSt_8 14 rfl rfl)
theorem dX6_readsSt_205 : decode cX6_readsSt 205 = .ok (.aload_n 0, 1) := dk_42 (dk_at dksX6_readsSt_8 17 rfl rfl)
theorem dX6_readsSt_206 : decode cX6_readsSt 206 = .ok (.bipush 32, 2) := dk_16 32 (dk_at dksX6_readsSt_8 18 rfl rfl)
theorem dX6_readsSt_208 : decode cX6_readsSt 208 = .ok (.invokevirtual 332, 3) := dk_182 1 76 (dk_at dksX6_readsSt_8 20 rfl rfl)
theorem dX6_readsSt_211 : decode cX6_readsSt 211 = .ok (.ifCond .eq 15, 3) := dk_153 0 15 (dk_at dksX6_readsSt_9 0 rfl rfl)
theorem dX6_readsSt_214 : decode cX6_readsSt 214 = .ok (.aload_n 0, 1) := dk_42 (dk_at dksX6_readsSt_9 3 rfl rfl)
theorem dX6_readsSt_215 : decode cX6_readsSt 215 = .ok (.iconst 0, 1) := dk_3 (dk_at dksX6_readsSt_9 4 rfl rfl)
theorem dX6_readsSt_216 : decode cX6_readsSt 216 = .ok (.invokevirtual 329, 3) := dk_182 1 73 (dk_at dksX6_readsSt_9 5 rfl rfl)
theorem dX6_readsSt_219 : decode cX6_readsSt 219 = .ok (.ifCond .eq 7, 3) := dk_153 0 7 (dk_at dksX6_readsSt_9 8 rfl rfl)
theorem dX6_readsSt_222 : decode cX6_readsSt 222 = .ok (.iconst 1, 1) := dk_4 (dk_at dksX6_readsSt_9 11 rfl rfl)
theorem dX6_readsSt_223 : decode cX6_readsSt 223 = .ok (.goto 4, 3) := dk_167 0 4 (dk_at dksX6_readsSt_9 12 rfl rfl)
theorem dX6_readsSt_226 : decode cX6_readsSt 226 = .ok (.iconst 0, 1) := dk_3 (dk_at dksX6_readsSt_9 15 rfl rfl)
theorem dX6_readsSt_227 : decode cX6_readsSt 227 = .ok (.ireturn, 1) := dk_172 (dk_at dksX6_readsSt_9 16 rfl rfl)
theorem dX6_readsSt_228 : decode cX6_readsSt 228 = .ok (.aload_n 0, 1) := dk_42 (dk_at dksX6_readsSt_9 17 rfl rfl)
theorem dX6_readsSt_229 : decode cX6_readsSt 229 = .ok (.bipush 110, 2) := dk_16 110 (dk_at dksX6_readsSt_9 18 rfl rfl)
theorem dX6_readsSt_231 : decode cX6_readsSt 231 = .ok (.putfield 335, 3) := dk_181 1 79 (dk_at dksX6_readsSt_9 20 rfl rfl)
theorem dX6_readsSt_234 : decode cX6_readsSt 234 = .ok (.aload_n 0, 1) := dk_42 (dk_at dksX6_readsSt_9 23 rfl rfl)
theorem dX6_readsSt_235 : decode cX6_readsSt 235 = .ok (.getfield 48, 3) := dk_180 0 48 (dk_at dksX6_readsSt_10 0 rfl rfl)
theorem dX6_readsSt_238 : decode cX6_readsSt 238 = .ok (.iconst 0, 1) := dk_3 (dk_at dksX6_readsSt_10 3 rfl rfl)
theorem dX6_readsSt_239 : decode cX6_readsSt 239 = .ok (.iconst 1, 1) := dk_4 (dk_at dksX6_readsSt_10 4 rfl rfl)
theorem dX6_readsSt_240 : decode cX6_readsSt 240 = .ok (.iastore, 1) := dk_79 (dk_at dksX6_readsSt_10 5 rfl rfl)
theorem dX6_readsSt_241 : decode cX6_readsSt 241 = .ok (.aload_n 0, 1) := dk_42 (dk_at dksX6_readsSt_10 6 rfl rfl)
theorem dX6_readsSt_242 : decode cX6_readsSt 242 = .ok (.bipush 101, 2) := dk_16 101 (dk_at dksX6_readsSt_10 7 rfl rfl)
theorem dX6_readsSt_244 : decode cX6_readsSt 244 = .ok (.invokevirtual 332, 3) := dk_182 1 76 (dk_at dksX6_readsSt_10 9 rfl rfl)
theorem dX6_readsSt_247 : decode cX6_readsSt 247 = .ok (.ifCond .eq 12, 3) := dk_153 0 12 (dk_at dksX6_readsSt_10 12 rfl rfl)
theorem dX6_readsSt_250 : decode cX6_readsSt 250 = .ok (.aload_n 0, 1) := dk_42 (dk_at dksX6_readsSt_10 15 rfl rfl)
theorem dX6_readsSt_251 : decode cX6_readsSt 251 = .ok (.bipush 112, 2) := dk_16 112 (dk_at dksX6_readsSt_10 16 rfl rfl)
theorem dX6_readsSt_253 : decode cX6_readsSt 253 = .ok (.invokevirtual 332, 3) := dk_182 1 76 (dk_at dksX6_readsSt_10 18 rfl rfl)
theorem dX6_readsSt_256 : decode cX6_readsSt 256 = .ok (.ifCond .ne 5, 3) := dk_154 0 5 (dk_at dksX6_readsSt_10 21 rfl rfl)
theorem dX6_readsSt_259 : decode cX6_readsSt 259 = .ok (.iconst 0, 1) := dk_3 (dk_at dksX6_readsSt_11 0 rfl rfl)
theorem dX6_readsSt_260 : decode cX6_readsSt 260 = .ok (.ireturn, 1) := dk_172 (dk_at dksX6_readsSt_11 1 rfl rfl)
theorem dX6_readsSt_261 : decode cX6_readsSt 261 = .ok (.aload_n 0, 1) := dk_42 (dk_at dksX6_readsSt_11 2 rfl rfl)
theorem dX6_readsSt_262 : decode cX6_readsSt 262 = .ok (.bipush 32, 2) := dk_16 32 (dk_at dksX6_readsSt_11 3 rfl rfl)
theorem dX6_readsSt_264 : decode cX6_readsSt 264 = .ok (.invokevirtual 332, 3) := dk_182 1 76 (dk_at dksX6_readsSt_11 5 rfl rfl)
theorem dX6_readsSt_267 : decode cX6_readsSt 267 = .ok (.ifCond .eq 11, 3) := dk_153 0 11 (dk_at dksX6_readsSt_11 8 rfl rfl)
theorem dX6_readsSt_270 : decode cX6_readsSt 270 = .ok (.aload_n 0, 1) := dk_42 (dk_at dksX6_readsSt_11 11 rfl rfl)
theorem dX6_readsSt_271 : decode cX6_readsSt 271 = .ok (.iconst 0, 1) := dk_3 (dk_at dksX6_readsSt_11 12 rfl rfl)
theorem dX6_readsSt_272 : decode cX6_readsSt 272 = .ok (.invokevirtual 341, 3) := dk_182 1 85 (dk_at dksX6_readsSt_11 13 rfl rfl)
theorem dX6_readsSt_275 : decode cX6_readsSt 275 = .ok (.ifCond .eq 7, 3) := dk_153 0 7 (dk_at dksX6_readsSt_11 16 rfl rfl)
theorem dX6_readsSt_278 : decode cX6_readsSt 278 = .ok (.iconst 1, 1) := dk_4 (dk_at dksX6_readsSt_11 19 rfl rfl)
theorem dX6_readsSt_279 : decode cX6_readsSt 279 = .ok (.goto 4, 3) := dk_167 0 4 (dk_at dksX6_readsSt_11 20 rfl rfl)
theorem dX6_readsSt_282 : decode cX6_readsSt 282 = .ok (.iconst 0, 1) := dk_3 (dk_at dksX6_readsSt_11 23 rfl rfl)
theorem dX6_readsSt_283 : decode cX6_readsSt 283 = .ok (.ireturn, 1) := dk_172 (dk_at dksX6_readsSt_12 0 rfl rfl)
abbrev cX6_readsSe : ByteArray := prog_14_method_132_code
def yX6_readsSe : MethodName := ⟨RX6, "readsSe", "()Z"⟩
def dkwX6_readsSe_4 : List UInt8 := [153, 0, 15, 42, 3, 182, 1, 85, 153, 0, 7, 4, 167, 0, 4, 3, 172]
abbrev dktX6_readsSe_4 : List UInt8 := dkwX6_readsSe_4 ++ []
def dkwX6_readsSe_3 : List UInt8 := [16, 101, 182, 1, 76, 153, 0, 33, 42, 16, 100, 182, 1, 76, 153, 0, 24, 42, 16, 32, 182, 1, 76]
abbrev dktX6_readsSe_3 : List UInt8 := dkwX6_readsSe_3 ++ dktX6_readsSe_4
def dkwX6_readsSe_2 : List UInt8 := [153, 0, 15, 42, 4, 182, 1, 85, 153, 0, 7, 4, 167, 0, 4, 3, 172, 42, 16, 101, 181, 1, 79, 42]
abbrev dktX6_readsSe_2 : List UInt8 := dkwX6_readsSe_2 ++ dktX6_readsSe_3
def dkwX6_readsSe_1 : List UInt8 := [42, 16, 32, 182, 1, 76, 153, 0, 32, 42, 3, 182, 1, 73, 153, 0, 24, 42, 16, 32, 182, 1, 76]
abbrev dktX6_readsSe_1 : List UInt8 := dkwX6_readsSe_1 ++ dktX6_readsSe_2
def dkwX6_readsSe_0 : List UInt8 := [42, 16, 115, 181, 1, 79, 42, 16, 110, 182, 1, 76, 153, 0, 52, 42, 16, 100, 182, 1, 76, 153, 0, 41]
abbrev dktX6_readsSe_0 : List UInt8 := dkwX6_readsSe_0 ++ dktX6_readsSe_1
theorem dksX6_readsSe_0 : cX6_readsSe.data.toList.drop 0 = dktX6_readsSe_0 := by decide +kernel
theorem dksX6_readsSe_1 : cX6_readsSe.data.toList.drop 24 = dktX6_readsSe_1 := dk_seg dksX6_readsSe_0 24 rfl rfl
theorem dksX6_readsSe_2 : cX6_readsSe.data.toList.drop 47 = dktX6_readsSe_2 := dk_seg dksX6_readsSe_1 23 rfl rfl
theorem dksX6_readsSe_3 : cX6_readsSe.data.toList.drop 71 = dktX6_readsSe_3 := dk_seg dksX6_readsSe_2 24 rfl rfl
theorem dksX6_readsSe_4 : cX6_readsSe.data.toList.drop 94 = dktX6_readsSe_4 := dk_seg dksX6_readsSe_3 23 rfl rfl
theorem dX6_readsSe_0 : decode cX6_readsSe 0 = .ok (.aload_n 0, 1) := dk_42 (dk_at dksX6_readsSe_0 0 rfl rfl)
theorem dX6_readsSe_1 : decode cX6_readsSe 1 = .ok (.bipush 115, 2) := dk_16 115 (dk_at dksX6_readsSe_0 1 rfl rfl)
theorem dX6_readsSe_3 : decode cX6_readsSe 3 = .ok (.putfield 335, 3) := dk_181 1 79 (dk_at dksX6_readsSe_0 3 rfl rfl)
theorem dX6_readsSe_6 : decode cX6_readsSe 6 = .ok (.aload_n 0, 1) := dk_42 (dk_at dksX6_readsSe_0 6 rfl rfl)
theorem dX6_readsSe_7 : decode cX6_readsSe 7 = .ok (.bipush 110, 2) := dk_16 110 (dk_at dksX6_readsSe_0 7 rfl rfl)
theorem dX6_readsSe_9 : decode cX6_readsSe 9 = .ok (.invokevirtual 332, 3) := dk_182 1 76 (dk_at dksX6_readsSe_0 9 rfl rfl)
theorem dX6_readsSe_12 : decode cX6_readsSe 12 = .ok (.ifCond .eq 52, 3) := dk_153 0 52 (dk_at dksX6_readsSe_0 12 rfl rfl)
theorem dX6_readsSe_15 : decode cX6_readsSe 15 = .ok (.aload_n 0, 1) := dk_42 (dk_at dksX6_readsSe_0 15 rfl rfl)
theorem dX6_readsSe_16 : decode cX6_readsSe 16 = .ok (.bipush 100, 2) := dk_16 100 (dk_at dksX6_readsSe_0 16 rfl rfl)
theorem dX6_readsSe_18 : decode cX6_readsSe 18 = .ok (.invokevirtual 332, 3) := dk_182 1 76 (dk_at dksX6_readsSe_0 18 rfl rfl)
theorem dX6_readsSe_21 : decode cX6_readsSe 21 = .ok (.ifCond .eq 41, 3) := dk_153 0 41 (dk_at dksX6_readsSe_0 21 rfl rfl)
theorem dX6_readsSe_24 : decode cX6_readsSe 24 = .ok (.aload_n 0, 1) := dk_42 (dk_at dksX6_readsSe_1 0 rfl rfl)
theorem dX6_readsSe_25 : decode cX6_readsSe 25 = .ok (.bipush 32, 2) := dk_16 32 (dk_at dksX6_readsSe_1 1 rfl rfl)
theorem dX6_readsSe_27 : decode cX6_readsSe 27 = .ok (.invokevirtual 332, 3) := dk_182 1 76 (dk_at dksX6_readsSe_1 3 rfl rfl)
theorem dX6_readsSe_30 : decode cX6_readsSe 30 = .ok (.ifCond .eq 32, 3) := dk_153 0 32 (dk_at dksX6_readsSe_1 6 rfl rfl)
theorem dX6_readsSe_33 : decode cX6_readsSe 33 = .ok (.aload_n 0, 1) := dk_42 (dk_at dksX6_readsSe_1 9 rfl rfl)
theorem dX6_readsSe_34 : decode cX6_readsSe 34 = .ok (.iconst 0, 1) := dk_3 (dk_at dksX6_readsSe_1 10 rfl rfl)
theorem dX6_readsSe_35 : decode cX6_readsSe 35 = .ok (.invokevirtual 329, 3) := dk_182 1 73 (dk_at dksX6_readsSe_1 11 rfl rfl)
theorem dX6_readsSe_38 : decode cX6_readsSe 38 = .ok (.ifCond .eq 24, 3) := dk_153 0 24 (dk_at dksX6_readsSe_1 14 rfl rfl)
theorem dX6_readsSe_41 : decode cX6_readsSe 41 = .ok (.aload_n 0, 1) := dk_42 (dk_at dksX6_readsSe_1 17 rfl rfl)
theorem dX6_readsSe_42 : decode cX6_readsSe 42 = .ok (.bipush 32, 2) := dk_16 32 (dk_at dksX6_readsSe_1 18 rfl rfl)
theorem dX6_readsSe_44 : decode cX6_readsSe 44 = .ok (.invokevirtual 332, 3) := dk_182 1 76 (dk_at dksX6_readsSe_1 20 rfl rfl)
theorem dX6_readsSe_47 : decode cX6_readsSe 47 = .ok (.ifCond .eq 15, 3) := dk_153 0 15 (dk_at dksX6_readsSe_2 0 rfl rfl)
theorem dX6_readsSe_50 : decode cX6_readsSe 50 = .ok (.aload_n 0, 1) := dk_42 (dk_at dksX6_readsSe_2 3 rfl rfl)
theorem dX6_readsSe_51 : decode cX6_readsSe 51 = .ok (.iconst 1, 1) := dk_4 (dk_at dksX6_readsSe_2 4 rfl rfl)
theorem dX6_readsSe_52 : decode cX6_readsSe 52 = .ok (.invokevirtual 341, 3) := dk_182 1 85 (dk_at dksX6_readsSe_2 5 rfl rfl)
theorem dX6_readsSe_55 : decode cX6_readsSe 55 = .ok (.ifCond .eq 7, 3) := dk_153 0 7 (dk_at dksX6_readsSe_2 8 rfl rfl)
theorem dX6_readsSe_58 : decode cX6_readsSe 58 = .ok (.iconst 1, 1) := dk_4 (dk_at dksX6_readsSe_2 11 rfl rfl)
theorem dX6_readsSe_59 : decode cX6_readsSe 59 = .ok (.goto 4, 3) := dk_167 0 4 (dk_at dksX6_readsSe_2 12 rfl rfl)
theorem dX6_readsSe_62 : decode cX6_readsSe 62 = .ok (.iconst 0, 1) := dk_3 (dk_at dksX6_readsSe_2 15 rfl rfl)
theorem dX6_readsSe_63 : decode cX6_readsSe 63 = .ok (.ireturn, 1) := dk_172 (dk_at dksX6_readsSe_2 16 rfl rfl)
theorem dX6_readsSe_64 : decode cX6_readsSe 64 = .ok (.aload_n 0, 1) := dk_42 (dk_at dksX6_readsSe_2 17 rfl rfl)
theorem dX6_readsSe_65 : decode cX6_readsSe 65 = .ok (.bipush 101, 2) := dk_16 101 (dk_at dksX6_readsSe_2 18 rfl rfl)
theorem dX6_readsSe_67 : decode cX6_readsSe 67 = .ok (.putfield 335, 3) := dk_181 1 79 (dk_at dksX6_readsSe_2 20 rfl rfl)
theorem dX6_readsSe_70 : decode cX6_readsSe 70 = .ok (.aload_n 0, 1) := dk_42 (dk_at dksX6_readsSe_2 23 rfl rfl)
theorem dX6_readsSe_71 : decode cX6_readsSe 71 = .ok (.bipush 101, 2) := dk_16 101 (dk_at dksX6_readsSe_3 0 rfl rfl)
theorem dX6_readsSe_73 : decode cX6_readsSe 73 = .ok (.invokevirtual 332, 3) := dk_182 1 76 (dk_at dksX6_readsSe_3 2 rfl rfl)
theorem dX6_readsSe_76 : decode cX6_readsSe 76 = .ok (.ifCond .eq 33, 3) := dk_153 0 33 (dk_at dksX6_readsSe_3 5 rfl rfl)
theorem dX6_readsSe_79 : decode cX6_readsSe 79 = .ok (.aload_n 0, 1) := dk_42 (dk_at dksX6_readsSe_3 8 rfl rfl)
theorem dX6_readsSe_80 : decode cX6_readsSe 80 = .ok (.bipush 100, 2) := dk_16 100 (dk_at dksX6_readsSe_3 9 rfl rfl)
theorem dX6_readsSe_82 : decode cX6_readsSe 82 = .ok (.invokevirtual 332, 3) := dk_182 1 76 (dk_at dksX6_readsSe_3 11 rfl rfl)
theorem dX6_readsSe_85 : decode cX6_readsSe 85 = .ok (.ifCond .eq 24, 3) := dk_153 0 24 (dk_at dksX6_readsSe_3 14 rfl rfl)
theorem dX6_readsSe_88 : decode cX6_readsSe 88 = .ok (.aload_n 0, 1) := dk_42 (dk_at dksX6_readsSe_3 17 rfl rfl)
theorem dX6_readsSe_89 : decode cX6_readsSe 89 = .ok (.bipush 32, 2) := dk_16 32 (dk_at dksX6_readsSe_3 18 rfl rfl)
theorem dX6_readsSe_91 : decode cX6_readsSe 91 = .ok (.invokevirtual 332, 3) := dk_182 1 76 (dk_at dksX6_readsSe_3 20 rfl rfl)
theorem dX6_readsSe_94 : decode cX6_readsSe 94 = .ok (.ifCond .eq 15, 3) := dk_153 0 15 (dk_at dksX6_readsSe_4 0 rfl rfl)
theorem dX6_readsSe_97 : decode cX6_readsSe 97 = .ok (.aload_n 0, 1) := dk_42 (dk_at dksX6_readsSe_4 3 rfl rfl)
theorem dX6_readsSe_98 : decode cX6_readsSe 98 = .ok (.iconst 0, 1) := dk_3 (dk_at dksX6_readsSe_4 4 rfl rfl)
theorem dX6_readsSe_99 : decode cX6_readsSe 99 = .ok (.invokevirtual 341, 3) := dk_182 1 85 (dk_at dksX6_readsSe_4 5 rfl rfl)
theorem dX6_readsSe_102 : decode cX6_readsSe 102 = .ok (.ifCond .eq 7, 3) := dk_153 0 7 (dk_at dksX6_readsSe_4 8 rfl rfl)
theorem dX6_readsSe_105 : decode cX6_readsSe 105 = .ok (.iconst 1, 1) := dk_4 (dk_at dksX6_readsSe_4 11 rfl rfl)
theorem dX6_readsSe_106 : decode cX6_readsSe 106 = .ok (.goto 4, 3) := dk_167 0 4 (dk_at dksX6_readsSe_4 12 rfl rfl)
theorem dX6_readsSe_109 : decode cX6_readsSe 109 = .ok (.iconst 0, 1) := dk_3 (dk_at dksX6_readsSe_4 15 rfl rfl)
theorem dX6_readsSe_110 : decode cX6_readsSe 110 = .ok (.ireturn, 1) := dk_172 (dk_at dksX6_readsSe_4 16 rfl rfl)
abbrev cX6_doesAll : ByteArray := prog_14_method_138_code
def yX6_doesAll : MethodName := ⟨RX6, "doesAll", "()Z"⟩
def dkwX6_doesAll_2 : List UInt8 := [180, 1, 107, 4, 96, 181, 1, 107, 42, 16, 59, 182, 1, 76, 60, 167, 255, 208, 4, 172]
abbrev dktX6_doesAll_2 : List UInt8 := dkwX6_doesAll_2 ++ []
def dkwX6_doesAll_1 : List UInt8 := [182, 1, 110, 181, 1, 113, 42, 180, 1, 113, 153, 0, 5, 3, 172, 42, 182, 1, 116, 87, 42, 89]
abbrev dktX6_doesAll_1 : List UInt8 := dkwX6_doesAll_1 ++ dktX6_doesAll_2
def dkwX6_doesAll_0 : List UInt8 := [42, 3, 181, 1, 107, 42, 3, 181, 1, 67, 4, 60, 27, 153, 0, 50, 42, 182, 1, 104, 87, 42, 42]
abbrev dktX6_doesAll_0 : List UInt8 := dkwX6_doesAll_0 ++ dktX6_doesAll_1
theorem dksX6_doesAll_0 : cX6_doesAll.data.toList.drop 0 = dktX6_doesAll_0 := by decide +kernel
theorem dksX6_doesAll_1 : cX6_doesAll.data.toList.drop 23 = dktX6_doesAll_1 := dk_seg dksX6_doesAll_0 23 rfl rfl
theorem dksX6_doesAll_2 : cX6_doesAll.data.toList.drop 45 = dktX6_doesAll_2 := dk_seg dksX6_doesAll_1 22 rfl rfl
theorem dX6_doesAll_0 : decode cX6_doesAll 0 = .ok (.aload_n 0, 1) := dk_42 (dk_at dksX6_doesAll_0 0 rfl rfl)
theorem dX6_doesAll_1 : decode cX6_doesAll 1 = .ok (.iconst 0, 1) := dk_3 (dk_at dksX6_doesAll_0 1 rfl rfl)
theorem dX6_doesAll_2 : decode cX6_doesAll 2 = .ok (.putfield 363, 3) := dk_181 1 107 (dk_at dksX6_doesAll_0 2 rfl rfl)
theorem dX6_doesAll_5 : decode cX6_doesAll 5 = .ok (.aload_n 0, 1) := dk_42 (dk_at dksX6_doesAll_0 5 rfl rfl)
theorem dX6_doesAll_6 : decode cX6_doesAll 6 = .ok (.iconst 0, 1) := dk_3 (dk_at dksX6_doesAll_0 6 rfl rfl)
theorem dX6_doesAll_7 : decode cX6_doesAll 7 = .ok (.putfield 323, 3) := dk_181 1 67 (dk_at dksX6_doesAll_0 7 rfl rfl)
theorem dX6_doesAll_10 : decode cX6_doesAll 10 = .ok (.iconst 1, 1) := dk_4 (dk_at dksX6_doesAll_0 10 rfl rfl)
theorem dX6_doesAll_11 : decode cX6_doesAll 11 = .ok (.istore_n 1, 1) := dk_60 (dk_at dksX6_doesAll_0 11 rfl rfl)
theorem dX6_doesAll_12 : decode cX6_doesAll 12 = .ok (.iload_n 1, 1) := dk_27 (dk_at dksX6_doesAll_0 12 rfl rfl)
theorem dX6_doesAll_13 : decode cX6_doesAll 13 = .ok (.ifCond .eq 50, 3) := dk_153 0 50 (dk_at dksX6_doesAll_0 13 rfl rfl)
theorem dX6_doesAll_16 : decode cX6_doesAll 16 = .ok (.aload_n 0, 1) := dk_42 (dk_at dksX6_doesAll_0 16 rfl rfl)
theorem dX6_doesAll_17 : decode cX6_doesAll 17 = .ok (.invokevirtual 360, 3) := dk_182 1 104 (dk_at dksX6_doesAll_0 17 rfl rfl)
theorem dX6_doesAll_20 : decode cX6_doesAll 20 = .ok (.pop, 1) := dk_87 (dk_at dksX6_doesAll_0 20 rfl rfl)
theorem dX6_doesAll_21 : decode cX6_doesAll 21 = .ok (.aload_n 0, 1) := dk_42 (dk_at dksX6_doesAll_0 21 rfl rfl)
theorem dX6_doesAll_22 : decode cX6_doesAll 22 = .ok (.aload_n 0, 1) := dk_42 (dk_at dksX6_doesAll_0 22 rfl rfl)
theorem dX6_doesAll_23 : decode cX6_doesAll 23 = .ok (.invokevirtual 366, 3) := dk_182 1 110 (dk_at dksX6_doesAll_1 0 rfl rfl)
theorem dX6_doesAll_26 : decode cX6_doesAll 26 = .ok (.putfield 369, 3) := dk_181 1 113 (dk_at dksX6_doesAll_1 3 rfl rfl)
theorem dX6_doesAll_29 : decode cX6_doesAll 29 = .ok (.aload_n 0, 1) := dk_42 (dk_at dksX6_doesAll_1 6 rfl rfl)
theorem dX6_doesAll_30 : decode cX6_doesAll 30 = .ok (.getfield 369, 3) := dk_180 1 113 (dk_at dksX6_doesAll_1 7 rfl rfl)
theorem dX6_doesAll_33 : decode cX6_doesAll 33 = .ok (.ifCond .eq 5, 3) := dk_153 0 5 (dk_at dksX6_doesAll_1 10 rfl rfl)
theorem dX6_doesAll_36 : decode cX6_doesAll 36 = .ok (.iconst 0, 1) := dk_3 (dk_at dksX6_doesAll_1 13 rfl rfl)
theorem dX6_doesAll_37 : decode cX6_doesAll 37 = .ok (.ireturn, 1) := dk_172 (dk_at dksX6_doesAll_1 14 rfl rfl)
theorem dX6_doesAll_38 : decode cX6_doesAll 38 = .ok (.aload_n 0, 1) := dk_42 (dk_at dksX6_doesAll_1 15 rfl rfl)
theorem dX6_doesAll_39 : decode cX6_doesAll 39 = .ok (.invokevirtual 372, 3) := dk_182 1 116 (dk_at dksX6_doesAll_1 16 rfl rfl)
theorem dX6_doesAll_42 : decode cX6_doesAll 42 = .ok (.pop, 1) := dk_87 (dk_at dksX6_doesAll_1 19 rfl rfl)
theorem dX6_doesAll_43 : decode cX6_doesAll 43 = .ok (.aload_n 0, 1) := dk_42 (dk_at dksX6_doesAll_1 20 rfl rfl)
theorem dX6_doesAll_44 : decode cX6_doesAll 44 = .ok (.dup, 1) := dk_89 (dk_at dksX6_doesAll_1 21 rfl rfl)
theorem dX6_doesAll_45 : decode cX6_doesAll 45 = .ok (.getfield 363, 3) := dk_180 1 107 (dk_at dksX6_doesAll_2 0 rfl rfl)
theorem dX6_doesAll_48 : decode cX6_doesAll 48 = .ok (.iconst 1, 1) := dk_4 (dk_at dksX6_doesAll_2 3 rfl rfl)
theorem dX6_doesAll_49 : decode cX6_doesAll 49 = .ok (.iadd, 1) := dk_96 (dk_at dksX6_doesAll_2 4 rfl rfl)
theorem dX6_doesAll_50 : decode cX6_doesAll 50 = .ok (.putfield 363, 3) := dk_181 1 107 (dk_at dksX6_doesAll_2 5 rfl rfl)
theorem dX6_doesAll_53 : decode cX6_doesAll 53 = .ok (.aload_n 0, 1) := dk_42 (dk_at dksX6_doesAll_2 8 rfl rfl)
theorem dX6_doesAll_54 : decode cX6_doesAll 54 = .ok (.bipush 59, 2) := dk_16 59 (dk_at dksX6_doesAll_2 9 rfl rfl)
theorem dX6_doesAll_56 : decode cX6_doesAll 56 = .ok (.invokevirtual 332, 3) := dk_182 1 76 (dk_at dksX6_doesAll_2 11 rfl rfl)
theorem dX6_doesAll_59 : decode cX6_doesAll 59 = .ok (.istore_n 1, 1) := dk_60 (dk_at dksX6_doesAll_2 14 rfl rfl)
theorem dX6_doesAll_60 : decode cX6_doesAll 60 = .ok (.goto (-48), 3) := dk_167 255 208 (dk_at dksX6_doesAll_2 15 rfl rfl)
theorem dX6_doesAll_63 : decode cX6_doesAll 63 = .ok (.iconst 1, 1) := dk_4 (dk_at dksX6_doesAll_2 18 rfl rfl)
theorem dX6_doesAll_64 : decode cX6_doesAll 64 = .ok (.ireturn, 1) := dk_172 (dk_at dksX6_doesAll_2 19 rfl rfl)
abbrev cX6_notNow : ByteArray := prog_14_method_136_code
def yX6_notNow : MethodName := ⟨RX6, "notNow", "()I"⟩
def dkwX6_notNow_5 : List UInt8 := [172, 27, 184, 0, 180, 172, 27, 184, 0, 244, 172]
abbrev dktX6_notNow_5 : List UInt8 := dkwX6_notNow_5 ++ []
def dkwX6_notNow_4 : List UInt8 := [172, 42, 27, 182, 0, 142, 172, 42, 27, 182, 0, 155, 172, 42, 27, 28, 182, 0, 168, 172, 27, 184, 0, 186]
abbrev dktX6_notNow_4 : List UInt8 := dkwX6_notNow_4 ++ dktX6_notNow_5
def dkwX6_notNow_3 : List UInt8 := [182, 0, 174, 172, 42, 27, 28, 182, 0, 130, 172, 42, 27, 28, 182, 0, 139, 172, 42, 27, 28, 182, 0, 136]
abbrev dktX6_notNow_3 : List UInt8 := dkwX6_notNow_3 ++ dktX6_notNow_4
def dkwX6_notNow_2 : List UInt8 := [42, 27, 28, 182, 0, 106, 172, 42, 27, 28, 182, 0, 121, 172, 42, 27, 28, 42, 180, 0, 48, 5, 46]
abbrev dktX6_notNow_2 : List UInt8 := dkwX6_notNow_2 ++ dktX6_notNow_3
def dkwX6_notNow_1 : List UInt8 := [170, 0, 0, 0, 0, 175, 0, 0, 0, 97, 0, 0, 0, 117, 0, 0, 0, 98, 0, 0, 0, 175, 0, 0, 0, 170, 0, 0, 0, 175, 0, 0, 0, 165, 0, 0, 0, 175, 0, 0, 0, 146, 0, 0, 0, 152, 0, 0, 0, 112, 0, 0, 0, 175, 0, 0, 0, 175, 0, 0, 0, 175, 0, 0, 0, 175, 0, 0, 0, 175, 0, 0, 0, 175, 0, 0, 0, 132, 0, 0, 0, 175, 0, 0, 0, 139, 0, 0, 0, 158, 0, 0, 0, 105, 0, 0, 0, 125]
abbrev dktX6_notNow_1 : List UInt8 := dkwX6_notNow_1 ++ dktX6_notNow_2
def dkwX6_notNow_0 : List UInt8 := [42, 180, 0, 48, 3, 46, 60, 42, 180, 0, 48, 4, 46, 61, 42, 180, 1, 79]
abbrev dktX6_notNow_0 : List UInt8 := dkwX6_notNow_0 ++ dktX6_notNow_1
theorem dksX6_notNow_0 : cX6_notNow.data.toList.drop 0 = dktX6_notNow_0 := by decide +kernel
theorem dksX6_notNow_1 : cX6_notNow.data.toList.drop 18 = dktX6_notNow_1 := dk_seg dksX6_notNow_0 18 rfl rfl
theorem dksX6_notNow_2 : cX6_notNow.data.toList.drop 116 = dktX6_notNow_2 := dk_seg dksX6_notNow_1 98 rfl rfl
theorem dksX6_notNow_3 : cX6_notNow.data.toList.drop 139 = dktX6_notNow_3 := dk_seg dksX6_notNow_2 23 rfl rfl
theorem dksX6_notNow_4 : cX6_notNow.data.toList.drop 163 = dktX6_notNow_4 := dk_seg dksX6_notNow_3 24 rfl rfl
theorem dksX6_notNow_5 : cX6_notNow.data.toList.drop 187 = dktX6_notNow_5 := dk_seg dksX6_notNow_4 24 rfl rfl
theorem dX6_notNow_0 : decode cX6_notNow 0 = .ok (.aload_n 0, 1) := dk_42 (dk_at dksX6_notNow_0 0 rfl rfl)
theorem dX6_notNow_1 : decode cX6_notNow 1 = .ok (.getfield 48, 3) := dk_180 0 48 (dk_at dksX6_notNow_0 1 rfl rfl)
theorem dX6_notNow_4 : decode cX6_notNow 4 = .ok (.iconst 0, 1) := dk_3 (dk_at dksX6_notNow_0 4 rfl rfl)
theorem dX6_notNow_5 : decode cX6_notNow 5 = .ok (.iaload, 1) := dk_46 (dk_at dksX6_notNow_0 5 rfl rfl)
theorem dX6_notNow_6 : decode cX6_notNow 6 = .ok (.istore_n 1, 1) := dk_60 (dk_at dksX6_notNow_0 6 rfl rfl)
theorem dX6_notNow_7 : decode cX6_notNow 7 = .ok (.aload_n 0, 1) := dk_42 (dk_at dksX6_notNow_0 7 rfl rfl)
theorem dX6_notNow_8 : decode cX6_notNow 8 = .ok (.getfield 48, 3) := dk_180 0 48 (dk_at dksX6_notNow_0 8 rfl rfl)
theorem dX6_notNow_11 : decode cX6_notNow 11 = .ok (.iconst 1, 1) := dk_4 (dk_at dksX6_notNow_0 11 rfl rfl)
theorem dX6_notNow_12 : decode cX6_notNow 12 = .ok (.iaload, 1) := dk_46 (dk_at dksX6_notNow_0 12 rfl rfl)
theorem dX6_notNow_13 : decode cX6_notNow 13 = .ok (.istore_n 2, 1) := dk_61 (dk_at dksX6_notNow_0 13 rfl rfl)
theorem dX6_notNow_14 : decode cX6_notNow 14 = .ok (.aload_n 0, 1) := dk_42 (dk_at dksX6_notNow_0 14 rfl rfl)
theorem dX6_notNow_15 : decode cX6_notNow 15 = .ok (.getfield 335, 3) := dk_180 1 79 (dk_at dksX6_notNow_0 15 rfl rfl)
theorem dX6_notNow_18 : decode cX6_notNow 18 = .ok (.tableswitch 175 97 117 #[98, 175, 170, 175, 165, 175, 146, 152, 112, 175, 175, 175, 175, 175, 175, 132, 175, 139, 158, 105, 125], 98) := by decide +kernel
theorem dX6_notNow_116 : decode cX6_notNow 116 = .ok (.aload_n 0, 1) := dk_42 (dk_at dksX6_notNow_2 0 rfl rfl)
theorem dX6_notNow_117 : decode cX6_notNow 117 = .ok (.iload_n 1, 1) := dk_27 (dk_at dksX6_notNow_2 1 rfl rfl)
theorem dX6_notNow_118 : decode cX6_notNow 118 = .ok (.iload_n 2, 1) := dk_28 (dk_at dksX6_notNow_2 2 rfl rfl)
theorem dX6_notNow_119 : decode cX6_notNow 119 = .ok (.invokevirtual 106, 3) := dk_182 0 106 (dk_at dksX6_notNow_2 3 rfl rfl)
theorem dX6_notNow_122 : decode cX6_notNow 122 = .ok (.ireturn, 1) := dk_172 (dk_at dksX6_notNow_2 6 rfl rfl)
theorem dX6_notNow_123 : decode cX6_notNow 123 = .ok (.aload_n 0, 1) := dk_42 (dk_at dksX6_notNow_2 7 rfl rfl)
theorem dX6_notNow_124 : decode cX6_notNow 124 = .ok (.iload_n 1, 1) := dk_27 (dk_at dksX6_notNow_2 8 rfl rfl)
theorem dX6_notNow_125 : decode cX6_notNow 125 = .ok (.iload_n 2, 1) := dk_28 (dk_at dksX6_notNow_2 9 rfl rfl)
theorem dX6_notNow_126 : decode cX6_notNow 126 = .ok (.invokevirtual 121, 3) := dk_182 0 121 (dk_at dksX6_notNow_2 10 rfl rfl)
theorem dX6_notNow_129 : decode cX6_notNow 129 = .ok (.ireturn, 1) := dk_172 (dk_at dksX6_notNow_2 13 rfl rfl)
theorem dX6_notNow_130 : decode cX6_notNow 130 = .ok (.aload_n 0, 1) := dk_42 (dk_at dksX6_notNow_2 14 rfl rfl)
theorem dX6_notNow_131 : decode cX6_notNow 131 = .ok (.iload_n 1, 1) := dk_27 (dk_at dksX6_notNow_2 15 rfl rfl)
theorem dX6_notNow_132 : decode cX6_notNow 132 = .ok (.iload_n 2, 1) := dk_28 (dk_at dksX6_notNow_2 16 rfl rfl)
theorem dX6_notNow_133 : decode cX6_notNow 133 = .ok (.aload_n 0, 1) := dk_42 (dk_at dksX6_notNow_2 17 rfl rfl)
theorem dX6_notNow_134 : decode cX6_notNow 134 = .ok (.getfield 48, 3) := dk_180 0 48 (dk_at dksX6_notNow_2 18 rfl rfl)
theorem dX6_notNow_137 : decode cX6_notNow 137 = .ok (.iconst 2, 1) := dk_5 (dk_at dksX6_notNow_2 21 rfl rfl)
theorem dX6_notNow_138 : decode cX6_notNow 138 = .ok (.iaload, 1) := dk_46 (dk_at dksX6_notNow_2 22 rfl rfl)
theorem dX6_notNow_139 : decode cX6_notNow 139 = .ok (.invokevirtual 174, 3) := dk_182 0 174 (dk_at dksX6_notNow_3 0 rfl rfl)
theorem dX6_notNow_142 : decode cX6_notNow 142 = .ok (.ireturn, 1) := dk_172 (dk_at dksX6_notNow_3 3 rfl rfl)
theorem dX6_notNow_143 : decode cX6_notNow 143 = .ok (.aload_n 0, 1) := dk_42 (dk_at dksX6_notNow_3 4 rfl rfl)
theorem dX6_notNow_144 : decode cX6_notNow 144 = .ok (.iload_n 1, 1) := dk_27 (dk_at dksX6_notNow_3 5 rfl rfl)
theorem dX6_notNow_145 : decode cX6_notNow 145 = .ok (.iload_n 2, 1) := dk_28 (dk_at dksX6_notNow_3 6 rfl rfl)
theorem dX6_notNow_146 : decode cX6_notNow 146 = .ok (.invokevirtual 130, 3) := dk_182 0 130 (dk_at dksX6_notNow_3 7 rfl rfl)
theorem dX6_notNow_149 : decode cX6_notNow 149 = .ok (.ireturn, 1) := dk_172 (dk_at dksX6_notNow_3 10 rfl rfl)
theorem dX6_notNow_150 : decode cX6_notNow 150 = .ok (.aload_n 0, 1) := dk_42 (dk_at dksX6_notNow_3 11 rfl rfl)
theorem dX6_notNow_151 : decode cX6_notNow 151 = .ok (.iload_n 1, 1) := dk_27 (dk_at dksX6_notNow_3 12 rfl rfl)
theorem dX6_notNow_152 : decode cX6_notNow 152 = .ok (.iload_n 2, 1) := dk_28 (dk_at dksX6_notNow_3 13 rfl rfl)
theorem dX6_notNow_153 : decode cX6_notNow 153 = .ok (.invokevirtual 139, 3) := dk_182 0 139 (dk_at dksX6_notNow_3 14 rfl rfl)
theorem dX6_notNow_156 : decode cX6_notNow 156 = .ok (.ireturn, 1) := dk_172 (dk_at dksX6_notNow_3 17 rfl rfl)
theorem dX6_notNow_157 : decode cX6_notNow 157 = .ok (.aload_n 0, 1) := dk_42 (dk_at dksX6_notNow_3 18 rfl rfl)
theorem dX6_notNow_158 : decode cX6_notNow 158 = .ok (.iload_n 1, 1) := dk_27 (dk_at dksX6_notNow_3 19 rfl rfl)
theorem dX6_notNow_159 : decode cX6_notNow 159 = .ok (.iload_n 2, 1) := dk_28 (dk_at dksX6_notNow_3 20 rfl rfl)
theorem dX6_notNow_160 : decode cX6_notNow 160 = .ok (.invokevirtual 136, 3) := dk_182 0 136 (dk_at dksX6_notNow_3 21 rfl rfl)
theorem dX6_notNow_163 : decode cX6_notNow 163 = .ok (.ireturn, 1) := dk_172 (dk_at dksX6_notNow_4 0 rfl rfl)
theorem dX6_notNow_164 : decode cX6_notNow 164 = .ok (.aload_n 0, 1) := dk_42 (dk_at dksX6_notNow_4 1 rfl rfl)
theorem dX6_notNow_165 : decode cX6_notNow 165 = .ok (.iload_n 1, 1) := dk_27 (dk_at dksX6_notNow_4 2 rfl rfl)
theorem dX6_notNow_166 : decode cX6_notNow 166 = .ok (.invokevirtual 142, 3) := dk_182 0 142 (dk_at dksX6_notNow_4 3 rfl rfl)
theorem dX6_notNow_169 : decode cX6_notNow 169 = .ok (.ireturn, 1) := dk_172 (dk_at dksX6_notNow_4 6 rfl rfl)
theorem dX6_notNow_170 : decode cX6_notNow 170 = .ok (.aload_n 0, 1) := dk_42 (dk_at dksX6_notNow_4 7 rfl rfl)
theorem dX6_notNow_171 : decode cX6_notNow 171 = .ok (.iload_n 1, 1) := dk_27 (dk_at dksX6_notNow_4 8 rfl rfl)
theorem dX6_notNow_172 : decode cX6_notNow 172 = .ok (.invokevirtual 155, 3) := dk_182 0 155 (dk_at dksX6_notNow_4 9 rfl rfl)
theorem dX6_notNow_175 : decode cX6_notNow 175 = .ok (.ireturn, 1) := dk_172 (dk_at dksX6_notNow_4 12 rfl rfl)
theorem dX6_notNow_176 : decode cX6_notNow 176 = .ok (.aload_n 0, 1) := dk_42 (dk_at dksX6_notNow_4 13 rfl rfl)
theorem dX6_notNow_177 : decode cX6_notNow 177 = .ok (.iload_n 1, 1) := dk_27 (dk_at dksX6_notNow_4 14 rfl rfl)
theorem dX6_notNow_178 : decode cX6_notNow 178 = .ok (.iload_n 2, 1) := dk_28 (dk_at dksX6_notNow_4 15 rfl rfl)
theorem dX6_notNow_179 : decode cX6_notNow 179 = .ok (.invokevirtual 168, 3) := dk_182 0 168 (dk_at dksX6_notNow_4 16 rfl rfl)
theorem dX6_notNow_182 : decode cX6_notNow 182 = .ok (.ireturn, 1) := dk_172 (dk_at dksX6_notNow_4 19 rfl rfl)
theorem dX6_notNow_183 : decode cX6_notNow 183 = .ok (.iload_n 1, 1) := dk_27 (dk_at dksX6_notNow_4 20 rfl rfl)
theorem dX6_notNow_184 : decode cX6_notNow 184 = .ok (.invokestatic 186, 3) := dk_184 0 186 (dk_at dksX6_notNow_4 21 rfl rfl)
theorem dX6_notNow_187 : decode cX6_notNow 187 = .ok (.ireturn, 1) := dk_172 (dk_at dksX6_notNow_5 0 rfl rfl)
theorem dX6_notNow_188 : decode cX6_notNow 188 = .ok (.iload_n 1, 1) := dk_27 (dk_at dksX6_notNow_5 1 rfl rfl)
theorem dX6_notNow_189 : decode cX6_notNow 189 = .ok (.invokestatic 180, 3) := dk_184 0 180 (dk_at dksX6_notNow_5 2 rfl rfl)
theorem dX6_notNow_192 : decode cX6_notNow 192 = .ok (.ireturn, 1) := dk_172 (dk_at dksX6_notNow_5 5 rfl rfl)
theorem dX6_notNow_193 : decode cX6_notNow 193 = .ok (.iload_n 1, 1) := dk_27 (dk_at dksX6_notNow_5 6 rfl rfl)
theorem dX6_notNow_194 : decode cX6_notNow 194 = .ok (.invokestatic 244, 3) := dk_184 0 244 (dk_at dksX6_notNow_5 7 rfl rfl)
theorem dX6_notNow_197 : decode cX6_notNow 197 = .ok (.ireturn, 1) := dk_172 (dk_at dksX6_notNow_5 10 rfl rfl)
abbrev cX6_doesNow : ByteArray := prog_14_method_137_code
def yX6_doesNow : MethodName := ⟨RX6, "doesNow", "()I"⟩
def dkwX6_doesNow_5 : List UInt8 := [5, 27, 182, 0, 183, 172, 42, 4, 27, 182, 0, 183, 172, 42, 27, 182, 0, 247, 172]
abbrev dktX6_doesNow_5 : List UInt8 := dkwX6_doesNow_5 ++ []
def dkwX6_doesNow_4 : List UInt8 := [182, 0, 124, 172, 42, 27, 182, 0, 145, 172, 42, 27, 182, 0, 158, 172, 42, 27, 28, 182, 0, 171, 172, 42]
abbrev dktX6_doesNow_4 : List UInt8 := dkwX6_doesNow_4 ++ dktX6_doesNow_5
def dkwX6_doesNow_3 : List UInt8 := [182, 0, 177, 172, 42, 27, 28, 182, 0, 133, 172, 42, 27, 6, 28, 182, 0, 124, 172, 42, 27, 8, 28]
abbrev dktX6_doesNow_3 : List UInt8 := dkwX6_doesNow_3 ++ dktX6_doesNow_4
def dkwX6_doesNow_2 : List UInt8 := [42, 27, 28, 182, 0, 115, 172, 42, 27, 7, 28, 182, 0, 124, 172, 42, 27, 28, 42, 180, 0, 48, 5, 46]
abbrev dktX6_doesNow_2 : List UInt8 := dkwX6_doesNow_2 ++ dktX6_doesNow_3
def dkwX6_doesNow_1 : List UInt8 := [170, 0, 0, 0, 0, 182, 0, 0, 0, 97, 0, 0, 0, 117, 0, 0, 0, 98, 0, 0, 0, 182, 0, 0, 0, 175, 0, 0, 0, 182, 0, 0, 0, 168, 0, 0, 0, 182, 0, 0, 0, 149, 0, 0, 0, 155, 0, 0, 0, 113, 0, 0, 0, 182, 0, 0, 0, 182, 0, 0, 0, 182, 0, 0, 0, 182, 0, 0, 0, 182, 0, 0, 0, 182, 0, 0, 0, 133, 0, 0, 0, 182, 0, 0, 0, 141, 0, 0, 0, 161, 0, 0, 0, 105, 0, 0, 0, 126]
abbrev dktX6_doesNow_1 : List UInt8 := dkwX6_doesNow_1 ++ dktX6_doesNow_2
def dkwX6_doesNow_0 : List UInt8 := [42, 180, 0, 48, 3, 46, 60, 42, 180, 0, 48, 4, 46, 61, 42, 180, 1, 79]
abbrev dktX6_doesNow_0 : List UInt8 := dkwX6_doesNow_0 ++ dktX6_doesNow_1
theorem dksX6_doesNow_0 : cX6_doesNow.data.toList.drop 0 = dktX6_doesNow_0 := by decide +kernel
theorem dksX6_doesNow_1 : cX6_doesNow.data.toList.drop 18 = dktX6_doesNow_1 := dk_seg dksX6_doesNow_0 18 rfl rfl
theorem dksX6_doesNow_2 : cX6_doesNow.data.toList.drop 116 = dktX6_doesNow_2 := dk_seg dksX6_doesNow_1 98 rfl rfl
theorem dksX6_doesNow_3 : cX6_doesNow.data.toList.drop 140 = dktX6_doesNow_3 := dk_seg dksX6_doesNow_2 24 rfl rfl
theorem dksX6_doesNow_4 : cX6_doesNow.data.toList.drop 163 = dktX6_doesNow_4 := dk_seg dksX6_doesNow_3 23 rfl rfl
theorem dksX6_doesNow_5 : cX6_doesNow.data.toList.drop 187 = dktX6_doesNow_5 := dk_seg dksX6_doesNow_4 24 rfl rfl
theorem dX6_doesNow_0 : decode cX6_doesNow 0 = .ok (.aload_n 0, 1) := dk_42 (dk_at dksX6_doesNow_0 0 rfl rfl)
theorem dX6_doesNow_1 : decode cX6_doesNow 1 = .ok (.getfield 48, 3) := dk_180 0 48 (dk_at dksX6_doesNow_0 1 rfl rfl)
theorem dX6_doesNow_4 : decode cX6_doesNow 4 = .ok (.iconst 0, 1) := dk_3 (dk_at dksX6_doesNow_0 4 rfl rfl)
theorem dX6_doesNow_5 : decode cX6_doesNow 5 = .ok (.iaload, 1) := dk_46 (dk_at dksX6_doesNow_0 5 rfl rfl)
theorem dX6_doesNow_6 : decode cX6_doesNow 6 = .ok (.istore_n 1, 1) := dk_60 (dk_at dksX6_doesNow_0 6 rfl rfl)
theorem dX6_doesNow_7 : decode cX6_doesNow 7 = .ok (.aload_n 0, 1) := dk_42 (dk_at dksX6_doesNow_0 7 rfl rfl)
theorem dX6_doesNow_8 : decode cX6_doesNow 8 = .ok (.getfield 48, 3) := dk_180 0 48 (dk_at dksX6_doesNow_0 8 rfl rfl)
theorem dX6_doesNow_11 : decode cX6_doesNow 11 = .ok (.iconst 1, 1) := dk_4 (dk_at dksX6_doesNow_0 11 rfl rfl)
theorem dX6_doesNow_12 : decode cX6_doesNow 12 = .ok (.iaload, 1) := dk_46 (dk_at dksX6_doesNow_0 12 rfl rfl)
theorem dX6_doesNow_13 : decode cX6_doesNow 13 = .ok (.istore_n 2, 1) := dk_61 (dk_at dksX6_doesNow_0 13 rfl rfl)
theorem dX6_doesNow_14 : decode cX6_doesNow 14 = .ok (.aload_n 0, 1) := dk_42 (dk_at dksX6_doesNow_0 14 rfl rfl)
theorem dX6_doesNow_15 : decode cX6_doesNow 15 = .ok (.getfield 335, 3) := dk_180 1 79 (dk_at dksX6_doesNow_0 15 rfl rfl)
theorem dX6_doesNow_18 : decode cX6_doesNow 18 = .ok (.tableswitch 182 97 117 #[98, 182, 175, 182, 168, 182, 149, 155, 113, 182, 182, 182, 182, 182, 182, 133, 182, 141, 161, 105, 126], 98) := by decide +kernel
theorem dX6_doesNow_116 : decode cX6_doesNow 116 = .ok (.aload_n 0, 1) := dk_42 (dk_at dksX6_doesNow_2 0 rfl rfl)
theorem dX6_doesNow_117 : decode cX6_doesNow 117 = .ok (.iload_n 1, 1) := dk_27 (dk_at dksX6_doesNow_2 1 rfl rfl)
theorem dX6_doesNow_118 : decode cX6_doesNow 118 = .ok (.iload_n 2, 1) := dk_28 (dk_at dksX6_doesNow_2 2 rfl rfl)
theorem dX6_doesNow_119 : decode cX6_doesNow 119 = .ok (.invokevirtual 115, 3) := dk_182 0 115 (dk_at dksX6_doesNow_2 3 rfl rfl)
theorem dX6_doesNow_122 : decode cX6_doesNow 122 = .ok (.ireturn, 1) := dk_172 (dk_at dksX6_doesNow_2 6 rfl rfl)
theorem dX6_doesNow_123 : decode cX6_doesNow 123 = .ok (.aload_n 0, 1) := dk_42 (dk_at dksX6_doesNow_2 7 rfl rfl)
theorem dX6_doesNow_124 : decode cX6_doesNow 124 = .ok (.iload_n 1, 1) := dk_27 (dk_at dksX6_doesNow_2 8 rfl rfl)
theorem dX6_doesNow_125 : decode cX6_doesNow 125 = .ok (.iconst 4, 1) := dk_7 (dk_at dksX6_doesNow_2 9 rfl rfl)
theorem dX6_doesNow_126 : decode cX6_doesNow 126 = .ok (.iload_n 2, 1) := dk_28 (dk_at dksX6_doesNow_2 10 rfl rfl)
theorem dX6_doesNow_127 : decode cX6_doesNow 127 = .ok (.invokevirtual 124, 3) := dk_182 0 124 (dk_at dksX6_doesNow_2 11 rfl rfl)
theorem dX6_doesNow_130 : decode cX6_doesNow 130 = .ok (.ireturn, 1) := dk_172 (dk_at dksX6_doesNow_2 14 rfl rfl)
theorem dX6_doesNow_131 : decode cX6_doesNow 131 = .ok (.aload_n 0, 1) := dk_42 (dk_at dksX6_doesNow_2 15 rfl rfl)
theorem dX6_doesNow_132 : decode cX6_doesNow 132 = .ok (.iload_n 1, 1) := dk_27 (dk_at dksX6_doesNow_2 16 rfl rfl)
theorem dX6_doesNow_133 : decode cX6_doesNow 133 = .ok (.iload_n 2, 1) := dk_28 (dk_at dksX6_doesNow_2 17 rfl rfl)
theorem dX6_doesNow_134 : decode cX6_doesNow 134 = .ok (.aload_n 0, 1) := dk_42 (dk_at dksX6_doesNow_2 18 rfl rfl)
theorem dX6_doesNow_135 : decode cX6_doesNow 135 = .ok (.getfield 48, 3) := dk_180 0 48 (dk_at dksX6_doesNow_2 19 rfl rfl)
theorem dX6_doesNow_138 : decode cX6_doesNow 138 = .ok (.iconst 2, 1) := dk_5 (dk_at dksX6_doesNow_2 22 rfl rfl)
theorem dX6_doesNow_139 : decode cX6_doesNow 139 = .ok (.iaload, 1) := dk_46 (dk_at dksX6_doesNow_2 23 rfl rfl)
theorem dX6_doesNow_140 : decode cX6_doesNow 140 = .ok (.invokevirtual 177, 3) := dk_182 0 177 (dk_at dksX6_doesNow_3 0 rfl rfl)
theorem dX6_doesNow_143 : decode cX6_doesNow 143 = .ok (.ireturn, 1) := dk_172 (dk_at dksX6_doesNow_3 3 rfl rfl)
theorem dX6_doesNow_144 : decode cX6_doesNow 144 = .ok (.aload_n 0, 1) := dk_42 (dk_at dksX6_doesNow_3 4 rfl rfl)
theorem dX6_doesNow_145 : decode cX6_doesNow 145 = .ok (.iload_n 1, 1) := dk_27 (dk_at dksX6_doesNow_3 5 rfl rfl)
theorem dX6_doesNow_146 : decode cX6_doesNow 146 = .ok (.iload_n 2, 1) := dk_28 (dk_at dksX6_doesNow_3 6 rfl rfl)
theorem dX6_doesNow_147 : decode cX6_doesNow 147 = .ok (.invokevirtual 133, 3) := dk_182 0 133 (dk_at dksX6_doesNow_3 7 rfl rfl)
theorem dX6_doesNow_150 : decode cX6_doesNow 150 = .ok (.ireturn, 1) := dk_172 (dk_at dksX6_doesNow_3 10 rfl rfl)
theorem dX6_doesNow_151 : decode cX6_doesNow 151 = .ok (.aload_n 0, 1) := dk_42 (dk_at dksX6_doesNow_3 11 rfl rfl)
theorem dX6_doesNow_152 : decode cX6_doesNow 152 = .ok (.iload_n 1, 1) := dk_27 (dk_at dksX6_doesNow_3 12 rfl rfl)
theorem dX6_doesNow_153 : decode cX6_doesNow 153 = .ok (.iconst 3, 1) := dk_6 (dk_at dksX6_doesNow_3 13 rfl rfl)
theorem dX6_doesNow_154 : decode cX6_doesNow 154 = .ok (.iload_n 2, 1) := dk_28 (dk_at dksX6_doesNow_3 14 rfl rfl)
theorem dX6_doesNow_155 : decode cX6_doesNow 155 = .ok (.invokevirtual 124, 3) := dk_182 0 124 (dk_at dksX6_doesNow_3 15 rfl rfl)
theorem dX6_doesNow_158 : decode cX6_doesNow 158 = .ok (.ireturn, 1) := dk_172 (dk_at dksX6_doesNow_3 18 rfl rfl)
theorem dX6_doesNow_159 : decode cX6_doesNow 159 = .ok (.aload_n 0, 1) := dk_42 (dk_at dksX6_doesNow_3 19 rfl rfl)
theorem dX6_doesNow_160 : decode cX6_doesNow 160 = .ok (.iload_n 1, 1) := dk_27 (dk_at dksX6_doesNow_3 20 rfl rfl)
theorem dX6_doesNow_161 : decode cX6_doesNow 161 = .ok (.iconst 5, 1) := dk_8 (dk_at dksX6_doesNow_3 21 rfl rfl)
theorem dX6_doesNow_162 : decode cX6_doesNow 162 = .ok (.iload_n 2, 1) := dk_28 (dk_at dksX6_doesNow_3 22 rfl rfl)
theorem dX6_doesNow_163 : decode cX6_doesNow 163 = .ok (.invokevirtual 124, 3) := dk_182 0 124 (dk_at dksX6_doesNow_4 0 rfl rfl)
theorem dX6_doesNow_166 : decode cX6_doesNow 166 = .ok (.ireturn, 1) := dk_172 (dk_at dksX6_doesNow_4 3 rfl rfl)
theorem dX6_doesNow_167 : decode cX6_doesNow 167 = .ok (.aload_n 0, 1) := dk_42 (dk_at dksX6_doesNow_4 4 rfl rfl)
theorem dX6_doesNow_168 : decode cX6_doesNow 168 = .ok (.iload_n 1, 1) := dk_27 (dk_at dksX6_doesNow_4 5 rfl rfl)
theorem dX6_doesNow_169 : decode cX6_doesNow 169 = .ok (.invokevirtual 145, 3) := dk_182 0 145 (dk_at dksX6_doesNow_4 6 rfl rfl)
theorem dX6_doesNow_172 : decode cX6_doesNow 172 = .ok (.ireturn, 1) := dk_172 (dk_at dksX6_doesNow_4 9 rfl rfl)
theorem dX6_doesNow_173 : decode cX6_doesNow 173 = .ok (.aload_n 0, 1) := dk_42 (dk_at dksX6_doesNow_4 10 rfl rfl)
theorem dX6_doesNow_174 : decode cX6_doesNow 174 = .ok (.iload_n 1, 1) := dk_27 (dk_at dksX6_doesNow_4 11 rfl rfl)
theorem dX6_doesNow_175 : decode cX6_doesNow 175 = .ok (.invokevirtual 158, 3) := dk_182 0 158 (dk_at dksX6_doesNow_4 12 rfl rfl)
theorem dX6_doesNow_178 : decode cX6_doesNow 178 = .ok (.ireturn, 1) := dk_172 (dk_at dksX6_doesNow_4 15 rfl rfl)
theorem dX6_doesNow_179 : decode cX6_doesNow 179 = .ok (.aload_n 0, 1) := dk_42 (dk_at dksX6_doesNow_4 16 rfl rfl)
theorem dX6_doesNow_180 : decode cX6_doesNow 180 = .ok (.iload_n 1, 1) := dk_27 (dk_at dksX6_doesNow_4 17 rfl rfl)
theorem dX6_doesNow_181 : decode cX6_doesNow 181 = .ok (.iload_n 2, 1) := dk_28 (dk_at dksX6_doesNow_4 18 rfl rfl)
theorem dX6_doesNow_182 : decode cX6_doesNow 182 = .ok (.invokevirtual 171, 3) := dk_182 0 171 (dk_at dksX6_doesNow_4 19 rfl rfl)
theorem dX6_doesNow_185 : decode cX6_doesNow 185 = .ok (.ireturn, 1) := dk_172 (dk_at dksX6_doesNow_4 22 rfl rfl)
theorem dX6_doesNow_186 : decode cX6_doesNow 186 = .ok (.aload_n 0, 1) := dk_42 (dk_at dksX6_doesNow_4 23 rfl rfl)
theorem dX6_doesNow_187 : decode cX6_doesNow 187 = .ok (.iconst 2, 1) := dk_5 (dk_at dksX6_doesNow_5 0 rfl rfl)
theorem dX6_doesNow_188 : decode cX6_doesNow 188 = .ok (.iload_n 1, 1) := dk_27 (dk_at dksX6_doesNow_5 1 rfl rfl)
theorem dX6_doesNow_189 : decode cX6_doesNow 189 = .ok (.invokevirtual 183, 3) := dk_182 0 183 (dk_at dksX6_doesNow_5 2 rfl rfl)
theorem dX6_doesNow_192 : decode cX6_doesNow 192 = .ok (.ireturn, 1) := dk_172 (dk_at dksX6_doesNow_5 5 rfl rfl)
theorem dX6_doesNow_193 : decode cX6_doesNow 193 = .ok (.aload_n 0, 1) := dk_42 (dk_at dksX6_doesNow_5 6 rfl rfl)
theorem dX6_doesNow_194 : decode cX6_doesNow 194 = .ok (.iconst 1, 1) := dk_4 (dk_at dksX6_doesNow_5 7 rfl rfl)
theorem dX6_doesNow_195 : decode cX6_doesNow 195 = .ok (.iload_n 1, 1) := dk_27 (dk_at dksX6_doesNow_5 8 rfl rfl)
theorem dX6_doesNow_196 : decode cX6_doesNow 196 = .ok (.invokevirtual 183, 3) := dk_182 0 183 (dk_at dksX6_doesNow_5 9 rfl rfl)
theorem dX6_doesNow_199 : decode cX6_doesNow 199 = .ok (.ireturn, 1) := dk_172 (dk_at dksX6_doesNow_5 12 rfl rfl)
theorem dX6_doesNow_200 : decode cX6_doesNow 200 = .ok (.aload_n 0, 1) := dk_42 (dk_at dksX6_doesNow_5 13 rfl rfl)
theorem dX6_doesNow_201 : decode cX6_doesNow 201 = .ok (.iload_n 1, 1) := dk_27 (dk_at dksX6_doesNow_5 14 rfl rfl)
theorem dX6_doesNow_202 : decode cX6_doesNow 202 = .ok (.invokevirtual 247, 3) := dk_182 0 247 (dk_at dksX6_doesNow_5 15 rfl rfl)
theorem dX6_doesNow_205 : decode cX6_doesNow 205 = .ok (.ireturn, 1) := dk_172 (dk_at dksX6_doesNow_5 18 rfl rfl)
abbrev cX6_goesBack : ByteArray := prog_14_method_6_code
def yX6_goesBack : MethodName := ⟨RX6, "goesBack", "()V"⟩
def dkwX6_goesBack_1 : List UInt8 := [167, 255, 234, 177]
abbrev dktX6_goesBack_1 : List UInt8 := dkwX6_goesBack_1 ++ []
def dkwX6_goesBack_0 : List UInt8 := [3, 60, 27, 17, 0, 189, 162, 0, 21, 42, 180, 0, 13, 27, 42, 180, 0, 23, 27, 46, 79, 132, 1, 1]
abbrev dktX6_goesBack_0 : List UInt8 := dkwX6_goesBack_0 ++ dktX6_goesBack_1
theorem dksX6_goesBack_0 : cX6_goesBack.data.toList.drop 0 = dktX6_goesBack_0 := by decide +kernel
theorem dksX6_goesBack_1 : cX6_goesBack.data.toList.drop 24 = dktX6_goesBack_1 := dk_seg dksX6_goesBack_0 24 rfl rfl
theorem dX6_goesBack_0 : decode cX6_goesBack 0 = .ok (.iconst 0, 1) := dk_3 (dk_at dksX6_goesBack_0 0 rfl rfl)
theorem dX6_goesBack_1 : decode cX6_goesBack 1 = .ok (.istore_n 1, 1) := dk_60 (dk_at dksX6_goesBack_0 1 rfl rfl)
theorem dX6_goesBack_2 : decode cX6_goesBack 2 = .ok (.iload_n 1, 1) := dk_27 (dk_at dksX6_goesBack_0 2 rfl rfl)
theorem dX6_goesBack_3 : decode cX6_goesBack 3 = .ok (.sipush 189, 3) := dk_17 0 189 (dk_at dksX6_goesBack_0 3 rfl rfl)
theorem dX6_goesBack_6 : decode cX6_goesBack 6 = .ok (.if_icmp .ge 21, 3) := dk_162 0 21 (dk_at dksX6_goesBack_0 6 rfl rfl)
theorem dX6_goesBack_9 : decode cX6_goesBack 9 = .ok (.aload_n 0, 1) := dk_42 (dk_at dksX6_goesBack_0 9 rfl rfl)
theorem dX6_goesBack_10 : decode cX6_goesBack 10 = .ok (.getfield 13, 3) := dk_180 0 13 (dk_at dksX6_goesBack_0 10 rfl rfl)
theorem dX6_goesBack_13 : decode cX6_goesBack 13 = .ok (.iload_n 1, 1) := dk_27 (dk_at dksX6_goesBack_0 13 rfl rfl)
theorem dX6_goesBack_14 : decode cX6_goesBack 14 = .ok (.aload_n 0, 1) := dk_42 (dk_at dksX6_goesBack_0 14 rfl rfl)
theorem dX6_goesBack_15 : decode cX6_goesBack 15 = .ok (.getfield 23, 3) := dk_180 0 23 (dk_at dksX6_goesBack_0 15 rfl rfl)
theorem dX6_goesBack_18 : decode cX6_goesBack 18 = .ok (.iload_n 1, 1) := dk_27 (dk_at dksX6_goesBack_0 18 rfl rfl)
theorem dX6_goesBack_19 : decode cX6_goesBack 19 = .ok (.iaload, 1) := dk_46 (dk_at dksX6_goesBack_0 19 rfl rfl)
theorem dX6_goesBack_20 : decode cX6_goesBack 20 = .ok (.iastore, 1) := dk_79 (dk_at dksX6_goesBack_0 20 rfl rfl)
theorem dX6_goesBack_21 : decode cX6_goesBack 21 = .ok (.iinc 1 1, 3) := dk_132 1 1 (dk_at dksX6_goesBack_0 21 rfl rfl)
theorem dX6_goesBack_24 : decode cX6_goesBack 24 = .ok (.goto (-22), 3) := dk_167 255 234 (dk_at dksX6_goesBack_1 0 rfl rfl)
theorem dX6_goesBack_27 : decode cX6_goesBack 27 = .ok (.return_, 1) := dk_177 (dk_at dksX6_goesBack_1 3 rfl rfl)
abbrev cX6_faultPosition : ByteArray := prog_14_method_140_code
def yX6_faultPosition : MethodName := ⟨RX6, "faultPosition", "()I"⟩
def dkwX6_faultPosition_1 : List UInt8 := [172]
abbrev dktX6_faultPosition_1 : List UInt8 := dkwX6_faultPosition_1 ++ []
def dkwX6_faultPosition_0 : List UInt8 := [42, 3, 181, 0, 1, 42, 180, 0, 45, 156, 0, 11, 42, 4, 182, 0, 75, 167, 0, 7, 42, 180, 0, 45]
abbrev dktX6_faultPosition_0 : List UInt8 := dkwX6_faultPosition_0 ++ dktX6_faultPosition_1
theorem dksX6_faultPosition_0 : cX6_faultPosition.data.toList.drop 0 = dktX6_faultPosition_0 := by decide +kernel
theorem dksX6_faultPosition_1 : cX6_faultPosition.data.toList.drop 24 = dktX6_faultPosition_1 := dk_seg dksX6_faultPosition_0 24 rfl rfl
theorem dX6_faultPosition_0 : decode cX6_faultPosition 0 = .ok (.aload_n 0, 1) := dk_42 (dk_at dksX6_faultPosition_0 0 rfl rfl)
theorem dX6_faultPosition_1 : decode cX6_faultPosition 1 = .ok (.iconst 0, 1) := dk_3 (dk_at dksX6_faultPosition_0 1 rfl rfl)
theorem dX6_faultPosition_2 : decode cX6_faultPosition 2 = .ok (.putfield 1, 3) := dk_181 0 1 (dk_at dksX6_faultPosition_0 2 rfl rfl)
theorem dX6_faultPosition_5 : decode cX6_faultPosition 5 = .ok (.aload_n 0, 1) := dk_42 (dk_at dksX6_faultPosition_0 5 rfl rfl)
theorem dX6_faultPosition_6 : decode cX6_faultPosition 6 = .ok (.getfield 45, 3) := dk_180 0 45 (dk_at dksX6_faultPosition_0 6 rfl rfl)
theorem dX6_faultPosition_9 : decode cX6_faultPosition 9 = .ok (.ifCond .ge 11, 3) := dk_156 0 11 (dk_at dksX6_faultPosition_0 9 rfl rfl)
theorem dX6_faultPosition_12 : decode cX6_faultPosition 12 = .ok (.aload_n 0, 1) := dk_42 (dk_at dksX6_faultPosition_0 12 rfl rfl)
theorem dX6_faultPosition_13 : decode cX6_faultPosition 13 = .ok (.iconst 1, 1) := dk_4 (dk_at dksX6_faultPosition_0 13 rfl rfl)
theorem dX6_faultPosition_14 : decode cX6_faultPosition 14 = .ok (.invokevirtual 75, 3) := dk_182 0 75 (dk_at dksX6_faultPosition_0 14 rfl rfl)
theorem dX6_faultPosition_17 : decode cX6_faultPosition 17 = .ok (.goto 7, 3) := dk_167 0 7 (dk_at dksX6_faultPosition_0 17 rfl rfl)
theorem dX6_faultPosition_20 : decode cX6_faultPosition 20 = .ok (.aload_n 0, 1) := dk_42 (dk_at dksX6_faultPosition_0 20 rfl rfl)
theorem dX6_faultPosition_21 : decode cX6_faultPosition 21 = .ok (.getfield 45, 3) := dk_180 0 45 (dk_at dksX6_faultPosition_0 21 rfl rfl)
theorem dX6_faultPosition_24 : decode cX6_faultPosition 24 = .ok (.ireturn, 1) := dk_172 (dk_at dksX6_faultPosition_1 0 rfl rfl)
abbrev cX6_denial : ByteArray := prog_14_method_141_code
def yX6_denial : MethodName := ⟨RX6, "denial", "()I"⟩
def dkwX6_denial_1 : List UInt8 := [172]
abbrev dktX6_denial_1 : List UInt8 := dkwX6_denial_1 ++ []
def dkwX6_denial_0 : List UInt8 := [42, 3, 181, 0, 1, 42, 180, 0, 66, 154, 0, 11, 42, 4, 182, 0, 75, 167, 0, 7, 42, 180, 0, 66]
abbrev dktX6_denial_0 : List UInt8 := dkwX6_denial_0 ++ dktX6_denial_1
theorem dksX6_denial_0 : cX6_denial.data.toList.drop 0 = dktX6_denial_0 := by decide +kernel
theorem dksX6_denial_1 : cX6_denial.data.toList.drop 24 = dktX6_denial_1 := dk_seg dksX6_denial_0 24 rfl rfl
theorem dX6_denial_0 : decode cX6_denial 0 = .ok (.aload_n 0, 1) := dk_42 (dk_at dksX6_denial_0 0 rfl rfl)
theorem dX6_denial_1 : decode cX6_denial 1 = .ok (.iconst 0, 1) := dk_3 (dk_at dksX6_denial_0 1 rfl rfl)
theorem dX6_denial_2 : decode cX6_denial 2 = .ok (.putfield 1, 3) := dk_181 0 1 (dk_at dksX6_denial_0 2 rfl rfl)
theorem dX6_denial_5 : decode cX6_denial 5 = .ok (.aload_n 0, 1) := dk_42 (dk_at dksX6_denial_0 5 rfl rfl)
theorem dX6_denial_6 : decode cX6_denial 6 = .ok (.getfield 66, 3) := dk_180 0 66 (dk_at dksX6_denial_0 6 rfl rfl)
theorem dX6_denial_9 : decode cX6_denial 9 = .ok (.ifCond .ne 11, 3) := dk_154 0 11 (dk_at dksX6_denial_0 9 rfl rfl)
theorem dX6_denial_12 : decode cX6_denial 12 = .ok (.aload_n 0, 1) := dk_42 (dk_at dksX6_denial_0 12 rfl rfl)
theorem dX6_denial_13 : decode cX6_denial 13 = .ok (.iconst 1, 1) := dk_4 (dk_at dksX6_denial_0 13 rfl rfl)
theorem dX6_denial_14 : decode cX6_denial 14 = .ok (.invokevirtual 75, 3) := dk_182 0 75 (dk_at dksX6_denial_0 14 rfl rfl)
theorem dX6_denial_17 : decode cX6_denial 17 = .ok (.goto 7, 3) := dk_167 0 7 (dk_at dksX6_denial_0 17 rfl rfl)
theorem dX6_denial_20 : decode cX6_denial 20 = .ok (.aload_n 0, 1) := dk_42 (dk_at dksX6_denial_0 20 rfl rfl)
theorem dX6_denial_21 : decode cX6_denial 21 = .ok (.getfield 66, 3) := dk_180 0 66 (dk_at dksX6_denial_0 21 rfl rfl)
theorem dX6_denial_24 : decode cX6_denial 24 = .ok (.ireturn, 1) := dk_172 (dk_at dksX6_denial_1 0 rfl rfl)
abbrev cX6_denialDetail : ByteArray := prog_14_method_142_code
def yX6_denialDetail : MethodName := ⟨RX6, "denialDetail", "()I"⟩
def dkwX6_denialDetail_1 : List UInt8 := [172]
abbrev dktX6_denialDetail_1 : List UInt8 := dkwX6_denialDetail_1 ++ []
def dkwX6_denialDetail_0 : List UInt8 := [42, 3, 181, 0, 1, 42, 180, 0, 66, 154, 0, 11, 42, 4, 182, 0, 75, 167, 0, 7, 42, 180, 0, 69]
abbrev dktX6_denialDetail_0 : List UInt8 := dkwX6_denialDetail_0 ++ dktX6_denialDetail_1
theorem dksX6_denialDetail_0 : cX6_denialDetail.data.toList.drop 0 = dktX6_denialDetail_0 := by decide +kernel
theorem dksX6_denialDetail_1 : cX6_denialDetail.data.toList.drop 24 = dktX6_denialDetail_1 := dk_seg dksX6_denialDetail_0 24 rfl rfl
theorem dX6_denialDetail_0 : decode cX6_denialDetail 0 = .ok (.aload_n 0, 1) := dk_42 (dk_at dksX6_denialDetail_0 0 rfl rfl)
theorem dX6_denialDetail_1 : decode cX6_denialDetail 1 = .ok (.iconst 0, 1) := dk_3 (dk_at dksX6_denialDetail_0 1 rfl rfl)
theorem dX6_denialDetail_2 : decode cX6_denialDetail 2 = .ok (.putfield 1, 3) := dk_181 0 1 (dk_at dksX6_denialDetail_0 2 rfl rfl)
theorem dX6_denialDetail_5 : decode cX6_denialDetail 5 = .ok (.aload_n 0, 1) := dk_42 (dk_at dksX6_denialDetail_0 5 rfl rfl)
theorem dX6_denialDetail_6 : decode cX6_denialDetail 6 = .ok (.getfield 66, 3) := dk_180 0 66 (dk_at dksX6_denialDetail_0 6 rfl rfl)
theorem dX6_denialDetail_9 : decode cX6_denialDetail 9 = .ok (.ifCond .ne 11, 3) := dk_154 0 11 (dk_at dksX6_denialDetail_0 9 rfl rfl)
theorem dX6_denialDetail_12 : decode cX6_denialDetail 12 = .ok (.aload_n 0, 1) := dk_42 (dk_at dksX6_denialDetail_0 12 rfl rfl)
theorem dX6_denialDetail_13 : decode cX6_denialDetail 13 = .ok (.iconst 1, 1) := dk_4 (dk_at dksX6_denialDetail_0 13 rfl rfl)
theorem dX6_denialDetail_14 : decode cX6_denialDetail 14 = .ok (.invokevirtual 75, 3) := dk_182 0 75 (dk_at dksX6_denialDetail_0 14 rfl rfl)
theorem dX6_denialDetail_17 : decode cX6_denialDetail 17 = .ok (.goto 7, 3) := dk_167 0 7 (dk_at dksX6_denialDetail_0 17 rfl rfl)
theorem dX6_denialDetail_20 : decode cX6_denialDetail 20 = .ok (.aload_n 0, 1) := dk_42 (dk_at dksX6_denialDetail_0 20 rfl rfl)
theorem dX6_denialDetail_21 : decode cX6_denialDetail 21 = .ok (.getfield 69, 3) := dk_180 0 69 (dk_at dksX6_denialDetail_0 21 rfl rfl)
theorem dX6_denialDetail_24 : decode cX6_denialDetail 24 = .ok (.ireturn, 1) := dk_172 (dk_at dksX6_denialDetail_1 0 rfl rfl)
abbrev cX6_denialCause : ByteArray := prog_14_method_143_code
def yX6_denialCause : MethodName := ⟨RX6, "denialCause", "()I"⟩
def dkwX6_denialCause_1 : List UInt8 := [172]
abbrev dktX6_denialCause_1 : List UInt8 := dkwX6_denialCause_1 ++ []
def dkwX6_denialCause_0 : List UInt8 := [42, 3, 181, 0, 1, 42, 180, 0, 72, 154, 0, 11, 42, 4, 182, 0, 75, 167, 0, 7, 42, 180, 0, 72]
abbrev dktX6_denialCause_0 : List UInt8 := dkwX6_denialCause_0 ++ dktX6_denialCause_1
theorem dksX6_denialCause_0 : cX6_denialCause.data.toList.drop 0 = dktX6_denialCause_0 := by decide +kernel
theorem dksX6_denialCause_1 : cX6_denialCause.data.toList.drop 24 = dktX6_denialCause_1 := dk_seg dksX6_denialCause_0 24 rfl rfl
theorem dX6_denialCause_0 : decode cX6_denialCause 0 = .ok (.aload_n 0, 1) := dk_42 (dk_at dksX6_denialCause_0 0 rfl rfl)
theorem dX6_denialCause_1 : decode cX6_denialCause 1 = .ok (.iconst 0, 1) := dk_3 (dk_at dksX6_denialCause_0 1 rfl rfl)
theorem dX6_denialCause_2 : decode cX6_denialCause 2 = .ok (.putfield 1, 3) := dk_181 0 1 (dk_at dksX6_denialCause_0 2 rfl rfl)
theorem dX6_denialCause_5 : decode cX6_denialCause 5 = .ok (.aload_n 0, 1) := dk_42 (dk_at dksX6_denialCause_0 5 rfl rfl)
theorem dX6_denialCause_6 : decode cX6_denialCause 6 = .ok (.getfield 72, 3) := dk_180 0 72 (dk_at dksX6_denialCause_0 6 rfl rfl)
theorem dX6_denialCause_9 : decode cX6_denialCause 9 = .ok (.ifCond .ne 11, 3) := dk_154 0 11 (dk_at dksX6_denialCause_0 9 rfl rfl)
theorem dX6_denialCause_12 : decode cX6_denialCause 12 = .ok (.aload_n 0, 1) := dk_42 (dk_at dksX6_denialCause_0 12 rfl rfl)
theorem dX6_denialCause_13 : decode cX6_denialCause 13 = .ok (.iconst 1, 1) := dk_4 (dk_at dksX6_denialCause_0 13 rfl rfl)
theorem dX6_denialCause_14 : decode cX6_denialCause 14 = .ok (.invokevirtual 75, 3) := dk_182 0 75 (dk_at dksX6_denialCause_0 14 rfl rfl)
theorem dX6_denialCause_17 : decode cX6_denialCause 17 = .ok (.goto 7, 3) := dk_167 0 7 (dk_at dksX6_denialCause_0 17 rfl rfl)
theorem dX6_denialCause_20 : decode cX6_denialCause 20 = .ok (.aload_n 0, 1) := dk_42 (dk_at dksX6_denialCause_0 20 rfl rfl)
theorem dX6_denialCause_21 : decode cX6_denialCause 21 = .ok (.getfield 72, 3) := dk_180 0 72 (dk_at dksX6_denialCause_0 21 rfl rfl)
theorem dX6_denialCause_24 : decode cX6_denialCause 24 = .ok (.ireturn, 1) := dk_172 (dk_at dksX6_denialCause_1 0 rfl rfl)
abbrev cX6_undo : ByteArray := prog_14_method_144_code
def yX6_undo : MethodName := ⟨RX6, "undo", "()I"⟩
def dkwX6_undo_3 : List UInt8 := [167, 255, 228, 42, 180, 0, 51, 172]
abbrev dktX6_undo_3 : List UInt8 := dkwX6_undo_3 ++ []
def dkwX6_undo_2 : List UInt8 := [162, 0, 27, 42, 180, 0, 13, 28, 42, 180, 0, 17, 17, 0, 189, 27, 104, 28, 96, 46, 79, 132, 2, 1]
abbrev dktX6_undo_2 : List UInt8 := dkwX6_undo_2 ++ dktX6_undo_3
def dkwX6_undo_1 : List UInt8 := [100, 181, 0, 51, 42, 180, 0, 54, 42, 180, 0, 51, 96, 16, 8, 112, 60, 3, 61, 28, 17, 0, 189]
abbrev dktX6_undo_1 : List UInt8 := dkwX6_undo_1 ++ dktX6_undo_2
def dkwX6_undo_0 : List UInt8 := [42, 3, 181, 0, 1, 42, 180, 0, 51, 154, 0, 9, 42, 4, 182, 0, 75, 172, 42, 89, 180, 0, 51, 4]
abbrev dktX6_undo_0 : List UInt8 := dkwX6_undo_0 ++ dktX6_undo_1
theorem dksX6_undo_0 : cX6_undo.data.toList.drop 0 = dktX6_undo_0 := by decide +kernel
theorem dksX6_undo_1 : cX6_undo.data.toList.drop 24 = dktX6_undo_1 := dk_seg dksX6_undo_0 24 rfl rfl
theorem dksX6_undo_2 : cX6_undo.data.toList.drop 47 = dktX6_undo_2 := dk_seg dksX6_undo_1 23 rfl rfl
theorem dksX6_undo_3 : cX6_undo.data.toList.drop 71 = dktX6_undo_3 := dk_seg dksX6_undo_2 24 rfl rfl
theorem dX6_undo_0 : decode cX6_undo 0 = .ok (.aload_n 0, 1) := dk_42 (dk_at dksX6_undo_0 0 rfl rfl)
theorem dX6_undo_1 : decode cX6_undo 1 = .ok (.iconst 0, 1) := dk_3 (dk_at dksX6_undo_0 1 rfl rfl)
theorem dX6_undo_2 : decode cX6_undo 2 = .ok (.putfield 1, 3) := dk_181 0 1 (dk_at dksX6_undo_0 2 rfl rfl)
theorem dX6_undo_5 : decode cX6_undo 5 = .ok (.aload_n 0, 1) := dk_42 (dk_at dksX6_undo_0 5 rfl rfl)
theorem dX6_undo_6 : decode cX6_undo 6 = .ok (.getfield 51, 3) := dk_180 0 51 (dk_at dksX6_undo_0 6 rfl rfl)
theorem dX6_undo_9 : decode cX6_undo 9 = .ok (.ifCond .ne 9, 3) := dk_154 0 9 (dk_at dksX6_undo_0 9 rfl rfl)
theorem dX6_undo_12 : decode cX6_undo 12 = .ok (.aload_n 0, 1) := dk_42 (dk_at dksX6_undo_0 12 rfl rfl)
theorem dX6_undo_13 : decode cX6_undo 13 = .ok (.iconst 1, 1) := dk_4 (dk_at dksX6_undo_0 13 rfl rfl)
theorem dX6_undo_14 : decode cX6_undo 14 = .ok (.invokevirtual 75, 3) := dk_182 0 75 (dk_at dksX6_undo_0 14 rfl rfl)
theorem dX6_undo_17 : decode cX6_undo 17 = .ok (.ireturn, 1) := dk_172 (dk_at dksX6_undo_0 17 rfl rfl)
theorem dX6_undo_18 : decode cX6_undo 18 = .ok (.aload_n 0, 1) := dk_42 (dk_at dksX6_undo_0 18 rfl rfl)
theorem dX6_undo_19 : decode cX6_undo 19 = .ok (.dup, 1) := dk_89 (dk_at dksX6_undo_0 19 rfl rfl)
theorem dX6_undo_20 : decode cX6_undo 20 = .ok (.getfield 51, 3) := dk_180 0 51 (dk_at dksX6_undo_0 20 rfl rfl)
theorem dX6_undo_23 : decode cX6_undo 23 = .ok (.iconst 1, 1) := dk_4 (dk_at dksX6_undo_0 23 rfl rfl)
theorem dX6_undo_24 : decode cX6_undo 24 = .ok (.isub, 1) := dk_100 (dk_at dksX6_undo_1 0 rfl rfl)
theorem dX6_undo_25 : decode cX6_undo 25 = .ok (.putfield 51, 3) := dk_181 0 51 (dk_at dksX6_undo_1 1 rfl rfl)
theorem dX6_undo_28 : decode cX6_undo 28 = .ok (.aload_n 0, 1) := dk_42 (dk_at dksX6_undo_1 4 rfl rfl)
theorem dX6_undo_29 : decode cX6_undo 29 = .ok (.getfield 54, 3) := dk_180 0 54 (dk_at dksX6_undo_1 5 rfl rfl)
theorem dX6_undo_32 : decode cX6_undo 32 = .ok (.aload_n 0, 1) := dk_42 (dk_at dksX6_undo_1 8 rfl rfl)
theorem dX6_undo_33 : decode cX6_undo 33 = .ok (.getfield 51, 3) := dk_180 0 51 (dk_at dksX6_undo_1 9 rfl rfl)
theorem dX6_undo_36 : decode cX6_undo 36 = .ok (.iadd, 1) := dk_96 (dk_at dksX6_undo_1 12 rfl rfl)
theorem dX6_undo_37 : decode cX6_undo 37 = .ok (.bipush 8, 2) := dk_16 8 (dk_at dksX6_undo_1 13 rfl rfl)
theorem dX6_undo_39 : decode cX6_undo 39 = .ok (.irem, 1) := dk_112 (dk_at dksX6_undo_1 15 rfl rfl)
theorem dX6_undo_40 : decode cX6_undo 40 = .ok (.istore_n 1, 1) := dk_60 (dk_at dksX6_undo_1 16 rfl rfl)
theorem dX6_undo_41 : decode cX6_undo 41 = .ok (.iconst 0, 1) := dk_3 (dk_at dksX6_undo_1 17 rfl rfl)
theorem dX6_undo_42 : decode cX6_undo 42 = .ok (.istore_n 2, 1) := dk_61 (dk_at dksX6_undo_1 18 rfl rfl)
theorem dX6_undo_43 : decode cX6_undo 43 = .ok (.iload_n 2, 1) := dk_28 (dk_at dksX6_undo_1 19 rfl rfl)
theorem dX6_undo_44 : decode cX6_undo 44 = .ok (.sipush 189, 3) := dk_17 0 189 (dk_at dksX6_undo_1 20 rfl rfl)
theorem dX6_undo_47 : decode cX6_undo 47 = .ok (.if_icmp .ge 27, 3) := dk_162 0 27 (dk_at dksX6_undo_2 0 rfl rfl)
theorem dX6_undo_50 : decode cX6_undo 50 = .ok (.aload_n 0, 1) := dk_42 (dk_at dksX6_undo_2 3 rfl rfl)
theorem dX6_undo_51 : decode cX6_undo 51 = .ok (.getfield 13, 3) := dk_180 0 13 (dk_at dksX6_undo_2 4 rfl rfl)
theorem dX6_undo_54 : decode cX6_undo 54 = .ok (.iload_n 2, 1) := dk_28 (dk_at dksX6_undo_2 7 rfl rfl)
theorem dX6_undo_55 : decode cX6_undo 55 = .ok (.aload_n 0, 1) := dk_42 (dk_at dksX6_undo_2 8 rfl rfl)
theorem dX6_undo_56 : decode cX6_undo 56 = .ok (.getfield 17, 3) := dk_180 0 17 (dk_at dksX6_undo_2 9 rfl rfl)
theorem dX6_undo_59 : decode cX6_undo 59 = .ok (.sipush 189, 3) := dk_17 0 189 (dk_at dksX6_undo_2 12 rfl rfl)
theorem dX6_undo_62 : decode cX6_undo 62 = .ok (.iload_n 1, 1) := dk_27 (dk_at dksX6_undo_2 15 rfl rfl)
theorem dX6_undo_63 : decode cX6_undo 63 = .ok (.imul, 1) := dk_104 (dk_at dksX6_undo_2 16 rfl rfl)
theorem dX6_undo_64 : decode cX6_undo 64 = .ok (.iload_n 2, 1) := dk_28 (dk_at dksX6_undo_2 17 rfl rfl)
theorem dX6_undo_65 : decode cX6_undo 65 = .ok (.iadd, 1) := dk_96 (dk_at dksX6_undo_2 18 rfl rfl)
theorem dX6_undo_66 : decode cX6_undo 66 = .ok (.iaload, 1) := dk_46 (dk_at dksX6_undo_2 19 rfl rfl)
theorem dX6_undo_67 : decode cX6_undo 67 = .ok (.iastore, 1) := dk_79 (dk_at dksX6_undo_2 20 rfl rfl)
theorem dX6_undo_68 : decode cX6_undo 68 = .ok (.iinc 2 1, 3) := dk_132 2 1 (dk_at dksX6_undo_2 21 rfl rfl)
theorem dX6_undo_71 : decode cX6_undo 71 = .ok (.goto (-28), 3) := dk_167 255 228 (dk_at dksX6_undo_3 0 rfl rfl)
theorem dX6_undo_74 : decode cX6_undo 74 = .ok (.aload_n 0, 1) := dk_42 (dk_at dksX6_undo_3 3 rfl rfl)
theorem dX6_undo_75 : decode cX6_undo 75 = .ok (.getfield 51, 3) := dk_180 0 51 (dk_at dksX6_undo_3 4 rfl rfl)
theorem dX6_undo_78 : decode cX6_undo 78 = .ok (.ireturn, 1) := dk_172 (dk_at dksX6_undo_3 7 rfl rfl)
abbrev cX6_undoCount : ByteArray := prog_14_method_145_code
def yX6_undoCount : MethodName := ⟨RX6, "undoCount", "()I"⟩
def dkwX6_undoCount_0 : List UInt8 := [42, 3, 181, 0, 1, 42, 180, 0, 51, 172]
abbrev dktX6_undoCount_0 : List UInt8 := dkwX6_undoCount_0 ++ []
theorem dksX6_undoCount_0 : cX6_undoCount.data.toList.drop 0 = dktX6_undoCount_0 := by decide +kernel
theorem dX6_undoCount_0 : decode cX6_undoCount 0 = .ok (.aload_n 0, 1) := dk_42 (dk_at dksX6_undoCount_0 0 rfl rfl)
theorem dX6_undoCount_1 : decode cX6_undoCount 1 = .ok (.iconst 0, 1) := dk_3 (dk_at dksX6_undoCount_0 1 rfl rfl)
theorem dX6_undoCount_2 : decode cX6_undoCount 2 = .ok (.putfield 1, 3) := dk_181 0 1 (dk_at dksX6_undoCount_0 2 rfl rfl)
theorem dX6_undoCount_5 : decode cX6_undoCount 5 = .ok (.aload_n 0, 1) := dk_42 (dk_at dksX6_undoCount_0 5 rfl rfl)
theorem dX6_undoCount_6 : decode cX6_undoCount 6 = .ok (.getfield 51, 3) := dk_180 0 51 (dk_at dksX6_undoCount_0 6 rfl rfl)
theorem dX6_undoCount_9 : decode cX6_undoCount 9 = .ok (.ireturn, 1) := dk_172 (dk_at dksX6_undoCount_0 9 rfl rfl)
abbrev cX6_saveSnapshot : ByteArray := prog_14_method_146_code
def yX6_saveSnapshot : MethodName := ⟨RX6, "saveSnapshot", "()I"⟩
def dkwX6_saveSnapshot_1 : List UInt8 := [46, 79, 132, 1, 1, 167, 255, 234, 42, 4, 181, 1, 128, 42, 180, 0, 13, 6, 46, 172]
abbrev dktX6_saveSnapshot_1 : List UInt8 := dkwX6_saveSnapshot_1 ++ []
def dkwX6_saveSnapshot_0 : List UInt8 := [42, 3, 181, 0, 1, 3, 60, 27, 17, 0, 189, 162, 0, 21, 42, 180, 0, 20, 27, 42, 180, 0, 13, 27]
abbrev dktX6_saveSnapshot_0 : List UInt8 := dkwX6_saveSnapshot_0 ++ dktX6_saveSnapshot_1
theorem dksX6_saveSnapshot_0 : cX6_saveSnapshot.data.toList.drop 0 = dktX6_saveSnapshot_0 := by decide +kernel
theorem dksX6_saveSnapshot_1 : cX6_saveSnapshot.data.toList.drop 24 = dktX6_saveSnapshot_1 := dk_seg dksX6_saveSnapshot_0 24 rfl rfl
theorem dX6_saveSnapshot_0 : decode cX6_saveSnapshot 0 = .ok (.aload_n 0, 1) := dk_42 (dk_at dksX6_saveSnapshot_0 0 rfl rfl)
theorem dX6_saveSnapshot_1 : decode cX6_saveSnapshot 1 = .ok (.iconst 0, 1) := dk_3 (dk_at dksX6_saveSnapshot_0 1 rfl rfl)
theorem dX6_saveSnapshot_2 : decode cX6_saveSnapshot 2 = .ok (.putfield 1, 3) := dk_181 0 1 (dk_at dksX6_saveSnapshot_0 2 rfl rfl)
theorem dX6_saveSnapshot_5 : decode cX6_saveSnapshot 5 = .ok (.iconst 0, 1) := dk_3 (dk_at dksX6_saveSnapshot_0 5 rfl rfl)
theorem dX6_saveSnapshot_6 : decode cX6_saveSnapshot 6 = .ok (.istore_n 1, 1) := dk_60 (dk_at dksX6_saveSnapshot_0 6 rfl rfl)
theorem dX6_saveSnapshot_7 : decode cX6_saveSnapshot 7 = .ok (.iload_n 1, 1) := dk_27 (dk_at dksX6_saveSnapshot_0 7 rfl rfl)
theorem dX6_saveSnapshot_8 : decode cX6_saveSnapshot 8 = .ok (.sipush 189, 3) := dk_17 0 189 (dk_at dksX6_saveSnapshot_0 8 rfl rfl)
theorem dX6_saveSnapshot_11 : decode cX6_saveSnapshot 11 = .ok (.if_icmp .ge 21, 3) := dk_162 0 21 (dk_at dksX6_saveSnapshot_0 11 rfl rfl)
theorem dX6_saveSnapshot_14 : decode cX6_saveSnapshot 14 = .ok (.aload_n 0, 1) := dk_42 (dk_at dksX6_saveSnapshot_0 14 rfl rfl)
theorem dX6_saveSnapshot_15 : decode cX6_saveSnapshot 15 = .ok (.getfield 20, 3) := dk_180 0 20 (dk_at dksX6_saveSnapshot_0 15 rfl rfl)
theorem dX6_saveSnapshot_18 : decode cX6_saveSnapshot 18 = .ok (.iload_n 1, 1) := dk_27 (dk_at dksX6_saveSnapshot_0 18 rfl rfl)
theorem dX6_saveSnapshot_19 : decode cX6_saveSnapshot 19 = .ok (.aload_n 0, 1) := dk_42 (dk_at dksX6_saveSnapshot_0 19 rfl rfl)
theorem dX6_saveSnapshot_20 : decode cX6_saveSnapshot 20 = .ok (.getfield 13, 3) := dk_180 0 13 (dk_at dksX6_saveSnapshot_0 20 rfl rfl)
theorem dX6_saveSnapshot_23 : decode cX6_saveSnapshot 23 = .ok (.iload_n 1, 1) := dk_27 (dk_at dksX6_saveSnapshot_0 23 rfl rfl)
theorem dX6_saveSnapshot_24 : decode cX6_saveSnapshot 24 = .ok (.iaload, 1) := dk_46 (dk_at dksX6_saveSnapshot_1 0 rfl rfl)
theorem dX6_saveSnapshot_25 : decode cX6_saveSnapshot 25 = .ok (.iastore, 1) := dk_79 (dk_at dksX6_saveSnapshot_1 1 rfl rfl)
theorem dX6_saveSnapshot_26 : decode cX6_saveSnapshot 26 = .ok (.iinc 1 1, 3) := dk_132 1 1 (dk_at dksX6_saveSnapshot_1 2 rfl rfl)
theorem dX6_saveSnapshot_29 : decode cX6_saveSnapshot 29 = .ok (.goto (-22), 3) := dk_167 255 234 (dk_at dksX6_saveSnapshot_1 5 rfl rfl)
theorem dX6_saveSnapshot_32 : decode cX6_saveSnapshot 32 = .ok (.aload_n 0, 1) := dk_42 (dk_at dksX6_saveSnapshot_1 8 rfl rfl)
theorem dX6_saveSnapshot_33 : decode cX6_saveSnapshot 33 = .ok (.iconst 1, 1) := dk_4 (dk_at dksX6_saveSnapshot_1 9 rfl rfl)
theorem dX6_saveSnapshot_34 : decode cX6_saveSnapshot 34 = .ok (.putfield 384, 3) := dk_181 1 128 (dk_at dksX6_saveSnapshot_1 10 rfl rfl)
theorem dX6_saveSnapshot_37 : decode cX6_saveSnapshot 37 = .ok (.aload_n 0, 1) := dk_42 (dk_at dksX6_saveSnapshot_1 13 rfl rfl)
theorem dX6_saveSnapshot_38 : decode cX6_saveSnapshot 38 = .ok (.getfield 13, 3) := dk_180 0 13 (dk_at dksX6_saveSnapshot_1 14 rfl rfl)
theorem dX6_saveSnapshot_41 : decode cX6_saveSnapshot 41 = .ok (.iconst 3, 1) := dk_6 (dk_at dksX6_saveSnapshot_1 17 rfl rfl)
theorem dX6_saveSnapshot_42 : decode cX6_saveSnapshot 42 = .ok (.iaload, 1) := dk_46 (dk_at dksX6_saveSnapshot_1 18 rfl rfl)
theorem dX6_saveSnapshot_43 : decode cX6_saveSnapshot 43 = .ok (.ireturn, 1) := dk_172 (dk_at dksX6_saveSnapshot_1 19 rfl rfl)
abbrev cX6_restoreSnapshot : ByteArray := prog_14_method_147_code
def yX6_restoreSnapshot : MethodName := ⟨RX6, "restoreSnapshot", "()I"⟩
def dkwX6_restoreSnapshot_2 : List UInt8 := [181, 0, 51, 42, 3, 181, 0, 54, 42, 180, 0, 13, 6, 46, 172]
abbrev dktX6_restoreSnapshot_2 : List UInt8 := dkwX6_restoreSnapshot_2 ++ []
def dkwX6_restoreSnapshot_1 : List UInt8 := [162, 0, 21, 42, 180, 0, 13, 27, 42, 180, 0, 20, 27, 46, 79, 132, 1, 1, 167, 255, 234, 42, 3]
abbrev dktX6_restoreSnapshot_1 : List UInt8 := dkwX6_restoreSnapshot_1 ++ dktX6_restoreSnapshot_2
def dkwX6_restoreSnapshot_0 : List UInt8 := [42, 3, 181, 0, 1, 42, 180, 1, 128, 154, 0, 9, 42, 4, 182, 0, 75, 172, 3, 60, 27, 17, 0, 189]
abbrev dktX6_restoreSnapshot_0 : List UInt8 := dkwX6_restoreSnapshot_0 ++ dktX6_restoreSnapshot_1
theorem dksX6_restoreSnapshot_0 : cX6_restoreSnapshot.data.toList.drop 0 = dktX6_restoreSnapshot_0 := by decide +kernel
theorem dksX6_restoreSnapshot_1 : cX6_restoreSnapshot.data.toList.drop 24 = dktX6_restoreSnapshot_1 := dk_seg dksX6_restoreSnapshot_0 24 rfl rfl
theorem dksX6_restoreSnapshot_2 : cX6_restoreSnapshot.data.toList.drop 47 = dktX6_restoreSnapshot_2 := dk_seg dksX6_restoreSnapshot_1 23 rfl rfl
theorem dX6_restoreSnapshot_0 : decode cX6_restoreSnapshot 0 = .ok (.aload_n 0, 1) := dk_42 (dk_at dksX6_restoreSnapshot_0 0 rfl rfl)
theorem dX6_restoreSnapshot_1 : decode cX6_restoreSnapshot 1 = .ok (.iconst 0, 1) := dk_3 (dk_at dksX6_restoreSnapshot_0 1 rfl rfl)
theorem dX6_restoreSnapshot_2 : decode cX6_restoreSnapshot 2 = .ok (.putfield 1, 3) := dk_181 0 1 (dk_at dksX6_restoreSnapshot_0 2 rfl rfl)
theorem dX6_restoreSnapshot_5 : decode cX6_restoreSnapshot 5 = .ok (.aload_n 0, 1) := dk_42 (dk_at dksX6_restoreSnapshot_0 5 rfl rfl)
theorem dX6_restoreSnapshot_6 : decode cX6_restoreSnapshot 6 = .ok (.getfield 384, 3) := dk_180 1 128 (dk_at dksX6_restoreSnapshot_0 6 rfl rfl)
theorem dX6_restoreSnapshot_9 : decode cX6_restoreSnapshot 9 = .ok (.ifCond .ne 9, 3) := dk_154 0 9 (dk_at dksX6_restoreSnapshot_0 9 rfl rfl)
theorem dX6_restoreSnapshot_12 : decode cX6_restoreSnapshot 12 = .ok (.aload_n 0, 1) := dk_42 (dk_at dksX6_restoreSnapshot_0 12 rfl rfl)
theorem dX6_restoreSnapshot_13 : decode cX6_restoreSnapshot 13 = .ok (.iconst 1, 1) := dk_4 (dk_at dksX6_restoreSnapshot_0 13 rfl rfl)
theorem dX6_restoreSnapshot_14 : decode cX6_restoreSnapshot 14 = .ok (.invokevirtual 75, 3) := dk_182 0 75 (dk_at dksX6_restoreSnapshot_0 14 rfl rfl)
theorem dX6_restoreSnapshot_17 : decode cX6_restoreSnapshot 17 = .ok (.ireturn, 1) := dk_172 (dk_at dksX6_restoreSnapshot_0 17 rfl rfl)
theorem dX6_restoreSnapshot_18 : decode cX6_restoreSnapshot 18 = .ok (.iconst 0, 1) := dk_3 (dk_at dksX6_restoreSnapshot_0 18 rfl rfl)
theorem dX6_restoreSnapshot_19 : decode cX6_restoreSnapshot 19 = .ok (.istore_n 1, 1) := dk_60 (dk_at dksX6_restoreSnapshot_0 19 rfl rfl)
theorem dX6_restoreSnapshot_20 : decode cX6_restoreSnapshot 20 = .ok (.iload_n 1, 1) := dk_27 (dk_at dksX6_restoreSnapshot_0 20 rfl rfl)
theorem dX6_restoreSnapshot_21 : decode cX6_restoreSnapshot 21 = .ok (.sipush 189, 3) := dk_17 0 189 (dk_at dksX6_restoreSnapshot_0 21 rfl rfl)
theorem dX6_restoreSnapshot_24 : decode cX6_restoreSnapshot 24 = .ok (.if_icmp .ge 21, 3) := dk_162 0 21 (dk_at dksX6_restoreSnapshot_1 0 rfl rfl)
theorem dX6_restoreSnapshot_27 : decode cX6_restoreSnapshot 27 = .ok (.aload_n 0, 1) := dk_42 (dk_at dksX6_restoreSnapshot_1 3 rfl rfl)
theorem dX6_restoreSnapshot_28 : decode cX6_restoreSnapshot 28 = .ok (.getfield 13, 3) := dk_180 0 13 (dk_at dksX6_restoreSnapshot_1 4 rfl rfl)
theorem dX6_restoreSnapshot_31 : decode cX6_restoreSnapshot 31 = .ok (.iload_n 1, 1) := dk_27 (dk_at dksX6_restoreSnapshot_1 7 rfl rfl)
theorem dX6_restoreSnapshot_32 : decode cX6_restoreSnapshot 32 = .ok (.aload_n 0, 1) := dk_42 (dk_at dksX6_restoreSnapshot_1 8 rfl rfl)
theorem dX6_restoreSnapshot_33 : decode cX6_restoreSnapshot 33 = .ok (.getfield 20, 3) := dk_180 0 20 (dk_at dksX6_restoreSnapshot_1 9 rfl rfl)
theorem dX6_restoreSnapshot_36 : decode cX6_restoreSnapshot 36 = .ok (.iload_n 1, 1) := dk_27 (dk_at dksX6_restoreSnapshot_1 12 rfl rfl)
theorem dX6_restoreSnapshot_37 : decode cX6_restoreSnapshot 37 = .ok (.iaload, 1) := dk_46 (dk_at dksX6_restoreSnapshot_1 13 rfl rfl)
theorem dX6_restoreSnapshot_38 : decode cX6_restoreSnapshot 38 = .ok (.iastore, 1) := dk_79 (dk_at dksX6_restoreSnapshot_1 14 rfl rfl)
theorem dX6_restoreSnapshot_39 : decode cX6_restoreSnapshot 39 = .ok (.iinc 1 1, 3) := dk_132 1 1 (dk_at dksX6_restoreSnapshot_1 15 rfl rfl)
theorem dX6_restoreSnapshot_42 : decode cX6_restoreSnapshot 42 = .ok (.goto (-22), 3) := dk_167 255 234 (dk_at dksX6_restoreSnapshot_1 18 rfl rfl)
theorem dX6_restoreSnapshot_45 : decode cX6_restoreSnapshot 45 = .ok (.aload_n 0, 1) := dk_42 (dk_at dksX6_restoreSnapshot_1 21 rfl rfl)
theorem dX6_restoreSnapshot_46 : decode cX6_restoreSnapshot 46 = .ok (.iconst 0, 1) := dk_3 (dk_at dksX6_restoreSnapshot_1 22 rfl rfl)
theorem dX6_restoreSnapshot_47 : decode cX6_restoreSnapshot 47 = .ok (.putfield 51, 3) := dk_181 0 51 (dk_at dksX6_restoreSnapshot_2 0 rfl rfl)
theorem dX6_restoreSnapshot_50 : decode cX6_restoreSnapshot 50 = .ok (.aload_n 0, 1) := dk_42 (dk_at dksX6_restoreSnapshot_2 3 rfl rfl)
theorem dX6_restoreSnapshot_51 : decode cX6_restoreSnapshot 51 = .ok (.iconst 0, 1) := dk_3 (dk_at dksX6_restoreSnapshot_2 4 rfl rfl)
theorem dX6_restoreSnapshot_52 : decode cX6_restoreSnapshot 52 = .ok (.putfield 54, 3) := dk_181 0 54 (dk_at dksX6_restoreSnapshot_2 5 rfl rfl)
theorem dX6_restoreSnapshot_55 : decode cX6_restoreSnapshot 55 = .ok (.aload_n 0, 1) := dk_42 (dk_at dksX6_restoreSnapshot_2 8 rfl rfl)
theorem dX6_restoreSnapshot_56 : decode cX6_restoreSnapshot 56 = .ok (.getfield 13, 3) := dk_180 0 13 (dk_at dksX6_restoreSnapshot_2 9 rfl rfl)
theorem dX6_restoreSnapshot_59 : decode cX6_restoreSnapshot 59 = .ok (.iconst 3, 1) := dk_6 (dk_at dksX6_restoreSnapshot_2 12 rfl rfl)
theorem dX6_restoreSnapshot_60 : decode cX6_restoreSnapshot 60 = .ok (.iaload, 1) := dk_46 (dk_at dksX6_restoreSnapshot_2 13 rfl rfl)
theorem dX6_restoreSnapshot_61 : decode cX6_restoreSnapshot 61 = .ok (.ireturn, 1) := dk_172 (dk_at dksX6_restoreSnapshot_2 14 rfl rfl)
