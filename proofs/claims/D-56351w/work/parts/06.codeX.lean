set_option maxRecDepth 100000
abbrev cX0_addActor : ByteArray := method_3_code
def yX0_addActor : MethodName := ⟨RX0, "addActor", "(LSpindleActors;CI[J)I"⟩
def dkwX0_addActor_0 : List UInt8 := [45, 3, 42, 27, 28, 182, 0, 7, 133, 80, 167, 0, 11, 58, 4, 4, 172, 58, 4, 5, 172, 3, 172]
abbrev dktX0_addActor_0 : List UInt8 := dkwX0_addActor_0 ++ []
theorem dksX0_addActor_0 : cX0_addActor.data.toList.drop 0 = dktX0_addActor_0 := by decide +kernel
theorem dX0_addActor_0 : decode cX0_addActor 0 = .ok (.aload_n 3, 1) := dk_45 (dk_at dksX0_addActor_0 0 rfl rfl)
theorem dX0_addActor_1 : decode cX0_addActor 1 = .ok (.iconst 0, 1) := dk_3 (dk_at dksX0_addActor_0 1 rfl rfl)
theorem dX0_addActor_2 : decode cX0_addActor 2 = .ok (.aload_n 0, 1) := dk_42 (dk_at dksX0_addActor_0 2 rfl rfl)
theorem dX0_addActor_3 : decode cX0_addActor 3 = .ok (.iload_n 1, 1) := dk_27 (dk_at dksX0_addActor_0 3 rfl rfl)
theorem dX0_addActor_4 : decode cX0_addActor 4 = .ok (.iload_n 2, 1) := dk_28 (dk_at dksX0_addActor_0 4 rfl rfl)
theorem dX0_addActor_5 : decode cX0_addActor 5 = .ok (.invokevirtual 7, 3) := dk_182 0 7 (dk_at dksX0_addActor_0 5 rfl rfl)
theorem dX0_addActor_8 : decode cX0_addActor 8 = .ok (.i2l, 1) := dk_133 (dk_at dksX0_addActor_0 8 rfl rfl)
theorem dX0_addActor_9 : decode cX0_addActor 9 = .ok (.lastore, 1) := dk_80 (dk_at dksX0_addActor_0 9 rfl rfl)
theorem dX0_addActor_10 : decode cX0_addActor 10 = .ok (.goto 11, 3) := dk_167 0 11 (dk_at dksX0_addActor_0 10 rfl rfl)
theorem dX0_addActor_13 : decode cX0_addActor 13 = .ok (.astore 4, 2) := dk_58 4 (dk_at dksX0_addActor_0 13 rfl rfl)
theorem dX0_addActor_15 : decode cX0_addActor 15 = .ok (.iconst 1, 1) := dk_4 (dk_at dksX0_addActor_0 15 rfl rfl)
theorem dX0_addActor_16 : decode cX0_addActor 16 = .ok (.ireturn, 1) := dk_172 (dk_at dksX0_addActor_0 16 rfl rfl)
theorem dX0_addActor_17 : decode cX0_addActor 17 = .ok (.astore 4, 2) := dk_58 4 (dk_at dksX0_addActor_0 17 rfl rfl)
theorem dX0_addActor_19 : decode cX0_addActor 19 = .ok (.iconst 2, 1) := dk_5 (dk_at dksX0_addActor_0 19 rfl rfl)
theorem dX0_addActor_20 : decode cX0_addActor 20 = .ok (.ireturn, 1) := dk_172 (dk_at dksX0_addActor_0 20 rfl rfl)
theorem dX0_addActor_21 : decode cX0_addActor 21 = .ok (.iconst 0, 1) := dk_3 (dk_at dksX0_addActor_0 21 rfl rfl)
theorem dX0_addActor_22 : decode cX0_addActor 22 = .ok (.ireturn, 1) := dk_172 (dk_at dksX0_addActor_0 22 rfl rfl)
abbrev cX0_setTarget : ByteArray := method_4_code
def yX0_setTarget : MethodName := ⟨RX0, "setTarget", "(LSpindleActors;II[J)I"⟩
def dkwX0_setTarget_0 : List UInt8 := [45, 3, 42, 27, 28, 182, 0, 17, 133, 80, 167, 0, 7, 58, 4, 4, 172, 3, 172]
abbrev dktX0_setTarget_0 : List UInt8 := dkwX0_setTarget_0 ++ []
theorem dksX0_setTarget_0 : cX0_setTarget.data.toList.drop 0 = dktX0_setTarget_0 := by decide +kernel
theorem dX0_setTarget_0 : decode cX0_setTarget 0 = .ok (.aload_n 3, 1) := dk_45 (dk_at dksX0_setTarget_0 0 rfl rfl)
theorem dX0_setTarget_1 : decode cX0_setTarget 1 = .ok (.iconst 0, 1) := dk_3 (dk_at dksX0_setTarget_0 1 rfl rfl)
theorem dX0_setTarget_2 : decode cX0_setTarget 2 = .ok (.aload_n 0, 1) := dk_42 (dk_at dksX0_setTarget_0 2 rfl rfl)
theorem dX0_setTarget_3 : decode cX0_setTarget 3 = .ok (.iload_n 1, 1) := dk_27 (dk_at dksX0_setTarget_0 3 rfl rfl)
theorem dX0_setTarget_4 : decode cX0_setTarget 4 = .ok (.iload_n 2, 1) := dk_28 (dk_at dksX0_setTarget_0 4 rfl rfl)
theorem dX0_setTarget_5 : decode cX0_setTarget 5 = .ok (.invokevirtual 17, 3) := dk_182 0 17 (dk_at dksX0_setTarget_0 5 rfl rfl)
theorem dX0_setTarget_8 : decode cX0_setTarget 8 = .ok (.i2l, 1) := dk_133 (dk_at dksX0_setTarget_0 8 rfl rfl)
theorem dX0_setTarget_9 : decode cX0_setTarget 9 = .ok (.lastore, 1) := dk_80 (dk_at dksX0_setTarget_0 9 rfl rfl)
theorem dX0_setTarget_10 : decode cX0_setTarget 10 = .ok (.goto 7, 3) := dk_167 0 7 (dk_at dksX0_setTarget_0 10 rfl rfl)
theorem dX0_setTarget_13 : decode cX0_setTarget 13 = .ok (.astore 4, 2) := dk_58 4 (dk_at dksX0_setTarget_0 13 rfl rfl)
theorem dX0_setTarget_15 : decode cX0_setTarget 15 = .ok (.iconst 1, 1) := dk_4 (dk_at dksX0_setTarget_0 15 rfl rfl)
theorem dX0_setTarget_16 : decode cX0_setTarget 16 = .ok (.ireturn, 1) := dk_172 (dk_at dksX0_setTarget_0 16 rfl rfl)
theorem dX0_setTarget_17 : decode cX0_setTarget 17 = .ok (.iconst 0, 1) := dk_3 (dk_at dksX0_setTarget_0 17 rfl rfl)
theorem dX0_setTarget_18 : decode cX0_setTarget 18 = .ok (.ireturn, 1) := dk_172 (dk_at dksX0_setTarget_0 18 rfl rfl)
abbrev cX0_setSupervisor : ByteArray := method_5_code
def yX0_setSupervisor : MethodName := ⟨RX0, "setSupervisor", "(LSpindleActors;II[J)I"⟩
def dkwX0_setSupervisor_1 : List UInt8 := [172, 3, 172]
abbrev dktX0_setSupervisor_1 : List UInt8 := dkwX0_setSupervisor_1 ++ []
def dkwX0_setSupervisor_0 : List UInt8 := [45, 3, 42, 27, 28, 182, 0, 23, 133, 80, 167, 0, 15, 58, 4, 4, 172, 58, 4, 5, 172, 58, 4, 6]
abbrev dktX0_setSupervisor_0 : List UInt8 := dkwX0_setSupervisor_0 ++ dktX0_setSupervisor_1
theorem dksX0_setSupervisor_0 : cX0_setSupervisor.data.toList.drop 0 = dktX0_setSupervisor_0 := by decide +kernel
theorem dksX0_setSupervisor_1 : cX0_setSupervisor.data.toList.drop 24 = dktX0_setSupervisor_1 := dk_seg dksX0_setSupervisor_0 24 rfl rfl
theorem dX0_setSupervisor_0 : decode cX0_setSupervisor 0 = .ok (.aload_n 3, 1) := dk_45 (dk_at dksX0_setSupervisor_0 0 rfl rfl)
theorem dX0_setSupervisor_1 : decode cX0_setSupervisor 1 = .ok (.iconst 0, 1) := dk_3 (dk_at dksX0_setSupervisor_0 1 rfl rfl)
theorem dX0_setSupervisor_2 : decode cX0_setSupervisor 2 = .ok (.aload_n 0, 1) := dk_42 (dk_at dksX0_setSupervisor_0 2 rfl rfl)
theorem dX0_setSupervisor_3 : decode cX0_setSupervisor 3 = .ok (.iload_n 1, 1) := dk_27 (dk_at dksX0_setSupervisor_0 3 rfl rfl)
theorem dX0_setSupervisor_4 : decode cX0_setSupervisor 4 = .ok (.iload_n 2, 1) := dk_28 (dk_at dksX0_setSupervisor_0 4 rfl rfl)
theorem dX0_setSupervisor_5 : decode cX0_setSupervisor 5 = .ok (.invokevirtual 23, 3) := dk_182 0 23 (dk_at dksX0_setSupervisor_0 5 rfl rfl)
theorem dX0_setSupervisor_8 : decode cX0_setSupervisor 8 = .ok (.i2l, 1) := dk_133 (dk_at dksX0_setSupervisor_0 8 rfl rfl)
theorem dX0_setSupervisor_9 : decode cX0_setSupervisor 9 = .ok (.lastore, 1) := dk_80 (dk_at dksX0_setSupervisor_0 9 rfl rfl)
theorem dX0_setSupervisor_10 : decode cX0_setSupervisor 10 = .ok (.goto 15, 3) := dk_167 0 15 (dk_at dksX0_setSupervisor_0 10 rfl rfl)
theorem dX0_setSupervisor_13 : decode cX0_setSupervisor 13 = .ok (.astore 4, 2) := dk_58 4 (dk_at dksX0_setSupervisor_0 13 rfl rfl)
theorem dX0_setSupervisor_15 : decode cX0_setSupervisor 15 = .ok (.iconst 1, 1) := dk_4 (dk_at dksX0_setSupervisor_0 15 rfl rfl)
theorem dX0_setSupervisor_16 : decode cX0_setSupervisor 16 = .ok (.ireturn, 1) := dk_172 (dk_at dksX0_setSupervisor_0 16 rfl rfl)
theorem dX0_setSupervisor_17 : decode cX0_setSupervisor 17 = .ok (.astore 4, 2) := dk_58 4 (dk_at dksX0_setSupervisor_0 17 rfl rfl)
theorem dX0_setSupervisor_19 : decode cX0_setSupervisor 19 = .ok (.iconst 2, 1) := dk_5 (dk_at dksX0_setSupervisor_0 19 rfl rfl)
theorem dX0_setSupervisor_20 : decode cX0_setSupervisor 20 = .ok (.ireturn, 1) := dk_172 (dk_at dksX0_setSupervisor_0 20 rfl rfl)
theorem dX0_setSupervisor_21 : decode cX0_setSupervisor 21 = .ok (.astore 4, 2) := dk_58 4 (dk_at dksX0_setSupervisor_0 21 rfl rfl)
theorem dX0_setSupervisor_23 : decode cX0_setSupervisor 23 = .ok (.iconst 3, 1) := dk_6 (dk_at dksX0_setSupervisor_0 23 rfl rfl)
theorem dX0_setSupervisor_24 : decode cX0_setSupervisor 24 = .ok (.ireturn, 1) := dk_172 (dk_at dksX0_setSupervisor_1 0 rfl rfl)
theorem dX0_setSupervisor_25 : decode cX0_setSupervisor 25 = .ok (.iconst 0, 1) := dk_3 (dk_at dksX0_setSupervisor_1 1 rfl rfl)
theorem dX0_setSupervisor_26 : decode cX0_setSupervisor 26 = .ok (.ireturn, 1) := dk_172 (dk_at dksX0_setSupervisor_1 2 rfl rfl)
abbrev cX0_setStrategy : ByteArray := method_6_code
def yX0_setStrategy : MethodName := ⟨RX0, "setStrategy", "(LSpindleActors;IC[J)I"⟩
def dkwX0_setStrategy_0 : List UInt8 := [45, 3, 42, 27, 28, 182, 0, 26, 133, 80, 167, 0, 11, 58, 4, 4, 172, 58, 4, 5, 172, 3, 172]
abbrev dktX0_setStrategy_0 : List UInt8 := dkwX0_setStrategy_0 ++ []
theorem dksX0_setStrategy_0 : cX0_setStrategy.data.toList.drop 0 = dktX0_setStrategy_0 := by decide +kernel
theorem dX0_setStrategy_0 : decode cX0_setStrategy 0 = .ok (.aload_n 3, 1) := dk_45 (dk_at dksX0_setStrategy_0 0 rfl rfl)
theorem dX0_setStrategy_1 : decode cX0_setStrategy 1 = .ok (.iconst 0, 1) := dk_3 (dk_at dksX0_setStrategy_0 1 rfl rfl)
theorem dX0_setStrategy_2 : decode cX0_setStrategy 2 = .ok (.aload_n 0, 1) := dk_42 (dk_at dksX0_setStrategy_0 2 rfl rfl)
theorem dX0_setStrategy_3 : decode cX0_setStrategy 3 = .ok (.iload_n 1, 1) := dk_27 (dk_at dksX0_setStrategy_0 3 rfl rfl)
theorem dX0_setStrategy_4 : decode cX0_setStrategy 4 = .ok (.iload_n 2, 1) := dk_28 (dk_at dksX0_setStrategy_0 4 rfl rfl)
theorem dX0_setStrategy_5 : decode cX0_setStrategy 5 = .ok (.invokevirtual 26, 3) := dk_182 0 26 (dk_at dksX0_setStrategy_0 5 rfl rfl)
theorem dX0_setStrategy_8 : decode cX0_setStrategy 8 = .ok (.i2l, 1) := dk_133 (dk_at dksX0_setStrategy_0 8 rfl rfl)
theorem dX0_setStrategy_9 : decode cX0_setStrategy 9 = .ok (.lastore, 1) := dk_80 (dk_at dksX0_setStrategy_0 9 rfl rfl)
theorem dX0_setStrategy_10 : decode cX0_setStrategy 10 = .ok (.goto 11, 3) := dk_167 0 11 (dk_at dksX0_setStrategy_0 10 rfl rfl)
theorem dX0_setStrategy_13 : decode cX0_setStrategy 13 = .ok (.astore 4, 2) := dk_58 4 (dk_at dksX0_setStrategy_0 13 rfl rfl)
theorem dX0_setStrategy_15 : decode cX0_setStrategy 15 = .ok (.iconst 1, 1) := dk_4 (dk_at dksX0_setStrategy_0 15 rfl rfl)
theorem dX0_setStrategy_16 : decode cX0_setStrategy 16 = .ok (.ireturn, 1) := dk_172 (dk_at dksX0_setStrategy_0 16 rfl rfl)
theorem dX0_setStrategy_17 : decode cX0_setStrategy 17 = .ok (.astore 4, 2) := dk_58 4 (dk_at dksX0_setStrategy_0 17 rfl rfl)
theorem dX0_setStrategy_19 : decode cX0_setStrategy 19 = .ok (.iconst 2, 1) := dk_5 (dk_at dksX0_setStrategy_0 19 rfl rfl)
theorem dX0_setStrategy_20 : decode cX0_setStrategy 20 = .ok (.ireturn, 1) := dk_172 (dk_at dksX0_setStrategy_0 20 rfl rfl)
theorem dX0_setStrategy_21 : decode cX0_setStrategy 21 = .ok (.iconst 0, 1) := dk_3 (dk_at dksX0_setStrategy_0 21 rfl rfl)
theorem dX0_setStrategy_22 : decode cX0_setStrategy 22 = .ok (.ireturn, 1) := dk_172 (dk_at dksX0_setStrategy_0 22 rfl rfl)
abbrev cX0_setPriority : ByteArray := method_7_code
def yX0_setPriority : MethodName := ⟨RX0, "setPriority", "(LSpindleActors;II[J)I"⟩
def dkwX0_setPriority_0 : List UInt8 := [45, 3, 42, 27, 28, 182, 0, 30, 133, 80, 167, 0, 11, 58, 4, 4, 172, 58, 4, 5, 172, 3, 172]
abbrev dktX0_setPriority_0 : List UInt8 := dkwX0_setPriority_0 ++ []
theorem dksX0_setPriority_0 : cX0_setPriority.data.toList.drop 0 = dktX0_setPriority_0 := by decide +kernel
theorem dX0_setPriority_0 : decode cX0_setPriority 0 = .ok (.aload_n 3, 1) := dk_45 (dk_at dksX0_setPriority_0 0 rfl rfl)
theorem dX0_setPriority_1 : decode cX0_setPriority 1 = .ok (.iconst 0, 1) := dk_3 (dk_at dksX0_setPriority_0 1 rfl rfl)
theorem dX0_setPriority_2 : decode cX0_setPriority 2 = .ok (.aload_n 0, 1) := dk_42 (dk_at dksX0_setPriority_0 2 rfl rfl)
theorem dX0_setPriority_3 : decode cX0_setPriority 3 = .ok (.iload_n 1, 1) := dk_27 (dk_at dksX0_setPriority_0 3 rfl rfl)
theorem dX0_setPriority_4 : decode cX0_setPriority 4 = .ok (.iload_n 2, 1) := dk_28 (dk_at dksX0_setPriority_0 4 rfl rfl)
theorem dX0_setPriority_5 : decode cX0_setPriority 5 = .ok (.invokevirtual 30, 3) := dk_182 0 30 (dk_at dksX0_setPriority_0 5 rfl rfl)
theorem dX0_setPriority_8 : decode cX0_setPriority 8 = .ok (.i2l, 1) := dk_133 (dk_at dksX0_setPriority_0 8 rfl rfl)
theorem dX0_setPriority_9 : decode cX0_setPriority 9 = .ok (.lastore, 1) := dk_80 (dk_at dksX0_setPriority_0 9 rfl rfl)
theorem dX0_setPriority_10 : decode cX0_setPriority 10 = .ok (.goto 11, 3) := dk_167 0 11 (dk_at dksX0_setPriority_0 10 rfl rfl)
theorem dX0_setPriority_13 : decode cX0_setPriority 13 = .ok (.astore 4, 2) := dk_58 4 (dk_at dksX0_setPriority_0 13 rfl rfl)
theorem dX0_setPriority_15 : decode cX0_setPriority 15 = .ok (.iconst 1, 1) := dk_4 (dk_at dksX0_setPriority_0 15 rfl rfl)
theorem dX0_setPriority_16 : decode cX0_setPriority 16 = .ok (.ireturn, 1) := dk_172 (dk_at dksX0_setPriority_0 16 rfl rfl)
theorem dX0_setPriority_17 : decode cX0_setPriority 17 = .ok (.astore 4, 2) := dk_58 4 (dk_at dksX0_setPriority_0 17 rfl rfl)
theorem dX0_setPriority_19 : decode cX0_setPriority 19 = .ok (.iconst 2, 1) := dk_5 (dk_at dksX0_setPriority_0 19 rfl rfl)
theorem dX0_setPriority_20 : decode cX0_setPriority 20 = .ok (.ireturn, 1) := dk_172 (dk_at dksX0_setPriority_0 20 rfl rfl)
theorem dX0_setPriority_21 : decode cX0_setPriority 21 = .ok (.iconst 0, 1) := dk_3 (dk_at dksX0_setPriority_0 21 rfl rfl)
theorem dX0_setPriority_22 : decode cX0_setPriority 22 = .ok (.ireturn, 1) := dk_172 (dk_at dksX0_setPriority_0 22 rfl rfl)
abbrev cX0_start : ByteArray := method_8_code
def yX0_start : MethodName := ⟨RX0, "start", "(LSpindleActors;I[J)I"⟩
def dkwX0_start_0 : List UInt8 := [44, 3, 42, 27, 182, 0, 33, 133, 80, 167, 0, 9, 78, 4, 172, 78, 5, 172, 3, 172]
abbrev dktX0_start_0 : List UInt8 := dkwX0_start_0 ++ []
theorem dksX0_start_0 : cX0_start.data.toList.drop 0 = dktX0_start_0 := by decide +kernel
theorem dX0_start_0 : decode cX0_start 0 = .ok (.aload_n 2, 1) := dk_44 (dk_at dksX0_start_0 0 rfl rfl)
theorem dX0_start_1 : decode cX0_start 1 = .ok (.iconst 0, 1) := dk_3 (dk_at dksX0_start_0 1 rfl rfl)
theorem dX0_start_2 : decode cX0_start 2 = .ok (.aload_n 0, 1) := dk_42 (dk_at dksX0_start_0 2 rfl rfl)
theorem dX0_start_3 : decode cX0_start 3 = .ok (.iload_n 1, 1) := dk_27 (dk_at dksX0_start_0 3 rfl rfl)
theorem dX0_start_4 : decode cX0_start 4 = .ok (.invokevirtual 33, 3) := dk_182 0 33 (dk_at dksX0_start_0 4 rfl rfl)
theorem dX0_start_7 : decode cX0_start 7 = .ok (.i2l, 1) := dk_133 (dk_at dksX0_start_0 7 rfl rfl)
theorem dX0_start_8 : decode cX0_start 8 = .ok (.lastore, 1) := dk_80 (dk_at dksX0_start_0 8 rfl rfl)
theorem dX0_start_9 : decode cX0_start 9 = .ok (.goto 9, 3) := dk_167 0 9 (dk_at dksX0_start_0 9 rfl rfl)
theorem dX0_start_12 : decode cX0_start 12 = .ok (.astore_n 3, 1) := dk_78 (dk_at dksX0_start_0 12 rfl rfl)
theorem dX0_start_13 : decode cX0_start 13 = .ok (.iconst 1, 1) := dk_4 (dk_at dksX0_start_0 13 rfl rfl)
theorem dX0_start_14 : decode cX0_start 14 = .ok (.ireturn, 1) := dk_172 (dk_at dksX0_start_0 14 rfl rfl)
theorem dX0_start_15 : decode cX0_start 15 = .ok (.astore_n 3, 1) := dk_78 (dk_at dksX0_start_0 15 rfl rfl)
theorem dX0_start_16 : decode cX0_start 16 = .ok (.iconst 2, 1) := dk_5 (dk_at dksX0_start_0 16 rfl rfl)
theorem dX0_start_17 : decode cX0_start 17 = .ok (.ireturn, 1) := dk_172 (dk_at dksX0_start_0 17 rfl rfl)
theorem dX0_start_18 : decode cX0_start 18 = .ok (.iconst 0, 1) := dk_3 (dk_at dksX0_start_0 18 rfl rfl)
theorem dX0_start_19 : decode cX0_start 19 = .ok (.ireturn, 1) := dk_172 (dk_at dksX0_start_0 19 rfl rfl)
abbrev cX0_stop : ByteArray := method_9_code
def yX0_stop : MethodName := ⟨RX0, "stop", "(LSpindleActors;I[J)I"⟩
def dkwX0_stop_0 : List UInt8 := [44, 3, 42, 27, 182, 0, 37, 133, 80, 167, 0, 9, 78, 4, 172, 78, 5, 172, 3, 172]
abbrev dktX0_stop_0 : List UInt8 := dkwX0_stop_0 ++ []
theorem dksX0_stop_0 : cX0_stop.data.toList.drop 0 = dktX0_stop_0 := by decide +kernel
theorem dX0_stop_0 : decode cX0_stop 0 = .ok (.aload_n 2, 1) := dk_44 (dk_at dksX0_stop_0 0 rfl rfl)
theorem dX0_stop_1 : decode cX0_stop 1 = .ok (.iconst 0, 1) := dk_3 (dk_at dksX0_stop_0 1 rfl rfl)
theorem dX0_stop_2 : decode cX0_stop 2 = .ok (.aload_n 0, 1) := dk_42 (dk_at dksX0_stop_0 2 rfl rfl)
theorem dX0_stop_3 : decode cX0_stop 3 = .ok (.iload_n 1, 1) := dk_27 (dk_at dksX0_stop_0 3 rfl rfl)
theorem dX0_stop_4 : decode cX0_stop 4 = .ok (.invokevirtual 37, 3) := dk_182 0 37 (dk_at dksX0_stop_0 4 rfl rfl)
theorem dX0_stop_7 : decode cX0_stop 7 = .ok (.i2l, 1) := dk_133 (dk_at dksX0_stop_0 7 rfl rfl)
theorem dX0_stop_8 : decode cX0_stop 8 = .ok (.lastore, 1) := dk_80 (dk_at dksX0_stop_0 8 rfl rfl)
theorem dX0_stop_9 : decode cX0_stop 9 = .ok (.goto 9, 3) := dk_167 0 9 (dk_at dksX0_stop_0 9 rfl rfl)
theorem dX0_stop_12 : decode cX0_stop 12 = .ok (.astore_n 3, 1) := dk_78 (dk_at dksX0_stop_0 12 rfl rfl)
theorem dX0_stop_13 : decode cX0_stop 13 = .ok (.iconst 1, 1) := dk_4 (dk_at dksX0_stop_0 13 rfl rfl)
theorem dX0_stop_14 : decode cX0_stop 14 = .ok (.ireturn, 1) := dk_172 (dk_at dksX0_stop_0 14 rfl rfl)
theorem dX0_stop_15 : decode cX0_stop 15 = .ok (.astore_n 3, 1) := dk_78 (dk_at dksX0_stop_0 15 rfl rfl)
theorem dX0_stop_16 : decode cX0_stop 16 = .ok (.iconst 2, 1) := dk_5 (dk_at dksX0_stop_0 16 rfl rfl)
theorem dX0_stop_17 : decode cX0_stop 17 = .ok (.ireturn, 1) := dk_172 (dk_at dksX0_stop_0 17 rfl rfl)
theorem dX0_stop_18 : decode cX0_stop 18 = .ok (.iconst 0, 1) := dk_3 (dk_at dksX0_stop_0 18 rfl rfl)
theorem dX0_stop_19 : decode cX0_stop 19 = .ok (.ireturn, 1) := dk_172 (dk_at dksX0_stop_0 19 rfl rfl)
abbrev cX0_isStopped : ByteArray := method_10_code
def yX0_isStopped : MethodName := ⟨RX0, "isStopped", "(LSpindleActors;I[J)I"⟩
def dkwX0_isStopped_0 : List UInt8 := [44, 3, 42, 27, 182, 0, 40, 153, 0, 7, 10, 167, 0, 4, 9, 80, 167, 0, 6, 78, 4, 172, 3, 172]
abbrev dktX0_isStopped_0 : List UInt8 := dkwX0_isStopped_0 ++ []
theorem dksX0_isStopped_0 : cX0_isStopped.data.toList.drop 0 = dktX0_isStopped_0 := by decide +kernel
theorem dX0_isStopped_0 : decode cX0_isStopped 0 = .ok (.aload_n 2, 1) := dk_44 (dk_at dksX0_isStopped_0 0 rfl rfl)
theorem dX0_isStopped_1 : decode cX0_isStopped 1 = .ok (.iconst 0, 1) := dk_3 (dk_at dksX0_isStopped_0 1 rfl rfl)
theorem dX0_isStopped_2 : decode cX0_isStopped 2 = .ok (.aload_n 0, 1) := dk_42 (dk_at dksX0_isStopped_0 2 rfl rfl)
theorem dX0_isStopped_3 : decode cX0_isStopped 3 = .ok (.iload_n 1, 1) := dk_27 (dk_at dksX0_isStopped_0 3 rfl rfl)
theorem dX0_isStopped_4 : decode cX0_isStopped 4 = .ok (.invokevirtual 40, 3) := dk_182 0 40 (dk_at dksX0_isStopped_0 4 rfl rfl)
theorem dX0_isStopped_7 : decode cX0_isStopped 7 = .ok (.ifCond .eq 7, 3) := dk_153 0 7 (dk_at dksX0_isStopped_0 7 rfl rfl)
theorem dX0_isStopped_10 : decode cX0_isStopped 10 = .ok (.lconst 1, 1) := dk_10 (dk_at dksX0_isStopped_0 10 rfl rfl)
theorem dX0_isStopped_11 : decode cX0_isStopped 11 = .ok (.goto 4, 3) := dk_167 0 4 (dk_at dksX0_isStopped_0 11 rfl rfl)
theorem dX0_isStopped_14 : decode cX0_isStopped 14 = .ok (.lconst 0, 1) := dk_9 (dk_at dksX0_isStopped_0 14 rfl rfl)
theorem dX0_isStopped_15 : decode cX0_isStopped 15 = .ok (.lastore, 1) := dk_80 (dk_at dksX0_isStopped_0 15 rfl rfl)
theorem dX0_isStopped_16 : decode cX0_isStopped 16 = .ok (.goto 6, 3) := dk_167 0 6 (dk_at dksX0_isStopped_0 16 rfl rfl)
theorem dX0_isStopped_19 : decode cX0_isStopped 19 = .ok (.astore_n 3, 1) := dk_78 (dk_at dksX0_isStopped_0 19 rfl rfl)
theorem dX0_isStopped_20 : decode cX0_isStopped 20 = .ok (.iconst 1, 1) := dk_4 (dk_at dksX0_isStopped_0 20 rfl rfl)
theorem dX0_isStopped_21 : decode cX0_isStopped 21 = .ok (.ireturn, 1) := dk_172 (dk_at dksX0_isStopped_0 21 rfl rfl)
theorem dX0_isStopped_22 : decode cX0_isStopped 22 = .ok (.iconst 0, 1) := dk_3 (dk_at dksX0_isStopped_0 22 rfl rfl)
theorem dX0_isStopped_23 : decode cX0_isStopped 23 = .ok (.ireturn, 1) := dk_172 (dk_at dksX0_isStopped_0 23 rfl rfl)
abbrev cX0_kind : ByteArray := method_11_code
def yX0_kind : MethodName := ⟨RX0, "kind", "(LSpindleActors;I[J)I"⟩
def dkwX0_kind_0 : List UInt8 := [44, 3, 42, 27, 182, 0, 44, 133, 80, 167, 0, 6, 78, 4, 172, 3, 172]
abbrev dktX0_kind_0 : List UInt8 := dkwX0_kind_0 ++ []
theorem dksX0_kind_0 : cX0_kind.data.toList.drop 0 = dktX0_kind_0 := by decide +kernel
theorem dX0_kind_0 : decode cX0_kind 0 = .ok (.aload_n 2, 1) := dk_44 (dk_at dksX0_kind_0 0 rfl rfl)
theorem dX0_kind_1 : decode cX0_kind 1 = .ok (.iconst 0, 1) := dk_3 (dk_at dksX0_kind_0 1 rfl rfl)
theorem dX0_kind_2 : decode cX0_kind 2 = .ok (.aload_n 0, 1) := dk_42 (dk_at dksX0_kind_0 2 rfl rfl)
theorem dX0_kind_3 : decode cX0_kind 3 = .ok (.iload_n 1, 1) := dk_27 (dk_at dksX0_kind_0 3 rfl rfl)
theorem dX0_kind_4 : decode cX0_kind 4 = .ok (.invokevirtual 44, 3) := dk_182 0 44 (dk_at dksX0_kind_0 4 rfl rfl)
theorem dX0_kind_7 : decode cX0_kind 7 = .ok (.i2l, 1) := dk_133 (dk_at dksX0_kind_0 7 rfl rfl)
theorem dX0_kind_8 : decode cX0_kind 8 = .ok (.lastore, 1) := dk_80 (dk_at dksX0_kind_0 8 rfl rfl)
theorem dX0_kind_9 : decode cX0_kind 9 = .ok (.goto 6, 3) := dk_167 0 6 (dk_at dksX0_kind_0 9 rfl rfl)
theorem dX0_kind_12 : decode cX0_kind 12 = .ok (.astore_n 3, 1) := dk_78 (dk_at dksX0_kind_0 12 rfl rfl)
theorem dX0_kind_13 : decode cX0_kind 13 = .ok (.iconst 1, 1) := dk_4 (dk_at dksX0_kind_0 13 rfl rfl)
theorem dX0_kind_14 : decode cX0_kind 14 = .ok (.ireturn, 1) := dk_172 (dk_at dksX0_kind_0 14 rfl rfl)
theorem dX0_kind_15 : decode cX0_kind 15 = .ok (.iconst 0, 1) := dk_3 (dk_at dksX0_kind_0 15 rfl rfl)
theorem dX0_kind_16 : decode cX0_kind 16 = .ok (.ireturn, 1) := dk_172 (dk_at dksX0_kind_0 16 rfl rfl)
abbrev cX0_sum : ByteArray := method_12_code
def yX0_sum : MethodName := ⟨RX0, "sum", "(LSpindleActors;I[J)I"⟩
def dkwX0_sum_0 : List UInt8 := [44, 3, 42, 27, 182, 0, 48, 133, 80, 167, 0, 6, 78, 4, 172, 3, 172]
abbrev dktX0_sum_0 : List UInt8 := dkwX0_sum_0 ++ []
theorem dksX0_sum_0 : cX0_sum.data.toList.drop 0 = dktX0_sum_0 := by decide +kernel
theorem dX0_sum_0 : decode cX0_sum 0 = .ok (.aload_n 2, 1) := dk_44 (dk_at dksX0_sum_0 0 rfl rfl)
theorem dX0_sum_1 : decode cX0_sum 1 = .ok (.iconst 0, 1) := dk_3 (dk_at dksX0_sum_0 1 rfl rfl)
theorem dX0_sum_2 : decode cX0_sum 2 = .ok (.aload_n 0, 1) := dk_42 (dk_at dksX0_sum_0 2 rfl rfl)
theorem dX0_sum_3 : decode cX0_sum 3 = .ok (.iload_n 1, 1) := dk_27 (dk_at dksX0_sum_0 3 rfl rfl)
theorem dX0_sum_4 : decode cX0_sum 4 = .ok (.invokevirtual 48, 3) := dk_182 0 48 (dk_at dksX0_sum_0 4 rfl rfl)
theorem dX0_sum_7 : decode cX0_sum 7 = .ok (.i2l, 1) := dk_133 (dk_at dksX0_sum_0 7 rfl rfl)
theorem dX0_sum_8 : decode cX0_sum 8 = .ok (.lastore, 1) := dk_80 (dk_at dksX0_sum_0 8 rfl rfl)
theorem dX0_sum_9 : decode cX0_sum 9 = .ok (.goto 6, 3) := dk_167 0 6 (dk_at dksX0_sum_0 9 rfl rfl)
theorem dX0_sum_12 : decode cX0_sum 12 = .ok (.astore_n 3, 1) := dk_78 (dk_at dksX0_sum_0 12 rfl rfl)
theorem dX0_sum_13 : decode cX0_sum 13 = .ok (.iconst 1, 1) := dk_4 (dk_at dksX0_sum_0 13 rfl rfl)
theorem dX0_sum_14 : decode cX0_sum 14 = .ok (.ireturn, 1) := dk_172 (dk_at dksX0_sum_0 14 rfl rfl)
theorem dX0_sum_15 : decode cX0_sum 15 = .ok (.iconst 0, 1) := dk_3 (dk_at dksX0_sum_0 15 rfl rfl)
theorem dX0_sum_16 : decode cX0_sum 16 = .ok (.ireturn, 1) := dk_172 (dk_at dksX0_sum_0 16 rfl rfl)
abbrev cX0_supervisor : ByteArray := method_13_code
def yX0_supervisor : MethodName := ⟨RX0, "supervisor", "(LSpindleActors;I[J)I"⟩
def dkwX0_supervisor_0 : List UInt8 := [44, 3, 42, 27, 182, 0, 51, 133, 80, 167, 0, 9, 78, 4, 172, 78, 5, 172, 3, 172]
abbrev dktX0_supervisor_0 : List UInt8 := dkwX0_supervisor_0 ++ []
theorem dksX0_supervisor_0 : cX0_supervisor.data.toList.drop 0 = dktX0_supervisor_0 := by decide +kernel
theorem dX0_supervisor_0 : decode cX0_supervisor 0 = .ok (.aload_n 2, 1) := dk_44 (dk_at dksX0_supervisor_0 0 rfl rfl)
theorem dX0_supervisor_1 : decode cX0_supervisor 1 = .ok (.iconst 0, 1) := dk_3 (dk_at dksX0_supervisor_0 1 rfl rfl)
theorem dX0_supervisor_2 : decode cX0_supervisor 2 = .ok (.aload_n 0, 1) := dk_42 (dk_at dksX0_supervisor_0 2 rfl rfl)
theorem dX0_supervisor_3 : decode cX0_supervisor 3 = .ok (.iload_n 1, 1) := dk_27 (dk_at dksX0_supervisor_0 3 rfl rfl)
theorem dX0_supervisor_4 : decode cX0_supervisor 4 = .ok (.invokevirtual 51, 3) := dk_182 0 51 (dk_at dksX0_supervisor_0 4 rfl rfl)
theorem dX0_supervisor_7 : decode cX0_supervisor 7 = .ok (.i2l, 1) := dk_133 (dk_at dksX0_supervisor_0 7 rfl rfl)
theorem dX0_supervisor_8 : decode cX0_supervisor 8 = .ok (.lastore, 1) := dk_80 (dk_at dksX0_supervisor_0 8 rfl rfl)
theorem dX0_supervisor_9 : decode cX0_supervisor 9 = .ok (.goto 9, 3) := dk_167 0 9 (dk_at dksX0_supervisor_0 9 rfl rfl)
theorem dX0_supervisor_12 : decode cX0_supervisor 12 = .ok (.astore_n 3, 1) := dk_78 (dk_at dksX0_supervisor_0 12 rfl rfl)
theorem dX0_supervisor_13 : decode cX0_supervisor 13 = .ok (.iconst 1, 1) := dk_4 (dk_at dksX0_supervisor_0 13 rfl rfl)
theorem dX0_supervisor_14 : decode cX0_supervisor 14 = .ok (.ireturn, 1) := dk_172 (dk_at dksX0_supervisor_0 14 rfl rfl)
theorem dX0_supervisor_15 : decode cX0_supervisor 15 = .ok (.astore_n 3, 1) := dk_78 (dk_at dksX0_supervisor_0 15 rfl rfl)
theorem dX0_supervisor_16 : decode cX0_supervisor 16 = .ok (.iconst 2, 1) := dk_5 (dk_at dksX0_supervisor_0 16 rfl rfl)
theorem dX0_supervisor_17 : decode cX0_supervisor 17 = .ok (.ireturn, 1) := dk_172 (dk_at dksX0_supervisor_0 17 rfl rfl)
theorem dX0_supervisor_18 : decode cX0_supervisor 18 = .ok (.iconst 0, 1) := dk_3 (dk_at dksX0_supervisor_0 18 rfl rfl)
theorem dX0_supervisor_19 : decode cX0_supervisor 19 = .ok (.ireturn, 1) := dk_172 (dk_at dksX0_supervisor_0 19 rfl rfl)
abbrev cX0_below : ByteArray := method_14_code
def yX0_below : MethodName := ⟨RX0, "below", "(LSpindleActors;I[J)I"⟩
def dkwX0_below_0 : List UInt8 := [44, 3, 42, 27, 182, 0, 56, 133, 80, 167, 0, 6, 78, 4, 172, 3, 172]
abbrev dktX0_below_0 : List UInt8 := dkwX0_below_0 ++ []
theorem dksX0_below_0 : cX0_below.data.toList.drop 0 = dktX0_below_0 := by decide +kernel
theorem dX0_below_0 : decode cX0_below 0 = .ok (.aload_n 2, 1) := dk_44 (dk_at dksX0_below_0 0 rfl rfl)
theorem dX0_below_1 : decode cX0_below 1 = .ok (.iconst 0, 1) := dk_3 (dk_at dksX0_below_0 1 rfl rfl)
theorem dX0_below_2 : decode cX0_below 2 = .ok (.aload_n 0, 1) := dk_42 (dk_at dksX0_below_0 2 rfl rfl)
theorem dX0_below_3 : decode cX0_below 3 = .ok (.iload_n 1, 1) := dk_27 (dk_at dksX0_below_0 3 rfl rfl)
theorem dX0_below_4 : decode cX0_below 4 = .ok (.invokevirtual 56, 3) := dk_182 0 56 (dk_at dksX0_below_0 4 rfl rfl)
theorem dX0_below_7 : decode cX0_below 7 = .ok (.i2l, 1) := dk_133 (dk_at dksX0_below_0 7 rfl rfl)
theorem dX0_below_8 : decode cX0_below 8 = .ok (.lastore, 1) := dk_80 (dk_at dksX0_below_0 8 rfl rfl)
theorem dX0_below_9 : decode cX0_below 9 = .ok (.goto 6, 3) := dk_167 0 6 (dk_at dksX0_below_0 9 rfl rfl)
theorem dX0_below_12 : decode cX0_below 12 = .ok (.astore_n 3, 1) := dk_78 (dk_at dksX0_below_0 12 rfl rfl)
theorem dX0_below_13 : decode cX0_below 13 = .ok (.iconst 1, 1) := dk_4 (dk_at dksX0_below_0 13 rfl rfl)
theorem dX0_below_14 : decode cX0_below 14 = .ok (.ireturn, 1) := dk_172 (dk_at dksX0_below_0 14 rfl rfl)
theorem dX0_below_15 : decode cX0_below 15 = .ok (.iconst 0, 1) := dk_3 (dk_at dksX0_below_0 15 rfl rfl)
theorem dX0_below_16 : decode cX0_below 16 = .ok (.ireturn, 1) := dk_172 (dk_at dksX0_below_0 16 rfl rfl)
abbrev cX0_belowByGoingDown : ByteArray := method_15_code
def yX0_belowByGoingDown : MethodName := ⟨RX0, "belowByGoingDown", "(LSpindleActors;I[J)I"⟩
def dkwX0_belowByGoingDown_0 : List UInt8 := [44, 3, 42, 27, 182, 0, 59, 133, 80, 167, 0, 6, 78, 4, 172, 3, 172]
abbrev dktX0_belowByGoingDown_0 : List UInt8 := dkwX0_belowByGoingDown_0 ++ []
theorem dksX0_belowByGoingDown_0 : cX0_belowByGoingDown.data.toList.drop 0 = dktX0_belowByGoingDown_0 := by decide +kernel
theorem dX0_belowByGoingDown_0 : decode cX0_belowByGoingDown 0 = .ok (.aload_n 2, 1) := dk_44 (dk_at dksX0_belowByGoingDown_0 0 rfl rfl)
theorem dX0_belowByGoingDown_1 : decode cX0_belowByGoingDown 1 = .ok (.iconst 0, 1) := dk_3 (dk_at dksX0_belowByGoingDown_0 1 rfl rfl)
theorem dX0_belowByGoingDown_2 : decode cX0_belowByGoingDown 2 = .ok (.aload_n 0, 1) := dk_42 (dk_at dksX0_belowByGoingDown_0 2 rfl rfl)
theorem dX0_belowByGoingDown_3 : decode cX0_belowByGoingDown 3 = .ok (.iload_n 1, 1) := dk_27 (dk_at dksX0_belowByGoingDown_0 3 rfl rfl)
theorem dX0_belowByGoingDown_4 : decode cX0_belowByGoingDown 4 = .ok (.invokevirtual 59, 3) := dk_182 0 59 (dk_at dksX0_belowByGoingDown_0 4 rfl rfl)
theorem dX0_belowByGoingDown_7 : decode cX0_belowByGoingDown 7 = .ok (.i2l, 1) := dk_133 (dk_at dksX0_belowByGoingDown_0 7 rfl rfl)
theorem dX0_belowByGoingDown_8 : decode cX0_belowByGoingDown 8 = .ok (.lastore, 1) := dk_80 (dk_at dksX0_belowByGoingDown_0 8 rfl rfl)
theorem dX0_belowByGoingDown_9 : decode cX0_belowByGoingDown 9 = .ok (.goto 6, 3) := dk_167 0 6 (dk_at dksX0_belowByGoingDown_0 9 rfl rfl)
theorem dX0_belowByGoingDown_12 : decode cX0_belowByGoingDown 12 = .ok (.astore_n 3, 1) := dk_78 (dk_at dksX0_belowByGoingDown_0 12 rfl rfl)
theorem dX0_belowByGoingDown_13 : decode cX0_belowByGoingDown 13 = .ok (.iconst 1, 1) := dk_4 (dk_at dksX0_belowByGoingDown_0 13 rfl rfl)
theorem dX0_belowByGoingDown_14 : decode cX0_belowByGoingDown 14 = .ok (.ireturn, 1) := dk_172 (dk_at dksX0_belowByGoingDown_0 14 rfl rfl)
theorem dX0_belowByGoingDown_15 : decode cX0_belowByGoingDown 15 = .ok (.iconst 0, 1) := dk_3 (dk_at dksX0_belowByGoingDown_0 15 rfl rfl)
theorem dX0_belowByGoingDown_16 : decode cX0_belowByGoingDown 16 = .ok (.ireturn, 1) := dk_172 (dk_at dksX0_belowByGoingDown_0 16 rfl rfl)
abbrev cX0_actorBySum : ByteArray := method_16_code
def yX0_actorBySum : MethodName := ⟨RX0, "actorBySum", "(LSpindleActors;I[J)I"⟩
def dkwX0_actorBySum_0 : List UInt8 := [44, 3, 42, 27, 182, 0, 62, 133, 80, 167, 0, 6, 78, 4, 172, 3, 172]
abbrev dktX0_actorBySum_0 : List UInt8 := dkwX0_actorBySum_0 ++ []
theorem dksX0_actorBySum_0 : cX0_actorBySum.data.toList.drop 0 = dktX0_actorBySum_0 := by decide +kernel
theorem dX0_actorBySum_0 : decode cX0_actorBySum 0 = .ok (.aload_n 2, 1) := dk_44 (dk_at dksX0_actorBySum_0 0 rfl rfl)
theorem dX0_actorBySum_1 : decode cX0_actorBySum 1 = .ok (.iconst 0, 1) := dk_3 (dk_at dksX0_actorBySum_0 1 rfl rfl)
theorem dX0_actorBySum_2 : decode cX0_actorBySum 2 = .ok (.aload_n 0, 1) := dk_42 (dk_at dksX0_actorBySum_0 2 rfl rfl)
theorem dX0_actorBySum_3 : decode cX0_actorBySum 3 = .ok (.iload_n 1, 1) := dk_27 (dk_at dksX0_actorBySum_0 3 rfl rfl)
theorem dX0_actorBySum_4 : decode cX0_actorBySum 4 = .ok (.invokevirtual 62, 3) := dk_182 0 62 (dk_at dksX0_actorBySum_0 4 rfl rfl)
theorem dX0_actorBySum_7 : decode cX0_actorBySum 7 = .ok (.i2l, 1) := dk_133 (dk_at dksX0_actorBySum_0 7 rfl rfl)
theorem dX0_actorBySum_8 : decode cX0_actorBySum 8 = .ok (.lastore, 1) := dk_80 (dk_at dksX0_actorBySum_0 8 rfl rfl)
theorem dX0_actorBySum_9 : decode cX0_actorBySum 9 = .ok (.goto 6, 3) := dk_167 0 6 (dk_at dksX0_actorBySum_0 9 rfl rfl)
theorem dX0_actorBySum_12 : decode cX0_actorBySum 12 = .ok (.astore_n 3, 1) := dk_78 (dk_at dksX0_actorBySum_0 12 rfl rfl)
theorem dX0_actorBySum_13 : decode cX0_actorBySum 13 = .ok (.iconst 1, 1) := dk_4 (dk_at dksX0_actorBySum_0 13 rfl rfl)
theorem dX0_actorBySum_14 : decode cX0_actorBySum 14 = .ok (.ireturn, 1) := dk_172 (dk_at dksX0_actorBySum_0 14 rfl rfl)
theorem dX0_actorBySum_15 : decode cX0_actorBySum 15 = .ok (.iconst 0, 1) := dk_3 (dk_at dksX0_actorBySum_0 15 rfl rfl)
theorem dX0_actorBySum_16 : decode cX0_actorBySum 16 = .ok (.ireturn, 1) := dk_172 (dk_at dksX0_actorBySum_0 16 rfl rfl)
abbrev cX0_send : ByteArray := method_17_code
def yX0_send : MethodName := ⟨RX0, "send", "(LSpindleActors;II[J)I"⟩
def dkwX0_send_1 : List UInt8 := [172, 3, 172]
abbrev dktX0_send_1 : List UInt8 := dkwX0_send_1 ++ []
def dkwX0_send_0 : List UInt8 := [45, 3, 42, 27, 28, 182, 0, 65, 133, 80, 167, 0, 15, 58, 4, 4, 172, 58, 4, 5, 172, 58, 4, 6]
abbrev dktX0_send_0 : List UInt8 := dkwX0_send_0 ++ dktX0_send_1
theorem dksX0_send_0 : cX0_send.data.toList.drop 0 = dktX0_send_0 := by decide +kernel
theorem dksX0_send_1 : cX0_send.data.toList.drop 24 = dktX0_send_1 := dk_seg dksX0_send_0 24 rfl rfl
theorem dX0_send_0 : decode cX0_send 0 = .ok (.aload_n 3, 1) := dk_45 (dk_at dksX0_send_0 0 rfl rfl)
theorem dX0_send_1 : decode cX0_send 1 = .ok (.iconst 0, 1) := dk_3 (dk_at dksX0_send_0 1 rfl rfl)
theorem dX0_send_2 : decode cX0_send 2 = .ok (.aload_n 0, 1) := dk_42 (dk_at dksX0_send_0 2 rfl rfl)
theorem dX0_send_3 : decode cX0_send 3 = .ok (.iload_n 1, 1) := dk_27 (dk_at dksX0_send_0 3 rfl rfl)
theorem dX0_send_4 : decode cX0_send 4 = .ok (.iload_n 2, 1) := dk_28 (dk_at dksX0_send_0 4 rfl rfl)
theorem dX0_send_5 : decode cX0_send 5 = .ok (.invokevirtual 65, 3) := dk_182 0 65 (dk_at dksX0_send_0 5 rfl rfl)
theorem dX0_send_8 : decode cX0_send 8 = .ok (.i2l, 1) := dk_133 (dk_at dksX0_send_0 8 rfl rfl)
theorem dX0_send_9 : decode cX0_send 9 = .ok (.lastore, 1) := dk_80 (dk_at dksX0_send_0 9 rfl rfl)
theorem dX0_send_10 : decode cX0_send 10 = .ok (.goto 15, 3) := dk_167 0 15 (dk_at dksX0_send_0 10 rfl rfl)
theorem dX0_send_13 : decode cX0_send 13 = .ok (.astore 4, 2) := dk_58 4 (dk_at dksX0_send_0 13 rfl rfl)
theorem dX0_send_15 : decode cX0_send 15 = .ok (.iconst 1, 1) := dk_4 (dk_at dksX0_send_0 15 rfl rfl)
theorem dX0_send_16 : decode cX0_send 16 = .ok (.ireturn, 1) := dk_172 (dk_at dksX0_send_0 16 rfl rfl)
theorem dX0_send_17 : decode cX0_send 17 = .ok (.astore 4, 2) := dk_58 4 (dk_at dksX0_send_0 17 rfl rfl)
theorem dX0_send_19 : decode cX0_send 19 = .ok (.iconst 2, 1) := dk_5 (dk_at dksX0_send_0 19 rfl rfl)
theorem dX0_send_20 : decode cX0_send 20 = .ok (.ireturn, 1) := dk_172 (dk_at dksX0_send_0 20 rfl rfl)
theorem dX0_send_21 : decode cX0_send 21 = .ok (.astore 4, 2) := dk_58 4 (dk_at dksX0_send_0 21 rfl rfl)
theorem dX0_send_23 : decode cX0_send 23 = .ok (.iconst 3, 1) := dk_6 (dk_at dksX0_send_0 23 rfl rfl)
theorem dX0_send_24 : decode cX0_send 24 = .ok (.ireturn, 1) := dk_172 (dk_at dksX0_send_1 0 rfl rfl)
theorem dX0_send_25 : decode cX0_send 25 = .ok (.iconst 0, 1) := dk_3 (dk_at dksX0_send_1 1 rfl rfl)
theorem dX0_send_26 : decode cX0_send 26 = .ok (.ireturn, 1) := dk_172 (dk_at dksX0_send_1 2 rfl rfl)
abbrev cX0_setTimer : ByteArray := method_18_code
def yX0_setTimer : MethodName := ⟨RX0, "setTimer", "(LSpindleActors;III[J)I"⟩
def dkwX0_setTimer_1 : List UInt8 := [58, 5, 6, 172, 3, 172]
abbrev dktX0_setTimer_1 : List UInt8 := dkwX0_setTimer_1 ++ []
def dkwX0_setTimer_0 : List UInt8 := [25, 4, 3, 42, 27, 28, 29, 182, 0, 68, 133, 80, 167, 0, 15, 58, 5, 4, 172, 58, 5, 5, 172]
abbrev dktX0_setTimer_0 : List UInt8 := dkwX0_setTimer_0 ++ dktX0_setTimer_1
theorem dksX0_setTimer_0 : cX0_setTimer.data.toList.drop 0 = dktX0_setTimer_0 := by decide +kernel
theorem dksX0_setTimer_1 : cX0_setTimer.data.toList.drop 23 = dktX0_setTimer_1 := dk_seg dksX0_setTimer_0 23 rfl rfl
theorem dX0_setTimer_0 : decode cX0_setTimer 0 = .ok (.aload 4, 2) := dk_25 4 (dk_at dksX0_setTimer_0 0 rfl rfl)
theorem dX0_setTimer_2 : decode cX0_setTimer 2 = .ok (.iconst 0, 1) := dk_3 (dk_at dksX0_setTimer_0 2 rfl rfl)
theorem dX0_setTimer_3 : decode cX0_setTimer 3 = .ok (.aload_n 0, 1) := dk_42 (dk_at dksX0_setTimer_0 3 rfl rfl)
theorem dX0_setTimer_4 : decode cX0_setTimer 4 = .ok (.iload_n 1, 1) := dk_27 (dk_at dksX0_setTimer_0 4 rfl rfl)
theorem dX0_setTimer_5 : decode cX0_setTimer 5 = .ok (.iload_n 2, 1) := dk_28 (dk_at dksX0_setTimer_0 5 rfl rfl)
theorem dX0_setTimer_6 : decode cX0_setTimer 6 = .ok (.iload_n 3, 1) := dk_29 (dk_at dksX0_setTimer_0 6 rfl rfl)
theorem dX0_setTimer_7 : decode cX0_setTimer 7 = .ok (.invokevirtual 68, 3) := dk_182 0 68 (dk_at dksX0_setTimer_0 7 rfl rfl)
theorem dX0_setTimer_10 : decode cX0_setTimer 10 = .ok (.i2l, 1) := dk_133 (dk_at dksX0_setTimer_0 10 rfl rfl)
theorem dX0_setTimer_11 : decode cX0_setTimer 11 = .ok (.lastore, 1) := dk_80 (dk_at dksX0_setTimer_0 11 rfl rfl)
theorem dX0_setTimer_12 : decode cX0_setTimer 12 = .ok (.goto 15, 3) := dk_167 0 15 (dk_at dksX0_setTimer_0 12 rfl rfl)
theorem dX0_setTimer_15 : decode cX0_setTimer 15 = .ok (.astore 5, 2) := dk_58 5 (dk_at dksX0_setTimer_0 15 rfl rfl)
theorem dX0_setTimer_17 : decode cX0_setTimer 17 = .ok (.iconst 1, 1) := dk_4 (dk_at dksX0_setTimer_0 17 rfl rfl)
theorem dX0_setTimer_18 : decode cX0_setTimer 18 = .ok (.ireturn, 1) := dk_172 (dk_at dksX0_setTimer_0 18 rfl rfl)
theorem dX0_setTimer_19 : decode cX0_setTimer 19 = .ok (.astore 5, 2) := dk_58 5 (dk_at dksX0_setTimer_0 19 rfl rfl)
theorem dX0_setTimer_21 : decode cX0_setTimer 21 = .ok (.iconst 2, 1) := dk_5 (dk_at dksX0_setTimer_0 21 rfl rfl)
theorem dX0_setTimer_22 : decode cX0_setTimer 22 = .ok (.ireturn, 1) := dk_172 (dk_at dksX0_setTimer_0 22 rfl rfl)
theorem dX0_setTimer_23 : decode cX0_setTimer 23 = .ok (.astore 5, 2) := dk_58 5 (dk_at dksX0_setTimer_1 0 rfl rfl)
theorem dX0_setTimer_25 : decode cX0_setTimer 25 = .ok (.iconst 3, 1) := dk_6 (dk_at dksX0_setTimer_1 2 rfl rfl)
theorem dX0_setTimer_26 : decode cX0_setTimer 26 = .ok (.ireturn, 1) := dk_172 (dk_at dksX0_setTimer_1 3 rfl rfl)
theorem dX0_setTimer_27 : decode cX0_setTimer 27 = .ok (.iconst 0, 1) := dk_3 (dk_at dksX0_setTimer_1 4 rfl rfl)
theorem dX0_setTimer_28 : decode cX0_setTimer 28 = .ok (.ireturn, 1) := dk_172 (dk_at dksX0_setTimer_1 5 rfl rfl)
abbrev cX0_setSchedule : ByteArray := method_19_code
def yX0_setSchedule : MethodName := ⟨RX0, "setSchedule", "(LSpindleActors;C[J)I"⟩
def dkwX0_setSchedule_0 : List UInt8 := [44, 3, 42, 27, 182, 0, 72, 133, 80, 167, 0, 6, 78, 4, 172, 3, 172]
abbrev dktX0_setSchedule_0 : List UInt8 := dkwX0_setSchedule_0 ++ []
theorem dksX0_setSchedule_0 : cX0_setSchedule.data.toList.drop 0 = dktX0_setSchedule_0 := by decide +kernel
theorem dX0_setSchedule_0 : decode cX0_setSchedule 0 = .ok (.aload_n 2, 1) := dk_44 (dk_at dksX0_setSchedule_0 0 rfl rfl)
theorem dX0_setSchedule_1 : decode cX0_setSchedule 1 = .ok (.iconst 0, 1) := dk_3 (dk_at dksX0_setSchedule_0 1 rfl rfl)
theorem dX0_setSchedule_2 : decode cX0_setSchedule 2 = .ok (.aload_n 0, 1) := dk_42 (dk_at dksX0_setSchedule_0 2 rfl rfl)
theorem dX0_setSchedule_3 : decode cX0_setSchedule 3 = .ok (.iload_n 1, 1) := dk_27 (dk_at dksX0_setSchedule_0 3 rfl rfl)
theorem dX0_setSchedule_4 : decode cX0_setSchedule 4 = .ok (.invokevirtual 72, 3) := dk_182 0 72 (dk_at dksX0_setSchedule_0 4 rfl rfl)
theorem dX0_setSchedule_7 : decode cX0_setSchedule 7 = .ok (.i2l, 1) := dk_133 (dk_at dksX0_setSchedule_0 7 rfl rfl)
theorem dX0_setSchedule_8 : decode cX0_setSchedule 8 = .ok (.lastore, 1) := dk_80 (dk_at dksX0_setSchedule_0 8 rfl rfl)
theorem dX0_setSchedule_9 : decode cX0_setSchedule 9 = .ok (.goto 6, 3) := dk_167 0 6 (dk_at dksX0_setSchedule_0 9 rfl rfl)
theorem dX0_setSchedule_12 : decode cX0_setSchedule 12 = .ok (.astore_n 3, 1) := dk_78 (dk_at dksX0_setSchedule_0 12 rfl rfl)
theorem dX0_setSchedule_13 : decode cX0_setSchedule 13 = .ok (.iconst 1, 1) := dk_4 (dk_at dksX0_setSchedule_0 13 rfl rfl)
theorem dX0_setSchedule_14 : decode cX0_setSchedule 14 = .ok (.ireturn, 1) := dk_172 (dk_at dksX0_setSchedule_0 14 rfl rfl)
theorem dX0_setSchedule_15 : decode cX0_setSchedule 15 = .ok (.iconst 0, 1) := dk_3 (dk_at dksX0_setSchedule_0 15 rfl rfl)
theorem dX0_setSchedule_16 : decode cX0_setSchedule 16 = .ok (.ireturn, 1) := dk_172 (dk_at dksX0_setSchedule_0 16 rfl rfl)
abbrev cX0_setSeed : ByteArray := method_20_code
def yX0_setSeed : MethodName := ⟨RX0, "setSeed", "(LSpindleActors;I[J)I"⟩
def dkwX0_setSeed_0 : List UInt8 := [44, 3, 42, 27, 182, 0, 76, 133, 80, 167, 0, 6, 78, 4, 172, 3, 172]
abbrev dktX0_setSeed_0 : List UInt8 := dkwX0_setSeed_0 ++ []
theorem dksX0_setSeed_0 : cX0_setSeed.data.toList.drop 0 = dktX0_setSeed_0 := by decide +kernel
theorem dX0_setSeed_0 : decode cX0_setSeed 0 = .ok (.aload_n 2, 1) := dk_44 (dk_at dksX0_setSeed_0 0 rfl rfl)
theorem dX0_setSeed_1 : decode cX0_setSeed 1 = .ok (.iconst 0, 1) := dk_3 (dk_at dksX0_setSeed_0 1 rfl rfl)
theorem dX0_setSeed_2 : decode cX0_setSeed 2 = .ok (.aload_n 0, 1) := dk_42 (dk_at dksX0_setSeed_0 2 rfl rfl)
theorem dX0_setSeed_3 : decode cX0_setSeed 3 = .ok (.iload_n 1, 1) := dk_27 (dk_at dksX0_setSeed_0 3 rfl rfl)
theorem dX0_setSeed_4 : decode cX0_setSeed 4 = .ok (.invokevirtual 76, 3) := dk_182 0 76 (dk_at dksX0_setSeed_0 4 rfl rfl)
theorem dX0_setSeed_7 : decode cX0_setSeed 7 = .ok (.i2l, 1) := dk_133 (dk_at dksX0_setSeed_0 7 rfl rfl)
theorem dX0_setSeed_8 : decode cX0_setSeed 8 = .ok (.lastore, 1) := dk_80 (dk_at dksX0_setSeed_0 8 rfl rfl)
theorem dX0_setSeed_9 : decode cX0_setSeed 9 = .ok (.goto 6, 3) := dk_167 0 6 (dk_at dksX0_setSeed_0 9 rfl rfl)
theorem dX0_setSeed_12 : decode cX0_setSeed 12 = .ok (.astore_n 3, 1) := dk_78 (dk_at dksX0_setSeed_0 12 rfl rfl)
theorem dX0_setSeed_13 : decode cX0_setSeed 13 = .ok (.iconst 1, 1) := dk_4 (dk_at dksX0_setSeed_0 13 rfl rfl)
theorem dX0_setSeed_14 : decode cX0_setSeed 14 = .ok (.ireturn, 1) := dk_172 (dk_at dksX0_setSeed_0 14 rfl rfl)
theorem dX0_setSeed_15 : decode cX0_setSeed 15 = .ok (.iconst 0, 1) := dk_3 (dk_at dksX0_setSeed_0 15 rfl rfl)
theorem dX0_setSeed_16 : decode cX0_setSeed 16 = .ok (.ireturn, 1) := dk_172 (dk_at dksX0_setSeed_0 16 rfl rfl)
abbrev cX0_step : ByteArray := method_21_code
def yX0_step : MethodName := ⟨RX0, "step", "(LSpindleActors;I[J)I"⟩
def dkwX0_step_0 : List UInt8 := [44, 3, 42, 27, 182, 0, 79, 133, 80, 167, 0, 6, 78, 4, 172, 3, 172]
abbrev dktX0_step_0 : List UInt8 := dkwX0_step_0 ++ []
theorem dksX0_step_0 : cX0_step.data.toList.drop 0 = dktX0_step_0 := by decide +kernel
theorem dX0_step_0 : decode cX0_step 0 = .ok (.aload_n 2, 1) := dk_44 (dk_at dksX0_step_0 0 rfl rfl)
theorem dX0_step_1 : decode cX0_step 1 = .ok (.iconst 0, 1) := dk_3 (dk_at dksX0_step_0 1 rfl rfl)
theorem dX0_step_2 : decode cX0_step 2 = .ok (.aload_n 0, 1) := dk_42 (dk_at dksX0_step_0 2 rfl rfl)
theorem dX0_step_3 : decode cX0_step 3 = .ok (.iload_n 1, 1) := dk_27 (dk_at dksX0_step_0 3 rfl rfl)
theorem dX0_step_4 : decode cX0_step 4 = .ok (.invokevirtual 79, 3) := dk_182 0 79 (dk_at dksX0_step_0 4 rfl rfl)
theorem dX0_step_7 : decode cX0_step 7 = .ok (.i2l, 1) := dk_133 (dk_at dksX0_step_0 7 rfl rfl)
theorem dX0_step_8 : decode cX0_step 8 = .ok (.lastore, 1) := dk_80 (dk_at dksX0_step_0 8 rfl rfl)
theorem dX0_step_9 : decode cX0_step 9 = .ok (.goto 6, 3) := dk_167 0 6 (dk_at dksX0_step_0 9 rfl rfl)
theorem dX0_step_12 : decode cX0_step 12 = .ok (.astore_n 3, 1) := dk_78 (dk_at dksX0_step_0 12 rfl rfl)
theorem dX0_step_13 : decode cX0_step 13 = .ok (.iconst 1, 1) := dk_4 (dk_at dksX0_step_0 13 rfl rfl)
theorem dX0_step_14 : decode cX0_step 14 = .ok (.ireturn, 1) := dk_172 (dk_at dksX0_step_0 14 rfl rfl)
theorem dX0_step_15 : decode cX0_step 15 = .ok (.iconst 0, 1) := dk_3 (dk_at dksX0_step_0 15 rfl rfl)
theorem dX0_step_16 : decode cX0_step 16 = .ok (.ireturn, 1) := dk_172 (dk_at dksX0_step_0 16 rfl rfl)
abbrev cX0_messages : ByteArray := method_22_code
def yX0_messages : MethodName := ⟨RX0, "messages", "(LSpindleActors;I[J)I"⟩
def dkwX0_messages_0 : List UInt8 := [44, 3, 42, 27, 182, 0, 82, 133, 80, 167, 0, 6, 78, 4, 172, 3, 172]
abbrev dktX0_messages_0 : List UInt8 := dkwX0_messages_0 ++ []
theorem dksX0_messages_0 : cX0_messages.data.toList.drop 0 = dktX0_messages_0 := by decide +kernel
theorem dX0_messages_0 : decode cX0_messages 0 = .ok (.aload_n 2, 1) := dk_44 (dk_at dksX0_messages_0 0 rfl rfl)
theorem dX0_messages_1 : decode cX0_messages 1 = .ok (.iconst 0, 1) := dk_3 (dk_at dksX0_messages_0 1 rfl rfl)
theorem dX0_messages_2 : decode cX0_messages 2 = .ok (.aload_n 0, 1) := dk_42 (dk_at dksX0_messages_0 2 rfl rfl)
theorem dX0_messages_3 : decode cX0_messages 3 = .ok (.iload_n 1, 1) := dk_27 (dk_at dksX0_messages_0 3 rfl rfl)
theorem dX0_messages_4 : decode cX0_messages 4 = .ok (.invokevirtual 82, 3) := dk_182 0 82 (dk_at dksX0_messages_0 4 rfl rfl)
theorem dX0_messages_7 : decode cX0_messages 7 = .ok (.i2l, 1) := dk_133 (dk_at dksX0_messages_0 7 rfl rfl)
theorem dX0_messages_8 : decode cX0_messages 8 = .ok (.lastore, 1) := dk_80 (dk_at dksX0_messages_0 8 rfl rfl)
theorem dX0_messages_9 : decode cX0_messages 9 = .ok (.goto 6, 3) := dk_167 0 6 (dk_at dksX0_messages_0 9 rfl rfl)
theorem dX0_messages_12 : decode cX0_messages 12 = .ok (.astore_n 3, 1) := dk_78 (dk_at dksX0_messages_0 12 rfl rfl)
theorem dX0_messages_13 : decode cX0_messages 13 = .ok (.iconst 1, 1) := dk_4 (dk_at dksX0_messages_0 13 rfl rfl)
theorem dX0_messages_14 : decode cX0_messages 14 = .ok (.ireturn, 1) := dk_172 (dk_at dksX0_messages_0 14 rfl rfl)
theorem dX0_messages_15 : decode cX0_messages 15 = .ok (.iconst 0, 1) := dk_3 (dk_at dksX0_messages_0 15 rfl rfl)
theorem dX0_messages_16 : decode cX0_messages 16 = .ok (.ireturn, 1) := dk_172 (dk_at dksX0_messages_0 16 rfl rfl)
abbrev cX0_valueAt : ByteArray := method_23_code
def yX0_valueAt : MethodName := ⟨RX0, "valueAt", "(LSpindleActors;II[J)I"⟩
def dkwX0_valueAt_0 : List UInt8 := [45, 3, 42, 27, 28, 182, 0, 85, 133, 80, 167, 0, 7, 58, 4, 4, 172, 3, 172]
abbrev dktX0_valueAt_0 : List UInt8 := dkwX0_valueAt_0 ++ []
theorem dksX0_valueAt_0 : cX0_valueAt.data.toList.drop 0 = dktX0_valueAt_0 := by decide +kernel
theorem dX0_valueAt_0 : decode cX0_valueAt 0 = .ok (.aload_n 3, 1) := dk_45 (dk_at dksX0_valueAt_0 0 rfl rfl)
theorem dX0_valueAt_1 : decode cX0_valueAt 1 = .ok (.iconst 0, 1) := dk_3 (dk_at dksX0_valueAt_0 1 rfl rfl)
theorem dX0_valueAt_2 : decode cX0_valueAt 2 = .ok (.aload_n 0, 1) := dk_42 (dk_at dksX0_valueAt_0 2 rfl rfl)
theorem dX0_valueAt_3 : decode cX0_valueAt 3 = .ok (.iload_n 1, 1) := dk_27 (dk_at dksX0_valueAt_0 3 rfl rfl)
theorem dX0_valueAt_4 : decode cX0_valueAt 4 = .ok (.iload_n 2, 1) := dk_28 (dk_at dksX0_valueAt_0 4 rfl rfl)
theorem dX0_valueAt_5 : decode cX0_valueAt 5 = .ok (.invokevirtual 85, 3) := dk_182 0 85 (dk_at dksX0_valueAt_0 5 rfl rfl)
theorem dX0_valueAt_8 : decode cX0_valueAt 8 = .ok (.i2l, 1) := dk_133 (dk_at dksX0_valueAt_0 8 rfl rfl)
theorem dX0_valueAt_9 : decode cX0_valueAt 9 = .ok (.lastore, 1) := dk_80 (dk_at dksX0_valueAt_0 9 rfl rfl)
theorem dX0_valueAt_10 : decode cX0_valueAt 10 = .ok (.goto 7, 3) := dk_167 0 7 (dk_at dksX0_valueAt_0 10 rfl rfl)
theorem dX0_valueAt_13 : decode cX0_valueAt 13 = .ok (.astore 4, 2) := dk_58 4 (dk_at dksX0_valueAt_0 13 rfl rfl)
theorem dX0_valueAt_15 : decode cX0_valueAt 15 = .ok (.iconst 1, 1) := dk_4 (dk_at dksX0_valueAt_0 15 rfl rfl)
theorem dX0_valueAt_16 : decode cX0_valueAt 16 = .ok (.ireturn, 1) := dk_172 (dk_at dksX0_valueAt_0 16 rfl rfl)
theorem dX0_valueAt_17 : decode cX0_valueAt 17 = .ok (.iconst 0, 1) := dk_3 (dk_at dksX0_valueAt_0 17 rfl rfl)
theorem dX0_valueAt_18 : decode cX0_valueAt 18 = .ok (.ireturn, 1) := dk_172 (dk_at dksX0_valueAt_0 18 rfl rfl)
abbrev cX0_hopsAt : ByteArray := method_24_code
def yX0_hopsAt : MethodName := ⟨RX0, "hopsAt", "(LSpindleActors;II[J)I"⟩
def dkwX0_hopsAt_0 : List UInt8 := [45, 3, 42, 27, 28, 182, 0, 88, 133, 80, 167, 0, 7, 58, 4, 4, 172, 3, 172]
abbrev dktX0_hopsAt_0 : List UInt8 := dkwX0_hopsAt_0 ++ []
theorem dksX0_hopsAt_0 : cX0_hopsAt.data.toList.drop 0 = dktX0_hopsAt_0 := by decide +kernel
theorem dX0_hopsAt_0 : decode cX0_hopsAt 0 = .ok (.aload_n 3, 1) := dk_45 (dk_at dksX0_hopsAt_0 0 rfl rfl)
theorem dX0_hopsAt_1 : decode cX0_hopsAt 1 = .ok (.iconst 0, 1) := dk_3 (dk_at dksX0_hopsAt_0 1 rfl rfl)
theorem dX0_hopsAt_2 : decode cX0_hopsAt 2 = .ok (.aload_n 0, 1) := dk_42 (dk_at dksX0_hopsAt_0 2 rfl rfl)
theorem dX0_hopsAt_3 : decode cX0_hopsAt 3 = .ok (.iload_n 1, 1) := dk_27 (dk_at dksX0_hopsAt_0 3 rfl rfl)
theorem dX0_hopsAt_4 : decode cX0_hopsAt 4 = .ok (.iload_n 2, 1) := dk_28 (dk_at dksX0_hopsAt_0 4 rfl rfl)
theorem dX0_hopsAt_5 : decode cX0_hopsAt 5 = .ok (.invokevirtual 88, 3) := dk_182 0 88 (dk_at dksX0_hopsAt_0 5 rfl rfl)
theorem dX0_hopsAt_8 : decode cX0_hopsAt 8 = .ok (.i2l, 1) := dk_133 (dk_at dksX0_hopsAt_0 8 rfl rfl)
theorem dX0_hopsAt_9 : decode cX0_hopsAt 9 = .ok (.lastore, 1) := dk_80 (dk_at dksX0_hopsAt_0 9 rfl rfl)
theorem dX0_hopsAt_10 : decode cX0_hopsAt 10 = .ok (.goto 7, 3) := dk_167 0 7 (dk_at dksX0_hopsAt_0 10 rfl rfl)
theorem dX0_hopsAt_13 : decode cX0_hopsAt 13 = .ok (.astore 4, 2) := dk_58 4 (dk_at dksX0_hopsAt_0 13 rfl rfl)
theorem dX0_hopsAt_15 : decode cX0_hopsAt 15 = .ok (.iconst 1, 1) := dk_4 (dk_at dksX0_hopsAt_0 15 rfl rfl)
theorem dX0_hopsAt_16 : decode cX0_hopsAt 16 = .ok (.ireturn, 1) := dk_172 (dk_at dksX0_hopsAt_0 16 rfl rfl)
theorem dX0_hopsAt_17 : decode cX0_hopsAt 17 = .ok (.iconst 0, 1) := dk_3 (dk_at dksX0_hopsAt_0 17 rfl rfl)
theorem dX0_hopsAt_18 : decode cX0_hopsAt 18 = .ok (.ireturn, 1) := dk_172 (dk_at dksX0_hopsAt_0 18 rfl rfl)
abbrev cX0_isReady : ByteArray := method_25_code
def yX0_isReady : MethodName := ⟨RX0, "isReady", "(LSpindleActors;I[J)I"⟩
def dkwX0_isReady_0 : List UInt8 := [44, 3, 42, 27, 182, 0, 91, 153, 0, 7, 10, 167, 0, 4, 9, 80, 167, 0, 6, 78, 4, 172, 3, 172]
abbrev dktX0_isReady_0 : List UInt8 := dkwX0_isReady_0 ++ []
theorem dksX0_isReady_0 : cX0_isReady.data.toList.drop 0 = dktX0_isReady_0 := by decide +kernel
theorem dX0_isReady_0 : decode cX0_isReady 0 = .ok (.aload_n 2, 1) := dk_44 (dk_at dksX0_isReady_0 0 rfl rfl)
theorem dX0_isReady_1 : decode cX0_isReady 1 = .ok (.iconst 0, 1) := dk_3 (dk_at dksX0_isReady_0 1 rfl rfl)
theorem dX0_isReady_2 : decode cX0_isReady 2 = .ok (.aload_n 0, 1) := dk_42 (dk_at dksX0_isReady_0 2 rfl rfl)
theorem dX0_isReady_3 : decode cX0_isReady 3 = .ok (.iload_n 1, 1) := dk_27 (dk_at dksX0_isReady_0 3 rfl rfl)
theorem dX0_isReady_4 : decode cX0_isReady 4 = .ok (.invokevirtual 91, 3) := dk_182 0 91 (dk_at dksX0_isReady_0 4 rfl rfl)
theorem dX0_isReady_7 : decode cX0_isReady 7 = .ok (.ifCond .eq 7, 3) := dk_153 0 7 (dk_at dksX0_isReady_0 7 rfl rfl)
theorem dX0_isReady_10 : decode cX0_isReady 10 = .ok (.lconst 1, 1) := dk_10 (dk_at dksX0_isReady_0 10 rfl rfl)
theorem dX0_isReady_11 : decode cX0_isReady 11 = .ok (.goto 4, 3) := dk_167 0 4 (dk_at dksX0_isReady_0 11 rfl rfl)
theorem dX0_isReady_14 : decode cX0_isReady 14 = .ok (.lconst 0, 1) := dk_9 (dk_at dksX0_isReady_0 14 rfl rfl)
theorem dX0_isReady_15 : decode cX0_isReady 15 = .ok (.lastore, 1) := dk_80 (dk_at dksX0_isReady_0 15 rfl rfl)
theorem dX0_isReady_16 : decode cX0_isReady 16 = .ok (.goto 6, 3) := dk_167 0 6 (dk_at dksX0_isReady_0 16 rfl rfl)
theorem dX0_isReady_19 : decode cX0_isReady 19 = .ok (.astore_n 3, 1) := dk_78 (dk_at dksX0_isReady_0 19 rfl rfl)
theorem dX0_isReady_20 : decode cX0_isReady 20 = .ok (.iconst 1, 1) := dk_4 (dk_at dksX0_isReady_0 20 rfl rfl)
theorem dX0_isReady_21 : decode cX0_isReady 21 = .ok (.ireturn, 1) := dk_172 (dk_at dksX0_isReady_0 21 rfl rfl)
theorem dX0_isReady_22 : decode cX0_isReady 22 = .ok (.iconst 0, 1) := dk_3 (dk_at dksX0_isReady_0 22 rfl rfl)
theorem dX0_isReady_23 : decode cX0_isReady 23 = .ok (.ireturn, 1) := dk_172 (dk_at dksX0_isReady_0 23 rfl rfl)
abbrev cX0_dueIn : ByteArray := method_26_code
def yX0_dueIn : MethodName := ⟨RX0, "dueIn", "(LSpindleActors;I[J)I"⟩
def dkwX0_dueIn_0 : List UInt8 := [44, 3, 42, 27, 182, 0, 94, 133, 80, 167, 0, 6, 78, 4, 172, 3, 172]
abbrev dktX0_dueIn_0 : List UInt8 := dkwX0_dueIn_0 ++ []
theorem dksX0_dueIn_0 : cX0_dueIn.data.toList.drop 0 = dktX0_dueIn_0 := by decide +kernel
theorem dX0_dueIn_0 : decode cX0_dueIn 0 = .ok (.aload_n 2, 1) := dk_44 (dk_at dksX0_dueIn_0 0 rfl rfl)
theorem dX0_dueIn_1 : decode cX0_dueIn 1 = .ok (.iconst 0, 1) := dk_3 (dk_at dksX0_dueIn_0 1 rfl rfl)
theorem dX0_dueIn_2 : decode cX0_dueIn 2 = .ok (.aload_n 0, 1) := dk_42 (dk_at dksX0_dueIn_0 2 rfl rfl)
theorem dX0_dueIn_3 : decode cX0_dueIn 3 = .ok (.iload_n 1, 1) := dk_27 (dk_at dksX0_dueIn_0 3 rfl rfl)
theorem dX0_dueIn_4 : decode cX0_dueIn 4 = .ok (.invokevirtual 94, 3) := dk_182 0 94 (dk_at dksX0_dueIn_0 4 rfl rfl)
theorem dX0_dueIn_7 : decode cX0_dueIn 7 = .ok (.i2l, 1) := dk_133 (dk_at dksX0_dueIn_0 7 rfl rfl)
theorem dX0_dueIn_8 : decode cX0_dueIn 8 = .ok (.lastore, 1) := dk_80 (dk_at dksX0_dueIn_0 8 rfl rfl)
theorem dX0_dueIn_9 : decode cX0_dueIn 9 = .ok (.goto 6, 3) := dk_167 0 6 (dk_at dksX0_dueIn_0 9 rfl rfl)
theorem dX0_dueIn_12 : decode cX0_dueIn 12 = .ok (.astore_n 3, 1) := dk_78 (dk_at dksX0_dueIn_0 12 rfl rfl)
theorem dX0_dueIn_13 : decode cX0_dueIn 13 = .ok (.iconst 1, 1) := dk_4 (dk_at dksX0_dueIn_0 13 rfl rfl)
theorem dX0_dueIn_14 : decode cX0_dueIn 14 = .ok (.ireturn, 1) := dk_172 (dk_at dksX0_dueIn_0 14 rfl rfl)
theorem dX0_dueIn_15 : decode cX0_dueIn 15 = .ok (.iconst 0, 1) := dk_3 (dk_at dksX0_dueIn_0 15 rfl rfl)
theorem dX0_dueIn_16 : decode cX0_dueIn 16 = .ok (.ireturn, 1) := dk_172 (dk_at dksX0_dueIn_0 16 rfl rfl)
abbrev cX0_next : ByteArray := method_27_code
def yX0_next : MethodName := ⟨RX0, "next", "(LSpindleActors;[J)I"⟩
def dkwX0_next_0 : List UInt8 := [43, 3, 42, 182, 0, 97, 133, 80, 167, 0, 6, 77, 4, 172, 3, 172]
abbrev dktX0_next_0 : List UInt8 := dkwX0_next_0 ++ []
theorem dksX0_next_0 : cX0_next.data.toList.drop 0 = dktX0_next_0 := by decide +kernel
theorem dX0_next_0 : decode cX0_next 0 = .ok (.aload_n 1, 1) := dk_43 (dk_at dksX0_next_0 0 rfl rfl)
theorem dX0_next_1 : decode cX0_next 1 = .ok (.iconst 0, 1) := dk_3 (dk_at dksX0_next_0 1 rfl rfl)
theorem dX0_next_2 : decode cX0_next 2 = .ok (.aload_n 0, 1) := dk_42 (dk_at dksX0_next_0 2 rfl rfl)
theorem dX0_next_3 : decode cX0_next 3 = .ok (.invokevirtual 97, 3) := dk_182 0 97 (dk_at dksX0_next_0 3 rfl rfl)
theorem dX0_next_6 : decode cX0_next 6 = .ok (.i2l, 1) := dk_133 (dk_at dksX0_next_0 6 rfl rfl)
theorem dX0_next_7 : decode cX0_next 7 = .ok (.lastore, 1) := dk_80 (dk_at dksX0_next_0 7 rfl rfl)
theorem dX0_next_8 : decode cX0_next 8 = .ok (.goto 6, 3) := dk_167 0 6 (dk_at dksX0_next_0 8 rfl rfl)
theorem dX0_next_11 : decode cX0_next 11 = .ok (.astore_n 2, 1) := dk_77 (dk_at dksX0_next_0 11 rfl rfl)
theorem dX0_next_12 : decode cX0_next 12 = .ok (.iconst 1, 1) := dk_4 (dk_at dksX0_next_0 12 rfl rfl)
theorem dX0_next_13 : decode cX0_next 13 = .ok (.ireturn, 1) := dk_172 (dk_at dksX0_next_0 13 rfl rfl)
theorem dX0_next_14 : decode cX0_next 14 = .ok (.iconst 0, 1) := dk_3 (dk_at dksX0_next_0 14 rfl rfl)
theorem dX0_next_15 : decode cX0_next 15 = .ok (.ireturn, 1) := dk_172 (dk_at dksX0_next_0 15 rfl rfl)
abbrev cX0_stepsUntilQuiet : ByteArray := method_28_code
def yX0_stepsUntilQuiet : MethodName := ⟨RX0, "stepsUntilQuiet", "(LSpindleActors;[J)I"⟩
def dkwX0_stepsUntilQuiet_0 : List UInt8 := [43, 3, 42, 182, 0, 101, 133, 80, 167, 0, 6, 77, 4, 172, 3, 172]
abbrev dktX0_stepsUntilQuiet_0 : List UInt8 := dkwX0_stepsUntilQuiet_0 ++ []
theorem dksX0_stepsUntilQuiet_0 : cX0_stepsUntilQuiet.data.toList.drop 0 = dktX0_stepsUntilQuiet_0 := by decide +kernel
theorem dX0_stepsUntilQuiet_0 : decode cX0_stepsUntilQuiet 0 = .ok (.aload_n 1, 1) := dk_43 (dk_at dksX0_stepsUntilQuiet_0 0 rfl rfl)
theorem dX0_stepsUntilQuiet_1 : decode cX0_stepsUntilQuiet 1 = .ok (.iconst 0, 1) := dk_3 (dk_at dksX0_stepsUntilQuiet_0 1 rfl rfl)
theorem dX0_stepsUntilQuiet_2 : decode cX0_stepsUntilQuiet 2 = .ok (.aload_n 0, 1) := dk_42 (dk_at dksX0_stepsUntilQuiet_0 2 rfl rfl)
theorem dX0_stepsUntilQuiet_3 : decode cX0_stepsUntilQuiet 3 = .ok (.invokevirtual 101, 3) := dk_182 0 101 (dk_at dksX0_stepsUntilQuiet_0 3 rfl rfl)
theorem dX0_stepsUntilQuiet_6 : decode cX0_stepsUntilQuiet 6 = .ok (.i2l, 1) := dk_133 (dk_at dksX0_stepsUntilQuiet_0 6 rfl rfl)
theorem dX0_stepsUntilQuiet_7 : decode cX0_stepsUntilQuiet 7 = .ok (.lastore, 1) := dk_80 (dk_at dksX0_stepsUntilQuiet_0 7 rfl rfl)
theorem dX0_stepsUntilQuiet_8 : decode cX0_stepsUntilQuiet 8 = .ok (.goto 6, 3) := dk_167 0 6 (dk_at dksX0_stepsUntilQuiet_0 8 rfl rfl)
theorem dX0_stepsUntilQuiet_11 : decode cX0_stepsUntilQuiet 11 = .ok (.astore_n 2, 1) := dk_77 (dk_at dksX0_stepsUntilQuiet_0 11 rfl rfl)
theorem dX0_stepsUntilQuiet_12 : decode cX0_stepsUntilQuiet 12 = .ok (.iconst 1, 1) := dk_4 (dk_at dksX0_stepsUntilQuiet_0 12 rfl rfl)
theorem dX0_stepsUntilQuiet_13 : decode cX0_stepsUntilQuiet 13 = .ok (.ireturn, 1) := dk_172 (dk_at dksX0_stepsUntilQuiet_0 13 rfl rfl)
theorem dX0_stepsUntilQuiet_14 : decode cX0_stepsUntilQuiet 14 = .ok (.iconst 0, 1) := dk_3 (dk_at dksX0_stepsUntilQuiet_0 14 rfl rfl)
theorem dX0_stepsUntilQuiet_15 : decode cX0_stepsUntilQuiet 15 = .ok (.ireturn, 1) := dk_172 (dk_at dksX0_stepsUntilQuiet_0 15 rfl rfl)
abbrev cX0_outcomes : ByteArray := method_29_code
def yX0_outcomes : MethodName := ⟨RX0, "outcomes", "(LSpindleActors;[J)I"⟩
def dkwX0_outcomes_0 : List UInt8 := [43, 3, 42, 182, 0, 104, 133, 80, 167, 0, 6, 77, 4, 172, 3, 172]
abbrev dktX0_outcomes_0 : List UInt8 := dkwX0_outcomes_0 ++ []
theorem dksX0_outcomes_0 : cX0_outcomes.data.toList.drop 0 = dktX0_outcomes_0 := by decide +kernel
theorem dX0_outcomes_0 : decode cX0_outcomes 0 = .ok (.aload_n 1, 1) := dk_43 (dk_at dksX0_outcomes_0 0 rfl rfl)
theorem dX0_outcomes_1 : decode cX0_outcomes 1 = .ok (.iconst 0, 1) := dk_3 (dk_at dksX0_outcomes_0 1 rfl rfl)
theorem dX0_outcomes_2 : decode cX0_outcomes 2 = .ok (.aload_n 0, 1) := dk_42 (dk_at dksX0_outcomes_0 2 rfl rfl)
theorem dX0_outcomes_3 : decode cX0_outcomes 3 = .ok (.invokevirtual 104, 3) := dk_182 0 104 (dk_at dksX0_outcomes_0 3 rfl rfl)
theorem dX0_outcomes_6 : decode cX0_outcomes 6 = .ok (.i2l, 1) := dk_133 (dk_at dksX0_outcomes_0 6 rfl rfl)
theorem dX0_outcomes_7 : decode cX0_outcomes 7 = .ok (.lastore, 1) := dk_80 (dk_at dksX0_outcomes_0 7 rfl rfl)
theorem dX0_outcomes_8 : decode cX0_outcomes 8 = .ok (.goto 6, 3) := dk_167 0 6 (dk_at dksX0_outcomes_0 8 rfl rfl)
theorem dX0_outcomes_11 : decode cX0_outcomes 11 = .ok (.astore_n 2, 1) := dk_77 (dk_at dksX0_outcomes_0 11 rfl rfl)
theorem dX0_outcomes_12 : decode cX0_outcomes 12 = .ok (.iconst 1, 1) := dk_4 (dk_at dksX0_outcomes_0 12 rfl rfl)
theorem dX0_outcomes_13 : decode cX0_outcomes 13 = .ok (.ireturn, 1) := dk_172 (dk_at dksX0_outcomes_0 13 rfl rfl)
theorem dX0_outcomes_14 : decode cX0_outcomes 14 = .ok (.iconst 0, 1) := dk_3 (dk_at dksX0_outcomes_0 14 rfl rfl)
theorem dX0_outcomes_15 : decode cX0_outcomes 15 = .ok (.ireturn, 1) := dk_172 (dk_at dksX0_outcomes_0 15 rfl rfl)
abbrev cX0_outcomesBySchedules : ByteArray := method_30_code
def yX0_outcomesBySchedules : MethodName := ⟨RX0, "outcomesBySchedules", "(LSpindleActors;[J)I"⟩
def dkwX0_outcomesBySchedules_0 : List UInt8 := [43, 3, 42, 182, 0, 107, 133, 80, 167, 0, 6, 77, 4, 172, 3, 172]
abbrev dktX0_outcomesBySchedules_0 : List UInt8 := dkwX0_outcomesBySchedules_0 ++ []
theorem dksX0_outcomesBySchedules_0 : cX0_outcomesBySchedules.data.toList.drop 0 = dktX0_outcomesBySchedules_0 := by decide +kernel
theorem dX0_outcomesBySchedules_0 : decode cX0_outcomesBySchedules 0 = .ok (.aload_n 1, 1) := dk_43 (dk_at dksX0_outcomesBySchedules_0 0 rfl rfl)
theorem dX0_outcomesBySchedules_1 : decode cX0_outcomesBySchedules 1 = .ok (.iconst 0, 1) := dk_3 (dk_at dksX0_outcomesBySchedules_0 1 rfl rfl)
theorem dX0_outcomesBySchedules_2 : decode cX0_outcomesBySchedules 2 = .ok (.aload_n 0, 1) := dk_42 (dk_at dksX0_outcomesBySchedules_0 2 rfl rfl)
theorem dX0_outcomesBySchedules_3 : decode cX0_outcomesBySchedules 3 = .ok (.invokevirtual 107, 3) := dk_182 0 107 (dk_at dksX0_outcomesBySchedules_0 3 rfl rfl)
theorem dX0_outcomesBySchedules_6 : decode cX0_outcomesBySchedules 6 = .ok (.i2l, 1) := dk_133 (dk_at dksX0_outcomesBySchedules_0 6 rfl rfl)
theorem dX0_outcomesBySchedules_7 : decode cX0_outcomesBySchedules 7 = .ok (.lastore, 1) := dk_80 (dk_at dksX0_outcomesBySchedules_0 7 rfl rfl)
theorem dX0_outcomesBySchedules_8 : decode cX0_outcomesBySchedules 8 = .ok (.goto 6, 3) := dk_167 0 6 (dk_at dksX0_outcomesBySchedules_0 8 rfl rfl)
theorem dX0_outcomesBySchedules_11 : decode cX0_outcomesBySchedules 11 = .ok (.astore_n 2, 1) := dk_77 (dk_at dksX0_outcomesBySchedules_0 11 rfl rfl)
theorem dX0_outcomesBySchedules_12 : decode cX0_outcomesBySchedules 12 = .ok (.iconst 1, 1) := dk_4 (dk_at dksX0_outcomesBySchedules_0 12 rfl rfl)
theorem dX0_outcomesBySchedules_13 : decode cX0_outcomesBySchedules 13 = .ok (.ireturn, 1) := dk_172 (dk_at dksX0_outcomesBySchedules_0 13 rfl rfl)
theorem dX0_outcomesBySchedules_14 : decode cX0_outcomesBySchedules 14 = .ok (.iconst 0, 1) := dk_3 (dk_at dksX0_outcomesBySchedules_0 14 rfl rfl)
theorem dX0_outcomesBySchedules_15 : decode cX0_outcomesBySchedules 15 = .ok (.ireturn, 1) := dk_172 (dk_at dksX0_outcomesBySchedules_0 15 rfl rfl)
abbrev cX0_schedules : ByteArray := method_31_code
def yX0_schedules : MethodName := ⟨RX0, "schedules", "(LSpindleActors;[J)I"⟩
def dkwX0_schedules_0 : List UInt8 := [43, 3, 42, 182, 0, 110, 80, 167, 0, 6, 77, 4, 172, 3, 172]
abbrev dktX0_schedules_0 : List UInt8 := dkwX0_schedules_0 ++ []
theorem dksX0_schedules_0 : cX0_schedules.data.toList.drop 0 = dktX0_schedules_0 := by decide +kernel
theorem dX0_schedules_0 : decode cX0_schedules 0 = .ok (.aload_n 1, 1) := dk_43 (dk_at dksX0_schedules_0 0 rfl rfl)
theorem dX0_schedules_1 : decode cX0_schedules 1 = .ok (.iconst 0, 1) := dk_3 (dk_at dksX0_schedules_0 1 rfl rfl)
theorem dX0_schedules_2 : decode cX0_schedules 2 = .ok (.aload_n 0, 1) := dk_42 (dk_at dksX0_schedules_0 2 rfl rfl)
theorem dX0_schedules_3 : decode cX0_schedules 3 = .ok (.invokevirtual 110, 3) := dk_182 0 110 (dk_at dksX0_schedules_0 3 rfl rfl)
theorem dX0_schedules_6 : decode cX0_schedules 6 = .ok (.lastore, 1) := dk_80 (dk_at dksX0_schedules_0 6 rfl rfl)
theorem dX0_schedules_7 : decode cX0_schedules 7 = .ok (.goto 6, 3) := dk_167 0 6 (dk_at dksX0_schedules_0 7 rfl rfl)
theorem dX0_schedules_10 : decode cX0_schedules 10 = .ok (.astore_n 2, 1) := dk_77 (dk_at dksX0_schedules_0 10 rfl rfl)
theorem dX0_schedules_11 : decode cX0_schedules 11 = .ok (.iconst 1, 1) := dk_4 (dk_at dksX0_schedules_0 11 rfl rfl)
theorem dX0_schedules_12 : decode cX0_schedules 12 = .ok (.ireturn, 1) := dk_172 (dk_at dksX0_schedules_0 12 rfl rfl)
theorem dX0_schedules_13 : decode cX0_schedules 13 = .ok (.iconst 0, 1) := dk_3 (dk_at dksX0_schedules_0 13 rfl rfl)
theorem dX0_schedules_14 : decode cX0_schedules 14 = .ok (.ireturn, 1) := dk_172 (dk_at dksX0_schedules_0 14 rfl rfl)
abbrev cX0_meanSum : ByteArray := method_32_code
def yX0_meanSum : MethodName := ⟨RX0, "meanSum", "(LSpindleActors;[D)I"⟩
def dkwX0_meanSum_0 : List UInt8 := [43, 3, 42, 182, 0, 114, 82, 167, 0, 6, 77, 4, 172, 3, 172]
abbrev dktX0_meanSum_0 : List UInt8 := dkwX0_meanSum_0 ++ []
theorem dksX0_meanSum_0 : cX0_meanSum.data.toList.drop 0 = dktX0_meanSum_0 := by decide +kernel
theorem dX0_meanSum_0 : decode cX0_meanSum 0 = .ok (.aload_n 1, 1) := dk_43 (dk_at dksX0_meanSum_0 0 rfl rfl)
theorem dX0_meanSum_1 : decode cX0_meanSum 1 = .ok (.iconst 0, 1) := dk_3 (dk_at dksX0_meanSum_0 1 rfl rfl)
theorem dX0_meanSum_2 : decode cX0_meanSum 2 = .ok (.aload_n 0, 1) := dk_42 (dk_at dksX0_meanSum_0 2 rfl rfl)
theorem dX0_meanSum_3 : decode cX0_meanSum 3 = .ok (.invokevirtual 114, 3) := dk_182 0 114 (dk_at dksX0_meanSum_0 3 rfl rfl)
theorem dX0_meanSum_6 : decode cX0_meanSum 6 = .ok (.dastore, 1) := dk_82 (dk_at dksX0_meanSum_0 6 rfl rfl)
theorem dX0_meanSum_7 : decode cX0_meanSum 7 = .ok (.goto 6, 3) := dk_167 0 6 (dk_at dksX0_meanSum_0 7 rfl rfl)
theorem dX0_meanSum_10 : decode cX0_meanSum 10 = .ok (.astore_n 2, 1) := dk_77 (dk_at dksX0_meanSum_0 10 rfl rfl)
theorem dX0_meanSum_11 : decode cX0_meanSum 11 = .ok (.iconst 1, 1) := dk_4 (dk_at dksX0_meanSum_0 11 rfl rfl)
theorem dX0_meanSum_12 : decode cX0_meanSum 12 = .ok (.ireturn, 1) := dk_172 (dk_at dksX0_meanSum_0 12 rfl rfl)
theorem dX0_meanSum_13 : decode cX0_meanSum 13 = .ok (.iconst 0, 1) := dk_3 (dk_at dksX0_meanSum_0 13 rfl rfl)
theorem dX0_meanSum_14 : decode cX0_meanSum 14 = .ok (.ireturn, 1) := dk_172 (dk_at dksX0_meanSum_0 14 rfl rfl)
abbrev cX0_handledShare : ByteArray := method_33_code
def yX0_handledShare : MethodName := ⟨RX0, "handledShare", "(LSpindleActors;[D)I"⟩
def dkwX0_handledShare_0 : List UInt8 := [43, 3, 42, 182, 0, 120, 141, 82, 167, 0, 6, 77, 4, 172, 3, 172]
abbrev dktX0_handledShare_0 : List UInt8 := dkwX0_handledShare_0 ++ []
theorem dksX0_handledShare_0 : cX0_handledShare.data.toList.drop 0 = dktX0_handledShare_0 := by decide +kernel
theorem dX0_handledShare_0 : decode cX0_handledShare 0 = .ok (.aload_n 1, 1) := dk_43 (dk_at dksX0_handledShare_0 0 rfl rfl)
theorem dX0_handledShare_1 : decode cX0_handledShare 1 = .ok (.iconst 0, 1) := dk_3 (dk_at dksX0_handledShare_0 1 rfl rfl)
theorem dX0_handledShare_2 : decode cX0_handledShare 2 = .ok (.aload_n 0, 1) := dk_42 (dk_at dksX0_handledShare_0 2 rfl rfl)
theorem dX0_handledShare_3 : decode cX0_handledShare 3 = .ok (.invokevirtual 120, 3) := dk_182 0 120 (dk_at dksX0_handledShare_0 3 rfl rfl)
theorem dX0_handledShare_6 : decode cX0_handledShare 6 = .ok (.f2d, 1) := dk_141 (dk_at dksX0_handledShare_0 6 rfl rfl)
theorem dX0_handledShare_7 : decode cX0_handledShare 7 = .ok (.dastore, 1) := dk_82 (dk_at dksX0_handledShare_0 7 rfl rfl)
theorem dX0_handledShare_8 : decode cX0_handledShare 8 = .ok (.goto 6, 3) := dk_167 0 6 (dk_at dksX0_handledShare_0 8 rfl rfl)
theorem dX0_handledShare_11 : decode cX0_handledShare 11 = .ok (.astore_n 2, 1) := dk_77 (dk_at dksX0_handledShare_0 11 rfl rfl)
theorem dX0_handledShare_12 : decode cX0_handledShare 12 = .ok (.iconst 1, 1) := dk_4 (dk_at dksX0_handledShare_0 12 rfl rfl)
theorem dX0_handledShare_13 : decode cX0_handledShare 13 = .ok (.ireturn, 1) := dk_172 (dk_at dksX0_handledShare_0 13 rfl rfl)
theorem dX0_handledShare_14 : decode cX0_handledShare 14 = .ok (.iconst 0, 1) := dk_3 (dk_at dksX0_handledShare_0 14 rfl rfl)
theorem dX0_handledShare_15 : decode cX0_handledShare 15 = .ok (.ireturn, 1) := dk_172 (dk_at dksX0_handledShare_0 15 rfl rfl)
abbrev cX0_feed : ByteArray := method_34_code
def yX0_feed : MethodName := ⟨RX0, "feed", "(LSpindleActors;C[J)I"⟩
def dkwX0_feed_0 : List UInt8 := [44, 3, 42, 27, 182, 0, 124, 133, 80, 167, 0, 6, 78, 4, 172, 3, 172]
abbrev dktX0_feed_0 : List UInt8 := dkwX0_feed_0 ++ []
theorem dksX0_feed_0 : cX0_feed.data.toList.drop 0 = dktX0_feed_0 := by decide +kernel
theorem dX0_feed_0 : decode cX0_feed 0 = .ok (.aload_n 2, 1) := dk_44 (dk_at dksX0_feed_0 0 rfl rfl)
theorem dX0_feed_1 : decode cX0_feed 1 = .ok (.iconst 0, 1) := dk_3 (dk_at dksX0_feed_0 1 rfl rfl)
theorem dX0_feed_2 : decode cX0_feed 2 = .ok (.aload_n 0, 1) := dk_42 (dk_at dksX0_feed_0 2 rfl rfl)
theorem dX0_feed_3 : decode cX0_feed 3 = .ok (.iload_n 1, 1) := dk_27 (dk_at dksX0_feed_0 3 rfl rfl)
theorem dX0_feed_4 : decode cX0_feed 4 = .ok (.invokevirtual 124, 3) := dk_182 0 124 (dk_at dksX0_feed_0 4 rfl rfl)
theorem dX0_feed_7 : decode cX0_feed 7 = .ok (.i2l, 1) := dk_133 (dk_at dksX0_feed_0 7 rfl rfl)
theorem dX0_feed_8 : decode cX0_feed 8 = .ok (.lastore, 1) := dk_80 (dk_at dksX0_feed_0 8 rfl rfl)
theorem dX0_feed_9 : decode cX0_feed 9 = .ok (.goto 6, 3) := dk_167 0 6 (dk_at dksX0_feed_0 9 rfl rfl)
theorem dX0_feed_12 : decode cX0_feed 12 = .ok (.astore_n 3, 1) := dk_78 (dk_at dksX0_feed_0 12 rfl rfl)
theorem dX0_feed_13 : decode cX0_feed 13 = .ok (.iconst 1, 1) := dk_4 (dk_at dksX0_feed_0 13 rfl rfl)
theorem dX0_feed_14 : decode cX0_feed 14 = .ok (.ireturn, 1) := dk_172 (dk_at dksX0_feed_0 14 rfl rfl)
theorem dX0_feed_15 : decode cX0_feed 15 = .ok (.iconst 0, 1) := dk_3 (dk_at dksX0_feed_0 15 rfl rfl)
theorem dX0_feed_16 : decode cX0_feed 16 = .ok (.ireturn, 1) := dk_172 (dk_at dksX0_feed_0 16 rfl rfl)
abbrev cX0_execute : ByteArray := method_35_code
def yX0_execute : MethodName := ⟨RX0, "execute", "(LSpindleActors;[J)I"⟩
def dkwX0_execute_0 : List UInt8 := [43, 3, 42, 182, 0, 130, 133, 80, 167, 0, 9, 77, 4, 172, 77, 5, 172, 3, 172]
abbrev dktX0_execute_0 : List UInt8 := dkwX0_execute_0 ++ []
theorem dksX0_execute_0 : cX0_execute.data.toList.drop 0 = dktX0_execute_0 := by decide +kernel
theorem dX0_execute_0 : decode cX0_execute 0 = .ok (.aload_n 1, 1) := dk_43 (dk_at dksX0_execute_0 0 rfl rfl)
theorem dX0_execute_1 : decode cX0_execute 1 = .ok (.iconst 0, 1) := dk_3 (dk_at dksX0_execute_0 1 rfl rfl)
theorem dX0_execute_2 : decode cX0_execute 2 = .ok (.aload_n 0, 1) := dk_42 (dk_at dksX0_execute_0 2 rfl rfl)
theorem dX0_execute_3 : decode cX0_execute 3 = .ok (.invokevirtual 130, 3) := dk_182 0 130 (dk_at dksX0_execute_0 3 rfl rfl)
theorem dX0_execute_6 : decode cX0_execute 6 = .ok (.i2l, 1) := dk_133 (dk_at dksX0_execute_0 6 rfl rfl)
theorem dX0_execute_7 : decode cX0_execute 7 = .ok (.lastore, 1) := dk_80 (dk_at dksX0_execute_0 7 rfl rfl)
theorem dX0_execute_8 : decode cX0_execute 8 = .ok (.goto 9, 3) := dk_167 0 9 (dk_at dksX0_execute_0 8 rfl rfl)
theorem dX0_execute_11 : decode cX0_execute 11 = .ok (.astore_n 2, 1) := dk_77 (dk_at dksX0_execute_0 11 rfl rfl)
theorem dX0_execute_12 : decode cX0_execute 12 = .ok (.iconst 1, 1) := dk_4 (dk_at dksX0_execute_0 12 rfl rfl)
theorem dX0_execute_13 : decode cX0_execute 13 = .ok (.ireturn, 1) := dk_172 (dk_at dksX0_execute_0 13 rfl rfl)
theorem dX0_execute_14 : decode cX0_execute 14 = .ok (.astore_n 2, 1) := dk_77 (dk_at dksX0_execute_0 14 rfl rfl)
theorem dX0_execute_15 : decode cX0_execute 15 = .ok (.iconst 2, 1) := dk_5 (dk_at dksX0_execute_0 15 rfl rfl)
theorem dX0_execute_16 : decode cX0_execute 16 = .ok (.ireturn, 1) := dk_172 (dk_at dksX0_execute_0 16 rfl rfl)
theorem dX0_execute_17 : decode cX0_execute 17 = .ok (.iconst 0, 1) := dk_3 (dk_at dksX0_execute_0 17 rfl rfl)
theorem dX0_execute_18 : decode cX0_execute 18 = .ok (.ireturn, 1) := dk_172 (dk_at dksX0_execute_0 18 rfl rfl)
abbrev cX0_faultPosition : ByteArray := method_36_code
def yX0_faultPosition : MethodName := ⟨RX0, "faultPosition", "(LSpindleActors;[J)I"⟩
def dkwX0_faultPosition_0 : List UInt8 := [43, 3, 42, 182, 0, 133, 133, 80, 167, 0, 6, 77, 4, 172, 3, 172]
abbrev dktX0_faultPosition_0 : List UInt8 := dkwX0_faultPosition_0 ++ []
theorem dksX0_faultPosition_0 : cX0_faultPosition.data.toList.drop 0 = dktX0_faultPosition_0 := by decide +kernel
theorem dX0_faultPosition_0 : decode cX0_faultPosition 0 = .ok (.aload_n 1, 1) := dk_43 (dk_at dksX0_faultPosition_0 0 rfl rfl)
theorem dX0_faultPosition_1 : decode cX0_faultPosition 1 = .ok (.iconst 0, 1) := dk_3 (dk_at dksX0_faultPosition_0 1 rfl rfl)
theorem dX0_faultPosition_2 : decode cX0_faultPosition 2 = .ok (.aload_n 0, 1) := dk_42 (dk_at dksX0_faultPosition_0 2 rfl rfl)
theorem dX0_faultPosition_3 : decode cX0_faultPosition 3 = .ok (.invokevirtual 133, 3) := dk_182 0 133 (dk_at dksX0_faultPosition_0 3 rfl rfl)
theorem dX0_faultPosition_6 : decode cX0_faultPosition 6 = .ok (.i2l, 1) := dk_133 (dk_at dksX0_faultPosition_0 6 rfl rfl)
theorem dX0_faultPosition_7 : decode cX0_faultPosition 7 = .ok (.lastore, 1) := dk_80 (dk_at dksX0_faultPosition_0 7 rfl rfl)
theorem dX0_faultPosition_8 : decode cX0_faultPosition 8 = .ok (.goto 6, 3) := dk_167 0 6 (dk_at dksX0_faultPosition_0 8 rfl rfl)
theorem dX0_faultPosition_11 : decode cX0_faultPosition 11 = .ok (.astore_n 2, 1) := dk_77 (dk_at dksX0_faultPosition_0 11 rfl rfl)
theorem dX0_faultPosition_12 : decode cX0_faultPosition 12 = .ok (.iconst 1, 1) := dk_4 (dk_at dksX0_faultPosition_0 12 rfl rfl)
theorem dX0_faultPosition_13 : decode cX0_faultPosition 13 = .ok (.ireturn, 1) := dk_172 (dk_at dksX0_faultPosition_0 13 rfl rfl)
theorem dX0_faultPosition_14 : decode cX0_faultPosition 14 = .ok (.iconst 0, 1) := dk_3 (dk_at dksX0_faultPosition_0 14 rfl rfl)
theorem dX0_faultPosition_15 : decode cX0_faultPosition 15 = .ok (.ireturn, 1) := dk_172 (dk_at dksX0_faultPosition_0 15 rfl rfl)
abbrev cX0_writeActor : ByteArray := method_37_code
def yX0_writeActor : MethodName := ⟨RX0, "writeActor", "(LSpindleActors;I[J)I"⟩
def dkwX0_writeActor_0 : List UInt8 := [44, 3, 42, 27, 182, 0, 136, 133, 80, 167, 0, 6, 78, 4, 172, 3, 172]
abbrev dktX0_writeActor_0 : List UInt8 := dkwX0_writeActor_0 ++ []
theorem dksX0_writeActor_0 : cX0_writeActor.data.toList.drop 0 = dktX0_writeActor_0 := by decide +kernel
theorem dX0_writeActor_0 : decode cX0_writeActor 0 = .ok (.aload_n 2, 1) := dk_44 (dk_at dksX0_writeActor_0 0 rfl rfl)
theorem dX0_writeActor_1 : decode cX0_writeActor 1 = .ok (.iconst 0, 1) := dk_3 (dk_at dksX0_writeActor_0 1 rfl rfl)
theorem dX0_writeActor_2 : decode cX0_writeActor 2 = .ok (.aload_n 0, 1) := dk_42 (dk_at dksX0_writeActor_0 2 rfl rfl)
theorem dX0_writeActor_3 : decode cX0_writeActor 3 = .ok (.iload_n 1, 1) := dk_27 (dk_at dksX0_writeActor_0 3 rfl rfl)
theorem dX0_writeActor_4 : decode cX0_writeActor 4 = .ok (.invokevirtual 136, 3) := dk_182 0 136 (dk_at dksX0_writeActor_0 4 rfl rfl)
theorem dX0_writeActor_7 : decode cX0_writeActor 7 = .ok (.i2l, 1) := dk_133 (dk_at dksX0_writeActor_0 7 rfl rfl)
theorem dX0_writeActor_8 : decode cX0_writeActor 8 = .ok (.lastore, 1) := dk_80 (dk_at dksX0_writeActor_0 8 rfl rfl)
theorem dX0_writeActor_9 : decode cX0_writeActor 9 = .ok (.goto 6, 3) := dk_167 0 6 (dk_at dksX0_writeActor_0 9 rfl rfl)
theorem dX0_writeActor_12 : decode cX0_writeActor 12 = .ok (.astore_n 3, 1) := dk_78 (dk_at dksX0_writeActor_0 12 rfl rfl)
theorem dX0_writeActor_13 : decode cX0_writeActor 13 = .ok (.iconst 1, 1) := dk_4 (dk_at dksX0_writeActor_0 13 rfl rfl)
theorem dX0_writeActor_14 : decode cX0_writeActor 14 = .ok (.ireturn, 1) := dk_172 (dk_at dksX0_writeActor_0 14 rfl rfl)
theorem dX0_writeActor_15 : decode cX0_writeActor 15 = .ok (.iconst 0, 1) := dk_3 (dk_at dksX0_writeActor_0 15 rfl rfl)
theorem dX0_writeActor_16 : decode cX0_writeActor 16 = .ok (.ireturn, 1) := dk_172 (dk_at dksX0_writeActor_0 16 rfl rfl)
abbrev cX0_lineCharacter : ByteArray := method_38_code
def yX0_lineCharacter : MethodName := ⟨RX0, "lineCharacter", "(LSpindleActors;I[J)I"⟩
def dkwX0_lineCharacter_0 : List UInt8 := [44, 3, 42, 27, 182, 0, 139, 133, 80, 167, 0, 6, 78, 4, 172, 3, 172]
abbrev dktX0_lineCharacter_0 : List UInt8 := dkwX0_lineCharacter_0 ++ []
theorem dksX0_lineCharacter_0 : cX0_lineCharacter.data.toList.drop 0 = dktX0_lineCharacter_0 := by decide +kernel
theorem dX0_lineCharacter_0 : decode cX0_lineCharacter 0 = .ok (.aload_n 2, 1) := dk_44 (dk_at dksX0_lineCharacter_0 0 rfl rfl)
theorem dX0_lineCharacter_1 : decode cX0_lineCharacter 1 = .ok (.iconst 0, 1) := dk_3 (dk_at dksX0_lineCharacter_0 1 rfl rfl)
theorem dX0_lineCharacter_2 : decode cX0_lineCharacter 2 = .ok (.aload_n 0, 1) := dk_42 (dk_at dksX0_lineCharacter_0 2 rfl rfl)
theorem dX0_lineCharacter_3 : decode cX0_lineCharacter 3 = .ok (.iload_n 1, 1) := dk_27 (dk_at dksX0_lineCharacter_0 3 rfl rfl)
theorem dX0_lineCharacter_4 : decode cX0_lineCharacter 4 = .ok (.invokevirtual 139, 3) := dk_182 0 139 (dk_at dksX0_lineCharacter_0 4 rfl rfl)
theorem dX0_lineCharacter_7 : decode cX0_lineCharacter 7 = .ok (.i2l, 1) := dk_133 (dk_at dksX0_lineCharacter_0 7 rfl rfl)
theorem dX0_lineCharacter_8 : decode cX0_lineCharacter 8 = .ok (.lastore, 1) := dk_80 (dk_at dksX0_lineCharacter_0 8 rfl rfl)
theorem dX0_lineCharacter_9 : decode cX0_lineCharacter 9 = .ok (.goto 6, 3) := dk_167 0 6 (dk_at dksX0_lineCharacter_0 9 rfl rfl)
theorem dX0_lineCharacter_12 : decode cX0_lineCharacter 12 = .ok (.astore_n 3, 1) := dk_78 (dk_at dksX0_lineCharacter_0 12 rfl rfl)
theorem dX0_lineCharacter_13 : decode cX0_lineCharacter 13 = .ok (.iconst 1, 1) := dk_4 (dk_at dksX0_lineCharacter_0 13 rfl rfl)
theorem dX0_lineCharacter_14 : decode cX0_lineCharacter 14 = .ok (.ireturn, 1) := dk_172 (dk_at dksX0_lineCharacter_0 14 rfl rfl)
theorem dX0_lineCharacter_15 : decode cX0_lineCharacter 15 = .ok (.iconst 0, 1) := dk_3 (dk_at dksX0_lineCharacter_0 15 rfl rfl)
theorem dX0_lineCharacter_16 : decode cX0_lineCharacter 16 = .ok (.ireturn, 1) := dk_172 (dk_at dksX0_lineCharacter_0 16 rfl rfl)
abbrev cX0_denial : ByteArray := method_39_code
def yX0_denial : MethodName := ⟨RX0, "denial", "(LSpindleActors;[J)I"⟩
def dkwX0_denial_0 : List UInt8 := [43, 3, 42, 182, 0, 142, 133, 80, 167, 0, 6, 77, 4, 172, 3, 172]
abbrev dktX0_denial_0 : List UInt8 := dkwX0_denial_0 ++ []
theorem dksX0_denial_0 : cX0_denial.data.toList.drop 0 = dktX0_denial_0 := by decide +kernel
theorem dX0_denial_0 : decode cX0_denial 0 = .ok (.aload_n 1, 1) := dk_43 (dk_at dksX0_denial_0 0 rfl rfl)
theorem dX0_denial_1 : decode cX0_denial 1 = .ok (.iconst 0, 1) := dk_3 (dk_at dksX0_denial_0 1 rfl rfl)
theorem dX0_denial_2 : decode cX0_denial 2 = .ok (.aload_n 0, 1) := dk_42 (dk_at dksX0_denial_0 2 rfl rfl)
theorem dX0_denial_3 : decode cX0_denial 3 = .ok (.invokevirtual 142, 3) := dk_182 0 142 (dk_at dksX0_denial_0 3 rfl rfl)
theorem dX0_denial_6 : decode cX0_denial 6 = .ok (.i2l, 1) := dk_133 (dk_at dksX0_denial_0 6 rfl rfl)
theorem dX0_denial_7 : decode cX0_denial 7 = .ok (.lastore, 1) := dk_80 (dk_at dksX0_denial_0 7 rfl rfl)
theorem dX0_denial_8 : decode cX0_denial 8 = .ok (.goto 6, 3) := dk_167 0 6 (dk_at dksX0_denial_0 8 rfl rfl)
theorem dX0_denial_11 : decode cX0_denial 11 = .ok (.astore_n 2, 1) := dk_77 (dk_at dksX0_denial_0 11 rfl rfl)
theorem dX0_denial_12 : decode cX0_denial 12 = .ok (.iconst 1, 1) := dk_4 (dk_at dksX0_denial_0 12 rfl rfl)
theorem dX0_denial_13 : decode cX0_denial 13 = .ok (.ireturn, 1) := dk_172 (dk_at dksX0_denial_0 13 rfl rfl)
theorem dX0_denial_14 : decode cX0_denial 14 = .ok (.iconst 0, 1) := dk_3 (dk_at dksX0_denial_0 14 rfl rfl)
theorem dX0_denial_15 : decode cX0_denial 15 = .ok (.ireturn, 1) := dk_172 (dk_at dksX0_denial_0 15 rfl rfl)
abbrev cX0_denialDetail : ByteArray := method_40_code
def yX0_denialDetail : MethodName := ⟨RX0, "denialDetail", "(LSpindleActors;[J)I"⟩
def dkwX0_denialDetail_0 : List UInt8 := [43, 3, 42, 182, 0, 145, 133, 80, 167, 0, 6, 77, 4, 172, 3, 172]
abbrev dktX0_denialDetail_0 : List UInt8 := dkwX0_denialDetail_0 ++ []
theorem dksX0_denialDetail_0 : cX0_denialDetail.data.toList.drop 0 = dktX0_denialDetail_0 := by decide +kernel
theorem dX0_denialDetail_0 : decode cX0_denialDetail 0 = .ok (.aload_n 1, 1) := dk_43 (dk_at dksX0_denialDetail_0 0 rfl rfl)
theorem dX0_denialDetail_1 : decode cX0_denialDetail 1 = .ok (.iconst 0, 1) := dk_3 (dk_at dksX0_denialDetail_0 1 rfl rfl)
theorem dX0_denialDetail_2 : decode cX0_denialDetail 2 = .ok (.aload_n 0, 1) := dk_42 (dk_at dksX0_denialDetail_0 2 rfl rfl)
theorem dX0_denialDetail_3 : decode cX0_denialDetail 3 = .ok (.invokevirtual 145, 3) := dk_182 0 145 (dk_at dksX0_denialDetail_0 3 rfl rfl)
theorem dX0_denialDetail_6 : decode cX0_denialDetail 6 = .ok (.i2l, 1) := dk_133 (dk_at dksX0_denialDetail_0 6 rfl rfl)
theorem dX0_denialDetail_7 : decode cX0_denialDetail 7 = .ok (.lastore, 1) := dk_80 (dk_at dksX0_denialDetail_0 7 rfl rfl)
theorem dX0_denialDetail_8 : decode cX0_denialDetail 8 = .ok (.goto 6, 3) := dk_167 0 6 (dk_at dksX0_denialDetail_0 8 rfl rfl)
theorem dX0_denialDetail_11 : decode cX0_denialDetail 11 = .ok (.astore_n 2, 1) := dk_77 (dk_at dksX0_denialDetail_0 11 rfl rfl)
theorem dX0_denialDetail_12 : decode cX0_denialDetail 12 = .ok (.iconst 1, 1) := dk_4 (dk_at dksX0_denialDetail_0 12 rfl rfl)
theorem dX0_denialDetail_13 : decode cX0_denialDetail 13 = .ok (.ireturn, 1) := dk_172 (dk_at dksX0_denialDetail_0 13 rfl rfl)
theorem dX0_denialDetail_14 : decode cX0_denialDetail 14 = .ok (.iconst 0, 1) := dk_3 (dk_at dksX0_denialDetail_0 14 rfl rfl)
theorem dX0_denialDetail_15 : decode cX0_denialDetail 15 = .ok (.ireturn, 1) := dk_172 (dk_at dksX0_denialDetail_0 15 rfl rfl)
abbrev cX0_denialCause : ByteArray := method_41_code
def yX0_denialCause : MethodName := ⟨RX0, "denialCause", "(LSpindleActors;[J)I"⟩
def dkwX0_denialCause_0 : List UInt8 := [43, 3, 42, 182, 0, 148, 133, 80, 167, 0, 6, 77, 4, 172, 3, 172]
abbrev dktX0_denialCause_0 : List UInt8 := dkwX0_denialCause_0 ++ []
theorem dksX0_denialCause_0 : cX0_denialCause.data.toList.drop 0 = dktX0_denialCause_0 := by decide +kernel
theorem dX0_denialCause_0 : decode cX0_denialCause 0 = .ok (.aload_n 1, 1) := dk_43 (dk_at dksX0_denialCause_0 0 rfl rfl)
theorem dX0_denialCause_1 : decode cX0_denialCause 1 = .ok (.iconst 0, 1) := dk_3 (dk_at dksX0_denialCause_0 1 rfl rfl)
theorem dX0_denialCause_2 : decode cX0_denialCause 2 = .ok (.aload_n 0, 1) := dk_42 (dk_at dksX0_denialCause_0 2 rfl rfl)
theorem dX0_denialCause_3 : decode cX0_denialCause 3 = .ok (.invokevirtual 148, 3) := dk_182 0 148 (dk_at dksX0_denialCause_0 3 rfl rfl)
theorem dX0_denialCause_6 : decode cX0_denialCause 6 = .ok (.i2l, 1) := dk_133 (dk_at dksX0_denialCause_0 6 rfl rfl)
theorem dX0_denialCause_7 : decode cX0_denialCause 7 = .ok (.lastore, 1) := dk_80 (dk_at dksX0_denialCause_0 7 rfl rfl)
theorem dX0_denialCause_8 : decode cX0_denialCause 8 = .ok (.goto 6, 3) := dk_167 0 6 (dk_at dksX0_denialCause_0 8 rfl rfl)
theorem dX0_denialCause_11 : decode cX0_denialCause 11 = .ok (.astore_n 2, 1) := dk_77 (dk_at dksX0_denialCause_0 11 rfl rfl)
theorem dX0_denialCause_12 : decode cX0_denialCause 12 = .ok (.iconst 1, 1) := dk_4 (dk_at dksX0_denialCause_0 12 rfl rfl)
theorem dX0_denialCause_13 : decode cX0_denialCause 13 = .ok (.ireturn, 1) := dk_172 (dk_at dksX0_denialCause_0 13 rfl rfl)
theorem dX0_denialCause_14 : decode cX0_denialCause 14 = .ok (.iconst 0, 1) := dk_3 (dk_at dksX0_denialCause_0 14 rfl rfl)
theorem dX0_denialCause_15 : decode cX0_denialCause 15 = .ok (.ireturn, 1) := dk_172 (dk_at dksX0_denialCause_0 15 rfl rfl)
abbrev cX0_undo : ByteArray := method_42_code
def yX0_undo : MethodName := ⟨RX0, "undo", "(LSpindleActors;[J)I"⟩
def dkwX0_undo_0 : List UInt8 := [43, 3, 42, 182, 0, 151, 133, 80, 167, 0, 6, 77, 4, 172, 3, 172]
abbrev dktX0_undo_0 : List UInt8 := dkwX0_undo_0 ++ []
theorem dksX0_undo_0 : cX0_undo.data.toList.drop 0 = dktX0_undo_0 := by decide +kernel
theorem dX0_undo_0 : decode cX0_undo 0 = .ok (.aload_n 1, 1) := dk_43 (dk_at dksX0_undo_0 0 rfl rfl)
theorem dX0_undo_1 : decode cX0_undo 1 = .ok (.iconst 0, 1) := dk_3 (dk_at dksX0_undo_0 1 rfl rfl)
theorem dX0_undo_2 : decode cX0_undo 2 = .ok (.aload_n 0, 1) := dk_42 (dk_at dksX0_undo_0 2 rfl rfl)
theorem dX0_undo_3 : decode cX0_undo 3 = .ok (.invokevirtual 151, 3) := dk_182 0 151 (dk_at dksX0_undo_0 3 rfl rfl)
theorem dX0_undo_6 : decode cX0_undo 6 = .ok (.i2l, 1) := dk_133 (dk_at dksX0_undo_0 6 rfl rfl)
theorem dX0_undo_7 : decode cX0_undo 7 = .ok (.lastore, 1) := dk_80 (dk_at dksX0_undo_0 7 rfl rfl)
theorem dX0_undo_8 : decode cX0_undo 8 = .ok (.goto 6, 3) := dk_167 0 6 (dk_at dksX0_undo_0 8 rfl rfl)
theorem dX0_undo_11 : decode cX0_undo 11 = .ok (.astore_n 2, 1) := dk_77 (dk_at dksX0_undo_0 11 rfl rfl)
theorem dX0_undo_12 : decode cX0_undo 12 = .ok (.iconst 1, 1) := dk_4 (dk_at dksX0_undo_0 12 rfl rfl)
theorem dX0_undo_13 : decode cX0_undo 13 = .ok (.ireturn, 1) := dk_172 (dk_at dksX0_undo_0 13 rfl rfl)
theorem dX0_undo_14 : decode cX0_undo 14 = .ok (.iconst 0, 1) := dk_3 (dk_at dksX0_undo_0 14 rfl rfl)
theorem dX0_undo_15 : decode cX0_undo 15 = .ok (.ireturn, 1) := dk_172 (dk_at dksX0_undo_0 15 rfl rfl)
abbrev cX0_restoreSnapshot : ByteArray := method_43_code
def yX0_restoreSnapshot : MethodName := ⟨RX0, "restoreSnapshot", "(LSpindleActors;[J)I"⟩
def dkwX0_restoreSnapshot_0 : List UInt8 := [43, 3, 42, 182, 0, 154, 133, 80, 167, 0, 6, 77, 4, 172, 3, 172]
abbrev dktX0_restoreSnapshot_0 : List UInt8 := dkwX0_restoreSnapshot_0 ++ []
theorem dksX0_restoreSnapshot_0 : cX0_restoreSnapshot.data.toList.drop 0 = dktX0_restoreSnapshot_0 := by decide +kernel
theorem dX0_restoreSnapshot_0 : decode cX0_restoreSnapshot 0 = .ok (.aload_n 1, 1) := dk_43 (dk_at dksX0_restoreSnapshot_0 0 rfl rfl)
theorem dX0_restoreSnapshot_1 : decode cX0_restoreSnapshot 1 = .ok (.iconst 0, 1) := dk_3 (dk_at dksX0_restoreSnapshot_0 1 rfl rfl)
theorem dX0_restoreSnapshot_2 : decode cX0_restoreSnapshot 2 = .ok (.aload_n 0, 1) := dk_42 (dk_at dksX0_restoreSnapshot_0 2 rfl rfl)
theorem dX0_restoreSnapshot_3 : decode cX0_restoreSnapshot 3 = .ok (.invokevirtual 154, 3) := dk_182 0 154 (dk_at dksX0_restoreSnapshot_0 3 rfl rfl)
theorem dX0_restoreSnapshot_6 : decode cX0_restoreSnapshot 6 = .ok (.i2l, 1) := dk_133 (dk_at dksX0_restoreSnapshot_0 6 rfl rfl)
theorem dX0_restoreSnapshot_7 : decode cX0_restoreSnapshot 7 = .ok (.lastore, 1) := dk_80 (dk_at dksX0_restoreSnapshot_0 7 rfl rfl)
theorem dX0_restoreSnapshot_8 : decode cX0_restoreSnapshot 8 = .ok (.goto 6, 3) := dk_167 0 6 (dk_at dksX0_restoreSnapshot_0 8 rfl rfl)
theorem dX0_restoreSnapshot_11 : decode cX0_restoreSnapshot 11 = .ok (.astore_n 2, 1) := dk_77 (dk_at dksX0_restoreSnapshot_0 11 rfl rfl)
theorem dX0_restoreSnapshot_12 : decode cX0_restoreSnapshot 12 = .ok (.iconst 1, 1) := dk_4 (dk_at dksX0_restoreSnapshot_0 12 rfl rfl)
theorem dX0_restoreSnapshot_13 : decode cX0_restoreSnapshot 13 = .ok (.ireturn, 1) := dk_172 (dk_at dksX0_restoreSnapshot_0 13 rfl rfl)
theorem dX0_restoreSnapshot_14 : decode cX0_restoreSnapshot 14 = .ok (.iconst 0, 1) := dk_3 (dk_at dksX0_restoreSnapshot_0 14 rfl rfl)
theorem dX0_restoreSnapshot_15 : decode cX0_restoreSnapshot 15 = .ok (.ireturn, 1) := dk_172 (dk_at dksX0_restoreSnapshot_0 15 rfl rfl)
abbrev cX1_init : ByteArray := prog_1_method_9_code
def yX1_init : MethodName := ⟨RX1, "<init>", "()V"⟩
def dkwX1_init_2 : List UInt8 := [181, 0, 67, 177]
abbrev dktX1_init_2 : List UInt8 := dkwX1_init_2 ++ []
def dkwX1_init_1 : List UInt8 := [181, 0, 50, 42, 187, 0, 54, 89, 183, 0, 56, 181, 0, 57, 42, 18, 61, 181, 0, 63, 42, 2]
abbrev dktX1_init_1 : List UInt8 := dkwX1_init_1 ++ dktX1_init_2
def dkwX1_init_0 : List UInt8 := [42, 183, 0, 37, 42, 187, 0, 40, 89, 183, 0, 42, 181, 0, 43, 42, 187, 0, 47, 89, 183, 0, 49]
abbrev dktX1_init_0 : List UInt8 := dkwX1_init_0 ++ dktX1_init_1
theorem dksX1_init_0 : cX1_init.data.toList.drop 0 = dktX1_init_0 := by decide +kernel
theorem dksX1_init_1 : cX1_init.data.toList.drop 23 = dktX1_init_1 := dk_seg dksX1_init_0 23 rfl rfl
theorem dksX1_init_2 : cX1_init.data.toList.drop 45 = dktX1_init_2 := dk_seg dksX1_init_1 22 rfl rfl
theorem dX1_init_0 : decode cX1_init 0 = .ok (.aload_n 0, 1) := dk_42 (dk_at dksX1_init_0 0 rfl rfl)
theorem dX1_init_1 : decode cX1_init 1 = .ok (.invokespecial 37, 3) := dk_183 0 37 (dk_at dksX1_init_0 1 rfl rfl)
theorem dX1_init_4 : decode cX1_init 4 = .ok (.aload_n 0, 1) := dk_42 (dk_at dksX1_init_0 4 rfl rfl)
theorem dX1_init_5 : decode cX1_init 5 = .ok (.new 40, 3) := dk_187 0 40 (dk_at dksX1_init_0 5 rfl rfl)
theorem dX1_init_8 : decode cX1_init 8 = .ok (.dup, 1) := dk_89 (dk_at dksX1_init_0 8 rfl rfl)
theorem dX1_init_9 : decode cX1_init 9 = .ok (.invokespecial 42, 3) := dk_183 0 42 (dk_at dksX1_init_0 9 rfl rfl)
theorem dX1_init_12 : decode cX1_init 12 = .ok (.putfield 43, 3) := dk_181 0 43 (dk_at dksX1_init_0 12 rfl rfl)
theorem dX1_init_15 : decode cX1_init 15 = .ok (.aload_n 0, 1) := dk_42 (dk_at dksX1_init_0 15 rfl rfl)
theorem dX1_init_16 : decode cX1_init 16 = .ok (.new 47, 3) := dk_187 0 47 (dk_at dksX1_init_0 16 rfl rfl)
theorem dX1_init_19 : decode cX1_init 19 = .ok (.dup, 1) := dk_89 (dk_at dksX1_init_0 19 rfl rfl)
theorem dX1_init_20 : decode cX1_init 20 = .ok (.invokespecial 49, 3) := dk_183 0 49 (dk_at dksX1_init_0 20 rfl rfl)
theorem dX1_init_23 : decode cX1_init 23 = .ok (.putfield 50, 3) := dk_181 0 50 (dk_at dksX1_init_1 0 rfl rfl)
theorem dX1_init_26 : decode cX1_init 26 = .ok (.aload_n 0, 1) := dk_42 (dk_at dksX1_init_1 3 rfl rfl)
theorem dX1_init_27 : decode cX1_init 27 = .ok (.new 54, 3) := dk_187 0 54 (dk_at dksX1_init_1 4 rfl rfl)
theorem dX1_init_30 : decode cX1_init 30 = .ok (.dup, 1) := dk_89 (dk_at dksX1_init_1 7 rfl rfl)
theorem dX1_init_31 : decode cX1_init 31 = .ok (.invokespecial 56, 3) := dk_183 0 56 (dk_at dksX1_init_1 8 rfl rfl)
theorem dX1_init_34 : decode cX1_init 34 = .ok (.putfield 57, 3) := dk_181 0 57 (dk_at dksX1_init_1 11 rfl rfl)
theorem dX1_init_37 : decode cX1_init 37 = .ok (.aload_n 0, 1) := dk_42 (dk_at dksX1_init_1 14 rfl rfl)
theorem dX1_init_38 : decode cX1_init 38 = .ok (.ldc 61, 2) := dk_18 61 (dk_at dksX1_init_1 15 rfl rfl)
theorem dX1_init_40 : decode cX1_init 40 = .ok (.putfield 63, 3) := dk_181 0 63 (dk_at dksX1_init_1 17 rfl rfl)
theorem dX1_init_43 : decode cX1_init 43 = .ok (.aload_n 0, 1) := dk_42 (dk_at dksX1_init_1 20 rfl rfl)
theorem dX1_init_44 : decode cX1_init 44 = .ok (.iconst (-1), 1) := dk_2 (dk_at dksX1_init_1 21 rfl rfl)
theorem dX1_init_45 : decode cX1_init 45 = .ok (.putfield 67, 3) := dk_181 0 67 (dk_at dksX1_init_2 0 rfl rfl)
theorem dX1_init_48 : decode cX1_init 48 = .ok (.return_, 1) := dk_177 (dk_at dksX1_init_2 3 rfl rfl)
abbrev cX1_actors : ByteArray := prog_1_method_21_code
def yX1_actors : MethodName := ⟨RX1, "actors", "()I"⟩
def dkwX1_actors_0 : List UInt8 := [42, 180, 0, 43, 180, 0, 133, 180, 0, 137, 172]
abbrev dktX1_actors_0 : List UInt8 := dkwX1_actors_0 ++ []
theorem dksX1_actors_0 : cX1_actors.data.toList.drop 0 = dktX1_actors_0 := by decide +kernel
theorem dX1_actors_0 : decode cX1_actors 0 = .ok (.aload_n 0, 1) := dk_42 (dk_at dksX1_actors_0 0 rfl rfl)
theorem dX1_actors_1 : decode cX1_actors 1 = .ok (.getfield 43, 3) := dk_180 0 43 (dk_at dksX1_actors_0 1 rfl rfl)
theorem dX1_actors_4 : decode cX1_actors 4 = .ok (.getfield 133, 3) := dk_180 0 133 (dk_at dksX1_actors_0 4 rfl rfl)
theorem dX1_actors_7 : decode cX1_actors 7 = .ok (.getfield 137, 3) := dk_180 0 137 (dk_at dksX1_actors_0 7 rfl rfl)
theorem dX1_actors_10 : decode cX1_actors 10 = .ok (.ireturn, 1) := dk_172 (dk_at dksX1_actors_0 10 rfl rfl)
abbrev cX1_running : ByteArray := prog_1_method_22_code
def yX1_running : MethodName := ⟨RX1, "running", "()I"⟩
def dkwX1_running_0 : List UInt8 := [42, 180, 0, 43, 182, 0, 141, 172]
abbrev dktX1_running_0 : List UInt8 := dkwX1_running_0 ++ []
theorem dksX1_running_0 : cX1_running.data.toList.drop 0 = dktX1_running_0 := by decide +kernel
theorem dX1_running_0 : decode cX1_running 0 = .ok (.aload_n 0, 1) := dk_42 (dk_at dksX1_running_0 0 rfl rfl)
theorem dX1_running_1 : decode cX1_running 1 = .ok (.getfield 43, 3) := dk_180 0 43 (dk_at dksX1_running_0 1 rfl rfl)
theorem dX1_running_4 : decode cX1_running 4 = .ok (.invokevirtual 141, 3) := dk_182 0 141 (dk_at dksX1_running_0 4 rfl rfl)
theorem dX1_running_7 : decode cX1_running 7 = .ok (.ireturn, 1) := dk_172 (dk_at dksX1_running_0 7 rfl rfl)
abbrev cX1_waiting : ByteArray := prog_1_method_40_code
def yX1_waiting : MethodName := ⟨RX1, "waiting", "()I"⟩
def dkwX1_waiting_1 : List UInt8 := [153, 0, 7, 4, 167, 0, 4, 3, 96, 60, 132, 2, 1, 167, 255, 223, 27, 172]
abbrev dktX1_waiting_1 : List UInt8 := dkwX1_waiting_1 ++ []
def dkwX1_waiting_0 : List UInt8 := [3, 60, 3, 61, 28, 42, 182, 0, 178, 162, 0, 31, 27, 42, 180, 0, 43, 180, 0, 148, 28, 182, 0, 240]
abbrev dktX1_waiting_0 : List UInt8 := dkwX1_waiting_0 ++ dktX1_waiting_1
theorem dksX1_waiting_0 : cX1_waiting.data.toList.drop 0 = dktX1_waiting_0 := by decide +kernel
theorem dksX1_waiting_1 : cX1_waiting.data.toList.drop 24 = dktX1_waiting_1 := dk_seg dksX1_waiting_0 24 rfl rfl
theorem dX1_waiting_0 : decode cX1_waiting 0 = .ok (.iconst 0, 1) := dk_3 (dk_at dksX1_waiting_0 0 rfl rfl)
theorem dX1_waiting_1 : decode cX1_waiting 1 = .ok (.istore_n 1, 1) := dk_60 (dk_at dksX1_waiting_0 1 rfl rfl)
theorem dX1_waiting_2 : decode cX1_waiting 2 = .ok (.iconst 0, 1) := dk_3 (dk_at dksX1_waiting_0 2 rfl rfl)
theorem dX1_waiting_3 : decode cX1_waiting 3 = .ok (.istore_n 2, 1) := dk_61 (dk_at dksX1_waiting_0 3 rfl rfl)
theorem dX1_waiting_4 : decode cX1_waiting 4 = .ok (.iload_n 2, 1) := dk_28 (dk_at dksX1_waiting_0 4 rfl rfl)
theorem dX1_waiting_5 : decode cX1_waiting 5 = .ok (.aload_n 0, 1) := dk_42 (dk_at dksX1_waiting_0 5 rfl rfl)
theorem dX1_waiting_6 : decode cX1_waiting 6 = .ok (.invokevirtual 178, 3) := dk_182 0 178 (dk_at dksX1_waiting_0 6 rfl rfl)
theorem dX1_waiting_9 : decode cX1_waiting 9 = .ok (.if_icmp .ge 31, 3) := dk_162 0 31 (dk_at dksX1_waiting_0 9 rfl rfl)
theorem dX1_waiting_12 : decode cX1_waiting 12 = .ok (.iload_n 1, 1) := dk_27 (dk_at dksX1_waiting_0 12 rfl rfl)
theorem dX1_waiting_13 : decode cX1_waiting 13 = .ok (.aload_n 0, 1) := dk_42 (dk_at dksX1_waiting_0 13 rfl rfl)
theorem dX1_waiting_14 : decode cX1_waiting 14 = .ok (.getfield 43, 3) := dk_180 0 43 (dk_at dksX1_waiting_0 14 rfl rfl)
theorem dX1_waiting_17 : decode cX1_waiting 17 = .ok (.getfield 148, 3) := dk_180 0 148 (dk_at dksX1_waiting_0 17 rfl rfl)
theorem dX1_waiting_20 : decode cX1_waiting 20 = .ok (.iload_n 2, 1) := dk_28 (dk_at dksX1_waiting_0 20 rfl rfl)
theorem dX1_waiting_21 : decode cX1_waiting 21 = .ok (.invokevirtual 240, 3) := dk_182 0 240 (dk_at dksX1_waiting_0 21 rfl rfl)
theorem dX1_waiting_24 : decode cX1_waiting 24 = .ok (.ifCond .eq 7, 3) := dk_153 0 7 (dk_at dksX1_waiting_1 0 rfl rfl)
theorem dX1_waiting_27 : decode cX1_waiting 27 = .ok (.iconst 1, 1) := dk_4 (dk_at dksX1_waiting_1 3 rfl rfl)
theorem dX1_waiting_28 : decode cX1_waiting 28 = .ok (.goto 4, 3) := dk_167 0 4 (dk_at dksX1_waiting_1 4 rfl rfl)
theorem dX1_waiting_31 : decode cX1_waiting 31 = .ok (.iconst 0, 1) := dk_3 (dk_at dksX1_waiting_1 7 rfl rfl)
theorem dX1_waiting_32 : decode cX1_waiting 32 = .ok (.iadd, 1) := dk_96 (dk_at dksX1_waiting_1 8 rfl rfl)
theorem dX1_waiting_33 : decode cX1_waiting 33 = .ok (.istore_n 1, 1) := dk_60 (dk_at dksX1_waiting_1 9 rfl rfl)
theorem dX1_waiting_34 : decode cX1_waiting 34 = .ok (.iinc 2 1, 3) := dk_132 2 1 (dk_at dksX1_waiting_1 10 rfl rfl)
theorem dX1_waiting_37 : decode cX1_waiting 37 = .ok (.goto (-33), 3) := dk_167 255 223 (dk_at dksX1_waiting_1 13 rfl rfl)
theorem dX1_waiting_40 : decode cX1_waiting 40 = .ok (.iload_n 1, 1) := dk_27 (dk_at dksX1_waiting_1 16 rfl rfl)
theorem dX1_waiting_41 : decode cX1_waiting 41 = .ok (.ireturn, 1) := dk_172 (dk_at dksX1_waiting_1 17 rfl rfl)
abbrev cX1_timers : ByteArray := prog_1_method_41_code
def yX1_timers : MethodName := ⟨RX1, "timers", "()I"⟩
def dkwX1_timers_0 : List UInt8 := [42, 180, 0, 43, 180, 0, 243, 182, 0, 247, 172]
abbrev dktX1_timers_0 : List UInt8 := dkwX1_timers_0 ++ []
theorem dksX1_timers_0 : cX1_timers.data.toList.drop 0 = dktX1_timers_0 := by decide +kernel
theorem dX1_timers_0 : decode cX1_timers 0 = .ok (.aload_n 0, 1) := dk_42 (dk_at dksX1_timers_0 0 rfl rfl)
theorem dX1_timers_1 : decode cX1_timers 1 = .ok (.getfield 43, 3) := dk_180 0 43 (dk_at dksX1_timers_0 1 rfl rfl)
theorem dX1_timers_4 : decode cX1_timers 4 = .ok (.getfield 243, 3) := dk_180 0 243 (dk_at dksX1_timers_0 4 rfl rfl)
theorem dX1_timers_7 : decode cX1_timers 7 = .ok (.invokevirtual 247, 3) := dk_182 0 247 (dk_at dksX1_timers_0 7 rfl rfl)
theorem dX1_timers_10 : decode cX1_timers 10 = .ok (.ireturn, 1) := dk_172 (dk_at dksX1_timers_0 10 rfl rfl)
abbrev cX1_steps : ByteArray := prog_1_method_49_code
def yX1_steps : MethodName := ⟨RX1, "steps", "()I"⟩
def dkwX1_steps_0 : List UInt8 := [42, 180, 0, 43, 180, 1, 12, 172]
abbrev dktX1_steps_0 : List UInt8 := dkwX1_steps_0 ++ []
theorem dksX1_steps_0 : cX1_steps.data.toList.drop 0 = dktX1_steps_0 := by decide +kernel
theorem dX1_steps_0 : decode cX1_steps 0 = .ok (.aload_n 0, 1) := dk_42 (dk_at dksX1_steps_0 0 rfl rfl)
theorem dX1_steps_1 : decode cX1_steps 1 = .ok (.getfield 43, 3) := dk_180 0 43 (dk_at dksX1_steps_0 1 rfl rfl)
theorem dX1_steps_4 : decode cX1_steps 4 = .ok (.getfield 268, 3) := dk_180 1 12 (dk_at dksX1_steps_0 4 rfl rfl)
theorem dX1_steps_7 : decode cX1_steps 7 = .ok (.ireturn, 1) := dk_172 (dk_at dksX1_steps_0 7 rfl rfl)
abbrev cX1_idle : ByteArray := prog_1_method_50_code
def yX1_idle : MethodName := ⟨RX1, "idle", "()I"⟩
def dkwX1_idle_0 : List UInt8 := [42, 180, 0, 43, 180, 1, 12, 42, 180, 0, 43, 180, 0, 148, 180, 1, 60, 100, 172]
abbrev dktX1_idle_0 : List UInt8 := dkwX1_idle_0 ++ []
theorem dksX1_idle_0 : cX1_idle.data.toList.drop 0 = dktX1_idle_0 := by decide +kernel
theorem dX1_idle_0 : decode cX1_idle 0 = .ok (.aload_n 0, 1) := dk_42 (dk_at dksX1_idle_0 0 rfl rfl)
theorem dX1_idle_1 : decode cX1_idle 1 = .ok (.getfield 43, 3) := dk_180 0 43 (dk_at dksX1_idle_0 1 rfl rfl)
theorem dX1_idle_4 : decode cX1_idle 4 = .ok (.getfield 268, 3) := dk_180 1 12 (dk_at dksX1_idle_0 4 rfl rfl)
theorem dX1_idle_7 : decode cX1_idle 7 = .ok (.aload_n 0, 1) := dk_42 (dk_at dksX1_idle_0 7 rfl rfl)
theorem dX1_idle_8 : decode cX1_idle 8 = .ok (.getfield 43, 3) := dk_180 0 43 (dk_at dksX1_idle_0 8 rfl rfl)
theorem dX1_idle_11 : decode cX1_idle 11 = .ok (.getfield 148, 3) := dk_180 0 148 (dk_at dksX1_idle_0 11 rfl rfl)
theorem dX1_idle_14 : decode cX1_idle 14 = .ok (.getfield 316, 3) := dk_180 1 60 (dk_at dksX1_idle_0 14 rfl rfl)
theorem dX1_idle_17 : decode cX1_idle 17 = .ok (.isub, 1) := dk_100 (dk_at dksX1_idle_0 17 rfl rfl)
theorem dX1_idle_18 : decode cX1_idle 18 = .ok (.ireturn, 1) := dk_172 (dk_at dksX1_idle_0 18 rfl rfl)
abbrev cX1_handled : ByteArray := prog_1_method_51_code
def yX1_handled : MethodName := ⟨RX1, "handled", "()I"⟩
def dkwX1_handled_0 : List UInt8 := [42, 180, 0, 43, 180, 0, 148, 180, 1, 60, 172]
abbrev dktX1_handled_0 : List UInt8 := dkwX1_handled_0 ++ []
theorem dksX1_handled_0 : cX1_handled.data.toList.drop 0 = dktX1_handled_0 := by decide +kernel
theorem dX1_handled_0 : decode cX1_handled 0 = .ok (.aload_n 0, 1) := dk_42 (dk_at dksX1_handled_0 0 rfl rfl)
theorem dX1_handled_1 : decode cX1_handled 1 = .ok (.getfield 43, 3) := dk_180 0 43 (dk_at dksX1_handled_0 1 rfl rfl)
theorem dX1_handled_4 : decode cX1_handled 4 = .ok (.getfield 148, 3) := dk_180 0 148 (dk_at dksX1_handled_0 4 rfl rfl)
theorem dX1_handled_7 : decode cX1_handled 7 = .ok (.getfield 316, 3) := dk_180 1 60 (dk_at dksX1_handled_0 7 rfl rfl)
theorem dX1_handled_10 : decode cX1_handled 10 = .ok (.ireturn, 1) := dk_172 (dk_at dksX1_handled_0 10 rfl rfl)
abbrev cX1_lost : ByteArray := prog_1_method_52_code
def yX1_lost : MethodName := ⟨RX1, "lost", "()I"⟩
def dkwX1_lost_0 : List UInt8 := [42, 180, 0, 43, 180, 0, 148, 180, 1, 63, 172]
abbrev dktX1_lost_0 : List UInt8 := dkwX1_lost_0 ++ []
theorem dksX1_lost_0 : cX1_lost.data.toList.drop 0 = dktX1_lost_0 := by decide +kernel
theorem dX1_lost_0 : decode cX1_lost 0 = .ok (.aload_n 0, 1) := dk_42 (dk_at dksX1_lost_0 0 rfl rfl)
theorem dX1_lost_1 : decode cX1_lost 1 = .ok (.getfield 43, 3) := dk_180 0 43 (dk_at dksX1_lost_0 1 rfl rfl)
theorem dX1_lost_4 : decode cX1_lost 4 = .ok (.getfield 148, 3) := dk_180 0 148 (dk_at dksX1_lost_0 4 rfl rfl)
theorem dX1_lost_7 : decode cX1_lost 7 = .ok (.getfield 319, 3) := dk_180 1 63 (dk_at dksX1_lost_0 7 rfl rfl)
theorem dX1_lost_10 : decode cX1_lost 10 = .ok (.ireturn, 1) := dk_172 (dk_at dksX1_lost_0 10 rfl rfl)
abbrev cX1_put : ByteArray := prog_1_method_53_code
def yX1_put : MethodName := ⟨RX1, "put", "()I"⟩
def dkwX1_put_0 : List UInt8 := [42, 180, 0, 43, 180, 0, 148, 180, 1, 66, 172]
abbrev dktX1_put_0 : List UInt8 := dkwX1_put_0 ++ []
theorem dksX1_put_0 : cX1_put.data.toList.drop 0 = dktX1_put_0 := by decide +kernel
theorem dX1_put_0 : decode cX1_put 0 = .ok (.aload_n 0, 1) := dk_42 (dk_at dksX1_put_0 0 rfl rfl)
theorem dX1_put_1 : decode cX1_put 1 = .ok (.getfield 43, 3) := dk_180 0 43 (dk_at dksX1_put_0 1 rfl rfl)
theorem dX1_put_4 : decode cX1_put 4 = .ok (.getfield 148, 3) := dk_180 0 148 (dk_at dksX1_put_0 4 rfl rfl)
theorem dX1_put_7 : decode cX1_put 7 = .ok (.getfield 322, 3) := dk_180 1 66 (dk_at dksX1_put_0 7 rfl rfl)
theorem dX1_put_10 : decode cX1_put 10 = .ok (.ireturn, 1) := dk_172 (dk_at dksX1_put_0 10 rfl rfl)
abbrev cX1_failures : ByteArray := prog_1_method_54_code
def yX1_failures : MethodName := ⟨RX1, "failures", "()I"⟩
def dkwX1_failures_0 : List UInt8 := [42, 180, 0, 43, 180, 0, 148, 180, 1, 69, 172]
abbrev dktX1_failures_0 : List UInt8 := dkwX1_failures_0 ++ []
theorem dksX1_failures_0 : cX1_failures.data.toList.drop 0 = dktX1_failures_0 := by decide +kernel
theorem dX1_failures_0 : decode cX1_failures 0 = .ok (.aload_n 0, 1) := dk_42 (dk_at dksX1_failures_0 0 rfl rfl)
theorem dX1_failures_1 : decode cX1_failures 1 = .ok (.getfield 43, 3) := dk_180 0 43 (dk_at dksX1_failures_0 1 rfl rfl)
theorem dX1_failures_4 : decode cX1_failures 4 = .ok (.getfield 148, 3) := dk_180 0 148 (dk_at dksX1_failures_0 4 rfl rfl)
theorem dX1_failures_7 : decode cX1_failures 7 = .ok (.getfield 325, 3) := dk_180 1 69 (dk_at dksX1_failures_0 7 rfl rfl)
theorem dX1_failures_10 : decode cX1_failures 10 = .ok (.ireturn, 1) := dk_172 (dk_at dksX1_failures_0 10 rfl rfl)
abbrev cX1_writeRecord : ByteArray := prog_1_method_66_code
def yX1_writeRecord : MethodName := ⟨RX1, "writeRecord", "()I"⟩
def dkwX1_writeRecord_0 : List UInt8 := [42, 42, 180, 0, 43, 180, 1, 191, 182, 1, 168, 181, 0, 63, 42, 180, 0, 63, 182, 1, 190, 172]
abbrev dktX1_writeRecord_0 : List UInt8 := dkwX1_writeRecord_0 ++ []
theorem dksX1_writeRecord_0 : cX1_writeRecord.data.toList.drop 0 = dktX1_writeRecord_0 := by decide +kernel
theorem dX1_writeRecord_0 : decode cX1_writeRecord 0 = .ok (.aload_n 0, 1) := dk_42 (dk_at dksX1_writeRecord_0 0 rfl rfl)
theorem dX1_writeRecord_1 : decode cX1_writeRecord 1 = .ok (.aload_n 0, 1) := dk_42 (dk_at dksX1_writeRecord_0 1 rfl rfl)
theorem dX1_writeRecord_2 : decode cX1_writeRecord 2 = .ok (.getfield 43, 3) := dk_180 0 43 (dk_at dksX1_writeRecord_0 2 rfl rfl)
theorem dX1_writeRecord_5 : decode cX1_writeRecord 5 = .ok (.getfield 447, 3) := dk_180 1 191 (dk_at dksX1_writeRecord_0 5 rfl rfl)
theorem dX1_writeRecord_8 : decode cX1_writeRecord 8 = .ok (.invokevirtual 424, 3) := dk_182 1 168 (dk_at dksX1_writeRecord_0 8 rfl rfl)
theorem dX1_writeRecord_11 : decode cX1_writeRecord 11 = .ok (.putfield 63, 3) := dk_181 0 63 (dk_at dksX1_writeRecord_0 11 rfl rfl)
theorem dX1_writeRecord_14 : decode cX1_writeRecord 14 = .ok (.aload_n 0, 1) := dk_42 (dk_at dksX1_writeRecord_0 14 rfl rfl)
theorem dX1_writeRecord_15 : decode cX1_writeRecord 15 = .ok (.getfield 63, 3) := dk_180 0 63 (dk_at dksX1_writeRecord_0 15 rfl rfl)
theorem dX1_writeRecord_18 : decode cX1_writeRecord 18 = .ok (.invokevirtual 446, 3) := dk_182 1 190 (dk_at dksX1_writeRecord_0 18 rfl rfl)
theorem dX1_writeRecord_21 : decode cX1_writeRecord 21 = .ok (.ireturn, 1) := dk_172 (dk_at dksX1_writeRecord_0 21 rfl rfl)
abbrev cX1_undoCount : ByteArray := prog_1_method_73_code
def yX1_undoCount : MethodName := ⟨RX1, "undoCount", "()I"⟩
def dkwX1_undoCount_0 : List UInt8 := [42, 180, 0, 50, 182, 0, 71, 172]
abbrev dktX1_undoCount_0 : List UInt8 := dkwX1_undoCount_0 ++ []
theorem dksX1_undoCount_0 : cX1_undoCount.data.toList.drop 0 = dktX1_undoCount_0 := by decide +kernel
theorem dX1_undoCount_0 : decode cX1_undoCount 0 = .ok (.aload_n 0, 1) := dk_42 (dk_at dksX1_undoCount_0 0 rfl rfl)
theorem dX1_undoCount_1 : decode cX1_undoCount 1 = .ok (.getfield 50, 3) := dk_180 0 50 (dk_at dksX1_undoCount_0 1 rfl rfl)
theorem dX1_undoCount_4 : decode cX1_undoCount 4 = .ok (.invokevirtual 71, 3) := dk_182 0 71 (dk_at dksX1_undoCount_0 4 rfl rfl)
theorem dX1_undoCount_7 : decode cX1_undoCount 7 = .ok (.ireturn, 1) := dk_172 (dk_at dksX1_undoCount_0 7 rfl rfl)
abbrev cX1_saveSnapshot : ByteArray := prog_1_method_74_code
def yX1_saveSnapshot : MethodName := ⟨RX1, "saveSnapshot", "()I"⟩
def dkwX1_saveSnapshot_0 : List UInt8 := [42, 187, 0, 40, 89, 42, 180, 0, 43, 183, 0, 92, 181, 1, 216, 42, 180, 1, 216, 180, 1, 12, 172]
abbrev dktX1_saveSnapshot_0 : List UInt8 := dkwX1_saveSnapshot_0 ++ []
theorem dksX1_saveSnapshot_0 : cX1_saveSnapshot.data.toList.drop 0 = dktX1_saveSnapshot_0 := by decide +kernel
theorem dX1_saveSnapshot_0 : decode cX1_saveSnapshot 0 = .ok (.aload_n 0, 1) := dk_42 (dk_at dksX1_saveSnapshot_0 0 rfl rfl)
theorem dX1_saveSnapshot_1 : decode cX1_saveSnapshot 1 = .ok (.new 40, 3) := dk_187 0 40 (dk_at dksX1_saveSnapshot_0 1 rfl rfl)
theorem dX1_saveSnapshot_4 : decode cX1_saveSnapshot 4 = .ok (.dup, 1) := dk_89 (dk_at dksX1_saveSnapshot_0 4 rfl rfl)
theorem dX1_saveSnapshot_5 : decode cX1_saveSnapshot 5 = .ok (.aload_n 0, 1) := dk_42 (dk_at dksX1_saveSnapshot_0 5 rfl rfl)
theorem dX1_saveSnapshot_6 : decode cX1_saveSnapshot 6 = .ok (.getfield 43, 3) := dk_180 0 43 (dk_at dksX1_saveSnapshot_0 6 rfl rfl)
theorem dX1_saveSnapshot_9 : decode cX1_saveSnapshot 9 = .ok (.invokespecial 92, 3) := dk_183 0 92 (dk_at dksX1_saveSnapshot_0 9 rfl rfl)
theorem dX1_saveSnapshot_12 : decode cX1_saveSnapshot 12 = .ok (.putfield 472, 3) := dk_181 1 216 (dk_at dksX1_saveSnapshot_0 12 rfl rfl)
theorem dX1_saveSnapshot_15 : decode cX1_saveSnapshot 15 = .ok (.aload_n 0, 1) := dk_42 (dk_at dksX1_saveSnapshot_0 15 rfl rfl)
theorem dX1_saveSnapshot_16 : decode cX1_saveSnapshot 16 = .ok (.getfield 472, 3) := dk_180 1 216 (dk_at dksX1_saveSnapshot_0 16 rfl rfl)
theorem dX1_saveSnapshot_19 : decode cX1_saveSnapshot 19 = .ok (.getfield 268, 3) := dk_180 1 12 (dk_at dksX1_saveSnapshot_0 19 rfl rfl)
theorem dX1_saveSnapshot_22 : decode cX1_saveSnapshot 22 = .ok (.ireturn, 1) := dk_172 (dk_at dksX1_saveSnapshot_0 22 rfl rfl)
abbrev cX1_addActor : ByteArray := prog_1_method_14_code
def yX1_addActor : MethodName := ⟨RX1, "addActor", "(CI)I"⟩
def dkwX1_addActor_0 : List UInt8 := [42, 187, 0, 96, 89, 18, 116, 27, 28, 3, 3, 183, 0, 109, 182, 0, 112, 172]
abbrev dktX1_addActor_0 : List UInt8 := dkwX1_addActor_0 ++ []
theorem dksX1_addActor_0 : cX1_addActor.data.toList.drop 0 = dktX1_addActor_0 := by decide +kernel
theorem dX1_addActor_0 : decode cX1_addActor 0 = .ok (.aload_n 0, 1) := dk_42 (dk_at dksX1_addActor_0 0 rfl rfl)
theorem dX1_addActor_1 : decode cX1_addActor 1 = .ok (.new 96, 3) := dk_187 0 96 (dk_at dksX1_addActor_0 1 rfl rfl)
theorem dX1_addActor_4 : decode cX1_addActor 4 = .ok (.dup, 1) := dk_89 (dk_at dksX1_addActor_0 4 rfl rfl)
theorem dX1_addActor_5 : decode cX1_addActor 5 = .ok (.ldc 116, 2) := dk_18 116 (dk_at dksX1_addActor_0 5 rfl rfl)
theorem dX1_addActor_7 : decode cX1_addActor 7 = .ok (.iload_n 1, 1) := dk_27 (dk_at dksX1_addActor_0 7 rfl rfl)
theorem dX1_addActor_8 : decode cX1_addActor 8 = .ok (.iload_n 2, 1) := dk_28 (dk_at dksX1_addActor_0 8 rfl rfl)
theorem dX1_addActor_9 : decode cX1_addActor 9 = .ok (.iconst 0, 1) := dk_3 (dk_at dksX1_addActor_0 9 rfl rfl)
theorem dX1_addActor_10 : decode cX1_addActor 10 = .ok (.iconst 0, 1) := dk_3 (dk_at dksX1_addActor_0 10 rfl rfl)
theorem dX1_addActor_11 : decode cX1_addActor 11 = .ok (.invokespecial 109, 3) := dk_183 0 109 (dk_at dksX1_addActor_0 11 rfl rfl)
theorem dX1_addActor_14 : decode cX1_addActor 14 = .ok (.invokevirtual 112, 3) := dk_182 0 112 (dk_at dksX1_addActor_0 14 rfl rfl)
theorem dX1_addActor_17 : decode cX1_addActor 17 = .ok (.ireturn, 1) := dk_172 (dk_at dksX1_addActor_0 17 rfl rfl)
abbrev cX1_commit : ByteArray := prog_1_method_12_code
def yX1_commit : MethodName := ⟨RX1, "commit", "(LSpindleActors$Change;)I"⟩
def dkwX1_commit_1 : List UInt8 := [42, 45, 182, 0, 105, 191]
abbrev dktX1_commit_1 : List UInt8 := dkwX1_commit_1 ++ []
def dkwX1_commit_0 : List UInt8 := [187, 0, 40, 89, 42, 180, 0, 43, 183, 0, 92, 77, 42, 44, 43, 44, 182, 0, 95, 182, 0, 101, 172, 78]
abbrev dktX1_commit_0 : List UInt8 := dkwX1_commit_0 ++ dktX1_commit_1
theorem dksX1_commit_0 : cX1_commit.data.toList.drop 0 = dktX1_commit_0 := by decide +kernel
theorem dksX1_commit_1 : cX1_commit.data.toList.drop 24 = dktX1_commit_1 := dk_seg dksX1_commit_0 24 rfl rfl
theorem dX1_commit_0 : decode cX1_commit 0 = .ok (.new 40, 3) := dk_187 0 40 (dk_at dksX1_commit_0 0 rfl rfl)
theorem dX1_commit_3 : decode cX1_commit 3 = .ok (.dup, 1) := dk_89 (dk_at dksX1_commit_0 3 rfl rfl)
theorem dX1_commit_4 : decode cX1_commit 4 = .ok (.aload_n 0, 1) := dk_42 (dk_at dksX1_commit_0 4 rfl rfl)
theorem dX1_commit_5 : decode cX1_commit 5 = .ok (.getfield 43, 3) := dk_180 0 43 (dk_at dksX1_commit_0 5 rfl rfl)
theorem dX1_commit_8 : decode cX1_commit 8 = .ok (.invokespecial 92, 3) := dk_183 0 92 (dk_at dksX1_commit_0 8 rfl rfl)
theorem dX1_commit_11 : decode cX1_commit 11 = .ok (.astore_n 2, 1) := dk_77 (dk_at dksX1_commit_0 11 rfl rfl)
theorem dX1_commit_12 : decode cX1_commit 12 = .ok (.aload_n 0, 1) := dk_42 (dk_at dksX1_commit_0 12 rfl rfl)
theorem dX1_commit_13 : decode cX1_commit 13 = .ok (.aload_n 2, 1) := dk_44 (dk_at dksX1_commit_0 13 rfl rfl)
theorem dX1_commit_14 : decode cX1_commit 14 = .ok (.aload_n 1, 1) := dk_43 (dk_at dksX1_commit_0 14 rfl rfl)
theorem dX1_commit_15 : decode cX1_commit 15 = .ok (.aload_n 2, 1) := dk_44 (dk_at dksX1_commit_0 15 rfl rfl)
theorem dX1_commit_16 : decode cX1_commit 16 = .ok (.invokevirtual 95, 3) := dk_182 0 95 (dk_at dksX1_commit_0 16 rfl rfl)
theorem dX1_commit_19 : decode cX1_commit 19 = .ok (.invokevirtual 101, 3) := dk_182 0 101 (dk_at dksX1_commit_0 19 rfl rfl)
theorem dX1_commit_22 : decode cX1_commit 22 = .ok (.ireturn, 1) := dk_172 (dk_at dksX1_commit_0 22 rfl rfl)
theorem dX1_commit_23 : decode cX1_commit 23 = .ok (.astore_n 3, 1) := dk_78 (dk_at dksX1_commit_0 23 rfl rfl)
theorem dX1_commit_24 : decode cX1_commit 24 = .ok (.aload_n 0, 1) := dk_42 (dk_at dksX1_commit_1 0 rfl rfl)
theorem dX1_commit_25 : decode cX1_commit 25 = .ok (.aload_n 3, 1) := dk_45 (dk_at dksX1_commit_1 1 rfl rfl)
theorem dX1_commit_26 : decode cX1_commit 26 = .ok (.invokevirtual 105, 3) := dk_182 0 105 (dk_at dksX1_commit_1 2 rfl rfl)
theorem dX1_commit_29 : decode cX1_commit 29 = .ok (.athrow, 1) := dk_191 (dk_at dksX1_commit_1 5 rfl rfl)
abbrev cX1_requireSign : ByteArray := prog_1_method_4_code
def yX1_requireSign : MethodName := ⟨RX1, "requireSign", "(Ljava/lang/String;C)V"⟩
def dkwX1_requireSign_0 : List UInt8 := [42, 27, 182, 0, 17, 155, 0, 7, 4, 167, 0, 4, 3, 184, 0, 13, 177]
abbrev dktX1_requireSign_0 : List UInt8 := dkwX1_requireSign_0 ++ []
theorem dksX1_requireSign_0 : cX1_requireSign.data.toList.drop 0 = dktX1_requireSign_0 := by decide +kernel
theorem dX1_requireSign_0 : decode cX1_requireSign 0 = .ok (.aload_n 0, 1) := dk_42 (dk_at dksX1_requireSign_0 0 rfl rfl)
theorem dX1_requireSign_1 : decode cX1_requireSign 1 = .ok (.iload_n 1, 1) := dk_27 (dk_at dksX1_requireSign_0 1 rfl rfl)
theorem dX1_requireSign_2 : decode cX1_requireSign 2 = .ok (.invokevirtual 17, 3) := dk_182 0 17 (dk_at dksX1_requireSign_0 2 rfl rfl)
theorem dX1_requireSign_5 : decode cX1_requireSign 5 = .ok (.ifCond .lt 7, 3) := dk_155 0 7 (dk_at dksX1_requireSign_0 5 rfl rfl)
theorem dX1_requireSign_8 : decode cX1_requireSign 8 = .ok (.iconst 1, 1) := dk_4 (dk_at dksX1_requireSign_0 8 rfl rfl)
theorem dX1_requireSign_9 : decode cX1_requireSign 9 = .ok (.goto 4, 3) := dk_167 0 4 (dk_at dksX1_requireSign_0 9 rfl rfl)
theorem dX1_requireSign_12 : decode cX1_requireSign 12 = .ok (.iconst 0, 1) := dk_3 (dk_at dksX1_requireSign_0 12 rfl rfl)
theorem dX1_requireSign_13 : decode cX1_requireSign 13 = .ok (.invokestatic 13, 3) := dk_184 0 13 (dk_at dksX1_requireSign_0 13 rfl rfl)
theorem dX1_requireSign_16 : decode cX1_requireSign 16 = .ok (.return_, 1) := dk_177 (dk_at dksX1_requireSign_0 16 rfl rfl)
abbrev cX1_requireArgument : ByteArray := prog_1_method_2_code
def yX1_requireArgument : MethodName := ⟨RX1, "requireArgument", "(Z)V"⟩
def dkwX1_requireArgument_0 : List UInt8 := [26, 154, 0, 11, 187, 0, 3, 89, 183, 0, 5, 191, 177]
abbrev dktX1_requireArgument_0 : List UInt8 := dkwX1_requireArgument_0 ++ []
theorem dksX1_requireArgument_0 : cX1_requireArgument.data.toList.drop 0 = dktX1_requireArgument_0 := by decide +kernel
theorem dX1_requireArgument_0 : decode cX1_requireArgument 0 = .ok (.iload_n 0, 1) := dk_26 (dk_at dksX1_requireArgument_0 0 rfl rfl)
theorem dX1_requireArgument_1 : decode cX1_requireArgument 1 = .ok (.ifCond .ne 11, 3) := dk_154 0 11 (dk_at dksX1_requireArgument_0 1 rfl rfl)
theorem dX1_requireArgument_4 : decode cX1_requireArgument 4 = .ok (.new 3, 3) := dk_187 0 3 (dk_at dksX1_requireArgument_0 4 rfl rfl)
theorem dX1_requireArgument_7 : decode cX1_requireArgument 7 = .ok (.dup, 1) := dk_89 (dk_at dksX1_requireArgument_0 7 rfl rfl)
theorem dX1_requireArgument_8 : decode cX1_requireArgument 8 = .ok (.invokespecial 5, 3) := dk_183 0 5 (dk_at dksX1_requireArgument_0 8 rfl rfl)
theorem dX1_requireArgument_11 : decode cX1_requireArgument 11 = .ok (.athrow, 1) := dk_191 (dk_at dksX1_requireArgument_0 11 rfl rfl)
theorem dX1_requireArgument_12 : decode cX1_requireArgument 12 = .ok (.return_, 1) := dk_177 (dk_at dksX1_requireArgument_0 12 rfl rfl)
abbrev cX1_requireRange : ByteArray := prog_1_method_3_code
def yX1_requireRange : MethodName := ⟨RX1, "requireRange", "(III)V"⟩
def dkwX1_requireRange_0 : List UInt8 := [26, 27, 28, 184, 0, 9, 184, 0, 13, 177]
abbrev dktX1_requireRange_0 : List UInt8 := dkwX1_requireRange_0 ++ []
theorem dksX1_requireRange_0 : cX1_requireRange.data.toList.drop 0 = dktX1_requireRange_0 := by decide +kernel
theorem dX1_requireRange_0 : decode cX1_requireRange 0 = .ok (.iload_n 0, 1) := dk_26 (dk_at dksX1_requireRange_0 0 rfl rfl)
theorem dX1_requireRange_1 : decode cX1_requireRange 1 = .ok (.iload_n 1, 1) := dk_27 (dk_at dksX1_requireRange_0 1 rfl rfl)
theorem dX1_requireRange_2 : decode cX1_requireRange 2 = .ok (.iload_n 2, 1) := dk_28 (dk_at dksX1_requireRange_0 2 rfl rfl)
theorem dX1_requireRange_3 : decode cX1_requireRange 3 = .ok (.invokestatic 9, 3) := dk_184 0 9 (dk_at dksX1_requireRange_0 3 rfl rfl)
theorem dX1_requireRange_6 : decode cX1_requireRange 6 = .ok (.invokestatic 13, 3) := dk_184 0 13 (dk_at dksX1_requireRange_0 6 rfl rfl)
theorem dX1_requireRange_9 : decode cX1_requireRange 9 = .ok (.return_, 1) := dk_177 (dk_at dksX1_requireRange_0 9 rfl rfl)
abbrev cX1_inRange : ByteArray := prog_1_method_1_code
def yX1_inRange : MethodName := ⟨RX1, "inRange", "(III)Z"⟩
def dkwX1_inRange_0 : List UInt8 := [26, 27, 161, 0, 12, 26, 28, 163, 0, 7, 4, 167, 0, 4, 3, 172]
abbrev dktX1_inRange_0 : List UInt8 := dkwX1_inRange_0 ++ []
theorem dksX1_inRange_0 : cX1_inRange.data.toList.drop 0 = dktX1_inRange_0 := by decide +kernel
theorem dX1_inRange_0 : decode cX1_inRange 0 = .ok (.iload_n 0, 1) := dk_26 (dk_at dksX1_inRange_0 0 rfl rfl)
theorem dX1_inRange_1 : decode cX1_inRange 1 = .ok (.iload_n 1, 1) := dk_27 (dk_at dksX1_inRange_0 1 rfl rfl)
theorem dX1_inRange_2 : decode cX1_inRange 2 = .ok (.if_icmp .lt 12, 3) := dk_161 0 12 (dk_at dksX1_inRange_0 2 rfl rfl)
theorem dX1_inRange_5 : decode cX1_inRange 5 = .ok (.iload_n 0, 1) := dk_26 (dk_at dksX1_inRange_0 5 rfl rfl)
theorem dX1_inRange_6 : decode cX1_inRange 6 = .ok (.iload_n 2, 1) := dk_28 (dk_at dksX1_inRange_0 6 rfl rfl)
theorem dX1_inRange_7 : decode cX1_inRange 7 = .ok (.if_icmp .gt 7, 3) := dk_163 0 7 (dk_at dksX1_inRange_0 7 rfl rfl)
theorem dX1_inRange_10 : decode cX1_inRange 10 = .ok (.iconst 1, 1) := dk_4 (dk_at dksX1_inRange_0 10 rfl rfl)
theorem dX1_inRange_11 : decode cX1_inRange 11 = .ok (.goto 4, 3) := dk_167 0 4 (dk_at dksX1_inRange_0 11 rfl rfl)
theorem dX1_inRange_14 : decode cX1_inRange 14 = .ok (.iconst 0, 1) := dk_3 (dk_at dksX1_inRange_0 14 rfl rfl)
theorem dX1_inRange_15 : decode cX1_inRange 15 = .ok (.ireturn, 1) := dk_172 (dk_at dksX1_inRange_0 15 rfl rfl)
abbrev cX1_denyUnless : ByteArray := prog_1_method_8_code
def yX1_denyUnless : MethodName := ⟨RX1, "denyUnless", "(ZII)V"⟩
def dkwX1_denyUnless_0 : List UInt8 := [26, 154, 0, 13, 187, 0, 32, 89, 27, 28, 183, 0, 34, 191, 177]
abbrev dktX1_denyUnless_0 : List UInt8 := dkwX1_denyUnless_0 ++ []
theorem dksX1_denyUnless_0 : cX1_denyUnless.data.toList.drop 0 = dktX1_denyUnless_0 := by decide +kernel
theorem dX1_denyUnless_0 : decode cX1_denyUnless 0 = .ok (.iload_n 0, 1) := dk_26 (dk_at dksX1_denyUnless_0 0 rfl rfl)
theorem dX1_denyUnless_1 : decode cX1_denyUnless 1 = .ok (.ifCond .ne 13, 3) := dk_154 0 13 (dk_at dksX1_denyUnless_0 1 rfl rfl)
theorem dX1_denyUnless_4 : decode cX1_denyUnless 4 = .ok (.new 32, 3) := dk_187 0 32 (dk_at dksX1_denyUnless_0 4 rfl rfl)
theorem dX1_denyUnless_7 : decode cX1_denyUnless 7 = .ok (.dup, 1) := dk_89 (dk_at dksX1_denyUnless_0 7 rfl rfl)
theorem dX1_denyUnless_8 : decode cX1_denyUnless 8 = .ok (.iload_n 1, 1) := dk_27 (dk_at dksX1_denyUnless_0 8 rfl rfl)
theorem dX1_denyUnless_9 : decode cX1_denyUnless 9 = .ok (.iload_n 2, 1) := dk_28 (dk_at dksX1_denyUnless_0 9 rfl rfl)
theorem dX1_denyUnless_10 : decode cX1_denyUnless 10 = .ok (.invokespecial 34, 3) := dk_183 0 34 (dk_at dksX1_denyUnless_0 10 rfl rfl)
theorem dX1_denyUnless_13 : decode cX1_denyUnless 13 = .ok (.athrow, 1) := dk_191 (dk_at dksX1_denyUnless_0 13 rfl rfl)
theorem dX1_denyUnless_14 : decode cX1_denyUnless 14 = .ok (.return_, 1) := dk_177 (dk_at dksX1_denyUnless_0 14 rfl rfl)
abbrev cX1_requireIndex : ByteArray := prog_1_method_5_code
def yX1_requireIndex : MethodName := ⟨RX1, "requireIndex", "(II)V"⟩
def dkwX1_requireIndex_0 : List UInt8 := [26, 3, 27, 4, 100, 184, 0, 9, 154, 0, 11, 187, 0, 23, 89, 183, 0, 25, 191, 177]
abbrev dktX1_requireIndex_0 : List UInt8 := dkwX1_requireIndex_0 ++ []
theorem dksX1_requireIndex_0 : cX1_requireIndex.data.toList.drop 0 = dktX1_requireIndex_0 := by decide +kernel
theorem dX1_requireIndex_0 : decode cX1_requireIndex 0 = .ok (.iload_n 0, 1) := dk_26 (dk_at dksX1_requireIndex_0 0 rfl rfl)
theorem dX1_requireIndex_1 : decode cX1_requireIndex 1 = .ok (.iconst 0, 1) := dk_3 (dk_at dksX1_requireIndex_0 1 rfl rfl)
theorem dX1_requireIndex_2 : decode cX1_requireIndex 2 = .ok (.iload_n 1, 1) := dk_27 (dk_at dksX1_requireIndex_0 2 rfl rfl)
theorem dX1_requireIndex_3 : decode cX1_requireIndex 3 = .ok (.iconst 1, 1) := dk_4 (dk_at dksX1_requireIndex_0 3 rfl rfl)
theorem dX1_requireIndex_4 : decode cX1_requireIndex 4 = .ok (.isub, 1) := dk_100 (dk_at dksX1_requireIndex_0 4 rfl rfl)
theorem dX1_requireIndex_5 : decode cX1_requireIndex 5 = .ok (.invokestatic 9, 3) := dk_184 0 9 (dk_at dksX1_requireIndex_0 5 rfl rfl)
theorem dX1_requireIndex_8 : decode cX1_requireIndex 8 = .ok (.ifCond .ne 11, 3) := dk_154 0 11 (dk_at dksX1_requireIndex_0 8 rfl rfl)
theorem dX1_requireIndex_11 : decode cX1_requireIndex 11 = .ok (.new 23, 3) := dk_187 0 23 (dk_at dksX1_requireIndex_0 11 rfl rfl)
theorem dX1_requireIndex_14 : decode cX1_requireIndex 14 = .ok (.dup, 1) := dk_89 (dk_at dksX1_requireIndex_0 14 rfl rfl)
theorem dX1_requireIndex_15 : decode cX1_requireIndex 15 = .ok (.invokespecial 25, 3) := dk_183 0 25 (dk_at dksX1_requireIndex_0 15 rfl rfl)
theorem dX1_requireIndex_18 : decode cX1_requireIndex 18 = .ok (.athrow, 1) := dk_191 (dk_at dksX1_requireIndex_0 18 rfl rfl)
theorem dX1_requireIndex_19 : decode cX1_requireIndex 19 = .ok (.return_, 1) := dk_177 (dk_at dksX1_requireIndex_0 19 rfl rfl)
abbrev cX1_replaceBy : ByteArray := prog_1_method_10_code
def yX1_replaceBy : MethodName := ⟨RX1, "replaceBy", "(LSpindleActors$Stage;I)I"⟩
def dkwX1_replaceBy_1 : List UInt8 := [180, 0, 50, 42, 180, 0, 43, 182, 0, 79, 42, 43, 181, 0, 43, 28, 172]
abbrev dktX1_replaceBy_1 : List UInt8 := dkwX1_replaceBy_1 ++ []
def dkwX1_replaceBy_0 : List UInt8 := [42, 180, 0, 50, 182, 0, 71, 16, 8, 160, 0, 14, 42, 180, 0, 50, 182, 0, 75, 192, 0, 40, 78, 42]
abbrev dktX1_replaceBy_0 : List UInt8 := dkwX1_replaceBy_0 ++ dktX1_replaceBy_1
theorem dksX1_replaceBy_0 : cX1_replaceBy.data.toList.drop 0 = dktX1_replaceBy_0 := by decide +kernel
theorem dksX1_replaceBy_1 : cX1_replaceBy.data.toList.drop 24 = dktX1_replaceBy_1 := dk_seg dksX1_replaceBy_0 24 rfl rfl
theorem dX1_replaceBy_0 : decode cX1_replaceBy 0 = .ok (.aload_n 0, 1) := dk_42 (dk_at dksX1_replaceBy_0 0 rfl rfl)
theorem dX1_replaceBy_1 : decode cX1_replaceBy 1 = .ok (.getfield 50, 3) := dk_180 0 50 (dk_at dksX1_replaceBy_0 1 rfl rfl)
theorem dX1_replaceBy_4 : decode cX1_replaceBy 4 = .ok (.invokevirtual 71, 3) := dk_182 0 71 (dk_at dksX1_replaceBy_0 4 rfl rfl)
theorem dX1_replaceBy_7 : decode cX1_replaceBy 7 = .ok (.bipush 8, 2) := dk_16 8 (dk_at dksX1_replaceBy_0 7 rfl rfl)
theorem dX1_replaceBy_9 : decode cX1_replaceBy 9 = .ok (.if_icmp .ne 14, 3) := dk_160 0 14 (dk_at dksX1_replaceBy_0 9 rfl rfl)
theorem dX1_replaceBy_12 : decode cX1_replaceBy 12 = .ok (.aload_n 0, 1) := dk_42 (dk_at dksX1_replaceBy_0 12 rfl rfl)
theorem dX1_replaceBy_13 : decode cX1_replaceBy 13 = .ok (.getfield 50, 3) := dk_180 0 50 (dk_at dksX1_replaceBy_0 13 rfl rfl)
theorem dX1_replaceBy_16 : decode cX1_replaceBy 16 = .ok (.invokevirtual 75, 3) := dk_182 0 75 (dk_at dksX1_replaceBy_0 16 rfl rfl)
theorem dX1_replaceBy_19 : decode cX1_replaceBy 19 = .ok (.checkcast 40, 3) := dk_192 0 40 (dk_at dksX1_replaceBy_0 19 rfl rfl)
theorem dX1_replaceBy_22 : decode cX1_replaceBy 22 = .ok (.astore_n 3, 1) := dk_78 (dk_at dksX1_replaceBy_0 22 rfl rfl)
theorem dX1_replaceBy_23 : decode cX1_replaceBy 23 = .ok (.aload_n 0, 1) := dk_42 (dk_at dksX1_replaceBy_0 23 rfl rfl)
theorem dX1_replaceBy_24 : decode cX1_replaceBy 24 = .ok (.getfield 50, 3) := dk_180 0 50 (dk_at dksX1_replaceBy_1 0 rfl rfl)
theorem dX1_replaceBy_27 : decode cX1_replaceBy 27 = .ok (.aload_n 0, 1) := dk_42 (dk_at dksX1_replaceBy_1 3 rfl rfl)
theorem dX1_replaceBy_28 : decode cX1_replaceBy 28 = .ok (.getfield 43, 3) := dk_180 0 43 (dk_at dksX1_replaceBy_1 4 rfl rfl)
theorem dX1_replaceBy_31 : decode cX1_replaceBy 31 = .ok (.invokevirtual 79, 3) := dk_182 0 79 (dk_at dksX1_replaceBy_1 7 rfl rfl)
theorem dX1_replaceBy_34 : decode cX1_replaceBy 34 = .ok (.aload_n 0, 1) := dk_42 (dk_at dksX1_replaceBy_1 10 rfl rfl)
theorem dX1_replaceBy_35 : decode cX1_replaceBy 35 = .ok (.aload_n 1, 1) := dk_43 (dk_at dksX1_replaceBy_1 11 rfl rfl)
theorem dX1_replaceBy_36 : decode cX1_replaceBy 36 = .ok (.putfield 43, 3) := dk_181 0 43 (dk_at dksX1_replaceBy_1 12 rfl rfl)
theorem dX1_replaceBy_39 : decode cX1_replaceBy 39 = .ok (.iload_n 2, 1) := dk_28 (dk_at dksX1_replaceBy_1 15 rfl rfl)
theorem dX1_replaceBy_40 : decode cX1_replaceBy 40 = .ok (.ireturn, 1) := dk_172 (dk_at dksX1_replaceBy_1 16 rfl rfl)
abbrev cX1_deny : ByteArray := prog_1_method_11_code
def yX1_deny : MethodName := ⟨RX1, "deny", "(LSpindleActors$Denial;)Ljava/lang/UnsupportedOperationException;"⟩
def dkwX1_deny_0 : List UInt8 := [42, 43, 181, 0, 83, 187, 0, 87, 89, 1, 43, 183, 0, 89, 176]
abbrev dktX1_deny_0 : List UInt8 := dkwX1_deny_0 ++ []
theorem dksX1_deny_0 : cX1_deny.data.toList.drop 0 = dktX1_deny_0 := by decide +kernel
theorem dX1_deny_0 : decode cX1_deny 0 = .ok (.aload_n 0, 1) := dk_42 (dk_at dksX1_deny_0 0 rfl rfl)
theorem dX1_deny_1 : decode cX1_deny 1 = .ok (.aload_n 1, 1) := dk_43 (dk_at dksX1_deny_0 1 rfl rfl)
theorem dX1_deny_2 : decode cX1_deny 2 = .ok (.putfield 83, 3) := dk_181 0 83 (dk_at dksX1_deny_0 2 rfl rfl)
theorem dX1_deny_5 : decode cX1_deny 5 = .ok (.new 87, 3) := dk_187 0 87 (dk_at dksX1_deny_0 5 rfl rfl)
theorem dX1_deny_8 : decode cX1_deny 8 = .ok (.dup, 1) := dk_89 (dk_at dksX1_deny_0 8 rfl rfl)
theorem dX1_deny_9 : decode cX1_deny 9 = .ok (.aconst_null, 1) := dk_1 (dk_at dksX1_deny_0 9 rfl rfl)
theorem dX1_deny_10 : decode cX1_deny 10 = .ok (.aload_n 1, 1) := dk_43 (dk_at dksX1_deny_0 10 rfl rfl)
theorem dX1_deny_11 : decode cX1_deny 11 = .ok (.invokespecial 89, 3) := dk_183 0 89 (dk_at dksX1_deny_0 11 rfl rfl)
theorem dX1_deny_14 : decode cX1_deny 14 = .ok (.areturn, 1) := dk_176 (dk_at dksX1_deny_0 14 rfl rfl)
abbrev cX1_setTarget : ByteArray := prog_1_method_15_code
def yX1_setTarget : MethodName := ⟨RX1, "setTarget", "(II)I"⟩
def dkwX1_setTarget_0 : List UInt8 := [42, 18, 118, 27, 28, 182, 0, 120, 172]
abbrev dktX1_setTarget_0 : List UInt8 := dkwX1_setTarget_0 ++ []
theorem dksX1_setTarget_0 : cX1_setTarget.data.toList.drop 0 = dktX1_setTarget_0 := by decide +kernel
theorem dX1_setTarget_0 : decode cX1_setTarget 0 = .ok (.aload_n 0, 1) := dk_42 (dk_at dksX1_setTarget_0 0 rfl rfl)
theorem dX1_setTarget_1 : decode cX1_setTarget 1 = .ok (.ldc 118, 2) := dk_18 118 (dk_at dksX1_setTarget_0 1 rfl rfl)
theorem dX1_setTarget_3 : decode cX1_setTarget 3 = .ok (.iload_n 1, 1) := dk_27 (dk_at dksX1_setTarget_0 3 rfl rfl)
theorem dX1_setTarget_4 : decode cX1_setTarget 4 = .ok (.iload_n 2, 1) := dk_28 (dk_at dksX1_setTarget_0 4 rfl rfl)
theorem dX1_setTarget_5 : decode cX1_setTarget 5 = .ok (.invokevirtual 120, 3) := dk_182 0 120 (dk_at dksX1_setTarget_0 5 rfl rfl)
theorem dX1_setTarget_8 : decode cX1_setTarget 8 = .ok (.ireturn, 1) := dk_172 (dk_at dksX1_setTarget_0 8 rfl rfl)
abbrev cX1_commit_2 : ByteArray := prog_1_method_13_code
def yX1_commit_2 : MethodName := ⟨RX1, "commit", "(Ljava/lang/String;II)I"⟩
def dkwX1_commit_2_0 : List UInt8 := [42, 187, 0, 96, 89, 43, 16, 32, 28, 29, 3, 183, 0, 109, 182, 0, 112, 172]
abbrev dktX1_commit_2_0 : List UInt8 := dkwX1_commit_2_0 ++ []
theorem dksX1_commit_2_0 : cX1_commit_2.data.toList.drop 0 = dktX1_commit_2_0 := by decide +kernel
theorem dX1_commit_2_0 : decode cX1_commit_2 0 = .ok (.aload_n 0, 1) := dk_42 (dk_at dksX1_commit_2_0 0 rfl rfl)
theorem dX1_commit_2_1 : decode cX1_commit_2 1 = .ok (.new 96, 3) := dk_187 0 96 (dk_at dksX1_commit_2_0 1 rfl rfl)
theorem dX1_commit_2_4 : decode cX1_commit_2 4 = .ok (.dup, 1) := dk_89 (dk_at dksX1_commit_2_0 4 rfl rfl)
theorem dX1_commit_2_5 : decode cX1_commit_2 5 = .ok (.aload_n 1, 1) := dk_43 (dk_at dksX1_commit_2_0 5 rfl rfl)
theorem dX1_commit_2_6 : decode cX1_commit_2 6 = .ok (.bipush 32, 2) := dk_16 32 (dk_at dksX1_commit_2_0 6 rfl rfl)
theorem dX1_commit_2_8 : decode cX1_commit_2 8 = .ok (.iload_n 2, 1) := dk_28 (dk_at dksX1_commit_2_0 8 rfl rfl)
theorem dX1_commit_2_9 : decode cX1_commit_2 9 = .ok (.iload_n 3, 1) := dk_29 (dk_at dksX1_commit_2_0 9 rfl rfl)
theorem dX1_commit_2_10 : decode cX1_commit_2 10 = .ok (.iconst 0, 1) := dk_3 (dk_at dksX1_commit_2_0 10 rfl rfl)
theorem dX1_commit_2_11 : decode cX1_commit_2 11 = .ok (.invokespecial 109, 3) := dk_183 0 109 (dk_at dksX1_commit_2_0 11 rfl rfl)
theorem dX1_commit_2_14 : decode cX1_commit_2 14 = .ok (.invokevirtual 112, 3) := dk_182 0 112 (dk_at dksX1_commit_2_0 14 rfl rfl)
theorem dX1_commit_2_17 : decode cX1_commit_2 17 = .ok (.ireturn, 1) := dk_172 (dk_at dksX1_commit_2_0 17 rfl rfl)
abbrev cX1_setSupervisor : ByteArray := prog_1_method_16_code
def yX1_setSupervisor : MethodName := ⟨RX1, "setSupervisor", "(II)I"⟩
def dkwX1_setSupervisor_0 : List UInt8 := [42, 18, 123, 27, 28, 182, 0, 120, 172]
abbrev dktX1_setSupervisor_0 : List UInt8 := dkwX1_setSupervisor_0 ++ []
theorem dksX1_setSupervisor_0 : cX1_setSupervisor.data.toList.drop 0 = dktX1_setSupervisor_0 := by decide +kernel
theorem dX1_setSupervisor_0 : decode cX1_setSupervisor 0 = .ok (.aload_n 0, 1) := dk_42 (dk_at dksX1_setSupervisor_0 0 rfl rfl)
theorem dX1_setSupervisor_1 : decode cX1_setSupervisor 1 = .ok (.ldc 123, 2) := dk_18 123 (dk_at dksX1_setSupervisor_0 1 rfl rfl)
theorem dX1_setSupervisor_3 : decode cX1_setSupervisor 3 = .ok (.iload_n 1, 1) := dk_27 (dk_at dksX1_setSupervisor_0 3 rfl rfl)
theorem dX1_setSupervisor_4 : decode cX1_setSupervisor 4 = .ok (.iload_n 2, 1) := dk_28 (dk_at dksX1_setSupervisor_0 4 rfl rfl)
theorem dX1_setSupervisor_5 : decode cX1_setSupervisor 5 = .ok (.invokevirtual 120, 3) := dk_182 0 120 (dk_at dksX1_setSupervisor_0 5 rfl rfl)
theorem dX1_setSupervisor_8 : decode cX1_setSupervisor 8 = .ok (.ireturn, 1) := dk_172 (dk_at dksX1_setSupervisor_0 8 rfl rfl)
abbrev cX1_setStrategy : ByteArray := prog_1_method_17_code
def yX1_setStrategy : MethodName := ⟨RX1, "setStrategy", "(IC)C"⟩
def dkwX1_setStrategy_0 : List UInt8 := [42, 187, 0, 96, 89, 18, 125, 28, 27, 3, 3, 183, 0, 109, 182, 0, 112, 146, 172]
abbrev dktX1_setStrategy_0 : List UInt8 := dkwX1_setStrategy_0 ++ []
theorem dksX1_setStrategy_0 : cX1_setStrategy.data.toList.drop 0 = dktX1_setStrategy_0 := by decide +kernel
theorem dX1_setStrategy_0 : decode cX1_setStrategy 0 = .ok (.aload_n 0, 1) := dk_42 (dk_at dksX1_setStrategy_0 0 rfl rfl)
theorem dX1_setStrategy_1 : decode cX1_setStrategy 1 = .ok (.new 96, 3) := dk_187 0 96 (dk_at dksX1_setStrategy_0 1 rfl rfl)
theorem dX1_setStrategy_4 : decode cX1_setStrategy 4 = .ok (.dup, 1) := dk_89 (dk_at dksX1_setStrategy_0 4 rfl rfl)
theorem dX1_setStrategy_5 : decode cX1_setStrategy 5 = .ok (.ldc 125, 2) := dk_18 125 (dk_at dksX1_setStrategy_0 5 rfl rfl)
theorem dX1_setStrategy_7 : decode cX1_setStrategy 7 = .ok (.iload_n 2, 1) := dk_28 (dk_at dksX1_setStrategy_0 7 rfl rfl)
theorem dX1_setStrategy_8 : decode cX1_setStrategy 8 = .ok (.iload_n 1, 1) := dk_27 (dk_at dksX1_setStrategy_0 8 rfl rfl)
theorem dX1_setStrategy_9 : decode cX1_setStrategy 9 = .ok (.iconst 0, 1) := dk_3 (dk_at dksX1_setStrategy_0 9 rfl rfl)
theorem dX1_setStrategy_10 : decode cX1_setStrategy 10 = .ok (.iconst 0, 1) := dk_3 (dk_at dksX1_setStrategy_0 10 rfl rfl)
theorem dX1_setStrategy_11 : decode cX1_setStrategy 11 = .ok (.invokespecial 109, 3) := dk_183 0 109 (dk_at dksX1_setStrategy_0 11 rfl rfl)
theorem dX1_setStrategy_14 : decode cX1_setStrategy 14 = .ok (.invokevirtual 112, 3) := dk_182 0 112 (dk_at dksX1_setStrategy_0 14 rfl rfl)
theorem dX1_setStrategy_17 : decode cX1_setStrategy 17 = .ok (.i2c, 1) := dk_146 (dk_at dksX1_setStrategy_0 17 rfl rfl)
theorem dX1_setStrategy_18 : decode cX1_setStrategy 18 = .ok (.ireturn, 1) := dk_172 (dk_at dksX1_setStrategy_0 18 rfl rfl)
abbrev cX1_setPriority : ByteArray := prog_1_method_18_code
def yX1_setPriority : MethodName := ⟨RX1, "setPriority", "(II)I"⟩
def dkwX1_setPriority_0 : List UInt8 := [42, 18, 127, 27, 28, 182, 0, 120, 172]
abbrev dktX1_setPriority_0 : List UInt8 := dkwX1_setPriority_0 ++ []
theorem dksX1_setPriority_0 : cX1_setPriority.data.toList.drop 0 = dktX1_setPriority_0 := by decide +kernel
theorem dX1_setPriority_0 : decode cX1_setPriority 0 = .ok (.aload_n 0, 1) := dk_42 (dk_at dksX1_setPriority_0 0 rfl rfl)
theorem dX1_setPriority_1 : decode cX1_setPriority 1 = .ok (.ldc 127, 2) := dk_18 127 (dk_at dksX1_setPriority_0 1 rfl rfl)
theorem dX1_setPriority_3 : decode cX1_setPriority 3 = .ok (.iload_n 1, 1) := dk_27 (dk_at dksX1_setPriority_0 3 rfl rfl)
theorem dX1_setPriority_4 : decode cX1_setPriority 4 = .ok (.iload_n 2, 1) := dk_28 (dk_at dksX1_setPriority_0 4 rfl rfl)
theorem dX1_setPriority_5 : decode cX1_setPriority 5 = .ok (.invokevirtual 120, 3) := dk_182 0 120 (dk_at dksX1_setPriority_0 5 rfl rfl)
theorem dX1_setPriority_8 : decode cX1_setPriority 8 = .ok (.ireturn, 1) := dk_172 (dk_at dksX1_setPriority_0 8 rfl rfl)
abbrev cX1_start : ByteArray := prog_1_method_19_code
def yX1_start : MethodName := ⟨RX1, "start", "(I)I"⟩
def dkwX1_start_0 : List UInt8 := [42, 18, 129, 27, 3, 182, 0, 120, 172]
abbrev dktX1_start_0 : List UInt8 := dkwX1_start_0 ++ []
theorem dksX1_start_0 : cX1_start.data.toList.drop 0 = dktX1_start_0 := by decide +kernel
theorem dX1_start_0 : decode cX1_start 0 = .ok (.aload_n 0, 1) := dk_42 (dk_at dksX1_start_0 0 rfl rfl)
theorem dX1_start_1 : decode cX1_start 1 = .ok (.ldc 129, 2) := dk_18 129 (dk_at dksX1_start_0 1 rfl rfl)
theorem dX1_start_3 : decode cX1_start 3 = .ok (.iload_n 1, 1) := dk_27 (dk_at dksX1_start_0 3 rfl rfl)
theorem dX1_start_4 : decode cX1_start 4 = .ok (.iconst 0, 1) := dk_3 (dk_at dksX1_start_0 4 rfl rfl)
theorem dX1_start_5 : decode cX1_start 5 = .ok (.invokevirtual 120, 3) := dk_182 0 120 (dk_at dksX1_start_0 5 rfl rfl)
theorem dX1_start_8 : decode cX1_start 8 = .ok (.ireturn, 1) := dk_172 (dk_at dksX1_start_0 8 rfl rfl)
abbrev cX1_stop : ByteArray := prog_1_method_20_code
def yX1_stop : MethodName := ⟨RX1, "stop", "(I)I"⟩
def dkwX1_stop_0 : List UInt8 := [42, 18, 131, 27, 3, 182, 0, 120, 172]
abbrev dktX1_stop_0 : List UInt8 := dkwX1_stop_0 ++ []
theorem dksX1_stop_0 : cX1_stop.data.toList.drop 0 = dktX1_stop_0 := by decide +kernel
theorem dX1_stop_0 : decode cX1_stop 0 = .ok (.aload_n 0, 1) := dk_42 (dk_at dksX1_stop_0 0 rfl rfl)
theorem dX1_stop_1 : decode cX1_stop 1 = .ok (.ldc 131, 2) := dk_18 131 (dk_at dksX1_stop_0 1 rfl rfl)
theorem dX1_stop_3 : decode cX1_stop 3 = .ok (.iload_n 1, 1) := dk_27 (dk_at dksX1_stop_0 3 rfl rfl)
theorem dX1_stop_4 : decode cX1_stop 4 = .ok (.iconst 0, 1) := dk_3 (dk_at dksX1_stop_0 4 rfl rfl)
theorem dX1_stop_5 : decode cX1_stop 5 = .ok (.invokevirtual 120, 3) := dk_182 0 120 (dk_at dksX1_stop_0 5 rfl rfl)
theorem dX1_stop_8 : decode cX1_stop 8 = .ok (.ireturn, 1) := dk_172 (dk_at dksX1_stop_0 8 rfl rfl)
abbrev cX1_isStopped : ByteArray := prog_1_method_23_code
def yX1_isStopped : MethodName := ⟨RX1, "isStopped", "(I)Z"⟩
def dkwX1_isStopped_0 : List UInt8 := [42, 180, 0, 43, 180, 0, 133, 27, 182, 0, 144, 42, 180, 0, 43, 180, 0, 148, 180, 0, 152, 27, 51, 172]
abbrev dktX1_isStopped_0 : List UInt8 := dkwX1_isStopped_0 ++ []
theorem dksX1_isStopped_0 : cX1_isStopped.data.toList.drop 0 = dktX1_isStopped_0 := by decide +kernel
theorem dX1_isStopped_0 : decode cX1_isStopped 0 = .ok (.aload_n 0, 1) := dk_42 (dk_at dksX1_isStopped_0 0 rfl rfl)
theorem dX1_isStopped_1 : decode cX1_isStopped 1 = .ok (.getfield 43, 3) := dk_180 0 43 (dk_at dksX1_isStopped_0 1 rfl rfl)
theorem dX1_isStopped_4 : decode cX1_isStopped 4 = .ok (.getfield 133, 3) := dk_180 0 133 (dk_at dksX1_isStopped_0 4 rfl rfl)
theorem dX1_isStopped_7 : decode cX1_isStopped 7 = .ok (.iload_n 1, 1) := dk_27 (dk_at dksX1_isStopped_0 7 rfl rfl)
theorem dX1_isStopped_8 : decode cX1_isStopped 8 = .ok (.invokevirtual 144, 3) := dk_182 0 144 (dk_at dksX1_isStopped_0 8 rfl rfl)
theorem dX1_isStopped_11 : decode cX1_isStopped 11 = .ok (.aload_n 0, 1) := dk_42 (dk_at dksX1_isStopped_0 11 rfl rfl)
theorem dX1_isStopped_12 : decode cX1_isStopped 12 = .ok (.getfield 43, 3) := dk_180 0 43 (dk_at dksX1_isStopped_0 12 rfl rfl)
theorem dX1_isStopped_15 : decode cX1_isStopped 15 = .ok (.getfield 148, 3) := dk_180 0 148 (dk_at dksX1_isStopped_0 15 rfl rfl)
theorem dX1_isStopped_18 : decode cX1_isStopped 18 = .ok (.getfield 152, 3) := dk_180 0 152 (dk_at dksX1_isStopped_0 18 rfl rfl)
theorem dX1_isStopped_21 : decode cX1_isStopped 21 = .ok (.iload_n 1, 1) := dk_27 (dk_at dksX1_isStopped_0 21 rfl rfl)
theorem dX1_isStopped_22 : decode cX1_isStopped 22 = .ok (.baload, 1) := dk_51 (dk_at dksX1_isStopped_0 22 rfl rfl)
theorem dX1_isStopped_23 : decode cX1_isStopped 23 = .ok (.ireturn, 1) := dk_172 (dk_at dksX1_isStopped_0 23 rfl rfl)
abbrev cX1_kind : ByteArray := prog_1_method_24_code
def yX1_kind : MethodName := ⟨RX1, "kind", "(I)C"⟩
def dkwX1_kind_0 : List UInt8 := [42, 180, 0, 43, 180, 0, 133, 27, 182, 0, 144, 42, 180, 0, 43, 180, 0, 133, 180, 0, 158, 27, 52, 172]
abbrev dktX1_kind_0 : List UInt8 := dkwX1_kind_0 ++ []
theorem dksX1_kind_0 : cX1_kind.data.toList.drop 0 = dktX1_kind_0 := by decide +kernel
theorem dX1_kind_0 : decode cX1_kind 0 = .ok (.aload_n 0, 1) := dk_42 (dk_at dksX1_kind_0 0 rfl rfl)
theorem dX1_kind_1 : decode cX1_kind 1 = .ok (.getfield 43, 3) := dk_180 0 43 (dk_at dksX1_kind_0 1 rfl rfl)
theorem dX1_kind_4 : decode cX1_kind 4 = .ok (.getfield 133, 3) := dk_180 0 133 (dk_at dksX1_kind_0 4 rfl rfl)
theorem dX1_kind_7 : decode cX1_kind 7 = .ok (.iload_n 1, 1) := dk_27 (dk_at dksX1_kind_0 7 rfl rfl)
theorem dX1_kind_8 : decode cX1_kind 8 = .ok (.invokevirtual 144, 3) := dk_182 0 144 (dk_at dksX1_kind_0 8 rfl rfl)
theorem dX1_kind_11 : decode cX1_kind 11 = .ok (.aload_n 0, 1) := dk_42 (dk_at dksX1_kind_0 11 rfl rfl)
theorem dX1_kind_12 : decode cX1_kind 12 = .ok (.getfield 43, 3) := dk_180 0 43 (dk_at dksX1_kind_0 12 rfl rfl)
theorem dX1_kind_15 : decode cX1_kind 15 = .ok (.getfield 133, 3) := dk_180 0 133 (dk_at dksX1_kind_0 15 rfl rfl)
theorem dX1_kind_18 : decode cX1_kind 18 = .ok (.getfield 158, 3) := dk_180 0 158 (dk_at dksX1_kind_0 18 rfl rfl)
theorem dX1_kind_21 : decode cX1_kind 21 = .ok (.iload_n 1, 1) := dk_27 (dk_at dksX1_kind_0 21 rfl rfl)
theorem dX1_kind_22 : decode cX1_kind 22 = .ok (.caload, 1) := dk_52 (dk_at dksX1_kind_0 22 rfl rfl)
theorem dX1_kind_23 : decode cX1_kind 23 = .ok (.ireturn, 1) := dk_172 (dk_at dksX1_kind_0 23 rfl rfl)
abbrev cX1_sum : ByteArray := prog_1_method_25_code
def yX1_sum : MethodName := ⟨RX1, "sum", "(I)I"⟩
def dkwX1_sum_0 : List UInt8 := [42, 180, 0, 43, 180, 0, 133, 27, 182, 0, 144, 42, 180, 0, 43, 180, 0, 148, 180, 0, 162, 27, 46, 172]
abbrev dktX1_sum_0 : List UInt8 := dkwX1_sum_0 ++ []
theorem dksX1_sum_0 : cX1_sum.data.toList.drop 0 = dktX1_sum_0 := by decide +kernel
theorem dX1_sum_0 : decode cX1_sum 0 = .ok (.aload_n 0, 1) := dk_42 (dk_at dksX1_sum_0 0 rfl rfl)
theorem dX1_sum_1 : decode cX1_sum 1 = .ok (.getfield 43, 3) := dk_180 0 43 (dk_at dksX1_sum_0 1 rfl rfl)
theorem dX1_sum_4 : decode cX1_sum 4 = .ok (.getfield 133, 3) := dk_180 0 133 (dk_at dksX1_sum_0 4 rfl rfl)
theorem dX1_sum_7 : decode cX1_sum 7 = .ok (.iload_n 1, 1) := dk_27 (dk_at dksX1_sum_0 7 rfl rfl)
theorem dX1_sum_8 : decode cX1_sum 8 = .ok (.invokevirtual 144, 3) := dk_182 0 144 (dk_at dksX1_sum_0 8 rfl rfl)
theorem dX1_sum_11 : decode cX1_sum 11 = .ok (.aload_n 0, 1) := dk_42 (dk_at dksX1_sum_0 11 rfl rfl)
theorem dX1_sum_12 : decode cX1_sum 12 = .ok (.getfield 43, 3) := dk_180 0 43 (dk_at dksX1_sum_0 12 rfl rfl)
theorem dX1_sum_15 : decode cX1_sum 15 = .ok (.getfield 148, 3) := dk_180 0 148 (dk_at dksX1_sum_0 15 rfl rfl)
theorem dX1_sum_18 : decode cX1_sum 18 = .ok (.getfield 162, 3) := dk_180 0 162 (dk_at dksX1_sum_0 18 rfl rfl)
theorem dX1_sum_21 : decode cX1_sum 21 = .ok (.iload_n 1, 1) := dk_27 (dk_at dksX1_sum_0 21 rfl rfl)
theorem dX1_sum_22 : decode cX1_sum 22 = .ok (.iaload, 1) := dk_46 (dk_at dksX1_sum_0 22 rfl rfl)
theorem dX1_sum_23 : decode cX1_sum 23 = .ok (.ireturn, 1) := dk_172 (dk_at dksX1_sum_0 23 rfl rfl)
abbrev cX1_supervisor : ByteArray := prog_1_method_26_code
def yX1_supervisor : MethodName := ⟨RX1, "supervisor", "(I)I"⟩
def dkwX1_supervisor_1 : List UInt8 := [28, 2, 159, 0, 7, 4, 167, 0, 4, 3, 184, 0, 169, 28, 172]
abbrev dktX1_supervisor_1 : List UInt8 := dkwX1_supervisor_1 ++ []
def dkwX1_supervisor_0 : List UInt8 := [42, 180, 0, 43, 180, 0, 133, 27, 182, 0, 144, 42, 180, 0, 43, 180, 0, 133, 180, 0, 166, 27, 46, 61]
abbrev dktX1_supervisor_0 : List UInt8 := dkwX1_supervisor_0 ++ dktX1_supervisor_1
theorem dksX1_supervisor_0 : cX1_supervisor.data.toList.drop 0 = dktX1_supervisor_0 := by decide +kernel
theorem dksX1_supervisor_1 : cX1_supervisor.data.toList.drop 24 = dktX1_supervisor_1 := dk_seg dksX1_supervisor_0 24 rfl rfl
theorem dX1_supervisor_0 : decode cX1_supervisor 0 = .ok (.aload_n 0, 1) := dk_42 (dk_at dksX1_supervisor_0 0 rfl rfl)
theorem dX1_supervisor_1 : decode cX1_supervisor 1 = .ok (.getfield 43, 3) := dk_180 0 43 (dk_at dksX1_supervisor_0 1 rfl rfl)
theorem dX1_supervisor_4 : decode cX1_supervisor 4 = .ok (.getfield 133, 3) := dk_180 0 133 (dk_at dksX1_supervisor_0 4 rfl rfl)
theorem dX1_supervisor_7 : decode cX1_supervisor 7 = .ok (.iload_n 1, 1) := dk_27 (dk_at dksX1_supervisor_0 7 rfl rfl)
theorem dX1_supervisor_8 : decode cX1_supervisor 8 = .ok (.invokevirtual 144, 3) := dk_182 0 144 (dk_at dksX1_supervisor_0 8 rfl rfl)
theorem dX1_supervisor_11 : decode cX1_supervisor 11 = .ok (.aload_n 0, 1) := dk_42 (dk_at dksX1_supervisor_0 11 rfl rfl)
theorem dX1_supervisor_12 : decode cX1_supervisor 12 = .ok (.getfield 43, 3) := dk_180 0 43 (dk_at dksX1_supervisor_0 12 rfl rfl)
theorem dX1_supervisor_15 : decode cX1_supervisor 15 = .ok (.getfield 133, 3) := dk_180 0 133 (dk_at dksX1_supervisor_0 15 rfl rfl)
theorem dX1_supervisor_18 : decode cX1_supervisor 18 = .ok (.getfield 166, 3) := dk_180 0 166 (dk_at dksX1_supervisor_0 18 rfl rfl)
theorem dX1_supervisor_21 : decode cX1_supervisor 21 = .ok (.iload_n 1, 1) := dk_27 (dk_at dksX1_supervisor_0 21 rfl rfl)
theorem dX1_supervisor_22 : decode cX1_supervisor 22 = .ok (.iaload, 1) := dk_46 (dk_at dksX1_supervisor_0 22 rfl rfl)
theorem dX1_supervisor_23 : decode cX1_supervisor 23 = .ok (.istore_n 2, 1) := dk_61 (dk_at dksX1_supervisor_0 23 rfl rfl)
theorem dX1_supervisor_24 : decode cX1_supervisor 24 = .ok (.iload_n 2, 1) := dk_28 (dk_at dksX1_supervisor_1 0 rfl rfl)
theorem dX1_supervisor_25 : decode cX1_supervisor 25 = .ok (.iconst (-1), 1) := dk_2 (dk_at dksX1_supervisor_1 1 rfl rfl)
theorem dX1_supervisor_26 : decode cX1_supervisor 26 = .ok (.if_icmp .eq 7, 3) := dk_159 0 7 (dk_at dksX1_supervisor_1 2 rfl rfl)
theorem dX1_supervisor_29 : decode cX1_supervisor 29 = .ok (.iconst 1, 1) := dk_4 (dk_at dksX1_supervisor_1 5 rfl rfl)
theorem dX1_supervisor_30 : decode cX1_supervisor 30 = .ok (.goto 4, 3) := dk_167 0 4 (dk_at dksX1_supervisor_1 6 rfl rfl)
theorem dX1_supervisor_33 : decode cX1_supervisor 33 = .ok (.iconst 0, 1) := dk_3 (dk_at dksX1_supervisor_1 9 rfl rfl)
theorem dX1_supervisor_34 : decode cX1_supervisor 34 = .ok (.invokestatic 169, 3) := dk_184 0 169 (dk_at dksX1_supervisor_1 10 rfl rfl)
theorem dX1_supervisor_37 : decode cX1_supervisor 37 = .ok (.iload_n 2, 1) := dk_28 (dk_at dksX1_supervisor_1 13 rfl rfl)
theorem dX1_supervisor_38 : decode cX1_supervisor 38 = .ok (.ireturn, 1) := dk_172 (dk_at dksX1_supervisor_1 14 rfl rfl)
abbrev cX1_requireElement : ByteArray := prog_1_method_6_code
def yX1_requireElement : MethodName := ⟨RX1, "requireElement", "(Z)V"⟩
def dkwX1_requireElement_0 : List UInt8 := [26, 154, 0, 11, 187, 0, 26, 89, 183, 0, 28, 191, 177]
abbrev dktX1_requireElement_0 : List UInt8 := dkwX1_requireElement_0 ++ []
theorem dksX1_requireElement_0 : cX1_requireElement.data.toList.drop 0 = dktX1_requireElement_0 := by decide +kernel
theorem dX1_requireElement_0 : decode cX1_requireElement 0 = .ok (.iload_n 0, 1) := dk_26 (dk_at dksX1_requireElement_0 0 rfl rfl)
theorem dX1_requireElement_1 : decode cX1_requireElement 1 = .ok (.ifCond .ne 11, 3) := dk_154 0 11 (dk_at dksX1_requireElement_0 1 rfl rfl)
theorem dX1_requireElement_4 : decode cX1_requireElement 4 = .ok (.new 26, 3) := dk_187 0 26 (dk_at dksX1_requireElement_0 4 rfl rfl)
theorem dX1_requireElement_7 : decode cX1_requireElement 7 = .ok (.dup, 1) := dk_89 (dk_at dksX1_requireElement_0 7 rfl rfl)
theorem dX1_requireElement_8 : decode cX1_requireElement 8 = .ok (.invokespecial 28, 3) := dk_183 0 28 (dk_at dksX1_requireElement_0 8 rfl rfl)
theorem dX1_requireElement_11 : decode cX1_requireElement 11 = .ok (.athrow, 1) := dk_191 (dk_at dksX1_requireElement_0 11 rfl rfl)
theorem dX1_requireElement_12 : decode cX1_requireElement 12 = .ok (.return_, 1) := dk_177 (dk_at dksX1_requireElement_0 12 rfl rfl)
abbrev cX1_below : ByteArray := prog_1_method_27_code
def yX1_below : MethodName := ⟨RX1, "below", "(I)I"⟩
def dkwX1_below_0 : List UInt8 := [42, 180, 0, 43, 180, 0, 133, 27, 182, 0, 144, 42, 180, 0, 43, 180, 0, 133, 27, 182, 0, 172, 172]
abbrev dktX1_below_0 : List UInt8 := dkwX1_below_0 ++ []
theorem dksX1_below_0 : cX1_below.data.toList.drop 0 = dktX1_below_0 := by decide +kernel
theorem dX1_below_0 : decode cX1_below 0 = .ok (.aload_n 0, 1) := dk_42 (dk_at dksX1_below_0 0 rfl rfl)
theorem dX1_below_1 : decode cX1_below 1 = .ok (.getfield 43, 3) := dk_180 0 43 (dk_at dksX1_below_0 1 rfl rfl)
theorem dX1_below_4 : decode cX1_below 4 = .ok (.getfield 133, 3) := dk_180 0 133 (dk_at dksX1_below_0 4 rfl rfl)
theorem dX1_below_7 : decode cX1_below 7 = .ok (.iload_n 1, 1) := dk_27 (dk_at dksX1_below_0 7 rfl rfl)
theorem dX1_below_8 : decode cX1_below 8 = .ok (.invokevirtual 144, 3) := dk_182 0 144 (dk_at dksX1_below_0 8 rfl rfl)
theorem dX1_below_11 : decode cX1_below 11 = .ok (.aload_n 0, 1) := dk_42 (dk_at dksX1_below_0 11 rfl rfl)
theorem dX1_below_12 : decode cX1_below 12 = .ok (.getfield 43, 3) := dk_180 0 43 (dk_at dksX1_below_0 12 rfl rfl)
theorem dX1_below_15 : decode cX1_below 15 = .ok (.getfield 133, 3) := dk_180 0 133 (dk_at dksX1_below_0 15 rfl rfl)
theorem dX1_below_18 : decode cX1_below 18 = .ok (.iload_n 1, 1) := dk_27 (dk_at dksX1_below_0 18 rfl rfl)
theorem dX1_below_19 : decode cX1_below 19 = .ok (.invokevirtual 172, 3) := dk_182 0 172 (dk_at dksX1_below_0 19 rfl rfl)
theorem dX1_below_22 : decode cX1_below 22 = .ok (.ireturn, 1) := dk_172 (dk_at dksX1_below_0 22 rfl rfl)
abbrev cX1_belowByGoingDown : ByteArray := prog_1_method_28_code
def yX1_belowByGoingDown : MethodName := ⟨RX1, "belowByGoingDown", "(I)I"⟩
def dkwX1_belowByGoingDown_0 : List UInt8 := [42, 180, 0, 43, 180, 0, 133, 27, 182, 0, 144, 42, 180, 0, 43, 180, 0, 133, 27, 182, 0, 175, 172]
abbrev dktX1_belowByGoingDown_0 : List UInt8 := dkwX1_belowByGoingDown_0 ++ []
theorem dksX1_belowByGoingDown_0 : cX1_belowByGoingDown.data.toList.drop 0 = dktX1_belowByGoingDown_0 := by decide +kernel
theorem dX1_belowByGoingDown_0 : decode cX1_belowByGoingDown 0 = .ok (.aload_n 0, 1) := dk_42 (dk_at dksX1_belowByGoingDown_0 0 rfl rfl)
theorem dX1_belowByGoingDown_1 : decode cX1_belowByGoingDown 1 = .ok (.getfield 43, 3) := dk_180 0 43 (dk_at dksX1_belowByGoingDown_0 1 rfl rfl)
theorem dX1_belowByGoingDown_4 : decode cX1_belowByGoingDown 4 = .ok (.getfield 133, 3) := dk_180 0 133 (dk_at dksX1_belowByGoingDown_0 4 rfl rfl)
theorem dX1_belowByGoingDown_7 : decode cX1_belowByGoingDown 7 = .ok (.iload_n 1, 1) := dk_27 (dk_at dksX1_belowByGoingDown_0 7 rfl rfl)
theorem dX1_belowByGoingDown_8 : decode cX1_belowByGoingDown 8 = .ok (.invokevirtual 144, 3) := dk_182 0 144 (dk_at dksX1_belowByGoingDown_0 8 rfl rfl)
theorem dX1_belowByGoingDown_11 : decode cX1_belowByGoingDown 11 = .ok (.aload_n 0, 1) := dk_42 (dk_at dksX1_belowByGoingDown_0 11 rfl rfl)
theorem dX1_belowByGoingDown_12 : decode cX1_belowByGoingDown 12 = .ok (.getfield 43, 3) := dk_180 0 43 (dk_at dksX1_belowByGoingDown_0 12 rfl rfl)
theorem dX1_belowByGoingDown_15 : decode cX1_belowByGoingDown 15 = .ok (.getfield 133, 3) := dk_180 0 133 (dk_at dksX1_belowByGoingDown_0 15 rfl rfl)
theorem dX1_belowByGoingDown_18 : decode cX1_belowByGoingDown 18 = .ok (.iload_n 1, 1) := dk_27 (dk_at dksX1_belowByGoingDown_0 18 rfl rfl)
theorem dX1_belowByGoingDown_19 : decode cX1_belowByGoingDown 19 = .ok (.invokevirtual 175, 3) := dk_182 0 175 (dk_at dksX1_belowByGoingDown_0 19 rfl rfl)
theorem dX1_belowByGoingDown_22 : decode cX1_belowByGoingDown 22 = .ok (.ireturn, 1) := dk_172 (dk_at dksX1_belowByGoingDown_0 22 rfl rfl)
abbrev cX1_actorBySum : ByteArray := prog_1_method_29_code
def yX1_actorBySum : MethodName := ⟨RX1, "actorBySum", "(I)I"⟩
def dkwX1_actorBySum_3 : List UInt8 := [192, 0, 192, 58, 4, 132, 3, 1, 167, 255, 239, 44, 182, 0, 204, 192, 0, 192, 182, 0, 207, 172]
abbrev dktX1_actorBySum_3 : List UInt8 := dkwX1_actorBySum_3 ++ []
def dkwX1_actorBySum_2 : List UInt8 := [182, 0, 197, 54, 4, 132, 3, 1, 167, 255, 235, 3, 62, 29, 27, 162, 0, 18, 44, 182, 0, 201]
abbrev dktX1_actorBySum_2 : List UInt8 := dkwX1_actorBySum_2 ++ dktX1_actorBySum_3
def dkwX1_actorBySum_1 : List UInt8 := [183, 0, 185, 183, 0, 188, 77, 3, 62, 29, 42, 182, 0, 178, 162, 0, 19, 44, 29, 184, 0, 191]
abbrev dktX1_actorBySum_1 : List UInt8 := dkwX1_actorBySum_1 ++ dktX1_actorBySum_2
def dkwX1_actorBySum_0 : List UInt8 := [27, 3, 42, 182, 0, 178, 4, 100, 184, 0, 9, 184, 0, 169, 187, 0, 181, 89, 187, 0, 183, 89, 42]
abbrev dktX1_actorBySum_0 : List UInt8 := dkwX1_actorBySum_0 ++ dktX1_actorBySum_1
theorem dksX1_actorBySum_0 : cX1_actorBySum.data.toList.drop 0 = dktX1_actorBySum_0 := by decide +kernel
theorem dksX1_actorBySum_1 : cX1_actorBySum.data.toList.drop 23 = dktX1_actorBySum_1 := dk_seg dksX1_actorBySum_0 23 rfl rfl
theorem dksX1_actorBySum_2 : cX1_actorBySum.data.toList.drop 45 = dktX1_actorBySum_2 := dk_seg dksX1_actorBySum_1 22 rfl rfl
theorem dksX1_actorBySum_3 : cX1_actorBySum.data.toList.drop 67 = dktX1_actorBySum_3 := dk_seg dksX1_actorBySum_2 22 rfl rfl
theorem dX1_actorBySum_0 : decode cX1_actorBySum 0 = .ok (.iload_n 1, 1) := dk_27 (dk_at dksX1_actorBySum_0 0 rfl rfl)
theorem dX1_actorBySum_1 : decode cX1_actorBySum 1 = .ok (.iconst 0, 1) := dk_3 (dk_at dksX1_actorBySum_0 1 rfl rfl)
theorem dX1_actorBySum_2 : decode cX1_actorBySum 2 = .ok (.aload_n 0, 1) := dk_42 (dk_at dksX1_actorBySum_0 2 rfl rfl)
theorem dX1_actorBySum_3 : decode cX1_actorBySum 3 = .ok (.invokevirtual 178, 3) := dk_182 0 178 (dk_at dksX1_actorBySum_0 3 rfl rfl)
theorem dX1_actorBySum_6 : decode cX1_actorBySum 6 = .ok (.iconst 1, 1) := dk_4 (dk_at dksX1_actorBySum_0 6 rfl rfl)
theorem dX1_actorBySum_7 : decode cX1_actorBySum 7 = .ok (.isub, 1) := dk_100 (dk_at dksX1_actorBySum_0 7 rfl rfl)
theorem dX1_actorBySum_8 : decode cX1_actorBySum 8 = .ok (.invokestatic 9, 3) := dk_184 0 9 (dk_at dksX1_actorBySum_0 8 rfl rfl)
theorem dX1_actorBySum_11 : decode cX1_actorBySum 11 = .ok (.invokestatic 169, 3) := dk_184 0 169 (dk_at dksX1_actorBySum_0 11 rfl rfl)
theorem dX1_actorBySum_14 : decode cX1_actorBySum 14 = .ok (.new 181, 3) := dk_187 0 181 (dk_at dksX1_actorBySum_0 14 rfl rfl)
theorem dX1_actorBySum_17 : decode cX1_actorBySum 17 = .ok (.dup, 1) := dk_89 (dk_at dksX1_actorBySum_0 17 rfl rfl)
theorem dX1_actorBySum_18 : decode cX1_actorBySum 18 = .ok (.new 183, 3) := dk_187 0 183 (dk_at dksX1_actorBySum_0 18 rfl rfl)
theorem dX1_actorBySum_21 : decode cX1_actorBySum 21 = .ok (.dup, 1) := dk_89 (dk_at dksX1_actorBySum_0 21 rfl rfl)
theorem dX1_actorBySum_22 : decode cX1_actorBySum 22 = .ok (.aload_n 0, 1) := dk_42 (dk_at dksX1_actorBySum_0 22 rfl rfl)
theorem dX1_actorBySum_23 : decode cX1_actorBySum 23 = .ok (.invokespecial 185, 3) := dk_183 0 185 (dk_at dksX1_actorBySum_1 0 rfl rfl)
theorem dX1_actorBySum_26 : decode cX1_actorBySum 26 = .ok (.invokespecial 188, 3) := dk_183 0 188 (dk_at dksX1_actorBySum_1 3 rfl rfl)
theorem dX1_actorBySum_29 : decode cX1_actorBySum 29 = .ok (.astore_n 2, 1) := dk_77 (dk_at dksX1_actorBySum_1 6 rfl rfl)
theorem dX1_actorBySum_30 : decode cX1_actorBySum 30 = .ok (.iconst 0, 1) := dk_3 (dk_at dksX1_actorBySum_1 7 rfl rfl)
theorem dX1_actorBySum_31 : decode cX1_actorBySum 31 = .ok (.istore_n 3, 1) := dk_62 (dk_at dksX1_actorBySum_1 8 rfl rfl)
theorem dX1_actorBySum_32 : decode cX1_actorBySum 32 = .ok (.iload_n 3, 1) := dk_29 (dk_at dksX1_actorBySum_1 9 rfl rfl)
theorem dX1_actorBySum_33 : decode cX1_actorBySum 33 = .ok (.aload_n 0, 1) := dk_42 (dk_at dksX1_actorBySum_1 10 rfl rfl)
theorem dX1_actorBySum_34 : decode cX1_actorBySum 34 = .ok (.invokevirtual 178, 3) := dk_182 0 178 (dk_at dksX1_actorBySum_1 11 rfl rfl)
theorem dX1_actorBySum_37 : decode cX1_actorBySum 37 = .ok (.if_icmp .ge 19, 3) := dk_162 0 19 (dk_at dksX1_actorBySum_1 14 rfl rfl)
theorem dX1_actorBySum_40 : decode cX1_actorBySum 40 = .ok (.aload_n 2, 1) := dk_44 (dk_at dksX1_actorBySum_1 17 rfl rfl)
theorem dX1_actorBySum_41 : decode cX1_actorBySum 41 = .ok (.iload_n 3, 1) := dk_29 (dk_at dksX1_actorBySum_1 18 rfl rfl)
theorem dX1_actorBySum_42 : decode cX1_actorBySum 42 = .ok (.invokestatic 191, 3) := dk_184 0 191 (dk_at dksX1_actorBySum_1 19 rfl rfl)
theorem dX1_actorBySum_45 : decode cX1_actorBySum 45 = .ok (.invokevirtual 197, 3) := dk_182 0 197 (dk_at dksX1_actorBySum_2 0 rfl rfl)
theorem dX1_actorBySum_48 : decode cX1_actorBySum 48 = .ok (.istore 4, 2) := dk_54 4 (dk_at dksX1_actorBySum_2 3 rfl rfl)
theorem dX1_actorBySum_50 : decode cX1_actorBySum 50 = .ok (.iinc 3 1, 3) := dk_132 3 1 (dk_at dksX1_actorBySum_2 5 rfl rfl)
theorem dX1_actorBySum_53 : decode cX1_actorBySum 53 = .ok (.goto (-21), 3) := dk_167 255 235 (dk_at dksX1_actorBySum_2 8 rfl rfl)
theorem dX1_actorBySum_56 : decode cX1_actorBySum 56 = .ok (.iconst 0, 1) := dk_3 (dk_at dksX1_actorBySum_2 11 rfl rfl)
theorem dX1_actorBySum_57 : decode cX1_actorBySum 57 = .ok (.istore_n 3, 1) := dk_62 (dk_at dksX1_actorBySum_2 12 rfl rfl)
theorem dX1_actorBySum_58 : decode cX1_actorBySum 58 = .ok (.iload_n 3, 1) := dk_29 (dk_at dksX1_actorBySum_2 13 rfl rfl)
theorem dX1_actorBySum_59 : decode cX1_actorBySum 59 = .ok (.iload_n 1, 1) := dk_27 (dk_at dksX1_actorBySum_2 14 rfl rfl)
theorem dX1_actorBySum_60 : decode cX1_actorBySum 60 = .ok (.if_icmp .ge 18, 3) := dk_162 0 18 (dk_at dksX1_actorBySum_2 15 rfl rfl)
theorem dX1_actorBySum_63 : decode cX1_actorBySum 63 = .ok (.aload_n 2, 1) := dk_44 (dk_at dksX1_actorBySum_2 18 rfl rfl)
theorem dX1_actorBySum_64 : decode cX1_actorBySum 64 = .ok (.invokevirtual 201, 3) := dk_182 0 201 (dk_at dksX1_actorBySum_2 19 rfl rfl)
theorem dX1_actorBySum_67 : decode cX1_actorBySum 67 = .ok (.checkcast 192, 3) := dk_192 0 192 (dk_at dksX1_actorBySum_3 0 rfl rfl)
theorem dX1_actorBySum_70 : decode cX1_actorBySum 70 = .ok (.astore 4, 2) := dk_58 4 (dk_at dksX1_actorBySum_3 3 rfl rfl)
theorem dX1_actorBySum_72 : decode cX1_actorBySum 72 = .ok (.iinc 3 1, 3) := dk_132 3 1 (dk_at dksX1_actorBySum_3 5 rfl rfl)
theorem dX1_actorBySum_75 : decode cX1_actorBySum 75 = .ok (.goto (-17), 3) := dk_167 255 239 (dk_at dksX1_actorBySum_3 8 rfl rfl)
theorem dX1_actorBySum_78 : decode cX1_actorBySum 78 = .ok (.aload_n 2, 1) := dk_44 (dk_at dksX1_actorBySum_3 11 rfl rfl)
theorem dX1_actorBySum_79 : decode cX1_actorBySum 79 = .ok (.invokevirtual 204, 3) := dk_182 0 204 (dk_at dksX1_actorBySum_3 12 rfl rfl)
theorem dX1_actorBySum_82 : decode cX1_actorBySum 82 = .ok (.checkcast 192, 3) := dk_192 0 192 (dk_at dksX1_actorBySum_3 15 rfl rfl)
theorem dX1_actorBySum_85 : decode cX1_actorBySum 85 = .ok (.invokevirtual 207, 3) := dk_182 0 207 (dk_at dksX1_actorBySum_3 18 rfl rfl)
theorem dX1_actorBySum_88 : decode cX1_actorBySum 88 = .ok (.ireturn, 1) := dk_172 (dk_at dksX1_actorBySum_3 21 rfl rfl)
abbrev cX1_send : ByteArray := prog_1_method_30_code
def yX1_send : MethodName := ⟨RX1, "send", "(II)I"⟩
def dkwX1_send_0 : List UInt8 := [42, 18, 210, 27, 28, 182, 0, 120, 172]
abbrev dktX1_send_0 : List UInt8 := dkwX1_send_0 ++ []
theorem dksX1_send_0 : cX1_send.data.toList.drop 0 = dktX1_send_0 := by decide +kernel
theorem dX1_send_0 : decode cX1_send 0 = .ok (.aload_n 0, 1) := dk_42 (dk_at dksX1_send_0 0 rfl rfl)
theorem dX1_send_1 : decode cX1_send 1 = .ok (.ldc 210, 2) := dk_18 210 (dk_at dksX1_send_0 1 rfl rfl)
theorem dX1_send_3 : decode cX1_send 3 = .ok (.iload_n 1, 1) := dk_27 (dk_at dksX1_send_0 3 rfl rfl)
theorem dX1_send_4 : decode cX1_send 4 = .ok (.iload_n 2, 1) := dk_28 (dk_at dksX1_send_0 4 rfl rfl)
theorem dX1_send_5 : decode cX1_send 5 = .ok (.invokevirtual 120, 3) := dk_182 0 120 (dk_at dksX1_send_0 5 rfl rfl)
theorem dX1_send_8 : decode cX1_send 8 = .ok (.ireturn, 1) := dk_172 (dk_at dksX1_send_0 8 rfl rfl)
abbrev cX1_setTimer : ByteArray := prog_1_method_31_code
def yX1_setTimer : MethodName := ⟨RX1, "setTimer", "(III)I"⟩
def dkwX1_setTimer_0 : List UInt8 := [42, 187, 0, 96, 89, 18, 212, 16, 32, 27, 28, 29, 183, 0, 109, 182, 0, 112, 172]
abbrev dktX1_setTimer_0 : List UInt8 := dkwX1_setTimer_0 ++ []
theorem dksX1_setTimer_0 : cX1_setTimer.data.toList.drop 0 = dktX1_setTimer_0 := by decide +kernel
theorem dX1_setTimer_0 : decode cX1_setTimer 0 = .ok (.aload_n 0, 1) := dk_42 (dk_at dksX1_setTimer_0 0 rfl rfl)
theorem dX1_setTimer_1 : decode cX1_setTimer 1 = .ok (.new 96, 3) := dk_187 0 96 (dk_at dksX1_setTimer_0 1 rfl rfl)
theorem dX1_setTimer_4 : decode cX1_setTimer 4 = .ok (.dup, 1) := dk_89 (dk_at dksX1_setTimer_0 4 rfl rfl)
theorem dX1_setTimer_5 : decode cX1_setTimer 5 = .ok (.ldc 212, 2) := dk_18 212 (dk_at dksX1_setTimer_0 5 rfl rfl)
theorem dX1_setTimer_7 : decode cX1_setTimer 7 = .ok (.bipush 32, 2) := dk_16 32 (dk_at dksX1_setTimer_0 7 rfl rfl)
theorem dX1_setTimer_9 : decode cX1_setTimer 9 = .ok (.iload_n 1, 1) := dk_27 (dk_at dksX1_setTimer_0 9 rfl rfl)
theorem dX1_setTimer_10 : decode cX1_setTimer 10 = .ok (.iload_n 2, 1) := dk_28 (dk_at dksX1_setTimer_0 10 rfl rfl)
theorem dX1_setTimer_11 : decode cX1_setTimer 11 = .ok (.iload_n 3, 1) := dk_29 (dk_at dksX1_setTimer_0 11 rfl rfl)
theorem dX1_setTimer_12 : decode cX1_setTimer 12 = .ok (.invokespecial 109, 3) := dk_183 0 109 (dk_at dksX1_setTimer_0 12 rfl rfl)
theorem dX1_setTimer_15 : decode cX1_setTimer 15 = .ok (.invokevirtual 112, 3) := dk_182 0 112 (dk_at dksX1_setTimer_0 15 rfl rfl)
theorem dX1_setTimer_18 : decode cX1_setTimer 18 = .ok (.ireturn, 1) := dk_172 (dk_at dksX1_setTimer_0 18 rfl rfl)
abbrev cX1_setSchedule : ByteArray := prog_1_method_32_code
def yX1_setSchedule : MethodName := ⟨RX1, "setSchedule", "(C)C"⟩
def dkwX1_setSchedule_0 : List UInt8 := [42, 187, 0, 96, 89, 18, 214, 27, 3, 3, 3, 183, 0, 109, 182, 0, 112, 146, 172]
abbrev dktX1_setSchedule_0 : List UInt8 := dkwX1_setSchedule_0 ++ []
theorem dksX1_setSchedule_0 : cX1_setSchedule.data.toList.drop 0 = dktX1_setSchedule_0 := by decide +kernel
theorem dX1_setSchedule_0 : decode cX1_setSchedule 0 = .ok (.aload_n 0, 1) := dk_42 (dk_at dksX1_setSchedule_0 0 rfl rfl)
theorem dX1_setSchedule_1 : decode cX1_setSchedule 1 = .ok (.new 96, 3) := dk_187 0 96 (dk_at dksX1_setSchedule_0 1 rfl rfl)
theorem dX1_setSchedule_4 : decode cX1_setSchedule 4 = .ok (.dup, 1) := dk_89 (dk_at dksX1_setSchedule_0 4 rfl rfl)
theorem dX1_setSchedule_5 : decode cX1_setSchedule 5 = .ok (.ldc 214, 2) := dk_18 214 (dk_at dksX1_setSchedule_0 5 rfl rfl)
theorem dX1_setSchedule_7 : decode cX1_setSchedule 7 = .ok (.iload_n 1, 1) := dk_27 (dk_at dksX1_setSchedule_0 7 rfl rfl)
theorem dX1_setSchedule_8 : decode cX1_setSchedule 8 = .ok (.iconst 0, 1) := dk_3 (dk_at dksX1_setSchedule_0 8 rfl rfl)
theorem dX1_setSchedule_9 : decode cX1_setSchedule 9 = .ok (.iconst 0, 1) := dk_3 (dk_at dksX1_setSchedule_0 9 rfl rfl)
theorem dX1_setSchedule_10 : decode cX1_setSchedule 10 = .ok (.iconst 0, 1) := dk_3 (dk_at dksX1_setSchedule_0 10 rfl rfl)
theorem dX1_setSchedule_11 : decode cX1_setSchedule 11 = .ok (.invokespecial 109, 3) := dk_183 0 109 (dk_at dksX1_setSchedule_0 11 rfl rfl)
theorem dX1_setSchedule_14 : decode cX1_setSchedule 14 = .ok (.invokevirtual 112, 3) := dk_182 0 112 (dk_at dksX1_setSchedule_0 14 rfl rfl)
theorem dX1_setSchedule_17 : decode cX1_setSchedule 17 = .ok (.i2c, 1) := dk_146 (dk_at dksX1_setSchedule_0 17 rfl rfl)
theorem dX1_setSchedule_18 : decode cX1_setSchedule 18 = .ok (.ireturn, 1) := dk_172 (dk_at dksX1_setSchedule_0 18 rfl rfl)
abbrev cX1_setSeed : ByteArray := prog_1_method_33_code
def yX1_setSeed : MethodName := ⟨RX1, "setSeed", "(I)I"⟩
def dkwX1_setSeed_0 : List UInt8 := [42, 18, 216, 27, 3, 182, 0, 120, 172]
abbrev dktX1_setSeed_0 : List UInt8 := dkwX1_setSeed_0 ++ []
theorem dksX1_setSeed_0 : cX1_setSeed.data.toList.drop 0 = dktX1_setSeed_0 := by decide +kernel
theorem dX1_setSeed_0 : decode cX1_setSeed 0 = .ok (.aload_n 0, 1) := dk_42 (dk_at dksX1_setSeed_0 0 rfl rfl)
theorem dX1_setSeed_1 : decode cX1_setSeed 1 = .ok (.ldc 216, 2) := dk_18 216 (dk_at dksX1_setSeed_0 1 rfl rfl)
theorem dX1_setSeed_3 : decode cX1_setSeed 3 = .ok (.iload_n 1, 1) := dk_27 (dk_at dksX1_setSeed_0 3 rfl rfl)
theorem dX1_setSeed_4 : decode cX1_setSeed 4 = .ok (.iconst 0, 1) := dk_3 (dk_at dksX1_setSeed_0 4 rfl rfl)
theorem dX1_setSeed_5 : decode cX1_setSeed 5 = .ok (.invokevirtual 120, 3) := dk_182 0 120 (dk_at dksX1_setSeed_0 5 rfl rfl)
theorem dX1_setSeed_8 : decode cX1_setSeed 8 = .ok (.ireturn, 1) := dk_172 (dk_at dksX1_setSeed_0 8 rfl rfl)
abbrev cX1_step : ByteArray := prog_1_method_34_code
def yX1_step : MethodName := ⟨RX1, "step", "(I)I"⟩
def dkwX1_step_0 : List UInt8 := [42, 18, 218, 27, 3, 182, 0, 120, 172]
abbrev dktX1_step_0 : List UInt8 := dkwX1_step_0 ++ []
theorem dksX1_step_0 : cX1_step.data.toList.drop 0 = dktX1_step_0 := by decide +kernel
theorem dX1_step_0 : decode cX1_step 0 = .ok (.aload_n 0, 1) := dk_42 (dk_at dksX1_step_0 0 rfl rfl)
theorem dX1_step_1 : decode cX1_step 1 = .ok (.ldc 218, 2) := dk_18 218 (dk_at dksX1_step_0 1 rfl rfl)
theorem dX1_step_3 : decode cX1_step 3 = .ok (.iload_n 1, 1) := dk_27 (dk_at dksX1_step_0 3 rfl rfl)
theorem dX1_step_4 : decode cX1_step 4 = .ok (.iconst 0, 1) := dk_3 (dk_at dksX1_step_0 4 rfl rfl)
theorem dX1_step_5 : decode cX1_step 5 = .ok (.invokevirtual 120, 3) := dk_182 0 120 (dk_at dksX1_step_0 5 rfl rfl)
theorem dX1_step_8 : decode cX1_step 8 = .ok (.ireturn, 1) := dk_172 (dk_at dksX1_step_0 8 rfl rfl)
abbrev cX1_messages : ByteArray := prog_1_method_35_code
def yX1_messages : MethodName := ⟨RX1, "messages", "(I)I"⟩
def dkwX1_messages_0 : List UInt8 := [42, 180, 0, 43, 180, 0, 133, 27, 182, 0, 144, 42, 180, 0, 43, 180, 0, 148, 180, 0, 220, 27, 46, 172]
abbrev dktX1_messages_0 : List UInt8 := dkwX1_messages_0 ++ []
theorem dksX1_messages_0 : cX1_messages.data.toList.drop 0 = dktX1_messages_0 := by decide +kernel
theorem dX1_messages_0 : decode cX1_messages 0 = .ok (.aload_n 0, 1) := dk_42 (dk_at dksX1_messages_0 0 rfl rfl)
theorem dX1_messages_1 : decode cX1_messages 1 = .ok (.getfield 43, 3) := dk_180 0 43 (dk_at dksX1_messages_0 1 rfl rfl)
theorem dX1_messages_4 : decode cX1_messages 4 = .ok (.getfield 133, 3) := dk_180 0 133 (dk_at dksX1_messages_0 4 rfl rfl)
theorem dX1_messages_7 : decode cX1_messages 7 = .ok (.iload_n 1, 1) := dk_27 (dk_at dksX1_messages_0 7 rfl rfl)
theorem dX1_messages_8 : decode cX1_messages 8 = .ok (.invokevirtual 144, 3) := dk_182 0 144 (dk_at dksX1_messages_0 8 rfl rfl)
theorem dX1_messages_11 : decode cX1_messages 11 = .ok (.aload_n 0, 1) := dk_42 (dk_at dksX1_messages_0 11 rfl rfl)
theorem dX1_messages_12 : decode cX1_messages 12 = .ok (.getfield 43, 3) := dk_180 0 43 (dk_at dksX1_messages_0 12 rfl rfl)
theorem dX1_messages_15 : decode cX1_messages 15 = .ok (.getfield 148, 3) := dk_180 0 148 (dk_at dksX1_messages_0 15 rfl rfl)
theorem dX1_messages_18 : decode cX1_messages 18 = .ok (.getfield 220, 3) := dk_180 0 220 (dk_at dksX1_messages_0 18 rfl rfl)
theorem dX1_messages_21 : decode cX1_messages 21 = .ok (.iload_n 1, 1) := dk_27 (dk_at dksX1_messages_0 21 rfl rfl)
theorem dX1_messages_22 : decode cX1_messages 22 = .ok (.iaload, 1) := dk_46 (dk_at dksX1_messages_0 22 rfl rfl)
theorem dX1_messages_23 : decode cX1_messages 23 = .ok (.ireturn, 1) := dk_172 (dk_at dksX1_messages_0 23 rfl rfl)
abbrev cX1_valueAt : ByteArray := prog_1_method_37_code
def yX1_valueAt : MethodName := ⟨RX1, "valueAt", "(II)I"⟩
def dkwX1_valueAt_0 : List UInt8 := [42, 27, 28, 182, 0, 233, 7, 108, 172]
abbrev dktX1_valueAt_0 : List UInt8 := dkwX1_valueAt_0 ++ []
theorem dksX1_valueAt_0 : cX1_valueAt.data.toList.drop 0 = dktX1_valueAt_0 := by decide +kernel
theorem dX1_valueAt_0 : decode cX1_valueAt 0 = .ok (.aload_n 0, 1) := dk_42 (dk_at dksX1_valueAt_0 0 rfl rfl)
theorem dX1_valueAt_1 : decode cX1_valueAt 1 = .ok (.iload_n 1, 1) := dk_27 (dk_at dksX1_valueAt_0 1 rfl rfl)
theorem dX1_valueAt_2 : decode cX1_valueAt 2 = .ok (.iload_n 2, 1) := dk_28 (dk_at dksX1_valueAt_0 2 rfl rfl)
theorem dX1_valueAt_3 : decode cX1_valueAt 3 = .ok (.invokevirtual 233, 3) := dk_182 0 233 (dk_at dksX1_valueAt_0 3 rfl rfl)
theorem dX1_valueAt_6 : decode cX1_valueAt 6 = .ok (.iconst 4, 1) := dk_7 (dk_at dksX1_valueAt_0 6 rfl rfl)
theorem dX1_valueAt_7 : decode cX1_valueAt 7 = .ok (.idiv, 1) := dk_108 (dk_at dksX1_valueAt_0 7 rfl rfl)
theorem dX1_valueAt_8 : decode cX1_valueAt 8 = .ok (.ireturn, 1) := dk_172 (dk_at dksX1_valueAt_0 8 rfl rfl)
abbrev cX1_messageAt : ByteArray := prog_1_method_36_code
def yX1_messageAt : MethodName := ⟨RX1, "messageAt", "(II)I"⟩
def dkwX1_messageAt_0 : List UInt8 := [28, 42, 27, 182, 0, 223, 184, 0, 226, 42, 180, 0, 43, 180, 0, 148, 27, 28, 182, 0, 229, 172]
abbrev dktX1_messageAt_0 : List UInt8 := dkwX1_messageAt_0 ++ []
theorem dksX1_messageAt_0 : cX1_messageAt.data.toList.drop 0 = dktX1_messageAt_0 := by decide +kernel
theorem dX1_messageAt_0 : decode cX1_messageAt 0 = .ok (.iload_n 2, 1) := dk_28 (dk_at dksX1_messageAt_0 0 rfl rfl)
theorem dX1_messageAt_1 : decode cX1_messageAt 1 = .ok (.aload_n 0, 1) := dk_42 (dk_at dksX1_messageAt_0 1 rfl rfl)
theorem dX1_messageAt_2 : decode cX1_messageAt 2 = .ok (.iload_n 1, 1) := dk_27 (dk_at dksX1_messageAt_0 2 rfl rfl)
theorem dX1_messageAt_3 : decode cX1_messageAt 3 = .ok (.invokevirtual 223, 3) := dk_182 0 223 (dk_at dksX1_messageAt_0 3 rfl rfl)
theorem dX1_messageAt_6 : decode cX1_messageAt 6 = .ok (.invokestatic 226, 3) := dk_184 0 226 (dk_at dksX1_messageAt_0 6 rfl rfl)
theorem dX1_messageAt_9 : decode cX1_messageAt 9 = .ok (.aload_n 0, 1) := dk_42 (dk_at dksX1_messageAt_0 9 rfl rfl)
theorem dX1_messageAt_10 : decode cX1_messageAt 10 = .ok (.getfield 43, 3) := dk_180 0 43 (dk_at dksX1_messageAt_0 10 rfl rfl)
theorem dX1_messageAt_13 : decode cX1_messageAt 13 = .ok (.getfield 148, 3) := dk_180 0 148 (dk_at dksX1_messageAt_0 13 rfl rfl)
theorem dX1_messageAt_16 : decode cX1_messageAt 16 = .ok (.iload_n 1, 1) := dk_27 (dk_at dksX1_messageAt_0 16 rfl rfl)
theorem dX1_messageAt_17 : decode cX1_messageAt 17 = .ok (.iload_n 2, 1) := dk_28 (dk_at dksX1_messageAt_0 17 rfl rfl)
theorem dX1_messageAt_18 : decode cX1_messageAt 18 = .ok (.invokevirtual 229, 3) := dk_182 0 229 (dk_at dksX1_messageAt_0 18 rfl rfl)
theorem dX1_messageAt_21 : decode cX1_messageAt 21 = .ok (.ireturn, 1) := dk_172 (dk_at dksX1_messageAt_0 21 rfl rfl)
abbrev cX1_hopsAt : ByteArray := prog_1_method_38_code
def yX1_hopsAt : MethodName := ⟨RX1, "hopsAt", "(II)I"⟩
def dkwX1_hopsAt_0 : List UInt8 := [42, 27, 28, 182, 0, 233, 7, 112, 172]
abbrev dktX1_hopsAt_0 : List UInt8 := dkwX1_hopsAt_0 ++ []
theorem dksX1_hopsAt_0 : cX1_hopsAt.data.toList.drop 0 = dktX1_hopsAt_0 := by decide +kernel
theorem dX1_hopsAt_0 : decode cX1_hopsAt 0 = .ok (.aload_n 0, 1) := dk_42 (dk_at dksX1_hopsAt_0 0 rfl rfl)
theorem dX1_hopsAt_1 : decode cX1_hopsAt 1 = .ok (.iload_n 1, 1) := dk_27 (dk_at dksX1_hopsAt_0 1 rfl rfl)
theorem dX1_hopsAt_2 : decode cX1_hopsAt 2 = .ok (.iload_n 2, 1) := dk_28 (dk_at dksX1_hopsAt_0 2 rfl rfl)
theorem dX1_hopsAt_3 : decode cX1_hopsAt 3 = .ok (.invokevirtual 233, 3) := dk_182 0 233 (dk_at dksX1_hopsAt_0 3 rfl rfl)
theorem dX1_hopsAt_6 : decode cX1_hopsAt 6 = .ok (.iconst 4, 1) := dk_7 (dk_at dksX1_hopsAt_0 6 rfl rfl)
theorem dX1_hopsAt_7 : decode cX1_hopsAt 7 = .ok (.irem, 1) := dk_112 (dk_at dksX1_hopsAt_0 7 rfl rfl)
theorem dX1_hopsAt_8 : decode cX1_hopsAt 8 = .ok (.ireturn, 1) := dk_172 (dk_at dksX1_hopsAt_0 8 rfl rfl)
abbrev cX1_isReady : ByteArray := prog_1_method_39_code
def yX1_isReady : MethodName := ⟨RX1, "isReady", "(I)Z"⟩
def dkwX1_isReady_0 : List UInt8 := [42, 180, 0, 43, 180, 0, 133, 27, 182, 0, 144, 42, 180, 0, 43, 180, 0, 148, 27, 182, 0, 236, 172]
abbrev dktX1_isReady_0 : List UInt8 := dkwX1_isReady_0 ++ []
theorem dksX1_isReady_0 : cX1_isReady.data.toList.drop 0 = dktX1_isReady_0 := by decide +kernel
theorem dX1_isReady_0 : decode cX1_isReady 0 = .ok (.aload_n 0, 1) := dk_42 (dk_at dksX1_isReady_0 0 rfl rfl)
theorem dX1_isReady_1 : decode cX1_isReady 1 = .ok (.getfield 43, 3) := dk_180 0 43 (dk_at dksX1_isReady_0 1 rfl rfl)
theorem dX1_isReady_4 : decode cX1_isReady 4 = .ok (.getfield 133, 3) := dk_180 0 133 (dk_at dksX1_isReady_0 4 rfl rfl)
theorem dX1_isReady_7 : decode cX1_isReady 7 = .ok (.iload_n 1, 1) := dk_27 (dk_at dksX1_isReady_0 7 rfl rfl)
theorem dX1_isReady_8 : decode cX1_isReady 8 = .ok (.invokevirtual 144, 3) := dk_182 0 144 (dk_at dksX1_isReady_0 8 rfl rfl)
theorem dX1_isReady_11 : decode cX1_isReady 11 = .ok (.aload_n 0, 1) := dk_42 (dk_at dksX1_isReady_0 11 rfl rfl)
theorem dX1_isReady_12 : decode cX1_isReady 12 = .ok (.getfield 43, 3) := dk_180 0 43 (dk_at dksX1_isReady_0 12 rfl rfl)
theorem dX1_isReady_15 : decode cX1_isReady 15 = .ok (.getfield 148, 3) := dk_180 0 148 (dk_at dksX1_isReady_0 15 rfl rfl)
theorem dX1_isReady_18 : decode cX1_isReady 18 = .ok (.iload_n 1, 1) := dk_27 (dk_at dksX1_isReady_0 18 rfl rfl)
theorem dX1_isReady_19 : decode cX1_isReady 19 = .ok (.invokevirtual 236, 3) := dk_182 0 236 (dk_at dksX1_isReady_0 19 rfl rfl)
theorem dX1_isReady_22 : decode cX1_isReady 22 = .ok (.ireturn, 1) := dk_172 (dk_at dksX1_isReady_0 22 rfl rfl)
abbrev cX1_dueIn : ByteArray := prog_1_method_42_code
def yX1_dueIn : MethodName := ⟨RX1, "dueIn", "(I)I"⟩
def dkwX1_dueIn_3 : List UInt8 := [132, 2, 255, 167, 255, 217, 3, 29, 42, 180, 0, 43, 180, 1, 12, 100, 184, 1, 15, 172]
abbrev dktX1_dueIn_3 : List UInt8 := dkwX1_dueIn_3 ++ []
def dkwX1_dueIn_2 : List UInt8 := [185, 1, 4, 1, 0, 192, 1, 7, 58, 5, 28, 154, 0, 11, 25, 5, 180, 1, 9, 167, 0, 4, 29, 62]
abbrev dktX1_dueIn_2 : List UInt8 := dkwX1_dueIn_2 ++ dktX1_dueIn_3
def dkwX1_dueIn_1 : List UInt8 := [180, 0, 243, 182, 0, 250, 58, 4, 25, 4, 185, 0, 254, 1, 0, 153, 0, 35, 25, 4]
abbrev dktX1_dueIn_1 : List UInt8 := dkwX1_dueIn_1 ++ dktX1_dueIn_2
def dkwX1_dueIn_0 : List UInt8 := [27, 3, 42, 182, 0, 248, 4, 100, 184, 0, 9, 184, 0, 169, 27, 61, 3, 62, 42, 180, 0, 43]
abbrev dktX1_dueIn_0 : List UInt8 := dkwX1_dueIn_0 ++ dktX1_dueIn_1
theorem dksX1_dueIn_0 : cX1_dueIn.data.toList.drop 0 = dktX1_dueIn_0 := by decide +kernel
theorem dksX1_dueIn_1 : cX1_dueIn.data.toList.drop 22 = dktX1_dueIn_1 := dk_seg dksX1_dueIn_0 22 rfl rfl
theorem dksX1_dueIn_2 : cX1_dueIn.data.toList.drop 42 = dktX1_dueIn_2 := dk_seg dksX1_dueIn_1 20 rfl rfl
theorem dksX1_dueIn_3 : cX1_dueIn.data.toList.drop 66 = dktX1_dueIn_3 := dk_seg dksX1_dueIn_2 24 rfl rfl
theorem dX1_dueIn_0 : decode cX1_dueIn 0 = .ok (.iload_n 1, 1) := dk_27 (dk_at dksX1_dueIn_0 0 rfl rfl)
theorem dX1_dueIn_1 : decode cX1_dueIn 1 = .ok (.iconst 0, 1) := dk_3 (dk_at dksX1_dueIn_0 1 rfl rfl)
theorem dX1_dueIn_2 : decode cX1_dueIn 2 = .ok (.aload_n 0, 1) := dk_42 (dk_at dksX1_dueIn_0 2 rfl rfl)
theorem dX1_dueIn_3 : decode cX1_dueIn 3 = .ok (.invokevirtual 248, 3) := dk_182 0 248 (dk_at dksX1_dueIn_0 3 rfl rfl)
theorem dX1_dueIn_6 : decode cX1_dueIn 6 = .ok (.iconst 1, 1) := dk_4 (dk_at dksX1_dueIn_0 6 rfl rfl)
theorem dX1_dueIn_7 : decode cX1_dueIn 7 = .ok (.isub, 1) := dk_100 (dk_at dksX1_dueIn_0 7 rfl rfl)
theorem dX1_dueIn_8 : decode cX1_dueIn 8 = .ok (.invokestatic 9, 3) := dk_184 0 9 (dk_at dksX1_dueIn_0 8 rfl rfl)
theorem dX1_dueIn_11 : decode cX1_dueIn 11 = .ok (.invokestatic 169, 3) := dk_184 0 169 (dk_at dksX1_dueIn_0 11 rfl rfl)
theorem dX1_dueIn_14 : decode cX1_dueIn 14 = .ok (.iload_n 1, 1) := dk_27 (dk_at dksX1_dueIn_0 14 rfl rfl)
theorem dX1_dueIn_15 : decode cX1_dueIn 15 = .ok (.istore_n 2, 1) := dk_61 (dk_at dksX1_dueIn_0 15 rfl rfl)
theorem dX1_dueIn_16 : decode cX1_dueIn 16 = .ok (.iconst 0, 1) := dk_3 (dk_at dksX1_dueIn_0 16 rfl rfl)
theorem dX1_dueIn_17 : decode cX1_dueIn 17 = .ok (.istore_n 3, 1) := dk_62 (dk_at dksX1_dueIn_0 17 rfl rfl)
theorem dX1_dueIn_18 : decode cX1_dueIn 18 = .ok (.aload_n 0, 1) := dk_42 (dk_at dksX1_dueIn_0 18 rfl rfl)
theorem dX1_dueIn_19 : decode cX1_dueIn 19 = .ok (.getfield 43, 3) := dk_180 0 43 (dk_at dksX1_dueIn_0 19 rfl rfl)
theorem dX1_dueIn_22 : decode cX1_dueIn 22 = .ok (.getfield 243, 3) := dk_180 0 243 (dk_at dksX1_dueIn_1 0 rfl rfl)
theorem dX1_dueIn_25 : decode cX1_dueIn 25 = .ok (.invokevirtual 250, 3) := dk_182 0 250 (dk_at dksX1_dueIn_1 3 rfl rfl)
theorem dX1_dueIn_28 : decode cX1_dueIn 28 = .ok (.astore 4, 2) := dk_58 4 (dk_at dksX1_dueIn_1 6 rfl rfl)
theorem dX1_dueIn_30 : decode cX1_dueIn 30 = .ok (.aload 4, 2) := dk_25 4 (dk_at dksX1_dueIn_1 8 rfl rfl)
theorem dX1_dueIn_32 : decode cX1_dueIn 32 = .ok (.invokeinterface 254 1, 5) := by decide +kernel
theorem dX1_dueIn_37 : decode cX1_dueIn 37 = .ok (.ifCond .eq 35, 3) := dk_153 0 35 (dk_at dksX1_dueIn_1 15 rfl rfl)
theorem dX1_dueIn_40 : decode cX1_dueIn 40 = .ok (.aload 4, 2) := dk_25 4 (dk_at dksX1_dueIn_1 18 rfl rfl)
theorem dX1_dueIn_42 : decode cX1_dueIn 42 = .ok (.invokeinterface 260 1, 5) := by decide +kernel
theorem dX1_dueIn_47 : decode cX1_dueIn 47 = .ok (.checkcast 263, 3) := dk_192 1 7 (dk_at dksX1_dueIn_2 5 rfl rfl)
theorem dX1_dueIn_50 : decode cX1_dueIn 50 = .ok (.astore 5, 2) := dk_58 5 (dk_at dksX1_dueIn_2 8 rfl rfl)
theorem dX1_dueIn_52 : decode cX1_dueIn 52 = .ok (.iload_n 2, 1) := dk_28 (dk_at dksX1_dueIn_2 10 rfl rfl)
theorem dX1_dueIn_53 : decode cX1_dueIn 53 = .ok (.ifCond .ne 11, 3) := dk_154 0 11 (dk_at dksX1_dueIn_2 11 rfl rfl)
theorem dX1_dueIn_56 : decode cX1_dueIn 56 = .ok (.aload 5, 2) := dk_25 5 (dk_at dksX1_dueIn_2 14 rfl rfl)
theorem dX1_dueIn_58 : decode cX1_dueIn 58 = .ok (.getfield 265, 3) := dk_180 1 9 (dk_at dksX1_dueIn_2 16 rfl rfl)
theorem dX1_dueIn_61 : decode cX1_dueIn 61 = .ok (.goto 4, 3) := dk_167 0 4 (dk_at dksX1_dueIn_2 19 rfl rfl)
theorem dX1_dueIn_64 : decode cX1_dueIn 64 = .ok (.iload_n 3, 1) := dk_29 (dk_at dksX1_dueIn_2 22 rfl rfl)
theorem dX1_dueIn_65 : decode cX1_dueIn 65 = .ok (.istore_n 3, 1) := dk_62 (dk_at dksX1_dueIn_2 23 rfl rfl)
theorem dX1_dueIn_66 : decode cX1_dueIn 66 = .ok (.iinc 2 (-1), 3) := dk_132 2 255 (dk_at dksX1_dueIn_3 0 rfl rfl)
theorem dX1_dueIn_69 : decode cX1_dueIn 69 = .ok (.goto (-39), 3) := dk_167 255 217 (dk_at dksX1_dueIn_3 3 rfl rfl)
theorem dX1_dueIn_72 : decode cX1_dueIn 72 = .ok (.iconst 0, 1) := dk_3 (dk_at dksX1_dueIn_3 6 rfl rfl)
theorem dX1_dueIn_73 : decode cX1_dueIn 73 = .ok (.iload_n 3, 1) := dk_29 (dk_at dksX1_dueIn_3 7 rfl rfl)
theorem dX1_dueIn_74 : decode cX1_dueIn 74 = .ok (.aload_n 0, 1) := dk_42 (dk_at dksX1_dueIn_3 8 rfl rfl)
theorem dX1_dueIn_75 : decode cX1_dueIn 75 = .ok (.getfield 43, 3) := dk_180 0 43 (dk_at dksX1_dueIn_3 9 rfl rfl)
theorem dX1_dueIn_78 : decode cX1_dueIn 78 = .ok (.getfield 268, 3) := dk_180 1 12 (dk_at dksX1_dueIn_3 12 rfl rfl)
theorem dX1_dueIn_81 : decode cX1_dueIn 81 = .ok (.isub, 1) := dk_100 (dk_at dksX1_dueIn_3 15 rfl rfl)
theorem dX1_dueIn_82 : decode cX1_dueIn 82 = .ok (.invokestatic 271, 3) := dk_184 1 15 (dk_at dksX1_dueIn_3 16 rfl rfl)
theorem dX1_dueIn_85 : decode cX1_dueIn 85 = .ok (.ireturn, 1) := dk_172 (dk_at dksX1_dueIn_3 19 rfl rfl)
abbrev cX1_next : ByteArray := prog_1_method_43_code
def yX1_next : MethodName := ⟨RX1, "next", "()I"⟩
def dkwX1_next_1 : List UInt8 := [180, 0, 43, 182, 1, 23, 172]
abbrev dktX1_next_1 : List UInt8 := dkwX1_next_1 ++ []
def dkwX1_next_0 : List UInt8 := [42, 180, 0, 43, 180, 0, 148, 182, 1, 20, 158, 0, 7, 4, 167, 0, 4, 3, 184, 0, 169, 42]
abbrev dktX1_next_0 : List UInt8 := dkwX1_next_0 ++ dktX1_next_1
theorem dksX1_next_0 : cX1_next.data.toList.drop 0 = dktX1_next_0 := by decide +kernel
theorem dksX1_next_1 : cX1_next.data.toList.drop 22 = dktX1_next_1 := dk_seg dksX1_next_0 22 rfl rfl
theorem dX1_next_0 : decode cX1_next 0 = .ok (.aload_n 0, 1) := dk_42 (dk_at dksX1_next_0 0 rfl rfl)
theorem dX1_next_1 : decode cX1_next 1 = .ok (.getfield 43, 3) := dk_180 0 43 (dk_at dksX1_next_0 1 rfl rfl)
theorem dX1_next_4 : decode cX1_next 4 = .ok (.getfield 148, 3) := dk_180 0 148 (dk_at dksX1_next_0 4 rfl rfl)
theorem dX1_next_7 : decode cX1_next 7 = .ok (.invokevirtual 276, 3) := dk_182 1 20 (dk_at dksX1_next_0 7 rfl rfl)
theorem dX1_next_10 : decode cX1_next 10 = .ok (.ifCond .le 7, 3) := dk_158 0 7 (dk_at dksX1_next_0 10 rfl rfl)
theorem dX1_next_13 : decode cX1_next 13 = .ok (.iconst 1, 1) := dk_4 (dk_at dksX1_next_0 13 rfl rfl)
theorem dX1_next_14 : decode cX1_next 14 = .ok (.goto 4, 3) := dk_167 0 4 (dk_at dksX1_next_0 14 rfl rfl)
theorem dX1_next_17 : decode cX1_next 17 = .ok (.iconst 0, 1) := dk_3 (dk_at dksX1_next_0 17 rfl rfl)
theorem dX1_next_18 : decode cX1_next 18 = .ok (.invokestatic 169, 3) := dk_184 0 169 (dk_at dksX1_next_0 18 rfl rfl)
theorem dX1_next_21 : decode cX1_next 21 = .ok (.aload_n 0, 1) := dk_42 (dk_at dksX1_next_0 21 rfl rfl)
theorem dX1_next_22 : decode cX1_next 22 = .ok (.getfield 43, 3) := dk_180 0 43 (dk_at dksX1_next_1 0 rfl rfl)
theorem dX1_next_25 : decode cX1_next 25 = .ok (.invokevirtual 279, 3) := dk_182 1 23 (dk_at dksX1_next_1 3 rfl rfl)
theorem dX1_next_28 : decode cX1_next 28 = .ok (.ireturn, 1) := dk_172 (dk_at dksX1_next_1 6 rfl rfl)
abbrev cX1_stepsUntilQuiet : ByteArray := prog_1_method_44_code
def yX1_stepsUntilQuiet : MethodName := ⟨RX1, "stepsUntilQuiet", "()I"⟩
def dkwX1_stepsUntilQuiet_1 : List UInt8 := [162, 0, 13, 43, 182, 1, 29, 132, 2, 1, 167, 255, 236, 43, 182, 1, 26, 184, 0, 169, 28, 172]
abbrev dktX1_stepsUntilQuiet_1 : List UInt8 := dkwX1_stepsUntilQuiet_1 ++ []
def dkwX1_stepsUntilQuiet_0 : List UInt8 := [187, 0, 40, 89, 42, 180, 0, 43, 183, 0, 92, 76, 3, 61, 43, 182, 1, 26, 154, 0, 19, 28, 16, 100]
abbrev dktX1_stepsUntilQuiet_0 : List UInt8 := dkwX1_stepsUntilQuiet_0 ++ dktX1_stepsUntilQuiet_1
theorem dksX1_stepsUntilQuiet_0 : cX1_stepsUntilQuiet.data.toList.drop 0 = dktX1_stepsUntilQuiet_0 := by decide +kernel
theorem dksX1_stepsUntilQuiet_1 : cX1_stepsUntilQuiet.data.toList.drop 24 = dktX1_stepsUntilQuiet_1 := dk_seg dksX1_stepsUntilQuiet_0 24 rfl rfl
theorem dX1_stepsUntilQuiet_0 : decode cX1_stepsUntilQuiet 0 = .ok (.new 40, 3) := dk_187 0 40 (dk_at dksX1_stepsUntilQuiet_0 0 rfl rfl)
theorem dX1_stepsUntilQuiet_3 : decode cX1_stepsUntilQuiet 3 = .ok (.dup, 1) := dk_89 (dk_at dksX1_stepsUntilQuiet_0 3 rfl rfl)
theorem dX1_stepsUntilQuiet_4 : decode cX1_stepsUntilQuiet 4 = .ok (.aload_n 0, 1) := dk_42 (dk_at dksX1_stepsUntilQuiet_0 4 rfl rfl)
theorem dX1_stepsUntilQuiet_5 : decode cX1_stepsUntilQuiet 5 = .ok (.getfield 43, 3) := dk_180 0 43 (dk_at dksX1_stepsUntilQuiet_0 5 rfl rfl)
theorem dX1_stepsUntilQuiet_8 : decode cX1_stepsUntilQuiet 8 = .ok (.invokespecial 92, 3) := dk_183 0 92 (dk_at dksX1_stepsUntilQuiet_0 8 rfl rfl)
theorem dX1_stepsUntilQuiet_11 : decode cX1_stepsUntilQuiet 11 = .ok (.astore_n 1, 1) := dk_76 (dk_at dksX1_stepsUntilQuiet_0 11 rfl rfl)
theorem dX1_stepsUntilQuiet_12 : decode cX1_stepsUntilQuiet 12 = .ok (.iconst 0, 1) := dk_3 (dk_at dksX1_stepsUntilQuiet_0 12 rfl rfl)
theorem dX1_stepsUntilQuiet_13 : decode cX1_stepsUntilQuiet 13 = .ok (.istore_n 2, 1) := dk_61 (dk_at dksX1_stepsUntilQuiet_0 13 rfl rfl)
theorem dX1_stepsUntilQuiet_14 : decode cX1_stepsUntilQuiet 14 = .ok (.aload_n 1, 1) := dk_43 (dk_at dksX1_stepsUntilQuiet_0 14 rfl rfl)
theorem dX1_stepsUntilQuiet_15 : decode cX1_stepsUntilQuiet 15 = .ok (.invokevirtual 282, 3) := dk_182 1 26 (dk_at dksX1_stepsUntilQuiet_0 15 rfl rfl)
theorem dX1_stepsUntilQuiet_18 : decode cX1_stepsUntilQuiet 18 = .ok (.ifCond .ne 19, 3) := dk_154 0 19 (dk_at dksX1_stepsUntilQuiet_0 18 rfl rfl)
theorem dX1_stepsUntilQuiet_21 : decode cX1_stepsUntilQuiet 21 = .ok (.iload_n 2, 1) := dk_28 (dk_at dksX1_stepsUntilQuiet_0 21 rfl rfl)
theorem dX1_stepsUntilQuiet_22 : decode cX1_stepsUntilQuiet 22 = .ok (.bipush 100, 2) := dk_16 100 (dk_at dksX1_stepsUntilQuiet_0 22 rfl rfl)
theorem dX1_stepsUntilQuiet_24 : decode cX1_stepsUntilQuiet 24 = .ok (.if_icmp .ge 13, 3) := dk_162 0 13 (dk_at dksX1_stepsUntilQuiet_1 0 rfl rfl)
theorem dX1_stepsUntilQuiet_27 : decode cX1_stepsUntilQuiet 27 = .ok (.aload_n 1, 1) := dk_43 (dk_at dksX1_stepsUntilQuiet_1 3 rfl rfl)
theorem dX1_stepsUntilQuiet_28 : decode cX1_stepsUntilQuiet 28 = .ok (.invokevirtual 285, 3) := dk_182 1 29 (dk_at dksX1_stepsUntilQuiet_1 4 rfl rfl)
theorem dX1_stepsUntilQuiet_31 : decode cX1_stepsUntilQuiet 31 = .ok (.iinc 2 1, 3) := dk_132 2 1 (dk_at dksX1_stepsUntilQuiet_1 7 rfl rfl)
theorem dX1_stepsUntilQuiet_34 : decode cX1_stepsUntilQuiet 34 = .ok (.goto (-20), 3) := dk_167 255 236 (dk_at dksX1_stepsUntilQuiet_1 10 rfl rfl)
theorem dX1_stepsUntilQuiet_37 : decode cX1_stepsUntilQuiet 37 = .ok (.aload_n 1, 1) := dk_43 (dk_at dksX1_stepsUntilQuiet_1 13 rfl rfl)
theorem dX1_stepsUntilQuiet_38 : decode cX1_stepsUntilQuiet 38 = .ok (.invokevirtual 282, 3) := dk_182 1 26 (dk_at dksX1_stepsUntilQuiet_1 14 rfl rfl)
theorem dX1_stepsUntilQuiet_41 : decode cX1_stepsUntilQuiet 41 = .ok (.invokestatic 169, 3) := dk_184 0 169 (dk_at dksX1_stepsUntilQuiet_1 17 rfl rfl)
theorem dX1_stepsUntilQuiet_44 : decode cX1_stepsUntilQuiet 44 = .ok (.iload_n 2, 1) := dk_28 (dk_at dksX1_stepsUntilQuiet_1 20 rfl rfl)
theorem dX1_stepsUntilQuiet_45 : decode cX1_stepsUntilQuiet 45 = .ok (.ireturn, 1) := dk_172 (dk_at dksX1_stepsUntilQuiet_1 21 rfl rfl)
abbrev cX1_outcomes : ByteArray := prog_1_method_46_code
def yX1_outcomes : MethodName := ⟨RX1, "outcomes", "()I"⟩
def dkwX1_outcomes_0 : List UInt8 := [42, 182, 1, 42, 182, 1, 46, 180, 1, 49, 182, 0, 247, 172]
abbrev dktX1_outcomes_0 : List UInt8 := dkwX1_outcomes_0 ++ []
theorem dksX1_outcomes_0 : cX1_outcomes.data.toList.drop 0 = dktX1_outcomes_0 := by decide +kernel
theorem dX1_outcomes_0 : decode cX1_outcomes 0 = .ok (.aload_n 0, 1) := dk_42 (dk_at dksX1_outcomes_0 0 rfl rfl)
theorem dX1_outcomes_1 : decode cX1_outcomes 1 = .ok (.invokevirtual 298, 3) := dk_182 1 42 (dk_at dksX1_outcomes_0 1 rfl rfl)
theorem dX1_outcomes_4 : decode cX1_outcomes 4 = .ok (.invokevirtual 302, 3) := dk_182 1 46 (dk_at dksX1_outcomes_0 4 rfl rfl)
theorem dX1_outcomes_7 : decode cX1_outcomes 7 = .ok (.getfield 305, 3) := dk_180 1 49 (dk_at dksX1_outcomes_0 7 rfl rfl)
theorem dX1_outcomes_10 : decode cX1_outcomes 10 = .ok (.invokevirtual 247, 3) := dk_182 0 247 (dk_at dksX1_outcomes_0 10 rfl rfl)
theorem dX1_outcomes_13 : decode cX1_outcomes 13 = .ok (.ireturn, 1) := dk_172 (dk_at dksX1_outcomes_0 13 rfl rfl)
abbrev cX1_explorer : ByteArray := prog_1_method_45_code
def yX1_explorer : MethodName := ⟨RX1, "explorer", "()LSpindleActors$Explorer;"⟩
def dkwX1_explorer_1 : List UInt8 := [184, 1, 35, 187, 1, 39, 89, 42, 180, 0, 43, 183, 1, 41, 176, 77, 42, 44, 182, 0, 105, 191]
abbrev dktX1_explorer_1 : List UInt8 := dkwX1_explorer_1 ++ []
def dkwX1_explorer_0 : List UInt8 := [42, 180, 0, 43, 180, 0, 148, 182, 1, 32, 60, 27, 6, 163, 0, 7, 4, 167, 0, 4, 3, 8, 27]
abbrev dktX1_explorer_0 : List UInt8 := dkwX1_explorer_0 ++ dktX1_explorer_1
theorem dksX1_explorer_0 : cX1_explorer.data.toList.drop 0 = dktX1_explorer_0 := by decide +kernel
theorem dksX1_explorer_1 : cX1_explorer.data.toList.drop 23 = dktX1_explorer_1 := dk_seg dksX1_explorer_0 23 rfl rfl
theorem dX1_explorer_0 : decode cX1_explorer 0 = .ok (.aload_n 0, 1) := dk_42 (dk_at dksX1_explorer_0 0 rfl rfl)
theorem dX1_explorer_1 : decode cX1_explorer 1 = .ok (.getfield 43, 3) := dk_180 0 43 (dk_at dksX1_explorer_0 1 rfl rfl)
theorem dX1_explorer_4 : decode cX1_explorer 4 = .ok (.getfield 148, 3) := dk_180 0 148 (dk_at dksX1_explorer_0 4 rfl rfl)
theorem dX1_explorer_7 : decode cX1_explorer 7 = .ok (.invokevirtual 288, 3) := dk_182 1 32 (dk_at dksX1_explorer_0 7 rfl rfl)
theorem dX1_explorer_10 : decode cX1_explorer 10 = .ok (.istore_n 1, 1) := dk_60 (dk_at dksX1_explorer_0 10 rfl rfl)
theorem dX1_explorer_11 : decode cX1_explorer 11 = .ok (.iload_n 1, 1) := dk_27 (dk_at dksX1_explorer_0 11 rfl rfl)
theorem dX1_explorer_12 : decode cX1_explorer 12 = .ok (.iconst 3, 1) := dk_6 (dk_at dksX1_explorer_0 12 rfl rfl)
theorem dX1_explorer_13 : decode cX1_explorer 13 = .ok (.if_icmp .gt 7, 3) := dk_163 0 7 (dk_at dksX1_explorer_0 13 rfl rfl)
theorem dX1_explorer_16 : decode cX1_explorer 16 = .ok (.iconst 1, 1) := dk_4 (dk_at dksX1_explorer_0 16 rfl rfl)
theorem dX1_explorer_17 : decode cX1_explorer 17 = .ok (.goto 4, 3) := dk_167 0 4 (dk_at dksX1_explorer_0 17 rfl rfl)
theorem dX1_explorer_20 : decode cX1_explorer 20 = .ok (.iconst 0, 1) := dk_3 (dk_at dksX1_explorer_0 20 rfl rfl)
theorem dX1_explorer_21 : decode cX1_explorer 21 = .ok (.iconst 5, 1) := dk_8 (dk_at dksX1_explorer_0 21 rfl rfl)
theorem dX1_explorer_22 : decode cX1_explorer 22 = .ok (.iload_n 1, 1) := dk_27 (dk_at dksX1_explorer_0 22 rfl rfl)
theorem dX1_explorer_23 : decode cX1_explorer 23 = .ok (.invokestatic 291, 3) := dk_184 1 35 (dk_at dksX1_explorer_1 0 rfl rfl)
theorem dX1_explorer_26 : decode cX1_explorer 26 = .ok (.new 295, 3) := dk_187 1 39 (dk_at dksX1_explorer_1 3 rfl rfl)
theorem dX1_explorer_29 : decode cX1_explorer 29 = .ok (.dup, 1) := dk_89 (dk_at dksX1_explorer_1 6 rfl rfl)
theorem dX1_explorer_30 : decode cX1_explorer 30 = .ok (.aload_n 0, 1) := dk_42 (dk_at dksX1_explorer_1 7 rfl rfl)
theorem dX1_explorer_31 : decode cX1_explorer 31 = .ok (.getfield 43, 3) := dk_180 0 43 (dk_at dksX1_explorer_1 8 rfl rfl)
theorem dX1_explorer_34 : decode cX1_explorer 34 = .ok (.invokespecial 297, 3) := dk_183 1 41 (dk_at dksX1_explorer_1 11 rfl rfl)
theorem dX1_explorer_37 : decode cX1_explorer 37 = .ok (.areturn, 1) := dk_176 (dk_at dksX1_explorer_1 14 rfl rfl)
theorem dX1_explorer_38 : decode cX1_explorer 38 = .ok (.astore_n 2, 1) := dk_77 (dk_at dksX1_explorer_1 15 rfl rfl)
theorem dX1_explorer_39 : decode cX1_explorer 39 = .ok (.aload_n 0, 1) := dk_42 (dk_at dksX1_explorer_1 16 rfl rfl)
theorem dX1_explorer_40 : decode cX1_explorer 40 = .ok (.aload_n 2, 1) := dk_44 (dk_at dksX1_explorer_1 17 rfl rfl)
theorem dX1_explorer_41 : decode cX1_explorer 41 = .ok (.invokevirtual 105, 3) := dk_182 0 105 (dk_at dksX1_explorer_1 18 rfl rfl)
theorem dX1_explorer_44 : decode cX1_explorer 44 = .ok (.athrow, 1) := dk_191 (dk_at dksX1_explorer_1 21 rfl rfl)
abbrev cX1_outcomesBySchedules : ByteArray := prog_1_method_47_code
def yX1_outcomesBySchedules : MethodName := ⟨RX1, "outcomesBySchedules", "()I"⟩
def dkwX1_outcomesBySchedules_0 : List UInt8 := [42, 182, 1, 42, 4, 182, 1, 52, 180, 1, 49, 182, 0, 247, 172]
abbrev dktX1_outcomesBySchedules_0 : List UInt8 := dkwX1_outcomesBySchedules_0 ++ []
theorem dksX1_outcomesBySchedules_0 : cX1_outcomesBySchedules.data.toList.drop 0 = dktX1_outcomesBySchedules_0 := by decide +kernel
theorem dX1_outcomesBySchedules_0 : decode cX1_outcomesBySchedules 0 = .ok (.aload_n 0, 1) := dk_42 (dk_at dksX1_outcomesBySchedules_0 0 rfl rfl)
theorem dX1_outcomesBySchedules_1 : decode cX1_outcomesBySchedules 1 = .ok (.invokevirtual 298, 3) := dk_182 1 42 (dk_at dksX1_outcomesBySchedules_0 1 rfl rfl)
theorem dX1_outcomesBySchedules_4 : decode cX1_outcomesBySchedules 4 = .ok (.iconst 1, 1) := dk_4 (dk_at dksX1_outcomesBySchedules_0 4 rfl rfl)
theorem dX1_outcomesBySchedules_5 : decode cX1_outcomesBySchedules 5 = .ok (.invokevirtual 308, 3) := dk_182 1 52 (dk_at dksX1_outcomesBySchedules_0 5 rfl rfl)
theorem dX1_outcomesBySchedules_8 : decode cX1_outcomesBySchedules 8 = .ok (.getfield 305, 3) := dk_180 1 49 (dk_at dksX1_outcomesBySchedules_0 8 rfl rfl)
theorem dX1_outcomesBySchedules_11 : decode cX1_outcomesBySchedules 11 = .ok (.invokevirtual 247, 3) := dk_182 0 247 (dk_at dksX1_outcomesBySchedules_0 11 rfl rfl)
theorem dX1_outcomesBySchedules_14 : decode cX1_outcomesBySchedules 14 = .ok (.ireturn, 1) := dk_172 (dk_at dksX1_outcomesBySchedules_0 14 rfl rfl)
abbrev cX1_schedules : ByteArray := prog_1_method_48_code
def yX1_schedules : MethodName := ⟨RX1, "schedules", "()J"⟩
def dkwX1_schedules_0 : List UInt8 := [42, 182, 1, 42, 3, 182, 1, 52, 180, 1, 56, 173]
abbrev dktX1_schedules_0 : List UInt8 := dkwX1_schedules_0 ++ []
theorem dksX1_schedules_0 : cX1_schedules.data.toList.drop 0 = dktX1_schedules_0 := by decide +kernel
theorem dX1_schedules_0 : decode cX1_schedules 0 = .ok (.aload_n 0, 1) := dk_42 (dk_at dksX1_schedules_0 0 rfl rfl)
theorem dX1_schedules_1 : decode cX1_schedules 1 = .ok (.invokevirtual 298, 3) := dk_182 1 42 (dk_at dksX1_schedules_0 1 rfl rfl)
theorem dX1_schedules_4 : decode cX1_schedules 4 = .ok (.iconst 0, 1) := dk_3 (dk_at dksX1_schedules_0 4 rfl rfl)
theorem dX1_schedules_5 : decode cX1_schedules 5 = .ok (.invokevirtual 308, 3) := dk_182 1 52 (dk_at dksX1_schedules_0 5 rfl rfl)
theorem dX1_schedules_8 : decode cX1_schedules 8 = .ok (.getfield 312, 3) := dk_180 1 56 (dk_at dksX1_schedules_0 8 rfl rfl)
theorem dX1_schedules_11 : decode cX1_schedules 11 = .ok (.lreturn, 1) := dk_173 (dk_at dksX1_schedules_0 11 rfl rfl)
abbrev cX1_meanSum : ByteArray := prog_1_method_56_code
def yX1_meanSum : MethodName := ⟨RX1, "meanSum", "()D"⟩
def dkwX1_meanSum_2 : List UInt8 := [167, 255, 236, 27, 135, 42, 182, 0, 178, 135, 111, 175]
abbrev dktX1_meanSum_2 : List UInt8 := dkwX1_meanSum_2 ++ []
def dkwX1_meanSum_1 : List UInt8 := [54, 4, 21, 4, 29, 162, 0, 20, 44, 21, 4, 46, 54, 5, 27, 21, 5, 96, 60, 132, 4, 1]
abbrev dktX1_meanSum_1 : List UInt8 := dkwX1_meanSum_1 ++ dktX1_meanSum_2
def dkwX1_meanSum_0 : List UInt8 := [42, 182, 0, 178, 184, 1, 75, 3, 60, 42, 180, 0, 43, 180, 0, 148, 180, 0, 162, 77, 44, 190, 62, 3]
abbrev dktX1_meanSum_0 : List UInt8 := dkwX1_meanSum_0 ++ dktX1_meanSum_1
theorem dksX1_meanSum_0 : cX1_meanSum.data.toList.drop 0 = dktX1_meanSum_0 := by decide +kernel
theorem dksX1_meanSum_1 : cX1_meanSum.data.toList.drop 24 = dktX1_meanSum_1 := dk_seg dksX1_meanSum_0 24 rfl rfl
theorem dksX1_meanSum_2 : cX1_meanSum.data.toList.drop 46 = dktX1_meanSum_2 := dk_seg dksX1_meanSum_1 22 rfl rfl
theorem dX1_meanSum_0 : decode cX1_meanSum 0 = .ok (.aload_n 0, 1) := dk_42 (dk_at dksX1_meanSum_0 0 rfl rfl)
theorem dX1_meanSum_1 : decode cX1_meanSum 1 = .ok (.invokevirtual 178, 3) := dk_182 0 178 (dk_at dksX1_meanSum_0 1 rfl rfl)
theorem dX1_meanSum_4 : decode cX1_meanSum 4 = .ok (.invokestatic 331, 3) := dk_184 1 75 (dk_at dksX1_meanSum_0 4 rfl rfl)
theorem dX1_meanSum_7 : decode cX1_meanSum 7 = .ok (.iconst 0, 1) := dk_3 (dk_at dksX1_meanSum_0 7 rfl rfl)
theorem dX1_meanSum_8 : decode cX1_meanSum 8 = .ok (.istore_n 1, 1) := dk_60 (dk_at dksX1_meanSum_0 8 rfl rfl)
theorem dX1_meanSum_9 : decode cX1_meanSum 9 = .ok (.aload_n 0, 1) := dk_42 (dk_at dksX1_meanSum_0 9 rfl rfl)
theorem dX1_meanSum_10 : decode cX1_meanSum 10 = .ok (.getfield 43, 3) := dk_180 0 43 (dk_at dksX1_meanSum_0 10 rfl rfl)
theorem dX1_meanSum_13 : decode cX1_meanSum 13 = .ok (.getfield 148, 3) := dk_180 0 148 (dk_at dksX1_meanSum_0 13 rfl rfl)
theorem dX1_meanSum_16 : decode cX1_meanSum 16 = .ok (.getfield 162, 3) := dk_180 0 162 (dk_at dksX1_meanSum_0 16 rfl rfl)
theorem dX1_meanSum_19 : decode cX1_meanSum 19 = .ok (.astore_n 2, 1) := dk_77 (dk_at dksX1_meanSum_0 19 rfl rfl)
theorem dX1_meanSum_20 : decode cX1_meanSum 20 = .ok (.aload_n 2, 1) := dk_44 (dk_at dksX1_meanSum_0 20 rfl rfl)
theorem dX1_meanSum_21 : decode cX1_meanSum 21 = .ok (.arraylength, 1) := dk_190 (dk_at dksX1_meanSum_0 21 rfl rfl)
theorem dX1_meanSum_22 : decode cX1_meanSum 22 = .ok (.istore_n 3, 1) := dk_62 (dk_at dksX1_meanSum_0 22 rfl rfl)
theorem dX1_meanSum_23 : decode cX1_meanSum 23 = .ok (.iconst 0, 1) := dk_3 (dk_at dksX1_meanSum_0 23 rfl rfl)
theorem dX1_meanSum_24 : decode cX1_meanSum 24 = .ok (.istore 4, 2) := dk_54 4 (dk_at dksX1_meanSum_1 0 rfl rfl)
theorem dX1_meanSum_26 : decode cX1_meanSum 26 = .ok (.iload 4, 2) := dk_21 4 (dk_at dksX1_meanSum_1 2 rfl rfl)
theorem dX1_meanSum_28 : decode cX1_meanSum 28 = .ok (.iload_n 3, 1) := dk_29 (dk_at dksX1_meanSum_1 4 rfl rfl)
theorem dX1_meanSum_29 : decode cX1_meanSum 29 = .ok (.if_icmp .ge 20, 3) := dk_162 0 20 (dk_at dksX1_meanSum_1 5 rfl rfl)
theorem dX1_meanSum_32 : decode cX1_meanSum 32 = .ok (.aload_n 2, 1) := dk_44 (dk_at dksX1_meanSum_1 8 rfl rfl)
theorem dX1_meanSum_33 : decode cX1_meanSum 33 = .ok (.iload 4, 2) := dk_21 4 (dk_at dksX1_meanSum_1 9 rfl rfl)
theorem dX1_meanSum_35 : decode cX1_meanSum 35 = .ok (.iaload, 1) := dk_46 (dk_at dksX1_meanSum_1 11 rfl rfl)
theorem dX1_meanSum_36 : decode cX1_meanSum 36 = .ok (.istore 5, 2) := dk_54 5 (dk_at dksX1_meanSum_1 12 rfl rfl)
theorem dX1_meanSum_38 : decode cX1_meanSum 38 = .ok (.iload_n 1, 1) := dk_27 (dk_at dksX1_meanSum_1 14 rfl rfl)
theorem dX1_meanSum_39 : decode cX1_meanSum 39 = .ok (.iload 5, 2) := dk_21 5 (dk_at dksX1_meanSum_1 15 rfl rfl)
theorem dX1_meanSum_41 : decode cX1_meanSum 41 = .ok (.iadd, 1) := dk_96 (dk_at dksX1_meanSum_1 17 rfl rfl)
theorem dX1_meanSum_42 : decode cX1_meanSum 42 = .ok (.istore_n 1, 1) := dk_60 (dk_at dksX1_meanSum_1 18 rfl rfl)
theorem dX1_meanSum_43 : decode cX1_meanSum 43 = .ok (.iinc 4 1, 3) := dk_132 4 1 (dk_at dksX1_meanSum_1 19 rfl rfl)
theorem dX1_meanSum_46 : decode cX1_meanSum 46 = .ok (.goto (-20), 3) := dk_167 255 236 (dk_at dksX1_meanSum_2 0 rfl rfl)
theorem dX1_meanSum_49 : decode cX1_meanSum 49 = .ok (.iload_n 1, 1) := dk_27 (dk_at dksX1_meanSum_2 3 rfl rfl)
theorem dX1_meanSum_50 : decode cX1_meanSum 50 = .ok (.i2d, 1) := dk_135 (dk_at dksX1_meanSum_2 4 rfl rfl)
theorem dX1_meanSum_51 : decode cX1_meanSum 51 = .ok (.aload_n 0, 1) := dk_42 (dk_at dksX1_meanSum_2 5 rfl rfl)
theorem dX1_meanSum_52 : decode cX1_meanSum 52 = .ok (.invokevirtual 178, 3) := dk_182 0 178 (dk_at dksX1_meanSum_2 6 rfl rfl)
theorem dX1_meanSum_55 : decode cX1_meanSum 55 = .ok (.i2d, 1) := dk_135 (dk_at dksX1_meanSum_2 9 rfl rfl)
theorem dX1_meanSum_56 : decode cX1_meanSum 56 = .ok (.ddiv, 1) := dk_111 (dk_at dksX1_meanSum_2 10 rfl rfl)
theorem dX1_meanSum_57 : decode cX1_meanSum 57 = .ok (.dreturn, 1) := dk_175 (dk_at dksX1_meanSum_2 11 rfl rfl)
abbrev cX1_requireDivisor : ByteArray := prog_1_method_55_code
def yX1_requireDivisor : MethodName := ⟨RX1, "requireDivisor", "(I)V"⟩
def dkwX1_requireDivisor_0 : List UInt8 := [26, 154, 0, 11, 187, 1, 72, 89, 183, 1, 74, 191, 177]
abbrev dktX1_requireDivisor_0 : List UInt8 := dkwX1_requireDivisor_0 ++ []
theorem dksX1_requireDivisor_0 : cX1_requireDivisor.data.toList.drop 0 = dktX1_requireDivisor_0 := by decide +kernel
theorem dX1_requireDivisor_0 : decode cX1_requireDivisor 0 = .ok (.iload_n 0, 1) := dk_26 (dk_at dksX1_requireDivisor_0 0 rfl rfl)
theorem dX1_requireDivisor_1 : decode cX1_requireDivisor 1 = .ok (.ifCond .ne 11, 3) := dk_154 0 11 (dk_at dksX1_requireDivisor_0 1 rfl rfl)
theorem dX1_requireDivisor_4 : decode cX1_requireDivisor 4 = .ok (.new 328, 3) := dk_187 1 72 (dk_at dksX1_requireDivisor_0 4 rfl rfl)
theorem dX1_requireDivisor_7 : decode cX1_requireDivisor 7 = .ok (.dup, 1) := dk_89 (dk_at dksX1_requireDivisor_0 7 rfl rfl)
theorem dX1_requireDivisor_8 : decode cX1_requireDivisor 8 = .ok (.invokespecial 330, 3) := dk_183 1 74 (dk_at dksX1_requireDivisor_0 8 rfl rfl)
theorem dX1_requireDivisor_11 : decode cX1_requireDivisor 11 = .ok (.athrow, 1) := dk_191 (dk_at dksX1_requireDivisor_0 11 rfl rfl)
theorem dX1_requireDivisor_12 : decode cX1_requireDivisor 12 = .ok (.return_, 1) := dk_177 (dk_at dksX1_requireDivisor_0 12 rfl rfl)
abbrev cX1_handledShare : ByteArray := prog_1_method_57_code
def yX1_handledShare : MethodName := ⟨RX1, "handledShare", "()F"⟩
def dkwX1_handledShare_0 : List UInt8 := [42, 182, 1, 78, 184, 1, 75, 42, 182, 1, 80, 134, 42, 182, 1, 78, 134, 110, 174]
abbrev dktX1_handledShare_0 : List UInt8 := dkwX1_handledShare_0 ++ []
theorem dksX1_handledShare_0 : cX1_handledShare.data.toList.drop 0 = dktX1_handledShare_0 := by decide +kernel
theorem dX1_handledShare_0 : decode cX1_handledShare 0 = .ok (.aload_n 0, 1) := dk_42 (dk_at dksX1_handledShare_0 0 rfl rfl)
theorem dX1_handledShare_1 : decode cX1_handledShare 1 = .ok (.invokevirtual 334, 3) := dk_182 1 78 (dk_at dksX1_handledShare_0 1 rfl rfl)
theorem dX1_handledShare_4 : decode cX1_handledShare 4 = .ok (.invokestatic 331, 3) := dk_184 1 75 (dk_at dksX1_handledShare_0 4 rfl rfl)
theorem dX1_handledShare_7 : decode cX1_handledShare 7 = .ok (.aload_n 0, 1) := dk_42 (dk_at dksX1_handledShare_0 7 rfl rfl)
theorem dX1_handledShare_8 : decode cX1_handledShare 8 = .ok (.invokevirtual 336, 3) := dk_182 1 80 (dk_at dksX1_handledShare_0 8 rfl rfl)
theorem dX1_handledShare_11 : decode cX1_handledShare 11 = .ok (.i2f, 1) := dk_134 (dk_at dksX1_handledShare_0 11 rfl rfl)
theorem dX1_handledShare_12 : decode cX1_handledShare 12 = .ok (.aload_n 0, 1) := dk_42 (dk_at dksX1_handledShare_0 12 rfl rfl)
theorem dX1_handledShare_13 : decode cX1_handledShare 13 = .ok (.invokevirtual 334, 3) := dk_182 1 78 (dk_at dksX1_handledShare_0 13 rfl rfl)
theorem dX1_handledShare_16 : decode cX1_handledShare 16 = .ok (.i2f, 1) := dk_134 (dk_at dksX1_handledShare_0 16 rfl rfl)
theorem dX1_handledShare_17 : decode cX1_handledShare 17 = .ok (.fdiv, 1) := dk_110 (dk_at dksX1_handledShare_0 17 rfl rfl)
theorem dX1_handledShare_18 : decode cX1_handledShare 18 = .ok (.freturn, 1) := dk_174 (dk_at dksX1_handledShare_0 18 rfl rfl)
abbrev cX1_feed : ByteArray := prog_1_method_58_code
def yX1_feed : MethodName := ⟨RX1, "feed", "(C)I"⟩
def dkwX1_feed_1 : List UInt8 := [27, 182, 1, 88, 87, 42, 180, 0, 57, 182, 1, 82, 172]
abbrev dktX1_feed_1 : List UInt8 := dkwX1_feed_1 ++ []
def dkwX1_feed_0 : List UInt8 := [42, 180, 0, 57, 182, 1, 82, 16, 60, 162, 0, 7, 4, 167, 0, 4, 3, 184, 1, 85, 42, 180, 0, 57]
abbrev dktX1_feed_0 : List UInt8 := dkwX1_feed_0 ++ dktX1_feed_1
theorem dksX1_feed_0 : cX1_feed.data.toList.drop 0 = dktX1_feed_0 := by decide +kernel
theorem dksX1_feed_1 : cX1_feed.data.toList.drop 24 = dktX1_feed_1 := dk_seg dksX1_feed_0 24 rfl rfl
theorem dX1_feed_0 : decode cX1_feed 0 = .ok (.aload_n 0, 1) := dk_42 (dk_at dksX1_feed_0 0 rfl rfl)
theorem dX1_feed_1 : decode cX1_feed 1 = .ok (.getfield 57, 3) := dk_180 0 57 (dk_at dksX1_feed_0 1 rfl rfl)
theorem dX1_feed_4 : decode cX1_feed 4 = .ok (.invokevirtual 338, 3) := dk_182 1 82 (dk_at dksX1_feed_0 4 rfl rfl)
theorem dX1_feed_7 : decode cX1_feed 7 = .ok (.bipush 60, 2) := dk_16 60 (dk_at dksX1_feed_0 7 rfl rfl)
theorem dX1_feed_9 : decode cX1_feed 9 = .ok (.if_icmp .ge 7, 3) := dk_162 0 7 (dk_at dksX1_feed_0 9 rfl rfl)
theorem dX1_feed_12 : decode cX1_feed 12 = .ok (.iconst 1, 1) := dk_4 (dk_at dksX1_feed_0 12 rfl rfl)
theorem dX1_feed_13 : decode cX1_feed 13 = .ok (.goto 4, 3) := dk_167 0 4 (dk_at dksX1_feed_0 13 rfl rfl)
theorem dX1_feed_16 : decode cX1_feed 16 = .ok (.iconst 0, 1) := dk_3 (dk_at dksX1_feed_0 16 rfl rfl)
theorem dX1_feed_17 : decode cX1_feed 17 = .ok (.invokestatic 341, 3) := dk_184 1 85 (dk_at dksX1_feed_0 17 rfl rfl)
theorem dX1_feed_20 : decode cX1_feed 20 = .ok (.aload_n 0, 1) := dk_42 (dk_at dksX1_feed_0 20 rfl rfl)
theorem dX1_feed_21 : decode cX1_feed 21 = .ok (.getfield 57, 3) := dk_180 0 57 (dk_at dksX1_feed_0 21 rfl rfl)
theorem dX1_feed_24 : decode cX1_feed 24 = .ok (.iload_n 1, 1) := dk_27 (dk_at dksX1_feed_1 0 rfl rfl)
theorem dX1_feed_25 : decode cX1_feed 25 = .ok (.invokevirtual 344, 3) := dk_182 1 88 (dk_at dksX1_feed_1 1 rfl rfl)
theorem dX1_feed_28 : decode cX1_feed 28 = .ok (.pop, 1) := dk_87 (dk_at dksX1_feed_1 4 rfl rfl)
theorem dX1_feed_29 : decode cX1_feed 29 = .ok (.aload_n 0, 1) := dk_42 (dk_at dksX1_feed_1 5 rfl rfl)
theorem dX1_feed_30 : decode cX1_feed 30 = .ok (.getfield 57, 3) := dk_180 0 57 (dk_at dksX1_feed_1 6 rfl rfl)
theorem dX1_feed_33 : decode cX1_feed 33 = .ok (.invokevirtual 338, 3) := dk_182 1 82 (dk_at dksX1_feed_1 9 rfl rfl)
theorem dX1_feed_36 : decode cX1_feed 36 = .ok (.ireturn, 1) := dk_172 (dk_at dksX1_feed_1 12 rfl rfl)
abbrev cX1_requireState : ByteArray := prog_1_method_7_code
def yX1_requireState : MethodName := ⟨RX1, "requireState", "(Z)V"⟩
def dkwX1_requireState_0 : List UInt8 := [26, 154, 0, 11, 187, 0, 29, 89, 183, 0, 31, 191, 177]
abbrev dktX1_requireState_0 : List UInt8 := dkwX1_requireState_0 ++ []
theorem dksX1_requireState_0 : cX1_requireState.data.toList.drop 0 = dktX1_requireState_0 := by decide +kernel
theorem dX1_requireState_0 : decode cX1_requireState 0 = .ok (.iload_n 0, 1) := dk_26 (dk_at dksX1_requireState_0 0 rfl rfl)
theorem dX1_requireState_1 : decode cX1_requireState 1 = .ok (.ifCond .ne 11, 3) := dk_154 0 11 (dk_at dksX1_requireState_0 1 rfl rfl)
theorem dX1_requireState_4 : decode cX1_requireState 4 = .ok (.new 29, 3) := dk_187 0 29 (dk_at dksX1_requireState_0 4 rfl rfl)
theorem dX1_requireState_7 : decode cX1_requireState 7 = .ok (.dup, 1) := dk_89 (dk_at dksX1_requireState_0 7 rfl rfl)
theorem dX1_requireState_8 : decode cX1_requireState 8 = .ok (.invokespecial 31, 3) := dk_183 0 31 (dk_at dksX1_requireState_0 8 rfl rfl)
theorem dX1_requireState_11 : decode cX1_requireState 11 = .ok (.athrow, 1) := dk_191 (dk_at dksX1_requireState_0 11 rfl rfl)
theorem dX1_requireState_12 : decode cX1_requireState 12 = .ok (.return_, 1) := dk_177 (dk_at dksX1_requireState_0 12 rfl rfl)
abbrev cX1_execute : ByteArray := prog_1_method_62_code
def yX1_execute : MethodName := ⟨RX1, "execute", "()I"⟩
def dkwX1_execute_2 : List UInt8 := [182, 1, 133, 192, 1, 118, 185, 1, 140, 1, 0, 182, 0, 101, 172]
abbrev dktX1_execute_2 : List UInt8 := dkwX1_execute_2 ++ []
def dkwX1_execute_1 : List UInt8 := [43, 182, 1, 133, 192, 1, 118, 44, 184, 1, 136, 167, 0, 10, 78, 42, 45, 182, 0, 105, 191, 42, 44, 43]
abbrev dktX1_execute_1 : List UInt8 := dkwX1_execute_1 ++ dktX1_execute_2
def dkwX1_execute_0 : List UInt8 := [42, 182, 1, 127, 76, 43, 182, 1, 130, 184, 0, 13, 187, 0, 40, 89, 42, 180, 0, 43, 183, 0, 92, 77]
abbrev dktX1_execute_0 : List UInt8 := dkwX1_execute_0 ++ dktX1_execute_1
theorem dksX1_execute_0 : cX1_execute.data.toList.drop 0 = dktX1_execute_0 := by decide +kernel
theorem dksX1_execute_1 : cX1_execute.data.toList.drop 24 = dktX1_execute_1 := dk_seg dksX1_execute_0 24 rfl rfl
theorem dksX1_execute_2 : cX1_execute.data.toList.drop 48 = dktX1_execute_2 := dk_seg dksX1_execute_1 24 rfl rfl
theorem dX1_execute_0 : decode cX1_execute 0 = .ok (.aload_n 0, 1) := dk_42 (dk_at dksX1_execute_0 0 rfl rfl)
theorem dX1_execute_1 : decode cX1_execute 1 = .ok (.invokevirtual 383, 3) := dk_182 1 127 (dk_at dksX1_execute_0 1 rfl rfl)
theorem dX1_execute_4 : decode cX1_execute 4 = .ok (.astore_n 1, 1) := dk_76 (dk_at dksX1_execute_0 4 rfl rfl)
theorem dX1_execute_5 : decode cX1_execute 5 = .ok (.aload_n 1, 1) := dk_43 (dk_at dksX1_execute_0 5 rfl rfl)
theorem dX1_execute_6 : decode cX1_execute 6 = .ok (.invokevirtual 386, 3) := dk_182 1 130 (dk_at dksX1_execute_0 6 rfl rfl)
theorem dX1_execute_9 : decode cX1_execute 9 = .ok (.invokestatic 13, 3) := dk_184 0 13 (dk_at dksX1_execute_0 9 rfl rfl)
theorem dX1_execute_12 : decode cX1_execute 12 = .ok (.new 40, 3) := dk_187 0 40 (dk_at dksX1_execute_0 12 rfl rfl)
theorem dX1_execute_15 : decode cX1_execute 15 = .ok (.dup, 1) := dk_89 (dk_at dksX1_execute_0 15 rfl rfl)
theorem dX1_execute_16 : decode cX1_execute 16 = .ok (.aload_n 0, 1) := dk_42 (dk_at dksX1_execute_0 16 rfl rfl)
theorem dX1_execute_17 : decode cX1_execute 17 = .ok (.getfield 43, 3) := dk_180 0 43 (dk_at dksX1_execute_0 17 rfl rfl)
theorem dX1_execute_20 : decode cX1_execute 20 = .ok (.invokespecial 92, 3) := dk_183 0 92 (dk_at dksX1_execute_0 20 rfl rfl)
theorem dX1_execute_23 : decode cX1_execute 23 = .ok (.astore_n 2, 1) := dk_77 (dk_at dksX1_execute_0 23 rfl rfl)
theorem dX1_execute_24 : decode cX1_execute 24 = .ok (.aload_n 1, 1) := dk_43 (dk_at dksX1_execute_1 0 rfl rfl)
theorem dX1_execute_25 : decode cX1_execute 25 = .ok (.invokevirtual 389, 3) := dk_182 1 133 (dk_at dksX1_execute_1 1 rfl rfl)
theorem dX1_execute_28 : decode cX1_execute 28 = .ok (.checkcast 374, 3) := dk_192 1 118 (dk_at dksX1_execute_1 4 rfl rfl)
theorem dX1_execute_31 : decode cX1_execute 31 = .ok (.aload_n 2, 1) := dk_44 (dk_at dksX1_execute_1 7 rfl rfl)
theorem dX1_execute_32 : decode cX1_execute 32 = .ok (.invokestatic 392, 3) := dk_184 1 136 (dk_at dksX1_execute_1 8 rfl rfl)
theorem dX1_execute_35 : decode cX1_execute 35 = .ok (.goto 10, 3) := dk_167 0 10 (dk_at dksX1_execute_1 11 rfl rfl)
theorem dX1_execute_38 : decode cX1_execute 38 = .ok (.astore_n 3, 1) := dk_78 (dk_at dksX1_execute_1 14 rfl rfl)
theorem dX1_execute_39 : decode cX1_execute 39 = .ok (.aload_n 0, 1) := dk_42 (dk_at dksX1_execute_1 15 rfl rfl)
theorem dX1_execute_40 : decode cX1_execute 40 = .ok (.aload_n 3, 1) := dk_45 (dk_at dksX1_execute_1 16 rfl rfl)
theorem dX1_execute_41 : decode cX1_execute 41 = .ok (.invokevirtual 105, 3) := dk_182 0 105 (dk_at dksX1_execute_1 17 rfl rfl)
theorem dX1_execute_44 : decode cX1_execute 44 = .ok (.athrow, 1) := dk_191 (dk_at dksX1_execute_1 20 rfl rfl)
theorem dX1_execute_45 : decode cX1_execute 45 = .ok (.aload_n 0, 1) := dk_42 (dk_at dksX1_execute_1 21 rfl rfl)
theorem dX1_execute_46 : decode cX1_execute 46 = .ok (.aload_n 2, 1) := dk_44 (dk_at dksX1_execute_1 22 rfl rfl)
theorem dX1_execute_47 : decode cX1_execute 47 = .ok (.aload_n 1, 1) := dk_43 (dk_at dksX1_execute_1 23 rfl rfl)
theorem dX1_execute_48 : decode cX1_execute 48 = .ok (.invokevirtual 389, 3) := dk_182 1 133 (dk_at dksX1_execute_2 0 rfl rfl)
theorem dX1_execute_51 : decode cX1_execute 51 = .ok (.checkcast 374, 3) := dk_192 1 118 (dk_at dksX1_execute_2 3 rfl rfl)
theorem dX1_execute_54 : decode cX1_execute 54 = .ok (.invokeinterface 396 1, 5) := by decide +kernel
theorem dX1_execute_59 : decode cX1_execute 59 = .ok (.invokevirtual 101, 3) := dk_182 0 101 (dk_at dksX1_execute_2 11 rfl rfl)
theorem dX1_execute_62 : decode cX1_execute 62 = .ok (.ireturn, 1) := dk_172 (dk_at dksX1_execute_2 14 rfl rfl)
abbrev cX1_parse : ByteArray := prog_1_method_59_code
def yX1_parse : MethodName := ⟨RX1, "parse", "()Ljava/util/Optional;"⟩
def dkwX1_parse_2 : List UInt8 := [78, 42, 180, 0, 57, 3, 182, 1, 105, 45, 191]
abbrev dktX1_parse_2 : List UInt8 := dkwX1_parse_2 ++ []
def dkwX1_parse_1 : List UInt8 := [176, 76, 42, 43, 180, 1, 110, 181, 0, 67, 184, 1, 113, 77, 42, 180, 0, 57, 3, 182, 1, 105, 44, 176]
abbrev dktX1_parse_1 : List UInt8 := dkwX1_parse_1 ++ dktX1_parse_2
def dkwX1_parse_0 : List UInt8 := [187, 1, 92, 89, 42, 183, 1, 94, 182, 1, 95, 184, 1, 99, 76, 42, 180, 0, 57, 3, 182, 1, 105, 43]
abbrev dktX1_parse_0 : List UInt8 := dkwX1_parse_0 ++ dktX1_parse_1
theorem dksX1_parse_0 : cX1_parse.data.toList.drop 0 = dktX1_parse_0 := by decide +kernel
theorem dksX1_parse_1 : cX1_parse.data.toList.drop 24 = dktX1_parse_1 := dk_seg dksX1_parse_0 24 rfl rfl
theorem dksX1_parse_2 : cX1_parse.data.toList.drop 48 = dktX1_parse_2 := dk_seg dksX1_parse_1 24 rfl rfl
theorem dX1_parse_0 : decode cX1_parse 0 = .ok (.new 348, 3) := dk_187 1 92 (dk_at dksX1_parse_0 0 rfl rfl)
theorem dX1_parse_3 : decode cX1_parse 3 = .ok (.dup, 1) := dk_89 (dk_at dksX1_parse_0 3 rfl rfl)
theorem dX1_parse_4 : decode cX1_parse 4 = .ok (.aload_n 0, 1) := dk_42 (dk_at dksX1_parse_0 4 rfl rfl)
theorem dX1_parse_5 : decode cX1_parse 5 = .ok (.invokespecial 350, 3) := dk_183 1 94 (dk_at dksX1_parse_0 5 rfl rfl)
theorem dX1_parse_8 : decode cX1_parse 8 = .ok (.invokevirtual 351, 3) := dk_182 1 95 (dk_at dksX1_parse_0 8 rfl rfl)
theorem dX1_parse_11 : decode cX1_parse 11 = .ok (.invokestatic 355, 3) := dk_184 1 99 (dk_at dksX1_parse_0 11 rfl rfl)
theorem dX1_parse_14 : decode cX1_parse 14 = .ok (.astore_n 1, 1) := dk_76 (dk_at dksX1_parse_0 14 rfl rfl)
theorem dX1_parse_15 : decode cX1_parse 15 = .ok (.aload_n 0, 1) := dk_42 (dk_at dksX1_parse_0 15 rfl rfl)
theorem dX1_parse_16 : decode cX1_parse 16 = .ok (.getfield 57, 3) := dk_180 0 57 (dk_at dksX1_parse_0 16 rfl rfl)
theorem dX1_parse_19 : decode cX1_parse 19 = .ok (.iconst 0, 1) := dk_3 (dk_at dksX1_parse_0 19 rfl rfl)
theorem dX1_parse_20 : decode cX1_parse 20 = .ok (.invokevirtual 361, 3) := dk_182 1 105 (dk_at dksX1_parse_0 20 rfl rfl)
theorem dX1_parse_23 : decode cX1_parse 23 = .ok (.aload_n 1, 1) := dk_43 (dk_at dksX1_parse_0 23 rfl rfl)
theorem dX1_parse_24 : decode cX1_parse 24 = .ok (.areturn, 1) := dk_176 (dk_at dksX1_parse_1 0 rfl rfl)
theorem dX1_parse_25 : decode cX1_parse 25 = .ok (.astore_n 1, 1) := dk_76 (dk_at dksX1_parse_1 1 rfl rfl)
theorem dX1_parse_26 : decode cX1_parse 26 = .ok (.aload_n 0, 1) := dk_42 (dk_at dksX1_parse_1 2 rfl rfl)
theorem dX1_parse_27 : decode cX1_parse 27 = .ok (.aload_n 1, 1) := dk_43 (dk_at dksX1_parse_1 3 rfl rfl)
theorem dX1_parse_28 : decode cX1_parse 28 = .ok (.getfield 366, 3) := dk_180 1 110 (dk_at dksX1_parse_1 4 rfl rfl)
theorem dX1_parse_31 : decode cX1_parse 31 = .ok (.putfield 67, 3) := dk_181 0 67 (dk_at dksX1_parse_1 7 rfl rfl)
theorem dX1_parse_34 : decode cX1_parse 34 = .ok (.invokestatic 369, 3) := dk_184 1 113 (dk_at dksX1_parse_1 10 rfl rfl)
theorem dX1_parse_37 : decode cX1_parse 37 = .ok (.astore_n 2, 1) := dk_77 (dk_at dksX1_parse_1 13 rfl rfl)
theorem dX1_parse_38 : decode cX1_parse 38 = .ok (.aload_n 0, 1) := dk_42 (dk_at dksX1_parse_1 14 rfl rfl)
theorem dX1_parse_39 : decode cX1_parse 39 = .ok (.getfield 57, 3) := dk_180 0 57 (dk_at dksX1_parse_1 15 rfl rfl)
theorem dX1_parse_42 : decode cX1_parse 42 = .ok (.iconst 0, 1) := dk_3 (dk_at dksX1_parse_1 18 rfl rfl)
theorem dX1_parse_43 : decode cX1_parse 43 = .ok (.invokevirtual 361, 3) := dk_182 1 105 (dk_at dksX1_parse_1 19 rfl rfl)
theorem dX1_parse_46 : decode cX1_parse 46 = .ok (.aload_n 2, 1) := dk_44 (dk_at dksX1_parse_1 22 rfl rfl)
theorem dX1_parse_47 : decode cX1_parse 47 = .ok (.areturn, 1) := dk_176 (dk_at dksX1_parse_1 23 rfl rfl)
theorem dX1_parse_48 : decode cX1_parse 48 = .ok (.astore_n 3, 1) := dk_78 (dk_at dksX1_parse_2 0 rfl rfl)
theorem dX1_parse_49 : decode cX1_parse 49 = .ok (.aload_n 0, 1) := dk_42 (dk_at dksX1_parse_2 1 rfl rfl)
theorem dX1_parse_50 : decode cX1_parse 50 = .ok (.getfield 57, 3) := dk_180 0 57 (dk_at dksX1_parse_2 2 rfl rfl)
theorem dX1_parse_53 : decode cX1_parse 53 = .ok (.iconst 0, 1) := dk_3 (dk_at dksX1_parse_2 5 rfl rfl)
theorem dX1_parse_54 : decode cX1_parse 54 = .ok (.invokevirtual 361, 3) := dk_182 1 105 (dk_at dksX1_parse_2 6 rfl rfl)
theorem dX1_parse_57 : decode cX1_parse 57 = .ok (.aload_n 3, 1) := dk_45 (dk_at dksX1_parse_2 9 rfl rfl)
theorem dX1_parse_58 : decode cX1_parse 58 = .ok (.athrow, 1) := dk_191 (dk_at dksX1_parse_2 10 rfl rfl)
abbrev cX1_applyAll : ByteArray := prog_1_method_61_code
def yX1_applyAll : MethodName := ⟨RX1, "applyAll", "(Ljava/util/List;LSpindleActors$Stage;)V"⟩
def dkwX1_applyAll_2 : List UInt8 := [28, 25, 5, 183, 1, 124, 191, 132, 2, 1, 167, 255, 207, 177]
abbrev dktX1_applyAll_2 : List UInt8 := dkwX1_applyAll_2 ++ []
def dkwX1_applyAll_1 : List UInt8 := [192, 0, 96, 58, 4, 25, 4, 43, 184, 1, 120, 54, 5, 167, 0, 18, 58, 5, 187, 0, 32, 89, 16, 6]
abbrev dktX1_applyAll_1 : List UInt8 := dkwX1_applyAll_1 ++ dktX1_applyAll_2
def dkwX1_applyAll_0 : List UInt8 := [3, 61, 42, 185, 1, 117, 1, 0, 78, 45, 185, 0, 254, 1, 0, 153, 0, 46, 45, 185, 1, 4, 1, 0]
abbrev dktX1_applyAll_0 : List UInt8 := dkwX1_applyAll_0 ++ dktX1_applyAll_1
theorem dksX1_applyAll_0 : cX1_applyAll.data.toList.drop 0 = dktX1_applyAll_0 := by decide +kernel
theorem dksX1_applyAll_1 : cX1_applyAll.data.toList.drop 24 = dktX1_applyAll_1 := dk_seg dksX1_applyAll_0 24 rfl rfl
theorem dksX1_applyAll_2 : cX1_applyAll.data.toList.drop 48 = dktX1_applyAll_2 := dk_seg dksX1_applyAll_1 24 rfl rfl
theorem dX1_applyAll_0 : decode cX1_applyAll 0 = .ok (.iconst 0, 1) := dk_3 (dk_at dksX1_applyAll_0 0 rfl rfl)
theorem dX1_applyAll_1 : decode cX1_applyAll 1 = .ok (.istore_n 2, 1) := dk_61 (dk_at dksX1_applyAll_0 1 rfl rfl)
theorem dX1_applyAll_2 : decode cX1_applyAll 2 = .ok (.aload_n 0, 1) := dk_42 (dk_at dksX1_applyAll_0 2 rfl rfl)
theorem dX1_applyAll_3 : decode cX1_applyAll 3 = .ok (.invokeinterface 373 1, 5) := by decide +kernel
theorem dX1_applyAll_8 : decode cX1_applyAll 8 = .ok (.astore_n 3, 1) := dk_78 (dk_at dksX1_applyAll_0 8 rfl rfl)
theorem dX1_applyAll_9 : decode cX1_applyAll 9 = .ok (.aload_n 3, 1) := dk_45 (dk_at dksX1_applyAll_0 9 rfl rfl)
theorem dX1_applyAll_10 : decode cX1_applyAll 10 = .ok (.invokeinterface 254 1, 5) := by decide +kernel
theorem dX1_applyAll_15 : decode cX1_applyAll 15 = .ok (.ifCond .eq 46, 3) := dk_153 0 46 (dk_at dksX1_applyAll_0 15 rfl rfl)
theorem dX1_applyAll_18 : decode cX1_applyAll 18 = .ok (.aload_n 3, 1) := dk_45 (dk_at dksX1_applyAll_0 18 rfl rfl)
theorem dX1_applyAll_19 : decode cX1_applyAll 19 = .ok (.invokeinterface 260 1, 5) := by decide +kernel
theorem dX1_applyAll_24 : decode cX1_applyAll 24 = .ok (.checkcast 96, 3) := dk_192 0 96 (dk_at dksX1_applyAll_1 0 rfl rfl)
theorem dX1_applyAll_27 : decode cX1_applyAll 27 = .ok (.astore 4, 2) := dk_58 4 (dk_at dksX1_applyAll_1 3 rfl rfl)
theorem dX1_applyAll_29 : decode cX1_applyAll 29 = .ok (.aload 4, 2) := dk_25 4 (dk_at dksX1_applyAll_1 5 rfl rfl)
theorem dX1_applyAll_31 : decode cX1_applyAll 31 = .ok (.aload_n 1, 1) := dk_43 (dk_at dksX1_applyAll_1 7 rfl rfl)
theorem dX1_applyAll_32 : decode cX1_applyAll 32 = .ok (.invokestatic 376, 3) := dk_184 1 120 (dk_at dksX1_applyAll_1 8 rfl rfl)
theorem dX1_applyAll_35 : decode cX1_applyAll 35 = .ok (.istore 5, 2) := dk_54 5 (dk_at dksX1_applyAll_1 11 rfl rfl)
theorem dX1_applyAll_37 : decode cX1_applyAll 37 = .ok (.goto 18, 3) := dk_167 0 18 (dk_at dksX1_applyAll_1 13 rfl rfl)
theorem dX1_applyAll_40 : decode cX1_applyAll 40 = .ok (.astore 5, 2) := dk_58 5 (dk_at dksX1_applyAll_1 16 rfl rfl)
theorem dX1_applyAll_42 : decode cX1_applyAll 42 = .ok (.new 32, 3) := dk_187 0 32 (dk_at dksX1_applyAll_1 18 rfl rfl)
theorem dX1_applyAll_45 : decode cX1_applyAll 45 = .ok (.dup, 1) := dk_89 (dk_at dksX1_applyAll_1 21 rfl rfl)
theorem dX1_applyAll_46 : decode cX1_applyAll 46 = .ok (.bipush 6, 2) := dk_16 6 (dk_at dksX1_applyAll_1 22 rfl rfl)
theorem dX1_applyAll_48 : decode cX1_applyAll 48 = .ok (.iload_n 2, 1) := dk_28 (dk_at dksX1_applyAll_2 0 rfl rfl)
theorem dX1_applyAll_49 : decode cX1_applyAll 49 = .ok (.aload 5, 2) := dk_25 5 (dk_at dksX1_applyAll_2 1 rfl rfl)
theorem dX1_applyAll_51 : decode cX1_applyAll 51 = .ok (.invokespecial 380, 3) := dk_183 1 124 (dk_at dksX1_applyAll_2 3 rfl rfl)
theorem dX1_applyAll_54 : decode cX1_applyAll 54 = .ok (.athrow, 1) := dk_191 (dk_at dksX1_applyAll_2 6 rfl rfl)
theorem dX1_applyAll_55 : decode cX1_applyAll 55 = .ok (.iinc 2 1, 3) := dk_132 2 1 (dk_at dksX1_applyAll_2 7 rfl rfl)
theorem dX1_applyAll_58 : decode cX1_applyAll 58 = .ok (.goto (-49), 3) := dk_167 255 207 (dk_at dksX1_applyAll_2 10 rfl rfl)
theorem dX1_applyAll_61 : decode cX1_applyAll 61 = .ok (.return_, 1) := dk_177 (dk_at dksX1_applyAll_2 13 rfl rfl)
abbrev cX1_applyCommand : ByteArray := prog_1_method_60_code
def yX1_applyCommand : MethodName := ⟨RX1, "applyCommand", "(LSpindleActors$Change;LSpindleActors$Stage;)I"⟩
def dkwX1_applyCommand_0 : List UInt8 := [42, 43, 182, 0, 95, 172, 77, 187, 0, 32, 89, 16, 7, 3, 183, 0, 34, 191]
abbrev dktX1_applyCommand_0 : List UInt8 := dkwX1_applyCommand_0 ++ []
theorem dksX1_applyCommand_0 : cX1_applyCommand.data.toList.drop 0 = dktX1_applyCommand_0 := by decide +kernel
theorem dX1_applyCommand_0 : decode cX1_applyCommand 0 = .ok (.aload_n 0, 1) := dk_42 (dk_at dksX1_applyCommand_0 0 rfl rfl)
theorem dX1_applyCommand_1 : decode cX1_applyCommand 1 = .ok (.aload_n 1, 1) := dk_43 (dk_at dksX1_applyCommand_0 1 rfl rfl)
theorem dX1_applyCommand_2 : decode cX1_applyCommand 2 = .ok (.invokevirtual 95, 3) := dk_182 0 95 (dk_at dksX1_applyCommand_0 2 rfl rfl)
theorem dX1_applyCommand_5 : decode cX1_applyCommand 5 = .ok (.ireturn, 1) := dk_172 (dk_at dksX1_applyCommand_0 5 rfl rfl)
theorem dX1_applyCommand_6 : decode cX1_applyCommand 6 = .ok (.astore_n 2, 1) := dk_77 (dk_at dksX1_applyCommand_0 6 rfl rfl)
theorem dX1_applyCommand_7 : decode cX1_applyCommand 7 = .ok (.new 32, 3) := dk_187 0 32 (dk_at dksX1_applyCommand_0 7 rfl rfl)
theorem dX1_applyCommand_10 : decode cX1_applyCommand 10 = .ok (.dup, 1) := dk_89 (dk_at dksX1_applyCommand_0 10 rfl rfl)
theorem dX1_applyCommand_11 : decode cX1_applyCommand 11 = .ok (.bipush 7, 2) := dk_16 7 (dk_at dksX1_applyCommand_0 11 rfl rfl)
theorem dX1_applyCommand_13 : decode cX1_applyCommand 13 = .ok (.iconst 0, 1) := dk_3 (dk_at dksX1_applyCommand_0 13 rfl rfl)
theorem dX1_applyCommand_14 : decode cX1_applyCommand 14 = .ok (.invokespecial 34, 3) := dk_183 0 34 (dk_at dksX1_applyCommand_0 14 rfl rfl)
theorem dX1_applyCommand_17 : decode cX1_applyCommand 17 = .ok (.athrow, 1) := dk_191 (dk_at dksX1_applyCommand_0 17 rfl rfl)
abbrev cX1_faultPosition : ByteArray := prog_1_method_63_code
def yX1_faultPosition : MethodName := ⟨RX1, "faultPosition", "()I"⟩
def dkwX1_faultPosition_0 : List UInt8 := [42, 180, 0, 67, 2, 159, 0, 7, 4, 167, 0, 4, 3, 184, 0, 169, 42, 180, 0, 67, 172]
abbrev dktX1_faultPosition_0 : List UInt8 := dkwX1_faultPosition_0 ++ []
theorem dksX1_faultPosition_0 : cX1_faultPosition.data.toList.drop 0 = dktX1_faultPosition_0 := by decide +kernel
theorem dX1_faultPosition_0 : decode cX1_faultPosition 0 = .ok (.aload_n 0, 1) := dk_42 (dk_at dksX1_faultPosition_0 0 rfl rfl)
theorem dX1_faultPosition_1 : decode cX1_faultPosition 1 = .ok (.getfield 67, 3) := dk_180 0 67 (dk_at dksX1_faultPosition_0 1 rfl rfl)
theorem dX1_faultPosition_4 : decode cX1_faultPosition 4 = .ok (.iconst (-1), 1) := dk_2 (dk_at dksX1_faultPosition_0 4 rfl rfl)
theorem dX1_faultPosition_5 : decode cX1_faultPosition 5 = .ok (.if_icmp .eq 7, 3) := dk_159 0 7 (dk_at dksX1_faultPosition_0 5 rfl rfl)
theorem dX1_faultPosition_8 : decode cX1_faultPosition 8 = .ok (.iconst 1, 1) := dk_4 (dk_at dksX1_faultPosition_0 8 rfl rfl)
theorem dX1_faultPosition_9 : decode cX1_faultPosition 9 = .ok (.goto 4, 3) := dk_167 0 4 (dk_at dksX1_faultPosition_0 9 rfl rfl)
theorem dX1_faultPosition_12 : decode cX1_faultPosition 12 = .ok (.iconst 0, 1) := dk_3 (dk_at dksX1_faultPosition_0 12 rfl rfl)
theorem dX1_faultPosition_13 : decode cX1_faultPosition 13 = .ok (.invokestatic 169, 3) := dk_184 0 169 (dk_at dksX1_faultPosition_0 13 rfl rfl)
theorem dX1_faultPosition_16 : decode cX1_faultPosition 16 = .ok (.aload_n 0, 1) := dk_42 (dk_at dksX1_faultPosition_0 16 rfl rfl)
theorem dX1_faultPosition_17 : decode cX1_faultPosition 17 = .ok (.getfield 67, 3) := dk_180 0 67 (dk_at dksX1_faultPosition_0 17 rfl rfl)
theorem dX1_faultPosition_20 : decode cX1_faultPosition 20 = .ok (.ireturn, 1) := dk_172 (dk_at dksX1_faultPosition_0 20 rfl rfl)
abbrev cX1_writeActor : ByteArray := prog_1_method_65_code
def yX1_writeActor : MethodName := ⟨RX1, "writeActor", "(I)I"⟩
def dkwX1_writeActor_10 : List UInt8 := [42, 180, 0, 63, 182, 1, 190, 172]
abbrev dktX1_writeActor_10 : List UInt8 := dkwX1_writeActor_10 ++ []
def dkwX1_writeActor_9 : List UInt8 := [182, 1, 183, 184, 1, 186, 182, 1, 154, 87, 132, 3, 1, 167, 255, 215, 42, 44, 182, 1, 168, 181, 0, 63]
abbrev dktX1_writeActor_9 : List UInt8 := dkwX1_writeActor_9 ++ dktX1_writeActor_10
def dkwX1_writeActor_8 : List UInt8 := [162, 0, 38, 44, 19, 1, 178, 182, 1, 154, 42, 27, 29, 182, 1, 180, 182, 1, 145, 42, 27, 29]
abbrev dktX1_writeActor_8 : List UInt8 := dkwX1_writeActor_8 ++ dktX1_writeActor_9
def dkwX1_writeActor_7 : List UInt8 := [153, 0, 9, 19, 1, 176, 167, 0, 5, 18, 61, 182, 1, 154, 87, 3, 62, 29, 42, 27, 182, 0, 223]
abbrev dktX1_writeActor_7 : List UInt8 := dkwX1_writeActor_7 ++ dktX1_writeActor_8
def dkwX1_writeActor_6 : List UInt8 := [180, 0, 133, 180, 0, 166, 27, 46, 182, 1, 145, 182, 1, 168, 182, 1, 154, 87, 44, 42, 27, 182, 1, 174]
abbrev dktX1_writeActor_6 : List UInt8 := dkwX1_writeActor_6 ++ dktX1_writeActor_7
def dkwX1_writeActor_5 : List UInt8 := [18, 61, 167, 0, 34, 187, 0, 54, 89, 183, 0, 56, 19, 1, 172, 182, 1, 154, 42, 180, 0, 43]
abbrev dktX1_writeActor_5 : List UInt8 := dkwX1_writeActor_5 ++ dktX1_writeActor_6
def dkwX1_writeActor_4 : List UInt8 := [18, 61, 182, 1, 154, 87, 44, 42, 180, 0, 43, 180, 0, 133, 180, 0, 166, 27, 46, 2, 160, 0, 8]
abbrev dktX1_writeActor_4 : List UInt8 := dkwX1_writeActor_4 ++ dktX1_writeActor_5
def dkwX1_writeActor_3 : List UInt8 := [182, 1, 154, 42, 180, 0, 43, 180, 0, 133, 180, 1, 165, 27, 46, 182, 1, 145, 182, 1, 168, 167, 0, 5]
abbrev dktX1_writeActor_3 : List UInt8 := dkwX1_writeActor_3 ++ dktX1_writeActor_4
def dkwX1_writeActor_2 : List UInt8 := [42, 180, 0, 43, 180, 0, 133, 27, 182, 1, 160, 153, 0, 37, 187, 0, 54, 89, 183, 0, 56, 19, 1, 163]
abbrev dktX1_writeActor_2 : List UInt8 := dkwX1_writeActor_2 ++ dktX1_writeActor_3
def dkwX1_writeActor_1 : List UInt8 := [42, 27, 182, 1, 148, 182, 1, 88, 19, 1, 152, 182, 1, 154, 42, 27, 182, 1, 157, 182, 1, 145, 87, 44]
abbrev dktX1_writeActor_1 : List UInt8 := dkwX1_writeActor_1 ++ dktX1_writeActor_2
def dkwX1_writeActor_0 : List UInt8 := [42, 180, 0, 43, 180, 0, 133, 27, 182, 0, 144, 187, 0, 54, 89, 183, 0, 56, 77, 44, 27, 182, 1, 145]
abbrev dktX1_writeActor_0 : List UInt8 := dkwX1_writeActor_0 ++ dktX1_writeActor_1
theorem dksX1_writeActor_0 : cX1_writeActor.data.toList.drop 0 = dktX1_writeActor_0 := by decide +kernel
theorem dksX1_writeActor_1 : cX1_writeActor.data.toList.drop 24 = dktX1_writeActor_1 := dk_seg dksX1_writeActor_0 24 rfl rfl
theorem dksX1_writeActor_2 : cX1_writeActor.data.toList.drop 48 = dktX1_writeActor_2 := dk_seg dksX1_writeActor_1 24 rfl rfl
theorem dksX1_writeActor_3 : cX1_writeActor.data.toList.drop 72 = dktX1_writeActor_3 := dk_seg dksX1_writeActor_2 24 rfl rfl
theorem dksX1_writeActor_4 : cX1_writeActor.data.toList.drop 96 = dktX1_writeActor_4 := dk_seg dksX1_writeActor_3 24 rfl rfl
theorem dksX1_writeActor_5 : cX1_writeActor.data.toList.drop 119 = dktX1_writeActor_5 := dk_seg dksX1_writeActor_4 23 rfl rfl
theorem dksX1_writeActor_6 : cX1_writeActor.data.toList.drop 141 = dktX1_writeActor_6 := dk_seg dksX1_writeActor_5 22 rfl rfl
theorem dksX1_writeActor_7 : cX1_writeActor.data.toList.drop 165 = dktX1_writeActor_7 := dk_seg dksX1_writeActor_6 24 rfl rfl
theorem dksX1_writeActor_8 : cX1_writeActor.data.toList.drop 188 = dktX1_writeActor_8 := dk_seg dksX1_writeActor_7 23 rfl rfl
theorem dksX1_writeActor_9 : cX1_writeActor.data.toList.drop 210 = dktX1_writeActor_9 := dk_seg dksX1_writeActor_8 22 rfl rfl
theorem dksX1_writeActor_10 : cX1_writeActor.data.toList.drop 234 = dktX1_writeActor_10 := dk_seg dksX1_writeActor_9 24 rfl rfl
theorem dX1_writeActor_0 : decode cX1_writeActor 0 = .ok (.aload_n 0, 1) := dk_42 (dk_at dksX1_writeActor_0 0 rfl rfl)
theorem dX1_writeActor_1 : decode cX1_writeActor 1 = .ok (.getfield 43, 3) := dk_180 0 43 (dk_at dksX1_writeActor_0 1 rfl rfl)
theorem dX1_writeActor_4 : decode cX1_writeActor 4 = .ok (.getfield 133, 3) := dk_180 0 133 (dk_at dksX1_writeActor_0 4 rfl rfl)
theorem dX1_writeActor_7 : decode cX1_writeActor 7 = .ok (.iload_n 1, 1) := dk_27 (dk_at dksX1_writeActor_0 7 rfl rfl)
theorem dX1_writeActor_8 : decode cX1_writeActor 8 = .ok (.invokevirtual 144, 3) := dk_182 0 144 (dk_at dksX1_writeActor_0 8 rfl rfl)
theorem dX1_writeActor_11 : decode cX1_writeActor 11 = .ok (.new 54, 3) := dk_187 0 54 (dk_at dksX1_writeActor_0 11 rfl rfl)
theorem dX1_writeActor_14 : decode cX1_writeActor 14 = .ok (.dup, 1) := dk_89 (dk_at dksX1_writeActor_0 14 rfl rfl)
theorem dX1_writeActor_15 : decode cX1_writeActor 15 = .ok (.invokespecial 56, 3) := dk_183 0 56 (dk_at dksX1_writeActor_0 15 rfl rfl)
theorem dX1_writeActor_18 : decode cX1_writeActor 18 = .ok (.astore_n 2, 1) := dk_77 (dk_at dksX1_writeActor_0 18 rfl rfl)
theorem dX1_writeActor_19 : decode cX1_writeActor 19 = .ok (.aload_n 2, 1) := dk_44 (dk_at dksX1_writeActor_0 19 rfl rfl)
theorem dX1_writeActor_20 : decode cX1_writeActor 20 = .ok (.iload_n 1, 1) := dk_27 (dk_at dksX1_writeActor_0 20 rfl rfl)
theorem dX1_writeActor_21 : decode cX1_writeActor 21 = .ok (.invokevirtual 401, 3) := dk_182 1 145 (dk_at dksX1_writeActor_0 21 rfl rfl)
theorem dX1_writeActor_24 : decode cX1_writeActor 24 = .ok (.aload_n 0, 1) := dk_42 (dk_at dksX1_writeActor_1 0 rfl rfl)
theorem dX1_writeActor_25 : decode cX1_writeActor 25 = .ok (.iload_n 1, 1) := dk_27 (dk_at dksX1_writeActor_1 1 rfl rfl)
theorem dX1_writeActor_26 : decode cX1_writeActor 26 = .ok (.invokevirtual 404, 3) := dk_182 1 148 (dk_at dksX1_writeActor_1 2 rfl rfl)
theorem dX1_writeActor_29 : decode cX1_writeActor 29 = .ok (.invokevirtual 344, 3) := dk_182 1 88 (dk_at dksX1_writeActor_1 5 rfl rfl)
theorem dX1_writeActor_32 : decode cX1_writeActor 32 = .ok (.ldc_w 408, 3) := dk_19 1 152 (dk_at dksX1_writeActor_1 8 rfl rfl)
theorem dX1_writeActor_35 : decode cX1_writeActor 35 = .ok (.invokevirtual 410, 3) := dk_182 1 154 (dk_at dksX1_writeActor_1 11 rfl rfl)
theorem dX1_writeActor_38 : decode cX1_writeActor 38 = .ok (.aload_n 0, 1) := dk_42 (dk_at dksX1_writeActor_1 14 rfl rfl)
theorem dX1_writeActor_39 : decode cX1_writeActor 39 = .ok (.iload_n 1, 1) := dk_27 (dk_at dksX1_writeActor_1 15 rfl rfl)
theorem dX1_writeActor_40 : decode cX1_writeActor 40 = .ok (.invokevirtual 413, 3) := dk_182 1 157 (dk_at dksX1_writeActor_1 16 rfl rfl)
theorem dX1_writeActor_43 : decode cX1_writeActor 43 = .ok (.invokevirtual 401, 3) := dk_182 1 145 (dk_at dksX1_writeActor_1 19 rfl rfl)
theorem dX1_writeActor_46 : decode cX1_writeActor 46 = .ok (.pop, 1) := dk_87 (dk_at dksX1_writeActor_1 22 rfl rfl)
theorem dX1_writeActor_47 : decode cX1_writeActor 47 = .ok (.aload_n 2, 1) := dk_44 (dk_at dksX1_writeActor_1 23 rfl rfl)
theorem dX1_writeActor_48 : decode cX1_writeActor 48 = .ok (.aload_n 0, 1) := dk_42 (dk_at dksX1_writeActor_2 0 rfl rfl)
theorem dX1_writeActor_49 : decode cX1_writeActor 49 = .ok (.getfield 43, 3) := dk_180 0 43 (dk_at dksX1_writeActor_2 1 rfl rfl)
theorem dX1_writeActor_52 : decode cX1_writeActor 52 = .ok (.getfield 133, 3) := dk_180 0 133 (dk_at dksX1_writeActor_2 4 rfl rfl)
theorem dX1_writeActor_55 : decode cX1_writeActor 55 = .ok (.iload_n 1, 1) := dk_27 (dk_at dksX1_writeActor_2 7 rfl rfl)
theorem dX1_writeActor_56 : decode cX1_writeActor 56 = .ok (.invokevirtual 416, 3) := dk_182 1 160 (dk_at dksX1_writeActor_2 8 rfl rfl)
theorem dX1_writeActor_59 : decode cX1_writeActor 59 = .ok (.ifCond .eq 37, 3) := dk_153 0 37 (dk_at dksX1_writeActor_2 11 rfl rfl)
theorem dX1_writeActor_62 : decode cX1_writeActor 62 = .ok (.new 54, 3) := dk_187 0 54 (dk_at dksX1_writeActor_2 14 rfl rfl)
theorem dX1_writeActor_65 : decode cX1_writeActor 65 = .ok (.dup, 1) := dk_89 (dk_at dksX1_writeActor_2 17 rfl rfl)
theorem dX1_writeActor_66 : decode cX1_writeActor 66 = .ok (.invokespecial 56, 3) := dk_183 0 56 (dk_at dksX1_writeActor_2 18 rfl rfl)
theorem dX1_writeActor_69 : decode cX1_writeActor 69 = .ok (.ldc_w 419, 3) := dk_19 1 163 (dk_at dksX1_writeActor_2 21 rfl rfl)
theorem dX1_writeActor_72 : decode cX1_writeActor 72 = .ok (.invokevirtual 410, 3) := dk_182 1 154 (dk_at dksX1_writeActor_3 0 rfl rfl)
theorem dX1_writeActor_75 : decode cX1_writeActor 75 = .ok (.aload_n 0, 1) := dk_42 (dk_at dksX1_writeActor_3 3 rfl rfl)
theorem dX1_writeActor_76 : decode cX1_writeActor 76 = .ok (.getfield 43, 3) := dk_180 0 43 (dk_at dksX1_writeActor_3 4 rfl rfl)
theorem dX1_writeActor_79 : decode cX1_writeActor 79 = .ok (.getfield 133, 3) := dk_180 0 133 (dk_at dksX1_writeActor_3 7 rfl rfl)
theorem dX1_writeActor_82 : decode cX1_writeActor 82 = .ok (.getfield 421, 3) := dk_180 1 165 (dk_at dksX1_writeActor_3 10 rfl rfl)
theorem dX1_writeActor_85 : decode cX1_writeActor 85 = .ok (.iload_n 1, 1) := dk_27 (dk_at dksX1_writeActor_3 13 rfl rfl)
theorem dX1_writeActor_86 : decode cX1_writeActor 86 = .ok (.iaload, 1) := dk_46 (dk_at dksX1_writeActor_3 14 rfl rfl)
theorem dX1_writeActor_87 : decode cX1_writeActor 87 = .ok (.invokevirtual 401, 3) := dk_182 1 145 (dk_at dksX1_writeActor_3 15 rfl rfl)
theorem dX1_writeActor_90 : decode cX1_writeActor 90 = .ok (.invokevirtual 424, 3) := dk_182 1 168 (dk_at dksX1_writeActor_3 18 rfl rfl)
theorem dX1_writeActor_93 : decode cX1_writeActor 93 = .ok (.goto 5, 3) := dk_167 0 5 (dk_at dksX1_writeActor_3 21 rfl rfl)
theorem dX1_writeActor_96 : decode cX1_writeActor 96 = .ok (.ldc 61, 2) := dk_18 61 (dk_at dksX1_writeActor_4 0 rfl rfl)
theorem dX1_writeActor_98 : decode cX1_writeActor 98 = .ok (.invokevirtual 410, 3) := dk_182 1 154 (dk_at dksX1_writeActor_4 2 rfl rfl)
theorem dX1_writeActor_101 : decode cX1_writeActor 101 = .ok (.pop, 1) := dk_87 (dk_at dksX1_writeActor_4 5 rfl rfl)
theorem dX1_writeActor_102 : decode cX1_writeActor 102 = .ok (.aload_n 2, 1) := dk_44 (dk_at dksX1_writeActor_4 6 rfl rfl)
theorem dX1_writeActor_103 : decode cX1_writeActor 103 = .ok (.aload_n 0, 1) := dk_42 (dk_at dksX1_writeActor_4 7 rfl rfl)
theorem dX1_writeActor_104 : decode cX1_writeActor 104 = .ok (.getfield 43, 3) := dk_180 0 43 (dk_at dksX1_writeActor_4 8 rfl rfl)
theorem dX1_writeActor_107 : decode cX1_writeActor 107 = .ok (.getfield 133, 3) := dk_180 0 133 (dk_at dksX1_writeActor_4 11 rfl rfl)
theorem dX1_writeActor_110 : decode cX1_writeActor 110 = .ok (.getfield 166, 3) := dk_180 0 166 (dk_at dksX1_writeActor_4 14 rfl rfl)
theorem dX1_writeActor_113 : decode cX1_writeActor 113 = .ok (.iload_n 1, 1) := dk_27 (dk_at dksX1_writeActor_4 17 rfl rfl)
theorem dX1_writeActor_114 : decode cX1_writeActor 114 = .ok (.iaload, 1) := dk_46 (dk_at dksX1_writeActor_4 18 rfl rfl)
theorem dX1_writeActor_115 : decode cX1_writeActor 115 = .ok (.iconst (-1), 1) := dk_2 (dk_at dksX1_writeActor_4 19 rfl rfl)
theorem dX1_writeActor_116 : decode cX1_writeActor 116 = .ok (.if_icmp .ne 8, 3) := dk_160 0 8 (dk_at dksX1_writeActor_4 20 rfl rfl)
theorem dX1_writeActor_119 : decode cX1_writeActor 119 = .ok (.ldc 61, 2) := dk_18 61 (dk_at dksX1_writeActor_5 0 rfl rfl)
theorem dX1_writeActor_121 : decode cX1_writeActor 121 = .ok (.goto 34, 3) := dk_167 0 34 (dk_at dksX1_writeActor_5 2 rfl rfl)
theorem dX1_writeActor_124 : decode cX1_writeActor 124 = .ok (.new 54, 3) := dk_187 0 54 (dk_at dksX1_writeActor_5 5 rfl rfl)
theorem dX1_writeActor_127 : decode cX1_writeActor 127 = .ok (.dup, 1) := dk_89 (dk_at dksX1_writeActor_5 8 rfl rfl)
theorem dX1_writeActor_128 : decode cX1_writeActor 128 = .ok (.invokespecial 56, 3) := dk_183 0 56 (dk_at dksX1_writeActor_5 9 rfl rfl)
theorem dX1_writeActor_131 : decode cX1_writeActor 131 = .ok (.ldc_w 428, 3) := dk_19 1 172 (dk_at dksX1_writeActor_5 12 rfl rfl)
theorem dX1_writeActor_134 : decode cX1_writeActor 134 = .ok (.invokevirtual 410, 3) := dk_182 1 154 (dk_at dksX1_writeActor_5 15 rfl rfl)
theorem dX1_writeActor_137 : decode cX1_writeActor 137 = .ok (.aload_n 0, 1) := dk_42 (dk_at dksX1_writeActor_5 18 rfl rfl)
theorem dX1_writeActor_138 : decode cX1_writeActor 138 = .ok (.getfield 43, 3) := dk_180 0 43 (dk_at dksX1_writeActor_5 19 rfl rfl)
theorem dX1_writeActor_141 : decode cX1_writeActor 141 = .ok (.getfield 133, 3) := dk_180 0 133 (dk_at dksX1_writeActor_6 0 rfl rfl)
theorem dX1_writeActor_144 : decode cX1_writeActor 144 = .ok (.getfield 166, 3) := dk_180 0 166 (dk_at dksX1_writeActor_6 3 rfl rfl)
theorem dX1_writeActor_147 : decode cX1_writeActor 147 = .ok (.iload_n 1, 1) := dk_27 (dk_at dksX1_writeActor_6 6 rfl rfl)
theorem dX1_writeActor_148 : decode cX1_writeActor 148 = .ok (.iaload, 1) := dk_46 (dk_at dksX1_writeActor_6 7 rfl rfl)
theorem dX1_writeActor_149 : decode cX1_writeActor 149 = .ok (.invokevirtual 401, 3) := dk_182 1 145 (dk_at dksX1_writeActor_6 8 rfl rfl)
theorem dX1_writeActor_152 : decode cX1_writeActor 152 = .ok (.invokevirtual 424, 3) := dk_182 1 168 (dk_at dksX1_writeActor_6 11 rfl rfl)
theorem dX1_writeActor_155 : decode cX1_writeActor 155 = .ok (.invokevirtual 410, 3) := dk_182 1 154 (dk_at dksX1_writeActor_6 14 rfl rfl)
theorem dX1_writeActor_158 : decode cX1_writeActor 158 = .ok (.pop, 1) := dk_87 (dk_at dksX1_writeActor_6 17 rfl rfl)
theorem dX1_writeActor_159 : decode cX1_writeActor 159 = .ok (.aload_n 2, 1) := dk_44 (dk_at dksX1_writeActor_6 18 rfl rfl)
theorem dX1_writeActor_160 : decode cX1_writeActor 160 = .ok (.aload_n 0, 1) := dk_42 (dk_at dksX1_writeActor_6 19 rfl rfl)
theorem dX1_writeActor_161 : decode cX1_writeActor 161 = .ok (.iload_n 1, 1) := dk_27 (dk_at dksX1_writeActor_6 20 rfl rfl)
theorem dX1_writeActor_162 : decode cX1_writeActor 162 = .ok (.invokevirtual 430, 3) := dk_182 1 174 (dk_at dksX1_writeActor_6 21 rfl rfl)
theorem dX1_writeActor_165 : decode cX1_writeActor 165 = .ok (.ifCond .eq 9, 3) := dk_153 0 9 (dk_at dksX1_writeActor_7 0 rfl rfl)
theorem dX1_writeActor_168 : decode cX1_writeActor 168 = .ok (.ldc_w 432, 3) := dk_19 1 176 (dk_at dksX1_writeActor_7 3 rfl rfl)
theorem dX1_writeActor_171 : decode cX1_writeActor 171 = .ok (.goto 5, 3) := dk_167 0 5 (dk_at dksX1_writeActor_7 6 rfl rfl)
theorem dX1_writeActor_174 : decode cX1_writeActor 174 = .ok (.ldc 61, 2) := dk_18 61 (dk_at dksX1_writeActor_7 9 rfl rfl)
theorem dX1_writeActor_176 : decode cX1_writeActor 176 = .ok (.invokevirtual 410, 3) := dk_182 1 154 (dk_at dksX1_writeActor_7 11 rfl rfl)
theorem dX1_writeActor_179 : decode cX1_writeActor 179 = .ok (.pop, 1) := dk_87 (dk_at dksX1_writeActor_7 14 rfl rfl)
theorem dX1_writeActor_180 : decode cX1_writeActor 180 = .ok (.iconst 0, 1) := dk_3 (dk_at dksX1_writeActor_7 15 rfl rfl)
theorem dX1_writeActor_181 : decode cX1_writeActor 181 = .ok (.istore_n 3, 1) := dk_62 (dk_at dksX1_writeActor_7 16 rfl rfl)
theorem dX1_writeActor_182 : decode cX1_writeActor 182 = .ok (.iload_n 3, 1) := dk_29 (dk_at dksX1_writeActor_7 17 rfl rfl)
theorem dX1_writeActor_183 : decode cX1_writeActor 183 = .ok (.aload_n 0, 1) := dk_42 (dk_at dksX1_writeActor_7 18 rfl rfl)
theorem dX1_writeActor_184 : decode cX1_writeActor 184 = .ok (.iload_n 1, 1) := dk_27 (dk_at dksX1_writeActor_7 19 rfl rfl)
theorem dX1_writeActor_185 : decode cX1_writeActor 185 = .ok (.invokevirtual 223, 3) := dk_182 0 223 (dk_at dksX1_writeActor_7 20 rfl rfl)
theorem dX1_writeActor_188 : decode cX1_writeActor 188 = .ok (.if_icmp .ge 38, 3) := dk_162 0 38 (dk_at dksX1_writeActor_8 0 rfl rfl)
theorem dX1_writeActor_191 : decode cX1_writeActor 191 = .ok (.aload_n 2, 1) := dk_44 (dk_at dksX1_writeActor_8 3 rfl rfl)
theorem dX1_writeActor_192 : decode cX1_writeActor 192 = .ok (.ldc_w 434, 3) := dk_19 1 178 (dk_at dksX1_writeActor_8 4 rfl rfl)
theorem dX1_writeActor_195 : decode cX1_writeActor 195 = .ok (.invokevirtual 410, 3) := dk_182 1 154 (dk_at dksX1_writeActor_8 7 rfl rfl)
theorem dX1_writeActor_198 : decode cX1_writeActor 198 = .ok (.aload_n 0, 1) := dk_42 (dk_at dksX1_writeActor_8 10 rfl rfl)
theorem dX1_writeActor_199 : decode cX1_writeActor 199 = .ok (.iload_n 1, 1) := dk_27 (dk_at dksX1_writeActor_8 11 rfl rfl)
theorem dX1_writeActor_200 : decode cX1_writeActor 200 = .ok (.iload_n 3, 1) := dk_29 (dk_at dksX1_writeActor_8 12 rfl rfl)
theorem dX1_writeActor_201 : decode cX1_writeActor 201 = .ok (.invokevirtual 436, 3) := dk_182 1 180 (dk_at dksX1_writeActor_8 13 rfl rfl)
theorem dX1_writeActor_204 : decode cX1_writeActor 204 = .ok (.invokevirtual 401, 3) := dk_182 1 145 (dk_at dksX1_writeActor_8 16 rfl rfl)
theorem dX1_writeActor_207 : decode cX1_writeActor 207 = .ok (.aload_n 0, 1) := dk_42 (dk_at dksX1_writeActor_8 19 rfl rfl)
theorem dX1_writeActor_208 : decode cX1_writeActor 208 = .ok (.iload_n 1, 1) := dk_27 (dk_at dksX1_writeActor_8 20 rfl rfl)
theorem dX1_writeActor_209 : decode cX1_writeActor 209 = .ok (.iload_n 3, 1) := dk_29 (dk_at dksX1_writeActor_8 21 rfl rfl)
theorem dX1_writeActor_210 : decode cX1_writeActor 210 = .ok (.invokevirtual 439, 3) := dk_182 1 183 (dk_at dksX1_writeActor_9 0 rfl rfl)
theorem dX1_writeActor_213 : decode cX1_writeActor 213 = .ok (.invokestatic 442, 3) := dk_184 1 186 (dk_at dksX1_writeActor_9 3 rfl rfl)
theorem dX1_writeActor_216 : decode cX1_writeActor 216 = .ok (.invokevirtual 410, 3) := dk_182 1 154 (dk_at dksX1_writeActor_9 6 rfl rfl)
theorem dX1_writeActor_219 : decode cX1_writeActor 219 = .ok (.pop, 1) := dk_87 (dk_at dksX1_writeActor_9 9 rfl rfl)
theorem dX1_writeActor_220 : decode cX1_writeActor 220 = .ok (.iinc 3 1, 3) := dk_132 3 1 (dk_at dksX1_writeActor_9 10 rfl rfl)
theorem dX1_writeActor_223 : decode cX1_writeActor 223 = .ok (.goto (-41), 3) := dk_167 255 215 (dk_at dksX1_writeActor_9 13 rfl rfl)
theorem dX1_writeActor_226 : decode cX1_writeActor 226 = .ok (.aload_n 0, 1) := dk_42 (dk_at dksX1_writeActor_9 16 rfl rfl)
theorem dX1_writeActor_227 : decode cX1_writeActor 227 = .ok (.aload_n 2, 1) := dk_44 (dk_at dksX1_writeActor_9 17 rfl rfl)
theorem dX1_writeActor_228 : decode cX1_writeActor 228 = .ok (.invokevirtual 424, 3) := dk_182 1 168 (dk_at dksX1_writeActor_9 18 rfl rfl)
theorem dX1_writeActor_231 : decode cX1_writeActor 231 = .ok (.putfield 63, 3) := dk_181 0 63 (dk_at dksX1_writeActor_9 21 rfl rfl)
theorem dX1_writeActor_234 : decode cX1_writeActor 234 = .ok (.aload_n 0, 1) := dk_42 (dk_at dksX1_writeActor_10 0 rfl rfl)
theorem dX1_writeActor_235 : decode cX1_writeActor 235 = .ok (.getfield 63, 3) := dk_180 0 63 (dk_at dksX1_writeActor_10 1 rfl rfl)
theorem dX1_writeActor_238 : decode cX1_writeActor 238 = .ok (.invokevirtual 446, 3) := dk_182 1 190 (dk_at dksX1_writeActor_10 4 rfl rfl)
theorem dX1_writeActor_241 : decode cX1_writeActor 241 = .ok (.ireturn, 1) := dk_172 (dk_at dksX1_writeActor_10 7 rfl rfl)
abbrev cX1_hopMarks : ByteArray := prog_1_method_64_code
def yX1_hopMarks : MethodName := ⟨RX1, "hopMarks", "(I)Ljava/lang/String;"⟩
def dkwX1_hopMarks_0 : List UInt8 := [26, 154, 0, 8, 18, 61, 167, 0, 17, 26, 4, 160, 0, 9, 19, 1, 141, 167, 0, 6, 19, 1, 143, 176]
abbrev dktX1_hopMarks_0 : List UInt8 := dkwX1_hopMarks_0 ++ []
theorem dksX1_hopMarks_0 : cX1_hopMarks.data.toList.drop 0 = dktX1_hopMarks_0 := by decide +kernel
theorem dX1_hopMarks_0 : decode cX1_hopMarks 0 = .ok (.iload_n 0, 1) := dk_26 (dk_at dksX1_hopMarks_0 0 rfl rfl)
theorem dX1_hopMarks_1 : decode cX1_hopMarks 1 = .ok (.ifCond .ne 8, 3) := dk_154 0 8 (dk_at dksX1_hopMarks_0 1 rfl rfl)
theorem dX1_hopMarks_4 : decode cX1_hopMarks 4 = .ok (.ldc 61, 2) := dk_18 61 (dk_at dksX1_hopMarks_0 4 rfl rfl)
theorem dX1_hopMarks_6 : decode cX1_hopMarks 6 = .ok (.goto 17, 3) := dk_167 0 17 (dk_at dksX1_hopMarks_0 6 rfl rfl)
theorem dX1_hopMarks_9 : decode cX1_hopMarks 9 = .ok (.iload_n 0, 1) := dk_26 (dk_at dksX1_hopMarks_0 9 rfl rfl)
theorem dX1_hopMarks_10 : decode cX1_hopMarks 10 = .ok (.iconst 1, 1) := dk_4 (dk_at dksX1_hopMarks_0 10 rfl rfl)
theorem dX1_hopMarks_11 : decode cX1_hopMarks 11 = .ok (.if_icmp .ne 9, 3) := dk_160 0 9 (dk_at dksX1_hopMarks_0 11 rfl rfl)
theorem dX1_hopMarks_14 : decode cX1_hopMarks 14 = .ok (.ldc_w 397, 3) := dk_19 1 141 (dk_at dksX1_hopMarks_0 14 rfl rfl)
theorem dX1_hopMarks_17 : decode cX1_hopMarks 17 = .ok (.goto 6, 3) := dk_167 0 6 (dk_at dksX1_hopMarks_0 17 rfl rfl)
theorem dX1_hopMarks_20 : decode cX1_hopMarks 20 = .ok (.ldc_w 399, 3) := dk_19 1 143 (dk_at dksX1_hopMarks_0 20 rfl rfl)
theorem dX1_hopMarks_23 : decode cX1_hopMarks 23 = .ok (.areturn, 1) := dk_176 (dk_at dksX1_hopMarks_0 23 rfl rfl)
abbrev cX1_lineCharacter : ByteArray := prog_1_method_67_code
def yX1_lineCharacter : MethodName := ⟨RX1, "lineCharacter", "(I)C"⟩
def dkwX1_lineCharacter_0 : List UInt8 := [27, 42, 180, 0, 63, 182, 1, 190, 184, 0, 226, 42, 180, 0, 63, 27, 182, 1, 194, 172]
abbrev dktX1_lineCharacter_0 : List UInt8 := dkwX1_lineCharacter_0 ++ []
theorem dksX1_lineCharacter_0 : cX1_lineCharacter.data.toList.drop 0 = dktX1_lineCharacter_0 := by decide +kernel
theorem dX1_lineCharacter_0 : decode cX1_lineCharacter 0 = .ok (.iload_n 1, 1) := dk_27 (dk_at dksX1_lineCharacter_0 0 rfl rfl)
theorem dX1_lineCharacter_1 : decode cX1_lineCharacter 1 = .ok (.aload_n 0, 1) := dk_42 (dk_at dksX1_lineCharacter_0 1 rfl rfl)
theorem dX1_lineCharacter_2 : decode cX1_lineCharacter 2 = .ok (.getfield 63, 3) := dk_180 0 63 (dk_at dksX1_lineCharacter_0 2 rfl rfl)
theorem dX1_lineCharacter_5 : decode cX1_lineCharacter 5 = .ok (.invokevirtual 446, 3) := dk_182 1 190 (dk_at dksX1_lineCharacter_0 5 rfl rfl)
theorem dX1_lineCharacter_8 : decode cX1_lineCharacter 8 = .ok (.invokestatic 226, 3) := dk_184 0 226 (dk_at dksX1_lineCharacter_0 8 rfl rfl)
theorem dX1_lineCharacter_11 : decode cX1_lineCharacter 11 = .ok (.aload_n 0, 1) := dk_42 (dk_at dksX1_lineCharacter_0 11 rfl rfl)
theorem dX1_lineCharacter_12 : decode cX1_lineCharacter 12 = .ok (.getfield 63, 3) := dk_180 0 63 (dk_at dksX1_lineCharacter_0 12 rfl rfl)
theorem dX1_lineCharacter_15 : decode cX1_lineCharacter 15 = .ok (.iload_n 1, 1) := dk_27 (dk_at dksX1_lineCharacter_0 15 rfl rfl)
theorem dX1_lineCharacter_16 : decode cX1_lineCharacter 16 = .ok (.invokevirtual 450, 3) := dk_182 1 194 (dk_at dksX1_lineCharacter_0 16 rfl rfl)
theorem dX1_lineCharacter_19 : decode cX1_lineCharacter 19 = .ok (.ireturn, 1) := dk_172 (dk_at dksX1_lineCharacter_0 19 rfl rfl)
abbrev cX1_denial : ByteArray := prog_1_method_69_code
def yX1_denial : MethodName := ⟨RX1, "denial", "()I"⟩
def dkwX1_denial_0 : List UInt8 := [42, 182, 1, 197, 180, 1, 201, 172]
abbrev dktX1_denial_0 : List UInt8 := dkwX1_denial_0 ++ []
theorem dksX1_denial_0 : cX1_denial.data.toList.drop 0 = dktX1_denial_0 := by decide +kernel
theorem dX1_denial_0 : decode cX1_denial 0 = .ok (.aload_n 0, 1) := dk_42 (dk_at dksX1_denial_0 0 rfl rfl)
theorem dX1_denial_1 : decode cX1_denial 1 = .ok (.invokevirtual 453, 3) := dk_182 1 197 (dk_at dksX1_denial_0 1 rfl rfl)
theorem dX1_denial_4 : decode cX1_denial 4 = .ok (.getfield 457, 3) := dk_180 1 201 (dk_at dksX1_denial_0 4 rfl rfl)
theorem dX1_denial_7 : decode cX1_denial 7 = .ok (.ireturn, 1) := dk_172 (dk_at dksX1_denial_0 7 rfl rfl)
abbrev cX1_latestDenial : ByteArray := prog_1_method_68_code
def yX1_latestDenial : MethodName := ⟨RX1, "latestDenial", "()LSpindleActors$Denial;"⟩
def dkwX1_latestDenial_0 : List UInt8 := [42, 180, 0, 83, 198, 0, 7, 4, 167, 0, 4, 3, 184, 0, 169, 42, 180, 0, 83, 176]
abbrev dktX1_latestDenial_0 : List UInt8 := dkwX1_latestDenial_0 ++ []
theorem dksX1_latestDenial_0 : cX1_latestDenial.data.toList.drop 0 = dktX1_latestDenial_0 := by decide +kernel
theorem dX1_latestDenial_0 : decode cX1_latestDenial 0 = .ok (.aload_n 0, 1) := dk_42 (dk_at dksX1_latestDenial_0 0 rfl rfl)
theorem dX1_latestDenial_1 : decode cX1_latestDenial 1 = .ok (.getfield 83, 3) := dk_180 0 83 (dk_at dksX1_latestDenial_0 1 rfl rfl)
theorem dX1_latestDenial_4 : decode cX1_latestDenial 4 = .ok (.ifnull 7, 3) := dk_198 0 7 (dk_at dksX1_latestDenial_0 4 rfl rfl)
theorem dX1_latestDenial_7 : decode cX1_latestDenial 7 = .ok (.iconst 1, 1) := dk_4 (dk_at dksX1_latestDenial_0 7 rfl rfl)
theorem dX1_latestDenial_8 : decode cX1_latestDenial 8 = .ok (.goto 4, 3) := dk_167 0 4 (dk_at dksX1_latestDenial_0 8 rfl rfl)
theorem dX1_latestDenial_11 : decode cX1_latestDenial 11 = .ok (.iconst 0, 1) := dk_3 (dk_at dksX1_latestDenial_0 11 rfl rfl)
theorem dX1_latestDenial_12 : decode cX1_latestDenial 12 = .ok (.invokestatic 169, 3) := dk_184 0 169 (dk_at dksX1_latestDenial_0 12 rfl rfl)
theorem dX1_latestDenial_15 : decode cX1_latestDenial 15 = .ok (.aload_n 0, 1) := dk_42 (dk_at dksX1_latestDenial_0 15 rfl rfl)
theorem dX1_latestDenial_16 : decode cX1_latestDenial 16 = .ok (.getfield 83, 3) := dk_180 0 83 (dk_at dksX1_latestDenial_0 16 rfl rfl)
theorem dX1_latestDenial_19 : decode cX1_latestDenial 19 = .ok (.areturn, 1) := dk_176 (dk_at dksX1_latestDenial_0 19 rfl rfl)
abbrev cX1_denialDetail : ByteArray := prog_1_method_70_code
def yX1_denialDetail : MethodName := ⟨RX1, "denialDetail", "()I"⟩
def dkwX1_denialDetail_0 : List UInt8 := [42, 182, 1, 197, 180, 1, 204, 172]
abbrev dktX1_denialDetail_0 : List UInt8 := dkwX1_denialDetail_0 ++ []
theorem dksX1_denialDetail_0 : cX1_denialDetail.data.toList.drop 0 = dktX1_denialDetail_0 := by decide +kernel
theorem dX1_denialDetail_0 : decode cX1_denialDetail 0 = .ok (.aload_n 0, 1) := dk_42 (dk_at dksX1_denialDetail_0 0 rfl rfl)
theorem dX1_denialDetail_1 : decode cX1_denialDetail 1 = .ok (.invokevirtual 453, 3) := dk_182 1 197 (dk_at dksX1_denialDetail_0 1 rfl rfl)
theorem dX1_denialDetail_4 : decode cX1_denialDetail 4 = .ok (.getfield 460, 3) := dk_180 1 204 (dk_at dksX1_denialDetail_0 4 rfl rfl)
theorem dX1_denialDetail_7 : decode cX1_denialDetail 7 = .ok (.ireturn, 1) := dk_172 (dk_at dksX1_denialDetail_0 7 rfl rfl)
abbrev cX1_denialCause : ByteArray := prog_1_method_71_code
def yX1_denialCause : MethodName := ⟨RX1, "denialCause", "()I"⟩
def dkwX1_denialCause_1 : List UInt8 := [180, 1, 201, 172]
abbrev dktX1_denialCause_1 : List UInt8 := dkwX1_denialCause_1 ++ []
def dkwX1_denialCause_0 : List UInt8 := [42, 182, 1, 197, 182, 1, 207, 76, 43, 182, 1, 130, 184, 0, 169, 43, 182, 1, 133, 192, 0, 32]
abbrev dktX1_denialCause_0 : List UInt8 := dkwX1_denialCause_0 ++ dktX1_denialCause_1
theorem dksX1_denialCause_0 : cX1_denialCause.data.toList.drop 0 = dktX1_denialCause_0 := by decide +kernel
theorem dksX1_denialCause_1 : cX1_denialCause.data.toList.drop 22 = dktX1_denialCause_1 := dk_seg dksX1_denialCause_0 22 rfl rfl
theorem dX1_denialCause_0 : decode cX1_denialCause 0 = .ok (.aload_n 0, 1) := dk_42 (dk_at dksX1_denialCause_0 0 rfl rfl)
theorem dX1_denialCause_1 : decode cX1_denialCause 1 = .ok (.invokevirtual 453, 3) := dk_182 1 197 (dk_at dksX1_denialCause_0 1 rfl rfl)
theorem dX1_denialCause_4 : decode cX1_denialCause 4 = .ok (.invokevirtual 463, 3) := dk_182 1 207 (dk_at dksX1_denialCause_0 4 rfl rfl)
theorem dX1_denialCause_7 : decode cX1_denialCause 7 = .ok (.astore_n 1, 1) := dk_76 (dk_at dksX1_denialCause_0 7 rfl rfl)
theorem dX1_denialCause_8 : decode cX1_denialCause 8 = .ok (.aload_n 1, 1) := dk_43 (dk_at dksX1_denialCause_0 8 rfl rfl)
theorem dX1_denialCause_9 : decode cX1_denialCause 9 = .ok (.invokevirtual 386, 3) := dk_182 1 130 (dk_at dksX1_denialCause_0 9 rfl rfl)
theorem dX1_denialCause_12 : decode cX1_denialCause 12 = .ok (.invokestatic 169, 3) := dk_184 0 169 (dk_at dksX1_denialCause_0 12 rfl rfl)
theorem dX1_denialCause_15 : decode cX1_denialCause 15 = .ok (.aload_n 1, 1) := dk_43 (dk_at dksX1_denialCause_0 15 rfl rfl)
theorem dX1_denialCause_16 : decode cX1_denialCause 16 = .ok (.invokevirtual 389, 3) := dk_182 1 133 (dk_at dksX1_denialCause_0 16 rfl rfl)
theorem dX1_denialCause_19 : decode cX1_denialCause 19 = .ok (.checkcast 32, 3) := dk_192 0 32 (dk_at dksX1_denialCause_0 19 rfl rfl)
theorem dX1_denialCause_22 : decode cX1_denialCause 22 = .ok (.getfield 457, 3) := dk_180 1 201 (dk_at dksX1_denialCause_1 0 rfl rfl)
theorem dX1_denialCause_25 : decode cX1_denialCause 25 = .ok (.ireturn, 1) := dk_172 (dk_at dksX1_denialCause_1 3 rfl rfl)
abbrev cX1_undo : ByteArray := prog_1_method_72_code
def yX1_undo : MethodName := ⟨RX1, "undo", "()I"⟩
def dkwX1_undo_1 : List UInt8 := [182, 1, 213, 192, 0, 40, 181, 0, 43, 42, 180, 0, 50, 182, 0, 71, 172]
abbrev dktX1_undo_1 : List UInt8 := dkwX1_undo_1 ++ []
def dkwX1_undo_0 : List UInt8 := [42, 180, 0, 50, 182, 1, 210, 154, 0, 7, 4, 167, 0, 4, 3, 184, 1, 85, 42, 42, 180, 0, 50]
abbrev dktX1_undo_0 : List UInt8 := dkwX1_undo_0 ++ dktX1_undo_1
theorem dksX1_undo_0 : cX1_undo.data.toList.drop 0 = dktX1_undo_0 := by decide +kernel
theorem dksX1_undo_1 : cX1_undo.data.toList.drop 23 = dktX1_undo_1 := dk_seg dksX1_undo_0 23 rfl rfl
theorem dX1_undo_0 : decode cX1_undo 0 = .ok (.aload_n 0, 1) := dk_42 (dk_at dksX1_undo_0 0 rfl rfl)
theorem dX1_undo_1 : decode cX1_undo 1 = .ok (.getfield 50, 3) := dk_180 0 50 (dk_at dksX1_undo_0 1 rfl rfl)
theorem dX1_undo_4 : decode cX1_undo 4 = .ok (.invokevirtual 466, 3) := dk_182 1 210 (dk_at dksX1_undo_0 4 rfl rfl)
theorem dX1_undo_7 : decode cX1_undo 7 = .ok (.ifCond .ne 7, 3) := dk_154 0 7 (dk_at dksX1_undo_0 7 rfl rfl)
theorem dX1_undo_10 : decode cX1_undo 10 = .ok (.iconst 1, 1) := dk_4 (dk_at dksX1_undo_0 10 rfl rfl)
theorem dX1_undo_11 : decode cX1_undo 11 = .ok (.goto 4, 3) := dk_167 0 4 (dk_at dksX1_undo_0 11 rfl rfl)
theorem dX1_undo_14 : decode cX1_undo 14 = .ok (.iconst 0, 1) := dk_3 (dk_at dksX1_undo_0 14 rfl rfl)
theorem dX1_undo_15 : decode cX1_undo 15 = .ok (.invokestatic 341, 3) := dk_184 1 85 (dk_at dksX1_undo_0 15 rfl rfl)
theorem dX1_undo_18 : decode cX1_undo 18 = .ok (.aload_n 0, 1) := dk_42 (dk_at dksX1_undo_0 18 rfl rfl)
theorem dX1_undo_19 : decode cX1_undo 19 = .ok (.aload_n 0, 1) := dk_42 (dk_at dksX1_undo_0 19 rfl rfl)
theorem dX1_undo_20 : decode cX1_undo 20 = .ok (.getfield 50, 3) := dk_180 0 50 (dk_at dksX1_undo_0 20 rfl rfl)
theorem dX1_undo_23 : decode cX1_undo 23 = .ok (.invokevirtual 469, 3) := dk_182 1 213 (dk_at dksX1_undo_1 0 rfl rfl)
theorem dX1_undo_26 : decode cX1_undo 26 = .ok (.checkcast 40, 3) := dk_192 0 40 (dk_at dksX1_undo_1 3 rfl rfl)
theorem dX1_undo_29 : decode cX1_undo 29 = .ok (.putfield 43, 3) := dk_181 0 43 (dk_at dksX1_undo_1 6 rfl rfl)
theorem dX1_undo_32 : decode cX1_undo 32 = .ok (.aload_n 0, 1) := dk_42 (dk_at dksX1_undo_1 9 rfl rfl)
theorem dX1_undo_33 : decode cX1_undo 33 = .ok (.getfield 50, 3) := dk_180 0 50 (dk_at dksX1_undo_1 10 rfl rfl)
theorem dX1_undo_36 : decode cX1_undo 36 = .ok (.invokevirtual 71, 3) := dk_182 0 71 (dk_at dksX1_undo_1 13 rfl rfl)
theorem dX1_undo_39 : decode cX1_undo 39 = .ok (.ireturn, 1) := dk_172 (dk_at dksX1_undo_1 16 rfl rfl)
abbrev cX1_restoreSnapshot : ByteArray := prog_1_method_75_code
def yX1_restoreSnapshot : MethodName := ⟨RX1, "restoreSnapshot", "()I"⟩
def dkwX1_restoreSnapshot_1 : List UInt8 := [183, 0, 92, 181, 0, 43, 42, 180, 0, 50, 182, 1, 219, 42, 180, 0, 43, 180, 1, 12, 172]
abbrev dktX1_restoreSnapshot_1 : List UInt8 := dkwX1_restoreSnapshot_1 ++ []
def dkwX1_restoreSnapshot_0 : List UInt8 := [42, 180, 1, 216, 198, 0, 7, 4, 167, 0, 4, 3, 184, 1, 85, 42, 187, 0, 40, 89, 42, 180, 1, 216]
abbrev dktX1_restoreSnapshot_0 : List UInt8 := dkwX1_restoreSnapshot_0 ++ dktX1_restoreSnapshot_1
theorem dksX1_restoreSnapshot_0 : cX1_restoreSnapshot.data.toList.drop 0 = dktX1_restoreSnapshot_0 := by decide +kernel
theorem dksX1_restoreSnapshot_1 : cX1_restoreSnapshot.data.toList.drop 24 = dktX1_restoreSnapshot_1 := dk_seg dksX1_restoreSnapshot_0 24 rfl rfl
theorem dX1_restoreSnapshot_0 : decode cX1_restoreSnapshot 0 = .ok (.aload_n 0, 1) := dk_42 (dk_at dksX1_restoreSnapshot_0 0 rfl rfl)
theorem dX1_restoreSnapshot_1 : decode cX1_restoreSnapshot 1 = .ok (.getfield 472, 3) := dk_180 1 216 (dk_at dksX1_restoreSnapshot_0 1 rfl rfl)
theorem dX1_restoreSnapshot_4 : decode cX1_restoreSnapshot 4 = .ok (.ifnull 7, 3) := dk_198 0 7 (dk_at dksX1_restoreSnapshot_0 4 rfl rfl)
theorem dX1_restoreSnapshot_7 : decode cX1_restoreSnapshot 7 = .ok (.iconst 1, 1) := dk_4 (dk_at dksX1_restoreSnapshot_0 7 rfl rfl)
theorem dX1_restoreSnapshot_8 : decode cX1_restoreSnapshot 8 = .ok (.goto 4, 3) := dk_167 0 4 (dk_at dksX1_restoreSnapshot_0 8 rfl rfl)
theorem dX1_restoreSnapshot_11 : decode cX1_restoreSnapshot 11 = .ok (.iconst 0, 1) := dk_3 (dk_at dksX1_restoreSnapshot_0 11 rfl rfl)
theorem dX1_restoreSnapshot_12 : decode cX1_restoreSnapshot 12 = .ok (.invokestatic 341, 3) := dk_184 1 85 (dk_at dksX1_restoreSnapshot_0 12 rfl rfl)
theorem dX1_restoreSnapshot_15 : decode cX1_restoreSnapshot 15 = .ok (.aload_n 0, 1) := dk_42 (dk_at dksX1_restoreSnapshot_0 15 rfl rfl)
theorem dX1_restoreSnapshot_16 : decode cX1_restoreSnapshot 16 = .ok (.new 40, 3) := dk_187 0 40 (dk_at dksX1_restoreSnapshot_0 16 rfl rfl)
theorem dX1_restoreSnapshot_19 : decode cX1_restoreSnapshot 19 = .ok (.dup, 1) := dk_89 (dk_at dksX1_restoreSnapshot_0 19 rfl rfl)
theorem dX1_restoreSnapshot_20 : decode cX1_restoreSnapshot 20 = .ok (.aload_n 0, 1) := dk_42 (dk_at dksX1_restoreSnapshot_0 20 rfl rfl)
theorem dX1_restoreSnapshot_21 : decode cX1_restoreSnapshot 21 = .ok (.getfield 472, 3) := dk_180 1 216 (dk_at dksX1_restoreSnapshot_0 21 rfl rfl)
theorem dX1_restoreSnapshot_24 : decode cX1_restoreSnapshot 24 = .ok (.invokespecial 92, 3) := dk_183 0 92 (dk_at dksX1_restoreSnapshot_1 0 rfl rfl)
theorem dX1_restoreSnapshot_27 : decode cX1_restoreSnapshot 27 = .ok (.putfield 43, 3) := dk_181 0 43 (dk_at dksX1_restoreSnapshot_1 3 rfl rfl)
theorem dX1_restoreSnapshot_30 : decode cX1_restoreSnapshot 30 = .ok (.aload_n 0, 1) := dk_42 (dk_at dksX1_restoreSnapshot_1 6 rfl rfl)
theorem dX1_restoreSnapshot_31 : decode cX1_restoreSnapshot 31 = .ok (.getfield 50, 3) := dk_180 0 50 (dk_at dksX1_restoreSnapshot_1 7 rfl rfl)
theorem dX1_restoreSnapshot_34 : decode cX1_restoreSnapshot 34 = .ok (.invokevirtual 475, 3) := dk_182 1 219 (dk_at dksX1_restoreSnapshot_1 10 rfl rfl)
theorem dX1_restoreSnapshot_37 : decode cX1_restoreSnapshot 37 = .ok (.aload_n 0, 1) := dk_42 (dk_at dksX1_restoreSnapshot_1 13 rfl rfl)
theorem dX1_restoreSnapshot_38 : decode cX1_restoreSnapshot 38 = .ok (.getfield 43, 3) := dk_180 0 43 (dk_at dksX1_restoreSnapshot_1 14 rfl rfl)
theorem dX1_restoreSnapshot_41 : decode cX1_restoreSnapshot 41 = .ok (.getfield 268, 3) := dk_180 1 12 (dk_at dksX1_restoreSnapshot_1 17 rfl rfl)
theorem dX1_restoreSnapshot_44 : decode cX1_restoreSnapshot 44 = .ok (.ireturn, 1) := dk_172 (dk_at dksX1_restoreSnapshot_1 20 rfl rfl)
abbrev cX2_init : ByteArray := prog_10_method_1_code
def yX2_init : MethodName := ⟨RX2, "<init>", "()V"⟩
def dkwX2_init_3 : List UInt8 := [181, 0, 50, 177]
abbrev dktX2_init_3 : List UInt8 := dkwX2_init_3 ++ []
def dkwX2_init_2 : List UInt8 := [187, 0, 38, 89, 183, 0, 40, 181, 0, 41, 42, 187, 0, 45, 89, 42, 180, 0, 41, 183, 0, 47]
abbrev dktX2_init_2 : List UInt8 := dkwX2_init_2 ++ dktX2_init_3
def dkwX2_init_1 : List UInt8 := [187, 0, 23, 89, 183, 0, 25, 181, 0, 26, 42, 16, 112, 181, 0, 30, 42, 4, 181, 0, 34, 42]
abbrev dktX2_init_1 : List UInt8 := dkwX2_init_1 ++ dktX2_init_2
def dkwX2_init_0 : List UInt8 := [42, 183, 0, 3, 42, 187, 0, 9, 89, 187, 0, 11, 89, 183, 0, 13, 183, 0, 14, 181, 0, 17, 42]
abbrev dktX2_init_0 : List UInt8 := dkwX2_init_0 ++ dktX2_init_1
theorem dksX2_init_0 : cX2_init.data.toList.drop 0 = dktX2_init_0 := by decide +kernel
theorem dksX2_init_1 : cX2_init.data.toList.drop 23 = dktX2_init_1 := dk_seg dksX2_init_0 23 rfl rfl
theorem dksX2_init_2 : cX2_init.data.toList.drop 45 = dktX2_init_2 := dk_seg dksX2_init_1 22 rfl rfl
theorem dksX2_init_3 : cX2_init.data.toList.drop 67 = dktX2_init_3 := dk_seg dksX2_init_2 22 rfl rfl
theorem dX2_init_0 : decode cX2_init 0 = .ok (.aload_n 0, 1) := dk_42 (dk_at dksX2_init_0 0 rfl rfl)
theorem dX2_init_1 : decode cX2_init 1 = .ok (.invokespecial 3, 3) := dk_183 0 3 (dk_at dksX2_init_0 1 rfl rfl)
theorem dX2_init_4 : decode cX2_init 4 = .ok (.aload_n 0, 1) := dk_42 (dk_at dksX2_init_0 4 rfl rfl)
theorem dX2_init_5 : decode cX2_init 5 = .ok (.new 9, 3) := dk_187 0 9 (dk_at dksX2_init_0 5 rfl rfl)
theorem dX2_init_8 : decode cX2_init 8 = .ok (.dup, 1) := dk_89 (dk_at dksX2_init_0 8 rfl rfl)
theorem dX2_init_9 : decode cX2_init 9 = .ok (.new 11, 3) := dk_187 0 11 (dk_at dksX2_init_0 9 rfl rfl)
theorem dX2_init_12 : decode cX2_init 12 = .ok (.dup, 1) := dk_89 (dk_at dksX2_init_0 12 rfl rfl)
theorem dX2_init_13 : decode cX2_init 13 = .ok (.invokespecial 13, 3) := dk_183 0 13 (dk_at dksX2_init_0 13 rfl rfl)
theorem dX2_init_16 : decode cX2_init 16 = .ok (.invokespecial 14, 3) := dk_183 0 14 (dk_at dksX2_init_0 16 rfl rfl)
theorem dX2_init_19 : decode cX2_init 19 = .ok (.putfield 17, 3) := dk_181 0 17 (dk_at dksX2_init_0 19 rfl rfl)
theorem dX2_init_22 : decode cX2_init 22 = .ok (.aload_n 0, 1) := dk_42 (dk_at dksX2_init_0 22 rfl rfl)
theorem dX2_init_23 : decode cX2_init 23 = .ok (.new 23, 3) := dk_187 0 23 (dk_at dksX2_init_1 0 rfl rfl)
theorem dX2_init_26 : decode cX2_init 26 = .ok (.dup, 1) := dk_89 (dk_at dksX2_init_1 3 rfl rfl)
theorem dX2_init_27 : decode cX2_init 27 = .ok (.invokespecial 25, 3) := dk_183 0 25 (dk_at dksX2_init_1 4 rfl rfl)
theorem dX2_init_30 : decode cX2_init 30 = .ok (.putfield 26, 3) := dk_181 0 26 (dk_at dksX2_init_1 7 rfl rfl)
theorem dX2_init_33 : decode cX2_init 33 = .ok (.aload_n 0, 1) := dk_42 (dk_at dksX2_init_1 10 rfl rfl)
theorem dX2_init_34 : decode cX2_init 34 = .ok (.bipush 112, 2) := dk_16 112 (dk_at dksX2_init_1 11 rfl rfl)
theorem dX2_init_36 : decode cX2_init 36 = .ok (.putfield 30, 3) := dk_181 0 30 (dk_at dksX2_init_1 13 rfl rfl)
theorem dX2_init_39 : decode cX2_init 39 = .ok (.aload_n 0, 1) := dk_42 (dk_at dksX2_init_1 16 rfl rfl)
theorem dX2_init_40 : decode cX2_init 40 = .ok (.iconst 1, 1) := dk_4 (dk_at dksX2_init_1 17 rfl rfl)
theorem dX2_init_41 : decode cX2_init 41 = .ok (.putfield 34, 3) := dk_181 0 34 (dk_at dksX2_init_1 18 rfl rfl)
theorem dX2_init_44 : decode cX2_init 44 = .ok (.aload_n 0, 1) := dk_42 (dk_at dksX2_init_1 21 rfl rfl)
theorem dX2_init_45 : decode cX2_init 45 = .ok (.new 38, 3) := dk_187 0 38 (dk_at dksX2_init_2 0 rfl rfl)
theorem dX2_init_48 : decode cX2_init 48 = .ok (.dup, 1) := dk_89 (dk_at dksX2_init_2 3 rfl rfl)
theorem dX2_init_49 : decode cX2_init 49 = .ok (.invokespecial 40, 3) := dk_183 0 40 (dk_at dksX2_init_2 4 rfl rfl)
theorem dX2_init_52 : decode cX2_init 52 = .ok (.putfield 41, 3) := dk_181 0 41 (dk_at dksX2_init_2 7 rfl rfl)
theorem dX2_init_55 : decode cX2_init 55 = .ok (.aload_n 0, 1) := dk_42 (dk_at dksX2_init_2 10 rfl rfl)
theorem dX2_init_56 : decode cX2_init 56 = .ok (.new 45, 3) := dk_187 0 45 (dk_at dksX2_init_2 11 rfl rfl)
theorem dX2_init_59 : decode cX2_init 59 = .ok (.dup, 1) := dk_89 (dk_at dksX2_init_2 14 rfl rfl)
theorem dX2_init_60 : decode cX2_init 60 = .ok (.aload_n 0, 1) := dk_42 (dk_at dksX2_init_2 15 rfl rfl)
theorem dX2_init_61 : decode cX2_init 61 = .ok (.getfield 41, 3) := dk_180 0 41 (dk_at dksX2_init_2 16 rfl rfl)
theorem dX2_init_64 : decode cX2_init 64 = .ok (.invokespecial 47, 3) := dk_183 0 47 (dk_at dksX2_init_2 19 rfl rfl)
theorem dX2_init_67 : decode cX2_init 67 = .ok (.putfield 50, 3) := dk_181 0 50 (dk_at dksX2_init_3 0 rfl rfl)
theorem dX2_init_70 : decode cX2_init 70 = .ok (.return_, 1) := dk_177 (dk_at dksX2_init_3 3 rfl rfl)
abbrev cX2_running : ByteArray := prog_10_method_3_code
def yX2_running : MethodName := ⟨RX2, "running", "()I"⟩
def dkwX2_running_1 : List UInt8 := [51, 153, 0, 7, 3, 167, 0, 4, 4, 96, 60, 132, 2, 1, 167, 255, 222, 27, 172]
abbrev dktX2_running_1 : List UInt8 := dkwX2_running_1 ++ []
def dkwX2_running_0 : List UInt8 := [3, 60, 3, 61, 28, 42, 180, 0, 41, 180, 0, 89, 162, 0, 29, 27, 42, 180, 0, 50, 180, 0, 92, 28]
abbrev dktX2_running_0 : List UInt8 := dkwX2_running_0 ++ dktX2_running_1
theorem dksX2_running_0 : cX2_running.data.toList.drop 0 = dktX2_running_0 := by decide +kernel
theorem dksX2_running_1 : cX2_running.data.toList.drop 24 = dktX2_running_1 := dk_seg dksX2_running_0 24 rfl rfl
theorem dX2_running_0 : decode cX2_running 0 = .ok (.iconst 0, 1) := dk_3 (dk_at dksX2_running_0 0 rfl rfl)
theorem dX2_running_1 : decode cX2_running 1 = .ok (.istore_n 1, 1) := dk_60 (dk_at dksX2_running_0 1 rfl rfl)
theorem dX2_running_2 : decode cX2_running 2 = .ok (.iconst 0, 1) := dk_3 (dk_at dksX2_running_0 2 rfl rfl)
theorem dX2_running_3 : decode cX2_running 3 = .ok (.istore_n 2, 1) := dk_61 (dk_at dksX2_running_0 3 rfl rfl)
theorem dX2_running_4 : decode cX2_running 4 = .ok (.iload_n 2, 1) := dk_28 (dk_at dksX2_running_0 4 rfl rfl)
theorem dX2_running_5 : decode cX2_running 5 = .ok (.aload_n 0, 1) := dk_42 (dk_at dksX2_running_0 5 rfl rfl)
theorem dX2_running_6 : decode cX2_running 6 = .ok (.getfield 41, 3) := dk_180 0 41 (dk_at dksX2_running_0 6 rfl rfl)
theorem dX2_running_9 : decode cX2_running 9 = .ok (.getfield 89, 3) := dk_180 0 89 (dk_at dksX2_running_0 9 rfl rfl)
theorem dX2_running_12 : decode cX2_running 12 = .ok (.if_icmp .ge 29, 3) := dk_162 0 29 (dk_at dksX2_running_0 12 rfl rfl)
theorem dX2_running_15 : decode cX2_running 15 = .ok (.iload_n 1, 1) := dk_27 (dk_at dksX2_running_0 15 rfl rfl)
theorem dX2_running_16 : decode cX2_running 16 = .ok (.aload_n 0, 1) := dk_42 (dk_at dksX2_running_0 16 rfl rfl)
theorem dX2_running_17 : decode cX2_running 17 = .ok (.getfield 50, 3) := dk_180 0 50 (dk_at dksX2_running_0 17 rfl rfl)
theorem dX2_running_20 : decode cX2_running 20 = .ok (.getfield 92, 3) := dk_180 0 92 (dk_at dksX2_running_0 20 rfl rfl)
theorem dX2_running_23 : decode cX2_running 23 = .ok (.iload_n 2, 1) := dk_28 (dk_at dksX2_running_0 23 rfl rfl)
theorem dX2_running_24 : decode cX2_running 24 = .ok (.baload, 1) := dk_51 (dk_at dksX2_running_1 0 rfl rfl)
theorem dX2_running_25 : decode cX2_running 25 = .ok (.ifCond .eq 7, 3) := dk_153 0 7 (dk_at dksX2_running_1 1 rfl rfl)
theorem dX2_running_28 : decode cX2_running 28 = .ok (.iconst 0, 1) := dk_3 (dk_at dksX2_running_1 4 rfl rfl)
theorem dX2_running_29 : decode cX2_running 29 = .ok (.goto 4, 3) := dk_167 0 4 (dk_at dksX2_running_1 5 rfl rfl)
theorem dX2_running_32 : decode cX2_running 32 = .ok (.iconst 1, 1) := dk_4 (dk_at dksX2_running_1 8 rfl rfl)
theorem dX2_running_33 : decode cX2_running 33 = .ok (.iadd, 1) := dk_96 (dk_at dksX2_running_1 9 rfl rfl)
theorem dX2_running_34 : decode cX2_running 34 = .ok (.istore_n 1, 1) := dk_60 (dk_at dksX2_running_1 10 rfl rfl)
theorem dX2_running_35 : decode cX2_running 35 = .ok (.iinc 2 1, 3) := dk_132 2 1 (dk_at dksX2_running_1 11 rfl rfl)
theorem dX2_running_38 : decode cX2_running 38 = .ok (.goto (-34), 3) := dk_167 255 222 (dk_at dksX2_running_1 14 rfl rfl)
theorem dX2_running_41 : decode cX2_running 41 = .ok (.iload_n 1, 1) := dk_27 (dk_at dksX2_running_1 17 rfl rfl)
theorem dX2_running_42 : decode cX2_running 42 = .ok (.ireturn, 1) := dk_172 (dk_at dksX2_running_1 18 rfl rfl)
abbrev cX2_init_2 : ByteArray := prog_10_method_2_code
def yX2_init_2 : MethodName := ⟨RX2, "<init>", "(LSpindleActors$Stage;)V"⟩
def dkwX2_init_2_7 : List UInt8 := [180, 0, 86, 181, 0, 86, 177]
abbrev dktX2_init_2_7 : List UInt8 := dkwX2_init_2_7 ++ []
def dkwX2_init_2_6 : List UInt8 := [180, 0, 30, 181, 0, 30, 42, 43, 180, 0, 34, 181, 0, 34, 42, 43, 180, 0, 83, 181, 0, 83, 42, 43]
abbrev dktX2_init_2_6 : List UInt8 := dkwX2_init_2_6 ++ dktX2_init_2_7
def dkwX2_init_2_5 : List UInt8 := [182, 0, 75, 54, 4, 167, 255, 227, 42, 180, 0, 26, 43, 180, 0, 26, 182, 0, 79, 87, 42, 43]
abbrev dktX2_init_2_5 : List UInt8 := dkwX2_init_2_5 ++ dktX2_init_2_6
def dkwX2_init_2_4 : List UInt8 := [185, 0, 63, 1, 0, 153, 0, 26, 44, 185, 0, 69, 1, 0, 192, 0, 73, 78, 42, 180, 0, 17, 45]
abbrev dktX2_init_2_4 : List UInt8 := dkwX2_init_2_4 ++ dktX2_init_2_5
def dkwX2_init_2_3 : List UInt8 := [183, 0, 47, 43, 180, 0, 50, 182, 0, 55, 181, 0, 50, 43, 180, 0, 17, 182, 0, 59, 77, 44]
abbrev dktX2_init_2_3 : List UInt8 := dkwX2_init_2_3 ++ dktX2_init_2_4
def dkwX2_init_2_2 : List UInt8 := [187, 0, 38, 89, 43, 180, 0, 41, 183, 0, 54, 181, 0, 41, 42, 187, 0, 45, 89, 42, 180, 0, 41]
abbrev dktX2_init_2_2 : List UInt8 := dkwX2_init_2_2 ++ dktX2_init_2_3
def dkwX2_init_2_1 : List UInt8 := [187, 0, 23, 89, 183, 0, 25, 181, 0, 26, 42, 16, 112, 181, 0, 30, 42, 4, 181, 0, 34, 42]
abbrev dktX2_init_2_1 : List UInt8 := dkwX2_init_2_1 ++ dktX2_init_2_2
def dkwX2_init_2_0 : List UInt8 := [42, 183, 0, 3, 42, 187, 0, 9, 89, 187, 0, 11, 89, 183, 0, 13, 183, 0, 14, 181, 0, 17, 42]
abbrev dktX2_init_2_0 : List UInt8 := dkwX2_init_2_0 ++ dktX2_init_2_1
theorem dksX2_init_2_0 : cX2_init_2.data.toList.drop 0 = dktX2_init_2_0 := by decide +kernel
theorem dksX2_init_2_1 : cX2_init_2.data.toList.drop 23 = dktX2_init_2_1 := dk_seg dksX2_init_2_0 23 rfl rfl
theorem dksX2_init_2_2 : cX2_init_2.data.toList.drop 45 = dktX2_init_2_2 := dk_seg dksX2_init_2_1 22 rfl rfl
theorem dksX2_init_2_3 : cX2_init_2.data.toList.drop 68 = dktX2_init_2_3 := dk_seg dksX2_init_2_2 23 rfl rfl
theorem dksX2_init_2_4 : cX2_init_2.data.toList.drop 90 = dktX2_init_2_4 := dk_seg dksX2_init_2_3 22 rfl rfl
theorem dksX2_init_2_5 : cX2_init_2.data.toList.drop 113 = dktX2_init_2_5 := dk_seg dksX2_init_2_4 23 rfl rfl
theorem dksX2_init_2_6 : cX2_init_2.data.toList.drop 135 = dktX2_init_2_6 := dk_seg dksX2_init_2_5 22 rfl rfl
theorem dksX2_init_2_7 : cX2_init_2.data.toList.drop 159 = dktX2_init_2_7 := dk_seg dksX2_init_2_6 24 rfl rfl
theorem dX2_init_2_0 : decode cX2_init_2 0 = .ok (.aload_n 0, 1) := dk_42 (dk_at dksX2_init_2_0 0 rfl rfl)
theorem dX2_init_2_1 : decode cX2_init_2 1 = .ok (.invokespecial 3, 3) := dk_183 0 3 (dk_at dksX2_init_2_0 1 rfl rfl)
theorem dX2_init_2_4 : decode cX2_init_2 4 = .ok (.aload_n 0, 1) := dk_42 (dk_at dksX2_init_2_0 4 rfl rfl)
theorem dX2_init_2_5 : decode cX2_init_2 5 = .ok (.new 9, 3) := dk_187 0 9 (dk_at dksX2_init_2_0 5 rfl rfl)
theorem dX2_init_2_8 : decode cX2_init_2 8 = .ok (.dup, 1) := dk_89 (dk_at dksX2_init_2_0 8 rfl rfl)
theorem dX2_init_2_9 : decode cX2_init_2 9 = .ok (.new 11, 3) := dk_187 0 11 (dk_at dksX2_init_2_0 9 rfl rfl)
theorem dX2_init_2_12 : decode cX2_init_2 12 = .ok (.dup, 1) := dk_89 (dk_at dksX2_init_2_0 12 rfl rfl)
theorem dX2_init_2_13 : decode cX2_init_2 13 = .ok (.invokespecial 13, 3) := dk_183 0 13 (dk_at dksX2_init_2_0 13 rfl rfl)
theorem dX2_init_2_16 : decode cX2_init_2 16 = .ok (.invokespecial 14, 3) := dk_183 0 14 (dk_at dksX2_init_2_0 16 rfl rfl)
theorem dX2_init_2_19 : decode cX2_init_2 19 = .ok (.putfield 17, 3) := dk_181 0 17 (dk_at dksX2_init_2_0 19 rfl rfl)
theorem dX2_init_2_22 : decode cX2_init_2 22 = .ok (.aload_n 0, 1) := dk_42 (dk_at dksX2_init_2_0 22 rfl rfl)
theorem dX2_init_2_23 : decode cX2_init_2 23 = .ok (.new 23, 3) := dk_187 0 23 (dk_at dksX2_init_2_1 0 rfl rfl)
theorem dX2_init_2_26 : decode cX2_init_2 26 = .ok (.dup, 1) := dk_89 (dk_at dksX2_init_2_1 3 rfl rfl)
theorem dX2_init_2_27 : decode cX2_init_2 27 = .ok (.invokespecial 25, 3) := dk_183 0 25 (dk_at dksX2_init_2_1 4 rfl rfl)
theorem dX2_init_2_30 : decode cX2_init_2 30 = .ok (.putfield 26, 3) := dk_181 0 26 (dk_at dksX2_init_2_1 7 rfl rfl)
theorem dX2_init_2_33 : decode cX2_init_2 33 = .ok (.aload_n 0, 1) := dk_42 (dk_at dksX2_init_2_1 10 rfl rfl)
theorem dX2_init_2_34 : decode cX2_init_2 34 = .ok (.bipush 112, 2) := dk_16 112 (dk_at dksX2_init_2_1 11 rfl rfl)
theorem dX2_init_2_36 : decode cX2_init_2 36 = .ok (.putfield 30, 3) := dk_181 0 30 (dk_at dksX2_init_2_1 13 rfl rfl)
theorem dX2_init_2_39 : decode cX2_init_2 39 = .ok (.aload_n 0, 1) := dk_42 (dk_at dksX2_init_2_1 16 rfl rfl)
theorem dX2_init_2_40 : decode cX2_init_2 40 = .ok (.iconst 1, 1) := dk_4 (dk_at dksX2_init_2_1 17 rfl rfl)
theorem dX2_init_2_41 : decode cX2_init_2 41 = .ok (.putfield 34, 3) := dk_181 0 34 (dk_at dksX2_init_2_1 18 rfl rfl)
theorem dX2_init_2_44 : decode cX2_init_2 44 = .ok (.aload_n 0, 1) := dk_42 (dk_at dksX2_init_2_1 21 rfl rfl)
theorem dX2_init_2_45 : decode cX2_init_2 45 = .ok (.new 38, 3) := dk_187 0 38 (dk_at dksX2_init_2_2 0 rfl rfl)
theorem dX2_init_2_48 : decode cX2_init_2 48 = .ok (.dup, 1) := dk_89 (dk_at dksX2_init_2_2 3 rfl rfl)
theorem dX2_init_2_49 : decode cX2_init_2 49 = .ok (.aload_n 1, 1) := dk_43 (dk_at dksX2_init_2_2 4 rfl rfl)
theorem dX2_init_2_50 : decode cX2_init_2 50 = .ok (.getfield 41, 3) := dk_180 0 41 (dk_at dksX2_init_2_2 5 rfl rfl)
theorem dX2_init_2_53 : decode cX2_init_2 53 = .ok (.invokespecial 54, 3) := dk_183 0 54 (dk_at dksX2_init_2_2 8 rfl rfl)
theorem dX2_init_2_56 : decode cX2_init_2 56 = .ok (.putfield 41, 3) := dk_181 0 41 (dk_at dksX2_init_2_2 11 rfl rfl)
theorem dX2_init_2_59 : decode cX2_init_2 59 = .ok (.aload_n 0, 1) := dk_42 (dk_at dksX2_init_2_2 14 rfl rfl)
theorem dX2_init_2_60 : decode cX2_init_2 60 = .ok (.new 45, 3) := dk_187 0 45 (dk_at dksX2_init_2_2 15 rfl rfl)
theorem dX2_init_2_63 : decode cX2_init_2 63 = .ok (.dup, 1) := dk_89 (dk_at dksX2_init_2_2 18 rfl rfl)
theorem dX2_init_2_64 : decode cX2_init_2 64 = .ok (.aload_n 0, 1) := dk_42 (dk_at dksX2_init_2_2 19 rfl rfl)
theorem dX2_init_2_65 : decode cX2_init_2 65 = .ok (.getfield 41, 3) := dk_180 0 41 (dk_at dksX2_init_2_2 20 rfl rfl)
theorem dX2_init_2_68 : decode cX2_init_2 68 = .ok (.invokespecial 47, 3) := dk_183 0 47 (dk_at dksX2_init_2_3 0 rfl rfl)
theorem dX2_init_2_71 : decode cX2_init_2 71 = .ok (.aload_n 1, 1) := dk_43 (dk_at dksX2_init_2_3 3 rfl rfl)
theorem dX2_init_2_72 : decode cX2_init_2 72 = .ok (.getfield 50, 3) := dk_180 0 50 (dk_at dksX2_init_2_3 4 rfl rfl)
theorem dX2_init_2_75 : decode cX2_init_2 75 = .ok (.invokevirtual 55, 3) := dk_182 0 55 (dk_at dksX2_init_2_3 7 rfl rfl)
theorem dX2_init_2_78 : decode cX2_init_2 78 = .ok (.putfield 50, 3) := dk_181 0 50 (dk_at dksX2_init_2_3 10 rfl rfl)
theorem dX2_init_2_81 : decode cX2_init_2 81 = .ok (.aload_n 1, 1) := dk_43 (dk_at dksX2_init_2_3 13 rfl rfl)
theorem dX2_init_2_82 : decode cX2_init_2 82 = .ok (.getfield 17, 3) := dk_180 0 17 (dk_at dksX2_init_2_3 14 rfl rfl)
theorem dX2_init_2_85 : decode cX2_init_2 85 = .ok (.invokevirtual 59, 3) := dk_182 0 59 (dk_at dksX2_init_2_3 17 rfl rfl)
theorem dX2_init_2_88 : decode cX2_init_2 88 = .ok (.astore_n 2, 1) := dk_77 (dk_at dksX2_init_2_3 20 rfl rfl)
theorem dX2_init_2_89 : decode cX2_init_2 89 = .ok (.aload_n 2, 1) := dk_44 (dk_at dksX2_init_2_3 21 rfl rfl)
theorem dX2_init_2_90 : decode cX2_init_2 90 = .ok (.invokeinterface 63 1, 5) := by decide +kernel
theorem dX2_init_2_95 : decode cX2_init_2 95 = .ok (.ifCond .eq 26, 3) := dk_153 0 26 (dk_at dksX2_init_2_4 5 rfl rfl)
theorem dX2_init_2_98 : decode cX2_init_2 98 = .ok (.aload_n 2, 1) := dk_44 (dk_at dksX2_init_2_4 8 rfl rfl)
theorem dX2_init_2_99 : decode cX2_init_2 99 = .ok (.invokeinterface 69 1, 5) := by decide +kernel
theorem dX2_init_2_104 : decode cX2_init_2 104 = .ok (.checkcast 73, 3) := dk_192 0 73 (dk_at dksX2_init_2_4 14 rfl rfl)
theorem dX2_init_2_107 : decode cX2_init_2 107 = .ok (.astore_n 3, 1) := dk_78 (dk_at dksX2_init_2_4 17 rfl rfl)
theorem dX2_init_2_108 : decode cX2_init_2 108 = .ok (.aload_n 0, 1) := dk_42 (dk_at dksX2_init_2_4 18 rfl rfl)
theorem dX2_init_2_109 : decode cX2_init_2 109 = .ok (.getfield 17, 3) := dk_180 0 17 (dk_at dksX2_init_2_4 19 rfl rfl)
theorem dX2_init_2_112 : decode cX2_init_2 112 = .ok (.aload_n 3, 1) := dk_45 (dk_at dksX2_init_2_4 22 rfl rfl)
theorem dX2_init_2_113 : decode cX2_init_2 113 = .ok (.invokevirtual 75, 3) := dk_182 0 75 (dk_at dksX2_init_2_5 0 rfl rfl)
theorem dX2_init_2_116 : decode cX2_init_2 116 = .ok (.istore 4, 2) := dk_54 4 (dk_at dksX2_init_2_5 3 rfl rfl)
theorem dX2_init_2_118 : decode cX2_init_2 118 = .ok (.goto (-29), 3) := dk_167 255 227 (dk_at dksX2_init_2_5 5 rfl rfl)
theorem dX2_init_2_121 : decode cX2_init_2 121 = .ok (.aload_n 0, 1) := dk_42 (dk_at dksX2_init_2_5 8 rfl rfl)
theorem dX2_init_2_122 : decode cX2_init_2 122 = .ok (.getfield 26, 3) := dk_180 0 26 (dk_at dksX2_init_2_5 9 rfl rfl)
theorem dX2_init_2_125 : decode cX2_init_2 125 = .ok (.aload_n 1, 1) := dk_43 (dk_at dksX2_init_2_5 12 rfl rfl)
theorem dX2_init_2_126 : decode cX2_init_2 126 = .ok (.getfield 26, 3) := dk_180 0 26 (dk_at dksX2_init_2_5 13 rfl rfl)
theorem dX2_init_2_129 : decode cX2_init_2 129 = .ok (.invokevirtual 79, 3) := dk_182 0 79 (dk_at dksX2_init_2_5 16 rfl rfl)
theorem dX2_init_2_132 : decode cX2_init_2 132 = .ok (.pop, 1) := dk_87 (dk_at dksX2_init_2_5 19 rfl rfl)
theorem dX2_init_2_133 : decode cX2_init_2 133 = .ok (.aload_n 0, 1) := dk_42 (dk_at dksX2_init_2_5 20 rfl rfl)
theorem dX2_init_2_134 : decode cX2_init_2 134 = .ok (.aload_n 1, 1) := dk_43 (dk_at dksX2_init_2_5 21 rfl rfl)
theorem dX2_init_2_135 : decode cX2_init_2 135 = .ok (.getfield 30, 3) := dk_180 0 30 (dk_at dksX2_init_2_6 0 rfl rfl)
theorem dX2_init_2_138 : decode cX2_init_2 138 = .ok (.putfield 30, 3) := dk_181 0 30 (dk_at dksX2_init_2_6 3 rfl rfl)
theorem dX2_init_2_141 : decode cX2_init_2 141 = .ok (.aload_n 0, 1) := dk_42 (dk_at dksX2_init_2_6 6 rfl rfl)
theorem dX2_init_2_142 : decode cX2_init_2 142 = .ok (.aload_n 1, 1) := dk_43 (dk_at dksX2_init_2_6 7 rfl rfl)
theorem dX2_init_2_143 : decode cX2_init_2 143 = .ok (.getfield 34, 3) := dk_180 0 34 (dk_at dksX2_init_2_6 8 rfl rfl)
theorem dX2_init_2_146 : decode cX2_init_2 146 = .ok (.putfield 34, 3) := dk_181 0 34 (dk_at dksX2_init_2_6 11 rfl rfl)
theorem dX2_init_2_149 : decode cX2_init_2 149 = .ok (.aload_n 0, 1) := dk_42 (dk_at dksX2_init_2_6 14 rfl rfl)
theorem dX2_init_2_150 : decode cX2_init_2 150 = .ok (.aload_n 1, 1) := dk_43 (dk_at dksX2_init_2_6 15 rfl rfl)
theorem dX2_init_2_151 : decode cX2_init_2 151 = .ok (.getfield 83, 3) := dk_180 0 83 (dk_at dksX2_init_2_6 16 rfl rfl)
theorem dX2_init_2_154 : decode cX2_init_2 154 = .ok (.putfield 83, 3) := dk_181 0 83 (dk_at dksX2_init_2_6 19 rfl rfl)
theorem dX2_init_2_157 : decode cX2_init_2 157 = .ok (.aload_n 0, 1) := dk_42 (dk_at dksX2_init_2_6 22 rfl rfl)
theorem dX2_init_2_158 : decode cX2_init_2 158 = .ok (.aload_n 1, 1) := dk_43 (dk_at dksX2_init_2_6 23 rfl rfl)
theorem dX2_init_2_159 : decode cX2_init_2 159 = .ok (.getfield 86, 3) := dk_180 0 86 (dk_at dksX2_init_2_7 0 rfl rfl)
theorem dX2_init_2_162 : decode cX2_init_2 162 = .ok (.putfield 86, 3) := dk_181 0 86 (dk_at dksX2_init_2_7 3 rfl rfl)
theorem dX2_init_2_165 : decode cX2_init_2 165 = .ok (.return_, 1) := dk_177 (dk_at dksX2_init_2_7 6 rfl rfl)
abbrev cX2_addActor : ByteArray := prog_10_method_12_code
def yX2_addActor : MethodName := ⟨RX2, "addActor", "(CI)I"⟩
def dkwX2_addActor_4 : List UInt8 := [180, 0, 224, 29, 16, 115, 85, 42, 180, 0, 41, 180, 0, 227, 29, 2, 79, 29, 172]
abbrev dktX2_addActor_4 : List UInt8 := dkwX2_addActor_4 ++ []
def dkwX2_addActor_3 : List UInt8 := [180, 0, 41, 180, 0, 218, 29, 28, 79, 42, 180, 0, 41, 180, 0, 221, 29, 29, 79, 42, 180, 0, 41]
abbrev dktX2_addActor_3 : List UInt8 := dkwX2_addActor_3 ++ dktX2_addActor_4
def dkwX2_addActor_2 : List UInt8 := [180, 0, 41, 89, 180, 0, 89, 4, 96, 181, 0, 89, 42, 180, 0, 41, 180, 0, 214, 29, 27, 85, 42]
abbrev dktX2_addActor_2 : List UInt8 := dkwX2_addActor_2 ++ dktX2_addActor_3
def dkwX2_addActor_1 : List UInt8 := [162, 0, 7, 4, 167, 0, 4, 3, 4, 16, 8, 184, 0, 210, 42, 180, 0, 41, 180, 0, 89, 62, 42]
abbrev dktX2_addActor_1 : List UInt8 := dkwX2_addActor_1 ++ dktX2_addActor_2
def dkwX2_addActor_0 : List UInt8 := [18, 200, 27, 184, 0, 202, 28, 4, 16, 6, 184, 0, 206, 42, 180, 0, 41, 180, 0, 89, 16, 8]
abbrev dktX2_addActor_0 : List UInt8 := dkwX2_addActor_0 ++ dktX2_addActor_1
theorem dksX2_addActor_0 : cX2_addActor.data.toList.drop 0 = dktX2_addActor_0 := by decide +kernel
theorem dksX2_addActor_1 : cX2_addActor.data.toList.drop 22 = dktX2_addActor_1 := dk_seg dksX2_addActor_0 22 rfl rfl
theorem dksX2_addActor_2 : cX2_addActor.data.toList.drop 45 = dktX2_addActor_2 := dk_seg dksX2_addActor_1 23 rfl rfl
theorem dksX2_addActor_3 : cX2_addActor.data.toList.drop 68 = dktX2_addActor_3 := dk_seg dksX2_addActor_2 23 rfl rfl
theorem dksX2_addActor_4 : cX2_addActor.data.toList.drop 91 = dktX2_addActor_4 := dk_seg dksX2_addActor_3 23 rfl rfl
theorem dX2_addActor_0 : decode cX2_addActor 0 = .ok (.ldc 200, 2) := dk_18 200 (dk_at dksX2_addActor_0 0 rfl rfl)
theorem dX2_addActor_2 : decode cX2_addActor 2 = .ok (.iload_n 1, 1) := dk_27 (dk_at dksX2_addActor_0 2 rfl rfl)
theorem dX2_addActor_3 : decode cX2_addActor 3 = .ok (.invokestatic 202, 3) := dk_184 0 202 (dk_at dksX2_addActor_0 3 rfl rfl)
theorem dX2_addActor_6 : decode cX2_addActor 6 = .ok (.iload_n 2, 1) := dk_28 (dk_at dksX2_addActor_0 6 rfl rfl)
theorem dX2_addActor_7 : decode cX2_addActor 7 = .ok (.iconst 1, 1) := dk_4 (dk_at dksX2_addActor_0 7 rfl rfl)
theorem dX2_addActor_8 : decode cX2_addActor 8 = .ok (.bipush 6, 2) := dk_16 6 (dk_at dksX2_addActor_0 8 rfl rfl)
theorem dX2_addActor_10 : decode cX2_addActor 10 = .ok (.invokestatic 206, 3) := dk_184 0 206 (dk_at dksX2_addActor_0 10 rfl rfl)
theorem dX2_addActor_13 : decode cX2_addActor 13 = .ok (.aload_n 0, 1) := dk_42 (dk_at dksX2_addActor_0 13 rfl rfl)
theorem dX2_addActor_14 : decode cX2_addActor 14 = .ok (.getfield 41, 3) := dk_180 0 41 (dk_at dksX2_addActor_0 14 rfl rfl)
theorem dX2_addActor_17 : decode cX2_addActor 17 = .ok (.getfield 89, 3) := dk_180 0 89 (dk_at dksX2_addActor_0 17 rfl rfl)
theorem dX2_addActor_20 : decode cX2_addActor 20 = .ok (.bipush 8, 2) := dk_16 8 (dk_at dksX2_addActor_0 20 rfl rfl)
theorem dX2_addActor_22 : decode cX2_addActor 22 = .ok (.if_icmp .ge 7, 3) := dk_162 0 7 (dk_at dksX2_addActor_1 0 rfl rfl)
theorem dX2_addActor_25 : decode cX2_addActor 25 = .ok (.iconst 1, 1) := dk_4 (dk_at dksX2_addActor_1 3 rfl rfl)
theorem dX2_addActor_26 : decode cX2_addActor 26 = .ok (.goto 4, 3) := dk_167 0 4 (dk_at dksX2_addActor_1 4 rfl rfl)
theorem dX2_addActor_29 : decode cX2_addActor 29 = .ok (.iconst 0, 1) := dk_3 (dk_at dksX2_addActor_1 7 rfl rfl)
theorem dX2_addActor_30 : decode cX2_addActor 30 = .ok (.iconst 1, 1) := dk_4 (dk_at dksX2_addActor_1 8 rfl rfl)
theorem dX2_addActor_31 : decode cX2_addActor 31 = .ok (.bipush 8, 2) := dk_16 8 (dk_at dksX2_addActor_1 9 rfl rfl)
theorem dX2_addActor_33 : decode cX2_addActor 33 = .ok (.invokestatic 210, 3) := dk_184 0 210 (dk_at dksX2_addActor_1 11 rfl rfl)
theorem dX2_addActor_36 : decode cX2_addActor 36 = .ok (.aload_n 0, 1) := dk_42 (dk_at dksX2_addActor_1 14 rfl rfl)
theorem dX2_addActor_37 : decode cX2_addActor 37 = .ok (.getfield 41, 3) := dk_180 0 41 (dk_at dksX2_addActor_1 15 rfl rfl)
theorem dX2_addActor_40 : decode cX2_addActor 40 = .ok (.getfield 89, 3) := dk_180 0 89 (dk_at dksX2_addActor_1 18 rfl rfl)
theorem dX2_addActor_43 : decode cX2_addActor 43 = .ok (.istore_n 3, 1) := dk_62 (dk_at dksX2_addActor_1 21 rfl rfl)
theorem dX2_addActor_44 : decode cX2_addActor 44 = .ok (.aload_n 0, 1) := dk_42 (dk_at dksX2_addActor_1 22 rfl rfl)
theorem dX2_addActor_45 : decode cX2_addActor 45 = .ok (.getfield 41, 3) := dk_180 0 41 (dk_at dksX2_addActor_2 0 rfl rfl)
theorem dX2_addActor_48 : decode cX2_addActor 48 = .ok (.dup, 1) := dk_89 (dk_at dksX2_addActor_2 3 rfl rfl)
theorem dX2_addActor_49 : decode cX2_addActor 49 = .ok (.getfield 89, 3) := dk_180 0 89 (dk_at dksX2_addActor_2 4 rfl rfl)
theorem dX2_addActor_52 : decode cX2_addActor 52 = .ok (.iconst 1, 1) := dk_4 (dk_at dksX2_addActor_2 7 rfl rfl)
theorem dX2_addActor_53 : decode cX2_addActor 53 = .ok (.iadd, 1) := dk_96 (dk_at dksX2_addActor_2 8 rfl rfl)
theorem dX2_addActor_54 : decode cX2_addActor 54 = .ok (.putfield 89, 3) := dk_181 0 89 (dk_at dksX2_addActor_2 9 rfl rfl)
theorem dX2_addActor_57 : decode cX2_addActor 57 = .ok (.aload_n 0, 1) := dk_42 (dk_at dksX2_addActor_2 12 rfl rfl)
theorem dX2_addActor_58 : decode cX2_addActor 58 = .ok (.getfield 41, 3) := dk_180 0 41 (dk_at dksX2_addActor_2 13 rfl rfl)
theorem dX2_addActor_61 : decode cX2_addActor 61 = .ok (.getfield 214, 3) := dk_180 0 214 (dk_at dksX2_addActor_2 16 rfl rfl)
theorem dX2_addActor_64 : decode cX2_addActor 64 = .ok (.iload_n 3, 1) := dk_29 (dk_at dksX2_addActor_2 19 rfl rfl)
theorem dX2_addActor_65 : decode cX2_addActor 65 = .ok (.iload_n 1, 1) := dk_27 (dk_at dksX2_addActor_2 20 rfl rfl)
theorem dX2_addActor_66 : decode cX2_addActor 66 = .ok (.castore, 1) := dk_85 (dk_at dksX2_addActor_2 21 rfl rfl)
theorem dX2_addActor_67 : decode cX2_addActor 67 = .ok (.aload_n 0, 1) := dk_42 (dk_at dksX2_addActor_2 22 rfl rfl)
theorem dX2_addActor_68 : decode cX2_addActor 68 = .ok (.getfield 41, 3) := dk_180 0 41 (dk_at dksX2_addActor_3 0 rfl rfl)
theorem dX2_addActor_71 : decode cX2_addActor 71 = .ok (.getfield 218, 3) := dk_180 0 218 (dk_at dksX2_addActor_3 3 rfl rfl)
theorem dX2_addActor_74 : decode cX2_addActor 74 = .ok (.iload_n 3, 1) := dk_29 (dk_at dksX2_addActor_3 6 rfl rfl)
theorem dX2_addActor_75 : decode cX2_addActor 75 = .ok (.iload_n 2, 1) := dk_28 (dk_at dksX2_addActor_3 7 rfl rfl)
theorem dX2_addActor_76 : decode cX2_addActor 76 = .ok (.iastore, 1) := dk_79 (dk_at dksX2_addActor_3 8 rfl rfl)
theorem dX2_addActor_77 : decode cX2_addActor 77 = .ok (.aload_n 0, 1) := dk_42 (dk_at dksX2_addActor_3 9 rfl rfl)
theorem dX2_addActor_78 : decode cX2_addActor 78 = .ok (.getfield 41, 3) := dk_180 0 41 (dk_at dksX2_addActor_3 10 rfl rfl)
theorem dX2_addActor_81 : decode cX2_addActor 81 = .ok (.getfield 221, 3) := dk_180 0 221 (dk_at dksX2_addActor_3 13 rfl rfl)
theorem dX2_addActor_84 : decode cX2_addActor 84 = .ok (.iload_n 3, 1) := dk_29 (dk_at dksX2_addActor_3 16 rfl rfl)
theorem dX2_addActor_85 : decode cX2_addActor 85 = .ok (.iload_n 3, 1) := dk_29 (dk_at dksX2_addActor_3 17 rfl rfl)
theorem dX2_addActor_86 : decode cX2_addActor 86 = .ok (.iastore, 1) := dk_79 (dk_at dksX2_addActor_3 18 rfl rfl)
theorem dX2_addActor_87 : decode cX2_addActor 87 = .ok (.aload_n 0, 1) := dk_42 (dk_at dksX2_addActor_3 19 rfl rfl)
theorem dX2_addActor_88 : decode cX2_addActor 88 = .ok (.getfield 41, 3) := dk_180 0 41 (dk_at dksX2_addActor_3 20 rfl rfl)
theorem dX2_addActor_91 : decode cX2_addActor 91 = .ok (.getfield 224, 3) := dk_180 0 224 (dk_at dksX2_addActor_4 0 rfl rfl)
theorem dX2_addActor_94 : decode cX2_addActor 94 = .ok (.iload_n 3, 1) := dk_29 (dk_at dksX2_addActor_4 3 rfl rfl)
theorem dX2_addActor_95 : decode cX2_addActor 95 = .ok (.bipush 115, 2) := dk_16 115 (dk_at dksX2_addActor_4 4 rfl rfl)
theorem dX2_addActor_97 : decode cX2_addActor 97 = .ok (.castore, 1) := dk_85 (dk_at dksX2_addActor_4 6 rfl rfl)
theorem dX2_addActor_98 : decode cX2_addActor 98 = .ok (.aload_n 0, 1) := dk_42 (dk_at dksX2_addActor_4 7 rfl rfl)
theorem dX2_addActor_99 : decode cX2_addActor 99 = .ok (.getfield 41, 3) := dk_180 0 41 (dk_at dksX2_addActor_4 8 rfl rfl)
theorem dX2_addActor_102 : decode cX2_addActor 102 = .ok (.getfield 227, 3) := dk_180 0 227 (dk_at dksX2_addActor_4 11 rfl rfl)
theorem dX2_addActor_105 : decode cX2_addActor 105 = .ok (.iload_n 3, 1) := dk_29 (dk_at dksX2_addActor_4 14 rfl rfl)
theorem dX2_addActor_106 : decode cX2_addActor 106 = .ok (.iconst (-1), 1) := dk_2 (dk_at dksX2_addActor_4 15 rfl rfl)
theorem dX2_addActor_107 : decode cX2_addActor 107 = .ok (.iastore, 1) := dk_79 (dk_at dksX2_addActor_4 16 rfl rfl)
theorem dX2_addActor_108 : decode cX2_addActor 108 = .ok (.iload_n 3, 1) := dk_29 (dk_at dksX2_addActor_4 17 rfl rfl)
theorem dX2_addActor_109 : decode cX2_addActor 109 = .ok (.ireturn, 1) := dk_172 (dk_at dksX2_addActor_4 18 rfl rfl)
abbrev cX2_setTarget : ByteArray := prog_10_method_13_code
def yX2_setTarget : MethodName := ⟨RX2, "setTarget", "(II)I"⟩
def dkwX2_setTarget_1 : List UInt8 := [46, 62, 42, 180, 0, 41, 180, 0, 221, 27, 28, 79, 29, 172]
abbrev dktX2_setTarget_1 : List UInt8 := dkwX2_setTarget_1 ++ []
def dkwX2_setTarget_0 : List UInt8 := [42, 180, 0, 41, 27, 182, 0, 230, 42, 180, 0, 41, 28, 182, 0, 230, 42, 180, 0, 41, 180, 0, 221, 27]
abbrev dktX2_setTarget_0 : List UInt8 := dkwX2_setTarget_0 ++ dktX2_setTarget_1
theorem dksX2_setTarget_0 : cX2_setTarget.data.toList.drop 0 = dktX2_setTarget_0 := by decide +kernel
theorem dksX2_setTarget_1 : cX2_setTarget.data.toList.drop 24 = dktX2_setTarget_1 := dk_seg dksX2_setTarget_0 24 rfl rfl
theorem dX2_setTarget_0 : decode cX2_setTarget 0 = .ok (.aload_n 0, 1) := dk_42 (dk_at dksX2_setTarget_0 0 rfl rfl)
theorem dX2_setTarget_1 : decode cX2_setTarget 1 = .ok (.getfield 41, 3) := dk_180 0 41 (dk_at dksX2_setTarget_0 1 rfl rfl)
theorem dX2_setTarget_4 : decode cX2_setTarget 4 = .ok (.iload_n 1, 1) := dk_27 (dk_at dksX2_setTarget_0 4 rfl rfl)
theorem dX2_setTarget_5 : decode cX2_setTarget 5 = .ok (.invokevirtual 230, 3) := dk_182 0 230 (dk_at dksX2_setTarget_0 5 rfl rfl)
theorem dX2_setTarget_8 : decode cX2_setTarget 8 = .ok (.aload_n 0, 1) := dk_42 (dk_at dksX2_setTarget_0 8 rfl rfl)
theorem dX2_setTarget_9 : decode cX2_setTarget 9 = .ok (.getfield 41, 3) := dk_180 0 41 (dk_at dksX2_setTarget_0 9 rfl rfl)
theorem dX2_setTarget_12 : decode cX2_setTarget 12 = .ok (.iload_n 2, 1) := dk_28 (dk_at dksX2_setTarget_0 12 rfl rfl)
theorem dX2_setTarget_13 : decode cX2_setTarget 13 = .ok (.invokevirtual 230, 3) := dk_182 0 230 (dk_at dksX2_setTarget_0 13 rfl rfl)
theorem dX2_setTarget_16 : decode cX2_setTarget 16 = .ok (.aload_n 0, 1) := dk_42 (dk_at dksX2_setTarget_0 16 rfl rfl)
theorem dX2_setTarget_17 : decode cX2_setTarget 17 = .ok (.getfield 41, 3) := dk_180 0 41 (dk_at dksX2_setTarget_0 17 rfl rfl)
theorem dX2_setTarget_20 : decode cX2_setTarget 20 = .ok (.getfield 221, 3) := dk_180 0 221 (dk_at dksX2_setTarget_0 20 rfl rfl)
theorem dX2_setTarget_23 : decode cX2_setTarget 23 = .ok (.iload_n 1, 1) := dk_27 (dk_at dksX2_setTarget_0 23 rfl rfl)
theorem dX2_setTarget_24 : decode cX2_setTarget 24 = .ok (.iaload, 1) := dk_46 (dk_at dksX2_setTarget_1 0 rfl rfl)
theorem dX2_setTarget_25 : decode cX2_setTarget 25 = .ok (.istore_n 3, 1) := dk_62 (dk_at dksX2_setTarget_1 1 rfl rfl)
theorem dX2_setTarget_26 : decode cX2_setTarget 26 = .ok (.aload_n 0, 1) := dk_42 (dk_at dksX2_setTarget_1 2 rfl rfl)
theorem dX2_setTarget_27 : decode cX2_setTarget 27 = .ok (.getfield 41, 3) := dk_180 0 41 (dk_at dksX2_setTarget_1 3 rfl rfl)
theorem dX2_setTarget_30 : decode cX2_setTarget 30 = .ok (.getfield 221, 3) := dk_180 0 221 (dk_at dksX2_setTarget_1 6 rfl rfl)
theorem dX2_setTarget_33 : decode cX2_setTarget 33 = .ok (.iload_n 1, 1) := dk_27 (dk_at dksX2_setTarget_1 9 rfl rfl)
theorem dX2_setTarget_34 : decode cX2_setTarget 34 = .ok (.iload_n 2, 1) := dk_28 (dk_at dksX2_setTarget_1 10 rfl rfl)
theorem dX2_setTarget_35 : decode cX2_setTarget 35 = .ok (.iastore, 1) := dk_79 (dk_at dksX2_setTarget_1 11 rfl rfl)
theorem dX2_setTarget_36 : decode cX2_setTarget 36 = .ok (.iload_n 3, 1) := dk_29 (dk_at dksX2_setTarget_1 12 rfl rfl)
theorem dX2_setTarget_37 : decode cX2_setTarget 37 = .ok (.ireturn, 1) := dk_172 (dk_at dksX2_setTarget_1 13 rfl rfl)
abbrev cX2_setSupervisor : ByteArray := prog_10_method_15_code
def yX2_setSupervisor : MethodName := ⟨RX2, "setSupervisor", "(II)I"⟩
def dkwX2_setSupervisor_2 : List UInt8 := [42, 180, 0, 41, 180, 0, 227, 27, 28, 79, 42, 180, 0, 41, 28, 182, 0, 240, 172]
abbrev dktX2_setSupervisor_2 : List UInt8 := dkwX2_setSupervisor_2 ++ []
def dkwX2_setSupervisor_1 : List UInt8 := [167, 0, 4, 3, 184, 0, 233, 42, 180, 0, 50, 180, 0, 92, 27, 51, 154, 0, 8, 42, 28, 182, 0, 237]
abbrev dktX2_setSupervisor_1 : List UInt8 := dkwX2_setSupervisor_1 ++ dktX2_setSupervisor_2
def dkwX2_setSupervisor_0 : List UInt8 := [42, 180, 0, 41, 27, 182, 0, 230, 42, 180, 0, 41, 28, 182, 0, 230, 28, 27, 162, 0, 7, 4]
abbrev dktX2_setSupervisor_0 : List UInt8 := dkwX2_setSupervisor_0 ++ dktX2_setSupervisor_1
theorem dksX2_setSupervisor_0 : cX2_setSupervisor.data.toList.drop 0 = dktX2_setSupervisor_0 := by decide +kernel
theorem dksX2_setSupervisor_1 : cX2_setSupervisor.data.toList.drop 22 = dktX2_setSupervisor_1 := dk_seg dksX2_setSupervisor_0 22 rfl rfl
theorem dksX2_setSupervisor_2 : cX2_setSupervisor.data.toList.drop 46 = dktX2_setSupervisor_2 := dk_seg dksX2_setSupervisor_1 24 rfl rfl
theorem dX2_setSupervisor_0 : decode cX2_setSupervisor 0 = .ok (.aload_n 0, 1) := dk_42 (dk_at dksX2_setSupervisor_0 0 rfl rfl)
theorem dX2_setSupervisor_1 : decode cX2_setSupervisor 1 = .ok (.getfield 41, 3) := dk_180 0 41 (dk_at dksX2_setSupervisor_0 1 rfl rfl)
theorem dX2_setSupervisor_4 : decode cX2_setSupervisor 4 = .ok (.iload_n 1, 1) := dk_27 (dk_at dksX2_setSupervisor_0 4 rfl rfl)
theorem dX2_setSupervisor_5 : decode cX2_setSupervisor 5 = .ok (.invokevirtual 230, 3) := dk_182 0 230 (dk_at dksX2_setSupervisor_0 5 rfl rfl)
theorem dX2_setSupervisor_8 : decode cX2_setSupervisor 8 = .ok (.aload_n 0, 1) := dk_42 (dk_at dksX2_setSupervisor_0 8 rfl rfl)
theorem dX2_setSupervisor_9 : decode cX2_setSupervisor 9 = .ok (.getfield 41, 3) := dk_180 0 41 (dk_at dksX2_setSupervisor_0 9 rfl rfl)
theorem dX2_setSupervisor_12 : decode cX2_setSupervisor 12 = .ok (.iload_n 2, 1) := dk_28 (dk_at dksX2_setSupervisor_0 12 rfl rfl)
theorem dX2_setSupervisor_13 : decode cX2_setSupervisor 13 = .ok (.invokevirtual 230, 3) := dk_182 0 230 (dk_at dksX2_setSupervisor_0 13 rfl rfl)
theorem dX2_setSupervisor_16 : decode cX2_setSupervisor 16 = .ok (.iload_n 2, 1) := dk_28 (dk_at dksX2_setSupervisor_0 16 rfl rfl)
theorem dX2_setSupervisor_17 : decode cX2_setSupervisor 17 = .ok (.iload_n 1, 1) := dk_27 (dk_at dksX2_setSupervisor_0 17 rfl rfl)
theorem dX2_setSupervisor_18 : decode cX2_setSupervisor 18 = .ok (.if_icmp .ge 7, 3) := dk_162 0 7 (dk_at dksX2_setSupervisor_0 18 rfl rfl)
theorem dX2_setSupervisor_21 : decode cX2_setSupervisor 21 = .ok (.iconst 1, 1) := dk_4 (dk_at dksX2_setSupervisor_0 21 rfl rfl)
theorem dX2_setSupervisor_22 : decode cX2_setSupervisor 22 = .ok (.goto 4, 3) := dk_167 0 4 (dk_at dksX2_setSupervisor_1 0 rfl rfl)
theorem dX2_setSupervisor_25 : decode cX2_setSupervisor 25 = .ok (.iconst 0, 1) := dk_3 (dk_at dksX2_setSupervisor_1 3 rfl rfl)
theorem dX2_setSupervisor_26 : decode cX2_setSupervisor 26 = .ok (.invokestatic 233, 3) := dk_184 0 233 (dk_at dksX2_setSupervisor_1 4 rfl rfl)
theorem dX2_setSupervisor_29 : decode cX2_setSupervisor 29 = .ok (.aload_n 0, 1) := dk_42 (dk_at dksX2_setSupervisor_1 7 rfl rfl)
theorem dX2_setSupervisor_30 : decode cX2_setSupervisor 30 = .ok (.getfield 50, 3) := dk_180 0 50 (dk_at dksX2_setSupervisor_1 8 rfl rfl)
theorem dX2_setSupervisor_33 : decode cX2_setSupervisor 33 = .ok (.getfield 92, 3) := dk_180 0 92 (dk_at dksX2_setSupervisor_1 11 rfl rfl)
theorem dX2_setSupervisor_36 : decode cX2_setSupervisor 36 = .ok (.iload_n 1, 1) := dk_27 (dk_at dksX2_setSupervisor_1 14 rfl rfl)
theorem dX2_setSupervisor_37 : decode cX2_setSupervisor 37 = .ok (.baload, 1) := dk_51 (dk_at dksX2_setSupervisor_1 15 rfl rfl)
theorem dX2_setSupervisor_38 : decode cX2_setSupervisor 38 = .ok (.ifCond .ne 8, 3) := dk_154 0 8 (dk_at dksX2_setSupervisor_1 16 rfl rfl)
theorem dX2_setSupervisor_41 : decode cX2_setSupervisor 41 = .ok (.aload_n 0, 1) := dk_42 (dk_at dksX2_setSupervisor_1 19 rfl rfl)
theorem dX2_setSupervisor_42 : decode cX2_setSupervisor 42 = .ok (.iload_n 2, 1) := dk_28 (dk_at dksX2_setSupervisor_1 20 rfl rfl)
theorem dX2_setSupervisor_43 : decode cX2_setSupervisor 43 = .ok (.invokevirtual 237, 3) := dk_182 0 237 (dk_at dksX2_setSupervisor_1 21 rfl rfl)
theorem dX2_setSupervisor_46 : decode cX2_setSupervisor 46 = .ok (.aload_n 0, 1) := dk_42 (dk_at dksX2_setSupervisor_2 0 rfl rfl)
theorem dX2_setSupervisor_47 : decode cX2_setSupervisor 47 = .ok (.getfield 41, 3) := dk_180 0 41 (dk_at dksX2_setSupervisor_2 1 rfl rfl)
theorem dX2_setSupervisor_50 : decode cX2_setSupervisor 50 = .ok (.getfield 227, 3) := dk_180 0 227 (dk_at dksX2_setSupervisor_2 4 rfl rfl)
theorem dX2_setSupervisor_53 : decode cX2_setSupervisor 53 = .ok (.iload_n 1, 1) := dk_27 (dk_at dksX2_setSupervisor_2 7 rfl rfl)
theorem dX2_setSupervisor_54 : decode cX2_setSupervisor 54 = .ok (.iload_n 2, 1) := dk_28 (dk_at dksX2_setSupervisor_2 8 rfl rfl)
theorem dX2_setSupervisor_55 : decode cX2_setSupervisor 55 = .ok (.iastore, 1) := dk_79 (dk_at dksX2_setSupervisor_2 9 rfl rfl)
theorem dX2_setSupervisor_56 : decode cX2_setSupervisor 56 = .ok (.aload_n 0, 1) := dk_42 (dk_at dksX2_setSupervisor_2 10 rfl rfl)
theorem dX2_setSupervisor_57 : decode cX2_setSupervisor 57 = .ok (.getfield 41, 3) := dk_180 0 41 (dk_at dksX2_setSupervisor_2 11 rfl rfl)
theorem dX2_setSupervisor_60 : decode cX2_setSupervisor 60 = .ok (.iload_n 2, 1) := dk_28 (dk_at dksX2_setSupervisor_2 14 rfl rfl)
theorem dX2_setSupervisor_61 : decode cX2_setSupervisor 61 = .ok (.invokevirtual 240, 3) := dk_182 0 240 (dk_at dksX2_setSupervisor_2 15 rfl rfl)
theorem dX2_setSupervisor_64 : decode cX2_setSupervisor 64 = .ok (.ireturn, 1) := dk_172 (dk_at dksX2_setSupervisor_2 18 rfl rfl)
abbrev cX2_requireRunningSupervisor : ByteArray := prog_10_method_14_code
def yX2_requireRunningSupervisor : MethodName := ⟨RX2, "requireRunningSupervisor", "(I)V"⟩
def dkwX2_requireRunningSupervisor_1 : List UInt8 := [184, 0, 210, 177]
abbrev dktX2_requireRunningSupervisor_1 : List UInt8 := dkwX2_requireRunningSupervisor_1 ++ []
def dkwX2_requireRunningSupervisor_0 : List UInt8 := [27, 2, 159, 0, 15, 42, 180, 0, 50, 180, 0, 92, 27, 51, 154, 0, 7, 4, 167, 0, 4, 3, 7, 27]
abbrev dktX2_requireRunningSupervisor_0 : List UInt8 := dkwX2_requireRunningSupervisor_0 ++ dktX2_requireRunningSupervisor_1
theorem dksX2_requireRunningSupervisor_0 : cX2_requireRunningSupervisor.data.toList.drop 0 = dktX2_requireRunningSupervisor_0 := by decide +kernel
theorem dksX2_requireRunningSupervisor_1 : cX2_requireRunningSupervisor.data.toList.drop 24 = dktX2_requireRunningSupervisor_1 := dk_seg dksX2_requireRunningSupervisor_0 24 rfl rfl
theorem dX2_requireRunningSupervisor_0 : decode cX2_requireRunningSupervisor 0 = .ok (.iload_n 1, 1) := dk_27 (dk_at dksX2_requireRunningSupervisor_0 0 rfl rfl)
theorem dX2_requireRunningSupervisor_1 : decode cX2_requireRunningSupervisor 1 = .ok (.iconst (-1), 1) := dk_2 (dk_at dksX2_requireRunningSupervisor_0 1 rfl rfl)
theorem dX2_requireRunningSupervisor_2 : decode cX2_requireRunningSupervisor 2 = .ok (.if_icmp .eq 15, 3) := dk_159 0 15 (dk_at dksX2_requireRunningSupervisor_0 2 rfl rfl)
theorem dX2_requireRunningSupervisor_5 : decode cX2_requireRunningSupervisor 5 = .ok (.aload_n 0, 1) := dk_42 (dk_at dksX2_requireRunningSupervisor_0 5 rfl rfl)
theorem dX2_requireRunningSupervisor_6 : decode cX2_requireRunningSupervisor 6 = .ok (.getfield 50, 3) := dk_180 0 50 (dk_at dksX2_requireRunningSupervisor_0 6 rfl rfl)
theorem dX2_requireRunningSupervisor_9 : decode cX2_requireRunningSupervisor 9 = .ok (.getfield 92, 3) := dk_180 0 92 (dk_at dksX2_requireRunningSupervisor_0 9 rfl rfl)
theorem dX2_requireRunningSupervisor_12 : decode cX2_requireRunningSupervisor 12 = .ok (.iload_n 1, 1) := dk_27 (dk_at dksX2_requireRunningSupervisor_0 12 rfl rfl)
theorem dX2_requireRunningSupervisor_13 : decode cX2_requireRunningSupervisor 13 = .ok (.baload, 1) := dk_51 (dk_at dksX2_requireRunningSupervisor_0 13 rfl rfl)
theorem dX2_requireRunningSupervisor_14 : decode cX2_requireRunningSupervisor 14 = .ok (.ifCond .ne 7, 3) := dk_154 0 7 (dk_at dksX2_requireRunningSupervisor_0 14 rfl rfl)
theorem dX2_requireRunningSupervisor_17 : decode cX2_requireRunningSupervisor 17 = .ok (.iconst 1, 1) := dk_4 (dk_at dksX2_requireRunningSupervisor_0 17 rfl rfl)
theorem dX2_requireRunningSupervisor_18 : decode cX2_requireRunningSupervisor 18 = .ok (.goto 4, 3) := dk_167 0 4 (dk_at dksX2_requireRunningSupervisor_0 18 rfl rfl)
theorem dX2_requireRunningSupervisor_21 : decode cX2_requireRunningSupervisor 21 = .ok (.iconst 0, 1) := dk_3 (dk_at dksX2_requireRunningSupervisor_0 21 rfl rfl)
theorem dX2_requireRunningSupervisor_22 : decode cX2_requireRunningSupervisor 22 = .ok (.iconst 4, 1) := dk_7 (dk_at dksX2_requireRunningSupervisor_0 22 rfl rfl)
theorem dX2_requireRunningSupervisor_23 : decode cX2_requireRunningSupervisor 23 = .ok (.iload_n 1, 1) := dk_27 (dk_at dksX2_requireRunningSupervisor_0 23 rfl rfl)
theorem dX2_requireRunningSupervisor_24 : decode cX2_requireRunningSupervisor 24 = .ok (.invokestatic 210, 3) := dk_184 0 210 (dk_at dksX2_requireRunningSupervisor_1 0 rfl rfl)
theorem dX2_requireRunningSupervisor_27 : decode cX2_requireRunningSupervisor 27 = .ok (.return_, 1) := dk_177 (dk_at dksX2_requireRunningSupervisor_1 3 rfl rfl)
abbrev cX2_setStrategy : ByteArray := prog_10_method_16_code
def yX2_setStrategy : MethodName := ⟨RX2, "setStrategy", "(IC)C"⟩
def dkwX2_setStrategy_1 : List UInt8 := [42, 180, 0, 41, 180, 0, 224, 27, 28, 85, 29, 172]
abbrev dktX2_setStrategy_1 : List UInt8 := dkwX2_setStrategy_1 ++ []
def dkwX2_setStrategy_0 : List UInt8 := [42, 180, 0, 41, 27, 182, 0, 230, 18, 243, 28, 184, 0, 202, 42, 180, 0, 41, 180, 0, 224, 27, 52, 62]
abbrev dktX2_setStrategy_0 : List UInt8 := dkwX2_setStrategy_0 ++ dktX2_setStrategy_1
theorem dksX2_setStrategy_0 : cX2_setStrategy.data.toList.drop 0 = dktX2_setStrategy_0 := by decide +kernel
theorem dksX2_setStrategy_1 : cX2_setStrategy.data.toList.drop 24 = dktX2_setStrategy_1 := dk_seg dksX2_setStrategy_0 24 rfl rfl
theorem dX2_setStrategy_0 : decode cX2_setStrategy 0 = .ok (.aload_n 0, 1) := dk_42 (dk_at dksX2_setStrategy_0 0 rfl rfl)
theorem dX2_setStrategy_1 : decode cX2_setStrategy 1 = .ok (.getfield 41, 3) := dk_180 0 41 (dk_at dksX2_setStrategy_0 1 rfl rfl)
theorem dX2_setStrategy_4 : decode cX2_setStrategy 4 = .ok (.iload_n 1, 1) := dk_27 (dk_at dksX2_setStrategy_0 4 rfl rfl)
theorem dX2_setStrategy_5 : decode cX2_setStrategy 5 = .ok (.invokevirtual 230, 3) := dk_182 0 230 (dk_at dksX2_setStrategy_0 5 rfl rfl)
theorem dX2_setStrategy_8 : decode cX2_setStrategy 8 = .ok (.ldc 243, 2) := dk_18 243 (dk_at dksX2_setStrategy_0 8 rfl rfl)
theorem dX2_setStrategy_10 : decode cX2_setStrategy 10 = .ok (.iload_n 2, 1) := dk_28 (dk_at dksX2_setStrategy_0 10 rfl rfl)
theorem dX2_setStrategy_11 : decode cX2_setStrategy 11 = .ok (.invokestatic 202, 3) := dk_184 0 202 (dk_at dksX2_setStrategy_0 11 rfl rfl)
theorem dX2_setStrategy_14 : decode cX2_setStrategy 14 = .ok (.aload_n 0, 1) := dk_42 (dk_at dksX2_setStrategy_0 14 rfl rfl)
theorem dX2_setStrategy_15 : decode cX2_setStrategy 15 = .ok (.getfield 41, 3) := dk_180 0 41 (dk_at dksX2_setStrategy_0 15 rfl rfl)
theorem dX2_setStrategy_18 : decode cX2_setStrategy 18 = .ok (.getfield 224, 3) := dk_180 0 224 (dk_at dksX2_setStrategy_0 18 rfl rfl)
theorem dX2_setStrategy_21 : decode cX2_setStrategy 21 = .ok (.iload_n 1, 1) := dk_27 (dk_at dksX2_setStrategy_0 21 rfl rfl)
theorem dX2_setStrategy_22 : decode cX2_setStrategy 22 = .ok (.caload, 1) := dk_52 (dk_at dksX2_setStrategy_0 22 rfl rfl)
theorem dX2_setStrategy_23 : decode cX2_setStrategy 23 = .ok (.istore_n 3, 1) := dk_62 (dk_at dksX2_setStrategy_0 23 rfl rfl)
theorem dX2_setStrategy_24 : decode cX2_setStrategy 24 = .ok (.aload_n 0, 1) := dk_42 (dk_at dksX2_setStrategy_1 0 rfl rfl)
theorem dX2_setStrategy_25 : decode cX2_setStrategy 25 = .ok (.getfield 41, 3) := dk_180 0 41 (dk_at dksX2_setStrategy_1 1 rfl rfl)
theorem dX2_setStrategy_28 : decode cX2_setStrategy 28 = .ok (.getfield 224, 3) := dk_180 0 224 (dk_at dksX2_setStrategy_1 4 rfl rfl)
theorem dX2_setStrategy_31 : decode cX2_setStrategy 31 = .ok (.iload_n 1, 1) := dk_27 (dk_at dksX2_setStrategy_1 7 rfl rfl)
theorem dX2_setStrategy_32 : decode cX2_setStrategy 32 = .ok (.iload_n 2, 1) := dk_28 (dk_at dksX2_setStrategy_1 8 rfl rfl)
theorem dX2_setStrategy_33 : decode cX2_setStrategy 33 = .ok (.castore, 1) := dk_85 (dk_at dksX2_setStrategy_1 9 rfl rfl)
theorem dX2_setStrategy_34 : decode cX2_setStrategy 34 = .ok (.iload_n 3, 1) := dk_29 (dk_at dksX2_setStrategy_1 10 rfl rfl)
theorem dX2_setStrategy_35 : decode cX2_setStrategy 35 = .ok (.ireturn, 1) := dk_172 (dk_at dksX2_setStrategy_1 11 rfl rfl)
abbrev cX2_setPriority : ByteArray := prog_10_method_17_code
def yX2_setPriority : MethodName := ⟨RX2, "setPriority", "(II)I"⟩
def dkwX2_setPriority_1 : List UInt8 := [62, 42, 180, 0, 41, 180, 0, 96, 27, 28, 79, 29, 172]
abbrev dktX2_setPriority_1 : List UInt8 := dkwX2_setPriority_1 ++ []
def dkwX2_setPriority_0 : List UInt8 := [42, 180, 0, 41, 27, 182, 0, 230, 28, 3, 16, 9, 184, 0, 206, 42, 180, 0, 41, 180, 0, 96, 27, 46]
abbrev dktX2_setPriority_0 : List UInt8 := dkwX2_setPriority_0 ++ dktX2_setPriority_1
theorem dksX2_setPriority_0 : cX2_setPriority.data.toList.drop 0 = dktX2_setPriority_0 := by decide +kernel
theorem dksX2_setPriority_1 : cX2_setPriority.data.toList.drop 24 = dktX2_setPriority_1 := dk_seg dksX2_setPriority_0 24 rfl rfl
theorem dX2_setPriority_0 : decode cX2_setPriority 0 = .ok (.aload_n 0, 1) := dk_42 (dk_at dksX2_setPriority_0 0 rfl rfl)
theorem dX2_setPriority_1 : decode cX2_setPriority 1 = .ok (.getfield 41, 3) := dk_180 0 41 (dk_at dksX2_setPriority_0 1 rfl rfl)
theorem dX2_setPriority_4 : decode cX2_setPriority 4 = .ok (.iload_n 1, 1) := dk_27 (dk_at dksX2_setPriority_0 4 rfl rfl)
theorem dX2_setPriority_5 : decode cX2_setPriority 5 = .ok (.invokevirtual 230, 3) := dk_182 0 230 (dk_at dksX2_setPriority_0 5 rfl rfl)
theorem dX2_setPriority_8 : decode cX2_setPriority 8 = .ok (.iload_n 2, 1) := dk_28 (dk_at dksX2_setPriority_0 8 rfl rfl)
theorem dX2_setPriority_9 : decode cX2_setPriority 9 = .ok (.iconst 0, 1) := dk_3 (dk_at dksX2_setPriority_0 9 rfl rfl)
theorem dX2_setPriority_10 : decode cX2_setPriority 10 = .ok (.bipush 9, 2) := dk_16 9 (dk_at dksX2_setPriority_0 10 rfl rfl)
theorem dX2_setPriority_12 : decode cX2_setPriority 12 = .ok (.invokestatic 206, 3) := dk_184 0 206 (dk_at dksX2_setPriority_0 12 rfl rfl)
theorem dX2_setPriority_15 : decode cX2_setPriority 15 = .ok (.aload_n 0, 1) := dk_42 (dk_at dksX2_setPriority_0 15 rfl rfl)
theorem dX2_setPriority_16 : decode cX2_setPriority 16 = .ok (.getfield 41, 3) := dk_180 0 41 (dk_at dksX2_setPriority_0 16 rfl rfl)
theorem dX2_setPriority_19 : decode cX2_setPriority 19 = .ok (.getfield 96, 3) := dk_180 0 96 (dk_at dksX2_setPriority_0 19 rfl rfl)
theorem dX2_setPriority_22 : decode cX2_setPriority 22 = .ok (.iload_n 1, 1) := dk_27 (dk_at dksX2_setPriority_0 22 rfl rfl)
theorem dX2_setPriority_23 : decode cX2_setPriority 23 = .ok (.iaload, 1) := dk_46 (dk_at dksX2_setPriority_0 23 rfl rfl)
theorem dX2_setPriority_24 : decode cX2_setPriority 24 = .ok (.istore_n 3, 1) := dk_62 (dk_at dksX2_setPriority_1 0 rfl rfl)
theorem dX2_setPriority_25 : decode cX2_setPriority 25 = .ok (.aload_n 0, 1) := dk_42 (dk_at dksX2_setPriority_1 1 rfl rfl)
theorem dX2_setPriority_26 : decode cX2_setPriority 26 = .ok (.getfield 41, 3) := dk_180 0 41 (dk_at dksX2_setPriority_1 2 rfl rfl)
theorem dX2_setPriority_29 : decode cX2_setPriority 29 = .ok (.getfield 96, 3) := dk_180 0 96 (dk_at dksX2_setPriority_1 5 rfl rfl)
theorem dX2_setPriority_32 : decode cX2_setPriority 32 = .ok (.iload_n 1, 1) := dk_27 (dk_at dksX2_setPriority_1 8 rfl rfl)
theorem dX2_setPriority_33 : decode cX2_setPriority 33 = .ok (.iload_n 2, 1) := dk_28 (dk_at dksX2_setPriority_1 9 rfl rfl)
theorem dX2_setPriority_34 : decode cX2_setPriority 34 = .ok (.iastore, 1) := dk_79 (dk_at dksX2_setPriority_1 10 rfl rfl)
theorem dX2_setPriority_35 : decode cX2_setPriority 35 = .ok (.iload_n 3, 1) := dk_29 (dk_at dksX2_setPriority_1 11 rfl rfl)
theorem dX2_setPriority_36 : decode cX2_setPriority 36 = .ok (.ireturn, 1) := dk_172 (dk_at dksX2_setPriority_1 12 rfl rfl)
abbrev cX2_send : ByteArray := prog_10_method_20_code
def yX2_send : MethodName := ⟨RX2, "send", "(II)I"⟩
def dkwX2_send_3 : List UInt8 := [180, 0, 50, 27, 7, 28, 104, 182, 0, 141, 42, 180, 0, 50, 180, 1, 1, 27, 46, 172]
abbrev dktX2_send_3 : List UInt8 := dkwX2_send_3 ++ []
def dkwX2_send_2 : List UInt8 := [154, 0, 7, 4, 167, 0, 4, 3, 5, 42, 180, 0, 41, 180, 0, 218, 27, 46, 184, 0, 210, 42]
abbrev dktX2_send_2 : List UInt8 := dkwX2_send_2 ++ dktX2_send_3
def dkwX2_send_1 : List UInt8 := [154, 0, 7, 4, 167, 0, 4, 3, 6, 42, 182, 0, 251, 184, 0, 210, 42, 180, 0, 50, 27, 182, 0, 135]
abbrev dktX2_send_1 : List UInt8 := dkwX2_send_1 ++ dktX2_send_2
def dkwX2_send_0 : List UInt8 := [42, 180, 0, 41, 27, 182, 0, 230, 28, 3, 16, 99, 184, 0, 206, 42, 180, 0, 50, 180, 0, 92, 27, 51]
abbrev dktX2_send_0 : List UInt8 := dkwX2_send_0 ++ dktX2_send_1
theorem dksX2_send_0 : cX2_send.data.toList.drop 0 = dktX2_send_0 := by decide +kernel
theorem dksX2_send_1 : cX2_send.data.toList.drop 24 = dktX2_send_1 := dk_seg dksX2_send_0 24 rfl rfl
theorem dksX2_send_2 : cX2_send.data.toList.drop 48 = dktX2_send_2 := dk_seg dksX2_send_1 24 rfl rfl
theorem dksX2_send_3 : cX2_send.data.toList.drop 70 = dktX2_send_3 := dk_seg dksX2_send_2 22 rfl rfl
theorem dX2_send_0 : decode cX2_send 0 = .ok (.aload_n 0, 1) := dk_42 (dk_at dksX2_send_0 0 rfl rfl)
theorem dX2_send_1 : decode cX2_send 1 = .ok (.getfield 41, 3) := dk_180 0 41 (dk_at dksX2_send_0 1 rfl rfl)
theorem dX2_send_4 : decode cX2_send 4 = .ok (.iload_n 1, 1) := dk_27 (dk_at dksX2_send_0 4 rfl rfl)
theorem dX2_send_5 : decode cX2_send 5 = .ok (.invokevirtual 230, 3) := dk_182 0 230 (dk_at dksX2_send_0 5 rfl rfl)
theorem dX2_send_8 : decode cX2_send 8 = .ok (.iload_n 2, 1) := dk_28 (dk_at dksX2_send_0 8 rfl rfl)
theorem dX2_send_9 : decode cX2_send 9 = .ok (.iconst 0, 1) := dk_3 (dk_at dksX2_send_0 9 rfl rfl)
theorem dX2_send_10 : decode cX2_send 10 = .ok (.bipush 99, 2) := dk_16 99 (dk_at dksX2_send_0 10 rfl rfl)
theorem dX2_send_12 : decode cX2_send 12 = .ok (.invokestatic 206, 3) := dk_184 0 206 (dk_at dksX2_send_0 12 rfl rfl)
theorem dX2_send_15 : decode cX2_send 15 = .ok (.aload_n 0, 1) := dk_42 (dk_at dksX2_send_0 15 rfl rfl)
theorem dX2_send_16 : decode cX2_send 16 = .ok (.getfield 50, 3) := dk_180 0 50 (dk_at dksX2_send_0 16 rfl rfl)
theorem dX2_send_19 : decode cX2_send 19 = .ok (.getfield 92, 3) := dk_180 0 92 (dk_at dksX2_send_0 19 rfl rfl)
theorem dX2_send_22 : decode cX2_send 22 = .ok (.iload_n 1, 1) := dk_27 (dk_at dksX2_send_0 22 rfl rfl)
theorem dX2_send_23 : decode cX2_send 23 = .ok (.baload, 1) := dk_51 (dk_at dksX2_send_0 23 rfl rfl)
theorem dX2_send_24 : decode cX2_send 24 = .ok (.ifCond .ne 7, 3) := dk_154 0 7 (dk_at dksX2_send_1 0 rfl rfl)
theorem dX2_send_27 : decode cX2_send 27 = .ok (.iconst 1, 1) := dk_4 (dk_at dksX2_send_1 3 rfl rfl)
theorem dX2_send_28 : decode cX2_send 28 = .ok (.goto 4, 3) := dk_167 0 4 (dk_at dksX2_send_1 4 rfl rfl)
theorem dX2_send_31 : decode cX2_send 31 = .ok (.iconst 0, 1) := dk_3 (dk_at dksX2_send_1 7 rfl rfl)
theorem dX2_send_32 : decode cX2_send 32 = .ok (.iconst 3, 1) := dk_6 (dk_at dksX2_send_1 8 rfl rfl)
theorem dX2_send_33 : decode cX2_send 33 = .ok (.aload_n 0, 1) := dk_42 (dk_at dksX2_send_1 9 rfl rfl)
theorem dX2_send_34 : decode cX2_send 34 = .ok (.invokevirtual 251, 3) := dk_182 0 251 (dk_at dksX2_send_1 10 rfl rfl)
theorem dX2_send_37 : decode cX2_send 37 = .ok (.invokestatic 210, 3) := dk_184 0 210 (dk_at dksX2_send_1 13 rfl rfl)
theorem dX2_send_40 : decode cX2_send 40 = .ok (.aload_n 0, 1) := dk_42 (dk_at dksX2_send_1 16 rfl rfl)
theorem dX2_send_41 : decode cX2_send 41 = .ok (.getfield 50, 3) := dk_180 0 50 (dk_at dksX2_send_1 17 rfl rfl)
theorem dX2_send_44 : decode cX2_send 44 = .ok (.iload_n 1, 1) := dk_27 (dk_at dksX2_send_1 20 rfl rfl)
theorem dX2_send_45 : decode cX2_send 45 = .ok (.invokevirtual 135, 3) := dk_182 0 135 (dk_at dksX2_send_1 21 rfl rfl)
theorem dX2_send_48 : decode cX2_send 48 = .ok (.ifCond .ne 7, 3) := dk_154 0 7 (dk_at dksX2_send_2 0 rfl rfl)
theorem dX2_send_51 : decode cX2_send 51 = .ok (.iconst 1, 1) := dk_4 (dk_at dksX2_send_2 3 rfl rfl)
theorem dX2_send_52 : decode cX2_send 52 = .ok (.goto 4, 3) := dk_167 0 4 (dk_at dksX2_send_2 4 rfl rfl)
theorem dX2_send_55 : decode cX2_send 55 = .ok (.iconst 0, 1) := dk_3 (dk_at dksX2_send_2 7 rfl rfl)
theorem dX2_send_56 : decode cX2_send 56 = .ok (.iconst 2, 1) := dk_5 (dk_at dksX2_send_2 8 rfl rfl)
theorem dX2_send_57 : decode cX2_send 57 = .ok (.aload_n 0, 1) := dk_42 (dk_at dksX2_send_2 9 rfl rfl)
theorem dX2_send_58 : decode cX2_send 58 = .ok (.getfield 41, 3) := dk_180 0 41 (dk_at dksX2_send_2 10 rfl rfl)
theorem dX2_send_61 : decode cX2_send 61 = .ok (.getfield 218, 3) := dk_180 0 218 (dk_at dksX2_send_2 13 rfl rfl)
theorem dX2_send_64 : decode cX2_send 64 = .ok (.iload_n 1, 1) := dk_27 (dk_at dksX2_send_2 16 rfl rfl)
theorem dX2_send_65 : decode cX2_send 65 = .ok (.iaload, 1) := dk_46 (dk_at dksX2_send_2 17 rfl rfl)
theorem dX2_send_66 : decode cX2_send 66 = .ok (.invokestatic 210, 3) := dk_184 0 210 (dk_at dksX2_send_2 18 rfl rfl)
theorem dX2_send_69 : decode cX2_send 69 = .ok (.aload_n 0, 1) := dk_42 (dk_at dksX2_send_2 21 rfl rfl)
theorem dX2_send_70 : decode cX2_send 70 = .ok (.getfield 50, 3) := dk_180 0 50 (dk_at dksX2_send_3 0 rfl rfl)
theorem dX2_send_73 : decode cX2_send 73 = .ok (.iload_n 1, 1) := dk_27 (dk_at dksX2_send_3 3 rfl rfl)
theorem dX2_send_74 : decode cX2_send 74 = .ok (.iconst 4, 1) := dk_7 (dk_at dksX2_send_3 4 rfl rfl)
theorem dX2_send_75 : decode cX2_send 75 = .ok (.iload_n 2, 1) := dk_28 (dk_at dksX2_send_3 5 rfl rfl)
theorem dX2_send_76 : decode cX2_send 76 = .ok (.imul, 1) := dk_104 (dk_at dksX2_send_3 6 rfl rfl)
theorem dX2_send_77 : decode cX2_send 77 = .ok (.invokevirtual 141, 3) := dk_182 0 141 (dk_at dksX2_send_3 7 rfl rfl)
theorem dX2_send_80 : decode cX2_send 80 = .ok (.aload_n 0, 1) := dk_42 (dk_at dksX2_send_3 10 rfl rfl)
theorem dX2_send_81 : decode cX2_send 81 = .ok (.getfield 50, 3) := dk_180 0 50 (dk_at dksX2_send_3 11 rfl rfl)
theorem dX2_send_84 : decode cX2_send 84 = .ok (.getfield 257, 3) := dk_180 1 1 (dk_at dksX2_send_3 14 rfl rfl)
theorem dX2_send_87 : decode cX2_send 87 = .ok (.iload_n 1, 1) := dk_27 (dk_at dksX2_send_3 17 rfl rfl)
theorem dX2_send_88 : decode cX2_send 88 = .ok (.iaload, 1) := dk_46 (dk_at dksX2_send_3 18 rfl rfl)
theorem dX2_send_89 : decode cX2_send 89 = .ok (.ireturn, 1) := dk_172 (dk_at dksX2_send_3 19 rfl rfl)
abbrev cX2_setTimer : ByteArray := prog_10_method_21_code
def yX2_setTimer : MethodName := ⟨RX2, "setTimer", "(III)I"⟩
def dkwX2_setTimer_3 : List UInt8 := [182, 0, 75, 54, 4, 42, 89, 180, 0, 86, 4, 96, 181, 0, 86, 42, 180, 0, 17, 182, 1, 4, 172]
abbrev dktX2_setTimer_3 : List UInt8 := dkwX2_setTimer_3 ++ []
def dkwX2_setTimer_2 : List UInt8 := [180, 0, 17, 187, 0, 73, 89, 42, 180, 0, 83, 29, 96, 42, 180, 0, 86, 27, 28, 183, 1, 6]
abbrev dktX2_setTimer_2 : List UInt8 := dkwX2_setTimer_2 ++ dktX2_setTimer_3
def dkwX2_setTimer_1 : List UInt8 := [180, 0, 17, 182, 1, 4, 16, 10, 162, 0, 7, 4, 167, 0, 4, 3, 4, 16, 10, 184, 0, 210, 42]
abbrev dktX2_setTimer_1 : List UInt8 := dkwX2_setTimer_1 ++ dktX2_setTimer_2
def dkwX2_setTimer_0 : List UInt8 := [42, 180, 0, 41, 27, 182, 0, 230, 28, 3, 16, 99, 184, 0, 206, 29, 4, 16, 20, 184, 0, 206, 42]
abbrev dktX2_setTimer_0 : List UInt8 := dkwX2_setTimer_0 ++ dktX2_setTimer_1
theorem dksX2_setTimer_0 : cX2_setTimer.data.toList.drop 0 = dktX2_setTimer_0 := by decide +kernel
theorem dksX2_setTimer_1 : cX2_setTimer.data.toList.drop 23 = dktX2_setTimer_1 := dk_seg dksX2_setTimer_0 23 rfl rfl
theorem dksX2_setTimer_2 : cX2_setTimer.data.toList.drop 46 = dktX2_setTimer_2 := dk_seg dksX2_setTimer_1 23 rfl rfl
theorem dksX2_setTimer_3 : cX2_setTimer.data.toList.drop 68 = dktX2_setTimer_3 := dk_seg dksX2_setTimer_2 22 rfl rfl
theorem dX2_setTimer_0 : decode cX2_setTimer 0 = .ok (.aload_n 0, 1) := dk_42 (dk_at dksX2_setTimer_0 0 rfl rfl)
theorem dX2_setTimer_1 : decode cX2_setTimer 1 = .ok (.getfield 41, 3) := dk_180 0 41 (dk_at dksX2_setTimer_0 1 rfl rfl)
theorem dX2_setTimer_4 : decode cX2_setTimer 4 = .ok (.iload_n 1, 1) := dk_27 (dk_at dksX2_setTimer_0 4 rfl rfl)
theorem dX2_setTimer_5 : decode cX2_setTimer 5 = .ok (.invokevirtual 230, 3) := dk_182 0 230 (dk_at dksX2_setTimer_0 5 rfl rfl)
theorem dX2_setTimer_8 : decode cX2_setTimer 8 = .ok (.iload_n 2, 1) := dk_28 (dk_at dksX2_setTimer_0 8 rfl rfl)
theorem dX2_setTimer_9 : decode cX2_setTimer 9 = .ok (.iconst 0, 1) := dk_3 (dk_at dksX2_setTimer_0 9 rfl rfl)
theorem dX2_setTimer_10 : decode cX2_setTimer 10 = .ok (.bipush 99, 2) := dk_16 99 (dk_at dksX2_setTimer_0 10 rfl rfl)
theorem dX2_setTimer_12 : decode cX2_setTimer 12 = .ok (.invokestatic 206, 3) := dk_184 0 206 (dk_at dksX2_setTimer_0 12 rfl rfl)
theorem dX2_setTimer_15 : decode cX2_setTimer 15 = .ok (.iload_n 3, 1) := dk_29 (dk_at dksX2_setTimer_0 15 rfl rfl)
theorem dX2_setTimer_16 : decode cX2_setTimer 16 = .ok (.iconst 1, 1) := dk_4 (dk_at dksX2_setTimer_0 16 rfl rfl)
theorem dX2_setTimer_17 : decode cX2_setTimer 17 = .ok (.bipush 20, 2) := dk_16 20 (dk_at dksX2_setTimer_0 17 rfl rfl)
theorem dX2_setTimer_19 : decode cX2_setTimer 19 = .ok (.invokestatic 206, 3) := dk_184 0 206 (dk_at dksX2_setTimer_0 19 rfl rfl)
theorem dX2_setTimer_22 : decode cX2_setTimer 22 = .ok (.aload_n 0, 1) := dk_42 (dk_at dksX2_setTimer_0 22 rfl rfl)
theorem dX2_setTimer_23 : decode cX2_setTimer 23 = .ok (.getfield 17, 3) := dk_180 0 17 (dk_at dksX2_setTimer_1 0 rfl rfl)
theorem dX2_setTimer_26 : decode cX2_setTimer 26 = .ok (.invokevirtual 260, 3) := dk_182 1 4 (dk_at dksX2_setTimer_1 3 rfl rfl)
theorem dX2_setTimer_29 : decode cX2_setTimer 29 = .ok (.bipush 10, 2) := dk_16 10 (dk_at dksX2_setTimer_1 6 rfl rfl)
theorem dX2_setTimer_31 : decode cX2_setTimer 31 = .ok (.if_icmp .ge 7, 3) := dk_162 0 7 (dk_at dksX2_setTimer_1 8 rfl rfl)
theorem dX2_setTimer_34 : decode cX2_setTimer 34 = .ok (.iconst 1, 1) := dk_4 (dk_at dksX2_setTimer_1 11 rfl rfl)
theorem dX2_setTimer_35 : decode cX2_setTimer 35 = .ok (.goto 4, 3) := dk_167 0 4 (dk_at dksX2_setTimer_1 12 rfl rfl)
theorem dX2_setTimer_38 : decode cX2_setTimer 38 = .ok (.iconst 0, 1) := dk_3 (dk_at dksX2_setTimer_1 15 rfl rfl)
theorem dX2_setTimer_39 : decode cX2_setTimer 39 = .ok (.iconst 1, 1) := dk_4 (dk_at dksX2_setTimer_1 16 rfl rfl)
theorem dX2_setTimer_40 : decode cX2_setTimer 40 = .ok (.bipush 10, 2) := dk_16 10 (dk_at dksX2_setTimer_1 17 rfl rfl)
theorem dX2_setTimer_42 : decode cX2_setTimer 42 = .ok (.invokestatic 210, 3) := dk_184 0 210 (dk_at dksX2_setTimer_1 19 rfl rfl)
theorem dX2_setTimer_45 : decode cX2_setTimer 45 = .ok (.aload_n 0, 1) := dk_42 (dk_at dksX2_setTimer_1 22 rfl rfl)
theorem dX2_setTimer_46 : decode cX2_setTimer 46 = .ok (.getfield 17, 3) := dk_180 0 17 (dk_at dksX2_setTimer_2 0 rfl rfl)
theorem dX2_setTimer_49 : decode cX2_setTimer 49 = .ok (.new 73, 3) := dk_187 0 73 (dk_at dksX2_setTimer_2 3 rfl rfl)
theorem dX2_setTimer_52 : decode cX2_setTimer 52 = .ok (.dup, 1) := dk_89 (dk_at dksX2_setTimer_2 6 rfl rfl)
theorem dX2_setTimer_53 : decode cX2_setTimer 53 = .ok (.aload_n 0, 1) := dk_42 (dk_at dksX2_setTimer_2 7 rfl rfl)
theorem dX2_setTimer_54 : decode cX2_setTimer 54 = .ok (.getfield 83, 3) := dk_180 0 83 (dk_at dksX2_setTimer_2 8 rfl rfl)
theorem dX2_setTimer_57 : decode cX2_setTimer 57 = .ok (.iload_n 3, 1) := dk_29 (dk_at dksX2_setTimer_2 11 rfl rfl)
theorem dX2_setTimer_58 : decode cX2_setTimer 58 = .ok (.iadd, 1) := dk_96 (dk_at dksX2_setTimer_2 12 rfl rfl)
theorem dX2_setTimer_59 : decode cX2_setTimer 59 = .ok (.aload_n 0, 1) := dk_42 (dk_at dksX2_setTimer_2 13 rfl rfl)
theorem dX2_setTimer_60 : decode cX2_setTimer 60 = .ok (.getfield 86, 3) := dk_180 0 86 (dk_at dksX2_setTimer_2 14 rfl rfl)
theorem dX2_setTimer_63 : decode cX2_setTimer 63 = .ok (.iload_n 1, 1) := dk_27 (dk_at dksX2_setTimer_2 17 rfl rfl)
theorem dX2_setTimer_64 : decode cX2_setTimer 64 = .ok (.iload_n 2, 1) := dk_28 (dk_at dksX2_setTimer_2 18 rfl rfl)
theorem dX2_setTimer_65 : decode cX2_setTimer 65 = .ok (.invokespecial 262, 3) := dk_183 1 6 (dk_at dksX2_setTimer_2 19 rfl rfl)
theorem dX2_setTimer_68 : decode cX2_setTimer 68 = .ok (.invokevirtual 75, 3) := dk_182 0 75 (dk_at dksX2_setTimer_3 0 rfl rfl)
theorem dX2_setTimer_71 : decode cX2_setTimer 71 = .ok (.istore 4, 2) := dk_54 4 (dk_at dksX2_setTimer_3 3 rfl rfl)
theorem dX2_setTimer_73 : decode cX2_setTimer 73 = .ok (.aload_n 0, 1) := dk_42 (dk_at dksX2_setTimer_3 5 rfl rfl)
theorem dX2_setTimer_74 : decode cX2_setTimer 74 = .ok (.dup, 1) := dk_89 (dk_at dksX2_setTimer_3 6 rfl rfl)
theorem dX2_setTimer_75 : decode cX2_setTimer 75 = .ok (.getfield 86, 3) := dk_180 0 86 (dk_at dksX2_setTimer_3 7 rfl rfl)
theorem dX2_setTimer_78 : decode cX2_setTimer 78 = .ok (.iconst 1, 1) := dk_4 (dk_at dksX2_setTimer_3 10 rfl rfl)
theorem dX2_setTimer_79 : decode cX2_setTimer 79 = .ok (.iadd, 1) := dk_96 (dk_at dksX2_setTimer_3 11 rfl rfl)
theorem dX2_setTimer_80 : decode cX2_setTimer 80 = .ok (.putfield 86, 3) := dk_181 0 86 (dk_at dksX2_setTimer_3 12 rfl rfl)
theorem dX2_setTimer_83 : decode cX2_setTimer 83 = .ok (.aload_n 0, 1) := dk_42 (dk_at dksX2_setTimer_3 15 rfl rfl)
theorem dX2_setTimer_84 : decode cX2_setTimer 84 = .ok (.getfield 17, 3) := dk_180 0 17 (dk_at dksX2_setTimer_3 16 rfl rfl)
theorem dX2_setTimer_87 : decode cX2_setTimer 87 = .ok (.invokevirtual 260, 3) := dk_182 1 4 (dk_at dksX2_setTimer_3 19 rfl rfl)
theorem dX2_setTimer_90 : decode cX2_setTimer 90 = .ok (.ireturn, 1) := dk_172 (dk_at dksX2_setTimer_3 22 rfl rfl)
abbrev cX2_start : ByteArray := prog_10_method_18_code
def yX2_start : MethodName := ⟨RX2, "start", "(I)I"⟩
def dkwX2_start_3 : List UInt8 := [167, 0, 4, 3, 172]
abbrev dktX2_start_3 : List UInt8 := dkwX2_start_3 ++ []
def dkwX2_start_2 : List UInt8 := [180, 0, 50, 180, 0, 245, 27, 3, 79, 42, 180, 0, 50, 180, 0, 248, 27, 3, 79, 28, 153, 0, 7, 4]
abbrev dktX2_start_2 : List UInt8 := dkwX2_start_2 ++ dktX2_start_3
def dkwX2_start_1 : List UInt8 := [180, 0, 50, 180, 0, 92, 27, 51, 61, 28, 153, 0, 33, 42, 180, 0, 50, 180, 0, 92, 27, 3, 84, 42]
abbrev dktX2_start_1 : List UInt8 := dkwX2_start_1 ++ dktX2_start_2
def dkwX2_start_0 : List UInt8 := [42, 180, 0, 41, 27, 182, 0, 230, 42, 42, 180, 0, 41, 180, 0, 227, 27, 46, 182, 0, 237, 42]
abbrev dktX2_start_0 : List UInt8 := dkwX2_start_0 ++ dktX2_start_1
theorem dksX2_start_0 : cX2_start.data.toList.drop 0 = dktX2_start_0 := by decide +kernel
theorem dksX2_start_1 : cX2_start.data.toList.drop 22 = dktX2_start_1 := dk_seg dksX2_start_0 22 rfl rfl
theorem dksX2_start_2 : cX2_start.data.toList.drop 46 = dktX2_start_2 := dk_seg dksX2_start_1 24 rfl rfl
theorem dksX2_start_3 : cX2_start.data.toList.drop 70 = dktX2_start_3 := dk_seg dksX2_start_2 24 rfl rfl
theorem dX2_start_0 : decode cX2_start 0 = .ok (.aload_n 0, 1) := dk_42 (dk_at dksX2_start_0 0 rfl rfl)
theorem dX2_start_1 : decode cX2_start 1 = .ok (.getfield 41, 3) := dk_180 0 41 (dk_at dksX2_start_0 1 rfl rfl)
theorem dX2_start_4 : decode cX2_start 4 = .ok (.iload_n 1, 1) := dk_27 (dk_at dksX2_start_0 4 rfl rfl)
theorem dX2_start_5 : decode cX2_start 5 = .ok (.invokevirtual 230, 3) := dk_182 0 230 (dk_at dksX2_start_0 5 rfl rfl)
theorem dX2_start_8 : decode cX2_start 8 = .ok (.aload_n 0, 1) := dk_42 (dk_at dksX2_start_0 8 rfl rfl)
theorem dX2_start_9 : decode cX2_start 9 = .ok (.aload_n 0, 1) := dk_42 (dk_at dksX2_start_0 9 rfl rfl)
theorem dX2_start_10 : decode cX2_start 10 = .ok (.getfield 41, 3) := dk_180 0 41 (dk_at dksX2_start_0 10 rfl rfl)
theorem dX2_start_13 : decode cX2_start 13 = .ok (.getfield 227, 3) := dk_180 0 227 (dk_at dksX2_start_0 13 rfl rfl)
theorem dX2_start_16 : decode cX2_start 16 = .ok (.iload_n 1, 1) := dk_27 (dk_at dksX2_start_0 16 rfl rfl)
theorem dX2_start_17 : decode cX2_start 17 = .ok (.iaload, 1) := dk_46 (dk_at dksX2_start_0 17 rfl rfl)
theorem dX2_start_18 : decode cX2_start 18 = .ok (.invokevirtual 237, 3) := dk_182 0 237 (dk_at dksX2_start_0 18 rfl rfl)
theorem dX2_start_21 : decode cX2_start 21 = .ok (.aload_n 0, 1) := dk_42 (dk_at dksX2_start_0 21 rfl rfl)
theorem dX2_start_22 : decode cX2_start 22 = .ok (.getfield 50, 3) := dk_180 0 50 (dk_at dksX2_start_1 0 rfl rfl)
theorem dX2_start_25 : decode cX2_start 25 = .ok (.getfield 92, 3) := dk_180 0 92 (dk_at dksX2_start_1 3 rfl rfl)
theorem dX2_start_28 : decode cX2_start 28 = .ok (.iload_n 1, 1) := dk_27 (dk_at dksX2_start_1 6 rfl rfl)
theorem dX2_start_29 : decode cX2_start 29 = .ok (.baload, 1) := dk_51 (dk_at dksX2_start_1 7 rfl rfl)
theorem dX2_start_30 : decode cX2_start 30 = .ok (.istore_n 2, 1) := dk_61 (dk_at dksX2_start_1 8 rfl rfl)
theorem dX2_start_31 : decode cX2_start 31 = .ok (.iload_n 2, 1) := dk_28 (dk_at dksX2_start_1 9 rfl rfl)
theorem dX2_start_32 : decode cX2_start 32 = .ok (.ifCond .eq 33, 3) := dk_153 0 33 (dk_at dksX2_start_1 10 rfl rfl)
theorem dX2_start_35 : decode cX2_start 35 = .ok (.aload_n 0, 1) := dk_42 (dk_at dksX2_start_1 13 rfl rfl)
theorem dX2_start_36 : decode cX2_start 36 = .ok (.getfield 50, 3) := dk_180 0 50 (dk_at dksX2_start_1 14 rfl rfl)
theorem dX2_start_39 : decode cX2_start 39 = .ok (.getfield 92, 3) := dk_180 0 92 (dk_at dksX2_start_1 17 rfl rfl)
theorem dX2_start_42 : decode cX2_start 42 = .ok (.iload_n 1, 1) := dk_27 (dk_at dksX2_start_1 20 rfl rfl)
theorem dX2_start_43 : decode cX2_start 43 = .ok (.iconst 0, 1) := dk_3 (dk_at dksX2_start_1 21 rfl rfl)
theorem dX2_start_44 : decode cX2_start 44 = .ok (.bastore, 1) := dk_84 (dk_at dksX2_start_1 22 rfl rfl)
theorem dX2_start_45 : decode cX2_start 45 = .ok (.aload_n 0, 1) := dk_42 (dk_at dksX2_start_1 23 rfl rfl)
theorem dX2_start_46 : decode cX2_start 46 = .ok (.getfield 50, 3) := dk_180 0 50 (dk_at dksX2_start_2 0 rfl rfl)
theorem dX2_start_49 : decode cX2_start 49 = .ok (.getfield 245, 3) := dk_180 0 245 (dk_at dksX2_start_2 3 rfl rfl)
theorem dX2_start_52 : decode cX2_start 52 = .ok (.iload_n 1, 1) := dk_27 (dk_at dksX2_start_2 6 rfl rfl)
theorem dX2_start_53 : decode cX2_start 53 = .ok (.iconst 0, 1) := dk_3 (dk_at dksX2_start_2 7 rfl rfl)
theorem dX2_start_54 : decode cX2_start 54 = .ok (.iastore, 1) := dk_79 (dk_at dksX2_start_2 8 rfl rfl)
theorem dX2_start_55 : decode cX2_start 55 = .ok (.aload_n 0, 1) := dk_42 (dk_at dksX2_start_2 9 rfl rfl)
theorem dX2_start_56 : decode cX2_start 56 = .ok (.getfield 50, 3) := dk_180 0 50 (dk_at dksX2_start_2 10 rfl rfl)
theorem dX2_start_59 : decode cX2_start 59 = .ok (.getfield 248, 3) := dk_180 0 248 (dk_at dksX2_start_2 13 rfl rfl)
theorem dX2_start_62 : decode cX2_start 62 = .ok (.iload_n 1, 1) := dk_27 (dk_at dksX2_start_2 16 rfl rfl)
theorem dX2_start_63 : decode cX2_start 63 = .ok (.iconst 0, 1) := dk_3 (dk_at dksX2_start_2 17 rfl rfl)
theorem dX2_start_64 : decode cX2_start 64 = .ok (.iastore, 1) := dk_79 (dk_at dksX2_start_2 18 rfl rfl)
theorem dX2_start_65 : decode cX2_start 65 = .ok (.iload_n 2, 1) := dk_28 (dk_at dksX2_start_2 19 rfl rfl)
theorem dX2_start_66 : decode cX2_start 66 = .ok (.ifCond .eq 7, 3) := dk_153 0 7 (dk_at dksX2_start_2 20 rfl rfl)
theorem dX2_start_69 : decode cX2_start 69 = .ok (.iconst 1, 1) := dk_4 (dk_at dksX2_start_2 23 rfl rfl)
theorem dX2_start_70 : decode cX2_start 70 = .ok (.goto 4, 3) := dk_167 0 4 (dk_at dksX2_start_3 0 rfl rfl)
theorem dX2_start_73 : decode cX2_start 73 = .ok (.iconst 0, 1) := dk_3 (dk_at dksX2_start_3 3 rfl rfl)
theorem dX2_start_74 : decode cX2_start 74 = .ok (.ireturn, 1) := dk_172 (dk_at dksX2_start_3 4 rfl rfl)
abbrev cX2_stop : ByteArray := prog_10_method_19_code
def yX2_stop : MethodName := ⟨RX2, "stop", "(I)I"⟩
def dkwX2_stop_1 : List UInt8 := [3, 6, 42, 182, 0, 251, 184, 0, 210, 42, 180, 0, 50, 27, 182, 0, 254, 172]
abbrev dktX2_stop_1 : List UInt8 := dkwX2_stop_1 ++ []
def dkwX2_stop_0 : List UInt8 := [42, 180, 0, 41, 27, 182, 0, 230, 42, 180, 0, 50, 180, 0, 92, 27, 51, 154, 0, 7, 4, 167, 0, 4]
abbrev dktX2_stop_0 : List UInt8 := dkwX2_stop_0 ++ dktX2_stop_1
theorem dksX2_stop_0 : cX2_stop.data.toList.drop 0 = dktX2_stop_0 := by decide +kernel
theorem dksX2_stop_1 : cX2_stop.data.toList.drop 24 = dktX2_stop_1 := dk_seg dksX2_stop_0 24 rfl rfl
theorem dX2_stop_0 : decode cX2_stop 0 = .ok (.aload_n 0, 1) := dk_42 (dk_at dksX2_stop_0 0 rfl rfl)
theorem dX2_stop_1 : decode cX2_stop 1 = .ok (.getfield 41, 3) := dk_180 0 41 (dk_at dksX2_stop_0 1 rfl rfl)
theorem dX2_stop_4 : decode cX2_stop 4 = .ok (.iload_n 1, 1) := dk_27 (dk_at dksX2_stop_0 4 rfl rfl)
theorem dX2_stop_5 : decode cX2_stop 5 = .ok (.invokevirtual 230, 3) := dk_182 0 230 (dk_at dksX2_stop_0 5 rfl rfl)
theorem dX2_stop_8 : decode cX2_stop 8 = .ok (.aload_n 0, 1) := dk_42 (dk_at dksX2_stop_0 8 rfl rfl)
theorem dX2_stop_9 : decode cX2_stop 9 = .ok (.getfield 50, 3) := dk_180 0 50 (dk_at dksX2_stop_0 9 rfl rfl)
theorem dX2_stop_12 : decode cX2_stop 12 = .ok (.getfield 92, 3) := dk_180 0 92 (dk_at dksX2_stop_0 12 rfl rfl)
theorem dX2_stop_15 : decode cX2_stop 15 = .ok (.iload_n 1, 1) := dk_27 (dk_at dksX2_stop_0 15 rfl rfl)
theorem dX2_stop_16 : decode cX2_stop 16 = .ok (.baload, 1) := dk_51 (dk_at dksX2_stop_0 16 rfl rfl)
theorem dX2_stop_17 : decode cX2_stop 17 = .ok (.ifCond .ne 7, 3) := dk_154 0 7 (dk_at dksX2_stop_0 17 rfl rfl)
theorem dX2_stop_20 : decode cX2_stop 20 = .ok (.iconst 1, 1) := dk_4 (dk_at dksX2_stop_0 20 rfl rfl)
theorem dX2_stop_21 : decode cX2_stop 21 = .ok (.goto 4, 3) := dk_167 0 4 (dk_at dksX2_stop_0 21 rfl rfl)
theorem dX2_stop_24 : decode cX2_stop 24 = .ok (.iconst 0, 1) := dk_3 (dk_at dksX2_stop_1 0 rfl rfl)
theorem dX2_stop_25 : decode cX2_stop 25 = .ok (.iconst 3, 1) := dk_6 (dk_at dksX2_stop_1 1 rfl rfl)
theorem dX2_stop_26 : decode cX2_stop 26 = .ok (.aload_n 0, 1) := dk_42 (dk_at dksX2_stop_1 2 rfl rfl)
theorem dX2_stop_27 : decode cX2_stop 27 = .ok (.invokevirtual 251, 3) := dk_182 0 251 (dk_at dksX2_stop_1 3 rfl rfl)
theorem dX2_stop_30 : decode cX2_stop 30 = .ok (.invokestatic 210, 3) := dk_184 0 210 (dk_at dksX2_stop_1 6 rfl rfl)
theorem dX2_stop_33 : decode cX2_stop 33 = .ok (.aload_n 0, 1) := dk_42 (dk_at dksX2_stop_1 9 rfl rfl)
theorem dX2_stop_34 : decode cX2_stop 34 = .ok (.getfield 50, 3) := dk_180 0 50 (dk_at dksX2_stop_1 10 rfl rfl)
theorem dX2_stop_37 : decode cX2_stop 37 = .ok (.iload_n 1, 1) := dk_27 (dk_at dksX2_stop_1 13 rfl rfl)
theorem dX2_stop_38 : decode cX2_stop 38 = .ok (.invokevirtual 254, 3) := dk_182 0 254 (dk_at dksX2_stop_1 14 rfl rfl)
theorem dX2_stop_41 : decode cX2_stop 41 = .ok (.ireturn, 1) := dk_172 (dk_at dksX2_stop_1 17 rfl rfl)
abbrev cX2_setSchedule : ByteArray := prog_10_method_22_code
def yX2_setSchedule : MethodName := ⟨RX2, "setSchedule", "(C)C"⟩
def dkwX2_setSchedule_0 : List UInt8 := [19, 1, 9, 27, 184, 0, 202, 42, 180, 0, 30, 61, 42, 27, 181, 0, 30, 28, 172]
abbrev dktX2_setSchedule_0 : List UInt8 := dkwX2_setSchedule_0 ++ []
theorem dksX2_setSchedule_0 : cX2_setSchedule.data.toList.drop 0 = dktX2_setSchedule_0 := by decide +kernel
theorem dX2_setSchedule_0 : decode cX2_setSchedule 0 = .ok (.ldc_w 265, 3) := dk_19 1 9 (dk_at dksX2_setSchedule_0 0 rfl rfl)
theorem dX2_setSchedule_3 : decode cX2_setSchedule 3 = .ok (.iload_n 1, 1) := dk_27 (dk_at dksX2_setSchedule_0 3 rfl rfl)
theorem dX2_setSchedule_4 : decode cX2_setSchedule 4 = .ok (.invokestatic 202, 3) := dk_184 0 202 (dk_at dksX2_setSchedule_0 4 rfl rfl)
theorem dX2_setSchedule_7 : decode cX2_setSchedule 7 = .ok (.aload_n 0, 1) := dk_42 (dk_at dksX2_setSchedule_0 7 rfl rfl)
theorem dX2_setSchedule_8 : decode cX2_setSchedule 8 = .ok (.getfield 30, 3) := dk_180 0 30 (dk_at dksX2_setSchedule_0 8 rfl rfl)
theorem dX2_setSchedule_11 : decode cX2_setSchedule 11 = .ok (.istore_n 2, 1) := dk_61 (dk_at dksX2_setSchedule_0 11 rfl rfl)
theorem dX2_setSchedule_12 : decode cX2_setSchedule 12 = .ok (.aload_n 0, 1) := dk_42 (dk_at dksX2_setSchedule_0 12 rfl rfl)
theorem dX2_setSchedule_13 : decode cX2_setSchedule 13 = .ok (.iload_n 1, 1) := dk_27 (dk_at dksX2_setSchedule_0 13 rfl rfl)
theorem dX2_setSchedule_14 : decode cX2_setSchedule 14 = .ok (.putfield 30, 3) := dk_181 0 30 (dk_at dksX2_setSchedule_0 14 rfl rfl)
theorem dX2_setSchedule_17 : decode cX2_setSchedule 17 = .ok (.iload_n 2, 1) := dk_28 (dk_at dksX2_setSchedule_0 17 rfl rfl)
theorem dX2_setSchedule_18 : decode cX2_setSchedule 18 = .ok (.ireturn, 1) := dk_172 (dk_at dksX2_setSchedule_0 18 rfl rfl)
abbrev cX2_setSeed : ByteArray := prog_10_method_23_code
def yX2_setSeed : MethodName := ⟨RX2, "setSeed", "(I)I"⟩
def dkwX2_setSeed_0 : List UInt8 := [27, 3, 16, 63, 184, 0, 206, 42, 180, 0, 34, 61, 42, 27, 181, 0, 34, 28, 172]
abbrev dktX2_setSeed_0 : List UInt8 := dkwX2_setSeed_0 ++ []
theorem dksX2_setSeed_0 : cX2_setSeed.data.toList.drop 0 = dktX2_setSeed_0 := by decide +kernel
theorem dX2_setSeed_0 : decode cX2_setSeed 0 = .ok (.iload_n 1, 1) := dk_27 (dk_at dksX2_setSeed_0 0 rfl rfl)
theorem dX2_setSeed_1 : decode cX2_setSeed 1 = .ok (.iconst 0, 1) := dk_3 (dk_at dksX2_setSeed_0 1 rfl rfl)
theorem dX2_setSeed_2 : decode cX2_setSeed 2 = .ok (.bipush 63, 2) := dk_16 63 (dk_at dksX2_setSeed_0 2 rfl rfl)
theorem dX2_setSeed_4 : decode cX2_setSeed 4 = .ok (.invokestatic 206, 3) := dk_184 0 206 (dk_at dksX2_setSeed_0 4 rfl rfl)
theorem dX2_setSeed_7 : decode cX2_setSeed 7 = .ok (.aload_n 0, 1) := dk_42 (dk_at dksX2_setSeed_0 7 rfl rfl)
theorem dX2_setSeed_8 : decode cX2_setSeed 8 = .ok (.getfield 34, 3) := dk_180 0 34 (dk_at dksX2_setSeed_0 8 rfl rfl)
theorem dX2_setSeed_11 : decode cX2_setSeed 11 = .ok (.istore_n 2, 1) := dk_61 (dk_at dksX2_setSeed_0 11 rfl rfl)
theorem dX2_setSeed_12 : decode cX2_setSeed 12 = .ok (.aload_n 0, 1) := dk_42 (dk_at dksX2_setSeed_0 12 rfl rfl)
theorem dX2_setSeed_13 : decode cX2_setSeed 13 = .ok (.iload_n 1, 1) := dk_27 (dk_at dksX2_setSeed_0 13 rfl rfl)
theorem dX2_setSeed_14 : decode cX2_setSeed 14 = .ok (.putfield 34, 3) := dk_181 0 34 (dk_at dksX2_setSeed_0 14 rfl rfl)
theorem dX2_setSeed_17 : decode cX2_setSeed 17 = .ok (.iload_n 2, 1) := dk_28 (dk_at dksX2_setSeed_0 17 rfl rfl)
theorem dX2_setSeed_18 : decode cX2_setSeed 18 = .ok (.ireturn, 1) := dk_172 (dk_at dksX2_setSeed_0 18 rfl rfl)
abbrev cX2_step : ByteArray := prog_10_method_24_code
def yX2_step : MethodName := ⟨RX2, "step", "(I)I"⟩
def dkwX2_step_1 : List UInt8 := [182, 1, 14, 132, 3, 1, 167, 255, 244, 42, 180, 0, 50, 180, 1, 11, 28, 100, 172]
abbrev dktX2_step_1 : List UInt8 := dkwX2_step_1 ++ []
def dkwX2_step_0 : List UInt8 := [27, 4, 16, 50, 184, 0, 206, 42, 180, 0, 50, 180, 1, 11, 61, 3, 62, 29, 27, 162, 0, 13, 42]
abbrev dktX2_step_0 : List UInt8 := dkwX2_step_0 ++ dktX2_step_1
theorem dksX2_step_0 : cX2_step.data.toList.drop 0 = dktX2_step_0 := by decide +kernel
theorem dksX2_step_1 : cX2_step.data.toList.drop 23 = dktX2_step_1 := dk_seg dksX2_step_0 23 rfl rfl
theorem dX2_step_0 : decode cX2_step 0 = .ok (.iload_n 1, 1) := dk_27 (dk_at dksX2_step_0 0 rfl rfl)
theorem dX2_step_1 : decode cX2_step 1 = .ok (.iconst 1, 1) := dk_4 (dk_at dksX2_step_0 1 rfl rfl)
theorem dX2_step_2 : decode cX2_step 2 = .ok (.bipush 50, 2) := dk_16 50 (dk_at dksX2_step_0 2 rfl rfl)
theorem dX2_step_4 : decode cX2_step 4 = .ok (.invokestatic 206, 3) := dk_184 0 206 (dk_at dksX2_step_0 4 rfl rfl)
theorem dX2_step_7 : decode cX2_step 7 = .ok (.aload_n 0, 1) := dk_42 (dk_at dksX2_step_0 7 rfl rfl)
theorem dX2_step_8 : decode cX2_step 8 = .ok (.getfield 50, 3) := dk_180 0 50 (dk_at dksX2_step_0 8 rfl rfl)
theorem dX2_step_11 : decode cX2_step 11 = .ok (.getfield 267, 3) := dk_180 1 11 (dk_at dksX2_step_0 11 rfl rfl)
theorem dX2_step_14 : decode cX2_step 14 = .ok (.istore_n 2, 1) := dk_61 (dk_at dksX2_step_0 14 rfl rfl)
theorem dX2_step_15 : decode cX2_step 15 = .ok (.iconst 0, 1) := dk_3 (dk_at dksX2_step_0 15 rfl rfl)
theorem dX2_step_16 : decode cX2_step 16 = .ok (.istore_n 3, 1) := dk_62 (dk_at dksX2_step_0 16 rfl rfl)
theorem dX2_step_17 : decode cX2_step 17 = .ok (.iload_n 3, 1) := dk_29 (dk_at dksX2_step_0 17 rfl rfl)
theorem dX2_step_18 : decode cX2_step 18 = .ok (.iload_n 1, 1) := dk_27 (dk_at dksX2_step_0 18 rfl rfl)
theorem dX2_step_19 : decode cX2_step 19 = .ok (.if_icmp .ge 13, 3) := dk_162 0 13 (dk_at dksX2_step_0 19 rfl rfl)
theorem dX2_step_22 : decode cX2_step 22 = .ok (.aload_n 0, 1) := dk_42 (dk_at dksX2_step_0 22 rfl rfl)
theorem dX2_step_23 : decode cX2_step 23 = .ok (.invokevirtual 270, 3) := dk_182 1 14 (dk_at dksX2_step_1 0 rfl rfl)
theorem dX2_step_26 : decode cX2_step 26 = .ok (.iinc 3 1, 3) := dk_132 3 1 (dk_at dksX2_step_1 3 rfl rfl)
theorem dX2_step_29 : decode cX2_step 29 = .ok (.goto (-12), 3) := dk_167 255 244 (dk_at dksX2_step_1 6 rfl rfl)
theorem dX2_step_32 : decode cX2_step 32 = .ok (.aload_n 0, 1) := dk_42 (dk_at dksX2_step_1 9 rfl rfl)
theorem dX2_step_33 : decode cX2_step 33 = .ok (.getfield 50, 3) := dk_180 0 50 (dk_at dksX2_step_1 10 rfl rfl)
theorem dX2_step_36 : decode cX2_step 36 = .ok (.getfield 267, 3) := dk_180 1 11 (dk_at dksX2_step_1 13 rfl rfl)
theorem dX2_step_39 : decode cX2_step 39 = .ok (.iload_n 2, 1) := dk_28 (dk_at dksX2_step_1 16 rfl rfl)
theorem dX2_step_40 : decode cX2_step 40 = .ok (.isub, 1) := dk_100 (dk_at dksX2_step_1 17 rfl rfl)
theorem dX2_step_41 : decode cX2_step 41 = .ok (.ireturn, 1) := dk_172 (dk_at dksX2_step_1 18 rfl rfl)
abbrev cX2_makeStep : ByteArray := prog_10_method_10_code
def yX2_makeStep : MethodName := ⟨RX2, "makeStep", "()V"⟩
def dkwX2_makeStep_4 : List UInt8 := [182, 0, 191, 177]
abbrev dktX2_makeStep_4 : List UInt8 := dkwX2_makeStep_4 ++ []
def dkwX2_makeStep_3 : List UInt8 := [183, 0, 25, 18, 186, 182, 0, 148, 27, 182, 0, 188, 182, 0, 151, 182, 0, 179, 42, 180, 0, 50, 27]
abbrev dktX2_makeStep_3 : List UInt8 := dkwX2_makeStep_3 ++ dktX2_makeStep_4
def dkwX2_makeStep_2 : List UInt8 := [42, 180, 0, 34, 184, 0, 112, 167, 0, 7, 42, 180, 0, 34, 181, 0, 34, 42, 187, 0, 23, 89]
abbrev dktX2_makeStep_2 : List UInt8 := dkwX2_makeStep_2 ++ dktX2_makeStep_3
def dkwX2_makeStep_1 : List UInt8 := [42, 18, 177, 182, 0, 179, 167, 0, 66, 42, 182, 0, 183, 60, 42, 42, 180, 0, 30, 16, 115, 160, 0, 13]
abbrev dktX2_makeStep_1 : List UInt8 := dkwX2_makeStep_1 ++ dktX2_makeStep_2
def dkwX2_makeStep_0 : List UInt8 := [42, 89, 180, 0, 83, 4, 96, 181, 0, 83, 42, 182, 0, 174, 42, 180, 0, 50, 182, 0, 116, 154, 0, 12]
abbrev dktX2_makeStep_0 : List UInt8 := dkwX2_makeStep_0 ++ dktX2_makeStep_1
theorem dksX2_makeStep_0 : cX2_makeStep.data.toList.drop 0 = dktX2_makeStep_0 := by decide +kernel
theorem dksX2_makeStep_1 : cX2_makeStep.data.toList.drop 24 = dktX2_makeStep_1 := dk_seg dksX2_makeStep_0 24 rfl rfl
theorem dksX2_makeStep_2 : cX2_makeStep.data.toList.drop 48 = dktX2_makeStep_2 := dk_seg dksX2_makeStep_1 24 rfl rfl
theorem dksX2_makeStep_3 : cX2_makeStep.data.toList.drop 70 = dktX2_makeStep_3 := dk_seg dksX2_makeStep_2 22 rfl rfl
theorem dksX2_makeStep_4 : cX2_makeStep.data.toList.drop 93 = dktX2_makeStep_4 := dk_seg dksX2_makeStep_3 23 rfl rfl
theorem dX2_makeStep_0 : decode cX2_makeStep 0 = .ok (.aload_n 0, 1) := dk_42 (dk_at dksX2_makeStep_0 0 rfl rfl)
theorem dX2_makeStep_1 : decode cX2_makeStep 1 = .ok (.dup, 1) := dk_89 (dk_at dksX2_makeStep_0 1 rfl rfl)
theorem dX2_makeStep_2 : decode cX2_makeStep 2 = .ok (.getfield 83, 3) := dk_180 0 83 (dk_at dksX2_makeStep_0 2 rfl rfl)
theorem dX2_makeStep_5 : decode cX2_makeStep 5 = .ok (.iconst 1, 1) := dk_4 (dk_at dksX2_makeStep_0 5 rfl rfl)
theorem dX2_makeStep_6 : decode cX2_makeStep 6 = .ok (.iadd, 1) := dk_96 (dk_at dksX2_makeStep_0 6 rfl rfl)
theorem dX2_makeStep_7 : decode cX2_makeStep 7 = .ok (.putfield 83, 3) := dk_181 0 83 (dk_at dksX2_makeStep_0 7 rfl rfl)
theorem dX2_makeStep_10 : decode cX2_makeStep 10 = .ok (.aload_n 0, 1) := dk_42 (dk_at dksX2_makeStep_0 10 rfl rfl)
theorem dX2_makeStep_11 : decode cX2_makeStep 11 = .ok (.invokevirtual 174, 3) := dk_182 0 174 (dk_at dksX2_makeStep_0 11 rfl rfl)
theorem dX2_makeStep_14 : decode cX2_makeStep 14 = .ok (.aload_n 0, 1) := dk_42 (dk_at dksX2_makeStep_0 14 rfl rfl)
theorem dX2_makeStep_15 : decode cX2_makeStep 15 = .ok (.getfield 50, 3) := dk_180 0 50 (dk_at dksX2_makeStep_0 15 rfl rfl)
theorem dX2_makeStep_18 : decode cX2_makeStep 18 = .ok (.invokevirtual 116, 3) := dk_182 0 116 (dk_at dksX2_makeStep_0 18 rfl rfl)
theorem dX2_makeStep_21 : decode cX2_makeStep 21 = .ok (.ifCond .ne 12, 3) := dk_154 0 12 (dk_at dksX2_makeStep_0 21 rfl rfl)
theorem dX2_makeStep_24 : decode cX2_makeStep 24 = .ok (.aload_n 0, 1) := dk_42 (dk_at dksX2_makeStep_1 0 rfl rfl)
theorem dX2_makeStep_25 : decode cX2_makeStep 25 = .ok (.ldc 177, 2) := dk_18 177 (dk_at dksX2_makeStep_1 1 rfl rfl)
theorem dX2_makeStep_27 : decode cX2_makeStep 27 = .ok (.invokevirtual 179, 3) := dk_182 0 179 (dk_at dksX2_makeStep_1 3 rfl rfl)
theorem dX2_makeStep_30 : decode cX2_makeStep 30 = .ok (.goto 66, 3) := dk_167 0 66 (dk_at dksX2_makeStep_1 6 rfl rfl)
theorem dX2_makeStep_33 : decode cX2_makeStep 33 = .ok (.aload_n 0, 1) := dk_42 (dk_at dksX2_makeStep_1 9 rfl rfl)
theorem dX2_makeStep_34 : decode cX2_makeStep 34 = .ok (.invokevirtual 183, 3) := dk_182 0 183 (dk_at dksX2_makeStep_1 10 rfl rfl)
theorem dX2_makeStep_37 : decode cX2_makeStep 37 = .ok (.istore_n 1, 1) := dk_60 (dk_at dksX2_makeStep_1 13 rfl rfl)
theorem dX2_makeStep_38 : decode cX2_makeStep 38 = .ok (.aload_n 0, 1) := dk_42 (dk_at dksX2_makeStep_1 14 rfl rfl)
theorem dX2_makeStep_39 : decode cX2_makeStep 39 = .ok (.aload_n 0, 1) := dk_42 (dk_at dksX2_makeStep_1 15 rfl rfl)
theorem dX2_makeStep_40 : decode cX2_makeStep 40 = .ok (.getfield 30, 3) := dk_180 0 30 (dk_at dksX2_makeStep_1 16 rfl rfl)
theorem dX2_makeStep_43 : decode cX2_makeStep 43 = .ok (.bipush 115, 2) := dk_16 115 (dk_at dksX2_makeStep_1 19 rfl rfl)
theorem dX2_makeStep_45 : decode cX2_makeStep 45 = .ok (.if_icmp .ne 13, 3) := dk_160 0 13 (dk_at dksX2_makeStep_1 21 rfl rfl)
theorem dX2_makeStep_48 : decode cX2_makeStep 48 = .ok (.aload_n 0, 1) := dk_42 (dk_at dksX2_makeStep_2 0 rfl rfl)
theorem dX2_makeStep_49 : decode cX2_makeStep 49 = .ok (.getfield 34, 3) := dk_180 0 34 (dk_at dksX2_makeStep_2 1 rfl rfl)
theorem dX2_makeStep_52 : decode cX2_makeStep 52 = .ok (.invokestatic 112, 3) := dk_184 0 112 (dk_at dksX2_makeStep_2 4 rfl rfl)
theorem dX2_makeStep_55 : decode cX2_makeStep 55 = .ok (.goto 7, 3) := dk_167 0 7 (dk_at dksX2_makeStep_2 7 rfl rfl)
theorem dX2_makeStep_58 : decode cX2_makeStep 58 = .ok (.aload_n 0, 1) := dk_42 (dk_at dksX2_makeStep_2 10 rfl rfl)
theorem dX2_makeStep_59 : decode cX2_makeStep 59 = .ok (.getfield 34, 3) := dk_180 0 34 (dk_at dksX2_makeStep_2 11 rfl rfl)
theorem dX2_makeStep_62 : decode cX2_makeStep 62 = .ok (.putfield 34, 3) := dk_181 0 34 (dk_at dksX2_makeStep_2 14 rfl rfl)
theorem dX2_makeStep_65 : decode cX2_makeStep 65 = .ok (.aload_n 0, 1) := dk_42 (dk_at dksX2_makeStep_2 17 rfl rfl)
theorem dX2_makeStep_66 : decode cX2_makeStep 66 = .ok (.new 23, 3) := dk_187 0 23 (dk_at dksX2_makeStep_2 18 rfl rfl)
theorem dX2_makeStep_69 : decode cX2_makeStep 69 = .ok (.dup, 1) := dk_89 (dk_at dksX2_makeStep_2 21 rfl rfl)
theorem dX2_makeStep_70 : decode cX2_makeStep 70 = .ok (.invokespecial 25, 3) := dk_183 0 25 (dk_at dksX2_makeStep_3 0 rfl rfl)
theorem dX2_makeStep_73 : decode cX2_makeStep 73 = .ok (.ldc 186, 2) := dk_18 186 (dk_at dksX2_makeStep_3 3 rfl rfl)
theorem dX2_makeStep_75 : decode cX2_makeStep 75 = .ok (.invokevirtual 148, 3) := dk_182 0 148 (dk_at dksX2_makeStep_3 5 rfl rfl)
theorem dX2_makeStep_78 : decode cX2_makeStep 78 = .ok (.iload_n 1, 1) := dk_27 (dk_at dksX2_makeStep_3 8 rfl rfl)
theorem dX2_makeStep_79 : decode cX2_makeStep 79 = .ok (.invokevirtual 188, 3) := dk_182 0 188 (dk_at dksX2_makeStep_3 9 rfl rfl)
theorem dX2_makeStep_82 : decode cX2_makeStep 82 = .ok (.invokevirtual 151, 3) := dk_182 0 151 (dk_at dksX2_makeStep_3 12 rfl rfl)
theorem dX2_makeStep_85 : decode cX2_makeStep 85 = .ok (.invokevirtual 179, 3) := dk_182 0 179 (dk_at dksX2_makeStep_3 15 rfl rfl)
theorem dX2_makeStep_88 : decode cX2_makeStep 88 = .ok (.aload_n 0, 1) := dk_42 (dk_at dksX2_makeStep_3 18 rfl rfl)
theorem dX2_makeStep_89 : decode cX2_makeStep 89 = .ok (.getfield 50, 3) := dk_180 0 50 (dk_at dksX2_makeStep_3 19 rfl rfl)
theorem dX2_makeStep_92 : decode cX2_makeStep 92 = .ok (.iload_n 1, 1) := dk_27 (dk_at dksX2_makeStep_3 22 rfl rfl)
theorem dX2_makeStep_93 : decode cX2_makeStep 93 = .ok (.invokevirtual 191, 3) := dk_182 0 191 (dk_at dksX2_makeStep_4 0 rfl rfl)
theorem dX2_makeStep_96 : decode cX2_makeStep 96 = .ok (.return_, 1) := dk_177 (dk_at dksX2_makeStep_4 3 rfl rfl)
abbrev cX2_sendDue : ByteArray := prog_10_method_8_code
def yX2_sendDue : MethodName := ⟨RX2, "sendDue", "()V"⟩
def dkwX2_sendDue_6 : List UInt8 := [42, 180, 0, 17, 45, 182, 0, 145, 54, 5, 167, 255, 169, 177]
abbrev dktX2_sendDue_6 : List UInt8 := dkwX2_sendDue_6 ++ []
def dkwX2_sendDue_5 : List UInt8 := [54, 4, 21, 4, 153, 0, 30, 42, 180, 0, 50, 45, 180, 0, 132, 7, 45, 180, 0, 138, 104, 182, 0, 141]
abbrev dktX2_sendDue_5 : List UInt8 := dkwX2_sendDue_5 ++ dktX2_sendDue_6
def dkwX2_sendDue_4 : List UInt8 := [51, 154, 0, 17, 42, 180, 0, 50, 45, 180, 0, 132, 182, 0, 135, 154, 0, 7, 4, 167, 0, 4, 3]
abbrev dktX2_sendDue_4 : List UInt8 := dkwX2_sendDue_4 ++ dktX2_sendDue_5
def dkwX2_sendDue_3 : List UInt8 := [153, 0, 84, 44, 185, 0, 69, 1, 0, 192, 0, 73, 78, 42, 180, 0, 50, 180, 0, 92, 45, 180, 0, 132]
abbrev dktX2_sendDue_3 : List UInt8 := dkwX2_sendDue_3 ++ dktX2_sendDue_4
def dkwX2_sendDue_2 : List UInt8 := [43, 45, 185, 0, 128, 2, 0, 87, 167, 255, 218, 43, 185, 0, 131, 1, 0, 77, 44, 185, 0, 63, 1, 0]
abbrev dktX2_sendDue_2 : List UInt8 := dkwX2_sendDue_2 ++ dktX2_sendDue_3
def dkwX2_sendDue_1 : List UInt8 := [153, 0, 35, 44, 185, 0, 69, 1, 0, 192, 0, 73, 78, 45, 180, 0, 125, 42, 180, 0, 83, 163, 0, 11]
abbrev dktX2_sendDue_1 : List UInt8 := dkwX2_sendDue_1 ++ dktX2_sendDue_2
def dkwX2_sendDue_0 : List UInt8 := [187, 0, 122, 89, 183, 0, 124, 76, 42, 180, 0, 17, 182, 0, 59, 77, 44, 185, 0, 63, 1, 0]
abbrev dktX2_sendDue_0 : List UInt8 := dkwX2_sendDue_0 ++ dktX2_sendDue_1
theorem dksX2_sendDue_0 : cX2_sendDue.data.toList.drop 0 = dktX2_sendDue_0 := by decide +kernel
theorem dksX2_sendDue_1 : cX2_sendDue.data.toList.drop 22 = dktX2_sendDue_1 := dk_seg dksX2_sendDue_0 22 rfl rfl
theorem dksX2_sendDue_2 : cX2_sendDue.data.toList.drop 46 = dktX2_sendDue_2 := dk_seg dksX2_sendDue_1 24 rfl rfl
theorem dksX2_sendDue_3 : cX2_sendDue.data.toList.drop 70 = dktX2_sendDue_3 := dk_seg dksX2_sendDue_2 24 rfl rfl
theorem dksX2_sendDue_4 : cX2_sendDue.data.toList.drop 94 = dktX2_sendDue_4 := dk_seg dksX2_sendDue_3 24 rfl rfl
theorem dksX2_sendDue_5 : cX2_sendDue.data.toList.drop 117 = dktX2_sendDue_5 := dk_seg dksX2_sendDue_4 23 rfl rfl
theorem dksX2_sendDue_6 : cX2_sendDue.data.toList.drop 141 = dktX2_sendDue_6 := dk_seg dksX2_sendDue_5 24 rfl rfl
theorem dX2_sendDue_0 : decode cX2_sendDue 0 = .ok (.new 122, 3) := dk_187 0 122 (dk_at dksX2_sendDue_0 0 rfl rfl)
theorem dX2_sendDue_3 : decode cX2_sendDue 3 = .ok (.dup, 1) := dk_89 (dk_at dksX2_sendDue_0 3 rfl rfl)
theorem dX2_sendDue_4 : decode cX2_sendDue 4 = .ok (.invokespecial 124, 3) := dk_183 0 124 (dk_at dksX2_sendDue_0 4 rfl rfl)
theorem dX2_sendDue_7 : decode cX2_sendDue 7 = .ok (.astore_n 1, 1) := dk_76 (dk_at dksX2_sendDue_0 7 rfl rfl)
theorem dX2_sendDue_8 : decode cX2_sendDue 8 = .ok (.aload_n 0, 1) := dk_42 (dk_at dksX2_sendDue_0 8 rfl rfl)
theorem dX2_sendDue_9 : decode cX2_sendDue 9 = .ok (.getfield 17, 3) := dk_180 0 17 (dk_at dksX2_sendDue_0 9 rfl rfl)
theorem dX2_sendDue_12 : decode cX2_sendDue 12 = .ok (.invokevirtual 59, 3) := dk_182 0 59 (dk_at dksX2_sendDue_0 12 rfl rfl)
theorem dX2_sendDue_15 : decode cX2_sendDue 15 = .ok (.astore_n 2, 1) := dk_77 (dk_at dksX2_sendDue_0 15 rfl rfl)
theorem dX2_sendDue_16 : decode cX2_sendDue 16 = .ok (.aload_n 2, 1) := dk_44 (dk_at dksX2_sendDue_0 16 rfl rfl)
theorem dX2_sendDue_17 : decode cX2_sendDue 17 = .ok (.invokeinterface 63 1, 5) := by decide +kernel
theorem dX2_sendDue_22 : decode cX2_sendDue 22 = .ok (.ifCond .eq 35, 3) := dk_153 0 35 (dk_at dksX2_sendDue_1 0 rfl rfl)
theorem dX2_sendDue_25 : decode cX2_sendDue 25 = .ok (.aload_n 2, 1) := dk_44 (dk_at dksX2_sendDue_1 3 rfl rfl)
theorem dX2_sendDue_26 : decode cX2_sendDue 26 = .ok (.invokeinterface 69 1, 5) := by decide +kernel
theorem dX2_sendDue_31 : decode cX2_sendDue 31 = .ok (.checkcast 73, 3) := dk_192 0 73 (dk_at dksX2_sendDue_1 9 rfl rfl)
theorem dX2_sendDue_34 : decode cX2_sendDue 34 = .ok (.astore_n 3, 1) := dk_78 (dk_at dksX2_sendDue_1 12 rfl rfl)
theorem dX2_sendDue_35 : decode cX2_sendDue 35 = .ok (.aload_n 3, 1) := dk_45 (dk_at dksX2_sendDue_1 13 rfl rfl)
theorem dX2_sendDue_36 : decode cX2_sendDue 36 = .ok (.getfield 125, 3) := dk_180 0 125 (dk_at dksX2_sendDue_1 14 rfl rfl)
theorem dX2_sendDue_39 : decode cX2_sendDue 39 = .ok (.aload_n 0, 1) := dk_42 (dk_at dksX2_sendDue_1 17 rfl rfl)
theorem dX2_sendDue_40 : decode cX2_sendDue 40 = .ok (.getfield 83, 3) := dk_180 0 83 (dk_at dksX2_sendDue_1 18 rfl rfl)
theorem dX2_sendDue_43 : decode cX2_sendDue 43 = .ok (.if_icmp .gt 11, 3) := dk_163 0 11 (dk_at dksX2_sendDue_1 21 rfl rfl)
theorem dX2_sendDue_46 : decode cX2_sendDue 46 = .ok (.aload_n 1, 1) := dk_43 (dk_at dksX2_sendDue_2 0 rfl rfl)
theorem dX2_sendDue_47 : decode cX2_sendDue 47 = .ok (.aload_n 3, 1) := dk_45 (dk_at dksX2_sendDue_2 1 rfl rfl)
theorem dX2_sendDue_48 : decode cX2_sendDue 48 = .ok (.invokeinterface 128 2, 5) := by decide +kernel
theorem dX2_sendDue_53 : decode cX2_sendDue 53 = .ok (.pop, 1) := dk_87 (dk_at dksX2_sendDue_2 7 rfl rfl)
theorem dX2_sendDue_54 : decode cX2_sendDue 54 = .ok (.goto (-38), 3) := dk_167 255 218 (dk_at dksX2_sendDue_2 8 rfl rfl)
theorem dX2_sendDue_57 : decode cX2_sendDue 57 = .ok (.aload_n 1, 1) := dk_43 (dk_at dksX2_sendDue_2 11 rfl rfl)
theorem dX2_sendDue_58 : decode cX2_sendDue 58 = .ok (.invokeinterface 131 1, 5) := by decide +kernel
theorem dX2_sendDue_63 : decode cX2_sendDue 63 = .ok (.astore_n 2, 1) := dk_77 (dk_at dksX2_sendDue_2 17 rfl rfl)
theorem dX2_sendDue_64 : decode cX2_sendDue 64 = .ok (.aload_n 2, 1) := dk_44 (dk_at dksX2_sendDue_2 18 rfl rfl)
theorem dX2_sendDue_65 : decode cX2_sendDue 65 = .ok (.invokeinterface 63 1, 5) := by decide +kernel
theorem dX2_sendDue_70 : decode cX2_sendDue 70 = .ok (.ifCond .eq 84, 3) := dk_153 0 84 (dk_at dksX2_sendDue_3 0 rfl rfl)
theorem dX2_sendDue_73 : decode cX2_sendDue 73 = .ok (.aload_n 2, 1) := dk_44 (dk_at dksX2_sendDue_3 3 rfl rfl)
theorem dX2_sendDue_74 : decode cX2_sendDue 74 = .ok (.invokeinterface 69 1, 5) := by decide +kernel
theorem dX2_sendDue_79 : decode cX2_sendDue 79 = .ok (.checkcast 73, 3) := dk_192 0 73 (dk_at dksX2_sendDue_3 9 rfl rfl)
theorem dX2_sendDue_82 : decode cX2_sendDue 82 = .ok (.astore_n 3, 1) := dk_78 (dk_at dksX2_sendDue_3 12 rfl rfl)
theorem dX2_sendDue_83 : decode cX2_sendDue 83 = .ok (.aload_n 0, 1) := dk_42 (dk_at dksX2_sendDue_3 13 rfl rfl)
theorem dX2_sendDue_84 : decode cX2_sendDue 84 = .ok (.getfield 50, 3) := dk_180 0 50 (dk_at dksX2_sendDue_3 14 rfl rfl)
theorem dX2_sendDue_87 : decode cX2_sendDue 87 = .ok (.getfield 92, 3) := dk_180 0 92 (dk_at dksX2_sendDue_3 17 rfl rfl)
theorem dX2_sendDue_90 : decode cX2_sendDue 90 = .ok (.aload_n 3, 1) := dk_45 (dk_at dksX2_sendDue_3 20 rfl rfl)
theorem dX2_sendDue_91 : decode cX2_sendDue 91 = .ok (.getfield 132, 3) := dk_180 0 132 (dk_at dksX2_sendDue_3 21 rfl rfl)
theorem dX2_sendDue_94 : decode cX2_sendDue 94 = .ok (.baload, 1) := dk_51 (dk_at dksX2_sendDue_4 0 rfl rfl)
theorem dX2_sendDue_95 : decode cX2_sendDue 95 = .ok (.ifCond .ne 17, 3) := dk_154 0 17 (dk_at dksX2_sendDue_4 1 rfl rfl)
theorem dX2_sendDue_98 : decode cX2_sendDue 98 = .ok (.aload_n 0, 1) := dk_42 (dk_at dksX2_sendDue_4 4 rfl rfl)
theorem dX2_sendDue_99 : decode cX2_sendDue 99 = .ok (.getfield 50, 3) := dk_180 0 50 (dk_at dksX2_sendDue_4 5 rfl rfl)
theorem dX2_sendDue_102 : decode cX2_sendDue 102 = .ok (.aload_n 3, 1) := dk_45 (dk_at dksX2_sendDue_4 8 rfl rfl)
theorem dX2_sendDue_103 : decode cX2_sendDue 103 = .ok (.getfield 132, 3) := dk_180 0 132 (dk_at dksX2_sendDue_4 9 rfl rfl)
theorem dX2_sendDue_106 : decode cX2_sendDue 106 = .ok (.invokevirtual 135, 3) := dk_182 0 135 (dk_at dksX2_sendDue_4 12 rfl rfl)
theorem dX2_sendDue_109 : decode cX2_sendDue 109 = .ok (.ifCond .ne 7, 3) := dk_154 0 7 (dk_at dksX2_sendDue_4 15 rfl rfl)
theorem dX2_sendDue_112 : decode cX2_sendDue 112 = .ok (.iconst 1, 1) := dk_4 (dk_at dksX2_sendDue_4 18 rfl rfl)
theorem dX2_sendDue_113 : decode cX2_sendDue 113 = .ok (.goto 4, 3) := dk_167 0 4 (dk_at dksX2_sendDue_4 19 rfl rfl)
theorem dX2_sendDue_116 : decode cX2_sendDue 116 = .ok (.iconst 0, 1) := dk_3 (dk_at dksX2_sendDue_4 22 rfl rfl)
theorem dX2_sendDue_117 : decode cX2_sendDue 117 = .ok (.istore 4, 2) := dk_54 4 (dk_at dksX2_sendDue_5 0 rfl rfl)
theorem dX2_sendDue_119 : decode cX2_sendDue 119 = .ok (.iload 4, 2) := dk_21 4 (dk_at dksX2_sendDue_5 2 rfl rfl)
theorem dX2_sendDue_121 : decode cX2_sendDue 121 = .ok (.ifCond .eq 30, 3) := dk_153 0 30 (dk_at dksX2_sendDue_5 4 rfl rfl)
theorem dX2_sendDue_124 : decode cX2_sendDue 124 = .ok (.aload_n 0, 1) := dk_42 (dk_at dksX2_sendDue_5 7 rfl rfl)
theorem dX2_sendDue_125 : decode cX2_sendDue 125 = .ok (.getfield 50, 3) := dk_180 0 50 (dk_at dksX2_sendDue_5 8 rfl rfl)
theorem dX2_sendDue_128 : decode cX2_sendDue 128 = .ok (.aload_n 3, 1) := dk_45 (dk_at dksX2_sendDue_5 11 rfl rfl)
theorem dX2_sendDue_129 : decode cX2_sendDue 129 = .ok (.getfield 132, 3) := dk_180 0 132 (dk_at dksX2_sendDue_5 12 rfl rfl)
theorem dX2_sendDue_132 : decode cX2_sendDue 132 = .ok (.iconst 4, 1) := dk_7 (dk_at dksX2_sendDue_5 15 rfl rfl)
theorem dX2_sendDue_133 : decode cX2_sendDue 133 = .ok (.aload_n 3, 1) := dk_45 (dk_at dksX2_sendDue_5 16 rfl rfl)
theorem dX2_sendDue_134 : decode cX2_sendDue 134 = .ok (.getfield 138, 3) := dk_180 0 138 (dk_at dksX2_sendDue_5 17 rfl rfl)
theorem dX2_sendDue_137 : decode cX2_sendDue 137 = .ok (.imul, 1) := dk_104 (dk_at dksX2_sendDue_5 20 rfl rfl)
theorem dX2_sendDue_138 : decode cX2_sendDue 138 = .ok (.invokevirtual 141, 3) := dk_182 0 141 (dk_at dksX2_sendDue_5 21 rfl rfl)
theorem dX2_sendDue_141 : decode cX2_sendDue 141 = .ok (.aload_n 0, 1) := dk_42 (dk_at dksX2_sendDue_6 0 rfl rfl)
theorem dX2_sendDue_142 : decode cX2_sendDue 142 = .ok (.getfield 17, 3) := dk_180 0 17 (dk_at dksX2_sendDue_6 1 rfl rfl)
theorem dX2_sendDue_145 : decode cX2_sendDue 145 = .ok (.aload_n 3, 1) := dk_45 (dk_at dksX2_sendDue_6 4 rfl rfl)
theorem dX2_sendDue_146 : decode cX2_sendDue 146 = .ok (.invokevirtual 145, 3) := dk_182 0 145 (dk_at dksX2_sendDue_6 5 rfl rfl)
theorem dX2_sendDue_149 : decode cX2_sendDue 149 = .ok (.istore 5, 2) := dk_54 5 (dk_at dksX2_sendDue_6 8 rfl rfl)
theorem dX2_sendDue_151 : decode cX2_sendDue 151 = .ok (.goto (-87), 3) := dk_167 255 169 (dk_at dksX2_sendDue_6 10 rfl rfl)
theorem dX2_sendDue_154 : decode cX2_sendDue 154 = .ok (.return_, 1) := dk_177 (dk_at dksX2_sendDue_6 13 rfl rfl)
abbrev cX2_note : ByteArray := prog_10_method_9_code
def yX2_note : MethodName := ⟨RX2, "note", "(Ljava/lang/String;)V"⟩
def dkwX2_note_1 : List UInt8 := [44, 3, 44, 182, 0, 159, 16, 20, 100, 184, 0, 164, 182, 0, 170, 182, 0, 148, 87, 177]
abbrev dktX2_note_1 : List UInt8 := dkwX2_note_1 ++ []
def dkwX2_note_0 : List UInt8 := [42, 180, 0, 26, 43, 182, 0, 148, 182, 0, 151, 77, 42, 180, 0, 26, 3, 182, 0, 155, 42, 180, 0, 26]
abbrev dktX2_note_0 : List UInt8 := dkwX2_note_0 ++ dktX2_note_1
theorem dksX2_note_0 : cX2_note.data.toList.drop 0 = dktX2_note_0 := by decide +kernel
theorem dksX2_note_1 : cX2_note.data.toList.drop 24 = dktX2_note_1 := dk_seg dksX2_note_0 24 rfl rfl
theorem dX2_note_0 : decode cX2_note 0 = .ok (.aload_n 0, 1) := dk_42 (dk_at dksX2_note_0 0 rfl rfl)
theorem dX2_note_1 : decode cX2_note 1 = .ok (.getfield 26, 3) := dk_180 0 26 (dk_at dksX2_note_0 1 rfl rfl)
theorem dX2_note_4 : decode cX2_note 4 = .ok (.aload_n 1, 1) := dk_43 (dk_at dksX2_note_0 4 rfl rfl)
theorem dX2_note_5 : decode cX2_note 5 = .ok (.invokevirtual 148, 3) := dk_182 0 148 (dk_at dksX2_note_0 5 rfl rfl)
theorem dX2_note_8 : decode cX2_note 8 = .ok (.invokevirtual 151, 3) := dk_182 0 151 (dk_at dksX2_note_0 8 rfl rfl)
theorem dX2_note_11 : decode cX2_note 11 = .ok (.astore_n 2, 1) := dk_77 (dk_at dksX2_note_0 11 rfl rfl)
theorem dX2_note_12 : decode cX2_note 12 = .ok (.aload_n 0, 1) := dk_42 (dk_at dksX2_note_0 12 rfl rfl)
theorem dX2_note_13 : decode cX2_note 13 = .ok (.getfield 26, 3) := dk_180 0 26 (dk_at dksX2_note_0 13 rfl rfl)
theorem dX2_note_16 : decode cX2_note 16 = .ok (.iconst 0, 1) := dk_3 (dk_at dksX2_note_0 16 rfl rfl)
theorem dX2_note_17 : decode cX2_note 17 = .ok (.invokevirtual 155, 3) := dk_182 0 155 (dk_at dksX2_note_0 17 rfl rfl)
theorem dX2_note_20 : decode cX2_note 20 = .ok (.aload_n 0, 1) := dk_42 (dk_at dksX2_note_0 20 rfl rfl)
theorem dX2_note_21 : decode cX2_note 21 = .ok (.getfield 26, 3) := dk_180 0 26 (dk_at dksX2_note_0 21 rfl rfl)
theorem dX2_note_24 : decode cX2_note 24 = .ok (.aload_n 2, 1) := dk_44 (dk_at dksX2_note_1 0 rfl rfl)
theorem dX2_note_25 : decode cX2_note 25 = .ok (.iconst 0, 1) := dk_3 (dk_at dksX2_note_1 1 rfl rfl)
theorem dX2_note_26 : decode cX2_note 26 = .ok (.aload_n 2, 1) := dk_44 (dk_at dksX2_note_1 2 rfl rfl)
theorem dX2_note_27 : decode cX2_note 27 = .ok (.invokevirtual 159, 3) := dk_182 0 159 (dk_at dksX2_note_1 3 rfl rfl)
theorem dX2_note_30 : decode cX2_note 30 = .ok (.bipush 20, 2) := dk_16 20 (dk_at dksX2_note_1 6 rfl rfl)
theorem dX2_note_32 : decode cX2_note 32 = .ok (.isub, 1) := dk_100 (dk_at dksX2_note_1 8 rfl rfl)
theorem dX2_note_33 : decode cX2_note 33 = .ok (.invokestatic 164, 3) := dk_184 0 164 (dk_at dksX2_note_1 9 rfl rfl)
theorem dX2_note_36 : decode cX2_note 36 = .ok (.invokevirtual 170, 3) := dk_182 0 170 (dk_at dksX2_note_1 12 rfl rfl)
theorem dX2_note_39 : decode cX2_note 39 = .ok (.invokevirtual 148, 3) := dk_182 0 148 (dk_at dksX2_note_1 15 rfl rfl)
theorem dX2_note_42 : decode cX2_note 42 = .ok (.pop, 1) := dk_87 (dk_at dksX2_note_1 18 rfl rfl)
theorem dX2_note_43 : decode cX2_note 43 = .ok (.return_, 1) := dk_177 (dk_at dksX2_note_1 19 rfl rfl)
abbrev cX2_chosen : ByteArray := prog_10_method_7_code
def yX2_chosen : MethodName := ⟨RX2, "chosen", "()I"⟩
def dkwX2_chosen_1 : List UInt8 := [184, 0, 112, 42, 180, 0, 50, 182, 0, 116, 112, 182, 0, 119, 172]
abbrev dktX2_chosen_1 : List UInt8 := dkwX2_chosen_1 ++ []
def dkwX2_chosen_0 : List UInt8 := [42, 180, 0, 30, 16, 112, 160, 0, 10, 42, 182, 0, 108, 167, 0, 25, 42, 180, 0, 50, 42, 180, 0, 34]
abbrev dktX2_chosen_0 : List UInt8 := dkwX2_chosen_0 ++ dktX2_chosen_1
theorem dksX2_chosen_0 : cX2_chosen.data.toList.drop 0 = dktX2_chosen_0 := by decide +kernel
theorem dksX2_chosen_1 : cX2_chosen.data.toList.drop 24 = dktX2_chosen_1 := dk_seg dksX2_chosen_0 24 rfl rfl
theorem dX2_chosen_0 : decode cX2_chosen 0 = .ok (.aload_n 0, 1) := dk_42 (dk_at dksX2_chosen_0 0 rfl rfl)
theorem dX2_chosen_1 : decode cX2_chosen 1 = .ok (.getfield 30, 3) := dk_180 0 30 (dk_at dksX2_chosen_0 1 rfl rfl)
theorem dX2_chosen_4 : decode cX2_chosen 4 = .ok (.bipush 112, 2) := dk_16 112 (dk_at dksX2_chosen_0 4 rfl rfl)
theorem dX2_chosen_6 : decode cX2_chosen 6 = .ok (.if_icmp .ne 10, 3) := dk_160 0 10 (dk_at dksX2_chosen_0 6 rfl rfl)
theorem dX2_chosen_9 : decode cX2_chosen 9 = .ok (.aload_n 0, 1) := dk_42 (dk_at dksX2_chosen_0 9 rfl rfl)
theorem dX2_chosen_10 : decode cX2_chosen 10 = .ok (.invokevirtual 108, 3) := dk_182 0 108 (dk_at dksX2_chosen_0 10 rfl rfl)
theorem dX2_chosen_13 : decode cX2_chosen 13 = .ok (.goto 25, 3) := dk_167 0 25 (dk_at dksX2_chosen_0 13 rfl rfl)
theorem dX2_chosen_16 : decode cX2_chosen 16 = .ok (.aload_n 0, 1) := dk_42 (dk_at dksX2_chosen_0 16 rfl rfl)
theorem dX2_chosen_17 : decode cX2_chosen 17 = .ok (.getfield 50, 3) := dk_180 0 50 (dk_at dksX2_chosen_0 17 rfl rfl)
theorem dX2_chosen_20 : decode cX2_chosen 20 = .ok (.aload_n 0, 1) := dk_42 (dk_at dksX2_chosen_0 20 rfl rfl)
theorem dX2_chosen_21 : decode cX2_chosen 21 = .ok (.getfield 34, 3) := dk_180 0 34 (dk_at dksX2_chosen_0 21 rfl rfl)
theorem dX2_chosen_24 : decode cX2_chosen 24 = .ok (.invokestatic 112, 3) := dk_184 0 112 (dk_at dksX2_chosen_1 0 rfl rfl)
theorem dX2_chosen_27 : decode cX2_chosen 27 = .ok (.aload_n 0, 1) := dk_42 (dk_at dksX2_chosen_1 3 rfl rfl)
theorem dX2_chosen_28 : decode cX2_chosen 28 = .ok (.getfield 50, 3) := dk_180 0 50 (dk_at dksX2_chosen_1 4 rfl rfl)
theorem dX2_chosen_31 : decode cX2_chosen 31 = .ok (.invokevirtual 116, 3) := dk_182 0 116 (dk_at dksX2_chosen_1 7 rfl rfl)
theorem dX2_chosen_34 : decode cX2_chosen 34 = .ok (.irem, 1) := dk_112 (dk_at dksX2_chosen_1 10 rfl rfl)
theorem dX2_chosen_35 : decode cX2_chosen 35 = .ok (.invokevirtual 119, 3) := dk_182 0 119 (dk_at dksX2_chosen_1 11 rfl rfl)
theorem dX2_chosen_38 : decode cX2_chosen 38 = .ok (.ireturn, 1) := dk_172 (dk_at dksX2_chosen_1 14 rfl rfl)
abbrev cX2_chosenByPriority : ByteArray := prog_10_method_6_code
def yX2_chosenByPriority : MethodName := ⟨RX2, "chosenByPriority", "()I"⟩
def dkwX2_chosenByPriority_2 : List UInt8 := [153, 0, 7, 28, 167, 0, 4, 27, 60, 132, 2, 1, 167, 255, 201, 27, 172]
abbrev dktX2_chosenByPriority_2 : List UInt8 := dkwX2_chosenByPriority_2 ++ []
def dkwX2_chosenByPriority_1 : List UInt8 := [153, 0, 21, 27, 2, 159, 0, 12, 42, 28, 27, 182, 0, 104, 153, 0, 7, 4, 167, 0, 4, 3, 62, 29]
abbrev dktX2_chosenByPriority_1 : List UInt8 := dkwX2_chosenByPriority_1 ++ dktX2_chosenByPriority_2
def dkwX2_chosenByPriority_0 : List UInt8 := [2, 60, 3, 61, 28, 42, 180, 0, 41, 180, 0, 89, 162, 0, 50, 42, 180, 0, 50, 28, 182, 0, 100]
abbrev dktX2_chosenByPriority_0 : List UInt8 := dkwX2_chosenByPriority_0 ++ dktX2_chosenByPriority_1
theorem dksX2_chosenByPriority_0 : cX2_chosenByPriority.data.toList.drop 0 = dktX2_chosenByPriority_0 := by decide +kernel
theorem dksX2_chosenByPriority_1 : cX2_chosenByPriority.data.toList.drop 23 = dktX2_chosenByPriority_1 := dk_seg dksX2_chosenByPriority_0 23 rfl rfl
theorem dksX2_chosenByPriority_2 : cX2_chosenByPriority.data.toList.drop 47 = dktX2_chosenByPriority_2 := dk_seg dksX2_chosenByPriority_1 24 rfl rfl
theorem dX2_chosenByPriority_0 : decode cX2_chosenByPriority 0 = .ok (.iconst (-1), 1) := dk_2 (dk_at dksX2_chosenByPriority_0 0 rfl rfl)
theorem dX2_chosenByPriority_1 : decode cX2_chosenByPriority 1 = .ok (.istore_n 1, 1) := dk_60 (dk_at dksX2_chosenByPriority_0 1 rfl rfl)
theorem dX2_chosenByPriority_2 : decode cX2_chosenByPriority 2 = .ok (.iconst 0, 1) := dk_3 (dk_at dksX2_chosenByPriority_0 2 rfl rfl)
theorem dX2_chosenByPriority_3 : decode cX2_chosenByPriority 3 = .ok (.istore_n 2, 1) := dk_61 (dk_at dksX2_chosenByPriority_0 3 rfl rfl)
theorem dX2_chosenByPriority_4 : decode cX2_chosenByPriority 4 = .ok (.iload_n 2, 1) := dk_28 (dk_at dksX2_chosenByPriority_0 4 rfl rfl)
theorem dX2_chosenByPriority_5 : decode cX2_chosenByPriority 5 = .ok (.aload_n 0, 1) := dk_42 (dk_at dksX2_chosenByPriority_0 5 rfl rfl)
theorem dX2_chosenByPriority_6 : decode cX2_chosenByPriority 6 = .ok (.getfield 41, 3) := dk_180 0 41 (dk_at dksX2_chosenByPriority_0 6 rfl rfl)
theorem dX2_chosenByPriority_9 : decode cX2_chosenByPriority 9 = .ok (.getfield 89, 3) := dk_180 0 89 (dk_at dksX2_chosenByPriority_0 9 rfl rfl)
theorem dX2_chosenByPriority_12 : decode cX2_chosenByPriority 12 = .ok (.if_icmp .ge 50, 3) := dk_162 0 50 (dk_at dksX2_chosenByPriority_0 12 rfl rfl)
theorem dX2_chosenByPriority_15 : decode cX2_chosenByPriority 15 = .ok (.aload_n 0, 1) := dk_42 (dk_at dksX2_chosenByPriority_0 15 rfl rfl)
theorem dX2_chosenByPriority_16 : decode cX2_chosenByPriority 16 = .ok (.getfield 50, 3) := dk_180 0 50 (dk_at dksX2_chosenByPriority_0 16 rfl rfl)
theorem dX2_chosenByPriority_19 : decode cX2_chosenByPriority 19 = .ok (.iload_n 2, 1) := dk_28 (dk_at dksX2_chosenByPriority_0 19 rfl rfl)
theorem dX2_chosenByPriority_20 : decode cX2_chosenByPriority 20 = .ok (.invokevirtual 100, 3) := dk_182 0 100 (dk_at dksX2_chosenByPriority_0 20 rfl rfl)
theorem dX2_chosenByPriority_23 : decode cX2_chosenByPriority 23 = .ok (.ifCond .eq 21, 3) := dk_153 0 21 (dk_at dksX2_chosenByPriority_1 0 rfl rfl)
theorem dX2_chosenByPriority_26 : decode cX2_chosenByPriority 26 = .ok (.iload_n 1, 1) := dk_27 (dk_at dksX2_chosenByPriority_1 3 rfl rfl)
theorem dX2_chosenByPriority_27 : decode cX2_chosenByPriority 27 = .ok (.iconst (-1), 1) := dk_2 (dk_at dksX2_chosenByPriority_1 4 rfl rfl)
theorem dX2_chosenByPriority_28 : decode cX2_chosenByPriority 28 = .ok (.if_icmp .eq 12, 3) := dk_159 0 12 (dk_at dksX2_chosenByPriority_1 5 rfl rfl)
theorem dX2_chosenByPriority_31 : decode cX2_chosenByPriority 31 = .ok (.aload_n 0, 1) := dk_42 (dk_at dksX2_chosenByPriority_1 8 rfl rfl)
theorem dX2_chosenByPriority_32 : decode cX2_chosenByPriority 32 = .ok (.iload_n 2, 1) := dk_28 (dk_at dksX2_chosenByPriority_1 9 rfl rfl)
theorem dX2_chosenByPriority_33 : decode cX2_chosenByPriority 33 = .ok (.iload_n 1, 1) := dk_27 (dk_at dksX2_chosenByPriority_1 10 rfl rfl)
theorem dX2_chosenByPriority_34 : decode cX2_chosenByPriority 34 = .ok (.invokevirtual 104, 3) := dk_182 0 104 (dk_at dksX2_chosenByPriority_1 11 rfl rfl)
theorem dX2_chosenByPriority_37 : decode cX2_chosenByPriority 37 = .ok (.ifCond .eq 7, 3) := dk_153 0 7 (dk_at dksX2_chosenByPriority_1 14 rfl rfl)
theorem dX2_chosenByPriority_40 : decode cX2_chosenByPriority 40 = .ok (.iconst 1, 1) := dk_4 (dk_at dksX2_chosenByPriority_1 17 rfl rfl)
theorem dX2_chosenByPriority_41 : decode cX2_chosenByPriority 41 = .ok (.goto 4, 3) := dk_167 0 4 (dk_at dksX2_chosenByPriority_1 18 rfl rfl)
theorem dX2_chosenByPriority_44 : decode cX2_chosenByPriority 44 = .ok (.iconst 0, 1) := dk_3 (dk_at dksX2_chosenByPriority_1 21 rfl rfl)
theorem dX2_chosenByPriority_45 : decode cX2_chosenByPriority 45 = .ok (.istore_n 3, 1) := dk_62 (dk_at dksX2_chosenByPriority_1 22 rfl rfl)
theorem dX2_chosenByPriority_46 : decode cX2_chosenByPriority 46 = .ok (.iload_n 3, 1) := dk_29 (dk_at dksX2_chosenByPriority_1 23 rfl rfl)
theorem dX2_chosenByPriority_47 : decode cX2_chosenByPriority 47 = .ok (.ifCond .eq 7, 3) := dk_153 0 7 (dk_at dksX2_chosenByPriority_2 0 rfl rfl)
theorem dX2_chosenByPriority_50 : decode cX2_chosenByPriority 50 = .ok (.iload_n 2, 1) := dk_28 (dk_at dksX2_chosenByPriority_2 3 rfl rfl)
theorem dX2_chosenByPriority_51 : decode cX2_chosenByPriority 51 = .ok (.goto 4, 3) := dk_167 0 4 (dk_at dksX2_chosenByPriority_2 4 rfl rfl)
theorem dX2_chosenByPriority_54 : decode cX2_chosenByPriority 54 = .ok (.iload_n 1, 1) := dk_27 (dk_at dksX2_chosenByPriority_2 7 rfl rfl)
theorem dX2_chosenByPriority_55 : decode cX2_chosenByPriority 55 = .ok (.istore_n 1, 1) := dk_60 (dk_at dksX2_chosenByPriority_2 8 rfl rfl)
theorem dX2_chosenByPriority_56 : decode cX2_chosenByPriority 56 = .ok (.iinc 2 1, 3) := dk_132 2 1 (dk_at dksX2_chosenByPriority_2 9 rfl rfl)
theorem dX2_chosenByPriority_59 : decode cX2_chosenByPriority 59 = .ok (.goto (-55), 3) := dk_167 255 201 (dk_at dksX2_chosenByPriority_2 12 rfl rfl)
theorem dX2_chosenByPriority_62 : decode cX2_chosenByPriority 62 = .ok (.iload_n 1, 1) := dk_27 (dk_at dksX2_chosenByPriority_2 15 rfl rfl)
theorem dX2_chosenByPriority_63 : decode cX2_chosenByPriority 63 = .ok (.ireturn, 1) := dk_172 (dk_at dksX2_chosenByPriority_2 16 rfl rfl)
abbrev cX2_isBefore : ByteArray := prog_10_method_5_code
def yX2_isBefore : MethodName := ⟨RX2, "isBefore", "(II)Z"⟩
def dkwX2_isBefore_1 : List UInt8 := [167, 0, 4, 3, 172]
abbrev dktX2_isBefore_1 : List UInt8 := dkwX2_isBefore_1 ++ []
def dkwX2_isBefore_0 : List UInt8 := [42, 180, 0, 41, 180, 0, 96, 27, 46, 42, 180, 0, 41, 180, 0, 96, 28, 46, 164, 0, 7, 4]
abbrev dktX2_isBefore_0 : List UInt8 := dkwX2_isBefore_0 ++ dktX2_isBefore_1
theorem dksX2_isBefore_0 : cX2_isBefore.data.toList.drop 0 = dktX2_isBefore_0 := by decide +kernel
theorem dksX2_isBefore_1 : cX2_isBefore.data.toList.drop 22 = dktX2_isBefore_1 := dk_seg dksX2_isBefore_0 22 rfl rfl
theorem dX2_isBefore_0 : decode cX2_isBefore 0 = .ok (.aload_n 0, 1) := dk_42 (dk_at dksX2_isBefore_0 0 rfl rfl)
theorem dX2_isBefore_1 : decode cX2_isBefore 1 = .ok (.getfield 41, 3) := dk_180 0 41 (dk_at dksX2_isBefore_0 1 rfl rfl)
theorem dX2_isBefore_4 : decode cX2_isBefore 4 = .ok (.getfield 96, 3) := dk_180 0 96 (dk_at dksX2_isBefore_0 4 rfl rfl)
theorem dX2_isBefore_7 : decode cX2_isBefore 7 = .ok (.iload_n 1, 1) := dk_27 (dk_at dksX2_isBefore_0 7 rfl rfl)
theorem dX2_isBefore_8 : decode cX2_isBefore 8 = .ok (.iaload, 1) := dk_46 (dk_at dksX2_isBefore_0 8 rfl rfl)
theorem dX2_isBefore_9 : decode cX2_isBefore 9 = .ok (.aload_n 0, 1) := dk_42 (dk_at dksX2_isBefore_0 9 rfl rfl)
theorem dX2_isBefore_10 : decode cX2_isBefore 10 = .ok (.getfield 41, 3) := dk_180 0 41 (dk_at dksX2_isBefore_0 10 rfl rfl)
theorem dX2_isBefore_13 : decode cX2_isBefore 13 = .ok (.getfield 96, 3) := dk_180 0 96 (dk_at dksX2_isBefore_0 13 rfl rfl)
theorem dX2_isBefore_16 : decode cX2_isBefore 16 = .ok (.iload_n 2, 1) := dk_28 (dk_at dksX2_isBefore_0 16 rfl rfl)
theorem dX2_isBefore_17 : decode cX2_isBefore 17 = .ok (.iaload, 1) := dk_46 (dk_at dksX2_isBefore_0 17 rfl rfl)
theorem dX2_isBefore_18 : decode cX2_isBefore 18 = .ok (.if_icmp .le 7, 3) := dk_164 0 7 (dk_at dksX2_isBefore_0 18 rfl rfl)
theorem dX2_isBefore_21 : decode cX2_isBefore 21 = .ok (.iconst 1, 1) := dk_4 (dk_at dksX2_isBefore_0 21 rfl rfl)
theorem dX2_isBefore_22 : decode cX2_isBefore 22 = .ok (.goto 4, 3) := dk_167 0 4 (dk_at dksX2_isBefore_1 0 rfl rfl)
theorem dX2_isBefore_25 : decode cX2_isBefore 25 = .ok (.iconst 0, 1) := dk_3 (dk_at dksX2_isBefore_1 3 rfl rfl)
theorem dX2_isBefore_26 : decode cX2_isBefore 26 = .ok (.ireturn, 1) := dk_172 (dk_at dksX2_isBefore_1 4 rfl rfl)
abbrev cX2_nextSeed : ByteArray := prog_10_method_4_code
def yX2_nextSeed : MethodName := ⟨RX2, "nextSeed", "(I)I"⟩
def dkwX2_nextSeed_0 : List UInt8 := [8, 26, 104, 6, 96, 16, 64, 112, 172]
abbrev dktX2_nextSeed_0 : List UInt8 := dkwX2_nextSeed_0 ++ []
theorem dksX2_nextSeed_0 : cX2_nextSeed.data.toList.drop 0 = dktX2_nextSeed_0 := by decide +kernel
theorem dX2_nextSeed_0 : decode cX2_nextSeed 0 = .ok (.iconst 5, 1) := dk_8 (dk_at dksX2_nextSeed_0 0 rfl rfl)
theorem dX2_nextSeed_1 : decode cX2_nextSeed 1 = .ok (.iload_n 0, 1) := dk_26 (dk_at dksX2_nextSeed_0 1 rfl rfl)
theorem dX2_nextSeed_2 : decode cX2_nextSeed 2 = .ok (.imul, 1) := dk_104 (dk_at dksX2_nextSeed_0 2 rfl rfl)
theorem dX2_nextSeed_3 : decode cX2_nextSeed 3 = .ok (.iconst 3, 1) := dk_6 (dk_at dksX2_nextSeed_0 3 rfl rfl)
theorem dX2_nextSeed_4 : decode cX2_nextSeed 4 = .ok (.iadd, 1) := dk_96 (dk_at dksX2_nextSeed_0 4 rfl rfl)
theorem dX2_nextSeed_5 : decode cX2_nextSeed 5 = .ok (.bipush 64, 2) := dk_16 64 (dk_at dksX2_nextSeed_0 5 rfl rfl)
theorem dX2_nextSeed_7 : decode cX2_nextSeed 7 = .ok (.irem, 1) := dk_112 (dk_at dksX2_nextSeed_0 7 rfl rfl)
theorem dX2_nextSeed_8 : decode cX2_nextSeed 8 = .ok (.ireturn, 1) := dk_172 (dk_at dksX2_nextSeed_0 8 rfl rfl)
abbrev cX2_isQuiet : ByteArray := prog_10_method_11_code
def yX2_isQuiet : MethodName := ⟨RX2, "isQuiet", "()Z"⟩
def dkwX2_isQuiet_1 : List UInt8 := [3, 172]
abbrev dktX2_isQuiet_1 : List UInt8 := dkwX2_isQuiet_1 ++ []
def dkwX2_isQuiet_0 : List UInt8 := [42, 180, 0, 17, 182, 0, 194, 153, 0, 17, 42, 180, 0, 50, 182, 0, 197, 154, 0, 7, 4, 167, 0, 4]
abbrev dktX2_isQuiet_0 : List UInt8 := dkwX2_isQuiet_0 ++ dktX2_isQuiet_1
theorem dksX2_isQuiet_0 : cX2_isQuiet.data.toList.drop 0 = dktX2_isQuiet_0 := by decide +kernel
theorem dksX2_isQuiet_1 : cX2_isQuiet.data.toList.drop 24 = dktX2_isQuiet_1 := dk_seg dksX2_isQuiet_0 24 rfl rfl
theorem dX2_isQuiet_0 : decode cX2_isQuiet 0 = .ok (.aload_n 0, 1) := dk_42 (dk_at dksX2_isQuiet_0 0 rfl rfl)
theorem dX2_isQuiet_1 : decode cX2_isQuiet 1 = .ok (.getfield 17, 3) := dk_180 0 17 (dk_at dksX2_isQuiet_0 1 rfl rfl)
theorem dX2_isQuiet_4 : decode cX2_isQuiet 4 = .ok (.invokevirtual 194, 3) := dk_182 0 194 (dk_at dksX2_isQuiet_0 4 rfl rfl)
theorem dX2_isQuiet_7 : decode cX2_isQuiet 7 = .ok (.ifCond .eq 17, 3) := dk_153 0 17 (dk_at dksX2_isQuiet_0 7 rfl rfl)
theorem dX2_isQuiet_10 : decode cX2_isQuiet 10 = .ok (.aload_n 0, 1) := dk_42 (dk_at dksX2_isQuiet_0 10 rfl rfl)
theorem dX2_isQuiet_11 : decode cX2_isQuiet 11 = .ok (.getfield 50, 3) := dk_180 0 50 (dk_at dksX2_isQuiet_0 11 rfl rfl)
theorem dX2_isQuiet_14 : decode cX2_isQuiet 14 = .ok (.invokevirtual 197, 3) := dk_182 0 197 (dk_at dksX2_isQuiet_0 14 rfl rfl)
theorem dX2_isQuiet_17 : decode cX2_isQuiet 17 = .ok (.ifCond .ne 7, 3) := dk_154 0 7 (dk_at dksX2_isQuiet_0 17 rfl rfl)
theorem dX2_isQuiet_20 : decode cX2_isQuiet 20 = .ok (.iconst 1, 1) := dk_4 (dk_at dksX2_isQuiet_0 20 rfl rfl)
theorem dX2_isQuiet_21 : decode cX2_isQuiet 21 = .ok (.goto 4, 3) := dk_167 0 4 (dk_at dksX2_isQuiet_0 21 rfl rfl)
theorem dX2_isQuiet_24 : decode cX2_isQuiet 24 = .ok (.iconst 0, 1) := dk_3 (dk_at dksX2_isQuiet_1 0 rfl rfl)
theorem dX2_isQuiet_25 : decode cX2_isQuiet 25 = .ok (.ireturn, 1) := dk_172 (dk_at dksX2_isQuiet_1 1 rfl rfl)
abbrev cX3_init : ByteArray := prog_2_method_1_code
def yX3_init : MethodName := ⟨RX3, "<init>", "()V"⟩
theorem dX3_init_0 : decode cX3_init 0 = .ok (.aload_n 0, 1) := by decide +kernel
theorem dX3_init_1 : decode cX3_init 1 = .ok (.invokespecial 1, 3) := by decide +kernel
theorem dX3_init_4 : decode cX3_init 4 = .ok (.return_, 1) := by decide +kernel
abbrev cX3_compare : ByteArray := prog_2_method_3_code
def yX3_compare : MethodName := ⟨RX3, "compare", "(Ljava/lang/Object;Ljava/lang/Object;)I"⟩
def dkwX3_compare_0 : List UInt8 := [42, 43, 192, 0, 8, 44, 192, 0, 8, 182, 0, 16, 172]
abbrev dktX3_compare_0 : List UInt8 := dkwX3_compare_0 ++ []
theorem dksX3_compare_0 : cX3_compare.data.toList.drop 0 = dktX3_compare_0 := by decide +kernel
theorem dX3_compare_0 : decode cX3_compare 0 = .ok (.aload_n 0, 1) := dk_42 (dk_at dksX3_compare_0 0 rfl rfl)
theorem dX3_compare_1 : decode cX3_compare 1 = .ok (.aload_n 1, 1) := dk_43 (dk_at dksX3_compare_0 1 rfl rfl)
theorem dX3_compare_2 : decode cX3_compare 2 = .ok (.checkcast 8, 3) := dk_192 0 8 (dk_at dksX3_compare_0 2 rfl rfl)
theorem dX3_compare_5 : decode cX3_compare 5 = .ok (.aload_n 2, 1) := dk_44 (dk_at dksX3_compare_0 5 rfl rfl)
theorem dX3_compare_6 : decode cX3_compare 6 = .ok (.checkcast 8, 3) := dk_192 0 8 (dk_at dksX3_compare_0 6 rfl rfl)
theorem dX3_compare_9 : decode cX3_compare 9 = .ok (.invokevirtual 16, 3) := dk_182 0 16 (dk_at dksX3_compare_0 9 rfl rfl)
theorem dX3_compare_12 : decode cX3_compare 12 = .ok (.ireturn, 1) := dk_172 (dk_at dksX3_compare_0 12 rfl rfl)
abbrev cX3_compare_2 : ByteArray := prog_2_method_2_code
def yX3_compare_2 : MethodName := ⟨RX3, "compare", "(LSpindleActors$Timer;LSpindleActors$Timer;)I"⟩
def dkwX3_compare_2_1 : List UInt8 := [180, 0, 13, 44, 180, 0, 13, 100, 172]
abbrev dktX3_compare_2_1 : List UInt8 := dkwX3_compare_2_1 ++ []
def dkwX3_compare_2_0 : List UInt8 := [43, 180, 0, 7, 44, 180, 0, 7, 159, 0, 15, 43, 180, 0, 7, 44, 180, 0, 7, 100, 167, 0, 12, 43]
abbrev dktX3_compare_2_0 : List UInt8 := dkwX3_compare_2_0 ++ dktX3_compare_2_1
theorem dksX3_compare_2_0 : cX3_compare_2.data.toList.drop 0 = dktX3_compare_2_0 := by decide +kernel
theorem dksX3_compare_2_1 : cX3_compare_2.data.toList.drop 24 = dktX3_compare_2_1 := dk_seg dksX3_compare_2_0 24 rfl rfl
theorem dX3_compare_2_0 : decode cX3_compare_2 0 = .ok (.aload_n 1, 1) := dk_43 (dk_at dksX3_compare_2_0 0 rfl rfl)
theorem dX3_compare_2_1 : decode cX3_compare_2 1 = .ok (.getfield 7, 3) := dk_180 0 7 (dk_at dksX3_compare_2_0 1 rfl rfl)
theorem dX3_compare_2_4 : decode cX3_compare_2 4 = .ok (.aload_n 2, 1) := dk_44 (dk_at dksX3_compare_2_0 4 rfl rfl)
theorem dX3_compare_2_5 : decode cX3_compare_2 5 = .ok (.getfield 7, 3) := dk_180 0 7 (dk_at dksX3_compare_2_0 5 rfl rfl)
theorem dX3_compare_2_8 : decode cX3_compare_2 8 = .ok (.if_icmp .eq 15, 3) := dk_159 0 15 (dk_at dksX3_compare_2_0 8 rfl rfl)
theorem dX3_compare_2_11 : decode cX3_compare_2 11 = .ok (.aload_n 1, 1) := dk_43 (dk_at dksX3_compare_2_0 11 rfl rfl)
theorem dX3_compare_2_12 : decode cX3_compare_2 12 = .ok (.getfield 7, 3) := dk_180 0 7 (dk_at dksX3_compare_2_0 12 rfl rfl)
theorem dX3_compare_2_15 : decode cX3_compare_2 15 = .ok (.aload_n 2, 1) := dk_44 (dk_at dksX3_compare_2_0 15 rfl rfl)
theorem dX3_compare_2_16 : decode cX3_compare_2 16 = .ok (.getfield 7, 3) := dk_180 0 7 (dk_at dksX3_compare_2_0 16 rfl rfl)
theorem dX3_compare_2_19 : decode cX3_compare_2 19 = .ok (.isub, 1) := dk_100 (dk_at dksX3_compare_2_0 19 rfl rfl)
theorem dX3_compare_2_20 : decode cX3_compare_2 20 = .ok (.goto 12, 3) := dk_167 0 12 (dk_at dksX3_compare_2_0 20 rfl rfl)
theorem dX3_compare_2_23 : decode cX3_compare_2 23 = .ok (.aload_n 1, 1) := dk_43 (dk_at dksX3_compare_2_0 23 rfl rfl)
theorem dX3_compare_2_24 : decode cX3_compare_2 24 = .ok (.getfield 13, 3) := dk_180 0 13 (dk_at dksX3_compare_2_1 0 rfl rfl)
theorem dX3_compare_2_27 : decode cX3_compare_2 27 = .ok (.aload_n 2, 1) := dk_44 (dk_at dksX3_compare_2_1 3 rfl rfl)
theorem dX3_compare_2_28 : decode cX3_compare_2 28 = .ok (.getfield 13, 3) := dk_180 0 13 (dk_at dksX3_compare_2_1 4 rfl rfl)
theorem dX3_compare_2_31 : decode cX3_compare_2 31 = .ok (.isub, 1) := dk_100 (dk_at dksX3_compare_2_1 7 rfl rfl)
theorem dX3_compare_2_32 : decode cX3_compare_2 32 = .ok (.ireturn, 1) := dk_172 (dk_at dksX3_compare_2_1 8 rfl rfl)
abbrev cX4_init : ByteArray := prog_4_method_1_code
def yX4_init : MethodName := ⟨RX4, "<init>", "()V"⟩
def dkwX4_init_2 : List UInt8 := [188, 10, 181, 0, 28, 177]
abbrev dktX4_init_2 : List UInt8 := dkwX4_init_2 ++ []
def dkwX4_init_1 : List UInt8 := [188, 10, 181, 0, 18, 42, 16, 8, 188, 10, 181, 0, 22, 42, 16, 8, 188, 10, 181, 0, 25, 42, 16, 8]
abbrev dktX4_init_1 : List UInt8 := dkwX4_init_1 ++ dktX4_init_2
def dkwX4_init_0 : List UInt8 := [42, 183, 0, 3, 42, 16, 8, 188, 5, 181, 0, 9, 42, 16, 8, 188, 5, 181, 0, 15, 42, 16, 8]
abbrev dktX4_init_0 : List UInt8 := dkwX4_init_0 ++ dktX4_init_1
theorem dksX4_init_0 : cX4_init.data.toList.drop 0 = dktX4_init_0 := by decide +kernel
theorem dksX4_init_1 : cX4_init.data.toList.drop 23 = dktX4_init_1 := dk_seg dksX4_init_0 23 rfl rfl
theorem dksX4_init_2 : cX4_init.data.toList.drop 47 = dktX4_init_2 := dk_seg dksX4_init_1 24 rfl rfl
theorem dX4_init_0 : decode cX4_init 0 = .ok (.aload_n 0, 1) := dk_42 (dk_at dksX4_init_0 0 rfl rfl)
theorem dX4_init_1 : decode cX4_init 1 = .ok (.invokespecial 3, 3) := dk_183 0 3 (dk_at dksX4_init_0 1 rfl rfl)
theorem dX4_init_4 : decode cX4_init 4 = .ok (.aload_n 0, 1) := dk_42 (dk_at dksX4_init_0 4 rfl rfl)
theorem dX4_init_5 : decode cX4_init 5 = .ok (.bipush 8, 2) := dk_16 8 (dk_at dksX4_init_0 5 rfl rfl)
theorem dX4_init_7 : decode cX4_init 7 = .ok (.newarray .char, 2) := dk_188_5 (dk_at dksX4_init_0 7 rfl rfl)
theorem dX4_init_9 : decode cX4_init 9 = .ok (.putfield 9, 3) := dk_181 0 9 (dk_at dksX4_init_0 9 rfl rfl)
theorem dX4_init_12 : decode cX4_init 12 = .ok (.aload_n 0, 1) := dk_42 (dk_at dksX4_init_0 12 rfl rfl)
theorem dX4_init_13 : decode cX4_init 13 = .ok (.bipush 8, 2) := dk_16 8 (dk_at dksX4_init_0 13 rfl rfl)
theorem dX4_init_15 : decode cX4_init 15 = .ok (.newarray .char, 2) := dk_188_5 (dk_at dksX4_init_0 15 rfl rfl)
theorem dX4_init_17 : decode cX4_init 17 = .ok (.putfield 15, 3) := dk_181 0 15 (dk_at dksX4_init_0 17 rfl rfl)
theorem dX4_init_20 : decode cX4_init 20 = .ok (.aload_n 0, 1) := dk_42 (dk_at dksX4_init_0 20 rfl rfl)
theorem dX4_init_21 : decode cX4_init 21 = .ok (.bipush 8, 2) := dk_16 8 (dk_at dksX4_init_0 21 rfl rfl)
theorem dX4_init_23 : decode cX4_init 23 = .ok (.newarray .int, 2) := dk_188_10 (dk_at dksX4_init_1 0 rfl rfl)
theorem dX4_init_25 : decode cX4_init 25 = .ok (.putfield 18, 3) := dk_181 0 18 (dk_at dksX4_init_1 2 rfl rfl)
theorem dX4_init_28 : decode cX4_init 28 = .ok (.aload_n 0, 1) := dk_42 (dk_at dksX4_init_1 5 rfl rfl)
theorem dX4_init_29 : decode cX4_init 29 = .ok (.bipush 8, 2) := dk_16 8 (dk_at dksX4_init_1 6 rfl rfl)
theorem dX4_init_31 : decode cX4_init 31 = .ok (.newarray .int, 2) := dk_188_10 (dk_at dksX4_init_1 8 rfl rfl)
theorem dX4_init_33 : decode cX4_init 33 = .ok (.putfield 22, 3) := dk_181 0 22 (dk_at dksX4_init_1 10 rfl rfl)
theorem dX4_init_36 : decode cX4_init 36 = .ok (.aload_n 0, 1) := dk_42 (dk_at dksX4_init_1 13 rfl rfl)
theorem dX4_init_37 : decode cX4_init 37 = .ok (.bipush 8, 2) := dk_16 8 (dk_at dksX4_init_1 14 rfl rfl)
theorem dX4_init_39 : decode cX4_init 39 = .ok (.newarray .int, 2) := dk_188_10 (dk_at dksX4_init_1 16 rfl rfl)
theorem dX4_init_41 : decode cX4_init 41 = .ok (.putfield 25, 3) := dk_181 0 25 (dk_at dksX4_init_1 18 rfl rfl)
theorem dX4_init_44 : decode cX4_init 44 = .ok (.aload_n 0, 1) := dk_42 (dk_at dksX4_init_1 21 rfl rfl)
theorem dX4_init_45 : decode cX4_init 45 = .ok (.bipush 8, 2) := dk_16 8 (dk_at dksX4_init_1 22 rfl rfl)
theorem dX4_init_47 : decode cX4_init 47 = .ok (.newarray .int, 2) := dk_188_10 (dk_at dksX4_init_2 0 rfl rfl)
theorem dX4_init_49 : decode cX4_init 49 = .ok (.putfield 28, 3) := dk_181 0 28 (dk_at dksX4_init_2 2 rfl rfl)
theorem dX4_init_52 : decode cX4_init 52 = .ok (.return_, 1) := dk_177 (dk_at dksX4_init_2 5 rfl rfl)
abbrev cX4_isForwarder : ByteArray := prog_4_method_4_code
def yX4_isForwarder : MethodName := ⟨RX4, "isForwarder", "(I)Z"⟩
def dkwX4_isForwarder_0 : List UInt8 := [18, 45, 42, 180, 0, 9, 27, 52, 182, 0, 47, 155, 0, 7, 4, 167, 0, 4, 3, 172]
abbrev dktX4_isForwarder_0 : List UInt8 := dkwX4_isForwarder_0 ++ []
theorem dksX4_isForwarder_0 : cX4_isForwarder.data.toList.drop 0 = dktX4_isForwarder_0 := by decide +kernel
theorem dX4_isForwarder_0 : decode cX4_isForwarder 0 = .ok (.ldc 45, 2) := dk_18 45 (dk_at dksX4_isForwarder_0 0 rfl rfl)
theorem dX4_isForwarder_2 : decode cX4_isForwarder 2 = .ok (.aload_n 0, 1) := dk_42 (dk_at dksX4_isForwarder_0 2 rfl rfl)
theorem dX4_isForwarder_3 : decode cX4_isForwarder 3 = .ok (.getfield 9, 3) := dk_180 0 9 (dk_at dksX4_isForwarder_0 3 rfl rfl)
theorem dX4_isForwarder_6 : decode cX4_isForwarder 6 = .ok (.iload_n 1, 1) := dk_27 (dk_at dksX4_isForwarder_0 6 rfl rfl)
theorem dX4_isForwarder_7 : decode cX4_isForwarder 7 = .ok (.caload, 1) := dk_52 (dk_at dksX4_isForwarder_0 7 rfl rfl)
theorem dX4_isForwarder_8 : decode cX4_isForwarder 8 = .ok (.invokevirtual 47, 3) := dk_182 0 47 (dk_at dksX4_isForwarder_0 8 rfl rfl)
theorem dX4_isForwarder_11 : decode cX4_isForwarder 11 = .ok (.ifCond .lt 7, 3) := dk_155 0 7 (dk_at dksX4_isForwarder_0 11 rfl rfl)
theorem dX4_isForwarder_14 : decode cX4_isForwarder 14 = .ok (.iconst 1, 1) := dk_4 (dk_at dksX4_isForwarder_0 14 rfl rfl)
theorem dX4_isForwarder_15 : decode cX4_isForwarder 15 = .ok (.goto 4, 3) := dk_167 0 4 (dk_at dksX4_isForwarder_0 15 rfl rfl)
theorem dX4_isForwarder_18 : decode cX4_isForwarder 18 = .ok (.iconst 0, 1) := dk_3 (dk_at dksX4_isForwarder_0 18 rfl rfl)
theorem dX4_isForwarder_19 : decode cX4_isForwarder 19 = .ok (.ireturn, 1) := dk_172 (dk_at dksX4_isForwarder_0 19 rfl rfl)
abbrev cX4_init_2 : ByteArray := prog_4_method_2_code
def yX4_init_2 : MethodName := ⟨RX4, "<init>", "(LSpindleActors$Cast;)V"⟩
def dkwX4_init_2_6 : List UInt8 := [180, 0, 31, 184, 0, 35, 43, 180, 0, 28, 3, 42, 180, 0, 28, 3, 42, 180, 0, 31, 184, 0, 35, 177]
abbrev dktX4_init_2_6 : List UInt8 := dkwX4_init_2_6 ++ []
def dkwX4_init_2_5 : List UInt8 := [180, 0, 22, 3, 42, 180, 0, 31, 184, 0, 35, 43, 180, 0, 25, 3, 42, 180, 0, 25, 3, 42]
abbrev dktX4_init_2_5 : List UInt8 := dkwX4_init_2_5 ++ dktX4_init_2_6
def dkwX4_init_2_4 : List UInt8 := [180, 0, 18, 3, 42, 180, 0, 18, 3, 42, 180, 0, 31, 184, 0, 35, 43, 180, 0, 22, 3, 42]
abbrev dktX4_init_2_4 : List UInt8 := dkwX4_init_2_4 ++ dktX4_init_2_5
def dkwX4_init_2_3 : List UInt8 := [180, 0, 31, 184, 0, 35, 43, 180, 0, 15, 3, 42, 180, 0, 15, 3, 42, 180, 0, 31, 184, 0, 35, 43]
abbrev dktX4_init_2_3 : List UInt8 := dkwX4_init_2_3 ++ dktX4_init_2_4
def dkwX4_init_2_2 : List UInt8 := [188, 10, 181, 0, 28, 42, 43, 180, 0, 31, 181, 0, 31, 43, 180, 0, 9, 3, 42, 180, 0, 9, 3, 42]
abbrev dktX4_init_2_2 : List UInt8 := dkwX4_init_2_2 ++ dktX4_init_2_3
def dkwX4_init_2_1 : List UInt8 := [188, 10, 181, 0, 18, 42, 16, 8, 188, 10, 181, 0, 22, 42, 16, 8, 188, 10, 181, 0, 25, 42, 16, 8]
abbrev dktX4_init_2_1 : List UInt8 := dkwX4_init_2_1 ++ dktX4_init_2_2
def dkwX4_init_2_0 : List UInt8 := [42, 183, 0, 3, 42, 16, 8, 188, 5, 181, 0, 9, 42, 16, 8, 188, 5, 181, 0, 15, 42, 16, 8]
abbrev dktX4_init_2_0 : List UInt8 := dkwX4_init_2_0 ++ dktX4_init_2_1
theorem dksX4_init_2_0 : cX4_init_2.data.toList.drop 0 = dktX4_init_2_0 := by decide +kernel
theorem dksX4_init_2_1 : cX4_init_2.data.toList.drop 23 = dktX4_init_2_1 := dk_seg dksX4_init_2_0 23 rfl rfl
theorem dksX4_init_2_2 : cX4_init_2.data.toList.drop 47 = dktX4_init_2_2 := dk_seg dksX4_init_2_1 24 rfl rfl
theorem dksX4_init_2_3 : cX4_init_2.data.toList.drop 71 = dktX4_init_2_3 := dk_seg dksX4_init_2_2 24 rfl rfl
theorem dksX4_init_2_4 : cX4_init_2.data.toList.drop 95 = dktX4_init_2_4 := dk_seg dksX4_init_2_3 24 rfl rfl
theorem dksX4_init_2_5 : cX4_init_2.data.toList.drop 117 = dktX4_init_2_5 := dk_seg dksX4_init_2_4 22 rfl rfl
theorem dksX4_init_2_6 : cX4_init_2.data.toList.drop 139 = dktX4_init_2_6 := dk_seg dksX4_init_2_5 22 rfl rfl
theorem dX4_init_2_0 : decode cX4_init_2 0 = .ok (.aload_n 0, 1) := dk_42 (dk_at dksX4_init_2_0 0 rfl rfl)
theorem dX4_init_2_1 : decode cX4_init_2 1 = .ok (.invokespecial 3, 3) := dk_183 0 3 (dk_at dksX4_init_2_0 1 rfl rfl)
theorem dX4_init_2_4 : decode cX4_init_2 4 = .ok (.aload_n 0, 1) := dk_42 (dk_at dksX4_init_2_0 4 rfl rfl)
theorem dX4_init_2_5 : decode cX4_init_2 5 = .ok (.bipush 8, 2) := dk_16 8 (dk_at dksX4_init_2_0 5 rfl rfl)
theorem dX4_init_2_7 : decode cX4_init_2 7 = .ok (.newarray .char, 2) := dk_188_5 (dk_at dksX4_init_2_0 7 rfl rfl)
theorem dX4_init_2_9 : decode cX4_init_2 9 = .ok (.putfield 9, 3) := dk_181 0 9 (dk_at dksX4_init_2_0 9 rfl rfl)
theorem dX4_init_2_12 : decode cX4_init_2 12 = .ok (.aload_n 0, 1) := dk_42 (dk_at dksX4_init_2_0 12 rfl rfl)
theorem dX4_init_2_13 : decode cX4_init_2 13 = .ok (.bipush 8, 2) := dk_16 8 (dk_at dksX4_init_2_0 13 rfl rfl)
theorem dX4_init_2_15 : decode cX4_init_2 15 = .ok (.newarray .char, 2) := dk_188_5 (dk_at dksX4_init_2_0 15 rfl rfl)
theorem dX4_init_2_17 : decode cX4_init_2 17 = .ok (.putfield 15, 3) := dk_181 0 15 (dk_at dksX4_init_2_0 17 rfl rfl)
theorem dX4_init_2_20 : decode cX4_init_2 20 = .ok (.aload_n 0, 1) := dk_42 (dk_at dksX4_init_2_0 20 rfl rfl)
theorem dX4_init_2_21 : decode cX4_init_2 21 = .ok (.bipush 8, 2) := dk_16 8 (dk_at dksX4_init_2_0 21 rfl rfl)
theorem dX4_init_2_23 : decode cX4_init_2 23 = .ok (.newarray .int, 2) := dk_188_10 (dk_at dksX4_init_2_1 0 rfl rfl)
theorem dX4_init_2_25 : decode cX4_init_2 25 = .ok (.putfield 18, 3) := dk_181 0 18 (dk_at dksX4_init_2_1 2 rfl rfl)
theorem dX4_init_2_28 : decode cX4_init_2 28 = .ok (.aload_n 0, 1) := dk_42 (dk_at dksX4_init_2_1 5 rfl rfl)
theorem dX4_init_2_29 : decode cX4_init_2 29 = .ok (.bipush 8, 2) := dk_16 8 (dk_at dksX4_init_2_1 6 rfl rfl)
theorem dX4_init_2_31 : decode cX4_init_2 31 = .ok (.newarray .int, 2) := dk_188_10 (dk_at dksX4_init_2_1 8 rfl rfl)
theorem dX4_init_2_33 : decode cX4_init_2 33 = .ok (.putfield 22, 3) := dk_181 0 22 (dk_at dksX4_init_2_1 10 rfl rfl)
theorem dX4_init_2_36 : decode cX4_init_2 36 = .ok (.aload_n 0, 1) := dk_42 (dk_at dksX4_init_2_1 13 rfl rfl)
theorem dX4_init_2_37 : decode cX4_init_2 37 = .ok (.bipush 8, 2) := dk_16 8 (dk_at dksX4_init_2_1 14 rfl rfl)
theorem dX4_init_2_39 : decode cX4_init_2 39 = .ok (.newarray .int, 2) := dk_188_10 (dk_at dksX4_init_2_1 16 rfl rfl)
theorem dX4_init_2_41 : decode cX4_init_2 41 = .ok (.putfield 25, 3) := dk_181 0 25 (dk_at dksX4_init_2_1 18 rfl rfl)
theorem dX4_init_2_44 : decode cX4_init_2 44 = .ok (.aload_n 0, 1) := dk_42 (dk_at dksX4_init_2_1 21 rfl rfl)
theorem dX4_init_2_45 : decode cX4_init_2 45 = .ok (.bipush 8, 2) := dk_16 8 (dk_at dksX4_init_2_1 22 rfl rfl)
theorem dX4_init_2_47 : decode cX4_init_2 47 = .ok (.newarray .int, 2) := dk_188_10 (dk_at dksX4_init_2_2 0 rfl rfl)
theorem dX4_init_2_49 : decode cX4_init_2 49 = .ok (.putfield 28, 3) := dk_181 0 28 (dk_at dksX4_init_2_2 2 rfl rfl)
theorem dX4_init_2_52 : decode cX4_init_2 52 = .ok (.aload_n 0, 1) := dk_42 (dk_at dksX4_init_2_2 5 rfl rfl)
theorem dX4_init_2_53 : decode cX4_init_2 53 = .ok (.aload_n 1, 1) := dk_43 (dk_at dksX4_init_2_2 6 rfl rfl)
theorem dX4_init_2_54 : decode cX4_init_2 54 = .ok (.getfield 31, 3) := dk_180 0 31 (dk_at dksX4_init_2_2 7 rfl rfl)
theorem dX4_init_2_57 : decode cX4_init_2 57 = .ok (.putfield 31, 3) := dk_181 0 31 (dk_at dksX4_init_2_2 10 rfl rfl)
theorem dX4_init_2_60 : decode cX4_init_2 60 = .ok (.aload_n 1, 1) := dk_43 (dk_at dksX4_init_2_2 13 rfl rfl)
theorem dX4_init_2_61 : decode cX4_init_2 61 = .ok (.getfield 9, 3) := dk_180 0 9 (dk_at dksX4_init_2_2 14 rfl rfl)
theorem dX4_init_2_64 : decode cX4_init_2 64 = .ok (.iconst 0, 1) := dk_3 (dk_at dksX4_init_2_2 17 rfl rfl)
theorem dX4_init_2_65 : decode cX4_init_2 65 = .ok (.aload_n 0, 1) := dk_42 (dk_at dksX4_init_2_2 18 rfl rfl)
theorem dX4_init_2_66 : decode cX4_init_2 66 = .ok (.getfield 9, 3) := dk_180 0 9 (dk_at dksX4_init_2_2 19 rfl rfl)
theorem dX4_init_2_69 : decode cX4_init_2 69 = .ok (.iconst 0, 1) := dk_3 (dk_at dksX4_init_2_2 22 rfl rfl)
theorem dX4_init_2_70 : decode cX4_init_2 70 = .ok (.aload_n 0, 1) := dk_42 (dk_at dksX4_init_2_2 23 rfl rfl)
theorem dX4_init_2_71 : decode cX4_init_2 71 = .ok (.getfield 31, 3) := dk_180 0 31 (dk_at dksX4_init_2_3 0 rfl rfl)
theorem dX4_init_2_74 : decode cX4_init_2 74 = .ok (.invokestatic 35, 3) := dk_184 0 35 (dk_at dksX4_init_2_3 3 rfl rfl)
theorem dX4_init_2_77 : decode cX4_init_2 77 = .ok (.aload_n 1, 1) := dk_43 (dk_at dksX4_init_2_3 6 rfl rfl)
theorem dX4_init_2_78 : decode cX4_init_2 78 = .ok (.getfield 15, 3) := dk_180 0 15 (dk_at dksX4_init_2_3 7 rfl rfl)
theorem dX4_init_2_81 : decode cX4_init_2 81 = .ok (.iconst 0, 1) := dk_3 (dk_at dksX4_init_2_3 10 rfl rfl)
theorem dX4_init_2_82 : decode cX4_init_2 82 = .ok (.aload_n 0, 1) := dk_42 (dk_at dksX4_init_2_3 11 rfl rfl)
theorem dX4_init_2_83 : decode cX4_init_2 83 = .ok (.getfield 15, 3) := dk_180 0 15 (dk_at dksX4_init_2_3 12 rfl rfl)
theorem dX4_init_2_86 : decode cX4_init_2 86 = .ok (.iconst 0, 1) := dk_3 (dk_at dksX4_init_2_3 15 rfl rfl)
theorem dX4_init_2_87 : decode cX4_init_2 87 = .ok (.aload_n 0, 1) := dk_42 (dk_at dksX4_init_2_3 16 rfl rfl)
theorem dX4_init_2_88 : decode cX4_init_2 88 = .ok (.getfield 31, 3) := dk_180 0 31 (dk_at dksX4_init_2_3 17 rfl rfl)
theorem dX4_init_2_91 : decode cX4_init_2 91 = .ok (.invokestatic 35, 3) := dk_184 0 35 (dk_at dksX4_init_2_3 20 rfl rfl)
theorem dX4_init_2_94 : decode cX4_init_2 94 = .ok (.aload_n 1, 1) := dk_43 (dk_at dksX4_init_2_3 23 rfl rfl)
theorem dX4_init_2_95 : decode cX4_init_2 95 = .ok (.getfield 18, 3) := dk_180 0 18 (dk_at dksX4_init_2_4 0 rfl rfl)
theorem dX4_init_2_98 : decode cX4_init_2 98 = .ok (.iconst 0, 1) := dk_3 (dk_at dksX4_init_2_4 3 rfl rfl)
theorem dX4_init_2_99 : decode cX4_init_2 99 = .ok (.aload_n 0, 1) := dk_42 (dk_at dksX4_init_2_4 4 rfl rfl)
theorem dX4_init_2_100 : decode cX4_init_2 100 = .ok (.getfield 18, 3) := dk_180 0 18 (dk_at dksX4_init_2_4 5 rfl rfl)
theorem dX4_init_2_103 : decode cX4_init_2 103 = .ok (.iconst 0, 1) := dk_3 (dk_at dksX4_init_2_4 8 rfl rfl)
theorem dX4_init_2_104 : decode cX4_init_2 104 = .ok (.aload_n 0, 1) := dk_42 (dk_at dksX4_init_2_4 9 rfl rfl)
theorem dX4_init_2_105 : decode cX4_init_2 105 = .ok (.getfield 31, 3) := dk_180 0 31 (dk_at dksX4_init_2_4 10 rfl rfl)
theorem dX4_init_2_108 : decode cX4_init_2 108 = .ok (.invokestatic 35, 3) := dk_184 0 35 (dk_at dksX4_init_2_4 13 rfl rfl)
theorem dX4_init_2_111 : decode cX4_init_2 111 = .ok (.aload_n 1, 1) := dk_43 (dk_at dksX4_init_2_4 16 rfl rfl)
theorem dX4_init_2_112 : decode cX4_init_2 112 = .ok (.getfield 22, 3) := dk_180 0 22 (dk_at dksX4_init_2_4 17 rfl rfl)
theorem dX4_init_2_115 : decode cX4_init_2 115 = .ok (.iconst 0, 1) := dk_3 (dk_at dksX4_init_2_4 20 rfl rfl)
theorem dX4_init_2_116 : decode cX4_init_2 116 = .ok (.aload_n 0, 1) := dk_42 (dk_at dksX4_init_2_4 21 rfl rfl)
theorem dX4_init_2_117 : decode cX4_init_2 117 = .ok (.getfield 22, 3) := dk_180 0 22 (dk_at dksX4_init_2_5 0 rfl rfl)
theorem dX4_init_2_120 : decode cX4_init_2 120 = .ok (.iconst 0, 1) := dk_3 (dk_at dksX4_init_2_5 3 rfl rfl)
theorem dX4_init_2_121 : decode cX4_init_2 121 = .ok (.aload_n 0, 1) := dk_42 (dk_at dksX4_init_2_5 4 rfl rfl)
theorem dX4_init_2_122 : decode cX4_init_2 122 = .ok (.getfield 31, 3) := dk_180 0 31 (dk_at dksX4_init_2_5 5 rfl rfl)
theorem dX4_init_2_125 : decode cX4_init_2 125 = .ok (.invokestatic 35, 3) := dk_184 0 35 (dk_at dksX4_init_2_5 8 rfl rfl)
theorem dX4_init_2_128 : decode cX4_init_2 128 = .ok (.aload_n 1, 1) := dk_43 (dk_at dksX4_init_2_5 11 rfl rfl)
theorem dX4_init_2_129 : decode cX4_init_2 129 = .ok (.getfield 25, 3) := dk_180 0 25 (dk_at dksX4_init_2_5 12 rfl rfl)
theorem dX4_init_2_132 : decode cX4_init_2 132 = .ok (.iconst 0, 1) := dk_3 (dk_at dksX4_init_2_5 15 rfl rfl)
theorem dX4_init_2_133 : decode cX4_init_2 133 = .ok (.aload_n 0, 1) := dk_42 (dk_at dksX4_init_2_5 16 rfl rfl)
theorem dX4_init_2_134 : decode cX4_init_2 134 = .ok (.getfield 25, 3) := dk_180 0 25 (dk_at dksX4_init_2_5 17 rfl rfl)
theorem dX4_init_2_137 : decode cX4_init_2 137 = .ok (.iconst 0, 1) := dk_3 (dk_at dksX4_init_2_5 20 rfl rfl)
theorem dX4_init_2_138 : decode cX4_init_2 138 = .ok (.aload_n 0, 1) := dk_42 (dk_at dksX4_init_2_5 21 rfl rfl)
theorem dX4_init_2_139 : decode cX4_init_2 139 = .ok (.getfield 31, 3) := dk_180 0 31 (dk_at dksX4_init_2_6 0 rfl rfl)
theorem dX4_init_2_142 : decode cX4_init_2 142 = .ok (.invokestatic 35, 3) := dk_184 0 35 (dk_at dksX4_init_2_6 3 rfl rfl)
theorem dX4_init_2_145 : decode cX4_init_2 145 = .ok (.aload_n 1, 1) := dk_43 (dk_at dksX4_init_2_6 6 rfl rfl)
theorem dX4_init_2_146 : decode cX4_init_2 146 = .ok (.getfield 28, 3) := dk_180 0 28 (dk_at dksX4_init_2_6 7 rfl rfl)
theorem dX4_init_2_149 : decode cX4_init_2 149 = .ok (.iconst 0, 1) := dk_3 (dk_at dksX4_init_2_6 10 rfl rfl)
theorem dX4_init_2_150 : decode cX4_init_2 150 = .ok (.aload_n 0, 1) := dk_42 (dk_at dksX4_init_2_6 11 rfl rfl)
theorem dX4_init_2_151 : decode cX4_init_2 151 = .ok (.getfield 28, 3) := dk_180 0 28 (dk_at dksX4_init_2_6 12 rfl rfl)
theorem dX4_init_2_154 : decode cX4_init_2 154 = .ok (.iconst 0, 1) := dk_3 (dk_at dksX4_init_2_6 15 rfl rfl)
theorem dX4_init_2_155 : decode cX4_init_2 155 = .ok (.aload_n 0, 1) := dk_42 (dk_at dksX4_init_2_6 16 rfl rfl)
theorem dX4_init_2_156 : decode cX4_init_2 156 = .ok (.getfield 31, 3) := dk_180 0 31 (dk_at dksX4_init_2_6 17 rfl rfl)
theorem dX4_init_2_159 : decode cX4_init_2 159 = .ok (.invokestatic 35, 3) := dk_184 0 35 (dk_at dksX4_init_2_6 20 rfl rfl)
theorem dX4_init_2_162 : decode cX4_init_2 162 = .ok (.return_, 1) := dk_177 (dk_at dksX4_init_2_6 23 rfl rfl)
abbrev cX4_require : ByteArray := prog_4_method_3_code
def yX4_require : MethodName := ⟨RX4, "require", "(I)V"⟩
def dkwX4_require_0 : List UInt8 := [27, 42, 180, 0, 31, 184, 0, 41, 177]
abbrev dktX4_require_0 : List UInt8 := dkwX4_require_0 ++ []
theorem dksX4_require_0 : cX4_require.data.toList.drop 0 = dktX4_require_0 := by decide +kernel
theorem dX4_require_0 : decode cX4_require 0 = .ok (.iload_n 1, 1) := dk_27 (dk_at dksX4_require_0 0 rfl rfl)
theorem dX4_require_1 : decode cX4_require 1 = .ok (.aload_n 0, 1) := dk_42 (dk_at dksX4_require_0 1 rfl rfl)
theorem dX4_require_2 : decode cX4_require 2 = .ok (.getfield 31, 3) := dk_180 0 31 (dk_at dksX4_require_0 2 rfl rfl)
theorem dX4_require_5 : decode cX4_require 5 = .ok (.invokestatic 41, 3) := dk_184 0 41 (dk_at dksX4_require_0 5 rfl rfl)
theorem dX4_require_8 : decode cX4_require 8 = .ok (.return_, 1) := dk_177 (dk_at dksX4_require_0 8 rfl rfl)
abbrev cX4_below : ByteArray := prog_4_method_6_code
def yX4_below : MethodName := ⟨RX4, "below", "(I)I"⟩
def dkwX4_below_1 : List UInt8 := [167, 0, 4, 3, 96, 61, 132, 3, 1, 167, 255, 228, 28, 172]
abbrev dktX4_below_1 : List UInt8 := dkwX4_below_1 ++ []
def dkwX4_below_0 : List UInt8 := [3, 61, 3, 62, 29, 42, 180, 0, 31, 162, 0, 26, 28, 42, 29, 27, 182, 0, 53, 153, 0, 7, 4]
abbrev dktX4_below_0 : List UInt8 := dkwX4_below_0 ++ dktX4_below_1
theorem dksX4_below_0 : cX4_below.data.toList.drop 0 = dktX4_below_0 := by decide +kernel
theorem dksX4_below_1 : cX4_below.data.toList.drop 23 = dktX4_below_1 := dk_seg dksX4_below_0 23 rfl rfl
theorem dX4_below_0 : decode cX4_below 0 = .ok (.iconst 0, 1) := dk_3 (dk_at dksX4_below_0 0 rfl rfl)
theorem dX4_below_1 : decode cX4_below 1 = .ok (.istore_n 2, 1) := dk_61 (dk_at dksX4_below_0 1 rfl rfl)
theorem dX4_below_2 : decode cX4_below 2 = .ok (.iconst 0, 1) := dk_3 (dk_at dksX4_below_0 2 rfl rfl)
theorem dX4_below_3 : decode cX4_below 3 = .ok (.istore_n 3, 1) := dk_62 (dk_at dksX4_below_0 3 rfl rfl)
theorem dX4_below_4 : decode cX4_below 4 = .ok (.iload_n 3, 1) := dk_29 (dk_at dksX4_below_0 4 rfl rfl)
theorem dX4_below_5 : decode cX4_below 5 = .ok (.aload_n 0, 1) := dk_42 (dk_at dksX4_below_0 5 rfl rfl)
theorem dX4_below_6 : decode cX4_below 6 = .ok (.getfield 31, 3) := dk_180 0 31 (dk_at dksX4_below_0 6 rfl rfl)
theorem dX4_below_9 : decode cX4_below 9 = .ok (.if_icmp .ge 26, 3) := dk_162 0 26 (dk_at dksX4_below_0 9 rfl rfl)
theorem dX4_below_12 : decode cX4_below 12 = .ok (.iload_n 2, 1) := dk_28 (dk_at dksX4_below_0 12 rfl rfl)
theorem dX4_below_13 : decode cX4_below 13 = .ok (.aload_n 0, 1) := dk_42 (dk_at dksX4_below_0 13 rfl rfl)
theorem dX4_below_14 : decode cX4_below 14 = .ok (.iload_n 3, 1) := dk_29 (dk_at dksX4_below_0 14 rfl rfl)
theorem dX4_below_15 : decode cX4_below 15 = .ok (.iload_n 1, 1) := dk_27 (dk_at dksX4_below_0 15 rfl rfl)
theorem dX4_below_16 : decode cX4_below 16 = .ok (.invokevirtual 53, 3) := dk_182 0 53 (dk_at dksX4_below_0 16 rfl rfl)
theorem dX4_below_19 : decode cX4_below 19 = .ok (.ifCond .eq 7, 3) := dk_153 0 7 (dk_at dksX4_below_0 19 rfl rfl)
theorem dX4_below_22 : decode cX4_below 22 = .ok (.iconst 1, 1) := dk_4 (dk_at dksX4_below_0 22 rfl rfl)
theorem dX4_below_23 : decode cX4_below 23 = .ok (.goto 4, 3) := dk_167 0 4 (dk_at dksX4_below_1 0 rfl rfl)
theorem dX4_below_26 : decode cX4_below 26 = .ok (.iconst 0, 1) := dk_3 (dk_at dksX4_below_1 3 rfl rfl)
theorem dX4_below_27 : decode cX4_below 27 = .ok (.iadd, 1) := dk_96 (dk_at dksX4_below_1 4 rfl rfl)
theorem dX4_below_28 : decode cX4_below 28 = .ok (.istore_n 2, 1) := dk_61 (dk_at dksX4_below_1 5 rfl rfl)
theorem dX4_below_29 : decode cX4_below 29 = .ok (.iinc 3 1, 3) := dk_132 3 1 (dk_at dksX4_below_1 6 rfl rfl)
theorem dX4_below_32 : decode cX4_below 32 = .ok (.goto (-28), 3) := dk_167 255 228 (dk_at dksX4_below_1 9 rfl rfl)
theorem dX4_below_35 : decode cX4_below 35 = .ok (.iload_n 2, 1) := dk_28 (dk_at dksX4_below_1 12 rfl rfl)
theorem dX4_below_36 : decode cX4_below 36 = .ok (.ireturn, 1) := dk_172 (dk_at dksX4_below_1 13 rfl rfl)
abbrev cX4_isBelow : ByteArray := prog_4_method_5_code
def yX4_isBelow : MethodName := ⟨RX4, "isBelow", "(II)Z"⟩
def dkwX4_isBelow_1 : List UInt8 := [167, 255, 239, 29, 28, 160, 0, 7, 4, 167, 0, 4, 3, 172]
abbrev dktX4_isBelow_1 : List UInt8 := dkwX4_isBelow_1 ++ []
def dkwX4_isBelow_0 : List UInt8 := [42, 180, 0, 28, 27, 46, 62, 29, 2, 159, 0, 18, 29, 28, 159, 0, 13, 42, 180, 0, 28, 29, 46, 62]
abbrev dktX4_isBelow_0 : List UInt8 := dkwX4_isBelow_0 ++ dktX4_isBelow_1
theorem dksX4_isBelow_0 : cX4_isBelow.data.toList.drop 0 = dktX4_isBelow_0 := by decide +kernel
theorem dksX4_isBelow_1 : cX4_isBelow.data.toList.drop 24 = dktX4_isBelow_1 := dk_seg dksX4_isBelow_0 24 rfl rfl
theorem dX4_isBelow_0 : decode cX4_isBelow 0 = .ok (.aload_n 0, 1) := dk_42 (dk_at dksX4_isBelow_0 0 rfl rfl)
theorem dX4_isBelow_1 : decode cX4_isBelow 1 = .ok (.getfield 28, 3) := dk_180 0 28 (dk_at dksX4_isBelow_0 1 rfl rfl)
theorem dX4_isBelow_4 : decode cX4_isBelow 4 = .ok (.iload_n 1, 1) := dk_27 (dk_at dksX4_isBelow_0 4 rfl rfl)
theorem dX4_isBelow_5 : decode cX4_isBelow 5 = .ok (.iaload, 1) := dk_46 (dk_at dksX4_isBelow_0 5 rfl rfl)
theorem dX4_isBelow_6 : decode cX4_isBelow 6 = .ok (.istore_n 3, 1) := dk_62 (dk_at dksX4_isBelow_0 6 rfl rfl)
theorem dX4_isBelow_7 : decode cX4_isBelow 7 = .ok (.iload_n 3, 1) := dk_29 (dk_at dksX4_isBelow_0 7 rfl rfl)
theorem dX4_isBelow_8 : decode cX4_isBelow 8 = .ok (.iconst (-1), 1) := dk_2 (dk_at dksX4_isBelow_0 8 rfl rfl)
theorem dX4_isBelow_9 : decode cX4_isBelow 9 = .ok (.if_icmp .eq 18, 3) := dk_159 0 18 (dk_at dksX4_isBelow_0 9 rfl rfl)
theorem dX4_isBelow_12 : decode cX4_isBelow 12 = .ok (.iload_n 3, 1) := dk_29 (dk_at dksX4_isBelow_0 12 rfl rfl)
theorem dX4_isBelow_13 : decode cX4_isBelow 13 = .ok (.iload_n 2, 1) := dk_28 (dk_at dksX4_isBelow_0 13 rfl rfl)
theorem dX4_isBelow_14 : decode cX4_isBelow 14 = .ok (.if_icmp .eq 13, 3) := dk_159 0 13 (dk_at dksX4_isBelow_0 14 rfl rfl)
theorem dX4_isBelow_17 : decode cX4_isBelow 17 = .ok (.aload_n 0, 1) := dk_42 (dk_at dksX4_isBelow_0 17 rfl rfl)
theorem dX4_isBelow_18 : decode cX4_isBelow 18 = .ok (.getfield 28, 3) := dk_180 0 28 (dk_at dksX4_isBelow_0 18 rfl rfl)
theorem dX4_isBelow_21 : decode cX4_isBelow 21 = .ok (.iload_n 3, 1) := dk_29 (dk_at dksX4_isBelow_0 21 rfl rfl)
theorem dX4_isBelow_22 : decode cX4_isBelow 22 = .ok (.iaload, 1) := dk_46 (dk_at dksX4_isBelow_0 22 rfl rfl)
theorem dX4_isBelow_23 : decode cX4_isBelow 23 = .ok (.istore_n 3, 1) := dk_62 (dk_at dksX4_isBelow_0 23 rfl rfl)
theorem dX4_isBelow_24 : decode cX4_isBelow 24 = .ok (.goto (-17), 3) := dk_167 255 239 (dk_at dksX4_isBelow_1 0 rfl rfl)
theorem dX4_isBelow_27 : decode cX4_isBelow 27 = .ok (.iload_n 3, 1) := dk_29 (dk_at dksX4_isBelow_1 3 rfl rfl)
theorem dX4_isBelow_28 : decode cX4_isBelow 28 = .ok (.iload_n 2, 1) := dk_28 (dk_at dksX4_isBelow_1 4 rfl rfl)
theorem dX4_isBelow_29 : decode cX4_isBelow 29 = .ok (.if_icmp .ne 7, 3) := dk_160 0 7 (dk_at dksX4_isBelow_1 5 rfl rfl)
theorem dX4_isBelow_32 : decode cX4_isBelow 32 = .ok (.iconst 1, 1) := dk_4 (dk_at dksX4_isBelow_1 8 rfl rfl)
theorem dX4_isBelow_33 : decode cX4_isBelow 33 = .ok (.goto 4, 3) := dk_167 0 4 (dk_at dksX4_isBelow_1 9 rfl rfl)
theorem dX4_isBelow_36 : decode cX4_isBelow 36 = .ok (.iconst 0, 1) := dk_3 (dk_at dksX4_isBelow_1 12 rfl rfl)
theorem dX4_isBelow_37 : decode cX4_isBelow 37 = .ok (.ireturn, 1) := dk_172 (dk_at dksX4_isBelow_1 13 rfl rfl)
abbrev cX4_belowByGoingDown : ByteArray := prog_4_method_7_code
def yX4_belowByGoingDown : MethodName := ⟨RX4, "belowByGoingDown", "(I)I"⟩
def dkwX4_belowByGoingDown_1 : List UInt8 := [160, 0, 13, 4, 42, 29, 182, 0, 57, 96, 167, 0, 4, 3, 96, 61, 132, 3, 1, 167, 255, 221, 28, 172]
abbrev dktX4_belowByGoingDown_1 : List UInt8 := dkwX4_belowByGoingDown_1 ++ []
def dkwX4_belowByGoingDown_0 : List UInt8 := [3, 61, 27, 4, 96, 62, 29, 42, 180, 0, 31, 162, 0, 33, 28, 42, 180, 0, 28, 29, 46, 27]
abbrev dktX4_belowByGoingDown_0 : List UInt8 := dkwX4_belowByGoingDown_0 ++ dktX4_belowByGoingDown_1
theorem dksX4_belowByGoingDown_0 : cX4_belowByGoingDown.data.toList.drop 0 = dktX4_belowByGoingDown_0 := by decide +kernel
theorem dksX4_belowByGoingDown_1 : cX4_belowByGoingDown.data.toList.drop 22 = dktX4_belowByGoingDown_1 := dk_seg dksX4_belowByGoingDown_0 22 rfl rfl
theorem dX4_belowByGoingDown_0 : decode cX4_belowByGoingDown 0 = .ok (.iconst 0, 1) := dk_3 (dk_at dksX4_belowByGoingDown_0 0 rfl rfl)
theorem dX4_belowByGoingDown_1 : decode cX4_belowByGoingDown 1 = .ok (.istore_n 2, 1) := dk_61 (dk_at dksX4_belowByGoingDown_0 1 rfl rfl)
theorem dX4_belowByGoingDown_2 : decode cX4_belowByGoingDown 2 = .ok (.iload_n 1, 1) := dk_27 (dk_at dksX4_belowByGoingDown_0 2 rfl rfl)
theorem dX4_belowByGoingDown_3 : decode cX4_belowByGoingDown 3 = .ok (.iconst 1, 1) := dk_4 (dk_at dksX4_belowByGoingDown_0 3 rfl rfl)
theorem dX4_belowByGoingDown_4 : decode cX4_belowByGoingDown 4 = .ok (.iadd, 1) := dk_96 (dk_at dksX4_belowByGoingDown_0 4 rfl rfl)
theorem dX4_belowByGoingDown_5 : decode cX4_belowByGoingDown 5 = .ok (.istore_n 3, 1) := dk_62 (dk_at dksX4_belowByGoingDown_0 5 rfl rfl)
theorem dX4_belowByGoingDown_6 : decode cX4_belowByGoingDown 6 = .ok (.iload_n 3, 1) := dk_29 (dk_at dksX4_belowByGoingDown_0 6 rfl rfl)
theorem dX4_belowByGoingDown_7 : decode cX4_belowByGoingDown 7 = .ok (.aload_n 0, 1) := dk_42 (dk_at dksX4_belowByGoingDown_0 7 rfl rfl)
theorem dX4_belowByGoingDown_8 : decode cX4_belowByGoingDown 8 = .ok (.getfield 31, 3) := dk_180 0 31 (dk_at dksX4_belowByGoingDown_0 8 rfl rfl)
theorem dX4_belowByGoingDown_11 : decode cX4_belowByGoingDown 11 = .ok (.if_icmp .ge 33, 3) := dk_162 0 33 (dk_at dksX4_belowByGoingDown_0 11 rfl rfl)
theorem dX4_belowByGoingDown_14 : decode cX4_belowByGoingDown 14 = .ok (.iload_n 2, 1) := dk_28 (dk_at dksX4_belowByGoingDown_0 14 rfl rfl)
theorem dX4_belowByGoingDown_15 : decode cX4_belowByGoingDown 15 = .ok (.aload_n 0, 1) := dk_42 (dk_at dksX4_belowByGoingDown_0 15 rfl rfl)
theorem dX4_belowByGoingDown_16 : decode cX4_belowByGoingDown 16 = .ok (.getfield 28, 3) := dk_180 0 28 (dk_at dksX4_belowByGoingDown_0 16 rfl rfl)
theorem dX4_belowByGoingDown_19 : decode cX4_belowByGoingDown 19 = .ok (.iload_n 3, 1) := dk_29 (dk_at dksX4_belowByGoingDown_0 19 rfl rfl)
theorem dX4_belowByGoingDown_20 : decode cX4_belowByGoingDown 20 = .ok (.iaload, 1) := dk_46 (dk_at dksX4_belowByGoingDown_0 20 rfl rfl)
theorem dX4_belowByGoingDown_21 : decode cX4_belowByGoingDown 21 = .ok (.iload_n 1, 1) := dk_27 (dk_at dksX4_belowByGoingDown_0 21 rfl rfl)
theorem dX4_belowByGoingDown_22 : decode cX4_belowByGoingDown 22 = .ok (.if_icmp .ne 13, 3) := dk_160 0 13 (dk_at dksX4_belowByGoingDown_1 0 rfl rfl)
theorem dX4_belowByGoingDown_25 : decode cX4_belowByGoingDown 25 = .ok (.iconst 1, 1) := dk_4 (dk_at dksX4_belowByGoingDown_1 3 rfl rfl)
theorem dX4_belowByGoingDown_26 : decode cX4_belowByGoingDown 26 = .ok (.aload_n 0, 1) := dk_42 (dk_at dksX4_belowByGoingDown_1 4 rfl rfl)
theorem dX4_belowByGoingDown_27 : decode cX4_belowByGoingDown 27 = .ok (.iload_n 3, 1) := dk_29 (dk_at dksX4_belowByGoingDown_1 5 rfl rfl)
theorem dX4_belowByGoingDown_28 : decode cX4_belowByGoingDown 28 = .ok (.invokevirtual 57, 3) := dk_182 0 57 (dk_at dksX4_belowByGoingDown_1 6 rfl rfl)
theorem dX4_belowByGoingDown_31 : decode cX4_belowByGoingDown 31 = .ok (.iadd, 1) := dk_96 (dk_at dksX4_belowByGoingDown_1 9 rfl rfl)
theorem dX4_belowByGoingDown_32 : decode cX4_belowByGoingDown 32 = .ok (.goto 4, 3) := dk_167 0 4 (dk_at dksX4_belowByGoingDown_1 10 rfl rfl)
theorem dX4_belowByGoingDown_35 : decode cX4_belowByGoingDown 35 = .ok (.iconst 0, 1) := dk_3 (dk_at dksX4_belowByGoingDown_1 13 rfl rfl)
theorem dX4_belowByGoingDown_36 : decode cX4_belowByGoingDown 36 = .ok (.iadd, 1) := dk_96 (dk_at dksX4_belowByGoingDown_1 14 rfl rfl)
theorem dX4_belowByGoingDown_37 : decode cX4_belowByGoingDown 37 = .ok (.istore_n 2, 1) := dk_61 (dk_at dksX4_belowByGoingDown_1 15 rfl rfl)
theorem dX4_belowByGoingDown_38 : decode cX4_belowByGoingDown 38 = .ok (.iinc 3 1, 3) := dk_132 3 1 (dk_at dksX4_belowByGoingDown_1 16 rfl rfl)
theorem dX4_belowByGoingDown_41 : decode cX4_belowByGoingDown 41 = .ok (.goto (-35), 3) := dk_167 255 221 (dk_at dksX4_belowByGoingDown_1 19 rfl rfl)
theorem dX4_belowByGoingDown_44 : decode cX4_belowByGoingDown 44 = .ok (.iload_n 2, 1) := dk_28 (dk_at dksX4_belowByGoingDown_1 22 rfl rfl)
theorem dX4_belowByGoingDown_45 : decode cX4_belowByGoingDown 45 = .ok (.ireturn, 1) := dk_172 (dk_at dksX4_belowByGoingDown_1 23 rfl rfl)
abbrev cX5_init : ByteArray := prog_9_method_1_code
def yX5_init : MethodName := ⟨RX5, "<init>", "(LSpindleActors$Cast;)V"⟩
def dkwX5_init_2 : List UInt8 := [181, 0, 28, 177]
abbrev dktX5_init_2 : List UInt8 := dkwX5_init_2 ++ []
def dkwX5_init_1 : List UInt8 := [188, 4, 181, 0, 18, 42, 16, 8, 188, 10, 181, 0, 22, 42, 16, 48, 188, 10, 181, 0, 25, 42, 43]
abbrev dktX5_init_1 : List UInt8 := dkwX5_init_1 ++ dktX5_init_2
def dkwX5_init_0 : List UInt8 := [42, 183, 0, 3, 42, 16, 8, 188, 10, 181, 0, 9, 42, 16, 8, 188, 10, 181, 0, 15, 42, 16, 8]
abbrev dktX5_init_0 : List UInt8 := dkwX5_init_0 ++ dktX5_init_1
theorem dksX5_init_0 : cX5_init.data.toList.drop 0 = dktX5_init_0 := by decide +kernel
theorem dksX5_init_1 : cX5_init.data.toList.drop 23 = dktX5_init_1 := dk_seg dksX5_init_0 23 rfl rfl
theorem dksX5_init_2 : cX5_init.data.toList.drop 46 = dktX5_init_2 := dk_seg dksX5_init_1 23 rfl rfl
theorem dX5_init_0 : decode cX5_init 0 = .ok (.aload_n 0, 1) := dk_42 (dk_at dksX5_init_0 0 rfl rfl)
theorem dX5_init_1 : decode cX5_init 1 = .ok (.invokespecial 3, 3) := dk_183 0 3 (dk_at dksX5_init_0 1 rfl rfl)
theorem dX5_init_4 : decode cX5_init 4 = .ok (.aload_n 0, 1) := dk_42 (dk_at dksX5_init_0 4 rfl rfl)
theorem dX5_init_5 : decode cX5_init 5 = .ok (.bipush 8, 2) := dk_16 8 (dk_at dksX5_init_0 5 rfl rfl)
theorem dX5_init_7 : decode cX5_init 7 = .ok (.newarray .int, 2) := dk_188_10 (dk_at dksX5_init_0 7 rfl rfl)
theorem dX5_init_9 : decode cX5_init 9 = .ok (.putfield 9, 3) := dk_181 0 9 (dk_at dksX5_init_0 9 rfl rfl)
theorem dX5_init_12 : decode cX5_init 12 = .ok (.aload_n 0, 1) := dk_42 (dk_at dksX5_init_0 12 rfl rfl)
theorem dX5_init_13 : decode cX5_init 13 = .ok (.bipush 8, 2) := dk_16 8 (dk_at dksX5_init_0 13 rfl rfl)
theorem dX5_init_15 : decode cX5_init 15 = .ok (.newarray .int, 2) := dk_188_10 (dk_at dksX5_init_0 15 rfl rfl)
theorem dX5_init_17 : decode cX5_init 17 = .ok (.putfield 15, 3) := dk_181 0 15 (dk_at dksX5_init_0 17 rfl rfl)
theorem dX5_init_20 : decode cX5_init 20 = .ok (.aload_n 0, 1) := dk_42 (dk_at dksX5_init_0 20 rfl rfl)
theorem dX5_init_21 : decode cX5_init 21 = .ok (.bipush 8, 2) := dk_16 8 (dk_at dksX5_init_0 21 rfl rfl)
theorem dX5_init_23 : decode cX5_init 23 = .ok (.newarray .boolean, 2) := dk_188_4 (dk_at dksX5_init_1 0 rfl rfl)
theorem dX5_init_25 : decode cX5_init 25 = .ok (.putfield 18, 3) := dk_181 0 18 (dk_at dksX5_init_1 2 rfl rfl)
theorem dX5_init_28 : decode cX5_init 28 = .ok (.aload_n 0, 1) := dk_42 (dk_at dksX5_init_1 5 rfl rfl)
theorem dX5_init_29 : decode cX5_init 29 = .ok (.bipush 8, 2) := dk_16 8 (dk_at dksX5_init_1 6 rfl rfl)
theorem dX5_init_31 : decode cX5_init 31 = .ok (.newarray .int, 2) := dk_188_10 (dk_at dksX5_init_1 8 rfl rfl)
theorem dX5_init_33 : decode cX5_init 33 = .ok (.putfield 22, 3) := dk_181 0 22 (dk_at dksX5_init_1 10 rfl rfl)
theorem dX5_init_36 : decode cX5_init 36 = .ok (.aload_n 0, 1) := dk_42 (dk_at dksX5_init_1 13 rfl rfl)
theorem dX5_init_37 : decode cX5_init 37 = .ok (.bipush 48, 2) := dk_16 48 (dk_at dksX5_init_1 14 rfl rfl)
theorem dX5_init_39 : decode cX5_init 39 = .ok (.newarray .int, 2) := dk_188_10 (dk_at dksX5_init_1 16 rfl rfl)
theorem dX5_init_41 : decode cX5_init 41 = .ok (.putfield 25, 3) := dk_181 0 25 (dk_at dksX5_init_1 18 rfl rfl)
theorem dX5_init_44 : decode cX5_init 44 = .ok (.aload_n 0, 1) := dk_42 (dk_at dksX5_init_1 21 rfl rfl)
theorem dX5_init_45 : decode cX5_init 45 = .ok (.aload_n 1, 1) := dk_43 (dk_at dksX5_init_1 22 rfl rfl)
theorem dX5_init_46 : decode cX5_init 46 = .ok (.putfield 28, 3) := dk_181 0 28 (dk_at dksX5_init_2 0 rfl rfl)
theorem dX5_init_49 : decode cX5_init 49 = .ok (.return_, 1) := dk_177 (dk_at dksX5_init_2 3 rfl rfl)
abbrev cX5_hasToWait : ByteArray := prog_9_method_9_code
def yX5_hasToWait : MethodName := ⟨RX5, "hasToWait", "(I)Z"⟩
def dkwX5_hasToWait_3 : List UInt8 := [153, 0, 7, 4, 167, 0, 4, 3, 172]
abbrev dktX5_hasToWait_3 : List UInt8 := dkwX5_hasToWait_3 ++ []
def dkwX5_hasToWait_2 : List UInt8 := [29, 153, 0, 29, 28, 27, 159, 0, 24, 42, 180, 0, 18, 28, 51, 154, 0, 15, 42, 28, 182, 0, 70]
abbrev dktX5_hasToWait_2 : List UInt8 := dkwX5_hasToWait_2 ++ dktX5_hasToWait_3
def dkwX5_hasToWait_1 : List UInt8 := [182, 0, 67, 153, 0, 19, 42, 27, 3, 182, 0, 56, 7, 112, 5, 162, 0, 7, 4, 167, 0, 4, 3, 62]
abbrev dktX5_hasToWait_1 : List UInt8 := dkwX5_hasToWait_1 ++ dktX5_hasToWait_2
def dkwX5_hasToWait_0 : List UInt8 := [42, 180, 0, 28, 180, 0, 60, 27, 46, 61, 42, 27, 182, 0, 63, 153, 0, 30, 42, 180, 0, 28, 27]
abbrev dktX5_hasToWait_0 : List UInt8 := dkwX5_hasToWait_0 ++ dktX5_hasToWait_1
theorem dksX5_hasToWait_0 : cX5_hasToWait.data.toList.drop 0 = dktX5_hasToWait_0 := by decide +kernel
theorem dksX5_hasToWait_1 : cX5_hasToWait.data.toList.drop 23 = dktX5_hasToWait_1 := dk_seg dksX5_hasToWait_0 23 rfl rfl
theorem dksX5_hasToWait_2 : cX5_hasToWait.data.toList.drop 47 = dktX5_hasToWait_2 := dk_seg dksX5_hasToWait_1 24 rfl rfl
theorem dksX5_hasToWait_3 : cX5_hasToWait.data.toList.drop 70 = dktX5_hasToWait_3 := dk_seg dksX5_hasToWait_2 23 rfl rfl
theorem dX5_hasToWait_0 : decode cX5_hasToWait 0 = .ok (.aload_n 0, 1) := dk_42 (dk_at dksX5_hasToWait_0 0 rfl rfl)
theorem dX5_hasToWait_1 : decode cX5_hasToWait 1 = .ok (.getfield 28, 3) := dk_180 0 28 (dk_at dksX5_hasToWait_0 1 rfl rfl)
theorem dX5_hasToWait_4 : decode cX5_hasToWait 4 = .ok (.getfield 60, 3) := dk_180 0 60 (dk_at dksX5_hasToWait_0 4 rfl rfl)
theorem dX5_hasToWait_7 : decode cX5_hasToWait 7 = .ok (.iload_n 1, 1) := dk_27 (dk_at dksX5_hasToWait_0 7 rfl rfl)
theorem dX5_hasToWait_8 : decode cX5_hasToWait 8 = .ok (.iaload, 1) := dk_46 (dk_at dksX5_hasToWait_0 8 rfl rfl)
theorem dX5_hasToWait_9 : decode cX5_hasToWait 9 = .ok (.istore_n 2, 1) := dk_61 (dk_at dksX5_hasToWait_0 9 rfl rfl)
theorem dX5_hasToWait_10 : decode cX5_hasToWait 10 = .ok (.aload_n 0, 1) := dk_42 (dk_at dksX5_hasToWait_0 10 rfl rfl)
theorem dX5_hasToWait_11 : decode cX5_hasToWait 11 = .ok (.iload_n 1, 1) := dk_27 (dk_at dksX5_hasToWait_0 11 rfl rfl)
theorem dX5_hasToWait_12 : decode cX5_hasToWait 12 = .ok (.invokevirtual 63, 3) := dk_182 0 63 (dk_at dksX5_hasToWait_0 12 rfl rfl)
theorem dX5_hasToWait_15 : decode cX5_hasToWait 15 = .ok (.ifCond .eq 30, 3) := dk_153 0 30 (dk_at dksX5_hasToWait_0 15 rfl rfl)
theorem dX5_hasToWait_18 : decode cX5_hasToWait 18 = .ok (.aload_n 0, 1) := dk_42 (dk_at dksX5_hasToWait_0 18 rfl rfl)
theorem dX5_hasToWait_19 : decode cX5_hasToWait 19 = .ok (.getfield 28, 3) := dk_180 0 28 (dk_at dksX5_hasToWait_0 19 rfl rfl)
theorem dX5_hasToWait_22 : decode cX5_hasToWait 22 = .ok (.iload_n 1, 1) := dk_27 (dk_at dksX5_hasToWait_0 22 rfl rfl)
theorem dX5_hasToWait_23 : decode cX5_hasToWait 23 = .ok (.invokevirtual 67, 3) := dk_182 0 67 (dk_at dksX5_hasToWait_1 0 rfl rfl)
theorem dX5_hasToWait_26 : decode cX5_hasToWait 26 = .ok (.ifCond .eq 19, 3) := dk_153 0 19 (dk_at dksX5_hasToWait_1 3 rfl rfl)
theorem dX5_hasToWait_29 : decode cX5_hasToWait 29 = .ok (.aload_n 0, 1) := dk_42 (dk_at dksX5_hasToWait_1 6 rfl rfl)
theorem dX5_hasToWait_30 : decode cX5_hasToWait 30 = .ok (.iload_n 1, 1) := dk_27 (dk_at dksX5_hasToWait_1 7 rfl rfl)
theorem dX5_hasToWait_31 : decode cX5_hasToWait 31 = .ok (.iconst 0, 1) := dk_3 (dk_at dksX5_hasToWait_1 8 rfl rfl)
theorem dX5_hasToWait_32 : decode cX5_hasToWait 32 = .ok (.invokevirtual 56, 3) := dk_182 0 56 (dk_at dksX5_hasToWait_1 9 rfl rfl)
theorem dX5_hasToWait_35 : decode cX5_hasToWait 35 = .ok (.iconst 4, 1) := dk_7 (dk_at dksX5_hasToWait_1 12 rfl rfl)
theorem dX5_hasToWait_36 : decode cX5_hasToWait 36 = .ok (.irem, 1) := dk_112 (dk_at dksX5_hasToWait_1 13 rfl rfl)
theorem dX5_hasToWait_37 : decode cX5_hasToWait 37 = .ok (.iconst 2, 1) := dk_5 (dk_at dksX5_hasToWait_1 14 rfl rfl)
theorem dX5_hasToWait_38 : decode cX5_hasToWait 38 = .ok (.if_icmp .ge 7, 3) := dk_162 0 7 (dk_at dksX5_hasToWait_1 15 rfl rfl)
theorem dX5_hasToWait_41 : decode cX5_hasToWait 41 = .ok (.iconst 1, 1) := dk_4 (dk_at dksX5_hasToWait_1 18 rfl rfl)
theorem dX5_hasToWait_42 : decode cX5_hasToWait 42 = .ok (.goto 4, 3) := dk_167 0 4 (dk_at dksX5_hasToWait_1 19 rfl rfl)
theorem dX5_hasToWait_45 : decode cX5_hasToWait 45 = .ok (.iconst 0, 1) := dk_3 (dk_at dksX5_hasToWait_1 22 rfl rfl)
theorem dX5_hasToWait_46 : decode cX5_hasToWait 46 = .ok (.istore_n 3, 1) := dk_62 (dk_at dksX5_hasToWait_1 23 rfl rfl)
theorem dX5_hasToWait_47 : decode cX5_hasToWait 47 = .ok (.iload_n 3, 1) := dk_29 (dk_at dksX5_hasToWait_2 0 rfl rfl)
theorem dX5_hasToWait_48 : decode cX5_hasToWait 48 = .ok (.ifCond .eq 29, 3) := dk_153 0 29 (dk_at dksX5_hasToWait_2 1 rfl rfl)
theorem dX5_hasToWait_51 : decode cX5_hasToWait 51 = .ok (.iload_n 2, 1) := dk_28 (dk_at dksX5_hasToWait_2 4 rfl rfl)
theorem dX5_hasToWait_52 : decode cX5_hasToWait 52 = .ok (.iload_n 1, 1) := dk_27 (dk_at dksX5_hasToWait_2 5 rfl rfl)
theorem dX5_hasToWait_53 : decode cX5_hasToWait 53 = .ok (.if_icmp .eq 24, 3) := dk_159 0 24 (dk_at dksX5_hasToWait_2 6 rfl rfl)
theorem dX5_hasToWait_56 : decode cX5_hasToWait 56 = .ok (.aload_n 0, 1) := dk_42 (dk_at dksX5_hasToWait_2 9 rfl rfl)
theorem dX5_hasToWait_57 : decode cX5_hasToWait 57 = .ok (.getfield 18, 3) := dk_180 0 18 (dk_at dksX5_hasToWait_2 10 rfl rfl)
theorem dX5_hasToWait_60 : decode cX5_hasToWait 60 = .ok (.iload_n 2, 1) := dk_28 (dk_at dksX5_hasToWait_2 13 rfl rfl)
theorem dX5_hasToWait_61 : decode cX5_hasToWait 61 = .ok (.baload, 1) := dk_51 (dk_at dksX5_hasToWait_2 14 rfl rfl)
theorem dX5_hasToWait_62 : decode cX5_hasToWait 62 = .ok (.ifCond .ne 15, 3) := dk_154 0 15 (dk_at dksX5_hasToWait_2 15 rfl rfl)
theorem dX5_hasToWait_65 : decode cX5_hasToWait 65 = .ok (.aload_n 0, 1) := dk_42 (dk_at dksX5_hasToWait_2 18 rfl rfl)
theorem dX5_hasToWait_66 : decode cX5_hasToWait 66 = .ok (.iload_n 2, 1) := dk_28 (dk_at dksX5_hasToWait_2 19 rfl rfl)
theorem dX5_hasToWait_67 : decode cX5_hasToWait 67 = .ok (.invokevirtual 70, 3) := dk_182 0 70 (dk_at dksX5_hasToWait_2 20 rfl rfl)
theorem dX5_hasToWait_70 : decode cX5_hasToWait 70 = .ok (.ifCond .eq 7, 3) := dk_153 0 7 (dk_at dksX5_hasToWait_3 0 rfl rfl)
theorem dX5_hasToWait_73 : decode cX5_hasToWait 73 = .ok (.iconst 1, 1) := dk_4 (dk_at dksX5_hasToWait_3 3 rfl rfl)
theorem dX5_hasToWait_74 : decode cX5_hasToWait 74 = .ok (.goto 4, 3) := dk_167 0 4 (dk_at dksX5_hasToWait_3 4 rfl rfl)
theorem dX5_hasToWait_77 : decode cX5_hasToWait 77 = .ok (.iconst 0, 1) := dk_3 (dk_at dksX5_hasToWait_3 7 rfl rfl)
theorem dX5_hasToWait_78 : decode cX5_hasToWait 78 = .ok (.ireturn, 1) := dk_172 (dk_at dksX5_hasToWait_3 8 rfl rfl)
abbrev cX5_hasMessage : ByteArray := prog_9_method_8_code
def yX5_hasMessage : MethodName := ⟨RX5, "hasMessage", "(I)Z"⟩
def dkwX5_hasMessage_0 : List UInt8 := [42, 180, 0, 18, 27, 51, 154, 0, 16, 42, 180, 0, 22, 27, 46, 158, 0, 7, 4, 167, 0, 4, 3, 172]
abbrev dktX5_hasMessage_0 : List UInt8 := dkwX5_hasMessage_0 ++ []
theorem dksX5_hasMessage_0 : cX5_hasMessage.data.toList.drop 0 = dktX5_hasMessage_0 := by decide +kernel
theorem dX5_hasMessage_0 : decode cX5_hasMessage 0 = .ok (.aload_n 0, 1) := dk_42 (dk_at dksX5_hasMessage_0 0 rfl rfl)
theorem dX5_hasMessage_1 : decode cX5_hasMessage 1 = .ok (.getfield 18, 3) := dk_180 0 18 (dk_at dksX5_hasMessage_0 1 rfl rfl)
theorem dX5_hasMessage_4 : decode cX5_hasMessage 4 = .ok (.iload_n 1, 1) := dk_27 (dk_at dksX5_hasMessage_0 4 rfl rfl)
theorem dX5_hasMessage_5 : decode cX5_hasMessage 5 = .ok (.baload, 1) := dk_51 (dk_at dksX5_hasMessage_0 5 rfl rfl)
theorem dX5_hasMessage_6 : decode cX5_hasMessage 6 = .ok (.ifCond .ne 16, 3) := dk_154 0 16 (dk_at dksX5_hasMessage_0 6 rfl rfl)
theorem dX5_hasMessage_9 : decode cX5_hasMessage 9 = .ok (.aload_n 0, 1) := dk_42 (dk_at dksX5_hasMessage_0 9 rfl rfl)
theorem dX5_hasMessage_10 : decode cX5_hasMessage 10 = .ok (.getfield 22, 3) := dk_180 0 22 (dk_at dksX5_hasMessage_0 10 rfl rfl)
theorem dX5_hasMessage_13 : decode cX5_hasMessage 13 = .ok (.iload_n 1, 1) := dk_27 (dk_at dksX5_hasMessage_0 13 rfl rfl)
theorem dX5_hasMessage_14 : decode cX5_hasMessage 14 = .ok (.iaload, 1) := dk_46 (dk_at dksX5_hasMessage_0 14 rfl rfl)
theorem dX5_hasMessage_15 : decode cX5_hasMessage 15 = .ok (.ifCond .le 7, 3) := dk_158 0 7 (dk_at dksX5_hasMessage_0 15 rfl rfl)
theorem dX5_hasMessage_18 : decode cX5_hasMessage 18 = .ok (.iconst 1, 1) := dk_4 (dk_at dksX5_hasMessage_0 18 rfl rfl)
theorem dX5_hasMessage_19 : decode cX5_hasMessage 19 = .ok (.goto 4, 3) := dk_167 0 4 (dk_at dksX5_hasMessage_0 19 rfl rfl)
theorem dX5_hasMessage_22 : decode cX5_hasMessage 22 = .ok (.iconst 0, 1) := dk_3 (dk_at dksX5_hasMessage_0 22 rfl rfl)
theorem dX5_hasMessage_23 : decode cX5_hasMessage 23 = .ok (.ireturn, 1) := dk_172 (dk_at dksX5_hasMessage_0 23 rfl rfl)
abbrev cX5_message : ByteArray := prog_9_method_3_code
def yX5_message : MethodName := ⟨RX5, "message", "(II)I"⟩
def dkwX5_message_0 : List UInt8 := [42, 180, 0, 25, 16, 6, 27, 104, 28, 96, 46, 172]
abbrev dktX5_message_0 : List UInt8 := dkwX5_message_0 ++ []
theorem dksX5_message_0 : cX5_message.data.toList.drop 0 = dktX5_message_0 := by decide +kernel
theorem dX5_message_0 : decode cX5_message 0 = .ok (.aload_n 0, 1) := dk_42 (dk_at dksX5_message_0 0 rfl rfl)
theorem dX5_message_1 : decode cX5_message 1 = .ok (.getfield 25, 3) := dk_180 0 25 (dk_at dksX5_message_0 1 rfl rfl)
theorem dX5_message_4 : decode cX5_message 4 = .ok (.bipush 6, 2) := dk_16 6 (dk_at dksX5_message_0 4 rfl rfl)
theorem dX5_message_6 : decode cX5_message 6 = .ok (.iload_n 1, 1) := dk_27 (dk_at dksX5_message_0 6 rfl rfl)
theorem dX5_message_7 : decode cX5_message 7 = .ok (.imul, 1) := dk_104 (dk_at dksX5_message_0 7 rfl rfl)
theorem dX5_message_8 : decode cX5_message 8 = .ok (.iload_n 2, 1) := dk_28 (dk_at dksX5_message_0 8 rfl rfl)
theorem dX5_message_9 : decode cX5_message 9 = .ok (.iadd, 1) := dk_96 (dk_at dksX5_message_0 9 rfl rfl)
theorem dX5_message_10 : decode cX5_message 10 = .ok (.iaload, 1) := dk_46 (dk_at dksX5_message_0 10 rfl rfl)
theorem dX5_message_11 : decode cX5_message 11 = .ok (.ireturn, 1) := dk_172 (dk_at dksX5_message_0 11 rfl rfl)
abbrev cX5_isFull : ByteArray := prog_9_method_4_code
def yX5_isFull : MethodName := ⟨RX5, "isFull", "(I)Z"⟩
def dkwX5_isFull_0 : List UInt8 := [42, 180, 0, 22, 27, 46, 42, 180, 0, 28, 180, 0, 51, 27, 46, 160, 0, 7, 4, 167, 0, 4, 3, 172]
abbrev dktX5_isFull_0 : List UInt8 := dkwX5_isFull_0 ++ []
theorem dksX5_isFull_0 : cX5_isFull.data.toList.drop 0 = dktX5_isFull_0 := by decide +kernel
theorem dX5_isFull_0 : decode cX5_isFull 0 = .ok (.aload_n 0, 1) := dk_42 (dk_at dksX5_isFull_0 0 rfl rfl)
theorem dX5_isFull_1 : decode cX5_isFull 1 = .ok (.getfield 22, 3) := dk_180 0 22 (dk_at dksX5_isFull_0 1 rfl rfl)
theorem dX5_isFull_4 : decode cX5_isFull 4 = .ok (.iload_n 1, 1) := dk_27 (dk_at dksX5_isFull_0 4 rfl rfl)
theorem dX5_isFull_5 : decode cX5_isFull 5 = .ok (.iaload, 1) := dk_46 (dk_at dksX5_isFull_0 5 rfl rfl)
theorem dX5_isFull_6 : decode cX5_isFull 6 = .ok (.aload_n 0, 1) := dk_42 (dk_at dksX5_isFull_0 6 rfl rfl)
theorem dX5_isFull_7 : decode cX5_isFull 7 = .ok (.getfield 28, 3) := dk_180 0 28 (dk_at dksX5_isFull_0 7 rfl rfl)
theorem dX5_isFull_10 : decode cX5_isFull 10 = .ok (.getfield 51, 3) := dk_180 0 51 (dk_at dksX5_isFull_0 10 rfl rfl)
theorem dX5_isFull_13 : decode cX5_isFull 13 = .ok (.iload_n 1, 1) := dk_27 (dk_at dksX5_isFull_0 13 rfl rfl)
theorem dX5_isFull_14 : decode cX5_isFull 14 = .ok (.iaload, 1) := dk_46 (dk_at dksX5_isFull_0 14 rfl rfl)
theorem dX5_isFull_15 : decode cX5_isFull 15 = .ok (.if_icmp .ne 7, 3) := dk_160 0 7 (dk_at dksX5_isFull_0 15 rfl rfl)
theorem dX5_isFull_18 : decode cX5_isFull 18 = .ok (.iconst 1, 1) := dk_4 (dk_at dksX5_isFull_0 18 rfl rfl)
theorem dX5_isFull_19 : decode cX5_isFull 19 = .ok (.goto 4, 3) := dk_167 0 4 (dk_at dksX5_isFull_0 19 rfl rfl)
theorem dX5_isFull_22 : decode cX5_isFull 22 = .ok (.iconst 0, 1) := dk_3 (dk_at dksX5_isFull_0 22 rfl rfl)
theorem dX5_isFull_23 : decode cX5_isFull 23 = .ok (.ireturn, 1) := dk_172 (dk_at dksX5_isFull_0 23 rfl rfl)
abbrev cX5_become : ByteArray := prog_9_method_2_code
def yX5_become : MethodName := ⟨RX5, "become", "(LSpindleActors$Scene;)LSpindleActors$Scene;"⟩
def dkwX5_become_4 : List UInt8 := [42, 43, 180, 0, 45, 181, 0, 45, 42, 43, 180, 0, 48, 181, 0, 48, 42, 176]
abbrev dktX5_become_4 : List UInt8 := dkwX5_become_4 ++ []
def dkwX5_become_3 : List UInt8 := [42, 180, 0, 25, 190, 184, 0, 32, 42, 43, 180, 0, 38, 181, 0, 38, 42, 43, 180, 0, 42, 181, 0, 42]
abbrev dktX5_become_3 : List UInt8 := dkwX5_become_3 ++ dktX5_become_4
def dkwX5_become_2 : List UInt8 := [180, 0, 22, 3, 42, 180, 0, 22, 3, 16, 8, 184, 0, 32, 43, 180, 0, 25, 3, 42, 180, 0, 25, 3]
abbrev dktX5_become_2 : List UInt8 := dkwX5_become_2 ++ dktX5_become_3
def dkwX5_become_1 : List UInt8 := [3, 16, 8, 184, 0, 32, 43, 180, 0, 18, 3, 42, 180, 0, 18, 3, 16, 8, 184, 0, 32, 43]
abbrev dktX5_become_1 : List UInt8 := dkwX5_become_1 ++ dktX5_become_2
def dkwX5_become_0 : List UInt8 := [43, 180, 0, 9, 3, 42, 180, 0, 9, 3, 16, 8, 184, 0, 32, 43, 180, 0, 15, 3, 42, 180, 0, 15]
abbrev dktX5_become_0 : List UInt8 := dkwX5_become_0 ++ dktX5_become_1
theorem dksX5_become_0 : cX5_become.data.toList.drop 0 = dktX5_become_0 := by decide +kernel
theorem dksX5_become_1 : cX5_become.data.toList.drop 24 = dktX5_become_1 := dk_seg dksX5_become_0 24 rfl rfl
theorem dksX5_become_2 : cX5_become.data.toList.drop 46 = dktX5_become_2 := dk_seg dksX5_become_1 22 rfl rfl
theorem dksX5_become_3 : cX5_become.data.toList.drop 70 = dktX5_become_3 := dk_seg dksX5_become_2 24 rfl rfl
theorem dksX5_become_4 : cX5_become.data.toList.drop 94 = dktX5_become_4 := dk_seg dksX5_become_3 24 rfl rfl
theorem dX5_become_0 : decode cX5_become 0 = .ok (.aload_n 1, 1) := dk_43 (dk_at dksX5_become_0 0 rfl rfl)
theorem dX5_become_1 : decode cX5_become 1 = .ok (.getfield 9, 3) := dk_180 0 9 (dk_at dksX5_become_0 1 rfl rfl)
theorem dX5_become_4 : decode cX5_become 4 = .ok (.iconst 0, 1) := dk_3 (dk_at dksX5_become_0 4 rfl rfl)
theorem dX5_become_5 : decode cX5_become 5 = .ok (.aload_n 0, 1) := dk_42 (dk_at dksX5_become_0 5 rfl rfl)
theorem dX5_become_6 : decode cX5_become 6 = .ok (.getfield 9, 3) := dk_180 0 9 (dk_at dksX5_become_0 6 rfl rfl)
theorem dX5_become_9 : decode cX5_become 9 = .ok (.iconst 0, 1) := dk_3 (dk_at dksX5_become_0 9 rfl rfl)
theorem dX5_become_10 : decode cX5_become 10 = .ok (.bipush 8, 2) := dk_16 8 (dk_at dksX5_become_0 10 rfl rfl)
theorem dX5_become_12 : decode cX5_become 12 = .ok (.invokestatic 32, 3) := dk_184 0 32 (dk_at dksX5_become_0 12 rfl rfl)
theorem dX5_become_15 : decode cX5_become 15 = .ok (.aload_n 1, 1) := dk_43 (dk_at dksX5_become_0 15 rfl rfl)
theorem dX5_become_16 : decode cX5_become 16 = .ok (.getfield 15, 3) := dk_180 0 15 (dk_at dksX5_become_0 16 rfl rfl)
theorem dX5_become_19 : decode cX5_become 19 = .ok (.iconst 0, 1) := dk_3 (dk_at dksX5_become_0 19 rfl rfl)
theorem dX5_become_20 : decode cX5_become 20 = .ok (.aload_n 0, 1) := dk_42 (dk_at dksX5_become_0 20 rfl rfl)
theorem dX5_become_21 : decode cX5_become 21 = .ok (.getfield 15, 3) := dk_180 0 15 (dk_at dksX5_become_0 21 rfl rfl)
theorem dX5_become_24 : decode cX5_become 24 = .ok (.iconst 0, 1) := dk_3 (dk_at dksX5_become_1 0 rfl rfl)
theorem dX5_become_25 : decode cX5_become 25 = .ok (.bipush 8, 2) := dk_16 8 (dk_at dksX5_become_1 1 rfl rfl)
theorem dX5_become_27 : decode cX5_become 27 = .ok (.invokestatic 32, 3) := dk_184 0 32 (dk_at dksX5_become_1 3 rfl rfl)
theorem dX5_become_30 : decode cX5_become 30 = .ok (.aload_n 1, 1) := dk_43 (dk_at dksX5_become_1 6 rfl rfl)
theorem dX5_become_31 : decode cX5_become 31 = .ok (.getfield 18, 3) := dk_180 0 18 (dk_at dksX5_become_1 7 rfl rfl)
theorem dX5_become_34 : decode cX5_become 34 = .ok (.iconst 0, 1) := dk_3 (dk_at dksX5_become_1 10 rfl rfl)
theorem dX5_become_35 : decode cX5_become 35 = .ok (.aload_n 0, 1) := dk_42 (dk_at dksX5_become_1 11 rfl rfl)
theorem dX5_become_36 : decode cX5_become 36 = .ok (.getfield 18, 3) := dk_180 0 18 (dk_at dksX5_become_1 12 rfl rfl)
theorem dX5_become_39 : decode cX5_become 39 = .ok (.iconst 0, 1) := dk_3 (dk_at dksX5_become_1 15 rfl rfl)
theorem dX5_become_40 : decode cX5_become 40 = .ok (.bipush 8, 2) := dk_16 8 (dk_at dksX5_become_1 16 rfl rfl)
theorem dX5_become_42 : decode cX5_become 42 = .ok (.invokestatic 32, 3) := dk_184 0 32 (dk_at dksX5_become_1 18 rfl rfl)
theorem dX5_become_45 : decode cX5_become 45 = .ok (.aload_n 1, 1) := dk_43 (dk_at dksX5_become_1 21 rfl rfl)
theorem dX5_become_46 : decode cX5_become 46 = .ok (.getfield 22, 3) := dk_180 0 22 (dk_at dksX5_become_2 0 rfl rfl)
theorem dX5_become_49 : decode cX5_become 49 = .ok (.iconst 0, 1) := dk_3 (dk_at dksX5_become_2 3 rfl rfl)
theorem dX5_become_50 : decode cX5_become 50 = .ok (.aload_n 0, 1) := dk_42 (dk_at dksX5_become_2 4 rfl rfl)
theorem dX5_become_51 : decode cX5_become 51 = .ok (.getfield 22, 3) := dk_180 0 22 (dk_at dksX5_become_2 5 rfl rfl)
theorem dX5_become_54 : decode cX5_become 54 = .ok (.iconst 0, 1) := dk_3 (dk_at dksX5_become_2 8 rfl rfl)
theorem dX5_become_55 : decode cX5_become 55 = .ok (.bipush 8, 2) := dk_16 8 (dk_at dksX5_become_2 9 rfl rfl)
theorem dX5_become_57 : decode cX5_become 57 = .ok (.invokestatic 32, 3) := dk_184 0 32 (dk_at dksX5_become_2 11 rfl rfl)
theorem dX5_become_60 : decode cX5_become 60 = .ok (.aload_n 1, 1) := dk_43 (dk_at dksX5_become_2 14 rfl rfl)
theorem dX5_become_61 : decode cX5_become 61 = .ok (.getfield 25, 3) := dk_180 0 25 (dk_at dksX5_become_2 15 rfl rfl)
theorem dX5_become_64 : decode cX5_become 64 = .ok (.iconst 0, 1) := dk_3 (dk_at dksX5_become_2 18 rfl rfl)
theorem dX5_become_65 : decode cX5_become 65 = .ok (.aload_n 0, 1) := dk_42 (dk_at dksX5_become_2 19 rfl rfl)
theorem dX5_become_66 : decode cX5_become 66 = .ok (.getfield 25, 3) := dk_180 0 25 (dk_at dksX5_become_2 20 rfl rfl)
theorem dX5_become_69 : decode cX5_become 69 = .ok (.iconst 0, 1) := dk_3 (dk_at dksX5_become_2 23 rfl rfl)
theorem dX5_become_70 : decode cX5_become 70 = .ok (.aload_n 0, 1) := dk_42 (dk_at dksX5_become_3 0 rfl rfl)
theorem dX5_become_71 : decode cX5_become 71 = .ok (.getfield 25, 3) := dk_180 0 25 (dk_at dksX5_become_3 1 rfl rfl)
theorem dX5_become_74 : decode cX5_become 74 = .ok (.arraylength, 1) := dk_190 (dk_at dksX5_become_3 4 rfl rfl)
theorem dX5_become_75 : decode cX5_become 75 = .ok (.invokestatic 32, 3) := dk_184 0 32 (dk_at dksX5_become_3 5 rfl rfl)
theorem dX5_become_78 : decode cX5_become 78 = .ok (.aload_n 0, 1) := dk_42 (dk_at dksX5_become_3 8 rfl rfl)
theorem dX5_become_79 : decode cX5_become 79 = .ok (.aload_n 1, 1) := dk_43 (dk_at dksX5_become_3 9 rfl rfl)
theorem dX5_become_80 : decode cX5_become 80 = .ok (.getfield 38, 3) := dk_180 0 38 (dk_at dksX5_become_3 10 rfl rfl)
theorem dX5_become_83 : decode cX5_become 83 = .ok (.putfield 38, 3) := dk_181 0 38 (dk_at dksX5_become_3 13 rfl rfl)
theorem dX5_become_86 : decode cX5_become 86 = .ok (.aload_n 0, 1) := dk_42 (dk_at dksX5_become_3 16 rfl rfl)
theorem dX5_become_87 : decode cX5_become 87 = .ok (.aload_n 1, 1) := dk_43 (dk_at dksX5_become_3 17 rfl rfl)
theorem dX5_become_88 : decode cX5_become 88 = .ok (.getfield 42, 3) := dk_180 0 42 (dk_at dksX5_become_3 18 rfl rfl)
theorem dX5_become_91 : decode cX5_become 91 = .ok (.putfield 42, 3) := dk_181 0 42 (dk_at dksX5_become_3 21 rfl rfl)
theorem dX5_become_94 : decode cX5_become 94 = .ok (.aload_n 0, 1) := dk_42 (dk_at dksX5_become_4 0 rfl rfl)
theorem dX5_become_95 : decode cX5_become 95 = .ok (.aload_n 1, 1) := dk_43 (dk_at dksX5_become_4 1 rfl rfl)
theorem dX5_become_96 : decode cX5_become 96 = .ok (.getfield 45, 3) := dk_180 0 45 (dk_at dksX5_become_4 2 rfl rfl)
theorem dX5_become_99 : decode cX5_become 99 = .ok (.putfield 45, 3) := dk_181 0 45 (dk_at dksX5_become_4 5 rfl rfl)
theorem dX5_become_102 : decode cX5_become 102 = .ok (.aload_n 0, 1) := dk_42 (dk_at dksX5_become_4 8 rfl rfl)
theorem dX5_become_103 : decode cX5_become 103 = .ok (.aload_n 1, 1) := dk_43 (dk_at dksX5_become_4 9 rfl rfl)
theorem dX5_become_104 : decode cX5_become 104 = .ok (.getfield 48, 3) := dk_180 0 48 (dk_at dksX5_become_4 10 rfl rfl)
theorem dX5_become_107 : decode cX5_become 107 = .ok (.putfield 48, 3) := dk_181 0 48 (dk_at dksX5_become_4 13 rfl rfl)
theorem dX5_become_110 : decode cX5_become 110 = .ok (.aload_n 0, 1) := dk_42 (dk_at dksX5_become_4 16 rfl rfl)
theorem dX5_become_111 : decode cX5_become 111 = .ok (.areturn, 1) := dk_176 (dk_at dksX5_become_4 17 rfl rfl)
abbrev cX5_receive : ByteArray := prog_9_method_18_code
def yX5_receive : MethodName := ⟨RX5, "receive", "(II)V"⟩
def dkwX5_receive_1 : List UInt8 := [28, 182, 0, 111, 177]
abbrev dktX5_receive_1 : List UInt8 := dkwX5_receive_1 ++ []
def dkwX5_receive_0 : List UInt8 := [42, 180, 0, 18, 27, 51, 153, 0, 16, 42, 89, 180, 0, 42, 4, 96, 181, 0, 42, 167, 0, 9, 42, 27]
abbrev dktX5_receive_0 : List UInt8 := dkwX5_receive_0 ++ dktX5_receive_1
theorem dksX5_receive_0 : cX5_receive.data.toList.drop 0 = dktX5_receive_0 := by decide +kernel
theorem dksX5_receive_1 : cX5_receive.data.toList.drop 24 = dktX5_receive_1 := dk_seg dksX5_receive_0 24 rfl rfl
theorem dX5_receive_0 : decode cX5_receive 0 = .ok (.aload_n 0, 1) := dk_42 (dk_at dksX5_receive_0 0 rfl rfl)
theorem dX5_receive_1 : decode cX5_receive 1 = .ok (.getfield 18, 3) := dk_180 0 18 (dk_at dksX5_receive_0 1 rfl rfl)
theorem dX5_receive_4 : decode cX5_receive 4 = .ok (.iload_n 1, 1) := dk_27 (dk_at dksX5_receive_0 4 rfl rfl)
theorem dX5_receive_5 : decode cX5_receive 5 = .ok (.baload, 1) := dk_51 (dk_at dksX5_receive_0 5 rfl rfl)
theorem dX5_receive_6 : decode cX5_receive 6 = .ok (.ifCond .eq 16, 3) := dk_153 0 16 (dk_at dksX5_receive_0 6 rfl rfl)
theorem dX5_receive_9 : decode cX5_receive 9 = .ok (.aload_n 0, 1) := dk_42 (dk_at dksX5_receive_0 9 rfl rfl)
theorem dX5_receive_10 : decode cX5_receive 10 = .ok (.dup, 1) := dk_89 (dk_at dksX5_receive_0 10 rfl rfl)
theorem dX5_receive_11 : decode cX5_receive 11 = .ok (.getfield 42, 3) := dk_180 0 42 (dk_at dksX5_receive_0 11 rfl rfl)
theorem dX5_receive_14 : decode cX5_receive 14 = .ok (.iconst 1, 1) := dk_4 (dk_at dksX5_receive_0 14 rfl rfl)
theorem dX5_receive_15 : decode cX5_receive 15 = .ok (.iadd, 1) := dk_96 (dk_at dksX5_receive_0 15 rfl rfl)
theorem dX5_receive_16 : decode cX5_receive 16 = .ok (.putfield 42, 3) := dk_181 0 42 (dk_at dksX5_receive_0 16 rfl rfl)
theorem dX5_receive_19 : decode cX5_receive 19 = .ok (.goto 9, 3) := dk_167 0 9 (dk_at dksX5_receive_0 19 rfl rfl)
theorem dX5_receive_22 : decode cX5_receive 22 = .ok (.aload_n 0, 1) := dk_42 (dk_at dksX5_receive_0 22 rfl rfl)
theorem dX5_receive_23 : decode cX5_receive 23 = .ok (.iload_n 1, 1) := dk_27 (dk_at dksX5_receive_0 23 rfl rfl)
theorem dX5_receive_24 : decode cX5_receive 24 = .ok (.iload_n 2, 1) := dk_28 (dk_at dksX5_receive_1 0 rfl rfl)
theorem dX5_receive_25 : decode cX5_receive 25 = .ok (.invokevirtual 111, 3) := dk_182 0 111 (dk_at dksX5_receive_1 1 rfl rfl)
theorem dX5_receive_28 : decode cX5_receive 28 = .ok (.return_, 1) := dk_177 (dk_at dksX5_receive_1 4 rfl rfl)
abbrev cX5_put : ByteArray := prog_9_method_5_code
def yX5_put : MethodName := ⟨RX5, "put", "(II)V"⟩
def dkwX5_put_1 : List UInt8 := [4, 96, 79, 42, 89, 180, 0, 45, 4, 96, 181, 0, 45, 177]
abbrev dktX5_put_1 : List UInt8 := dkwX5_put_1 ++ []
def dkwX5_put_0 : List UInt8 := [42, 180, 0, 25, 16, 6, 27, 104, 42, 180, 0, 22, 27, 46, 96, 28, 79, 42, 180, 0, 22, 27, 92, 46]
abbrev dktX5_put_0 : List UInt8 := dkwX5_put_0 ++ dktX5_put_1
theorem dksX5_put_0 : cX5_put.data.toList.drop 0 = dktX5_put_0 := by decide +kernel
theorem dksX5_put_1 : cX5_put.data.toList.drop 24 = dktX5_put_1 := dk_seg dksX5_put_0 24 rfl rfl
theorem dX5_put_0 : decode cX5_put 0 = .ok (.aload_n 0, 1) := dk_42 (dk_at dksX5_put_0 0 rfl rfl)
theorem dX5_put_1 : decode cX5_put 1 = .ok (.getfield 25, 3) := dk_180 0 25 (dk_at dksX5_put_0 1 rfl rfl)
theorem dX5_put_4 : decode cX5_put 4 = .ok (.bipush 6, 2) := dk_16 6 (dk_at dksX5_put_0 4 rfl rfl)
theorem dX5_put_6 : decode cX5_put 6 = .ok (.iload_n 1, 1) := dk_27 (dk_at dksX5_put_0 6 rfl rfl)
theorem dX5_put_7 : decode cX5_put 7 = .ok (.imul, 1) := dk_104 (dk_at dksX5_put_0 7 rfl rfl)
theorem dX5_put_8 : decode cX5_put 8 = .ok (.aload_n 0, 1) := dk_42 (dk_at dksX5_put_0 8 rfl rfl)
theorem dX5_put_9 : decode cX5_put 9 = .ok (.getfield 22, 3) := dk_180 0 22 (dk_at dksX5_put_0 9 rfl rfl)
theorem dX5_put_12 : decode cX5_put 12 = .ok (.iload_n 1, 1) := dk_27 (dk_at dksX5_put_0 12 rfl rfl)
theorem dX5_put_13 : decode cX5_put 13 = .ok (.iaload, 1) := dk_46 (dk_at dksX5_put_0 13 rfl rfl)
theorem dX5_put_14 : decode cX5_put 14 = .ok (.iadd, 1) := dk_96 (dk_at dksX5_put_0 14 rfl rfl)
theorem dX5_put_15 : decode cX5_put 15 = .ok (.iload_n 2, 1) := dk_28 (dk_at dksX5_put_0 15 rfl rfl)
theorem dX5_put_16 : decode cX5_put 16 = .ok (.iastore, 1) := dk_79 (dk_at dksX5_put_0 16 rfl rfl)
theorem dX5_put_17 : decode cX5_put 17 = .ok (.aload_n 0, 1) := dk_42 (dk_at dksX5_put_0 17 rfl rfl)
theorem dX5_put_18 : decode cX5_put 18 = .ok (.getfield 22, 3) := dk_180 0 22 (dk_at dksX5_put_0 18 rfl rfl)
theorem dX5_put_21 : decode cX5_put 21 = .ok (.iload_n 1, 1) := dk_27 (dk_at dksX5_put_0 21 rfl rfl)
theorem dX5_put_22 : decode cX5_put 22 = .ok (.dup2, 1) := dk_92 (dk_at dksX5_put_0 22 rfl rfl)
theorem dX5_put_23 : decode cX5_put 23 = .ok (.iaload, 1) := dk_46 (dk_at dksX5_put_0 23 rfl rfl)
theorem dX5_put_24 : decode cX5_put 24 = .ok (.iconst 1, 1) := dk_4 (dk_at dksX5_put_1 0 rfl rfl)
theorem dX5_put_25 : decode cX5_put 25 = .ok (.iadd, 1) := dk_96 (dk_at dksX5_put_1 1 rfl rfl)
theorem dX5_put_26 : decode cX5_put 26 = .ok (.iastore, 1) := dk_79 (dk_at dksX5_put_1 2 rfl rfl)
theorem dX5_put_27 : decode cX5_put 27 = .ok (.aload_n 0, 1) := dk_42 (dk_at dksX5_put_1 3 rfl rfl)
theorem dX5_put_28 : decode cX5_put 28 = .ok (.dup, 1) := dk_89 (dk_at dksX5_put_1 4 rfl rfl)
theorem dX5_put_29 : decode cX5_put 29 = .ok (.getfield 45, 3) := dk_180 0 45 (dk_at dksX5_put_1 5 rfl rfl)
theorem dX5_put_32 : decode cX5_put 32 = .ok (.iconst 1, 1) := dk_4 (dk_at dksX5_put_1 8 rfl rfl)
theorem dX5_put_33 : decode cX5_put 33 = .ok (.iadd, 1) := dk_96 (dk_at dksX5_put_1 9 rfl rfl)
theorem dX5_put_34 : decode cX5_put 34 = .ok (.putfield 45, 3) := dk_181 0 45 (dk_at dksX5_put_1 10 rfl rfl)
theorem dX5_put_37 : decode cX5_put 37 = .ok (.return_, 1) := dk_177 (dk_at dksX5_put_1 13 rfl rfl)
abbrev cX5_stop : ByteArray := prog_9_method_14_code
def yX5_stop : MethodName := ⟨RX5, "stop", "(I)I"⟩
def dkwX5_stop_3 : List UInt8 := [100, 172]
abbrev dktX5_stop_3 : List UInt8 := dkwX5_stop_3 ++ []
def dkwX5_stop_2 : List UInt8 := [180, 0, 18, 29, 51, 154, 0, 8, 42, 29, 182, 0, 86, 132, 3, 1, 167, 255, 199, 42, 180, 0, 42, 28]
abbrev dktX5_stop_2 : List UInt8 := dkwX5_stop_2 ++ dktX5_stop_3
def dkwX5_stop_1 : List UInt8 := [180, 0, 28, 29, 27, 182, 0, 82, 153, 0, 7, 4, 167, 0, 4, 3, 54, 4, 21, 4, 153, 0, 17, 42]
abbrev dktX5_stop_1 : List UInt8 := dkwX5_stop_1 ++ dktX5_stop_2
def dkwX5_stop_0 : List UInt8 := [42, 180, 0, 42, 61, 27, 62, 29, 42, 180, 0, 28, 180, 0, 76, 162, 0, 52, 29, 27, 159, 0, 15, 42]
abbrev dktX5_stop_0 : List UInt8 := dkwX5_stop_0 ++ dktX5_stop_1
theorem dksX5_stop_0 : cX5_stop.data.toList.drop 0 = dktX5_stop_0 := by decide +kernel
theorem dksX5_stop_1 : cX5_stop.data.toList.drop 24 = dktX5_stop_1 := dk_seg dksX5_stop_0 24 rfl rfl
theorem dksX5_stop_2 : cX5_stop.data.toList.drop 48 = dktX5_stop_2 := dk_seg dksX5_stop_1 24 rfl rfl
theorem dksX5_stop_3 : cX5_stop.data.toList.drop 72 = dktX5_stop_3 := dk_seg dksX5_stop_2 24 rfl rfl
theorem dX5_stop_0 : decode cX5_stop 0 = .ok (.aload_n 0, 1) := dk_42 (dk_at dksX5_stop_0 0 rfl rfl)
theorem dX5_stop_1 : decode cX5_stop 1 = .ok (.getfield 42, 3) := dk_180 0 42 (dk_at dksX5_stop_0 1 rfl rfl)
theorem dX5_stop_4 : decode cX5_stop 4 = .ok (.istore_n 2, 1) := dk_61 (dk_at dksX5_stop_0 4 rfl rfl)
theorem dX5_stop_5 : decode cX5_stop 5 = .ok (.iload_n 1, 1) := dk_27 (dk_at dksX5_stop_0 5 rfl rfl)
theorem dX5_stop_6 : decode cX5_stop 6 = .ok (.istore_n 3, 1) := dk_62 (dk_at dksX5_stop_0 6 rfl rfl)
theorem dX5_stop_7 : decode cX5_stop 7 = .ok (.iload_n 3, 1) := dk_29 (dk_at dksX5_stop_0 7 rfl rfl)
theorem dX5_stop_8 : decode cX5_stop 8 = .ok (.aload_n 0, 1) := dk_42 (dk_at dksX5_stop_0 8 rfl rfl)
theorem dX5_stop_9 : decode cX5_stop 9 = .ok (.getfield 28, 3) := dk_180 0 28 (dk_at dksX5_stop_0 9 rfl rfl)
theorem dX5_stop_12 : decode cX5_stop 12 = .ok (.getfield 76, 3) := dk_180 0 76 (dk_at dksX5_stop_0 12 rfl rfl)
theorem dX5_stop_15 : decode cX5_stop 15 = .ok (.if_icmp .ge 52, 3) := dk_162 0 52 (dk_at dksX5_stop_0 15 rfl rfl)
theorem dX5_stop_18 : decode cX5_stop 18 = .ok (.iload_n 3, 1) := dk_29 (dk_at dksX5_stop_0 18 rfl rfl)
theorem dX5_stop_19 : decode cX5_stop 19 = .ok (.iload_n 1, 1) := dk_27 (dk_at dksX5_stop_0 19 rfl rfl)
theorem dX5_stop_20 : decode cX5_stop 20 = .ok (.if_icmp .eq 15, 3) := dk_159 0 15 (dk_at dksX5_stop_0 20 rfl rfl)
theorem dX5_stop_23 : decode cX5_stop 23 = .ok (.aload_n 0, 1) := dk_42 (dk_at dksX5_stop_0 23 rfl rfl)
theorem dX5_stop_24 : decode cX5_stop 24 = .ok (.getfield 28, 3) := dk_180 0 28 (dk_at dksX5_stop_1 0 rfl rfl)
theorem dX5_stop_27 : decode cX5_stop 27 = .ok (.iload_n 3, 1) := dk_29 (dk_at dksX5_stop_1 3 rfl rfl)
theorem dX5_stop_28 : decode cX5_stop 28 = .ok (.iload_n 1, 1) := dk_27 (dk_at dksX5_stop_1 4 rfl rfl)
theorem dX5_stop_29 : decode cX5_stop 29 = .ok (.invokevirtual 82, 3) := dk_182 0 82 (dk_at dksX5_stop_1 5 rfl rfl)
theorem dX5_stop_32 : decode cX5_stop 32 = .ok (.ifCond .eq 7, 3) := dk_153 0 7 (dk_at dksX5_stop_1 8 rfl rfl)
theorem dX5_stop_35 : decode cX5_stop 35 = .ok (.iconst 1, 1) := dk_4 (dk_at dksX5_stop_1 11 rfl rfl)
theorem dX5_stop_36 : decode cX5_stop 36 = .ok (.goto 4, 3) := dk_167 0 4 (dk_at dksX5_stop_1 12 rfl rfl)
theorem dX5_stop_39 : decode cX5_stop 39 = .ok (.iconst 0, 1) := dk_3 (dk_at dksX5_stop_1 15 rfl rfl)
theorem dX5_stop_40 : decode cX5_stop 40 = .ok (.istore 4, 2) := dk_54 4 (dk_at dksX5_stop_1 16 rfl rfl)
theorem dX5_stop_42 : decode cX5_stop 42 = .ok (.iload 4, 2) := dk_21 4 (dk_at dksX5_stop_1 18 rfl rfl)
theorem dX5_stop_44 : decode cX5_stop 44 = .ok (.ifCond .eq 17, 3) := dk_153 0 17 (dk_at dksX5_stop_1 20 rfl rfl)
theorem dX5_stop_47 : decode cX5_stop 47 = .ok (.aload_n 0, 1) := dk_42 (dk_at dksX5_stop_1 23 rfl rfl)
theorem dX5_stop_48 : decode cX5_stop 48 = .ok (.getfield 18, 3) := dk_180 0 18 (dk_at dksX5_stop_2 0 rfl rfl)
theorem dX5_stop_51 : decode cX5_stop 51 = .ok (.iload_n 3, 1) := dk_29 (dk_at dksX5_stop_2 3 rfl rfl)
theorem dX5_stop_52 : decode cX5_stop 52 = .ok (.baload, 1) := dk_51 (dk_at dksX5_stop_2 4 rfl rfl)
theorem dX5_stop_53 : decode cX5_stop 53 = .ok (.ifCond .ne 8, 3) := dk_154 0 8 (dk_at dksX5_stop_2 5 rfl rfl)
theorem dX5_stop_56 : decode cX5_stop 56 = .ok (.aload_n 0, 1) := dk_42 (dk_at dksX5_stop_2 8 rfl rfl)
theorem dX5_stop_57 : decode cX5_stop 57 = .ok (.iload_n 3, 1) := dk_29 (dk_at dksX5_stop_2 9 rfl rfl)
theorem dX5_stop_58 : decode cX5_stop 58 = .ok (.invokevirtual 86, 3) := dk_182 0 86 (dk_at dksX5_stop_2 10 rfl rfl)
theorem dX5_stop_61 : decode cX5_stop 61 = .ok (.iinc 3 1, 3) := dk_132 3 1 (dk_at dksX5_stop_2 13 rfl rfl)
theorem dX5_stop_64 : decode cX5_stop 64 = .ok (.goto (-57), 3) := dk_167 255 199 (dk_at dksX5_stop_2 16 rfl rfl)
theorem dX5_stop_67 : decode cX5_stop 67 = .ok (.aload_n 0, 1) := dk_42 (dk_at dksX5_stop_2 19 rfl rfl)
theorem dX5_stop_68 : decode cX5_stop 68 = .ok (.getfield 42, 3) := dk_180 0 42 (dk_at dksX5_stop_2 20 rfl rfl)
theorem dX5_stop_71 : decode cX5_stop 71 = .ok (.iload_n 2, 1) := dk_28 (dk_at dksX5_stop_2 23 rfl rfl)
theorem dX5_stop_72 : decode cX5_stop 72 = .ok (.isub, 1) := dk_100 (dk_at dksX5_stop_3 0 rfl rfl)
theorem dX5_stop_73 : decode cX5_stop 73 = .ok (.ireturn, 1) := dk_172 (dk_at dksX5_stop_3 1 rfl rfl)
abbrev cX5_stopOne : ByteArray := prog_9_method_13_code
def yX5_stopOne : MethodName := ⟨RX5, "stopOne", "(I)V"⟩
def dkwX5_stopOne_2 : List UInt8 := [132, 2, 1, 167, 255, 231, 42, 180, 0, 22, 27, 3, 79, 177]
abbrev dktX5_stopOne_2 : List UInt8 := dkwX5_stopOne_2 ++ []
def dkwX5_stopOne_1 : List UInt8 := [28, 42, 180, 0, 22, 27, 46, 162, 0, 21, 42, 180, 0, 25, 16, 6, 27, 104, 28, 96, 3, 79]
abbrev dktX5_stopOne_1 : List UInt8 := dkwX5_stopOne_1 ++ dktX5_stopOne_2
def dkwX5_stopOne_0 : List UInt8 := [42, 180, 0, 18, 27, 4, 84, 42, 89, 180, 0, 42, 42, 180, 0, 22, 27, 46, 96, 181, 0, 42, 3, 61]
abbrev dktX5_stopOne_0 : List UInt8 := dkwX5_stopOne_0 ++ dktX5_stopOne_1
theorem dksX5_stopOne_0 : cX5_stopOne.data.toList.drop 0 = dktX5_stopOne_0 := by decide +kernel
theorem dksX5_stopOne_1 : cX5_stopOne.data.toList.drop 24 = dktX5_stopOne_1 := dk_seg dksX5_stopOne_0 24 rfl rfl
theorem dksX5_stopOne_2 : cX5_stopOne.data.toList.drop 46 = dktX5_stopOne_2 := dk_seg dksX5_stopOne_1 22 rfl rfl
theorem dX5_stopOne_0 : decode cX5_stopOne 0 = .ok (.aload_n 0, 1) := dk_42 (dk_at dksX5_stopOne_0 0 rfl rfl)
theorem dX5_stopOne_1 : decode cX5_stopOne 1 = .ok (.getfield 18, 3) := dk_180 0 18 (dk_at dksX5_stopOne_0 1 rfl rfl)
theorem dX5_stopOne_4 : decode cX5_stopOne 4 = .ok (.iload_n 1, 1) := dk_27 (dk_at dksX5_stopOne_0 4 rfl rfl)
theorem dX5_stopOne_5 : decode cX5_stopOne 5 = .ok (.iconst 1, 1) := dk_4 (dk_at dksX5_stopOne_0 5 rfl rfl)
theorem dX5_stopOne_6 : decode cX5_stopOne 6 = .ok (.bastore, 1) := dk_84 (dk_at dksX5_stopOne_0 6 rfl rfl)
theorem dX5_stopOne_7 : decode cX5_stopOne 7 = .ok (.aload_n 0, 1) := dk_42 (dk_at dksX5_stopOne_0 7 rfl rfl)
theorem dX5_stopOne_8 : decode cX5_stopOne 8 = .ok (.dup, 1) := dk_89 (dk_at dksX5_stopOne_0 8 rfl rfl)
theorem dX5_stopOne_9 : decode cX5_stopOne 9 = .ok (.getfield 42, 3) := dk_180 0 42 (dk_at dksX5_stopOne_0 9 rfl rfl)
theorem dX5_stopOne_12 : decode cX5_stopOne 12 = .ok (.aload_n 0, 1) := dk_42 (dk_at dksX5_stopOne_0 12 rfl rfl)
theorem dX5_stopOne_13 : decode cX5_stopOne 13 = .ok (.getfield 22, 3) := dk_180 0 22 (dk_at dksX5_stopOne_0 13 rfl rfl)
theorem dX5_stopOne_16 : decode cX5_stopOne 16 = .ok (.iload_n 1, 1) := dk_27 (dk_at dksX5_stopOne_0 16 rfl rfl)
theorem dX5_stopOne_17 : decode cX5_stopOne 17 = .ok (.iaload, 1) := dk_46 (dk_at dksX5_stopOne_0 17 rfl rfl)
theorem dX5_stopOne_18 : decode cX5_stopOne 18 = .ok (.iadd, 1) := dk_96 (dk_at dksX5_stopOne_0 18 rfl rfl)
theorem dX5_stopOne_19 : decode cX5_stopOne 19 = .ok (.putfield 42, 3) := dk_181 0 42 (dk_at dksX5_stopOne_0 19 rfl rfl)
theorem dX5_stopOne_22 : decode cX5_stopOne 22 = .ok (.iconst 0, 1) := dk_3 (dk_at dksX5_stopOne_0 22 rfl rfl)
theorem dX5_stopOne_23 : decode cX5_stopOne 23 = .ok (.istore_n 2, 1) := dk_61 (dk_at dksX5_stopOne_0 23 rfl rfl)
theorem dX5_stopOne_24 : decode cX5_stopOne 24 = .ok (.iload_n 2, 1) := dk_28 (dk_at dksX5_stopOne_1 0 rfl rfl)
theorem dX5_stopOne_25 : decode cX5_stopOne 25 = .ok (.aload_n 0, 1) := dk_42 (dk_at dksX5_stopOne_1 1 rfl rfl)
theorem dX5_stopOne_26 : decode cX5_stopOne 26 = .ok (.getfield 22, 3) := dk_180 0 22 (dk_at dksX5_stopOne_1 2 rfl rfl)
theorem dX5_stopOne_29 : decode cX5_stopOne 29 = .ok (.iload_n 1, 1) := dk_27 (dk_at dksX5_stopOne_1 5 rfl rfl)
theorem dX5_stopOne_30 : decode cX5_stopOne 30 = .ok (.iaload, 1) := dk_46 (dk_at dksX5_stopOne_1 6 rfl rfl)
theorem dX5_stopOne_31 : decode cX5_stopOne 31 = .ok (.if_icmp .ge 21, 3) := dk_162 0 21 (dk_at dksX5_stopOne_1 7 rfl rfl)
theorem dX5_stopOne_34 : decode cX5_stopOne 34 = .ok (.aload_n 0, 1) := dk_42 (dk_at dksX5_stopOne_1 10 rfl rfl)
theorem dX5_stopOne_35 : decode cX5_stopOne 35 = .ok (.getfield 25, 3) := dk_180 0 25 (dk_at dksX5_stopOne_1 11 rfl rfl)
theorem dX5_stopOne_38 : decode cX5_stopOne 38 = .ok (.bipush 6, 2) := dk_16 6 (dk_at dksX5_stopOne_1 14 rfl rfl)
theorem dX5_stopOne_40 : decode cX5_stopOne 40 = .ok (.iload_n 1, 1) := dk_27 (dk_at dksX5_stopOne_1 16 rfl rfl)
theorem dX5_stopOne_41 : decode cX5_stopOne 41 = .ok (.imul, 1) := dk_104 (dk_at dksX5_stopOne_1 17 rfl rfl)
theorem dX5_stopOne_42 : decode cX5_stopOne 42 = .ok (.iload_n 2, 1) := dk_28 (dk_at dksX5_stopOne_1 18 rfl rfl)
theorem dX5_stopOne_43 : decode cX5_stopOne 43 = .ok (.iadd, 1) := dk_96 (dk_at dksX5_stopOne_1 19 rfl rfl)
theorem dX5_stopOne_44 : decode cX5_stopOne 44 = .ok (.iconst 0, 1) := dk_3 (dk_at dksX5_stopOne_1 20 rfl rfl)
theorem dX5_stopOne_45 : decode cX5_stopOne 45 = .ok (.iastore, 1) := dk_79 (dk_at dksX5_stopOne_1 21 rfl rfl)
theorem dX5_stopOne_46 : decode cX5_stopOne 46 = .ok (.iinc 2 1, 3) := dk_132 2 1 (dk_at dksX5_stopOne_2 0 rfl rfl)
theorem dX5_stopOne_49 : decode cX5_stopOne 49 = .ok (.goto (-25), 3) := dk_167 255 231 (dk_at dksX5_stopOne_2 3 rfl rfl)
theorem dX5_stopOne_52 : decode cX5_stopOne 52 = .ok (.aload_n 0, 1) := dk_42 (dk_at dksX5_stopOne_2 6 rfl rfl)
theorem dX5_stopOne_53 : decode cX5_stopOne 53 = .ok (.getfield 22, 3) := dk_180 0 22 (dk_at dksX5_stopOne_2 7 rfl rfl)
theorem dX5_stopOne_56 : decode cX5_stopOne 56 = .ok (.iload_n 1, 1) := dk_27 (dk_at dksX5_stopOne_2 10 rfl rfl)
theorem dX5_stopOne_57 : decode cX5_stopOne 57 = .ok (.iconst 0, 1) := dk_3 (dk_at dksX5_stopOne_2 11 rfl rfl)
theorem dX5_stopOne_58 : decode cX5_stopOne 58 = .ok (.iastore, 1) := dk_79 (dk_at dksX5_stopOne_2 12 rfl rfl)
theorem dX5_stopOne_59 : decode cX5_stopOne 59 = .ok (.return_, 1) := dk_177 (dk_at dksX5_stopOne_2 13 rfl rfl)
abbrev cX5_readyCount : ByteArray := prog_9_method_11_code
def yX5_readyCount : MethodName := ⟨RX5, "readyCount", "()I"⟩
def dkwX5_readyCount_1 : List UInt8 := [4, 167, 0, 4, 3, 96, 60, 132, 2, 1, 167, 255, 226, 27, 172]
abbrev dktX5_readyCount_1 : List UInt8 := dkwX5_readyCount_1 ++ []
def dkwX5_readyCount_0 : List UInt8 := [3, 60, 3, 61, 28, 42, 180, 0, 28, 180, 0, 76, 162, 0, 25, 27, 42, 28, 182, 0, 79, 153, 0, 7]
abbrev dktX5_readyCount_0 : List UInt8 := dkwX5_readyCount_0 ++ dktX5_readyCount_1
theorem dksX5_readyCount_0 : cX5_readyCount.data.toList.drop 0 = dktX5_readyCount_0 := by decide +kernel
theorem dksX5_readyCount_1 : cX5_readyCount.data.toList.drop 24 = dktX5_readyCount_1 := dk_seg dksX5_readyCount_0 24 rfl rfl
theorem dX5_readyCount_0 : decode cX5_readyCount 0 = .ok (.iconst 0, 1) := dk_3 (dk_at dksX5_readyCount_0 0 rfl rfl)
theorem dX5_readyCount_1 : decode cX5_readyCount 1 = .ok (.istore_n 1, 1) := dk_60 (dk_at dksX5_readyCount_0 1 rfl rfl)
theorem dX5_readyCount_2 : decode cX5_readyCount 2 = .ok (.iconst 0, 1) := dk_3 (dk_at dksX5_readyCount_0 2 rfl rfl)
theorem dX5_readyCount_3 : decode cX5_readyCount 3 = .ok (.istore_n 2, 1) := dk_61 (dk_at dksX5_readyCount_0 3 rfl rfl)
theorem dX5_readyCount_4 : decode cX5_readyCount 4 = .ok (.iload_n 2, 1) := dk_28 (dk_at dksX5_readyCount_0 4 rfl rfl)
theorem dX5_readyCount_5 : decode cX5_readyCount 5 = .ok (.aload_n 0, 1) := dk_42 (dk_at dksX5_readyCount_0 5 rfl rfl)
theorem dX5_readyCount_6 : decode cX5_readyCount 6 = .ok (.getfield 28, 3) := dk_180 0 28 (dk_at dksX5_readyCount_0 6 rfl rfl)
theorem dX5_readyCount_9 : decode cX5_readyCount 9 = .ok (.getfield 76, 3) := dk_180 0 76 (dk_at dksX5_readyCount_0 9 rfl rfl)
theorem dX5_readyCount_12 : decode cX5_readyCount 12 = .ok (.if_icmp .ge 25, 3) := dk_162 0 25 (dk_at dksX5_readyCount_0 12 rfl rfl)
theorem dX5_readyCount_15 : decode cX5_readyCount 15 = .ok (.iload_n 1, 1) := dk_27 (dk_at dksX5_readyCount_0 15 rfl rfl)
theorem dX5_readyCount_16 : decode cX5_readyCount 16 = .ok (.aload_n 0, 1) := dk_42 (dk_at dksX5_readyCount_0 16 rfl rfl)
theorem dX5_readyCount_17 : decode cX5_readyCount 17 = .ok (.iload_n 2, 1) := dk_28 (dk_at dksX5_readyCount_0 17 rfl rfl)
theorem dX5_readyCount_18 : decode cX5_readyCount 18 = .ok (.invokevirtual 79, 3) := dk_182 0 79 (dk_at dksX5_readyCount_0 18 rfl rfl)
theorem dX5_readyCount_21 : decode cX5_readyCount 21 = .ok (.ifCond .eq 7, 3) := dk_153 0 7 (dk_at dksX5_readyCount_0 21 rfl rfl)
theorem dX5_readyCount_24 : decode cX5_readyCount 24 = .ok (.iconst 1, 1) := dk_4 (dk_at dksX5_readyCount_1 0 rfl rfl)
theorem dX5_readyCount_25 : decode cX5_readyCount 25 = .ok (.goto 4, 3) := dk_167 0 4 (dk_at dksX5_readyCount_1 1 rfl rfl)
theorem dX5_readyCount_28 : decode cX5_readyCount 28 = .ok (.iconst 0, 1) := dk_3 (dk_at dksX5_readyCount_1 4 rfl rfl)
theorem dX5_readyCount_29 : decode cX5_readyCount 29 = .ok (.iadd, 1) := dk_96 (dk_at dksX5_readyCount_1 5 rfl rfl)
theorem dX5_readyCount_30 : decode cX5_readyCount 30 = .ok (.istore_n 1, 1) := dk_60 (dk_at dksX5_readyCount_1 6 rfl rfl)
theorem dX5_readyCount_31 : decode cX5_readyCount 31 = .ok (.iinc 2 1, 3) := dk_132 2 1 (dk_at dksX5_readyCount_1 7 rfl rfl)
theorem dX5_readyCount_34 : decode cX5_readyCount 34 = .ok (.goto (-30), 3) := dk_167 255 226 (dk_at dksX5_readyCount_1 10 rfl rfl)
theorem dX5_readyCount_37 : decode cX5_readyCount 37 = .ok (.iload_n 1, 1) := dk_27 (dk_at dksX5_readyCount_1 13 rfl rfl)
theorem dX5_readyCount_38 : decode cX5_readyCount 38 = .ok (.ireturn, 1) := dk_172 (dk_at dksX5_readyCount_1 14 rfl rfl)
abbrev cX5_isReady : ByteArray := prog_9_method_10_code
def yX5_isReady : MethodName := ⟨RX5, "isReady", "(I)Z"⟩
def dkwX5_isReady_0 : List UInt8 := [42, 27, 182, 0, 63, 153, 0, 15, 42, 27, 182, 0, 73, 154, 0, 7, 4, 167, 0, 4, 3, 172]
abbrev dktX5_isReady_0 : List UInt8 := dkwX5_isReady_0 ++ []
theorem dksX5_isReady_0 : cX5_isReady.data.toList.drop 0 = dktX5_isReady_0 := by decide +kernel
theorem dX5_isReady_0 : decode cX5_isReady 0 = .ok (.aload_n 0, 1) := dk_42 (dk_at dksX5_isReady_0 0 rfl rfl)
theorem dX5_isReady_1 : decode cX5_isReady 1 = .ok (.iload_n 1, 1) := dk_27 (dk_at dksX5_isReady_0 1 rfl rfl)
theorem dX5_isReady_2 : decode cX5_isReady 2 = .ok (.invokevirtual 63, 3) := dk_182 0 63 (dk_at dksX5_isReady_0 2 rfl rfl)
theorem dX5_isReady_5 : decode cX5_isReady 5 = .ok (.ifCond .eq 15, 3) := dk_153 0 15 (dk_at dksX5_isReady_0 5 rfl rfl)
theorem dX5_isReady_8 : decode cX5_isReady 8 = .ok (.aload_n 0, 1) := dk_42 (dk_at dksX5_isReady_0 8 rfl rfl)
theorem dX5_isReady_9 : decode cX5_isReady 9 = .ok (.iload_n 1, 1) := dk_27 (dk_at dksX5_isReady_0 9 rfl rfl)
theorem dX5_isReady_10 : decode cX5_isReady 10 = .ok (.invokevirtual 73, 3) := dk_182 0 73 (dk_at dksX5_isReady_0 10 rfl rfl)
theorem dX5_isReady_13 : decode cX5_isReady 13 = .ok (.ifCond .ne 7, 3) := dk_154 0 7 (dk_at dksX5_isReady_0 13 rfl rfl)
theorem dX5_isReady_16 : decode cX5_isReady 16 = .ok (.iconst 1, 1) := dk_4 (dk_at dksX5_isReady_0 16 rfl rfl)
theorem dX5_isReady_17 : decode cX5_isReady 17 = .ok (.goto 4, 3) := dk_167 0 4 (dk_at dksX5_isReady_0 17 rfl rfl)
theorem dX5_isReady_20 : decode cX5_isReady 20 = .ok (.iconst 0, 1) := dk_3 (dk_at dksX5_isReady_0 20 rfl rfl)
theorem dX5_isReady_21 : decode cX5_isReady 21 = .ok (.ireturn, 1) := dk_172 (dk_at dksX5_isReady_0 21 rfl rfl)
abbrev cX5_ready : ByteArray := prog_9_method_12_code
def yX5_ready : MethodName := ⟨RX5, "ready", "(I)I"⟩
def dkwX5_ready_1 : List UInt8 := [153, 0, 7, 4, 167, 0, 4, 3, 100, 62, 132, 2, 1, 167, 255, 225, 28, 172]
abbrev dktX5_ready_1 : List UInt8 := dkwX5_ready_1 ++ []
def dkwX5_ready_0 : List UInt8 := [3, 61, 27, 62, 42, 28, 182, 0, 79, 153, 0, 7, 29, 158, 0, 25, 29, 42, 28, 182, 0, 79]
abbrev dktX5_ready_0 : List UInt8 := dkwX5_ready_0 ++ dktX5_ready_1
theorem dksX5_ready_0 : cX5_ready.data.toList.drop 0 = dktX5_ready_0 := by decide +kernel
theorem dksX5_ready_1 : cX5_ready.data.toList.drop 22 = dktX5_ready_1 := dk_seg dksX5_ready_0 22 rfl rfl
theorem dX5_ready_0 : decode cX5_ready 0 = .ok (.iconst 0, 1) := dk_3 (dk_at dksX5_ready_0 0 rfl rfl)
theorem dX5_ready_1 : decode cX5_ready 1 = .ok (.istore_n 2, 1) := dk_61 (dk_at dksX5_ready_0 1 rfl rfl)
theorem dX5_ready_2 : decode cX5_ready 2 = .ok (.iload_n 1, 1) := dk_27 (dk_at dksX5_ready_0 2 rfl rfl)
theorem dX5_ready_3 : decode cX5_ready 3 = .ok (.istore_n 3, 1) := dk_62 (dk_at dksX5_ready_0 3 rfl rfl)
theorem dX5_ready_4 : decode cX5_ready 4 = .ok (.aload_n 0, 1) := dk_42 (dk_at dksX5_ready_0 4 rfl rfl)
theorem dX5_ready_5 : decode cX5_ready 5 = .ok (.iload_n 2, 1) := dk_28 (dk_at dksX5_ready_0 5 rfl rfl)
theorem dX5_ready_6 : decode cX5_ready 6 = .ok (.invokevirtual 79, 3) := dk_182 0 79 (dk_at dksX5_ready_0 6 rfl rfl)
theorem dX5_ready_9 : decode cX5_ready 9 = .ok (.ifCond .eq 7, 3) := dk_153 0 7 (dk_at dksX5_ready_0 9 rfl rfl)
theorem dX5_ready_12 : decode cX5_ready 12 = .ok (.iload_n 3, 1) := dk_29 (dk_at dksX5_ready_0 12 rfl rfl)
theorem dX5_ready_13 : decode cX5_ready 13 = .ok (.ifCond .le 25, 3) := dk_158 0 25 (dk_at dksX5_ready_0 13 rfl rfl)
theorem dX5_ready_16 : decode cX5_ready 16 = .ok (.iload_n 3, 1) := dk_29 (dk_at dksX5_ready_0 16 rfl rfl)
theorem dX5_ready_17 : decode cX5_ready 17 = .ok (.aload_n 0, 1) := dk_42 (dk_at dksX5_ready_0 17 rfl rfl)
theorem dX5_ready_18 : decode cX5_ready 18 = .ok (.iload_n 2, 1) := dk_28 (dk_at dksX5_ready_0 18 rfl rfl)
theorem dX5_ready_19 : decode cX5_ready 19 = .ok (.invokevirtual 79, 3) := dk_182 0 79 (dk_at dksX5_ready_0 19 rfl rfl)
theorem dX5_ready_22 : decode cX5_ready 22 = .ok (.ifCond .eq 7, 3) := dk_153 0 7 (dk_at dksX5_ready_1 0 rfl rfl)
theorem dX5_ready_25 : decode cX5_ready 25 = .ok (.iconst 1, 1) := dk_4 (dk_at dksX5_ready_1 3 rfl rfl)
theorem dX5_ready_26 : decode cX5_ready 26 = .ok (.goto 4, 3) := dk_167 0 4 (dk_at dksX5_ready_1 4 rfl rfl)
theorem dX5_ready_29 : decode cX5_ready 29 = .ok (.iconst 0, 1) := dk_3 (dk_at dksX5_ready_1 7 rfl rfl)
theorem dX5_ready_30 : decode cX5_ready 30 = .ok (.isub, 1) := dk_100 (dk_at dksX5_ready_1 8 rfl rfl)
theorem dX5_ready_31 : decode cX5_ready 31 = .ok (.istore_n 3, 1) := dk_62 (dk_at dksX5_ready_1 9 rfl rfl)
theorem dX5_ready_32 : decode cX5_ready 32 = .ok (.iinc 2 1, 3) := dk_132 2 1 (dk_at dksX5_ready_1 10 rfl rfl)
theorem dX5_ready_35 : decode cX5_ready 35 = .ok (.goto (-31), 3) := dk_167 255 225 (dk_at dksX5_ready_1 13 rfl rfl)
theorem dX5_ready_38 : decode cX5_ready 38 = .ok (.iload_n 2, 1) := dk_28 (dk_at dksX5_ready_1 16 rfl rfl)
theorem dX5_ready_39 : decode cX5_ready 39 = .ok (.ireturn, 1) := dk_172 (dk_at dksX5_ready_1 17 rfl rfl)
abbrev cX5_handle : ByteArray := prog_9_method_19_code
def yX5_handle : MethodName := ⟨RX5, "handle", "(I)V"⟩
def dkwX5_handle_4 : List UInt8 := [182, 0, 127, 167, 0, 18, 42, 27, 5, 29, 104, 16, 100, 112, 21, 4, 4, 96, 182, 0, 127, 177]
abbrev dktX5_handle_4 : List UInt8 := dkwX5_handle_4 ++ []
def dkwX5_handle_3 : List UInt8 := [29, 184, 0, 119, 79, 167, 0, 40, 42, 27, 29, 182, 0, 124, 167, 0, 31, 42, 27, 29, 21, 4, 4, 96]
abbrev dktX5_handle_3 : List UInt8 := dkwX5_handle_3 ++ dktX5_handle_4
def dkwX5_handle_2 : List UInt8 := [42, 180, 0, 9, 27, 92, 46, 29, 96, 79, 167, 0, 59, 42, 180, 0, 9, 27, 42, 180, 0, 9, 27, 46]
abbrev dktX5_handle_2 : List UInt8 := dkwX5_handle_2 ++ dktX5_handle_3
def dkwX5_handle_1 : List UInt8 := [171, 0, 0, 0, 0, 0, 0, 98, 0, 0, 0, 4, 0, 0, 0, 97, 0, 0, 0, 44, 0, 0, 0, 102, 0, 0, 0, 85, 0, 0, 0, 107, 0, 0, 0, 57, 0, 0, 0, 120, 0, 0, 0, 76]
abbrev dktX5_handle_1 : List UInt8 := dkwX5_handle_1 ++ dktX5_handle_2
def dkwX5_handle_0 : List UInt8 := [42, 27, 182, 0, 113, 61, 28, 7, 108, 62, 28, 7, 112, 54, 4, 42, 180, 0, 28, 180, 0, 116, 27, 52]
abbrev dktX5_handle_0 : List UInt8 := dkwX5_handle_0 ++ dktX5_handle_1
theorem dksX5_handle_0 : cX5_handle.data.toList.drop 0 = dktX5_handle_0 := by decide +kernel
theorem dksX5_handle_1 : cX5_handle.data.toList.drop 24 = dktX5_handle_1 := dk_seg dksX5_handle_0 24 rfl rfl
theorem dksX5_handle_2 : cX5_handle.data.toList.drop 68 = dktX5_handle_2 := dk_seg dksX5_handle_1 44 rfl rfl
theorem dksX5_handle_3 : cX5_handle.data.toList.drop 92 = dktX5_handle_3 := dk_seg dksX5_handle_2 24 rfl rfl
theorem dksX5_handle_4 : cX5_handle.data.toList.drop 116 = dktX5_handle_4 := dk_seg dksX5_handle_3 24 rfl rfl
theorem dX5_handle_0 : decode cX5_handle 0 = .ok (.aload_n 0, 1) := dk_42 (dk_at dksX5_handle_0 0 rfl rfl)
theorem dX5_handle_1 : decode cX5_handle 1 = .ok (.iload_n 1, 1) := dk_27 (dk_at dksX5_handle_0 1 rfl rfl)
theorem dX5_handle_2 : decode cX5_handle 2 = .ok (.invokevirtual 113, 3) := dk_182 0 113 (dk_at dksX5_handle_0 2 rfl rfl)
theorem dX5_handle_5 : decode cX5_handle 5 = .ok (.istore_n 2, 1) := dk_61 (dk_at dksX5_handle_0 5 rfl rfl)
theorem dX5_handle_6 : decode cX5_handle 6 = .ok (.iload_n 2, 1) := dk_28 (dk_at dksX5_handle_0 6 rfl rfl)
theorem dX5_handle_7 : decode cX5_handle 7 = .ok (.iconst 4, 1) := dk_7 (dk_at dksX5_handle_0 7 rfl rfl)
theorem dX5_handle_8 : decode cX5_handle 8 = .ok (.idiv, 1) := dk_108 (dk_at dksX5_handle_0 8 rfl rfl)
theorem dX5_handle_9 : decode cX5_handle 9 = .ok (.istore_n 3, 1) := dk_62 (dk_at dksX5_handle_0 9 rfl rfl)
theorem dX5_handle_10 : decode cX5_handle 10 = .ok (.iload_n 2, 1) := dk_28 (dk_at dksX5_handle_0 10 rfl rfl)
theorem dX5_handle_11 : decode cX5_handle 11 = .ok (.iconst 4, 1) := dk_7 (dk_at dksX5_handle_0 11 rfl rfl)
theorem dX5_handle_12 : decode cX5_handle 12 = .ok (.irem, 1) := dk_112 (dk_at dksX5_handle_0 12 rfl rfl)
theorem dX5_handle_13 : decode cX5_handle 13 = .ok (.istore 4, 2) := dk_54 4 (dk_at dksX5_handle_0 13 rfl rfl)
theorem dX5_handle_15 : decode cX5_handle 15 = .ok (.aload_n 0, 1) := dk_42 (dk_at dksX5_handle_0 15 rfl rfl)
theorem dX5_handle_16 : decode cX5_handle 16 = .ok (.getfield 28, 3) := dk_180 0 28 (dk_at dksX5_handle_0 16 rfl rfl)
theorem dX5_handle_19 : decode cX5_handle 19 = .ok (.getfield 116, 3) := dk_180 0 116 (dk_at dksX5_handle_0 19 rfl rfl)
theorem dX5_handle_22 : decode cX5_handle 22 = .ok (.iload_n 1, 1) := dk_27 (dk_at dksX5_handle_0 22 rfl rfl)
theorem dX5_handle_23 : decode cX5_handle 23 = .ok (.caload, 1) := dk_52 (dk_at dksX5_handle_0 23 rfl rfl)
theorem dX5_handle_24 : decode cX5_handle 24 = .ok (.lookupswitch 98 #[(97, 44), (102, 85), (107, 57), (120, 76)], 44) := by decide +kernel
theorem dX5_handle_68 : decode cX5_handle 68 = .ok (.aload_n 0, 1) := dk_42 (dk_at dksX5_handle_2 0 rfl rfl)
theorem dX5_handle_69 : decode cX5_handle 69 = .ok (.getfield 9, 3) := dk_180 0 9 (dk_at dksX5_handle_2 1 rfl rfl)
theorem dX5_handle_72 : decode cX5_handle 72 = .ok (.iload_n 1, 1) := dk_27 (dk_at dksX5_handle_2 4 rfl rfl)
theorem dX5_handle_73 : decode cX5_handle 73 = .ok (.dup2, 1) := dk_92 (dk_at dksX5_handle_2 5 rfl rfl)
theorem dX5_handle_74 : decode cX5_handle 74 = .ok (.iaload, 1) := dk_46 (dk_at dksX5_handle_2 6 rfl rfl)
theorem dX5_handle_75 : decode cX5_handle 75 = .ok (.iload_n 3, 1) := dk_29 (dk_at dksX5_handle_2 7 rfl rfl)
theorem dX5_handle_76 : decode cX5_handle 76 = .ok (.iadd, 1) := dk_96 (dk_at dksX5_handle_2 8 rfl rfl)
theorem dX5_handle_77 : decode cX5_handle 77 = .ok (.iastore, 1) := dk_79 (dk_at dksX5_handle_2 9 rfl rfl)
theorem dX5_handle_78 : decode cX5_handle 78 = .ok (.goto 59, 3) := dk_167 0 59 (dk_at dksX5_handle_2 10 rfl rfl)
theorem dX5_handle_81 : decode cX5_handle 81 = .ok (.aload_n 0, 1) := dk_42 (dk_at dksX5_handle_2 13 rfl rfl)
theorem dX5_handle_82 : decode cX5_handle 82 = .ok (.getfield 9, 3) := dk_180 0 9 (dk_at dksX5_handle_2 14 rfl rfl)
theorem dX5_handle_85 : decode cX5_handle 85 = .ok (.iload_n 1, 1) := dk_27 (dk_at dksX5_handle_2 17 rfl rfl)
theorem dX5_handle_86 : decode cX5_handle 86 = .ok (.aload_n 0, 1) := dk_42 (dk_at dksX5_handle_2 18 rfl rfl)
theorem dX5_handle_87 : decode cX5_handle 87 = .ok (.getfield 9, 3) := dk_180 0 9 (dk_at dksX5_handle_2 19 rfl rfl)
theorem dX5_handle_90 : decode cX5_handle 90 = .ok (.iload_n 1, 1) := dk_27 (dk_at dksX5_handle_2 22 rfl rfl)
theorem dX5_handle_91 : decode cX5_handle 91 = .ok (.iaload, 1) := dk_46 (dk_at dksX5_handle_2 23 rfl rfl)
theorem dX5_handle_92 : decode cX5_handle 92 = .ok (.iload_n 3, 1) := dk_29 (dk_at dksX5_handle_3 0 rfl rfl)
theorem dX5_handle_93 : decode cX5_handle 93 = .ok (.invokestatic 119, 3) := dk_184 0 119 (dk_at dksX5_handle_3 1 rfl rfl)
theorem dX5_handle_96 : decode cX5_handle 96 = .ok (.iastore, 1) := dk_79 (dk_at dksX5_handle_3 4 rfl rfl)
theorem dX5_handle_97 : decode cX5_handle 97 = .ok (.goto 40, 3) := dk_167 0 40 (dk_at dksX5_handle_3 5 rfl rfl)
theorem dX5_handle_100 : decode cX5_handle 100 = .ok (.aload_n 0, 1) := dk_42 (dk_at dksX5_handle_3 8 rfl rfl)
theorem dX5_handle_101 : decode cX5_handle 101 = .ok (.iload_n 1, 1) := dk_27 (dk_at dksX5_handle_3 9 rfl rfl)
theorem dX5_handle_102 : decode cX5_handle 102 = .ok (.iload_n 3, 1) := dk_29 (dk_at dksX5_handle_3 10 rfl rfl)
theorem dX5_handle_103 : decode cX5_handle 103 = .ok (.invokevirtual 124, 3) := dk_182 0 124 (dk_at dksX5_handle_3 11 rfl rfl)
theorem dX5_handle_106 : decode cX5_handle 106 = .ok (.goto 31, 3) := dk_167 0 31 (dk_at dksX5_handle_3 14 rfl rfl)
theorem dX5_handle_109 : decode cX5_handle 109 = .ok (.aload_n 0, 1) := dk_42 (dk_at dksX5_handle_3 17 rfl rfl)
theorem dX5_handle_110 : decode cX5_handle 110 = .ok (.iload_n 1, 1) := dk_27 (dk_at dksX5_handle_3 18 rfl rfl)
theorem dX5_handle_111 : decode cX5_handle 111 = .ok (.iload_n 3, 1) := dk_29 (dk_at dksX5_handle_3 19 rfl rfl)
theorem dX5_handle_112 : decode cX5_handle 112 = .ok (.iload 4, 2) := dk_21 4 (dk_at dksX5_handle_3 20 rfl rfl)
theorem dX5_handle_114 : decode cX5_handle 114 = .ok (.iconst 1, 1) := dk_4 (dk_at dksX5_handle_3 22 rfl rfl)
theorem dX5_handle_115 : decode cX5_handle 115 = .ok (.iadd, 1) := dk_96 (dk_at dksX5_handle_3 23 rfl rfl)
theorem dX5_handle_116 : decode cX5_handle 116 = .ok (.invokevirtual 127, 3) := dk_182 0 127 (dk_at dksX5_handle_4 0 rfl rfl)
theorem dX5_handle_119 : decode cX5_handle 119 = .ok (.goto 18, 3) := dk_167 0 18 (dk_at dksX5_handle_4 3 rfl rfl)
theorem dX5_handle_122 : decode cX5_handle 122 = .ok (.aload_n 0, 1) := dk_42 (dk_at dksX5_handle_4 6 rfl rfl)
theorem dX5_handle_123 : decode cX5_handle 123 = .ok (.iload_n 1, 1) := dk_27 (dk_at dksX5_handle_4 7 rfl rfl)
theorem dX5_handle_124 : decode cX5_handle 124 = .ok (.iconst 2, 1) := dk_5 (dk_at dksX5_handle_4 8 rfl rfl)
theorem dX5_handle_125 : decode cX5_handle 125 = .ok (.iload_n 3, 1) := dk_29 (dk_at dksX5_handle_4 9 rfl rfl)
theorem dX5_handle_126 : decode cX5_handle 126 = .ok (.imul, 1) := dk_104 (dk_at dksX5_handle_4 10 rfl rfl)
theorem dX5_handle_127 : decode cX5_handle 127 = .ok (.bipush 100, 2) := dk_16 100 (dk_at dksX5_handle_4 11 rfl rfl)
theorem dX5_handle_129 : decode cX5_handle 129 = .ok (.irem, 1) := dk_112 (dk_at dksX5_handle_4 13 rfl rfl)
theorem dX5_handle_130 : decode cX5_handle 130 = .ok (.iload 4, 2) := dk_21 4 (dk_at dksX5_handle_4 14 rfl rfl)
theorem dX5_handle_132 : decode cX5_handle 132 = .ok (.iconst 1, 1) := dk_4 (dk_at dksX5_handle_4 16 rfl rfl)
theorem dX5_handle_133 : decode cX5_handle 133 = .ok (.iadd, 1) := dk_96 (dk_at dksX5_handle_4 17 rfl rfl)
theorem dX5_handle_134 : decode cX5_handle 134 = .ok (.invokevirtual 127, 3) := dk_182 0 127 (dk_at dksX5_handle_4 18 rfl rfl)
theorem dX5_handle_137 : decode cX5_handle 137 = .ok (.return_, 1) := dk_177 (dk_at dksX5_handle_4 21 rfl rfl)
abbrev cX5_take : ByteArray := prog_9_method_6_code
def yX5_take : MethodName := ⟨RX5, "take", "(I)I"⟩
def dkwX5_take_3 : List UInt8 := [89, 180, 0, 38, 4, 96, 181, 0, 38, 28, 172]
abbrev dktX5_take_3 : List UInt8 := dkwX5_take_3 ++ []
def dkwX5_take_2 : List UInt8 := [132, 3, 1, 167, 255, 224, 42, 180, 0, 25, 16, 6, 27, 104, 42, 180, 0, 22, 27, 46, 96, 3, 79, 42]
abbrev dktX5_take_2 : List UInt8 := dkwX5_take_2 ++ dktX5_take_3
def dkwX5_take_1 : List UInt8 := [27, 46, 162, 0, 28, 42, 180, 0, 25, 16, 6, 27, 104, 29, 96, 42, 27, 29, 4, 96, 182, 0, 56, 79]
abbrev dktX5_take_1 : List UInt8 := dkwX5_take_1 ++ dktX5_take_2
def dkwX5_take_0 : List UInt8 := [42, 27, 3, 182, 0, 56, 61, 42, 180, 0, 22, 27, 92, 46, 4, 100, 79, 3, 62, 29, 42, 180, 0, 22]
abbrev dktX5_take_0 : List UInt8 := dkwX5_take_0 ++ dktX5_take_1
theorem dksX5_take_0 : cX5_take.data.toList.drop 0 = dktX5_take_0 := by decide +kernel
theorem dksX5_take_1 : cX5_take.data.toList.drop 24 = dktX5_take_1 := dk_seg dksX5_take_0 24 rfl rfl
theorem dksX5_take_2 : cX5_take.data.toList.drop 48 = dktX5_take_2 := dk_seg dksX5_take_1 24 rfl rfl
theorem dksX5_take_3 : cX5_take.data.toList.drop 72 = dktX5_take_3 := dk_seg dksX5_take_2 24 rfl rfl
theorem dX5_take_0 : decode cX5_take 0 = .ok (.aload_n 0, 1) := dk_42 (dk_at dksX5_take_0 0 rfl rfl)
theorem dX5_take_1 : decode cX5_take 1 = .ok (.iload_n 1, 1) := dk_27 (dk_at dksX5_take_0 1 rfl rfl)
theorem dX5_take_2 : decode cX5_take 2 = .ok (.iconst 0, 1) := dk_3 (dk_at dksX5_take_0 2 rfl rfl)
theorem dX5_take_3 : decode cX5_take 3 = .ok (.invokevirtual 56, 3) := dk_182 0 56 (dk_at dksX5_take_0 3 rfl rfl)
theorem dX5_take_6 : decode cX5_take 6 = .ok (.istore_n 2, 1) := dk_61 (dk_at dksX5_take_0 6 rfl rfl)
theorem dX5_take_7 : decode cX5_take 7 = .ok (.aload_n 0, 1) := dk_42 (dk_at dksX5_take_0 7 rfl rfl)
theorem dX5_take_8 : decode cX5_take 8 = .ok (.getfield 22, 3) := dk_180 0 22 (dk_at dksX5_take_0 8 rfl rfl)
theorem dX5_take_11 : decode cX5_take 11 = .ok (.iload_n 1, 1) := dk_27 (dk_at dksX5_take_0 11 rfl rfl)
theorem dX5_take_12 : decode cX5_take 12 = .ok (.dup2, 1) := dk_92 (dk_at dksX5_take_0 12 rfl rfl)
theorem dX5_take_13 : decode cX5_take 13 = .ok (.iaload, 1) := dk_46 (dk_at dksX5_take_0 13 rfl rfl)
theorem dX5_take_14 : decode cX5_take 14 = .ok (.iconst 1, 1) := dk_4 (dk_at dksX5_take_0 14 rfl rfl)
theorem dX5_take_15 : decode cX5_take 15 = .ok (.isub, 1) := dk_100 (dk_at dksX5_take_0 15 rfl rfl)
theorem dX5_take_16 : decode cX5_take 16 = .ok (.iastore, 1) := dk_79 (dk_at dksX5_take_0 16 rfl rfl)
theorem dX5_take_17 : decode cX5_take 17 = .ok (.iconst 0, 1) := dk_3 (dk_at dksX5_take_0 17 rfl rfl)
theorem dX5_take_18 : decode cX5_take 18 = .ok (.istore_n 3, 1) := dk_62 (dk_at dksX5_take_0 18 rfl rfl)
theorem dX5_take_19 : decode cX5_take 19 = .ok (.iload_n 3, 1) := dk_29 (dk_at dksX5_take_0 19 rfl rfl)
theorem dX5_take_20 : decode cX5_take 20 = .ok (.aload_n 0, 1) := dk_42 (dk_at dksX5_take_0 20 rfl rfl)
theorem dX5_take_21 : decode cX5_take 21 = .ok (.getfield 22, 3) := dk_180 0 22 (dk_at dksX5_take_0 21 rfl rfl)
theorem dX5_take_24 : decode cX5_take 24 = .ok (.iload_n 1, 1) := dk_27 (dk_at dksX5_take_1 0 rfl rfl)
theorem dX5_take_25 : decode cX5_take 25 = .ok (.iaload, 1) := dk_46 (dk_at dksX5_take_1 1 rfl rfl)
theorem dX5_take_26 : decode cX5_take 26 = .ok (.if_icmp .ge 28, 3) := dk_162 0 28 (dk_at dksX5_take_1 2 rfl rfl)
theorem dX5_take_29 : decode cX5_take 29 = .ok (.aload_n 0, 1) := dk_42 (dk_at dksX5_take_1 5 rfl rfl)
theorem dX5_take_30 : decode cX5_take 30 = .ok (.getfield 25, 3) := dk_180 0 25 (dk_at dksX5_take_1 6 rfl rfl)
theorem dX5_take_33 : decode cX5_take 33 = .ok (.bipush 6, 2) := dk_16 6 (dk_at dksX5_take_1 9 rfl rfl)
theorem dX5_take_35 : decode cX5_take 35 = .ok (.iload_n 1, 1) := dk_27 (dk_at dksX5_take_1 11 rfl rfl)
theorem dX5_take_36 : decode cX5_take 36 = .ok (.imul, 1) := dk_104 (dk_at dksX5_take_1 12 rfl rfl)
theorem dX5_take_37 : decode cX5_take 37 = .ok (.iload_n 3, 1) := dk_29 (dk_at dksX5_take_1 13 rfl rfl)
theorem dX5_take_38 : decode cX5_take 38 = .ok (.iadd, 1) := dk_96 (dk_at dksX5_take_1 14 rfl rfl)
theorem dX5_take_39 : decode cX5_take 39 = .ok (.aload_n 0, 1) := dk_42 (dk_at dksX5_take_1 15 rfl rfl)
theorem dX5_take_40 : decode cX5_take 40 = .ok (.iload_n 1, 1) := dk_27 (dk_at dksX5_take_1 16 rfl rfl)
theorem dX5_take_41 : decode cX5_take 41 = .ok (.iload_n 3, 1) := dk_29 (dk_at dksX5_take_1 17 rfl rfl)
theorem dX5_take_42 : decode cX5_take 42 = .ok (.iconst 1, 1) := dk_4 (dk_at dksX5_take_1 18 rfl rfl)
theorem dX5_take_43 : decode cX5_take 43 = .ok (.iadd, 1) := dk_96 (dk_at dksX5_take_1 19 rfl rfl)
theorem dX5_take_44 : decode cX5_take 44 = .ok (.invokevirtual 56, 3) := dk_182 0 56 (dk_at dksX5_take_1 20 rfl rfl)
theorem dX5_take_47 : decode cX5_take 47 = .ok (.iastore, 1) := dk_79 (dk_at dksX5_take_1 23 rfl rfl)
theorem dX5_take_48 : decode cX5_take 48 = .ok (.iinc 3 1, 3) := dk_132 3 1 (dk_at dksX5_take_2 0 rfl rfl)
theorem dX5_take_51 : decode cX5_take 51 = .ok (.goto (-32), 3) := dk_167 255 224 (dk_at dksX5_take_2 3 rfl rfl)
theorem dX5_take_54 : decode cX5_take 54 = .ok (.aload_n 0, 1) := dk_42 (dk_at dksX5_take_2 6 rfl rfl)
theorem dX5_take_55 : decode cX5_take 55 = .ok (.getfield 25, 3) := dk_180 0 25 (dk_at dksX5_take_2 7 rfl rfl)
theorem dX5_take_58 : decode cX5_take 58 = .ok (.bipush 6, 2) := dk_16 6 (dk_at dksX5_take_2 10 rfl rfl)
theorem dX5_take_60 : decode cX5_take 60 = .ok (.iload_n 1, 1) := dk_27 (dk_at dksX5_take_2 12 rfl rfl)
theorem dX5_take_61 : decode cX5_take 61 = .ok (.imul, 1) := dk_104 (dk_at dksX5_take_2 13 rfl rfl)
theorem dX5_take_62 : decode cX5_take 62 = .ok (.aload_n 0, 1) := dk_42 (dk_at dksX5_take_2 14 rfl rfl)
theorem dX5_take_63 : decode cX5_take 63 = .ok (.getfield 22, 3) := dk_180 0 22 (dk_at dksX5_take_2 15 rfl rfl)
theorem dX5_take_66 : decode cX5_take 66 = .ok (.iload_n 1, 1) := dk_27 (dk_at dksX5_take_2 18 rfl rfl)
theorem dX5_take_67 : decode cX5_take 67 = .ok (.iaload, 1) := dk_46 (dk_at dksX5_take_2 19 rfl rfl)
theorem dX5_take_68 : decode cX5_take 68 = .ok (.iadd, 1) := dk_96 (dk_at dksX5_take_2 20 rfl rfl)
theorem dX5_take_69 : decode cX5_take 69 = .ok (.iconst 0, 1) := dk_3 (dk_at dksX5_take_2 21 rfl rfl)
theorem dX5_take_70 : decode cX5_take 70 = .ok (.iastore, 1) := dk_79 (dk_at dksX5_take_2 22 rfl rfl)
theorem dX5_take_71 : decode cX5_take 71 = .ok (.aload_n 0, 1) := dk_42 (dk_at dksX5_take_2 23 rfl rfl)
theorem dX5_take_72 : decode cX5_take 72 = .ok (.dup, 1) := dk_89 (dk_at dksX5_take_3 0 rfl rfl)
theorem dX5_take_73 : decode cX5_take 73 = .ok (.getfield 38, 3) := dk_180 0 38 (dk_at dksX5_take_3 1 rfl rfl)
theorem dX5_take_76 : decode cX5_take 76 = .ok (.iconst 1, 1) := dk_4 (dk_at dksX5_take_3 4 rfl rfl)
theorem dX5_take_77 : decode cX5_take 77 = .ok (.iadd, 1) := dk_96 (dk_at dksX5_take_3 5 rfl rfl)
theorem dX5_take_78 : decode cX5_take 78 = .ok (.putfield 38, 3) := dk_181 0 38 (dk_at dksX5_take_3 6 rfl rfl)
theorem dX5_take_81 : decode cX5_take 81 = .ok (.iload_n 2, 1) := dk_28 (dk_at dksX5_take_3 9 rfl rfl)
theorem dX5_take_82 : decode cX5_take 82 = .ok (.ireturn, 1) := dk_172 (dk_at dksX5_take_3 10 rfl rfl)
abbrev cX5_handleFragile : ByteArray := prog_9_method_20_code
def yX5_handleFragile : MethodName := ⟨RX5, "handleFragile", "(II)V"⟩
def dkwX5_handleFragile_1 : List UInt8 := [79, 177]
abbrev dktX5_handleFragile_1 : List UInt8 := dkwX5_handleFragile_1 ++ []
def dkwX5_handleFragile_0 : List UInt8 := [28, 16, 7, 112, 154, 0, 11, 42, 27, 182, 0, 97, 167, 0, 13, 42, 180, 0, 9, 27, 92, 46, 28, 96]
abbrev dktX5_handleFragile_0 : List UInt8 := dkwX5_handleFragile_0 ++ dktX5_handleFragile_1
theorem dksX5_handleFragile_0 : cX5_handleFragile.data.toList.drop 0 = dktX5_handleFragile_0 := by decide +kernel
theorem dksX5_handleFragile_1 : cX5_handleFragile.data.toList.drop 24 = dktX5_handleFragile_1 := dk_seg dksX5_handleFragile_0 24 rfl rfl
theorem dX5_handleFragile_0 : decode cX5_handleFragile 0 = .ok (.iload_n 2, 1) := dk_28 (dk_at dksX5_handleFragile_0 0 rfl rfl)
theorem dX5_handleFragile_1 : decode cX5_handleFragile 1 = .ok (.bipush 7, 2) := dk_16 7 (dk_at dksX5_handleFragile_0 1 rfl rfl)
theorem dX5_handleFragile_3 : decode cX5_handleFragile 3 = .ok (.irem, 1) := dk_112 (dk_at dksX5_handleFragile_0 3 rfl rfl)
theorem dX5_handleFragile_4 : decode cX5_handleFragile 4 = .ok (.ifCond .ne 11, 3) := dk_154 0 11 (dk_at dksX5_handleFragile_0 4 rfl rfl)
theorem dX5_handleFragile_7 : decode cX5_handleFragile 7 = .ok (.aload_n 0, 1) := dk_42 (dk_at dksX5_handleFragile_0 7 rfl rfl)
theorem dX5_handleFragile_8 : decode cX5_handleFragile 8 = .ok (.iload_n 1, 1) := dk_27 (dk_at dksX5_handleFragile_0 8 rfl rfl)
theorem dX5_handleFragile_9 : decode cX5_handleFragile 9 = .ok (.invokevirtual 97, 3) := dk_182 0 97 (dk_at dksX5_handleFragile_0 9 rfl rfl)
theorem dX5_handleFragile_12 : decode cX5_handleFragile 12 = .ok (.goto 13, 3) := dk_167 0 13 (dk_at dksX5_handleFragile_0 12 rfl rfl)
theorem dX5_handleFragile_15 : decode cX5_handleFragile 15 = .ok (.aload_n 0, 1) := dk_42 (dk_at dksX5_handleFragile_0 15 rfl rfl)
theorem dX5_handleFragile_16 : decode cX5_handleFragile 16 = .ok (.getfield 9, 3) := dk_180 0 9 (dk_at dksX5_handleFragile_0 16 rfl rfl)
theorem dX5_handleFragile_19 : decode cX5_handleFragile 19 = .ok (.iload_n 1, 1) := dk_27 (dk_at dksX5_handleFragile_0 19 rfl rfl)
theorem dX5_handleFragile_20 : decode cX5_handleFragile 20 = .ok (.dup2, 1) := dk_92 (dk_at dksX5_handleFragile_0 20 rfl rfl)
theorem dX5_handleFragile_21 : decode cX5_handleFragile 21 = .ok (.iaload, 1) := dk_46 (dk_at dksX5_handleFragile_0 21 rfl rfl)
theorem dX5_handleFragile_22 : decode cX5_handleFragile 22 = .ok (.iload_n 2, 1) := dk_28 (dk_at dksX5_handleFragile_0 22 rfl rfl)
theorem dX5_handleFragile_23 : decode cX5_handleFragile 23 = .ok (.iadd, 1) := dk_96 (dk_at dksX5_handleFragile_0 23 rfl rfl)
theorem dX5_handleFragile_24 : decode cX5_handleFragile 24 = .ok (.iastore, 1) := dk_79 (dk_at dksX5_handleFragile_1 0 rfl rfl)
theorem dX5_handleFragile_25 : decode cX5_handleFragile 25 = .ok (.return_, 1) := dk_177 (dk_at dksX5_handleFragile_1 1 rfl rfl)
abbrev cX5_fail : ByteArray := prog_9_method_16_code
def yX5_fail : MethodName := ⟨RX5, "fail", "(I)V"⟩
def dkwX5_fail_3 : List UInt8 := [182, 0, 100, 167, 0, 10, 42, 27, 182, 0, 103, 54, 4, 177]
abbrev dktX5_fail_3 : List UInt8 := dkwX5_fail_3 ++ []
def dkwX5_fail_2 : List UInt8 := [182, 0, 97, 167, 0, 34, 29, 16, 114, 160, 0, 21, 42, 180, 0, 15, 27, 46, 6, 162, 0, 11, 42, 27]
abbrev dktX5_fail_2 : List UInt8 := dkwX5_fail_2 ++ dktX5_fail_3
def dkwX5_fail_1 : List UInt8 := [180, 0, 93, 28, 52, 62, 42, 89, 180, 0, 48, 4, 96, 181, 0, 48, 29, 16, 101, 160, 0, 11, 42, 28]
abbrev dktX5_fail_1 : List UInt8 := dkwX5_fail_1 ++ dktX5_fail_2
def dkwX5_fail_0 : List UInt8 := [42, 180, 0, 28, 180, 0, 90, 27, 46, 61, 28, 2, 160, 0, 8, 16, 115, 167, 0, 12, 42, 180, 0, 28]
abbrev dktX5_fail_0 : List UInt8 := dkwX5_fail_0 ++ dktX5_fail_1
theorem dksX5_fail_0 : cX5_fail.data.toList.drop 0 = dktX5_fail_0 := by decide +kernel
theorem dksX5_fail_1 : cX5_fail.data.toList.drop 24 = dktX5_fail_1 := dk_seg dksX5_fail_0 24 rfl rfl
theorem dksX5_fail_2 : cX5_fail.data.toList.drop 48 = dktX5_fail_2 := dk_seg dksX5_fail_1 24 rfl rfl
theorem dksX5_fail_3 : cX5_fail.data.toList.drop 72 = dktX5_fail_3 := dk_seg dksX5_fail_2 24 rfl rfl
theorem dX5_fail_0 : decode cX5_fail 0 = .ok (.aload_n 0, 1) := dk_42 (dk_at dksX5_fail_0 0 rfl rfl)
theorem dX5_fail_1 : decode cX5_fail 1 = .ok (.getfield 28, 3) := dk_180 0 28 (dk_at dksX5_fail_0 1 rfl rfl)
theorem dX5_fail_4 : decode cX5_fail 4 = .ok (.getfield 90, 3) := dk_180 0 90 (dk_at dksX5_fail_0 4 rfl rfl)
theorem dX5_fail_7 : decode cX5_fail 7 = .ok (.iload_n 1, 1) := dk_27 (dk_at dksX5_fail_0 7 rfl rfl)
theorem dX5_fail_8 : decode cX5_fail 8 = .ok (.iaload, 1) := dk_46 (dk_at dksX5_fail_0 8 rfl rfl)
theorem dX5_fail_9 : decode cX5_fail 9 = .ok (.istore_n 2, 1) := dk_61 (dk_at dksX5_fail_0 9 rfl rfl)
theorem dX5_fail_10 : decode cX5_fail 10 = .ok (.iload_n 2, 1) := dk_28 (dk_at dksX5_fail_0 10 rfl rfl)
theorem dX5_fail_11 : decode cX5_fail 11 = .ok (.iconst (-1), 1) := dk_2 (dk_at dksX5_fail_0 11 rfl rfl)
theorem dX5_fail_12 : decode cX5_fail 12 = .ok (.if_icmp .ne 8, 3) := dk_160 0 8 (dk_at dksX5_fail_0 12 rfl rfl)
theorem dX5_fail_15 : decode cX5_fail 15 = .ok (.bipush 115, 2) := dk_16 115 (dk_at dksX5_fail_0 15 rfl rfl)
theorem dX5_fail_17 : decode cX5_fail 17 = .ok (.goto 12, 3) := dk_167 0 12 (dk_at dksX5_fail_0 17 rfl rfl)
theorem dX5_fail_20 : decode cX5_fail 20 = .ok (.aload_n 0, 1) := dk_42 (dk_at dksX5_fail_0 20 rfl rfl)
theorem dX5_fail_21 : decode cX5_fail 21 = .ok (.getfield 28, 3) := dk_180 0 28 (dk_at dksX5_fail_0 21 rfl rfl)
theorem dX5_fail_24 : decode cX5_fail 24 = .ok (.getfield 93, 3) := dk_180 0 93 (dk_at dksX5_fail_1 0 rfl rfl)
theorem dX5_fail_27 : decode cX5_fail 27 = .ok (.iload_n 2, 1) := dk_28 (dk_at dksX5_fail_1 3 rfl rfl)
theorem dX5_fail_28 : decode cX5_fail 28 = .ok (.caload, 1) := dk_52 (dk_at dksX5_fail_1 4 rfl rfl)
theorem dX5_fail_29 : decode cX5_fail 29 = .ok (.istore_n 3, 1) := dk_62 (dk_at dksX5_fail_1 5 rfl rfl)
theorem dX5_fail_30 : decode cX5_fail 30 = .ok (.aload_n 0, 1) := dk_42 (dk_at dksX5_fail_1 6 rfl rfl)
theorem dX5_fail_31 : decode cX5_fail 31 = .ok (.dup, 1) := dk_89 (dk_at dksX5_fail_1 7 rfl rfl)
theorem dX5_fail_32 : decode cX5_fail 32 = .ok (.getfield 48, 3) := dk_180 0 48 (dk_at dksX5_fail_1 8 rfl rfl)
theorem dX5_fail_35 : decode cX5_fail 35 = .ok (.iconst 1, 1) := dk_4 (dk_at dksX5_fail_1 11 rfl rfl)
theorem dX5_fail_36 : decode cX5_fail 36 = .ok (.iadd, 1) := dk_96 (dk_at dksX5_fail_1 12 rfl rfl)
theorem dX5_fail_37 : decode cX5_fail 37 = .ok (.putfield 48, 3) := dk_181 0 48 (dk_at dksX5_fail_1 13 rfl rfl)
theorem dX5_fail_40 : decode cX5_fail 40 = .ok (.iload_n 3, 1) := dk_29 (dk_at dksX5_fail_1 16 rfl rfl)
theorem dX5_fail_41 : decode cX5_fail 41 = .ok (.bipush 101, 2) := dk_16 101 (dk_at dksX5_fail_1 17 rfl rfl)
theorem dX5_fail_43 : decode cX5_fail 43 = .ok (.if_icmp .ne 11, 3) := dk_160 0 11 (dk_at dksX5_fail_1 19 rfl rfl)
theorem dX5_fail_46 : decode cX5_fail 46 = .ok (.aload_n 0, 1) := dk_42 (dk_at dksX5_fail_1 22 rfl rfl)
theorem dX5_fail_47 : decode cX5_fail 47 = .ok (.iload_n 2, 1) := dk_28 (dk_at dksX5_fail_1 23 rfl rfl)
theorem dX5_fail_48 : decode cX5_fail 48 = .ok (.invokevirtual 97, 3) := dk_182 0 97 (dk_at dksX5_fail_2 0 rfl rfl)
theorem dX5_fail_51 : decode cX5_fail 51 = .ok (.goto 34, 3) := dk_167 0 34 (dk_at dksX5_fail_2 3 rfl rfl)
theorem dX5_fail_54 : decode cX5_fail 54 = .ok (.iload_n 3, 1) := dk_29 (dk_at dksX5_fail_2 6 rfl rfl)
theorem dX5_fail_55 : decode cX5_fail 55 = .ok (.bipush 114, 2) := dk_16 114 (dk_at dksX5_fail_2 7 rfl rfl)
theorem dX5_fail_57 : decode cX5_fail 57 = .ok (.if_icmp .ne 21, 3) := dk_160 0 21 (dk_at dksX5_fail_2 9 rfl rfl)
theorem dX5_fail_60 : decode cX5_fail 60 = .ok (.aload_n 0, 1) := dk_42 (dk_at dksX5_fail_2 12 rfl rfl)
theorem dX5_fail_61 : decode cX5_fail 61 = .ok (.getfield 15, 3) := dk_180 0 15 (dk_at dksX5_fail_2 13 rfl rfl)
theorem dX5_fail_64 : decode cX5_fail 64 = .ok (.iload_n 1, 1) := dk_27 (dk_at dksX5_fail_2 16 rfl rfl)
theorem dX5_fail_65 : decode cX5_fail 65 = .ok (.iaload, 1) := dk_46 (dk_at dksX5_fail_2 17 rfl rfl)
theorem dX5_fail_66 : decode cX5_fail 66 = .ok (.iconst 3, 1) := dk_6 (dk_at dksX5_fail_2 18 rfl rfl)
theorem dX5_fail_67 : decode cX5_fail 67 = .ok (.if_icmp .ge 11, 3) := dk_162 0 11 (dk_at dksX5_fail_2 19 rfl rfl)
theorem dX5_fail_70 : decode cX5_fail 70 = .ok (.aload_n 0, 1) := dk_42 (dk_at dksX5_fail_2 22 rfl rfl)
theorem dX5_fail_71 : decode cX5_fail 71 = .ok (.iload_n 1, 1) := dk_27 (dk_at dksX5_fail_2 23 rfl rfl)
theorem dX5_fail_72 : decode cX5_fail 72 = .ok (.invokevirtual 100, 3) := dk_182 0 100 (dk_at dksX5_fail_3 0 rfl rfl)
theorem dX5_fail_75 : decode cX5_fail 75 = .ok (.goto 10, 3) := dk_167 0 10 (dk_at dksX5_fail_3 3 rfl rfl)
theorem dX5_fail_78 : decode cX5_fail 78 = .ok (.aload_n 0, 1) := dk_42 (dk_at dksX5_fail_3 6 rfl rfl)
theorem dX5_fail_79 : decode cX5_fail 79 = .ok (.iload_n 1, 1) := dk_27 (dk_at dksX5_fail_3 7 rfl rfl)
theorem dX5_fail_80 : decode cX5_fail 80 = .ok (.invokevirtual 103, 3) := dk_182 0 103 (dk_at dksX5_fail_3 8 rfl rfl)
theorem dX5_fail_83 : decode cX5_fail 83 = .ok (.istore 4, 2) := dk_54 4 (dk_at dksX5_fail_3 11 rfl rfl)
theorem dX5_fail_85 : decode cX5_fail 85 = .ok (.return_, 1) := dk_177 (dk_at dksX5_fail_3 13 rfl rfl)
abbrev cX5_restart : ByteArray := prog_9_method_15_code
def yX5_restart : MethodName := ⟨RX5, "restart", "(I)V"⟩
def dkwX5_restart_3 : List UInt8 := [180, 0, 9, 28, 46, 79, 132, 2, 1, 167, 255, 190, 177]
abbrev dktX5_restart_3 : List UInt8 := dkwX5_restart_3 ++ []
def dkwX5_restart_2 : List UInt8 := [180, 0, 9, 28, 29, 153, 0, 16, 42, 180, 0, 18, 28, 51, 154, 0, 7, 3, 167, 0, 9, 42]
abbrev dktX5_restart_2 : List UInt8 := dkwX5_restart_2 ++ dktX5_restart_3
def dkwX5_restart_1 : List UInt8 := [27, 159, 0, 15, 42, 180, 0, 28, 28, 27, 182, 0, 82, 153, 0, 7, 4, 167, 0, 4, 3, 62, 42]
abbrev dktX5_restart_1 : List UInt8 := dkwX5_restart_1 ++ dktX5_restart_2
def dkwX5_restart_0 : List UInt8 := [42, 180, 0, 15, 27, 92, 46, 4, 96, 79, 27, 61, 28, 42, 180, 0, 28, 180, 0, 76, 162, 0, 61, 28]
abbrev dktX5_restart_0 : List UInt8 := dkwX5_restart_0 ++ dktX5_restart_1
theorem dksX5_restart_0 : cX5_restart.data.toList.drop 0 = dktX5_restart_0 := by decide +kernel
theorem dksX5_restart_1 : cX5_restart.data.toList.drop 24 = dktX5_restart_1 := dk_seg dksX5_restart_0 24 rfl rfl
theorem dksX5_restart_2 : cX5_restart.data.toList.drop 47 = dktX5_restart_2 := dk_seg dksX5_restart_1 23 rfl rfl
theorem dksX5_restart_3 : cX5_restart.data.toList.drop 69 = dktX5_restart_3 := dk_seg dksX5_restart_2 22 rfl rfl
theorem dX5_restart_0 : decode cX5_restart 0 = .ok (.aload_n 0, 1) := dk_42 (dk_at dksX5_restart_0 0 rfl rfl)
theorem dX5_restart_1 : decode cX5_restart 1 = .ok (.getfield 15, 3) := dk_180 0 15 (dk_at dksX5_restart_0 1 rfl rfl)
theorem dX5_restart_4 : decode cX5_restart 4 = .ok (.iload_n 1, 1) := dk_27 (dk_at dksX5_restart_0 4 rfl rfl)
theorem dX5_restart_5 : decode cX5_restart 5 = .ok (.dup2, 1) := dk_92 (dk_at dksX5_restart_0 5 rfl rfl)
theorem dX5_restart_6 : decode cX5_restart 6 = .ok (.iaload, 1) := dk_46 (dk_at dksX5_restart_0 6 rfl rfl)
theorem dX5_restart_7 : decode cX5_restart 7 = .ok (.iconst 1, 1) := dk_4 (dk_at dksX5_restart_0 7 rfl rfl)
theorem dX5_restart_8 : decode cX5_restart 8 = .ok (.iadd, 1) := dk_96 (dk_at dksX5_restart_0 8 rfl rfl)
theorem dX5_restart_9 : decode cX5_restart 9 = .ok (.iastore, 1) := dk_79 (dk_at dksX5_restart_0 9 rfl rfl)
theorem dX5_restart_10 : decode cX5_restart 10 = .ok (.iload_n 1, 1) := dk_27 (dk_at dksX5_restart_0 10 rfl rfl)
theorem dX5_restart_11 : decode cX5_restart 11 = .ok (.istore_n 2, 1) := dk_61 (dk_at dksX5_restart_0 11 rfl rfl)
theorem dX5_restart_12 : decode cX5_restart 12 = .ok (.iload_n 2, 1) := dk_28 (dk_at dksX5_restart_0 12 rfl rfl)
theorem dX5_restart_13 : decode cX5_restart 13 = .ok (.aload_n 0, 1) := dk_42 (dk_at dksX5_restart_0 13 rfl rfl)
theorem dX5_restart_14 : decode cX5_restart 14 = .ok (.getfield 28, 3) := dk_180 0 28 (dk_at dksX5_restart_0 14 rfl rfl)
theorem dX5_restart_17 : decode cX5_restart 17 = .ok (.getfield 76, 3) := dk_180 0 76 (dk_at dksX5_restart_0 17 rfl rfl)
theorem dX5_restart_20 : decode cX5_restart 20 = .ok (.if_icmp .ge 61, 3) := dk_162 0 61 (dk_at dksX5_restart_0 20 rfl rfl)
theorem dX5_restart_23 : decode cX5_restart 23 = .ok (.iload_n 2, 1) := dk_28 (dk_at dksX5_restart_0 23 rfl rfl)
theorem dX5_restart_24 : decode cX5_restart 24 = .ok (.iload_n 1, 1) := dk_27 (dk_at dksX5_restart_1 0 rfl rfl)
theorem dX5_restart_25 : decode cX5_restart 25 = .ok (.if_icmp .eq 15, 3) := dk_159 0 15 (dk_at dksX5_restart_1 1 rfl rfl)
theorem dX5_restart_28 : decode cX5_restart 28 = .ok (.aload_n 0, 1) := dk_42 (dk_at dksX5_restart_1 4 rfl rfl)
theorem dX5_restart_29 : decode cX5_restart 29 = .ok (.getfield 28, 3) := dk_180 0 28 (dk_at dksX5_restart_1 5 rfl rfl)
theorem dX5_restart_32 : decode cX5_restart 32 = .ok (.iload_n 2, 1) := dk_28 (dk_at dksX5_restart_1 8 rfl rfl)
theorem dX5_restart_33 : decode cX5_restart 33 = .ok (.iload_n 1, 1) := dk_27 (dk_at dksX5_restart_1 9 rfl rfl)
theorem dX5_restart_34 : decode cX5_restart 34 = .ok (.invokevirtual 82, 3) := dk_182 0 82 (dk_at dksX5_restart_1 10 rfl rfl)
theorem dX5_restart_37 : decode cX5_restart 37 = .ok (.ifCond .eq 7, 3) := dk_153 0 7 (dk_at dksX5_restart_1 13 rfl rfl)
theorem dX5_restart_40 : decode cX5_restart 40 = .ok (.iconst 1, 1) := dk_4 (dk_at dksX5_restart_1 16 rfl rfl)
theorem dX5_restart_41 : decode cX5_restart 41 = .ok (.goto 4, 3) := dk_167 0 4 (dk_at dksX5_restart_1 17 rfl rfl)
theorem dX5_restart_44 : decode cX5_restart 44 = .ok (.iconst 0, 1) := dk_3 (dk_at dksX5_restart_1 20 rfl rfl)
theorem dX5_restart_45 : decode cX5_restart 45 = .ok (.istore_n 3, 1) := dk_62 (dk_at dksX5_restart_1 21 rfl rfl)
theorem dX5_restart_46 : decode cX5_restart 46 = .ok (.aload_n 0, 1) := dk_42 (dk_at dksX5_restart_1 22 rfl rfl)
theorem dX5_restart_47 : decode cX5_restart 47 = .ok (.getfield 9, 3) := dk_180 0 9 (dk_at dksX5_restart_2 0 rfl rfl)
theorem dX5_restart_50 : decode cX5_restart 50 = .ok (.iload_n 2, 1) := dk_28 (dk_at dksX5_restart_2 3 rfl rfl)
theorem dX5_restart_51 : decode cX5_restart 51 = .ok (.iload_n 3, 1) := dk_29 (dk_at dksX5_restart_2 4 rfl rfl)
theorem dX5_restart_52 : decode cX5_restart 52 = .ok (.ifCond .eq 16, 3) := dk_153 0 16 (dk_at dksX5_restart_2 5 rfl rfl)
theorem dX5_restart_55 : decode cX5_restart 55 = .ok (.aload_n 0, 1) := dk_42 (dk_at dksX5_restart_2 8 rfl rfl)
theorem dX5_restart_56 : decode cX5_restart 56 = .ok (.getfield 18, 3) := dk_180 0 18 (dk_at dksX5_restart_2 9 rfl rfl)
theorem dX5_restart_59 : decode cX5_restart 59 = .ok (.iload_n 2, 1) := dk_28 (dk_at dksX5_restart_2 12 rfl rfl)
theorem dX5_restart_60 : decode cX5_restart 60 = .ok (.baload, 1) := dk_51 (dk_at dksX5_restart_2 13 rfl rfl)
theorem dX5_restart_61 : decode cX5_restart 61 = .ok (.ifCond .ne 7, 3) := dk_154 0 7 (dk_at dksX5_restart_2 14 rfl rfl)
theorem dX5_restart_64 : decode cX5_restart 64 = .ok (.iconst 0, 1) := dk_3 (dk_at dksX5_restart_2 17 rfl rfl)
theorem dX5_restart_65 : decode cX5_restart 65 = .ok (.goto 9, 3) := dk_167 0 9 (dk_at dksX5_restart_2 18 rfl rfl)
theorem dX5_restart_68 : decode cX5_restart 68 = .ok (.aload_n 0, 1) := dk_42 (dk_at dksX5_restart_2 21 rfl rfl)
theorem dX5_restart_69 : decode cX5_restart 69 = .ok (.getfield 9, 3) := dk_180 0 9 (dk_at dksX5_restart_3 0 rfl rfl)
theorem dX5_restart_72 : decode cX5_restart 72 = .ok (.iload_n 2, 1) := dk_28 (dk_at dksX5_restart_3 3 rfl rfl)
theorem dX5_restart_73 : decode cX5_restart 73 = .ok (.iaload, 1) := dk_46 (dk_at dksX5_restart_3 4 rfl rfl)
theorem dX5_restart_74 : decode cX5_restart 74 = .ok (.iastore, 1) := dk_79 (dk_at dksX5_restart_3 5 rfl rfl)
theorem dX5_restart_75 : decode cX5_restart 75 = .ok (.iinc 2 1, 3) := dk_132 2 1 (dk_at dksX5_restart_3 6 rfl rfl)
theorem dX5_restart_78 : decode cX5_restart 78 = .ok (.goto (-66), 3) := dk_167 255 190 (dk_at dksX5_restart_3 9 rfl rfl)
theorem dX5_restart_81 : decode cX5_restart 81 = .ok (.return_, 1) := dk_177 (dk_at dksX5_restart_3 12 rfl rfl)
abbrev cX5_forward : ByteArray := prog_9_method_17_code
def yX5_forward : MethodName := ⟨RX5, "forward", "(III)V"⟩
def dkwX5_forward_1 : List UInt8 := [182, 0, 107, 177]
abbrev dktX5_forward_1 : List UInt8 := dkwX5_forward_1 ++ []
def dkwX5_forward_0 : List UInt8 := [42, 180, 0, 28, 180, 0, 60, 27, 46, 54, 4, 29, 5, 163, 0, 14, 42, 21, 4, 7, 28, 104, 29, 96]
abbrev dktX5_forward_0 : List UInt8 := dkwX5_forward_0 ++ dktX5_forward_1
theorem dksX5_forward_0 : cX5_forward.data.toList.drop 0 = dktX5_forward_0 := by decide +kernel
theorem dksX5_forward_1 : cX5_forward.data.toList.drop 24 = dktX5_forward_1 := dk_seg dksX5_forward_0 24 rfl rfl
theorem dX5_forward_0 : decode cX5_forward 0 = .ok (.aload_n 0, 1) := dk_42 (dk_at dksX5_forward_0 0 rfl rfl)
theorem dX5_forward_1 : decode cX5_forward 1 = .ok (.getfield 28, 3) := dk_180 0 28 (dk_at dksX5_forward_0 1 rfl rfl)
theorem dX5_forward_4 : decode cX5_forward 4 = .ok (.getfield 60, 3) := dk_180 0 60 (dk_at dksX5_forward_0 4 rfl rfl)
theorem dX5_forward_7 : decode cX5_forward 7 = .ok (.iload_n 1, 1) := dk_27 (dk_at dksX5_forward_0 7 rfl rfl)
theorem dX5_forward_8 : decode cX5_forward 8 = .ok (.iaload, 1) := dk_46 (dk_at dksX5_forward_0 8 rfl rfl)
theorem dX5_forward_9 : decode cX5_forward 9 = .ok (.istore 4, 2) := dk_54 4 (dk_at dksX5_forward_0 9 rfl rfl)
theorem dX5_forward_11 : decode cX5_forward 11 = .ok (.iload_n 3, 1) := dk_29 (dk_at dksX5_forward_0 11 rfl rfl)
theorem dX5_forward_12 : decode cX5_forward 12 = .ok (.iconst 2, 1) := dk_5 (dk_at dksX5_forward_0 12 rfl rfl)
theorem dX5_forward_13 : decode cX5_forward 13 = .ok (.if_icmp .gt 14, 3) := dk_163 0 14 (dk_at dksX5_forward_0 13 rfl rfl)
theorem dX5_forward_16 : decode cX5_forward 16 = .ok (.aload_n 0, 1) := dk_42 (dk_at dksX5_forward_0 16 rfl rfl)
theorem dX5_forward_17 : decode cX5_forward 17 = .ok (.iload 4, 2) := dk_21 4 (dk_at dksX5_forward_0 17 rfl rfl)
theorem dX5_forward_19 : decode cX5_forward 19 = .ok (.iconst 4, 1) := dk_7 (dk_at dksX5_forward_0 19 rfl rfl)
theorem dX5_forward_20 : decode cX5_forward 20 = .ok (.iload_n 2, 1) := dk_28 (dk_at dksX5_forward_0 20 rfl rfl)
theorem dX5_forward_21 : decode cX5_forward 21 = .ok (.imul, 1) := dk_104 (dk_at dksX5_forward_0 21 rfl rfl)
theorem dX5_forward_22 : decode cX5_forward 22 = .ok (.iload_n 3, 1) := dk_29 (dk_at dksX5_forward_0 22 rfl rfl)
theorem dX5_forward_23 : decode cX5_forward 23 = .ok (.iadd, 1) := dk_96 (dk_at dksX5_forward_0 23 rfl rfl)
theorem dX5_forward_24 : decode cX5_forward 24 = .ok (.invokevirtual 107, 3) := dk_182 0 107 (dk_at dksX5_forward_1 0 rfl rfl)
theorem dX5_forward_27 : decode cX5_forward 27 = .ok (.return_, 1) := dk_177 (dk_at dksX5_forward_1 3 rfl rfl)
abbrev cX5_inMailboxes : ByteArray := prog_9_method_7_code
def yX5_inMailboxes : MethodName := ⟨RX5, "inMailboxes", "()I"⟩
def dkwX5_inMailboxes_1 : List UInt8 := [54, 5, 27, 21, 5, 96, 60, 132, 4, 1, 167, 255, 236, 27, 172]
abbrev dktX5_inMailboxes_1 : List UInt8 := dkwX5_inMailboxes_1 ++ []
def dkwX5_inMailboxes_0 : List UInt8 := [3, 60, 42, 180, 0, 22, 77, 44, 190, 62, 3, 54, 4, 21, 4, 29, 162, 0, 20, 44, 21, 4, 46]
abbrev dktX5_inMailboxes_0 : List UInt8 := dkwX5_inMailboxes_0 ++ dktX5_inMailboxes_1
theorem dksX5_inMailboxes_0 : cX5_inMailboxes.data.toList.drop 0 = dktX5_inMailboxes_0 := by decide +kernel
theorem dksX5_inMailboxes_1 : cX5_inMailboxes.data.toList.drop 23 = dktX5_inMailboxes_1 := dk_seg dksX5_inMailboxes_0 23 rfl rfl
theorem dX5_inMailboxes_0 : decode cX5_inMailboxes 0 = .ok (.iconst 0, 1) := dk_3 (dk_at dksX5_inMailboxes_0 0 rfl rfl)
theorem dX5_inMailboxes_1 : decode cX5_inMailboxes 1 = .ok (.istore_n 1, 1) := dk_60 (dk_at dksX5_inMailboxes_0 1 rfl rfl)
theorem dX5_inMailboxes_2 : decode cX5_inMailboxes 2 = .ok (.aload_n 0, 1) := dk_42 (dk_at dksX5_inMailboxes_0 2 rfl rfl)
theorem dX5_inMailboxes_3 : decode cX5_inMailboxes 3 = .ok (.getfield 22, 3) := dk_180 0 22 (dk_at dksX5_inMailboxes_0 3 rfl rfl)
theorem dX5_inMailboxes_6 : decode cX5_inMailboxes 6 = .ok (.astore_n 2, 1) := dk_77 (dk_at dksX5_inMailboxes_0 6 rfl rfl)
theorem dX5_inMailboxes_7 : decode cX5_inMailboxes 7 = .ok (.aload_n 2, 1) := dk_44 (dk_at dksX5_inMailboxes_0 7 rfl rfl)
theorem dX5_inMailboxes_8 : decode cX5_inMailboxes 8 = .ok (.arraylength, 1) := dk_190 (dk_at dksX5_inMailboxes_0 8 rfl rfl)
theorem dX5_inMailboxes_9 : decode cX5_inMailboxes 9 = .ok (.istore_n 3, 1) := dk_62 (dk_at dksX5_inMailboxes_0 9 rfl rfl)
theorem dX5_inMailboxes_10 : decode cX5_inMailboxes 10 = .ok (.iconst 0, 1) := dk_3 (dk_at dksX5_inMailboxes_0 10 rfl rfl)
theorem dX5_inMailboxes_11 : decode cX5_inMailboxes 11 = .ok (.istore 4, 2) := dk_54 4 (dk_at dksX5_inMailboxes_0 11 rfl rfl)
theorem dX5_inMailboxes_13 : decode cX5_inMailboxes 13 = .ok (.iload 4, 2) := dk_21 4 (dk_at dksX5_inMailboxes_0 13 rfl rfl)
theorem dX5_inMailboxes_15 : decode cX5_inMailboxes 15 = .ok (.iload_n 3, 1) := dk_29 (dk_at dksX5_inMailboxes_0 15 rfl rfl)
theorem dX5_inMailboxes_16 : decode cX5_inMailboxes 16 = .ok (.if_icmp .ge 20, 3) := dk_162 0 20 (dk_at dksX5_inMailboxes_0 16 rfl rfl)
theorem dX5_inMailboxes_19 : decode cX5_inMailboxes 19 = .ok (.aload_n 2, 1) := dk_44 (dk_at dksX5_inMailboxes_0 19 rfl rfl)
theorem dX5_inMailboxes_20 : decode cX5_inMailboxes 20 = .ok (.iload 4, 2) := dk_21 4 (dk_at dksX5_inMailboxes_0 20 rfl rfl)
theorem dX5_inMailboxes_22 : decode cX5_inMailboxes 22 = .ok (.iaload, 1) := dk_46 (dk_at dksX5_inMailboxes_0 22 rfl rfl)
theorem dX5_inMailboxes_23 : decode cX5_inMailboxes 23 = .ok (.istore 5, 2) := dk_54 5 (dk_at dksX5_inMailboxes_1 0 rfl rfl)
theorem dX5_inMailboxes_25 : decode cX5_inMailboxes 25 = .ok (.iload_n 1, 1) := dk_27 (dk_at dksX5_inMailboxes_1 2 rfl rfl)
theorem dX5_inMailboxes_26 : decode cX5_inMailboxes 26 = .ok (.iload 5, 2) := dk_21 5 (dk_at dksX5_inMailboxes_1 3 rfl rfl)
theorem dX5_inMailboxes_28 : decode cX5_inMailboxes 28 = .ok (.iadd, 1) := dk_96 (dk_at dksX5_inMailboxes_1 5 rfl rfl)
theorem dX5_inMailboxes_29 : decode cX5_inMailboxes 29 = .ok (.istore_n 1, 1) := dk_60 (dk_at dksX5_inMailboxes_1 6 rfl rfl)
theorem dX5_inMailboxes_30 : decode cX5_inMailboxes 30 = .ok (.iinc 4 1, 3) := dk_132 4 1 (dk_at dksX5_inMailboxes_1 7 rfl rfl)
theorem dX5_inMailboxes_33 : decode cX5_inMailboxes 33 = .ok (.goto (-20), 3) := dk_167 255 236 (dk_at dksX5_inMailboxes_1 10 rfl rfl)
theorem dX5_inMailboxes_36 : decode cX5_inMailboxes 36 = .ok (.iload_n 1, 1) := dk_27 (dk_at dksX5_inMailboxes_1 13 rfl rfl)
theorem dX5_inMailboxes_37 : decode cX5_inMailboxes 37 = .ok (.ireturn, 1) := dk_172 (dk_at dksX5_inMailboxes_1 14 rfl rfl)
abbrev cX5_state : ByteArray := prog_9_method_22_code
def yX5_state : MethodName := ⟨RX5, "state", "()Ljava/lang/String;"⟩
def dkwX5_state_3 : List UInt8 := [132, 3, 1, 167, 255, 227, 132, 2, 1, 167, 255, 192, 43, 182, 0, 145, 176]
abbrev dktX5_state_3 : List UInt8 := dkwX5_state_3 ++ []
def dkwX5_state_2 : List UInt8 := [180, 0, 22, 28, 46, 162, 0, 25, 43, 18, 157, 182, 0, 142, 42, 28, 29, 182, 0, 56, 182, 0, 134, 87]
abbrev dktX5_state_2 : List UInt8 := dkwX5_state_2 ++ dktX5_state_3
def dkwX5_state_1 : List UInt8 := [162, 0, 59, 43, 18, 155, 182, 0, 142, 42, 180, 0, 15, 28, 46, 182, 0, 134, 87, 3, 62, 29, 42]
abbrev dktX5_state_1 : List UInt8 := dkwX5_state_1 ++ dktX5_state_2
def dkwX5_state_0 : List UInt8 := [187, 0, 131, 89, 42, 182, 0, 149, 183, 0, 152, 76, 3, 61, 28, 42, 180, 0, 28, 180, 0, 76]
abbrev dktX5_state_0 : List UInt8 := dkwX5_state_0 ++ dktX5_state_1
theorem dksX5_state_0 : cX5_state.data.toList.drop 0 = dktX5_state_0 := by decide +kernel
theorem dksX5_state_1 : cX5_state.data.toList.drop 22 = dktX5_state_1 := dk_seg dksX5_state_0 22 rfl rfl
theorem dksX5_state_2 : cX5_state.data.toList.drop 45 = dktX5_state_2 := dk_seg dksX5_state_1 23 rfl rfl
theorem dksX5_state_3 : cX5_state.data.toList.drop 69 = dktX5_state_3 := dk_seg dksX5_state_2 24 rfl rfl
theorem dX5_state_0 : decode cX5_state 0 = .ok (.new 131, 3) := dk_187 0 131 (dk_at dksX5_state_0 0 rfl rfl)
theorem dX5_state_3 : decode cX5_state 3 = .ok (.dup, 1) := dk_89 (dk_at dksX5_state_0 3 rfl rfl)
theorem dX5_state_4 : decode cX5_state 4 = .ok (.aload_n 0, 1) := dk_42 (dk_at dksX5_state_0 4 rfl rfl)
theorem dX5_state_5 : decode cX5_state 5 = .ok (.invokevirtual 149, 3) := dk_182 0 149 (dk_at dksX5_state_0 5 rfl rfl)
theorem dX5_state_8 : decode cX5_state 8 = .ok (.invokespecial 152, 3) := dk_183 0 152 (dk_at dksX5_state_0 8 rfl rfl)
theorem dX5_state_11 : decode cX5_state 11 = .ok (.astore_n 1, 1) := dk_76 (dk_at dksX5_state_0 11 rfl rfl)
theorem dX5_state_12 : decode cX5_state 12 = .ok (.iconst 0, 1) := dk_3 (dk_at dksX5_state_0 12 rfl rfl)
theorem dX5_state_13 : decode cX5_state 13 = .ok (.istore_n 2, 1) := dk_61 (dk_at dksX5_state_0 13 rfl rfl)
theorem dX5_state_14 : decode cX5_state 14 = .ok (.iload_n 2, 1) := dk_28 (dk_at dksX5_state_0 14 rfl rfl)
theorem dX5_state_15 : decode cX5_state 15 = .ok (.aload_n 0, 1) := dk_42 (dk_at dksX5_state_0 15 rfl rfl)
theorem dX5_state_16 : decode cX5_state 16 = .ok (.getfield 28, 3) := dk_180 0 28 (dk_at dksX5_state_0 16 rfl rfl)
theorem dX5_state_19 : decode cX5_state 19 = .ok (.getfield 76, 3) := dk_180 0 76 (dk_at dksX5_state_0 19 rfl rfl)
theorem dX5_state_22 : decode cX5_state 22 = .ok (.if_icmp .ge 59, 3) := dk_162 0 59 (dk_at dksX5_state_1 0 rfl rfl)
theorem dX5_state_25 : decode cX5_state 25 = .ok (.aload_n 1, 1) := dk_43 (dk_at dksX5_state_1 3 rfl rfl)
theorem dX5_state_26 : decode cX5_state 26 = .ok (.ldc 155, 2) := dk_18 155 (dk_at dksX5_state_1 4 rfl rfl)
theorem dX5_state_28 : decode cX5_state 28 = .ok (.invokevirtual 142, 3) := dk_182 0 142 (dk_at dksX5_state_1 6 rfl rfl)
theorem dX5_state_31 : decode cX5_state 31 = .ok (.aload_n 0, 1) := dk_42 (dk_at dksX5_state_1 9 rfl rfl)
theorem dX5_state_32 : decode cX5_state 32 = .ok (.getfield 15, 3) := dk_180 0 15 (dk_at dksX5_state_1 10 rfl rfl)
theorem dX5_state_35 : decode cX5_state 35 = .ok (.iload_n 2, 1) := dk_28 (dk_at dksX5_state_1 13 rfl rfl)
theorem dX5_state_36 : decode cX5_state 36 = .ok (.iaload, 1) := dk_46 (dk_at dksX5_state_1 14 rfl rfl)
theorem dX5_state_37 : decode cX5_state 37 = .ok (.invokevirtual 134, 3) := dk_182 0 134 (dk_at dksX5_state_1 15 rfl rfl)
theorem dX5_state_40 : decode cX5_state 40 = .ok (.pop, 1) := dk_87 (dk_at dksX5_state_1 18 rfl rfl)
theorem dX5_state_41 : decode cX5_state 41 = .ok (.iconst 0, 1) := dk_3 (dk_at dksX5_state_1 19 rfl rfl)
theorem dX5_state_42 : decode cX5_state 42 = .ok (.istore_n 3, 1) := dk_62 (dk_at dksX5_state_1 20 rfl rfl)
theorem dX5_state_43 : decode cX5_state 43 = .ok (.iload_n 3, 1) := dk_29 (dk_at dksX5_state_1 21 rfl rfl)
theorem dX5_state_44 : decode cX5_state 44 = .ok (.aload_n 0, 1) := dk_42 (dk_at dksX5_state_1 22 rfl rfl)
theorem dX5_state_45 : decode cX5_state 45 = .ok (.getfield 22, 3) := dk_180 0 22 (dk_at dksX5_state_2 0 rfl rfl)
theorem dX5_state_48 : decode cX5_state 48 = .ok (.iload_n 2, 1) := dk_28 (dk_at dksX5_state_2 3 rfl rfl)
theorem dX5_state_49 : decode cX5_state 49 = .ok (.iaload, 1) := dk_46 (dk_at dksX5_state_2 4 rfl rfl)
theorem dX5_state_50 : decode cX5_state 50 = .ok (.if_icmp .ge 25, 3) := dk_162 0 25 (dk_at dksX5_state_2 5 rfl rfl)
theorem dX5_state_53 : decode cX5_state 53 = .ok (.aload_n 1, 1) := dk_43 (dk_at dksX5_state_2 8 rfl rfl)
theorem dX5_state_54 : decode cX5_state 54 = .ok (.ldc 157, 2) := dk_18 157 (dk_at dksX5_state_2 9 rfl rfl)
theorem dX5_state_56 : decode cX5_state 56 = .ok (.invokevirtual 142, 3) := dk_182 0 142 (dk_at dksX5_state_2 11 rfl rfl)
theorem dX5_state_59 : decode cX5_state 59 = .ok (.aload_n 0, 1) := dk_42 (dk_at dksX5_state_2 14 rfl rfl)
theorem dX5_state_60 : decode cX5_state 60 = .ok (.iload_n 2, 1) := dk_28 (dk_at dksX5_state_2 15 rfl rfl)
theorem dX5_state_61 : decode cX5_state 61 = .ok (.iload_n 3, 1) := dk_29 (dk_at dksX5_state_2 16 rfl rfl)
theorem dX5_state_62 : decode cX5_state 62 = .ok (.invokevirtual 56, 3) := dk_182 0 56 (dk_at dksX5_state_2 17 rfl rfl)
theorem dX5_state_65 : decode cX5_state 65 = .ok (.invokevirtual 134, 3) := dk_182 0 134 (dk_at dksX5_state_2 20 rfl rfl)
theorem dX5_state_68 : decode cX5_state 68 = .ok (.pop, 1) := dk_87 (dk_at dksX5_state_2 23 rfl rfl)
theorem dX5_state_69 : decode cX5_state 69 = .ok (.iinc 3 1, 3) := dk_132 3 1 (dk_at dksX5_state_3 0 rfl rfl)
theorem dX5_state_72 : decode cX5_state 72 = .ok (.goto (-29), 3) := dk_167 255 227 (dk_at dksX5_state_3 3 rfl rfl)
theorem dX5_state_75 : decode cX5_state 75 = .ok (.iinc 2 1, 3) := dk_132 2 1 (dk_at dksX5_state_3 6 rfl rfl)
theorem dX5_state_78 : decode cX5_state 78 = .ok (.goto (-64), 3) := dk_167 255 192 (dk_at dksX5_state_3 9 rfl rfl)
theorem dX5_state_81 : decode cX5_state 81 = .ok (.aload_n 1, 1) := dk_43 (dk_at dksX5_state_3 12 rfl rfl)
theorem dX5_state_82 : decode cX5_state 82 = .ok (.invokevirtual 145, 3) := dk_182 0 145 (dk_at dksX5_state_3 13 rfl rfl)
theorem dX5_state_85 : decode cX5_state 85 = .ok (.areturn, 1) := dk_176 (dk_at dksX5_state_3 16 rfl rfl)
abbrev cX5_outcome : ByteArray := prog_9_method_21_code
def yX5_outcome : MethodName := ⟨RX5, "outcome", "()Ljava/lang/String;"⟩
def dkwX5_outcome_2 : List UInt8 := [182, 0, 142, 87, 132, 2, 1, 167, 255, 212, 43, 182, 0, 145, 176]
abbrev dktX5_outcome_2 : List UInt8 := dkwX5_outcome_2 ++ []
def dkwX5_outcome_1 : List UInt8 := [180, 0, 9, 28, 46, 182, 0, 134, 42, 180, 0, 18, 28, 51, 153, 0, 8, 18, 138, 167, 0, 5, 18, 140]
abbrev dktX5_outcome_1 : List UInt8 := dkwX5_outcome_1 ++ dktX5_outcome_2
def dkwX5_outcome_0 : List UInt8 := [187, 0, 131, 89, 183, 0, 133, 76, 3, 61, 28, 42, 180, 0, 28, 180, 0, 76, 162, 0, 39, 43, 42]
abbrev dktX5_outcome_0 : List UInt8 := dkwX5_outcome_0 ++ dktX5_outcome_1
theorem dksX5_outcome_0 : cX5_outcome.data.toList.drop 0 = dktX5_outcome_0 := by decide +kernel
theorem dksX5_outcome_1 : cX5_outcome.data.toList.drop 23 = dktX5_outcome_1 := dk_seg dksX5_outcome_0 23 rfl rfl
theorem dksX5_outcome_2 : cX5_outcome.data.toList.drop 47 = dktX5_outcome_2 := dk_seg dksX5_outcome_1 24 rfl rfl
theorem dX5_outcome_0 : decode cX5_outcome 0 = .ok (.new 131, 3) := dk_187 0 131 (dk_at dksX5_outcome_0 0 rfl rfl)
theorem dX5_outcome_3 : decode cX5_outcome 3 = .ok (.dup, 1) := dk_89 (dk_at dksX5_outcome_0 3 rfl rfl)
theorem dX5_outcome_4 : decode cX5_outcome 4 = .ok (.invokespecial 133, 3) := dk_183 0 133 (dk_at dksX5_outcome_0 4 rfl rfl)
theorem dX5_outcome_7 : decode cX5_outcome 7 = .ok (.astore_n 1, 1) := dk_76 (dk_at dksX5_outcome_0 7 rfl rfl)
theorem dX5_outcome_8 : decode cX5_outcome 8 = .ok (.iconst 0, 1) := dk_3 (dk_at dksX5_outcome_0 8 rfl rfl)
theorem dX5_outcome_9 : decode cX5_outcome 9 = .ok (.istore_n 2, 1) := dk_61 (dk_at dksX5_outcome_0 9 rfl rfl)
theorem dX5_outcome_10 : decode cX5_outcome 10 = .ok (.iload_n 2, 1) := dk_28 (dk_at dksX5_outcome_0 10 rfl rfl)
theorem dX5_outcome_11 : decode cX5_outcome 11 = .ok (.aload_n 0, 1) := dk_42 (dk_at dksX5_outcome_0 11 rfl rfl)
theorem dX5_outcome_12 : decode cX5_outcome 12 = .ok (.getfield 28, 3) := dk_180 0 28 (dk_at dksX5_outcome_0 12 rfl rfl)
theorem dX5_outcome_15 : decode cX5_outcome 15 = .ok (.getfield 76, 3) := dk_180 0 76 (dk_at dksX5_outcome_0 15 rfl rfl)
theorem dX5_outcome_18 : decode cX5_outcome 18 = .ok (.if_icmp .ge 39, 3) := dk_162 0 39 (dk_at dksX5_outcome_0 18 rfl rfl)
theorem dX5_outcome_21 : decode cX5_outcome 21 = .ok (.aload_n 1, 1) := dk_43 (dk_at dksX5_outcome_0 21 rfl rfl)
theorem dX5_outcome_22 : decode cX5_outcome 22 = .ok (.aload_n 0, 1) := dk_42 (dk_at dksX5_outcome_0 22 rfl rfl)
theorem dX5_outcome_23 : decode cX5_outcome 23 = .ok (.getfield 9, 3) := dk_180 0 9 (dk_at dksX5_outcome_1 0 rfl rfl)
theorem dX5_outcome_26 : decode cX5_outcome 26 = .ok (.iload_n 2, 1) := dk_28 (dk_at dksX5_outcome_1 3 rfl rfl)
theorem dX5_outcome_27 : decode cX5_outcome 27 = .ok (.iaload, 1) := dk_46 (dk_at dksX5_outcome_1 4 rfl rfl)
theorem dX5_outcome_28 : decode cX5_outcome 28 = .ok (.invokevirtual 134, 3) := dk_182 0 134 (dk_at dksX5_outcome_1 5 rfl rfl)
theorem dX5_outcome_31 : decode cX5_outcome 31 = .ok (.aload_n 0, 1) := dk_42 (dk_at dksX5_outcome_1 8 rfl rfl)
theorem dX5_outcome_32 : decode cX5_outcome 32 = .ok (.getfield 18, 3) := dk_180 0 18 (dk_at dksX5_outcome_1 9 rfl rfl)
theorem dX5_outcome_35 : decode cX5_outcome 35 = .ok (.iload_n 2, 1) := dk_28 (dk_at dksX5_outcome_1 12 rfl rfl)
theorem dX5_outcome_36 : decode cX5_outcome 36 = .ok (.baload, 1) := dk_51 (dk_at dksX5_outcome_1 13 rfl rfl)
theorem dX5_outcome_37 : decode cX5_outcome 37 = .ok (.ifCond .eq 8, 3) := dk_153 0 8 (dk_at dksX5_outcome_1 14 rfl rfl)
theorem dX5_outcome_40 : decode cX5_outcome 40 = .ok (.ldc 138, 2) := dk_18 138 (dk_at dksX5_outcome_1 17 rfl rfl)
theorem dX5_outcome_42 : decode cX5_outcome 42 = .ok (.goto 5, 3) := dk_167 0 5 (dk_at dksX5_outcome_1 19 rfl rfl)
theorem dX5_outcome_45 : decode cX5_outcome 45 = .ok (.ldc 140, 2) := dk_18 140 (dk_at dksX5_outcome_1 22 rfl rfl)
theorem dX5_outcome_47 : decode cX5_outcome 47 = .ok (.invokevirtual 142, 3) := dk_182 0 142 (dk_at dksX5_outcome_2 0 rfl rfl)
theorem dX5_outcome_50 : decode cX5_outcome 50 = .ok (.pop, 1) := dk_87 (dk_at dksX5_outcome_2 3 rfl rfl)
theorem dX5_outcome_51 : decode cX5_outcome 51 = .ok (.iinc 2 1, 3) := dk_132 2 1 (dk_at dksX5_outcome_2 4 rfl rfl)
theorem dX5_outcome_54 : decode cX5_outcome 54 = .ok (.goto (-44), 3) := dk_167 255 212 (dk_at dksX5_outcome_2 7 rfl rfl)
theorem dX5_outcome_57 : decode cX5_outcome 57 = .ok (.aload_n 1, 1) := dk_43 (dk_at dksX5_outcome_2 10 rfl rfl)
theorem dX5_outcome_58 : decode cX5_outcome 58 = .ok (.invokevirtual 145, 3) := dk_182 0 145 (dk_at dksX5_outcome_2 11 rfl rfl)
theorem dX5_outcome_61 : decode cX5_outcome 61 = .ok (.areturn, 1) := dk_176 (dk_at dksX5_outcome_2 14 rfl rfl)
abbrev cX7_init : ByteArray := prog_5_method_1_code
def yX7_init : MethodName := ⟨RX7, "<init>", "(Ljava/lang/String;CIII)V"⟩
def dkwX7_init_1 : List UInt8 := [181, 0, 21, 42, 21, 5, 181, 0, 24, 177]
abbrev dktX7_init_1 : List UInt8 := dkwX7_init_1 ++ []
def dkwX7_init_0 : List UInt8 := [42, 183, 0, 1, 42, 43, 181, 0, 7, 42, 28, 181, 0, 13, 42, 29, 181, 0, 17, 42, 21, 4]
abbrev dktX7_init_0 : List UInt8 := dkwX7_init_0 ++ dktX7_init_1
theorem dksX7_init_0 : cX7_init.data.toList.drop 0 = dktX7_init_0 := by decide +kernel
theorem dksX7_init_1 : cX7_init.data.toList.drop 22 = dktX7_init_1 := dk_seg dksX7_init_0 22 rfl rfl
theorem dX7_init_0 : decode cX7_init 0 = .ok (.aload_n 0, 1) := dk_42 (dk_at dksX7_init_0 0 rfl rfl)
theorem dX7_init_1 : decode cX7_init 1 = .ok (.invokespecial 1, 3) := dk_183 0 1 (dk_at dksX7_init_0 1 rfl rfl)
theorem dX7_init_4 : decode cX7_init 4 = .ok (.aload_n 0, 1) := dk_42 (dk_at dksX7_init_0 4 rfl rfl)
theorem dX7_init_5 : decode cX7_init 5 = .ok (.aload_n 1, 1) := dk_43 (dk_at dksX7_init_0 5 rfl rfl)
theorem dX7_init_6 : decode cX7_init 6 = .ok (.putfield 7, 3) := dk_181 0 7 (dk_at dksX7_init_0 6 rfl rfl)
theorem dX7_init_9 : decode cX7_init 9 = .ok (.aload_n 0, 1) := dk_42 (dk_at dksX7_init_0 9 rfl rfl)
theorem dX7_init_10 : decode cX7_init 10 = .ok (.iload_n 2, 1) := dk_28 (dk_at dksX7_init_0 10 rfl rfl)
theorem dX7_init_11 : decode cX7_init 11 = .ok (.putfield 13, 3) := dk_181 0 13 (dk_at dksX7_init_0 11 rfl rfl)
theorem dX7_init_14 : decode cX7_init 14 = .ok (.aload_n 0, 1) := dk_42 (dk_at dksX7_init_0 14 rfl rfl)
theorem dX7_init_15 : decode cX7_init 15 = .ok (.iload_n 3, 1) := dk_29 (dk_at dksX7_init_0 15 rfl rfl)
theorem dX7_init_16 : decode cX7_init 16 = .ok (.putfield 17, 3) := dk_181 0 17 (dk_at dksX7_init_0 16 rfl rfl)
theorem dX7_init_19 : decode cX7_init 19 = .ok (.aload_n 0, 1) := dk_42 (dk_at dksX7_init_0 19 rfl rfl)
theorem dX7_init_20 : decode cX7_init 20 = .ok (.iload 4, 2) := dk_21 4 (dk_at dksX7_init_0 20 rfl rfl)
theorem dX7_init_22 : decode cX7_init 22 = .ok (.putfield 21, 3) := dk_181 0 21 (dk_at dksX7_init_1 0 rfl rfl)
theorem dX7_init_25 : decode cX7_init 25 = .ok (.aload_n 0, 1) := dk_42 (dk_at dksX7_init_1 3 rfl rfl)
theorem dX7_init_26 : decode cX7_init 26 = .ok (.iload 5, 2) := dk_21 5 (dk_at dksX7_init_1 4 rfl rfl)
theorem dX7_init_28 : decode cX7_init 28 = .ok (.putfield 24, 3) := dk_181 0 24 (dk_at dksX7_init_1 6 rfl rfl)
theorem dX7_init_31 : decode cX7_init 31 = .ok (.return_, 1) := dk_177 (dk_at dksX7_init_1 9 rfl rfl)
abbrev cX7_apply : ByteArray := prog_5_method_2_code
def yX7_apply : MethodName := ⟨RX7, "apply", "(LSpindleActors$Stage;)I"⟩
def dkwX7_apply_17 : List UInt8 := [182, 0, 97, 172]
abbrev dktX7_apply_17 : List UInt8 := dkwX7_apply_17 ++ []
def dkwX7_apply_16 : List UInt8 := [182, 0, 90, 167, 0, 22, 43, 42, 180, 0, 17, 182, 0, 94, 167, 0, 11, 43, 42, 180, 0, 17]
abbrev dktX7_apply_16 : List UInt8 := dkwX7_apply_16 ++ dktX7_apply_17
def dkwX7_apply_15 : List UInt8 := [182, 0, 85, 167, 0, 44, 43, 42, 180, 0, 17, 182, 0, 88, 167, 0, 33, 43, 42, 180, 0, 13]
abbrev dktX7_apply_15 : List UInt8 := dkwX7_apply_15 ++ dktX7_apply_16
def dkwX7_apply_14 : List UInt8 := [180, 0, 17, 42, 180, 0, 21, 42, 180, 0, 24, 182, 0, 81, 167, 0, 55, 43, 42, 180, 0, 17]
abbrev dktX7_apply_14 : List UInt8 := dkwX7_apply_14 ++ dktX7_apply_15
def dkwX7_apply_13 : List UInt8 := [182, 0, 76, 167, 0, 89, 43, 42, 180, 0, 17, 42, 180, 0, 21, 182, 0, 79, 167, 0, 74, 43, 42]
abbrev dktX7_apply_13 : List UInt8 := dkwX7_apply_13 ++ dktX7_apply_14
def dkwX7_apply_12 : List UInt8 := [180, 0, 17, 42, 180, 0, 13, 182, 0, 72, 167, 0, 104, 43, 42, 180, 0, 17, 42, 180, 0, 21]
abbrev dktX7_apply_12 : List UInt8 := dkwX7_apply_12 ++ dktX7_apply_13
def dkwX7_apply_11 : List UInt8 := [182, 0, 65, 167, 0, 134, 43, 42, 180, 0, 17, 42, 180, 0, 21, 182, 0, 69, 167, 0, 119, 43, 42]
abbrev dktX7_apply_11 : List UInt8 := dkwX7_apply_11 ++ dktX7_apply_12
def dkwX7_apply_10 : List UInt8 := [43, 42, 180, 0, 13, 42, 180, 0, 17, 182, 0, 59, 167, 0, 149, 43, 42, 180, 0, 17, 42, 180, 0, 21]
abbrev dktX7_apply_10 : List UInt8 := dkwX7_apply_10 ++ dktX7_apply_11
def dkwX7_apply_9 : List UInt8 := [170, 0, 0, 0, 0, 0, 212, 0, 0, 0, 0, 0, 0, 0, 10, 0, 0, 0, 59, 0, 0, 0, 74, 0, 0, 0, 89, 0, 0, 0, 104, 0, 0, 0, 119, 0, 0, 0, 134, 0, 0, 0, 149, 0, 0, 0, 168, 0, 0, 0, 179, 0, 0, 0, 190, 0, 0, 0, 201]
abbrev dktX7_apply_9 : List UInt8 := dkwX7_apply_9 ++ dktX7_apply_10
def dkwX7_apply_8 : List UInt8 := [167, 0, 15, 44, 18, 57, 182, 0, 35, 153, 0, 6, 16, 10, 62, 29]
abbrev dktX7_apply_8 : List UInt8 := dkwX7_apply_8 ++ dktX7_apply_9
def dkwX7_apply_7 : List UInt8 := [182, 0, 35, 153, 0, 36, 16, 8, 62, 167, 0, 30, 44, 18, 55, 182, 0, 35, 153, 0, 21, 16, 9, 62]
abbrev dktX7_apply_7 : List UInt8 := dkwX7_apply_7 ++ dktX7_apply_8
def dkwX7_apply_6 : List UInt8 := [62, 167, 0, 60, 44, 18, 51, 182, 0, 35, 153, 0, 51, 16, 7, 62, 167, 0, 45, 44, 18, 53]
abbrev dktX7_apply_6 : List UInt8 := dkwX7_apply_6 ++ dktX7_apply_7
def dkwX7_apply_5 : List UInt8 := [18, 47, 182, 0, 35, 153, 0, 80, 8, 62, 167, 0, 75, 44, 18, 49, 182, 0, 35, 153, 0, 66, 16, 6]
abbrev dktX7_apply_5 : List UInt8 := dkwX7_apply_5 ++ dktX7_apply_6
def dkwX7_apply_4 : List UInt8 := [153, 0, 108, 6, 62, 167, 0, 103, 44, 18, 45, 182, 0, 35, 153, 0, 94, 7, 62, 167, 0, 89, 44]
abbrev dktX7_apply_4 : List UInt8 := dkwX7_apply_4 ++ dktX7_apply_5
def dkwX7_apply_3 : List UInt8 := [62, 167, 0, 131, 44, 18, 41, 182, 0, 35, 153, 0, 122, 5, 62, 167, 0, 117, 44, 18, 43, 182, 0, 35]
abbrev dktX7_apply_3 : List UInt8 := dkwX7_apply_3 ++ dktX7_apply_4
def dkwX7_apply_2 : List UInt8 := [44, 18, 33, 182, 0, 35, 153, 0, 150, 3, 62, 167, 0, 145, 44, 18, 39, 182, 0, 35, 153, 0, 136, 4]
abbrev dktX7_apply_2 : List UInt8 := dkwX7_apply_2 ++ dktX7_apply_3
def dkwX7_apply_1 : List UInt8 := [171, 0, 0, 0, 253, 0, 0, 0, 11, 186, 136, 121, 164, 0, 0, 0, 153, 203, 126, 113, 145, 0, 0, 0, 111, 214, 102, 146, 151, 0, 0, 0, 226, 0, 53, 206, 113, 0, 0, 0, 241, 0, 53, 207, 136, 0, 0, 0, 167, 0, 54, 8, 2, 0, 0, 0, 211, 5, 133, 169, 245, 0, 0, 0, 97, 6, 138, 196, 98, 0, 0, 0, 196, 6, 148, 7, 69, 0, 0, 0, 181, 6, 164, 66, 216, 0, 0, 0, 125, 106, 143, 163, 115, 0, 0, 0, 139]
abbrev dktX7_apply_1 : List UInt8 := dkwX7_apply_1 ++ dktX7_apply_2
def dkwX7_apply_0 : List UInt8 := [42, 180, 0, 7, 77, 2, 62, 44, 182, 0, 27]
abbrev dktX7_apply_0 : List UInt8 := dkwX7_apply_0 ++ dktX7_apply_1
theorem dksX7_apply_0 : cX7_apply.data.toList.drop 0 = dktX7_apply_0 := by decide +kernel
theorem dksX7_apply_1 : cX7_apply.data.toList.drop 11 = dktX7_apply_1 := dk_seg dksX7_apply_0 11 rfl rfl
theorem dksX7_apply_2 : cX7_apply.data.toList.drop 108 = dktX7_apply_2 := dk_seg dksX7_apply_1 97 rfl rfl
theorem dksX7_apply_3 : cX7_apply.data.toList.drop 132 = dktX7_apply_3 := dk_seg dksX7_apply_2 24 rfl rfl
theorem dksX7_apply_4 : cX7_apply.data.toList.drop 156 = dktX7_apply_4 := dk_seg dksX7_apply_3 24 rfl rfl
theorem dksX7_apply_5 : cX7_apply.data.toList.drop 179 = dktX7_apply_5 := dk_seg dksX7_apply_4 23 rfl rfl
theorem dksX7_apply_6 : cX7_apply.data.toList.drop 203 = dktX7_apply_6 := dk_seg dksX7_apply_5 24 rfl rfl
theorem dksX7_apply_7 : cX7_apply.data.toList.drop 225 = dktX7_apply_7 := dk_seg dksX7_apply_6 22 rfl rfl
theorem dksX7_apply_8 : cX7_apply.data.toList.drop 249 = dktX7_apply_8 := dk_seg dksX7_apply_7 24 rfl rfl
theorem dksX7_apply_9 : cX7_apply.data.toList.drop 265 = dktX7_apply_9 := dk_seg dksX7_apply_8 16 rfl rfl
theorem dksX7_apply_10 : cX7_apply.data.toList.drop 324 = dktX7_apply_10 := dk_seg dksX7_apply_9 59 rfl rfl
theorem dksX7_apply_11 : cX7_apply.data.toList.drop 348 = dktX7_apply_11 := dk_seg dksX7_apply_10 24 rfl rfl
theorem dksX7_apply_12 : cX7_apply.data.toList.drop 371 = dktX7_apply_12 := dk_seg dksX7_apply_11 23 rfl rfl
theorem dksX7_apply_13 : cX7_apply.data.toList.drop 393 = dktX7_apply_13 := dk_seg dksX7_apply_12 22 rfl rfl
theorem dksX7_apply_14 : cX7_apply.data.toList.drop 416 = dktX7_apply_14 := dk_seg dksX7_apply_13 23 rfl rfl
theorem dksX7_apply_15 : cX7_apply.data.toList.drop 438 = dktX7_apply_15 := dk_seg dksX7_apply_14 22 rfl rfl
theorem dksX7_apply_16 : cX7_apply.data.toList.drop 460 = dktX7_apply_16 := dk_seg dksX7_apply_15 22 rfl rfl
theorem dksX7_apply_17 : cX7_apply.data.toList.drop 482 = dktX7_apply_17 := dk_seg dksX7_apply_16 22 rfl rfl
theorem dX7_apply_0 : decode cX7_apply 0 = .ok (.aload_n 0, 1) := dk_42 (dk_at dksX7_apply_0 0 rfl rfl)
theorem dX7_apply_1 : decode cX7_apply 1 = .ok (.getfield 7, 3) := dk_180 0 7 (dk_at dksX7_apply_0 1 rfl rfl)
theorem dX7_apply_4 : decode cX7_apply 4 = .ok (.astore_n 2, 1) := dk_77 (dk_at dksX7_apply_0 4 rfl rfl)
theorem dX7_apply_5 : decode cX7_apply 5 = .ok (.iconst (-1), 1) := dk_2 (dk_at dksX7_apply_0 5 rfl rfl)
theorem dX7_apply_6 : decode cX7_apply 6 = .ok (.istore_n 3, 1) := dk_62 (dk_at dksX7_apply_0 6 rfl rfl)
theorem dX7_apply_7 : decode cX7_apply 7 = .ok (.aload_n 2, 1) := dk_44 (dk_at dksX7_apply_0 7 rfl rfl)
theorem dX7_apply_8 : decode cX7_apply 8 = .ok (.invokevirtual 27, 3) := dk_182 0 27 (dk_at dksX7_apply_0 8 rfl rfl)
theorem dX7_apply_11 : decode cX7_apply 11 = .ok (.lookupswitch 253 #[(-1165461084, 153), (-880905839, 111), (-697920873, 226), (3526257, 241), (3526536, 167), (3540994, 211), (92645877, 97), (109757538, 196), (110364485, 181), (111428312, 125), (1787798387, 139)], 97) := by decide +kernel
theorem dX7_apply_108 : decode cX7_apply 108 = .ok (.aload_n 2, 1) := dk_44 (dk_at dksX7_apply_2 0 rfl rfl)
theorem dX7_apply_109 : decode cX7_apply 109 = .ok (.ldc 33, 2) := dk_18 33 (dk_at dksX7_apply_2 1 rfl rfl)
theorem dX7_apply_111 : decode cX7_apply 111 = .ok (.invokevirtual 35, 3) := dk_182 0 35 (dk_at dksX7_apply_2 3 rfl rfl)
theorem dX7_apply_114 : decode cX7_apply 114 = .ok (.ifCond .eq 150, 3) := dk_153 0 150 (dk_at dksX7_apply_2 6 rfl rfl)
theorem dX7_apply_117 : decode cX7_apply 117 = .ok (.iconst 0, 1) := dk_3 (dk_at dksX7_apply_2 9 rfl rfl)
theorem dX7_apply_118 : decode cX7_apply 118 = .ok (.istore_n 3, 1) := dk_62 (dk_at dksX7_apply_2 10 rfl rfl)
theorem dX7_apply_119 : decode cX7_apply 119 = .ok (.goto 145, 3) := dk_167 0 145 (dk_at dksX7_apply_2 11 rfl rfl)
theorem dX7_apply_122 : decode cX7_apply 122 = .ok (.aload_n 2, 1) := dk_44 (dk_at dksX7_apply_2 14 rfl rfl)
theorem dX7_apply_123 : decode cX7_apply 123 = .ok (.ldc 39, 2) := dk_18 39 (dk_at dksX7_apply_2 15 rfl rfl)
theorem dX7_apply_125 : decode cX7_apply 125 = .ok (.invokevirtual 35, 3) := dk_182 0 35 (dk_at dksX7_apply_2 17 rfl rfl)
theorem dX7_apply_128 : decode cX7_apply 128 = .ok (.ifCond .eq 136, 3) := dk_153 0 136 (dk_at dksX7_apply_2 20 rfl rfl)
theorem dX7_apply_131 : decode cX7_apply 131 = .ok (.iconst 1, 1) := dk_4 (dk_at dksX7_apply_2 23 rfl rfl)
theorem dX7_apply_132 : decode cX7_apply 132 = .ok (.istore_n 3, 1) := dk_62 (dk_at dksX7_apply_3 0 rfl rfl)
theorem dX7_apply_133 : decode cX7_apply 133 = .ok (.goto 131, 3) := dk_167 0 131 (dk_at dksX7_apply_3 1 rfl rfl)
theorem dX7_apply_136 : decode cX7_apply 136 = .ok (.aload_n 2, 1) := dk_44 (dk_at dksX7_apply_3 4 rfl rfl)
theorem dX7_apply_137 : decode cX7_apply 137 = .ok (.ldc 41, 2) := dk_18 41 (dk_at dksX7_apply_3 5 rfl rfl)
theorem dX7_apply_139 : decode cX7_apply 139 = .ok (.invokevirtual 35, 3) := dk_182 0 35 (dk_at dksX7_apply_3 7 rfl rfl)
theorem dX7_apply_142 : decode cX7_apply 142 = .ok (.ifCond .eq 122, 3) := dk_153 0 122 (dk_at dksX7_apply_3 10 rfl rfl)
theorem dX7_apply_145 : decode cX7_apply 145 = .ok (.iconst 2, 1) := dk_5 (dk_at dksX7_apply_3 13 rfl rfl)
theorem dX7_apply_146 : decode cX7_apply 146 = .ok (.istore_n 3, 1) := dk_62 (dk_at dksX7_apply_3 14 rfl rfl)
theorem dX7_apply_147 : decode cX7_apply 147 = .ok (.goto 117, 3) := dk_167 0 117 (dk_at dksX7_apply_3 15 rfl rfl)
theorem dX7_apply_150 : decode cX7_apply 150 = .ok (.aload_n 2, 1) := dk_44 (dk_at dksX7_apply_3 18 rfl rfl)
theorem dX7_apply_151 : decode cX7_apply 151 = .ok (.ldc 43, 2) := dk_18 43 (dk_at dksX7_apply_3 19 rfl rfl)
theorem dX7_apply_153 : decode cX7_apply 153 = .ok (.invokevirtual 35, 3) := dk_182 0 35 (dk_at dksX7_apply_3 21 rfl rfl)
theorem dX7_apply_156 : decode cX7_apply 156 = .ok (.ifCond .eq 108, 3) := dk_153 0 108 (dk_at dksX7_apply_4 0 rfl rfl)
theorem dX7_apply_159 : decode cX7_apply 159 = .ok (.iconst 3, 1) := dk_6 (dk_at dksX7_apply_4 3 rfl rfl)
theorem dX7_apply_160 : decode cX7_apply 160 = .ok (.istore_n 3, 1) := dk_62 (dk_at dksX7_apply_4 4 rfl rfl)
theorem dX7_apply_161 : decode cX7_apply 161 = .ok (.goto 103, 3) := dk_167 0 103 (dk_at dksX7_apply_4 5 rfl rfl)
theorem dX7_apply_164 : decode cX7_apply 164 = .ok (.aload_n 2, 1) := dk_44 (dk_at dksX7_apply_4 8 rfl rfl)
theorem dX7_apply_165 : decode cX7_apply 165 = .ok (.ldc 45, 2) := dk_18 45 (dk_at dksX7_apply_4 9 rfl rfl)
theorem dX7_apply_167 : decode cX7_apply 167 = .ok (.invokevirtual 35, 3) := dk_182 0 35 (dk_at dksX7_apply_4 11 rfl rfl)
theorem dX7_apply_170 : decode cX7_apply 170 = .ok (.ifCond .eq 94, 3) := dk_153 0 94 (dk_at dksX7_apply_4 14 rfl rfl)
theorem dX7_apply_173 : decode cX7_apply 173 = .ok (.iconst 4, 1) := dk_7 (dk_at dksX7_apply_4 17 rfl rfl)
theorem dX7_apply_174 : decode cX7_apply 174 = .ok (.istore_n 3, 1) := dk_62 (dk_at dksX7_apply_4 18 rfl rfl)
theorem dX7_apply_175 : decode cX7_apply 175 = .ok (.goto 89, 3) := dk_167 0 89 (dk_at dksX7_apply_4 19 rfl rfl)
theorem dX7_apply_178 : decode cX7_apply 178 = .ok (.aload_n 2, 1) := dk_44 (dk_at dksX7_apply_4 22 rfl rfl)
theorem dX7_apply_179 : decode cX7_apply 179 = .ok (.ldc 47, 2) := dk_18 47 (dk_at dksX7_apply_5 0 rfl rfl)
theorem dX7_apply_181 : decode cX7_apply 181 = .ok (.invokevirtual 35, 3) := dk_182 0 35 (dk_at dksX7_apply_5 2 rfl rfl)
theorem dX7_apply_184 : decode cX7_apply 184 = .ok (.ifCond .eq 80, 3) := dk_153 0 80 (dk_at dksX7_apply_5 5 rfl rfl)
theorem dX7_apply_187 : decode cX7_apply 187 = .ok (.iconst 5, 1) := dk_8 (dk_at dksX7_apply_5 8 rfl rfl)
theorem dX7_apply_188 : decode cX7_apply 188 = .ok (.istore_n 3, 1) := dk_62 (dk_at dksX7_apply_5 9 rfl rfl)
theorem dX7_apply_189 : decode cX7_apply 189 = .ok (.goto 75, 3) := dk_167 0 75 (dk_at dksX7_apply_5 10 rfl rfl)
theorem dX7_apply_192 : decode cX7_apply 192 = .ok (.aload_n 2, 1) := dk_44 (dk_at dksX7_apply_5 13 rfl rfl)
theorem dX7_apply_193 : decode cX7_apply 193 = .ok (.ldc 49, 2) := dk_18 49 (dk_at dksX7_apply_5 14 rfl rfl)
theorem dX7_apply_195 : decode cX7_apply 195 = .ok (.invokevirtual 35, 3) := dk_182 0 35 (dk_at dksX7_apply_5 16 rfl rfl)
theorem dX7_apply_198 : decode cX7_apply 198 = .ok (.ifCond .eq 66, 3) := dk_153 0 66 (dk_at dksX7_apply_5 19 rfl rfl)
theorem dX7_apply_201 : decode cX7_apply 201 = .ok (.bipush 6, 2) := dk_16 6 (dk_at dksX7_apply_5 22 rfl rfl)
theorem dX7_apply_203 : decode cX7_apply 203 = .ok (.istore_n 3, 1) := dk_62 (dk_at dksX7_apply_6 0 rfl rfl)
theorem dX7_apply_204 : decode cX7_apply 204 = .ok (.goto 60, 3) := dk_167 0 60 (dk_at dksX7_apply_6 1 rfl rfl)
theorem dX7_apply_207 : decode cX7_apply 207 = .ok (.aload_n 2, 1) := dk_44 (dk_at dksX7_apply_6 4 rfl rfl)
theorem dX7_apply_208 : decode cX7_apply 208 = .ok (.ldc 51, 2) := dk_18 51 (dk_at dksX7_apply_6 5 rfl rfl)
theorem dX7_apply_210 : decode cX7_apply 210 = .ok (.invokevirtual 35, 3) := dk_182 0 35 (dk_at dksX7_apply_6 7 rfl rfl)
theorem dX7_apply_213 : decode cX7_apply 213 = .ok (.ifCond .eq 51, 3) := dk_153 0 51 (dk_at dksX7_apply_6 10 rfl rfl)
theorem dX7_apply_216 : decode cX7_apply 216 = .ok (.bipush 7, 2) := dk_16 7 (dk_at dksX7_apply_6 13 rfl rfl)
theorem dX7_apply_218 : decode cX7_apply 218 = .ok (.istore_n 3, 1) := dk_62 (dk_at dksX7_apply_6 15 rfl rfl)
theorem dX7_apply_219 : decode cX7_apply 219 = .ok (.goto 45, 3) := dk_167 0 45 (dk_at dksX7_apply_6 16 rfl rfl)
theorem dX7_apply_222 : decode cX7_apply 222 = .ok (.aload_n 2, 1) := dk_44 (dk_at dksX7_apply_6 19 rfl rfl)
theorem dX7_apply_223 : decode cX7_apply 223 = .ok (.ldc 53, 2) := dk_18 53 (dk_at dksX7_apply_6 20 rfl rfl)
theorem dX7_apply_225 : decode cX7_apply 225 = .ok (.invokevirtual 35, 3) := dk_182 0 35 (dk_at dksX7_apply_7 0 rfl rfl)
theorem dX7_apply_228 : decode cX7_apply 228 = .ok (.ifCond .eq 36, 3) := dk_153 0 36 (dk_at dksX7_apply_7 3 rfl rfl)
theorem dX7_apply_231 : decode cX7_apply 231 = .ok (.bipush 8, 2) := dk_16 8 (dk_at dksX7_apply_7 6 rfl rfl)
theorem dX7_apply_233 : decode cX7_apply 233 = .ok (.istore_n 3, 1) := dk_62 (dk_at dksX7_apply_7 8 rfl rfl)
theorem dX7_apply_234 : decode cX7_apply 234 = .ok (.goto 30, 3) := dk_167 0 30 (dk_at dksX7_apply_7 9 rfl rfl)
theorem dX7_apply_237 : decode cX7_apply 237 = .ok (.aload_n 2, 1) := dk_44 (dk_at dksX7_apply_7 12 rfl rfl)
theorem dX7_apply_238 : decode cX7_apply 238 = .ok (.ldc 55, 2) := dk_18 55 (dk_at dksX7_apply_7 13 rfl rfl)
theorem dX7_apply_240 : decode cX7_apply 240 = .ok (.invokevirtual 35, 3) := dk_182 0 35 (dk_at dksX7_apply_7 15 rfl rfl)
theorem dX7_apply_243 : decode cX7_apply 243 = .ok (.ifCond .eq 21, 3) := dk_153 0 21 (dk_at dksX7_apply_7 18 rfl rfl)
theorem dX7_apply_246 : decode cX7_apply 246 = .ok (.bipush 9, 2) := dk_16 9 (dk_at dksX7_apply_7 21 rfl rfl)
theorem dX7_apply_248 : decode cX7_apply 248 = .ok (.istore_n 3, 1) := dk_62 (dk_at dksX7_apply_7 23 rfl rfl)
theorem dX7_apply_249 : decode cX7_apply 249 = .ok (.goto 15, 3) := dk_167 0 15 (dk_at dksX7_apply_8 0 rfl rfl)
theorem dX7_apply_252 : decode cX7_apply 252 = .ok (.aload_n 2, 1) := dk_44 (dk_at dksX7_apply_8 3 rfl rfl)
theorem dX7_apply_253 : decode cX7_apply 253 = .ok (.ldc 57, 2) := dk_18 57 (dk_at dksX7_apply_8 4 rfl rfl)
theorem dX7_apply_255 : decode cX7_apply 255 = .ok (.invokevirtual 35, 3) := dk_182 0 35 (dk_at dksX7_apply_8 6 rfl rfl)
theorem dX7_apply_258 : decode cX7_apply 258 = .ok (.ifCond .eq 6, 3) := dk_153 0 6 (dk_at dksX7_apply_8 9 rfl rfl)
theorem dX7_apply_261 : decode cX7_apply 261 = .ok (.bipush 10, 2) := dk_16 10 (dk_at dksX7_apply_8 12 rfl rfl)
theorem dX7_apply_263 : decode cX7_apply 263 = .ok (.istore_n 3, 1) := dk_62 (dk_at dksX7_apply_8 14 rfl rfl)
theorem dX7_apply_264 : decode cX7_apply 264 = .ok (.iload_n 3, 1) := dk_29 (dk_at dksX7_apply_8 15 rfl rfl)
theorem dX7_apply_265 : decode cX7_apply 265 = .ok (.tableswitch 212 0 10 #[59, 74, 89, 104, 119, 134, 149, 168, 179, 190, 201], 59) := by decide +kernel
theorem dX7_apply_324 : decode cX7_apply 324 = .ok (.aload_n 1, 1) := dk_43 (dk_at dksX7_apply_10 0 rfl rfl)
theorem dX7_apply_325 : decode cX7_apply 325 = .ok (.aload_n 0, 1) := dk_42 (dk_at dksX7_apply_10 1 rfl rfl)
theorem dX7_apply_326 : decode cX7_apply 326 = .ok (.getfield 13, 3) := dk_180 0 13 (dk_at dksX7_apply_10 2 rfl rfl)
theorem dX7_apply_329 : decode cX7_apply 329 = .ok (.aload_n 0, 1) := dk_42 (dk_at dksX7_apply_10 5 rfl rfl)
theorem dX7_apply_330 : decode cX7_apply 330 = .ok (.getfield 17, 3) := dk_180 0 17 (dk_at dksX7_apply_10 6 rfl rfl)
theorem dX7_apply_333 : decode cX7_apply 333 = .ok (.invokevirtual 59, 3) := dk_182 0 59 (dk_at dksX7_apply_10 9 rfl rfl)
theorem dX7_apply_336 : decode cX7_apply 336 = .ok (.goto 149, 3) := dk_167 0 149 (dk_at dksX7_apply_10 12 rfl rfl)
theorem dX7_apply_339 : decode cX7_apply 339 = .ok (.aload_n 1, 1) := dk_43 (dk_at dksX7_apply_10 15 rfl rfl)
theorem dX7_apply_340 : decode cX7_apply 340 = .ok (.aload_n 0, 1) := dk_42 (dk_at dksX7_apply_10 16 rfl rfl)
theorem dX7_apply_341 : decode cX7_apply 341 = .ok (.getfield 17, 3) := dk_180 0 17 (dk_at dksX7_apply_10 17 rfl rfl)
theorem dX7_apply_344 : decode cX7_apply 344 = .ok (.aload_n 0, 1) := dk_42 (dk_at dksX7_apply_10 20 rfl rfl)
theorem dX7_apply_345 : decode cX7_apply 345 = .ok (.getfield 21, 3) := dk_180 0 21 (dk_at dksX7_apply_10 21 rfl rfl)
theorem dX7_apply_348 : decode cX7_apply 348 = .ok (.invokevirtual 65, 3) := dk_182 0 65 (dk_at dksX7_apply_11 0 rfl rfl)
theorem dX7_apply_351 : decode cX7_apply 351 = .ok (.goto 134, 3) := dk_167 0 134 (dk_at dksX7_apply_11 3 rfl rfl)
theorem dX7_apply_354 : decode cX7_apply 354 = .ok (.aload_n 1, 1) := dk_43 (dk_at dksX7_apply_11 6 rfl rfl)
theorem dX7_apply_355 : decode cX7_apply 355 = .ok (.aload_n 0, 1) := dk_42 (dk_at dksX7_apply_11 7 rfl rfl)
theorem dX7_apply_356 : decode cX7_apply 356 = .ok (.getfield 17, 3) := dk_180 0 17 (dk_at dksX7_apply_11 8 rfl rfl)
theorem dX7_apply_359 : decode cX7_apply 359 = .ok (.aload_n 0, 1) := dk_42 (dk_at dksX7_apply_11 11 rfl rfl)
theorem dX7_apply_360 : decode cX7_apply 360 = .ok (.getfield 21, 3) := dk_180 0 21 (dk_at dksX7_apply_11 12 rfl rfl)
theorem dX7_apply_363 : decode cX7_apply 363 = .ok (.invokevirtual 69, 3) := dk_182 0 69 (dk_at dksX7_apply_11 15 rfl rfl)
theorem dX7_apply_366 : decode cX7_apply 366 = .ok (.goto 119, 3) := dk_167 0 119 (dk_at dksX7_apply_11 18 rfl rfl)
theorem dX7_apply_369 : decode cX7_apply 369 = .ok (.aload_n 1, 1) := dk_43 (dk_at dksX7_apply_11 21 rfl rfl)
theorem dX7_apply_370 : decode cX7_apply 370 = .ok (.aload_n 0, 1) := dk_42 (dk_at dksX7_apply_11 22 rfl rfl)
theorem dX7_apply_371 : decode cX7_apply 371 = .ok (.getfield 17, 3) := dk_180 0 17 (dk_at dksX7_apply_12 0 rfl rfl)
theorem dX7_apply_374 : decode cX7_apply 374 = .ok (.aload_n 0, 1) := dk_42 (dk_at dksX7_apply_12 3 rfl rfl)
theorem dX7_apply_375 : decode cX7_apply 375 = .ok (.getfield 13, 3) := dk_180 0 13 (dk_at dksX7_apply_12 4 rfl rfl)
theorem dX7_apply_378 : decode cX7_apply 378 = .ok (.invokevirtual 72, 3) := dk_182 0 72 (dk_at dksX7_apply_12 7 rfl rfl)
theorem dX7_apply_381 : decode cX7_apply 381 = .ok (.goto 104, 3) := dk_167 0 104 (dk_at dksX7_apply_12 10 rfl rfl)
theorem dX7_apply_384 : decode cX7_apply 384 = .ok (.aload_n 1, 1) := dk_43 (dk_at dksX7_apply_12 13 rfl rfl)
theorem dX7_apply_385 : decode cX7_apply 385 = .ok (.aload_n 0, 1) := dk_42 (dk_at dksX7_apply_12 14 rfl rfl)
theorem dX7_apply_386 : decode cX7_apply 386 = .ok (.getfield 17, 3) := dk_180 0 17 (dk_at dksX7_apply_12 15 rfl rfl)
theorem dX7_apply_389 : decode cX7_apply 389 = .ok (.aload_n 0, 1) := dk_42 (dk_at dksX7_apply_12 18 rfl rfl)
theorem dX7_apply_390 : decode cX7_apply 390 = .ok (.getfield 21, 3) := dk_180 0 21 (dk_at dksX7_apply_12 19 rfl rfl)
theorem dX7_apply_393 : decode cX7_apply 393 = .ok (.invokevirtual 76, 3) := dk_182 0 76 (dk_at dksX7_apply_13 0 rfl rfl)
theorem dX7_apply_396 : decode cX7_apply 396 = .ok (.goto 89, 3) := dk_167 0 89 (dk_at dksX7_apply_13 3 rfl rfl)
theorem dX7_apply_399 : decode cX7_apply 399 = .ok (.aload_n 1, 1) := dk_43 (dk_at dksX7_apply_13 6 rfl rfl)
theorem dX7_apply_400 : decode cX7_apply 400 = .ok (.aload_n 0, 1) := dk_42 (dk_at dksX7_apply_13 7 rfl rfl)
theorem dX7_apply_401 : decode cX7_apply 401 = .ok (.getfield 17, 3) := dk_180 0 17 (dk_at dksX7_apply_13 8 rfl rfl)
theorem dX7_apply_404 : decode cX7_apply 404 = .ok (.aload_n 0, 1) := dk_42 (dk_at dksX7_apply_13 11 rfl rfl)
theorem dX7_apply_405 : decode cX7_apply 405 = .ok (.getfield 21, 3) := dk_180 0 21 (dk_at dksX7_apply_13 12 rfl rfl)
theorem dX7_apply_408 : decode cX7_apply 408 = .ok (.invokevirtual 79, 3) := dk_182 0 79 (dk_at dksX7_apply_13 15 rfl rfl)
theorem dX7_apply_411 : decode cX7_apply 411 = .ok (.goto 74, 3) := dk_167 0 74 (dk_at dksX7_apply_13 18 rfl rfl)
theorem dX7_apply_414 : decode cX7_apply 414 = .ok (.aload_n 1, 1) := dk_43 (dk_at dksX7_apply_13 21 rfl rfl)
theorem dX7_apply_415 : decode cX7_apply 415 = .ok (.aload_n 0, 1) := dk_42 (dk_at dksX7_apply_13 22 rfl rfl)
theorem dX7_apply_416 : decode cX7_apply 416 = .ok (.getfield 17, 3) := dk_180 0 17 (dk_at dksX7_apply_14 0 rfl rfl)
theorem dX7_apply_419 : decode cX7_apply 419 = .ok (.aload_n 0, 1) := dk_42 (dk_at dksX7_apply_14 3 rfl rfl)
theorem dX7_apply_420 : decode cX7_apply 420 = .ok (.getfield 21, 3) := dk_180 0 21 (dk_at dksX7_apply_14 4 rfl rfl)
theorem dX7_apply_423 : decode cX7_apply 423 = .ok (.aload_n 0, 1) := dk_42 (dk_at dksX7_apply_14 7 rfl rfl)
theorem dX7_apply_424 : decode cX7_apply 424 = .ok (.getfield 24, 3) := dk_180 0 24 (dk_at dksX7_apply_14 8 rfl rfl)
theorem dX7_apply_427 : decode cX7_apply 427 = .ok (.invokevirtual 81, 3) := dk_182 0 81 (dk_at dksX7_apply_14 11 rfl rfl)
theorem dX7_apply_430 : decode cX7_apply 430 = .ok (.goto 55, 3) := dk_167 0 55 (dk_at dksX7_apply_14 14 rfl rfl)
theorem dX7_apply_433 : decode cX7_apply 433 = .ok (.aload_n 1, 1) := dk_43 (dk_at dksX7_apply_14 17 rfl rfl)
theorem dX7_apply_434 : decode cX7_apply 434 = .ok (.aload_n 0, 1) := dk_42 (dk_at dksX7_apply_14 18 rfl rfl)
theorem dX7_apply_435 : decode cX7_apply 435 = .ok (.getfield 17, 3) := dk_180 0 17 (dk_at dksX7_apply_14 19 rfl rfl)
theorem dX7_apply_438 : decode cX7_apply 438 = .ok (.invokevirtual 85, 3) := dk_182 0 85 (dk_at dksX7_apply_15 0 rfl rfl)
theorem dX7_apply_441 : decode cX7_apply 441 = .ok (.goto 44, 3) := dk_167 0 44 (dk_at dksX7_apply_15 3 rfl rfl)
theorem dX7_apply_444 : decode cX7_apply 444 = .ok (.aload_n 1, 1) := dk_43 (dk_at dksX7_apply_15 6 rfl rfl)
theorem dX7_apply_445 : decode cX7_apply 445 = .ok (.aload_n 0, 1) := dk_42 (dk_at dksX7_apply_15 7 rfl rfl)
theorem dX7_apply_446 : decode cX7_apply 446 = .ok (.getfield 17, 3) := dk_180 0 17 (dk_at dksX7_apply_15 8 rfl rfl)
theorem dX7_apply_449 : decode cX7_apply 449 = .ok (.invokevirtual 88, 3) := dk_182 0 88 (dk_at dksX7_apply_15 11 rfl rfl)
theorem dX7_apply_452 : decode cX7_apply 452 = .ok (.goto 33, 3) := dk_167 0 33 (dk_at dksX7_apply_15 14 rfl rfl)
theorem dX7_apply_455 : decode cX7_apply 455 = .ok (.aload_n 1, 1) := dk_43 (dk_at dksX7_apply_15 17 rfl rfl)
theorem dX7_apply_456 : decode cX7_apply 456 = .ok (.aload_n 0, 1) := dk_42 (dk_at dksX7_apply_15 18 rfl rfl)
theorem dX7_apply_457 : decode cX7_apply 457 = .ok (.getfield 13, 3) := dk_180 0 13 (dk_at dksX7_apply_15 19 rfl rfl)
theorem dX7_apply_460 : decode cX7_apply 460 = .ok (.invokevirtual 90, 3) := dk_182 0 90 (dk_at dksX7_apply_16 0 rfl rfl)
theorem dX7_apply_463 : decode cX7_apply 463 = .ok (.goto 22, 3) := dk_167 0 22 (dk_at dksX7_apply_16 3 rfl rfl)
theorem dX7_apply_466 : decode cX7_apply 466 = .ok (.aload_n 1, 1) := dk_43 (dk_at dksX7_apply_16 6 rfl rfl)
theorem dX7_apply_467 : decode cX7_apply 467 = .ok (.aload_n 0, 1) := dk_42 (dk_at dksX7_apply_16 7 rfl rfl)
theorem dX7_apply_468 : decode cX7_apply 468 = .ok (.getfield 17, 3) := dk_180 0 17 (dk_at dksX7_apply_16 8 rfl rfl)
theorem dX7_apply_471 : decode cX7_apply 471 = .ok (.invokevirtual 94, 3) := dk_182 0 94 (dk_at dksX7_apply_16 11 rfl rfl)
theorem dX7_apply_474 : decode cX7_apply 474 = .ok (.goto 11, 3) := dk_167 0 11 (dk_at dksX7_apply_16 14 rfl rfl)
theorem dX7_apply_477 : decode cX7_apply 477 = .ok (.aload_n 1, 1) := dk_43 (dk_at dksX7_apply_16 17 rfl rfl)
theorem dX7_apply_478 : decode cX7_apply 478 = .ok (.aload_n 0, 1) := dk_42 (dk_at dksX7_apply_16 18 rfl rfl)
theorem dX7_apply_479 : decode cX7_apply 479 = .ok (.getfield 17, 3) := dk_180 0 17 (dk_at dksX7_apply_16 19 rfl rfl)
theorem dX7_apply_482 : decode cX7_apply 482 = .ok (.invokevirtual 97, 3) := dk_182 0 97 (dk_at dksX7_apply_17 0 rfl rfl)
theorem dX7_apply_485 : decode cX7_apply 485 = .ok (.ireturn, 1) := dk_172 (dk_at dksX7_apply_17 3 rfl rfl)
abbrev cX8_init : ByteArray := prog_6_method_1_code
def yX8_init : MethodName := ⟨RX8, "<init>", "(II)V"⟩
def dkwX8_init_0 : List UInt8 := [42, 27, 28, 1, 183, 0, 1, 177]
abbrev dktX8_init_0 : List UInt8 := dkwX8_init_0 ++ []
theorem dksX8_init_0 : cX8_init.data.toList.drop 0 = dktX8_init_0 := by decide +kernel
theorem dX8_init_0 : decode cX8_init 0 = .ok (.aload_n 0, 1) := dk_42 (dk_at dksX8_init_0 0 rfl rfl)
theorem dX8_init_1 : decode cX8_init 1 = .ok (.iload_n 1, 1) := dk_27 (dk_at dksX8_init_0 1 rfl rfl)
theorem dX8_init_2 : decode cX8_init 2 = .ok (.iload_n 2, 1) := dk_28 (dk_at dksX8_init_0 2 rfl rfl)
theorem dX8_init_3 : decode cX8_init 3 = .ok (.aconst_null, 1) := dk_1 (dk_at dksX8_init_0 3 rfl rfl)
theorem dX8_init_4 : decode cX8_init 4 = .ok (.invokespecial 1, 3) := dk_183 0 1 (dk_at dksX8_init_0 4 rfl rfl)
theorem dX8_init_7 : decode cX8_init 7 = .ok (.return_, 1) := dk_177 (dk_at dksX8_init_0 7 rfl rfl)
abbrev cX8_init_2 : ByteArray := prog_6_method_2_code
def yX8_init_2 : MethodName := ⟨RX8, "<init>", "(IILSpindleActors$Denial;)V"⟩
def dkwX8_init_2_0 : List UInt8 := [42, 1, 45, 3, 3, 183, 0, 7, 42, 27, 181, 0, 12, 42, 28, 181, 0, 16, 177]
abbrev dktX8_init_2_0 : List UInt8 := dkwX8_init_2_0 ++ []
theorem dksX8_init_2_0 : cX8_init_2.data.toList.drop 0 = dktX8_init_2_0 := by decide +kernel
theorem dX8_init_2_0 : decode cX8_init_2 0 = .ok (.aload_n 0, 1) := dk_42 (dk_at dksX8_init_2_0 0 rfl rfl)
theorem dX8_init_2_1 : decode cX8_init_2 1 = .ok (.aconst_null, 1) := dk_1 (dk_at dksX8_init_2_0 1 rfl rfl)
theorem dX8_init_2_2 : decode cX8_init_2 2 = .ok (.aload_n 3, 1) := dk_45 (dk_at dksX8_init_2_0 2 rfl rfl)
theorem dX8_init_2_3 : decode cX8_init_2 3 = .ok (.iconst 0, 1) := dk_3 (dk_at dksX8_init_2_0 3 rfl rfl)
theorem dX8_init_2_4 : decode cX8_init_2 4 = .ok (.iconst 0, 1) := dk_3 (dk_at dksX8_init_2_0 4 rfl rfl)
theorem dX8_init_2_5 : decode cX8_init_2 5 = .ok (.invokespecial 7, 3) := dk_183 0 7 (dk_at dksX8_init_2_0 5 rfl rfl)
theorem dX8_init_2_8 : decode cX8_init_2 8 = .ok (.aload_n 0, 1) := dk_42 (dk_at dksX8_init_2_0 8 rfl rfl)
theorem dX8_init_2_9 : decode cX8_init_2 9 = .ok (.iload_n 1, 1) := dk_27 (dk_at dksX8_init_2_0 9 rfl rfl)
theorem dX8_init_2_10 : decode cX8_init_2 10 = .ok (.putfield 12, 3) := dk_181 0 12 (dk_at dksX8_init_2_0 10 rfl rfl)
theorem dX8_init_2_13 : decode cX8_init_2 13 = .ok (.aload_n 0, 1) := dk_42 (dk_at dksX8_init_2_0 13 rfl rfl)
theorem dX8_init_2_14 : decode cX8_init_2 14 = .ok (.iload_n 2, 1) := dk_28 (dk_at dksX8_init_2_0 14 rfl rfl)
theorem dX8_init_2_15 : decode cX8_init_2 15 = .ok (.putfield 16, 3) := dk_181 0 16 (dk_at dksX8_init_2_0 15 rfl rfl)
theorem dX8_init_2_18 : decode cX8_init_2 18 = .ok (.return_, 1) := dk_177 (dk_at dksX8_init_2_0 18 rfl rfl)
abbrev cX8_behind : ByteArray := prog_6_method_3_code
def yX8_behind : MethodName := ⟨RX8, "behind", "()Ljava/util/Optional;"⟩
def dkwX8_behind_1 : List UInt8 := [184, 0, 29, 176]
abbrev dktX8_behind_1 : List UInt8 := dkwX8_behind_1 ++ []
def dkwX8_behind_0 : List UInt8 := [42, 182, 0, 19, 77, 44, 193, 0, 2, 153, 0, 15, 44, 192, 0, 2, 76, 43, 184, 0, 23, 167, 0, 6]
abbrev dktX8_behind_0 : List UInt8 := dkwX8_behind_0 ++ dktX8_behind_1
theorem dksX8_behind_0 : cX8_behind.data.toList.drop 0 = dktX8_behind_0 := by decide +kernel
theorem dksX8_behind_1 : cX8_behind.data.toList.drop 24 = dktX8_behind_1 := dk_seg dksX8_behind_0 24 rfl rfl
theorem dX8_behind_0 : decode cX8_behind 0 = .ok (.aload_n 0, 1) := dk_42 (dk_at dksX8_behind_0 0 rfl rfl)
theorem dX8_behind_1 : decode cX8_behind 1 = .ok (.invokevirtual 19, 3) := dk_182 0 19 (dk_at dksX8_behind_0 1 rfl rfl)
theorem dX8_behind_4 : decode cX8_behind 4 = .ok (.astore_n 2, 1) := dk_77 (dk_at dksX8_behind_0 4 rfl rfl)
theorem dX8_behind_5 : decode cX8_behind 5 = .ok (.aload_n 2, 1) := dk_44 (dk_at dksX8_behind_0 5 rfl rfl)
theorem dX8_behind_6 : decode cX8_behind 6 = .ok (.instanceof 2, 3) := dk_193 0 2 (dk_at dksX8_behind_0 6 rfl rfl)
theorem dX8_behind_9 : decode cX8_behind 9 = .ok (.ifCond .eq 15, 3) := dk_153 0 15 (dk_at dksX8_behind_0 9 rfl rfl)
theorem dX8_behind_12 : decode cX8_behind 12 = .ok (.aload_n 2, 1) := dk_44 (dk_at dksX8_behind_0 12 rfl rfl)
theorem dX8_behind_13 : decode cX8_behind 13 = .ok (.checkcast 2, 3) := dk_192 0 2 (dk_at dksX8_behind_0 13 rfl rfl)
theorem dX8_behind_16 : decode cX8_behind 16 = .ok (.astore_n 1, 1) := dk_76 (dk_at dksX8_behind_0 16 rfl rfl)
theorem dX8_behind_17 : decode cX8_behind 17 = .ok (.aload_n 1, 1) := dk_43 (dk_at dksX8_behind_0 17 rfl rfl)
theorem dX8_behind_18 : decode cX8_behind 18 = .ok (.invokestatic 23, 3) := dk_184 0 23 (dk_at dksX8_behind_0 18 rfl rfl)
theorem dX8_behind_21 : decode cX8_behind 21 = .ok (.goto 6, 3) := dk_167 0 6 (dk_at dksX8_behind_0 21 rfl rfl)
theorem dX8_behind_24 : decode cX8_behind 24 = .ok (.invokestatic 29, 3) := dk_184 0 29 (dk_at dksX8_behind_1 0 rfl rfl)
theorem dX8_behind_27 : decode cX8_behind 27 = .ok (.areturn, 1) := dk_176 (dk_at dksX8_behind_1 3 rfl rfl)
abbrev cX9_init : ByteArray := prog_12_method_1_code
def yX9_init : MethodName := ⟨RX9, "<init>", "(IIII)V"⟩
def dkwX9_init_1 : List UInt8 := [181, 0, 19, 177]
abbrev dktX9_init_1 : List UInt8 := dkwX9_init_1 ++ []
def dkwX9_init_0 : List UInt8 := [42, 183, 0, 1, 42, 27, 181, 0, 7, 42, 28, 181, 0, 13, 42, 29, 181, 0, 16, 42, 21, 4]
abbrev dktX9_init_0 : List UInt8 := dkwX9_init_0 ++ dktX9_init_1
theorem dksX9_init_0 : cX9_init.data.toList.drop 0 = dktX9_init_0 := by decide +kernel
theorem dksX9_init_1 : cX9_init.data.toList.drop 22 = dktX9_init_1 := dk_seg dksX9_init_0 22 rfl rfl
theorem dX9_init_0 : decode cX9_init 0 = .ok (.aload_n 0, 1) := dk_42 (dk_at dksX9_init_0 0 rfl rfl)
theorem dX9_init_1 : decode cX9_init 1 = .ok (.invokespecial 1, 3) := dk_183 0 1 (dk_at dksX9_init_0 1 rfl rfl)
theorem dX9_init_4 : decode cX9_init 4 = .ok (.aload_n 0, 1) := dk_42 (dk_at dksX9_init_0 4 rfl rfl)
theorem dX9_init_5 : decode cX9_init 5 = .ok (.iload_n 1, 1) := dk_27 (dk_at dksX9_init_0 5 rfl rfl)
theorem dX9_init_6 : decode cX9_init 6 = .ok (.putfield 7, 3) := dk_181 0 7 (dk_at dksX9_init_0 6 rfl rfl)
theorem dX9_init_9 : decode cX9_init 9 = .ok (.aload_n 0, 1) := dk_42 (dk_at dksX9_init_0 9 rfl rfl)
theorem dX9_init_10 : decode cX9_init 10 = .ok (.iload_n 2, 1) := dk_28 (dk_at dksX9_init_0 10 rfl rfl)
theorem dX9_init_11 : decode cX9_init 11 = .ok (.putfield 13, 3) := dk_181 0 13 (dk_at dksX9_init_0 11 rfl rfl)
theorem dX9_init_14 : decode cX9_init 14 = .ok (.aload_n 0, 1) := dk_42 (dk_at dksX9_init_0 14 rfl rfl)
theorem dX9_init_15 : decode cX9_init 15 = .ok (.iload_n 3, 1) := dk_29 (dk_at dksX9_init_0 15 rfl rfl)
theorem dX9_init_16 : decode cX9_init 16 = .ok (.putfield 16, 3) := dk_181 0 16 (dk_at dksX9_init_0 16 rfl rfl)
theorem dX9_init_19 : decode cX9_init 19 = .ok (.aload_n 0, 1) := dk_42 (dk_at dksX9_init_0 19 rfl rfl)
theorem dX9_init_20 : decode cX9_init 20 = .ok (.iload 4, 2) := dk_21 4 (dk_at dksX9_init_0 20 rfl rfl)
theorem dX9_init_22 : decode cX9_init 22 = .ok (.putfield 19, 3) := dk_181 0 19 (dk_at dksX9_init_1 0 rfl rfl)
theorem dX9_init_25 : decode cX9_init 25 = .ok (.return_, 1) := dk_177 (dk_at dksX9_init_1 3 rfl rfl)
abbrev cX10_compare : ByteArray := prog_3_method_3_code
def yX10_compare : MethodName := ⟨RX10, "compare", "(Ljava/lang/Object;Ljava/lang/Object;)I"⟩
def dkwX10_compare_0 : List UInt8 := [42, 43, 192, 0, 32, 44, 192, 0, 32, 182, 0, 46, 172]
abbrev dktX10_compare_0 : List UInt8 := dkwX10_compare_0 ++ []
theorem dksX10_compare_0 : cX10_compare.data.toList.drop 0 = dktX10_compare_0 := by decide +kernel
theorem dX10_compare_0 : decode cX10_compare 0 = .ok (.aload_n 0, 1) := dk_42 (dk_at dksX10_compare_0 0 rfl rfl)
theorem dX10_compare_1 : decode cX10_compare 1 = .ok (.aload_n 1, 1) := dk_43 (dk_at dksX10_compare_0 1 rfl rfl)
theorem dX10_compare_2 : decode cX10_compare 2 = .ok (.checkcast 32, 3) := dk_192 0 32 (dk_at dksX10_compare_0 2 rfl rfl)
theorem dX10_compare_5 : decode cX10_compare 5 = .ok (.aload_n 2, 1) := dk_44 (dk_at dksX10_compare_0 5 rfl rfl)
theorem dX10_compare_6 : decode cX10_compare 6 = .ok (.checkcast 32, 3) := dk_192 0 32 (dk_at dksX10_compare_0 6 rfl rfl)
theorem dX10_compare_9 : decode cX10_compare 9 = .ok (.invokevirtual 46, 3) := dk_182 0 46 (dk_at dksX10_compare_0 9 rfl rfl)
theorem dX10_compare_12 : decode cX10_compare 12 = .ok (.ireturn, 1) := dk_172 (dk_at dksX10_compare_0 12 rfl rfl)
abbrev cX10_compare_2 : ByteArray := prog_3_method_2_code
def yX10_compare_2 : MethodName := ⟨RX10, "compare", "(Ljava/lang/Integer;Ljava/lang/Integer;)I"⟩
def dkwX10_compare_2_4 : List UInt8 := [182, 0, 31, 100, 167, 0, 4, 29, 172]
abbrev dktX10_compare_2_4 : List UInt8 := dkwX10_compare_2_4 ++ []
def dkwX10_compare_2_3 : List UInt8 := [180, 0, 41, 43, 182, 0, 31, 46, 100, 167, 0, 4, 29, 62, 29, 154, 0, 15, 43, 182, 0, 31, 44]
abbrev dktX10_compare_2_3 : List UInt8 := dkwX10_compare_2_3 ++ dktX10_compare_2_4
def dkwX10_compare_2_2 : List UInt8 := [180, 0, 13, 180, 0, 37, 180, 0, 41, 44, 182, 0, 31, 46, 42, 180, 0, 1, 180, 0, 13, 180, 0, 37]
abbrev dktX10_compare_2_2 : List UInt8 := dkwX10_compare_2_2 ++ dktX10_compare_2_3
def dkwX10_compare_2_1 : List UInt8 := [180, 0, 13, 180, 0, 19, 180, 0, 25, 43, 182, 0, 31, 46, 100, 62, 29, 154, 0, 43, 42, 180, 0, 1]
abbrev dktX10_compare_2_1 : List UInt8 := dkwX10_compare_2_1 ++ dktX10_compare_2_2
def dkwX10_compare_2_0 : List UInt8 := [42, 180, 0, 1, 180, 0, 13, 180, 0, 19, 180, 0, 25, 44, 182, 0, 31, 46, 42, 180, 0, 1]
abbrev dktX10_compare_2_0 : List UInt8 := dkwX10_compare_2_0 ++ dktX10_compare_2_1
theorem dksX10_compare_2_0 : cX10_compare_2.data.toList.drop 0 = dktX10_compare_2_0 := by decide +kernel
theorem dksX10_compare_2_1 : cX10_compare_2.data.toList.drop 22 = dktX10_compare_2_1 := dk_seg dksX10_compare_2_0 22 rfl rfl
theorem dksX10_compare_2_2 : cX10_compare_2.data.toList.drop 46 = dktX10_compare_2_2 := dk_seg dksX10_compare_2_1 24 rfl rfl
theorem dksX10_compare_2_3 : cX10_compare_2.data.toList.drop 70 = dktX10_compare_2_3 := dk_seg dksX10_compare_2_2 24 rfl rfl
theorem dksX10_compare_2_4 : cX10_compare_2.data.toList.drop 93 = dktX10_compare_2_4 := dk_seg dksX10_compare_2_3 23 rfl rfl
theorem dX10_compare_2_0 : decode cX10_compare_2 0 = .ok (.aload_n 0, 1) := dk_42 (dk_at dksX10_compare_2_0 0 rfl rfl)
theorem dX10_compare_2_1 : decode cX10_compare_2 1 = .ok (.getfield 1, 3) := dk_180 0 1 (dk_at dksX10_compare_2_0 1 rfl rfl)
theorem dX10_compare_2_4 : decode cX10_compare_2 4 = .ok (.getfield 13, 3) := dk_180 0 13 (dk_at dksX10_compare_2_0 4 rfl rfl)
theorem dX10_compare_2_7 : decode cX10_compare_2 7 = .ok (.getfield 19, 3) := dk_180 0 19 (dk_at dksX10_compare_2_0 7 rfl rfl)
theorem dX10_compare_2_10 : decode cX10_compare_2 10 = .ok (.getfield 25, 3) := dk_180 0 25 (dk_at dksX10_compare_2_0 10 rfl rfl)
theorem dX10_compare_2_13 : decode cX10_compare_2 13 = .ok (.aload_n 2, 1) := dk_44 (dk_at dksX10_compare_2_0 13 rfl rfl)
theorem dX10_compare_2_14 : decode cX10_compare_2 14 = .ok (.invokevirtual 31, 3) := dk_182 0 31 (dk_at dksX10_compare_2_0 14 rfl rfl)
theorem dX10_compare_2_17 : decode cX10_compare_2 17 = .ok (.iaload, 1) := dk_46 (dk_at dksX10_compare_2_0 17 rfl rfl)
theorem dX10_compare_2_18 : decode cX10_compare_2 18 = .ok (.aload_n 0, 1) := dk_42 (dk_at dksX10_compare_2_0 18 rfl rfl)
theorem dX10_compare_2_19 : decode cX10_compare_2 19 = .ok (.getfield 1, 3) := dk_180 0 1 (dk_at dksX10_compare_2_0 19 rfl rfl)
theorem dX10_compare_2_22 : decode cX10_compare_2 22 = .ok (.getfield 13, 3) := dk_180 0 13 (dk_at dksX10_compare_2_1 0 rfl rfl)
theorem dX10_compare_2_25 : decode cX10_compare_2 25 = .ok (.getfield 19, 3) := dk_180 0 19 (dk_at dksX10_compare_2_1 3 rfl rfl)
theorem dX10_compare_2_28 : decode cX10_compare_2 28 = .ok (.getfield 25, 3) := dk_180 0 25 (dk_at dksX10_compare_2_1 6 rfl rfl)
theorem dX10_compare_2_31 : decode cX10_compare_2 31 = .ok (.aload_n 1, 1) := dk_43 (dk_at dksX10_compare_2_1 9 rfl rfl)
theorem dX10_compare_2_32 : decode cX10_compare_2 32 = .ok (.invokevirtual 31, 3) := dk_182 0 31 (dk_at dksX10_compare_2_1 10 rfl rfl)
theorem dX10_compare_2_35 : decode cX10_compare_2 35 = .ok (.iaload, 1) := dk_46 (dk_at dksX10_compare_2_1 13 rfl rfl)
theorem dX10_compare_2_36 : decode cX10_compare_2 36 = .ok (.isub, 1) := dk_100 (dk_at dksX10_compare_2_1 14 rfl rfl)
theorem dX10_compare_2_37 : decode cX10_compare_2 37 = .ok (.istore_n 3, 1) := dk_62 (dk_at dksX10_compare_2_1 15 rfl rfl)
theorem dX10_compare_2_38 : decode cX10_compare_2 38 = .ok (.iload_n 3, 1) := dk_29 (dk_at dksX10_compare_2_1 16 rfl rfl)
theorem dX10_compare_2_39 : decode cX10_compare_2 39 = .ok (.ifCond .ne 43, 3) := dk_154 0 43 (dk_at dksX10_compare_2_1 17 rfl rfl)
theorem dX10_compare_2_42 : decode cX10_compare_2 42 = .ok (.aload_n 0, 1) := dk_42 (dk_at dksX10_compare_2_1 20 rfl rfl)
theorem dX10_compare_2_43 : decode cX10_compare_2 43 = .ok (.getfield 1, 3) := dk_180 0 1 (dk_at dksX10_compare_2_1 21 rfl rfl)
theorem dX10_compare_2_46 : decode cX10_compare_2 46 = .ok (.getfield 13, 3) := dk_180 0 13 (dk_at dksX10_compare_2_2 0 rfl rfl)
theorem dX10_compare_2_49 : decode cX10_compare_2 49 = .ok (.getfield 37, 3) := dk_180 0 37 (dk_at dksX10_compare_2_2 3 rfl rfl)
theorem dX10_compare_2_52 : decode cX10_compare_2 52 = .ok (.getfield 41, 3) := dk_180 0 41 (dk_at dksX10_compare_2_2 6 rfl rfl)
theorem dX10_compare_2_55 : decode cX10_compare_2 55 = .ok (.aload_n 2, 1) := dk_44 (dk_at dksX10_compare_2_2 9 rfl rfl)
theorem dX10_compare_2_56 : decode cX10_compare_2 56 = .ok (.invokevirtual 31, 3) := dk_182 0 31 (dk_at dksX10_compare_2_2 10 rfl rfl)
theorem dX10_compare_2_59 : decode cX10_compare_2 59 = .ok (.iaload, 1) := dk_46 (dk_at dksX10_compare_2_2 13 rfl rfl)
theorem dX10_compare_2_60 : decode cX10_compare_2 60 = .ok (.aload_n 0, 1) := dk_42 (dk_at dksX10_compare_2_2 14 rfl rfl)
theorem dX10_compare_2_61 : decode cX10_compare_2 61 = .ok (.getfield 1, 3) := dk_180 0 1 (dk_at dksX10_compare_2_2 15 rfl rfl)
theorem dX10_compare_2_64 : decode cX10_compare_2 64 = .ok (.getfield 13, 3) := dk_180 0 13 (dk_at dksX10_compare_2_2 18 rfl rfl)
theorem dX10_compare_2_67 : decode cX10_compare_2 67 = .ok (.getfield 37, 3) := dk_180 0 37 (dk_at dksX10_compare_2_2 21 rfl rfl)
theorem dX10_compare_2_70 : decode cX10_compare_2 70 = .ok (.getfield 41, 3) := dk_180 0 41 (dk_at dksX10_compare_2_3 0 rfl rfl)
theorem dX10_compare_2_73 : decode cX10_compare_2 73 = .ok (.aload_n 1, 1) := dk_43 (dk_at dksX10_compare_2_3 3 rfl rfl)
theorem dX10_compare_2_74 : decode cX10_compare_2 74 = .ok (.invokevirtual 31, 3) := dk_182 0 31 (dk_at dksX10_compare_2_3 4 rfl rfl)
theorem dX10_compare_2_77 : decode cX10_compare_2 77 = .ok (.iaload, 1) := dk_46 (dk_at dksX10_compare_2_3 7 rfl rfl)
theorem dX10_compare_2_78 : decode cX10_compare_2 78 = .ok (.isub, 1) := dk_100 (dk_at dksX10_compare_2_3 8 rfl rfl)
theorem dX10_compare_2_79 : decode cX10_compare_2 79 = .ok (.goto 4, 3) := dk_167 0 4 (dk_at dksX10_compare_2_3 9 rfl rfl)
theorem dX10_compare_2_82 : decode cX10_compare_2 82 = .ok (.iload_n 3, 1) := dk_29 (dk_at dksX10_compare_2_3 12 rfl rfl)
theorem dX10_compare_2_83 : decode cX10_compare_2 83 = .ok (.istore_n 3, 1) := dk_62 (dk_at dksX10_compare_2_3 13 rfl rfl)
theorem dX10_compare_2_84 : decode cX10_compare_2 84 = .ok (.iload_n 3, 1) := dk_29 (dk_at dksX10_compare_2_3 14 rfl rfl)
theorem dX10_compare_2_85 : decode cX10_compare_2 85 = .ok (.ifCond .ne 15, 3) := dk_154 0 15 (dk_at dksX10_compare_2_3 15 rfl rfl)
theorem dX10_compare_2_88 : decode cX10_compare_2 88 = .ok (.aload_n 1, 1) := dk_43 (dk_at dksX10_compare_2_3 18 rfl rfl)
theorem dX10_compare_2_89 : decode cX10_compare_2 89 = .ok (.invokevirtual 31, 3) := dk_182 0 31 (dk_at dksX10_compare_2_3 19 rfl rfl)
theorem dX10_compare_2_92 : decode cX10_compare_2 92 = .ok (.aload_n 2, 1) := dk_44 (dk_at dksX10_compare_2_3 22 rfl rfl)
theorem dX10_compare_2_93 : decode cX10_compare_2 93 = .ok (.invokevirtual 31, 3) := dk_182 0 31 (dk_at dksX10_compare_2_4 0 rfl rfl)
theorem dX10_compare_2_96 : decode cX10_compare_2 96 = .ok (.isub, 1) := dk_100 (dk_at dksX10_compare_2_4 3 rfl rfl)
theorem dX10_compare_2_97 : decode cX10_compare_2 97 = .ok (.goto 4, 3) := dk_167 0 4 (dk_at dksX10_compare_2_4 4 rfl rfl)
theorem dX10_compare_2_100 : decode cX10_compare_2 100 = .ok (.iload_n 3, 1) := dk_29 (dk_at dksX10_compare_2_4 7 rfl rfl)
theorem dX10_compare_2_101 : decode cX10_compare_2 101 = .ok (.ireturn, 1) := dk_172 (dk_at dksX10_compare_2_4 8 rfl rfl)
abbrev cX10_init : ByteArray := prog_3_method_1_code
def yX10_init : MethodName := ⟨RX10, "<init>", "(LSpindleActors;)V"⟩
def dkwX10_init_0 : List UInt8 := [42, 43, 181, 0, 1, 42, 183, 0, 7, 177]
abbrev dktX10_init_0 : List UInt8 := dkwX10_init_0 ++ []
theorem dksX10_init_0 : cX10_init.data.toList.drop 0 = dktX10_init_0 := by decide +kernel
theorem dX10_init_0 : decode cX10_init 0 = .ok (.aload_n 0, 1) := dk_42 (dk_at dksX10_init_0 0 rfl rfl)
theorem dX10_init_1 : decode cX10_init 1 = .ok (.aload_n 1, 1) := dk_43 (dk_at dksX10_init_0 1 rfl rfl)
theorem dX10_init_2 : decode cX10_init 2 = .ok (.putfield 1, 3) := dk_181 0 1 (dk_at dksX10_init_0 2 rfl rfl)
theorem dX10_init_5 : decode cX10_init 5 = .ok (.aload_n 0, 1) := dk_42 (dk_at dksX10_init_0 5 rfl rfl)
theorem dX10_init_6 : decode cX10_init 6 = .ok (.invokespecial 7, 3) := dk_183 0 7 (dk_at dksX10_init_0 6 rfl rfl)
theorem dX10_init_9 : decode cX10_init 9 = .ok (.return_, 1) := dk_177 (dk_at dksX10_init_0 9 rfl rfl)
abbrev cX11_init : ByteArray := prog_7_method_1_code
def yX11_init : MethodName := ⟨RX11, "<init>", "(LSpindleActors$Stage;)V"⟩
def dkwX11_init_2 : List UInt8 := [183, 0, 34, 43, 180, 0, 37, 182, 0, 41, 185, 0, 45, 2, 0, 87, 177]
abbrev dktX11_init_2 : List UInt8 := dkwX11_init_2 ++ []
def dkwX11_init_1 : List UInt8 := [181, 0, 21, 42, 43, 180, 0, 25, 181, 0, 31, 42, 180, 0, 12, 187, 0, 32, 89, 42, 180, 0, 31]
abbrev dktX11_init_1 : List UInt8 := dkwX11_init_1 ++ dktX11_init_2
def dkwX11_init_0 : List UInt8 := [42, 183, 0, 3, 42, 187, 0, 9, 89, 183, 0, 11, 181, 0, 12, 42, 187, 0, 18, 89, 183, 0, 20]
abbrev dktX11_init_0 : List UInt8 := dkwX11_init_0 ++ dktX11_init_1
theorem dksX11_init_0 : cX11_init.data.toList.drop 0 = dktX11_init_0 := by decide +kernel
theorem dksX11_init_1 : cX11_init.data.toList.drop 23 = dktX11_init_1 := dk_seg dksX11_init_0 23 rfl rfl
theorem dksX11_init_2 : cX11_init.data.toList.drop 46 = dktX11_init_2 := dk_seg dksX11_init_1 23 rfl rfl
theorem dX11_init_0 : decode cX11_init 0 = .ok (.aload_n 0, 1) := dk_42 (dk_at dksX11_init_0 0 rfl rfl)
theorem dX11_init_1 : decode cX11_init 1 = .ok (.invokespecial 3, 3) := dk_183 0 3 (dk_at dksX11_init_0 1 rfl rfl)
theorem dX11_init_4 : decode cX11_init 4 = .ok (.aload_n 0, 1) := dk_42 (dk_at dksX11_init_0 4 rfl rfl)
theorem dX11_init_5 : decode cX11_init 5 = .ok (.new 9, 3) := dk_187 0 9 (dk_at dksX11_init_0 5 rfl rfl)
theorem dX11_init_8 : decode cX11_init 8 = .ok (.dup, 1) := dk_89 (dk_at dksX11_init_0 8 rfl rfl)
theorem dX11_init_9 : decode cX11_init 9 = .ok (.invokespecial 11, 3) := dk_183 0 11 (dk_at dksX11_init_0 9 rfl rfl)
theorem dX11_init_12 : decode cX11_init 12 = .ok (.putfield 12, 3) := dk_181 0 12 (dk_at dksX11_init_0 12 rfl rfl)
theorem dX11_init_15 : decode cX11_init 15 = .ok (.aload_n 0, 1) := dk_42 (dk_at dksX11_init_0 15 rfl rfl)
theorem dX11_init_16 : decode cX11_init 16 = .ok (.new 18, 3) := dk_187 0 18 (dk_at dksX11_init_0 16 rfl rfl)
theorem dX11_init_19 : decode cX11_init 19 = .ok (.dup, 1) := dk_89 (dk_at dksX11_init_0 19 rfl rfl)
theorem dX11_init_20 : decode cX11_init 20 = .ok (.invokespecial 20, 3) := dk_183 0 20 (dk_at dksX11_init_0 20 rfl rfl)
theorem dX11_init_23 : decode cX11_init 23 = .ok (.putfield 21, 3) := dk_181 0 21 (dk_at dksX11_init_1 0 rfl rfl)
theorem dX11_init_26 : decode cX11_init 26 = .ok (.aload_n 0, 1) := dk_42 (dk_at dksX11_init_1 3 rfl rfl)
theorem dX11_init_27 : decode cX11_init 27 = .ok (.aload_n 1, 1) := dk_43 (dk_at dksX11_init_1 4 rfl rfl)
theorem dX11_init_28 : decode cX11_init 28 = .ok (.getfield 25, 3) := dk_180 0 25 (dk_at dksX11_init_1 5 rfl rfl)
theorem dX11_init_31 : decode cX11_init 31 = .ok (.putfield 31, 3) := dk_181 0 31 (dk_at dksX11_init_1 8 rfl rfl)
theorem dX11_init_34 : decode cX11_init 34 = .ok (.aload_n 0, 1) := dk_42 (dk_at dksX11_init_1 11 rfl rfl)
theorem dX11_init_35 : decode cX11_init 35 = .ok (.getfield 12, 3) := dk_180 0 12 (dk_at dksX11_init_1 12 rfl rfl)
theorem dX11_init_38 : decode cX11_init 38 = .ok (.new 32, 3) := dk_187 0 32 (dk_at dksX11_init_1 15 rfl rfl)
theorem dX11_init_41 : decode cX11_init 41 = .ok (.dup, 1) := dk_89 (dk_at dksX11_init_1 18 rfl rfl)
theorem dX11_init_42 : decode cX11_init 42 = .ok (.aload_n 0, 1) := dk_42 (dk_at dksX11_init_1 19 rfl rfl)
theorem dX11_init_43 : decode cX11_init 43 = .ok (.getfield 31, 3) := dk_180 0 31 (dk_at dksX11_init_1 20 rfl rfl)
theorem dX11_init_46 : decode cX11_init 46 = .ok (.invokespecial 34, 3) := dk_183 0 34 (dk_at dksX11_init_2 0 rfl rfl)
theorem dX11_init_49 : decode cX11_init 49 = .ok (.aload_n 1, 1) := dk_43 (dk_at dksX11_init_2 3 rfl rfl)
theorem dX11_init_50 : decode cX11_init 50 = .ok (.getfield 37, 3) := dk_180 0 37 (dk_at dksX11_init_2 4 rfl rfl)
theorem dX11_init_53 : decode cX11_init 53 = .ok (.invokevirtual 41, 3) := dk_182 0 41 (dk_at dksX11_init_2 7 rfl rfl)
theorem dX11_init_56 : decode cX11_init 56 = .ok (.invokeinterface 45 2, 5) := by decide +kernel
theorem dX11_init_61 : decode cX11_init 61 = .ok (.pop, 1) := dk_87 (dk_at dksX11_init_2 15 rfl rfl)
theorem dX11_init_62 : decode cX11_init 62 = .ok (.return_, 1) := dk_177 (dk_at dksX11_init_2 16 rfl rfl)
abbrev cX11_visitStates : ByteArray := prog_7_method_2_code
def yX11_visitStates : MethodName := ⟨RX11, "visitStates", "()LSpindleActors$Explorer;"⟩
def dkwX11_visitStates_7 : List UInt8 := [167, 255, 192, 132, 3, 1, 167, 255, 121, 42, 176]
abbrev dktX11_visitStates_7 : List UInt8 := dkwX11_visitStates_7 ++ []
def dkwX11_visitStates_6 : List UInt8 := [182, 0, 55, 182, 0, 59, 153, 0, 15, 42, 180, 0, 12, 25, 8, 185, 0, 45, 2, 0, 87, 132, 7, 1]
abbrev dktX11_visitStates_6 : List UInt8 := dkwX11_visitStates_6 ++ dktX11_visitStates_7
def dkwX11_visitStates_5 : List UInt8 := [25, 4, 182, 0, 41, 58, 8, 25, 8, 25, 8, 21, 7, 182, 0, 70, 182, 0, 74, 43, 25, 8]
abbrev dktX11_visitStates_5 : List UInt8 := dkwX11_visitStates_5 ++ dktX11_visitStates_6
def dkwX11_visitStates_4 : List UInt8 := [54, 6, 3, 54, 7, 21, 7, 21, 5, 162, 0, 63, 187, 0, 32, 89, 42, 180, 0, 31, 183, 0, 34]
abbrev dktX11_visitStates_4 : List UInt8 := dkwX11_visitStates_4 ++ dktX11_visitStates_5
def dkwX11_visitStates_3 : List UInt8 := [154, 0, 22, 42, 180, 0, 21, 25, 4, 182, 0, 67, 182, 0, 59, 153, 0, 7, 4, 167, 0, 4, 3]
abbrev dktX11_visitStates_3 : List UInt8 := dkwX11_visitStates_3 ++ dktX11_visitStates_4
def dkwX11_visitStates_2 : List UInt8 := [180, 0, 12, 29, 185, 0, 51, 2, 0, 192, 0, 32, 58, 4, 25, 4, 182, 0, 64, 54, 5, 21, 5]
abbrev dktX11_visitStates_2 : List UInt8 := dkwX11_visitStates_2 ++ dktX11_visitStates_3
def dkwX11_visitStates_1 : List UInt8 := [182, 0, 55, 182, 0, 59, 61, 3, 62, 29, 42, 180, 0, 12, 185, 0, 60, 1, 0, 162, 0, 128, 42]
abbrev dktX11_visitStates_1 : List UInt8 := dkwX11_visitStates_1 ++ dktX11_visitStates_2
def dkwX11_visitStates_0 : List UInt8 := [187, 0, 18, 89, 183, 0, 20, 76, 43, 42, 180, 0, 12, 3, 185, 0, 51, 2, 0, 192, 0, 32]
abbrev dktX11_visitStates_0 : List UInt8 := dkwX11_visitStates_0 ++ dktX11_visitStates_1
theorem dksX11_visitStates_0 : cX11_visitStates.data.toList.drop 0 = dktX11_visitStates_0 := by decide +kernel
theorem dksX11_visitStates_1 : cX11_visitStates.data.toList.drop 22 = dktX11_visitStates_1 := dk_seg dksX11_visitStates_0 22 rfl rfl
theorem dksX11_visitStates_2 : cX11_visitStates.data.toList.drop 45 = dktX11_visitStates_2 := dk_seg dksX11_visitStates_1 23 rfl rfl
theorem dksX11_visitStates_3 : cX11_visitStates.data.toList.drop 68 = dktX11_visitStates_3 := dk_seg dksX11_visitStates_2 23 rfl rfl
theorem dksX11_visitStates_4 : cX11_visitStates.data.toList.drop 91 = dktX11_visitStates_4 := dk_seg dksX11_visitStates_3 23 rfl rfl
theorem dksX11_visitStates_5 : cX11_visitStates.data.toList.drop 114 = dktX11_visitStates_5 := dk_seg dksX11_visitStates_4 23 rfl rfl
theorem dksX11_visitStates_6 : cX11_visitStates.data.toList.drop 136 = dktX11_visitStates_6 := dk_seg dksX11_visitStates_5 22 rfl rfl
theorem dksX11_visitStates_7 : cX11_visitStates.data.toList.drop 160 = dktX11_visitStates_7 := dk_seg dksX11_visitStates_6 24 rfl rfl
theorem dX11_visitStates_0 : decode cX11_visitStates 0 = .ok (.new 18, 3) := dk_187 0 18 (dk_at dksX11_visitStates_0 0 rfl rfl)
theorem dX11_visitStates_3 : decode cX11_visitStates 3 = .ok (.dup, 1) := dk_89 (dk_at dksX11_visitStates_0 3 rfl rfl)
theorem dX11_visitStates_4 : decode cX11_visitStates 4 = .ok (.invokespecial 20, 3) := dk_183 0 20 (dk_at dksX11_visitStates_0 4 rfl rfl)
theorem dX11_visitStates_7 : decode cX11_visitStates 7 = .ok (.astore_n 1, 1) := dk_76 (dk_at dksX11_visitStates_0 7 rfl rfl)
theorem dX11_visitStates_8 : decode cX11_visitStates 8 = .ok (.aload_n 1, 1) := dk_43 (dk_at dksX11_visitStates_0 8 rfl rfl)
theorem dX11_visitStates_9 : decode cX11_visitStates 9 = .ok (.aload_n 0, 1) := dk_42 (dk_at dksX11_visitStates_0 9 rfl rfl)
theorem dX11_visitStates_10 : decode cX11_visitStates 10 = .ok (.getfield 12, 3) := dk_180 0 12 (dk_at dksX11_visitStates_0 10 rfl rfl)
theorem dX11_visitStates_13 : decode cX11_visitStates 13 = .ok (.iconst 0, 1) := dk_3 (dk_at dksX11_visitStates_0 13 rfl rfl)
theorem dX11_visitStates_14 : decode cX11_visitStates 14 = .ok (.invokeinterface 51 2, 5) := by decide +kernel
theorem dX11_visitStates_19 : decode cX11_visitStates 19 = .ok (.checkcast 32, 3) := dk_192 0 32 (dk_at dksX11_visitStates_0 19 rfl rfl)
theorem dX11_visitStates_22 : decode cX11_visitStates 22 = .ok (.invokevirtual 55, 3) := dk_182 0 55 (dk_at dksX11_visitStates_1 0 rfl rfl)
theorem dX11_visitStates_25 : decode cX11_visitStates 25 = .ok (.invokevirtual 59, 3) := dk_182 0 59 (dk_at dksX11_visitStates_1 3 rfl rfl)
theorem dX11_visitStates_28 : decode cX11_visitStates 28 = .ok (.istore_n 2, 1) := dk_61 (dk_at dksX11_visitStates_1 6 rfl rfl)
theorem dX11_visitStates_29 : decode cX11_visitStates 29 = .ok (.iconst 0, 1) := dk_3 (dk_at dksX11_visitStates_1 7 rfl rfl)
theorem dX11_visitStates_30 : decode cX11_visitStates 30 = .ok (.istore_n 3, 1) := dk_62 (dk_at dksX11_visitStates_1 8 rfl rfl)
theorem dX11_visitStates_31 : decode cX11_visitStates 31 = .ok (.iload_n 3, 1) := dk_29 (dk_at dksX11_visitStates_1 9 rfl rfl)
theorem dX11_visitStates_32 : decode cX11_visitStates 32 = .ok (.aload_n 0, 1) := dk_42 (dk_at dksX11_visitStates_1 10 rfl rfl)
theorem dX11_visitStates_33 : decode cX11_visitStates 33 = .ok (.getfield 12, 3) := dk_180 0 12 (dk_at dksX11_visitStates_1 11 rfl rfl)
theorem dX11_visitStates_36 : decode cX11_visitStates 36 = .ok (.invokeinterface 60 1, 5) := by decide +kernel
theorem dX11_visitStates_41 : decode cX11_visitStates 41 = .ok (.if_icmp .ge 128, 3) := dk_162 0 128 (dk_at dksX11_visitStates_1 19 rfl rfl)
theorem dX11_visitStates_44 : decode cX11_visitStates 44 = .ok (.aload_n 0, 1) := dk_42 (dk_at dksX11_visitStates_1 22 rfl rfl)
theorem dX11_visitStates_45 : decode cX11_visitStates 45 = .ok (.getfield 12, 3) := dk_180 0 12 (dk_at dksX11_visitStates_2 0 rfl rfl)
theorem dX11_visitStates_48 : decode cX11_visitStates 48 = .ok (.iload_n 3, 1) := dk_29 (dk_at dksX11_visitStates_2 3 rfl rfl)
theorem dX11_visitStates_49 : decode cX11_visitStates 49 = .ok (.invokeinterface 51 2, 5) := by decide +kernel
theorem dX11_visitStates_54 : decode cX11_visitStates 54 = .ok (.checkcast 32, 3) := dk_192 0 32 (dk_at dksX11_visitStates_2 9 rfl rfl)
theorem dX11_visitStates_57 : decode cX11_visitStates 57 = .ok (.astore 4, 2) := dk_58 4 (dk_at dksX11_visitStates_2 12 rfl rfl)
theorem dX11_visitStates_59 : decode cX11_visitStates 59 = .ok (.aload 4, 2) := dk_25 4 (dk_at dksX11_visitStates_2 14 rfl rfl)
theorem dX11_visitStates_61 : decode cX11_visitStates 61 = .ok (.invokevirtual 64, 3) := dk_182 0 64 (dk_at dksX11_visitStates_2 16 rfl rfl)
theorem dX11_visitStates_64 : decode cX11_visitStates 64 = .ok (.istore 5, 2) := dk_54 5 (dk_at dksX11_visitStates_2 19 rfl rfl)
theorem dX11_visitStates_66 : decode cX11_visitStates 66 = .ok (.iload 5, 2) := dk_21 5 (dk_at dksX11_visitStates_2 21 rfl rfl)
theorem dX11_visitStates_68 : decode cX11_visitStates 68 = .ok (.ifCond .ne 22, 3) := dk_154 0 22 (dk_at dksX11_visitStates_3 0 rfl rfl)
theorem dX11_visitStates_71 : decode cX11_visitStates 71 = .ok (.aload_n 0, 1) := dk_42 (dk_at dksX11_visitStates_3 3 rfl rfl)
theorem dX11_visitStates_72 : decode cX11_visitStates 72 = .ok (.getfield 21, 3) := dk_180 0 21 (dk_at dksX11_visitStates_3 4 rfl rfl)
theorem dX11_visitStates_75 : decode cX11_visitStates 75 = .ok (.aload 4, 2) := dk_25 4 (dk_at dksX11_visitStates_3 7 rfl rfl)
theorem dX11_visitStates_77 : decode cX11_visitStates 77 = .ok (.invokevirtual 67, 3) := dk_182 0 67 (dk_at dksX11_visitStates_3 9 rfl rfl)
theorem dX11_visitStates_80 : decode cX11_visitStates 80 = .ok (.invokevirtual 59, 3) := dk_182 0 59 (dk_at dksX11_visitStates_3 12 rfl rfl)
theorem dX11_visitStates_83 : decode cX11_visitStates 83 = .ok (.ifCond .eq 7, 3) := dk_153 0 7 (dk_at dksX11_visitStates_3 15 rfl rfl)
theorem dX11_visitStates_86 : decode cX11_visitStates 86 = .ok (.iconst 1, 1) := dk_4 (dk_at dksX11_visitStates_3 18 rfl rfl)
theorem dX11_visitStates_87 : decode cX11_visitStates 87 = .ok (.goto 4, 3) := dk_167 0 4 (dk_at dksX11_visitStates_3 19 rfl rfl)
theorem dX11_visitStates_90 : decode cX11_visitStates 90 = .ok (.iconst 0, 1) := dk_3 (dk_at dksX11_visitStates_3 22 rfl rfl)
theorem dX11_visitStates_91 : decode cX11_visitStates 91 = .ok (.istore 6, 2) := dk_54 6 (dk_at dksX11_visitStates_4 0 rfl rfl)
theorem dX11_visitStates_93 : decode cX11_visitStates 93 = .ok (.iconst 0, 1) := dk_3 (dk_at dksX11_visitStates_4 2 rfl rfl)
theorem dX11_visitStates_94 : decode cX11_visitStates 94 = .ok (.istore 7, 2) := dk_54 7 (dk_at dksX11_visitStates_4 3 rfl rfl)
theorem dX11_visitStates_96 : decode cX11_visitStates 96 = .ok (.iload 7, 2) := dk_21 7 (dk_at dksX11_visitStates_4 5 rfl rfl)
theorem dX11_visitStates_98 : decode cX11_visitStates 98 = .ok (.iload 5, 2) := dk_21 5 (dk_at dksX11_visitStates_4 7 rfl rfl)
theorem dX11_visitStates_100 : decode cX11_visitStates 100 = .ok (.if_icmp .ge 63, 3) := dk_162 0 63 (dk_at dksX11_visitStates_4 9 rfl rfl)
theorem dX11_visitStates_103 : decode cX11_visitStates 103 = .ok (.new 32, 3) := dk_187 0 32 (dk_at dksX11_visitStates_4 12 rfl rfl)
theorem dX11_visitStates_106 : decode cX11_visitStates 106 = .ok (.dup, 1) := dk_89 (dk_at dksX11_visitStates_4 15 rfl rfl)
theorem dX11_visitStates_107 : decode cX11_visitStates 107 = .ok (.aload_n 0, 1) := dk_42 (dk_at dksX11_visitStates_4 16 rfl rfl)
theorem dX11_visitStates_108 : decode cX11_visitStates 108 = .ok (.getfield 31, 3) := dk_180 0 31 (dk_at dksX11_visitStates_4 17 rfl rfl)
theorem dX11_visitStates_111 : decode cX11_visitStates 111 = .ok (.invokespecial 34, 3) := dk_183 0 34 (dk_at dksX11_visitStates_4 20 rfl rfl)
theorem dX11_visitStates_114 : decode cX11_visitStates 114 = .ok (.aload 4, 2) := dk_25 4 (dk_at dksX11_visitStates_5 0 rfl rfl)
theorem dX11_visitStates_116 : decode cX11_visitStates 116 = .ok (.invokevirtual 41, 3) := dk_182 0 41 (dk_at dksX11_visitStates_5 2 rfl rfl)
theorem dX11_visitStates_119 : decode cX11_visitStates 119 = .ok (.astore 8, 2) := dk_58 8 (dk_at dksX11_visitStates_5 5 rfl rfl)
theorem dX11_visitStates_121 : decode cX11_visitStates 121 = .ok (.aload 8, 2) := dk_25 8 (dk_at dksX11_visitStates_5 7 rfl rfl)
theorem dX11_visitStates_123 : decode cX11_visitStates 123 = .ok (.aload 8, 2) := dk_25 8 (dk_at dksX11_visitStates_5 9 rfl rfl)
theorem dX11_visitStates_125 : decode cX11_visitStates 125 = .ok (.iload 7, 2) := dk_21 7 (dk_at dksX11_visitStates_5 11 rfl rfl)
theorem dX11_visitStates_127 : decode cX11_visitStates 127 = .ok (.invokevirtual 70, 3) := dk_182 0 70 (dk_at dksX11_visitStates_5 13 rfl rfl)
theorem dX11_visitStates_130 : decode cX11_visitStates 130 = .ok (.invokevirtual 74, 3) := dk_182 0 74 (dk_at dksX11_visitStates_5 16 rfl rfl)
theorem dX11_visitStates_133 : decode cX11_visitStates 133 = .ok (.aload_n 1, 1) := dk_43 (dk_at dksX11_visitStates_5 19 rfl rfl)
theorem dX11_visitStates_134 : decode cX11_visitStates 134 = .ok (.aload 8, 2) := dk_25 8 (dk_at dksX11_visitStates_5 20 rfl rfl)
theorem dX11_visitStates_136 : decode cX11_visitStates 136 = .ok (.invokevirtual 55, 3) := dk_182 0 55 (dk_at dksX11_visitStates_6 0 rfl rfl)
theorem dX11_visitStates_139 : decode cX11_visitStates 139 = .ok (.invokevirtual 59, 3) := dk_182 0 59 (dk_at dksX11_visitStates_6 3 rfl rfl)
theorem dX11_visitStates_142 : decode cX11_visitStates 142 = .ok (.ifCond .eq 15, 3) := dk_153 0 15 (dk_at dksX11_visitStates_6 6 rfl rfl)
theorem dX11_visitStates_145 : decode cX11_visitStates 145 = .ok (.aload_n 0, 1) := dk_42 (dk_at dksX11_visitStates_6 9 rfl rfl)
theorem dX11_visitStates_146 : decode cX11_visitStates 146 = .ok (.getfield 12, 3) := dk_180 0 12 (dk_at dksX11_visitStates_6 10 rfl rfl)
theorem dX11_visitStates_149 : decode cX11_visitStates 149 = .ok (.aload 8, 2) := dk_25 8 (dk_at dksX11_visitStates_6 13 rfl rfl)
theorem dX11_visitStates_151 : decode cX11_visitStates 151 = .ok (.invokeinterface 45 2, 5) := by decide +kernel
theorem dX11_visitStates_156 : decode cX11_visitStates 156 = .ok (.pop, 1) := dk_87 (dk_at dksX11_visitStates_6 20 rfl rfl)
theorem dX11_visitStates_157 : decode cX11_visitStates 157 = .ok (.iinc 7 1, 3) := dk_132 7 1 (dk_at dksX11_visitStates_6 21 rfl rfl)
theorem dX11_visitStates_160 : decode cX11_visitStates 160 = .ok (.goto (-64), 3) := dk_167 255 192 (dk_at dksX11_visitStates_7 0 rfl rfl)
theorem dX11_visitStates_163 : decode cX11_visitStates 163 = .ok (.iinc 3 1, 3) := dk_132 3 1 (dk_at dksX11_visitStates_7 3 rfl rfl)
theorem dX11_visitStates_166 : decode cX11_visitStates 166 = .ok (.goto (-135), 3) := dk_167 255 121 (dk_at dksX11_visitStates_7 6 rfl rfl)
theorem dX11_visitStates_169 : decode cX11_visitStates 169 = .ok (.aload_n 0, 1) := dk_42 (dk_at dksX11_visitStates_7 9 rfl rfl)
theorem dX11_visitStates_170 : decode cX11_visitStates 170 = .ok (.areturn, 1) := dk_176 (dk_at dksX11_visitStates_7 10 rfl rfl)
abbrev cX11_makeSchedules : ByteArray := prog_7_method_4_code
def yX11_makeSchedules : MethodName := ⟨RX11, "makeSchedules", "(Z)LSpindleActors$Explorer;"⟩
def dkwX11_makeSchedules_1 : List UInt8 := [185, 0, 45, 2, 0, 87, 132, 2, 1, 167, 255, 226, 42, 3, 27, 182, 0, 82, 42, 176]
abbrev dktX11_makeSchedules_1 : List UInt8 := dkwX11_makeSchedules_1 ++ []
def dkwX11_makeSchedules_0 : List UInt8 := [4, 61, 28, 16, 9, 163, 0, 30, 42, 180, 0, 12, 187, 0, 32, 89, 42, 180, 0, 31, 183, 0, 34]
abbrev dktX11_makeSchedules_0 : List UInt8 := dkwX11_makeSchedules_0 ++ dktX11_makeSchedules_1
theorem dksX11_makeSchedules_0 : cX11_makeSchedules.data.toList.drop 0 = dktX11_makeSchedules_0 := by decide +kernel
theorem dksX11_makeSchedules_1 : cX11_makeSchedules.data.toList.drop 23 = dktX11_makeSchedules_1 := dk_seg dksX11_makeSchedules_0 23 rfl rfl
theorem dX11_makeSchedules_0 : decode cX11_makeSchedules 0 = .ok (.iconst 1, 1) := dk_4 (dk_at dksX11_makeSchedules_0 0 rfl rfl)
theorem dX11_makeSchedules_1 : decode cX11_makeSchedules 1 = .ok (.istore_n 2, 1) := dk_61 (dk_at dksX11_makeSchedules_0 1 rfl rfl)
theorem dX11_makeSchedules_2 : decode cX11_makeSchedules 2 = .ok (.iload_n 2, 1) := dk_28 (dk_at dksX11_makeSchedules_0 2 rfl rfl)
theorem dX11_makeSchedules_3 : decode cX11_makeSchedules 3 = .ok (.bipush 9, 2) := dk_16 9 (dk_at dksX11_makeSchedules_0 3 rfl rfl)
theorem dX11_makeSchedules_5 : decode cX11_makeSchedules 5 = .ok (.if_icmp .gt 30, 3) := dk_163 0 30 (dk_at dksX11_makeSchedules_0 5 rfl rfl)
theorem dX11_makeSchedules_8 : decode cX11_makeSchedules 8 = .ok (.aload_n 0, 1) := dk_42 (dk_at dksX11_makeSchedules_0 8 rfl rfl)
theorem dX11_makeSchedules_9 : decode cX11_makeSchedules 9 = .ok (.getfield 12, 3) := dk_180 0 12 (dk_at dksX11_makeSchedules_0 9 rfl rfl)
theorem dX11_makeSchedules_12 : decode cX11_makeSchedules 12 = .ok (.new 32, 3) := dk_187 0 32 (dk_at dksX11_makeSchedules_0 12 rfl rfl)
theorem dX11_makeSchedules_15 : decode cX11_makeSchedules 15 = .ok (.dup, 1) := dk_89 (dk_at dksX11_makeSchedules_0 15 rfl rfl)
theorem dX11_makeSchedules_16 : decode cX11_makeSchedules 16 = .ok (.aload_n 0, 1) := dk_42 (dk_at dksX11_makeSchedules_0 16 rfl rfl)
theorem dX11_makeSchedules_17 : decode cX11_makeSchedules 17 = .ok (.getfield 31, 3) := dk_180 0 31 (dk_at dksX11_makeSchedules_0 17 rfl rfl)
theorem dX11_makeSchedules_20 : decode cX11_makeSchedules 20 = .ok (.invokespecial 34, 3) := dk_183 0 34 (dk_at dksX11_makeSchedules_0 20 rfl rfl)
theorem dX11_makeSchedules_23 : decode cX11_makeSchedules 23 = .ok (.invokeinterface 45 2, 5) := by decide +kernel
theorem dX11_makeSchedules_28 : decode cX11_makeSchedules 28 = .ok (.pop, 1) := dk_87 (dk_at dksX11_makeSchedules_1 5 rfl rfl)
theorem dX11_makeSchedules_29 : decode cX11_makeSchedules 29 = .ok (.iinc 2 1, 3) := dk_132 2 1 (dk_at dksX11_makeSchedules_1 6 rfl rfl)
theorem dX11_makeSchedules_32 : decode cX11_makeSchedules 32 = .ok (.goto (-30), 3) := dk_167 255 226 (dk_at dksX11_makeSchedules_1 9 rfl rfl)
theorem dX11_makeSchedules_35 : decode cX11_makeSchedules 35 = .ok (.aload_n 0, 1) := dk_42 (dk_at dksX11_makeSchedules_1 12 rfl rfl)
theorem dX11_makeSchedules_36 : decode cX11_makeSchedules 36 = .ok (.iconst 0, 1) := dk_3 (dk_at dksX11_makeSchedules_1 13 rfl rfl)
theorem dX11_makeSchedules_37 : decode cX11_makeSchedules 37 = .ok (.iload_n 1, 1) := dk_27 (dk_at dksX11_makeSchedules_1 14 rfl rfl)
theorem dX11_makeSchedules_38 : decode cX11_makeSchedules 38 = .ok (.invokevirtual 82, 3) := dk_182 0 82 (dk_at dksX11_makeSchedules_1 15 rfl rfl)
theorem dX11_makeSchedules_41 : decode cX11_makeSchedules 41 = .ok (.aload_n 0, 1) := dk_42 (dk_at dksX11_makeSchedules_1 18 rfl rfl)
theorem dX11_makeSchedules_42 : decode cX11_makeSchedules 42 = .ok (.areturn, 1) := dk_176 (dk_at dksX11_makeSchedules_1 19 rfl rfl)
abbrev cX11_make : ByteArray := prog_7_method_3_code
def yX11_make : MethodName := ⟨RX11, "make", "(IZ)V"⟩
def dkwX11_make_5 : List UInt8 := [167, 255, 205, 177]
abbrev dktX11_make_5 : List UInt8 := dkwX11_make_5 ++ []
def dkwX11_make_4 : List UInt8 := [25, 6, 25, 6, 21, 5, 182, 0, 70, 182, 0, 74, 42, 27, 4, 96, 28, 182, 0, 82, 132, 5, 1]
abbrev dktX11_make_4 : List UInt8 := dkwX11_make_4 ++ dktX11_make_5
def dkwX11_make_3 : List UInt8 := [162, 0, 50, 42, 180, 0, 12, 27, 4, 96, 185, 0, 51, 2, 0, 192, 0, 32, 45, 182, 0, 41, 58, 6]
abbrev dktX11_make_3 : List UInt8 := dkwX11_make_3 ++ dktX11_make_4
def dkwX11_make_2 : List UInt8 := [182, 0, 67, 182, 0, 59, 153, 0, 7, 4, 167, 0, 4, 3, 54, 5, 3, 54, 5, 21, 5, 21, 4]
abbrev dktX11_make_2 : List UInt8 := dkwX11_make_2 ++ dktX11_make_3
def dkwX11_make_1 : List UInt8 := [154, 0, 38, 42, 89, 180, 0, 78, 10, 97, 181, 0, 78, 28, 153, 0, 21, 42, 180, 0, 21, 45]
abbrev dktX11_make_1 : List UInt8 := dkwX11_make_1 ++ dktX11_make_2
def dkwX11_make_0 : List UInt8 := [42, 180, 0, 12, 27, 185, 0, 51, 2, 0, 192, 0, 32, 78, 45, 182, 0, 64, 54, 4, 21, 4]
abbrev dktX11_make_0 : List UInt8 := dkwX11_make_0 ++ dktX11_make_1
theorem dksX11_make_0 : cX11_make.data.toList.drop 0 = dktX11_make_0 := by decide +kernel
theorem dksX11_make_1 : cX11_make.data.toList.drop 22 = dktX11_make_1 := dk_seg dksX11_make_0 22 rfl rfl
theorem dksX11_make_2 : cX11_make.data.toList.drop 44 = dktX11_make_2 := dk_seg dksX11_make_1 22 rfl rfl
theorem dksX11_make_3 : cX11_make.data.toList.drop 67 = dktX11_make_3 := dk_seg dksX11_make_2 23 rfl rfl
theorem dksX11_make_4 : cX11_make.data.toList.drop 91 = dktX11_make_4 := dk_seg dksX11_make_3 24 rfl rfl
theorem dksX11_make_5 : cX11_make.data.toList.drop 114 = dktX11_make_5 := dk_seg dksX11_make_4 23 rfl rfl
theorem dX11_make_0 : decode cX11_make 0 = .ok (.aload_n 0, 1) := dk_42 (dk_at dksX11_make_0 0 rfl rfl)
theorem dX11_make_1 : decode cX11_make 1 = .ok (.getfield 12, 3) := dk_180 0 12 (dk_at dksX11_make_0 1 rfl rfl)
theorem dX11_make_4 : decode cX11_make 4 = .ok (.iload_n 1, 1) := dk_27 (dk_at dksX11_make_0 4 rfl rfl)
theorem dX11_make_5 : decode cX11_make 5 = .ok (.invokeinterface 51 2, 5) := by decide +kernel
theorem dX11_make_10 : decode cX11_make 10 = .ok (.checkcast 32, 3) := dk_192 0 32 (dk_at dksX11_make_0 10 rfl rfl)
theorem dX11_make_13 : decode cX11_make 13 = .ok (.astore_n 3, 1) := dk_78 (dk_at dksX11_make_0 13 rfl rfl)
theorem dX11_make_14 : decode cX11_make 14 = .ok (.aload_n 3, 1) := dk_45 (dk_at dksX11_make_0 14 rfl rfl)
theorem dX11_make_15 : decode cX11_make 15 = .ok (.invokevirtual 64, 3) := dk_182 0 64 (dk_at dksX11_make_0 15 rfl rfl)
theorem dX11_make_18 : decode cX11_make 18 = .ok (.istore 4, 2) := dk_54 4 (dk_at dksX11_make_0 18 rfl rfl)
theorem dX11_make_20 : decode cX11_make 20 = .ok (.iload 4, 2) := dk_21 4 (dk_at dksX11_make_0 20 rfl rfl)
theorem dX11_make_22 : decode cX11_make 22 = .ok (.ifCond .ne 38, 3) := dk_154 0 38 (dk_at dksX11_make_1 0 rfl rfl)
theorem dX11_make_25 : decode cX11_make 25 = .ok (.aload_n 0, 1) := dk_42 (dk_at dksX11_make_1 3 rfl rfl)
theorem dX11_make_26 : decode cX11_make 26 = .ok (.dup, 1) := dk_89 (dk_at dksX11_make_1 4 rfl rfl)
theorem dX11_make_27 : decode cX11_make 27 = .ok (.getfield 78, 3) := dk_180 0 78 (dk_at dksX11_make_1 5 rfl rfl)
theorem dX11_make_30 : decode cX11_make 30 = .ok (.lconst 1, 1) := dk_10 (dk_at dksX11_make_1 8 rfl rfl)
theorem dX11_make_31 : decode cX11_make 31 = .ok (.ladd, 1) := dk_97 (dk_at dksX11_make_1 9 rfl rfl)
theorem dX11_make_32 : decode cX11_make 32 = .ok (.putfield 78, 3) := dk_181 0 78 (dk_at dksX11_make_1 10 rfl rfl)
theorem dX11_make_35 : decode cX11_make 35 = .ok (.iload_n 2, 1) := dk_28 (dk_at dksX11_make_1 13 rfl rfl)
theorem dX11_make_36 : decode cX11_make 36 = .ok (.ifCond .eq 21, 3) := dk_153 0 21 (dk_at dksX11_make_1 14 rfl rfl)
theorem dX11_make_39 : decode cX11_make 39 = .ok (.aload_n 0, 1) := dk_42 (dk_at dksX11_make_1 17 rfl rfl)
theorem dX11_make_40 : decode cX11_make 40 = .ok (.getfield 21, 3) := dk_180 0 21 (dk_at dksX11_make_1 18 rfl rfl)
theorem dX11_make_43 : decode cX11_make 43 = .ok (.aload_n 3, 1) := dk_45 (dk_at dksX11_make_1 21 rfl rfl)
theorem dX11_make_44 : decode cX11_make 44 = .ok (.invokevirtual 67, 3) := dk_182 0 67 (dk_at dksX11_make_2 0 rfl rfl)
theorem dX11_make_47 : decode cX11_make 47 = .ok (.invokevirtual 59, 3) := dk_182 0 59 (dk_at dksX11_make_2 3 rfl rfl)
theorem dX11_make_50 : decode cX11_make 50 = .ok (.ifCond .eq 7, 3) := dk_153 0 7 (dk_at dksX11_make_2 6 rfl rfl)
theorem dX11_make_53 : decode cX11_make 53 = .ok (.iconst 1, 1) := dk_4 (dk_at dksX11_make_2 9 rfl rfl)
theorem dX11_make_54 : decode cX11_make 54 = .ok (.goto 4, 3) := dk_167 0 4 (dk_at dksX11_make_2 10 rfl rfl)
theorem dX11_make_57 : decode cX11_make 57 = .ok (.iconst 0, 1) := dk_3 (dk_at dksX11_make_2 13 rfl rfl)
theorem dX11_make_58 : decode cX11_make 58 = .ok (.istore 5, 2) := dk_54 5 (dk_at dksX11_make_2 14 rfl rfl)
theorem dX11_make_60 : decode cX11_make 60 = .ok (.iconst 0, 1) := dk_3 (dk_at dksX11_make_2 16 rfl rfl)
theorem dX11_make_61 : decode cX11_make 61 = .ok (.istore 5, 2) := dk_54 5 (dk_at dksX11_make_2 17 rfl rfl)
theorem dX11_make_63 : decode cX11_make 63 = .ok (.iload 5, 2) := dk_21 5 (dk_at dksX11_make_2 19 rfl rfl)
theorem dX11_make_65 : decode cX11_make 65 = .ok (.iload 4, 2) := dk_21 4 (dk_at dksX11_make_2 21 rfl rfl)
theorem dX11_make_67 : decode cX11_make 67 = .ok (.if_icmp .ge 50, 3) := dk_162 0 50 (dk_at dksX11_make_3 0 rfl rfl)
theorem dX11_make_70 : decode cX11_make 70 = .ok (.aload_n 0, 1) := dk_42 (dk_at dksX11_make_3 3 rfl rfl)
theorem dX11_make_71 : decode cX11_make 71 = .ok (.getfield 12, 3) := dk_180 0 12 (dk_at dksX11_make_3 4 rfl rfl)
theorem dX11_make_74 : decode cX11_make 74 = .ok (.iload_n 1, 1) := dk_27 (dk_at dksX11_make_3 7 rfl rfl)
theorem dX11_make_75 : decode cX11_make 75 = .ok (.iconst 1, 1) := dk_4 (dk_at dksX11_make_3 8 rfl rfl)
theorem dX11_make_76 : decode cX11_make 76 = .ok (.iadd, 1) := dk_96 (dk_at dksX11_make_3 9 rfl rfl)
theorem dX11_make_77 : decode cX11_make 77 = .ok (.invokeinterface 51 2, 5) := by decide +kernel
theorem dX11_make_82 : decode cX11_make 82 = .ok (.checkcast 32, 3) := dk_192 0 32 (dk_at dksX11_make_3 15 rfl rfl)
theorem dX11_make_85 : decode cX11_make 85 = .ok (.aload_n 3, 1) := dk_45 (dk_at dksX11_make_3 18 rfl rfl)
theorem dX11_make_86 : decode cX11_make 86 = .ok (.invokevirtual 41, 3) := dk_182 0 41 (dk_at dksX11_make_3 19 rfl rfl)
theorem dX11_make_89 : decode cX11_make 89 = .ok (.astore 6, 2) := dk_58 6 (dk_at dksX11_make_3 22 rfl rfl)
theorem dX11_make_91 : decode cX11_make 91 = .ok (.aload 6, 2) := dk_25 6 (dk_at dksX11_make_4 0 rfl rfl)
theorem dX11_make_93 : decode cX11_make 93 = .ok (.aload 6, 2) := dk_25 6 (dk_at dksX11_make_4 2 rfl rfl)
theorem dX11_make_95 : decode cX11_make 95 = .ok (.iload 5, 2) := dk_21 5 (dk_at dksX11_make_4 4 rfl rfl)
theorem dX11_make_97 : decode cX11_make 97 = .ok (.invokevirtual 70, 3) := dk_182 0 70 (dk_at dksX11_make_4 6 rfl rfl)
theorem dX11_make_100 : decode cX11_make 100 = .ok (.invokevirtual 74, 3) := dk_182 0 74 (dk_at dksX11_make_4 9 rfl rfl)
theorem dX11_make_103 : decode cX11_make 103 = .ok (.aload_n 0, 1) := dk_42 (dk_at dksX11_make_4 12 rfl rfl)
theorem dX11_make_104 : decode cX11_make 104 = .ok (.iload_n 1, 1) := dk_27 (dk_at dksX11_make_4 13 rfl rfl)
theorem dX11_make_105 : decode cX11_make 105 = .ok (.iconst 1, 1) := dk_4 (dk_at dksX11_make_4 14 rfl rfl)
theorem dX11_make_106 : decode cX11_make 106 = .ok (.iadd, 1) := dk_96 (dk_at dksX11_make_4 15 rfl rfl)
theorem dX11_make_107 : decode cX11_make 107 = .ok (.iload_n 2, 1) := dk_28 (dk_at dksX11_make_4 16 rfl rfl)
theorem dX11_make_108 : decode cX11_make 108 = .ok (.invokevirtual 82, 3) := dk_182 0 82 (dk_at dksX11_make_4 17 rfl rfl)
theorem dX11_make_111 : decode cX11_make 111 = .ok (.iinc 5 1, 3) := dk_132 5 1 (dk_at dksX11_make_4 20 rfl rfl)
theorem dX11_make_114 : decode cX11_make 114 = .ok (.goto (-51), 3) := dk_167 255 205 (dk_at dksX11_make_5 0 rfl rfl)
theorem dX11_make_117 : decode cX11_make 117 = .ok (.return_, 1) := dk_177 (dk_at dksX11_make_5 3 rfl rfl)
abbrev cX12_init : ByteArray := prog_8_method_1_code
def yX12_init : MethodName := ⟨RX12, "<init>", "(LSpindleActors;)V"⟩
def dkwX12_init_0 : List UInt8 := [42, 43, 181, 0, 3, 42, 183, 0, 9, 177]
abbrev dktX12_init_0 : List UInt8 := dkwX12_init_0 ++ []
theorem dksX12_init_0 : cX12_init.data.toList.drop 0 = dktX12_init_0 := by decide +kernel
theorem dX12_init_0 : decode cX12_init 0 = .ok (.aload_n 0, 1) := dk_42 (dk_at dksX12_init_0 0 rfl rfl)
theorem dX12_init_1 : decode cX12_init 1 = .ok (.aload_n 1, 1) := dk_43 (dk_at dksX12_init_0 1 rfl rfl)
theorem dX12_init_2 : decode cX12_init 2 = .ok (.putfield 3, 3) := dk_181 0 3 (dk_at dksX12_init_0 2 rfl rfl)
theorem dX12_init_5 : decode cX12_init 5 = .ok (.aload_n 0, 1) := dk_42 (dk_at dksX12_init_0 5 rfl rfl)
theorem dX12_init_6 : decode cX12_init 6 = .ok (.invokespecial 9, 3) := dk_183 0 9 (dk_at dksX12_init_0 6 rfl rfl)
theorem dX12_init_9 : decode cX12_init 9 = .ok (.return_, 1) := dk_177 (dk_at dksX12_init_0 9 rfl rfl)
abbrev cX12_text : ByteArray := prog_8_method_9_code
def yX12_text : MethodName := ⟨RX12, "text", "()Ljava/util/List;"⟩
def dkwX12_text_2 : List UInt8 := [185, 0, 138, 2, 0, 87, 167, 255, 221, 43, 176]
abbrev dktX12_text_2 : List UInt8 := dkwX12_text_2 ++ []
def dkwX12_text_1 : List UInt8 := [180, 0, 3, 180, 0, 19, 182, 0, 23, 162, 0, 24, 42, 18, 143, 182, 0, 50, 61, 43, 42, 182, 0, 134]
abbrev dktX12_text_1 : List UInt8 := dkwX12_text_1 ++ dktX12_text_2
def dkwX12_text_0 : List UInt8 := [187, 0, 131, 89, 183, 0, 133, 76, 43, 42, 182, 0, 134, 185, 0, 138, 2, 0, 87, 42, 180, 0, 15, 42]
abbrev dktX12_text_0 : List UInt8 := dkwX12_text_0 ++ dktX12_text_1
theorem dksX12_text_0 : cX12_text.data.toList.drop 0 = dktX12_text_0 := by decide +kernel
theorem dksX12_text_1 : cX12_text.data.toList.drop 24 = dktX12_text_1 := dk_seg dksX12_text_0 24 rfl rfl
theorem dksX12_text_2 : cX12_text.data.toList.drop 48 = dktX12_text_2 := dk_seg dksX12_text_1 24 rfl rfl
theorem dX12_text_0 : decode cX12_text 0 = .ok (.new 131, 3) := dk_187 0 131 (dk_at dksX12_text_0 0 rfl rfl)
theorem dX12_text_3 : decode cX12_text 3 = .ok (.dup, 1) := dk_89 (dk_at dksX12_text_0 3 rfl rfl)
theorem dX12_text_4 : decode cX12_text 4 = .ok (.invokespecial 133, 3) := dk_183 0 133 (dk_at dksX12_text_0 4 rfl rfl)
theorem dX12_text_7 : decode cX12_text 7 = .ok (.astore_n 1, 1) := dk_76 (dk_at dksX12_text_0 7 rfl rfl)
theorem dX12_text_8 : decode cX12_text 8 = .ok (.aload_n 1, 1) := dk_43 (dk_at dksX12_text_0 8 rfl rfl)
theorem dX12_text_9 : decode cX12_text 9 = .ok (.aload_n 0, 1) := dk_42 (dk_at dksX12_text_0 9 rfl rfl)
theorem dX12_text_10 : decode cX12_text 10 = .ok (.invokevirtual 134, 3) := dk_182 0 134 (dk_at dksX12_text_0 10 rfl rfl)
theorem dX12_text_13 : decode cX12_text 13 = .ok (.invokeinterface 138 2, 5) := by decide +kernel
theorem dX12_text_18 : decode cX12_text 18 = .ok (.pop, 1) := dk_87 (dk_at dksX12_text_0 18 rfl rfl)
theorem dX12_text_19 : decode cX12_text 19 = .ok (.aload_n 0, 1) := dk_42 (dk_at dksX12_text_0 19 rfl rfl)
theorem dX12_text_20 : decode cX12_text 20 = .ok (.getfield 15, 3) := dk_180 0 15 (dk_at dksX12_text_0 20 rfl rfl)
theorem dX12_text_23 : decode cX12_text 23 = .ok (.aload_n 0, 1) := dk_42 (dk_at dksX12_text_0 23 rfl rfl)
theorem dX12_text_24 : decode cX12_text 24 = .ok (.getfield 3, 3) := dk_180 0 3 (dk_at dksX12_text_1 0 rfl rfl)
theorem dX12_text_27 : decode cX12_text 27 = .ok (.getfield 19, 3) := dk_180 0 19 (dk_at dksX12_text_1 3 rfl rfl)
theorem dX12_text_30 : decode cX12_text 30 = .ok (.invokevirtual 23, 3) := dk_182 0 23 (dk_at dksX12_text_1 6 rfl rfl)
theorem dX12_text_33 : decode cX12_text 33 = .ok (.if_icmp .ge 24, 3) := dk_162 0 24 (dk_at dksX12_text_1 9 rfl rfl)
theorem dX12_text_36 : decode cX12_text 36 = .ok (.aload_n 0, 1) := dk_42 (dk_at dksX12_text_1 12 rfl rfl)
theorem dX12_text_37 : decode cX12_text 37 = .ok (.ldc 143, 2) := dk_18 143 (dk_at dksX12_text_1 13 rfl rfl)
theorem dX12_text_39 : decode cX12_text 39 = .ok (.invokevirtual 50, 3) := dk_182 0 50 (dk_at dksX12_text_1 15 rfl rfl)
theorem dX12_text_42 : decode cX12_text 42 = .ok (.istore_n 2, 1) := dk_61 (dk_at dksX12_text_1 18 rfl rfl)
theorem dX12_text_43 : decode cX12_text 43 = .ok (.aload_n 1, 1) := dk_43 (dk_at dksX12_text_1 19 rfl rfl)
theorem dX12_text_44 : decode cX12_text 44 = .ok (.aload_n 0, 1) := dk_42 (dk_at dksX12_text_1 20 rfl rfl)
theorem dX12_text_45 : decode cX12_text 45 = .ok (.invokevirtual 134, 3) := dk_182 0 134 (dk_at dksX12_text_1 21 rfl rfl)
theorem dX12_text_48 : decode cX12_text 48 = .ok (.invokeinterface 138 2, 5) := by decide +kernel
theorem dX12_text_53 : decode cX12_text 53 = .ok (.pop, 1) := dk_87 (dk_at dksX12_text_2 5 rfl rfl)
theorem dX12_text_54 : decode cX12_text 54 = .ok (.goto (-35), 3) := dk_167 255 221 (dk_at dksX12_text_2 6 rfl rfl)
theorem dX12_text_57 : decode cX12_text 57 = .ok (.aload_n 1, 1) := dk_43 (dk_at dksX12_text_2 9 rfl rfl)
theorem dX12_text_58 : decode cX12_text 58 = .ok (.areturn, 1) := dk_176 (dk_at dksX12_text_2 10 rfl rfl)
abbrev cX12_command : ByteArray := prog_8_method_8_code
def yX12_command : MethodName := ⟨RX12, "command", "()LSpindleActors$Change;"⟩
def dkwX12_command_19 : List UInt8 := [183, 0, 99, 176]
abbrev dktX12_command_19 : List UInt8 := dkwX12_command_19 ++ []
def dkwX12_command_18 : List UInt8 := [182, 0, 57, 3, 3, 183, 0, 99, 176, 187, 0, 94, 89, 43, 16, 32, 42, 182, 0, 54, 3, 3]
abbrev dktX12_command_18 : List UInt8 := dkwX12_command_18 ++ dktX12_command_19
def dkwX12_command_17 : List UInt8 := [89, 43, 42, 18, 129, 182, 0, 50, 3, 3, 3, 183, 0, 99, 176, 187, 0, 94, 89, 43, 16, 32, 42]
abbrev dktX12_command_17 : List UInt8 := dkwX12_command_17 ++ dktX12_command_18
def dkwX12_command_16 : List UInt8 := [187, 0, 94, 89, 43, 16, 32, 21, 5, 21, 6, 42, 18, 127, 182, 0, 96, 183, 0, 99, 176, 187, 0, 94]
abbrev dktX12_command_16 : List UInt8 := dkwX12_command_16 ++ dktX12_command_17
def dkwX12_command_15 : List UInt8 := [182, 0, 96, 3, 183, 0, 99, 176, 42, 182, 0, 54, 54, 5, 42, 18, 64, 182, 0, 96, 54, 6]
abbrev dktX12_command_15 : List UInt8 := dkwX12_command_15 ++ dktX12_command_16
def dkwX12_command_14 : List UInt8 := [183, 0, 99, 176, 42, 182, 0, 54, 54, 5, 187, 0, 94, 89, 43, 16, 32, 21, 5, 42, 18, 64]
abbrev dktX12_command_14 : List UInt8 := dkwX12_command_14 ++ dktX12_command_15
def dkwX12_command_13 : List UInt8 := [183, 0, 99, 176, 42, 182, 0, 54, 54, 5, 187, 0, 94, 89, 43, 16, 32, 21, 5, 42, 182, 0, 54, 3]
abbrev dktX12_command_13 : List UInt8 := dkwX12_command_13 ++ dktX12_command_14
def dkwX12_command_12 : List UInt8 := [176, 42, 182, 0, 54, 54, 5, 187, 0, 94, 89, 43, 42, 18, 125, 182, 0, 50, 21, 5, 3, 3]
abbrev dktX12_command_12 : List UInt8 := dkwX12_command_12 ++ dktX12_command_13
def dkwX12_command_11 : List UInt8 := [42, 18, 123, 182, 0, 50, 54, 5, 187, 0, 94, 89, 43, 21, 5, 42, 182, 0, 54, 3, 3, 183, 0, 99]
abbrev dktX12_command_11 : List UInt8 := dkwX12_command_11 ++ dktX12_command_12
def dkwX12_command_10 : List UInt8 := [170, 0, 0, 0, 0, 0, 221, 0, 0, 0, 0, 0, 0, 0, 8, 0, 0, 0, 51, 0, 0, 0, 76, 0, 0, 0, 101, 0, 0, 0, 101, 0, 0, 0, 101, 0, 0, 0, 125, 0, 0, 0, 151, 0, 0, 0, 186, 0, 0, 0, 204]
abbrev dktX12_command_10 : List UInt8 := dkwX12_command_10 ++ dktX12_command_11
def dkwX12_command_9 : List UInt8 := [167, 0, 16, 45, 18, 121, 182, 0, 90, 153, 0, 7, 16, 8, 54, 4, 21, 4]
abbrev dktX12_command_9 : List UInt8 := dkwX12_command_9 ++ dktX12_command_10
def dkwX12_command_8 : List UInt8 := [153, 0, 39, 16, 6, 54, 4, 167, 0, 32, 45, 18, 119, 182, 0, 90, 153, 0, 23, 16, 7, 54, 4]
abbrev dktX12_command_8 : List UInt8 := dkwX12_command_8 ++ dktX12_command_9
def dkwX12_command_7 : List UInt8 := [167, 0, 63, 45, 18, 115, 182, 0, 90, 153, 0, 54, 8, 54, 4, 167, 0, 48, 45, 18, 117, 182, 0, 90]
abbrev dktX12_command_7 : List UInt8 := dkwX12_command_7 ++ dktX12_command_8
def dkwX12_command_6 : List UInt8 := [182, 0, 90, 153, 0, 84, 6, 54, 4, 167, 0, 78, 45, 18, 113, 182, 0, 90, 153, 0, 69, 7, 54, 4]
abbrev dktX12_command_6 : List UInt8 := dkwX12_command_6 ++ dktX12_command_7
def dkwX12_command_5 : List UInt8 := [4, 54, 4, 167, 0, 108, 45, 18, 109, 182, 0, 90, 153, 0, 99, 5, 54, 4, 167, 0, 93, 45, 18, 111]
abbrev dktX12_command_5 : List UInt8 := dkwX12_command_5 ++ dktX12_command_6
def dkwX12_command_4 : List UInt8 := [45, 18, 105, 182, 0, 90, 153, 0, 129, 3, 54, 4, 167, 0, 123, 45, 18, 107, 182, 0, 90, 153, 0, 114]
abbrev dktX12_command_4 : List UInt8 := dkwX12_command_4 ++ dktX12_command_5
def dkwX12_command_3 : List UInt8 := [171, 0, 0, 0, 0, 217, 0, 0, 0, 9, 186, 136, 121, 164, 0, 0, 0, 142, 203, 126, 113, 145, 0, 0, 0, 112, 214, 102, 146, 151, 0, 0, 0, 188, 0, 53, 206, 113, 0, 0, 0, 204, 0, 53, 207, 136, 0, 0, 0, 157, 5, 133, 169, 245, 0, 0, 0, 82, 6, 148, 7, 69, 0, 0, 0, 172, 6, 164, 66, 216, 0, 0, 0, 127, 106, 143, 163, 115, 0, 0, 0, 97]
abbrev dktX12_command_3 : List UInt8 := dkwX12_command_3 ++ dktX12_command_4
def dkwX12_command_2 : List UInt8 := [18, 64, 182, 0, 50, 61, 43, 78, 2, 54, 4, 45, 182, 0, 102]
abbrev dktX12_command_2 : List UInt8 := dkwX12_command_2 ++ dktX12_command_3
def dkwX12_command_1 : List UInt8 := [182, 0, 39, 153, 0, 12, 42, 18, 64, 182, 0, 96, 167, 0, 4, 4, 3, 3, 183, 0, 99, 176, 42]
abbrev dktX12_command_1 : List UInt8 := dkwX12_command_1 ++ dktX12_command_2
def dkwX12_command_0 : List UInt8 := [42, 182, 0, 85, 76, 43, 18, 88, 182, 0, 90, 153, 0, 35, 187, 0, 94, 89, 43, 16, 32, 42, 18, 64]
abbrev dktX12_command_0 : List UInt8 := dkwX12_command_0 ++ dktX12_command_1
theorem dksX12_command_0 : cX12_command.data.toList.drop 0 = dktX12_command_0 := by decide +kernel
theorem dksX12_command_1 : cX12_command.data.toList.drop 24 = dktX12_command_1 := dk_seg dksX12_command_0 24 rfl rfl
theorem dksX12_command_2 : cX12_command.data.toList.drop 47 = dktX12_command_2 := dk_seg dksX12_command_1 23 rfl rfl
theorem dksX12_command_3 : cX12_command.data.toList.drop 62 = dktX12_command_3 := dk_seg dksX12_command_2 15 rfl rfl
theorem dksX12_command_4 : cX12_command.data.toList.drop 144 = dktX12_command_4 := dk_seg dksX12_command_3 82 rfl rfl
theorem dksX12_command_5 : cX12_command.data.toList.drop 168 = dktX12_command_5 := dk_seg dksX12_command_4 24 rfl rfl
theorem dksX12_command_6 : cX12_command.data.toList.drop 192 = dktX12_command_6 := dk_seg dksX12_command_5 24 rfl rfl
theorem dksX12_command_7 : cX12_command.data.toList.drop 216 = dktX12_command_7 := dk_seg dksX12_command_6 24 rfl rfl
theorem dksX12_command_8 : cX12_command.data.toList.drop 240 = dktX12_command_8 := dk_seg dksX12_command_7 24 rfl rfl
theorem dksX12_command_9 : cX12_command.data.toList.drop 263 = dktX12_command_9 := dk_seg dksX12_command_8 23 rfl rfl
theorem dksX12_command_10 : cX12_command.data.toList.drop 281 = dktX12_command_10 := dk_seg dksX12_command_9 18 rfl rfl
theorem dksX12_command_11 : cX12_command.data.toList.drop 332 = dktX12_command_11 := dk_seg dksX12_command_10 51 rfl rfl
theorem dksX12_command_12 : cX12_command.data.toList.drop 356 = dktX12_command_12 := dk_seg dksX12_command_11 24 rfl rfl
theorem dksX12_command_13 : cX12_command.data.toList.drop 378 = dktX12_command_13 := dk_seg dksX12_command_12 22 rfl rfl
theorem dksX12_command_14 : cX12_command.data.toList.drop 402 = dktX12_command_14 := dk_seg dksX12_command_13 24 rfl rfl
theorem dksX12_command_15 : cX12_command.data.toList.drop 424 = dktX12_command_15 := dk_seg dksX12_command_14 22 rfl rfl
theorem dksX12_command_16 : cX12_command.data.toList.drop 446 = dktX12_command_16 := dk_seg dksX12_command_15 22 rfl rfl
theorem dksX12_command_17 : cX12_command.data.toList.drop 470 = dktX12_command_17 := dk_seg dksX12_command_16 24 rfl rfl
theorem dksX12_command_18 : cX12_command.data.toList.drop 493 = dktX12_command_18 := dk_seg dksX12_command_17 23 rfl rfl
theorem dksX12_command_19 : cX12_command.data.toList.drop 515 = dktX12_command_19 := dk_seg dksX12_command_18 22 rfl rfl
theorem dX12_command_0 : decode cX12_command 0 = .ok (.aload_n 0, 1) := dk_42 (dk_at dksX12_command_0 0 rfl rfl)
theorem dX12_command_1 : decode cX12_command 1 = .ok (.invokevirtual 85, 3) := dk_182 0 85 (dk_at dksX12_command_0 1 rfl rfl)
theorem dX12_command_4 : decode cX12_command 4 = .ok (.astore_n 1, 1) := dk_76 (dk_at dksX12_command_0 4 rfl rfl)
theorem dX12_command_5 : decode cX12_command 5 = .ok (.aload_n 1, 1) := dk_43 (dk_at dksX12_command_0 5 rfl rfl)
theorem dX12_command_6 : decode cX12_command 6 = .ok (.ldc 88, 2) := dk_18 88 (dk_at dksX12_command_0 6 rfl rfl)
theorem dX12_command_8 : decode cX12_command 8 = .ok (.invokevirtual 90, 3) := dk_182 0 90 (dk_at dksX12_command_0 8 rfl rfl)
theorem dX12_command_11 : decode cX12_command 11 = .ok (.ifCond .eq 35, 3) := dk_153 0 35 (dk_at dksX12_command_0 11 rfl rfl)
theorem dX12_command_14 : decode cX12_command 14 = .ok (.new 94, 3) := dk_187 0 94 (dk_at dksX12_command_0 14 rfl rfl)
theorem dX12_command_17 : decode cX12_command 17 = .ok (.dup, 1) := dk_89 (dk_at dksX12_command_0 17 rfl rfl)
theorem dX12_command_18 : decode cX12_command 18 = .ok (.aload_n 1, 1) := dk_43 (dk_at dksX12_command_0 18 rfl rfl)
theorem dX12_command_19 : decode cX12_command 19 = .ok (.bipush 32, 2) := dk_16 32 (dk_at dksX12_command_0 19 rfl rfl)
theorem dX12_command_21 : decode cX12_command 21 = .ok (.aload_n 0, 1) := dk_42 (dk_at dksX12_command_0 21 rfl rfl)
theorem dX12_command_22 : decode cX12_command 22 = .ok (.ldc 64, 2) := dk_18 64 (dk_at dksX12_command_0 22 rfl rfl)
theorem dX12_command_24 : decode cX12_command 24 = .ok (.invokevirtual 39, 3) := dk_182 0 39 (dk_at dksX12_command_1 0 rfl rfl)
theorem dX12_command_27 : decode cX12_command 27 = .ok (.ifCond .eq 12, 3) := dk_153 0 12 (dk_at dksX12_command_1 3 rfl rfl)
theorem dX12_command_30 : decode cX12_command 30 = .ok (.aload_n 0, 1) := dk_42 (dk_at dksX12_command_1 6 rfl rfl)
theorem dX12_command_31 : decode cX12_command 31 = .ok (.ldc 64, 2) := dk_18 64 (dk_at dksX12_command_1 7 rfl rfl)
theorem dX12_command_33 : decode cX12_command 33 = .ok (.invokevirtual 96, 3) := dk_182 0 96 (dk_at dksX12_command_1 9 rfl rfl)
theorem dX12_command_36 : decode cX12_command 36 = .ok (.goto 4, 3) := dk_167 0 4 (dk_at dksX12_command_1 12 rfl rfl)
theorem dX12_command_39 : decode cX12_command 39 = .ok (.iconst 1, 1) := dk_4 (dk_at dksX12_command_1 15 rfl rfl)
theorem dX12_command_40 : decode cX12_command 40 = .ok (.iconst 0, 1) := dk_3 (dk_at dksX12_command_1 16 rfl rfl)
theorem dX12_command_41 : decode cX12_command 41 = .ok (.iconst 0, 1) := dk_3 (dk_at dksX12_command_1 17 rfl rfl)
theorem dX12_command_42 : decode cX12_command 42 = .ok (.invokespecial 99, 3) := dk_183 0 99 (dk_at dksX12_command_1 18 rfl rfl)
theorem dX12_command_45 : decode cX12_command 45 = .ok (.areturn, 1) := dk_176 (dk_at dksX12_command_1 21 rfl rfl)
theorem dX12_command_46 : decode cX12_command 46 = .ok (.aload_n 0, 1) := dk_42 (dk_at dksX12_command_1 22 rfl rfl)
theorem dX12_command_47 : decode cX12_command 47 = .ok (.ldc 64, 2) := dk_18 64 (dk_at dksX12_command_2 0 rfl rfl)
theorem dX12_command_49 : decode cX12_command 49 = .ok (.invokevirtual 50, 3) := dk_182 0 50 (dk_at dksX12_command_2 2 rfl rfl)
theorem dX12_command_52 : decode cX12_command 52 = .ok (.istore_n 2, 1) := dk_61 (dk_at dksX12_command_2 5 rfl rfl)
theorem dX12_command_53 : decode cX12_command 53 = .ok (.aload_n 1, 1) := dk_43 (dk_at dksX12_command_2 6 rfl rfl)
theorem dX12_command_54 : decode cX12_command 54 = .ok (.astore_n 3, 1) := dk_78 (dk_at dksX12_command_2 7 rfl rfl)
theorem dX12_command_55 : decode cX12_command 55 = .ok (.iconst (-1), 1) := dk_2 (dk_at dksX12_command_2 8 rfl rfl)
theorem dX12_command_56 : decode cX12_command 56 = .ok (.istore 4, 2) := dk_54 4 (dk_at dksX12_command_2 9 rfl rfl)
theorem dX12_command_58 : decode cX12_command 58 = .ok (.aload_n 3, 1) := dk_45 (dk_at dksX12_command_2 11 rfl rfl)
theorem dX12_command_59 : decode cX12_command 59 = .ok (.invokevirtual 102, 3) := dk_182 0 102 (dk_at dksX12_command_2 12 rfl rfl)
theorem dX12_command_62 : decode cX12_command 62 = .ok (.lookupswitch 217 #[(-1165461084, 142), (-880905839, 112), (-697920873, 188), (3526257, 204), (3526536, 157), (92645877, 82), (110364485, 172), (111428312, 127), (1787798387, 97)], 82) := by decide +kernel
theorem dX12_command_144 : decode cX12_command 144 = .ok (.aload_n 3, 1) := dk_45 (dk_at dksX12_command_4 0 rfl rfl)
theorem dX12_command_145 : decode cX12_command 145 = .ok (.ldc 105, 2) := dk_18 105 (dk_at dksX12_command_4 1 rfl rfl)
theorem dX12_command_147 : decode cX12_command 147 = .ok (.invokevirtual 90, 3) := dk_182 0 90 (dk_at dksX12_command_4 3 rfl rfl)
theorem dX12_command_150 : decode cX12_command 150 = .ok (.ifCond .eq 129, 3) := dk_153 0 129 (dk_at dksX12_command_4 6 rfl rfl)
theorem dX12_command_153 : decode cX12_command 153 = .ok (.iconst 0, 1) := dk_3 (dk_at dksX12_command_4 9 rfl rfl)
theorem dX12_command_154 : decode cX12_command 154 = .ok (.istore 4, 2) := dk_54 4 (dk_at dksX12_command_4 10 rfl rfl)
theorem dX12_command_156 : decode cX12_command 156 = .ok (.goto 123, 3) := dk_167 0 123 (dk_at dksX12_command_4 12 rfl rfl)
theorem dX12_command_159 : decode cX12_command 159 = .ok (.aload_n 3, 1) := dk_45 (dk_at dksX12_command_4 15 rfl rfl)
theorem dX12_command_160 : decode cX12_command 160 = .ok (.ldc 107, 2) := dk_18 107 (dk_at dksX12_command_4 16 rfl rfl)
theorem dX12_command_162 : decode cX12_command 162 = .ok (.invokevirtual 90, 3) := dk_182 0 90 (dk_at dksX12_command_4 18 rfl rfl)
theorem dX12_command_165 : decode cX12_command 165 = .ok (.ifCond .eq 114, 3) := dk_153 0 114 (dk_at dksX12_command_4 21 rfl rfl)
theorem dX12_command_168 : decode cX12_command 168 = .ok (.iconst 1, 1) := dk_4 (dk_at dksX12_command_5 0 rfl rfl)
theorem dX12_command_169 : decode cX12_command 169 = .ok (.istore 4, 2) := dk_54 4 (dk_at dksX12_command_5 1 rfl rfl)
theorem dX12_command_171 : decode cX12_command 171 = .ok (.goto 108, 3) := dk_167 0 108 (dk_at dksX12_command_5 3 rfl rfl)
theorem dX12_command_174 : decode cX12_command 174 = .ok (.aload_n 3, 1) := dk_45 (dk_at dksX12_command_5 6 rfl rfl)
theorem dX12_command_175 : decode cX12_command 175 = .ok (.ldc 109, 2) := dk_18 109 (dk_at dksX12_command_5 7 rfl rfl)
theorem dX12_command_177 : decode cX12_command 177 = .ok (.invokevirtual 90, 3) := dk_182 0 90 (dk_at dksX12_command_5 9 rfl rfl)
theorem dX12_command_180 : decode cX12_command 180 = .ok (.ifCond .eq 99, 3) := dk_153 0 99 (dk_at dksX12_command_5 12 rfl rfl)
theorem dX12_command_183 : decode cX12_command 183 = .ok (.iconst 2, 1) := dk_5 (dk_at dksX12_command_5 15 rfl rfl)
theorem dX12_command_184 : decode cX12_command 184 = .ok (.istore 4, 2) := dk_54 4 (dk_at dksX12_command_5 16 rfl rfl)
theorem dX12_command_186 : decode cX12_command 186 = .ok (.goto 93, 3) := dk_167 0 93 (dk_at dksX12_command_5 18 rfl rfl)
theorem dX12_command_189 : decode cX12_command 189 = .ok (.aload_n 3, 1) := dk_45 (dk_at dksX12_command_5 21 rfl rfl)
theorem dX12_command_190 : decode cX12_command 190 = .ok (.ldc 111, 2) := dk_18 111 (dk_at dksX12_command_5 22 rfl rfl)
theorem dX12_command_192 : decode cX12_command 192 = .ok (.invokevirtual 90, 3) := dk_182 0 90 (dk_at dksX12_command_6 0 rfl rfl)
theorem dX12_command_195 : decode cX12_command 195 = .ok (.ifCond .eq 84, 3) := dk_153 0 84 (dk_at dksX12_command_6 3 rfl rfl)
theorem dX12_command_198 : decode cX12_command 198 = .ok (.iconst 3, 1) := dk_6 (dk_at dksX12_command_6 6 rfl rfl)
theorem dX12_command_199 : decode cX12_command 199 = .ok (.istore 4, 2) := dk_54 4 (dk_at dksX12_command_6 7 rfl rfl)
theorem dX12_command_201 : decode cX12_command 201 = .ok (.goto 78, 3) := dk_167 0 78 (dk_at dksX12_command_6 9 rfl rfl)
theorem dX12_command_204 : decode cX12_command 204 = .ok (.aload_n 3, 1) := dk_45 (dk_at dksX12_command_6 12 rfl rfl)
theorem dX12_command_205 : decode cX12_command 205 = .ok (.ldc 113, 2) := dk_18 113 (dk_at dksX12_command_6 13 rfl rfl)
theorem dX12_command_207 : decode cX12_command 207 = .ok (.invokevirtual 90, 3) := dk_182 0 90 (dk_at dksX12_command_6 15 rfl rfl)
theorem dX12_command_210 : decode cX12_command 210 = .ok (.ifCond .eq 69, 3) := dk_153 0 69 (dk_at dksX12_command_6 18 rfl rfl)
theorem dX12_command_213 : decode cX12_command 213 = .ok (.iconst 4, 1) := dk_7 (dk_at dksX12_command_6 21 rfl rfl)
theorem dX12_command_214 : decode cX12_command 214 = .ok (.istore 4, 2) := dk_54 4 (dk_at dksX12_command_6 22 rfl rfl)
theorem dX12_command_216 : decode cX12_command 216 = .ok (.goto 63, 3) := dk_167 0 63 (dk_at dksX12_command_7 0 rfl rfl)
theorem dX12_command_219 : decode cX12_command 219 = .ok (.aload_n 3, 1) := dk_45 (dk_at dksX12_command_7 3 rfl rfl)
theorem dX12_command_220 : decode cX12_command 220 = .ok (.ldc 115, 2) := dk_18 115 (dk_at dksX12_command_7 4 rfl rfl)
theorem dX12_command_222 : decode cX12_command 222 = .ok (.invokevirtual 90, 3) := dk_182 0 90 (dk_at dksX12_command_7 6 rfl rfl)
theorem dX12_command_225 : decode cX12_command 225 = .ok (.ifCond .eq 54, 3) := dk_153 0 54 (dk_at dksX12_command_7 9 rfl rfl)
theorem dX12_command_228 : decode cX12_command 228 = .ok (.iconst 5, 1) := dk_8 (dk_at dksX12_command_7 12 rfl rfl)
theorem dX12_command_229 : decode cX12_command 229 = .ok (.istore 4, 2) := dk_54 4 (dk_at dksX12_command_7 13 rfl rfl)
theorem dX12_command_231 : decode cX12_command 231 = .ok (.goto 48, 3) := dk_167 0 48 (dk_at dksX12_command_7 15 rfl rfl)
theorem dX12_command_234 : decode cX12_command 234 = .ok (.aload_n 3, 1) := dk_45 (dk_at dksX12_command_7 18 rfl rfl)
theorem dX12_command_235 : decode cX12_command 235 = .ok (.ldc 117, 2) := dk_18 117 (dk_at dksX12_command_7 19 rfl rfl)
theorem dX12_command_237 : decode cX12_command 237 = .ok (.invokevirtual 90, 3) := dk_182 0 90 (dk_at dksX12_command_7 21 rfl rfl)
theorem dX12_command_240 : decode cX12_command 240 = .ok (.ifCond .eq 39, 3) := dk_153 0 39 (dk_at dksX12_command_8 0 rfl rfl)
theorem dX12_command_243 : decode cX12_command 243 = .ok (.bipush 6, 2) := dk_16 6 (dk_at dksX12_command_8 3 rfl rfl)
theorem dX12_command_245 : decode cX12_command 245 = .ok (.istore 4, 2) := dk_54 4 (dk_at dksX12_command_8 5 rfl rfl)
theorem dX12_command_247 : decode cX12_command 247 = .ok (.goto 32, 3) := dk_167 0 32 (dk_at dksX12_command_8 7 rfl rfl)
theorem dX12_command_250 : decode cX12_command 250 = .ok (.aload_n 3, 1) := dk_45 (dk_at dksX12_command_8 10 rfl rfl)
theorem dX12_command_251 : decode cX12_command 251 = .ok (.ldc 119, 2) := dk_18 119 (dk_at dksX12_command_8 11 rfl rfl)
theorem dX12_command_253 : decode cX12_command 253 = .ok (.invokevirtual 90, 3) := dk_182 0 90 (dk_at dksX12_command_8 13 rfl rfl)
theorem dX12_command_256 : decode cX12_command 256 = .ok (.ifCond .eq 23, 3) := dk_153 0 23 (dk_at dksX12_command_8 16 rfl rfl)
theorem dX12_command_259 : decode cX12_command 259 = .ok (.bipush 7, 2) := dk_16 7 (dk_at dksX12_command_8 19 rfl rfl)
theorem dX12_command_261 : decode cX12_command 261 = .ok (.istore 4, 2) := dk_54 4 (dk_at dksX12_command_8 21 rfl rfl)
theorem dX12_command_263 : decode cX12_command 263 = .ok (.goto 16, 3) := dk_167 0 16 (dk_at dksX12_command_9 0 rfl rfl)
theorem dX12_command_266 : decode cX12_command 266 = .ok (.aload_n 3, 1) := dk_45 (dk_at dksX12_command_9 3 rfl rfl)
theorem dX12_command_267 : decode cX12_command 267 = .ok (.ldc 121, 2) := dk_18 121 (dk_at dksX12_command_9 4 rfl rfl)
theorem dX12_command_269 : decode cX12_command 269 = .ok (.invokevirtual 90, 3) := dk_182 0 90 (dk_at dksX12_command_9 6 rfl rfl)
theorem dX12_command_272 : decode cX12_command 272 = .ok (.ifCond .eq 7, 3) := dk_153 0 7 (dk_at dksX12_command_9 9 rfl rfl)
theorem dX12_command_275 : decode cX12_command 275 = .ok (.bipush 8, 2) := dk_16 8 (dk_at dksX12_command_9 12 rfl rfl)
theorem dX12_command_277 : decode cX12_command 277 = .ok (.istore 4, 2) := dk_54 4 (dk_at dksX12_command_9 14 rfl rfl)
theorem dX12_command_279 : decode cX12_command 279 = .ok (.iload 4, 2) := dk_21 4 (dk_at dksX12_command_9 16 rfl rfl)
theorem dX12_command_281 : decode cX12_command 281 = .ok (.tableswitch 221 0 8 #[51, 76, 101, 101, 101, 125, 151, 186, 204], 51) := by decide +kernel
theorem dX12_command_332 : decode cX12_command 332 = .ok (.aload_n 0, 1) := dk_42 (dk_at dksX12_command_11 0 rfl rfl)
theorem dX12_command_333 : decode cX12_command 333 = .ok (.ldc 123, 2) := dk_18 123 (dk_at dksX12_command_11 1 rfl rfl)
theorem dX12_command_335 : decode cX12_command 335 = .ok (.invokevirtual 50, 3) := dk_182 0 50 (dk_at dksX12_command_11 3 rfl rfl)
theorem dX12_command_338 : decode cX12_command 338 = .ok (.istore 5, 2) := dk_54 5 (dk_at dksX12_command_11 6 rfl rfl)
theorem dX12_command_340 : decode cX12_command 340 = .ok (.new 94, 3) := dk_187 0 94 (dk_at dksX12_command_11 8 rfl rfl)
theorem dX12_command_343 : decode cX12_command 343 = .ok (.dup, 1) := dk_89 (dk_at dksX12_command_11 11 rfl rfl)
theorem dX12_command_344 : decode cX12_command 344 = .ok (.aload_n 1, 1) := dk_43 (dk_at dksX12_command_11 12 rfl rfl)
theorem dX12_command_345 : decode cX12_command 345 = .ok (.iload 5, 2) := dk_21 5 (dk_at dksX12_command_11 13 rfl rfl)
theorem dX12_command_347 : decode cX12_command 347 = .ok (.aload_n 0, 1) := dk_42 (dk_at dksX12_command_11 15 rfl rfl)
theorem dX12_command_348 : decode cX12_command 348 = .ok (.invokevirtual 54, 3) := dk_182 0 54 (dk_at dksX12_command_11 16 rfl rfl)
theorem dX12_command_351 : decode cX12_command 351 = .ok (.iconst 0, 1) := dk_3 (dk_at dksX12_command_11 19 rfl rfl)
theorem dX12_command_352 : decode cX12_command 352 = .ok (.iconst 0, 1) := dk_3 (dk_at dksX12_command_11 20 rfl rfl)
theorem dX12_command_353 : decode cX12_command 353 = .ok (.invokespecial 99, 3) := dk_183 0 99 (dk_at dksX12_command_11 21 rfl rfl)
theorem dX12_command_356 : decode cX12_command 356 = .ok (.areturn, 1) := dk_176 (dk_at dksX12_command_12 0 rfl rfl)
theorem dX12_command_357 : decode cX12_command 357 = .ok (.aload_n 0, 1) := dk_42 (dk_at dksX12_command_12 1 rfl rfl)
theorem dX12_command_358 : decode cX12_command 358 = .ok (.invokevirtual 54, 3) := dk_182 0 54 (dk_at dksX12_command_12 2 rfl rfl)
theorem dX12_command_361 : decode cX12_command 361 = .ok (.istore 5, 2) := dk_54 5 (dk_at dksX12_command_12 5 rfl rfl)
theorem dX12_command_363 : decode cX12_command 363 = .ok (.new 94, 3) := dk_187 0 94 (dk_at dksX12_command_12 7 rfl rfl)
theorem dX12_command_366 : decode cX12_command 366 = .ok (.dup, 1) := dk_89 (dk_at dksX12_command_12 10 rfl rfl)
theorem dX12_command_367 : decode cX12_command 367 = .ok (.aload_n 1, 1) := dk_43 (dk_at dksX12_command_12 11 rfl rfl)
theorem dX12_command_368 : decode cX12_command 368 = .ok (.aload_n 0, 1) := dk_42 (dk_at dksX12_command_12 12 rfl rfl)
theorem dX12_command_369 : decode cX12_command 369 = .ok (.ldc 125, 2) := dk_18 125 (dk_at dksX12_command_12 13 rfl rfl)
theorem dX12_command_371 : decode cX12_command 371 = .ok (.invokevirtual 50, 3) := dk_182 0 50 (dk_at dksX12_command_12 15 rfl rfl)
theorem dX12_command_374 : decode cX12_command 374 = .ok (.iload 5, 2) := dk_21 5 (dk_at dksX12_command_12 18 rfl rfl)
theorem dX12_command_376 : decode cX12_command 376 = .ok (.iconst 0, 1) := dk_3 (dk_at dksX12_command_12 20 rfl rfl)
theorem dX12_command_377 : decode cX12_command 377 = .ok (.iconst 0, 1) := dk_3 (dk_at dksX12_command_12 21 rfl rfl)
theorem dX12_command_378 : decode cX12_command 378 = .ok (.invokespecial 99, 3) := dk_183 0 99 (dk_at dksX12_command_13 0 rfl rfl)
theorem dX12_command_381 : decode cX12_command 381 = .ok (.areturn, 1) := dk_176 (dk_at dksX12_command_13 3 rfl rfl)
theorem dX12_command_382 : decode cX12_command 382 = .ok (.aload_n 0, 1) := dk_42 (dk_at dksX12_command_13 4 rfl rfl)
theorem dX12_command_383 : decode cX12_command 383 = .ok (.invokevirtual 54, 3) := dk_182 0 54 (dk_at dksX12_command_13 5 rfl rfl)
theorem dX12_command_386 : decode cX12_command 386 = .ok (.istore 5, 2) := dk_54 5 (dk_at dksX12_command_13 8 rfl rfl)
theorem dX12_command_388 : decode cX12_command 388 = .ok (.new 94, 3) := dk_187 0 94 (dk_at dksX12_command_13 10 rfl rfl)
theorem dX12_command_391 : decode cX12_command 391 = .ok (.dup, 1) := dk_89 (dk_at dksX12_command_13 13 rfl rfl)
theorem dX12_command_392 : decode cX12_command 392 = .ok (.aload_n 1, 1) := dk_43 (dk_at dksX12_command_13 14 rfl rfl)
theorem dX12_command_393 : decode cX12_command 393 = .ok (.bipush 32, 2) := dk_16 32 (dk_at dksX12_command_13 15 rfl rfl)
theorem dX12_command_395 : decode cX12_command 395 = .ok (.iload 5, 2) := dk_21 5 (dk_at dksX12_command_13 17 rfl rfl)
theorem dX12_command_397 : decode cX12_command 397 = .ok (.aload_n 0, 1) := dk_42 (dk_at dksX12_command_13 19 rfl rfl)
theorem dX12_command_398 : decode cX12_command 398 = .ok (.invokevirtual 54, 3) := dk_182 0 54 (dk_at dksX12_command_13 20 rfl rfl)
theorem dX12_command_401 : decode cX12_command 401 = .ok (.iconst 0, 1) := dk_3 (dk_at dksX12_command_13 23 rfl rfl)
theorem dX12_command_402 : decode cX12_command 402 = .ok (.invokespecial 99, 3) := dk_183 0 99 (dk_at dksX12_command_14 0 rfl rfl)
theorem dX12_command_405 : decode cX12_command 405 = .ok (.areturn, 1) := dk_176 (dk_at dksX12_command_14 3 rfl rfl)
theorem dX12_command_406 : decode cX12_command 406 = .ok (.aload_n 0, 1) := dk_42 (dk_at dksX12_command_14 4 rfl rfl)
theorem dX12_command_407 : decode cX12_command 407 = .ok (.invokevirtual 54, 3) := dk_182 0 54 (dk_at dksX12_command_14 5 rfl rfl)
theorem dX12_command_410 : decode cX12_command 410 = .ok (.istore 5, 2) := dk_54 5 (dk_at dksX12_command_14 8 rfl rfl)
theorem dX12_command_412 : decode cX12_command 412 = .ok (.new 94, 3) := dk_187 0 94 (dk_at dksX12_command_14 10 rfl rfl)
theorem dX12_command_415 : decode cX12_command 415 = .ok (.dup, 1) := dk_89 (dk_at dksX12_command_14 13 rfl rfl)
theorem dX12_command_416 : decode cX12_command 416 = .ok (.aload_n 1, 1) := dk_43 (dk_at dksX12_command_14 14 rfl rfl)
theorem dX12_command_417 : decode cX12_command 417 = .ok (.bipush 32, 2) := dk_16 32 (dk_at dksX12_command_14 15 rfl rfl)
theorem dX12_command_419 : decode cX12_command 419 = .ok (.iload 5, 2) := dk_21 5 (dk_at dksX12_command_14 17 rfl rfl)
theorem dX12_command_421 : decode cX12_command 421 = .ok (.aload_n 0, 1) := dk_42 (dk_at dksX12_command_14 19 rfl rfl)
theorem dX12_command_422 : decode cX12_command 422 = .ok (.ldc 64, 2) := dk_18 64 (dk_at dksX12_command_14 20 rfl rfl)
theorem dX12_command_424 : decode cX12_command 424 = .ok (.invokevirtual 96, 3) := dk_182 0 96 (dk_at dksX12_command_15 0 rfl rfl)
theorem dX12_command_427 : decode cX12_command 427 = .ok (.iconst 0, 1) := dk_3 (dk_at dksX12_command_15 3 rfl rfl)
theorem dX12_command_428 : decode cX12_command 428 = .ok (.invokespecial 99, 3) := dk_183 0 99 (dk_at dksX12_command_15 4 rfl rfl)
theorem dX12_command_431 : decode cX12_command 431 = .ok (.areturn, 1) := dk_176 (dk_at dksX12_command_15 7 rfl rfl)
theorem dX12_command_432 : decode cX12_command 432 = .ok (.aload_n 0, 1) := dk_42 (dk_at dksX12_command_15 8 rfl rfl)
theorem dX12_command_433 : decode cX12_command 433 = .ok (.invokevirtual 54, 3) := dk_182 0 54 (dk_at dksX12_command_15 9 rfl rfl)
theorem dX12_command_436 : decode cX12_command 436 = .ok (.istore 5, 2) := dk_54 5 (dk_at dksX12_command_15 12 rfl rfl)
theorem dX12_command_438 : decode cX12_command 438 = .ok (.aload_n 0, 1) := dk_42 (dk_at dksX12_command_15 14 rfl rfl)
theorem dX12_command_439 : decode cX12_command 439 = .ok (.ldc 64, 2) := dk_18 64 (dk_at dksX12_command_15 15 rfl rfl)
theorem dX12_command_441 : decode cX12_command 441 = .ok (.invokevirtual 96, 3) := dk_182 0 96 (dk_at dksX12_command_15 17 rfl rfl)
theorem dX12_command_444 : decode cX12_command 444 = .ok (.istore 6, 2) := dk_54 6 (dk_at dksX12_command_15 20 rfl rfl)
theorem dX12_command_446 : decode cX12_command 446 = .ok (.new 94, 3) := dk_187 0 94 (dk_at dksX12_command_16 0 rfl rfl)
theorem dX12_command_449 : decode cX12_command 449 = .ok (.dup, 1) := dk_89 (dk_at dksX12_command_16 3 rfl rfl)
theorem dX12_command_450 : decode cX12_command 450 = .ok (.aload_n 1, 1) := dk_43 (dk_at dksX12_command_16 4 rfl rfl)
theorem dX12_command_451 : decode cX12_command 451 = .ok (.bipush 32, 2) := dk_16 32 (dk_at dksX12_command_16 5 rfl rfl)
theorem dX12_command_453 : decode cX12_command 453 = .ok (.iload 5, 2) := dk_21 5 (dk_at dksX12_command_16 7 rfl rfl)
theorem dX12_command_455 : decode cX12_command 455 = .ok (.iload 6, 2) := dk_21 6 (dk_at dksX12_command_16 9 rfl rfl)
theorem dX12_command_457 : decode cX12_command 457 = .ok (.aload_n 0, 1) := dk_42 (dk_at dksX12_command_16 11 rfl rfl)
theorem dX12_command_458 : decode cX12_command 458 = .ok (.ldc 127, 2) := dk_18 127 (dk_at dksX12_command_16 12 rfl rfl)
theorem dX12_command_460 : decode cX12_command 460 = .ok (.invokevirtual 96, 3) := dk_182 0 96 (dk_at dksX12_command_16 14 rfl rfl)
theorem dX12_command_463 : decode cX12_command 463 = .ok (.invokespecial 99, 3) := dk_183 0 99 (dk_at dksX12_command_16 17 rfl rfl)
theorem dX12_command_466 : decode cX12_command 466 = .ok (.areturn, 1) := dk_176 (dk_at dksX12_command_16 20 rfl rfl)
theorem dX12_command_467 : decode cX12_command 467 = .ok (.new 94, 3) := dk_187 0 94 (dk_at dksX12_command_16 21 rfl rfl)
theorem dX12_command_470 : decode cX12_command 470 = .ok (.dup, 1) := dk_89 (dk_at dksX12_command_17 0 rfl rfl)
theorem dX12_command_471 : decode cX12_command 471 = .ok (.aload_n 1, 1) := dk_43 (dk_at dksX12_command_17 1 rfl rfl)
theorem dX12_command_472 : decode cX12_command 472 = .ok (.aload_n 0, 1) := dk_42 (dk_at dksX12_command_17 2 rfl rfl)
theorem dX12_command_473 : decode cX12_command 473 = .ok (.ldc 129, 2) := dk_18 129 (dk_at dksX12_command_17 3 rfl rfl)
theorem dX12_command_475 : decode cX12_command 475 = .ok (.invokevirtual 50, 3) := dk_182 0 50 (dk_at dksX12_command_17 5 rfl rfl)
theorem dX12_command_478 : decode cX12_command 478 = .ok (.iconst 0, 1) := dk_3 (dk_at dksX12_command_17 8 rfl rfl)
theorem dX12_command_479 : decode cX12_command 479 = .ok (.iconst 0, 1) := dk_3 (dk_at dksX12_command_17 9 rfl rfl)
theorem dX12_command_480 : decode cX12_command 480 = .ok (.iconst 0, 1) := dk_3 (dk_at dksX12_command_17 10 rfl rfl)
theorem dX12_command_481 : decode cX12_command 481 = .ok (.invokespecial 99, 3) := dk_183 0 99 (dk_at dksX12_command_17 11 rfl rfl)
theorem dX12_command_484 : decode cX12_command 484 = .ok (.areturn, 1) := dk_176 (dk_at dksX12_command_17 14 rfl rfl)
theorem dX12_command_485 : decode cX12_command 485 = .ok (.new 94, 3) := dk_187 0 94 (dk_at dksX12_command_17 15 rfl rfl)
theorem dX12_command_488 : decode cX12_command 488 = .ok (.dup, 1) := dk_89 (dk_at dksX12_command_17 18 rfl rfl)
theorem dX12_command_489 : decode cX12_command 489 = .ok (.aload_n 1, 1) := dk_43 (dk_at dksX12_command_17 19 rfl rfl)
theorem dX12_command_490 : decode cX12_command 490 = .ok (.bipush 32, 2) := dk_16 32 (dk_at dksX12_command_17 20 rfl rfl)
theorem dX12_command_492 : decode cX12_command 492 = .ok (.aload_n 0, 1) := dk_42 (dk_at dksX12_command_17 22 rfl rfl)
theorem dX12_command_493 : decode cX12_command 493 = .ok (.invokevirtual 57, 3) := dk_182 0 57 (dk_at dksX12_command_18 0 rfl rfl)
theorem dX12_command_496 : decode cX12_command 496 = .ok (.iconst 0, 1) := dk_3 (dk_at dksX12_command_18 3 rfl rfl)
theorem dX12_command_497 : decode cX12_command 497 = .ok (.iconst 0, 1) := dk_3 (dk_at dksX12_command_18 4 rfl rfl)
theorem dX12_command_498 : decode cX12_command 498 = .ok (.invokespecial 99, 3) := dk_183 0 99 (dk_at dksX12_command_18 5 rfl rfl)
theorem dX12_command_501 : decode cX12_command 501 = .ok (.areturn, 1) := dk_176 (dk_at dksX12_command_18 8 rfl rfl)
theorem dX12_command_502 : decode cX12_command 502 = .ok (.new 94, 3) := dk_187 0 94 (dk_at dksX12_command_18 9 rfl rfl)
theorem dX12_command_505 : decode cX12_command 505 = .ok (.dup, 1) := dk_89 (dk_at dksX12_command_18 12 rfl rfl)
theorem dX12_command_506 : decode cX12_command 506 = .ok (.aload_n 1, 1) := dk_43 (dk_at dksX12_command_18 13 rfl rfl)
theorem dX12_command_507 : decode cX12_command 507 = .ok (.bipush 32, 2) := dk_16 32 (dk_at dksX12_command_18 14 rfl rfl)
theorem dX12_command_509 : decode cX12_command 509 = .ok (.aload_n 0, 1) := dk_42 (dk_at dksX12_command_18 16 rfl rfl)
theorem dX12_command_510 : decode cX12_command 510 = .ok (.invokevirtual 54, 3) := dk_182 0 54 (dk_at dksX12_command_18 17 rfl rfl)
theorem dX12_command_513 : decode cX12_command 513 = .ok (.iconst 0, 1) := dk_3 (dk_at dksX12_command_18 20 rfl rfl)
theorem dX12_command_514 : decode cX12_command 514 = .ok (.iconst 0, 1) := dk_3 (dk_at dksX12_command_18 21 rfl rfl)
theorem dX12_command_515 : decode cX12_command 515 = .ok (.invokespecial 99, 3) := dk_183 0 99 (dk_at dksX12_command_19 0 rfl rfl)
theorem dX12_command_518 : decode cX12_command 518 = .ok (.areturn, 1) := dk_176 (dk_at dksX12_command_19 3 rfl rfl)
abbrev cX12_word : ByteArray := prog_8_method_7_code
def yX12_word : MethodName := ⟨RX12, "word", "()Ljava/lang/String;"⟩
def dkwX12_word_5 : List UInt8 := [44, 182, 0, 50, 182, 0, 78, 182, 0, 71, 78, 167, 255, 137, 45, 4, 182, 0, 81, 176]
abbrev dktX12_word_5 : List UInt8 := dkwX12_word_5 ++ []
def dkwX12_word_4 : List UInt8 := [187, 0, 43, 89, 42, 180, 0, 15, 183, 0, 45, 191, 187, 0, 24, 89, 183, 0, 66, 45, 182, 0, 67, 42]
abbrev dktX12_word_4 : List UInt8 := dkwX12_word_4 ++ dktX12_word_5
def dkwX12_word_3 : List UInt8 := [182, 0, 78, 182, 0, 71, 182, 0, 75, 155, 0, 7, 4, 167, 0, 4, 3, 54, 4, 21, 4, 154, 0, 15]
abbrev dktX12_word_3 : List UInt8 := dkwX12_word_3 ++ dktX12_word_4
def dkwX12_word_2 : List UInt8 := [89, 183, 0, 66, 45, 182, 0, 67, 42, 180, 0, 3, 180, 0, 19, 42, 180, 0, 15, 182, 0, 29]
abbrev dktX12_word_2 : List UInt8 := dkwX12_word_2 ++ dktX12_word_3
def dkwX12_word_1 : List UInt8 := [182, 0, 67, 182, 0, 71, 182, 0, 75, 156, 0, 99, 42, 44, 182, 0, 39, 153, 0, 45, 43, 187, 0, 24]
abbrev dktX12_word_1 : List UInt8 := dkwX12_word_1 ++ dktX12_word_2
def dkwX12_word_0 : List UInt8 := [18, 60, 76, 18, 62, 77, 18, 64, 78, 43, 187, 0, 24, 89, 183, 0, 66, 45, 182, 0, 67, 18, 64]
abbrev dktX12_word_0 : List UInt8 := dkwX12_word_0 ++ dktX12_word_1
theorem dksX12_word_0 : cX12_word.data.toList.drop 0 = dktX12_word_0 := by decide +kernel
theorem dksX12_word_1 : cX12_word.data.toList.drop 23 = dktX12_word_1 := dk_seg dksX12_word_0 23 rfl rfl
theorem dksX12_word_2 : cX12_word.data.toList.drop 47 = dktX12_word_2 := dk_seg dksX12_word_1 24 rfl rfl
theorem dksX12_word_3 : cX12_word.data.toList.drop 69 = dktX12_word_3 := dk_seg dksX12_word_2 22 rfl rfl
theorem dksX12_word_4 : cX12_word.data.toList.drop 93 = dktX12_word_4 := dk_seg dksX12_word_3 24 rfl rfl
theorem dksX12_word_5 : cX12_word.data.toList.drop 117 = dktX12_word_5 := dk_seg dksX12_word_4 24 rfl rfl
theorem dX12_word_0 : decode cX12_word 0 = .ok (.ldc 60, 2) := dk_18 60 (dk_at dksX12_word_0 0 rfl rfl)
theorem dX12_word_2 : decode cX12_word 2 = .ok (.astore_n 1, 1) := dk_76 (dk_at dksX12_word_0 2 rfl rfl)
theorem dX12_word_3 : decode cX12_word 3 = .ok (.ldc 62, 2) := dk_18 62 (dk_at dksX12_word_0 3 rfl rfl)
theorem dX12_word_5 : decode cX12_word 5 = .ok (.astore_n 2, 1) := dk_77 (dk_at dksX12_word_0 5 rfl rfl)
theorem dX12_word_6 : decode cX12_word 6 = .ok (.ldc 64, 2) := dk_18 64 (dk_at dksX12_word_0 6 rfl rfl)
theorem dX12_word_8 : decode cX12_word 8 = .ok (.astore_n 3, 1) := dk_78 (dk_at dksX12_word_0 8 rfl rfl)
theorem dX12_word_9 : decode cX12_word 9 = .ok (.aload_n 1, 1) := dk_43 (dk_at dksX12_word_0 9 rfl rfl)
theorem dX12_word_10 : decode cX12_word 10 = .ok (.new 24, 3) := dk_187 0 24 (dk_at dksX12_word_0 10 rfl rfl)
theorem dX12_word_13 : decode cX12_word 13 = .ok (.dup, 1) := dk_89 (dk_at dksX12_word_0 13 rfl rfl)
theorem dX12_word_14 : decode cX12_word 14 = .ok (.invokespecial 66, 3) := dk_183 0 66 (dk_at dksX12_word_0 14 rfl rfl)
theorem dX12_word_17 : decode cX12_word 17 = .ok (.aload_n 3, 1) := dk_45 (dk_at dksX12_word_0 17 rfl rfl)
theorem dX12_word_18 : decode cX12_word 18 = .ok (.invokevirtual 67, 3) := dk_182 0 67 (dk_at dksX12_word_0 18 rfl rfl)
theorem dX12_word_21 : decode cX12_word 21 = .ok (.ldc 64, 2) := dk_18 64 (dk_at dksX12_word_0 21 rfl rfl)
theorem dX12_word_23 : decode cX12_word 23 = .ok (.invokevirtual 67, 3) := dk_182 0 67 (dk_at dksX12_word_1 0 rfl rfl)
theorem dX12_word_26 : decode cX12_word 26 = .ok (.invokevirtual 71, 3) := dk_182 0 71 (dk_at dksX12_word_1 3 rfl rfl)
theorem dX12_word_29 : decode cX12_word 29 = .ok (.invokevirtual 75, 3) := dk_182 0 75 (dk_at dksX12_word_1 6 rfl rfl)
theorem dX12_word_32 : decode cX12_word 32 = .ok (.ifCond .ge 99, 3) := dk_156 0 99 (dk_at dksX12_word_1 9 rfl rfl)
theorem dX12_word_35 : decode cX12_word 35 = .ok (.aload_n 0, 1) := dk_42 (dk_at dksX12_word_1 12 rfl rfl)
theorem dX12_word_36 : decode cX12_word 36 = .ok (.aload_n 2, 1) := dk_44 (dk_at dksX12_word_1 13 rfl rfl)
theorem dX12_word_37 : decode cX12_word 37 = .ok (.invokevirtual 39, 3) := dk_182 0 39 (dk_at dksX12_word_1 14 rfl rfl)
theorem dX12_word_40 : decode cX12_word 40 = .ok (.ifCond .eq 45, 3) := dk_153 0 45 (dk_at dksX12_word_1 17 rfl rfl)
theorem dX12_word_43 : decode cX12_word 43 = .ok (.aload_n 1, 1) := dk_43 (dk_at dksX12_word_1 20 rfl rfl)
theorem dX12_word_44 : decode cX12_word 44 = .ok (.new 24, 3) := dk_187 0 24 (dk_at dksX12_word_1 21 rfl rfl)
theorem dX12_word_47 : decode cX12_word 47 = .ok (.dup, 1) := dk_89 (dk_at dksX12_word_2 0 rfl rfl)
theorem dX12_word_48 : decode cX12_word 48 = .ok (.invokespecial 66, 3) := dk_183 0 66 (dk_at dksX12_word_2 1 rfl rfl)
theorem dX12_word_51 : decode cX12_word 51 = .ok (.aload_n 3, 1) := dk_45 (dk_at dksX12_word_2 4 rfl rfl)
theorem dX12_word_52 : decode cX12_word 52 = .ok (.invokevirtual 67, 3) := dk_182 0 67 (dk_at dksX12_word_2 5 rfl rfl)
theorem dX12_word_55 : decode cX12_word 55 = .ok (.aload_n 0, 1) := dk_42 (dk_at dksX12_word_2 8 rfl rfl)
theorem dX12_word_56 : decode cX12_word 56 = .ok (.getfield 3, 3) := dk_180 0 3 (dk_at dksX12_word_2 9 rfl rfl)
theorem dX12_word_59 : decode cX12_word 59 = .ok (.getfield 19, 3) := dk_180 0 19 (dk_at dksX12_word_2 12 rfl rfl)
theorem dX12_word_62 : decode cX12_word 62 = .ok (.aload_n 0, 1) := dk_42 (dk_at dksX12_word_2 15 rfl rfl)
theorem dX12_word_63 : decode cX12_word 63 = .ok (.getfield 15, 3) := dk_180 0 15 (dk_at dksX12_word_2 16 rfl rfl)
theorem dX12_word_66 : decode cX12_word 66 = .ok (.invokevirtual 29, 3) := dk_182 0 29 (dk_at dksX12_word_2 19 rfl rfl)
theorem dX12_word_69 : decode cX12_word 69 = .ok (.invokevirtual 78, 3) := dk_182 0 78 (dk_at dksX12_word_3 0 rfl rfl)
theorem dX12_word_72 : decode cX12_word 72 = .ok (.invokevirtual 71, 3) := dk_182 0 71 (dk_at dksX12_word_3 3 rfl rfl)
theorem dX12_word_75 : decode cX12_word 75 = .ok (.invokevirtual 75, 3) := dk_182 0 75 (dk_at dksX12_word_3 6 rfl rfl)
theorem dX12_word_78 : decode cX12_word 78 = .ok (.ifCond .lt 7, 3) := dk_155 0 7 (dk_at dksX12_word_3 9 rfl rfl)
theorem dX12_word_81 : decode cX12_word 81 = .ok (.iconst 1, 1) := dk_4 (dk_at dksX12_word_3 12 rfl rfl)
theorem dX12_word_82 : decode cX12_word 82 = .ok (.goto 4, 3) := dk_167 0 4 (dk_at dksX12_word_3 13 rfl rfl)
theorem dX12_word_85 : decode cX12_word 85 = .ok (.iconst 0, 1) := dk_3 (dk_at dksX12_word_3 16 rfl rfl)
theorem dX12_word_86 : decode cX12_word 86 = .ok (.istore 4, 2) := dk_54 4 (dk_at dksX12_word_3 17 rfl rfl)
theorem dX12_word_88 : decode cX12_word 88 = .ok (.iload 4, 2) := dk_21 4 (dk_at dksX12_word_3 19 rfl rfl)
theorem dX12_word_90 : decode cX12_word 90 = .ok (.ifCond .ne 15, 3) := dk_154 0 15 (dk_at dksX12_word_3 21 rfl rfl)
theorem dX12_word_93 : decode cX12_word 93 = .ok (.new 43, 3) := dk_187 0 43 (dk_at dksX12_word_4 0 rfl rfl)
theorem dX12_word_96 : decode cX12_word 96 = .ok (.dup, 1) := dk_89 (dk_at dksX12_word_4 3 rfl rfl)
theorem dX12_word_97 : decode cX12_word 97 = .ok (.aload_n 0, 1) := dk_42 (dk_at dksX12_word_4 4 rfl rfl)
theorem dX12_word_98 : decode cX12_word 98 = .ok (.getfield 15, 3) := dk_180 0 15 (dk_at dksX12_word_4 5 rfl rfl)
theorem dX12_word_101 : decode cX12_word 101 = .ok (.invokespecial 45, 3) := dk_183 0 45 (dk_at dksX12_word_4 8 rfl rfl)
theorem dX12_word_104 : decode cX12_word 104 = .ok (.athrow, 1) := dk_191 (dk_at dksX12_word_4 11 rfl rfl)
theorem dX12_word_105 : decode cX12_word 105 = .ok (.new 24, 3) := dk_187 0 24 (dk_at dksX12_word_4 12 rfl rfl)
theorem dX12_word_108 : decode cX12_word 108 = .ok (.dup, 1) := dk_89 (dk_at dksX12_word_4 15 rfl rfl)
theorem dX12_word_109 : decode cX12_word 109 = .ok (.invokespecial 66, 3) := dk_183 0 66 (dk_at dksX12_word_4 16 rfl rfl)
theorem dX12_word_112 : decode cX12_word 112 = .ok (.aload_n 3, 1) := dk_45 (dk_at dksX12_word_4 19 rfl rfl)
theorem dX12_word_113 : decode cX12_word 113 = .ok (.invokevirtual 67, 3) := dk_182 0 67 (dk_at dksX12_word_4 20 rfl rfl)
theorem dX12_word_116 : decode cX12_word 116 = .ok (.aload_n 0, 1) := dk_42 (dk_at dksX12_word_4 23 rfl rfl)
theorem dX12_word_117 : decode cX12_word 117 = .ok (.aload_n 2, 1) := dk_44 (dk_at dksX12_word_5 0 rfl rfl)
theorem dX12_word_118 : decode cX12_word 118 = .ok (.invokevirtual 50, 3) := dk_182 0 50 (dk_at dksX12_word_5 1 rfl rfl)
theorem dX12_word_121 : decode cX12_word 121 = .ok (.invokevirtual 78, 3) := dk_182 0 78 (dk_at dksX12_word_5 4 rfl rfl)
theorem dX12_word_124 : decode cX12_word 124 = .ok (.invokevirtual 71, 3) := dk_182 0 71 (dk_at dksX12_word_5 7 rfl rfl)
theorem dX12_word_127 : decode cX12_word 127 = .ok (.astore_n 3, 1) := dk_78 (dk_at dksX12_word_5 10 rfl rfl)
theorem dX12_word_128 : decode cX12_word 128 = .ok (.goto (-119), 3) := dk_167 255 137 (dk_at dksX12_word_5 11 rfl rfl)
theorem dX12_word_131 : decode cX12_word 131 = .ok (.aload_n 3, 1) := dk_45 (dk_at dksX12_word_5 14 rfl rfl)
theorem dX12_word_132 : decode cX12_word 132 = .ok (.iconst 1, 1) := dk_4 (dk_at dksX12_word_5 15 rfl rfl)
theorem dX12_word_133 : decode cX12_word 133 = .ok (.invokevirtual 81, 3) := dk_182 0 81 (dk_at dksX12_word_5 16 rfl rfl)
theorem dX12_word_136 : decode cX12_word 136 = .ok (.areturn, 1) := dk_176 (dk_at dksX12_word_5 19 rfl rfl)
abbrev cX12_isAt : ByteArray := prog_8_method_2_code
def yX12_isAt : MethodName := ⟨RX12, "isAt", "(Ljava/lang/String;)Z"⟩
def dkwX12_isAt_1 : List UInt8 := [180, 0, 19, 42, 180, 0, 15, 182, 0, 29, 182, 0, 33, 155, 0, 7, 4, 167, 0, 4, 3, 172]
abbrev dktX12_isAt_1 : List UInt8 := dkwX12_isAt_1 ++ []
def dkwX12_isAt_0 : List UInt8 := [42, 180, 0, 15, 42, 180, 0, 3, 180, 0, 19, 182, 0, 23, 162, 0, 28, 43, 42, 180, 0, 3]
abbrev dktX12_isAt_0 : List UInt8 := dkwX12_isAt_0 ++ dktX12_isAt_1
theorem dksX12_isAt_0 : cX12_isAt.data.toList.drop 0 = dktX12_isAt_0 := by decide +kernel
theorem dksX12_isAt_1 : cX12_isAt.data.toList.drop 22 = dktX12_isAt_1 := dk_seg dksX12_isAt_0 22 rfl rfl
theorem dX12_isAt_0 : decode cX12_isAt 0 = .ok (.aload_n 0, 1) := dk_42 (dk_at dksX12_isAt_0 0 rfl rfl)
theorem dX12_isAt_1 : decode cX12_isAt 1 = .ok (.getfield 15, 3) := dk_180 0 15 (dk_at dksX12_isAt_0 1 rfl rfl)
theorem dX12_isAt_4 : decode cX12_isAt 4 = .ok (.aload_n 0, 1) := dk_42 (dk_at dksX12_isAt_0 4 rfl rfl)
theorem dX12_isAt_5 : decode cX12_isAt 5 = .ok (.getfield 3, 3) := dk_180 0 3 (dk_at dksX12_isAt_0 5 rfl rfl)
theorem dX12_isAt_8 : decode cX12_isAt 8 = .ok (.getfield 19, 3) := dk_180 0 19 (dk_at dksX12_isAt_0 8 rfl rfl)
theorem dX12_isAt_11 : decode cX12_isAt 11 = .ok (.invokevirtual 23, 3) := dk_182 0 23 (dk_at dksX12_isAt_0 11 rfl rfl)
theorem dX12_isAt_14 : decode cX12_isAt 14 = .ok (.if_icmp .ge 28, 3) := dk_162 0 28 (dk_at dksX12_isAt_0 14 rfl rfl)
theorem dX12_isAt_17 : decode cX12_isAt 17 = .ok (.aload_n 1, 1) := dk_43 (dk_at dksX12_isAt_0 17 rfl rfl)
theorem dX12_isAt_18 : decode cX12_isAt 18 = .ok (.aload_n 0, 1) := dk_42 (dk_at dksX12_isAt_0 18 rfl rfl)
theorem dX12_isAt_19 : decode cX12_isAt 19 = .ok (.getfield 3, 3) := dk_180 0 3 (dk_at dksX12_isAt_0 19 rfl rfl)
theorem dX12_isAt_22 : decode cX12_isAt 22 = .ok (.getfield 19, 3) := dk_180 0 19 (dk_at dksX12_isAt_1 0 rfl rfl)
theorem dX12_isAt_25 : decode cX12_isAt 25 = .ok (.aload_n 0, 1) := dk_42 (dk_at dksX12_isAt_1 3 rfl rfl)
theorem dX12_isAt_26 : decode cX12_isAt 26 = .ok (.getfield 15, 3) := dk_180 0 15 (dk_at dksX12_isAt_1 4 rfl rfl)
theorem dX12_isAt_29 : decode cX12_isAt 29 = .ok (.invokevirtual 29, 3) := dk_182 0 29 (dk_at dksX12_isAt_1 7 rfl rfl)
theorem dX12_isAt_32 : decode cX12_isAt 32 = .ok (.invokevirtual 33, 3) := dk_182 0 33 (dk_at dksX12_isAt_1 10 rfl rfl)
theorem dX12_isAt_35 : decode cX12_isAt 35 = .ok (.ifCond .lt 7, 3) := dk_155 0 7 (dk_at dksX12_isAt_1 13 rfl rfl)
theorem dX12_isAt_38 : decode cX12_isAt 38 = .ok (.iconst 1, 1) := dk_4 (dk_at dksX12_isAt_1 16 rfl rfl)
theorem dX12_isAt_39 : decode cX12_isAt 39 = .ok (.goto 4, 3) := dk_167 0 4 (dk_at dksX12_isAt_1 17 rfl rfl)
theorem dX12_isAt_42 : decode cX12_isAt 42 = .ok (.iconst 0, 1) := dk_3 (dk_at dksX12_isAt_1 20 rfl rfl)
theorem dX12_isAt_43 : decode cX12_isAt 43 = .ok (.ireturn, 1) := dk_172 (dk_at dksX12_isAt_1 21 rfl rfl)
abbrev cX12_take : ByteArray := prog_8_method_3_code
def yX12_take : MethodName := ⟨RX12, "take", "(Ljava/lang/String;)C"⟩
def dkwX12_take_2 : List UInt8 := [172]
abbrev dktX12_take_2 : List UInt8 := dkwX12_take_2 ++ []
def dkwX12_take_1 : List UInt8 := [180, 0, 15, 4, 96, 181, 0, 15, 42, 180, 0, 3, 180, 0, 19, 42, 180, 0, 15, 4, 100, 182, 0, 29]
abbrev dktX12_take_1 : List UInt8 := dkwX12_take_1 ++ dktX12_take_2
def dkwX12_take_0 : List UInt8 := [42, 43, 182, 0, 39, 154, 0, 15, 187, 0, 43, 89, 42, 180, 0, 15, 183, 0, 45, 191, 42, 89]
abbrev dktX12_take_0 : List UInt8 := dkwX12_take_0 ++ dktX12_take_1
theorem dksX12_take_0 : cX12_take.data.toList.drop 0 = dktX12_take_0 := by decide +kernel
theorem dksX12_take_1 : cX12_take.data.toList.drop 22 = dktX12_take_1 := dk_seg dksX12_take_0 22 rfl rfl
theorem dksX12_take_2 : cX12_take.data.toList.drop 46 = dktX12_take_2 := dk_seg dksX12_take_1 24 rfl rfl
theorem dX12_take_0 : decode cX12_take 0 = .ok (.aload_n 0, 1) := dk_42 (dk_at dksX12_take_0 0 rfl rfl)
theorem dX12_take_1 : decode cX12_take 1 = .ok (.aload_n 1, 1) := dk_43 (dk_at dksX12_take_0 1 rfl rfl)
theorem dX12_take_2 : decode cX12_take 2 = .ok (.invokevirtual 39, 3) := dk_182 0 39 (dk_at dksX12_take_0 2 rfl rfl)
theorem dX12_take_5 : decode cX12_take 5 = .ok (.ifCond .ne 15, 3) := dk_154 0 15 (dk_at dksX12_take_0 5 rfl rfl)
theorem dX12_take_8 : decode cX12_take 8 = .ok (.new 43, 3) := dk_187 0 43 (dk_at dksX12_take_0 8 rfl rfl)
theorem dX12_take_11 : decode cX12_take 11 = .ok (.dup, 1) := dk_89 (dk_at dksX12_take_0 11 rfl rfl)
theorem dX12_take_12 : decode cX12_take 12 = .ok (.aload_n 0, 1) := dk_42 (dk_at dksX12_take_0 12 rfl rfl)
theorem dX12_take_13 : decode cX12_take 13 = .ok (.getfield 15, 3) := dk_180 0 15 (dk_at dksX12_take_0 13 rfl rfl)
theorem dX12_take_16 : decode cX12_take 16 = .ok (.invokespecial 45, 3) := dk_183 0 45 (dk_at dksX12_take_0 16 rfl rfl)
theorem dX12_take_19 : decode cX12_take 19 = .ok (.athrow, 1) := dk_191 (dk_at dksX12_take_0 19 rfl rfl)
theorem dX12_take_20 : decode cX12_take 20 = .ok (.aload_n 0, 1) := dk_42 (dk_at dksX12_take_0 20 rfl rfl)
theorem dX12_take_21 : decode cX12_take 21 = .ok (.dup, 1) := dk_89 (dk_at dksX12_take_0 21 rfl rfl)
theorem dX12_take_22 : decode cX12_take 22 = .ok (.getfield 15, 3) := dk_180 0 15 (dk_at dksX12_take_1 0 rfl rfl)
theorem dX12_take_25 : decode cX12_take 25 = .ok (.iconst 1, 1) := dk_4 (dk_at dksX12_take_1 3 rfl rfl)
theorem dX12_take_26 : decode cX12_take 26 = .ok (.iadd, 1) := dk_96 (dk_at dksX12_take_1 4 rfl rfl)
theorem dX12_take_27 : decode cX12_take 27 = .ok (.putfield 15, 3) := dk_181 0 15 (dk_at dksX12_take_1 5 rfl rfl)
theorem dX12_take_30 : decode cX12_take 30 = .ok (.aload_n 0, 1) := dk_42 (dk_at dksX12_take_1 8 rfl rfl)
theorem dX12_take_31 : decode cX12_take 31 = .ok (.getfield 3, 3) := dk_180 0 3 (dk_at dksX12_take_1 9 rfl rfl)
theorem dX12_take_34 : decode cX12_take 34 = .ok (.getfield 19, 3) := dk_180 0 19 (dk_at dksX12_take_1 12 rfl rfl)
theorem dX12_take_37 : decode cX12_take 37 = .ok (.aload_n 0, 1) := dk_42 (dk_at dksX12_take_1 15 rfl rfl)
theorem dX12_take_38 : decode cX12_take 38 = .ok (.getfield 15, 3) := dk_180 0 15 (dk_at dksX12_take_1 16 rfl rfl)
theorem dX12_take_41 : decode cX12_take 41 = .ok (.iconst 1, 1) := dk_4 (dk_at dksX12_take_1 19 rfl rfl)
theorem dX12_take_42 : decode cX12_take 42 = .ok (.isub, 1) := dk_100 (dk_at dksX12_take_1 20 rfl rfl)
theorem dX12_take_43 : decode cX12_take 43 = .ok (.invokevirtual 29, 3) := dk_182 0 29 (dk_at dksX12_take_1 21 rfl rfl)
theorem dX12_take_46 : decode cX12_take 46 = .ok (.ireturn, 1) := dk_172 (dk_at dksX12_take_2 0 rfl rfl)
abbrev cX12_numberAfter : ByteArray := prog_8_method_6_code
def yX12_numberAfter : MethodName := ⟨RX12, "numberAfter", "(Ljava/lang/String;)I"⟩
def dkwX12_numberAfter_0 : List UInt8 := [42, 43, 182, 0, 50, 61, 42, 182, 0, 57, 172]
abbrev dktX12_numberAfter_0 : List UInt8 := dkwX12_numberAfter_0 ++ []
theorem dksX12_numberAfter_0 : cX12_numberAfter.data.toList.drop 0 = dktX12_numberAfter_0 := by decide +kernel
theorem dX12_numberAfter_0 : decode cX12_numberAfter 0 = .ok (.aload_n 0, 1) := dk_42 (dk_at dksX12_numberAfter_0 0 rfl rfl)
theorem dX12_numberAfter_1 : decode cX12_numberAfter 1 = .ok (.aload_n 1, 1) := dk_43 (dk_at dksX12_numberAfter_0 1 rfl rfl)
theorem dX12_numberAfter_2 : decode cX12_numberAfter 2 = .ok (.invokevirtual 50, 3) := dk_182 0 50 (dk_at dksX12_numberAfter_0 2 rfl rfl)
theorem dX12_numberAfter_5 : decode cX12_numberAfter 5 = .ok (.istore_n 2, 1) := dk_61 (dk_at dksX12_numberAfter_0 5 rfl rfl)
theorem dX12_numberAfter_6 : decode cX12_numberAfter 6 = .ok (.aload_n 0, 1) := dk_42 (dk_at dksX12_numberAfter_0 6 rfl rfl)
theorem dX12_numberAfter_7 : decode cX12_numberAfter 7 = .ok (.invokevirtual 57, 3) := dk_182 0 57 (dk_at dksX12_numberAfter_0 7 rfl rfl)
theorem dX12_numberAfter_10 : decode cX12_numberAfter 10 = .ok (.ireturn, 1) := dk_172 (dk_at dksX12_numberAfter_0 10 rfl rfl)
abbrev cX12_number : ByteArray := prog_8_method_5_code
def yX12_number : MethodName := ⟨RX12, "number", "()I"⟩
def dkwX12_number_1 : List UInt8 := [167, 0, 4, 27, 172]
abbrev dktX12_number_1 : List UInt8 := dkwX12_number_1 ++ []
def dkwX12_number_0 : List UInt8 := [42, 182, 0, 54, 60, 42, 18, 48, 182, 0, 39, 153, 0, 15, 16, 10, 27, 104, 42, 182, 0, 54, 96]
abbrev dktX12_number_0 : List UInt8 := dkwX12_number_0 ++ dktX12_number_1
theorem dksX12_number_0 : cX12_number.data.toList.drop 0 = dktX12_number_0 := by decide +kernel
theorem dksX12_number_1 : cX12_number.data.toList.drop 23 = dktX12_number_1 := dk_seg dksX12_number_0 23 rfl rfl
theorem dX12_number_0 : decode cX12_number 0 = .ok (.aload_n 0, 1) := dk_42 (dk_at dksX12_number_0 0 rfl rfl)
theorem dX12_number_1 : decode cX12_number 1 = .ok (.invokevirtual 54, 3) := dk_182 0 54 (dk_at dksX12_number_0 1 rfl rfl)
theorem dX12_number_4 : decode cX12_number 4 = .ok (.istore_n 1, 1) := dk_60 (dk_at dksX12_number_0 4 rfl rfl)
theorem dX12_number_5 : decode cX12_number 5 = .ok (.aload_n 0, 1) := dk_42 (dk_at dksX12_number_0 5 rfl rfl)
theorem dX12_number_6 : decode cX12_number 6 = .ok (.ldc 48, 2) := dk_18 48 (dk_at dksX12_number_0 6 rfl rfl)
theorem dX12_number_8 : decode cX12_number 8 = .ok (.invokevirtual 39, 3) := dk_182 0 39 (dk_at dksX12_number_0 8 rfl rfl)
theorem dX12_number_11 : decode cX12_number 11 = .ok (.ifCond .eq 15, 3) := dk_153 0 15 (dk_at dksX12_number_0 11 rfl rfl)
theorem dX12_number_14 : decode cX12_number 14 = .ok (.bipush 10, 2) := dk_16 10 (dk_at dksX12_number_0 14 rfl rfl)
theorem dX12_number_16 : decode cX12_number 16 = .ok (.iload_n 1, 1) := dk_27 (dk_at dksX12_number_0 16 rfl rfl)
theorem dX12_number_17 : decode cX12_number 17 = .ok (.imul, 1) := dk_104 (dk_at dksX12_number_0 17 rfl rfl)
theorem dX12_number_18 : decode cX12_number 18 = .ok (.aload_n 0, 1) := dk_42 (dk_at dksX12_number_0 18 rfl rfl)
theorem dX12_number_19 : decode cX12_number 19 = .ok (.invokevirtual 54, 3) := dk_182 0 54 (dk_at dksX12_number_0 19 rfl rfl)
theorem dX12_number_22 : decode cX12_number 22 = .ok (.iadd, 1) := dk_96 (dk_at dksX12_number_0 22 rfl rfl)
theorem dX12_number_23 : decode cX12_number 23 = .ok (.goto 4, 3) := dk_167 0 4 (dk_at dksX12_number_1 0 rfl rfl)
theorem dX12_number_26 : decode cX12_number 26 = .ok (.iload_n 1, 1) := dk_27 (dk_at dksX12_number_1 3 rfl rfl)
theorem dX12_number_27 : decode cX12_number 27 = .ok (.ireturn, 1) := dk_172 (dk_at dksX12_number_1 4 rfl rfl)
abbrev cX12_digit : ByteArray := prog_8_method_4_code
def yX12_digit : MethodName := ⟨RX12, "digit", "()I"⟩
def dkwX12_digit_0 : List UInt8 := [42, 18, 48, 182, 0, 50, 16, 48, 100, 172]
abbrev dktX12_digit_0 : List UInt8 := dkwX12_digit_0 ++ []
theorem dksX12_digit_0 : cX12_digit.data.toList.drop 0 = dktX12_digit_0 := by decide +kernel
theorem dX12_digit_0 : decode cX12_digit 0 = .ok (.aload_n 0, 1) := dk_42 (dk_at dksX12_digit_0 0 rfl rfl)
theorem dX12_digit_1 : decode cX12_digit 1 = .ok (.ldc 48, 2) := dk_18 48 (dk_at dksX12_digit_0 1 rfl rfl)
theorem dX12_digit_3 : decode cX12_digit 3 = .ok (.invokevirtual 50, 3) := dk_182 0 50 (dk_at dksX12_digit_0 3 rfl rfl)
theorem dX12_digit_6 : decode cX12_digit 6 = .ok (.bipush 48, 2) := dk_16 48 (dk_at dksX12_digit_0 6 rfl rfl)
theorem dX12_digit_8 : decode cX12_digit 8 = .ok (.isub, 1) := dk_100 (dk_at dksX12_digit_0 8 rfl rfl)
theorem dX12_digit_9 : decode cX12_digit 9 = .ok (.ireturn, 1) := dk_172 (dk_at dksX12_digit_0 9 rfl rfl)
abbrev cX13_init : ByteArray := prog_11_method_1_code
def yX13_init : MethodName := ⟨RX13, "<init>", "(I)V"⟩
def dkwX13_init_0 : List UInt8 := [42, 1, 1, 3, 3, 183, 0, 1, 42, 27, 181, 0, 7, 177]
abbrev dktX13_init_0 : List UInt8 := dkwX13_init_0 ++ []
theorem dksX13_init_0 : cX13_init.data.toList.drop 0 = dktX13_init_0 := by decide +kernel
theorem dX13_init_0 : decode cX13_init 0 = .ok (.aload_n 0, 1) := dk_42 (dk_at dksX13_init_0 0 rfl rfl)
theorem dX13_init_1 : decode cX13_init 1 = .ok (.aconst_null, 1) := dk_1 (dk_at dksX13_init_0 1 rfl rfl)
theorem dX13_init_2 : decode cX13_init 2 = .ok (.aconst_null, 1) := dk_1 (dk_at dksX13_init_0 2 rfl rfl)
theorem dX13_init_3 : decode cX13_init 3 = .ok (.iconst 0, 1) := dk_3 (dk_at dksX13_init_0 3 rfl rfl)
theorem dX13_init_4 : decode cX13_init 4 = .ok (.iconst 0, 1) := dk_3 (dk_at dksX13_init_0 4 rfl rfl)
theorem dX13_init_5 : decode cX13_init 5 = .ok (.invokespecial 1, 3) := dk_183 0 1 (dk_at dksX13_init_0 5 rfl rfl)
theorem dX13_init_8 : decode cX13_init 8 = .ok (.aload_n 0, 1) := dk_42 (dk_at dksX13_init_0 8 rfl rfl)
theorem dX13_init_9 : decode cX13_init 9 = .ok (.iload_n 1, 1) := dk_27 (dk_at dksX13_init_0 9 rfl rfl)
theorem dX13_init_10 : decode cX13_init 10 = .ok (.putfield 7, 3) := dk_181 0 7 (dk_at dksX13_init_0 10 rfl rfl)
theorem dX13_init_13 : decode cX13_init 13 = .ok (.return_, 1) := dk_177 (dk_at dksX13_init_0 13 rfl rfl)
