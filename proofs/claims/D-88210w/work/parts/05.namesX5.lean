/-! TurnpikeTrustLaw -/
set_option maxRecDepth 100000
def RX0 : String := "TurnpikeTrustLaw"
abbrev cX0_act : ByteArray := method_3_code
def yX0_act : MethodName := ⟨RX0, "act", "(LTurnpikeTrust;II[J)I"⟩
def dkwX0_act_0 : List UInt8 := [45, 3, 42, 27, 28, 182, 0, 7, 133, 80, 167, 0, 11, 58, 4, 4, 172, 58, 4, 5, 172, 3, 172]
abbrev dktX0_act_0 : List UInt8 := dkwX0_act_0 ++ []
theorem dksX0_act_0 : cX0_act.data.toList.drop 0 = dktX0_act_0 := by decide +kernel
theorem dX0_act_0 : decode cX0_act 0 = .ok (.aload_n 3, 1) := dk_45 (dk_at dksX0_act_0 0 rfl rfl)
theorem dX0_act_1 : decode cX0_act 1 = .ok (.iconst 0, 1) := dk_3 (dk_at dksX0_act_0 1 rfl rfl)
theorem dX0_act_2 : decode cX0_act 2 = .ok (.aload_n 0, 1) := dk_42 (dk_at dksX0_act_0 2 rfl rfl)
theorem dX0_act_3 : decode cX0_act 3 = .ok (.iload_n 1, 1) := dk_27 (dk_at dksX0_act_0 3 rfl rfl)
theorem dX0_act_4 : decode cX0_act 4 = .ok (.iload_n 2, 1) := dk_28 (dk_at dksX0_act_0 4 rfl rfl)
theorem dX0_act_5 : decode cX0_act 5 = .ok (.invokevirtual 7, 3) := dk_182 0 7 (dk_at dksX0_act_0 5 rfl rfl)
theorem dX0_act_8 : decode cX0_act 8 = .ok (.i2l, 1) := dk_133 (dk_at dksX0_act_0 8 rfl rfl)
theorem dX0_act_9 : decode cX0_act 9 = .ok (.lastore, 1) := dk_80 (dk_at dksX0_act_0 9 rfl rfl)
theorem dX0_act_10 : decode cX0_act 10 = .ok (.goto 11, 3) := dk_167 0 11 (dk_at dksX0_act_0 10 rfl rfl)
theorem dX0_act_13 : decode cX0_act 13 = .ok (.astore 4, 2) := dk_58 4 (dk_at dksX0_act_0 13 rfl rfl)
theorem dX0_act_15 : decode cX0_act 15 = .ok (.iconst 1, 1) := dk_4 (dk_at dksX0_act_0 15 rfl rfl)
theorem dX0_act_16 : decode cX0_act 16 = .ok (.ireturn, 1) := dk_172 (dk_at dksX0_act_0 16 rfl rfl)
theorem dX0_act_17 : decode cX0_act 17 = .ok (.astore 4, 2) := dk_58 4 (dk_at dksX0_act_0 17 rfl rfl)
theorem dX0_act_19 : decode cX0_act 19 = .ok (.iconst 2, 1) := dk_5 (dk_at dksX0_act_0 19 rfl rfl)
theorem dX0_act_20 : decode cX0_act 20 = .ok (.ireturn, 1) := dk_172 (dk_at dksX0_act_0 20 rfl rfl)
theorem dX0_act_21 : decode cX0_act 21 = .ok (.iconst 0, 1) := dk_3 (dk_at dksX0_act_0 21 rfl rfl)
theorem dX0_act_22 : decode cX0_act 22 = .ok (.ireturn, 1) := dk_172 (dk_at dksX0_act_0 22 rfl rfl)
abbrev cX0_stretch : ByteArray := method_4_code
def yX0_stretch : MethodName := ⟨RX0, "stretch", "(LTurnpikeTrust;I[J)I"⟩
def dkwX0_stretch_0 : List UInt8 := [44, 3, 42, 27, 182, 0, 17, 133, 80, 167, 0, 9, 78, 4, 172, 78, 5, 172, 3, 172]
abbrev dktX0_stretch_0 : List UInt8 := dkwX0_stretch_0 ++ []
theorem dksX0_stretch_0 : cX0_stretch.data.toList.drop 0 = dktX0_stretch_0 := by decide +kernel
theorem dX0_stretch_0 : decode cX0_stretch 0 = .ok (.aload_n 2, 1) := dk_44 (dk_at dksX0_stretch_0 0 rfl rfl)
theorem dX0_stretch_1 : decode cX0_stretch 1 = .ok (.iconst 0, 1) := dk_3 (dk_at dksX0_stretch_0 1 rfl rfl)
theorem dX0_stretch_2 : decode cX0_stretch 2 = .ok (.aload_n 0, 1) := dk_42 (dk_at dksX0_stretch_0 2 rfl rfl)
theorem dX0_stretch_3 : decode cX0_stretch 3 = .ok (.iload_n 1, 1) := dk_27 (dk_at dksX0_stretch_0 3 rfl rfl)
theorem dX0_stretch_4 : decode cX0_stretch 4 = .ok (.invokevirtual 17, 3) := dk_182 0 17 (dk_at dksX0_stretch_0 4 rfl rfl)
theorem dX0_stretch_7 : decode cX0_stretch 7 = .ok (.i2l, 1) := dk_133 (dk_at dksX0_stretch_0 7 rfl rfl)
theorem dX0_stretch_8 : decode cX0_stretch 8 = .ok (.lastore, 1) := dk_80 (dk_at dksX0_stretch_0 8 rfl rfl)
theorem dX0_stretch_9 : decode cX0_stretch 9 = .ok (.goto 9, 3) := dk_167 0 9 (dk_at dksX0_stretch_0 9 rfl rfl)
theorem dX0_stretch_12 : decode cX0_stretch 12 = .ok (.astore_n 3, 1) := dk_78 (dk_at dksX0_stretch_0 12 rfl rfl)
theorem dX0_stretch_13 : decode cX0_stretch 13 = .ok (.iconst 1, 1) := dk_4 (dk_at dksX0_stretch_0 13 rfl rfl)
theorem dX0_stretch_14 : decode cX0_stretch 14 = .ok (.ireturn, 1) := dk_172 (dk_at dksX0_stretch_0 14 rfl rfl)
theorem dX0_stretch_15 : decode cX0_stretch 15 = .ok (.astore_n 3, 1) := dk_78 (dk_at dksX0_stretch_0 15 rfl rfl)
theorem dX0_stretch_16 : decode cX0_stretch 16 = .ok (.iconst 2, 1) := dk_5 (dk_at dksX0_stretch_0 16 rfl rfl)
theorem dX0_stretch_17 : decode cX0_stretch 17 = .ok (.ireturn, 1) := dk_172 (dk_at dksX0_stretch_0 17 rfl rfl)
theorem dX0_stretch_18 : decode cX0_stretch 18 = .ok (.iconst 0, 1) := dk_3 (dk_at dksX0_stretch_0 18 rfl rfl)
theorem dX0_stretch_19 : decode cX0_stretch 19 = .ok (.ireturn, 1) := dk_172 (dk_at dksX0_stretch_0 19 rfl rfl)
abbrev cX0_gate : ByteArray := method_5_code
def yX0_gate : MethodName := ⟨RX0, "gate", "(LTurnpikeTrust;I[J)I"⟩
def dkwX0_gate_0 : List UInt8 := [44, 3, 42, 27, 182, 0, 21, 133, 80, 167, 0, 9, 78, 4, 172, 78, 5, 172, 3, 172]
abbrev dktX0_gate_0 : List UInt8 := dkwX0_gate_0 ++ []
theorem dksX0_gate_0 : cX0_gate.data.toList.drop 0 = dktX0_gate_0 := by decide +kernel
theorem dX0_gate_0 : decode cX0_gate 0 = .ok (.aload_n 2, 1) := dk_44 (dk_at dksX0_gate_0 0 rfl rfl)
theorem dX0_gate_1 : decode cX0_gate 1 = .ok (.iconst 0, 1) := dk_3 (dk_at dksX0_gate_0 1 rfl rfl)
theorem dX0_gate_2 : decode cX0_gate 2 = .ok (.aload_n 0, 1) := dk_42 (dk_at dksX0_gate_0 2 rfl rfl)
theorem dX0_gate_3 : decode cX0_gate 3 = .ok (.iload_n 1, 1) := dk_27 (dk_at dksX0_gate_0 3 rfl rfl)
theorem dX0_gate_4 : decode cX0_gate 4 = .ok (.invokevirtual 21, 3) := dk_182 0 21 (dk_at dksX0_gate_0 4 rfl rfl)
theorem dX0_gate_7 : decode cX0_gate 7 = .ok (.i2l, 1) := dk_133 (dk_at dksX0_gate_0 7 rfl rfl)
theorem dX0_gate_8 : decode cX0_gate 8 = .ok (.lastore, 1) := dk_80 (dk_at dksX0_gate_0 8 rfl rfl)
theorem dX0_gate_9 : decode cX0_gate 9 = .ok (.goto 9, 3) := dk_167 0 9 (dk_at dksX0_gate_0 9 rfl rfl)
theorem dX0_gate_12 : decode cX0_gate 12 = .ok (.astore_n 3, 1) := dk_78 (dk_at dksX0_gate_0 12 rfl rfl)
theorem dX0_gate_13 : decode cX0_gate 13 = .ok (.iconst 1, 1) := dk_4 (dk_at dksX0_gate_0 13 rfl rfl)
theorem dX0_gate_14 : decode cX0_gate 14 = .ok (.ireturn, 1) := dk_172 (dk_at dksX0_gate_0 14 rfl rfl)
theorem dX0_gate_15 : decode cX0_gate 15 = .ok (.astore_n 3, 1) := dk_78 (dk_at dksX0_gate_0 15 rfl rfl)
theorem dX0_gate_16 : decode cX0_gate 16 = .ok (.iconst 2, 1) := dk_5 (dk_at dksX0_gate_0 16 rfl rfl)
theorem dX0_gate_17 : decode cX0_gate 17 = .ok (.ireturn, 1) := dk_172 (dk_at dksX0_gate_0 17 rfl rfl)
theorem dX0_gate_18 : decode cX0_gate 18 = .ok (.iconst 0, 1) := dk_3 (dk_at dksX0_gate_0 18 rfl rfl)
theorem dX0_gate_19 : decode cX0_gate 19 = .ok (.ireturn, 1) := dk_172 (dk_at dksX0_gate_0 19 rfl rfl)
abbrev cX0_traveller : ByteArray := method_6_code
def yX0_traveller : MethodName := ⟨RX0, "traveller", "(LTurnpikeTrust;IIII[J)I"⟩
def dkwX0_traveller_1 : List UInt8 := [172, 3, 172]
abbrev dktX0_traveller_1 : List UInt8 := dkwX0_traveller_1 ++ []
def dkwX0_traveller_0 : List UInt8 := [25, 5, 3, 42, 27, 28, 29, 21, 4, 182, 0, 26, 133, 80, 167, 0, 11, 58, 6, 4, 172, 58, 6, 5]
abbrev dktX0_traveller_0 : List UInt8 := dkwX0_traveller_0 ++ dktX0_traveller_1
theorem dksX0_traveller_0 : cX0_traveller.data.toList.drop 0 = dktX0_traveller_0 := by decide +kernel
theorem dksX0_traveller_1 : cX0_traveller.data.toList.drop 24 = dktX0_traveller_1 := dk_seg dksX0_traveller_0 24 rfl rfl
theorem dX0_traveller_0 : decode cX0_traveller 0 = .ok (.aload 5, 2) := dk_25 5 (dk_at dksX0_traveller_0 0 rfl rfl)
theorem dX0_traveller_2 : decode cX0_traveller 2 = .ok (.iconst 0, 1) := dk_3 (dk_at dksX0_traveller_0 2 rfl rfl)
theorem dX0_traveller_3 : decode cX0_traveller 3 = .ok (.aload_n 0, 1) := dk_42 (dk_at dksX0_traveller_0 3 rfl rfl)
theorem dX0_traveller_4 : decode cX0_traveller 4 = .ok (.iload_n 1, 1) := dk_27 (dk_at dksX0_traveller_0 4 rfl rfl)
theorem dX0_traveller_5 : decode cX0_traveller 5 = .ok (.iload_n 2, 1) := dk_28 (dk_at dksX0_traveller_0 5 rfl rfl)
theorem dX0_traveller_6 : decode cX0_traveller 6 = .ok (.iload_n 3, 1) := dk_29 (dk_at dksX0_traveller_0 6 rfl rfl)
theorem dX0_traveller_7 : decode cX0_traveller 7 = .ok (.iload 4, 2) := dk_21 4 (dk_at dksX0_traveller_0 7 rfl rfl)
theorem dX0_traveller_9 : decode cX0_traveller 9 = .ok (.invokevirtual 26, 3) := dk_182 0 26 (dk_at dksX0_traveller_0 9 rfl rfl)
theorem dX0_traveller_12 : decode cX0_traveller 12 = .ok (.i2l, 1) := dk_133 (dk_at dksX0_traveller_0 12 rfl rfl)
theorem dX0_traveller_13 : decode cX0_traveller 13 = .ok (.lastore, 1) := dk_80 (dk_at dksX0_traveller_0 13 rfl rfl)
theorem dX0_traveller_14 : decode cX0_traveller 14 = .ok (.goto 11, 3) := dk_167 0 11 (dk_at dksX0_traveller_0 14 rfl rfl)
theorem dX0_traveller_17 : decode cX0_traveller 17 = .ok (.astore 6, 2) := dk_58 6 (dk_at dksX0_traveller_0 17 rfl rfl)
theorem dX0_traveller_19 : decode cX0_traveller 19 = .ok (.iconst 1, 1) := dk_4 (dk_at dksX0_traveller_0 19 rfl rfl)
theorem dX0_traveller_20 : decode cX0_traveller 20 = .ok (.ireturn, 1) := dk_172 (dk_at dksX0_traveller_0 20 rfl rfl)
theorem dX0_traveller_21 : decode cX0_traveller 21 = .ok (.astore 6, 2) := dk_58 6 (dk_at dksX0_traveller_0 21 rfl rfl)
theorem dX0_traveller_23 : decode cX0_traveller 23 = .ok (.iconst 2, 1) := dk_5 (dk_at dksX0_traveller_0 23 rfl rfl)
theorem dX0_traveller_24 : decode cX0_traveller 24 = .ok (.ireturn, 1) := dk_172 (dk_at dksX0_traveller_1 0 rfl rfl)
theorem dX0_traveller_25 : decode cX0_traveller 25 = .ok (.iconst 0, 1) := dk_3 (dk_at dksX0_traveller_1 1 rfl rfl)
theorem dX0_traveller_26 : decode cX0_traveller 26 = .ok (.ireturn, 1) := dk_172 (dk_at dksX0_traveller_1 2 rfl rfl)
abbrev cX0_pass : ByteArray := method_7_code
def yX0_pass : MethodName := ⟨RX0, "pass", "(LTurnpikeTrust;II[J)I"⟩
def dkwX0_pass_0 : List UInt8 := [45, 3, 42, 27, 28, 182, 0, 30, 133, 80, 167, 0, 7, 58, 4, 4, 172, 3, 172]
abbrev dktX0_pass_0 : List UInt8 := dkwX0_pass_0 ++ []
theorem dksX0_pass_0 : cX0_pass.data.toList.drop 0 = dktX0_pass_0 := by decide +kernel
theorem dX0_pass_0 : decode cX0_pass 0 = .ok (.aload_n 3, 1) := dk_45 (dk_at dksX0_pass_0 0 rfl rfl)
theorem dX0_pass_1 : decode cX0_pass 1 = .ok (.iconst 0, 1) := dk_3 (dk_at dksX0_pass_0 1 rfl rfl)
theorem dX0_pass_2 : decode cX0_pass 2 = .ok (.aload_n 0, 1) := dk_42 (dk_at dksX0_pass_0 2 rfl rfl)
theorem dX0_pass_3 : decode cX0_pass 3 = .ok (.iload_n 1, 1) := dk_27 (dk_at dksX0_pass_0 3 rfl rfl)
theorem dX0_pass_4 : decode cX0_pass 4 = .ok (.iload_n 2, 1) := dk_28 (dk_at dksX0_pass_0 4 rfl rfl)
theorem dX0_pass_5 : decode cX0_pass 5 = .ok (.invokevirtual 30, 3) := dk_182 0 30 (dk_at dksX0_pass_0 5 rfl rfl)
theorem dX0_pass_8 : decode cX0_pass 8 = .ok (.i2l, 1) := dk_133 (dk_at dksX0_pass_0 8 rfl rfl)
theorem dX0_pass_9 : decode cX0_pass 9 = .ok (.lastore, 1) := dk_80 (dk_at dksX0_pass_0 9 rfl rfl)
theorem dX0_pass_10 : decode cX0_pass 10 = .ok (.goto 7, 3) := dk_167 0 7 (dk_at dksX0_pass_0 10 rfl rfl)
theorem dX0_pass_13 : decode cX0_pass 13 = .ok (.astore 4, 2) := dk_58 4 (dk_at dksX0_pass_0 13 rfl rfl)
theorem dX0_pass_15 : decode cX0_pass 15 = .ok (.iconst 1, 1) := dk_4 (dk_at dksX0_pass_0 15 rfl rfl)
theorem dX0_pass_16 : decode cX0_pass 16 = .ok (.ireturn, 1) := dk_172 (dk_at dksX0_pass_0 16 rfl rfl)
theorem dX0_pass_17 : decode cX0_pass 17 = .ok (.iconst 0, 1) := dk_3 (dk_at dksX0_pass_0 17 rfl rfl)
theorem dX0_pass_18 : decode cX0_pass 18 = .ok (.ireturn, 1) := dk_172 (dk_at dksX0_pass_0 18 rfl rfl)
abbrev cX0_asked : ByteArray := method_8_code
def yX0_asked : MethodName := ⟨RX0, "asked", "(LTurnpikeTrust;III[J)I"⟩
def dkwX0_asked_0 : List UInt8 := [25, 4, 3, 42, 27, 28, 29, 182, 0, 33, 133, 80, 167, 0, 7, 58, 5, 4, 172, 3, 172]
abbrev dktX0_asked_0 : List UInt8 := dkwX0_asked_0 ++ []
theorem dksX0_asked_0 : cX0_asked.data.toList.drop 0 = dktX0_asked_0 := by decide +kernel
theorem dX0_asked_0 : decode cX0_asked 0 = .ok (.aload 4, 2) := dk_25 4 (dk_at dksX0_asked_0 0 rfl rfl)
theorem dX0_asked_2 : decode cX0_asked 2 = .ok (.iconst 0, 1) := dk_3 (dk_at dksX0_asked_0 2 rfl rfl)
theorem dX0_asked_3 : decode cX0_asked 3 = .ok (.aload_n 0, 1) := dk_42 (dk_at dksX0_asked_0 3 rfl rfl)
theorem dX0_asked_4 : decode cX0_asked 4 = .ok (.iload_n 1, 1) := dk_27 (dk_at dksX0_asked_0 4 rfl rfl)
theorem dX0_asked_5 : decode cX0_asked 5 = .ok (.iload_n 2, 1) := dk_28 (dk_at dksX0_asked_0 5 rfl rfl)
theorem dX0_asked_6 : decode cX0_asked 6 = .ok (.iload_n 3, 1) := dk_29 (dk_at dksX0_asked_0 6 rfl rfl)
theorem dX0_asked_7 : decode cX0_asked 7 = .ok (.invokevirtual 33, 3) := dk_182 0 33 (dk_at dksX0_asked_0 7 rfl rfl)
theorem dX0_asked_10 : decode cX0_asked 10 = .ok (.i2l, 1) := dk_133 (dk_at dksX0_asked_0 10 rfl rfl)
theorem dX0_asked_11 : decode cX0_asked 11 = .ok (.lastore, 1) := dk_80 (dk_at dksX0_asked_0 11 rfl rfl)
theorem dX0_asked_12 : decode cX0_asked 12 = .ok (.goto 7, 3) := dk_167 0 7 (dk_at dksX0_asked_0 12 rfl rfl)
theorem dX0_asked_15 : decode cX0_asked 15 = .ok (.astore 5, 2) := dk_58 5 (dk_at dksX0_asked_0 15 rfl rfl)
theorem dX0_asked_17 : decode cX0_asked 17 = .ok (.iconst 1, 1) := dk_4 (dk_at dksX0_asked_0 17 rfl rfl)
theorem dX0_asked_18 : decode cX0_asked 18 = .ok (.ireturn, 1) := dk_172 (dk_at dksX0_asked_0 18 rfl rfl)
theorem dX0_asked_19 : decode cX0_asked 19 = .ok (.iconst 0, 1) := dk_3 (dk_at dksX0_asked_0 19 rfl rfl)
theorem dX0_asked_20 : decode cX0_asked 20 = .ok (.ireturn, 1) := dk_172 (dk_at dksX0_asked_0 20 rfl rfl)
abbrev cX0_force : ByteArray := method_9_code
def yX0_force : MethodName := ⟨RX0, "force", "(LTurnpikeTrust;I[J)I"⟩
def dkwX0_force_0 : List UInt8 := [44, 3, 42, 27, 182, 0, 37, 133, 80, 167, 0, 6, 78, 4, 172, 3, 172]
abbrev dktX0_force_0 : List UInt8 := dkwX0_force_0 ++ []
theorem dksX0_force_0 : cX0_force.data.toList.drop 0 = dktX0_force_0 := by decide +kernel
theorem dX0_force_0 : decode cX0_force 0 = .ok (.aload_n 2, 1) := dk_44 (dk_at dksX0_force_0 0 rfl rfl)
theorem dX0_force_1 : decode cX0_force 1 = .ok (.iconst 0, 1) := dk_3 (dk_at dksX0_force_0 1 rfl rfl)
theorem dX0_force_2 : decode cX0_force 2 = .ok (.aload_n 0, 1) := dk_42 (dk_at dksX0_force_0 2 rfl rfl)
theorem dX0_force_3 : decode cX0_force 3 = .ok (.iload_n 1, 1) := dk_27 (dk_at dksX0_force_0 3 rfl rfl)
theorem dX0_force_4 : decode cX0_force 4 = .ok (.invokevirtual 37, 3) := dk_182 0 37 (dk_at dksX0_force_0 4 rfl rfl)
theorem dX0_force_7 : decode cX0_force 7 = .ok (.i2l, 1) := dk_133 (dk_at dksX0_force_0 7 rfl rfl)
theorem dX0_force_8 : decode cX0_force 8 = .ok (.lastore, 1) := dk_80 (dk_at dksX0_force_0 8 rfl rfl)
theorem dX0_force_9 : decode cX0_force 9 = .ok (.goto 6, 3) := dk_167 0 6 (dk_at dksX0_force_0 9 rfl rfl)
theorem dX0_force_12 : decode cX0_force 12 = .ok (.astore_n 3, 1) := dk_78 (dk_at dksX0_force_0 12 rfl rfl)
theorem dX0_force_13 : decode cX0_force 13 = .ok (.iconst 1, 1) := dk_4 (dk_at dksX0_force_0 13 rfl rfl)
theorem dX0_force_14 : decode cX0_force 14 = .ok (.ireturn, 1) := dk_172 (dk_at dksX0_force_0 14 rfl rfl)
theorem dX0_force_15 : decode cX0_force 15 = .ok (.iconst 0, 1) := dk_3 (dk_at dksX0_force_0 15 rfl rfl)
theorem dX0_force_16 : decode cX0_force 16 = .ok (.ireturn, 1) := dk_172 (dk_at dksX0_force_0 16 rfl rfl)
abbrev cX0_wait : ByteArray := method_10_code
def yX0_wait : MethodName := ⟨RX0, "wait", "(LTurnpikeTrust;I[J)I"⟩
def dkwX0_wait_0 : List UInt8 := [44, 3, 42, 27, 182, 0, 40, 133, 80, 167, 0, 6, 78, 4, 172, 3, 172]
abbrev dktX0_wait_0 : List UInt8 := dkwX0_wait_0 ++ []
theorem dksX0_wait_0 : cX0_wait.data.toList.drop 0 = dktX0_wait_0 := by decide +kernel
theorem dX0_wait_0 : decode cX0_wait 0 = .ok (.aload_n 2, 1) := dk_44 (dk_at dksX0_wait_0 0 rfl rfl)
theorem dX0_wait_1 : decode cX0_wait 1 = .ok (.iconst 0, 1) := dk_3 (dk_at dksX0_wait_0 1 rfl rfl)
theorem dX0_wait_2 : decode cX0_wait 2 = .ok (.aload_n 0, 1) := dk_42 (dk_at dksX0_wait_0 2 rfl rfl)
theorem dX0_wait_3 : decode cX0_wait 3 = .ok (.iload_n 1, 1) := dk_27 (dk_at dksX0_wait_0 3 rfl rfl)
theorem dX0_wait_4 : decode cX0_wait 4 = .ok (.invokevirtual 40, 3) := dk_182 0 40 (dk_at dksX0_wait_0 4 rfl rfl)
theorem dX0_wait_7 : decode cX0_wait 7 = .ok (.i2l, 1) := dk_133 (dk_at dksX0_wait_0 7 rfl rfl)
theorem dX0_wait_8 : decode cX0_wait 8 = .ok (.lastore, 1) := dk_80 (dk_at dksX0_wait_0 8 rfl rfl)
theorem dX0_wait_9 : decode cX0_wait 9 = .ok (.goto 6, 3) := dk_167 0 6 (dk_at dksX0_wait_0 9 rfl rfl)
theorem dX0_wait_12 : decode cX0_wait 12 = .ok (.astore_n 3, 1) := dk_78 (dk_at dksX0_wait_0 12 rfl rfl)
theorem dX0_wait_13 : decode cX0_wait 13 = .ok (.iconst 1, 1) := dk_4 (dk_at dksX0_wait_0 13 rfl rfl)
theorem dX0_wait_14 : decode cX0_wait 14 = .ok (.ireturn, 1) := dk_172 (dk_at dksX0_wait_0 14 rfl rfl)
theorem dX0_wait_15 : decode cX0_wait 15 = .ok (.iconst 0, 1) := dk_3 (dk_at dksX0_wait_0 15 rfl rfl)
theorem dX0_wait_16 : decode cX0_wait 16 = .ok (.ireturn, 1) := dk_172 (dk_at dksX0_wait_0 16 rfl rfl)
abbrev cX0_rain : ByteArray := method_11_code
def yX0_rain : MethodName := ⟨RX0, "rain", "(LTurnpikeTrust;I)I"⟩
def dkwX0_rain_0 : List UInt8 := [42, 27, 182, 0, 43, 167, 0, 6, 77, 4, 172, 3, 172]
abbrev dktX0_rain_0 : List UInt8 := dkwX0_rain_0 ++ []
theorem dksX0_rain_0 : cX0_rain.data.toList.drop 0 = dktX0_rain_0 := by decide +kernel
theorem dX0_rain_0 : decode cX0_rain 0 = .ok (.aload_n 0, 1) := dk_42 (dk_at dksX0_rain_0 0 rfl rfl)
theorem dX0_rain_1 : decode cX0_rain 1 = .ok (.iload_n 1, 1) := dk_27 (dk_at dksX0_rain_0 1 rfl rfl)
theorem dX0_rain_2 : decode cX0_rain 2 = .ok (.invokevirtual 43, 3) := dk_182 0 43 (dk_at dksX0_rain_0 2 rfl rfl)
theorem dX0_rain_5 : decode cX0_rain 5 = .ok (.goto 6, 3) := dk_167 0 6 (dk_at dksX0_rain_0 5 rfl rfl)
theorem dX0_rain_8 : decode cX0_rain 8 = .ok (.astore_n 2, 1) := dk_77 (dk_at dksX0_rain_0 8 rfl rfl)
theorem dX0_rain_9 : decode cX0_rain 9 = .ok (.iconst 1, 1) := dk_4 (dk_at dksX0_rain_0 9 rfl rfl)
theorem dX0_rain_10 : decode cX0_rain 10 = .ok (.ireturn, 1) := dk_172 (dk_at dksX0_rain_0 10 rfl rfl)
theorem dX0_rain_11 : decode cX0_rain 11 = .ok (.iconst 0, 1) := dk_3 (dk_at dksX0_rain_0 11 rfl rfl)
theorem dX0_rain_12 : decode cX0_rain 12 = .ok (.ireturn, 1) := dk_172 (dk_at dksX0_rain_0 12 rfl rfl)
abbrev cX0_mend : ByteArray := method_12_code
def yX0_mend : MethodName := ⟨RX0, "mend", "(LTurnpikeTrust;I[J)I"⟩
def dkwX0_mend_0 : List UInt8 := [44, 3, 42, 27, 182, 0, 47, 133, 80, 167, 0, 6, 78, 4, 172, 3, 172]
abbrev dktX0_mend_0 : List UInt8 := dkwX0_mend_0 ++ []
theorem dksX0_mend_0 : cX0_mend.data.toList.drop 0 = dktX0_mend_0 := by decide +kernel
theorem dX0_mend_0 : decode cX0_mend 0 = .ok (.aload_n 2, 1) := dk_44 (dk_at dksX0_mend_0 0 rfl rfl)
theorem dX0_mend_1 : decode cX0_mend 1 = .ok (.iconst 0, 1) := dk_3 (dk_at dksX0_mend_0 1 rfl rfl)
theorem dX0_mend_2 : decode cX0_mend 2 = .ok (.aload_n 0, 1) := dk_42 (dk_at dksX0_mend_0 2 rfl rfl)
theorem dX0_mend_3 : decode cX0_mend 3 = .ok (.iload_n 1, 1) := dk_27 (dk_at dksX0_mend_0 3 rfl rfl)
theorem dX0_mend_4 : decode cX0_mend 4 = .ok (.invokevirtual 47, 3) := dk_182 0 47 (dk_at dksX0_mend_0 4 rfl rfl)
theorem dX0_mend_7 : decode cX0_mend 7 = .ok (.i2l, 1) := dk_133 (dk_at dksX0_mend_0 7 rfl rfl)
theorem dX0_mend_8 : decode cX0_mend 8 = .ok (.lastore, 1) := dk_80 (dk_at dksX0_mend_0 8 rfl rfl)
theorem dX0_mend_9 : decode cX0_mend 9 = .ok (.goto 6, 3) := dk_167 0 6 (dk_at dksX0_mend_0 9 rfl rfl)
theorem dX0_mend_12 : decode cX0_mend 12 = .ok (.astore_n 3, 1) := dk_78 (dk_at dksX0_mend_0 12 rfl rfl)
theorem dX0_mend_13 : decode cX0_mend 13 = .ok (.iconst 1, 1) := dk_4 (dk_at dksX0_mend_0 13 rfl rfl)
theorem dX0_mend_14 : decode cX0_mend 14 = .ok (.ireturn, 1) := dk_172 (dk_at dksX0_mend_0 14 rfl rfl)
theorem dX0_mend_15 : decode cX0_mend 15 = .ok (.iconst 0, 1) := dk_3 (dk_at dksX0_mend_0 15 rfl rfl)
theorem dX0_mend_16 : decode cX0_mend 16 = .ok (.ireturn, 1) := dk_172 (dk_at dksX0_mend_0 16 rfl rfl)
abbrev cX0_farmer : ByteArray := method_13_code
def yX0_farmer : MethodName := ⟨RX0, "farmer", "(LTurnpikeTrust;I[J)I"⟩
def dkwX0_farmer_0 : List UInt8 := [44, 3, 42, 27, 182, 0, 50, 133, 80, 167, 0, 9, 78, 4, 172, 78, 5, 172, 3, 172]
abbrev dktX0_farmer_0 : List UInt8 := dkwX0_farmer_0 ++ []
theorem dksX0_farmer_0 : cX0_farmer.data.toList.drop 0 = dktX0_farmer_0 := by decide +kernel
theorem dX0_farmer_0 : decode cX0_farmer 0 = .ok (.aload_n 2, 1) := dk_44 (dk_at dksX0_farmer_0 0 rfl rfl)
theorem dX0_farmer_1 : decode cX0_farmer 1 = .ok (.iconst 0, 1) := dk_3 (dk_at dksX0_farmer_0 1 rfl rfl)
theorem dX0_farmer_2 : decode cX0_farmer 2 = .ok (.aload_n 0, 1) := dk_42 (dk_at dksX0_farmer_0 2 rfl rfl)
theorem dX0_farmer_3 : decode cX0_farmer 3 = .ok (.iload_n 1, 1) := dk_27 (dk_at dksX0_farmer_0 3 rfl rfl)
theorem dX0_farmer_4 : decode cX0_farmer 4 = .ok (.invokevirtual 50, 3) := dk_182 0 50 (dk_at dksX0_farmer_0 4 rfl rfl)
theorem dX0_farmer_7 : decode cX0_farmer 7 = .ok (.i2l, 1) := dk_133 (dk_at dksX0_farmer_0 7 rfl rfl)
theorem dX0_farmer_8 : decode cX0_farmer 8 = .ok (.lastore, 1) := dk_80 (dk_at dksX0_farmer_0 8 rfl rfl)
theorem dX0_farmer_9 : decode cX0_farmer 9 = .ok (.goto 9, 3) := dk_167 0 9 (dk_at dksX0_farmer_0 9 rfl rfl)
theorem dX0_farmer_12 : decode cX0_farmer 12 = .ok (.astore_n 3, 1) := dk_78 (dk_at dksX0_farmer_0 12 rfl rfl)
theorem dX0_farmer_13 : decode cX0_farmer 13 = .ok (.iconst 1, 1) := dk_4 (dk_at dksX0_farmer_0 13 rfl rfl)
theorem dX0_farmer_14 : decode cX0_farmer 14 = .ok (.ireturn, 1) := dk_172 (dk_at dksX0_farmer_0 14 rfl rfl)
theorem dX0_farmer_15 : decode cX0_farmer 15 = .ok (.astore_n 3, 1) := dk_78 (dk_at dksX0_farmer_0 15 rfl rfl)
theorem dX0_farmer_16 : decode cX0_farmer 16 = .ok (.iconst 2, 1) := dk_5 (dk_at dksX0_farmer_0 16 rfl rfl)
theorem dX0_farmer_17 : decode cX0_farmer 17 = .ok (.ireturn, 1) := dk_172 (dk_at dksX0_farmer_0 17 rfl rfl)
theorem dX0_farmer_18 : decode cX0_farmer 18 = .ok (.iconst 0, 1) := dk_3 (dk_at dksX0_farmer_0 18 rfl rfl)
theorem dX0_farmer_19 : decode cX0_farmer 19 = .ok (.ireturn, 1) := dk_172 (dk_at dksX0_farmer_0 19 rfl rfl)
abbrev cX0_bid : ByteArray := method_14_code
def yX0_bid : MethodName := ⟨RX0, "bid", "(LTurnpikeTrust;IIII[J)I"⟩
def dkwX0_bid_1 : List UInt8 := [172, 58, 6, 6, 172, 3, 172]
abbrev dktX0_bid_1 : List UInt8 := dkwX0_bid_1 ++ []
def dkwX0_bid_0 : List UInt8 := [25, 5, 3, 42, 27, 28, 29, 21, 4, 182, 0, 53, 133, 80, 167, 0, 15, 58, 6, 4, 172, 58, 6, 5]
abbrev dktX0_bid_0 : List UInt8 := dkwX0_bid_0 ++ dktX0_bid_1
theorem dksX0_bid_0 : cX0_bid.data.toList.drop 0 = dktX0_bid_0 := by decide +kernel
theorem dksX0_bid_1 : cX0_bid.data.toList.drop 24 = dktX0_bid_1 := dk_seg dksX0_bid_0 24 rfl rfl
theorem dX0_bid_0 : decode cX0_bid 0 = .ok (.aload 5, 2) := dk_25 5 (dk_at dksX0_bid_0 0 rfl rfl)
theorem dX0_bid_2 : decode cX0_bid 2 = .ok (.iconst 0, 1) := dk_3 (dk_at dksX0_bid_0 2 rfl rfl)
theorem dX0_bid_3 : decode cX0_bid 3 = .ok (.aload_n 0, 1) := dk_42 (dk_at dksX0_bid_0 3 rfl rfl)
theorem dX0_bid_4 : decode cX0_bid 4 = .ok (.iload_n 1, 1) := dk_27 (dk_at dksX0_bid_0 4 rfl rfl)
theorem dX0_bid_5 : decode cX0_bid 5 = .ok (.iload_n 2, 1) := dk_28 (dk_at dksX0_bid_0 5 rfl rfl)
theorem dX0_bid_6 : decode cX0_bid 6 = .ok (.iload_n 3, 1) := dk_29 (dk_at dksX0_bid_0 6 rfl rfl)
theorem dX0_bid_7 : decode cX0_bid 7 = .ok (.iload 4, 2) := dk_21 4 (dk_at dksX0_bid_0 7 rfl rfl)
theorem dX0_bid_9 : decode cX0_bid 9 = .ok (.invokevirtual 53, 3) := dk_182 0 53 (dk_at dksX0_bid_0 9 rfl rfl)
theorem dX0_bid_12 : decode cX0_bid 12 = .ok (.i2l, 1) := dk_133 (dk_at dksX0_bid_0 12 rfl rfl)
theorem dX0_bid_13 : decode cX0_bid 13 = .ok (.lastore, 1) := dk_80 (dk_at dksX0_bid_0 13 rfl rfl)
theorem dX0_bid_14 : decode cX0_bid 14 = .ok (.goto 15, 3) := dk_167 0 15 (dk_at dksX0_bid_0 14 rfl rfl)
theorem dX0_bid_17 : decode cX0_bid 17 = .ok (.astore 6, 2) := dk_58 6 (dk_at dksX0_bid_0 17 rfl rfl)
theorem dX0_bid_19 : decode cX0_bid 19 = .ok (.iconst 1, 1) := dk_4 (dk_at dksX0_bid_0 19 rfl rfl)
theorem dX0_bid_20 : decode cX0_bid 20 = .ok (.ireturn, 1) := dk_172 (dk_at dksX0_bid_0 20 rfl rfl)
theorem dX0_bid_21 : decode cX0_bid 21 = .ok (.astore 6, 2) := dk_58 6 (dk_at dksX0_bid_0 21 rfl rfl)
theorem dX0_bid_23 : decode cX0_bid 23 = .ok (.iconst 2, 1) := dk_5 (dk_at dksX0_bid_0 23 rfl rfl)
theorem dX0_bid_24 : decode cX0_bid 24 = .ok (.ireturn, 1) := dk_172 (dk_at dksX0_bid_1 0 rfl rfl)
theorem dX0_bid_25 : decode cX0_bid 25 = .ok (.astore 6, 2) := dk_58 6 (dk_at dksX0_bid_1 1 rfl rfl)
theorem dX0_bid_27 : decode cX0_bid 27 = .ok (.iconst 3, 1) := dk_6 (dk_at dksX0_bid_1 3 rfl rfl)
theorem dX0_bid_28 : decode cX0_bid 28 = .ok (.ireturn, 1) := dk_172 (dk_at dksX0_bid_1 4 rfl rfl)
theorem dX0_bid_29 : decode cX0_bid 29 = .ok (.iconst 0, 1) := dk_3 (dk_at dksX0_bid_1 5 rfl rfl)
theorem dX0_bid_30 : decode cX0_bid 30 = .ok (.ireturn, 1) := dk_172 (dk_at dksX0_bid_1 6 rfl rfl)
abbrev cX0_let : ByteArray := method_15_code
def yX0_let : MethodName := ⟨RX0, "let", "(LTurnpikeTrust;II[J)I"⟩
def dkwX0_let_1 : List UInt8 := [172, 3, 172]
abbrev dktX0_let_1 : List UInt8 := dkwX0_let_1 ++ []
def dkwX0_let_0 : List UInt8 := [45, 3, 42, 27, 28, 182, 0, 56, 133, 80, 167, 0, 15, 58, 4, 4, 172, 58, 4, 5, 172, 58, 4, 6]
abbrev dktX0_let_0 : List UInt8 := dkwX0_let_0 ++ dktX0_let_1
theorem dksX0_let_0 : cX0_let.data.toList.drop 0 = dktX0_let_0 := by decide +kernel
theorem dksX0_let_1 : cX0_let.data.toList.drop 24 = dktX0_let_1 := dk_seg dksX0_let_0 24 rfl rfl
theorem dX0_let_0 : decode cX0_let 0 = .ok (.aload_n 3, 1) := dk_45 (dk_at dksX0_let_0 0 rfl rfl)
theorem dX0_let_1 : decode cX0_let 1 = .ok (.iconst 0, 1) := dk_3 (dk_at dksX0_let_0 1 rfl rfl)
theorem dX0_let_2 : decode cX0_let 2 = .ok (.aload_n 0, 1) := dk_42 (dk_at dksX0_let_0 2 rfl rfl)
theorem dX0_let_3 : decode cX0_let 3 = .ok (.iload_n 1, 1) := dk_27 (dk_at dksX0_let_0 3 rfl rfl)
theorem dX0_let_4 : decode cX0_let 4 = .ok (.iload_n 2, 1) := dk_28 (dk_at dksX0_let_0 4 rfl rfl)
theorem dX0_let_5 : decode cX0_let 5 = .ok (.invokevirtual 56, 3) := dk_182 0 56 (dk_at dksX0_let_0 5 rfl rfl)
theorem dX0_let_8 : decode cX0_let 8 = .ok (.i2l, 1) := dk_133 (dk_at dksX0_let_0 8 rfl rfl)
theorem dX0_let_9 : decode cX0_let 9 = .ok (.lastore, 1) := dk_80 (dk_at dksX0_let_0 9 rfl rfl)
theorem dX0_let_10 : decode cX0_let 10 = .ok (.goto 15, 3) := dk_167 0 15 (dk_at dksX0_let_0 10 rfl rfl)
theorem dX0_let_13 : decode cX0_let 13 = .ok (.astore 4, 2) := dk_58 4 (dk_at dksX0_let_0 13 rfl rfl)
theorem dX0_let_15 : decode cX0_let 15 = .ok (.iconst 1, 1) := dk_4 (dk_at dksX0_let_0 15 rfl rfl)
theorem dX0_let_16 : decode cX0_let 16 = .ok (.ireturn, 1) := dk_172 (dk_at dksX0_let_0 16 rfl rfl)
theorem dX0_let_17 : decode cX0_let 17 = .ok (.astore 4, 2) := dk_58 4 (dk_at dksX0_let_0 17 rfl rfl)
theorem dX0_let_19 : decode cX0_let 19 = .ok (.iconst 2, 1) := dk_5 (dk_at dksX0_let_0 19 rfl rfl)
theorem dX0_let_20 : decode cX0_let 20 = .ok (.ireturn, 1) := dk_172 (dk_at dksX0_let_0 20 rfl rfl)
theorem dX0_let_21 : decode cX0_let 21 = .ok (.astore 4, 2) := dk_58 4 (dk_at dksX0_let_0 21 rfl rfl)
theorem dX0_let_23 : decode cX0_let 23 = .ok (.iconst 3, 1) := dk_6 (dk_at dksX0_let_0 23 rfl rfl)
theorem dX0_let_24 : decode cX0_let 24 = .ok (.ireturn, 1) := dk_172 (dk_at dksX0_let_1 0 rfl rfl)
theorem dX0_let_25 : decode cX0_let 25 = .ok (.iconst 0, 1) := dk_3 (dk_at dksX0_let_1 1 rfl rfl)
theorem dX0_let_26 : decode cX0_let 26 = .ok (.ireturn, 1) := dk_172 (dk_at dksX0_let_1 2 rfl rfl)
abbrev cX0_gateTold : ByteArray := method_16_code
def yX0_gateTold : MethodName := ⟨RX0, "gateTold", "(LTurnpikeTrust;II[J)I"⟩
def dkwX0_gateTold_0 : List UInt8 := [45, 3, 42, 27, 28, 182, 0, 59, 133, 80, 167, 0, 11, 58, 4, 4, 172, 58, 4, 5, 172, 3, 172]
abbrev dktX0_gateTold_0 : List UInt8 := dkwX0_gateTold_0 ++ []
theorem dksX0_gateTold_0 : cX0_gateTold.data.toList.drop 0 = dktX0_gateTold_0 := by decide +kernel
theorem dX0_gateTold_0 : decode cX0_gateTold 0 = .ok (.aload_n 3, 1) := dk_45 (dk_at dksX0_gateTold_0 0 rfl rfl)
theorem dX0_gateTold_1 : decode cX0_gateTold 1 = .ok (.iconst 0, 1) := dk_3 (dk_at dksX0_gateTold_0 1 rfl rfl)
theorem dX0_gateTold_2 : decode cX0_gateTold 2 = .ok (.aload_n 0, 1) := dk_42 (dk_at dksX0_gateTold_0 2 rfl rfl)
theorem dX0_gateTold_3 : decode cX0_gateTold 3 = .ok (.iload_n 1, 1) := dk_27 (dk_at dksX0_gateTold_0 3 rfl rfl)
theorem dX0_gateTold_4 : decode cX0_gateTold 4 = .ok (.iload_n 2, 1) := dk_28 (dk_at dksX0_gateTold_0 4 rfl rfl)
theorem dX0_gateTold_5 : decode cX0_gateTold 5 = .ok (.invokevirtual 59, 3) := dk_182 0 59 (dk_at dksX0_gateTold_0 5 rfl rfl)
theorem dX0_gateTold_8 : decode cX0_gateTold 8 = .ok (.i2l, 1) := dk_133 (dk_at dksX0_gateTold_0 8 rfl rfl)
theorem dX0_gateTold_9 : decode cX0_gateTold 9 = .ok (.lastore, 1) := dk_80 (dk_at dksX0_gateTold_0 9 rfl rfl)
theorem dX0_gateTold_10 : decode cX0_gateTold 10 = .ok (.goto 11, 3) := dk_167 0 11 (dk_at dksX0_gateTold_0 10 rfl rfl)
theorem dX0_gateTold_13 : decode cX0_gateTold 13 = .ok (.astore 4, 2) := dk_58 4 (dk_at dksX0_gateTold_0 13 rfl rfl)
theorem dX0_gateTold_15 : decode cX0_gateTold 15 = .ok (.iconst 1, 1) := dk_4 (dk_at dksX0_gateTold_0 15 rfl rfl)
theorem dX0_gateTold_16 : decode cX0_gateTold 16 = .ok (.ireturn, 1) := dk_172 (dk_at dksX0_gateTold_0 16 rfl rfl)
theorem dX0_gateTold_17 : decode cX0_gateTold 17 = .ok (.astore 4, 2) := dk_58 4 (dk_at dksX0_gateTold_0 17 rfl rfl)
theorem dX0_gateTold_19 : decode cX0_gateTold 19 = .ok (.iconst 2, 1) := dk_5 (dk_at dksX0_gateTold_0 19 rfl rfl)
theorem dX0_gateTold_20 : decode cX0_gateTold 20 = .ok (.ireturn, 1) := dk_172 (dk_at dksX0_gateTold_0 20 rfl rfl)
theorem dX0_gateTold_21 : decode cX0_gateTold 21 = .ok (.iconst 0, 1) := dk_3 (dk_at dksX0_gateTold_0 21 rfl rfl)
theorem dX0_gateTold_22 : decode cX0_gateTold 22 = .ok (.ireturn, 1) := dk_172 (dk_at dksX0_gateTold_0 22 rfl rfl)
abbrev cX0_borrow : ByteArray := method_17_code
def yX0_borrow : MethodName := ⟨RX0, "borrow", "(LTurnpikeTrust;III[J)I"⟩
def dkwX0_borrow_1 : List UInt8 := [172]
abbrev dktX0_borrow_1 : List UInt8 := dkwX0_borrow_1 ++ []
def dkwX0_borrow_0 : List UInt8 := [25, 4, 3, 42, 27, 28, 29, 182, 0, 62, 133, 80, 167, 0, 11, 58, 5, 4, 172, 58, 5, 5, 172, 3]
abbrev dktX0_borrow_0 : List UInt8 := dkwX0_borrow_0 ++ dktX0_borrow_1
theorem dksX0_borrow_0 : cX0_borrow.data.toList.drop 0 = dktX0_borrow_0 := by decide +kernel
theorem dksX0_borrow_1 : cX0_borrow.data.toList.drop 24 = dktX0_borrow_1 := dk_seg dksX0_borrow_0 24 rfl rfl
theorem dX0_borrow_0 : decode cX0_borrow 0 = .ok (.aload 4, 2) := dk_25 4 (dk_at dksX0_borrow_0 0 rfl rfl)
theorem dX0_borrow_2 : decode cX0_borrow 2 = .ok (.iconst 0, 1) := dk_3 (dk_at dksX0_borrow_0 2 rfl rfl)
theorem dX0_borrow_3 : decode cX0_borrow 3 = .ok (.aload_n 0, 1) := dk_42 (dk_at dksX0_borrow_0 3 rfl rfl)
theorem dX0_borrow_4 : decode cX0_borrow 4 = .ok (.iload_n 1, 1) := dk_27 (dk_at dksX0_borrow_0 4 rfl rfl)
theorem dX0_borrow_5 : decode cX0_borrow 5 = .ok (.iload_n 2, 1) := dk_28 (dk_at dksX0_borrow_0 5 rfl rfl)
theorem dX0_borrow_6 : decode cX0_borrow 6 = .ok (.iload_n 3, 1) := dk_29 (dk_at dksX0_borrow_0 6 rfl rfl)
theorem dX0_borrow_7 : decode cX0_borrow 7 = .ok (.invokevirtual 62, 3) := dk_182 0 62 (dk_at dksX0_borrow_0 7 rfl rfl)
theorem dX0_borrow_10 : decode cX0_borrow 10 = .ok (.i2l, 1) := dk_133 (dk_at dksX0_borrow_0 10 rfl rfl)
theorem dX0_borrow_11 : decode cX0_borrow 11 = .ok (.lastore, 1) := dk_80 (dk_at dksX0_borrow_0 11 rfl rfl)
theorem dX0_borrow_12 : decode cX0_borrow 12 = .ok (.goto 11, 3) := dk_167 0 11 (dk_at dksX0_borrow_0 12 rfl rfl)
theorem dX0_borrow_15 : decode cX0_borrow 15 = .ok (.astore 5, 2) := dk_58 5 (dk_at dksX0_borrow_0 15 rfl rfl)
theorem dX0_borrow_17 : decode cX0_borrow 17 = .ok (.iconst 1, 1) := dk_4 (dk_at dksX0_borrow_0 17 rfl rfl)
theorem dX0_borrow_18 : decode cX0_borrow 18 = .ok (.ireturn, 1) := dk_172 (dk_at dksX0_borrow_0 18 rfl rfl)
theorem dX0_borrow_19 : decode cX0_borrow 19 = .ok (.astore 5, 2) := dk_58 5 (dk_at dksX0_borrow_0 19 rfl rfl)
theorem dX0_borrow_21 : decode cX0_borrow 21 = .ok (.iconst 2, 1) := dk_5 (dk_at dksX0_borrow_0 21 rfl rfl)
theorem dX0_borrow_22 : decode cX0_borrow 22 = .ok (.ireturn, 1) := dk_172 (dk_at dksX0_borrow_0 22 rfl rfl)
theorem dX0_borrow_23 : decode cX0_borrow 23 = .ok (.iconst 0, 1) := dk_3 (dk_at dksX0_borrow_0 23 rfl rfl)
theorem dX0_borrow_24 : decode cX0_borrow 24 = .ok (.ireturn, 1) := dk_172 (dk_at dksX0_borrow_1 0 rfl rfl)
abbrev cX0_repay : ByteArray := method_18_code
def yX0_repay : MethodName := ⟨RX0, "repay", "(LTurnpikeTrust;II[J)I"⟩
def dkwX0_repay_0 : List UInt8 := [45, 3, 42, 27, 28, 182, 0, 65, 133, 80, 167, 0, 11, 58, 4, 4, 172, 58, 4, 5, 172, 3, 172]
abbrev dktX0_repay_0 : List UInt8 := dkwX0_repay_0 ++ []
theorem dksX0_repay_0 : cX0_repay.data.toList.drop 0 = dktX0_repay_0 := by decide +kernel
theorem dX0_repay_0 : decode cX0_repay 0 = .ok (.aload_n 3, 1) := dk_45 (dk_at dksX0_repay_0 0 rfl rfl)
theorem dX0_repay_1 : decode cX0_repay 1 = .ok (.iconst 0, 1) := dk_3 (dk_at dksX0_repay_0 1 rfl rfl)
theorem dX0_repay_2 : decode cX0_repay 2 = .ok (.aload_n 0, 1) := dk_42 (dk_at dksX0_repay_0 2 rfl rfl)
theorem dX0_repay_3 : decode cX0_repay 3 = .ok (.iload_n 1, 1) := dk_27 (dk_at dksX0_repay_0 3 rfl rfl)
theorem dX0_repay_4 : decode cX0_repay 4 = .ok (.iload_n 2, 1) := dk_28 (dk_at dksX0_repay_0 4 rfl rfl)
theorem dX0_repay_5 : decode cX0_repay 5 = .ok (.invokevirtual 65, 3) := dk_182 0 65 (dk_at dksX0_repay_0 5 rfl rfl)
theorem dX0_repay_8 : decode cX0_repay 8 = .ok (.i2l, 1) := dk_133 (dk_at dksX0_repay_0 8 rfl rfl)
theorem dX0_repay_9 : decode cX0_repay 9 = .ok (.lastore, 1) := dk_80 (dk_at dksX0_repay_0 9 rfl rfl)
theorem dX0_repay_10 : decode cX0_repay 10 = .ok (.goto 11, 3) := dk_167 0 11 (dk_at dksX0_repay_0 10 rfl rfl)
theorem dX0_repay_13 : decode cX0_repay 13 = .ok (.astore 4, 2) := dk_58 4 (dk_at dksX0_repay_0 13 rfl rfl)
theorem dX0_repay_15 : decode cX0_repay 15 = .ok (.iconst 1, 1) := dk_4 (dk_at dksX0_repay_0 15 rfl rfl)
theorem dX0_repay_16 : decode cX0_repay 16 = .ok (.ireturn, 1) := dk_172 (dk_at dksX0_repay_0 16 rfl rfl)
theorem dX0_repay_17 : decode cX0_repay 17 = .ok (.astore 4, 2) := dk_58 4 (dk_at dksX0_repay_0 17 rfl rfl)
theorem dX0_repay_19 : decode cX0_repay 19 = .ok (.iconst 2, 1) := dk_5 (dk_at dksX0_repay_0 19 rfl rfl)
theorem dX0_repay_20 : decode cX0_repay 20 = .ok (.ireturn, 1) := dk_172 (dk_at dksX0_repay_0 20 rfl rfl)
theorem dX0_repay_21 : decode cX0_repay 21 = .ok (.iconst 0, 1) := dk_3 (dk_at dksX0_repay_0 21 rfl rfl)
theorem dX0_repay_22 : decode cX0_repay 22 = .ok (.ireturn, 1) := dk_172 (dk_at dksX0_repay_0 22 rfl rfl)
abbrev cX0_loan : ByteArray := method_19_code
def yX0_loan : MethodName := ⟨RX0, "loan", "(LTurnpikeTrust;II[J)I"⟩
def dkwX0_loan_0 : List UInt8 := [45, 3, 42, 27, 28, 182, 0, 68, 80, 167, 0, 11, 58, 4, 4, 172, 58, 4, 5, 172, 3, 172]
abbrev dktX0_loan_0 : List UInt8 := dkwX0_loan_0 ++ []
theorem dksX0_loan_0 : cX0_loan.data.toList.drop 0 = dktX0_loan_0 := by decide +kernel
theorem dX0_loan_0 : decode cX0_loan 0 = .ok (.aload_n 3, 1) := dk_45 (dk_at dksX0_loan_0 0 rfl rfl)
theorem dX0_loan_1 : decode cX0_loan 1 = .ok (.iconst 0, 1) := dk_3 (dk_at dksX0_loan_0 1 rfl rfl)
theorem dX0_loan_2 : decode cX0_loan 2 = .ok (.aload_n 0, 1) := dk_42 (dk_at dksX0_loan_0 2 rfl rfl)
theorem dX0_loan_3 : decode cX0_loan 3 = .ok (.iload_n 1, 1) := dk_27 (dk_at dksX0_loan_0 3 rfl rfl)
theorem dX0_loan_4 : decode cX0_loan 4 = .ok (.iload_n 2, 1) := dk_28 (dk_at dksX0_loan_0 4 rfl rfl)
theorem dX0_loan_5 : decode cX0_loan 5 = .ok (.invokevirtual 68, 3) := dk_182 0 68 (dk_at dksX0_loan_0 5 rfl rfl)
theorem dX0_loan_8 : decode cX0_loan 8 = .ok (.lastore, 1) := dk_80 (dk_at dksX0_loan_0 8 rfl rfl)
theorem dX0_loan_9 : decode cX0_loan 9 = .ok (.goto 11, 3) := dk_167 0 11 (dk_at dksX0_loan_0 9 rfl rfl)
theorem dX0_loan_12 : decode cX0_loan 12 = .ok (.astore 4, 2) := dk_58 4 (dk_at dksX0_loan_0 12 rfl rfl)
theorem dX0_loan_14 : decode cX0_loan 14 = .ok (.iconst 1, 1) := dk_4 (dk_at dksX0_loan_0 14 rfl rfl)
theorem dX0_loan_15 : decode cX0_loan 15 = .ok (.ireturn, 1) := dk_172 (dk_at dksX0_loan_0 15 rfl rfl)
theorem dX0_loan_16 : decode cX0_loan 16 = .ok (.astore 4, 2) := dk_58 4 (dk_at dksX0_loan_0 16 rfl rfl)
theorem dX0_loan_18 : decode cX0_loan 18 = .ok (.iconst 2, 1) := dk_5 (dk_at dksX0_loan_0 18 rfl rfl)
theorem dX0_loan_19 : decode cX0_loan 19 = .ok (.ireturn, 1) := dk_172 (dk_at dksX0_loan_0 19 rfl rfl)
theorem dX0_loan_20 : decode cX0_loan 20 = .ok (.iconst 0, 1) := dk_3 (dk_at dksX0_loan_0 20 rfl rfl)
theorem dX0_loan_21 : decode cX0_loan 21 = .ok (.ireturn, 1) := dk_172 (dk_at dksX0_loan_0 21 rfl rfl)
abbrev cX0_money : ByteArray := method_20_code
def yX0_money : MethodName := ⟨RX0, "money", "(LTurnpikeTrust;I[J)I"⟩
def dkwX0_money_0 : List UInt8 := [44, 3, 42, 27, 182, 0, 72, 80, 167, 0, 6, 78, 4, 172, 3, 172]
abbrev dktX0_money_0 : List UInt8 := dkwX0_money_0 ++ []
theorem dksX0_money_0 : cX0_money.data.toList.drop 0 = dktX0_money_0 := by decide +kernel
theorem dX0_money_0 : decode cX0_money 0 = .ok (.aload_n 2, 1) := dk_44 (dk_at dksX0_money_0 0 rfl rfl)
theorem dX0_money_1 : decode cX0_money 1 = .ok (.iconst 0, 1) := dk_3 (dk_at dksX0_money_0 1 rfl rfl)
theorem dX0_money_2 : decode cX0_money 2 = .ok (.aload_n 0, 1) := dk_42 (dk_at dksX0_money_0 2 rfl rfl)
theorem dX0_money_3 : decode cX0_money 3 = .ok (.iload_n 1, 1) := dk_27 (dk_at dksX0_money_0 3 rfl rfl)
theorem dX0_money_4 : decode cX0_money 4 = .ok (.invokevirtual 72, 3) := dk_182 0 72 (dk_at dksX0_money_0 4 rfl rfl)
theorem dX0_money_7 : decode cX0_money 7 = .ok (.lastore, 1) := dk_80 (dk_at dksX0_money_0 7 rfl rfl)
theorem dX0_money_8 : decode cX0_money 8 = .ok (.goto 6, 3) := dk_167 0 6 (dk_at dksX0_money_0 8 rfl rfl)
theorem dX0_money_11 : decode cX0_money 11 = .ok (.astore_n 3, 1) := dk_78 (dk_at dksX0_money_0 11 rfl rfl)
theorem dX0_money_12 : decode cX0_money 12 = .ok (.iconst 1, 1) := dk_4 (dk_at dksX0_money_0 12 rfl rfl)
theorem dX0_money_13 : decode cX0_money 13 = .ok (.ireturn, 1) := dk_172 (dk_at dksX0_money_0 13 rfl rfl)
theorem dX0_money_14 : decode cX0_money 14 = .ok (.iconst 0, 1) := dk_3 (dk_at dksX0_money_0 14 rfl rfl)
theorem dX0_money_15 : decode cX0_money 15 = .ok (.ireturn, 1) := dk_172 (dk_at dksX0_money_0 15 rfl rfl)
abbrev cX0_wear : ByteArray := method_21_code
def yX0_wear : MethodName := ⟨RX0, "wear", "(LTurnpikeTrust;I[J)I"⟩
def dkwX0_wear_0 : List UInt8 := [44, 3, 42, 27, 182, 0, 76, 80, 167, 0, 6, 78, 4, 172, 3, 172]
abbrev dktX0_wear_0 : List UInt8 := dkwX0_wear_0 ++ []
theorem dksX0_wear_0 : cX0_wear.data.toList.drop 0 = dktX0_wear_0 := by decide +kernel
theorem dX0_wear_0 : decode cX0_wear 0 = .ok (.aload_n 2, 1) := dk_44 (dk_at dksX0_wear_0 0 rfl rfl)
theorem dX0_wear_1 : decode cX0_wear 1 = .ok (.iconst 0, 1) := dk_3 (dk_at dksX0_wear_0 1 rfl rfl)
theorem dX0_wear_2 : decode cX0_wear 2 = .ok (.aload_n 0, 1) := dk_42 (dk_at dksX0_wear_0 2 rfl rfl)
theorem dX0_wear_3 : decode cX0_wear 3 = .ok (.iload_n 1, 1) := dk_27 (dk_at dksX0_wear_0 3 rfl rfl)
theorem dX0_wear_4 : decode cX0_wear 4 = .ok (.invokevirtual 76, 3) := dk_182 0 76 (dk_at dksX0_wear_0 4 rfl rfl)
theorem dX0_wear_7 : decode cX0_wear 7 = .ok (.lastore, 1) := dk_80 (dk_at dksX0_wear_0 7 rfl rfl)
theorem dX0_wear_8 : decode cX0_wear 8 = .ok (.goto 6, 3) := dk_167 0 6 (dk_at dksX0_wear_0 8 rfl rfl)
theorem dX0_wear_11 : decode cX0_wear 11 = .ok (.astore_n 3, 1) := dk_78 (dk_at dksX0_wear_0 11 rfl rfl)
theorem dX0_wear_12 : decode cX0_wear 12 = .ok (.iconst 1, 1) := dk_4 (dk_at dksX0_wear_0 12 rfl rfl)
theorem dX0_wear_13 : decode cX0_wear 13 = .ok (.ireturn, 1) := dk_172 (dk_at dksX0_wear_0 13 rfl rfl)
theorem dX0_wear_14 : decode cX0_wear 14 = .ok (.iconst 0, 1) := dk_3 (dk_at dksX0_wear_0 14 rfl rfl)
theorem dX0_wear_15 : decode cX0_wear 15 = .ok (.ireturn, 1) := dk_172 (dk_at dksX0_wear_0 15 rfl rfl)
abbrev cX0_box : ByteArray := method_22_code
def yX0_box : MethodName := ⟨RX0, "box", "(LTurnpikeTrust;I[J)I"⟩
def dkwX0_box_0 : List UInt8 := [44, 3, 42, 27, 182, 0, 79, 80, 167, 0, 6, 78, 4, 172, 3, 172]
abbrev dktX0_box_0 : List UInt8 := dkwX0_box_0 ++ []
theorem dksX0_box_0 : cX0_box.data.toList.drop 0 = dktX0_box_0 := by decide +kernel
theorem dX0_box_0 : decode cX0_box 0 = .ok (.aload_n 2, 1) := dk_44 (dk_at dksX0_box_0 0 rfl rfl)
theorem dX0_box_1 : decode cX0_box 1 = .ok (.iconst 0, 1) := dk_3 (dk_at dksX0_box_0 1 rfl rfl)
theorem dX0_box_2 : decode cX0_box 2 = .ok (.aload_n 0, 1) := dk_42 (dk_at dksX0_box_0 2 rfl rfl)
theorem dX0_box_3 : decode cX0_box 3 = .ok (.iload_n 1, 1) := dk_27 (dk_at dksX0_box_0 3 rfl rfl)
theorem dX0_box_4 : decode cX0_box 4 = .ok (.invokevirtual 79, 3) := dk_182 0 79 (dk_at dksX0_box_0 4 rfl rfl)
theorem dX0_box_7 : decode cX0_box 7 = .ok (.lastore, 1) := dk_80 (dk_at dksX0_box_0 7 rfl rfl)
theorem dX0_box_8 : decode cX0_box 8 = .ok (.goto 6, 3) := dk_167 0 6 (dk_at dksX0_box_0 8 rfl rfl)
theorem dX0_box_11 : decode cX0_box 11 = .ok (.astore_n 3, 1) := dk_78 (dk_at dksX0_box_0 11 rfl rfl)
theorem dX0_box_12 : decode cX0_box 12 = .ok (.iconst 1, 1) := dk_4 (dk_at dksX0_box_0 12 rfl rfl)
theorem dX0_box_13 : decode cX0_box 13 = .ok (.ireturn, 1) := dk_172 (dk_at dksX0_box_0 13 rfl rfl)
theorem dX0_box_14 : decode cX0_box 14 = .ok (.iconst 0, 1) := dk_3 (dk_at dksX0_box_0 14 rfl rfl)
theorem dX0_box_15 : decode cX0_box 15 = .ok (.ireturn, 1) := dk_172 (dk_at dksX0_box_0 15 rfl rfl)
abbrev cX0_journal : ByteArray := method_23_code
def yX0_journal : MethodName := ⟨RX0, "journal", "(LTurnpikeTrust;II[J)I"⟩
def dkwX0_journal_0 : List UInt8 := [45, 3, 42, 27, 28, 182, 0, 82, 80, 167, 0, 11, 58, 4, 4, 172, 58, 4, 5, 172, 3, 172]
abbrev dktX0_journal_0 : List UInt8 := dkwX0_journal_0 ++ []
theorem dksX0_journal_0 : cX0_journal.data.toList.drop 0 = dktX0_journal_0 := by decide +kernel
theorem dX0_journal_0 : decode cX0_journal 0 = .ok (.aload_n 3, 1) := dk_45 (dk_at dksX0_journal_0 0 rfl rfl)
theorem dX0_journal_1 : decode cX0_journal 1 = .ok (.iconst 0, 1) := dk_3 (dk_at dksX0_journal_0 1 rfl rfl)
theorem dX0_journal_2 : decode cX0_journal 2 = .ok (.aload_n 0, 1) := dk_42 (dk_at dksX0_journal_0 2 rfl rfl)
theorem dX0_journal_3 : decode cX0_journal 3 = .ok (.iload_n 1, 1) := dk_27 (dk_at dksX0_journal_0 3 rfl rfl)
theorem dX0_journal_4 : decode cX0_journal 4 = .ok (.iload_n 2, 1) := dk_28 (dk_at dksX0_journal_0 4 rfl rfl)
theorem dX0_journal_5 : decode cX0_journal 5 = .ok (.invokevirtual 82, 3) := dk_182 0 82 (dk_at dksX0_journal_0 5 rfl rfl)
theorem dX0_journal_8 : decode cX0_journal 8 = .ok (.lastore, 1) := dk_80 (dk_at dksX0_journal_0 8 rfl rfl)
theorem dX0_journal_9 : decode cX0_journal 9 = .ok (.goto 11, 3) := dk_167 0 11 (dk_at dksX0_journal_0 9 rfl rfl)
theorem dX0_journal_12 : decode cX0_journal 12 = .ok (.astore 4, 2) := dk_58 4 (dk_at dksX0_journal_0 12 rfl rfl)
theorem dX0_journal_14 : decode cX0_journal 14 = .ok (.iconst 1, 1) := dk_4 (dk_at dksX0_journal_0 14 rfl rfl)
theorem dX0_journal_15 : decode cX0_journal 15 = .ok (.ireturn, 1) := dk_172 (dk_at dksX0_journal_0 15 rfl rfl)
theorem dX0_journal_16 : decode cX0_journal 16 = .ok (.astore 4, 2) := dk_58 4 (dk_at dksX0_journal_0 16 rfl rfl)
theorem dX0_journal_18 : decode cX0_journal 18 = .ok (.iconst 2, 1) := dk_5 (dk_at dksX0_journal_0 18 rfl rfl)
theorem dX0_journal_19 : decode cX0_journal 19 = .ok (.ireturn, 1) := dk_172 (dk_at dksX0_journal_0 19 rfl rfl)
theorem dX0_journal_20 : decode cX0_journal 20 = .ok (.iconst 0, 1) := dk_3 (dk_at dksX0_journal_0 20 rfl rfl)
theorem dX0_journal_21 : decode cX0_journal 21 = .ok (.ireturn, 1) := dk_172 (dk_at dksX0_journal_0 21 rfl rfl)
theorem q62 : (Jvm.Cond.initialized "TurnpikeTrustLaw") ∈ lw_all := lw_g (lw_at lw_m1 0 rfl) rfl
theorem q118 : (Jvm.Cond.classLink "TurnpikeTrustLaw" (8 : Nat) "TurnpikeTrust") ∈ lw_all := lw_g (lw_at lw_m1 56 rfl) rfl
theorem q120 : (Jvm.Cond.methodLink "TurnpikeTrustLaw" (85 : Nat) ({ cls := "TurnpikeTrust", name := "<init>", desc := "()V" } : Jvm.MethodName)) ∈ lw_all := lw_g (lw_at lw_m1 58 rfl) rfl
theorem q592 : (Jvm.Cond.methodLink "TurnpikeTrustLaw" (89 : Nat) ({ cls := "TurnpikeTrust", name := "feed", desc := "(IIIII)I" } : Jvm.MethodName)) ∈ lw_all := lw_g (lw_at lw_m3 50 rfl) rfl
theorem q600 : (Jvm.Cond.methodLink "TurnpikeTrustLaw" (104 : Nat) ({ cls := "TurnpikeTrust", name := "fault", desc := "()I" } : Jvm.MethodName)) ∈ lw_all := lw_g (lw_at lw_m3 58 rfl) rfl
theorem q604 : (Jvm.Cond.methodLink "TurnpikeTrustLaw" (122 : Nat) ({ cls := "TurnpikeTrust", name := "clause", desc := "()I" } : Jvm.MethodName)) ∈ lw_all := lw_g (lw_at lw_m3 62 rfl) rfl
theorem q608 : (Jvm.Cond.methodLink "TurnpikeTrustLaw" (176 : Nat) ({ cls := "TurnpikeTrust", name := "count", desc := "(I)I" } : Jvm.MethodName)) ∈ lw_all := lw_g (lw_at lw_m3 66 rfl) rfl
theorem q616 : (Jvm.Cond.methodLink "TurnpikeTrustLaw" (94 : Nat) ({ cls := "TurnpikeTrustLaw", name := "act", desc := "(LTurnpikeTrust;II[J)I" } : Jvm.MethodName)) ∈ lw_all := lw_g (lw_at lw_m3 74 rfl) rfl
theorem q617 : (Jvm.Cond.static ({ cls := "TurnpikeTrustLaw", name := "act", desc := "(LTurnpikeTrust;II[J)I" } : Jvm.MethodName)) ∈ lw_all := lw_g (lw_at lw_m3 75 rfl) rfl
theorem q618 : (Jvm.Cond.codeWith ({ cls := "TurnpikeTrustLaw", name := "act", desc := "(LTurnpikeTrust;II[J)I" } : Jvm.MethodName) method_3_code (5 : Nat) (Option.some Jvm.ClassFile.FieldType.int) [((0 : Nat), (10 : Nat), (13 : Nat), (13 : Nat)), ((0 : Nat), (10 : Nat), (17 : Nat), (15 : Nat))]) ∈ lw_all := lw_g (lw_at lw_m3 76 rfl) rfl
theorem q619 : (Jvm.Cond.classLink "TurnpikeTrustLaw" (13 : Nat) "java/lang/IllegalArgumentException") ∈ lw_all := lw_g (lw_at lw_m3 77 rfl) rfl
theorem q620 : (Jvm.Cond.classLink "TurnpikeTrustLaw" (15 : Nat) "java/lang/IllegalStateException") ∈ lw_all := lw_g (lw_at lw_m3 78 rfl) rfl
theorem q621 : (Jvm.Cond.methodLink "TurnpikeTrustLaw" (7 : Nat) ({ cls := "TurnpikeTrust", name := "act", desc := "(II)I" } : Jvm.MethodName)) ∈ lw_all := lw_g (lw_at lw_m3 79 rfl) rfl
theorem q1195 : (Jvm.Cond.methodLink "TurnpikeTrustLaw" (108 : Nat) ({ cls := "TurnpikeTrustLaw", name := "stretch", desc := "(LTurnpikeTrust;I[J)I" } : Jvm.MethodName)) ∈ lw_all := lw_g (lw_at lw_m5 173 rfl) rfl
theorem q1196 : (Jvm.Cond.static ({ cls := "TurnpikeTrustLaw", name := "stretch", desc := "(LTurnpikeTrust;I[J)I" } : Jvm.MethodName)) ∈ lw_all := lw_g (lw_at lw_m5 174 rfl) rfl
theorem q1197 : (Jvm.Cond.codeWith ({ cls := "TurnpikeTrustLaw", name := "stretch", desc := "(LTurnpikeTrust;I[J)I" } : Jvm.MethodName) method_4_code (4 : Nat) (Option.some Jvm.ClassFile.FieldType.int) [((0 : Nat), (9 : Nat), (12 : Nat), (13 : Nat)), ((0 : Nat), (9 : Nat), (15 : Nat), (15 : Nat))]) ∈ lw_all := lw_g (lw_at lw_m5 175 rfl) rfl
theorem q1198 : (Jvm.Cond.methodLink "TurnpikeTrustLaw" (17 : Nat) ({ cls := "TurnpikeTrust", name := "stretch", desc := "(I)I" } : Jvm.MethodName)) ∈ lw_all := lw_g (lw_at lw_m5 176 rfl) rfl
theorem q1217 : (Jvm.Cond.methodLink "TurnpikeTrustLaw" (112 : Nat) ({ cls := "TurnpikeTrustLaw", name := "gate", desc := "(LTurnpikeTrust;I[J)I" } : Jvm.MethodName)) ∈ lw_all := lw_g (lw_at lw_m5 195 rfl) rfl
theorem q1218 : (Jvm.Cond.static ({ cls := "TurnpikeTrustLaw", name := "gate", desc := "(LTurnpikeTrust;I[J)I" } : Jvm.MethodName)) ∈ lw_all := lw_g (lw_at lw_m5 196 rfl) rfl
theorem q1219 : (Jvm.Cond.codeWith ({ cls := "TurnpikeTrustLaw", name := "gate", desc := "(LTurnpikeTrust;I[J)I" } : Jvm.MethodName) method_5_code (4 : Nat) (Option.some Jvm.ClassFile.FieldType.int) [((0 : Nat), (9 : Nat), (12 : Nat), (24 : Nat)), ((0 : Nat), (9 : Nat), (15 : Nat), (15 : Nat))]) ∈ lw_all := lw_g (lw_at lw_m5 197 rfl) rfl
theorem q1220 : (Jvm.Cond.classLink "TurnpikeTrustLaw" (24 : Nat) "java/lang/IndexOutOfBoundsException") ∈ lw_all := lw_g (lw_at lw_m5 198 rfl) rfl
theorem q1239 : (Jvm.Cond.methodLink "TurnpikeTrustLaw" (21 : Nat) ({ cls := "TurnpikeTrust", name := "gate", desc := "(I)I" } : Jvm.MethodName)) ∈ lw_all := lw_g (lw_at lw_m5 217 rfl) rfl
theorem q1294 : (Jvm.Cond.methodLink "TurnpikeTrustLaw" (115 : Nat) ({ cls := "TurnpikeTrustLaw", name := "traveller", desc := "(LTurnpikeTrust;IIII[J)I" } : Jvm.MethodName)) ∈ lw_all := lw_g (lw_at lw_m6 32 rfl) rfl
theorem q1295 : (Jvm.Cond.static ({ cls := "TurnpikeTrustLaw", name := "traveller", desc := "(LTurnpikeTrust;IIII[J)I" } : Jvm.MethodName)) ∈ lw_all := lw_g (lw_at lw_m6 33 rfl) rfl
theorem q1296 : (Jvm.Cond.codeWith ({ cls := "TurnpikeTrustLaw", name := "traveller", desc := "(LTurnpikeTrust;IIII[J)I" } : Jvm.MethodName) method_6_code (7 : Nat) (Option.some Jvm.ClassFile.FieldType.int) [((0 : Nat), (14 : Nat), (17 : Nat), (13 : Nat)), ((0 : Nat), (14 : Nat), (21 : Nat), (15 : Nat))]) ∈ lw_all := lw_g (lw_at lw_m6 34 rfl) rfl
theorem q1297 : (Jvm.Cond.methodLink "TurnpikeTrustLaw" (26 : Nat) ({ cls := "TurnpikeTrust", name := "traveller", desc := "(IIII)I" } : Jvm.MethodName)) ∈ lw_all := lw_g (lw_at lw_m6 35 rfl) rfl
theorem q1374 : (Jvm.Cond.methodLink "TurnpikeTrustLaw" (119 : Nat) ({ cls := "TurnpikeTrustLaw", name := "pass", desc := "(LTurnpikeTrust;II[J)I" } : Jvm.MethodName)) ∈ lw_all := lw_g (lw_at lw_m6 112 rfl) rfl
theorem q1375 : (Jvm.Cond.static ({ cls := "TurnpikeTrustLaw", name := "pass", desc := "(LTurnpikeTrust;II[J)I" } : Jvm.MethodName)) ∈ lw_all := lw_g (lw_at lw_m6 113 rfl) rfl
theorem q1376 : (Jvm.Cond.codeWith ({ cls := "TurnpikeTrustLaw", name := "pass", desc := "(LTurnpikeTrust;II[J)I" } : Jvm.MethodName) method_7_code (5 : Nat) (Option.some Jvm.ClassFile.FieldType.int) [((0 : Nat), (10 : Nat), (13 : Nat), (24 : Nat))]) ∈ lw_all := lw_g (lw_at lw_m6 114 rfl) rfl
theorem q1377 : (Jvm.Cond.methodLink "TurnpikeTrustLaw" (30 : Nat) ({ cls := "TurnpikeTrust", name := "pass", desc := "(II)I" } : Jvm.MethodName)) ∈ lw_all := lw_g (lw_at lw_m6 115 rfl) rfl
theorem q1549 : (Jvm.Cond.methodLink "TurnpikeTrustLaw" (126 : Nat) ({ cls := "TurnpikeTrustLaw", name := "asked", desc := "(LTurnpikeTrust;III[J)I" } : Jvm.MethodName)) ∈ lw_all := lw_g (lw_at lw_m7 47 rfl) rfl
theorem q1550 : (Jvm.Cond.static ({ cls := "TurnpikeTrustLaw", name := "asked", desc := "(LTurnpikeTrust;III[J)I" } : Jvm.MethodName)) ∈ lw_all := lw_g (lw_at lw_m7 48 rfl) rfl
theorem q1551 : (Jvm.Cond.codeWith ({ cls := "TurnpikeTrustLaw", name := "asked", desc := "(LTurnpikeTrust;III[J)I" } : Jvm.MethodName) method_8_code (6 : Nat) (Option.some Jvm.ClassFile.FieldType.int) [((0 : Nat), (12 : Nat), (15 : Nat), (24 : Nat))]) ∈ lw_all := lw_g (lw_at lw_m7 49 rfl) rfl
theorem q1552 : (Jvm.Cond.methodLink "TurnpikeTrustLaw" (33 : Nat) ({ cls := "TurnpikeTrust", name := "asked", desc := "(III)I" } : Jvm.MethodName)) ∈ lw_all := lw_g (lw_at lw_m7 50 rfl) rfl
theorem q1556 : (Jvm.Cond.methodLink "TurnpikeTrustLaw" (130 : Nat) ({ cls := "TurnpikeTrustLaw", name := "force", desc := "(LTurnpikeTrust;I[J)I" } : Jvm.MethodName)) ∈ lw_all := lw_g (lw_at lw_m7 54 rfl) rfl
theorem q1557 : (Jvm.Cond.static ({ cls := "TurnpikeTrustLaw", name := "force", desc := "(LTurnpikeTrust;I[J)I" } : Jvm.MethodName)) ∈ lw_all := lw_g (lw_at lw_m7 55 rfl) rfl
theorem q1558 : (Jvm.Cond.codeWith ({ cls := "TurnpikeTrustLaw", name := "force", desc := "(LTurnpikeTrust;I[J)I" } : Jvm.MethodName) method_9_code (4 : Nat) (Option.some Jvm.ClassFile.FieldType.int) [((0 : Nat), (9 : Nat), (12 : Nat), (13 : Nat))]) ∈ lw_all := lw_g (lw_at lw_m7 56 rfl) rfl
theorem q1559 : (Jvm.Cond.methodLink "TurnpikeTrustLaw" (37 : Nat) ({ cls := "TurnpikeTrust", name := "force", desc := "(I)I" } : Jvm.MethodName)) ∈ lw_all := lw_g (lw_at lw_m7 57 rfl) rfl
theorem q1563 : (Jvm.Cond.methodLink "TurnpikeTrustLaw" (133 : Nat) ({ cls := "TurnpikeTrustLaw", name := "wait", desc := "(LTurnpikeTrust;I[J)I" } : Jvm.MethodName)) ∈ lw_all := lw_g (lw_at lw_m7 61 rfl) rfl
theorem q1564 : (Jvm.Cond.static ({ cls := "TurnpikeTrustLaw", name := "wait", desc := "(LTurnpikeTrust;I[J)I" } : Jvm.MethodName)) ∈ lw_all := lw_g (lw_at lw_m7 62 rfl) rfl
theorem q1565 : (Jvm.Cond.codeWith ({ cls := "TurnpikeTrustLaw", name := "wait", desc := "(LTurnpikeTrust;I[J)I" } : Jvm.MethodName) method_10_code (4 : Nat) (Option.some Jvm.ClassFile.FieldType.int) [((0 : Nat), (9 : Nat), (12 : Nat), (13 : Nat))]) ∈ lw_all := lw_g (lw_at lw_m7 63 rfl) rfl
theorem q1566 : (Jvm.Cond.methodLink "TurnpikeTrustLaw" (40 : Nat) ({ cls := "TurnpikeTrust", name := "wait", desc := "(I)I" } : Jvm.MethodName)) ∈ lw_all := lw_g (lw_at lw_m7 64 rfl) rfl
theorem q1593 : (Jvm.Cond.methodLink "TurnpikeTrustLaw" (136 : Nat) ({ cls := "TurnpikeTrustLaw", name := "rain", desc := "(LTurnpikeTrust;I)I" } : Jvm.MethodName)) ∈ lw_all := lw_g (lw_at lw_m7 91 rfl) rfl
theorem q1594 : (Jvm.Cond.static ({ cls := "TurnpikeTrustLaw", name := "rain", desc := "(LTurnpikeTrust;I)I" } : Jvm.MethodName)) ∈ lw_all := lw_g (lw_at lw_m7 92 rfl) rfl
theorem q1595 : (Jvm.Cond.codeWith ({ cls := "TurnpikeTrustLaw", name := "rain", desc := "(LTurnpikeTrust;I)I" } : Jvm.MethodName) method_11_code (3 : Nat) (Option.some Jvm.ClassFile.FieldType.int) [((0 : Nat), (5 : Nat), (8 : Nat), (13 : Nat))]) ∈ lw_all := lw_g (lw_at lw_m7 93 rfl) rfl
theorem q1596 : (Jvm.Cond.methodLink "TurnpikeTrustLaw" (43 : Nat) ({ cls := "TurnpikeTrust", name := "rain", desc := "(I)V" } : Jvm.MethodName)) ∈ lw_all := lw_g (lw_at lw_m7 94 rfl) rfl
theorem q1600 : (Jvm.Cond.methodLink "TurnpikeTrustLaw" (140 : Nat) ({ cls := "TurnpikeTrustLaw", name := "mend", desc := "(LTurnpikeTrust;I[J)I" } : Jvm.MethodName)) ∈ lw_all := lw_g (lw_at lw_m7 98 rfl) rfl
theorem q1601 : (Jvm.Cond.static ({ cls := "TurnpikeTrustLaw", name := "mend", desc := "(LTurnpikeTrust;I[J)I" } : Jvm.MethodName)) ∈ lw_all := lw_g (lw_at lw_m7 99 rfl) rfl
theorem q1602 : (Jvm.Cond.codeWith ({ cls := "TurnpikeTrustLaw", name := "mend", desc := "(LTurnpikeTrust;I[J)I" } : Jvm.MethodName) method_12_code (4 : Nat) (Option.some Jvm.ClassFile.FieldType.int) [((0 : Nat), (9 : Nat), (12 : Nat), (13 : Nat))]) ∈ lw_all := lw_g (lw_at lw_m7 100 rfl) rfl
theorem q1603 : (Jvm.Cond.methodLink "TurnpikeTrustLaw" (47 : Nat) ({ cls := "TurnpikeTrust", name := "mend", desc := "(I)I" } : Jvm.MethodName)) ∈ lw_all := lw_g (lw_at lw_m7 101 rfl) rfl
theorem q1613 : (Jvm.Cond.methodLink "TurnpikeTrustLaw" (143 : Nat) ({ cls := "TurnpikeTrustLaw", name := "farmer", desc := "(LTurnpikeTrust;I[J)I" } : Jvm.MethodName)) ∈ lw_all := lw_g (lw_at lw_m7 111 rfl) rfl
theorem q1614 : (Jvm.Cond.static ({ cls := "TurnpikeTrustLaw", name := "farmer", desc := "(LTurnpikeTrust;I[J)I" } : Jvm.MethodName)) ∈ lw_all := lw_g (lw_at lw_m7 112 rfl) rfl
theorem q1615 : (Jvm.Cond.codeWith ({ cls := "TurnpikeTrustLaw", name := "farmer", desc := "(LTurnpikeTrust;I[J)I" } : Jvm.MethodName) method_13_code (4 : Nat) (Option.some Jvm.ClassFile.FieldType.int) [((0 : Nat), (9 : Nat), (12 : Nat), (13 : Nat)), ((0 : Nat), (9 : Nat), (15 : Nat), (15 : Nat))]) ∈ lw_all := lw_g (lw_at lw_m7 113 rfl) rfl
theorem q1616 : (Jvm.Cond.methodLink "TurnpikeTrustLaw" (50 : Nat) ({ cls := "TurnpikeTrust", name := "farmer", desc := "(I)I" } : Jvm.MethodName)) ∈ lw_all := lw_g (lw_at lw_m7 114 rfl) rfl
theorem q1631 : (Jvm.Cond.methodLink "TurnpikeTrustLaw" (146 : Nat) ({ cls := "TurnpikeTrustLaw", name := "bid", desc := "(LTurnpikeTrust;IIII[J)I" } : Jvm.MethodName)) ∈ lw_all := lw_g (lw_at lw_m7 129 rfl) rfl
theorem q1632 : (Jvm.Cond.static ({ cls := "TurnpikeTrustLaw", name := "bid", desc := "(LTurnpikeTrust;IIII[J)I" } : Jvm.MethodName)) ∈ lw_all := lw_g (lw_at lw_m7 130 rfl) rfl
theorem q1633 : (Jvm.Cond.codeWith ({ cls := "TurnpikeTrustLaw", name := "bid", desc := "(LTurnpikeTrust;IIII[J)I" } : Jvm.MethodName) method_14_code (7 : Nat) (Option.some Jvm.ClassFile.FieldType.int) [((0 : Nat), (14 : Nat), (17 : Nat), (24 : Nat)), ((0 : Nat), (14 : Nat), (21 : Nat), (13 : Nat)), ((0 : Nat), (14 : Nat), (25 : Nat), (15 : Nat))]) ∈ lw_all := lw_g (lw_at lw_m7 131 rfl) rfl
theorem q1634 : (Jvm.Cond.methodLink "TurnpikeTrustLaw" (53 : Nat) ({ cls := "TurnpikeTrust", name := "bid", desc := "(IIII)I" } : Jvm.MethodName)) ∈ lw_all := lw_g (lw_at lw_m7 132 rfl) rfl
theorem q1658 : (Jvm.Cond.methodLink "TurnpikeTrustLaw" (149 : Nat) ({ cls := "TurnpikeTrustLaw", name := "let", desc := "(LTurnpikeTrust;II[J)I" } : Jvm.MethodName)) ∈ lw_all := lw_g (lw_at lw_m7 156 rfl) rfl
theorem q1659 : (Jvm.Cond.static ({ cls := "TurnpikeTrustLaw", name := "let", desc := "(LTurnpikeTrust;II[J)I" } : Jvm.MethodName)) ∈ lw_all := lw_g (lw_at lw_m7 157 rfl) rfl
theorem q1660 : (Jvm.Cond.codeWith ({ cls := "TurnpikeTrustLaw", name := "let", desc := "(LTurnpikeTrust;II[J)I" } : Jvm.MethodName) method_15_code (5 : Nat) (Option.some Jvm.ClassFile.FieldType.int) [((0 : Nat), (10 : Nat), (13 : Nat), (24 : Nat)), ((0 : Nat), (10 : Nat), (17 : Nat), (13 : Nat)), ((0 : Nat), (10 : Nat), (21 : Nat), (15 : Nat))]) ∈ lw_all := lw_g (lw_at lw_m7 158 rfl) rfl
theorem q1661 : (Jvm.Cond.methodLink "TurnpikeTrustLaw" (56 : Nat) ({ cls := "TurnpikeTrust", name := "let", desc := "(II)I" } : Jvm.MethodName)) ∈ lw_all := lw_g (lw_at lw_m7 159 rfl) rfl
theorem q1669 : (Jvm.Cond.methodLink "TurnpikeTrustLaw" (152 : Nat) ({ cls := "TurnpikeTrustLaw", name := "gateTold", desc := "(LTurnpikeTrust;II[J)I" } : Jvm.MethodName)) ∈ lw_all := lw_g (lw_at lw_m7 167 rfl) rfl
theorem q1670 : (Jvm.Cond.static ({ cls := "TurnpikeTrustLaw", name := "gateTold", desc := "(LTurnpikeTrust;II[J)I" } : Jvm.MethodName)) ∈ lw_all := lw_g (lw_at lw_m7 168 rfl) rfl
theorem q1671 : (Jvm.Cond.codeWith ({ cls := "TurnpikeTrustLaw", name := "gateTold", desc := "(LTurnpikeTrust;II[J)I" } : Jvm.MethodName) method_16_code (5 : Nat) (Option.some Jvm.ClassFile.FieldType.int) [((0 : Nat), (10 : Nat), (13 : Nat), (24 : Nat)), ((0 : Nat), (10 : Nat), (17 : Nat), (13 : Nat))]) ∈ lw_all := lw_g (lw_at lw_m7 169 rfl) rfl
theorem q1672 : (Jvm.Cond.methodLink "TurnpikeTrustLaw" (59 : Nat) ({ cls := "TurnpikeTrust", name := "gateTold", desc := "(II)I" } : Jvm.MethodName)) ∈ lw_all := lw_g (lw_at lw_m7 170 rfl) rfl
theorem q1676 : (Jvm.Cond.methodLink "TurnpikeTrustLaw" (155 : Nat) ({ cls := "TurnpikeTrustLaw", name := "borrow", desc := "(LTurnpikeTrust;III[J)I" } : Jvm.MethodName)) ∈ lw_all := lw_g (lw_at lw_m7 174 rfl) rfl
theorem q1677 : (Jvm.Cond.static ({ cls := "TurnpikeTrustLaw", name := "borrow", desc := "(LTurnpikeTrust;III[J)I" } : Jvm.MethodName)) ∈ lw_all := lw_g (lw_at lw_m7 175 rfl) rfl
theorem q1678 : (Jvm.Cond.codeWith ({ cls := "TurnpikeTrustLaw", name := "borrow", desc := "(LTurnpikeTrust;III[J)I" } : Jvm.MethodName) method_17_code (6 : Nat) (Option.some Jvm.ClassFile.FieldType.int) [((0 : Nat), (12 : Nat), (15 : Nat), (13 : Nat)), ((0 : Nat), (12 : Nat), (19 : Nat), (15 : Nat))]) ∈ lw_all := lw_g (lw_at lw_m7 176 rfl) rfl
theorem q1679 : (Jvm.Cond.methodLink "TurnpikeTrustLaw" (62 : Nat) ({ cls := "TurnpikeTrust", name := "borrow", desc := "(III)I" } : Jvm.MethodName)) ∈ lw_all := lw_g (lw_at lw_m7 177 rfl) rfl
theorem q1704 : (Jvm.Cond.methodLink "TurnpikeTrustLaw" (158 : Nat) ({ cls := "TurnpikeTrustLaw", name := "repay", desc := "(LTurnpikeTrust;II[J)I" } : Jvm.MethodName)) ∈ lw_all := lw_g (lw_at lw_m7 202 rfl) rfl
theorem q1705 : (Jvm.Cond.static ({ cls := "TurnpikeTrustLaw", name := "repay", desc := "(LTurnpikeTrust;II[J)I" } : Jvm.MethodName)) ∈ lw_all := lw_g (lw_at lw_m7 203 rfl) rfl
theorem q1706 : (Jvm.Cond.codeWith ({ cls := "TurnpikeTrustLaw", name := "repay", desc := "(LTurnpikeTrust;II[J)I" } : Jvm.MethodName) method_18_code (5 : Nat) (Option.some Jvm.ClassFile.FieldType.int) [((0 : Nat), (10 : Nat), (13 : Nat), (24 : Nat)), ((0 : Nat), (10 : Nat), (17 : Nat), (13 : Nat))]) ∈ lw_all := lw_g (lw_at lw_m7 204 rfl) rfl
theorem q1707 : (Jvm.Cond.methodLink "TurnpikeTrustLaw" (65 : Nat) ({ cls := "TurnpikeTrust", name := "repay", desc := "(II)I" } : Jvm.MethodName)) ∈ lw_all := lw_g (lw_at lw_m7 205 rfl) rfl
theorem q1711 : (Jvm.Cond.methodLink "TurnpikeTrustLaw" (161 : Nat) ({ cls := "TurnpikeTrustLaw", name := "loan", desc := "(LTurnpikeTrust;II[J)I" } : Jvm.MethodName)) ∈ lw_all := lw_g (lw_at lw_m7 209 rfl) rfl
theorem q1712 : (Jvm.Cond.static ({ cls := "TurnpikeTrustLaw", name := "loan", desc := "(LTurnpikeTrust;II[J)I" } : Jvm.MethodName)) ∈ lw_all := lw_g (lw_at lw_m7 210 rfl) rfl
theorem q1713 : (Jvm.Cond.codeWith ({ cls := "TurnpikeTrustLaw", name := "loan", desc := "(LTurnpikeTrust;II[J)I" } : Jvm.MethodName) method_19_code (5 : Nat) (Option.some Jvm.ClassFile.FieldType.int) [((0 : Nat), (9 : Nat), (12 : Nat), (24 : Nat)), ((0 : Nat), (9 : Nat), (16 : Nat), (13 : Nat))]) ∈ lw_all := lw_g (lw_at lw_m7 211 rfl) rfl
theorem q1714 : (Jvm.Cond.methodLink "TurnpikeTrustLaw" (68 : Nat) ({ cls := "TurnpikeTrust", name := "loan", desc := "(II)J" } : Jvm.MethodName)) ∈ lw_all := lw_g (lw_at lw_m7 212 rfl) rfl
theorem q1718 : (Jvm.Cond.methodLink "TurnpikeTrustLaw" (164 : Nat) ({ cls := "TurnpikeTrustLaw", name := "money", desc := "(LTurnpikeTrust;I[J)I" } : Jvm.MethodName)) ∈ lw_all := lw_g (lw_at lw_m7 216 rfl) rfl
theorem q1719 : (Jvm.Cond.static ({ cls := "TurnpikeTrustLaw", name := "money", desc := "(LTurnpikeTrust;I[J)I" } : Jvm.MethodName)) ∈ lw_all := lw_g (lw_at lw_m7 217 rfl) rfl
theorem q1720 : (Jvm.Cond.codeWith ({ cls := "TurnpikeTrustLaw", name := "money", desc := "(LTurnpikeTrust;I[J)I" } : Jvm.MethodName) method_20_code (4 : Nat) (Option.some Jvm.ClassFile.FieldType.int) [((0 : Nat), (8 : Nat), (11 : Nat), (24 : Nat))]) ∈ lw_all := lw_g (lw_at lw_m7 218 rfl) rfl
theorem q1721 : (Jvm.Cond.methodLink "TurnpikeTrustLaw" (72 : Nat) ({ cls := "TurnpikeTrust", name := "money", desc := "(I)J" } : Jvm.MethodName)) ∈ lw_all := lw_g (lw_at lw_m7 219 rfl) rfl
theorem q1725 : (Jvm.Cond.methodLink "TurnpikeTrustLaw" (167 : Nat) ({ cls := "TurnpikeTrustLaw", name := "wear", desc := "(LTurnpikeTrust;I[J)I" } : Jvm.MethodName)) ∈ lw_all := lw_g (lw_at lw_m7 223 rfl) rfl
theorem q1726 : (Jvm.Cond.static ({ cls := "TurnpikeTrustLaw", name := "wear", desc := "(LTurnpikeTrust;I[J)I" } : Jvm.MethodName)) ∈ lw_all := lw_g (lw_at lw_m7 224 rfl) rfl
theorem q1727 : (Jvm.Cond.codeWith ({ cls := "TurnpikeTrustLaw", name := "wear", desc := "(LTurnpikeTrust;I[J)I" } : Jvm.MethodName) method_21_code (4 : Nat) (Option.some Jvm.ClassFile.FieldType.int) [((0 : Nat), (8 : Nat), (11 : Nat), (24 : Nat))]) ∈ lw_all := lw_g (lw_at lw_m7 225 rfl) rfl
theorem q1728 : (Jvm.Cond.methodLink "TurnpikeTrustLaw" (76 : Nat) ({ cls := "TurnpikeTrust", name := "wear", desc := "(I)J" } : Jvm.MethodName)) ∈ lw_all := lw_g (lw_at lw_m7 226 rfl) rfl
theorem q1732 : (Jvm.Cond.methodLink "TurnpikeTrustLaw" (170 : Nat) ({ cls := "TurnpikeTrustLaw", name := "box", desc := "(LTurnpikeTrust;I[J)I" } : Jvm.MethodName)) ∈ lw_all := lw_g (lw_at lw_m7 230 rfl) rfl
theorem q1733 : (Jvm.Cond.static ({ cls := "TurnpikeTrustLaw", name := "box", desc := "(LTurnpikeTrust;I[J)I" } : Jvm.MethodName)) ∈ lw_all := lw_g (lw_at lw_m7 231 rfl) rfl
theorem q1734 : (Jvm.Cond.codeWith ({ cls := "TurnpikeTrustLaw", name := "box", desc := "(LTurnpikeTrust;I[J)I" } : Jvm.MethodName) method_22_code (4 : Nat) (Option.some Jvm.ClassFile.FieldType.int) [((0 : Nat), (8 : Nat), (11 : Nat), (13 : Nat))]) ∈ lw_all := lw_g (lw_at lw_m7 232 rfl) rfl
theorem q1735 : (Jvm.Cond.methodLink "TurnpikeTrustLaw" (79 : Nat) ({ cls := "TurnpikeTrust", name := "box", desc := "(I)J" } : Jvm.MethodName)) ∈ lw_all := lw_g (lw_at lw_m7 233 rfl) rfl
theorem q1739 : (Jvm.Cond.methodLink "TurnpikeTrustLaw" (173 : Nat) ({ cls := "TurnpikeTrustLaw", name := "journal", desc := "(LTurnpikeTrust;II[J)I" } : Jvm.MethodName)) ∈ lw_all := lw_g (lw_at lw_m7 237 rfl) rfl
theorem q1740 : (Jvm.Cond.static ({ cls := "TurnpikeTrustLaw", name := "journal", desc := "(LTurnpikeTrust;II[J)I" } : Jvm.MethodName)) ∈ lw_all := lw_g (lw_at lw_m7 238 rfl) rfl
theorem q1741 : (Jvm.Cond.codeWith ({ cls := "TurnpikeTrustLaw", name := "journal", desc := "(LTurnpikeTrust;II[J)I" } : Jvm.MethodName) method_23_code (5 : Nat) (Option.some Jvm.ClassFile.FieldType.int) [((0 : Nat), (9 : Nat), (12 : Nat), (24 : Nat)), ((0 : Nat), (9 : Nat), (16 : Nat), (13 : Nat))]) ∈ lw_all := lw_g (lw_at lw_m7 239 rfl) rfl
theorem q1742 : (Jvm.Cond.methodLink "TurnpikeTrustLaw" (82 : Nat) ({ cls := "TurnpikeTrust", name := "journal", desc := "(II)J" } : Jvm.MethodName)) ∈ lw_all := lw_g (lw_at lw_m8 0 rfl) rfl
theorem q1746 : (Jvm.Cond.classLink "TurnpikeTrustLaw" (86 : Nat) "TurnpikeTrustModel") ∈ lw_all := lw_g (lw_at lw_m8 4 rfl) rfl
theorem q1748 : (Jvm.Cond.methodLink "TurnpikeTrustLaw" (88 : Nat) ({ cls := "TurnpikeTrustModel", name := "<init>", desc := "()V" } : Jvm.MethodName)) ∈ lw_all := lw_g (lw_at lw_m8 6 rfl) rfl
theorem q1940 : (Jvm.Cond.methodLink "TurnpikeTrustLaw" (100 : Nat) ({ cls := "TurnpikeTrustModel", name := "thrown", desc := "()I" } : Jvm.MethodName)) ∈ lw_all := lw_g (lw_at lw_m8 198 rfl) rfl
theorem q1944 : (Jvm.Cond.methodLink "TurnpikeTrustLaw" (93 : Nat) ({ cls := "TurnpikeTrustModel", name := "feed", desc := "(IIIII)I" } : Jvm.MethodName)) ∈ lw_all := lw_g (lw_at lw_m8 202 rfl) rfl
theorem q1948 : (Jvm.Cond.methodLink "TurnpikeTrustLaw" (99 : Nat) ({ cls := "TurnpikeTrustModel", name := "act", desc := "(II)I" } : Jvm.MethodName)) ∈ lw_all := lw_g (lw_at lw_m8 206 rfl) rfl
theorem q2076 : (Jvm.Cond.methodLink "TurnpikeTrustLaw" (107 : Nat) ({ cls := "TurnpikeTrustModel", name := "fault", desc := "()I" } : Jvm.MethodName)) ∈ lw_all := lw_g (lw_at lw_m9 94 rfl) rfl
theorem q2080 : (Jvm.Cond.methodLink "TurnpikeTrustLaw" (132 : Nat) ({ cls := "TurnpikeTrustModel", name := "force", desc := "(I)I" } : Jvm.MethodName)) ∈ lw_all := lw_g (lw_at lw_m9 98 rfl) rfl
theorem q2088 : (Jvm.Cond.methodLink "TurnpikeTrustLaw" (111 : Nat) ({ cls := "TurnpikeTrustModel", name := "stretch", desc := "(I)I" } : Jvm.MethodName)) ∈ lw_all := lw_g (lw_at lw_m9 106 rfl) rfl
theorem q2092 : (Jvm.Cond.methodLink "TurnpikeTrustLaw" (114 : Nat) ({ cls := "TurnpikeTrustModel", name := "gate", desc := "(I)I" } : Jvm.MethodName)) ∈ lw_all := lw_g (lw_at lw_m9 110 rfl) rfl
theorem q2096 : (Jvm.Cond.methodLink "TurnpikeTrustLaw" (118 : Nat) ({ cls := "TurnpikeTrustModel", name := "traveller", desc := "(IIII)I" } : Jvm.MethodName)) ∈ lw_all := lw_g (lw_at lw_m9 114 rfl) rfl
theorem q2100 : (Jvm.Cond.methodLink "TurnpikeTrustLaw" (121 : Nat) ({ cls := "TurnpikeTrustModel", name := "pass", desc := "(II)I" } : Jvm.MethodName)) ∈ lw_all := lw_g (lw_at lw_m9 118 rfl) rfl
theorem q2138 : (Jvm.Cond.methodLink "TurnpikeTrustLaw" (125 : Nat) ({ cls := "TurnpikeTrustModel", name := "clause", desc := "()I" } : Jvm.MethodName)) ∈ lw_all := lw_g (lw_at lw_m9 156 rfl) rfl
theorem q2142 : (Jvm.Cond.methodLink "TurnpikeTrustLaw" (129 : Nat) ({ cls := "TurnpikeTrustModel", name := "asked", desc := "(III)I" } : Jvm.MethodName)) ∈ lw_all := lw_g (lw_at lw_m9 160 rfl) rfl
theorem q2146 : (Jvm.Cond.methodLink "TurnpikeTrustLaw" (145 : Nat) ({ cls := "TurnpikeTrustModel", name := "farmer", desc := "(I)I" } : Jvm.MethodName)) ∈ lw_all := lw_g (lw_at lw_m9 164 rfl) rfl
theorem q2151 : (Jvm.Cond.methodLink "TurnpikeTrustLaw" (148 : Nat) ({ cls := "TurnpikeTrustModel", name := "bid", desc := "(IIII)I" } : Jvm.MethodName)) ∈ lw_all := lw_g (lw_at lw_m9 169 rfl) rfl
theorem q2159 : (Jvm.Cond.methodLink "TurnpikeTrustLaw" (151 : Nat) ({ cls := "TurnpikeTrustModel", name := "let", desc := "(II)I" } : Jvm.MethodName)) ∈ lw_all := lw_g (lw_at lw_m9 177 rfl) rfl
theorem q2167 : (Jvm.Cond.methodLink "TurnpikeTrustLaw" (154 : Nat) ({ cls := "TurnpikeTrustModel", name := "gateTold", desc := "(II)I" } : Jvm.MethodName)) ∈ lw_all := lw_g (lw_at lw_m9 185 rfl) rfl
theorem q2171 : (Jvm.Cond.methodLink "TurnpikeTrustLaw" (157 : Nat) ({ cls := "TurnpikeTrustModel", name := "borrow", desc := "(III)I" } : Jvm.MethodName)) ∈ lw_all := lw_g (lw_at lw_m9 189 rfl) rfl
theorem q2175 : (Jvm.Cond.methodLink "TurnpikeTrustLaw" (160 : Nat) ({ cls := "TurnpikeTrustModel", name := "repay", desc := "(II)I" } : Jvm.MethodName)) ∈ lw_all := lw_g (lw_at lw_m9 193 rfl) rfl
theorem q2179 : (Jvm.Cond.methodLink "TurnpikeTrustLaw" (163 : Nat) ({ cls := "TurnpikeTrustModel", name := "loan", desc := "(II)J" } : Jvm.MethodName)) ∈ lw_all := lw_g (lw_at lw_m9 197 rfl) rfl
theorem q2183 : (Jvm.Cond.methodLink "TurnpikeTrustLaw" (135 : Nat) ({ cls := "TurnpikeTrustModel", name := "wait", desc := "(I)I" } : Jvm.MethodName)) ∈ lw_all := lw_g (lw_at lw_m9 201 rfl) rfl
theorem q2196 : (Jvm.Cond.methodLink "TurnpikeTrustLaw" (139 : Nat) ({ cls := "TurnpikeTrustModel", name := "rain", desc := "(I)V" } : Jvm.MethodName)) ∈ lw_all := lw_g (lw_at lw_m9 214 rfl) rfl
theorem q2200 : (Jvm.Cond.methodLink "TurnpikeTrustLaw" (142 : Nat) ({ cls := "TurnpikeTrustModel", name := "mend", desc := "(I)I" } : Jvm.MethodName)) ∈ lw_all := lw_g (lw_at lw_m9 218 rfl) rfl
theorem q2209 : (Jvm.Cond.methodLink "TurnpikeTrustLaw" (166 : Nat) ({ cls := "TurnpikeTrustModel", name := "money", desc := "(I)J" } : Jvm.MethodName)) ∈ lw_all := lw_g (lw_at lw_m9 227 rfl) rfl
theorem q2217 : (Jvm.Cond.methodLink "TurnpikeTrustLaw" (169 : Nat) ({ cls := "TurnpikeTrustModel", name := "wear", desc := "(I)J" } : Jvm.MethodName)) ∈ lw_all := lw_g (lw_at lw_m9 235 rfl) rfl
theorem q2221 : (Jvm.Cond.methodLink "TurnpikeTrustLaw" (172 : Nat) ({ cls := "TurnpikeTrustModel", name := "box", desc := "(I)J" } : Jvm.MethodName)) ∈ lw_all := lw_g (lw_at lw_m9 239 rfl) rfl
theorem q2225 : (Jvm.Cond.methodLink "TurnpikeTrustLaw" (175 : Nat) ({ cls := "TurnpikeTrustModel", name := "journal", desc := "(II)J" } : Jvm.MethodName)) ∈ lw_all := lw_g (lw_at lw_m10 3 rfl) rfl
theorem q2229 : (Jvm.Cond.methodLink "TurnpikeTrustLaw" (179 : Nat) ({ cls := "TurnpikeTrustModel", name := "count", desc := "(I)I" } : Jvm.MethodName)) ∈ lw_all := lw_g (lw_at lw_m10 7 rfl) rfl
/-! TurnpikeTrust$Reader -/
set_option maxRecDepth 100000
def RX5 : String := "TurnpikeTrust$Reader"
def TX5 : u_T := fun k => match k with
  | 0 => ("TurnpikeTrust$Reader", "text", "[B", true)
  | 1 => ("TurnpikeTrust$Reader", "size", "I", true)
  | 2 => ("TurnpikeTrust$Reader", "next", "I", false)
  | 3 => ("TurnpikeTrust$Reader", "place", "I", false)
  | 4 => ("TurnpikeTrust$Reader", "open", "I", false)
  | 5 => ("TurnpikeTrust$Reader", "sort", "LTurnpikeTrust$Sort;", false)
  | 6 => ("TurnpikeTrust$Reader", "word", "Ljava/lang/String;", false)
  | 7 => ("TurnpikeTrust$Reader", "sign", "I", false)
  | _ => ("TurnpikeTrust$Reader", "number", "J", false)
def tyX5 : Nat → FieldType := fun k => match k with
  | 0 => .array .byte
  | 1 => .int
  | 2 => .int
  | 3 => .int
  | 4 => .int
  | 5 => .object "TurnpikeTrust$Sort"
  | 6 => .object "java/lang/String"
  | 7 => .int
  | _ => .long
abbrev wsX50 : List Cond := u_ws RX5 TX5 9
theorem nmX5 : ∀ a, a < 9 → ∀ b, b < 9 → a ≠ b → (TX5 a).2.1 ≠ (TX5 b).2.1 := by decide +kernel
theorem tyX5_ok : ∀ k, k < 9 → parseFieldDescriptor (TX5 k).2.2.1 = some (tyX5 k) := by decide +kernel
abbrev cX5_init : ByteArray := prog_21_method_1_code
def yX5_init : MethodName := ⟨RX5, "<init>", "([BI)V"⟩
def dkwX5_init_1 : List UInt8 := [177]
abbrev dktX5_init_1 : List UInt8 := dkwX5_init_1 ++ []
def dkwX5_init_0 : List UInt8 := [42, 183, 0, 3, 42, 18, 9, 181, 0, 11, 42, 43, 181, 0, 17, 42, 28, 181, 0, 21, 42, 182, 0, 25]
abbrev dktX5_init_0 : List UInt8 := dkwX5_init_0 ++ dktX5_init_1
theorem dksX5_init_0 : cX5_init.data.toList.drop 0 = dktX5_init_0 := by decide +kernel
theorem dksX5_init_1 : cX5_init.data.toList.drop 24 = dktX5_init_1 := dk_seg dksX5_init_0 24 rfl rfl
theorem dX5_init_0 : decode cX5_init 0 = .ok (.aload_n 0, 1) := dk_42 (dk_at dksX5_init_0 0 rfl rfl)
theorem dX5_init_1 : decode cX5_init 1 = .ok (.invokespecial 3, 3) := dk_183 0 3 (dk_at dksX5_init_0 1 rfl rfl)
theorem dX5_init_4 : decode cX5_init 4 = .ok (.aload_n 0, 1) := dk_42 (dk_at dksX5_init_0 4 rfl rfl)
theorem dX5_init_5 : decode cX5_init 5 = .ok (.ldc 9, 2) := dk_18 9 (dk_at dksX5_init_0 5 rfl rfl)
theorem dX5_init_7 : decode cX5_init 7 = .ok (.putfield 11, 3) := dk_181 0 11 (dk_at dksX5_init_0 7 rfl rfl)
theorem dX5_init_10 : decode cX5_init 10 = .ok (.aload_n 0, 1) := dk_42 (dk_at dksX5_init_0 10 rfl rfl)
theorem dX5_init_11 : decode cX5_init 11 = .ok (.aload_n 1, 1) := dk_43 (dk_at dksX5_init_0 11 rfl rfl)
theorem dX5_init_12 : decode cX5_init 12 = .ok (.putfield 17, 3) := dk_181 0 17 (dk_at dksX5_init_0 12 rfl rfl)
theorem dX5_init_15 : decode cX5_init 15 = .ok (.aload_n 0, 1) := dk_42 (dk_at dksX5_init_0 15 rfl rfl)
theorem dX5_init_16 : decode cX5_init 16 = .ok (.iload_n 2, 1) := dk_28 (dk_at dksX5_init_0 16 rfl rfl)
theorem dX5_init_17 : decode cX5_init 17 = .ok (.putfield 21, 3) := dk_181 0 21 (dk_at dksX5_init_0 17 rfl rfl)
theorem dX5_init_20 : decode cX5_init 20 = .ok (.aload_n 0, 1) := dk_42 (dk_at dksX5_init_0 20 rfl rfl)
theorem dX5_init_21 : decode cX5_init 21 = .ok (.invokevirtual 25, 3) := dk_182 0 25 (dk_at dksX5_init_0 21 rfl rfl)
theorem dX5_init_24 : decode cX5_init 24 = .ok (.return_, 1) := dk_177 (dk_at dksX5_init_1 0 rfl rfl)
abbrev cX5_go : ByteArray := prog_21_method_5_code
def yX5_go : MethodName := ⟨RX5, "go", "()V"⟩
def dkwX5_go_14 : List UInt8 := [181, 0, 28, 177]
abbrev dktX5_go_14 : List UInt8 := dkwX5_go_14 ++ []
def dkwX5_go_13 : List UInt8 := [178, 0, 83, 167, 0, 6, 178, 0, 86, 181, 0, 47, 42, 27, 181, 0, 38, 42, 89, 180, 0, 28, 4, 96]
abbrev dktX5_go_13 : List UInt8 := dkwX5_go_13 ++ dktX5_go_14
def dkwX5_go_12 : List UInt8 := [16, 60, 159, 0, 9, 27, 16, 62, 160, 0, 7, 4, 167, 0, 4, 3, 61, 42, 28, 153, 0, 9]
abbrev dktX5_go_12 : List UInt8 := dkwX5_go_12 ++ dktX5_go_13
def dkwX5_go_11 : List UInt8 := [16, 41, 159, 0, 33, 27, 16, 59, 159, 0, 27, 27, 16, 47, 159, 0, 21, 27, 16, 61, 159, 0, 15, 27]
abbrev dktX5_go_11 : List UInt8 := dkwX5_go_11 ++ dktX5_go_12
def dkwX5_go_10 : List UInt8 := [181, 0, 67, 42, 89, 180, 0, 28, 4, 96, 181, 0, 28, 167, 255, 200, 27, 16, 40, 159, 0, 39, 27]
abbrev dktX5_go_10 : List UInt8 := dkwX5_go_10 ++ dktX5_go_11
def dkwX5_go_9 : List UInt8 := [180, 0, 67, 105, 42, 42, 180, 0, 28, 182, 0, 34, 133, 97, 20, 0, 73, 101, 20, 0, 75, 184, 0, 77]
abbrev dktX5_go_9 : List UInt8 := dkwX5_go_9 ++ dktX5_go_10
def dkwX5_go_8 : List UInt8 := [181, 0, 67, 42, 42, 180, 0, 28, 182, 0, 34, 184, 0, 61, 153, 0, 128, 42, 20, 0, 71, 42]
abbrev dktX5_go_8 : List UInt8 := dkwX5_go_8 ++ dktX5_go_9
def dkwX5_go_7 : List UInt8 := [181, 0, 11, 167, 0, 161, 27, 184, 0, 61, 153, 0, 74, 42, 178, 0, 64, 181, 0, 47, 42, 9]
abbrev dktX5_go_7 : List UInt8 := dkwX5_go_7 ++ dktX5_go_8
def dkwX5_go_6 : List UInt8 := [167, 255, 232, 42, 180, 0, 28, 42, 180, 0, 31, 100, 16, 8, 163, 0, 172, 42, 42, 182, 0, 57]
abbrev dktX5_go_6 : List UInt8 := dkwX5_go_6 ++ dktX5_go_7
def dkwX5_go_5 : List UInt8 := [42, 180, 0, 28, 182, 0, 34, 184, 0, 50, 153, 0, 16, 42, 89, 180, 0, 28, 4, 96, 181, 0, 28]
abbrev dktX5_go_5 : List UInt8 := dkwX5_go_5 ++ dktX5_go_6
def dkwX5_go_4 : List UInt8 := [178, 0, 41, 181, 0, 47, 167, 0, 227, 27, 184, 0, 50, 153, 0, 62, 42, 178, 0, 54, 181, 0, 47, 42]
abbrev dktX5_go_4 : List UInt8 := dkwX5_go_4 ++ dktX5_go_5
def dkwX5_go_3 : List UInt8 := [18, 9, 181, 0, 11, 42, 3, 181, 0, 38, 42, 180, 0, 28, 42, 180, 0, 21, 161, 0, 13, 42]
abbrev dktX5_go_3 : List UInt8 := dkwX5_go_3 ++ dktX5_go_4
def dkwX5_go_2 : List UInt8 := [181, 0, 28, 167, 255, 207, 42, 42, 180, 0, 28, 181, 0, 31, 42, 42, 180, 0, 28, 182, 0, 34, 60, 42]
abbrev dktX5_go_2 : List UInt8 := dkwX5_go_2 ++ dktX5_go_3
def dkwX5_go_1 : List UInt8 := [159, 0, 17, 42, 180, 0, 17, 42, 180, 0, 28, 51, 16, 10, 160, 0, 16, 42, 89, 180, 0, 28, 4, 96]
abbrev dktX5_go_1 : List UInt8 := dkwX5_go_1 ++ dktX5_go_2
def dkwX5_go_0 : List UInt8 := [42, 180, 0, 28, 42, 180, 0, 21, 162, 0, 44, 42, 180, 0, 17, 42, 180, 0, 28, 51, 16, 32]
abbrev dktX5_go_0 : List UInt8 := dkwX5_go_0 ++ dktX5_go_1
theorem dksX5_go_0 : cX5_go.data.toList.drop 0 = dktX5_go_0 := by decide +kernel
theorem dksX5_go_1 : cX5_go.data.toList.drop 22 = dktX5_go_1 := dk_seg dksX5_go_0 22 rfl rfl
theorem dksX5_go_2 : cX5_go.data.toList.drop 46 = dktX5_go_2 := dk_seg dksX5_go_1 24 rfl rfl
theorem dksX5_go_3 : cX5_go.data.toList.drop 70 = dktX5_go_3 := dk_seg dksX5_go_2 24 rfl rfl
theorem dksX5_go_4 : cX5_go.data.toList.drop 92 = dktX5_go_4 := dk_seg dksX5_go_3 22 rfl rfl
theorem dksX5_go_5 : cX5_go.data.toList.drop 116 = dktX5_go_5 := dk_seg dksX5_go_4 24 rfl rfl
theorem dksX5_go_6 : cX5_go.data.toList.drop 139 = dktX5_go_6 := dk_seg dksX5_go_5 23 rfl rfl
theorem dksX5_go_7 : cX5_go.data.toList.drop 161 = dktX5_go_7 := dk_seg dksX5_go_6 22 rfl rfl
theorem dksX5_go_8 : cX5_go.data.toList.drop 183 = dktX5_go_8 := dk_seg dksX5_go_7 22 rfl rfl
theorem dksX5_go_9 : cX5_go.data.toList.drop 205 = dktX5_go_9 := dk_seg dksX5_go_8 22 rfl rfl
theorem dksX5_go_10 : cX5_go.data.toList.drop 229 = dktX5_go_10 := dk_seg dksX5_go_9 24 rfl rfl
theorem dksX5_go_11 : cX5_go.data.toList.drop 252 = dktX5_go_11 := dk_seg dksX5_go_10 23 rfl rfl
theorem dksX5_go_12 : cX5_go.data.toList.drop 276 = dktX5_go_12 := dk_seg dksX5_go_11 24 rfl rfl
theorem dksX5_go_13 : cX5_go.data.toList.drop 298 = dktX5_go_13 := dk_seg dksX5_go_12 22 rfl rfl
theorem dksX5_go_14 : cX5_go.data.toList.drop 322 = dktX5_go_14 := dk_seg dksX5_go_13 24 rfl rfl
theorem dX5_go_0 : decode cX5_go 0 = .ok (.aload_n 0, 1) := dk_42 (dk_at dksX5_go_0 0 rfl rfl)
theorem dX5_go_1 : decode cX5_go 1 = .ok (.getfield 28, 3) := dk_180 0 28 (dk_at dksX5_go_0 1 rfl rfl)
theorem dX5_go_4 : decode cX5_go 4 = .ok (.aload_n 0, 1) := dk_42 (dk_at dksX5_go_0 4 rfl rfl)
theorem dX5_go_5 : decode cX5_go 5 = .ok (.getfield 21, 3) := dk_180 0 21 (dk_at dksX5_go_0 5 rfl rfl)
theorem dX5_go_8 : decode cX5_go 8 = .ok (.if_icmp .ge 44, 3) := dk_162 0 44 (dk_at dksX5_go_0 8 rfl rfl)
theorem dX5_go_11 : decode cX5_go 11 = .ok (.aload_n 0, 1) := dk_42 (dk_at dksX5_go_0 11 rfl rfl)
theorem dX5_go_12 : decode cX5_go 12 = .ok (.getfield 17, 3) := dk_180 0 17 (dk_at dksX5_go_0 12 rfl rfl)
theorem dX5_go_15 : decode cX5_go 15 = .ok (.aload_n 0, 1) := dk_42 (dk_at dksX5_go_0 15 rfl rfl)
theorem dX5_go_16 : decode cX5_go 16 = .ok (.getfield 28, 3) := dk_180 0 28 (dk_at dksX5_go_0 16 rfl rfl)
theorem dX5_go_19 : decode cX5_go 19 = .ok (.baload, 1) := dk_51 (dk_at dksX5_go_0 19 rfl rfl)
theorem dX5_go_20 : decode cX5_go 20 = .ok (.bipush 32, 2) := dk_16 32 (dk_at dksX5_go_0 20 rfl rfl)
theorem dX5_go_22 : decode cX5_go 22 = .ok (.if_icmp .eq 17, 3) := dk_159 0 17 (dk_at dksX5_go_1 0 rfl rfl)
theorem dX5_go_25 : decode cX5_go 25 = .ok (.aload_n 0, 1) := dk_42 (dk_at dksX5_go_1 3 rfl rfl)
theorem dX5_go_26 : decode cX5_go 26 = .ok (.getfield 17, 3) := dk_180 0 17 (dk_at dksX5_go_1 4 rfl rfl)
theorem dX5_go_29 : decode cX5_go 29 = .ok (.aload_n 0, 1) := dk_42 (dk_at dksX5_go_1 7 rfl rfl)
theorem dX5_go_30 : decode cX5_go 30 = .ok (.getfield 28, 3) := dk_180 0 28 (dk_at dksX5_go_1 8 rfl rfl)
theorem dX5_go_33 : decode cX5_go 33 = .ok (.baload, 1) := dk_51 (dk_at dksX5_go_1 11 rfl rfl)
theorem dX5_go_34 : decode cX5_go 34 = .ok (.bipush 10, 2) := dk_16 10 (dk_at dksX5_go_1 12 rfl rfl)
theorem dX5_go_36 : decode cX5_go 36 = .ok (.if_icmp .ne 16, 3) := dk_160 0 16 (dk_at dksX5_go_1 14 rfl rfl)
theorem dX5_go_39 : decode cX5_go 39 = .ok (.aload_n 0, 1) := dk_42 (dk_at dksX5_go_1 17 rfl rfl)
theorem dX5_go_40 : decode cX5_go 40 = .ok (.dup, 1) := dk_89 (dk_at dksX5_go_1 18 rfl rfl)
theorem dX5_go_41 : decode cX5_go 41 = .ok (.getfield 28, 3) := dk_180 0 28 (dk_at dksX5_go_1 19 rfl rfl)
theorem dX5_go_44 : decode cX5_go 44 = .ok (.iconst 1, 1) := dk_4 (dk_at dksX5_go_1 22 rfl rfl)
theorem dX5_go_45 : decode cX5_go 45 = .ok (.iadd, 1) := dk_96 (dk_at dksX5_go_1 23 rfl rfl)
theorem dX5_go_46 : decode cX5_go 46 = .ok (.putfield 28, 3) := dk_181 0 28 (dk_at dksX5_go_2 0 rfl rfl)
theorem dX5_go_49 : decode cX5_go 49 = .ok (.goto (-49), 3) := dk_167 255 207 (dk_at dksX5_go_2 3 rfl rfl)
theorem dX5_go_52 : decode cX5_go 52 = .ok (.aload_n 0, 1) := dk_42 (dk_at dksX5_go_2 6 rfl rfl)
theorem dX5_go_53 : decode cX5_go 53 = .ok (.aload_n 0, 1) := dk_42 (dk_at dksX5_go_2 7 rfl rfl)
theorem dX5_go_54 : decode cX5_go 54 = .ok (.getfield 28, 3) := dk_180 0 28 (dk_at dksX5_go_2 8 rfl rfl)
theorem dX5_go_57 : decode cX5_go 57 = .ok (.putfield 31, 3) := dk_181 0 31 (dk_at dksX5_go_2 11 rfl rfl)
theorem dX5_go_60 : decode cX5_go 60 = .ok (.aload_n 0, 1) := dk_42 (dk_at dksX5_go_2 14 rfl rfl)
theorem dX5_go_61 : decode cX5_go 61 = .ok (.aload_n 0, 1) := dk_42 (dk_at dksX5_go_2 15 rfl rfl)
theorem dX5_go_62 : decode cX5_go 62 = .ok (.getfield 28, 3) := dk_180 0 28 (dk_at dksX5_go_2 16 rfl rfl)
theorem dX5_go_65 : decode cX5_go 65 = .ok (.invokevirtual 34, 3) := dk_182 0 34 (dk_at dksX5_go_2 19 rfl rfl)
theorem dX5_go_68 : decode cX5_go 68 = .ok (.istore_n 1, 1) := dk_60 (dk_at dksX5_go_2 22 rfl rfl)
theorem dX5_go_69 : decode cX5_go 69 = .ok (.aload_n 0, 1) := dk_42 (dk_at dksX5_go_2 23 rfl rfl)
theorem dX5_go_70 : decode cX5_go 70 = .ok (.ldc 9, 2) := dk_18 9 (dk_at dksX5_go_3 0 rfl rfl)
theorem dX5_go_72 : decode cX5_go 72 = .ok (.putfield 11, 3) := dk_181 0 11 (dk_at dksX5_go_3 2 rfl rfl)
theorem dX5_go_75 : decode cX5_go 75 = .ok (.aload_n 0, 1) := dk_42 (dk_at dksX5_go_3 5 rfl rfl)
theorem dX5_go_76 : decode cX5_go 76 = .ok (.iconst 0, 1) := dk_3 (dk_at dksX5_go_3 6 rfl rfl)
theorem dX5_go_77 : decode cX5_go 77 = .ok (.putfield 38, 3) := dk_181 0 38 (dk_at dksX5_go_3 7 rfl rfl)
theorem dX5_go_80 : decode cX5_go 80 = .ok (.aload_n 0, 1) := dk_42 (dk_at dksX5_go_3 10 rfl rfl)
theorem dX5_go_81 : decode cX5_go 81 = .ok (.getfield 28, 3) := dk_180 0 28 (dk_at dksX5_go_3 11 rfl rfl)
theorem dX5_go_84 : decode cX5_go 84 = .ok (.aload_n 0, 1) := dk_42 (dk_at dksX5_go_3 14 rfl rfl)
theorem dX5_go_85 : decode cX5_go 85 = .ok (.getfield 21, 3) := dk_180 0 21 (dk_at dksX5_go_3 15 rfl rfl)
theorem dX5_go_88 : decode cX5_go 88 = .ok (.if_icmp .lt 13, 3) := dk_161 0 13 (dk_at dksX5_go_3 18 rfl rfl)
theorem dX5_go_91 : decode cX5_go 91 = .ok (.aload_n 0, 1) := dk_42 (dk_at dksX5_go_3 21 rfl rfl)
theorem dX5_go_92 : decode cX5_go 92 = .ok (.getstatic 41, 3) := dk_178 0 41 (dk_at dksX5_go_4 0 rfl rfl)
theorem dX5_go_95 : decode cX5_go 95 = .ok (.putfield 47, 3) := dk_181 0 47 (dk_at dksX5_go_4 3 rfl rfl)
theorem dX5_go_98 : decode cX5_go 98 = .ok (.goto 227, 3) := dk_167 0 227 (dk_at dksX5_go_4 6 rfl rfl)
theorem dX5_go_101 : decode cX5_go 101 = .ok (.iload_n 1, 1) := dk_27 (dk_at dksX5_go_4 9 rfl rfl)
theorem dX5_go_102 : decode cX5_go 102 = .ok (.invokestatic 50, 3) := dk_184 0 50 (dk_at dksX5_go_4 10 rfl rfl)
theorem dX5_go_105 : decode cX5_go 105 = .ok (.ifCond .eq 62, 3) := dk_153 0 62 (dk_at dksX5_go_4 13 rfl rfl)
theorem dX5_go_108 : decode cX5_go 108 = .ok (.aload_n 0, 1) := dk_42 (dk_at dksX5_go_4 16 rfl rfl)
theorem dX5_go_109 : decode cX5_go 109 = .ok (.getstatic 54, 3) := dk_178 0 54 (dk_at dksX5_go_4 17 rfl rfl)
theorem dX5_go_112 : decode cX5_go 112 = .ok (.putfield 47, 3) := dk_181 0 47 (dk_at dksX5_go_4 20 rfl rfl)
theorem dX5_go_115 : decode cX5_go 115 = .ok (.aload_n 0, 1) := dk_42 (dk_at dksX5_go_4 23 rfl rfl)
theorem dX5_go_116 : decode cX5_go 116 = .ok (.aload_n 0, 1) := dk_42 (dk_at dksX5_go_5 0 rfl rfl)
theorem dX5_go_117 : decode cX5_go 117 = .ok (.getfield 28, 3) := dk_180 0 28 (dk_at dksX5_go_5 1 rfl rfl)
theorem dX5_go_120 : decode cX5_go 120 = .ok (.invokevirtual 34, 3) := dk_182 0 34 (dk_at dksX5_go_5 4 rfl rfl)
theorem dX5_go_123 : decode cX5_go 123 = .ok (.invokestatic 50, 3) := dk_184 0 50 (dk_at dksX5_go_5 7 rfl rfl)
theorem dX5_go_126 : decode cX5_go 126 = .ok (.ifCond .eq 16, 3) := dk_153 0 16 (dk_at dksX5_go_5 10 rfl rfl)
theorem dX5_go_129 : decode cX5_go 129 = .ok (.aload_n 0, 1) := dk_42 (dk_at dksX5_go_5 13 rfl rfl)
theorem dX5_go_130 : decode cX5_go 130 = .ok (.dup, 1) := dk_89 (dk_at dksX5_go_5 14 rfl rfl)
theorem dX5_go_131 : decode cX5_go 131 = .ok (.getfield 28, 3) := dk_180 0 28 (dk_at dksX5_go_5 15 rfl rfl)
theorem dX5_go_134 : decode cX5_go 134 = .ok (.iconst 1, 1) := dk_4 (dk_at dksX5_go_5 18 rfl rfl)
theorem dX5_go_135 : decode cX5_go 135 = .ok (.iadd, 1) := dk_96 (dk_at dksX5_go_5 19 rfl rfl)
theorem dX5_go_136 : decode cX5_go 136 = .ok (.putfield 28, 3) := dk_181 0 28 (dk_at dksX5_go_5 20 rfl rfl)
theorem dX5_go_139 : decode cX5_go 139 = .ok (.goto (-24), 3) := dk_167 255 232 (dk_at dksX5_go_6 0 rfl rfl)
theorem dX5_go_142 : decode cX5_go 142 = .ok (.aload_n 0, 1) := dk_42 (dk_at dksX5_go_6 3 rfl rfl)
theorem dX5_go_143 : decode cX5_go 143 = .ok (.getfield 28, 3) := dk_180 0 28 (dk_at dksX5_go_6 4 rfl rfl)
theorem dX5_go_146 : decode cX5_go 146 = .ok (.aload_n 0, 1) := dk_42 (dk_at dksX5_go_6 7 rfl rfl)
theorem dX5_go_147 : decode cX5_go 147 = .ok (.getfield 31, 3) := dk_180 0 31 (dk_at dksX5_go_6 8 rfl rfl)
theorem dX5_go_150 : decode cX5_go 150 = .ok (.isub, 1) := dk_100 (dk_at dksX5_go_6 11 rfl rfl)
theorem dX5_go_151 : decode cX5_go 151 = .ok (.bipush 8, 2) := dk_16 8 (dk_at dksX5_go_6 12 rfl rfl)
theorem dX5_go_153 : decode cX5_go 153 = .ok (.if_icmp .gt 172, 3) := dk_163 0 172 (dk_at dksX5_go_6 14 rfl rfl)
theorem dX5_go_156 : decode cX5_go 156 = .ok (.aload_n 0, 1) := dk_42 (dk_at dksX5_go_6 17 rfl rfl)
theorem dX5_go_157 : decode cX5_go 157 = .ok (.aload_n 0, 1) := dk_42 (dk_at dksX5_go_6 18 rfl rfl)
theorem dX5_go_158 : decode cX5_go 158 = .ok (.invokevirtual 57, 3) := dk_182 0 57 (dk_at dksX5_go_6 19 rfl rfl)
theorem dX5_go_161 : decode cX5_go 161 = .ok (.putfield 11, 3) := dk_181 0 11 (dk_at dksX5_go_7 0 rfl rfl)
theorem dX5_go_164 : decode cX5_go 164 = .ok (.goto 161, 3) := dk_167 0 161 (dk_at dksX5_go_7 3 rfl rfl)
theorem dX5_go_167 : decode cX5_go 167 = .ok (.iload_n 1, 1) := dk_27 (dk_at dksX5_go_7 6 rfl rfl)
theorem dX5_go_168 : decode cX5_go 168 = .ok (.invokestatic 61, 3) := dk_184 0 61 (dk_at dksX5_go_7 7 rfl rfl)
theorem dX5_go_171 : decode cX5_go 171 = .ok (.ifCond .eq 74, 3) := dk_153 0 74 (dk_at dksX5_go_7 10 rfl rfl)
theorem dX5_go_174 : decode cX5_go 174 = .ok (.aload_n 0, 1) := dk_42 (dk_at dksX5_go_7 13 rfl rfl)
theorem dX5_go_175 : decode cX5_go 175 = .ok (.getstatic 64, 3) := dk_178 0 64 (dk_at dksX5_go_7 14 rfl rfl)
theorem dX5_go_178 : decode cX5_go 178 = .ok (.putfield 47, 3) := dk_181 0 47 (dk_at dksX5_go_7 17 rfl rfl)
theorem dX5_go_181 : decode cX5_go 181 = .ok (.aload_n 0, 1) := dk_42 (dk_at dksX5_go_7 20 rfl rfl)
theorem dX5_go_182 : decode cX5_go 182 = .ok (.lconst 0, 1) := dk_9 (dk_at dksX5_go_7 21 rfl rfl)
theorem dX5_go_183 : decode cX5_go 183 = .ok (.putfield 67, 3) := dk_181 0 67 (dk_at dksX5_go_8 0 rfl rfl)
theorem dX5_go_186 : decode cX5_go 186 = .ok (.aload_n 0, 1) := dk_42 (dk_at dksX5_go_8 3 rfl rfl)
theorem dX5_go_187 : decode cX5_go 187 = .ok (.aload_n 0, 1) := dk_42 (dk_at dksX5_go_8 4 rfl rfl)
theorem dX5_go_188 : decode cX5_go 188 = .ok (.getfield 28, 3) := dk_180 0 28 (dk_at dksX5_go_8 5 rfl rfl)
theorem dX5_go_191 : decode cX5_go 191 = .ok (.invokevirtual 34, 3) := dk_182 0 34 (dk_at dksX5_go_8 8 rfl rfl)
theorem dX5_go_194 : decode cX5_go 194 = .ok (.invokestatic 61, 3) := dk_184 0 61 (dk_at dksX5_go_8 11 rfl rfl)
theorem dX5_go_197 : decode cX5_go 197 = .ok (.ifCond .eq 128, 3) := dk_153 0 128 (dk_at dksX5_go_8 14 rfl rfl)
theorem dX5_go_200 : decode cX5_go 200 = .ok (.aload_n 0, 1) := dk_42 (dk_at dksX5_go_8 17 rfl rfl)
theorem dX5_go_201 : decode cX5_go 201 = .ok (.ldc2_w 71, 3) := dk_20 0 71 (dk_at dksX5_go_8 18 rfl rfl)
theorem dX5_go_204 : decode cX5_go 204 = .ok (.aload_n 0, 1) := dk_42 (dk_at dksX5_go_8 21 rfl rfl)
theorem dX5_go_205 : decode cX5_go 205 = .ok (.getfield 67, 3) := dk_180 0 67 (dk_at dksX5_go_9 0 rfl rfl)
theorem dX5_go_208 : decode cX5_go 208 = .ok (.lmul, 1) := dk_105 (dk_at dksX5_go_9 3 rfl rfl)
theorem dX5_go_209 : decode cX5_go 209 = .ok (.aload_n 0, 1) := dk_42 (dk_at dksX5_go_9 4 rfl rfl)
theorem dX5_go_210 : decode cX5_go 210 = .ok (.aload_n 0, 1) := dk_42 (dk_at dksX5_go_9 5 rfl rfl)
theorem dX5_go_211 : decode cX5_go 211 = .ok (.getfield 28, 3) := dk_180 0 28 (dk_at dksX5_go_9 6 rfl rfl)
theorem dX5_go_214 : decode cX5_go 214 = .ok (.invokevirtual 34, 3) := dk_182 0 34 (dk_at dksX5_go_9 9 rfl rfl)
theorem dX5_go_217 : decode cX5_go 217 = .ok (.i2l, 1) := dk_133 (dk_at dksX5_go_9 12 rfl rfl)
theorem dX5_go_218 : decode cX5_go 218 = .ok (.ladd, 1) := dk_97 (dk_at dksX5_go_9 13 rfl rfl)
theorem dX5_go_219 : decode cX5_go 219 = .ok (.ldc2_w 73, 3) := dk_20 0 73 (dk_at dksX5_go_9 14 rfl rfl)
theorem dX5_go_222 : decode cX5_go 222 = .ok (.lsub, 1) := dk_101 (dk_at dksX5_go_9 17 rfl rfl)
theorem dX5_go_223 : decode cX5_go 223 = .ok (.ldc2_w 75, 3) := dk_20 0 75 (dk_at dksX5_go_9 18 rfl rfl)
theorem dX5_go_226 : decode cX5_go 226 = .ok (.invokestatic 77, 3) := dk_184 0 77 (dk_at dksX5_go_9 21 rfl rfl)
theorem dX5_go_229 : decode cX5_go 229 = .ok (.putfield 67, 3) := dk_181 0 67 (dk_at dksX5_go_10 0 rfl rfl)
theorem dX5_go_232 : decode cX5_go 232 = .ok (.aload_n 0, 1) := dk_42 (dk_at dksX5_go_10 3 rfl rfl)
theorem dX5_go_233 : decode cX5_go 233 = .ok (.dup, 1) := dk_89 (dk_at dksX5_go_10 4 rfl rfl)
theorem dX5_go_234 : decode cX5_go 234 = .ok (.getfield 28, 3) := dk_180 0 28 (dk_at dksX5_go_10 5 rfl rfl)
theorem dX5_go_237 : decode cX5_go 237 = .ok (.iconst 1, 1) := dk_4 (dk_at dksX5_go_10 8 rfl rfl)
theorem dX5_go_238 : decode cX5_go 238 = .ok (.iadd, 1) := dk_96 (dk_at dksX5_go_10 9 rfl rfl)
theorem dX5_go_239 : decode cX5_go 239 = .ok (.putfield 28, 3) := dk_181 0 28 (dk_at dksX5_go_10 10 rfl rfl)
theorem dX5_go_242 : decode cX5_go 242 = .ok (.goto (-56), 3) := dk_167 255 200 (dk_at dksX5_go_10 13 rfl rfl)
theorem dX5_go_245 : decode cX5_go 245 = .ok (.iload_n 1, 1) := dk_27 (dk_at dksX5_go_10 16 rfl rfl)
theorem dX5_go_246 : decode cX5_go 246 = .ok (.bipush 40, 2) := dk_16 40 (dk_at dksX5_go_10 17 rfl rfl)
theorem dX5_go_248 : decode cX5_go 248 = .ok (.if_icmp .eq 39, 3) := dk_159 0 39 (dk_at dksX5_go_10 19 rfl rfl)
theorem dX5_go_251 : decode cX5_go 251 = .ok (.iload_n 1, 1) := dk_27 (dk_at dksX5_go_10 22 rfl rfl)
theorem dX5_go_252 : decode cX5_go 252 = .ok (.bipush 41, 2) := dk_16 41 (dk_at dksX5_go_11 0 rfl rfl)
theorem dX5_go_254 : decode cX5_go 254 = .ok (.if_icmp .eq 33, 3) := dk_159 0 33 (dk_at dksX5_go_11 2 rfl rfl)
theorem dX5_go_257 : decode cX5_go 257 = .ok (.iload_n 1, 1) := dk_27 (dk_at dksX5_go_11 5 rfl rfl)
theorem dX5_go_258 : decode cX5_go 258 = .ok (.bipush 59, 2) := dk_16 59 (dk_at dksX5_go_11 6 rfl rfl)
theorem dX5_go_260 : decode cX5_go 260 = .ok (.if_icmp .eq 27, 3) := dk_159 0 27 (dk_at dksX5_go_11 8 rfl rfl)
theorem dX5_go_263 : decode cX5_go 263 = .ok (.iload_n 1, 1) := dk_27 (dk_at dksX5_go_11 11 rfl rfl)
theorem dX5_go_264 : decode cX5_go 264 = .ok (.bipush 47, 2) := dk_16 47 (dk_at dksX5_go_11 12 rfl rfl)
theorem dX5_go_266 : decode cX5_go 266 = .ok (.if_icmp .eq 21, 3) := dk_159 0 21 (dk_at dksX5_go_11 14 rfl rfl)
theorem dX5_go_269 : decode cX5_go 269 = .ok (.iload_n 1, 1) := dk_27 (dk_at dksX5_go_11 17 rfl rfl)
theorem dX5_go_270 : decode cX5_go 270 = .ok (.bipush 61, 2) := dk_16 61 (dk_at dksX5_go_11 18 rfl rfl)
theorem dX5_go_272 : decode cX5_go 272 = .ok (.if_icmp .eq 15, 3) := dk_159 0 15 (dk_at dksX5_go_11 20 rfl rfl)
theorem dX5_go_275 : decode cX5_go 275 = .ok (.iload_n 1, 1) := dk_27 (dk_at dksX5_go_11 23 rfl rfl)
theorem dX5_go_276 : decode cX5_go 276 = .ok (.bipush 60, 2) := dk_16 60 (dk_at dksX5_go_12 0 rfl rfl)
theorem dX5_go_278 : decode cX5_go 278 = .ok (.if_icmp .eq 9, 3) := dk_159 0 9 (dk_at dksX5_go_12 2 rfl rfl)
theorem dX5_go_281 : decode cX5_go 281 = .ok (.iload_n 1, 1) := dk_27 (dk_at dksX5_go_12 5 rfl rfl)
theorem dX5_go_282 : decode cX5_go 282 = .ok (.bipush 62, 2) := dk_16 62 (dk_at dksX5_go_12 6 rfl rfl)
theorem dX5_go_284 : decode cX5_go 284 = .ok (.if_icmp .ne 7, 3) := dk_160 0 7 (dk_at dksX5_go_12 8 rfl rfl)
theorem dX5_go_287 : decode cX5_go 287 = .ok (.iconst 1, 1) := dk_4 (dk_at dksX5_go_12 11 rfl rfl)
theorem dX5_go_288 : decode cX5_go 288 = .ok (.goto 4, 3) := dk_167 0 4 (dk_at dksX5_go_12 12 rfl rfl)
theorem dX5_go_291 : decode cX5_go 291 = .ok (.iconst 0, 1) := dk_3 (dk_at dksX5_go_12 15 rfl rfl)
theorem dX5_go_292 : decode cX5_go 292 = .ok (.istore_n 2, 1) := dk_61 (dk_at dksX5_go_12 16 rfl rfl)
theorem dX5_go_293 : decode cX5_go 293 = .ok (.aload_n 0, 1) := dk_42 (dk_at dksX5_go_12 17 rfl rfl)
theorem dX5_go_294 : decode cX5_go 294 = .ok (.iload_n 2, 1) := dk_28 (dk_at dksX5_go_12 18 rfl rfl)
theorem dX5_go_295 : decode cX5_go 295 = .ok (.ifCond .eq 9, 3) := dk_153 0 9 (dk_at dksX5_go_12 19 rfl rfl)
theorem dX5_go_298 : decode cX5_go 298 = .ok (.getstatic 83, 3) := dk_178 0 83 (dk_at dksX5_go_13 0 rfl rfl)
theorem dX5_go_301 : decode cX5_go 301 = .ok (.goto 6, 3) := dk_167 0 6 (dk_at dksX5_go_13 3 rfl rfl)
theorem dX5_go_304 : decode cX5_go 304 = .ok (.getstatic 86, 3) := dk_178 0 86 (dk_at dksX5_go_13 6 rfl rfl)
theorem dX5_go_307 : decode cX5_go 307 = .ok (.putfield 47, 3) := dk_181 0 47 (dk_at dksX5_go_13 9 rfl rfl)
theorem dX5_go_310 : decode cX5_go 310 = .ok (.aload_n 0, 1) := dk_42 (dk_at dksX5_go_13 12 rfl rfl)
theorem dX5_go_311 : decode cX5_go 311 = .ok (.iload_n 1, 1) := dk_27 (dk_at dksX5_go_13 13 rfl rfl)
theorem dX5_go_312 : decode cX5_go 312 = .ok (.putfield 38, 3) := dk_181 0 38 (dk_at dksX5_go_13 14 rfl rfl)
theorem dX5_go_315 : decode cX5_go 315 = .ok (.aload_n 0, 1) := dk_42 (dk_at dksX5_go_13 17 rfl rfl)
theorem dX5_go_316 : decode cX5_go 316 = .ok (.dup, 1) := dk_89 (dk_at dksX5_go_13 18 rfl rfl)
theorem dX5_go_317 : decode cX5_go 317 = .ok (.getfield 28, 3) := dk_180 0 28 (dk_at dksX5_go_13 19 rfl rfl)
theorem dX5_go_320 : decode cX5_go 320 = .ok (.iconst 1, 1) := dk_4 (dk_at dksX5_go_13 22 rfl rfl)
theorem dX5_go_321 : decode cX5_go 321 = .ok (.iadd, 1) := dk_96 (dk_at dksX5_go_13 23 rfl rfl)
theorem dX5_go_322 : decode cX5_go 322 = .ok (.putfield 28, 3) := dk_181 0 28 (dk_at dksX5_go_14 0 rfl rfl)
theorem dX5_go_325 : decode cX5_go 325 = .ok (.return_, 1) := dk_177 (dk_at dksX5_go_14 3 rfl rfl)
abbrev cX5_at : ByteArray := prog_21_method_2_code
def yX5_at : MethodName := ⟨RX5, "at", "(I)I"⟩
def dkwX5_at_0 : List UInt8 := [27, 42, 180, 0, 21, 162, 0, 12, 42, 180, 0, 17, 27, 51, 167, 0, 4, 3, 172]
abbrev dktX5_at_0 : List UInt8 := dkwX5_at_0 ++ []
theorem dksX5_at_0 : cX5_at.data.toList.drop 0 = dktX5_at_0 := by decide +kernel
theorem dX5_at_0 : decode cX5_at 0 = .ok (.iload_n 1, 1) := dk_27 (dk_at dksX5_at_0 0 rfl rfl)
theorem dX5_at_1 : decode cX5_at 1 = .ok (.aload_n 0, 1) := dk_42 (dk_at dksX5_at_0 1 rfl rfl)
theorem dX5_at_2 : decode cX5_at 2 = .ok (.getfield 21, 3) := dk_180 0 21 (dk_at dksX5_at_0 2 rfl rfl)
theorem dX5_at_5 : decode cX5_at 5 = .ok (.if_icmp .ge 12, 3) := dk_162 0 12 (dk_at dksX5_at_0 5 rfl rfl)
theorem dX5_at_8 : decode cX5_at 8 = .ok (.aload_n 0, 1) := dk_42 (dk_at dksX5_at_0 8 rfl rfl)
theorem dX5_at_9 : decode cX5_at 9 = .ok (.getfield 17, 3) := dk_180 0 17 (dk_at dksX5_at_0 9 rfl rfl)
theorem dX5_at_12 : decode cX5_at 12 = .ok (.iload_n 1, 1) := dk_27 (dk_at dksX5_at_0 12 rfl rfl)
theorem dX5_at_13 : decode cX5_at 13 = .ok (.baload, 1) := dk_51 (dk_at dksX5_at_0 13 rfl rfl)
theorem dX5_at_14 : decode cX5_at 14 = .ok (.goto 4, 3) := dk_167 0 4 (dk_at dksX5_at_0 14 rfl rfl)
theorem dX5_at_17 : decode cX5_at 17 = .ok (.iconst 0, 1) := dk_3 (dk_at dksX5_at_0 17 rfl rfl)
theorem dX5_at_18 : decode cX5_at 18 = .ok (.ireturn, 1) := dk_172 (dk_at dksX5_at_0 18 rfl rfl)
abbrev cX5_isSmall : ByteArray := prog_21_method_3_code
def yX5_isSmall : MethodName := ⟨RX5, "isSmall", "(I)Z"⟩
def dkwX5_isSmall_0 : List UInt8 := [26, 16, 97, 161, 0, 13, 26, 16, 122, 163, 0, 7, 4, 167, 0, 4, 3, 172]
abbrev dktX5_isSmall_0 : List UInt8 := dkwX5_isSmall_0 ++ []
theorem dksX5_isSmall_0 : cX5_isSmall.data.toList.drop 0 = dktX5_isSmall_0 := by decide +kernel
theorem dX5_isSmall_0 : decode cX5_isSmall 0 = .ok (.iload_n 0, 1) := dk_26 (dk_at dksX5_isSmall_0 0 rfl rfl)
theorem dX5_isSmall_1 : decode cX5_isSmall 1 = .ok (.bipush 97, 2) := dk_16 97 (dk_at dksX5_isSmall_0 1 rfl rfl)
theorem dX5_isSmall_3 : decode cX5_isSmall 3 = .ok (.if_icmp .lt 13, 3) := dk_161 0 13 (dk_at dksX5_isSmall_0 3 rfl rfl)
theorem dX5_isSmall_6 : decode cX5_isSmall 6 = .ok (.iload_n 0, 1) := dk_26 (dk_at dksX5_isSmall_0 6 rfl rfl)
theorem dX5_isSmall_7 : decode cX5_isSmall 7 = .ok (.bipush 122, 2) := dk_16 122 (dk_at dksX5_isSmall_0 7 rfl rfl)
theorem dX5_isSmall_9 : decode cX5_isSmall 9 = .ok (.if_icmp .gt 7, 3) := dk_163 0 7 (dk_at dksX5_isSmall_0 9 rfl rfl)
theorem dX5_isSmall_12 : decode cX5_isSmall 12 = .ok (.iconst 1, 1) := dk_4 (dk_at dksX5_isSmall_0 12 rfl rfl)
theorem dX5_isSmall_13 : decode cX5_isSmall 13 = .ok (.goto 4, 3) := dk_167 0 4 (dk_at dksX5_isSmall_0 13 rfl rfl)
theorem dX5_isSmall_16 : decode cX5_isSmall 16 = .ok (.iconst 0, 1) := dk_3 (dk_at dksX5_isSmall_0 16 rfl rfl)
theorem dX5_isSmall_17 : decode cX5_isSmall 17 = .ok (.ireturn, 1) := dk_172 (dk_at dksX5_isSmall_0 17 rfl rfl)
abbrev cX5_string : ByteArray := prog_21_method_6_code
def yX5_string : MethodName := ⟨RX5, "string", "()Ljava/lang/String;"⟩
def dkwX5_string_1 : List UInt8 := [180, 0, 17, 28, 51, 146, 182, 0, 92, 87, 132, 2, 1, 167, 255, 233, 43, 182, 0, 96, 176]
abbrev dktX5_string_1 : List UInt8 := dkwX5_string_1 ++ []
def dkwX5_string_0 : List UInt8 := [187, 0, 89, 89, 183, 0, 91, 76, 42, 180, 0, 31, 61, 28, 42, 180, 0, 28, 162, 0, 21, 43, 42]
abbrev dktX5_string_0 : List UInt8 := dkwX5_string_0 ++ dktX5_string_1
theorem dksX5_string_0 : cX5_string.data.toList.drop 0 = dktX5_string_0 := by decide +kernel
theorem dksX5_string_1 : cX5_string.data.toList.drop 23 = dktX5_string_1 := dk_seg dksX5_string_0 23 rfl rfl
theorem dX5_string_0 : decode cX5_string 0 = .ok (.new 89, 3) := dk_187 0 89 (dk_at dksX5_string_0 0 rfl rfl)
theorem dX5_string_3 : decode cX5_string 3 = .ok (.dup, 1) := dk_89 (dk_at dksX5_string_0 3 rfl rfl)
theorem dX5_string_4 : decode cX5_string 4 = .ok (.invokespecial 91, 3) := dk_183 0 91 (dk_at dksX5_string_0 4 rfl rfl)
theorem dX5_string_7 : decode cX5_string 7 = .ok (.astore_n 1, 1) := dk_76 (dk_at dksX5_string_0 7 rfl rfl)
theorem dX5_string_8 : decode cX5_string 8 = .ok (.aload_n 0, 1) := dk_42 (dk_at dksX5_string_0 8 rfl rfl)
theorem dX5_string_9 : decode cX5_string 9 = .ok (.getfield 31, 3) := dk_180 0 31 (dk_at dksX5_string_0 9 rfl rfl)
theorem dX5_string_12 : decode cX5_string 12 = .ok (.istore_n 2, 1) := dk_61 (dk_at dksX5_string_0 12 rfl rfl)
theorem dX5_string_13 : decode cX5_string 13 = .ok (.iload_n 2, 1) := dk_28 (dk_at dksX5_string_0 13 rfl rfl)
theorem dX5_string_14 : decode cX5_string 14 = .ok (.aload_n 0, 1) := dk_42 (dk_at dksX5_string_0 14 rfl rfl)
theorem dX5_string_15 : decode cX5_string 15 = .ok (.getfield 28, 3) := dk_180 0 28 (dk_at dksX5_string_0 15 rfl rfl)
theorem dX5_string_18 : decode cX5_string 18 = .ok (.if_icmp .ge 21, 3) := dk_162 0 21 (dk_at dksX5_string_0 18 rfl rfl)
theorem dX5_string_21 : decode cX5_string 21 = .ok (.aload_n 1, 1) := dk_43 (dk_at dksX5_string_0 21 rfl rfl)
theorem dX5_string_22 : decode cX5_string 22 = .ok (.aload_n 0, 1) := dk_42 (dk_at dksX5_string_0 22 rfl rfl)
theorem dX5_string_23 : decode cX5_string 23 = .ok (.getfield 17, 3) := dk_180 0 17 (dk_at dksX5_string_1 0 rfl rfl)
theorem dX5_string_26 : decode cX5_string 26 = .ok (.iload_n 2, 1) := dk_28 (dk_at dksX5_string_1 3 rfl rfl)
theorem dX5_string_27 : decode cX5_string 27 = .ok (.baload, 1) := dk_51 (dk_at dksX5_string_1 4 rfl rfl)
theorem dX5_string_28 : decode cX5_string 28 = .ok (.i2c, 1) := dk_146 (dk_at dksX5_string_1 5 rfl rfl)
theorem dX5_string_29 : decode cX5_string 29 = .ok (.invokevirtual 92, 3) := dk_182 0 92 (dk_at dksX5_string_1 6 rfl rfl)
theorem dX5_string_32 : decode cX5_string 32 = .ok (.pop, 1) := dk_87 (dk_at dksX5_string_1 9 rfl rfl)
theorem dX5_string_33 : decode cX5_string 33 = .ok (.iinc 2 1, 3) := dk_132 2 1 (dk_at dksX5_string_1 10 rfl rfl)
theorem dX5_string_36 : decode cX5_string 36 = .ok (.goto (-23), 3) := dk_167 255 233 (dk_at dksX5_string_1 13 rfl rfl)
theorem dX5_string_39 : decode cX5_string 39 = .ok (.aload_n 1, 1) := dk_43 (dk_at dksX5_string_1 16 rfl rfl)
theorem dX5_string_40 : decode cX5_string 40 = .ok (.invokevirtual 96, 3) := dk_182 0 96 (dk_at dksX5_string_1 17 rfl rfl)
theorem dX5_string_43 : decode cX5_string 43 = .ok (.areturn, 1) := dk_176 (dk_at dksX5_string_1 20 rfl rfl)
abbrev cX5_isDigit : ByteArray := prog_21_method_4_code
def yX5_isDigit : MethodName := ⟨RX5, "isDigit", "(I)Z"⟩
def dkwX5_isDigit_0 : List UInt8 := [26, 16, 48, 161, 0, 13, 26, 16, 57, 163, 0, 7, 4, 167, 0, 4, 3, 172]
abbrev dktX5_isDigit_0 : List UInt8 := dkwX5_isDigit_0 ++ []
theorem dksX5_isDigit_0 : cX5_isDigit.data.toList.drop 0 = dktX5_isDigit_0 := by decide +kernel
theorem dX5_isDigit_0 : decode cX5_isDigit 0 = .ok (.iload_n 0, 1) := dk_26 (dk_at dksX5_isDigit_0 0 rfl rfl)
theorem dX5_isDigit_1 : decode cX5_isDigit 1 = .ok (.bipush 48, 2) := dk_16 48 (dk_at dksX5_isDigit_0 1 rfl rfl)
theorem dX5_isDigit_3 : decode cX5_isDigit 3 = .ok (.if_icmp .lt 13, 3) := dk_161 0 13 (dk_at dksX5_isDigit_0 3 rfl rfl)
theorem dX5_isDigit_6 : decode cX5_isDigit 6 = .ok (.iload_n 0, 1) := dk_26 (dk_at dksX5_isDigit_0 6 rfl rfl)
theorem dX5_isDigit_7 : decode cX5_isDigit 7 = .ok (.bipush 57, 2) := dk_16 57 (dk_at dksX5_isDigit_0 7 rfl rfl)
theorem dX5_isDigit_9 : decode cX5_isDigit 9 = .ok (.if_icmp .gt 7, 3) := dk_163 0 7 (dk_at dksX5_isDigit_0 9 rfl rfl)
theorem dX5_isDigit_12 : decode cX5_isDigit 12 = .ok (.iconst 1, 1) := dk_4 (dk_at dksX5_isDigit_0 12 rfl rfl)
theorem dX5_isDigit_13 : decode cX5_isDigit 13 = .ok (.goto 4, 3) := dk_167 0 4 (dk_at dksX5_isDigit_0 13 rfl rfl)
theorem dX5_isDigit_16 : decode cX5_isDigit 16 = .ok (.iconst 0, 1) := dk_3 (dk_at dksX5_isDigit_0 16 rfl rfl)
theorem dX5_isDigit_17 : decode cX5_isDigit 17 = .ok (.ireturn, 1) := dk_172 (dk_at dksX5_isDigit_0 17 rfl rfl)
abbrev cX5_act : ByteArray := prog_21_method_13_code
def yX5_act : MethodName := ⟨RX5, "act", "(I)LTurnpikeTrust$Act;"⟩
def dkwX5_act_1 : List UInt8 := [44, 180, 0, 128, 182, 0, 132, 182, 0, 137, 182, 0, 141, 87, 167, 255, 227, 44, 176]
abbrev dktX5_act_1 : List UInt8 := dkwX5_act_1 ++ []
def dkwX5_act_0 : List UInt8 := [187, 0, 123, 89, 27, 183, 0, 125, 77, 42, 180, 0, 47, 178, 0, 41, 165, 0, 25, 44, 180, 0, 128, 42]
abbrev dktX5_act_0 : List UInt8 := dkwX5_act_0 ++ dktX5_act_1
theorem dksX5_act_0 : cX5_act.data.toList.drop 0 = dktX5_act_0 := by decide +kernel
theorem dksX5_act_1 : cX5_act.data.toList.drop 24 = dktX5_act_1 := dk_seg dksX5_act_0 24 rfl rfl
theorem dX5_act_0 : decode cX5_act 0 = .ok (.new 123, 3) := dk_187 0 123 (dk_at dksX5_act_0 0 rfl rfl)
theorem dX5_act_3 : decode cX5_act 3 = .ok (.dup, 1) := dk_89 (dk_at dksX5_act_0 3 rfl rfl)
theorem dX5_act_4 : decode cX5_act 4 = .ok (.iload_n 1, 1) := dk_27 (dk_at dksX5_act_0 4 rfl rfl)
theorem dX5_act_5 : decode cX5_act 5 = .ok (.invokespecial 125, 3) := dk_183 0 125 (dk_at dksX5_act_0 5 rfl rfl)
theorem dX5_act_8 : decode cX5_act 8 = .ok (.astore_n 2, 1) := dk_77 (dk_at dksX5_act_0 8 rfl rfl)
theorem dX5_act_9 : decode cX5_act 9 = .ok (.aload_n 0, 1) := dk_42 (dk_at dksX5_act_0 9 rfl rfl)
theorem dX5_act_10 : decode cX5_act 10 = .ok (.getfield 47, 3) := dk_180 0 47 (dk_at dksX5_act_0 10 rfl rfl)
theorem dX5_act_13 : decode cX5_act 13 = .ok (.getstatic 41, 3) := dk_178 0 41 (dk_at dksX5_act_0 13 rfl rfl)
theorem dX5_act_16 : decode cX5_act 16 = .ok (.if_acmp .eq 25, 3) := dk_165 0 25 (dk_at dksX5_act_0 16 rfl rfl)
theorem dX5_act_19 : decode cX5_act 19 = .ok (.aload_n 2, 1) := dk_44 (dk_at dksX5_act_0 19 rfl rfl)
theorem dX5_act_20 : decode cX5_act 20 = .ok (.getfield 128, 3) := dk_180 0 128 (dk_at dksX5_act_0 20 rfl rfl)
theorem dX5_act_23 : decode cX5_act 23 = .ok (.aload_n 0, 1) := dk_42 (dk_at dksX5_act_0 23 rfl rfl)
theorem dX5_act_24 : decode cX5_act 24 = .ok (.aload_n 2, 1) := dk_44 (dk_at dksX5_act_1 0 rfl rfl)
theorem dX5_act_25 : decode cX5_act 25 = .ok (.getfield 128, 3) := dk_180 0 128 (dk_at dksX5_act_1 1 rfl rfl)
theorem dX5_act_28 : decode cX5_act 28 = .ok (.invokevirtual 132, 3) := dk_182 0 132 (dk_at dksX5_act_1 4 rfl rfl)
theorem dX5_act_31 : decode cX5_act 31 = .ok (.invokevirtual 137, 3) := dk_182 0 137 (dk_at dksX5_act_1 7 rfl rfl)
theorem dX5_act_34 : decode cX5_act 34 = .ok (.invokevirtual 141, 3) := dk_182 0 141 (dk_at dksX5_act_1 10 rfl rfl)
theorem dX5_act_37 : decode cX5_act 37 = .ok (.pop, 1) := dk_87 (dk_at dksX5_act_1 13 rfl rfl)
theorem dX5_act_38 : decode cX5_act 38 = .ok (.goto (-29), 3) := dk_167 255 227 (dk_at dksX5_act_1 14 rfl rfl)
theorem dX5_act_41 : decode cX5_act 41 = .ok (.aload_n 2, 1) := dk_44 (dk_at dksX5_act_1 17 rfl rfl)
theorem dX5_act_42 : decode cX5_act 42 = .ok (.areturn, 1) := dk_176 (dk_at dksX5_act_1 18 rfl rfl)
abbrev cX5_clause : ByteArray := prog_21_method_14_code
def yX5_clause : MethodName := ⟨RX5, "clause", "(I)LTurnpikeTrust$Clause;"⟩
def dkwX5_clause_6 : List UInt8 := [182, 0, 171, 181, 0, 175, 42, 16, 59, 182, 0, 181, 25, 5, 176]
abbrev dktX5_clause_6 : List UInt8 := dkwX5_clause_6 ++ []
def dkwX5_clause_5 : List UInt8 := [42, 18, 161, 182, 0, 163, 183, 0, 166, 58, 5, 42, 18, 169, 182, 0, 163, 153, 0, 12, 25, 5, 42]
abbrev dktX5_clause_5 : List UInt8 := dkwX5_clause_5 ++ dktX5_clause_6
def dkwX5_clause_4 : List UInt8 := [182, 0, 155, 167, 0, 30, 21, 4, 153, 0, 11, 42, 27, 182, 0, 157, 167, 0, 17, 187, 0, 159, 89, 27]
abbrev dktX5_clause_4 : List UInt8 := dkwX5_clause_4 ++ dktX5_clause_5
def dkwX5_clause_3 : List UInt8 := [182, 0, 25, 28, 153, 0, 14, 187, 0, 152, 89, 27, 183, 0, 154, 167, 0, 42, 29, 153, 0, 11, 42, 27]
abbrev dktX5_clause_3 : List UInt8 := dkwX5_clause_3 ++ dktX5_clause_4
def dkwX5_clause_2 : List UInt8 := [182, 0, 117, 191, 27, 16, 40, 160, 0, 16, 187, 0, 99, 89, 6, 42, 180, 0, 31, 183, 0, 101, 191, 42]
abbrev dktX5_clause_2 : List UInt8 := dkwX5_clause_2 ++ dktX5_clause_3
def dkwX5_clause_1 : List UInt8 := [154, 0, 26, 29, 154, 0, 22, 21, 4, 154, 0, 17, 42, 18, 150, 182, 0, 110, 154, 0, 8, 42]
abbrev dktX5_clause_1 : List UInt8 := dkwX5_clause_1 ++ dktX5_clause_2
def dkwX5_clause_0 : List UInt8 := [42, 18, 144, 182, 0, 110, 61, 42, 18, 146, 182, 0, 110, 62, 42, 18, 148, 182, 0, 110, 54, 4, 28]
abbrev dktX5_clause_0 : List UInt8 := dkwX5_clause_0 ++ dktX5_clause_1
theorem dksX5_clause_0 : cX5_clause.data.toList.drop 0 = dktX5_clause_0 := by decide +kernel
theorem dksX5_clause_1 : cX5_clause.data.toList.drop 23 = dktX5_clause_1 := dk_seg dksX5_clause_0 23 rfl rfl
theorem dksX5_clause_2 : cX5_clause.data.toList.drop 45 = dktX5_clause_2 := dk_seg dksX5_clause_1 22 rfl rfl
theorem dksX5_clause_3 : cX5_clause.data.toList.drop 69 = dktX5_clause_3 := dk_seg dksX5_clause_2 24 rfl rfl
theorem dksX5_clause_4 : cX5_clause.data.toList.drop 93 = dktX5_clause_4 := dk_seg dksX5_clause_3 24 rfl rfl
theorem dksX5_clause_5 : cX5_clause.data.toList.drop 117 = dktX5_clause_5 := dk_seg dksX5_clause_4 24 rfl rfl
theorem dksX5_clause_6 : cX5_clause.data.toList.drop 140 = dktX5_clause_6 := dk_seg dksX5_clause_5 23 rfl rfl
theorem dX5_clause_0 : decode cX5_clause 0 = .ok (.aload_n 0, 1) := dk_42 (dk_at dksX5_clause_0 0 rfl rfl)
theorem dX5_clause_1 : decode cX5_clause 1 = .ok (.ldc 144, 2) := dk_18 144 (dk_at dksX5_clause_0 1 rfl rfl)
theorem dX5_clause_3 : decode cX5_clause 3 = .ok (.invokevirtual 110, 3) := dk_182 0 110 (dk_at dksX5_clause_0 3 rfl rfl)
theorem dX5_clause_6 : decode cX5_clause 6 = .ok (.istore_n 2, 1) := dk_61 (dk_at dksX5_clause_0 6 rfl rfl)
theorem dX5_clause_7 : decode cX5_clause 7 = .ok (.aload_n 0, 1) := dk_42 (dk_at dksX5_clause_0 7 rfl rfl)
theorem dX5_clause_8 : decode cX5_clause 8 = .ok (.ldc 146, 2) := dk_18 146 (dk_at dksX5_clause_0 8 rfl rfl)
theorem dX5_clause_10 : decode cX5_clause 10 = .ok (.invokevirtual 110, 3) := dk_182 0 110 (dk_at dksX5_clause_0 10 rfl rfl)
theorem dX5_clause_13 : decode cX5_clause 13 = .ok (.istore_n 3, 1) := dk_62 (dk_at dksX5_clause_0 13 rfl rfl)
theorem dX5_clause_14 : decode cX5_clause 14 = .ok (.aload_n 0, 1) := dk_42 (dk_at dksX5_clause_0 14 rfl rfl)
theorem dX5_clause_15 : decode cX5_clause 15 = .ok (.ldc 148, 2) := dk_18 148 (dk_at dksX5_clause_0 15 rfl rfl)
theorem dX5_clause_17 : decode cX5_clause 17 = .ok (.invokevirtual 110, 3) := dk_182 0 110 (dk_at dksX5_clause_0 17 rfl rfl)
theorem dX5_clause_20 : decode cX5_clause 20 = .ok (.istore 4, 2) := dk_54 4 (dk_at dksX5_clause_0 20 rfl rfl)
theorem dX5_clause_22 : decode cX5_clause 22 = .ok (.iload_n 2, 1) := dk_28 (dk_at dksX5_clause_0 22 rfl rfl)
theorem dX5_clause_23 : decode cX5_clause 23 = .ok (.ifCond .ne 26, 3) := dk_154 0 26 (dk_at dksX5_clause_1 0 rfl rfl)
theorem dX5_clause_26 : decode cX5_clause 26 = .ok (.iload_n 3, 1) := dk_29 (dk_at dksX5_clause_1 3 rfl rfl)
theorem dX5_clause_27 : decode cX5_clause 27 = .ok (.ifCond .ne 22, 3) := dk_154 0 22 (dk_at dksX5_clause_1 4 rfl rfl)
theorem dX5_clause_30 : decode cX5_clause 30 = .ok (.iload 4, 2) := dk_21 4 (dk_at dksX5_clause_1 7 rfl rfl)
theorem dX5_clause_32 : decode cX5_clause 32 = .ok (.ifCond .ne 17, 3) := dk_154 0 17 (dk_at dksX5_clause_1 9 rfl rfl)
theorem dX5_clause_35 : decode cX5_clause 35 = .ok (.aload_n 0, 1) := dk_42 (dk_at dksX5_clause_1 12 rfl rfl)
theorem dX5_clause_36 : decode cX5_clause 36 = .ok (.ldc 150, 2) := dk_18 150 (dk_at dksX5_clause_1 13 rfl rfl)
theorem dX5_clause_38 : decode cX5_clause 38 = .ok (.invokevirtual 110, 3) := dk_182 0 110 (dk_at dksX5_clause_1 15 rfl rfl)
theorem dX5_clause_41 : decode cX5_clause 41 = .ok (.ifCond .ne 8, 3) := dk_154 0 8 (dk_at dksX5_clause_1 18 rfl rfl)
theorem dX5_clause_44 : decode cX5_clause 44 = .ok (.aload_n 0, 1) := dk_42 (dk_at dksX5_clause_1 21 rfl rfl)
theorem dX5_clause_45 : decode cX5_clause 45 = .ok (.invokevirtual 117, 3) := dk_182 0 117 (dk_at dksX5_clause_2 0 rfl rfl)
theorem dX5_clause_48 : decode cX5_clause 48 = .ok (.athrow, 1) := dk_191 (dk_at dksX5_clause_2 3 rfl rfl)
theorem dX5_clause_49 : decode cX5_clause 49 = .ok (.iload_n 1, 1) := dk_27 (dk_at dksX5_clause_2 4 rfl rfl)
theorem dX5_clause_50 : decode cX5_clause 50 = .ok (.bipush 40, 2) := dk_16 40 (dk_at dksX5_clause_2 5 rfl rfl)
theorem dX5_clause_52 : decode cX5_clause 52 = .ok (.if_icmp .ne 16, 3) := dk_160 0 16 (dk_at dksX5_clause_2 7 rfl rfl)
theorem dX5_clause_55 : decode cX5_clause 55 = .ok (.new 99, 3) := dk_187 0 99 (dk_at dksX5_clause_2 10 rfl rfl)
theorem dX5_clause_58 : decode cX5_clause 58 = .ok (.dup, 1) := dk_89 (dk_at dksX5_clause_2 13 rfl rfl)
theorem dX5_clause_59 : decode cX5_clause 59 = .ok (.iconst 3, 1) := dk_6 (dk_at dksX5_clause_2 14 rfl rfl)
theorem dX5_clause_60 : decode cX5_clause 60 = .ok (.aload_n 0, 1) := dk_42 (dk_at dksX5_clause_2 15 rfl rfl)
theorem dX5_clause_61 : decode cX5_clause 61 = .ok (.getfield 31, 3) := dk_180 0 31 (dk_at dksX5_clause_2 16 rfl rfl)
theorem dX5_clause_64 : decode cX5_clause 64 = .ok (.invokespecial 101, 3) := dk_183 0 101 (dk_at dksX5_clause_2 19 rfl rfl)
theorem dX5_clause_67 : decode cX5_clause 67 = .ok (.athrow, 1) := dk_191 (dk_at dksX5_clause_2 22 rfl rfl)
theorem dX5_clause_68 : decode cX5_clause 68 = .ok (.aload_n 0, 1) := dk_42 (dk_at dksX5_clause_2 23 rfl rfl)
theorem dX5_clause_69 : decode cX5_clause 69 = .ok (.invokevirtual 25, 3) := dk_182 0 25 (dk_at dksX5_clause_3 0 rfl rfl)
theorem dX5_clause_72 : decode cX5_clause 72 = .ok (.iload_n 2, 1) := dk_28 (dk_at dksX5_clause_3 3 rfl rfl)
theorem dX5_clause_73 : decode cX5_clause 73 = .ok (.ifCond .eq 14, 3) := dk_153 0 14 (dk_at dksX5_clause_3 4 rfl rfl)
theorem dX5_clause_76 : decode cX5_clause 76 = .ok (.new 152, 3) := dk_187 0 152 (dk_at dksX5_clause_3 7 rfl rfl)
theorem dX5_clause_79 : decode cX5_clause 79 = .ok (.dup, 1) := dk_89 (dk_at dksX5_clause_3 10 rfl rfl)
theorem dX5_clause_80 : decode cX5_clause 80 = .ok (.iload_n 1, 1) := dk_27 (dk_at dksX5_clause_3 11 rfl rfl)
theorem dX5_clause_81 : decode cX5_clause 81 = .ok (.invokespecial 154, 3) := dk_183 0 154 (dk_at dksX5_clause_3 12 rfl rfl)
theorem dX5_clause_84 : decode cX5_clause 84 = .ok (.goto 42, 3) := dk_167 0 42 (dk_at dksX5_clause_3 15 rfl rfl)
theorem dX5_clause_87 : decode cX5_clause 87 = .ok (.iload_n 3, 1) := dk_29 (dk_at dksX5_clause_3 18 rfl rfl)
theorem dX5_clause_88 : decode cX5_clause 88 = .ok (.ifCond .eq 11, 3) := dk_153 0 11 (dk_at dksX5_clause_3 19 rfl rfl)
theorem dX5_clause_91 : decode cX5_clause 91 = .ok (.aload_n 0, 1) := dk_42 (dk_at dksX5_clause_3 22 rfl rfl)
theorem dX5_clause_92 : decode cX5_clause 92 = .ok (.iload_n 1, 1) := dk_27 (dk_at dksX5_clause_3 23 rfl rfl)
theorem dX5_clause_93 : decode cX5_clause 93 = .ok (.invokevirtual 155, 3) := dk_182 0 155 (dk_at dksX5_clause_4 0 rfl rfl)
theorem dX5_clause_96 : decode cX5_clause 96 = .ok (.goto 30, 3) := dk_167 0 30 (dk_at dksX5_clause_4 3 rfl rfl)
theorem dX5_clause_99 : decode cX5_clause 99 = .ok (.iload 4, 2) := dk_21 4 (dk_at dksX5_clause_4 6 rfl rfl)
theorem dX5_clause_101 : decode cX5_clause 101 = .ok (.ifCond .eq 11, 3) := dk_153 0 11 (dk_at dksX5_clause_4 8 rfl rfl)
theorem dX5_clause_104 : decode cX5_clause 104 = .ok (.aload_n 0, 1) := dk_42 (dk_at dksX5_clause_4 11 rfl rfl)
theorem dX5_clause_105 : decode cX5_clause 105 = .ok (.iload_n 1, 1) := dk_27 (dk_at dksX5_clause_4 12 rfl rfl)
theorem dX5_clause_106 : decode cX5_clause 106 = .ok (.invokevirtual 157, 3) := dk_182 0 157 (dk_at dksX5_clause_4 13 rfl rfl)
theorem dX5_clause_109 : decode cX5_clause 109 = .ok (.goto 17, 3) := dk_167 0 17 (dk_at dksX5_clause_4 16 rfl rfl)
theorem dX5_clause_112 : decode cX5_clause 112 = .ok (.new 159, 3) := dk_187 0 159 (dk_at dksX5_clause_4 19 rfl rfl)
theorem dX5_clause_115 : decode cX5_clause 115 = .ok (.dup, 1) := dk_89 (dk_at dksX5_clause_4 22 rfl rfl)
theorem dX5_clause_116 : decode cX5_clause 116 = .ok (.iload_n 1, 1) := dk_27 (dk_at dksX5_clause_4 23 rfl rfl)
theorem dX5_clause_117 : decode cX5_clause 117 = .ok (.aload_n 0, 1) := dk_42 (dk_at dksX5_clause_5 0 rfl rfl)
theorem dX5_clause_118 : decode cX5_clause 118 = .ok (.ldc 161, 2) := dk_18 161 (dk_at dksX5_clause_5 1 rfl rfl)
theorem dX5_clause_120 : decode cX5_clause 120 = .ok (.invokevirtual 163, 3) := dk_182 0 163 (dk_at dksX5_clause_5 3 rfl rfl)
theorem dX5_clause_123 : decode cX5_clause 123 = .ok (.invokespecial 166, 3) := dk_183 0 166 (dk_at dksX5_clause_5 6 rfl rfl)
theorem dX5_clause_126 : decode cX5_clause 126 = .ok (.astore 5, 2) := dk_58 5 (dk_at dksX5_clause_5 9 rfl rfl)
theorem dX5_clause_128 : decode cX5_clause 128 = .ok (.aload_n 0, 1) := dk_42 (dk_at dksX5_clause_5 11 rfl rfl)
theorem dX5_clause_129 : decode cX5_clause 129 = .ok (.ldc 169, 2) := dk_18 169 (dk_at dksX5_clause_5 12 rfl rfl)
theorem dX5_clause_131 : decode cX5_clause 131 = .ok (.invokevirtual 163, 3) := dk_182 0 163 (dk_at dksX5_clause_5 14 rfl rfl)
theorem dX5_clause_134 : decode cX5_clause 134 = .ok (.ifCond .eq 12, 3) := dk_153 0 12 (dk_at dksX5_clause_5 17 rfl rfl)
theorem dX5_clause_137 : decode cX5_clause 137 = .ok (.aload 5, 2) := dk_25 5 (dk_at dksX5_clause_5 20 rfl rfl)
theorem dX5_clause_139 : decode cX5_clause 139 = .ok (.aload_n 0, 1) := dk_42 (dk_at dksX5_clause_5 22 rfl rfl)
theorem dX5_clause_140 : decode cX5_clause 140 = .ok (.invokevirtual 171, 3) := dk_182 0 171 (dk_at dksX5_clause_6 0 rfl rfl)
theorem dX5_clause_143 : decode cX5_clause 143 = .ok (.putfield 175, 3) := dk_181 0 175 (dk_at dksX5_clause_6 3 rfl rfl)
theorem dX5_clause_146 : decode cX5_clause 146 = .ok (.aload_n 0, 1) := dk_42 (dk_at dksX5_clause_6 6 rfl rfl)
theorem dX5_clause_147 : decode cX5_clause 147 = .ok (.bipush 59, 2) := dk_16 59 (dk_at dksX5_clause_6 7 rfl rfl)
theorem dX5_clause_149 : decode cX5_clause 149 = .ok (.invokevirtual 181, 3) := dk_182 0 181 (dk_at dksX5_clause_6 9 rfl rfl)
theorem dX5_clause_152 : decode cX5_clause 152 = .ok (.aload 5, 2) := dk_25 5 (dk_at dksX5_clause_6 12 rfl rfl)
theorem dX5_clause_154 : decode cX5_clause 154 = .ok (.areturn, 1) := dk_176 (dk_at dksX5_clause_6 14 rfl rfl)
abbrev cX5_isWord : ByteArray := prog_21_method_9_code
def yX5_isWord : MethodName := ⟨RX5, "isWord", "(Ljava/lang/String;)Z"⟩
def dkwX5_isWord_1 : List UInt8 := [167, 0, 4, 3, 172]
abbrev dktX5_isWord_1 : List UInt8 := dkwX5_isWord_1 ++ []
def dkwX5_isWord_0 : List UInt8 := [42, 180, 0, 47, 178, 0, 54, 166, 0, 18, 42, 180, 0, 11, 43, 182, 0, 104, 153, 0, 7, 4]
abbrev dktX5_isWord_0 : List UInt8 := dkwX5_isWord_0 ++ dktX5_isWord_1
theorem dksX5_isWord_0 : cX5_isWord.data.toList.drop 0 = dktX5_isWord_0 := by decide +kernel
theorem dksX5_isWord_1 : cX5_isWord.data.toList.drop 22 = dktX5_isWord_1 := dk_seg dksX5_isWord_0 22 rfl rfl
theorem dX5_isWord_0 : decode cX5_isWord 0 = .ok (.aload_n 0, 1) := dk_42 (dk_at dksX5_isWord_0 0 rfl rfl)
theorem dX5_isWord_1 : decode cX5_isWord 1 = .ok (.getfield 47, 3) := dk_180 0 47 (dk_at dksX5_isWord_0 1 rfl rfl)
theorem dX5_isWord_4 : decode cX5_isWord 4 = .ok (.getstatic 54, 3) := dk_178 0 54 (dk_at dksX5_isWord_0 4 rfl rfl)
theorem dX5_isWord_7 : decode cX5_isWord 7 = .ok (.if_acmp .ne 18, 3) := dk_166 0 18 (dk_at dksX5_isWord_0 7 rfl rfl)
theorem dX5_isWord_10 : decode cX5_isWord 10 = .ok (.aload_n 0, 1) := dk_42 (dk_at dksX5_isWord_0 10 rfl rfl)
theorem dX5_isWord_11 : decode cX5_isWord 11 = .ok (.getfield 11, 3) := dk_180 0 11 (dk_at dksX5_isWord_0 11 rfl rfl)
theorem dX5_isWord_14 : decode cX5_isWord 14 = .ok (.aload_n 1, 1) := dk_43 (dk_at dksX5_isWord_0 14 rfl rfl)
theorem dX5_isWord_15 : decode cX5_isWord 15 = .ok (.invokevirtual 104, 3) := dk_182 0 104 (dk_at dksX5_isWord_0 15 rfl rfl)
theorem dX5_isWord_18 : decode cX5_isWord 18 = .ok (.ifCond .eq 7, 3) := dk_153 0 7 (dk_at dksX5_isWord_0 18 rfl rfl)
theorem dX5_isWord_21 : decode cX5_isWord 21 = .ok (.iconst 1, 1) := dk_4 (dk_at dksX5_isWord_0 21 rfl rfl)
theorem dX5_isWord_22 : decode cX5_isWord 22 = .ok (.goto 4, 3) := dk_167 0 4 (dk_at dksX5_isWord_1 0 rfl rfl)
theorem dX5_isWord_25 : decode cX5_isWord 25 = .ok (.iconst 0, 1) := dk_3 (dk_at dksX5_isWord_1 3 rfl rfl)
theorem dX5_isWord_26 : decode cX5_isWord 26 = .ok (.ireturn, 1) := dk_172 (dk_at dksX5_isWord_1 4 rfl rfl)
abbrev cX5_wrong : ByteArray := prog_21_method_7_code
def yX5_wrong : MethodName := ⟨RX5, "wrong", "()LTurnpikeTrust$Wrong;"⟩
def dkwX5_wrong_0 : List UInt8 := [187, 0, 99, 89, 4, 42, 180, 0, 31, 183, 0, 101, 176]
abbrev dktX5_wrong_0 : List UInt8 := dkwX5_wrong_0 ++ []
theorem dksX5_wrong_0 : cX5_wrong.data.toList.drop 0 = dktX5_wrong_0 := by decide +kernel
theorem dX5_wrong_0 : decode cX5_wrong 0 = .ok (.new 99, 3) := dk_187 0 99 (dk_at dksX5_wrong_0 0 rfl rfl)
theorem dX5_wrong_3 : decode cX5_wrong 3 = .ok (.dup, 1) := dk_89 (dk_at dksX5_wrong_0 3 rfl rfl)
theorem dX5_wrong_4 : decode cX5_wrong 4 = .ok (.iconst 1, 1) := dk_4 (dk_at dksX5_wrong_0 4 rfl rfl)
theorem dX5_wrong_5 : decode cX5_wrong 5 = .ok (.aload_n 0, 1) := dk_42 (dk_at dksX5_wrong_0 5 rfl rfl)
theorem dX5_wrong_6 : decode cX5_wrong 6 = .ok (.getfield 31, 3) := dk_180 0 31 (dk_at dksX5_wrong_0 6 rfl rfl)
theorem dX5_wrong_9 : decode cX5_wrong 9 = .ok (.invokespecial 101, 3) := dk_183 0 101 (dk_at dksX5_wrong_0 9 rfl rfl)
theorem dX5_wrong_12 : decode cX5_wrong 12 = .ok (.areturn, 1) := dk_176 (dk_at dksX5_wrong_0 12 rfl rfl)
abbrev cX5_toll : ByteArray := prog_21_method_15_code
def yX5_toll : MethodName := ⟨RX5, "toll", "(I)LTurnpikeTrust$Clause;"⟩
def dkwX5_toll_2 : List UInt8 := [187, 0, 199, 89, 27, 32, 183, 0, 201, 176]
abbrev dktX5_toll_2 : List UInt8 := dkwX5_toll_2 ++ []
def dkwX5_toll_1 : List UInt8 := [176, 42, 18, 194, 182, 0, 163, 153, 0, 15, 187, 0, 196, 89, 27, 32, 183, 0, 198, 167, 0, 12]
abbrev dktX5_toll_1 : List UInt8 := dkwX5_toll_1 ++ dktX5_toll_2
def dkwX5_toll_0 : List UInt8 := [42, 9, 182, 0, 184, 65, 42, 18, 187, 182, 0, 163, 153, 0, 13, 187, 0, 189, 89, 27, 32, 183, 0, 191]
abbrev dktX5_toll_0 : List UInt8 := dkwX5_toll_0 ++ dktX5_toll_1
theorem dksX5_toll_0 : cX5_toll.data.toList.drop 0 = dktX5_toll_0 := by decide +kernel
theorem dksX5_toll_1 : cX5_toll.data.toList.drop 24 = dktX5_toll_1 := dk_seg dksX5_toll_0 24 rfl rfl
theorem dksX5_toll_2 : cX5_toll.data.toList.drop 46 = dktX5_toll_2 := dk_seg dksX5_toll_1 22 rfl rfl
theorem dX5_toll_0 : decode cX5_toll 0 = .ok (.aload_n 0, 1) := dk_42 (dk_at dksX5_toll_0 0 rfl rfl)
theorem dX5_toll_1 : decode cX5_toll 1 = .ok (.lconst 0, 1) := dk_9 (dk_at dksX5_toll_0 1 rfl rfl)
theorem dX5_toll_2 : decode cX5_toll 2 = .ok (.invokevirtual 184, 3) := dk_182 0 184 (dk_at dksX5_toll_0 2 rfl rfl)
theorem dX5_toll_5 : decode cX5_toll 5 = .ok (.lstore_n 2, 1) := dk_65 (dk_at dksX5_toll_0 5 rfl rfl)
theorem dX5_toll_6 : decode cX5_toll 6 = .ok (.aload_n 0, 1) := dk_42 (dk_at dksX5_toll_0 6 rfl rfl)
theorem dX5_toll_7 : decode cX5_toll 7 = .ok (.ldc 187, 2) := dk_18 187 (dk_at dksX5_toll_0 7 rfl rfl)
theorem dX5_toll_9 : decode cX5_toll 9 = .ok (.invokevirtual 163, 3) := dk_182 0 163 (dk_at dksX5_toll_0 9 rfl rfl)
theorem dX5_toll_12 : decode cX5_toll 12 = .ok (.ifCond .eq 13, 3) := dk_153 0 13 (dk_at dksX5_toll_0 12 rfl rfl)
theorem dX5_toll_15 : decode cX5_toll 15 = .ok (.new 189, 3) := dk_187 0 189 (dk_at dksX5_toll_0 15 rfl rfl)
theorem dX5_toll_18 : decode cX5_toll 18 = .ok (.dup, 1) := dk_89 (dk_at dksX5_toll_0 18 rfl rfl)
theorem dX5_toll_19 : decode cX5_toll 19 = .ok (.iload_n 1, 1) := dk_27 (dk_at dksX5_toll_0 19 rfl rfl)
theorem dX5_toll_20 : decode cX5_toll 20 = .ok (.lload_n 2, 1) := dk_32 (dk_at dksX5_toll_0 20 rfl rfl)
theorem dX5_toll_21 : decode cX5_toll 21 = .ok (.invokespecial 191, 3) := dk_183 0 191 (dk_at dksX5_toll_0 21 rfl rfl)
theorem dX5_toll_24 : decode cX5_toll 24 = .ok (.areturn, 1) := dk_176 (dk_at dksX5_toll_1 0 rfl rfl)
theorem dX5_toll_25 : decode cX5_toll 25 = .ok (.aload_n 0, 1) := dk_42 (dk_at dksX5_toll_1 1 rfl rfl)
theorem dX5_toll_26 : decode cX5_toll 26 = .ok (.ldc 194, 2) := dk_18 194 (dk_at dksX5_toll_1 2 rfl rfl)
theorem dX5_toll_28 : decode cX5_toll 28 = .ok (.invokevirtual 163, 3) := dk_182 0 163 (dk_at dksX5_toll_1 4 rfl rfl)
theorem dX5_toll_31 : decode cX5_toll 31 = .ok (.ifCond .eq 15, 3) := dk_153 0 15 (dk_at dksX5_toll_1 7 rfl rfl)
theorem dX5_toll_34 : decode cX5_toll 34 = .ok (.new 196, 3) := dk_187 0 196 (dk_at dksX5_toll_1 10 rfl rfl)
theorem dX5_toll_37 : decode cX5_toll 37 = .ok (.dup, 1) := dk_89 (dk_at dksX5_toll_1 13 rfl rfl)
theorem dX5_toll_38 : decode cX5_toll 38 = .ok (.iload_n 1, 1) := dk_27 (dk_at dksX5_toll_1 14 rfl rfl)
theorem dX5_toll_39 : decode cX5_toll 39 = .ok (.lload_n 2, 1) := dk_32 (dk_at dksX5_toll_1 15 rfl rfl)
theorem dX5_toll_40 : decode cX5_toll 40 = .ok (.invokespecial 198, 3) := dk_183 0 198 (dk_at dksX5_toll_1 16 rfl rfl)
theorem dX5_toll_43 : decode cX5_toll 43 = .ok (.goto 12, 3) := dk_167 0 12 (dk_at dksX5_toll_1 19 rfl rfl)
theorem dX5_toll_46 : decode cX5_toll 46 = .ok (.new 199, 3) := dk_187 0 199 (dk_at dksX5_toll_2 0 rfl rfl)
theorem dX5_toll_49 : decode cX5_toll 49 = .ok (.dup, 1) := dk_89 (dk_at dksX5_toll_2 3 rfl rfl)
theorem dX5_toll_50 : decode cX5_toll 50 = .ok (.iload_n 1, 1) := dk_27 (dk_at dksX5_toll_2 4 rfl rfl)
theorem dX5_toll_51 : decode cX5_toll 51 = .ok (.lload_n 2, 1) := dk_32 (dk_at dksX5_toll_2 5 rfl rfl)
theorem dX5_toll_52 : decode cX5_toll 52 = .ok (.invokespecial 201, 3) := dk_183 0 201 (dk_at dksX5_toll_2 6 rfl rfl)
theorem dX5_toll_55 : decode cX5_toll 55 = .ok (.areturn, 1) := dk_176 (dk_at dksX5_toll_2 9 rfl rfl)
abbrev cX5_number : ByteArray := prog_21_method_12_code
def yX5_number : MethodName := ⟨RX5, "number", "(J)J"⟩
def dkwX5_number_2 : List UInt8 := [182, 0, 25, 33, 173]
abbrev dktX5_number_2 : List UInt8 := dkwX5_number_2 ++ []
def dkwX5_number_1 : List UInt8 := [148, 157, 0, 9, 33, 31, 148, 156, 0, 16, 187, 0, 99, 89, 5, 42, 180, 0, 31, 183, 0, 101, 191, 42]
abbrev dktX5_number_1 : List UInt8 := dkwX5_number_1 ++ dktX5_number_2
def dkwX5_number_0 : List UInt8 := [42, 180, 0, 47, 178, 0, 64, 165, 0, 8, 42, 182, 0, 117, 191, 42, 180, 0, 67, 66, 33, 20, 0, 121]
abbrev dktX5_number_0 : List UInt8 := dkwX5_number_0 ++ dktX5_number_1
theorem dksX5_number_0 : cX5_number.data.toList.drop 0 = dktX5_number_0 := by decide +kernel
theorem dksX5_number_1 : cX5_number.data.toList.drop 24 = dktX5_number_1 := dk_seg dksX5_number_0 24 rfl rfl
theorem dksX5_number_2 : cX5_number.data.toList.drop 48 = dktX5_number_2 := dk_seg dksX5_number_1 24 rfl rfl
theorem dX5_number_0 : decode cX5_number 0 = .ok (.aload_n 0, 1) := dk_42 (dk_at dksX5_number_0 0 rfl rfl)
theorem dX5_number_1 : decode cX5_number 1 = .ok (.getfield 47, 3) := dk_180 0 47 (dk_at dksX5_number_0 1 rfl rfl)
theorem dX5_number_4 : decode cX5_number 4 = .ok (.getstatic 64, 3) := dk_178 0 64 (dk_at dksX5_number_0 4 rfl rfl)
theorem dX5_number_7 : decode cX5_number 7 = .ok (.if_acmp .eq 8, 3) := dk_165 0 8 (dk_at dksX5_number_0 7 rfl rfl)
theorem dX5_number_10 : decode cX5_number 10 = .ok (.aload_n 0, 1) := dk_42 (dk_at dksX5_number_0 10 rfl rfl)
theorem dX5_number_11 : decode cX5_number 11 = .ok (.invokevirtual 117, 3) := dk_182 0 117 (dk_at dksX5_number_0 11 rfl rfl)
theorem dX5_number_14 : decode cX5_number 14 = .ok (.athrow, 1) := dk_191 (dk_at dksX5_number_0 14 rfl rfl)
theorem dX5_number_15 : decode cX5_number 15 = .ok (.aload_n 0, 1) := dk_42 (dk_at dksX5_number_0 15 rfl rfl)
theorem dX5_number_16 : decode cX5_number 16 = .ok (.getfield 67, 3) := dk_180 0 67 (dk_at dksX5_number_0 16 rfl rfl)
theorem dX5_number_19 : decode cX5_number 19 = .ok (.lstore_n 3, 1) := dk_66 (dk_at dksX5_number_0 19 rfl rfl)
theorem dX5_number_20 : decode cX5_number 20 = .ok (.lload_n 3, 1) := dk_33 (dk_at dksX5_number_0 20 rfl rfl)
theorem dX5_number_21 : decode cX5_number 21 = .ok (.ldc2_w 121, 3) := dk_20 0 121 (dk_at dksX5_number_0 21 rfl rfl)
theorem dX5_number_24 : decode cX5_number 24 = .ok (.lcmp, 1) := dk_148 (dk_at dksX5_number_1 0 rfl rfl)
theorem dX5_number_25 : decode cX5_number 25 = .ok (.ifCond .gt 9, 3) := dk_157 0 9 (dk_at dksX5_number_1 1 rfl rfl)
theorem dX5_number_28 : decode cX5_number 28 = .ok (.lload_n 3, 1) := dk_33 (dk_at dksX5_number_1 4 rfl rfl)
theorem dX5_number_29 : decode cX5_number 29 = .ok (.lload_n 1, 1) := dk_31 (dk_at dksX5_number_1 5 rfl rfl)
theorem dX5_number_30 : decode cX5_number 30 = .ok (.lcmp, 1) := dk_148 (dk_at dksX5_number_1 6 rfl rfl)
theorem dX5_number_31 : decode cX5_number 31 = .ok (.ifCond .ge 16, 3) := dk_156 0 16 (dk_at dksX5_number_1 7 rfl rfl)
theorem dX5_number_34 : decode cX5_number 34 = .ok (.new 99, 3) := dk_187 0 99 (dk_at dksX5_number_1 10 rfl rfl)
theorem dX5_number_37 : decode cX5_number 37 = .ok (.dup, 1) := dk_89 (dk_at dksX5_number_1 13 rfl rfl)
theorem dX5_number_38 : decode cX5_number 38 = .ok (.iconst 2, 1) := dk_5 (dk_at dksX5_number_1 14 rfl rfl)
theorem dX5_number_39 : decode cX5_number 39 = .ok (.aload_n 0, 1) := dk_42 (dk_at dksX5_number_1 15 rfl rfl)
theorem dX5_number_40 : decode cX5_number 40 = .ok (.getfield 31, 3) := dk_180 0 31 (dk_at dksX5_number_1 16 rfl rfl)
theorem dX5_number_43 : decode cX5_number 43 = .ok (.invokespecial 101, 3) := dk_183 0 101 (dk_at dksX5_number_1 19 rfl rfl)
theorem dX5_number_46 : decode cX5_number 46 = .ok (.athrow, 1) := dk_191 (dk_at dksX5_number_1 22 rfl rfl)
theorem dX5_number_47 : decode cX5_number 47 = .ok (.aload_n 0, 1) := dk_42 (dk_at dksX5_number_1 23 rfl rfl)
theorem dX5_number_48 : decode cX5_number 48 = .ok (.invokevirtual 25, 3) := dk_182 0 25 (dk_at dksX5_number_2 0 rfl rfl)
theorem dX5_number_51 : decode cX5_number 51 = .ok (.lload_n 3, 1) := dk_33 (dk_at dksX5_number_2 3 rfl rfl)
theorem dX5_number_52 : decode cX5_number 52 = .ok (.lreturn, 1) := dk_173 (dk_at dksX5_number_2 4 rfl rfl)
abbrev cX5_takes : ByteArray := prog_21_method_10_code
def yX5_takes : MethodName := ⟨RX5, "takes", "(Ljava/lang/String;)Z"⟩
def dkwX5_takes_0 : List UInt8 := [42, 43, 182, 0, 110, 61, 28, 153, 0, 7, 42, 182, 0, 25, 28, 172]
abbrev dktX5_takes_0 : List UInt8 := dkwX5_takes_0 ++ []
theorem dksX5_takes_0 : cX5_takes.data.toList.drop 0 = dktX5_takes_0 := by decide +kernel
theorem dX5_takes_0 : decode cX5_takes 0 = .ok (.aload_n 0, 1) := dk_42 (dk_at dksX5_takes_0 0 rfl rfl)
theorem dX5_takes_1 : decode cX5_takes 1 = .ok (.aload_n 1, 1) := dk_43 (dk_at dksX5_takes_0 1 rfl rfl)
theorem dX5_takes_2 : decode cX5_takes 2 = .ok (.invokevirtual 110, 3) := dk_182 0 110 (dk_at dksX5_takes_0 2 rfl rfl)
theorem dX5_takes_5 : decode cX5_takes 5 = .ok (.istore_n 2, 1) := dk_61 (dk_at dksX5_takes_0 5 rfl rfl)
theorem dX5_takes_6 : decode cX5_takes 6 = .ok (.iload_n 2, 1) := dk_28 (dk_at dksX5_takes_0 6 rfl rfl)
theorem dX5_takes_7 : decode cX5_takes 7 = .ok (.ifCond .eq 7, 3) := dk_153 0 7 (dk_at dksX5_takes_0 7 rfl rfl)
theorem dX5_takes_10 : decode cX5_takes 10 = .ok (.aload_n 0, 1) := dk_42 (dk_at dksX5_takes_0 10 rfl rfl)
theorem dX5_takes_11 : decode cX5_takes 11 = .ok (.invokevirtual 25, 3) := dk_182 0 25 (dk_at dksX5_takes_0 11 rfl rfl)
theorem dX5_takes_14 : decode cX5_takes 14 = .ok (.iload_n 2, 1) := dk_28 (dk_at dksX5_takes_0 14 rfl rfl)
theorem dX5_takes_15 : decode cX5_takes 15 = .ok (.ireturn, 1) := dk_172 (dk_at dksX5_takes_0 15 rfl rfl)
abbrev cX5_times : ByteArray := prog_21_method_16_code
def yX5_times : MethodName := ⟨RX5, "times", "(I)LTurnpikeTrust$Clause;"⟩
def dkwX5_times_1 : List UInt8 := [183, 0, 204, 176]
abbrev dktX5_times_1 : List UInt8 := dkwX5_times_1 ++ []
def dkwX5_times_0 : List UInt8 := [42, 9, 182, 0, 184, 65, 42, 16, 47, 182, 0, 181, 187, 0, 202, 89, 27, 32, 42, 10, 182, 0, 184]
abbrev dktX5_times_0 : List UInt8 := dkwX5_times_0 ++ dktX5_times_1
theorem dksX5_times_0 : cX5_times.data.toList.drop 0 = dktX5_times_0 := by decide +kernel
theorem dksX5_times_1 : cX5_times.data.toList.drop 23 = dktX5_times_1 := dk_seg dksX5_times_0 23 rfl rfl
theorem dX5_times_0 : decode cX5_times 0 = .ok (.aload_n 0, 1) := dk_42 (dk_at dksX5_times_0 0 rfl rfl)
theorem dX5_times_1 : decode cX5_times 1 = .ok (.lconst 0, 1) := dk_9 (dk_at dksX5_times_0 1 rfl rfl)
theorem dX5_times_2 : decode cX5_times 2 = .ok (.invokevirtual 184, 3) := dk_182 0 184 (dk_at dksX5_times_0 2 rfl rfl)
theorem dX5_times_5 : decode cX5_times 5 = .ok (.lstore_n 2, 1) := dk_65 (dk_at dksX5_times_0 5 rfl rfl)
theorem dX5_times_6 : decode cX5_times 6 = .ok (.aload_n 0, 1) := dk_42 (dk_at dksX5_times_0 6 rfl rfl)
theorem dX5_times_7 : decode cX5_times 7 = .ok (.bipush 47, 2) := dk_16 47 (dk_at dksX5_times_0 7 rfl rfl)
theorem dX5_times_9 : decode cX5_times 9 = .ok (.invokevirtual 181, 3) := dk_182 0 181 (dk_at dksX5_times_0 9 rfl rfl)
theorem dX5_times_12 : decode cX5_times 12 = .ok (.new 202, 3) := dk_187 0 202 (dk_at dksX5_times_0 12 rfl rfl)
theorem dX5_times_15 : decode cX5_times 15 = .ok (.dup, 1) := dk_89 (dk_at dksX5_times_0 15 rfl rfl)
theorem dX5_times_16 : decode cX5_times 16 = .ok (.iload_n 1, 1) := dk_27 (dk_at dksX5_times_0 16 rfl rfl)
theorem dX5_times_17 : decode cX5_times 17 = .ok (.lload_n 2, 1) := dk_32 (dk_at dksX5_times_0 17 rfl rfl)
theorem dX5_times_18 : decode cX5_times 18 = .ok (.aload_n 0, 1) := dk_42 (dk_at dksX5_times_0 18 rfl rfl)
theorem dX5_times_19 : decode cX5_times 19 = .ok (.lconst 1, 1) := dk_10 (dk_at dksX5_times_0 19 rfl rfl)
theorem dX5_times_20 : decode cX5_times 20 = .ok (.invokevirtual 184, 3) := dk_182 0 184 (dk_at dksX5_times_0 20 rfl rfl)
theorem dX5_times_23 : decode cX5_times 23 = .ok (.invokespecial 204, 3) := dk_183 0 204 (dk_at dksX5_times_1 0 rfl rfl)
theorem dX5_times_26 : decode cX5_times 26 = .ok (.areturn, 1) := dk_176 (dk_at dksX5_times_1 3 rfl rfl)
abbrev cX5_need : ByteArray := prog_21_method_11_code
def yX5_need : MethodName := ⟨RX5, "need", "(I)V"⟩
def dkwX5_need_0 : List UInt8 := [42, 27, 182, 0, 114, 154, 0, 8, 42, 182, 0, 117, 191, 42, 182, 0, 25, 177]
abbrev dktX5_need_0 : List UInt8 := dkwX5_need_0 ++ []
theorem dksX5_need_0 : cX5_need.data.toList.drop 0 = dktX5_need_0 := by decide +kernel
theorem dX5_need_0 : decode cX5_need 0 = .ok (.aload_n 0, 1) := dk_42 (dk_at dksX5_need_0 0 rfl rfl)
theorem dX5_need_1 : decode cX5_need 1 = .ok (.iload_n 1, 1) := dk_27 (dk_at dksX5_need_0 1 rfl rfl)
theorem dX5_need_2 : decode cX5_need 2 = .ok (.invokevirtual 114, 3) := dk_182 0 114 (dk_at dksX5_need_0 2 rfl rfl)
theorem dX5_need_5 : decode cX5_need 5 = .ok (.ifCond .ne 8, 3) := dk_154 0 8 (dk_at dksX5_need_0 5 rfl rfl)
theorem dX5_need_8 : decode cX5_need 8 = .ok (.aload_n 0, 1) := dk_42 (dk_at dksX5_need_0 8 rfl rfl)
theorem dX5_need_9 : decode cX5_need 9 = .ok (.invokevirtual 117, 3) := dk_182 0 117 (dk_at dksX5_need_0 9 rfl rfl)
theorem dX5_need_12 : decode cX5_need 12 = .ok (.athrow, 1) := dk_191 (dk_at dksX5_need_0 12 rfl rfl)
theorem dX5_need_13 : decode cX5_need 13 = .ok (.aload_n 0, 1) := dk_42 (dk_at dksX5_need_0 13 rfl rfl)
theorem dX5_need_14 : decode cX5_need 14 = .ok (.invokevirtual 25, 3) := dk_182 0 25 (dk_at dksX5_need_0 14 rfl rfl)
theorem dX5_need_17 : decode cX5_need 17 = .ok (.return_, 1) := dk_177 (dk_at dksX5_need_0 17 rfl rfl)
abbrev cX5_is : ByteArray := prog_21_method_8_code
def yX5_is : MethodName := ⟨RX5, "is", "(I)Z"⟩
def dkwX5_is_0 : List UInt8 := [42, 180, 0, 47, 178, 0, 83, 166, 0, 15, 42, 180, 0, 38, 27, 160, 0, 7, 4, 167, 0, 4, 3, 172]
abbrev dktX5_is_0 : List UInt8 := dkwX5_is_0 ++ []
theorem dksX5_is_0 : cX5_is.data.toList.drop 0 = dktX5_is_0 := by decide +kernel
theorem dX5_is_0 : decode cX5_is 0 = .ok (.aload_n 0, 1) := dk_42 (dk_at dksX5_is_0 0 rfl rfl)
theorem dX5_is_1 : decode cX5_is 1 = .ok (.getfield 47, 3) := dk_180 0 47 (dk_at dksX5_is_0 1 rfl rfl)
theorem dX5_is_4 : decode cX5_is 4 = .ok (.getstatic 83, 3) := dk_178 0 83 (dk_at dksX5_is_0 4 rfl rfl)
theorem dX5_is_7 : decode cX5_is 7 = .ok (.if_acmp .ne 15, 3) := dk_166 0 15 (dk_at dksX5_is_0 7 rfl rfl)
theorem dX5_is_10 : decode cX5_is 10 = .ok (.aload_n 0, 1) := dk_42 (dk_at dksX5_is_0 10 rfl rfl)
theorem dX5_is_11 : decode cX5_is 11 = .ok (.getfield 38, 3) := dk_180 0 38 (dk_at dksX5_is_0 11 rfl rfl)
theorem dX5_is_14 : decode cX5_is 14 = .ok (.iload_n 1, 1) := dk_27 (dk_at dksX5_is_0 14 rfl rfl)
theorem dX5_is_15 : decode cX5_is 15 = .ok (.if_icmp .ne 7, 3) := dk_160 0 7 (dk_at dksX5_is_0 15 rfl rfl)
theorem dX5_is_18 : decode cX5_is 18 = .ok (.iconst 1, 1) := dk_4 (dk_at dksX5_is_0 18 rfl rfl)
theorem dX5_is_19 : decode cX5_is 19 = .ok (.goto 4, 3) := dk_167 0 4 (dk_at dksX5_is_0 19 rfl rfl)
theorem dX5_is_22 : decode cX5_is 22 = .ok (.iconst 0, 1) := dk_3 (dk_at dksX5_is_0 22 rfl rfl)
theorem dX5_is_23 : decode cX5_is 23 = .ok (.ireturn, 1) := dk_172 (dk_at dksX5_is_0 23 rfl rfl)
abbrev cX5_any : ByteArray := prog_21_method_17_code
def yX5_any : MethodName := ⟨RX5, "any", "()LTurnpikeTrust$Condition;"⟩
def dkwX5_any_1 : List UInt8 := [182, 0, 163, 153, 0, 18, 43, 180, 0, 210, 42, 182, 0, 213, 182, 0, 141, 87, 167, 255, 235, 43, 176]
abbrev dktX5_any_1 : List UInt8 := dkwX5_any_1 ++ []
def dkwX5_any_0 : List UInt8 := [187, 0, 207, 89, 183, 0, 209, 76, 43, 180, 0, 210, 42, 182, 0, 213, 182, 0, 141, 87, 42, 18, 215]
abbrev dktX5_any_0 : List UInt8 := dkwX5_any_0 ++ dktX5_any_1
theorem dksX5_any_0 : cX5_any.data.toList.drop 0 = dktX5_any_0 := by decide +kernel
theorem dksX5_any_1 : cX5_any.data.toList.drop 23 = dktX5_any_1 := dk_seg dksX5_any_0 23 rfl rfl
theorem dX5_any_0 : decode cX5_any 0 = .ok (.new 207, 3) := dk_187 0 207 (dk_at dksX5_any_0 0 rfl rfl)
theorem dX5_any_3 : decode cX5_any 3 = .ok (.dup, 1) := dk_89 (dk_at dksX5_any_0 3 rfl rfl)
theorem dX5_any_4 : decode cX5_any 4 = .ok (.invokespecial 209, 3) := dk_183 0 209 (dk_at dksX5_any_0 4 rfl rfl)
theorem dX5_any_7 : decode cX5_any 7 = .ok (.astore_n 1, 1) := dk_76 (dk_at dksX5_any_0 7 rfl rfl)
theorem dX5_any_8 : decode cX5_any 8 = .ok (.aload_n 1, 1) := dk_43 (dk_at dksX5_any_0 8 rfl rfl)
theorem dX5_any_9 : decode cX5_any 9 = .ok (.getfield 210, 3) := dk_180 0 210 (dk_at dksX5_any_0 9 rfl rfl)
theorem dX5_any_12 : decode cX5_any 12 = .ok (.aload_n 0, 1) := dk_42 (dk_at dksX5_any_0 12 rfl rfl)
theorem dX5_any_13 : decode cX5_any 13 = .ok (.invokevirtual 213, 3) := dk_182 0 213 (dk_at dksX5_any_0 13 rfl rfl)
theorem dX5_any_16 : decode cX5_any 16 = .ok (.invokevirtual 141, 3) := dk_182 0 141 (dk_at dksX5_any_0 16 rfl rfl)
theorem dX5_any_19 : decode cX5_any 19 = .ok (.pop, 1) := dk_87 (dk_at dksX5_any_0 19 rfl rfl)
theorem dX5_any_20 : decode cX5_any 20 = .ok (.aload_n 0, 1) := dk_42 (dk_at dksX5_any_0 20 rfl rfl)
theorem dX5_any_21 : decode cX5_any 21 = .ok (.ldc 215, 2) := dk_18 215 (dk_at dksX5_any_0 21 rfl rfl)
theorem dX5_any_23 : decode cX5_any 23 = .ok (.invokevirtual 163, 3) := dk_182 0 163 (dk_at dksX5_any_1 0 rfl rfl)
theorem dX5_any_26 : decode cX5_any 26 = .ok (.ifCond .eq 18, 3) := dk_153 0 18 (dk_at dksX5_any_1 3 rfl rfl)
theorem dX5_any_29 : decode cX5_any 29 = .ok (.aload_n 1, 1) := dk_43 (dk_at dksX5_any_1 6 rfl rfl)
theorem dX5_any_30 : decode cX5_any 30 = .ok (.getfield 210, 3) := dk_180 0 210 (dk_at dksX5_any_1 7 rfl rfl)
theorem dX5_any_33 : decode cX5_any 33 = .ok (.aload_n 0, 1) := dk_42 (dk_at dksX5_any_1 10 rfl rfl)
theorem dX5_any_34 : decode cX5_any 34 = .ok (.invokevirtual 213, 3) := dk_182 0 213 (dk_at dksX5_any_1 11 rfl rfl)
theorem dX5_any_37 : decode cX5_any 37 = .ok (.invokevirtual 141, 3) := dk_182 0 141 (dk_at dksX5_any_1 14 rfl rfl)
theorem dX5_any_40 : decode cX5_any 40 = .ok (.pop, 1) := dk_87 (dk_at dksX5_any_1 17 rfl rfl)
theorem dX5_any_41 : decode cX5_any 41 = .ok (.goto (-21), 3) := dk_167 255 235 (dk_at dksX5_any_1 18 rfl rfl)
theorem dX5_any_44 : decode cX5_any 44 = .ok (.aload_n 1, 1) := dk_43 (dk_at dksX5_any_1 21 rfl rfl)
theorem dX5_any_45 : decode cX5_any 45 = .ok (.areturn, 1) := dk_176 (dk_at dksX5_any_1 22 rfl rfl)
abbrev cX5_all : ByteArray := prog_21_method_18_code
def yX5_all : MethodName := ⟨RX5, "all", "()LTurnpikeTrust$Condition;"⟩
def dkwX5_all_1 : List UInt8 := [182, 0, 163, 153, 0, 18, 43, 180, 0, 220, 42, 182, 0, 221, 182, 0, 141, 87, 167, 255, 235, 43, 176]
abbrev dktX5_all_1 : List UInt8 := dkwX5_all_1 ++ []
def dkwX5_all_0 : List UInt8 := [187, 0, 217, 89, 183, 0, 219, 76, 43, 180, 0, 220, 42, 182, 0, 221, 182, 0, 141, 87, 42, 18, 224]
abbrev dktX5_all_0 : List UInt8 := dkwX5_all_0 ++ dktX5_all_1
theorem dksX5_all_0 : cX5_all.data.toList.drop 0 = dktX5_all_0 := by decide +kernel
theorem dksX5_all_1 : cX5_all.data.toList.drop 23 = dktX5_all_1 := dk_seg dksX5_all_0 23 rfl rfl
theorem dX5_all_0 : decode cX5_all 0 = .ok (.new 217, 3) := dk_187 0 217 (dk_at dksX5_all_0 0 rfl rfl)
theorem dX5_all_3 : decode cX5_all 3 = .ok (.dup, 1) := dk_89 (dk_at dksX5_all_0 3 rfl rfl)
theorem dX5_all_4 : decode cX5_all 4 = .ok (.invokespecial 219, 3) := dk_183 0 219 (dk_at dksX5_all_0 4 rfl rfl)
theorem dX5_all_7 : decode cX5_all 7 = .ok (.astore_n 1, 1) := dk_76 (dk_at dksX5_all_0 7 rfl rfl)
theorem dX5_all_8 : decode cX5_all 8 = .ok (.aload_n 1, 1) := dk_43 (dk_at dksX5_all_0 8 rfl rfl)
theorem dX5_all_9 : decode cX5_all 9 = .ok (.getfield 220, 3) := dk_180 0 220 (dk_at dksX5_all_0 9 rfl rfl)
theorem dX5_all_12 : decode cX5_all 12 = .ok (.aload_n 0, 1) := dk_42 (dk_at dksX5_all_0 12 rfl rfl)
theorem dX5_all_13 : decode cX5_all 13 = .ok (.invokevirtual 221, 3) := dk_182 0 221 (dk_at dksX5_all_0 13 rfl rfl)
theorem dX5_all_16 : decode cX5_all 16 = .ok (.invokevirtual 141, 3) := dk_182 0 141 (dk_at dksX5_all_0 16 rfl rfl)
theorem dX5_all_19 : decode cX5_all 19 = .ok (.pop, 1) := dk_87 (dk_at dksX5_all_0 19 rfl rfl)
theorem dX5_all_20 : decode cX5_all 20 = .ok (.aload_n 0, 1) := dk_42 (dk_at dksX5_all_0 20 rfl rfl)
theorem dX5_all_21 : decode cX5_all 21 = .ok (.ldc 224, 2) := dk_18 224 (dk_at dksX5_all_0 21 rfl rfl)
theorem dX5_all_23 : decode cX5_all 23 = .ok (.invokevirtual 163, 3) := dk_182 0 163 (dk_at dksX5_all_1 0 rfl rfl)
theorem dX5_all_26 : decode cX5_all 26 = .ok (.ifCond .eq 18, 3) := dk_153 0 18 (dk_at dksX5_all_1 3 rfl rfl)
theorem dX5_all_29 : decode cX5_all 29 = .ok (.aload_n 1, 1) := dk_43 (dk_at dksX5_all_1 6 rfl rfl)
theorem dX5_all_30 : decode cX5_all 30 = .ok (.getfield 220, 3) := dk_180 0 220 (dk_at dksX5_all_1 7 rfl rfl)
theorem dX5_all_33 : decode cX5_all 33 = .ok (.aload_n 0, 1) := dk_42 (dk_at dksX5_all_1 10 rfl rfl)
theorem dX5_all_34 : decode cX5_all 34 = .ok (.invokevirtual 221, 3) := dk_182 0 221 (dk_at dksX5_all_1 11 rfl rfl)
theorem dX5_all_37 : decode cX5_all 37 = .ok (.invokevirtual 141, 3) := dk_182 0 141 (dk_at dksX5_all_1 14 rfl rfl)
theorem dX5_all_40 : decode cX5_all 40 = .ok (.pop, 1) := dk_87 (dk_at dksX5_all_1 17 rfl rfl)
theorem dX5_all_41 : decode cX5_all 41 = .ok (.goto (-21), 3) := dk_167 255 235 (dk_at dksX5_all_1 18 rfl rfl)
theorem dX5_all_44 : decode cX5_all 44 = .ok (.aload_n 1, 1) := dk_43 (dk_at dksX5_all_1 21 rfl rfl)
theorem dX5_all_45 : decode cX5_all 45 = .ok (.areturn, 1) := dk_176 (dk_at dksX5_all_1 22 rfl rfl)
abbrev cX5_one : ByteArray := prog_21_method_20_code
def yX5_one : MethodName := ⟨RX5, "one", "()LTurnpikeTrust$Condition;"⟩
def dkwX5_one_16 : List UInt8 := [176, 42, 5, 182, 1, 13, 176, 42, 6, 182, 1, 13, 176, 42, 182, 1, 16, 176, 42, 182, 0, 117, 191]
abbrev dktX5_one_16 : List UInt8 := dkwX5_one_16 ++ []
def dkwX5_one_15 : List UInt8 := [176, 42, 182, 0, 25, 187, 1, 10, 89, 183, 1, 12, 176, 42, 3, 182, 1, 13, 176, 42, 4, 182, 1, 13]
abbrev dktX5_one_15 : List UInt8 := dkwX5_one_15 ++ dktX5_one_16
def dkwX5_one_14 : List UInt8 := [42, 4, 182, 1, 6, 176, 42, 5, 182, 1, 6, 176, 42, 7, 182, 1, 6, 176, 42, 16, 8, 182, 1, 6]
abbrev dktX5_one_14 : List UInt8 := dkwX5_one_14 ++ dktX5_one_15
def dkwX5_one_13 : List UInt8 := [170, 0, 0, 0, 0, 0, 121, 0, 0, 0, 0, 0, 0, 0, 9, 0, 0, 0, 55, 0, 0, 0, 61, 0, 0, 0, 67, 0, 0, 0, 73, 0, 0, 0, 80, 0, 0, 0, 92, 0, 0, 0, 98, 0, 0, 0, 104, 0, 0, 0, 110, 0, 0, 0, 116]
abbrev dktX5_one_13 : List UInt8 := dkwX5_one_13 ++ dktX5_one_14
def dkwX5_one_12 : List UInt8 := [61, 28]
abbrev dktX5_one_12 : List UInt8 := dkwX5_one_12 ++ dktX5_one_13
def dkwX5_one_11 : List UInt8 := [182, 0, 104, 153, 0, 22, 16, 8, 61, 167, 0, 16, 43, 19, 1, 4, 182, 0, 104, 153, 0, 6, 16, 9]
abbrev dktX5_one_11 : List UInt8 := dkwX5_one_11 ++ dktX5_one_12
def dkwX5_one_10 : List UInt8 := [61, 167, 0, 48, 43, 19, 1, 0, 182, 0, 104, 153, 0, 38, 16, 7, 61, 167, 0, 32, 43, 19, 1, 2]
abbrev dktX5_one_10 : List UInt8 := dkwX5_one_10 ++ dktX5_one_11
def dkwX5_one_9 : List UInt8 := [18, 252, 182, 0, 104, 153, 0, 68, 8, 61, 167, 0, 63, 43, 18, 254, 182, 0, 104, 153, 0, 54, 16, 6]
abbrev dktX5_one_9 : List UInt8 := dkwX5_one_9 ++ dktX5_one_10
def dkwX5_one_8 : List UInt8 := [153, 0, 96, 6, 61, 167, 0, 91, 43, 18, 250, 182, 0, 104, 153, 0, 82, 7, 61, 167, 0, 77, 43]
abbrev dktX5_one_8 : List UInt8 := dkwX5_one_8 ++ dktX5_one_9
def dkwX5_one_7 : List UInt8 := [61, 167, 0, 119, 43, 18, 246, 182, 0, 104, 153, 0, 110, 5, 61, 167, 0, 105, 43, 18, 248, 182, 0, 104]
abbrev dktX5_one_7 : List UInt8 := dkwX5_one_7 ++ dktX5_one_8
def dkwX5_one_6 : List UInt8 := [43, 18, 242, 182, 0, 104, 153, 0, 138, 3, 61, 167, 0, 133, 43, 18, 244, 182, 0, 104, 153, 0, 124, 4]
abbrev dktX5_one_6 : List UInt8 := dkwX5_one_6 ++ dktX5_one_7
def dkwX5_one_5 : List UInt8 := [171, 0, 0, 0, 233, 0, 0, 0, 10, 172, 248, 8, 244, 0, 0, 0, 173, 174, 224, 57, 167, 0, 0, 0, 117, 208, 249, 176, 120, 0, 0, 0, 159, 0, 1, 131, 156, 0, 0, 0, 204, 0, 45, 209, 157, 0, 0, 0, 103, 0, 46, 4, 231, 0, 0, 0, 145, 0, 47, 216, 54, 0, 0, 0, 131, 0, 48, 76, 203, 0, 0, 0, 188, 0, 50, 59, 148, 0, 0, 0, 220, 0, 51, 5, 183, 0, 0, 0, 89]
abbrev dktX5_one_5 : List UInt8 := dkwX5_one_5 ++ dktX5_one_6
def dkwX5_one_4 : List UInt8 := [43, 182, 0, 239]
abbrev dktX5_one_4 : List UInt8 := dkwX5_one_4 ++ dktX5_one_5
def dkwX5_one_3 : List UInt8 := [43, 176, 42, 180, 0, 47, 178, 0, 54, 165, 0, 8, 42, 182, 0, 117, 191, 42, 180, 0, 11, 76, 2, 61]
abbrev dktX5_one_3 : List UInt8 := dkwX5_one_3 ++ dktX5_one_4
def dkwX5_one_2 : List UInt8 := [182, 0, 231, 42, 182, 0, 171, 76, 42, 16, 41, 182, 0, 181, 42, 89, 180, 0, 226, 4, 100, 181, 0, 226]
abbrev dktX5_one_2 : List UInt8 := dkwX5_one_2 ++ dktX5_one_3
def dkwX5_one_1 : List UInt8 := [76, 42, 89, 180, 0, 226, 4, 100, 181, 0, 226, 43, 176, 42, 16, 40, 182, 0, 114, 153, 0, 30, 42]
abbrev dktX5_one_1 : List UInt8 := dkwX5_one_1 ++ dktX5_one_2
def dkwX5_one_0 : List UInt8 := [42, 18, 229, 182, 0, 110, 153, 0, 31, 42, 182, 0, 231, 187, 0, 234, 89, 42, 182, 0, 221, 183, 0, 236]
abbrev dktX5_one_0 : List UInt8 := dkwX5_one_0 ++ dktX5_one_1
theorem dksX5_one_0 : cX5_one.data.toList.drop 0 = dktX5_one_0 := by decide +kernel
theorem dksX5_one_1 : cX5_one.data.toList.drop 24 = dktX5_one_1 := dk_seg dksX5_one_0 24 rfl rfl
theorem dksX5_one_2 : cX5_one.data.toList.drop 47 = dktX5_one_2 := dk_seg dksX5_one_1 23 rfl rfl
theorem dksX5_one_3 : cX5_one.data.toList.drop 71 = dktX5_one_3 := dk_seg dksX5_one_2 24 rfl rfl
theorem dksX5_one_4 : cX5_one.data.toList.drop 95 = dktX5_one_4 := dk_seg dksX5_one_3 24 rfl rfl
theorem dksX5_one_5 : cX5_one.data.toList.drop 99 = dktX5_one_5 := dk_seg dksX5_one_4 4 rfl rfl
theorem dksX5_one_6 : cX5_one.data.toList.drop 188 = dktX5_one_6 := dk_seg dksX5_one_5 89 rfl rfl
theorem dksX5_one_7 : cX5_one.data.toList.drop 212 = dktX5_one_7 := dk_seg dksX5_one_6 24 rfl rfl
theorem dksX5_one_8 : cX5_one.data.toList.drop 236 = dktX5_one_8 := dk_seg dksX5_one_7 24 rfl rfl
theorem dksX5_one_9 : cX5_one.data.toList.drop 259 = dktX5_one_9 := dk_seg dksX5_one_8 23 rfl rfl
theorem dksX5_one_10 : cX5_one.data.toList.drop 283 = dktX5_one_10 := dk_seg dksX5_one_9 24 rfl rfl
theorem dksX5_one_11 : cX5_one.data.toList.drop 307 = dktX5_one_11 := dk_seg dksX5_one_10 24 rfl rfl
theorem dksX5_one_12 : cX5_one.data.toList.drop 331 = dktX5_one_12 := dk_seg dksX5_one_11 24 rfl rfl
theorem dksX5_one_13 : cX5_one.data.toList.drop 333 = dktX5_one_13 := dk_seg dksX5_one_12 2 rfl rfl
theorem dksX5_one_14 : cX5_one.data.toList.drop 388 = dktX5_one_14 := dk_seg dksX5_one_13 55 rfl rfl
theorem dksX5_one_15 : cX5_one.data.toList.drop 412 = dktX5_one_15 := dk_seg dksX5_one_14 24 rfl rfl
theorem dksX5_one_16 : cX5_one.data.toList.drop 436 = dktX5_one_16 := dk_seg dksX5_one_15 24 rfl rfl
theorem dX5_one_0 : decode cX5_one 0 = .ok (.aload_n 0, 1) := dk_42 (dk_at dksX5_one_0 0 rfl rfl)
theorem dX5_one_1 : decode cX5_one 1 = .ok (.ldc 229, 2) := dk_18 229 (dk_at dksX5_one_0 1 rfl rfl)
theorem dX5_one_3 : decode cX5_one 3 = .ok (.invokevirtual 110, 3) := dk_182 0 110 (dk_at dksX5_one_0 3 rfl rfl)
theorem dX5_one_6 : decode cX5_one 6 = .ok (.ifCond .eq 31, 3) := dk_153 0 31 (dk_at dksX5_one_0 6 rfl rfl)
theorem dX5_one_9 : decode cX5_one 9 = .ok (.aload_n 0, 1) := dk_42 (dk_at dksX5_one_0 9 rfl rfl)
theorem dX5_one_10 : decode cX5_one 10 = .ok (.invokevirtual 231, 3) := dk_182 0 231 (dk_at dksX5_one_0 10 rfl rfl)
theorem dX5_one_13 : decode cX5_one 13 = .ok (.new 234, 3) := dk_187 0 234 (dk_at dksX5_one_0 13 rfl rfl)
theorem dX5_one_16 : decode cX5_one 16 = .ok (.dup, 1) := dk_89 (dk_at dksX5_one_0 16 rfl rfl)
theorem dX5_one_17 : decode cX5_one 17 = .ok (.aload_n 0, 1) := dk_42 (dk_at dksX5_one_0 17 rfl rfl)
theorem dX5_one_18 : decode cX5_one 18 = .ok (.invokevirtual 221, 3) := dk_182 0 221 (dk_at dksX5_one_0 18 rfl rfl)
theorem dX5_one_21 : decode cX5_one 21 = .ok (.invokespecial 236, 3) := dk_183 0 236 (dk_at dksX5_one_0 21 rfl rfl)
theorem dX5_one_24 : decode cX5_one 24 = .ok (.astore_n 1, 1) := dk_76 (dk_at dksX5_one_1 0 rfl rfl)
theorem dX5_one_25 : decode cX5_one 25 = .ok (.aload_n 0, 1) := dk_42 (dk_at dksX5_one_1 1 rfl rfl)
theorem dX5_one_26 : decode cX5_one 26 = .ok (.dup, 1) := dk_89 (dk_at dksX5_one_1 2 rfl rfl)
theorem dX5_one_27 : decode cX5_one 27 = .ok (.getfield 226, 3) := dk_180 0 226 (dk_at dksX5_one_1 3 rfl rfl)
theorem dX5_one_30 : decode cX5_one 30 = .ok (.iconst 1, 1) := dk_4 (dk_at dksX5_one_1 6 rfl rfl)
theorem dX5_one_31 : decode cX5_one 31 = .ok (.isub, 1) := dk_100 (dk_at dksX5_one_1 7 rfl rfl)
theorem dX5_one_32 : decode cX5_one 32 = .ok (.putfield 226, 3) := dk_181 0 226 (dk_at dksX5_one_1 8 rfl rfl)
theorem dX5_one_35 : decode cX5_one 35 = .ok (.aload_n 1, 1) := dk_43 (dk_at dksX5_one_1 11 rfl rfl)
theorem dX5_one_36 : decode cX5_one 36 = .ok (.areturn, 1) := dk_176 (dk_at dksX5_one_1 12 rfl rfl)
theorem dX5_one_37 : decode cX5_one 37 = .ok (.aload_n 0, 1) := dk_42 (dk_at dksX5_one_1 13 rfl rfl)
theorem dX5_one_38 : decode cX5_one 38 = .ok (.bipush 40, 2) := dk_16 40 (dk_at dksX5_one_1 14 rfl rfl)
theorem dX5_one_40 : decode cX5_one 40 = .ok (.invokevirtual 114, 3) := dk_182 0 114 (dk_at dksX5_one_1 16 rfl rfl)
theorem dX5_one_43 : decode cX5_one 43 = .ok (.ifCond .eq 30, 3) := dk_153 0 30 (dk_at dksX5_one_1 19 rfl rfl)
theorem dX5_one_46 : decode cX5_one 46 = .ok (.aload_n 0, 1) := dk_42 (dk_at dksX5_one_1 22 rfl rfl)
theorem dX5_one_47 : decode cX5_one 47 = .ok (.invokevirtual 231, 3) := dk_182 0 231 (dk_at dksX5_one_2 0 rfl rfl)
theorem dX5_one_50 : decode cX5_one 50 = .ok (.aload_n 0, 1) := dk_42 (dk_at dksX5_one_2 3 rfl rfl)
theorem dX5_one_51 : decode cX5_one 51 = .ok (.invokevirtual 171, 3) := dk_182 0 171 (dk_at dksX5_one_2 4 rfl rfl)
theorem dX5_one_54 : decode cX5_one 54 = .ok (.astore_n 1, 1) := dk_76 (dk_at dksX5_one_2 7 rfl rfl)
theorem dX5_one_55 : decode cX5_one 55 = .ok (.aload_n 0, 1) := dk_42 (dk_at dksX5_one_2 8 rfl rfl)
theorem dX5_one_56 : decode cX5_one 56 = .ok (.bipush 41, 2) := dk_16 41 (dk_at dksX5_one_2 9 rfl rfl)
theorem dX5_one_58 : decode cX5_one 58 = .ok (.invokevirtual 181, 3) := dk_182 0 181 (dk_at dksX5_one_2 11 rfl rfl)
theorem dX5_one_61 : decode cX5_one 61 = .ok (.aload_n 0, 1) := dk_42 (dk_at dksX5_one_2 14 rfl rfl)
theorem dX5_one_62 : decode cX5_one 62 = .ok (.dup, 1) := dk_89 (dk_at dksX5_one_2 15 rfl rfl)
theorem dX5_one_63 : decode cX5_one 63 = .ok (.getfield 226, 3) := dk_180 0 226 (dk_at dksX5_one_2 16 rfl rfl)
theorem dX5_one_66 : decode cX5_one 66 = .ok (.iconst 1, 1) := dk_4 (dk_at dksX5_one_2 19 rfl rfl)
theorem dX5_one_67 : decode cX5_one 67 = .ok (.isub, 1) := dk_100 (dk_at dksX5_one_2 20 rfl rfl)
theorem dX5_one_68 : decode cX5_one 68 = .ok (.putfield 226, 3) := dk_181 0 226 (dk_at dksX5_one_2 21 rfl rfl)
theorem dX5_one_71 : decode cX5_one 71 = .ok (.aload_n 1, 1) := dk_43 (dk_at dksX5_one_3 0 rfl rfl)
theorem dX5_one_72 : decode cX5_one 72 = .ok (.areturn, 1) := dk_176 (dk_at dksX5_one_3 1 rfl rfl)
theorem dX5_one_73 : decode cX5_one 73 = .ok (.aload_n 0, 1) := dk_42 (dk_at dksX5_one_3 2 rfl rfl)
theorem dX5_one_74 : decode cX5_one 74 = .ok (.getfield 47, 3) := dk_180 0 47 (dk_at dksX5_one_3 3 rfl rfl)
theorem dX5_one_77 : decode cX5_one 77 = .ok (.getstatic 54, 3) := dk_178 0 54 (dk_at dksX5_one_3 6 rfl rfl)
theorem dX5_one_80 : decode cX5_one 80 = .ok (.if_acmp .eq 8, 3) := dk_165 0 8 (dk_at dksX5_one_3 9 rfl rfl)
theorem dX5_one_83 : decode cX5_one 83 = .ok (.aload_n 0, 1) := dk_42 (dk_at dksX5_one_3 12 rfl rfl)
theorem dX5_one_84 : decode cX5_one 84 = .ok (.invokevirtual 117, 3) := dk_182 0 117 (dk_at dksX5_one_3 13 rfl rfl)
theorem dX5_one_87 : decode cX5_one 87 = .ok (.athrow, 1) := dk_191 (dk_at dksX5_one_3 16 rfl rfl)
theorem dX5_one_88 : decode cX5_one 88 = .ok (.aload_n 0, 1) := dk_42 (dk_at dksX5_one_3 17 rfl rfl)
theorem dX5_one_89 : decode cX5_one 89 = .ok (.getfield 11, 3) := dk_180 0 11 (dk_at dksX5_one_3 18 rfl rfl)
theorem dX5_one_92 : decode cX5_one 92 = .ok (.astore_n 1, 1) := dk_76 (dk_at dksX5_one_3 21 rfl rfl)
theorem dX5_one_93 : decode cX5_one 93 = .ok (.iconst (-1), 1) := dk_2 (dk_at dksX5_one_3 22 rfl rfl)
theorem dX5_one_94 : decode cX5_one 94 = .ok (.istore_n 2, 1) := dk_61 (dk_at dksX5_one_3 23 rfl rfl)
theorem dX5_one_95 : decode cX5_one 95 = .ok (.aload_n 1, 1) := dk_43 (dk_at dksX5_one_4 0 rfl rfl)
theorem dX5_one_96 : decode cX5_one 96 = .ok (.invokevirtual 239, 3) := dk_182 0 239 (dk_at dksX5_one_4 1 rfl rfl)
theorem dX5_one_99 : decode cX5_one 99 = .ok (.lookupswitch 233 #[(-1393030924, 173), (-1361036889, 117), (-788942728, 159), (99228, 204), (3002781, 103), (3015911, 145), (3135542, 131), (3165387, 188), (3292052, 220), (3343799, 89)], 89) := by decide +kernel
theorem dX5_one_188 : decode cX5_one 188 = .ok (.aload_n 1, 1) := dk_43 (dk_at dksX5_one_6 0 rfl rfl)
theorem dX5_one_189 : decode cX5_one 189 = .ok (.ldc 242, 2) := dk_18 242 (dk_at dksX5_one_6 1 rfl rfl)
theorem dX5_one_191 : decode cX5_one 191 = .ok (.invokevirtual 104, 3) := dk_182 0 104 (dk_at dksX5_one_6 3 rfl rfl)
theorem dX5_one_194 : decode cX5_one 194 = .ok (.ifCond .eq 138, 3) := dk_153 0 138 (dk_at dksX5_one_6 6 rfl rfl)
theorem dX5_one_197 : decode cX5_one 197 = .ok (.iconst 0, 1) := dk_3 (dk_at dksX5_one_6 9 rfl rfl)
theorem dX5_one_198 : decode cX5_one 198 = .ok (.istore_n 2, 1) := dk_61 (dk_at dksX5_one_6 10 rfl rfl)
theorem dX5_one_199 : decode cX5_one 199 = .ok (.goto 133, 3) := dk_167 0 133 (dk_at dksX5_one_6 11 rfl rfl)
theorem dX5_one_202 : decode cX5_one 202 = .ok (.aload_n 1, 1) := dk_43 (dk_at dksX5_one_6 14 rfl rfl)
theorem dX5_one_203 : decode cX5_one 203 = .ok (.ldc 244, 2) := dk_18 244 (dk_at dksX5_one_6 15 rfl rfl)
theorem dX5_one_205 : decode cX5_one 205 = .ok (.invokevirtual 104, 3) := dk_182 0 104 (dk_at dksX5_one_6 17 rfl rfl)
theorem dX5_one_208 : decode cX5_one 208 = .ok (.ifCond .eq 124, 3) := dk_153 0 124 (dk_at dksX5_one_6 20 rfl rfl)
theorem dX5_one_211 : decode cX5_one 211 = .ok (.iconst 1, 1) := dk_4 (dk_at dksX5_one_6 23 rfl rfl)
theorem dX5_one_212 : decode cX5_one 212 = .ok (.istore_n 2, 1) := dk_61 (dk_at dksX5_one_7 0 rfl rfl)
theorem dX5_one_213 : decode cX5_one 213 = .ok (.goto 119, 3) := dk_167 0 119 (dk_at dksX5_one_7 1 rfl rfl)
theorem dX5_one_216 : decode cX5_one 216 = .ok (.aload_n 1, 1) := dk_43 (dk_at dksX5_one_7 4 rfl rfl)
theorem dX5_one_217 : decode cX5_one 217 = .ok (.ldc 246, 2) := dk_18 246 (dk_at dksX5_one_7 5 rfl rfl)
theorem dX5_one_219 : decode cX5_one 219 = .ok (.invokevirtual 104, 3) := dk_182 0 104 (dk_at dksX5_one_7 7 rfl rfl)
theorem dX5_one_222 : decode cX5_one 222 = .ok (.ifCond .eq 110, 3) := dk_153 0 110 (dk_at dksX5_one_7 10 rfl rfl)
theorem dX5_one_225 : decode cX5_one 225 = .ok (.iconst 2, 1) := dk_5 (dk_at dksX5_one_7 13 rfl rfl)
theorem dX5_one_226 : decode cX5_one 226 = .ok (.istore_n 2, 1) := dk_61 (dk_at dksX5_one_7 14 rfl rfl)
theorem dX5_one_227 : decode cX5_one 227 = .ok (.goto 105, 3) := dk_167 0 105 (dk_at dksX5_one_7 15 rfl rfl)
theorem dX5_one_230 : decode cX5_one 230 = .ok (.aload_n 1, 1) := dk_43 (dk_at dksX5_one_7 18 rfl rfl)
theorem dX5_one_231 : decode cX5_one 231 = .ok (.ldc 248, 2) := dk_18 248 (dk_at dksX5_one_7 19 rfl rfl)
theorem dX5_one_233 : decode cX5_one 233 = .ok (.invokevirtual 104, 3) := dk_182 0 104 (dk_at dksX5_one_7 21 rfl rfl)
theorem dX5_one_236 : decode cX5_one 236 = .ok (.ifCond .eq 96, 3) := dk_153 0 96 (dk_at dksX5_one_8 0 rfl rfl)
theorem dX5_one_239 : decode cX5_one 239 = .ok (.iconst 3, 1) := dk_6 (dk_at dksX5_one_8 3 rfl rfl)
theorem dX5_one_240 : decode cX5_one 240 = .ok (.istore_n 2, 1) := dk_61 (dk_at dksX5_one_8 4 rfl rfl)
theorem dX5_one_241 : decode cX5_one 241 = .ok (.goto 91, 3) := dk_167 0 91 (dk_at dksX5_one_8 5 rfl rfl)
theorem dX5_one_244 : decode cX5_one 244 = .ok (.aload_n 1, 1) := dk_43 (dk_at dksX5_one_8 8 rfl rfl)
theorem dX5_one_245 : decode cX5_one 245 = .ok (.ldc 250, 2) := dk_18 250 (dk_at dksX5_one_8 9 rfl rfl)
theorem dX5_one_247 : decode cX5_one 247 = .ok (.invokevirtual 104, 3) := dk_182 0 104 (dk_at dksX5_one_8 11 rfl rfl)
theorem dX5_one_250 : decode cX5_one 250 = .ok (.ifCond .eq 82, 3) := dk_153 0 82 (dk_at dksX5_one_8 14 rfl rfl)
theorem dX5_one_253 : decode cX5_one 253 = .ok (.iconst 4, 1) := dk_7 (dk_at dksX5_one_8 17 rfl rfl)
theorem dX5_one_254 : decode cX5_one 254 = .ok (.istore_n 2, 1) := dk_61 (dk_at dksX5_one_8 18 rfl rfl)
theorem dX5_one_255 : decode cX5_one 255 = .ok (.goto 77, 3) := dk_167 0 77 (dk_at dksX5_one_8 19 rfl rfl)
theorem dX5_one_258 : decode cX5_one 258 = .ok (.aload_n 1, 1) := dk_43 (dk_at dksX5_one_8 22 rfl rfl)
theorem dX5_one_259 : decode cX5_one 259 = .ok (.ldc 252, 2) := dk_18 252 (dk_at dksX5_one_9 0 rfl rfl)
theorem dX5_one_261 : decode cX5_one 261 = .ok (.invokevirtual 104, 3) := dk_182 0 104 (dk_at dksX5_one_9 2 rfl rfl)
theorem dX5_one_264 : decode cX5_one 264 = .ok (.ifCond .eq 68, 3) := dk_153 0 68 (dk_at dksX5_one_9 5 rfl rfl)
theorem dX5_one_267 : decode cX5_one 267 = .ok (.iconst 5, 1) := dk_8 (dk_at dksX5_one_9 8 rfl rfl)
theorem dX5_one_268 : decode cX5_one 268 = .ok (.istore_n 2, 1) := dk_61 (dk_at dksX5_one_9 9 rfl rfl)
theorem dX5_one_269 : decode cX5_one 269 = .ok (.goto 63, 3) := dk_167 0 63 (dk_at dksX5_one_9 10 rfl rfl)
theorem dX5_one_272 : decode cX5_one 272 = .ok (.aload_n 1, 1) := dk_43 (dk_at dksX5_one_9 13 rfl rfl)
theorem dX5_one_273 : decode cX5_one 273 = .ok (.ldc 254, 2) := dk_18 254 (dk_at dksX5_one_9 14 rfl rfl)
theorem dX5_one_275 : decode cX5_one 275 = .ok (.invokevirtual 104, 3) := dk_182 0 104 (dk_at dksX5_one_9 16 rfl rfl)
theorem dX5_one_278 : decode cX5_one 278 = .ok (.ifCond .eq 54, 3) := dk_153 0 54 (dk_at dksX5_one_9 19 rfl rfl)
theorem dX5_one_281 : decode cX5_one 281 = .ok (.bipush 6, 2) := dk_16 6 (dk_at dksX5_one_9 22 rfl rfl)
theorem dX5_one_283 : decode cX5_one 283 = .ok (.istore_n 2, 1) := dk_61 (dk_at dksX5_one_10 0 rfl rfl)
theorem dX5_one_284 : decode cX5_one 284 = .ok (.goto 48, 3) := dk_167 0 48 (dk_at dksX5_one_10 1 rfl rfl)
theorem dX5_one_287 : decode cX5_one 287 = .ok (.aload_n 1, 1) := dk_43 (dk_at dksX5_one_10 4 rfl rfl)
theorem dX5_one_288 : decode cX5_one 288 = .ok (.ldc_w 256, 3) := dk_19 1 0 (dk_at dksX5_one_10 5 rfl rfl)
theorem dX5_one_291 : decode cX5_one 291 = .ok (.invokevirtual 104, 3) := dk_182 0 104 (dk_at dksX5_one_10 8 rfl rfl)
theorem dX5_one_294 : decode cX5_one 294 = .ok (.ifCond .eq 38, 3) := dk_153 0 38 (dk_at dksX5_one_10 11 rfl rfl)
theorem dX5_one_297 : decode cX5_one 297 = .ok (.bipush 7, 2) := dk_16 7 (dk_at dksX5_one_10 14 rfl rfl)
theorem dX5_one_299 : decode cX5_one 299 = .ok (.istore_n 2, 1) := dk_61 (dk_at dksX5_one_10 16 rfl rfl)
theorem dX5_one_300 : decode cX5_one 300 = .ok (.goto 32, 3) := dk_167 0 32 (dk_at dksX5_one_10 17 rfl rfl)
theorem dX5_one_303 : decode cX5_one 303 = .ok (.aload_n 1, 1) := dk_43 (dk_at dksX5_one_10 20 rfl rfl)
theorem dX5_one_304 : decode cX5_one 304 = .ok (.ldc_w 258, 3) := dk_19 1 2 (dk_at dksX5_one_10 21 rfl rfl)
theorem dX5_one_307 : decode cX5_one 307 = .ok (.invokevirtual 104, 3) := dk_182 0 104 (dk_at dksX5_one_11 0 rfl rfl)
theorem dX5_one_310 : decode cX5_one 310 = .ok (.ifCond .eq 22, 3) := dk_153 0 22 (dk_at dksX5_one_11 3 rfl rfl)
theorem dX5_one_313 : decode cX5_one 313 = .ok (.bipush 8, 2) := dk_16 8 (dk_at dksX5_one_11 6 rfl rfl)
theorem dX5_one_315 : decode cX5_one 315 = .ok (.istore_n 2, 1) := dk_61 (dk_at dksX5_one_11 8 rfl rfl)
theorem dX5_one_316 : decode cX5_one 316 = .ok (.goto 16, 3) := dk_167 0 16 (dk_at dksX5_one_11 9 rfl rfl)
theorem dX5_one_319 : decode cX5_one 319 = .ok (.aload_n 1, 1) := dk_43 (dk_at dksX5_one_11 12 rfl rfl)
theorem dX5_one_320 : decode cX5_one 320 = .ok (.ldc_w 260, 3) := dk_19 1 4 (dk_at dksX5_one_11 13 rfl rfl)
theorem dX5_one_323 : decode cX5_one 323 = .ok (.invokevirtual 104, 3) := dk_182 0 104 (dk_at dksX5_one_11 16 rfl rfl)
theorem dX5_one_326 : decode cX5_one 326 = .ok (.ifCond .eq 6, 3) := dk_153 0 6 (dk_at dksX5_one_11 19 rfl rfl)
theorem dX5_one_329 : decode cX5_one 329 = .ok (.bipush 9, 2) := dk_16 9 (dk_at dksX5_one_11 22 rfl rfl)
theorem dX5_one_331 : decode cX5_one 331 = .ok (.istore_n 2, 1) := dk_61 (dk_at dksX5_one_12 0 rfl rfl)
theorem dX5_one_332 : decode cX5_one 332 = .ok (.iload_n 2, 1) := dk_28 (dk_at dksX5_one_12 1 rfl rfl)
theorem dX5_one_333 : decode cX5_one 333 = .ok (.tableswitch 121 0 9 #[55, 61, 67, 73, 80, 92, 98, 104, 110, 116], 55) := by decide +kernel
theorem dX5_one_388 : decode cX5_one 388 = .ok (.aload_n 0, 1) := dk_42 (dk_at dksX5_one_14 0 rfl rfl)
theorem dX5_one_389 : decode cX5_one 389 = .ok (.iconst 1, 1) := dk_4 (dk_at dksX5_one_14 1 rfl rfl)
theorem dX5_one_390 : decode cX5_one 390 = .ok (.invokevirtual 262, 3) := dk_182 1 6 (dk_at dksX5_one_14 2 rfl rfl)
theorem dX5_one_393 : decode cX5_one 393 = .ok (.areturn, 1) := dk_176 (dk_at dksX5_one_14 5 rfl rfl)
theorem dX5_one_394 : decode cX5_one 394 = .ok (.aload_n 0, 1) := dk_42 (dk_at dksX5_one_14 6 rfl rfl)
theorem dX5_one_395 : decode cX5_one 395 = .ok (.iconst 2, 1) := dk_5 (dk_at dksX5_one_14 7 rfl rfl)
theorem dX5_one_396 : decode cX5_one 396 = .ok (.invokevirtual 262, 3) := dk_182 1 6 (dk_at dksX5_one_14 8 rfl rfl)
theorem dX5_one_399 : decode cX5_one 399 = .ok (.areturn, 1) := dk_176 (dk_at dksX5_one_14 11 rfl rfl)
theorem dX5_one_400 : decode cX5_one 400 = .ok (.aload_n 0, 1) := dk_42 (dk_at dksX5_one_14 12 rfl rfl)
theorem dX5_one_401 : decode cX5_one 401 = .ok (.iconst 4, 1) := dk_7 (dk_at dksX5_one_14 13 rfl rfl)
theorem dX5_one_402 : decode cX5_one 402 = .ok (.invokevirtual 262, 3) := dk_182 1 6 (dk_at dksX5_one_14 14 rfl rfl)
theorem dX5_one_405 : decode cX5_one 405 = .ok (.areturn, 1) := dk_176 (dk_at dksX5_one_14 17 rfl rfl)
theorem dX5_one_406 : decode cX5_one 406 = .ok (.aload_n 0, 1) := dk_42 (dk_at dksX5_one_14 18 rfl rfl)
theorem dX5_one_407 : decode cX5_one 407 = .ok (.bipush 8, 2) := dk_16 8 (dk_at dksX5_one_14 19 rfl rfl)
theorem dX5_one_409 : decode cX5_one 409 = .ok (.invokevirtual 262, 3) := dk_182 1 6 (dk_at dksX5_one_14 21 rfl rfl)
theorem dX5_one_412 : decode cX5_one 412 = .ok (.areturn, 1) := dk_176 (dk_at dksX5_one_15 0 rfl rfl)
theorem dX5_one_413 : decode cX5_one 413 = .ok (.aload_n 0, 1) := dk_42 (dk_at dksX5_one_15 1 rfl rfl)
theorem dX5_one_414 : decode cX5_one 414 = .ok (.invokevirtual 25, 3) := dk_182 0 25 (dk_at dksX5_one_15 2 rfl rfl)
theorem dX5_one_417 : decode cX5_one 417 = .ok (.new 266, 3) := dk_187 1 10 (dk_at dksX5_one_15 5 rfl rfl)
theorem dX5_one_420 : decode cX5_one 420 = .ok (.dup, 1) := dk_89 (dk_at dksX5_one_15 8 rfl rfl)
theorem dX5_one_421 : decode cX5_one 421 = .ok (.invokespecial 268, 3) := dk_183 1 12 (dk_at dksX5_one_15 9 rfl rfl)
theorem dX5_one_424 : decode cX5_one 424 = .ok (.areturn, 1) := dk_176 (dk_at dksX5_one_15 12 rfl rfl)
theorem dX5_one_425 : decode cX5_one 425 = .ok (.aload_n 0, 1) := dk_42 (dk_at dksX5_one_15 13 rfl rfl)
theorem dX5_one_426 : decode cX5_one 426 = .ok (.iconst 0, 1) := dk_3 (dk_at dksX5_one_15 14 rfl rfl)
theorem dX5_one_427 : decode cX5_one 427 = .ok (.invokevirtual 269, 3) := dk_182 1 13 (dk_at dksX5_one_15 15 rfl rfl)
theorem dX5_one_430 : decode cX5_one 430 = .ok (.areturn, 1) := dk_176 (dk_at dksX5_one_15 18 rfl rfl)
theorem dX5_one_431 : decode cX5_one 431 = .ok (.aload_n 0, 1) := dk_42 (dk_at dksX5_one_15 19 rfl rfl)
theorem dX5_one_432 : decode cX5_one 432 = .ok (.iconst 1, 1) := dk_4 (dk_at dksX5_one_15 20 rfl rfl)
theorem dX5_one_433 : decode cX5_one 433 = .ok (.invokevirtual 269, 3) := dk_182 1 13 (dk_at dksX5_one_15 21 rfl rfl)
theorem dX5_one_436 : decode cX5_one 436 = .ok (.areturn, 1) := dk_176 (dk_at dksX5_one_16 0 rfl rfl)
theorem dX5_one_437 : decode cX5_one 437 = .ok (.aload_n 0, 1) := dk_42 (dk_at dksX5_one_16 1 rfl rfl)
theorem dX5_one_438 : decode cX5_one 438 = .ok (.iconst 2, 1) := dk_5 (dk_at dksX5_one_16 2 rfl rfl)
theorem dX5_one_439 : decode cX5_one 439 = .ok (.invokevirtual 269, 3) := dk_182 1 13 (dk_at dksX5_one_16 3 rfl rfl)
theorem dX5_one_442 : decode cX5_one 442 = .ok (.areturn, 1) := dk_176 (dk_at dksX5_one_16 6 rfl rfl)
theorem dX5_one_443 : decode cX5_one 443 = .ok (.aload_n 0, 1) := dk_42 (dk_at dksX5_one_16 7 rfl rfl)
theorem dX5_one_444 : decode cX5_one 444 = .ok (.iconst 3, 1) := dk_6 (dk_at dksX5_one_16 8 rfl rfl)
theorem dX5_one_445 : decode cX5_one 445 = .ok (.invokevirtual 269, 3) := dk_182 1 13 (dk_at dksX5_one_16 9 rfl rfl)
theorem dX5_one_448 : decode cX5_one 448 = .ok (.areturn, 1) := dk_176 (dk_at dksX5_one_16 12 rfl rfl)
theorem dX5_one_449 : decode cX5_one 449 = .ok (.aload_n 0, 1) := dk_42 (dk_at dksX5_one_16 13 rfl rfl)
theorem dX5_one_450 : decode cX5_one 450 = .ok (.invokevirtual 272, 3) := dk_182 1 16 (dk_at dksX5_one_16 14 rfl rfl)
theorem dX5_one_453 : decode cX5_one 453 = .ok (.areturn, 1) := dk_176 (dk_at dksX5_one_16 17 rfl rfl)
theorem dX5_one_454 : decode cX5_one 454 = .ok (.aload_n 0, 1) := dk_42 (dk_at dksX5_one_16 18 rfl rfl)
theorem dX5_one_455 : decode cX5_one 455 = .ok (.invokevirtual 117, 3) := dk_182 0 117 (dk_at dksX5_one_16 19 rfl rfl)
theorem dX5_one_458 : decode cX5_one 458 = .ok (.athrow, 1) := dk_191 (dk_at dksX5_one_16 22 rfl rfl)
abbrev cX5_opens : ByteArray := prog_21_method_19_code
def yX5_opens : MethodName := ⟨RX5, "opens", "()V"⟩
def dkwX5_opens_1 : List UInt8 := [180, 0, 226, 4, 96, 181, 0, 226, 42, 182, 0, 25, 177]
abbrev dktX5_opens_1 : List UInt8 := dkwX5_opens_1 ++ []
def dkwX5_opens_0 : List UInt8 := [42, 180, 0, 226, 16, 10, 160, 0, 16, 187, 0, 99, 89, 6, 42, 180, 0, 31, 183, 0, 101, 191, 42, 89]
abbrev dktX5_opens_0 : List UInt8 := dkwX5_opens_0 ++ dktX5_opens_1
theorem dksX5_opens_0 : cX5_opens.data.toList.drop 0 = dktX5_opens_0 := by decide +kernel
theorem dksX5_opens_1 : cX5_opens.data.toList.drop 24 = dktX5_opens_1 := dk_seg dksX5_opens_0 24 rfl rfl
theorem dX5_opens_0 : decode cX5_opens 0 = .ok (.aload_n 0, 1) := dk_42 (dk_at dksX5_opens_0 0 rfl rfl)
theorem dX5_opens_1 : decode cX5_opens 1 = .ok (.getfield 226, 3) := dk_180 0 226 (dk_at dksX5_opens_0 1 rfl rfl)
theorem dX5_opens_4 : decode cX5_opens 4 = .ok (.bipush 10, 2) := dk_16 10 (dk_at dksX5_opens_0 4 rfl rfl)
theorem dX5_opens_6 : decode cX5_opens 6 = .ok (.if_icmp .ne 16, 3) := dk_160 0 16 (dk_at dksX5_opens_0 6 rfl rfl)
theorem dX5_opens_9 : decode cX5_opens 9 = .ok (.new 99, 3) := dk_187 0 99 (dk_at dksX5_opens_0 9 rfl rfl)
theorem dX5_opens_12 : decode cX5_opens 12 = .ok (.dup, 1) := dk_89 (dk_at dksX5_opens_0 12 rfl rfl)
theorem dX5_opens_13 : decode cX5_opens 13 = .ok (.iconst 3, 1) := dk_6 (dk_at dksX5_opens_0 13 rfl rfl)
theorem dX5_opens_14 : decode cX5_opens 14 = .ok (.aload_n 0, 1) := dk_42 (dk_at dksX5_opens_0 14 rfl rfl)
theorem dX5_opens_15 : decode cX5_opens 15 = .ok (.getfield 31, 3) := dk_180 0 31 (dk_at dksX5_opens_0 15 rfl rfl)
theorem dX5_opens_18 : decode cX5_opens 18 = .ok (.invokespecial 101, 3) := dk_183 0 101 (dk_at dksX5_opens_0 18 rfl rfl)
theorem dX5_opens_21 : decode cX5_opens 21 = .ok (.athrow, 1) := dk_191 (dk_at dksX5_opens_0 21 rfl rfl)
theorem dX5_opens_22 : decode cX5_opens 22 = .ok (.aload_n 0, 1) := dk_42 (dk_at dksX5_opens_0 22 rfl rfl)
theorem dX5_opens_23 : decode cX5_opens 23 = .ok (.dup, 1) := dk_89 (dk_at dksX5_opens_0 23 rfl rfl)
theorem dX5_opens_24 : decode cX5_opens 24 = .ok (.getfield 226, 3) := dk_180 0 226 (dk_at dksX5_opens_1 0 rfl rfl)
theorem dX5_opens_27 : decode cX5_opens 27 = .ok (.iconst 1, 1) := dk_4 (dk_at dksX5_opens_1 3 rfl rfl)
theorem dX5_opens_28 : decode cX5_opens 28 = .ok (.iadd, 1) := dk_96 (dk_at dksX5_opens_1 4 rfl rfl)
theorem dX5_opens_29 : decode cX5_opens 29 = .ok (.putfield 226, 3) := dk_181 0 226 (dk_at dksX5_opens_1 5 rfl rfl)
theorem dX5_opens_32 : decode cX5_opens 32 = .ok (.aload_n 0, 1) := dk_42 (dk_at dksX5_opens_1 8 rfl rfl)
theorem dX5_opens_33 : decode cX5_opens 33 = .ok (.invokevirtual 25, 3) := dk_182 0 25 (dk_at dksX5_opens_1 9 rfl rfl)
theorem dX5_opens_36 : decode cX5_opens 36 = .ok (.return_, 1) := dk_177 (dk_at dksX5_opens_1 12 rfl rfl)
abbrev cX5_bit : ByteArray := prog_21_method_21_code
def yX5_bit : MethodName := ⟨RX5, "bit", "(I)LTurnpikeTrust$Condition;"⟩
def dkwX5_bit_0 : List UInt8 := [42, 182, 0, 25, 187, 1, 18, 89, 27, 183, 1, 20, 176]
abbrev dktX5_bit_0 : List UInt8 := dkwX5_bit_0 ++ []
theorem dksX5_bit_0 : cX5_bit.data.toList.drop 0 = dktX5_bit_0 := by decide +kernel
theorem dX5_bit_0 : decode cX5_bit 0 = .ok (.aload_n 0, 1) := dk_42 (dk_at dksX5_bit_0 0 rfl rfl)
theorem dX5_bit_1 : decode cX5_bit 1 = .ok (.invokevirtual 25, 3) := dk_182 0 25 (dk_at dksX5_bit_0 1 rfl rfl)
theorem dX5_bit_4 : decode cX5_bit 4 = .ok (.new 274, 3) := dk_187 1 18 (dk_at dksX5_bit_0 4 rfl rfl)
theorem dX5_bit_7 : decode cX5_bit 7 = .ok (.dup, 1) := dk_89 (dk_at dksX5_bit_0 7 rfl rfl)
theorem dX5_bit_8 : decode cX5_bit 8 = .ok (.iload_n 1, 1) := dk_27 (dk_at dksX5_bit_0 8 rfl rfl)
theorem dX5_bit_9 : decode cX5_bit 9 = .ok (.invokespecial 276, 3) := dk_183 1 20 (dk_at dksX5_bit_0 9 rfl rfl)
theorem dX5_bit_12 : decode cX5_bit 12 = .ok (.areturn, 1) := dk_176 (dk_at dksX5_bit_0 12 rfl rfl)
abbrev cX5_compares : ByteArray := prog_21_method_22_code
def yX5_compares : MethodName := ⟨RX5, "compares", "(I)LTurnpikeTrust$Condition;"⟩
def dkwX5_compares_2 : List UInt8 := [187, 1, 21, 89, 27, 28, 42, 9, 182, 0, 184, 136, 183, 1, 23, 176]
abbrev dktX5_compares_2 : List UInt8 := dkwX5_compares_2 ++ []
def dkwX5_compares_1 : List UInt8 := [16, 62, 182, 0, 114, 154, 0, 8, 42, 182, 0, 117, 191, 42, 180, 0, 38, 61, 42, 182, 0, 25]
abbrev dktX5_compares_1 : List UInt8 := dkwX5_compares_1 ++ dktX5_compares_2
def dkwX5_compares_0 : List UInt8 := [42, 182, 0, 25, 42, 16, 61, 182, 0, 114, 154, 0, 26, 42, 16, 60, 182, 0, 114, 154, 0, 17, 42]
abbrev dktX5_compares_0 : List UInt8 := dkwX5_compares_0 ++ dktX5_compares_1
theorem dksX5_compares_0 : cX5_compares.data.toList.drop 0 = dktX5_compares_0 := by decide +kernel
theorem dksX5_compares_1 : cX5_compares.data.toList.drop 23 = dktX5_compares_1 := dk_seg dksX5_compares_0 23 rfl rfl
theorem dksX5_compares_2 : cX5_compares.data.toList.drop 45 = dktX5_compares_2 := dk_seg dksX5_compares_1 22 rfl rfl
theorem dX5_compares_0 : decode cX5_compares 0 = .ok (.aload_n 0, 1) := dk_42 (dk_at dksX5_compares_0 0 rfl rfl)
theorem dX5_compares_1 : decode cX5_compares 1 = .ok (.invokevirtual 25, 3) := dk_182 0 25 (dk_at dksX5_compares_0 1 rfl rfl)
theorem dX5_compares_4 : decode cX5_compares 4 = .ok (.aload_n 0, 1) := dk_42 (dk_at dksX5_compares_0 4 rfl rfl)
theorem dX5_compares_5 : decode cX5_compares 5 = .ok (.bipush 61, 2) := dk_16 61 (dk_at dksX5_compares_0 5 rfl rfl)
theorem dX5_compares_7 : decode cX5_compares 7 = .ok (.invokevirtual 114, 3) := dk_182 0 114 (dk_at dksX5_compares_0 7 rfl rfl)
theorem dX5_compares_10 : decode cX5_compares 10 = .ok (.ifCond .ne 26, 3) := dk_154 0 26 (dk_at dksX5_compares_0 10 rfl rfl)
theorem dX5_compares_13 : decode cX5_compares 13 = .ok (.aload_n 0, 1) := dk_42 (dk_at dksX5_compares_0 13 rfl rfl)
theorem dX5_compares_14 : decode cX5_compares 14 = .ok (.bipush 60, 2) := dk_16 60 (dk_at dksX5_compares_0 14 rfl rfl)
theorem dX5_compares_16 : decode cX5_compares 16 = .ok (.invokevirtual 114, 3) := dk_182 0 114 (dk_at dksX5_compares_0 16 rfl rfl)
theorem dX5_compares_19 : decode cX5_compares 19 = .ok (.ifCond .ne 17, 3) := dk_154 0 17 (dk_at dksX5_compares_0 19 rfl rfl)
theorem dX5_compares_22 : decode cX5_compares 22 = .ok (.aload_n 0, 1) := dk_42 (dk_at dksX5_compares_0 22 rfl rfl)
theorem dX5_compares_23 : decode cX5_compares 23 = .ok (.bipush 62, 2) := dk_16 62 (dk_at dksX5_compares_1 0 rfl rfl)
theorem dX5_compares_25 : decode cX5_compares 25 = .ok (.invokevirtual 114, 3) := dk_182 0 114 (dk_at dksX5_compares_1 2 rfl rfl)
theorem dX5_compares_28 : decode cX5_compares 28 = .ok (.ifCond .ne 8, 3) := dk_154 0 8 (dk_at dksX5_compares_1 5 rfl rfl)
theorem dX5_compares_31 : decode cX5_compares 31 = .ok (.aload_n 0, 1) := dk_42 (dk_at dksX5_compares_1 8 rfl rfl)
theorem dX5_compares_32 : decode cX5_compares 32 = .ok (.invokevirtual 117, 3) := dk_182 0 117 (dk_at dksX5_compares_1 9 rfl rfl)
theorem dX5_compares_35 : decode cX5_compares 35 = .ok (.athrow, 1) := dk_191 (dk_at dksX5_compares_1 12 rfl rfl)
theorem dX5_compares_36 : decode cX5_compares 36 = .ok (.aload_n 0, 1) := dk_42 (dk_at dksX5_compares_1 13 rfl rfl)
theorem dX5_compares_37 : decode cX5_compares 37 = .ok (.getfield 38, 3) := dk_180 0 38 (dk_at dksX5_compares_1 14 rfl rfl)
theorem dX5_compares_40 : decode cX5_compares 40 = .ok (.istore_n 2, 1) := dk_61 (dk_at dksX5_compares_1 17 rfl rfl)
theorem dX5_compares_41 : decode cX5_compares 41 = .ok (.aload_n 0, 1) := dk_42 (dk_at dksX5_compares_1 18 rfl rfl)
theorem dX5_compares_42 : decode cX5_compares 42 = .ok (.invokevirtual 25, 3) := dk_182 0 25 (dk_at dksX5_compares_1 19 rfl rfl)
theorem dX5_compares_45 : decode cX5_compares 45 = .ok (.new 277, 3) := dk_187 1 21 (dk_at dksX5_compares_2 0 rfl rfl)
theorem dX5_compares_48 : decode cX5_compares 48 = .ok (.dup, 1) := dk_89 (dk_at dksX5_compares_2 3 rfl rfl)
theorem dX5_compares_49 : decode cX5_compares 49 = .ok (.iload_n 1, 1) := dk_27 (dk_at dksX5_compares_2 4 rfl rfl)
theorem dX5_compares_50 : decode cX5_compares 50 = .ok (.iload_n 2, 1) := dk_28 (dk_at dksX5_compares_2 5 rfl rfl)
theorem dX5_compares_51 : decode cX5_compares 51 = .ok (.aload_n 0, 1) := dk_42 (dk_at dksX5_compares_2 6 rfl rfl)
theorem dX5_compares_52 : decode cX5_compares 52 = .ok (.lconst 0, 1) := dk_9 (dk_at dksX5_compares_2 7 rfl rfl)
theorem dX5_compares_53 : decode cX5_compares 53 = .ok (.invokevirtual 184, 3) := dk_182 0 184 (dk_at dksX5_compares_2 8 rfl rfl)
theorem dX5_compares_56 : decode cX5_compares 56 = .ok (.l2i, 1) := dk_136 (dk_at dksX5_compares_2 11 rfl rfl)
theorem dX5_compares_57 : decode cX5_compares 57 = .ok (.invokespecial 279, 3) := dk_183 1 23 (dk_at dksX5_compares_2 12 rfl rfl)
theorem dX5_compares_60 : decode cX5_compares 60 = .ok (.areturn, 1) := dk_176 (dk_at dksX5_compares_2 15 rfl rfl)
abbrev cX5_kind : ByteArray := prog_21_method_23_code
def yX5_kind : MethodName := ⟨RX5, "kind", "()LTurnpikeTrust$Condition;"⟩
def dkwX5_kind_2 : List UInt8 := [187, 1, 30, 89, 27, 183, 1, 32, 176]
abbrev dktX5_kind_2 : List UInt8 := dkwX5_kind_2 ++ []
def dkwX5_kind_1 : List UInt8 := [42, 180, 0, 11, 184, 1, 26, 60, 27, 2, 160, 0, 8, 42, 182, 0, 117, 191, 42, 182, 0, 25]
abbrev dktX5_kind_1 : List UInt8 := dkwX5_kind_1 ++ dktX5_kind_2
def dkwX5_kind_0 : List UInt8 := [42, 182, 0, 25, 42, 16, 61, 182, 0, 181, 42, 180, 0, 47, 178, 0, 54, 165, 0, 7, 2, 167, 0, 10]
abbrev dktX5_kind_0 : List UInt8 := dkwX5_kind_0 ++ dktX5_kind_1
theorem dksX5_kind_0 : cX5_kind.data.toList.drop 0 = dktX5_kind_0 := by decide +kernel
theorem dksX5_kind_1 : cX5_kind.data.toList.drop 24 = dktX5_kind_1 := dk_seg dksX5_kind_0 24 rfl rfl
theorem dksX5_kind_2 : cX5_kind.data.toList.drop 46 = dktX5_kind_2 := dk_seg dksX5_kind_1 22 rfl rfl
theorem dX5_kind_0 : decode cX5_kind 0 = .ok (.aload_n 0, 1) := dk_42 (dk_at dksX5_kind_0 0 rfl rfl)
theorem dX5_kind_1 : decode cX5_kind 1 = .ok (.invokevirtual 25, 3) := dk_182 0 25 (dk_at dksX5_kind_0 1 rfl rfl)
theorem dX5_kind_4 : decode cX5_kind 4 = .ok (.aload_n 0, 1) := dk_42 (dk_at dksX5_kind_0 4 rfl rfl)
theorem dX5_kind_5 : decode cX5_kind 5 = .ok (.bipush 61, 2) := dk_16 61 (dk_at dksX5_kind_0 5 rfl rfl)
theorem dX5_kind_7 : decode cX5_kind 7 = .ok (.invokevirtual 181, 3) := dk_182 0 181 (dk_at dksX5_kind_0 7 rfl rfl)
theorem dX5_kind_10 : decode cX5_kind 10 = .ok (.aload_n 0, 1) := dk_42 (dk_at dksX5_kind_0 10 rfl rfl)
theorem dX5_kind_11 : decode cX5_kind 11 = .ok (.getfield 47, 3) := dk_180 0 47 (dk_at dksX5_kind_0 11 rfl rfl)
theorem dX5_kind_14 : decode cX5_kind 14 = .ok (.getstatic 54, 3) := dk_178 0 54 (dk_at dksX5_kind_0 14 rfl rfl)
theorem dX5_kind_17 : decode cX5_kind 17 = .ok (.if_acmp .eq 7, 3) := dk_165 0 7 (dk_at dksX5_kind_0 17 rfl rfl)
theorem dX5_kind_20 : decode cX5_kind 20 = .ok (.iconst (-1), 1) := dk_2 (dk_at dksX5_kind_0 20 rfl rfl)
theorem dX5_kind_21 : decode cX5_kind 21 = .ok (.goto 10, 3) := dk_167 0 10 (dk_at dksX5_kind_0 21 rfl rfl)
theorem dX5_kind_24 : decode cX5_kind 24 = .ok (.aload_n 0, 1) := dk_42 (dk_at dksX5_kind_1 0 rfl rfl)
theorem dX5_kind_25 : decode cX5_kind 25 = .ok (.getfield 11, 3) := dk_180 0 11 (dk_at dksX5_kind_1 1 rfl rfl)
theorem dX5_kind_28 : decode cX5_kind 28 = .ok (.invokestatic 282, 3) := dk_184 1 26 (dk_at dksX5_kind_1 4 rfl rfl)
theorem dX5_kind_31 : decode cX5_kind 31 = .ok (.istore_n 1, 1) := dk_60 (dk_at dksX5_kind_1 7 rfl rfl)
theorem dX5_kind_32 : decode cX5_kind 32 = .ok (.iload_n 1, 1) := dk_27 (dk_at dksX5_kind_1 8 rfl rfl)
theorem dX5_kind_33 : decode cX5_kind 33 = .ok (.iconst (-1), 1) := dk_2 (dk_at dksX5_kind_1 9 rfl rfl)
theorem dX5_kind_34 : decode cX5_kind 34 = .ok (.if_icmp .ne 8, 3) := dk_160 0 8 (dk_at dksX5_kind_1 10 rfl rfl)
theorem dX5_kind_37 : decode cX5_kind 37 = .ok (.aload_n 0, 1) := dk_42 (dk_at dksX5_kind_1 13 rfl rfl)
theorem dX5_kind_38 : decode cX5_kind 38 = .ok (.invokevirtual 117, 3) := dk_182 0 117 (dk_at dksX5_kind_1 14 rfl rfl)
theorem dX5_kind_41 : decode cX5_kind 41 = .ok (.athrow, 1) := dk_191 (dk_at dksX5_kind_1 17 rfl rfl)
theorem dX5_kind_42 : decode cX5_kind 42 = .ok (.aload_n 0, 1) := dk_42 (dk_at dksX5_kind_1 18 rfl rfl)
theorem dX5_kind_43 : decode cX5_kind 43 = .ok (.invokevirtual 25, 3) := dk_182 0 25 (dk_at dksX5_kind_1 19 rfl rfl)
theorem dX5_kind_46 : decode cX5_kind 46 = .ok (.new 286, 3) := dk_187 1 30 (dk_at dksX5_kind_2 0 rfl rfl)
theorem dX5_kind_49 : decode cX5_kind 49 = .ok (.dup, 1) := dk_89 (dk_at dksX5_kind_2 3 rfl rfl)
theorem dX5_kind_50 : decode cX5_kind 50 = .ok (.iload_n 1, 1) := dk_27 (dk_at dksX5_kind_2 4 rfl rfl)
theorem dX5_kind_51 : decode cX5_kind 51 = .ok (.invokespecial 288, 3) := dk_183 1 32 (dk_at dksX5_kind_2 5 rfl rfl)
theorem dX5_kind_54 : decode cX5_kind 54 = .ok (.areturn, 1) := dk_176 (dk_at dksX5_kind_2 8 rfl rfl)
abbrev cX5_kindOf : ByteArray := prog_21_method_24_code
def yX5_kindOf : MethodName := ⟨RX5, "kindOf", "(Ljava/lang/String;)I"⟩
def dkwX5_kindOf_8 : List UInt8 := [3, 172, 4, 172, 5, 172, 6, 172, 7, 172, 8, 172, 16, 6, 172, 2, 172]
abbrev dktX5_kindOf_8 : List UInt8 := dkwX5_kindOf_8 ++ []
def dkwX5_kindOf_7 : List UInt8 := [170, 0, 0, 0, 0, 0, 0, 59, 0, 0, 0, 0, 0, 0, 0, 6, 0, 0, 0, 44, 0, 0, 0, 46, 0, 0, 0, 48, 0, 0, 0, 50, 0, 0, 0, 52, 0, 0, 0, 54, 0, 0, 0, 56]
abbrev dktX5_kindOf_7 : List UInt8 := dkwX5_kindOf_7 ++ dktX5_kindOf_8
def dkwX5_kindOf_6 : List UInt8 := [182, 0, 104, 153, 0, 6, 16, 6, 61, 28]
abbrev dktX5_kindOf_6 : List UInt8 := dkwX5_kindOf_6 ++ dktX5_kindOf_7
def dkwX5_kindOf_5 : List UInt8 := [7, 61, 167, 0, 31, 43, 19, 1, 43, 182, 0, 104, 153, 0, 21, 8, 61, 167, 0, 16, 43, 19, 1, 45]
abbrev dktX5_kindOf_5 : List UInt8 := dkwX5_kindOf_5 ++ dktX5_kindOf_6
def dkwX5_kindOf_4 : List UInt8 := [19, 1, 39, 182, 0, 104, 153, 0, 51, 6, 61, 167, 0, 46, 43, 19, 1, 41, 182, 0, 104, 153, 0, 36]
abbrev dktX5_kindOf_4 : List UInt8 := dkwX5_kindOf_4 ++ dktX5_kindOf_5
def dkwX5_kindOf_3 : List UInt8 := [153, 0, 81, 4, 61, 167, 0, 76, 43, 19, 1, 37, 182, 0, 104, 153, 0, 66, 5, 61, 167, 0, 61, 43]
abbrev dktX5_kindOf_3 : List UInt8 := dkwX5_kindOf_3 ++ dktX5_kindOf_4
def dkwX5_kindOf_2 : List UInt8 := [43, 19, 1, 33, 182, 0, 104, 153, 0, 96, 3, 61, 167, 0, 91, 43, 19, 1, 35, 182, 0, 104]
abbrev dktX5_kindOf_2 : List UInt8 := dkwX5_kindOf_2 ++ dktX5_kindOf_3
def dkwX5_kindOf_1 : List UInt8 := [171, 0, 0, 0, 0, 0, 0, 171, 0, 0, 0, 7, 174, 125, 41, 87, 0, 0, 0, 128, 0, 46, 123, 32, 0, 0, 0, 83, 0, 48, 12, 110, 0, 0, 0, 158, 5, 167, 4, 154, 0, 0, 0, 68, 5, 237, 187, 221, 0, 0, 0, 113, 6, 133, 93, 91, 0, 0, 0, 143, 6, 186, 149, 124, 0, 0, 0, 98]
abbrev dktX5_kindOf_1 : List UInt8 := dkwX5_kindOf_1 ++ dktX5_kindOf_2
def dkwX5_kindOf_0 : List UInt8 := [42, 76, 2, 61, 43, 182, 0, 239]
abbrev dktX5_kindOf_0 : List UInt8 := dkwX5_kindOf_0 ++ dktX5_kindOf_1
theorem dksX5_kindOf_0 : cX5_kindOf.data.toList.drop 0 = dktX5_kindOf_0 := by decide +kernel
theorem dksX5_kindOf_1 : cX5_kindOf.data.toList.drop 8 = dktX5_kindOf_1 := dk_seg dksX5_kindOf_0 8 rfl rfl
theorem dksX5_kindOf_2 : cX5_kindOf.data.toList.drop 76 = dktX5_kindOf_2 := dk_seg dksX5_kindOf_1 68 rfl rfl
theorem dksX5_kindOf_3 : cX5_kindOf.data.toList.drop 98 = dktX5_kindOf_3 := dk_seg dksX5_kindOf_2 22 rfl rfl
theorem dksX5_kindOf_4 : cX5_kindOf.data.toList.drop 122 = dktX5_kindOf_4 := dk_seg dksX5_kindOf_3 24 rfl rfl
theorem dksX5_kindOf_5 : cX5_kindOf.data.toList.drop 146 = dktX5_kindOf_5 := dk_seg dksX5_kindOf_4 24 rfl rfl
theorem dksX5_kindOf_6 : cX5_kindOf.data.toList.drop 170 = dktX5_kindOf_6 := dk_seg dksX5_kindOf_5 24 rfl rfl
theorem dksX5_kindOf_7 : cX5_kindOf.data.toList.drop 180 = dktX5_kindOf_7 := dk_seg dksX5_kindOf_6 10 rfl rfl
theorem dksX5_kindOf_8 : cX5_kindOf.data.toList.drop 224 = dktX5_kindOf_8 := dk_seg dksX5_kindOf_7 44 rfl rfl
theorem dX5_kindOf_0 : decode cX5_kindOf 0 = .ok (.aload_n 0, 1) := dk_42 (dk_at dksX5_kindOf_0 0 rfl rfl)
theorem dX5_kindOf_1 : decode cX5_kindOf 1 = .ok (.astore_n 1, 1) := dk_76 (dk_at dksX5_kindOf_0 1 rfl rfl)
theorem dX5_kindOf_2 : decode cX5_kindOf 2 = .ok (.iconst (-1), 1) := dk_2 (dk_at dksX5_kindOf_0 2 rfl rfl)
theorem dX5_kindOf_3 : decode cX5_kindOf 3 = .ok (.istore_n 2, 1) := dk_61 (dk_at dksX5_kindOf_0 3 rfl rfl)
theorem dX5_kindOf_4 : decode cX5_kindOf 4 = .ok (.aload_n 1, 1) := dk_43 (dk_at dksX5_kindOf_0 4 rfl rfl)
theorem dX5_kindOf_5 : decode cX5_kindOf 5 = .ok (.invokevirtual 239, 3) := dk_182 0 239 (dk_at dksX5_kindOf_0 5 rfl rfl)
theorem dX5_kindOf_8 : decode cX5_kindOf 8 = .ok (.lookupswitch 171 #[(-1367529129, 128), (3046176, 83), (3148910, 158), (94831770, 68), (99466205, 113), (109403483, 143), (112891260, 98)], 68) := by decide +kernel
theorem dX5_kindOf_76 : decode cX5_kindOf 76 = .ok (.aload_n 1, 1) := dk_43 (dk_at dksX5_kindOf_2 0 rfl rfl)
theorem dX5_kindOf_77 : decode cX5_kindOf 77 = .ok (.ldc_w 289, 3) := dk_19 1 33 (dk_at dksX5_kindOf_2 1 rfl rfl)
theorem dX5_kindOf_80 : decode cX5_kindOf 80 = .ok (.invokevirtual 104, 3) := dk_182 0 104 (dk_at dksX5_kindOf_2 4 rfl rfl)
theorem dX5_kindOf_83 : decode cX5_kindOf 83 = .ok (.ifCond .eq 96, 3) := dk_153 0 96 (dk_at dksX5_kindOf_2 7 rfl rfl)
theorem dX5_kindOf_86 : decode cX5_kindOf 86 = .ok (.iconst 0, 1) := dk_3 (dk_at dksX5_kindOf_2 10 rfl rfl)
theorem dX5_kindOf_87 : decode cX5_kindOf 87 = .ok (.istore_n 2, 1) := dk_61 (dk_at dksX5_kindOf_2 11 rfl rfl)
theorem dX5_kindOf_88 : decode cX5_kindOf 88 = .ok (.goto 91, 3) := dk_167 0 91 (dk_at dksX5_kindOf_2 12 rfl rfl)
theorem dX5_kindOf_91 : decode cX5_kindOf 91 = .ok (.aload_n 1, 1) := dk_43 (dk_at dksX5_kindOf_2 15 rfl rfl)
theorem dX5_kindOf_92 : decode cX5_kindOf 92 = .ok (.ldc_w 291, 3) := dk_19 1 35 (dk_at dksX5_kindOf_2 16 rfl rfl)
theorem dX5_kindOf_95 : decode cX5_kindOf 95 = .ok (.invokevirtual 104, 3) := dk_182 0 104 (dk_at dksX5_kindOf_2 19 rfl rfl)
theorem dX5_kindOf_98 : decode cX5_kindOf 98 = .ok (.ifCond .eq 81, 3) := dk_153 0 81 (dk_at dksX5_kindOf_3 0 rfl rfl)
theorem dX5_kindOf_101 : decode cX5_kindOf 101 = .ok (.iconst 1, 1) := dk_4 (dk_at dksX5_kindOf_3 3 rfl rfl)
theorem dX5_kindOf_102 : decode cX5_kindOf 102 = .ok (.istore_n 2, 1) := dk_61 (dk_at dksX5_kindOf_3 4 rfl rfl)
theorem dX5_kindOf_103 : decode cX5_kindOf 103 = .ok (.goto 76, 3) := dk_167 0 76 (dk_at dksX5_kindOf_3 5 rfl rfl)
theorem dX5_kindOf_106 : decode cX5_kindOf 106 = .ok (.aload_n 1, 1) := dk_43 (dk_at dksX5_kindOf_3 8 rfl rfl)
theorem dX5_kindOf_107 : decode cX5_kindOf 107 = .ok (.ldc_w 293, 3) := dk_19 1 37 (dk_at dksX5_kindOf_3 9 rfl rfl)
theorem dX5_kindOf_110 : decode cX5_kindOf 110 = .ok (.invokevirtual 104, 3) := dk_182 0 104 (dk_at dksX5_kindOf_3 12 rfl rfl)
theorem dX5_kindOf_113 : decode cX5_kindOf 113 = .ok (.ifCond .eq 66, 3) := dk_153 0 66 (dk_at dksX5_kindOf_3 15 rfl rfl)
theorem dX5_kindOf_116 : decode cX5_kindOf 116 = .ok (.iconst 2, 1) := dk_5 (dk_at dksX5_kindOf_3 18 rfl rfl)
theorem dX5_kindOf_117 : decode cX5_kindOf 117 = .ok (.istore_n 2, 1) := dk_61 (dk_at dksX5_kindOf_3 19 rfl rfl)
theorem dX5_kindOf_118 : decode cX5_kindOf 118 = .ok (.goto 61, 3) := dk_167 0 61 (dk_at dksX5_kindOf_3 20 rfl rfl)
theorem dX5_kindOf_121 : decode cX5_kindOf 121 = .ok (.aload_n 1, 1) := dk_43 (dk_at dksX5_kindOf_3 23 rfl rfl)
theorem dX5_kindOf_122 : decode cX5_kindOf 122 = .ok (.ldc_w 295, 3) := dk_19 1 39 (dk_at dksX5_kindOf_4 0 rfl rfl)
theorem dX5_kindOf_125 : decode cX5_kindOf 125 = .ok (.invokevirtual 104, 3) := dk_182 0 104 (dk_at dksX5_kindOf_4 3 rfl rfl)
theorem dX5_kindOf_128 : decode cX5_kindOf 128 = .ok (.ifCond .eq 51, 3) := dk_153 0 51 (dk_at dksX5_kindOf_4 6 rfl rfl)
theorem dX5_kindOf_131 : decode cX5_kindOf 131 = .ok (.iconst 3, 1) := dk_6 (dk_at dksX5_kindOf_4 9 rfl rfl)
theorem dX5_kindOf_132 : decode cX5_kindOf 132 = .ok (.istore_n 2, 1) := dk_61 (dk_at dksX5_kindOf_4 10 rfl rfl)
theorem dX5_kindOf_133 : decode cX5_kindOf 133 = .ok (.goto 46, 3) := dk_167 0 46 (dk_at dksX5_kindOf_4 11 rfl rfl)
theorem dX5_kindOf_136 : decode cX5_kindOf 136 = .ok (.aload_n 1, 1) := dk_43 (dk_at dksX5_kindOf_4 14 rfl rfl)
theorem dX5_kindOf_137 : decode cX5_kindOf 137 = .ok (.ldc_w 297, 3) := dk_19 1 41 (dk_at dksX5_kindOf_4 15 rfl rfl)
theorem dX5_kindOf_140 : decode cX5_kindOf 140 = .ok (.invokevirtual 104, 3) := dk_182 0 104 (dk_at dksX5_kindOf_4 18 rfl rfl)
theorem dX5_kindOf_143 : decode cX5_kindOf 143 = .ok (.ifCond .eq 36, 3) := dk_153 0 36 (dk_at dksX5_kindOf_4 21 rfl rfl)
theorem dX5_kindOf_146 : decode cX5_kindOf 146 = .ok (.iconst 4, 1) := dk_7 (dk_at dksX5_kindOf_5 0 rfl rfl)
theorem dX5_kindOf_147 : decode cX5_kindOf 147 = .ok (.istore_n 2, 1) := dk_61 (dk_at dksX5_kindOf_5 1 rfl rfl)
theorem dX5_kindOf_148 : decode cX5_kindOf 148 = .ok (.goto 31, 3) := dk_167 0 31 (dk_at dksX5_kindOf_5 2 rfl rfl)
theorem dX5_kindOf_151 : decode cX5_kindOf 151 = .ok (.aload_n 1, 1) := dk_43 (dk_at dksX5_kindOf_5 5 rfl rfl)
theorem dX5_kindOf_152 : decode cX5_kindOf 152 = .ok (.ldc_w 299, 3) := dk_19 1 43 (dk_at dksX5_kindOf_5 6 rfl rfl)
theorem dX5_kindOf_155 : decode cX5_kindOf 155 = .ok (.invokevirtual 104, 3) := dk_182 0 104 (dk_at dksX5_kindOf_5 9 rfl rfl)
theorem dX5_kindOf_158 : decode cX5_kindOf 158 = .ok (.ifCond .eq 21, 3) := dk_153 0 21 (dk_at dksX5_kindOf_5 12 rfl rfl)
theorem dX5_kindOf_161 : decode cX5_kindOf 161 = .ok (.iconst 5, 1) := dk_8 (dk_at dksX5_kindOf_5 15 rfl rfl)
theorem dX5_kindOf_162 : decode cX5_kindOf 162 = .ok (.istore_n 2, 1) := dk_61 (dk_at dksX5_kindOf_5 16 rfl rfl)
theorem dX5_kindOf_163 : decode cX5_kindOf 163 = .ok (.goto 16, 3) := dk_167 0 16 (dk_at dksX5_kindOf_5 17 rfl rfl)
theorem dX5_kindOf_166 : decode cX5_kindOf 166 = .ok (.aload_n 1, 1) := dk_43 (dk_at dksX5_kindOf_5 20 rfl rfl)
theorem dX5_kindOf_167 : decode cX5_kindOf 167 = .ok (.ldc_w 301, 3) := dk_19 1 45 (dk_at dksX5_kindOf_5 21 rfl rfl)
theorem dX5_kindOf_170 : decode cX5_kindOf 170 = .ok (.invokevirtual 104, 3) := dk_182 0 104 (dk_at dksX5_kindOf_6 0 rfl rfl)
theorem dX5_kindOf_173 : decode cX5_kindOf 173 = .ok (.ifCond .eq 6, 3) := dk_153 0 6 (dk_at dksX5_kindOf_6 3 rfl rfl)
theorem dX5_kindOf_176 : decode cX5_kindOf 176 = .ok (.bipush 6, 2) := dk_16 6 (dk_at dksX5_kindOf_6 6 rfl rfl)
theorem dX5_kindOf_178 : decode cX5_kindOf 178 = .ok (.istore_n 2, 1) := dk_61 (dk_at dksX5_kindOf_6 8 rfl rfl)
theorem dX5_kindOf_179 : decode cX5_kindOf 179 = .ok (.iload_n 2, 1) := dk_28 (dk_at dksX5_kindOf_6 9 rfl rfl)
theorem dX5_kindOf_180 : decode cX5_kindOf 180 = .ok (.tableswitch 59 0 6 #[44, 46, 48, 50, 52, 54, 56], 44) := by decide +kernel
theorem dX5_kindOf_224 : decode cX5_kindOf 224 = .ok (.iconst 0, 1) := dk_3 (dk_at dksX5_kindOf_8 0 rfl rfl)
theorem dX5_kindOf_225 : decode cX5_kindOf 225 = .ok (.ireturn, 1) := dk_172 (dk_at dksX5_kindOf_8 1 rfl rfl)
theorem dX5_kindOf_226 : decode cX5_kindOf 226 = .ok (.iconst 1, 1) := dk_4 (dk_at dksX5_kindOf_8 2 rfl rfl)
theorem dX5_kindOf_227 : decode cX5_kindOf 227 = .ok (.ireturn, 1) := dk_172 (dk_at dksX5_kindOf_8 3 rfl rfl)
theorem dX5_kindOf_228 : decode cX5_kindOf 228 = .ok (.iconst 2, 1) := dk_5 (dk_at dksX5_kindOf_8 4 rfl rfl)
theorem dX5_kindOf_229 : decode cX5_kindOf 229 = .ok (.ireturn, 1) := dk_172 (dk_at dksX5_kindOf_8 5 rfl rfl)
theorem dX5_kindOf_230 : decode cX5_kindOf 230 = .ok (.iconst 3, 1) := dk_6 (dk_at dksX5_kindOf_8 6 rfl rfl)
theorem dX5_kindOf_231 : decode cX5_kindOf 231 = .ok (.ireturn, 1) := dk_172 (dk_at dksX5_kindOf_8 7 rfl rfl)
theorem dX5_kindOf_232 : decode cX5_kindOf 232 = .ok (.iconst 4, 1) := dk_7 (dk_at dksX5_kindOf_8 8 rfl rfl)
theorem dX5_kindOf_233 : decode cX5_kindOf 233 = .ok (.ireturn, 1) := dk_172 (dk_at dksX5_kindOf_8 9 rfl rfl)
theorem dX5_kindOf_234 : decode cX5_kindOf 234 = .ok (.iconst 5, 1) := dk_8 (dk_at dksX5_kindOf_8 10 rfl rfl)
theorem dX5_kindOf_235 : decode cX5_kindOf 235 = .ok (.ireturn, 1) := dk_172 (dk_at dksX5_kindOf_8 11 rfl rfl)
theorem dX5_kindOf_236 : decode cX5_kindOf 236 = .ok (.bipush 6, 2) := dk_16 6 (dk_at dksX5_kindOf_8 12 rfl rfl)
theorem dX5_kindOf_238 : decode cX5_kindOf 238 = .ok (.ireturn, 1) := dk_172 (dk_at dksX5_kindOf_8 14 rfl rfl)
theorem dX5_kindOf_239 : decode cX5_kindOf 239 = .ok (.iconst (-1), 1) := dk_2 (dk_at dksX5_kindOf_8 15 rfl rfl)
theorem dX5_kindOf_240 : decode cX5_kindOf 240 = .ok (.ireturn, 1) := dk_172 (dk_at dksX5_kindOf_8 16 rfl rfl)
theorem q87 : (Jvm.Cond.initialized "TurnpikeTrust$Reader") ∈ lw_all := lw_g (lw_at lw_m1 25 rfl) rfl
theorem q659 : (Jvm.Cond.instantiable "TurnpikeTrust$Reader" (9 : Nat)) ∈ lw_all := lw_g (lw_at lw_m3 117 rfl) rfl
theorem q661 : (Jvm.Cond.instanceMethod ({ cls := "TurnpikeTrust$Reader", name := "<init>", desc := "([BI)V" } : Jvm.MethodName)) ∈ lw_all := lw_g (lw_at lw_m3 119 rfl) rfl
theorem q662 : (Jvm.Cond.code ({ cls := "TurnpikeTrust$Reader", name := "<init>", desc := "([BI)V" } : Jvm.MethodName) prog_21_method_1_code (3 : Nat) (Option.none : Option Jvm.ClassFile.FieldType)) ∈ lw_all := lw_g (lw_at lw_m3 120 rfl) rfl
theorem q663 : (Jvm.Cond.methodLink "TurnpikeTrust$Reader" (3 : Nat) ({ cls := "java/lang/Object", name := "<init>", desc := "()V" } : Jvm.MethodName)) ∈ lw_all := lw_g (lw_at lw_m3 121 rfl) rfl
theorem q664 : (Jvm.Cond.stringRef "TurnpikeTrust$Reader" (9 : Nat) "") ∈ lw_tbl := lw_at lw_m3 122 rfl
theorem q665 : (Jvm.Cond.methodLink "TurnpikeTrust$Reader" (25 : Nat) ({ cls := "TurnpikeTrust$Reader", name := "go", desc := "()V" } : Jvm.MethodName)) ∈ lw_all := lw_g (lw_at lw_m3 123 rfl) rfl
theorem q666 : (Jvm.Cond.privateMethod ({ cls := "TurnpikeTrust$Reader", name := "go", desc := "()V" } : Jvm.MethodName)) ∈ lw_tbl := lw_at lw_m3 124 rfl
theorem q667 : (Jvm.Cond.instanceMethod ({ cls := "TurnpikeTrust$Reader", name := "go", desc := "()V" } : Jvm.MethodName)) ∈ lw_all := lw_g (lw_at lw_m3 125 rfl) rfl
theorem q668 : (Jvm.Cond.code ({ cls := "TurnpikeTrust$Reader", name := "go", desc := "()V" } : Jvm.MethodName) prog_21_method_5_code (3 : Nat) (Option.none : Option Jvm.ClassFile.FieldType)) ∈ lw_all := lw_g (lw_at lw_m3 126 rfl) rfl
theorem q669 : (Jvm.Cond.methodLink "TurnpikeTrust$Reader" (34 : Nat) ({ cls := "TurnpikeTrust$Reader", name := "at", desc := "(I)I" } : Jvm.MethodName)) ∈ lw_all := lw_g (lw_at lw_m3 127 rfl) rfl
theorem q670 : (Jvm.Cond.privateMethod ({ cls := "TurnpikeTrust$Reader", name := "at", desc := "(I)I" } : Jvm.MethodName)) ∈ lw_tbl := lw_at lw_m3 128 rfl
theorem q671 : (Jvm.Cond.instanceMethod ({ cls := "TurnpikeTrust$Reader", name := "at", desc := "(I)I" } : Jvm.MethodName)) ∈ lw_all := lw_g (lw_at lw_m3 129 rfl) rfl
theorem q672 : (Jvm.Cond.code ({ cls := "TurnpikeTrust$Reader", name := "at", desc := "(I)I" } : Jvm.MethodName) prog_21_method_2_code (2 : Nat) (Option.some Jvm.ClassFile.FieldType.int)) ∈ lw_all := lw_g (lw_at lw_m3 130 rfl) rfl
theorem q673 : (Jvm.Cond.fieldLink "TurnpikeTrust$Reader" (41 : Nat) "TurnpikeTrust$Sort" "END" "LTurnpikeTrust$Sort;") ∈ lw_all := lw_g (lw_at lw_m3 131 rfl) rfl
theorem q675 : (Jvm.Cond.methodLink "TurnpikeTrust$Reader" (50 : Nat) ({ cls := "TurnpikeTrust$Reader", name := "isSmall", desc := "(I)Z" } : Jvm.MethodName)) ∈ lw_all := lw_g (lw_at lw_m3 133 rfl) rfl
theorem q676 : (Jvm.Cond.static ({ cls := "TurnpikeTrust$Reader", name := "isSmall", desc := "(I)Z" } : Jvm.MethodName)) ∈ lw_all := lw_g (lw_at lw_m3 134 rfl) rfl
theorem q677 : (Jvm.Cond.code ({ cls := "TurnpikeTrust$Reader", name := "isSmall", desc := "(I)Z" } : Jvm.MethodName) prog_21_method_3_code (1 : Nat) (Option.some Jvm.ClassFile.FieldType.boolean)) ∈ lw_all := lw_g (lw_at lw_m3 135 rfl) rfl
theorem q678 : (Jvm.Cond.fieldLink "TurnpikeTrust$Reader" (54 : Nat) "TurnpikeTrust$Sort" "WORD" "LTurnpikeTrust$Sort;") ∈ lw_all := lw_g (lw_at lw_m3 136 rfl) rfl
theorem q680 : (Jvm.Cond.methodLink "TurnpikeTrust$Reader" (57 : Nat) ({ cls := "TurnpikeTrust$Reader", name := "string", desc := "()Ljava/lang/String;" } : Jvm.MethodName)) ∈ lw_all := lw_g (lw_at lw_m3 138 rfl) rfl
theorem q681 : (Jvm.Cond.privateMethod ({ cls := "TurnpikeTrust$Reader", name := "string", desc := "()Ljava/lang/String;" } : Jvm.MethodName)) ∈ lw_tbl := lw_at lw_m3 139 rfl
theorem q682 : (Jvm.Cond.instanceMethod ({ cls := "TurnpikeTrust$Reader", name := "string", desc := "()Ljava/lang/String;" } : Jvm.MethodName)) ∈ lw_all := lw_g (lw_at lw_m3 140 rfl) rfl
theorem q683 : (Jvm.Cond.code ({ cls := "TurnpikeTrust$Reader", name := "string", desc := "()Ljava/lang/String;" } : Jvm.MethodName) prog_21_method_6_code (3 : Nat) (Option.some (Jvm.ClassFile.FieldType.object "java/lang/String"))) ∈ lw_all := lw_g (lw_at lw_m3 141 rfl) rfl
theorem q684 : (Jvm.Cond.classLink "TurnpikeTrust$Reader" (89 : Nat) "java/lang/StringBuilder") ∈ lw_all := lw_g (lw_at lw_m3 142 rfl) rfl
theorem q685 : (Jvm.Cond.methodLink "TurnpikeTrust$Reader" (91 : Nat) ({ cls := "java/lang/StringBuilder", name := "<init>", desc := "()V" } : Jvm.MethodName)) ∈ lw_all := lw_g (lw_at lw_m3 143 rfl) rfl
theorem q686 : (Jvm.Cond.methodLink "TurnpikeTrust$Reader" (92 : Nat) ({ cls := "java/lang/StringBuilder", name := "append", desc := "(C)Ljava/lang/StringBuilder;" } : Jvm.MethodName)) ∈ lw_all := lw_g (lw_at lw_m3 144 rfl) rfl
theorem q708 : (Jvm.Cond.methodLink "TurnpikeTrust$Reader" (96 : Nat) ({ cls := "java/lang/StringBuilder", name := "toString", desc := "()Ljava/lang/String;" } : Jvm.MethodName)) ∈ lw_all := lw_g (lw_at lw_m3 166 rfl) rfl
theorem q709 : (Jvm.Cond.methodLink "TurnpikeTrust$Reader" (61 : Nat) ({ cls := "TurnpikeTrust$Reader", name := "isDigit", desc := "(I)Z" } : Jvm.MethodName)) ∈ lw_all := lw_g (lw_at lw_m3 167 rfl) rfl
theorem q710 : (Jvm.Cond.static ({ cls := "TurnpikeTrust$Reader", name := "isDigit", desc := "(I)Z" } : Jvm.MethodName)) ∈ lw_all := lw_g (lw_at lw_m3 168 rfl) rfl
theorem q711 : (Jvm.Cond.code ({ cls := "TurnpikeTrust$Reader", name := "isDigit", desc := "(I)Z" } : Jvm.MethodName) prog_21_method_4_code (1 : Nat) (Option.some Jvm.ClassFile.FieldType.boolean)) ∈ lw_all := lw_g (lw_at lw_m3 169 rfl) rfl
theorem q712 : (Jvm.Cond.fieldLink "TurnpikeTrust$Reader" (64 : Nat) "TurnpikeTrust$Sort" "NUMBER" "LTurnpikeTrust$Sort;") ∈ lw_all := lw_g (lw_at lw_m3 170 rfl) rfl
theorem q714 : (Jvm.Cond.constantLong "TurnpikeTrust$Reader" (71 : Nat) (10 : Int64)) ∈ lw_all := lw_g (lw_at lw_m3 172 rfl) rfl
theorem q715 : (Jvm.Cond.constantLong "TurnpikeTrust$Reader" (73 : Nat) (48 : Int64)) ∈ lw_all := lw_g (lw_at lw_m3 173 rfl) rfl
theorem q716 : (Jvm.Cond.constantLong "TurnpikeTrust$Reader" (75 : Nat) (1000001 : Int64)) ∈ lw_all := lw_g (lw_at lw_m3 174 rfl) rfl
theorem q717 : (Jvm.Cond.methodLink "TurnpikeTrust$Reader" (77 : Nat) ({ cls := "java/lang/Math", name := "min", desc := "(JJ)J" } : Jvm.MethodName)) ∈ lw_all := lw_g (lw_at lw_m3 175 rfl) rfl
theorem q720 : (Jvm.Cond.fieldLink "TurnpikeTrust$Reader" (83 : Nat) "TurnpikeTrust$Sort" "SIGN" "LTurnpikeTrust$Sort;") ∈ lw_all := lw_g (lw_at lw_m3 178 rfl) rfl
theorem q722 : (Jvm.Cond.fieldLink "TurnpikeTrust$Reader" (86 : Nat) "TurnpikeTrust$Sort" "BAD" "LTurnpikeTrust$Sort;") ∈ lw_all := lw_g (lw_at lw_m3 180 rfl) rfl
theorem q724 : (Jvm.Cond.fieldLink "TurnpikeTrust$Reader" (17 : Nat) "TurnpikeTrust$Reader" "text" "[B") ∈ lw_all := lw_g (lw_at lw_m3 182 rfl) rfl
theorem q725 : (Jvm.Cond.fieldLink "TurnpikeTrust$Reader" (21 : Nat) "TurnpikeTrust$Reader" "size" "I") ∈ lw_all := lw_g (lw_at lw_m3 183 rfl) rfl
theorem q726 : (Jvm.Cond.fieldLink "TurnpikeTrust$Reader" (28 : Nat) "TurnpikeTrust$Reader" "next" "I") ∈ lw_all := lw_g (lw_at lw_m3 184 rfl) rfl
theorem q727 : (Jvm.Cond.fieldLink "TurnpikeTrust$Reader" (31 : Nat) "TurnpikeTrust$Reader" "place" "I") ∈ lw_all := lw_g (lw_at lw_m3 185 rfl) rfl
theorem q728 : (Jvm.Cond.fieldLink "TurnpikeTrust$Reader" (226 : Nat) "TurnpikeTrust$Reader" "open" "I") ∈ lw_all := lw_g (lw_at lw_m3 186 rfl) rfl
theorem q729 : (Jvm.Cond.fieldLink "TurnpikeTrust$Reader" (47 : Nat) "TurnpikeTrust$Reader" "sort" "LTurnpikeTrust$Sort;") ∈ lw_all := lw_g (lw_at lw_m3 187 rfl) rfl
theorem q730 : (Jvm.Cond.fieldLink "TurnpikeTrust$Reader" (11 : Nat) "TurnpikeTrust$Reader" "word" "Ljava/lang/String;") ∈ lw_all := lw_g (lw_at lw_m3 188 rfl) rfl
theorem q731 : (Jvm.Cond.fieldLink "TurnpikeTrust$Reader" (38 : Nat) "TurnpikeTrust$Reader" "sign" "I") ∈ lw_all := lw_g (lw_at lw_m3 189 rfl) rfl
theorem q732 : (Jvm.Cond.fieldLink "TurnpikeTrust$Reader" (67 : Nat) "TurnpikeTrust$Reader" "number" "J") ∈ lw_all := lw_g (lw_at lw_m3 190 rfl) rfl
theorem q733 : (Jvm.Cond.laysFinal "TurnpikeTrust$Reader" "TurnpikeTrust$Reader" "text" "[B") ∈ lw_all := lw_g (lw_at lw_m3 191 rfl) rfl
theorem q734 : (Jvm.Cond.soleField "TurnpikeTrust$Reader" "text") ∈ lw_all := lw_g (lw_at lw_m3 192 rfl) rfl
theorem q735 : (Jvm.Cond.laysFinal "TurnpikeTrust$Reader" "TurnpikeTrust$Reader" "size" "I") ∈ lw_all := lw_g (lw_at lw_m3 193 rfl) rfl
theorem q736 : (Jvm.Cond.soleField "TurnpikeTrust$Reader" "size") ∈ lw_all := lw_g (lw_at lw_m3 194 rfl) rfl
theorem q737 : (Jvm.Cond.lays "TurnpikeTrust$Reader" "TurnpikeTrust$Reader" "next" "I") ∈ lw_all := lw_g (lw_at lw_m3 195 rfl) rfl
theorem q738 : (Jvm.Cond.soleField "TurnpikeTrust$Reader" "next") ∈ lw_all := lw_g (lw_at lw_m3 196 rfl) rfl
theorem q739 : (Jvm.Cond.lays "TurnpikeTrust$Reader" "TurnpikeTrust$Reader" "place" "I") ∈ lw_all := lw_g (lw_at lw_m3 197 rfl) rfl
theorem q740 : (Jvm.Cond.soleField "TurnpikeTrust$Reader" "place") ∈ lw_all := lw_g (lw_at lw_m3 198 rfl) rfl
theorem q741 : (Jvm.Cond.lays "TurnpikeTrust$Reader" "TurnpikeTrust$Reader" "open" "I") ∈ lw_all := lw_g (lw_at lw_m3 199 rfl) rfl
theorem q742 : (Jvm.Cond.soleField "TurnpikeTrust$Reader" "open") ∈ lw_all := lw_g (lw_at lw_m3 200 rfl) rfl
theorem q743 : (Jvm.Cond.lays "TurnpikeTrust$Reader" "TurnpikeTrust$Reader" "sort" "LTurnpikeTrust$Sort;") ∈ lw_all := lw_g (lw_at lw_m3 201 rfl) rfl
theorem q744 : (Jvm.Cond.soleField "TurnpikeTrust$Reader" "sort") ∈ lw_all := lw_g (lw_at lw_m3 202 rfl) rfl
theorem q745 : (Jvm.Cond.lays "TurnpikeTrust$Reader" "TurnpikeTrust$Reader" "word" "Ljava/lang/String;") ∈ lw_all := lw_g (lw_at lw_m3 203 rfl) rfl
theorem q746 : (Jvm.Cond.soleField "TurnpikeTrust$Reader" "word") ∈ lw_all := lw_g (lw_at lw_m3 204 rfl) rfl
theorem q747 : (Jvm.Cond.lays "TurnpikeTrust$Reader" "TurnpikeTrust$Reader" "sign" "I") ∈ lw_all := lw_g (lw_at lw_m3 205 rfl) rfl
theorem q748 : (Jvm.Cond.soleField "TurnpikeTrust$Reader" "sign") ∈ lw_all := lw_g (lw_at lw_m3 206 rfl) rfl
theorem q749 : (Jvm.Cond.lays "TurnpikeTrust$Reader" "TurnpikeTrust$Reader" "number" "J") ∈ lw_all := lw_g (lw_at lw_m3 207 rfl) rfl
theorem q750 : (Jvm.Cond.soleField "TurnpikeTrust$Reader" "number") ∈ lw_all := lw_g (lw_at lw_m3 208 rfl) rfl
theorem q751 : (Jvm.Cond.superclass "TurnpikeTrust$Reader" "java/lang/Object") ∈ lw_all := lw_g (lw_at lw_m3 209 rfl) rfl
theorem q753 : (Jvm.Cond.instanceMethod ({ cls := "TurnpikeTrust$Reader", name := "act", desc := "(I)LTurnpikeTrust$Act;" } : Jvm.MethodName)) ∈ lw_all := lw_g (lw_at lw_m3 211 rfl) rfl
theorem q754 : (Jvm.Cond.selects "TurnpikeTrust$Reader" ({ cls := "TurnpikeTrust$Reader", name := "act", desc := "(I)LTurnpikeTrust$Act;" } : Jvm.MethodName) ({ cls := "TurnpikeTrust$Reader", name := "act", desc := "(I)LTurnpikeTrust$Act;" } : Jvm.MethodName)) ∈ lw_all := lw_g (lw_at lw_m3 212 rfl) rfl
theorem q755 : (Jvm.Cond.code ({ cls := "TurnpikeTrust$Reader", name := "act", desc := "(I)LTurnpikeTrust$Act;" } : Jvm.MethodName) prog_21_method_13_code (3 : Nat) (Option.some (Jvm.ClassFile.FieldType.object "TurnpikeTrust$Act"))) ∈ lw_all := lw_g (lw_at lw_m3 213 rfl) rfl
theorem q756 : (Jvm.Cond.classLink "TurnpikeTrust$Reader" (123 : Nat) "TurnpikeTrust$Act") ∈ lw_all := lw_g (lw_at lw_m3 214 rfl) rfl
theorem q758 : (Jvm.Cond.methodLink "TurnpikeTrust$Reader" (125 : Nat) ({ cls := "TurnpikeTrust$Act", name := "<init>", desc := "(I)V" } : Jvm.MethodName)) ∈ lw_all := lw_g (lw_at lw_m3 216 rfl) rfl
theorem q767 : (Jvm.Cond.fieldLinkNest "TurnpikeTrust$Reader" (128 : Nat) "TurnpikeTrust$Act" "clauses" "Ljava/util/ArrayList;" "TurnpikeTrust") ∈ lw_tbl := lw_at lw_m3 225 rfl
theorem q773 : (Jvm.Cond.methodLink "TurnpikeTrust$Reader" (132 : Nat) ({ cls := "java/util/ArrayList", name := "size", desc := "()I" } : Jvm.MethodName)) ∈ lw_all := lw_g (lw_at lw_m3 231 rfl) rfl
theorem q774 : (Jvm.Cond.methodLink "TurnpikeTrust$Reader" (137 : Nat) ({ cls := "TurnpikeTrust$Reader", name := "clause", desc := "(I)LTurnpikeTrust$Clause;" } : Jvm.MethodName)) ∈ lw_all := lw_g (lw_at lw_m3 232 rfl) rfl
theorem q775 : (Jvm.Cond.privateMethod ({ cls := "TurnpikeTrust$Reader", name := "clause", desc := "(I)LTurnpikeTrust$Clause;" } : Jvm.MethodName)) ∈ lw_tbl := lw_at lw_m3 233 rfl
theorem q776 : (Jvm.Cond.instanceMethod ({ cls := "TurnpikeTrust$Reader", name := "clause", desc := "(I)LTurnpikeTrust$Clause;" } : Jvm.MethodName)) ∈ lw_all := lw_g (lw_at lw_m3 234 rfl) rfl
theorem q777 : (Jvm.Cond.code ({ cls := "TurnpikeTrust$Reader", name := "clause", desc := "(I)LTurnpikeTrust$Clause;" } : Jvm.MethodName) prog_21_method_14_code (6 : Nat) (Option.some (Jvm.ClassFile.FieldType.object "TurnpikeTrust$Clause"))) ∈ lw_all := lw_g (lw_at lw_m3 235 rfl) rfl
theorem q778 : (Jvm.Cond.stringRef "TurnpikeTrust$Reader" (144 : Nat) "free") ∈ lw_tbl := lw_at lw_m3 236 rfl
theorem q779 : (Jvm.Cond.methodLink "TurnpikeTrust$Reader" (110 : Nat) ({ cls := "TurnpikeTrust$Reader", name := "isWord", desc := "(Ljava/lang/String;)Z" } : Jvm.MethodName)) ∈ lw_all := lw_g (lw_at lw_m3 237 rfl) rfl
theorem q780 : (Jvm.Cond.privateMethod ({ cls := "TurnpikeTrust$Reader", name := "isWord", desc := "(Ljava/lang/String;)Z" } : Jvm.MethodName)) ∈ lw_tbl := lw_at lw_m3 238 rfl
theorem q781 : (Jvm.Cond.instanceMethod ({ cls := "TurnpikeTrust$Reader", name := "isWord", desc := "(Ljava/lang/String;)Z" } : Jvm.MethodName)) ∈ lw_all := lw_g (lw_at lw_m3 239 rfl) rfl
theorem q782 : (Jvm.Cond.code ({ cls := "TurnpikeTrust$Reader", name := "isWord", desc := "(Ljava/lang/String;)Z" } : Jvm.MethodName) prog_21_method_9_code (2 : Nat) (Option.some Jvm.ClassFile.FieldType.boolean)) ∈ lw_all := lw_g (lw_at lw_m4 0 rfl) rfl
theorem q783 : (Jvm.Cond.methodLink "TurnpikeTrust$Reader" (104 : Nat) ({ cls := "java/lang/String", name := "equals", desc := "(Ljava/lang/Object;)Z" } : Jvm.MethodName)) ∈ lw_all := lw_g (lw_at lw_m4 1 rfl) rfl
theorem q791 : (Jvm.Cond.stringRef "TurnpikeTrust$Reader" (146 : Nat) "toll") ∈ lw_tbl := lw_at lw_m4 9 rfl
theorem q792 : (Jvm.Cond.stringRef "TurnpikeTrust$Reader" (148 : Nat) "times") ∈ lw_tbl := lw_at lw_m4 10 rfl
theorem q793 : (Jvm.Cond.stringRef "TurnpikeTrust$Reader" (150 : Nat) "once") ∈ lw_tbl := lw_at lw_m4 11 rfl
theorem q794 : (Jvm.Cond.methodLink "TurnpikeTrust$Reader" (117 : Nat) ({ cls := "TurnpikeTrust$Reader", name := "wrong", desc := "()LTurnpikeTrust$Wrong;" } : Jvm.MethodName)) ∈ lw_all := lw_g (lw_at lw_m4 12 rfl) rfl
theorem q795 : (Jvm.Cond.privateMethod ({ cls := "TurnpikeTrust$Reader", name := "wrong", desc := "()LTurnpikeTrust$Wrong;" } : Jvm.MethodName)) ∈ lw_tbl := lw_at lw_m4 13 rfl
theorem q796 : (Jvm.Cond.instanceMethod ({ cls := "TurnpikeTrust$Reader", name := "wrong", desc := "()LTurnpikeTrust$Wrong;" } : Jvm.MethodName)) ∈ lw_all := lw_g (lw_at lw_m4 14 rfl) rfl
theorem q797 : (Jvm.Cond.code ({ cls := "TurnpikeTrust$Reader", name := "wrong", desc := "()LTurnpikeTrust$Wrong;" } : Jvm.MethodName) prog_21_method_7_code (1 : Nat) (Option.some (Jvm.ClassFile.FieldType.object "TurnpikeTrust$Wrong"))) ∈ lw_all := lw_g (lw_at lw_m4 15 rfl) rfl
theorem q798 : (Jvm.Cond.classLink "TurnpikeTrust$Reader" (99 : Nat) "TurnpikeTrust$Wrong") ∈ lw_all := lw_g (lw_at lw_m4 16 rfl) rfl
theorem q807 : (Jvm.Cond.methodLink "TurnpikeTrust$Reader" (101 : Nat) ({ cls := "TurnpikeTrust$Wrong", name := "<init>", desc := "(II)V" } : Jvm.MethodName)) ∈ lw_all := lw_g (lw_at lw_m4 25 rfl) rfl
theorem q821 : (Jvm.Cond.classLink "TurnpikeTrust$Reader" (152 : Nat) "TurnpikeTrust$Free") ∈ lw_all := lw_g (lw_at lw_m4 39 rfl) rfl
theorem q823 : (Jvm.Cond.methodLink "TurnpikeTrust$Reader" (154 : Nat) ({ cls := "TurnpikeTrust$Free", name := "<init>", desc := "(I)V" } : Jvm.MethodName)) ∈ lw_all := lw_g (lw_at lw_m4 41 rfl) rfl
theorem q838 : (Jvm.Cond.fieldLinkNest "TurnpikeTrust$Reader" (175 : Nat) "TurnpikeTrust$Clause" "condition" "LTurnpikeTrust$Condition;" "TurnpikeTrust") ∈ lw_tbl := lw_at lw_m4 56 rfl
theorem q844 : (Jvm.Cond.methodLink "TurnpikeTrust$Reader" (155 : Nat) ({ cls := "TurnpikeTrust$Reader", name := "toll", desc := "(I)LTurnpikeTrust$Clause;" } : Jvm.MethodName)) ∈ lw_all := lw_g (lw_at lw_m4 62 rfl) rfl
theorem q845 : (Jvm.Cond.privateMethod ({ cls := "TurnpikeTrust$Reader", name := "toll", desc := "(I)LTurnpikeTrust$Clause;" } : Jvm.MethodName)) ∈ lw_tbl := lw_at lw_m4 63 rfl
theorem q846 : (Jvm.Cond.instanceMethod ({ cls := "TurnpikeTrust$Reader", name := "toll", desc := "(I)LTurnpikeTrust$Clause;" } : Jvm.MethodName)) ∈ lw_all := lw_g (lw_at lw_m4 64 rfl) rfl
theorem q847 : (Jvm.Cond.code ({ cls := "TurnpikeTrust$Reader", name := "toll", desc := "(I)LTurnpikeTrust$Clause;" } : Jvm.MethodName) prog_21_method_15_code (4 : Nat) (Option.some (Jvm.ClassFile.FieldType.object "TurnpikeTrust$Clause"))) ∈ lw_all := lw_g (lw_at lw_m4 65 rfl) rfl
theorem q848 : (Jvm.Cond.methodLink "TurnpikeTrust$Reader" (184 : Nat) ({ cls := "TurnpikeTrust$Reader", name := "number", desc := "(J)J" } : Jvm.MethodName)) ∈ lw_all := lw_g (lw_at lw_m4 66 rfl) rfl
theorem q849 : (Jvm.Cond.privateMethod ({ cls := "TurnpikeTrust$Reader", name := "number", desc := "(J)J" } : Jvm.MethodName)) ∈ lw_tbl := lw_at lw_m4 67 rfl
theorem q850 : (Jvm.Cond.instanceMethod ({ cls := "TurnpikeTrust$Reader", name := "number", desc := "(J)J" } : Jvm.MethodName)) ∈ lw_all := lw_g (lw_at lw_m4 68 rfl) rfl
theorem q851 : (Jvm.Cond.code ({ cls := "TurnpikeTrust$Reader", name := "number", desc := "(J)J" } : Jvm.MethodName) prog_21_method_12_code (5 : Nat) (Option.some Jvm.ClassFile.FieldType.long)) ∈ lw_all := lw_g (lw_at lw_m4 69 rfl) rfl
theorem q852 : (Jvm.Cond.constantLong "TurnpikeTrust$Reader" (121 : Nat) (1000000 : Int64)) ∈ lw_all := lw_g (lw_at lw_m4 70 rfl) rfl
theorem q853 : (Jvm.Cond.stringRef "TurnpikeTrust$Reader" (187 : Nat) "each") ∈ lw_tbl := lw_at lw_m4 71 rfl
theorem q854 : (Jvm.Cond.methodLink "TurnpikeTrust$Reader" (163 : Nat) ({ cls := "TurnpikeTrust$Reader", name := "takes", desc := "(Ljava/lang/String;)Z" } : Jvm.MethodName)) ∈ lw_all := lw_g (lw_at lw_m4 72 rfl) rfl
theorem q855 : (Jvm.Cond.privateMethod ({ cls := "TurnpikeTrust$Reader", name := "takes", desc := "(Ljava/lang/String;)Z" } : Jvm.MethodName)) ∈ lw_tbl := lw_at lw_m4 73 rfl
theorem q856 : (Jvm.Cond.instanceMethod ({ cls := "TurnpikeTrust$Reader", name := "takes", desc := "(Ljava/lang/String;)Z" } : Jvm.MethodName)) ∈ lw_all := lw_g (lw_at lw_m4 74 rfl) rfl
theorem q857 : (Jvm.Cond.code ({ cls := "TurnpikeTrust$Reader", name := "takes", desc := "(Ljava/lang/String;)Z" } : Jvm.MethodName) prog_21_method_10_code (3 : Nat) (Option.some Jvm.ClassFile.FieldType.boolean)) ∈ lw_all := lw_g (lw_at lw_m4 75 rfl) rfl
theorem q858 : (Jvm.Cond.classLink "TurnpikeTrust$Reader" (189 : Nat) "TurnpikeTrust$Each") ∈ lw_all := lw_g (lw_at lw_m4 76 rfl) rfl
theorem q860 : (Jvm.Cond.methodLink "TurnpikeTrust$Reader" (191 : Nat) ({ cls := "TurnpikeTrust$Each", name := "<init>", desc := "(IJ)V" } : Jvm.MethodName)) ∈ lw_all := lw_g (lw_at lw_m4 78 rfl) rfl
theorem q877 : (Jvm.Cond.stringRef "TurnpikeTrust$Reader" (194 : Nat) "score") ∈ lw_tbl := lw_at lw_m4 95 rfl
theorem q878 : (Jvm.Cond.classLink "TurnpikeTrust$Reader" (196 : Nat) "TurnpikeTrust$Score") ∈ lw_all := lw_g (lw_at lw_m4 96 rfl) rfl
theorem q880 : (Jvm.Cond.methodLink "TurnpikeTrust$Reader" (198 : Nat) ({ cls := "TurnpikeTrust$Score", name := "<init>", desc := "(IJ)V" } : Jvm.MethodName)) ∈ lw_all := lw_g (lw_at lw_m4 98 rfl) rfl
theorem q888 : (Jvm.Cond.classLink "TurnpikeTrust$Reader" (199 : Nat) "TurnpikeTrust$Toll") ∈ lw_all := lw_g (lw_at lw_m4 106 rfl) rfl
theorem q890 : (Jvm.Cond.methodLink "TurnpikeTrust$Reader" (201 : Nat) ({ cls := "TurnpikeTrust$Toll", name := "<init>", desc := "(IJ)V" } : Jvm.MethodName)) ∈ lw_all := lw_g (lw_at lw_m4 108 rfl) rfl
theorem q895 : (Jvm.Cond.methodLink "TurnpikeTrust$Reader" (157 : Nat) ({ cls := "TurnpikeTrust$Reader", name := "times", desc := "(I)LTurnpikeTrust$Clause;" } : Jvm.MethodName)) ∈ lw_all := lw_g (lw_at lw_m4 113 rfl) rfl
theorem q896 : (Jvm.Cond.privateMethod ({ cls := "TurnpikeTrust$Reader", name := "times", desc := "(I)LTurnpikeTrust$Clause;" } : Jvm.MethodName)) ∈ lw_tbl := lw_at lw_m4 114 rfl
theorem q897 : (Jvm.Cond.instanceMethod ({ cls := "TurnpikeTrust$Reader", name := "times", desc := "(I)LTurnpikeTrust$Clause;" } : Jvm.MethodName)) ∈ lw_all := lw_g (lw_at lw_m4 115 rfl) rfl
theorem q898 : (Jvm.Cond.code ({ cls := "TurnpikeTrust$Reader", name := "times", desc := "(I)LTurnpikeTrust$Clause;" } : Jvm.MethodName) prog_21_method_16_code (4 : Nat) (Option.some (Jvm.ClassFile.FieldType.object "TurnpikeTrust$Clause"))) ∈ lw_all := lw_g (lw_at lw_m4 116 rfl) rfl
theorem q899 : (Jvm.Cond.methodLink "TurnpikeTrust$Reader" (181 : Nat) ({ cls := "TurnpikeTrust$Reader", name := "need", desc := "(I)V" } : Jvm.MethodName)) ∈ lw_all := lw_g (lw_at lw_m4 117 rfl) rfl
theorem q900 : (Jvm.Cond.privateMethod ({ cls := "TurnpikeTrust$Reader", name := "need", desc := "(I)V" } : Jvm.MethodName)) ∈ lw_tbl := lw_at lw_m4 118 rfl
theorem q901 : (Jvm.Cond.instanceMethod ({ cls := "TurnpikeTrust$Reader", name := "need", desc := "(I)V" } : Jvm.MethodName)) ∈ lw_all := lw_g (lw_at lw_m4 119 rfl) rfl
theorem q902 : (Jvm.Cond.code ({ cls := "TurnpikeTrust$Reader", name := "need", desc := "(I)V" } : Jvm.MethodName) prog_21_method_11_code (2 : Nat) (Option.none : Option Jvm.ClassFile.FieldType)) ∈ lw_all := lw_g (lw_at lw_m4 120 rfl) rfl
theorem q903 : (Jvm.Cond.methodLink "TurnpikeTrust$Reader" (114 : Nat) ({ cls := "TurnpikeTrust$Reader", name := "is", desc := "(I)Z" } : Jvm.MethodName)) ∈ lw_all := lw_g (lw_at lw_m4 121 rfl) rfl
theorem q904 : (Jvm.Cond.privateMethod ({ cls := "TurnpikeTrust$Reader", name := "is", desc := "(I)Z" } : Jvm.MethodName)) ∈ lw_tbl := lw_at lw_m4 122 rfl
theorem q905 : (Jvm.Cond.instanceMethod ({ cls := "TurnpikeTrust$Reader", name := "is", desc := "(I)Z" } : Jvm.MethodName)) ∈ lw_all := lw_g (lw_at lw_m4 123 rfl) rfl
theorem q906 : (Jvm.Cond.code ({ cls := "TurnpikeTrust$Reader", name := "is", desc := "(I)Z" } : Jvm.MethodName) prog_21_method_8_code (2 : Nat) (Option.some Jvm.ClassFile.FieldType.boolean)) ∈ lw_all := lw_g (lw_at lw_m4 124 rfl) rfl
theorem q907 : (Jvm.Cond.classLink "TurnpikeTrust$Reader" (202 : Nat) "TurnpikeTrust$Times") ∈ lw_all := lw_g (lw_at lw_m4 125 rfl) rfl
theorem q909 : (Jvm.Cond.methodLink "TurnpikeTrust$Reader" (204 : Nat) ({ cls := "TurnpikeTrust$Times", name := "<init>", desc := "(IJJ)V" } : Jvm.MethodName)) ∈ lw_all := lw_g (lw_at lw_m4 127 rfl) rfl
theorem q922 : (Jvm.Cond.classLink "TurnpikeTrust$Reader" (159 : Nat) "TurnpikeTrust$Once") ∈ lw_all := lw_g (lw_at lw_m4 140 rfl) rfl
theorem q924 : (Jvm.Cond.stringRef "TurnpikeTrust$Reader" (161 : Nat) "all") ∈ lw_tbl := lw_at lw_m4 142 rfl
theorem q925 : (Jvm.Cond.methodLink "TurnpikeTrust$Reader" (166 : Nat) ({ cls := "TurnpikeTrust$Once", name := "<init>", desc := "(IZ)V" } : Jvm.MethodName)) ∈ lw_all := lw_g (lw_at lw_m4 143 rfl) rfl
theorem q935 : (Jvm.Cond.stringRef "TurnpikeTrust$Reader" (169 : Nat) "if") ∈ lw_tbl := lw_at lw_m4 153 rfl
theorem q936 : (Jvm.Cond.methodLink "TurnpikeTrust$Reader" (171 : Nat) ({ cls := "TurnpikeTrust$Reader", name := "any", desc := "()LTurnpikeTrust$Condition;" } : Jvm.MethodName)) ∈ lw_all := lw_g (lw_at lw_m4 154 rfl) rfl
theorem q937 : (Jvm.Cond.privateMethod ({ cls := "TurnpikeTrust$Reader", name := "any", desc := "()LTurnpikeTrust$Condition;" } : Jvm.MethodName)) ∈ lw_tbl := lw_at lw_m4 155 rfl
theorem q938 : (Jvm.Cond.instanceMethod ({ cls := "TurnpikeTrust$Reader", name := "any", desc := "()LTurnpikeTrust$Condition;" } : Jvm.MethodName)) ∈ lw_all := lw_g (lw_at lw_m4 156 rfl) rfl
theorem q939 : (Jvm.Cond.code ({ cls := "TurnpikeTrust$Reader", name := "any", desc := "()LTurnpikeTrust$Condition;" } : Jvm.MethodName) prog_21_method_17_code (2 : Nat) (Option.some (Jvm.ClassFile.FieldType.object "TurnpikeTrust$Condition"))) ∈ lw_all := lw_g (lw_at lw_m4 157 rfl) rfl
theorem q940 : (Jvm.Cond.classLink "TurnpikeTrust$Reader" (207 : Nat) "TurnpikeTrust$Any") ∈ lw_all := lw_g (lw_at lw_m4 158 rfl) rfl
theorem q942 : (Jvm.Cond.methodLinkNest "TurnpikeTrust$Reader" (209 : Nat) ({ cls := "TurnpikeTrust$Any", name := "<init>", desc := "()V" } : Jvm.MethodName) "TurnpikeTrust") ∈ lw_tbl := lw_at lw_m4 160 rfl
theorem q951 : (Jvm.Cond.fieldLink "TurnpikeTrust$Reader" (210 : Nat) "TurnpikeTrust$Any" "parts" "Ljava/util/ArrayList;") ∈ lw_all := lw_g (lw_at lw_m4 169 rfl) rfl
theorem q952 : (Jvm.Cond.fieldLink "TurnpikeTrust$Reader" (220 : Nat) "TurnpikeTrust$All" "parts" "Ljava/util/ArrayList;") ∈ lw_all := lw_g (lw_at lw_m4 170 rfl) rfl
theorem q956 : (Jvm.Cond.methodLink "TurnpikeTrust$Reader" (213 : Nat) ({ cls := "TurnpikeTrust$Reader", name := "all", desc := "()LTurnpikeTrust$Condition;" } : Jvm.MethodName)) ∈ lw_all := lw_g (lw_at lw_m4 174 rfl) rfl
theorem q957 : (Jvm.Cond.privateMethod ({ cls := "TurnpikeTrust$Reader", name := "all", desc := "()LTurnpikeTrust$Condition;" } : Jvm.MethodName)) ∈ lw_tbl := lw_at lw_m4 175 rfl
theorem q958 : (Jvm.Cond.instanceMethod ({ cls := "TurnpikeTrust$Reader", name := "all", desc := "()LTurnpikeTrust$Condition;" } : Jvm.MethodName)) ∈ lw_all := lw_g (lw_at lw_m4 176 rfl) rfl
theorem q959 : (Jvm.Cond.code ({ cls := "TurnpikeTrust$Reader", name := "all", desc := "()LTurnpikeTrust$Condition;" } : Jvm.MethodName) prog_21_method_18_code (2 : Nat) (Option.some (Jvm.ClassFile.FieldType.object "TurnpikeTrust$Condition"))) ∈ lw_all := lw_g (lw_at lw_m4 177 rfl) rfl
theorem q960 : (Jvm.Cond.classLink "TurnpikeTrust$Reader" (217 : Nat) "TurnpikeTrust$All") ∈ lw_all := lw_g (lw_at lw_m4 178 rfl) rfl
theorem q962 : (Jvm.Cond.methodLinkNest "TurnpikeTrust$Reader" (219 : Nat) ({ cls := "TurnpikeTrust$All", name := "<init>", desc := "()V" } : Jvm.MethodName) "TurnpikeTrust") ∈ lw_tbl := lw_at lw_m4 180 rfl
theorem q968 : (Jvm.Cond.methodLink "TurnpikeTrust$Reader" (221 : Nat) ({ cls := "TurnpikeTrust$Reader", name := "one", desc := "()LTurnpikeTrust$Condition;" } : Jvm.MethodName)) ∈ lw_all := lw_g (lw_at lw_m4 186 rfl) rfl
theorem q969 : (Jvm.Cond.privateMethod ({ cls := "TurnpikeTrust$Reader", name := "one", desc := "()LTurnpikeTrust$Condition;" } : Jvm.MethodName)) ∈ lw_tbl := lw_at lw_m4 187 rfl
theorem q970 : (Jvm.Cond.instanceMethod ({ cls := "TurnpikeTrust$Reader", name := "one", desc := "()LTurnpikeTrust$Condition;" } : Jvm.MethodName)) ∈ lw_all := lw_g (lw_at lw_m4 188 rfl) rfl
theorem q971 : (Jvm.Cond.code ({ cls := "TurnpikeTrust$Reader", name := "one", desc := "()LTurnpikeTrust$Condition;" } : Jvm.MethodName) prog_21_method_20_code (3 : Nat) (Option.some (Jvm.ClassFile.FieldType.object "TurnpikeTrust$Condition"))) ∈ lw_all := lw_g (lw_at lw_m4 189 rfl) rfl
theorem q972 : (Jvm.Cond.stringRef "TurnpikeTrust$Reader" (229 : Nat) "not") ∈ lw_tbl := lw_at lw_m4 190 rfl
theorem q973 : (Jvm.Cond.methodLink "TurnpikeTrust$Reader" (231 : Nat) ({ cls := "TurnpikeTrust$Reader", name := "opens", desc := "()V" } : Jvm.MethodName)) ∈ lw_all := lw_g (lw_at lw_m4 191 rfl) rfl
theorem q974 : (Jvm.Cond.privateMethod ({ cls := "TurnpikeTrust$Reader", name := "opens", desc := "()V" } : Jvm.MethodName)) ∈ lw_tbl := lw_at lw_m4 192 rfl
theorem q975 : (Jvm.Cond.instanceMethod ({ cls := "TurnpikeTrust$Reader", name := "opens", desc := "()V" } : Jvm.MethodName)) ∈ lw_all := lw_g (lw_at lw_m4 193 rfl) rfl
theorem q976 : (Jvm.Cond.code ({ cls := "TurnpikeTrust$Reader", name := "opens", desc := "()V" } : Jvm.MethodName) prog_21_method_19_code (1 : Nat) (Option.none : Option Jvm.ClassFile.FieldType)) ∈ lw_all := lw_g (lw_at lw_m4 194 rfl) rfl
theorem q977 : (Jvm.Cond.classLink "TurnpikeTrust$Reader" (234 : Nat) "TurnpikeTrust$Not") ∈ lw_all := lw_g (lw_at lw_m4 195 rfl) rfl
theorem q979 : (Jvm.Cond.methodLink "TurnpikeTrust$Reader" (236 : Nat) ({ cls := "TurnpikeTrust$Not", name := "<init>", desc := "(LTurnpikeTrust$Condition;)V" } : Jvm.MethodName)) ∈ lw_all := lw_g (lw_at lw_m4 197 rfl) rfl
theorem q987 : (Jvm.Cond.methodLink "TurnpikeTrust$Reader" (239 : Nat) ({ cls := "java/lang/String", name := "hashCode", desc := "()I" } : Jvm.MethodName)) ∈ lw_all := lw_g (lw_at lw_m4 205 rfl) rfl
theorem q1048 : (Jvm.Cond.stringRef "TurnpikeTrust$Reader" (242 : Nat) "mail") ∈ lw_tbl := lw_at lw_m5 26 rfl
theorem q1049 : (Jvm.Cond.stringRef "TurnpikeTrust$Reader" (244 : Nat) "army") ∈ lw_tbl := lw_at lw_m5 27 rfl
theorem q1050 : (Jvm.Cond.stringRef "TurnpikeTrust$Reader" (246 : Nat) "church") ∈ lw_tbl := lw_at lw_m5 28 rfl
theorem q1051 : (Jvm.Cond.stringRef "TurnpikeTrust$Reader" (248 : Nat) "farm") ∈ lw_tbl := lw_at lw_m5 29 rfl
theorem q1052 : (Jvm.Cond.stringRef "TurnpikeTrust$Reader" (250 : Nat) "back") ∈ lw_tbl := lw_at lw_m5 30 rfl
theorem q1053 : (Jvm.Cond.stringRef "TurnpikeTrust$Reader" (252 : Nat) "wheels") ∈ lw_tbl := lw_at lw_m5 31 rfl
theorem q1054 : (Jvm.Cond.stringRef "TurnpikeTrust$Reader" (254 : Nat) "beasts") ∈ lw_tbl := lw_at lw_m5 32 rfl
theorem q1055 : (Jvm.Cond.stringRef "TurnpikeTrust$Reader" (256 : Nat) "gate") ∈ lw_tbl := lw_at lw_m5 33 rfl
theorem q1056 : (Jvm.Cond.stringRef "TurnpikeTrust$Reader" (258 : Nat) "day") ∈ lw_tbl := lw_at lw_m5 34 rfl
theorem q1057 : (Jvm.Cond.stringRef "TurnpikeTrust$Reader" (260 : Nat) "kind") ∈ lw_tbl := lw_at lw_m5 35 rfl
theorem q1058 : (Jvm.Cond.methodLink "TurnpikeTrust$Reader" (262 : Nat) ({ cls := "TurnpikeTrust$Reader", name := "bit", desc := "(I)LTurnpikeTrust$Condition;" } : Jvm.MethodName)) ∈ lw_all := lw_g (lw_at lw_m5 36 rfl) rfl
theorem q1059 : (Jvm.Cond.privateMethod ({ cls := "TurnpikeTrust$Reader", name := "bit", desc := "(I)LTurnpikeTrust$Condition;" } : Jvm.MethodName)) ∈ lw_tbl := lw_at lw_m5 37 rfl
theorem q1060 : (Jvm.Cond.instanceMethod ({ cls := "TurnpikeTrust$Reader", name := "bit", desc := "(I)LTurnpikeTrust$Condition;" } : Jvm.MethodName)) ∈ lw_all := lw_g (lw_at lw_m5 38 rfl) rfl
theorem q1061 : (Jvm.Cond.code ({ cls := "TurnpikeTrust$Reader", name := "bit", desc := "(I)LTurnpikeTrust$Condition;" } : Jvm.MethodName) prog_21_method_21_code (2 : Nat) (Option.some (Jvm.ClassFile.FieldType.object "TurnpikeTrust$Condition"))) ∈ lw_all := lw_g (lw_at lw_m5 39 rfl) rfl
theorem q1062 : (Jvm.Cond.classLink "TurnpikeTrust$Reader" (274 : Nat) "TurnpikeTrust$Bit") ∈ lw_all := lw_g (lw_at lw_m5 40 rfl) rfl
theorem q1064 : (Jvm.Cond.methodLink "TurnpikeTrust$Reader" (276 : Nat) ({ cls := "TurnpikeTrust$Bit", name := "<init>", desc := "(I)V" } : Jvm.MethodName)) ∈ lw_all := lw_g (lw_at lw_m5 42 rfl) rfl
theorem q1072 : (Jvm.Cond.classLink "TurnpikeTrust$Reader" (266 : Nat) "TurnpikeTrust$Back") ∈ lw_all := lw_g (lw_at lw_m5 50 rfl) rfl
theorem q1074 : (Jvm.Cond.methodLinkNest "TurnpikeTrust$Reader" (268 : Nat) ({ cls := "TurnpikeTrust$Back", name := "<init>", desc := "()V" } : Jvm.MethodName) "TurnpikeTrust") ∈ lw_tbl := lw_at lw_m5 52 rfl
theorem q1079 : (Jvm.Cond.methodLink "TurnpikeTrust$Reader" (269 : Nat) ({ cls := "TurnpikeTrust$Reader", name := "compares", desc := "(I)LTurnpikeTrust$Condition;" } : Jvm.MethodName)) ∈ lw_all := lw_g (lw_at lw_m5 57 rfl) rfl
theorem q1080 : (Jvm.Cond.privateMethod ({ cls := "TurnpikeTrust$Reader", name := "compares", desc := "(I)LTurnpikeTrust$Condition;" } : Jvm.MethodName)) ∈ lw_tbl := lw_at lw_m5 58 rfl
theorem q1081 : (Jvm.Cond.instanceMethod ({ cls := "TurnpikeTrust$Reader", name := "compares", desc := "(I)LTurnpikeTrust$Condition;" } : Jvm.MethodName)) ∈ lw_all := lw_g (lw_at lw_m5 59 rfl) rfl
theorem q1082 : (Jvm.Cond.code ({ cls := "TurnpikeTrust$Reader", name := "compares", desc := "(I)LTurnpikeTrust$Condition;" } : Jvm.MethodName) prog_21_method_22_code (3 : Nat) (Option.some (Jvm.ClassFile.FieldType.object "TurnpikeTrust$Condition"))) ∈ lw_all := lw_g (lw_at lw_m5 60 rfl) rfl
theorem q1083 : (Jvm.Cond.classLink "TurnpikeTrust$Reader" (277 : Nat) "TurnpikeTrust$Compares") ∈ lw_all := lw_g (lw_at lw_m5 61 rfl) rfl
theorem q1085 : (Jvm.Cond.methodLink "TurnpikeTrust$Reader" (279 : Nat) ({ cls := "TurnpikeTrust$Compares", name := "<init>", desc := "(III)V" } : Jvm.MethodName)) ∈ lw_all := lw_g (lw_at lw_m5 63 rfl) rfl
theorem q1099 : (Jvm.Cond.methodLink "TurnpikeTrust$Reader" (272 : Nat) ({ cls := "TurnpikeTrust$Reader", name := "kind", desc := "()LTurnpikeTrust$Condition;" } : Jvm.MethodName)) ∈ lw_all := lw_g (lw_at lw_m5 77 rfl) rfl
theorem q1100 : (Jvm.Cond.privateMethod ({ cls := "TurnpikeTrust$Reader", name := "kind", desc := "()LTurnpikeTrust$Condition;" } : Jvm.MethodName)) ∈ lw_tbl := lw_at lw_m5 78 rfl
theorem q1101 : (Jvm.Cond.instanceMethod ({ cls := "TurnpikeTrust$Reader", name := "kind", desc := "()LTurnpikeTrust$Condition;" } : Jvm.MethodName)) ∈ lw_all := lw_g (lw_at lw_m5 79 rfl) rfl
theorem q1102 : (Jvm.Cond.code ({ cls := "TurnpikeTrust$Reader", name := "kind", desc := "()LTurnpikeTrust$Condition;" } : Jvm.MethodName) prog_21_method_23_code (2 : Nat) (Option.some (Jvm.ClassFile.FieldType.object "TurnpikeTrust$Condition"))) ∈ lw_all := lw_g (lw_at lw_m5 80 rfl) rfl
theorem q1103 : (Jvm.Cond.methodLink "TurnpikeTrust$Reader" (282 : Nat) ({ cls := "TurnpikeTrust$Reader", name := "kindOf", desc := "(Ljava/lang/String;)I" } : Jvm.MethodName)) ∈ lw_all := lw_g (lw_at lw_m5 81 rfl) rfl
theorem q1104 : (Jvm.Cond.static ({ cls := "TurnpikeTrust$Reader", name := "kindOf", desc := "(Ljava/lang/String;)I" } : Jvm.MethodName)) ∈ lw_all := lw_g (lw_at lw_m5 82 rfl) rfl
theorem q1105 : (Jvm.Cond.code ({ cls := "TurnpikeTrust$Reader", name := "kindOf", desc := "(Ljava/lang/String;)I" } : Jvm.MethodName) prog_21_method_24_code (3 : Nat) (Option.some Jvm.ClassFile.FieldType.int)) ∈ lw_all := lw_g (lw_at lw_m5 83 rfl) rfl
theorem q1106 : (Jvm.Cond.stringRef "TurnpikeTrust$Reader" (289 : Nat) "coach") ∈ lw_tbl := lw_at lw_m5 84 rfl
theorem q1107 : (Jvm.Cond.stringRef "TurnpikeTrust$Reader" (291 : Nat) "cart") ∈ lw_tbl := lw_at lw_m5 85 rfl
theorem q1108 : (Jvm.Cond.stringRef "TurnpikeTrust$Reader" (293 : Nat) "wagon") ∈ lw_tbl := lw_at lw_m5 86 rfl
theorem q1109 : (Jvm.Cond.stringRef "TurnpikeTrust$Reader" (295 : Nat) "horse") ∈ lw_tbl := lw_at lw_m5 87 rfl
theorem q1110 : (Jvm.Cond.stringRef "TurnpikeTrust$Reader" (297 : Nat) "cattle") ∈ lw_tbl := lw_at lw_m5 88 rfl
theorem q1111 : (Jvm.Cond.stringRef "TurnpikeTrust$Reader" (299 : Nat) "sheep") ∈ lw_tbl := lw_at lw_m5 89 rfl
theorem q1112 : (Jvm.Cond.stringRef "TurnpikeTrust$Reader" (301 : Nat) "foot") ∈ lw_tbl := lw_at lw_m5 90 rfl
theorem q1113 : (Jvm.Cond.classLink "TurnpikeTrust$Reader" (286 : Nat) "TurnpikeTrust$KindIs") ∈ lw_all := lw_g (lw_at lw_m5 91 rfl) rfl
theorem q1115 : (Jvm.Cond.methodLink "TurnpikeTrust$Reader" (288 : Nat) ({ cls := "TurnpikeTrust$KindIs", name := "<init>", desc := "(I)V" } : Jvm.MethodName)) ∈ lw_all := lw_g (lw_at lw_m5 93 rfl) rfl
theorem q1123 : (Jvm.Cond.methodLink "TurnpikeTrust$Reader" (141 : Nat) ({ cls := "java/util/ArrayList", name := "add", desc := "(Ljava/lang/Object;)Z" } : Jvm.MethodName)) ∈ lw_all := lw_g (lw_at lw_m5 101 rfl) rfl
theorem q1166 : (Jvm.Cond.selects "TurnpikeTrust$Reader" ({ cls := "java/lang/Object", name := "getClass", desc := "()Ljava/lang/Class;" } : Jvm.MethodName) ({ cls := "java/lang/Object", name := "getClass", desc := "()Ljava/lang/Class;" } : Jvm.MethodName)) ∈ lw_all := lw_g (lw_at lw_m5 144 rfl) rfl
theorem q1192 : (Jvm.Cond.stringRef "TurnpikeTrust$Reader" (224 : Nat) "and") ∈ lw_tbl := lw_at lw_m5 170 rfl
theorem q1193 : (Jvm.Cond.stringRef "TurnpikeTrust$Reader" (215 : Nat) "or") ∈ lw_tbl := lw_at lw_m5 171 rfl
theorem q2262 : (Jvm.Cond.castable "TurnpikeTrust$Reader" "java/lang/Object") ∈ lw_tbl := lw_at lw_m10 40 rfl
theorem in_X5 : ∀ w ∈ wsX50, w ∈ lw_all := lw_in wsX50 [733, 735, 737, 739, 741, 743, 745, 747, 749] (by decide +kernel) (by decide +kernel)
