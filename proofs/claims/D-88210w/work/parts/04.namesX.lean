/-! TurnpikeTrust$Pass -/
set_option maxRecDepth 100000
def RX2 : String := "TurnpikeTrust$Pass"
def TX2 : u_T := fun k => match k with
  | 0 => ("TurnpikeTrust$Pass", "who", "LTurnpikeTrust$Traveller;", false)
  | 1 => ("TurnpikeTrust$Pass", "gate", "I", false)
  | 2 => ("TurnpikeTrust$Pass", "day", "I", false)
  | _ => ("TurnpikeTrust$Pass", "isBack", "Z", false)
def tyX2 : Nat → FieldType := fun k => match k with
  | 0 => .object "TurnpikeTrust$Traveller"
  | 1 => .int
  | 2 => .int
  | _ => .boolean
abbrev wsX20 : List Cond := u_ws RX2 TX2 4
theorem nmX2 : ∀ a, a < 4 → ∀ b, b < 4 → a ≠ b → (TX2 a).2.1 ≠ (TX2 b).2.1 := by decide +kernel
theorem tyX2_ok : ∀ k, k < 4 → parseFieldDescriptor (TX2 k).2.2.1 = some (tyX2 k) := by decide +kernel
abbrev cX2_init : ByteArray := prog_20_method_1_code
def yX2_init : MethodName := ⟨RX2, "<init>", "()V"⟩
theorem dX2_init_0 : decode cX2_init 0 = .ok (.aload_n 0, 1) := by decide +kernel
theorem dX2_init_1 : decode cX2_init 1 = .ok (.invokespecial 1, 3) := by decide +kernel
theorem dX2_init_4 : decode cX2_init 4 = .ok (.return_, 1) := by decide +kernel
theorem q83 : (Jvm.Cond.initialized "TurnpikeTrust$Pass") ∈ lw_all := lw_g (lw_at lw_m1 21 rfl) rfl
theorem q471 : (Jvm.Cond.instantiable "TurnpikeTrust$Pass" (4 : Nat)) ∈ lw_all := lw_g (lw_at lw_m2 169 rfl) rfl
theorem q473 : (Jvm.Cond.instanceMethod ({ cls := "TurnpikeTrust$Pass", name := "<init>", desc := "()V" } : Jvm.MethodName)) ∈ lw_all := lw_g (lw_at lw_m2 171 rfl) rfl
theorem q474 : (Jvm.Cond.code ({ cls := "TurnpikeTrust$Pass", name := "<init>", desc := "()V" } : Jvm.MethodName) prog_20_method_1_code (1 : Nat) (Option.none : Option Jvm.ClassFile.FieldType)) ∈ lw_all := lw_g (lw_at lw_m2 172 rfl) rfl
theorem q475 : (Jvm.Cond.methodLink "TurnpikeTrust$Pass" (1 : Nat) ({ cls := "java/lang/Object", name := "<init>", desc := "()V" } : Jvm.MethodName)) ∈ lw_all := lw_g (lw_at lw_m2 173 rfl) rfl
theorem q488 : (Jvm.Cond.lays "TurnpikeTrust$Pass" "TurnpikeTrust$Pass" "who" "LTurnpikeTrust$Traveller;") ∈ lw_all := lw_g (lw_at lw_m2 186 rfl) rfl
theorem q489 : (Jvm.Cond.soleField "TurnpikeTrust$Pass" "who") ∈ lw_all := lw_g (lw_at lw_m2 187 rfl) rfl
theorem q490 : (Jvm.Cond.lays "TurnpikeTrust$Pass" "TurnpikeTrust$Pass" "gate" "I") ∈ lw_all := lw_g (lw_at lw_m2 188 rfl) rfl
theorem q491 : (Jvm.Cond.soleField "TurnpikeTrust$Pass" "gate") ∈ lw_all := lw_g (lw_at lw_m2 189 rfl) rfl
theorem q492 : (Jvm.Cond.lays "TurnpikeTrust$Pass" "TurnpikeTrust$Pass" "day" "I") ∈ lw_all := lw_g (lw_at lw_m2 190 rfl) rfl
theorem q493 : (Jvm.Cond.soleField "TurnpikeTrust$Pass" "day") ∈ lw_all := lw_g (lw_at lw_m2 191 rfl) rfl
theorem q494 : (Jvm.Cond.lays "TurnpikeTrust$Pass" "TurnpikeTrust$Pass" "isBack" "Z") ∈ lw_all := lw_g (lw_at lw_m2 192 rfl) rfl
theorem q495 : (Jvm.Cond.soleField "TurnpikeTrust$Pass" "isBack") ∈ lw_all := lw_g (lw_at lw_m2 193 rfl) rfl
theorem q496 : (Jvm.Cond.superclass "TurnpikeTrust$Pass" "java/lang/Object") ∈ lw_all := lw_g (lw_at lw_m2 194 rfl) rfl
theorem q1165 : (Jvm.Cond.selects "TurnpikeTrust$Pass" ({ cls := "java/lang/Object", name := "getClass", desc := "()Ljava/lang/Class;" } : Jvm.MethodName) ({ cls := "java/lang/Object", name := "getClass", desc := "()Ljava/lang/Class;" } : Jvm.MethodName)) ∈ lw_all := lw_g (lw_at lw_m5 143 rfl) rfl
theorem q2258 : (Jvm.Cond.castable "TurnpikeTrust$Pass" "java/lang/Object") ∈ lw_tbl := lw_at lw_m10 36 rfl
theorem in_X2 : ∀ w ∈ wsX20, w ∈ lw_all := lw_in wsX20 [488, 490, 492, 494] (by decide +kernel) (by decide +kernel)
/-! TurnpikeTrust$Reckoning -/
set_option maxRecDepth 100000
def RX3 : String := "TurnpikeTrust$Reckoning"
def TX3 : u_T := fun k => match k with
  | 0 => ("TurnpikeTrust$Reckoning", "up", "[J", true)
  | 1 => ("TurnpikeTrust$Reckoning", "by", "[J", true)
  | 2 => ("TurnpikeTrust$Reckoning", "many", "I", false)
  | 3 => ("TurnpikeTrust$Reckoning", "onceHere", "I", false)
  | 4 => ("TurnpikeTrust$Reckoning", "onceAll", "I", false)
  | 5 => ("TurnpikeTrust$Reckoning", "line", "I", false)
  | 6 => ("TurnpikeTrust$Reckoning", "toll", "J", false)
  | 7 => ("TurnpikeTrust$Reckoning", "paidHere", "Z", false)
  | _ => ("TurnpikeTrust$Reckoning", "paidAny", "Z", false)
def tyX3 : Nat → FieldType := fun k => match k with
  | 0 => .array .long
  | 1 => .array .long
  | 2 => .int
  | 3 => .int
  | 4 => .int
  | 5 => .int
  | 6 => .long
  | 7 => .boolean
  | _ => .boolean
abbrev wsX30 : List Cond := u_ws RX3 TX3 9
theorem nmX3 : ∀ a, a < 9 → ∀ b, b < 9 → a ≠ b → (TX3 a).2.1 ≠ (TX3 b).2.1 := by decide +kernel
theorem tyX3_ok : ∀ k, k < 9 → parseFieldDescriptor (TX3 k).2.2.1 = some (tyX3 k) := by decide +kernel
abbrev cX3_init : ByteArray := prog_22_method_1_code
def yX3_init : MethodName := ⟨RX3, "<init>", "()V"⟩
def dkwX3_init_0 : List UInt8 := [42, 183, 0, 3, 42, 16, 40, 188, 11, 181, 0, 9, 42, 16, 40, 188, 11, 181, 0, 15, 177]
abbrev dktX3_init_0 : List UInt8 := dkwX3_init_0 ++ []
theorem dksX3_init_0 : cX3_init.data.toList.drop 0 = dktX3_init_0 := by decide +kernel
theorem dX3_init_0 : decode cX3_init 0 = .ok (.aload_n 0, 1) := dk_42 (dk_at dksX3_init_0 0 rfl rfl)
theorem dX3_init_1 : decode cX3_init 1 = .ok (.invokespecial 3, 3) := dk_183 0 3 (dk_at dksX3_init_0 1 rfl rfl)
theorem dX3_init_4 : decode cX3_init 4 = .ok (.aload_n 0, 1) := dk_42 (dk_at dksX3_init_0 4 rfl rfl)
theorem dX3_init_5 : decode cX3_init 5 = .ok (.bipush 40, 2) := dk_16 40 (dk_at dksX3_init_0 5 rfl rfl)
theorem dX3_init_7 : decode cX3_init 7 = .ok (.newarray .long, 2) := dk_188_11 (dk_at dksX3_init_0 7 rfl rfl)
theorem dX3_init_9 : decode cX3_init 9 = .ok (.putfield 9, 3) := dk_181 0 9 (dk_at dksX3_init_0 9 rfl rfl)
theorem dX3_init_12 : decode cX3_init 12 = .ok (.aload_n 0, 1) := dk_42 (dk_at dksX3_init_0 12 rfl rfl)
theorem dX3_init_13 : decode cX3_init 13 = .ok (.bipush 40, 2) := dk_16 40 (dk_at dksX3_init_0 13 rfl rfl)
theorem dX3_init_15 : decode cX3_init 15 = .ok (.newarray .long, 2) := dk_188_11 (dk_at dksX3_init_0 15 rfl rfl)
theorem dX3_init_17 : decode cX3_init 17 = .ok (.putfield 15, 3) := dk_181 0 15 (dk_at dksX3_init_0 17 rfl rfl)
theorem dX3_init_20 : decode cX3_init 20 = .ok (.return_, 1) := dk_177 (dk_at dksX3_init_0 20 rfl rfl)
abbrev cX3_begin : ByteArray := prog_22_method_2_code
def yX3_begin : MethodName := ⟨RX3, "begin", "(ZZ)V"⟩
def dkwX3_begin_1 : List UInt8 := [181, 0, 31, 42, 27, 181, 0, 35, 42, 28, 181, 0, 39, 177]
abbrev dktX3_begin_1 : List UInt8 := dkwX3_begin_1 ++ []
def dkwX3_begin_0 : List UInt8 := [42, 3, 181, 0, 18, 42, 2, 181, 0, 22, 42, 2, 181, 0, 25, 42, 2, 181, 0, 28, 42, 9]
abbrev dktX3_begin_0 : List UInt8 := dkwX3_begin_0 ++ dktX3_begin_1
theorem dksX3_begin_0 : cX3_begin.data.toList.drop 0 = dktX3_begin_0 := by decide +kernel
theorem dksX3_begin_1 : cX3_begin.data.toList.drop 22 = dktX3_begin_1 := dk_seg dksX3_begin_0 22 rfl rfl
theorem dX3_begin_0 : decode cX3_begin 0 = .ok (.aload_n 0, 1) := dk_42 (dk_at dksX3_begin_0 0 rfl rfl)
theorem dX3_begin_1 : decode cX3_begin 1 = .ok (.iconst 0, 1) := dk_3 (dk_at dksX3_begin_0 1 rfl rfl)
theorem dX3_begin_2 : decode cX3_begin 2 = .ok (.putfield 18, 3) := dk_181 0 18 (dk_at dksX3_begin_0 2 rfl rfl)
theorem dX3_begin_5 : decode cX3_begin 5 = .ok (.aload_n 0, 1) := dk_42 (dk_at dksX3_begin_0 5 rfl rfl)
theorem dX3_begin_6 : decode cX3_begin 6 = .ok (.iconst (-1), 1) := dk_2 (dk_at dksX3_begin_0 6 rfl rfl)
theorem dX3_begin_7 : decode cX3_begin 7 = .ok (.putfield 22, 3) := dk_181 0 22 (dk_at dksX3_begin_0 7 rfl rfl)
theorem dX3_begin_10 : decode cX3_begin 10 = .ok (.aload_n 0, 1) := dk_42 (dk_at dksX3_begin_0 10 rfl rfl)
theorem dX3_begin_11 : decode cX3_begin 11 = .ok (.iconst (-1), 1) := dk_2 (dk_at dksX3_begin_0 11 rfl rfl)
theorem dX3_begin_12 : decode cX3_begin 12 = .ok (.putfield 25, 3) := dk_181 0 25 (dk_at dksX3_begin_0 12 rfl rfl)
theorem dX3_begin_15 : decode cX3_begin 15 = .ok (.aload_n 0, 1) := dk_42 (dk_at dksX3_begin_0 15 rfl rfl)
theorem dX3_begin_16 : decode cX3_begin 16 = .ok (.iconst (-1), 1) := dk_2 (dk_at dksX3_begin_0 16 rfl rfl)
theorem dX3_begin_17 : decode cX3_begin 17 = .ok (.putfield 28, 3) := dk_181 0 28 (dk_at dksX3_begin_0 17 rfl rfl)
theorem dX3_begin_20 : decode cX3_begin 20 = .ok (.aload_n 0, 1) := dk_42 (dk_at dksX3_begin_0 20 rfl rfl)
theorem dX3_begin_21 : decode cX3_begin 21 = .ok (.lconst 0, 1) := dk_9 (dk_at dksX3_begin_0 21 rfl rfl)
theorem dX3_begin_22 : decode cX3_begin 22 = .ok (.putfield 31, 3) := dk_181 0 31 (dk_at dksX3_begin_1 0 rfl rfl)
theorem dX3_begin_25 : decode cX3_begin 25 = .ok (.aload_n 0, 1) := dk_42 (dk_at dksX3_begin_1 3 rfl rfl)
theorem dX3_begin_26 : decode cX3_begin 26 = .ok (.iload_n 1, 1) := dk_27 (dk_at dksX3_begin_1 4 rfl rfl)
theorem dX3_begin_27 : decode cX3_begin 27 = .ok (.putfield 35, 3) := dk_181 0 35 (dk_at dksX3_begin_1 5 rfl rfl)
theorem dX3_begin_30 : decode cX3_begin 30 = .ok (.aload_n 0, 1) := dk_42 (dk_at dksX3_begin_1 8 rfl rfl)
theorem dX3_begin_31 : decode cX3_begin 31 = .ok (.iload_n 2, 1) := dk_28 (dk_at dksX3_begin_1 9 rfl rfl)
theorem dX3_begin_32 : decode cX3_begin 32 = .ok (.putfield 39, 3) := dk_181 0 39 (dk_at dksX3_begin_1 10 rfl rfl)
theorem dX3_begin_35 : decode cX3_begin 35 = .ok (.return_, 1) := dk_177 (dk_at dksX3_begin_1 13 rfl rfl)
abbrev cX3_ends : ByteArray := prog_22_method_3_code
def yX3_ends : MethodName := ⟨RX3, "ends", "(JI)V"⟩
def dkwX3_ends_7 : List UInt8 := [180, 0, 25, 181, 0, 28, 177]
abbrev dktX3_ends_7 : List UInt8 := dkwX3_ends_7 ++ []
def dkwX3_ends_6 : List UInt8 := [42, 180, 0, 25, 184, 0, 50, 167, 0, 19, 21, 4, 153, 0, 10, 42, 180, 0, 22, 167, 0, 7, 42]
abbrev dktX3_ends_6 : List UInt8 := dkwX3_ends_6 ++ dktX3_ends_7
def dkwX3_ends_5 : List UInt8 := [154, 0, 4, 177, 42, 9, 181, 0, 31, 42, 21, 4, 153, 0, 22, 21, 5, 153, 0, 17, 42, 180, 0, 22]
abbrev dktX3_ends_5 : List UInt8 := dkwX3_ends_5 ++ dktX3_ends_6
def dkwX3_ends_4 : List UInt8 := [159, 0, 14, 42, 180, 0, 39, 153, 0, 7, 4, 167, 0, 4, 3, 54, 5, 21, 4, 154, 0, 9, 21, 5]
abbrev dktX3_ends_4 : List UInt8 := dkwX3_ends_4 ++ dktX3_ends_5
def dkwX3_ends_3 : List UInt8 := [159, 0, 14, 42, 180, 0, 35, 153, 0, 7, 4, 167, 0, 4, 3, 54, 4, 42, 180, 0, 25, 2]
abbrev dktX3_ends_3 : List UInt8 := dkwX3_ends_3 ++ dktX3_ends_4
def dkwX3_ends_2 : List UInt8 := [184, 0, 44, 181, 0, 31, 132, 4, 1, 167, 255, 214, 42, 29, 181, 0, 28, 42, 180, 0, 22, 2]
abbrev dktX3_ends_2 : List UInt8 := dkwX3_ends_2 ++ dktX3_ends_3
def dkwX3_ends_1 : List UInt8 := [42, 180, 0, 31, 42, 180, 0, 9, 21, 4, 47, 105, 42, 180, 0, 15, 21, 4, 47, 109, 20, 0, 42]
abbrev dktX3_ends_1 : List UInt8 := dkwX3_ends_1 ++ dktX3_ends_2
def dkwX3_ends_0 : List UInt8 := [42, 31, 20, 0, 42, 184, 0, 44, 181, 0, 31, 3, 54, 4, 21, 4, 42, 180, 0, 18, 162, 0, 39, 42]
abbrev dktX3_ends_0 : List UInt8 := dkwX3_ends_0 ++ dktX3_ends_1
theorem dksX3_ends_0 : cX3_ends.data.toList.drop 0 = dktX3_ends_0 := by decide +kernel
theorem dksX3_ends_1 : cX3_ends.data.toList.drop 24 = dktX3_ends_1 := dk_seg dksX3_ends_0 24 rfl rfl
theorem dksX3_ends_2 : cX3_ends.data.toList.drop 47 = dktX3_ends_2 := dk_seg dksX3_ends_1 23 rfl rfl
theorem dksX3_ends_3 : cX3_ends.data.toList.drop 69 = dktX3_ends_3 := dk_seg dksX3_ends_2 22 rfl rfl
theorem dksX3_ends_4 : cX3_ends.data.toList.drop 91 = dktX3_ends_4 := dk_seg dksX3_ends_3 22 rfl rfl
theorem dksX3_ends_5 : cX3_ends.data.toList.drop 115 = dktX3_ends_5 := dk_seg dksX3_ends_4 24 rfl rfl
theorem dksX3_ends_6 : cX3_ends.data.toList.drop 139 = dktX3_ends_6 := dk_seg dksX3_ends_5 24 rfl rfl
theorem dksX3_ends_7 : cX3_ends.data.toList.drop 162 = dktX3_ends_7 := dk_seg dksX3_ends_6 23 rfl rfl
theorem dX3_ends_0 : decode cX3_ends 0 = .ok (.aload_n 0, 1) := dk_42 (dk_at dksX3_ends_0 0 rfl rfl)
theorem dX3_ends_1 : decode cX3_ends 1 = .ok (.lload_n 1, 1) := dk_31 (dk_at dksX3_ends_0 1 rfl rfl)
theorem dX3_ends_2 : decode cX3_ends 2 = .ok (.ldc2_w 42, 3) := dk_20 0 42 (dk_at dksX3_ends_0 2 rfl rfl)
theorem dX3_ends_5 : decode cX3_ends 5 = .ok (.invokestatic 44, 3) := dk_184 0 44 (dk_at dksX3_ends_0 5 rfl rfl)
theorem dX3_ends_8 : decode cX3_ends 8 = .ok (.putfield 31, 3) := dk_181 0 31 (dk_at dksX3_ends_0 8 rfl rfl)
theorem dX3_ends_11 : decode cX3_ends 11 = .ok (.iconst 0, 1) := dk_3 (dk_at dksX3_ends_0 11 rfl rfl)
theorem dX3_ends_12 : decode cX3_ends 12 = .ok (.istore 4, 2) := dk_54 4 (dk_at dksX3_ends_0 12 rfl rfl)
theorem dX3_ends_14 : decode cX3_ends 14 = .ok (.iload 4, 2) := dk_21 4 (dk_at dksX3_ends_0 14 rfl rfl)
theorem dX3_ends_16 : decode cX3_ends 16 = .ok (.aload_n 0, 1) := dk_42 (dk_at dksX3_ends_0 16 rfl rfl)
theorem dX3_ends_17 : decode cX3_ends 17 = .ok (.getfield 18, 3) := dk_180 0 18 (dk_at dksX3_ends_0 17 rfl rfl)
theorem dX3_ends_20 : decode cX3_ends 20 = .ok (.if_icmp .ge 39, 3) := dk_162 0 39 (dk_at dksX3_ends_0 20 rfl rfl)
theorem dX3_ends_23 : decode cX3_ends 23 = .ok (.aload_n 0, 1) := dk_42 (dk_at dksX3_ends_0 23 rfl rfl)
theorem dX3_ends_24 : decode cX3_ends 24 = .ok (.aload_n 0, 1) := dk_42 (dk_at dksX3_ends_1 0 rfl rfl)
theorem dX3_ends_25 : decode cX3_ends 25 = .ok (.getfield 31, 3) := dk_180 0 31 (dk_at dksX3_ends_1 1 rfl rfl)
theorem dX3_ends_28 : decode cX3_ends 28 = .ok (.aload_n 0, 1) := dk_42 (dk_at dksX3_ends_1 4 rfl rfl)
theorem dX3_ends_29 : decode cX3_ends 29 = .ok (.getfield 9, 3) := dk_180 0 9 (dk_at dksX3_ends_1 5 rfl rfl)
theorem dX3_ends_32 : decode cX3_ends 32 = .ok (.iload 4, 2) := dk_21 4 (dk_at dksX3_ends_1 8 rfl rfl)
theorem dX3_ends_34 : decode cX3_ends 34 = .ok (.laload, 1) := dk_47 (dk_at dksX3_ends_1 10 rfl rfl)
theorem dX3_ends_35 : decode cX3_ends 35 = .ok (.lmul, 1) := dk_105 (dk_at dksX3_ends_1 11 rfl rfl)
theorem dX3_ends_36 : decode cX3_ends 36 = .ok (.aload_n 0, 1) := dk_42 (dk_at dksX3_ends_1 12 rfl rfl)
theorem dX3_ends_37 : decode cX3_ends 37 = .ok (.getfield 15, 3) := dk_180 0 15 (dk_at dksX3_ends_1 13 rfl rfl)
theorem dX3_ends_40 : decode cX3_ends 40 = .ok (.iload 4, 2) := dk_21 4 (dk_at dksX3_ends_1 16 rfl rfl)
theorem dX3_ends_42 : decode cX3_ends 42 = .ok (.laload, 1) := dk_47 (dk_at dksX3_ends_1 18 rfl rfl)
theorem dX3_ends_43 : decode cX3_ends 43 = .ok (.ldiv, 1) := dk_109 (dk_at dksX3_ends_1 19 rfl rfl)
theorem dX3_ends_44 : decode cX3_ends 44 = .ok (.ldc2_w 42, 3) := dk_20 0 42 (dk_at dksX3_ends_1 20 rfl rfl)
theorem dX3_ends_47 : decode cX3_ends 47 = .ok (.invokestatic 44, 3) := dk_184 0 44 (dk_at dksX3_ends_2 0 rfl rfl)
theorem dX3_ends_50 : decode cX3_ends 50 = .ok (.putfield 31, 3) := dk_181 0 31 (dk_at dksX3_ends_2 3 rfl rfl)
theorem dX3_ends_53 : decode cX3_ends 53 = .ok (.iinc 4 1, 3) := dk_132 4 1 (dk_at dksX3_ends_2 6 rfl rfl)
theorem dX3_ends_56 : decode cX3_ends 56 = .ok (.goto (-42), 3) := dk_167 255 214 (dk_at dksX3_ends_2 9 rfl rfl)
theorem dX3_ends_59 : decode cX3_ends 59 = .ok (.aload_n 0, 1) := dk_42 (dk_at dksX3_ends_2 12 rfl rfl)
theorem dX3_ends_60 : decode cX3_ends 60 = .ok (.iload_n 3, 1) := dk_29 (dk_at dksX3_ends_2 13 rfl rfl)
theorem dX3_ends_61 : decode cX3_ends 61 = .ok (.putfield 28, 3) := dk_181 0 28 (dk_at dksX3_ends_2 14 rfl rfl)
theorem dX3_ends_64 : decode cX3_ends 64 = .ok (.aload_n 0, 1) := dk_42 (dk_at dksX3_ends_2 17 rfl rfl)
theorem dX3_ends_65 : decode cX3_ends 65 = .ok (.getfield 22, 3) := dk_180 0 22 (dk_at dksX3_ends_2 18 rfl rfl)
theorem dX3_ends_68 : decode cX3_ends 68 = .ok (.iconst (-1), 1) := dk_2 (dk_at dksX3_ends_2 21 rfl rfl)
theorem dX3_ends_69 : decode cX3_ends 69 = .ok (.if_icmp .eq 14, 3) := dk_159 0 14 (dk_at dksX3_ends_3 0 rfl rfl)
theorem dX3_ends_72 : decode cX3_ends 72 = .ok (.aload_n 0, 1) := dk_42 (dk_at dksX3_ends_3 3 rfl rfl)
theorem dX3_ends_73 : decode cX3_ends 73 = .ok (.getfield 35, 3) := dk_180 0 35 (dk_at dksX3_ends_3 4 rfl rfl)
theorem dX3_ends_76 : decode cX3_ends 76 = .ok (.ifCond .eq 7, 3) := dk_153 0 7 (dk_at dksX3_ends_3 7 rfl rfl)
theorem dX3_ends_79 : decode cX3_ends 79 = .ok (.iconst 1, 1) := dk_4 (dk_at dksX3_ends_3 10 rfl rfl)
theorem dX3_ends_80 : decode cX3_ends 80 = .ok (.goto 4, 3) := dk_167 0 4 (dk_at dksX3_ends_3 11 rfl rfl)
theorem dX3_ends_83 : decode cX3_ends 83 = .ok (.iconst 0, 1) := dk_3 (dk_at dksX3_ends_3 14 rfl rfl)
theorem dX3_ends_84 : decode cX3_ends 84 = .ok (.istore 4, 2) := dk_54 4 (dk_at dksX3_ends_3 15 rfl rfl)
theorem dX3_ends_86 : decode cX3_ends 86 = .ok (.aload_n 0, 1) := dk_42 (dk_at dksX3_ends_3 17 rfl rfl)
theorem dX3_ends_87 : decode cX3_ends 87 = .ok (.getfield 25, 3) := dk_180 0 25 (dk_at dksX3_ends_3 18 rfl rfl)
theorem dX3_ends_90 : decode cX3_ends 90 = .ok (.iconst (-1), 1) := dk_2 (dk_at dksX3_ends_3 21 rfl rfl)
theorem dX3_ends_91 : decode cX3_ends 91 = .ok (.if_icmp .eq 14, 3) := dk_159 0 14 (dk_at dksX3_ends_4 0 rfl rfl)
theorem dX3_ends_94 : decode cX3_ends 94 = .ok (.aload_n 0, 1) := dk_42 (dk_at dksX3_ends_4 3 rfl rfl)
theorem dX3_ends_95 : decode cX3_ends 95 = .ok (.getfield 39, 3) := dk_180 0 39 (dk_at dksX3_ends_4 4 rfl rfl)
theorem dX3_ends_98 : decode cX3_ends 98 = .ok (.ifCond .eq 7, 3) := dk_153 0 7 (dk_at dksX3_ends_4 7 rfl rfl)
theorem dX3_ends_101 : decode cX3_ends 101 = .ok (.iconst 1, 1) := dk_4 (dk_at dksX3_ends_4 10 rfl rfl)
theorem dX3_ends_102 : decode cX3_ends 102 = .ok (.goto 4, 3) := dk_167 0 4 (dk_at dksX3_ends_4 11 rfl rfl)
theorem dX3_ends_105 : decode cX3_ends 105 = .ok (.iconst 0, 1) := dk_3 (dk_at dksX3_ends_4 14 rfl rfl)
theorem dX3_ends_106 : decode cX3_ends 106 = .ok (.istore 5, 2) := dk_54 5 (dk_at dksX3_ends_4 15 rfl rfl)
theorem dX3_ends_108 : decode cX3_ends 108 = .ok (.iload 4, 2) := dk_21 4 (dk_at dksX3_ends_4 17 rfl rfl)
theorem dX3_ends_110 : decode cX3_ends 110 = .ok (.ifCond .ne 9, 3) := dk_154 0 9 (dk_at dksX3_ends_4 19 rfl rfl)
theorem dX3_ends_113 : decode cX3_ends 113 = .ok (.iload 5, 2) := dk_21 5 (dk_at dksX3_ends_4 22 rfl rfl)
theorem dX3_ends_115 : decode cX3_ends 115 = .ok (.ifCond .ne 4, 3) := dk_154 0 4 (dk_at dksX3_ends_5 0 rfl rfl)
theorem dX3_ends_118 : decode cX3_ends 118 = .ok (.return_, 1) := dk_177 (dk_at dksX3_ends_5 3 rfl rfl)
theorem dX3_ends_119 : decode cX3_ends 119 = .ok (.aload_n 0, 1) := dk_42 (dk_at dksX3_ends_5 4 rfl rfl)
theorem dX3_ends_120 : decode cX3_ends 120 = .ok (.lconst 0, 1) := dk_9 (dk_at dksX3_ends_5 5 rfl rfl)
theorem dX3_ends_121 : decode cX3_ends 121 = .ok (.putfield 31, 3) := dk_181 0 31 (dk_at dksX3_ends_5 6 rfl rfl)
theorem dX3_ends_124 : decode cX3_ends 124 = .ok (.aload_n 0, 1) := dk_42 (dk_at dksX3_ends_5 9 rfl rfl)
theorem dX3_ends_125 : decode cX3_ends 125 = .ok (.iload 4, 2) := dk_21 4 (dk_at dksX3_ends_5 10 rfl rfl)
theorem dX3_ends_127 : decode cX3_ends 127 = .ok (.ifCond .eq 22, 3) := dk_153 0 22 (dk_at dksX3_ends_5 12 rfl rfl)
theorem dX3_ends_130 : decode cX3_ends 130 = .ok (.iload 5, 2) := dk_21 5 (dk_at dksX3_ends_5 15 rfl rfl)
theorem dX3_ends_132 : decode cX3_ends 132 = .ok (.ifCond .eq 17, 3) := dk_153 0 17 (dk_at dksX3_ends_5 17 rfl rfl)
theorem dX3_ends_135 : decode cX3_ends 135 = .ok (.aload_n 0, 1) := dk_42 (dk_at dksX3_ends_5 20 rfl rfl)
theorem dX3_ends_136 : decode cX3_ends 136 = .ok (.getfield 22, 3) := dk_180 0 22 (dk_at dksX3_ends_5 21 rfl rfl)
theorem dX3_ends_139 : decode cX3_ends 139 = .ok (.aload_n 0, 1) := dk_42 (dk_at dksX3_ends_6 0 rfl rfl)
theorem dX3_ends_140 : decode cX3_ends 140 = .ok (.getfield 25, 3) := dk_180 0 25 (dk_at dksX3_ends_6 1 rfl rfl)
theorem dX3_ends_143 : decode cX3_ends 143 = .ok (.invokestatic 50, 3) := dk_184 0 50 (dk_at dksX3_ends_6 4 rfl rfl)
theorem dX3_ends_146 : decode cX3_ends 146 = .ok (.goto 19, 3) := dk_167 0 19 (dk_at dksX3_ends_6 7 rfl rfl)
theorem dX3_ends_149 : decode cX3_ends 149 = .ok (.iload 4, 2) := dk_21 4 (dk_at dksX3_ends_6 10 rfl rfl)
theorem dX3_ends_151 : decode cX3_ends 151 = .ok (.ifCond .eq 10, 3) := dk_153 0 10 (dk_at dksX3_ends_6 12 rfl rfl)
theorem dX3_ends_154 : decode cX3_ends 154 = .ok (.aload_n 0, 1) := dk_42 (dk_at dksX3_ends_6 15 rfl rfl)
theorem dX3_ends_155 : decode cX3_ends 155 = .ok (.getfield 22, 3) := dk_180 0 22 (dk_at dksX3_ends_6 16 rfl rfl)
theorem dX3_ends_158 : decode cX3_ends 158 = .ok (.goto 7, 3) := dk_167 0 7 (dk_at dksX3_ends_6 19 rfl rfl)
theorem dX3_ends_161 : decode cX3_ends 161 = .ok (.aload_n 0, 1) := dk_42 (dk_at dksX3_ends_6 22 rfl rfl)
theorem dX3_ends_162 : decode cX3_ends 162 = .ok (.getfield 25, 3) := dk_180 0 25 (dk_at dksX3_ends_7 0 rfl rfl)
theorem dX3_ends_165 : decode cX3_ends 165 = .ok (.putfield 28, 3) := dk_181 0 28 (dk_at dksX3_ends_7 3 rfl rfl)
theorem dX3_ends_168 : decode cX3_ends 168 = .ok (.return_, 1) := dk_177 (dk_at dksX3_ends_7 6 rfl rfl)
theorem q84 : (Jvm.Cond.initialized "TurnpikeTrust$Reckoning") ∈ lw_all := lw_g (lw_at lw_m1 22 rfl) rfl
theorem q498 : (Jvm.Cond.instantiable "TurnpikeTrust$Reckoning" (9 : Nat)) ∈ lw_all := lw_g (lw_at lw_m2 196 rfl) rfl
theorem q500 : (Jvm.Cond.instanceMethod ({ cls := "TurnpikeTrust$Reckoning", name := "<init>", desc := "()V" } : Jvm.MethodName)) ∈ lw_all := lw_g (lw_at lw_m2 198 rfl) rfl
theorem q501 : (Jvm.Cond.code ({ cls := "TurnpikeTrust$Reckoning", name := "<init>", desc := "()V" } : Jvm.MethodName) prog_22_method_1_code (1 : Nat) (Option.none : Option Jvm.ClassFile.FieldType)) ∈ lw_all := lw_g (lw_at lw_m2 199 rfl) rfl
theorem q502 : (Jvm.Cond.methodLink "TurnpikeTrust$Reckoning" (3 : Nat) ({ cls := "java/lang/Object", name := "<init>", desc := "()V" } : Jvm.MethodName)) ∈ lw_all := lw_g (lw_at lw_m2 200 rfl) rfl
theorem q503 : (Jvm.Cond.fieldLink "TurnpikeTrust$Reckoning" (9 : Nat) "TurnpikeTrust$Reckoning" "up" "[J") ∈ lw_all := lw_g (lw_at lw_m2 201 rfl) rfl
theorem q505 : (Jvm.Cond.fieldLink "TurnpikeTrust$Reckoning" (15 : Nat) "TurnpikeTrust$Reckoning" "by" "[J") ∈ lw_all := lw_g (lw_at lw_m2 203 rfl) rfl
theorem q507 : (Jvm.Cond.fieldLink "TurnpikeTrust$Reckoning" (18 : Nat) "TurnpikeTrust$Reckoning" "many" "I") ∈ lw_all := lw_g (lw_at lw_m2 205 rfl) rfl
theorem q509 : (Jvm.Cond.fieldLink "TurnpikeTrust$Reckoning" (22 : Nat) "TurnpikeTrust$Reckoning" "onceHere" "I") ∈ lw_all := lw_g (lw_at lw_m2 207 rfl) rfl
theorem q512 : (Jvm.Cond.fieldLink "TurnpikeTrust$Reckoning" (25 : Nat) "TurnpikeTrust$Reckoning" "onceAll" "I") ∈ lw_all := lw_g (lw_at lw_m2 210 rfl) rfl
theorem q514 : (Jvm.Cond.fieldLink "TurnpikeTrust$Reckoning" (28 : Nat) "TurnpikeTrust$Reckoning" "line" "I") ∈ lw_all := lw_g (lw_at lw_m2 212 rfl) rfl
theorem q516 : (Jvm.Cond.fieldLink "TurnpikeTrust$Reckoning" (31 : Nat) "TurnpikeTrust$Reckoning" "toll" "J") ∈ lw_all := lw_g (lw_at lw_m2 214 rfl) rfl
theorem q518 : (Jvm.Cond.fieldLink "TurnpikeTrust$Reckoning" (35 : Nat) "TurnpikeTrust$Reckoning" "paidHere" "Z") ∈ lw_all := lw_g (lw_at lw_m2 216 rfl) rfl
theorem q519 : (Jvm.Cond.fieldLink "TurnpikeTrust$Reckoning" (39 : Nat) "TurnpikeTrust$Reckoning" "paidAny" "Z") ∈ lw_all := lw_g (lw_at lw_m2 217 rfl) rfl
theorem q520 : (Jvm.Cond.laysFinal "TurnpikeTrust$Reckoning" "TurnpikeTrust$Reckoning" "up" "[J") ∈ lw_all := lw_g (lw_at lw_m2 218 rfl) rfl
theorem q521 : (Jvm.Cond.soleField "TurnpikeTrust$Reckoning" "up") ∈ lw_all := lw_g (lw_at lw_m2 219 rfl) rfl
theorem q522 : (Jvm.Cond.laysFinal "TurnpikeTrust$Reckoning" "TurnpikeTrust$Reckoning" "by" "[J") ∈ lw_all := lw_g (lw_at lw_m2 220 rfl) rfl
theorem q523 : (Jvm.Cond.soleField "TurnpikeTrust$Reckoning" "by") ∈ lw_all := lw_g (lw_at lw_m2 221 rfl) rfl
theorem q524 : (Jvm.Cond.lays "TurnpikeTrust$Reckoning" "TurnpikeTrust$Reckoning" "many" "I") ∈ lw_all := lw_g (lw_at lw_m2 222 rfl) rfl
theorem q525 : (Jvm.Cond.soleField "TurnpikeTrust$Reckoning" "many") ∈ lw_all := lw_g (lw_at lw_m2 223 rfl) rfl
theorem q526 : (Jvm.Cond.lays "TurnpikeTrust$Reckoning" "TurnpikeTrust$Reckoning" "onceHere" "I") ∈ lw_all := lw_g (lw_at lw_m2 224 rfl) rfl
theorem q527 : (Jvm.Cond.soleField "TurnpikeTrust$Reckoning" "onceHere") ∈ lw_all := lw_g (lw_at lw_m2 225 rfl) rfl
theorem q528 : (Jvm.Cond.lays "TurnpikeTrust$Reckoning" "TurnpikeTrust$Reckoning" "onceAll" "I") ∈ lw_all := lw_g (lw_at lw_m2 226 rfl) rfl
theorem q529 : (Jvm.Cond.soleField "TurnpikeTrust$Reckoning" "onceAll") ∈ lw_all := lw_g (lw_at lw_m2 227 rfl) rfl
theorem q530 : (Jvm.Cond.lays "TurnpikeTrust$Reckoning" "TurnpikeTrust$Reckoning" "line" "I") ∈ lw_all := lw_g (lw_at lw_m2 228 rfl) rfl
theorem q531 : (Jvm.Cond.soleField "TurnpikeTrust$Reckoning" "line") ∈ lw_all := lw_g (lw_at lw_m2 229 rfl) rfl
theorem q532 : (Jvm.Cond.lays "TurnpikeTrust$Reckoning" "TurnpikeTrust$Reckoning" "toll" "J") ∈ lw_all := lw_g (lw_at lw_m2 230 rfl) rfl
theorem q533 : (Jvm.Cond.soleField "TurnpikeTrust$Reckoning" "toll") ∈ lw_all := lw_g (lw_at lw_m2 231 rfl) rfl
theorem q534 : (Jvm.Cond.lays "TurnpikeTrust$Reckoning" "TurnpikeTrust$Reckoning" "paidHere" "Z") ∈ lw_all := lw_g (lw_at lw_m2 232 rfl) rfl
theorem q535 : (Jvm.Cond.soleField "TurnpikeTrust$Reckoning" "paidHere") ∈ lw_all := lw_g (lw_at lw_m2 233 rfl) rfl
theorem q536 : (Jvm.Cond.lays "TurnpikeTrust$Reckoning" "TurnpikeTrust$Reckoning" "paidAny" "Z") ∈ lw_all := lw_g (lw_at lw_m2 234 rfl) rfl
theorem q537 : (Jvm.Cond.soleField "TurnpikeTrust$Reckoning" "paidAny") ∈ lw_all := lw_g (lw_at lw_m2 235 rfl) rfl
theorem q538 : (Jvm.Cond.superclass "TurnpikeTrust$Reckoning" "java/lang/Object") ∈ lw_all := lw_g (lw_at lw_m2 236 rfl) rfl
theorem q1167 : (Jvm.Cond.selects "TurnpikeTrust$Reckoning" ({ cls := "java/lang/Object", name := "getClass", desc := "()Ljava/lang/Class;" } : Jvm.MethodName) ({ cls := "java/lang/Object", name := "getClass", desc := "()Ljava/lang/Class;" } : Jvm.MethodName)) ∈ lw_all := lw_g (lw_at lw_m5 145 rfl) rfl
theorem q1404 : (Jvm.Cond.instanceMethod ({ cls := "TurnpikeTrust$Reckoning", name := "begin", desc := "(ZZ)V" } : Jvm.MethodName)) ∈ lw_all := lw_g (lw_at lw_m6 142 rfl) rfl
theorem q1405 : (Jvm.Cond.selects "TurnpikeTrust$Reckoning" ({ cls := "TurnpikeTrust$Reckoning", name := "begin", desc := "(ZZ)V" } : Jvm.MethodName) ({ cls := "TurnpikeTrust$Reckoning", name := "begin", desc := "(ZZ)V" } : Jvm.MethodName)) ∈ lw_all := lw_g (lw_at lw_m6 143 rfl) rfl
theorem q1406 : (Jvm.Cond.code ({ cls := "TurnpikeTrust$Reckoning", name := "begin", desc := "(ZZ)V" } : Jvm.MethodName) prog_22_method_2_code (3 : Nat) (Option.none : Option Jvm.ClassFile.FieldType)) ∈ lw_all := lw_g (lw_at lw_m6 144 rfl) rfl
theorem q1510 : (Jvm.Cond.instanceMethod ({ cls := "TurnpikeTrust$Reckoning", name := "ends", desc := "(JI)V" } : Jvm.MethodName)) ∈ lw_all := lw_g (lw_at lw_m7 8 rfl) rfl
theorem q1511 : (Jvm.Cond.selects "TurnpikeTrust$Reckoning" ({ cls := "TurnpikeTrust$Reckoning", name := "ends", desc := "(JI)V" } : Jvm.MethodName) ({ cls := "TurnpikeTrust$Reckoning", name := "ends", desc := "(JI)V" } : Jvm.MethodName)) ∈ lw_all := lw_g (lw_at lw_m7 9 rfl) rfl
theorem q1512 : (Jvm.Cond.code ({ cls := "TurnpikeTrust$Reckoning", name := "ends", desc := "(JI)V" } : Jvm.MethodName) prog_22_method_3_code (6 : Nat) (Option.none : Option Jvm.ClassFile.FieldType)) ∈ lw_all := lw_g (lw_at lw_m7 10 rfl) rfl
theorem q1513 : (Jvm.Cond.constantLong "TurnpikeTrust$Reckoning" (42 : Nat) (1000000 : Int64)) ∈ lw_all := lw_g (lw_at lw_m7 11 rfl) rfl
theorem q1514 : (Jvm.Cond.methodLink "TurnpikeTrust$Reckoning" (44 : Nat) ({ cls := "java/lang/Math", name := "min", desc := "(JJ)J" } : Jvm.MethodName)) ∈ lw_all := lw_g (lw_at lw_m7 12 rfl) rfl
theorem q1515 : (Jvm.Cond.methodLink "TurnpikeTrust$Reckoning" (50 : Nat) ({ cls := "java/lang/Math", name := "min", desc := "(II)I" } : Jvm.MethodName)) ∈ lw_all := lw_g (lw_at lw_m7 13 rfl) rfl
theorem q2259 : (Jvm.Cond.castable "TurnpikeTrust$Reckoning" "java/lang/Object") ∈ lw_tbl := lw_at lw_m10 37 rfl
theorem in_X3 : ∀ w ∈ wsX30, w ∈ lw_all := lw_in wsX30 [520, 522, 524, 526, 528, 530, 532, 534, 536] (by decide +kernel) (by decide +kernel)
/-! TurnpikeTrust$Act -/
set_option maxRecDepth 100000
def RX6 : String := "TurnpikeTrust$Act"
def TX6 : u_T := fun k => match k with
  | 0 => ("TurnpikeTrust$Act", "from", "I", true)
  | _ => ("TurnpikeTrust$Act", "clauses", "Ljava/util/ArrayList;", true)
def tyX6 : Nat → FieldType := fun k => match k with
  | 0 => .int
  | _ => .object "java/util/ArrayList"
abbrev wsX60 : List Cond := u_ws RX6 TX6 2
theorem nmX6 : ∀ a, a < 2 → ∀ b, b < 2 → a ≠ b → (TX6 a).2.1 ≠ (TX6 b).2.1 := by decide +kernel
theorem tyX6_ok : ∀ k, k < 2 → parseFieldDescriptor (TX6 k).2.2.1 = some (tyX6 k) := by decide +kernel
abbrev cX6_init : ByteArray := prog_2_method_1_code
def yX6_init : MethodName := ⟨RX6, "<init>", "(I)V"⟩
def dkwX6_init_0 : List UInt8 := [42, 183, 0, 1, 42, 187, 0, 7, 89, 16, 8, 183, 0, 9, 181, 0, 12, 42, 27, 181, 0, 18, 177]
abbrev dktX6_init_0 : List UInt8 := dkwX6_init_0 ++ []
theorem dksX6_init_0 : cX6_init.data.toList.drop 0 = dktX6_init_0 := by decide +kernel
theorem dX6_init_0 : decode cX6_init 0 = .ok (.aload_n 0, 1) := dk_42 (dk_at dksX6_init_0 0 rfl rfl)
theorem dX6_init_1 : decode cX6_init 1 = .ok (.invokespecial 1, 3) := dk_183 0 1 (dk_at dksX6_init_0 1 rfl rfl)
theorem dX6_init_4 : decode cX6_init 4 = .ok (.aload_n 0, 1) := dk_42 (dk_at dksX6_init_0 4 rfl rfl)
theorem dX6_init_5 : decode cX6_init 5 = .ok (.new 7, 3) := dk_187 0 7 (dk_at dksX6_init_0 5 rfl rfl)
theorem dX6_init_8 : decode cX6_init 8 = .ok (.dup, 1) := dk_89 (dk_at dksX6_init_0 8 rfl rfl)
theorem dX6_init_9 : decode cX6_init 9 = .ok (.bipush 8, 2) := dk_16 8 (dk_at dksX6_init_0 9 rfl rfl)
theorem dX6_init_11 : decode cX6_init 11 = .ok (.invokespecial 9, 3) := dk_183 0 9 (dk_at dksX6_init_0 11 rfl rfl)
theorem dX6_init_14 : decode cX6_init 14 = .ok (.putfield 12, 3) := dk_181 0 12 (dk_at dksX6_init_0 14 rfl rfl)
theorem dX6_init_17 : decode cX6_init 17 = .ok (.aload_n 0, 1) := dk_42 (dk_at dksX6_init_0 17 rfl rfl)
theorem dX6_init_18 : decode cX6_init 18 = .ok (.iload_n 1, 1) := dk_27 (dk_at dksX6_init_0 18 rfl rfl)
theorem dX6_init_19 : decode cX6_init 19 = .ok (.putfield 18, 3) := dk_181 0 18 (dk_at dksX6_init_0 19 rfl rfl)
theorem dX6_init_22 : decode cX6_init 22 = .ok (.return_, 1) := dk_177 (dk_at dksX6_init_0 22 rfl rfl)
abbrev cX6_asks : ByteArray := prog_2_method_2_code
def yX6_asks : MethodName := ⟨RX6, "asks", "(LTurnpikeTrust$Reckoning;LTurnpikeTrust$Pass;)V"⟩
def dkwX6_asks_2 : List UInt8 := [132, 3, 1, 167, 255, 209, 177]
abbrev dktX6_asks_2 : List UInt8 := dkwX6_asks_2 ++ []
def dkwX6_asks_1 : List UInt8 := [58, 4, 25, 4, 44, 182, 0, 32, 153, 0, 14, 25, 4, 43, 44, 182, 0, 36, 153, 0, 4, 177]
abbrev dktX6_asks_1 : List UInt8 := dkwX6_asks_1 ++ dktX6_asks_2
def dkwX6_asks_0 : List UInt8 := [3, 62, 29, 42, 180, 0, 12, 182, 0, 22, 162, 0, 42, 42, 180, 0, 12, 29, 182, 0, 26, 192, 0, 30]
abbrev dktX6_asks_0 : List UInt8 := dkwX6_asks_0 ++ dktX6_asks_1
theorem dksX6_asks_0 : cX6_asks.data.toList.drop 0 = dktX6_asks_0 := by decide +kernel
theorem dksX6_asks_1 : cX6_asks.data.toList.drop 24 = dktX6_asks_1 := dk_seg dksX6_asks_0 24 rfl rfl
theorem dksX6_asks_2 : cX6_asks.data.toList.drop 46 = dktX6_asks_2 := dk_seg dksX6_asks_1 22 rfl rfl
theorem dX6_asks_0 : decode cX6_asks 0 = .ok (.iconst 0, 1) := dk_3 (dk_at dksX6_asks_0 0 rfl rfl)
theorem dX6_asks_1 : decode cX6_asks 1 = .ok (.istore_n 3, 1) := dk_62 (dk_at dksX6_asks_0 1 rfl rfl)
theorem dX6_asks_2 : decode cX6_asks 2 = .ok (.iload_n 3, 1) := dk_29 (dk_at dksX6_asks_0 2 rfl rfl)
theorem dX6_asks_3 : decode cX6_asks 3 = .ok (.aload_n 0, 1) := dk_42 (dk_at dksX6_asks_0 3 rfl rfl)
theorem dX6_asks_4 : decode cX6_asks 4 = .ok (.getfield 12, 3) := dk_180 0 12 (dk_at dksX6_asks_0 4 rfl rfl)
theorem dX6_asks_7 : decode cX6_asks 7 = .ok (.invokevirtual 22, 3) := dk_182 0 22 (dk_at dksX6_asks_0 7 rfl rfl)
theorem dX6_asks_10 : decode cX6_asks 10 = .ok (.if_icmp .ge 42, 3) := dk_162 0 42 (dk_at dksX6_asks_0 10 rfl rfl)
theorem dX6_asks_13 : decode cX6_asks 13 = .ok (.aload_n 0, 1) := dk_42 (dk_at dksX6_asks_0 13 rfl rfl)
theorem dX6_asks_14 : decode cX6_asks 14 = .ok (.getfield 12, 3) := dk_180 0 12 (dk_at dksX6_asks_0 14 rfl rfl)
theorem dX6_asks_17 : decode cX6_asks 17 = .ok (.iload_n 3, 1) := dk_29 (dk_at dksX6_asks_0 17 rfl rfl)
theorem dX6_asks_18 : decode cX6_asks 18 = .ok (.invokevirtual 26, 3) := dk_182 0 26 (dk_at dksX6_asks_0 18 rfl rfl)
theorem dX6_asks_21 : decode cX6_asks 21 = .ok (.checkcast 30, 3) := dk_192 0 30 (dk_at dksX6_asks_0 21 rfl rfl)
theorem dX6_asks_24 : decode cX6_asks 24 = .ok (.astore 4, 2) := dk_58 4 (dk_at dksX6_asks_1 0 rfl rfl)
theorem dX6_asks_26 : decode cX6_asks 26 = .ok (.aload 4, 2) := dk_25 4 (dk_at dksX6_asks_1 2 rfl rfl)
theorem dX6_asks_28 : decode cX6_asks 28 = .ok (.aload_n 2, 1) := dk_44 (dk_at dksX6_asks_1 4 rfl rfl)
theorem dX6_asks_29 : decode cX6_asks 29 = .ok (.invokevirtual 32, 3) := dk_182 0 32 (dk_at dksX6_asks_1 5 rfl rfl)
theorem dX6_asks_32 : decode cX6_asks 32 = .ok (.ifCond .eq 14, 3) := dk_153 0 14 (dk_at dksX6_asks_1 8 rfl rfl)
theorem dX6_asks_35 : decode cX6_asks 35 = .ok (.aload 4, 2) := dk_25 4 (dk_at dksX6_asks_1 11 rfl rfl)
theorem dX6_asks_37 : decode cX6_asks 37 = .ok (.aload_n 1, 1) := dk_43 (dk_at dksX6_asks_1 13 rfl rfl)
theorem dX6_asks_38 : decode cX6_asks 38 = .ok (.aload_n 2, 1) := dk_44 (dk_at dksX6_asks_1 14 rfl rfl)
theorem dX6_asks_39 : decode cX6_asks 39 = .ok (.invokevirtual 36, 3) := dk_182 0 36 (dk_at dksX6_asks_1 15 rfl rfl)
theorem dX6_asks_42 : decode cX6_asks 42 = .ok (.ifCond .eq 4, 3) := dk_153 0 4 (dk_at dksX6_asks_1 18 rfl rfl)
theorem dX6_asks_45 : decode cX6_asks 45 = .ok (.return_, 1) := dk_177 (dk_at dksX6_asks_1 21 rfl rfl)
theorem dX6_asks_46 : decode cX6_asks 46 = .ok (.iinc 3 1, 3) := dk_132 3 1 (dk_at dksX6_asks_2 0 rfl rfl)
theorem dX6_asks_49 : decode cX6_asks 49 = .ok (.goto (-47), 3) := dk_167 255 209 (dk_at dksX6_asks_2 3 rfl rfl)
theorem dX6_asks_52 : decode cX6_asks 52 = .ok (.return_, 1) := dk_177 (dk_at dksX6_asks_2 6 rfl rfl)
theorem q90 : (Jvm.Cond.initialized "TurnpikeTrust$Act") ∈ lw_all := lw_g (lw_at lw_m1 28 rfl) rfl
theorem q757 : (Jvm.Cond.instantiable "TurnpikeTrust$Act" (2 : Nat)) ∈ lw_all := lw_g (lw_at lw_m3 215 rfl) rfl
theorem q759 : (Jvm.Cond.instanceMethod ({ cls := "TurnpikeTrust$Act", name := "<init>", desc := "(I)V" } : Jvm.MethodName)) ∈ lw_all := lw_g (lw_at lw_m3 217 rfl) rfl
theorem q760 : (Jvm.Cond.code ({ cls := "TurnpikeTrust$Act", name := "<init>", desc := "(I)V" } : Jvm.MethodName) prog_2_method_1_code (2 : Nat) (Option.none : Option Jvm.ClassFile.FieldType)) ∈ lw_all := lw_g (lw_at lw_m3 218 rfl) rfl
theorem q761 : (Jvm.Cond.methodLink "TurnpikeTrust$Act" (1 : Nat) ({ cls := "java/lang/Object", name := "<init>", desc := "()V" } : Jvm.MethodName)) ∈ lw_all := lw_g (lw_at lw_m3 219 rfl) rfl
theorem q762 : (Jvm.Cond.classLink "TurnpikeTrust$Act" (7 : Nat) "java/util/ArrayList") ∈ lw_all := lw_g (lw_at lw_m3 220 rfl) rfl
theorem q763 : (Jvm.Cond.methodLink "TurnpikeTrust$Act" (9 : Nat) ({ cls := "java/util/ArrayList", name := "<init>", desc := "(I)V" } : Jvm.MethodName)) ∈ lw_all := lw_g (lw_at lw_m3 221 rfl) rfl
theorem q764 : (Jvm.Cond.fieldLink "TurnpikeTrust$Act" (18 : Nat) "TurnpikeTrust$Act" "from" "I") ∈ lw_all := lw_g (lw_at lw_m3 222 rfl) rfl
theorem q766 : (Jvm.Cond.fieldLink "TurnpikeTrust$Act" (12 : Nat) "TurnpikeTrust$Act" "clauses" "Ljava/util/ArrayList;") ∈ lw_all := lw_g (lw_at lw_m3 224 rfl) rfl
theorem q768 : (Jvm.Cond.laysFinal "TurnpikeTrust$Act" "TurnpikeTrust$Act" "from" "I") ∈ lw_all := lw_g (lw_at lw_m3 226 rfl) rfl
theorem q769 : (Jvm.Cond.soleField "TurnpikeTrust$Act" "from") ∈ lw_all := lw_g (lw_at lw_m3 227 rfl) rfl
theorem q770 : (Jvm.Cond.laysFinal "TurnpikeTrust$Act" "TurnpikeTrust$Act" "clauses" "Ljava/util/ArrayList;") ∈ lw_all := lw_g (lw_at lw_m3 228 rfl) rfl
theorem q771 : (Jvm.Cond.soleField "TurnpikeTrust$Act" "clauses") ∈ lw_all := lw_g (lw_at lw_m3 229 rfl) rfl
theorem q772 : (Jvm.Cond.superclass "TurnpikeTrust$Act" "java/lang/Object") ∈ lw_all := lw_g (lw_at lw_m3 230 rfl) rfl
theorem q1149 : (Jvm.Cond.selects "TurnpikeTrust$Act" ({ cls := "java/lang/Object", name := "getClass", desc := "()Ljava/lang/Class;" } : Jvm.MethodName) ({ cls := "java/lang/Object", name := "getClass", desc := "()Ljava/lang/Class;" } : Jvm.MethodName)) ∈ lw_all := lw_g (lw_at lw_m5 127 rfl) rfl
theorem q1408 : (Jvm.Cond.instanceMethod ({ cls := "TurnpikeTrust$Act", name := "asks", desc := "(LTurnpikeTrust$Reckoning;LTurnpikeTrust$Pass;)V" } : Jvm.MethodName)) ∈ lw_all := lw_g (lw_at lw_m6 146 rfl) rfl
theorem q1409 : (Jvm.Cond.selects "TurnpikeTrust$Act" ({ cls := "TurnpikeTrust$Act", name := "asks", desc := "(LTurnpikeTrust$Reckoning;LTurnpikeTrust$Pass;)V" } : Jvm.MethodName) ({ cls := "TurnpikeTrust$Act", name := "asks", desc := "(LTurnpikeTrust$Reckoning;LTurnpikeTrust$Pass;)V" } : Jvm.MethodName)) ∈ lw_all := lw_g (lw_at lw_m6 147 rfl) rfl
theorem q1410 : (Jvm.Cond.code ({ cls := "TurnpikeTrust$Act", name := "asks", desc := "(LTurnpikeTrust$Reckoning;LTurnpikeTrust$Pass;)V" } : Jvm.MethodName) prog_2_method_2_code (5 : Nat) (Option.none : Option Jvm.ClassFile.FieldType)) ∈ lw_all := lw_g (lw_at lw_m6 148 rfl) rfl
theorem q1411 : (Jvm.Cond.methodLink "TurnpikeTrust$Act" (22 : Nat) ({ cls := "java/util/ArrayList", name := "size", desc := "()I" } : Jvm.MethodName)) ∈ lw_all := lw_g (lw_at lw_m6 149 rfl) rfl
theorem q1412 : (Jvm.Cond.methodLink "TurnpikeTrust$Act" (26 : Nat) ({ cls := "java/util/ArrayList", name := "get", desc := "(I)Ljava/lang/Object;" } : Jvm.MethodName)) ∈ lw_all := lw_g (lw_at lw_m6 150 rfl) rfl
theorem q1413 : (Jvm.Cond.classLink "TurnpikeTrust$Act" (30 : Nat) "TurnpikeTrust$Clause") ∈ lw_all := lw_g (lw_at lw_m6 151 rfl) rfl
theorem q1414 : (Jvm.Cond.methodLink "TurnpikeTrust$Act" (32 : Nat) ({ cls := "TurnpikeTrust$Clause", name := "holds", desc := "(LTurnpikeTrust$Pass;)Z" } : Jvm.MethodName)) ∈ lw_all := lw_g (lw_at lw_m6 152 rfl) rfl
theorem q1492 : (Jvm.Cond.methodLink "TurnpikeTrust$Act" (36 : Nat) ({ cls := "TurnpikeTrust$Clause", name := "does", desc := "(LTurnpikeTrust$Reckoning;LTurnpikeTrust$Pass;)Z" } : Jvm.MethodName)) ∈ lw_all := lw_g (lw_at lw_m6 230 rfl) rfl
theorem q2264 : (Jvm.Cond.castable "TurnpikeTrust$Act" "java/lang/Object") ∈ lw_tbl := lw_at lw_m10 42 rfl
theorem in_X6 : ∀ w ∈ wsX60, w ∈ lw_all := lw_in wsX60 [768, 770] (by decide +kernel) (by decide +kernel)
/-! TurnpikeTrust$Wrong -/
set_option maxRecDepth 100000
def RX7 : String := "TurnpikeTrust$Wrong"
def TX7 : u_T := fun k => match k with
  | 0 => ("java/lang/Throwable", "cause", "Ljava/lang/Throwable;", false)
  | 1 => ("java/lang/Throwable", "stackTrace", "[Ljava/lang/StackTraceElement;", false)
  | 2 => ("java/lang/Throwable", "suppressedExceptions", "Ljava/util/List;", false)
  | 3 => ("java/lang/Throwable", "detailMessage", "Ljava/lang/String;", false)
  | 4 => ("java/lang/Throwable", "backtrace", "Ljava/lang/Object;", false)
  | 5 => ("java/lang/Throwable", "depth", "I", false)
  | 6 => ("TurnpikeTrust$Wrong", "kind", "I", true)
  | _ => ("TurnpikeTrust$Wrong", "place", "I", true)
def tyX7 : Nat → FieldType := fun k => match k with
  | 0 => .object "java/lang/Throwable"
  | 1 => .array (.object "java/lang/StackTraceElement")
  | 2 => .object "java/util/List"
  | 3 => .object "java/lang/String"
  | 4 => .object "java/lang/Object"
  | 5 => .int
  | 6 => .int
  | _ => .int
abbrev wsX70 : List Cond := u_ws RX7 TX7 8
theorem nmX7 : ∀ a, a < 8 → ∀ b, b < 8 → a ≠ b → (TX7 a).2.1 ≠ (TX7 b).2.1 := by decide +kernel
theorem tyX7_ok : ∀ k, k < 8 → parseFieldDescriptor (TX7 k).2.2.1 = some (tyX7 k) := by decide +kernel
abbrev cX7_init : ByteArray := prog_31_method_1_code
def yX7_init : MethodName := ⟨RX7, "<init>", "(II)V"⟩
def dkwX7_init_0 : List UInt8 := [42, 183, 0, 1, 42, 27, 181, 0, 7, 42, 28, 181, 0, 13, 177]
abbrev dktX7_init_0 : List UInt8 := dkwX7_init_0 ++ []
theorem dksX7_init_0 : cX7_init.data.toList.drop 0 = dktX7_init_0 := by decide +kernel
theorem dX7_init_0 : decode cX7_init 0 = .ok (.aload_n 0, 1) := dk_42 (dk_at dksX7_init_0 0 rfl rfl)
theorem dX7_init_1 : decode cX7_init 1 = .ok (.invokespecial 1, 3) := dk_183 0 1 (dk_at dksX7_init_0 1 rfl rfl)
theorem dX7_init_4 : decode cX7_init 4 = .ok (.aload_n 0, 1) := dk_42 (dk_at dksX7_init_0 4 rfl rfl)
theorem dX7_init_5 : decode cX7_init 5 = .ok (.iload_n 1, 1) := dk_27 (dk_at dksX7_init_0 5 rfl rfl)
theorem dX7_init_6 : decode cX7_init 6 = .ok (.putfield 7, 3) := dk_181 0 7 (dk_at dksX7_init_0 6 rfl rfl)
theorem dX7_init_9 : decode cX7_init 9 = .ok (.aload_n 0, 1) := dk_42 (dk_at dksX7_init_0 9 rfl rfl)
theorem dX7_init_10 : decode cX7_init 10 = .ok (.iload_n 2, 1) := dk_28 (dk_at dksX7_init_0 10 rfl rfl)
theorem dX7_init_11 : decode cX7_init 11 = .ok (.putfield 13, 3) := dk_181 0 13 (dk_at dksX7_init_0 11 rfl rfl)
theorem dX7_init_14 : decode cX7_init 14 = .ok (.return_, 1) := dk_177 (dk_at dksX7_init_0 14 rfl rfl)
theorem q91 : (Jvm.Cond.initialized "TurnpikeTrust$Wrong") ∈ lw_all := lw_g (lw_at lw_m1 29 rfl) rfl
theorem q175 : (Jvm.Cond.selects "TurnpikeTrust$Wrong" ({ cls := "java/lang/Throwable", name := "fillInStackTrace", desc := "()Ljava/lang/Throwable;" } : Jvm.MethodName) ({ cls := "java/lang/Throwable", name := "fillInStackTrace", desc := "()Ljava/lang/Throwable;" } : Jvm.MethodName)) ∈ lw_all := lw_g (lw_at lw_m1 113 rfl) rfl
theorem q799 : (Jvm.Cond.instantiable "TurnpikeTrust$Wrong" (8 : Nat)) ∈ lw_all := lw_g (lw_at lw_m4 17 rfl) rfl
theorem q800 : (Jvm.Cond.castable "TurnpikeTrust$Wrong" "TurnpikeTrust$Wrong") ∈ lw_tbl := lw_at lw_m4 18 rfl
theorem q801 : (Jvm.Cond.selects "TurnpikeTrust$Wrong" ({ cls := "java/lang/Throwable", name := "fillInStackTrace", desc := "(I)Ljava/lang/Throwable;" } : Jvm.MethodName) ({ cls := "java/lang/Throwable", name := "fillInStackTrace", desc := "(I)Ljava/lang/Throwable;" } : Jvm.MethodName)) ∈ lw_all := lw_g (lw_at lw_m4 19 rfl) rfl
theorem q802 : (Jvm.Cond.lays "TurnpikeTrust$Wrong" "java/lang/Throwable" "cause" "Ljava/lang/Throwable;") ∈ lw_all := lw_g (lw_at lw_m4 20 rfl) rfl
theorem q803 : (Jvm.Cond.lays "TurnpikeTrust$Wrong" "java/lang/Throwable" "stackTrace" "[Ljava/lang/StackTraceElement;") ∈ lw_all := lw_g (lw_at lw_m4 21 rfl) rfl
theorem q804 : (Jvm.Cond.lays "TurnpikeTrust$Wrong" "java/lang/Throwable" "suppressedExceptions" "Ljava/util/List;") ∈ lw_all := lw_g (lw_at lw_m4 22 rfl) rfl
theorem q805 : (Jvm.Cond.lays "TurnpikeTrust$Wrong" "java/lang/Throwable" "detailMessage" "Ljava/lang/String;") ∈ lw_all := lw_g (lw_at lw_m4 23 rfl) rfl
theorem q806 : (Jvm.Cond.lays "TurnpikeTrust$Wrong" "java/lang/Throwable" "backtrace" "Ljava/lang/Object;") ∈ lw_all := lw_g (lw_at lw_m4 24 rfl) rfl
theorem q808 : (Jvm.Cond.instanceMethod ({ cls := "TurnpikeTrust$Wrong", name := "<init>", desc := "(II)V" } : Jvm.MethodName)) ∈ lw_all := lw_g (lw_at lw_m4 26 rfl) rfl
theorem q809 : (Jvm.Cond.code ({ cls := "TurnpikeTrust$Wrong", name := "<init>", desc := "(II)V" } : Jvm.MethodName) prog_31_method_1_code (3 : Nat) (Option.none : Option Jvm.ClassFile.FieldType)) ∈ lw_all := lw_g (lw_at lw_m4 27 rfl) rfl
theorem q810 : (Jvm.Cond.methodLink "TurnpikeTrust$Wrong" (1 : Nat) ({ cls := "java/lang/Exception", name := "<init>", desc := "()V" } : Jvm.MethodName)) ∈ lw_all := lw_g (lw_at lw_m4 28 rfl) rfl
theorem q811 : (Jvm.Cond.fieldLink "TurnpikeTrust$Wrong" (7 : Nat) "TurnpikeTrust$Wrong" "kind" "I") ∈ lw_all := lw_g (lw_at lw_m4 29 rfl) rfl
theorem q813 : (Jvm.Cond.fieldLink "TurnpikeTrust$Wrong" (13 : Nat) "TurnpikeTrust$Wrong" "place" "I") ∈ lw_all := lw_g (lw_at lw_m4 31 rfl) rfl
theorem q815 : (Jvm.Cond.laysFinal "TurnpikeTrust$Wrong" "TurnpikeTrust$Wrong" "kind" "I") ∈ lw_all := lw_g (lw_at lw_m4 33 rfl) rfl
theorem q816 : (Jvm.Cond.soleField "TurnpikeTrust$Wrong" "kind") ∈ lw_all := lw_g (lw_at lw_m4 34 rfl) rfl
theorem q817 : (Jvm.Cond.laysFinal "TurnpikeTrust$Wrong" "TurnpikeTrust$Wrong" "place" "I") ∈ lw_all := lw_g (lw_at lw_m4 35 rfl) rfl
theorem q818 : (Jvm.Cond.soleField "TurnpikeTrust$Wrong" "place") ∈ lw_all := lw_g (lw_at lw_m4 36 rfl) rfl
theorem q819 : (Jvm.Cond.lays "TurnpikeTrust$Wrong" "java/lang/Throwable" "depth" "I") ∈ lw_all := lw_g (lw_at lw_m4 37 rfl) rfl
theorem q820 : (Jvm.Cond.superclass "TurnpikeTrust$Wrong" "java/lang/Exception") ∈ lw_all := lw_g (lw_at lw_m4 38 rfl) rfl
theorem q1175 : (Jvm.Cond.selects "TurnpikeTrust$Wrong" ({ cls := "java/lang/Object", name := "getClass", desc := "()Ljava/lang/Class;" } : Jvm.MethodName) ({ cls := "java/lang/Object", name := "getClass", desc := "()Ljava/lang/Class;" } : Jvm.MethodName)) ∈ lw_all := lw_g (lw_at lw_m5 153 rfl) rfl
theorem q2265 : (Jvm.Cond.castable "TurnpikeTrust$Wrong" "java/lang/Object") ∈ lw_tbl := lw_at lw_m10 43 rfl
theorem in_X7 : ∀ w ∈ wsX70, w ∈ lw_all := lw_in wsX70 [802, 803, 804, 805, 806, 819, 815, 817] (by decide +kernel) (by decide +kernel)
/-! TurnpikeTrust$Clause -/
set_option maxRecDepth 100000
def RX8 : String := "TurnpikeTrust$Clause"
abbrev cX8_init : ByteArray := prog_8_method_1_code
def yX8_init : MethodName := ⟨RX8, "<init>", "(I)V"⟩
def dkwX8_init_0 : List UInt8 := [42, 183, 0, 1, 42, 27, 181, 0, 7, 177]
abbrev dktX8_init_0 : List UInt8 := dkwX8_init_0 ++ []
theorem dksX8_init_0 : cX8_init.data.toList.drop 0 = dktX8_init_0 := by decide +kernel
theorem dX8_init_0 : decode cX8_init 0 = .ok (.aload_n 0, 1) := dk_42 (dk_at dksX8_init_0 0 rfl rfl)
theorem dX8_init_1 : decode cX8_init 1 = .ok (.invokespecial 1, 3) := dk_183 0 1 (dk_at dksX8_init_0 1 rfl rfl)
theorem dX8_init_4 : decode cX8_init 4 = .ok (.aload_n 0, 1) := dk_42 (dk_at dksX8_init_0 4 rfl rfl)
theorem dX8_init_5 : decode cX8_init 5 = .ok (.iload_n 1, 1) := dk_27 (dk_at dksX8_init_0 5 rfl rfl)
theorem dX8_init_6 : decode cX8_init 6 = .ok (.putfield 7, 3) := dk_181 0 7 (dk_at dksX8_init_0 6 rfl rfl)
theorem dX8_init_9 : decode cX8_init 9 = .ok (.return_, 1) := dk_177 (dk_at dksX8_init_0 9 rfl rfl)
abbrev cX8_holds : ByteArray := prog_8_method_2_code
def yX8_holds : MethodName := ⟨RX8, "holds", "(LTurnpikeTrust$Pass;)Z"⟩
def dkwX8_holds_1 : List UInt8 := [3, 172]
abbrev dktX8_holds_1 : List UInt8 := dkwX8_holds_1 ++ []
def dkwX8_holds_0 : List UInt8 := [42, 180, 0, 13, 198, 0, 16, 42, 180, 0, 13, 43, 185, 0, 17, 2, 0, 153, 0, 7, 4, 167, 0, 4]
abbrev dktX8_holds_0 : List UInt8 := dkwX8_holds_0 ++ dktX8_holds_1
theorem dksX8_holds_0 : cX8_holds.data.toList.drop 0 = dktX8_holds_0 := by decide +kernel
theorem dksX8_holds_1 : cX8_holds.data.toList.drop 24 = dktX8_holds_1 := dk_seg dksX8_holds_0 24 rfl rfl
theorem dX8_holds_0 : decode cX8_holds 0 = .ok (.aload_n 0, 1) := dk_42 (dk_at dksX8_holds_0 0 rfl rfl)
theorem dX8_holds_1 : decode cX8_holds 1 = .ok (.getfield 13, 3) := dk_180 0 13 (dk_at dksX8_holds_0 1 rfl rfl)
theorem dX8_holds_4 : decode cX8_holds 4 = .ok (.ifnull 16, 3) := dk_198 0 16 (dk_at dksX8_holds_0 4 rfl rfl)
theorem dX8_holds_7 : decode cX8_holds 7 = .ok (.aload_n 0, 1) := dk_42 (dk_at dksX8_holds_0 7 rfl rfl)
theorem dX8_holds_8 : decode cX8_holds 8 = .ok (.getfield 13, 3) := dk_180 0 13 (dk_at dksX8_holds_0 8 rfl rfl)
theorem dX8_holds_11 : decode cX8_holds 11 = .ok (.aload_n 1, 1) := dk_43 (dk_at dksX8_holds_0 11 rfl rfl)
theorem dX8_holds_12 : decode cX8_holds 12 = .ok (.invokeinterface 17 2, 5) := by decide +kernel
theorem dX8_holds_17 : decode cX8_holds 17 = .ok (.ifCond .eq 7, 3) := dk_153 0 7 (dk_at dksX8_holds_0 17 rfl rfl)
theorem dX8_holds_20 : decode cX8_holds 20 = .ok (.iconst 1, 1) := dk_4 (dk_at dksX8_holds_0 20 rfl rfl)
theorem dX8_holds_21 : decode cX8_holds 21 = .ok (.goto 4, 3) := dk_167 0 4 (dk_at dksX8_holds_0 21 rfl rfl)
theorem dX8_holds_24 : decode cX8_holds 24 = .ok (.iconst 0, 1) := dk_3 (dk_at dksX8_holds_1 0 rfl rfl)
theorem dX8_holds_25 : decode cX8_holds 25 = .ok (.ireturn, 1) := dk_172 (dk_at dksX8_holds_1 1 rfl rfl)
theorem q92 : (Jvm.Cond.initialized "TurnpikeTrust$Clause") ∈ lw_all := lw_g (lw_at lw_m1 30 rfl) rfl
theorem q827 : (Jvm.Cond.instanceMethod ({ cls := "TurnpikeTrust$Clause", name := "<init>", desc := "(I)V" } : Jvm.MethodName)) ∈ lw_all := lw_g (lw_at lw_m4 45 rfl) rfl
theorem q828 : (Jvm.Cond.code ({ cls := "TurnpikeTrust$Clause", name := "<init>", desc := "(I)V" } : Jvm.MethodName) prog_8_method_1_code (2 : Nat) (Option.none : Option Jvm.ClassFile.FieldType)) ∈ lw_all := lw_g (lw_at lw_m4 46 rfl) rfl
theorem q829 : (Jvm.Cond.methodLink "TurnpikeTrust$Clause" (1 : Nat) ({ cls := "java/lang/Object", name := "<init>", desc := "()V" } : Jvm.MethodName)) ∈ lw_all := lw_g (lw_at lw_m4 47 rfl) rfl
theorem q830 : (Jvm.Cond.fieldLink "TurnpikeTrust$Clause" (7 : Nat) "TurnpikeTrust$Clause" "number" "I") ∈ lw_all := lw_g (lw_at lw_m4 48 rfl) rfl
theorem q837 : (Jvm.Cond.fieldLink "TurnpikeTrust$Clause" (13 : Nat) "TurnpikeTrust$Clause" "condition" "LTurnpikeTrust$Condition;") ∈ lw_all := lw_g (lw_at lw_m4 55 rfl) rfl
theorem q840 : (Jvm.Cond.soleField "TurnpikeTrust$Clause" "number") ∈ lw_all := lw_g (lw_at lw_m4 58 rfl) rfl
theorem q842 : (Jvm.Cond.soleField "TurnpikeTrust$Clause" "condition") ∈ lw_all := lw_g (lw_at lw_m4 60 rfl) rfl
theorem q1415 : (Jvm.Cond.instanceMethod ({ cls := "TurnpikeTrust$Clause", name := "holds", desc := "(LTurnpikeTrust$Pass;)Z" } : Jvm.MethodName)) ∈ lw_all := lw_g (lw_at lw_m6 153 rfl) rfl
theorem q1416 : (Jvm.Cond.sameMethod "TurnpikeTrust$Clause" "TurnpikeTrust$Clause" "holds" "(LTurnpikeTrust$Pass;)Z") ∈ lw_all := lw_g (lw_at lw_m6 154 rfl) rfl
theorem q1423 : (Jvm.Cond.code ({ cls := "TurnpikeTrust$Clause", name := "holds", desc := "(LTurnpikeTrust$Pass;)Z" } : Jvm.MethodName) prog_8_method_2_code (2 : Nat) (Option.some Jvm.ClassFile.FieldType.boolean)) ∈ lw_all := lw_g (lw_at lw_m6 161 rfl) rfl
theorem q1424 : (Jvm.Cond.interfaceEntry "TurnpikeTrust$Clause" (17 : Nat)) ∈ lw_tbl := lw_at lw_m6 162 rfl
theorem q1425 : (Jvm.Cond.methodLink "TurnpikeTrust$Clause" (17 : Nat) ({ cls := "TurnpikeTrust$Condition", name := "holds", desc := "(LTurnpikeTrust$Pass;)Z" } : Jvm.MethodName)) ∈ lw_all := lw_g (lw_at lw_m6 163 rfl) rfl
theorem q1493 : (Jvm.Cond.declares ({ cls := "TurnpikeTrust$Clause", name := "does", desc := "(LTurnpikeTrust$Reckoning;LTurnpikeTrust$Pass;)Z" } : Jvm.MethodName)) ∈ lw_tbl := lw_at lw_m6 231 rfl
theorem q1494 : (Jvm.Cond.sameMethod "TurnpikeTrust$Clause" "TurnpikeTrust$Clause" "does" "(LTurnpikeTrust$Reckoning;LTurnpikeTrust$Pass;)Z") ∈ lw_all := lw_g (lw_at lw_m6 232 rfl) rfl
/-! TurnpikeTrust$Free -/
set_option maxRecDepth 100000
def RX9 : String := "TurnpikeTrust$Free"
def TX9 : u_T := fun k => match k with
  | 0 => ("TurnpikeTrust$Clause", "number", "I", true)
  | _ => ("TurnpikeTrust$Clause", "condition", "LTurnpikeTrust$Condition;", false)
def tyX9 : Nat → FieldType := fun k => match k with
  | 0 => .int
  | _ => .object "TurnpikeTrust$Condition"
abbrev wsX90 : List Cond := u_ws RX9 TX9 2
theorem nmX9 : ∀ a, a < 2 → ∀ b, b < 2 → a ≠ b → (TX9 a).2.1 ≠ (TX9 b).2.1 := by decide +kernel
theorem tyX9_ok : ∀ k, k < 2 → parseFieldDescriptor (TX9 k).2.2.1 = some (tyX9 k) := by decide +kernel
abbrev cX9_init : ByteArray := prog_13_method_1_code
def yX9_init : MethodName := ⟨RX9, "<init>", "(I)V"⟩
def dkwX9_init_0 : List UInt8 := [42, 27, 183, 0, 1, 177]
abbrev dktX9_init_0 : List UInt8 := dkwX9_init_0 ++ []
theorem dksX9_init_0 : cX9_init.data.toList.drop 0 = dktX9_init_0 := by decide +kernel
theorem dX9_init_0 : decode cX9_init 0 = .ok (.aload_n 0, 1) := dk_42 (dk_at dksX9_init_0 0 rfl rfl)
theorem dX9_init_1 : decode cX9_init 1 = .ok (.iload_n 1, 1) := dk_27 (dk_at dksX9_init_0 1 rfl rfl)
theorem dX9_init_2 : decode cX9_init 2 = .ok (.invokespecial 1, 3) := dk_183 0 1 (dk_at dksX9_init_0 2 rfl rfl)
theorem dX9_init_5 : decode cX9_init 5 = .ok (.return_, 1) := dk_177 (dk_at dksX9_init_0 5 rfl rfl)
abbrev cX9_does : ByteArray := prog_13_method_2_code
def yX9_does : MethodName := ⟨RX9, "does", "(LTurnpikeTrust$Reckoning;LTurnpikeTrust$Pass;)Z"⟩
def dkwX9_does_0 : List UInt8 := [43, 42, 180, 0, 7, 181, 0, 13, 4, 172]
abbrev dktX9_does_0 : List UInt8 := dkwX9_does_0 ++ []
theorem dksX9_does_0 : cX9_does.data.toList.drop 0 = dktX9_does_0 := by decide +kernel
theorem dX9_does_0 : decode cX9_does 0 = .ok (.aload_n 1, 1) := dk_43 (dk_at dksX9_does_0 0 rfl rfl)
theorem dX9_does_1 : decode cX9_does 1 = .ok (.aload_n 0, 1) := dk_42 (dk_at dksX9_does_0 1 rfl rfl)
theorem dX9_does_2 : decode cX9_does 2 = .ok (.getfield 7, 3) := dk_180 0 7 (dk_at dksX9_does_0 2 rfl rfl)
theorem dX9_does_5 : decode cX9_does 5 = .ok (.putfield 13, 3) := dk_181 0 13 (dk_at dksX9_does_0 5 rfl rfl)
theorem dX9_does_8 : decode cX9_does 8 = .ok (.iconst 1, 1) := dk_4 (dk_at dksX9_does_0 8 rfl rfl)
theorem dX9_does_9 : decode cX9_does 9 = .ok (.ireturn, 1) := dk_172 (dk_at dksX9_does_0 9 rfl rfl)
theorem q93 : (Jvm.Cond.initialized "TurnpikeTrust$Free") ∈ lw_all := lw_g (lw_at lw_m1 31 rfl) rfl
theorem q513 : (Jvm.Cond.fieldLinkNest "TurnpikeTrust$Free" (13 : Nat) "TurnpikeTrust$Reckoning" "line" "I" "TurnpikeTrust") ∈ lw_tbl := lw_at lw_m2 211 rfl
theorem q822 : (Jvm.Cond.instantiable "TurnpikeTrust$Free" (2 : Nat)) ∈ lw_all := lw_g (lw_at lw_m4 40 rfl) rfl
theorem q824 : (Jvm.Cond.instanceMethod ({ cls := "TurnpikeTrust$Free", name := "<init>", desc := "(I)V" } : Jvm.MethodName)) ∈ lw_all := lw_g (lw_at lw_m4 42 rfl) rfl
theorem q825 : (Jvm.Cond.code ({ cls := "TurnpikeTrust$Free", name := "<init>", desc := "(I)V" } : Jvm.MethodName) prog_13_method_1_code (2 : Nat) (Option.none : Option Jvm.ClassFile.FieldType)) ∈ lw_all := lw_g (lw_at lw_m4 43 rfl) rfl
theorem q826 : (Jvm.Cond.methodLink "TurnpikeTrust$Free" (1 : Nat) ({ cls := "TurnpikeTrust$Clause", name := "<init>", desc := "(I)V" } : Jvm.MethodName)) ∈ lw_all := lw_g (lw_at lw_m4 44 rfl) rfl
theorem q831 : (Jvm.Cond.fieldLink "TurnpikeTrust$Free" (7 : Nat) "TurnpikeTrust$Free" "number" "I") ∈ lw_all := lw_g (lw_at lw_m4 49 rfl) rfl
theorem q832 : (Jvm.Cond.sameField "TurnpikeTrust$Free" "TurnpikeTrust$Clause" "number" "I") ∈ lw_all := lw_g (lw_at lw_m4 50 rfl) rfl
theorem q839 : (Jvm.Cond.laysFinal "TurnpikeTrust$Free" "TurnpikeTrust$Clause" "number" "I") ∈ lw_all := lw_g (lw_at lw_m4 57 rfl) rfl
theorem q841 : (Jvm.Cond.lays "TurnpikeTrust$Free" "TurnpikeTrust$Clause" "condition" "LTurnpikeTrust$Condition;") ∈ lw_all := lw_g (lw_at lw_m4 59 rfl) rfl
theorem q843 : (Jvm.Cond.superclass "TurnpikeTrust$Free" "TurnpikeTrust$Clause") ∈ lw_all := lw_g (lw_at lw_m4 61 rfl) rfl
theorem q1158 : (Jvm.Cond.selects "TurnpikeTrust$Free" ({ cls := "java/lang/Object", name := "getClass", desc := "()Ljava/lang/Class;" } : Jvm.MethodName) ({ cls := "java/lang/Object", name := "getClass", desc := "()Ljava/lang/Class;" } : Jvm.MethodName)) ∈ lw_all := lw_g (lw_at lw_m5 136 rfl) rfl
theorem q1418 : (Jvm.Cond.selects "TurnpikeTrust$Free" ({ cls := "TurnpikeTrust$Clause", name := "holds", desc := "(LTurnpikeTrust$Pass;)Z" } : Jvm.MethodName) ({ cls := "TurnpikeTrust$Clause", name := "holds", desc := "(LTurnpikeTrust$Pass;)Z" } : Jvm.MethodName)) ∈ lw_all := lw_g (lw_at lw_m6 156 rfl) rfl
theorem q1516 : (Jvm.Cond.selects "TurnpikeTrust$Free" ({ cls := "TurnpikeTrust$Clause", name := "does", desc := "(LTurnpikeTrust$Reckoning;LTurnpikeTrust$Pass;)Z" } : Jvm.MethodName) ({ cls := "TurnpikeTrust$Free", name := "does", desc := "(LTurnpikeTrust$Reckoning;LTurnpikeTrust$Pass;)Z" } : Jvm.MethodName)) ∈ lw_all := lw_g (lw_at lw_m7 14 rfl) rfl
theorem q1517 : (Jvm.Cond.instanceMethod ({ cls := "TurnpikeTrust$Free", name := "does", desc := "(LTurnpikeTrust$Reckoning;LTurnpikeTrust$Pass;)Z" } : Jvm.MethodName)) ∈ lw_all := lw_g (lw_at lw_m7 15 rfl) rfl
theorem q1518 : (Jvm.Cond.code ({ cls := "TurnpikeTrust$Free", name := "does", desc := "(LTurnpikeTrust$Reckoning;LTurnpikeTrust$Pass;)Z" } : Jvm.MethodName) prog_13_method_2_code (3 : Nat) (Option.some Jvm.ClassFile.FieldType.boolean)) ∈ lw_all := lw_g (lw_at lw_m7 16 rfl) rfl
theorem q2248 : (Jvm.Cond.castable "TurnpikeTrust$Free" "TurnpikeTrust$Clause") ∈ lw_tbl := lw_at lw_m10 26 rfl
theorem q2266 : (Jvm.Cond.castable "TurnpikeTrust$Free" "java/lang/Object") ∈ lw_tbl := lw_at lw_m10 44 rfl
theorem in_X9 : ∀ w ∈ wsX90, w ∈ lw_all := lw_in wsX90 [839, 841] (by decide +kernel) (by decide +kernel)
/-! TurnpikeTrust$Toll -/
set_option maxRecDepth 100000
def RX10 : String := "TurnpikeTrust$Toll"
def TX10 : u_T := fun k => match k with
  | 0 => ("TurnpikeTrust$Clause", "number", "I", true)
  | 1 => ("TurnpikeTrust$Clause", "condition", "LTurnpikeTrust$Condition;", false)
  | _ => ("TurnpikeTrust$Toll", "sum", "J", true)
def tyX10 : Nat → FieldType := fun k => match k with
  | 0 => .int
  | 1 => .object "TurnpikeTrust$Condition"
  | _ => .long
abbrev wsX100 : List Cond := u_ws RX10 TX10 3
theorem nmX10 : ∀ a, a < 3 → ∀ b, b < 3 → a ≠ b → (TX10 a).2.1 ≠ (TX10 b).2.1 := by decide +kernel
theorem tyX10_ok : ∀ k, k < 3 → parseFieldDescriptor (TX10 k).2.2.1 = some (tyX10 k) := by decide +kernel
abbrev cX10_init : ByteArray := prog_27_method_1_code
def yX10_init : MethodName := ⟨RX10, "<init>", "(IJ)V"⟩
def dkwX10_init_0 : List UInt8 := [42, 27, 183, 0, 1, 42, 32, 181, 0, 7, 177]
abbrev dktX10_init_0 : List UInt8 := dkwX10_init_0 ++ []
theorem dksX10_init_0 : cX10_init.data.toList.drop 0 = dktX10_init_0 := by decide +kernel
theorem dX10_init_0 : decode cX10_init 0 = .ok (.aload_n 0, 1) := dk_42 (dk_at dksX10_init_0 0 rfl rfl)
theorem dX10_init_1 : decode cX10_init 1 = .ok (.iload_n 1, 1) := dk_27 (dk_at dksX10_init_0 1 rfl rfl)
theorem dX10_init_2 : decode cX10_init 2 = .ok (.invokespecial 1, 3) := dk_183 0 1 (dk_at dksX10_init_0 2 rfl rfl)
theorem dX10_init_5 : decode cX10_init 5 = .ok (.aload_n 0, 1) := dk_42 (dk_at dksX10_init_0 5 rfl rfl)
theorem dX10_init_6 : decode cX10_init 6 = .ok (.lload_n 2, 1) := dk_32 (dk_at dksX10_init_0 6 rfl rfl)
theorem dX10_init_7 : decode cX10_init 7 = .ok (.putfield 7, 3) := dk_181 0 7 (dk_at dksX10_init_0 7 rfl rfl)
theorem dX10_init_10 : decode cX10_init 10 = .ok (.return_, 1) := dk_177 (dk_at dksX10_init_0 10 rfl rfl)
abbrev cX10_does : ByteArray := prog_27_method_3_code
def yX10_does : MethodName := ⟨RX10, "does", "(LTurnpikeTrust$Reckoning;LTurnpikeTrust$Pass;)Z"⟩
def dkwX10_does_0 : List UInt8 := [43, 42, 44, 182, 0, 13, 42, 180, 0, 17, 182, 0, 21, 4, 172]
abbrev dktX10_does_0 : List UInt8 := dkwX10_does_0 ++ []
theorem dksX10_does_0 : cX10_does.data.toList.drop 0 = dktX10_does_0 := by decide +kernel
theorem dX10_does_0 : decode cX10_does 0 = .ok (.aload_n 1, 1) := dk_43 (dk_at dksX10_does_0 0 rfl rfl)
theorem dX10_does_1 : decode cX10_does 1 = .ok (.aload_n 0, 1) := dk_42 (dk_at dksX10_does_0 1 rfl rfl)
theorem dX10_does_2 : decode cX10_does 2 = .ok (.aload_n 2, 1) := dk_44 (dk_at dksX10_does_0 2 rfl rfl)
theorem dX10_does_3 : decode cX10_does 3 = .ok (.invokevirtual 13, 3) := dk_182 0 13 (dk_at dksX10_does_0 3 rfl rfl)
theorem dX10_does_6 : decode cX10_does 6 = .ok (.aload_n 0, 1) := dk_42 (dk_at dksX10_does_0 6 rfl rfl)
theorem dX10_does_7 : decode cX10_does 7 = .ok (.getfield 17, 3) := dk_180 0 17 (dk_at dksX10_does_0 7 rfl rfl)
theorem dX10_does_10 : decode cX10_does 10 = .ok (.invokevirtual 21, 3) := dk_182 0 21 (dk_at dksX10_does_0 10 rfl rfl)
theorem dX10_does_13 : decode cX10_does 13 = .ok (.iconst 1, 1) := dk_4 (dk_at dksX10_does_0 13 rfl rfl)
theorem dX10_does_14 : decode cX10_does 14 = .ok (.ireturn, 1) := dk_172 (dk_at dksX10_does_0 14 rfl rfl)
abbrev cX10_base : ByteArray := prog_27_method_2_code
def yX10_base : MethodName := ⟨RX10, "base", "(LTurnpikeTrust$Pass;)J"⟩
theorem dX10_base_0 : decode cX10_base 0 = .ok (.aload_n 0, 1) := by decide +kernel
theorem dX10_base_1 : decode cX10_base 1 = .ok (.getfield 7, 3) := by decide +kernel
theorem dX10_base_4 : decode cX10_base 4 = .ok (.lreturn, 1) := by decide +kernel
theorem q94 : (Jvm.Cond.initialized "TurnpikeTrust$Toll") ∈ lw_all := lw_g (lw_at lw_m1 32 rfl) rfl
theorem q835 : (Jvm.Cond.fieldLink "TurnpikeTrust$Toll" (17 : Nat) "TurnpikeTrust$Toll" "number" "I") ∈ lw_all := lw_g (lw_at lw_m4 53 rfl) rfl
theorem q836 : (Jvm.Cond.sameField "TurnpikeTrust$Toll" "TurnpikeTrust$Clause" "number" "I") ∈ lw_all := lw_g (lw_at lw_m4 54 rfl) rfl
theorem q864 : (Jvm.Cond.instanceMethod ({ cls := "TurnpikeTrust$Toll", name := "<init>", desc := "(IJ)V" } : Jvm.MethodName)) ∈ lw_all := lw_g (lw_at lw_m4 82 rfl) rfl
theorem q865 : (Jvm.Cond.code ({ cls := "TurnpikeTrust$Toll", name := "<init>", desc := "(IJ)V" } : Jvm.MethodName) prog_27_method_1_code (4 : Nat) (Option.none : Option Jvm.ClassFile.FieldType)) ∈ lw_all := lw_g (lw_at lw_m4 83 rfl) rfl
theorem q866 : (Jvm.Cond.methodLink "TurnpikeTrust$Toll" (1 : Nat) ({ cls := "TurnpikeTrust$Clause", name := "<init>", desc := "(I)V" } : Jvm.MethodName)) ∈ lw_all := lw_g (lw_at lw_m4 84 rfl) rfl
theorem q867 : (Jvm.Cond.fieldLink "TurnpikeTrust$Toll" (7 : Nat) "TurnpikeTrust$Toll" "sum" "J") ∈ lw_all := lw_g (lw_at lw_m4 85 rfl) rfl
theorem q873 : (Jvm.Cond.soleField "TurnpikeTrust$Toll" "sum") ∈ lw_all := lw_g (lw_at lw_m4 91 rfl) rfl
theorem q889 : (Jvm.Cond.instantiable "TurnpikeTrust$Toll" (3 : Nat)) ∈ lw_all := lw_g (lw_at lw_m4 107 rfl) rfl
theorem q891 : (Jvm.Cond.laysFinal "TurnpikeTrust$Toll" "TurnpikeTrust$Toll" "sum" "J") ∈ lw_all := lw_g (lw_at lw_m4 109 rfl) rfl
theorem q892 : (Jvm.Cond.laysFinal "TurnpikeTrust$Toll" "TurnpikeTrust$Clause" "number" "I") ∈ lw_all := lw_g (lw_at lw_m4 110 rfl) rfl
theorem q893 : (Jvm.Cond.lays "TurnpikeTrust$Toll" "TurnpikeTrust$Clause" "condition" "LTurnpikeTrust$Condition;") ∈ lw_all := lw_g (lw_at lw_m4 111 rfl) rfl
theorem q894 : (Jvm.Cond.superclass "TurnpikeTrust$Toll" "TurnpikeTrust$Clause") ∈ lw_all := lw_g (lw_at lw_m4 112 rfl) rfl
theorem q1172 : (Jvm.Cond.selects "TurnpikeTrust$Toll" ({ cls := "java/lang/Object", name := "getClass", desc := "()Ljava/lang/Class;" } : Jvm.MethodName) ({ cls := "java/lang/Object", name := "getClass", desc := "()Ljava/lang/Class;" } : Jvm.MethodName)) ∈ lw_all := lw_g (lw_at lw_m5 150 rfl) rfl
theorem q1422 : (Jvm.Cond.selects "TurnpikeTrust$Toll" ({ cls := "TurnpikeTrust$Clause", name := "holds", desc := "(LTurnpikeTrust$Pass;)Z" } : Jvm.MethodName) ({ cls := "TurnpikeTrust$Clause", name := "holds", desc := "(LTurnpikeTrust$Pass;)Z" } : Jvm.MethodName)) ∈ lw_all := lw_g (lw_at lw_m6 160 rfl) rfl
theorem q1496 : (Jvm.Cond.instanceMethod ({ cls := "TurnpikeTrust$Toll", name := "does", desc := "(LTurnpikeTrust$Reckoning;LTurnpikeTrust$Pass;)Z" } : Jvm.MethodName)) ∈ lw_all := lw_g (lw_at lw_m6 234 rfl) rfl
theorem q1497 : (Jvm.Cond.code ({ cls := "TurnpikeTrust$Toll", name := "does", desc := "(LTurnpikeTrust$Reckoning;LTurnpikeTrust$Pass;)Z" } : Jvm.MethodName) prog_27_method_3_code (3 : Nat) (Option.some Jvm.ClassFile.FieldType.boolean)) ∈ lw_all := lw_g (lw_at lw_m6 235 rfl) rfl
theorem q1498 : (Jvm.Cond.methodLink "TurnpikeTrust$Toll" (13 : Nat) ({ cls := "TurnpikeTrust$Toll", name := "base", desc := "(LTurnpikeTrust$Pass;)J" } : Jvm.MethodName)) ∈ lw_all := lw_g (lw_at lw_m6 236 rfl) rfl
theorem q1499 : (Jvm.Cond.instanceMethod ({ cls := "TurnpikeTrust$Toll", name := "base", desc := "(LTurnpikeTrust$Pass;)J" } : Jvm.MethodName)) ∈ lw_all := lw_g (lw_at lw_m6 237 rfl) rfl
theorem q1500 : (Jvm.Cond.selects "TurnpikeTrust$Toll" ({ cls := "TurnpikeTrust$Toll", name := "base", desc := "(LTurnpikeTrust$Pass;)J" } : Jvm.MethodName) ({ cls := "TurnpikeTrust$Toll", name := "base", desc := "(LTurnpikeTrust$Pass;)J" } : Jvm.MethodName)) ∈ lw_all := lw_g (lw_at lw_m6 238 rfl) rfl
theorem q1501 : (Jvm.Cond.sameMethod "TurnpikeTrust$Toll" "TurnpikeTrust$Toll" "base" "(LTurnpikeTrust$Pass;)J") ∈ lw_all := lw_g (lw_at lw_m6 239 rfl) rfl
theorem q1508 : (Jvm.Cond.code ({ cls := "TurnpikeTrust$Toll", name := "base", desc := "(LTurnpikeTrust$Pass;)J" } : Jvm.MethodName) prog_27_method_2_code (2 : Nat) (Option.some Jvm.ClassFile.FieldType.long)) ∈ lw_all := lw_g (lw_at lw_m7 6 rfl) rfl
theorem q1509 : (Jvm.Cond.methodLink "TurnpikeTrust$Toll" (21 : Nat) ({ cls := "TurnpikeTrust$Reckoning", name := "ends", desc := "(JI)V" } : Jvm.MethodName)) ∈ lw_all := lw_g (lw_at lw_m7 7 rfl) rfl
theorem q1526 : (Jvm.Cond.selects "TurnpikeTrust$Toll" ({ cls := "TurnpikeTrust$Clause", name := "does", desc := "(LTurnpikeTrust$Reckoning;LTurnpikeTrust$Pass;)Z" } : Jvm.MethodName) ({ cls := "TurnpikeTrust$Toll", name := "does", desc := "(LTurnpikeTrust$Reckoning;LTurnpikeTrust$Pass;)Z" } : Jvm.MethodName)) ∈ lw_all := lw_g (lw_at lw_m7 24 rfl) rfl
theorem q2252 : (Jvm.Cond.castable "TurnpikeTrust$Toll" "TurnpikeTrust$Clause") ∈ lw_tbl := lw_at lw_m10 30 rfl
theorem q2269 : (Jvm.Cond.castable "TurnpikeTrust$Toll" "java/lang/Object") ∈ lw_tbl := lw_at lw_m10 47 rfl
theorem in_X10 : ∀ w ∈ wsX100, w ∈ lw_all := lw_in wsX100 [892, 893, 891] (by decide +kernel) (by decide +kernel)
/-! TurnpikeTrust$Each -/
set_option maxRecDepth 100000
def RX11 : String := "TurnpikeTrust$Each"
def TX11 : u_T := fun k => match k with
  | 0 => ("TurnpikeTrust$Clause", "number", "I", true)
  | 1 => ("TurnpikeTrust$Clause", "condition", "LTurnpikeTrust$Condition;", false)
  | _ => ("TurnpikeTrust$Toll", "sum", "J", true)
def tyX11 : Nat → FieldType := fun k => match k with
  | 0 => .int
  | 1 => .object "TurnpikeTrust$Condition"
  | _ => .long
abbrev wsX110 : List Cond := u_ws RX11 TX11 3
theorem nmX11 : ∀ a, a < 3 → ∀ b, b < 3 → a ≠ b → (TX11 a).2.1 ≠ (TX11 b).2.1 := by decide +kernel
theorem tyX11_ok : ∀ k, k < 3 → parseFieldDescriptor (TX11 k).2.2.1 = some (tyX11 k) := by decide +kernel
abbrev cX11_init : ByteArray := prog_11_method_1_code
def yX11_init : MethodName := ⟨RX11, "<init>", "(IJ)V"⟩
def dkwX11_init_0 : List UInt8 := [42, 27, 32, 183, 0, 1, 177]
abbrev dktX11_init_0 : List UInt8 := dkwX11_init_0 ++ []
theorem dksX11_init_0 : cX11_init.data.toList.drop 0 = dktX11_init_0 := by decide +kernel
theorem dX11_init_0 : decode cX11_init 0 = .ok (.aload_n 0, 1) := dk_42 (dk_at dksX11_init_0 0 rfl rfl)
theorem dX11_init_1 : decode cX11_init 1 = .ok (.iload_n 1, 1) := dk_27 (dk_at dksX11_init_0 1 rfl rfl)
theorem dX11_init_2 : decode cX11_init 2 = .ok (.lload_n 2, 1) := dk_32 (dk_at dksX11_init_0 2 rfl rfl)
theorem dX11_init_3 : decode cX11_init 3 = .ok (.invokespecial 1, 3) := dk_183 0 1 (dk_at dksX11_init_0 3 rfl rfl)
theorem dX11_init_6 : decode cX11_init 6 = .ok (.return_, 1) := dk_177 (dk_at dksX11_init_0 6 rfl rfl)
abbrev cX11_base : ByteArray := prog_11_method_2_code
def yX11_base : MethodName := ⟨RX11, "base", "(LTurnpikeTrust$Pass;)J"⟩
def dkwX11_base_0 : List UInt8 := [42, 180, 0, 7, 43, 180, 0, 13, 180, 0, 19, 133, 105, 173]
abbrev dktX11_base_0 : List UInt8 := dkwX11_base_0 ++ []
theorem dksX11_base_0 : cX11_base.data.toList.drop 0 = dktX11_base_0 := by decide +kernel
theorem dX11_base_0 : decode cX11_base 0 = .ok (.aload_n 0, 1) := dk_42 (dk_at dksX11_base_0 0 rfl rfl)
theorem dX11_base_1 : decode cX11_base 1 = .ok (.getfield 7, 3) := dk_180 0 7 (dk_at dksX11_base_0 1 rfl rfl)
theorem dX11_base_4 : decode cX11_base 4 = .ok (.aload_n 1, 1) := dk_43 (dk_at dksX11_base_0 4 rfl rfl)
theorem dX11_base_5 : decode cX11_base 5 = .ok (.getfield 13, 3) := dk_180 0 13 (dk_at dksX11_base_0 5 rfl rfl)
theorem dX11_base_8 : decode cX11_base 8 = .ok (.getfield 19, 3) := dk_180 0 19 (dk_at dksX11_base_0 8 rfl rfl)
theorem dX11_base_11 : decode cX11_base 11 = .ok (.i2l, 1) := dk_133 (dk_at dksX11_base_0 11 rfl rfl)
theorem dX11_base_12 : decode cX11_base 12 = .ok (.lmul, 1) := dk_105 (dk_at dksX11_base_0 12 rfl rfl)
theorem dX11_base_13 : decode cX11_base 13 = .ok (.lreturn, 1) := dk_173 (dk_at dksX11_base_0 13 rfl rfl)
theorem q95 : (Jvm.Cond.initialized "TurnpikeTrust$Each") ∈ lw_all := lw_g (lw_at lw_m1 33 rfl) rfl
theorem q478 : (Jvm.Cond.fieldLinkNest "TurnpikeTrust$Each" (13 : Nat) "TurnpikeTrust$Pass" "who" "LTurnpikeTrust$Traveller;" "TurnpikeTrust") ∈ lw_tbl := lw_at lw_m2 176 rfl
theorem q859 : (Jvm.Cond.instantiable "TurnpikeTrust$Each" (3 : Nat)) ∈ lw_all := lw_g (lw_at lw_m4 77 rfl) rfl
theorem q861 : (Jvm.Cond.instanceMethod ({ cls := "TurnpikeTrust$Each", name := "<init>", desc := "(IJ)V" } : Jvm.MethodName)) ∈ lw_all := lw_g (lw_at lw_m4 79 rfl) rfl
theorem q862 : (Jvm.Cond.code ({ cls := "TurnpikeTrust$Each", name := "<init>", desc := "(IJ)V" } : Jvm.MethodName) prog_11_method_1_code (4 : Nat) (Option.none : Option Jvm.ClassFile.FieldType)) ∈ lw_all := lw_g (lw_at lw_m4 80 rfl) rfl
theorem q863 : (Jvm.Cond.methodLink "TurnpikeTrust$Each" (1 : Nat) ({ cls := "TurnpikeTrust$Toll", name := "<init>", desc := "(IJ)V" } : Jvm.MethodName)) ∈ lw_all := lw_g (lw_at lw_m4 81 rfl) rfl
theorem q868 : (Jvm.Cond.fieldLink "TurnpikeTrust$Each" (7 : Nat) "TurnpikeTrust$Each" "sum" "J") ∈ lw_all := lw_g (lw_at lw_m4 86 rfl) rfl
theorem q869 : (Jvm.Cond.sameField "TurnpikeTrust$Each" "TurnpikeTrust$Toll" "sum" "J") ∈ lw_all := lw_g (lw_at lw_m4 87 rfl) rfl
theorem q872 : (Jvm.Cond.laysFinal "TurnpikeTrust$Each" "TurnpikeTrust$Toll" "sum" "J") ∈ lw_all := lw_g (lw_at lw_m4 90 rfl) rfl
theorem q874 : (Jvm.Cond.laysFinal "TurnpikeTrust$Each" "TurnpikeTrust$Clause" "number" "I") ∈ lw_all := lw_g (lw_at lw_m4 92 rfl) rfl
theorem q875 : (Jvm.Cond.lays "TurnpikeTrust$Each" "TurnpikeTrust$Clause" "condition" "LTurnpikeTrust$Condition;") ∈ lw_all := lw_g (lw_at lw_m4 93 rfl) rfl
theorem q876 : (Jvm.Cond.superclass "TurnpikeTrust$Each" "TurnpikeTrust$Toll") ∈ lw_all := lw_g (lw_at lw_m4 94 rfl) rfl
theorem q1156 : (Jvm.Cond.selects "TurnpikeTrust$Each" ({ cls := "java/lang/Object", name := "getClass", desc := "()Ljava/lang/Class;" } : Jvm.MethodName) ({ cls := "java/lang/Object", name := "getClass", desc := "()Ljava/lang/Class;" } : Jvm.MethodName)) ∈ lw_all := lw_g (lw_at lw_m5 134 rfl) rfl
theorem q1317 : (Jvm.Cond.fieldLink "TurnpikeTrust$Each" (19 : Nat) "TurnpikeTrust$Traveller" "beasts" "I") ∈ lw_all := lw_g (lw_at lw_m6 55 rfl) rfl
theorem q1417 : (Jvm.Cond.selects "TurnpikeTrust$Each" ({ cls := "TurnpikeTrust$Clause", name := "holds", desc := "(LTurnpikeTrust$Pass;)Z" } : Jvm.MethodName) ({ cls := "TurnpikeTrust$Clause", name := "holds", desc := "(LTurnpikeTrust$Pass;)Z" } : Jvm.MethodName)) ∈ lw_all := lw_g (lw_at lw_m6 155 rfl) rfl
theorem q1495 : (Jvm.Cond.selects "TurnpikeTrust$Each" ({ cls := "TurnpikeTrust$Clause", name := "does", desc := "(LTurnpikeTrust$Reckoning;LTurnpikeTrust$Pass;)Z" } : Jvm.MethodName) ({ cls := "TurnpikeTrust$Toll", name := "does", desc := "(LTurnpikeTrust$Reckoning;LTurnpikeTrust$Pass;)Z" } : Jvm.MethodName)) ∈ lw_all := lw_g (lw_at lw_m6 233 rfl) rfl
theorem q1502 : (Jvm.Cond.selects "TurnpikeTrust$Each" ({ cls := "TurnpikeTrust$Toll", name := "base", desc := "(LTurnpikeTrust$Pass;)J" } : Jvm.MethodName) ({ cls := "TurnpikeTrust$Each", name := "base", desc := "(LTurnpikeTrust$Pass;)J" } : Jvm.MethodName)) ∈ lw_all := lw_g (lw_at lw_m7 0 rfl) rfl
theorem q1503 : (Jvm.Cond.instanceMethod ({ cls := "TurnpikeTrust$Each", name := "base", desc := "(LTurnpikeTrust$Pass;)J" } : Jvm.MethodName)) ∈ lw_all := lw_g (lw_at lw_m7 1 rfl) rfl
theorem q1504 : (Jvm.Cond.code ({ cls := "TurnpikeTrust$Each", name := "base", desc := "(LTurnpikeTrust$Pass;)J" } : Jvm.MethodName) prog_11_method_2_code (2 : Nat) (Option.some Jvm.ClassFile.FieldType.long)) ∈ lw_all := lw_g (lw_at lw_m7 2 rfl) rfl
theorem q2247 : (Jvm.Cond.castable "TurnpikeTrust$Each" "TurnpikeTrust$Clause") ∈ lw_tbl := lw_at lw_m10 25 rfl
theorem q2267 : (Jvm.Cond.castable "TurnpikeTrust$Each" "java/lang/Object") ∈ lw_tbl := lw_at lw_m10 45 rfl
theorem in_X11 : ∀ w ∈ wsX110, w ∈ lw_all := lw_in wsX110 [874, 875, 872] (by decide +kernel) (by decide +kernel)
/-! TurnpikeTrust$Score -/
set_option maxRecDepth 100000
def RX12 : String := "TurnpikeTrust$Score"
def TX12 : u_T := fun k => match k with
  | 0 => ("TurnpikeTrust$Clause", "number", "I", true)
  | 1 => ("TurnpikeTrust$Clause", "condition", "LTurnpikeTrust$Condition;", false)
  | _ => ("TurnpikeTrust$Toll", "sum", "J", true)
def tyX12 : Nat → FieldType := fun k => match k with
  | 0 => .int
  | 1 => .object "TurnpikeTrust$Condition"
  | _ => .long
abbrev wsX120 : List Cond := u_ws RX12 TX12 3
theorem nmX12 : ∀ a, a < 3 → ∀ b, b < 3 → a ≠ b → (TX12 a).2.1 ≠ (TX12 b).2.1 := by decide +kernel
theorem tyX12_ok : ∀ k, k < 3 → parseFieldDescriptor (TX12 k).2.2.1 = some (tyX12 k) := by decide +kernel
abbrev cX12_init : ByteArray := prog_23_method_1_code
def yX12_init : MethodName := ⟨RX12, "<init>", "(IJ)V"⟩
def dkwX12_init_0 : List UInt8 := [42, 27, 32, 183, 0, 1, 177]
abbrev dktX12_init_0 : List UInt8 := dkwX12_init_0 ++ []
theorem dksX12_init_0 : cX12_init.data.toList.drop 0 = dktX12_init_0 := by decide +kernel
theorem dX12_init_0 : decode cX12_init 0 = .ok (.aload_n 0, 1) := dk_42 (dk_at dksX12_init_0 0 rfl rfl)
theorem dX12_init_1 : decode cX12_init 1 = .ok (.iload_n 1, 1) := dk_27 (dk_at dksX12_init_0 1 rfl rfl)
theorem dX12_init_2 : decode cX12_init 2 = .ok (.lload_n 2, 1) := dk_32 (dk_at dksX12_init_0 2 rfl rfl)
theorem dX12_init_3 : decode cX12_init 3 = .ok (.invokespecial 1, 3) := dk_183 0 1 (dk_at dksX12_init_0 3 rfl rfl)
theorem dX12_init_6 : decode cX12_init 6 = .ok (.return_, 1) := dk_177 (dk_at dksX12_init_0 6 rfl rfl)
abbrev cX12_base : ByteArray := prog_23_method_2_code
def yX12_base : MethodName := ⟨RX12, "base", "(LTurnpikeTrust$Pass;)J"⟩
def dkwX12_base_0 : List UInt8 := [42, 180, 0, 7, 43, 180, 0, 13, 180, 0, 19, 16, 19, 96, 16, 20, 108, 133, 105, 173]
abbrev dktX12_base_0 : List UInt8 := dkwX12_base_0 ++ []
theorem dksX12_base_0 : cX12_base.data.toList.drop 0 = dktX12_base_0 := by decide +kernel
theorem dX12_base_0 : decode cX12_base 0 = .ok (.aload_n 0, 1) := dk_42 (dk_at dksX12_base_0 0 rfl rfl)
theorem dX12_base_1 : decode cX12_base 1 = .ok (.getfield 7, 3) := dk_180 0 7 (dk_at dksX12_base_0 1 rfl rfl)
theorem dX12_base_4 : decode cX12_base 4 = .ok (.aload_n 1, 1) := dk_43 (dk_at dksX12_base_0 4 rfl rfl)
theorem dX12_base_5 : decode cX12_base 5 = .ok (.getfield 13, 3) := dk_180 0 13 (dk_at dksX12_base_0 5 rfl rfl)
theorem dX12_base_8 : decode cX12_base 8 = .ok (.getfield 19, 3) := dk_180 0 19 (dk_at dksX12_base_0 8 rfl rfl)
theorem dX12_base_11 : decode cX12_base 11 = .ok (.bipush 19, 2) := dk_16 19 (dk_at dksX12_base_0 11 rfl rfl)
theorem dX12_base_13 : decode cX12_base 13 = .ok (.iadd, 1) := dk_96 (dk_at dksX12_base_0 13 rfl rfl)
theorem dX12_base_14 : decode cX12_base 14 = .ok (.bipush 20, 2) := dk_16 20 (dk_at dksX12_base_0 14 rfl rfl)
theorem dX12_base_16 : decode cX12_base 16 = .ok (.idiv, 1) := dk_108 (dk_at dksX12_base_0 16 rfl rfl)
theorem dX12_base_17 : decode cX12_base 17 = .ok (.i2l, 1) := dk_133 (dk_at dksX12_base_0 17 rfl rfl)
theorem dX12_base_18 : decode cX12_base 18 = .ok (.lmul, 1) := dk_105 (dk_at dksX12_base_0 18 rfl rfl)
theorem dX12_base_19 : decode cX12_base 19 = .ok (.lreturn, 1) := dk_173 (dk_at dksX12_base_0 19 rfl rfl)
theorem q96 : (Jvm.Cond.initialized "TurnpikeTrust$Score") ∈ lw_all := lw_g (lw_at lw_m1 34 rfl) rfl
theorem q479 : (Jvm.Cond.fieldLinkNest "TurnpikeTrust$Score" (13 : Nat) "TurnpikeTrust$Pass" "who" "LTurnpikeTrust$Traveller;" "TurnpikeTrust") ∈ lw_tbl := lw_at lw_m2 177 rfl
theorem q870 : (Jvm.Cond.fieldLink "TurnpikeTrust$Score" (7 : Nat) "TurnpikeTrust$Score" "sum" "J") ∈ lw_all := lw_g (lw_at lw_m4 88 rfl) rfl
theorem q871 : (Jvm.Cond.sameField "TurnpikeTrust$Score" "TurnpikeTrust$Toll" "sum" "J") ∈ lw_all := lw_g (lw_at lw_m4 89 rfl) rfl
theorem q879 : (Jvm.Cond.instantiable "TurnpikeTrust$Score" (3 : Nat)) ∈ lw_all := lw_g (lw_at lw_m4 97 rfl) rfl
theorem q881 : (Jvm.Cond.instanceMethod ({ cls := "TurnpikeTrust$Score", name := "<init>", desc := "(IJ)V" } : Jvm.MethodName)) ∈ lw_all := lw_g (lw_at lw_m4 99 rfl) rfl
theorem q882 : (Jvm.Cond.code ({ cls := "TurnpikeTrust$Score", name := "<init>", desc := "(IJ)V" } : Jvm.MethodName) prog_23_method_1_code (4 : Nat) (Option.none : Option Jvm.ClassFile.FieldType)) ∈ lw_all := lw_g (lw_at lw_m4 100 rfl) rfl
theorem q883 : (Jvm.Cond.methodLink "TurnpikeTrust$Score" (1 : Nat) ({ cls := "TurnpikeTrust$Toll", name := "<init>", desc := "(IJ)V" } : Jvm.MethodName)) ∈ lw_all := lw_g (lw_at lw_m4 101 rfl) rfl
theorem q884 : (Jvm.Cond.laysFinal "TurnpikeTrust$Score" "TurnpikeTrust$Toll" "sum" "J") ∈ lw_all := lw_g (lw_at lw_m4 102 rfl) rfl
theorem q885 : (Jvm.Cond.laysFinal "TurnpikeTrust$Score" "TurnpikeTrust$Clause" "number" "I") ∈ lw_all := lw_g (lw_at lw_m4 103 rfl) rfl
theorem q886 : (Jvm.Cond.lays "TurnpikeTrust$Score" "TurnpikeTrust$Clause" "condition" "LTurnpikeTrust$Condition;") ∈ lw_all := lw_g (lw_at lw_m4 104 rfl) rfl
theorem q887 : (Jvm.Cond.superclass "TurnpikeTrust$Score" "TurnpikeTrust$Toll") ∈ lw_all := lw_g (lw_at lw_m4 105 rfl) rfl
theorem q1168 : (Jvm.Cond.selects "TurnpikeTrust$Score" ({ cls := "java/lang/Object", name := "getClass", desc := "()Ljava/lang/Class;" } : Jvm.MethodName) ({ cls := "java/lang/Object", name := "getClass", desc := "()Ljava/lang/Class;" } : Jvm.MethodName)) ∈ lw_all := lw_g (lw_at lw_m5 146 rfl) rfl
theorem q1318 : (Jvm.Cond.fieldLink "TurnpikeTrust$Score" (19 : Nat) "TurnpikeTrust$Traveller" "beasts" "I") ∈ lw_all := lw_g (lw_at lw_m6 56 rfl) rfl
theorem q1420 : (Jvm.Cond.selects "TurnpikeTrust$Score" ({ cls := "TurnpikeTrust$Clause", name := "holds", desc := "(LTurnpikeTrust$Pass;)Z" } : Jvm.MethodName) ({ cls := "TurnpikeTrust$Clause", name := "holds", desc := "(LTurnpikeTrust$Pass;)Z" } : Jvm.MethodName)) ∈ lw_all := lw_g (lw_at lw_m6 158 rfl) rfl
theorem q1505 : (Jvm.Cond.selects "TurnpikeTrust$Score" ({ cls := "TurnpikeTrust$Toll", name := "base", desc := "(LTurnpikeTrust$Pass;)J" } : Jvm.MethodName) ({ cls := "TurnpikeTrust$Score", name := "base", desc := "(LTurnpikeTrust$Pass;)J" } : Jvm.MethodName)) ∈ lw_all := lw_g (lw_at lw_m7 3 rfl) rfl
theorem q1506 : (Jvm.Cond.instanceMethod ({ cls := "TurnpikeTrust$Score", name := "base", desc := "(LTurnpikeTrust$Pass;)J" } : Jvm.MethodName)) ∈ lw_all := lw_g (lw_at lw_m7 4 rfl) rfl
theorem q1507 : (Jvm.Cond.code ({ cls := "TurnpikeTrust$Score", name := "base", desc := "(LTurnpikeTrust$Pass;)J" } : Jvm.MethodName) prog_23_method_2_code (2 : Nat) (Option.some Jvm.ClassFile.FieldType.long)) ∈ lw_all := lw_g (lw_at lw_m7 5 rfl) rfl
theorem q1522 : (Jvm.Cond.selects "TurnpikeTrust$Score" ({ cls := "TurnpikeTrust$Clause", name := "does", desc := "(LTurnpikeTrust$Reckoning;LTurnpikeTrust$Pass;)Z" } : Jvm.MethodName) ({ cls := "TurnpikeTrust$Toll", name := "does", desc := "(LTurnpikeTrust$Reckoning;LTurnpikeTrust$Pass;)Z" } : Jvm.MethodName)) ∈ lw_all := lw_g (lw_at lw_m7 20 rfl) rfl
theorem q2250 : (Jvm.Cond.castable "TurnpikeTrust$Score" "TurnpikeTrust$Clause") ∈ lw_tbl := lw_at lw_m10 28 rfl
theorem q2268 : (Jvm.Cond.castable "TurnpikeTrust$Score" "java/lang/Object") ∈ lw_tbl := lw_at lw_m10 46 rfl
theorem in_X12 : ∀ w ∈ wsX120, w ∈ lw_all := lw_in wsX120 [885, 886, 884] (by decide +kernel) (by decide +kernel)
/-! TurnpikeTrust$Times -/
set_option maxRecDepth 100000
def RX13 : String := "TurnpikeTrust$Times"
def TX13 : u_T := fun k => match k with
  | 0 => ("TurnpikeTrust$Clause", "number", "I", true)
  | 1 => ("TurnpikeTrust$Clause", "condition", "LTurnpikeTrust$Condition;", false)
  | 2 => ("TurnpikeTrust$Times", "up", "J", true)
  | _ => ("TurnpikeTrust$Times", "by", "J", true)
def tyX13 : Nat → FieldType := fun k => match k with
  | 0 => .int
  | 1 => .object "TurnpikeTrust$Condition"
  | 2 => .long
  | _ => .long
abbrev wsX130 : List Cond := u_ws RX13 TX13 4
theorem nmX13 : ∀ a, a < 4 → ∀ b, b < 4 → a ≠ b → (TX13 a).2.1 ≠ (TX13 b).2.1 := by decide +kernel
theorem tyX13_ok : ∀ k, k < 4 → parseFieldDescriptor (TX13 k).2.2.1 = some (tyX13 k) := by decide +kernel
abbrev cX13_init : ByteArray := prog_26_method_1_code
def yX13_init : MethodName := ⟨RX13, "<init>", "(IJJ)V"⟩
def dkwX13_init_0 : List UInt8 := [42, 27, 183, 0, 1, 42, 32, 181, 0, 7, 42, 22, 4, 181, 0, 13, 177]
abbrev dktX13_init_0 : List UInt8 := dkwX13_init_0 ++ []
theorem dksX13_init_0 : cX13_init.data.toList.drop 0 = dktX13_init_0 := by decide +kernel
theorem dX13_init_0 : decode cX13_init 0 = .ok (.aload_n 0, 1) := dk_42 (dk_at dksX13_init_0 0 rfl rfl)
theorem dX13_init_1 : decode cX13_init 1 = .ok (.iload_n 1, 1) := dk_27 (dk_at dksX13_init_0 1 rfl rfl)
theorem dX13_init_2 : decode cX13_init 2 = .ok (.invokespecial 1, 3) := dk_183 0 1 (dk_at dksX13_init_0 2 rfl rfl)
theorem dX13_init_5 : decode cX13_init 5 = .ok (.aload_n 0, 1) := dk_42 (dk_at dksX13_init_0 5 rfl rfl)
theorem dX13_init_6 : decode cX13_init 6 = .ok (.lload_n 2, 1) := dk_32 (dk_at dksX13_init_0 6 rfl rfl)
theorem dX13_init_7 : decode cX13_init 7 = .ok (.putfield 7, 3) := dk_181 0 7 (dk_at dksX13_init_0 7 rfl rfl)
theorem dX13_init_10 : decode cX13_init 10 = .ok (.aload_n 0, 1) := dk_42 (dk_at dksX13_init_0 10 rfl rfl)
theorem dX13_init_11 : decode cX13_init 11 = .ok (.lload 4, 2) := dk_22 4 (dk_at dksX13_init_0 11 rfl rfl)
theorem dX13_init_13 : decode cX13_init 13 = .ok (.putfield 13, 3) := dk_181 0 13 (dk_at dksX13_init_0 13 rfl rfl)
theorem dX13_init_16 : decode cX13_init 16 = .ok (.return_, 1) := dk_177 (dk_at dksX13_init_0 16 rfl rfl)
abbrev cX13_does : ByteArray := prog_26_method_2_code
def yX13_does : MethodName := ⟨RX13, "does", "(LTurnpikeTrust$Reckoning;LTurnpikeTrust$Pass;)Z"⟩
def dkwX13_does_1 : List UInt8 := [180, 0, 13, 80, 43, 89, 180, 0, 21, 4, 96, 181, 0, 21, 3, 172]
abbrev dktX13_does_1 : List UInt8 := dkwX13_does_1 ++ []
def dkwX13_does_0 : List UInt8 := [43, 180, 0, 16, 43, 180, 0, 21, 42, 180, 0, 7, 80, 43, 180, 0, 25, 43, 180, 0, 21, 42]
abbrev dktX13_does_0 : List UInt8 := dkwX13_does_0 ++ dktX13_does_1
theorem dksX13_does_0 : cX13_does.data.toList.drop 0 = dktX13_does_0 := by decide +kernel
theorem dksX13_does_1 : cX13_does.data.toList.drop 22 = dktX13_does_1 := dk_seg dksX13_does_0 22 rfl rfl
theorem dX13_does_0 : decode cX13_does 0 = .ok (.aload_n 1, 1) := dk_43 (dk_at dksX13_does_0 0 rfl rfl)
theorem dX13_does_1 : decode cX13_does 1 = .ok (.getfield 16, 3) := dk_180 0 16 (dk_at dksX13_does_0 1 rfl rfl)
theorem dX13_does_4 : decode cX13_does 4 = .ok (.aload_n 1, 1) := dk_43 (dk_at dksX13_does_0 4 rfl rfl)
theorem dX13_does_5 : decode cX13_does 5 = .ok (.getfield 21, 3) := dk_180 0 21 (dk_at dksX13_does_0 5 rfl rfl)
theorem dX13_does_8 : decode cX13_does 8 = .ok (.aload_n 0, 1) := dk_42 (dk_at dksX13_does_0 8 rfl rfl)
theorem dX13_does_9 : decode cX13_does 9 = .ok (.getfield 7, 3) := dk_180 0 7 (dk_at dksX13_does_0 9 rfl rfl)
theorem dX13_does_12 : decode cX13_does 12 = .ok (.lastore, 1) := dk_80 (dk_at dksX13_does_0 12 rfl rfl)
theorem dX13_does_13 : decode cX13_does 13 = .ok (.aload_n 1, 1) := dk_43 (dk_at dksX13_does_0 13 rfl rfl)
theorem dX13_does_14 : decode cX13_does 14 = .ok (.getfield 25, 3) := dk_180 0 25 (dk_at dksX13_does_0 14 rfl rfl)
theorem dX13_does_17 : decode cX13_does 17 = .ok (.aload_n 1, 1) := dk_43 (dk_at dksX13_does_0 17 rfl rfl)
theorem dX13_does_18 : decode cX13_does 18 = .ok (.getfield 21, 3) := dk_180 0 21 (dk_at dksX13_does_0 18 rfl rfl)
theorem dX13_does_21 : decode cX13_does 21 = .ok (.aload_n 0, 1) := dk_42 (dk_at dksX13_does_0 21 rfl rfl)
theorem dX13_does_22 : decode cX13_does 22 = .ok (.getfield 13, 3) := dk_180 0 13 (dk_at dksX13_does_1 0 rfl rfl)
theorem dX13_does_25 : decode cX13_does 25 = .ok (.lastore, 1) := dk_80 (dk_at dksX13_does_1 3 rfl rfl)
theorem dX13_does_26 : decode cX13_does 26 = .ok (.aload_n 1, 1) := dk_43 (dk_at dksX13_does_1 4 rfl rfl)
theorem dX13_does_27 : decode cX13_does 27 = .ok (.dup, 1) := dk_89 (dk_at dksX13_does_1 5 rfl rfl)
theorem dX13_does_28 : decode cX13_does 28 = .ok (.getfield 21, 3) := dk_180 0 21 (dk_at dksX13_does_1 6 rfl rfl)
theorem dX13_does_31 : decode cX13_does 31 = .ok (.iconst 1, 1) := dk_4 (dk_at dksX13_does_1 9 rfl rfl)
theorem dX13_does_32 : decode cX13_does 32 = .ok (.iadd, 1) := dk_96 (dk_at dksX13_does_1 10 rfl rfl)
theorem dX13_does_33 : decode cX13_does 33 = .ok (.putfield 21, 3) := dk_181 0 21 (dk_at dksX13_does_1 11 rfl rfl)
theorem dX13_does_36 : decode cX13_does 36 = .ok (.iconst 0, 1) := dk_3 (dk_at dksX13_does_1 14 rfl rfl)
theorem dX13_does_37 : decode cX13_does 37 = .ok (.ireturn, 1) := dk_172 (dk_at dksX13_does_1 15 rfl rfl)
theorem q97 : (Jvm.Cond.initialized "TurnpikeTrust$Times") ∈ lw_all := lw_g (lw_at lw_m1 35 rfl) rfl
theorem q504 : (Jvm.Cond.fieldLinkNest "TurnpikeTrust$Times" (16 : Nat) "TurnpikeTrust$Reckoning" "up" "[J" "TurnpikeTrust") ∈ lw_tbl := lw_at lw_m2 202 rfl
theorem q506 : (Jvm.Cond.fieldLinkNest "TurnpikeTrust$Times" (25 : Nat) "TurnpikeTrust$Reckoning" "by" "[J" "TurnpikeTrust") ∈ lw_tbl := lw_at lw_m2 204 rfl
theorem q508 : (Jvm.Cond.fieldLinkNest "TurnpikeTrust$Times" (21 : Nat) "TurnpikeTrust$Reckoning" "many" "I" "TurnpikeTrust") ∈ lw_tbl := lw_at lw_m2 206 rfl
theorem q908 : (Jvm.Cond.instantiable "TurnpikeTrust$Times" (4 : Nat)) ∈ lw_all := lw_g (lw_at lw_m4 126 rfl) rfl
theorem q910 : (Jvm.Cond.instanceMethod ({ cls := "TurnpikeTrust$Times", name := "<init>", desc := "(IJJ)V" } : Jvm.MethodName)) ∈ lw_all := lw_g (lw_at lw_m4 128 rfl) rfl
theorem q911 : (Jvm.Cond.code ({ cls := "TurnpikeTrust$Times", name := "<init>", desc := "(IJJ)V" } : Jvm.MethodName) prog_26_method_1_code (6 : Nat) (Option.none : Option Jvm.ClassFile.FieldType)) ∈ lw_all := lw_g (lw_at lw_m4 129 rfl) rfl
theorem q912 : (Jvm.Cond.methodLink "TurnpikeTrust$Times" (1 : Nat) ({ cls := "TurnpikeTrust$Clause", name := "<init>", desc := "(I)V" } : Jvm.MethodName)) ∈ lw_all := lw_g (lw_at lw_m4 130 rfl) rfl
theorem q913 : (Jvm.Cond.fieldLink "TurnpikeTrust$Times" (7 : Nat) "TurnpikeTrust$Times" "up" "J") ∈ lw_all := lw_g (lw_at lw_m4 131 rfl) rfl
theorem q914 : (Jvm.Cond.fieldLink "TurnpikeTrust$Times" (13 : Nat) "TurnpikeTrust$Times" "by" "J") ∈ lw_all := lw_g (lw_at lw_m4 132 rfl) rfl
theorem q915 : (Jvm.Cond.laysFinal "TurnpikeTrust$Times" "TurnpikeTrust$Times" "up" "J") ∈ lw_all := lw_g (lw_at lw_m4 133 rfl) rfl
theorem q916 : (Jvm.Cond.soleField "TurnpikeTrust$Times" "up") ∈ lw_all := lw_g (lw_at lw_m4 134 rfl) rfl
theorem q917 : (Jvm.Cond.laysFinal "TurnpikeTrust$Times" "TurnpikeTrust$Times" "by" "J") ∈ lw_all := lw_g (lw_at lw_m4 135 rfl) rfl
theorem q918 : (Jvm.Cond.soleField "TurnpikeTrust$Times" "by") ∈ lw_all := lw_g (lw_at lw_m4 136 rfl) rfl
theorem q919 : (Jvm.Cond.laysFinal "TurnpikeTrust$Times" "TurnpikeTrust$Clause" "number" "I") ∈ lw_all := lw_g (lw_at lw_m4 137 rfl) rfl
theorem q920 : (Jvm.Cond.lays "TurnpikeTrust$Times" "TurnpikeTrust$Clause" "condition" "LTurnpikeTrust$Condition;") ∈ lw_all := lw_g (lw_at lw_m4 138 rfl) rfl
theorem q921 : (Jvm.Cond.superclass "TurnpikeTrust$Times" "TurnpikeTrust$Clause") ∈ lw_all := lw_g (lw_at lw_m4 139 rfl) rfl
theorem q1171 : (Jvm.Cond.selects "TurnpikeTrust$Times" ({ cls := "java/lang/Object", name := "getClass", desc := "()Ljava/lang/Class;" } : Jvm.MethodName) ({ cls := "java/lang/Object", name := "getClass", desc := "()Ljava/lang/Class;" } : Jvm.MethodName)) ∈ lw_all := lw_g (lw_at lw_m5 149 rfl) rfl
theorem q1421 : (Jvm.Cond.selects "TurnpikeTrust$Times" ({ cls := "TurnpikeTrust$Clause", name := "holds", desc := "(LTurnpikeTrust$Pass;)Z" } : Jvm.MethodName) ({ cls := "TurnpikeTrust$Clause", name := "holds", desc := "(LTurnpikeTrust$Pass;)Z" } : Jvm.MethodName)) ∈ lw_all := lw_g (lw_at lw_m6 159 rfl) rfl
theorem q1523 : (Jvm.Cond.selects "TurnpikeTrust$Times" ({ cls := "TurnpikeTrust$Clause", name := "does", desc := "(LTurnpikeTrust$Reckoning;LTurnpikeTrust$Pass;)Z" } : Jvm.MethodName) ({ cls := "TurnpikeTrust$Times", name := "does", desc := "(LTurnpikeTrust$Reckoning;LTurnpikeTrust$Pass;)Z" } : Jvm.MethodName)) ∈ lw_all := lw_g (lw_at lw_m7 21 rfl) rfl
theorem q1524 : (Jvm.Cond.instanceMethod ({ cls := "TurnpikeTrust$Times", name := "does", desc := "(LTurnpikeTrust$Reckoning;LTurnpikeTrust$Pass;)Z" } : Jvm.MethodName)) ∈ lw_all := lw_g (lw_at lw_m7 22 rfl) rfl
theorem q1525 : (Jvm.Cond.code ({ cls := "TurnpikeTrust$Times", name := "does", desc := "(LTurnpikeTrust$Reckoning;LTurnpikeTrust$Pass;)Z" } : Jvm.MethodName) prog_26_method_2_code (3 : Nat) (Option.some Jvm.ClassFile.FieldType.boolean)) ∈ lw_all := lw_g (lw_at lw_m7 23 rfl) rfl
theorem q2251 : (Jvm.Cond.castable "TurnpikeTrust$Times" "TurnpikeTrust$Clause") ∈ lw_tbl := lw_at lw_m10 29 rfl
theorem q2270 : (Jvm.Cond.castable "TurnpikeTrust$Times" "java/lang/Object") ∈ lw_tbl := lw_at lw_m10 48 rfl
theorem in_X13 : ∀ w ∈ wsX130, w ∈ lw_all := lw_in wsX130 [919, 920, 915, 917] (by decide +kernel) (by decide +kernel)
/-! TurnpikeTrust$Once -/
set_option maxRecDepth 100000
def RX14 : String := "TurnpikeTrust$Once"
def TX14 : u_T := fun k => match k with
  | 0 => ("TurnpikeTrust$Clause", "number", "I", true)
  | 1 => ("TurnpikeTrust$Clause", "condition", "LTurnpikeTrust$Condition;", false)
  | _ => ("TurnpikeTrust$Once", "all", "Z", true)
def tyX14 : Nat → FieldType := fun k => match k with
  | 0 => .int
  | 1 => .object "TurnpikeTrust$Condition"
  | _ => .boolean
abbrev wsX140 : List Cond := u_ws RX14 TX14 3
theorem nmX14 : ∀ a, a < 3 → ∀ b, b < 3 → a ≠ b → (TX14 a).2.1 ≠ (TX14 b).2.1 := by decide +kernel
theorem tyX14_ok : ∀ k, k < 3 → parseFieldDescriptor (TX14 k).2.2.1 = some (tyX14 k) := by decide +kernel
abbrev cX14_init : ByteArray := prog_19_method_1_code
def yX14_init : MethodName := ⟨RX14, "<init>", "(IZ)V"⟩
def dkwX14_init_0 : List UInt8 := [42, 27, 183, 0, 3, 42, 28, 181, 0, 9, 177]
abbrev dktX14_init_0 : List UInt8 := dkwX14_init_0 ++ []
theorem dksX14_init_0 : cX14_init.data.toList.drop 0 = dktX14_init_0 := by decide +kernel
theorem dX14_init_0 : decode cX14_init 0 = .ok (.aload_n 0, 1) := dk_42 (dk_at dksX14_init_0 0 rfl rfl)
theorem dX14_init_1 : decode cX14_init 1 = .ok (.iload_n 1, 1) := dk_27 (dk_at dksX14_init_0 1 rfl rfl)
theorem dX14_init_2 : decode cX14_init 2 = .ok (.invokespecial 3, 3) := dk_183 0 3 (dk_at dksX14_init_0 2 rfl rfl)
theorem dX14_init_5 : decode cX14_init 5 = .ok (.aload_n 0, 1) := dk_42 (dk_at dksX14_init_0 5 rfl rfl)
theorem dX14_init_6 : decode cX14_init 6 = .ok (.iload_n 2, 1) := dk_28 (dk_at dksX14_init_0 6 rfl rfl)
theorem dX14_init_7 : decode cX14_init 7 = .ok (.putfield 9, 3) := dk_181 0 9 (dk_at dksX14_init_0 7 rfl rfl)
theorem dX14_init_10 : decode cX14_init 10 = .ok (.return_, 1) := dk_177 (dk_at dksX14_init_0 10 rfl rfl)
abbrev cX14_does : ByteArray := prog_19_method_2_code
def yX14_does : MethodName := ⟨RX14, "does", "(LTurnpikeTrust$Reckoning;LTurnpikeTrust$Pass;)Z"⟩
def dkwX14_does_1 : List UInt8 := [180, 0, 9, 154, 0, 19, 43, 180, 0, 24, 2, 160, 0, 11, 43, 42, 180, 0, 21, 181, 0, 24, 3, 172]
abbrev dktX14_does_1 : List UInt8 := dkwX14_does_1 ++ []
def dkwX14_does_0 : List UInt8 := [42, 180, 0, 9, 153, 0, 19, 43, 180, 0, 15, 2, 160, 0, 11, 43, 42, 180, 0, 21, 181, 0, 15, 42]
abbrev dktX14_does_0 : List UInt8 := dkwX14_does_0 ++ dktX14_does_1
theorem dksX14_does_0 : cX14_does.data.toList.drop 0 = dktX14_does_0 := by decide +kernel
theorem dksX14_does_1 : cX14_does.data.toList.drop 24 = dktX14_does_1 := dk_seg dksX14_does_0 24 rfl rfl
theorem dX14_does_0 : decode cX14_does 0 = .ok (.aload_n 0, 1) := dk_42 (dk_at dksX14_does_0 0 rfl rfl)
theorem dX14_does_1 : decode cX14_does 1 = .ok (.getfield 9, 3) := dk_180 0 9 (dk_at dksX14_does_0 1 rfl rfl)
theorem dX14_does_4 : decode cX14_does 4 = .ok (.ifCond .eq 19, 3) := dk_153 0 19 (dk_at dksX14_does_0 4 rfl rfl)
theorem dX14_does_7 : decode cX14_does 7 = .ok (.aload_n 1, 1) := dk_43 (dk_at dksX14_does_0 7 rfl rfl)
theorem dX14_does_8 : decode cX14_does 8 = .ok (.getfield 15, 3) := dk_180 0 15 (dk_at dksX14_does_0 8 rfl rfl)
theorem dX14_does_11 : decode cX14_does 11 = .ok (.iconst (-1), 1) := dk_2 (dk_at dksX14_does_0 11 rfl rfl)
theorem dX14_does_12 : decode cX14_does 12 = .ok (.if_icmp .ne 11, 3) := dk_160 0 11 (dk_at dksX14_does_0 12 rfl rfl)
theorem dX14_does_15 : decode cX14_does 15 = .ok (.aload_n 1, 1) := dk_43 (dk_at dksX14_does_0 15 rfl rfl)
theorem dX14_does_16 : decode cX14_does 16 = .ok (.aload_n 0, 1) := dk_42 (dk_at dksX14_does_0 16 rfl rfl)
theorem dX14_does_17 : decode cX14_does 17 = .ok (.getfield 21, 3) := dk_180 0 21 (dk_at dksX14_does_0 17 rfl rfl)
theorem dX14_does_20 : decode cX14_does 20 = .ok (.putfield 15, 3) := dk_181 0 15 (dk_at dksX14_does_0 20 rfl rfl)
theorem dX14_does_23 : decode cX14_does 23 = .ok (.aload_n 0, 1) := dk_42 (dk_at dksX14_does_0 23 rfl rfl)
theorem dX14_does_24 : decode cX14_does 24 = .ok (.getfield 9, 3) := dk_180 0 9 (dk_at dksX14_does_1 0 rfl rfl)
theorem dX14_does_27 : decode cX14_does 27 = .ok (.ifCond .ne 19, 3) := dk_154 0 19 (dk_at dksX14_does_1 3 rfl rfl)
theorem dX14_does_30 : decode cX14_does 30 = .ok (.aload_n 1, 1) := dk_43 (dk_at dksX14_does_1 6 rfl rfl)
theorem dX14_does_31 : decode cX14_does 31 = .ok (.getfield 24, 3) := dk_180 0 24 (dk_at dksX14_does_1 7 rfl rfl)
theorem dX14_does_34 : decode cX14_does 34 = .ok (.iconst (-1), 1) := dk_2 (dk_at dksX14_does_1 10 rfl rfl)
theorem dX14_does_35 : decode cX14_does 35 = .ok (.if_icmp .ne 11, 3) := dk_160 0 11 (dk_at dksX14_does_1 11 rfl rfl)
theorem dX14_does_38 : decode cX14_does 38 = .ok (.aload_n 1, 1) := dk_43 (dk_at dksX14_does_1 14 rfl rfl)
theorem dX14_does_39 : decode cX14_does 39 = .ok (.aload_n 0, 1) := dk_42 (dk_at dksX14_does_1 15 rfl rfl)
theorem dX14_does_40 : decode cX14_does 40 = .ok (.getfield 21, 3) := dk_180 0 21 (dk_at dksX14_does_1 16 rfl rfl)
theorem dX14_does_43 : decode cX14_does 43 = .ok (.putfield 24, 3) := dk_181 0 24 (dk_at dksX14_does_1 19 rfl rfl)
theorem dX14_does_46 : decode cX14_does 46 = .ok (.iconst 0, 1) := dk_3 (dk_at dksX14_does_1 22 rfl rfl)
theorem dX14_does_47 : decode cX14_does 47 = .ok (.ireturn, 1) := dk_172 (dk_at dksX14_does_1 23 rfl rfl)
theorem q98 : (Jvm.Cond.initialized "TurnpikeTrust$Once") ∈ lw_all := lw_g (lw_at lw_m1 36 rfl) rfl
theorem q510 : (Jvm.Cond.fieldLinkNest "TurnpikeTrust$Once" (24 : Nat) "TurnpikeTrust$Reckoning" "onceHere" "I" "TurnpikeTrust") ∈ lw_tbl := lw_at lw_m2 208 rfl
theorem q511 : (Jvm.Cond.fieldLinkNest "TurnpikeTrust$Once" (15 : Nat) "TurnpikeTrust$Reckoning" "onceAll" "I" "TurnpikeTrust") ∈ lw_tbl := lw_at lw_m2 209 rfl
theorem q833 : (Jvm.Cond.fieldLink "TurnpikeTrust$Once" (21 : Nat) "TurnpikeTrust$Once" "number" "I") ∈ lw_all := lw_g (lw_at lw_m4 51 rfl) rfl
theorem q834 : (Jvm.Cond.sameField "TurnpikeTrust$Once" "TurnpikeTrust$Clause" "number" "I") ∈ lw_all := lw_g (lw_at lw_m4 52 rfl) rfl
theorem q923 : (Jvm.Cond.instantiable "TurnpikeTrust$Once" (3 : Nat)) ∈ lw_all := lw_g (lw_at lw_m4 141 rfl) rfl
theorem q926 : (Jvm.Cond.instanceMethod ({ cls := "TurnpikeTrust$Once", name := "<init>", desc := "(IZ)V" } : Jvm.MethodName)) ∈ lw_all := lw_g (lw_at lw_m4 144 rfl) rfl
theorem q927 : (Jvm.Cond.code ({ cls := "TurnpikeTrust$Once", name := "<init>", desc := "(IZ)V" } : Jvm.MethodName) prog_19_method_1_code (3 : Nat) (Option.none : Option Jvm.ClassFile.FieldType)) ∈ lw_all := lw_g (lw_at lw_m4 145 rfl) rfl
theorem q928 : (Jvm.Cond.methodLink "TurnpikeTrust$Once" (3 : Nat) ({ cls := "TurnpikeTrust$Clause", name := "<init>", desc := "(I)V" } : Jvm.MethodName)) ∈ lw_all := lw_g (lw_at lw_m4 146 rfl) rfl
theorem q929 : (Jvm.Cond.fieldLink "TurnpikeTrust$Once" (9 : Nat) "TurnpikeTrust$Once" "all" "Z") ∈ lw_all := lw_g (lw_at lw_m4 147 rfl) rfl
theorem q930 : (Jvm.Cond.laysFinal "TurnpikeTrust$Once" "TurnpikeTrust$Once" "all" "Z") ∈ lw_all := lw_g (lw_at lw_m4 148 rfl) rfl
theorem q931 : (Jvm.Cond.soleField "TurnpikeTrust$Once" "all") ∈ lw_all := lw_g (lw_at lw_m4 149 rfl) rfl
theorem q932 : (Jvm.Cond.laysFinal "TurnpikeTrust$Once" "TurnpikeTrust$Clause" "number" "I") ∈ lw_all := lw_g (lw_at lw_m4 150 rfl) rfl
theorem q933 : (Jvm.Cond.lays "TurnpikeTrust$Once" "TurnpikeTrust$Clause" "condition" "LTurnpikeTrust$Condition;") ∈ lw_all := lw_g (lw_at lw_m4 151 rfl) rfl
theorem q934 : (Jvm.Cond.superclass "TurnpikeTrust$Once" "TurnpikeTrust$Clause") ∈ lw_all := lw_g (lw_at lw_m4 152 rfl) rfl
theorem q1164 : (Jvm.Cond.selects "TurnpikeTrust$Once" ({ cls := "java/lang/Object", name := "getClass", desc := "()Ljava/lang/Class;" } : Jvm.MethodName) ({ cls := "java/lang/Object", name := "getClass", desc := "()Ljava/lang/Class;" } : Jvm.MethodName)) ∈ lw_all := lw_g (lw_at lw_m5 142 rfl) rfl
theorem q1419 : (Jvm.Cond.selects "TurnpikeTrust$Once" ({ cls := "TurnpikeTrust$Clause", name := "holds", desc := "(LTurnpikeTrust$Pass;)Z" } : Jvm.MethodName) ({ cls := "TurnpikeTrust$Clause", name := "holds", desc := "(LTurnpikeTrust$Pass;)Z" } : Jvm.MethodName)) ∈ lw_all := lw_g (lw_at lw_m6 157 rfl) rfl
theorem q1519 : (Jvm.Cond.selects "TurnpikeTrust$Once" ({ cls := "TurnpikeTrust$Clause", name := "does", desc := "(LTurnpikeTrust$Reckoning;LTurnpikeTrust$Pass;)Z" } : Jvm.MethodName) ({ cls := "TurnpikeTrust$Once", name := "does", desc := "(LTurnpikeTrust$Reckoning;LTurnpikeTrust$Pass;)Z" } : Jvm.MethodName)) ∈ lw_all := lw_g (lw_at lw_m7 17 rfl) rfl
theorem q1520 : (Jvm.Cond.instanceMethod ({ cls := "TurnpikeTrust$Once", name := "does", desc := "(LTurnpikeTrust$Reckoning;LTurnpikeTrust$Pass;)Z" } : Jvm.MethodName)) ∈ lw_all := lw_g (lw_at lw_m7 18 rfl) rfl
theorem q1521 : (Jvm.Cond.code ({ cls := "TurnpikeTrust$Once", name := "does", desc := "(LTurnpikeTrust$Reckoning;LTurnpikeTrust$Pass;)Z" } : Jvm.MethodName) prog_19_method_2_code (3 : Nat) (Option.some Jvm.ClassFile.FieldType.boolean)) ∈ lw_all := lw_g (lw_at lw_m7 19 rfl) rfl
theorem q2249 : (Jvm.Cond.castable "TurnpikeTrust$Once" "TurnpikeTrust$Clause") ∈ lw_tbl := lw_at lw_m10 27 rfl
theorem q2271 : (Jvm.Cond.castable "TurnpikeTrust$Once" "java/lang/Object") ∈ lw_tbl := lw_at lw_m10 49 rfl
theorem in_X14 : ∀ w ∈ wsX140, w ∈ lw_all := lw_in wsX140 [932, 933, 930] (by decide +kernel) (by decide +kernel)
/-! TurnpikeTrust$Any -/
set_option maxRecDepth 100000
def RX15 : String := "TurnpikeTrust$Any"
def TX15 : u_T := fun k => match k with
  | _ => ("TurnpikeTrust$Any", "parts", "Ljava/util/ArrayList;", true)
def tyX15 : Nat → FieldType := fun k => match k with
  | _ => .object "java/util/ArrayList"
abbrev wsX150 : List Cond := u_ws RX15 TX15 1
theorem nmX15 : ∀ a, a < 1 → ∀ b, b < 1 → a ≠ b → (TX15 a).2.1 ≠ (TX15 b).2.1 := by decide +kernel
theorem tyX15_ok : ∀ k, k < 1 → parseFieldDescriptor (TX15 k).2.2.1 = some (tyX15 k) := by decide +kernel
abbrev cX15_init : ByteArray := prog_4_method_1_code
def yX15_init : MethodName := ⟨RX15, "<init>", "()V"⟩
def dkwX15_init_0 : List UInt8 := [42, 183, 0, 1, 42, 187, 0, 7, 89, 5, 183, 0, 9, 181, 0, 12, 177]
abbrev dktX15_init_0 : List UInt8 := dkwX15_init_0 ++ []
theorem dksX15_init_0 : cX15_init.data.toList.drop 0 = dktX15_init_0 := by decide +kernel
theorem dX15_init_0 : decode cX15_init 0 = .ok (.aload_n 0, 1) := dk_42 (dk_at dksX15_init_0 0 rfl rfl)
theorem dX15_init_1 : decode cX15_init 1 = .ok (.invokespecial 1, 3) := dk_183 0 1 (dk_at dksX15_init_0 1 rfl rfl)
theorem dX15_init_4 : decode cX15_init 4 = .ok (.aload_n 0, 1) := dk_42 (dk_at dksX15_init_0 4 rfl rfl)
theorem dX15_init_5 : decode cX15_init 5 = .ok (.new 7, 3) := dk_187 0 7 (dk_at dksX15_init_0 5 rfl rfl)
theorem dX15_init_8 : decode cX15_init 8 = .ok (.dup, 1) := dk_89 (dk_at dksX15_init_0 8 rfl rfl)
theorem dX15_init_9 : decode cX15_init 9 = .ok (.iconst 2, 1) := dk_5 (dk_at dksX15_init_0 9 rfl rfl)
theorem dX15_init_10 : decode cX15_init 10 = .ok (.invokespecial 9, 3) := dk_183 0 9 (dk_at dksX15_init_0 10 rfl rfl)
theorem dX15_init_13 : decode cX15_init 13 = .ok (.putfield 12, 3) := dk_181 0 12 (dk_at dksX15_init_0 13 rfl rfl)
theorem dX15_init_16 : decode cX15_init 16 = .ok (.return_, 1) := dk_177 (dk_at dksX15_init_0 16 rfl rfl)
abbrev cX15_holds : ByteArray := prog_4_method_2_code
def yX15_holds : MethodName := ⟨RX15, "holds", "(LTurnpikeTrust$Pass;)Z"⟩
def dkwX15_holds_1 : List UInt8 := [43, 185, 0, 28, 2, 0, 153, 0, 5, 4, 172, 132, 2, 1, 167, 255, 220, 3, 172]
abbrev dktX15_holds_1 : List UInt8 := dkwX15_holds_1 ++ []
def dkwX15_holds_0 : List UInt8 := [3, 61, 28, 42, 180, 0, 12, 182, 0, 18, 162, 0, 31, 42, 180, 0, 12, 28, 182, 0, 22, 192, 0, 26]
abbrev dktX15_holds_0 : List UInt8 := dkwX15_holds_0 ++ dktX15_holds_1
theorem dksX15_holds_0 : cX15_holds.data.toList.drop 0 = dktX15_holds_0 := by decide +kernel
theorem dksX15_holds_1 : cX15_holds.data.toList.drop 24 = dktX15_holds_1 := dk_seg dksX15_holds_0 24 rfl rfl
theorem dX15_holds_0 : decode cX15_holds 0 = .ok (.iconst 0, 1) := dk_3 (dk_at dksX15_holds_0 0 rfl rfl)
theorem dX15_holds_1 : decode cX15_holds 1 = .ok (.istore_n 2, 1) := dk_61 (dk_at dksX15_holds_0 1 rfl rfl)
theorem dX15_holds_2 : decode cX15_holds 2 = .ok (.iload_n 2, 1) := dk_28 (dk_at dksX15_holds_0 2 rfl rfl)
theorem dX15_holds_3 : decode cX15_holds 3 = .ok (.aload_n 0, 1) := dk_42 (dk_at dksX15_holds_0 3 rfl rfl)
theorem dX15_holds_4 : decode cX15_holds 4 = .ok (.getfield 12, 3) := dk_180 0 12 (dk_at dksX15_holds_0 4 rfl rfl)
theorem dX15_holds_7 : decode cX15_holds 7 = .ok (.invokevirtual 18, 3) := dk_182 0 18 (dk_at dksX15_holds_0 7 rfl rfl)
theorem dX15_holds_10 : decode cX15_holds 10 = .ok (.if_icmp .ge 31, 3) := dk_162 0 31 (dk_at dksX15_holds_0 10 rfl rfl)
theorem dX15_holds_13 : decode cX15_holds 13 = .ok (.aload_n 0, 1) := dk_42 (dk_at dksX15_holds_0 13 rfl rfl)
theorem dX15_holds_14 : decode cX15_holds 14 = .ok (.getfield 12, 3) := dk_180 0 12 (dk_at dksX15_holds_0 14 rfl rfl)
theorem dX15_holds_17 : decode cX15_holds 17 = .ok (.iload_n 2, 1) := dk_28 (dk_at dksX15_holds_0 17 rfl rfl)
theorem dX15_holds_18 : decode cX15_holds 18 = .ok (.invokevirtual 22, 3) := dk_182 0 22 (dk_at dksX15_holds_0 18 rfl rfl)
theorem dX15_holds_21 : decode cX15_holds 21 = .ok (.checkcast 26, 3) := dk_192 0 26 (dk_at dksX15_holds_0 21 rfl rfl)
theorem dX15_holds_24 : decode cX15_holds 24 = .ok (.aload_n 1, 1) := dk_43 (dk_at dksX15_holds_1 0 rfl rfl)
theorem dX15_holds_25 : decode cX15_holds 25 = .ok (.invokeinterface 28 2, 5) := by decide +kernel
theorem dX15_holds_30 : decode cX15_holds 30 = .ok (.ifCond .eq 5, 3) := dk_153 0 5 (dk_at dksX15_holds_1 6 rfl rfl)
theorem dX15_holds_33 : decode cX15_holds 33 = .ok (.iconst 1, 1) := dk_4 (dk_at dksX15_holds_1 9 rfl rfl)
theorem dX15_holds_34 : decode cX15_holds 34 = .ok (.ireturn, 1) := dk_172 (dk_at dksX15_holds_1 10 rfl rfl)
theorem dX15_holds_35 : decode cX15_holds 35 = .ok (.iinc 2 1, 3) := dk_132 2 1 (dk_at dksX15_holds_1 11 rfl rfl)
theorem dX15_holds_38 : decode cX15_holds 38 = .ok (.goto (-36), 3) := dk_167 255 220 (dk_at dksX15_holds_1 14 rfl rfl)
theorem dX15_holds_41 : decode cX15_holds 41 = .ok (.iconst 0, 1) := dk_3 (dk_at dksX15_holds_1 17 rfl rfl)
theorem dX15_holds_42 : decode cX15_holds 42 = .ok (.ireturn, 1) := dk_172 (dk_at dksX15_holds_1 18 rfl rfl)
theorem q99 : (Jvm.Cond.initialized "TurnpikeTrust$Any") ∈ lw_all := lw_g (lw_at lw_m1 37 rfl) rfl
theorem q941 : (Jvm.Cond.instantiable "TurnpikeTrust$Any" (1 : Nat)) ∈ lw_all := lw_g (lw_at lw_m4 159 rfl) rfl
theorem q943 : (Jvm.Cond.instanceMethod ({ cls := "TurnpikeTrust$Any", name := "<init>", desc := "()V" } : Jvm.MethodName)) ∈ lw_all := lw_g (lw_at lw_m4 161 rfl) rfl
theorem q944 : (Jvm.Cond.code ({ cls := "TurnpikeTrust$Any", name := "<init>", desc := "()V" } : Jvm.MethodName) prog_4_method_1_code (1 : Nat) (Option.none : Option Jvm.ClassFile.FieldType)) ∈ lw_all := lw_g (lw_at lw_m4 162 rfl) rfl
theorem q945 : (Jvm.Cond.methodLink "TurnpikeTrust$Any" (1 : Nat) ({ cls := "java/lang/Object", name := "<init>", desc := "()V" } : Jvm.MethodName)) ∈ lw_all := lw_g (lw_at lw_m4 163 rfl) rfl
theorem q946 : (Jvm.Cond.classLink "TurnpikeTrust$Any" (7 : Nat) "java/util/ArrayList") ∈ lw_all := lw_g (lw_at lw_m4 164 rfl) rfl
theorem q947 : (Jvm.Cond.methodLink "TurnpikeTrust$Any" (9 : Nat) ({ cls := "java/util/ArrayList", name := "<init>", desc := "(I)V" } : Jvm.MethodName)) ∈ lw_all := lw_g (lw_at lw_m4 165 rfl) rfl
theorem q948 : (Jvm.Cond.fieldLink "TurnpikeTrust$Any" (12 : Nat) "TurnpikeTrust$Any" "parts" "Ljava/util/ArrayList;") ∈ lw_all := lw_g (lw_at lw_m4 166 rfl) rfl
theorem q953 : (Jvm.Cond.laysFinal "TurnpikeTrust$Any" "TurnpikeTrust$Any" "parts" "Ljava/util/ArrayList;") ∈ lw_all := lw_g (lw_at lw_m4 171 rfl) rfl
theorem q954 : (Jvm.Cond.soleField "TurnpikeTrust$Any" "parts") ∈ lw_all := lw_g (lw_at lw_m4 172 rfl) rfl
theorem q955 : (Jvm.Cond.superclass "TurnpikeTrust$Any" "java/lang/Object") ∈ lw_all := lw_g (lw_at lw_m4 173 rfl) rfl
theorem q1151 : (Jvm.Cond.selects "TurnpikeTrust$Any" ({ cls := "java/lang/Object", name := "getClass", desc := "()Ljava/lang/Class;" } : Jvm.MethodName) ({ cls := "java/lang/Object", name := "getClass", desc := "()Ljava/lang/Class;" } : Jvm.MethodName)) ∈ lw_all := lw_g (lw_at lw_m5 129 rfl) rfl
theorem q1439 : (Jvm.Cond.castable "TurnpikeTrust$Any" "TurnpikeTrust$Condition") ∈ lw_tbl := lw_at lw_m6 177 rfl
theorem q1440 : (Jvm.Cond.selects "TurnpikeTrust$Any" ({ cls := "TurnpikeTrust$Condition", name := "holds", desc := "(LTurnpikeTrust$Pass;)Z" } : Jvm.MethodName) ({ cls := "TurnpikeTrust$Any", name := "holds", desc := "(LTurnpikeTrust$Pass;)Z" } : Jvm.MethodName)) ∈ lw_all := lw_g (lw_at lw_m6 178 rfl) rfl
theorem q1441 : (Jvm.Cond.unhidden "TurnpikeTrust$Any" "holds" "(LTurnpikeTrust$Pass;)Z") ∈ lw_tbl := lw_at lw_m6 179 rfl
theorem q1442 : (Jvm.Cond.instanceMethod ({ cls := "TurnpikeTrust$Any", name := "holds", desc := "(LTurnpikeTrust$Pass;)Z" } : Jvm.MethodName)) ∈ lw_all := lw_g (lw_at lw_m6 180 rfl) rfl
theorem q1443 : (Jvm.Cond.publicMethod ({ cls := "TurnpikeTrust$Any", name := "holds", desc := "(LTurnpikeTrust$Pass;)Z" } : Jvm.MethodName)) ∈ lw_tbl := lw_at lw_m6 181 rfl
theorem q1444 : (Jvm.Cond.code ({ cls := "TurnpikeTrust$Any", name := "holds", desc := "(LTurnpikeTrust$Pass;)Z" } : Jvm.MethodName) prog_4_method_2_code (3 : Nat) (Option.some Jvm.ClassFile.FieldType.boolean)) ∈ lw_all := lw_g (lw_at lw_m6 182 rfl) rfl
theorem q1445 : (Jvm.Cond.methodLink "TurnpikeTrust$Any" (18 : Nat) ({ cls := "java/util/ArrayList", name := "size", desc := "()I" } : Jvm.MethodName)) ∈ lw_all := lw_g (lw_at lw_m6 183 rfl) rfl
theorem q1446 : (Jvm.Cond.methodLink "TurnpikeTrust$Any" (22 : Nat) ({ cls := "java/util/ArrayList", name := "get", desc := "(I)Ljava/lang/Object;" } : Jvm.MethodName)) ∈ lw_all := lw_g (lw_at lw_m6 184 rfl) rfl
theorem q1447 : (Jvm.Cond.classLink "TurnpikeTrust$Any" (26 : Nat) "TurnpikeTrust$Condition") ∈ lw_all := lw_g (lw_at lw_m6 185 rfl) rfl
theorem q1448 : (Jvm.Cond.interfaceEntry "TurnpikeTrust$Any" (28 : Nat)) ∈ lw_tbl := lw_at lw_m6 186 rfl
theorem q1449 : (Jvm.Cond.methodLink "TurnpikeTrust$Any" (28 : Nat) ({ cls := "TurnpikeTrust$Condition", name := "holds", desc := "(LTurnpikeTrust$Pass;)Z" } : Jvm.MethodName)) ∈ lw_all := lw_g (lw_at lw_m6 187 rfl) rfl
theorem q2272 : (Jvm.Cond.castable "TurnpikeTrust$Any" "java/lang/Object") ∈ lw_tbl := lw_at lw_m10 50 rfl
theorem in_X15 : ∀ w ∈ wsX150, w ∈ lw_all := lw_in wsX150 [953] (by decide +kernel) (by decide +kernel)
/-! TurnpikeTrust$All -/
set_option maxRecDepth 100000
def RX16 : String := "TurnpikeTrust$All"
def TX16 : u_T := fun k => match k with
  | _ => ("TurnpikeTrust$Any", "parts", "Ljava/util/ArrayList;", true)
def tyX16 : Nat → FieldType := fun k => match k with
  | _ => .object "java/util/ArrayList"
abbrev wsX160 : List Cond := u_ws RX16 TX16 1
theorem nmX16 : ∀ a, a < 1 → ∀ b, b < 1 → a ≠ b → (TX16 a).2.1 ≠ (TX16 b).2.1 := by decide +kernel
theorem tyX16_ok : ∀ k, k < 1 → parseFieldDescriptor (TX16 k).2.2.1 = some (tyX16 k) := by decide +kernel
abbrev cX16_init : ByteArray := prog_3_method_1_code
def yX16_init : MethodName := ⟨RX16, "<init>", "()V"⟩
theorem dX16_init_0 : decode cX16_init 0 = .ok (.aload_n 0, 1) := by decide +kernel
theorem dX16_init_1 : decode cX16_init 1 = .ok (.invokespecial 1, 3) := by decide +kernel
theorem dX16_init_4 : decode cX16_init 4 = .ok (.return_, 1) := by decide +kernel
abbrev cX16_holds : ByteArray := prog_3_method_2_code
def yX16_holds : MethodName := ⟨RX16, "holds", "(LTurnpikeTrust$Pass;)Z"⟩
def dkwX16_holds_1 : List UInt8 := [43, 185, 0, 25, 2, 0, 154, 0, 5, 3, 172, 132, 2, 1, 167, 255, 220, 4, 172]
abbrev dktX16_holds_1 : List UInt8 := dkwX16_holds_1 ++ []
def dkwX16_holds_0 : List UInt8 := [3, 61, 28, 42, 180, 0, 7, 182, 0, 13, 162, 0, 31, 42, 180, 0, 7, 28, 182, 0, 19, 192, 0, 23]
abbrev dktX16_holds_0 : List UInt8 := dkwX16_holds_0 ++ dktX16_holds_1
theorem dksX16_holds_0 : cX16_holds.data.toList.drop 0 = dktX16_holds_0 := by decide +kernel
theorem dksX16_holds_1 : cX16_holds.data.toList.drop 24 = dktX16_holds_1 := dk_seg dksX16_holds_0 24 rfl rfl
theorem dX16_holds_0 : decode cX16_holds 0 = .ok (.iconst 0, 1) := dk_3 (dk_at dksX16_holds_0 0 rfl rfl)
theorem dX16_holds_1 : decode cX16_holds 1 = .ok (.istore_n 2, 1) := dk_61 (dk_at dksX16_holds_0 1 rfl rfl)
theorem dX16_holds_2 : decode cX16_holds 2 = .ok (.iload_n 2, 1) := dk_28 (dk_at dksX16_holds_0 2 rfl rfl)
theorem dX16_holds_3 : decode cX16_holds 3 = .ok (.aload_n 0, 1) := dk_42 (dk_at dksX16_holds_0 3 rfl rfl)
theorem dX16_holds_4 : decode cX16_holds 4 = .ok (.getfield 7, 3) := dk_180 0 7 (dk_at dksX16_holds_0 4 rfl rfl)
theorem dX16_holds_7 : decode cX16_holds 7 = .ok (.invokevirtual 13, 3) := dk_182 0 13 (dk_at dksX16_holds_0 7 rfl rfl)
theorem dX16_holds_10 : decode cX16_holds 10 = .ok (.if_icmp .ge 31, 3) := dk_162 0 31 (dk_at dksX16_holds_0 10 rfl rfl)
theorem dX16_holds_13 : decode cX16_holds 13 = .ok (.aload_n 0, 1) := dk_42 (dk_at dksX16_holds_0 13 rfl rfl)
theorem dX16_holds_14 : decode cX16_holds 14 = .ok (.getfield 7, 3) := dk_180 0 7 (dk_at dksX16_holds_0 14 rfl rfl)
theorem dX16_holds_17 : decode cX16_holds 17 = .ok (.iload_n 2, 1) := dk_28 (dk_at dksX16_holds_0 17 rfl rfl)
theorem dX16_holds_18 : decode cX16_holds 18 = .ok (.invokevirtual 19, 3) := dk_182 0 19 (dk_at dksX16_holds_0 18 rfl rfl)
theorem dX16_holds_21 : decode cX16_holds 21 = .ok (.checkcast 23, 3) := dk_192 0 23 (dk_at dksX16_holds_0 21 rfl rfl)
theorem dX16_holds_24 : decode cX16_holds 24 = .ok (.aload_n 1, 1) := dk_43 (dk_at dksX16_holds_1 0 rfl rfl)
theorem dX16_holds_25 : decode cX16_holds 25 = .ok (.invokeinterface 25 2, 5) := by decide +kernel
theorem dX16_holds_30 : decode cX16_holds 30 = .ok (.ifCond .ne 5, 3) := dk_154 0 5 (dk_at dksX16_holds_1 6 rfl rfl)
theorem dX16_holds_33 : decode cX16_holds 33 = .ok (.iconst 0, 1) := dk_3 (dk_at dksX16_holds_1 9 rfl rfl)
theorem dX16_holds_34 : decode cX16_holds 34 = .ok (.ireturn, 1) := dk_172 (dk_at dksX16_holds_1 10 rfl rfl)
theorem dX16_holds_35 : decode cX16_holds 35 = .ok (.iinc 2 1, 3) := dk_132 2 1 (dk_at dksX16_holds_1 11 rfl rfl)
theorem dX16_holds_38 : decode cX16_holds 38 = .ok (.goto (-36), 3) := dk_167 255 220 (dk_at dksX16_holds_1 14 rfl rfl)
theorem dX16_holds_41 : decode cX16_holds 41 = .ok (.iconst 1, 1) := dk_4 (dk_at dksX16_holds_1 17 rfl rfl)
theorem dX16_holds_42 : decode cX16_holds 42 = .ok (.ireturn, 1) := dk_172 (dk_at dksX16_holds_1 18 rfl rfl)
theorem q100 : (Jvm.Cond.initialized "TurnpikeTrust$All") ∈ lw_all := lw_g (lw_at lw_m1 38 rfl) rfl
theorem q949 : (Jvm.Cond.fieldLink "TurnpikeTrust$All" (7 : Nat) "TurnpikeTrust$All" "parts" "Ljava/util/ArrayList;") ∈ lw_all := lw_g (lw_at lw_m4 167 rfl) rfl
theorem q950 : (Jvm.Cond.sameField "TurnpikeTrust$All" "TurnpikeTrust$Any" "parts" "Ljava/util/ArrayList;") ∈ lw_all := lw_g (lw_at lw_m4 168 rfl) rfl
theorem q961 : (Jvm.Cond.instantiable "TurnpikeTrust$All" (1 : Nat)) ∈ lw_all := lw_g (lw_at lw_m4 179 rfl) rfl
theorem q963 : (Jvm.Cond.instanceMethod ({ cls := "TurnpikeTrust$All", name := "<init>", desc := "()V" } : Jvm.MethodName)) ∈ lw_all := lw_g (lw_at lw_m4 181 rfl) rfl
theorem q964 : (Jvm.Cond.code ({ cls := "TurnpikeTrust$All", name := "<init>", desc := "()V" } : Jvm.MethodName) prog_3_method_1_code (1 : Nat) (Option.none : Option Jvm.ClassFile.FieldType)) ∈ lw_all := lw_g (lw_at lw_m4 182 rfl) rfl
theorem q965 : (Jvm.Cond.methodLinkNest "TurnpikeTrust$All" (1 : Nat) ({ cls := "TurnpikeTrust$Any", name := "<init>", desc := "()V" } : Jvm.MethodName) "TurnpikeTrust") ∈ lw_tbl := lw_at lw_m4 183 rfl
theorem q966 : (Jvm.Cond.laysFinal "TurnpikeTrust$All" "TurnpikeTrust$Any" "parts" "Ljava/util/ArrayList;") ∈ lw_all := lw_g (lw_at lw_m4 184 rfl) rfl
theorem q967 : (Jvm.Cond.superclass "TurnpikeTrust$All" "TurnpikeTrust$Any") ∈ lw_all := lw_g (lw_at lw_m4 185 rfl) rfl
theorem q1150 : (Jvm.Cond.selects "TurnpikeTrust$All" ({ cls := "java/lang/Object", name := "getClass", desc := "()Ljava/lang/Class;" } : Jvm.MethodName) ({ cls := "java/lang/Object", name := "getClass", desc := "()Ljava/lang/Class;" } : Jvm.MethodName)) ∈ lw_all := lw_g (lw_at lw_m5 128 rfl) rfl
theorem q1428 : (Jvm.Cond.castable "TurnpikeTrust$All" "TurnpikeTrust$Condition") ∈ lw_tbl := lw_at lw_m6 166 rfl
theorem q1429 : (Jvm.Cond.selects "TurnpikeTrust$All" ({ cls := "TurnpikeTrust$Condition", name := "holds", desc := "(LTurnpikeTrust$Pass;)Z" } : Jvm.MethodName) ({ cls := "TurnpikeTrust$All", name := "holds", desc := "(LTurnpikeTrust$Pass;)Z" } : Jvm.MethodName)) ∈ lw_all := lw_g (lw_at lw_m6 167 rfl) rfl
theorem q1430 : (Jvm.Cond.unhidden "TurnpikeTrust$All" "holds" "(LTurnpikeTrust$Pass;)Z") ∈ lw_tbl := lw_at lw_m6 168 rfl
theorem q1431 : (Jvm.Cond.instanceMethod ({ cls := "TurnpikeTrust$All", name := "holds", desc := "(LTurnpikeTrust$Pass;)Z" } : Jvm.MethodName)) ∈ lw_all := lw_g (lw_at lw_m6 169 rfl) rfl
theorem q1432 : (Jvm.Cond.publicMethod ({ cls := "TurnpikeTrust$All", name := "holds", desc := "(LTurnpikeTrust$Pass;)Z" } : Jvm.MethodName)) ∈ lw_tbl := lw_at lw_m6 170 rfl
theorem q1433 : (Jvm.Cond.code ({ cls := "TurnpikeTrust$All", name := "holds", desc := "(LTurnpikeTrust$Pass;)Z" } : Jvm.MethodName) prog_3_method_2_code (3 : Nat) (Option.some Jvm.ClassFile.FieldType.boolean)) ∈ lw_all := lw_g (lw_at lw_m6 171 rfl) rfl
theorem q1434 : (Jvm.Cond.methodLink "TurnpikeTrust$All" (13 : Nat) ({ cls := "java/util/ArrayList", name := "size", desc := "()I" } : Jvm.MethodName)) ∈ lw_all := lw_g (lw_at lw_m6 172 rfl) rfl
theorem q1435 : (Jvm.Cond.methodLink "TurnpikeTrust$All" (19 : Nat) ({ cls := "java/util/ArrayList", name := "get", desc := "(I)Ljava/lang/Object;" } : Jvm.MethodName)) ∈ lw_all := lw_g (lw_at lw_m6 173 rfl) rfl
theorem q1436 : (Jvm.Cond.classLink "TurnpikeTrust$All" (23 : Nat) "TurnpikeTrust$Condition") ∈ lw_all := lw_g (lw_at lw_m6 174 rfl) rfl
theorem q1437 : (Jvm.Cond.interfaceEntry "TurnpikeTrust$All" (25 : Nat)) ∈ lw_tbl := lw_at lw_m6 175 rfl
theorem q1438 : (Jvm.Cond.methodLink "TurnpikeTrust$All" (25 : Nat) ({ cls := "TurnpikeTrust$Condition", name := "holds", desc := "(LTurnpikeTrust$Pass;)Z" } : Jvm.MethodName)) ∈ lw_all := lw_g (lw_at lw_m6 176 rfl) rfl
theorem q2273 : (Jvm.Cond.castable "TurnpikeTrust$All" "java/lang/Object") ∈ lw_tbl := lw_at lw_m10 51 rfl
theorem in_X16 : ∀ w ∈ wsX160, w ∈ lw_all := lw_in wsX160 [966] (by decide +kernel) (by decide +kernel)
/-! TurnpikeTrust$Not -/
set_option maxRecDepth 100000
def RX17 : String := "TurnpikeTrust$Not"
def TX17 : u_T := fun k => match k with
  | _ => ("TurnpikeTrust$Not", "part", "LTurnpikeTrust$Condition;", true)
def tyX17 : Nat → FieldType := fun k => match k with
  | _ => .object "TurnpikeTrust$Condition"
abbrev wsX170 : List Cond := u_ws RX17 TX17 1
theorem nmX17 : ∀ a, a < 1 → ∀ b, b < 1 → a ≠ b → (TX17 a).2.1 ≠ (TX17 b).2.1 := by decide +kernel
theorem tyX17_ok : ∀ k, k < 1 → parseFieldDescriptor (TX17 k).2.2.1 = some (tyX17 k) := by decide +kernel
abbrev cX17_init : ByteArray := prog_18_method_1_code
def yX17_init : MethodName := ⟨RX17, "<init>", "(LTurnpikeTrust$Condition;)V"⟩
def dkwX17_init_0 : List UInt8 := [42, 183, 0, 1, 42, 43, 181, 0, 7, 177]
abbrev dktX17_init_0 : List UInt8 := dkwX17_init_0 ++ []
theorem dksX17_init_0 : cX17_init.data.toList.drop 0 = dktX17_init_0 := by decide +kernel
theorem dX17_init_0 : decode cX17_init 0 = .ok (.aload_n 0, 1) := dk_42 (dk_at dksX17_init_0 0 rfl rfl)
theorem dX17_init_1 : decode cX17_init 1 = .ok (.invokespecial 1, 3) := dk_183 0 1 (dk_at dksX17_init_0 1 rfl rfl)
theorem dX17_init_4 : decode cX17_init 4 = .ok (.aload_n 0, 1) := dk_42 (dk_at dksX17_init_0 4 rfl rfl)
theorem dX17_init_5 : decode cX17_init 5 = .ok (.aload_n 1, 1) := dk_43 (dk_at dksX17_init_0 5 rfl rfl)
theorem dX17_init_6 : decode cX17_init 6 = .ok (.putfield 7, 3) := dk_181 0 7 (dk_at dksX17_init_0 6 rfl rfl)
theorem dX17_init_9 : decode cX17_init 9 = .ok (.return_, 1) := dk_177 (dk_at dksX17_init_0 9 rfl rfl)
abbrev cX17_holds : ByteArray := prog_18_method_2_code
def yX17_holds : MethodName := ⟨RX17, "holds", "(LTurnpikeTrust$Pass;)Z"⟩
def dkwX17_holds_0 : List UInt8 := [42, 180, 0, 7, 43, 185, 0, 13, 2, 0, 154, 0, 7, 4, 167, 0, 4, 3, 172]
abbrev dktX17_holds_0 : List UInt8 := dkwX17_holds_0 ++ []
theorem dksX17_holds_0 : cX17_holds.data.toList.drop 0 = dktX17_holds_0 := by decide +kernel
theorem dX17_holds_0 : decode cX17_holds 0 = .ok (.aload_n 0, 1) := dk_42 (dk_at dksX17_holds_0 0 rfl rfl)
theorem dX17_holds_1 : decode cX17_holds 1 = .ok (.getfield 7, 3) := dk_180 0 7 (dk_at dksX17_holds_0 1 rfl rfl)
theorem dX17_holds_4 : decode cX17_holds 4 = .ok (.aload_n 1, 1) := dk_43 (dk_at dksX17_holds_0 4 rfl rfl)
theorem dX17_holds_5 : decode cX17_holds 5 = .ok (.invokeinterface 13 2, 5) := by decide +kernel
theorem dX17_holds_10 : decode cX17_holds 10 = .ok (.ifCond .ne 7, 3) := dk_154 0 7 (dk_at dksX17_holds_0 10 rfl rfl)
theorem dX17_holds_13 : decode cX17_holds 13 = .ok (.iconst 1, 1) := dk_4 (dk_at dksX17_holds_0 13 rfl rfl)
theorem dX17_holds_14 : decode cX17_holds 14 = .ok (.goto 4, 3) := dk_167 0 4 (dk_at dksX17_holds_0 14 rfl rfl)
theorem dX17_holds_17 : decode cX17_holds 17 = .ok (.iconst 0, 1) := dk_3 (dk_at dksX17_holds_0 17 rfl rfl)
theorem dX17_holds_18 : decode cX17_holds 18 = .ok (.ireturn, 1) := dk_172 (dk_at dksX17_holds_0 18 rfl rfl)
theorem q101 : (Jvm.Cond.initialized "TurnpikeTrust$Not") ∈ lw_all := lw_g (lw_at lw_m1 39 rfl) rfl
theorem q978 : (Jvm.Cond.instantiable "TurnpikeTrust$Not" (1 : Nat)) ∈ lw_all := lw_g (lw_at lw_m4 196 rfl) rfl
theorem q980 : (Jvm.Cond.instanceMethod ({ cls := "TurnpikeTrust$Not", name := "<init>", desc := "(LTurnpikeTrust$Condition;)V" } : Jvm.MethodName)) ∈ lw_all := lw_g (lw_at lw_m4 198 rfl) rfl
theorem q981 : (Jvm.Cond.code ({ cls := "TurnpikeTrust$Not", name := "<init>", desc := "(LTurnpikeTrust$Condition;)V" } : Jvm.MethodName) prog_18_method_1_code (2 : Nat) (Option.none : Option Jvm.ClassFile.FieldType)) ∈ lw_all := lw_g (lw_at lw_m4 199 rfl) rfl
theorem q982 : (Jvm.Cond.methodLink "TurnpikeTrust$Not" (1 : Nat) ({ cls := "java/lang/Object", name := "<init>", desc := "()V" } : Jvm.MethodName)) ∈ lw_all := lw_g (lw_at lw_m4 200 rfl) rfl
theorem q983 : (Jvm.Cond.fieldLink "TurnpikeTrust$Not" (7 : Nat) "TurnpikeTrust$Not" "part" "LTurnpikeTrust$Condition;") ∈ lw_all := lw_g (lw_at lw_m4 201 rfl) rfl
theorem q984 : (Jvm.Cond.laysFinal "TurnpikeTrust$Not" "TurnpikeTrust$Not" "part" "LTurnpikeTrust$Condition;") ∈ lw_all := lw_g (lw_at lw_m4 202 rfl) rfl
theorem q985 : (Jvm.Cond.soleField "TurnpikeTrust$Not" "part") ∈ lw_all := lw_g (lw_at lw_m4 203 rfl) rfl
theorem q986 : (Jvm.Cond.superclass "TurnpikeTrust$Not" "java/lang/Object") ∈ lw_all := lw_g (lw_at lw_m4 204 rfl) rfl
theorem q1163 : (Jvm.Cond.selects "TurnpikeTrust$Not" ({ cls := "java/lang/Object", name := "getClass", desc := "()Ljava/lang/Class;" } : Jvm.MethodName) ({ cls := "java/lang/Object", name := "getClass", desc := "()Ljava/lang/Class;" } : Jvm.MethodName)) ∈ lw_all := lw_g (lw_at lw_m5 141 rfl) rfl
theorem q1484 : (Jvm.Cond.castable "TurnpikeTrust$Not" "TurnpikeTrust$Condition") ∈ lw_tbl := lw_at lw_m6 222 rfl
theorem q1485 : (Jvm.Cond.selects "TurnpikeTrust$Not" ({ cls := "TurnpikeTrust$Condition", name := "holds", desc := "(LTurnpikeTrust$Pass;)Z" } : Jvm.MethodName) ({ cls := "TurnpikeTrust$Not", name := "holds", desc := "(LTurnpikeTrust$Pass;)Z" } : Jvm.MethodName)) ∈ lw_all := lw_g (lw_at lw_m6 223 rfl) rfl
theorem q1486 : (Jvm.Cond.unhidden "TurnpikeTrust$Not" "holds" "(LTurnpikeTrust$Pass;)Z") ∈ lw_tbl := lw_at lw_m6 224 rfl
theorem q1487 : (Jvm.Cond.instanceMethod ({ cls := "TurnpikeTrust$Not", name := "holds", desc := "(LTurnpikeTrust$Pass;)Z" } : Jvm.MethodName)) ∈ lw_all := lw_g (lw_at lw_m6 225 rfl) rfl
theorem q1488 : (Jvm.Cond.publicMethod ({ cls := "TurnpikeTrust$Not", name := "holds", desc := "(LTurnpikeTrust$Pass;)Z" } : Jvm.MethodName)) ∈ lw_tbl := lw_at lw_m6 226 rfl
theorem q1489 : (Jvm.Cond.code ({ cls := "TurnpikeTrust$Not", name := "holds", desc := "(LTurnpikeTrust$Pass;)Z" } : Jvm.MethodName) prog_18_method_2_code (2 : Nat) (Option.some Jvm.ClassFile.FieldType.boolean)) ∈ lw_all := lw_g (lw_at lw_m6 227 rfl) rfl
theorem q1490 : (Jvm.Cond.interfaceEntry "TurnpikeTrust$Not" (13 : Nat)) ∈ lw_tbl := lw_at lw_m6 228 rfl
theorem q1491 : (Jvm.Cond.methodLink "TurnpikeTrust$Not" (13 : Nat) ({ cls := "TurnpikeTrust$Condition", name := "holds", desc := "(LTurnpikeTrust$Pass;)Z" } : Jvm.MethodName)) ∈ lw_all := lw_g (lw_at lw_m6 229 rfl) rfl
theorem q2274 : (Jvm.Cond.castable "TurnpikeTrust$Not" "java/lang/Object") ∈ lw_tbl := lw_at lw_m10 52 rfl
theorem in_X17 : ∀ w ∈ wsX170, w ∈ lw_all := lw_in wsX170 [984] (by decide +kernel) (by decide +kernel)
/-! TurnpikeTrust$Bit -/
set_option maxRecDepth 100000
def RX18 : String := "TurnpikeTrust$Bit"
def TX18 : u_T := fun k => match k with
  | _ => ("TurnpikeTrust$Bit", "bit", "I", true)
def tyX18 : Nat → FieldType := fun k => match k with
  | _ => .int
abbrev wsX180 : List Cond := u_ws RX18 TX18 1
theorem nmX18 : ∀ a, a < 1 → ∀ b, b < 1 → a ≠ b → (TX18 a).2.1 ≠ (TX18 b).2.1 := by decide +kernel
theorem tyX18_ok : ∀ k, k < 1 → parseFieldDescriptor (TX18 k).2.2.1 = some (tyX18 k) := by decide +kernel
abbrev cX18_init : ByteArray := prog_7_method_1_code
def yX18_init : MethodName := ⟨RX18, "<init>", "(I)V"⟩
def dkwX18_init_0 : List UInt8 := [42, 183, 0, 1, 42, 27, 181, 0, 7, 177]
abbrev dktX18_init_0 : List UInt8 := dkwX18_init_0 ++ []
theorem dksX18_init_0 : cX18_init.data.toList.drop 0 = dktX18_init_0 := by decide +kernel
theorem dX18_init_0 : decode cX18_init 0 = .ok (.aload_n 0, 1) := dk_42 (dk_at dksX18_init_0 0 rfl rfl)
theorem dX18_init_1 : decode cX18_init 1 = .ok (.invokespecial 1, 3) := dk_183 0 1 (dk_at dksX18_init_0 1 rfl rfl)
theorem dX18_init_4 : decode cX18_init 4 = .ok (.aload_n 0, 1) := dk_42 (dk_at dksX18_init_0 4 rfl rfl)
theorem dX18_init_5 : decode cX18_init 5 = .ok (.iload_n 1, 1) := dk_27 (dk_at dksX18_init_0 5 rfl rfl)
theorem dX18_init_6 : decode cX18_init 6 = .ok (.putfield 7, 3) := dk_181 0 7 (dk_at dksX18_init_0 6 rfl rfl)
theorem dX18_init_9 : decode cX18_init 9 = .ok (.return_, 1) := dk_177 (dk_at dksX18_init_0 9 rfl rfl)
abbrev cX18_holds : ByteArray := prog_7_method_2_code
def yX18_holds : MethodName := ⟨RX18, "holds", "(LTurnpikeTrust$Pass;)Z"⟩
def dkwX18_holds_0 : List UInt8 := [43, 180, 0, 13, 180, 0, 19, 42, 180, 0, 7, 126, 153, 0, 7, 4, 167, 0, 4, 3, 172]
abbrev dktX18_holds_0 : List UInt8 := dkwX18_holds_0 ++ []
theorem dksX18_holds_0 : cX18_holds.data.toList.drop 0 = dktX18_holds_0 := by decide +kernel
theorem dX18_holds_0 : decode cX18_holds 0 = .ok (.aload_n 1, 1) := dk_43 (dk_at dksX18_holds_0 0 rfl rfl)
theorem dX18_holds_1 : decode cX18_holds 1 = .ok (.getfield 13, 3) := dk_180 0 13 (dk_at dksX18_holds_0 1 rfl rfl)
theorem dX18_holds_4 : decode cX18_holds 4 = .ok (.getfield 19, 3) := dk_180 0 19 (dk_at dksX18_holds_0 4 rfl rfl)
theorem dX18_holds_7 : decode cX18_holds 7 = .ok (.aload_n 0, 1) := dk_42 (dk_at dksX18_holds_0 7 rfl rfl)
theorem dX18_holds_8 : decode cX18_holds 8 = .ok (.getfield 7, 3) := dk_180 0 7 (dk_at dksX18_holds_0 8 rfl rfl)
theorem dX18_holds_11 : decode cX18_holds 11 = .ok (.iand, 1) := dk_126 (dk_at dksX18_holds_0 11 rfl rfl)
theorem dX18_holds_12 : decode cX18_holds 12 = .ok (.ifCond .eq 7, 3) := dk_153 0 7 (dk_at dksX18_holds_0 12 rfl rfl)
theorem dX18_holds_15 : decode cX18_holds 15 = .ok (.iconst 1, 1) := dk_4 (dk_at dksX18_holds_0 15 rfl rfl)
theorem dX18_holds_16 : decode cX18_holds 16 = .ok (.goto 4, 3) := dk_167 0 4 (dk_at dksX18_holds_0 16 rfl rfl)
theorem dX18_holds_19 : decode cX18_holds 19 = .ok (.iconst 0, 1) := dk_3 (dk_at dksX18_holds_0 19 rfl rfl)
theorem dX18_holds_20 : decode cX18_holds 20 = .ok (.ireturn, 1) := dk_172 (dk_at dksX18_holds_0 20 rfl rfl)
theorem q102 : (Jvm.Cond.initialized "TurnpikeTrust$Bit") ∈ lw_all := lw_g (lw_at lw_m1 40 rfl) rfl
theorem q476 : (Jvm.Cond.fieldLinkNest "TurnpikeTrust$Bit" (13 : Nat) "TurnpikeTrust$Pass" "who" "LTurnpikeTrust$Traveller;" "TurnpikeTrust") ∈ lw_tbl := lw_at lw_m2 174 rfl
theorem q1063 : (Jvm.Cond.instantiable "TurnpikeTrust$Bit" (1 : Nat)) ∈ lw_all := lw_g (lw_at lw_m5 41 rfl) rfl
theorem q1065 : (Jvm.Cond.instanceMethod ({ cls := "TurnpikeTrust$Bit", name := "<init>", desc := "(I)V" } : Jvm.MethodName)) ∈ lw_all := lw_g (lw_at lw_m5 43 rfl) rfl
theorem q1066 : (Jvm.Cond.code ({ cls := "TurnpikeTrust$Bit", name := "<init>", desc := "(I)V" } : Jvm.MethodName) prog_7_method_1_code (2 : Nat) (Option.none : Option Jvm.ClassFile.FieldType)) ∈ lw_all := lw_g (lw_at lw_m5 44 rfl) rfl
theorem q1067 : (Jvm.Cond.methodLink "TurnpikeTrust$Bit" (1 : Nat) ({ cls := "java/lang/Object", name := "<init>", desc := "()V" } : Jvm.MethodName)) ∈ lw_all := lw_g (lw_at lw_m5 45 rfl) rfl
theorem q1068 : (Jvm.Cond.fieldLink "TurnpikeTrust$Bit" (7 : Nat) "TurnpikeTrust$Bit" "bit" "I") ∈ lw_all := lw_g (lw_at lw_m5 46 rfl) rfl
theorem q1069 : (Jvm.Cond.laysFinal "TurnpikeTrust$Bit" "TurnpikeTrust$Bit" "bit" "I") ∈ lw_all := lw_g (lw_at lw_m5 47 rfl) rfl
theorem q1070 : (Jvm.Cond.soleField "TurnpikeTrust$Bit" "bit") ∈ lw_all := lw_g (lw_at lw_m5 48 rfl) rfl
theorem q1071 : (Jvm.Cond.superclass "TurnpikeTrust$Bit" "java/lang/Object") ∈ lw_all := lw_g (lw_at lw_m5 49 rfl) rfl
theorem q1154 : (Jvm.Cond.selects "TurnpikeTrust$Bit" ({ cls := "java/lang/Object", name := "getClass", desc := "()Ljava/lang/Class;" } : Jvm.MethodName) ({ cls := "java/lang/Object", name := "getClass", desc := "()Ljava/lang/Class;" } : Jvm.MethodName)) ∈ lw_all := lw_g (lw_at lw_m5 132 rfl) rfl
theorem q1323 : (Jvm.Cond.fieldLink "TurnpikeTrust$Bit" (19 : Nat) "TurnpikeTrust$Traveller" "bits" "I") ∈ lw_all := lw_g (lw_at lw_m6 61 rfl) rfl
theorem q1456 : (Jvm.Cond.castable "TurnpikeTrust$Bit" "TurnpikeTrust$Condition") ∈ lw_tbl := lw_at lw_m6 194 rfl
theorem q1457 : (Jvm.Cond.selects "TurnpikeTrust$Bit" ({ cls := "TurnpikeTrust$Condition", name := "holds", desc := "(LTurnpikeTrust$Pass;)Z" } : Jvm.MethodName) ({ cls := "TurnpikeTrust$Bit", name := "holds", desc := "(LTurnpikeTrust$Pass;)Z" } : Jvm.MethodName)) ∈ lw_all := lw_g (lw_at lw_m6 195 rfl) rfl
theorem q1458 : (Jvm.Cond.unhidden "TurnpikeTrust$Bit" "holds" "(LTurnpikeTrust$Pass;)Z") ∈ lw_tbl := lw_at lw_m6 196 rfl
theorem q1459 : (Jvm.Cond.instanceMethod ({ cls := "TurnpikeTrust$Bit", name := "holds", desc := "(LTurnpikeTrust$Pass;)Z" } : Jvm.MethodName)) ∈ lw_all := lw_g (lw_at lw_m6 197 rfl) rfl
theorem q1460 : (Jvm.Cond.publicMethod ({ cls := "TurnpikeTrust$Bit", name := "holds", desc := "(LTurnpikeTrust$Pass;)Z" } : Jvm.MethodName)) ∈ lw_tbl := lw_at lw_m6 198 rfl
theorem q1461 : (Jvm.Cond.code ({ cls := "TurnpikeTrust$Bit", name := "holds", desc := "(LTurnpikeTrust$Pass;)Z" } : Jvm.MethodName) prog_7_method_2_code (2 : Nat) (Option.some Jvm.ClassFile.FieldType.boolean)) ∈ lw_all := lw_g (lw_at lw_m6 199 rfl) rfl
theorem q2276 : (Jvm.Cond.castable "TurnpikeTrust$Bit" "java/lang/Object") ∈ lw_tbl := lw_at lw_m10 54 rfl
theorem in_X18 : ∀ w ∈ wsX180, w ∈ lw_all := lw_in wsX180 [1069] (by decide +kernel) (by decide +kernel)
/-! TurnpikeTrust$Back -/
set_option maxRecDepth 100000
def RX19 : String := "TurnpikeTrust$Back"
abbrev cX19_init : ByteArray := prog_5_method_1_code
def yX19_init : MethodName := ⟨RX19, "<init>", "()V"⟩
theorem dX19_init_0 : decode cX19_init 0 = .ok (.aload_n 0, 1) := by decide +kernel
theorem dX19_init_1 : decode cX19_init 1 = .ok (.invokespecial 1, 3) := by decide +kernel
theorem dX19_init_4 : decode cX19_init 4 = .ok (.return_, 1) := by decide +kernel
abbrev cX19_holds : ByteArray := prog_5_method_2_code
def yX19_holds : MethodName := ⟨RX19, "holds", "(LTurnpikeTrust$Pass;)Z"⟩
theorem dX19_holds_0 : decode cX19_holds 0 = .ok (.aload_n 1, 1) := by decide +kernel
theorem dX19_holds_1 : decode cX19_holds 1 = .ok (.getfield 7, 3) := by decide +kernel
theorem dX19_holds_4 : decode cX19_holds 4 = .ok (.ireturn, 1) := by decide +kernel
theorem q103 : (Jvm.Cond.initialized "TurnpikeTrust$Back") ∈ lw_all := lw_g (lw_at lw_m1 41 rfl) rfl
theorem q486 : (Jvm.Cond.fieldLinkNest "TurnpikeTrust$Back" (7 : Nat) "TurnpikeTrust$Pass" "isBack" "Z" "TurnpikeTrust") ∈ lw_tbl := lw_at lw_m2 184 rfl
theorem q1073 : (Jvm.Cond.instantiable "TurnpikeTrust$Back" (0 : Nat)) ∈ lw_all := lw_g (lw_at lw_m5 51 rfl) rfl
theorem q1075 : (Jvm.Cond.instanceMethod ({ cls := "TurnpikeTrust$Back", name := "<init>", desc := "()V" } : Jvm.MethodName)) ∈ lw_all := lw_g (lw_at lw_m5 53 rfl) rfl
theorem q1076 : (Jvm.Cond.code ({ cls := "TurnpikeTrust$Back", name := "<init>", desc := "()V" } : Jvm.MethodName) prog_5_method_1_code (1 : Nat) (Option.none : Option Jvm.ClassFile.FieldType)) ∈ lw_all := lw_g (lw_at lw_m5 54 rfl) rfl
theorem q1077 : (Jvm.Cond.methodLink "TurnpikeTrust$Back" (1 : Nat) ({ cls := "java/lang/Object", name := "<init>", desc := "()V" } : Jvm.MethodName)) ∈ lw_all := lw_g (lw_at lw_m5 55 rfl) rfl
theorem q1078 : (Jvm.Cond.superclass "TurnpikeTrust$Back" "java/lang/Object") ∈ lw_all := lw_g (lw_at lw_m5 56 rfl) rfl
theorem q1152 : (Jvm.Cond.selects "TurnpikeTrust$Back" ({ cls := "java/lang/Object", name := "getClass", desc := "()Ljava/lang/Class;" } : Jvm.MethodName) ({ cls := "java/lang/Object", name := "getClass", desc := "()Ljava/lang/Class;" } : Jvm.MethodName)) ∈ lw_all := lw_g (lw_at lw_m5 130 rfl) rfl
theorem q1450 : (Jvm.Cond.castable "TurnpikeTrust$Back" "TurnpikeTrust$Condition") ∈ lw_tbl := lw_at lw_m6 188 rfl
theorem q1451 : (Jvm.Cond.selects "TurnpikeTrust$Back" ({ cls := "TurnpikeTrust$Condition", name := "holds", desc := "(LTurnpikeTrust$Pass;)Z" } : Jvm.MethodName) ({ cls := "TurnpikeTrust$Back", name := "holds", desc := "(LTurnpikeTrust$Pass;)Z" } : Jvm.MethodName)) ∈ lw_all := lw_g (lw_at lw_m6 189 rfl) rfl
theorem q1452 : (Jvm.Cond.unhidden "TurnpikeTrust$Back" "holds" "(LTurnpikeTrust$Pass;)Z") ∈ lw_tbl := lw_at lw_m6 190 rfl
theorem q1453 : (Jvm.Cond.instanceMethod ({ cls := "TurnpikeTrust$Back", name := "holds", desc := "(LTurnpikeTrust$Pass;)Z" } : Jvm.MethodName)) ∈ lw_all := lw_g (lw_at lw_m6 191 rfl) rfl
theorem q1454 : (Jvm.Cond.publicMethod ({ cls := "TurnpikeTrust$Back", name := "holds", desc := "(LTurnpikeTrust$Pass;)Z" } : Jvm.MethodName)) ∈ lw_tbl := lw_at lw_m6 192 rfl
theorem q1455 : (Jvm.Cond.code ({ cls := "TurnpikeTrust$Back", name := "holds", desc := "(LTurnpikeTrust$Pass;)Z" } : Jvm.MethodName) prog_5_method_2_code (2 : Nat) (Option.some Jvm.ClassFile.FieldType.boolean)) ∈ lw_all := lw_g (lw_at lw_m6 193 rfl) rfl
theorem q2277 : (Jvm.Cond.castable "TurnpikeTrust$Back" "java/lang/Object") ∈ lw_tbl := lw_at lw_m10 55 rfl
/-! TurnpikeTrust$Compares -/
set_option maxRecDepth 100000
def RX20 : String := "TurnpikeTrust$Compares"
def TX20 : u_T := fun k => match k with
  | 0 => ("TurnpikeTrust$Compares", "what", "I", true)
  | 1 => ("TurnpikeTrust$Compares", "sign", "I", true)
  | _ => ("TurnpikeTrust$Compares", "number", "I", true)
def tyX20 : Nat → FieldType := fun k => match k with
  | 0 => .int
  | 1 => .int
  | _ => .int
abbrev wsX200 : List Cond := u_ws RX20 TX20 3
theorem nmX20 : ∀ a, a < 3 → ∀ b, b < 3 → a ≠ b → (TX20 a).2.1 ≠ (TX20 b).2.1 := by decide +kernel
theorem tyX20_ok : ∀ k, k < 3 → parseFieldDescriptor (TX20 k).2.2.1 = some (tyX20 k) := by decide +kernel
abbrev cX20_init : ByteArray := prog_9_method_1_code
def yX20_init : MethodName := ⟨RX20, "<init>", "(III)V"⟩
def dkwX20_init_0 : List UInt8 := [42, 183, 0, 1, 42, 27, 181, 0, 7, 42, 28, 181, 0, 13, 42, 29, 181, 0, 16, 177]
abbrev dktX20_init_0 : List UInt8 := dkwX20_init_0 ++ []
theorem dksX20_init_0 : cX20_init.data.toList.drop 0 = dktX20_init_0 := by decide +kernel
theorem dX20_init_0 : decode cX20_init 0 = .ok (.aload_n 0, 1) := dk_42 (dk_at dksX20_init_0 0 rfl rfl)
theorem dX20_init_1 : decode cX20_init 1 = .ok (.invokespecial 1, 3) := dk_183 0 1 (dk_at dksX20_init_0 1 rfl rfl)
theorem dX20_init_4 : decode cX20_init 4 = .ok (.aload_n 0, 1) := dk_42 (dk_at dksX20_init_0 4 rfl rfl)
theorem dX20_init_5 : decode cX20_init 5 = .ok (.iload_n 1, 1) := dk_27 (dk_at dksX20_init_0 5 rfl rfl)
theorem dX20_init_6 : decode cX20_init 6 = .ok (.putfield 7, 3) := dk_181 0 7 (dk_at dksX20_init_0 6 rfl rfl)
theorem dX20_init_9 : decode cX20_init 9 = .ok (.aload_n 0, 1) := dk_42 (dk_at dksX20_init_0 9 rfl rfl)
theorem dX20_init_10 : decode cX20_init 10 = .ok (.iload_n 2, 1) := dk_28 (dk_at dksX20_init_0 10 rfl rfl)
theorem dX20_init_11 : decode cX20_init 11 = .ok (.putfield 13, 3) := dk_181 0 13 (dk_at dksX20_init_0 11 rfl rfl)
theorem dX20_init_14 : decode cX20_init 14 = .ok (.aload_n 0, 1) := dk_42 (dk_at dksX20_init_0 14 rfl rfl)
theorem dX20_init_15 : decode cX20_init 15 = .ok (.iload_n 3, 1) := dk_29 (dk_at dksX20_init_0 15 rfl rfl)
theorem dX20_init_16 : decode cX20_init 16 = .ok (.putfield 16, 3) := dk_181 0 16 (dk_at dksX20_init_0 16 rfl rfl)
theorem dX20_init_19 : decode cX20_init 19 = .ok (.return_, 1) := dk_177 (dk_at dksX20_init_0 19 rfl rfl)
abbrev cX20_holds : ByteArray := prog_9_method_2_code
def yX20_holds : MethodName := ⟨RX20, "holds", "(LTurnpikeTrust$Pass;)Z"⟩
def dkwX20_holds_5 : List UInt8 := [167, 0, 4, 3, 172]
abbrev dktX20_holds_5 : List UInt8 := dkwX20_holds_5 ++ []
def dkwX20_holds_4 : List UInt8 := [42, 180, 0, 16, 162, 0, 7, 4, 167, 0, 20, 3, 167, 0, 16, 28, 42, 180, 0, 16, 164, 0, 7, 4]
abbrev dktX20_holds_4 : List UInt8 := dkwX20_holds_4 ++ dktX20_holds_5
def dkwX20_holds_3 : List UInt8 := [180, 0, 16, 160, 0, 7, 4, 167, 0, 45, 3, 167, 0, 41, 42, 180, 0, 13, 16, 60, 160, 0, 19, 28]
abbrev dktX20_holds_3 : List UInt8 := dkwX20_holds_3 ++ dktX20_holds_4
def dkwX20_holds_2 : List UInt8 := [180, 0, 33, 167, 0, 7, 43, 180, 0, 36, 61, 42, 180, 0, 13, 16, 61, 160, 0, 19, 28, 42]
abbrev dktX20_holds_2 : List UInt8 := dkwX20_holds_2 ++ dktX20_holds_3
def dkwX20_holds_1 : List UInt8 := [160, 0, 13, 43, 180, 0, 19, 180, 0, 30, 167, 0, 22, 42, 180, 0, 7, 5, 160, 0, 10, 43]
abbrev dktX20_holds_1 : List UInt8 := dkwX20_holds_1 ++ dktX20_holds_2
def dkwX20_holds_0 : List UInt8 := [42, 180, 0, 7, 154, 0, 13, 43, 180, 0, 19, 180, 0, 25, 167, 0, 40, 42, 180, 0, 7, 4]
abbrev dktX20_holds_0 : List UInt8 := dkwX20_holds_0 ++ dktX20_holds_1
theorem dksX20_holds_0 : cX20_holds.data.toList.drop 0 = dktX20_holds_0 := by decide +kernel
theorem dksX20_holds_1 : cX20_holds.data.toList.drop 22 = dktX20_holds_1 := dk_seg dksX20_holds_0 22 rfl rfl
theorem dksX20_holds_2 : cX20_holds.data.toList.drop 44 = dktX20_holds_2 := dk_seg dksX20_holds_1 22 rfl rfl
theorem dksX20_holds_3 : cX20_holds.data.toList.drop 66 = dktX20_holds_3 := dk_seg dksX20_holds_2 22 rfl rfl
theorem dksX20_holds_4 : cX20_holds.data.toList.drop 90 = dktX20_holds_4 := dk_seg dksX20_holds_3 24 rfl rfl
theorem dksX20_holds_5 : cX20_holds.data.toList.drop 114 = dktX20_holds_5 := dk_seg dksX20_holds_4 24 rfl rfl
theorem dX20_holds_0 : decode cX20_holds 0 = .ok (.aload_n 0, 1) := dk_42 (dk_at dksX20_holds_0 0 rfl rfl)
theorem dX20_holds_1 : decode cX20_holds 1 = .ok (.getfield 7, 3) := dk_180 0 7 (dk_at dksX20_holds_0 1 rfl rfl)
theorem dX20_holds_4 : decode cX20_holds 4 = .ok (.ifCond .ne 13, 3) := dk_154 0 13 (dk_at dksX20_holds_0 4 rfl rfl)
theorem dX20_holds_7 : decode cX20_holds 7 = .ok (.aload_n 1, 1) := dk_43 (dk_at dksX20_holds_0 7 rfl rfl)
theorem dX20_holds_8 : decode cX20_holds 8 = .ok (.getfield 19, 3) := dk_180 0 19 (dk_at dksX20_holds_0 8 rfl rfl)
theorem dX20_holds_11 : decode cX20_holds 11 = .ok (.getfield 25, 3) := dk_180 0 25 (dk_at dksX20_holds_0 11 rfl rfl)
theorem dX20_holds_14 : decode cX20_holds 14 = .ok (.goto 40, 3) := dk_167 0 40 (dk_at dksX20_holds_0 14 rfl rfl)
theorem dX20_holds_17 : decode cX20_holds 17 = .ok (.aload_n 0, 1) := dk_42 (dk_at dksX20_holds_0 17 rfl rfl)
theorem dX20_holds_18 : decode cX20_holds 18 = .ok (.getfield 7, 3) := dk_180 0 7 (dk_at dksX20_holds_0 18 rfl rfl)
theorem dX20_holds_21 : decode cX20_holds 21 = .ok (.iconst 1, 1) := dk_4 (dk_at dksX20_holds_0 21 rfl rfl)
theorem dX20_holds_22 : decode cX20_holds 22 = .ok (.if_icmp .ne 13, 3) := dk_160 0 13 (dk_at dksX20_holds_1 0 rfl rfl)
theorem dX20_holds_25 : decode cX20_holds 25 = .ok (.aload_n 1, 1) := dk_43 (dk_at dksX20_holds_1 3 rfl rfl)
theorem dX20_holds_26 : decode cX20_holds 26 = .ok (.getfield 19, 3) := dk_180 0 19 (dk_at dksX20_holds_1 4 rfl rfl)
theorem dX20_holds_29 : decode cX20_holds 29 = .ok (.getfield 30, 3) := dk_180 0 30 (dk_at dksX20_holds_1 7 rfl rfl)
theorem dX20_holds_32 : decode cX20_holds 32 = .ok (.goto 22, 3) := dk_167 0 22 (dk_at dksX20_holds_1 10 rfl rfl)
theorem dX20_holds_35 : decode cX20_holds 35 = .ok (.aload_n 0, 1) := dk_42 (dk_at dksX20_holds_1 13 rfl rfl)
theorem dX20_holds_36 : decode cX20_holds 36 = .ok (.getfield 7, 3) := dk_180 0 7 (dk_at dksX20_holds_1 14 rfl rfl)
theorem dX20_holds_39 : decode cX20_holds 39 = .ok (.iconst 2, 1) := dk_5 (dk_at dksX20_holds_1 17 rfl rfl)
theorem dX20_holds_40 : decode cX20_holds 40 = .ok (.if_icmp .ne 10, 3) := dk_160 0 10 (dk_at dksX20_holds_1 18 rfl rfl)
theorem dX20_holds_43 : decode cX20_holds 43 = .ok (.aload_n 1, 1) := dk_43 (dk_at dksX20_holds_1 21 rfl rfl)
theorem dX20_holds_44 : decode cX20_holds 44 = .ok (.getfield 33, 3) := dk_180 0 33 (dk_at dksX20_holds_2 0 rfl rfl)
theorem dX20_holds_47 : decode cX20_holds 47 = .ok (.goto 7, 3) := dk_167 0 7 (dk_at dksX20_holds_2 3 rfl rfl)
theorem dX20_holds_50 : decode cX20_holds 50 = .ok (.aload_n 1, 1) := dk_43 (dk_at dksX20_holds_2 6 rfl rfl)
theorem dX20_holds_51 : decode cX20_holds 51 = .ok (.getfield 36, 3) := dk_180 0 36 (dk_at dksX20_holds_2 7 rfl rfl)
theorem dX20_holds_54 : decode cX20_holds 54 = .ok (.istore_n 2, 1) := dk_61 (dk_at dksX20_holds_2 10 rfl rfl)
theorem dX20_holds_55 : decode cX20_holds 55 = .ok (.aload_n 0, 1) := dk_42 (dk_at dksX20_holds_2 11 rfl rfl)
theorem dX20_holds_56 : decode cX20_holds 56 = .ok (.getfield 13, 3) := dk_180 0 13 (dk_at dksX20_holds_2 12 rfl rfl)
theorem dX20_holds_59 : decode cX20_holds 59 = .ok (.bipush 61, 2) := dk_16 61 (dk_at dksX20_holds_2 15 rfl rfl)
theorem dX20_holds_61 : decode cX20_holds 61 = .ok (.if_icmp .ne 19, 3) := dk_160 0 19 (dk_at dksX20_holds_2 17 rfl rfl)
theorem dX20_holds_64 : decode cX20_holds 64 = .ok (.iload_n 2, 1) := dk_28 (dk_at dksX20_holds_2 20 rfl rfl)
theorem dX20_holds_65 : decode cX20_holds 65 = .ok (.aload_n 0, 1) := dk_42 (dk_at dksX20_holds_2 21 rfl rfl)
theorem dX20_holds_66 : decode cX20_holds 66 = .ok (.getfield 16, 3) := dk_180 0 16 (dk_at dksX20_holds_3 0 rfl rfl)
theorem dX20_holds_69 : decode cX20_holds 69 = .ok (.if_icmp .ne 7, 3) := dk_160 0 7 (dk_at dksX20_holds_3 3 rfl rfl)
theorem dX20_holds_72 : decode cX20_holds 72 = .ok (.iconst 1, 1) := dk_4 (dk_at dksX20_holds_3 6 rfl rfl)
theorem dX20_holds_73 : decode cX20_holds 73 = .ok (.goto 45, 3) := dk_167 0 45 (dk_at dksX20_holds_3 7 rfl rfl)
theorem dX20_holds_76 : decode cX20_holds 76 = .ok (.iconst 0, 1) := dk_3 (dk_at dksX20_holds_3 10 rfl rfl)
theorem dX20_holds_77 : decode cX20_holds 77 = .ok (.goto 41, 3) := dk_167 0 41 (dk_at dksX20_holds_3 11 rfl rfl)
theorem dX20_holds_80 : decode cX20_holds 80 = .ok (.aload_n 0, 1) := dk_42 (dk_at dksX20_holds_3 14 rfl rfl)
theorem dX20_holds_81 : decode cX20_holds 81 = .ok (.getfield 13, 3) := dk_180 0 13 (dk_at dksX20_holds_3 15 rfl rfl)
theorem dX20_holds_84 : decode cX20_holds 84 = .ok (.bipush 60, 2) := dk_16 60 (dk_at dksX20_holds_3 18 rfl rfl)
theorem dX20_holds_86 : decode cX20_holds 86 = .ok (.if_icmp .ne 19, 3) := dk_160 0 19 (dk_at dksX20_holds_3 20 rfl rfl)
theorem dX20_holds_89 : decode cX20_holds 89 = .ok (.iload_n 2, 1) := dk_28 (dk_at dksX20_holds_3 23 rfl rfl)
theorem dX20_holds_90 : decode cX20_holds 90 = .ok (.aload_n 0, 1) := dk_42 (dk_at dksX20_holds_4 0 rfl rfl)
theorem dX20_holds_91 : decode cX20_holds 91 = .ok (.getfield 16, 3) := dk_180 0 16 (dk_at dksX20_holds_4 1 rfl rfl)
theorem dX20_holds_94 : decode cX20_holds 94 = .ok (.if_icmp .ge 7, 3) := dk_162 0 7 (dk_at dksX20_holds_4 4 rfl rfl)
theorem dX20_holds_97 : decode cX20_holds 97 = .ok (.iconst 1, 1) := dk_4 (dk_at dksX20_holds_4 7 rfl rfl)
theorem dX20_holds_98 : decode cX20_holds 98 = .ok (.goto 20, 3) := dk_167 0 20 (dk_at dksX20_holds_4 8 rfl rfl)
theorem dX20_holds_101 : decode cX20_holds 101 = .ok (.iconst 0, 1) := dk_3 (dk_at dksX20_holds_4 11 rfl rfl)
theorem dX20_holds_102 : decode cX20_holds 102 = .ok (.goto 16, 3) := dk_167 0 16 (dk_at dksX20_holds_4 12 rfl rfl)
theorem dX20_holds_105 : decode cX20_holds 105 = .ok (.iload_n 2, 1) := dk_28 (dk_at dksX20_holds_4 15 rfl rfl)
theorem dX20_holds_106 : decode cX20_holds 106 = .ok (.aload_n 0, 1) := dk_42 (dk_at dksX20_holds_4 16 rfl rfl)
theorem dX20_holds_107 : decode cX20_holds 107 = .ok (.getfield 16, 3) := dk_180 0 16 (dk_at dksX20_holds_4 17 rfl rfl)
theorem dX20_holds_110 : decode cX20_holds 110 = .ok (.if_icmp .le 7, 3) := dk_164 0 7 (dk_at dksX20_holds_4 20 rfl rfl)
theorem dX20_holds_113 : decode cX20_holds 113 = .ok (.iconst 1, 1) := dk_4 (dk_at dksX20_holds_4 23 rfl rfl)
theorem dX20_holds_114 : decode cX20_holds 114 = .ok (.goto 4, 3) := dk_167 0 4 (dk_at dksX20_holds_5 0 rfl rfl)
theorem dX20_holds_117 : decode cX20_holds 117 = .ok (.iconst 0, 1) := dk_3 (dk_at dksX20_holds_5 3 rfl rfl)
theorem dX20_holds_118 : decode cX20_holds 118 = .ok (.ireturn, 1) := dk_172 (dk_at dksX20_holds_5 4 rfl rfl)
theorem q104 : (Jvm.Cond.initialized "TurnpikeTrust$Compares") ∈ lw_all := lw_g (lw_at lw_m1 42 rfl) rfl
theorem q480 : (Jvm.Cond.fieldLinkNest "TurnpikeTrust$Compares" (19 : Nat) "TurnpikeTrust$Pass" "who" "LTurnpikeTrust$Traveller;" "TurnpikeTrust") ∈ lw_tbl := lw_at lw_m2 178 rfl
theorem q482 : (Jvm.Cond.fieldLinkNest "TurnpikeTrust$Compares" (33 : Nat) "TurnpikeTrust$Pass" "gate" "I" "TurnpikeTrust") ∈ lw_tbl := lw_at lw_m2 180 rfl
theorem q484 : (Jvm.Cond.fieldLinkNest "TurnpikeTrust$Compares" (36 : Nat) "TurnpikeTrust$Pass" "day" "I" "TurnpikeTrust") ∈ lw_tbl := lw_at lw_m2 182 rfl
theorem q1084 : (Jvm.Cond.instantiable "TurnpikeTrust$Compares" (3 : Nat)) ∈ lw_all := lw_g (lw_at lw_m5 62 rfl) rfl
theorem q1086 : (Jvm.Cond.instanceMethod ({ cls := "TurnpikeTrust$Compares", name := "<init>", desc := "(III)V" } : Jvm.MethodName)) ∈ lw_all := lw_g (lw_at lw_m5 64 rfl) rfl
theorem q1087 : (Jvm.Cond.code ({ cls := "TurnpikeTrust$Compares", name := "<init>", desc := "(III)V" } : Jvm.MethodName) prog_9_method_1_code (4 : Nat) (Option.none : Option Jvm.ClassFile.FieldType)) ∈ lw_all := lw_g (lw_at lw_m5 65 rfl) rfl
theorem q1088 : (Jvm.Cond.methodLink "TurnpikeTrust$Compares" (1 : Nat) ({ cls := "java/lang/Object", name := "<init>", desc := "()V" } : Jvm.MethodName)) ∈ lw_all := lw_g (lw_at lw_m5 66 rfl) rfl
theorem q1089 : (Jvm.Cond.fieldLink "TurnpikeTrust$Compares" (7 : Nat) "TurnpikeTrust$Compares" "what" "I") ∈ lw_all := lw_g (lw_at lw_m5 67 rfl) rfl
theorem q1090 : (Jvm.Cond.fieldLink "TurnpikeTrust$Compares" (13 : Nat) "TurnpikeTrust$Compares" "sign" "I") ∈ lw_all := lw_g (lw_at lw_m5 68 rfl) rfl
theorem q1091 : (Jvm.Cond.fieldLink "TurnpikeTrust$Compares" (16 : Nat) "TurnpikeTrust$Compares" "number" "I") ∈ lw_all := lw_g (lw_at lw_m5 69 rfl) rfl
theorem q1092 : (Jvm.Cond.laysFinal "TurnpikeTrust$Compares" "TurnpikeTrust$Compares" "what" "I") ∈ lw_all := lw_g (lw_at lw_m5 70 rfl) rfl
theorem q1093 : (Jvm.Cond.soleField "TurnpikeTrust$Compares" "what") ∈ lw_all := lw_g (lw_at lw_m5 71 rfl) rfl
theorem q1094 : (Jvm.Cond.laysFinal "TurnpikeTrust$Compares" "TurnpikeTrust$Compares" "sign" "I") ∈ lw_all := lw_g (lw_at lw_m5 72 rfl) rfl
theorem q1095 : (Jvm.Cond.soleField "TurnpikeTrust$Compares" "sign") ∈ lw_all := lw_g (lw_at lw_m5 73 rfl) rfl
theorem q1096 : (Jvm.Cond.laysFinal "TurnpikeTrust$Compares" "TurnpikeTrust$Compares" "number" "I") ∈ lw_all := lw_g (lw_at lw_m5 74 rfl) rfl
theorem q1097 : (Jvm.Cond.soleField "TurnpikeTrust$Compares" "number") ∈ lw_all := lw_g (lw_at lw_m5 75 rfl) rfl
theorem q1098 : (Jvm.Cond.superclass "TurnpikeTrust$Compares" "java/lang/Object") ∈ lw_all := lw_g (lw_at lw_m5 76 rfl) rfl
theorem q1155 : (Jvm.Cond.selects "TurnpikeTrust$Compares" ({ cls := "java/lang/Object", name := "getClass", desc := "()Ljava/lang/Class;" } : Jvm.MethodName) ({ cls := "java/lang/Object", name := "getClass", desc := "()Ljava/lang/Class;" } : Jvm.MethodName)) ∈ lw_all := lw_g (lw_at lw_m5 133 rfl) rfl
theorem q1313 : (Jvm.Cond.fieldLink "TurnpikeTrust$Compares" (25 : Nat) "TurnpikeTrust$Traveller" "wheels" "I") ∈ lw_all := lw_g (lw_at lw_m6 51 rfl) rfl
theorem q1321 : (Jvm.Cond.fieldLink "TurnpikeTrust$Compares" (30 : Nat) "TurnpikeTrust$Traveller" "beasts" "I") ∈ lw_all := lw_g (lw_at lw_m6 59 rfl) rfl
theorem q1462 : (Jvm.Cond.castable "TurnpikeTrust$Compares" "TurnpikeTrust$Condition") ∈ lw_tbl := lw_at lw_m6 200 rfl
theorem q1463 : (Jvm.Cond.selects "TurnpikeTrust$Compares" ({ cls := "TurnpikeTrust$Condition", name := "holds", desc := "(LTurnpikeTrust$Pass;)Z" } : Jvm.MethodName) ({ cls := "TurnpikeTrust$Compares", name := "holds", desc := "(LTurnpikeTrust$Pass;)Z" } : Jvm.MethodName)) ∈ lw_all := lw_g (lw_at lw_m6 201 rfl) rfl
theorem q1464 : (Jvm.Cond.unhidden "TurnpikeTrust$Compares" "holds" "(LTurnpikeTrust$Pass;)Z") ∈ lw_tbl := lw_at lw_m6 202 rfl
theorem q1465 : (Jvm.Cond.instanceMethod ({ cls := "TurnpikeTrust$Compares", name := "holds", desc := "(LTurnpikeTrust$Pass;)Z" } : Jvm.MethodName)) ∈ lw_all := lw_g (lw_at lw_m6 203 rfl) rfl
theorem q1466 : (Jvm.Cond.publicMethod ({ cls := "TurnpikeTrust$Compares", name := "holds", desc := "(LTurnpikeTrust$Pass;)Z" } : Jvm.MethodName)) ∈ lw_tbl := lw_at lw_m6 204 rfl
theorem q1467 : (Jvm.Cond.code ({ cls := "TurnpikeTrust$Compares", name := "holds", desc := "(LTurnpikeTrust$Pass;)Z" } : Jvm.MethodName) prog_9_method_2_code (3 : Nat) (Option.some Jvm.ClassFile.FieldType.boolean)) ∈ lw_all := lw_g (lw_at lw_m6 205 rfl) rfl
theorem q2278 : (Jvm.Cond.castable "TurnpikeTrust$Compares" "java/lang/Object") ∈ lw_tbl := lw_at lw_m10 56 rfl
theorem in_X20 : ∀ w ∈ wsX200, w ∈ lw_all := lw_in wsX200 [1092, 1094, 1096] (by decide +kernel) (by decide +kernel)
/-! TurnpikeTrust$KindIs -/
set_option maxRecDepth 100000
def RX21 : String := "TurnpikeTrust$KindIs"
def TX21 : u_T := fun k => match k with
  | _ => ("TurnpikeTrust$KindIs", "kind", "I", true)
def tyX21 : Nat → FieldType := fun k => match k with
  | _ => .int
abbrev wsX210 : List Cond := u_ws RX21 TX21 1
theorem nmX21 : ∀ a, a < 1 → ∀ b, b < 1 → a ≠ b → (TX21 a).2.1 ≠ (TX21 b).2.1 := by decide +kernel
theorem tyX21_ok : ∀ k, k < 1 → parseFieldDescriptor (TX21 k).2.2.1 = some (tyX21 k) := by decide +kernel
abbrev cX21_init : ByteArray := prog_16_method_1_code
def yX21_init : MethodName := ⟨RX21, "<init>", "(I)V"⟩
def dkwX21_init_0 : List UInt8 := [42, 183, 0, 1, 42, 27, 181, 0, 7, 177]
abbrev dktX21_init_0 : List UInt8 := dkwX21_init_0 ++ []
theorem dksX21_init_0 : cX21_init.data.toList.drop 0 = dktX21_init_0 := by decide +kernel
theorem dX21_init_0 : decode cX21_init 0 = .ok (.aload_n 0, 1) := dk_42 (dk_at dksX21_init_0 0 rfl rfl)
theorem dX21_init_1 : decode cX21_init 1 = .ok (.invokespecial 1, 3) := dk_183 0 1 (dk_at dksX21_init_0 1 rfl rfl)
theorem dX21_init_4 : decode cX21_init 4 = .ok (.aload_n 0, 1) := dk_42 (dk_at dksX21_init_0 4 rfl rfl)
theorem dX21_init_5 : decode cX21_init 5 = .ok (.iload_n 1, 1) := dk_27 (dk_at dksX21_init_0 5 rfl rfl)
theorem dX21_init_6 : decode cX21_init 6 = .ok (.putfield 7, 3) := dk_181 0 7 (dk_at dksX21_init_0 6 rfl rfl)
theorem dX21_init_9 : decode cX21_init 9 = .ok (.return_, 1) := dk_177 (dk_at dksX21_init_0 9 rfl rfl)
abbrev cX21_holds : ByteArray := prog_16_method_2_code
def yX21_holds : MethodName := ⟨RX21, "holds", "(LTurnpikeTrust$Pass;)Z"⟩
def dkwX21_holds_0 : List UInt8 := [43, 180, 0, 13, 182, 0, 19, 42, 180, 0, 7, 160, 0, 7, 4, 167, 0, 4, 3, 172]
abbrev dktX21_holds_0 : List UInt8 := dkwX21_holds_0 ++ []
theorem dksX21_holds_0 : cX21_holds.data.toList.drop 0 = dktX21_holds_0 := by decide +kernel
theorem dX21_holds_0 : decode cX21_holds 0 = .ok (.aload_n 1, 1) := dk_43 (dk_at dksX21_holds_0 0 rfl rfl)
theorem dX21_holds_1 : decode cX21_holds 1 = .ok (.getfield 13, 3) := dk_180 0 13 (dk_at dksX21_holds_0 1 rfl rfl)
theorem dX21_holds_4 : decode cX21_holds 4 = .ok (.invokevirtual 19, 3) := dk_182 0 19 (dk_at dksX21_holds_0 4 rfl rfl)
theorem dX21_holds_7 : decode cX21_holds 7 = .ok (.aload_n 0, 1) := dk_42 (dk_at dksX21_holds_0 7 rfl rfl)
theorem dX21_holds_8 : decode cX21_holds 8 = .ok (.getfield 7, 3) := dk_180 0 7 (dk_at dksX21_holds_0 8 rfl rfl)
theorem dX21_holds_11 : decode cX21_holds 11 = .ok (.if_icmp .ne 7, 3) := dk_160 0 7 (dk_at dksX21_holds_0 11 rfl rfl)
theorem dX21_holds_14 : decode cX21_holds 14 = .ok (.iconst 1, 1) := dk_4 (dk_at dksX21_holds_0 14 rfl rfl)
theorem dX21_holds_15 : decode cX21_holds 15 = .ok (.goto 4, 3) := dk_167 0 4 (dk_at dksX21_holds_0 15 rfl rfl)
theorem dX21_holds_18 : decode cX21_holds 18 = .ok (.iconst 0, 1) := dk_3 (dk_at dksX21_holds_0 18 rfl rfl)
theorem dX21_holds_19 : decode cX21_holds 19 = .ok (.ireturn, 1) := dk_172 (dk_at dksX21_holds_0 19 rfl rfl)
theorem q105 : (Jvm.Cond.initialized "TurnpikeTrust$KindIs") ∈ lw_all := lw_g (lw_at lw_m1 43 rfl) rfl
theorem q477 : (Jvm.Cond.fieldLinkNest "TurnpikeTrust$KindIs" (13 : Nat) "TurnpikeTrust$Pass" "who" "LTurnpikeTrust$Traveller;" "TurnpikeTrust") ∈ lw_tbl := lw_at lw_m2 175 rfl
theorem q1114 : (Jvm.Cond.instantiable "TurnpikeTrust$KindIs" (1 : Nat)) ∈ lw_all := lw_g (lw_at lw_m5 92 rfl) rfl
theorem q1116 : (Jvm.Cond.instanceMethod ({ cls := "TurnpikeTrust$KindIs", name := "<init>", desc := "(I)V" } : Jvm.MethodName)) ∈ lw_all := lw_g (lw_at lw_m5 94 rfl) rfl
theorem q1117 : (Jvm.Cond.code ({ cls := "TurnpikeTrust$KindIs", name := "<init>", desc := "(I)V" } : Jvm.MethodName) prog_16_method_1_code (2 : Nat) (Option.none : Option Jvm.ClassFile.FieldType)) ∈ lw_all := lw_g (lw_at lw_m5 95 rfl) rfl
theorem q1118 : (Jvm.Cond.methodLink "TurnpikeTrust$KindIs" (1 : Nat) ({ cls := "java/lang/Object", name := "<init>", desc := "()V" } : Jvm.MethodName)) ∈ lw_all := lw_g (lw_at lw_m5 96 rfl) rfl
theorem q1119 : (Jvm.Cond.fieldLink "TurnpikeTrust$KindIs" (7 : Nat) "TurnpikeTrust$KindIs" "kind" "I") ∈ lw_all := lw_g (lw_at lw_m5 97 rfl) rfl
theorem q1120 : (Jvm.Cond.laysFinal "TurnpikeTrust$KindIs" "TurnpikeTrust$KindIs" "kind" "I") ∈ lw_all := lw_g (lw_at lw_m5 98 rfl) rfl
theorem q1121 : (Jvm.Cond.soleField "TurnpikeTrust$KindIs" "kind") ∈ lw_all := lw_g (lw_at lw_m5 99 rfl) rfl
theorem q1122 : (Jvm.Cond.superclass "TurnpikeTrust$KindIs" "java/lang/Object") ∈ lw_all := lw_g (lw_at lw_m5 100 rfl) rfl
theorem q1161 : (Jvm.Cond.selects "TurnpikeTrust$KindIs" ({ cls := "java/lang/Object", name := "getClass", desc := "()Ljava/lang/Class;" } : Jvm.MethodName) ({ cls := "java/lang/Object", name := "getClass", desc := "()Ljava/lang/Class;" } : Jvm.MethodName)) ∈ lw_all := lw_g (lw_at lw_m5 139 rfl) rfl
theorem q1468 : (Jvm.Cond.castable "TurnpikeTrust$KindIs" "TurnpikeTrust$Condition") ∈ lw_tbl := lw_at lw_m6 206 rfl
theorem q1469 : (Jvm.Cond.selects "TurnpikeTrust$KindIs" ({ cls := "TurnpikeTrust$Condition", name := "holds", desc := "(LTurnpikeTrust$Pass;)Z" } : Jvm.MethodName) ({ cls := "TurnpikeTrust$KindIs", name := "holds", desc := "(LTurnpikeTrust$Pass;)Z" } : Jvm.MethodName)) ∈ lw_all := lw_g (lw_at lw_m6 207 rfl) rfl
theorem q1470 : (Jvm.Cond.unhidden "TurnpikeTrust$KindIs" "holds" "(LTurnpikeTrust$Pass;)Z") ∈ lw_tbl := lw_at lw_m6 208 rfl
theorem q1471 : (Jvm.Cond.instanceMethod ({ cls := "TurnpikeTrust$KindIs", name := "holds", desc := "(LTurnpikeTrust$Pass;)Z" } : Jvm.MethodName)) ∈ lw_all := lw_g (lw_at lw_m6 209 rfl) rfl
theorem q1472 : (Jvm.Cond.publicMethod ({ cls := "TurnpikeTrust$KindIs", name := "holds", desc := "(LTurnpikeTrust$Pass;)Z" } : Jvm.MethodName)) ∈ lw_tbl := lw_at lw_m6 210 rfl
theorem q1473 : (Jvm.Cond.code ({ cls := "TurnpikeTrust$KindIs", name := "holds", desc := "(LTurnpikeTrust$Pass;)Z" } : Jvm.MethodName) prog_16_method_2_code (2 : Nat) (Option.some Jvm.ClassFile.FieldType.boolean)) ∈ lw_all := lw_g (lw_at lw_m6 211 rfl) rfl
theorem q1474 : (Jvm.Cond.methodLink "TurnpikeTrust$KindIs" (19 : Nat) ({ cls := "TurnpikeTrust$Traveller", name := "kind", desc := "()I" } : Jvm.MethodName)) ∈ lw_all := lw_g (lw_at lw_m6 212 rfl) rfl
theorem q2279 : (Jvm.Cond.castable "TurnpikeTrust$KindIs" "java/lang/Object") ∈ lw_tbl := lw_at lw_m10 57 rfl
theorem in_X21 : ∀ w ∈ wsX210, w ∈ lw_all := lw_in wsX210 [1120] (by decide +kernel) (by decide +kernel)
/-! TurnpikeTrust$Stretch -/
set_option maxRecDepth 100000
def RX22 : String := "TurnpikeTrust$Stretch"
def TX22 : u_T := fun k => match k with
  | 0 => ("TurnpikeTrust$Stretch", "price", "I", true)
  | _ => ("TurnpikeTrust$Stretch", "wear", "J", false)
def tyX22 : Nat → FieldType := fun k => match k with
  | 0 => .int
  | _ => .long
abbrev wsX220 : List Cond := u_ws RX22 TX22 2
theorem nmX22 : ∀ a, a < 2 → ∀ b, b < 2 → a ≠ b → (TX22 a).2.1 ≠ (TX22 b).2.1 := by decide +kernel
theorem tyX22_ok : ∀ k, k < 2 → parseFieldDescriptor (TX22 k).2.2.1 = some (tyX22 k) := by decide +kernel
abbrev cX22_init : ByteArray := prog_25_method_1_code
def yX22_init : MethodName := ⟨RX22, "<init>", "(I)V"⟩
def dkwX22_init_0 : List UInt8 := [42, 183, 0, 1, 42, 27, 181, 0, 7, 177]
abbrev dktX22_init_0 : List UInt8 := dkwX22_init_0 ++ []
theorem dksX22_init_0 : cX22_init.data.toList.drop 0 = dktX22_init_0 := by decide +kernel
theorem dX22_init_0 : decode cX22_init 0 = .ok (.aload_n 0, 1) := dk_42 (dk_at dksX22_init_0 0 rfl rfl)
theorem dX22_init_1 : decode cX22_init 1 = .ok (.invokespecial 1, 3) := dk_183 0 1 (dk_at dksX22_init_0 1 rfl rfl)
theorem dX22_init_4 : decode cX22_init 4 = .ok (.aload_n 0, 1) := dk_42 (dk_at dksX22_init_0 4 rfl rfl)
theorem dX22_init_5 : decode cX22_init 5 = .ok (.iload_n 1, 1) := dk_27 (dk_at dksX22_init_0 5 rfl rfl)
theorem dX22_init_6 : decode cX22_init 6 = .ok (.putfield 7, 3) := dk_181 0 7 (dk_at dksX22_init_0 6 rfl rfl)
theorem dX22_init_9 : decode cX22_init 9 = .ok (.return_, 1) := dk_177 (dk_at dksX22_init_0 9 rfl rfl)
abbrev cX22_taken : ByteArray := prog_25_method_2_code
def yX22_taken : MethodName := ⟨RX22, "taken", "()J"⟩
def dkwX22_taken_0 : List UInt8 := [42, 180, 0, 13, 20, 0, 17, 184, 0, 19, 173]
abbrev dktX22_taken_0 : List UInt8 := dkwX22_taken_0 ++ []
theorem dksX22_taken_0 : cX22_taken.data.toList.drop 0 = dktX22_taken_0 := by decide +kernel
theorem dX22_taken_0 : decode cX22_taken 0 = .ok (.aload_n 0, 1) := dk_42 (dk_at dksX22_taken_0 0 rfl rfl)
theorem dX22_taken_1 : decode cX22_taken 1 = .ok (.getfield 13, 3) := dk_180 0 13 (dk_at dksX22_taken_0 1 rfl rfl)
theorem dX22_taken_4 : decode cX22_taken 4 = .ok (.ldc2_w 17, 3) := dk_20 0 17 (dk_at dksX22_taken_0 4 rfl rfl)
theorem dX22_taken_7 : decode cX22_taken 7 = .ok (.invokestatic 19, 3) := dk_184 0 19 (dk_at dksX22_taken_0 7 rfl rfl)
theorem dX22_taken_10 : decode cX22_taken 10 = .ok (.lreturn, 1) := dk_173 (dk_at dksX22_taken_0 10 rfl rfl)
theorem q106 : (Jvm.Cond.initialized "TurnpikeTrust$Stretch") ∈ lw_all := lw_g (lw_at lw_m1 44 rfl) rfl
theorem q1170 : (Jvm.Cond.selects "TurnpikeTrust$Stretch" ({ cls := "java/lang/Object", name := "getClass", desc := "()Ljava/lang/Class;" } : Jvm.MethodName) ({ cls := "java/lang/Object", name := "getClass", desc := "()Ljava/lang/Class;" } : Jvm.MethodName)) ∈ lw_all := lw_g (lw_at lw_m5 148 rfl) rfl
theorem q1203 : (Jvm.Cond.instantiable "TurnpikeTrust$Stretch" (2 : Nat)) ∈ lw_all := lw_g (lw_at lw_m5 181 rfl) rfl
theorem q1205 : (Jvm.Cond.instanceMethod ({ cls := "TurnpikeTrust$Stretch", name := "<init>", desc := "(I)V" } : Jvm.MethodName)) ∈ lw_all := lw_g (lw_at lw_m5 183 rfl) rfl
theorem q1206 : (Jvm.Cond.code ({ cls := "TurnpikeTrust$Stretch", name := "<init>", desc := "(I)V" } : Jvm.MethodName) prog_25_method_1_code (2 : Nat) (Option.none : Option Jvm.ClassFile.FieldType)) ∈ lw_all := lw_g (lw_at lw_m5 184 rfl) rfl
theorem q1207 : (Jvm.Cond.methodLink "TurnpikeTrust$Stretch" (1 : Nat) ({ cls := "java/lang/Object", name := "<init>", desc := "()V" } : Jvm.MethodName)) ∈ lw_all := lw_g (lw_at lw_m5 185 rfl) rfl
theorem q1208 : (Jvm.Cond.fieldLink "TurnpikeTrust$Stretch" (7 : Nat) "TurnpikeTrust$Stretch" "price" "I") ∈ lw_all := lw_g (lw_at lw_m5 186 rfl) rfl
theorem q1210 : (Jvm.Cond.fieldLink "TurnpikeTrust$Stretch" (13 : Nat) "TurnpikeTrust$Stretch" "wear" "J") ∈ lw_all := lw_g (lw_at lw_m5 188 rfl) rfl
theorem q1212 : (Jvm.Cond.laysFinal "TurnpikeTrust$Stretch" "TurnpikeTrust$Stretch" "price" "I") ∈ lw_all := lw_g (lw_at lw_m5 190 rfl) rfl
theorem q1213 : (Jvm.Cond.soleField "TurnpikeTrust$Stretch" "price") ∈ lw_all := lw_g (lw_at lw_m5 191 rfl) rfl
theorem q1214 : (Jvm.Cond.lays "TurnpikeTrust$Stretch" "TurnpikeTrust$Stretch" "wear" "J") ∈ lw_all := lw_g (lw_at lw_m5 192 rfl) rfl
theorem q1215 : (Jvm.Cond.soleField "TurnpikeTrust$Stretch" "wear") ∈ lw_all := lw_g (lw_at lw_m5 193 rfl) rfl
theorem q1216 : (Jvm.Cond.superclass "TurnpikeTrust$Stretch" "java/lang/Object") ∈ lw_all := lw_g (lw_at lw_m5 194 rfl) rfl
theorem q1608 : (Jvm.Cond.instanceMethod ({ cls := "TurnpikeTrust$Stretch", name := "taken", desc := "()J" } : Jvm.MethodName)) ∈ lw_all := lw_g (lw_at lw_m7 106 rfl) rfl
theorem q1609 : (Jvm.Cond.selects "TurnpikeTrust$Stretch" ({ cls := "TurnpikeTrust$Stretch", name := "taken", desc := "()J" } : Jvm.MethodName) ({ cls := "TurnpikeTrust$Stretch", name := "taken", desc := "()J" } : Jvm.MethodName)) ∈ lw_all := lw_g (lw_at lw_m7 107 rfl) rfl
theorem q1610 : (Jvm.Cond.code ({ cls := "TurnpikeTrust$Stretch", name := "taken", desc := "()J" } : Jvm.MethodName) prog_25_method_2_code (1 : Nat) (Option.some Jvm.ClassFile.FieldType.long)) ∈ lw_all := lw_g (lw_at lw_m7 108 rfl) rfl
theorem q1611 : (Jvm.Cond.constantLong "TurnpikeTrust$Stretch" (17 : Nat) (50 : Int64)) ∈ lw_all := lw_g (lw_at lw_m7 109 rfl) rfl
theorem q1612 : (Jvm.Cond.methodLink "TurnpikeTrust$Stretch" (19 : Nat) ({ cls := "java/lang/Math", name := "min", desc := "(JJ)J" } : Jvm.MethodName)) ∈ lw_all := lw_g (lw_at lw_m7 110 rfl) rfl
theorem q2280 : (Jvm.Cond.castable "TurnpikeTrust$Stretch" "java/lang/Object") ∈ lw_tbl := lw_at lw_m10 58 rfl
theorem in_X22 : ∀ w ∈ wsX220, w ∈ lw_all := lw_in wsX220 [1212, 1214] (by decide +kernel) (by decide +kernel)
/-! TurnpikeTrust$Gate -/
set_option maxRecDepth 100000
def RX23 : String := "TurnpikeTrust$Gate"
def TX23 : u_T := fun k => match k with
  | 0 => ("TurnpikeTrust$Gate", "number", "I", true)
  | 1 => ("TurnpikeTrust$Gate", "stretch", "I", true)
  | 2 => ("TurnpikeTrust$Gate", "bids", "Ljava/util/ArrayList;", true)
  | 3 => ("TurnpikeTrust$Gate", "lease", "LTurnpikeTrust$Bid;", false)
  | 4 => ("TurnpikeTrust$Gate", "due", "I", false)
  | 5 => ("TurnpikeTrust$Gate", "left", "I", false)
  | _ => ("TurnpikeTrust$Gate", "passes", "I", false)
def tyX23 : Nat → FieldType := fun k => match k with
  | 0 => .int
  | 1 => .int
  | 2 => .object "java/util/ArrayList"
  | 3 => .object "TurnpikeTrust$Bid"
  | 4 => .int
  | 5 => .int
  | _ => .int
abbrev wsX230 : List Cond := u_ws RX23 TX23 7
theorem nmX23 : ∀ a, a < 7 → ∀ b, b < 7 → a ≠ b → (TX23 a).2.1 ≠ (TX23 b).2.1 := by decide +kernel
theorem tyX23_ok : ∀ k, k < 7 → parseFieldDescriptor (TX23 k).2.2.1 = some (tyX23 k) := by decide +kernel
abbrev cX23_init : ByteArray := prog_14_method_1_code
def yX23_init : MethodName := ⟨RX23, "<init>", "(II)V"⟩
def dkwX23_init_1 : List UInt8 := [181, 0, 22, 177]
abbrev dktX23_init_1 : List UInt8 := dkwX23_init_1 ++ []
def dkwX23_init_0 : List UInt8 := [42, 183, 0, 1, 42, 187, 0, 7, 89, 7, 183, 0, 9, 181, 0, 12, 42, 27, 181, 0, 18, 42, 28]
abbrev dktX23_init_0 : List UInt8 := dkwX23_init_0 ++ dktX23_init_1
theorem dksX23_init_0 : cX23_init.data.toList.drop 0 = dktX23_init_0 := by decide +kernel
theorem dksX23_init_1 : cX23_init.data.toList.drop 23 = dktX23_init_1 := dk_seg dksX23_init_0 23 rfl rfl
theorem dX23_init_0 : decode cX23_init 0 = .ok (.aload_n 0, 1) := dk_42 (dk_at dksX23_init_0 0 rfl rfl)
theorem dX23_init_1 : decode cX23_init 1 = .ok (.invokespecial 1, 3) := dk_183 0 1 (dk_at dksX23_init_0 1 rfl rfl)
theorem dX23_init_4 : decode cX23_init 4 = .ok (.aload_n 0, 1) := dk_42 (dk_at dksX23_init_0 4 rfl rfl)
theorem dX23_init_5 : decode cX23_init 5 = .ok (.new 7, 3) := dk_187 0 7 (dk_at dksX23_init_0 5 rfl rfl)
theorem dX23_init_8 : decode cX23_init 8 = .ok (.dup, 1) := dk_89 (dk_at dksX23_init_0 8 rfl rfl)
theorem dX23_init_9 : decode cX23_init 9 = .ok (.iconst 4, 1) := dk_7 (dk_at dksX23_init_0 9 rfl rfl)
theorem dX23_init_10 : decode cX23_init 10 = .ok (.invokespecial 9, 3) := dk_183 0 9 (dk_at dksX23_init_0 10 rfl rfl)
theorem dX23_init_13 : decode cX23_init 13 = .ok (.putfield 12, 3) := dk_181 0 12 (dk_at dksX23_init_0 13 rfl rfl)
theorem dX23_init_16 : decode cX23_init 16 = .ok (.aload_n 0, 1) := dk_42 (dk_at dksX23_init_0 16 rfl rfl)
theorem dX23_init_17 : decode cX23_init 17 = .ok (.iload_n 1, 1) := dk_27 (dk_at dksX23_init_0 17 rfl rfl)
theorem dX23_init_18 : decode cX23_init 18 = .ok (.putfield 18, 3) := dk_181 0 18 (dk_at dksX23_init_0 18 rfl rfl)
theorem dX23_init_21 : decode cX23_init 21 = .ok (.aload_n 0, 1) := dk_42 (dk_at dksX23_init_0 21 rfl rfl)
theorem dX23_init_22 : decode cX23_init 22 = .ok (.iload_n 2, 1) := dk_28 (dk_at dksX23_init_0 22 rfl rfl)
theorem dX23_init_23 : decode cX23_init 23 = .ok (.putfield 22, 3) := dk_181 0 22 (dk_at dksX23_init_1 0 rfl rfl)
theorem dX23_init_26 : decode cX23_init 26 = .ok (.return_, 1) := dk_177 (dk_at dksX23_init_1 3 rfl rfl)
theorem q109 : (Jvm.Cond.initialized "TurnpikeTrust$Gate") ∈ lw_all := lw_g (lw_at lw_m1 47 rfl) rfl
theorem q1159 : (Jvm.Cond.selects "TurnpikeTrust$Gate" ({ cls := "java/lang/Object", name := "getClass", desc := "()Ljava/lang/Class;" } : Jvm.MethodName) ({ cls := "java/lang/Object", name := "getClass", desc := "()Ljava/lang/Class;" } : Jvm.MethodName)) ∈ lw_all := lw_g (lw_at lw_m5 137 rfl) rfl
theorem q1262 : (Jvm.Cond.instantiable "TurnpikeTrust$Gate" (7 : Nat)) ∈ lw_all := lw_g (lw_at lw_m6 0 rfl) rfl
theorem q1264 : (Jvm.Cond.instanceMethod ({ cls := "TurnpikeTrust$Gate", name := "<init>", desc := "(II)V" } : Jvm.MethodName)) ∈ lw_all := lw_g (lw_at lw_m6 2 rfl) rfl
theorem q1265 : (Jvm.Cond.code ({ cls := "TurnpikeTrust$Gate", name := "<init>", desc := "(II)V" } : Jvm.MethodName) prog_14_method_1_code (3 : Nat) (Option.none : Option Jvm.ClassFile.FieldType)) ∈ lw_all := lw_g (lw_at lw_m6 3 rfl) rfl
theorem q1266 : (Jvm.Cond.methodLink "TurnpikeTrust$Gate" (1 : Nat) ({ cls := "java/lang/Object", name := "<init>", desc := "()V" } : Jvm.MethodName)) ∈ lw_all := lw_g (lw_at lw_m6 4 rfl) rfl
theorem q1267 : (Jvm.Cond.classLink "TurnpikeTrust$Gate" (7 : Nat) "java/util/ArrayList") ∈ lw_all := lw_g (lw_at lw_m6 5 rfl) rfl
theorem q1268 : (Jvm.Cond.methodLink "TurnpikeTrust$Gate" (9 : Nat) ({ cls := "java/util/ArrayList", name := "<init>", desc := "(I)V" } : Jvm.MethodName)) ∈ lw_all := lw_g (lw_at lw_m6 6 rfl) rfl
theorem q1269 : (Jvm.Cond.fieldLink "TurnpikeTrust$Gate" (18 : Nat) "TurnpikeTrust$Gate" "number" "I") ∈ lw_all := lw_g (lw_at lw_m6 7 rfl) rfl
theorem q1271 : (Jvm.Cond.fieldLink "TurnpikeTrust$Gate" (22 : Nat) "TurnpikeTrust$Gate" "stretch" "I") ∈ lw_all := lw_g (lw_at lw_m6 9 rfl) rfl
theorem q1273 : (Jvm.Cond.fieldLink "TurnpikeTrust$Gate" (12 : Nat) "TurnpikeTrust$Gate" "bids" "Ljava/util/ArrayList;") ∈ lw_all := lw_g (lw_at lw_m6 11 rfl) rfl
theorem q1279 : (Jvm.Cond.laysFinal "TurnpikeTrust$Gate" "TurnpikeTrust$Gate" "number" "I") ∈ lw_all := lw_g (lw_at lw_m6 17 rfl) rfl
theorem q1280 : (Jvm.Cond.soleField "TurnpikeTrust$Gate" "number") ∈ lw_all := lw_g (lw_at lw_m6 18 rfl) rfl
theorem q1281 : (Jvm.Cond.laysFinal "TurnpikeTrust$Gate" "TurnpikeTrust$Gate" "stretch" "I") ∈ lw_all := lw_g (lw_at lw_m6 19 rfl) rfl
theorem q1282 : (Jvm.Cond.soleField "TurnpikeTrust$Gate" "stretch") ∈ lw_all := lw_g (lw_at lw_m6 20 rfl) rfl
theorem q1283 : (Jvm.Cond.laysFinal "TurnpikeTrust$Gate" "TurnpikeTrust$Gate" "bids" "Ljava/util/ArrayList;") ∈ lw_all := lw_g (lw_at lw_m6 21 rfl) rfl
theorem q1284 : (Jvm.Cond.soleField "TurnpikeTrust$Gate" "bids") ∈ lw_all := lw_g (lw_at lw_m6 22 rfl) rfl
theorem q1285 : (Jvm.Cond.lays "TurnpikeTrust$Gate" "TurnpikeTrust$Gate" "lease" "LTurnpikeTrust$Bid;") ∈ lw_all := lw_g (lw_at lw_m6 23 rfl) rfl
theorem q1286 : (Jvm.Cond.soleField "TurnpikeTrust$Gate" "lease") ∈ lw_all := lw_g (lw_at lw_m6 24 rfl) rfl
theorem q1287 : (Jvm.Cond.lays "TurnpikeTrust$Gate" "TurnpikeTrust$Gate" "due" "I") ∈ lw_all := lw_g (lw_at lw_m6 25 rfl) rfl
theorem q1288 : (Jvm.Cond.soleField "TurnpikeTrust$Gate" "due") ∈ lw_all := lw_g (lw_at lw_m6 26 rfl) rfl
theorem q1289 : (Jvm.Cond.lays "TurnpikeTrust$Gate" "TurnpikeTrust$Gate" "left" "I") ∈ lw_all := lw_g (lw_at lw_m6 27 rfl) rfl
theorem q1290 : (Jvm.Cond.soleField "TurnpikeTrust$Gate" "left") ∈ lw_all := lw_g (lw_at lw_m6 28 rfl) rfl
theorem q1291 : (Jvm.Cond.lays "TurnpikeTrust$Gate" "TurnpikeTrust$Gate" "passes" "I") ∈ lw_all := lw_g (lw_at lw_m6 29 rfl) rfl
theorem q1292 : (Jvm.Cond.soleField "TurnpikeTrust$Gate" "passes") ∈ lw_all := lw_g (lw_at lw_m6 30 rfl) rfl
theorem q1293 : (Jvm.Cond.superclass "TurnpikeTrust$Gate" "java/lang/Object") ∈ lw_all := lw_g (lw_at lw_m6 31 rfl) rfl
theorem q2283 : (Jvm.Cond.castable "TurnpikeTrust$Gate" "java/lang/Object") ∈ lw_tbl := lw_at lw_m10 61 rfl
theorem in_X23 : ∀ w ∈ wsX230, w ∈ lw_all := lw_in wsX230 [1279, 1281, 1283, 1285, 1287, 1289, 1291] (by decide +kernel) (by decide +kernel)
/-! TurnpikeTrust$Traveller -/
set_option maxRecDepth 100000
def RX24 : String := "TurnpikeTrust$Traveller"
abbrev cX24_init : ByteArray := prog_28_method_1_code
def yX24_init : MethodName := ⟨RX24, "<init>", "(IIII)V"⟩
def dkwX24_init_3 : List UInt8 := [167, 255, 230, 177]
abbrev dktX24_init_3 : List UInt8 := dkwX24_init_3 ++ []
def dkwX24_init_2 : List UInt8 := [16, 8, 162, 0, 25, 42, 180, 0, 9, 21, 5, 2, 79, 42, 180, 0, 15, 21, 5, 2, 79, 132, 5, 1]
abbrev dktX24_init_2 : List UInt8 := dkwX24_init_2 ++ dktX24_init_3
def dkwX24_init_1 : List UInt8 := [181, 0, 18, 42, 28, 181, 0, 22, 42, 29, 181, 0, 25, 42, 21, 4, 181, 0, 28, 3, 54, 5, 21, 5]
abbrev dktX24_init_1 : List UInt8 := dkwX24_init_1 ++ dktX24_init_2
def dkwX24_init_0 : List UInt8 := [42, 183, 0, 3, 42, 16, 8, 188, 10, 181, 0, 9, 42, 16, 8, 188, 10, 181, 0, 15, 42, 27]
abbrev dktX24_init_0 : List UInt8 := dkwX24_init_0 ++ dktX24_init_1
theorem dksX24_init_0 : cX24_init.data.toList.drop 0 = dktX24_init_0 := by decide +kernel
theorem dksX24_init_1 : cX24_init.data.toList.drop 22 = dktX24_init_1 := dk_seg dksX24_init_0 22 rfl rfl
theorem dksX24_init_2 : cX24_init.data.toList.drop 46 = dktX24_init_2 := dk_seg dksX24_init_1 24 rfl rfl
theorem dksX24_init_3 : cX24_init.data.toList.drop 70 = dktX24_init_3 := dk_seg dksX24_init_2 24 rfl rfl
theorem dX24_init_0 : decode cX24_init 0 = .ok (.aload_n 0, 1) := dk_42 (dk_at dksX24_init_0 0 rfl rfl)
theorem dX24_init_1 : decode cX24_init 1 = .ok (.invokespecial 3, 3) := dk_183 0 3 (dk_at dksX24_init_0 1 rfl rfl)
theorem dX24_init_4 : decode cX24_init 4 = .ok (.aload_n 0, 1) := dk_42 (dk_at dksX24_init_0 4 rfl rfl)
theorem dX24_init_5 : decode cX24_init 5 = .ok (.bipush 8, 2) := dk_16 8 (dk_at dksX24_init_0 5 rfl rfl)
theorem dX24_init_7 : decode cX24_init 7 = .ok (.newarray .int, 2) := dk_188_10 (dk_at dksX24_init_0 7 rfl rfl)
theorem dX24_init_9 : decode cX24_init 9 = .ok (.putfield 9, 3) := dk_181 0 9 (dk_at dksX24_init_0 9 rfl rfl)
theorem dX24_init_12 : decode cX24_init 12 = .ok (.aload_n 0, 1) := dk_42 (dk_at dksX24_init_0 12 rfl rfl)
theorem dX24_init_13 : decode cX24_init 13 = .ok (.bipush 8, 2) := dk_16 8 (dk_at dksX24_init_0 13 rfl rfl)
theorem dX24_init_15 : decode cX24_init 15 = .ok (.newarray .int, 2) := dk_188_10 (dk_at dksX24_init_0 15 rfl rfl)
theorem dX24_init_17 : decode cX24_init 17 = .ok (.putfield 15, 3) := dk_181 0 15 (dk_at dksX24_init_0 17 rfl rfl)
theorem dX24_init_20 : decode cX24_init 20 = .ok (.aload_n 0, 1) := dk_42 (dk_at dksX24_init_0 20 rfl rfl)
theorem dX24_init_21 : decode cX24_init 21 = .ok (.iload_n 1, 1) := dk_27 (dk_at dksX24_init_0 21 rfl rfl)
theorem dX24_init_22 : decode cX24_init 22 = .ok (.putfield 18, 3) := dk_181 0 18 (dk_at dksX24_init_1 0 rfl rfl)
theorem dX24_init_25 : decode cX24_init 25 = .ok (.aload_n 0, 1) := dk_42 (dk_at dksX24_init_1 3 rfl rfl)
theorem dX24_init_26 : decode cX24_init 26 = .ok (.iload_n 2, 1) := dk_28 (dk_at dksX24_init_1 4 rfl rfl)
theorem dX24_init_27 : decode cX24_init 27 = .ok (.putfield 22, 3) := dk_181 0 22 (dk_at dksX24_init_1 5 rfl rfl)
theorem dX24_init_30 : decode cX24_init 30 = .ok (.aload_n 0, 1) := dk_42 (dk_at dksX24_init_1 8 rfl rfl)
theorem dX24_init_31 : decode cX24_init 31 = .ok (.iload_n 3, 1) := dk_29 (dk_at dksX24_init_1 9 rfl rfl)
theorem dX24_init_32 : decode cX24_init 32 = .ok (.putfield 25, 3) := dk_181 0 25 (dk_at dksX24_init_1 10 rfl rfl)
theorem dX24_init_35 : decode cX24_init 35 = .ok (.aload_n 0, 1) := dk_42 (dk_at dksX24_init_1 13 rfl rfl)
theorem dX24_init_36 : decode cX24_init 36 = .ok (.iload 4, 2) := dk_21 4 (dk_at dksX24_init_1 14 rfl rfl)
theorem dX24_init_38 : decode cX24_init 38 = .ok (.putfield 28, 3) := dk_181 0 28 (dk_at dksX24_init_1 16 rfl rfl)
theorem dX24_init_41 : decode cX24_init 41 = .ok (.iconst 0, 1) := dk_3 (dk_at dksX24_init_1 19 rfl rfl)
theorem dX24_init_42 : decode cX24_init 42 = .ok (.istore 5, 2) := dk_54 5 (dk_at dksX24_init_1 20 rfl rfl)
theorem dX24_init_44 : decode cX24_init 44 = .ok (.iload 5, 2) := dk_21 5 (dk_at dksX24_init_1 22 rfl rfl)
theorem dX24_init_46 : decode cX24_init 46 = .ok (.bipush 8, 2) := dk_16 8 (dk_at dksX24_init_2 0 rfl rfl)
theorem dX24_init_48 : decode cX24_init 48 = .ok (.if_icmp .ge 25, 3) := dk_162 0 25 (dk_at dksX24_init_2 2 rfl rfl)
theorem dX24_init_51 : decode cX24_init 51 = .ok (.aload_n 0, 1) := dk_42 (dk_at dksX24_init_2 5 rfl rfl)
theorem dX24_init_52 : decode cX24_init 52 = .ok (.getfield 9, 3) := dk_180 0 9 (dk_at dksX24_init_2 6 rfl rfl)
theorem dX24_init_55 : decode cX24_init 55 = .ok (.iload 5, 2) := dk_21 5 (dk_at dksX24_init_2 9 rfl rfl)
theorem dX24_init_57 : decode cX24_init 57 = .ok (.iconst (-1), 1) := dk_2 (dk_at dksX24_init_2 11 rfl rfl)
theorem dX24_init_58 : decode cX24_init 58 = .ok (.iastore, 1) := dk_79 (dk_at dksX24_init_2 12 rfl rfl)
theorem dX24_init_59 : decode cX24_init 59 = .ok (.aload_n 0, 1) := dk_42 (dk_at dksX24_init_2 13 rfl rfl)
theorem dX24_init_60 : decode cX24_init 60 = .ok (.getfield 15, 3) := dk_180 0 15 (dk_at dksX24_init_2 14 rfl rfl)
theorem dX24_init_63 : decode cX24_init 63 = .ok (.iload 5, 2) := dk_21 5 (dk_at dksX24_init_2 17 rfl rfl)
theorem dX24_init_65 : decode cX24_init 65 = .ok (.iconst (-1), 1) := dk_2 (dk_at dksX24_init_2 19 rfl rfl)
theorem dX24_init_66 : decode cX24_init 66 = .ok (.iastore, 1) := dk_79 (dk_at dksX24_init_2 20 rfl rfl)
theorem dX24_init_67 : decode cX24_init 67 = .ok (.iinc 5 1, 3) := dk_132 5 1 (dk_at dksX24_init_2 21 rfl rfl)
theorem dX24_init_70 : decode cX24_init 70 = .ok (.goto (-26), 3) := dk_167 255 230 (dk_at dksX24_init_3 0 rfl rfl)
theorem dX24_init_73 : decode cX24_init 73 = .ok (.return_, 1) := dk_177 (dk_at dksX24_init_3 3 rfl rfl)
theorem q110 : (Jvm.Cond.initialized "TurnpikeTrust$Traveller") ∈ lw_all := lw_g (lw_at lw_m1 48 rfl) rfl
theorem q1307 : (Jvm.Cond.instanceMethod ({ cls := "TurnpikeTrust$Traveller", name := "<init>", desc := "(IIII)V" } : Jvm.MethodName)) ∈ lw_all := lw_g (lw_at lw_m6 45 rfl) rfl
theorem q1308 : (Jvm.Cond.code ({ cls := "TurnpikeTrust$Traveller", name := "<init>", desc := "(IIII)V" } : Jvm.MethodName) prog_28_method_1_code (6 : Nat) (Option.none : Option Jvm.ClassFile.FieldType)) ∈ lw_all := lw_g (lw_at lw_m6 46 rfl) rfl
theorem q1309 : (Jvm.Cond.methodLink "TurnpikeTrust$Traveller" (3 : Nat) ({ cls := "java/lang/Object", name := "<init>", desc := "()V" } : Jvm.MethodName)) ∈ lw_all := lw_g (lw_at lw_m6 47 rfl) rfl
theorem q1311 : (Jvm.Cond.fieldLink "TurnpikeTrust$Traveller" (18 : Nat) "TurnpikeTrust$Traveller" "number" "I") ∈ lw_all := lw_g (lw_at lw_m6 49 rfl) rfl
theorem q1312 : (Jvm.Cond.fieldLink "TurnpikeTrust$Traveller" (22 : Nat) "TurnpikeTrust$Traveller" "wheels" "I") ∈ lw_all := lw_g (lw_at lw_m6 50 rfl) rfl
theorem q1316 : (Jvm.Cond.fieldLink "TurnpikeTrust$Traveller" (25 : Nat) "TurnpikeTrust$Traveller" "beasts" "I") ∈ lw_all := lw_g (lw_at lw_m6 54 rfl) rfl
theorem q1322 : (Jvm.Cond.fieldLink "TurnpikeTrust$Traveller" (28 : Nat) "TurnpikeTrust$Traveller" "bits" "I") ∈ lw_all := lw_g (lw_at lw_m6 60 rfl) rfl
theorem q1324 : (Jvm.Cond.fieldLink "TurnpikeTrust$Traveller" (9 : Nat) "TurnpikeTrust$Traveller" "passed" "[I") ∈ lw_all := lw_g (lw_at lw_m6 62 rfl) rfl
theorem q1326 : (Jvm.Cond.fieldLink "TurnpikeTrust$Traveller" (15 : Nat) "TurnpikeTrust$Traveller" "paid" "[I") ∈ lw_all := lw_g (lw_at lw_m6 64 rfl) rfl
theorem q1331 : (Jvm.Cond.soleField "TurnpikeTrust$Traveller" "number") ∈ lw_all := lw_g (lw_at lw_m6 69 rfl) rfl
theorem q1333 : (Jvm.Cond.soleField "TurnpikeTrust$Traveller" "wheels") ∈ lw_all := lw_g (lw_at lw_m6 71 rfl) rfl
theorem q1335 : (Jvm.Cond.soleField "TurnpikeTrust$Traveller" "beasts") ∈ lw_all := lw_g (lw_at lw_m6 73 rfl) rfl
theorem q1337 : (Jvm.Cond.soleField "TurnpikeTrust$Traveller" "bits") ∈ lw_all := lw_g (lw_at lw_m6 75 rfl) rfl
theorem q1339 : (Jvm.Cond.soleField "TurnpikeTrust$Traveller" "passed") ∈ lw_all := lw_g (lw_at lw_m6 77 rfl) rfl
theorem q1341 : (Jvm.Cond.soleField "TurnpikeTrust$Traveller" "paid") ∈ lw_all := lw_g (lw_at lw_m6 79 rfl) rfl
theorem q1475 : (Jvm.Cond.declares ({ cls := "TurnpikeTrust$Traveller", name := "kind", desc := "()I" } : Jvm.MethodName)) ∈ lw_tbl := lw_at lw_m6 213 rfl
theorem q1476 : (Jvm.Cond.sameMethod "TurnpikeTrust$Traveller" "TurnpikeTrust$Traveller" "kind" "()I") ∈ lw_all := lw_g (lw_at lw_m6 214 rfl) rfl
theorem q1534 : (Jvm.Cond.declares ({ cls := "TurnpikeTrust$Traveller", name := "wear", desc := "()I" } : Jvm.MethodName)) ∈ lw_tbl := lw_at lw_m7 32 rfl
theorem q1535 : (Jvm.Cond.sameMethod "TurnpikeTrust$Traveller" "TurnpikeTrust$Traveller" "wear" "()I") ∈ lw_all := lw_g (lw_at lw_m7 33 rfl) rfl
/-! TurnpikeTrust$Wheeled -/
set_option maxRecDepth 100000
def RX25 : String := "TurnpikeTrust$Wheeled"
def TX25 : u_T := fun k => match k with
  | 0 => ("TurnpikeTrust$Traveller", "number", "I", true)
  | 1 => ("TurnpikeTrust$Traveller", "wheels", "I", true)
  | 2 => ("TurnpikeTrust$Traveller", "beasts", "I", true)
  | 3 => ("TurnpikeTrust$Traveller", "bits", "I", true)
  | 4 => ("TurnpikeTrust$Traveller", "passed", "[I", true)
  | 5 => ("TurnpikeTrust$Traveller", "paid", "[I", true)
  | _ => ("TurnpikeTrust$Wheeled", "kind", "I", true)
def tyX25 : Nat → FieldType := fun k => match k with
  | 0 => .int
  | 1 => .int
  | 2 => .int
  | 3 => .int
  | 4 => .array .int
  | 5 => .array .int
  | _ => .int
abbrev wsX250 : List Cond := u_ws RX25 TX25 7
theorem nmX25 : ∀ a, a < 7 → ∀ b, b < 7 → a ≠ b → (TX25 a).2.1 ≠ (TX25 b).2.1 := by decide +kernel
theorem tyX25_ok : ∀ k, k < 7 → parseFieldDescriptor (TX25 k).2.2.1 = some (tyX25 k) := by decide +kernel
abbrev cX25_init : ByteArray := prog_30_method_1_code
def yX25_init : MethodName := ⟨RX25, "<init>", "(IIIII)V"⟩
def dkwX25_init_0 : List UInt8 := [42, 27, 29, 21, 4, 21, 5, 183, 0, 1, 42, 28, 181, 0, 7, 177]
abbrev dktX25_init_0 : List UInt8 := dkwX25_init_0 ++ []
theorem dksX25_init_0 : cX25_init.data.toList.drop 0 = dktX25_init_0 := by decide +kernel
theorem dX25_init_0 : decode cX25_init 0 = .ok (.aload_n 0, 1) := dk_42 (dk_at dksX25_init_0 0 rfl rfl)
theorem dX25_init_1 : decode cX25_init 1 = .ok (.iload_n 1, 1) := dk_27 (dk_at dksX25_init_0 1 rfl rfl)
theorem dX25_init_2 : decode cX25_init 2 = .ok (.iload_n 3, 1) := dk_29 (dk_at dksX25_init_0 2 rfl rfl)
theorem dX25_init_3 : decode cX25_init 3 = .ok (.iload 4, 2) := dk_21 4 (dk_at dksX25_init_0 3 rfl rfl)
theorem dX25_init_5 : decode cX25_init 5 = .ok (.iload 5, 2) := dk_21 5 (dk_at dksX25_init_0 5 rfl rfl)
theorem dX25_init_7 : decode cX25_init 7 = .ok (.invokespecial 1, 3) := dk_183 0 1 (dk_at dksX25_init_0 7 rfl rfl)
theorem dX25_init_10 : decode cX25_init 10 = .ok (.aload_n 0, 1) := dk_42 (dk_at dksX25_init_0 10 rfl rfl)
theorem dX25_init_11 : decode cX25_init 11 = .ok (.iload_n 2, 1) := dk_28 (dk_at dksX25_init_0 11 rfl rfl)
theorem dX25_init_12 : decode cX25_init 12 = .ok (.putfield 7, 3) := dk_181 0 7 (dk_at dksX25_init_0 12 rfl rfl)
theorem dX25_init_15 : decode cX25_init 15 = .ok (.return_, 1) := dk_177 (dk_at dksX25_init_0 15 rfl rfl)
abbrev cX25_kind : ByteArray := prog_30_method_2_code
def yX25_kind : MethodName := ⟨RX25, "kind", "()I"⟩
theorem dX25_kind_0 : decode cX25_kind 0 = .ok (.aload_n 0, 1) := by decide +kernel
theorem dX25_kind_1 : decode cX25_kind 1 = .ok (.getfield 7, 3) := by decide +kernel
theorem dX25_kind_4 : decode cX25_kind 4 = .ok (.ireturn, 1) := by decide +kernel
abbrev cX25_wear : ByteArray := prog_30_method_3_code
def yX25_wear : MethodName := ⟨RX25, "wear", "()I"⟩
def dkwX25_wear_1 : List UInt8 := [16, 10, 42, 180, 0, 13, 16, 6, 162, 0, 7, 5, 167, 0, 4, 4, 104, 172]
abbrev dktX25_wear_1 : List UInt8 := dkwX25_wear_1 ++ []
def dkwX25_wear_0 : List UInt8 := [42, 180, 0, 7, 154, 0, 8, 16, 6, 167, 0, 17, 42, 180, 0, 7, 4, 160, 0, 7, 7, 167, 0, 5]
abbrev dktX25_wear_0 : List UInt8 := dkwX25_wear_0 ++ dktX25_wear_1
theorem dksX25_wear_0 : cX25_wear.data.toList.drop 0 = dktX25_wear_0 := by decide +kernel
theorem dksX25_wear_1 : cX25_wear.data.toList.drop 24 = dktX25_wear_1 := dk_seg dksX25_wear_0 24 rfl rfl
theorem dX25_wear_0 : decode cX25_wear 0 = .ok (.aload_n 0, 1) := dk_42 (dk_at dksX25_wear_0 0 rfl rfl)
theorem dX25_wear_1 : decode cX25_wear 1 = .ok (.getfield 7, 3) := dk_180 0 7 (dk_at dksX25_wear_0 1 rfl rfl)
theorem dX25_wear_4 : decode cX25_wear 4 = .ok (.ifCond .ne 8, 3) := dk_154 0 8 (dk_at dksX25_wear_0 4 rfl rfl)
theorem dX25_wear_7 : decode cX25_wear 7 = .ok (.bipush 6, 2) := dk_16 6 (dk_at dksX25_wear_0 7 rfl rfl)
theorem dX25_wear_9 : decode cX25_wear 9 = .ok (.goto 17, 3) := dk_167 0 17 (dk_at dksX25_wear_0 9 rfl rfl)
theorem dX25_wear_12 : decode cX25_wear 12 = .ok (.aload_n 0, 1) := dk_42 (dk_at dksX25_wear_0 12 rfl rfl)
theorem dX25_wear_13 : decode cX25_wear 13 = .ok (.getfield 7, 3) := dk_180 0 7 (dk_at dksX25_wear_0 13 rfl rfl)
theorem dX25_wear_16 : decode cX25_wear 16 = .ok (.iconst 1, 1) := dk_4 (dk_at dksX25_wear_0 16 rfl rfl)
theorem dX25_wear_17 : decode cX25_wear 17 = .ok (.if_icmp .ne 7, 3) := dk_160 0 7 (dk_at dksX25_wear_0 17 rfl rfl)
theorem dX25_wear_20 : decode cX25_wear 20 = .ok (.iconst 4, 1) := dk_7 (dk_at dksX25_wear_0 20 rfl rfl)
theorem dX25_wear_21 : decode cX25_wear 21 = .ok (.goto 5, 3) := dk_167 0 5 (dk_at dksX25_wear_0 21 rfl rfl)
theorem dX25_wear_24 : decode cX25_wear 24 = .ok (.bipush 10, 2) := dk_16 10 (dk_at dksX25_wear_1 0 rfl rfl)
theorem dX25_wear_26 : decode cX25_wear 26 = .ok (.aload_n 0, 1) := dk_42 (dk_at dksX25_wear_1 2 rfl rfl)
theorem dX25_wear_27 : decode cX25_wear 27 = .ok (.getfield 13, 3) := dk_180 0 13 (dk_at dksX25_wear_1 3 rfl rfl)
theorem dX25_wear_30 : decode cX25_wear 30 = .ok (.bipush 6, 2) := dk_16 6 (dk_at dksX25_wear_1 6 rfl rfl)
theorem dX25_wear_32 : decode cX25_wear 32 = .ok (.if_icmp .ge 7, 3) := dk_162 0 7 (dk_at dksX25_wear_1 8 rfl rfl)
theorem dX25_wear_35 : decode cX25_wear 35 = .ok (.iconst 2, 1) := dk_5 (dk_at dksX25_wear_1 11 rfl rfl)
theorem dX25_wear_36 : decode cX25_wear 36 = .ok (.goto 4, 3) := dk_167 0 4 (dk_at dksX25_wear_1 12 rfl rfl)
theorem dX25_wear_39 : decode cX25_wear 39 = .ok (.iconst 1, 1) := dk_4 (dk_at dksX25_wear_1 15 rfl rfl)
theorem dX25_wear_40 : decode cX25_wear 40 = .ok (.imul, 1) := dk_104 (dk_at dksX25_wear_1 16 rfl rfl)
theorem dX25_wear_41 : decode cX25_wear 41 = .ok (.ireturn, 1) := dk_172 (dk_at dksX25_wear_1 17 rfl rfl)
theorem q111 : (Jvm.Cond.initialized "TurnpikeTrust$Wheeled") ∈ lw_all := lw_g (lw_at lw_m1 49 rfl) rfl
theorem q1174 : (Jvm.Cond.selects "TurnpikeTrust$Wheeled" ({ cls := "java/lang/Object", name := "getClass", desc := "()Ljava/lang/Class;" } : Jvm.MethodName) ({ cls := "java/lang/Object", name := "getClass", desc := "()Ljava/lang/Class;" } : Jvm.MethodName)) ∈ lw_all := lw_g (lw_at lw_m5 152 rfl) rfl
theorem q1302 : (Jvm.Cond.instantiable "TurnpikeTrust$Wheeled" (7 : Nat)) ∈ lw_all := lw_g (lw_at lw_m6 40 rfl) rfl
theorem q1304 : (Jvm.Cond.instanceMethod ({ cls := "TurnpikeTrust$Wheeled", name := "<init>", desc := "(IIIII)V" } : Jvm.MethodName)) ∈ lw_all := lw_g (lw_at lw_m6 42 rfl) rfl
theorem q1305 : (Jvm.Cond.code ({ cls := "TurnpikeTrust$Wheeled", name := "<init>", desc := "(IIIII)V" } : Jvm.MethodName) prog_30_method_1_code (6 : Nat) (Option.none : Option Jvm.ClassFile.FieldType)) ∈ lw_all := lw_g (lw_at lw_m6 43 rfl) rfl
theorem q1306 : (Jvm.Cond.methodLink "TurnpikeTrust$Wheeled" (1 : Nat) ({ cls := "TurnpikeTrust$Traveller", name := "<init>", desc := "(IIII)V" } : Jvm.MethodName)) ∈ lw_all := lw_g (lw_at lw_m6 44 rfl) rfl
theorem q1310 : (Jvm.Cond.fieldLink "TurnpikeTrust$Wheeled" (7 : Nat) "TurnpikeTrust$Wheeled" "kind" "I") ∈ lw_all := lw_g (lw_at lw_m6 48 rfl) rfl
theorem q1314 : (Jvm.Cond.fieldLink "TurnpikeTrust$Wheeled" (13 : Nat) "TurnpikeTrust$Wheeled" "wheels" "I") ∈ lw_all := lw_g (lw_at lw_m6 52 rfl) rfl
theorem q1315 : (Jvm.Cond.sameField "TurnpikeTrust$Wheeled" "TurnpikeTrust$Traveller" "wheels" "I") ∈ lw_all := lw_g (lw_at lw_m6 53 rfl) rfl
theorem q1328 : (Jvm.Cond.laysFinal "TurnpikeTrust$Wheeled" "TurnpikeTrust$Wheeled" "kind" "I") ∈ lw_all := lw_g (lw_at lw_m6 66 rfl) rfl
theorem q1329 : (Jvm.Cond.soleField "TurnpikeTrust$Wheeled" "kind") ∈ lw_all := lw_g (lw_at lw_m6 67 rfl) rfl
theorem q1330 : (Jvm.Cond.laysFinal "TurnpikeTrust$Wheeled" "TurnpikeTrust$Traveller" "number" "I") ∈ lw_all := lw_g (lw_at lw_m6 68 rfl) rfl
theorem q1332 : (Jvm.Cond.laysFinal "TurnpikeTrust$Wheeled" "TurnpikeTrust$Traveller" "wheels" "I") ∈ lw_all := lw_g (lw_at lw_m6 70 rfl) rfl
theorem q1334 : (Jvm.Cond.laysFinal "TurnpikeTrust$Wheeled" "TurnpikeTrust$Traveller" "beasts" "I") ∈ lw_all := lw_g (lw_at lw_m6 72 rfl) rfl
theorem q1336 : (Jvm.Cond.laysFinal "TurnpikeTrust$Wheeled" "TurnpikeTrust$Traveller" "bits" "I") ∈ lw_all := lw_g (lw_at lw_m6 74 rfl) rfl
theorem q1338 : (Jvm.Cond.laysFinal "TurnpikeTrust$Wheeled" "TurnpikeTrust$Traveller" "passed" "[I") ∈ lw_all := lw_g (lw_at lw_m6 76 rfl) rfl
theorem q1340 : (Jvm.Cond.laysFinal "TurnpikeTrust$Wheeled" "TurnpikeTrust$Traveller" "paid" "[I") ∈ lw_all := lw_g (lw_at lw_m6 78 rfl) rfl
theorem q1342 : (Jvm.Cond.superclass "TurnpikeTrust$Wheeled" "TurnpikeTrust$Traveller") ∈ lw_all := lw_g (lw_at lw_m6 80 rfl) rfl
theorem q1481 : (Jvm.Cond.selects "TurnpikeTrust$Wheeled" ({ cls := "TurnpikeTrust$Traveller", name := "kind", desc := "()I" } : Jvm.MethodName) ({ cls := "TurnpikeTrust$Wheeled", name := "kind", desc := "()I" } : Jvm.MethodName)) ∈ lw_all := lw_g (lw_at lw_m6 219 rfl) rfl
theorem q1482 : (Jvm.Cond.instanceMethod ({ cls := "TurnpikeTrust$Wheeled", name := "kind", desc := "()I" } : Jvm.MethodName)) ∈ lw_all := lw_g (lw_at lw_m6 220 rfl) rfl
theorem q1483 : (Jvm.Cond.code ({ cls := "TurnpikeTrust$Wheeled", name := "kind", desc := "()I" } : Jvm.MethodName) prog_30_method_2_code (1 : Nat) (Option.some Jvm.ClassFile.FieldType.int)) ∈ lw_all := lw_g (lw_at lw_m6 221 rfl) rfl
theorem q1546 : (Jvm.Cond.selects "TurnpikeTrust$Wheeled" ({ cls := "TurnpikeTrust$Traveller", name := "wear", desc := "()I" } : Jvm.MethodName) ({ cls := "TurnpikeTrust$Wheeled", name := "wear", desc := "()I" } : Jvm.MethodName)) ∈ lw_all := lw_g (lw_at lw_m7 44 rfl) rfl
theorem q1547 : (Jvm.Cond.instanceMethod ({ cls := "TurnpikeTrust$Wheeled", name := "wear", desc := "()I" } : Jvm.MethodName)) ∈ lw_all := lw_g (lw_at lw_m7 45 rfl) rfl
theorem q1548 : (Jvm.Cond.code ({ cls := "TurnpikeTrust$Wheeled", name := "wear", desc := "()I" } : Jvm.MethodName) prog_30_method_3_code (1 : Nat) (Option.some Jvm.ClassFile.FieldType.int)) ∈ lw_all := lw_g (lw_at lw_m7 46 rfl) rfl
theorem q2246 : (Jvm.Cond.castable "TurnpikeTrust$Wheeled" "TurnpikeTrust$Traveller") ∈ lw_tbl := lw_at lw_m10 24 rfl
theorem q2284 : (Jvm.Cond.castable "TurnpikeTrust$Wheeled" "java/lang/Object") ∈ lw_tbl := lw_at lw_m10 62 rfl
theorem in_X25 : ∀ w ∈ wsX250, w ∈ lw_all := lw_in wsX250 [1330, 1332, 1334, 1336, 1338, 1340, 1328] (by decide +kernel) (by decide +kernel)
/-! TurnpikeTrust$Walker -/
set_option maxRecDepth 100000
def RX26 : String := "TurnpikeTrust$Walker"
def TX26 : u_T := fun k => match k with
  | 0 => ("TurnpikeTrust$Traveller", "number", "I", true)
  | 1 => ("TurnpikeTrust$Traveller", "wheels", "I", true)
  | 2 => ("TurnpikeTrust$Traveller", "beasts", "I", true)
  | 3 => ("TurnpikeTrust$Traveller", "bits", "I", true)
  | 4 => ("TurnpikeTrust$Traveller", "passed", "[I", true)
  | 5 => ("TurnpikeTrust$Traveller", "paid", "[I", true)
  | _ => ("TurnpikeTrust$Walker", "kind", "I", true)
def tyX26 : Nat → FieldType := fun k => match k with
  | 0 => .int
  | 1 => .int
  | 2 => .int
  | 3 => .int
  | 4 => .array .int
  | 5 => .array .int
  | _ => .int
abbrev wsX260 : List Cond := u_ws RX26 TX26 7
theorem nmX26 : ∀ a, a < 7 → ∀ b, b < 7 → a ≠ b → (TX26 a).2.1 ≠ (TX26 b).2.1 := by decide +kernel
theorem tyX26_ok : ∀ k, k < 7 → parseFieldDescriptor (TX26 k).2.2.1 = some (tyX26 k) := by decide +kernel
abbrev cX26_init : ByteArray := prog_29_method_1_code
def yX26_init : MethodName := ⟨RX26, "<init>", "(IIIII)V"⟩
def dkwX26_init_0 : List UInt8 := [42, 27, 29, 21, 4, 21, 5, 183, 0, 1, 42, 28, 181, 0, 7, 177]
abbrev dktX26_init_0 : List UInt8 := dkwX26_init_0 ++ []
theorem dksX26_init_0 : cX26_init.data.toList.drop 0 = dktX26_init_0 := by decide +kernel
theorem dX26_init_0 : decode cX26_init 0 = .ok (.aload_n 0, 1) := dk_42 (dk_at dksX26_init_0 0 rfl rfl)
theorem dX26_init_1 : decode cX26_init 1 = .ok (.iload_n 1, 1) := dk_27 (dk_at dksX26_init_0 1 rfl rfl)
theorem dX26_init_2 : decode cX26_init 2 = .ok (.iload_n 3, 1) := dk_29 (dk_at dksX26_init_0 2 rfl rfl)
theorem dX26_init_3 : decode cX26_init 3 = .ok (.iload 4, 2) := dk_21 4 (dk_at dksX26_init_0 3 rfl rfl)
theorem dX26_init_5 : decode cX26_init 5 = .ok (.iload 5, 2) := dk_21 5 (dk_at dksX26_init_0 5 rfl rfl)
theorem dX26_init_7 : decode cX26_init 7 = .ok (.invokespecial 1, 3) := dk_183 0 1 (dk_at dksX26_init_0 7 rfl rfl)
theorem dX26_init_10 : decode cX26_init 10 = .ok (.aload_n 0, 1) := dk_42 (dk_at dksX26_init_0 10 rfl rfl)
theorem dX26_init_11 : decode cX26_init 11 = .ok (.iload_n 2, 1) := dk_28 (dk_at dksX26_init_0 11 rfl rfl)
theorem dX26_init_12 : decode cX26_init 12 = .ok (.putfield 7, 3) := dk_181 0 7 (dk_at dksX26_init_0 12 rfl rfl)
theorem dX26_init_15 : decode cX26_init 15 = .ok (.return_, 1) := dk_177 (dk_at dksX26_init_0 15 rfl rfl)
abbrev cX26_kind : ByteArray := prog_29_method_2_code
def yX26_kind : MethodName := ⟨RX26, "kind", "()I"⟩
theorem dX26_kind_0 : decode cX26_kind 0 = .ok (.aload_n 0, 1) := by decide +kernel
theorem dX26_kind_1 : decode cX26_kind 1 = .ok (.getfield 7, 3) := by decide +kernel
theorem dX26_kind_4 : decode cX26_kind 4 = .ok (.ireturn, 1) := by decide +kernel
abbrev cX26_wear : ByteArray := prog_29_method_3_code
def yX26_wear : MethodName := ⟨RX26, "wear", "()I"⟩
def dkwX26_wear_0 : List UInt8 := [42, 180, 0, 7, 6, 160, 0, 7, 4, 167, 0, 4, 3, 172]
abbrev dktX26_wear_0 : List UInt8 := dkwX26_wear_0 ++ []
theorem dksX26_wear_0 : cX26_wear.data.toList.drop 0 = dktX26_wear_0 := by decide +kernel
theorem dX26_wear_0 : decode cX26_wear 0 = .ok (.aload_n 0, 1) := dk_42 (dk_at dksX26_wear_0 0 rfl rfl)
theorem dX26_wear_1 : decode cX26_wear 1 = .ok (.getfield 7, 3) := dk_180 0 7 (dk_at dksX26_wear_0 1 rfl rfl)
theorem dX26_wear_4 : decode cX26_wear 4 = .ok (.iconst 3, 1) := dk_6 (dk_at dksX26_wear_0 4 rfl rfl)
theorem dX26_wear_5 : decode cX26_wear 5 = .ok (.if_icmp .ne 7, 3) := dk_160 0 7 (dk_at dksX26_wear_0 5 rfl rfl)
theorem dX26_wear_8 : decode cX26_wear 8 = .ok (.iconst 1, 1) := dk_4 (dk_at dksX26_wear_0 8 rfl rfl)
theorem dX26_wear_9 : decode cX26_wear 9 = .ok (.goto 4, 3) := dk_167 0 4 (dk_at dksX26_wear_0 9 rfl rfl)
theorem dX26_wear_12 : decode cX26_wear 12 = .ok (.iconst 0, 1) := dk_3 (dk_at dksX26_wear_0 12 rfl rfl)
theorem dX26_wear_13 : decode cX26_wear 13 = .ok (.ireturn, 1) := dk_172 (dk_at dksX26_wear_0 13 rfl rfl)
theorem q112 : (Jvm.Cond.initialized "TurnpikeTrust$Walker") ∈ lw_all := lw_g (lw_at lw_m1 50 rfl) rfl
theorem q1173 : (Jvm.Cond.selects "TurnpikeTrust$Walker" ({ cls := "java/lang/Object", name := "getClass", desc := "()Ljava/lang/Class;" } : Jvm.MethodName) ({ cls := "java/lang/Object", name := "getClass", desc := "()Ljava/lang/Class;" } : Jvm.MethodName)) ∈ lw_all := lw_g (lw_at lw_m5 151 rfl) rfl
theorem q1350 : (Jvm.Cond.instanceMethod ({ cls := "TurnpikeTrust$Walker", name := "<init>", desc := "(IIIII)V" } : Jvm.MethodName)) ∈ lw_all := lw_g (lw_at lw_m6 88 rfl) rfl
theorem q1351 : (Jvm.Cond.code ({ cls := "TurnpikeTrust$Walker", name := "<init>", desc := "(IIIII)V" } : Jvm.MethodName) prog_29_method_1_code (6 : Nat) (Option.none : Option Jvm.ClassFile.FieldType)) ∈ lw_all := lw_g (lw_at lw_m6 89 rfl) rfl
theorem q1352 : (Jvm.Cond.methodLink "TurnpikeTrust$Walker" (1 : Nat) ({ cls := "TurnpikeTrust$Traveller", name := "<init>", desc := "(IIII)V" } : Jvm.MethodName)) ∈ lw_all := lw_g (lw_at lw_m6 90 rfl) rfl
theorem q1353 : (Jvm.Cond.fieldLink "TurnpikeTrust$Walker" (7 : Nat) "TurnpikeTrust$Walker" "kind" "I") ∈ lw_all := lw_g (lw_at lw_m6 91 rfl) rfl
theorem q1355 : (Jvm.Cond.soleField "TurnpikeTrust$Walker" "kind") ∈ lw_all := lw_g (lw_at lw_m6 93 rfl) rfl
theorem q1364 : (Jvm.Cond.instantiable "TurnpikeTrust$Walker" (7 : Nat)) ∈ lw_all := lw_g (lw_at lw_m6 102 rfl) rfl
theorem q1366 : (Jvm.Cond.laysFinal "TurnpikeTrust$Walker" "TurnpikeTrust$Walker" "kind" "I") ∈ lw_all := lw_g (lw_at lw_m6 104 rfl) rfl
theorem q1367 : (Jvm.Cond.laysFinal "TurnpikeTrust$Walker" "TurnpikeTrust$Traveller" "number" "I") ∈ lw_all := lw_g (lw_at lw_m6 105 rfl) rfl
theorem q1368 : (Jvm.Cond.laysFinal "TurnpikeTrust$Walker" "TurnpikeTrust$Traveller" "wheels" "I") ∈ lw_all := lw_g (lw_at lw_m6 106 rfl) rfl
theorem q1369 : (Jvm.Cond.laysFinal "TurnpikeTrust$Walker" "TurnpikeTrust$Traveller" "beasts" "I") ∈ lw_all := lw_g (lw_at lw_m6 107 rfl) rfl
theorem q1370 : (Jvm.Cond.laysFinal "TurnpikeTrust$Walker" "TurnpikeTrust$Traveller" "bits" "I") ∈ lw_all := lw_g (lw_at lw_m6 108 rfl) rfl
theorem q1371 : (Jvm.Cond.laysFinal "TurnpikeTrust$Walker" "TurnpikeTrust$Traveller" "passed" "[I") ∈ lw_all := lw_g (lw_at lw_m6 109 rfl) rfl
theorem q1372 : (Jvm.Cond.laysFinal "TurnpikeTrust$Walker" "TurnpikeTrust$Traveller" "paid" "[I") ∈ lw_all := lw_g (lw_at lw_m6 110 rfl) rfl
theorem q1373 : (Jvm.Cond.superclass "TurnpikeTrust$Walker" "TurnpikeTrust$Traveller") ∈ lw_all := lw_g (lw_at lw_m6 111 rfl) rfl
theorem q1478 : (Jvm.Cond.instanceMethod ({ cls := "TurnpikeTrust$Walker", name := "kind", desc := "()I" } : Jvm.MethodName)) ∈ lw_all := lw_g (lw_at lw_m6 216 rfl) rfl
theorem q1479 : (Jvm.Cond.code ({ cls := "TurnpikeTrust$Walker", name := "kind", desc := "()I" } : Jvm.MethodName) prog_29_method_2_code (1 : Nat) (Option.some Jvm.ClassFile.FieldType.int)) ∈ lw_all := lw_g (lw_at lw_m6 217 rfl) rfl
theorem q1480 : (Jvm.Cond.selects "TurnpikeTrust$Walker" ({ cls := "TurnpikeTrust$Traveller", name := "kind", desc := "()I" } : Jvm.MethodName) ({ cls := "TurnpikeTrust$Walker", name := "kind", desc := "()I" } : Jvm.MethodName)) ∈ lw_all := lw_g (lw_at lw_m6 218 rfl) rfl
theorem q1541 : (Jvm.Cond.declares ({ cls := "TurnpikeTrust$Walker", name := "kind", desc := "()I" } : Jvm.MethodName)) ∈ lw_tbl := lw_at lw_m7 39 rfl
theorem q1543 : (Jvm.Cond.selects "TurnpikeTrust$Walker" ({ cls := "TurnpikeTrust$Traveller", name := "wear", desc := "()I" } : Jvm.MethodName) ({ cls := "TurnpikeTrust$Walker", name := "wear", desc := "()I" } : Jvm.MethodName)) ∈ lw_all := lw_g (lw_at lw_m7 41 rfl) rfl
theorem q1544 : (Jvm.Cond.instanceMethod ({ cls := "TurnpikeTrust$Walker", name := "wear", desc := "()I" } : Jvm.MethodName)) ∈ lw_all := lw_g (lw_at lw_m7 42 rfl) rfl
theorem q1545 : (Jvm.Cond.code ({ cls := "TurnpikeTrust$Walker", name := "wear", desc := "()I" } : Jvm.MethodName) prog_29_method_3_code (1 : Nat) (Option.some Jvm.ClassFile.FieldType.int)) ∈ lw_all := lw_g (lw_at lw_m7 43 rfl) rfl
theorem q2245 : (Jvm.Cond.castable "TurnpikeTrust$Walker" "TurnpikeTrust$Traveller") ∈ lw_tbl := lw_at lw_m10 23 rfl
theorem q2286 : (Jvm.Cond.castable "TurnpikeTrust$Walker" "java/lang/Object") ∈ lw_tbl := lw_at lw_m10 64 rfl
theorem in_X26 : ∀ w ∈ wsX260, w ∈ lw_all := lw_in wsX260 [1367, 1368, 1369, 1370, 1371, 1372, 1366] (by decide +kernel) (by decide +kernel)
/-! TurnpikeTrust$Herd -/
set_option maxRecDepth 100000
def RX27 : String := "TurnpikeTrust$Herd"
def TX27 : u_T := fun k => match k with
  | 0 => ("TurnpikeTrust$Traveller", "number", "I", true)
  | 1 => ("TurnpikeTrust$Traveller", "wheels", "I", true)
  | 2 => ("TurnpikeTrust$Traveller", "beasts", "I", true)
  | 3 => ("TurnpikeTrust$Traveller", "bits", "I", true)
  | 4 => ("TurnpikeTrust$Traveller", "passed", "[I", true)
  | 5 => ("TurnpikeTrust$Traveller", "paid", "[I", true)
  | _ => ("TurnpikeTrust$Walker", "kind", "I", true)
def tyX27 : Nat → FieldType := fun k => match k with
  | 0 => .int
  | 1 => .int
  | 2 => .int
  | 3 => .int
  | 4 => .array .int
  | 5 => .array .int
  | _ => .int
abbrev wsX270 : List Cond := u_ws RX27 TX27 7
theorem nmX27 : ∀ a, a < 7 → ∀ b, b < 7 → a ≠ b → (TX27 a).2.1 ≠ (TX27 b).2.1 := by decide +kernel
theorem tyX27_ok : ∀ k, k < 7 → parseFieldDescriptor (TX27 k).2.2.1 = some (tyX27 k) := by decide +kernel
abbrev cX27_init : ByteArray := prog_15_method_1_code
def yX27_init : MethodName := ⟨RX27, "<init>", "(IIIII)V"⟩
def dkwX27_init_0 : List UInt8 := [42, 27, 28, 29, 21, 4, 21, 5, 183, 0, 1, 177]
abbrev dktX27_init_0 : List UInt8 := dkwX27_init_0 ++ []
theorem dksX27_init_0 : cX27_init.data.toList.drop 0 = dktX27_init_0 := by decide +kernel
theorem dX27_init_0 : decode cX27_init 0 = .ok (.aload_n 0, 1) := dk_42 (dk_at dksX27_init_0 0 rfl rfl)
theorem dX27_init_1 : decode cX27_init 1 = .ok (.iload_n 1, 1) := dk_27 (dk_at dksX27_init_0 1 rfl rfl)
theorem dX27_init_2 : decode cX27_init 2 = .ok (.iload_n 2, 1) := dk_28 (dk_at dksX27_init_0 2 rfl rfl)
theorem dX27_init_3 : decode cX27_init 3 = .ok (.iload_n 3, 1) := dk_29 (dk_at dksX27_init_0 3 rfl rfl)
theorem dX27_init_4 : decode cX27_init 4 = .ok (.iload 4, 2) := dk_21 4 (dk_at dksX27_init_0 4 rfl rfl)
theorem dX27_init_6 : decode cX27_init 6 = .ok (.iload 5, 2) := dk_21 5 (dk_at dksX27_init_0 6 rfl rfl)
theorem dX27_init_8 : decode cX27_init 8 = .ok (.invokespecial 1, 3) := dk_183 0 1 (dk_at dksX27_init_0 8 rfl rfl)
theorem dX27_init_11 : decode cX27_init 11 = .ok (.return_, 1) := dk_177 (dk_at dksX27_init_0 11 rfl rfl)
abbrev cX27_wear : ByteArray := prog_15_method_2_code
def yX27_wear : MethodName := ⟨RX27, "wear", "()I"⟩
def dkwX27_wear_0 : List UInt8 := [42, 182, 0, 7, 7, 160, 0, 10, 42, 180, 0, 13, 167, 0, 9, 42, 180, 0, 13, 7, 108, 172]
abbrev dktX27_wear_0 : List UInt8 := dkwX27_wear_0 ++ []
theorem dksX27_wear_0 : cX27_wear.data.toList.drop 0 = dktX27_wear_0 := by decide +kernel
theorem dX27_wear_0 : decode cX27_wear 0 = .ok (.aload_n 0, 1) := dk_42 (dk_at dksX27_wear_0 0 rfl rfl)
theorem dX27_wear_1 : decode cX27_wear 1 = .ok (.invokevirtual 7, 3) := dk_182 0 7 (dk_at dksX27_wear_0 1 rfl rfl)
theorem dX27_wear_4 : decode cX27_wear 4 = .ok (.iconst 4, 1) := dk_7 (dk_at dksX27_wear_0 4 rfl rfl)
theorem dX27_wear_5 : decode cX27_wear 5 = .ok (.if_icmp .ne 10, 3) := dk_160 0 10 (dk_at dksX27_wear_0 5 rfl rfl)
theorem dX27_wear_8 : decode cX27_wear 8 = .ok (.aload_n 0, 1) := dk_42 (dk_at dksX27_wear_0 8 rfl rfl)
theorem dX27_wear_9 : decode cX27_wear 9 = .ok (.getfield 13, 3) := dk_180 0 13 (dk_at dksX27_wear_0 9 rfl rfl)
theorem dX27_wear_12 : decode cX27_wear 12 = .ok (.goto 9, 3) := dk_167 0 9 (dk_at dksX27_wear_0 12 rfl rfl)
theorem dX27_wear_15 : decode cX27_wear 15 = .ok (.aload_n 0, 1) := dk_42 (dk_at dksX27_wear_0 15 rfl rfl)
theorem dX27_wear_16 : decode cX27_wear 16 = .ok (.getfield 13, 3) := dk_180 0 13 (dk_at dksX27_wear_0 16 rfl rfl)
theorem dX27_wear_19 : decode cX27_wear 19 = .ok (.iconst 4, 1) := dk_7 (dk_at dksX27_wear_0 19 rfl rfl)
theorem dX27_wear_20 : decode cX27_wear 20 = .ok (.idiv, 1) := dk_108 (dk_at dksX27_wear_0 20 rfl rfl)
theorem dX27_wear_21 : decode cX27_wear 21 = .ok (.ireturn, 1) := dk_172 (dk_at dksX27_wear_0 21 rfl rfl)
theorem q113 : (Jvm.Cond.initialized "TurnpikeTrust$Herd") ∈ lw_all := lw_g (lw_at lw_m1 51 rfl) rfl
theorem q1160 : (Jvm.Cond.selects "TurnpikeTrust$Herd" ({ cls := "java/lang/Object", name := "getClass", desc := "()Ljava/lang/Class;" } : Jvm.MethodName) ({ cls := "java/lang/Object", name := "getClass", desc := "()Ljava/lang/Class;" } : Jvm.MethodName)) ∈ lw_all := lw_g (lw_at lw_m5 138 rfl) rfl
theorem q1319 : (Jvm.Cond.fieldLink "TurnpikeTrust$Herd" (13 : Nat) "TurnpikeTrust$Herd" "beasts" "I") ∈ lw_all := lw_g (lw_at lw_m6 57 rfl) rfl
theorem q1320 : (Jvm.Cond.sameField "TurnpikeTrust$Herd" "TurnpikeTrust$Traveller" "beasts" "I") ∈ lw_all := lw_g (lw_at lw_m6 58 rfl) rfl
theorem q1345 : (Jvm.Cond.instantiable "TurnpikeTrust$Herd" (7 : Nat)) ∈ lw_all := lw_g (lw_at lw_m6 83 rfl) rfl
theorem q1347 : (Jvm.Cond.instanceMethod ({ cls := "TurnpikeTrust$Herd", name := "<init>", desc := "(IIIII)V" } : Jvm.MethodName)) ∈ lw_all := lw_g (lw_at lw_m6 85 rfl) rfl
theorem q1348 : (Jvm.Cond.code ({ cls := "TurnpikeTrust$Herd", name := "<init>", desc := "(IIIII)V" } : Jvm.MethodName) prog_15_method_1_code (6 : Nat) (Option.none : Option Jvm.ClassFile.FieldType)) ∈ lw_all := lw_g (lw_at lw_m6 86 rfl) rfl
theorem q1349 : (Jvm.Cond.methodLink "TurnpikeTrust$Herd" (1 : Nat) ({ cls := "TurnpikeTrust$Walker", name := "<init>", desc := "(IIIII)V" } : Jvm.MethodName)) ∈ lw_all := lw_g (lw_at lw_m6 87 rfl) rfl
theorem q1354 : (Jvm.Cond.laysFinal "TurnpikeTrust$Herd" "TurnpikeTrust$Walker" "kind" "I") ∈ lw_all := lw_g (lw_at lw_m6 92 rfl) rfl
theorem q1356 : (Jvm.Cond.laysFinal "TurnpikeTrust$Herd" "TurnpikeTrust$Traveller" "number" "I") ∈ lw_all := lw_g (lw_at lw_m6 94 rfl) rfl
theorem q1357 : (Jvm.Cond.laysFinal "TurnpikeTrust$Herd" "TurnpikeTrust$Traveller" "wheels" "I") ∈ lw_all := lw_g (lw_at lw_m6 95 rfl) rfl
theorem q1358 : (Jvm.Cond.laysFinal "TurnpikeTrust$Herd" "TurnpikeTrust$Traveller" "beasts" "I") ∈ lw_all := lw_g (lw_at lw_m6 96 rfl) rfl
theorem q1359 : (Jvm.Cond.laysFinal "TurnpikeTrust$Herd" "TurnpikeTrust$Traveller" "bits" "I") ∈ lw_all := lw_g (lw_at lw_m6 97 rfl) rfl
theorem q1360 : (Jvm.Cond.laysFinal "TurnpikeTrust$Herd" "TurnpikeTrust$Traveller" "passed" "[I") ∈ lw_all := lw_g (lw_at lw_m6 98 rfl) rfl
theorem q1361 : (Jvm.Cond.laysFinal "TurnpikeTrust$Herd" "TurnpikeTrust$Traveller" "paid" "[I") ∈ lw_all := lw_g (lw_at lw_m6 99 rfl) rfl
theorem q1362 : (Jvm.Cond.superclass "TurnpikeTrust$Herd" "TurnpikeTrust$Walker") ∈ lw_all := lw_g (lw_at lw_m6 100 rfl) rfl
theorem q1477 : (Jvm.Cond.selects "TurnpikeTrust$Herd" ({ cls := "TurnpikeTrust$Traveller", name := "kind", desc := "()I" } : Jvm.MethodName) ({ cls := "TurnpikeTrust$Walker", name := "kind", desc := "()I" } : Jvm.MethodName)) ∈ lw_all := lw_g (lw_at lw_m6 215 rfl) rfl
theorem q1536 : (Jvm.Cond.selects "TurnpikeTrust$Herd" ({ cls := "TurnpikeTrust$Traveller", name := "wear", desc := "()I" } : Jvm.MethodName) ({ cls := "TurnpikeTrust$Herd", name := "wear", desc := "()I" } : Jvm.MethodName)) ∈ lw_all := lw_g (lw_at lw_m7 34 rfl) rfl
theorem q1537 : (Jvm.Cond.instanceMethod ({ cls := "TurnpikeTrust$Herd", name := "wear", desc := "()I" } : Jvm.MethodName)) ∈ lw_all := lw_g (lw_at lw_m7 35 rfl) rfl
theorem q1538 : (Jvm.Cond.code ({ cls := "TurnpikeTrust$Herd", name := "wear", desc := "()I" } : Jvm.MethodName) prog_15_method_2_code (1 : Nat) (Option.some Jvm.ClassFile.FieldType.int)) ∈ lw_all := lw_g (lw_at lw_m7 36 rfl) rfl
theorem q1539 : (Jvm.Cond.methodLink "TurnpikeTrust$Herd" (7 : Nat) ({ cls := "TurnpikeTrust$Herd", name := "kind", desc := "()I" } : Jvm.MethodName)) ∈ lw_all := lw_g (lw_at lw_m7 37 rfl) rfl
theorem q1540 : (Jvm.Cond.sameMethod "TurnpikeTrust$Herd" "TurnpikeTrust$Walker" "kind" "()I") ∈ lw_all := lw_g (lw_at lw_m7 38 rfl) rfl
theorem q1542 : (Jvm.Cond.selects "TurnpikeTrust$Herd" ({ cls := "TurnpikeTrust$Herd", name := "kind", desc := "()I" } : Jvm.MethodName) ({ cls := "TurnpikeTrust$Walker", name := "kind", desc := "()I" } : Jvm.MethodName)) ∈ lw_all := lw_g (lw_at lw_m7 40 rfl) rfl
theorem q2244 : (Jvm.Cond.castable "TurnpikeTrust$Herd" "TurnpikeTrust$Traveller") ∈ lw_tbl := lw_at lw_m10 22 rfl
theorem q2285 : (Jvm.Cond.castable "TurnpikeTrust$Herd" "java/lang/Object") ∈ lw_tbl := lw_at lw_m10 63 rfl
theorem in_X27 : ∀ w ∈ wsX270, w ∈ lw_all := lw_in wsX270 [1356, 1357, 1358, 1359, 1360, 1361, 1354] (by decide +kernel) (by decide +kernel)
/-! TurnpikeTrust$Farmer -/
set_option maxRecDepth 100000
def RX28 : String := "TurnpikeTrust$Farmer"
def TX28 : u_T := fun k => match k with
  | _ => ("TurnpikeTrust$Farmer", "money", "J", false)
def tyX28 : Nat → FieldType := fun k => match k with
  | _ => .long
abbrev wsX280 : List Cond := u_ws RX28 TX28 1
theorem nmX28 : ∀ a, a < 1 → ∀ b, b < 1 → a ≠ b → (TX28 a).2.1 ≠ (TX28 b).2.1 := by decide +kernel
theorem tyX28_ok : ∀ k, k < 1 → parseFieldDescriptor (TX28 k).2.2.1 = some (tyX28 k) := by decide +kernel
abbrev cX28_init : ByteArray := prog_12_method_1_code
def yX28_init : MethodName := ⟨RX28, "<init>", "(J)V"⟩
def dkwX28_init_0 : List UInt8 := [42, 183, 0, 1, 42, 31, 181, 0, 7, 177]
abbrev dktX28_init_0 : List UInt8 := dkwX28_init_0 ++ []
theorem dksX28_init_0 : cX28_init.data.toList.drop 0 = dktX28_init_0 := by decide +kernel
theorem dX28_init_0 : decode cX28_init 0 = .ok (.aload_n 0, 1) := dk_42 (dk_at dksX28_init_0 0 rfl rfl)
theorem dX28_init_1 : decode cX28_init 1 = .ok (.invokespecial 1, 3) := dk_183 0 1 (dk_at dksX28_init_0 1 rfl rfl)
theorem dX28_init_4 : decode cX28_init 4 = .ok (.aload_n 0, 1) := dk_42 (dk_at dksX28_init_0 4 rfl rfl)
theorem dX28_init_5 : decode cX28_init 5 = .ok (.lload_n 1, 1) := dk_31 (dk_at dksX28_init_0 5 rfl rfl)
theorem dX28_init_6 : decode cX28_init 6 = .ok (.putfield 7, 3) := dk_181 0 7 (dk_at dksX28_init_0 6 rfl rfl)
theorem dX28_init_9 : decode cX28_init 9 = .ok (.return_, 1) := dk_177 (dk_at dksX28_init_0 9 rfl rfl)
theorem q115 : (Jvm.Cond.initialized "TurnpikeTrust$Farmer") ∈ lw_all := lw_g (lw_at lw_m1 53 rfl) rfl
theorem q1157 : (Jvm.Cond.selects "TurnpikeTrust$Farmer" ({ cls := "java/lang/Object", name := "getClass", desc := "()Ljava/lang/Class;" } : Jvm.MethodName) ({ cls := "java/lang/Object", name := "getClass", desc := "()Ljava/lang/Class;" } : Jvm.MethodName)) ∈ lw_all := lw_g (lw_at lw_m5 135 rfl) rfl
theorem q1621 : (Jvm.Cond.instantiable "TurnpikeTrust$Farmer" (1 : Nat)) ∈ lw_all := lw_g (lw_at lw_m7 119 rfl) rfl
theorem q1623 : (Jvm.Cond.instanceMethod ({ cls := "TurnpikeTrust$Farmer", name := "<init>", desc := "(J)V" } : Jvm.MethodName)) ∈ lw_all := lw_g (lw_at lw_m7 121 rfl) rfl
theorem q1624 : (Jvm.Cond.code ({ cls := "TurnpikeTrust$Farmer", name := "<init>", desc := "(J)V" } : Jvm.MethodName) prog_12_method_1_code (3 : Nat) (Option.none : Option Jvm.ClassFile.FieldType)) ∈ lw_all := lw_g (lw_at lw_m7 122 rfl) rfl
theorem q1625 : (Jvm.Cond.methodLink "TurnpikeTrust$Farmer" (1 : Nat) ({ cls := "java/lang/Object", name := "<init>", desc := "()V" } : Jvm.MethodName)) ∈ lw_all := lw_g (lw_at lw_m7 123 rfl) rfl
theorem q1626 : (Jvm.Cond.fieldLink "TurnpikeTrust$Farmer" (7 : Nat) "TurnpikeTrust$Farmer" "money" "J") ∈ lw_all := lw_g (lw_at lw_m7 124 rfl) rfl
theorem q1628 : (Jvm.Cond.lays "TurnpikeTrust$Farmer" "TurnpikeTrust$Farmer" "money" "J") ∈ lw_all := lw_g (lw_at lw_m7 126 rfl) rfl
theorem q1629 : (Jvm.Cond.soleField "TurnpikeTrust$Farmer" "money") ∈ lw_all := lw_g (lw_at lw_m7 127 rfl) rfl
theorem q1630 : (Jvm.Cond.superclass "TurnpikeTrust$Farmer" "java/lang/Object") ∈ lw_all := lw_g (lw_at lw_m7 128 rfl) rfl
theorem q2287 : (Jvm.Cond.castable "TurnpikeTrust$Farmer" "java/lang/Object") ∈ lw_tbl := lw_at lw_m10 65 rfl
theorem in_X28 : ∀ w ∈ wsX280, w ∈ lw_all := lw_in wsX280 [1628] (by decide +kernel) (by decide +kernel)
/-! TurnpikeTrust$Bid -/
set_option maxRecDepth 100000
def RX29 : String := "TurnpikeTrust$Bid"
def TX29 : u_T := fun k => match k with
  | 0 => ("TurnpikeTrust$Bid", "farmer", "I", true)
  | 1 => ("TurnpikeTrust$Bid", "rent", "I", true)
  | _ => ("TurnpikeTrust$Bid", "surety", "I", true)
def tyX29 : Nat → FieldType := fun k => match k with
  | 0 => .int
  | 1 => .int
  | _ => .int
abbrev wsX290 : List Cond := u_ws RX29 TX29 3
theorem nmX29 : ∀ a, a < 3 → ∀ b, b < 3 → a ≠ b → (TX29 a).2.1 ≠ (TX29 b).2.1 := by decide +kernel
theorem tyX29_ok : ∀ k, k < 3 → parseFieldDescriptor (TX29 k).2.2.1 = some (tyX29 k) := by decide +kernel
abbrev cX29_init : ByteArray := prog_6_method_1_code
def yX29_init : MethodName := ⟨RX29, "<init>", "(III)V"⟩
def dkwX29_init_0 : List UInt8 := [42, 183, 0, 1, 42, 27, 181, 0, 7, 42, 28, 181, 0, 13, 42, 29, 181, 0, 16, 177]
abbrev dktX29_init_0 : List UInt8 := dkwX29_init_0 ++ []
theorem dksX29_init_0 : cX29_init.data.toList.drop 0 = dktX29_init_0 := by decide +kernel
theorem dX29_init_0 : decode cX29_init 0 = .ok (.aload_n 0, 1) := dk_42 (dk_at dksX29_init_0 0 rfl rfl)
theorem dX29_init_1 : decode cX29_init 1 = .ok (.invokespecial 1, 3) := dk_183 0 1 (dk_at dksX29_init_0 1 rfl rfl)
theorem dX29_init_4 : decode cX29_init 4 = .ok (.aload_n 0, 1) := dk_42 (dk_at dksX29_init_0 4 rfl rfl)
theorem dX29_init_5 : decode cX29_init 5 = .ok (.iload_n 1, 1) := dk_27 (dk_at dksX29_init_0 5 rfl rfl)
theorem dX29_init_6 : decode cX29_init 6 = .ok (.putfield 7, 3) := dk_181 0 7 (dk_at dksX29_init_0 6 rfl rfl)
theorem dX29_init_9 : decode cX29_init 9 = .ok (.aload_n 0, 1) := dk_42 (dk_at dksX29_init_0 9 rfl rfl)
theorem dX29_init_10 : decode cX29_init 10 = .ok (.iload_n 2, 1) := dk_28 (dk_at dksX29_init_0 10 rfl rfl)
theorem dX29_init_11 : decode cX29_init 11 = .ok (.putfield 13, 3) := dk_181 0 13 (dk_at dksX29_init_0 11 rfl rfl)
theorem dX29_init_14 : decode cX29_init 14 = .ok (.aload_n 0, 1) := dk_42 (dk_at dksX29_init_0 14 rfl rfl)
theorem dX29_init_15 : decode cX29_init 15 = .ok (.iload_n 3, 1) := dk_29 (dk_at dksX29_init_0 15 rfl rfl)
theorem dX29_init_16 : decode cX29_init 16 = .ok (.putfield 16, 3) := dk_181 0 16 (dk_at dksX29_init_0 16 rfl rfl)
theorem dX29_init_19 : decode cX29_init 19 = .ok (.return_, 1) := dk_177 (dk_at dksX29_init_0 19 rfl rfl)
theorem q116 : (Jvm.Cond.initialized "TurnpikeTrust$Bid") ∈ lw_all := lw_g (lw_at lw_m1 54 rfl) rfl
theorem q1153 : (Jvm.Cond.selects "TurnpikeTrust$Bid" ({ cls := "java/lang/Object", name := "getClass", desc := "()Ljava/lang/Class;" } : Jvm.MethodName) ({ cls := "java/lang/Object", name := "getClass", desc := "()Ljava/lang/Class;" } : Jvm.MethodName)) ∈ lw_all := lw_g (lw_at lw_m5 131 rfl) rfl
theorem q1640 : (Jvm.Cond.instantiable "TurnpikeTrust$Bid" (3 : Nat)) ∈ lw_all := lw_g (lw_at lw_m7 138 rfl) rfl
theorem q1642 : (Jvm.Cond.instanceMethod ({ cls := "TurnpikeTrust$Bid", name := "<init>", desc := "(III)V" } : Jvm.MethodName)) ∈ lw_all := lw_g (lw_at lw_m7 140 rfl) rfl
theorem q1643 : (Jvm.Cond.code ({ cls := "TurnpikeTrust$Bid", name := "<init>", desc := "(III)V" } : Jvm.MethodName) prog_6_method_1_code (4 : Nat) (Option.none : Option Jvm.ClassFile.FieldType)) ∈ lw_all := lw_g (lw_at lw_m7 141 rfl) rfl
theorem q1644 : (Jvm.Cond.methodLink "TurnpikeTrust$Bid" (1 : Nat) ({ cls := "java/lang/Object", name := "<init>", desc := "()V" } : Jvm.MethodName)) ∈ lw_all := lw_g (lw_at lw_m7 142 rfl) rfl
theorem q1645 : (Jvm.Cond.fieldLink "TurnpikeTrust$Bid" (7 : Nat) "TurnpikeTrust$Bid" "farmer" "I") ∈ lw_all := lw_g (lw_at lw_m7 143 rfl) rfl
theorem q1647 : (Jvm.Cond.fieldLink "TurnpikeTrust$Bid" (13 : Nat) "TurnpikeTrust$Bid" "rent" "I") ∈ lw_all := lw_g (lw_at lw_m7 145 rfl) rfl
theorem q1649 : (Jvm.Cond.fieldLink "TurnpikeTrust$Bid" (16 : Nat) "TurnpikeTrust$Bid" "surety" "I") ∈ lw_all := lw_g (lw_at lw_m7 147 rfl) rfl
theorem q1651 : (Jvm.Cond.laysFinal "TurnpikeTrust$Bid" "TurnpikeTrust$Bid" "farmer" "I") ∈ lw_all := lw_g (lw_at lw_m7 149 rfl) rfl
theorem q1652 : (Jvm.Cond.soleField "TurnpikeTrust$Bid" "farmer") ∈ lw_all := lw_g (lw_at lw_m7 150 rfl) rfl
theorem q1653 : (Jvm.Cond.laysFinal "TurnpikeTrust$Bid" "TurnpikeTrust$Bid" "rent" "I") ∈ lw_all := lw_g (lw_at lw_m7 151 rfl) rfl
theorem q1654 : (Jvm.Cond.soleField "TurnpikeTrust$Bid" "rent") ∈ lw_all := lw_g (lw_at lw_m7 152 rfl) rfl
theorem q1655 : (Jvm.Cond.laysFinal "TurnpikeTrust$Bid" "TurnpikeTrust$Bid" "surety" "I") ∈ lw_all := lw_g (lw_at lw_m7 153 rfl) rfl
theorem q1656 : (Jvm.Cond.soleField "TurnpikeTrust$Bid" "surety") ∈ lw_all := lw_g (lw_at lw_m7 154 rfl) rfl
theorem q1657 : (Jvm.Cond.superclass "TurnpikeTrust$Bid" "java/lang/Object") ∈ lw_all := lw_g (lw_at lw_m7 155 rfl) rfl
theorem q2288 : (Jvm.Cond.castable "TurnpikeTrust$Bid" "java/lang/Object") ∈ lw_tbl := lw_at lw_m10 66 rfl
theorem in_X29 : ∀ w ∈ wsX290, w ∈ lw_all := lw_in wsX290 [1651, 1653, 1655] (by decide +kernel) (by decide +kernel)
/-! TurnpikeTrust$Loan -/
set_option maxRecDepth 100000
def RX30 : String := "TurnpikeTrust$Loan"
def TX30 : u_T := fun k => match k with
  | 0 => ("TurnpikeTrust$Loan", "rate", "I", true)
  | 1 => ("TurnpikeTrust$Loan", "rank", "I", true)
  | 2 => ("TurnpikeTrust$Loan", "sum", "J", false)
  | _ => ("TurnpikeTrust$Loan", "due", "J", false)
def tyX30 : Nat → FieldType := fun k => match k with
  | 0 => .int
  | 1 => .int
  | 2 => .long
  | _ => .long
abbrev wsX300 : List Cond := u_ws RX30 TX30 4
theorem nmX30 : ∀ a, a < 4 → ∀ b, b < 4 → a ≠ b → (TX30 a).2.1 ≠ (TX30 b).2.1 := by decide +kernel
theorem tyX30_ok : ∀ k, k < 4 → parseFieldDescriptor (TX30 k).2.2.1 = some (tyX30 k) := by decide +kernel
abbrev cX30_init : ByteArray := prog_17_method_1_code
def yX30_init : MethodName := ⟨RX30, "<init>", "(JII)V"⟩
def dkwX30_init_0 : List UInt8 := [42, 183, 0, 1, 42, 31, 181, 0, 7, 42, 29, 181, 0, 13, 42, 21, 4, 181, 0, 17, 177]
abbrev dktX30_init_0 : List UInt8 := dkwX30_init_0 ++ []
theorem dksX30_init_0 : cX30_init.data.toList.drop 0 = dktX30_init_0 := by decide +kernel
theorem dX30_init_0 : decode cX30_init 0 = .ok (.aload_n 0, 1) := dk_42 (dk_at dksX30_init_0 0 rfl rfl)
theorem dX30_init_1 : decode cX30_init 1 = .ok (.invokespecial 1, 3) := dk_183 0 1 (dk_at dksX30_init_0 1 rfl rfl)
theorem dX30_init_4 : decode cX30_init 4 = .ok (.aload_n 0, 1) := dk_42 (dk_at dksX30_init_0 4 rfl rfl)
theorem dX30_init_5 : decode cX30_init 5 = .ok (.lload_n 1, 1) := dk_31 (dk_at dksX30_init_0 5 rfl rfl)
theorem dX30_init_6 : decode cX30_init 6 = .ok (.putfield 7, 3) := dk_181 0 7 (dk_at dksX30_init_0 6 rfl rfl)
theorem dX30_init_9 : decode cX30_init 9 = .ok (.aload_n 0, 1) := dk_42 (dk_at dksX30_init_0 9 rfl rfl)
theorem dX30_init_10 : decode cX30_init 10 = .ok (.iload_n 3, 1) := dk_29 (dk_at dksX30_init_0 10 rfl rfl)
theorem dX30_init_11 : decode cX30_init 11 = .ok (.putfield 13, 3) := dk_181 0 13 (dk_at dksX30_init_0 11 rfl rfl)
theorem dX30_init_14 : decode cX30_init 14 = .ok (.aload_n 0, 1) := dk_42 (dk_at dksX30_init_0 14 rfl rfl)
theorem dX30_init_15 : decode cX30_init 15 = .ok (.iload 4, 2) := dk_21 4 (dk_at dksX30_init_0 15 rfl rfl)
theorem dX30_init_17 : decode cX30_init 17 = .ok (.putfield 17, 3) := dk_181 0 17 (dk_at dksX30_init_0 17 rfl rfl)
theorem dX30_init_20 : decode cX30_init 20 = .ok (.return_, 1) := dk_177 (dk_at dksX30_init_0 20 rfl rfl)
theorem q117 : (Jvm.Cond.initialized "TurnpikeTrust$Loan") ∈ lw_all := lw_g (lw_at lw_m1 55 rfl) rfl
theorem q1162 : (Jvm.Cond.selects "TurnpikeTrust$Loan" ({ cls := "java/lang/Object", name := "getClass", desc := "()Ljava/lang/Class;" } : Jvm.MethodName) ({ cls := "java/lang/Object", name := "getClass", desc := "()Ljava/lang/Class;" } : Jvm.MethodName)) ∈ lw_all := lw_g (lw_at lw_m5 140 rfl) rfl
theorem q1683 : (Jvm.Cond.instantiable "TurnpikeTrust$Loan" (4 : Nat)) ∈ lw_all := lw_g (lw_at lw_m7 181 rfl) rfl
theorem q1685 : (Jvm.Cond.instanceMethod ({ cls := "TurnpikeTrust$Loan", name := "<init>", desc := "(JII)V" } : Jvm.MethodName)) ∈ lw_all := lw_g (lw_at lw_m7 183 rfl) rfl
theorem q1686 : (Jvm.Cond.code ({ cls := "TurnpikeTrust$Loan", name := "<init>", desc := "(JII)V" } : Jvm.MethodName) prog_17_method_1_code (5 : Nat) (Option.none : Option Jvm.ClassFile.FieldType)) ∈ lw_all := lw_g (lw_at lw_m7 184 rfl) rfl
theorem q1687 : (Jvm.Cond.methodLink "TurnpikeTrust$Loan" (1 : Nat) ({ cls := "java/lang/Object", name := "<init>", desc := "()V" } : Jvm.MethodName)) ∈ lw_all := lw_g (lw_at lw_m7 185 rfl) rfl
theorem q1688 : (Jvm.Cond.fieldLink "TurnpikeTrust$Loan" (13 : Nat) "TurnpikeTrust$Loan" "rate" "I") ∈ lw_all := lw_g (lw_at lw_m7 186 rfl) rfl
theorem q1690 : (Jvm.Cond.fieldLink "TurnpikeTrust$Loan" (17 : Nat) "TurnpikeTrust$Loan" "rank" "I") ∈ lw_all := lw_g (lw_at lw_m7 188 rfl) rfl
theorem q1692 : (Jvm.Cond.fieldLink "TurnpikeTrust$Loan" (7 : Nat) "TurnpikeTrust$Loan" "sum" "J") ∈ lw_all := lw_g (lw_at lw_m7 190 rfl) rfl
theorem q1695 : (Jvm.Cond.laysFinal "TurnpikeTrust$Loan" "TurnpikeTrust$Loan" "rate" "I") ∈ lw_all := lw_g (lw_at lw_m7 193 rfl) rfl
theorem q1696 : (Jvm.Cond.soleField "TurnpikeTrust$Loan" "rate") ∈ lw_all := lw_g (lw_at lw_m7 194 rfl) rfl
theorem q1697 : (Jvm.Cond.laysFinal "TurnpikeTrust$Loan" "TurnpikeTrust$Loan" "rank" "I") ∈ lw_all := lw_g (lw_at lw_m7 195 rfl) rfl
theorem q1698 : (Jvm.Cond.soleField "TurnpikeTrust$Loan" "rank") ∈ lw_all := lw_g (lw_at lw_m7 196 rfl) rfl
theorem q1699 : (Jvm.Cond.lays "TurnpikeTrust$Loan" "TurnpikeTrust$Loan" "sum" "J") ∈ lw_all := lw_g (lw_at lw_m7 197 rfl) rfl
theorem q1700 : (Jvm.Cond.soleField "TurnpikeTrust$Loan" "sum") ∈ lw_all := lw_g (lw_at lw_m7 198 rfl) rfl
theorem q1701 : (Jvm.Cond.lays "TurnpikeTrust$Loan" "TurnpikeTrust$Loan" "due" "J") ∈ lw_all := lw_g (lw_at lw_m7 199 rfl) rfl
theorem q1702 : (Jvm.Cond.soleField "TurnpikeTrust$Loan" "due") ∈ lw_all := lw_g (lw_at lw_m7 200 rfl) rfl
theorem q1703 : (Jvm.Cond.superclass "TurnpikeTrust$Loan" "java/lang/Object") ∈ lw_all := lw_g (lw_at lw_m7 201 rfl) rfl
theorem q2289 : (Jvm.Cond.castable "TurnpikeTrust$Loan" "java/lang/Object") ∈ lw_tbl := lw_at lw_m10 67 rfl
theorem in_X30 : ∀ w ∈ wsX300, w ∈ lw_all := lw_in wsX300 [1695, 1697, 1699, 1701] (by decide +kernel) (by decide +kernel)
