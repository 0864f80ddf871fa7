/-! java/util/AbstractCollection -/
set_option maxRecDepth 100000
def RJ0 : String := "java/util/AbstractCollection"
abbrev cJ0_init : ByteArray := prog_60_method_1_code
def yJ0_init : MethodName := ⟨RJ0, "<init>", "()V"⟩
theorem dJ0_init_0 : decode cJ0_init 0 = .ok (.aload_n 0, 1) := by decide +kernel
theorem dJ0_init_1 : decode cJ0_init 1 = .ok (.invokespecial 1, 3) := by decide +kernel
theorem dJ0_init_4 : decode cJ0_init 4 = .ok (.return_, 1) := by decide +kernel
theorem q64 : (Jvm.Cond.initialized "java/util/AbstractCollection") ∈ lw_all := lw_g (lw_at lw_m1 2 rfl) rfl
theorem q135 : (Jvm.Cond.instanceMethod ({ cls := "java/util/AbstractCollection", name := "<init>", desc := "()V" } : Jvm.MethodName)) ∈ lw_all := lw_g (lw_at lw_m1 73 rfl) rfl
theorem q136 : (Jvm.Cond.code ({ cls := "java/util/AbstractCollection", name := "<init>", desc := "()V" } : Jvm.MethodName) prog_60_method_1_code (1 : Nat) (Option.none : Option Jvm.ClassFile.FieldType)) ∈ lw_all := lw_g (lw_at lw_m1 74 rfl) rfl
theorem q137 : (Jvm.Cond.methodLink "java/util/AbstractCollection" (1 : Nat) ({ cls := "java/lang/Object", name := "<init>", desc := "()V" } : Jvm.MethodName)) ∈ lw_all := lw_g (lw_at lw_m1 75 rfl) rfl
/-! java/util/AbstractList -/
set_option maxRecDepth 100000
def RJ1 : String := "java/util/AbstractList"
abbrev cJ1_init : ByteArray := prog_61_method_1_code
def yJ1_init : MethodName := ⟨RJ1, "<init>", "()V"⟩
def dkwJ1_init_0 : List UInt8 := [42, 183, 0, 1, 42, 3, 181, 0, 7, 177]
abbrev dktJ1_init_0 : List UInt8 := dkwJ1_init_0 ++ []
theorem dksJ1_init_0 : cJ1_init.data.toList.drop 0 = dktJ1_init_0 := by decide +kernel
theorem dJ1_init_0 : decode cJ1_init 0 = .ok (.aload_n 0, 1) := dk_42 (dk_at dksJ1_init_0 0 rfl rfl)
theorem dJ1_init_1 : decode cJ1_init 1 = .ok (.invokespecial 1, 3) := dk_183 0 1 (dk_at dksJ1_init_0 1 rfl rfl)
theorem dJ1_init_4 : decode cJ1_init 4 = .ok (.aload_n 0, 1) := dk_42 (dk_at dksJ1_init_0 4 rfl rfl)
theorem dJ1_init_5 : decode cJ1_init 5 = .ok (.iconst 0, 1) := dk_3 (dk_at dksJ1_init_0 5 rfl rfl)
theorem dJ1_init_6 : decode cJ1_init 6 = .ok (.putfield 7, 3) := dk_181 0 7 (dk_at dksJ1_init_0 6 rfl rfl)
theorem dJ1_init_9 : decode cJ1_init 9 = .ok (.return_, 1) := dk_177 (dk_at dksJ1_init_0 9 rfl rfl)
theorem q65 : (Jvm.Cond.initialized "java/util/AbstractList") ∈ lw_all := lw_g (lw_at lw_m1 3 rfl) rfl
theorem q132 : (Jvm.Cond.instanceMethod ({ cls := "java/util/AbstractList", name := "<init>", desc := "()V" } : Jvm.MethodName)) ∈ lw_all := lw_g (lw_at lw_m1 70 rfl) rfl
theorem q133 : (Jvm.Cond.code ({ cls := "java/util/AbstractList", name := "<init>", desc := "()V" } : Jvm.MethodName) prog_61_method_1_code (1 : Nat) (Option.none : Option Jvm.ClassFile.FieldType)) ∈ lw_all := lw_g (lw_at lw_m1 71 rfl) rfl
theorem q134 : (Jvm.Cond.methodLink "java/util/AbstractList" (1 : Nat) ({ cls := "java/util/AbstractCollection", name := "<init>", desc := "()V" } : Jvm.MethodName)) ∈ lw_all := lw_g (lw_at lw_m1 72 rfl) rfl
theorem q460 : (Jvm.Cond.fieldLink "java/util/AbstractList" (7 : Nat) "java/util/AbstractList" "modCount" "I") ∈ lw_all := lw_g (lw_at lw_m2 158 rfl) rfl
theorem q468 : (Jvm.Cond.soleField "java/util/AbstractList" "modCount") ∈ lw_all := lw_g (lw_at lw_m2 166 rfl) rfl
/-! java/util/ArrayList -/
set_option maxRecDepth 100000
def RJ2 : String := "java/util/ArrayList"
def TJ2 : u_T := fun k => match k with
  | 0 => ("java/util/AbstractList", "modCount", "I", false)
  | 1 => ("java/util/ArrayList", "elementData", "[Ljava/lang/Object;", false)
  | _ => ("java/util/ArrayList", "size", "I", false)
def tyJ2 : Nat → FieldType := fun k => match k with
  | 0 => .int
  | 1 => .array (.object "java/lang/Object")
  | _ => .int
abbrev wsJ20 : List Cond := u_ws RJ2 TJ2 3
theorem nmJ2 : ∀ a, a < 3 → ∀ b, b < 3 → a ≠ b → (TJ2 a).2.1 ≠ (TJ2 b).2.1 := by decide +kernel
theorem tyJ2_ok : ∀ k, k < 3 → parseFieldDescriptor (TJ2 k).2.2.1 = some (tyJ2 k) := by decide +kernel
abbrev cJ2_init : ByteArray := prog_62_method_1_code
def yJ2_init : MethodName := ⟨RJ2, "<init>", "(I)V"⟩
def dkwJ2_init_2 : List UInt8 := [182, 0, 25, 27, 182, 0, 29, 182, 0, 32, 183, 0, 36, 191, 177]
abbrev dktJ2_init_2 : List UInt8 := dkwJ2_init_2 ++ []
def dkwJ2_init_1 : List UInt8 := [178, 0, 15, 181, 0, 9, 167, 0, 30, 187, 0, 18, 89, 187, 0, 20, 89, 183, 0, 22, 18, 23]
abbrev dktJ2_init_1 : List UInt8 := dkwJ2_init_1 ++ dktJ2_init_2
def dkwJ2_init_0 : List UInt8 := [42, 183, 0, 1, 27, 158, 0, 14, 42, 27, 189, 0, 7, 181, 0, 9, 167, 0, 44, 27, 154, 0, 13, 42]
abbrev dktJ2_init_0 : List UInt8 := dkwJ2_init_0 ++ dktJ2_init_1
theorem dksJ2_init_0 : cJ2_init.data.toList.drop 0 = dktJ2_init_0 := by decide +kernel
theorem dksJ2_init_1 : cJ2_init.data.toList.drop 24 = dktJ2_init_1 := dk_seg dksJ2_init_0 24 rfl rfl
theorem dksJ2_init_2 : cJ2_init.data.toList.drop 46 = dktJ2_init_2 := dk_seg dksJ2_init_1 22 rfl rfl
theorem dJ2_init_0 : decode cJ2_init 0 = .ok (.aload_n 0, 1) := dk_42 (dk_at dksJ2_init_0 0 rfl rfl)
theorem dJ2_init_1 : decode cJ2_init 1 = .ok (.invokespecial 1, 3) := dk_183 0 1 (dk_at dksJ2_init_0 1 rfl rfl)
theorem dJ2_init_4 : decode cJ2_init 4 = .ok (.iload_n 1, 1) := dk_27 (dk_at dksJ2_init_0 4 rfl rfl)
theorem dJ2_init_5 : decode cJ2_init 5 = .ok (.ifCond .le 14, 3) := dk_158 0 14 (dk_at dksJ2_init_0 5 rfl rfl)
theorem dJ2_init_8 : decode cJ2_init 8 = .ok (.aload_n 0, 1) := dk_42 (dk_at dksJ2_init_0 8 rfl rfl)
theorem dJ2_init_9 : decode cJ2_init 9 = .ok (.iload_n 1, 1) := dk_27 (dk_at dksJ2_init_0 9 rfl rfl)
theorem dJ2_init_10 : decode cJ2_init 10 = .ok (.anewarray 7, 3) := dk_189 0 7 (dk_at dksJ2_init_0 10 rfl rfl)
theorem dJ2_init_13 : decode cJ2_init 13 = .ok (.putfield 9, 3) := dk_181 0 9 (dk_at dksJ2_init_0 13 rfl rfl)
theorem dJ2_init_16 : decode cJ2_init 16 = .ok (.goto 44, 3) := dk_167 0 44 (dk_at dksJ2_init_0 16 rfl rfl)
theorem dJ2_init_19 : decode cJ2_init 19 = .ok (.iload_n 1, 1) := dk_27 (dk_at dksJ2_init_0 19 rfl rfl)
theorem dJ2_init_20 : decode cJ2_init 20 = .ok (.ifCond .ne 13, 3) := dk_154 0 13 (dk_at dksJ2_init_0 20 rfl rfl)
theorem dJ2_init_23 : decode cJ2_init 23 = .ok (.aload_n 0, 1) := dk_42 (dk_at dksJ2_init_0 23 rfl rfl)
theorem dJ2_init_24 : decode cJ2_init 24 = .ok (.getstatic 15, 3) := dk_178 0 15 (dk_at dksJ2_init_1 0 rfl rfl)
theorem dJ2_init_27 : decode cJ2_init 27 = .ok (.putfield 9, 3) := dk_181 0 9 (dk_at dksJ2_init_1 3 rfl rfl)
theorem dJ2_init_30 : decode cJ2_init 30 = .ok (.goto 30, 3) := dk_167 0 30 (dk_at dksJ2_init_1 6 rfl rfl)
theorem dJ2_init_33 : decode cJ2_init 33 = .ok (.new 18, 3) := dk_187 0 18 (dk_at dksJ2_init_1 9 rfl rfl)
theorem dJ2_init_36 : decode cJ2_init 36 = .ok (.dup, 1) := dk_89 (dk_at dksJ2_init_1 12 rfl rfl)
theorem dJ2_init_37 : decode cJ2_init 37 = .ok (.new 20, 3) := dk_187 0 20 (dk_at dksJ2_init_1 13 rfl rfl)
theorem dJ2_init_40 : decode cJ2_init 40 = .ok (.dup, 1) := dk_89 (dk_at dksJ2_init_1 16 rfl rfl)
theorem dJ2_init_41 : decode cJ2_init 41 = .ok (.invokespecial 22, 3) := dk_183 0 22 (dk_at dksJ2_init_1 17 rfl rfl)
theorem dJ2_init_44 : decode cJ2_init 44 = .ok (.ldc 23, 2) := dk_18 23 (dk_at dksJ2_init_1 20 rfl rfl)
theorem dJ2_init_46 : decode cJ2_init 46 = .ok (.invokevirtual 25, 3) := dk_182 0 25 (dk_at dksJ2_init_2 0 rfl rfl)
theorem dJ2_init_49 : decode cJ2_init 49 = .ok (.iload_n 1, 1) := dk_27 (dk_at dksJ2_init_2 3 rfl rfl)
theorem dJ2_init_50 : decode cJ2_init 50 = .ok (.invokevirtual 29, 3) := dk_182 0 29 (dk_at dksJ2_init_2 4 rfl rfl)
theorem dJ2_init_53 : decode cJ2_init 53 = .ok (.invokevirtual 32, 3) := dk_182 0 32 (dk_at dksJ2_init_2 7 rfl rfl)
theorem dJ2_init_56 : decode cJ2_init 56 = .ok (.invokespecial 36, 3) := dk_183 0 36 (dk_at dksJ2_init_2 10 rfl rfl)
theorem dJ2_init_59 : decode cJ2_init 59 = .ok (.athrow, 1) := dk_191 (dk_at dksJ2_init_2 13 rfl rfl)
theorem dJ2_init_60 : decode cJ2_init 60 = .ok (.return_, 1) := dk_177 (dk_at dksJ2_init_2 14 rfl rfl)
abbrev cJ2_size : ByteArray := prog_62_method_8_code
def yJ2_size : MethodName := ⟨RJ2, "size", "()I"⟩
theorem dJ2_size_0 : decode cJ2_size 0 = .ok (.aload_n 0, 1) := by decide +kernel
theorem dJ2_size_1 : decode cJ2_size 1 = .ok (.getfield 48, 3) := by decide +kernel
theorem dJ2_size_4 : decode cJ2_size 4 = .ok (.ireturn, 1) := by decide +kernel
abbrev cJ2_add : ByteArray := prog_62_method_25_code
def yJ2_add : MethodName := ⟨RJ2, "add", "(Ljava/lang/Object;)Z"⟩
def dkwJ2_add_1 : List UInt8 := [172]
abbrev dktJ2_add_1 : List UInt8 := dkwJ2_add_1 ++ []
def dkwJ2_add_0 : List UInt8 := [42, 89, 180, 0, 63, 4, 96, 181, 0, 63, 42, 43, 42, 180, 0, 9, 42, 180, 0, 48, 182, 0, 131, 4]
abbrev dktJ2_add_0 : List UInt8 := dkwJ2_add_0 ++ dktJ2_add_1
theorem dksJ2_add_0 : cJ2_add.data.toList.drop 0 = dktJ2_add_0 := by decide +kernel
theorem dksJ2_add_1 : cJ2_add.data.toList.drop 24 = dktJ2_add_1 := dk_seg dksJ2_add_0 24 rfl rfl
theorem dJ2_add_0 : decode cJ2_add 0 = .ok (.aload_n 0, 1) := dk_42 (dk_at dksJ2_add_0 0 rfl rfl)
theorem dJ2_add_1 : decode cJ2_add 1 = .ok (.dup, 1) := dk_89 (dk_at dksJ2_add_0 1 rfl rfl)
theorem dJ2_add_2 : decode cJ2_add 2 = .ok (.getfield 63, 3) := dk_180 0 63 (dk_at dksJ2_add_0 2 rfl rfl)
theorem dJ2_add_5 : decode cJ2_add 5 = .ok (.iconst 1, 1) := dk_4 (dk_at dksJ2_add_0 5 rfl rfl)
theorem dJ2_add_6 : decode cJ2_add 6 = .ok (.iadd, 1) := dk_96 (dk_at dksJ2_add_0 6 rfl rfl)
theorem dJ2_add_7 : decode cJ2_add 7 = .ok (.putfield 63, 3) := dk_181 0 63 (dk_at dksJ2_add_0 7 rfl rfl)
theorem dJ2_add_10 : decode cJ2_add 10 = .ok (.aload_n 0, 1) := dk_42 (dk_at dksJ2_add_0 10 rfl rfl)
theorem dJ2_add_11 : decode cJ2_add 11 = .ok (.aload_n 1, 1) := dk_43 (dk_at dksJ2_add_0 11 rfl rfl)
theorem dJ2_add_12 : decode cJ2_add 12 = .ok (.aload_n 0, 1) := dk_42 (dk_at dksJ2_add_0 12 rfl rfl)
theorem dJ2_add_13 : decode cJ2_add 13 = .ok (.getfield 9, 3) := dk_180 0 9 (dk_at dksJ2_add_0 13 rfl rfl)
theorem dJ2_add_16 : decode cJ2_add 16 = .ok (.aload_n 0, 1) := dk_42 (dk_at dksJ2_add_0 16 rfl rfl)
theorem dJ2_add_17 : decode cJ2_add 17 = .ok (.getfield 48, 3) := dk_180 0 48 (dk_at dksJ2_add_0 17 rfl rfl)
theorem dJ2_add_20 : decode cJ2_add 20 = .ok (.invokevirtual 131, 3) := dk_182 0 131 (dk_at dksJ2_add_0 20 rfl rfl)
theorem dJ2_add_23 : decode cJ2_add 23 = .ok (.iconst 1, 1) := dk_4 (dk_at dksJ2_add_0 23 rfl rfl)
theorem dJ2_add_24 : decode cJ2_add 24 = .ok (.ireturn, 1) := dk_172 (dk_at dksJ2_add_1 0 rfl rfl)
abbrev cJ2_add_2 : ByteArray := prog_62_method_24_code
def yJ2_add_2 : MethodName := ⟨RJ2, "add", "(Ljava/lang/Object;[Ljava/lang/Object;I)V"⟩
def dkwJ2_add_2_0 : List UInt8 := [29, 44, 190, 160, 0, 8, 42, 182, 0, 129, 77, 44, 29, 43, 83, 42, 29, 4, 96, 181, 0, 48, 177]
abbrev dktJ2_add_2_0 : List UInt8 := dkwJ2_add_2_0 ++ []
theorem dksJ2_add_2_0 : cJ2_add_2.data.toList.drop 0 = dktJ2_add_2_0 := by decide +kernel
theorem dJ2_add_2_0 : decode cJ2_add_2 0 = .ok (.iload_n 3, 1) := dk_29 (dk_at dksJ2_add_2_0 0 rfl rfl)
theorem dJ2_add_2_1 : decode cJ2_add_2 1 = .ok (.aload_n 2, 1) := dk_44 (dk_at dksJ2_add_2_0 1 rfl rfl)
theorem dJ2_add_2_2 : decode cJ2_add_2 2 = .ok (.arraylength, 1) := dk_190 (dk_at dksJ2_add_2_0 2 rfl rfl)
theorem dJ2_add_2_3 : decode cJ2_add_2 3 = .ok (.if_icmp .ne 8, 3) := dk_160 0 8 (dk_at dksJ2_add_2_0 3 rfl rfl)
theorem dJ2_add_2_6 : decode cJ2_add_2 6 = .ok (.aload_n 0, 1) := dk_42 (dk_at dksJ2_add_2_0 6 rfl rfl)
theorem dJ2_add_2_7 : decode cJ2_add_2 7 = .ok (.invokevirtual 129, 3) := dk_182 0 129 (dk_at dksJ2_add_2_0 7 rfl rfl)
theorem dJ2_add_2_10 : decode cJ2_add_2 10 = .ok (.astore_n 2, 1) := dk_77 (dk_at dksJ2_add_2_0 10 rfl rfl)
theorem dJ2_add_2_11 : decode cJ2_add_2 11 = .ok (.aload_n 2, 1) := dk_44 (dk_at dksJ2_add_2_0 11 rfl rfl)
theorem dJ2_add_2_12 : decode cJ2_add_2 12 = .ok (.iload_n 3, 1) := dk_29 (dk_at dksJ2_add_2_0 12 rfl rfl)
theorem dJ2_add_2_13 : decode cJ2_add_2 13 = .ok (.aload_n 1, 1) := dk_43 (dk_at dksJ2_add_2_0 13 rfl rfl)
theorem dJ2_add_2_14 : decode cJ2_add_2 14 = .ok (.aastore, 1) := dk_83 (dk_at dksJ2_add_2_0 14 rfl rfl)
theorem dJ2_add_2_15 : decode cJ2_add_2 15 = .ok (.aload_n 0, 1) := dk_42 (dk_at dksJ2_add_2_0 15 rfl rfl)
theorem dJ2_add_2_16 : decode cJ2_add_2 16 = .ok (.iload_n 3, 1) := dk_29 (dk_at dksJ2_add_2_0 16 rfl rfl)
theorem dJ2_add_2_17 : decode cJ2_add_2 17 = .ok (.iconst 1, 1) := dk_4 (dk_at dksJ2_add_2_0 17 rfl rfl)
theorem dJ2_add_2_18 : decode cJ2_add_2 18 = .ok (.iadd, 1) := dk_96 (dk_at dksJ2_add_2_0 18 rfl rfl)
theorem dJ2_add_2_19 : decode cJ2_add_2 19 = .ok (.putfield 48, 3) := dk_181 0 48 (dk_at dksJ2_add_2_0 19 rfl rfl)
theorem dJ2_add_2_22 : decode cJ2_add_2 22 = .ok (.return_, 1) := dk_177 (dk_at dksJ2_add_2_0 22 rfl rfl)
abbrev cJ2_grow : ByteArray := prog_62_method_7_code
def yJ2_grow : MethodName := ⟨RJ2, "grow", "()[Ljava/lang/Object;"⟩
def dkwJ2_grow_0 : List UInt8 := [42, 42, 180, 0, 48, 4, 96, 182, 0, 69, 176]
abbrev dktJ2_grow_0 : List UInt8 := dkwJ2_grow_0 ++ []
theorem dksJ2_grow_0 : cJ2_grow.data.toList.drop 0 = dktJ2_grow_0 := by decide +kernel
theorem dJ2_grow_0 : decode cJ2_grow 0 = .ok (.aload_n 0, 1) := dk_42 (dk_at dksJ2_grow_0 0 rfl rfl)
theorem dJ2_grow_1 : decode cJ2_grow 1 = .ok (.aload_n 0, 1) := dk_42 (dk_at dksJ2_grow_0 1 rfl rfl)
theorem dJ2_grow_2 : decode cJ2_grow 2 = .ok (.getfield 48, 3) := dk_180 0 48 (dk_at dksJ2_grow_0 2 rfl rfl)
theorem dJ2_grow_5 : decode cJ2_grow 5 = .ok (.iconst 1, 1) := dk_4 (dk_at dksJ2_grow_0 5 rfl rfl)
theorem dJ2_grow_6 : decode cJ2_grow 6 = .ok (.iadd, 1) := dk_96 (dk_at dksJ2_grow_0 6 rfl rfl)
theorem dJ2_grow_7 : decode cJ2_grow 7 = .ok (.invokevirtual 69, 3) := dk_182 0 69 (dk_at dksJ2_grow_0 7 rfl rfl)
theorem dJ2_grow_10 : decode cJ2_grow 10 = .ok (.areturn, 1) := dk_176 (dk_at dksJ2_grow_0 10 rfl rfl)
abbrev cJ2_grow_2 : ByteArray := prog_62_method_6_code
def yJ2_grow_2 : MethodName := ⟨RJ2, "grow", "(I)[Ljava/lang/Object;"⟩
def dkwJ2_grow_2_2 : List UInt8 := [27, 184, 0, 79, 189, 0, 7, 90, 181, 0, 9, 176]
abbrev dktJ2_grow_2_2 : List UInt8 := dkwJ2_grow_2_2 ++ []
def dkwJ2_grow_2_1 : List UInt8 := [28, 4, 122, 184, 0, 73, 62, 42, 42, 180, 0, 9, 29, 184, 0, 66, 90, 181, 0, 9, 176, 42, 16, 10]
abbrev dktJ2_grow_2_1 : List UInt8 := dkwJ2_grow_2_1 ++ dktJ2_grow_2_2
def dkwJ2_grow_2_0 : List UInt8 := [42, 180, 0, 9, 190, 61, 28, 157, 0, 13, 42, 180, 0, 9, 178, 0, 39, 165, 0, 28, 28, 27, 28, 100]
abbrev dktJ2_grow_2_0 : List UInt8 := dkwJ2_grow_2_0 ++ dktJ2_grow_2_1
theorem dksJ2_grow_2_0 : cJ2_grow_2.data.toList.drop 0 = dktJ2_grow_2_0 := by decide +kernel
theorem dksJ2_grow_2_1 : cJ2_grow_2.data.toList.drop 24 = dktJ2_grow_2_1 := dk_seg dksJ2_grow_2_0 24 rfl rfl
theorem dksJ2_grow_2_2 : cJ2_grow_2.data.toList.drop 48 = dktJ2_grow_2_2 := dk_seg dksJ2_grow_2_1 24 rfl rfl
theorem dJ2_grow_2_0 : decode cJ2_grow_2 0 = .ok (.aload_n 0, 1) := dk_42 (dk_at dksJ2_grow_2_0 0 rfl rfl)
theorem dJ2_grow_2_1 : decode cJ2_grow_2 1 = .ok (.getfield 9, 3) := dk_180 0 9 (dk_at dksJ2_grow_2_0 1 rfl rfl)
theorem dJ2_grow_2_4 : decode cJ2_grow_2 4 = .ok (.arraylength, 1) := dk_190 (dk_at dksJ2_grow_2_0 4 rfl rfl)
theorem dJ2_grow_2_5 : decode cJ2_grow_2 5 = .ok (.istore_n 2, 1) := dk_61 (dk_at dksJ2_grow_2_0 5 rfl rfl)
theorem dJ2_grow_2_6 : decode cJ2_grow_2 6 = .ok (.iload_n 2, 1) := dk_28 (dk_at dksJ2_grow_2_0 6 rfl rfl)
theorem dJ2_grow_2_7 : decode cJ2_grow_2 7 = .ok (.ifCond .gt 13, 3) := dk_157 0 13 (dk_at dksJ2_grow_2_0 7 rfl rfl)
theorem dJ2_grow_2_10 : decode cJ2_grow_2 10 = .ok (.aload_n 0, 1) := dk_42 (dk_at dksJ2_grow_2_0 10 rfl rfl)
theorem dJ2_grow_2_11 : decode cJ2_grow_2 11 = .ok (.getfield 9, 3) := dk_180 0 9 (dk_at dksJ2_grow_2_0 11 rfl rfl)
theorem dJ2_grow_2_14 : decode cJ2_grow_2 14 = .ok (.getstatic 39, 3) := dk_178 0 39 (dk_at dksJ2_grow_2_0 14 rfl rfl)
theorem dJ2_grow_2_17 : decode cJ2_grow_2 17 = .ok (.if_acmp .eq 28, 3) := dk_165 0 28 (dk_at dksJ2_grow_2_0 17 rfl rfl)
theorem dJ2_grow_2_20 : decode cJ2_grow_2 20 = .ok (.iload_n 2, 1) := dk_28 (dk_at dksJ2_grow_2_0 20 rfl rfl)
theorem dJ2_grow_2_21 : decode cJ2_grow_2 21 = .ok (.iload_n 1, 1) := dk_27 (dk_at dksJ2_grow_2_0 21 rfl rfl)
theorem dJ2_grow_2_22 : decode cJ2_grow_2 22 = .ok (.iload_n 2, 1) := dk_28 (dk_at dksJ2_grow_2_0 22 rfl rfl)
theorem dJ2_grow_2_23 : decode cJ2_grow_2 23 = .ok (.isub, 1) := dk_100 (dk_at dksJ2_grow_2_0 23 rfl rfl)
theorem dJ2_grow_2_24 : decode cJ2_grow_2 24 = .ok (.iload_n 2, 1) := dk_28 (dk_at dksJ2_grow_2_1 0 rfl rfl)
theorem dJ2_grow_2_25 : decode cJ2_grow_2 25 = .ok (.iconst 1, 1) := dk_4 (dk_at dksJ2_grow_2_1 1 rfl rfl)
theorem dJ2_grow_2_26 : decode cJ2_grow_2 26 = .ok (.ishr, 1) := dk_122 (dk_at dksJ2_grow_2_1 2 rfl rfl)
theorem dJ2_grow_2_27 : decode cJ2_grow_2 27 = .ok (.invokestatic 73, 3) := dk_184 0 73 (dk_at dksJ2_grow_2_1 3 rfl rfl)
theorem dJ2_grow_2_30 : decode cJ2_grow_2 30 = .ok (.istore_n 3, 1) := dk_62 (dk_at dksJ2_grow_2_1 6 rfl rfl)
theorem dJ2_grow_2_31 : decode cJ2_grow_2 31 = .ok (.aload_n 0, 1) := dk_42 (dk_at dksJ2_grow_2_1 7 rfl rfl)
theorem dJ2_grow_2_32 : decode cJ2_grow_2 32 = .ok (.aload_n 0, 1) := dk_42 (dk_at dksJ2_grow_2_1 8 rfl rfl)
theorem dJ2_grow_2_33 : decode cJ2_grow_2 33 = .ok (.getfield 9, 3) := dk_180 0 9 (dk_at dksJ2_grow_2_1 9 rfl rfl)
theorem dJ2_grow_2_36 : decode cJ2_grow_2 36 = .ok (.iload_n 3, 1) := dk_29 (dk_at dksJ2_grow_2_1 12 rfl rfl)
theorem dJ2_grow_2_37 : decode cJ2_grow_2 37 = .ok (.invokestatic 66, 3) := dk_184 0 66 (dk_at dksJ2_grow_2_1 13 rfl rfl)
theorem dJ2_grow_2_40 : decode cJ2_grow_2 40 = .ok (.dup_x1, 1) := dk_90 (dk_at dksJ2_grow_2_1 16 rfl rfl)
theorem dJ2_grow_2_41 : decode cJ2_grow_2 41 = .ok (.putfield 9, 3) := dk_181 0 9 (dk_at dksJ2_grow_2_1 17 rfl rfl)
theorem dJ2_grow_2_44 : decode cJ2_grow_2 44 = .ok (.areturn, 1) := dk_176 (dk_at dksJ2_grow_2_1 20 rfl rfl)
theorem dJ2_grow_2_45 : decode cJ2_grow_2 45 = .ok (.aload_n 0, 1) := dk_42 (dk_at dksJ2_grow_2_1 21 rfl rfl)
theorem dJ2_grow_2_46 : decode cJ2_grow_2 46 = .ok (.bipush 10, 2) := dk_16 10 (dk_at dksJ2_grow_2_1 22 rfl rfl)
theorem dJ2_grow_2_48 : decode cJ2_grow_2 48 = .ok (.iload_n 1, 1) := dk_27 (dk_at dksJ2_grow_2_2 0 rfl rfl)
theorem dJ2_grow_2_49 : decode cJ2_grow_2 49 = .ok (.invokestatic 79, 3) := dk_184 0 79 (dk_at dksJ2_grow_2_2 1 rfl rfl)
theorem dJ2_grow_2_52 : decode cJ2_grow_2 52 = .ok (.anewarray 7, 3) := dk_189 0 7 (dk_at dksJ2_grow_2_2 4 rfl rfl)
theorem dJ2_grow_2_55 : decode cJ2_grow_2 55 = .ok (.dup_x1, 1) := dk_90 (dk_at dksJ2_grow_2_2 7 rfl rfl)
theorem dJ2_grow_2_56 : decode cJ2_grow_2 56 = .ok (.putfield 9, 3) := dk_181 0 9 (dk_at dksJ2_grow_2_2 8 rfl rfl)
theorem dJ2_grow_2_59 : decode cJ2_grow_2 59 = .ok (.areturn, 1) := dk_176 (dk_at dksJ2_grow_2_2 11 rfl rfl)
abbrev cJ2_get : ByteArray := prog_62_method_20_code
def yJ2_get : MethodName := ⟨RJ2, "get", "(I)Ljava/lang/Object;"⟩
def dkwJ2_get_0 : List UInt8 := [27, 42, 180, 0, 48, 184, 0, 118, 87, 42, 27, 182, 0, 123, 176]
abbrev dktJ2_get_0 : List UInt8 := dkwJ2_get_0 ++ []
theorem dksJ2_get_0 : cJ2_get.data.toList.drop 0 = dktJ2_get_0 := by decide +kernel
theorem dJ2_get_0 : decode cJ2_get 0 = .ok (.iload_n 1, 1) := dk_27 (dk_at dksJ2_get_0 0 rfl rfl)
theorem dJ2_get_1 : decode cJ2_get 1 = .ok (.aload_n 0, 1) := dk_42 (dk_at dksJ2_get_0 1 rfl rfl)
theorem dJ2_get_2 : decode cJ2_get 2 = .ok (.getfield 48, 3) := dk_180 0 48 (dk_at dksJ2_get_0 2 rfl rfl)
theorem dJ2_get_5 : decode cJ2_get 5 = .ok (.invokestatic 118, 3) := dk_184 0 118 (dk_at dksJ2_get_0 5 rfl rfl)
theorem dJ2_get_8 : decode cJ2_get 8 = .ok (.pop, 1) := dk_87 (dk_at dksJ2_get_0 8 rfl rfl)
theorem dJ2_get_9 : decode cJ2_get 9 = .ok (.aload_n 0, 1) := dk_42 (dk_at dksJ2_get_0 9 rfl rfl)
theorem dJ2_get_10 : decode cJ2_get 10 = .ok (.iload_n 1, 1) := dk_27 (dk_at dksJ2_get_0 10 rfl rfl)
theorem dJ2_get_11 : decode cJ2_get 11 = .ok (.invokevirtual 123, 3) := dk_182 0 123 (dk_at dksJ2_get_0 11 rfl rfl)
theorem dJ2_get_14 : decode cJ2_get 14 = .ok (.areturn, 1) := dk_176 (dk_at dksJ2_get_0 14 rfl rfl)
abbrev cJ2_elementData : ByteArray := prog_62_method_18_code
def yJ2_elementData : MethodName := ⟨RJ2, "elementData", "(I)Ljava/lang/Object;"⟩
def dkwJ2_elementData_0 : List UInt8 := [42, 180, 0, 9, 27, 50, 176]
abbrev dktJ2_elementData_0 : List UInt8 := dkwJ2_elementData_0 ++ []
theorem dksJ2_elementData_0 : cJ2_elementData.data.toList.drop 0 = dktJ2_elementData_0 := by decide +kernel
theorem dJ2_elementData_0 : decode cJ2_elementData 0 = .ok (.aload_n 0, 1) := dk_42 (dk_at dksJ2_elementData_0 0 rfl rfl)
theorem dJ2_elementData_1 : decode cJ2_elementData 1 = .ok (.getfield 9, 3) := dk_180 0 9 (dk_at dksJ2_elementData_0 1 rfl rfl)
theorem dJ2_elementData_4 : decode cJ2_elementData 4 = .ok (.iload_n 1, 1) := dk_27 (dk_at dksJ2_elementData_0 4 rfl rfl)
theorem dJ2_elementData_5 : decode cJ2_elementData 5 = .ok (.aaload, 1) := dk_50 (dk_at dksJ2_elementData_0 5 rfl rfl)
theorem dJ2_elementData_6 : decode cJ2_elementData 6 = .ok (.areturn, 1) := dk_176 (dk_at dksJ2_elementData_0 6 rfl rfl)
abbrev cJ2_clear : ByteArray := prog_62_method_40_code
def yJ2_clear : MethodName := ⟨RJ2, "clear", "()V"⟩
def dkwJ2_clear_1 : List UInt8 := [181, 0, 48, 62, 29, 28, 162, 0, 13, 43, 29, 1, 83, 132, 3, 1, 167, 255, 244, 177]
abbrev dktJ2_clear_1 : List UInt8 := dkwJ2_clear_1 ++ []
def dkwJ2_clear_0 : List UInt8 := [42, 89, 180, 0, 63, 4, 96, 181, 0, 63, 42, 180, 0, 9, 76, 42, 180, 0, 48, 61, 42, 3, 90]
abbrev dktJ2_clear_0 : List UInt8 := dkwJ2_clear_0 ++ dktJ2_clear_1
theorem dksJ2_clear_0 : cJ2_clear.data.toList.drop 0 = dktJ2_clear_0 := by decide +kernel
theorem dksJ2_clear_1 : cJ2_clear.data.toList.drop 23 = dktJ2_clear_1 := dk_seg dksJ2_clear_0 23 rfl rfl
theorem dJ2_clear_0 : decode cJ2_clear 0 = .ok (.aload_n 0, 1) := dk_42 (dk_at dksJ2_clear_0 0 rfl rfl)
theorem dJ2_clear_1 : decode cJ2_clear 1 = .ok (.dup, 1) := dk_89 (dk_at dksJ2_clear_0 1 rfl rfl)
theorem dJ2_clear_2 : decode cJ2_clear 2 = .ok (.getfield 63, 3) := dk_180 0 63 (dk_at dksJ2_clear_0 2 rfl rfl)
theorem dJ2_clear_5 : decode cJ2_clear 5 = .ok (.iconst 1, 1) := dk_4 (dk_at dksJ2_clear_0 5 rfl rfl)
theorem dJ2_clear_6 : decode cJ2_clear 6 = .ok (.iadd, 1) := dk_96 (dk_at dksJ2_clear_0 6 rfl rfl)
theorem dJ2_clear_7 : decode cJ2_clear 7 = .ok (.putfield 63, 3) := dk_181 0 63 (dk_at dksJ2_clear_0 7 rfl rfl)
theorem dJ2_clear_10 : decode cJ2_clear 10 = .ok (.aload_n 0, 1) := dk_42 (dk_at dksJ2_clear_0 10 rfl rfl)
theorem dJ2_clear_11 : decode cJ2_clear 11 = .ok (.getfield 9, 3) := dk_180 0 9 (dk_at dksJ2_clear_0 11 rfl rfl)
theorem dJ2_clear_14 : decode cJ2_clear 14 = .ok (.astore_n 1, 1) := dk_76 (dk_at dksJ2_clear_0 14 rfl rfl)
theorem dJ2_clear_15 : decode cJ2_clear 15 = .ok (.aload_n 0, 1) := dk_42 (dk_at dksJ2_clear_0 15 rfl rfl)
theorem dJ2_clear_16 : decode cJ2_clear 16 = .ok (.getfield 48, 3) := dk_180 0 48 (dk_at dksJ2_clear_0 16 rfl rfl)
theorem dJ2_clear_19 : decode cJ2_clear 19 = .ok (.istore_n 2, 1) := dk_61 (dk_at dksJ2_clear_0 19 rfl rfl)
theorem dJ2_clear_20 : decode cJ2_clear 20 = .ok (.aload_n 0, 1) := dk_42 (dk_at dksJ2_clear_0 20 rfl rfl)
theorem dJ2_clear_21 : decode cJ2_clear 21 = .ok (.iconst 0, 1) := dk_3 (dk_at dksJ2_clear_0 21 rfl rfl)
theorem dJ2_clear_22 : decode cJ2_clear 22 = .ok (.dup_x1, 1) := dk_90 (dk_at dksJ2_clear_0 22 rfl rfl)
theorem dJ2_clear_23 : decode cJ2_clear 23 = .ok (.putfield 48, 3) := dk_181 0 48 (dk_at dksJ2_clear_1 0 rfl rfl)
theorem dJ2_clear_26 : decode cJ2_clear 26 = .ok (.istore_n 3, 1) := dk_62 (dk_at dksJ2_clear_1 3 rfl rfl)
theorem dJ2_clear_27 : decode cJ2_clear 27 = .ok (.iload_n 3, 1) := dk_29 (dk_at dksJ2_clear_1 4 rfl rfl)
theorem dJ2_clear_28 : decode cJ2_clear 28 = .ok (.iload_n 2, 1) := dk_28 (dk_at dksJ2_clear_1 5 rfl rfl)
theorem dJ2_clear_29 : decode cJ2_clear 29 = .ok (.if_icmp .ge 13, 3) := dk_162 0 13 (dk_at dksJ2_clear_1 6 rfl rfl)
theorem dJ2_clear_32 : decode cJ2_clear 32 = .ok (.aload_n 1, 1) := dk_43 (dk_at dksJ2_clear_1 9 rfl rfl)
theorem dJ2_clear_33 : decode cJ2_clear 33 = .ok (.iload_n 3, 1) := dk_29 (dk_at dksJ2_clear_1 10 rfl rfl)
theorem dJ2_clear_34 : decode cJ2_clear 34 = .ok (.aconst_null, 1) := dk_1 (dk_at dksJ2_clear_1 11 rfl rfl)
theorem dJ2_clear_35 : decode cJ2_clear 35 = .ok (.aastore, 1) := dk_83 (dk_at dksJ2_clear_1 12 rfl rfl)
theorem dJ2_clear_36 : decode cJ2_clear 36 = .ok (.iinc 3 1, 3) := dk_132 3 1 (dk_at dksJ2_clear_1 13 rfl rfl)
theorem dJ2_clear_39 : decode cJ2_clear 39 = .ok (.goto (-12), 3) := dk_167 255 244 (dk_at dksJ2_clear_1 16 rfl rfl)
theorem dJ2_clear_42 : decode cJ2_clear 42 = .ok (.return_, 1) := dk_177 (dk_at dksJ2_clear_1 19 rfl rfl)
theorem q66 : (Jvm.Cond.initialized "java/util/ArrayList") ∈ lw_all := lw_g (lw_at lw_m1 4 rfl) rfl
theorem q127 : (Jvm.Cond.instantiable "java/util/ArrayList" (3 : Nat)) ∈ lw_all := lw_g (lw_at lw_m1 65 rfl) rfl
theorem q129 : (Jvm.Cond.instanceMethod ({ cls := "java/util/ArrayList", name := "<init>", desc := "(I)V" } : Jvm.MethodName)) ∈ lw_all := lw_g (lw_at lw_m1 67 rfl) rfl
theorem q130 : (Jvm.Cond.code ({ cls := "java/util/ArrayList", name := "<init>", desc := "(I)V" } : Jvm.MethodName) prog_62_method_1_code (2 : Nat) (Option.none : Option Jvm.ClassFile.FieldType)) ∈ lw_all := lw_g (lw_at lw_m1 68 rfl) rfl
theorem q131 : (Jvm.Cond.methodLink "java/util/ArrayList" (1 : Nat) ({ cls := "java/util/AbstractList", name := "<init>", desc := "()V" } : Jvm.MethodName)) ∈ lw_all := lw_g (lw_at lw_m1 69 rfl) rfl
theorem q138 : (Jvm.Cond.classLink "java/util/ArrayList" (7 : Nat) "java/lang/Object") ∈ lw_all := lw_g (lw_at lw_m1 76 rfl) rfl
theorem q140 : (Jvm.Cond.fieldLink "java/util/ArrayList" (15 : Nat) "java/util/ArrayList" "EMPTY_ELEMENTDATA" "[Ljava/lang/Object;") ∈ lw_all := lw_g (lw_at lw_m1 78 rfl) rfl
theorem q141 : (Jvm.Cond.laysStatic "java/util/ArrayList" "EMPTY_ELEMENTDATA" "[Ljava/lang/Object;") ∈ lw_tbl := lw_at lw_m1 79 rfl
theorem q142 : (Jvm.Cond.classLink "java/util/ArrayList" (18 : Nat) "java/lang/IllegalArgumentException") ∈ lw_all := lw_g (lw_at lw_m1 80 rfl) rfl
theorem q185 : (Jvm.Cond.classLink "java/util/ArrayList" (20 : Nat) "java/lang/StringBuilder") ∈ lw_all := lw_g (lw_at lw_m1 123 rfl) rfl
theorem q187 : (Jvm.Cond.methodLink "java/util/ArrayList" (22 : Nat) ({ cls := "java/lang/StringBuilder", name := "<init>", desc := "()V" } : Jvm.MethodName)) ∈ lw_all := lw_g (lw_at lw_m1 125 rfl) rfl
theorem q217 : (Jvm.Cond.stringRef "java/util/ArrayList" (23 : Nat) "Illegal Capacity: ") ∈ lw_tbl := lw_at lw_m1 155 rfl
theorem q218 : (Jvm.Cond.methodLink "java/util/ArrayList" (25 : Nat) ({ cls := "java/lang/StringBuilder", name := "append", desc := "(Ljava/lang/String;)Ljava/lang/StringBuilder;" } : Jvm.MethodName)) ∈ lw_all := lw_g (lw_at lw_m1 156 rfl) rfl
theorem q338 : (Jvm.Cond.methodLink "java/util/ArrayList" (29 : Nat) ({ cls := "java/lang/StringBuilder", name := "append", desc := "(I)Ljava/lang/StringBuilder;" } : Jvm.MethodName)) ∈ lw_all := lw_g (lw_at lw_m2 36 rfl) rfl
theorem q363 : (Jvm.Cond.methodLink "java/util/ArrayList" (32 : Nat) ({ cls := "java/lang/StringBuilder", name := "toString", desc := "()Ljava/lang/String;" } : Jvm.MethodName)) ∈ lw_all := lw_g (lw_at lw_m2 61 rfl) rfl
theorem q457 : (Jvm.Cond.methodLink "java/util/ArrayList" (36 : Nat) ({ cls := "java/lang/IllegalArgumentException", name := "<init>", desc := "(Ljava/lang/String;)V" } : Jvm.MethodName)) ∈ lw_all := lw_g (lw_at lw_m2 155 rfl) rfl
theorem q458 : (Jvm.Cond.fieldLink "java/util/ArrayList" (9 : Nat) "java/util/ArrayList" "elementData" "[Ljava/lang/Object;") ∈ lw_all := lw_g (lw_at lw_m2 156 rfl) rfl
theorem q459 : (Jvm.Cond.fieldLink "java/util/ArrayList" (48 : Nat) "java/util/ArrayList" "size" "I") ∈ lw_all := lw_g (lw_at lw_m2 157 rfl) rfl
theorem q461 : (Jvm.Cond.fieldLink "java/util/ArrayList" (63 : Nat) "java/util/ArrayList" "modCount" "I") ∈ lw_all := lw_g (lw_at lw_m2 159 rfl) rfl
theorem q462 : (Jvm.Cond.sameField "java/util/ArrayList" "java/util/AbstractList" "modCount" "I") ∈ lw_all := lw_g (lw_at lw_m2 160 rfl) rfl
theorem q463 : (Jvm.Cond.lays "java/util/ArrayList" "java/util/ArrayList" "elementData" "[Ljava/lang/Object;") ∈ lw_all := lw_g (lw_at lw_m2 161 rfl) rfl
theorem q464 : (Jvm.Cond.soleField "java/util/ArrayList" "elementData") ∈ lw_all := lw_g (lw_at lw_m2 162 rfl) rfl
theorem q465 : (Jvm.Cond.lays "java/util/ArrayList" "java/util/ArrayList" "size" "I") ∈ lw_all := lw_g (lw_at lw_m2 163 rfl) rfl
theorem q466 : (Jvm.Cond.soleField "java/util/ArrayList" "size") ∈ lw_all := lw_g (lw_at lw_m2 164 rfl) rfl
theorem q467 : (Jvm.Cond.lays "java/util/ArrayList" "java/util/AbstractList" "modCount" "I") ∈ lw_all := lw_g (lw_at lw_m2 165 rfl) rfl
theorem q469 : (Jvm.Cond.superclass "java/util/ArrayList" "java/util/AbstractList") ∈ lw_all := lw_g (lw_at lw_m2 167 rfl) rfl
theorem q613 : (Jvm.Cond.instanceMethod ({ cls := "java/util/ArrayList", name := "size", desc := "()I" } : Jvm.MethodName)) ∈ lw_all := lw_g (lw_at lw_m3 71 rfl) rfl
theorem q614 : (Jvm.Cond.selects "java/util/ArrayList" ({ cls := "java/util/ArrayList", name := "size", desc := "()I" } : Jvm.MethodName) ({ cls := "java/util/ArrayList", name := "size", desc := "()I" } : Jvm.MethodName)) ∈ lw_all := lw_g (lw_at lw_m3 72 rfl) rfl
theorem q615 : (Jvm.Cond.code ({ cls := "java/util/ArrayList", name := "size", desc := "()I" } : Jvm.MethodName) prog_62_method_8_code (1 : Nat) (Option.some Jvm.ClassFile.FieldType.int)) ∈ lw_all := lw_g (lw_at lw_m3 73 rfl) rfl
theorem q1124 : (Jvm.Cond.instanceMethod ({ cls := "java/util/ArrayList", name := "add", desc := "(Ljava/lang/Object;)Z" } : Jvm.MethodName)) ∈ lw_all := lw_g (lw_at lw_m5 102 rfl) rfl
theorem q1125 : (Jvm.Cond.selects "java/util/ArrayList" ({ cls := "java/util/ArrayList", name := "add", desc := "(Ljava/lang/Object;)Z" } : Jvm.MethodName) ({ cls := "java/util/ArrayList", name := "add", desc := "(Ljava/lang/Object;)Z" } : Jvm.MethodName)) ∈ lw_all := lw_g (lw_at lw_m5 103 rfl) rfl
theorem q1126 : (Jvm.Cond.code ({ cls := "java/util/ArrayList", name := "add", desc := "(Ljava/lang/Object;)Z" } : Jvm.MethodName) prog_62_method_25_code (2 : Nat) (Option.some Jvm.ClassFile.FieldType.boolean)) ∈ lw_all := lw_g (lw_at lw_m5 104 rfl) rfl
theorem q1127 : (Jvm.Cond.methodLink "java/util/ArrayList" (131 : Nat) ({ cls := "java/util/ArrayList", name := "add", desc := "(Ljava/lang/Object;[Ljava/lang/Object;I)V" } : Jvm.MethodName)) ∈ lw_all := lw_g (lw_at lw_m5 105 rfl) rfl
theorem q1128 : (Jvm.Cond.privateMethod ({ cls := "java/util/ArrayList", name := "add", desc := "(Ljava/lang/Object;[Ljava/lang/Object;I)V" } : Jvm.MethodName)) ∈ lw_tbl := lw_at lw_m5 106 rfl
theorem q1129 : (Jvm.Cond.instanceMethod ({ cls := "java/util/ArrayList", name := "add", desc := "(Ljava/lang/Object;[Ljava/lang/Object;I)V" } : Jvm.MethodName)) ∈ lw_all := lw_g (lw_at lw_m5 107 rfl) rfl
theorem q1130 : (Jvm.Cond.code ({ cls := "java/util/ArrayList", name := "add", desc := "(Ljava/lang/Object;[Ljava/lang/Object;I)V" } : Jvm.MethodName) prog_62_method_24_code (4 : Nat) (Option.none : Option Jvm.ClassFile.FieldType)) ∈ lw_all := lw_g (lw_at lw_m5 108 rfl) rfl
theorem q1131 : (Jvm.Cond.methodLink "java/util/ArrayList" (129 : Nat) ({ cls := "java/util/ArrayList", name := "grow", desc := "()[Ljava/lang/Object;" } : Jvm.MethodName)) ∈ lw_all := lw_g (lw_at lw_m5 109 rfl) rfl
theorem q1132 : (Jvm.Cond.privateMethod ({ cls := "java/util/ArrayList", name := "grow", desc := "()[Ljava/lang/Object;" } : Jvm.MethodName)) ∈ lw_tbl := lw_at lw_m5 110 rfl
theorem q1133 : (Jvm.Cond.instanceMethod ({ cls := "java/util/ArrayList", name := "grow", desc := "()[Ljava/lang/Object;" } : Jvm.MethodName)) ∈ lw_all := lw_g (lw_at lw_m5 111 rfl) rfl
theorem q1134 : (Jvm.Cond.code ({ cls := "java/util/ArrayList", name := "grow", desc := "()[Ljava/lang/Object;" } : Jvm.MethodName) prog_62_method_7_code (1 : Nat) (Option.some (Jvm.ClassFile.FieldType.array (Jvm.ClassFile.FieldType.object "java/lang/Object")))) ∈ lw_all := lw_g (lw_at lw_m5 112 rfl) rfl
theorem q1135 : (Jvm.Cond.methodLink "java/util/ArrayList" (69 : Nat) ({ cls := "java/util/ArrayList", name := "grow", desc := "(I)[Ljava/lang/Object;" } : Jvm.MethodName)) ∈ lw_all := lw_g (lw_at lw_m5 113 rfl) rfl
theorem q1136 : (Jvm.Cond.privateMethod ({ cls := "java/util/ArrayList", name := "grow", desc := "(I)[Ljava/lang/Object;" } : Jvm.MethodName)) ∈ lw_tbl := lw_at lw_m5 114 rfl
theorem q1137 : (Jvm.Cond.instanceMethod ({ cls := "java/util/ArrayList", name := "grow", desc := "(I)[Ljava/lang/Object;" } : Jvm.MethodName)) ∈ lw_all := lw_g (lw_at lw_m5 115 rfl) rfl
theorem q1138 : (Jvm.Cond.code ({ cls := "java/util/ArrayList", name := "grow", desc := "(I)[Ljava/lang/Object;" } : Jvm.MethodName) prog_62_method_6_code (4 : Nat) (Option.some (Jvm.ClassFile.FieldType.array (Jvm.ClassFile.FieldType.object "java/lang/Object")))) ∈ lw_all := lw_g (lw_at lw_m5 116 rfl) rfl
theorem q1139 : (Jvm.Cond.fieldLink "java/util/ArrayList" (39 : Nat) "java/util/ArrayList" "DEFAULTCAPACITY_EMPTY_ELEMENTDATA" "[Ljava/lang/Object;") ∈ lw_all := lw_g (lw_at lw_m5 117 rfl) rfl
theorem q1140 : (Jvm.Cond.laysStatic "java/util/ArrayList" "DEFAULTCAPACITY_EMPTY_ELEMENTDATA" "[Ljava/lang/Object;") ∈ lw_tbl := lw_at lw_m5 118 rfl
theorem q1141 : (Jvm.Cond.methodLink "java/util/ArrayList" (73 : Nat) ({ cls := "jdk/internal/util/ArraysSupport", name := "newLength", desc := "(III)I" } : Jvm.MethodName)) ∈ lw_all := lw_g (lw_at lw_m5 119 rfl) rfl
theorem q1142 : (Jvm.Cond.methodLink "java/util/ArrayList" (66 : Nat) ({ cls := "java/util/Arrays", name := "copyOf", desc := "([Ljava/lang/Object;I)[Ljava/lang/Object;" } : Jvm.MethodName)) ∈ lw_all := lw_g (lw_at lw_m5 120 rfl) rfl
theorem q1184 : (Jvm.Cond.selects "java/util/ArrayList" ({ cls := "java/lang/Object", name := "getClass", desc := "()Ljava/lang/Class;" } : Jvm.MethodName) ({ cls := "java/lang/Object", name := "getClass", desc := "()Ljava/lang/Class;" } : Jvm.MethodName)) ∈ lw_all := lw_g (lw_at lw_m5 162 rfl) rfl
theorem q1191 : (Jvm.Cond.methodLink "java/util/ArrayList" (79 : Nat) ({ cls := "java/lang/Math", name := "max", desc := "(II)I" } : Jvm.MethodName)) ∈ lw_all := lw_g (lw_at lw_m5 169 rfl) rfl
theorem q1382 : (Jvm.Cond.instanceMethod ({ cls := "java/util/ArrayList", name := "get", desc := "(I)Ljava/lang/Object;" } : Jvm.MethodName)) ∈ lw_all := lw_g (lw_at lw_m6 120 rfl) rfl
theorem q1383 : (Jvm.Cond.selects "java/util/ArrayList" ({ cls := "java/util/ArrayList", name := "get", desc := "(I)Ljava/lang/Object;" } : Jvm.MethodName) ({ cls := "java/util/ArrayList", name := "get", desc := "(I)Ljava/lang/Object;" } : Jvm.MethodName)) ∈ lw_all := lw_g (lw_at lw_m6 121 rfl) rfl
theorem q1384 : (Jvm.Cond.code ({ cls := "java/util/ArrayList", name := "get", desc := "(I)Ljava/lang/Object;" } : Jvm.MethodName) prog_62_method_20_code (2 : Nat) (Option.some (Jvm.ClassFile.FieldType.object "java/lang/Object"))) ∈ lw_all := lw_g (lw_at lw_m6 122 rfl) rfl
theorem q1385 : (Jvm.Cond.methodLink "java/util/ArrayList" (118 : Nat) ({ cls := "java/util/Objects", name := "checkIndex", desc := "(II)I" } : Jvm.MethodName)) ∈ lw_all := lw_g (lw_at lw_m6 123 rfl) rfl
theorem q1389 : (Jvm.Cond.methodLink "java/util/ArrayList" (123 : Nat) ({ cls := "java/util/ArrayList", name := "elementData", desc := "(I)Ljava/lang/Object;" } : Jvm.MethodName)) ∈ lw_all := lw_g (lw_at lw_m6 127 rfl) rfl
theorem q1390 : (Jvm.Cond.instanceMethod ({ cls := "java/util/ArrayList", name := "elementData", desc := "(I)Ljava/lang/Object;" } : Jvm.MethodName)) ∈ lw_all := lw_g (lw_at lw_m6 128 rfl) rfl
theorem q1391 : (Jvm.Cond.selects "java/util/ArrayList" ({ cls := "java/util/ArrayList", name := "elementData", desc := "(I)Ljava/lang/Object;" } : Jvm.MethodName) ({ cls := "java/util/ArrayList", name := "elementData", desc := "(I)Ljava/lang/Object;" } : Jvm.MethodName)) ∈ lw_all := lw_g (lw_at lw_m6 129 rfl) rfl
theorem q1392 : (Jvm.Cond.code ({ cls := "java/util/ArrayList", name := "elementData", desc := "(I)Ljava/lang/Object;" } : Jvm.MethodName) prog_62_method_18_code (2 : Nat) (Option.some (Jvm.ClassFile.FieldType.object "java/lang/Object"))) ∈ lw_all := lw_g (lw_at lw_m6 130 rfl) rfl
theorem q1666 : (Jvm.Cond.instanceMethod ({ cls := "java/util/ArrayList", name := "clear", desc := "()V" } : Jvm.MethodName)) ∈ lw_all := lw_g (lw_at lw_m7 164 rfl) rfl
theorem q1667 : (Jvm.Cond.selects "java/util/ArrayList" ({ cls := "java/util/ArrayList", name := "clear", desc := "()V" } : Jvm.MethodName) ({ cls := "java/util/ArrayList", name := "clear", desc := "()V" } : Jvm.MethodName)) ∈ lw_all := lw_g (lw_at lw_m7 165 rfl) rfl
theorem q1668 : (Jvm.Cond.code ({ cls := "java/util/ArrayList", name := "clear", desc := "()V" } : Jvm.MethodName) prog_62_method_40_code (4 : Nat) (Option.none : Option Jvm.ClassFile.FieldType)) ∈ lw_all := lw_g (lw_at lw_m7 166 rfl) rfl
theorem q2254 : (Jvm.Cond.castable "java/util/ArrayList" "java/lang/Object") ∈ lw_tbl := lw_at lw_m10 32 rfl
theorem in_J2 : ∀ w ∈ wsJ20, w ∈ lw_all := lw_in wsJ20 [467, 463, 465] (by decide +kernel) (by decide +kernel)
/-! java/lang/Throwable -/
set_option maxRecDepth 100000
def RJ3 : String := "java/lang/Throwable"
def TJ3 : u_T := fun k => match k with
  | 0 => ("java/lang/Throwable", "cause", "Ljava/lang/Throwable;", false)
  | 1 => ("java/lang/Throwable", "stackTrace", "[Ljava/lang/StackTraceElement;", false)
  | 2 => ("java/lang/Throwable", "suppressedExceptions", "Ljava/util/List;", false)
  | 3 => ("java/lang/Throwable", "detailMessage", "Ljava/lang/String;", false)
  | _ => ("java/lang/Throwable", "backtrace", "Ljava/lang/Object;", false)
def tyJ3 : Nat → FieldType := fun k => match k with
  | 0 => .object "java/lang/Throwable"
  | 1 => .array (.object "java/lang/StackTraceElement")
  | 2 => .object "java/util/List"
  | 3 => .object "java/lang/String"
  | _ => .object "java/lang/Object"
abbrev wsJ30 : List Cond := u_ws RJ3 TJ3 5
theorem nmJ3 : ∀ a, a < 5 → ∀ b, b < 5 → a ≠ b → (TJ3 a).2.1 ≠ (TJ3 b).2.1 := by decide +kernel
theorem tyJ3_ok : ∀ k, k < 5 → parseFieldDescriptor (TJ3 k).2.2.1 = some (tyJ3 k) := by decide +kernel
abbrev cJ3_init : ByteArray := prog_57_method_1_code
def yJ3_init : MethodName := ⟨RJ3, "<init>", "()V"⟩
def dkwJ3_init_1 : List UInt8 := [182, 0, 27, 87, 177]
abbrev dktJ3_init_1 : List UInt8 := dkwJ3_init_1 ++ []
def dkwJ3_init_0 : List UInt8 := [42, 183, 0, 1, 42, 42, 181, 0, 7, 42, 178, 0, 13, 181, 0, 17, 42, 178, 0, 20, 181, 0, 24, 42]
abbrev dktJ3_init_0 : List UInt8 := dkwJ3_init_0 ++ dktJ3_init_1
theorem dksJ3_init_0 : cJ3_init.data.toList.drop 0 = dktJ3_init_0 := by decide +kernel
theorem dksJ3_init_1 : cJ3_init.data.toList.drop 24 = dktJ3_init_1 := dk_seg dksJ3_init_0 24 rfl rfl
theorem dJ3_init_0 : decode cJ3_init 0 = .ok (.aload_n 0, 1) := dk_42 (dk_at dksJ3_init_0 0 rfl rfl)
theorem dJ3_init_1 : decode cJ3_init 1 = .ok (.invokespecial 1, 3) := dk_183 0 1 (dk_at dksJ3_init_0 1 rfl rfl)
theorem dJ3_init_4 : decode cJ3_init 4 = .ok (.aload_n 0, 1) := dk_42 (dk_at dksJ3_init_0 4 rfl rfl)
theorem dJ3_init_5 : decode cJ3_init 5 = .ok (.aload_n 0, 1) := dk_42 (dk_at dksJ3_init_0 5 rfl rfl)
theorem dJ3_init_6 : decode cJ3_init 6 = .ok (.putfield 7, 3) := dk_181 0 7 (dk_at dksJ3_init_0 6 rfl rfl)
theorem dJ3_init_9 : decode cJ3_init 9 = .ok (.aload_n 0, 1) := dk_42 (dk_at dksJ3_init_0 9 rfl rfl)
theorem dJ3_init_10 : decode cJ3_init 10 = .ok (.getstatic 13, 3) := dk_178 0 13 (dk_at dksJ3_init_0 10 rfl rfl)
theorem dJ3_init_13 : decode cJ3_init 13 = .ok (.putfield 17, 3) := dk_181 0 17 (dk_at dksJ3_init_0 13 rfl rfl)
theorem dJ3_init_16 : decode cJ3_init 16 = .ok (.aload_n 0, 1) := dk_42 (dk_at dksJ3_init_0 16 rfl rfl)
theorem dJ3_init_17 : decode cJ3_init 17 = .ok (.getstatic 20, 3) := dk_178 0 20 (dk_at dksJ3_init_0 17 rfl rfl)
theorem dJ3_init_20 : decode cJ3_init 20 = .ok (.putfield 24, 3) := dk_181 0 24 (dk_at dksJ3_init_0 20 rfl rfl)
theorem dJ3_init_23 : decode cJ3_init 23 = .ok (.aload_n 0, 1) := dk_42 (dk_at dksJ3_init_0 23 rfl rfl)
theorem dJ3_init_24 : decode cJ3_init 24 = .ok (.invokevirtual 27, 3) := dk_182 0 27 (dk_at dksJ3_init_1 0 rfl rfl)
theorem dJ3_init_27 : decode cJ3_init 27 = .ok (.pop, 1) := dk_87 (dk_at dksJ3_init_1 3 rfl rfl)
theorem dJ3_init_28 : decode cJ3_init 28 = .ok (.return_, 1) := dk_177 (dk_at dksJ3_init_1 4 rfl rfl)
abbrev cJ3_init_2 : ByteArray := prog_57_method_2_code
def yJ3_init_2 : MethodName := ⟨RJ3, "<init>", "(Ljava/lang/String;)V"⟩
def dkwJ3_init_2_1 : List UInt8 := [182, 0, 27, 87, 42, 43, 181, 0, 31, 177]
abbrev dktJ3_init_2_1 : List UInt8 := dkwJ3_init_2_1 ++ []
def dkwJ3_init_2_0 : List UInt8 := [42, 183, 0, 1, 42, 42, 181, 0, 7, 42, 178, 0, 13, 181, 0, 17, 42, 178, 0, 20, 181, 0, 24, 42]
abbrev dktJ3_init_2_0 : List UInt8 := dkwJ3_init_2_0 ++ dktJ3_init_2_1
theorem dksJ3_init_2_0 : cJ3_init_2.data.toList.drop 0 = dktJ3_init_2_0 := by decide +kernel
theorem dksJ3_init_2_1 : cJ3_init_2.data.toList.drop 24 = dktJ3_init_2_1 := dk_seg dksJ3_init_2_0 24 rfl rfl
theorem dJ3_init_2_0 : decode cJ3_init_2 0 = .ok (.aload_n 0, 1) := dk_42 (dk_at dksJ3_init_2_0 0 rfl rfl)
theorem dJ3_init_2_1 : decode cJ3_init_2 1 = .ok (.invokespecial 1, 3) := dk_183 0 1 (dk_at dksJ3_init_2_0 1 rfl rfl)
theorem dJ3_init_2_4 : decode cJ3_init_2 4 = .ok (.aload_n 0, 1) := dk_42 (dk_at dksJ3_init_2_0 4 rfl rfl)
theorem dJ3_init_2_5 : decode cJ3_init_2 5 = .ok (.aload_n 0, 1) := dk_42 (dk_at dksJ3_init_2_0 5 rfl rfl)
theorem dJ3_init_2_6 : decode cJ3_init_2 6 = .ok (.putfield 7, 3) := dk_181 0 7 (dk_at dksJ3_init_2_0 6 rfl rfl)
theorem dJ3_init_2_9 : decode cJ3_init_2 9 = .ok (.aload_n 0, 1) := dk_42 (dk_at dksJ3_init_2_0 9 rfl rfl)
theorem dJ3_init_2_10 : decode cJ3_init_2 10 = .ok (.getstatic 13, 3) := dk_178 0 13 (dk_at dksJ3_init_2_0 10 rfl rfl)
theorem dJ3_init_2_13 : decode cJ3_init_2 13 = .ok (.putfield 17, 3) := dk_181 0 17 (dk_at dksJ3_init_2_0 13 rfl rfl)
theorem dJ3_init_2_16 : decode cJ3_init_2 16 = .ok (.aload_n 0, 1) := dk_42 (dk_at dksJ3_init_2_0 16 rfl rfl)
theorem dJ3_init_2_17 : decode cJ3_init_2 17 = .ok (.getstatic 20, 3) := dk_178 0 20 (dk_at dksJ3_init_2_0 17 rfl rfl)
theorem dJ3_init_2_20 : decode cJ3_init_2 20 = .ok (.putfield 24, 3) := dk_181 0 24 (dk_at dksJ3_init_2_0 20 rfl rfl)
theorem dJ3_init_2_23 : decode cJ3_init_2 23 = .ok (.aload_n 0, 1) := dk_42 (dk_at dksJ3_init_2_0 23 rfl rfl)
theorem dJ3_init_2_24 : decode cJ3_init_2 24 = .ok (.invokevirtual 27, 3) := dk_182 0 27 (dk_at dksJ3_init_2_1 0 rfl rfl)
theorem dJ3_init_2_27 : decode cJ3_init_2 27 = .ok (.pop, 1) := dk_87 (dk_at dksJ3_init_2_1 3 rfl rfl)
theorem dJ3_init_2_28 : decode cJ3_init_2 28 = .ok (.aload_n 0, 1) := dk_42 (dk_at dksJ3_init_2_1 4 rfl rfl)
theorem dJ3_init_2_29 : decode cJ3_init_2 29 = .ok (.aload_n 1, 1) := dk_43 (dk_at dksJ3_init_2_1 5 rfl rfl)
theorem dJ3_init_2_30 : decode cJ3_init_2 30 = .ok (.putfield 31, 3) := dk_181 0 31 (dk_at dksJ3_init_2_1 6 rfl rfl)
theorem dJ3_init_2_33 : decode cJ3_init_2 33 = .ok (.return_, 1) := dk_177 (dk_at dksJ3_init_2_1 9 rfl rfl)
theorem q67 : (Jvm.Cond.initialized "java/lang/Throwable") ∈ lw_all := lw_g (lw_at lw_m1 5 rfl) rfl
theorem q149 : (Jvm.Cond.declares ({ cls := "java/lang/Throwable", name := "<init>", desc := "()V" } : Jvm.MethodName)) ∈ lw_tbl := lw_at lw_m1 87 rfl
theorem q150 : (Jvm.Cond.declares ({ cls := "java/lang/Throwable", name := "<init>", desc := "(Ljava/lang/String;)V" } : Jvm.MethodName)) ∈ lw_tbl := lw_at lw_m1 88 rfl
theorem q154 : (Jvm.Cond.lays "java/lang/Throwable" "java/lang/Throwable" "cause" "Ljava/lang/Throwable;") ∈ lw_all := lw_g (lw_at lw_m1 92 rfl) rfl
theorem q156 : (Jvm.Cond.lays "java/lang/Throwable" "java/lang/Throwable" "stackTrace" "[Ljava/lang/StackTraceElement;") ∈ lw_all := lw_g (lw_at lw_m1 94 rfl) rfl
theorem q158 : (Jvm.Cond.lays "java/lang/Throwable" "java/lang/Throwable" "suppressedExceptions" "Ljava/util/List;") ∈ lw_all := lw_g (lw_at lw_m1 96 rfl) rfl
theorem q160 : (Jvm.Cond.lays "java/lang/Throwable" "java/lang/Throwable" "detailMessage" "Ljava/lang/String;") ∈ lw_all := lw_g (lw_at lw_m1 98 rfl) rfl
theorem q162 : (Jvm.Cond.lays "java/lang/Throwable" "java/lang/Throwable" "backtrace" "Ljava/lang/Object;") ∈ lw_all := lw_g (lw_at lw_m1 100 rfl) rfl
theorem q163 : (Jvm.Cond.fieldLink "java/lang/Throwable" (198 : Nat) "java/lang/Throwable" "backtrace" "Ljava/lang/Object;") ∈ lw_all := lw_g (lw_at lw_m1 101 rfl) rfl
theorem q164 : (Jvm.Cond.superclass "java/lang/Throwable" "java/lang/Object") ∈ lw_all := lw_g (lw_at lw_m1 102 rfl) rfl
theorem q165 : (Jvm.Cond.instanceMethod ({ cls := "java/lang/Throwable", name := "<init>", desc := "()V" } : Jvm.MethodName)) ∈ lw_all := lw_g (lw_at lw_m1 103 rfl) rfl
theorem q166 : (Jvm.Cond.code ({ cls := "java/lang/Throwable", name := "<init>", desc := "()V" } : Jvm.MethodName) prog_57_method_1_code (1 : Nat) (Option.none : Option Jvm.ClassFile.FieldType)) ∈ lw_all := lw_g (lw_at lw_m1 104 rfl) rfl
theorem q167 : (Jvm.Cond.methodLink "java/lang/Throwable" (1 : Nat) ({ cls := "java/lang/Object", name := "<init>", desc := "()V" } : Jvm.MethodName)) ∈ lw_all := lw_g (lw_at lw_m1 105 rfl) rfl
theorem q168 : (Jvm.Cond.fieldLink "java/lang/Throwable" (13 : Nat) "java/lang/Throwable" "UNASSIGNED_STACK" "[Ljava/lang/StackTraceElement;") ∈ lw_all := lw_g (lw_at lw_m1 106 rfl) rfl
theorem q169 : (Jvm.Cond.laysStatic "java/lang/Throwable" "UNASSIGNED_STACK" "[Ljava/lang/StackTraceElement;") ∈ lw_tbl := lw_at lw_m1 107 rfl
theorem q170 : (Jvm.Cond.fieldLink "java/lang/Throwable" (20 : Nat) "java/lang/Throwable" "SUPPRESSED_SENTINEL" "Ljava/util/List;") ∈ lw_all := lw_g (lw_at lw_m1 108 rfl) rfl
theorem q171 : (Jvm.Cond.laysStatic "java/lang/Throwable" "SUPPRESSED_SENTINEL" "Ljava/util/List;") ∈ lw_tbl := lw_at lw_m1 109 rfl
theorem q172 : (Jvm.Cond.methodLink "java/lang/Throwable" (27 : Nat) ({ cls := "java/lang/Throwable", name := "fillInStackTrace", desc := "()Ljava/lang/Throwable;" } : Jvm.MethodName)) ∈ lw_all := lw_g (lw_at lw_m1 110 rfl) rfl
theorem q173 : (Jvm.Cond.instanceMethod ({ cls := "java/lang/Throwable", name := "fillInStackTrace", desc := "()Ljava/lang/Throwable;" } : Jvm.MethodName)) ∈ lw_all := lw_g (lw_at lw_m1 111 rfl) rfl
theorem q174 : (Jvm.Cond.sameMethod "java/lang/Throwable" "java/lang/Throwable" "fillInStackTrace" "()Ljava/lang/Throwable;") ∈ lw_all := lw_g (lw_at lw_m1 112 rfl) rfl
theorem q179 : (Jvm.Cond.codeSync ({ cls := "java/lang/Throwable", name := "fillInStackTrace", desc := "()Ljava/lang/Throwable;" } : Jvm.MethodName) prog_57_method_18_code (1 : Nat) (Option.some (Jvm.ClassFile.FieldType.object "java/lang/Throwable"))) ∈ lw_all := lw_g (lw_at lw_m1 117 rfl) rfl
theorem q180 : (Jvm.Cond.methodLink "java/lang/Throwable" (202 : Nat) ({ cls := "java/lang/Throwable", name := "fillInStackTrace", desc := "(I)Ljava/lang/Throwable;" } : Jvm.MethodName)) ∈ lw_all := lw_g (lw_at lw_m1 118 rfl) rfl
theorem q181 : (Jvm.Cond.privateMethod ({ cls := "java/lang/Throwable", name := "fillInStackTrace", desc := "(I)Ljava/lang/Throwable;" } : Jvm.MethodName)) ∈ lw_tbl := lw_at lw_m1 119 rfl
theorem q182 : (Jvm.Cond.instanceMethod ({ cls := "java/lang/Throwable", name := "fillInStackTrace", desc := "(I)Ljava/lang/Throwable;" } : Jvm.MethodName)) ∈ lw_all := lw_g (lw_at lw_m1 120 rfl) rfl
theorem q183 : (Jvm.Cond.instantiable "java/lang/Throwable" (6 : Nat)) ∈ lw_all := lw_g (lw_at lw_m1 121 rfl) rfl
theorem q184 : (Jvm.Cond.native ({ cls := "java/lang/Throwable", name := "fillInStackTrace", desc := "(I)Ljava/lang/Throwable;" } : Jvm.MethodName)) ∈ lw_all := lw_g (lw_at lw_m1 122 rfl) rfl
theorem q416 : (Jvm.Cond.instanceMethod ({ cls := "java/lang/Throwable", name := "<init>", desc := "(Ljava/lang/String;)V" } : Jvm.MethodName)) ∈ lw_all := lw_g (lw_at lw_m2 114 rfl) rfl
theorem q417 : (Jvm.Cond.code ({ cls := "java/lang/Throwable", name := "<init>", desc := "(Ljava/lang/String;)V" } : Jvm.MethodName) prog_57_method_2_code (2 : Nat) (Option.none : Option Jvm.ClassFile.FieldType)) ∈ lw_all := lw_g (lw_at lw_m2 115 rfl) rfl
theorem q418 : (Jvm.Cond.fieldLink "java/lang/Throwable" (198 : Nat) "java/lang/Throwable" "backtrace" "Ljava/lang/Object;") ∈ lw_all := lw_g (lw_at lw_m2 116 rfl) rfl
theorem q419 : (Jvm.Cond.fieldLink "java/lang/Throwable" (31 : Nat) "java/lang/Throwable" "detailMessage" "Ljava/lang/String;") ∈ lw_all := lw_g (lw_at lw_m2 117 rfl) rfl
theorem q420 : (Jvm.Cond.fieldLink "java/lang/Throwable" (7 : Nat) "java/lang/Throwable" "cause" "Ljava/lang/Throwable;") ∈ lw_all := lw_g (lw_at lw_m2 118 rfl) rfl
theorem q421 : (Jvm.Cond.fieldLink "java/lang/Throwable" (17 : Nat) "java/lang/Throwable" "stackTrace" "[Ljava/lang/StackTraceElement;") ∈ lw_all := lw_g (lw_at lw_m2 119 rfl) rfl
theorem q422 : (Jvm.Cond.fieldLink "java/lang/Throwable" (24 : Nat) "java/lang/Throwable" "suppressedExceptions" "Ljava/util/List;") ∈ lw_all := lw_g (lw_at lw_m2 120 rfl) rfl
theorem q423 : (Jvm.Cond.soleField "java/lang/Throwable" "backtrace") ∈ lw_all := lw_g (lw_at lw_m2 121 rfl) rfl
theorem q424 : (Jvm.Cond.soleField "java/lang/Throwable" "detailMessage") ∈ lw_all := lw_g (lw_at lw_m2 122 rfl) rfl
theorem q425 : (Jvm.Cond.soleField "java/lang/Throwable" "cause") ∈ lw_all := lw_g (lw_at lw_m2 123 rfl) rfl
theorem q426 : (Jvm.Cond.soleField "java/lang/Throwable" "stackTrace") ∈ lw_all := lw_g (lw_at lw_m2 124 rfl) rfl
theorem q428 : (Jvm.Cond.soleField "java/lang/Throwable" "depth") ∈ lw_all := lw_g (lw_at lw_m2 126 rfl) rfl
theorem q429 : (Jvm.Cond.soleField "java/lang/Throwable" "suppressedExceptions") ∈ lw_all := lw_g (lw_at lw_m2 127 rfl) rfl
theorem q2233 : (Jvm.Cond.sameMethod "java/lang/Throwable" "java/lang/Throwable" "fillInStackTrace" "(I)Ljava/lang/Throwable;") ∈ lw_all := lw_g (lw_at lw_m10 11 rfl) rfl
theorem q2290 : (Jvm.Cond.castable "java/lang/Throwable" "java/lang/Object") ∈ lw_tbl := lw_at lw_m10 68 rfl
theorem in_J3 : ∀ w ∈ wsJ30, w ∈ lw_all := lw_in wsJ30 [154, 156, 158, 160, 162] (by decide +kernel) (by decide +kernel)
/-! java/lang/Exception -/
set_option maxRecDepth 100000
def RJ4 : String := "java/lang/Exception"
abbrev cJ4_init : ByteArray := prog_42_method_2_code
def yJ4_init : MethodName := ⟨RJ4, "<init>", "(Ljava/lang/String;)V"⟩
def dkwJ4_init_0 : List UInt8 := [42, 43, 183, 0, 7, 177]
abbrev dktJ4_init_0 : List UInt8 := dkwJ4_init_0 ++ []
theorem dksJ4_init_0 : cJ4_init.data.toList.drop 0 = dktJ4_init_0 := by decide +kernel
theorem dJ4_init_0 : decode cJ4_init 0 = .ok (.aload_n 0, 1) := dk_42 (dk_at dksJ4_init_0 0 rfl rfl)
theorem dJ4_init_1 : decode cJ4_init 1 = .ok (.aload_n 1, 1) := dk_43 (dk_at dksJ4_init_0 1 rfl rfl)
theorem dJ4_init_2 : decode cJ4_init 2 = .ok (.invokespecial 7, 3) := dk_183 0 7 (dk_at dksJ4_init_0 2 rfl rfl)
theorem dJ4_init_5 : decode cJ4_init 5 = .ok (.return_, 1) := dk_177 (dk_at dksJ4_init_0 5 rfl rfl)
abbrev cJ4_init_2 : ByteArray := prog_42_method_1_code
def yJ4_init_2 : MethodName := ⟨RJ4, "<init>", "()V"⟩
theorem dJ4_init_2_0 : decode cJ4_init_2 0 = .ok (.aload_n 0, 1) := by decide +kernel
theorem dJ4_init_2_1 : decode cJ4_init_2 1 = .ok (.invokespecial 1, 3) := by decide +kernel
theorem dJ4_init_2_4 : decode cJ4_init_2 4 = .ok (.return_, 1) := by decide +kernel
theorem q68 : (Jvm.Cond.initialized "java/lang/Exception") ∈ lw_all := lw_g (lw_at lw_m1 6 rfl) rfl
theorem q147 : (Jvm.Cond.declares ({ cls := "java/lang/Exception", name := "<init>", desc := "()V" } : Jvm.MethodName)) ∈ lw_tbl := lw_at lw_m1 85 rfl
theorem q148 : (Jvm.Cond.declares ({ cls := "java/lang/Exception", name := "<init>", desc := "(Ljava/lang/String;)V" } : Jvm.MethodName)) ∈ lw_tbl := lw_at lw_m1 86 rfl
theorem q413 : (Jvm.Cond.instanceMethod ({ cls := "java/lang/Exception", name := "<init>", desc := "(Ljava/lang/String;)V" } : Jvm.MethodName)) ∈ lw_all := lw_g (lw_at lw_m2 111 rfl) rfl
theorem q414 : (Jvm.Cond.code ({ cls := "java/lang/Exception", name := "<init>", desc := "(Ljava/lang/String;)V" } : Jvm.MethodName) prog_42_method_2_code (2 : Nat) (Option.none : Option Jvm.ClassFile.FieldType)) ∈ lw_all := lw_g (lw_at lw_m2 112 rfl) rfl
theorem q415 : (Jvm.Cond.methodLink "java/lang/Exception" (7 : Nat) ({ cls := "java/lang/Throwable", name := "<init>", desc := "(Ljava/lang/String;)V" } : Jvm.MethodName)) ∈ lw_all := lw_g (lw_at lw_m2 113 rfl) rfl
theorem q637 : (Jvm.Cond.instanceMethod ({ cls := "java/lang/Exception", name := "<init>", desc := "()V" } : Jvm.MethodName)) ∈ lw_all := lw_g (lw_at lw_m3 95 rfl) rfl
theorem q638 : (Jvm.Cond.code ({ cls := "java/lang/Exception", name := "<init>", desc := "()V" } : Jvm.MethodName) prog_42_method_1_code (1 : Nat) (Option.none : Option Jvm.ClassFile.FieldType)) ∈ lw_all := lw_g (lw_at lw_m3 96 rfl) rfl
theorem q639 : (Jvm.Cond.methodLink "java/lang/Exception" (1 : Nat) ({ cls := "java/lang/Throwable", name := "<init>", desc := "()V" } : Jvm.MethodName)) ∈ lw_all := lw_g (lw_at lw_m3 97 rfl) rfl
/-! java/lang/RuntimeException -/
set_option maxRecDepth 100000
def RJ5 : String := "java/lang/RuntimeException"
abbrev cJ5_init : ByteArray := prog_50_method_2_code
def yJ5_init : MethodName := ⟨RJ5, "<init>", "(Ljava/lang/String;)V"⟩
def dkwJ5_init_0 : List UInt8 := [42, 43, 183, 0, 7, 177]
abbrev dktJ5_init_0 : List UInt8 := dkwJ5_init_0 ++ []
theorem dksJ5_init_0 : cJ5_init.data.toList.drop 0 = dktJ5_init_0 := by decide +kernel
theorem dJ5_init_0 : decode cJ5_init 0 = .ok (.aload_n 0, 1) := dk_42 (dk_at dksJ5_init_0 0 rfl rfl)
theorem dJ5_init_1 : decode cJ5_init 1 = .ok (.aload_n 1, 1) := dk_43 (dk_at dksJ5_init_0 1 rfl rfl)
theorem dJ5_init_2 : decode cJ5_init 2 = .ok (.invokespecial 7, 3) := dk_183 0 7 (dk_at dksJ5_init_0 2 rfl rfl)
theorem dJ5_init_5 : decode cJ5_init 5 = .ok (.return_, 1) := dk_177 (dk_at dksJ5_init_0 5 rfl rfl)
abbrev cJ5_init_2 : ByteArray := prog_50_method_1_code
def yJ5_init_2 : MethodName := ⟨RJ5, "<init>", "()V"⟩
theorem dJ5_init_2_0 : decode cJ5_init_2 0 = .ok (.aload_n 0, 1) := by decide +kernel
theorem dJ5_init_2_1 : decode cJ5_init_2 1 = .ok (.invokespecial 1, 3) := by decide +kernel
theorem dJ5_init_2_4 : decode cJ5_init_2 4 = .ok (.return_, 1) := by decide +kernel
theorem q69 : (Jvm.Cond.initialized "java/lang/RuntimeException") ∈ lw_all := lw_g (lw_at lw_m1 7 rfl) rfl
theorem q145 : (Jvm.Cond.declares ({ cls := "java/lang/RuntimeException", name := "<init>", desc := "()V" } : Jvm.MethodName)) ∈ lw_tbl := lw_at lw_m1 83 rfl
theorem q146 : (Jvm.Cond.declares ({ cls := "java/lang/RuntimeException", name := "<init>", desc := "(Ljava/lang/String;)V" } : Jvm.MethodName)) ∈ lw_tbl := lw_at lw_m1 84 rfl
theorem q410 : (Jvm.Cond.instanceMethod ({ cls := "java/lang/RuntimeException", name := "<init>", desc := "(Ljava/lang/String;)V" } : Jvm.MethodName)) ∈ lw_all := lw_g (lw_at lw_m2 108 rfl) rfl
theorem q411 : (Jvm.Cond.code ({ cls := "java/lang/RuntimeException", name := "<init>", desc := "(Ljava/lang/String;)V" } : Jvm.MethodName) prog_50_method_2_code (2 : Nat) (Option.none : Option Jvm.ClassFile.FieldType)) ∈ lw_all := lw_g (lw_at lw_m2 109 rfl) rfl
theorem q412 : (Jvm.Cond.methodLink "java/lang/RuntimeException" (7 : Nat) ({ cls := "java/lang/Exception", name := "<init>", desc := "(Ljava/lang/String;)V" } : Jvm.MethodName)) ∈ lw_all := lw_g (lw_at lw_m2 110 rfl) rfl
theorem q634 : (Jvm.Cond.instanceMethod ({ cls := "java/lang/RuntimeException", name := "<init>", desc := "()V" } : Jvm.MethodName)) ∈ lw_all := lw_g (lw_at lw_m3 92 rfl) rfl
theorem q635 : (Jvm.Cond.code ({ cls := "java/lang/RuntimeException", name := "<init>", desc := "()V" } : Jvm.MethodName) prog_50_method_1_code (1 : Nat) (Option.none : Option Jvm.ClassFile.FieldType)) ∈ lw_all := lw_g (lw_at lw_m3 93 rfl) rfl
theorem q636 : (Jvm.Cond.methodLink "java/lang/RuntimeException" (1 : Nat) ({ cls := "java/lang/Exception", name := "<init>", desc := "()V" } : Jvm.MethodName)) ∈ lw_all := lw_g (lw_at lw_m3 94 rfl) rfl
/-! java/lang/IllegalArgumentException -/
set_option maxRecDepth 100000
def RJ6 : String := "java/lang/IllegalArgumentException"
def TJ6 : u_T := fun k => match k with
  | 0 => ("java/lang/Throwable", "cause", "Ljava/lang/Throwable;", false)
  | 1 => ("java/lang/Throwable", "stackTrace", "[Ljava/lang/StackTraceElement;", false)
  | 2 => ("java/lang/Throwable", "suppressedExceptions", "Ljava/util/List;", false)
  | 3 => ("java/lang/Throwable", "detailMessage", "Ljava/lang/String;", false)
  | 4 => ("java/lang/Throwable", "backtrace", "Ljava/lang/Object;", false)
  | _ => ("java/lang/Throwable", "depth", "I", false)
def tyJ6 : Nat → FieldType := fun k => match k with
  | 0 => .object "java/lang/Throwable"
  | 1 => .array (.object "java/lang/StackTraceElement")
  | 2 => .object "java/util/List"
  | 3 => .object "java/lang/String"
  | 4 => .object "java/lang/Object"
  | _ => .int
abbrev wsJ60 : List Cond := u_ws RJ6 TJ6 6
theorem nmJ6 : ∀ a, a < 6 → ∀ b, b < 6 → a ≠ b → (TJ6 a).2.1 ≠ (TJ6 b).2.1 := by decide +kernel
theorem tyJ6_ok : ∀ k, k < 6 → parseFieldDescriptor (TJ6 k).2.2.1 = some (tyJ6 k) := by decide +kernel
abbrev cJ6_init : ByteArray := prog_43_method_2_code
def yJ6_init : MethodName := ⟨RJ6, "<init>", "(Ljava/lang/String;)V"⟩
def dkwJ6_init_0 : List UInt8 := [42, 43, 183, 0, 7, 177]
abbrev dktJ6_init_0 : List UInt8 := dkwJ6_init_0 ++ []
theorem dksJ6_init_0 : cJ6_init.data.toList.drop 0 = dktJ6_init_0 := by decide +kernel
theorem dJ6_init_0 : decode cJ6_init 0 = .ok (.aload_n 0, 1) := dk_42 (dk_at dksJ6_init_0 0 rfl rfl)
theorem dJ6_init_1 : decode cJ6_init 1 = .ok (.aload_n 1, 1) := dk_43 (dk_at dksJ6_init_0 1 rfl rfl)
theorem dJ6_init_2 : decode cJ6_init 2 = .ok (.invokespecial 7, 3) := dk_183 0 7 (dk_at dksJ6_init_0 2 rfl rfl)
theorem dJ6_init_5 : decode cJ6_init 5 = .ok (.return_, 1) := dk_177 (dk_at dksJ6_init_0 5 rfl rfl)
abbrev cJ6_init_2 : ByteArray := prog_43_method_1_code
def yJ6_init_2 : MethodName := ⟨RJ6, "<init>", "()V"⟩
theorem dJ6_init_2_0 : decode cJ6_init_2 0 = .ok (.aload_n 0, 1) := by decide +kernel
theorem dJ6_init_2_1 : decode cJ6_init_2 1 = .ok (.invokespecial 1, 3) := by decide +kernel
theorem dJ6_init_2_4 : decode cJ6_init_2 4 = .ok (.return_, 1) := by decide +kernel
theorem q70 : (Jvm.Cond.initialized "java/lang/IllegalArgumentException") ∈ lw_all := lw_g (lw_at lw_m1 8 rfl) rfl
theorem q143 : (Jvm.Cond.instantiable "java/lang/IllegalArgumentException" (6 : Nat)) ∈ lw_all := lw_g (lw_at lw_m1 81 rfl) rfl
theorem q144 : (Jvm.Cond.castable "java/lang/IllegalArgumentException" "java/lang/IllegalArgumentException") ∈ lw_tbl := lw_at lw_m1 82 rfl
theorem q151 : (Jvm.Cond.selects "java/lang/IllegalArgumentException" ({ cls := "java/lang/Throwable", name := "fillInStackTrace", desc := "(I)Ljava/lang/Throwable;" } : Jvm.MethodName) ({ cls := "java/lang/Throwable", name := "fillInStackTrace", desc := "(I)Ljava/lang/Throwable;" } : Jvm.MethodName)) ∈ lw_all := lw_g (lw_at lw_m1 89 rfl) rfl
theorem q152 : (Jvm.Cond.selects "java/lang/IllegalArgumentException" ({ cls := "java/lang/Throwable", name := "fillInStackTrace", desc := "()Ljava/lang/Throwable;" } : Jvm.MethodName) ({ cls := "java/lang/Throwable", name := "fillInStackTrace", desc := "()Ljava/lang/Throwable;" } : Jvm.MethodName)) ∈ lw_all := lw_g (lw_at lw_m1 90 rfl) rfl
theorem q153 : (Jvm.Cond.lays "java/lang/IllegalArgumentException" "java/lang/Throwable" "cause" "Ljava/lang/Throwable;") ∈ lw_all := lw_g (lw_at lw_m1 91 rfl) rfl
theorem q155 : (Jvm.Cond.lays "java/lang/IllegalArgumentException" "java/lang/Throwable" "stackTrace" "[Ljava/lang/StackTraceElement;") ∈ lw_all := lw_g (lw_at lw_m1 93 rfl) rfl
theorem q157 : (Jvm.Cond.lays "java/lang/IllegalArgumentException" "java/lang/Throwable" "suppressedExceptions" "Ljava/util/List;") ∈ lw_all := lw_g (lw_at lw_m1 95 rfl) rfl
theorem q159 : (Jvm.Cond.lays "java/lang/IllegalArgumentException" "java/lang/Throwable" "detailMessage" "Ljava/lang/String;") ∈ lw_all := lw_g (lw_at lw_m1 97 rfl) rfl
theorem q161 : (Jvm.Cond.lays "java/lang/IllegalArgumentException" "java/lang/Throwable" "backtrace" "Ljava/lang/Object;") ∈ lw_all := lw_g (lw_at lw_m1 99 rfl) rfl
theorem q407 : (Jvm.Cond.instanceMethod ({ cls := "java/lang/IllegalArgumentException", name := "<init>", desc := "(Ljava/lang/String;)V" } : Jvm.MethodName)) ∈ lw_all := lw_g (lw_at lw_m2 105 rfl) rfl
theorem q408 : (Jvm.Cond.code ({ cls := "java/lang/IllegalArgumentException", name := "<init>", desc := "(Ljava/lang/String;)V" } : Jvm.MethodName) prog_43_method_2_code (2 : Nat) (Option.none : Option Jvm.ClassFile.FieldType)) ∈ lw_all := lw_g (lw_at lw_m2 106 rfl) rfl
theorem q409 : (Jvm.Cond.methodLink "java/lang/IllegalArgumentException" (7 : Nat) ({ cls := "java/lang/RuntimeException", name := "<init>", desc := "(Ljava/lang/String;)V" } : Jvm.MethodName)) ∈ lw_all := lw_g (lw_at lw_m2 107 rfl) rfl
theorem q427 : (Jvm.Cond.lays "java/lang/IllegalArgumentException" "java/lang/Throwable" "depth" "I") ∈ lw_all := lw_g (lw_at lw_m2 125 rfl) rfl
theorem q430 : (Jvm.Cond.superclass "java/lang/IllegalArgumentException" "java/lang/RuntimeException") ∈ lw_all := lw_g (lw_at lw_m2 128 rfl) rfl
theorem q631 : (Jvm.Cond.instanceMethod ({ cls := "java/lang/IllegalArgumentException", name := "<init>", desc := "()V" } : Jvm.MethodName)) ∈ lw_all := lw_g (lw_at lw_m3 89 rfl) rfl
theorem q632 : (Jvm.Cond.code ({ cls := "java/lang/IllegalArgumentException", name := "<init>", desc := "()V" } : Jvm.MethodName) prog_43_method_1_code (1 : Nat) (Option.none : Option Jvm.ClassFile.FieldType)) ∈ lw_all := lw_g (lw_at lw_m3 90 rfl) rfl
theorem q633 : (Jvm.Cond.methodLink "java/lang/IllegalArgumentException" (1 : Nat) ({ cls := "java/lang/RuntimeException", name := "<init>", desc := "()V" } : Jvm.MethodName)) ∈ lw_all := lw_g (lw_at lw_m3 91 rfl) rfl
theorem q1178 : (Jvm.Cond.selects "java/lang/IllegalArgumentException" ({ cls := "java/lang/Object", name := "getClass", desc := "()Ljava/lang/Class;" } : Jvm.MethodName) ({ cls := "java/lang/Object", name := "getClass", desc := "()Ljava/lang/Class;" } : Jvm.MethodName)) ∈ lw_all := lw_g (lw_at lw_m5 156 rfl) rfl
theorem q2255 : (Jvm.Cond.castable "java/lang/IllegalArgumentException" "java/lang/Object") ∈ lw_tbl := lw_at lw_m10 33 rfl
theorem in_J6 : ∀ w ∈ wsJ60, w ∈ lw_all := lw_in wsJ60 [153, 155, 157, 159, 161, 427] (by decide +kernel) (by decide +kernel)
/-! java/lang/AbstractStringBuilder -/
set_option maxRecDepth 100000
def RJ7 : String := "java/lang/AbstractStringBuilder"
abbrev cJ7_init : ByteArray := prog_35_method_2_code
def yJ7_init : MethodName := ⟨RJ7, "<init>", "(I)V"⟩
def dkwJ7_init_1 : List UInt8 := [167, 0, 16, 42, 27, 184, 0, 26, 181, 0, 15, 42, 4, 181, 0, 22, 177]
abbrev dktJ7_init_1 : List UInt8 := dkwJ7_init_1 ++ []
def dkwJ7_init_0 : List UInt8 := [42, 183, 0, 3, 178, 0, 18, 153, 0, 18, 42, 27, 188, 8, 181, 0, 15, 42, 3, 181, 0, 22]
abbrev dktJ7_init_0 : List UInt8 := dkwJ7_init_0 ++ dktJ7_init_1
theorem dksJ7_init_0 : cJ7_init.data.toList.drop 0 = dktJ7_init_0 := by decide +kernel
theorem dksJ7_init_1 : cJ7_init.data.toList.drop 22 = dktJ7_init_1 := dk_seg dksJ7_init_0 22 rfl rfl
theorem dJ7_init_0 : decode cJ7_init 0 = .ok (.aload_n 0, 1) := dk_42 (dk_at dksJ7_init_0 0 rfl rfl)
theorem dJ7_init_1 : decode cJ7_init 1 = .ok (.invokespecial 3, 3) := dk_183 0 3 (dk_at dksJ7_init_0 1 rfl rfl)
theorem dJ7_init_4 : decode cJ7_init 4 = .ok (.getstatic 18, 3) := dk_178 0 18 (dk_at dksJ7_init_0 4 rfl rfl)
theorem dJ7_init_7 : decode cJ7_init 7 = .ok (.ifCond .eq 18, 3) := dk_153 0 18 (dk_at dksJ7_init_0 7 rfl rfl)
theorem dJ7_init_10 : decode cJ7_init 10 = .ok (.aload_n 0, 1) := dk_42 (dk_at dksJ7_init_0 10 rfl rfl)
theorem dJ7_init_11 : decode cJ7_init 11 = .ok (.iload_n 1, 1) := dk_27 (dk_at dksJ7_init_0 11 rfl rfl)
theorem dJ7_init_12 : decode cJ7_init 12 = .ok (.newarray .byte, 2) := dk_188_8 (dk_at dksJ7_init_0 12 rfl rfl)
theorem dJ7_init_14 : decode cJ7_init 14 = .ok (.putfield 15, 3) := dk_181 0 15 (dk_at dksJ7_init_0 14 rfl rfl)
theorem dJ7_init_17 : decode cJ7_init 17 = .ok (.aload_n 0, 1) := dk_42 (dk_at dksJ7_init_0 17 rfl rfl)
theorem dJ7_init_18 : decode cJ7_init 18 = .ok (.iconst 0, 1) := dk_3 (dk_at dksJ7_init_0 18 rfl rfl)
theorem dJ7_init_19 : decode cJ7_init 19 = .ok (.putfield 22, 3) := dk_181 0 22 (dk_at dksJ7_init_0 19 rfl rfl)
theorem dJ7_init_22 : decode cJ7_init 22 = .ok (.goto 16, 3) := dk_167 0 16 (dk_at dksJ7_init_1 0 rfl rfl)
theorem dJ7_init_25 : decode cJ7_init 25 = .ok (.aload_n 0, 1) := dk_42 (dk_at dksJ7_init_1 3 rfl rfl)
theorem dJ7_init_26 : decode cJ7_init 26 = .ok (.iload_n 1, 1) := dk_27 (dk_at dksJ7_init_1 4 rfl rfl)
theorem dJ7_init_27 : decode cJ7_init 27 = .ok (.invokestatic 26, 3) := dk_184 0 26 (dk_at dksJ7_init_1 5 rfl rfl)
theorem dJ7_init_30 : decode cJ7_init 30 = .ok (.putfield 15, 3) := dk_181 0 15 (dk_at dksJ7_init_1 8 rfl rfl)
theorem dJ7_init_33 : decode cJ7_init 33 = .ok (.aload_n 0, 1) := dk_42 (dk_at dksJ7_init_1 11 rfl rfl)
theorem dJ7_init_34 : decode cJ7_init 34 = .ok (.iconst 1, 1) := dk_4 (dk_at dksJ7_init_1 12 rfl rfl)
theorem dJ7_init_35 : decode cJ7_init 35 = .ok (.putfield 22, 3) := dk_181 0 22 (dk_at dksJ7_init_1 13 rfl rfl)
theorem dJ7_init_38 : decode cJ7_init 38 = .ok (.return_, 1) := dk_177 (dk_at dksJ7_init_1 16 rfl rfl)
abbrev cJ7_append : ByteArray := prog_35_method_22_code
def yJ7_append : MethodName := ⟨RJ7, "append", "(Ljava/lang/String;)Ljava/lang/AbstractStringBuilder;"⟩
def dkwJ7_append_1 : List UInt8 := [42, 42, 180, 0, 79, 43, 182, 0, 208, 42, 89, 180, 0, 79, 28, 96, 181, 0, 79, 42, 176]
abbrev dktJ7_append_1 : List UInt8 := dkwJ7_append_1 ++ []
def dkwJ7_append_0 : List UInt8 := [43, 199, 0, 8, 42, 182, 0, 204, 176, 43, 182, 0, 32, 61, 42, 42, 180, 0, 79, 28, 96, 182, 0, 100]
abbrev dktJ7_append_0 : List UInt8 := dkwJ7_append_0 ++ dktJ7_append_1
theorem dksJ7_append_0 : cJ7_append.data.toList.drop 0 = dktJ7_append_0 := by decide +kernel
theorem dksJ7_append_1 : cJ7_append.data.toList.drop 24 = dktJ7_append_1 := dk_seg dksJ7_append_0 24 rfl rfl
theorem dJ7_append_0 : decode cJ7_append 0 = .ok (.aload_n 1, 1) := dk_43 (dk_at dksJ7_append_0 0 rfl rfl)
theorem dJ7_append_1 : decode cJ7_append 1 = .ok (.ifnonnull 8, 3) := dk_199 0 8 (dk_at dksJ7_append_0 1 rfl rfl)
theorem dJ7_append_4 : decode cJ7_append 4 = .ok (.aload_n 0, 1) := dk_42 (dk_at dksJ7_append_0 4 rfl rfl)
theorem dJ7_append_5 : decode cJ7_append 5 = .ok (.invokevirtual 204, 3) := dk_182 0 204 (dk_at dksJ7_append_0 5 rfl rfl)
theorem dJ7_append_8 : decode cJ7_append 8 = .ok (.areturn, 1) := dk_176 (dk_at dksJ7_append_0 8 rfl rfl)
theorem dJ7_append_9 : decode cJ7_append 9 = .ok (.aload_n 1, 1) := dk_43 (dk_at dksJ7_append_0 9 rfl rfl)
theorem dJ7_append_10 : decode cJ7_append 10 = .ok (.invokevirtual 32, 3) := dk_182 0 32 (dk_at dksJ7_append_0 10 rfl rfl)
theorem dJ7_append_13 : decode cJ7_append 13 = .ok (.istore_n 2, 1) := dk_61 (dk_at dksJ7_append_0 13 rfl rfl)
theorem dJ7_append_14 : decode cJ7_append 14 = .ok (.aload_n 0, 1) := dk_42 (dk_at dksJ7_append_0 14 rfl rfl)
theorem dJ7_append_15 : decode cJ7_append 15 = .ok (.aload_n 0, 1) := dk_42 (dk_at dksJ7_append_0 15 rfl rfl)
theorem dJ7_append_16 : decode cJ7_append 16 = .ok (.getfield 79, 3) := dk_180 0 79 (dk_at dksJ7_append_0 16 rfl rfl)
theorem dJ7_append_19 : decode cJ7_append 19 = .ok (.iload_n 2, 1) := dk_28 (dk_at dksJ7_append_0 19 rfl rfl)
theorem dJ7_append_20 : decode cJ7_append 20 = .ok (.iadd, 1) := dk_96 (dk_at dksJ7_append_0 20 rfl rfl)
theorem dJ7_append_21 : decode cJ7_append 21 = .ok (.invokevirtual 100, 3) := dk_182 0 100 (dk_at dksJ7_append_0 21 rfl rfl)
theorem dJ7_append_24 : decode cJ7_append 24 = .ok (.aload_n 0, 1) := dk_42 (dk_at dksJ7_append_1 0 rfl rfl)
theorem dJ7_append_25 : decode cJ7_append 25 = .ok (.aload_n 0, 1) := dk_42 (dk_at dksJ7_append_1 1 rfl rfl)
theorem dJ7_append_26 : decode cJ7_append 26 = .ok (.getfield 79, 3) := dk_180 0 79 (dk_at dksJ7_append_1 2 rfl rfl)
theorem dJ7_append_29 : decode cJ7_append 29 = .ok (.aload_n 1, 1) := dk_43 (dk_at dksJ7_append_1 5 rfl rfl)
theorem dJ7_append_30 : decode cJ7_append 30 = .ok (.invokevirtual 208, 3) := dk_182 0 208 (dk_at dksJ7_append_1 6 rfl rfl)
theorem dJ7_append_33 : decode cJ7_append 33 = .ok (.aload_n 0, 1) := dk_42 (dk_at dksJ7_append_1 9 rfl rfl)
theorem dJ7_append_34 : decode cJ7_append 34 = .ok (.dup, 1) := dk_89 (dk_at dksJ7_append_1 10 rfl rfl)
theorem dJ7_append_35 : decode cJ7_append 35 = .ok (.getfield 79, 3) := dk_180 0 79 (dk_at dksJ7_append_1 11 rfl rfl)
theorem dJ7_append_38 : decode cJ7_append 38 = .ok (.iload_n 2, 1) := dk_28 (dk_at dksJ7_append_1 14 rfl rfl)
theorem dJ7_append_39 : decode cJ7_append 39 = .ok (.iadd, 1) := dk_96 (dk_at dksJ7_append_1 15 rfl rfl)
theorem dJ7_append_40 : decode cJ7_append 40 = .ok (.putfield 79, 3) := dk_181 0 79 (dk_at dksJ7_append_1 16 rfl rfl)
theorem dJ7_append_43 : decode cJ7_append 43 = .ok (.aload_n 0, 1) := dk_42 (dk_at dksJ7_append_1 19 rfl rfl)
theorem dJ7_append_44 : decode cJ7_append 44 = .ok (.areturn, 1) := dk_176 (dk_at dksJ7_append_1 20 rfl rfl)
abbrev cJ7_appendNull : ByteArray := prog_35_method_26_code
def yJ7_appendNull : MethodName := ⟨RJ7, "appendNull", "()Ljava/lang/AbstractStringBuilder;"⟩
def dkwJ7_appendNull_3 : List UInt8 := [184, 0, 226, 60, 42, 27, 181, 0, 79, 42, 176]
abbrev dktJ7_appendNull_3 : List UInt8 := dkwJ7_appendNull_3 ++ []
def dkwJ7_appendNull_2 : List UInt8 := [16, 108, 84, 44, 27, 132, 1, 1, 16, 108, 84, 167, 0, 17, 44, 27, 16, 110, 16, 117, 16, 108, 16, 108]
abbrev dktJ7_appendNull_2 : List UInt8 := dkwJ7_appendNull_2 ++ dktJ7_appendNull_3
def dkwJ7_appendNull_1 : List UInt8 := [153, 0, 38, 44, 27, 132, 1, 1, 16, 110, 84, 44, 27, 132, 1, 1, 16, 117, 84, 44, 27, 132, 1, 1]
abbrev dktJ7_appendNull_1 : List UInt8 := dkwJ7_appendNull_1 ++ dktJ7_appendNull_2
def dkwJ7_appendNull_0 : List UInt8 := [42, 42, 180, 0, 79, 7, 96, 182, 0, 100, 42, 180, 0, 79, 60, 42, 180, 0, 15, 77, 42, 182, 0, 83]
abbrev dktJ7_appendNull_0 : List UInt8 := dkwJ7_appendNull_0 ++ dktJ7_appendNull_1
theorem dksJ7_appendNull_0 : cJ7_appendNull.data.toList.drop 0 = dktJ7_appendNull_0 := by decide +kernel
theorem dksJ7_appendNull_1 : cJ7_appendNull.data.toList.drop 24 = dktJ7_appendNull_1 := dk_seg dksJ7_appendNull_0 24 rfl rfl
theorem dksJ7_appendNull_2 : cJ7_appendNull.data.toList.drop 48 = dktJ7_appendNull_2 := dk_seg dksJ7_appendNull_1 24 rfl rfl
theorem dksJ7_appendNull_3 : cJ7_appendNull.data.toList.drop 72 = dktJ7_appendNull_3 := dk_seg dksJ7_appendNull_2 24 rfl rfl
theorem dJ7_appendNull_0 : decode cJ7_appendNull 0 = .ok (.aload_n 0, 1) := dk_42 (dk_at dksJ7_appendNull_0 0 rfl rfl)
theorem dJ7_appendNull_1 : decode cJ7_appendNull 1 = .ok (.aload_n 0, 1) := dk_42 (dk_at dksJ7_appendNull_0 1 rfl rfl)
theorem dJ7_appendNull_2 : decode cJ7_appendNull 2 = .ok (.getfield 79, 3) := dk_180 0 79 (dk_at dksJ7_appendNull_0 2 rfl rfl)
theorem dJ7_appendNull_5 : decode cJ7_appendNull 5 = .ok (.iconst 4, 1) := dk_7 (dk_at dksJ7_appendNull_0 5 rfl rfl)
theorem dJ7_appendNull_6 : decode cJ7_appendNull 6 = .ok (.iadd, 1) := dk_96 (dk_at dksJ7_appendNull_0 6 rfl rfl)
theorem dJ7_appendNull_7 : decode cJ7_appendNull 7 = .ok (.invokevirtual 100, 3) := dk_182 0 100 (dk_at dksJ7_appendNull_0 7 rfl rfl)
theorem dJ7_appendNull_10 : decode cJ7_appendNull 10 = .ok (.aload_n 0, 1) := dk_42 (dk_at dksJ7_appendNull_0 10 rfl rfl)
theorem dJ7_appendNull_11 : decode cJ7_appendNull 11 = .ok (.getfield 79, 3) := dk_180 0 79 (dk_at dksJ7_appendNull_0 11 rfl rfl)
theorem dJ7_appendNull_14 : decode cJ7_appendNull 14 = .ok (.istore_n 1, 1) := dk_60 (dk_at dksJ7_appendNull_0 14 rfl rfl)
theorem dJ7_appendNull_15 : decode cJ7_appendNull 15 = .ok (.aload_n 0, 1) := dk_42 (dk_at dksJ7_appendNull_0 15 rfl rfl)
theorem dJ7_appendNull_16 : decode cJ7_appendNull 16 = .ok (.getfield 15, 3) := dk_180 0 15 (dk_at dksJ7_appendNull_0 16 rfl rfl)
theorem dJ7_appendNull_19 : decode cJ7_appendNull 19 = .ok (.astore_n 2, 1) := dk_77 (dk_at dksJ7_appendNull_0 19 rfl rfl)
theorem dJ7_appendNull_20 : decode cJ7_appendNull 20 = .ok (.aload_n 0, 1) := dk_42 (dk_at dksJ7_appendNull_0 20 rfl rfl)
theorem dJ7_appendNull_21 : decode cJ7_appendNull 21 = .ok (.invokevirtual 83, 3) := dk_182 0 83 (dk_at dksJ7_appendNull_0 21 rfl rfl)
theorem dJ7_appendNull_24 : decode cJ7_appendNull 24 = .ok (.ifCond .eq 38, 3) := dk_153 0 38 (dk_at dksJ7_appendNull_1 0 rfl rfl)
theorem dJ7_appendNull_27 : decode cJ7_appendNull 27 = .ok (.aload_n 2, 1) := dk_44 (dk_at dksJ7_appendNull_1 3 rfl rfl)
theorem dJ7_appendNull_28 : decode cJ7_appendNull 28 = .ok (.iload_n 1, 1) := dk_27 (dk_at dksJ7_appendNull_1 4 rfl rfl)
theorem dJ7_appendNull_29 : decode cJ7_appendNull 29 = .ok (.iinc 1 1, 3) := dk_132 1 1 (dk_at dksJ7_appendNull_1 5 rfl rfl)
theorem dJ7_appendNull_32 : decode cJ7_appendNull 32 = .ok (.bipush 110, 2) := dk_16 110 (dk_at dksJ7_appendNull_1 8 rfl rfl)
theorem dJ7_appendNull_34 : decode cJ7_appendNull 34 = .ok (.bastore, 1) := dk_84 (dk_at dksJ7_appendNull_1 10 rfl rfl)
theorem dJ7_appendNull_35 : decode cJ7_appendNull 35 = .ok (.aload_n 2, 1) := dk_44 (dk_at dksJ7_appendNull_1 11 rfl rfl)
theorem dJ7_appendNull_36 : decode cJ7_appendNull 36 = .ok (.iload_n 1, 1) := dk_27 (dk_at dksJ7_appendNull_1 12 rfl rfl)
theorem dJ7_appendNull_37 : decode cJ7_appendNull 37 = .ok (.iinc 1 1, 3) := dk_132 1 1 (dk_at dksJ7_appendNull_1 13 rfl rfl)
theorem dJ7_appendNull_40 : decode cJ7_appendNull 40 = .ok (.bipush 117, 2) := dk_16 117 (dk_at dksJ7_appendNull_1 16 rfl rfl)
theorem dJ7_appendNull_42 : decode cJ7_appendNull 42 = .ok (.bastore, 1) := dk_84 (dk_at dksJ7_appendNull_1 18 rfl rfl)
theorem dJ7_appendNull_43 : decode cJ7_appendNull 43 = .ok (.aload_n 2, 1) := dk_44 (dk_at dksJ7_appendNull_1 19 rfl rfl)
theorem dJ7_appendNull_44 : decode cJ7_appendNull 44 = .ok (.iload_n 1, 1) := dk_27 (dk_at dksJ7_appendNull_1 20 rfl rfl)
theorem dJ7_appendNull_45 : decode cJ7_appendNull 45 = .ok (.iinc 1 1, 3) := dk_132 1 1 (dk_at dksJ7_appendNull_1 21 rfl rfl)
theorem dJ7_appendNull_48 : decode cJ7_appendNull 48 = .ok (.bipush 108, 2) := dk_16 108 (dk_at dksJ7_appendNull_2 0 rfl rfl)
theorem dJ7_appendNull_50 : decode cJ7_appendNull 50 = .ok (.bastore, 1) := dk_84 (dk_at dksJ7_appendNull_2 2 rfl rfl)
theorem dJ7_appendNull_51 : decode cJ7_appendNull 51 = .ok (.aload_n 2, 1) := dk_44 (dk_at dksJ7_appendNull_2 3 rfl rfl)
theorem dJ7_appendNull_52 : decode cJ7_appendNull 52 = .ok (.iload_n 1, 1) := dk_27 (dk_at dksJ7_appendNull_2 4 rfl rfl)
theorem dJ7_appendNull_53 : decode cJ7_appendNull 53 = .ok (.iinc 1 1, 3) := dk_132 1 1 (dk_at dksJ7_appendNull_2 5 rfl rfl)
theorem dJ7_appendNull_56 : decode cJ7_appendNull 56 = .ok (.bipush 108, 2) := dk_16 108 (dk_at dksJ7_appendNull_2 8 rfl rfl)
theorem dJ7_appendNull_58 : decode cJ7_appendNull 58 = .ok (.bastore, 1) := dk_84 (dk_at dksJ7_appendNull_2 10 rfl rfl)
theorem dJ7_appendNull_59 : decode cJ7_appendNull 59 = .ok (.goto 17, 3) := dk_167 0 17 (dk_at dksJ7_appendNull_2 11 rfl rfl)
theorem dJ7_appendNull_62 : decode cJ7_appendNull 62 = .ok (.aload_n 2, 1) := dk_44 (dk_at dksJ7_appendNull_2 14 rfl rfl)
theorem dJ7_appendNull_63 : decode cJ7_appendNull 63 = .ok (.iload_n 1, 1) := dk_27 (dk_at dksJ7_appendNull_2 15 rfl rfl)
theorem dJ7_appendNull_64 : decode cJ7_appendNull 64 = .ok (.bipush 110, 2) := dk_16 110 (dk_at dksJ7_appendNull_2 16 rfl rfl)
theorem dJ7_appendNull_66 : decode cJ7_appendNull 66 = .ok (.bipush 117, 2) := dk_16 117 (dk_at dksJ7_appendNull_2 18 rfl rfl)
theorem dJ7_appendNull_68 : decode cJ7_appendNull 68 = .ok (.bipush 108, 2) := dk_16 108 (dk_at dksJ7_appendNull_2 20 rfl rfl)
theorem dJ7_appendNull_70 : decode cJ7_appendNull 70 = .ok (.bipush 108, 2) := dk_16 108 (dk_at dksJ7_appendNull_2 22 rfl rfl)
theorem dJ7_appendNull_72 : decode cJ7_appendNull 72 = .ok (.invokestatic 226, 3) := dk_184 0 226 (dk_at dksJ7_appendNull_3 0 rfl rfl)
theorem dJ7_appendNull_75 : decode cJ7_appendNull 75 = .ok (.istore_n 1, 1) := dk_60 (dk_at dksJ7_appendNull_3 3 rfl rfl)
theorem dJ7_appendNull_76 : decode cJ7_appendNull 76 = .ok (.aload_n 0, 1) := dk_42 (dk_at dksJ7_appendNull_3 4 rfl rfl)
theorem dJ7_appendNull_77 : decode cJ7_appendNull 77 = .ok (.iload_n 1, 1) := dk_27 (dk_at dksJ7_appendNull_3 5 rfl rfl)
theorem dJ7_appendNull_78 : decode cJ7_appendNull 78 = .ok (.putfield 79, 3) := dk_181 0 79 (dk_at dksJ7_appendNull_3 6 rfl rfl)
theorem dJ7_appendNull_81 : decode cJ7_appendNull 81 = .ok (.aload_n 0, 1) := dk_42 (dk_at dksJ7_appendNull_3 9 rfl rfl)
theorem dJ7_appendNull_82 : decode cJ7_appendNull 82 = .ok (.areturn, 1) := dk_176 (dk_at dksJ7_appendNull_3 10 rfl rfl)
abbrev cJ7_ensureCapacityInternal : ByteArray := prog_35_method_9_code
def yJ7_ensureCapacityInternal : MethodName := ⟨RJ7, "ensureCapacityInternal", "(I)V"⟩
def dkwJ7_ensureCapacityInternal_1 : List UInt8 := [182, 0, 104, 42, 180, 0, 22, 120, 184, 0, 108, 181, 0, 15, 177]
abbrev dktJ7_ensureCapacityInternal_1 : List UInt8 := dkwJ7_ensureCapacityInternal_1 ++ []
def dkwJ7_ensureCapacityInternal_0 : List UInt8 := [42, 180, 0, 15, 190, 42, 180, 0, 22, 122, 61, 27, 28, 100, 158, 0, 24, 42, 42, 180, 0, 15, 42, 27]
abbrev dktJ7_ensureCapacityInternal_0 : List UInt8 := dkwJ7_ensureCapacityInternal_0 ++ dktJ7_ensureCapacityInternal_1
theorem dksJ7_ensureCapacityInternal_0 : cJ7_ensureCapacityInternal.data.toList.drop 0 = dktJ7_ensureCapacityInternal_0 := by decide +kernel
theorem dksJ7_ensureCapacityInternal_1 : cJ7_ensureCapacityInternal.data.toList.drop 24 = dktJ7_ensureCapacityInternal_1 := dk_seg dksJ7_ensureCapacityInternal_0 24 rfl rfl
theorem dJ7_ensureCapacityInternal_0 : decode cJ7_ensureCapacityInternal 0 = .ok (.aload_n 0, 1) := dk_42 (dk_at dksJ7_ensureCapacityInternal_0 0 rfl rfl)
theorem dJ7_ensureCapacityInternal_1 : decode cJ7_ensureCapacityInternal 1 = .ok (.getfield 15, 3) := dk_180 0 15 (dk_at dksJ7_ensureCapacityInternal_0 1 rfl rfl)
theorem dJ7_ensureCapacityInternal_4 : decode cJ7_ensureCapacityInternal 4 = .ok (.arraylength, 1) := dk_190 (dk_at dksJ7_ensureCapacityInternal_0 4 rfl rfl)
theorem dJ7_ensureCapacityInternal_5 : decode cJ7_ensureCapacityInternal 5 = .ok (.aload_n 0, 1) := dk_42 (dk_at dksJ7_ensureCapacityInternal_0 5 rfl rfl)
theorem dJ7_ensureCapacityInternal_6 : decode cJ7_ensureCapacityInternal 6 = .ok (.getfield 22, 3) := dk_180 0 22 (dk_at dksJ7_ensureCapacityInternal_0 6 rfl rfl)
theorem dJ7_ensureCapacityInternal_9 : decode cJ7_ensureCapacityInternal 9 = .ok (.ishr, 1) := dk_122 (dk_at dksJ7_ensureCapacityInternal_0 9 rfl rfl)
theorem dJ7_ensureCapacityInternal_10 : decode cJ7_ensureCapacityInternal 10 = .ok (.istore_n 2, 1) := dk_61 (dk_at dksJ7_ensureCapacityInternal_0 10 rfl rfl)
theorem dJ7_ensureCapacityInternal_11 : decode cJ7_ensureCapacityInternal 11 = .ok (.iload_n 1, 1) := dk_27 (dk_at dksJ7_ensureCapacityInternal_0 11 rfl rfl)
theorem dJ7_ensureCapacityInternal_12 : decode cJ7_ensureCapacityInternal 12 = .ok (.iload_n 2, 1) := dk_28 (dk_at dksJ7_ensureCapacityInternal_0 12 rfl rfl)
theorem dJ7_ensureCapacityInternal_13 : decode cJ7_ensureCapacityInternal 13 = .ok (.isub, 1) := dk_100 (dk_at dksJ7_ensureCapacityInternal_0 13 rfl rfl)
theorem dJ7_ensureCapacityInternal_14 : decode cJ7_ensureCapacityInternal 14 = .ok (.ifCond .le 24, 3) := dk_158 0 24 (dk_at dksJ7_ensureCapacityInternal_0 14 rfl rfl)
theorem dJ7_ensureCapacityInternal_17 : decode cJ7_ensureCapacityInternal 17 = .ok (.aload_n 0, 1) := dk_42 (dk_at dksJ7_ensureCapacityInternal_0 17 rfl rfl)
theorem dJ7_ensureCapacityInternal_18 : decode cJ7_ensureCapacityInternal 18 = .ok (.aload_n 0, 1) := dk_42 (dk_at dksJ7_ensureCapacityInternal_0 18 rfl rfl)
theorem dJ7_ensureCapacityInternal_19 : decode cJ7_ensureCapacityInternal 19 = .ok (.getfield 15, 3) := dk_180 0 15 (dk_at dksJ7_ensureCapacityInternal_0 19 rfl rfl)
theorem dJ7_ensureCapacityInternal_22 : decode cJ7_ensureCapacityInternal 22 = .ok (.aload_n 0, 1) := dk_42 (dk_at dksJ7_ensureCapacityInternal_0 22 rfl rfl)
theorem dJ7_ensureCapacityInternal_23 : decode cJ7_ensureCapacityInternal 23 = .ok (.iload_n 1, 1) := dk_27 (dk_at dksJ7_ensureCapacityInternal_0 23 rfl rfl)
theorem dJ7_ensureCapacityInternal_24 : decode cJ7_ensureCapacityInternal 24 = .ok (.invokevirtual 104, 3) := dk_182 0 104 (dk_at dksJ7_ensureCapacityInternal_1 0 rfl rfl)
theorem dJ7_ensureCapacityInternal_27 : decode cJ7_ensureCapacityInternal 27 = .ok (.aload_n 0, 1) := dk_42 (dk_at dksJ7_ensureCapacityInternal_1 3 rfl rfl)
theorem dJ7_ensureCapacityInternal_28 : decode cJ7_ensureCapacityInternal 28 = .ok (.getfield 22, 3) := dk_180 0 22 (dk_at dksJ7_ensureCapacityInternal_1 4 rfl rfl)
theorem dJ7_ensureCapacityInternal_31 : decode cJ7_ensureCapacityInternal 31 = .ok (.ishl, 1) := dk_120 (dk_at dksJ7_ensureCapacityInternal_1 7 rfl rfl)
theorem dJ7_ensureCapacityInternal_32 : decode cJ7_ensureCapacityInternal 32 = .ok (.invokestatic 108, 3) := dk_184 0 108 (dk_at dksJ7_ensureCapacityInternal_1 8 rfl rfl)
theorem dJ7_ensureCapacityInternal_35 : decode cJ7_ensureCapacityInternal 35 = .ok (.putfield 15, 3) := dk_181 0 15 (dk_at dksJ7_ensureCapacityInternal_1 11 rfl rfl)
theorem dJ7_ensureCapacityInternal_38 : decode cJ7_ensureCapacityInternal 38 = .ok (.return_, 1) := dk_177 (dk_at dksJ7_ensureCapacityInternal_1 14 rfl rfl)
abbrev cJ7_newCapacity : ByteArray := prog_35_method_10_code
def yJ7_newCapacity : MethodName := ⟨RJ7, "newCapacity", "(I)I"⟩
def dkwJ7_newCapacity_2 : List UInt8 := [183, 0, 124, 191, 21, 5, 42, 180, 0, 22, 122, 172]
abbrev dktJ7_newCapacity_2 : List UInt8 := dkwJ7_newCapacity_2 ++ []
def dkwJ7_newCapacity_1 : List UInt8 := [180, 0, 22, 120, 96, 184, 0, 114, 54, 5, 21, 5, 18, 39, 160, 0, 13, 187, 0, 120, 89, 18, 122]
abbrev dktJ7_newCapacity_1 : List UInt8 := dkwJ7_newCapacity_1 ++ dktJ7_newCapacity_2
def dkwJ7_newCapacity_0 : List UInt8 := [42, 180, 0, 15, 190, 61, 27, 42, 180, 0, 22, 120, 62, 29, 28, 100, 54, 4, 28, 21, 4, 28, 5, 42]
abbrev dktJ7_newCapacity_0 : List UInt8 := dkwJ7_newCapacity_0 ++ dktJ7_newCapacity_1
theorem dksJ7_newCapacity_0 : cJ7_newCapacity.data.toList.drop 0 = dktJ7_newCapacity_0 := by decide +kernel
theorem dksJ7_newCapacity_1 : cJ7_newCapacity.data.toList.drop 24 = dktJ7_newCapacity_1 := dk_seg dksJ7_newCapacity_0 24 rfl rfl
theorem dksJ7_newCapacity_2 : cJ7_newCapacity.data.toList.drop 47 = dktJ7_newCapacity_2 := dk_seg dksJ7_newCapacity_1 23 rfl rfl
theorem dJ7_newCapacity_0 : decode cJ7_newCapacity 0 = .ok (.aload_n 0, 1) := dk_42 (dk_at dksJ7_newCapacity_0 0 rfl rfl)
theorem dJ7_newCapacity_1 : decode cJ7_newCapacity 1 = .ok (.getfield 15, 3) := dk_180 0 15 (dk_at dksJ7_newCapacity_0 1 rfl rfl)
theorem dJ7_newCapacity_4 : decode cJ7_newCapacity 4 = .ok (.arraylength, 1) := dk_190 (dk_at dksJ7_newCapacity_0 4 rfl rfl)
theorem dJ7_newCapacity_5 : decode cJ7_newCapacity 5 = .ok (.istore_n 2, 1) := dk_61 (dk_at dksJ7_newCapacity_0 5 rfl rfl)
theorem dJ7_newCapacity_6 : decode cJ7_newCapacity 6 = .ok (.iload_n 1, 1) := dk_27 (dk_at dksJ7_newCapacity_0 6 rfl rfl)
theorem dJ7_newCapacity_7 : decode cJ7_newCapacity 7 = .ok (.aload_n 0, 1) := dk_42 (dk_at dksJ7_newCapacity_0 7 rfl rfl)
theorem dJ7_newCapacity_8 : decode cJ7_newCapacity 8 = .ok (.getfield 22, 3) := dk_180 0 22 (dk_at dksJ7_newCapacity_0 8 rfl rfl)
theorem dJ7_newCapacity_11 : decode cJ7_newCapacity 11 = .ok (.ishl, 1) := dk_120 (dk_at dksJ7_newCapacity_0 11 rfl rfl)
theorem dJ7_newCapacity_12 : decode cJ7_newCapacity 12 = .ok (.istore_n 3, 1) := dk_62 (dk_at dksJ7_newCapacity_0 12 rfl rfl)
theorem dJ7_newCapacity_13 : decode cJ7_newCapacity 13 = .ok (.iload_n 3, 1) := dk_29 (dk_at dksJ7_newCapacity_0 13 rfl rfl)
theorem dJ7_newCapacity_14 : decode cJ7_newCapacity 14 = .ok (.iload_n 2, 1) := dk_28 (dk_at dksJ7_newCapacity_0 14 rfl rfl)
theorem dJ7_newCapacity_15 : decode cJ7_newCapacity 15 = .ok (.isub, 1) := dk_100 (dk_at dksJ7_newCapacity_0 15 rfl rfl)
theorem dJ7_newCapacity_16 : decode cJ7_newCapacity 16 = .ok (.istore 4, 2) := dk_54 4 (dk_at dksJ7_newCapacity_0 16 rfl rfl)
theorem dJ7_newCapacity_18 : decode cJ7_newCapacity 18 = .ok (.iload_n 2, 1) := dk_28 (dk_at dksJ7_newCapacity_0 18 rfl rfl)
theorem dJ7_newCapacity_19 : decode cJ7_newCapacity 19 = .ok (.iload 4, 2) := dk_21 4 (dk_at dksJ7_newCapacity_0 19 rfl rfl)
theorem dJ7_newCapacity_21 : decode cJ7_newCapacity 21 = .ok (.iload_n 2, 1) := dk_28 (dk_at dksJ7_newCapacity_0 21 rfl rfl)
theorem dJ7_newCapacity_22 : decode cJ7_newCapacity 22 = .ok (.iconst 2, 1) := dk_5 (dk_at dksJ7_newCapacity_0 22 rfl rfl)
theorem dJ7_newCapacity_23 : decode cJ7_newCapacity 23 = .ok (.aload_n 0, 1) := dk_42 (dk_at dksJ7_newCapacity_0 23 rfl rfl)
theorem dJ7_newCapacity_24 : decode cJ7_newCapacity 24 = .ok (.getfield 22, 3) := dk_180 0 22 (dk_at dksJ7_newCapacity_1 0 rfl rfl)
theorem dJ7_newCapacity_27 : decode cJ7_newCapacity 27 = .ok (.ishl, 1) := dk_120 (dk_at dksJ7_newCapacity_1 3 rfl rfl)
theorem dJ7_newCapacity_28 : decode cJ7_newCapacity 28 = .ok (.iadd, 1) := dk_96 (dk_at dksJ7_newCapacity_1 4 rfl rfl)
theorem dJ7_newCapacity_29 : decode cJ7_newCapacity 29 = .ok (.invokestatic 114, 3) := dk_184 0 114 (dk_at dksJ7_newCapacity_1 5 rfl rfl)
theorem dJ7_newCapacity_32 : decode cJ7_newCapacity 32 = .ok (.istore 5, 2) := dk_54 5 (dk_at dksJ7_newCapacity_1 8 rfl rfl)
theorem dJ7_newCapacity_34 : decode cJ7_newCapacity 34 = .ok (.iload 5, 2) := dk_21 5 (dk_at dksJ7_newCapacity_1 10 rfl rfl)
theorem dJ7_newCapacity_36 : decode cJ7_newCapacity 36 = .ok (.ldc 39, 2) := dk_18 39 (dk_at dksJ7_newCapacity_1 12 rfl rfl)
theorem dJ7_newCapacity_38 : decode cJ7_newCapacity 38 = .ok (.if_icmp .ne 13, 3) := dk_160 0 13 (dk_at dksJ7_newCapacity_1 14 rfl rfl)
theorem dJ7_newCapacity_41 : decode cJ7_newCapacity 41 = .ok (.new 120, 3) := dk_187 0 120 (dk_at dksJ7_newCapacity_1 17 rfl rfl)
theorem dJ7_newCapacity_44 : decode cJ7_newCapacity 44 = .ok (.dup, 1) := dk_89 (dk_at dksJ7_newCapacity_1 20 rfl rfl)
theorem dJ7_newCapacity_45 : decode cJ7_newCapacity 45 = .ok (.ldc 122, 2) := dk_18 122 (dk_at dksJ7_newCapacity_1 21 rfl rfl)
theorem dJ7_newCapacity_47 : decode cJ7_newCapacity 47 = .ok (.invokespecial 124, 3) := dk_183 0 124 (dk_at dksJ7_newCapacity_2 0 rfl rfl)
theorem dJ7_newCapacity_50 : decode cJ7_newCapacity 50 = .ok (.athrow, 1) := dk_191 (dk_at dksJ7_newCapacity_2 3 rfl rfl)
theorem dJ7_newCapacity_51 : decode cJ7_newCapacity 51 = .ok (.iload 5, 2) := dk_21 5 (dk_at dksJ7_newCapacity_2 4 rfl rfl)
theorem dJ7_newCapacity_53 : decode cJ7_newCapacity 53 = .ok (.aload_n 0, 1) := dk_42 (dk_at dksJ7_newCapacity_2 6 rfl rfl)
theorem dJ7_newCapacity_54 : decode cJ7_newCapacity 54 = .ok (.getfield 22, 3) := dk_180 0 22 (dk_at dksJ7_newCapacity_2 7 rfl rfl)
theorem dJ7_newCapacity_57 : decode cJ7_newCapacity 57 = .ok (.ishr, 1) := dk_122 (dk_at dksJ7_newCapacity_2 10 rfl rfl)
theorem dJ7_newCapacity_58 : decode cJ7_newCapacity 58 = .ok (.ireturn, 1) := dk_172 (dk_at dksJ7_newCapacity_2 11 rfl rfl)
abbrev cJ7_isLatin1 : ByteArray := prog_35_method_68_code
def yJ7_isLatin1 : MethodName := ⟨RJ7, "isLatin1", "()Z"⟩
def dkwJ7_isLatin1_0 : List UInt8 := [178, 0, 18, 153, 0, 14, 42, 180, 0, 22, 154, 0, 7, 4, 167, 0, 4, 3, 172]
abbrev dktJ7_isLatin1_0 : List UInt8 := dkwJ7_isLatin1_0 ++ []
theorem dksJ7_isLatin1_0 : cJ7_isLatin1.data.toList.drop 0 = dktJ7_isLatin1_0 := by decide +kernel
theorem dJ7_isLatin1_0 : decode cJ7_isLatin1 0 = .ok (.getstatic 18, 3) := dk_178 0 18 (dk_at dksJ7_isLatin1_0 0 rfl rfl)
theorem dJ7_isLatin1_3 : decode cJ7_isLatin1 3 = .ok (.ifCond .eq 14, 3) := dk_153 0 14 (dk_at dksJ7_isLatin1_0 3 rfl rfl)
theorem dJ7_isLatin1_6 : decode cJ7_isLatin1 6 = .ok (.aload_n 0, 1) := dk_42 (dk_at dksJ7_isLatin1_0 6 rfl rfl)
theorem dJ7_isLatin1_7 : decode cJ7_isLatin1 7 = .ok (.getfield 22, 3) := dk_180 0 22 (dk_at dksJ7_isLatin1_0 7 rfl rfl)
theorem dJ7_isLatin1_10 : decode cJ7_isLatin1 10 = .ok (.ifCond .ne 7, 3) := dk_154 0 7 (dk_at dksJ7_isLatin1_0 10 rfl rfl)
theorem dJ7_isLatin1_13 : decode cJ7_isLatin1 13 = .ok (.iconst 1, 1) := dk_4 (dk_at dksJ7_isLatin1_0 13 rfl rfl)
theorem dJ7_isLatin1_14 : decode cJ7_isLatin1 14 = .ok (.goto 4, 3) := dk_167 0 4 (dk_at dksJ7_isLatin1_0 14 rfl rfl)
theorem dJ7_isLatin1_17 : decode cJ7_isLatin1 17 = .ok (.iconst 0, 1) := dk_3 (dk_at dksJ7_isLatin1_0 17 rfl rfl)
theorem dJ7_isLatin1_18 : decode cJ7_isLatin1 18 = .ok (.ireturn, 1) := dk_172 (dk_at dksJ7_isLatin1_0 18 rfl rfl)
abbrev cJ7_putStringAt : ByteArray := prog_35_method_73_code
def yJ7_putStringAt : MethodName := ⟨RJ7, "putStringAt", "(ILjava/lang/String;)V"⟩
def dkwJ7_putStringAt_0 : List UInt8 := [42, 44, 182, 1, 141, 44, 42, 180, 0, 15, 27, 42, 180, 0, 22, 182, 1, 143, 177]
abbrev dktJ7_putStringAt_0 : List UInt8 := dkwJ7_putStringAt_0 ++ []
theorem dksJ7_putStringAt_0 : cJ7_putStringAt.data.toList.drop 0 = dktJ7_putStringAt_0 := by decide +kernel
theorem dJ7_putStringAt_0 : decode cJ7_putStringAt 0 = .ok (.aload_n 0, 1) := dk_42 (dk_at dksJ7_putStringAt_0 0 rfl rfl)
theorem dJ7_putStringAt_1 : decode cJ7_putStringAt 1 = .ok (.aload_n 2, 1) := dk_44 (dk_at dksJ7_putStringAt_0 1 rfl rfl)
theorem dJ7_putStringAt_2 : decode cJ7_putStringAt 2 = .ok (.invokevirtual 397, 3) := dk_182 1 141 (dk_at dksJ7_putStringAt_0 2 rfl rfl)
theorem dJ7_putStringAt_5 : decode cJ7_putStringAt 5 = .ok (.aload_n 2, 1) := dk_44 (dk_at dksJ7_putStringAt_0 5 rfl rfl)
theorem dJ7_putStringAt_6 : decode cJ7_putStringAt 6 = .ok (.aload_n 0, 1) := dk_42 (dk_at dksJ7_putStringAt_0 6 rfl rfl)
theorem dJ7_putStringAt_7 : decode cJ7_putStringAt 7 = .ok (.getfield 15, 3) := dk_180 0 15 (dk_at dksJ7_putStringAt_0 7 rfl rfl)
theorem dJ7_putStringAt_10 : decode cJ7_putStringAt 10 = .ok (.iload_n 1, 1) := dk_27 (dk_at dksJ7_putStringAt_0 10 rfl rfl)
theorem dJ7_putStringAt_11 : decode cJ7_putStringAt 11 = .ok (.aload_n 0, 1) := dk_42 (dk_at dksJ7_putStringAt_0 11 rfl rfl)
theorem dJ7_putStringAt_12 : decode cJ7_putStringAt 12 = .ok (.getfield 22, 3) := dk_180 0 22 (dk_at dksJ7_putStringAt_0 12 rfl rfl)
theorem dJ7_putStringAt_15 : decode cJ7_putStringAt 15 = .ok (.invokevirtual 399, 3) := dk_182 1 143 (dk_at dksJ7_putStringAt_0 15 rfl rfl)
theorem dJ7_putStringAt_18 : decode cJ7_putStringAt 18 = .ok (.return_, 1) := dk_177 (dk_at dksJ7_putStringAt_0 18 rfl rfl)
abbrev cJ7_inflateIfNeededFor : ByteArray := prog_35_method_71_code
def yJ7_inflateIfNeededFor : MethodName := ⟨RJ7, "inflateIfNeededFor", "(Ljava/lang/String;)V"⟩
def dkwJ7_inflateIfNeededFor_0 : List UInt8 := [178, 0, 18, 153, 0, 18, 42, 180, 0, 22, 43, 182, 0, 40, 159, 0, 7, 42, 182, 0, 195, 177]
abbrev dktJ7_inflateIfNeededFor_0 : List UInt8 := dkwJ7_inflateIfNeededFor_0 ++ []
theorem dksJ7_inflateIfNeededFor_0 : cJ7_inflateIfNeededFor.data.toList.drop 0 = dktJ7_inflateIfNeededFor_0 := by decide +kernel
theorem dJ7_inflateIfNeededFor_0 : decode cJ7_inflateIfNeededFor 0 = .ok (.getstatic 18, 3) := dk_178 0 18 (dk_at dksJ7_inflateIfNeededFor_0 0 rfl rfl)
theorem dJ7_inflateIfNeededFor_3 : decode cJ7_inflateIfNeededFor 3 = .ok (.ifCond .eq 18, 3) := dk_153 0 18 (dk_at dksJ7_inflateIfNeededFor_0 3 rfl rfl)
theorem dJ7_inflateIfNeededFor_6 : decode cJ7_inflateIfNeededFor 6 = .ok (.aload_n 0, 1) := dk_42 (dk_at dksJ7_inflateIfNeededFor_0 6 rfl rfl)
theorem dJ7_inflateIfNeededFor_7 : decode cJ7_inflateIfNeededFor 7 = .ok (.getfield 22, 3) := dk_180 0 22 (dk_at dksJ7_inflateIfNeededFor_0 7 rfl rfl)
theorem dJ7_inflateIfNeededFor_10 : decode cJ7_inflateIfNeededFor 10 = .ok (.aload_n 1, 1) := dk_43 (dk_at dksJ7_inflateIfNeededFor_0 10 rfl rfl)
theorem dJ7_inflateIfNeededFor_11 : decode cJ7_inflateIfNeededFor 11 = .ok (.invokevirtual 40, 3) := dk_182 0 40 (dk_at dksJ7_inflateIfNeededFor_0 11 rfl rfl)
theorem dJ7_inflateIfNeededFor_14 : decode cJ7_inflateIfNeededFor 14 = .ok (.if_icmp .eq 7, 3) := dk_159 0 7 (dk_at dksJ7_inflateIfNeededFor_0 14 rfl rfl)
theorem dJ7_inflateIfNeededFor_17 : decode cJ7_inflateIfNeededFor 17 = .ok (.aload_n 0, 1) := dk_42 (dk_at dksJ7_inflateIfNeededFor_0 17 rfl rfl)
theorem dJ7_inflateIfNeededFor_18 : decode cJ7_inflateIfNeededFor 18 = .ok (.invokevirtual 195, 3) := dk_182 0 195 (dk_at dksJ7_inflateIfNeededFor_0 18 rfl rfl)
theorem dJ7_inflateIfNeededFor_21 : decode cJ7_inflateIfNeededFor 21 = .ok (.return_, 1) := dk_177 (dk_at dksJ7_inflateIfNeededFor_0 21 rfl rfl)
abbrev cJ7_inflate : ByteArray := prog_35_method_11_code
def yJ7_inflate : MethodName := ⟨RJ7, "inflate", "()V"⟩
def dkwJ7_inflate_1 : List UInt8 := [42, 180, 0, 79, 184, 0, 125, 42, 43, 181, 0, 15, 42, 4, 181, 0, 22, 177]
abbrev dktJ7_inflate_1 : List UInt8 := dkwJ7_inflate_1 ++ []
def dkwJ7_inflate_0 : List UInt8 := [42, 182, 0, 83, 154, 0, 4, 177, 42, 180, 0, 15, 190, 184, 0, 26, 76, 42, 180, 0, 15, 3, 43, 3]
abbrev dktJ7_inflate_0 : List UInt8 := dkwJ7_inflate_0 ++ dktJ7_inflate_1
theorem dksJ7_inflate_0 : cJ7_inflate.data.toList.drop 0 = dktJ7_inflate_0 := by decide +kernel
theorem dksJ7_inflate_1 : cJ7_inflate.data.toList.drop 24 = dktJ7_inflate_1 := dk_seg dksJ7_inflate_0 24 rfl rfl
theorem dJ7_inflate_0 : decode cJ7_inflate 0 = .ok (.aload_n 0, 1) := dk_42 (dk_at dksJ7_inflate_0 0 rfl rfl)
theorem dJ7_inflate_1 : decode cJ7_inflate 1 = .ok (.invokevirtual 83, 3) := dk_182 0 83 (dk_at dksJ7_inflate_0 1 rfl rfl)
theorem dJ7_inflate_4 : decode cJ7_inflate 4 = .ok (.ifCond .ne 4, 3) := dk_154 0 4 (dk_at dksJ7_inflate_0 4 rfl rfl)
theorem dJ7_inflate_7 : decode cJ7_inflate 7 = .ok (.return_, 1) := dk_177 (dk_at dksJ7_inflate_0 7 rfl rfl)
theorem dJ7_inflate_8 : decode cJ7_inflate 8 = .ok (.aload_n 0, 1) := dk_42 (dk_at dksJ7_inflate_0 8 rfl rfl)
theorem dJ7_inflate_9 : decode cJ7_inflate 9 = .ok (.getfield 15, 3) := dk_180 0 15 (dk_at dksJ7_inflate_0 9 rfl rfl)
theorem dJ7_inflate_12 : decode cJ7_inflate 12 = .ok (.arraylength, 1) := dk_190 (dk_at dksJ7_inflate_0 12 rfl rfl)
theorem dJ7_inflate_13 : decode cJ7_inflate 13 = .ok (.invokestatic 26, 3) := dk_184 0 26 (dk_at dksJ7_inflate_0 13 rfl rfl)
theorem dJ7_inflate_16 : decode cJ7_inflate 16 = .ok (.astore_n 1, 1) := dk_76 (dk_at dksJ7_inflate_0 16 rfl rfl)
theorem dJ7_inflate_17 : decode cJ7_inflate 17 = .ok (.aload_n 0, 1) := dk_42 (dk_at dksJ7_inflate_0 17 rfl rfl)
theorem dJ7_inflate_18 : decode cJ7_inflate 18 = .ok (.getfield 15, 3) := dk_180 0 15 (dk_at dksJ7_inflate_0 18 rfl rfl)
theorem dJ7_inflate_21 : decode cJ7_inflate 21 = .ok (.iconst 0, 1) := dk_3 (dk_at dksJ7_inflate_0 21 rfl rfl)
theorem dJ7_inflate_22 : decode cJ7_inflate 22 = .ok (.aload_n 1, 1) := dk_43 (dk_at dksJ7_inflate_0 22 rfl rfl)
theorem dJ7_inflate_23 : decode cJ7_inflate 23 = .ok (.iconst 0, 1) := dk_3 (dk_at dksJ7_inflate_0 23 rfl rfl)
theorem dJ7_inflate_24 : decode cJ7_inflate 24 = .ok (.aload_n 0, 1) := dk_42 (dk_at dksJ7_inflate_1 0 rfl rfl)
theorem dJ7_inflate_25 : decode cJ7_inflate 25 = .ok (.getfield 79, 3) := dk_180 0 79 (dk_at dksJ7_inflate_1 1 rfl rfl)
theorem dJ7_inflate_28 : decode cJ7_inflate 28 = .ok (.invokestatic 125, 3) := dk_184 0 125 (dk_at dksJ7_inflate_1 4 rfl rfl)
theorem dJ7_inflate_31 : decode cJ7_inflate 31 = .ok (.aload_n 0, 1) := dk_42 (dk_at dksJ7_inflate_1 7 rfl rfl)
theorem dJ7_inflate_32 : decode cJ7_inflate 32 = .ok (.aload_n 1, 1) := dk_43 (dk_at dksJ7_inflate_1 8 rfl rfl)
theorem dJ7_inflate_33 : decode cJ7_inflate 33 = .ok (.putfield 15, 3) := dk_181 0 15 (dk_at dksJ7_inflate_1 9 rfl rfl)
theorem dJ7_inflate_36 : decode cJ7_inflate 36 = .ok (.aload_n 0, 1) := dk_42 (dk_at dksJ7_inflate_1 12 rfl rfl)
theorem dJ7_inflate_37 : decode cJ7_inflate 37 = .ok (.iconst 1, 1) := dk_4 (dk_at dksJ7_inflate_1 13 rfl rfl)
theorem dJ7_inflate_38 : decode cJ7_inflate 38 = .ok (.putfield 22, 3) := dk_181 0 22 (dk_at dksJ7_inflate_1 14 rfl rfl)
theorem dJ7_inflate_41 : decode cJ7_inflate 41 = .ok (.return_, 1) := dk_177 (dk_at dksJ7_inflate_1 17 rfl rfl)
abbrev cJ7_append_2 : ByteArray := prog_35_method_32_code
def yJ7_append_2 : MethodName := ⟨RJ7, "append", "(I)Ljava/lang/AbstractStringBuilder;"⟩
def dkwJ7_append_2_2 : List UInt8 := [42, 29, 181, 0, 79, 42, 176]
abbrev dktJ7_append_2_2 : List UInt8 := dkwJ7_append_2_2 ++ []
def dkwJ7_append_2_1 : List UInt8 := [27, 29, 42, 180, 0, 15, 184, 0, 248, 87, 167, 0, 14, 27, 28, 29, 42, 180, 0, 15, 184, 0, 251, 87]
abbrev dktJ7_append_2_1 : List UInt8 := dkwJ7_append_2_1 ++ dktJ7_append_2_2
def dkwJ7_append_2_0 : List UInt8 := [42, 180, 0, 79, 61, 28, 27, 184, 0, 245, 96, 62, 42, 29, 182, 0, 100, 42, 182, 0, 83, 153, 0, 16]
abbrev dktJ7_append_2_0 : List UInt8 := dkwJ7_append_2_0 ++ dktJ7_append_2_1
theorem dksJ7_append_2_0 : cJ7_append_2.data.toList.drop 0 = dktJ7_append_2_0 := by decide +kernel
theorem dksJ7_append_2_1 : cJ7_append_2.data.toList.drop 24 = dktJ7_append_2_1 := dk_seg dksJ7_append_2_0 24 rfl rfl
theorem dksJ7_append_2_2 : cJ7_append_2.data.toList.drop 48 = dktJ7_append_2_2 := dk_seg dksJ7_append_2_1 24 rfl rfl
theorem dJ7_append_2_0 : decode cJ7_append_2 0 = .ok (.aload_n 0, 1) := dk_42 (dk_at dksJ7_append_2_0 0 rfl rfl)
theorem dJ7_append_2_1 : decode cJ7_append_2 1 = .ok (.getfield 79, 3) := dk_180 0 79 (dk_at dksJ7_append_2_0 1 rfl rfl)
theorem dJ7_append_2_4 : decode cJ7_append_2 4 = .ok (.istore_n 2, 1) := dk_61 (dk_at dksJ7_append_2_0 4 rfl rfl)
theorem dJ7_append_2_5 : decode cJ7_append_2 5 = .ok (.iload_n 2, 1) := dk_28 (dk_at dksJ7_append_2_0 5 rfl rfl)
theorem dJ7_append_2_6 : decode cJ7_append_2 6 = .ok (.iload_n 1, 1) := dk_27 (dk_at dksJ7_append_2_0 6 rfl rfl)
theorem dJ7_append_2_7 : decode cJ7_append_2 7 = .ok (.invokestatic 245, 3) := dk_184 0 245 (dk_at dksJ7_append_2_0 7 rfl rfl)
theorem dJ7_append_2_10 : decode cJ7_append_2 10 = .ok (.iadd, 1) := dk_96 (dk_at dksJ7_append_2_0 10 rfl rfl)
theorem dJ7_append_2_11 : decode cJ7_append_2 11 = .ok (.istore_n 3, 1) := dk_62 (dk_at dksJ7_append_2_0 11 rfl rfl)
theorem dJ7_append_2_12 : decode cJ7_append_2 12 = .ok (.aload_n 0, 1) := dk_42 (dk_at dksJ7_append_2_0 12 rfl rfl)
theorem dJ7_append_2_13 : decode cJ7_append_2 13 = .ok (.iload_n 3, 1) := dk_29 (dk_at dksJ7_append_2_0 13 rfl rfl)
theorem dJ7_append_2_14 : decode cJ7_append_2 14 = .ok (.invokevirtual 100, 3) := dk_182 0 100 (dk_at dksJ7_append_2_0 14 rfl rfl)
theorem dJ7_append_2_17 : decode cJ7_append_2 17 = .ok (.aload_n 0, 1) := dk_42 (dk_at dksJ7_append_2_0 17 rfl rfl)
theorem dJ7_append_2_18 : decode cJ7_append_2 18 = .ok (.invokevirtual 83, 3) := dk_182 0 83 (dk_at dksJ7_append_2_0 18 rfl rfl)
theorem dJ7_append_2_21 : decode cJ7_append_2 21 = .ok (.ifCond .eq 16, 3) := dk_153 0 16 (dk_at dksJ7_append_2_0 21 rfl rfl)
theorem dJ7_append_2_24 : decode cJ7_append_2 24 = .ok (.iload_n 1, 1) := dk_27 (dk_at dksJ7_append_2_1 0 rfl rfl)
theorem dJ7_append_2_25 : decode cJ7_append_2 25 = .ok (.iload_n 3, 1) := dk_29 (dk_at dksJ7_append_2_1 1 rfl rfl)
theorem dJ7_append_2_26 : decode cJ7_append_2 26 = .ok (.aload_n 0, 1) := dk_42 (dk_at dksJ7_append_2_1 2 rfl rfl)
theorem dJ7_append_2_27 : decode cJ7_append_2 27 = .ok (.getfield 15, 3) := dk_180 0 15 (dk_at dksJ7_append_2_1 3 rfl rfl)
theorem dJ7_append_2_30 : decode cJ7_append_2 30 = .ok (.invokestatic 248, 3) := dk_184 0 248 (dk_at dksJ7_append_2_1 6 rfl rfl)
theorem dJ7_append_2_33 : decode cJ7_append_2 33 = .ok (.pop, 1) := dk_87 (dk_at dksJ7_append_2_1 9 rfl rfl)
theorem dJ7_append_2_34 : decode cJ7_append_2 34 = .ok (.goto 14, 3) := dk_167 0 14 (dk_at dksJ7_append_2_1 10 rfl rfl)
theorem dJ7_append_2_37 : decode cJ7_append_2 37 = .ok (.iload_n 1, 1) := dk_27 (dk_at dksJ7_append_2_1 13 rfl rfl)
theorem dJ7_append_2_38 : decode cJ7_append_2 38 = .ok (.iload_n 2, 1) := dk_28 (dk_at dksJ7_append_2_1 14 rfl rfl)
theorem dJ7_append_2_39 : decode cJ7_append_2 39 = .ok (.iload_n 3, 1) := dk_29 (dk_at dksJ7_append_2_1 15 rfl rfl)
theorem dJ7_append_2_40 : decode cJ7_append_2 40 = .ok (.aload_n 0, 1) := dk_42 (dk_at dksJ7_append_2_1 16 rfl rfl)
theorem dJ7_append_2_41 : decode cJ7_append_2 41 = .ok (.getfield 15, 3) := dk_180 0 15 (dk_at dksJ7_append_2_1 17 rfl rfl)
theorem dJ7_append_2_44 : decode cJ7_append_2 44 = .ok (.invokestatic 251, 3) := dk_184 0 251 (dk_at dksJ7_append_2_1 20 rfl rfl)
theorem dJ7_append_2_47 : decode cJ7_append_2 47 = .ok (.pop, 1) := dk_87 (dk_at dksJ7_append_2_1 23 rfl rfl)
theorem dJ7_append_2_48 : decode cJ7_append_2 48 = .ok (.aload_n 0, 1) := dk_42 (dk_at dksJ7_append_2_2 0 rfl rfl)
theorem dJ7_append_2_49 : decode cJ7_append_2 49 = .ok (.iload_n 3, 1) := dk_29 (dk_at dksJ7_append_2_2 1 rfl rfl)
theorem dJ7_append_2_50 : decode cJ7_append_2 50 = .ok (.putfield 79, 3) := dk_181 0 79 (dk_at dksJ7_append_2_2 2 rfl rfl)
theorem dJ7_append_2_53 : decode cJ7_append_2 53 = .ok (.aload_n 0, 1) := dk_42 (dk_at dksJ7_append_2_2 5 rfl rfl)
theorem dJ7_append_2_54 : decode cJ7_append_2 54 = .ok (.areturn, 1) := dk_176 (dk_at dksJ7_append_2_2 6 rfl rfl)
abbrev cJ7_getValue : ByteArray := prog_35_method_64_code
def yJ7_getValue : MethodName := ⟨RJ7, "getValue", "()[B"⟩
theorem dJ7_getValue_0 : decode cJ7_getValue 0 = .ok (.aload_n 0, 1) := by decide +kernel
theorem dJ7_getValue_1 : decode cJ7_getValue 1 = .ok (.getfield 15, 3) := by decide +kernel
theorem dJ7_getValue_4 : decode cJ7_getValue 4 = .ok (.areturn, 1) := by decide +kernel
abbrev cJ7_length : ByteArray := prog_35_method_6_code
def yJ7_length : MethodName := ⟨RJ7, "length", "()I"⟩
theorem dJ7_length_0 : decode cJ7_length 0 = .ok (.aload_n 0, 1) := by decide +kernel
theorem dJ7_length_1 : decode cJ7_length 1 = .ok (.getfield 79, 3) := by decide +kernel
theorem dJ7_length_4 : decode cJ7_length 4 = .ok (.ireturn, 1) := by decide +kernel
abbrev cJ7_append_3 : ByteArray := prog_35_method_31_code
def yJ7_append_3 : MethodName := ⟨RJ7, "append", "(C)Ljava/lang/AbstractStringBuilder;"⟩
def dkwJ7_append_3_3 : List UInt8 := [181, 0, 79, 27, 184, 0, 197, 42, 176]
abbrev dktJ7_append_3_3 : List UInt8 := dkwJ7_append_3_3 ++ []
def dkwJ7_append_3_2 : List UInt8 := [182, 0, 83, 153, 0, 7, 42, 182, 0, 195, 42, 180, 0, 15, 42, 89, 180, 0, 79, 90, 4, 96]
abbrev dktJ7_append_3_2 : List UInt8 := dkwJ7_append_3_2 ++ dktJ7_append_3_3
def dkwJ7_append_3_1 : List UInt8 := [42, 180, 0, 15, 42, 89, 180, 0, 79, 90, 4, 96, 181, 0, 79, 27, 145, 84, 167, 0, 33, 42]
abbrev dktJ7_append_3_1 : List UInt8 := dkwJ7_append_3_1 ++ dktJ7_append_3_2
def dkwJ7_append_3_0 : List UInt8 := [42, 42, 180, 0, 79, 4, 96, 182, 0, 100, 42, 182, 0, 83, 153, 0, 31, 27, 184, 0, 191, 153, 0, 24]
abbrev dktJ7_append_3_0 : List UInt8 := dkwJ7_append_3_0 ++ dktJ7_append_3_1
theorem dksJ7_append_3_0 : cJ7_append_3.data.toList.drop 0 = dktJ7_append_3_0 := by decide +kernel
theorem dksJ7_append_3_1 : cJ7_append_3.data.toList.drop 24 = dktJ7_append_3_1 := dk_seg dksJ7_append_3_0 24 rfl rfl
theorem dksJ7_append_3_2 : cJ7_append_3.data.toList.drop 46 = dktJ7_append_3_2 := dk_seg dksJ7_append_3_1 22 rfl rfl
theorem dksJ7_append_3_3 : cJ7_append_3.data.toList.drop 68 = dktJ7_append_3_3 := dk_seg dksJ7_append_3_2 22 rfl rfl
theorem dJ7_append_3_0 : decode cJ7_append_3 0 = .ok (.aload_n 0, 1) := dk_42 (dk_at dksJ7_append_3_0 0 rfl rfl)
theorem dJ7_append_3_1 : decode cJ7_append_3 1 = .ok (.aload_n 0, 1) := dk_42 (dk_at dksJ7_append_3_0 1 rfl rfl)
theorem dJ7_append_3_2 : decode cJ7_append_3 2 = .ok (.getfield 79, 3) := dk_180 0 79 (dk_at dksJ7_append_3_0 2 rfl rfl)
theorem dJ7_append_3_5 : decode cJ7_append_3 5 = .ok (.iconst 1, 1) := dk_4 (dk_at dksJ7_append_3_0 5 rfl rfl)
theorem dJ7_append_3_6 : decode cJ7_append_3 6 = .ok (.iadd, 1) := dk_96 (dk_at dksJ7_append_3_0 6 rfl rfl)
theorem dJ7_append_3_7 : decode cJ7_append_3 7 = .ok (.invokevirtual 100, 3) := dk_182 0 100 (dk_at dksJ7_append_3_0 7 rfl rfl)
theorem dJ7_append_3_10 : decode cJ7_append_3 10 = .ok (.aload_n 0, 1) := dk_42 (dk_at dksJ7_append_3_0 10 rfl rfl)
theorem dJ7_append_3_11 : decode cJ7_append_3 11 = .ok (.invokevirtual 83, 3) := dk_182 0 83 (dk_at dksJ7_append_3_0 11 rfl rfl)
theorem dJ7_append_3_14 : decode cJ7_append_3 14 = .ok (.ifCond .eq 31, 3) := dk_153 0 31 (dk_at dksJ7_append_3_0 14 rfl rfl)
theorem dJ7_append_3_17 : decode cJ7_append_3 17 = .ok (.iload_n 1, 1) := dk_27 (dk_at dksJ7_append_3_0 17 rfl rfl)
theorem dJ7_append_3_18 : decode cJ7_append_3 18 = .ok (.invokestatic 191, 3) := dk_184 0 191 (dk_at dksJ7_append_3_0 18 rfl rfl)
theorem dJ7_append_3_21 : decode cJ7_append_3 21 = .ok (.ifCond .eq 24, 3) := dk_153 0 24 (dk_at dksJ7_append_3_0 21 rfl rfl)
theorem dJ7_append_3_24 : decode cJ7_append_3 24 = .ok (.aload_n 0, 1) := dk_42 (dk_at dksJ7_append_3_1 0 rfl rfl)
theorem dJ7_append_3_25 : decode cJ7_append_3 25 = .ok (.getfield 15, 3) := dk_180 0 15 (dk_at dksJ7_append_3_1 1 rfl rfl)
theorem dJ7_append_3_28 : decode cJ7_append_3 28 = .ok (.aload_n 0, 1) := dk_42 (dk_at dksJ7_append_3_1 4 rfl rfl)
theorem dJ7_append_3_29 : decode cJ7_append_3 29 = .ok (.dup, 1) := dk_89 (dk_at dksJ7_append_3_1 5 rfl rfl)
theorem dJ7_append_3_30 : decode cJ7_append_3 30 = .ok (.getfield 79, 3) := dk_180 0 79 (dk_at dksJ7_append_3_1 6 rfl rfl)
theorem dJ7_append_3_33 : decode cJ7_append_3 33 = .ok (.dup_x1, 1) := dk_90 (dk_at dksJ7_append_3_1 9 rfl rfl)
theorem dJ7_append_3_34 : decode cJ7_append_3 34 = .ok (.iconst 1, 1) := dk_4 (dk_at dksJ7_append_3_1 10 rfl rfl)
theorem dJ7_append_3_35 : decode cJ7_append_3 35 = .ok (.iadd, 1) := dk_96 (dk_at dksJ7_append_3_1 11 rfl rfl)
theorem dJ7_append_3_36 : decode cJ7_append_3 36 = .ok (.putfield 79, 3) := dk_181 0 79 (dk_at dksJ7_append_3_1 12 rfl rfl)
theorem dJ7_append_3_39 : decode cJ7_append_3 39 = .ok (.iload_n 1, 1) := dk_27 (dk_at dksJ7_append_3_1 15 rfl rfl)
theorem dJ7_append_3_40 : decode cJ7_append_3 40 = .ok (.i2b, 1) := dk_145 (dk_at dksJ7_append_3_1 16 rfl rfl)
theorem dJ7_append_3_41 : decode cJ7_append_3 41 = .ok (.bastore, 1) := dk_84 (dk_at dksJ7_append_3_1 17 rfl rfl)
theorem dJ7_append_3_42 : decode cJ7_append_3 42 = .ok (.goto 33, 3) := dk_167 0 33 (dk_at dksJ7_append_3_1 18 rfl rfl)
theorem dJ7_append_3_45 : decode cJ7_append_3 45 = .ok (.aload_n 0, 1) := dk_42 (dk_at dksJ7_append_3_1 21 rfl rfl)
theorem dJ7_append_3_46 : decode cJ7_append_3 46 = .ok (.invokevirtual 83, 3) := dk_182 0 83 (dk_at dksJ7_append_3_2 0 rfl rfl)
theorem dJ7_append_3_49 : decode cJ7_append_3 49 = .ok (.ifCond .eq 7, 3) := dk_153 0 7 (dk_at dksJ7_append_3_2 3 rfl rfl)
theorem dJ7_append_3_52 : decode cJ7_append_3 52 = .ok (.aload_n 0, 1) := dk_42 (dk_at dksJ7_append_3_2 6 rfl rfl)
theorem dJ7_append_3_53 : decode cJ7_append_3 53 = .ok (.invokevirtual 195, 3) := dk_182 0 195 (dk_at dksJ7_append_3_2 7 rfl rfl)
theorem dJ7_append_3_56 : decode cJ7_append_3 56 = .ok (.aload_n 0, 1) := dk_42 (dk_at dksJ7_append_3_2 10 rfl rfl)
theorem dJ7_append_3_57 : decode cJ7_append_3 57 = .ok (.getfield 15, 3) := dk_180 0 15 (dk_at dksJ7_append_3_2 11 rfl rfl)
theorem dJ7_append_3_60 : decode cJ7_append_3 60 = .ok (.aload_n 0, 1) := dk_42 (dk_at dksJ7_append_3_2 14 rfl rfl)
theorem dJ7_append_3_61 : decode cJ7_append_3 61 = .ok (.dup, 1) := dk_89 (dk_at dksJ7_append_3_2 15 rfl rfl)
theorem dJ7_append_3_62 : decode cJ7_append_3 62 = .ok (.getfield 79, 3) := dk_180 0 79 (dk_at dksJ7_append_3_2 16 rfl rfl)
theorem dJ7_append_3_65 : decode cJ7_append_3 65 = .ok (.dup_x1, 1) := dk_90 (dk_at dksJ7_append_3_2 19 rfl rfl)
theorem dJ7_append_3_66 : decode cJ7_append_3 66 = .ok (.iconst 1, 1) := dk_4 (dk_at dksJ7_append_3_2 20 rfl rfl)
theorem dJ7_append_3_67 : decode cJ7_append_3 67 = .ok (.iadd, 1) := dk_96 (dk_at dksJ7_append_3_2 21 rfl rfl)
theorem dJ7_append_3_68 : decode cJ7_append_3 68 = .ok (.putfield 79, 3) := dk_181 0 79 (dk_at dksJ7_append_3_3 0 rfl rfl)
theorem dJ7_append_3_71 : decode cJ7_append_3 71 = .ok (.iload_n 1, 1) := dk_27 (dk_at dksJ7_append_3_3 3 rfl rfl)
theorem dJ7_append_3_72 : decode cJ7_append_3 72 = .ok (.invokestatic 197, 3) := dk_184 0 197 (dk_at dksJ7_append_3_3 4 rfl rfl)
theorem dJ7_append_3_75 : decode cJ7_append_3 75 = .ok (.aload_n 0, 1) := dk_42 (dk_at dksJ7_append_3_3 7 rfl rfl)
theorem dJ7_append_3_76 : decode cJ7_append_3 76 = .ok (.areturn, 1) := dk_176 (dk_at dksJ7_append_3_3 8 rfl rfl)
theorem q71 : (Jvm.Cond.initialized "java/lang/AbstractStringBuilder") ∈ lw_all := lw_g (lw_at lw_m1 9 rfl) rfl
theorem q191 : (Jvm.Cond.instanceMethod ({ cls := "java/lang/AbstractStringBuilder", name := "<init>", desc := "(I)V" } : Jvm.MethodName)) ∈ lw_all := lw_g (lw_at lw_m1 129 rfl) rfl
theorem q192 : (Jvm.Cond.code ({ cls := "java/lang/AbstractStringBuilder", name := "<init>", desc := "(I)V" } : Jvm.MethodName) prog_35_method_2_code (2 : Nat) (Option.none : Option Jvm.ClassFile.FieldType)) ∈ lw_all := lw_g (lw_at lw_m1 130 rfl) rfl
theorem q193 : (Jvm.Cond.methodLink "java/lang/AbstractStringBuilder" (3 : Nat) ({ cls := "java/lang/Object", name := "<init>", desc := "()V" } : Jvm.MethodName)) ∈ lw_all := lw_g (lw_at lw_m1 131 rfl) rfl
theorem q194 : (Jvm.Cond.fieldLink "java/lang/AbstractStringBuilder" (18 : Nat) "java/lang/String" "COMPACT_STRINGS" "Z") ∈ lw_all := lw_g (lw_at lw_m1 132 rfl) rfl
theorem q196 : (Jvm.Cond.methodLink "java/lang/AbstractStringBuilder" (26 : Nat) ({ cls := "java/lang/StringUTF16", name := "newBytesFor", desc := "(I)[B" } : Jvm.MethodName)) ∈ lw_all := lw_g (lw_at lw_m1 134 rfl) rfl
theorem q203 : (Jvm.Cond.fieldLink "java/lang/AbstractStringBuilder" (15 : Nat) "java/lang/AbstractStringBuilder" "value" "[B") ∈ lw_all := lw_g (lw_at lw_m1 141 rfl) rfl
theorem q204 : (Jvm.Cond.fieldLink "java/lang/AbstractStringBuilder" (22 : Nat) "java/lang/AbstractStringBuilder" "coder" "B") ∈ lw_all := lw_g (lw_at lw_m1 142 rfl) rfl
theorem q206 : (Jvm.Cond.fieldLink "java/lang/AbstractStringBuilder" (79 : Nat) "java/lang/AbstractStringBuilder" "count" "I") ∈ lw_all := lw_g (lw_at lw_m1 144 rfl) rfl
theorem q208 : (Jvm.Cond.soleField "java/lang/AbstractStringBuilder" "value") ∈ lw_all := lw_g (lw_at lw_m1 146 rfl) rfl
theorem q210 : (Jvm.Cond.soleField "java/lang/AbstractStringBuilder" "coder") ∈ lw_all := lw_g (lw_at lw_m1 148 rfl) rfl
theorem q212 : (Jvm.Cond.soleField "java/lang/AbstractStringBuilder" "maybeLatin1") ∈ lw_all := lw_g (lw_at lw_m1 150 rfl) rfl
theorem q214 : (Jvm.Cond.soleField "java/lang/AbstractStringBuilder" "count") ∈ lw_all := lw_g (lw_at lw_m1 152 rfl) rfl
theorem q223 : (Jvm.Cond.instanceMethod ({ cls := "java/lang/AbstractStringBuilder", name := "append", desc := "(Ljava/lang/String;)Ljava/lang/AbstractStringBuilder;" } : Jvm.MethodName)) ∈ lw_all := lw_g (lw_at lw_m1 161 rfl) rfl
theorem q224 : (Jvm.Cond.code ({ cls := "java/lang/AbstractStringBuilder", name := "append", desc := "(Ljava/lang/String;)Ljava/lang/AbstractStringBuilder;" } : Jvm.MethodName) prog_35_method_22_code (3 : Nat) (Option.some (Jvm.ClassFile.FieldType.object "java/lang/AbstractStringBuilder"))) ∈ lw_all := lw_g (lw_at lw_m1 162 rfl) rfl
theorem q225 : (Jvm.Cond.methodLink "java/lang/AbstractStringBuilder" (204 : Nat) ({ cls := "java/lang/AbstractStringBuilder", name := "appendNull", desc := "()Ljava/lang/AbstractStringBuilder;" } : Jvm.MethodName)) ∈ lw_all := lw_g (lw_at lw_m1 163 rfl) rfl
theorem q226 : (Jvm.Cond.privateMethod ({ cls := "java/lang/AbstractStringBuilder", name := "appendNull", desc := "()Ljava/lang/AbstractStringBuilder;" } : Jvm.MethodName)) ∈ lw_tbl := lw_at lw_m1 164 rfl
theorem q227 : (Jvm.Cond.instanceMethod ({ cls := "java/lang/AbstractStringBuilder", name := "appendNull", desc := "()Ljava/lang/AbstractStringBuilder;" } : Jvm.MethodName)) ∈ lw_all := lw_g (lw_at lw_m1 165 rfl) rfl
theorem q228 : (Jvm.Cond.code ({ cls := "java/lang/AbstractStringBuilder", name := "appendNull", desc := "()Ljava/lang/AbstractStringBuilder;" } : Jvm.MethodName) prog_35_method_26_code (3 : Nat) (Option.some (Jvm.ClassFile.FieldType.object "java/lang/AbstractStringBuilder"))) ∈ lw_all := lw_g (lw_at lw_m1 166 rfl) rfl
theorem q229 : (Jvm.Cond.methodLink "java/lang/AbstractStringBuilder" (100 : Nat) ({ cls := "java/lang/AbstractStringBuilder", name := "ensureCapacityInternal", desc := "(I)V" } : Jvm.MethodName)) ∈ lw_all := lw_g (lw_at lw_m1 167 rfl) rfl
theorem q230 : (Jvm.Cond.privateMethod ({ cls := "java/lang/AbstractStringBuilder", name := "ensureCapacityInternal", desc := "(I)V" } : Jvm.MethodName)) ∈ lw_tbl := lw_at lw_m1 168 rfl
theorem q231 : (Jvm.Cond.instanceMethod ({ cls := "java/lang/AbstractStringBuilder", name := "ensureCapacityInternal", desc := "(I)V" } : Jvm.MethodName)) ∈ lw_all := lw_g (lw_at lw_m1 169 rfl) rfl
theorem q232 : (Jvm.Cond.code ({ cls := "java/lang/AbstractStringBuilder", name := "ensureCapacityInternal", desc := "(I)V" } : Jvm.MethodName) prog_35_method_9_code (3 : Nat) (Option.none : Option Jvm.ClassFile.FieldType)) ∈ lw_all := lw_g (lw_at lw_m1 170 rfl) rfl
theorem q233 : (Jvm.Cond.methodLink "java/lang/AbstractStringBuilder" (104 : Nat) ({ cls := "java/lang/AbstractStringBuilder", name := "newCapacity", desc := "(I)I" } : Jvm.MethodName)) ∈ lw_all := lw_g (lw_at lw_m1 171 rfl) rfl
theorem q234 : (Jvm.Cond.privateMethod ({ cls := "java/lang/AbstractStringBuilder", name := "newCapacity", desc := "(I)I" } : Jvm.MethodName)) ∈ lw_tbl := lw_at lw_m1 172 rfl
theorem q235 : (Jvm.Cond.instanceMethod ({ cls := "java/lang/AbstractStringBuilder", name := "newCapacity", desc := "(I)I" } : Jvm.MethodName)) ∈ lw_all := lw_g (lw_at lw_m1 173 rfl) rfl
theorem q236 : (Jvm.Cond.code ({ cls := "java/lang/AbstractStringBuilder", name := "newCapacity", desc := "(I)I" } : Jvm.MethodName) prog_35_method_10_code (6 : Nat) (Option.some Jvm.ClassFile.FieldType.int)) ∈ lw_all := lw_g (lw_at lw_m1 174 rfl) rfl
theorem q237 : (Jvm.Cond.methodLink "java/lang/AbstractStringBuilder" (114 : Nat) ({ cls := "jdk/internal/util/ArraysSupport", name := "newLength", desc := "(III)I" } : Jvm.MethodName)) ∈ lw_all := lw_g (lw_at lw_m1 175 rfl) rfl
theorem q247 : (Jvm.Cond.constant "java/lang/AbstractStringBuilder" (39 : Nat) (2147483647 : Int32)) ∈ lw_all := lw_g (lw_at lw_m1 185 rfl) rfl
theorem q248 : (Jvm.Cond.methodLink "java/lang/AbstractStringBuilder" (108 : Nat) ({ cls := "java/util/Arrays", name := "copyOf", desc := "([BI)[B" } : Jvm.MethodName)) ∈ lw_all := lw_g (lw_at lw_m1 186 rfl) rfl
theorem q264 : (Jvm.Cond.methodLink "java/lang/AbstractStringBuilder" (83 : Nat) ({ cls := "java/lang/AbstractStringBuilder", name := "isLatin1", desc := "()Z" } : Jvm.MethodName)) ∈ lw_all := lw_g (lw_at lw_m1 202 rfl) rfl
theorem q265 : (Jvm.Cond.instanceMethod ({ cls := "java/lang/AbstractStringBuilder", name := "isLatin1", desc := "()Z" } : Jvm.MethodName)) ∈ lw_all := lw_g (lw_at lw_m1 203 rfl) rfl
theorem q266 : (Jvm.Cond.sameMethod "java/lang/AbstractStringBuilder" "java/lang/AbstractStringBuilder" "isLatin1" "()Z") ∈ lw_all := lw_g (lw_at lw_m1 204 rfl) rfl
theorem q268 : (Jvm.Cond.code ({ cls := "java/lang/AbstractStringBuilder", name := "isLatin1", desc := "()Z" } : Jvm.MethodName) prog_35_method_68_code (1 : Nat) (Option.some Jvm.ClassFile.FieldType.boolean)) ∈ lw_all := lw_g (lw_at lw_m1 206 rfl) rfl
theorem q269 : (Jvm.Cond.methodLink "java/lang/AbstractStringBuilder" (226 : Nat) ({ cls := "java/lang/StringUTF16", name := "putCharsAt", desc := "([BICCCC)I" } : Jvm.MethodName)) ∈ lw_all := lw_g (lw_at lw_m1 207 rfl) rfl
theorem q295 : (Jvm.Cond.methodLink "java/lang/AbstractStringBuilder" (32 : Nat) ({ cls := "java/lang/String", name := "length", desc := "()I" } : Jvm.MethodName)) ∈ lw_all := lw_g (lw_at lw_m1 233 rfl) rfl
theorem q304 : (Jvm.Cond.methodLink "java/lang/AbstractStringBuilder" (208 : Nat) ({ cls := "java/lang/AbstractStringBuilder", name := "putStringAt", desc := "(ILjava/lang/String;)V" } : Jvm.MethodName)) ∈ lw_all := lw_g (lw_at lw_m2 2 rfl) rfl
theorem q305 : (Jvm.Cond.privateMethod ({ cls := "java/lang/AbstractStringBuilder", name := "putStringAt", desc := "(ILjava/lang/String;)V" } : Jvm.MethodName)) ∈ lw_tbl := lw_at lw_m2 3 rfl
theorem q306 : (Jvm.Cond.instanceMethod ({ cls := "java/lang/AbstractStringBuilder", name := "putStringAt", desc := "(ILjava/lang/String;)V" } : Jvm.MethodName)) ∈ lw_all := lw_g (lw_at lw_m2 4 rfl) rfl
theorem q307 : (Jvm.Cond.code ({ cls := "java/lang/AbstractStringBuilder", name := "putStringAt", desc := "(ILjava/lang/String;)V" } : Jvm.MethodName) prog_35_method_73_code (3 : Nat) (Option.none : Option Jvm.ClassFile.FieldType)) ∈ lw_all := lw_g (lw_at lw_m2 5 rfl) rfl
theorem q308 : (Jvm.Cond.methodLink "java/lang/AbstractStringBuilder" (397 : Nat) ({ cls := "java/lang/AbstractStringBuilder", name := "inflateIfNeededFor", desc := "(Ljava/lang/String;)V" } : Jvm.MethodName)) ∈ lw_all := lw_g (lw_at lw_m2 6 rfl) rfl
theorem q309 : (Jvm.Cond.privateMethod ({ cls := "java/lang/AbstractStringBuilder", name := "inflateIfNeededFor", desc := "(Ljava/lang/String;)V" } : Jvm.MethodName)) ∈ lw_tbl := lw_at lw_m2 7 rfl
theorem q310 : (Jvm.Cond.instanceMethod ({ cls := "java/lang/AbstractStringBuilder", name := "inflateIfNeededFor", desc := "(Ljava/lang/String;)V" } : Jvm.MethodName)) ∈ lw_all := lw_g (lw_at lw_m2 8 rfl) rfl
theorem q311 : (Jvm.Cond.code ({ cls := "java/lang/AbstractStringBuilder", name := "inflateIfNeededFor", desc := "(Ljava/lang/String;)V" } : Jvm.MethodName) prog_35_method_71_code (2 : Nat) (Option.none : Option Jvm.ClassFile.FieldType)) ∈ lw_all := lw_g (lw_at lw_m2 9 rfl) rfl
theorem q312 : (Jvm.Cond.methodLink "java/lang/AbstractStringBuilder" (40 : Nat) ({ cls := "java/lang/String", name := "coder", desc := "()B" } : Jvm.MethodName)) ∈ lw_all := lw_g (lw_at lw_m2 10 rfl) rfl
theorem q313 : (Jvm.Cond.methodLink "java/lang/AbstractStringBuilder" (195 : Nat) ({ cls := "java/lang/AbstractStringBuilder", name := "inflate", desc := "()V" } : Jvm.MethodName)) ∈ lw_all := lw_g (lw_at lw_m2 11 rfl) rfl
theorem q314 : (Jvm.Cond.privateMethod ({ cls := "java/lang/AbstractStringBuilder", name := "inflate", desc := "()V" } : Jvm.MethodName)) ∈ lw_tbl := lw_at lw_m2 12 rfl
theorem q315 : (Jvm.Cond.instanceMethod ({ cls := "java/lang/AbstractStringBuilder", name := "inflate", desc := "()V" } : Jvm.MethodName)) ∈ lw_all := lw_g (lw_at lw_m2 13 rfl) rfl
theorem q316 : (Jvm.Cond.code ({ cls := "java/lang/AbstractStringBuilder", name := "inflate", desc := "()V" } : Jvm.MethodName) prog_35_method_11_code (2 : Nat) (Option.none : Option Jvm.ClassFile.FieldType)) ∈ lw_all := lw_g (lw_at lw_m2 14 rfl) rfl
theorem q317 : (Jvm.Cond.methodLink "java/lang/AbstractStringBuilder" (125 : Nat) ({ cls := "java/lang/StringLatin1", name := "inflate", desc := "([BI[BII)V" } : Jvm.MethodName)) ∈ lw_all := lw_g (lw_at lw_m2 15 rfl) rfl
theorem q332 : (Jvm.Cond.methodLink "java/lang/AbstractStringBuilder" (399 : Nat) ({ cls := "java/lang/String", name := "getBytes", desc := "([BIB)V" } : Jvm.MethodName)) ∈ lw_all := lw_g (lw_at lw_m2 30 rfl) rfl
theorem q343 : (Jvm.Cond.instanceMethod ({ cls := "java/lang/AbstractStringBuilder", name := "append", desc := "(I)Ljava/lang/AbstractStringBuilder;" } : Jvm.MethodName)) ∈ lw_all := lw_g (lw_at lw_m2 41 rfl) rfl
theorem q344 : (Jvm.Cond.code ({ cls := "java/lang/AbstractStringBuilder", name := "append", desc := "(I)Ljava/lang/AbstractStringBuilder;" } : Jvm.MethodName) prog_35_method_32_code (4 : Nat) (Option.some (Jvm.ClassFile.FieldType.object "java/lang/AbstractStringBuilder"))) ∈ lw_all := lw_g (lw_at lw_m2 42 rfl) rfl
theorem q345 : (Jvm.Cond.methodLink "java/lang/AbstractStringBuilder" (245 : Nat) ({ cls := "java/lang/Integer", name := "stringSize", desc := "(I)I" } : Jvm.MethodName)) ∈ lw_all := lw_g (lw_at lw_m2 43 rfl) rfl
theorem q348 : (Jvm.Cond.methodLink "java/lang/AbstractStringBuilder" (248 : Nat) ({ cls := "java/lang/Integer", name := "getChars", desc := "(II[B)I" } : Jvm.MethodName)) ∈ lw_all := lw_g (lw_at lw_m2 46 rfl) rfl
theorem q355 : (Jvm.Cond.methodLink "java/lang/AbstractStringBuilder" (251 : Nat) ({ cls := "java/lang/StringUTF16", name := "getChars", desc := "(III[B)I" } : Jvm.MethodName)) ∈ lw_all := lw_g (lw_at lw_m2 53 rfl) rfl
theorem q377 : (Jvm.Cond.instanceMethod ({ cls := "java/lang/AbstractStringBuilder", name := "getValue", desc := "()[B" } : Jvm.MethodName)) ∈ lw_all := lw_g (lw_at lw_m2 75 rfl) rfl
theorem q378 : (Jvm.Cond.sameMethod "java/lang/AbstractStringBuilder" "java/lang/AbstractStringBuilder" "getValue" "()[B") ∈ lw_all := lw_g (lw_at lw_m2 76 rfl) rfl
theorem q380 : (Jvm.Cond.code ({ cls := "java/lang/AbstractStringBuilder", name := "getValue", desc := "()[B" } : Jvm.MethodName) prog_35_method_64_code (1 : Nat) (Option.some (Jvm.ClassFile.FieldType.array Jvm.ClassFile.FieldType.byte))) ∈ lw_all := lw_g (lw_at lw_m2 78 rfl) rfl
theorem q382 : (Jvm.Cond.instanceMethod ({ cls := "java/lang/AbstractStringBuilder", name := "length", desc := "()I" } : Jvm.MethodName)) ∈ lw_all := lw_g (lw_at lw_m2 80 rfl) rfl
theorem q383 : (Jvm.Cond.sameMethod "java/lang/AbstractStringBuilder" "java/lang/AbstractStringBuilder" "length" "()I") ∈ lw_all := lw_g (lw_at lw_m2 81 rfl) rfl
theorem q388 : (Jvm.Cond.code ({ cls := "java/lang/AbstractStringBuilder", name := "length", desc := "()I" } : Jvm.MethodName) prog_35_method_6_code (1 : Nat) (Option.some Jvm.ClassFile.FieldType.int)) ∈ lw_all := lw_g (lw_at lw_m2 86 rfl) rfl
theorem q691 : (Jvm.Cond.instanceMethod ({ cls := "java/lang/AbstractStringBuilder", name := "append", desc := "(C)Ljava/lang/AbstractStringBuilder;" } : Jvm.MethodName)) ∈ lw_all := lw_g (lw_at lw_m3 149 rfl) rfl
theorem q692 : (Jvm.Cond.code ({ cls := "java/lang/AbstractStringBuilder", name := "append", desc := "(C)Ljava/lang/AbstractStringBuilder;" } : Jvm.MethodName) prog_35_method_31_code (2 : Nat) (Option.some (Jvm.ClassFile.FieldType.object "java/lang/AbstractStringBuilder"))) ∈ lw_all := lw_g (lw_at lw_m3 150 rfl) rfl
theorem q693 : (Jvm.Cond.methodLink "java/lang/AbstractStringBuilder" (191 : Nat) ({ cls := "java/lang/StringLatin1", name := "canEncode", desc := "(C)Z" } : Jvm.MethodName)) ∈ lw_all := lw_g (lw_at lw_m3 151 rfl) rfl
theorem q696 : (Jvm.Cond.methodLink "java/lang/AbstractStringBuilder" (197 : Nat) ({ cls := "java/lang/StringUTF16", name := "putCharSB", desc := "([BII)V" } : Jvm.MethodName)) ∈ lw_all := lw_g (lw_at lw_m3 154 rfl) rfl
theorem q2234 : (Jvm.Cond.sameMethod "java/lang/AbstractStringBuilder" "java/lang/AbstractStringBuilder" "append" "(Ljava/lang/String;)Ljava/lang/AbstractStringBuilder;") ∈ lw_all := lw_g (lw_at lw_m10 12 rfl) rfl
theorem q2235 : (Jvm.Cond.sameMethod "java/lang/AbstractStringBuilder" "java/lang/AbstractStringBuilder" "appendNull" "()Ljava/lang/AbstractStringBuilder;") ∈ lw_all := lw_g (lw_at lw_m10 13 rfl) rfl
theorem q2236 : (Jvm.Cond.sameMethod "java/lang/AbstractStringBuilder" "java/lang/AbstractStringBuilder" "ensureCapacityInternal" "(I)V") ∈ lw_all := lw_g (lw_at lw_m10 14 rfl) rfl
theorem q2237 : (Jvm.Cond.sameMethod "java/lang/AbstractStringBuilder" "java/lang/AbstractStringBuilder" "newCapacity" "(I)I") ∈ lw_all := lw_g (lw_at lw_m10 15 rfl) rfl
theorem q2238 : (Jvm.Cond.sameMethod "java/lang/AbstractStringBuilder" "java/lang/AbstractStringBuilder" "putStringAt" "(ILjava/lang/String;)V") ∈ lw_all := lw_g (lw_at lw_m10 16 rfl) rfl
theorem q2239 : (Jvm.Cond.sameMethod "java/lang/AbstractStringBuilder" "java/lang/AbstractStringBuilder" "inflateIfNeededFor" "(Ljava/lang/String;)V") ∈ lw_all := lw_g (lw_at lw_m10 17 rfl) rfl
theorem q2240 : (Jvm.Cond.sameMethod "java/lang/AbstractStringBuilder" "java/lang/AbstractStringBuilder" "inflate" "()V") ∈ lw_all := lw_g (lw_at lw_m10 18 rfl) rfl
theorem q2241 : (Jvm.Cond.sameMethod "java/lang/AbstractStringBuilder" "java/lang/AbstractStringBuilder" "append" "(I)Ljava/lang/AbstractStringBuilder;") ∈ lw_all := lw_g (lw_at lw_m10 19 rfl) rfl
theorem q2242 : (Jvm.Cond.sameMethod "java/lang/AbstractStringBuilder" "java/lang/AbstractStringBuilder" "append" "(C)Ljava/lang/AbstractStringBuilder;") ∈ lw_all := lw_g (lw_at lw_m10 20 rfl) rfl
/-! java/lang/StringBuilder -/
set_option maxRecDepth 100000
def RJ8 : String := "java/lang/StringBuilder"
def TJ8 : u_T := fun k => match k with
  | 0 => ("java/lang/AbstractStringBuilder", "value", "[B", false)
  | 1 => ("java/lang/AbstractStringBuilder", "coder", "B", false)
  | 2 => ("java/lang/AbstractStringBuilder", "maybeLatin1", "Z", false)
  | _ => ("java/lang/AbstractStringBuilder", "count", "I", false)
def tyJ8 : Nat → FieldType := fun k => match k with
  | 0 => .array .byte
  | 1 => .byte
  | 2 => .boolean
  | _ => .int
abbrev wsJ80 : List Cond := u_ws RJ8 TJ8 4
theorem nmJ8 : ∀ a, a < 4 → ∀ b, b < 4 → a ≠ b → (TJ8 a).2.1 ≠ (TJ8 b).2.1 := by decide +kernel
theorem tyJ8_ok : ∀ k, k < 4 → parseFieldDescriptor (TJ8 k).2.2.1 = some (tyJ8 k) := by decide +kernel
abbrev cJ8_init : ByteArray := prog_52_method_1_code
def yJ8_init : MethodName := ⟨RJ8, "<init>", "()V"⟩
def dkwJ8_init_0 : List UInt8 := [42, 16, 16, 183, 0, 1, 177]
abbrev dktJ8_init_0 : List UInt8 := dkwJ8_init_0 ++ []
theorem dksJ8_init_0 : cJ8_init.data.toList.drop 0 = dktJ8_init_0 := by decide +kernel
theorem dJ8_init_0 : decode cJ8_init 0 = .ok (.aload_n 0, 1) := dk_42 (dk_at dksJ8_init_0 0 rfl rfl)
theorem dJ8_init_1 : decode cJ8_init 1 = .ok (.bipush 16, 2) := dk_16 16 (dk_at dksJ8_init_0 1 rfl rfl)
theorem dJ8_init_3 : decode cJ8_init 3 = .ok (.invokespecial 1, 3) := dk_183 0 1 (dk_at dksJ8_init_0 3 rfl rfl)
theorem dJ8_init_6 : decode cJ8_init 6 = .ok (.return_, 1) := dk_177 (dk_at dksJ8_init_0 6 rfl rfl)
abbrev cJ8_append : ByteArray := prog_52_method_7_code
def yJ8_append : MethodName := ⟨RJ8, "append", "(Ljava/lang/String;)Ljava/lang/StringBuilder;"⟩
def dkwJ8_append_0 : List UInt8 := [42, 43, 183, 0, 29, 87, 42, 176]
abbrev dktJ8_append_0 : List UInt8 := dkwJ8_append_0 ++ []
theorem dksJ8_append_0 : cJ8_append.data.toList.drop 0 = dktJ8_append_0 := by decide +kernel
theorem dJ8_append_0 : decode cJ8_append 0 = .ok (.aload_n 0, 1) := dk_42 (dk_at dksJ8_append_0 0 rfl rfl)
theorem dJ8_append_1 : decode cJ8_append 1 = .ok (.aload_n 1, 1) := dk_43 (dk_at dksJ8_append_0 1 rfl rfl)
theorem dJ8_append_2 : decode cJ8_append 2 = .ok (.invokespecial 29, 3) := dk_183 0 29 (dk_at dksJ8_append_0 2 rfl rfl)
theorem dJ8_append_5 : decode cJ8_append 5 = .ok (.pop, 1) := dk_87 (dk_at dksJ8_append_0 5 rfl rfl)
theorem dJ8_append_6 : decode cJ8_append 6 = .ok (.aload_n 0, 1) := dk_42 (dk_at dksJ8_append_0 6 rfl rfl)
theorem dJ8_append_7 : decode cJ8_append 7 = .ok (.areturn, 1) := dk_176 (dk_at dksJ8_append_0 7 rfl rfl)
abbrev cJ8_append_2 : ByteArray := prog_52_method_15_code
def yJ8_append_2 : MethodName := ⟨RJ8, "append", "(I)Ljava/lang/StringBuilder;"⟩
def dkwJ8_append_2_0 : List UInt8 := [42, 27, 183, 0, 53, 87, 42, 176]
abbrev dktJ8_append_2_0 : List UInt8 := dkwJ8_append_2_0 ++ []
theorem dksJ8_append_2_0 : cJ8_append_2.data.toList.drop 0 = dktJ8_append_2_0 := by decide +kernel
theorem dJ8_append_2_0 : decode cJ8_append_2 0 = .ok (.aload_n 0, 1) := dk_42 (dk_at dksJ8_append_2_0 0 rfl rfl)
theorem dJ8_append_2_1 : decode cJ8_append_2 1 = .ok (.iload_n 1, 1) := dk_27 (dk_at dksJ8_append_2_0 1 rfl rfl)
theorem dJ8_append_2_2 : decode cJ8_append_2 2 = .ok (.invokespecial 53, 3) := dk_183 0 53 (dk_at dksJ8_append_2_0 2 rfl rfl)
theorem dJ8_append_2_5 : decode cJ8_append_2 5 = .ok (.pop, 1) := dk_87 (dk_at dksJ8_append_2_0 5 rfl rfl)
theorem dJ8_append_2_6 : decode cJ8_append_2 6 = .ok (.aload_n 0, 1) := dk_42 (dk_at dksJ8_append_2_0 6 rfl rfl)
theorem dJ8_append_2_7 : decode cJ8_append_2 7 = .ok (.areturn, 1) := dk_176 (dk_at dksJ8_append_2_0 7 rfl rfl)
abbrev cJ8_toString : ByteArray := prog_52_method_42_code
def yJ8_toString : MethodName := ⟨RJ8, "toString", "()Ljava/lang/String;"⟩
def dkwJ8_toString_0 : List UInt8 := [187, 0, 18, 89, 42, 183, 0, 137, 176]
abbrev dktJ8_toString_0 : List UInt8 := dkwJ8_toString_0 ++ []
theorem dksJ8_toString_0 : cJ8_toString.data.toList.drop 0 = dktJ8_toString_0 := by decide +kernel
theorem dJ8_toString_0 : decode cJ8_toString 0 = .ok (.new 18, 3) := dk_187 0 18 (dk_at dksJ8_toString_0 0 rfl rfl)
theorem dJ8_toString_3 : decode cJ8_toString 3 = .ok (.dup, 1) := dk_89 (dk_at dksJ8_toString_0 3 rfl rfl)
theorem dJ8_toString_4 : decode cJ8_toString 4 = .ok (.aload_n 0, 1) := dk_42 (dk_at dksJ8_toString_0 4 rfl rfl)
theorem dJ8_toString_5 : decode cJ8_toString 5 = .ok (.invokespecial 137, 3) := dk_183 0 137 (dk_at dksJ8_toString_0 5 rfl rfl)
theorem dJ8_toString_8 : decode cJ8_toString 8 = .ok (.areturn, 1) := dk_176 (dk_at dksJ8_toString_0 8 rfl rfl)
abbrev cJ8_length : ByteArray := prog_52_method_93_code
def yJ8_length : MethodName := ⟨RJ8, "length", "()I"⟩
theorem dJ8_length_0 : decode cJ8_length 0 = .ok (.aload_n 0, 1) := by decide +kernel
theorem dJ8_length_1 : decode cJ8_length 1 = .ok (.invokespecial 343, 3) := by decide +kernel
theorem dJ8_length_4 : decode cJ8_length 4 = .ok (.ireturn, 1) := by decide +kernel
abbrev cJ8_append_3 : ByteArray := prog_52_method_14_code
def yJ8_append_3 : MethodName := ⟨RJ8, "append", "(C)Ljava/lang/StringBuilder;"⟩
def dkwJ8_append_3_0 : List UInt8 := [42, 27, 183, 0, 50, 87, 42, 176]
abbrev dktJ8_append_3_0 : List UInt8 := dkwJ8_append_3_0 ++ []
theorem dksJ8_append_3_0 : cJ8_append_3.data.toList.drop 0 = dktJ8_append_3_0 := by decide +kernel
theorem dJ8_append_3_0 : decode cJ8_append_3 0 = .ok (.aload_n 0, 1) := dk_42 (dk_at dksJ8_append_3_0 0 rfl rfl)
theorem dJ8_append_3_1 : decode cJ8_append_3 1 = .ok (.iload_n 1, 1) := dk_27 (dk_at dksJ8_append_3_0 1 rfl rfl)
theorem dJ8_append_3_2 : decode cJ8_append_3 2 = .ok (.invokespecial 50, 3) := dk_183 0 50 (dk_at dksJ8_append_3_0 2 rfl rfl)
theorem dJ8_append_3_5 : decode cJ8_append_3 5 = .ok (.pop, 1) := dk_87 (dk_at dksJ8_append_3_0 5 rfl rfl)
theorem dJ8_append_3_6 : decode cJ8_append_3 6 = .ok (.aload_n 0, 1) := dk_42 (dk_at dksJ8_append_3_0 6 rfl rfl)
theorem dJ8_append_3_7 : decode cJ8_append_3 7 = .ok (.areturn, 1) := dk_176 (dk_at dksJ8_append_3_0 7 rfl rfl)
theorem q72 : (Jvm.Cond.initialized "java/lang/StringBuilder") ∈ lw_all := lw_g (lw_at lw_m1 10 rfl) rfl
theorem q186 : (Jvm.Cond.instantiable "java/lang/StringBuilder" (4 : Nat)) ∈ lw_all := lw_g (lw_at lw_m1 124 rfl) rfl
theorem q188 : (Jvm.Cond.instanceMethod ({ cls := "java/lang/StringBuilder", name := "<init>", desc := "()V" } : Jvm.MethodName)) ∈ lw_all := lw_g (lw_at lw_m1 126 rfl) rfl
theorem q189 : (Jvm.Cond.code ({ cls := "java/lang/StringBuilder", name := "<init>", desc := "()V" } : Jvm.MethodName) prog_52_method_1_code (1 : Nat) (Option.none : Option Jvm.ClassFile.FieldType)) ∈ lw_all := lw_g (lw_at lw_m1 127 rfl) rfl
theorem q190 : (Jvm.Cond.methodLink "java/lang/StringBuilder" (1 : Nat) ({ cls := "java/lang/AbstractStringBuilder", name := "<init>", desc := "(I)V" } : Jvm.MethodName)) ∈ lw_all := lw_g (lw_at lw_m1 128 rfl) rfl
theorem q207 : (Jvm.Cond.lays "java/lang/StringBuilder" "java/lang/AbstractStringBuilder" "value" "[B") ∈ lw_all := lw_g (lw_at lw_m1 145 rfl) rfl
theorem q209 : (Jvm.Cond.lays "java/lang/StringBuilder" "java/lang/AbstractStringBuilder" "coder" "B") ∈ lw_all := lw_g (lw_at lw_m1 147 rfl) rfl
theorem q211 : (Jvm.Cond.lays "java/lang/StringBuilder" "java/lang/AbstractStringBuilder" "maybeLatin1" "Z") ∈ lw_all := lw_g (lw_at lw_m1 149 rfl) rfl
theorem q213 : (Jvm.Cond.lays "java/lang/StringBuilder" "java/lang/AbstractStringBuilder" "count" "I") ∈ lw_all := lw_g (lw_at lw_m1 151 rfl) rfl
theorem q215 : (Jvm.Cond.superclass "java/lang/StringBuilder" "java/lang/AbstractStringBuilder") ∈ lw_all := lw_g (lw_at lw_m1 153 rfl) rfl
theorem q219 : (Jvm.Cond.instanceMethod ({ cls := "java/lang/StringBuilder", name := "append", desc := "(Ljava/lang/String;)Ljava/lang/StringBuilder;" } : Jvm.MethodName)) ∈ lw_all := lw_g (lw_at lw_m1 157 rfl) rfl
theorem q220 : (Jvm.Cond.selects "java/lang/StringBuilder" ({ cls := "java/lang/StringBuilder", name := "append", desc := "(Ljava/lang/String;)Ljava/lang/StringBuilder;" } : Jvm.MethodName) ({ cls := "java/lang/StringBuilder", name := "append", desc := "(Ljava/lang/String;)Ljava/lang/StringBuilder;" } : Jvm.MethodName)) ∈ lw_all := lw_g (lw_at lw_m1 158 rfl) rfl
theorem q221 : (Jvm.Cond.code ({ cls := "java/lang/StringBuilder", name := "append", desc := "(Ljava/lang/String;)Ljava/lang/StringBuilder;" } : Jvm.MethodName) prog_52_method_7_code (2 : Nat) (Option.some (Jvm.ClassFile.FieldType.object "java/lang/StringBuilder"))) ∈ lw_all := lw_g (lw_at lw_m1 159 rfl) rfl
theorem q222 : (Jvm.Cond.methodLink "java/lang/StringBuilder" (29 : Nat) ({ cls := "java/lang/AbstractStringBuilder", name := "append", desc := "(Ljava/lang/String;)Ljava/lang/AbstractStringBuilder;" } : Jvm.MethodName)) ∈ lw_all := lw_g (lw_at lw_m1 160 rfl) rfl
theorem q267 : (Jvm.Cond.selects "java/lang/StringBuilder" ({ cls := "java/lang/AbstractStringBuilder", name := "isLatin1", desc := "()Z" } : Jvm.MethodName) ({ cls := "java/lang/AbstractStringBuilder", name := "isLatin1", desc := "()Z" } : Jvm.MethodName)) ∈ lw_all := lw_g (lw_at lw_m1 205 rfl) rfl
theorem q339 : (Jvm.Cond.instanceMethod ({ cls := "java/lang/StringBuilder", name := "append", desc := "(I)Ljava/lang/StringBuilder;" } : Jvm.MethodName)) ∈ lw_all := lw_g (lw_at lw_m2 37 rfl) rfl
theorem q340 : (Jvm.Cond.selects "java/lang/StringBuilder" ({ cls := "java/lang/StringBuilder", name := "append", desc := "(I)Ljava/lang/StringBuilder;" } : Jvm.MethodName) ({ cls := "java/lang/StringBuilder", name := "append", desc := "(I)Ljava/lang/StringBuilder;" } : Jvm.MethodName)) ∈ lw_all := lw_g (lw_at lw_m2 38 rfl) rfl
theorem q341 : (Jvm.Cond.code ({ cls := "java/lang/StringBuilder", name := "append", desc := "(I)Ljava/lang/StringBuilder;" } : Jvm.MethodName) prog_52_method_15_code (2 : Nat) (Option.some (Jvm.ClassFile.FieldType.object "java/lang/StringBuilder"))) ∈ lw_all := lw_g (lw_at lw_m2 39 rfl) rfl
theorem q342 : (Jvm.Cond.methodLink "java/lang/StringBuilder" (53 : Nat) ({ cls := "java/lang/AbstractStringBuilder", name := "append", desc := "(I)Ljava/lang/AbstractStringBuilder;" } : Jvm.MethodName)) ∈ lw_all := lw_g (lw_at lw_m2 40 rfl) rfl
theorem q364 : (Jvm.Cond.instanceMethod ({ cls := "java/lang/StringBuilder", name := "toString", desc := "()Ljava/lang/String;" } : Jvm.MethodName)) ∈ lw_all := lw_g (lw_at lw_m2 62 rfl) rfl
theorem q365 : (Jvm.Cond.selects "java/lang/StringBuilder" ({ cls := "java/lang/StringBuilder", name := "toString", desc := "()Ljava/lang/String;" } : Jvm.MethodName) ({ cls := "java/lang/StringBuilder", name := "toString", desc := "()Ljava/lang/String;" } : Jvm.MethodName)) ∈ lw_all := lw_g (lw_at lw_m2 63 rfl) rfl
theorem q366 : (Jvm.Cond.code ({ cls := "java/lang/StringBuilder", name := "toString", desc := "()Ljava/lang/String;" } : Jvm.MethodName) prog_52_method_42_code (1 : Nat) (Option.some (Jvm.ClassFile.FieldType.object "java/lang/String"))) ∈ lw_all := lw_g (lw_at lw_m2 64 rfl) rfl
theorem q367 : (Jvm.Cond.classLink "java/lang/StringBuilder" (18 : Nat) "java/lang/String") ∈ lw_all := lw_g (lw_at lw_m2 65 rfl) rfl
theorem q369 : (Jvm.Cond.methodLink "java/lang/StringBuilder" (137 : Nat) ({ cls := "java/lang/String", name := "<init>", desc := "(Ljava/lang/StringBuilder;)V" } : Jvm.MethodName)) ∈ lw_all := lw_g (lw_at lw_m2 67 rfl) rfl
theorem q379 : (Jvm.Cond.selects "java/lang/StringBuilder" ({ cls := "java/lang/AbstractStringBuilder", name := "getValue", desc := "()[B" } : Jvm.MethodName) ({ cls := "java/lang/AbstractStringBuilder", name := "getValue", desc := "()[B" } : Jvm.MethodName)) ∈ lw_all := lw_g (lw_at lw_m2 77 rfl) rfl
theorem q384 : (Jvm.Cond.selects "java/lang/StringBuilder" ({ cls := "java/lang/AbstractStringBuilder", name := "length", desc := "()I" } : Jvm.MethodName) ({ cls := "java/lang/StringBuilder", name := "length", desc := "()I" } : Jvm.MethodName)) ∈ lw_all := lw_g (lw_at lw_m2 82 rfl) rfl
theorem q385 : (Jvm.Cond.instanceMethod ({ cls := "java/lang/StringBuilder", name := "length", desc := "()I" } : Jvm.MethodName)) ∈ lw_all := lw_g (lw_at lw_m2 83 rfl) rfl
theorem q386 : (Jvm.Cond.code ({ cls := "java/lang/StringBuilder", name := "length", desc := "()I" } : Jvm.MethodName) prog_52_method_93_code (1 : Nat) (Option.some Jvm.ClassFile.FieldType.int)) ∈ lw_all := lw_g (lw_at lw_m2 84 rfl) rfl
theorem q387 : (Jvm.Cond.methodLink "java/lang/StringBuilder" (343 : Nat) ({ cls := "java/lang/AbstractStringBuilder", name := "length", desc := "()I" } : Jvm.MethodName)) ∈ lw_all := lw_g (lw_at lw_m2 85 rfl) rfl
theorem q687 : (Jvm.Cond.instanceMethod ({ cls := "java/lang/StringBuilder", name := "append", desc := "(C)Ljava/lang/StringBuilder;" } : Jvm.MethodName)) ∈ lw_all := lw_g (lw_at lw_m3 145 rfl) rfl
theorem q688 : (Jvm.Cond.selects "java/lang/StringBuilder" ({ cls := "java/lang/StringBuilder", name := "append", desc := "(C)Ljava/lang/StringBuilder;" } : Jvm.MethodName) ({ cls := "java/lang/StringBuilder", name := "append", desc := "(C)Ljava/lang/StringBuilder;" } : Jvm.MethodName)) ∈ lw_all := lw_g (lw_at lw_m3 146 rfl) rfl
theorem q689 : (Jvm.Cond.code ({ cls := "java/lang/StringBuilder", name := "append", desc := "(C)Ljava/lang/StringBuilder;" } : Jvm.MethodName) prog_52_method_14_code (2 : Nat) (Option.some (Jvm.ClassFile.FieldType.object "java/lang/StringBuilder"))) ∈ lw_all := lw_g (lw_at lw_m3 147 rfl) rfl
theorem q690 : (Jvm.Cond.methodLink "java/lang/StringBuilder" (50 : Nat) ({ cls := "java/lang/AbstractStringBuilder", name := "append", desc := "(C)Ljava/lang/AbstractStringBuilder;" } : Jvm.MethodName)) ∈ lw_all := lw_g (lw_at lw_m3 148 rfl) rfl
theorem q1182 : (Jvm.Cond.selects "java/lang/StringBuilder" ({ cls := "java/lang/Object", name := "getClass", desc := "()Ljava/lang/Class;" } : Jvm.MethodName) ({ cls := "java/lang/Object", name := "getClass", desc := "()Ljava/lang/Class;" } : Jvm.MethodName)) ∈ lw_all := lw_g (lw_at lw_m5 160 rfl) rfl
theorem q2256 : (Jvm.Cond.castable "java/lang/StringBuilder" "java/lang/Object") ∈ lw_tbl := lw_at lw_m10 34 rfl
theorem in_J8 : ∀ w ∈ wsJ80, w ∈ lw_all := lw_in wsJ80 [207, 209, 211, 213] (by decide +kernel) (by decide +kernel)
/-! java/lang/String -/
set_option maxRecDepth 100000
def RJ9 : String := "java/lang/String"
def TJ9 : u_T := fun k => match k with
  | 0 => ("java/lang/String", "value", "[B", true)
  | 1 => ("java/lang/String", "coder", "B", true)
  | 2 => ("java/lang/String", "hash", "I", false)
  | _ => ("java/lang/String", "hashIsZero", "Z", false)
def tyJ9 : Nat → FieldType := fun k => match k with
  | 0 => .array .byte
  | 1 => .byte
  | 2 => .int
  | _ => .boolean
abbrev wsJ90 : List Cond := u_ws RJ9 TJ9 4
theorem nmJ9 : ∀ a, a < 4 → ∀ b, b < 4 → a ≠ b → (TJ9 a).2.1 ≠ (TJ9 b).2.1 := by decide +kernel
theorem tyJ9_ok : ∀ k, k < 4 → parseFieldDescriptor (TJ9 k).2.2.1 = some (tyJ9 k) := by decide +kernel
abbrev cJ9_checkBoundsBeginEnd : ByteArray := prog_51_method_158_code
def yJ9_checkBoundsBeginEnd : MethodName := ⟨RJ9, "checkBoundsBeginEnd", "(III)V"⟩
def dkwJ9_checkBoundsBeginEnd_0 : List UInt8 := [26, 27, 28, 178, 4, 29, 184, 4, 38, 87, 177]
abbrev dktJ9_checkBoundsBeginEnd_0 : List UInt8 := dkwJ9_checkBoundsBeginEnd_0 ++ []
theorem dksJ9_checkBoundsBeginEnd_0 : cJ9_checkBoundsBeginEnd.data.toList.drop 0 = dktJ9_checkBoundsBeginEnd_0 := by decide +kernel
theorem dJ9_checkBoundsBeginEnd_0 : decode cJ9_checkBoundsBeginEnd 0 = .ok (.iload_n 0, 1) := dk_26 (dk_at dksJ9_checkBoundsBeginEnd_0 0 rfl rfl)
theorem dJ9_checkBoundsBeginEnd_1 : decode cJ9_checkBoundsBeginEnd 1 = .ok (.iload_n 1, 1) := dk_27 (dk_at dksJ9_checkBoundsBeginEnd_0 1 rfl rfl)
theorem dJ9_checkBoundsBeginEnd_2 : decode cJ9_checkBoundsBeginEnd 2 = .ok (.iload_n 2, 1) := dk_28 (dk_at dksJ9_checkBoundsBeginEnd_0 2 rfl rfl)
theorem dJ9_checkBoundsBeginEnd_3 : decode cJ9_checkBoundsBeginEnd 3 = .ok (.getstatic 1053, 3) := dk_178 4 29 (dk_at dksJ9_checkBoundsBeginEnd_0 3 rfl rfl)
theorem dJ9_checkBoundsBeginEnd_6 : decode cJ9_checkBoundsBeginEnd 6 = .ok (.invokestatic 1062, 3) := dk_184 4 38 (dk_at dksJ9_checkBoundsBeginEnd_0 6 rfl rfl)
theorem dJ9_checkBoundsBeginEnd_9 : decode cJ9_checkBoundsBeginEnd 9 = .ok (.pop, 1) := dk_87 (dk_at dksJ9_checkBoundsBeginEnd_0 9 rfl rfl)
theorem dJ9_checkBoundsBeginEnd_10 : decode cJ9_checkBoundsBeginEnd 10 = .ok (.return_, 1) := dk_177 (dk_at dksJ9_checkBoundsBeginEnd_0 10 rfl rfl)
abbrev cJ9_length : ByteArray := prog_51_method_54_code
def yJ9_length : MethodName := ⟨RJ9, "length", "()I"⟩
def dkwJ9_length_0 : List UInt8 := [42, 180, 0, 9, 190, 42, 182, 1, 79, 122, 172]
abbrev dktJ9_length_0 : List UInt8 := dkwJ9_length_0 ++ []
theorem dksJ9_length_0 : cJ9_length.data.toList.drop 0 = dktJ9_length_0 := by decide +kernel
theorem dJ9_length_0 : decode cJ9_length 0 = .ok (.aload_n 0, 1) := dk_42 (dk_at dksJ9_length_0 0 rfl rfl)
theorem dJ9_length_1 : decode cJ9_length 1 = .ok (.getfield 9, 3) := dk_180 0 9 (dk_at dksJ9_length_0 1 rfl rfl)
theorem dJ9_length_4 : decode cJ9_length 4 = .ok (.arraylength, 1) := dk_190 (dk_at dksJ9_length_0 4 rfl rfl)
theorem dJ9_length_5 : decode cJ9_length 5 = .ok (.aload_n 0, 1) := dk_42 (dk_at dksJ9_length_0 5 rfl rfl)
theorem dJ9_length_6 : decode cJ9_length 6 = .ok (.invokevirtual 335, 3) := dk_182 1 79 (dk_at dksJ9_length_0 6 rfl rfl)
theorem dJ9_length_9 : decode cJ9_length 9 = .ok (.ishr, 1) := dk_122 (dk_at dksJ9_length_0 9 rfl rfl)
theorem dJ9_length_10 : decode cJ9_length 10 = .ok (.ireturn, 1) := dk_172 (dk_at dksJ9_length_0 10 rfl rfl)
abbrev cJ9_coder : ByteArray := prog_51_method_152_code
def yJ9_coder : MethodName := ⟨RJ9, "coder", "()B"⟩
def dkwJ9_coder_0 : List UInt8 := [178, 0, 38, 153, 0, 10, 42, 180, 0, 15, 167, 0, 4, 4, 172]
abbrev dktJ9_coder_0 : List UInt8 := dkwJ9_coder_0 ++ []
theorem dksJ9_coder_0 : cJ9_coder.data.toList.drop 0 = dktJ9_coder_0 := by decide +kernel
theorem dJ9_coder_0 : decode cJ9_coder 0 = .ok (.getstatic 38, 3) := dk_178 0 38 (dk_at dksJ9_coder_0 0 rfl rfl)
theorem dJ9_coder_3 : decode cJ9_coder 3 = .ok (.ifCond .eq 10, 3) := dk_153 0 10 (dk_at dksJ9_coder_0 3 rfl rfl)
theorem dJ9_coder_6 : decode cJ9_coder 6 = .ok (.aload_n 0, 1) := dk_42 (dk_at dksJ9_coder_0 6 rfl rfl)
theorem dJ9_coder_7 : decode cJ9_coder 7 = .ok (.getfield 15, 3) := dk_180 0 15 (dk_at dksJ9_coder_0 7 rfl rfl)
theorem dJ9_coder_10 : decode cJ9_coder 10 = .ok (.goto 4, 3) := dk_167 0 4 (dk_at dksJ9_coder_0 10 rfl rfl)
theorem dJ9_coder_13 : decode cJ9_coder 13 = .ok (.iconst 1, 1) := dk_4 (dk_at dksJ9_coder_0 13 rfl rfl)
theorem dJ9_coder_14 : decode cJ9_coder 14 = .ok (.ireturn, 1) := dk_172 (dk_at dksJ9_coder_0 14 rfl rfl)
abbrev cJ9_checkBoundsOffCount : ByteArray := prog_51_method_157_code
def yJ9_checkBoundsOffCount : MethodName := ⟨RJ9, "checkBoundsOffCount", "(III)I"⟩
def dkwJ9_checkBoundsOffCount_0 : List UInt8 := [26, 27, 28, 178, 4, 29, 184, 4, 41, 172]
abbrev dktJ9_checkBoundsOffCount_0 : List UInt8 := dkwJ9_checkBoundsOffCount_0 ++ []
theorem dksJ9_checkBoundsOffCount_0 : cJ9_checkBoundsOffCount.data.toList.drop 0 = dktJ9_checkBoundsOffCount_0 := by decide +kernel
theorem dJ9_checkBoundsOffCount_0 : decode cJ9_checkBoundsOffCount 0 = .ok (.iload_n 0, 1) := dk_26 (dk_at dksJ9_checkBoundsOffCount_0 0 rfl rfl)
theorem dJ9_checkBoundsOffCount_1 : decode cJ9_checkBoundsOffCount 1 = .ok (.iload_n 1, 1) := dk_27 (dk_at dksJ9_checkBoundsOffCount_0 1 rfl rfl)
theorem dJ9_checkBoundsOffCount_2 : decode cJ9_checkBoundsOffCount 2 = .ok (.iload_n 2, 1) := dk_28 (dk_at dksJ9_checkBoundsOffCount_0 2 rfl rfl)
theorem dJ9_checkBoundsOffCount_3 : decode cJ9_checkBoundsOffCount 3 = .ok (.getstatic 1053, 3) := dk_178 4 29 (dk_at dksJ9_checkBoundsOffCount_0 3 rfl rfl)
theorem dJ9_checkBoundsOffCount_6 : decode cJ9_checkBoundsOffCount 6 = .ok (.invokestatic 1065, 3) := dk_184 4 41 (dk_at dksJ9_checkBoundsOffCount_0 6 rfl rfl)
theorem dJ9_checkBoundsOffCount_9 : decode cJ9_checkBoundsOffCount 9 = .ok (.ireturn, 1) := dk_172 (dk_at dksJ9_checkBoundsOffCount_0 9 rfl rfl)
abbrev cJ9_getBytes : ByteArray := prog_51_method_147_code
def yJ9_getBytes : MethodName := ⟨RJ9, "getBytes", "([BIB)V"⟩
def dkwJ9_getBytes_1 : List UInt8 := [184, 0, 212, 167, 0, 18, 42, 180, 0, 9, 3, 43, 28, 42, 180, 0, 9, 190, 184, 0, 106, 177]
abbrev dktJ9_getBytes_1 : List UInt8 := dkwJ9_getBytes_1 ++ []
def dkwJ9_getBytes_0 : List UInt8 := [42, 182, 1, 79, 29, 160, 0, 23, 42, 180, 0, 9, 3, 43, 28, 29, 120, 42, 180, 0, 9, 190]
abbrev dktJ9_getBytes_0 : List UInt8 := dkwJ9_getBytes_0 ++ dktJ9_getBytes_1
theorem dksJ9_getBytes_0 : cJ9_getBytes.data.toList.drop 0 = dktJ9_getBytes_0 := by decide +kernel
theorem dksJ9_getBytes_1 : cJ9_getBytes.data.toList.drop 22 = dktJ9_getBytes_1 := dk_seg dksJ9_getBytes_0 22 rfl rfl
theorem dJ9_getBytes_0 : decode cJ9_getBytes 0 = .ok (.aload_n 0, 1) := dk_42 (dk_at dksJ9_getBytes_0 0 rfl rfl)
theorem dJ9_getBytes_1 : decode cJ9_getBytes 1 = .ok (.invokevirtual 335, 3) := dk_182 1 79 (dk_at dksJ9_getBytes_0 1 rfl rfl)
theorem dJ9_getBytes_4 : decode cJ9_getBytes 4 = .ok (.iload_n 3, 1) := dk_29 (dk_at dksJ9_getBytes_0 4 rfl rfl)
theorem dJ9_getBytes_5 : decode cJ9_getBytes 5 = .ok (.if_icmp .ne 23, 3) := dk_160 0 23 (dk_at dksJ9_getBytes_0 5 rfl rfl)
theorem dJ9_getBytes_8 : decode cJ9_getBytes 8 = .ok (.aload_n 0, 1) := dk_42 (dk_at dksJ9_getBytes_0 8 rfl rfl)
theorem dJ9_getBytes_9 : decode cJ9_getBytes 9 = .ok (.getfield 9, 3) := dk_180 0 9 (dk_at dksJ9_getBytes_0 9 rfl rfl)
theorem dJ9_getBytes_12 : decode cJ9_getBytes 12 = .ok (.iconst 0, 1) := dk_3 (dk_at dksJ9_getBytes_0 12 rfl rfl)
theorem dJ9_getBytes_13 : decode cJ9_getBytes 13 = .ok (.aload_n 1, 1) := dk_43 (dk_at dksJ9_getBytes_0 13 rfl rfl)
theorem dJ9_getBytes_14 : decode cJ9_getBytes 14 = .ok (.iload_n 2, 1) := dk_28 (dk_at dksJ9_getBytes_0 14 rfl rfl)
theorem dJ9_getBytes_15 : decode cJ9_getBytes 15 = .ok (.iload_n 3, 1) := dk_29 (dk_at dksJ9_getBytes_0 15 rfl rfl)
theorem dJ9_getBytes_16 : decode cJ9_getBytes 16 = .ok (.ishl, 1) := dk_120 (dk_at dksJ9_getBytes_0 16 rfl rfl)
theorem dJ9_getBytes_17 : decode cJ9_getBytes 17 = .ok (.aload_n 0, 1) := dk_42 (dk_at dksJ9_getBytes_0 17 rfl rfl)
theorem dJ9_getBytes_18 : decode cJ9_getBytes 18 = .ok (.getfield 9, 3) := dk_180 0 9 (dk_at dksJ9_getBytes_0 18 rfl rfl)
theorem dJ9_getBytes_21 : decode cJ9_getBytes 21 = .ok (.arraylength, 1) := dk_190 (dk_at dksJ9_getBytes_0 21 rfl rfl)
theorem dJ9_getBytes_22 : decode cJ9_getBytes 22 = .ok (.invokestatic 212, 3) := dk_184 0 212 (dk_at dksJ9_getBytes_1 0 rfl rfl)
theorem dJ9_getBytes_25 : decode cJ9_getBytes 25 = .ok (.goto 18, 3) := dk_167 0 18 (dk_at dksJ9_getBytes_1 3 rfl rfl)
theorem dJ9_getBytes_28 : decode cJ9_getBytes 28 = .ok (.aload_n 0, 1) := dk_42 (dk_at dksJ9_getBytes_1 6 rfl rfl)
theorem dJ9_getBytes_29 : decode cJ9_getBytes 29 = .ok (.getfield 9, 3) := dk_180 0 9 (dk_at dksJ9_getBytes_1 7 rfl rfl)
theorem dJ9_getBytes_32 : decode cJ9_getBytes 32 = .ok (.iconst 0, 1) := dk_3 (dk_at dksJ9_getBytes_1 10 rfl rfl)
theorem dJ9_getBytes_33 : decode cJ9_getBytes 33 = .ok (.aload_n 1, 1) := dk_43 (dk_at dksJ9_getBytes_1 11 rfl rfl)
theorem dJ9_getBytes_34 : decode cJ9_getBytes 34 = .ok (.iload_n 2, 1) := dk_28 (dk_at dksJ9_getBytes_1 12 rfl rfl)
theorem dJ9_getBytes_35 : decode cJ9_getBytes 35 = .ok (.aload_n 0, 1) := dk_42 (dk_at dksJ9_getBytes_1 13 rfl rfl)
theorem dJ9_getBytes_36 : decode cJ9_getBytes 36 = .ok (.getfield 9, 3) := dk_180 0 9 (dk_at dksJ9_getBytes_1 14 rfl rfl)
theorem dJ9_getBytes_39 : decode cJ9_getBytes 39 = .ok (.arraylength, 1) := dk_190 (dk_at dksJ9_getBytes_1 17 rfl rfl)
theorem dJ9_getBytes_40 : decode cJ9_getBytes 40 = .ok (.invokestatic 106, 3) := dk_184 0 106 (dk_at dksJ9_getBytes_1 18 rfl rfl)
theorem dJ9_getBytes_43 : decode cJ9_getBytes 43 = .ok (.return_, 1) := dk_177 (dk_at dksJ9_getBytes_1 21 rfl rfl)
abbrev cJ9_init : ByteArray := prog_51_method_53_code
def yJ9_init : MethodName := ⟨RJ9, "<init>", "(Ljava/lang/StringBuilder;)V"⟩
def dkwJ9_init_0 : List UInt8 := [42, 43, 1, 183, 1, 233, 177]
abbrev dktJ9_init_0 : List UInt8 := dkwJ9_init_0 ++ []
theorem dksJ9_init_0 : cJ9_init.data.toList.drop 0 = dktJ9_init_0 := by decide +kernel
theorem dJ9_init_0 : decode cJ9_init 0 = .ok (.aload_n 0, 1) := dk_42 (dk_at dksJ9_init_0 0 rfl rfl)
theorem dJ9_init_1 : decode cJ9_init 1 = .ok (.aload_n 1, 1) := dk_43 (dk_at dksJ9_init_0 1 rfl rfl)
theorem dJ9_init_2 : decode cJ9_init 2 = .ok (.aconst_null, 1) := dk_1 (dk_at dksJ9_init_0 2 rfl rfl)
theorem dJ9_init_3 : decode cJ9_init 3 = .ok (.invokespecial 489, 3) := dk_183 1 233 (dk_at dksJ9_init_0 3 rfl rfl)
theorem dJ9_init_6 : decode cJ9_init 6 = .ok (.return_, 1) := dk_177 (dk_at dksJ9_init_0 6 rfl rfl)
abbrev cJ9_init_2 : ByteArray := prog_51_method_150_code
def yJ9_init_2 : MethodName := ⟨RJ9, "<init>", "(Ljava/lang/AbstractStringBuilder;Ljava/lang/Void;)V"⟩
def dkwJ9_init_2_4 : List UInt8 := [181, 0, 9, 177]
abbrev dktJ9_init_2_4 : List UInt8 := dkwJ9_init_2_4 ++ []
def dkwJ9_init_2_3 : List UInt8 := [184, 0, 47, 181, 0, 15, 177, 42, 4, 181, 0, 15, 42, 45, 3, 21, 4, 4, 120, 184, 0, 54]
abbrev dktJ9_init_2_3 : List UInt8 := dkwJ9_init_2_3 ++ dktJ9_init_2_4
def dkwJ9_init_2_2 : List UInt8 := [180, 4, 24, 153, 0, 28, 42, 45, 3, 21, 4, 184, 4, 27, 181, 0, 9, 42, 42, 180, 0, 9, 21, 4]
abbrev dktJ9_init_2_2 : List UInt8 := dkwJ9_init_2_2 ++ dktJ9_init_2_3
def dkwJ9_init_2_1 : List UInt8 := [181, 0, 15, 42, 45, 3, 21, 4, 184, 0, 54, 181, 0, 9, 167, 0, 59, 178, 0, 38, 153, 0, 35, 43]
abbrev dktJ9_init_2_1 : List UInt8 := dkwJ9_init_2_1 ++ dktJ9_init_2_2
def dkwJ9_init_2_0 : List UInt8 := [42, 183, 0, 1, 43, 182, 2, 40, 78, 43, 182, 2, 37, 54, 4, 43, 182, 4, 23, 153, 0, 22, 42, 3]
abbrev dktJ9_init_2_0 : List UInt8 := dkwJ9_init_2_0 ++ dktJ9_init_2_1
theorem dksJ9_init_2_0 : cJ9_init_2.data.toList.drop 0 = dktJ9_init_2_0 := by decide +kernel
theorem dksJ9_init_2_1 : cJ9_init_2.data.toList.drop 24 = dktJ9_init_2_1 := dk_seg dksJ9_init_2_0 24 rfl rfl
theorem dksJ9_init_2_2 : cJ9_init_2.data.toList.drop 48 = dktJ9_init_2_2 := dk_seg dksJ9_init_2_1 24 rfl rfl
theorem dksJ9_init_2_3 : cJ9_init_2.data.toList.drop 72 = dktJ9_init_2_3 := dk_seg dksJ9_init_2_2 24 rfl rfl
theorem dksJ9_init_2_4 : cJ9_init_2.data.toList.drop 94 = dktJ9_init_2_4 := dk_seg dksJ9_init_2_3 22 rfl rfl
theorem dJ9_init_2_0 : decode cJ9_init_2 0 = .ok (.aload_n 0, 1) := dk_42 (dk_at dksJ9_init_2_0 0 rfl rfl)
theorem dJ9_init_2_1 : decode cJ9_init_2 1 = .ok (.invokespecial 1, 3) := dk_183 0 1 (dk_at dksJ9_init_2_0 1 rfl rfl)
theorem dJ9_init_2_4 : decode cJ9_init_2 4 = .ok (.aload_n 1, 1) := dk_43 (dk_at dksJ9_init_2_0 4 rfl rfl)
theorem dJ9_init_2_5 : decode cJ9_init_2 5 = .ok (.invokevirtual 552, 3) := dk_182 2 40 (dk_at dksJ9_init_2_0 5 rfl rfl)
theorem dJ9_init_2_8 : decode cJ9_init_2 8 = .ok (.astore_n 3, 1) := dk_78 (dk_at dksJ9_init_2_0 8 rfl rfl)
theorem dJ9_init_2_9 : decode cJ9_init_2 9 = .ok (.aload_n 1, 1) := dk_43 (dk_at dksJ9_init_2_0 9 rfl rfl)
theorem dJ9_init_2_10 : decode cJ9_init_2 10 = .ok (.invokevirtual 549, 3) := dk_182 2 37 (dk_at dksJ9_init_2_0 10 rfl rfl)
theorem dJ9_init_2_13 : decode cJ9_init_2 13 = .ok (.istore 4, 2) := dk_54 4 (dk_at dksJ9_init_2_0 13 rfl rfl)
theorem dJ9_init_2_15 : decode cJ9_init_2 15 = .ok (.aload_n 1, 1) := dk_43 (dk_at dksJ9_init_2_0 15 rfl rfl)
theorem dJ9_init_2_16 : decode cJ9_init_2 16 = .ok (.invokevirtual 1047, 3) := dk_182 4 23 (dk_at dksJ9_init_2_0 16 rfl rfl)
theorem dJ9_init_2_19 : decode cJ9_init_2 19 = .ok (.ifCond .eq 22, 3) := dk_153 0 22 (dk_at dksJ9_init_2_0 19 rfl rfl)
theorem dJ9_init_2_22 : decode cJ9_init_2 22 = .ok (.aload_n 0, 1) := dk_42 (dk_at dksJ9_init_2_0 22 rfl rfl)
theorem dJ9_init_2_23 : decode cJ9_init_2 23 = .ok (.iconst 0, 1) := dk_3 (dk_at dksJ9_init_2_0 23 rfl rfl)
theorem dJ9_init_2_24 : decode cJ9_init_2 24 = .ok (.putfield 15, 3) := dk_181 0 15 (dk_at dksJ9_init_2_1 0 rfl rfl)
theorem dJ9_init_2_27 : decode cJ9_init_2 27 = .ok (.aload_n 0, 1) := dk_42 (dk_at dksJ9_init_2_1 3 rfl rfl)
theorem dJ9_init_2_28 : decode cJ9_init_2 28 = .ok (.aload_n 3, 1) := dk_45 (dk_at dksJ9_init_2_1 4 rfl rfl)
theorem dJ9_init_2_29 : decode cJ9_init_2 29 = .ok (.iconst 0, 1) := dk_3 (dk_at dksJ9_init_2_1 5 rfl rfl)
theorem dJ9_init_2_30 : decode cJ9_init_2 30 = .ok (.iload 4, 2) := dk_21 4 (dk_at dksJ9_init_2_1 6 rfl rfl)
theorem dJ9_init_2_32 : decode cJ9_init_2 32 = .ok (.invokestatic 54, 3) := dk_184 0 54 (dk_at dksJ9_init_2_1 8 rfl rfl)
theorem dJ9_init_2_35 : decode cJ9_init_2 35 = .ok (.putfield 9, 3) := dk_181 0 9 (dk_at dksJ9_init_2_1 11 rfl rfl)
theorem dJ9_init_2_38 : decode cJ9_init_2 38 = .ok (.goto 59, 3) := dk_167 0 59 (dk_at dksJ9_init_2_1 14 rfl rfl)
theorem dJ9_init_2_41 : decode cJ9_init_2 41 = .ok (.getstatic 38, 3) := dk_178 0 38 (dk_at dksJ9_init_2_1 17 rfl rfl)
theorem dJ9_init_2_44 : decode cJ9_init_2 44 = .ok (.ifCond .eq 35, 3) := dk_153 0 35 (dk_at dksJ9_init_2_1 20 rfl rfl)
theorem dJ9_init_2_47 : decode cJ9_init_2 47 = .ok (.aload_n 1, 1) := dk_43 (dk_at dksJ9_init_2_1 23 rfl rfl)
theorem dJ9_init_2_48 : decode cJ9_init_2 48 = .ok (.getfield 1048, 3) := dk_180 4 24 (dk_at dksJ9_init_2_2 0 rfl rfl)
theorem dJ9_init_2_51 : decode cJ9_init_2 51 = .ok (.ifCond .eq 28, 3) := dk_153 0 28 (dk_at dksJ9_init_2_2 3 rfl rfl)
theorem dJ9_init_2_54 : decode cJ9_init_2 54 = .ok (.aload_n 0, 1) := dk_42 (dk_at dksJ9_init_2_2 6 rfl rfl)
theorem dJ9_init_2_55 : decode cJ9_init_2 55 = .ok (.aload_n 3, 1) := dk_45 (dk_at dksJ9_init_2_2 7 rfl rfl)
theorem dJ9_init_2_56 : decode cJ9_init_2 56 = .ok (.iconst 0, 1) := dk_3 (dk_at dksJ9_init_2_2 8 rfl rfl)
theorem dJ9_init_2_57 : decode cJ9_init_2 57 = .ok (.iload 4, 2) := dk_21 4 (dk_at dksJ9_init_2_2 9 rfl rfl)
theorem dJ9_init_2_59 : decode cJ9_init_2 59 = .ok (.invokestatic 1051, 3) := dk_184 4 27 (dk_at dksJ9_init_2_2 11 rfl rfl)
theorem dJ9_init_2_62 : decode cJ9_init_2 62 = .ok (.putfield 9, 3) := dk_181 0 9 (dk_at dksJ9_init_2_2 14 rfl rfl)
theorem dJ9_init_2_65 : decode cJ9_init_2 65 = .ok (.aload_n 0, 1) := dk_42 (dk_at dksJ9_init_2_2 17 rfl rfl)
theorem dJ9_init_2_66 : decode cJ9_init_2 66 = .ok (.aload_n 0, 1) := dk_42 (dk_at dksJ9_init_2_2 18 rfl rfl)
theorem dJ9_init_2_67 : decode cJ9_init_2 67 = .ok (.getfield 9, 3) := dk_180 0 9 (dk_at dksJ9_init_2_2 19 rfl rfl)
theorem dJ9_init_2_70 : decode cJ9_init_2 70 = .ok (.iload 4, 2) := dk_21 4 (dk_at dksJ9_init_2_2 22 rfl rfl)
theorem dJ9_init_2_72 : decode cJ9_init_2 72 = .ok (.invokestatic 47, 3) := dk_184 0 47 (dk_at dksJ9_init_2_3 0 rfl rfl)
theorem dJ9_init_2_75 : decode cJ9_init_2 75 = .ok (.putfield 15, 3) := dk_181 0 15 (dk_at dksJ9_init_2_3 3 rfl rfl)
theorem dJ9_init_2_78 : decode cJ9_init_2 78 = .ok (.return_, 1) := dk_177 (dk_at dksJ9_init_2_3 6 rfl rfl)
theorem dJ9_init_2_79 : decode cJ9_init_2 79 = .ok (.aload_n 0, 1) := dk_42 (dk_at dksJ9_init_2_3 7 rfl rfl)
theorem dJ9_init_2_80 : decode cJ9_init_2 80 = .ok (.iconst 1, 1) := dk_4 (dk_at dksJ9_init_2_3 8 rfl rfl)
theorem dJ9_init_2_81 : decode cJ9_init_2 81 = .ok (.putfield 15, 3) := dk_181 0 15 (dk_at dksJ9_init_2_3 9 rfl rfl)
theorem dJ9_init_2_84 : decode cJ9_init_2 84 = .ok (.aload_n 0, 1) := dk_42 (dk_at dksJ9_init_2_3 12 rfl rfl)
theorem dJ9_init_2_85 : decode cJ9_init_2 85 = .ok (.aload_n 3, 1) := dk_45 (dk_at dksJ9_init_2_3 13 rfl rfl)
theorem dJ9_init_2_86 : decode cJ9_init_2 86 = .ok (.iconst 0, 1) := dk_3 (dk_at dksJ9_init_2_3 14 rfl rfl)
theorem dJ9_init_2_87 : decode cJ9_init_2 87 = .ok (.iload 4, 2) := dk_21 4 (dk_at dksJ9_init_2_3 15 rfl rfl)
theorem dJ9_init_2_89 : decode cJ9_init_2 89 = .ok (.iconst 1, 1) := dk_4 (dk_at dksJ9_init_2_3 17 rfl rfl)
theorem dJ9_init_2_90 : decode cJ9_init_2 90 = .ok (.ishl, 1) := dk_120 (dk_at dksJ9_init_2_3 18 rfl rfl)
theorem dJ9_init_2_91 : decode cJ9_init_2 91 = .ok (.invokestatic 54, 3) := dk_184 0 54 (dk_at dksJ9_init_2_3 19 rfl rfl)
theorem dJ9_init_2_94 : decode cJ9_init_2 94 = .ok (.putfield 9, 3) := dk_181 0 9 (dk_at dksJ9_init_2_4 0 rfl rfl)
theorem dJ9_init_2_97 : decode cJ9_init_2 97 = .ok (.return_, 1) := dk_177 (dk_at dksJ9_init_2_4 3 rfl rfl)
abbrev cJ9_checkIndex : ByteArray := prog_51_method_155_code
def yJ9_checkIndex : MethodName := ⟨RJ9, "checkIndex", "(II)V"⟩
def dkwJ9_checkIndex_0 : List UInt8 := [26, 27, 178, 4, 29, 184, 4, 35, 87, 177]
abbrev dktJ9_checkIndex_0 : List UInt8 := dkwJ9_checkIndex_0 ++ []
theorem dksJ9_checkIndex_0 : cJ9_checkIndex.data.toList.drop 0 = dktJ9_checkIndex_0 := by decide +kernel
theorem dJ9_checkIndex_0 : decode cJ9_checkIndex 0 = .ok (.iload_n 0, 1) := dk_26 (dk_at dksJ9_checkIndex_0 0 rfl rfl)
theorem dJ9_checkIndex_1 : decode cJ9_checkIndex 1 = .ok (.iload_n 1, 1) := dk_27 (dk_at dksJ9_checkIndex_0 1 rfl rfl)
theorem dJ9_checkIndex_2 : decode cJ9_checkIndex 2 = .ok (.getstatic 1053, 3) := dk_178 4 29 (dk_at dksJ9_checkIndex_0 2 rfl rfl)
theorem dJ9_checkIndex_5 : decode cJ9_checkIndex 5 = .ok (.invokestatic 1059, 3) := dk_184 4 35 (dk_at dksJ9_checkIndex_0 5 rfl rfl)
theorem dJ9_checkIndex_8 : decode cJ9_checkIndex 8 = .ok (.pop, 1) := dk_87 (dk_at dksJ9_checkIndex_0 8 rfl rfl)
theorem dJ9_checkIndex_9 : decode cJ9_checkIndex 9 = .ok (.return_, 1) := dk_177 (dk_at dksJ9_checkIndex_0 9 rfl rfl)
abbrev cJ9_equals : ByteArray := prog_51_method_66_code
def yJ9_equals : MethodName := ⟨RJ9, "equals", "(Ljava/lang/Object;)Z"⟩
def dkwJ9_equals_2 : List UInt8 := [184, 2, 29, 153, 0, 7, 4, 167, 0, 4, 3, 172]
abbrev dktJ9_equals_2 : List UInt8 := dkwJ9_equals_2 ++ []
def dkwJ9_equals_1 : List UInt8 := [153, 0, 14, 42, 180, 0, 15, 44, 180, 0, 15, 160, 0, 21, 42, 180, 0, 9, 44, 180, 0, 9]
abbrev dktJ9_equals_1 : List UInt8 := dkwJ9_equals_1 ++ dktJ9_equals_2
def dkwJ9_equals_0 : List UInt8 := [42, 43, 166, 0, 5, 4, 172, 43, 193, 0, 10, 153, 0, 43, 43, 192, 0, 10, 77, 178, 0, 38]
abbrev dktJ9_equals_0 : List UInt8 := dkwJ9_equals_0 ++ dktJ9_equals_1
theorem dksJ9_equals_0 : cJ9_equals.data.toList.drop 0 = dktJ9_equals_0 := by decide +kernel
theorem dksJ9_equals_1 : cJ9_equals.data.toList.drop 22 = dktJ9_equals_1 := dk_seg dksJ9_equals_0 22 rfl rfl
theorem dksJ9_equals_2 : cJ9_equals.data.toList.drop 44 = dktJ9_equals_2 := dk_seg dksJ9_equals_1 22 rfl rfl
theorem dJ9_equals_0 : decode cJ9_equals 0 = .ok (.aload_n 0, 1) := dk_42 (dk_at dksJ9_equals_0 0 rfl rfl)
theorem dJ9_equals_1 : decode cJ9_equals 1 = .ok (.aload_n 1, 1) := dk_43 (dk_at dksJ9_equals_0 1 rfl rfl)
theorem dJ9_equals_2 : decode cJ9_equals 2 = .ok (.if_acmp .ne 5, 3) := dk_166 0 5 (dk_at dksJ9_equals_0 2 rfl rfl)
theorem dJ9_equals_5 : decode cJ9_equals 5 = .ok (.iconst 1, 1) := dk_4 (dk_at dksJ9_equals_0 5 rfl rfl)
theorem dJ9_equals_6 : decode cJ9_equals 6 = .ok (.ireturn, 1) := dk_172 (dk_at dksJ9_equals_0 6 rfl rfl)
theorem dJ9_equals_7 : decode cJ9_equals 7 = .ok (.aload_n 1, 1) := dk_43 (dk_at dksJ9_equals_0 7 rfl rfl)
theorem dJ9_equals_8 : decode cJ9_equals 8 = .ok (.instanceof 10, 3) := dk_193 0 10 (dk_at dksJ9_equals_0 8 rfl rfl)
theorem dJ9_equals_11 : decode cJ9_equals 11 = .ok (.ifCond .eq 43, 3) := dk_153 0 43 (dk_at dksJ9_equals_0 11 rfl rfl)
theorem dJ9_equals_14 : decode cJ9_equals 14 = .ok (.aload_n 1, 1) := dk_43 (dk_at dksJ9_equals_0 14 rfl rfl)
theorem dJ9_equals_15 : decode cJ9_equals 15 = .ok (.checkcast 10, 3) := dk_192 0 10 (dk_at dksJ9_equals_0 15 rfl rfl)
theorem dJ9_equals_18 : decode cJ9_equals 18 = .ok (.astore_n 2, 1) := dk_77 (dk_at dksJ9_equals_0 18 rfl rfl)
theorem dJ9_equals_19 : decode cJ9_equals 19 = .ok (.getstatic 38, 3) := dk_178 0 38 (dk_at dksJ9_equals_0 19 rfl rfl)
theorem dJ9_equals_22 : decode cJ9_equals 22 = .ok (.ifCond .eq 14, 3) := dk_153 0 14 (dk_at dksJ9_equals_1 0 rfl rfl)
theorem dJ9_equals_25 : decode cJ9_equals 25 = .ok (.aload_n 0, 1) := dk_42 (dk_at dksJ9_equals_1 3 rfl rfl)
theorem dJ9_equals_26 : decode cJ9_equals 26 = .ok (.getfield 15, 3) := dk_180 0 15 (dk_at dksJ9_equals_1 4 rfl rfl)
theorem dJ9_equals_29 : decode cJ9_equals 29 = .ok (.aload_n 2, 1) := dk_44 (dk_at dksJ9_equals_1 7 rfl rfl)
theorem dJ9_equals_30 : decode cJ9_equals 30 = .ok (.getfield 15, 3) := dk_180 0 15 (dk_at dksJ9_equals_1 8 rfl rfl)
theorem dJ9_equals_33 : decode cJ9_equals 33 = .ok (.if_icmp .ne 21, 3) := dk_160 0 21 (dk_at dksJ9_equals_1 11 rfl rfl)
theorem dJ9_equals_36 : decode cJ9_equals 36 = .ok (.aload_n 0, 1) := dk_42 (dk_at dksJ9_equals_1 14 rfl rfl)
theorem dJ9_equals_37 : decode cJ9_equals 37 = .ok (.getfield 9, 3) := dk_180 0 9 (dk_at dksJ9_equals_1 15 rfl rfl)
theorem dJ9_equals_40 : decode cJ9_equals 40 = .ok (.aload_n 2, 1) := dk_44 (dk_at dksJ9_equals_1 18 rfl rfl)
theorem dJ9_equals_41 : decode cJ9_equals 41 = .ok (.getfield 9, 3) := dk_180 0 9 (dk_at dksJ9_equals_1 19 rfl rfl)
theorem dJ9_equals_44 : decode cJ9_equals 44 = .ok (.invokestatic 541, 3) := dk_184 2 29 (dk_at dksJ9_equals_2 0 rfl rfl)
theorem dJ9_equals_47 : decode cJ9_equals 47 = .ok (.ifCond .eq 7, 3) := dk_153 0 7 (dk_at dksJ9_equals_2 3 rfl rfl)
theorem dJ9_equals_50 : decode cJ9_equals 50 = .ok (.iconst 1, 1) := dk_4 (dk_at dksJ9_equals_2 6 rfl rfl)
theorem dJ9_equals_51 : decode cJ9_equals 51 = .ok (.goto 4, 3) := dk_167 0 4 (dk_at dksJ9_equals_2 7 rfl rfl)
theorem dJ9_equals_54 : decode cJ9_equals 54 = .ok (.iconst 0, 1) := dk_3 (dk_at dksJ9_equals_2 10 rfl rfl)
theorem dJ9_equals_55 : decode cJ9_equals 55 = .ok (.ireturn, 1) := dk_172 (dk_at dksJ9_equals_2 11 rfl rfl)
abbrev cJ9_hashCode : ByteArray := prog_51_method_78_code
def yJ9_hashCode : MethodName := ⟨RJ9, "hashCode", "()I"⟩
def dkwJ9_hashCode_2 : List UInt8 := [181, 0, 23, 167, 0, 8, 42, 27, 181, 0, 19, 27, 172]
abbrev dktJ9_hashCode_2 : List UInt8 := dkwJ9_hashCode_2 ++ []
def dkwJ9_hashCode_1 : List UInt8 := [180, 0, 9, 184, 2, 116, 167, 0, 10, 42, 180, 0, 9, 184, 2, 120, 60, 27, 154, 0, 11, 42, 4]
abbrev dktJ9_hashCode_1 : List UInt8 := dkwJ9_hashCode_1 ++ dktJ9_hashCode_2
def dkwJ9_hashCode_0 : List UInt8 := [42, 180, 0, 19, 60, 27, 154, 0, 52, 42, 180, 0, 23, 154, 0, 45, 42, 182, 1, 236, 153, 0, 13, 42]
abbrev dktJ9_hashCode_0 : List UInt8 := dkwJ9_hashCode_0 ++ dktJ9_hashCode_1
theorem dksJ9_hashCode_0 : cJ9_hashCode.data.toList.drop 0 = dktJ9_hashCode_0 := by decide +kernel
theorem dksJ9_hashCode_1 : cJ9_hashCode.data.toList.drop 24 = dktJ9_hashCode_1 := dk_seg dksJ9_hashCode_0 24 rfl rfl
theorem dksJ9_hashCode_2 : cJ9_hashCode.data.toList.drop 47 = dktJ9_hashCode_2 := dk_seg dksJ9_hashCode_1 23 rfl rfl
theorem dJ9_hashCode_0 : decode cJ9_hashCode 0 = .ok (.aload_n 0, 1) := dk_42 (dk_at dksJ9_hashCode_0 0 rfl rfl)
theorem dJ9_hashCode_1 : decode cJ9_hashCode 1 = .ok (.getfield 19, 3) := dk_180 0 19 (dk_at dksJ9_hashCode_0 1 rfl rfl)
theorem dJ9_hashCode_4 : decode cJ9_hashCode 4 = .ok (.istore_n 1, 1) := dk_60 (dk_at dksJ9_hashCode_0 4 rfl rfl)
theorem dJ9_hashCode_5 : decode cJ9_hashCode 5 = .ok (.iload_n 1, 1) := dk_27 (dk_at dksJ9_hashCode_0 5 rfl rfl)
theorem dJ9_hashCode_6 : decode cJ9_hashCode 6 = .ok (.ifCond .ne 52, 3) := dk_154 0 52 (dk_at dksJ9_hashCode_0 6 rfl rfl)
theorem dJ9_hashCode_9 : decode cJ9_hashCode 9 = .ok (.aload_n 0, 1) := dk_42 (dk_at dksJ9_hashCode_0 9 rfl rfl)
theorem dJ9_hashCode_10 : decode cJ9_hashCode 10 = .ok (.getfield 23, 3) := dk_180 0 23 (dk_at dksJ9_hashCode_0 10 rfl rfl)
theorem dJ9_hashCode_13 : decode cJ9_hashCode 13 = .ok (.ifCond .ne 45, 3) := dk_154 0 45 (dk_at dksJ9_hashCode_0 13 rfl rfl)
theorem dJ9_hashCode_16 : decode cJ9_hashCode 16 = .ok (.aload_n 0, 1) := dk_42 (dk_at dksJ9_hashCode_0 16 rfl rfl)
theorem dJ9_hashCode_17 : decode cJ9_hashCode 17 = .ok (.invokevirtual 492, 3) := dk_182 1 236 (dk_at dksJ9_hashCode_0 17 rfl rfl)
theorem dJ9_hashCode_20 : decode cJ9_hashCode 20 = .ok (.ifCond .eq 13, 3) := dk_153 0 13 (dk_at dksJ9_hashCode_0 20 rfl rfl)
theorem dJ9_hashCode_23 : decode cJ9_hashCode 23 = .ok (.aload_n 0, 1) := dk_42 (dk_at dksJ9_hashCode_0 23 rfl rfl)
theorem dJ9_hashCode_24 : decode cJ9_hashCode 24 = .ok (.getfield 9, 3) := dk_180 0 9 (dk_at dksJ9_hashCode_1 0 rfl rfl)
theorem dJ9_hashCode_27 : decode cJ9_hashCode 27 = .ok (.invokestatic 628, 3) := dk_184 2 116 (dk_at dksJ9_hashCode_1 3 rfl rfl)
theorem dJ9_hashCode_30 : decode cJ9_hashCode 30 = .ok (.goto 10, 3) := dk_167 0 10 (dk_at dksJ9_hashCode_1 6 rfl rfl)
theorem dJ9_hashCode_33 : decode cJ9_hashCode 33 = .ok (.aload_n 0, 1) := dk_42 (dk_at dksJ9_hashCode_1 9 rfl rfl)
theorem dJ9_hashCode_34 : decode cJ9_hashCode 34 = .ok (.getfield 9, 3) := dk_180 0 9 (dk_at dksJ9_hashCode_1 10 rfl rfl)
theorem dJ9_hashCode_37 : decode cJ9_hashCode 37 = .ok (.invokestatic 632, 3) := dk_184 2 120 (dk_at dksJ9_hashCode_1 13 rfl rfl)
theorem dJ9_hashCode_40 : decode cJ9_hashCode 40 = .ok (.istore_n 1, 1) := dk_60 (dk_at dksJ9_hashCode_1 16 rfl rfl)
theorem dJ9_hashCode_41 : decode cJ9_hashCode 41 = .ok (.iload_n 1, 1) := dk_27 (dk_at dksJ9_hashCode_1 17 rfl rfl)
theorem dJ9_hashCode_42 : decode cJ9_hashCode 42 = .ok (.ifCond .ne 11, 3) := dk_154 0 11 (dk_at dksJ9_hashCode_1 18 rfl rfl)
theorem dJ9_hashCode_45 : decode cJ9_hashCode 45 = .ok (.aload_n 0, 1) := dk_42 (dk_at dksJ9_hashCode_1 21 rfl rfl)
theorem dJ9_hashCode_46 : decode cJ9_hashCode 46 = .ok (.iconst 1, 1) := dk_4 (dk_at dksJ9_hashCode_1 22 rfl rfl)
theorem dJ9_hashCode_47 : decode cJ9_hashCode 47 = .ok (.putfield 23, 3) := dk_181 0 23 (dk_at dksJ9_hashCode_2 0 rfl rfl)
theorem dJ9_hashCode_50 : decode cJ9_hashCode 50 = .ok (.goto 8, 3) := dk_167 0 8 (dk_at dksJ9_hashCode_2 3 rfl rfl)
theorem dJ9_hashCode_53 : decode cJ9_hashCode 53 = .ok (.aload_n 0, 1) := dk_42 (dk_at dksJ9_hashCode_2 6 rfl rfl)
theorem dJ9_hashCode_54 : decode cJ9_hashCode 54 = .ok (.iload_n 1, 1) := dk_27 (dk_at dksJ9_hashCode_2 7 rfl rfl)
theorem dJ9_hashCode_55 : decode cJ9_hashCode 55 = .ok (.putfield 19, 3) := dk_181 0 19 (dk_at dksJ9_hashCode_2 8 rfl rfl)
theorem dJ9_hashCode_58 : decode cJ9_hashCode 58 = .ok (.iload_n 1, 1) := dk_27 (dk_at dksJ9_hashCode_2 11 rfl rfl)
theorem dJ9_hashCode_59 : decode cJ9_hashCode 59 = .ok (.ireturn, 1) := dk_172 (dk_at dksJ9_hashCode_2 12 rfl rfl)
abbrev cJ9_isLatin1 : ByteArray := prog_51_method_154_code
def yJ9_isLatin1 : MethodName := ⟨RJ9, "isLatin1", "()Z"⟩
def dkwJ9_isLatin1_0 : List UInt8 := [178, 0, 38, 153, 0, 14, 42, 180, 0, 15, 154, 0, 7, 4, 167, 0, 4, 3, 172]
abbrev dktJ9_isLatin1_0 : List UInt8 := dkwJ9_isLatin1_0 ++ []
theorem dksJ9_isLatin1_0 : cJ9_isLatin1.data.toList.drop 0 = dktJ9_isLatin1_0 := by decide +kernel
theorem dJ9_isLatin1_0 : decode cJ9_isLatin1 0 = .ok (.getstatic 38, 3) := dk_178 0 38 (dk_at dksJ9_isLatin1_0 0 rfl rfl)
theorem dJ9_isLatin1_3 : decode cJ9_isLatin1 3 = .ok (.ifCond .eq 14, 3) := dk_153 0 14 (dk_at dksJ9_isLatin1_0 3 rfl rfl)
theorem dJ9_isLatin1_6 : decode cJ9_isLatin1 6 = .ok (.aload_n 0, 1) := dk_42 (dk_at dksJ9_isLatin1_0 6 rfl rfl)
theorem dJ9_isLatin1_7 : decode cJ9_isLatin1 7 = .ok (.getfield 15, 3) := dk_180 0 15 (dk_at dksJ9_isLatin1_0 7 rfl rfl)
theorem dJ9_isLatin1_10 : decode cJ9_isLatin1 10 = .ok (.ifCond .ne 7, 3) := dk_154 0 7 (dk_at dksJ9_isLatin1_0 10 rfl rfl)
theorem dJ9_isLatin1_13 : decode cJ9_isLatin1 13 = .ok (.iconst 1, 1) := dk_4 (dk_at dksJ9_isLatin1_0 13 rfl rfl)
theorem dJ9_isLatin1_14 : decode cJ9_isLatin1 14 = .ok (.goto 4, 3) := dk_167 0 4 (dk_at dksJ9_isLatin1_0 14 rfl rfl)
theorem dJ9_isLatin1_17 : decode cJ9_isLatin1 17 = .ok (.iconst 0, 1) := dk_3 (dk_at dksJ9_isLatin1_0 17 rfl rfl)
theorem dJ9_isLatin1_18 : decode cJ9_isLatin1 18 = .ok (.ireturn, 1) := dk_172 (dk_at dksJ9_isLatin1_0 18 rfl rfl)
abbrev cJ9_charAt : ByteArray := prog_51_method_56_code
def yJ9_charAt : MethodName := ⟨RJ9, "charAt", "(I)C"⟩
def dkwJ9_charAt_1 : List UInt8 := [172]
abbrev dktJ9_charAt_1 : List UInt8 := dkwJ9_charAt_1 ++ []
def dkwJ9_charAt_0 : List UInt8 := [42, 182, 1, 236, 153, 0, 12, 42, 180, 0, 9, 27, 184, 1, 239, 172, 42, 180, 0, 9, 27, 184, 1, 242]
abbrev dktJ9_charAt_0 : List UInt8 := dkwJ9_charAt_0 ++ dktJ9_charAt_1
theorem dksJ9_charAt_0 : cJ9_charAt.data.toList.drop 0 = dktJ9_charAt_0 := by decide +kernel
theorem dksJ9_charAt_1 : cJ9_charAt.data.toList.drop 24 = dktJ9_charAt_1 := dk_seg dksJ9_charAt_0 24 rfl rfl
theorem dJ9_charAt_0 : decode cJ9_charAt 0 = .ok (.aload_n 0, 1) := dk_42 (dk_at dksJ9_charAt_0 0 rfl rfl)
theorem dJ9_charAt_1 : decode cJ9_charAt 1 = .ok (.invokevirtual 492, 3) := dk_182 1 236 (dk_at dksJ9_charAt_0 1 rfl rfl)
theorem dJ9_charAt_4 : decode cJ9_charAt 4 = .ok (.ifCond .eq 12, 3) := dk_153 0 12 (dk_at dksJ9_charAt_0 4 rfl rfl)
theorem dJ9_charAt_7 : decode cJ9_charAt 7 = .ok (.aload_n 0, 1) := dk_42 (dk_at dksJ9_charAt_0 7 rfl rfl)
theorem dJ9_charAt_8 : decode cJ9_charAt 8 = .ok (.getfield 9, 3) := dk_180 0 9 (dk_at dksJ9_charAt_0 8 rfl rfl)
theorem dJ9_charAt_11 : decode cJ9_charAt 11 = .ok (.iload_n 1, 1) := dk_27 (dk_at dksJ9_charAt_0 11 rfl rfl)
theorem dJ9_charAt_12 : decode cJ9_charAt 12 = .ok (.invokestatic 495, 3) := dk_184 1 239 (dk_at dksJ9_charAt_0 12 rfl rfl)
theorem dJ9_charAt_15 : decode cJ9_charAt 15 = .ok (.ireturn, 1) := dk_172 (dk_at dksJ9_charAt_0 15 rfl rfl)
theorem dJ9_charAt_16 : decode cJ9_charAt 16 = .ok (.aload_n 0, 1) := dk_42 (dk_at dksJ9_charAt_0 16 rfl rfl)
theorem dJ9_charAt_17 : decode cJ9_charAt 17 = .ok (.getfield 9, 3) := dk_180 0 9 (dk_at dksJ9_charAt_0 17 rfl rfl)
theorem dJ9_charAt_20 : decode cJ9_charAt 20 = .ok (.iload_n 1, 1) := dk_27 (dk_at dksJ9_charAt_0 20 rfl rfl)
theorem dJ9_charAt_21 : decode cJ9_charAt 21 = .ok (.invokestatic 498, 3) := dk_184 1 242 (dk_at dksJ9_charAt_0 21 rfl rfl)
theorem dJ9_charAt_24 : decode cJ9_charAt 24 = .ok (.ireturn, 1) := dk_172 (dk_at dksJ9_charAt_1 0 rfl rfl)
theorem q73 : (Jvm.Cond.initialized "java/lang/String") ∈ lw_all := lw_g (lw_at lw_m1 11 rfl) rfl
theorem q195 : (Jvm.Cond.laysStatic "java/lang/String" "COMPACT_STRINGS" "Z") ∈ lw_tbl := lw_at lw_m1 133 rfl
theorem q205 : (Jvm.Cond.fieldLink "java/lang/String" (1048 : Nat) "java/lang/AbstractStringBuilder" "maybeLatin1" "Z") ∈ lw_all := lw_g (lw_at lw_m1 143 rfl) rfl
theorem q279 : (Jvm.Cond.static ({ cls := "java/lang/String", name := "checkBoundsBeginEnd", desc := "(III)V" } : Jvm.MethodName)) ∈ lw_all := lw_g (lw_at lw_m1 217 rfl) rfl
theorem q280 : (Jvm.Cond.code ({ cls := "java/lang/String", name := "checkBoundsBeginEnd", desc := "(III)V" } : Jvm.MethodName) prog_51_method_158_code (3 : Nat) (Option.none : Option Jvm.ClassFile.FieldType)) ∈ lw_all := lw_g (lw_at lw_m1 218 rfl) rfl
theorem q281 : (Jvm.Cond.fieldLink "java/lang/String" (1053 : Nat) "jdk/internal/util/Preconditions" "SIOOBE_FORMATTER" "Ljava/util/function/BiFunction;") ∈ lw_all := lw_g (lw_at lw_m1 219 rfl) rfl
theorem q283 : (Jvm.Cond.methodLink "java/lang/String" (1062 : Nat) ({ cls := "jdk/internal/util/Preconditions", name := "checkFromToIndex", desc := "(IIILjava/util/function/BiFunction;)I" } : Jvm.MethodName)) ∈ lw_all := lw_g (lw_at lw_m1 221 rfl) rfl
theorem q296 : (Jvm.Cond.instanceMethod ({ cls := "java/lang/String", name := "length", desc := "()I" } : Jvm.MethodName)) ∈ lw_all := lw_g (lw_at lw_m1 234 rfl) rfl
theorem q297 : (Jvm.Cond.selects "java/lang/String" ({ cls := "java/lang/String", name := "length", desc := "()I" } : Jvm.MethodName) ({ cls := "java/lang/String", name := "length", desc := "()I" } : Jvm.MethodName)) ∈ lw_all := lw_g (lw_at lw_m1 235 rfl) rfl
theorem q298 : (Jvm.Cond.code ({ cls := "java/lang/String", name := "length", desc := "()I" } : Jvm.MethodName) prog_51_method_54_code (1 : Nat) (Option.some Jvm.ClassFile.FieldType.int)) ∈ lw_all := lw_g (lw_at lw_m1 236 rfl) rfl
theorem q299 : (Jvm.Cond.methodLink "java/lang/String" (335 : Nat) ({ cls := "java/lang/String", name := "coder", desc := "()B" } : Jvm.MethodName)) ∈ lw_all := lw_g (lw_at lw_m1 237 rfl) rfl
theorem q300 : (Jvm.Cond.instanceMethod ({ cls := "java/lang/String", name := "coder", desc := "()B" } : Jvm.MethodName)) ∈ lw_all := lw_g (lw_at lw_m1 238 rfl) rfl
theorem q301 : (Jvm.Cond.selects "java/lang/String" ({ cls := "java/lang/String", name := "coder", desc := "()B" } : Jvm.MethodName) ({ cls := "java/lang/String", name := "coder", desc := "()B" } : Jvm.MethodName)) ∈ lw_all := lw_g (lw_at lw_m1 239 rfl) rfl
theorem q302 : (Jvm.Cond.code ({ cls := "java/lang/String", name := "coder", desc := "()B" } : Jvm.MethodName) prog_51_method_152_code (1 : Nat) (Option.some Jvm.ClassFile.FieldType.byte)) ∈ lw_all := lw_g (lw_at lw_m2 0 rfl) rfl
theorem q303 : (Jvm.Cond.fieldLink "java/lang/String" (38 : Nat) "java/lang/String" "COMPACT_STRINGS" "Z") ∈ lw_all := lw_g (lw_at lw_m2 1 rfl) rfl
theorem q327 : (Jvm.Cond.static ({ cls := "java/lang/String", name := "checkBoundsOffCount", desc := "(III)I" } : Jvm.MethodName)) ∈ lw_all := lw_g (lw_at lw_m2 25 rfl) rfl
theorem q328 : (Jvm.Cond.code ({ cls := "java/lang/String", name := "checkBoundsOffCount", desc := "(III)I" } : Jvm.MethodName) prog_51_method_157_code (3 : Nat) (Option.some Jvm.ClassFile.FieldType.int)) ∈ lw_all := lw_g (lw_at lw_m2 26 rfl) rfl
theorem q329 : (Jvm.Cond.methodLink "java/lang/String" (1065 : Nat) ({ cls := "jdk/internal/util/Preconditions", name := "checkFromIndexSize", desc := "(IIILjava/util/function/BiFunction;)I" } : Jvm.MethodName)) ∈ lw_all := lw_g (lw_at lw_m2 27 rfl) rfl
theorem q333 : (Jvm.Cond.instanceMethod ({ cls := "java/lang/String", name := "getBytes", desc := "([BIB)V" } : Jvm.MethodName)) ∈ lw_all := lw_g (lw_at lw_m2 31 rfl) rfl
theorem q334 : (Jvm.Cond.selects "java/lang/String" ({ cls := "java/lang/String", name := "getBytes", desc := "([BIB)V" } : Jvm.MethodName) ({ cls := "java/lang/String", name := "getBytes", desc := "([BIB)V" } : Jvm.MethodName)) ∈ lw_all := lw_g (lw_at lw_m2 32 rfl) rfl
theorem q335 : (Jvm.Cond.code ({ cls := "java/lang/String", name := "getBytes", desc := "([BIB)V" } : Jvm.MethodName) prog_51_method_147_code (4 : Nat) (Option.none : Option Jvm.ClassFile.FieldType)) ∈ lw_all := lw_g (lw_at lw_m2 33 rfl) rfl
theorem q336 : (Jvm.Cond.methodLink "java/lang/String" (212 : Nat) ({ cls := "java/lang/System", name := "arraycopy", desc := "(Ljava/lang/Object;ILjava/lang/Object;II)V" } : Jvm.MethodName)) ∈ lw_all := lw_g (lw_at lw_m2 34 rfl) rfl
theorem q337 : (Jvm.Cond.methodLink "java/lang/String" (106 : Nat) ({ cls := "java/lang/StringLatin1", name := "inflate", desc := "([BI[BII)V" } : Jvm.MethodName)) ∈ lw_all := lw_g (lw_at lw_m2 35 rfl) rfl
theorem q368 : (Jvm.Cond.instantiable "java/lang/String" (4 : Nat)) ∈ lw_all := lw_g (lw_at lw_m2 66 rfl) rfl
theorem q370 : (Jvm.Cond.instanceMethod ({ cls := "java/lang/String", name := "<init>", desc := "(Ljava/lang/StringBuilder;)V" } : Jvm.MethodName)) ∈ lw_all := lw_g (lw_at lw_m2 68 rfl) rfl
theorem q371 : (Jvm.Cond.code ({ cls := "java/lang/String", name := "<init>", desc := "(Ljava/lang/StringBuilder;)V" } : Jvm.MethodName) prog_51_method_53_code (2 : Nat) (Option.none : Option Jvm.ClassFile.FieldType)) ∈ lw_all := lw_g (lw_at lw_m2 69 rfl) rfl
theorem q372 : (Jvm.Cond.methodLink "java/lang/String" (489 : Nat) ({ cls := "java/lang/String", name := "<init>", desc := "(Ljava/lang/AbstractStringBuilder;Ljava/lang/Void;)V" } : Jvm.MethodName)) ∈ lw_all := lw_g (lw_at lw_m2 70 rfl) rfl
theorem q373 : (Jvm.Cond.instanceMethod ({ cls := "java/lang/String", name := "<init>", desc := "(Ljava/lang/AbstractStringBuilder;Ljava/lang/Void;)V" } : Jvm.MethodName)) ∈ lw_all := lw_g (lw_at lw_m2 71 rfl) rfl
theorem q374 : (Jvm.Cond.code ({ cls := "java/lang/String", name := "<init>", desc := "(Ljava/lang/AbstractStringBuilder;Ljava/lang/Void;)V" } : Jvm.MethodName) prog_51_method_150_code (5 : Nat) (Option.none : Option Jvm.ClassFile.FieldType)) ∈ lw_all := lw_g (lw_at lw_m2 72 rfl) rfl
theorem q375 : (Jvm.Cond.methodLink "java/lang/String" (1 : Nat) ({ cls := "java/lang/Object", name := "<init>", desc := "()V" } : Jvm.MethodName)) ∈ lw_all := lw_g (lw_at lw_m2 73 rfl) rfl
theorem q376 : (Jvm.Cond.methodLink "java/lang/String" (552 : Nat) ({ cls := "java/lang/AbstractStringBuilder", name := "getValue", desc := "()[B" } : Jvm.MethodName)) ∈ lw_all := lw_g (lw_at lw_m2 74 rfl) rfl
theorem q381 : (Jvm.Cond.methodLink "java/lang/String" (549 : Nat) ({ cls := "java/lang/AbstractStringBuilder", name := "length", desc := "()I" } : Jvm.MethodName)) ∈ lw_all := lw_g (lw_at lw_m2 79 rfl) rfl
theorem q389 : (Jvm.Cond.methodLink "java/lang/String" (1047 : Nat) ({ cls := "java/lang/AbstractStringBuilder", name := "isLatin1", desc := "()Z" } : Jvm.MethodName)) ∈ lw_all := lw_g (lw_at lw_m2 87 rfl) rfl
theorem q390 : (Jvm.Cond.methodLink "java/lang/String" (54 : Nat) ({ cls := "java/util/Arrays", name := "copyOfRange", desc := "([BII)[B" } : Jvm.MethodName)) ∈ lw_all := lw_g (lw_at lw_m2 88 rfl) rfl
theorem q431 : (Jvm.Cond.methodLink "java/lang/String" (1051 : Nat) ({ cls := "java/lang/StringUTF16", name := "compress", desc := "([BII)[B" } : Jvm.MethodName)) ∈ lw_all := lw_g (lw_at lw_m2 129 rfl) rfl
theorem q441 : (Jvm.Cond.methodLink "java/lang/String" (47 : Nat) ({ cls := "java/lang/StringUTF16", name := "coderFromArrayLen", desc := "([BI)B" } : Jvm.MethodName)) ∈ lw_all := lw_g (lw_at lw_m2 139 rfl) rfl
theorem q444 : (Jvm.Cond.fieldLink "java/lang/String" (9 : Nat) "java/lang/String" "value" "[B") ∈ lw_all := lw_g (lw_at lw_m2 142 rfl) rfl
theorem q445 : (Jvm.Cond.fieldLink "java/lang/String" (15 : Nat) "java/lang/String" "coder" "B") ∈ lw_all := lw_g (lw_at lw_m2 143 rfl) rfl
theorem q446 : (Jvm.Cond.fieldLink "java/lang/String" (19 : Nat) "java/lang/String" "hash" "I") ∈ lw_all := lw_g (lw_at lw_m2 144 rfl) rfl
theorem q447 : (Jvm.Cond.fieldLink "java/lang/String" (23 : Nat) "java/lang/String" "hashIsZero" "Z") ∈ lw_all := lw_g (lw_at lw_m2 145 rfl) rfl
theorem q448 : (Jvm.Cond.laysFinal "java/lang/String" "java/lang/String" "value" "[B") ∈ lw_all := lw_g (lw_at lw_m2 146 rfl) rfl
theorem q449 : (Jvm.Cond.soleField "java/lang/String" "value") ∈ lw_all := lw_g (lw_at lw_m2 147 rfl) rfl
theorem q450 : (Jvm.Cond.laysFinal "java/lang/String" "java/lang/String" "coder" "B") ∈ lw_all := lw_g (lw_at lw_m2 148 rfl) rfl
theorem q451 : (Jvm.Cond.soleField "java/lang/String" "coder") ∈ lw_all := lw_g (lw_at lw_m2 149 rfl) rfl
theorem q452 : (Jvm.Cond.lays "java/lang/String" "java/lang/String" "hash" "I") ∈ lw_all := lw_g (lw_at lw_m2 150 rfl) rfl
theorem q453 : (Jvm.Cond.soleField "java/lang/String" "hash") ∈ lw_all := lw_g (lw_at lw_m2 151 rfl) rfl
theorem q454 : (Jvm.Cond.lays "java/lang/String" "java/lang/String" "hashIsZero" "Z") ∈ lw_all := lw_g (lw_at lw_m2 152 rfl) rfl
theorem q455 : (Jvm.Cond.soleField "java/lang/String" "hashIsZero") ∈ lw_all := lw_g (lw_at lw_m2 153 rfl) rfl
theorem q456 : (Jvm.Cond.superclass "java/lang/String" "java/lang/Object") ∈ lw_all := lw_g (lw_at lw_m2 154 rfl) rfl
theorem q703 : (Jvm.Cond.static ({ cls := "java/lang/String", name := "checkIndex", desc := "(II)V" } : Jvm.MethodName)) ∈ lw_all := lw_g (lw_at lw_m3 161 rfl) rfl
theorem q704 : (Jvm.Cond.code ({ cls := "java/lang/String", name := "checkIndex", desc := "(II)V" } : Jvm.MethodName) prog_51_method_155_code (2 : Nat) (Option.none : Option Jvm.ClassFile.FieldType)) ∈ lw_all := lw_g (lw_at lw_m3 162 rfl) rfl
theorem q705 : (Jvm.Cond.methodLink "java/lang/String" (1059 : Nat) ({ cls := "jdk/internal/util/Preconditions", name := "checkIndex", desc := "(IILjava/util/function/BiFunction;)I" } : Jvm.MethodName)) ∈ lw_all := lw_g (lw_at lw_m3 163 rfl) rfl
theorem q784 : (Jvm.Cond.instanceMethod ({ cls := "java/lang/String", name := "equals", desc := "(Ljava/lang/Object;)Z" } : Jvm.MethodName)) ∈ lw_all := lw_g (lw_at lw_m4 2 rfl) rfl
theorem q785 : (Jvm.Cond.selects "java/lang/String" ({ cls := "java/lang/String", name := "equals", desc := "(Ljava/lang/Object;)Z" } : Jvm.MethodName) ({ cls := "java/lang/String", name := "equals", desc := "(Ljava/lang/Object;)Z" } : Jvm.MethodName)) ∈ lw_all := lw_g (lw_at lw_m4 3 rfl) rfl
theorem q786 : (Jvm.Cond.code ({ cls := "java/lang/String", name := "equals", desc := "(Ljava/lang/Object;)Z" } : Jvm.MethodName) prog_51_method_66_code (3 : Nat) (Option.some Jvm.ClassFile.FieldType.boolean)) ∈ lw_all := lw_g (lw_at lw_m4 4 rfl) rfl
theorem q787 : (Jvm.Cond.classLink "java/lang/String" (10 : Nat) "java/lang/String") ∈ lw_all := lw_g (lw_at lw_m4 5 rfl) rfl
theorem q788 : (Jvm.Cond.methodLink "java/lang/String" (541 : Nat) ({ cls := "java/lang/StringLatin1", name := "equals", desc := "([B[B)Z" } : Jvm.MethodName)) ∈ lw_all := lw_g (lw_at lw_m4 6 rfl) rfl
theorem q988 : (Jvm.Cond.instanceMethod ({ cls := "java/lang/String", name := "hashCode", desc := "()I" } : Jvm.MethodName)) ∈ lw_all := lw_g (lw_at lw_m4 206 rfl) rfl
theorem q989 : (Jvm.Cond.selects "java/lang/String" ({ cls := "java/lang/String", name := "hashCode", desc := "()I" } : Jvm.MethodName) ({ cls := "java/lang/String", name := "hashCode", desc := "()I" } : Jvm.MethodName)) ∈ lw_all := lw_g (lw_at lw_m4 207 rfl) rfl
theorem q990 : (Jvm.Cond.code ({ cls := "java/lang/String", name := "hashCode", desc := "()I" } : Jvm.MethodName) prog_51_method_78_code (2 : Nat) (Option.some Jvm.ClassFile.FieldType.int)) ∈ lw_all := lw_g (lw_at lw_m4 208 rfl) rfl
theorem q991 : (Jvm.Cond.methodLink "java/lang/String" (492 : Nat) ({ cls := "java/lang/String", name := "isLatin1", desc := "()Z" } : Jvm.MethodName)) ∈ lw_all := lw_g (lw_at lw_m4 209 rfl) rfl
theorem q992 : (Jvm.Cond.instanceMethod ({ cls := "java/lang/String", name := "isLatin1", desc := "()Z" } : Jvm.MethodName)) ∈ lw_all := lw_g (lw_at lw_m4 210 rfl) rfl
theorem q993 : (Jvm.Cond.selects "java/lang/String" ({ cls := "java/lang/String", name := "isLatin1", desc := "()Z" } : Jvm.MethodName) ({ cls := "java/lang/String", name := "isLatin1", desc := "()Z" } : Jvm.MethodName)) ∈ lw_all := lw_g (lw_at lw_m4 211 rfl) rfl
theorem q994 : (Jvm.Cond.code ({ cls := "java/lang/String", name := "isLatin1", desc := "()Z" } : Jvm.MethodName) prog_51_method_154_code (1 : Nat) (Option.some Jvm.ClassFile.FieldType.boolean)) ∈ lw_all := lw_g (lw_at lw_m4 212 rfl) rfl
theorem q995 : (Jvm.Cond.methodLink "java/lang/String" (628 : Nat) ({ cls := "java/lang/StringLatin1", name := "hashCode", desc := "([B)I" } : Jvm.MethodName)) ∈ lw_all := lw_g (lw_at lw_m4 213 rfl) rfl
theorem q1044 : (Jvm.Cond.methodLink "java/lang/String" (632 : Nat) ({ cls := "java/lang/StringUTF16", name := "hashCode", desc := "([B)I" } : Jvm.MethodName)) ∈ lw_all := lw_g (lw_at lw_m5 22 rfl) rfl
theorem q1181 : (Jvm.Cond.selects "java/lang/String" ({ cls := "java/lang/Object", name := "getClass", desc := "()Ljava/lang/Class;" } : Jvm.MethodName) ({ cls := "java/lang/Object", name := "getClass", desc := "()Ljava/lang/Class;" } : Jvm.MethodName)) ∈ lw_all := lw_g (lw_at lw_m5 159 rfl) rfl
theorem q1975 : (Jvm.Cond.instanceMethod ({ cls := "java/lang/String", name := "charAt", desc := "(I)C" } : Jvm.MethodName)) ∈ lw_all := lw_g (lw_at lw_m8 233 rfl) rfl
theorem q1976 : (Jvm.Cond.selects "java/lang/String" ({ cls := "java/lang/String", name := "charAt", desc := "(I)C" } : Jvm.MethodName) ({ cls := "java/lang/String", name := "charAt", desc := "(I)C" } : Jvm.MethodName)) ∈ lw_all := lw_g (lw_at lw_m8 234 rfl) rfl
theorem q1977 : (Jvm.Cond.code ({ cls := "java/lang/String", name := "charAt", desc := "(I)C" } : Jvm.MethodName) prog_51_method_56_code (2 : Nat) (Option.some Jvm.ClassFile.FieldType.char)) ∈ lw_all := lw_g (lw_at lw_m8 235 rfl) rfl
theorem q1978 : (Jvm.Cond.methodLink "java/lang/String" (495 : Nat) ({ cls := "java/lang/StringLatin1", name := "charAt", desc := "([BI)C" } : Jvm.MethodName)) ∈ lw_all := lw_g (lw_at lw_m8 236 rfl) rfl
theorem q1982 : (Jvm.Cond.methodLink "java/lang/String" (498 : Nat) ({ cls := "java/lang/StringUTF16", name := "charAt", desc := "([BI)C" } : Jvm.MethodName)) ∈ lw_all := lw_g (lw_at lw_m9 0 rfl) rfl
theorem q2257 : (Jvm.Cond.castable "java/lang/String" "java/lang/Object") ∈ lw_tbl := lw_at lw_m10 35 rfl
theorem in_J9 : ∀ w ∈ wsJ90, w ∈ lw_all := lw_in wsJ90 [448, 450, 452, 454] (by decide +kernel) (by decide +kernel)
/-! java/lang/StringUTF16 -/
set_option maxRecDepth 100000
def RJ10 : String := "java/lang/StringUTF16"
abbrev cJ10_newBytesFor : ByteArray := prog_54_method_2_code
def yJ10_newBytesFor : MethodName := ⟨RJ10, "newBytesFor", "(I)[B"⟩
def dkwJ10_newBytesFor_0 : List UInt8 := [26, 184, 0, 11, 188, 8, 176]
abbrev dktJ10_newBytesFor_0 : List UInt8 := dkwJ10_newBytesFor_0 ++ []
theorem dksJ10_newBytesFor_0 : cJ10_newBytesFor.data.toList.drop 0 = dktJ10_newBytesFor_0 := by decide +kernel
theorem dJ10_newBytesFor_0 : decode cJ10_newBytesFor 0 = .ok (.iload_n 0, 1) := dk_26 (dk_at dksJ10_newBytesFor_0 0 rfl rfl)
theorem dJ10_newBytesFor_1 : decode cJ10_newBytesFor 1 = .ok (.invokestatic 11, 3) := dk_184 0 11 (dk_at dksJ10_newBytesFor_0 1 rfl rfl)
theorem dJ10_newBytesFor_4 : decode cJ10_newBytesFor 4 = .ok (.newarray .byte, 2) := dk_188_8 (dk_at dksJ10_newBytesFor_0 4 rfl rfl)
theorem dJ10_newBytesFor_6 : decode cJ10_newBytesFor 6 = .ok (.areturn, 1) := dk_176 (dk_at dksJ10_newBytesFor_0 6 rfl rfl)
abbrev cJ10_newBytesLength : ByteArray := prog_54_method_3_code
def yJ10_newBytesLength : MethodName := ⟨RJ10, "newBytesLength", "(I)I"⟩
def dkwJ10_newBytesLength_2 : List UInt8 := [182, 0, 32, 182, 0, 37, 183, 0, 41, 191, 26, 4, 120, 172]
abbrev dktJ10_newBytesLength_2 : List UInt8 := dkwJ10_newBytesLength_2 ++ []
def dkwJ10_newBytesLength_1 : List UInt8 := [187, 0, 23, 89, 183, 0, 25, 18, 26, 182, 0, 28, 26, 182, 0, 32, 18, 35, 182, 0, 28, 18, 20]
abbrev dktJ10_newBytesLength_1 : List UInt8 := dkwJ10_newBytesLength_1 ++ dktJ10_newBytesLength_2
def dkwJ10_newBytesLength_0 : List UInt8 := [26, 156, 0, 11, 187, 0, 17, 89, 183, 0, 19, 191, 26, 18, 20, 161, 0, 40, 187, 0, 21, 89]
abbrev dktJ10_newBytesLength_0 : List UInt8 := dkwJ10_newBytesLength_0 ++ dktJ10_newBytesLength_1
theorem dksJ10_newBytesLength_0 : cJ10_newBytesLength.data.toList.drop 0 = dktJ10_newBytesLength_0 := by decide +kernel
theorem dksJ10_newBytesLength_1 : cJ10_newBytesLength.data.toList.drop 22 = dktJ10_newBytesLength_1 := dk_seg dksJ10_newBytesLength_0 22 rfl rfl
theorem dksJ10_newBytesLength_2 : cJ10_newBytesLength.data.toList.drop 45 = dktJ10_newBytesLength_2 := dk_seg dksJ10_newBytesLength_1 23 rfl rfl
theorem dJ10_newBytesLength_0 : decode cJ10_newBytesLength 0 = .ok (.iload_n 0, 1) := dk_26 (dk_at dksJ10_newBytesLength_0 0 rfl rfl)
theorem dJ10_newBytesLength_1 : decode cJ10_newBytesLength 1 = .ok (.ifCond .ge 11, 3) := dk_156 0 11 (dk_at dksJ10_newBytesLength_0 1 rfl rfl)
theorem dJ10_newBytesLength_4 : decode cJ10_newBytesLength 4 = .ok (.new 17, 3) := dk_187 0 17 (dk_at dksJ10_newBytesLength_0 4 rfl rfl)
theorem dJ10_newBytesLength_7 : decode cJ10_newBytesLength 7 = .ok (.dup, 1) := dk_89 (dk_at dksJ10_newBytesLength_0 7 rfl rfl)
theorem dJ10_newBytesLength_8 : decode cJ10_newBytesLength 8 = .ok (.invokespecial 19, 3) := dk_183 0 19 (dk_at dksJ10_newBytesLength_0 8 rfl rfl)
theorem dJ10_newBytesLength_11 : decode cJ10_newBytesLength 11 = .ok (.athrow, 1) := dk_191 (dk_at dksJ10_newBytesLength_0 11 rfl rfl)
theorem dJ10_newBytesLength_12 : decode cJ10_newBytesLength 12 = .ok (.iload_n 0, 1) := dk_26 (dk_at dksJ10_newBytesLength_0 12 rfl rfl)
theorem dJ10_newBytesLength_13 : decode cJ10_newBytesLength 13 = .ok (.ldc 20, 2) := dk_18 20 (dk_at dksJ10_newBytesLength_0 13 rfl rfl)
theorem dJ10_newBytesLength_15 : decode cJ10_newBytesLength 15 = .ok (.if_icmp .lt 40, 3) := dk_161 0 40 (dk_at dksJ10_newBytesLength_0 15 rfl rfl)
theorem dJ10_newBytesLength_18 : decode cJ10_newBytesLength 18 = .ok (.new 21, 3) := dk_187 0 21 (dk_at dksJ10_newBytesLength_0 18 rfl rfl)
theorem dJ10_newBytesLength_21 : decode cJ10_newBytesLength 21 = .ok (.dup, 1) := dk_89 (dk_at dksJ10_newBytesLength_0 21 rfl rfl)
theorem dJ10_newBytesLength_22 : decode cJ10_newBytesLength 22 = .ok (.new 23, 3) := dk_187 0 23 (dk_at dksJ10_newBytesLength_1 0 rfl rfl)
theorem dJ10_newBytesLength_25 : decode cJ10_newBytesLength 25 = .ok (.dup, 1) := dk_89 (dk_at dksJ10_newBytesLength_1 3 rfl rfl)
theorem dJ10_newBytesLength_26 : decode cJ10_newBytesLength 26 = .ok (.invokespecial 25, 3) := dk_183 0 25 (dk_at dksJ10_newBytesLength_1 4 rfl rfl)
theorem dJ10_newBytesLength_29 : decode cJ10_newBytesLength 29 = .ok (.ldc 26, 2) := dk_18 26 (dk_at dksJ10_newBytesLength_1 7 rfl rfl)
theorem dJ10_newBytesLength_31 : decode cJ10_newBytesLength 31 = .ok (.invokevirtual 28, 3) := dk_182 0 28 (dk_at dksJ10_newBytesLength_1 9 rfl rfl)
theorem dJ10_newBytesLength_34 : decode cJ10_newBytesLength 34 = .ok (.iload_n 0, 1) := dk_26 (dk_at dksJ10_newBytesLength_1 12 rfl rfl)
theorem dJ10_newBytesLength_35 : decode cJ10_newBytesLength 35 = .ok (.invokevirtual 32, 3) := dk_182 0 32 (dk_at dksJ10_newBytesLength_1 13 rfl rfl)
theorem dJ10_newBytesLength_38 : decode cJ10_newBytesLength 38 = .ok (.ldc 35, 2) := dk_18 35 (dk_at dksJ10_newBytesLength_1 16 rfl rfl)
theorem dJ10_newBytesLength_40 : decode cJ10_newBytesLength 40 = .ok (.invokevirtual 28, 3) := dk_182 0 28 (dk_at dksJ10_newBytesLength_1 18 rfl rfl)
theorem dJ10_newBytesLength_43 : decode cJ10_newBytesLength 43 = .ok (.ldc 20, 2) := dk_18 20 (dk_at dksJ10_newBytesLength_1 21 rfl rfl)
theorem dJ10_newBytesLength_45 : decode cJ10_newBytesLength 45 = .ok (.invokevirtual 32, 3) := dk_182 0 32 (dk_at dksJ10_newBytesLength_2 0 rfl rfl)
theorem dJ10_newBytesLength_48 : decode cJ10_newBytesLength 48 = .ok (.invokevirtual 37, 3) := dk_182 0 37 (dk_at dksJ10_newBytesLength_2 3 rfl rfl)
theorem dJ10_newBytesLength_51 : decode cJ10_newBytesLength 51 = .ok (.invokespecial 41, 3) := dk_183 0 41 (dk_at dksJ10_newBytesLength_2 6 rfl rfl)
theorem dJ10_newBytesLength_54 : decode cJ10_newBytesLength 54 = .ok (.athrow, 1) := dk_191 (dk_at dksJ10_newBytesLength_2 9 rfl rfl)
theorem dJ10_newBytesLength_55 : decode cJ10_newBytesLength 55 = .ok (.iload_n 0, 1) := dk_26 (dk_at dksJ10_newBytesLength_2 10 rfl rfl)
theorem dJ10_newBytesLength_56 : decode cJ10_newBytesLength 56 = .ok (.iconst 1, 1) := dk_4 (dk_at dksJ10_newBytesLength_2 11 rfl rfl)
theorem dJ10_newBytesLength_57 : decode cJ10_newBytesLength 57 = .ok (.ishl, 1) := dk_120 (dk_at dksJ10_newBytesLength_2 12 rfl rfl)
theorem dJ10_newBytesLength_58 : decode cJ10_newBytesLength 58 = .ok (.ireturn, 1) := dk_172 (dk_at dksJ10_newBytesLength_2 13 rfl rfl)
abbrev cJ10_putCharsAt : ByteArray := prog_54_method_81_code
def yJ10_putCharsAt : MethodName := ⟨RJ10, "putCharsAt", "([BICCCC)I"⟩
def dkwJ10_putCharsAt_3 : List UInt8 := [21, 6, 172]
abbrev dktJ10_putCharsAt_3 : List UInt8 := dkwJ10_putCharsAt_3 ++ []
def dkwJ10_putCharsAt_2 : List UInt8 := [184, 0, 111, 178, 0, 44, 154, 0, 17, 27, 21, 6, 159, 0, 11, 187, 0, 52, 89, 183, 0, 66, 191]
abbrev dktJ10_putCharsAt_2 : List UInt8 := dkwJ10_putCharsAt_2 ++ dktJ10_putCharsAt_3
def dkwJ10_putCharsAt_1 : List UInt8 := [132, 1, 1, 29, 184, 0, 111, 42, 27, 132, 1, 1, 21, 4, 184, 0, 111, 42, 27, 132, 1, 1, 21, 5]
abbrev dktJ10_putCharsAt_1 : List UInt8 := dkwJ10_putCharsAt_1 ++ dktJ10_putCharsAt_2
def dkwJ10_putCharsAt_0 : List UInt8 := [27, 7, 96, 54, 6, 27, 21, 6, 42, 184, 0, 96, 42, 27, 132, 1, 1, 28, 184, 0, 111, 42, 27]
abbrev dktJ10_putCharsAt_0 : List UInt8 := dkwJ10_putCharsAt_0 ++ dktJ10_putCharsAt_1
theorem dksJ10_putCharsAt_0 : cJ10_putCharsAt.data.toList.drop 0 = dktJ10_putCharsAt_0 := by decide +kernel
theorem dksJ10_putCharsAt_1 : cJ10_putCharsAt.data.toList.drop 23 = dktJ10_putCharsAt_1 := dk_seg dksJ10_putCharsAt_0 23 rfl rfl
theorem dksJ10_putCharsAt_2 : cJ10_putCharsAt.data.toList.drop 47 = dktJ10_putCharsAt_2 := dk_seg dksJ10_putCharsAt_1 24 rfl rfl
theorem dksJ10_putCharsAt_3 : cJ10_putCharsAt.data.toList.drop 70 = dktJ10_putCharsAt_3 := dk_seg dksJ10_putCharsAt_2 23 rfl rfl
theorem dJ10_putCharsAt_0 : decode cJ10_putCharsAt 0 = .ok (.iload_n 1, 1) := dk_27 (dk_at dksJ10_putCharsAt_0 0 rfl rfl)
theorem dJ10_putCharsAt_1 : decode cJ10_putCharsAt 1 = .ok (.iconst 4, 1) := dk_7 (dk_at dksJ10_putCharsAt_0 1 rfl rfl)
theorem dJ10_putCharsAt_2 : decode cJ10_putCharsAt 2 = .ok (.iadd, 1) := dk_96 (dk_at dksJ10_putCharsAt_0 2 rfl rfl)
theorem dJ10_putCharsAt_3 : decode cJ10_putCharsAt 3 = .ok (.istore 6, 2) := dk_54 6 (dk_at dksJ10_putCharsAt_0 3 rfl rfl)
theorem dJ10_putCharsAt_5 : decode cJ10_putCharsAt 5 = .ok (.iload_n 1, 1) := dk_27 (dk_at dksJ10_putCharsAt_0 5 rfl rfl)
theorem dJ10_putCharsAt_6 : decode cJ10_putCharsAt 6 = .ok (.iload 6, 2) := dk_21 6 (dk_at dksJ10_putCharsAt_0 6 rfl rfl)
theorem dJ10_putCharsAt_8 : decode cJ10_putCharsAt 8 = .ok (.aload_n 0, 1) := dk_42 (dk_at dksJ10_putCharsAt_0 8 rfl rfl)
theorem dJ10_putCharsAt_9 : decode cJ10_putCharsAt 9 = .ok (.invokestatic 96, 3) := dk_184 0 96 (dk_at dksJ10_putCharsAt_0 9 rfl rfl)
theorem dJ10_putCharsAt_12 : decode cJ10_putCharsAt 12 = .ok (.aload_n 0, 1) := dk_42 (dk_at dksJ10_putCharsAt_0 12 rfl rfl)
theorem dJ10_putCharsAt_13 : decode cJ10_putCharsAt 13 = .ok (.iload_n 1, 1) := dk_27 (dk_at dksJ10_putCharsAt_0 13 rfl rfl)
theorem dJ10_putCharsAt_14 : decode cJ10_putCharsAt 14 = .ok (.iinc 1 1, 3) := dk_132 1 1 (dk_at dksJ10_putCharsAt_0 14 rfl rfl)
theorem dJ10_putCharsAt_17 : decode cJ10_putCharsAt 17 = .ok (.iload_n 2, 1) := dk_28 (dk_at dksJ10_putCharsAt_0 17 rfl rfl)
theorem dJ10_putCharsAt_18 : decode cJ10_putCharsAt 18 = .ok (.invokestatic 111, 3) := dk_184 0 111 (dk_at dksJ10_putCharsAt_0 18 rfl rfl)
theorem dJ10_putCharsAt_21 : decode cJ10_putCharsAt 21 = .ok (.aload_n 0, 1) := dk_42 (dk_at dksJ10_putCharsAt_0 21 rfl rfl)
theorem dJ10_putCharsAt_22 : decode cJ10_putCharsAt 22 = .ok (.iload_n 1, 1) := dk_27 (dk_at dksJ10_putCharsAt_0 22 rfl rfl)
theorem dJ10_putCharsAt_23 : decode cJ10_putCharsAt 23 = .ok (.iinc 1 1, 3) := dk_132 1 1 (dk_at dksJ10_putCharsAt_1 0 rfl rfl)
theorem dJ10_putCharsAt_26 : decode cJ10_putCharsAt 26 = .ok (.iload_n 3, 1) := dk_29 (dk_at dksJ10_putCharsAt_1 3 rfl rfl)
theorem dJ10_putCharsAt_27 : decode cJ10_putCharsAt 27 = .ok (.invokestatic 111, 3) := dk_184 0 111 (dk_at dksJ10_putCharsAt_1 4 rfl rfl)
theorem dJ10_putCharsAt_30 : decode cJ10_putCharsAt 30 = .ok (.aload_n 0, 1) := dk_42 (dk_at dksJ10_putCharsAt_1 7 rfl rfl)
theorem dJ10_putCharsAt_31 : decode cJ10_putCharsAt 31 = .ok (.iload_n 1, 1) := dk_27 (dk_at dksJ10_putCharsAt_1 8 rfl rfl)
theorem dJ10_putCharsAt_32 : decode cJ10_putCharsAt 32 = .ok (.iinc 1 1, 3) := dk_132 1 1 (dk_at dksJ10_putCharsAt_1 9 rfl rfl)
theorem dJ10_putCharsAt_35 : decode cJ10_putCharsAt 35 = .ok (.iload 4, 2) := dk_21 4 (dk_at dksJ10_putCharsAt_1 12 rfl rfl)
theorem dJ10_putCharsAt_37 : decode cJ10_putCharsAt 37 = .ok (.invokestatic 111, 3) := dk_184 0 111 (dk_at dksJ10_putCharsAt_1 14 rfl rfl)
theorem dJ10_putCharsAt_40 : decode cJ10_putCharsAt 40 = .ok (.aload_n 0, 1) := dk_42 (dk_at dksJ10_putCharsAt_1 17 rfl rfl)
theorem dJ10_putCharsAt_41 : decode cJ10_putCharsAt 41 = .ok (.iload_n 1, 1) := dk_27 (dk_at dksJ10_putCharsAt_1 18 rfl rfl)
theorem dJ10_putCharsAt_42 : decode cJ10_putCharsAt 42 = .ok (.iinc 1 1, 3) := dk_132 1 1 (dk_at dksJ10_putCharsAt_1 19 rfl rfl)
theorem dJ10_putCharsAt_45 : decode cJ10_putCharsAt 45 = .ok (.iload 5, 2) := dk_21 5 (dk_at dksJ10_putCharsAt_1 22 rfl rfl)
theorem dJ10_putCharsAt_47 : decode cJ10_putCharsAt 47 = .ok (.invokestatic 111, 3) := dk_184 0 111 (dk_at dksJ10_putCharsAt_2 0 rfl rfl)
theorem dJ10_putCharsAt_50 : decode cJ10_putCharsAt 50 = .ok (.getstatic 44, 3) := dk_178 0 44 (dk_at dksJ10_putCharsAt_2 3 rfl rfl)
theorem dJ10_putCharsAt_53 : decode cJ10_putCharsAt 53 = .ok (.ifCond .ne 17, 3) := dk_154 0 17 (dk_at dksJ10_putCharsAt_2 6 rfl rfl)
theorem dJ10_putCharsAt_56 : decode cJ10_putCharsAt 56 = .ok (.iload_n 1, 1) := dk_27 (dk_at dksJ10_putCharsAt_2 9 rfl rfl)
theorem dJ10_putCharsAt_57 : decode cJ10_putCharsAt 57 = .ok (.iload 6, 2) := dk_21 6 (dk_at dksJ10_putCharsAt_2 10 rfl rfl)
theorem dJ10_putCharsAt_59 : decode cJ10_putCharsAt 59 = .ok (.if_icmp .eq 11, 3) := dk_159 0 11 (dk_at dksJ10_putCharsAt_2 12 rfl rfl)
theorem dJ10_putCharsAt_62 : decode cJ10_putCharsAt 62 = .ok (.new 52, 3) := dk_187 0 52 (dk_at dksJ10_putCharsAt_2 15 rfl rfl)
theorem dJ10_putCharsAt_65 : decode cJ10_putCharsAt 65 = .ok (.dup, 1) := dk_89 (dk_at dksJ10_putCharsAt_2 18 rfl rfl)
theorem dJ10_putCharsAt_66 : decode cJ10_putCharsAt 66 = .ok (.invokespecial 66, 3) := dk_183 0 66 (dk_at dksJ10_putCharsAt_2 19 rfl rfl)
theorem dJ10_putCharsAt_69 : decode cJ10_putCharsAt 69 = .ok (.athrow, 1) := dk_191 (dk_at dksJ10_putCharsAt_2 22 rfl rfl)
theorem dJ10_putCharsAt_70 : decode cJ10_putCharsAt 70 = .ok (.iload 6, 2) := dk_21 6 (dk_at dksJ10_putCharsAt_3 0 rfl rfl)
theorem dJ10_putCharsAt_72 : decode cJ10_putCharsAt 72 = .ok (.ireturn, 1) := dk_172 (dk_at dksJ10_putCharsAt_3 2 rfl rfl)
abbrev cJ10_checkBoundsBeginEnd : ByteArray := prog_54_method_93_code
def yJ10_checkBoundsBeginEnd : MethodName := ⟨RJ10, "checkBoundsBeginEnd", "(II[B)V"⟩
def dkwJ10_checkBoundsBeginEnd_0 : List UInt8 := [26, 27, 44, 184, 0, 48, 184, 0, 241, 177]
abbrev dktJ10_checkBoundsBeginEnd_0 : List UInt8 := dkwJ10_checkBoundsBeginEnd_0 ++ []
theorem dksJ10_checkBoundsBeginEnd_0 : cJ10_checkBoundsBeginEnd.data.toList.drop 0 = dktJ10_checkBoundsBeginEnd_0 := by decide +kernel
theorem dJ10_checkBoundsBeginEnd_0 : decode cJ10_checkBoundsBeginEnd 0 = .ok (.iload_n 0, 1) := dk_26 (dk_at dksJ10_checkBoundsBeginEnd_0 0 rfl rfl)
theorem dJ10_checkBoundsBeginEnd_1 : decode cJ10_checkBoundsBeginEnd 1 = .ok (.iload_n 1, 1) := dk_27 (dk_at dksJ10_checkBoundsBeginEnd_0 1 rfl rfl)
theorem dJ10_checkBoundsBeginEnd_2 : decode cJ10_checkBoundsBeginEnd 2 = .ok (.aload_n 2, 1) := dk_44 (dk_at dksJ10_checkBoundsBeginEnd_0 2 rfl rfl)
theorem dJ10_checkBoundsBeginEnd_3 : decode cJ10_checkBoundsBeginEnd 3 = .ok (.invokestatic 48, 3) := dk_184 0 48 (dk_at dksJ10_checkBoundsBeginEnd_0 3 rfl rfl)
theorem dJ10_checkBoundsBeginEnd_6 : decode cJ10_checkBoundsBeginEnd 6 = .ok (.invokestatic 241, 3) := dk_184 0 241 (dk_at dksJ10_checkBoundsBeginEnd_0 6 rfl rfl)
theorem dJ10_checkBoundsBeginEnd_9 : decode cJ10_checkBoundsBeginEnd 9 = .ok (.return_, 1) := dk_177 (dk_at dksJ10_checkBoundsBeginEnd_0 9 rfl rfl)
abbrev cJ10_length : ByteArray := prog_54_method_6_code
def yJ10_length : MethodName := ⟨RJ10, "length", "([B)I"⟩
def dkwJ10_length_0 : List UInt8 := [42, 190, 4, 122, 172]
abbrev dktJ10_length_0 : List UInt8 := dkwJ10_length_0 ++ []
theorem dksJ10_length_0 : cJ10_length.data.toList.drop 0 = dktJ10_length_0 := by decide +kernel
theorem dJ10_length_0 : decode cJ10_length 0 = .ok (.aload_n 0, 1) := dk_42 (dk_at dksJ10_length_0 0 rfl rfl)
theorem dJ10_length_1 : decode cJ10_length 1 = .ok (.arraylength, 1) := dk_190 (dk_at dksJ10_length_0 1 rfl rfl)
theorem dJ10_length_2 : decode cJ10_length 2 = .ok (.iconst 1, 1) := dk_4 (dk_at dksJ10_length_0 2 rfl rfl)
theorem dJ10_length_3 : decode cJ10_length 3 = .ok (.ishr, 1) := dk_122 (dk_at dksJ10_length_0 3 rfl rfl)
theorem dJ10_length_4 : decode cJ10_length 4 = .ok (.ireturn, 1) := dk_172 (dk_at dksJ10_length_0 4 rfl rfl)
abbrev cJ10_putChar : ByteArray := prog_54_method_4_code
def yJ10_putChar : MethodName := ⟨RJ10, "putChar", "([BII)V"⟩
def dkwJ10_putChar_2 : List UInt8 := [178, 0, 63, 122, 145, 84, 177]
abbrev dktJ10_putChar_2 : List UInt8 := dkwJ10_putChar_2 ++ []
def dkwJ10_putChar_1 : List UInt8 := [183, 0, 56, 191, 27, 4, 120, 60, 42, 27, 132, 1, 1, 28, 178, 0, 59, 122, 145, 84, 42, 27, 28]
abbrev dktJ10_putChar_1 : List UInt8 := dkwJ10_putChar_1 ++ dktJ10_putChar_2
def dkwJ10_putChar_0 : List UInt8 := [178, 0, 44, 154, 0, 25, 27, 155, 0, 11, 27, 42, 184, 0, 48, 161, 0, 13, 187, 0, 52, 89, 18, 54]
abbrev dktJ10_putChar_0 : List UInt8 := dkwJ10_putChar_0 ++ dktJ10_putChar_1
theorem dksJ10_putChar_0 : cJ10_putChar.data.toList.drop 0 = dktJ10_putChar_0 := by decide +kernel
theorem dksJ10_putChar_1 : cJ10_putChar.data.toList.drop 24 = dktJ10_putChar_1 := dk_seg dksJ10_putChar_0 24 rfl rfl
theorem dksJ10_putChar_2 : cJ10_putChar.data.toList.drop 47 = dktJ10_putChar_2 := dk_seg dksJ10_putChar_1 23 rfl rfl
theorem dJ10_putChar_0 : decode cJ10_putChar 0 = .ok (.getstatic 44, 3) := dk_178 0 44 (dk_at dksJ10_putChar_0 0 rfl rfl)
theorem dJ10_putChar_3 : decode cJ10_putChar 3 = .ok (.ifCond .ne 25, 3) := dk_154 0 25 (dk_at dksJ10_putChar_0 3 rfl rfl)
theorem dJ10_putChar_6 : decode cJ10_putChar 6 = .ok (.iload_n 1, 1) := dk_27 (dk_at dksJ10_putChar_0 6 rfl rfl)
theorem dJ10_putChar_7 : decode cJ10_putChar 7 = .ok (.ifCond .lt 11, 3) := dk_155 0 11 (dk_at dksJ10_putChar_0 7 rfl rfl)
theorem dJ10_putChar_10 : decode cJ10_putChar 10 = .ok (.iload_n 1, 1) := dk_27 (dk_at dksJ10_putChar_0 10 rfl rfl)
theorem dJ10_putChar_11 : decode cJ10_putChar 11 = .ok (.aload_n 0, 1) := dk_42 (dk_at dksJ10_putChar_0 11 rfl rfl)
theorem dJ10_putChar_12 : decode cJ10_putChar 12 = .ok (.invokestatic 48, 3) := dk_184 0 48 (dk_at dksJ10_putChar_0 12 rfl rfl)
theorem dJ10_putChar_15 : decode cJ10_putChar 15 = .ok (.if_icmp .lt 13, 3) := dk_161 0 13 (dk_at dksJ10_putChar_0 15 rfl rfl)
theorem dJ10_putChar_18 : decode cJ10_putChar 18 = .ok (.new 52, 3) := dk_187 0 52 (dk_at dksJ10_putChar_0 18 rfl rfl)
theorem dJ10_putChar_21 : decode cJ10_putChar 21 = .ok (.dup, 1) := dk_89 (dk_at dksJ10_putChar_0 21 rfl rfl)
theorem dJ10_putChar_22 : decode cJ10_putChar 22 = .ok (.ldc 54, 2) := dk_18 54 (dk_at dksJ10_putChar_0 22 rfl rfl)
theorem dJ10_putChar_24 : decode cJ10_putChar 24 = .ok (.invokespecial 56, 3) := dk_183 0 56 (dk_at dksJ10_putChar_1 0 rfl rfl)
theorem dJ10_putChar_27 : decode cJ10_putChar 27 = .ok (.athrow, 1) := dk_191 (dk_at dksJ10_putChar_1 3 rfl rfl)
theorem dJ10_putChar_28 : decode cJ10_putChar 28 = .ok (.iload_n 1, 1) := dk_27 (dk_at dksJ10_putChar_1 4 rfl rfl)
theorem dJ10_putChar_29 : decode cJ10_putChar 29 = .ok (.iconst 1, 1) := dk_4 (dk_at dksJ10_putChar_1 5 rfl rfl)
theorem dJ10_putChar_30 : decode cJ10_putChar 30 = .ok (.ishl, 1) := dk_120 (dk_at dksJ10_putChar_1 6 rfl rfl)
theorem dJ10_putChar_31 : decode cJ10_putChar 31 = .ok (.istore_n 1, 1) := dk_60 (dk_at dksJ10_putChar_1 7 rfl rfl)
theorem dJ10_putChar_32 : decode cJ10_putChar 32 = .ok (.aload_n 0, 1) := dk_42 (dk_at dksJ10_putChar_1 8 rfl rfl)
theorem dJ10_putChar_33 : decode cJ10_putChar 33 = .ok (.iload_n 1, 1) := dk_27 (dk_at dksJ10_putChar_1 9 rfl rfl)
theorem dJ10_putChar_34 : decode cJ10_putChar 34 = .ok (.iinc 1 1, 3) := dk_132 1 1 (dk_at dksJ10_putChar_1 10 rfl rfl)
theorem dJ10_putChar_37 : decode cJ10_putChar 37 = .ok (.iload_n 2, 1) := dk_28 (dk_at dksJ10_putChar_1 13 rfl rfl)
theorem dJ10_putChar_38 : decode cJ10_putChar 38 = .ok (.getstatic 59, 3) := dk_178 0 59 (dk_at dksJ10_putChar_1 14 rfl rfl)
theorem dJ10_putChar_41 : decode cJ10_putChar 41 = .ok (.ishr, 1) := dk_122 (dk_at dksJ10_putChar_1 17 rfl rfl)
theorem dJ10_putChar_42 : decode cJ10_putChar 42 = .ok (.i2b, 1) := dk_145 (dk_at dksJ10_putChar_1 18 rfl rfl)
theorem dJ10_putChar_43 : decode cJ10_putChar 43 = .ok (.bastore, 1) := dk_84 (dk_at dksJ10_putChar_1 19 rfl rfl)
theorem dJ10_putChar_44 : decode cJ10_putChar 44 = .ok (.aload_n 0, 1) := dk_42 (dk_at dksJ10_putChar_1 20 rfl rfl)
theorem dJ10_putChar_45 : decode cJ10_putChar 45 = .ok (.iload_n 1, 1) := dk_27 (dk_at dksJ10_putChar_1 21 rfl rfl)
theorem dJ10_putChar_46 : decode cJ10_putChar 46 = .ok (.iload_n 2, 1) := dk_28 (dk_at dksJ10_putChar_1 22 rfl rfl)
theorem dJ10_putChar_47 : decode cJ10_putChar 47 = .ok (.getstatic 63, 3) := dk_178 0 63 (dk_at dksJ10_putChar_2 0 rfl rfl)
theorem dJ10_putChar_50 : decode cJ10_putChar 50 = .ok (.ishr, 1) := dk_122 (dk_at dksJ10_putChar_2 3 rfl rfl)
theorem dJ10_putChar_51 : decode cJ10_putChar 51 = .ok (.i2b, 1) := dk_145 (dk_at dksJ10_putChar_2 4 rfl rfl)
theorem dJ10_putChar_52 : decode cJ10_putChar 52 = .ok (.bastore, 1) := dk_84 (dk_at dksJ10_putChar_2 5 rfl rfl)
theorem dJ10_putChar_53 : decode cJ10_putChar 53 = .ok (.return_, 1) := dk_177 (dk_at dksJ10_putChar_2 6 rfl rfl)
abbrev cJ10_inflate : ByteArray := prog_54_method_86_code
def yJ10_inflate : MethodName := ⟨RJ10, "inflate", "([BI[BII)V"⟩
def dkwJ10_inflate_1 : List UInt8 := [132, 1, 1, 51, 17, 0, 255, 126, 184, 0, 111, 132, 5, 1, 167, 255, 228, 177]
abbrev dktJ10_inflate_1 : List UInt8 := dkwJ10_inflate_1 ++ []
def dkwJ10_inflate_0 : List UInt8 := [29, 21, 4, 44, 184, 0, 173, 3, 54, 5, 21, 5, 21, 4, 162, 0, 27, 44, 29, 132, 3, 1, 42, 27]
abbrev dktJ10_inflate_0 : List UInt8 := dkwJ10_inflate_0 ++ dktJ10_inflate_1
theorem dksJ10_inflate_0 : cJ10_inflate.data.toList.drop 0 = dktJ10_inflate_0 := by decide +kernel
theorem dksJ10_inflate_1 : cJ10_inflate.data.toList.drop 24 = dktJ10_inflate_1 := dk_seg dksJ10_inflate_0 24 rfl rfl
theorem dJ10_inflate_0 : decode cJ10_inflate 0 = .ok (.iload_n 3, 1) := dk_29 (dk_at dksJ10_inflate_0 0 rfl rfl)
theorem dJ10_inflate_1 : decode cJ10_inflate 1 = .ok (.iload 4, 2) := dk_21 4 (dk_at dksJ10_inflate_0 1 rfl rfl)
theorem dJ10_inflate_3 : decode cJ10_inflate 3 = .ok (.aload_n 2, 1) := dk_44 (dk_at dksJ10_inflate_0 3 rfl rfl)
theorem dJ10_inflate_4 : decode cJ10_inflate 4 = .ok (.invokestatic 173, 3) := dk_184 0 173 (dk_at dksJ10_inflate_0 4 rfl rfl)
theorem dJ10_inflate_7 : decode cJ10_inflate 7 = .ok (.iconst 0, 1) := dk_3 (dk_at dksJ10_inflate_0 7 rfl rfl)
theorem dJ10_inflate_8 : decode cJ10_inflate 8 = .ok (.istore 5, 2) := dk_54 5 (dk_at dksJ10_inflate_0 8 rfl rfl)
theorem dJ10_inflate_10 : decode cJ10_inflate 10 = .ok (.iload 5, 2) := dk_21 5 (dk_at dksJ10_inflate_0 10 rfl rfl)
theorem dJ10_inflate_12 : decode cJ10_inflate 12 = .ok (.iload 4, 2) := dk_21 4 (dk_at dksJ10_inflate_0 12 rfl rfl)
theorem dJ10_inflate_14 : decode cJ10_inflate 14 = .ok (.if_icmp .ge 27, 3) := dk_162 0 27 (dk_at dksJ10_inflate_0 14 rfl rfl)
theorem dJ10_inflate_17 : decode cJ10_inflate 17 = .ok (.aload_n 2, 1) := dk_44 (dk_at dksJ10_inflate_0 17 rfl rfl)
theorem dJ10_inflate_18 : decode cJ10_inflate 18 = .ok (.iload_n 3, 1) := dk_29 (dk_at dksJ10_inflate_0 18 rfl rfl)
theorem dJ10_inflate_19 : decode cJ10_inflate 19 = .ok (.iinc 3 1, 3) := dk_132 3 1 (dk_at dksJ10_inflate_0 19 rfl rfl)
theorem dJ10_inflate_22 : decode cJ10_inflate 22 = .ok (.aload_n 0, 1) := dk_42 (dk_at dksJ10_inflate_0 22 rfl rfl)
theorem dJ10_inflate_23 : decode cJ10_inflate 23 = .ok (.iload_n 1, 1) := dk_27 (dk_at dksJ10_inflate_0 23 rfl rfl)
theorem dJ10_inflate_24 : decode cJ10_inflate 24 = .ok (.iinc 1 1, 3) := dk_132 1 1 (dk_at dksJ10_inflate_1 0 rfl rfl)
theorem dJ10_inflate_27 : decode cJ10_inflate 27 = .ok (.baload, 1) := dk_51 (dk_at dksJ10_inflate_1 3 rfl rfl)
theorem dJ10_inflate_28 : decode cJ10_inflate 28 = .ok (.sipush 255, 3) := dk_17 0 255 (dk_at dksJ10_inflate_1 4 rfl rfl)
theorem dJ10_inflate_31 : decode cJ10_inflate 31 = .ok (.iand, 1) := dk_126 (dk_at dksJ10_inflate_1 7 rfl rfl)
theorem dJ10_inflate_32 : decode cJ10_inflate 32 = .ok (.invokestatic 111, 3) := dk_184 0 111 (dk_at dksJ10_inflate_1 8 rfl rfl)
theorem dJ10_inflate_35 : decode cJ10_inflate 35 = .ok (.iinc 5 1, 3) := dk_132 5 1 (dk_at dksJ10_inflate_1 11 rfl rfl)
theorem dJ10_inflate_38 : decode cJ10_inflate 38 = .ok (.goto (-28), 3) := dk_167 255 228 (dk_at dksJ10_inflate_1 14 rfl rfl)
theorem dJ10_inflate_41 : decode cJ10_inflate 41 = .ok (.return_, 1) := dk_177 (dk_at dksJ10_inflate_1 17 rfl rfl)
abbrev cJ10_checkBoundsOffCount : ByteArray := prog_54_method_94_code
def yJ10_checkBoundsOffCount : MethodName := ⟨RJ10, "checkBoundsOffCount", "(II[B)V"⟩
def dkwJ10_checkBoundsOffCount_0 : List UInt8 := [26, 27, 44, 184, 0, 48, 184, 1, 163, 87, 177]
abbrev dktJ10_checkBoundsOffCount_0 : List UInt8 := dkwJ10_checkBoundsOffCount_0 ++ []
theorem dksJ10_checkBoundsOffCount_0 : cJ10_checkBoundsOffCount.data.toList.drop 0 = dktJ10_checkBoundsOffCount_0 := by decide +kernel
theorem dJ10_checkBoundsOffCount_0 : decode cJ10_checkBoundsOffCount 0 = .ok (.iload_n 0, 1) := dk_26 (dk_at dksJ10_checkBoundsOffCount_0 0 rfl rfl)
theorem dJ10_checkBoundsOffCount_1 : decode cJ10_checkBoundsOffCount 1 = .ok (.iload_n 1, 1) := dk_27 (dk_at dksJ10_checkBoundsOffCount_0 1 rfl rfl)
theorem dJ10_checkBoundsOffCount_2 : decode cJ10_checkBoundsOffCount 2 = .ok (.aload_n 2, 1) := dk_44 (dk_at dksJ10_checkBoundsOffCount_0 2 rfl rfl)
theorem dJ10_checkBoundsOffCount_3 : decode cJ10_checkBoundsOffCount 3 = .ok (.invokestatic 48, 3) := dk_184 0 48 (dk_at dksJ10_checkBoundsOffCount_0 3 rfl rfl)
theorem dJ10_checkBoundsOffCount_6 : decode cJ10_checkBoundsOffCount 6 = .ok (.invokestatic 419, 3) := dk_184 1 163 (dk_at dksJ10_checkBoundsOffCount_0 6 rfl rfl)
theorem dJ10_checkBoundsOffCount_9 : decode cJ10_checkBoundsOffCount 9 = .ok (.pop, 1) := dk_87 (dk_at dksJ10_checkBoundsOffCount_0 9 rfl rfl)
theorem dJ10_checkBoundsOffCount_10 : decode cJ10_checkBoundsOffCount 10 = .ok (.return_, 1) := dk_177 (dk_at dksJ10_checkBoundsOffCount_0 10 rfl rfl)
abbrev cJ10_getChars : ByteArray := prog_54_method_77_code
def yJ10_getChars : MethodName := ⟨RJ10, "getChars", "(III[B)I"⟩
def dkwJ10_getChars_1 : List UInt8 := [159, 0, 11, 187, 0, 52, 89, 183, 0, 66, 191, 21, 4, 172]
abbrev dktJ10_getChars_1 : List UInt8 := dkwJ10_getChars_1 ++ []
def dkwJ10_getChars_0 : List UInt8 := [27, 28, 45, 184, 0, 96, 26, 28, 45, 184, 1, 137, 54, 4, 178, 0, 44, 154, 0, 17, 27, 21, 4]
abbrev dktJ10_getChars_0 : List UInt8 := dkwJ10_getChars_0 ++ dktJ10_getChars_1
theorem dksJ10_getChars_0 : cJ10_getChars.data.toList.drop 0 = dktJ10_getChars_0 := by decide +kernel
theorem dksJ10_getChars_1 : cJ10_getChars.data.toList.drop 23 = dktJ10_getChars_1 := dk_seg dksJ10_getChars_0 23 rfl rfl
theorem dJ10_getChars_0 : decode cJ10_getChars 0 = .ok (.iload_n 1, 1) := dk_27 (dk_at dksJ10_getChars_0 0 rfl rfl)
theorem dJ10_getChars_1 : decode cJ10_getChars 1 = .ok (.iload_n 2, 1) := dk_28 (dk_at dksJ10_getChars_0 1 rfl rfl)
theorem dJ10_getChars_2 : decode cJ10_getChars 2 = .ok (.aload_n 3, 1) := dk_45 (dk_at dksJ10_getChars_0 2 rfl rfl)
theorem dJ10_getChars_3 : decode cJ10_getChars 3 = .ok (.invokestatic 96, 3) := dk_184 0 96 (dk_at dksJ10_getChars_0 3 rfl rfl)
theorem dJ10_getChars_6 : decode cJ10_getChars 6 = .ok (.iload_n 0, 1) := dk_26 (dk_at dksJ10_getChars_0 6 rfl rfl)
theorem dJ10_getChars_7 : decode cJ10_getChars 7 = .ok (.iload_n 2, 1) := dk_28 (dk_at dksJ10_getChars_0 7 rfl rfl)
theorem dJ10_getChars_8 : decode cJ10_getChars 8 = .ok (.aload_n 3, 1) := dk_45 (dk_at dksJ10_getChars_0 8 rfl rfl)
theorem dJ10_getChars_9 : decode cJ10_getChars 9 = .ok (.invokestatic 393, 3) := dk_184 1 137 (dk_at dksJ10_getChars_0 9 rfl rfl)
theorem dJ10_getChars_12 : decode cJ10_getChars 12 = .ok (.istore 4, 2) := dk_54 4 (dk_at dksJ10_getChars_0 12 rfl rfl)
theorem dJ10_getChars_14 : decode cJ10_getChars 14 = .ok (.getstatic 44, 3) := dk_178 0 44 (dk_at dksJ10_getChars_0 14 rfl rfl)
theorem dJ10_getChars_17 : decode cJ10_getChars 17 = .ok (.ifCond .ne 17, 3) := dk_154 0 17 (dk_at dksJ10_getChars_0 17 rfl rfl)
theorem dJ10_getChars_20 : decode cJ10_getChars 20 = .ok (.iload_n 1, 1) := dk_27 (dk_at dksJ10_getChars_0 20 rfl rfl)
theorem dJ10_getChars_21 : decode cJ10_getChars 21 = .ok (.iload 4, 2) := dk_21 4 (dk_at dksJ10_getChars_0 21 rfl rfl)
theorem dJ10_getChars_23 : decode cJ10_getChars 23 = .ok (.if_icmp .eq 11, 3) := dk_159 0 11 (dk_at dksJ10_getChars_1 0 rfl rfl)
theorem dJ10_getChars_26 : decode cJ10_getChars 26 = .ok (.new 52, 3) := dk_187 0 52 (dk_at dksJ10_getChars_1 3 rfl rfl)
theorem dJ10_getChars_29 : decode cJ10_getChars 29 = .ok (.dup, 1) := dk_89 (dk_at dksJ10_getChars_1 6 rfl rfl)
theorem dJ10_getChars_30 : decode cJ10_getChars 30 = .ok (.invokespecial 66, 3) := dk_183 0 66 (dk_at dksJ10_getChars_1 7 rfl rfl)
theorem dJ10_getChars_33 : decode cJ10_getChars 33 = .ok (.athrow, 1) := dk_191 (dk_at dksJ10_getChars_1 10 rfl rfl)
theorem dJ10_getChars_34 : decode cJ10_getChars 34 = .ok (.iload 4, 2) := dk_21 4 (dk_at dksJ10_getChars_1 11 rfl rfl)
theorem dJ10_getChars_36 : decode cJ10_getChars 36 = .ok (.ireturn, 1) := dk_172 (dk_at dksJ10_getChars_1 13 rfl rfl)
abbrev cJ10_getChars_2 : ByteArray := prog_54_method_89_code
def yJ10_getChars_2 : MethodName := ⟨RJ10, "getChars", "(II[B)I"⟩
def dkwJ10_getChars_2_5 : List UInt8 := [132, 5, 255, 21, 5, 16, 45, 184, 0, 111, 21, 5, 172]
abbrev dktJ10_getChars_2_5 : List UInt8 := dkwJ10_getChars_2_5 ++ []
def dkwJ10_getChars_2_4 : List UInt8 := [162, 0, 18, 44, 132, 5, 255, 21, 5, 178, 1, 151, 26, 116, 51, 184, 0, 111, 21, 6, 153, 0, 14, 44]
abbrev dktJ10_getChars_2_4 : List UInt8 := dkwJ10_getChars_2_4 ++ dktJ10_getChars_2_5
def dkwJ10_getChars_2_3 : List UInt8 := [184, 0, 111, 167, 255, 205, 44, 132, 5, 255, 21, 5, 178, 1, 147, 26, 116, 51, 184, 0, 111, 26, 16, 247]
abbrev dktJ10_getChars_2_3 : List UInt8 := dkwJ10_getChars_2_3 ++ dktJ10_getChars_2_4
def dkwJ10_getChars_2_2 : List UInt8 := [21, 5, 178, 1, 147, 21, 4, 51, 184, 0, 111, 44, 132, 5, 255, 21, 5, 178, 1, 151, 21, 4, 51]
abbrev dktJ10_getChars_2_2 : List UInt8 := dkwJ10_getChars_2_2 ++ dktJ10_getChars_2_3
def dkwJ10_getChars_2_1 : List UInt8 := [16, 156, 163, 0, 51, 26, 16, 100, 108, 62, 29, 16, 100, 104, 26, 100, 54, 4, 29, 59, 44, 132, 5, 255]
abbrev dktJ10_getChars_2_1 : List UInt8 := dkwJ10_getChars_2_1 ++ dktJ10_getChars_2_2
def dkwJ10_getChars_2_0 : List UInt8 := [27, 54, 5, 26, 156, 0, 7, 4, 167, 0, 4, 3, 54, 6, 21, 6, 154, 0, 6, 26, 116, 59, 26]
abbrev dktJ10_getChars_2_0 : List UInt8 := dkwJ10_getChars_2_0 ++ dktJ10_getChars_2_1
theorem dksJ10_getChars_2_0 : cJ10_getChars_2.data.toList.drop 0 = dktJ10_getChars_2_0 := by decide +kernel
theorem dksJ10_getChars_2_1 : cJ10_getChars_2.data.toList.drop 23 = dktJ10_getChars_2_1 := dk_seg dksJ10_getChars_2_0 23 rfl rfl
theorem dksJ10_getChars_2_2 : cJ10_getChars_2.data.toList.drop 47 = dktJ10_getChars_2_2 := dk_seg dksJ10_getChars_2_1 24 rfl rfl
theorem dksJ10_getChars_2_3 : cJ10_getChars_2.data.toList.drop 70 = dktJ10_getChars_2_3 := dk_seg dksJ10_getChars_2_2 23 rfl rfl
theorem dksJ10_getChars_2_4 : cJ10_getChars_2.data.toList.drop 94 = dktJ10_getChars_2_4 := dk_seg dksJ10_getChars_2_3 24 rfl rfl
theorem dksJ10_getChars_2_5 : cJ10_getChars_2.data.toList.drop 118 = dktJ10_getChars_2_5 := dk_seg dksJ10_getChars_2_4 24 rfl rfl
theorem dJ10_getChars_2_0 : decode cJ10_getChars_2 0 = .ok (.iload_n 1, 1) := dk_27 (dk_at dksJ10_getChars_2_0 0 rfl rfl)
theorem dJ10_getChars_2_1 : decode cJ10_getChars_2 1 = .ok (.istore 5, 2) := dk_54 5 (dk_at dksJ10_getChars_2_0 1 rfl rfl)
theorem dJ10_getChars_2_3 : decode cJ10_getChars_2 3 = .ok (.iload_n 0, 1) := dk_26 (dk_at dksJ10_getChars_2_0 3 rfl rfl)
theorem dJ10_getChars_2_4 : decode cJ10_getChars_2 4 = .ok (.ifCond .ge 7, 3) := dk_156 0 7 (dk_at dksJ10_getChars_2_0 4 rfl rfl)
theorem dJ10_getChars_2_7 : decode cJ10_getChars_2 7 = .ok (.iconst 1, 1) := dk_4 (dk_at dksJ10_getChars_2_0 7 rfl rfl)
theorem dJ10_getChars_2_8 : decode cJ10_getChars_2 8 = .ok (.goto 4, 3) := dk_167 0 4 (dk_at dksJ10_getChars_2_0 8 rfl rfl)
theorem dJ10_getChars_2_11 : decode cJ10_getChars_2 11 = .ok (.iconst 0, 1) := dk_3 (dk_at dksJ10_getChars_2_0 11 rfl rfl)
theorem dJ10_getChars_2_12 : decode cJ10_getChars_2 12 = .ok (.istore 6, 2) := dk_54 6 (dk_at dksJ10_getChars_2_0 12 rfl rfl)
theorem dJ10_getChars_2_14 : decode cJ10_getChars_2 14 = .ok (.iload 6, 2) := dk_21 6 (dk_at dksJ10_getChars_2_0 14 rfl rfl)
theorem dJ10_getChars_2_16 : decode cJ10_getChars_2 16 = .ok (.ifCond .ne 6, 3) := dk_154 0 6 (dk_at dksJ10_getChars_2_0 16 rfl rfl)
theorem dJ10_getChars_2_19 : decode cJ10_getChars_2 19 = .ok (.iload_n 0, 1) := dk_26 (dk_at dksJ10_getChars_2_0 19 rfl rfl)
theorem dJ10_getChars_2_20 : decode cJ10_getChars_2 20 = .ok (.ineg, 1) := dk_116 (dk_at dksJ10_getChars_2_0 20 rfl rfl)
theorem dJ10_getChars_2_21 : decode cJ10_getChars_2 21 = .ok (.istore_n 0, 1) := dk_59 (dk_at dksJ10_getChars_2_0 21 rfl rfl)
theorem dJ10_getChars_2_22 : decode cJ10_getChars_2 22 = .ok (.iload_n 0, 1) := dk_26 (dk_at dksJ10_getChars_2_0 22 rfl rfl)
theorem dJ10_getChars_2_23 : decode cJ10_getChars_2 23 = .ok (.bipush (-100), 2) := dk_16 156 (dk_at dksJ10_getChars_2_1 0 rfl rfl)
theorem dJ10_getChars_2_25 : decode cJ10_getChars_2 25 = .ok (.if_icmp .gt 51, 3) := dk_163 0 51 (dk_at dksJ10_getChars_2_1 2 rfl rfl)
theorem dJ10_getChars_2_28 : decode cJ10_getChars_2 28 = .ok (.iload_n 0, 1) := dk_26 (dk_at dksJ10_getChars_2_1 5 rfl rfl)
theorem dJ10_getChars_2_29 : decode cJ10_getChars_2 29 = .ok (.bipush 100, 2) := dk_16 100 (dk_at dksJ10_getChars_2_1 6 rfl rfl)
theorem dJ10_getChars_2_31 : decode cJ10_getChars_2 31 = .ok (.idiv, 1) := dk_108 (dk_at dksJ10_getChars_2_1 8 rfl rfl)
theorem dJ10_getChars_2_32 : decode cJ10_getChars_2 32 = .ok (.istore_n 3, 1) := dk_62 (dk_at dksJ10_getChars_2_1 9 rfl rfl)
theorem dJ10_getChars_2_33 : decode cJ10_getChars_2 33 = .ok (.iload_n 3, 1) := dk_29 (dk_at dksJ10_getChars_2_1 10 rfl rfl)
theorem dJ10_getChars_2_34 : decode cJ10_getChars_2 34 = .ok (.bipush 100, 2) := dk_16 100 (dk_at dksJ10_getChars_2_1 11 rfl rfl)
theorem dJ10_getChars_2_36 : decode cJ10_getChars_2 36 = .ok (.imul, 1) := dk_104 (dk_at dksJ10_getChars_2_1 13 rfl rfl)
theorem dJ10_getChars_2_37 : decode cJ10_getChars_2 37 = .ok (.iload_n 0, 1) := dk_26 (dk_at dksJ10_getChars_2_1 14 rfl rfl)
theorem dJ10_getChars_2_38 : decode cJ10_getChars_2 38 = .ok (.isub, 1) := dk_100 (dk_at dksJ10_getChars_2_1 15 rfl rfl)
theorem dJ10_getChars_2_39 : decode cJ10_getChars_2 39 = .ok (.istore 4, 2) := dk_54 4 (dk_at dksJ10_getChars_2_1 16 rfl rfl)
theorem dJ10_getChars_2_41 : decode cJ10_getChars_2 41 = .ok (.iload_n 3, 1) := dk_29 (dk_at dksJ10_getChars_2_1 18 rfl rfl)
theorem dJ10_getChars_2_42 : decode cJ10_getChars_2 42 = .ok (.istore_n 0, 1) := dk_59 (dk_at dksJ10_getChars_2_1 19 rfl rfl)
theorem dJ10_getChars_2_43 : decode cJ10_getChars_2 43 = .ok (.aload_n 2, 1) := dk_44 (dk_at dksJ10_getChars_2_1 20 rfl rfl)
theorem dJ10_getChars_2_44 : decode cJ10_getChars_2 44 = .ok (.iinc 5 (-1), 3) := dk_132 5 255 (dk_at dksJ10_getChars_2_1 21 rfl rfl)
theorem dJ10_getChars_2_47 : decode cJ10_getChars_2 47 = .ok (.iload 5, 2) := dk_21 5 (dk_at dksJ10_getChars_2_2 0 rfl rfl)
theorem dJ10_getChars_2_49 : decode cJ10_getChars_2 49 = .ok (.getstatic 403, 3) := dk_178 1 147 (dk_at dksJ10_getChars_2_2 2 rfl rfl)
theorem dJ10_getChars_2_52 : decode cJ10_getChars_2 52 = .ok (.iload 4, 2) := dk_21 4 (dk_at dksJ10_getChars_2_2 5 rfl rfl)
theorem dJ10_getChars_2_54 : decode cJ10_getChars_2 54 = .ok (.baload, 1) := dk_51 (dk_at dksJ10_getChars_2_2 7 rfl rfl)
theorem dJ10_getChars_2_55 : decode cJ10_getChars_2 55 = .ok (.invokestatic 111, 3) := dk_184 0 111 (dk_at dksJ10_getChars_2_2 8 rfl rfl)
theorem dJ10_getChars_2_58 : decode cJ10_getChars_2 58 = .ok (.aload_n 2, 1) := dk_44 (dk_at dksJ10_getChars_2_2 11 rfl rfl)
theorem dJ10_getChars_2_59 : decode cJ10_getChars_2 59 = .ok (.iinc 5 (-1), 3) := dk_132 5 255 (dk_at dksJ10_getChars_2_2 12 rfl rfl)
theorem dJ10_getChars_2_62 : decode cJ10_getChars_2 62 = .ok (.iload 5, 2) := dk_21 5 (dk_at dksJ10_getChars_2_2 15 rfl rfl)
theorem dJ10_getChars_2_64 : decode cJ10_getChars_2 64 = .ok (.getstatic 407, 3) := dk_178 1 151 (dk_at dksJ10_getChars_2_2 17 rfl rfl)
theorem dJ10_getChars_2_67 : decode cJ10_getChars_2 67 = .ok (.iload 4, 2) := dk_21 4 (dk_at dksJ10_getChars_2_2 20 rfl rfl)
theorem dJ10_getChars_2_69 : decode cJ10_getChars_2 69 = .ok (.baload, 1) := dk_51 (dk_at dksJ10_getChars_2_2 22 rfl rfl)
theorem dJ10_getChars_2_70 : decode cJ10_getChars_2 70 = .ok (.invokestatic 111, 3) := dk_184 0 111 (dk_at dksJ10_getChars_2_3 0 rfl rfl)
theorem dJ10_getChars_2_73 : decode cJ10_getChars_2 73 = .ok (.goto (-51), 3) := dk_167 255 205 (dk_at dksJ10_getChars_2_3 3 rfl rfl)
theorem dJ10_getChars_2_76 : decode cJ10_getChars_2 76 = .ok (.aload_n 2, 1) := dk_44 (dk_at dksJ10_getChars_2_3 6 rfl rfl)
theorem dJ10_getChars_2_77 : decode cJ10_getChars_2 77 = .ok (.iinc 5 (-1), 3) := dk_132 5 255 (dk_at dksJ10_getChars_2_3 7 rfl rfl)
theorem dJ10_getChars_2_80 : decode cJ10_getChars_2 80 = .ok (.iload 5, 2) := dk_21 5 (dk_at dksJ10_getChars_2_3 10 rfl rfl)
theorem dJ10_getChars_2_82 : decode cJ10_getChars_2 82 = .ok (.getstatic 403, 3) := dk_178 1 147 (dk_at dksJ10_getChars_2_3 12 rfl rfl)
theorem dJ10_getChars_2_85 : decode cJ10_getChars_2 85 = .ok (.iload_n 0, 1) := dk_26 (dk_at dksJ10_getChars_2_3 15 rfl rfl)
theorem dJ10_getChars_2_86 : decode cJ10_getChars_2 86 = .ok (.ineg, 1) := dk_116 (dk_at dksJ10_getChars_2_3 16 rfl rfl)
theorem dJ10_getChars_2_87 : decode cJ10_getChars_2 87 = .ok (.baload, 1) := dk_51 (dk_at dksJ10_getChars_2_3 17 rfl rfl)
theorem dJ10_getChars_2_88 : decode cJ10_getChars_2 88 = .ok (.invokestatic 111, 3) := dk_184 0 111 (dk_at dksJ10_getChars_2_3 18 rfl rfl)
theorem dJ10_getChars_2_91 : decode cJ10_getChars_2 91 = .ok (.iload_n 0, 1) := dk_26 (dk_at dksJ10_getChars_2_3 21 rfl rfl)
theorem dJ10_getChars_2_92 : decode cJ10_getChars_2 92 = .ok (.bipush (-9), 2) := dk_16 247 (dk_at dksJ10_getChars_2_3 22 rfl rfl)
theorem dJ10_getChars_2_94 : decode cJ10_getChars_2 94 = .ok (.if_icmp .ge 18, 3) := dk_162 0 18 (dk_at dksJ10_getChars_2_4 0 rfl rfl)
theorem dJ10_getChars_2_97 : decode cJ10_getChars_2 97 = .ok (.aload_n 2, 1) := dk_44 (dk_at dksJ10_getChars_2_4 3 rfl rfl)
theorem dJ10_getChars_2_98 : decode cJ10_getChars_2 98 = .ok (.iinc 5 (-1), 3) := dk_132 5 255 (dk_at dksJ10_getChars_2_4 4 rfl rfl)
theorem dJ10_getChars_2_101 : decode cJ10_getChars_2 101 = .ok (.iload 5, 2) := dk_21 5 (dk_at dksJ10_getChars_2_4 7 rfl rfl)
theorem dJ10_getChars_2_103 : decode cJ10_getChars_2 103 = .ok (.getstatic 407, 3) := dk_178 1 151 (dk_at dksJ10_getChars_2_4 9 rfl rfl)
theorem dJ10_getChars_2_106 : decode cJ10_getChars_2 106 = .ok (.iload_n 0, 1) := dk_26 (dk_at dksJ10_getChars_2_4 12 rfl rfl)
theorem dJ10_getChars_2_107 : decode cJ10_getChars_2 107 = .ok (.ineg, 1) := dk_116 (dk_at dksJ10_getChars_2_4 13 rfl rfl)
theorem dJ10_getChars_2_108 : decode cJ10_getChars_2 108 = .ok (.baload, 1) := dk_51 (dk_at dksJ10_getChars_2_4 14 rfl rfl)
theorem dJ10_getChars_2_109 : decode cJ10_getChars_2 109 = .ok (.invokestatic 111, 3) := dk_184 0 111 (dk_at dksJ10_getChars_2_4 15 rfl rfl)
theorem dJ10_getChars_2_112 : decode cJ10_getChars_2 112 = .ok (.iload 6, 2) := dk_21 6 (dk_at dksJ10_getChars_2_4 18 rfl rfl)
theorem dJ10_getChars_2_114 : decode cJ10_getChars_2 114 = .ok (.ifCond .eq 14, 3) := dk_153 0 14 (dk_at dksJ10_getChars_2_4 20 rfl rfl)
theorem dJ10_getChars_2_117 : decode cJ10_getChars_2 117 = .ok (.aload_n 2, 1) := dk_44 (dk_at dksJ10_getChars_2_4 23 rfl rfl)
theorem dJ10_getChars_2_118 : decode cJ10_getChars_2 118 = .ok (.iinc 5 (-1), 3) := dk_132 5 255 (dk_at dksJ10_getChars_2_5 0 rfl rfl)
theorem dJ10_getChars_2_121 : decode cJ10_getChars_2 121 = .ok (.iload 5, 2) := dk_21 5 (dk_at dksJ10_getChars_2_5 3 rfl rfl)
theorem dJ10_getChars_2_123 : decode cJ10_getChars_2 123 = .ok (.bipush 45, 2) := dk_16 45 (dk_at dksJ10_getChars_2_5 5 rfl rfl)
theorem dJ10_getChars_2_125 : decode cJ10_getChars_2 125 = .ok (.invokestatic 111, 3) := dk_184 0 111 (dk_at dksJ10_getChars_2_5 7 rfl rfl)
theorem dJ10_getChars_2_128 : decode cJ10_getChars_2 128 = .ok (.iload 5, 2) := dk_21 5 (dk_at dksJ10_getChars_2_5 10 rfl rfl)
theorem dJ10_getChars_2_130 : decode cJ10_getChars_2 130 = .ok (.ireturn, 1) := dk_172 (dk_at dksJ10_getChars_2_5 12 rfl rfl)
abbrev cJ10_compress : ByteArray := prog_54_method_17_code
def yJ10_compress : MethodName := ⟨RJ10, "compress", "([BII)[B"⟩
def dkwJ10_compress_2 : List UInt8 := [25, 5, 3, 45, 3, 28, 184, 0, 123, 28, 159, 0, 6, 25, 5, 176, 45, 176]
abbrev dktJ10_compress_2 : List UInt8 := dkwJ10_compress_2 ++ []
def dkwJ10_compress_1 : List UInt8 := [27, 28, 96, 184, 0, 11, 184, 0, 126, 58, 5, 25, 5, 21, 4, 184, 0, 71, 17, 0, 255, 163, 0, 16]
abbrev dktJ10_compress_1 : List UInt8 := dkwJ10_compress_1 ++ dktJ10_compress_2
def dkwJ10_compress_0 : List UInt8 := [28, 188, 8, 78, 42, 27, 45, 3, 28, 184, 0, 123, 54, 4, 21, 4, 28, 159, 0, 47, 42, 27, 4, 120]
abbrev dktJ10_compress_0 : List UInt8 := dkwJ10_compress_0 ++ dktJ10_compress_1
theorem dksJ10_compress_0 : cJ10_compress.data.toList.drop 0 = dktJ10_compress_0 := by decide +kernel
theorem dksJ10_compress_1 : cJ10_compress.data.toList.drop 24 = dktJ10_compress_1 := dk_seg dksJ10_compress_0 24 rfl rfl
theorem dksJ10_compress_2 : cJ10_compress.data.toList.drop 48 = dktJ10_compress_2 := dk_seg dksJ10_compress_1 24 rfl rfl
theorem dJ10_compress_0 : decode cJ10_compress 0 = .ok (.iload_n 2, 1) := dk_28 (dk_at dksJ10_compress_0 0 rfl rfl)
theorem dJ10_compress_1 : decode cJ10_compress 1 = .ok (.newarray .byte, 2) := dk_188_8 (dk_at dksJ10_compress_0 1 rfl rfl)
theorem dJ10_compress_3 : decode cJ10_compress 3 = .ok (.astore_n 3, 1) := dk_78 (dk_at dksJ10_compress_0 3 rfl rfl)
theorem dJ10_compress_4 : decode cJ10_compress 4 = .ok (.aload_n 0, 1) := dk_42 (dk_at dksJ10_compress_0 4 rfl rfl)
theorem dJ10_compress_5 : decode cJ10_compress 5 = .ok (.iload_n 1, 1) := dk_27 (dk_at dksJ10_compress_0 5 rfl rfl)
theorem dJ10_compress_6 : decode cJ10_compress 6 = .ok (.aload_n 3, 1) := dk_45 (dk_at dksJ10_compress_0 6 rfl rfl)
theorem dJ10_compress_7 : decode cJ10_compress 7 = .ok (.iconst 0, 1) := dk_3 (dk_at dksJ10_compress_0 7 rfl rfl)
theorem dJ10_compress_8 : decode cJ10_compress 8 = .ok (.iload_n 2, 1) := dk_28 (dk_at dksJ10_compress_0 8 rfl rfl)
theorem dJ10_compress_9 : decode cJ10_compress 9 = .ok (.invokestatic 123, 3) := dk_184 0 123 (dk_at dksJ10_compress_0 9 rfl rfl)
theorem dJ10_compress_12 : decode cJ10_compress 12 = .ok (.istore 4, 2) := dk_54 4 (dk_at dksJ10_compress_0 12 rfl rfl)
theorem dJ10_compress_14 : decode cJ10_compress 14 = .ok (.iload 4, 2) := dk_21 4 (dk_at dksJ10_compress_0 14 rfl rfl)
theorem dJ10_compress_16 : decode cJ10_compress 16 = .ok (.iload_n 2, 1) := dk_28 (dk_at dksJ10_compress_0 16 rfl rfl)
theorem dJ10_compress_17 : decode cJ10_compress 17 = .ok (.if_icmp .eq 47, 3) := dk_159 0 47 (dk_at dksJ10_compress_0 17 rfl rfl)
theorem dJ10_compress_20 : decode cJ10_compress 20 = .ok (.aload_n 0, 1) := dk_42 (dk_at dksJ10_compress_0 20 rfl rfl)
theorem dJ10_compress_21 : decode cJ10_compress 21 = .ok (.iload_n 1, 1) := dk_27 (dk_at dksJ10_compress_0 21 rfl rfl)
theorem dJ10_compress_22 : decode cJ10_compress 22 = .ok (.iconst 1, 1) := dk_4 (dk_at dksJ10_compress_0 22 rfl rfl)
theorem dJ10_compress_23 : decode cJ10_compress 23 = .ok (.ishl, 1) := dk_120 (dk_at dksJ10_compress_0 23 rfl rfl)
theorem dJ10_compress_24 : decode cJ10_compress 24 = .ok (.iload_n 1, 1) := dk_27 (dk_at dksJ10_compress_1 0 rfl rfl)
theorem dJ10_compress_25 : decode cJ10_compress 25 = .ok (.iload_n 2, 1) := dk_28 (dk_at dksJ10_compress_1 1 rfl rfl)
theorem dJ10_compress_26 : decode cJ10_compress 26 = .ok (.iadd, 1) := dk_96 (dk_at dksJ10_compress_1 2 rfl rfl)
theorem dJ10_compress_27 : decode cJ10_compress 27 = .ok (.invokestatic 11, 3) := dk_184 0 11 (dk_at dksJ10_compress_1 3 rfl rfl)
theorem dJ10_compress_30 : decode cJ10_compress 30 = .ok (.invokestatic 126, 3) := dk_184 0 126 (dk_at dksJ10_compress_1 6 rfl rfl)
theorem dJ10_compress_33 : decode cJ10_compress 33 = .ok (.astore 5, 2) := dk_58 5 (dk_at dksJ10_compress_1 9 rfl rfl)
theorem dJ10_compress_35 : decode cJ10_compress 35 = .ok (.aload 5, 2) := dk_25 5 (dk_at dksJ10_compress_1 11 rfl rfl)
theorem dJ10_compress_37 : decode cJ10_compress 37 = .ok (.iload 4, 2) := dk_21 4 (dk_at dksJ10_compress_1 13 rfl rfl)
theorem dJ10_compress_39 : decode cJ10_compress 39 = .ok (.invokestatic 71, 3) := dk_184 0 71 (dk_at dksJ10_compress_1 15 rfl rfl)
theorem dJ10_compress_42 : decode cJ10_compress 42 = .ok (.sipush 255, 3) := dk_17 0 255 (dk_at dksJ10_compress_1 18 rfl rfl)
theorem dJ10_compress_45 : decode cJ10_compress 45 = .ok (.if_icmp .gt 16, 3) := dk_163 0 16 (dk_at dksJ10_compress_1 21 rfl rfl)
theorem dJ10_compress_48 : decode cJ10_compress 48 = .ok (.aload 5, 2) := dk_25 5 (dk_at dksJ10_compress_2 0 rfl rfl)
theorem dJ10_compress_50 : decode cJ10_compress 50 = .ok (.iconst 0, 1) := dk_3 (dk_at dksJ10_compress_2 2 rfl rfl)
theorem dJ10_compress_51 : decode cJ10_compress 51 = .ok (.aload_n 3, 1) := dk_45 (dk_at dksJ10_compress_2 3 rfl rfl)
theorem dJ10_compress_52 : decode cJ10_compress 52 = .ok (.iconst 0, 1) := dk_3 (dk_at dksJ10_compress_2 4 rfl rfl)
theorem dJ10_compress_53 : decode cJ10_compress 53 = .ok (.iload_n 2, 1) := dk_28 (dk_at dksJ10_compress_2 5 rfl rfl)
theorem dJ10_compress_54 : decode cJ10_compress 54 = .ok (.invokestatic 123, 3) := dk_184 0 123 (dk_at dksJ10_compress_2 6 rfl rfl)
theorem dJ10_compress_57 : decode cJ10_compress 57 = .ok (.iload_n 2, 1) := dk_28 (dk_at dksJ10_compress_2 9 rfl rfl)
theorem dJ10_compress_58 : decode cJ10_compress 58 = .ok (.if_icmp .eq 6, 3) := dk_159 0 6 (dk_at dksJ10_compress_2 10 rfl rfl)
theorem dJ10_compress_61 : decode cJ10_compress 61 = .ok (.aload 5, 2) := dk_25 5 (dk_at dksJ10_compress_2 13 rfl rfl)
theorem dJ10_compress_63 : decode cJ10_compress 63 = .ok (.areturn, 1) := dk_176 (dk_at dksJ10_compress_2 15 rfl rfl)
theorem dJ10_compress_64 : decode cJ10_compress 64 = .ok (.aload_n 3, 1) := dk_45 (dk_at dksJ10_compress_2 16 rfl rfl)
theorem dJ10_compress_65 : decode cJ10_compress 65 = .ok (.areturn, 1) := dk_176 (dk_at dksJ10_compress_2 17 rfl rfl)
abbrev cJ10_compress_2 : ByteArray := prog_54_method_22_code
def yJ10_compress_2 : MethodName := ⟨RJ10, "compress", "([BI[BII)I"⟩
def dkwJ10_compress_2_2 : List UInt8 := [132, 5, 1, 167, 255, 216, 21, 4, 172]
abbrev dktJ10_compress_2_2 : List UInt8 := dkwJ10_compress_2_2 ++ []
def dkwJ10_compress_2_1 : List UInt8 := [21, 6, 17, 0, 255, 164, 0, 6, 21, 5, 172, 44, 29, 21, 6, 145, 84, 132, 1, 1, 132, 3, 1]
abbrev dktJ10_compress_2_1 : List UInt8 := dkwJ10_compress_2_1 ++ dktJ10_compress_2_2
def dkwJ10_compress_2_0 : List UInt8 := [27, 21, 4, 42, 184, 0, 173, 3, 54, 5, 21, 5, 21, 4, 162, 0, 39, 42, 27, 184, 0, 71, 54, 6]
abbrev dktJ10_compress_2_0 : List UInt8 := dkwJ10_compress_2_0 ++ dktJ10_compress_2_1
theorem dksJ10_compress_2_0 : cJ10_compress_2.data.toList.drop 0 = dktJ10_compress_2_0 := by decide +kernel
theorem dksJ10_compress_2_1 : cJ10_compress_2.data.toList.drop 24 = dktJ10_compress_2_1 := dk_seg dksJ10_compress_2_0 24 rfl rfl
theorem dksJ10_compress_2_2 : cJ10_compress_2.data.toList.drop 47 = dktJ10_compress_2_2 := dk_seg dksJ10_compress_2_1 23 rfl rfl
theorem dJ10_compress_2_0 : decode cJ10_compress_2 0 = .ok (.iload_n 1, 1) := dk_27 (dk_at dksJ10_compress_2_0 0 rfl rfl)
theorem dJ10_compress_2_1 : decode cJ10_compress_2 1 = .ok (.iload 4, 2) := dk_21 4 (dk_at dksJ10_compress_2_0 1 rfl rfl)
theorem dJ10_compress_2_3 : decode cJ10_compress_2 3 = .ok (.aload_n 0, 1) := dk_42 (dk_at dksJ10_compress_2_0 3 rfl rfl)
theorem dJ10_compress_2_4 : decode cJ10_compress_2 4 = .ok (.invokestatic 173, 3) := dk_184 0 173 (dk_at dksJ10_compress_2_0 4 rfl rfl)
theorem dJ10_compress_2_7 : decode cJ10_compress_2 7 = .ok (.iconst 0, 1) := dk_3 (dk_at dksJ10_compress_2_0 7 rfl rfl)
theorem dJ10_compress_2_8 : decode cJ10_compress_2 8 = .ok (.istore 5, 2) := dk_54 5 (dk_at dksJ10_compress_2_0 8 rfl rfl)
theorem dJ10_compress_2_10 : decode cJ10_compress_2 10 = .ok (.iload 5, 2) := dk_21 5 (dk_at dksJ10_compress_2_0 10 rfl rfl)
theorem dJ10_compress_2_12 : decode cJ10_compress_2 12 = .ok (.iload 4, 2) := dk_21 4 (dk_at dksJ10_compress_2_0 12 rfl rfl)
theorem dJ10_compress_2_14 : decode cJ10_compress_2 14 = .ok (.if_icmp .ge 39, 3) := dk_162 0 39 (dk_at dksJ10_compress_2_0 14 rfl rfl)
theorem dJ10_compress_2_17 : decode cJ10_compress_2 17 = .ok (.aload_n 0, 1) := dk_42 (dk_at dksJ10_compress_2_0 17 rfl rfl)
theorem dJ10_compress_2_18 : decode cJ10_compress_2 18 = .ok (.iload_n 1, 1) := dk_27 (dk_at dksJ10_compress_2_0 18 rfl rfl)
theorem dJ10_compress_2_19 : decode cJ10_compress_2 19 = .ok (.invokestatic 71, 3) := dk_184 0 71 (dk_at dksJ10_compress_2_0 19 rfl rfl)
theorem dJ10_compress_2_22 : decode cJ10_compress_2 22 = .ok (.istore 6, 2) := dk_54 6 (dk_at dksJ10_compress_2_0 22 rfl rfl)
theorem dJ10_compress_2_24 : decode cJ10_compress_2 24 = .ok (.iload 6, 2) := dk_21 6 (dk_at dksJ10_compress_2_1 0 rfl rfl)
theorem dJ10_compress_2_26 : decode cJ10_compress_2 26 = .ok (.sipush 255, 3) := dk_17 0 255 (dk_at dksJ10_compress_2_1 2 rfl rfl)
theorem dJ10_compress_2_29 : decode cJ10_compress_2 29 = .ok (.if_icmp .le 6, 3) := dk_164 0 6 (dk_at dksJ10_compress_2_1 5 rfl rfl)
theorem dJ10_compress_2_32 : decode cJ10_compress_2 32 = .ok (.iload 5, 2) := dk_21 5 (dk_at dksJ10_compress_2_1 8 rfl rfl)
theorem dJ10_compress_2_34 : decode cJ10_compress_2 34 = .ok (.ireturn, 1) := dk_172 (dk_at dksJ10_compress_2_1 10 rfl rfl)
theorem dJ10_compress_2_35 : decode cJ10_compress_2 35 = .ok (.aload_n 2, 1) := dk_44 (dk_at dksJ10_compress_2_1 11 rfl rfl)
theorem dJ10_compress_2_36 : decode cJ10_compress_2 36 = .ok (.iload_n 3, 1) := dk_29 (dk_at dksJ10_compress_2_1 12 rfl rfl)
theorem dJ10_compress_2_37 : decode cJ10_compress_2 37 = .ok (.iload 6, 2) := dk_21 6 (dk_at dksJ10_compress_2_1 13 rfl rfl)
theorem dJ10_compress_2_39 : decode cJ10_compress_2 39 = .ok (.i2b, 1) := dk_145 (dk_at dksJ10_compress_2_1 15 rfl rfl)
theorem dJ10_compress_2_40 : decode cJ10_compress_2 40 = .ok (.bastore, 1) := dk_84 (dk_at dksJ10_compress_2_1 16 rfl rfl)
theorem dJ10_compress_2_41 : decode cJ10_compress_2 41 = .ok (.iinc 1 1, 3) := dk_132 1 1 (dk_at dksJ10_compress_2_1 17 rfl rfl)
theorem dJ10_compress_2_44 : decode cJ10_compress_2 44 = .ok (.iinc 3 1, 3) := dk_132 3 1 (dk_at dksJ10_compress_2_1 20 rfl rfl)
theorem dJ10_compress_2_47 : decode cJ10_compress_2 47 = .ok (.iinc 5 1, 3) := dk_132 5 1 (dk_at dksJ10_compress_2_2 0 rfl rfl)
theorem dJ10_compress_2_50 : decode cJ10_compress_2 50 = .ok (.goto (-40), 3) := dk_167 255 216 (dk_at dksJ10_compress_2_2 3 rfl rfl)
theorem dJ10_compress_2_53 : decode cJ10_compress_2 53 = .ok (.iload 4, 2) := dk_21 4 (dk_at dksJ10_compress_2_2 6 rfl rfl)
theorem dJ10_compress_2_55 : decode cJ10_compress_2 55 = .ok (.ireturn, 1) := dk_172 (dk_at dksJ10_compress_2_2 8 rfl rfl)
abbrev cJ10_getChar : ByteArray := prog_54_method_5_code
def yJ10_getChar : MethodName := ⟨RJ10, "getChar", "([BI)C"⟩
def dkwJ10_getChar_2 : List UInt8 := [51, 17, 0, 255, 126, 178, 0, 63, 120, 128, 146, 172]
abbrev dktJ10_getChar_2 : List UInt8 := dkwJ10_getChar_2 ++ []
def dkwJ10_getChar_1 : List UInt8 := [183, 0, 56, 191, 27, 4, 120, 60, 42, 27, 132, 1, 1, 51, 17, 0, 255, 126, 178, 0, 59, 120, 42, 27]
abbrev dktJ10_getChar_1 : List UInt8 := dkwJ10_getChar_1 ++ dktJ10_getChar_2
def dkwJ10_getChar_0 : List UInt8 := [178, 0, 44, 154, 0, 25, 27, 155, 0, 11, 27, 42, 184, 0, 48, 161, 0, 13, 187, 0, 52, 89, 18, 54]
abbrev dktJ10_getChar_0 : List UInt8 := dkwJ10_getChar_0 ++ dktJ10_getChar_1
theorem dksJ10_getChar_0 : cJ10_getChar.data.toList.drop 0 = dktJ10_getChar_0 := by decide +kernel
theorem dksJ10_getChar_1 : cJ10_getChar.data.toList.drop 24 = dktJ10_getChar_1 := dk_seg dksJ10_getChar_0 24 rfl rfl
theorem dksJ10_getChar_2 : cJ10_getChar.data.toList.drop 48 = dktJ10_getChar_2 := dk_seg dksJ10_getChar_1 24 rfl rfl
theorem dJ10_getChar_0 : decode cJ10_getChar 0 = .ok (.getstatic 44, 3) := dk_178 0 44 (dk_at dksJ10_getChar_0 0 rfl rfl)
theorem dJ10_getChar_3 : decode cJ10_getChar 3 = .ok (.ifCond .ne 25, 3) := dk_154 0 25 (dk_at dksJ10_getChar_0 3 rfl rfl)
theorem dJ10_getChar_6 : decode cJ10_getChar 6 = .ok (.iload_n 1, 1) := dk_27 (dk_at dksJ10_getChar_0 6 rfl rfl)
theorem dJ10_getChar_7 : decode cJ10_getChar 7 = .ok (.ifCond .lt 11, 3) := dk_155 0 11 (dk_at dksJ10_getChar_0 7 rfl rfl)
theorem dJ10_getChar_10 : decode cJ10_getChar 10 = .ok (.iload_n 1, 1) := dk_27 (dk_at dksJ10_getChar_0 10 rfl rfl)
theorem dJ10_getChar_11 : decode cJ10_getChar 11 = .ok (.aload_n 0, 1) := dk_42 (dk_at dksJ10_getChar_0 11 rfl rfl)
theorem dJ10_getChar_12 : decode cJ10_getChar 12 = .ok (.invokestatic 48, 3) := dk_184 0 48 (dk_at dksJ10_getChar_0 12 rfl rfl)
theorem dJ10_getChar_15 : decode cJ10_getChar 15 = .ok (.if_icmp .lt 13, 3) := dk_161 0 13 (dk_at dksJ10_getChar_0 15 rfl rfl)
theorem dJ10_getChar_18 : decode cJ10_getChar 18 = .ok (.new 52, 3) := dk_187 0 52 (dk_at dksJ10_getChar_0 18 rfl rfl)
theorem dJ10_getChar_21 : decode cJ10_getChar 21 = .ok (.dup, 1) := dk_89 (dk_at dksJ10_getChar_0 21 rfl rfl)
theorem dJ10_getChar_22 : decode cJ10_getChar 22 = .ok (.ldc 54, 2) := dk_18 54 (dk_at dksJ10_getChar_0 22 rfl rfl)
theorem dJ10_getChar_24 : decode cJ10_getChar 24 = .ok (.invokespecial 56, 3) := dk_183 0 56 (dk_at dksJ10_getChar_1 0 rfl rfl)
theorem dJ10_getChar_27 : decode cJ10_getChar 27 = .ok (.athrow, 1) := dk_191 (dk_at dksJ10_getChar_1 3 rfl rfl)
theorem dJ10_getChar_28 : decode cJ10_getChar 28 = .ok (.iload_n 1, 1) := dk_27 (dk_at dksJ10_getChar_1 4 rfl rfl)
theorem dJ10_getChar_29 : decode cJ10_getChar 29 = .ok (.iconst 1, 1) := dk_4 (dk_at dksJ10_getChar_1 5 rfl rfl)
theorem dJ10_getChar_30 : decode cJ10_getChar 30 = .ok (.ishl, 1) := dk_120 (dk_at dksJ10_getChar_1 6 rfl rfl)
theorem dJ10_getChar_31 : decode cJ10_getChar 31 = .ok (.istore_n 1, 1) := dk_60 (dk_at dksJ10_getChar_1 7 rfl rfl)
theorem dJ10_getChar_32 : decode cJ10_getChar 32 = .ok (.aload_n 0, 1) := dk_42 (dk_at dksJ10_getChar_1 8 rfl rfl)
theorem dJ10_getChar_33 : decode cJ10_getChar 33 = .ok (.iload_n 1, 1) := dk_27 (dk_at dksJ10_getChar_1 9 rfl rfl)
theorem dJ10_getChar_34 : decode cJ10_getChar 34 = .ok (.iinc 1 1, 3) := dk_132 1 1 (dk_at dksJ10_getChar_1 10 rfl rfl)
theorem dJ10_getChar_37 : decode cJ10_getChar 37 = .ok (.baload, 1) := dk_51 (dk_at dksJ10_getChar_1 13 rfl rfl)
theorem dJ10_getChar_38 : decode cJ10_getChar 38 = .ok (.sipush 255, 3) := dk_17 0 255 (dk_at dksJ10_getChar_1 14 rfl rfl)
theorem dJ10_getChar_41 : decode cJ10_getChar 41 = .ok (.iand, 1) := dk_126 (dk_at dksJ10_getChar_1 17 rfl rfl)
theorem dJ10_getChar_42 : decode cJ10_getChar 42 = .ok (.getstatic 59, 3) := dk_178 0 59 (dk_at dksJ10_getChar_1 18 rfl rfl)
theorem dJ10_getChar_45 : decode cJ10_getChar 45 = .ok (.ishl, 1) := dk_120 (dk_at dksJ10_getChar_1 21 rfl rfl)
theorem dJ10_getChar_46 : decode cJ10_getChar 46 = .ok (.aload_n 0, 1) := dk_42 (dk_at dksJ10_getChar_1 22 rfl rfl)
theorem dJ10_getChar_47 : decode cJ10_getChar 47 = .ok (.iload_n 1, 1) := dk_27 (dk_at dksJ10_getChar_1 23 rfl rfl)
theorem dJ10_getChar_48 : decode cJ10_getChar 48 = .ok (.baload, 1) := dk_51 (dk_at dksJ10_getChar_2 0 rfl rfl)
theorem dJ10_getChar_49 : decode cJ10_getChar 49 = .ok (.sipush 255, 3) := dk_17 0 255 (dk_at dksJ10_getChar_2 1 rfl rfl)
theorem dJ10_getChar_52 : decode cJ10_getChar 52 = .ok (.iand, 1) := dk_126 (dk_at dksJ10_getChar_2 4 rfl rfl)
theorem dJ10_getChar_53 : decode cJ10_getChar 53 = .ok (.getstatic 63, 3) := dk_178 0 63 (dk_at dksJ10_getChar_2 5 rfl rfl)
theorem dJ10_getChar_56 : decode cJ10_getChar 56 = .ok (.ishl, 1) := dk_120 (dk_at dksJ10_getChar_2 8 rfl rfl)
theorem dJ10_getChar_57 : decode cJ10_getChar 57 = .ok (.ior, 1) := dk_128 (dk_at dksJ10_getChar_2 9 rfl rfl)
theorem dJ10_getChar_58 : decode cJ10_getChar 58 = .ok (.i2c, 1) := dk_146 (dk_at dksJ10_getChar_2 10 rfl rfl)
theorem dJ10_getChar_59 : decode cJ10_getChar 59 = .ok (.ireturn, 1) := dk_172 (dk_at dksJ10_getChar_2 11 rfl rfl)
abbrev cJ10_coderFromArrayLen : ByteArray := prog_54_method_15_code
def yJ10_coderFromArrayLen : MethodName := ⟨RJ10, "coderFromArrayLen", "([BI)B"⟩
def dkwJ10_coderFromArrayLen_0 : List UInt8 := [27, 42, 190, 100, 16, 31, 124, 145, 172]
abbrev dktJ10_coderFromArrayLen_0 : List UInt8 := dkwJ10_coderFromArrayLen_0 ++ []
theorem dksJ10_coderFromArrayLen_0 : cJ10_coderFromArrayLen.data.toList.drop 0 = dktJ10_coderFromArrayLen_0 := by decide +kernel
theorem dJ10_coderFromArrayLen_0 : decode cJ10_coderFromArrayLen 0 = .ok (.iload_n 1, 1) := dk_27 (dk_at dksJ10_coderFromArrayLen_0 0 rfl rfl)
theorem dJ10_coderFromArrayLen_1 : decode cJ10_coderFromArrayLen 1 = .ok (.aload_n 0, 1) := dk_42 (dk_at dksJ10_coderFromArrayLen_0 1 rfl rfl)
theorem dJ10_coderFromArrayLen_2 : decode cJ10_coderFromArrayLen 2 = .ok (.arraylength, 1) := dk_190 (dk_at dksJ10_coderFromArrayLen_0 2 rfl rfl)
theorem dJ10_coderFromArrayLen_3 : decode cJ10_coderFromArrayLen 3 = .ok (.isub, 1) := dk_100 (dk_at dksJ10_coderFromArrayLen_0 3 rfl rfl)
theorem dJ10_coderFromArrayLen_4 : decode cJ10_coderFromArrayLen 4 = .ok (.bipush 31, 2) := dk_16 31 (dk_at dksJ10_coderFromArrayLen_0 4 rfl rfl)
theorem dJ10_coderFromArrayLen_6 : decode cJ10_coderFromArrayLen 6 = .ok (.iushr, 1) := dk_124 (dk_at dksJ10_coderFromArrayLen_0 6 rfl rfl)
theorem dJ10_coderFromArrayLen_7 : decode cJ10_coderFromArrayLen 7 = .ok (.i2b, 1) := dk_145 (dk_at dksJ10_coderFromArrayLen_0 7 rfl rfl)
theorem dJ10_coderFromArrayLen_8 : decode cJ10_coderFromArrayLen 8 = .ok (.ireturn, 1) := dk_172 (dk_at dksJ10_coderFromArrayLen_0 8 rfl rfl)
abbrev cJ10_putCharSB : ByteArray := prog_54_method_71_code
def yJ10_putCharSB : MethodName := ⟨RJ10, "putCharSB", "([BII)V"⟩
def dkwJ10_putCharSB_0 : List UInt8 := [27, 42, 184, 0, 67, 42, 27, 28, 184, 0, 111, 177]
abbrev dktJ10_putCharSB_0 : List UInt8 := dkwJ10_putCharSB_0 ++ []
theorem dksJ10_putCharSB_0 : cJ10_putCharSB.data.toList.drop 0 = dktJ10_putCharSB_0 := by decide +kernel
theorem dJ10_putCharSB_0 : decode cJ10_putCharSB 0 = .ok (.iload_n 1, 1) := dk_27 (dk_at dksJ10_putCharSB_0 0 rfl rfl)
theorem dJ10_putCharSB_1 : decode cJ10_putCharSB 1 = .ok (.aload_n 0, 1) := dk_42 (dk_at dksJ10_putCharSB_0 1 rfl rfl)
theorem dJ10_putCharSB_2 : decode cJ10_putCharSB 2 = .ok (.invokestatic 67, 3) := dk_184 0 67 (dk_at dksJ10_putCharSB_0 2 rfl rfl)
theorem dJ10_putCharSB_5 : decode cJ10_putCharSB 5 = .ok (.aload_n 0, 1) := dk_42 (dk_at dksJ10_putCharSB_0 5 rfl rfl)
theorem dJ10_putCharSB_6 : decode cJ10_putCharSB 6 = .ok (.iload_n 1, 1) := dk_27 (dk_at dksJ10_putCharSB_0 6 rfl rfl)
theorem dJ10_putCharSB_7 : decode cJ10_putCharSB 7 = .ok (.iload_n 2, 1) := dk_28 (dk_at dksJ10_putCharSB_0 7 rfl rfl)
theorem dJ10_putCharSB_8 : decode cJ10_putCharSB 8 = .ok (.invokestatic 111, 3) := dk_184 0 111 (dk_at dksJ10_putCharSB_0 8 rfl rfl)
theorem dJ10_putCharSB_11 : decode cJ10_putCharSB 11 = .ok (.return_, 1) := dk_177 (dk_at dksJ10_putCharSB_0 11 rfl rfl)
abbrev cJ10_checkIndex : ByteArray := prog_54_method_91_code
def yJ10_checkIndex : MethodName := ⟨RJ10, "checkIndex", "(I[B)V"⟩
def dkwJ10_checkIndex_0 : List UInt8 := [26, 43, 184, 0, 48, 184, 1, 158, 177]
abbrev dktJ10_checkIndex_0 : List UInt8 := dkwJ10_checkIndex_0 ++ []
theorem dksJ10_checkIndex_0 : cJ10_checkIndex.data.toList.drop 0 = dktJ10_checkIndex_0 := by decide +kernel
theorem dJ10_checkIndex_0 : decode cJ10_checkIndex 0 = .ok (.iload_n 0, 1) := dk_26 (dk_at dksJ10_checkIndex_0 0 rfl rfl)
theorem dJ10_checkIndex_1 : decode cJ10_checkIndex 1 = .ok (.aload_n 1, 1) := dk_43 (dk_at dksJ10_checkIndex_0 1 rfl rfl)
theorem dJ10_checkIndex_2 : decode cJ10_checkIndex 2 = .ok (.invokestatic 48, 3) := dk_184 0 48 (dk_at dksJ10_checkIndex_0 2 rfl rfl)
theorem dJ10_checkIndex_5 : decode cJ10_checkIndex 5 = .ok (.invokestatic 414, 3) := dk_184 1 158 (dk_at dksJ10_checkIndex_0 5 rfl rfl)
theorem dJ10_checkIndex_8 : decode cJ10_checkIndex 8 = .ok (.return_, 1) := dk_177 (dk_at dksJ10_checkIndex_0 8 rfl rfl)
abbrev cJ10_hashCode : ByteArray := prog_54_method_39_code
def yJ10_hashCode : MethodName := ⟨RJ10, "hashCode", "([B)I"⟩
def dkwJ10_hashCode_2 : List UInt8 := [3, 167, 0, 22, 42, 3, 184, 0, 71, 167, 0, 14, 42, 3, 42, 190, 4, 122, 3, 8, 184, 0, 220, 172]
abbrev dktJ10_hashCode_2 : List UInt8 := dkwJ10_hashCode_2 ++ []
def dkwJ10_hashCode_1 : List UInt8 := [171, 0, 0, 0, 0, 38, 0, 0, 0, 2, 0, 0, 0, 0, 0, 0, 0, 26, 0, 0, 0, 2, 0, 0, 0, 30]
abbrev dktJ10_hashCode_1 : List UInt8 := dkwJ10_hashCode_1 ++ dktJ10_hashCode_2
def dkwJ10_hashCode_0 : List UInt8 := [42, 190]
abbrev dktJ10_hashCode_0 : List UInt8 := dkwJ10_hashCode_0 ++ dktJ10_hashCode_1
theorem dksJ10_hashCode_0 : cJ10_hashCode.data.toList.drop 0 = dktJ10_hashCode_0 := by decide +kernel
theorem dksJ10_hashCode_1 : cJ10_hashCode.data.toList.drop 2 = dktJ10_hashCode_1 := dk_seg dksJ10_hashCode_0 2 rfl rfl
theorem dksJ10_hashCode_2 : cJ10_hashCode.data.toList.drop 28 = dktJ10_hashCode_2 := dk_seg dksJ10_hashCode_1 26 rfl rfl
theorem dJ10_hashCode_0 : decode cJ10_hashCode 0 = .ok (.aload_n 0, 1) := dk_42 (dk_at dksJ10_hashCode_0 0 rfl rfl)
theorem dJ10_hashCode_1 : decode cJ10_hashCode 1 = .ok (.arraylength, 1) := dk_190 (dk_at dksJ10_hashCode_0 1 rfl rfl)
theorem dJ10_hashCode_2 : decode cJ10_hashCode 2 = .ok (.lookupswitch 38 #[(0, 26), (2, 30)], 26) := by decide +kernel
theorem dJ10_hashCode_28 : decode cJ10_hashCode 28 = .ok (.iconst 0, 1) := dk_3 (dk_at dksJ10_hashCode_2 0 rfl rfl)
theorem dJ10_hashCode_29 : decode cJ10_hashCode 29 = .ok (.goto 22, 3) := dk_167 0 22 (dk_at dksJ10_hashCode_2 1 rfl rfl)
theorem dJ10_hashCode_32 : decode cJ10_hashCode 32 = .ok (.aload_n 0, 1) := dk_42 (dk_at dksJ10_hashCode_2 4 rfl rfl)
theorem dJ10_hashCode_33 : decode cJ10_hashCode 33 = .ok (.iconst 0, 1) := dk_3 (dk_at dksJ10_hashCode_2 5 rfl rfl)
theorem dJ10_hashCode_34 : decode cJ10_hashCode 34 = .ok (.invokestatic 71, 3) := dk_184 0 71 (dk_at dksJ10_hashCode_2 6 rfl rfl)
theorem dJ10_hashCode_37 : decode cJ10_hashCode 37 = .ok (.goto 14, 3) := dk_167 0 14 (dk_at dksJ10_hashCode_2 9 rfl rfl)
theorem dJ10_hashCode_40 : decode cJ10_hashCode 40 = .ok (.aload_n 0, 1) := dk_42 (dk_at dksJ10_hashCode_2 12 rfl rfl)
theorem dJ10_hashCode_41 : decode cJ10_hashCode 41 = .ok (.iconst 0, 1) := dk_3 (dk_at dksJ10_hashCode_2 13 rfl rfl)
theorem dJ10_hashCode_42 : decode cJ10_hashCode 42 = .ok (.aload_n 0, 1) := dk_42 (dk_at dksJ10_hashCode_2 14 rfl rfl)
theorem dJ10_hashCode_43 : decode cJ10_hashCode 43 = .ok (.arraylength, 1) := dk_190 (dk_at dksJ10_hashCode_2 15 rfl rfl)
theorem dJ10_hashCode_44 : decode cJ10_hashCode 44 = .ok (.iconst 1, 1) := dk_4 (dk_at dksJ10_hashCode_2 16 rfl rfl)
theorem dJ10_hashCode_45 : decode cJ10_hashCode 45 = .ok (.ishr, 1) := dk_122 (dk_at dksJ10_hashCode_2 17 rfl rfl)
theorem dJ10_hashCode_46 : decode cJ10_hashCode 46 = .ok (.iconst 0, 1) := dk_3 (dk_at dksJ10_hashCode_2 18 rfl rfl)
theorem dJ10_hashCode_47 : decode cJ10_hashCode 47 = .ok (.iconst 5, 1) := dk_8 (dk_at dksJ10_hashCode_2 19 rfl rfl)
theorem dJ10_hashCode_48 : decode cJ10_hashCode 48 = .ok (.invokestatic 220, 3) := dk_184 0 220 (dk_at dksJ10_hashCode_2 20 rfl rfl)
theorem dJ10_hashCode_51 : decode cJ10_hashCode 51 = .ok (.ireturn, 1) := dk_172 (dk_at dksJ10_hashCode_2 23 rfl rfl)
abbrev cJ10_charAt : ByteArray := prog_54_method_83_code
def yJ10_charAt : MethodName := ⟨RJ10, "charAt", "([BI)C"⟩
def dkwJ10_charAt_0 : List UInt8 := [27, 42, 184, 0, 67, 42, 27, 184, 0, 71, 172]
abbrev dktJ10_charAt_0 : List UInt8 := dkwJ10_charAt_0 ++ []
theorem dksJ10_charAt_0 : cJ10_charAt.data.toList.drop 0 = dktJ10_charAt_0 := by decide +kernel
theorem dJ10_charAt_0 : decode cJ10_charAt 0 = .ok (.iload_n 1, 1) := dk_27 (dk_at dksJ10_charAt_0 0 rfl rfl)
theorem dJ10_charAt_1 : decode cJ10_charAt 1 = .ok (.aload_n 0, 1) := dk_42 (dk_at dksJ10_charAt_0 1 rfl rfl)
theorem dJ10_charAt_2 : decode cJ10_charAt 2 = .ok (.invokestatic 67, 3) := dk_184 0 67 (dk_at dksJ10_charAt_0 2 rfl rfl)
theorem dJ10_charAt_5 : decode cJ10_charAt 5 = .ok (.aload_n 0, 1) := dk_42 (dk_at dksJ10_charAt_0 5 rfl rfl)
theorem dJ10_charAt_6 : decode cJ10_charAt 6 = .ok (.iload_n 1, 1) := dk_27 (dk_at dksJ10_charAt_0 6 rfl rfl)
theorem dJ10_charAt_7 : decode cJ10_charAt 7 = .ok (.invokestatic 71, 3) := dk_184 0 71 (dk_at dksJ10_charAt_0 7 rfl rfl)
theorem dJ10_charAt_10 : decode cJ10_charAt 10 = .ok (.ireturn, 1) := dk_172 (dk_at dksJ10_charAt_0 10 rfl rfl)
theorem q74 : (Jvm.Cond.initialized "java/lang/StringUTF16") ∈ lw_all := lw_g (lw_at lw_m1 12 rfl) rfl
theorem q197 : (Jvm.Cond.static ({ cls := "java/lang/StringUTF16", name := "newBytesFor", desc := "(I)[B" } : Jvm.MethodName)) ∈ lw_all := lw_g (lw_at lw_m1 135 rfl) rfl
theorem q198 : (Jvm.Cond.code ({ cls := "java/lang/StringUTF16", name := "newBytesFor", desc := "(I)[B" } : Jvm.MethodName) prog_54_method_2_code (1 : Nat) (Option.some (Jvm.ClassFile.FieldType.array Jvm.ClassFile.FieldType.byte))) ∈ lw_all := lw_g (lw_at lw_m1 136 rfl) rfl
theorem q199 : (Jvm.Cond.methodLink "java/lang/StringUTF16" (11 : Nat) ({ cls := "java/lang/StringUTF16", name := "newBytesLength", desc := "(I)I" } : Jvm.MethodName)) ∈ lw_all := lw_g (lw_at lw_m1 137 rfl) rfl
theorem q200 : (Jvm.Cond.static ({ cls := "java/lang/StringUTF16", name := "newBytesLength", desc := "(I)I" } : Jvm.MethodName)) ∈ lw_all := lw_g (lw_at lw_m1 138 rfl) rfl
theorem q201 : (Jvm.Cond.code ({ cls := "java/lang/StringUTF16", name := "newBytesLength", desc := "(I)I" } : Jvm.MethodName) prog_54_method_3_code (1 : Nat) (Option.some Jvm.ClassFile.FieldType.int)) ∈ lw_all := lw_g (lw_at lw_m1 139 rfl) rfl
theorem q202 : (Jvm.Cond.constant "java/lang/StringUTF16" (20 : Nat) (1073741823 : Int32)) ∈ lw_all := lw_g (lw_at lw_m1 140 rfl) rfl
theorem q270 : (Jvm.Cond.static ({ cls := "java/lang/StringUTF16", name := "putCharsAt", desc := "([BICCCC)I" } : Jvm.MethodName)) ∈ lw_all := lw_g (lw_at lw_m1 208 rfl) rfl
theorem q271 : (Jvm.Cond.code ({ cls := "java/lang/StringUTF16", name := "putCharsAt", desc := "([BICCCC)I" } : Jvm.MethodName) prog_54_method_81_code (7 : Nat) (Option.some Jvm.ClassFile.FieldType.int)) ∈ lw_all := lw_g (lw_at lw_m1 209 rfl) rfl
theorem q272 : (Jvm.Cond.methodLink "java/lang/StringUTF16" (96 : Nat) ({ cls := "java/lang/StringUTF16", name := "checkBoundsBeginEnd", desc := "(II[B)V" } : Jvm.MethodName)) ∈ lw_all := lw_g (lw_at lw_m1 210 rfl) rfl
theorem q273 : (Jvm.Cond.static ({ cls := "java/lang/StringUTF16", name := "checkBoundsBeginEnd", desc := "(II[B)V" } : Jvm.MethodName)) ∈ lw_all := lw_g (lw_at lw_m1 211 rfl) rfl
theorem q274 : (Jvm.Cond.code ({ cls := "java/lang/StringUTF16", name := "checkBoundsBeginEnd", desc := "(II[B)V" } : Jvm.MethodName) prog_54_method_93_code (3 : Nat) (Option.none : Option Jvm.ClassFile.FieldType)) ∈ lw_all := lw_g (lw_at lw_m1 212 rfl) rfl
theorem q275 : (Jvm.Cond.methodLink "java/lang/StringUTF16" (48 : Nat) ({ cls := "java/lang/StringUTF16", name := "length", desc := "([B)I" } : Jvm.MethodName)) ∈ lw_all := lw_g (lw_at lw_m1 213 rfl) rfl
theorem q276 : (Jvm.Cond.static ({ cls := "java/lang/StringUTF16", name := "length", desc := "([B)I" } : Jvm.MethodName)) ∈ lw_all := lw_g (lw_at lw_m1 214 rfl) rfl
theorem q277 : (Jvm.Cond.code ({ cls := "java/lang/StringUTF16", name := "length", desc := "([B)I" } : Jvm.MethodName) prog_54_method_6_code (1 : Nat) (Option.some Jvm.ClassFile.FieldType.int)) ∈ lw_all := lw_g (lw_at lw_m1 215 rfl) rfl
theorem q278 : (Jvm.Cond.methodLink "java/lang/StringUTF16" (241 : Nat) ({ cls := "java/lang/String", name := "checkBoundsBeginEnd", desc := "(III)V" } : Jvm.MethodName)) ∈ lw_all := lw_g (lw_at lw_m1 216 rfl) rfl
theorem q286 : (Jvm.Cond.methodLink "java/lang/StringUTF16" (111 : Nat) ({ cls := "java/lang/StringUTF16", name := "putChar", desc := "([BII)V" } : Jvm.MethodName)) ∈ lw_all := lw_g (lw_at lw_m1 224 rfl) rfl
theorem q287 : (Jvm.Cond.static ({ cls := "java/lang/StringUTF16", name := "putChar", desc := "([BII)V" } : Jvm.MethodName)) ∈ lw_all := lw_g (lw_at lw_m1 225 rfl) rfl
theorem q288 : (Jvm.Cond.code ({ cls := "java/lang/StringUTF16", name := "putChar", desc := "([BII)V" } : Jvm.MethodName) prog_54_method_4_code (3 : Nat) (Option.none : Option Jvm.ClassFile.FieldType)) ∈ lw_all := lw_g (lw_at lw_m1 226 rfl) rfl
theorem q289 : (Jvm.Cond.fieldLink "java/lang/StringUTF16" (44 : Nat) "java/lang/StringUTF16" "$assertionsDisabled" "Z") ∈ lw_all := lw_g (lw_at lw_m1 227 rfl) rfl
theorem q290 : (Jvm.Cond.laysStatic "java/lang/StringUTF16" "$assertionsDisabled" "Z") ∈ lw_tbl := lw_at lw_m1 228 rfl
theorem q291 : (Jvm.Cond.fieldLink "java/lang/StringUTF16" (59 : Nat) "java/lang/StringUTF16" "HI_BYTE_SHIFT" "I") ∈ lw_all := lw_g (lw_at lw_m1 229 rfl) rfl
theorem q292 : (Jvm.Cond.laysStatic "java/lang/StringUTF16" "HI_BYTE_SHIFT" "I") ∈ lw_tbl := lw_at lw_m1 230 rfl
theorem q293 : (Jvm.Cond.fieldLink "java/lang/StringUTF16" (63 : Nat) "java/lang/StringUTF16" "LO_BYTE_SHIFT" "I") ∈ lw_all := lw_g (lw_at lw_m1 231 rfl) rfl
theorem q294 : (Jvm.Cond.laysStatic "java/lang/StringUTF16" "LO_BYTE_SHIFT" "I") ∈ lw_tbl := lw_at lw_m1 232 rfl
theorem q321 : (Jvm.Cond.static ({ cls := "java/lang/StringUTF16", name := "inflate", desc := "([BI[BII)V" } : Jvm.MethodName)) ∈ lw_all := lw_g (lw_at lw_m2 19 rfl) rfl
theorem q322 : (Jvm.Cond.code ({ cls := "java/lang/StringUTF16", name := "inflate", desc := "([BI[BII)V" } : Jvm.MethodName) prog_54_method_86_code (6 : Nat) (Option.none : Option Jvm.ClassFile.FieldType)) ∈ lw_all := lw_g (lw_at lw_m2 20 rfl) rfl
theorem q323 : (Jvm.Cond.methodLink "java/lang/StringUTF16" (173 : Nat) ({ cls := "java/lang/StringUTF16", name := "checkBoundsOffCount", desc := "(II[B)V" } : Jvm.MethodName)) ∈ lw_all := lw_g (lw_at lw_m2 21 rfl) rfl
theorem q324 : (Jvm.Cond.static ({ cls := "java/lang/StringUTF16", name := "checkBoundsOffCount", desc := "(II[B)V" } : Jvm.MethodName)) ∈ lw_all := lw_g (lw_at lw_m2 22 rfl) rfl
theorem q325 : (Jvm.Cond.code ({ cls := "java/lang/StringUTF16", name := "checkBoundsOffCount", desc := "(II[B)V" } : Jvm.MethodName) prog_54_method_94_code (3 : Nat) (Option.none : Option Jvm.ClassFile.FieldType)) ∈ lw_all := lw_g (lw_at lw_m2 23 rfl) rfl
theorem q326 : (Jvm.Cond.methodLink "java/lang/StringUTF16" (419 : Nat) ({ cls := "java/lang/String", name := "checkBoundsOffCount", desc := "(III)I" } : Jvm.MethodName)) ∈ lw_all := lw_g (lw_at lw_m2 24 rfl) rfl
theorem q356 : (Jvm.Cond.static ({ cls := "java/lang/StringUTF16", name := "getChars", desc := "(III[B)I" } : Jvm.MethodName)) ∈ lw_all := lw_g (lw_at lw_m2 54 rfl) rfl
theorem q357 : (Jvm.Cond.code ({ cls := "java/lang/StringUTF16", name := "getChars", desc := "(III[B)I" } : Jvm.MethodName) prog_54_method_77_code (5 : Nat) (Option.some Jvm.ClassFile.FieldType.int)) ∈ lw_all := lw_g (lw_at lw_m2 55 rfl) rfl
theorem q358 : (Jvm.Cond.methodLink "java/lang/StringUTF16" (393 : Nat) ({ cls := "java/lang/StringUTF16", name := "getChars", desc := "(II[B)I" } : Jvm.MethodName)) ∈ lw_all := lw_g (lw_at lw_m2 56 rfl) rfl
theorem q359 : (Jvm.Cond.static ({ cls := "java/lang/StringUTF16", name := "getChars", desc := "(II[B)I" } : Jvm.MethodName)) ∈ lw_all := lw_g (lw_at lw_m2 57 rfl) rfl
theorem q360 : (Jvm.Cond.code ({ cls := "java/lang/StringUTF16", name := "getChars", desc := "(II[B)I" } : Jvm.MethodName) prog_54_method_89_code (7 : Nat) (Option.some Jvm.ClassFile.FieldType.int)) ∈ lw_all := lw_g (lw_at lw_m2 58 rfl) rfl
theorem q361 : (Jvm.Cond.fieldLink "java/lang/StringUTF16" (403 : Nat) "java/lang/Integer" "DigitOnes" "[B") ∈ lw_all := lw_g (lw_at lw_m2 59 rfl) rfl
theorem q362 : (Jvm.Cond.fieldLink "java/lang/StringUTF16" (407 : Nat) "java/lang/Integer" "DigitTens" "[B") ∈ lw_all := lw_g (lw_at lw_m2 60 rfl) rfl
theorem q432 : (Jvm.Cond.static ({ cls := "java/lang/StringUTF16", name := "compress", desc := "([BII)[B" } : Jvm.MethodName)) ∈ lw_all := lw_g (lw_at lw_m2 130 rfl) rfl
theorem q433 : (Jvm.Cond.code ({ cls := "java/lang/StringUTF16", name := "compress", desc := "([BII)[B" } : Jvm.MethodName) prog_54_method_17_code (6 : Nat) (Option.some (Jvm.ClassFile.FieldType.array Jvm.ClassFile.FieldType.byte))) ∈ lw_all := lw_g (lw_at lw_m2 131 rfl) rfl
theorem q434 : (Jvm.Cond.methodLink "java/lang/StringUTF16" (123 : Nat) ({ cls := "java/lang/StringUTF16", name := "compress", desc := "([BI[BII)I" } : Jvm.MethodName)) ∈ lw_all := lw_g (lw_at lw_m2 132 rfl) rfl
theorem q435 : (Jvm.Cond.static ({ cls := "java/lang/StringUTF16", name := "compress", desc := "([BI[BII)I" } : Jvm.MethodName)) ∈ lw_all := lw_g (lw_at lw_m2 133 rfl) rfl
theorem q436 : (Jvm.Cond.code ({ cls := "java/lang/StringUTF16", name := "compress", desc := "([BI[BII)I" } : Jvm.MethodName) prog_54_method_22_code (7 : Nat) (Option.some Jvm.ClassFile.FieldType.int)) ∈ lw_all := lw_g (lw_at lw_m2 134 rfl) rfl
theorem q437 : (Jvm.Cond.methodLink "java/lang/StringUTF16" (71 : Nat) ({ cls := "java/lang/StringUTF16", name := "getChar", desc := "([BI)C" } : Jvm.MethodName)) ∈ lw_all := lw_g (lw_at lw_m2 135 rfl) rfl
theorem q438 : (Jvm.Cond.static ({ cls := "java/lang/StringUTF16", name := "getChar", desc := "([BI)C" } : Jvm.MethodName)) ∈ lw_all := lw_g (lw_at lw_m2 136 rfl) rfl
theorem q439 : (Jvm.Cond.code ({ cls := "java/lang/StringUTF16", name := "getChar", desc := "([BI)C" } : Jvm.MethodName) prog_54_method_5_code (2 : Nat) (Option.some Jvm.ClassFile.FieldType.char)) ∈ lw_all := lw_g (lw_at lw_m2 137 rfl) rfl
theorem q440 : (Jvm.Cond.methodLink "java/lang/StringUTF16" (126 : Nat) ({ cls := "java/util/Arrays", name := "copyOfRange", desc := "([BII)[B" } : Jvm.MethodName)) ∈ lw_all := lw_g (lw_at lw_m2 138 rfl) rfl
theorem q442 : (Jvm.Cond.static ({ cls := "java/lang/StringUTF16", name := "coderFromArrayLen", desc := "([BI)B" } : Jvm.MethodName)) ∈ lw_all := lw_g (lw_at lw_m2 140 rfl) rfl
theorem q443 : (Jvm.Cond.code ({ cls := "java/lang/StringUTF16", name := "coderFromArrayLen", desc := "([BI)B" } : Jvm.MethodName) prog_54_method_15_code (2 : Nat) (Option.some Jvm.ClassFile.FieldType.byte)) ∈ lw_all := lw_g (lw_at lw_m2 141 rfl) rfl
theorem q697 : (Jvm.Cond.static ({ cls := "java/lang/StringUTF16", name := "putCharSB", desc := "([BII)V" } : Jvm.MethodName)) ∈ lw_all := lw_g (lw_at lw_m3 155 rfl) rfl
theorem q698 : (Jvm.Cond.code ({ cls := "java/lang/StringUTF16", name := "putCharSB", desc := "([BII)V" } : Jvm.MethodName) prog_54_method_71_code (3 : Nat) (Option.none : Option Jvm.ClassFile.FieldType)) ∈ lw_all := lw_g (lw_at lw_m3 156 rfl) rfl
theorem q699 : (Jvm.Cond.methodLink "java/lang/StringUTF16" (67 : Nat) ({ cls := "java/lang/StringUTF16", name := "checkIndex", desc := "(I[B)V" } : Jvm.MethodName)) ∈ lw_all := lw_g (lw_at lw_m3 157 rfl) rfl
theorem q700 : (Jvm.Cond.static ({ cls := "java/lang/StringUTF16", name := "checkIndex", desc := "(I[B)V" } : Jvm.MethodName)) ∈ lw_all := lw_g (lw_at lw_m3 158 rfl) rfl
theorem q701 : (Jvm.Cond.code ({ cls := "java/lang/StringUTF16", name := "checkIndex", desc := "(I[B)V" } : Jvm.MethodName) prog_54_method_91_code (2 : Nat) (Option.none : Option Jvm.ClassFile.FieldType)) ∈ lw_all := lw_g (lw_at lw_m3 159 rfl) rfl
theorem q702 : (Jvm.Cond.methodLink "java/lang/StringUTF16" (414 : Nat) ({ cls := "java/lang/String", name := "checkIndex", desc := "(II)V" } : Jvm.MethodName)) ∈ lw_all := lw_g (lw_at lw_m3 160 rfl) rfl
theorem q1045 : (Jvm.Cond.static ({ cls := "java/lang/StringUTF16", name := "hashCode", desc := "([B)I" } : Jvm.MethodName)) ∈ lw_all := lw_g (lw_at lw_m5 23 rfl) rfl
theorem q1046 : (Jvm.Cond.code ({ cls := "java/lang/StringUTF16", name := "hashCode", desc := "([B)I" } : Jvm.MethodName) prog_54_method_39_code (1 : Nat) (Option.some Jvm.ClassFile.FieldType.int)) ∈ lw_all := lw_g (lw_at lw_m5 24 rfl) rfl
theorem q1047 : (Jvm.Cond.methodLink "java/lang/StringUTF16" (220 : Nat) ({ cls := "jdk/internal/util/ArraysSupport", name := "vectorizedHashCode", desc := "(Ljava/lang/Object;IIII)I" } : Jvm.MethodName)) ∈ lw_all := lw_g (lw_at lw_m5 25 rfl) rfl
theorem q1983 : (Jvm.Cond.static ({ cls := "java/lang/StringUTF16", name := "charAt", desc := "([BI)C" } : Jvm.MethodName)) ∈ lw_all := lw_g (lw_at lw_m9 1 rfl) rfl
theorem q1984 : (Jvm.Cond.code ({ cls := "java/lang/StringUTF16", name := "charAt", desc := "([BI)C" } : Jvm.MethodName) prog_54_method_83_code (2 : Nat) (Option.some Jvm.ClassFile.FieldType.char)) ∈ lw_all := lw_g (lw_at lw_m9 2 rfl) rfl
/-! jdk/internal/util/ArraysSupport -/
set_option maxRecDepth 100000
def RJ11 : String := "jdk/internal/util/ArraysSupport"
abbrev cJ11_newLength : ByteArray := prog_70_method_27_code
def yJ11_newLength : MethodName := ⟨RJ11, "newLength", "(III)I"⟩
def dkwJ11_newLength_1 : List UInt8 := [184, 0, 201, 172]
abbrev dktJ11_newLength_1 : List UInt8 := dkwJ11_newLength_1 ++ []
def dkwJ11_newLength_0 : List UInt8 := [26, 27, 28, 184, 0, 194, 96, 62, 3, 29, 162, 0, 11, 29, 18, 200, 163, 0, 5, 29, 172, 26, 27]
abbrev dktJ11_newLength_0 : List UInt8 := dkwJ11_newLength_0 ++ dktJ11_newLength_1
theorem dksJ11_newLength_0 : cJ11_newLength.data.toList.drop 0 = dktJ11_newLength_0 := by decide +kernel
theorem dksJ11_newLength_1 : cJ11_newLength.data.toList.drop 23 = dktJ11_newLength_1 := dk_seg dksJ11_newLength_0 23 rfl rfl
theorem dJ11_newLength_0 : decode cJ11_newLength 0 = .ok (.iload_n 0, 1) := dk_26 (dk_at dksJ11_newLength_0 0 rfl rfl)
theorem dJ11_newLength_1 : decode cJ11_newLength 1 = .ok (.iload_n 1, 1) := dk_27 (dk_at dksJ11_newLength_0 1 rfl rfl)
theorem dJ11_newLength_2 : decode cJ11_newLength 2 = .ok (.iload_n 2, 1) := dk_28 (dk_at dksJ11_newLength_0 2 rfl rfl)
theorem dJ11_newLength_3 : decode cJ11_newLength 3 = .ok (.invokestatic 194, 3) := dk_184 0 194 (dk_at dksJ11_newLength_0 3 rfl rfl)
theorem dJ11_newLength_6 : decode cJ11_newLength 6 = .ok (.iadd, 1) := dk_96 (dk_at dksJ11_newLength_0 6 rfl rfl)
theorem dJ11_newLength_7 : decode cJ11_newLength 7 = .ok (.istore_n 3, 1) := dk_62 (dk_at dksJ11_newLength_0 7 rfl rfl)
theorem dJ11_newLength_8 : decode cJ11_newLength 8 = .ok (.iconst 0, 1) := dk_3 (dk_at dksJ11_newLength_0 8 rfl rfl)
theorem dJ11_newLength_9 : decode cJ11_newLength 9 = .ok (.iload_n 3, 1) := dk_29 (dk_at dksJ11_newLength_0 9 rfl rfl)
theorem dJ11_newLength_10 : decode cJ11_newLength 10 = .ok (.if_icmp .ge 11, 3) := dk_162 0 11 (dk_at dksJ11_newLength_0 10 rfl rfl)
theorem dJ11_newLength_13 : decode cJ11_newLength 13 = .ok (.iload_n 3, 1) := dk_29 (dk_at dksJ11_newLength_0 13 rfl rfl)
theorem dJ11_newLength_14 : decode cJ11_newLength 14 = .ok (.ldc 200, 2) := dk_18 200 (dk_at dksJ11_newLength_0 14 rfl rfl)
theorem dJ11_newLength_16 : decode cJ11_newLength 16 = .ok (.if_icmp .gt 5, 3) := dk_163 0 5 (dk_at dksJ11_newLength_0 16 rfl rfl)
theorem dJ11_newLength_19 : decode cJ11_newLength 19 = .ok (.iload_n 3, 1) := dk_29 (dk_at dksJ11_newLength_0 19 rfl rfl)
theorem dJ11_newLength_20 : decode cJ11_newLength 20 = .ok (.ireturn, 1) := dk_172 (dk_at dksJ11_newLength_0 20 rfl rfl)
theorem dJ11_newLength_21 : decode cJ11_newLength 21 = .ok (.iload_n 0, 1) := dk_26 (dk_at dksJ11_newLength_0 21 rfl rfl)
theorem dJ11_newLength_22 : decode cJ11_newLength 22 = .ok (.iload_n 1, 1) := dk_27 (dk_at dksJ11_newLength_0 22 rfl rfl)
theorem dJ11_newLength_23 : decode cJ11_newLength 23 = .ok (.invokestatic 201, 3) := dk_184 0 201 (dk_at dksJ11_newLength_1 0 rfl rfl)
theorem dJ11_newLength_26 : decode cJ11_newLength 26 = .ok (.ireturn, 1) := dk_172 (dk_at dksJ11_newLength_1 3 rfl rfl)
abbrev cJ11_hugeLength : ByteArray := prog_70_method_28_code
def yJ11_hugeLength : MethodName := ⟨RJ11, "hugeLength", "(II)I"⟩
def dkwJ11_hugeLength_2 : List UInt8 := [191, 28, 18, 200, 163, 0, 6, 18, 200, 172, 28, 172]
abbrev dktJ11_hugeLength_2 : List UInt8 := dkwJ11_hugeLength_2 ++ []
def dkwJ11_hugeLength_1 : List UInt8 := [26, 182, 0, 98, 18, 208, 182, 0, 94, 27, 182, 0, 98, 18, 210, 182, 0, 94, 182, 0, 101, 183, 0, 212]
abbrev dktJ11_hugeLength_1 : List UInt8 := dkwJ11_hugeLength_1 ++ dktJ11_hugeLength_2
def dkwJ11_hugeLength_0 : List UInt8 := [26, 27, 96, 61, 28, 156, 0, 44, 187, 0, 204, 89, 187, 0, 89, 89, 183, 0, 91, 18, 206, 182, 0, 94]
abbrev dktJ11_hugeLength_0 : List UInt8 := dkwJ11_hugeLength_0 ++ dktJ11_hugeLength_1
theorem dksJ11_hugeLength_0 : cJ11_hugeLength.data.toList.drop 0 = dktJ11_hugeLength_0 := by decide +kernel
theorem dksJ11_hugeLength_1 : cJ11_hugeLength.data.toList.drop 24 = dktJ11_hugeLength_1 := dk_seg dksJ11_hugeLength_0 24 rfl rfl
theorem dksJ11_hugeLength_2 : cJ11_hugeLength.data.toList.drop 48 = dktJ11_hugeLength_2 := dk_seg dksJ11_hugeLength_1 24 rfl rfl
theorem dJ11_hugeLength_0 : decode cJ11_hugeLength 0 = .ok (.iload_n 0, 1) := dk_26 (dk_at dksJ11_hugeLength_0 0 rfl rfl)
theorem dJ11_hugeLength_1 : decode cJ11_hugeLength 1 = .ok (.iload_n 1, 1) := dk_27 (dk_at dksJ11_hugeLength_0 1 rfl rfl)
theorem dJ11_hugeLength_2 : decode cJ11_hugeLength 2 = .ok (.iadd, 1) := dk_96 (dk_at dksJ11_hugeLength_0 2 rfl rfl)
theorem dJ11_hugeLength_3 : decode cJ11_hugeLength 3 = .ok (.istore_n 2, 1) := dk_61 (dk_at dksJ11_hugeLength_0 3 rfl rfl)
theorem dJ11_hugeLength_4 : decode cJ11_hugeLength 4 = .ok (.iload_n 2, 1) := dk_28 (dk_at dksJ11_hugeLength_0 4 rfl rfl)
theorem dJ11_hugeLength_5 : decode cJ11_hugeLength 5 = .ok (.ifCond .ge 44, 3) := dk_156 0 44 (dk_at dksJ11_hugeLength_0 5 rfl rfl)
theorem dJ11_hugeLength_8 : decode cJ11_hugeLength 8 = .ok (.new 204, 3) := dk_187 0 204 (dk_at dksJ11_hugeLength_0 8 rfl rfl)
theorem dJ11_hugeLength_11 : decode cJ11_hugeLength 11 = .ok (.dup, 1) := dk_89 (dk_at dksJ11_hugeLength_0 11 rfl rfl)
theorem dJ11_hugeLength_12 : decode cJ11_hugeLength 12 = .ok (.new 89, 3) := dk_187 0 89 (dk_at dksJ11_hugeLength_0 12 rfl rfl)
theorem dJ11_hugeLength_15 : decode cJ11_hugeLength 15 = .ok (.dup, 1) := dk_89 (dk_at dksJ11_hugeLength_0 15 rfl rfl)
theorem dJ11_hugeLength_16 : decode cJ11_hugeLength 16 = .ok (.invokespecial 91, 3) := dk_183 0 91 (dk_at dksJ11_hugeLength_0 16 rfl rfl)
theorem dJ11_hugeLength_19 : decode cJ11_hugeLength 19 = .ok (.ldc 206, 2) := dk_18 206 (dk_at dksJ11_hugeLength_0 19 rfl rfl)
theorem dJ11_hugeLength_21 : decode cJ11_hugeLength 21 = .ok (.invokevirtual 94, 3) := dk_182 0 94 (dk_at dksJ11_hugeLength_0 21 rfl rfl)
theorem dJ11_hugeLength_24 : decode cJ11_hugeLength 24 = .ok (.iload_n 0, 1) := dk_26 (dk_at dksJ11_hugeLength_1 0 rfl rfl)
theorem dJ11_hugeLength_25 : decode cJ11_hugeLength 25 = .ok (.invokevirtual 98, 3) := dk_182 0 98 (dk_at dksJ11_hugeLength_1 1 rfl rfl)
theorem dJ11_hugeLength_28 : decode cJ11_hugeLength 28 = .ok (.ldc 208, 2) := dk_18 208 (dk_at dksJ11_hugeLength_1 4 rfl rfl)
theorem dJ11_hugeLength_30 : decode cJ11_hugeLength 30 = .ok (.invokevirtual 94, 3) := dk_182 0 94 (dk_at dksJ11_hugeLength_1 6 rfl rfl)
theorem dJ11_hugeLength_33 : decode cJ11_hugeLength 33 = .ok (.iload_n 1, 1) := dk_27 (dk_at dksJ11_hugeLength_1 9 rfl rfl)
theorem dJ11_hugeLength_34 : decode cJ11_hugeLength 34 = .ok (.invokevirtual 98, 3) := dk_182 0 98 (dk_at dksJ11_hugeLength_1 10 rfl rfl)
theorem dJ11_hugeLength_37 : decode cJ11_hugeLength 37 = .ok (.ldc 210, 2) := dk_18 210 (dk_at dksJ11_hugeLength_1 13 rfl rfl)
theorem dJ11_hugeLength_39 : decode cJ11_hugeLength 39 = .ok (.invokevirtual 94, 3) := dk_182 0 94 (dk_at dksJ11_hugeLength_1 15 rfl rfl)
theorem dJ11_hugeLength_42 : decode cJ11_hugeLength 42 = .ok (.invokevirtual 101, 3) := dk_182 0 101 (dk_at dksJ11_hugeLength_1 18 rfl rfl)
theorem dJ11_hugeLength_45 : decode cJ11_hugeLength 45 = .ok (.invokespecial 212, 3) := dk_183 0 212 (dk_at dksJ11_hugeLength_1 21 rfl rfl)
theorem dJ11_hugeLength_48 : decode cJ11_hugeLength 48 = .ok (.athrow, 1) := dk_191 (dk_at dksJ11_hugeLength_2 0 rfl rfl)
theorem dJ11_hugeLength_49 : decode cJ11_hugeLength 49 = .ok (.iload_n 2, 1) := dk_28 (dk_at dksJ11_hugeLength_2 1 rfl rfl)
theorem dJ11_hugeLength_50 : decode cJ11_hugeLength 50 = .ok (.ldc 200, 2) := dk_18 200 (dk_at dksJ11_hugeLength_2 2 rfl rfl)
theorem dJ11_hugeLength_52 : decode cJ11_hugeLength 52 = .ok (.if_icmp .gt 6, 3) := dk_163 0 6 (dk_at dksJ11_hugeLength_2 4 rfl rfl)
theorem dJ11_hugeLength_55 : decode cJ11_hugeLength 55 = .ok (.ldc 200, 2) := dk_18 200 (dk_at dksJ11_hugeLength_2 7 rfl rfl)
theorem dJ11_hugeLength_57 : decode cJ11_hugeLength 57 = .ok (.ireturn, 1) := dk_172 (dk_at dksJ11_hugeLength_2 9 rfl rfl)
theorem dJ11_hugeLength_58 : decode cJ11_hugeLength 58 = .ok (.iload_n 2, 1) := dk_28 (dk_at dksJ11_hugeLength_2 10 rfl rfl)
theorem dJ11_hugeLength_59 : decode cJ11_hugeLength 59 = .ok (.ireturn, 1) := dk_172 (dk_at dksJ11_hugeLength_2 11 rfl rfl)
abbrev cJ11_vectorizedHashCode : ByteArray := prog_70_method_4_code
def yJ11_vectorizedHashCode : MethodName := ⟨RJ11, "vectorizedHashCode", "(Ljava/lang/Object;IIII)I"⟩
def dkwJ11_vectorizedHashCode_6 : List UInt8 := [183, 0, 91, 18, 92, 182, 0, 94, 21, 4, 182, 0, 98, 182, 0, 101, 183, 0, 105, 191, 172]
abbrev dktJ11_vectorizedHashCode_6 : List UInt8 := dkwJ11_vectorizedHashCode_6 ++ []
def dkwJ11_vectorizedHashCode_5 : List UInt8 := [167, 0, 44, 29, 42, 192, 0, 82, 27, 28, 184, 0, 84, 167, 0, 31, 187, 0, 87, 89, 187, 0, 89, 89]
abbrev dktJ11_vectorizedHashCode_5 : List UInt8 := dkwJ11_vectorizedHashCode_5 ++ dktJ11_vectorizedHashCode_6
def dkwJ11_vectorizedHashCode_4 : List UInt8 := [29, 42, 192, 0, 60, 27, 28, 184, 0, 75, 167, 0, 57, 29, 42, 192, 0, 77, 27, 28, 184, 0, 79]
abbrev dktJ11_vectorizedHashCode_4 : List UInt8 := dkwJ11_vectorizedHashCode_4 ++ dktJ11_vectorizedHashCode_5
def dkwJ11_vectorizedHashCode_3 : List UInt8 := [192, 0, 60, 27, 28, 184, 0, 66, 167, 0, 83, 29, 42, 192, 0, 69, 27, 28, 184, 0, 71, 167, 0, 70]
abbrev dktJ11_vectorizedHashCode_3 : List UInt8 := dkwJ11_vectorizedHashCode_3 ++ dktJ11_vectorizedHashCode_4
def dkwJ11_vectorizedHashCode_2 : List UInt8 := [29, 42, 192, 0, 60, 27, 28, 184, 0, 62, 167, 0, 103, 42, 193, 0, 60, 153, 0, 16, 29, 42]
abbrev dktJ11_vectorizedHashCode_2 : List UInt8 := dkwJ11_vectorizedHashCode_2 ++ dktJ11_vectorizedHashCode_3
def dkwJ11_vectorizedHashCode_1 : List UInt8 := [170, 0, 0, 0, 0, 127, 0, 0, 0, 4, 0, 0, 0, 10, 0, 0, 0, 42, 0, 0, 0, 55, 0, 0, 0, 127, 0, 0, 0, 127, 0, 0, 0, 88, 0, 0, 0, 101, 0, 0, 0, 114]
abbrev dktJ11_vectorizedHashCode_1 : List UInt8 := dkwJ11_vectorizedHashCode_1 ++ dktJ11_vectorizedHashCode_2
def dkwJ11_vectorizedHashCode_0 : List UInt8 := [21, 4]
abbrev dktJ11_vectorizedHashCode_0 : List UInt8 := dkwJ11_vectorizedHashCode_0 ++ dktJ11_vectorizedHashCode_1
theorem dksJ11_vectorizedHashCode_0 : cJ11_vectorizedHashCode.data.toList.drop 0 = dktJ11_vectorizedHashCode_0 := by decide +kernel
theorem dksJ11_vectorizedHashCode_1 : cJ11_vectorizedHashCode.data.toList.drop 2 = dktJ11_vectorizedHashCode_1 := dk_seg dksJ11_vectorizedHashCode_0 2 rfl rfl
theorem dksJ11_vectorizedHashCode_2 : cJ11_vectorizedHashCode.data.toList.drop 44 = dktJ11_vectorizedHashCode_2 := dk_seg dksJ11_vectorizedHashCode_1 42 rfl rfl
theorem dksJ11_vectorizedHashCode_3 : cJ11_vectorizedHashCode.data.toList.drop 66 = dktJ11_vectorizedHashCode_3 := dk_seg dksJ11_vectorizedHashCode_2 22 rfl rfl
theorem dksJ11_vectorizedHashCode_4 : cJ11_vectorizedHashCode.data.toList.drop 90 = dktJ11_vectorizedHashCode_4 := dk_seg dksJ11_vectorizedHashCode_3 24 rfl rfl
theorem dksJ11_vectorizedHashCode_5 : cJ11_vectorizedHashCode.data.toList.drop 113 = dktJ11_vectorizedHashCode_5 := dk_seg dksJ11_vectorizedHashCode_4 23 rfl rfl
theorem dksJ11_vectorizedHashCode_6 : cJ11_vectorizedHashCode.data.toList.drop 137 = dktJ11_vectorizedHashCode_6 := dk_seg dksJ11_vectorizedHashCode_5 24 rfl rfl
theorem dJ11_vectorizedHashCode_0 : decode cJ11_vectorizedHashCode 0 = .ok (.iload 4, 2) := dk_21 4 (dk_at dksJ11_vectorizedHashCode_0 0 rfl rfl)
theorem dJ11_vectorizedHashCode_2 : decode cJ11_vectorizedHashCode 2 = .ok (.tableswitch 127 4 10 #[42, 55, 127, 127, 88, 101, 114], 42) := by decide +kernel
theorem dJ11_vectorizedHashCode_44 : decode cJ11_vectorizedHashCode 44 = .ok (.iload_n 3, 1) := dk_29 (dk_at dksJ11_vectorizedHashCode_2 0 rfl rfl)
theorem dJ11_vectorizedHashCode_45 : decode cJ11_vectorizedHashCode 45 = .ok (.aload_n 0, 1) := dk_42 (dk_at dksJ11_vectorizedHashCode_2 1 rfl rfl)
theorem dJ11_vectorizedHashCode_46 : decode cJ11_vectorizedHashCode 46 = .ok (.checkcast 60, 3) := dk_192 0 60 (dk_at dksJ11_vectorizedHashCode_2 2 rfl rfl)
theorem dJ11_vectorizedHashCode_49 : decode cJ11_vectorizedHashCode 49 = .ok (.iload_n 1, 1) := dk_27 (dk_at dksJ11_vectorizedHashCode_2 5 rfl rfl)
theorem dJ11_vectorizedHashCode_50 : decode cJ11_vectorizedHashCode 50 = .ok (.iload_n 2, 1) := dk_28 (dk_at dksJ11_vectorizedHashCode_2 6 rfl rfl)
theorem dJ11_vectorizedHashCode_51 : decode cJ11_vectorizedHashCode 51 = .ok (.invokestatic 62, 3) := dk_184 0 62 (dk_at dksJ11_vectorizedHashCode_2 7 rfl rfl)
theorem dJ11_vectorizedHashCode_54 : decode cJ11_vectorizedHashCode 54 = .ok (.goto 103, 3) := dk_167 0 103 (dk_at dksJ11_vectorizedHashCode_2 10 rfl rfl)
theorem dJ11_vectorizedHashCode_57 : decode cJ11_vectorizedHashCode 57 = .ok (.aload_n 0, 1) := dk_42 (dk_at dksJ11_vectorizedHashCode_2 13 rfl rfl)
theorem dJ11_vectorizedHashCode_58 : decode cJ11_vectorizedHashCode 58 = .ok (.instanceof 60, 3) := dk_193 0 60 (dk_at dksJ11_vectorizedHashCode_2 14 rfl rfl)
theorem dJ11_vectorizedHashCode_61 : decode cJ11_vectorizedHashCode 61 = .ok (.ifCond .eq 16, 3) := dk_153 0 16 (dk_at dksJ11_vectorizedHashCode_2 17 rfl rfl)
theorem dJ11_vectorizedHashCode_64 : decode cJ11_vectorizedHashCode 64 = .ok (.iload_n 3, 1) := dk_29 (dk_at dksJ11_vectorizedHashCode_2 20 rfl rfl)
theorem dJ11_vectorizedHashCode_65 : decode cJ11_vectorizedHashCode 65 = .ok (.aload_n 0, 1) := dk_42 (dk_at dksJ11_vectorizedHashCode_2 21 rfl rfl)
theorem dJ11_vectorizedHashCode_66 : decode cJ11_vectorizedHashCode 66 = .ok (.checkcast 60, 3) := dk_192 0 60 (dk_at dksJ11_vectorizedHashCode_3 0 rfl rfl)
theorem dJ11_vectorizedHashCode_69 : decode cJ11_vectorizedHashCode 69 = .ok (.iload_n 1, 1) := dk_27 (dk_at dksJ11_vectorizedHashCode_3 3 rfl rfl)
theorem dJ11_vectorizedHashCode_70 : decode cJ11_vectorizedHashCode 70 = .ok (.iload_n 2, 1) := dk_28 (dk_at dksJ11_vectorizedHashCode_3 4 rfl rfl)
theorem dJ11_vectorizedHashCode_71 : decode cJ11_vectorizedHashCode 71 = .ok (.invokestatic 66, 3) := dk_184 0 66 (dk_at dksJ11_vectorizedHashCode_3 5 rfl rfl)
theorem dJ11_vectorizedHashCode_74 : decode cJ11_vectorizedHashCode 74 = .ok (.goto 83, 3) := dk_167 0 83 (dk_at dksJ11_vectorizedHashCode_3 8 rfl rfl)
theorem dJ11_vectorizedHashCode_77 : decode cJ11_vectorizedHashCode 77 = .ok (.iload_n 3, 1) := dk_29 (dk_at dksJ11_vectorizedHashCode_3 11 rfl rfl)
theorem dJ11_vectorizedHashCode_78 : decode cJ11_vectorizedHashCode 78 = .ok (.aload_n 0, 1) := dk_42 (dk_at dksJ11_vectorizedHashCode_3 12 rfl rfl)
theorem dJ11_vectorizedHashCode_79 : decode cJ11_vectorizedHashCode 79 = .ok (.checkcast 69, 3) := dk_192 0 69 (dk_at dksJ11_vectorizedHashCode_3 13 rfl rfl)
theorem dJ11_vectorizedHashCode_82 : decode cJ11_vectorizedHashCode 82 = .ok (.iload_n 1, 1) := dk_27 (dk_at dksJ11_vectorizedHashCode_3 16 rfl rfl)
theorem dJ11_vectorizedHashCode_83 : decode cJ11_vectorizedHashCode 83 = .ok (.iload_n 2, 1) := dk_28 (dk_at dksJ11_vectorizedHashCode_3 17 rfl rfl)
theorem dJ11_vectorizedHashCode_84 : decode cJ11_vectorizedHashCode 84 = .ok (.invokestatic 71, 3) := dk_184 0 71 (dk_at dksJ11_vectorizedHashCode_3 18 rfl rfl)
theorem dJ11_vectorizedHashCode_87 : decode cJ11_vectorizedHashCode 87 = .ok (.goto 70, 3) := dk_167 0 70 (dk_at dksJ11_vectorizedHashCode_3 21 rfl rfl)
theorem dJ11_vectorizedHashCode_90 : decode cJ11_vectorizedHashCode 90 = .ok (.iload_n 3, 1) := dk_29 (dk_at dksJ11_vectorizedHashCode_4 0 rfl rfl)
theorem dJ11_vectorizedHashCode_91 : decode cJ11_vectorizedHashCode 91 = .ok (.aload_n 0, 1) := dk_42 (dk_at dksJ11_vectorizedHashCode_4 1 rfl rfl)
theorem dJ11_vectorizedHashCode_92 : decode cJ11_vectorizedHashCode 92 = .ok (.checkcast 60, 3) := dk_192 0 60 (dk_at dksJ11_vectorizedHashCode_4 2 rfl rfl)
theorem dJ11_vectorizedHashCode_95 : decode cJ11_vectorizedHashCode 95 = .ok (.iload_n 1, 1) := dk_27 (dk_at dksJ11_vectorizedHashCode_4 5 rfl rfl)
theorem dJ11_vectorizedHashCode_96 : decode cJ11_vectorizedHashCode 96 = .ok (.iload_n 2, 1) := dk_28 (dk_at dksJ11_vectorizedHashCode_4 6 rfl rfl)
theorem dJ11_vectorizedHashCode_97 : decode cJ11_vectorizedHashCode 97 = .ok (.invokestatic 75, 3) := dk_184 0 75 (dk_at dksJ11_vectorizedHashCode_4 7 rfl rfl)
theorem dJ11_vectorizedHashCode_100 : decode cJ11_vectorizedHashCode 100 = .ok (.goto 57, 3) := dk_167 0 57 (dk_at dksJ11_vectorizedHashCode_4 10 rfl rfl)
theorem dJ11_vectorizedHashCode_103 : decode cJ11_vectorizedHashCode 103 = .ok (.iload_n 3, 1) := dk_29 (dk_at dksJ11_vectorizedHashCode_4 13 rfl rfl)
theorem dJ11_vectorizedHashCode_104 : decode cJ11_vectorizedHashCode 104 = .ok (.aload_n 0, 1) := dk_42 (dk_at dksJ11_vectorizedHashCode_4 14 rfl rfl)
theorem dJ11_vectorizedHashCode_105 : decode cJ11_vectorizedHashCode 105 = .ok (.checkcast 77, 3) := dk_192 0 77 (dk_at dksJ11_vectorizedHashCode_4 15 rfl rfl)
theorem dJ11_vectorizedHashCode_108 : decode cJ11_vectorizedHashCode 108 = .ok (.iload_n 1, 1) := dk_27 (dk_at dksJ11_vectorizedHashCode_4 18 rfl rfl)
theorem dJ11_vectorizedHashCode_109 : decode cJ11_vectorizedHashCode 109 = .ok (.iload_n 2, 1) := dk_28 (dk_at dksJ11_vectorizedHashCode_4 19 rfl rfl)
theorem dJ11_vectorizedHashCode_110 : decode cJ11_vectorizedHashCode 110 = .ok (.invokestatic 79, 3) := dk_184 0 79 (dk_at dksJ11_vectorizedHashCode_4 20 rfl rfl)
theorem dJ11_vectorizedHashCode_113 : decode cJ11_vectorizedHashCode 113 = .ok (.goto 44, 3) := dk_167 0 44 (dk_at dksJ11_vectorizedHashCode_5 0 rfl rfl)
theorem dJ11_vectorizedHashCode_116 : decode cJ11_vectorizedHashCode 116 = .ok (.iload_n 3, 1) := dk_29 (dk_at dksJ11_vectorizedHashCode_5 3 rfl rfl)
theorem dJ11_vectorizedHashCode_117 : decode cJ11_vectorizedHashCode 117 = .ok (.aload_n 0, 1) := dk_42 (dk_at dksJ11_vectorizedHashCode_5 4 rfl rfl)
theorem dJ11_vectorizedHashCode_118 : decode cJ11_vectorizedHashCode 118 = .ok (.checkcast 82, 3) := dk_192 0 82 (dk_at dksJ11_vectorizedHashCode_5 5 rfl rfl)
theorem dJ11_vectorizedHashCode_121 : decode cJ11_vectorizedHashCode 121 = .ok (.iload_n 1, 1) := dk_27 (dk_at dksJ11_vectorizedHashCode_5 8 rfl rfl)
theorem dJ11_vectorizedHashCode_122 : decode cJ11_vectorizedHashCode 122 = .ok (.iload_n 2, 1) := dk_28 (dk_at dksJ11_vectorizedHashCode_5 9 rfl rfl)
theorem dJ11_vectorizedHashCode_123 : decode cJ11_vectorizedHashCode 123 = .ok (.invokestatic 84, 3) := dk_184 0 84 (dk_at dksJ11_vectorizedHashCode_5 10 rfl rfl)
theorem dJ11_vectorizedHashCode_126 : decode cJ11_vectorizedHashCode 126 = .ok (.goto 31, 3) := dk_167 0 31 (dk_at dksJ11_vectorizedHashCode_5 13 rfl rfl)
theorem dJ11_vectorizedHashCode_129 : decode cJ11_vectorizedHashCode 129 = .ok (.new 87, 3) := dk_187 0 87 (dk_at dksJ11_vectorizedHashCode_5 16 rfl rfl)
theorem dJ11_vectorizedHashCode_132 : decode cJ11_vectorizedHashCode 132 = .ok (.dup, 1) := dk_89 (dk_at dksJ11_vectorizedHashCode_5 19 rfl rfl)
theorem dJ11_vectorizedHashCode_133 : decode cJ11_vectorizedHashCode 133 = .ok (.new 89, 3) := dk_187 0 89 (dk_at dksJ11_vectorizedHashCode_5 20 rfl rfl)
theorem dJ11_vectorizedHashCode_136 : decode cJ11_vectorizedHashCode 136 = .ok (.dup, 1) := dk_89 (dk_at dksJ11_vectorizedHashCode_5 23 rfl rfl)
theorem dJ11_vectorizedHashCode_137 : decode cJ11_vectorizedHashCode 137 = .ok (.invokespecial 91, 3) := dk_183 0 91 (dk_at dksJ11_vectorizedHashCode_6 0 rfl rfl)
theorem dJ11_vectorizedHashCode_140 : decode cJ11_vectorizedHashCode 140 = .ok (.ldc 92, 2) := dk_18 92 (dk_at dksJ11_vectorizedHashCode_6 3 rfl rfl)
theorem dJ11_vectorizedHashCode_142 : decode cJ11_vectorizedHashCode 142 = .ok (.invokevirtual 94, 3) := dk_182 0 94 (dk_at dksJ11_vectorizedHashCode_6 5 rfl rfl)
theorem dJ11_vectorizedHashCode_145 : decode cJ11_vectorizedHashCode 145 = .ok (.iload 4, 2) := dk_21 4 (dk_at dksJ11_vectorizedHashCode_6 8 rfl rfl)
theorem dJ11_vectorizedHashCode_147 : decode cJ11_vectorizedHashCode 147 = .ok (.invokevirtual 98, 3) := dk_182 0 98 (dk_at dksJ11_vectorizedHashCode_6 10 rfl rfl)
theorem dJ11_vectorizedHashCode_150 : decode cJ11_vectorizedHashCode 150 = .ok (.invokevirtual 101, 3) := dk_182 0 101 (dk_at dksJ11_vectorizedHashCode_6 13 rfl rfl)
theorem dJ11_vectorizedHashCode_153 : decode cJ11_vectorizedHashCode 153 = .ok (.invokespecial 105, 3) := dk_183 0 105 (dk_at dksJ11_vectorizedHashCode_6 16 rfl rfl)
theorem dJ11_vectorizedHashCode_156 : decode cJ11_vectorizedHashCode 156 = .ok (.athrow, 1) := dk_191 (dk_at dksJ11_vectorizedHashCode_6 19 rfl rfl)
theorem dJ11_vectorizedHashCode_157 : decode cJ11_vectorizedHashCode 157 = .ok (.ireturn, 1) := dk_172 (dk_at dksJ11_vectorizedHashCode_6 20 rfl rfl)
abbrev cJ11_signedHashCode : ByteArray := prog_70_method_5_code
def yJ11_signedHashCode : MethodName := ⟨RJ11, "signedHashCode", "(I[BII)I"⟩
def dkwJ11_signedHashCode_1 : List UInt8 := [17, 0, 255, 126, 96, 59, 132, 5, 1, 167, 255, 232, 26, 172]
abbrev dktJ11_signedHashCode_1 : List UInt8 := dkwJ11_signedHashCode_1 ++ []
def dkwJ11_signedHashCode_0 : List UInt8 := [28, 29, 96, 54, 4, 28, 54, 5, 21, 5, 21, 4, 162, 0, 23, 16, 31, 26, 104, 43, 21, 5, 51]
abbrev dktJ11_signedHashCode_0 : List UInt8 := dkwJ11_signedHashCode_0 ++ dktJ11_signedHashCode_1
theorem dksJ11_signedHashCode_0 : cJ11_signedHashCode.data.toList.drop 0 = dktJ11_signedHashCode_0 := by decide +kernel
theorem dksJ11_signedHashCode_1 : cJ11_signedHashCode.data.toList.drop 23 = dktJ11_signedHashCode_1 := dk_seg dksJ11_signedHashCode_0 23 rfl rfl
theorem dJ11_signedHashCode_0 : decode cJ11_signedHashCode 0 = .ok (.iload_n 2, 1) := dk_28 (dk_at dksJ11_signedHashCode_0 0 rfl rfl)
theorem dJ11_signedHashCode_1 : decode cJ11_signedHashCode 1 = .ok (.iload_n 3, 1) := dk_29 (dk_at dksJ11_signedHashCode_0 1 rfl rfl)
theorem dJ11_signedHashCode_2 : decode cJ11_signedHashCode 2 = .ok (.iadd, 1) := dk_96 (dk_at dksJ11_signedHashCode_0 2 rfl rfl)
theorem dJ11_signedHashCode_3 : decode cJ11_signedHashCode 3 = .ok (.istore 4, 2) := dk_54 4 (dk_at dksJ11_signedHashCode_0 3 rfl rfl)
theorem dJ11_signedHashCode_5 : decode cJ11_signedHashCode 5 = .ok (.iload_n 2, 1) := dk_28 (dk_at dksJ11_signedHashCode_0 5 rfl rfl)
theorem dJ11_signedHashCode_6 : decode cJ11_signedHashCode 6 = .ok (.istore 5, 2) := dk_54 5 (dk_at dksJ11_signedHashCode_0 6 rfl rfl)
theorem dJ11_signedHashCode_8 : decode cJ11_signedHashCode 8 = .ok (.iload 5, 2) := dk_21 5 (dk_at dksJ11_signedHashCode_0 8 rfl rfl)
theorem dJ11_signedHashCode_10 : decode cJ11_signedHashCode 10 = .ok (.iload 4, 2) := dk_21 4 (dk_at dksJ11_signedHashCode_0 10 rfl rfl)
theorem dJ11_signedHashCode_12 : decode cJ11_signedHashCode 12 = .ok (.if_icmp .ge 23, 3) := dk_162 0 23 (dk_at dksJ11_signedHashCode_0 12 rfl rfl)
theorem dJ11_signedHashCode_15 : decode cJ11_signedHashCode 15 = .ok (.bipush 31, 2) := dk_16 31 (dk_at dksJ11_signedHashCode_0 15 rfl rfl)
theorem dJ11_signedHashCode_17 : decode cJ11_signedHashCode 17 = .ok (.iload_n 0, 1) := dk_26 (dk_at dksJ11_signedHashCode_0 17 rfl rfl)
theorem dJ11_signedHashCode_18 : decode cJ11_signedHashCode 18 = .ok (.imul, 1) := dk_104 (dk_at dksJ11_signedHashCode_0 18 rfl rfl)
theorem dJ11_signedHashCode_19 : decode cJ11_signedHashCode 19 = .ok (.aload_n 1, 1) := dk_43 (dk_at dksJ11_signedHashCode_0 19 rfl rfl)
theorem dJ11_signedHashCode_20 : decode cJ11_signedHashCode 20 = .ok (.iload 5, 2) := dk_21 5 (dk_at dksJ11_signedHashCode_0 20 rfl rfl)
theorem dJ11_signedHashCode_22 : decode cJ11_signedHashCode 22 = .ok (.baload, 1) := dk_51 (dk_at dksJ11_signedHashCode_0 22 rfl rfl)
theorem dJ11_signedHashCode_23 : decode cJ11_signedHashCode 23 = .ok (.sipush 255, 3) := dk_17 0 255 (dk_at dksJ11_signedHashCode_1 0 rfl rfl)
theorem dJ11_signedHashCode_26 : decode cJ11_signedHashCode 26 = .ok (.iand, 1) := dk_126 (dk_at dksJ11_signedHashCode_1 3 rfl rfl)
theorem dJ11_signedHashCode_27 : decode cJ11_signedHashCode 27 = .ok (.iadd, 1) := dk_96 (dk_at dksJ11_signedHashCode_1 4 rfl rfl)
theorem dJ11_signedHashCode_28 : decode cJ11_signedHashCode 28 = .ok (.istore_n 0, 1) := dk_59 (dk_at dksJ11_signedHashCode_1 5 rfl rfl)
theorem dJ11_signedHashCode_29 : decode cJ11_signedHashCode 29 = .ok (.iinc 5 1, 3) := dk_132 5 1 (dk_at dksJ11_signedHashCode_1 6 rfl rfl)
theorem dJ11_signedHashCode_32 : decode cJ11_signedHashCode 32 = .ok (.goto (-24), 3) := dk_167 255 232 (dk_at dksJ11_signedHashCode_1 9 rfl rfl)
theorem dJ11_signedHashCode_35 : decode cJ11_signedHashCode 35 = .ok (.iload_n 0, 1) := dk_26 (dk_at dksJ11_signedHashCode_1 12 rfl rfl)
theorem dJ11_signedHashCode_36 : decode cJ11_signedHashCode 36 = .ok (.ireturn, 1) := dk_172 (dk_at dksJ11_signedHashCode_1 13 rfl rfl)
abbrev cJ11_utf16hashCode : ByteArray := prog_70_method_10_code
def yJ11_utf16hashCode : MethodName := ⟨RJ11, "utf16hashCode", "(I[BII)I"⟩
def dkwJ11_utf16hashCode_1 : List UInt8 := [21, 5, 185, 0, 110, 3, 0, 96, 59, 132, 5, 1, 167, 255, 229, 26, 172]
abbrev dktJ11_utf16hashCode_1 : List UInt8 := dkwJ11_utf16hashCode_1 ++ []
def dkwJ11_utf16hashCode_0 : List UInt8 := [28, 29, 96, 54, 4, 28, 54, 5, 21, 5, 21, 4, 162, 0, 26, 16, 31, 26, 104, 178, 0, 106, 43]
abbrev dktJ11_utf16hashCode_0 : List UInt8 := dkwJ11_utf16hashCode_0 ++ dktJ11_utf16hashCode_1
theorem dksJ11_utf16hashCode_0 : cJ11_utf16hashCode.data.toList.drop 0 = dktJ11_utf16hashCode_0 := by decide +kernel
theorem dksJ11_utf16hashCode_1 : cJ11_utf16hashCode.data.toList.drop 23 = dktJ11_utf16hashCode_1 := dk_seg dksJ11_utf16hashCode_0 23 rfl rfl
theorem dJ11_utf16hashCode_0 : decode cJ11_utf16hashCode 0 = .ok (.iload_n 2, 1) := dk_28 (dk_at dksJ11_utf16hashCode_0 0 rfl rfl)
theorem dJ11_utf16hashCode_1 : decode cJ11_utf16hashCode 1 = .ok (.iload_n 3, 1) := dk_29 (dk_at dksJ11_utf16hashCode_0 1 rfl rfl)
theorem dJ11_utf16hashCode_2 : decode cJ11_utf16hashCode 2 = .ok (.iadd, 1) := dk_96 (dk_at dksJ11_utf16hashCode_0 2 rfl rfl)
theorem dJ11_utf16hashCode_3 : decode cJ11_utf16hashCode 3 = .ok (.istore 4, 2) := dk_54 4 (dk_at dksJ11_utf16hashCode_0 3 rfl rfl)
theorem dJ11_utf16hashCode_5 : decode cJ11_utf16hashCode 5 = .ok (.iload_n 2, 1) := dk_28 (dk_at dksJ11_utf16hashCode_0 5 rfl rfl)
theorem dJ11_utf16hashCode_6 : decode cJ11_utf16hashCode 6 = .ok (.istore 5, 2) := dk_54 5 (dk_at dksJ11_utf16hashCode_0 6 rfl rfl)
theorem dJ11_utf16hashCode_8 : decode cJ11_utf16hashCode 8 = .ok (.iload 5, 2) := dk_21 5 (dk_at dksJ11_utf16hashCode_0 8 rfl rfl)
theorem dJ11_utf16hashCode_10 : decode cJ11_utf16hashCode 10 = .ok (.iload 4, 2) := dk_21 4 (dk_at dksJ11_utf16hashCode_0 10 rfl rfl)
theorem dJ11_utf16hashCode_12 : decode cJ11_utf16hashCode 12 = .ok (.if_icmp .ge 26, 3) := dk_162 0 26 (dk_at dksJ11_utf16hashCode_0 12 rfl rfl)
theorem dJ11_utf16hashCode_15 : decode cJ11_utf16hashCode 15 = .ok (.bipush 31, 2) := dk_16 31 (dk_at dksJ11_utf16hashCode_0 15 rfl rfl)
theorem dJ11_utf16hashCode_17 : decode cJ11_utf16hashCode 17 = .ok (.iload_n 0, 1) := dk_26 (dk_at dksJ11_utf16hashCode_0 17 rfl rfl)
theorem dJ11_utf16hashCode_18 : decode cJ11_utf16hashCode 18 = .ok (.imul, 1) := dk_104 (dk_at dksJ11_utf16hashCode_0 18 rfl rfl)
theorem dJ11_utf16hashCode_19 : decode cJ11_utf16hashCode 19 = .ok (.getstatic 106, 3) := dk_178 0 106 (dk_at dksJ11_utf16hashCode_0 19 rfl rfl)
theorem dJ11_utf16hashCode_22 : decode cJ11_utf16hashCode 22 = .ok (.aload_n 1, 1) := dk_43 (dk_at dksJ11_utf16hashCode_0 22 rfl rfl)
theorem dJ11_utf16hashCode_23 : decode cJ11_utf16hashCode 23 = .ok (.iload 5, 2) := dk_21 5 (dk_at dksJ11_utf16hashCode_1 0 rfl rfl)
theorem dJ11_utf16hashCode_25 : decode cJ11_utf16hashCode 25 = .ok (.invokeinterface 110 3, 5) := by decide +kernel
theorem dJ11_utf16hashCode_30 : decode cJ11_utf16hashCode 30 = .ok (.iadd, 1) := dk_96 (dk_at dksJ11_utf16hashCode_1 7 rfl rfl)
theorem dJ11_utf16hashCode_31 : decode cJ11_utf16hashCode 31 = .ok (.istore_n 0, 1) := dk_59 (dk_at dksJ11_utf16hashCode_1 8 rfl rfl)
theorem dJ11_utf16hashCode_32 : decode cJ11_utf16hashCode 32 = .ok (.iinc 5 1, 3) := dk_132 5 1 (dk_at dksJ11_utf16hashCode_1 9 rfl rfl)
theorem dJ11_utf16hashCode_35 : decode cJ11_utf16hashCode 35 = .ok (.goto (-27), 3) := dk_167 255 229 (dk_at dksJ11_utf16hashCode_1 12 rfl rfl)
theorem dJ11_utf16hashCode_38 : decode cJ11_utf16hashCode 38 = .ok (.iload_n 0, 1) := dk_26 (dk_at dksJ11_utf16hashCode_1 15 rfl rfl)
theorem dJ11_utf16hashCode_39 : decode cJ11_utf16hashCode 39 = .ok (.ireturn, 1) := dk_172 (dk_at dksJ11_utf16hashCode_1 16 rfl rfl)
abbrev cJ11_hashCode : ByteArray := prog_70_method_7_code
def yJ11_hashCode : MethodName := ⟨RJ11, "hashCode", "(I[CII)I"⟩
def dkwJ11_hashCode_1 : List UInt8 := [59, 132, 5, 1, 167, 255, 236, 26, 172]
abbrev dktJ11_hashCode_1 : List UInt8 := dkwJ11_hashCode_1 ++ []
def dkwJ11_hashCode_0 : List UInt8 := [28, 29, 96, 54, 4, 28, 54, 5, 21, 5, 21, 4, 162, 0, 19, 16, 31, 26, 104, 43, 21, 5, 52, 96]
abbrev dktJ11_hashCode_0 : List UInt8 := dkwJ11_hashCode_0 ++ dktJ11_hashCode_1
theorem dksJ11_hashCode_0 : cJ11_hashCode.data.toList.drop 0 = dktJ11_hashCode_0 := by decide +kernel
theorem dksJ11_hashCode_1 : cJ11_hashCode.data.toList.drop 24 = dktJ11_hashCode_1 := dk_seg dksJ11_hashCode_0 24 rfl rfl
theorem dJ11_hashCode_0 : decode cJ11_hashCode 0 = .ok (.iload_n 2, 1) := dk_28 (dk_at dksJ11_hashCode_0 0 rfl rfl)
theorem dJ11_hashCode_1 : decode cJ11_hashCode 1 = .ok (.iload_n 3, 1) := dk_29 (dk_at dksJ11_hashCode_0 1 rfl rfl)
theorem dJ11_hashCode_2 : decode cJ11_hashCode 2 = .ok (.iadd, 1) := dk_96 (dk_at dksJ11_hashCode_0 2 rfl rfl)
theorem dJ11_hashCode_3 : decode cJ11_hashCode 3 = .ok (.istore 4, 2) := dk_54 4 (dk_at dksJ11_hashCode_0 3 rfl rfl)
theorem dJ11_hashCode_5 : decode cJ11_hashCode 5 = .ok (.iload_n 2, 1) := dk_28 (dk_at dksJ11_hashCode_0 5 rfl rfl)
theorem dJ11_hashCode_6 : decode cJ11_hashCode 6 = .ok (.istore 5, 2) := dk_54 5 (dk_at dksJ11_hashCode_0 6 rfl rfl)
theorem dJ11_hashCode_8 : decode cJ11_hashCode 8 = .ok (.iload 5, 2) := dk_21 5 (dk_at dksJ11_hashCode_0 8 rfl rfl)
theorem dJ11_hashCode_10 : decode cJ11_hashCode 10 = .ok (.iload 4, 2) := dk_21 4 (dk_at dksJ11_hashCode_0 10 rfl rfl)
theorem dJ11_hashCode_12 : decode cJ11_hashCode 12 = .ok (.if_icmp .ge 19, 3) := dk_162 0 19 (dk_at dksJ11_hashCode_0 12 rfl rfl)
theorem dJ11_hashCode_15 : decode cJ11_hashCode 15 = .ok (.bipush 31, 2) := dk_16 31 (dk_at dksJ11_hashCode_0 15 rfl rfl)
theorem dJ11_hashCode_17 : decode cJ11_hashCode 17 = .ok (.iload_n 0, 1) := dk_26 (dk_at dksJ11_hashCode_0 17 rfl rfl)
theorem dJ11_hashCode_18 : decode cJ11_hashCode 18 = .ok (.imul, 1) := dk_104 (dk_at dksJ11_hashCode_0 18 rfl rfl)
theorem dJ11_hashCode_19 : decode cJ11_hashCode 19 = .ok (.aload_n 1, 1) := dk_43 (dk_at dksJ11_hashCode_0 19 rfl rfl)
theorem dJ11_hashCode_20 : decode cJ11_hashCode 20 = .ok (.iload 5, 2) := dk_21 5 (dk_at dksJ11_hashCode_0 20 rfl rfl)
theorem dJ11_hashCode_22 : decode cJ11_hashCode 22 = .ok (.caload, 1) := dk_52 (dk_at dksJ11_hashCode_0 22 rfl rfl)
theorem dJ11_hashCode_23 : decode cJ11_hashCode 23 = .ok (.iadd, 1) := dk_96 (dk_at dksJ11_hashCode_0 23 rfl rfl)
theorem dJ11_hashCode_24 : decode cJ11_hashCode 24 = .ok (.istore_n 0, 1) := dk_59 (dk_at dksJ11_hashCode_1 0 rfl rfl)
theorem dJ11_hashCode_25 : decode cJ11_hashCode 25 = .ok (.iinc 5 1, 3) := dk_132 5 1 (dk_at dksJ11_hashCode_1 1 rfl rfl)
theorem dJ11_hashCode_28 : decode cJ11_hashCode 28 = .ok (.goto (-20), 3) := dk_167 255 236 (dk_at dksJ11_hashCode_1 4 rfl rfl)
theorem dJ11_hashCode_31 : decode cJ11_hashCode 31 = .ok (.iload_n 0, 1) := dk_26 (dk_at dksJ11_hashCode_1 7 rfl rfl)
theorem dJ11_hashCode_32 : decode cJ11_hashCode 32 = .ok (.ireturn, 1) := dk_172 (dk_at dksJ11_hashCode_1 8 rfl rfl)
abbrev cJ11_hashCode_2 : ByteArray := prog_70_method_6_code
def yJ11_hashCode_2 : MethodName := ⟨RJ11, "hashCode", "(I[BII)I"⟩
def dkwJ11_hashCode_2_1 : List UInt8 := [59, 132, 5, 1, 167, 255, 236, 26, 172]
abbrev dktJ11_hashCode_2_1 : List UInt8 := dkwJ11_hashCode_2_1 ++ []
def dkwJ11_hashCode_2_0 : List UInt8 := [28, 29, 96, 54, 4, 28, 54, 5, 21, 5, 21, 4, 162, 0, 19, 16, 31, 26, 104, 43, 21, 5, 51, 96]
abbrev dktJ11_hashCode_2_0 : List UInt8 := dkwJ11_hashCode_2_0 ++ dktJ11_hashCode_2_1
theorem dksJ11_hashCode_2_0 : cJ11_hashCode_2.data.toList.drop 0 = dktJ11_hashCode_2_0 := by decide +kernel
theorem dksJ11_hashCode_2_1 : cJ11_hashCode_2.data.toList.drop 24 = dktJ11_hashCode_2_1 := dk_seg dksJ11_hashCode_2_0 24 rfl rfl
theorem dJ11_hashCode_2_0 : decode cJ11_hashCode_2 0 = .ok (.iload_n 2, 1) := dk_28 (dk_at dksJ11_hashCode_2_0 0 rfl rfl)
theorem dJ11_hashCode_2_1 : decode cJ11_hashCode_2 1 = .ok (.iload_n 3, 1) := dk_29 (dk_at dksJ11_hashCode_2_0 1 rfl rfl)
theorem dJ11_hashCode_2_2 : decode cJ11_hashCode_2 2 = .ok (.iadd, 1) := dk_96 (dk_at dksJ11_hashCode_2_0 2 rfl rfl)
theorem dJ11_hashCode_2_3 : decode cJ11_hashCode_2 3 = .ok (.istore 4, 2) := dk_54 4 (dk_at dksJ11_hashCode_2_0 3 rfl rfl)
theorem dJ11_hashCode_2_5 : decode cJ11_hashCode_2 5 = .ok (.iload_n 2, 1) := dk_28 (dk_at dksJ11_hashCode_2_0 5 rfl rfl)
theorem dJ11_hashCode_2_6 : decode cJ11_hashCode_2 6 = .ok (.istore 5, 2) := dk_54 5 (dk_at dksJ11_hashCode_2_0 6 rfl rfl)
theorem dJ11_hashCode_2_8 : decode cJ11_hashCode_2 8 = .ok (.iload 5, 2) := dk_21 5 (dk_at dksJ11_hashCode_2_0 8 rfl rfl)
theorem dJ11_hashCode_2_10 : decode cJ11_hashCode_2 10 = .ok (.iload 4, 2) := dk_21 4 (dk_at dksJ11_hashCode_2_0 10 rfl rfl)
theorem dJ11_hashCode_2_12 : decode cJ11_hashCode_2 12 = .ok (.if_icmp .ge 19, 3) := dk_162 0 19 (dk_at dksJ11_hashCode_2_0 12 rfl rfl)
theorem dJ11_hashCode_2_15 : decode cJ11_hashCode_2 15 = .ok (.bipush 31, 2) := dk_16 31 (dk_at dksJ11_hashCode_2_0 15 rfl rfl)
theorem dJ11_hashCode_2_17 : decode cJ11_hashCode_2 17 = .ok (.iload_n 0, 1) := dk_26 (dk_at dksJ11_hashCode_2_0 17 rfl rfl)
theorem dJ11_hashCode_2_18 : decode cJ11_hashCode_2 18 = .ok (.imul, 1) := dk_104 (dk_at dksJ11_hashCode_2_0 18 rfl rfl)
theorem dJ11_hashCode_2_19 : decode cJ11_hashCode_2 19 = .ok (.aload_n 1, 1) := dk_43 (dk_at dksJ11_hashCode_2_0 19 rfl rfl)
theorem dJ11_hashCode_2_20 : decode cJ11_hashCode_2 20 = .ok (.iload 5, 2) := dk_21 5 (dk_at dksJ11_hashCode_2_0 20 rfl rfl)
theorem dJ11_hashCode_2_22 : decode cJ11_hashCode_2 22 = .ok (.baload, 1) := dk_51 (dk_at dksJ11_hashCode_2_0 22 rfl rfl)
theorem dJ11_hashCode_2_23 : decode cJ11_hashCode_2 23 = .ok (.iadd, 1) := dk_96 (dk_at dksJ11_hashCode_2_0 23 rfl rfl)
theorem dJ11_hashCode_2_24 : decode cJ11_hashCode_2 24 = .ok (.istore_n 0, 1) := dk_59 (dk_at dksJ11_hashCode_2_1 0 rfl rfl)
theorem dJ11_hashCode_2_25 : decode cJ11_hashCode_2 25 = .ok (.iinc 5 1, 3) := dk_132 5 1 (dk_at dksJ11_hashCode_2_1 1 rfl rfl)
theorem dJ11_hashCode_2_28 : decode cJ11_hashCode_2 28 = .ok (.goto (-20), 3) := dk_167 255 236 (dk_at dksJ11_hashCode_2_1 4 rfl rfl)
theorem dJ11_hashCode_2_31 : decode cJ11_hashCode_2 31 = .ok (.iload_n 0, 1) := dk_26 (dk_at dksJ11_hashCode_2_1 7 rfl rfl)
theorem dJ11_hashCode_2_32 : decode cJ11_hashCode_2 32 = .ok (.ireturn, 1) := dk_172 (dk_at dksJ11_hashCode_2_1 8 rfl rfl)
abbrev cJ11_hashCode_3 : ByteArray := prog_70_method_8_code
def yJ11_hashCode_3 : MethodName := ⟨RJ11, "hashCode", "(I[SII)I"⟩
def dkwJ11_hashCode_3_1 : List UInt8 := [59, 132, 5, 1, 167, 255, 236, 26, 172]
abbrev dktJ11_hashCode_3_1 : List UInt8 := dkwJ11_hashCode_3_1 ++ []
def dkwJ11_hashCode_3_0 : List UInt8 := [28, 29, 96, 54, 4, 28, 54, 5, 21, 5, 21, 4, 162, 0, 19, 16, 31, 26, 104, 43, 21, 5, 53, 96]
abbrev dktJ11_hashCode_3_0 : List UInt8 := dkwJ11_hashCode_3_0 ++ dktJ11_hashCode_3_1
theorem dksJ11_hashCode_3_0 : cJ11_hashCode_3.data.toList.drop 0 = dktJ11_hashCode_3_0 := by decide +kernel
theorem dksJ11_hashCode_3_1 : cJ11_hashCode_3.data.toList.drop 24 = dktJ11_hashCode_3_1 := dk_seg dksJ11_hashCode_3_0 24 rfl rfl
theorem dJ11_hashCode_3_0 : decode cJ11_hashCode_3 0 = .ok (.iload_n 2, 1) := dk_28 (dk_at dksJ11_hashCode_3_0 0 rfl rfl)
theorem dJ11_hashCode_3_1 : decode cJ11_hashCode_3 1 = .ok (.iload_n 3, 1) := dk_29 (dk_at dksJ11_hashCode_3_0 1 rfl rfl)
theorem dJ11_hashCode_3_2 : decode cJ11_hashCode_3 2 = .ok (.iadd, 1) := dk_96 (dk_at dksJ11_hashCode_3_0 2 rfl rfl)
theorem dJ11_hashCode_3_3 : decode cJ11_hashCode_3 3 = .ok (.istore 4, 2) := dk_54 4 (dk_at dksJ11_hashCode_3_0 3 rfl rfl)
theorem dJ11_hashCode_3_5 : decode cJ11_hashCode_3 5 = .ok (.iload_n 2, 1) := dk_28 (dk_at dksJ11_hashCode_3_0 5 rfl rfl)
theorem dJ11_hashCode_3_6 : decode cJ11_hashCode_3 6 = .ok (.istore 5, 2) := dk_54 5 (dk_at dksJ11_hashCode_3_0 6 rfl rfl)
theorem dJ11_hashCode_3_8 : decode cJ11_hashCode_3 8 = .ok (.iload 5, 2) := dk_21 5 (dk_at dksJ11_hashCode_3_0 8 rfl rfl)
theorem dJ11_hashCode_3_10 : decode cJ11_hashCode_3 10 = .ok (.iload 4, 2) := dk_21 4 (dk_at dksJ11_hashCode_3_0 10 rfl rfl)
theorem dJ11_hashCode_3_12 : decode cJ11_hashCode_3 12 = .ok (.if_icmp .ge 19, 3) := dk_162 0 19 (dk_at dksJ11_hashCode_3_0 12 rfl rfl)
theorem dJ11_hashCode_3_15 : decode cJ11_hashCode_3 15 = .ok (.bipush 31, 2) := dk_16 31 (dk_at dksJ11_hashCode_3_0 15 rfl rfl)
theorem dJ11_hashCode_3_17 : decode cJ11_hashCode_3 17 = .ok (.iload_n 0, 1) := dk_26 (dk_at dksJ11_hashCode_3_0 17 rfl rfl)
theorem dJ11_hashCode_3_18 : decode cJ11_hashCode_3 18 = .ok (.imul, 1) := dk_104 (dk_at dksJ11_hashCode_3_0 18 rfl rfl)
theorem dJ11_hashCode_3_19 : decode cJ11_hashCode_3 19 = .ok (.aload_n 1, 1) := dk_43 (dk_at dksJ11_hashCode_3_0 19 rfl rfl)
theorem dJ11_hashCode_3_20 : decode cJ11_hashCode_3 20 = .ok (.iload 5, 2) := dk_21 5 (dk_at dksJ11_hashCode_3_0 20 rfl rfl)
theorem dJ11_hashCode_3_22 : decode cJ11_hashCode_3 22 = .ok (.saload, 1) := dk_53 (dk_at dksJ11_hashCode_3_0 22 rfl rfl)
theorem dJ11_hashCode_3_23 : decode cJ11_hashCode_3 23 = .ok (.iadd, 1) := dk_96 (dk_at dksJ11_hashCode_3_0 23 rfl rfl)
theorem dJ11_hashCode_3_24 : decode cJ11_hashCode_3 24 = .ok (.istore_n 0, 1) := dk_59 (dk_at dksJ11_hashCode_3_1 0 rfl rfl)
theorem dJ11_hashCode_3_25 : decode cJ11_hashCode_3 25 = .ok (.iinc 5 1, 3) := dk_132 5 1 (dk_at dksJ11_hashCode_3_1 1 rfl rfl)
theorem dJ11_hashCode_3_28 : decode cJ11_hashCode_3 28 = .ok (.goto (-20), 3) := dk_167 255 236 (dk_at dksJ11_hashCode_3_1 4 rfl rfl)
theorem dJ11_hashCode_3_31 : decode cJ11_hashCode_3 31 = .ok (.iload_n 0, 1) := dk_26 (dk_at dksJ11_hashCode_3_1 7 rfl rfl)
theorem dJ11_hashCode_3_32 : decode cJ11_hashCode_3 32 = .ok (.ireturn, 1) := dk_172 (dk_at dksJ11_hashCode_3_1 8 rfl rfl)
abbrev cJ11_hashCode_4 : ByteArray := prog_70_method_9_code
def yJ11_hashCode_4 : MethodName := ⟨RJ11, "hashCode", "(I[III)I"⟩
def dkwJ11_hashCode_4_1 : List UInt8 := [59, 132, 5, 1, 167, 255, 236, 26, 172]
abbrev dktJ11_hashCode_4_1 : List UInt8 := dkwJ11_hashCode_4_1 ++ []
def dkwJ11_hashCode_4_0 : List UInt8 := [28, 29, 96, 54, 4, 28, 54, 5, 21, 5, 21, 4, 162, 0, 19, 16, 31, 26, 104, 43, 21, 5, 46, 96]
abbrev dktJ11_hashCode_4_0 : List UInt8 := dkwJ11_hashCode_4_0 ++ dktJ11_hashCode_4_1
theorem dksJ11_hashCode_4_0 : cJ11_hashCode_4.data.toList.drop 0 = dktJ11_hashCode_4_0 := by decide +kernel
theorem dksJ11_hashCode_4_1 : cJ11_hashCode_4.data.toList.drop 24 = dktJ11_hashCode_4_1 := dk_seg dksJ11_hashCode_4_0 24 rfl rfl
theorem dJ11_hashCode_4_0 : decode cJ11_hashCode_4 0 = .ok (.iload_n 2, 1) := dk_28 (dk_at dksJ11_hashCode_4_0 0 rfl rfl)
theorem dJ11_hashCode_4_1 : decode cJ11_hashCode_4 1 = .ok (.iload_n 3, 1) := dk_29 (dk_at dksJ11_hashCode_4_0 1 rfl rfl)
theorem dJ11_hashCode_4_2 : decode cJ11_hashCode_4 2 = .ok (.iadd, 1) := dk_96 (dk_at dksJ11_hashCode_4_0 2 rfl rfl)
theorem dJ11_hashCode_4_3 : decode cJ11_hashCode_4 3 = .ok (.istore 4, 2) := dk_54 4 (dk_at dksJ11_hashCode_4_0 3 rfl rfl)
theorem dJ11_hashCode_4_5 : decode cJ11_hashCode_4 5 = .ok (.iload_n 2, 1) := dk_28 (dk_at dksJ11_hashCode_4_0 5 rfl rfl)
theorem dJ11_hashCode_4_6 : decode cJ11_hashCode_4 6 = .ok (.istore 5, 2) := dk_54 5 (dk_at dksJ11_hashCode_4_0 6 rfl rfl)
theorem dJ11_hashCode_4_8 : decode cJ11_hashCode_4 8 = .ok (.iload 5, 2) := dk_21 5 (dk_at dksJ11_hashCode_4_0 8 rfl rfl)
theorem dJ11_hashCode_4_10 : decode cJ11_hashCode_4 10 = .ok (.iload 4, 2) := dk_21 4 (dk_at dksJ11_hashCode_4_0 10 rfl rfl)
theorem dJ11_hashCode_4_12 : decode cJ11_hashCode_4 12 = .ok (.if_icmp .ge 19, 3) := dk_162 0 19 (dk_at dksJ11_hashCode_4_0 12 rfl rfl)
theorem dJ11_hashCode_4_15 : decode cJ11_hashCode_4 15 = .ok (.bipush 31, 2) := dk_16 31 (dk_at dksJ11_hashCode_4_0 15 rfl rfl)
theorem dJ11_hashCode_4_17 : decode cJ11_hashCode_4 17 = .ok (.iload_n 0, 1) := dk_26 (dk_at dksJ11_hashCode_4_0 17 rfl rfl)
theorem dJ11_hashCode_4_18 : decode cJ11_hashCode_4 18 = .ok (.imul, 1) := dk_104 (dk_at dksJ11_hashCode_4_0 18 rfl rfl)
theorem dJ11_hashCode_4_19 : decode cJ11_hashCode_4 19 = .ok (.aload_n 1, 1) := dk_43 (dk_at dksJ11_hashCode_4_0 19 rfl rfl)
theorem dJ11_hashCode_4_20 : decode cJ11_hashCode_4 20 = .ok (.iload 5, 2) := dk_21 5 (dk_at dksJ11_hashCode_4_0 20 rfl rfl)
theorem dJ11_hashCode_4_22 : decode cJ11_hashCode_4 22 = .ok (.iaload, 1) := dk_46 (dk_at dksJ11_hashCode_4_0 22 rfl rfl)
theorem dJ11_hashCode_4_23 : decode cJ11_hashCode_4 23 = .ok (.iadd, 1) := dk_96 (dk_at dksJ11_hashCode_4_0 23 rfl rfl)
theorem dJ11_hashCode_4_24 : decode cJ11_hashCode_4 24 = .ok (.istore_n 0, 1) := dk_59 (dk_at dksJ11_hashCode_4_1 0 rfl rfl)
theorem dJ11_hashCode_4_25 : decode cJ11_hashCode_4 25 = .ok (.iinc 5 1, 3) := dk_132 5 1 (dk_at dksJ11_hashCode_4_1 1 rfl rfl)
theorem dJ11_hashCode_4_28 : decode cJ11_hashCode_4 28 = .ok (.goto (-20), 3) := dk_167 255 236 (dk_at dksJ11_hashCode_4_1 4 rfl rfl)
theorem dJ11_hashCode_4_31 : decode cJ11_hashCode_4 31 = .ok (.iload_n 0, 1) := dk_26 (dk_at dksJ11_hashCode_4_1 7 rfl rfl)
theorem dJ11_hashCode_4_32 : decode cJ11_hashCode_4 32 = .ok (.ireturn, 1) := dk_172 (dk_at dksJ11_hashCode_4_1 8 rfl rfl)
theorem q75 : (Jvm.Cond.initialized "jdk/internal/util/ArraysSupport") ∈ lw_all := lw_g (lw_at lw_m1 13 rfl) rfl
theorem q238 : (Jvm.Cond.static ({ cls := "jdk/internal/util/ArraysSupport", name := "newLength", desc := "(III)I" } : Jvm.MethodName)) ∈ lw_all := lw_g (lw_at lw_m1 176 rfl) rfl
theorem q239 : (Jvm.Cond.code ({ cls := "jdk/internal/util/ArraysSupport", name := "newLength", desc := "(III)I" } : Jvm.MethodName) prog_70_method_27_code (4 : Nat) (Option.some Jvm.ClassFile.FieldType.int)) ∈ lw_all := lw_g (lw_at lw_m1 177 rfl) rfl
theorem q240 : (Jvm.Cond.methodLink "jdk/internal/util/ArraysSupport" (194 : Nat) ({ cls := "java/lang/Math", name := "max", desc := "(II)I" } : Jvm.MethodName)) ∈ lw_all := lw_g (lw_at lw_m1 178 rfl) rfl
theorem q243 : (Jvm.Cond.constant "jdk/internal/util/ArraysSupport" (200 : Nat) (2147483639 : Int32)) ∈ lw_all := lw_g (lw_at lw_m1 181 rfl) rfl
theorem q244 : (Jvm.Cond.methodLink "jdk/internal/util/ArraysSupport" (201 : Nat) ({ cls := "jdk/internal/util/ArraysSupport", name := "hugeLength", desc := "(II)I" } : Jvm.MethodName)) ∈ lw_all := lw_g (lw_at lw_m1 182 rfl) rfl
theorem q245 : (Jvm.Cond.static ({ cls := "jdk/internal/util/ArraysSupport", name := "hugeLength", desc := "(II)I" } : Jvm.MethodName)) ∈ lw_all := lw_g (lw_at lw_m1 183 rfl) rfl
theorem q246 : (Jvm.Cond.code ({ cls := "jdk/internal/util/ArraysSupport", name := "hugeLength", desc := "(II)I" } : Jvm.MethodName) prog_70_method_28_code (3 : Nat) (Option.some Jvm.ClassFile.FieldType.int)) ∈ lw_all := lw_g (lw_at lw_m1 184 rfl) rfl
theorem q999 : (Jvm.Cond.static ({ cls := "jdk/internal/util/ArraysSupport", name := "vectorizedHashCode", desc := "(Ljava/lang/Object;IIII)I" } : Jvm.MethodName)) ∈ lw_all := lw_g (lw_at lw_m4 217 rfl) rfl
theorem q1000 : (Jvm.Cond.code ({ cls := "jdk/internal/util/ArraysSupport", name := "vectorizedHashCode", desc := "(Ljava/lang/Object;IIII)I" } : Jvm.MethodName) prog_70_method_4_code (5 : Nat) (Option.some Jvm.ClassFile.FieldType.int)) ∈ lw_all := lw_g (lw_at lw_m4 218 rfl) rfl
theorem q1001 : (Jvm.Cond.classLink "jdk/internal/util/ArraysSupport" (60 : Nat) "[B") ∈ lw_all := lw_g (lw_at lw_m4 219 rfl) rfl
theorem q1002 : (Jvm.Cond.methodLink "jdk/internal/util/ArraysSupport" (62 : Nat) ({ cls := "jdk/internal/util/ArraysSupport", name := "signedHashCode", desc := "(I[BII)I" } : Jvm.MethodName)) ∈ lw_all := lw_g (lw_at lw_m4 220 rfl) rfl
theorem q1003 : (Jvm.Cond.static ({ cls := "jdk/internal/util/ArraysSupport", name := "signedHashCode", desc := "(I[BII)I" } : Jvm.MethodName)) ∈ lw_all := lw_g (lw_at lw_m4 221 rfl) rfl
theorem q1004 : (Jvm.Cond.code ({ cls := "jdk/internal/util/ArraysSupport", name := "signedHashCode", desc := "(I[BII)I" } : Jvm.MethodName) prog_70_method_5_code (6 : Nat) (Option.some Jvm.ClassFile.FieldType.int)) ∈ lw_all := lw_g (lw_at lw_m4 222 rfl) rfl
theorem q1005 : (Jvm.Cond.methodLink "jdk/internal/util/ArraysSupport" (66 : Nat) ({ cls := "jdk/internal/util/ArraysSupport", name := "utf16hashCode", desc := "(I[BII)I" } : Jvm.MethodName)) ∈ lw_all := lw_g (lw_at lw_m4 223 rfl) rfl
theorem q1006 : (Jvm.Cond.static ({ cls := "jdk/internal/util/ArraysSupport", name := "utf16hashCode", desc := "(I[BII)I" } : Jvm.MethodName)) ∈ lw_all := lw_g (lw_at lw_m4 224 rfl) rfl
theorem q1007 : (Jvm.Cond.code ({ cls := "jdk/internal/util/ArraysSupport", name := "utf16hashCode", desc := "(I[BII)I" } : Jvm.MethodName) prog_70_method_10_code (6 : Nat) (Option.some Jvm.ClassFile.FieldType.int)) ∈ lw_all := lw_g (lw_at lw_m4 225 rfl) rfl
theorem q1008 : (Jvm.Cond.fieldLink "jdk/internal/util/ArraysSupport" (106 : Nat) "jdk/internal/util/ArraysSupport" "JLA" "Ljdk/internal/access/JavaLangAccess;") ∈ lw_all := lw_g (lw_at lw_m4 226 rfl) rfl
theorem q1009 : (Jvm.Cond.laysStatic "jdk/internal/util/ArraysSupport" "JLA" "Ljdk/internal/access/JavaLangAccess;") ∈ lw_tbl := lw_at lw_m4 227 rfl
theorem q1010 : (Jvm.Cond.interfaceEntry "jdk/internal/util/ArraysSupport" (110 : Nat)) ∈ lw_tbl := lw_at lw_m4 228 rfl
theorem q1011 : (Jvm.Cond.methodLink "jdk/internal/util/ArraysSupport" (110 : Nat) ({ cls := "jdk/internal/access/JavaLangAccess", name := "getUTF16Char", desc := "([BI)C" } : Jvm.MethodName)) ∈ lw_all := lw_g (lw_at lw_m4 229 rfl) rfl
theorem q1021 : (Jvm.Cond.classLink "jdk/internal/util/ArraysSupport" (69 : Nat) "[C") ∈ lw_all := lw_g (lw_at lw_m4 239 rfl) rfl
theorem q1022 : (Jvm.Cond.methodLink "jdk/internal/util/ArraysSupport" (71 : Nat) ({ cls := "jdk/internal/util/ArraysSupport", name := "hashCode", desc := "(I[CII)I" } : Jvm.MethodName)) ∈ lw_all := lw_g (lw_at lw_m5 0 rfl) rfl
theorem q1023 : (Jvm.Cond.static ({ cls := "jdk/internal/util/ArraysSupport", name := "hashCode", desc := "(I[CII)I" } : Jvm.MethodName)) ∈ lw_all := lw_g (lw_at lw_m5 1 rfl) rfl
theorem q1024 : (Jvm.Cond.code ({ cls := "jdk/internal/util/ArraysSupport", name := "hashCode", desc := "(I[CII)I" } : Jvm.MethodName) prog_70_method_7_code (6 : Nat) (Option.some Jvm.ClassFile.FieldType.int)) ∈ lw_all := lw_g (lw_at lw_m5 2 rfl) rfl
theorem q1025 : (Jvm.Cond.methodLink "jdk/internal/util/ArraysSupport" (75 : Nat) ({ cls := "jdk/internal/util/ArraysSupport", name := "hashCode", desc := "(I[BII)I" } : Jvm.MethodName)) ∈ lw_all := lw_g (lw_at lw_m5 3 rfl) rfl
theorem q1026 : (Jvm.Cond.static ({ cls := "jdk/internal/util/ArraysSupport", name := "hashCode", desc := "(I[BII)I" } : Jvm.MethodName)) ∈ lw_all := lw_g (lw_at lw_m5 4 rfl) rfl
theorem q1027 : (Jvm.Cond.code ({ cls := "jdk/internal/util/ArraysSupport", name := "hashCode", desc := "(I[BII)I" } : Jvm.MethodName) prog_70_method_6_code (6 : Nat) (Option.some Jvm.ClassFile.FieldType.int)) ∈ lw_all := lw_g (lw_at lw_m5 5 rfl) rfl
theorem q1028 : (Jvm.Cond.classLink "jdk/internal/util/ArraysSupport" (77 : Nat) "[S") ∈ lw_all := lw_g (lw_at lw_m5 6 rfl) rfl
theorem q1029 : (Jvm.Cond.methodLink "jdk/internal/util/ArraysSupport" (79 : Nat) ({ cls := "jdk/internal/util/ArraysSupport", name := "hashCode", desc := "(I[SII)I" } : Jvm.MethodName)) ∈ lw_all := lw_g (lw_at lw_m5 7 rfl) rfl
theorem q1030 : (Jvm.Cond.static ({ cls := "jdk/internal/util/ArraysSupport", name := "hashCode", desc := "(I[SII)I" } : Jvm.MethodName)) ∈ lw_all := lw_g (lw_at lw_m5 8 rfl) rfl
theorem q1031 : (Jvm.Cond.code ({ cls := "jdk/internal/util/ArraysSupport", name := "hashCode", desc := "(I[SII)I" } : Jvm.MethodName) prog_70_method_8_code (6 : Nat) (Option.some Jvm.ClassFile.FieldType.int)) ∈ lw_all := lw_g (lw_at lw_m5 9 rfl) rfl
theorem q1032 : (Jvm.Cond.classLink "jdk/internal/util/ArraysSupport" (82 : Nat) "[I") ∈ lw_all := lw_g (lw_at lw_m5 10 rfl) rfl
theorem q1033 : (Jvm.Cond.methodLink "jdk/internal/util/ArraysSupport" (84 : Nat) ({ cls := "jdk/internal/util/ArraysSupport", name := "hashCode", desc := "(I[III)I" } : Jvm.MethodName)) ∈ lw_all := lw_g (lw_at lw_m5 11 rfl) rfl
theorem q1034 : (Jvm.Cond.static ({ cls := "jdk/internal/util/ArraysSupport", name := "hashCode", desc := "(I[III)I" } : Jvm.MethodName)) ∈ lw_all := lw_g (lw_at lw_m5 12 rfl) rfl
theorem q1035 : (Jvm.Cond.code ({ cls := "jdk/internal/util/ArraysSupport", name := "hashCode", desc := "(I[III)I" } : Jvm.MethodName) prog_70_method_9_code (6 : Nat) (Option.some Jvm.ClassFile.FieldType.int)) ∈ lw_all := lw_g (lw_at lw_m5 13 rfl) rfl
theorem q1036 : (Jvm.Cond.classLink "jdk/internal/util/ArraysSupport" (87 : Nat) "java/lang/IllegalArgumentException") ∈ lw_all := lw_g (lw_at lw_m5 14 rfl) rfl
theorem q1037 : (Jvm.Cond.classLink "jdk/internal/util/ArraysSupport" (89 : Nat) "java/lang/StringBuilder") ∈ lw_all := lw_g (lw_at lw_m5 15 rfl) rfl
theorem q1038 : (Jvm.Cond.methodLink "jdk/internal/util/ArraysSupport" (91 : Nat) ({ cls := "java/lang/StringBuilder", name := "<init>", desc := "()V" } : Jvm.MethodName)) ∈ lw_all := lw_g (lw_at lw_m5 16 rfl) rfl
theorem q1039 : (Jvm.Cond.stringRef "jdk/internal/util/ArraysSupport" (92 : Nat) "unrecognized basic type: ") ∈ lw_tbl := lw_at lw_m5 17 rfl
theorem q1040 : (Jvm.Cond.methodLink "jdk/internal/util/ArraysSupport" (94 : Nat) ({ cls := "java/lang/StringBuilder", name := "append", desc := "(Ljava/lang/String;)Ljava/lang/StringBuilder;" } : Jvm.MethodName)) ∈ lw_all := lw_g (lw_at lw_m5 18 rfl) rfl
theorem q1041 : (Jvm.Cond.methodLink "jdk/internal/util/ArraysSupport" (98 : Nat) ({ cls := "java/lang/StringBuilder", name := "append", desc := "(I)Ljava/lang/StringBuilder;" } : Jvm.MethodName)) ∈ lw_all := lw_g (lw_at lw_m5 19 rfl) rfl
theorem q1042 : (Jvm.Cond.methodLink "jdk/internal/util/ArraysSupport" (101 : Nat) ({ cls := "java/lang/StringBuilder", name := "toString", desc := "()Ljava/lang/String;" } : Jvm.MethodName)) ∈ lw_all := lw_g (lw_at lw_m5 20 rfl) rfl
theorem q1043 : (Jvm.Cond.methodLink "jdk/internal/util/ArraysSupport" (105 : Nat) ({ cls := "java/lang/IllegalArgumentException", name := "<init>", desc := "(Ljava/lang/String;)V" } : Jvm.MethodName)) ∈ lw_all := lw_g (lw_at lw_m5 21 rfl) rfl
/-! java/lang/Math -/
set_option maxRecDepth 100000
def RJ12 : String := "java/lang/Math"
abbrev cJ12_max : ByteArray := prog_48_method_65_code
def yJ12_max : MethodName := ⟨RJ12, "max", "(II)I"⟩
def dkwJ12_max_0 : List UInt8 := [26, 27, 161, 0, 7, 26, 167, 0, 4, 27, 172]
abbrev dktJ12_max_0 : List UInt8 := dkwJ12_max_0 ++ []
theorem dksJ12_max_0 : cJ12_max.data.toList.drop 0 = dktJ12_max_0 := by decide +kernel
theorem dJ12_max_0 : decode cJ12_max 0 = .ok (.iload_n 0, 1) := dk_26 (dk_at dksJ12_max_0 0 rfl rfl)
theorem dJ12_max_1 : decode cJ12_max 1 = .ok (.iload_n 1, 1) := dk_27 (dk_at dksJ12_max_0 1 rfl rfl)
theorem dJ12_max_2 : decode cJ12_max 2 = .ok (.if_icmp .lt 7, 3) := dk_161 0 7 (dk_at dksJ12_max_0 2 rfl rfl)
theorem dJ12_max_5 : decode cJ12_max 5 = .ok (.iload_n 0, 1) := dk_26 (dk_at dksJ12_max_0 5 rfl rfl)
theorem dJ12_max_6 : decode cJ12_max 6 = .ok (.goto 4, 3) := dk_167 0 4 (dk_at dksJ12_max_0 6 rfl rfl)
theorem dJ12_max_9 : decode cJ12_max 9 = .ok (.iload_n 1, 1) := dk_27 (dk_at dksJ12_max_0 9 rfl rfl)
theorem dJ12_max_10 : decode cJ12_max 10 = .ok (.ireturn, 1) := dk_172 (dk_at dksJ12_max_0 10 rfl rfl)
abbrev cJ12_min : ByteArray := prog_48_method_69_code
def yJ12_min : MethodName := ⟨RJ12, "min", "(II)I"⟩
def dkwJ12_min_0 : List UInt8 := [26, 27, 163, 0, 7, 26, 167, 0, 4, 27, 172]
abbrev dktJ12_min_0 : List UInt8 := dkwJ12_min_0 ++ []
theorem dksJ12_min_0 : cJ12_min.data.toList.drop 0 = dktJ12_min_0 := by decide +kernel
theorem dJ12_min_0 : decode cJ12_min 0 = .ok (.iload_n 0, 1) := dk_26 (dk_at dksJ12_min_0 0 rfl rfl)
theorem dJ12_min_1 : decode cJ12_min 1 = .ok (.iload_n 1, 1) := dk_27 (dk_at dksJ12_min_0 1 rfl rfl)
theorem dJ12_min_2 : decode cJ12_min 2 = .ok (.if_icmp .gt 7, 3) := dk_163 0 7 (dk_at dksJ12_min_0 2 rfl rfl)
theorem dJ12_min_5 : decode cJ12_min 5 = .ok (.iload_n 0, 1) := dk_26 (dk_at dksJ12_min_0 5 rfl rfl)
theorem dJ12_min_6 : decode cJ12_min 6 = .ok (.goto 4, 3) := dk_167 0 4 (dk_at dksJ12_min_0 6 rfl rfl)
theorem dJ12_min_9 : decode cJ12_min 9 = .ok (.iload_n 1, 1) := dk_27 (dk_at dksJ12_min_0 9 rfl rfl)
theorem dJ12_min_10 : decode cJ12_min 10 = .ok (.ireturn, 1) := dk_172 (dk_at dksJ12_min_0 10 rfl rfl)
abbrev cJ12_min_2 : ByteArray := prog_48_method_70_code
def yJ12_min_2 : MethodName := ⟨RJ12, "min", "(JJ)J"⟩
def dkwJ12_min_2_0 : List UInt8 := [30, 32, 148, 157, 0, 7, 30, 167, 0, 4, 32, 173]
abbrev dktJ12_min_2_0 : List UInt8 := dkwJ12_min_2_0 ++ []
theorem dksJ12_min_2_0 : cJ12_min_2.data.toList.drop 0 = dktJ12_min_2_0 := by decide +kernel
theorem dJ12_min_2_0 : decode cJ12_min_2 0 = .ok (.lload_n 0, 1) := dk_30 (dk_at dksJ12_min_2_0 0 rfl rfl)
theorem dJ12_min_2_1 : decode cJ12_min_2 1 = .ok (.lload_n 2, 1) := dk_32 (dk_at dksJ12_min_2_0 1 rfl rfl)
theorem dJ12_min_2_2 : decode cJ12_min_2 2 = .ok (.lcmp, 1) := dk_148 (dk_at dksJ12_min_2_0 2 rfl rfl)
theorem dJ12_min_2_3 : decode cJ12_min_2 3 = .ok (.ifCond .gt 7, 3) := dk_157 0 7 (dk_at dksJ12_min_2_0 3 rfl rfl)
theorem dJ12_min_2_6 : decode cJ12_min_2 6 = .ok (.lload_n 0, 1) := dk_30 (dk_at dksJ12_min_2_0 6 rfl rfl)
theorem dJ12_min_2_7 : decode cJ12_min_2 7 = .ok (.goto 4, 3) := dk_167 0 4 (dk_at dksJ12_min_2_0 7 rfl rfl)
theorem dJ12_min_2_10 : decode cJ12_min_2 10 = .ok (.lload_n 2, 1) := dk_32 (dk_at dksJ12_min_2_0 10 rfl rfl)
theorem dJ12_min_2_11 : decode cJ12_min_2 11 = .ok (.lreturn, 1) := dk_173 (dk_at dksJ12_min_2_0 11 rfl rfl)
theorem q76 : (Jvm.Cond.initialized "java/lang/Math") ∈ lw_all := lw_g (lw_at lw_m1 14 rfl) rfl
theorem q241 : (Jvm.Cond.static ({ cls := "java/lang/Math", name := "max", desc := "(II)I" } : Jvm.MethodName)) ∈ lw_all := lw_g (lw_at lw_m1 179 rfl) rfl
theorem q242 : (Jvm.Cond.code ({ cls := "java/lang/Math", name := "max", desc := "(II)I" } : Jvm.MethodName) prog_48_method_65_code (2 : Nat) (Option.some Jvm.ClassFile.FieldType.int)) ∈ lw_all := lw_g (lw_at lw_m1 180 rfl) rfl
theorem q259 : (Jvm.Cond.static ({ cls := "java/lang/Math", name := "min", desc := "(II)I" } : Jvm.MethodName)) ∈ lw_all := lw_g (lw_at lw_m1 197 rfl) rfl
theorem q260 : (Jvm.Cond.code ({ cls := "java/lang/Math", name := "min", desc := "(II)I" } : Jvm.MethodName) prog_48_method_69_code (2 : Nat) (Option.some Jvm.ClassFile.FieldType.int)) ∈ lw_all := lw_g (lw_at lw_m1 198 rfl) rfl
theorem q718 : (Jvm.Cond.static ({ cls := "java/lang/Math", name := "min", desc := "(JJ)J" } : Jvm.MethodName)) ∈ lw_all := lw_g (lw_at lw_m3 176 rfl) rfl
theorem q719 : (Jvm.Cond.code ({ cls := "java/lang/Math", name := "min", desc := "(JJ)J" } : Jvm.MethodName) prog_48_method_70_code (4 : Nat) (Option.some Jvm.ClassFile.FieldType.long)) ∈ lw_all := lw_g (lw_at lw_m3 177 rfl) rfl
/-! java/util/Arrays -/
set_option maxRecDepth 100000
def RJ13 : String := "java/util/Arrays"
abbrev cJ13_copyOf : ByteArray := prog_63_method_121_code
def yJ13_copyOf : MethodName := ⟨RJ13, "copyOf", "([BI)[B"⟩
def dkwJ13_copyOf_1 : List UInt8 := [27, 184, 1, 48, 184, 0, 150, 44, 176]
abbrev dktJ13_copyOf_1 : List UInt8 := dkwJ13_copyOf_1 ++ []
def dkwJ13_copyOf_0 : List UInt8 := [27, 42, 190, 160, 0, 11, 42, 182, 1, 54, 192, 1, 55, 176, 27, 188, 8, 77, 42, 3, 44, 3, 42, 190]
abbrev dktJ13_copyOf_0 : List UInt8 := dkwJ13_copyOf_0 ++ dktJ13_copyOf_1
theorem dksJ13_copyOf_0 : cJ13_copyOf.data.toList.drop 0 = dktJ13_copyOf_0 := by decide +kernel
theorem dksJ13_copyOf_1 : cJ13_copyOf.data.toList.drop 24 = dktJ13_copyOf_1 := dk_seg dksJ13_copyOf_0 24 rfl rfl
theorem dJ13_copyOf_0 : decode cJ13_copyOf 0 = .ok (.iload_n 1, 1) := dk_27 (dk_at dksJ13_copyOf_0 0 rfl rfl)
theorem dJ13_copyOf_1 : decode cJ13_copyOf 1 = .ok (.aload_n 0, 1) := dk_42 (dk_at dksJ13_copyOf_0 1 rfl rfl)
theorem dJ13_copyOf_2 : decode cJ13_copyOf 2 = .ok (.arraylength, 1) := dk_190 (dk_at dksJ13_copyOf_0 2 rfl rfl)
theorem dJ13_copyOf_3 : decode cJ13_copyOf 3 = .ok (.if_icmp .ne 11, 3) := dk_160 0 11 (dk_at dksJ13_copyOf_0 3 rfl rfl)
theorem dJ13_copyOf_6 : decode cJ13_copyOf 6 = .ok (.aload_n 0, 1) := dk_42 (dk_at dksJ13_copyOf_0 6 rfl rfl)
theorem dJ13_copyOf_7 : decode cJ13_copyOf 7 = .ok (.invokevirtual 310, 3) := dk_182 1 54 (dk_at dksJ13_copyOf_0 7 rfl rfl)
theorem dJ13_copyOf_10 : decode cJ13_copyOf 10 = .ok (.checkcast 311, 3) := dk_192 1 55 (dk_at dksJ13_copyOf_0 10 rfl rfl)
theorem dJ13_copyOf_13 : decode cJ13_copyOf 13 = .ok (.areturn, 1) := dk_176 (dk_at dksJ13_copyOf_0 13 rfl rfl)
theorem dJ13_copyOf_14 : decode cJ13_copyOf 14 = .ok (.iload_n 1, 1) := dk_27 (dk_at dksJ13_copyOf_0 14 rfl rfl)
theorem dJ13_copyOf_15 : decode cJ13_copyOf 15 = .ok (.newarray .byte, 2) := dk_188_8 (dk_at dksJ13_copyOf_0 15 rfl rfl)
theorem dJ13_copyOf_17 : decode cJ13_copyOf 17 = .ok (.astore_n 2, 1) := dk_77 (dk_at dksJ13_copyOf_0 17 rfl rfl)
theorem dJ13_copyOf_18 : decode cJ13_copyOf 18 = .ok (.aload_n 0, 1) := dk_42 (dk_at dksJ13_copyOf_0 18 rfl rfl)
theorem dJ13_copyOf_19 : decode cJ13_copyOf 19 = .ok (.iconst 0, 1) := dk_3 (dk_at dksJ13_copyOf_0 19 rfl rfl)
theorem dJ13_copyOf_20 : decode cJ13_copyOf 20 = .ok (.aload_n 2, 1) := dk_44 (dk_at dksJ13_copyOf_0 20 rfl rfl)
theorem dJ13_copyOf_21 : decode cJ13_copyOf 21 = .ok (.iconst 0, 1) := dk_3 (dk_at dksJ13_copyOf_0 21 rfl rfl)
theorem dJ13_copyOf_22 : decode cJ13_copyOf 22 = .ok (.aload_n 0, 1) := dk_42 (dk_at dksJ13_copyOf_0 22 rfl rfl)
theorem dJ13_copyOf_23 : decode cJ13_copyOf 23 = .ok (.arraylength, 1) := dk_190 (dk_at dksJ13_copyOf_0 23 rfl rfl)
theorem dJ13_copyOf_24 : decode cJ13_copyOf 24 = .ok (.iload_n 1, 1) := dk_27 (dk_at dksJ13_copyOf_1 0 rfl rfl)
theorem dJ13_copyOf_25 : decode cJ13_copyOf 25 = .ok (.invokestatic 304, 3) := dk_184 1 48 (dk_at dksJ13_copyOf_1 1 rfl rfl)
theorem dJ13_copyOf_28 : decode cJ13_copyOf 28 = .ok (.invokestatic 150, 3) := dk_184 0 150 (dk_at dksJ13_copyOf_1 4 rfl rfl)
theorem dJ13_copyOf_31 : decode cJ13_copyOf 31 = .ok (.aload_n 2, 1) := dk_44 (dk_at dksJ13_copyOf_1 7 rfl rfl)
theorem dJ13_copyOf_32 : decode cJ13_copyOf 32 = .ok (.areturn, 1) := dk_176 (dk_at dksJ13_copyOf_1 8 rfl rfl)
abbrev cJ13_copyOfRange : ByteArray := prog_63_method_132_code
def yJ13_copyOfRange : MethodName := ⟨RJ13, "copyOfRange", "([BII)[B"⟩
def dkwJ13_copyOfRange_1 : List UInt8 := [176]
abbrev dktJ13_copyOfRange_1 : List UInt8 := dkwJ13_copyOfRange_1 ++ []
def dkwJ13_copyOfRange_0 : List UInt8 := [27, 154, 0, 9, 28, 42, 190, 159, 0, 10, 42, 27, 28, 184, 1, 83, 176, 42, 182, 1, 54, 192, 1, 55]
abbrev dktJ13_copyOfRange_0 : List UInt8 := dkwJ13_copyOfRange_0 ++ dktJ13_copyOfRange_1
theorem dksJ13_copyOfRange_0 : cJ13_copyOfRange.data.toList.drop 0 = dktJ13_copyOfRange_0 := by decide +kernel
theorem dksJ13_copyOfRange_1 : cJ13_copyOfRange.data.toList.drop 24 = dktJ13_copyOfRange_1 := dk_seg dksJ13_copyOfRange_0 24 rfl rfl
theorem dJ13_copyOfRange_0 : decode cJ13_copyOfRange 0 = .ok (.iload_n 1, 1) := dk_27 (dk_at dksJ13_copyOfRange_0 0 rfl rfl)
theorem dJ13_copyOfRange_1 : decode cJ13_copyOfRange 1 = .ok (.ifCond .ne 9, 3) := dk_154 0 9 (dk_at dksJ13_copyOfRange_0 1 rfl rfl)
theorem dJ13_copyOfRange_4 : decode cJ13_copyOfRange 4 = .ok (.iload_n 2, 1) := dk_28 (dk_at dksJ13_copyOfRange_0 4 rfl rfl)
theorem dJ13_copyOfRange_5 : decode cJ13_copyOfRange 5 = .ok (.aload_n 0, 1) := dk_42 (dk_at dksJ13_copyOfRange_0 5 rfl rfl)
theorem dJ13_copyOfRange_6 : decode cJ13_copyOfRange 6 = .ok (.arraylength, 1) := dk_190 (dk_at dksJ13_copyOfRange_0 6 rfl rfl)
theorem dJ13_copyOfRange_7 : decode cJ13_copyOfRange 7 = .ok (.if_icmp .eq 10, 3) := dk_159 0 10 (dk_at dksJ13_copyOfRange_0 7 rfl rfl)
theorem dJ13_copyOfRange_10 : decode cJ13_copyOfRange 10 = .ok (.aload_n 0, 1) := dk_42 (dk_at dksJ13_copyOfRange_0 10 rfl rfl)
theorem dJ13_copyOfRange_11 : decode cJ13_copyOfRange 11 = .ok (.iload_n 1, 1) := dk_27 (dk_at dksJ13_copyOfRange_0 11 rfl rfl)
theorem dJ13_copyOfRange_12 : decode cJ13_copyOfRange 12 = .ok (.iload_n 2, 1) := dk_28 (dk_at dksJ13_copyOfRange_0 12 rfl rfl)
theorem dJ13_copyOfRange_13 : decode cJ13_copyOfRange 13 = .ok (.invokestatic 339, 3) := dk_184 1 83 (dk_at dksJ13_copyOfRange_0 13 rfl rfl)
theorem dJ13_copyOfRange_16 : decode cJ13_copyOfRange 16 = .ok (.areturn, 1) := dk_176 (dk_at dksJ13_copyOfRange_0 16 rfl rfl)
theorem dJ13_copyOfRange_17 : decode cJ13_copyOfRange 17 = .ok (.aload_n 0, 1) := dk_42 (dk_at dksJ13_copyOfRange_0 17 rfl rfl)
theorem dJ13_copyOfRange_18 : decode cJ13_copyOfRange 18 = .ok (.invokevirtual 310, 3) := dk_182 1 54 (dk_at dksJ13_copyOfRange_0 18 rfl rfl)
theorem dJ13_copyOfRange_21 : decode cJ13_copyOfRange 21 = .ok (.checkcast 311, 3) := dk_192 1 55 (dk_at dksJ13_copyOfRange_0 21 rfl rfl)
theorem dJ13_copyOfRange_24 : decode cJ13_copyOfRange 24 = .ok (.areturn, 1) := dk_176 (dk_at dksJ13_copyOfRange_1 0 rfl rfl)
abbrev cJ13_copyOfRangeByte : ByteArray := prog_63_method_133_code
def yJ13_copyOfRangeByte : MethodName := ⟨RJ13, "copyOfRangeByte", "([BII)[B"⟩
def dkwJ13_copyOfRangeByte_1 : List UInt8 := [184, 1, 48, 184, 0, 150, 25, 4, 176]
abbrev dktJ13_copyOfRangeByte_1 : List UInt8 := dkwJ13_copyOfRangeByte_1 ++ []
def dkwJ13_copyOfRangeByte_0 : List UInt8 := [27, 28, 184, 1, 87, 28, 27, 100, 62, 29, 188, 8, 58, 4, 42, 27, 25, 4, 3, 42, 190, 27, 100, 29]
abbrev dktJ13_copyOfRangeByte_0 : List UInt8 := dkwJ13_copyOfRangeByte_0 ++ dktJ13_copyOfRangeByte_1
theorem dksJ13_copyOfRangeByte_0 : cJ13_copyOfRangeByte.data.toList.drop 0 = dktJ13_copyOfRangeByte_0 := by decide +kernel
theorem dksJ13_copyOfRangeByte_1 : cJ13_copyOfRangeByte.data.toList.drop 24 = dktJ13_copyOfRangeByte_1 := dk_seg dksJ13_copyOfRangeByte_0 24 rfl rfl
theorem dJ13_copyOfRangeByte_0 : decode cJ13_copyOfRangeByte 0 = .ok (.iload_n 1, 1) := dk_27 (dk_at dksJ13_copyOfRangeByte_0 0 rfl rfl)
theorem dJ13_copyOfRangeByte_1 : decode cJ13_copyOfRangeByte 1 = .ok (.iload_n 2, 1) := dk_28 (dk_at dksJ13_copyOfRangeByte_0 1 rfl rfl)
theorem dJ13_copyOfRangeByte_2 : decode cJ13_copyOfRangeByte 2 = .ok (.invokestatic 343, 3) := dk_184 1 87 (dk_at dksJ13_copyOfRangeByte_0 2 rfl rfl)
theorem dJ13_copyOfRangeByte_5 : decode cJ13_copyOfRangeByte 5 = .ok (.iload_n 2, 1) := dk_28 (dk_at dksJ13_copyOfRangeByte_0 5 rfl rfl)
theorem dJ13_copyOfRangeByte_6 : decode cJ13_copyOfRangeByte 6 = .ok (.iload_n 1, 1) := dk_27 (dk_at dksJ13_copyOfRangeByte_0 6 rfl rfl)
theorem dJ13_copyOfRangeByte_7 : decode cJ13_copyOfRangeByte 7 = .ok (.isub, 1) := dk_100 (dk_at dksJ13_copyOfRangeByte_0 7 rfl rfl)
theorem dJ13_copyOfRangeByte_8 : decode cJ13_copyOfRangeByte 8 = .ok (.istore_n 3, 1) := dk_62 (dk_at dksJ13_copyOfRangeByte_0 8 rfl rfl)
theorem dJ13_copyOfRangeByte_9 : decode cJ13_copyOfRangeByte 9 = .ok (.iload_n 3, 1) := dk_29 (dk_at dksJ13_copyOfRangeByte_0 9 rfl rfl)
theorem dJ13_copyOfRangeByte_10 : decode cJ13_copyOfRangeByte 10 = .ok (.newarray .byte, 2) := dk_188_8 (dk_at dksJ13_copyOfRangeByte_0 10 rfl rfl)
theorem dJ13_copyOfRangeByte_12 : decode cJ13_copyOfRangeByte 12 = .ok (.astore 4, 2) := dk_58 4 (dk_at dksJ13_copyOfRangeByte_0 12 rfl rfl)
theorem dJ13_copyOfRangeByte_14 : decode cJ13_copyOfRangeByte 14 = .ok (.aload_n 0, 1) := dk_42 (dk_at dksJ13_copyOfRangeByte_0 14 rfl rfl)
theorem dJ13_copyOfRangeByte_15 : decode cJ13_copyOfRangeByte 15 = .ok (.iload_n 1, 1) := dk_27 (dk_at dksJ13_copyOfRangeByte_0 15 rfl rfl)
theorem dJ13_copyOfRangeByte_16 : decode cJ13_copyOfRangeByte 16 = .ok (.aload 4, 2) := dk_25 4 (dk_at dksJ13_copyOfRangeByte_0 16 rfl rfl)
theorem dJ13_copyOfRangeByte_18 : decode cJ13_copyOfRangeByte 18 = .ok (.iconst 0, 1) := dk_3 (dk_at dksJ13_copyOfRangeByte_0 18 rfl rfl)
theorem dJ13_copyOfRangeByte_19 : decode cJ13_copyOfRangeByte 19 = .ok (.aload_n 0, 1) := dk_42 (dk_at dksJ13_copyOfRangeByte_0 19 rfl rfl)
theorem dJ13_copyOfRangeByte_20 : decode cJ13_copyOfRangeByte 20 = .ok (.arraylength, 1) := dk_190 (dk_at dksJ13_copyOfRangeByte_0 20 rfl rfl)
theorem dJ13_copyOfRangeByte_21 : decode cJ13_copyOfRangeByte 21 = .ok (.iload_n 1, 1) := dk_27 (dk_at dksJ13_copyOfRangeByte_0 21 rfl rfl)
theorem dJ13_copyOfRangeByte_22 : decode cJ13_copyOfRangeByte 22 = .ok (.isub, 1) := dk_100 (dk_at dksJ13_copyOfRangeByte_0 22 rfl rfl)
theorem dJ13_copyOfRangeByte_23 : decode cJ13_copyOfRangeByte 23 = .ok (.iload_n 3, 1) := dk_29 (dk_at dksJ13_copyOfRangeByte_0 23 rfl rfl)
theorem dJ13_copyOfRangeByte_24 : decode cJ13_copyOfRangeByte 24 = .ok (.invokestatic 304, 3) := dk_184 1 48 (dk_at dksJ13_copyOfRangeByte_1 0 rfl rfl)
theorem dJ13_copyOfRangeByte_27 : decode cJ13_copyOfRangeByte 27 = .ok (.invokestatic 150, 3) := dk_184 0 150 (dk_at dksJ13_copyOfRangeByte_1 3 rfl rfl)
theorem dJ13_copyOfRangeByte_30 : decode cJ13_copyOfRangeByte 30 = .ok (.aload 4, 2) := dk_25 4 (dk_at dksJ13_copyOfRangeByte_1 6 rfl rfl)
theorem dJ13_copyOfRangeByte_32 : decode cJ13_copyOfRangeByte 32 = .ok (.areturn, 1) := dk_176 (dk_at dksJ13_copyOfRangeByte_1 8 rfl rfl)
abbrev cJ13_checkLength : ByteArray := prog_63_method_131_code
def yJ13_checkLength : MethodName := ⟨RJ13, "checkLength", "(II)V"⟩
def dkwJ13_checkLength_1 : List UInt8 := [182, 0, 50, 27, 182, 0, 54, 182, 0, 61, 183, 0, 65, 191, 177]
abbrev dktJ13_checkLength_1 : List UInt8 := dkwJ13_checkLength_1 ++ []
def dkwJ13_checkLength_0 : List UInt8 := [27, 26, 162, 0, 35, 187, 0, 43, 89, 187, 0, 45, 89, 183, 0, 47, 26, 182, 0, 54, 19, 1, 81]
abbrev dktJ13_checkLength_0 : List UInt8 := dkwJ13_checkLength_0 ++ dktJ13_checkLength_1
theorem dksJ13_checkLength_0 : cJ13_checkLength.data.toList.drop 0 = dktJ13_checkLength_0 := by decide +kernel
theorem dksJ13_checkLength_1 : cJ13_checkLength.data.toList.drop 23 = dktJ13_checkLength_1 := dk_seg dksJ13_checkLength_0 23 rfl rfl
theorem dJ13_checkLength_0 : decode cJ13_checkLength 0 = .ok (.iload_n 1, 1) := dk_27 (dk_at dksJ13_checkLength_0 0 rfl rfl)
theorem dJ13_checkLength_1 : decode cJ13_checkLength 1 = .ok (.iload_n 0, 1) := dk_26 (dk_at dksJ13_checkLength_0 1 rfl rfl)
theorem dJ13_checkLength_2 : decode cJ13_checkLength 2 = .ok (.if_icmp .ge 35, 3) := dk_162 0 35 (dk_at dksJ13_checkLength_0 2 rfl rfl)
theorem dJ13_checkLength_5 : decode cJ13_checkLength 5 = .ok (.new 43, 3) := dk_187 0 43 (dk_at dksJ13_checkLength_0 5 rfl rfl)
theorem dJ13_checkLength_8 : decode cJ13_checkLength 8 = .ok (.dup, 1) := dk_89 (dk_at dksJ13_checkLength_0 8 rfl rfl)
theorem dJ13_checkLength_9 : decode cJ13_checkLength 9 = .ok (.new 45, 3) := dk_187 0 45 (dk_at dksJ13_checkLength_0 9 rfl rfl)
theorem dJ13_checkLength_12 : decode cJ13_checkLength 12 = .ok (.dup, 1) := dk_89 (dk_at dksJ13_checkLength_0 12 rfl rfl)
theorem dJ13_checkLength_13 : decode cJ13_checkLength 13 = .ok (.invokespecial 47, 3) := dk_183 0 47 (dk_at dksJ13_checkLength_0 13 rfl rfl)
theorem dJ13_checkLength_16 : decode cJ13_checkLength 16 = .ok (.iload_n 0, 1) := dk_26 (dk_at dksJ13_checkLength_0 16 rfl rfl)
theorem dJ13_checkLength_17 : decode cJ13_checkLength 17 = .ok (.invokevirtual 54, 3) := dk_182 0 54 (dk_at dksJ13_checkLength_0 17 rfl rfl)
theorem dJ13_checkLength_20 : decode cJ13_checkLength 20 = .ok (.ldc_w 337, 3) := dk_19 1 81 (dk_at dksJ13_checkLength_0 20 rfl rfl)
theorem dJ13_checkLength_23 : decode cJ13_checkLength 23 = .ok (.invokevirtual 50, 3) := dk_182 0 50 (dk_at dksJ13_checkLength_1 0 rfl rfl)
theorem dJ13_checkLength_26 : decode cJ13_checkLength 26 = .ok (.iload_n 1, 1) := dk_27 (dk_at dksJ13_checkLength_1 3 rfl rfl)
theorem dJ13_checkLength_27 : decode cJ13_checkLength 27 = .ok (.invokevirtual 54, 3) := dk_182 0 54 (dk_at dksJ13_checkLength_1 4 rfl rfl)
theorem dJ13_checkLength_30 : decode cJ13_checkLength 30 = .ok (.invokevirtual 61, 3) := dk_182 0 61 (dk_at dksJ13_checkLength_1 7 rfl rfl)
theorem dJ13_checkLength_33 : decode cJ13_checkLength 33 = .ok (.invokespecial 65, 3) := dk_183 0 65 (dk_at dksJ13_checkLength_1 10 rfl rfl)
theorem dJ13_checkLength_36 : decode cJ13_checkLength 36 = .ok (.athrow, 1) := dk_191 (dk_at dksJ13_checkLength_1 13 rfl rfl)
theorem dJ13_checkLength_37 : decode cJ13_checkLength 37 = .ok (.return_, 1) := dk_177 (dk_at dksJ13_checkLength_1 14 rfl rfl)
abbrev cJ13_copyOf_2 : ByteArray := prog_63_method_119_code
def yJ13_copyOf_2 : MethodName := ⟨RJ13, "copyOf", "([Ljava/lang/Object;I)[Ljava/lang/Object;"⟩
def dkwJ13_copyOf_2_0 : List UInt8 := [42, 27, 42, 182, 0, 86, 184, 1, 44, 176]
abbrev dktJ13_copyOf_2_0 : List UInt8 := dkwJ13_copyOf_2_0 ++ []
theorem dksJ13_copyOf_2_0 : cJ13_copyOf_2.data.toList.drop 0 = dktJ13_copyOf_2_0 := by decide +kernel
theorem dJ13_copyOf_2_0 : decode cJ13_copyOf_2 0 = .ok (.aload_n 0, 1) := dk_42 (dk_at dksJ13_copyOf_2_0 0 rfl rfl)
theorem dJ13_copyOf_2_1 : decode cJ13_copyOf_2 1 = .ok (.iload_n 1, 1) := dk_27 (dk_at dksJ13_copyOf_2_0 1 rfl rfl)
theorem dJ13_copyOf_2_2 : decode cJ13_copyOf_2 2 = .ok (.aload_n 0, 1) := dk_42 (dk_at dksJ13_copyOf_2_0 2 rfl rfl)
theorem dJ13_copyOf_2_3 : decode cJ13_copyOf_2 3 = .ok (.invokevirtual 86, 3) := dk_182 0 86 (dk_at dksJ13_copyOf_2_0 3 rfl rfl)
theorem dJ13_copyOf_2_6 : decode cJ13_copyOf_2 6 = .ok (.invokestatic 300, 3) := dk_184 1 44 (dk_at dksJ13_copyOf_2_0 6 rfl rfl)
theorem dJ13_copyOf_2_9 : decode cJ13_copyOf_2 9 = .ok (.areturn, 1) := dk_176 (dk_at dksJ13_copyOf_2_0 9 rfl rfl)
abbrev cJ13_copyOf_3 : ByteArray := prog_63_method_120_code
def yJ13_copyOf_3 : MethodName := ⟨RJ13, "copyOf", "([Ljava/lang/Object;ILjava/lang/Class;)[Ljava/lang/Object;"⟩
def dkwJ13_copyOf_3_1 : List UInt8 := [78, 42, 3, 45, 3, 42, 190, 27, 184, 1, 48, 184, 0, 150, 45, 176]
abbrev dktJ13_copyOf_3_1 : List UInt8 := dkwJ13_copyOf_3_1 ++ []
def dkwJ13_copyOf_3_0 : List UInt8 := [44, 18, 110, 166, 0, 10, 27, 189, 0, 2, 167, 0, 14, 44, 182, 0, 90, 27, 184, 0, 95, 192, 0, 110]
abbrev dktJ13_copyOf_3_0 : List UInt8 := dkwJ13_copyOf_3_0 ++ dktJ13_copyOf_3_1
theorem dksJ13_copyOf_3_0 : cJ13_copyOf_3.data.toList.drop 0 = dktJ13_copyOf_3_0 := by decide +kernel
theorem dksJ13_copyOf_3_1 : cJ13_copyOf_3.data.toList.drop 24 = dktJ13_copyOf_3_1 := dk_seg dksJ13_copyOf_3_0 24 rfl rfl
theorem dJ13_copyOf_3_0 : decode cJ13_copyOf_3 0 = .ok (.aload_n 2, 1) := dk_44 (dk_at dksJ13_copyOf_3_0 0 rfl rfl)
theorem dJ13_copyOf_3_1 : decode cJ13_copyOf_3 1 = .ok (.ldc 110, 2) := dk_18 110 (dk_at dksJ13_copyOf_3_0 1 rfl rfl)
theorem dJ13_copyOf_3_3 : decode cJ13_copyOf_3 3 = .ok (.if_acmp .ne 10, 3) := dk_166 0 10 (dk_at dksJ13_copyOf_3_0 3 rfl rfl)
theorem dJ13_copyOf_3_6 : decode cJ13_copyOf_3 6 = .ok (.iload_n 1, 1) := dk_27 (dk_at dksJ13_copyOf_3_0 6 rfl rfl)
theorem dJ13_copyOf_3_7 : decode cJ13_copyOf_3 7 = .ok (.anewarray 2, 3) := dk_189 0 2 (dk_at dksJ13_copyOf_3_0 7 rfl rfl)
theorem dJ13_copyOf_3_10 : decode cJ13_copyOf_3 10 = .ok (.goto 14, 3) := dk_167 0 14 (dk_at dksJ13_copyOf_3_0 10 rfl rfl)
theorem dJ13_copyOf_3_13 : decode cJ13_copyOf_3 13 = .ok (.aload_n 2, 1) := dk_44 (dk_at dksJ13_copyOf_3_0 13 rfl rfl)
theorem dJ13_copyOf_3_14 : decode cJ13_copyOf_3 14 = .ok (.invokevirtual 90, 3) := dk_182 0 90 (dk_at dksJ13_copyOf_3_0 14 rfl rfl)
theorem dJ13_copyOf_3_17 : decode cJ13_copyOf_3 17 = .ok (.iload_n 1, 1) := dk_27 (dk_at dksJ13_copyOf_3_0 17 rfl rfl)
theorem dJ13_copyOf_3_18 : decode cJ13_copyOf_3 18 = .ok (.invokestatic 95, 3) := dk_184 0 95 (dk_at dksJ13_copyOf_3_0 18 rfl rfl)
theorem dJ13_copyOf_3_21 : decode cJ13_copyOf_3 21 = .ok (.checkcast 110, 3) := dk_192 0 110 (dk_at dksJ13_copyOf_3_0 21 rfl rfl)
theorem dJ13_copyOf_3_24 : decode cJ13_copyOf_3 24 = .ok (.astore_n 3, 1) := dk_78 (dk_at dksJ13_copyOf_3_1 0 rfl rfl)
theorem dJ13_copyOf_3_25 : decode cJ13_copyOf_3 25 = .ok (.aload_n 0, 1) := dk_42 (dk_at dksJ13_copyOf_3_1 1 rfl rfl)
theorem dJ13_copyOf_3_26 : decode cJ13_copyOf_3 26 = .ok (.iconst 0, 1) := dk_3 (dk_at dksJ13_copyOf_3_1 2 rfl rfl)
theorem dJ13_copyOf_3_27 : decode cJ13_copyOf_3 27 = .ok (.aload_n 3, 1) := dk_45 (dk_at dksJ13_copyOf_3_1 3 rfl rfl)
theorem dJ13_copyOf_3_28 : decode cJ13_copyOf_3 28 = .ok (.iconst 0, 1) := dk_3 (dk_at dksJ13_copyOf_3_1 4 rfl rfl)
theorem dJ13_copyOf_3_29 : decode cJ13_copyOf_3 29 = .ok (.aload_n 0, 1) := dk_42 (dk_at dksJ13_copyOf_3_1 5 rfl rfl)
theorem dJ13_copyOf_3_30 : decode cJ13_copyOf_3 30 = .ok (.arraylength, 1) := dk_190 (dk_at dksJ13_copyOf_3_1 6 rfl rfl)
theorem dJ13_copyOf_3_31 : decode cJ13_copyOf_3 31 = .ok (.iload_n 1, 1) := dk_27 (dk_at dksJ13_copyOf_3_1 7 rfl rfl)
theorem dJ13_copyOf_3_32 : decode cJ13_copyOf_3 32 = .ok (.invokestatic 304, 3) := dk_184 1 48 (dk_at dksJ13_copyOf_3_1 8 rfl rfl)
theorem dJ13_copyOf_3_35 : decode cJ13_copyOf_3 35 = .ok (.invokestatic 150, 3) := dk_184 0 150 (dk_at dksJ13_copyOf_3_1 11 rfl rfl)
theorem dJ13_copyOf_3_38 : decode cJ13_copyOf_3 38 = .ok (.aload_n 3, 1) := dk_45 (dk_at dksJ13_copyOf_3_1 14 rfl rfl)
theorem dJ13_copyOf_3_39 : decode cJ13_copyOf_3 39 = .ok (.areturn, 1) := dk_176 (dk_at dksJ13_copyOf_3_1 15 rfl rfl)
theorem q77 : (Jvm.Cond.initialized "java/util/Arrays") ∈ lw_all := lw_g (lw_at lw_m1 15 rfl) rfl
theorem q249 : (Jvm.Cond.static ({ cls := "java/util/Arrays", name := "copyOf", desc := "([BI)[B" } : Jvm.MethodName)) ∈ lw_all := lw_g (lw_at lw_m1 187 rfl) rfl
theorem q250 : (Jvm.Cond.code ({ cls := "java/util/Arrays", name := "copyOf", desc := "([BI)[B" } : Jvm.MethodName) prog_63_method_121_code (3 : Nat) (Option.some (Jvm.ClassFile.FieldType.array Jvm.ClassFile.FieldType.byte))) ∈ lw_all := lw_g (lw_at lw_m1 188 rfl) rfl
theorem q251 : (Jvm.Cond.methodLink "java/util/Arrays" (310 : Nat) ({ cls := "[B", name := "clone", desc := "()Ljava/lang/Object;" } : Jvm.MethodName)) ∈ lw_all := lw_g (lw_at lw_m1 189 rfl) rfl
theorem q257 : (Jvm.Cond.classLink "java/util/Arrays" (311 : Nat) "[B") ∈ lw_all := lw_g (lw_at lw_m1 195 rfl) rfl
theorem q258 : (Jvm.Cond.methodLink "java/util/Arrays" (304 : Nat) ({ cls := "java/lang/Math", name := "min", desc := "(II)I" } : Jvm.MethodName)) ∈ lw_all := lw_g (lw_at lw_m1 196 rfl) rfl
theorem q261 : (Jvm.Cond.methodLink "java/util/Arrays" (150 : Nat) ({ cls := "java/lang/System", name := "arraycopy", desc := "(Ljava/lang/Object;ILjava/lang/Object;II)V" } : Jvm.MethodName)) ∈ lw_all := lw_g (lw_at lw_m1 199 rfl) rfl
theorem q391 : (Jvm.Cond.static ({ cls := "java/util/Arrays", name := "copyOfRange", desc := "([BII)[B" } : Jvm.MethodName)) ∈ lw_all := lw_g (lw_at lw_m2 89 rfl) rfl
theorem q392 : (Jvm.Cond.code ({ cls := "java/util/Arrays", name := "copyOfRange", desc := "([BII)[B" } : Jvm.MethodName) prog_63_method_132_code (3 : Nat) (Option.some (Jvm.ClassFile.FieldType.array Jvm.ClassFile.FieldType.byte))) ∈ lw_all := lw_g (lw_at lw_m2 90 rfl) rfl
theorem q393 : (Jvm.Cond.methodLink "java/util/Arrays" (339 : Nat) ({ cls := "java/util/Arrays", name := "copyOfRangeByte", desc := "([BII)[B" } : Jvm.MethodName)) ∈ lw_all := lw_g (lw_at lw_m2 91 rfl) rfl
theorem q394 : (Jvm.Cond.static ({ cls := "java/util/Arrays", name := "copyOfRangeByte", desc := "([BII)[B" } : Jvm.MethodName)) ∈ lw_all := lw_g (lw_at lw_m2 92 rfl) rfl
theorem q395 : (Jvm.Cond.code ({ cls := "java/util/Arrays", name := "copyOfRangeByte", desc := "([BII)[B" } : Jvm.MethodName) prog_63_method_133_code (5 : Nat) (Option.some (Jvm.ClassFile.FieldType.array Jvm.ClassFile.FieldType.byte))) ∈ lw_all := lw_g (lw_at lw_m2 93 rfl) rfl
theorem q396 : (Jvm.Cond.methodLink "java/util/Arrays" (343 : Nat) ({ cls := "java/util/Arrays", name := "checkLength", desc := "(II)V" } : Jvm.MethodName)) ∈ lw_all := lw_g (lw_at lw_m2 94 rfl) rfl
theorem q397 : (Jvm.Cond.static ({ cls := "java/util/Arrays", name := "checkLength", desc := "(II)V" } : Jvm.MethodName)) ∈ lw_all := lw_g (lw_at lw_m2 95 rfl) rfl
theorem q398 : (Jvm.Cond.code ({ cls := "java/util/Arrays", name := "checkLength", desc := "(II)V" } : Jvm.MethodName) prog_63_method_131_code (2 : Nat) (Option.none : Option Jvm.ClassFile.FieldType)) ∈ lw_all := lw_g (lw_at lw_m2 96 rfl) rfl
theorem q399 : (Jvm.Cond.classLink "java/util/Arrays" (43 : Nat) "java/lang/IllegalArgumentException") ∈ lw_all := lw_g (lw_at lw_m2 97 rfl) rfl
theorem q400 : (Jvm.Cond.classLink "java/util/Arrays" (45 : Nat) "java/lang/StringBuilder") ∈ lw_all := lw_g (lw_at lw_m2 98 rfl) rfl
theorem q401 : (Jvm.Cond.methodLink "java/util/Arrays" (47 : Nat) ({ cls := "java/lang/StringBuilder", name := "<init>", desc := "()V" } : Jvm.MethodName)) ∈ lw_all := lw_g (lw_at lw_m2 99 rfl) rfl
theorem q402 : (Jvm.Cond.methodLink "java/util/Arrays" (54 : Nat) ({ cls := "java/lang/StringBuilder", name := "append", desc := "(I)Ljava/lang/StringBuilder;" } : Jvm.MethodName)) ∈ lw_all := lw_g (lw_at lw_m2 100 rfl) rfl
theorem q403 : (Jvm.Cond.stringRef "java/util/Arrays" (337 : Nat) " > ") ∈ lw_tbl := lw_at lw_m2 101 rfl
theorem q404 : (Jvm.Cond.methodLink "java/util/Arrays" (50 : Nat) ({ cls := "java/lang/StringBuilder", name := "append", desc := "(Ljava/lang/String;)Ljava/lang/StringBuilder;" } : Jvm.MethodName)) ∈ lw_all := lw_g (lw_at lw_m2 102 rfl) rfl
theorem q405 : (Jvm.Cond.methodLink "java/util/Arrays" (61 : Nat) ({ cls := "java/lang/StringBuilder", name := "toString", desc := "()Ljava/lang/String;" } : Jvm.MethodName)) ∈ lw_all := lw_g (lw_at lw_m2 103 rfl) rfl
theorem q406 : (Jvm.Cond.methodLink "java/util/Arrays" (65 : Nat) ({ cls := "java/lang/IllegalArgumentException", name := "<init>", desc := "(Ljava/lang/String;)V" } : Jvm.MethodName)) ∈ lw_all := lw_g (lw_at lw_m2 104 rfl) rfl
theorem q1143 : (Jvm.Cond.static ({ cls := "java/util/Arrays", name := "copyOf", desc := "([Ljava/lang/Object;I)[Ljava/lang/Object;" } : Jvm.MethodName)) ∈ lw_all := lw_g (lw_at lw_m5 121 rfl) rfl
theorem q1144 : (Jvm.Cond.code ({ cls := "java/util/Arrays", name := "copyOf", desc := "([Ljava/lang/Object;I)[Ljava/lang/Object;" } : Jvm.MethodName) prog_63_method_119_code (2 : Nat) (Option.some (Jvm.ClassFile.FieldType.array (Jvm.ClassFile.FieldType.object "java/lang/Object")))) ∈ lw_all := lw_g (lw_at lw_m5 122 rfl) rfl
theorem q1145 : (Jvm.Cond.methodLink "java/util/Arrays" (86 : Nat) ({ cls := "java/lang/Object", name := "getClass", desc := "()Ljava/lang/Class;" } : Jvm.MethodName)) ∈ lw_all := lw_g (lw_at lw_m5 123 rfl) rfl
theorem q1186 : (Jvm.Cond.methodLink "java/util/Arrays" (300 : Nat) ({ cls := "java/util/Arrays", name := "copyOf", desc := "([Ljava/lang/Object;ILjava/lang/Class;)[Ljava/lang/Object;" } : Jvm.MethodName)) ∈ lw_all := lw_g (lw_at lw_m5 164 rfl) rfl
theorem q1187 : (Jvm.Cond.static ({ cls := "java/util/Arrays", name := "copyOf", desc := "([Ljava/lang/Object;ILjava/lang/Class;)[Ljava/lang/Object;" } : Jvm.MethodName)) ∈ lw_all := lw_g (lw_at lw_m5 165 rfl) rfl
theorem q1188 : (Jvm.Cond.code ({ cls := "java/util/Arrays", name := "copyOf", desc := "([Ljava/lang/Object;ILjava/lang/Class;)[Ljava/lang/Object;" } : Jvm.MethodName) prog_63_method_120_code (4 : Nat) (Option.some (Jvm.ClassFile.FieldType.array (Jvm.ClassFile.FieldType.object "java/lang/Object")))) ∈ lw_all := lw_g (lw_at lw_m5 166 rfl) rfl
theorem q1189 : (Jvm.Cond.classLink "java/util/Arrays" (110 : Nat) "[Ljava/lang/Object;") ∈ lw_all := lw_g (lw_at lw_m5 167 rfl) rfl
theorem q1190 : (Jvm.Cond.classLink "java/util/Arrays" (2 : Nat) "java/lang/Object") ∈ lw_all := lw_g (lw_at lw_m5 168 rfl) rfl
/-! jdk/internal/util/Preconditions -/
set_option maxRecDepth 100000
def RJ14 : String := "jdk/internal/util/Preconditions"
abbrev cJ14_checkFromToIndex : ByteArray := prog_71_method_12_code
def yJ14_checkFromToIndex : MethodName := ⟨RJ14, "checkFromToIndex", "(IIILjava/util/function/BiFunction;)I"⟩
def dkwJ14_checkFromToIndex_0 : List UInt8 := [26, 155, 0, 13, 26, 27, 163, 0, 8, 27, 28, 164, 0, 11, 45, 26, 27, 28, 184, 0, 99, 191, 26, 172]
abbrev dktJ14_checkFromToIndex_0 : List UInt8 := dkwJ14_checkFromToIndex_0 ++ []
theorem dksJ14_checkFromToIndex_0 : cJ14_checkFromToIndex.data.toList.drop 0 = dktJ14_checkFromToIndex_0 := by decide +kernel
theorem dJ14_checkFromToIndex_0 : decode cJ14_checkFromToIndex 0 = .ok (.iload_n 0, 1) := dk_26 (dk_at dksJ14_checkFromToIndex_0 0 rfl rfl)
theorem dJ14_checkFromToIndex_1 : decode cJ14_checkFromToIndex 1 = .ok (.ifCond .lt 13, 3) := dk_155 0 13 (dk_at dksJ14_checkFromToIndex_0 1 rfl rfl)
theorem dJ14_checkFromToIndex_4 : decode cJ14_checkFromToIndex 4 = .ok (.iload_n 0, 1) := dk_26 (dk_at dksJ14_checkFromToIndex_0 4 rfl rfl)
theorem dJ14_checkFromToIndex_5 : decode cJ14_checkFromToIndex 5 = .ok (.iload_n 1, 1) := dk_27 (dk_at dksJ14_checkFromToIndex_0 5 rfl rfl)
theorem dJ14_checkFromToIndex_6 : decode cJ14_checkFromToIndex 6 = .ok (.if_icmp .gt 8, 3) := dk_163 0 8 (dk_at dksJ14_checkFromToIndex_0 6 rfl rfl)
theorem dJ14_checkFromToIndex_9 : decode cJ14_checkFromToIndex 9 = .ok (.iload_n 1, 1) := dk_27 (dk_at dksJ14_checkFromToIndex_0 9 rfl rfl)
theorem dJ14_checkFromToIndex_10 : decode cJ14_checkFromToIndex 10 = .ok (.iload_n 2, 1) := dk_28 (dk_at dksJ14_checkFromToIndex_0 10 rfl rfl)
theorem dJ14_checkFromToIndex_11 : decode cJ14_checkFromToIndex 11 = .ok (.if_icmp .le 11, 3) := dk_164 0 11 (dk_at dksJ14_checkFromToIndex_0 11 rfl rfl)
theorem dJ14_checkFromToIndex_14 : decode cJ14_checkFromToIndex 14 = .ok (.aload_n 3, 1) := dk_45 (dk_at dksJ14_checkFromToIndex_0 14 rfl rfl)
theorem dJ14_checkFromToIndex_15 : decode cJ14_checkFromToIndex 15 = .ok (.iload_n 0, 1) := dk_26 (dk_at dksJ14_checkFromToIndex_0 15 rfl rfl)
theorem dJ14_checkFromToIndex_16 : decode cJ14_checkFromToIndex 16 = .ok (.iload_n 1, 1) := dk_27 (dk_at dksJ14_checkFromToIndex_0 16 rfl rfl)
theorem dJ14_checkFromToIndex_17 : decode cJ14_checkFromToIndex 17 = .ok (.iload_n 2, 1) := dk_28 (dk_at dksJ14_checkFromToIndex_0 17 rfl rfl)
theorem dJ14_checkFromToIndex_18 : decode cJ14_checkFromToIndex 18 = .ok (.invokestatic 99, 3) := dk_184 0 99 (dk_at dksJ14_checkFromToIndex_0 18 rfl rfl)
theorem dJ14_checkFromToIndex_21 : decode cJ14_checkFromToIndex 21 = .ok (.athrow, 1) := dk_191 (dk_at dksJ14_checkFromToIndex_0 21 rfl rfl)
theorem dJ14_checkFromToIndex_22 : decode cJ14_checkFromToIndex 22 = .ok (.iload_n 0, 1) := dk_26 (dk_at dksJ14_checkFromToIndex_0 22 rfl rfl)
theorem dJ14_checkFromToIndex_23 : decode cJ14_checkFromToIndex 23 = .ok (.ireturn, 1) := dk_172 (dk_at dksJ14_checkFromToIndex_0 23 rfl rfl)
abbrev cJ14_checkFromIndexSize : ByteArray := prog_71_method_13_code
def yJ14_checkFromIndexSize : MethodName := ⟨RJ14, "checkFromIndexSize", "(IIILjava/util/function/BiFunction;)I"⟩
def dkwJ14_checkFromIndexSize_1 : List UInt8 := [172]
abbrev dktJ14_checkFromIndexSize_1 : List UInt8 := dkwJ14_checkFromIndexSize_1 ++ []
def dkwJ14_checkFromIndexSize_0 : List UInt8 := [28, 26, 128, 27, 128, 155, 0, 10, 27, 28, 26, 100, 164, 0, 11, 45, 26, 27, 28, 184, 0, 103, 191, 26]
abbrev dktJ14_checkFromIndexSize_0 : List UInt8 := dkwJ14_checkFromIndexSize_0 ++ dktJ14_checkFromIndexSize_1
theorem dksJ14_checkFromIndexSize_0 : cJ14_checkFromIndexSize.data.toList.drop 0 = dktJ14_checkFromIndexSize_0 := by decide +kernel
theorem dksJ14_checkFromIndexSize_1 : cJ14_checkFromIndexSize.data.toList.drop 24 = dktJ14_checkFromIndexSize_1 := dk_seg dksJ14_checkFromIndexSize_0 24 rfl rfl
theorem dJ14_checkFromIndexSize_0 : decode cJ14_checkFromIndexSize 0 = .ok (.iload_n 2, 1) := dk_28 (dk_at dksJ14_checkFromIndexSize_0 0 rfl rfl)
theorem dJ14_checkFromIndexSize_1 : decode cJ14_checkFromIndexSize 1 = .ok (.iload_n 0, 1) := dk_26 (dk_at dksJ14_checkFromIndexSize_0 1 rfl rfl)
theorem dJ14_checkFromIndexSize_2 : decode cJ14_checkFromIndexSize 2 = .ok (.ior, 1) := dk_128 (dk_at dksJ14_checkFromIndexSize_0 2 rfl rfl)
theorem dJ14_checkFromIndexSize_3 : decode cJ14_checkFromIndexSize 3 = .ok (.iload_n 1, 1) := dk_27 (dk_at dksJ14_checkFromIndexSize_0 3 rfl rfl)
theorem dJ14_checkFromIndexSize_4 : decode cJ14_checkFromIndexSize 4 = .ok (.ior, 1) := dk_128 (dk_at dksJ14_checkFromIndexSize_0 4 rfl rfl)
theorem dJ14_checkFromIndexSize_5 : decode cJ14_checkFromIndexSize 5 = .ok (.ifCond .lt 10, 3) := dk_155 0 10 (dk_at dksJ14_checkFromIndexSize_0 5 rfl rfl)
theorem dJ14_checkFromIndexSize_8 : decode cJ14_checkFromIndexSize 8 = .ok (.iload_n 1, 1) := dk_27 (dk_at dksJ14_checkFromIndexSize_0 8 rfl rfl)
theorem dJ14_checkFromIndexSize_9 : decode cJ14_checkFromIndexSize 9 = .ok (.iload_n 2, 1) := dk_28 (dk_at dksJ14_checkFromIndexSize_0 9 rfl rfl)
theorem dJ14_checkFromIndexSize_10 : decode cJ14_checkFromIndexSize 10 = .ok (.iload_n 0, 1) := dk_26 (dk_at dksJ14_checkFromIndexSize_0 10 rfl rfl)
theorem dJ14_checkFromIndexSize_11 : decode cJ14_checkFromIndexSize 11 = .ok (.isub, 1) := dk_100 (dk_at dksJ14_checkFromIndexSize_0 11 rfl rfl)
theorem dJ14_checkFromIndexSize_12 : decode cJ14_checkFromIndexSize 12 = .ok (.if_icmp .le 11, 3) := dk_164 0 11 (dk_at dksJ14_checkFromIndexSize_0 12 rfl rfl)
theorem dJ14_checkFromIndexSize_15 : decode cJ14_checkFromIndexSize 15 = .ok (.aload_n 3, 1) := dk_45 (dk_at dksJ14_checkFromIndexSize_0 15 rfl rfl)
theorem dJ14_checkFromIndexSize_16 : decode cJ14_checkFromIndexSize 16 = .ok (.iload_n 0, 1) := dk_26 (dk_at dksJ14_checkFromIndexSize_0 16 rfl rfl)
theorem dJ14_checkFromIndexSize_17 : decode cJ14_checkFromIndexSize 17 = .ok (.iload_n 1, 1) := dk_27 (dk_at dksJ14_checkFromIndexSize_0 17 rfl rfl)
theorem dJ14_checkFromIndexSize_18 : decode cJ14_checkFromIndexSize 18 = .ok (.iload_n 2, 1) := dk_28 (dk_at dksJ14_checkFromIndexSize_0 18 rfl rfl)
theorem dJ14_checkFromIndexSize_19 : decode cJ14_checkFromIndexSize 19 = .ok (.invokestatic 103, 3) := dk_184 0 103 (dk_at dksJ14_checkFromIndexSize_0 19 rfl rfl)
theorem dJ14_checkFromIndexSize_22 : decode cJ14_checkFromIndexSize 22 = .ok (.athrow, 1) := dk_191 (dk_at dksJ14_checkFromIndexSize_0 22 rfl rfl)
theorem dJ14_checkFromIndexSize_23 : decode cJ14_checkFromIndexSize 23 = .ok (.iload_n 0, 1) := dk_26 (dk_at dksJ14_checkFromIndexSize_0 23 rfl rfl)
theorem dJ14_checkFromIndexSize_24 : decode cJ14_checkFromIndexSize 24 = .ok (.ireturn, 1) := dk_172 (dk_at dksJ14_checkFromIndexSize_1 0 rfl rfl)
abbrev cJ14_checkIndex : ByteArray := prog_71_method_11_code
def yJ14_checkIndex : MethodName := ⟨RJ14, "checkIndex", "(IILjava/util/function/BiFunction;)I"⟩
def dkwJ14_checkIndex_0 : List UInt8 := [26, 155, 0, 8, 26, 27, 161, 0, 10, 44, 26, 27, 184, 0, 95, 191, 26, 172]
abbrev dktJ14_checkIndex_0 : List UInt8 := dkwJ14_checkIndex_0 ++ []
theorem dksJ14_checkIndex_0 : cJ14_checkIndex.data.toList.drop 0 = dktJ14_checkIndex_0 := by decide +kernel
theorem dJ14_checkIndex_0 : decode cJ14_checkIndex 0 = .ok (.iload_n 0, 1) := dk_26 (dk_at dksJ14_checkIndex_0 0 rfl rfl)
theorem dJ14_checkIndex_1 : decode cJ14_checkIndex 1 = .ok (.ifCond .lt 8, 3) := dk_155 0 8 (dk_at dksJ14_checkIndex_0 1 rfl rfl)
theorem dJ14_checkIndex_4 : decode cJ14_checkIndex 4 = .ok (.iload_n 0, 1) := dk_26 (dk_at dksJ14_checkIndex_0 4 rfl rfl)
theorem dJ14_checkIndex_5 : decode cJ14_checkIndex 5 = .ok (.iload_n 1, 1) := dk_27 (dk_at dksJ14_checkIndex_0 5 rfl rfl)
theorem dJ14_checkIndex_6 : decode cJ14_checkIndex 6 = .ok (.if_icmp .lt 10, 3) := dk_161 0 10 (dk_at dksJ14_checkIndex_0 6 rfl rfl)
theorem dJ14_checkIndex_9 : decode cJ14_checkIndex 9 = .ok (.aload_n 2, 1) := dk_44 (dk_at dksJ14_checkIndex_0 9 rfl rfl)
theorem dJ14_checkIndex_10 : decode cJ14_checkIndex 10 = .ok (.iload_n 0, 1) := dk_26 (dk_at dksJ14_checkIndex_0 10 rfl rfl)
theorem dJ14_checkIndex_11 : decode cJ14_checkIndex 11 = .ok (.iload_n 1, 1) := dk_27 (dk_at dksJ14_checkIndex_0 11 rfl rfl)
theorem dJ14_checkIndex_12 : decode cJ14_checkIndex 12 = .ok (.invokestatic 95, 3) := dk_184 0 95 (dk_at dksJ14_checkIndex_0 12 rfl rfl)
theorem dJ14_checkIndex_15 : decode cJ14_checkIndex 15 = .ok (.athrow, 1) := dk_191 (dk_at dksJ14_checkIndex_0 15 rfl rfl)
theorem dJ14_checkIndex_16 : decode cJ14_checkIndex 16 = .ok (.iload_n 0, 1) := dk_26 (dk_at dksJ14_checkIndex_0 16 rfl rfl)
theorem dJ14_checkIndex_17 : decode cJ14_checkIndex 17 = .ok (.ireturn, 1) := dk_172 (dk_at dksJ14_checkIndex_0 17 rfl rfl)
theorem q79 : (Jvm.Cond.initialized "jdk/internal/util/Preconditions") ∈ lw_all := lw_g (lw_at lw_m1 17 rfl) rfl
theorem q282 : (Jvm.Cond.laysStatic "jdk/internal/util/Preconditions" "SIOOBE_FORMATTER" "Ljava/util/function/BiFunction;") ∈ lw_tbl := lw_at lw_m1 220 rfl
theorem q284 : (Jvm.Cond.static ({ cls := "jdk/internal/util/Preconditions", name := "checkFromToIndex", desc := "(IIILjava/util/function/BiFunction;)I" } : Jvm.MethodName)) ∈ lw_all := lw_g (lw_at lw_m1 222 rfl) rfl
theorem q285 : (Jvm.Cond.code ({ cls := "jdk/internal/util/Preconditions", name := "checkFromToIndex", desc := "(IIILjava/util/function/BiFunction;)I" } : Jvm.MethodName) prog_71_method_12_code (4 : Nat) (Option.some Jvm.ClassFile.FieldType.int)) ∈ lw_all := lw_g (lw_at lw_m1 223 rfl) rfl
theorem q330 : (Jvm.Cond.static ({ cls := "jdk/internal/util/Preconditions", name := "checkFromIndexSize", desc := "(IIILjava/util/function/BiFunction;)I" } : Jvm.MethodName)) ∈ lw_all := lw_g (lw_at lw_m2 28 rfl) rfl
theorem q331 : (Jvm.Cond.code ({ cls := "jdk/internal/util/Preconditions", name := "checkFromIndexSize", desc := "(IIILjava/util/function/BiFunction;)I" } : Jvm.MethodName) prog_71_method_13_code (4 : Nat) (Option.some Jvm.ClassFile.FieldType.int)) ∈ lw_all := lw_g (lw_at lw_m2 29 rfl) rfl
theorem q706 : (Jvm.Cond.static ({ cls := "jdk/internal/util/Preconditions", name := "checkIndex", desc := "(IILjava/util/function/BiFunction;)I" } : Jvm.MethodName)) ∈ lw_all := lw_g (lw_at lw_m3 164 rfl) rfl
theorem q707 : (Jvm.Cond.code ({ cls := "jdk/internal/util/Preconditions", name := "checkIndex", desc := "(IILjava/util/function/BiFunction;)I" } : Jvm.MethodName) prog_71_method_11_code (3 : Nat) (Option.some Jvm.ClassFile.FieldType.int)) ∈ lw_all := lw_g (lw_at lw_m3 165 rfl) rfl
/-! java/lang/StringLatin1 -/
set_option maxRecDepth 100000
def RJ15 : String := "java/lang/StringLatin1"
abbrev cJ15_inflate : ByteArray := prog_53_method_50_code
def yJ15_inflate : MethodName := ⟨RJ15, "inflate", "([BI[BII)V"⟩
def dkwJ15_inflate_0 : List UInt8 := [42, 27, 44, 29, 21, 4, 184, 0, 240, 177]
abbrev dktJ15_inflate_0 : List UInt8 := dkwJ15_inflate_0 ++ []
theorem dksJ15_inflate_0 : cJ15_inflate.data.toList.drop 0 = dktJ15_inflate_0 := by decide +kernel
theorem dJ15_inflate_0 : decode cJ15_inflate 0 = .ok (.aload_n 0, 1) := dk_42 (dk_at dksJ15_inflate_0 0 rfl rfl)
theorem dJ15_inflate_1 : decode cJ15_inflate 1 = .ok (.iload_n 1, 1) := dk_27 (dk_at dksJ15_inflate_0 1 rfl rfl)
theorem dJ15_inflate_2 : decode cJ15_inflate 2 = .ok (.aload_n 2, 1) := dk_44 (dk_at dksJ15_inflate_0 2 rfl rfl)
theorem dJ15_inflate_3 : decode cJ15_inflate 3 = .ok (.iload_n 3, 1) := dk_29 (dk_at dksJ15_inflate_0 3 rfl rfl)
theorem dJ15_inflate_4 : decode cJ15_inflate 4 = .ok (.iload 4, 2) := dk_21 4 (dk_at dksJ15_inflate_0 4 rfl rfl)
theorem dJ15_inflate_6 : decode cJ15_inflate 6 = .ok (.invokestatic 240, 3) := dk_184 0 240 (dk_at dksJ15_inflate_0 6 rfl rfl)
theorem dJ15_inflate_9 : decode cJ15_inflate 9 = .ok (.return_, 1) := dk_177 (dk_at dksJ15_inflate_0 9 rfl rfl)
abbrev cJ15_canEncode : ByteArray := prog_53_method_3_code
def yJ15_canEncode : MethodName := ⟨RJ15, "canEncode", "(C)Z"⟩
def dkwJ15_canEncode_0 : List UInt8 := [26, 17, 0, 255, 163, 0, 7, 4, 167, 0, 4, 3, 172]
abbrev dktJ15_canEncode_0 : List UInt8 := dkwJ15_canEncode_0 ++ []
theorem dksJ15_canEncode_0 : cJ15_canEncode.data.toList.drop 0 = dktJ15_canEncode_0 := by decide +kernel
theorem dJ15_canEncode_0 : decode cJ15_canEncode 0 = .ok (.iload_n 0, 1) := dk_26 (dk_at dksJ15_canEncode_0 0 rfl rfl)
theorem dJ15_canEncode_1 : decode cJ15_canEncode 1 = .ok (.sipush 255, 3) := dk_17 0 255 (dk_at dksJ15_canEncode_0 1 rfl rfl)
theorem dJ15_canEncode_4 : decode cJ15_canEncode 4 = .ok (.if_icmp .gt 7, 3) := dk_163 0 7 (dk_at dksJ15_canEncode_0 4 rfl rfl)
theorem dJ15_canEncode_7 : decode cJ15_canEncode 7 = .ok (.iconst 1, 1) := dk_4 (dk_at dksJ15_canEncode_0 7 rfl rfl)
theorem dJ15_canEncode_8 : decode cJ15_canEncode 8 = .ok (.goto 4, 3) := dk_167 0 4 (dk_at dksJ15_canEncode_0 8 rfl rfl)
theorem dJ15_canEncode_11 : decode cJ15_canEncode 11 = .ok (.iconst 0, 1) := dk_3 (dk_at dksJ15_canEncode_0 11 rfl rfl)
theorem dJ15_canEncode_12 : decode cJ15_canEncode 12 = .ok (.ireturn, 1) := dk_172 (dk_at dksJ15_canEncode_0 12 rfl rfl)
abbrev cJ15_equals : ByteArray := prog_53_method_13_code
def yJ15_equals : MethodName := ⟨RJ15, "equals", "([B[B)Z"⟩
def dkwJ15_equals_1 : List UInt8 := [3, 172, 132, 2, 1, 167, 255, 236, 4, 172, 3, 172]
abbrev dktJ15_equals_1 : List UInt8 := dkwJ15_equals_1 ++ []
def dkwJ15_equals_0 : List UInt8 := [42, 190, 43, 190, 160, 0, 30, 3, 61, 28, 42, 190, 162, 0, 20, 42, 28, 51, 43, 28, 51, 159, 0, 5]
abbrev dktJ15_equals_0 : List UInt8 := dkwJ15_equals_0 ++ dktJ15_equals_1
theorem dksJ15_equals_0 : cJ15_equals.data.toList.drop 0 = dktJ15_equals_0 := by decide +kernel
theorem dksJ15_equals_1 : cJ15_equals.data.toList.drop 24 = dktJ15_equals_1 := dk_seg dksJ15_equals_0 24 rfl rfl
theorem dJ15_equals_0 : decode cJ15_equals 0 = .ok (.aload_n 0, 1) := dk_42 (dk_at dksJ15_equals_0 0 rfl rfl)
theorem dJ15_equals_1 : decode cJ15_equals 1 = .ok (.arraylength, 1) := dk_190 (dk_at dksJ15_equals_0 1 rfl rfl)
theorem dJ15_equals_2 : decode cJ15_equals 2 = .ok (.aload_n 1, 1) := dk_43 (dk_at dksJ15_equals_0 2 rfl rfl)
theorem dJ15_equals_3 : decode cJ15_equals 3 = .ok (.arraylength, 1) := dk_190 (dk_at dksJ15_equals_0 3 rfl rfl)
theorem dJ15_equals_4 : decode cJ15_equals 4 = .ok (.if_icmp .ne 30, 3) := dk_160 0 30 (dk_at dksJ15_equals_0 4 rfl rfl)
theorem dJ15_equals_7 : decode cJ15_equals 7 = .ok (.iconst 0, 1) := dk_3 (dk_at dksJ15_equals_0 7 rfl rfl)
theorem dJ15_equals_8 : decode cJ15_equals 8 = .ok (.istore_n 2, 1) := dk_61 (dk_at dksJ15_equals_0 8 rfl rfl)
theorem dJ15_equals_9 : decode cJ15_equals 9 = .ok (.iload_n 2, 1) := dk_28 (dk_at dksJ15_equals_0 9 rfl rfl)
theorem dJ15_equals_10 : decode cJ15_equals 10 = .ok (.aload_n 0, 1) := dk_42 (dk_at dksJ15_equals_0 10 rfl rfl)
theorem dJ15_equals_11 : decode cJ15_equals 11 = .ok (.arraylength, 1) := dk_190 (dk_at dksJ15_equals_0 11 rfl rfl)
theorem dJ15_equals_12 : decode cJ15_equals 12 = .ok (.if_icmp .ge 20, 3) := dk_162 0 20 (dk_at dksJ15_equals_0 12 rfl rfl)
theorem dJ15_equals_15 : decode cJ15_equals 15 = .ok (.aload_n 0, 1) := dk_42 (dk_at dksJ15_equals_0 15 rfl rfl)
theorem dJ15_equals_16 : decode cJ15_equals 16 = .ok (.iload_n 2, 1) := dk_28 (dk_at dksJ15_equals_0 16 rfl rfl)
theorem dJ15_equals_17 : decode cJ15_equals 17 = .ok (.baload, 1) := dk_51 (dk_at dksJ15_equals_0 17 rfl rfl)
theorem dJ15_equals_18 : decode cJ15_equals 18 = .ok (.aload_n 1, 1) := dk_43 (dk_at dksJ15_equals_0 18 rfl rfl)
theorem dJ15_equals_19 : decode cJ15_equals 19 = .ok (.iload_n 2, 1) := dk_28 (dk_at dksJ15_equals_0 19 rfl rfl)
theorem dJ15_equals_20 : decode cJ15_equals 20 = .ok (.baload, 1) := dk_51 (dk_at dksJ15_equals_0 20 rfl rfl)
theorem dJ15_equals_21 : decode cJ15_equals 21 = .ok (.if_icmp .eq 5, 3) := dk_159 0 5 (dk_at dksJ15_equals_0 21 rfl rfl)
theorem dJ15_equals_24 : decode cJ15_equals 24 = .ok (.iconst 0, 1) := dk_3 (dk_at dksJ15_equals_1 0 rfl rfl)
theorem dJ15_equals_25 : decode cJ15_equals 25 = .ok (.ireturn, 1) := dk_172 (dk_at dksJ15_equals_1 1 rfl rfl)
theorem dJ15_equals_26 : decode cJ15_equals 26 = .ok (.iinc 2 1, 3) := dk_132 2 1 (dk_at dksJ15_equals_1 2 rfl rfl)
theorem dJ15_equals_29 : decode cJ15_equals 29 = .ok (.goto (-20), 3) := dk_167 255 236 (dk_at dksJ15_equals_1 5 rfl rfl)
theorem dJ15_equals_32 : decode cJ15_equals 32 = .ok (.iconst 1, 1) := dk_4 (dk_at dksJ15_equals_1 8 rfl rfl)
theorem dJ15_equals_33 : decode cJ15_equals 33 = .ok (.ireturn, 1) := dk_172 (dk_at dksJ15_equals_1 9 rfl rfl)
theorem dJ15_equals_34 : decode cJ15_equals 34 = .ok (.iconst 0, 1) := dk_3 (dk_at dksJ15_equals_1 10 rfl rfl)
theorem dJ15_equals_35 : decode cJ15_equals 35 = .ok (.ireturn, 1) := dk_172 (dk_at dksJ15_equals_1 11 rfl rfl)
abbrev cJ15_hashCode : ByteArray := prog_53_method_21_code
def yJ15_hashCode : MethodName := ⟨RJ15, "hashCode", "([B)I"⟩
def dkwJ15_hashCode_2 : List UInt8 := [3, 167, 0, 22, 42, 3, 51, 17, 0, 255, 126, 167, 0, 12, 42, 3, 42, 190, 3, 7, 184, 0, 84, 172]
abbrev dktJ15_hashCode_2 : List UInt8 := dkwJ15_hashCode_2 ++ []
def dkwJ15_hashCode_1 : List UInt8 := [171, 0, 0, 0, 0, 40, 0, 0, 0, 2, 0, 0, 0, 0, 0, 0, 0, 26, 0, 0, 0, 1, 0, 0, 0, 30]
abbrev dktJ15_hashCode_1 : List UInt8 := dkwJ15_hashCode_1 ++ dktJ15_hashCode_2
def dkwJ15_hashCode_0 : List UInt8 := [42, 190]
abbrev dktJ15_hashCode_0 : List UInt8 := dkwJ15_hashCode_0 ++ dktJ15_hashCode_1
theorem dksJ15_hashCode_0 : cJ15_hashCode.data.toList.drop 0 = dktJ15_hashCode_0 := by decide +kernel
theorem dksJ15_hashCode_1 : cJ15_hashCode.data.toList.drop 2 = dktJ15_hashCode_1 := dk_seg dksJ15_hashCode_0 2 rfl rfl
theorem dksJ15_hashCode_2 : cJ15_hashCode.data.toList.drop 28 = dktJ15_hashCode_2 := dk_seg dksJ15_hashCode_1 26 rfl rfl
theorem dJ15_hashCode_0 : decode cJ15_hashCode 0 = .ok (.aload_n 0, 1) := dk_42 (dk_at dksJ15_hashCode_0 0 rfl rfl)
theorem dJ15_hashCode_1 : decode cJ15_hashCode 1 = .ok (.arraylength, 1) := dk_190 (dk_at dksJ15_hashCode_0 1 rfl rfl)
theorem dJ15_hashCode_2 : decode cJ15_hashCode 2 = .ok (.lookupswitch 40 #[(0, 26), (1, 30)], 26) := by decide +kernel
theorem dJ15_hashCode_28 : decode cJ15_hashCode 28 = .ok (.iconst 0, 1) := dk_3 (dk_at dksJ15_hashCode_2 0 rfl rfl)
theorem dJ15_hashCode_29 : decode cJ15_hashCode 29 = .ok (.goto 22, 3) := dk_167 0 22 (dk_at dksJ15_hashCode_2 1 rfl rfl)
theorem dJ15_hashCode_32 : decode cJ15_hashCode 32 = .ok (.aload_n 0, 1) := dk_42 (dk_at dksJ15_hashCode_2 4 rfl rfl)
theorem dJ15_hashCode_33 : decode cJ15_hashCode 33 = .ok (.iconst 0, 1) := dk_3 (dk_at dksJ15_hashCode_2 5 rfl rfl)
theorem dJ15_hashCode_34 : decode cJ15_hashCode 34 = .ok (.baload, 1) := dk_51 (dk_at dksJ15_hashCode_2 6 rfl rfl)
theorem dJ15_hashCode_35 : decode cJ15_hashCode 35 = .ok (.sipush 255, 3) := dk_17 0 255 (dk_at dksJ15_hashCode_2 7 rfl rfl)
theorem dJ15_hashCode_38 : decode cJ15_hashCode 38 = .ok (.iand, 1) := dk_126 (dk_at dksJ15_hashCode_2 10 rfl rfl)
theorem dJ15_hashCode_39 : decode cJ15_hashCode 39 = .ok (.goto 12, 3) := dk_167 0 12 (dk_at dksJ15_hashCode_2 11 rfl rfl)
theorem dJ15_hashCode_42 : decode cJ15_hashCode 42 = .ok (.aload_n 0, 1) := dk_42 (dk_at dksJ15_hashCode_2 14 rfl rfl)
theorem dJ15_hashCode_43 : decode cJ15_hashCode 43 = .ok (.iconst 0, 1) := dk_3 (dk_at dksJ15_hashCode_2 15 rfl rfl)
theorem dJ15_hashCode_44 : decode cJ15_hashCode 44 = .ok (.aload_n 0, 1) := dk_42 (dk_at dksJ15_hashCode_2 16 rfl rfl)
theorem dJ15_hashCode_45 : decode cJ15_hashCode 45 = .ok (.arraylength, 1) := dk_190 (dk_at dksJ15_hashCode_2 17 rfl rfl)
theorem dJ15_hashCode_46 : decode cJ15_hashCode 46 = .ok (.iconst 0, 1) := dk_3 (dk_at dksJ15_hashCode_2 18 rfl rfl)
theorem dJ15_hashCode_47 : decode cJ15_hashCode 47 = .ok (.iconst 4, 1) := dk_7 (dk_at dksJ15_hashCode_2 19 rfl rfl)
theorem dJ15_hashCode_48 : decode cJ15_hashCode 48 = .ok (.invokestatic 84, 3) := dk_184 0 84 (dk_at dksJ15_hashCode_2 20 rfl rfl)
theorem dJ15_hashCode_51 : decode cJ15_hashCode 51 = .ok (.ireturn, 1) := dk_172 (dk_at dksJ15_hashCode_2 23 rfl rfl)
abbrev cJ15_charAt : ByteArray := prog_53_method_2_code
def yJ15_charAt : MethodName := ⟨RJ15, "charAt", "([BI)C"⟩
def dkwJ15_charAt_0 : List UInt8 := [27, 42, 190, 184, 0, 9, 42, 27, 51, 17, 0, 255, 126, 146, 172]
abbrev dktJ15_charAt_0 : List UInt8 := dkwJ15_charAt_0 ++ []
theorem dksJ15_charAt_0 : cJ15_charAt.data.toList.drop 0 = dktJ15_charAt_0 := by decide +kernel
theorem dJ15_charAt_0 : decode cJ15_charAt 0 = .ok (.iload_n 1, 1) := dk_27 (dk_at dksJ15_charAt_0 0 rfl rfl)
theorem dJ15_charAt_1 : decode cJ15_charAt 1 = .ok (.aload_n 0, 1) := dk_42 (dk_at dksJ15_charAt_0 1 rfl rfl)
theorem dJ15_charAt_2 : decode cJ15_charAt 2 = .ok (.arraylength, 1) := dk_190 (dk_at dksJ15_charAt_0 2 rfl rfl)
theorem dJ15_charAt_3 : decode cJ15_charAt 3 = .ok (.invokestatic 9, 3) := dk_184 0 9 (dk_at dksJ15_charAt_0 3 rfl rfl)
theorem dJ15_charAt_6 : decode cJ15_charAt 6 = .ok (.aload_n 0, 1) := dk_42 (dk_at dksJ15_charAt_0 6 rfl rfl)
theorem dJ15_charAt_7 : decode cJ15_charAt 7 = .ok (.iload_n 1, 1) := dk_27 (dk_at dksJ15_charAt_0 7 rfl rfl)
theorem dJ15_charAt_8 : decode cJ15_charAt 8 = .ok (.baload, 1) := dk_51 (dk_at dksJ15_charAt_0 8 rfl rfl)
theorem dJ15_charAt_9 : decode cJ15_charAt 9 = .ok (.sipush 255, 3) := dk_17 0 255 (dk_at dksJ15_charAt_0 9 rfl rfl)
theorem dJ15_charAt_12 : decode cJ15_charAt 12 = .ok (.iand, 1) := dk_126 (dk_at dksJ15_charAt_0 12 rfl rfl)
theorem dJ15_charAt_13 : decode cJ15_charAt 13 = .ok (.i2c, 1) := dk_146 (dk_at dksJ15_charAt_0 13 rfl rfl)
theorem dJ15_charAt_14 : decode cJ15_charAt 14 = .ok (.ireturn, 1) := dk_172 (dk_at dksJ15_charAt_0 14 rfl rfl)
theorem q80 : (Jvm.Cond.initialized "java/lang/StringLatin1") ∈ lw_all := lw_g (lw_at lw_m1 18 rfl) rfl
theorem q318 : (Jvm.Cond.static ({ cls := "java/lang/StringLatin1", name := "inflate", desc := "([BI[BII)V" } : Jvm.MethodName)) ∈ lw_all := lw_g (lw_at lw_m2 16 rfl) rfl
theorem q319 : (Jvm.Cond.code ({ cls := "java/lang/StringLatin1", name := "inflate", desc := "([BI[BII)V" } : Jvm.MethodName) prog_53_method_50_code (5 : Nat) (Option.none : Option Jvm.ClassFile.FieldType)) ∈ lw_all := lw_g (lw_at lw_m2 17 rfl) rfl
theorem q320 : (Jvm.Cond.methodLink "java/lang/StringLatin1" (240 : Nat) ({ cls := "java/lang/StringUTF16", name := "inflate", desc := "([BI[BII)V" } : Jvm.MethodName)) ∈ lw_all := lw_g (lw_at lw_m2 18 rfl) rfl
theorem q694 : (Jvm.Cond.static ({ cls := "java/lang/StringLatin1", name := "canEncode", desc := "(C)Z" } : Jvm.MethodName)) ∈ lw_all := lw_g (lw_at lw_m3 152 rfl) rfl
theorem q695 : (Jvm.Cond.code ({ cls := "java/lang/StringLatin1", name := "canEncode", desc := "(C)Z" } : Jvm.MethodName) prog_53_method_3_code (1 : Nat) (Option.some Jvm.ClassFile.FieldType.boolean)) ∈ lw_all := lw_g (lw_at lw_m3 153 rfl) rfl
theorem q789 : (Jvm.Cond.static ({ cls := "java/lang/StringLatin1", name := "equals", desc := "([B[B)Z" } : Jvm.MethodName)) ∈ lw_all := lw_g (lw_at lw_m4 7 rfl) rfl
theorem q790 : (Jvm.Cond.code ({ cls := "java/lang/StringLatin1", name := "equals", desc := "([B[B)Z" } : Jvm.MethodName) prog_53_method_13_code (3 : Nat) (Option.some Jvm.ClassFile.FieldType.boolean)) ∈ lw_all := lw_g (lw_at lw_m4 8 rfl) rfl
theorem q996 : (Jvm.Cond.static ({ cls := "java/lang/StringLatin1", name := "hashCode", desc := "([B)I" } : Jvm.MethodName)) ∈ lw_all := lw_g (lw_at lw_m4 214 rfl) rfl
theorem q997 : (Jvm.Cond.code ({ cls := "java/lang/StringLatin1", name := "hashCode", desc := "([B)I" } : Jvm.MethodName) prog_53_method_21_code (1 : Nat) (Option.some Jvm.ClassFile.FieldType.int)) ∈ lw_all := lw_g (lw_at lw_m4 215 rfl) rfl
theorem q998 : (Jvm.Cond.methodLink "java/lang/StringLatin1" (84 : Nat) ({ cls := "jdk/internal/util/ArraysSupport", name := "vectorizedHashCode", desc := "(Ljava/lang/Object;IIII)I" } : Jvm.MethodName)) ∈ lw_all := lw_g (lw_at lw_m4 216 rfl) rfl
theorem q1979 : (Jvm.Cond.static ({ cls := "java/lang/StringLatin1", name := "charAt", desc := "([BI)C" } : Jvm.MethodName)) ∈ lw_all := lw_g (lw_at lw_m8 237 rfl) rfl
theorem q1980 : (Jvm.Cond.code ({ cls := "java/lang/StringLatin1", name := "charAt", desc := "([BI)C" } : Jvm.MethodName) prog_53_method_2_code (2 : Nat) (Option.some Jvm.ClassFile.FieldType.char)) ∈ lw_all := lw_g (lw_at lw_m8 238 rfl) rfl
theorem q1981 : (Jvm.Cond.methodLink "java/lang/StringLatin1" (9 : Nat) ({ cls := "java/lang/String", name := "checkIndex", desc := "(II)V" } : Jvm.MethodName)) ∈ lw_all := lw_g (lw_at lw_m8 239 rfl) rfl
/-! java/lang/Integer -/
set_option maxRecDepth 100000
def RJ16 : String := "java/lang/Integer"
abbrev cJ16_stringSize : ByteArray := prog_46_method_13_code
def yJ16_stringSize : MethodName := ⟨RJ16, "stringSize", "(I)I"⟩
def dkwJ16_stringSize_1 : List UInt8 := [164, 0, 7, 29, 27, 96, 172, 16, 10, 28, 104, 61, 132, 3, 1, 167, 255, 233, 16, 10, 27, 96, 172]
abbrev dktJ16_stringSize_1 : List UInt8 := dkwJ16_stringSize_1 ++ []
def dkwJ16_stringSize_0 : List UInt8 := [4, 60, 26, 155, 0, 8, 3, 60, 26, 116, 59, 16, 246, 61, 4, 62, 29, 16, 10, 162, 0, 23, 26, 28]
abbrev dktJ16_stringSize_0 : List UInt8 := dkwJ16_stringSize_0 ++ dktJ16_stringSize_1
theorem dksJ16_stringSize_0 : cJ16_stringSize.data.toList.drop 0 = dktJ16_stringSize_0 := by decide +kernel
theorem dksJ16_stringSize_1 : cJ16_stringSize.data.toList.drop 24 = dktJ16_stringSize_1 := dk_seg dksJ16_stringSize_0 24 rfl rfl
theorem dJ16_stringSize_0 : decode cJ16_stringSize 0 = .ok (.iconst 1, 1) := dk_4 (dk_at dksJ16_stringSize_0 0 rfl rfl)
theorem dJ16_stringSize_1 : decode cJ16_stringSize 1 = .ok (.istore_n 1, 1) := dk_60 (dk_at dksJ16_stringSize_0 1 rfl rfl)
theorem dJ16_stringSize_2 : decode cJ16_stringSize 2 = .ok (.iload_n 0, 1) := dk_26 (dk_at dksJ16_stringSize_0 2 rfl rfl)
theorem dJ16_stringSize_3 : decode cJ16_stringSize 3 = .ok (.ifCond .lt 8, 3) := dk_155 0 8 (dk_at dksJ16_stringSize_0 3 rfl rfl)
theorem dJ16_stringSize_6 : decode cJ16_stringSize 6 = .ok (.iconst 0, 1) := dk_3 (dk_at dksJ16_stringSize_0 6 rfl rfl)
theorem dJ16_stringSize_7 : decode cJ16_stringSize 7 = .ok (.istore_n 1, 1) := dk_60 (dk_at dksJ16_stringSize_0 7 rfl rfl)
theorem dJ16_stringSize_8 : decode cJ16_stringSize 8 = .ok (.iload_n 0, 1) := dk_26 (dk_at dksJ16_stringSize_0 8 rfl rfl)
theorem dJ16_stringSize_9 : decode cJ16_stringSize 9 = .ok (.ineg, 1) := dk_116 (dk_at dksJ16_stringSize_0 9 rfl rfl)
theorem dJ16_stringSize_10 : decode cJ16_stringSize 10 = .ok (.istore_n 0, 1) := dk_59 (dk_at dksJ16_stringSize_0 10 rfl rfl)
theorem dJ16_stringSize_11 : decode cJ16_stringSize 11 = .ok (.bipush (-10), 2) := dk_16 246 (dk_at dksJ16_stringSize_0 11 rfl rfl)
theorem dJ16_stringSize_13 : decode cJ16_stringSize 13 = .ok (.istore_n 2, 1) := dk_61 (dk_at dksJ16_stringSize_0 13 rfl rfl)
theorem dJ16_stringSize_14 : decode cJ16_stringSize 14 = .ok (.iconst 1, 1) := dk_4 (dk_at dksJ16_stringSize_0 14 rfl rfl)
theorem dJ16_stringSize_15 : decode cJ16_stringSize 15 = .ok (.istore_n 3, 1) := dk_62 (dk_at dksJ16_stringSize_0 15 rfl rfl)
theorem dJ16_stringSize_16 : decode cJ16_stringSize 16 = .ok (.iload_n 3, 1) := dk_29 (dk_at dksJ16_stringSize_0 16 rfl rfl)
theorem dJ16_stringSize_17 : decode cJ16_stringSize 17 = .ok (.bipush 10, 2) := dk_16 10 (dk_at dksJ16_stringSize_0 17 rfl rfl)
theorem dJ16_stringSize_19 : decode cJ16_stringSize 19 = .ok (.if_icmp .ge 23, 3) := dk_162 0 23 (dk_at dksJ16_stringSize_0 19 rfl rfl)
theorem dJ16_stringSize_22 : decode cJ16_stringSize 22 = .ok (.iload_n 0, 1) := dk_26 (dk_at dksJ16_stringSize_0 22 rfl rfl)
theorem dJ16_stringSize_23 : decode cJ16_stringSize 23 = .ok (.iload_n 2, 1) := dk_28 (dk_at dksJ16_stringSize_0 23 rfl rfl)
theorem dJ16_stringSize_24 : decode cJ16_stringSize 24 = .ok (.if_icmp .le 7, 3) := dk_164 0 7 (dk_at dksJ16_stringSize_1 0 rfl rfl)
theorem dJ16_stringSize_27 : decode cJ16_stringSize 27 = .ok (.iload_n 3, 1) := dk_29 (dk_at dksJ16_stringSize_1 3 rfl rfl)
theorem dJ16_stringSize_28 : decode cJ16_stringSize 28 = .ok (.iload_n 1, 1) := dk_27 (dk_at dksJ16_stringSize_1 4 rfl rfl)
theorem dJ16_stringSize_29 : decode cJ16_stringSize 29 = .ok (.iadd, 1) := dk_96 (dk_at dksJ16_stringSize_1 5 rfl rfl)
theorem dJ16_stringSize_30 : decode cJ16_stringSize 30 = .ok (.ireturn, 1) := dk_172 (dk_at dksJ16_stringSize_1 6 rfl rfl)
theorem dJ16_stringSize_31 : decode cJ16_stringSize 31 = .ok (.bipush 10, 2) := dk_16 10 (dk_at dksJ16_stringSize_1 7 rfl rfl)
theorem dJ16_stringSize_33 : decode cJ16_stringSize 33 = .ok (.iload_n 2, 1) := dk_28 (dk_at dksJ16_stringSize_1 9 rfl rfl)
theorem dJ16_stringSize_34 : decode cJ16_stringSize 34 = .ok (.imul, 1) := dk_104 (dk_at dksJ16_stringSize_1 10 rfl rfl)
theorem dJ16_stringSize_35 : decode cJ16_stringSize 35 = .ok (.istore_n 2, 1) := dk_61 (dk_at dksJ16_stringSize_1 11 rfl rfl)
theorem dJ16_stringSize_36 : decode cJ16_stringSize 36 = .ok (.iinc 3 1, 3) := dk_132 3 1 (dk_at dksJ16_stringSize_1 12 rfl rfl)
theorem dJ16_stringSize_39 : decode cJ16_stringSize 39 = .ok (.goto (-23), 3) := dk_167 255 233 (dk_at dksJ16_stringSize_1 15 rfl rfl)
theorem dJ16_stringSize_42 : decode cJ16_stringSize 42 = .ok (.bipush 10, 2) := dk_16 10 (dk_at dksJ16_stringSize_1 18 rfl rfl)
theorem dJ16_stringSize_44 : decode cJ16_stringSize 44 = .ok (.iload_n 1, 1) := dk_27 (dk_at dksJ16_stringSize_1 20 rfl rfl)
theorem dJ16_stringSize_45 : decode cJ16_stringSize 45 = .ok (.iadd, 1) := dk_96 (dk_at dksJ16_stringSize_1 21 rfl rfl)
theorem dJ16_stringSize_46 : decode cJ16_stringSize 46 = .ok (.ireturn, 1) := dk_172 (dk_at dksJ16_stringSize_1 22 rfl rfl)
abbrev cJ16_getChars : ByteArray := prog_46_method_12_code
def yJ16_getChars : MethodName := ⟨RJ16, "getChars", "(II[B)I"⟩
def dkwJ16_getChars_5 : List UInt8 := [16, 45, 84, 21, 5, 172]
abbrev dktJ16_getChars_5 : List UInt8 := dkwJ16_getChars_5 ++ []
def dkwJ16_getChars_4 : List UInt8 := [132, 5, 255, 21, 5, 178, 0, 87, 26, 116, 51, 84, 21, 6, 153, 0, 12, 44, 132, 5, 255, 21, 5]
abbrev dktJ16_getChars_4 : List UInt8 := dkwJ16_getChars_4 ++ dktJ16_getChars_5
def dkwJ16_getChars_3 : List UInt8 := [167, 255, 209, 44, 132, 5, 255, 21, 5, 178, 0, 83, 26, 116, 51, 84, 26, 16, 247, 162, 0, 16, 44]
abbrev dktJ16_getChars_3 : List UInt8 := dkwJ16_getChars_3 ++ dktJ16_getChars_4
def dkwJ16_getChars_2 : List UInt8 := [21, 5, 178, 0, 83, 21, 4, 51, 84, 44, 132, 5, 255, 21, 5, 178, 0, 87, 21, 4, 51, 84]
abbrev dktJ16_getChars_2 : List UInt8 := dkwJ16_getChars_2 ++ dktJ16_getChars_3
def dkwJ16_getChars_1 : List UInt8 := [16, 156, 163, 0, 47, 26, 16, 100, 108, 62, 29, 16, 100, 104, 26, 100, 54, 4, 29, 59, 44, 132, 5, 255]
abbrev dktJ16_getChars_1 : List UInt8 := dkwJ16_getChars_1 ++ dktJ16_getChars_2
def dkwJ16_getChars_0 : List UInt8 := [27, 54, 5, 26, 156, 0, 7, 4, 167, 0, 4, 3, 54, 6, 21, 6, 154, 0, 6, 26, 116, 59, 26]
abbrev dktJ16_getChars_0 : List UInt8 := dkwJ16_getChars_0 ++ dktJ16_getChars_1
theorem dksJ16_getChars_0 : cJ16_getChars.data.toList.drop 0 = dktJ16_getChars_0 := by decide +kernel
theorem dksJ16_getChars_1 : cJ16_getChars.data.toList.drop 23 = dktJ16_getChars_1 := dk_seg dksJ16_getChars_0 23 rfl rfl
theorem dksJ16_getChars_2 : cJ16_getChars.data.toList.drop 47 = dktJ16_getChars_2 := dk_seg dksJ16_getChars_1 24 rfl rfl
theorem dksJ16_getChars_3 : cJ16_getChars.data.toList.drop 69 = dktJ16_getChars_3 := dk_seg dksJ16_getChars_2 22 rfl rfl
theorem dksJ16_getChars_4 : cJ16_getChars.data.toList.drop 92 = dktJ16_getChars_4 := dk_seg dksJ16_getChars_3 23 rfl rfl
theorem dksJ16_getChars_5 : cJ16_getChars.data.toList.drop 115 = dktJ16_getChars_5 := dk_seg dksJ16_getChars_4 23 rfl rfl
theorem dJ16_getChars_0 : decode cJ16_getChars 0 = .ok (.iload_n 1, 1) := dk_27 (dk_at dksJ16_getChars_0 0 rfl rfl)
theorem dJ16_getChars_1 : decode cJ16_getChars 1 = .ok (.istore 5, 2) := dk_54 5 (dk_at dksJ16_getChars_0 1 rfl rfl)
theorem dJ16_getChars_3 : decode cJ16_getChars 3 = .ok (.iload_n 0, 1) := dk_26 (dk_at dksJ16_getChars_0 3 rfl rfl)
theorem dJ16_getChars_4 : decode cJ16_getChars 4 = .ok (.ifCond .ge 7, 3) := dk_156 0 7 (dk_at dksJ16_getChars_0 4 rfl rfl)
theorem dJ16_getChars_7 : decode cJ16_getChars 7 = .ok (.iconst 1, 1) := dk_4 (dk_at dksJ16_getChars_0 7 rfl rfl)
theorem dJ16_getChars_8 : decode cJ16_getChars 8 = .ok (.goto 4, 3) := dk_167 0 4 (dk_at dksJ16_getChars_0 8 rfl rfl)
theorem dJ16_getChars_11 : decode cJ16_getChars 11 = .ok (.iconst 0, 1) := dk_3 (dk_at dksJ16_getChars_0 11 rfl rfl)
theorem dJ16_getChars_12 : decode cJ16_getChars 12 = .ok (.istore 6, 2) := dk_54 6 (dk_at dksJ16_getChars_0 12 rfl rfl)
theorem dJ16_getChars_14 : decode cJ16_getChars 14 = .ok (.iload 6, 2) := dk_21 6 (dk_at dksJ16_getChars_0 14 rfl rfl)
theorem dJ16_getChars_16 : decode cJ16_getChars 16 = .ok (.ifCond .ne 6, 3) := dk_154 0 6 (dk_at dksJ16_getChars_0 16 rfl rfl)
theorem dJ16_getChars_19 : decode cJ16_getChars 19 = .ok (.iload_n 0, 1) := dk_26 (dk_at dksJ16_getChars_0 19 rfl rfl)
theorem dJ16_getChars_20 : decode cJ16_getChars 20 = .ok (.ineg, 1) := dk_116 (dk_at dksJ16_getChars_0 20 rfl rfl)
theorem dJ16_getChars_21 : decode cJ16_getChars 21 = .ok (.istore_n 0, 1) := dk_59 (dk_at dksJ16_getChars_0 21 rfl rfl)
theorem dJ16_getChars_22 : decode cJ16_getChars 22 = .ok (.iload_n 0, 1) := dk_26 (dk_at dksJ16_getChars_0 22 rfl rfl)
theorem dJ16_getChars_23 : decode cJ16_getChars 23 = .ok (.bipush (-100), 2) := dk_16 156 (dk_at dksJ16_getChars_1 0 rfl rfl)
theorem dJ16_getChars_25 : decode cJ16_getChars 25 = .ok (.if_icmp .gt 47, 3) := dk_163 0 47 (dk_at dksJ16_getChars_1 2 rfl rfl)
theorem dJ16_getChars_28 : decode cJ16_getChars 28 = .ok (.iload_n 0, 1) := dk_26 (dk_at dksJ16_getChars_1 5 rfl rfl)
theorem dJ16_getChars_29 : decode cJ16_getChars 29 = .ok (.bipush 100, 2) := dk_16 100 (dk_at dksJ16_getChars_1 6 rfl rfl)
theorem dJ16_getChars_31 : decode cJ16_getChars 31 = .ok (.idiv, 1) := dk_108 (dk_at dksJ16_getChars_1 8 rfl rfl)
theorem dJ16_getChars_32 : decode cJ16_getChars 32 = .ok (.istore_n 3, 1) := dk_62 (dk_at dksJ16_getChars_1 9 rfl rfl)
theorem dJ16_getChars_33 : decode cJ16_getChars 33 = .ok (.iload_n 3, 1) := dk_29 (dk_at dksJ16_getChars_1 10 rfl rfl)
theorem dJ16_getChars_34 : decode cJ16_getChars 34 = .ok (.bipush 100, 2) := dk_16 100 (dk_at dksJ16_getChars_1 11 rfl rfl)
theorem dJ16_getChars_36 : decode cJ16_getChars 36 = .ok (.imul, 1) := dk_104 (dk_at dksJ16_getChars_1 13 rfl rfl)
theorem dJ16_getChars_37 : decode cJ16_getChars 37 = .ok (.iload_n 0, 1) := dk_26 (dk_at dksJ16_getChars_1 14 rfl rfl)
theorem dJ16_getChars_38 : decode cJ16_getChars 38 = .ok (.isub, 1) := dk_100 (dk_at dksJ16_getChars_1 15 rfl rfl)
theorem dJ16_getChars_39 : decode cJ16_getChars 39 = .ok (.istore 4, 2) := dk_54 4 (dk_at dksJ16_getChars_1 16 rfl rfl)
theorem dJ16_getChars_41 : decode cJ16_getChars 41 = .ok (.iload_n 3, 1) := dk_29 (dk_at dksJ16_getChars_1 18 rfl rfl)
theorem dJ16_getChars_42 : decode cJ16_getChars 42 = .ok (.istore_n 0, 1) := dk_59 (dk_at dksJ16_getChars_1 19 rfl rfl)
theorem dJ16_getChars_43 : decode cJ16_getChars 43 = .ok (.aload_n 2, 1) := dk_44 (dk_at dksJ16_getChars_1 20 rfl rfl)
theorem dJ16_getChars_44 : decode cJ16_getChars 44 = .ok (.iinc 5 (-1), 3) := dk_132 5 255 (dk_at dksJ16_getChars_1 21 rfl rfl)
theorem dJ16_getChars_47 : decode cJ16_getChars 47 = .ok (.iload 5, 2) := dk_21 5 (dk_at dksJ16_getChars_2 0 rfl rfl)
theorem dJ16_getChars_49 : decode cJ16_getChars 49 = .ok (.getstatic 83, 3) := dk_178 0 83 (dk_at dksJ16_getChars_2 2 rfl rfl)
theorem dJ16_getChars_52 : decode cJ16_getChars 52 = .ok (.iload 4, 2) := dk_21 4 (dk_at dksJ16_getChars_2 5 rfl rfl)
theorem dJ16_getChars_54 : decode cJ16_getChars 54 = .ok (.baload, 1) := dk_51 (dk_at dksJ16_getChars_2 7 rfl rfl)
theorem dJ16_getChars_55 : decode cJ16_getChars 55 = .ok (.bastore, 1) := dk_84 (dk_at dksJ16_getChars_2 8 rfl rfl)
theorem dJ16_getChars_56 : decode cJ16_getChars 56 = .ok (.aload_n 2, 1) := dk_44 (dk_at dksJ16_getChars_2 9 rfl rfl)
theorem dJ16_getChars_57 : decode cJ16_getChars 57 = .ok (.iinc 5 (-1), 3) := dk_132 5 255 (dk_at dksJ16_getChars_2 10 rfl rfl)
theorem dJ16_getChars_60 : decode cJ16_getChars 60 = .ok (.iload 5, 2) := dk_21 5 (dk_at dksJ16_getChars_2 13 rfl rfl)
theorem dJ16_getChars_62 : decode cJ16_getChars 62 = .ok (.getstatic 87, 3) := dk_178 0 87 (dk_at dksJ16_getChars_2 15 rfl rfl)
theorem dJ16_getChars_65 : decode cJ16_getChars 65 = .ok (.iload 4, 2) := dk_21 4 (dk_at dksJ16_getChars_2 18 rfl rfl)
theorem dJ16_getChars_67 : decode cJ16_getChars 67 = .ok (.baload, 1) := dk_51 (dk_at dksJ16_getChars_2 20 rfl rfl)
theorem dJ16_getChars_68 : decode cJ16_getChars 68 = .ok (.bastore, 1) := dk_84 (dk_at dksJ16_getChars_2 21 rfl rfl)
theorem dJ16_getChars_69 : decode cJ16_getChars 69 = .ok (.goto (-47), 3) := dk_167 255 209 (dk_at dksJ16_getChars_3 0 rfl rfl)
theorem dJ16_getChars_72 : decode cJ16_getChars 72 = .ok (.aload_n 2, 1) := dk_44 (dk_at dksJ16_getChars_3 3 rfl rfl)
theorem dJ16_getChars_73 : decode cJ16_getChars 73 = .ok (.iinc 5 (-1), 3) := dk_132 5 255 (dk_at dksJ16_getChars_3 4 rfl rfl)
theorem dJ16_getChars_76 : decode cJ16_getChars 76 = .ok (.iload 5, 2) := dk_21 5 (dk_at dksJ16_getChars_3 7 rfl rfl)
theorem dJ16_getChars_78 : decode cJ16_getChars 78 = .ok (.getstatic 83, 3) := dk_178 0 83 (dk_at dksJ16_getChars_3 9 rfl rfl)
theorem dJ16_getChars_81 : decode cJ16_getChars 81 = .ok (.iload_n 0, 1) := dk_26 (dk_at dksJ16_getChars_3 12 rfl rfl)
theorem dJ16_getChars_82 : decode cJ16_getChars 82 = .ok (.ineg, 1) := dk_116 (dk_at dksJ16_getChars_3 13 rfl rfl)
theorem dJ16_getChars_83 : decode cJ16_getChars 83 = .ok (.baload, 1) := dk_51 (dk_at dksJ16_getChars_3 14 rfl rfl)
theorem dJ16_getChars_84 : decode cJ16_getChars 84 = .ok (.bastore, 1) := dk_84 (dk_at dksJ16_getChars_3 15 rfl rfl)
theorem dJ16_getChars_85 : decode cJ16_getChars 85 = .ok (.iload_n 0, 1) := dk_26 (dk_at dksJ16_getChars_3 16 rfl rfl)
theorem dJ16_getChars_86 : decode cJ16_getChars 86 = .ok (.bipush (-9), 2) := dk_16 247 (dk_at dksJ16_getChars_3 17 rfl rfl)
theorem dJ16_getChars_88 : decode cJ16_getChars 88 = .ok (.if_icmp .ge 16, 3) := dk_162 0 16 (dk_at dksJ16_getChars_3 19 rfl rfl)
theorem dJ16_getChars_91 : decode cJ16_getChars 91 = .ok (.aload_n 2, 1) := dk_44 (dk_at dksJ16_getChars_3 22 rfl rfl)
theorem dJ16_getChars_92 : decode cJ16_getChars 92 = .ok (.iinc 5 (-1), 3) := dk_132 5 255 (dk_at dksJ16_getChars_4 0 rfl rfl)
theorem dJ16_getChars_95 : decode cJ16_getChars 95 = .ok (.iload 5, 2) := dk_21 5 (dk_at dksJ16_getChars_4 3 rfl rfl)
theorem dJ16_getChars_97 : decode cJ16_getChars 97 = .ok (.getstatic 87, 3) := dk_178 0 87 (dk_at dksJ16_getChars_4 5 rfl rfl)
theorem dJ16_getChars_100 : decode cJ16_getChars 100 = .ok (.iload_n 0, 1) := dk_26 (dk_at dksJ16_getChars_4 8 rfl rfl)
theorem dJ16_getChars_101 : decode cJ16_getChars 101 = .ok (.ineg, 1) := dk_116 (dk_at dksJ16_getChars_4 9 rfl rfl)
theorem dJ16_getChars_102 : decode cJ16_getChars 102 = .ok (.baload, 1) := dk_51 (dk_at dksJ16_getChars_4 10 rfl rfl)
theorem dJ16_getChars_103 : decode cJ16_getChars 103 = .ok (.bastore, 1) := dk_84 (dk_at dksJ16_getChars_4 11 rfl rfl)
theorem dJ16_getChars_104 : decode cJ16_getChars 104 = .ok (.iload 6, 2) := dk_21 6 (dk_at dksJ16_getChars_4 12 rfl rfl)
theorem dJ16_getChars_106 : decode cJ16_getChars 106 = .ok (.ifCond .eq 12, 3) := dk_153 0 12 (dk_at dksJ16_getChars_4 14 rfl rfl)
theorem dJ16_getChars_109 : decode cJ16_getChars 109 = .ok (.aload_n 2, 1) := dk_44 (dk_at dksJ16_getChars_4 17 rfl rfl)
theorem dJ16_getChars_110 : decode cJ16_getChars 110 = .ok (.iinc 5 (-1), 3) := dk_132 5 255 (dk_at dksJ16_getChars_4 18 rfl rfl)
theorem dJ16_getChars_113 : decode cJ16_getChars 113 = .ok (.iload 5, 2) := dk_21 5 (dk_at dksJ16_getChars_4 21 rfl rfl)
theorem dJ16_getChars_115 : decode cJ16_getChars 115 = .ok (.bipush 45, 2) := dk_16 45 (dk_at dksJ16_getChars_5 0 rfl rfl)
theorem dJ16_getChars_117 : decode cJ16_getChars 117 = .ok (.bastore, 1) := dk_84 (dk_at dksJ16_getChars_5 2 rfl rfl)
theorem dJ16_getChars_118 : decode cJ16_getChars 118 = .ok (.iload 5, 2) := dk_21 5 (dk_at dksJ16_getChars_5 3 rfl rfl)
theorem dJ16_getChars_120 : decode cJ16_getChars 120 = .ok (.ireturn, 1) := dk_172 (dk_at dksJ16_getChars_5 5 rfl rfl)
theorem q82 : (Jvm.Cond.initialized "java/lang/Integer") ∈ lw_all := lw_g (lw_at lw_m1 20 rfl) rfl
theorem q346 : (Jvm.Cond.static ({ cls := "java/lang/Integer", name := "stringSize", desc := "(I)I" } : Jvm.MethodName)) ∈ lw_all := lw_g (lw_at lw_m2 44 rfl) rfl
theorem q347 : (Jvm.Cond.code ({ cls := "java/lang/Integer", name := "stringSize", desc := "(I)I" } : Jvm.MethodName) prog_46_method_13_code (4 : Nat) (Option.some Jvm.ClassFile.FieldType.int)) ∈ lw_all := lw_g (lw_at lw_m2 45 rfl) rfl
theorem q349 : (Jvm.Cond.static ({ cls := "java/lang/Integer", name := "getChars", desc := "(II[B)I" } : Jvm.MethodName)) ∈ lw_all := lw_g (lw_at lw_m2 47 rfl) rfl
theorem q350 : (Jvm.Cond.code ({ cls := "java/lang/Integer", name := "getChars", desc := "(II[B)I" } : Jvm.MethodName) prog_46_method_12_code (7 : Nat) (Option.some Jvm.ClassFile.FieldType.int)) ∈ lw_all := lw_g (lw_at lw_m2 48 rfl) rfl
theorem q351 : (Jvm.Cond.fieldLink "java/lang/Integer" (83 : Nat) "java/lang/Integer" "DigitOnes" "[B") ∈ lw_all := lw_g (lw_at lw_m2 49 rfl) rfl
theorem q352 : (Jvm.Cond.laysStatic "java/lang/Integer" "DigitOnes" "[B") ∈ lw_tbl := lw_at lw_m2 50 rfl
theorem q353 : (Jvm.Cond.fieldLink "java/lang/Integer" (87 : Nat) "java/lang/Integer" "DigitTens" "[B") ∈ lw_all := lw_g (lw_at lw_m2 51 rfl) rfl
theorem q354 : (Jvm.Cond.laysStatic "java/lang/Integer" "DigitTens" "[B") ∈ lw_tbl := lw_at lw_m2 52 rfl
/-! java/lang/IllegalStateException -/
set_option maxRecDepth 100000
def RJ17 : String := "java/lang/IllegalStateException"
def TJ17 : u_T := fun k => match k with
  | 0 => ("java/lang/Throwable", "cause", "Ljava/lang/Throwable;", false)
  | 1 => ("java/lang/Throwable", "stackTrace", "[Ljava/lang/StackTraceElement;", false)
  | 2 => ("java/lang/Throwable", "suppressedExceptions", "Ljava/util/List;", false)
  | 3 => ("java/lang/Throwable", "detailMessage", "Ljava/lang/String;", false)
  | 4 => ("java/lang/Throwable", "backtrace", "Ljava/lang/Object;", false)
  | _ => ("java/lang/Throwable", "depth", "I", false)
def tyJ17 : Nat → FieldType := fun k => match k with
  | 0 => .object "java/lang/Throwable"
  | 1 => .array (.object "java/lang/StackTraceElement")
  | 2 => .object "java/util/List"
  | 3 => .object "java/lang/String"
  | 4 => .object "java/lang/Object"
  | _ => .int
abbrev wsJ170 : List Cond := u_ws RJ17 TJ17 6
theorem nmJ17 : ∀ a, a < 6 → ∀ b, b < 6 → a ≠ b → (TJ17 a).2.1 ≠ (TJ17 b).2.1 := by decide +kernel
theorem tyJ17_ok : ∀ k, k < 6 → parseFieldDescriptor (TJ17 k).2.2.1 = some (tyJ17 k) := by decide +kernel
abbrev cJ17_init : ByteArray := prog_44_method_1_code
def yJ17_init : MethodName := ⟨RJ17, "<init>", "()V"⟩
theorem dJ17_init_0 : decode cJ17_init 0 = .ok (.aload_n 0, 1) := by decide +kernel
theorem dJ17_init_1 : decode cJ17_init 1 = .ok (.invokespecial 1, 3) := by decide +kernel
theorem dJ17_init_4 : decode cJ17_init 4 = .ok (.return_, 1) := by decide +kernel
theorem q86 : (Jvm.Cond.initialized "java/lang/IllegalStateException") ∈ lw_all := lw_g (lw_at lw_m1 24 rfl) rfl
theorem q177 : (Jvm.Cond.selects "java/lang/IllegalStateException" ({ cls := "java/lang/Throwable", name := "fillInStackTrace", desc := "()Ljava/lang/Throwable;" } : Jvm.MethodName) ({ cls := "java/lang/Throwable", name := "fillInStackTrace", desc := "()Ljava/lang/Throwable;" } : Jvm.MethodName)) ∈ lw_all := lw_g (lw_at lw_m1 115 rfl) rfl
theorem q644 : (Jvm.Cond.instantiable "java/lang/IllegalStateException" (6 : Nat)) ∈ lw_all := lw_g (lw_at lw_m3 102 rfl) rfl
theorem q645 : (Jvm.Cond.castable "java/lang/IllegalStateException" "java/lang/IllegalStateException") ∈ lw_tbl := lw_at lw_m3 103 rfl
theorem q646 : (Jvm.Cond.selects "java/lang/IllegalStateException" ({ cls := "java/lang/Throwable", name := "fillInStackTrace", desc := "(I)Ljava/lang/Throwable;" } : Jvm.MethodName) ({ cls := "java/lang/Throwable", name := "fillInStackTrace", desc := "(I)Ljava/lang/Throwable;" } : Jvm.MethodName)) ∈ lw_all := lw_g (lw_at lw_m3 104 rfl) rfl
theorem q647 : (Jvm.Cond.lays "java/lang/IllegalStateException" "java/lang/Throwable" "cause" "Ljava/lang/Throwable;") ∈ lw_all := lw_g (lw_at lw_m3 105 rfl) rfl
theorem q648 : (Jvm.Cond.lays "java/lang/IllegalStateException" "java/lang/Throwable" "stackTrace" "[Ljava/lang/StackTraceElement;") ∈ lw_all := lw_g (lw_at lw_m3 106 rfl) rfl
theorem q649 : (Jvm.Cond.lays "java/lang/IllegalStateException" "java/lang/Throwable" "suppressedExceptions" "Ljava/util/List;") ∈ lw_all := lw_g (lw_at lw_m3 107 rfl) rfl
theorem q650 : (Jvm.Cond.lays "java/lang/IllegalStateException" "java/lang/Throwable" "detailMessage" "Ljava/lang/String;") ∈ lw_all := lw_g (lw_at lw_m3 108 rfl) rfl
theorem q651 : (Jvm.Cond.lays "java/lang/IllegalStateException" "java/lang/Throwable" "backtrace" "Ljava/lang/Object;") ∈ lw_all := lw_g (lw_at lw_m3 109 rfl) rfl
theorem q653 : (Jvm.Cond.instanceMethod ({ cls := "java/lang/IllegalStateException", name := "<init>", desc := "()V" } : Jvm.MethodName)) ∈ lw_all := lw_g (lw_at lw_m3 111 rfl) rfl
theorem q654 : (Jvm.Cond.code ({ cls := "java/lang/IllegalStateException", name := "<init>", desc := "()V" } : Jvm.MethodName) prog_44_method_1_code (1 : Nat) (Option.none : Option Jvm.ClassFile.FieldType)) ∈ lw_all := lw_g (lw_at lw_m3 112 rfl) rfl
theorem q655 : (Jvm.Cond.methodLink "java/lang/IllegalStateException" (1 : Nat) ({ cls := "java/lang/RuntimeException", name := "<init>", desc := "()V" } : Jvm.MethodName)) ∈ lw_all := lw_g (lw_at lw_m3 113 rfl) rfl
theorem q656 : (Jvm.Cond.lays "java/lang/IllegalStateException" "java/lang/Throwable" "depth" "I") ∈ lw_all := lw_g (lw_at lw_m3 114 rfl) rfl
theorem q657 : (Jvm.Cond.superclass "java/lang/IllegalStateException" "java/lang/RuntimeException") ∈ lw_all := lw_g (lw_at lw_m3 115 rfl) rfl
theorem q1179 : (Jvm.Cond.selects "java/lang/IllegalStateException" ({ cls := "java/lang/Object", name := "getClass", desc := "()Ljava/lang/Class;" } : Jvm.MethodName) ({ cls := "java/lang/Object", name := "getClass", desc := "()Ljava/lang/Class;" } : Jvm.MethodName)) ∈ lw_all := lw_g (lw_at lw_m5 157 rfl) rfl
theorem q2261 : (Jvm.Cond.castable "java/lang/IllegalStateException" "java/lang/Object") ∈ lw_tbl := lw_at lw_m10 39 rfl
theorem in_J17 : ∀ w ∈ wsJ170, w ∈ lw_all := lw_in wsJ170 [647, 648, 649, 650, 651, 656] (by decide +kernel) (by decide +kernel)
/-! java/lang/IndexOutOfBoundsException -/
set_option maxRecDepth 100000
def RJ18 : String := "java/lang/IndexOutOfBoundsException"
def TJ18 : u_T := fun k => match k with
  | 0 => ("java/lang/Throwable", "cause", "Ljava/lang/Throwable;", false)
  | 1 => ("java/lang/Throwable", "stackTrace", "[Ljava/lang/StackTraceElement;", false)
  | 2 => ("java/lang/Throwable", "suppressedExceptions", "Ljava/util/List;", false)
  | 3 => ("java/lang/Throwable", "detailMessage", "Ljava/lang/String;", false)
  | 4 => ("java/lang/Throwable", "backtrace", "Ljava/lang/Object;", false)
  | _ => ("java/lang/Throwable", "depth", "I", false)
def tyJ18 : Nat → FieldType := fun k => match k with
  | 0 => .object "java/lang/Throwable"
  | 1 => .array (.object "java/lang/StackTraceElement")
  | 2 => .object "java/util/List"
  | 3 => .object "java/lang/String"
  | 4 => .object "java/lang/Object"
  | _ => .int
abbrev wsJ180 : List Cond := u_ws RJ18 TJ18 6
theorem nmJ18 : ∀ a, a < 6 → ∀ b, b < 6 → a ≠ b → (TJ18 a).2.1 ≠ (TJ18 b).2.1 := by decide +kernel
theorem tyJ18_ok : ∀ k, k < 6 → parseFieldDescriptor (TJ18 k).2.2.1 = some (tyJ18 k) := by decide +kernel
abbrev cJ18_init : ByteArray := prog_45_method_2_code
def yJ18_init : MethodName := ⟨RJ18, "<init>", "(Ljava/lang/String;)V"⟩
def dkwJ18_init_0 : List UInt8 := [42, 43, 183, 0, 7, 177]
abbrev dktJ18_init_0 : List UInt8 := dkwJ18_init_0 ++ []
theorem dksJ18_init_0 : cJ18_init.data.toList.drop 0 = dktJ18_init_0 := by decide +kernel
theorem dJ18_init_0 : decode cJ18_init 0 = .ok (.aload_n 0, 1) := dk_42 (dk_at dksJ18_init_0 0 rfl rfl)
theorem dJ18_init_1 : decode cJ18_init 1 = .ok (.aload_n 1, 1) := dk_43 (dk_at dksJ18_init_0 1 rfl rfl)
theorem dJ18_init_2 : decode cJ18_init 2 = .ok (.invokespecial 7, 3) := dk_183 0 7 (dk_at dksJ18_init_0 2 rfl rfl)
theorem dJ18_init_5 : decode cJ18_init 5 = .ok (.return_, 1) := dk_177 (dk_at dksJ18_init_0 5 rfl rfl)
abbrev cJ18_init_2 : ByteArray := prog_45_method_1_code
def yJ18_init_2 : MethodName := ⟨RJ18, "<init>", "()V"⟩
theorem dJ18_init_2_0 : decode cJ18_init_2 0 = .ok (.aload_n 0, 1) := by decide +kernel
theorem dJ18_init_2_1 : decode cJ18_init_2 1 = .ok (.invokespecial 1, 3) := by decide +kernel
theorem dJ18_init_2_4 : decode cJ18_init_2 4 = .ok (.return_, 1) := by decide +kernel
theorem q107 : (Jvm.Cond.initialized "java/lang/IndexOutOfBoundsException") ∈ lw_all := lw_g (lw_at lw_m1 45 rfl) rfl
theorem q178 : (Jvm.Cond.selects "java/lang/IndexOutOfBoundsException" ({ cls := "java/lang/Throwable", name := "fillInStackTrace", desc := "()Ljava/lang/Throwable;" } : Jvm.MethodName) ({ cls := "java/lang/Throwable", name := "fillInStackTrace", desc := "()Ljava/lang/Throwable;" } : Jvm.MethodName)) ∈ lw_all := lw_g (lw_at lw_m1 116 rfl) rfl
theorem q1180 : (Jvm.Cond.selects "java/lang/IndexOutOfBoundsException" ({ cls := "java/lang/Object", name := "getClass", desc := "()Ljava/lang/Class;" } : Jvm.MethodName) ({ cls := "java/lang/Object", name := "getClass", desc := "()Ljava/lang/Class;" } : Jvm.MethodName)) ∈ lw_all := lw_g (lw_at lw_m5 158 rfl) rfl
theorem q1225 : (Jvm.Cond.instanceMethod ({ cls := "java/lang/IndexOutOfBoundsException", name := "<init>", desc := "(Ljava/lang/String;)V" } : Jvm.MethodName)) ∈ lw_all := lw_g (lw_at lw_m5 203 rfl) rfl
theorem q1226 : (Jvm.Cond.code ({ cls := "java/lang/IndexOutOfBoundsException", name := "<init>", desc := "(Ljava/lang/String;)V" } : Jvm.MethodName) prog_45_method_2_code (2 : Nat) (Option.none : Option Jvm.ClassFile.FieldType)) ∈ lw_all := lw_g (lw_at lw_m5 204 rfl) rfl
theorem q1227 : (Jvm.Cond.methodLink "java/lang/IndexOutOfBoundsException" (7 : Nat) ({ cls := "java/lang/RuntimeException", name := "<init>", desc := "(Ljava/lang/String;)V" } : Jvm.MethodName)) ∈ lw_all := lw_g (lw_at lw_m5 205 rfl) rfl
theorem q1236 : (Jvm.Cond.declares ({ cls := "java/lang/IndexOutOfBoundsException", name := "<init>", desc := "()V" } : Jvm.MethodName)) ∈ lw_tbl := lw_at lw_m5 214 rfl
theorem q1237 : (Jvm.Cond.declares ({ cls := "java/lang/IndexOutOfBoundsException", name := "<init>", desc := "(Ljava/lang/String;)V" } : Jvm.MethodName)) ∈ lw_tbl := lw_at lw_m5 215 rfl
theorem q1247 : (Jvm.Cond.instantiable "java/lang/IndexOutOfBoundsException" (6 : Nat)) ∈ lw_all := lw_g (lw_at lw_m5 225 rfl) rfl
theorem q1248 : (Jvm.Cond.castable "java/lang/IndexOutOfBoundsException" "java/lang/IndexOutOfBoundsException") ∈ lw_tbl := lw_at lw_m5 226 rfl
theorem q1249 : (Jvm.Cond.selects "java/lang/IndexOutOfBoundsException" ({ cls := "java/lang/Throwable", name := "fillInStackTrace", desc := "(I)Ljava/lang/Throwable;" } : Jvm.MethodName) ({ cls := "java/lang/Throwable", name := "fillInStackTrace", desc := "(I)Ljava/lang/Throwable;" } : Jvm.MethodName)) ∈ lw_all := lw_g (lw_at lw_m5 227 rfl) rfl
theorem q1250 : (Jvm.Cond.lays "java/lang/IndexOutOfBoundsException" "java/lang/Throwable" "cause" "Ljava/lang/Throwable;") ∈ lw_all := lw_g (lw_at lw_m5 228 rfl) rfl
theorem q1251 : (Jvm.Cond.lays "java/lang/IndexOutOfBoundsException" "java/lang/Throwable" "stackTrace" "[Ljava/lang/StackTraceElement;") ∈ lw_all := lw_g (lw_at lw_m5 229 rfl) rfl
theorem q1252 : (Jvm.Cond.lays "java/lang/IndexOutOfBoundsException" "java/lang/Throwable" "suppressedExceptions" "Ljava/util/List;") ∈ lw_all := lw_g (lw_at lw_m5 230 rfl) rfl
theorem q1253 : (Jvm.Cond.lays "java/lang/IndexOutOfBoundsException" "java/lang/Throwable" "detailMessage" "Ljava/lang/String;") ∈ lw_all := lw_g (lw_at lw_m5 231 rfl) rfl
theorem q1254 : (Jvm.Cond.lays "java/lang/IndexOutOfBoundsException" "java/lang/Throwable" "backtrace" "Ljava/lang/Object;") ∈ lw_all := lw_g (lw_at lw_m5 232 rfl) rfl
theorem q1256 : (Jvm.Cond.instanceMethod ({ cls := "java/lang/IndexOutOfBoundsException", name := "<init>", desc := "()V" } : Jvm.MethodName)) ∈ lw_all := lw_g (lw_at lw_m5 234 rfl) rfl
theorem q1257 : (Jvm.Cond.code ({ cls := "java/lang/IndexOutOfBoundsException", name := "<init>", desc := "()V" } : Jvm.MethodName) prog_45_method_1_code (1 : Nat) (Option.none : Option Jvm.ClassFile.FieldType)) ∈ lw_all := lw_g (lw_at lw_m5 235 rfl) rfl
theorem q1258 : (Jvm.Cond.methodLink "java/lang/IndexOutOfBoundsException" (1 : Nat) ({ cls := "java/lang/RuntimeException", name := "<init>", desc := "()V" } : Jvm.MethodName)) ∈ lw_all := lw_g (lw_at lw_m5 236 rfl) rfl
theorem q1259 : (Jvm.Cond.lays "java/lang/IndexOutOfBoundsException" "java/lang/Throwable" "depth" "I") ∈ lw_all := lw_g (lw_at lw_m5 237 rfl) rfl
theorem q1260 : (Jvm.Cond.superclass "java/lang/IndexOutOfBoundsException" "java/lang/RuntimeException") ∈ lw_all := lw_g (lw_at lw_m5 238 rfl) rfl
theorem q2282 : (Jvm.Cond.castable "java/lang/IndexOutOfBoundsException" "java/lang/Object") ∈ lw_tbl := lw_at lw_m10 60 rfl
theorem in_J18 : ∀ w ∈ wsJ180, w ∈ lw_all := lw_in wsJ180 [1250, 1251, 1252, 1253, 1254, 1259] (by decide +kernel) (by decide +kernel)
/-! java/lang/ArrayIndexOutOfBoundsException -/
set_option maxRecDepth 100000
def RJ19 : String := "java/lang/ArrayIndexOutOfBoundsException"
def TJ19 : u_T := fun k => match k with
  | 0 => ("java/lang/Throwable", "backtrace", "Ljava/lang/Object;", false)
  | 1 => ("java/lang/Throwable", "detailMessage", "Ljava/lang/String;", false)
  | 2 => ("java/lang/Throwable", "cause", "Ljava/lang/Throwable;", false)
  | 3 => ("java/lang/Throwable", "stackTrace", "[Ljava/lang/StackTraceElement;", false)
  | 4 => ("java/lang/Throwable", "depth", "I", false)
  | _ => ("java/lang/Throwable", "suppressedExceptions", "Ljava/util/List;", false)
def tyJ19 : Nat → FieldType := fun k => match k with
  | 0 => .object "java/lang/Object"
  | 1 => .object "java/lang/String"
  | 2 => .object "java/lang/Throwable"
  | 3 => .array (.object "java/lang/StackTraceElement")
  | 4 => .int
  | _ => .object "java/util/List"
abbrev wsJ190 : List Cond := u_ws RJ19 TJ19 6
theorem nmJ19 : ∀ a, a < 6 → ∀ b, b < 6 → a ≠ b → (TJ19 a).2.1 ≠ (TJ19 b).2.1 := by decide +kernel
theorem tyJ19_ok : ∀ k, k < 6 → parseFieldDescriptor (TJ19 k).2.2.1 = some (tyJ19 k) := by decide +kernel
abbrev cJ19_init : ByteArray := prog_37_method_2_code
def yJ19_init : MethodName := ⟨RJ19, "<init>", "(Ljava/lang/String;)V"⟩
def dkwJ19_init_0 : List UInt8 := [42, 43, 183, 0, 7, 177]
abbrev dktJ19_init_0 : List UInt8 := dkwJ19_init_0 ++ []
theorem dksJ19_init_0 : cJ19_init.data.toList.drop 0 = dktJ19_init_0 := by decide +kernel
theorem dJ19_init_0 : decode cJ19_init 0 = .ok (.aload_n 0, 1) := dk_42 (dk_at dksJ19_init_0 0 rfl rfl)
theorem dJ19_init_1 : decode cJ19_init 1 = .ok (.aload_n 1, 1) := dk_43 (dk_at dksJ19_init_0 1 rfl rfl)
theorem dJ19_init_2 : decode cJ19_init 2 = .ok (.invokespecial 7, 3) := dk_183 0 7 (dk_at dksJ19_init_0 2 rfl rfl)
theorem dJ19_init_5 : decode cJ19_init 5 = .ok (.return_, 1) := dk_177 (dk_at dksJ19_init_0 5 rfl rfl)
theorem q108 : (Jvm.Cond.initialized "java/lang/ArrayIndexOutOfBoundsException") ∈ lw_all := lw_g (lw_at lw_m1 46 rfl) rfl
theorem q176 : (Jvm.Cond.selects "java/lang/ArrayIndexOutOfBoundsException" ({ cls := "java/lang/Throwable", name := "fillInStackTrace", desc := "()Ljava/lang/Throwable;" } : Jvm.MethodName) ({ cls := "java/lang/Throwable", name := "fillInStackTrace", desc := "()Ljava/lang/Throwable;" } : Jvm.MethodName)) ∈ lw_all := lw_g (lw_at lw_m1 114 rfl) rfl
theorem q1177 : (Jvm.Cond.selects "java/lang/ArrayIndexOutOfBoundsException" ({ cls := "java/lang/Object", name := "getClass", desc := "()Ljava/lang/Class;" } : Jvm.MethodName) ({ cls := "java/lang/Object", name := "getClass", desc := "()Ljava/lang/Class;" } : Jvm.MethodName)) ∈ lw_all := lw_g (lw_at lw_m5 155 rfl) rfl
theorem q1221 : (Jvm.Cond.instantiable "java/lang/ArrayIndexOutOfBoundsException" (6 : Nat)) ∈ lw_all := lw_g (lw_at lw_m5 199 rfl) rfl
theorem q1222 : (Jvm.Cond.instanceMethod ({ cls := "java/lang/ArrayIndexOutOfBoundsException", name := "<init>", desc := "(Ljava/lang/String;)V" } : Jvm.MethodName)) ∈ lw_all := lw_g (lw_at lw_m5 200 rfl) rfl
theorem q1223 : (Jvm.Cond.code ({ cls := "java/lang/ArrayIndexOutOfBoundsException", name := "<init>", desc := "(Ljava/lang/String;)V" } : Jvm.MethodName) prog_37_method_2_code (2 : Nat) (Option.none : Option Jvm.ClassFile.FieldType)) ∈ lw_all := lw_g (lw_at lw_m5 201 rfl) rfl
theorem q1224 : (Jvm.Cond.methodLink "java/lang/ArrayIndexOutOfBoundsException" (7 : Nat) ({ cls := "java/lang/IndexOutOfBoundsException", name := "<init>", desc := "(Ljava/lang/String;)V" } : Jvm.MethodName)) ∈ lw_all := lw_g (lw_at lw_m5 202 rfl) rfl
theorem q1228 : (Jvm.Cond.lays "java/lang/ArrayIndexOutOfBoundsException" "java/lang/Throwable" "backtrace" "Ljava/lang/Object;") ∈ lw_all := lw_g (lw_at lw_m5 206 rfl) rfl
theorem q1229 : (Jvm.Cond.lays "java/lang/ArrayIndexOutOfBoundsException" "java/lang/Throwable" "detailMessage" "Ljava/lang/String;") ∈ lw_all := lw_g (lw_at lw_m5 207 rfl) rfl
theorem q1230 : (Jvm.Cond.lays "java/lang/ArrayIndexOutOfBoundsException" "java/lang/Throwable" "cause" "Ljava/lang/Throwable;") ∈ lw_all := lw_g (lw_at lw_m5 208 rfl) rfl
theorem q1231 : (Jvm.Cond.lays "java/lang/ArrayIndexOutOfBoundsException" "java/lang/Throwable" "stackTrace" "[Ljava/lang/StackTraceElement;") ∈ lw_all := lw_g (lw_at lw_m5 209 rfl) rfl
theorem q1232 : (Jvm.Cond.lays "java/lang/ArrayIndexOutOfBoundsException" "java/lang/Throwable" "depth" "I") ∈ lw_all := lw_g (lw_at lw_m5 210 rfl) rfl
theorem q1233 : (Jvm.Cond.lays "java/lang/ArrayIndexOutOfBoundsException" "java/lang/Throwable" "suppressedExceptions" "Ljava/util/List;") ∈ lw_all := lw_g (lw_at lw_m5 211 rfl) rfl
theorem q1234 : (Jvm.Cond.superclass "java/lang/ArrayIndexOutOfBoundsException" "java/lang/IndexOutOfBoundsException") ∈ lw_all := lw_g (lw_at lw_m5 212 rfl) rfl
theorem q1235 : (Jvm.Cond.castable "java/lang/ArrayIndexOutOfBoundsException" "java/lang/ArrayIndexOutOfBoundsException") ∈ lw_tbl := lw_at lw_m5 213 rfl
theorem q1238 : (Jvm.Cond.selects "java/lang/ArrayIndexOutOfBoundsException" ({ cls := "java/lang/Throwable", name := "fillInStackTrace", desc := "(I)Ljava/lang/Throwable;" } : Jvm.MethodName) ({ cls := "java/lang/Throwable", name := "fillInStackTrace", desc := "(I)Ljava/lang/Throwable;" } : Jvm.MethodName)) ∈ lw_all := lw_g (lw_at lw_m5 216 rfl) rfl
theorem q2243 : (Jvm.Cond.castable "java/lang/ArrayIndexOutOfBoundsException" "java/lang/IndexOutOfBoundsException") ∈ lw_tbl := lw_at lw_m10 21 rfl
theorem q2281 : (Jvm.Cond.castable "java/lang/ArrayIndexOutOfBoundsException" "java/lang/Object") ∈ lw_tbl := lw_at lw_m10 59 rfl
theorem in_J19 : ∀ w ∈ wsJ190, w ∈ lw_all := lw_in wsJ190 [1228, 1229, 1230, 1231, 1232, 1233] (by decide +kernel) (by decide +kernel)
/-! java/util/Objects -/
set_option maxRecDepth 100000
def RJ20 : String := "java/util/Objects"
abbrev cJ20_checkIndex : ByteArray := prog_66_method_17_code
def yJ20_checkIndex : MethodName := ⟨RJ20, "checkIndex", "(II)I"⟩
def dkwJ20_checkIndex_0 : List UInt8 := [26, 27, 1, 184, 0, 105, 172]
abbrev dktJ20_checkIndex_0 : List UInt8 := dkwJ20_checkIndex_0 ++ []
theorem dksJ20_checkIndex_0 : cJ20_checkIndex.data.toList.drop 0 = dktJ20_checkIndex_0 := by decide +kernel
theorem dJ20_checkIndex_0 : decode cJ20_checkIndex 0 = .ok (.iload_n 0, 1) := dk_26 (dk_at dksJ20_checkIndex_0 0 rfl rfl)
theorem dJ20_checkIndex_1 : decode cJ20_checkIndex 1 = .ok (.iload_n 1, 1) := dk_27 (dk_at dksJ20_checkIndex_0 1 rfl rfl)
theorem dJ20_checkIndex_2 : decode cJ20_checkIndex 2 = .ok (.aconst_null, 1) := dk_1 (dk_at dksJ20_checkIndex_0 2 rfl rfl)
theorem dJ20_checkIndex_3 : decode cJ20_checkIndex 3 = .ok (.invokestatic 105, 3) := dk_184 0 105 (dk_at dksJ20_checkIndex_0 3 rfl rfl)
theorem dJ20_checkIndex_6 : decode cJ20_checkIndex 6 = .ok (.ireturn, 1) := dk_172 (dk_at dksJ20_checkIndex_0 6 rfl rfl)
theorem q114 : (Jvm.Cond.initialized "java/util/Objects") ∈ lw_all := lw_g (lw_at lw_m1 52 rfl) rfl
theorem q1386 : (Jvm.Cond.static ({ cls := "java/util/Objects", name := "checkIndex", desc := "(II)I" } : Jvm.MethodName)) ∈ lw_all := lw_g (lw_at lw_m6 124 rfl) rfl
theorem q1387 : (Jvm.Cond.code ({ cls := "java/util/Objects", name := "checkIndex", desc := "(II)I" } : Jvm.MethodName) prog_66_method_17_code (2 : Nat) (Option.some Jvm.ClassFile.FieldType.int)) ∈ lw_all := lw_g (lw_at lw_m6 125 rfl) rfl
theorem q1388 : (Jvm.Cond.methodLink "java/util/Objects" (105 : Nat) ({ cls := "jdk/internal/util/Preconditions", name := "checkIndex", desc := "(IILjava/util/function/BiFunction;)I" } : Jvm.MethodName)) ∈ lw_all := lw_g (lw_at lw_m6 126 rfl) rfl
/-! java/lang/Object -/
set_option maxRecDepth 100000
def RJ21 : String := "java/lang/Object"
abbrev cJ21_init : ByteArray := object_method_1_code
def yJ21_init : MethodName := ⟨RJ21, "<init>", "()V"⟩
theorem dJ21_init_0 : decode cJ21_init 0 = .ok (.return_, 1) := by decide +kernel
theorem q124 : (Jvm.Cond.instanceMethod ({ cls := "java/lang/Object", name := "<init>", desc := "()V" } : Jvm.MethodName)) ∈ lw_all := lw_g (lw_at lw_m1 62 rfl) rfl
theorem q125 : (Jvm.Cond.code ({ cls := "java/lang/Object", name := "<init>", desc := "()V" } : Jvm.MethodName) object_method_1_code (1 : Nat) (Option.none : Option Jvm.ClassFile.FieldType)) ∈ lw_all := lw_g (lw_at lw_m1 63 rfl) rfl
theorem q253 : (Jvm.Cond.native ({ cls := "java/lang/Object", name := "clone", desc := "()Ljava/lang/Object;" } : Jvm.MethodName)) ∈ lw_all := lw_g (lw_at lw_m1 191 rfl) rfl
theorem q254 : (Jvm.Cond.instanceMethod ({ cls := "java/lang/Object", name := "clone", desc := "()Ljava/lang/Object;" } : Jvm.MethodName)) ∈ lw_all := lw_g (lw_at lw_m1 192 rfl) rfl
theorem q1146 : (Jvm.Cond.instanceMethod ({ cls := "java/lang/Object", name := "getClass", desc := "()Ljava/lang/Class;" } : Jvm.MethodName)) ∈ lw_all := lw_g (lw_at lw_m5 124 rfl) rfl
theorem q1147 : (Jvm.Cond.sameMethod "java/lang/Object" "java/lang/Object" "getClass" "()Ljava/lang/Class;") ∈ lw_all := lw_g (lw_at lw_m5 125 rfl) rfl
theorem q1185 : (Jvm.Cond.native ({ cls := "java/lang/Object", name := "getClass", desc := "()Ljava/lang/Class;" } : Jvm.MethodName)) ∈ lw_all := lw_g (lw_at lw_m5 163 rfl) rfl
theorem q2293 : (Jvm.Cond.declares ({ cls := "java/lang/Object", name := "getClass", desc := "()Ljava/lang/Class;" } : Jvm.MethodName)) ∈ lw_tbl := lw_at lw_m10 71 rfl
/-! java/lang/System$2 -/
set_option maxRecDepth 100000
def RJ22 : String := "java/lang/System$2"
abbrev cJ22_getUTF16Char : ByteArray := prog_56_method_45_code
def yJ22_getUTF16Char : MethodName := ⟨RJ22, "getUTF16Char", "([BI)C"⟩
def dkwJ22_getUTF16Char_0 : List UInt8 := [43, 28, 184, 0, 185, 172]
abbrev dktJ22_getUTF16Char_0 : List UInt8 := dkwJ22_getUTF16Char_0 ++ []
theorem dksJ22_getUTF16Char_0 : cJ22_getUTF16Char.data.toList.drop 0 = dktJ22_getUTF16Char_0 := by decide +kernel
theorem dJ22_getUTF16Char_0 : decode cJ22_getUTF16Char 0 = .ok (.aload_n 1, 1) := dk_43 (dk_at dksJ22_getUTF16Char_0 0 rfl rfl)
theorem dJ22_getUTF16Char_1 : decode cJ22_getUTF16Char 1 = .ok (.iload_n 2, 1) := dk_28 (dk_at dksJ22_getUTF16Char_0 1 rfl rfl)
theorem dJ22_getUTF16Char_2 : decode cJ22_getUTF16Char 2 = .ok (.invokestatic 185, 3) := dk_184 0 185 (dk_at dksJ22_getUTF16Char_0 2 rfl rfl)
theorem dJ22_getUTF16Char_5 : decode cJ22_getUTF16Char 5 = .ok (.ireturn, 1) := dk_172 (dk_at dksJ22_getUTF16Char_0 5 rfl rfl)
theorem q1014 : (Jvm.Cond.castable "java/lang/System$2" "jdk/internal/access/JavaLangAccess") ∈ lw_tbl := lw_at lw_m4 232 rfl
theorem q1015 : (Jvm.Cond.selects "java/lang/System$2" ({ cls := "jdk/internal/access/JavaLangAccess", name := "getUTF16Char", desc := "([BI)C" } : Jvm.MethodName) ({ cls := "java/lang/System$2", name := "getUTF16Char", desc := "([BI)C" } : Jvm.MethodName)) ∈ lw_all := lw_g (lw_at lw_m4 233 rfl) rfl
theorem q1016 : (Jvm.Cond.unhidden "java/lang/System$2" "getUTF16Char" "([BI)C") ∈ lw_tbl := lw_at lw_m4 234 rfl
theorem q1017 : (Jvm.Cond.instanceMethod ({ cls := "java/lang/System$2", name := "getUTF16Char", desc := "([BI)C" } : Jvm.MethodName)) ∈ lw_all := lw_g (lw_at lw_m4 235 rfl) rfl
theorem q1018 : (Jvm.Cond.publicMethod ({ cls := "java/lang/System$2", name := "getUTF16Char", desc := "([BI)C" } : Jvm.MethodName)) ∈ lw_tbl := lw_at lw_m4 236 rfl
theorem q1019 : (Jvm.Cond.code ({ cls := "java/lang/System$2", name := "getUTF16Char", desc := "([BI)C" } : Jvm.MethodName) prog_56_method_45_code (3 : Nat) (Option.some Jvm.ClassFile.FieldType.char)) ∈ lw_all := lw_g (lw_at lw_m4 237 rfl) rfl
theorem q1020 : (Jvm.Cond.methodLink "java/lang/System$2" (185 : Nat) ({ cls := "java/lang/StringUTF16", name := "getChar", desc := "([BI)C" } : Jvm.MethodName)) ∈ lw_all := lw_g (lw_at lw_m4 238 rfl) rfl
theorem q1183 : (Jvm.Cond.selects "java/lang/System$2" ({ cls := "java/lang/Object", name := "getClass", desc := "()Ljava/lang/Class;" } : Jvm.MethodName) ({ cls := "java/lang/Object", name := "getClass", desc := "()Ljava/lang/Class;" } : Jvm.MethodName)) ∈ lw_all := lw_g (lw_at lw_m5 161 rfl) rfl
theorem q2275 : (Jvm.Cond.castable "java/lang/System$2" "java/lang/Object") ∈ lw_tbl := lw_at lw_m10 53 rfl
theorem q1426 : (Jvm.Cond.interfaceMethod "TurnpikeTrust$Condition" "TurnpikeTrust$Condition" "holds" "(LTurnpikeTrust$Pass;)Z") ∈ lw_tbl := lw_at lw_m6 164 rfl
set_option maxRecDepth 100000
theorem q1427 : (Jvm.Cond.declares ({ cls := "TurnpikeTrust$Condition", name := "holds", desc := "(LTurnpikeTrust$Pass;)Z" } : Jvm.MethodName)) ∈ lw_tbl := lw_at lw_m6 165 rfl
theorem q89 : (Jvm.Cond.initialized "TurnpikeTrust$Sort") ∈ lw_all := lw_g (lw_at lw_m1 27 rfl) rfl
set_option maxRecDepth 100000
theorem q674 : (Jvm.Cond.laysStatic "TurnpikeTrust$Sort" "END" "LTurnpikeTrust$Sort;") ∈ lw_tbl := lw_at lw_m3 132 rfl
theorem q679 : (Jvm.Cond.laysStatic "TurnpikeTrust$Sort" "WORD" "LTurnpikeTrust$Sort;") ∈ lw_tbl := lw_at lw_m3 137 rfl
theorem q713 : (Jvm.Cond.laysStatic "TurnpikeTrust$Sort" "NUMBER" "LTurnpikeTrust$Sort;") ∈ lw_tbl := lw_at lw_m3 171 rfl
theorem q721 : (Jvm.Cond.laysStatic "TurnpikeTrust$Sort" "SIGN" "LTurnpikeTrust$Sort;") ∈ lw_tbl := lw_at lw_m3 179 rfl
theorem q723 : (Jvm.Cond.laysStatic "TurnpikeTrust$Sort" "BAD" "LTurnpikeTrust$Sort;") ∈ lw_tbl := lw_at lw_m3 181 rfl
theorem q1169 : (Jvm.Cond.selects "TurnpikeTrust$Sort" ({ cls := "java/lang/Object", name := "getClass", desc := "()Ljava/lang/Class;" } : Jvm.MethodName) ({ cls := "java/lang/Object", name := "getClass", desc := "()Ljava/lang/Class;" } : Jvm.MethodName)) ∈ lw_all := lw_g (lw_at lw_m5 147 rfl) rfl
theorem q2263 : (Jvm.Cond.castable "TurnpikeTrust$Sort" "java/lang/Object") ∈ lw_tbl := lw_at lw_m10 41 rfl
theorem q252 : (Jvm.Cond.sameMethod "[B" "java/lang/Object" "clone" "()Ljava/lang/Object;") ∈ lw_all := lw_g (lw_at lw_m1 190 rfl) rfl
set_option maxRecDepth 100000
theorem q255 : (Jvm.Cond.selects "[B" ({ cls := "[B", name := "clone", desc := "()Ljava/lang/Object;" } : Jvm.MethodName) ({ cls := "java/lang/Object", name := "clone", desc := "()Ljava/lang/Object;" } : Jvm.MethodName)) ∈ lw_all := lw_g (lw_at lw_m1 193 rfl) rfl
theorem q256 : (Jvm.Cond.castable "[B" "java/lang/Cloneable") ∈ lw_tbl := lw_at lw_m1 194 rfl
theorem q2295 : (Jvm.Cond.castable "[B" "java/lang/Object") ∈ lw_tbl := lw_at lw_m10 73 rfl
theorem q2297 : (Jvm.Cond.castable "[I" "java/lang/Object") ∈ lw_tbl := lw_at lw_m10 75 rfl
set_option maxRecDepth 100000
theorem q2296 : (Jvm.Cond.castable "[J" "java/lang/Object") ∈ lw_tbl := lw_at lw_m10 74 rfl
set_option maxRecDepth 100000
theorem q2291 : (Jvm.Cond.sameMethod "[Ljava/lang/Object;" "java/lang/Object" "getClass" "()Ljava/lang/Class;") ∈ lw_all := lw_g (lw_at lw_m10 69 rfl) rfl
set_option maxRecDepth 100000
theorem q2292 : (Jvm.Cond.selects "[Ljava/lang/Object;" ({ cls := "java/lang/Object", name := "getClass", desc := "()Ljava/lang/Class;" } : Jvm.MethodName) ({ cls := "java/lang/Object", name := "getClass", desc := "()Ljava/lang/Class;" } : Jvm.MethodName)) ∈ lw_all := lw_g (lw_at lw_m10 70 rfl) rfl
theorem q2294 : (Jvm.Cond.castable "[Ljava/lang/Object;" "java/lang/Object") ∈ lw_tbl := lw_at lw_m10 72 rfl
theorem q2298 : (Jvm.Cond.castable "[Z" "java/lang/Object") ∈ lw_tbl := lw_at lw_m10 76 rfl
set_option maxRecDepth 100000
theorem q88 : (Jvm.Cond.initialized "java/lang/Enum") ∈ lw_all := lw_g (lw_at lw_m1 26 rfl) rfl
set_option maxRecDepth 100000
theorem q81 : (Jvm.Cond.initialized "java/lang/Number") ∈ lw_all := lw_g (lw_at lw_m1 19 rfl) rfl
set_option maxRecDepth 100000
theorem q78 : (Jvm.Cond.initialized "java/lang/System") ∈ lw_all := lw_g (lw_at lw_m1 16 rfl) rfl
set_option maxRecDepth 100000
theorem q262 : (Jvm.Cond.static ({ cls := "java/lang/System", name := "arraycopy", desc := "(Ljava/lang/Object;ILjava/lang/Object;II)V" } : Jvm.MethodName)) ∈ lw_all := lw_g (lw_at lw_m1 200 rfl) rfl
theorem q263 : (Jvm.Cond.native ({ cls := "java/lang/System", name := "arraycopy", desc := "(Ljava/lang/Object;ILjava/lang/Object;II)V" } : Jvm.MethodName)) ∈ lw_all := lw_g (lw_at lw_m1 201 rfl) rfl
theorem q1012 : (Jvm.Cond.interfaceMethod "jdk/internal/access/JavaLangAccess" "jdk/internal/access/JavaLangAccess" "getUTF16Char" "([BI)C") ∈ lw_tbl := lw_at lw_m4 230 rfl
set_option maxRecDepth 100000
theorem q1013 : (Jvm.Cond.declares ({ cls := "jdk/internal/access/JavaLangAccess", name := "getUTF16Char", desc := "([BI)C" } : Jvm.MethodName)) ∈ lw_tbl := lw_at lw_m4 231 rfl
theorem q139 : (Jvm.Cond.arrayOver (Jvm.ClassFile.FieldType.object "java/lang/Object")) ∈ lw_tbl := lw_at lw_m1 77 rfl
set_option maxRecDepth 100000
theorem q216 : (Jvm.Cond.arrayClass Jvm.ClassFile.FieldType.byte) ∈ lw_all := lw_g (lw_at lw_m1 154 rfl) rfl
theorem q539 : (Jvm.Cond.arrayClass Jvm.ClassFile.FieldType.long) ∈ lw_all := lw_g (lw_at lw_m2 237 rfl) rfl
theorem q1343 : (Jvm.Cond.arrayClass Jvm.ClassFile.FieldType.int) ∈ lw_all := lw_g (lw_at lw_m6 81 rfl) rfl
theorem q1939 : (Jvm.Cond.arrayClass Jvm.ClassFile.FieldType.boolean) ∈ lw_all := lw_g (lw_at lw_m8 197 rfl) rfl
theorem q2299 : (Jvm.Cond.arrayClass Jvm.ClassFile.FieldType.char) ∈ lw_all := lw_g (lw_at lw_m10 77 rfl) rfl
theorem q2300 : (Jvm.Cond.arrayClass Jvm.ClassFile.FieldType.short) ∈ lw_all := lw_g (lw_at lw_m10 78 rfl) rfl
