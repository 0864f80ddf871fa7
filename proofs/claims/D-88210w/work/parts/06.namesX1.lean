/-! TurnpikeTrust -/
set_option maxRecDepth 100000
def RX1 : String := "TurnpikeTrust"
def TX1 : u_T := fun k => match k with
  | 0 => ("TurnpikeTrust", "tape", "[B", true)
  | 1 => ("TurnpikeTrust", "taped", "I", false)
  | 2 => ("TurnpikeTrust", "faultAt", "I", false)
  | 3 => ("TurnpikeTrust", "day", "I", false)
  | 4 => ("TurnpikeTrust", "clause", "I", false)
  | 5 => ("TurnpikeTrust", "rains", "I", false)
  | 6 => ("TurnpikeTrust", "box", "J", false)
  | 7 => ("TurnpikeTrust", "acts", "Ljava/util/ArrayList;", true)
  | 8 => ("TurnpikeTrust", "stretches", "Ljava/util/ArrayList;", true)
  | 9 => ("TurnpikeTrust", "gates", "Ljava/util/ArrayList;", true)
  | 10 => ("TurnpikeTrust", "travellers", "Ljava/util/ArrayList;", true)
  | 11 => ("TurnpikeTrust", "farmers", "Ljava/util/ArrayList;", true)
  | 12 => ("TurnpikeTrust", "loans", "Ljava/util/ArrayList;", true)
  | 13 => ("TurnpikeTrust", "pass", "LTurnpikeTrust$Pass;", true)
  | 14 => ("TurnpikeTrust", "reckoning", "LTurnpikeTrust$Reckoning;", true)
  | 15 => ("TurnpikeTrust", "lines", "[J", false)
  | _ => ("TurnpikeTrust", "lineMany", "I", false)
def tyX1 : Nat → FieldType := fun k => match k with
  | 0 => .array .byte
  | 1 => .int
  | 2 => .int
  | 3 => .int
  | 4 => .int
  | 5 => .int
  | 6 => .long
  | 7 => .object "java/util/ArrayList"
  | 8 => .object "java/util/ArrayList"
  | 9 => .object "java/util/ArrayList"
  | 10 => .object "java/util/ArrayList"
  | 11 => .object "java/util/ArrayList"
  | 12 => .object "java/util/ArrayList"
  | 13 => .object "TurnpikeTrust$Pass"
  | 14 => .object "TurnpikeTrust$Reckoning"
  | 15 => .array .long
  | _ => .int
abbrev wsX10 : List Cond := u_ws RX1 TX1 17
set_option maxRecDepth 100000 in
theorem nmX1 : ∀ a, a < 17 → ∀ b, b < 17 → a ≠ b → (TX1 a).2.1 ≠ (TX1 b).2.1 := by decide +kernel
set_option maxRecDepth 100000 in
theorem tyX1_ok : ∀ k, k < 17 → parseFieldDescriptor (TX1 k).2.2.1 = some (tyX1 k) := by decide +kernel
abbrev cX1_init : ByteArray := prog_1_method_1_code
def yX1_init : MethodName := ⟨RX1, "<init>", "()V"⟩
def dkwX1_init_5 : List UInt8 := [16, 64, 188, 11, 181, 0, 58, 177]
abbrev dktX1_init_5 : List UInt8 := dkwX1_init_5 ++ []
def dkwX1_init_4 : List UInt8 := [42, 187, 0, 44, 89, 183, 0, 46, 181, 0, 47, 42, 187, 0, 51, 89, 183, 0, 53, 181, 0, 54, 42]
abbrev dktX1_init_4 : List UInt8 := dkwX1_init_4 ++ dktX1_init_5
def dkwX1_init_3 : List UInt8 := [42, 187, 0, 20, 89, 7, 183, 0, 22, 181, 0, 38, 42, 187, 0, 20, 89, 7, 183, 0, 22, 181, 0, 41]
abbrev dktX1_init_3 : List UInt8 := dkwX1_init_3 ++ dktX1_init_4
def dkwX1_init_2 : List UInt8 := [187, 0, 20, 89, 7, 183, 0, 22, 181, 0, 32, 42, 187, 0, 20, 89, 16, 8, 183, 0, 22, 181, 0, 35]
abbrev dktX1_init_2 : List UInt8 := dkwX1_init_2 ++ dktX1_init_3
def dkwX1_init_1 : List UInt8 := [187, 0, 20, 89, 7, 183, 0, 22, 181, 0, 25, 42, 187, 0, 20, 89, 7, 183, 0, 22, 181, 0, 29, 42]
abbrev dktX1_init_1 : List UInt8 := dkwX1_init_1 ++ dktX1_init_2
def dkwX1_init_0 : List UInt8 := [42, 183, 0, 1, 42, 17, 7, 208, 188, 8, 181, 0, 9, 42, 2, 181, 0, 13, 42, 2, 181, 0, 17, 42]
abbrev dktX1_init_0 : List UInt8 := dkwX1_init_0 ++ dktX1_init_1
theorem dksX1_init_0 : cX1_init.data.toList.drop 0 = dktX1_init_0 := by decide +kernel
theorem dksX1_init_1 : cX1_init.data.toList.drop 24 = dktX1_init_1 := dk_seg dksX1_init_0 24 rfl rfl
theorem dksX1_init_2 : cX1_init.data.toList.drop 48 = dktX1_init_2 := dk_seg dksX1_init_1 24 rfl rfl
theorem dksX1_init_3 : cX1_init.data.toList.drop 72 = dktX1_init_3 := dk_seg dksX1_init_2 24 rfl rfl
theorem dksX1_init_4 : cX1_init.data.toList.drop 96 = dktX1_init_4 := dk_seg dksX1_init_3 24 rfl rfl
theorem dksX1_init_5 : cX1_init.data.toList.drop 119 = dktX1_init_5 := dk_seg dksX1_init_4 23 rfl rfl
theorem dX1_init_0 : decode cX1_init 0 = .ok (.aload_n 0, 1) := dk_42 (dk_at dksX1_init_0 0 rfl rfl)
theorem dX1_init_1 : decode cX1_init 1 = .ok (.invokespecial 1, 3) := dk_183 0 1 (dk_at dksX1_init_0 1 rfl rfl)
theorem dX1_init_4 : decode cX1_init 4 = .ok (.aload_n 0, 1) := dk_42 (dk_at dksX1_init_0 4 rfl rfl)
theorem dX1_init_5 : decode cX1_init 5 = .ok (.sipush 2000, 3) := dk_17 7 208 (dk_at dksX1_init_0 5 rfl rfl)
theorem dX1_init_8 : decode cX1_init 8 = .ok (.newarray .byte, 2) := dk_188_8 (dk_at dksX1_init_0 8 rfl rfl)
theorem dX1_init_10 : decode cX1_init 10 = .ok (.putfield 9, 3) := dk_181 0 9 (dk_at dksX1_init_0 10 rfl rfl)
theorem dX1_init_13 : decode cX1_init 13 = .ok (.aload_n 0, 1) := dk_42 (dk_at dksX1_init_0 13 rfl rfl)
theorem dX1_init_14 : decode cX1_init 14 = .ok (.iconst (-1), 1) := dk_2 (dk_at dksX1_init_0 14 rfl rfl)
theorem dX1_init_15 : decode cX1_init 15 = .ok (.putfield 13, 3) := dk_181 0 13 (dk_at dksX1_init_0 15 rfl rfl)
theorem dX1_init_18 : decode cX1_init 18 = .ok (.aload_n 0, 1) := dk_42 (dk_at dksX1_init_0 18 rfl rfl)
theorem dX1_init_19 : decode cX1_init 19 = .ok (.iconst (-1), 1) := dk_2 (dk_at dksX1_init_0 19 rfl rfl)
theorem dX1_init_20 : decode cX1_init 20 = .ok (.putfield 17, 3) := dk_181 0 17 (dk_at dksX1_init_0 20 rfl rfl)
theorem dX1_init_23 : decode cX1_init 23 = .ok (.aload_n 0, 1) := dk_42 (dk_at dksX1_init_0 23 rfl rfl)
theorem dX1_init_24 : decode cX1_init 24 = .ok (.new 20, 3) := dk_187 0 20 (dk_at dksX1_init_1 0 rfl rfl)
theorem dX1_init_27 : decode cX1_init 27 = .ok (.dup, 1) := dk_89 (dk_at dksX1_init_1 3 rfl rfl)
theorem dX1_init_28 : decode cX1_init 28 = .ok (.iconst 4, 1) := dk_7 (dk_at dksX1_init_1 4 rfl rfl)
theorem dX1_init_29 : decode cX1_init 29 = .ok (.invokespecial 22, 3) := dk_183 0 22 (dk_at dksX1_init_1 5 rfl rfl)
theorem dX1_init_32 : decode cX1_init 32 = .ok (.putfield 25, 3) := dk_181 0 25 (dk_at dksX1_init_1 8 rfl rfl)
theorem dX1_init_35 : decode cX1_init 35 = .ok (.aload_n 0, 1) := dk_42 (dk_at dksX1_init_1 11 rfl rfl)
theorem dX1_init_36 : decode cX1_init 36 = .ok (.new 20, 3) := dk_187 0 20 (dk_at dksX1_init_1 12 rfl rfl)
theorem dX1_init_39 : decode cX1_init 39 = .ok (.dup, 1) := dk_89 (dk_at dksX1_init_1 15 rfl rfl)
theorem dX1_init_40 : decode cX1_init 40 = .ok (.iconst 4, 1) := dk_7 (dk_at dksX1_init_1 16 rfl rfl)
theorem dX1_init_41 : decode cX1_init 41 = .ok (.invokespecial 22, 3) := dk_183 0 22 (dk_at dksX1_init_1 17 rfl rfl)
theorem dX1_init_44 : decode cX1_init 44 = .ok (.putfield 29, 3) := dk_181 0 29 (dk_at dksX1_init_1 20 rfl rfl)
theorem dX1_init_47 : decode cX1_init 47 = .ok (.aload_n 0, 1) := dk_42 (dk_at dksX1_init_1 23 rfl rfl)
theorem dX1_init_48 : decode cX1_init 48 = .ok (.new 20, 3) := dk_187 0 20 (dk_at dksX1_init_2 0 rfl rfl)
theorem dX1_init_51 : decode cX1_init 51 = .ok (.dup, 1) := dk_89 (dk_at dksX1_init_2 3 rfl rfl)
theorem dX1_init_52 : decode cX1_init 52 = .ok (.iconst 4, 1) := dk_7 (dk_at dksX1_init_2 4 rfl rfl)
theorem dX1_init_53 : decode cX1_init 53 = .ok (.invokespecial 22, 3) := dk_183 0 22 (dk_at dksX1_init_2 5 rfl rfl)
theorem dX1_init_56 : decode cX1_init 56 = .ok (.putfield 32, 3) := dk_181 0 32 (dk_at dksX1_init_2 8 rfl rfl)
theorem dX1_init_59 : decode cX1_init 59 = .ok (.aload_n 0, 1) := dk_42 (dk_at dksX1_init_2 11 rfl rfl)
theorem dX1_init_60 : decode cX1_init 60 = .ok (.new 20, 3) := dk_187 0 20 (dk_at dksX1_init_2 12 rfl rfl)
theorem dX1_init_63 : decode cX1_init 63 = .ok (.dup, 1) := dk_89 (dk_at dksX1_init_2 15 rfl rfl)
theorem dX1_init_64 : decode cX1_init 64 = .ok (.bipush 8, 2) := dk_16 8 (dk_at dksX1_init_2 16 rfl rfl)
theorem dX1_init_66 : decode cX1_init 66 = .ok (.invokespecial 22, 3) := dk_183 0 22 (dk_at dksX1_init_2 18 rfl rfl)
theorem dX1_init_69 : decode cX1_init 69 = .ok (.putfield 35, 3) := dk_181 0 35 (dk_at dksX1_init_2 21 rfl rfl)
theorem dX1_init_72 : decode cX1_init 72 = .ok (.aload_n 0, 1) := dk_42 (dk_at dksX1_init_3 0 rfl rfl)
theorem dX1_init_73 : decode cX1_init 73 = .ok (.new 20, 3) := dk_187 0 20 (dk_at dksX1_init_3 1 rfl rfl)
theorem dX1_init_76 : decode cX1_init 76 = .ok (.dup, 1) := dk_89 (dk_at dksX1_init_3 4 rfl rfl)
theorem dX1_init_77 : decode cX1_init 77 = .ok (.iconst 4, 1) := dk_7 (dk_at dksX1_init_3 5 rfl rfl)
theorem dX1_init_78 : decode cX1_init 78 = .ok (.invokespecial 22, 3) := dk_183 0 22 (dk_at dksX1_init_3 6 rfl rfl)
theorem dX1_init_81 : decode cX1_init 81 = .ok (.putfield 38, 3) := dk_181 0 38 (dk_at dksX1_init_3 9 rfl rfl)
theorem dX1_init_84 : decode cX1_init 84 = .ok (.aload_n 0, 1) := dk_42 (dk_at dksX1_init_3 12 rfl rfl)
theorem dX1_init_85 : decode cX1_init 85 = .ok (.new 20, 3) := dk_187 0 20 (dk_at dksX1_init_3 13 rfl rfl)
theorem dX1_init_88 : decode cX1_init 88 = .ok (.dup, 1) := dk_89 (dk_at dksX1_init_3 16 rfl rfl)
theorem dX1_init_89 : decode cX1_init 89 = .ok (.iconst 4, 1) := dk_7 (dk_at dksX1_init_3 17 rfl rfl)
theorem dX1_init_90 : decode cX1_init 90 = .ok (.invokespecial 22, 3) := dk_183 0 22 (dk_at dksX1_init_3 18 rfl rfl)
theorem dX1_init_93 : decode cX1_init 93 = .ok (.putfield 41, 3) := dk_181 0 41 (dk_at dksX1_init_3 21 rfl rfl)
theorem dX1_init_96 : decode cX1_init 96 = .ok (.aload_n 0, 1) := dk_42 (dk_at dksX1_init_4 0 rfl rfl)
theorem dX1_init_97 : decode cX1_init 97 = .ok (.new 44, 3) := dk_187 0 44 (dk_at dksX1_init_4 1 rfl rfl)
theorem dX1_init_100 : decode cX1_init 100 = .ok (.dup, 1) := dk_89 (dk_at dksX1_init_4 4 rfl rfl)
theorem dX1_init_101 : decode cX1_init 101 = .ok (.invokespecial 46, 3) := dk_183 0 46 (dk_at dksX1_init_4 5 rfl rfl)
theorem dX1_init_104 : decode cX1_init 104 = .ok (.putfield 47, 3) := dk_181 0 47 (dk_at dksX1_init_4 8 rfl rfl)
theorem dX1_init_107 : decode cX1_init 107 = .ok (.aload_n 0, 1) := dk_42 (dk_at dksX1_init_4 11 rfl rfl)
theorem dX1_init_108 : decode cX1_init 108 = .ok (.new 51, 3) := dk_187 0 51 (dk_at dksX1_init_4 12 rfl rfl)
theorem dX1_init_111 : decode cX1_init 111 = .ok (.dup, 1) := dk_89 (dk_at dksX1_init_4 15 rfl rfl)
theorem dX1_init_112 : decode cX1_init 112 = .ok (.invokespecial 53, 3) := dk_183 0 53 (dk_at dksX1_init_4 16 rfl rfl)
theorem dX1_init_115 : decode cX1_init 115 = .ok (.putfield 54, 3) := dk_181 0 54 (dk_at dksX1_init_4 19 rfl rfl)
theorem dX1_init_118 : decode cX1_init 118 = .ok (.aload_n 0, 1) := dk_42 (dk_at dksX1_init_4 22 rfl rfl)
theorem dX1_init_119 : decode cX1_init 119 = .ok (.bipush 64, 2) := dk_16 64 (dk_at dksX1_init_5 0 rfl rfl)
theorem dX1_init_121 : decode cX1_init 121 = .ok (.newarray .long, 2) := dk_188_11 (dk_at dksX1_init_5 2 rfl rfl)
theorem dX1_init_123 : decode cX1_init 123 = .ok (.putfield 58, 3) := dk_181 0 58 (dk_at dksX1_init_5 4 rfl rfl)
theorem dX1_init_126 : decode cX1_init 126 = .ok (.return_, 1) := dk_177 (dk_at dksX1_init_5 7 rfl rfl)
abbrev cX1_feed : ByteArray := prog_1_method_5_code
def yX1_feed : MethodName := ⟨RX1, "feed", "(IIIII)I"⟩
def dkwX1_feed_2 : List UInt8 := [172]
abbrev dktX1_feed_2 : List UInt8 := dkwX1_feed_2 ++ []
def dkwX1_feed_1 : List UInt8 := [182, 0, 74, 42, 29, 182, 0, 74, 42, 21, 4, 182, 0, 74, 42, 21, 5, 182, 0, 74, 42, 180, 0, 71]
abbrev dktX1_feed_1 : List UInt8 := dkwX1_feed_1 ++ dktX1_feed_2
def dkwX1_feed_0 : List UInt8 := [42, 180, 0, 71, 16, 20, 96, 17, 7, 208, 164, 0, 5, 2, 172, 42, 27, 182, 0, 74, 42, 28]
abbrev dktX1_feed_0 : List UInt8 := dkwX1_feed_0 ++ dktX1_feed_1
theorem dksX1_feed_0 : cX1_feed.data.toList.drop 0 = dktX1_feed_0 := by decide +kernel
theorem dksX1_feed_1 : cX1_feed.data.toList.drop 22 = dktX1_feed_1 := dk_seg dksX1_feed_0 22 rfl rfl
theorem dksX1_feed_2 : cX1_feed.data.toList.drop 46 = dktX1_feed_2 := dk_seg dksX1_feed_1 24 rfl rfl
theorem dX1_feed_0 : decode cX1_feed 0 = .ok (.aload_n 0, 1) := dk_42 (dk_at dksX1_feed_0 0 rfl rfl)
theorem dX1_feed_1 : decode cX1_feed 1 = .ok (.getfield 71, 3) := dk_180 0 71 (dk_at dksX1_feed_0 1 rfl rfl)
theorem dX1_feed_4 : decode cX1_feed 4 = .ok (.bipush 20, 2) := dk_16 20 (dk_at dksX1_feed_0 4 rfl rfl)
theorem dX1_feed_6 : decode cX1_feed 6 = .ok (.iadd, 1) := dk_96 (dk_at dksX1_feed_0 6 rfl rfl)
theorem dX1_feed_7 : decode cX1_feed 7 = .ok (.sipush 2000, 3) := dk_17 7 208 (dk_at dksX1_feed_0 7 rfl rfl)
theorem dX1_feed_10 : decode cX1_feed 10 = .ok (.if_icmp .le 5, 3) := dk_164 0 5 (dk_at dksX1_feed_0 10 rfl rfl)
theorem dX1_feed_13 : decode cX1_feed 13 = .ok (.iconst (-1), 1) := dk_2 (dk_at dksX1_feed_0 13 rfl rfl)
theorem dX1_feed_14 : decode cX1_feed 14 = .ok (.ireturn, 1) := dk_172 (dk_at dksX1_feed_0 14 rfl rfl)
theorem dX1_feed_15 : decode cX1_feed 15 = .ok (.aload_n 0, 1) := dk_42 (dk_at dksX1_feed_0 15 rfl rfl)
theorem dX1_feed_16 : decode cX1_feed 16 = .ok (.iload_n 1, 1) := dk_27 (dk_at dksX1_feed_0 16 rfl rfl)
theorem dX1_feed_17 : decode cX1_feed 17 = .ok (.invokevirtual 74, 3) := dk_182 0 74 (dk_at dksX1_feed_0 17 rfl rfl)
theorem dX1_feed_20 : decode cX1_feed 20 = .ok (.aload_n 0, 1) := dk_42 (dk_at dksX1_feed_0 20 rfl rfl)
theorem dX1_feed_21 : decode cX1_feed 21 = .ok (.iload_n 2, 1) := dk_28 (dk_at dksX1_feed_0 21 rfl rfl)
theorem dX1_feed_22 : decode cX1_feed 22 = .ok (.invokevirtual 74, 3) := dk_182 0 74 (dk_at dksX1_feed_1 0 rfl rfl)
theorem dX1_feed_25 : decode cX1_feed 25 = .ok (.aload_n 0, 1) := dk_42 (dk_at dksX1_feed_1 3 rfl rfl)
theorem dX1_feed_26 : decode cX1_feed 26 = .ok (.iload_n 3, 1) := dk_29 (dk_at dksX1_feed_1 4 rfl rfl)
theorem dX1_feed_27 : decode cX1_feed 27 = .ok (.invokevirtual 74, 3) := dk_182 0 74 (dk_at dksX1_feed_1 5 rfl rfl)
theorem dX1_feed_30 : decode cX1_feed 30 = .ok (.aload_n 0, 1) := dk_42 (dk_at dksX1_feed_1 8 rfl rfl)
theorem dX1_feed_31 : decode cX1_feed 31 = .ok (.iload 4, 2) := dk_21 4 (dk_at dksX1_feed_1 9 rfl rfl)
theorem dX1_feed_33 : decode cX1_feed 33 = .ok (.invokevirtual 74, 3) := dk_182 0 74 (dk_at dksX1_feed_1 11 rfl rfl)
theorem dX1_feed_36 : decode cX1_feed 36 = .ok (.aload_n 0, 1) := dk_42 (dk_at dksX1_feed_1 14 rfl rfl)
theorem dX1_feed_37 : decode cX1_feed 37 = .ok (.iload 5, 2) := dk_21 5 (dk_at dksX1_feed_1 15 rfl rfl)
theorem dX1_feed_39 : decode cX1_feed 39 = .ok (.invokevirtual 74, 3) := dk_182 0 74 (dk_at dksX1_feed_1 17 rfl rfl)
theorem dX1_feed_42 : decode cX1_feed 42 = .ok (.aload_n 0, 1) := dk_42 (dk_at dksX1_feed_1 20 rfl rfl)
theorem dX1_feed_43 : decode cX1_feed 43 = .ok (.getfield 71, 3) := dk_180 0 71 (dk_at dksX1_feed_1 21 rfl rfl)
theorem dX1_feed_46 : decode cX1_feed 46 = .ok (.ireturn, 1) := dk_172 (dk_at dksX1_feed_2 0 rfl rfl)
abbrev cX1_put : ByteArray := prog_1_method_6_code
def yX1_put : MethodName := ⟨RX1, "put", "(I)V"⟩
def dkwX1_put_1 : List UInt8 := [180, 0, 71, 4, 96, 181, 0, 71, 132, 2, 248, 167, 255, 226, 177]
abbrev dktX1_put_1 : List UInt8 := dkwX1_put_1 ++ []
def dkwX1_put_0 : List UInt8 := [16, 24, 61, 28, 155, 0, 32, 42, 180, 0, 9, 42, 180, 0, 71, 27, 28, 122, 145, 84, 42, 89]
abbrev dktX1_put_0 : List UInt8 := dkwX1_put_0 ++ dktX1_put_1
theorem dksX1_put_0 : cX1_put.data.toList.drop 0 = dktX1_put_0 := by decide +kernel
theorem dksX1_put_1 : cX1_put.data.toList.drop 22 = dktX1_put_1 := dk_seg dksX1_put_0 22 rfl rfl
theorem dX1_put_0 : decode cX1_put 0 = .ok (.bipush 24, 2) := dk_16 24 (dk_at dksX1_put_0 0 rfl rfl)
theorem dX1_put_2 : decode cX1_put 2 = .ok (.istore_n 2, 1) := dk_61 (dk_at dksX1_put_0 2 rfl rfl)
theorem dX1_put_3 : decode cX1_put 3 = .ok (.iload_n 2, 1) := dk_28 (dk_at dksX1_put_0 3 rfl rfl)
theorem dX1_put_4 : decode cX1_put 4 = .ok (.ifCond .lt 32, 3) := dk_155 0 32 (dk_at dksX1_put_0 4 rfl rfl)
theorem dX1_put_7 : decode cX1_put 7 = .ok (.aload_n 0, 1) := dk_42 (dk_at dksX1_put_0 7 rfl rfl)
theorem dX1_put_8 : decode cX1_put 8 = .ok (.getfield 9, 3) := dk_180 0 9 (dk_at dksX1_put_0 8 rfl rfl)
theorem dX1_put_11 : decode cX1_put 11 = .ok (.aload_n 0, 1) := dk_42 (dk_at dksX1_put_0 11 rfl rfl)
theorem dX1_put_12 : decode cX1_put 12 = .ok (.getfield 71, 3) := dk_180 0 71 (dk_at dksX1_put_0 12 rfl rfl)
theorem dX1_put_15 : decode cX1_put 15 = .ok (.iload_n 1, 1) := dk_27 (dk_at dksX1_put_0 15 rfl rfl)
theorem dX1_put_16 : decode cX1_put 16 = .ok (.iload_n 2, 1) := dk_28 (dk_at dksX1_put_0 16 rfl rfl)
theorem dX1_put_17 : decode cX1_put 17 = .ok (.ishr, 1) := dk_122 (dk_at dksX1_put_0 17 rfl rfl)
theorem dX1_put_18 : decode cX1_put 18 = .ok (.i2b, 1) := dk_145 (dk_at dksX1_put_0 18 rfl rfl)
theorem dX1_put_19 : decode cX1_put 19 = .ok (.bastore, 1) := dk_84 (dk_at dksX1_put_0 19 rfl rfl)
theorem dX1_put_20 : decode cX1_put 20 = .ok (.aload_n 0, 1) := dk_42 (dk_at dksX1_put_0 20 rfl rfl)
theorem dX1_put_21 : decode cX1_put 21 = .ok (.dup, 1) := dk_89 (dk_at dksX1_put_0 21 rfl rfl)
theorem dX1_put_22 : decode cX1_put 22 = .ok (.getfield 71, 3) := dk_180 0 71 (dk_at dksX1_put_1 0 rfl rfl)
theorem dX1_put_25 : decode cX1_put 25 = .ok (.iconst 1, 1) := dk_4 (dk_at dksX1_put_1 3 rfl rfl)
theorem dX1_put_26 : decode cX1_put 26 = .ok (.iadd, 1) := dk_96 (dk_at dksX1_put_1 4 rfl rfl)
theorem dX1_put_27 : decode cX1_put 27 = .ok (.putfield 71, 3) := dk_181 0 71 (dk_at dksX1_put_1 5 rfl rfl)
theorem dX1_put_30 : decode cX1_put 30 = .ok (.iinc 2 (-8), 3) := dk_132 2 248 (dk_at dksX1_put_1 8 rfl rfl)
theorem dX1_put_33 : decode cX1_put 33 = .ok (.goto (-30), 3) := dk_167 255 226 (dk_at dksX1_put_1 11 rfl rfl)
theorem dX1_put_36 : decode cX1_put 36 = .ok (.return_, 1) := dk_177 (dk_at dksX1_put_1 14 rfl rfl)
abbrev cX1_fault : ByteArray := prog_1_method_8_code
def yX1_fault : MethodName := ⟨RX1, "fault", "()I"⟩
theorem dX1_fault_0 : decode cX1_fault 0 = .ok (.aload_n 0, 1) := by decide +kernel
theorem dX1_fault_1 : decode cX1_fault 1 = .ok (.getfield 13, 3) := by decide +kernel
theorem dX1_fault_4 : decode cX1_fault 4 = .ok (.ireturn, 1) := by decide +kernel
abbrev cX1_clause : ByteArray := prog_1_method_15_code
def yX1_clause : MethodName := ⟨RX1, "clause", "()I"⟩
theorem dX1_clause_0 : decode cX1_clause 0 = .ok (.aload_n 0, 1) := by decide +kernel
theorem dX1_clause_1 : decode cX1_clause 1 = .ok (.getfield 17, 3) := by decide +kernel
theorem dX1_clause_4 : decode cX1_clause 4 = .ok (.ireturn, 1) := by decide +kernel
abbrev cX1_count : ByteArray := prog_1_method_38_code
def yX1_count : MethodName := ⟨RX1, "count", "(I)I"⟩
def dkwX1_count_4 : List UInt8 := [180, 0, 41, 182, 0, 81, 172, 42, 180, 0, 222, 172, 42, 180, 0, 71, 172, 42, 180, 0, 219, 172, 2, 172]
abbrev dktX1_count_4 : List UInt8 := dkwX1_count_4 ++ []
def dkwX1_count_3 : List UInt8 := [180, 0, 32, 182, 0, 81, 172, 42, 180, 0, 35, 182, 0, 81, 172, 42, 180, 0, 38, 182, 0, 81, 172, 42]
abbrev dktX1_count_3 : List UInt8 := dkwX1_count_3 ++ dktX1_count_4
def dkwX1_count_2 : List UInt8 := [42, 180, 0, 137, 172, 42, 180, 0, 25, 182, 0, 81, 172, 42, 180, 0, 29, 182, 0, 81, 172, 42]
abbrev dktX1_count_2 : List UInt8 := dkwX1_count_2 ++ dktX1_count_3
def dkwX1_count_1 : List UInt8 := [170, 0, 0, 0, 0, 0, 123, 0, 0, 0, 0, 0, 0, 0, 9, 0, 0, 0, 55, 0, 0, 0, 60, 0, 0, 0, 68, 0, 0, 0, 76, 0, 0, 0, 84, 0, 0, 0, 92, 0, 0, 0, 100, 0, 0, 0, 108, 0, 0, 0, 113, 0, 0, 0, 118]
abbrev dktX1_count_1 : List UInt8 := dkwX1_count_1 ++ dktX1_count_2
def dkwX1_count_0 : List UInt8 := [27]
abbrev dktX1_count_0 : List UInt8 := dkwX1_count_0 ++ dktX1_count_1
theorem dksX1_count_0 : cX1_count.data.toList.drop 0 = dktX1_count_0 := by decide +kernel
theorem dksX1_count_1 : cX1_count.data.toList.drop 1 = dktX1_count_1 := dk_seg dksX1_count_0 1 rfl rfl
theorem dksX1_count_2 : cX1_count.data.toList.drop 56 = dktX1_count_2 := dk_seg dksX1_count_1 55 rfl rfl
theorem dksX1_count_3 : cX1_count.data.toList.drop 78 = dktX1_count_3 := dk_seg dksX1_count_2 22 rfl rfl
theorem dksX1_count_4 : cX1_count.data.toList.drop 102 = dktX1_count_4 := dk_seg dksX1_count_3 24 rfl rfl
theorem dX1_count_0 : decode cX1_count 0 = .ok (.iload_n 1, 1) := dk_27 (dk_at dksX1_count_0 0 rfl rfl)
theorem dX1_count_1 : decode cX1_count 1 = .ok (.tableswitch 123 0 9 #[55, 60, 68, 76, 84, 92, 100, 108, 113, 118], 55) := by decide +kernel
theorem dX1_count_56 : decode cX1_count 56 = .ok (.aload_n 0, 1) := dk_42 (dk_at dksX1_count_2 0 rfl rfl)
theorem dX1_count_57 : decode cX1_count 57 = .ok (.getfield 137, 3) := dk_180 0 137 (dk_at dksX1_count_2 1 rfl rfl)
theorem dX1_count_60 : decode cX1_count 60 = .ok (.ireturn, 1) := dk_172 (dk_at dksX1_count_2 4 rfl rfl)
theorem dX1_count_61 : decode cX1_count 61 = .ok (.aload_n 0, 1) := dk_42 (dk_at dksX1_count_2 5 rfl rfl)
theorem dX1_count_62 : decode cX1_count 62 = .ok (.getfield 25, 3) := dk_180 0 25 (dk_at dksX1_count_2 6 rfl rfl)
theorem dX1_count_65 : decode cX1_count 65 = .ok (.invokevirtual 81, 3) := dk_182 0 81 (dk_at dksX1_count_2 9 rfl rfl)
theorem dX1_count_68 : decode cX1_count 68 = .ok (.ireturn, 1) := dk_172 (dk_at dksX1_count_2 12 rfl rfl)
theorem dX1_count_69 : decode cX1_count 69 = .ok (.aload_n 0, 1) := dk_42 (dk_at dksX1_count_2 13 rfl rfl)
theorem dX1_count_70 : decode cX1_count 70 = .ok (.getfield 29, 3) := dk_180 0 29 (dk_at dksX1_count_2 14 rfl rfl)
theorem dX1_count_73 : decode cX1_count 73 = .ok (.invokevirtual 81, 3) := dk_182 0 81 (dk_at dksX1_count_2 17 rfl rfl)
theorem dX1_count_76 : decode cX1_count 76 = .ok (.ireturn, 1) := dk_172 (dk_at dksX1_count_2 20 rfl rfl)
theorem dX1_count_77 : decode cX1_count 77 = .ok (.aload_n 0, 1) := dk_42 (dk_at dksX1_count_2 21 rfl rfl)
theorem dX1_count_78 : decode cX1_count 78 = .ok (.getfield 32, 3) := dk_180 0 32 (dk_at dksX1_count_3 0 rfl rfl)
theorem dX1_count_81 : decode cX1_count 81 = .ok (.invokevirtual 81, 3) := dk_182 0 81 (dk_at dksX1_count_3 3 rfl rfl)
theorem dX1_count_84 : decode cX1_count 84 = .ok (.ireturn, 1) := dk_172 (dk_at dksX1_count_3 6 rfl rfl)
theorem dX1_count_85 : decode cX1_count 85 = .ok (.aload_n 0, 1) := dk_42 (dk_at dksX1_count_3 7 rfl rfl)
theorem dX1_count_86 : decode cX1_count 86 = .ok (.getfield 35, 3) := dk_180 0 35 (dk_at dksX1_count_3 8 rfl rfl)
theorem dX1_count_89 : decode cX1_count 89 = .ok (.invokevirtual 81, 3) := dk_182 0 81 (dk_at dksX1_count_3 11 rfl rfl)
theorem dX1_count_92 : decode cX1_count 92 = .ok (.ireturn, 1) := dk_172 (dk_at dksX1_count_3 14 rfl rfl)
theorem dX1_count_93 : decode cX1_count 93 = .ok (.aload_n 0, 1) := dk_42 (dk_at dksX1_count_3 15 rfl rfl)
theorem dX1_count_94 : decode cX1_count 94 = .ok (.getfield 38, 3) := dk_180 0 38 (dk_at dksX1_count_3 16 rfl rfl)
theorem dX1_count_97 : decode cX1_count 97 = .ok (.invokevirtual 81, 3) := dk_182 0 81 (dk_at dksX1_count_3 19 rfl rfl)
theorem dX1_count_100 : decode cX1_count 100 = .ok (.ireturn, 1) := dk_172 (dk_at dksX1_count_3 22 rfl rfl)
theorem dX1_count_101 : decode cX1_count 101 = .ok (.aload_n 0, 1) := dk_42 (dk_at dksX1_count_3 23 rfl rfl)
theorem dX1_count_102 : decode cX1_count 102 = .ok (.getfield 41, 3) := dk_180 0 41 (dk_at dksX1_count_4 0 rfl rfl)
theorem dX1_count_105 : decode cX1_count 105 = .ok (.invokevirtual 81, 3) := dk_182 0 81 (dk_at dksX1_count_4 3 rfl rfl)
theorem dX1_count_108 : decode cX1_count 108 = .ok (.ireturn, 1) := dk_172 (dk_at dksX1_count_4 6 rfl rfl)
theorem dX1_count_109 : decode cX1_count 109 = .ok (.aload_n 0, 1) := dk_42 (dk_at dksX1_count_4 7 rfl rfl)
theorem dX1_count_110 : decode cX1_count 110 = .ok (.getfield 222, 3) := dk_180 0 222 (dk_at dksX1_count_4 8 rfl rfl)
theorem dX1_count_113 : decode cX1_count 113 = .ok (.ireturn, 1) := dk_172 (dk_at dksX1_count_4 11 rfl rfl)
theorem dX1_count_114 : decode cX1_count 114 = .ok (.aload_n 0, 1) := dk_42 (dk_at dksX1_count_4 12 rfl rfl)
theorem dX1_count_115 : decode cX1_count 115 = .ok (.getfield 71, 3) := dk_180 0 71 (dk_at dksX1_count_4 13 rfl rfl)
theorem dX1_count_118 : decode cX1_count 118 = .ok (.ireturn, 1) := dk_172 (dk_at dksX1_count_4 16 rfl rfl)
theorem dX1_count_119 : decode cX1_count 119 = .ok (.aload_n 0, 1) := dk_42 (dk_at dksX1_count_4 17 rfl rfl)
theorem dX1_count_120 : decode cX1_count 120 = .ok (.getfield 219, 3) := dk_180 0 219 (dk_at dksX1_count_4 18 rfl rfl)
theorem dX1_count_123 : decode cX1_count 123 = .ok (.ireturn, 1) := dk_172 (dk_at dksX1_count_4 21 rfl rfl)
theorem dX1_count_124 : decode cX1_count 124 = .ok (.iconst (-1), 1) := dk_2 (dk_at dksX1_count_4 22 rfl rfl)
theorem dX1_count_125 : decode cX1_count 125 = .ok (.ireturn, 1) := dk_172 (dk_at dksX1_count_4 23 rfl rfl)
abbrev cX1_act : ByteArray := prog_1_method_7_code
def yX1_act : MethodName := ⟨RX1, "act", "(II)I"⟩
def dkwX1_act_4 : List UInt8 := [172, 78, 42, 45, 180, 0, 103, 181, 0, 13, 45, 180, 0, 106, 16, 10, 100, 172]
abbrev dktX1_act_4 : List UInt8 := dkwX1_act_4 ++ []
def dkwX1_act_3 : List UInt8 := [180, 0, 9, 27, 183, 0, 90, 28, 182, 0, 93, 182, 0, 97, 87, 42, 180, 0, 25, 182, 0, 81, 4, 100]
abbrev dktX1_act_3 : List UInt8 := dkwX1_act_3 ++ dktX1_act_4
def dkwX1_act_2 : List UInt8 := [184, 0, 85, 42, 3, 181, 0, 71, 42, 2, 181, 0, 13, 42, 180, 0, 25, 187, 0, 88, 89, 42]
abbrev dktX1_act_2 : List UInt8 := dkwX1_act_2 ++ dktX1_act_3
def dkwX1_act_1 : List UInt8 := [167, 0, 4, 3, 184, 0, 77, 42, 180, 0, 25, 182, 0, 81, 16, 12, 162, 0, 7, 4, 167, 0, 4, 3]
abbrev dktX1_act_1 : List UInt8 := dkwX1_act_1 ++ dktX1_act_2
def dkwX1_act_0 : List UInt8 := [27, 155, 0, 26, 27, 42, 180, 0, 71, 163, 0, 18, 28, 155, 0, 14, 28, 17, 39, 15, 163, 0, 7, 4]
abbrev dktX1_act_0 : List UInt8 := dkwX1_act_0 ++ dktX1_act_1
theorem dksX1_act_0 : cX1_act.data.toList.drop 0 = dktX1_act_0 := by decide +kernel
theorem dksX1_act_1 : cX1_act.data.toList.drop 24 = dktX1_act_1 := dk_seg dksX1_act_0 24 rfl rfl
theorem dksX1_act_2 : cX1_act.data.toList.drop 48 = dktX1_act_2 := dk_seg dksX1_act_1 24 rfl rfl
theorem dksX1_act_3 : cX1_act.data.toList.drop 70 = dktX1_act_3 := dk_seg dksX1_act_2 22 rfl rfl
theorem dksX1_act_4 : cX1_act.data.toList.drop 94 = dktX1_act_4 := dk_seg dksX1_act_3 24 rfl rfl
theorem dX1_act_0 : decode cX1_act 0 = .ok (.iload_n 1, 1) := dk_27 (dk_at dksX1_act_0 0 rfl rfl)
theorem dX1_act_1 : decode cX1_act 1 = .ok (.ifCond .lt 26, 3) := dk_155 0 26 (dk_at dksX1_act_0 1 rfl rfl)
theorem dX1_act_4 : decode cX1_act 4 = .ok (.iload_n 1, 1) := dk_27 (dk_at dksX1_act_0 4 rfl rfl)
theorem dX1_act_5 : decode cX1_act 5 = .ok (.aload_n 0, 1) := dk_42 (dk_at dksX1_act_0 5 rfl rfl)
theorem dX1_act_6 : decode cX1_act 6 = .ok (.getfield 71, 3) := dk_180 0 71 (dk_at dksX1_act_0 6 rfl rfl)
theorem dX1_act_9 : decode cX1_act 9 = .ok (.if_icmp .gt 18, 3) := dk_163 0 18 (dk_at dksX1_act_0 9 rfl rfl)
theorem dX1_act_12 : decode cX1_act 12 = .ok (.iload_n 2, 1) := dk_28 (dk_at dksX1_act_0 12 rfl rfl)
theorem dX1_act_13 : decode cX1_act 13 = .ok (.ifCond .lt 14, 3) := dk_155 0 14 (dk_at dksX1_act_0 13 rfl rfl)
theorem dX1_act_16 : decode cX1_act 16 = .ok (.iload_n 2, 1) := dk_28 (dk_at dksX1_act_0 16 rfl rfl)
theorem dX1_act_17 : decode cX1_act 17 = .ok (.sipush 9999, 3) := dk_17 39 15 (dk_at dksX1_act_0 17 rfl rfl)
theorem dX1_act_20 : decode cX1_act 20 = .ok (.if_icmp .gt 7, 3) := dk_163 0 7 (dk_at dksX1_act_0 20 rfl rfl)
theorem dX1_act_23 : decode cX1_act 23 = .ok (.iconst 1, 1) := dk_4 (dk_at dksX1_act_0 23 rfl rfl)
theorem dX1_act_24 : decode cX1_act 24 = .ok (.goto 4, 3) := dk_167 0 4 (dk_at dksX1_act_1 0 rfl rfl)
theorem dX1_act_27 : decode cX1_act 27 = .ok (.iconst 0, 1) := dk_3 (dk_at dksX1_act_1 3 rfl rfl)
theorem dX1_act_28 : decode cX1_act 28 = .ok (.invokestatic 77, 3) := dk_184 0 77 (dk_at dksX1_act_1 4 rfl rfl)
theorem dX1_act_31 : decode cX1_act 31 = .ok (.aload_n 0, 1) := dk_42 (dk_at dksX1_act_1 7 rfl rfl)
theorem dX1_act_32 : decode cX1_act 32 = .ok (.getfield 25, 3) := dk_180 0 25 (dk_at dksX1_act_1 8 rfl rfl)
theorem dX1_act_35 : decode cX1_act 35 = .ok (.invokevirtual 81, 3) := dk_182 0 81 (dk_at dksX1_act_1 11 rfl rfl)
theorem dX1_act_38 : decode cX1_act 38 = .ok (.bipush 12, 2) := dk_16 12 (dk_at dksX1_act_1 14 rfl rfl)
theorem dX1_act_40 : decode cX1_act 40 = .ok (.if_icmp .ge 7, 3) := dk_162 0 7 (dk_at dksX1_act_1 16 rfl rfl)
theorem dX1_act_43 : decode cX1_act 43 = .ok (.iconst 1, 1) := dk_4 (dk_at dksX1_act_1 19 rfl rfl)
theorem dX1_act_44 : decode cX1_act 44 = .ok (.goto 4, 3) := dk_167 0 4 (dk_at dksX1_act_1 20 rfl rfl)
theorem dX1_act_47 : decode cX1_act 47 = .ok (.iconst 0, 1) := dk_3 (dk_at dksX1_act_1 23 rfl rfl)
theorem dX1_act_48 : decode cX1_act 48 = .ok (.invokestatic 85, 3) := dk_184 0 85 (dk_at dksX1_act_2 0 rfl rfl)
theorem dX1_act_51 : decode cX1_act 51 = .ok (.aload_n 0, 1) := dk_42 (dk_at dksX1_act_2 3 rfl rfl)
theorem dX1_act_52 : decode cX1_act 52 = .ok (.iconst 0, 1) := dk_3 (dk_at dksX1_act_2 4 rfl rfl)
theorem dX1_act_53 : decode cX1_act 53 = .ok (.putfield 71, 3) := dk_181 0 71 (dk_at dksX1_act_2 5 rfl rfl)
theorem dX1_act_56 : decode cX1_act 56 = .ok (.aload_n 0, 1) := dk_42 (dk_at dksX1_act_2 8 rfl rfl)
theorem dX1_act_57 : decode cX1_act 57 = .ok (.iconst (-1), 1) := dk_2 (dk_at dksX1_act_2 9 rfl rfl)
theorem dX1_act_58 : decode cX1_act 58 = .ok (.putfield 13, 3) := dk_181 0 13 (dk_at dksX1_act_2 10 rfl rfl)
theorem dX1_act_61 : decode cX1_act 61 = .ok (.aload_n 0, 1) := dk_42 (dk_at dksX1_act_2 13 rfl rfl)
theorem dX1_act_62 : decode cX1_act 62 = .ok (.getfield 25, 3) := dk_180 0 25 (dk_at dksX1_act_2 14 rfl rfl)
theorem dX1_act_65 : decode cX1_act 65 = .ok (.new 88, 3) := dk_187 0 88 (dk_at dksX1_act_2 17 rfl rfl)
theorem dX1_act_68 : decode cX1_act 68 = .ok (.dup, 1) := dk_89 (dk_at dksX1_act_2 20 rfl rfl)
theorem dX1_act_69 : decode cX1_act 69 = .ok (.aload_n 0, 1) := dk_42 (dk_at dksX1_act_2 21 rfl rfl)
theorem dX1_act_70 : decode cX1_act 70 = .ok (.getfield 9, 3) := dk_180 0 9 (dk_at dksX1_act_3 0 rfl rfl)
theorem dX1_act_73 : decode cX1_act 73 = .ok (.iload_n 1, 1) := dk_27 (dk_at dksX1_act_3 3 rfl rfl)
theorem dX1_act_74 : decode cX1_act 74 = .ok (.invokespecial 90, 3) := dk_183 0 90 (dk_at dksX1_act_3 4 rfl rfl)
theorem dX1_act_77 : decode cX1_act 77 = .ok (.iload_n 2, 1) := dk_28 (dk_at dksX1_act_3 7 rfl rfl)
theorem dX1_act_78 : decode cX1_act 78 = .ok (.invokevirtual 93, 3) := dk_182 0 93 (dk_at dksX1_act_3 8 rfl rfl)
theorem dX1_act_81 : decode cX1_act 81 = .ok (.invokevirtual 97, 3) := dk_182 0 97 (dk_at dksX1_act_3 11 rfl rfl)
theorem dX1_act_84 : decode cX1_act 84 = .ok (.pop, 1) := dk_87 (dk_at dksX1_act_3 14 rfl rfl)
theorem dX1_act_85 : decode cX1_act 85 = .ok (.aload_n 0, 1) := dk_42 (dk_at dksX1_act_3 15 rfl rfl)
theorem dX1_act_86 : decode cX1_act 86 = .ok (.getfield 25, 3) := dk_180 0 25 (dk_at dksX1_act_3 16 rfl rfl)
theorem dX1_act_89 : decode cX1_act 89 = .ok (.invokevirtual 81, 3) := dk_182 0 81 (dk_at dksX1_act_3 19 rfl rfl)
theorem dX1_act_92 : decode cX1_act 92 = .ok (.iconst 1, 1) := dk_4 (dk_at dksX1_act_3 22 rfl rfl)
theorem dX1_act_93 : decode cX1_act 93 = .ok (.isub, 1) := dk_100 (dk_at dksX1_act_3 23 rfl rfl)
theorem dX1_act_94 : decode cX1_act 94 = .ok (.ireturn, 1) := dk_172 (dk_at dksX1_act_4 0 rfl rfl)
theorem dX1_act_95 : decode cX1_act 95 = .ok (.astore_n 3, 1) := dk_78 (dk_at dksX1_act_4 1 rfl rfl)
theorem dX1_act_96 : decode cX1_act 96 = .ok (.aload_n 0, 1) := dk_42 (dk_at dksX1_act_4 2 rfl rfl)
theorem dX1_act_97 : decode cX1_act 97 = .ok (.aload_n 3, 1) := dk_45 (dk_at dksX1_act_4 3 rfl rfl)
theorem dX1_act_98 : decode cX1_act 98 = .ok (.getfield 103, 3) := dk_180 0 103 (dk_at dksX1_act_4 4 rfl rfl)
theorem dX1_act_101 : decode cX1_act 101 = .ok (.putfield 13, 3) := dk_181 0 13 (dk_at dksX1_act_4 7 rfl rfl)
theorem dX1_act_104 : decode cX1_act 104 = .ok (.aload_n 3, 1) := dk_45 (dk_at dksX1_act_4 10 rfl rfl)
theorem dX1_act_105 : decode cX1_act 105 = .ok (.getfield 106, 3) := dk_180 0 106 (dk_at dksX1_act_4 11 rfl rfl)
theorem dX1_act_108 : decode cX1_act 108 = .ok (.bipush 10, 2) := dk_16 10 (dk_at dksX1_act_4 14 rfl rfl)
theorem dX1_act_110 : decode cX1_act 110 = .ok (.isub, 1) := dk_100 (dk_at dksX1_act_4 16 rfl rfl)
theorem dX1_act_111 : decode cX1_act 111 = .ok (.ireturn, 1) := dk_172 (dk_at dksX1_act_4 17 rfl rfl)
abbrev cX1_need : ByteArray := prog_1_method_2_code
def yX1_need : MethodName := ⟨RX1, "need", "(Z)V"⟩
def dkwX1_need_0 : List UInt8 := [26, 154, 0, 11, 187, 0, 62, 89, 183, 0, 64, 191, 177]
abbrev dktX1_need_0 : List UInt8 := dkwX1_need_0 ++ []
theorem dksX1_need_0 : cX1_need.data.toList.drop 0 = dktX1_need_0 := by decide +kernel
theorem dX1_need_0 : decode cX1_need 0 = .ok (.iload_n 0, 1) := dk_26 (dk_at dksX1_need_0 0 rfl rfl)
theorem dX1_need_1 : decode cX1_need 1 = .ok (.ifCond .ne 11, 3) := dk_154 0 11 (dk_at dksX1_need_0 1 rfl rfl)
theorem dX1_need_4 : decode cX1_need 4 = .ok (.new 62, 3) := dk_187 0 62 (dk_at dksX1_need_0 4 rfl rfl)
theorem dX1_need_7 : decode cX1_need 7 = .ok (.dup, 1) := dk_89 (dk_at dksX1_need_0 7 rfl rfl)
theorem dX1_need_8 : decode cX1_need 8 = .ok (.invokespecial 64, 3) := dk_183 0 64 (dk_at dksX1_need_0 8 rfl rfl)
theorem dX1_need_11 : decode cX1_need 11 = .ok (.athrow, 1) := dk_191 (dk_at dksX1_need_0 11 rfl rfl)
theorem dX1_need_12 : decode cX1_need 12 = .ok (.return_, 1) := dk_177 (dk_at dksX1_need_0 12 rfl rfl)
abbrev cX1_right : ByteArray := prog_1_method_3_code
def yX1_right : MethodName := ⟨RX1, "right", "(Z)V"⟩
def dkwX1_right_0 : List UInt8 := [26, 154, 0, 11, 187, 0, 65, 89, 183, 0, 67, 191, 177]
abbrev dktX1_right_0 : List UInt8 := dkwX1_right_0 ++ []
theorem dksX1_right_0 : cX1_right.data.toList.drop 0 = dktX1_right_0 := by decide +kernel
theorem dX1_right_0 : decode cX1_right 0 = .ok (.iload_n 0, 1) := dk_26 (dk_at dksX1_right_0 0 rfl rfl)
theorem dX1_right_1 : decode cX1_right 1 = .ok (.ifCond .ne 11, 3) := dk_154 0 11 (dk_at dksX1_right_0 1 rfl rfl)
theorem dX1_right_4 : decode cX1_right 4 = .ok (.new 65, 3) := dk_187 0 65 (dk_at dksX1_right_0 4 rfl rfl)
theorem dX1_right_7 : decode cX1_right 7 = .ok (.dup, 1) := dk_89 (dk_at dksX1_right_0 7 rfl rfl)
theorem dX1_right_8 : decode cX1_right 8 = .ok (.invokespecial 67, 3) := dk_183 0 67 (dk_at dksX1_right_0 8 rfl rfl)
theorem dX1_right_11 : decode cX1_right 11 = .ok (.athrow, 1) := dk_191 (dk_at dksX1_right_0 11 rfl rfl)
theorem dX1_right_12 : decode cX1_right 12 = .ok (.return_, 1) := dk_177 (dk_at dksX1_right_0 12 rfl rfl)
abbrev cX1_stretch : ByteArray := prog_1_method_9_code
def yX1_stretch : MethodName := ⟨RX1, "stretch", "(I)I"⟩
def dkwX1_stretch_2 : List UInt8 := [27, 183, 0, 111, 182, 0, 97, 87, 42, 180, 0, 29, 182, 0, 81, 4, 100, 172]
abbrev dktX1_stretch_2 : List UInt8 := dkwX1_stretch_2 ++ []
def dkwX1_stretch_1 : List UInt8 := [182, 0, 81, 16, 12, 162, 0, 7, 4, 167, 0, 4, 3, 184, 0, 85, 42, 180, 0, 29, 187, 0, 109, 89]
abbrev dktX1_stretch_1 : List UInt8 := dkwX1_stretch_1 ++ dktX1_stretch_2
def dkwX1_stretch_0 : List UInt8 := [27, 4, 161, 0, 14, 27, 17, 39, 16, 163, 0, 7, 4, 167, 0, 4, 3, 184, 0, 77, 42, 180, 0, 29]
abbrev dktX1_stretch_0 : List UInt8 := dkwX1_stretch_0 ++ dktX1_stretch_1
theorem dksX1_stretch_0 : cX1_stretch.data.toList.drop 0 = dktX1_stretch_0 := by decide +kernel
theorem dksX1_stretch_1 : cX1_stretch.data.toList.drop 24 = dktX1_stretch_1 := dk_seg dksX1_stretch_0 24 rfl rfl
theorem dksX1_stretch_2 : cX1_stretch.data.toList.drop 48 = dktX1_stretch_2 := dk_seg dksX1_stretch_1 24 rfl rfl
theorem dX1_stretch_0 : decode cX1_stretch 0 = .ok (.iload_n 1, 1) := dk_27 (dk_at dksX1_stretch_0 0 rfl rfl)
theorem dX1_stretch_1 : decode cX1_stretch 1 = .ok (.iconst 1, 1) := dk_4 (dk_at dksX1_stretch_0 1 rfl rfl)
theorem dX1_stretch_2 : decode cX1_stretch 2 = .ok (.if_icmp .lt 14, 3) := dk_161 0 14 (dk_at dksX1_stretch_0 2 rfl rfl)
theorem dX1_stretch_5 : decode cX1_stretch 5 = .ok (.iload_n 1, 1) := dk_27 (dk_at dksX1_stretch_0 5 rfl rfl)
theorem dX1_stretch_6 : decode cX1_stretch 6 = .ok (.sipush 10000, 3) := dk_17 39 16 (dk_at dksX1_stretch_0 6 rfl rfl)
theorem dX1_stretch_9 : decode cX1_stretch 9 = .ok (.if_icmp .gt 7, 3) := dk_163 0 7 (dk_at dksX1_stretch_0 9 rfl rfl)
theorem dX1_stretch_12 : decode cX1_stretch 12 = .ok (.iconst 1, 1) := dk_4 (dk_at dksX1_stretch_0 12 rfl rfl)
theorem dX1_stretch_13 : decode cX1_stretch 13 = .ok (.goto 4, 3) := dk_167 0 4 (dk_at dksX1_stretch_0 13 rfl rfl)
theorem dX1_stretch_16 : decode cX1_stretch 16 = .ok (.iconst 0, 1) := dk_3 (dk_at dksX1_stretch_0 16 rfl rfl)
theorem dX1_stretch_17 : decode cX1_stretch 17 = .ok (.invokestatic 77, 3) := dk_184 0 77 (dk_at dksX1_stretch_0 17 rfl rfl)
theorem dX1_stretch_20 : decode cX1_stretch 20 = .ok (.aload_n 0, 1) := dk_42 (dk_at dksX1_stretch_0 20 rfl rfl)
theorem dX1_stretch_21 : decode cX1_stretch 21 = .ok (.getfield 29, 3) := dk_180 0 29 (dk_at dksX1_stretch_0 21 rfl rfl)
theorem dX1_stretch_24 : decode cX1_stretch 24 = .ok (.invokevirtual 81, 3) := dk_182 0 81 (dk_at dksX1_stretch_1 0 rfl rfl)
theorem dX1_stretch_27 : decode cX1_stretch 27 = .ok (.bipush 12, 2) := dk_16 12 (dk_at dksX1_stretch_1 3 rfl rfl)
theorem dX1_stretch_29 : decode cX1_stretch 29 = .ok (.if_icmp .ge 7, 3) := dk_162 0 7 (dk_at dksX1_stretch_1 5 rfl rfl)
theorem dX1_stretch_32 : decode cX1_stretch 32 = .ok (.iconst 1, 1) := dk_4 (dk_at dksX1_stretch_1 8 rfl rfl)
theorem dX1_stretch_33 : decode cX1_stretch 33 = .ok (.goto 4, 3) := dk_167 0 4 (dk_at dksX1_stretch_1 9 rfl rfl)
theorem dX1_stretch_36 : decode cX1_stretch 36 = .ok (.iconst 0, 1) := dk_3 (dk_at dksX1_stretch_1 12 rfl rfl)
theorem dX1_stretch_37 : decode cX1_stretch 37 = .ok (.invokestatic 85, 3) := dk_184 0 85 (dk_at dksX1_stretch_1 13 rfl rfl)
theorem dX1_stretch_40 : decode cX1_stretch 40 = .ok (.aload_n 0, 1) := dk_42 (dk_at dksX1_stretch_1 16 rfl rfl)
theorem dX1_stretch_41 : decode cX1_stretch 41 = .ok (.getfield 29, 3) := dk_180 0 29 (dk_at dksX1_stretch_1 17 rfl rfl)
theorem dX1_stretch_44 : decode cX1_stretch 44 = .ok (.new 109, 3) := dk_187 0 109 (dk_at dksX1_stretch_1 20 rfl rfl)
theorem dX1_stretch_47 : decode cX1_stretch 47 = .ok (.dup, 1) := dk_89 (dk_at dksX1_stretch_1 23 rfl rfl)
theorem dX1_stretch_48 : decode cX1_stretch 48 = .ok (.iload_n 1, 1) := dk_27 (dk_at dksX1_stretch_2 0 rfl rfl)
theorem dX1_stretch_49 : decode cX1_stretch 49 = .ok (.invokespecial 111, 3) := dk_183 0 111 (dk_at dksX1_stretch_2 1 rfl rfl)
theorem dX1_stretch_52 : decode cX1_stretch 52 = .ok (.invokevirtual 97, 3) := dk_182 0 97 (dk_at dksX1_stretch_2 4 rfl rfl)
theorem dX1_stretch_55 : decode cX1_stretch 55 = .ok (.pop, 1) := dk_87 (dk_at dksX1_stretch_2 7 rfl rfl)
theorem dX1_stretch_56 : decode cX1_stretch 56 = .ok (.aload_n 0, 1) := dk_42 (dk_at dksX1_stretch_2 8 rfl rfl)
theorem dX1_stretch_57 : decode cX1_stretch 57 = .ok (.getfield 29, 3) := dk_180 0 29 (dk_at dksX1_stretch_2 9 rfl rfl)
theorem dX1_stretch_60 : decode cX1_stretch 60 = .ok (.invokevirtual 81, 3) := dk_182 0 81 (dk_at dksX1_stretch_2 12 rfl rfl)
theorem dX1_stretch_63 : decode cX1_stretch 63 = .ok (.iconst 1, 1) := dk_4 (dk_at dksX1_stretch_2 15 rfl rfl)
theorem dX1_stretch_64 : decode cX1_stretch 64 = .ok (.isub, 1) := dk_100 (dk_at dksX1_stretch_2 16 rfl rfl)
theorem dX1_stretch_65 : decode cX1_stretch 65 = .ok (.ireturn, 1) := dk_172 (dk_at dksX1_stretch_2 17 rfl rfl)
abbrev cX1_gate : ByteArray := prog_1_method_10_code
def yX1_gate : MethodName := ⟨RX1, "gate", "(I)I"⟩
def dkwX1_gate_2 : List UInt8 := [183, 0, 118, 182, 0, 97, 87, 42, 180, 0, 32, 182, 0, 81, 4, 100, 172]
abbrev dktX1_gate_2 : List UInt8 := dkwX1_gate_2 ++ []
def dkwX1_gate_1 : List UInt8 := [167, 0, 4, 3, 184, 0, 85, 42, 180, 0, 32, 187, 0, 116, 89, 42, 180, 0, 32, 182, 0, 81, 27]
abbrev dktX1_gate_1 : List UInt8 := dkwX1_gate_1 ++ dktX1_gate_2
def dkwX1_gate_0 : List UInt8 := [27, 42, 180, 0, 29, 182, 0, 81, 184, 0, 112, 42, 180, 0, 32, 182, 0, 81, 16, 8, 162, 0, 7, 4]
abbrev dktX1_gate_0 : List UInt8 := dkwX1_gate_0 ++ dktX1_gate_1
theorem dksX1_gate_0 : cX1_gate.data.toList.drop 0 = dktX1_gate_0 := by decide +kernel
theorem dksX1_gate_1 : cX1_gate.data.toList.drop 24 = dktX1_gate_1 := dk_seg dksX1_gate_0 24 rfl rfl
theorem dksX1_gate_2 : cX1_gate.data.toList.drop 47 = dktX1_gate_2 := dk_seg dksX1_gate_1 23 rfl rfl
theorem dX1_gate_0 : decode cX1_gate 0 = .ok (.iload_n 1, 1) := dk_27 (dk_at dksX1_gate_0 0 rfl rfl)
theorem dX1_gate_1 : decode cX1_gate 1 = .ok (.aload_n 0, 1) := dk_42 (dk_at dksX1_gate_0 1 rfl rfl)
theorem dX1_gate_2 : decode cX1_gate 2 = .ok (.getfield 29, 3) := dk_180 0 29 (dk_at dksX1_gate_0 2 rfl rfl)
theorem dX1_gate_5 : decode cX1_gate 5 = .ok (.invokevirtual 81, 3) := dk_182 0 81 (dk_at dksX1_gate_0 5 rfl rfl)
theorem dX1_gate_8 : decode cX1_gate 8 = .ok (.invokestatic 112, 3) := dk_184 0 112 (dk_at dksX1_gate_0 8 rfl rfl)
theorem dX1_gate_11 : decode cX1_gate 11 = .ok (.aload_n 0, 1) := dk_42 (dk_at dksX1_gate_0 11 rfl rfl)
theorem dX1_gate_12 : decode cX1_gate 12 = .ok (.getfield 32, 3) := dk_180 0 32 (dk_at dksX1_gate_0 12 rfl rfl)
theorem dX1_gate_15 : decode cX1_gate 15 = .ok (.invokevirtual 81, 3) := dk_182 0 81 (dk_at dksX1_gate_0 15 rfl rfl)
theorem dX1_gate_18 : decode cX1_gate 18 = .ok (.bipush 8, 2) := dk_16 8 (dk_at dksX1_gate_0 18 rfl rfl)
theorem dX1_gate_20 : decode cX1_gate 20 = .ok (.if_icmp .ge 7, 3) := dk_162 0 7 (dk_at dksX1_gate_0 20 rfl rfl)
theorem dX1_gate_23 : decode cX1_gate 23 = .ok (.iconst 1, 1) := dk_4 (dk_at dksX1_gate_0 23 rfl rfl)
theorem dX1_gate_24 : decode cX1_gate 24 = .ok (.goto 4, 3) := dk_167 0 4 (dk_at dksX1_gate_1 0 rfl rfl)
theorem dX1_gate_27 : decode cX1_gate 27 = .ok (.iconst 0, 1) := dk_3 (dk_at dksX1_gate_1 3 rfl rfl)
theorem dX1_gate_28 : decode cX1_gate 28 = .ok (.invokestatic 85, 3) := dk_184 0 85 (dk_at dksX1_gate_1 4 rfl rfl)
theorem dX1_gate_31 : decode cX1_gate 31 = .ok (.aload_n 0, 1) := dk_42 (dk_at dksX1_gate_1 7 rfl rfl)
theorem dX1_gate_32 : decode cX1_gate 32 = .ok (.getfield 32, 3) := dk_180 0 32 (dk_at dksX1_gate_1 8 rfl rfl)
theorem dX1_gate_35 : decode cX1_gate 35 = .ok (.new 116, 3) := dk_187 0 116 (dk_at dksX1_gate_1 11 rfl rfl)
theorem dX1_gate_38 : decode cX1_gate 38 = .ok (.dup, 1) := dk_89 (dk_at dksX1_gate_1 14 rfl rfl)
theorem dX1_gate_39 : decode cX1_gate 39 = .ok (.aload_n 0, 1) := dk_42 (dk_at dksX1_gate_1 15 rfl rfl)
theorem dX1_gate_40 : decode cX1_gate 40 = .ok (.getfield 32, 3) := dk_180 0 32 (dk_at dksX1_gate_1 16 rfl rfl)
theorem dX1_gate_43 : decode cX1_gate 43 = .ok (.invokevirtual 81, 3) := dk_182 0 81 (dk_at dksX1_gate_1 19 rfl rfl)
theorem dX1_gate_46 : decode cX1_gate 46 = .ok (.iload_n 1, 1) := dk_27 (dk_at dksX1_gate_1 22 rfl rfl)
theorem dX1_gate_47 : decode cX1_gate 47 = .ok (.invokespecial 118, 3) := dk_183 0 118 (dk_at dksX1_gate_2 0 rfl rfl)
theorem dX1_gate_50 : decode cX1_gate 50 = .ok (.invokevirtual 97, 3) := dk_182 0 97 (dk_at dksX1_gate_2 3 rfl rfl)
theorem dX1_gate_53 : decode cX1_gate 53 = .ok (.pop, 1) := dk_87 (dk_at dksX1_gate_2 6 rfl rfl)
theorem dX1_gate_54 : decode cX1_gate 54 = .ok (.aload_n 0, 1) := dk_42 (dk_at dksX1_gate_2 7 rfl rfl)
theorem dX1_gate_55 : decode cX1_gate 55 = .ok (.getfield 32, 3) := dk_180 0 32 (dk_at dksX1_gate_2 8 rfl rfl)
theorem dX1_gate_58 : decode cX1_gate 58 = .ok (.invokevirtual 81, 3) := dk_182 0 81 (dk_at dksX1_gate_2 11 rfl rfl)
theorem dX1_gate_61 : decode cX1_gate 61 = .ok (.iconst 1, 1) := dk_4 (dk_at dksX1_gate_2 14 rfl rfl)
theorem dX1_gate_62 : decode cX1_gate 62 = .ok (.isub, 1) := dk_100 (dk_at dksX1_gate_2 15 rfl rfl)
theorem dX1_gate_63 : decode cX1_gate 63 = .ok (.ireturn, 1) := dk_172 (dk_at dksX1_gate_2 16 rfl rfl)
abbrev cX1_there : ByteArray := prog_1_method_4_code
def yX1_there : MethodName := ⟨RX1, "there", "(II)V"⟩
def dkwX1_there_0 : List UInt8 := [26, 155, 0, 8, 26, 27, 161, 0, 11, 187, 0, 68, 89, 183, 0, 70, 191, 177]
abbrev dktX1_there_0 : List UInt8 := dkwX1_there_0 ++ []
theorem dksX1_there_0 : cX1_there.data.toList.drop 0 = dktX1_there_0 := by decide +kernel
theorem dX1_there_0 : decode cX1_there 0 = .ok (.iload_n 0, 1) := dk_26 (dk_at dksX1_there_0 0 rfl rfl)
theorem dX1_there_1 : decode cX1_there 1 = .ok (.ifCond .lt 8, 3) := dk_155 0 8 (dk_at dksX1_there_0 1 rfl rfl)
theorem dX1_there_4 : decode cX1_there 4 = .ok (.iload_n 0, 1) := dk_26 (dk_at dksX1_there_0 4 rfl rfl)
theorem dX1_there_5 : decode cX1_there 5 = .ok (.iload_n 1, 1) := dk_27 (dk_at dksX1_there_0 5 rfl rfl)
theorem dX1_there_6 : decode cX1_there 6 = .ok (.if_icmp .lt 11, 3) := dk_161 0 11 (dk_at dksX1_there_0 6 rfl rfl)
theorem dX1_there_9 : decode cX1_there 9 = .ok (.new 68, 3) := dk_187 0 68 (dk_at dksX1_there_0 9 rfl rfl)
theorem dX1_there_12 : decode cX1_there 12 = .ok (.dup, 1) := dk_89 (dk_at dksX1_there_0 12 rfl rfl)
theorem dX1_there_13 : decode cX1_there 13 = .ok (.invokespecial 70, 3) := dk_183 0 70 (dk_at dksX1_there_0 13 rfl rfl)
theorem dX1_there_16 : decode cX1_there 16 = .ok (.athrow, 1) := dk_191 (dk_at dksX1_there_0 16 rfl rfl)
theorem dX1_there_17 : decode cX1_there 17 = .ok (.return_, 1) := dk_177 (dk_at dksX1_there_0 17 rfl rfl)
abbrev cX1_traveller : ByteArray := prog_1_method_11_code
def yX1_traveller : MethodName := ⟨RX1, "traveller", "(IIII)I"⟩
def dkwX1_traveller_6 : List UInt8 := [182, 0, 97, 87, 21, 5, 172]
abbrev dktX1_traveller_6 : List UInt8 := dkwX1_traveller_6 ++ []
def dkwX1_traveller_5 : List UInt8 := [29, 21, 4, 183, 0, 127, 167, 0, 17, 187, 0, 128, 89, 21, 5, 27, 28, 29, 21, 4, 183, 0, 130]
abbrev dktX1_traveller_5 : List UInt8 := dkwX1_traveller_5 ++ dktX1_traveller_6
def dkwX1_traveller_4 : List UInt8 := [183, 0, 122, 167, 0, 44, 27, 7, 159, 0, 8, 27, 8, 160, 0, 20, 187, 0, 125, 89, 21, 5, 27, 28]
abbrev dktX1_traveller_4 : List UInt8 := dkwX1_traveller_4 ++ dktX1_traveller_5
def dkwX1_traveller_3 : List UInt8 := [184, 0, 85, 42, 180, 0, 35, 27, 6, 162, 0, 20, 187, 0, 120, 89, 21, 5, 27, 28, 29, 21, 4]
abbrev dktX1_traveller_3 : List UInt8 := dkwX1_traveller_3 ++ dktX1_traveller_4
def dkwX1_traveller_2 : List UInt8 := [184, 0, 77, 42, 180, 0, 35, 182, 0, 81, 54, 5, 21, 5, 16, 60, 162, 0, 7, 4, 167, 0, 4, 3]
abbrev dktX1_traveller_2 : List UInt8 := dkwX1_traveller_2 ++ dktX1_traveller_3
def dkwX1_traveller_1 : List UInt8 := [29, 17, 39, 16, 163, 0, 19, 21, 4, 155, 0, 14, 21, 4, 16, 15, 163, 0, 7, 4, 167, 0, 4, 3]
abbrev dktX1_traveller_1 : List UInt8 := dkwX1_traveller_1 ++ dktX1_traveller_2
def dkwX1_traveller_0 : List UInt8 := [27, 155, 0, 46, 27, 16, 6, 163, 0, 40, 28, 155, 0, 36, 28, 16, 20, 163, 0, 30, 29, 155, 0, 26]
abbrev dktX1_traveller_0 : List UInt8 := dkwX1_traveller_0 ++ dktX1_traveller_1
theorem dksX1_traveller_0 : cX1_traveller.data.toList.drop 0 = dktX1_traveller_0 := by decide +kernel
theorem dksX1_traveller_1 : cX1_traveller.data.toList.drop 24 = dktX1_traveller_1 := dk_seg dksX1_traveller_0 24 rfl rfl
theorem dksX1_traveller_2 : cX1_traveller.data.toList.drop 48 = dktX1_traveller_2 := dk_seg dksX1_traveller_1 24 rfl rfl
theorem dksX1_traveller_3 : cX1_traveller.data.toList.drop 72 = dktX1_traveller_3 := dk_seg dksX1_traveller_2 24 rfl rfl
theorem dksX1_traveller_4 : cX1_traveller.data.toList.drop 95 = dktX1_traveller_4 := dk_seg dksX1_traveller_3 23 rfl rfl
theorem dksX1_traveller_5 : cX1_traveller.data.toList.drop 119 = dktX1_traveller_5 := dk_seg dksX1_traveller_4 24 rfl rfl
theorem dksX1_traveller_6 : cX1_traveller.data.toList.drop 142 = dktX1_traveller_6 := dk_seg dksX1_traveller_5 23 rfl rfl
theorem dX1_traveller_0 : decode cX1_traveller 0 = .ok (.iload_n 1, 1) := dk_27 (dk_at dksX1_traveller_0 0 rfl rfl)
theorem dX1_traveller_1 : decode cX1_traveller 1 = .ok (.ifCond .lt 46, 3) := dk_155 0 46 (dk_at dksX1_traveller_0 1 rfl rfl)
theorem dX1_traveller_4 : decode cX1_traveller 4 = .ok (.iload_n 1, 1) := dk_27 (dk_at dksX1_traveller_0 4 rfl rfl)
theorem dX1_traveller_5 : decode cX1_traveller 5 = .ok (.bipush 6, 2) := dk_16 6 (dk_at dksX1_traveller_0 5 rfl rfl)
theorem dX1_traveller_7 : decode cX1_traveller 7 = .ok (.if_icmp .gt 40, 3) := dk_163 0 40 (dk_at dksX1_traveller_0 7 rfl rfl)
theorem dX1_traveller_10 : decode cX1_traveller 10 = .ok (.iload_n 2, 1) := dk_28 (dk_at dksX1_traveller_0 10 rfl rfl)
theorem dX1_traveller_11 : decode cX1_traveller 11 = .ok (.ifCond .lt 36, 3) := dk_155 0 36 (dk_at dksX1_traveller_0 11 rfl rfl)
theorem dX1_traveller_14 : decode cX1_traveller 14 = .ok (.iload_n 2, 1) := dk_28 (dk_at dksX1_traveller_0 14 rfl rfl)
theorem dX1_traveller_15 : decode cX1_traveller 15 = .ok (.bipush 20, 2) := dk_16 20 (dk_at dksX1_traveller_0 15 rfl rfl)
theorem dX1_traveller_17 : decode cX1_traveller 17 = .ok (.if_icmp .gt 30, 3) := dk_163 0 30 (dk_at dksX1_traveller_0 17 rfl rfl)
theorem dX1_traveller_20 : decode cX1_traveller 20 = .ok (.iload_n 3, 1) := dk_29 (dk_at dksX1_traveller_0 20 rfl rfl)
theorem dX1_traveller_21 : decode cX1_traveller 21 = .ok (.ifCond .lt 26, 3) := dk_155 0 26 (dk_at dksX1_traveller_0 21 rfl rfl)
theorem dX1_traveller_24 : decode cX1_traveller 24 = .ok (.iload_n 3, 1) := dk_29 (dk_at dksX1_traveller_1 0 rfl rfl)
theorem dX1_traveller_25 : decode cX1_traveller 25 = .ok (.sipush 10000, 3) := dk_17 39 16 (dk_at dksX1_traveller_1 1 rfl rfl)
theorem dX1_traveller_28 : decode cX1_traveller 28 = .ok (.if_icmp .gt 19, 3) := dk_163 0 19 (dk_at dksX1_traveller_1 4 rfl rfl)
theorem dX1_traveller_31 : decode cX1_traveller 31 = .ok (.iload 4, 2) := dk_21 4 (dk_at dksX1_traveller_1 7 rfl rfl)
theorem dX1_traveller_33 : decode cX1_traveller 33 = .ok (.ifCond .lt 14, 3) := dk_155 0 14 (dk_at dksX1_traveller_1 9 rfl rfl)
theorem dX1_traveller_36 : decode cX1_traveller 36 = .ok (.iload 4, 2) := dk_21 4 (dk_at dksX1_traveller_1 12 rfl rfl)
theorem dX1_traveller_38 : decode cX1_traveller 38 = .ok (.bipush 15, 2) := dk_16 15 (dk_at dksX1_traveller_1 14 rfl rfl)
theorem dX1_traveller_40 : decode cX1_traveller 40 = .ok (.if_icmp .gt 7, 3) := dk_163 0 7 (dk_at dksX1_traveller_1 16 rfl rfl)
theorem dX1_traveller_43 : decode cX1_traveller 43 = .ok (.iconst 1, 1) := dk_4 (dk_at dksX1_traveller_1 19 rfl rfl)
theorem dX1_traveller_44 : decode cX1_traveller 44 = .ok (.goto 4, 3) := dk_167 0 4 (dk_at dksX1_traveller_1 20 rfl rfl)
theorem dX1_traveller_47 : decode cX1_traveller 47 = .ok (.iconst 0, 1) := dk_3 (dk_at dksX1_traveller_1 23 rfl rfl)
theorem dX1_traveller_48 : decode cX1_traveller 48 = .ok (.invokestatic 77, 3) := dk_184 0 77 (dk_at dksX1_traveller_2 0 rfl rfl)
theorem dX1_traveller_51 : decode cX1_traveller 51 = .ok (.aload_n 0, 1) := dk_42 (dk_at dksX1_traveller_2 3 rfl rfl)
theorem dX1_traveller_52 : decode cX1_traveller 52 = .ok (.getfield 35, 3) := dk_180 0 35 (dk_at dksX1_traveller_2 4 rfl rfl)
theorem dX1_traveller_55 : decode cX1_traveller 55 = .ok (.invokevirtual 81, 3) := dk_182 0 81 (dk_at dksX1_traveller_2 7 rfl rfl)
theorem dX1_traveller_58 : decode cX1_traveller 58 = .ok (.istore 5, 2) := dk_54 5 (dk_at dksX1_traveller_2 10 rfl rfl)
theorem dX1_traveller_60 : decode cX1_traveller 60 = .ok (.iload 5, 2) := dk_21 5 (dk_at dksX1_traveller_2 12 rfl rfl)
theorem dX1_traveller_62 : decode cX1_traveller 62 = .ok (.bipush 60, 2) := dk_16 60 (dk_at dksX1_traveller_2 14 rfl rfl)
theorem dX1_traveller_64 : decode cX1_traveller 64 = .ok (.if_icmp .ge 7, 3) := dk_162 0 7 (dk_at dksX1_traveller_2 16 rfl rfl)
theorem dX1_traveller_67 : decode cX1_traveller 67 = .ok (.iconst 1, 1) := dk_4 (dk_at dksX1_traveller_2 19 rfl rfl)
theorem dX1_traveller_68 : decode cX1_traveller 68 = .ok (.goto 4, 3) := dk_167 0 4 (dk_at dksX1_traveller_2 20 rfl rfl)
theorem dX1_traveller_71 : decode cX1_traveller 71 = .ok (.iconst 0, 1) := dk_3 (dk_at dksX1_traveller_2 23 rfl rfl)
theorem dX1_traveller_72 : decode cX1_traveller 72 = .ok (.invokestatic 85, 3) := dk_184 0 85 (dk_at dksX1_traveller_3 0 rfl rfl)
theorem dX1_traveller_75 : decode cX1_traveller 75 = .ok (.aload_n 0, 1) := dk_42 (dk_at dksX1_traveller_3 3 rfl rfl)
theorem dX1_traveller_76 : decode cX1_traveller 76 = .ok (.getfield 35, 3) := dk_180 0 35 (dk_at dksX1_traveller_3 4 rfl rfl)
theorem dX1_traveller_79 : decode cX1_traveller 79 = .ok (.iload_n 1, 1) := dk_27 (dk_at dksX1_traveller_3 7 rfl rfl)
theorem dX1_traveller_80 : decode cX1_traveller 80 = .ok (.iconst 3, 1) := dk_6 (dk_at dksX1_traveller_3 8 rfl rfl)
theorem dX1_traveller_81 : decode cX1_traveller 81 = .ok (.if_icmp .ge 20, 3) := dk_162 0 20 (dk_at dksX1_traveller_3 9 rfl rfl)
theorem dX1_traveller_84 : decode cX1_traveller 84 = .ok (.new 120, 3) := dk_187 0 120 (dk_at dksX1_traveller_3 12 rfl rfl)
theorem dX1_traveller_87 : decode cX1_traveller 87 = .ok (.dup, 1) := dk_89 (dk_at dksX1_traveller_3 15 rfl rfl)
theorem dX1_traveller_88 : decode cX1_traveller 88 = .ok (.iload 5, 2) := dk_21 5 (dk_at dksX1_traveller_3 16 rfl rfl)
theorem dX1_traveller_90 : decode cX1_traveller 90 = .ok (.iload_n 1, 1) := dk_27 (dk_at dksX1_traveller_3 18 rfl rfl)
theorem dX1_traveller_91 : decode cX1_traveller 91 = .ok (.iload_n 2, 1) := dk_28 (dk_at dksX1_traveller_3 19 rfl rfl)
theorem dX1_traveller_92 : decode cX1_traveller 92 = .ok (.iload_n 3, 1) := dk_29 (dk_at dksX1_traveller_3 20 rfl rfl)
theorem dX1_traveller_93 : decode cX1_traveller 93 = .ok (.iload 4, 2) := dk_21 4 (dk_at dksX1_traveller_3 21 rfl rfl)
theorem dX1_traveller_95 : decode cX1_traveller 95 = .ok (.invokespecial 122, 3) := dk_183 0 122 (dk_at dksX1_traveller_4 0 rfl rfl)
theorem dX1_traveller_98 : decode cX1_traveller 98 = .ok (.goto 44, 3) := dk_167 0 44 (dk_at dksX1_traveller_4 3 rfl rfl)
theorem dX1_traveller_101 : decode cX1_traveller 101 = .ok (.iload_n 1, 1) := dk_27 (dk_at dksX1_traveller_4 6 rfl rfl)
theorem dX1_traveller_102 : decode cX1_traveller 102 = .ok (.iconst 4, 1) := dk_7 (dk_at dksX1_traveller_4 7 rfl rfl)
theorem dX1_traveller_103 : decode cX1_traveller 103 = .ok (.if_icmp .eq 8, 3) := dk_159 0 8 (dk_at dksX1_traveller_4 8 rfl rfl)
theorem dX1_traveller_106 : decode cX1_traveller 106 = .ok (.iload_n 1, 1) := dk_27 (dk_at dksX1_traveller_4 11 rfl rfl)
theorem dX1_traveller_107 : decode cX1_traveller 107 = .ok (.iconst 5, 1) := dk_8 (dk_at dksX1_traveller_4 12 rfl rfl)
theorem dX1_traveller_108 : decode cX1_traveller 108 = .ok (.if_icmp .ne 20, 3) := dk_160 0 20 (dk_at dksX1_traveller_4 13 rfl rfl)
theorem dX1_traveller_111 : decode cX1_traveller 111 = .ok (.new 125, 3) := dk_187 0 125 (dk_at dksX1_traveller_4 16 rfl rfl)
theorem dX1_traveller_114 : decode cX1_traveller 114 = .ok (.dup, 1) := dk_89 (dk_at dksX1_traveller_4 19 rfl rfl)
theorem dX1_traveller_115 : decode cX1_traveller 115 = .ok (.iload 5, 2) := dk_21 5 (dk_at dksX1_traveller_4 20 rfl rfl)
theorem dX1_traveller_117 : decode cX1_traveller 117 = .ok (.iload_n 1, 1) := dk_27 (dk_at dksX1_traveller_4 22 rfl rfl)
theorem dX1_traveller_118 : decode cX1_traveller 118 = .ok (.iload_n 2, 1) := dk_28 (dk_at dksX1_traveller_4 23 rfl rfl)
theorem dX1_traveller_119 : decode cX1_traveller 119 = .ok (.iload_n 3, 1) := dk_29 (dk_at dksX1_traveller_5 0 rfl rfl)
theorem dX1_traveller_120 : decode cX1_traveller 120 = .ok (.iload 4, 2) := dk_21 4 (dk_at dksX1_traveller_5 1 rfl rfl)
theorem dX1_traveller_122 : decode cX1_traveller 122 = .ok (.invokespecial 127, 3) := dk_183 0 127 (dk_at dksX1_traveller_5 3 rfl rfl)
theorem dX1_traveller_125 : decode cX1_traveller 125 = .ok (.goto 17, 3) := dk_167 0 17 (dk_at dksX1_traveller_5 6 rfl rfl)
theorem dX1_traveller_128 : decode cX1_traveller 128 = .ok (.new 128, 3) := dk_187 0 128 (dk_at dksX1_traveller_5 9 rfl rfl)
theorem dX1_traveller_131 : decode cX1_traveller 131 = .ok (.dup, 1) := dk_89 (dk_at dksX1_traveller_5 12 rfl rfl)
theorem dX1_traveller_132 : decode cX1_traveller 132 = .ok (.iload 5, 2) := dk_21 5 (dk_at dksX1_traveller_5 13 rfl rfl)
theorem dX1_traveller_134 : decode cX1_traveller 134 = .ok (.iload_n 1, 1) := dk_27 (dk_at dksX1_traveller_5 15 rfl rfl)
theorem dX1_traveller_135 : decode cX1_traveller 135 = .ok (.iload_n 2, 1) := dk_28 (dk_at dksX1_traveller_5 16 rfl rfl)
theorem dX1_traveller_136 : decode cX1_traveller 136 = .ok (.iload_n 3, 1) := dk_29 (dk_at dksX1_traveller_5 17 rfl rfl)
theorem dX1_traveller_137 : decode cX1_traveller 137 = .ok (.iload 4, 2) := dk_21 4 (dk_at dksX1_traveller_5 18 rfl rfl)
theorem dX1_traveller_139 : decode cX1_traveller 139 = .ok (.invokespecial 130, 3) := dk_183 0 130 (dk_at dksX1_traveller_5 20 rfl rfl)
theorem dX1_traveller_142 : decode cX1_traveller 142 = .ok (.invokevirtual 97, 3) := dk_182 0 97 (dk_at dksX1_traveller_6 0 rfl rfl)
theorem dX1_traveller_145 : decode cX1_traveller 145 = .ok (.pop, 1) := dk_87 (dk_at dksX1_traveller_6 3 rfl rfl)
theorem dX1_traveller_146 : decode cX1_traveller 146 = .ok (.iload 5, 2) := dk_21 5 (dk_at dksX1_traveller_6 4 rfl rfl)
theorem dX1_traveller_148 : decode cX1_traveller 148 = .ok (.ireturn, 1) := dk_172 (dk_at dksX1_traveller_6 6 rfl rfl)
abbrev cX1_pass : ByteArray := prog_1_method_14_code
def yX1_pass : MethodName := ⟨RX1, "pass", "(II)I"⟩
def dkwX1_pass_9 : List UInt8 := [136, 172]
abbrev dktX1_pass_9 : List UInt8 := dkwX1_pass_9 ++ []
def dkwX1_pass_8 : List UInt8 := [182, 0, 217, 133, 42, 180, 0, 219, 158, 0, 7, 5, 167, 0, 4, 4, 133, 105, 97, 181, 0, 214, 22, 5]
abbrev dktX1_pass_8 : List UInt8 := dkwX1_pass_8 ++ dktX1_pass_9
def dkwX1_pass_7 : List UInt8 := [181, 0, 208, 42, 180, 0, 29, 25, 4, 180, 0, 211, 182, 0, 162, 192, 0, 109, 89, 180, 0, 214, 45]
abbrev dktX1_pass_7 : List UInt8 := dkwX1_pass_7 ++ dktX1_pass_8
def dkwX1_pass_6 : List UInt8 := [181, 0, 201, 167, 0, 11, 42, 3, 27, 22, 5, 182, 0, 204, 25, 4, 89, 180, 0, 208, 4, 96]
abbrev dktX1_pass_6 : List UInt8 := dkwX1_pass_6 ++ dktX1_pass_7
def dkwX1_pass_5 : List UInt8 := [180, 0, 38, 25, 4, 180, 0, 190, 180, 0, 194, 182, 0, 162, 192, 0, 199, 89, 180, 0, 201, 22, 5, 97]
abbrev dktX1_pass_5 : List UInt8 := dkwX1_pass_5 ++ dktX1_pass_6
def dkwX1_pass_4 : List UInt8 := [9, 148, 158, 0, 60, 45, 180, 0, 131, 28, 42, 180, 0, 137, 79, 25, 4, 180, 0, 190, 198, 0, 34, 42]
abbrev dktX1_pass_4 : List UInt8 := dkwX1_pass_4 ++ dktX1_pass_5
def dkwX1_pass_3 : List UInt8 := [181, 0, 17, 42, 180, 0, 54, 180, 0, 186, 55, 5, 45, 180, 0, 155, 28, 42, 180, 0, 137, 79, 22, 5]
abbrev dktX1_pass_3 : List UInt8 := dkwX1_pass_3 ++ dktX1_pass_4
def dkwX1_pass_2 : List UInt8 := [42, 42, 42, 180, 0, 137, 182, 0, 175, 45, 25, 4, 182, 0, 179, 42, 42, 180, 0, 54, 180, 0, 183]
abbrev dktX1_pass_2 : List UInt8 := dkwX1_pass_2 ++ dktX1_pass_3
def dkwX1_pass_1 : List UInt8 := [180, 0, 35, 27, 182, 0, 162, 192, 0, 132, 78, 42, 180, 0, 32, 28, 182, 0, 162, 192, 0, 116, 58, 4]
abbrev dktX1_pass_1 : List UInt8 := dkwX1_pass_1 ++ dktX1_pass_2
def dkwX1_pass_0 : List UInt8 := [27, 42, 180, 0, 35, 182, 0, 81, 184, 0, 112, 28, 42, 180, 0, 32, 182, 0, 81, 184, 0, 112, 42]
abbrev dktX1_pass_0 : List UInt8 := dkwX1_pass_0 ++ dktX1_pass_1
theorem dksX1_pass_0 : cX1_pass.data.toList.drop 0 = dktX1_pass_0 := by decide +kernel
theorem dksX1_pass_1 : cX1_pass.data.toList.drop 23 = dktX1_pass_1 := dk_seg dksX1_pass_0 23 rfl rfl
theorem dksX1_pass_2 : cX1_pass.data.toList.drop 47 = dktX1_pass_2 := dk_seg dksX1_pass_1 24 rfl rfl
theorem dksX1_pass_3 : cX1_pass.data.toList.drop 70 = dktX1_pass_3 := dk_seg dksX1_pass_2 23 rfl rfl
theorem dksX1_pass_4 : cX1_pass.data.toList.drop 94 = dktX1_pass_4 := dk_seg dksX1_pass_3 24 rfl rfl
theorem dksX1_pass_5 : cX1_pass.data.toList.drop 118 = dktX1_pass_5 := dk_seg dksX1_pass_4 24 rfl rfl
theorem dksX1_pass_6 : cX1_pass.data.toList.drop 142 = dktX1_pass_6 := dk_seg dksX1_pass_5 24 rfl rfl
theorem dksX1_pass_7 : cX1_pass.data.toList.drop 164 = dktX1_pass_7 := dk_seg dksX1_pass_6 22 rfl rfl
theorem dksX1_pass_8 : cX1_pass.data.toList.drop 187 = dktX1_pass_8 := dk_seg dksX1_pass_7 23 rfl rfl
theorem dksX1_pass_9 : cX1_pass.data.toList.drop 211 = dktX1_pass_9 := dk_seg dksX1_pass_8 24 rfl rfl
theorem dX1_pass_0 : decode cX1_pass 0 = .ok (.iload_n 1, 1) := dk_27 (dk_at dksX1_pass_0 0 rfl rfl)
theorem dX1_pass_1 : decode cX1_pass 1 = .ok (.aload_n 0, 1) := dk_42 (dk_at dksX1_pass_0 1 rfl rfl)
theorem dX1_pass_2 : decode cX1_pass 2 = .ok (.getfield 35, 3) := dk_180 0 35 (dk_at dksX1_pass_0 2 rfl rfl)
theorem dX1_pass_5 : decode cX1_pass 5 = .ok (.invokevirtual 81, 3) := dk_182 0 81 (dk_at dksX1_pass_0 5 rfl rfl)
theorem dX1_pass_8 : decode cX1_pass 8 = .ok (.invokestatic 112, 3) := dk_184 0 112 (dk_at dksX1_pass_0 8 rfl rfl)
theorem dX1_pass_11 : decode cX1_pass 11 = .ok (.iload_n 2, 1) := dk_28 (dk_at dksX1_pass_0 11 rfl rfl)
theorem dX1_pass_12 : decode cX1_pass 12 = .ok (.aload_n 0, 1) := dk_42 (dk_at dksX1_pass_0 12 rfl rfl)
theorem dX1_pass_13 : decode cX1_pass 13 = .ok (.getfield 32, 3) := dk_180 0 32 (dk_at dksX1_pass_0 13 rfl rfl)
theorem dX1_pass_16 : decode cX1_pass 16 = .ok (.invokevirtual 81, 3) := dk_182 0 81 (dk_at dksX1_pass_0 16 rfl rfl)
theorem dX1_pass_19 : decode cX1_pass 19 = .ok (.invokestatic 112, 3) := dk_184 0 112 (dk_at dksX1_pass_0 19 rfl rfl)
theorem dX1_pass_22 : decode cX1_pass 22 = .ok (.aload_n 0, 1) := dk_42 (dk_at dksX1_pass_0 22 rfl rfl)
theorem dX1_pass_23 : decode cX1_pass 23 = .ok (.getfield 35, 3) := dk_180 0 35 (dk_at dksX1_pass_1 0 rfl rfl)
theorem dX1_pass_26 : decode cX1_pass 26 = .ok (.iload_n 1, 1) := dk_27 (dk_at dksX1_pass_1 3 rfl rfl)
theorem dX1_pass_27 : decode cX1_pass 27 = .ok (.invokevirtual 162, 3) := dk_182 0 162 (dk_at dksX1_pass_1 4 rfl rfl)
theorem dX1_pass_30 : decode cX1_pass 30 = .ok (.checkcast 132, 3) := dk_192 0 132 (dk_at dksX1_pass_1 7 rfl rfl)
theorem dX1_pass_33 : decode cX1_pass 33 = .ok (.astore_n 3, 1) := dk_78 (dk_at dksX1_pass_1 10 rfl rfl)
theorem dX1_pass_34 : decode cX1_pass 34 = .ok (.aload_n 0, 1) := dk_42 (dk_at dksX1_pass_1 11 rfl rfl)
theorem dX1_pass_35 : decode cX1_pass 35 = .ok (.getfield 32, 3) := dk_180 0 32 (dk_at dksX1_pass_1 12 rfl rfl)
theorem dX1_pass_38 : decode cX1_pass 38 = .ok (.iload_n 2, 1) := dk_28 (dk_at dksX1_pass_1 15 rfl rfl)
theorem dX1_pass_39 : decode cX1_pass 39 = .ok (.invokevirtual 162, 3) := dk_182 0 162 (dk_at dksX1_pass_1 16 rfl rfl)
theorem dX1_pass_42 : decode cX1_pass 42 = .ok (.checkcast 116, 3) := dk_192 0 116 (dk_at dksX1_pass_1 19 rfl rfl)
theorem dX1_pass_45 : decode cX1_pass 45 = .ok (.astore 4, 2) := dk_58 4 (dk_at dksX1_pass_1 22 rfl rfl)
theorem dX1_pass_47 : decode cX1_pass 47 = .ok (.aload_n 0, 1) := dk_42 (dk_at dksX1_pass_2 0 rfl rfl)
theorem dX1_pass_48 : decode cX1_pass 48 = .ok (.aload_n 0, 1) := dk_42 (dk_at dksX1_pass_2 1 rfl rfl)
theorem dX1_pass_49 : decode cX1_pass 49 = .ok (.aload_n 0, 1) := dk_42 (dk_at dksX1_pass_2 2 rfl rfl)
theorem dX1_pass_50 : decode cX1_pass 50 = .ok (.getfield 137, 3) := dk_180 0 137 (dk_at dksX1_pass_2 3 rfl rfl)
theorem dX1_pass_53 : decode cX1_pass 53 = .ok (.invokevirtual 175, 3) := dk_182 0 175 (dk_at dksX1_pass_2 6 rfl rfl)
theorem dX1_pass_56 : decode cX1_pass 56 = .ok (.aload_n 3, 1) := dk_45 (dk_at dksX1_pass_2 9 rfl rfl)
theorem dX1_pass_57 : decode cX1_pass 57 = .ok (.aload 4, 2) := dk_25 4 (dk_at dksX1_pass_2 10 rfl rfl)
theorem dX1_pass_59 : decode cX1_pass 59 = .ok (.invokevirtual 179, 3) := dk_182 0 179 (dk_at dksX1_pass_2 12 rfl rfl)
theorem dX1_pass_62 : decode cX1_pass 62 = .ok (.aload_n 0, 1) := dk_42 (dk_at dksX1_pass_2 15 rfl rfl)
theorem dX1_pass_63 : decode cX1_pass 63 = .ok (.aload_n 0, 1) := dk_42 (dk_at dksX1_pass_2 16 rfl rfl)
theorem dX1_pass_64 : decode cX1_pass 64 = .ok (.getfield 54, 3) := dk_180 0 54 (dk_at dksX1_pass_2 17 rfl rfl)
theorem dX1_pass_67 : decode cX1_pass 67 = .ok (.getfield 183, 3) := dk_180 0 183 (dk_at dksX1_pass_2 20 rfl rfl)
theorem dX1_pass_70 : decode cX1_pass 70 = .ok (.putfield 17, 3) := dk_181 0 17 (dk_at dksX1_pass_3 0 rfl rfl)
theorem dX1_pass_73 : decode cX1_pass 73 = .ok (.aload_n 0, 1) := dk_42 (dk_at dksX1_pass_3 3 rfl rfl)
theorem dX1_pass_74 : decode cX1_pass 74 = .ok (.getfield 54, 3) := dk_180 0 54 (dk_at dksX1_pass_3 4 rfl rfl)
theorem dX1_pass_77 : decode cX1_pass 77 = .ok (.getfield 186, 3) := dk_180 0 186 (dk_at dksX1_pass_3 7 rfl rfl)
theorem dX1_pass_80 : decode cX1_pass 80 = .ok (.lstore 5, 2) := dk_55 5 (dk_at dksX1_pass_3 10 rfl rfl)
theorem dX1_pass_82 : decode cX1_pass 82 = .ok (.aload_n 3, 1) := dk_45 (dk_at dksX1_pass_3 12 rfl rfl)
theorem dX1_pass_83 : decode cX1_pass 83 = .ok (.getfield 155, 3) := dk_180 0 155 (dk_at dksX1_pass_3 13 rfl rfl)
theorem dX1_pass_86 : decode cX1_pass 86 = .ok (.iload_n 2, 1) := dk_28 (dk_at dksX1_pass_3 16 rfl rfl)
theorem dX1_pass_87 : decode cX1_pass 87 = .ok (.aload_n 0, 1) := dk_42 (dk_at dksX1_pass_3 17 rfl rfl)
theorem dX1_pass_88 : decode cX1_pass 88 = .ok (.getfield 137, 3) := dk_180 0 137 (dk_at dksX1_pass_3 18 rfl rfl)
theorem dX1_pass_91 : decode cX1_pass 91 = .ok (.iastore, 1) := dk_79 (dk_at dksX1_pass_3 21 rfl rfl)
theorem dX1_pass_92 : decode cX1_pass 92 = .ok (.lload 5, 2) := dk_22 5 (dk_at dksX1_pass_3 22 rfl rfl)
theorem dX1_pass_94 : decode cX1_pass 94 = .ok (.lconst 0, 1) := dk_9 (dk_at dksX1_pass_4 0 rfl rfl)
theorem dX1_pass_95 : decode cX1_pass 95 = .ok (.lcmp, 1) := dk_148 (dk_at dksX1_pass_4 1 rfl rfl)
theorem dX1_pass_96 : decode cX1_pass 96 = .ok (.ifCond .le 60, 3) := dk_158 0 60 (dk_at dksX1_pass_4 2 rfl rfl)
theorem dX1_pass_99 : decode cX1_pass 99 = .ok (.aload_n 3, 1) := dk_45 (dk_at dksX1_pass_4 5 rfl rfl)
theorem dX1_pass_100 : decode cX1_pass 100 = .ok (.getfield 131, 3) := dk_180 0 131 (dk_at dksX1_pass_4 6 rfl rfl)
theorem dX1_pass_103 : decode cX1_pass 103 = .ok (.iload_n 2, 1) := dk_28 (dk_at dksX1_pass_4 9 rfl rfl)
theorem dX1_pass_104 : decode cX1_pass 104 = .ok (.aload_n 0, 1) := dk_42 (dk_at dksX1_pass_4 10 rfl rfl)
theorem dX1_pass_105 : decode cX1_pass 105 = .ok (.getfield 137, 3) := dk_180 0 137 (dk_at dksX1_pass_4 11 rfl rfl)
theorem dX1_pass_108 : decode cX1_pass 108 = .ok (.iastore, 1) := dk_79 (dk_at dksX1_pass_4 14 rfl rfl)
theorem dX1_pass_109 : decode cX1_pass 109 = .ok (.aload 4, 2) := dk_25 4 (dk_at dksX1_pass_4 15 rfl rfl)
theorem dX1_pass_111 : decode cX1_pass 111 = .ok (.getfield 190, 3) := dk_180 0 190 (dk_at dksX1_pass_4 17 rfl rfl)
theorem dX1_pass_114 : decode cX1_pass 114 = .ok (.ifnull 34, 3) := dk_198 0 34 (dk_at dksX1_pass_4 20 rfl rfl)
theorem dX1_pass_117 : decode cX1_pass 117 = .ok (.aload_n 0, 1) := dk_42 (dk_at dksX1_pass_4 23 rfl rfl)
theorem dX1_pass_118 : decode cX1_pass 118 = .ok (.getfield 38, 3) := dk_180 0 38 (dk_at dksX1_pass_5 0 rfl rfl)
theorem dX1_pass_121 : decode cX1_pass 121 = .ok (.aload 4, 2) := dk_25 4 (dk_at dksX1_pass_5 3 rfl rfl)
theorem dX1_pass_123 : decode cX1_pass 123 = .ok (.getfield 190, 3) := dk_180 0 190 (dk_at dksX1_pass_5 5 rfl rfl)
theorem dX1_pass_126 : decode cX1_pass 126 = .ok (.getfield 194, 3) := dk_180 0 194 (dk_at dksX1_pass_5 8 rfl rfl)
theorem dX1_pass_129 : decode cX1_pass 129 = .ok (.invokevirtual 162, 3) := dk_182 0 162 (dk_at dksX1_pass_5 11 rfl rfl)
theorem dX1_pass_132 : decode cX1_pass 132 = .ok (.checkcast 199, 3) := dk_192 0 199 (dk_at dksX1_pass_5 14 rfl rfl)
theorem dX1_pass_135 : decode cX1_pass 135 = .ok (.dup, 1) := dk_89 (dk_at dksX1_pass_5 17 rfl rfl)
theorem dX1_pass_136 : decode cX1_pass 136 = .ok (.getfield 201, 3) := dk_180 0 201 (dk_at dksX1_pass_5 18 rfl rfl)
theorem dX1_pass_139 : decode cX1_pass 139 = .ok (.lload 5, 2) := dk_22 5 (dk_at dksX1_pass_5 21 rfl rfl)
theorem dX1_pass_141 : decode cX1_pass 141 = .ok (.ladd, 1) := dk_97 (dk_at dksX1_pass_5 23 rfl rfl)
theorem dX1_pass_142 : decode cX1_pass 142 = .ok (.putfield 201, 3) := dk_181 0 201 (dk_at dksX1_pass_6 0 rfl rfl)
theorem dX1_pass_145 : decode cX1_pass 145 = .ok (.goto 11, 3) := dk_167 0 11 (dk_at dksX1_pass_6 3 rfl rfl)
theorem dX1_pass_148 : decode cX1_pass 148 = .ok (.aload_n 0, 1) := dk_42 (dk_at dksX1_pass_6 6 rfl rfl)
theorem dX1_pass_149 : decode cX1_pass 149 = .ok (.iconst 0, 1) := dk_3 (dk_at dksX1_pass_6 7 rfl rfl)
theorem dX1_pass_150 : decode cX1_pass 150 = .ok (.iload_n 1, 1) := dk_27 (dk_at dksX1_pass_6 8 rfl rfl)
theorem dX1_pass_151 : decode cX1_pass 151 = .ok (.lload 5, 2) := dk_22 5 (dk_at dksX1_pass_6 9 rfl rfl)
theorem dX1_pass_153 : decode cX1_pass 153 = .ok (.invokevirtual 204, 3) := dk_182 0 204 (dk_at dksX1_pass_6 11 rfl rfl)
theorem dX1_pass_156 : decode cX1_pass 156 = .ok (.aload 4, 2) := dk_25 4 (dk_at dksX1_pass_6 14 rfl rfl)
theorem dX1_pass_158 : decode cX1_pass 158 = .ok (.dup, 1) := dk_89 (dk_at dksX1_pass_6 16 rfl rfl)
theorem dX1_pass_159 : decode cX1_pass 159 = .ok (.getfield 208, 3) := dk_180 0 208 (dk_at dksX1_pass_6 17 rfl rfl)
theorem dX1_pass_162 : decode cX1_pass 162 = .ok (.iconst 1, 1) := dk_4 (dk_at dksX1_pass_6 20 rfl rfl)
theorem dX1_pass_163 : decode cX1_pass 163 = .ok (.iadd, 1) := dk_96 (dk_at dksX1_pass_6 21 rfl rfl)
theorem dX1_pass_164 : decode cX1_pass 164 = .ok (.putfield 208, 3) := dk_181 0 208 (dk_at dksX1_pass_7 0 rfl rfl)
theorem dX1_pass_167 : decode cX1_pass 167 = .ok (.aload_n 0, 1) := dk_42 (dk_at dksX1_pass_7 3 rfl rfl)
theorem dX1_pass_168 : decode cX1_pass 168 = .ok (.getfield 29, 3) := dk_180 0 29 (dk_at dksX1_pass_7 4 rfl rfl)
theorem dX1_pass_171 : decode cX1_pass 171 = .ok (.aload 4, 2) := dk_25 4 (dk_at dksX1_pass_7 7 rfl rfl)
theorem dX1_pass_173 : decode cX1_pass 173 = .ok (.getfield 211, 3) := dk_180 0 211 (dk_at dksX1_pass_7 9 rfl rfl)
theorem dX1_pass_176 : decode cX1_pass 176 = .ok (.invokevirtual 162, 3) := dk_182 0 162 (dk_at dksX1_pass_7 12 rfl rfl)
theorem dX1_pass_179 : decode cX1_pass 179 = .ok (.checkcast 109, 3) := dk_192 0 109 (dk_at dksX1_pass_7 15 rfl rfl)
theorem dX1_pass_182 : decode cX1_pass 182 = .ok (.dup, 1) := dk_89 (dk_at dksX1_pass_7 18 rfl rfl)
theorem dX1_pass_183 : decode cX1_pass 183 = .ok (.getfield 214, 3) := dk_180 0 214 (dk_at dksX1_pass_7 19 rfl rfl)
theorem dX1_pass_186 : decode cX1_pass 186 = .ok (.aload_n 3, 1) := dk_45 (dk_at dksX1_pass_7 22 rfl rfl)
theorem dX1_pass_187 : decode cX1_pass 187 = .ok (.invokevirtual 217, 3) := dk_182 0 217 (dk_at dksX1_pass_8 0 rfl rfl)
theorem dX1_pass_190 : decode cX1_pass 190 = .ok (.i2l, 1) := dk_133 (dk_at dksX1_pass_8 3 rfl rfl)
theorem dX1_pass_191 : decode cX1_pass 191 = .ok (.aload_n 0, 1) := dk_42 (dk_at dksX1_pass_8 4 rfl rfl)
theorem dX1_pass_192 : decode cX1_pass 192 = .ok (.getfield 219, 3) := dk_180 0 219 (dk_at dksX1_pass_8 5 rfl rfl)
theorem dX1_pass_195 : decode cX1_pass 195 = .ok (.ifCond .le 7, 3) := dk_158 0 7 (dk_at dksX1_pass_8 8 rfl rfl)
theorem dX1_pass_198 : decode cX1_pass 198 = .ok (.iconst 2, 1) := dk_5 (dk_at dksX1_pass_8 11 rfl rfl)
theorem dX1_pass_199 : decode cX1_pass 199 = .ok (.goto 4, 3) := dk_167 0 4 (dk_at dksX1_pass_8 12 rfl rfl)
theorem dX1_pass_202 : decode cX1_pass 202 = .ok (.iconst 1, 1) := dk_4 (dk_at dksX1_pass_8 15 rfl rfl)
theorem dX1_pass_203 : decode cX1_pass 203 = .ok (.i2l, 1) := dk_133 (dk_at dksX1_pass_8 16 rfl rfl)
theorem dX1_pass_204 : decode cX1_pass 204 = .ok (.lmul, 1) := dk_105 (dk_at dksX1_pass_8 17 rfl rfl)
theorem dX1_pass_205 : decode cX1_pass 205 = .ok (.ladd, 1) := dk_97 (dk_at dksX1_pass_8 18 rfl rfl)
theorem dX1_pass_206 : decode cX1_pass 206 = .ok (.putfield 214, 3) := dk_181 0 214 (dk_at dksX1_pass_8 19 rfl rfl)
theorem dX1_pass_209 : decode cX1_pass 209 = .ok (.lload 5, 2) := dk_22 5 (dk_at dksX1_pass_8 22 rfl rfl)
theorem dX1_pass_211 : decode cX1_pass 211 = .ok (.l2i, 1) := dk_136 (dk_at dksX1_pass_9 0 rfl rfl)
theorem dX1_pass_212 : decode cX1_pass 212 = .ok (.ireturn, 1) := dk_172 (dk_at dksX1_pass_9 1 rfl rfl)
abbrev cX1_inForce : ByteArray := prog_1_method_13_code
def yX1_inForce : MethodName := ⟨RX1, "inForce", "(I)I"⟩
def dkwX1_inForce_3 : List UInt8 := [61, 132, 3, 1, 167, 255, 186, 28, 172]
abbrev dktX1_inForce_3 : List UInt8 := dkwX1_inForce_3 ++ []
def dkwX1_inForce_2 : List UInt8 := [192, 0, 166, 180, 0, 172, 42, 180, 0, 25, 28, 182, 0, 162, 192, 0, 166, 180, 0, 172, 161, 0, 5, 29]
abbrev dktX1_inForce_2 : List UInt8 := dkwX1_inForce_2 ++ dktX1_inForce_3
def dkwX1_inForce_1 : List UInt8 := [192, 0, 166, 180, 0, 172, 27, 163, 0, 41, 28, 2, 159, 0, 34, 42, 180, 0, 25, 29, 182, 0, 162]
abbrev dktX1_inForce_1 : List UInt8 := dkwX1_inForce_1 ++ dktX1_inForce_2
def dkwX1_inForce_0 : List UInt8 := [2, 61, 3, 62, 29, 42, 180, 0, 25, 182, 0, 81, 162, 0, 65, 42, 180, 0, 25, 29, 182, 0, 162]
abbrev dktX1_inForce_0 : List UInt8 := dkwX1_inForce_0 ++ dktX1_inForce_1
theorem dksX1_inForce_0 : cX1_inForce.data.toList.drop 0 = dktX1_inForce_0 := by decide +kernel
theorem dksX1_inForce_1 : cX1_inForce.data.toList.drop 23 = dktX1_inForce_1 := dk_seg dksX1_inForce_0 23 rfl rfl
theorem dksX1_inForce_2 : cX1_inForce.data.toList.drop 46 = dktX1_inForce_2 := dk_seg dksX1_inForce_1 23 rfl rfl
theorem dksX1_inForce_3 : cX1_inForce.data.toList.drop 70 = dktX1_inForce_3 := dk_seg dksX1_inForce_2 24 rfl rfl
theorem dX1_inForce_0 : decode cX1_inForce 0 = .ok (.iconst (-1), 1) := dk_2 (dk_at dksX1_inForce_0 0 rfl rfl)
theorem dX1_inForce_1 : decode cX1_inForce 1 = .ok (.istore_n 2, 1) := dk_61 (dk_at dksX1_inForce_0 1 rfl rfl)
theorem dX1_inForce_2 : decode cX1_inForce 2 = .ok (.iconst 0, 1) := dk_3 (dk_at dksX1_inForce_0 2 rfl rfl)
theorem dX1_inForce_3 : decode cX1_inForce 3 = .ok (.istore_n 3, 1) := dk_62 (dk_at dksX1_inForce_0 3 rfl rfl)
theorem dX1_inForce_4 : decode cX1_inForce 4 = .ok (.iload_n 3, 1) := dk_29 (dk_at dksX1_inForce_0 4 rfl rfl)
theorem dX1_inForce_5 : decode cX1_inForce 5 = .ok (.aload_n 0, 1) := dk_42 (dk_at dksX1_inForce_0 5 rfl rfl)
theorem dX1_inForce_6 : decode cX1_inForce 6 = .ok (.getfield 25, 3) := dk_180 0 25 (dk_at dksX1_inForce_0 6 rfl rfl)
theorem dX1_inForce_9 : decode cX1_inForce 9 = .ok (.invokevirtual 81, 3) := dk_182 0 81 (dk_at dksX1_inForce_0 9 rfl rfl)
theorem dX1_inForce_12 : decode cX1_inForce 12 = .ok (.if_icmp .ge 65, 3) := dk_162 0 65 (dk_at dksX1_inForce_0 12 rfl rfl)
theorem dX1_inForce_15 : decode cX1_inForce 15 = .ok (.aload_n 0, 1) := dk_42 (dk_at dksX1_inForce_0 15 rfl rfl)
theorem dX1_inForce_16 : decode cX1_inForce 16 = .ok (.getfield 25, 3) := dk_180 0 25 (dk_at dksX1_inForce_0 16 rfl rfl)
theorem dX1_inForce_19 : decode cX1_inForce 19 = .ok (.iload_n 3, 1) := dk_29 (dk_at dksX1_inForce_0 19 rfl rfl)
theorem dX1_inForce_20 : decode cX1_inForce 20 = .ok (.invokevirtual 162, 3) := dk_182 0 162 (dk_at dksX1_inForce_0 20 rfl rfl)
theorem dX1_inForce_23 : decode cX1_inForce 23 = .ok (.checkcast 166, 3) := dk_192 0 166 (dk_at dksX1_inForce_1 0 rfl rfl)
theorem dX1_inForce_26 : decode cX1_inForce 26 = .ok (.getfield 172, 3) := dk_180 0 172 (dk_at dksX1_inForce_1 3 rfl rfl)
theorem dX1_inForce_29 : decode cX1_inForce 29 = .ok (.iload_n 1, 1) := dk_27 (dk_at dksX1_inForce_1 6 rfl rfl)
theorem dX1_inForce_30 : decode cX1_inForce 30 = .ok (.if_icmp .gt 41, 3) := dk_163 0 41 (dk_at dksX1_inForce_1 7 rfl rfl)
theorem dX1_inForce_33 : decode cX1_inForce 33 = .ok (.iload_n 2, 1) := dk_28 (dk_at dksX1_inForce_1 10 rfl rfl)
theorem dX1_inForce_34 : decode cX1_inForce 34 = .ok (.iconst (-1), 1) := dk_2 (dk_at dksX1_inForce_1 11 rfl rfl)
theorem dX1_inForce_35 : decode cX1_inForce 35 = .ok (.if_icmp .eq 34, 3) := dk_159 0 34 (dk_at dksX1_inForce_1 12 rfl rfl)
theorem dX1_inForce_38 : decode cX1_inForce 38 = .ok (.aload_n 0, 1) := dk_42 (dk_at dksX1_inForce_1 15 rfl rfl)
theorem dX1_inForce_39 : decode cX1_inForce 39 = .ok (.getfield 25, 3) := dk_180 0 25 (dk_at dksX1_inForce_1 16 rfl rfl)
theorem dX1_inForce_42 : decode cX1_inForce 42 = .ok (.iload_n 3, 1) := dk_29 (dk_at dksX1_inForce_1 19 rfl rfl)
theorem dX1_inForce_43 : decode cX1_inForce 43 = .ok (.invokevirtual 162, 3) := dk_182 0 162 (dk_at dksX1_inForce_1 20 rfl rfl)
theorem dX1_inForce_46 : decode cX1_inForce 46 = .ok (.checkcast 166, 3) := dk_192 0 166 (dk_at dksX1_inForce_2 0 rfl rfl)
theorem dX1_inForce_49 : decode cX1_inForce 49 = .ok (.getfield 172, 3) := dk_180 0 172 (dk_at dksX1_inForce_2 3 rfl rfl)
theorem dX1_inForce_52 : decode cX1_inForce 52 = .ok (.aload_n 0, 1) := dk_42 (dk_at dksX1_inForce_2 6 rfl rfl)
theorem dX1_inForce_53 : decode cX1_inForce 53 = .ok (.getfield 25, 3) := dk_180 0 25 (dk_at dksX1_inForce_2 7 rfl rfl)
theorem dX1_inForce_56 : decode cX1_inForce 56 = .ok (.iload_n 2, 1) := dk_28 (dk_at dksX1_inForce_2 10 rfl rfl)
theorem dX1_inForce_57 : decode cX1_inForce 57 = .ok (.invokevirtual 162, 3) := dk_182 0 162 (dk_at dksX1_inForce_2 11 rfl rfl)
theorem dX1_inForce_60 : decode cX1_inForce 60 = .ok (.checkcast 166, 3) := dk_192 0 166 (dk_at dksX1_inForce_2 14 rfl rfl)
theorem dX1_inForce_63 : decode cX1_inForce 63 = .ok (.getfield 172, 3) := dk_180 0 172 (dk_at dksX1_inForce_2 17 rfl rfl)
theorem dX1_inForce_66 : decode cX1_inForce 66 = .ok (.if_icmp .lt 5, 3) := dk_161 0 5 (dk_at dksX1_inForce_2 20 rfl rfl)
theorem dX1_inForce_69 : decode cX1_inForce 69 = .ok (.iload_n 3, 1) := dk_29 (dk_at dksX1_inForce_2 23 rfl rfl)
theorem dX1_inForce_70 : decode cX1_inForce 70 = .ok (.istore_n 2, 1) := dk_61 (dk_at dksX1_inForce_3 0 rfl rfl)
theorem dX1_inForce_71 : decode cX1_inForce 71 = .ok (.iinc 3 1, 3) := dk_132 3 1 (dk_at dksX1_inForce_3 1 rfl rfl)
theorem dX1_inForce_74 : decode cX1_inForce 74 = .ok (.goto (-70), 3) := dk_167 255 186 (dk_at dksX1_inForce_3 4 rfl rfl)
theorem dX1_inForce_77 : decode cX1_inForce 77 = .ok (.iload_n 2, 1) := dk_28 (dk_at dksX1_inForce_3 7 rfl rfl)
theorem dX1_inForce_78 : decode cX1_inForce 78 = .ok (.ireturn, 1) := dk_172 (dk_at dksX1_inForce_3 8 rfl rfl)
abbrev cX1_reckon : ByteArray := prog_1_method_12_code
def yX1_reckon : MethodName := ⟨RX1, "reckon", "(ILTurnpikeTrust$Traveller;LTurnpikeTrust$Gate;)V"⟩
def dkwX1_reckon_7 : List UInt8 := [182, 0, 168, 177]
abbrev dktX1_reckon_7 : List UInt8 := dkwX1_reckon_7 ++ []
def dkwX1_reckon_6 : List UInt8 := [181, 0, 158, 42, 180, 0, 25, 27, 182, 0, 162, 192, 0, 166, 42, 180, 0, 54, 42, 180, 0, 47]
abbrev dktX1_reckon_6 : List UInt8 := dkwX1_reckon_6 ++ dktX1_reckon_7
def dkwX1_reckon_5 : List UInt8 := [180, 0, 47, 44, 180, 0, 155, 45, 180, 0, 140, 46, 42, 180, 0, 137, 160, 0, 7, 4, 167, 0, 4, 3]
abbrev dktX1_reckon_5 : List UInt8 := dkwX1_reckon_5 ++ dktX1_reckon_6
def dkwX1_reckon_4 : List UInt8 := [180, 0, 140, 181, 0, 151, 42, 180, 0, 47, 42, 180, 0, 137, 17, 1, 109, 112, 181, 0, 154, 42]
abbrev dktX1_reckon_4 : List UInt8 := dkwX1_reckon_4 ++ dktX1_reckon_5
def dkwX1_reckon_3 : List UInt8 := [21, 4, 182, 0, 143, 27, 2, 160, 0, 4, 177, 42, 180, 0, 47, 44, 181, 0, 147, 42, 180, 0, 47, 45]
abbrev dktX1_reckon_3 : List UInt8 := dkwX1_reckon_3 ++ dktX1_reckon_4
def dkwX1_reckon_2 : List UInt8 := [180, 0, 54, 44, 180, 0, 131, 45, 180, 0, 140, 46, 42, 180, 0, 137, 160, 0, 7, 4, 167, 0, 4, 3]
abbrev dktX1_reckon_2 : List UInt8 := dkwX1_reckon_2 ++ dktX1_reckon_3
def dkwX1_reckon_1 : List UInt8 := [46, 42, 180, 0, 137, 160, 0, 7, 4, 167, 0, 4, 3, 54, 4, 132, 5, 1, 167, 255, 220, 42]
abbrev dktX1_reckon_1 : List UInt8 := dkwX1_reckon_1 ++ dktX1_reckon_2
def dkwX1_reckon_0 : List UInt8 := [3, 54, 4, 3, 54, 5, 21, 5, 16, 8, 162, 0, 35, 21, 4, 154, 0, 17, 44, 180, 0, 131, 21, 5]
abbrev dktX1_reckon_0 : List UInt8 := dkwX1_reckon_0 ++ dktX1_reckon_1
theorem dksX1_reckon_0 : cX1_reckon.data.toList.drop 0 = dktX1_reckon_0 := by decide +kernel
theorem dksX1_reckon_1 : cX1_reckon.data.toList.drop 24 = dktX1_reckon_1 := dk_seg dksX1_reckon_0 24 rfl rfl
theorem dksX1_reckon_2 : cX1_reckon.data.toList.drop 46 = dktX1_reckon_2 := dk_seg dksX1_reckon_1 22 rfl rfl
theorem dksX1_reckon_3 : cX1_reckon.data.toList.drop 70 = dktX1_reckon_3 := dk_seg dksX1_reckon_2 24 rfl rfl
theorem dksX1_reckon_4 : cX1_reckon.data.toList.drop 94 = dktX1_reckon_4 := dk_seg dksX1_reckon_3 24 rfl rfl
theorem dksX1_reckon_5 : cX1_reckon.data.toList.drop 116 = dktX1_reckon_5 := dk_seg dksX1_reckon_4 22 rfl rfl
theorem dksX1_reckon_6 : cX1_reckon.data.toList.drop 140 = dktX1_reckon_6 := dk_seg dksX1_reckon_5 24 rfl rfl
theorem dksX1_reckon_7 : cX1_reckon.data.toList.drop 162 = dktX1_reckon_7 := dk_seg dksX1_reckon_6 22 rfl rfl
theorem dX1_reckon_0 : decode cX1_reckon 0 = .ok (.iconst 0, 1) := dk_3 (dk_at dksX1_reckon_0 0 rfl rfl)
theorem dX1_reckon_1 : decode cX1_reckon 1 = .ok (.istore 4, 2) := dk_54 4 (dk_at dksX1_reckon_0 1 rfl rfl)
theorem dX1_reckon_3 : decode cX1_reckon 3 = .ok (.iconst 0, 1) := dk_3 (dk_at dksX1_reckon_0 3 rfl rfl)
theorem dX1_reckon_4 : decode cX1_reckon 4 = .ok (.istore 5, 2) := dk_54 5 (dk_at dksX1_reckon_0 4 rfl rfl)
theorem dX1_reckon_6 : decode cX1_reckon 6 = .ok (.iload 5, 2) := dk_21 5 (dk_at dksX1_reckon_0 6 rfl rfl)
theorem dX1_reckon_8 : decode cX1_reckon 8 = .ok (.bipush 8, 2) := dk_16 8 (dk_at dksX1_reckon_0 8 rfl rfl)
theorem dX1_reckon_10 : decode cX1_reckon 10 = .ok (.if_icmp .ge 35, 3) := dk_162 0 35 (dk_at dksX1_reckon_0 10 rfl rfl)
theorem dX1_reckon_13 : decode cX1_reckon 13 = .ok (.iload 4, 2) := dk_21 4 (dk_at dksX1_reckon_0 13 rfl rfl)
theorem dX1_reckon_15 : decode cX1_reckon 15 = .ok (.ifCond .ne 17, 3) := dk_154 0 17 (dk_at dksX1_reckon_0 15 rfl rfl)
theorem dX1_reckon_18 : decode cX1_reckon 18 = .ok (.aload_n 2, 1) := dk_44 (dk_at dksX1_reckon_0 18 rfl rfl)
theorem dX1_reckon_19 : decode cX1_reckon 19 = .ok (.getfield 131, 3) := dk_180 0 131 (dk_at dksX1_reckon_0 19 rfl rfl)
theorem dX1_reckon_22 : decode cX1_reckon 22 = .ok (.iload 5, 2) := dk_21 5 (dk_at dksX1_reckon_0 22 rfl rfl)
theorem dX1_reckon_24 : decode cX1_reckon 24 = .ok (.iaload, 1) := dk_46 (dk_at dksX1_reckon_1 0 rfl rfl)
theorem dX1_reckon_25 : decode cX1_reckon 25 = .ok (.aload_n 0, 1) := dk_42 (dk_at dksX1_reckon_1 1 rfl rfl)
theorem dX1_reckon_26 : decode cX1_reckon 26 = .ok (.getfield 137, 3) := dk_180 0 137 (dk_at dksX1_reckon_1 2 rfl rfl)
theorem dX1_reckon_29 : decode cX1_reckon 29 = .ok (.if_icmp .ne 7, 3) := dk_160 0 7 (dk_at dksX1_reckon_1 5 rfl rfl)
theorem dX1_reckon_32 : decode cX1_reckon 32 = .ok (.iconst 1, 1) := dk_4 (dk_at dksX1_reckon_1 8 rfl rfl)
theorem dX1_reckon_33 : decode cX1_reckon 33 = .ok (.goto 4, 3) := dk_167 0 4 (dk_at dksX1_reckon_1 9 rfl rfl)
theorem dX1_reckon_36 : decode cX1_reckon 36 = .ok (.iconst 0, 1) := dk_3 (dk_at dksX1_reckon_1 12 rfl rfl)
theorem dX1_reckon_37 : decode cX1_reckon 37 = .ok (.istore 4, 2) := dk_54 4 (dk_at dksX1_reckon_1 13 rfl rfl)
theorem dX1_reckon_39 : decode cX1_reckon 39 = .ok (.iinc 5 1, 3) := dk_132 5 1 (dk_at dksX1_reckon_1 15 rfl rfl)
theorem dX1_reckon_42 : decode cX1_reckon 42 = .ok (.goto (-36), 3) := dk_167 255 220 (dk_at dksX1_reckon_1 18 rfl rfl)
theorem dX1_reckon_45 : decode cX1_reckon 45 = .ok (.aload_n 0, 1) := dk_42 (dk_at dksX1_reckon_1 21 rfl rfl)
theorem dX1_reckon_46 : decode cX1_reckon 46 = .ok (.getfield 54, 3) := dk_180 0 54 (dk_at dksX1_reckon_2 0 rfl rfl)
theorem dX1_reckon_49 : decode cX1_reckon 49 = .ok (.aload_n 2, 1) := dk_44 (dk_at dksX1_reckon_2 3 rfl rfl)
theorem dX1_reckon_50 : decode cX1_reckon 50 = .ok (.getfield 131, 3) := dk_180 0 131 (dk_at dksX1_reckon_2 4 rfl rfl)
theorem dX1_reckon_53 : decode cX1_reckon 53 = .ok (.aload_n 3, 1) := dk_45 (dk_at dksX1_reckon_2 7 rfl rfl)
theorem dX1_reckon_54 : decode cX1_reckon 54 = .ok (.getfield 140, 3) := dk_180 0 140 (dk_at dksX1_reckon_2 8 rfl rfl)
theorem dX1_reckon_57 : decode cX1_reckon 57 = .ok (.iaload, 1) := dk_46 (dk_at dksX1_reckon_2 11 rfl rfl)
theorem dX1_reckon_58 : decode cX1_reckon 58 = .ok (.aload_n 0, 1) := dk_42 (dk_at dksX1_reckon_2 12 rfl rfl)
theorem dX1_reckon_59 : decode cX1_reckon 59 = .ok (.getfield 137, 3) := dk_180 0 137 (dk_at dksX1_reckon_2 13 rfl rfl)
theorem dX1_reckon_62 : decode cX1_reckon 62 = .ok (.if_icmp .ne 7, 3) := dk_160 0 7 (dk_at dksX1_reckon_2 16 rfl rfl)
theorem dX1_reckon_65 : decode cX1_reckon 65 = .ok (.iconst 1, 1) := dk_4 (dk_at dksX1_reckon_2 19 rfl rfl)
theorem dX1_reckon_66 : decode cX1_reckon 66 = .ok (.goto 4, 3) := dk_167 0 4 (dk_at dksX1_reckon_2 20 rfl rfl)
theorem dX1_reckon_69 : decode cX1_reckon 69 = .ok (.iconst 0, 1) := dk_3 (dk_at dksX1_reckon_2 23 rfl rfl)
theorem dX1_reckon_70 : decode cX1_reckon 70 = .ok (.iload 4, 2) := dk_21 4 (dk_at dksX1_reckon_3 0 rfl rfl)
theorem dX1_reckon_72 : decode cX1_reckon 72 = .ok (.invokevirtual 143, 3) := dk_182 0 143 (dk_at dksX1_reckon_3 2 rfl rfl)
theorem dX1_reckon_75 : decode cX1_reckon 75 = .ok (.iload_n 1, 1) := dk_27 (dk_at dksX1_reckon_3 5 rfl rfl)
theorem dX1_reckon_76 : decode cX1_reckon 76 = .ok (.iconst (-1), 1) := dk_2 (dk_at dksX1_reckon_3 6 rfl rfl)
theorem dX1_reckon_77 : decode cX1_reckon 77 = .ok (.if_icmp .ne 4, 3) := dk_160 0 4 (dk_at dksX1_reckon_3 7 rfl rfl)
theorem dX1_reckon_80 : decode cX1_reckon 80 = .ok (.return_, 1) := dk_177 (dk_at dksX1_reckon_3 10 rfl rfl)
theorem dX1_reckon_81 : decode cX1_reckon 81 = .ok (.aload_n 0, 1) := dk_42 (dk_at dksX1_reckon_3 11 rfl rfl)
theorem dX1_reckon_82 : decode cX1_reckon 82 = .ok (.getfield 47, 3) := dk_180 0 47 (dk_at dksX1_reckon_3 12 rfl rfl)
theorem dX1_reckon_85 : decode cX1_reckon 85 = .ok (.aload_n 2, 1) := dk_44 (dk_at dksX1_reckon_3 15 rfl rfl)
theorem dX1_reckon_86 : decode cX1_reckon 86 = .ok (.putfield 147, 3) := dk_181 0 147 (dk_at dksX1_reckon_3 16 rfl rfl)
theorem dX1_reckon_89 : decode cX1_reckon 89 = .ok (.aload_n 0, 1) := dk_42 (dk_at dksX1_reckon_3 19 rfl rfl)
theorem dX1_reckon_90 : decode cX1_reckon 90 = .ok (.getfield 47, 3) := dk_180 0 47 (dk_at dksX1_reckon_3 20 rfl rfl)
theorem dX1_reckon_93 : decode cX1_reckon 93 = .ok (.aload_n 3, 1) := dk_45 (dk_at dksX1_reckon_3 23 rfl rfl)
theorem dX1_reckon_94 : decode cX1_reckon 94 = .ok (.getfield 140, 3) := dk_180 0 140 (dk_at dksX1_reckon_4 0 rfl rfl)
theorem dX1_reckon_97 : decode cX1_reckon 97 = .ok (.putfield 151, 3) := dk_181 0 151 (dk_at dksX1_reckon_4 3 rfl rfl)
theorem dX1_reckon_100 : decode cX1_reckon 100 = .ok (.aload_n 0, 1) := dk_42 (dk_at dksX1_reckon_4 6 rfl rfl)
theorem dX1_reckon_101 : decode cX1_reckon 101 = .ok (.getfield 47, 3) := dk_180 0 47 (dk_at dksX1_reckon_4 7 rfl rfl)
theorem dX1_reckon_104 : decode cX1_reckon 104 = .ok (.aload_n 0, 1) := dk_42 (dk_at dksX1_reckon_4 10 rfl rfl)
theorem dX1_reckon_105 : decode cX1_reckon 105 = .ok (.getfield 137, 3) := dk_180 0 137 (dk_at dksX1_reckon_4 11 rfl rfl)
theorem dX1_reckon_108 : decode cX1_reckon 108 = .ok (.sipush 365, 3) := dk_17 1 109 (dk_at dksX1_reckon_4 14 rfl rfl)
theorem dX1_reckon_111 : decode cX1_reckon 111 = .ok (.irem, 1) := dk_112 (dk_at dksX1_reckon_4 17 rfl rfl)
theorem dX1_reckon_112 : decode cX1_reckon 112 = .ok (.putfield 154, 3) := dk_181 0 154 (dk_at dksX1_reckon_4 18 rfl rfl)
theorem dX1_reckon_115 : decode cX1_reckon 115 = .ok (.aload_n 0, 1) := dk_42 (dk_at dksX1_reckon_4 21 rfl rfl)
theorem dX1_reckon_116 : decode cX1_reckon 116 = .ok (.getfield 47, 3) := dk_180 0 47 (dk_at dksX1_reckon_5 0 rfl rfl)
theorem dX1_reckon_119 : decode cX1_reckon 119 = .ok (.aload_n 2, 1) := dk_44 (dk_at dksX1_reckon_5 3 rfl rfl)
theorem dX1_reckon_120 : decode cX1_reckon 120 = .ok (.getfield 155, 3) := dk_180 0 155 (dk_at dksX1_reckon_5 4 rfl rfl)
theorem dX1_reckon_123 : decode cX1_reckon 123 = .ok (.aload_n 3, 1) := dk_45 (dk_at dksX1_reckon_5 7 rfl rfl)
theorem dX1_reckon_124 : decode cX1_reckon 124 = .ok (.getfield 140, 3) := dk_180 0 140 (dk_at dksX1_reckon_5 8 rfl rfl)
theorem dX1_reckon_127 : decode cX1_reckon 127 = .ok (.iaload, 1) := dk_46 (dk_at dksX1_reckon_5 11 rfl rfl)
theorem dX1_reckon_128 : decode cX1_reckon 128 = .ok (.aload_n 0, 1) := dk_42 (dk_at dksX1_reckon_5 12 rfl rfl)
theorem dX1_reckon_129 : decode cX1_reckon 129 = .ok (.getfield 137, 3) := dk_180 0 137 (dk_at dksX1_reckon_5 13 rfl rfl)
theorem dX1_reckon_132 : decode cX1_reckon 132 = .ok (.if_icmp .ne 7, 3) := dk_160 0 7 (dk_at dksX1_reckon_5 16 rfl rfl)
theorem dX1_reckon_135 : decode cX1_reckon 135 = .ok (.iconst 1, 1) := dk_4 (dk_at dksX1_reckon_5 19 rfl rfl)
theorem dX1_reckon_136 : decode cX1_reckon 136 = .ok (.goto 4, 3) := dk_167 0 4 (dk_at dksX1_reckon_5 20 rfl rfl)
theorem dX1_reckon_139 : decode cX1_reckon 139 = .ok (.iconst 0, 1) := dk_3 (dk_at dksX1_reckon_5 23 rfl rfl)
theorem dX1_reckon_140 : decode cX1_reckon 140 = .ok (.putfield 158, 3) := dk_181 0 158 (dk_at dksX1_reckon_6 0 rfl rfl)
theorem dX1_reckon_143 : decode cX1_reckon 143 = .ok (.aload_n 0, 1) := dk_42 (dk_at dksX1_reckon_6 3 rfl rfl)
theorem dX1_reckon_144 : decode cX1_reckon 144 = .ok (.getfield 25, 3) := dk_180 0 25 (dk_at dksX1_reckon_6 4 rfl rfl)
theorem dX1_reckon_147 : decode cX1_reckon 147 = .ok (.iload_n 1, 1) := dk_27 (dk_at dksX1_reckon_6 7 rfl rfl)
theorem dX1_reckon_148 : decode cX1_reckon 148 = .ok (.invokevirtual 162, 3) := dk_182 0 162 (dk_at dksX1_reckon_6 8 rfl rfl)
theorem dX1_reckon_151 : decode cX1_reckon 151 = .ok (.checkcast 166, 3) := dk_192 0 166 (dk_at dksX1_reckon_6 11 rfl rfl)
theorem dX1_reckon_154 : decode cX1_reckon 154 = .ok (.aload_n 0, 1) := dk_42 (dk_at dksX1_reckon_6 14 rfl rfl)
theorem dX1_reckon_155 : decode cX1_reckon 155 = .ok (.getfield 54, 3) := dk_180 0 54 (dk_at dksX1_reckon_6 15 rfl rfl)
theorem dX1_reckon_158 : decode cX1_reckon 158 = .ok (.aload_n 0, 1) := dk_42 (dk_at dksX1_reckon_6 18 rfl rfl)
theorem dX1_reckon_159 : decode cX1_reckon 159 = .ok (.getfield 47, 3) := dk_180 0 47 (dk_at dksX1_reckon_6 19 rfl rfl)
theorem dX1_reckon_162 : decode cX1_reckon 162 = .ok (.invokevirtual 168, 3) := dk_182 0 168 (dk_at dksX1_reckon_7 0 rfl rfl)
theorem dX1_reckon_165 : decode cX1_reckon 165 = .ok (.return_, 1) := dk_177 (dk_at dksX1_reckon_7 3 rfl rfl)
abbrev cX1_change : ByteArray := prog_1_method_18_code
def yX1_change : MethodName := ⟨RX1, "change", "(IIJ)V"⟩
def dkwX1_change_5 : List UInt8 := [42, 89, 180, 0, 231, 33, 97, 181, 0, 231, 177]
abbrev dktX1_change_5 : List UInt8 := dkwX1_change_5 ++ []
def dkwX1_change_4 : List UInt8 := [42, 180, 0, 58, 7, 42, 180, 0, 222, 104, 6, 96, 33, 80, 42, 89, 180, 0, 222, 4, 96, 181, 0, 222]
abbrev dktX1_change_4 : List UInt8 := dkwX1_change_4 ++ dktX1_change_5
def dkwX1_change_3 : List UInt8 := [180, 0, 222, 104, 4, 96, 27, 133, 80, 42, 180, 0, 58, 7, 42, 180, 0, 222, 104, 5, 96, 28, 133, 80]
abbrev dktX1_change_3 : List UInt8 := dkwX1_change_3 ++ dktX1_change_4
def dkwX1_change_2 : List UInt8 := [42, 180, 0, 58, 7, 42, 180, 0, 222, 104, 42, 180, 0, 137, 133, 80, 42, 180, 0, 58, 7, 42]
abbrev dktX1_change_2 : List UInt8 := dkwX1_change_2 ++ dktX1_change_3
def dkwX1_change_1 : List UInt8 := [58, 5, 42, 180, 0, 58, 3, 25, 5, 3, 42, 180, 0, 58, 190, 184, 0, 225, 42, 25, 5, 181, 0, 58]
abbrev dktX1_change_1 : List UInt8 := dkwX1_change_1 ++ dktX1_change_2
def dkwX1_change_0 : List UInt8 := [7, 42, 180, 0, 222, 104, 42, 180, 0, 58, 190, 160, 0, 36, 5, 42, 180, 0, 58, 190, 104, 188, 11]
abbrev dktX1_change_0 : List UInt8 := dkwX1_change_0 ++ dktX1_change_1
theorem dksX1_change_0 : cX1_change.data.toList.drop 0 = dktX1_change_0 := by decide +kernel
theorem dksX1_change_1 : cX1_change.data.toList.drop 23 = dktX1_change_1 := dk_seg dksX1_change_0 23 rfl rfl
theorem dksX1_change_2 : cX1_change.data.toList.drop 47 = dktX1_change_2 := dk_seg dksX1_change_1 24 rfl rfl
theorem dksX1_change_3 : cX1_change.data.toList.drop 69 = dktX1_change_3 := dk_seg dksX1_change_2 22 rfl rfl
theorem dksX1_change_4 : cX1_change.data.toList.drop 93 = dktX1_change_4 := dk_seg dksX1_change_3 24 rfl rfl
theorem dksX1_change_5 : cX1_change.data.toList.drop 117 = dktX1_change_5 := dk_seg dksX1_change_4 24 rfl rfl
theorem dX1_change_0 : decode cX1_change 0 = .ok (.iconst 4, 1) := dk_7 (dk_at dksX1_change_0 0 rfl rfl)
theorem dX1_change_1 : decode cX1_change 1 = .ok (.aload_n 0, 1) := dk_42 (dk_at dksX1_change_0 1 rfl rfl)
theorem dX1_change_2 : decode cX1_change 2 = .ok (.getfield 222, 3) := dk_180 0 222 (dk_at dksX1_change_0 2 rfl rfl)
theorem dX1_change_5 : decode cX1_change 5 = .ok (.imul, 1) := dk_104 (dk_at dksX1_change_0 5 rfl rfl)
theorem dX1_change_6 : decode cX1_change 6 = .ok (.aload_n 0, 1) := dk_42 (dk_at dksX1_change_0 6 rfl rfl)
theorem dX1_change_7 : decode cX1_change 7 = .ok (.getfield 58, 3) := dk_180 0 58 (dk_at dksX1_change_0 7 rfl rfl)
theorem dX1_change_10 : decode cX1_change 10 = .ok (.arraylength, 1) := dk_190 (dk_at dksX1_change_0 10 rfl rfl)
theorem dX1_change_11 : decode cX1_change 11 = .ok (.if_icmp .ne 36, 3) := dk_160 0 36 (dk_at dksX1_change_0 11 rfl rfl)
theorem dX1_change_14 : decode cX1_change 14 = .ok (.iconst 2, 1) := dk_5 (dk_at dksX1_change_0 14 rfl rfl)
theorem dX1_change_15 : decode cX1_change 15 = .ok (.aload_n 0, 1) := dk_42 (dk_at dksX1_change_0 15 rfl rfl)
theorem dX1_change_16 : decode cX1_change 16 = .ok (.getfield 58, 3) := dk_180 0 58 (dk_at dksX1_change_0 16 rfl rfl)
theorem dX1_change_19 : decode cX1_change 19 = .ok (.arraylength, 1) := dk_190 (dk_at dksX1_change_0 19 rfl rfl)
theorem dX1_change_20 : decode cX1_change 20 = .ok (.imul, 1) := dk_104 (dk_at dksX1_change_0 20 rfl rfl)
theorem dX1_change_21 : decode cX1_change 21 = .ok (.newarray .long, 2) := dk_188_11 (dk_at dksX1_change_0 21 rfl rfl)
theorem dX1_change_23 : decode cX1_change 23 = .ok (.astore 5, 2) := dk_58 5 (dk_at dksX1_change_1 0 rfl rfl)
theorem dX1_change_25 : decode cX1_change 25 = .ok (.aload_n 0, 1) := dk_42 (dk_at dksX1_change_1 2 rfl rfl)
theorem dX1_change_26 : decode cX1_change 26 = .ok (.getfield 58, 3) := dk_180 0 58 (dk_at dksX1_change_1 3 rfl rfl)
theorem dX1_change_29 : decode cX1_change 29 = .ok (.iconst 0, 1) := dk_3 (dk_at dksX1_change_1 6 rfl rfl)
theorem dX1_change_30 : decode cX1_change 30 = .ok (.aload 5, 2) := dk_25 5 (dk_at dksX1_change_1 7 rfl rfl)
theorem dX1_change_32 : decode cX1_change 32 = .ok (.iconst 0, 1) := dk_3 (dk_at dksX1_change_1 9 rfl rfl)
theorem dX1_change_33 : decode cX1_change 33 = .ok (.aload_n 0, 1) := dk_42 (dk_at dksX1_change_1 10 rfl rfl)
theorem dX1_change_34 : decode cX1_change 34 = .ok (.getfield 58, 3) := dk_180 0 58 (dk_at dksX1_change_1 11 rfl rfl)
theorem dX1_change_37 : decode cX1_change 37 = .ok (.arraylength, 1) := dk_190 (dk_at dksX1_change_1 14 rfl rfl)
theorem dX1_change_38 : decode cX1_change 38 = .ok (.invokestatic 225, 3) := dk_184 0 225 (dk_at dksX1_change_1 15 rfl rfl)
theorem dX1_change_41 : decode cX1_change 41 = .ok (.aload_n 0, 1) := dk_42 (dk_at dksX1_change_1 18 rfl rfl)
theorem dX1_change_42 : decode cX1_change 42 = .ok (.aload 5, 2) := dk_25 5 (dk_at dksX1_change_1 19 rfl rfl)
theorem dX1_change_44 : decode cX1_change 44 = .ok (.putfield 58, 3) := dk_181 0 58 (dk_at dksX1_change_1 21 rfl rfl)
theorem dX1_change_47 : decode cX1_change 47 = .ok (.aload_n 0, 1) := dk_42 (dk_at dksX1_change_2 0 rfl rfl)
theorem dX1_change_48 : decode cX1_change 48 = .ok (.getfield 58, 3) := dk_180 0 58 (dk_at dksX1_change_2 1 rfl rfl)
theorem dX1_change_51 : decode cX1_change 51 = .ok (.iconst 4, 1) := dk_7 (dk_at dksX1_change_2 4 rfl rfl)
theorem dX1_change_52 : decode cX1_change 52 = .ok (.aload_n 0, 1) := dk_42 (dk_at dksX1_change_2 5 rfl rfl)
theorem dX1_change_53 : decode cX1_change 53 = .ok (.getfield 222, 3) := dk_180 0 222 (dk_at dksX1_change_2 6 rfl rfl)
theorem dX1_change_56 : decode cX1_change 56 = .ok (.imul, 1) := dk_104 (dk_at dksX1_change_2 9 rfl rfl)
theorem dX1_change_57 : decode cX1_change 57 = .ok (.aload_n 0, 1) := dk_42 (dk_at dksX1_change_2 10 rfl rfl)
theorem dX1_change_58 : decode cX1_change 58 = .ok (.getfield 137, 3) := dk_180 0 137 (dk_at dksX1_change_2 11 rfl rfl)
theorem dX1_change_61 : decode cX1_change 61 = .ok (.i2l, 1) := dk_133 (dk_at dksX1_change_2 14 rfl rfl)
theorem dX1_change_62 : decode cX1_change 62 = .ok (.lastore, 1) := dk_80 (dk_at dksX1_change_2 15 rfl rfl)
theorem dX1_change_63 : decode cX1_change 63 = .ok (.aload_n 0, 1) := dk_42 (dk_at dksX1_change_2 16 rfl rfl)
theorem dX1_change_64 : decode cX1_change 64 = .ok (.getfield 58, 3) := dk_180 0 58 (dk_at dksX1_change_2 17 rfl rfl)
theorem dX1_change_67 : decode cX1_change 67 = .ok (.iconst 4, 1) := dk_7 (dk_at dksX1_change_2 20 rfl rfl)
theorem dX1_change_68 : decode cX1_change 68 = .ok (.aload_n 0, 1) := dk_42 (dk_at dksX1_change_2 21 rfl rfl)
theorem dX1_change_69 : decode cX1_change 69 = .ok (.getfield 222, 3) := dk_180 0 222 (dk_at dksX1_change_3 0 rfl rfl)
theorem dX1_change_72 : decode cX1_change 72 = .ok (.imul, 1) := dk_104 (dk_at dksX1_change_3 3 rfl rfl)
theorem dX1_change_73 : decode cX1_change 73 = .ok (.iconst 1, 1) := dk_4 (dk_at dksX1_change_3 4 rfl rfl)
theorem dX1_change_74 : decode cX1_change 74 = .ok (.iadd, 1) := dk_96 (dk_at dksX1_change_3 5 rfl rfl)
theorem dX1_change_75 : decode cX1_change 75 = .ok (.iload_n 1, 1) := dk_27 (dk_at dksX1_change_3 6 rfl rfl)
theorem dX1_change_76 : decode cX1_change 76 = .ok (.i2l, 1) := dk_133 (dk_at dksX1_change_3 7 rfl rfl)
theorem dX1_change_77 : decode cX1_change 77 = .ok (.lastore, 1) := dk_80 (dk_at dksX1_change_3 8 rfl rfl)
theorem dX1_change_78 : decode cX1_change 78 = .ok (.aload_n 0, 1) := dk_42 (dk_at dksX1_change_3 9 rfl rfl)
theorem dX1_change_79 : decode cX1_change 79 = .ok (.getfield 58, 3) := dk_180 0 58 (dk_at dksX1_change_3 10 rfl rfl)
theorem dX1_change_82 : decode cX1_change 82 = .ok (.iconst 4, 1) := dk_7 (dk_at dksX1_change_3 13 rfl rfl)
theorem dX1_change_83 : decode cX1_change 83 = .ok (.aload_n 0, 1) := dk_42 (dk_at dksX1_change_3 14 rfl rfl)
theorem dX1_change_84 : decode cX1_change 84 = .ok (.getfield 222, 3) := dk_180 0 222 (dk_at dksX1_change_3 15 rfl rfl)
theorem dX1_change_87 : decode cX1_change 87 = .ok (.imul, 1) := dk_104 (dk_at dksX1_change_3 18 rfl rfl)
theorem dX1_change_88 : decode cX1_change 88 = .ok (.iconst 2, 1) := dk_5 (dk_at dksX1_change_3 19 rfl rfl)
theorem dX1_change_89 : decode cX1_change 89 = .ok (.iadd, 1) := dk_96 (dk_at dksX1_change_3 20 rfl rfl)
theorem dX1_change_90 : decode cX1_change 90 = .ok (.iload_n 2, 1) := dk_28 (dk_at dksX1_change_3 21 rfl rfl)
theorem dX1_change_91 : decode cX1_change 91 = .ok (.i2l, 1) := dk_133 (dk_at dksX1_change_3 22 rfl rfl)
theorem dX1_change_92 : decode cX1_change 92 = .ok (.lastore, 1) := dk_80 (dk_at dksX1_change_3 23 rfl rfl)
theorem dX1_change_93 : decode cX1_change 93 = .ok (.aload_n 0, 1) := dk_42 (dk_at dksX1_change_4 0 rfl rfl)
theorem dX1_change_94 : decode cX1_change 94 = .ok (.getfield 58, 3) := dk_180 0 58 (dk_at dksX1_change_4 1 rfl rfl)
theorem dX1_change_97 : decode cX1_change 97 = .ok (.iconst 4, 1) := dk_7 (dk_at dksX1_change_4 4 rfl rfl)
theorem dX1_change_98 : decode cX1_change 98 = .ok (.aload_n 0, 1) := dk_42 (dk_at dksX1_change_4 5 rfl rfl)
theorem dX1_change_99 : decode cX1_change 99 = .ok (.getfield 222, 3) := dk_180 0 222 (dk_at dksX1_change_4 6 rfl rfl)
theorem dX1_change_102 : decode cX1_change 102 = .ok (.imul, 1) := dk_104 (dk_at dksX1_change_4 9 rfl rfl)
theorem dX1_change_103 : decode cX1_change 103 = .ok (.iconst 3, 1) := dk_6 (dk_at dksX1_change_4 10 rfl rfl)
theorem dX1_change_104 : decode cX1_change 104 = .ok (.iadd, 1) := dk_96 (dk_at dksX1_change_4 11 rfl rfl)
theorem dX1_change_105 : decode cX1_change 105 = .ok (.lload_n 3, 1) := dk_33 (dk_at dksX1_change_4 12 rfl rfl)
theorem dX1_change_106 : decode cX1_change 106 = .ok (.lastore, 1) := dk_80 (dk_at dksX1_change_4 13 rfl rfl)
theorem dX1_change_107 : decode cX1_change 107 = .ok (.aload_n 0, 1) := dk_42 (dk_at dksX1_change_4 14 rfl rfl)
theorem dX1_change_108 : decode cX1_change 108 = .ok (.dup, 1) := dk_89 (dk_at dksX1_change_4 15 rfl rfl)
theorem dX1_change_109 : decode cX1_change 109 = .ok (.getfield 222, 3) := dk_180 0 222 (dk_at dksX1_change_4 16 rfl rfl)
theorem dX1_change_112 : decode cX1_change 112 = .ok (.iconst 1, 1) := dk_4 (dk_at dksX1_change_4 19 rfl rfl)
theorem dX1_change_113 : decode cX1_change 113 = .ok (.iadd, 1) := dk_96 (dk_at dksX1_change_4 20 rfl rfl)
theorem dX1_change_114 : decode cX1_change 114 = .ok (.putfield 222, 3) := dk_181 0 222 (dk_at dksX1_change_4 21 rfl rfl)
theorem dX1_change_117 : decode cX1_change 117 = .ok (.aload_n 0, 1) := dk_42 (dk_at dksX1_change_5 0 rfl rfl)
theorem dX1_change_118 : decode cX1_change 118 = .ok (.dup, 1) := dk_89 (dk_at dksX1_change_5 1 rfl rfl)
theorem dX1_change_119 : decode cX1_change 119 = .ok (.getfield 231, 3) := dk_180 0 231 (dk_at dksX1_change_5 2 rfl rfl)
theorem dX1_change_122 : decode cX1_change 122 = .ok (.lload_n 3, 1) := dk_33 (dk_at dksX1_change_5 5 rfl rfl)
theorem dX1_change_123 : decode cX1_change 123 = .ok (.ladd, 1) := dk_97 (dk_at dksX1_change_5 6 rfl rfl)
theorem dX1_change_124 : decode cX1_change 124 = .ok (.putfield 231, 3) := dk_181 0 231 (dk_at dksX1_change_5 7 rfl rfl)
theorem dX1_change_127 : decode cX1_change 127 = .ok (.return_, 1) := dk_177 (dk_at dksX1_change_5 10 rfl rfl)
abbrev cX1_asked : ByteArray := prog_1_method_16_code
def yX1_asked : MethodName := ⟨RX1, "asked", "(III)I"⟩
def dkwX1_asked_2 : List UInt8 := [180, 0, 32, 29, 182, 0, 162, 192, 0, 116, 182, 0, 179, 42, 180, 0, 54, 180, 0, 186, 136, 172]
abbrev dktX1_asked_2 : List UInt8 := dkwX1_asked_2 ++ []
def dkwX1_asked_1 : List UInt8 := [180, 0, 32, 182, 0, 81, 184, 0, 112, 42, 27, 42, 180, 0, 35, 28, 182, 0, 162, 192, 0, 132, 42]
abbrev dktX1_asked_1 : List UInt8 := dkwX1_asked_1 ++ dktX1_asked_2
def dkwX1_asked_0 : List UInt8 := [27, 42, 180, 0, 25, 182, 0, 81, 184, 0, 112, 28, 42, 180, 0, 35, 182, 0, 81, 184, 0, 112, 29, 42]
abbrev dktX1_asked_0 : List UInt8 := dkwX1_asked_0 ++ dktX1_asked_1
theorem dksX1_asked_0 : cX1_asked.data.toList.drop 0 = dktX1_asked_0 := by decide +kernel
theorem dksX1_asked_1 : cX1_asked.data.toList.drop 24 = dktX1_asked_1 := dk_seg dksX1_asked_0 24 rfl rfl
theorem dksX1_asked_2 : cX1_asked.data.toList.drop 47 = dktX1_asked_2 := dk_seg dksX1_asked_1 23 rfl rfl
theorem dX1_asked_0 : decode cX1_asked 0 = .ok (.iload_n 1, 1) := dk_27 (dk_at dksX1_asked_0 0 rfl rfl)
theorem dX1_asked_1 : decode cX1_asked 1 = .ok (.aload_n 0, 1) := dk_42 (dk_at dksX1_asked_0 1 rfl rfl)
theorem dX1_asked_2 : decode cX1_asked 2 = .ok (.getfield 25, 3) := dk_180 0 25 (dk_at dksX1_asked_0 2 rfl rfl)
theorem dX1_asked_5 : decode cX1_asked 5 = .ok (.invokevirtual 81, 3) := dk_182 0 81 (dk_at dksX1_asked_0 5 rfl rfl)
theorem dX1_asked_8 : decode cX1_asked 8 = .ok (.invokestatic 112, 3) := dk_184 0 112 (dk_at dksX1_asked_0 8 rfl rfl)
theorem dX1_asked_11 : decode cX1_asked 11 = .ok (.iload_n 2, 1) := dk_28 (dk_at dksX1_asked_0 11 rfl rfl)
theorem dX1_asked_12 : decode cX1_asked 12 = .ok (.aload_n 0, 1) := dk_42 (dk_at dksX1_asked_0 12 rfl rfl)
theorem dX1_asked_13 : decode cX1_asked 13 = .ok (.getfield 35, 3) := dk_180 0 35 (dk_at dksX1_asked_0 13 rfl rfl)
theorem dX1_asked_16 : decode cX1_asked 16 = .ok (.invokevirtual 81, 3) := dk_182 0 81 (dk_at dksX1_asked_0 16 rfl rfl)
theorem dX1_asked_19 : decode cX1_asked 19 = .ok (.invokestatic 112, 3) := dk_184 0 112 (dk_at dksX1_asked_0 19 rfl rfl)
theorem dX1_asked_22 : decode cX1_asked 22 = .ok (.iload_n 3, 1) := dk_29 (dk_at dksX1_asked_0 22 rfl rfl)
theorem dX1_asked_23 : decode cX1_asked 23 = .ok (.aload_n 0, 1) := dk_42 (dk_at dksX1_asked_0 23 rfl rfl)
theorem dX1_asked_24 : decode cX1_asked 24 = .ok (.getfield 32, 3) := dk_180 0 32 (dk_at dksX1_asked_1 0 rfl rfl)
theorem dX1_asked_27 : decode cX1_asked 27 = .ok (.invokevirtual 81, 3) := dk_182 0 81 (dk_at dksX1_asked_1 3 rfl rfl)
theorem dX1_asked_30 : decode cX1_asked 30 = .ok (.invokestatic 112, 3) := dk_184 0 112 (dk_at dksX1_asked_1 6 rfl rfl)
theorem dX1_asked_33 : decode cX1_asked 33 = .ok (.aload_n 0, 1) := dk_42 (dk_at dksX1_asked_1 9 rfl rfl)
theorem dX1_asked_34 : decode cX1_asked 34 = .ok (.iload_n 1, 1) := dk_27 (dk_at dksX1_asked_1 10 rfl rfl)
theorem dX1_asked_35 : decode cX1_asked 35 = .ok (.aload_n 0, 1) := dk_42 (dk_at dksX1_asked_1 11 rfl rfl)
theorem dX1_asked_36 : decode cX1_asked 36 = .ok (.getfield 35, 3) := dk_180 0 35 (dk_at dksX1_asked_1 12 rfl rfl)
theorem dX1_asked_39 : decode cX1_asked 39 = .ok (.iload_n 2, 1) := dk_28 (dk_at dksX1_asked_1 15 rfl rfl)
theorem dX1_asked_40 : decode cX1_asked 40 = .ok (.invokevirtual 162, 3) := dk_182 0 162 (dk_at dksX1_asked_1 16 rfl rfl)
theorem dX1_asked_43 : decode cX1_asked 43 = .ok (.checkcast 132, 3) := dk_192 0 132 (dk_at dksX1_asked_1 19 rfl rfl)
theorem dX1_asked_46 : decode cX1_asked 46 = .ok (.aload_n 0, 1) := dk_42 (dk_at dksX1_asked_1 22 rfl rfl)
theorem dX1_asked_47 : decode cX1_asked 47 = .ok (.getfield 32, 3) := dk_180 0 32 (dk_at dksX1_asked_2 0 rfl rfl)
theorem dX1_asked_50 : decode cX1_asked 50 = .ok (.iload_n 3, 1) := dk_29 (dk_at dksX1_asked_2 3 rfl rfl)
theorem dX1_asked_51 : decode cX1_asked 51 = .ok (.invokevirtual 162, 3) := dk_182 0 162 (dk_at dksX1_asked_2 4 rfl rfl)
theorem dX1_asked_54 : decode cX1_asked 54 = .ok (.checkcast 116, 3) := dk_192 0 116 (dk_at dksX1_asked_2 7 rfl rfl)
theorem dX1_asked_57 : decode cX1_asked 57 = .ok (.invokevirtual 179, 3) := dk_182 0 179 (dk_at dksX1_asked_2 10 rfl rfl)
theorem dX1_asked_60 : decode cX1_asked 60 = .ok (.aload_n 0, 1) := dk_42 (dk_at dksX1_asked_2 13 rfl rfl)
theorem dX1_asked_61 : decode cX1_asked 61 = .ok (.getfield 54, 3) := dk_180 0 54 (dk_at dksX1_asked_2 14 rfl rfl)
theorem dX1_asked_64 : decode cX1_asked 64 = .ok (.getfield 186, 3) := dk_180 0 186 (dk_at dksX1_asked_2 17 rfl rfl)
theorem dX1_asked_67 : decode cX1_asked 67 = .ok (.l2i, 1) := dk_136 (dk_at dksX1_asked_2 20 rfl rfl)
theorem dX1_asked_68 : decode cX1_asked 68 = .ok (.ireturn, 1) := dk_172 (dk_at dksX1_asked_2 21 rfl rfl)
abbrev cX1_force : ByteArray := prog_1_method_17_code
def yX1_force : MethodName := ⟨RX1, "force", "(I)I"⟩
def dkwX1_force_1 : List UInt8 := [172]
abbrev dktX1_force_1 : List UInt8 := dkwX1_force_1 ++ []
def dkwX1_force_0 : List UInt8 := [27, 155, 0, 14, 27, 17, 39, 15, 163, 0, 7, 4, 167, 0, 4, 3, 184, 0, 77, 42, 27, 182, 0, 175]
abbrev dktX1_force_0 : List UInt8 := dkwX1_force_0 ++ dktX1_force_1
theorem dksX1_force_0 : cX1_force.data.toList.drop 0 = dktX1_force_0 := by decide +kernel
theorem dksX1_force_1 : cX1_force.data.toList.drop 24 = dktX1_force_1 := dk_seg dksX1_force_0 24 rfl rfl
theorem dX1_force_0 : decode cX1_force 0 = .ok (.iload_n 1, 1) := dk_27 (dk_at dksX1_force_0 0 rfl rfl)
theorem dX1_force_1 : decode cX1_force 1 = .ok (.ifCond .lt 14, 3) := dk_155 0 14 (dk_at dksX1_force_0 1 rfl rfl)
theorem dX1_force_4 : decode cX1_force 4 = .ok (.iload_n 1, 1) := dk_27 (dk_at dksX1_force_0 4 rfl rfl)
theorem dX1_force_5 : decode cX1_force 5 = .ok (.sipush 9999, 3) := dk_17 39 15 (dk_at dksX1_force_0 5 rfl rfl)
theorem dX1_force_8 : decode cX1_force 8 = .ok (.if_icmp .gt 7, 3) := dk_163 0 7 (dk_at dksX1_force_0 8 rfl rfl)
theorem dX1_force_11 : decode cX1_force 11 = .ok (.iconst 1, 1) := dk_4 (dk_at dksX1_force_0 11 rfl rfl)
theorem dX1_force_12 : decode cX1_force 12 = .ok (.goto 4, 3) := dk_167 0 4 (dk_at dksX1_force_0 12 rfl rfl)
theorem dX1_force_15 : decode cX1_force 15 = .ok (.iconst 0, 1) := dk_3 (dk_at dksX1_force_0 15 rfl rfl)
theorem dX1_force_16 : decode cX1_force 16 = .ok (.invokestatic 77, 3) := dk_184 0 77 (dk_at dksX1_force_0 16 rfl rfl)
theorem dX1_force_19 : decode cX1_force 19 = .ok (.aload_n 0, 1) := dk_42 (dk_at dksX1_force_0 19 rfl rfl)
theorem dX1_force_20 : decode cX1_force 20 = .ok (.iload_n 1, 1) := dk_27 (dk_at dksX1_force_0 20 rfl rfl)
theorem dX1_force_21 : decode cX1_force 21 = .ok (.invokevirtual 175, 3) := dk_182 0 175 (dk_at dksX1_force_0 21 rfl rfl)
theorem dX1_force_24 : decode cX1_force 24 = .ok (.ireturn, 1) := dk_172 (dk_at dksX1_force_1 0 rfl rfl)
abbrev cX1_wait : ByteArray := prog_1_method_19_code
def yX1_wait : MethodName := ⟨RX1, "wait", "(I)I"⟩
def dkwX1_wait_6 : List UInt8 := [182, 0, 246, 132, 3, 1, 167, 255, 189, 132, 2, 1, 167, 255, 137, 42, 180, 0, 137, 172]
abbrev dktX1_wait_6 : List UInt8 := dkwX1_wait_6 ++ []
def dkwX1_wait_5 : List UInt8 := [180, 0, 243, 42, 180, 0, 137, 160, 0, 18, 42, 42, 180, 0, 32, 29, 182, 0, 162, 192, 0, 116]
abbrev dktX1_wait_5 : List UInt8 := dkwX1_wait_5 ++ dktX1_wait_6
def dkwX1_wait_4 : List UInt8 := [29, 182, 0, 162, 192, 0, 116, 180, 0, 190, 198, 0, 39, 42, 180, 0, 32, 29, 182, 0, 162, 192, 0, 116]
abbrev dktX1_wait_4 : List UInt8 := dkwX1_wait_4 ++ dktX1_wait_5
def dkwX1_wait_3 : List UInt8 := [154, 0, 7, 42, 182, 0, 240, 3, 62, 29, 42, 180, 0, 32, 182, 0, 81, 162, 0, 62, 42, 180, 0, 32]
abbrev dktX1_wait_3 : List UInt8 := dkwX1_wait_3 ++ dktX1_wait_4
def dkwX1_wait_2 : List UInt8 := [42, 3, 42, 180, 0, 219, 4, 100, 184, 0, 234, 181, 0, 219, 42, 180, 0, 137, 17, 1, 109, 112]
abbrev dktX1_wait_2 : List UInt8 := dkwX1_wait_2 ++ dktX1_wait_3
def dkwX1_wait_1 : List UInt8 := [167, 0, 4, 3, 184, 0, 77, 3, 61, 28, 27, 162, 0, 120, 42, 89, 180, 0, 137, 4, 96, 181, 0, 137]
abbrev dktX1_wait_1 : List UInt8 := dkwX1_wait_1 ++ dktX1_wait_2
def dkwX1_wait_0 : List UInt8 := [27, 155, 0, 26, 27, 17, 3, 232, 163, 0, 19, 42, 180, 0, 137, 27, 96, 17, 39, 15, 163, 0, 7, 4]
abbrev dktX1_wait_0 : List UInt8 := dkwX1_wait_0 ++ dktX1_wait_1
theorem dksX1_wait_0 : cX1_wait.data.toList.drop 0 = dktX1_wait_0 := by decide +kernel
theorem dksX1_wait_1 : cX1_wait.data.toList.drop 24 = dktX1_wait_1 := dk_seg dksX1_wait_0 24 rfl rfl
theorem dksX1_wait_2 : cX1_wait.data.toList.drop 48 = dktX1_wait_2 := dk_seg dksX1_wait_1 24 rfl rfl
theorem dksX1_wait_3 : cX1_wait.data.toList.drop 70 = dktX1_wait_3 := dk_seg dksX1_wait_2 22 rfl rfl
theorem dksX1_wait_4 : cX1_wait.data.toList.drop 94 = dktX1_wait_4 := dk_seg dksX1_wait_3 24 rfl rfl
theorem dksX1_wait_5 : cX1_wait.data.toList.drop 118 = dktX1_wait_5 := dk_seg dksX1_wait_4 24 rfl rfl
theorem dksX1_wait_6 : cX1_wait.data.toList.drop 140 = dktX1_wait_6 := dk_seg dksX1_wait_5 22 rfl rfl
theorem dX1_wait_0 : decode cX1_wait 0 = .ok (.iload_n 1, 1) := dk_27 (dk_at dksX1_wait_0 0 rfl rfl)
theorem dX1_wait_1 : decode cX1_wait 1 = .ok (.ifCond .lt 26, 3) := dk_155 0 26 (dk_at dksX1_wait_0 1 rfl rfl)
theorem dX1_wait_4 : decode cX1_wait 4 = .ok (.iload_n 1, 1) := dk_27 (dk_at dksX1_wait_0 4 rfl rfl)
theorem dX1_wait_5 : decode cX1_wait 5 = .ok (.sipush 1000, 3) := dk_17 3 232 (dk_at dksX1_wait_0 5 rfl rfl)
theorem dX1_wait_8 : decode cX1_wait 8 = .ok (.if_icmp .gt 19, 3) := dk_163 0 19 (dk_at dksX1_wait_0 8 rfl rfl)
theorem dX1_wait_11 : decode cX1_wait 11 = .ok (.aload_n 0, 1) := dk_42 (dk_at dksX1_wait_0 11 rfl rfl)
theorem dX1_wait_12 : decode cX1_wait 12 = .ok (.getfield 137, 3) := dk_180 0 137 (dk_at dksX1_wait_0 12 rfl rfl)
theorem dX1_wait_15 : decode cX1_wait 15 = .ok (.iload_n 1, 1) := dk_27 (dk_at dksX1_wait_0 15 rfl rfl)
theorem dX1_wait_16 : decode cX1_wait 16 = .ok (.iadd, 1) := dk_96 (dk_at dksX1_wait_0 16 rfl rfl)
theorem dX1_wait_17 : decode cX1_wait 17 = .ok (.sipush 9999, 3) := dk_17 39 15 (dk_at dksX1_wait_0 17 rfl rfl)
theorem dX1_wait_20 : decode cX1_wait 20 = .ok (.if_icmp .gt 7, 3) := dk_163 0 7 (dk_at dksX1_wait_0 20 rfl rfl)
theorem dX1_wait_23 : decode cX1_wait 23 = .ok (.iconst 1, 1) := dk_4 (dk_at dksX1_wait_0 23 rfl rfl)
theorem dX1_wait_24 : decode cX1_wait 24 = .ok (.goto 4, 3) := dk_167 0 4 (dk_at dksX1_wait_1 0 rfl rfl)
theorem dX1_wait_27 : decode cX1_wait 27 = .ok (.iconst 0, 1) := dk_3 (dk_at dksX1_wait_1 3 rfl rfl)
theorem dX1_wait_28 : decode cX1_wait 28 = .ok (.invokestatic 77, 3) := dk_184 0 77 (dk_at dksX1_wait_1 4 rfl rfl)
theorem dX1_wait_31 : decode cX1_wait 31 = .ok (.iconst 0, 1) := dk_3 (dk_at dksX1_wait_1 7 rfl rfl)
theorem dX1_wait_32 : decode cX1_wait 32 = .ok (.istore_n 2, 1) := dk_61 (dk_at dksX1_wait_1 8 rfl rfl)
theorem dX1_wait_33 : decode cX1_wait 33 = .ok (.iload_n 2, 1) := dk_28 (dk_at dksX1_wait_1 9 rfl rfl)
theorem dX1_wait_34 : decode cX1_wait 34 = .ok (.iload_n 1, 1) := dk_27 (dk_at dksX1_wait_1 10 rfl rfl)
theorem dX1_wait_35 : decode cX1_wait 35 = .ok (.if_icmp .ge 120, 3) := dk_162 0 120 (dk_at dksX1_wait_1 11 rfl rfl)
theorem dX1_wait_38 : decode cX1_wait 38 = .ok (.aload_n 0, 1) := dk_42 (dk_at dksX1_wait_1 14 rfl rfl)
theorem dX1_wait_39 : decode cX1_wait 39 = .ok (.dup, 1) := dk_89 (dk_at dksX1_wait_1 15 rfl rfl)
theorem dX1_wait_40 : decode cX1_wait 40 = .ok (.getfield 137, 3) := dk_180 0 137 (dk_at dksX1_wait_1 16 rfl rfl)
theorem dX1_wait_43 : decode cX1_wait 43 = .ok (.iconst 1, 1) := dk_4 (dk_at dksX1_wait_1 19 rfl rfl)
theorem dX1_wait_44 : decode cX1_wait 44 = .ok (.iadd, 1) := dk_96 (dk_at dksX1_wait_1 20 rfl rfl)
theorem dX1_wait_45 : decode cX1_wait 45 = .ok (.putfield 137, 3) := dk_181 0 137 (dk_at dksX1_wait_1 21 rfl rfl)
theorem dX1_wait_48 : decode cX1_wait 48 = .ok (.aload_n 0, 1) := dk_42 (dk_at dksX1_wait_2 0 rfl rfl)
theorem dX1_wait_49 : decode cX1_wait 49 = .ok (.iconst 0, 1) := dk_3 (dk_at dksX1_wait_2 1 rfl rfl)
theorem dX1_wait_50 : decode cX1_wait 50 = .ok (.aload_n 0, 1) := dk_42 (dk_at dksX1_wait_2 2 rfl rfl)
theorem dX1_wait_51 : decode cX1_wait 51 = .ok (.getfield 219, 3) := dk_180 0 219 (dk_at dksX1_wait_2 3 rfl rfl)
theorem dX1_wait_54 : decode cX1_wait 54 = .ok (.iconst 1, 1) := dk_4 (dk_at dksX1_wait_2 6 rfl rfl)
theorem dX1_wait_55 : decode cX1_wait 55 = .ok (.isub, 1) := dk_100 (dk_at dksX1_wait_2 7 rfl rfl)
theorem dX1_wait_56 : decode cX1_wait 56 = .ok (.invokestatic 234, 3) := dk_184 0 234 (dk_at dksX1_wait_2 8 rfl rfl)
theorem dX1_wait_59 : decode cX1_wait 59 = .ok (.putfield 219, 3) := dk_181 0 219 (dk_at dksX1_wait_2 11 rfl rfl)
theorem dX1_wait_62 : decode cX1_wait 62 = .ok (.aload_n 0, 1) := dk_42 (dk_at dksX1_wait_2 14 rfl rfl)
theorem dX1_wait_63 : decode cX1_wait 63 = .ok (.getfield 137, 3) := dk_180 0 137 (dk_at dksX1_wait_2 15 rfl rfl)
theorem dX1_wait_66 : decode cX1_wait 66 = .ok (.sipush 365, 3) := dk_17 1 109 (dk_at dksX1_wait_2 18 rfl rfl)
theorem dX1_wait_69 : decode cX1_wait 69 = .ok (.irem, 1) := dk_112 (dk_at dksX1_wait_2 21 rfl rfl)
theorem dX1_wait_70 : decode cX1_wait 70 = .ok (.ifCond .ne 7, 3) := dk_154 0 7 (dk_at dksX1_wait_3 0 rfl rfl)
theorem dX1_wait_73 : decode cX1_wait 73 = .ok (.aload_n 0, 1) := dk_42 (dk_at dksX1_wait_3 3 rfl rfl)
theorem dX1_wait_74 : decode cX1_wait 74 = .ok (.invokevirtual 240, 3) := dk_182 0 240 (dk_at dksX1_wait_3 4 rfl rfl)
theorem dX1_wait_77 : decode cX1_wait 77 = .ok (.iconst 0, 1) := dk_3 (dk_at dksX1_wait_3 7 rfl rfl)
theorem dX1_wait_78 : decode cX1_wait 78 = .ok (.istore_n 3, 1) := dk_62 (dk_at dksX1_wait_3 8 rfl rfl)
theorem dX1_wait_79 : decode cX1_wait 79 = .ok (.iload_n 3, 1) := dk_29 (dk_at dksX1_wait_3 9 rfl rfl)
theorem dX1_wait_80 : decode cX1_wait 80 = .ok (.aload_n 0, 1) := dk_42 (dk_at dksX1_wait_3 10 rfl rfl)
theorem dX1_wait_81 : decode cX1_wait 81 = .ok (.getfield 32, 3) := dk_180 0 32 (dk_at dksX1_wait_3 11 rfl rfl)
theorem dX1_wait_84 : decode cX1_wait 84 = .ok (.invokevirtual 81, 3) := dk_182 0 81 (dk_at dksX1_wait_3 14 rfl rfl)
theorem dX1_wait_87 : decode cX1_wait 87 = .ok (.if_icmp .ge 62, 3) := dk_162 0 62 (dk_at dksX1_wait_3 17 rfl rfl)
theorem dX1_wait_90 : decode cX1_wait 90 = .ok (.aload_n 0, 1) := dk_42 (dk_at dksX1_wait_3 20 rfl rfl)
theorem dX1_wait_91 : decode cX1_wait 91 = .ok (.getfield 32, 3) := dk_180 0 32 (dk_at dksX1_wait_3 21 rfl rfl)
theorem dX1_wait_94 : decode cX1_wait 94 = .ok (.iload_n 3, 1) := dk_29 (dk_at dksX1_wait_4 0 rfl rfl)
theorem dX1_wait_95 : decode cX1_wait 95 = .ok (.invokevirtual 162, 3) := dk_182 0 162 (dk_at dksX1_wait_4 1 rfl rfl)
theorem dX1_wait_98 : decode cX1_wait 98 = .ok (.checkcast 116, 3) := dk_192 0 116 (dk_at dksX1_wait_4 4 rfl rfl)
theorem dX1_wait_101 : decode cX1_wait 101 = .ok (.getfield 190, 3) := dk_180 0 190 (dk_at dksX1_wait_4 7 rfl rfl)
theorem dX1_wait_104 : decode cX1_wait 104 = .ok (.ifnull 39, 3) := dk_198 0 39 (dk_at dksX1_wait_4 10 rfl rfl)
theorem dX1_wait_107 : decode cX1_wait 107 = .ok (.aload_n 0, 1) := dk_42 (dk_at dksX1_wait_4 13 rfl rfl)
theorem dX1_wait_108 : decode cX1_wait 108 = .ok (.getfield 32, 3) := dk_180 0 32 (dk_at dksX1_wait_4 14 rfl rfl)
theorem dX1_wait_111 : decode cX1_wait 111 = .ok (.iload_n 3, 1) := dk_29 (dk_at dksX1_wait_4 17 rfl rfl)
theorem dX1_wait_112 : decode cX1_wait 112 = .ok (.invokevirtual 162, 3) := dk_182 0 162 (dk_at dksX1_wait_4 18 rfl rfl)
theorem dX1_wait_115 : decode cX1_wait 115 = .ok (.checkcast 116, 3) := dk_192 0 116 (dk_at dksX1_wait_4 21 rfl rfl)
theorem dX1_wait_118 : decode cX1_wait 118 = .ok (.getfield 243, 3) := dk_180 0 243 (dk_at dksX1_wait_5 0 rfl rfl)
theorem dX1_wait_121 : decode cX1_wait 121 = .ok (.aload_n 0, 1) := dk_42 (dk_at dksX1_wait_5 3 rfl rfl)
theorem dX1_wait_122 : decode cX1_wait 122 = .ok (.getfield 137, 3) := dk_180 0 137 (dk_at dksX1_wait_5 4 rfl rfl)
theorem dX1_wait_125 : decode cX1_wait 125 = .ok (.if_icmp .ne 18, 3) := dk_160 0 18 (dk_at dksX1_wait_5 7 rfl rfl)
theorem dX1_wait_128 : decode cX1_wait 128 = .ok (.aload_n 0, 1) := dk_42 (dk_at dksX1_wait_5 10 rfl rfl)
theorem dX1_wait_129 : decode cX1_wait 129 = .ok (.aload_n 0, 1) := dk_42 (dk_at dksX1_wait_5 11 rfl rfl)
theorem dX1_wait_130 : decode cX1_wait 130 = .ok (.getfield 32, 3) := dk_180 0 32 (dk_at dksX1_wait_5 12 rfl rfl)
theorem dX1_wait_133 : decode cX1_wait 133 = .ok (.iload_n 3, 1) := dk_29 (dk_at dksX1_wait_5 15 rfl rfl)
theorem dX1_wait_134 : decode cX1_wait 134 = .ok (.invokevirtual 162, 3) := dk_182 0 162 (dk_at dksX1_wait_5 16 rfl rfl)
theorem dX1_wait_137 : decode cX1_wait 137 = .ok (.checkcast 116, 3) := dk_192 0 116 (dk_at dksX1_wait_5 19 rfl rfl)
theorem dX1_wait_140 : decode cX1_wait 140 = .ok (.invokevirtual 246, 3) := dk_182 0 246 (dk_at dksX1_wait_6 0 rfl rfl)
theorem dX1_wait_143 : decode cX1_wait 143 = .ok (.iinc 3 1, 3) := dk_132 3 1 (dk_at dksX1_wait_6 3 rfl rfl)
theorem dX1_wait_146 : decode cX1_wait 146 = .ok (.goto (-67), 3) := dk_167 255 189 (dk_at dksX1_wait_6 6 rfl rfl)
theorem dX1_wait_149 : decode cX1_wait 149 = .ok (.iinc 2 1, 3) := dk_132 2 1 (dk_at dksX1_wait_6 9 rfl rfl)
theorem dX1_wait_152 : decode cX1_wait 152 = .ok (.goto (-119), 3) := dk_167 255 137 (dk_at dksX1_wait_6 12 rfl rfl)
theorem dX1_wait_155 : decode cX1_wait 155 = .ok (.aload_n 0, 1) := dk_42 (dk_at dksX1_wait_6 15 rfl rfl)
theorem dX1_wait_156 : decode cX1_wait 156 = .ok (.getfield 137, 3) := dk_180 0 137 (dk_at dksX1_wait_6 16 rfl rfl)
theorem dX1_wait_159 : decode cX1_wait 159 = .ok (.ireturn, 1) := dk_172 (dk_at dksX1_wait_6 19 rfl rfl)
abbrev cX1_interest : ByteArray := prog_1_method_22_code
def yX1_interest : MethodName := ⟨RX1, "interest", "()V"⟩
def dkwX1_interest_9 : List UInt8 := [167, 255, 201, 167, 0, 9, 42, 27, 32, 182, 1, 26, 132, 1, 1, 167, 255, 105, 177]
abbrev dktX1_interest_9 : List UInt8 := dkwX1_interest_9 ++ []
def dkwX1_interest_8 : List UInt8 := [21, 4, 42, 180, 0, 41, 21, 4, 182, 0, 162, 192, 1, 7, 180, 1, 9, 182, 1, 22, 132, 4, 1]
abbrev dktX1_interest_8 : List UInt8 := dkwX1_interest_8 ++ dktX1_interest_9
def dkwX1_interest_7 : List UInt8 := [162, 0, 49, 42, 180, 0, 41, 21, 4, 182, 0, 162, 192, 1, 7, 180, 1, 19, 27, 160, 0, 24, 42]
abbrev dktX1_interest_7 : List UInt8 := dkwX1_interest_7 ++ dktX1_interest_8
def dkwX1_interest_6 : List UInt8 := [167, 255, 200, 42, 180, 0, 231, 32, 148, 155, 0, 67, 3, 54, 4, 21, 4, 42, 180, 0, 41, 182, 0, 81]
abbrev dktX1_interest_6 : List UInt8 := dkwX1_interest_6 ++ dktX1_interest_7
def dkwX1_interest_5 : List UInt8 := [180, 0, 41, 21, 4, 182, 0, 162, 192, 1, 7, 180, 1, 9, 167, 0, 4, 9, 97, 65, 132, 4, 1]
abbrev dktX1_interest_5 : List UInt8 := dkwX1_interest_5 ++ dktX1_interest_6
def dkwX1_interest_4 : List UInt8 := [162, 0, 50, 32, 42, 180, 0, 41, 21, 4, 182, 0, 162, 192, 1, 7, 180, 1, 19, 27, 160, 0, 21, 42]
abbrev dktX1_interest_4 : List UInt8 := dkwX1_interest_4 ++ dktX1_interest_5
def dkwX1_interest_3 : List UInt8 := [167, 255, 189, 3, 60, 27, 7, 162, 0, 152, 9, 65, 3, 54, 4, 21, 4, 42, 180, 0, 41, 182, 0, 81]
abbrev dktX1_interest_3 : List UInt8 := dkwX1_interest_3 ++ dktX1_interest_4
def dkwX1_interest_2 : List UInt8 := [182, 0, 162, 192, 1, 7, 180, 1, 14, 133, 105, 20, 1, 17, 109, 97, 181, 1, 9, 132, 1, 1]
abbrev dktX1_interest_2 : List UInt8 := dkwX1_interest_2 ++ dktX1_interest_3
def dkwX1_interest_1 : List UInt8 := [89, 180, 1, 9, 42, 180, 0, 41, 27, 182, 0, 162, 192, 1, 7, 180, 1, 11, 42, 180, 0, 41, 27]
abbrev dktX1_interest_1 : List UInt8 := dkwX1_interest_1 ++ dktX1_interest_2
def dkwX1_interest_0 : List UInt8 := [3, 60, 27, 42, 180, 0, 41, 182, 0, 81, 162, 0, 62, 42, 180, 0, 41, 27, 182, 0, 162, 192, 1, 7]
abbrev dktX1_interest_0 : List UInt8 := dkwX1_interest_0 ++ dktX1_interest_1
theorem dksX1_interest_0 : cX1_interest.data.toList.drop 0 = dktX1_interest_0 := by decide +kernel
theorem dksX1_interest_1 : cX1_interest.data.toList.drop 24 = dktX1_interest_1 := dk_seg dksX1_interest_0 24 rfl rfl
theorem dksX1_interest_2 : cX1_interest.data.toList.drop 47 = dktX1_interest_2 := dk_seg dksX1_interest_1 23 rfl rfl
theorem dksX1_interest_3 : cX1_interest.data.toList.drop 69 = dktX1_interest_3 := dk_seg dksX1_interest_2 22 rfl rfl
theorem dksX1_interest_4 : cX1_interest.data.toList.drop 93 = dktX1_interest_4 := dk_seg dksX1_interest_3 24 rfl rfl
theorem dksX1_interest_5 : cX1_interest.data.toList.drop 117 = dktX1_interest_5 := dk_seg dksX1_interest_4 24 rfl rfl
theorem dksX1_interest_6 : cX1_interest.data.toList.drop 140 = dktX1_interest_6 := dk_seg dksX1_interest_5 23 rfl rfl
theorem dksX1_interest_7 : cX1_interest.data.toList.drop 164 = dktX1_interest_7 := dk_seg dksX1_interest_6 24 rfl rfl
theorem dksX1_interest_8 : cX1_interest.data.toList.drop 187 = dktX1_interest_8 := dk_seg dksX1_interest_7 23 rfl rfl
theorem dksX1_interest_9 : cX1_interest.data.toList.drop 210 = dktX1_interest_9 := dk_seg dksX1_interest_8 23 rfl rfl
theorem dX1_interest_0 : decode cX1_interest 0 = .ok (.iconst 0, 1) := dk_3 (dk_at dksX1_interest_0 0 rfl rfl)
theorem dX1_interest_1 : decode cX1_interest 1 = .ok (.istore_n 1, 1) := dk_60 (dk_at dksX1_interest_0 1 rfl rfl)
theorem dX1_interest_2 : decode cX1_interest 2 = .ok (.iload_n 1, 1) := dk_27 (dk_at dksX1_interest_0 2 rfl rfl)
theorem dX1_interest_3 : decode cX1_interest 3 = .ok (.aload_n 0, 1) := dk_42 (dk_at dksX1_interest_0 3 rfl rfl)
theorem dX1_interest_4 : decode cX1_interest 4 = .ok (.getfield 41, 3) := dk_180 0 41 (dk_at dksX1_interest_0 4 rfl rfl)
theorem dX1_interest_7 : decode cX1_interest 7 = .ok (.invokevirtual 81, 3) := dk_182 0 81 (dk_at dksX1_interest_0 7 rfl rfl)
theorem dX1_interest_10 : decode cX1_interest 10 = .ok (.if_icmp .ge 62, 3) := dk_162 0 62 (dk_at dksX1_interest_0 10 rfl rfl)
theorem dX1_interest_13 : decode cX1_interest 13 = .ok (.aload_n 0, 1) := dk_42 (dk_at dksX1_interest_0 13 rfl rfl)
theorem dX1_interest_14 : decode cX1_interest 14 = .ok (.getfield 41, 3) := dk_180 0 41 (dk_at dksX1_interest_0 14 rfl rfl)
theorem dX1_interest_17 : decode cX1_interest 17 = .ok (.iload_n 1, 1) := dk_27 (dk_at dksX1_interest_0 17 rfl rfl)
theorem dX1_interest_18 : decode cX1_interest 18 = .ok (.invokevirtual 162, 3) := dk_182 0 162 (dk_at dksX1_interest_0 18 rfl rfl)
theorem dX1_interest_21 : decode cX1_interest 21 = .ok (.checkcast 263, 3) := dk_192 1 7 (dk_at dksX1_interest_0 21 rfl rfl)
theorem dX1_interest_24 : decode cX1_interest 24 = .ok (.dup, 1) := dk_89 (dk_at dksX1_interest_1 0 rfl rfl)
theorem dX1_interest_25 : decode cX1_interest 25 = .ok (.getfield 265, 3) := dk_180 1 9 (dk_at dksX1_interest_1 1 rfl rfl)
theorem dX1_interest_28 : decode cX1_interest 28 = .ok (.aload_n 0, 1) := dk_42 (dk_at dksX1_interest_1 4 rfl rfl)
theorem dX1_interest_29 : decode cX1_interest 29 = .ok (.getfield 41, 3) := dk_180 0 41 (dk_at dksX1_interest_1 5 rfl rfl)
theorem dX1_interest_32 : decode cX1_interest 32 = .ok (.iload_n 1, 1) := dk_27 (dk_at dksX1_interest_1 8 rfl rfl)
theorem dX1_interest_33 : decode cX1_interest 33 = .ok (.invokevirtual 162, 3) := dk_182 0 162 (dk_at dksX1_interest_1 9 rfl rfl)
theorem dX1_interest_36 : decode cX1_interest 36 = .ok (.checkcast 263, 3) := dk_192 1 7 (dk_at dksX1_interest_1 12 rfl rfl)
theorem dX1_interest_39 : decode cX1_interest 39 = .ok (.getfield 267, 3) := dk_180 1 11 (dk_at dksX1_interest_1 15 rfl rfl)
theorem dX1_interest_42 : decode cX1_interest 42 = .ok (.aload_n 0, 1) := dk_42 (dk_at dksX1_interest_1 18 rfl rfl)
theorem dX1_interest_43 : decode cX1_interest 43 = .ok (.getfield 41, 3) := dk_180 0 41 (dk_at dksX1_interest_1 19 rfl rfl)
theorem dX1_interest_46 : decode cX1_interest 46 = .ok (.iload_n 1, 1) := dk_27 (dk_at dksX1_interest_1 22 rfl rfl)
theorem dX1_interest_47 : decode cX1_interest 47 = .ok (.invokevirtual 162, 3) := dk_182 0 162 (dk_at dksX1_interest_2 0 rfl rfl)
theorem dX1_interest_50 : decode cX1_interest 50 = .ok (.checkcast 263, 3) := dk_192 1 7 (dk_at dksX1_interest_2 3 rfl rfl)
theorem dX1_interest_53 : decode cX1_interest 53 = .ok (.getfield 270, 3) := dk_180 1 14 (dk_at dksX1_interest_2 6 rfl rfl)
theorem dX1_interest_56 : decode cX1_interest 56 = .ok (.i2l, 1) := dk_133 (dk_at dksX1_interest_2 9 rfl rfl)
theorem dX1_interest_57 : decode cX1_interest 57 = .ok (.lmul, 1) := dk_105 (dk_at dksX1_interest_2 10 rfl rfl)
theorem dX1_interest_58 : decode cX1_interest 58 = .ok (.ldc2_w 273, 3) := dk_20 1 17 (dk_at dksX1_interest_2 11 rfl rfl)
theorem dX1_interest_61 : decode cX1_interest 61 = .ok (.ldiv, 1) := dk_109 (dk_at dksX1_interest_2 14 rfl rfl)
theorem dX1_interest_62 : decode cX1_interest 62 = .ok (.ladd, 1) := dk_97 (dk_at dksX1_interest_2 15 rfl rfl)
theorem dX1_interest_63 : decode cX1_interest 63 = .ok (.putfield 265, 3) := dk_181 1 9 (dk_at dksX1_interest_2 16 rfl rfl)
theorem dX1_interest_66 : decode cX1_interest 66 = .ok (.iinc 1 1, 3) := dk_132 1 1 (dk_at dksX1_interest_2 19 rfl rfl)
theorem dX1_interest_69 : decode cX1_interest 69 = .ok (.goto (-67), 3) := dk_167 255 189 (dk_at dksX1_interest_3 0 rfl rfl)
theorem dX1_interest_72 : decode cX1_interest 72 = .ok (.iconst 0, 1) := dk_3 (dk_at dksX1_interest_3 3 rfl rfl)
theorem dX1_interest_73 : decode cX1_interest 73 = .ok (.istore_n 1, 1) := dk_60 (dk_at dksX1_interest_3 4 rfl rfl)
theorem dX1_interest_74 : decode cX1_interest 74 = .ok (.iload_n 1, 1) := dk_27 (dk_at dksX1_interest_3 5 rfl rfl)
theorem dX1_interest_75 : decode cX1_interest 75 = .ok (.iconst 4, 1) := dk_7 (dk_at dksX1_interest_3 6 rfl rfl)
theorem dX1_interest_76 : decode cX1_interest 76 = .ok (.if_icmp .ge 152, 3) := dk_162 0 152 (dk_at dksX1_interest_3 7 rfl rfl)
theorem dX1_interest_79 : decode cX1_interest 79 = .ok (.lconst 0, 1) := dk_9 (dk_at dksX1_interest_3 10 rfl rfl)
theorem dX1_interest_80 : decode cX1_interest 80 = .ok (.lstore_n 2, 1) := dk_65 (dk_at dksX1_interest_3 11 rfl rfl)
theorem dX1_interest_81 : decode cX1_interest 81 = .ok (.iconst 0, 1) := dk_3 (dk_at dksX1_interest_3 12 rfl rfl)
theorem dX1_interest_82 : decode cX1_interest 82 = .ok (.istore 4, 2) := dk_54 4 (dk_at dksX1_interest_3 13 rfl rfl)
theorem dX1_interest_84 : decode cX1_interest 84 = .ok (.iload 4, 2) := dk_21 4 (dk_at dksX1_interest_3 15 rfl rfl)
theorem dX1_interest_86 : decode cX1_interest 86 = .ok (.aload_n 0, 1) := dk_42 (dk_at dksX1_interest_3 17 rfl rfl)
theorem dX1_interest_87 : decode cX1_interest 87 = .ok (.getfield 41, 3) := dk_180 0 41 (dk_at dksX1_interest_3 18 rfl rfl)
theorem dX1_interest_90 : decode cX1_interest 90 = .ok (.invokevirtual 81, 3) := dk_182 0 81 (dk_at dksX1_interest_3 21 rfl rfl)
theorem dX1_interest_93 : decode cX1_interest 93 = .ok (.if_icmp .ge 50, 3) := dk_162 0 50 (dk_at dksX1_interest_4 0 rfl rfl)
theorem dX1_interest_96 : decode cX1_interest 96 = .ok (.lload_n 2, 1) := dk_32 (dk_at dksX1_interest_4 3 rfl rfl)
theorem dX1_interest_97 : decode cX1_interest 97 = .ok (.aload_n 0, 1) := dk_42 (dk_at dksX1_interest_4 4 rfl rfl)
theorem dX1_interest_98 : decode cX1_interest 98 = .ok (.getfield 41, 3) := dk_180 0 41 (dk_at dksX1_interest_4 5 rfl rfl)
theorem dX1_interest_101 : decode cX1_interest 101 = .ok (.iload 4, 2) := dk_21 4 (dk_at dksX1_interest_4 8 rfl rfl)
theorem dX1_interest_103 : decode cX1_interest 103 = .ok (.invokevirtual 162, 3) := dk_182 0 162 (dk_at dksX1_interest_4 10 rfl rfl)
theorem dX1_interest_106 : decode cX1_interest 106 = .ok (.checkcast 263, 3) := dk_192 1 7 (dk_at dksX1_interest_4 13 rfl rfl)
theorem dX1_interest_109 : decode cX1_interest 109 = .ok (.getfield 275, 3) := dk_180 1 19 (dk_at dksX1_interest_4 16 rfl rfl)
theorem dX1_interest_112 : decode cX1_interest 112 = .ok (.iload_n 1, 1) := dk_27 (dk_at dksX1_interest_4 19 rfl rfl)
theorem dX1_interest_113 : decode cX1_interest 113 = .ok (.if_icmp .ne 21, 3) := dk_160 0 21 (dk_at dksX1_interest_4 20 rfl rfl)
theorem dX1_interest_116 : decode cX1_interest 116 = .ok (.aload_n 0, 1) := dk_42 (dk_at dksX1_interest_4 23 rfl rfl)
theorem dX1_interest_117 : decode cX1_interest 117 = .ok (.getfield 41, 3) := dk_180 0 41 (dk_at dksX1_interest_5 0 rfl rfl)
theorem dX1_interest_120 : decode cX1_interest 120 = .ok (.iload 4, 2) := dk_21 4 (dk_at dksX1_interest_5 3 rfl rfl)
theorem dX1_interest_122 : decode cX1_interest 122 = .ok (.invokevirtual 162, 3) := dk_182 0 162 (dk_at dksX1_interest_5 5 rfl rfl)
theorem dX1_interest_125 : decode cX1_interest 125 = .ok (.checkcast 263, 3) := dk_192 1 7 (dk_at dksX1_interest_5 8 rfl rfl)
theorem dX1_interest_128 : decode cX1_interest 128 = .ok (.getfield 265, 3) := dk_180 1 9 (dk_at dksX1_interest_5 11 rfl rfl)
theorem dX1_interest_131 : decode cX1_interest 131 = .ok (.goto 4, 3) := dk_167 0 4 (dk_at dksX1_interest_5 14 rfl rfl)
theorem dX1_interest_134 : decode cX1_interest 134 = .ok (.lconst 0, 1) := dk_9 (dk_at dksX1_interest_5 17 rfl rfl)
theorem dX1_interest_135 : decode cX1_interest 135 = .ok (.ladd, 1) := dk_97 (dk_at dksX1_interest_5 18 rfl rfl)
theorem dX1_interest_136 : decode cX1_interest 136 = .ok (.lstore_n 2, 1) := dk_65 (dk_at dksX1_interest_5 19 rfl rfl)
theorem dX1_interest_137 : decode cX1_interest 137 = .ok (.iinc 4 1, 3) := dk_132 4 1 (dk_at dksX1_interest_5 20 rfl rfl)
theorem dX1_interest_140 : decode cX1_interest 140 = .ok (.goto (-56), 3) := dk_167 255 200 (dk_at dksX1_interest_6 0 rfl rfl)
theorem dX1_interest_143 : decode cX1_interest 143 = .ok (.aload_n 0, 1) := dk_42 (dk_at dksX1_interest_6 3 rfl rfl)
theorem dX1_interest_144 : decode cX1_interest 144 = .ok (.getfield 231, 3) := dk_180 0 231 (dk_at dksX1_interest_6 4 rfl rfl)
theorem dX1_interest_147 : decode cX1_interest 147 = .ok (.lload_n 2, 1) := dk_32 (dk_at dksX1_interest_6 7 rfl rfl)
theorem dX1_interest_148 : decode cX1_interest 148 = .ok (.lcmp, 1) := dk_148 (dk_at dksX1_interest_6 8 rfl rfl)
theorem dX1_interest_149 : decode cX1_interest 149 = .ok (.ifCond .lt 67, 3) := dk_155 0 67 (dk_at dksX1_interest_6 9 rfl rfl)
theorem dX1_interest_152 : decode cX1_interest 152 = .ok (.iconst 0, 1) := dk_3 (dk_at dksX1_interest_6 12 rfl rfl)
theorem dX1_interest_153 : decode cX1_interest 153 = .ok (.istore 4, 2) := dk_54 4 (dk_at dksX1_interest_6 13 rfl rfl)
theorem dX1_interest_155 : decode cX1_interest 155 = .ok (.iload 4, 2) := dk_21 4 (dk_at dksX1_interest_6 15 rfl rfl)
theorem dX1_interest_157 : decode cX1_interest 157 = .ok (.aload_n 0, 1) := dk_42 (dk_at dksX1_interest_6 17 rfl rfl)
theorem dX1_interest_158 : decode cX1_interest 158 = .ok (.getfield 41, 3) := dk_180 0 41 (dk_at dksX1_interest_6 18 rfl rfl)
theorem dX1_interest_161 : decode cX1_interest 161 = .ok (.invokevirtual 81, 3) := dk_182 0 81 (dk_at dksX1_interest_6 21 rfl rfl)
theorem dX1_interest_164 : decode cX1_interest 164 = .ok (.if_icmp .ge 49, 3) := dk_162 0 49 (dk_at dksX1_interest_7 0 rfl rfl)
theorem dX1_interest_167 : decode cX1_interest 167 = .ok (.aload_n 0, 1) := dk_42 (dk_at dksX1_interest_7 3 rfl rfl)
theorem dX1_interest_168 : decode cX1_interest 168 = .ok (.getfield 41, 3) := dk_180 0 41 (dk_at dksX1_interest_7 4 rfl rfl)
theorem dX1_interest_171 : decode cX1_interest 171 = .ok (.iload 4, 2) := dk_21 4 (dk_at dksX1_interest_7 7 rfl rfl)
theorem dX1_interest_173 : decode cX1_interest 173 = .ok (.invokevirtual 162, 3) := dk_182 0 162 (dk_at dksX1_interest_7 9 rfl rfl)
theorem dX1_interest_176 : decode cX1_interest 176 = .ok (.checkcast 263, 3) := dk_192 1 7 (dk_at dksX1_interest_7 12 rfl rfl)
theorem dX1_interest_179 : decode cX1_interest 179 = .ok (.getfield 275, 3) := dk_180 1 19 (dk_at dksX1_interest_7 15 rfl rfl)
theorem dX1_interest_182 : decode cX1_interest 182 = .ok (.iload_n 1, 1) := dk_27 (dk_at dksX1_interest_7 18 rfl rfl)
theorem dX1_interest_183 : decode cX1_interest 183 = .ok (.if_icmp .ne 24, 3) := dk_160 0 24 (dk_at dksX1_interest_7 19 rfl rfl)
theorem dX1_interest_186 : decode cX1_interest 186 = .ok (.aload_n 0, 1) := dk_42 (dk_at dksX1_interest_7 22 rfl rfl)
theorem dX1_interest_187 : decode cX1_interest 187 = .ok (.iload 4, 2) := dk_21 4 (dk_at dksX1_interest_8 0 rfl rfl)
theorem dX1_interest_189 : decode cX1_interest 189 = .ok (.aload_n 0, 1) := dk_42 (dk_at dksX1_interest_8 2 rfl rfl)
theorem dX1_interest_190 : decode cX1_interest 190 = .ok (.getfield 41, 3) := dk_180 0 41 (dk_at dksX1_interest_8 3 rfl rfl)
theorem dX1_interest_193 : decode cX1_interest 193 = .ok (.iload 4, 2) := dk_21 4 (dk_at dksX1_interest_8 6 rfl rfl)
theorem dX1_interest_195 : decode cX1_interest 195 = .ok (.invokevirtual 162, 3) := dk_182 0 162 (dk_at dksX1_interest_8 8 rfl rfl)
theorem dX1_interest_198 : decode cX1_interest 198 = .ok (.checkcast 263, 3) := dk_192 1 7 (dk_at dksX1_interest_8 11 rfl rfl)
theorem dX1_interest_201 : decode cX1_interest 201 = .ok (.getfield 265, 3) := dk_180 1 9 (dk_at dksX1_interest_8 14 rfl rfl)
theorem dX1_interest_204 : decode cX1_interest 204 = .ok (.invokevirtual 278, 3) := dk_182 1 22 (dk_at dksX1_interest_8 17 rfl rfl)
theorem dX1_interest_207 : decode cX1_interest 207 = .ok (.iinc 4 1, 3) := dk_132 4 1 (dk_at dksX1_interest_8 20 rfl rfl)
theorem dX1_interest_210 : decode cX1_interest 210 = .ok (.goto (-55), 3) := dk_167 255 201 (dk_at dksX1_interest_9 0 rfl rfl)
theorem dX1_interest_213 : decode cX1_interest 213 = .ok (.goto 9, 3) := dk_167 0 9 (dk_at dksX1_interest_9 3 rfl rfl)
theorem dX1_interest_216 : decode cX1_interest 216 = .ok (.aload_n 0, 1) := dk_42 (dk_at dksX1_interest_9 6 rfl rfl)
theorem dX1_interest_217 : decode cX1_interest 217 = .ok (.iload_n 1, 1) := dk_27 (dk_at dksX1_interest_9 7 rfl rfl)
theorem dX1_interest_218 : decode cX1_interest 218 = .ok (.lload_n 2, 1) := dk_32 (dk_at dksX1_interest_9 8 rfl rfl)
theorem dX1_interest_219 : decode cX1_interest 219 = .ok (.invokevirtual 282, 3) := dk_182 1 26 (dk_at dksX1_interest_9 9 rfl rfl)
theorem dX1_interest_222 : decode cX1_interest 222 = .ok (.iinc 1 1, 3) := dk_132 1 1 (dk_at dksX1_interest_9 12 rfl rfl)
theorem dX1_interest_225 : decode cX1_interest 225 = .ok (.goto (-151), 3) := dk_167 255 105 (dk_at dksX1_interest_9 15 rfl rfl)
theorem dX1_interest_228 : decode cX1_interest 228 = .ok (.return_, 1) := dk_177 (dk_at dksX1_interest_9 18 rfl rfl)
abbrev cX1_gets : ByteArray := prog_1_method_23_code
def yX1_gets : MethodName := ⟨RX1, "gets", "(IJ)V"⟩
def dkwX1_gets_1 : List UInt8 := [181, 1, 9, 42, 7, 27, 32, 117, 182, 0, 204, 177]
abbrev dktX1_gets_1 : List UInt8 := dkwX1_gets_1 ++ []
def dkwX1_gets_0 : List UInt8 := [32, 9, 148, 154, 0, 4, 177, 42, 180, 0, 41, 27, 182, 0, 162, 192, 1, 7, 89, 180, 1, 9, 32, 101]
abbrev dktX1_gets_0 : List UInt8 := dkwX1_gets_0 ++ dktX1_gets_1
theorem dksX1_gets_0 : cX1_gets.data.toList.drop 0 = dktX1_gets_0 := by decide +kernel
theorem dksX1_gets_1 : cX1_gets.data.toList.drop 24 = dktX1_gets_1 := dk_seg dksX1_gets_0 24 rfl rfl
theorem dX1_gets_0 : decode cX1_gets 0 = .ok (.lload_n 2, 1) := dk_32 (dk_at dksX1_gets_0 0 rfl rfl)
theorem dX1_gets_1 : decode cX1_gets 1 = .ok (.lconst 0, 1) := dk_9 (dk_at dksX1_gets_0 1 rfl rfl)
theorem dX1_gets_2 : decode cX1_gets 2 = .ok (.lcmp, 1) := dk_148 (dk_at dksX1_gets_0 2 rfl rfl)
theorem dX1_gets_3 : decode cX1_gets 3 = .ok (.ifCond .ne 4, 3) := dk_154 0 4 (dk_at dksX1_gets_0 3 rfl rfl)
theorem dX1_gets_6 : decode cX1_gets 6 = .ok (.return_, 1) := dk_177 (dk_at dksX1_gets_0 6 rfl rfl)
theorem dX1_gets_7 : decode cX1_gets 7 = .ok (.aload_n 0, 1) := dk_42 (dk_at dksX1_gets_0 7 rfl rfl)
theorem dX1_gets_8 : decode cX1_gets 8 = .ok (.getfield 41, 3) := dk_180 0 41 (dk_at dksX1_gets_0 8 rfl rfl)
theorem dX1_gets_11 : decode cX1_gets 11 = .ok (.iload_n 1, 1) := dk_27 (dk_at dksX1_gets_0 11 rfl rfl)
theorem dX1_gets_12 : decode cX1_gets 12 = .ok (.invokevirtual 162, 3) := dk_182 0 162 (dk_at dksX1_gets_0 12 rfl rfl)
theorem dX1_gets_15 : decode cX1_gets 15 = .ok (.checkcast 263, 3) := dk_192 1 7 (dk_at dksX1_gets_0 15 rfl rfl)
theorem dX1_gets_18 : decode cX1_gets 18 = .ok (.dup, 1) := dk_89 (dk_at dksX1_gets_0 18 rfl rfl)
theorem dX1_gets_19 : decode cX1_gets 19 = .ok (.getfield 265, 3) := dk_180 1 9 (dk_at dksX1_gets_0 19 rfl rfl)
theorem dX1_gets_22 : decode cX1_gets 22 = .ok (.lload_n 2, 1) := dk_32 (dk_at dksX1_gets_0 22 rfl rfl)
theorem dX1_gets_23 : decode cX1_gets 23 = .ok (.lsub, 1) := dk_101 (dk_at dksX1_gets_0 23 rfl rfl)
theorem dX1_gets_24 : decode cX1_gets 24 = .ok (.putfield 265, 3) := dk_181 1 9 (dk_at dksX1_gets_1 0 rfl rfl)
theorem dX1_gets_27 : decode cX1_gets 27 = .ok (.aload_n 0, 1) := dk_42 (dk_at dksX1_gets_1 3 rfl rfl)
theorem dX1_gets_28 : decode cX1_gets 28 = .ok (.iconst 4, 1) := dk_7 (dk_at dksX1_gets_1 4 rfl rfl)
theorem dX1_gets_29 : decode cX1_gets 29 = .ok (.iload_n 1, 1) := dk_27 (dk_at dksX1_gets_1 5 rfl rfl)
theorem dX1_gets_30 : decode cX1_gets 30 = .ok (.lload_n 2, 1) := dk_32 (dk_at dksX1_gets_1 6 rfl rfl)
theorem dX1_gets_31 : decode cX1_gets 31 = .ok (.lneg, 1) := dk_117 (dk_at dksX1_gets_1 7 rfl rfl)
theorem dX1_gets_32 : decode cX1_gets 32 = .ok (.invokevirtual 204, 3) := dk_182 0 204 (dk_at dksX1_gets_1 8 rfl rfl)
theorem dX1_gets_35 : decode cX1_gets 35 = .ok (.return_, 1) := dk_177 (dk_at dksX1_gets_1 11 rfl rfl)
abbrev cX1_parts : ByteArray := prog_1_method_24_code
def yX1_parts : MethodName := ⟨RX1, "parts", "(IJ)V"⟩
def dkwX1_parts_9 : List UInt8 := [162, 0, 20, 42, 21, 8, 25, 4, 21, 8, 47, 182, 1, 22, 132, 8, 1, 167, 255, 230, 177]
abbrev dktX1_parts_9 : List UInt8 := dkwX1_parts_9 ++ []
def dkwX1_parts_8 : List UInt8 := [80, 22, 6, 10, 101, 55, 6, 167, 255, 186, 3, 54, 8, 21, 8, 42, 180, 0, 41, 182, 0, 81]
abbrev dktX1_parts_8 : List UInt8 := dkwX1_parts_8 ++ dktX1_parts_9
def dkwX1_parts_7 : List UInt8 := [21, 9, 54, 8, 132, 9, 1, 167, 255, 223, 25, 4, 21, 8, 92, 47, 10, 97, 80, 25, 5, 21, 8, 9]
abbrev dktX1_parts_7 : List UInt8 := dkwX1_parts_7 ++ dktX1_parts_8
def dkwX1_parts_6 : List UInt8 := [180, 0, 41, 182, 0, 81, 162, 0, 27, 25, 5, 21, 9, 47, 25, 5, 21, 8, 47, 148, 158, 0, 7]
abbrev dktX1_parts_6 : List UInt8 := dkwX1_parts_6 ++ dktX1_parts_7
def dkwX1_parts_5 : List UInt8 := [132, 8, 1, 167, 255, 155, 22, 6, 9, 148, 158, 0, 69, 3, 54, 8, 4, 54, 9, 21, 9, 42]
abbrev dktX1_parts_5 : List UInt8 := dkwX1_parts_5 ++ dktX1_parts_6
def dkwX1_parts_4 : List UInt8 := [192, 1, 7, 180, 1, 9, 42, 180, 0, 231, 105, 32, 113, 80, 22, 6, 25, 4, 21, 8, 47, 101, 55, 6]
abbrev dktX1_parts_4 : List UInt8 := dkwX1_parts_4 ++ dktX1_parts_5
def dkwX1_parts_3 : List UInt8 := [180, 1, 9, 42, 180, 0, 231, 105, 32, 109, 80, 25, 5, 21, 8, 42, 180, 0, 41, 21, 8, 182, 0, 162]
abbrev dktX1_parts_3 : List UInt8 := dkwX1_parts_3 ++ dktX1_parts_4
def dkwX1_parts_2 : List UInt8 := [27, 159, 0, 6, 167, 0, 67, 25, 4, 21, 8, 42, 180, 0, 41, 21, 8, 182, 0, 162, 192, 1, 7]
abbrev dktX1_parts_2 : List UInt8 := dkwX1_parts_2 ++ dktX1_parts_3
def dkwX1_parts_1 : List UInt8 := [180, 0, 41, 182, 0, 81, 162, 0, 95, 42, 180, 0, 41, 21, 8, 182, 0, 162, 192, 1, 7, 180, 1, 19]
abbrev dktX1_parts_1 : List UInt8 := dkwX1_parts_1 ++ dktX1_parts_2
def dkwX1_parts_0 : List UInt8 := [16, 10, 188, 11, 58, 4, 16, 10, 188, 11, 58, 5, 42, 180, 0, 231, 55, 6, 3, 54, 8, 21, 8, 42]
abbrev dktX1_parts_0 : List UInt8 := dkwX1_parts_0 ++ dktX1_parts_1
theorem dksX1_parts_0 : cX1_parts.data.toList.drop 0 = dktX1_parts_0 := by decide +kernel
theorem dksX1_parts_1 : cX1_parts.data.toList.drop 24 = dktX1_parts_1 := dk_seg dksX1_parts_0 24 rfl rfl
theorem dksX1_parts_2 : cX1_parts.data.toList.drop 48 = dktX1_parts_2 := dk_seg dksX1_parts_1 24 rfl rfl
theorem dksX1_parts_3 : cX1_parts.data.toList.drop 71 = dktX1_parts_3 := dk_seg dksX1_parts_2 23 rfl rfl
theorem dksX1_parts_4 : cX1_parts.data.toList.drop 95 = dktX1_parts_4 := dk_seg dksX1_parts_3 24 rfl rfl
theorem dksX1_parts_5 : cX1_parts.data.toList.drop 119 = dktX1_parts_5 := dk_seg dksX1_parts_4 24 rfl rfl
theorem dksX1_parts_6 : cX1_parts.data.toList.drop 141 = dktX1_parts_6 := dk_seg dksX1_parts_5 22 rfl rfl
theorem dksX1_parts_7 : cX1_parts.data.toList.drop 164 = dktX1_parts_7 := dk_seg dksX1_parts_6 23 rfl rfl
theorem dksX1_parts_8 : cX1_parts.data.toList.drop 188 = dktX1_parts_8 := dk_seg dksX1_parts_7 24 rfl rfl
theorem dksX1_parts_9 : cX1_parts.data.toList.drop 210 = dktX1_parts_9 := dk_seg dksX1_parts_8 22 rfl rfl
theorem dX1_parts_0 : decode cX1_parts 0 = .ok (.bipush 10, 2) := dk_16 10 (dk_at dksX1_parts_0 0 rfl rfl)
theorem dX1_parts_2 : decode cX1_parts 2 = .ok (.newarray .long, 2) := dk_188_11 (dk_at dksX1_parts_0 2 rfl rfl)
theorem dX1_parts_4 : decode cX1_parts 4 = .ok (.astore 4, 2) := dk_58 4 (dk_at dksX1_parts_0 4 rfl rfl)
theorem dX1_parts_6 : decode cX1_parts 6 = .ok (.bipush 10, 2) := dk_16 10 (dk_at dksX1_parts_0 6 rfl rfl)
theorem dX1_parts_8 : decode cX1_parts 8 = .ok (.newarray .long, 2) := dk_188_11 (dk_at dksX1_parts_0 8 rfl rfl)
theorem dX1_parts_10 : decode cX1_parts 10 = .ok (.astore 5, 2) := dk_58 5 (dk_at dksX1_parts_0 10 rfl rfl)
theorem dX1_parts_12 : decode cX1_parts 12 = .ok (.aload_n 0, 1) := dk_42 (dk_at dksX1_parts_0 12 rfl rfl)
theorem dX1_parts_13 : decode cX1_parts 13 = .ok (.getfield 231, 3) := dk_180 0 231 (dk_at dksX1_parts_0 13 rfl rfl)
theorem dX1_parts_16 : decode cX1_parts 16 = .ok (.lstore 6, 2) := dk_55 6 (dk_at dksX1_parts_0 16 rfl rfl)
theorem dX1_parts_18 : decode cX1_parts 18 = .ok (.iconst 0, 1) := dk_3 (dk_at dksX1_parts_0 18 rfl rfl)
theorem dX1_parts_19 : decode cX1_parts 19 = .ok (.istore 8, 2) := dk_54 8 (dk_at dksX1_parts_0 19 rfl rfl)
theorem dX1_parts_21 : decode cX1_parts 21 = .ok (.iload 8, 2) := dk_21 8 (dk_at dksX1_parts_0 21 rfl rfl)
theorem dX1_parts_23 : decode cX1_parts 23 = .ok (.aload_n 0, 1) := dk_42 (dk_at dksX1_parts_0 23 rfl rfl)
theorem dX1_parts_24 : decode cX1_parts 24 = .ok (.getfield 41, 3) := dk_180 0 41 (dk_at dksX1_parts_1 0 rfl rfl)
theorem dX1_parts_27 : decode cX1_parts 27 = .ok (.invokevirtual 81, 3) := dk_182 0 81 (dk_at dksX1_parts_1 3 rfl rfl)
theorem dX1_parts_30 : decode cX1_parts 30 = .ok (.if_icmp .ge 95, 3) := dk_162 0 95 (dk_at dksX1_parts_1 6 rfl rfl)
theorem dX1_parts_33 : decode cX1_parts 33 = .ok (.aload_n 0, 1) := dk_42 (dk_at dksX1_parts_1 9 rfl rfl)
theorem dX1_parts_34 : decode cX1_parts 34 = .ok (.getfield 41, 3) := dk_180 0 41 (dk_at dksX1_parts_1 10 rfl rfl)
theorem dX1_parts_37 : decode cX1_parts 37 = .ok (.iload 8, 2) := dk_21 8 (dk_at dksX1_parts_1 13 rfl rfl)
theorem dX1_parts_39 : decode cX1_parts 39 = .ok (.invokevirtual 162, 3) := dk_182 0 162 (dk_at dksX1_parts_1 15 rfl rfl)
theorem dX1_parts_42 : decode cX1_parts 42 = .ok (.checkcast 263, 3) := dk_192 1 7 (dk_at dksX1_parts_1 18 rfl rfl)
theorem dX1_parts_45 : decode cX1_parts 45 = .ok (.getfield 275, 3) := dk_180 1 19 (dk_at dksX1_parts_1 21 rfl rfl)
theorem dX1_parts_48 : decode cX1_parts 48 = .ok (.iload_n 1, 1) := dk_27 (dk_at dksX1_parts_2 0 rfl rfl)
theorem dX1_parts_49 : decode cX1_parts 49 = .ok (.if_icmp .eq 6, 3) := dk_159 0 6 (dk_at dksX1_parts_2 1 rfl rfl)
theorem dX1_parts_52 : decode cX1_parts 52 = .ok (.goto 67, 3) := dk_167 0 67 (dk_at dksX1_parts_2 4 rfl rfl)
theorem dX1_parts_55 : decode cX1_parts 55 = .ok (.aload 4, 2) := dk_25 4 (dk_at dksX1_parts_2 7 rfl rfl)
theorem dX1_parts_57 : decode cX1_parts 57 = .ok (.iload 8, 2) := dk_21 8 (dk_at dksX1_parts_2 9 rfl rfl)
theorem dX1_parts_59 : decode cX1_parts 59 = .ok (.aload_n 0, 1) := dk_42 (dk_at dksX1_parts_2 11 rfl rfl)
theorem dX1_parts_60 : decode cX1_parts 60 = .ok (.getfield 41, 3) := dk_180 0 41 (dk_at dksX1_parts_2 12 rfl rfl)
theorem dX1_parts_63 : decode cX1_parts 63 = .ok (.iload 8, 2) := dk_21 8 (dk_at dksX1_parts_2 15 rfl rfl)
theorem dX1_parts_65 : decode cX1_parts 65 = .ok (.invokevirtual 162, 3) := dk_182 0 162 (dk_at dksX1_parts_2 17 rfl rfl)
theorem dX1_parts_68 : decode cX1_parts 68 = .ok (.checkcast 263, 3) := dk_192 1 7 (dk_at dksX1_parts_2 20 rfl rfl)
theorem dX1_parts_71 : decode cX1_parts 71 = .ok (.getfield 265, 3) := dk_180 1 9 (dk_at dksX1_parts_3 0 rfl rfl)
theorem dX1_parts_74 : decode cX1_parts 74 = .ok (.aload_n 0, 1) := dk_42 (dk_at dksX1_parts_3 3 rfl rfl)
theorem dX1_parts_75 : decode cX1_parts 75 = .ok (.getfield 231, 3) := dk_180 0 231 (dk_at dksX1_parts_3 4 rfl rfl)
theorem dX1_parts_78 : decode cX1_parts 78 = .ok (.lmul, 1) := dk_105 (dk_at dksX1_parts_3 7 rfl rfl)
theorem dX1_parts_79 : decode cX1_parts 79 = .ok (.lload_n 2, 1) := dk_32 (dk_at dksX1_parts_3 8 rfl rfl)
theorem dX1_parts_80 : decode cX1_parts 80 = .ok (.ldiv, 1) := dk_109 (dk_at dksX1_parts_3 9 rfl rfl)
theorem dX1_parts_81 : decode cX1_parts 81 = .ok (.lastore, 1) := dk_80 (dk_at dksX1_parts_3 10 rfl rfl)
theorem dX1_parts_82 : decode cX1_parts 82 = .ok (.aload 5, 2) := dk_25 5 (dk_at dksX1_parts_3 11 rfl rfl)
theorem dX1_parts_84 : decode cX1_parts 84 = .ok (.iload 8, 2) := dk_21 8 (dk_at dksX1_parts_3 13 rfl rfl)
theorem dX1_parts_86 : decode cX1_parts 86 = .ok (.aload_n 0, 1) := dk_42 (dk_at dksX1_parts_3 15 rfl rfl)
theorem dX1_parts_87 : decode cX1_parts 87 = .ok (.getfield 41, 3) := dk_180 0 41 (dk_at dksX1_parts_3 16 rfl rfl)
theorem dX1_parts_90 : decode cX1_parts 90 = .ok (.iload 8, 2) := dk_21 8 (dk_at dksX1_parts_3 19 rfl rfl)
theorem dX1_parts_92 : decode cX1_parts 92 = .ok (.invokevirtual 162, 3) := dk_182 0 162 (dk_at dksX1_parts_3 21 rfl rfl)
theorem dX1_parts_95 : decode cX1_parts 95 = .ok (.checkcast 263, 3) := dk_192 1 7 (dk_at dksX1_parts_4 0 rfl rfl)
theorem dX1_parts_98 : decode cX1_parts 98 = .ok (.getfield 265, 3) := dk_180 1 9 (dk_at dksX1_parts_4 3 rfl rfl)
theorem dX1_parts_101 : decode cX1_parts 101 = .ok (.aload_n 0, 1) := dk_42 (dk_at dksX1_parts_4 6 rfl rfl)
theorem dX1_parts_102 : decode cX1_parts 102 = .ok (.getfield 231, 3) := dk_180 0 231 (dk_at dksX1_parts_4 7 rfl rfl)
theorem dX1_parts_105 : decode cX1_parts 105 = .ok (.lmul, 1) := dk_105 (dk_at dksX1_parts_4 10 rfl rfl)
theorem dX1_parts_106 : decode cX1_parts 106 = .ok (.lload_n 2, 1) := dk_32 (dk_at dksX1_parts_4 11 rfl rfl)
theorem dX1_parts_107 : decode cX1_parts 107 = .ok (.lrem, 1) := dk_113 (dk_at dksX1_parts_4 12 rfl rfl)
theorem dX1_parts_108 : decode cX1_parts 108 = .ok (.lastore, 1) := dk_80 (dk_at dksX1_parts_4 13 rfl rfl)
theorem dX1_parts_109 : decode cX1_parts 109 = .ok (.lload 6, 2) := dk_22 6 (dk_at dksX1_parts_4 14 rfl rfl)
theorem dX1_parts_111 : decode cX1_parts 111 = .ok (.aload 4, 2) := dk_25 4 (dk_at dksX1_parts_4 16 rfl rfl)
theorem dX1_parts_113 : decode cX1_parts 113 = .ok (.iload 8, 2) := dk_21 8 (dk_at dksX1_parts_4 18 rfl rfl)
theorem dX1_parts_115 : decode cX1_parts 115 = .ok (.laload, 1) := dk_47 (dk_at dksX1_parts_4 20 rfl rfl)
theorem dX1_parts_116 : decode cX1_parts 116 = .ok (.lsub, 1) := dk_101 (dk_at dksX1_parts_4 21 rfl rfl)
theorem dX1_parts_117 : decode cX1_parts 117 = .ok (.lstore 6, 2) := dk_55 6 (dk_at dksX1_parts_4 22 rfl rfl)
theorem dX1_parts_119 : decode cX1_parts 119 = .ok (.iinc 8 1, 3) := dk_132 8 1 (dk_at dksX1_parts_5 0 rfl rfl)
theorem dX1_parts_122 : decode cX1_parts 122 = .ok (.goto (-101), 3) := dk_167 255 155 (dk_at dksX1_parts_5 3 rfl rfl)
theorem dX1_parts_125 : decode cX1_parts 125 = .ok (.lload 6, 2) := dk_22 6 (dk_at dksX1_parts_5 6 rfl rfl)
theorem dX1_parts_127 : decode cX1_parts 127 = .ok (.lconst 0, 1) := dk_9 (dk_at dksX1_parts_5 8 rfl rfl)
theorem dX1_parts_128 : decode cX1_parts 128 = .ok (.lcmp, 1) := dk_148 (dk_at dksX1_parts_5 9 rfl rfl)
theorem dX1_parts_129 : decode cX1_parts 129 = .ok (.ifCond .le 69, 3) := dk_158 0 69 (dk_at dksX1_parts_5 10 rfl rfl)
theorem dX1_parts_132 : decode cX1_parts 132 = .ok (.iconst 0, 1) := dk_3 (dk_at dksX1_parts_5 13 rfl rfl)
theorem dX1_parts_133 : decode cX1_parts 133 = .ok (.istore 8, 2) := dk_54 8 (dk_at dksX1_parts_5 14 rfl rfl)
theorem dX1_parts_135 : decode cX1_parts 135 = .ok (.iconst 1, 1) := dk_4 (dk_at dksX1_parts_5 16 rfl rfl)
theorem dX1_parts_136 : decode cX1_parts 136 = .ok (.istore 9, 2) := dk_54 9 (dk_at dksX1_parts_5 17 rfl rfl)
theorem dX1_parts_138 : decode cX1_parts 138 = .ok (.iload 9, 2) := dk_21 9 (dk_at dksX1_parts_5 19 rfl rfl)
theorem dX1_parts_140 : decode cX1_parts 140 = .ok (.aload_n 0, 1) := dk_42 (dk_at dksX1_parts_5 21 rfl rfl)
theorem dX1_parts_141 : decode cX1_parts 141 = .ok (.getfield 41, 3) := dk_180 0 41 (dk_at dksX1_parts_6 0 rfl rfl)
theorem dX1_parts_144 : decode cX1_parts 144 = .ok (.invokevirtual 81, 3) := dk_182 0 81 (dk_at dksX1_parts_6 3 rfl rfl)
theorem dX1_parts_147 : decode cX1_parts 147 = .ok (.if_icmp .ge 27, 3) := dk_162 0 27 (dk_at dksX1_parts_6 6 rfl rfl)
theorem dX1_parts_150 : decode cX1_parts 150 = .ok (.aload 5, 2) := dk_25 5 (dk_at dksX1_parts_6 9 rfl rfl)
theorem dX1_parts_152 : decode cX1_parts 152 = .ok (.iload 9, 2) := dk_21 9 (dk_at dksX1_parts_6 11 rfl rfl)
theorem dX1_parts_154 : decode cX1_parts 154 = .ok (.laload, 1) := dk_47 (dk_at dksX1_parts_6 13 rfl rfl)
theorem dX1_parts_155 : decode cX1_parts 155 = .ok (.aload 5, 2) := dk_25 5 (dk_at dksX1_parts_6 14 rfl rfl)
theorem dX1_parts_157 : decode cX1_parts 157 = .ok (.iload 8, 2) := dk_21 8 (dk_at dksX1_parts_6 16 rfl rfl)
theorem dX1_parts_159 : decode cX1_parts 159 = .ok (.laload, 1) := dk_47 (dk_at dksX1_parts_6 18 rfl rfl)
theorem dX1_parts_160 : decode cX1_parts 160 = .ok (.lcmp, 1) := dk_148 (dk_at dksX1_parts_6 19 rfl rfl)
theorem dX1_parts_161 : decode cX1_parts 161 = .ok (.ifCond .le 7, 3) := dk_158 0 7 (dk_at dksX1_parts_6 20 rfl rfl)
theorem dX1_parts_164 : decode cX1_parts 164 = .ok (.iload 9, 2) := dk_21 9 (dk_at dksX1_parts_7 0 rfl rfl)
theorem dX1_parts_166 : decode cX1_parts 166 = .ok (.istore 8, 2) := dk_54 8 (dk_at dksX1_parts_7 2 rfl rfl)
theorem dX1_parts_168 : decode cX1_parts 168 = .ok (.iinc 9 1, 3) := dk_132 9 1 (dk_at dksX1_parts_7 4 rfl rfl)
theorem dX1_parts_171 : decode cX1_parts 171 = .ok (.goto (-33), 3) := dk_167 255 223 (dk_at dksX1_parts_7 7 rfl rfl)
theorem dX1_parts_174 : decode cX1_parts 174 = .ok (.aload 4, 2) := dk_25 4 (dk_at dksX1_parts_7 10 rfl rfl)
theorem dX1_parts_176 : decode cX1_parts 176 = .ok (.iload 8, 2) := dk_21 8 (dk_at dksX1_parts_7 12 rfl rfl)
theorem dX1_parts_178 : decode cX1_parts 178 = .ok (.dup2, 1) := dk_92 (dk_at dksX1_parts_7 14 rfl rfl)
theorem dX1_parts_179 : decode cX1_parts 179 = .ok (.laload, 1) := dk_47 (dk_at dksX1_parts_7 15 rfl rfl)
theorem dX1_parts_180 : decode cX1_parts 180 = .ok (.lconst 1, 1) := dk_10 (dk_at dksX1_parts_7 16 rfl rfl)
theorem dX1_parts_181 : decode cX1_parts 181 = .ok (.ladd, 1) := dk_97 (dk_at dksX1_parts_7 17 rfl rfl)
theorem dX1_parts_182 : decode cX1_parts 182 = .ok (.lastore, 1) := dk_80 (dk_at dksX1_parts_7 18 rfl rfl)
theorem dX1_parts_183 : decode cX1_parts 183 = .ok (.aload 5, 2) := dk_25 5 (dk_at dksX1_parts_7 19 rfl rfl)
theorem dX1_parts_185 : decode cX1_parts 185 = .ok (.iload 8, 2) := dk_21 8 (dk_at dksX1_parts_7 21 rfl rfl)
theorem dX1_parts_187 : decode cX1_parts 187 = .ok (.lconst 0, 1) := dk_9 (dk_at dksX1_parts_7 23 rfl rfl)
theorem dX1_parts_188 : decode cX1_parts 188 = .ok (.lastore, 1) := dk_80 (dk_at dksX1_parts_8 0 rfl rfl)
theorem dX1_parts_189 : decode cX1_parts 189 = .ok (.lload 6, 2) := dk_22 6 (dk_at dksX1_parts_8 1 rfl rfl)
theorem dX1_parts_191 : decode cX1_parts 191 = .ok (.lconst 1, 1) := dk_10 (dk_at dksX1_parts_8 3 rfl rfl)
theorem dX1_parts_192 : decode cX1_parts 192 = .ok (.lsub, 1) := dk_101 (dk_at dksX1_parts_8 4 rfl rfl)
theorem dX1_parts_193 : decode cX1_parts 193 = .ok (.lstore 6, 2) := dk_55 6 (dk_at dksX1_parts_8 5 rfl rfl)
theorem dX1_parts_195 : decode cX1_parts 195 = .ok (.goto (-70), 3) := dk_167 255 186 (dk_at dksX1_parts_8 7 rfl rfl)
theorem dX1_parts_198 : decode cX1_parts 198 = .ok (.iconst 0, 1) := dk_3 (dk_at dksX1_parts_8 10 rfl rfl)
theorem dX1_parts_199 : decode cX1_parts 199 = .ok (.istore 8, 2) := dk_54 8 (dk_at dksX1_parts_8 11 rfl rfl)
theorem dX1_parts_201 : decode cX1_parts 201 = .ok (.iload 8, 2) := dk_21 8 (dk_at dksX1_parts_8 13 rfl rfl)
theorem dX1_parts_203 : decode cX1_parts 203 = .ok (.aload_n 0, 1) := dk_42 (dk_at dksX1_parts_8 15 rfl rfl)
theorem dX1_parts_204 : decode cX1_parts 204 = .ok (.getfield 41, 3) := dk_180 0 41 (dk_at dksX1_parts_8 16 rfl rfl)
theorem dX1_parts_207 : decode cX1_parts 207 = .ok (.invokevirtual 81, 3) := dk_182 0 81 (dk_at dksX1_parts_8 19 rfl rfl)
theorem dX1_parts_210 : decode cX1_parts 210 = .ok (.if_icmp .ge 20, 3) := dk_162 0 20 (dk_at dksX1_parts_9 0 rfl rfl)
theorem dX1_parts_213 : decode cX1_parts 213 = .ok (.aload_n 0, 1) := dk_42 (dk_at dksX1_parts_9 3 rfl rfl)
theorem dX1_parts_214 : decode cX1_parts 214 = .ok (.iload 8, 2) := dk_21 8 (dk_at dksX1_parts_9 4 rfl rfl)
theorem dX1_parts_216 : decode cX1_parts 216 = .ok (.aload 4, 2) := dk_25 4 (dk_at dksX1_parts_9 6 rfl rfl)
theorem dX1_parts_218 : decode cX1_parts 218 = .ok (.iload 8, 2) := dk_21 8 (dk_at dksX1_parts_9 8 rfl rfl)
theorem dX1_parts_220 : decode cX1_parts 220 = .ok (.laload, 1) := dk_47 (dk_at dksX1_parts_9 10 rfl rfl)
theorem dX1_parts_221 : decode cX1_parts 221 = .ok (.invokevirtual 278, 3) := dk_182 1 22 (dk_at dksX1_parts_9 11 rfl rfl)
theorem dX1_parts_224 : decode cX1_parts 224 = .ok (.iinc 8 1, 3) := dk_132 8 1 (dk_at dksX1_parts_9 14 rfl rfl)
theorem dX1_parts_227 : decode cX1_parts 227 = .ok (.goto (-26), 3) := dk_167 255 230 (dk_at dksX1_parts_9 17 rfl rfl)
theorem dX1_parts_230 : decode cX1_parts 230 = .ok (.return_, 1) := dk_177 (dk_at dksX1_parts_9 20 rfl rfl)
abbrev cX1_comes : ByteArray := prog_1_method_20_code
def yX1_comes : MethodName := ⟨RX1, "comes", "(LTurnpikeTrust$Gate;)V"⟩
def dkwX1_comes_4 : List UInt8 := [43, 1, 181, 0, 190, 177]
abbrev dktX1_comes_4 : List UInt8 := dkwX1_comes_4 ++ []
def dkwX1_comes_3 : List UInt8 := [44, 182, 1, 3, 167, 0, 25, 42, 5, 43, 180, 0, 140, 43, 180, 0, 190, 180, 0, 253, 133, 182, 0, 204]
abbrev dktX1_comes_3 : List UInt8 := dkwX1_comes_3 ++ dktX1_comes_4
def dkwX1_comes_2 : List UInt8 := [181, 0, 190, 167, 0, 50, 44, 180, 0, 201, 43, 180, 0, 190, 180, 1, 0, 133, 148, 155, 0, 12, 42, 43]
abbrev dktX1_comes_2 : List UInt8 := dkwX1_comes_2 ++ dktX1_comes_3
def dkwX1_comes_1 : List UInt8 := [154, 0, 28, 44, 89, 180, 0, 201, 43, 180, 0, 190, 180, 0, 253, 133, 97, 181, 0, 201, 43, 1]
abbrev dktX1_comes_1 : List UInt8 := dkwX1_comes_1 ++ dktX1_comes_2
def dkwX1_comes_0 : List UInt8 := [42, 180, 0, 38, 43, 180, 0, 190, 180, 0, 194, 182, 0, 162, 192, 0, 199, 77, 43, 180, 0, 250]
abbrev dktX1_comes_0 : List UInt8 := dkwX1_comes_0 ++ dktX1_comes_1
theorem dksX1_comes_0 : cX1_comes.data.toList.drop 0 = dktX1_comes_0 := by decide +kernel
theorem dksX1_comes_1 : cX1_comes.data.toList.drop 22 = dktX1_comes_1 := dk_seg dksX1_comes_0 22 rfl rfl
theorem dksX1_comes_2 : cX1_comes.data.toList.drop 44 = dktX1_comes_2 := dk_seg dksX1_comes_1 22 rfl rfl
theorem dksX1_comes_3 : cX1_comes.data.toList.drop 68 = dktX1_comes_3 := dk_seg dksX1_comes_2 24 rfl rfl
theorem dksX1_comes_4 : cX1_comes.data.toList.drop 92 = dktX1_comes_4 := dk_seg dksX1_comes_3 24 rfl rfl
theorem dX1_comes_0 : decode cX1_comes 0 = .ok (.aload_n 0, 1) := dk_42 (dk_at dksX1_comes_0 0 rfl rfl)
theorem dX1_comes_1 : decode cX1_comes 1 = .ok (.getfield 38, 3) := dk_180 0 38 (dk_at dksX1_comes_0 1 rfl rfl)
theorem dX1_comes_4 : decode cX1_comes 4 = .ok (.aload_n 1, 1) := dk_43 (dk_at dksX1_comes_0 4 rfl rfl)
theorem dX1_comes_5 : decode cX1_comes 5 = .ok (.getfield 190, 3) := dk_180 0 190 (dk_at dksX1_comes_0 5 rfl rfl)
theorem dX1_comes_8 : decode cX1_comes 8 = .ok (.getfield 194, 3) := dk_180 0 194 (dk_at dksX1_comes_0 8 rfl rfl)
theorem dX1_comes_11 : decode cX1_comes 11 = .ok (.invokevirtual 162, 3) := dk_182 0 162 (dk_at dksX1_comes_0 11 rfl rfl)
theorem dX1_comes_14 : decode cX1_comes 14 = .ok (.checkcast 199, 3) := dk_192 0 199 (dk_at dksX1_comes_0 14 rfl rfl)
theorem dX1_comes_17 : decode cX1_comes 17 = .ok (.astore_n 2, 1) := dk_77 (dk_at dksX1_comes_0 17 rfl rfl)
theorem dX1_comes_18 : decode cX1_comes 18 = .ok (.aload_n 1, 1) := dk_43 (dk_at dksX1_comes_0 18 rfl rfl)
theorem dX1_comes_19 : decode cX1_comes 19 = .ok (.getfield 250, 3) := dk_180 0 250 (dk_at dksX1_comes_0 19 rfl rfl)
theorem dX1_comes_22 : decode cX1_comes 22 = .ok (.ifCond .ne 28, 3) := dk_154 0 28 (dk_at dksX1_comes_1 0 rfl rfl)
theorem dX1_comes_25 : decode cX1_comes 25 = .ok (.aload_n 2, 1) := dk_44 (dk_at dksX1_comes_1 3 rfl rfl)
theorem dX1_comes_26 : decode cX1_comes 26 = .ok (.dup, 1) := dk_89 (dk_at dksX1_comes_1 4 rfl rfl)
theorem dX1_comes_27 : decode cX1_comes 27 = .ok (.getfield 201, 3) := dk_180 0 201 (dk_at dksX1_comes_1 5 rfl rfl)
theorem dX1_comes_30 : decode cX1_comes 30 = .ok (.aload_n 1, 1) := dk_43 (dk_at dksX1_comes_1 8 rfl rfl)
theorem dX1_comes_31 : decode cX1_comes 31 = .ok (.getfield 190, 3) := dk_180 0 190 (dk_at dksX1_comes_1 9 rfl rfl)
theorem dX1_comes_34 : decode cX1_comes 34 = .ok (.getfield 253, 3) := dk_180 0 253 (dk_at dksX1_comes_1 12 rfl rfl)
theorem dX1_comes_37 : decode cX1_comes 37 = .ok (.i2l, 1) := dk_133 (dk_at dksX1_comes_1 15 rfl rfl)
theorem dX1_comes_38 : decode cX1_comes 38 = .ok (.ladd, 1) := dk_97 (dk_at dksX1_comes_1 16 rfl rfl)
theorem dX1_comes_39 : decode cX1_comes 39 = .ok (.putfield 201, 3) := dk_181 0 201 (dk_at dksX1_comes_1 17 rfl rfl)
theorem dX1_comes_42 : decode cX1_comes 42 = .ok (.aload_n 1, 1) := dk_43 (dk_at dksX1_comes_1 20 rfl rfl)
theorem dX1_comes_43 : decode cX1_comes 43 = .ok (.aconst_null, 1) := dk_1 (dk_at dksX1_comes_1 21 rfl rfl)
theorem dX1_comes_44 : decode cX1_comes 44 = .ok (.putfield 190, 3) := dk_181 0 190 (dk_at dksX1_comes_2 0 rfl rfl)
theorem dX1_comes_47 : decode cX1_comes 47 = .ok (.goto 50, 3) := dk_167 0 50 (dk_at dksX1_comes_2 3 rfl rfl)
theorem dX1_comes_50 : decode cX1_comes 50 = .ok (.aload_n 2, 1) := dk_44 (dk_at dksX1_comes_2 6 rfl rfl)
theorem dX1_comes_51 : decode cX1_comes 51 = .ok (.getfield 201, 3) := dk_180 0 201 (dk_at dksX1_comes_2 7 rfl rfl)
theorem dX1_comes_54 : decode cX1_comes 54 = .ok (.aload_n 1, 1) := dk_43 (dk_at dksX1_comes_2 10 rfl rfl)
theorem dX1_comes_55 : decode cX1_comes 55 = .ok (.getfield 190, 3) := dk_180 0 190 (dk_at dksX1_comes_2 11 rfl rfl)
theorem dX1_comes_58 : decode cX1_comes 58 = .ok (.getfield 256, 3) := dk_180 1 0 (dk_at dksX1_comes_2 14 rfl rfl)
theorem dX1_comes_61 : decode cX1_comes 61 = .ok (.i2l, 1) := dk_133 (dk_at dksX1_comes_2 17 rfl rfl)
theorem dX1_comes_62 : decode cX1_comes 62 = .ok (.lcmp, 1) := dk_148 (dk_at dksX1_comes_2 18 rfl rfl)
theorem dX1_comes_63 : decode cX1_comes 63 = .ok (.ifCond .lt 12, 3) := dk_155 0 12 (dk_at dksX1_comes_2 19 rfl rfl)
theorem dX1_comes_66 : decode cX1_comes 66 = .ok (.aload_n 0, 1) := dk_42 (dk_at dksX1_comes_2 22 rfl rfl)
theorem dX1_comes_67 : decode cX1_comes 67 = .ok (.aload_n 1, 1) := dk_43 (dk_at dksX1_comes_2 23 rfl rfl)
theorem dX1_comes_68 : decode cX1_comes 68 = .ok (.aload_n 2, 1) := dk_44 (dk_at dksX1_comes_3 0 rfl rfl)
theorem dX1_comes_69 : decode cX1_comes 69 = .ok (.invokevirtual 259, 3) := dk_182 1 3 (dk_at dksX1_comes_3 1 rfl rfl)
theorem dX1_comes_72 : decode cX1_comes 72 = .ok (.goto 25, 3) := dk_167 0 25 (dk_at dksX1_comes_3 4 rfl rfl)
theorem dX1_comes_75 : decode cX1_comes 75 = .ok (.aload_n 0, 1) := dk_42 (dk_at dksX1_comes_3 7 rfl rfl)
theorem dX1_comes_76 : decode cX1_comes 76 = .ok (.iconst 2, 1) := dk_5 (dk_at dksX1_comes_3 8 rfl rfl)
theorem dX1_comes_77 : decode cX1_comes 77 = .ok (.aload_n 1, 1) := dk_43 (dk_at dksX1_comes_3 9 rfl rfl)
theorem dX1_comes_78 : decode cX1_comes 78 = .ok (.getfield 140, 3) := dk_180 0 140 (dk_at dksX1_comes_3 10 rfl rfl)
theorem dX1_comes_81 : decode cX1_comes 81 = .ok (.aload_n 1, 1) := dk_43 (dk_at dksX1_comes_3 13 rfl rfl)
theorem dX1_comes_82 : decode cX1_comes 82 = .ok (.getfield 190, 3) := dk_180 0 190 (dk_at dksX1_comes_3 14 rfl rfl)
theorem dX1_comes_85 : decode cX1_comes 85 = .ok (.getfield 253, 3) := dk_180 0 253 (dk_at dksX1_comes_3 17 rfl rfl)
theorem dX1_comes_88 : decode cX1_comes 88 = .ok (.i2l, 1) := dk_133 (dk_at dksX1_comes_3 20 rfl rfl)
theorem dX1_comes_89 : decode cX1_comes 89 = .ok (.invokevirtual 204, 3) := dk_182 0 204 (dk_at dksX1_comes_3 21 rfl rfl)
theorem dX1_comes_92 : decode cX1_comes 92 = .ok (.aload_n 1, 1) := dk_43 (dk_at dksX1_comes_4 0 rfl rfl)
theorem dX1_comes_93 : decode cX1_comes 93 = .ok (.aconst_null, 1) := dk_1 (dk_at dksX1_comes_4 1 rfl rfl)
theorem dX1_comes_94 : decode cX1_comes 94 = .ok (.putfield 190, 3) := dk_181 0 190 (dk_at dksX1_comes_4 2 rfl rfl)
theorem dX1_comes_97 : decode cX1_comes 97 = .ok (.return_, 1) := dk_177 (dk_at dksX1_comes_4 5 rfl rfl)
abbrev cX1_pays : ByteArray := prog_1_method_21_code
def yX1_pays : MethodName := ⟨RX1, "pays", "(LTurnpikeTrust$Gate;LTurnpikeTrust$Farmer;)V"⟩
def dkwX1_pays_2 : List UInt8 := [180, 0, 137, 16, 91, 96, 181, 0, 243, 177]
abbrev dktX1_pays_2 : List UInt8 := dkwX1_pays_2 ++ []
def dkwX1_pays_1 : List UInt8 := [180, 0, 190, 180, 1, 0, 133, 182, 0, 204, 43, 89, 180, 0, 250, 4, 100, 181, 0, 250, 43, 42]
abbrev dktX1_pays_1 : List UInt8 := dkwX1_pays_1 ++ dktX1_pays_2
def dkwX1_pays_0 : List UInt8 := [44, 89, 180, 0, 201, 43, 180, 0, 190, 180, 1, 0, 133, 101, 181, 0, 201, 42, 4, 43, 180, 0, 140, 43]
abbrev dktX1_pays_0 : List UInt8 := dkwX1_pays_0 ++ dktX1_pays_1
theorem dksX1_pays_0 : cX1_pays.data.toList.drop 0 = dktX1_pays_0 := by decide +kernel
theorem dksX1_pays_1 : cX1_pays.data.toList.drop 24 = dktX1_pays_1 := dk_seg dksX1_pays_0 24 rfl rfl
theorem dksX1_pays_2 : cX1_pays.data.toList.drop 46 = dktX1_pays_2 := dk_seg dksX1_pays_1 22 rfl rfl
theorem dX1_pays_0 : decode cX1_pays 0 = .ok (.aload_n 2, 1) := dk_44 (dk_at dksX1_pays_0 0 rfl rfl)
theorem dX1_pays_1 : decode cX1_pays 1 = .ok (.dup, 1) := dk_89 (dk_at dksX1_pays_0 1 rfl rfl)
theorem dX1_pays_2 : decode cX1_pays 2 = .ok (.getfield 201, 3) := dk_180 0 201 (dk_at dksX1_pays_0 2 rfl rfl)
theorem dX1_pays_5 : decode cX1_pays 5 = .ok (.aload_n 1, 1) := dk_43 (dk_at dksX1_pays_0 5 rfl rfl)
theorem dX1_pays_6 : decode cX1_pays 6 = .ok (.getfield 190, 3) := dk_180 0 190 (dk_at dksX1_pays_0 6 rfl rfl)
theorem dX1_pays_9 : decode cX1_pays 9 = .ok (.getfield 256, 3) := dk_180 1 0 (dk_at dksX1_pays_0 9 rfl rfl)
theorem dX1_pays_12 : decode cX1_pays 12 = .ok (.i2l, 1) := dk_133 (dk_at dksX1_pays_0 12 rfl rfl)
theorem dX1_pays_13 : decode cX1_pays 13 = .ok (.lsub, 1) := dk_101 (dk_at dksX1_pays_0 13 rfl rfl)
theorem dX1_pays_14 : decode cX1_pays 14 = .ok (.putfield 201, 3) := dk_181 0 201 (dk_at dksX1_pays_0 14 rfl rfl)
theorem dX1_pays_17 : decode cX1_pays 17 = .ok (.aload_n 0, 1) := dk_42 (dk_at dksX1_pays_0 17 rfl rfl)
theorem dX1_pays_18 : decode cX1_pays 18 = .ok (.iconst 1, 1) := dk_4 (dk_at dksX1_pays_0 18 rfl rfl)
theorem dX1_pays_19 : decode cX1_pays 19 = .ok (.aload_n 1, 1) := dk_43 (dk_at dksX1_pays_0 19 rfl rfl)
theorem dX1_pays_20 : decode cX1_pays 20 = .ok (.getfield 140, 3) := dk_180 0 140 (dk_at dksX1_pays_0 20 rfl rfl)
theorem dX1_pays_23 : decode cX1_pays 23 = .ok (.aload_n 1, 1) := dk_43 (dk_at dksX1_pays_0 23 rfl rfl)
theorem dX1_pays_24 : decode cX1_pays 24 = .ok (.getfield 190, 3) := dk_180 0 190 (dk_at dksX1_pays_1 0 rfl rfl)
theorem dX1_pays_27 : decode cX1_pays 27 = .ok (.getfield 256, 3) := dk_180 1 0 (dk_at dksX1_pays_1 3 rfl rfl)
theorem dX1_pays_30 : decode cX1_pays 30 = .ok (.i2l, 1) := dk_133 (dk_at dksX1_pays_1 6 rfl rfl)
theorem dX1_pays_31 : decode cX1_pays 31 = .ok (.invokevirtual 204, 3) := dk_182 0 204 (dk_at dksX1_pays_1 7 rfl rfl)
theorem dX1_pays_34 : decode cX1_pays 34 = .ok (.aload_n 1, 1) := dk_43 (dk_at dksX1_pays_1 10 rfl rfl)
theorem dX1_pays_35 : decode cX1_pays 35 = .ok (.dup, 1) := dk_89 (dk_at dksX1_pays_1 11 rfl rfl)
theorem dX1_pays_36 : decode cX1_pays 36 = .ok (.getfield 250, 3) := dk_180 0 250 (dk_at dksX1_pays_1 12 rfl rfl)
theorem dX1_pays_39 : decode cX1_pays 39 = .ok (.iconst 1, 1) := dk_4 (dk_at dksX1_pays_1 15 rfl rfl)
theorem dX1_pays_40 : decode cX1_pays 40 = .ok (.isub, 1) := dk_100 (dk_at dksX1_pays_1 16 rfl rfl)
theorem dX1_pays_41 : decode cX1_pays 41 = .ok (.putfield 250, 3) := dk_181 0 250 (dk_at dksX1_pays_1 17 rfl rfl)
theorem dX1_pays_44 : decode cX1_pays 44 = .ok (.aload_n 1, 1) := dk_43 (dk_at dksX1_pays_1 20 rfl rfl)
theorem dX1_pays_45 : decode cX1_pays 45 = .ok (.aload_n 0, 1) := dk_42 (dk_at dksX1_pays_1 21 rfl rfl)
theorem dX1_pays_46 : decode cX1_pays 46 = .ok (.getfield 137, 3) := dk_180 0 137 (dk_at dksX1_pays_2 0 rfl rfl)
theorem dX1_pays_49 : decode cX1_pays 49 = .ok (.bipush 91, 2) := dk_16 91 (dk_at dksX1_pays_2 3 rfl rfl)
theorem dX1_pays_51 : decode cX1_pays 51 = .ok (.iadd, 1) := dk_96 (dk_at dksX1_pays_2 5 rfl rfl)
theorem dX1_pays_52 : decode cX1_pays 52 = .ok (.putfield 243, 3) := dk_181 0 243 (dk_at dksX1_pays_2 6 rfl rfl)
theorem dX1_pays_55 : decode cX1_pays 55 = .ok (.return_, 1) := dk_177 (dk_at dksX1_pays_2 9 rfl rfl)
abbrev cX1_rain : ByteArray := prog_1_method_25_code
def yX1_rain : MethodName := ⟨RX1, "rain", "(I)V"⟩
def dkwX1_rain_1 : List UInt8 := [177]
abbrev dktX1_rain_1 : List UInt8 := dkwX1_rain_1 ++ []
def dkwX1_rain_0 : List UInt8 := [27, 155, 0, 14, 27, 17, 3, 232, 163, 0, 7, 4, 167, 0, 4, 3, 184, 0, 77, 42, 27, 181, 0, 219]
abbrev dktX1_rain_0 : List UInt8 := dkwX1_rain_0 ++ dktX1_rain_1
theorem dksX1_rain_0 : cX1_rain.data.toList.drop 0 = dktX1_rain_0 := by decide +kernel
theorem dksX1_rain_1 : cX1_rain.data.toList.drop 24 = dktX1_rain_1 := dk_seg dksX1_rain_0 24 rfl rfl
theorem dX1_rain_0 : decode cX1_rain 0 = .ok (.iload_n 1, 1) := dk_27 (dk_at dksX1_rain_0 0 rfl rfl)
theorem dX1_rain_1 : decode cX1_rain 1 = .ok (.ifCond .lt 14, 3) := dk_155 0 14 (dk_at dksX1_rain_0 1 rfl rfl)
theorem dX1_rain_4 : decode cX1_rain 4 = .ok (.iload_n 1, 1) := dk_27 (dk_at dksX1_rain_0 4 rfl rfl)
theorem dX1_rain_5 : decode cX1_rain 5 = .ok (.sipush 1000, 3) := dk_17 3 232 (dk_at dksX1_rain_0 5 rfl rfl)
theorem dX1_rain_8 : decode cX1_rain 8 = .ok (.if_icmp .gt 7, 3) := dk_163 0 7 (dk_at dksX1_rain_0 8 rfl rfl)
theorem dX1_rain_11 : decode cX1_rain 11 = .ok (.iconst 1, 1) := dk_4 (dk_at dksX1_rain_0 11 rfl rfl)
theorem dX1_rain_12 : decode cX1_rain 12 = .ok (.goto 4, 3) := dk_167 0 4 (dk_at dksX1_rain_0 12 rfl rfl)
theorem dX1_rain_15 : decode cX1_rain 15 = .ok (.iconst 0, 1) := dk_3 (dk_at dksX1_rain_0 15 rfl rfl)
theorem dX1_rain_16 : decode cX1_rain 16 = .ok (.invokestatic 77, 3) := dk_184 0 77 (dk_at dksX1_rain_0 16 rfl rfl)
theorem dX1_rain_19 : decode cX1_rain 19 = .ok (.aload_n 0, 1) := dk_42 (dk_at dksX1_rain_0 19 rfl rfl)
theorem dX1_rain_20 : decode cX1_rain 20 = .ok (.iload_n 1, 1) := dk_27 (dk_at dksX1_rain_0 20 rfl rfl)
theorem dX1_rain_21 : decode cX1_rain 21 = .ok (.putfield 219, 3) := dk_181 0 219 (dk_at dksX1_rain_0 21 rfl rfl)
theorem dX1_rain_24 : decode cX1_rain 24 = .ok (.return_, 1) := dk_177 (dk_at dksX1_rain_1 0 rfl rfl)
abbrev cX1_mend : ByteArray := prog_1_method_26_code
def yX1_mend : MethodName := ⟨RX1, "mend", "(I)I"⟩
def dkwX1_mend_9 : List UInt8 := [180, 1, 33, 116, 133, 182, 0, 204, 132, 2, 1, 167, 255, 58, 27, 172]
abbrev dktX1_mend_9 : List UInt8 := dkwX1_mend_9 ++ []
def dkwX1_mend_8 : List UInt8 := [182, 1, 29, 101, 181, 0, 214, 42, 16, 6, 29, 42, 180, 0, 29, 29, 182, 0, 162, 192, 0, 109]
abbrev dktX1_mend_8 : List UInt8 := dkwX1_mend_8 ++ dktX1_mend_9
def dkwX1_mend_7 : List UInt8 := [29, 182, 0, 162, 192, 0, 109, 89, 180, 0, 214, 42, 180, 0, 29, 29, 182, 0, 162, 192, 0, 109]
abbrev dktX1_mend_7 : List UInt8 := dkwX1_mend_7 ++ dktX1_mend_8
def dkwX1_mend_6 : List UInt8 := [180, 0, 29, 29, 182, 0, 162, 192, 0, 109, 180, 1, 33, 133, 148, 156, 0, 5, 28, 172, 42, 180, 0, 29]
abbrev dktX1_mend_6 : List UInt8 := dkwX1_mend_6 ++ dktX1_mend_7
def dkwX1_mend_5 : List UInt8 := [158, 0, 6, 21, 4, 62, 132, 4, 1, 167, 255, 160, 29, 2, 159, 0, 26, 42, 180, 0, 231, 42]
abbrev dktX1_mend_5 : List UInt8 := dkwX1_mend_5 ++ dktX1_mend_6
def dkwX1_mend_4 : List UInt8 := [105, 42, 180, 0, 29, 29, 182, 0, 162, 192, 0, 109, 182, 1, 29, 25, 5, 180, 1, 33, 133, 105, 148]
abbrev dktX1_mend_4 : List UInt8 := dkwX1_mend_4 ++ dktX1_mend_5
def dkwX1_mend_3 : List UInt8 := [2, 159, 0, 49, 25, 5, 182, 1, 29, 42, 180, 0, 29, 29, 182, 0, 162, 192, 0, 109, 180, 1, 33, 133]
abbrev dktX1_mend_3 : List UInt8 := dkwX1_mend_3 ++ dktX1_mend_4
def dkwX1_mend_2 : List UInt8 := [21, 4, 182, 0, 162, 192, 0, 109, 58, 5, 25, 5, 180, 0, 214, 9, 148, 154, 0, 6, 167, 0, 57, 29]
abbrev dktX1_mend_2 : List UInt8 := dkwX1_mend_2 ++ dktX1_mend_3
def dkwX1_mend_1 : List UInt8 := [162, 0, 199, 2, 62, 3, 54, 4, 21, 4, 42, 180, 0, 29, 182, 0, 81, 162, 0, 90, 42, 180, 0, 29]
abbrev dktX1_mend_1 : List UInt8 := dkwX1_mend_1 ++ dktX1_mend_2
def dkwX1_mend_0 : List UInt8 := [27, 155, 0, 13, 27, 16, 20, 163, 0, 7, 4, 167, 0, 4, 3, 184, 0, 77, 3, 61, 28, 27]
abbrev dktX1_mend_0 : List UInt8 := dkwX1_mend_0 ++ dktX1_mend_1
theorem dksX1_mend_0 : cX1_mend.data.toList.drop 0 = dktX1_mend_0 := by decide +kernel
theorem dksX1_mend_1 : cX1_mend.data.toList.drop 22 = dktX1_mend_1 := dk_seg dksX1_mend_0 22 rfl rfl
theorem dksX1_mend_2 : cX1_mend.data.toList.drop 46 = dktX1_mend_2 := dk_seg dksX1_mend_1 24 rfl rfl
theorem dksX1_mend_3 : cX1_mend.data.toList.drop 70 = dktX1_mend_3 := dk_seg dksX1_mend_2 24 rfl rfl
theorem dksX1_mend_4 : cX1_mend.data.toList.drop 94 = dktX1_mend_4 := dk_seg dksX1_mend_3 24 rfl rfl
theorem dksX1_mend_5 : cX1_mend.data.toList.drop 117 = dktX1_mend_5 := dk_seg dksX1_mend_4 23 rfl rfl
theorem dksX1_mend_6 : cX1_mend.data.toList.drop 139 = dktX1_mend_6 := dk_seg dksX1_mend_5 22 rfl rfl
theorem dksX1_mend_7 : cX1_mend.data.toList.drop 163 = dktX1_mend_7 := dk_seg dksX1_mend_6 24 rfl rfl
theorem dksX1_mend_8 : cX1_mend.data.toList.drop 185 = dktX1_mend_8 := dk_seg dksX1_mend_7 22 rfl rfl
theorem dksX1_mend_9 : cX1_mend.data.toList.drop 207 = dktX1_mend_9 := dk_seg dksX1_mend_8 22 rfl rfl
theorem dX1_mend_0 : decode cX1_mend 0 = .ok (.iload_n 1, 1) := dk_27 (dk_at dksX1_mend_0 0 rfl rfl)
theorem dX1_mend_1 : decode cX1_mend 1 = .ok (.ifCond .lt 13, 3) := dk_155 0 13 (dk_at dksX1_mend_0 1 rfl rfl)
theorem dX1_mend_4 : decode cX1_mend 4 = .ok (.iload_n 1, 1) := dk_27 (dk_at dksX1_mend_0 4 rfl rfl)
theorem dX1_mend_5 : decode cX1_mend 5 = .ok (.bipush 20, 2) := dk_16 20 (dk_at dksX1_mend_0 5 rfl rfl)
theorem dX1_mend_7 : decode cX1_mend 7 = .ok (.if_icmp .gt 7, 3) := dk_163 0 7 (dk_at dksX1_mend_0 7 rfl rfl)
theorem dX1_mend_10 : decode cX1_mend 10 = .ok (.iconst 1, 1) := dk_4 (dk_at dksX1_mend_0 10 rfl rfl)
theorem dX1_mend_11 : decode cX1_mend 11 = .ok (.goto 4, 3) := dk_167 0 4 (dk_at dksX1_mend_0 11 rfl rfl)
theorem dX1_mend_14 : decode cX1_mend 14 = .ok (.iconst 0, 1) := dk_3 (dk_at dksX1_mend_0 14 rfl rfl)
theorem dX1_mend_15 : decode cX1_mend 15 = .ok (.invokestatic 77, 3) := dk_184 0 77 (dk_at dksX1_mend_0 15 rfl rfl)
theorem dX1_mend_18 : decode cX1_mend 18 = .ok (.iconst 0, 1) := dk_3 (dk_at dksX1_mend_0 18 rfl rfl)
theorem dX1_mend_19 : decode cX1_mend 19 = .ok (.istore_n 2, 1) := dk_61 (dk_at dksX1_mend_0 19 rfl rfl)
theorem dX1_mend_20 : decode cX1_mend 20 = .ok (.iload_n 2, 1) := dk_28 (dk_at dksX1_mend_0 20 rfl rfl)
theorem dX1_mend_21 : decode cX1_mend 21 = .ok (.iload_n 1, 1) := dk_27 (dk_at dksX1_mend_0 21 rfl rfl)
theorem dX1_mend_22 : decode cX1_mend 22 = .ok (.if_icmp .ge 199, 3) := dk_162 0 199 (dk_at dksX1_mend_1 0 rfl rfl)
theorem dX1_mend_25 : decode cX1_mend 25 = .ok (.iconst (-1), 1) := dk_2 (dk_at dksX1_mend_1 3 rfl rfl)
theorem dX1_mend_26 : decode cX1_mend 26 = .ok (.istore_n 3, 1) := dk_62 (dk_at dksX1_mend_1 4 rfl rfl)
theorem dX1_mend_27 : decode cX1_mend 27 = .ok (.iconst 0, 1) := dk_3 (dk_at dksX1_mend_1 5 rfl rfl)
theorem dX1_mend_28 : decode cX1_mend 28 = .ok (.istore 4, 2) := dk_54 4 (dk_at dksX1_mend_1 6 rfl rfl)
theorem dX1_mend_30 : decode cX1_mend 30 = .ok (.iload 4, 2) := dk_21 4 (dk_at dksX1_mend_1 8 rfl rfl)
theorem dX1_mend_32 : decode cX1_mend 32 = .ok (.aload_n 0, 1) := dk_42 (dk_at dksX1_mend_1 10 rfl rfl)
theorem dX1_mend_33 : decode cX1_mend 33 = .ok (.getfield 29, 3) := dk_180 0 29 (dk_at dksX1_mend_1 11 rfl rfl)
theorem dX1_mend_36 : decode cX1_mend 36 = .ok (.invokevirtual 81, 3) := dk_182 0 81 (dk_at dksX1_mend_1 14 rfl rfl)
theorem dX1_mend_39 : decode cX1_mend 39 = .ok (.if_icmp .ge 90, 3) := dk_162 0 90 (dk_at dksX1_mend_1 17 rfl rfl)
theorem dX1_mend_42 : decode cX1_mend 42 = .ok (.aload_n 0, 1) := dk_42 (dk_at dksX1_mend_1 20 rfl rfl)
theorem dX1_mend_43 : decode cX1_mend 43 = .ok (.getfield 29, 3) := dk_180 0 29 (dk_at dksX1_mend_1 21 rfl rfl)
theorem dX1_mend_46 : decode cX1_mend 46 = .ok (.iload 4, 2) := dk_21 4 (dk_at dksX1_mend_2 0 rfl rfl)
theorem dX1_mend_48 : decode cX1_mend 48 = .ok (.invokevirtual 162, 3) := dk_182 0 162 (dk_at dksX1_mend_2 2 rfl rfl)
theorem dX1_mend_51 : decode cX1_mend 51 = .ok (.checkcast 109, 3) := dk_192 0 109 (dk_at dksX1_mend_2 5 rfl rfl)
theorem dX1_mend_54 : decode cX1_mend 54 = .ok (.astore 5, 2) := dk_58 5 (dk_at dksX1_mend_2 8 rfl rfl)
theorem dX1_mend_56 : decode cX1_mend 56 = .ok (.aload 5, 2) := dk_25 5 (dk_at dksX1_mend_2 10 rfl rfl)
theorem dX1_mend_58 : decode cX1_mend 58 = .ok (.getfield 214, 3) := dk_180 0 214 (dk_at dksX1_mend_2 12 rfl rfl)
theorem dX1_mend_61 : decode cX1_mend 61 = .ok (.lconst 0, 1) := dk_9 (dk_at dksX1_mend_2 15 rfl rfl)
theorem dX1_mend_62 : decode cX1_mend 62 = .ok (.lcmp, 1) := dk_148 (dk_at dksX1_mend_2 16 rfl rfl)
theorem dX1_mend_63 : decode cX1_mend 63 = .ok (.ifCond .ne 6, 3) := dk_154 0 6 (dk_at dksX1_mend_2 17 rfl rfl)
theorem dX1_mend_66 : decode cX1_mend 66 = .ok (.goto 57, 3) := dk_167 0 57 (dk_at dksX1_mend_2 20 rfl rfl)
theorem dX1_mend_69 : decode cX1_mend 69 = .ok (.iload_n 3, 1) := dk_29 (dk_at dksX1_mend_2 23 rfl rfl)
theorem dX1_mend_70 : decode cX1_mend 70 = .ok (.iconst (-1), 1) := dk_2 (dk_at dksX1_mend_3 0 rfl rfl)
theorem dX1_mend_71 : decode cX1_mend 71 = .ok (.if_icmp .eq 49, 3) := dk_159 0 49 (dk_at dksX1_mend_3 1 rfl rfl)
theorem dX1_mend_74 : decode cX1_mend 74 = .ok (.aload 5, 2) := dk_25 5 (dk_at dksX1_mend_3 4 rfl rfl)
theorem dX1_mend_76 : decode cX1_mend 76 = .ok (.invokevirtual 285, 3) := dk_182 1 29 (dk_at dksX1_mend_3 6 rfl rfl)
theorem dX1_mend_79 : decode cX1_mend 79 = .ok (.aload_n 0, 1) := dk_42 (dk_at dksX1_mend_3 9 rfl rfl)
theorem dX1_mend_80 : decode cX1_mend 80 = .ok (.getfield 29, 3) := dk_180 0 29 (dk_at dksX1_mend_3 10 rfl rfl)
theorem dX1_mend_83 : decode cX1_mend 83 = .ok (.iload_n 3, 1) := dk_29 (dk_at dksX1_mend_3 13 rfl rfl)
theorem dX1_mend_84 : decode cX1_mend 84 = .ok (.invokevirtual 162, 3) := dk_182 0 162 (dk_at dksX1_mend_3 14 rfl rfl)
theorem dX1_mend_87 : decode cX1_mend 87 = .ok (.checkcast 109, 3) := dk_192 0 109 (dk_at dksX1_mend_3 17 rfl rfl)
theorem dX1_mend_90 : decode cX1_mend 90 = .ok (.getfield 289, 3) := dk_180 1 33 (dk_at dksX1_mend_3 20 rfl rfl)
theorem dX1_mend_93 : decode cX1_mend 93 = .ok (.i2l, 1) := dk_133 (dk_at dksX1_mend_3 23 rfl rfl)
theorem dX1_mend_94 : decode cX1_mend 94 = .ok (.lmul, 1) := dk_105 (dk_at dksX1_mend_4 0 rfl rfl)
theorem dX1_mend_95 : decode cX1_mend 95 = .ok (.aload_n 0, 1) := dk_42 (dk_at dksX1_mend_4 1 rfl rfl)
theorem dX1_mend_96 : decode cX1_mend 96 = .ok (.getfield 29, 3) := dk_180 0 29 (dk_at dksX1_mend_4 2 rfl rfl)
theorem dX1_mend_99 : decode cX1_mend 99 = .ok (.iload_n 3, 1) := dk_29 (dk_at dksX1_mend_4 5 rfl rfl)
theorem dX1_mend_100 : decode cX1_mend 100 = .ok (.invokevirtual 162, 3) := dk_182 0 162 (dk_at dksX1_mend_4 6 rfl rfl)
theorem dX1_mend_103 : decode cX1_mend 103 = .ok (.checkcast 109, 3) := dk_192 0 109 (dk_at dksX1_mend_4 9 rfl rfl)
theorem dX1_mend_106 : decode cX1_mend 106 = .ok (.invokevirtual 285, 3) := dk_182 1 29 (dk_at dksX1_mend_4 12 rfl rfl)
theorem dX1_mend_109 : decode cX1_mend 109 = .ok (.aload 5, 2) := dk_25 5 (dk_at dksX1_mend_4 15 rfl rfl)
theorem dX1_mend_111 : decode cX1_mend 111 = .ok (.getfield 289, 3) := dk_180 1 33 (dk_at dksX1_mend_4 17 rfl rfl)
theorem dX1_mend_114 : decode cX1_mend 114 = .ok (.i2l, 1) := dk_133 (dk_at dksX1_mend_4 20 rfl rfl)
theorem dX1_mend_115 : decode cX1_mend 115 = .ok (.lmul, 1) := dk_105 (dk_at dksX1_mend_4 21 rfl rfl)
theorem dX1_mend_116 : decode cX1_mend 116 = .ok (.lcmp, 1) := dk_148 (dk_at dksX1_mend_4 22 rfl rfl)
theorem dX1_mend_117 : decode cX1_mend 117 = .ok (.ifCond .le 6, 3) := dk_158 0 6 (dk_at dksX1_mend_5 0 rfl rfl)
theorem dX1_mend_120 : decode cX1_mend 120 = .ok (.iload 4, 2) := dk_21 4 (dk_at dksX1_mend_5 3 rfl rfl)
theorem dX1_mend_122 : decode cX1_mend 122 = .ok (.istore_n 3, 1) := dk_62 (dk_at dksX1_mend_5 5 rfl rfl)
theorem dX1_mend_123 : decode cX1_mend 123 = .ok (.iinc 4 1, 3) := dk_132 4 1 (dk_at dksX1_mend_5 6 rfl rfl)
theorem dX1_mend_126 : decode cX1_mend 126 = .ok (.goto (-96), 3) := dk_167 255 160 (dk_at dksX1_mend_5 9 rfl rfl)
theorem dX1_mend_129 : decode cX1_mend 129 = .ok (.iload_n 3, 1) := dk_29 (dk_at dksX1_mend_5 12 rfl rfl)
theorem dX1_mend_130 : decode cX1_mend 130 = .ok (.iconst (-1), 1) := dk_2 (dk_at dksX1_mend_5 13 rfl rfl)
theorem dX1_mend_131 : decode cX1_mend 131 = .ok (.if_icmp .eq 26, 3) := dk_159 0 26 (dk_at dksX1_mend_5 14 rfl rfl)
theorem dX1_mend_134 : decode cX1_mend 134 = .ok (.aload_n 0, 1) := dk_42 (dk_at dksX1_mend_5 17 rfl rfl)
theorem dX1_mend_135 : decode cX1_mend 135 = .ok (.getfield 231, 3) := dk_180 0 231 (dk_at dksX1_mend_5 18 rfl rfl)
theorem dX1_mend_138 : decode cX1_mend 138 = .ok (.aload_n 0, 1) := dk_42 (dk_at dksX1_mend_5 21 rfl rfl)
theorem dX1_mend_139 : decode cX1_mend 139 = .ok (.getfield 29, 3) := dk_180 0 29 (dk_at dksX1_mend_6 0 rfl rfl)
theorem dX1_mend_142 : decode cX1_mend 142 = .ok (.iload_n 3, 1) := dk_29 (dk_at dksX1_mend_6 3 rfl rfl)
theorem dX1_mend_143 : decode cX1_mend 143 = .ok (.invokevirtual 162, 3) := dk_182 0 162 (dk_at dksX1_mend_6 4 rfl rfl)
theorem dX1_mend_146 : decode cX1_mend 146 = .ok (.checkcast 109, 3) := dk_192 0 109 (dk_at dksX1_mend_6 7 rfl rfl)
theorem dX1_mend_149 : decode cX1_mend 149 = .ok (.getfield 289, 3) := dk_180 1 33 (dk_at dksX1_mend_6 10 rfl rfl)
theorem dX1_mend_152 : decode cX1_mend 152 = .ok (.i2l, 1) := dk_133 (dk_at dksX1_mend_6 13 rfl rfl)
theorem dX1_mend_153 : decode cX1_mend 153 = .ok (.lcmp, 1) := dk_148 (dk_at dksX1_mend_6 14 rfl rfl)
theorem dX1_mend_154 : decode cX1_mend 154 = .ok (.ifCond .ge 5, 3) := dk_156 0 5 (dk_at dksX1_mend_6 15 rfl rfl)
theorem dX1_mend_157 : decode cX1_mend 157 = .ok (.iload_n 2, 1) := dk_28 (dk_at dksX1_mend_6 18 rfl rfl)
theorem dX1_mend_158 : decode cX1_mend 158 = .ok (.ireturn, 1) := dk_172 (dk_at dksX1_mend_6 19 rfl rfl)
theorem dX1_mend_159 : decode cX1_mend 159 = .ok (.aload_n 0, 1) := dk_42 (dk_at dksX1_mend_6 20 rfl rfl)
theorem dX1_mend_160 : decode cX1_mend 160 = .ok (.getfield 29, 3) := dk_180 0 29 (dk_at dksX1_mend_6 21 rfl rfl)
theorem dX1_mend_163 : decode cX1_mend 163 = .ok (.iload_n 3, 1) := dk_29 (dk_at dksX1_mend_7 0 rfl rfl)
theorem dX1_mend_164 : decode cX1_mend 164 = .ok (.invokevirtual 162, 3) := dk_182 0 162 (dk_at dksX1_mend_7 1 rfl rfl)
theorem dX1_mend_167 : decode cX1_mend 167 = .ok (.checkcast 109, 3) := dk_192 0 109 (dk_at dksX1_mend_7 4 rfl rfl)
theorem dX1_mend_170 : decode cX1_mend 170 = .ok (.dup, 1) := dk_89 (dk_at dksX1_mend_7 7 rfl rfl)
theorem dX1_mend_171 : decode cX1_mend 171 = .ok (.getfield 214, 3) := dk_180 0 214 (dk_at dksX1_mend_7 8 rfl rfl)
theorem dX1_mend_174 : decode cX1_mend 174 = .ok (.aload_n 0, 1) := dk_42 (dk_at dksX1_mend_7 11 rfl rfl)
theorem dX1_mend_175 : decode cX1_mend 175 = .ok (.getfield 29, 3) := dk_180 0 29 (dk_at dksX1_mend_7 12 rfl rfl)
theorem dX1_mend_178 : decode cX1_mend 178 = .ok (.iload_n 3, 1) := dk_29 (dk_at dksX1_mend_7 15 rfl rfl)
theorem dX1_mend_179 : decode cX1_mend 179 = .ok (.invokevirtual 162, 3) := dk_182 0 162 (dk_at dksX1_mend_7 16 rfl rfl)
theorem dX1_mend_182 : decode cX1_mend 182 = .ok (.checkcast 109, 3) := dk_192 0 109 (dk_at dksX1_mend_7 19 rfl rfl)
theorem dX1_mend_185 : decode cX1_mend 185 = .ok (.invokevirtual 285, 3) := dk_182 1 29 (dk_at dksX1_mend_8 0 rfl rfl)
theorem dX1_mend_188 : decode cX1_mend 188 = .ok (.lsub, 1) := dk_101 (dk_at dksX1_mend_8 3 rfl rfl)
theorem dX1_mend_189 : decode cX1_mend 189 = .ok (.putfield 214, 3) := dk_181 0 214 (dk_at dksX1_mend_8 4 rfl rfl)
theorem dX1_mend_192 : decode cX1_mend 192 = .ok (.aload_n 0, 1) := dk_42 (dk_at dksX1_mend_8 7 rfl rfl)
theorem dX1_mend_193 : decode cX1_mend 193 = .ok (.bipush 6, 2) := dk_16 6 (dk_at dksX1_mend_8 8 rfl rfl)
theorem dX1_mend_195 : decode cX1_mend 195 = .ok (.iload_n 3, 1) := dk_29 (dk_at dksX1_mend_8 10 rfl rfl)
theorem dX1_mend_196 : decode cX1_mend 196 = .ok (.aload_n 0, 1) := dk_42 (dk_at dksX1_mend_8 11 rfl rfl)
theorem dX1_mend_197 : decode cX1_mend 197 = .ok (.getfield 29, 3) := dk_180 0 29 (dk_at dksX1_mend_8 12 rfl rfl)
theorem dX1_mend_200 : decode cX1_mend 200 = .ok (.iload_n 3, 1) := dk_29 (dk_at dksX1_mend_8 15 rfl rfl)
theorem dX1_mend_201 : decode cX1_mend 201 = .ok (.invokevirtual 162, 3) := dk_182 0 162 (dk_at dksX1_mend_8 16 rfl rfl)
theorem dX1_mend_204 : decode cX1_mend 204 = .ok (.checkcast 109, 3) := dk_192 0 109 (dk_at dksX1_mend_8 19 rfl rfl)
theorem dX1_mend_207 : decode cX1_mend 207 = .ok (.getfield 289, 3) := dk_180 1 33 (dk_at dksX1_mend_9 0 rfl rfl)
theorem dX1_mend_210 : decode cX1_mend 210 = .ok (.ineg, 1) := dk_116 (dk_at dksX1_mend_9 3 rfl rfl)
theorem dX1_mend_211 : decode cX1_mend 211 = .ok (.i2l, 1) := dk_133 (dk_at dksX1_mend_9 4 rfl rfl)
theorem dX1_mend_212 : decode cX1_mend 212 = .ok (.invokevirtual 204, 3) := dk_182 0 204 (dk_at dksX1_mend_9 5 rfl rfl)
theorem dX1_mend_215 : decode cX1_mend 215 = .ok (.iinc 2 1, 3) := dk_132 2 1 (dk_at dksX1_mend_9 8 rfl rfl)
theorem dX1_mend_218 : decode cX1_mend 218 = .ok (.goto (-198), 3) := dk_167 255 58 (dk_at dksX1_mend_9 11 rfl rfl)
theorem dX1_mend_221 : decode cX1_mend 221 = .ok (.iload_n 1, 1) := dk_27 (dk_at dksX1_mend_9 14 rfl rfl)
theorem dX1_mend_222 : decode cX1_mend 222 = .ok (.ireturn, 1) := dk_172 (dk_at dksX1_mend_9 15 rfl rfl)
abbrev cX1_farmer : ByteArray := prog_1_method_27_code
def yX1_farmer : MethodName := ⟨RX1, "farmer", "(I)I"⟩
def dkwX1_farmer_2 : List UInt8 := [27, 133, 183, 1, 37, 182, 0, 97, 87, 42, 180, 0, 38, 182, 0, 81, 4, 100, 172]
abbrev dktX1_farmer_2 : List UInt8 := dkwX1_farmer_2 ++ []
def dkwX1_farmer_1 : List UInt8 := [182, 0, 81, 16, 8, 162, 0, 7, 4, 167, 0, 4, 3, 184, 0, 85, 42, 180, 0, 38, 187, 0, 199, 89]
abbrev dktX1_farmer_1 : List UInt8 := dkwX1_farmer_1 ++ dktX1_farmer_2
def dkwX1_farmer_0 : List UInt8 := [27, 155, 0, 14, 27, 19, 1, 36, 163, 0, 7, 4, 167, 0, 4, 3, 184, 0, 77, 42, 180, 0, 38]
abbrev dktX1_farmer_0 : List UInt8 := dkwX1_farmer_0 ++ dktX1_farmer_1
theorem dksX1_farmer_0 : cX1_farmer.data.toList.drop 0 = dktX1_farmer_0 := by decide +kernel
theorem dksX1_farmer_1 : cX1_farmer.data.toList.drop 23 = dktX1_farmer_1 := dk_seg dksX1_farmer_0 23 rfl rfl
theorem dksX1_farmer_2 : cX1_farmer.data.toList.drop 47 = dktX1_farmer_2 := dk_seg dksX1_farmer_1 24 rfl rfl
theorem dX1_farmer_0 : decode cX1_farmer 0 = .ok (.iload_n 1, 1) := dk_27 (dk_at dksX1_farmer_0 0 rfl rfl)
theorem dX1_farmer_1 : decode cX1_farmer 1 = .ok (.ifCond .lt 14, 3) := dk_155 0 14 (dk_at dksX1_farmer_0 1 rfl rfl)
theorem dX1_farmer_4 : decode cX1_farmer 4 = .ok (.iload_n 1, 1) := dk_27 (dk_at dksX1_farmer_0 4 rfl rfl)
theorem dX1_farmer_5 : decode cX1_farmer 5 = .ok (.ldc_w 292, 3) := dk_19 1 36 (dk_at dksX1_farmer_0 5 rfl rfl)
theorem dX1_farmer_8 : decode cX1_farmer 8 = .ok (.if_icmp .gt 7, 3) := dk_163 0 7 (dk_at dksX1_farmer_0 8 rfl rfl)
theorem dX1_farmer_11 : decode cX1_farmer 11 = .ok (.iconst 1, 1) := dk_4 (dk_at dksX1_farmer_0 11 rfl rfl)
theorem dX1_farmer_12 : decode cX1_farmer 12 = .ok (.goto 4, 3) := dk_167 0 4 (dk_at dksX1_farmer_0 12 rfl rfl)
theorem dX1_farmer_15 : decode cX1_farmer 15 = .ok (.iconst 0, 1) := dk_3 (dk_at dksX1_farmer_0 15 rfl rfl)
theorem dX1_farmer_16 : decode cX1_farmer 16 = .ok (.invokestatic 77, 3) := dk_184 0 77 (dk_at dksX1_farmer_0 16 rfl rfl)
theorem dX1_farmer_19 : decode cX1_farmer 19 = .ok (.aload_n 0, 1) := dk_42 (dk_at dksX1_farmer_0 19 rfl rfl)
theorem dX1_farmer_20 : decode cX1_farmer 20 = .ok (.getfield 38, 3) := dk_180 0 38 (dk_at dksX1_farmer_0 20 rfl rfl)
theorem dX1_farmer_23 : decode cX1_farmer 23 = .ok (.invokevirtual 81, 3) := dk_182 0 81 (dk_at dksX1_farmer_1 0 rfl rfl)
theorem dX1_farmer_26 : decode cX1_farmer 26 = .ok (.bipush 8, 2) := dk_16 8 (dk_at dksX1_farmer_1 3 rfl rfl)
theorem dX1_farmer_28 : decode cX1_farmer 28 = .ok (.if_icmp .ge 7, 3) := dk_162 0 7 (dk_at dksX1_farmer_1 5 rfl rfl)
theorem dX1_farmer_31 : decode cX1_farmer 31 = .ok (.iconst 1, 1) := dk_4 (dk_at dksX1_farmer_1 8 rfl rfl)
theorem dX1_farmer_32 : decode cX1_farmer 32 = .ok (.goto 4, 3) := dk_167 0 4 (dk_at dksX1_farmer_1 9 rfl rfl)
theorem dX1_farmer_35 : decode cX1_farmer 35 = .ok (.iconst 0, 1) := dk_3 (dk_at dksX1_farmer_1 12 rfl rfl)
theorem dX1_farmer_36 : decode cX1_farmer 36 = .ok (.invokestatic 85, 3) := dk_184 0 85 (dk_at dksX1_farmer_1 13 rfl rfl)
theorem dX1_farmer_39 : decode cX1_farmer 39 = .ok (.aload_n 0, 1) := dk_42 (dk_at dksX1_farmer_1 16 rfl rfl)
theorem dX1_farmer_40 : decode cX1_farmer 40 = .ok (.getfield 38, 3) := dk_180 0 38 (dk_at dksX1_farmer_1 17 rfl rfl)
theorem dX1_farmer_43 : decode cX1_farmer 43 = .ok (.new 199, 3) := dk_187 0 199 (dk_at dksX1_farmer_1 20 rfl rfl)
theorem dX1_farmer_46 : decode cX1_farmer 46 = .ok (.dup, 1) := dk_89 (dk_at dksX1_farmer_1 23 rfl rfl)
theorem dX1_farmer_47 : decode cX1_farmer 47 = .ok (.iload_n 1, 1) := dk_27 (dk_at dksX1_farmer_2 0 rfl rfl)
theorem dX1_farmer_48 : decode cX1_farmer 48 = .ok (.i2l, 1) := dk_133 (dk_at dksX1_farmer_2 1 rfl rfl)
theorem dX1_farmer_49 : decode cX1_farmer 49 = .ok (.invokespecial 293, 3) := dk_183 1 37 (dk_at dksX1_farmer_2 2 rfl rfl)
theorem dX1_farmer_52 : decode cX1_farmer 52 = .ok (.invokevirtual 97, 3) := dk_182 0 97 (dk_at dksX1_farmer_2 5 rfl rfl)
theorem dX1_farmer_55 : decode cX1_farmer 55 = .ok (.pop, 1) := dk_87 (dk_at dksX1_farmer_2 8 rfl rfl)
theorem dX1_farmer_56 : decode cX1_farmer 56 = .ok (.aload_n 0, 1) := dk_42 (dk_at dksX1_farmer_2 9 rfl rfl)
theorem dX1_farmer_57 : decode cX1_farmer 57 = .ok (.getfield 38, 3) := dk_180 0 38 (dk_at dksX1_farmer_2 10 rfl rfl)
theorem dX1_farmer_60 : decode cX1_farmer 60 = .ok (.invokevirtual 81, 3) := dk_182 0 81 (dk_at dksX1_farmer_2 13 rfl rfl)
theorem dX1_farmer_63 : decode cX1_farmer 63 = .ok (.iconst 1, 1) := dk_4 (dk_at dksX1_farmer_2 16 rfl rfl)
theorem dX1_farmer_64 : decode cX1_farmer 64 = .ok (.isub, 1) := dk_100 (dk_at dksX1_farmer_2 17 rfl rfl)
theorem dX1_farmer_65 : decode cX1_farmer 65 = .ok (.ireturn, 1) := dk_172 (dk_at dksX1_farmer_2 18 rfl rfl)
abbrev cX1_bid : ByteArray := prog_1_method_28_code
def yX1_bid : MethodName := ⟨RX1, "bid", "(IIII)I"⟩
def dkwX1_bid_5 : List UInt8 := [25, 5, 180, 1, 41, 182, 0, 81, 172]
abbrev dktX1_bid_5 : List UInt8 := dkwX1_bid_5 ++ []
def dkwX1_bid_4 : List UInt8 := [184, 0, 85, 25, 5, 180, 1, 41, 187, 0, 195, 89, 28, 29, 21, 4, 183, 1, 44, 182, 0, 97, 87]
abbrev dktX1_bid_4 : List UInt8 := dkwX1_bid_4 ++ dktX1_bid_5
def dkwX1_bid_3 : List UInt8 := [180, 0, 190, 199, 0, 20, 25, 5, 180, 1, 41, 182, 0, 81, 16, 10, 162, 0, 7, 4, 167, 0, 4, 3]
abbrev dktX1_bid_3 : List UInt8 := dkwX1_bid_3 ++ dktX1_bid_4
def dkwX1_bid_2 : List UInt8 := [4, 167, 0, 4, 3, 184, 0, 77, 42, 180, 0, 32, 27, 182, 0, 162, 192, 0, 116, 58, 5, 25, 5]
abbrev dktX1_bid_2 : List UInt8 := dkwX1_bid_2 ++ dktX1_bid_3
def dkwX1_bid_1 : List UInt8 := [161, 0, 28, 29, 19, 1, 40, 163, 0, 21, 21, 4, 4, 161, 0, 15, 21, 4, 19, 1, 40, 163, 0, 7]
abbrev dktX1_bid_1 : List UInt8 := dkwX1_bid_1 ++ dktX1_bid_2
def dkwX1_bid_0 : List UInt8 := [27, 42, 180, 0, 32, 182, 0, 81, 184, 0, 112, 28, 42, 180, 0, 38, 182, 0, 81, 184, 0, 112, 29, 4]
abbrev dktX1_bid_0 : List UInt8 := dkwX1_bid_0 ++ dktX1_bid_1
theorem dksX1_bid_0 : cX1_bid.data.toList.drop 0 = dktX1_bid_0 := by decide +kernel
theorem dksX1_bid_1 : cX1_bid.data.toList.drop 24 = dktX1_bid_1 := dk_seg dksX1_bid_0 24 rfl rfl
theorem dksX1_bid_2 : cX1_bid.data.toList.drop 48 = dktX1_bid_2 := dk_seg dksX1_bid_1 24 rfl rfl
theorem dksX1_bid_3 : cX1_bid.data.toList.drop 71 = dktX1_bid_3 := dk_seg dksX1_bid_2 23 rfl rfl
theorem dksX1_bid_4 : cX1_bid.data.toList.drop 95 = dktX1_bid_4 := dk_seg dksX1_bid_3 24 rfl rfl
theorem dksX1_bid_5 : cX1_bid.data.toList.drop 118 = dktX1_bid_5 := dk_seg dksX1_bid_4 23 rfl rfl
theorem dX1_bid_0 : decode cX1_bid 0 = .ok (.iload_n 1, 1) := dk_27 (dk_at dksX1_bid_0 0 rfl rfl)
theorem dX1_bid_1 : decode cX1_bid 1 = .ok (.aload_n 0, 1) := dk_42 (dk_at dksX1_bid_0 1 rfl rfl)
theorem dX1_bid_2 : decode cX1_bid 2 = .ok (.getfield 32, 3) := dk_180 0 32 (dk_at dksX1_bid_0 2 rfl rfl)
theorem dX1_bid_5 : decode cX1_bid 5 = .ok (.invokevirtual 81, 3) := dk_182 0 81 (dk_at dksX1_bid_0 5 rfl rfl)
theorem dX1_bid_8 : decode cX1_bid 8 = .ok (.invokestatic 112, 3) := dk_184 0 112 (dk_at dksX1_bid_0 8 rfl rfl)
theorem dX1_bid_11 : decode cX1_bid 11 = .ok (.iload_n 2, 1) := dk_28 (dk_at dksX1_bid_0 11 rfl rfl)
theorem dX1_bid_12 : decode cX1_bid 12 = .ok (.aload_n 0, 1) := dk_42 (dk_at dksX1_bid_0 12 rfl rfl)
theorem dX1_bid_13 : decode cX1_bid 13 = .ok (.getfield 38, 3) := dk_180 0 38 (dk_at dksX1_bid_0 13 rfl rfl)
theorem dX1_bid_16 : decode cX1_bid 16 = .ok (.invokevirtual 81, 3) := dk_182 0 81 (dk_at dksX1_bid_0 16 rfl rfl)
theorem dX1_bid_19 : decode cX1_bid 19 = .ok (.invokestatic 112, 3) := dk_184 0 112 (dk_at dksX1_bid_0 19 rfl rfl)
theorem dX1_bid_22 : decode cX1_bid 22 = .ok (.iload_n 3, 1) := dk_29 (dk_at dksX1_bid_0 22 rfl rfl)
theorem dX1_bid_23 : decode cX1_bid 23 = .ok (.iconst 1, 1) := dk_4 (dk_at dksX1_bid_0 23 rfl rfl)
theorem dX1_bid_24 : decode cX1_bid 24 = .ok (.if_icmp .lt 28, 3) := dk_161 0 28 (dk_at dksX1_bid_1 0 rfl rfl)
theorem dX1_bid_27 : decode cX1_bid 27 = .ok (.iload_n 3, 1) := dk_29 (dk_at dksX1_bid_1 3 rfl rfl)
theorem dX1_bid_28 : decode cX1_bid 28 = .ok (.ldc_w 296, 3) := dk_19 1 40 (dk_at dksX1_bid_1 4 rfl rfl)
theorem dX1_bid_31 : decode cX1_bid 31 = .ok (.if_icmp .gt 21, 3) := dk_163 0 21 (dk_at dksX1_bid_1 7 rfl rfl)
theorem dX1_bid_34 : decode cX1_bid 34 = .ok (.iload 4, 2) := dk_21 4 (dk_at dksX1_bid_1 10 rfl rfl)
theorem dX1_bid_36 : decode cX1_bid 36 = .ok (.iconst 1, 1) := dk_4 (dk_at dksX1_bid_1 12 rfl rfl)
theorem dX1_bid_37 : decode cX1_bid 37 = .ok (.if_icmp .lt 15, 3) := dk_161 0 15 (dk_at dksX1_bid_1 13 rfl rfl)
theorem dX1_bid_40 : decode cX1_bid 40 = .ok (.iload 4, 2) := dk_21 4 (dk_at dksX1_bid_1 16 rfl rfl)
theorem dX1_bid_42 : decode cX1_bid 42 = .ok (.ldc_w 296, 3) := dk_19 1 40 (dk_at dksX1_bid_1 18 rfl rfl)
theorem dX1_bid_45 : decode cX1_bid 45 = .ok (.if_icmp .gt 7, 3) := dk_163 0 7 (dk_at dksX1_bid_1 21 rfl rfl)
theorem dX1_bid_48 : decode cX1_bid 48 = .ok (.iconst 1, 1) := dk_4 (dk_at dksX1_bid_2 0 rfl rfl)
theorem dX1_bid_49 : decode cX1_bid 49 = .ok (.goto 4, 3) := dk_167 0 4 (dk_at dksX1_bid_2 1 rfl rfl)
theorem dX1_bid_52 : decode cX1_bid 52 = .ok (.iconst 0, 1) := dk_3 (dk_at dksX1_bid_2 4 rfl rfl)
theorem dX1_bid_53 : decode cX1_bid 53 = .ok (.invokestatic 77, 3) := dk_184 0 77 (dk_at dksX1_bid_2 5 rfl rfl)
theorem dX1_bid_56 : decode cX1_bid 56 = .ok (.aload_n 0, 1) := dk_42 (dk_at dksX1_bid_2 8 rfl rfl)
theorem dX1_bid_57 : decode cX1_bid 57 = .ok (.getfield 32, 3) := dk_180 0 32 (dk_at dksX1_bid_2 9 rfl rfl)
theorem dX1_bid_60 : decode cX1_bid 60 = .ok (.iload_n 1, 1) := dk_27 (dk_at dksX1_bid_2 12 rfl rfl)
theorem dX1_bid_61 : decode cX1_bid 61 = .ok (.invokevirtual 162, 3) := dk_182 0 162 (dk_at dksX1_bid_2 13 rfl rfl)
theorem dX1_bid_64 : decode cX1_bid 64 = .ok (.checkcast 116, 3) := dk_192 0 116 (dk_at dksX1_bid_2 16 rfl rfl)
theorem dX1_bid_67 : decode cX1_bid 67 = .ok (.astore 5, 2) := dk_58 5 (dk_at dksX1_bid_2 19 rfl rfl)
theorem dX1_bid_69 : decode cX1_bid 69 = .ok (.aload 5, 2) := dk_25 5 (dk_at dksX1_bid_2 21 rfl rfl)
theorem dX1_bid_71 : decode cX1_bid 71 = .ok (.getfield 190, 3) := dk_180 0 190 (dk_at dksX1_bid_3 0 rfl rfl)
theorem dX1_bid_74 : decode cX1_bid 74 = .ok (.ifnonnull 20, 3) := dk_199 0 20 (dk_at dksX1_bid_3 3 rfl rfl)
theorem dX1_bid_77 : decode cX1_bid 77 = .ok (.aload 5, 2) := dk_25 5 (dk_at dksX1_bid_3 6 rfl rfl)
theorem dX1_bid_79 : decode cX1_bid 79 = .ok (.getfield 297, 3) := dk_180 1 41 (dk_at dksX1_bid_3 8 rfl rfl)
theorem dX1_bid_82 : decode cX1_bid 82 = .ok (.invokevirtual 81, 3) := dk_182 0 81 (dk_at dksX1_bid_3 11 rfl rfl)
theorem dX1_bid_85 : decode cX1_bid 85 = .ok (.bipush 10, 2) := dk_16 10 (dk_at dksX1_bid_3 14 rfl rfl)
theorem dX1_bid_87 : decode cX1_bid 87 = .ok (.if_icmp .ge 7, 3) := dk_162 0 7 (dk_at dksX1_bid_3 16 rfl rfl)
theorem dX1_bid_90 : decode cX1_bid 90 = .ok (.iconst 1, 1) := dk_4 (dk_at dksX1_bid_3 19 rfl rfl)
theorem dX1_bid_91 : decode cX1_bid 91 = .ok (.goto 4, 3) := dk_167 0 4 (dk_at dksX1_bid_3 20 rfl rfl)
theorem dX1_bid_94 : decode cX1_bid 94 = .ok (.iconst 0, 1) := dk_3 (dk_at dksX1_bid_3 23 rfl rfl)
theorem dX1_bid_95 : decode cX1_bid 95 = .ok (.invokestatic 85, 3) := dk_184 0 85 (dk_at dksX1_bid_4 0 rfl rfl)
theorem dX1_bid_98 : decode cX1_bid 98 = .ok (.aload 5, 2) := dk_25 5 (dk_at dksX1_bid_4 3 rfl rfl)
theorem dX1_bid_100 : decode cX1_bid 100 = .ok (.getfield 297, 3) := dk_180 1 41 (dk_at dksX1_bid_4 5 rfl rfl)
theorem dX1_bid_103 : decode cX1_bid 103 = .ok (.new 195, 3) := dk_187 0 195 (dk_at dksX1_bid_4 8 rfl rfl)
theorem dX1_bid_106 : decode cX1_bid 106 = .ok (.dup, 1) := dk_89 (dk_at dksX1_bid_4 11 rfl rfl)
theorem dX1_bid_107 : decode cX1_bid 107 = .ok (.iload_n 2, 1) := dk_28 (dk_at dksX1_bid_4 12 rfl rfl)
theorem dX1_bid_108 : decode cX1_bid 108 = .ok (.iload_n 3, 1) := dk_29 (dk_at dksX1_bid_4 13 rfl rfl)
theorem dX1_bid_109 : decode cX1_bid 109 = .ok (.iload 4, 2) := dk_21 4 (dk_at dksX1_bid_4 14 rfl rfl)
theorem dX1_bid_111 : decode cX1_bid 111 = .ok (.invokespecial 300, 3) := dk_183 1 44 (dk_at dksX1_bid_4 16 rfl rfl)
theorem dX1_bid_114 : decode cX1_bid 114 = .ok (.invokevirtual 97, 3) := dk_182 0 97 (dk_at dksX1_bid_4 19 rfl rfl)
theorem dX1_bid_117 : decode cX1_bid 117 = .ok (.pop, 1) := dk_87 (dk_at dksX1_bid_4 22 rfl rfl)
theorem dX1_bid_118 : decode cX1_bid 118 = .ok (.aload 5, 2) := dk_25 5 (dk_at dksX1_bid_5 0 rfl rfl)
theorem dX1_bid_120 : decode cX1_bid 120 = .ok (.getfield 297, 3) := dk_180 1 41 (dk_at dksX1_bid_5 2 rfl rfl)
theorem dX1_bid_123 : decode cX1_bid 123 = .ok (.invokevirtual 81, 3) := dk_182 0 81 (dk_at dksX1_bid_5 5 rfl rfl)
theorem dX1_bid_126 : decode cX1_bid 126 = .ok (.ireturn, 1) := dk_172 (dk_at dksX1_bid_5 8 rfl rfl)
abbrev cX1_let : ByteArray := prog_1_method_29_code
def yX1_let : MethodName := ⟨RX1, "let", "(II)I"⟩
def dkwX1_let_10 : List UInt8 := [181, 0, 201, 42, 45, 25, 5, 182, 1, 3, 25, 4, 180, 0, 194, 172]
abbrev dktX1_let_10 : List UInt8 := dkwX1_let_10 ++ []
def dkwX1_let_9 : List UInt8 := [180, 0, 194, 182, 0, 162, 192, 0, 199, 58, 5, 25, 5, 89, 180, 0, 201, 25, 4, 180, 0, 253, 133, 101]
abbrev dktX1_let_9 : List UInt8 := dkwX1_let_9 ++ dktX1_let_10
def dkwX1_let_8 : List UInt8 := [180, 1, 41, 182, 1, 47, 45, 25, 4, 181, 0, 190, 45, 28, 181, 0, 250, 42, 180, 0, 38, 25, 4]
abbrev dktX1_let_8 : List UInt8 := dkwX1_let_8 ++ dktX1_let_9
def dkwX1_let_7 : List UInt8 := [180, 1, 0, 164, 0, 7, 25, 6, 58, 4, 132, 5, 1, 167, 255, 145, 25, 4, 199, 0, 5, 2, 172, 45]
abbrev dktX1_let_7 : List UInt8 := dkwX1_let_7 ++ dktX1_let_8
def dkwX1_let_6 : List UInt8 := [167, 0, 4, 3, 54, 7, 21, 7, 153, 0, 25, 25, 4, 198, 0, 16, 25, 6, 180, 1, 0, 25, 4]
abbrev dktX1_let_6 : List UInt8 := dkwX1_let_6 ++ dktX1_let_7
def dkwX1_let_5 : List UInt8 := [192, 0, 199, 180, 0, 201, 25, 6, 180, 1, 0, 133, 25, 6, 180, 0, 253, 133, 97, 148, 155, 0, 7, 4]
abbrev dktX1_let_5 : List UInt8 := dkwX1_let_5 ++ dktX1_let_6
def dkwX1_let_4 : List UInt8 := [180, 0, 253, 25, 6, 180, 1, 0, 161, 0, 42, 42, 180, 0, 38, 25, 6, 180, 0, 194, 182, 0, 162]
abbrev dktX1_let_4 : List UInt8 := dkwX1_let_4 ++ dktX1_let_5
def dkwX1_let_3 : List UInt8 := [182, 0, 81, 162, 0, 105, 45, 180, 1, 41, 21, 5, 182, 0, 162, 192, 0, 195, 58, 6, 25, 6]
abbrev dktX1_let_3 : List UInt8 := dkwX1_let_3 ++ dktX1_let_4
def dkwX1_let_2 : List UInt8 := [199, 0, 7, 4, 167, 0, 4, 3, 184, 0, 85, 1, 58, 4, 3, 54, 5, 21, 5, 45, 180, 1, 41]
abbrev dktX1_let_2 : List UInt8 := dkwX1_let_2 ++ dktX1_let_3
def dkwX1_let_1 : List UInt8 := [167, 0, 4, 3, 184, 0, 77, 42, 180, 0, 32, 27, 182, 0, 162, 192, 0, 116, 78, 45, 180, 0, 190]
abbrev dktX1_let_1 : List UInt8 := dkwX1_let_1 ++ dktX1_let_2
def dkwX1_let_0 : List UInt8 := [27, 42, 180, 0, 32, 182, 0, 81, 184, 0, 112, 28, 4, 161, 0, 13, 28, 16, 40, 163, 0, 7, 4]
abbrev dktX1_let_0 : List UInt8 := dkwX1_let_0 ++ dktX1_let_1
theorem dksX1_let_0 : cX1_let.data.toList.drop 0 = dktX1_let_0 := by decide +kernel
theorem dksX1_let_1 : cX1_let.data.toList.drop 23 = dktX1_let_1 := dk_seg dksX1_let_0 23 rfl rfl
theorem dksX1_let_2 : cX1_let.data.toList.drop 46 = dktX1_let_2 := dk_seg dksX1_let_1 23 rfl rfl
theorem dksX1_let_3 : cX1_let.data.toList.drop 69 = dktX1_let_3 := dk_seg dksX1_let_2 23 rfl rfl
theorem dksX1_let_4 : cX1_let.data.toList.drop 91 = dktX1_let_4 := dk_seg dksX1_let_3 22 rfl rfl
theorem dksX1_let_5 : cX1_let.data.toList.drop 114 = dktX1_let_5 := dk_seg dksX1_let_4 23 rfl rfl
theorem dksX1_let_6 : cX1_let.data.toList.drop 138 = dktX1_let_6 := dk_seg dksX1_let_5 24 rfl rfl
theorem dksX1_let_7 : cX1_let.data.toList.drop 161 = dktX1_let_7 := dk_seg dksX1_let_6 23 rfl rfl
theorem dksX1_let_8 : cX1_let.data.toList.drop 185 = dktX1_let_8 := dk_seg dksX1_let_7 24 rfl rfl
theorem dksX1_let_9 : cX1_let.data.toList.drop 208 = dktX1_let_9 := dk_seg dksX1_let_8 23 rfl rfl
theorem dksX1_let_10 : cX1_let.data.toList.drop 232 = dktX1_let_10 := dk_seg dksX1_let_9 24 rfl rfl
theorem dX1_let_0 : decode cX1_let 0 = .ok (.iload_n 1, 1) := dk_27 (dk_at dksX1_let_0 0 rfl rfl)
theorem dX1_let_1 : decode cX1_let 1 = .ok (.aload_n 0, 1) := dk_42 (dk_at dksX1_let_0 1 rfl rfl)
theorem dX1_let_2 : decode cX1_let 2 = .ok (.getfield 32, 3) := dk_180 0 32 (dk_at dksX1_let_0 2 rfl rfl)
theorem dX1_let_5 : decode cX1_let 5 = .ok (.invokevirtual 81, 3) := dk_182 0 81 (dk_at dksX1_let_0 5 rfl rfl)
theorem dX1_let_8 : decode cX1_let 8 = .ok (.invokestatic 112, 3) := dk_184 0 112 (dk_at dksX1_let_0 8 rfl rfl)
theorem dX1_let_11 : decode cX1_let 11 = .ok (.iload_n 2, 1) := dk_28 (dk_at dksX1_let_0 11 rfl rfl)
theorem dX1_let_12 : decode cX1_let 12 = .ok (.iconst 1, 1) := dk_4 (dk_at dksX1_let_0 12 rfl rfl)
theorem dX1_let_13 : decode cX1_let 13 = .ok (.if_icmp .lt 13, 3) := dk_161 0 13 (dk_at dksX1_let_0 13 rfl rfl)
theorem dX1_let_16 : decode cX1_let 16 = .ok (.iload_n 2, 1) := dk_28 (dk_at dksX1_let_0 16 rfl rfl)
theorem dX1_let_17 : decode cX1_let 17 = .ok (.bipush 40, 2) := dk_16 40 (dk_at dksX1_let_0 17 rfl rfl)
theorem dX1_let_19 : decode cX1_let 19 = .ok (.if_icmp .gt 7, 3) := dk_163 0 7 (dk_at dksX1_let_0 19 rfl rfl)
theorem dX1_let_22 : decode cX1_let 22 = .ok (.iconst 1, 1) := dk_4 (dk_at dksX1_let_0 22 rfl rfl)
theorem dX1_let_23 : decode cX1_let 23 = .ok (.goto 4, 3) := dk_167 0 4 (dk_at dksX1_let_1 0 rfl rfl)
theorem dX1_let_26 : decode cX1_let 26 = .ok (.iconst 0, 1) := dk_3 (dk_at dksX1_let_1 3 rfl rfl)
theorem dX1_let_27 : decode cX1_let 27 = .ok (.invokestatic 77, 3) := dk_184 0 77 (dk_at dksX1_let_1 4 rfl rfl)
theorem dX1_let_30 : decode cX1_let 30 = .ok (.aload_n 0, 1) := dk_42 (dk_at dksX1_let_1 7 rfl rfl)
theorem dX1_let_31 : decode cX1_let 31 = .ok (.getfield 32, 3) := dk_180 0 32 (dk_at dksX1_let_1 8 rfl rfl)
theorem dX1_let_34 : decode cX1_let 34 = .ok (.iload_n 1, 1) := dk_27 (dk_at dksX1_let_1 11 rfl rfl)
theorem dX1_let_35 : decode cX1_let 35 = .ok (.invokevirtual 162, 3) := dk_182 0 162 (dk_at dksX1_let_1 12 rfl rfl)
theorem dX1_let_38 : decode cX1_let 38 = .ok (.checkcast 116, 3) := dk_192 0 116 (dk_at dksX1_let_1 15 rfl rfl)
theorem dX1_let_41 : decode cX1_let 41 = .ok (.astore_n 3, 1) := dk_78 (dk_at dksX1_let_1 18 rfl rfl)
theorem dX1_let_42 : decode cX1_let 42 = .ok (.aload_n 3, 1) := dk_45 (dk_at dksX1_let_1 19 rfl rfl)
theorem dX1_let_43 : decode cX1_let 43 = .ok (.getfield 190, 3) := dk_180 0 190 (dk_at dksX1_let_1 20 rfl rfl)
theorem dX1_let_46 : decode cX1_let 46 = .ok (.ifnonnull 7, 3) := dk_199 0 7 (dk_at dksX1_let_2 0 rfl rfl)
theorem dX1_let_49 : decode cX1_let 49 = .ok (.iconst 1, 1) := dk_4 (dk_at dksX1_let_2 3 rfl rfl)
theorem dX1_let_50 : decode cX1_let 50 = .ok (.goto 4, 3) := dk_167 0 4 (dk_at dksX1_let_2 4 rfl rfl)
theorem dX1_let_53 : decode cX1_let 53 = .ok (.iconst 0, 1) := dk_3 (dk_at dksX1_let_2 7 rfl rfl)
theorem dX1_let_54 : decode cX1_let 54 = .ok (.invokestatic 85, 3) := dk_184 0 85 (dk_at dksX1_let_2 8 rfl rfl)
theorem dX1_let_57 : decode cX1_let 57 = .ok (.aconst_null, 1) := dk_1 (dk_at dksX1_let_2 11 rfl rfl)
theorem dX1_let_58 : decode cX1_let 58 = .ok (.astore 4, 2) := dk_58 4 (dk_at dksX1_let_2 12 rfl rfl)
theorem dX1_let_60 : decode cX1_let 60 = .ok (.iconst 0, 1) := dk_3 (dk_at dksX1_let_2 14 rfl rfl)
theorem dX1_let_61 : decode cX1_let 61 = .ok (.istore 5, 2) := dk_54 5 (dk_at dksX1_let_2 15 rfl rfl)
theorem dX1_let_63 : decode cX1_let 63 = .ok (.iload 5, 2) := dk_21 5 (dk_at dksX1_let_2 17 rfl rfl)
theorem dX1_let_65 : decode cX1_let 65 = .ok (.aload_n 3, 1) := dk_45 (dk_at dksX1_let_2 19 rfl rfl)
theorem dX1_let_66 : decode cX1_let 66 = .ok (.getfield 297, 3) := dk_180 1 41 (dk_at dksX1_let_2 20 rfl rfl)
theorem dX1_let_69 : decode cX1_let 69 = .ok (.invokevirtual 81, 3) := dk_182 0 81 (dk_at dksX1_let_3 0 rfl rfl)
theorem dX1_let_72 : decode cX1_let 72 = .ok (.if_icmp .ge 105, 3) := dk_162 0 105 (dk_at dksX1_let_3 3 rfl rfl)
theorem dX1_let_75 : decode cX1_let 75 = .ok (.aload_n 3, 1) := dk_45 (dk_at dksX1_let_3 6 rfl rfl)
theorem dX1_let_76 : decode cX1_let 76 = .ok (.getfield 297, 3) := dk_180 1 41 (dk_at dksX1_let_3 7 rfl rfl)
theorem dX1_let_79 : decode cX1_let 79 = .ok (.iload 5, 2) := dk_21 5 (dk_at dksX1_let_3 10 rfl rfl)
theorem dX1_let_81 : decode cX1_let 81 = .ok (.invokevirtual 162, 3) := dk_182 0 162 (dk_at dksX1_let_3 12 rfl rfl)
theorem dX1_let_84 : decode cX1_let 84 = .ok (.checkcast 195, 3) := dk_192 0 195 (dk_at dksX1_let_3 15 rfl rfl)
theorem dX1_let_87 : decode cX1_let 87 = .ok (.astore 6, 2) := dk_58 6 (dk_at dksX1_let_3 18 rfl rfl)
theorem dX1_let_89 : decode cX1_let 89 = .ok (.aload 6, 2) := dk_25 6 (dk_at dksX1_let_3 20 rfl rfl)
theorem dX1_let_91 : decode cX1_let 91 = .ok (.getfield 253, 3) := dk_180 0 253 (dk_at dksX1_let_4 0 rfl rfl)
theorem dX1_let_94 : decode cX1_let 94 = .ok (.aload 6, 2) := dk_25 6 (dk_at dksX1_let_4 3 rfl rfl)
theorem dX1_let_96 : decode cX1_let 96 = .ok (.getfield 256, 3) := dk_180 1 0 (dk_at dksX1_let_4 5 rfl rfl)
theorem dX1_let_99 : decode cX1_let 99 = .ok (.if_icmp .lt 42, 3) := dk_161 0 42 (dk_at dksX1_let_4 8 rfl rfl)
theorem dX1_let_102 : decode cX1_let 102 = .ok (.aload_n 0, 1) := dk_42 (dk_at dksX1_let_4 11 rfl rfl)
theorem dX1_let_103 : decode cX1_let 103 = .ok (.getfield 38, 3) := dk_180 0 38 (dk_at dksX1_let_4 12 rfl rfl)
theorem dX1_let_106 : decode cX1_let 106 = .ok (.aload 6, 2) := dk_25 6 (dk_at dksX1_let_4 15 rfl rfl)
theorem dX1_let_108 : decode cX1_let 108 = .ok (.getfield 194, 3) := dk_180 0 194 (dk_at dksX1_let_4 17 rfl rfl)
theorem dX1_let_111 : decode cX1_let 111 = .ok (.invokevirtual 162, 3) := dk_182 0 162 (dk_at dksX1_let_4 20 rfl rfl)
theorem dX1_let_114 : decode cX1_let 114 = .ok (.checkcast 199, 3) := dk_192 0 199 (dk_at dksX1_let_5 0 rfl rfl)
theorem dX1_let_117 : decode cX1_let 117 = .ok (.getfield 201, 3) := dk_180 0 201 (dk_at dksX1_let_5 3 rfl rfl)
theorem dX1_let_120 : decode cX1_let 120 = .ok (.aload 6, 2) := dk_25 6 (dk_at dksX1_let_5 6 rfl rfl)
theorem dX1_let_122 : decode cX1_let 122 = .ok (.getfield 256, 3) := dk_180 1 0 (dk_at dksX1_let_5 8 rfl rfl)
theorem dX1_let_125 : decode cX1_let 125 = .ok (.i2l, 1) := dk_133 (dk_at dksX1_let_5 11 rfl rfl)
theorem dX1_let_126 : decode cX1_let 126 = .ok (.aload 6, 2) := dk_25 6 (dk_at dksX1_let_5 12 rfl rfl)
theorem dX1_let_128 : decode cX1_let 128 = .ok (.getfield 253, 3) := dk_180 0 253 (dk_at dksX1_let_5 14 rfl rfl)
theorem dX1_let_131 : decode cX1_let 131 = .ok (.i2l, 1) := dk_133 (dk_at dksX1_let_5 17 rfl rfl)
theorem dX1_let_132 : decode cX1_let 132 = .ok (.ladd, 1) := dk_97 (dk_at dksX1_let_5 18 rfl rfl)
theorem dX1_let_133 : decode cX1_let 133 = .ok (.lcmp, 1) := dk_148 (dk_at dksX1_let_5 19 rfl rfl)
theorem dX1_let_134 : decode cX1_let 134 = .ok (.ifCond .lt 7, 3) := dk_155 0 7 (dk_at dksX1_let_5 20 rfl rfl)
theorem dX1_let_137 : decode cX1_let 137 = .ok (.iconst 1, 1) := dk_4 (dk_at dksX1_let_5 23 rfl rfl)
theorem dX1_let_138 : decode cX1_let 138 = .ok (.goto 4, 3) := dk_167 0 4 (dk_at dksX1_let_6 0 rfl rfl)
theorem dX1_let_141 : decode cX1_let 141 = .ok (.iconst 0, 1) := dk_3 (dk_at dksX1_let_6 3 rfl rfl)
theorem dX1_let_142 : decode cX1_let 142 = .ok (.istore 7, 2) := dk_54 7 (dk_at dksX1_let_6 4 rfl rfl)
theorem dX1_let_144 : decode cX1_let 144 = .ok (.iload 7, 2) := dk_21 7 (dk_at dksX1_let_6 6 rfl rfl)
theorem dX1_let_146 : decode cX1_let 146 = .ok (.ifCond .eq 25, 3) := dk_153 0 25 (dk_at dksX1_let_6 8 rfl rfl)
theorem dX1_let_149 : decode cX1_let 149 = .ok (.aload 4, 2) := dk_25 4 (dk_at dksX1_let_6 11 rfl rfl)
theorem dX1_let_151 : decode cX1_let 151 = .ok (.ifnull 16, 3) := dk_198 0 16 (dk_at dksX1_let_6 13 rfl rfl)
theorem dX1_let_154 : decode cX1_let 154 = .ok (.aload 6, 2) := dk_25 6 (dk_at dksX1_let_6 16 rfl rfl)
theorem dX1_let_156 : decode cX1_let 156 = .ok (.getfield 256, 3) := dk_180 1 0 (dk_at dksX1_let_6 18 rfl rfl)
theorem dX1_let_159 : decode cX1_let 159 = .ok (.aload 4, 2) := dk_25 4 (dk_at dksX1_let_6 21 rfl rfl)
theorem dX1_let_161 : decode cX1_let 161 = .ok (.getfield 256, 3) := dk_180 1 0 (dk_at dksX1_let_7 0 rfl rfl)
theorem dX1_let_164 : decode cX1_let 164 = .ok (.if_icmp .le 7, 3) := dk_164 0 7 (dk_at dksX1_let_7 3 rfl rfl)
theorem dX1_let_167 : decode cX1_let 167 = .ok (.aload 6, 2) := dk_25 6 (dk_at dksX1_let_7 6 rfl rfl)
theorem dX1_let_169 : decode cX1_let 169 = .ok (.astore 4, 2) := dk_58 4 (dk_at dksX1_let_7 8 rfl rfl)
theorem dX1_let_171 : decode cX1_let 171 = .ok (.iinc 5 1, 3) := dk_132 5 1 (dk_at dksX1_let_7 10 rfl rfl)
theorem dX1_let_174 : decode cX1_let 174 = .ok (.goto (-111), 3) := dk_167 255 145 (dk_at dksX1_let_7 13 rfl rfl)
theorem dX1_let_177 : decode cX1_let 177 = .ok (.aload 4, 2) := dk_25 4 (dk_at dksX1_let_7 16 rfl rfl)
theorem dX1_let_179 : decode cX1_let 179 = .ok (.ifnonnull 5, 3) := dk_199 0 5 (dk_at dksX1_let_7 18 rfl rfl)
theorem dX1_let_182 : decode cX1_let 182 = .ok (.iconst (-1), 1) := dk_2 (dk_at dksX1_let_7 21 rfl rfl)
theorem dX1_let_183 : decode cX1_let 183 = .ok (.ireturn, 1) := dk_172 (dk_at dksX1_let_7 22 rfl rfl)
theorem dX1_let_184 : decode cX1_let 184 = .ok (.aload_n 3, 1) := dk_45 (dk_at dksX1_let_7 23 rfl rfl)
theorem dX1_let_185 : decode cX1_let 185 = .ok (.getfield 297, 3) := dk_180 1 41 (dk_at dksX1_let_8 0 rfl rfl)
theorem dX1_let_188 : decode cX1_let 188 = .ok (.invokevirtual 303, 3) := dk_182 1 47 (dk_at dksX1_let_8 3 rfl rfl)
theorem dX1_let_191 : decode cX1_let 191 = .ok (.aload_n 3, 1) := dk_45 (dk_at dksX1_let_8 6 rfl rfl)
theorem dX1_let_192 : decode cX1_let 192 = .ok (.aload 4, 2) := dk_25 4 (dk_at dksX1_let_8 7 rfl rfl)
theorem dX1_let_194 : decode cX1_let 194 = .ok (.putfield 190, 3) := dk_181 0 190 (dk_at dksX1_let_8 9 rfl rfl)
theorem dX1_let_197 : decode cX1_let 197 = .ok (.aload_n 3, 1) := dk_45 (dk_at dksX1_let_8 12 rfl rfl)
theorem dX1_let_198 : decode cX1_let 198 = .ok (.iload_n 2, 1) := dk_28 (dk_at dksX1_let_8 13 rfl rfl)
theorem dX1_let_199 : decode cX1_let 199 = .ok (.putfield 250, 3) := dk_181 0 250 (dk_at dksX1_let_8 14 rfl rfl)
theorem dX1_let_202 : decode cX1_let 202 = .ok (.aload_n 0, 1) := dk_42 (dk_at dksX1_let_8 17 rfl rfl)
theorem dX1_let_203 : decode cX1_let 203 = .ok (.getfield 38, 3) := dk_180 0 38 (dk_at dksX1_let_8 18 rfl rfl)
theorem dX1_let_206 : decode cX1_let 206 = .ok (.aload 4, 2) := dk_25 4 (dk_at dksX1_let_8 21 rfl rfl)
theorem dX1_let_208 : decode cX1_let 208 = .ok (.getfield 194, 3) := dk_180 0 194 (dk_at dksX1_let_9 0 rfl rfl)
theorem dX1_let_211 : decode cX1_let 211 = .ok (.invokevirtual 162, 3) := dk_182 0 162 (dk_at dksX1_let_9 3 rfl rfl)
theorem dX1_let_214 : decode cX1_let 214 = .ok (.checkcast 199, 3) := dk_192 0 199 (dk_at dksX1_let_9 6 rfl rfl)
theorem dX1_let_217 : decode cX1_let 217 = .ok (.astore 5, 2) := dk_58 5 (dk_at dksX1_let_9 9 rfl rfl)
theorem dX1_let_219 : decode cX1_let 219 = .ok (.aload 5, 2) := dk_25 5 (dk_at dksX1_let_9 11 rfl rfl)
theorem dX1_let_221 : decode cX1_let 221 = .ok (.dup, 1) := dk_89 (dk_at dksX1_let_9 13 rfl rfl)
theorem dX1_let_222 : decode cX1_let 222 = .ok (.getfield 201, 3) := dk_180 0 201 (dk_at dksX1_let_9 14 rfl rfl)
theorem dX1_let_225 : decode cX1_let 225 = .ok (.aload 4, 2) := dk_25 4 (dk_at dksX1_let_9 17 rfl rfl)
theorem dX1_let_227 : decode cX1_let 227 = .ok (.getfield 253, 3) := dk_180 0 253 (dk_at dksX1_let_9 19 rfl rfl)
theorem dX1_let_230 : decode cX1_let 230 = .ok (.i2l, 1) := dk_133 (dk_at dksX1_let_9 22 rfl rfl)
theorem dX1_let_231 : decode cX1_let 231 = .ok (.lsub, 1) := dk_101 (dk_at dksX1_let_9 23 rfl rfl)
theorem dX1_let_232 : decode cX1_let 232 = .ok (.putfield 201, 3) := dk_181 0 201 (dk_at dksX1_let_10 0 rfl rfl)
theorem dX1_let_235 : decode cX1_let 235 = .ok (.aload_n 0, 1) := dk_42 (dk_at dksX1_let_10 3 rfl rfl)
theorem dX1_let_236 : decode cX1_let 236 = .ok (.aload_n 3, 1) := dk_45 (dk_at dksX1_let_10 4 rfl rfl)
theorem dX1_let_237 : decode cX1_let 237 = .ok (.aload 5, 2) := dk_25 5 (dk_at dksX1_let_10 5 rfl rfl)
theorem dX1_let_239 : decode cX1_let 239 = .ok (.invokevirtual 259, 3) := dk_182 1 3 (dk_at dksX1_let_10 7 rfl rfl)
theorem dX1_let_242 : decode cX1_let 242 = .ok (.aload 4, 2) := dk_25 4 (dk_at dksX1_let_10 10 rfl rfl)
theorem dX1_let_244 : decode cX1_let 244 = .ok (.getfield 194, 3) := dk_180 0 194 (dk_at dksX1_let_10 12 rfl rfl)
theorem dX1_let_247 : decode cX1_let 247 = .ok (.ireturn, 1) := dk_172 (dk_at dksX1_let_10 15 rfl rfl)
abbrev cX1_gateTold : ByteArray := prog_1_method_30_code
def yX1_gateTold : MethodName := ⟨RX1, "gateTold", "(II)I"⟩
def dkwX1_gateTold_7 : List UInt8 := [180, 1, 41, 182, 0, 81, 172, 45, 180, 0, 208, 172]
abbrev dktX1_gateTold_7 : List UInt8 := dkwX1_gateTold_7 ++ []
def dkwX1_gateTold_6 : List UInt8 := [180, 0, 253, 167, 0, 4, 3, 172, 21, 4, 153, 0, 10, 45, 180, 0, 243, 167, 0, 4, 3, 172, 45]
abbrev dktX1_gateTold_6 : List UInt8 := dkwX1_gateTold_6 ++ dktX1_gateTold_7
def dkwX1_gateTold_5 : List UInt8 := [153, 0, 13, 45, 180, 0, 190, 180, 1, 0, 167, 0, 4, 3, 172, 21, 4, 153, 0, 13, 45, 180, 0, 190]
abbrev dktX1_gateTold_5 : List UInt8 := dkwX1_gateTold_5 ++ dktX1_gateTold_6
def dkwX1_gateTold_4 : List UInt8 := [45, 180, 0, 211, 172, 21, 4, 153, 0, 13, 45, 180, 0, 190, 180, 0, 194, 167, 0, 4, 2, 172, 21, 4]
abbrev dktX1_gateTold_4 : List UInt8 := dkwX1_gateTold_4 ++ dktX1_gateTold_5
def dkwX1_gateTold_3 : List UInt8 := [170, 0, 0, 0, 0, 0, 0, 118, 0, 0, 0, 0, 0, 0, 0, 5, 0, 0, 0, 40, 0, 0, 0, 45, 0, 0, 0, 62, 0, 0, 0, 79, 0, 0, 0, 96, 0, 0, 0, 110]
abbrev dktX1_gateTold_3 : List UInt8 := dkwX1_gateTold_3 ++ dktX1_gateTold_4
def dkwX1_gateTold_2 : List UInt8 := [198, 0, 7, 4, 167, 0, 4, 3, 54, 4, 28]
abbrev dktX1_gateTold_2 : List UInt8 := dkwX1_gateTold_2 ++ dktX1_gateTold_3
def dkwX1_gateTold_1 : List UInt8 := [167, 0, 4, 3, 184, 0, 77, 42, 180, 0, 32, 27, 182, 0, 162, 192, 0, 116, 78, 45, 180, 0, 190]
abbrev dktX1_gateTold_1 : List UInt8 := dkwX1_gateTold_1 ++ dktX1_gateTold_2
def dkwX1_gateTold_0 : List UInt8 := [27, 42, 180, 0, 32, 182, 0, 81, 184, 0, 112, 28, 155, 0, 13, 28, 16, 6, 163, 0, 7, 4]
abbrev dktX1_gateTold_0 : List UInt8 := dkwX1_gateTold_0 ++ dktX1_gateTold_1
theorem dksX1_gateTold_0 : cX1_gateTold.data.toList.drop 0 = dktX1_gateTold_0 := by decide +kernel
theorem dksX1_gateTold_1 : cX1_gateTold.data.toList.drop 22 = dktX1_gateTold_1 := dk_seg dksX1_gateTold_0 22 rfl rfl
theorem dksX1_gateTold_2 : cX1_gateTold.data.toList.drop 45 = dktX1_gateTold_2 := dk_seg dksX1_gateTold_1 23 rfl rfl
theorem dksX1_gateTold_3 : cX1_gateTold.data.toList.drop 56 = dktX1_gateTold_3 := dk_seg dksX1_gateTold_2 11 rfl rfl
theorem dksX1_gateTold_4 : cX1_gateTold.data.toList.drop 96 = dktX1_gateTold_4 := dk_seg dksX1_gateTold_3 40 rfl rfl
theorem dksX1_gateTold_5 : cX1_gateTold.data.toList.drop 120 = dktX1_gateTold_5 := dk_seg dksX1_gateTold_4 24 rfl rfl
theorem dksX1_gateTold_6 : cX1_gateTold.data.toList.drop 144 = dktX1_gateTold_6 := dk_seg dksX1_gateTold_5 24 rfl rfl
theorem dksX1_gateTold_7 : cX1_gateTold.data.toList.drop 167 = dktX1_gateTold_7 := dk_seg dksX1_gateTold_6 23 rfl rfl
theorem dX1_gateTold_0 : decode cX1_gateTold 0 = .ok (.iload_n 1, 1) := dk_27 (dk_at dksX1_gateTold_0 0 rfl rfl)
theorem dX1_gateTold_1 : decode cX1_gateTold 1 = .ok (.aload_n 0, 1) := dk_42 (dk_at dksX1_gateTold_0 1 rfl rfl)
theorem dX1_gateTold_2 : decode cX1_gateTold 2 = .ok (.getfield 32, 3) := dk_180 0 32 (dk_at dksX1_gateTold_0 2 rfl rfl)
theorem dX1_gateTold_5 : decode cX1_gateTold 5 = .ok (.invokevirtual 81, 3) := dk_182 0 81 (dk_at dksX1_gateTold_0 5 rfl rfl)
theorem dX1_gateTold_8 : decode cX1_gateTold 8 = .ok (.invokestatic 112, 3) := dk_184 0 112 (dk_at dksX1_gateTold_0 8 rfl rfl)
theorem dX1_gateTold_11 : decode cX1_gateTold 11 = .ok (.iload_n 2, 1) := dk_28 (dk_at dksX1_gateTold_0 11 rfl rfl)
theorem dX1_gateTold_12 : decode cX1_gateTold 12 = .ok (.ifCond .lt 13, 3) := dk_155 0 13 (dk_at dksX1_gateTold_0 12 rfl rfl)
theorem dX1_gateTold_15 : decode cX1_gateTold 15 = .ok (.iload_n 2, 1) := dk_28 (dk_at dksX1_gateTold_0 15 rfl rfl)
theorem dX1_gateTold_16 : decode cX1_gateTold 16 = .ok (.bipush 6, 2) := dk_16 6 (dk_at dksX1_gateTold_0 16 rfl rfl)
theorem dX1_gateTold_18 : decode cX1_gateTold 18 = .ok (.if_icmp .gt 7, 3) := dk_163 0 7 (dk_at dksX1_gateTold_0 18 rfl rfl)
theorem dX1_gateTold_21 : decode cX1_gateTold 21 = .ok (.iconst 1, 1) := dk_4 (dk_at dksX1_gateTold_0 21 rfl rfl)
theorem dX1_gateTold_22 : decode cX1_gateTold 22 = .ok (.goto 4, 3) := dk_167 0 4 (dk_at dksX1_gateTold_1 0 rfl rfl)
theorem dX1_gateTold_25 : decode cX1_gateTold 25 = .ok (.iconst 0, 1) := dk_3 (dk_at dksX1_gateTold_1 3 rfl rfl)
theorem dX1_gateTold_26 : decode cX1_gateTold 26 = .ok (.invokestatic 77, 3) := dk_184 0 77 (dk_at dksX1_gateTold_1 4 rfl rfl)
theorem dX1_gateTold_29 : decode cX1_gateTold 29 = .ok (.aload_n 0, 1) := dk_42 (dk_at dksX1_gateTold_1 7 rfl rfl)
theorem dX1_gateTold_30 : decode cX1_gateTold 30 = .ok (.getfield 32, 3) := dk_180 0 32 (dk_at dksX1_gateTold_1 8 rfl rfl)
theorem dX1_gateTold_33 : decode cX1_gateTold 33 = .ok (.iload_n 1, 1) := dk_27 (dk_at dksX1_gateTold_1 11 rfl rfl)
theorem dX1_gateTold_34 : decode cX1_gateTold 34 = .ok (.invokevirtual 162, 3) := dk_182 0 162 (dk_at dksX1_gateTold_1 12 rfl rfl)
theorem dX1_gateTold_37 : decode cX1_gateTold 37 = .ok (.checkcast 116, 3) := dk_192 0 116 (dk_at dksX1_gateTold_1 15 rfl rfl)
theorem dX1_gateTold_40 : decode cX1_gateTold 40 = .ok (.astore_n 3, 1) := dk_78 (dk_at dksX1_gateTold_1 18 rfl rfl)
theorem dX1_gateTold_41 : decode cX1_gateTold 41 = .ok (.aload_n 3, 1) := dk_45 (dk_at dksX1_gateTold_1 19 rfl rfl)
theorem dX1_gateTold_42 : decode cX1_gateTold 42 = .ok (.getfield 190, 3) := dk_180 0 190 (dk_at dksX1_gateTold_1 20 rfl rfl)
theorem dX1_gateTold_45 : decode cX1_gateTold 45 = .ok (.ifnull 7, 3) := dk_198 0 7 (dk_at dksX1_gateTold_2 0 rfl rfl)
theorem dX1_gateTold_48 : decode cX1_gateTold 48 = .ok (.iconst 1, 1) := dk_4 (dk_at dksX1_gateTold_2 3 rfl rfl)
theorem dX1_gateTold_49 : decode cX1_gateTold 49 = .ok (.goto 4, 3) := dk_167 0 4 (dk_at dksX1_gateTold_2 4 rfl rfl)
theorem dX1_gateTold_52 : decode cX1_gateTold 52 = .ok (.iconst 0, 1) := dk_3 (dk_at dksX1_gateTold_2 7 rfl rfl)
theorem dX1_gateTold_53 : decode cX1_gateTold 53 = .ok (.istore 4, 2) := dk_54 4 (dk_at dksX1_gateTold_2 8 rfl rfl)
theorem dX1_gateTold_55 : decode cX1_gateTold 55 = .ok (.iload_n 2, 1) := dk_28 (dk_at dksX1_gateTold_2 10 rfl rfl)
theorem dX1_gateTold_56 : decode cX1_gateTold 56 = .ok (.tableswitch 118 0 5 #[40, 45, 62, 79, 96, 110], 40) := by decide +kernel
theorem dX1_gateTold_96 : decode cX1_gateTold 96 = .ok (.aload_n 3, 1) := dk_45 (dk_at dksX1_gateTold_4 0 rfl rfl)
theorem dX1_gateTold_97 : decode cX1_gateTold 97 = .ok (.getfield 211, 3) := dk_180 0 211 (dk_at dksX1_gateTold_4 1 rfl rfl)
theorem dX1_gateTold_100 : decode cX1_gateTold 100 = .ok (.ireturn, 1) := dk_172 (dk_at dksX1_gateTold_4 4 rfl rfl)
theorem dX1_gateTold_101 : decode cX1_gateTold 101 = .ok (.iload 4, 2) := dk_21 4 (dk_at dksX1_gateTold_4 5 rfl rfl)
theorem dX1_gateTold_103 : decode cX1_gateTold 103 = .ok (.ifCond .eq 13, 3) := dk_153 0 13 (dk_at dksX1_gateTold_4 7 rfl rfl)
theorem dX1_gateTold_106 : decode cX1_gateTold 106 = .ok (.aload_n 3, 1) := dk_45 (dk_at dksX1_gateTold_4 10 rfl rfl)
theorem dX1_gateTold_107 : decode cX1_gateTold 107 = .ok (.getfield 190, 3) := dk_180 0 190 (dk_at dksX1_gateTold_4 11 rfl rfl)
theorem dX1_gateTold_110 : decode cX1_gateTold 110 = .ok (.getfield 194, 3) := dk_180 0 194 (dk_at dksX1_gateTold_4 14 rfl rfl)
theorem dX1_gateTold_113 : decode cX1_gateTold 113 = .ok (.goto 4, 3) := dk_167 0 4 (dk_at dksX1_gateTold_4 17 rfl rfl)
theorem dX1_gateTold_116 : decode cX1_gateTold 116 = .ok (.iconst (-1), 1) := dk_2 (dk_at dksX1_gateTold_4 20 rfl rfl)
theorem dX1_gateTold_117 : decode cX1_gateTold 117 = .ok (.ireturn, 1) := dk_172 (dk_at dksX1_gateTold_4 21 rfl rfl)
theorem dX1_gateTold_118 : decode cX1_gateTold 118 = .ok (.iload 4, 2) := dk_21 4 (dk_at dksX1_gateTold_4 22 rfl rfl)
theorem dX1_gateTold_120 : decode cX1_gateTold 120 = .ok (.ifCond .eq 13, 3) := dk_153 0 13 (dk_at dksX1_gateTold_5 0 rfl rfl)
theorem dX1_gateTold_123 : decode cX1_gateTold 123 = .ok (.aload_n 3, 1) := dk_45 (dk_at dksX1_gateTold_5 3 rfl rfl)
theorem dX1_gateTold_124 : decode cX1_gateTold 124 = .ok (.getfield 190, 3) := dk_180 0 190 (dk_at dksX1_gateTold_5 4 rfl rfl)
theorem dX1_gateTold_127 : decode cX1_gateTold 127 = .ok (.getfield 256, 3) := dk_180 1 0 (dk_at dksX1_gateTold_5 7 rfl rfl)
theorem dX1_gateTold_130 : decode cX1_gateTold 130 = .ok (.goto 4, 3) := dk_167 0 4 (dk_at dksX1_gateTold_5 10 rfl rfl)
theorem dX1_gateTold_133 : decode cX1_gateTold 133 = .ok (.iconst 0, 1) := dk_3 (dk_at dksX1_gateTold_5 13 rfl rfl)
theorem dX1_gateTold_134 : decode cX1_gateTold 134 = .ok (.ireturn, 1) := dk_172 (dk_at dksX1_gateTold_5 14 rfl rfl)
theorem dX1_gateTold_135 : decode cX1_gateTold 135 = .ok (.iload 4, 2) := dk_21 4 (dk_at dksX1_gateTold_5 15 rfl rfl)
theorem dX1_gateTold_137 : decode cX1_gateTold 137 = .ok (.ifCond .eq 13, 3) := dk_153 0 13 (dk_at dksX1_gateTold_5 17 rfl rfl)
theorem dX1_gateTold_140 : decode cX1_gateTold 140 = .ok (.aload_n 3, 1) := dk_45 (dk_at dksX1_gateTold_5 20 rfl rfl)
theorem dX1_gateTold_141 : decode cX1_gateTold 141 = .ok (.getfield 190, 3) := dk_180 0 190 (dk_at dksX1_gateTold_5 21 rfl rfl)
theorem dX1_gateTold_144 : decode cX1_gateTold 144 = .ok (.getfield 253, 3) := dk_180 0 253 (dk_at dksX1_gateTold_6 0 rfl rfl)
theorem dX1_gateTold_147 : decode cX1_gateTold 147 = .ok (.goto 4, 3) := dk_167 0 4 (dk_at dksX1_gateTold_6 3 rfl rfl)
theorem dX1_gateTold_150 : decode cX1_gateTold 150 = .ok (.iconst 0, 1) := dk_3 (dk_at dksX1_gateTold_6 6 rfl rfl)
theorem dX1_gateTold_151 : decode cX1_gateTold 151 = .ok (.ireturn, 1) := dk_172 (dk_at dksX1_gateTold_6 7 rfl rfl)
theorem dX1_gateTold_152 : decode cX1_gateTold 152 = .ok (.iload 4, 2) := dk_21 4 (dk_at dksX1_gateTold_6 8 rfl rfl)
theorem dX1_gateTold_154 : decode cX1_gateTold 154 = .ok (.ifCond .eq 10, 3) := dk_153 0 10 (dk_at dksX1_gateTold_6 10 rfl rfl)
theorem dX1_gateTold_157 : decode cX1_gateTold 157 = .ok (.aload_n 3, 1) := dk_45 (dk_at dksX1_gateTold_6 13 rfl rfl)
theorem dX1_gateTold_158 : decode cX1_gateTold 158 = .ok (.getfield 243, 3) := dk_180 0 243 (dk_at dksX1_gateTold_6 14 rfl rfl)
theorem dX1_gateTold_161 : decode cX1_gateTold 161 = .ok (.goto 4, 3) := dk_167 0 4 (dk_at dksX1_gateTold_6 17 rfl rfl)
theorem dX1_gateTold_164 : decode cX1_gateTold 164 = .ok (.iconst 0, 1) := dk_3 (dk_at dksX1_gateTold_6 20 rfl rfl)
theorem dX1_gateTold_165 : decode cX1_gateTold 165 = .ok (.ireturn, 1) := dk_172 (dk_at dksX1_gateTold_6 21 rfl rfl)
theorem dX1_gateTold_166 : decode cX1_gateTold 166 = .ok (.aload_n 3, 1) := dk_45 (dk_at dksX1_gateTold_6 22 rfl rfl)
theorem dX1_gateTold_167 : decode cX1_gateTold 167 = .ok (.getfield 297, 3) := dk_180 1 41 (dk_at dksX1_gateTold_7 0 rfl rfl)
theorem dX1_gateTold_170 : decode cX1_gateTold 170 = .ok (.invokevirtual 81, 3) := dk_182 0 81 (dk_at dksX1_gateTold_7 3 rfl rfl)
theorem dX1_gateTold_173 : decode cX1_gateTold 173 = .ok (.ireturn, 1) := dk_172 (dk_at dksX1_gateTold_7 6 rfl rfl)
theorem dX1_gateTold_174 : decode cX1_gateTold 174 = .ok (.aload_n 3, 1) := dk_45 (dk_at dksX1_gateTold_7 7 rfl rfl)
theorem dX1_gateTold_175 : decode cX1_gateTold 175 = .ok (.getfield 208, 3) := dk_180 0 208 (dk_at dksX1_gateTold_7 8 rfl rfl)
theorem dX1_gateTold_178 : decode cX1_gateTold 178 = .ok (.ireturn, 1) := dk_172 (dk_at dksX1_gateTold_7 11 rfl rfl)
abbrev cX1_borrow : ByteArray := prog_1_method_31_code
def yX1_borrow : MethodName := ⟨RX1, "borrow", "(III)I"⟩
def dkwX1_borrow_4 : List UInt8 := [42, 180, 0, 41, 182, 0, 81, 4, 100, 172]
abbrev dktX1_borrow_4 : List UInt8 := dkwX1_borrow_4 ++ []
def dkwX1_borrow_3 : List UInt8 := [29, 183, 1, 50, 182, 0, 97, 87, 42, 6, 42, 180, 0, 41, 182, 0, 81, 4, 100, 27, 133, 182, 0, 204]
abbrev dktX1_borrow_3 : List UInt8 := dkwX1_borrow_3 ++ dktX1_borrow_4
def dkwX1_borrow_2 : List UInt8 := [16, 10, 162, 0, 7, 4, 167, 0, 4, 3, 184, 0, 85, 42, 180, 0, 41, 187, 1, 7, 89, 27, 133, 28]
abbrev dktX1_borrow_2 : List UInt8 := dkwX1_borrow_2 ++ dktX1_borrow_3
def dkwX1_borrow_1 : List UInt8 := [155, 0, 12, 29, 7, 162, 0, 7, 4, 167, 0, 4, 3, 184, 0, 77, 42, 180, 0, 41, 182, 0, 81]
abbrev dktX1_borrow_1 : List UInt8 := dkwX1_borrow_1 ++ dktX1_borrow_2
def dkwX1_borrow_0 : List UInt8 := [27, 4, 161, 0, 34, 27, 19, 1, 40, 163, 0, 27, 28, 155, 0, 23, 28, 17, 1, 244, 163, 0, 16, 29]
abbrev dktX1_borrow_0 : List UInt8 := dkwX1_borrow_0 ++ dktX1_borrow_1
theorem dksX1_borrow_0 : cX1_borrow.data.toList.drop 0 = dktX1_borrow_0 := by decide +kernel
theorem dksX1_borrow_1 : cX1_borrow.data.toList.drop 24 = dktX1_borrow_1 := dk_seg dksX1_borrow_0 24 rfl rfl
theorem dksX1_borrow_2 : cX1_borrow.data.toList.drop 47 = dktX1_borrow_2 := dk_seg dksX1_borrow_1 23 rfl rfl
theorem dksX1_borrow_3 : cX1_borrow.data.toList.drop 71 = dktX1_borrow_3 := dk_seg dksX1_borrow_2 24 rfl rfl
theorem dksX1_borrow_4 : cX1_borrow.data.toList.drop 95 = dktX1_borrow_4 := dk_seg dksX1_borrow_3 24 rfl rfl
theorem dX1_borrow_0 : decode cX1_borrow 0 = .ok (.iload_n 1, 1) := dk_27 (dk_at dksX1_borrow_0 0 rfl rfl)
theorem dX1_borrow_1 : decode cX1_borrow 1 = .ok (.iconst 1, 1) := dk_4 (dk_at dksX1_borrow_0 1 rfl rfl)
theorem dX1_borrow_2 : decode cX1_borrow 2 = .ok (.if_icmp .lt 34, 3) := dk_161 0 34 (dk_at dksX1_borrow_0 2 rfl rfl)
theorem dX1_borrow_5 : decode cX1_borrow 5 = .ok (.iload_n 1, 1) := dk_27 (dk_at dksX1_borrow_0 5 rfl rfl)
theorem dX1_borrow_6 : decode cX1_borrow 6 = .ok (.ldc_w 296, 3) := dk_19 1 40 (dk_at dksX1_borrow_0 6 rfl rfl)
theorem dX1_borrow_9 : decode cX1_borrow 9 = .ok (.if_icmp .gt 27, 3) := dk_163 0 27 (dk_at dksX1_borrow_0 9 rfl rfl)
theorem dX1_borrow_12 : decode cX1_borrow 12 = .ok (.iload_n 2, 1) := dk_28 (dk_at dksX1_borrow_0 12 rfl rfl)
theorem dX1_borrow_13 : decode cX1_borrow 13 = .ok (.ifCond .lt 23, 3) := dk_155 0 23 (dk_at dksX1_borrow_0 13 rfl rfl)
theorem dX1_borrow_16 : decode cX1_borrow 16 = .ok (.iload_n 2, 1) := dk_28 (dk_at dksX1_borrow_0 16 rfl rfl)
theorem dX1_borrow_17 : decode cX1_borrow 17 = .ok (.sipush 500, 3) := dk_17 1 244 (dk_at dksX1_borrow_0 17 rfl rfl)
theorem dX1_borrow_20 : decode cX1_borrow 20 = .ok (.if_icmp .gt 16, 3) := dk_163 0 16 (dk_at dksX1_borrow_0 20 rfl rfl)
theorem dX1_borrow_23 : decode cX1_borrow 23 = .ok (.iload_n 3, 1) := dk_29 (dk_at dksX1_borrow_0 23 rfl rfl)
theorem dX1_borrow_24 : decode cX1_borrow 24 = .ok (.ifCond .lt 12, 3) := dk_155 0 12 (dk_at dksX1_borrow_1 0 rfl rfl)
theorem dX1_borrow_27 : decode cX1_borrow 27 = .ok (.iload_n 3, 1) := dk_29 (dk_at dksX1_borrow_1 3 rfl rfl)
theorem dX1_borrow_28 : decode cX1_borrow 28 = .ok (.iconst 4, 1) := dk_7 (dk_at dksX1_borrow_1 4 rfl rfl)
theorem dX1_borrow_29 : decode cX1_borrow 29 = .ok (.if_icmp .ge 7, 3) := dk_162 0 7 (dk_at dksX1_borrow_1 5 rfl rfl)
theorem dX1_borrow_32 : decode cX1_borrow 32 = .ok (.iconst 1, 1) := dk_4 (dk_at dksX1_borrow_1 8 rfl rfl)
theorem dX1_borrow_33 : decode cX1_borrow 33 = .ok (.goto 4, 3) := dk_167 0 4 (dk_at dksX1_borrow_1 9 rfl rfl)
theorem dX1_borrow_36 : decode cX1_borrow 36 = .ok (.iconst 0, 1) := dk_3 (dk_at dksX1_borrow_1 12 rfl rfl)
theorem dX1_borrow_37 : decode cX1_borrow 37 = .ok (.invokestatic 77, 3) := dk_184 0 77 (dk_at dksX1_borrow_1 13 rfl rfl)
theorem dX1_borrow_40 : decode cX1_borrow 40 = .ok (.aload_n 0, 1) := dk_42 (dk_at dksX1_borrow_1 16 rfl rfl)
theorem dX1_borrow_41 : decode cX1_borrow 41 = .ok (.getfield 41, 3) := dk_180 0 41 (dk_at dksX1_borrow_1 17 rfl rfl)
theorem dX1_borrow_44 : decode cX1_borrow 44 = .ok (.invokevirtual 81, 3) := dk_182 0 81 (dk_at dksX1_borrow_1 20 rfl rfl)
theorem dX1_borrow_47 : decode cX1_borrow 47 = .ok (.bipush 10, 2) := dk_16 10 (dk_at dksX1_borrow_2 0 rfl rfl)
theorem dX1_borrow_49 : decode cX1_borrow 49 = .ok (.if_icmp .ge 7, 3) := dk_162 0 7 (dk_at dksX1_borrow_2 2 rfl rfl)
theorem dX1_borrow_52 : decode cX1_borrow 52 = .ok (.iconst 1, 1) := dk_4 (dk_at dksX1_borrow_2 5 rfl rfl)
theorem dX1_borrow_53 : decode cX1_borrow 53 = .ok (.goto 4, 3) := dk_167 0 4 (dk_at dksX1_borrow_2 6 rfl rfl)
theorem dX1_borrow_56 : decode cX1_borrow 56 = .ok (.iconst 0, 1) := dk_3 (dk_at dksX1_borrow_2 9 rfl rfl)
theorem dX1_borrow_57 : decode cX1_borrow 57 = .ok (.invokestatic 85, 3) := dk_184 0 85 (dk_at dksX1_borrow_2 10 rfl rfl)
theorem dX1_borrow_60 : decode cX1_borrow 60 = .ok (.aload_n 0, 1) := dk_42 (dk_at dksX1_borrow_2 13 rfl rfl)
theorem dX1_borrow_61 : decode cX1_borrow 61 = .ok (.getfield 41, 3) := dk_180 0 41 (dk_at dksX1_borrow_2 14 rfl rfl)
theorem dX1_borrow_64 : decode cX1_borrow 64 = .ok (.new 263, 3) := dk_187 1 7 (dk_at dksX1_borrow_2 17 rfl rfl)
theorem dX1_borrow_67 : decode cX1_borrow 67 = .ok (.dup, 1) := dk_89 (dk_at dksX1_borrow_2 20 rfl rfl)
theorem dX1_borrow_68 : decode cX1_borrow 68 = .ok (.iload_n 1, 1) := dk_27 (dk_at dksX1_borrow_2 21 rfl rfl)
theorem dX1_borrow_69 : decode cX1_borrow 69 = .ok (.i2l, 1) := dk_133 (dk_at dksX1_borrow_2 22 rfl rfl)
theorem dX1_borrow_70 : decode cX1_borrow 70 = .ok (.iload_n 2, 1) := dk_28 (dk_at dksX1_borrow_2 23 rfl rfl)
theorem dX1_borrow_71 : decode cX1_borrow 71 = .ok (.iload_n 3, 1) := dk_29 (dk_at dksX1_borrow_3 0 rfl rfl)
theorem dX1_borrow_72 : decode cX1_borrow 72 = .ok (.invokespecial 306, 3) := dk_183 1 50 (dk_at dksX1_borrow_3 1 rfl rfl)
theorem dX1_borrow_75 : decode cX1_borrow 75 = .ok (.invokevirtual 97, 3) := dk_182 0 97 (dk_at dksX1_borrow_3 4 rfl rfl)
theorem dX1_borrow_78 : decode cX1_borrow 78 = .ok (.pop, 1) := dk_87 (dk_at dksX1_borrow_3 7 rfl rfl)
theorem dX1_borrow_79 : decode cX1_borrow 79 = .ok (.aload_n 0, 1) := dk_42 (dk_at dksX1_borrow_3 8 rfl rfl)
theorem dX1_borrow_80 : decode cX1_borrow 80 = .ok (.iconst 3, 1) := dk_6 (dk_at dksX1_borrow_3 9 rfl rfl)
theorem dX1_borrow_81 : decode cX1_borrow 81 = .ok (.aload_n 0, 1) := dk_42 (dk_at dksX1_borrow_3 10 rfl rfl)
theorem dX1_borrow_82 : decode cX1_borrow 82 = .ok (.getfield 41, 3) := dk_180 0 41 (dk_at dksX1_borrow_3 11 rfl rfl)
theorem dX1_borrow_85 : decode cX1_borrow 85 = .ok (.invokevirtual 81, 3) := dk_182 0 81 (dk_at dksX1_borrow_3 14 rfl rfl)
theorem dX1_borrow_88 : decode cX1_borrow 88 = .ok (.iconst 1, 1) := dk_4 (dk_at dksX1_borrow_3 17 rfl rfl)
theorem dX1_borrow_89 : decode cX1_borrow 89 = .ok (.isub, 1) := dk_100 (dk_at dksX1_borrow_3 18 rfl rfl)
theorem dX1_borrow_90 : decode cX1_borrow 90 = .ok (.iload_n 1, 1) := dk_27 (dk_at dksX1_borrow_3 19 rfl rfl)
theorem dX1_borrow_91 : decode cX1_borrow 91 = .ok (.i2l, 1) := dk_133 (dk_at dksX1_borrow_3 20 rfl rfl)
theorem dX1_borrow_92 : decode cX1_borrow 92 = .ok (.invokevirtual 204, 3) := dk_182 0 204 (dk_at dksX1_borrow_3 21 rfl rfl)
theorem dX1_borrow_95 : decode cX1_borrow 95 = .ok (.aload_n 0, 1) := dk_42 (dk_at dksX1_borrow_4 0 rfl rfl)
theorem dX1_borrow_96 : decode cX1_borrow 96 = .ok (.getfield 41, 3) := dk_180 0 41 (dk_at dksX1_borrow_4 1 rfl rfl)
theorem dX1_borrow_99 : decode cX1_borrow 99 = .ok (.invokevirtual 81, 3) := dk_182 0 81 (dk_at dksX1_borrow_4 4 rfl rfl)
theorem dX1_borrow_102 : decode cX1_borrow 102 = .ok (.iconst 1, 1) := dk_4 (dk_at dksX1_borrow_4 7 rfl rfl)
theorem dX1_borrow_103 : decode cX1_borrow 103 = .ok (.isub, 1) := dk_100 (dk_at dksX1_borrow_4 8 rfl rfl)
theorem dX1_borrow_104 : decode cX1_borrow 104 = .ok (.ireturn, 1) := dk_172 (dk_at dksX1_borrow_4 9 rfl rfl)
abbrev cX1_repay : ByteArray := prog_1_method_32_code
def yX1_repay : MethodName := ⟨RX1, "repay", "(II)I"⟩
def dkwX1_repay_3 : List UInt8 := [27, 28, 116, 133, 182, 0, 204, 45, 180, 1, 11, 136, 172]
abbrev dktX1_repay_3 : List UInt8 := dkwX1_repay_3 ++ []
def dkwX1_repay_2 : List UInt8 := [180, 0, 231, 28, 133, 148, 156, 0, 5, 2, 172, 45, 89, 180, 1, 11, 28, 133, 101, 181, 1, 11, 42, 8]
abbrev dktX1_repay_2 : List UInt8 := dkwX1_repay_2 ++ dktX1_repay_3
def dkwX1_repay_1 : List UInt8 := [42, 180, 0, 41, 27, 182, 0, 162, 192, 1, 7, 78, 45, 180, 1, 11, 28, 133, 148, 155, 0, 13, 42]
abbrev dktX1_repay_1 : List UInt8 := dkwX1_repay_1 ++ dktX1_repay_2
def dkwX1_repay_0 : List UInt8 := [27, 42, 180, 0, 41, 182, 0, 81, 184, 0, 112, 28, 4, 161, 0, 7, 4, 167, 0, 4, 3, 184, 0, 77]
abbrev dktX1_repay_0 : List UInt8 := dkwX1_repay_0 ++ dktX1_repay_1
theorem dksX1_repay_0 : cX1_repay.data.toList.drop 0 = dktX1_repay_0 := by decide +kernel
theorem dksX1_repay_1 : cX1_repay.data.toList.drop 24 = dktX1_repay_1 := dk_seg dksX1_repay_0 24 rfl rfl
theorem dksX1_repay_2 : cX1_repay.data.toList.drop 47 = dktX1_repay_2 := dk_seg dksX1_repay_1 23 rfl rfl
theorem dksX1_repay_3 : cX1_repay.data.toList.drop 71 = dktX1_repay_3 := dk_seg dksX1_repay_2 24 rfl rfl
theorem dX1_repay_0 : decode cX1_repay 0 = .ok (.iload_n 1, 1) := dk_27 (dk_at dksX1_repay_0 0 rfl rfl)
theorem dX1_repay_1 : decode cX1_repay 1 = .ok (.aload_n 0, 1) := dk_42 (dk_at dksX1_repay_0 1 rfl rfl)
theorem dX1_repay_2 : decode cX1_repay 2 = .ok (.getfield 41, 3) := dk_180 0 41 (dk_at dksX1_repay_0 2 rfl rfl)
theorem dX1_repay_5 : decode cX1_repay 5 = .ok (.invokevirtual 81, 3) := dk_182 0 81 (dk_at dksX1_repay_0 5 rfl rfl)
theorem dX1_repay_8 : decode cX1_repay 8 = .ok (.invokestatic 112, 3) := dk_184 0 112 (dk_at dksX1_repay_0 8 rfl rfl)
theorem dX1_repay_11 : decode cX1_repay 11 = .ok (.iload_n 2, 1) := dk_28 (dk_at dksX1_repay_0 11 rfl rfl)
theorem dX1_repay_12 : decode cX1_repay 12 = .ok (.iconst 1, 1) := dk_4 (dk_at dksX1_repay_0 12 rfl rfl)
theorem dX1_repay_13 : decode cX1_repay 13 = .ok (.if_icmp .lt 7, 3) := dk_161 0 7 (dk_at dksX1_repay_0 13 rfl rfl)
theorem dX1_repay_16 : decode cX1_repay 16 = .ok (.iconst 1, 1) := dk_4 (dk_at dksX1_repay_0 16 rfl rfl)
theorem dX1_repay_17 : decode cX1_repay 17 = .ok (.goto 4, 3) := dk_167 0 4 (dk_at dksX1_repay_0 17 rfl rfl)
theorem dX1_repay_20 : decode cX1_repay 20 = .ok (.iconst 0, 1) := dk_3 (dk_at dksX1_repay_0 20 rfl rfl)
theorem dX1_repay_21 : decode cX1_repay 21 = .ok (.invokestatic 77, 3) := dk_184 0 77 (dk_at dksX1_repay_0 21 rfl rfl)
theorem dX1_repay_24 : decode cX1_repay 24 = .ok (.aload_n 0, 1) := dk_42 (dk_at dksX1_repay_1 0 rfl rfl)
theorem dX1_repay_25 : decode cX1_repay 25 = .ok (.getfield 41, 3) := dk_180 0 41 (dk_at dksX1_repay_1 1 rfl rfl)
theorem dX1_repay_28 : decode cX1_repay 28 = .ok (.iload_n 1, 1) := dk_27 (dk_at dksX1_repay_1 4 rfl rfl)
theorem dX1_repay_29 : decode cX1_repay 29 = .ok (.invokevirtual 162, 3) := dk_182 0 162 (dk_at dksX1_repay_1 5 rfl rfl)
theorem dX1_repay_32 : decode cX1_repay 32 = .ok (.checkcast 263, 3) := dk_192 1 7 (dk_at dksX1_repay_1 8 rfl rfl)
theorem dX1_repay_35 : decode cX1_repay 35 = .ok (.astore_n 3, 1) := dk_78 (dk_at dksX1_repay_1 11 rfl rfl)
theorem dX1_repay_36 : decode cX1_repay 36 = .ok (.aload_n 3, 1) := dk_45 (dk_at dksX1_repay_1 12 rfl rfl)
theorem dX1_repay_37 : decode cX1_repay 37 = .ok (.getfield 267, 3) := dk_180 1 11 (dk_at dksX1_repay_1 13 rfl rfl)
theorem dX1_repay_40 : decode cX1_repay 40 = .ok (.iload_n 2, 1) := dk_28 (dk_at dksX1_repay_1 16 rfl rfl)
theorem dX1_repay_41 : decode cX1_repay 41 = .ok (.i2l, 1) := dk_133 (dk_at dksX1_repay_1 17 rfl rfl)
theorem dX1_repay_42 : decode cX1_repay 42 = .ok (.lcmp, 1) := dk_148 (dk_at dksX1_repay_1 18 rfl rfl)
theorem dX1_repay_43 : decode cX1_repay 43 = .ok (.ifCond .lt 13, 3) := dk_155 0 13 (dk_at dksX1_repay_1 19 rfl rfl)
theorem dX1_repay_46 : decode cX1_repay 46 = .ok (.aload_n 0, 1) := dk_42 (dk_at dksX1_repay_1 22 rfl rfl)
theorem dX1_repay_47 : decode cX1_repay 47 = .ok (.getfield 231, 3) := dk_180 0 231 (dk_at dksX1_repay_2 0 rfl rfl)
theorem dX1_repay_50 : decode cX1_repay 50 = .ok (.iload_n 2, 1) := dk_28 (dk_at dksX1_repay_2 3 rfl rfl)
theorem dX1_repay_51 : decode cX1_repay 51 = .ok (.i2l, 1) := dk_133 (dk_at dksX1_repay_2 4 rfl rfl)
theorem dX1_repay_52 : decode cX1_repay 52 = .ok (.lcmp, 1) := dk_148 (dk_at dksX1_repay_2 5 rfl rfl)
theorem dX1_repay_53 : decode cX1_repay 53 = .ok (.ifCond .ge 5, 3) := dk_156 0 5 (dk_at dksX1_repay_2 6 rfl rfl)
theorem dX1_repay_56 : decode cX1_repay 56 = .ok (.iconst (-1), 1) := dk_2 (dk_at dksX1_repay_2 9 rfl rfl)
theorem dX1_repay_57 : decode cX1_repay 57 = .ok (.ireturn, 1) := dk_172 (dk_at dksX1_repay_2 10 rfl rfl)
theorem dX1_repay_58 : decode cX1_repay 58 = .ok (.aload_n 3, 1) := dk_45 (dk_at dksX1_repay_2 11 rfl rfl)
theorem dX1_repay_59 : decode cX1_repay 59 = .ok (.dup, 1) := dk_89 (dk_at dksX1_repay_2 12 rfl rfl)
theorem dX1_repay_60 : decode cX1_repay 60 = .ok (.getfield 267, 3) := dk_180 1 11 (dk_at dksX1_repay_2 13 rfl rfl)
theorem dX1_repay_63 : decode cX1_repay 63 = .ok (.iload_n 2, 1) := dk_28 (dk_at dksX1_repay_2 16 rfl rfl)
theorem dX1_repay_64 : decode cX1_repay 64 = .ok (.i2l, 1) := dk_133 (dk_at dksX1_repay_2 17 rfl rfl)
theorem dX1_repay_65 : decode cX1_repay 65 = .ok (.lsub, 1) := dk_101 (dk_at dksX1_repay_2 18 rfl rfl)
theorem dX1_repay_66 : decode cX1_repay 66 = .ok (.putfield 267, 3) := dk_181 1 11 (dk_at dksX1_repay_2 19 rfl rfl)
theorem dX1_repay_69 : decode cX1_repay 69 = .ok (.aload_n 0, 1) := dk_42 (dk_at dksX1_repay_2 22 rfl rfl)
theorem dX1_repay_70 : decode cX1_repay 70 = .ok (.iconst 5, 1) := dk_8 (dk_at dksX1_repay_2 23 rfl rfl)
theorem dX1_repay_71 : decode cX1_repay 71 = .ok (.iload_n 1, 1) := dk_27 (dk_at dksX1_repay_3 0 rfl rfl)
theorem dX1_repay_72 : decode cX1_repay 72 = .ok (.iload_n 2, 1) := dk_28 (dk_at dksX1_repay_3 1 rfl rfl)
theorem dX1_repay_73 : decode cX1_repay 73 = .ok (.ineg, 1) := dk_116 (dk_at dksX1_repay_3 2 rfl rfl)
theorem dX1_repay_74 : decode cX1_repay 74 = .ok (.i2l, 1) := dk_133 (dk_at dksX1_repay_3 3 rfl rfl)
theorem dX1_repay_75 : decode cX1_repay 75 = .ok (.invokevirtual 204, 3) := dk_182 0 204 (dk_at dksX1_repay_3 4 rfl rfl)
theorem dX1_repay_78 : decode cX1_repay 78 = .ok (.aload_n 3, 1) := dk_45 (dk_at dksX1_repay_3 7 rfl rfl)
theorem dX1_repay_79 : decode cX1_repay 79 = .ok (.getfield 267, 3) := dk_180 1 11 (dk_at dksX1_repay_3 8 rfl rfl)
theorem dX1_repay_82 : decode cX1_repay 82 = .ok (.l2i, 1) := dk_136 (dk_at dksX1_repay_3 11 rfl rfl)
theorem dX1_repay_83 : decode cX1_repay 83 = .ok (.ireturn, 1) := dk_172 (dk_at dksX1_repay_3 12 rfl rfl)
abbrev cX1_loan : ByteArray := prog_1_method_33_code
def yX1_loan : MethodName := ⟨RX1, "loan", "(II)J"⟩
def dkwX1_loan_3 : List UInt8 := [180, 1, 19, 133, 167, 0, 7, 45, 180, 1, 9, 173]
abbrev dktX1_loan_3 : List UInt8 := dkwX1_loan_3 ++ []
def dkwX1_loan_2 : List UInt8 := [167, 0, 33, 28, 4, 160, 0, 11, 45, 180, 1, 14, 133, 167, 0, 20, 28, 5, 160, 0, 11, 45]
abbrev dktX1_loan_2 : List UInt8 := dkwX1_loan_2 ++ dktX1_loan_3
def dkwX1_loan_1 : List UInt8 := [3, 184, 0, 77, 42, 180, 0, 41, 27, 182, 0, 162, 192, 1, 7, 78, 28, 154, 0, 10, 45, 180, 1, 11]
abbrev dktX1_loan_1 : List UInt8 := dkwX1_loan_1 ++ dktX1_loan_2
def dkwX1_loan_0 : List UInt8 := [27, 42, 180, 0, 41, 182, 0, 81, 184, 0, 112, 28, 155, 0, 12, 28, 6, 163, 0, 7, 4, 167, 0, 4]
abbrev dktX1_loan_0 : List UInt8 := dkwX1_loan_0 ++ dktX1_loan_1
theorem dksX1_loan_0 : cX1_loan.data.toList.drop 0 = dktX1_loan_0 := by decide +kernel
theorem dksX1_loan_1 : cX1_loan.data.toList.drop 24 = dktX1_loan_1 := dk_seg dksX1_loan_0 24 rfl rfl
theorem dksX1_loan_2 : cX1_loan.data.toList.drop 48 = dktX1_loan_2 := dk_seg dksX1_loan_1 24 rfl rfl
theorem dksX1_loan_3 : cX1_loan.data.toList.drop 70 = dktX1_loan_3 := dk_seg dksX1_loan_2 22 rfl rfl
theorem dX1_loan_0 : decode cX1_loan 0 = .ok (.iload_n 1, 1) := dk_27 (dk_at dksX1_loan_0 0 rfl rfl)
theorem dX1_loan_1 : decode cX1_loan 1 = .ok (.aload_n 0, 1) := dk_42 (dk_at dksX1_loan_0 1 rfl rfl)
theorem dX1_loan_2 : decode cX1_loan 2 = .ok (.getfield 41, 3) := dk_180 0 41 (dk_at dksX1_loan_0 2 rfl rfl)
theorem dX1_loan_5 : decode cX1_loan 5 = .ok (.invokevirtual 81, 3) := dk_182 0 81 (dk_at dksX1_loan_0 5 rfl rfl)
theorem dX1_loan_8 : decode cX1_loan 8 = .ok (.invokestatic 112, 3) := dk_184 0 112 (dk_at dksX1_loan_0 8 rfl rfl)
theorem dX1_loan_11 : decode cX1_loan 11 = .ok (.iload_n 2, 1) := dk_28 (dk_at dksX1_loan_0 11 rfl rfl)
theorem dX1_loan_12 : decode cX1_loan 12 = .ok (.ifCond .lt 12, 3) := dk_155 0 12 (dk_at dksX1_loan_0 12 rfl rfl)
theorem dX1_loan_15 : decode cX1_loan 15 = .ok (.iload_n 2, 1) := dk_28 (dk_at dksX1_loan_0 15 rfl rfl)
theorem dX1_loan_16 : decode cX1_loan 16 = .ok (.iconst 3, 1) := dk_6 (dk_at dksX1_loan_0 16 rfl rfl)
theorem dX1_loan_17 : decode cX1_loan 17 = .ok (.if_icmp .gt 7, 3) := dk_163 0 7 (dk_at dksX1_loan_0 17 rfl rfl)
theorem dX1_loan_20 : decode cX1_loan 20 = .ok (.iconst 1, 1) := dk_4 (dk_at dksX1_loan_0 20 rfl rfl)
theorem dX1_loan_21 : decode cX1_loan 21 = .ok (.goto 4, 3) := dk_167 0 4 (dk_at dksX1_loan_0 21 rfl rfl)
theorem dX1_loan_24 : decode cX1_loan 24 = .ok (.iconst 0, 1) := dk_3 (dk_at dksX1_loan_1 0 rfl rfl)
theorem dX1_loan_25 : decode cX1_loan 25 = .ok (.invokestatic 77, 3) := dk_184 0 77 (dk_at dksX1_loan_1 1 rfl rfl)
theorem dX1_loan_28 : decode cX1_loan 28 = .ok (.aload_n 0, 1) := dk_42 (dk_at dksX1_loan_1 4 rfl rfl)
theorem dX1_loan_29 : decode cX1_loan 29 = .ok (.getfield 41, 3) := dk_180 0 41 (dk_at dksX1_loan_1 5 rfl rfl)
theorem dX1_loan_32 : decode cX1_loan 32 = .ok (.iload_n 1, 1) := dk_27 (dk_at dksX1_loan_1 8 rfl rfl)
theorem dX1_loan_33 : decode cX1_loan 33 = .ok (.invokevirtual 162, 3) := dk_182 0 162 (dk_at dksX1_loan_1 9 rfl rfl)
theorem dX1_loan_36 : decode cX1_loan 36 = .ok (.checkcast 263, 3) := dk_192 1 7 (dk_at dksX1_loan_1 12 rfl rfl)
theorem dX1_loan_39 : decode cX1_loan 39 = .ok (.astore_n 3, 1) := dk_78 (dk_at dksX1_loan_1 15 rfl rfl)
theorem dX1_loan_40 : decode cX1_loan 40 = .ok (.iload_n 2, 1) := dk_28 (dk_at dksX1_loan_1 16 rfl rfl)
theorem dX1_loan_41 : decode cX1_loan 41 = .ok (.ifCond .ne 10, 3) := dk_154 0 10 (dk_at dksX1_loan_1 17 rfl rfl)
theorem dX1_loan_44 : decode cX1_loan 44 = .ok (.aload_n 3, 1) := dk_45 (dk_at dksX1_loan_1 20 rfl rfl)
theorem dX1_loan_45 : decode cX1_loan 45 = .ok (.getfield 267, 3) := dk_180 1 11 (dk_at dksX1_loan_1 21 rfl rfl)
theorem dX1_loan_48 : decode cX1_loan 48 = .ok (.goto 33, 3) := dk_167 0 33 (dk_at dksX1_loan_2 0 rfl rfl)
theorem dX1_loan_51 : decode cX1_loan 51 = .ok (.iload_n 2, 1) := dk_28 (dk_at dksX1_loan_2 3 rfl rfl)
theorem dX1_loan_52 : decode cX1_loan 52 = .ok (.iconst 1, 1) := dk_4 (dk_at dksX1_loan_2 4 rfl rfl)
theorem dX1_loan_53 : decode cX1_loan 53 = .ok (.if_icmp .ne 11, 3) := dk_160 0 11 (dk_at dksX1_loan_2 5 rfl rfl)
theorem dX1_loan_56 : decode cX1_loan 56 = .ok (.aload_n 3, 1) := dk_45 (dk_at dksX1_loan_2 8 rfl rfl)
theorem dX1_loan_57 : decode cX1_loan 57 = .ok (.getfield 270, 3) := dk_180 1 14 (dk_at dksX1_loan_2 9 rfl rfl)
theorem dX1_loan_60 : decode cX1_loan 60 = .ok (.i2l, 1) := dk_133 (dk_at dksX1_loan_2 12 rfl rfl)
theorem dX1_loan_61 : decode cX1_loan 61 = .ok (.goto 20, 3) := dk_167 0 20 (dk_at dksX1_loan_2 13 rfl rfl)
theorem dX1_loan_64 : decode cX1_loan 64 = .ok (.iload_n 2, 1) := dk_28 (dk_at dksX1_loan_2 16 rfl rfl)
theorem dX1_loan_65 : decode cX1_loan 65 = .ok (.iconst 2, 1) := dk_5 (dk_at dksX1_loan_2 17 rfl rfl)
theorem dX1_loan_66 : decode cX1_loan 66 = .ok (.if_icmp .ne 11, 3) := dk_160 0 11 (dk_at dksX1_loan_2 18 rfl rfl)
theorem dX1_loan_69 : decode cX1_loan 69 = .ok (.aload_n 3, 1) := dk_45 (dk_at dksX1_loan_2 21 rfl rfl)
theorem dX1_loan_70 : decode cX1_loan 70 = .ok (.getfield 275, 3) := dk_180 1 19 (dk_at dksX1_loan_3 0 rfl rfl)
theorem dX1_loan_73 : decode cX1_loan 73 = .ok (.i2l, 1) := dk_133 (dk_at dksX1_loan_3 3 rfl rfl)
theorem dX1_loan_74 : decode cX1_loan 74 = .ok (.goto 7, 3) := dk_167 0 7 (dk_at dksX1_loan_3 4 rfl rfl)
theorem dX1_loan_77 : decode cX1_loan 77 = .ok (.aload_n 3, 1) := dk_45 (dk_at dksX1_loan_3 7 rfl rfl)
theorem dX1_loan_78 : decode cX1_loan 78 = .ok (.getfield 265, 3) := dk_180 1 9 (dk_at dksX1_loan_3 8 rfl rfl)
theorem dX1_loan_81 : decode cX1_loan 81 = .ok (.lreturn, 1) := dk_173 (dk_at dksX1_loan_3 11 rfl rfl)
abbrev cX1_money : ByteArray := prog_1_method_34_code
def yX1_money : MethodName := ⟨RX1, "money", "(I)J"⟩
def dkwX1_money_1 : List UInt8 := [180, 0, 201, 173]
abbrev dktX1_money_1 : List UInt8 := dkwX1_money_1 ++ []
def dkwX1_money_0 : List UInt8 := [27, 42, 180, 0, 38, 182, 0, 81, 184, 0, 112, 42, 180, 0, 38, 27, 182, 0, 162, 192, 0, 199]
abbrev dktX1_money_0 : List UInt8 := dkwX1_money_0 ++ dktX1_money_1
theorem dksX1_money_0 : cX1_money.data.toList.drop 0 = dktX1_money_0 := by decide +kernel
theorem dksX1_money_1 : cX1_money.data.toList.drop 22 = dktX1_money_1 := dk_seg dksX1_money_0 22 rfl rfl
theorem dX1_money_0 : decode cX1_money 0 = .ok (.iload_n 1, 1) := dk_27 (dk_at dksX1_money_0 0 rfl rfl)
theorem dX1_money_1 : decode cX1_money 1 = .ok (.aload_n 0, 1) := dk_42 (dk_at dksX1_money_0 1 rfl rfl)
theorem dX1_money_2 : decode cX1_money 2 = .ok (.getfield 38, 3) := dk_180 0 38 (dk_at dksX1_money_0 2 rfl rfl)
theorem dX1_money_5 : decode cX1_money 5 = .ok (.invokevirtual 81, 3) := dk_182 0 81 (dk_at dksX1_money_0 5 rfl rfl)
theorem dX1_money_8 : decode cX1_money 8 = .ok (.invokestatic 112, 3) := dk_184 0 112 (dk_at dksX1_money_0 8 rfl rfl)
theorem dX1_money_11 : decode cX1_money 11 = .ok (.aload_n 0, 1) := dk_42 (dk_at dksX1_money_0 11 rfl rfl)
theorem dX1_money_12 : decode cX1_money 12 = .ok (.getfield 38, 3) := dk_180 0 38 (dk_at dksX1_money_0 12 rfl rfl)
theorem dX1_money_15 : decode cX1_money 15 = .ok (.iload_n 1, 1) := dk_27 (dk_at dksX1_money_0 15 rfl rfl)
theorem dX1_money_16 : decode cX1_money 16 = .ok (.invokevirtual 162, 3) := dk_182 0 162 (dk_at dksX1_money_0 16 rfl rfl)
theorem dX1_money_19 : decode cX1_money 19 = .ok (.checkcast 199, 3) := dk_192 0 199 (dk_at dksX1_money_0 19 rfl rfl)
theorem dX1_money_22 : decode cX1_money 22 = .ok (.getfield 201, 3) := dk_180 0 201 (dk_at dksX1_money_1 0 rfl rfl)
theorem dX1_money_25 : decode cX1_money 25 = .ok (.lreturn, 1) := dk_173 (dk_at dksX1_money_1 3 rfl rfl)
abbrev cX1_wear : ByteArray := prog_1_method_35_code
def yX1_wear : MethodName := ⟨RX1, "wear", "(I)J"⟩
def dkwX1_wear_1 : List UInt8 := [180, 0, 214, 173]
abbrev dktX1_wear_1 : List UInt8 := dkwX1_wear_1 ++ []
def dkwX1_wear_0 : List UInt8 := [27, 42, 180, 0, 29, 182, 0, 81, 184, 0, 112, 42, 180, 0, 29, 27, 182, 0, 162, 192, 0, 109]
abbrev dktX1_wear_0 : List UInt8 := dkwX1_wear_0 ++ dktX1_wear_1
theorem dksX1_wear_0 : cX1_wear.data.toList.drop 0 = dktX1_wear_0 := by decide +kernel
theorem dksX1_wear_1 : cX1_wear.data.toList.drop 22 = dktX1_wear_1 := dk_seg dksX1_wear_0 22 rfl rfl
theorem dX1_wear_0 : decode cX1_wear 0 = .ok (.iload_n 1, 1) := dk_27 (dk_at dksX1_wear_0 0 rfl rfl)
theorem dX1_wear_1 : decode cX1_wear 1 = .ok (.aload_n 0, 1) := dk_42 (dk_at dksX1_wear_0 1 rfl rfl)
theorem dX1_wear_2 : decode cX1_wear 2 = .ok (.getfield 29, 3) := dk_180 0 29 (dk_at dksX1_wear_0 2 rfl rfl)
theorem dX1_wear_5 : decode cX1_wear 5 = .ok (.invokevirtual 81, 3) := dk_182 0 81 (dk_at dksX1_wear_0 5 rfl rfl)
theorem dX1_wear_8 : decode cX1_wear 8 = .ok (.invokestatic 112, 3) := dk_184 0 112 (dk_at dksX1_wear_0 8 rfl rfl)
theorem dX1_wear_11 : decode cX1_wear 11 = .ok (.aload_n 0, 1) := dk_42 (dk_at dksX1_wear_0 11 rfl rfl)
theorem dX1_wear_12 : decode cX1_wear 12 = .ok (.getfield 29, 3) := dk_180 0 29 (dk_at dksX1_wear_0 12 rfl rfl)
theorem dX1_wear_15 : decode cX1_wear 15 = .ok (.iload_n 1, 1) := dk_27 (dk_at dksX1_wear_0 15 rfl rfl)
theorem dX1_wear_16 : decode cX1_wear 16 = .ok (.invokevirtual 162, 3) := dk_182 0 162 (dk_at dksX1_wear_0 16 rfl rfl)
theorem dX1_wear_19 : decode cX1_wear 19 = .ok (.checkcast 109, 3) := dk_192 0 109 (dk_at dksX1_wear_0 19 rfl rfl)
theorem dX1_wear_22 : decode cX1_wear 22 = .ok (.getfield 214, 3) := dk_180 0 214 (dk_at dksX1_wear_1 0 rfl rfl)
theorem dX1_wear_25 : decode cX1_wear 25 = .ok (.lreturn, 1) := dk_173 (dk_at dksX1_wear_1 3 rfl rfl)
abbrev cX1_box : ByteArray := prog_1_method_36_code
def yX1_box : MethodName := ⟨RX1, "box", "(I)J"⟩
def dkwX1_box_3 : List UInt8 := [167, 255, 211, 32, 173]
abbrev dktX1_box_3 : List UInt8 := dkwX1_box_3 ++ []
def dkwX1_box_2 : List UInt8 := [157, 0, 17, 42, 180, 0, 58, 7, 21, 4, 104, 6, 96, 47, 167, 0, 4, 9, 97, 65, 132, 4, 1]
abbrev dktX1_box_2 : List UInt8 := dkwX1_box_2 ++ dktX1_box_3
def dkwX1_box_1 : List UInt8 := [21, 4, 42, 180, 0, 222, 162, 0, 42, 32, 42, 180, 0, 58, 7, 21, 4, 104, 47, 27, 133, 148]
abbrev dktX1_box_1 : List UInt8 := dkwX1_box_1 ++ dktX1_box_2
def dkwX1_box_0 : List UInt8 := [27, 155, 0, 14, 27, 17, 39, 15, 163, 0, 7, 4, 167, 0, 4, 3, 184, 0, 77, 9, 65, 3, 54, 4]
abbrev dktX1_box_0 : List UInt8 := dkwX1_box_0 ++ dktX1_box_1
theorem dksX1_box_0 : cX1_box.data.toList.drop 0 = dktX1_box_0 := by decide +kernel
theorem dksX1_box_1 : cX1_box.data.toList.drop 24 = dktX1_box_1 := dk_seg dksX1_box_0 24 rfl rfl
theorem dksX1_box_2 : cX1_box.data.toList.drop 46 = dktX1_box_2 := dk_seg dksX1_box_1 22 rfl rfl
theorem dksX1_box_3 : cX1_box.data.toList.drop 69 = dktX1_box_3 := dk_seg dksX1_box_2 23 rfl rfl
theorem dX1_box_0 : decode cX1_box 0 = .ok (.iload_n 1, 1) := dk_27 (dk_at dksX1_box_0 0 rfl rfl)
theorem dX1_box_1 : decode cX1_box 1 = .ok (.ifCond .lt 14, 3) := dk_155 0 14 (dk_at dksX1_box_0 1 rfl rfl)
theorem dX1_box_4 : decode cX1_box 4 = .ok (.iload_n 1, 1) := dk_27 (dk_at dksX1_box_0 4 rfl rfl)
theorem dX1_box_5 : decode cX1_box 5 = .ok (.sipush 9999, 3) := dk_17 39 15 (dk_at dksX1_box_0 5 rfl rfl)
theorem dX1_box_8 : decode cX1_box 8 = .ok (.if_icmp .gt 7, 3) := dk_163 0 7 (dk_at dksX1_box_0 8 rfl rfl)
theorem dX1_box_11 : decode cX1_box 11 = .ok (.iconst 1, 1) := dk_4 (dk_at dksX1_box_0 11 rfl rfl)
theorem dX1_box_12 : decode cX1_box 12 = .ok (.goto 4, 3) := dk_167 0 4 (dk_at dksX1_box_0 12 rfl rfl)
theorem dX1_box_15 : decode cX1_box 15 = .ok (.iconst 0, 1) := dk_3 (dk_at dksX1_box_0 15 rfl rfl)
theorem dX1_box_16 : decode cX1_box 16 = .ok (.invokestatic 77, 3) := dk_184 0 77 (dk_at dksX1_box_0 16 rfl rfl)
theorem dX1_box_19 : decode cX1_box 19 = .ok (.lconst 0, 1) := dk_9 (dk_at dksX1_box_0 19 rfl rfl)
theorem dX1_box_20 : decode cX1_box 20 = .ok (.lstore_n 2, 1) := dk_65 (dk_at dksX1_box_0 20 rfl rfl)
theorem dX1_box_21 : decode cX1_box 21 = .ok (.iconst 0, 1) := dk_3 (dk_at dksX1_box_0 21 rfl rfl)
theorem dX1_box_22 : decode cX1_box 22 = .ok (.istore 4, 2) := dk_54 4 (dk_at dksX1_box_0 22 rfl rfl)
theorem dX1_box_24 : decode cX1_box 24 = .ok (.iload 4, 2) := dk_21 4 (dk_at dksX1_box_1 0 rfl rfl)
theorem dX1_box_26 : decode cX1_box 26 = .ok (.aload_n 0, 1) := dk_42 (dk_at dksX1_box_1 2 rfl rfl)
theorem dX1_box_27 : decode cX1_box 27 = .ok (.getfield 222, 3) := dk_180 0 222 (dk_at dksX1_box_1 3 rfl rfl)
theorem dX1_box_30 : decode cX1_box 30 = .ok (.if_icmp .ge 42, 3) := dk_162 0 42 (dk_at dksX1_box_1 6 rfl rfl)
theorem dX1_box_33 : decode cX1_box 33 = .ok (.lload_n 2, 1) := dk_32 (dk_at dksX1_box_1 9 rfl rfl)
theorem dX1_box_34 : decode cX1_box 34 = .ok (.aload_n 0, 1) := dk_42 (dk_at dksX1_box_1 10 rfl rfl)
theorem dX1_box_35 : decode cX1_box 35 = .ok (.getfield 58, 3) := dk_180 0 58 (dk_at dksX1_box_1 11 rfl rfl)
theorem dX1_box_38 : decode cX1_box 38 = .ok (.iconst 4, 1) := dk_7 (dk_at dksX1_box_1 14 rfl rfl)
theorem dX1_box_39 : decode cX1_box 39 = .ok (.iload 4, 2) := dk_21 4 (dk_at dksX1_box_1 15 rfl rfl)
theorem dX1_box_41 : decode cX1_box 41 = .ok (.imul, 1) := dk_104 (dk_at dksX1_box_1 17 rfl rfl)
theorem dX1_box_42 : decode cX1_box 42 = .ok (.laload, 1) := dk_47 (dk_at dksX1_box_1 18 rfl rfl)
theorem dX1_box_43 : decode cX1_box 43 = .ok (.iload_n 1, 1) := dk_27 (dk_at dksX1_box_1 19 rfl rfl)
theorem dX1_box_44 : decode cX1_box 44 = .ok (.i2l, 1) := dk_133 (dk_at dksX1_box_1 20 rfl rfl)
theorem dX1_box_45 : decode cX1_box 45 = .ok (.lcmp, 1) := dk_148 (dk_at dksX1_box_1 21 rfl rfl)
theorem dX1_box_46 : decode cX1_box 46 = .ok (.ifCond .gt 17, 3) := dk_157 0 17 (dk_at dksX1_box_2 0 rfl rfl)
theorem dX1_box_49 : decode cX1_box 49 = .ok (.aload_n 0, 1) := dk_42 (dk_at dksX1_box_2 3 rfl rfl)
theorem dX1_box_50 : decode cX1_box 50 = .ok (.getfield 58, 3) := dk_180 0 58 (dk_at dksX1_box_2 4 rfl rfl)
theorem dX1_box_53 : decode cX1_box 53 = .ok (.iconst 4, 1) := dk_7 (dk_at dksX1_box_2 7 rfl rfl)
theorem dX1_box_54 : decode cX1_box 54 = .ok (.iload 4, 2) := dk_21 4 (dk_at dksX1_box_2 8 rfl rfl)
theorem dX1_box_56 : decode cX1_box 56 = .ok (.imul, 1) := dk_104 (dk_at dksX1_box_2 10 rfl rfl)
theorem dX1_box_57 : decode cX1_box 57 = .ok (.iconst 3, 1) := dk_6 (dk_at dksX1_box_2 11 rfl rfl)
theorem dX1_box_58 : decode cX1_box 58 = .ok (.iadd, 1) := dk_96 (dk_at dksX1_box_2 12 rfl rfl)
theorem dX1_box_59 : decode cX1_box 59 = .ok (.laload, 1) := dk_47 (dk_at dksX1_box_2 13 rfl rfl)
theorem dX1_box_60 : decode cX1_box 60 = .ok (.goto 4, 3) := dk_167 0 4 (dk_at dksX1_box_2 14 rfl rfl)
theorem dX1_box_63 : decode cX1_box 63 = .ok (.lconst 0, 1) := dk_9 (dk_at dksX1_box_2 17 rfl rfl)
theorem dX1_box_64 : decode cX1_box 64 = .ok (.ladd, 1) := dk_97 (dk_at dksX1_box_2 18 rfl rfl)
theorem dX1_box_65 : decode cX1_box 65 = .ok (.lstore_n 2, 1) := dk_65 (dk_at dksX1_box_2 19 rfl rfl)
theorem dX1_box_66 : decode cX1_box 66 = .ok (.iinc 4 1, 3) := dk_132 4 1 (dk_at dksX1_box_2 20 rfl rfl)
theorem dX1_box_69 : decode cX1_box 69 = .ok (.goto (-45), 3) := dk_167 255 211 (dk_at dksX1_box_3 0 rfl rfl)
theorem dX1_box_72 : decode cX1_box 72 = .ok (.lload_n 2, 1) := dk_32 (dk_at dksX1_box_3 3 rfl rfl)
theorem dX1_box_73 : decode cX1_box 73 = .ok (.lreturn, 1) := dk_173 (dk_at dksX1_box_3 4 rfl rfl)
abbrev cX1_journal : ByteArray := prog_1_method_37_code
def yX1_journal : MethodName := ⟨RX1, "journal", "(II)J"⟩
def dkwX1_journal_1 : List UInt8 := [184, 0, 77, 42, 180, 0, 58, 7, 27, 104, 28, 96, 47, 173]
abbrev dktX1_journal_1 : List UInt8 := dkwX1_journal_1 ++ []
def dkwX1_journal_0 : List UInt8 := [27, 42, 180, 0, 222, 184, 0, 112, 28, 155, 0, 12, 28, 6, 163, 0, 7, 4, 167, 0, 4, 3]
abbrev dktX1_journal_0 : List UInt8 := dkwX1_journal_0 ++ dktX1_journal_1
theorem dksX1_journal_0 : cX1_journal.data.toList.drop 0 = dktX1_journal_0 := by decide +kernel
theorem dksX1_journal_1 : cX1_journal.data.toList.drop 22 = dktX1_journal_1 := dk_seg dksX1_journal_0 22 rfl rfl
theorem dX1_journal_0 : decode cX1_journal 0 = .ok (.iload_n 1, 1) := dk_27 (dk_at dksX1_journal_0 0 rfl rfl)
theorem dX1_journal_1 : decode cX1_journal 1 = .ok (.aload_n 0, 1) := dk_42 (dk_at dksX1_journal_0 1 rfl rfl)
theorem dX1_journal_2 : decode cX1_journal 2 = .ok (.getfield 222, 3) := dk_180 0 222 (dk_at dksX1_journal_0 2 rfl rfl)
theorem dX1_journal_5 : decode cX1_journal 5 = .ok (.invokestatic 112, 3) := dk_184 0 112 (dk_at dksX1_journal_0 5 rfl rfl)
theorem dX1_journal_8 : decode cX1_journal 8 = .ok (.iload_n 2, 1) := dk_28 (dk_at dksX1_journal_0 8 rfl rfl)
theorem dX1_journal_9 : decode cX1_journal 9 = .ok (.ifCond .lt 12, 3) := dk_155 0 12 (dk_at dksX1_journal_0 9 rfl rfl)
theorem dX1_journal_12 : decode cX1_journal 12 = .ok (.iload_n 2, 1) := dk_28 (dk_at dksX1_journal_0 12 rfl rfl)
theorem dX1_journal_13 : decode cX1_journal 13 = .ok (.iconst 3, 1) := dk_6 (dk_at dksX1_journal_0 13 rfl rfl)
theorem dX1_journal_14 : decode cX1_journal 14 = .ok (.if_icmp .gt 7, 3) := dk_163 0 7 (dk_at dksX1_journal_0 14 rfl rfl)
theorem dX1_journal_17 : decode cX1_journal 17 = .ok (.iconst 1, 1) := dk_4 (dk_at dksX1_journal_0 17 rfl rfl)
theorem dX1_journal_18 : decode cX1_journal 18 = .ok (.goto 4, 3) := dk_167 0 4 (dk_at dksX1_journal_0 18 rfl rfl)
theorem dX1_journal_21 : decode cX1_journal 21 = .ok (.iconst 0, 1) := dk_3 (dk_at dksX1_journal_0 21 rfl rfl)
theorem dX1_journal_22 : decode cX1_journal 22 = .ok (.invokestatic 77, 3) := dk_184 0 77 (dk_at dksX1_journal_1 0 rfl rfl)
theorem dX1_journal_25 : decode cX1_journal 25 = .ok (.aload_n 0, 1) := dk_42 (dk_at dksX1_journal_1 3 rfl rfl)
theorem dX1_journal_26 : decode cX1_journal 26 = .ok (.getfield 58, 3) := dk_180 0 58 (dk_at dksX1_journal_1 4 rfl rfl)
theorem dX1_journal_29 : decode cX1_journal 29 = .ok (.iconst 4, 1) := dk_7 (dk_at dksX1_journal_1 7 rfl rfl)
theorem dX1_journal_30 : decode cX1_journal 30 = .ok (.iload_n 1, 1) := dk_27 (dk_at dksX1_journal_1 8 rfl rfl)
theorem dX1_journal_31 : decode cX1_journal 31 = .ok (.imul, 1) := dk_104 (dk_at dksX1_journal_1 9 rfl rfl)
theorem dX1_journal_32 : decode cX1_journal 32 = .ok (.iload_n 2, 1) := dk_28 (dk_at dksX1_journal_1 10 rfl rfl)
theorem dX1_journal_33 : decode cX1_journal 33 = .ok (.iadd, 1) := dk_96 (dk_at dksX1_journal_1 11 rfl rfl)
theorem dX1_journal_34 : decode cX1_journal 34 = .ok (.laload, 1) := dk_47 (dk_at dksX1_journal_1 12 rfl rfl)
theorem dX1_journal_35 : decode cX1_journal 35 = .ok (.lreturn, 1) := dk_173 (dk_at dksX1_journal_1 13 rfl rfl)
theorem q63 : (Jvm.Cond.initialized "TurnpikeTrust") ∈ lw_all := lw_g (lw_at lw_m1 1 rfl) rfl
theorem q119 : (Jvm.Cond.instantiable "TurnpikeTrust" (17 : Nat)) ∈ lw_all := lw_g (lw_at lw_m1 57 rfl) rfl
theorem q121 : (Jvm.Cond.instanceMethod ({ cls := "TurnpikeTrust", name := "<init>", desc := "()V" } : Jvm.MethodName)) ∈ lw_all := lw_g (lw_at lw_m1 59 rfl) rfl
theorem q122 : (Jvm.Cond.code ({ cls := "TurnpikeTrust", name := "<init>", desc := "()V" } : Jvm.MethodName) prog_1_method_1_code (1 : Nat) (Option.none : Option Jvm.ClassFile.FieldType)) ∈ lw_all := lw_g (lw_at lw_m1 60 rfl) rfl
theorem q123 : (Jvm.Cond.methodLink "TurnpikeTrust" (1 : Nat) ({ cls := "java/lang/Object", name := "<init>", desc := "()V" } : Jvm.MethodName)) ∈ lw_all := lw_g (lw_at lw_m1 61 rfl) rfl
theorem q126 : (Jvm.Cond.classLink "TurnpikeTrust" (20 : Nat) "java/util/ArrayList") ∈ lw_all := lw_g (lw_at lw_m1 64 rfl) rfl
theorem q128 : (Jvm.Cond.methodLink "TurnpikeTrust" (22 : Nat) ({ cls := "java/util/ArrayList", name := "<init>", desc := "(I)V" } : Jvm.MethodName)) ∈ lw_all := lw_g (lw_at lw_m1 66 rfl) rfl
theorem q470 : (Jvm.Cond.classLink "TurnpikeTrust" (44 : Nat) "TurnpikeTrust$Pass") ∈ lw_all := lw_g (lw_at lw_m2 168 rfl) rfl
theorem q472 : (Jvm.Cond.methodLinkNest "TurnpikeTrust" (46 : Nat) ({ cls := "TurnpikeTrust$Pass", name := "<init>", desc := "()V" } : Jvm.MethodName) "TurnpikeTrust") ∈ lw_tbl := lw_at lw_m2 170 rfl
theorem q481 : (Jvm.Cond.fieldLinkNest "TurnpikeTrust" (147 : Nat) "TurnpikeTrust$Pass" "who" "LTurnpikeTrust$Traveller;" "TurnpikeTrust") ∈ lw_tbl := lw_at lw_m2 179 rfl
theorem q483 : (Jvm.Cond.fieldLinkNest "TurnpikeTrust" (151 : Nat) "TurnpikeTrust$Pass" "gate" "I" "TurnpikeTrust") ∈ lw_tbl := lw_at lw_m2 181 rfl
theorem q485 : (Jvm.Cond.fieldLinkNest "TurnpikeTrust" (154 : Nat) "TurnpikeTrust$Pass" "day" "I" "TurnpikeTrust") ∈ lw_tbl := lw_at lw_m2 183 rfl
theorem q487 : (Jvm.Cond.fieldLinkNest "TurnpikeTrust" (158 : Nat) "TurnpikeTrust$Pass" "isBack" "Z" "TurnpikeTrust") ∈ lw_tbl := lw_at lw_m2 185 rfl
theorem q497 : (Jvm.Cond.classLink "TurnpikeTrust" (51 : Nat) "TurnpikeTrust$Reckoning") ∈ lw_all := lw_g (lw_at lw_m2 195 rfl) rfl
theorem q499 : (Jvm.Cond.methodLinkNest "TurnpikeTrust" (53 : Nat) ({ cls := "TurnpikeTrust$Reckoning", name := "<init>", desc := "()V" } : Jvm.MethodName) "TurnpikeTrust") ∈ lw_tbl := lw_at lw_m2 197 rfl
theorem q515 : (Jvm.Cond.fieldLinkNest "TurnpikeTrust" (183 : Nat) "TurnpikeTrust$Reckoning" "line" "I" "TurnpikeTrust") ∈ lw_tbl := lw_at lw_m2 213 rfl
theorem q517 : (Jvm.Cond.fieldLinkNest "TurnpikeTrust" (186 : Nat) "TurnpikeTrust$Reckoning" "toll" "J" "TurnpikeTrust") ∈ lw_tbl := lw_at lw_m2 215 rfl
theorem q540 : (Jvm.Cond.fieldLink "TurnpikeTrust" (9 : Nat) "TurnpikeTrust" "tape" "[B") ∈ lw_all := lw_g (lw_at lw_m2 238 rfl) rfl
theorem q541 : (Jvm.Cond.fieldLink "TurnpikeTrust" (71 : Nat) "TurnpikeTrust" "taped" "I") ∈ lw_all := lw_g (lw_at lw_m2 239 rfl) rfl
theorem q542 : (Jvm.Cond.fieldLink "TurnpikeTrust" (13 : Nat) "TurnpikeTrust" "faultAt" "I") ∈ lw_all := lw_g (lw_at lw_m3 0 rfl) rfl
theorem q543 : (Jvm.Cond.fieldLink "TurnpikeTrust" (137 : Nat) "TurnpikeTrust" "day" "I") ∈ lw_all := lw_g (lw_at lw_m3 1 rfl) rfl
theorem q544 : (Jvm.Cond.fieldLink "TurnpikeTrust" (17 : Nat) "TurnpikeTrust" "clause" "I") ∈ lw_all := lw_g (lw_at lw_m3 2 rfl) rfl
theorem q545 : (Jvm.Cond.fieldLink "TurnpikeTrust" (219 : Nat) "TurnpikeTrust" "rains" "I") ∈ lw_all := lw_g (lw_at lw_m3 3 rfl) rfl
theorem q546 : (Jvm.Cond.fieldLink "TurnpikeTrust" (231 : Nat) "TurnpikeTrust" "box" "J") ∈ lw_all := lw_g (lw_at lw_m3 4 rfl) rfl
theorem q547 : (Jvm.Cond.fieldLink "TurnpikeTrust" (25 : Nat) "TurnpikeTrust" "acts" "Ljava/util/ArrayList;") ∈ lw_all := lw_g (lw_at lw_m3 5 rfl) rfl
theorem q548 : (Jvm.Cond.fieldLink "TurnpikeTrust" (29 : Nat) "TurnpikeTrust" "stretches" "Ljava/util/ArrayList;") ∈ lw_all := lw_g (lw_at lw_m3 6 rfl) rfl
theorem q549 : (Jvm.Cond.fieldLink "TurnpikeTrust" (32 : Nat) "TurnpikeTrust" "gates" "Ljava/util/ArrayList;") ∈ lw_all := lw_g (lw_at lw_m3 7 rfl) rfl
theorem q550 : (Jvm.Cond.fieldLink "TurnpikeTrust" (35 : Nat) "TurnpikeTrust" "travellers" "Ljava/util/ArrayList;") ∈ lw_all := lw_g (lw_at lw_m3 8 rfl) rfl
theorem q551 : (Jvm.Cond.fieldLink "TurnpikeTrust" (38 : Nat) "TurnpikeTrust" "farmers" "Ljava/util/ArrayList;") ∈ lw_all := lw_g (lw_at lw_m3 9 rfl) rfl
theorem q552 : (Jvm.Cond.fieldLink "TurnpikeTrust" (41 : Nat) "TurnpikeTrust" "loans" "Ljava/util/ArrayList;") ∈ lw_all := lw_g (lw_at lw_m3 10 rfl) rfl
theorem q553 : (Jvm.Cond.fieldLink "TurnpikeTrust" (47 : Nat) "TurnpikeTrust" "pass" "LTurnpikeTrust$Pass;") ∈ lw_all := lw_g (lw_at lw_m3 11 rfl) rfl
theorem q554 : (Jvm.Cond.fieldLink "TurnpikeTrust" (54 : Nat) "TurnpikeTrust" "reckoning" "LTurnpikeTrust$Reckoning;") ∈ lw_all := lw_g (lw_at lw_m3 12 rfl) rfl
theorem q555 : (Jvm.Cond.fieldLink "TurnpikeTrust" (58 : Nat) "TurnpikeTrust" "lines" "[J") ∈ lw_all := lw_g (lw_at lw_m3 13 rfl) rfl
theorem q556 : (Jvm.Cond.fieldLink "TurnpikeTrust" (222 : Nat) "TurnpikeTrust" "lineMany" "I") ∈ lw_all := lw_g (lw_at lw_m3 14 rfl) rfl
theorem q557 : (Jvm.Cond.laysFinal "TurnpikeTrust" "TurnpikeTrust" "tape" "[B") ∈ lw_all := lw_g (lw_at lw_m3 15 rfl) rfl
theorem q558 : (Jvm.Cond.soleField "TurnpikeTrust" "tape") ∈ lw_all := lw_g (lw_at lw_m3 16 rfl) rfl
theorem q559 : (Jvm.Cond.lays "TurnpikeTrust" "TurnpikeTrust" "taped" "I") ∈ lw_all := lw_g (lw_at lw_m3 17 rfl) rfl
theorem q560 : (Jvm.Cond.soleField "TurnpikeTrust" "taped") ∈ lw_all := lw_g (lw_at lw_m3 18 rfl) rfl
theorem q561 : (Jvm.Cond.lays "TurnpikeTrust" "TurnpikeTrust" "faultAt" "I") ∈ lw_all := lw_g (lw_at lw_m3 19 rfl) rfl
theorem q562 : (Jvm.Cond.soleField "TurnpikeTrust" "faultAt") ∈ lw_all := lw_g (lw_at lw_m3 20 rfl) rfl
theorem q563 : (Jvm.Cond.lays "TurnpikeTrust" "TurnpikeTrust" "day" "I") ∈ lw_all := lw_g (lw_at lw_m3 21 rfl) rfl
theorem q564 : (Jvm.Cond.soleField "TurnpikeTrust" "day") ∈ lw_all := lw_g (lw_at lw_m3 22 rfl) rfl
theorem q565 : (Jvm.Cond.lays "TurnpikeTrust" "TurnpikeTrust" "clause" "I") ∈ lw_all := lw_g (lw_at lw_m3 23 rfl) rfl
theorem q566 : (Jvm.Cond.soleField "TurnpikeTrust" "clause") ∈ lw_all := lw_g (lw_at lw_m3 24 rfl) rfl
theorem q567 : (Jvm.Cond.lays "TurnpikeTrust" "TurnpikeTrust" "rains" "I") ∈ lw_all := lw_g (lw_at lw_m3 25 rfl) rfl
theorem q568 : (Jvm.Cond.soleField "TurnpikeTrust" "rains") ∈ lw_all := lw_g (lw_at lw_m3 26 rfl) rfl
theorem q569 : (Jvm.Cond.lays "TurnpikeTrust" "TurnpikeTrust" "box" "J") ∈ lw_all := lw_g (lw_at lw_m3 27 rfl) rfl
theorem q570 : (Jvm.Cond.soleField "TurnpikeTrust" "box") ∈ lw_all := lw_g (lw_at lw_m3 28 rfl) rfl
theorem q571 : (Jvm.Cond.laysFinal "TurnpikeTrust" "TurnpikeTrust" "acts" "Ljava/util/ArrayList;") ∈ lw_all := lw_g (lw_at lw_m3 29 rfl) rfl
theorem q572 : (Jvm.Cond.soleField "TurnpikeTrust" "acts") ∈ lw_all := lw_g (lw_at lw_m3 30 rfl) rfl
theorem q573 : (Jvm.Cond.laysFinal "TurnpikeTrust" "TurnpikeTrust" "stretches" "Ljava/util/ArrayList;") ∈ lw_all := lw_g (lw_at lw_m3 31 rfl) rfl
theorem q574 : (Jvm.Cond.soleField "TurnpikeTrust" "stretches") ∈ lw_all := lw_g (lw_at lw_m3 32 rfl) rfl
theorem q575 : (Jvm.Cond.laysFinal "TurnpikeTrust" "TurnpikeTrust" "gates" "Ljava/util/ArrayList;") ∈ lw_all := lw_g (lw_at lw_m3 33 rfl) rfl
theorem q576 : (Jvm.Cond.soleField "TurnpikeTrust" "gates") ∈ lw_all := lw_g (lw_at lw_m3 34 rfl) rfl
theorem q577 : (Jvm.Cond.laysFinal "TurnpikeTrust" "TurnpikeTrust" "travellers" "Ljava/util/ArrayList;") ∈ lw_all := lw_g (lw_at lw_m3 35 rfl) rfl
theorem q578 : (Jvm.Cond.soleField "TurnpikeTrust" "travellers") ∈ lw_all := lw_g (lw_at lw_m3 36 rfl) rfl
theorem q579 : (Jvm.Cond.laysFinal "TurnpikeTrust" "TurnpikeTrust" "farmers" "Ljava/util/ArrayList;") ∈ lw_all := lw_g (lw_at lw_m3 37 rfl) rfl
theorem q580 : (Jvm.Cond.soleField "TurnpikeTrust" "farmers") ∈ lw_all := lw_g (lw_at lw_m3 38 rfl) rfl
theorem q581 : (Jvm.Cond.laysFinal "TurnpikeTrust" "TurnpikeTrust" "loans" "Ljava/util/ArrayList;") ∈ lw_all := lw_g (lw_at lw_m3 39 rfl) rfl
theorem q582 : (Jvm.Cond.soleField "TurnpikeTrust" "loans") ∈ lw_all := lw_g (lw_at lw_m3 40 rfl) rfl
theorem q583 : (Jvm.Cond.laysFinal "TurnpikeTrust" "TurnpikeTrust" "pass" "LTurnpikeTrust$Pass;") ∈ lw_all := lw_g (lw_at lw_m3 41 rfl) rfl
theorem q584 : (Jvm.Cond.soleField "TurnpikeTrust" "pass") ∈ lw_all := lw_g (lw_at lw_m3 42 rfl) rfl
theorem q585 : (Jvm.Cond.laysFinal "TurnpikeTrust" "TurnpikeTrust" "reckoning" "LTurnpikeTrust$Reckoning;") ∈ lw_all := lw_g (lw_at lw_m3 43 rfl) rfl
theorem q586 : (Jvm.Cond.soleField "TurnpikeTrust" "reckoning") ∈ lw_all := lw_g (lw_at lw_m3 44 rfl) rfl
theorem q587 : (Jvm.Cond.lays "TurnpikeTrust" "TurnpikeTrust" "lines" "[J") ∈ lw_all := lw_g (lw_at lw_m3 45 rfl) rfl
theorem q588 : (Jvm.Cond.soleField "TurnpikeTrust" "lines") ∈ lw_all := lw_g (lw_at lw_m3 46 rfl) rfl
theorem q589 : (Jvm.Cond.lays "TurnpikeTrust" "TurnpikeTrust" "lineMany" "I") ∈ lw_all := lw_g (lw_at lw_m3 47 rfl) rfl
theorem q590 : (Jvm.Cond.soleField "TurnpikeTrust" "lineMany") ∈ lw_all := lw_g (lw_at lw_m3 48 rfl) rfl
theorem q591 : (Jvm.Cond.superclass "TurnpikeTrust" "java/lang/Object") ∈ lw_all := lw_g (lw_at lw_m3 49 rfl) rfl
theorem q593 : (Jvm.Cond.instanceMethod ({ cls := "TurnpikeTrust", name := "feed", desc := "(IIIII)I" } : Jvm.MethodName)) ∈ lw_all := lw_g (lw_at lw_m3 51 rfl) rfl
theorem q594 : (Jvm.Cond.selects "TurnpikeTrust" ({ cls := "TurnpikeTrust", name := "feed", desc := "(IIIII)I" } : Jvm.MethodName) ({ cls := "TurnpikeTrust", name := "feed", desc := "(IIIII)I" } : Jvm.MethodName)) ∈ lw_all := lw_g (lw_at lw_m3 52 rfl) rfl
theorem q595 : (Jvm.Cond.code ({ cls := "TurnpikeTrust", name := "feed", desc := "(IIIII)I" } : Jvm.MethodName) prog_1_method_5_code (6 : Nat) (Option.some Jvm.ClassFile.FieldType.int)) ∈ lw_all := lw_g (lw_at lw_m3 53 rfl) rfl
theorem q596 : (Jvm.Cond.methodLink "TurnpikeTrust" (74 : Nat) ({ cls := "TurnpikeTrust", name := "put", desc := "(I)V" } : Jvm.MethodName)) ∈ lw_all := lw_g (lw_at lw_m3 54 rfl) rfl
theorem q597 : (Jvm.Cond.privateMethod ({ cls := "TurnpikeTrust", name := "put", desc := "(I)V" } : Jvm.MethodName)) ∈ lw_tbl := lw_at lw_m3 55 rfl
theorem q598 : (Jvm.Cond.instanceMethod ({ cls := "TurnpikeTrust", name := "put", desc := "(I)V" } : Jvm.MethodName)) ∈ lw_all := lw_g (lw_at lw_m3 56 rfl) rfl
theorem q599 : (Jvm.Cond.code ({ cls := "TurnpikeTrust", name := "put", desc := "(I)V" } : Jvm.MethodName) prog_1_method_6_code (3 : Nat) (Option.none : Option Jvm.ClassFile.FieldType)) ∈ lw_all := lw_g (lw_at lw_m3 57 rfl) rfl
theorem q601 : (Jvm.Cond.instanceMethod ({ cls := "TurnpikeTrust", name := "fault", desc := "()I" } : Jvm.MethodName)) ∈ lw_all := lw_g (lw_at lw_m3 59 rfl) rfl
theorem q602 : (Jvm.Cond.selects "TurnpikeTrust" ({ cls := "TurnpikeTrust", name := "fault", desc := "()I" } : Jvm.MethodName) ({ cls := "TurnpikeTrust", name := "fault", desc := "()I" } : Jvm.MethodName)) ∈ lw_all := lw_g (lw_at lw_m3 60 rfl) rfl
theorem q603 : (Jvm.Cond.code ({ cls := "TurnpikeTrust", name := "fault", desc := "()I" } : Jvm.MethodName) prog_1_method_8_code (1 : Nat) (Option.some Jvm.ClassFile.FieldType.int)) ∈ lw_all := lw_g (lw_at lw_m3 61 rfl) rfl
theorem q605 : (Jvm.Cond.instanceMethod ({ cls := "TurnpikeTrust", name := "clause", desc := "()I" } : Jvm.MethodName)) ∈ lw_all := lw_g (lw_at lw_m3 63 rfl) rfl
theorem q606 : (Jvm.Cond.selects "TurnpikeTrust" ({ cls := "TurnpikeTrust", name := "clause", desc := "()I" } : Jvm.MethodName) ({ cls := "TurnpikeTrust", name := "clause", desc := "()I" } : Jvm.MethodName)) ∈ lw_all := lw_g (lw_at lw_m3 64 rfl) rfl
theorem q607 : (Jvm.Cond.code ({ cls := "TurnpikeTrust", name := "clause", desc := "()I" } : Jvm.MethodName) prog_1_method_15_code (1 : Nat) (Option.some Jvm.ClassFile.FieldType.int)) ∈ lw_all := lw_g (lw_at lw_m3 65 rfl) rfl
theorem q609 : (Jvm.Cond.instanceMethod ({ cls := "TurnpikeTrust", name := "count", desc := "(I)I" } : Jvm.MethodName)) ∈ lw_all := lw_g (lw_at lw_m3 67 rfl) rfl
theorem q610 : (Jvm.Cond.selects "TurnpikeTrust" ({ cls := "TurnpikeTrust", name := "count", desc := "(I)I" } : Jvm.MethodName) ({ cls := "TurnpikeTrust", name := "count", desc := "(I)I" } : Jvm.MethodName)) ∈ lw_all := lw_g (lw_at lw_m3 68 rfl) rfl
theorem q611 : (Jvm.Cond.code ({ cls := "TurnpikeTrust", name := "count", desc := "(I)I" } : Jvm.MethodName) prog_1_method_38_code (2 : Nat) (Option.some Jvm.ClassFile.FieldType.int)) ∈ lw_all := lw_g (lw_at lw_m3 69 rfl) rfl
theorem q612 : (Jvm.Cond.methodLink "TurnpikeTrust" (81 : Nat) ({ cls := "java/util/ArrayList", name := "size", desc := "()I" } : Jvm.MethodName)) ∈ lw_all := lw_g (lw_at lw_m3 70 rfl) rfl
theorem q622 : (Jvm.Cond.instanceMethod ({ cls := "TurnpikeTrust", name := "act", desc := "(II)I" } : Jvm.MethodName)) ∈ lw_all := lw_g (lw_at lw_m3 80 rfl) rfl
theorem q623 : (Jvm.Cond.selects "TurnpikeTrust" ({ cls := "TurnpikeTrust", name := "act", desc := "(II)I" } : Jvm.MethodName) ({ cls := "TurnpikeTrust", name := "act", desc := "(II)I" } : Jvm.MethodName)) ∈ lw_all := lw_g (lw_at lw_m3 81 rfl) rfl
theorem q624 : (Jvm.Cond.codeWith ({ cls := "TurnpikeTrust", name := "act", desc := "(II)I" } : Jvm.MethodName) prog_1_method_7_code (4 : Nat) (Option.some Jvm.ClassFile.FieldType.int) [((61 : Nat), (94 : Nat), (95 : Nat), (101 : Nat))]) ∈ lw_all := lw_g (lw_at lw_m3 82 rfl) rfl
theorem q625 : (Jvm.Cond.classLink "TurnpikeTrust" (101 : Nat) "TurnpikeTrust$Wrong") ∈ lw_all := lw_g (lw_at lw_m3 83 rfl) rfl
theorem q626 : (Jvm.Cond.methodLink "TurnpikeTrust" (77 : Nat) ({ cls := "TurnpikeTrust", name := "need", desc := "(Z)V" } : Jvm.MethodName)) ∈ lw_all := lw_g (lw_at lw_m3 84 rfl) rfl
theorem q627 : (Jvm.Cond.static ({ cls := "TurnpikeTrust", name := "need", desc := "(Z)V" } : Jvm.MethodName)) ∈ lw_all := lw_g (lw_at lw_m3 85 rfl) rfl
theorem q628 : (Jvm.Cond.code ({ cls := "TurnpikeTrust", name := "need", desc := "(Z)V" } : Jvm.MethodName) prog_1_method_2_code (1 : Nat) (Option.none : Option Jvm.ClassFile.FieldType)) ∈ lw_all := lw_g (lw_at lw_m3 86 rfl) rfl
theorem q629 : (Jvm.Cond.classLink "TurnpikeTrust" (62 : Nat) "java/lang/IllegalArgumentException") ∈ lw_all := lw_g (lw_at lw_m3 87 rfl) rfl
theorem q630 : (Jvm.Cond.methodLink "TurnpikeTrust" (64 : Nat) ({ cls := "java/lang/IllegalArgumentException", name := "<init>", desc := "()V" } : Jvm.MethodName)) ∈ lw_all := lw_g (lw_at lw_m3 88 rfl) rfl
theorem q640 : (Jvm.Cond.methodLink "TurnpikeTrust" (85 : Nat) ({ cls := "TurnpikeTrust", name := "right", desc := "(Z)V" } : Jvm.MethodName)) ∈ lw_all := lw_g (lw_at lw_m3 98 rfl) rfl
theorem q641 : (Jvm.Cond.static ({ cls := "TurnpikeTrust", name := "right", desc := "(Z)V" } : Jvm.MethodName)) ∈ lw_all := lw_g (lw_at lw_m3 99 rfl) rfl
theorem q642 : (Jvm.Cond.code ({ cls := "TurnpikeTrust", name := "right", desc := "(Z)V" } : Jvm.MethodName) prog_1_method_3_code (1 : Nat) (Option.none : Option Jvm.ClassFile.FieldType)) ∈ lw_all := lw_g (lw_at lw_m3 100 rfl) rfl
theorem q643 : (Jvm.Cond.classLink "TurnpikeTrust" (65 : Nat) "java/lang/IllegalStateException") ∈ lw_all := lw_g (lw_at lw_m3 101 rfl) rfl
theorem q652 : (Jvm.Cond.methodLink "TurnpikeTrust" (67 : Nat) ({ cls := "java/lang/IllegalStateException", name := "<init>", desc := "()V" } : Jvm.MethodName)) ∈ lw_all := lw_g (lw_at lw_m3 110 rfl) rfl
theorem q658 : (Jvm.Cond.classLink "TurnpikeTrust" (88 : Nat) "TurnpikeTrust$Reader") ∈ lw_all := lw_g (lw_at lw_m3 116 rfl) rfl
theorem q660 : (Jvm.Cond.methodLink "TurnpikeTrust" (90 : Nat) ({ cls := "TurnpikeTrust$Reader", name := "<init>", desc := "([BI)V" } : Jvm.MethodName)) ∈ lw_all := lw_g (lw_at lw_m3 118 rfl) rfl
theorem q752 : (Jvm.Cond.methodLink "TurnpikeTrust" (93 : Nat) ({ cls := "TurnpikeTrust$Reader", name := "act", desc := "(I)LTurnpikeTrust$Act;" } : Jvm.MethodName)) ∈ lw_all := lw_g (lw_at lw_m3 210 rfl) rfl
theorem q765 : (Jvm.Cond.fieldLinkNest "TurnpikeTrust" (172 : Nat) "TurnpikeTrust$Act" "from" "I" "TurnpikeTrust") ∈ lw_tbl := lw_at lw_m3 223 rfl
theorem q812 : (Jvm.Cond.fieldLinkNest "TurnpikeTrust" (106 : Nat) "TurnpikeTrust$Wrong" "kind" "I" "TurnpikeTrust") ∈ lw_tbl := lw_at lw_m4 30 rfl
theorem q814 : (Jvm.Cond.fieldLinkNest "TurnpikeTrust" (103 : Nat) "TurnpikeTrust$Wrong" "place" "I" "TurnpikeTrust") ∈ lw_tbl := lw_at lw_m4 32 rfl
theorem q1148 : (Jvm.Cond.selects "TurnpikeTrust" ({ cls := "java/lang/Object", name := "getClass", desc := "()Ljava/lang/Class;" } : Jvm.MethodName) ({ cls := "java/lang/Object", name := "getClass", desc := "()Ljava/lang/Class;" } : Jvm.MethodName)) ∈ lw_all := lw_g (lw_at lw_m5 126 rfl) rfl
theorem q1194 : (Jvm.Cond.methodLink "TurnpikeTrust" (97 : Nat) ({ cls := "java/util/ArrayList", name := "add", desc := "(Ljava/lang/Object;)Z" } : Jvm.MethodName)) ∈ lw_all := lw_g (lw_at lw_m5 172 rfl) rfl
theorem q1199 : (Jvm.Cond.instanceMethod ({ cls := "TurnpikeTrust", name := "stretch", desc := "(I)I" } : Jvm.MethodName)) ∈ lw_all := lw_g (lw_at lw_m5 177 rfl) rfl
theorem q1200 : (Jvm.Cond.selects "TurnpikeTrust" ({ cls := "TurnpikeTrust", name := "stretch", desc := "(I)I" } : Jvm.MethodName) ({ cls := "TurnpikeTrust", name := "stretch", desc := "(I)I" } : Jvm.MethodName)) ∈ lw_all := lw_g (lw_at lw_m5 178 rfl) rfl
theorem q1201 : (Jvm.Cond.code ({ cls := "TurnpikeTrust", name := "stretch", desc := "(I)I" } : Jvm.MethodName) prog_1_method_9_code (2 : Nat) (Option.some Jvm.ClassFile.FieldType.int)) ∈ lw_all := lw_g (lw_at lw_m5 179 rfl) rfl
theorem q1202 : (Jvm.Cond.classLink "TurnpikeTrust" (109 : Nat) "TurnpikeTrust$Stretch") ∈ lw_all := lw_g (lw_at lw_m5 180 rfl) rfl
theorem q1204 : (Jvm.Cond.methodLink "TurnpikeTrust" (111 : Nat) ({ cls := "TurnpikeTrust$Stretch", name := "<init>", desc := "(I)V" } : Jvm.MethodName)) ∈ lw_all := lw_g (lw_at lw_m5 182 rfl) rfl
theorem q1209 : (Jvm.Cond.fieldLinkNest "TurnpikeTrust" (289 : Nat) "TurnpikeTrust$Stretch" "price" "I" "TurnpikeTrust") ∈ lw_tbl := lw_at lw_m5 187 rfl
theorem q1211 : (Jvm.Cond.fieldLinkNest "TurnpikeTrust" (214 : Nat) "TurnpikeTrust$Stretch" "wear" "J" "TurnpikeTrust") ∈ lw_tbl := lw_at lw_m5 189 rfl
theorem q1240 : (Jvm.Cond.instanceMethod ({ cls := "TurnpikeTrust", name := "gate", desc := "(I)I" } : Jvm.MethodName)) ∈ lw_all := lw_g (lw_at lw_m5 218 rfl) rfl
theorem q1241 : (Jvm.Cond.selects "TurnpikeTrust" ({ cls := "TurnpikeTrust", name := "gate", desc := "(I)I" } : Jvm.MethodName) ({ cls := "TurnpikeTrust", name := "gate", desc := "(I)I" } : Jvm.MethodName)) ∈ lw_all := lw_g (lw_at lw_m5 219 rfl) rfl
theorem q1242 : (Jvm.Cond.code ({ cls := "TurnpikeTrust", name := "gate", desc := "(I)I" } : Jvm.MethodName) prog_1_method_10_code (2 : Nat) (Option.some Jvm.ClassFile.FieldType.int)) ∈ lw_all := lw_g (lw_at lw_m5 220 rfl) rfl
theorem q1243 : (Jvm.Cond.methodLink "TurnpikeTrust" (112 : Nat) ({ cls := "TurnpikeTrust", name := "there", desc := "(II)V" } : Jvm.MethodName)) ∈ lw_all := lw_g (lw_at lw_m5 221 rfl) rfl
theorem q1244 : (Jvm.Cond.static ({ cls := "TurnpikeTrust", name := "there", desc := "(II)V" } : Jvm.MethodName)) ∈ lw_all := lw_g (lw_at lw_m5 222 rfl) rfl
theorem q1245 : (Jvm.Cond.code ({ cls := "TurnpikeTrust", name := "there", desc := "(II)V" } : Jvm.MethodName) prog_1_method_4_code (2 : Nat) (Option.none : Option Jvm.ClassFile.FieldType)) ∈ lw_all := lw_g (lw_at lw_m5 223 rfl) rfl
theorem q1246 : (Jvm.Cond.classLink "TurnpikeTrust" (68 : Nat) "java/lang/IndexOutOfBoundsException") ∈ lw_all := lw_g (lw_at lw_m5 224 rfl) rfl
theorem q1255 : (Jvm.Cond.methodLink "TurnpikeTrust" (70 : Nat) ({ cls := "java/lang/IndexOutOfBoundsException", name := "<init>", desc := "()V" } : Jvm.MethodName)) ∈ lw_all := lw_g (lw_at lw_m5 233 rfl) rfl
theorem q1261 : (Jvm.Cond.classLink "TurnpikeTrust" (116 : Nat) "TurnpikeTrust$Gate") ∈ lw_all := lw_g (lw_at lw_m5 239 rfl) rfl
theorem q1263 : (Jvm.Cond.methodLink "TurnpikeTrust" (118 : Nat) ({ cls := "TurnpikeTrust$Gate", name := "<init>", desc := "(II)V" } : Jvm.MethodName)) ∈ lw_all := lw_g (lw_at lw_m6 1 rfl) rfl
theorem q1270 : (Jvm.Cond.fieldLinkNest "TurnpikeTrust" (140 : Nat) "TurnpikeTrust$Gate" "number" "I" "TurnpikeTrust") ∈ lw_tbl := lw_at lw_m6 8 rfl
theorem q1272 : (Jvm.Cond.fieldLinkNest "TurnpikeTrust" (211 : Nat) "TurnpikeTrust$Gate" "stretch" "I" "TurnpikeTrust") ∈ lw_tbl := lw_at lw_m6 10 rfl
theorem q1274 : (Jvm.Cond.fieldLinkNest "TurnpikeTrust" (297 : Nat) "TurnpikeTrust$Gate" "bids" "Ljava/util/ArrayList;" "TurnpikeTrust") ∈ lw_tbl := lw_at lw_m6 12 rfl
theorem q1275 : (Jvm.Cond.fieldLinkNest "TurnpikeTrust" (190 : Nat) "TurnpikeTrust$Gate" "lease" "LTurnpikeTrust$Bid;" "TurnpikeTrust") ∈ lw_tbl := lw_at lw_m6 13 rfl
theorem q1276 : (Jvm.Cond.fieldLinkNest "TurnpikeTrust" (243 : Nat) "TurnpikeTrust$Gate" "due" "I" "TurnpikeTrust") ∈ lw_tbl := lw_at lw_m6 14 rfl
theorem q1277 : (Jvm.Cond.fieldLinkNest "TurnpikeTrust" (250 : Nat) "TurnpikeTrust$Gate" "left" "I" "TurnpikeTrust") ∈ lw_tbl := lw_at lw_m6 15 rfl
theorem q1278 : (Jvm.Cond.fieldLinkNest "TurnpikeTrust" (208 : Nat) "TurnpikeTrust$Gate" "passes" "I" "TurnpikeTrust") ∈ lw_tbl := lw_at lw_m6 16 rfl
theorem q1298 : (Jvm.Cond.instanceMethod ({ cls := "TurnpikeTrust", name := "traveller", desc := "(IIII)I" } : Jvm.MethodName)) ∈ lw_all := lw_g (lw_at lw_m6 36 rfl) rfl
theorem q1299 : (Jvm.Cond.selects "TurnpikeTrust" ({ cls := "TurnpikeTrust", name := "traveller", desc := "(IIII)I" } : Jvm.MethodName) ({ cls := "TurnpikeTrust", name := "traveller", desc := "(IIII)I" } : Jvm.MethodName)) ∈ lw_all := lw_g (lw_at lw_m6 37 rfl) rfl
theorem q1300 : (Jvm.Cond.code ({ cls := "TurnpikeTrust", name := "traveller", desc := "(IIII)I" } : Jvm.MethodName) prog_1_method_11_code (6 : Nat) (Option.some Jvm.ClassFile.FieldType.int)) ∈ lw_all := lw_g (lw_at lw_m6 38 rfl) rfl
theorem q1301 : (Jvm.Cond.classLink "TurnpikeTrust" (120 : Nat) "TurnpikeTrust$Wheeled") ∈ lw_all := lw_g (lw_at lw_m6 39 rfl) rfl
theorem q1303 : (Jvm.Cond.methodLink "TurnpikeTrust" (122 : Nat) ({ cls := "TurnpikeTrust$Wheeled", name := "<init>", desc := "(IIIII)V" } : Jvm.MethodName)) ∈ lw_all := lw_g (lw_at lw_m6 41 rfl) rfl
theorem q1325 : (Jvm.Cond.fieldLinkNest "TurnpikeTrust" (155 : Nat) "TurnpikeTrust$Traveller" "passed" "[I" "TurnpikeTrust") ∈ lw_tbl := lw_at lw_m6 63 rfl
theorem q1327 : (Jvm.Cond.fieldLinkNest "TurnpikeTrust" (131 : Nat) "TurnpikeTrust$Traveller" "paid" "[I" "TurnpikeTrust") ∈ lw_tbl := lw_at lw_m6 65 rfl
theorem q1344 : (Jvm.Cond.classLink "TurnpikeTrust" (125 : Nat) "TurnpikeTrust$Herd") ∈ lw_all := lw_g (lw_at lw_m6 82 rfl) rfl
theorem q1346 : (Jvm.Cond.methodLink "TurnpikeTrust" (127 : Nat) ({ cls := "TurnpikeTrust$Herd", name := "<init>", desc := "(IIIII)V" } : Jvm.MethodName)) ∈ lw_all := lw_g (lw_at lw_m6 84 rfl) rfl
theorem q1363 : (Jvm.Cond.classLink "TurnpikeTrust" (128 : Nat) "TurnpikeTrust$Walker") ∈ lw_all := lw_g (lw_at lw_m6 101 rfl) rfl
theorem q1365 : (Jvm.Cond.methodLink "TurnpikeTrust" (130 : Nat) ({ cls := "TurnpikeTrust$Walker", name := "<init>", desc := "(IIIII)V" } : Jvm.MethodName)) ∈ lw_all := lw_g (lw_at lw_m6 103 rfl) rfl
theorem q1378 : (Jvm.Cond.instanceMethod ({ cls := "TurnpikeTrust", name := "pass", desc := "(II)I" } : Jvm.MethodName)) ∈ lw_all := lw_g (lw_at lw_m6 116 rfl) rfl
theorem q1379 : (Jvm.Cond.selects "TurnpikeTrust" ({ cls := "TurnpikeTrust", name := "pass", desc := "(II)I" } : Jvm.MethodName) ({ cls := "TurnpikeTrust", name := "pass", desc := "(II)I" } : Jvm.MethodName)) ∈ lw_all := lw_g (lw_at lw_m6 117 rfl) rfl
theorem q1380 : (Jvm.Cond.code ({ cls := "TurnpikeTrust", name := "pass", desc := "(II)I" } : Jvm.MethodName) prog_1_method_14_code (7 : Nat) (Option.some Jvm.ClassFile.FieldType.int)) ∈ lw_all := lw_g (lw_at lw_m6 118 rfl) rfl
theorem q1381 : (Jvm.Cond.methodLink "TurnpikeTrust" (162 : Nat) ({ cls := "java/util/ArrayList", name := "get", desc := "(I)Ljava/lang/Object;" } : Jvm.MethodName)) ∈ lw_all := lw_g (lw_at lw_m6 119 rfl) rfl
theorem q1393 : (Jvm.Cond.classLink "TurnpikeTrust" (132 : Nat) "TurnpikeTrust$Traveller") ∈ lw_all := lw_g (lw_at lw_m6 131 rfl) rfl
theorem q1394 : (Jvm.Cond.methodLink "TurnpikeTrust" (175 : Nat) ({ cls := "TurnpikeTrust", name := "inForce", desc := "(I)I" } : Jvm.MethodName)) ∈ lw_all := lw_g (lw_at lw_m6 132 rfl) rfl
theorem q1395 : (Jvm.Cond.privateMethod ({ cls := "TurnpikeTrust", name := "inForce", desc := "(I)I" } : Jvm.MethodName)) ∈ lw_tbl := lw_at lw_m6 133 rfl
theorem q1396 : (Jvm.Cond.instanceMethod ({ cls := "TurnpikeTrust", name := "inForce", desc := "(I)I" } : Jvm.MethodName)) ∈ lw_all := lw_g (lw_at lw_m6 134 rfl) rfl
theorem q1397 : (Jvm.Cond.code ({ cls := "TurnpikeTrust", name := "inForce", desc := "(I)I" } : Jvm.MethodName) prog_1_method_13_code (4 : Nat) (Option.some Jvm.ClassFile.FieldType.int)) ∈ lw_all := lw_g (lw_at lw_m6 135 rfl) rfl
theorem q1398 : (Jvm.Cond.classLink "TurnpikeTrust" (166 : Nat) "TurnpikeTrust$Act") ∈ lw_all := lw_g (lw_at lw_m6 136 rfl) rfl
theorem q1399 : (Jvm.Cond.methodLink "TurnpikeTrust" (179 : Nat) ({ cls := "TurnpikeTrust", name := "reckon", desc := "(ILTurnpikeTrust$Traveller;LTurnpikeTrust$Gate;)V" } : Jvm.MethodName)) ∈ lw_all := lw_g (lw_at lw_m6 137 rfl) rfl
theorem q1400 : (Jvm.Cond.privateMethod ({ cls := "TurnpikeTrust", name := "reckon", desc := "(ILTurnpikeTrust$Traveller;LTurnpikeTrust$Gate;)V" } : Jvm.MethodName)) ∈ lw_tbl := lw_at lw_m6 138 rfl
theorem q1401 : (Jvm.Cond.instanceMethod ({ cls := "TurnpikeTrust", name := "reckon", desc := "(ILTurnpikeTrust$Traveller;LTurnpikeTrust$Gate;)V" } : Jvm.MethodName)) ∈ lw_all := lw_g (lw_at lw_m6 139 rfl) rfl
theorem q1402 : (Jvm.Cond.code ({ cls := "TurnpikeTrust", name := "reckon", desc := "(ILTurnpikeTrust$Traveller;LTurnpikeTrust$Gate;)V" } : Jvm.MethodName) prog_1_method_12_code (6 : Nat) (Option.none : Option Jvm.ClassFile.FieldType)) ∈ lw_all := lw_g (lw_at lw_m6 140 rfl) rfl
theorem q1403 : (Jvm.Cond.methodLink "TurnpikeTrust" (143 : Nat) ({ cls := "TurnpikeTrust$Reckoning", name := "begin", desc := "(ZZ)V" } : Jvm.MethodName)) ∈ lw_all := lw_g (lw_at lw_m6 141 rfl) rfl
theorem q1407 : (Jvm.Cond.methodLink "TurnpikeTrust" (168 : Nat) ({ cls := "TurnpikeTrust$Act", name := "asks", desc := "(LTurnpikeTrust$Reckoning;LTurnpikeTrust$Pass;)V" } : Jvm.MethodName)) ∈ lw_all := lw_g (lw_at lw_m6 145 rfl) rfl
theorem q1527 : (Jvm.Cond.classLink "TurnpikeTrust" (199 : Nat) "TurnpikeTrust$Farmer") ∈ lw_all := lw_g (lw_at lw_m7 25 rfl) rfl
theorem q1528 : (Jvm.Cond.methodLink "TurnpikeTrust" (204 : Nat) ({ cls := "TurnpikeTrust", name := "change", desc := "(IIJ)V" } : Jvm.MethodName)) ∈ lw_all := lw_g (lw_at lw_m7 26 rfl) rfl
theorem q1529 : (Jvm.Cond.privateMethod ({ cls := "TurnpikeTrust", name := "change", desc := "(IIJ)V" } : Jvm.MethodName)) ∈ lw_tbl := lw_at lw_m7 27 rfl
theorem q1530 : (Jvm.Cond.instanceMethod ({ cls := "TurnpikeTrust", name := "change", desc := "(IIJ)V" } : Jvm.MethodName)) ∈ lw_all := lw_g (lw_at lw_m7 28 rfl) rfl
theorem q1531 : (Jvm.Cond.code ({ cls := "TurnpikeTrust", name := "change", desc := "(IIJ)V" } : Jvm.MethodName) prog_1_method_18_code (6 : Nat) (Option.none : Option Jvm.ClassFile.FieldType)) ∈ lw_all := lw_g (lw_at lw_m7 29 rfl) rfl
theorem q1532 : (Jvm.Cond.methodLink "TurnpikeTrust" (225 : Nat) ({ cls := "java/lang/System", name := "arraycopy", desc := "(Ljava/lang/Object;ILjava/lang/Object;II)V" } : Jvm.MethodName)) ∈ lw_all := lw_g (lw_at lw_m7 30 rfl) rfl
theorem q1533 : (Jvm.Cond.methodLink "TurnpikeTrust" (217 : Nat) ({ cls := "TurnpikeTrust$Traveller", name := "wear", desc := "()I" } : Jvm.MethodName)) ∈ lw_all := lw_g (lw_at lw_m7 31 rfl) rfl
theorem q1553 : (Jvm.Cond.instanceMethod ({ cls := "TurnpikeTrust", name := "asked", desc := "(III)I" } : Jvm.MethodName)) ∈ lw_all := lw_g (lw_at lw_m7 51 rfl) rfl
theorem q1554 : (Jvm.Cond.selects "TurnpikeTrust" ({ cls := "TurnpikeTrust", name := "asked", desc := "(III)I" } : Jvm.MethodName) ({ cls := "TurnpikeTrust", name := "asked", desc := "(III)I" } : Jvm.MethodName)) ∈ lw_all := lw_g (lw_at lw_m7 52 rfl) rfl
theorem q1555 : (Jvm.Cond.code ({ cls := "TurnpikeTrust", name := "asked", desc := "(III)I" } : Jvm.MethodName) prog_1_method_16_code (4 : Nat) (Option.some Jvm.ClassFile.FieldType.int)) ∈ lw_all := lw_g (lw_at lw_m7 53 rfl) rfl
theorem q1560 : (Jvm.Cond.instanceMethod ({ cls := "TurnpikeTrust", name := "force", desc := "(I)I" } : Jvm.MethodName)) ∈ lw_all := lw_g (lw_at lw_m7 58 rfl) rfl
theorem q1561 : (Jvm.Cond.selects "TurnpikeTrust" ({ cls := "TurnpikeTrust", name := "force", desc := "(I)I" } : Jvm.MethodName) ({ cls := "TurnpikeTrust", name := "force", desc := "(I)I" } : Jvm.MethodName)) ∈ lw_all := lw_g (lw_at lw_m7 59 rfl) rfl
theorem q1562 : (Jvm.Cond.code ({ cls := "TurnpikeTrust", name := "force", desc := "(I)I" } : Jvm.MethodName) prog_1_method_17_code (2 : Nat) (Option.some Jvm.ClassFile.FieldType.int)) ∈ lw_all := lw_g (lw_at lw_m7 60 rfl) rfl
theorem q1567 : (Jvm.Cond.instanceMethod ({ cls := "TurnpikeTrust", name := "wait", desc := "(I)I" } : Jvm.MethodName)) ∈ lw_all := lw_g (lw_at lw_m7 65 rfl) rfl
theorem q1568 : (Jvm.Cond.selects "TurnpikeTrust" ({ cls := "TurnpikeTrust", name := "wait", desc := "(I)I" } : Jvm.MethodName) ({ cls := "TurnpikeTrust", name := "wait", desc := "(I)I" } : Jvm.MethodName)) ∈ lw_all := lw_g (lw_at lw_m7 66 rfl) rfl
theorem q1569 : (Jvm.Cond.code ({ cls := "TurnpikeTrust", name := "wait", desc := "(I)I" } : Jvm.MethodName) prog_1_method_19_code (4 : Nat) (Option.some Jvm.ClassFile.FieldType.int)) ∈ lw_all := lw_g (lw_at lw_m7 67 rfl) rfl
theorem q1570 : (Jvm.Cond.methodLink "TurnpikeTrust" (234 : Nat) ({ cls := "java/lang/Math", name := "max", desc := "(II)I" } : Jvm.MethodName)) ∈ lw_all := lw_g (lw_at lw_m7 68 rfl) rfl
theorem q1571 : (Jvm.Cond.methodLink "TurnpikeTrust" (240 : Nat) ({ cls := "TurnpikeTrust", name := "interest", desc := "()V" } : Jvm.MethodName)) ∈ lw_all := lw_g (lw_at lw_m7 69 rfl) rfl
theorem q1572 : (Jvm.Cond.privateMethod ({ cls := "TurnpikeTrust", name := "interest", desc := "()V" } : Jvm.MethodName)) ∈ lw_tbl := lw_at lw_m7 70 rfl
theorem q1573 : (Jvm.Cond.instanceMethod ({ cls := "TurnpikeTrust", name := "interest", desc := "()V" } : Jvm.MethodName)) ∈ lw_all := lw_g (lw_at lw_m7 71 rfl) rfl
theorem q1574 : (Jvm.Cond.code ({ cls := "TurnpikeTrust", name := "interest", desc := "()V" } : Jvm.MethodName) prog_1_method_22_code (5 : Nat) (Option.none : Option Jvm.ClassFile.FieldType)) ∈ lw_all := lw_g (lw_at lw_m7 72 rfl) rfl
theorem q1575 : (Jvm.Cond.classLink "TurnpikeTrust" (263 : Nat) "TurnpikeTrust$Loan") ∈ lw_all := lw_g (lw_at lw_m7 73 rfl) rfl
theorem q1576 : (Jvm.Cond.constantLong "TurnpikeTrust" (273 : Nat) (1000 : Int64)) ∈ lw_all := lw_g (lw_at lw_m7 74 rfl) rfl
theorem q1577 : (Jvm.Cond.methodLink "TurnpikeTrust" (278 : Nat) ({ cls := "TurnpikeTrust", name := "gets", desc := "(IJ)V" } : Jvm.MethodName)) ∈ lw_all := lw_g (lw_at lw_m7 75 rfl) rfl
theorem q1578 : (Jvm.Cond.privateMethod ({ cls := "TurnpikeTrust", name := "gets", desc := "(IJ)V" } : Jvm.MethodName)) ∈ lw_tbl := lw_at lw_m7 76 rfl
theorem q1579 : (Jvm.Cond.instanceMethod ({ cls := "TurnpikeTrust", name := "gets", desc := "(IJ)V" } : Jvm.MethodName)) ∈ lw_all := lw_g (lw_at lw_m7 77 rfl) rfl
theorem q1580 : (Jvm.Cond.code ({ cls := "TurnpikeTrust", name := "gets", desc := "(IJ)V" } : Jvm.MethodName) prog_1_method_23_code (4 : Nat) (Option.none : Option Jvm.ClassFile.FieldType)) ∈ lw_all := lw_g (lw_at lw_m7 78 rfl) rfl
theorem q1581 : (Jvm.Cond.methodLink "TurnpikeTrust" (282 : Nat) ({ cls := "TurnpikeTrust", name := "parts", desc := "(IJ)V" } : Jvm.MethodName)) ∈ lw_all := lw_g (lw_at lw_m7 79 rfl) rfl
theorem q1582 : (Jvm.Cond.privateMethod ({ cls := "TurnpikeTrust", name := "parts", desc := "(IJ)V" } : Jvm.MethodName)) ∈ lw_tbl := lw_at lw_m7 80 rfl
theorem q1583 : (Jvm.Cond.instanceMethod ({ cls := "TurnpikeTrust", name := "parts", desc := "(IJ)V" } : Jvm.MethodName)) ∈ lw_all := lw_g (lw_at lw_m7 81 rfl) rfl
theorem q1584 : (Jvm.Cond.code ({ cls := "TurnpikeTrust", name := "parts", desc := "(IJ)V" } : Jvm.MethodName) prog_1_method_24_code (10 : Nat) (Option.none : Option Jvm.ClassFile.FieldType)) ∈ lw_all := lw_g (lw_at lw_m7 82 rfl) rfl
theorem q1585 : (Jvm.Cond.methodLink "TurnpikeTrust" (246 : Nat) ({ cls := "TurnpikeTrust", name := "comes", desc := "(LTurnpikeTrust$Gate;)V" } : Jvm.MethodName)) ∈ lw_all := lw_g (lw_at lw_m7 83 rfl) rfl
theorem q1586 : (Jvm.Cond.privateMethod ({ cls := "TurnpikeTrust", name := "comes", desc := "(LTurnpikeTrust$Gate;)V" } : Jvm.MethodName)) ∈ lw_tbl := lw_at lw_m7 84 rfl
theorem q1587 : (Jvm.Cond.instanceMethod ({ cls := "TurnpikeTrust", name := "comes", desc := "(LTurnpikeTrust$Gate;)V" } : Jvm.MethodName)) ∈ lw_all := lw_g (lw_at lw_m7 85 rfl) rfl
theorem q1588 : (Jvm.Cond.code ({ cls := "TurnpikeTrust", name := "comes", desc := "(LTurnpikeTrust$Gate;)V" } : Jvm.MethodName) prog_1_method_20_code (3 : Nat) (Option.none : Option Jvm.ClassFile.FieldType)) ∈ lw_all := lw_g (lw_at lw_m7 86 rfl) rfl
theorem q1589 : (Jvm.Cond.methodLink "TurnpikeTrust" (259 : Nat) ({ cls := "TurnpikeTrust", name := "pays", desc := "(LTurnpikeTrust$Gate;LTurnpikeTrust$Farmer;)V" } : Jvm.MethodName)) ∈ lw_all := lw_g (lw_at lw_m7 87 rfl) rfl
theorem q1590 : (Jvm.Cond.privateMethod ({ cls := "TurnpikeTrust", name := "pays", desc := "(LTurnpikeTrust$Gate;LTurnpikeTrust$Farmer;)V" } : Jvm.MethodName)) ∈ lw_tbl := lw_at lw_m7 88 rfl
theorem q1591 : (Jvm.Cond.instanceMethod ({ cls := "TurnpikeTrust", name := "pays", desc := "(LTurnpikeTrust$Gate;LTurnpikeTrust$Farmer;)V" } : Jvm.MethodName)) ∈ lw_all := lw_g (lw_at lw_m7 89 rfl) rfl
theorem q1592 : (Jvm.Cond.code ({ cls := "TurnpikeTrust", name := "pays", desc := "(LTurnpikeTrust$Gate;LTurnpikeTrust$Farmer;)V" } : Jvm.MethodName) prog_1_method_21_code (3 : Nat) (Option.none : Option Jvm.ClassFile.FieldType)) ∈ lw_all := lw_g (lw_at lw_m7 90 rfl) rfl
theorem q1597 : (Jvm.Cond.instanceMethod ({ cls := "TurnpikeTrust", name := "rain", desc := "(I)V" } : Jvm.MethodName)) ∈ lw_all := lw_g (lw_at lw_m7 95 rfl) rfl
theorem q1598 : (Jvm.Cond.selects "TurnpikeTrust" ({ cls := "TurnpikeTrust", name := "rain", desc := "(I)V" } : Jvm.MethodName) ({ cls := "TurnpikeTrust", name := "rain", desc := "(I)V" } : Jvm.MethodName)) ∈ lw_all := lw_g (lw_at lw_m7 96 rfl) rfl
theorem q1599 : (Jvm.Cond.code ({ cls := "TurnpikeTrust", name := "rain", desc := "(I)V" } : Jvm.MethodName) prog_1_method_25_code (2 : Nat) (Option.none : Option Jvm.ClassFile.FieldType)) ∈ lw_all := lw_g (lw_at lw_m7 97 rfl) rfl
theorem q1604 : (Jvm.Cond.instanceMethod ({ cls := "TurnpikeTrust", name := "mend", desc := "(I)I" } : Jvm.MethodName)) ∈ lw_all := lw_g (lw_at lw_m7 102 rfl) rfl
theorem q1605 : (Jvm.Cond.selects "TurnpikeTrust" ({ cls := "TurnpikeTrust", name := "mend", desc := "(I)I" } : Jvm.MethodName) ({ cls := "TurnpikeTrust", name := "mend", desc := "(I)I" } : Jvm.MethodName)) ∈ lw_all := lw_g (lw_at lw_m7 103 rfl) rfl
theorem q1606 : (Jvm.Cond.code ({ cls := "TurnpikeTrust", name := "mend", desc := "(I)I" } : Jvm.MethodName) prog_1_method_26_code (6 : Nat) (Option.some Jvm.ClassFile.FieldType.int)) ∈ lw_all := lw_g (lw_at lw_m7 104 rfl) rfl
theorem q1607 : (Jvm.Cond.methodLink "TurnpikeTrust" (285 : Nat) ({ cls := "TurnpikeTrust$Stretch", name := "taken", desc := "()J" } : Jvm.MethodName)) ∈ lw_all := lw_g (lw_at lw_m7 105 rfl) rfl
theorem q1617 : (Jvm.Cond.instanceMethod ({ cls := "TurnpikeTrust", name := "farmer", desc := "(I)I" } : Jvm.MethodName)) ∈ lw_all := lw_g (lw_at lw_m7 115 rfl) rfl
theorem q1618 : (Jvm.Cond.selects "TurnpikeTrust" ({ cls := "TurnpikeTrust", name := "farmer", desc := "(I)I" } : Jvm.MethodName) ({ cls := "TurnpikeTrust", name := "farmer", desc := "(I)I" } : Jvm.MethodName)) ∈ lw_all := lw_g (lw_at lw_m7 116 rfl) rfl
theorem q1619 : (Jvm.Cond.code ({ cls := "TurnpikeTrust", name := "farmer", desc := "(I)I" } : Jvm.MethodName) prog_1_method_27_code (2 : Nat) (Option.some Jvm.ClassFile.FieldType.int)) ∈ lw_all := lw_g (lw_at lw_m7 117 rfl) rfl
theorem q1620 : (Jvm.Cond.constant "TurnpikeTrust" (292 : Nat) (1000000000 : Int32)) ∈ lw_all := lw_g (lw_at lw_m7 118 rfl) rfl
theorem q1622 : (Jvm.Cond.methodLink "TurnpikeTrust" (293 : Nat) ({ cls := "TurnpikeTrust$Farmer", name := "<init>", desc := "(J)V" } : Jvm.MethodName)) ∈ lw_all := lw_g (lw_at lw_m7 120 rfl) rfl
theorem q1627 : (Jvm.Cond.fieldLinkNest "TurnpikeTrust" (201 : Nat) "TurnpikeTrust$Farmer" "money" "J" "TurnpikeTrust") ∈ lw_tbl := lw_at lw_m7 125 rfl
theorem q1635 : (Jvm.Cond.instanceMethod ({ cls := "TurnpikeTrust", name := "bid", desc := "(IIII)I" } : Jvm.MethodName)) ∈ lw_all := lw_g (lw_at lw_m7 133 rfl) rfl
theorem q1636 : (Jvm.Cond.selects "TurnpikeTrust" ({ cls := "TurnpikeTrust", name := "bid", desc := "(IIII)I" } : Jvm.MethodName) ({ cls := "TurnpikeTrust", name := "bid", desc := "(IIII)I" } : Jvm.MethodName)) ∈ lw_all := lw_g (lw_at lw_m7 134 rfl) rfl
theorem q1637 : (Jvm.Cond.code ({ cls := "TurnpikeTrust", name := "bid", desc := "(IIII)I" } : Jvm.MethodName) prog_1_method_28_code (6 : Nat) (Option.some Jvm.ClassFile.FieldType.int)) ∈ lw_all := lw_g (lw_at lw_m7 135 rfl) rfl
theorem q1638 : (Jvm.Cond.constant "TurnpikeTrust" (296 : Nat) (10000000 : Int32)) ∈ lw_all := lw_g (lw_at lw_m7 136 rfl) rfl
theorem q1639 : (Jvm.Cond.classLink "TurnpikeTrust" (195 : Nat) "TurnpikeTrust$Bid") ∈ lw_all := lw_g (lw_at lw_m7 137 rfl) rfl
theorem q1641 : (Jvm.Cond.methodLink "TurnpikeTrust" (300 : Nat) ({ cls := "TurnpikeTrust$Bid", name := "<init>", desc := "(III)V" } : Jvm.MethodName)) ∈ lw_all := lw_g (lw_at lw_m7 139 rfl) rfl
theorem q1646 : (Jvm.Cond.fieldLinkNest "TurnpikeTrust" (194 : Nat) "TurnpikeTrust$Bid" "farmer" "I" "TurnpikeTrust") ∈ lw_tbl := lw_at lw_m7 144 rfl
theorem q1648 : (Jvm.Cond.fieldLinkNest "TurnpikeTrust" (256 : Nat) "TurnpikeTrust$Bid" "rent" "I" "TurnpikeTrust") ∈ lw_tbl := lw_at lw_m7 146 rfl
theorem q1650 : (Jvm.Cond.fieldLinkNest "TurnpikeTrust" (253 : Nat) "TurnpikeTrust$Bid" "surety" "I" "TurnpikeTrust") ∈ lw_tbl := lw_at lw_m7 148 rfl
theorem q1662 : (Jvm.Cond.instanceMethod ({ cls := "TurnpikeTrust", name := "let", desc := "(II)I" } : Jvm.MethodName)) ∈ lw_all := lw_g (lw_at lw_m7 160 rfl) rfl
theorem q1663 : (Jvm.Cond.selects "TurnpikeTrust" ({ cls := "TurnpikeTrust", name := "let", desc := "(II)I" } : Jvm.MethodName) ({ cls := "TurnpikeTrust", name := "let", desc := "(II)I" } : Jvm.MethodName)) ∈ lw_all := lw_g (lw_at lw_m7 161 rfl) rfl
theorem q1664 : (Jvm.Cond.code ({ cls := "TurnpikeTrust", name := "let", desc := "(II)I" } : Jvm.MethodName) prog_1_method_29_code (8 : Nat) (Option.some Jvm.ClassFile.FieldType.int)) ∈ lw_all := lw_g (lw_at lw_m7 162 rfl) rfl
theorem q1665 : (Jvm.Cond.methodLink "TurnpikeTrust" (303 : Nat) ({ cls := "java/util/ArrayList", name := "clear", desc := "()V" } : Jvm.MethodName)) ∈ lw_all := lw_g (lw_at lw_m7 163 rfl) rfl
theorem q1673 : (Jvm.Cond.instanceMethod ({ cls := "TurnpikeTrust", name := "gateTold", desc := "(II)I" } : Jvm.MethodName)) ∈ lw_all := lw_g (lw_at lw_m7 171 rfl) rfl
theorem q1674 : (Jvm.Cond.selects "TurnpikeTrust" ({ cls := "TurnpikeTrust", name := "gateTold", desc := "(II)I" } : Jvm.MethodName) ({ cls := "TurnpikeTrust", name := "gateTold", desc := "(II)I" } : Jvm.MethodName)) ∈ lw_all := lw_g (lw_at lw_m7 172 rfl) rfl
theorem q1675 : (Jvm.Cond.code ({ cls := "TurnpikeTrust", name := "gateTold", desc := "(II)I" } : Jvm.MethodName) prog_1_method_30_code (5 : Nat) (Option.some Jvm.ClassFile.FieldType.int)) ∈ lw_all := lw_g (lw_at lw_m7 173 rfl) rfl
theorem q1680 : (Jvm.Cond.instanceMethod ({ cls := "TurnpikeTrust", name := "borrow", desc := "(III)I" } : Jvm.MethodName)) ∈ lw_all := lw_g (lw_at lw_m7 178 rfl) rfl
theorem q1681 : (Jvm.Cond.selects "TurnpikeTrust" ({ cls := "TurnpikeTrust", name := "borrow", desc := "(III)I" } : Jvm.MethodName) ({ cls := "TurnpikeTrust", name := "borrow", desc := "(III)I" } : Jvm.MethodName)) ∈ lw_all := lw_g (lw_at lw_m7 179 rfl) rfl
theorem q1682 : (Jvm.Cond.code ({ cls := "TurnpikeTrust", name := "borrow", desc := "(III)I" } : Jvm.MethodName) prog_1_method_31_code (4 : Nat) (Option.some Jvm.ClassFile.FieldType.int)) ∈ lw_all := lw_g (lw_at lw_m7 180 rfl) rfl
theorem q1684 : (Jvm.Cond.methodLink "TurnpikeTrust" (306 : Nat) ({ cls := "TurnpikeTrust$Loan", name := "<init>", desc := "(JII)V" } : Jvm.MethodName)) ∈ lw_all := lw_g (lw_at lw_m7 182 rfl) rfl
theorem q1689 : (Jvm.Cond.fieldLinkNest "TurnpikeTrust" (270 : Nat) "TurnpikeTrust$Loan" "rate" "I" "TurnpikeTrust") ∈ lw_tbl := lw_at lw_m7 187 rfl
theorem q1691 : (Jvm.Cond.fieldLinkNest "TurnpikeTrust" (275 : Nat) "TurnpikeTrust$Loan" "rank" "I" "TurnpikeTrust") ∈ lw_tbl := lw_at lw_m7 189 rfl
theorem q1693 : (Jvm.Cond.fieldLinkNest "TurnpikeTrust" (267 : Nat) "TurnpikeTrust$Loan" "sum" "J" "TurnpikeTrust") ∈ lw_tbl := lw_at lw_m7 191 rfl
theorem q1694 : (Jvm.Cond.fieldLinkNest "TurnpikeTrust" (265 : Nat) "TurnpikeTrust$Loan" "due" "J" "TurnpikeTrust") ∈ lw_tbl := lw_at lw_m7 192 rfl
theorem q1708 : (Jvm.Cond.instanceMethod ({ cls := "TurnpikeTrust", name := "repay", desc := "(II)I" } : Jvm.MethodName)) ∈ lw_all := lw_g (lw_at lw_m7 206 rfl) rfl
theorem q1709 : (Jvm.Cond.selects "TurnpikeTrust" ({ cls := "TurnpikeTrust", name := "repay", desc := "(II)I" } : Jvm.MethodName) ({ cls := "TurnpikeTrust", name := "repay", desc := "(II)I" } : Jvm.MethodName)) ∈ lw_all := lw_g (lw_at lw_m7 207 rfl) rfl
theorem q1710 : (Jvm.Cond.code ({ cls := "TurnpikeTrust", name := "repay", desc := "(II)I" } : Jvm.MethodName) prog_1_method_32_code (4 : Nat) (Option.some Jvm.ClassFile.FieldType.int)) ∈ lw_all := lw_g (lw_at lw_m7 208 rfl) rfl
theorem q1715 : (Jvm.Cond.instanceMethod ({ cls := "TurnpikeTrust", name := "loan", desc := "(II)J" } : Jvm.MethodName)) ∈ lw_all := lw_g (lw_at lw_m7 213 rfl) rfl
theorem q1716 : (Jvm.Cond.selects "TurnpikeTrust" ({ cls := "TurnpikeTrust", name := "loan", desc := "(II)J" } : Jvm.MethodName) ({ cls := "TurnpikeTrust", name := "loan", desc := "(II)J" } : Jvm.MethodName)) ∈ lw_all := lw_g (lw_at lw_m7 214 rfl) rfl
theorem q1717 : (Jvm.Cond.code ({ cls := "TurnpikeTrust", name := "loan", desc := "(II)J" } : Jvm.MethodName) prog_1_method_33_code (4 : Nat) (Option.some Jvm.ClassFile.FieldType.long)) ∈ lw_all := lw_g (lw_at lw_m7 215 rfl) rfl
theorem q1722 : (Jvm.Cond.instanceMethod ({ cls := "TurnpikeTrust", name := "money", desc := "(I)J" } : Jvm.MethodName)) ∈ lw_all := lw_g (lw_at lw_m7 220 rfl) rfl
theorem q1723 : (Jvm.Cond.selects "TurnpikeTrust" ({ cls := "TurnpikeTrust", name := "money", desc := "(I)J" } : Jvm.MethodName) ({ cls := "TurnpikeTrust", name := "money", desc := "(I)J" } : Jvm.MethodName)) ∈ lw_all := lw_g (lw_at lw_m7 221 rfl) rfl
theorem q1724 : (Jvm.Cond.code ({ cls := "TurnpikeTrust", name := "money", desc := "(I)J" } : Jvm.MethodName) prog_1_method_34_code (2 : Nat) (Option.some Jvm.ClassFile.FieldType.long)) ∈ lw_all := lw_g (lw_at lw_m7 222 rfl) rfl
theorem q1729 : (Jvm.Cond.instanceMethod ({ cls := "TurnpikeTrust", name := "wear", desc := "(I)J" } : Jvm.MethodName)) ∈ lw_all := lw_g (lw_at lw_m7 227 rfl) rfl
theorem q1730 : (Jvm.Cond.selects "TurnpikeTrust" ({ cls := "TurnpikeTrust", name := "wear", desc := "(I)J" } : Jvm.MethodName) ({ cls := "TurnpikeTrust", name := "wear", desc := "(I)J" } : Jvm.MethodName)) ∈ lw_all := lw_g (lw_at lw_m7 228 rfl) rfl
theorem q1731 : (Jvm.Cond.code ({ cls := "TurnpikeTrust", name := "wear", desc := "(I)J" } : Jvm.MethodName) prog_1_method_35_code (2 : Nat) (Option.some Jvm.ClassFile.FieldType.long)) ∈ lw_all := lw_g (lw_at lw_m7 229 rfl) rfl
theorem q1736 : (Jvm.Cond.instanceMethod ({ cls := "TurnpikeTrust", name := "box", desc := "(I)J" } : Jvm.MethodName)) ∈ lw_all := lw_g (lw_at lw_m7 234 rfl) rfl
theorem q1737 : (Jvm.Cond.selects "TurnpikeTrust" ({ cls := "TurnpikeTrust", name := "box", desc := "(I)J" } : Jvm.MethodName) ({ cls := "TurnpikeTrust", name := "box", desc := "(I)J" } : Jvm.MethodName)) ∈ lw_all := lw_g (lw_at lw_m7 235 rfl) rfl
theorem q1738 : (Jvm.Cond.code ({ cls := "TurnpikeTrust", name := "box", desc := "(I)J" } : Jvm.MethodName) prog_1_method_36_code (5 : Nat) (Option.some Jvm.ClassFile.FieldType.long)) ∈ lw_all := lw_g (lw_at lw_m7 236 rfl) rfl
theorem q1743 : (Jvm.Cond.instanceMethod ({ cls := "TurnpikeTrust", name := "journal", desc := "(II)J" } : Jvm.MethodName)) ∈ lw_all := lw_g (lw_at lw_m8 1 rfl) rfl
theorem q1744 : (Jvm.Cond.selects "TurnpikeTrust" ({ cls := "TurnpikeTrust", name := "journal", desc := "(II)J" } : Jvm.MethodName) ({ cls := "TurnpikeTrust", name := "journal", desc := "(II)J" } : Jvm.MethodName)) ∈ lw_all := lw_g (lw_at lw_m8 2 rfl) rfl
theorem q1745 : (Jvm.Cond.code ({ cls := "TurnpikeTrust", name := "journal", desc := "(II)J" } : Jvm.MethodName) prog_1_method_37_code (3 : Nat) (Option.some Jvm.ClassFile.FieldType.long)) ∈ lw_all := lw_g (lw_at lw_m8 3 rfl) rfl
theorem q2253 : (Jvm.Cond.castable "TurnpikeTrust" "java/lang/Object") ∈ lw_tbl := lw_at lw_m10 31 rfl
theorem in_X1 : ∀ w ∈ wsX10, w ∈ lw_all := lw_in wsX10 [557, 559, 561, 563, 565, 567, 569, 571, 573, 575, 577, 579, 581, 583, 585, 587, 589] (by decide +kernel) (by decide +kernel)
