/-! TurnpikeTrustModel -/
set_option maxRecDepth 100000
def RX4 : String := "TurnpikeTrustModel"
def TX4 : u_T := fun k => match k with
  | 0 => ("TurnpikeTrustModel", "thrown", "I", false)
  | 1 => ("TurnpikeTrustModel", "tape", "[B", true)
  | 2 => ("TurnpikeTrustModel", "taped", "I", false)
  | 3 => ("TurnpikeTrustModel", "size", "I", false)
  | 4 => ("TurnpikeTrustModel", "at", "I", false)
  | 5 => ("TurnpikeTrustModel", "fault", "I", false)
  | 6 => ("TurnpikeTrustModel", "place", "I", false)
  | 7 => ("TurnpikeTrustModel", "open", "I", false)
  | 8 => ("TurnpikeTrustModel", "clauses", "[I", true)
  | 9 => ("TurnpikeTrustModel", "since", "[I", true)
  | 10 => ("TurnpikeTrustModel", "sort", "[I", true)
  | 11 => ("TurnpikeTrustModel", "first", "[I", true)
  | 12 => ("TurnpikeTrustModel", "second", "[I", true)
  | 13 => ("TurnpikeTrustModel", "codeFrom", "[I", true)
  | 14 => ("TurnpikeTrustModel", "codeTo", "[I", true)
  | 15 => ("TurnpikeTrustModel", "code", "[I", false)
  | 16 => ("TurnpikeTrustModel", "codeNumber", "[I", false)
  | 17 => ("TurnpikeTrustModel", "codes", "I", false)
  | 18 => ("TurnpikeTrustModel", "acts", "I", false)
  | 19 => ("TurnpikeTrustModel", "kinds", "[I", true)
  | 20 => ("TurnpikeTrustModel", "wheels", "[I", true)
  | 21 => ("TurnpikeTrustModel", "beasts", "[I", true)
  | 22 => ("TurnpikeTrustModel", "bits", "[I", true)
  | 23 => ("TurnpikeTrustModel", "passedOn", "[I", true)
  | 24 => ("TurnpikeTrustModel", "paidOn", "[I", true)
  | 25 => ("TurnpikeTrustModel", "travellers", "I", false)
  | 26 => ("TurnpikeTrustModel", "prices", "[I", true)
  | 27 => ("TurnpikeTrustModel", "wears", "[J", true)
  | 28 => ("TurnpikeTrustModel", "stretches", "I", false)
  | 29 => ("TurnpikeTrustModel", "onStretch", "[I", true)
  | 30 => ("TurnpikeTrustModel", "passes", "[I", true)
  | 31 => ("TurnpikeTrustModel", "gates", "I", false)
  | 32 => ("TurnpikeTrustModel", "today", "I", false)
  | 33 => ("TurnpikeTrustModel", "rains", "I", false)
  | 34 => ("TurnpikeTrustModel", "pile", "[Z", true)
  | 35 => ("TurnpikeTrustModel", "by", "I", false)
  | 36 => ("TurnpikeTrustModel", "keptTimes", "[I", true)
  | 37 => ("TurnpikeTrustModel", "lastBy", "I", false)
  | 38 => ("TurnpikeTrustModel", "lineDay", "[I", false)
  | 39 => ("TurnpikeTrustModel", "lineKind", "[I", false)
  | 40 => ("TurnpikeTrustModel", "lineWho", "[I", false)
  | 41 => ("TurnpikeTrustModel", "lineSum", "[I", false)
  | 42 => ("TurnpikeTrustModel", "lines", "I", false)
  | 43 => ("TurnpikeTrustModel", "box", "J", false)
  | 44 => ("TurnpikeTrustModel", "money", "[J", true)
  | 45 => ("TurnpikeTrustModel", "farmers", "I", false)
  | 46 => ("TurnpikeTrustModel", "bids", "[I", true)
  | 47 => ("TurnpikeTrustModel", "bidFarmer", "[I", true)
  | 48 => ("TurnpikeTrustModel", "bidRent", "[I", true)
  | 49 => ("TurnpikeTrustModel", "bidSurety", "[I", true)
  | 50 => ("TurnpikeTrustModel", "leased", "[I", true)
  | 51 => ("TurnpikeTrustModel", "rent", "[I", true)
  | 52 => ("TurnpikeTrustModel", "surety", "[I", true)
  | 53 => ("TurnpikeTrustModel", "due", "[I", true)
  | 54 => ("TurnpikeTrustModel", "left", "[I", true)
  | 55 => ("TurnpikeTrustModel", "sums", "[I", true)
  | 56 => ("TurnpikeTrustModel", "rates", "[I", true)
  | 57 => ("TurnpikeTrustModel", "ranks", "[I", true)
  | 58 => ("TurnpikeTrustModel", "dues", "[J", true)
  | 59 => ("TurnpikeTrustModel", "gets", "[J", true)
  | 60 => ("TurnpikeTrustModel", "rests", "[J", true)
  | _ => ("TurnpikeTrustModel", "loans", "I", false)
def tyX4 : Nat → FieldType := fun k => match k with
  | 0 => .int
  | 1 => .array .byte
  | 2 => .int
  | 3 => .int
  | 4 => .int
  | 5 => .int
  | 6 => .int
  | 7 => .int
  | 8 => .array .int
  | 9 => .array .int
  | 10 => .array .int
  | 11 => .array .int
  | 12 => .array .int
  | 13 => .array .int
  | 14 => .array .int
  | 15 => .array .int
  | 16 => .array .int
  | 17 => .int
  | 18 => .int
  | 19 => .array .int
  | 20 => .array .int
  | 21 => .array .int
  | 22 => .array .int
  | 23 => .array .int
  | 24 => .array .int
  | 25 => .int
  | 26 => .array .int
  | 27 => .array .long
  | 28 => .int
  | 29 => .array .int
  | 30 => .array .int
  | 31 => .int
  | 32 => .int
  | 33 => .int
  | 34 => .array .boolean
  | 35 => .int
  | 36 => .array .int
  | 37 => .int
  | 38 => .array .int
  | 39 => .array .int
  | 40 => .array .int
  | 41 => .array .int
  | 42 => .int
  | 43 => .long
  | 44 => .array .long
  | 45 => .int
  | 46 => .array .int
  | 47 => .array .int
  | 48 => .array .int
  | 49 => .array .int
  | 50 => .array .int
  | 51 => .array .int
  | 52 => .array .int
  | 53 => .array .int
  | 54 => .array .int
  | 55 => .array .int
  | 56 => .array .int
  | 57 => .array .int
  | 58 => .array .long
  | 59 => .array .long
  | 60 => .array .long
  | _ => .int
abbrev wsX40 : List Cond := u_ws RX4 TX4 62
set_option maxRecDepth 100000 in
theorem nmX4 : ∀ a, a < 62 → ∀ b, b < 62 → a ≠ b → (TX4 a).2.1 ≠ (TX4 b).2.1 := by decide +kernel
set_option maxRecDepth 100000 in
theorem tyX4_ok : ∀ k, k < 62 → parseFieldDescriptor (TX4 k).2.2.1 = some (tyX4 k) := by decide +kernel
abbrev cX4_init : ByteArray := prog_33_method_1_code
def yX4_init : MethodName := ⟨RX4, "<init>", "()V"⟩
def dkwX4_init_15 : List UInt8 := [16, 10, 188, 11, 181, 0, 143, 177]
abbrev dktX4_init_15 : List UInt8 := dkwX4_init_15 ++ []
def dkwX4_init_14 : List UInt8 := [16, 10, 188, 10, 181, 0, 134, 42, 16, 10, 188, 11, 181, 0, 137, 42, 16, 10, 188, 11, 181, 0, 140, 42]
abbrev dktX4_init_14 : List UInt8 := dkwX4_init_14 ++ dktX4_init_15
def dkwX4_init_13 : List UInt8 := [16, 8, 188, 10, 181, 0, 125, 42, 16, 10, 188, 10, 181, 0, 128, 42, 16, 10, 188, 10, 181, 0, 131, 42]
abbrev dktX4_init_13 : List UInt8 := dkwX4_init_13 ++ dktX4_init_14
def dkwX4_init_12 : List UInt8 := [16, 8, 188, 10, 181, 0, 116, 42, 16, 8, 188, 10, 181, 0, 119, 42, 16, 8, 188, 10, 181, 0, 122, 42]
abbrev dktX4_init_12 : List UInt8 := dkwX4_init_12 ++ dktX4_init_13
def dkwX4_init_11 : List UInt8 := [16, 80, 188, 10, 181, 0, 107, 42, 16, 80, 188, 10, 181, 0, 110, 42, 16, 8, 188, 10, 181, 0, 113, 42]
abbrev dktX4_init_11 : List UInt8 := dkwX4_init_11 ++ dktX4_init_12
def dkwX4_init_10 : List UInt8 := [16, 8, 188, 11, 181, 0, 98, 42, 16, 8, 188, 10, 181, 0, 101, 42, 16, 80, 188, 10, 181, 0, 104, 42]
abbrev dktX4_init_10 : List UInt8 := dkwX4_init_10 ++ dktX4_init_11
def dkwX4_init_9 : List UInt8 := [188, 10, 181, 0, 89, 42, 17, 2, 88, 188, 10, 181, 0, 92, 42, 17, 2, 88, 188, 10, 181, 0, 95, 42]
abbrev dktX4_init_9 : List UInt8 := dkwX4_init_9 ++ dktX4_init_10
def dkwX4_init_8 : List UInt8 := [188, 10, 181, 0, 80, 42, 2, 181, 0, 83, 42, 17, 2, 88, 188, 10, 181, 0, 86, 42, 17, 2, 88]
abbrev dktX4_init_8 : List UInt8 := dkwX4_init_8 ++ dktX4_init_9
def dkwX4_init_7 : List UInt8 := [188, 10, 181, 0, 70, 42, 16, 8, 188, 10, 181, 0, 73, 42, 16, 64, 188, 4, 181, 0, 76, 42, 16, 40]
abbrev dktX4_init_7 : List UInt8 := dkwX4_init_7 ++ dktX4_init_8
def dkwX4_init_6 : List UInt8 := [188, 10, 181, 0, 60, 42, 16, 12, 188, 10, 181, 0, 63, 42, 16, 12, 188, 11, 181, 0, 66, 42, 16, 8]
abbrev dktX4_init_6 : List UInt8 := dkwX4_init_6 ++ dktX4_init_7
def dkwX4_init_5 : List UInt8 := [181, 0, 51, 42, 16, 60, 188, 10, 181, 0, 54, 42, 17, 1, 224, 188, 10, 181, 0, 57, 42, 17, 1, 224]
abbrev dktX4_init_5 : List UInt8 := dkwX4_init_5 ++ dktX4_init_6
def dkwX4_init_4 : List UInt8 := [181, 0, 42, 42, 16, 60, 188, 10, 181, 0, 45, 42, 16, 60, 188, 10, 181, 0, 48, 42, 16, 60, 188, 10]
abbrev dktX4_init_4 : List UInt8 := dkwX4_init_4 ++ dktX4_init_5
def dkwX4_init_3 : List UInt8 := [17, 1, 224, 188, 10, 181, 0, 36, 42, 17, 1, 144, 188, 10, 181, 0, 39, 42, 17, 1, 144, 188, 10]
abbrev dktX4_init_3 : List UInt8 := dkwX4_init_3 ++ dktX4_init_4
def dkwX4_init_2 : List UInt8 := [188, 10, 181, 0, 27, 42, 17, 1, 224, 188, 10, 181, 0, 30, 42, 17, 1, 225, 188, 10, 181, 0, 33, 42]
abbrev dktX4_init_2 : List UInt8 := dkwX4_init_2 ++ dktX4_init_3
def dkwX4_init_1 : List UInt8 := [181, 0, 17, 42, 16, 12, 188, 10, 181, 0, 21, 42, 17, 1, 224, 188, 10, 181, 0, 24, 42, 17, 1, 224]
abbrev dktX4_init_1 : List UInt8 := dkwX4_init_1 ++ dktX4_init_2
def dkwX4_init_0 : List UInt8 := [42, 183, 0, 1, 42, 17, 7, 208, 188, 8, 181, 0, 7, 42, 2, 181, 0, 13, 42, 16, 12, 188, 10]
abbrev dktX4_init_0 : List UInt8 := dkwX4_init_0 ++ dktX4_init_1
theorem dksX4_init_0 : cX4_init.data.toList.drop 0 = dktX4_init_0 := by decide +kernel
theorem dksX4_init_1 : cX4_init.data.toList.drop 23 = dktX4_init_1 := dk_seg dksX4_init_0 23 rfl rfl
theorem dksX4_init_2 : cX4_init.data.toList.drop 47 = dktX4_init_2 := dk_seg dksX4_init_1 24 rfl rfl
theorem dksX4_init_3 : cX4_init.data.toList.drop 71 = dktX4_init_3 := dk_seg dksX4_init_2 24 rfl rfl
theorem dksX4_init_4 : cX4_init.data.toList.drop 94 = dktX4_init_4 := dk_seg dksX4_init_3 23 rfl rfl
theorem dksX4_init_5 : cX4_init.data.toList.drop 118 = dktX4_init_5 := dk_seg dksX4_init_4 24 rfl rfl
theorem dksX4_init_6 : cX4_init.data.toList.drop 142 = dktX4_init_6 := dk_seg dksX4_init_5 24 rfl rfl
theorem dksX4_init_7 : cX4_init.data.toList.drop 166 = dktX4_init_7 := dk_seg dksX4_init_6 24 rfl rfl
theorem dksX4_init_8 : cX4_init.data.toList.drop 190 = dktX4_init_8 := dk_seg dksX4_init_7 24 rfl rfl
theorem dksX4_init_9 : cX4_init.data.toList.drop 213 = dktX4_init_9 := dk_seg dksX4_init_8 23 rfl rfl
theorem dksX4_init_10 : cX4_init.data.toList.drop 237 = dktX4_init_10 := dk_seg dksX4_init_9 24 rfl rfl
theorem dksX4_init_11 : cX4_init.data.toList.drop 261 = dktX4_init_11 := dk_seg dksX4_init_10 24 rfl rfl
theorem dksX4_init_12 : cX4_init.data.toList.drop 285 = dktX4_init_12 := dk_seg dksX4_init_11 24 rfl rfl
theorem dksX4_init_13 : cX4_init.data.toList.drop 309 = dktX4_init_13 := dk_seg dksX4_init_12 24 rfl rfl
theorem dksX4_init_14 : cX4_init.data.toList.drop 333 = dktX4_init_14 := dk_seg dksX4_init_13 24 rfl rfl
theorem dksX4_init_15 : cX4_init.data.toList.drop 357 = dktX4_init_15 := dk_seg dksX4_init_14 24 rfl rfl
theorem dX4_init_0 : decode cX4_init 0 = .ok (.aload_n 0, 1) := dk_42 (dk_at dksX4_init_0 0 rfl rfl)
theorem dX4_init_1 : decode cX4_init 1 = .ok (.invokespecial 1, 3) := dk_183 0 1 (dk_at dksX4_init_0 1 rfl rfl)
theorem dX4_init_4 : decode cX4_init 4 = .ok (.aload_n 0, 1) := dk_42 (dk_at dksX4_init_0 4 rfl rfl)
theorem dX4_init_5 : decode cX4_init 5 = .ok (.sipush 2000, 3) := dk_17 7 208 (dk_at dksX4_init_0 5 rfl rfl)
theorem dX4_init_8 : decode cX4_init 8 = .ok (.newarray .byte, 2) := dk_188_8 (dk_at dksX4_init_0 8 rfl rfl)
theorem dX4_init_10 : decode cX4_init 10 = .ok (.putfield 7, 3) := dk_181 0 7 (dk_at dksX4_init_0 10 rfl rfl)
theorem dX4_init_13 : decode cX4_init 13 = .ok (.aload_n 0, 1) := dk_42 (dk_at dksX4_init_0 13 rfl rfl)
theorem dX4_init_14 : decode cX4_init 14 = .ok (.iconst (-1), 1) := dk_2 (dk_at dksX4_init_0 14 rfl rfl)
theorem dX4_init_15 : decode cX4_init 15 = .ok (.putfield 13, 3) := dk_181 0 13 (dk_at dksX4_init_0 15 rfl rfl)
theorem dX4_init_18 : decode cX4_init 18 = .ok (.aload_n 0, 1) := dk_42 (dk_at dksX4_init_0 18 rfl rfl)
theorem dX4_init_19 : decode cX4_init 19 = .ok (.bipush 12, 2) := dk_16 12 (dk_at dksX4_init_0 19 rfl rfl)
theorem dX4_init_21 : decode cX4_init 21 = .ok (.newarray .int, 2) := dk_188_10 (dk_at dksX4_init_0 21 rfl rfl)
theorem dX4_init_23 : decode cX4_init 23 = .ok (.putfield 17, 3) := dk_181 0 17 (dk_at dksX4_init_1 0 rfl rfl)
theorem dX4_init_26 : decode cX4_init 26 = .ok (.aload_n 0, 1) := dk_42 (dk_at dksX4_init_1 3 rfl rfl)
theorem dX4_init_27 : decode cX4_init 27 = .ok (.bipush 12, 2) := dk_16 12 (dk_at dksX4_init_1 4 rfl rfl)
theorem dX4_init_29 : decode cX4_init 29 = .ok (.newarray .int, 2) := dk_188_10 (dk_at dksX4_init_1 6 rfl rfl)
theorem dX4_init_31 : decode cX4_init 31 = .ok (.putfield 21, 3) := dk_181 0 21 (dk_at dksX4_init_1 8 rfl rfl)
theorem dX4_init_34 : decode cX4_init 34 = .ok (.aload_n 0, 1) := dk_42 (dk_at dksX4_init_1 11 rfl rfl)
theorem dX4_init_35 : decode cX4_init 35 = .ok (.sipush 480, 3) := dk_17 1 224 (dk_at dksX4_init_1 12 rfl rfl)
theorem dX4_init_38 : decode cX4_init 38 = .ok (.newarray .int, 2) := dk_188_10 (dk_at dksX4_init_1 15 rfl rfl)
theorem dX4_init_40 : decode cX4_init 40 = .ok (.putfield 24, 3) := dk_181 0 24 (dk_at dksX4_init_1 17 rfl rfl)
theorem dX4_init_43 : decode cX4_init 43 = .ok (.aload_n 0, 1) := dk_42 (dk_at dksX4_init_1 20 rfl rfl)
theorem dX4_init_44 : decode cX4_init 44 = .ok (.sipush 480, 3) := dk_17 1 224 (dk_at dksX4_init_1 21 rfl rfl)
theorem dX4_init_47 : decode cX4_init 47 = .ok (.newarray .int, 2) := dk_188_10 (dk_at dksX4_init_2 0 rfl rfl)
theorem dX4_init_49 : decode cX4_init 49 = .ok (.putfield 27, 3) := dk_181 0 27 (dk_at dksX4_init_2 2 rfl rfl)
theorem dX4_init_52 : decode cX4_init 52 = .ok (.aload_n 0, 1) := dk_42 (dk_at dksX4_init_2 5 rfl rfl)
theorem dX4_init_53 : decode cX4_init 53 = .ok (.sipush 480, 3) := dk_17 1 224 (dk_at dksX4_init_2 6 rfl rfl)
theorem dX4_init_56 : decode cX4_init 56 = .ok (.newarray .int, 2) := dk_188_10 (dk_at dksX4_init_2 9 rfl rfl)
theorem dX4_init_58 : decode cX4_init 58 = .ok (.putfield 30, 3) := dk_181 0 30 (dk_at dksX4_init_2 11 rfl rfl)
theorem dX4_init_61 : decode cX4_init 61 = .ok (.aload_n 0, 1) := dk_42 (dk_at dksX4_init_2 14 rfl rfl)
theorem dX4_init_62 : decode cX4_init 62 = .ok (.sipush 481, 3) := dk_17 1 225 (dk_at dksX4_init_2 15 rfl rfl)
theorem dX4_init_65 : decode cX4_init 65 = .ok (.newarray .int, 2) := dk_188_10 (dk_at dksX4_init_2 18 rfl rfl)
theorem dX4_init_67 : decode cX4_init 67 = .ok (.putfield 33, 3) := dk_181 0 33 (dk_at dksX4_init_2 20 rfl rfl)
theorem dX4_init_70 : decode cX4_init 70 = .ok (.aload_n 0, 1) := dk_42 (dk_at dksX4_init_2 23 rfl rfl)
theorem dX4_init_71 : decode cX4_init 71 = .ok (.sipush 480, 3) := dk_17 1 224 (dk_at dksX4_init_3 0 rfl rfl)
theorem dX4_init_74 : decode cX4_init 74 = .ok (.newarray .int, 2) := dk_188_10 (dk_at dksX4_init_3 3 rfl rfl)
theorem dX4_init_76 : decode cX4_init 76 = .ok (.putfield 36, 3) := dk_181 0 36 (dk_at dksX4_init_3 5 rfl rfl)
theorem dX4_init_79 : decode cX4_init 79 = .ok (.aload_n 0, 1) := dk_42 (dk_at dksX4_init_3 8 rfl rfl)
theorem dX4_init_80 : decode cX4_init 80 = .ok (.sipush 400, 3) := dk_17 1 144 (dk_at dksX4_init_3 9 rfl rfl)
theorem dX4_init_83 : decode cX4_init 83 = .ok (.newarray .int, 2) := dk_188_10 (dk_at dksX4_init_3 12 rfl rfl)
theorem dX4_init_85 : decode cX4_init 85 = .ok (.putfield 39, 3) := dk_181 0 39 (dk_at dksX4_init_3 14 rfl rfl)
theorem dX4_init_88 : decode cX4_init 88 = .ok (.aload_n 0, 1) := dk_42 (dk_at dksX4_init_3 17 rfl rfl)
theorem dX4_init_89 : decode cX4_init 89 = .ok (.sipush 400, 3) := dk_17 1 144 (dk_at dksX4_init_3 18 rfl rfl)
theorem dX4_init_92 : decode cX4_init 92 = .ok (.newarray .int, 2) := dk_188_10 (dk_at dksX4_init_3 21 rfl rfl)
theorem dX4_init_94 : decode cX4_init 94 = .ok (.putfield 42, 3) := dk_181 0 42 (dk_at dksX4_init_4 0 rfl rfl)
theorem dX4_init_97 : decode cX4_init 97 = .ok (.aload_n 0, 1) := dk_42 (dk_at dksX4_init_4 3 rfl rfl)
theorem dX4_init_98 : decode cX4_init 98 = .ok (.bipush 60, 2) := dk_16 60 (dk_at dksX4_init_4 4 rfl rfl)
theorem dX4_init_100 : decode cX4_init 100 = .ok (.newarray .int, 2) := dk_188_10 (dk_at dksX4_init_4 6 rfl rfl)
theorem dX4_init_102 : decode cX4_init 102 = .ok (.putfield 45, 3) := dk_181 0 45 (dk_at dksX4_init_4 8 rfl rfl)
theorem dX4_init_105 : decode cX4_init 105 = .ok (.aload_n 0, 1) := dk_42 (dk_at dksX4_init_4 11 rfl rfl)
theorem dX4_init_106 : decode cX4_init 106 = .ok (.bipush 60, 2) := dk_16 60 (dk_at dksX4_init_4 12 rfl rfl)
theorem dX4_init_108 : decode cX4_init 108 = .ok (.newarray .int, 2) := dk_188_10 (dk_at dksX4_init_4 14 rfl rfl)
theorem dX4_init_110 : decode cX4_init 110 = .ok (.putfield 48, 3) := dk_181 0 48 (dk_at dksX4_init_4 16 rfl rfl)
theorem dX4_init_113 : decode cX4_init 113 = .ok (.aload_n 0, 1) := dk_42 (dk_at dksX4_init_4 19 rfl rfl)
theorem dX4_init_114 : decode cX4_init 114 = .ok (.bipush 60, 2) := dk_16 60 (dk_at dksX4_init_4 20 rfl rfl)
theorem dX4_init_116 : decode cX4_init 116 = .ok (.newarray .int, 2) := dk_188_10 (dk_at dksX4_init_4 22 rfl rfl)
theorem dX4_init_118 : decode cX4_init 118 = .ok (.putfield 51, 3) := dk_181 0 51 (dk_at dksX4_init_5 0 rfl rfl)
theorem dX4_init_121 : decode cX4_init 121 = .ok (.aload_n 0, 1) := dk_42 (dk_at dksX4_init_5 3 rfl rfl)
theorem dX4_init_122 : decode cX4_init 122 = .ok (.bipush 60, 2) := dk_16 60 (dk_at dksX4_init_5 4 rfl rfl)
theorem dX4_init_124 : decode cX4_init 124 = .ok (.newarray .int, 2) := dk_188_10 (dk_at dksX4_init_5 6 rfl rfl)
theorem dX4_init_126 : decode cX4_init 126 = .ok (.putfield 54, 3) := dk_181 0 54 (dk_at dksX4_init_5 8 rfl rfl)
theorem dX4_init_129 : decode cX4_init 129 = .ok (.aload_n 0, 1) := dk_42 (dk_at dksX4_init_5 11 rfl rfl)
theorem dX4_init_130 : decode cX4_init 130 = .ok (.sipush 480, 3) := dk_17 1 224 (dk_at dksX4_init_5 12 rfl rfl)
theorem dX4_init_133 : decode cX4_init 133 = .ok (.newarray .int, 2) := dk_188_10 (dk_at dksX4_init_5 15 rfl rfl)
theorem dX4_init_135 : decode cX4_init 135 = .ok (.putfield 57, 3) := dk_181 0 57 (dk_at dksX4_init_5 17 rfl rfl)
theorem dX4_init_138 : decode cX4_init 138 = .ok (.aload_n 0, 1) := dk_42 (dk_at dksX4_init_5 20 rfl rfl)
theorem dX4_init_139 : decode cX4_init 139 = .ok (.sipush 480, 3) := dk_17 1 224 (dk_at dksX4_init_5 21 rfl rfl)
theorem dX4_init_142 : decode cX4_init 142 = .ok (.newarray .int, 2) := dk_188_10 (dk_at dksX4_init_6 0 rfl rfl)
theorem dX4_init_144 : decode cX4_init 144 = .ok (.putfield 60, 3) := dk_181 0 60 (dk_at dksX4_init_6 2 rfl rfl)
theorem dX4_init_147 : decode cX4_init 147 = .ok (.aload_n 0, 1) := dk_42 (dk_at dksX4_init_6 5 rfl rfl)
theorem dX4_init_148 : decode cX4_init 148 = .ok (.bipush 12, 2) := dk_16 12 (dk_at dksX4_init_6 6 rfl rfl)
theorem dX4_init_150 : decode cX4_init 150 = .ok (.newarray .int, 2) := dk_188_10 (dk_at dksX4_init_6 8 rfl rfl)
theorem dX4_init_152 : decode cX4_init 152 = .ok (.putfield 63, 3) := dk_181 0 63 (dk_at dksX4_init_6 10 rfl rfl)
theorem dX4_init_155 : decode cX4_init 155 = .ok (.aload_n 0, 1) := dk_42 (dk_at dksX4_init_6 13 rfl rfl)
theorem dX4_init_156 : decode cX4_init 156 = .ok (.bipush 12, 2) := dk_16 12 (dk_at dksX4_init_6 14 rfl rfl)
theorem dX4_init_158 : decode cX4_init 158 = .ok (.newarray .long, 2) := dk_188_11 (dk_at dksX4_init_6 16 rfl rfl)
theorem dX4_init_160 : decode cX4_init 160 = .ok (.putfield 66, 3) := dk_181 0 66 (dk_at dksX4_init_6 18 rfl rfl)
theorem dX4_init_163 : decode cX4_init 163 = .ok (.aload_n 0, 1) := dk_42 (dk_at dksX4_init_6 21 rfl rfl)
theorem dX4_init_164 : decode cX4_init 164 = .ok (.bipush 8, 2) := dk_16 8 (dk_at dksX4_init_6 22 rfl rfl)
theorem dX4_init_166 : decode cX4_init 166 = .ok (.newarray .int, 2) := dk_188_10 (dk_at dksX4_init_7 0 rfl rfl)
theorem dX4_init_168 : decode cX4_init 168 = .ok (.putfield 70, 3) := dk_181 0 70 (dk_at dksX4_init_7 2 rfl rfl)
theorem dX4_init_171 : decode cX4_init 171 = .ok (.aload_n 0, 1) := dk_42 (dk_at dksX4_init_7 5 rfl rfl)
theorem dX4_init_172 : decode cX4_init 172 = .ok (.bipush 8, 2) := dk_16 8 (dk_at dksX4_init_7 6 rfl rfl)
theorem dX4_init_174 : decode cX4_init 174 = .ok (.newarray .int, 2) := dk_188_10 (dk_at dksX4_init_7 8 rfl rfl)
theorem dX4_init_176 : decode cX4_init 176 = .ok (.putfield 73, 3) := dk_181 0 73 (dk_at dksX4_init_7 10 rfl rfl)
theorem dX4_init_179 : decode cX4_init 179 = .ok (.aload_n 0, 1) := dk_42 (dk_at dksX4_init_7 13 rfl rfl)
theorem dX4_init_180 : decode cX4_init 180 = .ok (.bipush 64, 2) := dk_16 64 (dk_at dksX4_init_7 14 rfl rfl)
theorem dX4_init_182 : decode cX4_init 182 = .ok (.newarray .boolean, 2) := dk_188_4 (dk_at dksX4_init_7 16 rfl rfl)
theorem dX4_init_184 : decode cX4_init 184 = .ok (.putfield 76, 3) := dk_181 0 76 (dk_at dksX4_init_7 18 rfl rfl)
theorem dX4_init_187 : decode cX4_init 187 = .ok (.aload_n 0, 1) := dk_42 (dk_at dksX4_init_7 21 rfl rfl)
theorem dX4_init_188 : decode cX4_init 188 = .ok (.bipush 40, 2) := dk_16 40 (dk_at dksX4_init_7 22 rfl rfl)
theorem dX4_init_190 : decode cX4_init 190 = .ok (.newarray .int, 2) := dk_188_10 (dk_at dksX4_init_8 0 rfl rfl)
theorem dX4_init_192 : decode cX4_init 192 = .ok (.putfield 80, 3) := dk_181 0 80 (dk_at dksX4_init_8 2 rfl rfl)
theorem dX4_init_195 : decode cX4_init 195 = .ok (.aload_n 0, 1) := dk_42 (dk_at dksX4_init_8 5 rfl rfl)
theorem dX4_init_196 : decode cX4_init 196 = .ok (.iconst (-1), 1) := dk_2 (dk_at dksX4_init_8 6 rfl rfl)
theorem dX4_init_197 : decode cX4_init 197 = .ok (.putfield 83, 3) := dk_181 0 83 (dk_at dksX4_init_8 7 rfl rfl)
theorem dX4_init_200 : decode cX4_init 200 = .ok (.aload_n 0, 1) := dk_42 (dk_at dksX4_init_8 10 rfl rfl)
theorem dX4_init_201 : decode cX4_init 201 = .ok (.sipush 600, 3) := dk_17 2 88 (dk_at dksX4_init_8 11 rfl rfl)
theorem dX4_init_204 : decode cX4_init 204 = .ok (.newarray .int, 2) := dk_188_10 (dk_at dksX4_init_8 14 rfl rfl)
theorem dX4_init_206 : decode cX4_init 206 = .ok (.putfield 86, 3) := dk_181 0 86 (dk_at dksX4_init_8 16 rfl rfl)
theorem dX4_init_209 : decode cX4_init 209 = .ok (.aload_n 0, 1) := dk_42 (dk_at dksX4_init_8 19 rfl rfl)
theorem dX4_init_210 : decode cX4_init 210 = .ok (.sipush 600, 3) := dk_17 2 88 (dk_at dksX4_init_8 20 rfl rfl)
theorem dX4_init_213 : decode cX4_init 213 = .ok (.newarray .int, 2) := dk_188_10 (dk_at dksX4_init_9 0 rfl rfl)
theorem dX4_init_215 : decode cX4_init 215 = .ok (.putfield 89, 3) := dk_181 0 89 (dk_at dksX4_init_9 2 rfl rfl)
theorem dX4_init_218 : decode cX4_init 218 = .ok (.aload_n 0, 1) := dk_42 (dk_at dksX4_init_9 5 rfl rfl)
theorem dX4_init_219 : decode cX4_init 219 = .ok (.sipush 600, 3) := dk_17 2 88 (dk_at dksX4_init_9 6 rfl rfl)
theorem dX4_init_222 : decode cX4_init 222 = .ok (.newarray .int, 2) := dk_188_10 (dk_at dksX4_init_9 9 rfl rfl)
theorem dX4_init_224 : decode cX4_init 224 = .ok (.putfield 92, 3) := dk_181 0 92 (dk_at dksX4_init_9 11 rfl rfl)
theorem dX4_init_227 : decode cX4_init 227 = .ok (.aload_n 0, 1) := dk_42 (dk_at dksX4_init_9 14 rfl rfl)
theorem dX4_init_228 : decode cX4_init 228 = .ok (.sipush 600, 3) := dk_17 2 88 (dk_at dksX4_init_9 15 rfl rfl)
theorem dX4_init_231 : decode cX4_init 231 = .ok (.newarray .int, 2) := dk_188_10 (dk_at dksX4_init_9 18 rfl rfl)
theorem dX4_init_233 : decode cX4_init 233 = .ok (.putfield 95, 3) := dk_181 0 95 (dk_at dksX4_init_9 20 rfl rfl)
theorem dX4_init_236 : decode cX4_init 236 = .ok (.aload_n 0, 1) := dk_42 (dk_at dksX4_init_9 23 rfl rfl)
theorem dX4_init_237 : decode cX4_init 237 = .ok (.bipush 8, 2) := dk_16 8 (dk_at dksX4_init_10 0 rfl rfl)
theorem dX4_init_239 : decode cX4_init 239 = .ok (.newarray .long, 2) := dk_188_11 (dk_at dksX4_init_10 2 rfl rfl)
theorem dX4_init_241 : decode cX4_init 241 = .ok (.putfield 98, 3) := dk_181 0 98 (dk_at dksX4_init_10 4 rfl rfl)
theorem dX4_init_244 : decode cX4_init 244 = .ok (.aload_n 0, 1) := dk_42 (dk_at dksX4_init_10 7 rfl rfl)
theorem dX4_init_245 : decode cX4_init 245 = .ok (.bipush 8, 2) := dk_16 8 (dk_at dksX4_init_10 8 rfl rfl)
theorem dX4_init_247 : decode cX4_init 247 = .ok (.newarray .int, 2) := dk_188_10 (dk_at dksX4_init_10 10 rfl rfl)
theorem dX4_init_249 : decode cX4_init 249 = .ok (.putfield 101, 3) := dk_181 0 101 (dk_at dksX4_init_10 12 rfl rfl)
theorem dX4_init_252 : decode cX4_init 252 = .ok (.aload_n 0, 1) := dk_42 (dk_at dksX4_init_10 15 rfl rfl)
theorem dX4_init_253 : decode cX4_init 253 = .ok (.bipush 80, 2) := dk_16 80 (dk_at dksX4_init_10 16 rfl rfl)
theorem dX4_init_255 : decode cX4_init 255 = .ok (.newarray .int, 2) := dk_188_10 (dk_at dksX4_init_10 18 rfl rfl)
theorem dX4_init_257 : decode cX4_init 257 = .ok (.putfield 104, 3) := dk_181 0 104 (dk_at dksX4_init_10 20 rfl rfl)
theorem dX4_init_260 : decode cX4_init 260 = .ok (.aload_n 0, 1) := dk_42 (dk_at dksX4_init_10 23 rfl rfl)
theorem dX4_init_261 : decode cX4_init 261 = .ok (.bipush 80, 2) := dk_16 80 (dk_at dksX4_init_11 0 rfl rfl)
theorem dX4_init_263 : decode cX4_init 263 = .ok (.newarray .int, 2) := dk_188_10 (dk_at dksX4_init_11 2 rfl rfl)
theorem dX4_init_265 : decode cX4_init 265 = .ok (.putfield 107, 3) := dk_181 0 107 (dk_at dksX4_init_11 4 rfl rfl)
theorem dX4_init_268 : decode cX4_init 268 = .ok (.aload_n 0, 1) := dk_42 (dk_at dksX4_init_11 7 rfl rfl)
theorem dX4_init_269 : decode cX4_init 269 = .ok (.bipush 80, 2) := dk_16 80 (dk_at dksX4_init_11 8 rfl rfl)
theorem dX4_init_271 : decode cX4_init 271 = .ok (.newarray .int, 2) := dk_188_10 (dk_at dksX4_init_11 10 rfl rfl)
theorem dX4_init_273 : decode cX4_init 273 = .ok (.putfield 110, 3) := dk_181 0 110 (dk_at dksX4_init_11 12 rfl rfl)
theorem dX4_init_276 : decode cX4_init 276 = .ok (.aload_n 0, 1) := dk_42 (dk_at dksX4_init_11 15 rfl rfl)
theorem dX4_init_277 : decode cX4_init 277 = .ok (.bipush 8, 2) := dk_16 8 (dk_at dksX4_init_11 16 rfl rfl)
theorem dX4_init_279 : decode cX4_init 279 = .ok (.newarray .int, 2) := dk_188_10 (dk_at dksX4_init_11 18 rfl rfl)
theorem dX4_init_281 : decode cX4_init 281 = .ok (.putfield 113, 3) := dk_181 0 113 (dk_at dksX4_init_11 20 rfl rfl)
theorem dX4_init_284 : decode cX4_init 284 = .ok (.aload_n 0, 1) := dk_42 (dk_at dksX4_init_11 23 rfl rfl)
theorem dX4_init_285 : decode cX4_init 285 = .ok (.bipush 8, 2) := dk_16 8 (dk_at dksX4_init_12 0 rfl rfl)
theorem dX4_init_287 : decode cX4_init 287 = .ok (.newarray .int, 2) := dk_188_10 (dk_at dksX4_init_12 2 rfl rfl)
theorem dX4_init_289 : decode cX4_init 289 = .ok (.putfield 116, 3) := dk_181 0 116 (dk_at dksX4_init_12 4 rfl rfl)
theorem dX4_init_292 : decode cX4_init 292 = .ok (.aload_n 0, 1) := dk_42 (dk_at dksX4_init_12 7 rfl rfl)
theorem dX4_init_293 : decode cX4_init 293 = .ok (.bipush 8, 2) := dk_16 8 (dk_at dksX4_init_12 8 rfl rfl)
theorem dX4_init_295 : decode cX4_init 295 = .ok (.newarray .int, 2) := dk_188_10 (dk_at dksX4_init_12 10 rfl rfl)
theorem dX4_init_297 : decode cX4_init 297 = .ok (.putfield 119, 3) := dk_181 0 119 (dk_at dksX4_init_12 12 rfl rfl)
theorem dX4_init_300 : decode cX4_init 300 = .ok (.aload_n 0, 1) := dk_42 (dk_at dksX4_init_12 15 rfl rfl)
theorem dX4_init_301 : decode cX4_init 301 = .ok (.bipush 8, 2) := dk_16 8 (dk_at dksX4_init_12 16 rfl rfl)
theorem dX4_init_303 : decode cX4_init 303 = .ok (.newarray .int, 2) := dk_188_10 (dk_at dksX4_init_12 18 rfl rfl)
theorem dX4_init_305 : decode cX4_init 305 = .ok (.putfield 122, 3) := dk_181 0 122 (dk_at dksX4_init_12 20 rfl rfl)
theorem dX4_init_308 : decode cX4_init 308 = .ok (.aload_n 0, 1) := dk_42 (dk_at dksX4_init_12 23 rfl rfl)
theorem dX4_init_309 : decode cX4_init 309 = .ok (.bipush 8, 2) := dk_16 8 (dk_at dksX4_init_13 0 rfl rfl)
theorem dX4_init_311 : decode cX4_init 311 = .ok (.newarray .int, 2) := dk_188_10 (dk_at dksX4_init_13 2 rfl rfl)
theorem dX4_init_313 : decode cX4_init 313 = .ok (.putfield 125, 3) := dk_181 0 125 (dk_at dksX4_init_13 4 rfl rfl)
theorem dX4_init_316 : decode cX4_init 316 = .ok (.aload_n 0, 1) := dk_42 (dk_at dksX4_init_13 7 rfl rfl)
theorem dX4_init_317 : decode cX4_init 317 = .ok (.bipush 10, 2) := dk_16 10 (dk_at dksX4_init_13 8 rfl rfl)
theorem dX4_init_319 : decode cX4_init 319 = .ok (.newarray .int, 2) := dk_188_10 (dk_at dksX4_init_13 10 rfl rfl)
theorem dX4_init_321 : decode cX4_init 321 = .ok (.putfield 128, 3) := dk_181 0 128 (dk_at dksX4_init_13 12 rfl rfl)
theorem dX4_init_324 : decode cX4_init 324 = .ok (.aload_n 0, 1) := dk_42 (dk_at dksX4_init_13 15 rfl rfl)
theorem dX4_init_325 : decode cX4_init 325 = .ok (.bipush 10, 2) := dk_16 10 (dk_at dksX4_init_13 16 rfl rfl)
theorem dX4_init_327 : decode cX4_init 327 = .ok (.newarray .int, 2) := dk_188_10 (dk_at dksX4_init_13 18 rfl rfl)
theorem dX4_init_329 : decode cX4_init 329 = .ok (.putfield 131, 3) := dk_181 0 131 (dk_at dksX4_init_13 20 rfl rfl)
theorem dX4_init_332 : decode cX4_init 332 = .ok (.aload_n 0, 1) := dk_42 (dk_at dksX4_init_13 23 rfl rfl)
theorem dX4_init_333 : decode cX4_init 333 = .ok (.bipush 10, 2) := dk_16 10 (dk_at dksX4_init_14 0 rfl rfl)
theorem dX4_init_335 : decode cX4_init 335 = .ok (.newarray .int, 2) := dk_188_10 (dk_at dksX4_init_14 2 rfl rfl)
theorem dX4_init_337 : decode cX4_init 337 = .ok (.putfield 134, 3) := dk_181 0 134 (dk_at dksX4_init_14 4 rfl rfl)
theorem dX4_init_340 : decode cX4_init 340 = .ok (.aload_n 0, 1) := dk_42 (dk_at dksX4_init_14 7 rfl rfl)
theorem dX4_init_341 : decode cX4_init 341 = .ok (.bipush 10, 2) := dk_16 10 (dk_at dksX4_init_14 8 rfl rfl)
theorem dX4_init_343 : decode cX4_init 343 = .ok (.newarray .long, 2) := dk_188_11 (dk_at dksX4_init_14 10 rfl rfl)
theorem dX4_init_345 : decode cX4_init 345 = .ok (.putfield 137, 3) := dk_181 0 137 (dk_at dksX4_init_14 12 rfl rfl)
theorem dX4_init_348 : decode cX4_init 348 = .ok (.aload_n 0, 1) := dk_42 (dk_at dksX4_init_14 15 rfl rfl)
theorem dX4_init_349 : decode cX4_init 349 = .ok (.bipush 10, 2) := dk_16 10 (dk_at dksX4_init_14 16 rfl rfl)
theorem dX4_init_351 : decode cX4_init 351 = .ok (.newarray .long, 2) := dk_188_11 (dk_at dksX4_init_14 18 rfl rfl)
theorem dX4_init_353 : decode cX4_init 353 = .ok (.putfield 140, 3) := dk_181 0 140 (dk_at dksX4_init_14 20 rfl rfl)
theorem dX4_init_356 : decode cX4_init 356 = .ok (.aload_n 0, 1) := dk_42 (dk_at dksX4_init_14 23 rfl rfl)
theorem dX4_init_357 : decode cX4_init 357 = .ok (.bipush 10, 2) := dk_16 10 (dk_at dksX4_init_15 0 rfl rfl)
theorem dX4_init_359 : decode cX4_init 359 = .ok (.newarray .long, 2) := dk_188_11 (dk_at dksX4_init_15 2 rfl rfl)
theorem dX4_init_361 : decode cX4_init 361 = .ok (.putfield 143, 3) := dk_181 0 143 (dk_at dksX4_init_15 4 rfl rfl)
theorem dX4_init_364 : decode cX4_init 364 = .ok (.return_, 1) := dk_177 (dk_at dksX4_init_15 7 rfl rfl)
abbrev cX4_thrown : ByteArray := prog_33_method_2_code
def yX4_thrown : MethodName := ⟨RX4, "thrown", "()I"⟩
theorem dX4_thrown_0 : decode cX4_thrown 0 = .ok (.aload_n 0, 1) := by decide +kernel
theorem dX4_thrown_1 : decode cX4_thrown 1 = .ok (.getfield 146, 3) := by decide +kernel
theorem dX4_thrown_4 : decode cX4_thrown 4 = .ok (.ireturn, 1) := by decide +kernel
abbrev cX4_feed : ByteArray := prog_33_method_4_code
def yX4_feed : MethodName := ⟨RX4, "feed", "(IIIII)I"⟩
def dkwX4_feed_5 : List UInt8 := [167, 255, 163, 42, 180, 0, 149, 172]
abbrev dktX4_feed_5 : List UInt8 := dkwX4_feed_5 ++ []
def dkwX4_feed_4 : List UInt8 := [21, 8, 122, 145, 84, 42, 89, 180, 0, 149, 4, 96, 181, 0, 149, 132, 8, 248, 167, 255, 223, 132, 6, 1]
abbrev dktX4_feed_4 : List UInt8 := dkwX4_feed_4 ++ dktX4_feed_5
def dkwX4_feed_3 : List UInt8 := [21, 5, 54, 7, 16, 24, 54, 8, 21, 8, 155, 0, 34, 42, 180, 0, 7, 42, 180, 0, 149, 21, 7]
abbrev dktX4_feed_3 : List UInt8 := dkwX4_feed_3 ++ dktX4_feed_4
def dkwX4_feed_2 : List UInt8 := [167, 0, 26, 21, 6, 5, 160, 0, 7, 29, 167, 0, 16, 21, 6, 6, 160, 0, 8, 21, 4, 167, 0, 5]
abbrev dktX4_feed_2 : List UInt8 := dkwX4_feed_2 ++ dktX4_feed_3
def dkwX4_feed_1 : List UInt8 := [21, 6, 8, 162, 0, 93, 21, 6, 154, 0, 7, 27, 167, 0, 36, 21, 6, 4, 160, 0, 7, 28]
abbrev dktX4_feed_1 : List UInt8 := dkwX4_feed_1 ++ dktX4_feed_2
def dkwX4_feed_0 : List UInt8 := [42, 3, 181, 0, 146, 42, 180, 0, 149, 16, 20, 96, 17, 7, 208, 164, 0, 5, 2, 172, 3, 54, 6]
abbrev dktX4_feed_0 : List UInt8 := dkwX4_feed_0 ++ dktX4_feed_1
theorem dksX4_feed_0 : cX4_feed.data.toList.drop 0 = dktX4_feed_0 := by decide +kernel
theorem dksX4_feed_1 : cX4_feed.data.toList.drop 23 = dktX4_feed_1 := dk_seg dksX4_feed_0 23 rfl rfl
theorem dksX4_feed_2 : cX4_feed.data.toList.drop 45 = dktX4_feed_2 := dk_seg dksX4_feed_1 22 rfl rfl
theorem dksX4_feed_3 : cX4_feed.data.toList.drop 69 = dktX4_feed_3 := dk_seg dksX4_feed_2 24 rfl rfl
theorem dksX4_feed_4 : cX4_feed.data.toList.drop 92 = dktX4_feed_4 := dk_seg dksX4_feed_3 23 rfl rfl
theorem dksX4_feed_5 : cX4_feed.data.toList.drop 116 = dktX4_feed_5 := dk_seg dksX4_feed_4 24 rfl rfl
theorem dX4_feed_0 : decode cX4_feed 0 = .ok (.aload_n 0, 1) := dk_42 (dk_at dksX4_feed_0 0 rfl rfl)
theorem dX4_feed_1 : decode cX4_feed 1 = .ok (.iconst 0, 1) := dk_3 (dk_at dksX4_feed_0 1 rfl rfl)
theorem dX4_feed_2 : decode cX4_feed 2 = .ok (.putfield 146, 3) := dk_181 0 146 (dk_at dksX4_feed_0 2 rfl rfl)
theorem dX4_feed_5 : decode cX4_feed 5 = .ok (.aload_n 0, 1) := dk_42 (dk_at dksX4_feed_0 5 rfl rfl)
theorem dX4_feed_6 : decode cX4_feed 6 = .ok (.getfield 149, 3) := dk_180 0 149 (dk_at dksX4_feed_0 6 rfl rfl)
theorem dX4_feed_9 : decode cX4_feed 9 = .ok (.bipush 20, 2) := dk_16 20 (dk_at dksX4_feed_0 9 rfl rfl)
theorem dX4_feed_11 : decode cX4_feed 11 = .ok (.iadd, 1) := dk_96 (dk_at dksX4_feed_0 11 rfl rfl)
theorem dX4_feed_12 : decode cX4_feed 12 = .ok (.sipush 2000, 3) := dk_17 7 208 (dk_at dksX4_feed_0 12 rfl rfl)
theorem dX4_feed_15 : decode cX4_feed 15 = .ok (.if_icmp .le 5, 3) := dk_164 0 5 (dk_at dksX4_feed_0 15 rfl rfl)
theorem dX4_feed_18 : decode cX4_feed 18 = .ok (.iconst (-1), 1) := dk_2 (dk_at dksX4_feed_0 18 rfl rfl)
theorem dX4_feed_19 : decode cX4_feed 19 = .ok (.ireturn, 1) := dk_172 (dk_at dksX4_feed_0 19 rfl rfl)
theorem dX4_feed_20 : decode cX4_feed 20 = .ok (.iconst 0, 1) := dk_3 (dk_at dksX4_feed_0 20 rfl rfl)
theorem dX4_feed_21 : decode cX4_feed 21 = .ok (.istore 6, 2) := dk_54 6 (dk_at dksX4_feed_0 21 rfl rfl)
theorem dX4_feed_23 : decode cX4_feed 23 = .ok (.iload 6, 2) := dk_21 6 (dk_at dksX4_feed_1 0 rfl rfl)
theorem dX4_feed_25 : decode cX4_feed 25 = .ok (.iconst 5, 1) := dk_8 (dk_at dksX4_feed_1 2 rfl rfl)
theorem dX4_feed_26 : decode cX4_feed 26 = .ok (.if_icmp .ge 93, 3) := dk_162 0 93 (dk_at dksX4_feed_1 3 rfl rfl)
theorem dX4_feed_29 : decode cX4_feed 29 = .ok (.iload 6, 2) := dk_21 6 (dk_at dksX4_feed_1 6 rfl rfl)
theorem dX4_feed_31 : decode cX4_feed 31 = .ok (.ifCond .ne 7, 3) := dk_154 0 7 (dk_at dksX4_feed_1 8 rfl rfl)
theorem dX4_feed_34 : decode cX4_feed 34 = .ok (.iload_n 1, 1) := dk_27 (dk_at dksX4_feed_1 11 rfl rfl)
theorem dX4_feed_35 : decode cX4_feed 35 = .ok (.goto 36, 3) := dk_167 0 36 (dk_at dksX4_feed_1 12 rfl rfl)
theorem dX4_feed_38 : decode cX4_feed 38 = .ok (.iload 6, 2) := dk_21 6 (dk_at dksX4_feed_1 15 rfl rfl)
theorem dX4_feed_40 : decode cX4_feed 40 = .ok (.iconst 1, 1) := dk_4 (dk_at dksX4_feed_1 17 rfl rfl)
theorem dX4_feed_41 : decode cX4_feed 41 = .ok (.if_icmp .ne 7, 3) := dk_160 0 7 (dk_at dksX4_feed_1 18 rfl rfl)
theorem dX4_feed_44 : decode cX4_feed 44 = .ok (.iload_n 2, 1) := dk_28 (dk_at dksX4_feed_1 21 rfl rfl)
theorem dX4_feed_45 : decode cX4_feed 45 = .ok (.goto 26, 3) := dk_167 0 26 (dk_at dksX4_feed_2 0 rfl rfl)
theorem dX4_feed_48 : decode cX4_feed 48 = .ok (.iload 6, 2) := dk_21 6 (dk_at dksX4_feed_2 3 rfl rfl)
theorem dX4_feed_50 : decode cX4_feed 50 = .ok (.iconst 2, 1) := dk_5 (dk_at dksX4_feed_2 5 rfl rfl)
theorem dX4_feed_51 : decode cX4_feed 51 = .ok (.if_icmp .ne 7, 3) := dk_160 0 7 (dk_at dksX4_feed_2 6 rfl rfl)
theorem dX4_feed_54 : decode cX4_feed 54 = .ok (.iload_n 3, 1) := dk_29 (dk_at dksX4_feed_2 9 rfl rfl)
theorem dX4_feed_55 : decode cX4_feed 55 = .ok (.goto 16, 3) := dk_167 0 16 (dk_at dksX4_feed_2 10 rfl rfl)
theorem dX4_feed_58 : decode cX4_feed 58 = .ok (.iload 6, 2) := dk_21 6 (dk_at dksX4_feed_2 13 rfl rfl)
theorem dX4_feed_60 : decode cX4_feed 60 = .ok (.iconst 3, 1) := dk_6 (dk_at dksX4_feed_2 15 rfl rfl)
theorem dX4_feed_61 : decode cX4_feed 61 = .ok (.if_icmp .ne 8, 3) := dk_160 0 8 (dk_at dksX4_feed_2 16 rfl rfl)
theorem dX4_feed_64 : decode cX4_feed 64 = .ok (.iload 4, 2) := dk_21 4 (dk_at dksX4_feed_2 19 rfl rfl)
theorem dX4_feed_66 : decode cX4_feed 66 = .ok (.goto 5, 3) := dk_167 0 5 (dk_at dksX4_feed_2 21 rfl rfl)
theorem dX4_feed_69 : decode cX4_feed 69 = .ok (.iload 5, 2) := dk_21 5 (dk_at dksX4_feed_3 0 rfl rfl)
theorem dX4_feed_71 : decode cX4_feed 71 = .ok (.istore 7, 2) := dk_54 7 (dk_at dksX4_feed_3 2 rfl rfl)
theorem dX4_feed_73 : decode cX4_feed 73 = .ok (.bipush 24, 2) := dk_16 24 (dk_at dksX4_feed_3 4 rfl rfl)
theorem dX4_feed_75 : decode cX4_feed 75 = .ok (.istore 8, 2) := dk_54 8 (dk_at dksX4_feed_3 6 rfl rfl)
theorem dX4_feed_77 : decode cX4_feed 77 = .ok (.iload 8, 2) := dk_21 8 (dk_at dksX4_feed_3 8 rfl rfl)
theorem dX4_feed_79 : decode cX4_feed 79 = .ok (.ifCond .lt 34, 3) := dk_155 0 34 (dk_at dksX4_feed_3 10 rfl rfl)
theorem dX4_feed_82 : decode cX4_feed 82 = .ok (.aload_n 0, 1) := dk_42 (dk_at dksX4_feed_3 13 rfl rfl)
theorem dX4_feed_83 : decode cX4_feed 83 = .ok (.getfield 7, 3) := dk_180 0 7 (dk_at dksX4_feed_3 14 rfl rfl)
theorem dX4_feed_86 : decode cX4_feed 86 = .ok (.aload_n 0, 1) := dk_42 (dk_at dksX4_feed_3 17 rfl rfl)
theorem dX4_feed_87 : decode cX4_feed 87 = .ok (.getfield 149, 3) := dk_180 0 149 (dk_at dksX4_feed_3 18 rfl rfl)
theorem dX4_feed_90 : decode cX4_feed 90 = .ok (.iload 7, 2) := dk_21 7 (dk_at dksX4_feed_3 21 rfl rfl)
theorem dX4_feed_92 : decode cX4_feed 92 = .ok (.iload 8, 2) := dk_21 8 (dk_at dksX4_feed_4 0 rfl rfl)
theorem dX4_feed_94 : decode cX4_feed 94 = .ok (.ishr, 1) := dk_122 (dk_at dksX4_feed_4 2 rfl rfl)
theorem dX4_feed_95 : decode cX4_feed 95 = .ok (.i2b, 1) := dk_145 (dk_at dksX4_feed_4 3 rfl rfl)
theorem dX4_feed_96 : decode cX4_feed 96 = .ok (.bastore, 1) := dk_84 (dk_at dksX4_feed_4 4 rfl rfl)
theorem dX4_feed_97 : decode cX4_feed 97 = .ok (.aload_n 0, 1) := dk_42 (dk_at dksX4_feed_4 5 rfl rfl)
theorem dX4_feed_98 : decode cX4_feed 98 = .ok (.dup, 1) := dk_89 (dk_at dksX4_feed_4 6 rfl rfl)
theorem dX4_feed_99 : decode cX4_feed 99 = .ok (.getfield 149, 3) := dk_180 0 149 (dk_at dksX4_feed_4 7 rfl rfl)
theorem dX4_feed_102 : decode cX4_feed 102 = .ok (.iconst 1, 1) := dk_4 (dk_at dksX4_feed_4 10 rfl rfl)
theorem dX4_feed_103 : decode cX4_feed 103 = .ok (.iadd, 1) := dk_96 (dk_at dksX4_feed_4 11 rfl rfl)
theorem dX4_feed_104 : decode cX4_feed 104 = .ok (.putfield 149, 3) := dk_181 0 149 (dk_at dksX4_feed_4 12 rfl rfl)
theorem dX4_feed_107 : decode cX4_feed 107 = .ok (.iinc 8 (-8), 3) := dk_132 8 248 (dk_at dksX4_feed_4 15 rfl rfl)
theorem dX4_feed_110 : decode cX4_feed 110 = .ok (.goto (-33), 3) := dk_167 255 223 (dk_at dksX4_feed_4 18 rfl rfl)
theorem dX4_feed_113 : decode cX4_feed 113 = .ok (.iinc 6 1, 3) := dk_132 6 1 (dk_at dksX4_feed_4 21 rfl rfl)
theorem dX4_feed_116 : decode cX4_feed 116 = .ok (.goto (-93), 3) := dk_167 255 163 (dk_at dksX4_feed_5 0 rfl rfl)
theorem dX4_feed_119 : decode cX4_feed 119 = .ok (.aload_n 0, 1) := dk_42 (dk_at dksX4_feed_5 3 rfl rfl)
theorem dX4_feed_120 : decode cX4_feed 120 = .ok (.getfield 149, 3) := dk_180 0 149 (dk_at dksX4_feed_5 4 rfl rfl)
theorem dX4_feed_123 : decode cX4_feed 123 = .ok (.ireturn, 1) := dk_172 (dk_at dksX4_feed_5 7 rfl rfl)
abbrev cX4_act : ByteArray := prog_33_method_25_code
def yX4_act : MethodName := ⟨RX4, "act", "(II)I"⟩
def dkwX4_act_8 : List UInt8 := [180, 1, 33, 4, 100, 172]
abbrev dktX4_act_8 : List UInt8 := dkwX4_act_8 ++ []
def dkwX4_act_7 : List UInt8 := [21, 4, 79, 42, 180, 0, 21, 42, 180, 1, 33, 28, 79, 42, 89, 180, 1, 33, 4, 96, 181, 1, 33, 42]
abbrev dktX4_act_7 : List UInt8 := dkwX4_act_7 ++ dktX4_act_8
def dkwX4_act_6 : List UInt8 := [158, 0, 16, 42, 29, 181, 0, 204, 42, 180, 0, 162, 16, 10, 100, 172, 42, 180, 0, 17, 42, 180, 1, 33]
abbrev dktX4_act_6 : List UInt8 := dkwX4_act_6 ++ dktX4_act_7
def dkwX4_act_5 : List UInt8 := [162, 0, 19, 42, 21, 4, 182, 1, 56, 132, 4, 1, 42, 182, 0, 165, 167, 255, 225, 42, 180, 0, 162]
abbrev dktX4_act_5 : List UInt8 := dkwX4_act_5 ++ dktX4_act_6
def dkwX4_act_4 : List UInt8 := [62, 3, 54, 4, 42, 182, 0, 165, 42, 180, 0, 162, 154, 0, 30, 42, 180, 0, 155, 42, 180, 0, 152]
abbrev dktX4_act_4 : List UInt8 := dkwX4_act_4 ++ dktX4_act_5
def dkwX4_act_3 : List UInt8 := [42, 3, 181, 0, 149, 42, 3, 181, 0, 155, 42, 3, 181, 0, 162, 42, 2, 181, 0, 13, 42, 180, 0, 204]
abbrev dktX4_act_3 : List UInt8 := dkwX4_act_3 ++ dktX4_act_4
def dkwX4_act_2 : List UInt8 := [16, 12, 160, 0, 7, 4, 167, 0, 4, 3, 5, 182, 1, 52, 153, 0, 5, 3, 172, 42, 27, 181, 0, 152]
abbrev dktX4_act_2 : List UInt8 := dkwX4_act_2 ++ dktX4_act_3
def dkwX4_act_1 : List UInt8 := [17, 39, 15, 164, 0, 7, 4, 167, 0, 4, 3, 4, 182, 1, 52, 154, 0, 25, 42, 42, 180, 1, 33]
abbrev dktX4_act_1 : List UInt8 := dkwX4_act_1 ++ dktX4_act_2
def dkwX4_act_0 : List UInt8 := [42, 3, 181, 0, 146, 42, 27, 155, 0, 22, 27, 42, 180, 0, 149, 163, 0, 14, 28, 155, 0, 10, 28]
abbrev dktX4_act_0 : List UInt8 := dkwX4_act_0 ++ dktX4_act_1
theorem dksX4_act_0 : cX4_act.data.toList.drop 0 = dktX4_act_0 := by decide +kernel
theorem dksX4_act_1 : cX4_act.data.toList.drop 23 = dktX4_act_1 := dk_seg dksX4_act_0 23 rfl rfl
theorem dksX4_act_2 : cX4_act.data.toList.drop 46 = dktX4_act_2 := dk_seg dksX4_act_1 23 rfl rfl
theorem dksX4_act_3 : cX4_act.data.toList.drop 70 = dktX4_act_3 := dk_seg dksX4_act_2 24 rfl rfl
theorem dksX4_act_4 : cX4_act.data.toList.drop 94 = dktX4_act_4 := dk_seg dksX4_act_3 24 rfl rfl
theorem dksX4_act_5 : cX4_act.data.toList.drop 117 = dktX4_act_5 := dk_seg dksX4_act_4 23 rfl rfl
theorem dksX4_act_6 : cX4_act.data.toList.drop 140 = dktX4_act_6 := dk_seg dksX4_act_5 23 rfl rfl
theorem dksX4_act_7 : cX4_act.data.toList.drop 164 = dktX4_act_7 := dk_seg dksX4_act_6 24 rfl rfl
theorem dksX4_act_8 : cX4_act.data.toList.drop 188 = dktX4_act_8 := dk_seg dksX4_act_7 24 rfl rfl
theorem dX4_act_0 : decode cX4_act 0 = .ok (.aload_n 0, 1) := dk_42 (dk_at dksX4_act_0 0 rfl rfl)
theorem dX4_act_1 : decode cX4_act 1 = .ok (.iconst 0, 1) := dk_3 (dk_at dksX4_act_0 1 rfl rfl)
theorem dX4_act_2 : decode cX4_act 2 = .ok (.putfield 146, 3) := dk_181 0 146 (dk_at dksX4_act_0 2 rfl rfl)
theorem dX4_act_5 : decode cX4_act 5 = .ok (.aload_n 0, 1) := dk_42 (dk_at dksX4_act_0 5 rfl rfl)
theorem dX4_act_6 : decode cX4_act 6 = .ok (.iload_n 1, 1) := dk_27 (dk_at dksX4_act_0 6 rfl rfl)
theorem dX4_act_7 : decode cX4_act 7 = .ok (.ifCond .lt 22, 3) := dk_155 0 22 (dk_at dksX4_act_0 7 rfl rfl)
theorem dX4_act_10 : decode cX4_act 10 = .ok (.iload_n 1, 1) := dk_27 (dk_at dksX4_act_0 10 rfl rfl)
theorem dX4_act_11 : decode cX4_act 11 = .ok (.aload_n 0, 1) := dk_42 (dk_at dksX4_act_0 11 rfl rfl)
theorem dX4_act_12 : decode cX4_act 12 = .ok (.getfield 149, 3) := dk_180 0 149 (dk_at dksX4_act_0 12 rfl rfl)
theorem dX4_act_15 : decode cX4_act 15 = .ok (.if_icmp .gt 14, 3) := dk_163 0 14 (dk_at dksX4_act_0 15 rfl rfl)
theorem dX4_act_18 : decode cX4_act 18 = .ok (.iload_n 2, 1) := dk_28 (dk_at dksX4_act_0 18 rfl rfl)
theorem dX4_act_19 : decode cX4_act 19 = .ok (.ifCond .lt 10, 3) := dk_155 0 10 (dk_at dksX4_act_0 19 rfl rfl)
theorem dX4_act_22 : decode cX4_act 22 = .ok (.iload_n 2, 1) := dk_28 (dk_at dksX4_act_0 22 rfl rfl)
theorem dX4_act_23 : decode cX4_act 23 = .ok (.sipush 9999, 3) := dk_17 39 15 (dk_at dksX4_act_1 0 rfl rfl)
theorem dX4_act_26 : decode cX4_act 26 = .ok (.if_icmp .le 7, 3) := dk_164 0 7 (dk_at dksX4_act_1 3 rfl rfl)
theorem dX4_act_29 : decode cX4_act 29 = .ok (.iconst 1, 1) := dk_4 (dk_at dksX4_act_1 6 rfl rfl)
theorem dX4_act_30 : decode cX4_act 30 = .ok (.goto 4, 3) := dk_167 0 4 (dk_at dksX4_act_1 7 rfl rfl)
theorem dX4_act_33 : decode cX4_act 33 = .ok (.iconst 0, 1) := dk_3 (dk_at dksX4_act_1 10 rfl rfl)
theorem dX4_act_34 : decode cX4_act 34 = .ok (.iconst 1, 1) := dk_4 (dk_at dksX4_act_1 11 rfl rfl)
theorem dX4_act_35 : decode cX4_act 35 = .ok (.invokevirtual 308, 3) := dk_182 1 52 (dk_at dksX4_act_1 12 rfl rfl)
theorem dX4_act_38 : decode cX4_act 38 = .ok (.ifCond .ne 25, 3) := dk_154 0 25 (dk_at dksX4_act_1 15 rfl rfl)
theorem dX4_act_41 : decode cX4_act 41 = .ok (.aload_n 0, 1) := dk_42 (dk_at dksX4_act_1 18 rfl rfl)
theorem dX4_act_42 : decode cX4_act 42 = .ok (.aload_n 0, 1) := dk_42 (dk_at dksX4_act_1 19 rfl rfl)
theorem dX4_act_43 : decode cX4_act 43 = .ok (.getfield 289, 3) := dk_180 1 33 (dk_at dksX4_act_1 20 rfl rfl)
theorem dX4_act_46 : decode cX4_act 46 = .ok (.bipush 12, 2) := dk_16 12 (dk_at dksX4_act_2 0 rfl rfl)
theorem dX4_act_48 : decode cX4_act 48 = .ok (.if_icmp .ne 7, 3) := dk_160 0 7 (dk_at dksX4_act_2 2 rfl rfl)
theorem dX4_act_51 : decode cX4_act 51 = .ok (.iconst 1, 1) := dk_4 (dk_at dksX4_act_2 5 rfl rfl)
theorem dX4_act_52 : decode cX4_act 52 = .ok (.goto 4, 3) := dk_167 0 4 (dk_at dksX4_act_2 6 rfl rfl)
theorem dX4_act_55 : decode cX4_act 55 = .ok (.iconst 0, 1) := dk_3 (dk_at dksX4_act_2 9 rfl rfl)
theorem dX4_act_56 : decode cX4_act 56 = .ok (.iconst 2, 1) := dk_5 (dk_at dksX4_act_2 10 rfl rfl)
theorem dX4_act_57 : decode cX4_act 57 = .ok (.invokevirtual 308, 3) := dk_182 1 52 (dk_at dksX4_act_2 11 rfl rfl)
theorem dX4_act_60 : decode cX4_act 60 = .ok (.ifCond .eq 5, 3) := dk_153 0 5 (dk_at dksX4_act_2 14 rfl rfl)
theorem dX4_act_63 : decode cX4_act 63 = .ok (.iconst 0, 1) := dk_3 (dk_at dksX4_act_2 17 rfl rfl)
theorem dX4_act_64 : decode cX4_act 64 = .ok (.ireturn, 1) := dk_172 (dk_at dksX4_act_2 18 rfl rfl)
theorem dX4_act_65 : decode cX4_act 65 = .ok (.aload_n 0, 1) := dk_42 (dk_at dksX4_act_2 19 rfl rfl)
theorem dX4_act_66 : decode cX4_act 66 = .ok (.iload_n 1, 1) := dk_27 (dk_at dksX4_act_2 20 rfl rfl)
theorem dX4_act_67 : decode cX4_act 67 = .ok (.putfield 152, 3) := dk_181 0 152 (dk_at dksX4_act_2 21 rfl rfl)
theorem dX4_act_70 : decode cX4_act 70 = .ok (.aload_n 0, 1) := dk_42 (dk_at dksX4_act_3 0 rfl rfl)
theorem dX4_act_71 : decode cX4_act 71 = .ok (.iconst 0, 1) := dk_3 (dk_at dksX4_act_3 1 rfl rfl)
theorem dX4_act_72 : decode cX4_act 72 = .ok (.putfield 149, 3) := dk_181 0 149 (dk_at dksX4_act_3 2 rfl rfl)
theorem dX4_act_75 : decode cX4_act 75 = .ok (.aload_n 0, 1) := dk_42 (dk_at dksX4_act_3 5 rfl rfl)
theorem dX4_act_76 : decode cX4_act 76 = .ok (.iconst 0, 1) := dk_3 (dk_at dksX4_act_3 6 rfl rfl)
theorem dX4_act_77 : decode cX4_act 77 = .ok (.putfield 155, 3) := dk_181 0 155 (dk_at dksX4_act_3 7 rfl rfl)
theorem dX4_act_80 : decode cX4_act 80 = .ok (.aload_n 0, 1) := dk_42 (dk_at dksX4_act_3 10 rfl rfl)
theorem dX4_act_81 : decode cX4_act 81 = .ok (.iconst 0, 1) := dk_3 (dk_at dksX4_act_3 11 rfl rfl)
theorem dX4_act_82 : decode cX4_act 82 = .ok (.putfield 162, 3) := dk_181 0 162 (dk_at dksX4_act_3 12 rfl rfl)
theorem dX4_act_85 : decode cX4_act 85 = .ok (.aload_n 0, 1) := dk_42 (dk_at dksX4_act_3 15 rfl rfl)
theorem dX4_act_86 : decode cX4_act 86 = .ok (.iconst (-1), 1) := dk_2 (dk_at dksX4_act_3 16 rfl rfl)
theorem dX4_act_87 : decode cX4_act 87 = .ok (.putfield 13, 3) := dk_181 0 13 (dk_at dksX4_act_3 17 rfl rfl)
theorem dX4_act_90 : decode cX4_act 90 = .ok (.aload_n 0, 1) := dk_42 (dk_at dksX4_act_3 20 rfl rfl)
theorem dX4_act_91 : decode cX4_act 91 = .ok (.getfield 204, 3) := dk_180 0 204 (dk_at dksX4_act_3 21 rfl rfl)
theorem dX4_act_94 : decode cX4_act 94 = .ok (.istore_n 3, 1) := dk_62 (dk_at dksX4_act_4 0 rfl rfl)
theorem dX4_act_95 : decode cX4_act 95 = .ok (.iconst 0, 1) := dk_3 (dk_at dksX4_act_4 1 rfl rfl)
theorem dX4_act_96 : decode cX4_act 96 = .ok (.istore 4, 2) := dk_54 4 (dk_at dksX4_act_4 2 rfl rfl)
theorem dX4_act_98 : decode cX4_act 98 = .ok (.aload_n 0, 1) := dk_42 (dk_at dksX4_act_4 4 rfl rfl)
theorem dX4_act_99 : decode cX4_act 99 = .ok (.invokevirtual 165, 3) := dk_182 0 165 (dk_at dksX4_act_4 5 rfl rfl)
theorem dX4_act_102 : decode cX4_act 102 = .ok (.aload_n 0, 1) := dk_42 (dk_at dksX4_act_4 8 rfl rfl)
theorem dX4_act_103 : decode cX4_act 103 = .ok (.getfield 162, 3) := dk_180 0 162 (dk_at dksX4_act_4 9 rfl rfl)
theorem dX4_act_106 : decode cX4_act 106 = .ok (.ifCond .ne 30, 3) := dk_154 0 30 (dk_at dksX4_act_4 12 rfl rfl)
theorem dX4_act_109 : decode cX4_act 109 = .ok (.aload_n 0, 1) := dk_42 (dk_at dksX4_act_4 15 rfl rfl)
theorem dX4_act_110 : decode cX4_act 110 = .ok (.getfield 155, 3) := dk_180 0 155 (dk_at dksX4_act_4 16 rfl rfl)
theorem dX4_act_113 : decode cX4_act 113 = .ok (.aload_n 0, 1) := dk_42 (dk_at dksX4_act_4 19 rfl rfl)
theorem dX4_act_114 : decode cX4_act 114 = .ok (.getfield 152, 3) := dk_180 0 152 (dk_at dksX4_act_4 20 rfl rfl)
theorem dX4_act_117 : decode cX4_act 117 = .ok (.if_icmp .ge 19, 3) := dk_162 0 19 (dk_at dksX4_act_5 0 rfl rfl)
theorem dX4_act_120 : decode cX4_act 120 = .ok (.aload_n 0, 1) := dk_42 (dk_at dksX4_act_5 3 rfl rfl)
theorem dX4_act_121 : decode cX4_act 121 = .ok (.iload 4, 2) := dk_21 4 (dk_at dksX4_act_5 4 rfl rfl)
theorem dX4_act_123 : decode cX4_act 123 = .ok (.invokevirtual 312, 3) := dk_182 1 56 (dk_at dksX4_act_5 6 rfl rfl)
theorem dX4_act_126 : decode cX4_act 126 = .ok (.iinc 4 1, 3) := dk_132 4 1 (dk_at dksX4_act_5 9 rfl rfl)
theorem dX4_act_129 : decode cX4_act 129 = .ok (.aload_n 0, 1) := dk_42 (dk_at dksX4_act_5 12 rfl rfl)
theorem dX4_act_130 : decode cX4_act 130 = .ok (.invokevirtual 165, 3) := dk_182 0 165 (dk_at dksX4_act_5 13 rfl rfl)
theorem dX4_act_133 : decode cX4_act 133 = .ok (.goto (-31), 3) := dk_167 255 225 (dk_at dksX4_act_5 16 rfl rfl)
theorem dX4_act_136 : decode cX4_act 136 = .ok (.aload_n 0, 1) := dk_42 (dk_at dksX4_act_5 19 rfl rfl)
theorem dX4_act_137 : decode cX4_act 137 = .ok (.getfield 162, 3) := dk_180 0 162 (dk_at dksX4_act_5 20 rfl rfl)
theorem dX4_act_140 : decode cX4_act 140 = .ok (.ifCond .le 16, 3) := dk_158 0 16 (dk_at dksX4_act_6 0 rfl rfl)
theorem dX4_act_143 : decode cX4_act 143 = .ok (.aload_n 0, 1) := dk_42 (dk_at dksX4_act_6 3 rfl rfl)
theorem dX4_act_144 : decode cX4_act 144 = .ok (.iload_n 3, 1) := dk_29 (dk_at dksX4_act_6 4 rfl rfl)
theorem dX4_act_145 : decode cX4_act 145 = .ok (.putfield 204, 3) := dk_181 0 204 (dk_at dksX4_act_6 5 rfl rfl)
theorem dX4_act_148 : decode cX4_act 148 = .ok (.aload_n 0, 1) := dk_42 (dk_at dksX4_act_6 8 rfl rfl)
theorem dX4_act_149 : decode cX4_act 149 = .ok (.getfield 162, 3) := dk_180 0 162 (dk_at dksX4_act_6 9 rfl rfl)
theorem dX4_act_152 : decode cX4_act 152 = .ok (.bipush 10, 2) := dk_16 10 (dk_at dksX4_act_6 12 rfl rfl)
theorem dX4_act_154 : decode cX4_act 154 = .ok (.isub, 1) := dk_100 (dk_at dksX4_act_6 14 rfl rfl)
theorem dX4_act_155 : decode cX4_act 155 = .ok (.ireturn, 1) := dk_172 (dk_at dksX4_act_6 15 rfl rfl)
theorem dX4_act_156 : decode cX4_act 156 = .ok (.aload_n 0, 1) := dk_42 (dk_at dksX4_act_6 16 rfl rfl)
theorem dX4_act_157 : decode cX4_act 157 = .ok (.getfield 17, 3) := dk_180 0 17 (dk_at dksX4_act_6 17 rfl rfl)
theorem dX4_act_160 : decode cX4_act 160 = .ok (.aload_n 0, 1) := dk_42 (dk_at dksX4_act_6 20 rfl rfl)
theorem dX4_act_161 : decode cX4_act 161 = .ok (.getfield 289, 3) := dk_180 1 33 (dk_at dksX4_act_6 21 rfl rfl)
theorem dX4_act_164 : decode cX4_act 164 = .ok (.iload 4, 2) := dk_21 4 (dk_at dksX4_act_7 0 rfl rfl)
theorem dX4_act_166 : decode cX4_act 166 = .ok (.iastore, 1) := dk_79 (dk_at dksX4_act_7 2 rfl rfl)
theorem dX4_act_167 : decode cX4_act 167 = .ok (.aload_n 0, 1) := dk_42 (dk_at dksX4_act_7 3 rfl rfl)
theorem dX4_act_168 : decode cX4_act 168 = .ok (.getfield 21, 3) := dk_180 0 21 (dk_at dksX4_act_7 4 rfl rfl)
theorem dX4_act_171 : decode cX4_act 171 = .ok (.aload_n 0, 1) := dk_42 (dk_at dksX4_act_7 7 rfl rfl)
theorem dX4_act_172 : decode cX4_act 172 = .ok (.getfield 289, 3) := dk_180 1 33 (dk_at dksX4_act_7 8 rfl rfl)
theorem dX4_act_175 : decode cX4_act 175 = .ok (.iload_n 2, 1) := dk_28 (dk_at dksX4_act_7 11 rfl rfl)
theorem dX4_act_176 : decode cX4_act 176 = .ok (.iastore, 1) := dk_79 (dk_at dksX4_act_7 12 rfl rfl)
theorem dX4_act_177 : decode cX4_act 177 = .ok (.aload_n 0, 1) := dk_42 (dk_at dksX4_act_7 13 rfl rfl)
theorem dX4_act_178 : decode cX4_act 178 = .ok (.dup, 1) := dk_89 (dk_at dksX4_act_7 14 rfl rfl)
theorem dX4_act_179 : decode cX4_act 179 = .ok (.getfield 289, 3) := dk_180 1 33 (dk_at dksX4_act_7 15 rfl rfl)
theorem dX4_act_182 : decode cX4_act 182 = .ok (.iconst 1, 1) := dk_4 (dk_at dksX4_act_7 18 rfl rfl)
theorem dX4_act_183 : decode cX4_act 183 = .ok (.iadd, 1) := dk_96 (dk_at dksX4_act_7 19 rfl rfl)
theorem dX4_act_184 : decode cX4_act 184 = .ok (.putfield 289, 3) := dk_181 1 33 (dk_at dksX4_act_7 20 rfl rfl)
theorem dX4_act_187 : decode cX4_act 187 = .ok (.aload_n 0, 1) := dk_42 (dk_at dksX4_act_7 23 rfl rfl)
theorem dX4_act_188 : decode cX4_act 188 = .ok (.getfield 289, 3) := dk_180 1 33 (dk_at dksX4_act_8 0 rfl rfl)
theorem dX4_act_191 : decode cX4_act 191 = .ok (.iconst 1, 1) := dk_4 (dk_at dksX4_act_8 3 rfl rfl)
theorem dX4_act_192 : decode cX4_act 192 = .ok (.isub, 1) := dk_100 (dk_at dksX4_act_8 4 rfl rfl)
theorem dX4_act_193 : decode cX4_act 193 = .ok (.ireturn, 1) := dk_172 (dk_at dksX4_act_8 5 rfl rfl)
abbrev cX4_bad : ByteArray := prog_33_method_3_code
def yX4_bad : MethodName := ⟨RX4, "bad", "(ZI)Z"⟩
def dkwX4_bad_0 : List UInt8 := [27, 153, 0, 8, 42, 28, 181, 0, 146, 27, 172]
abbrev dktX4_bad_0 : List UInt8 := dkwX4_bad_0 ++ []
theorem dksX4_bad_0 : cX4_bad.data.toList.drop 0 = dktX4_bad_0 := by decide +kernel
theorem dX4_bad_0 : decode cX4_bad 0 = .ok (.iload_n 1, 1) := dk_27 (dk_at dksX4_bad_0 0 rfl rfl)
theorem dX4_bad_1 : decode cX4_bad 1 = .ok (.ifCond .eq 8, 3) := dk_153 0 8 (dk_at dksX4_bad_0 1 rfl rfl)
theorem dX4_bad_4 : decode cX4_bad 4 = .ok (.aload_n 0, 1) := dk_42 (dk_at dksX4_bad_0 4 rfl rfl)
theorem dX4_bad_5 : decode cX4_bad 5 = .ok (.iload_n 2, 1) := dk_28 (dk_at dksX4_bad_0 5 rfl rfl)
theorem dX4_bad_6 : decode cX4_bad 6 = .ok (.putfield 146, 3) := dk_181 0 146 (dk_at dksX4_bad_0 6 rfl rfl)
theorem dX4_bad_9 : decode cX4_bad 9 = .ok (.iload_n 1, 1) := dk_27 (dk_at dksX4_bad_0 9 rfl rfl)
theorem dX4_bad_10 : decode cX4_bad 10 = .ok (.ireturn, 1) := dk_172 (dk_at dksX4_bad_0 10 rfl rfl)
abbrev cX4_blanks : ByteArray := prog_33_method_6_code
def yX4_blanks : MethodName := ⟨RX4, "blanks", "()V"⟩
def dkwX4_blanks_2 : List UInt8 := [167, 255, 209, 177]
abbrev dktX4_blanks_2 : List UInt8 := dkwX4_blanks_2 ++ []
def dkwX4_blanks_1 : List UInt8 := [42, 42, 180, 0, 155, 182, 0, 158, 16, 10, 160, 0, 16, 42, 89, 180, 0, 155, 4, 96, 181, 0, 155]
abbrev dktX4_blanks_1 : List UInt8 := dkwX4_blanks_1 ++ dktX4_blanks_2
def dkwX4_blanks_0 : List UInt8 := [42, 180, 0, 155, 42, 180, 0, 152, 162, 0, 42, 42, 42, 180, 0, 155, 182, 0, 158, 16, 32, 159, 0, 16]
abbrev dktX4_blanks_0 : List UInt8 := dkwX4_blanks_0 ++ dktX4_blanks_1
theorem dksX4_blanks_0 : cX4_blanks.data.toList.drop 0 = dktX4_blanks_0 := by decide +kernel
theorem dksX4_blanks_1 : cX4_blanks.data.toList.drop 24 = dktX4_blanks_1 := dk_seg dksX4_blanks_0 24 rfl rfl
theorem dksX4_blanks_2 : cX4_blanks.data.toList.drop 47 = dktX4_blanks_2 := dk_seg dksX4_blanks_1 23 rfl rfl
theorem dX4_blanks_0 : decode cX4_blanks 0 = .ok (.aload_n 0, 1) := dk_42 (dk_at dksX4_blanks_0 0 rfl rfl)
theorem dX4_blanks_1 : decode cX4_blanks 1 = .ok (.getfield 155, 3) := dk_180 0 155 (dk_at dksX4_blanks_0 1 rfl rfl)
theorem dX4_blanks_4 : decode cX4_blanks 4 = .ok (.aload_n 0, 1) := dk_42 (dk_at dksX4_blanks_0 4 rfl rfl)
theorem dX4_blanks_5 : decode cX4_blanks 5 = .ok (.getfield 152, 3) := dk_180 0 152 (dk_at dksX4_blanks_0 5 rfl rfl)
theorem dX4_blanks_8 : decode cX4_blanks 8 = .ok (.if_icmp .ge 42, 3) := dk_162 0 42 (dk_at dksX4_blanks_0 8 rfl rfl)
theorem dX4_blanks_11 : decode cX4_blanks 11 = .ok (.aload_n 0, 1) := dk_42 (dk_at dksX4_blanks_0 11 rfl rfl)
theorem dX4_blanks_12 : decode cX4_blanks 12 = .ok (.aload_n 0, 1) := dk_42 (dk_at dksX4_blanks_0 12 rfl rfl)
theorem dX4_blanks_13 : decode cX4_blanks 13 = .ok (.getfield 155, 3) := dk_180 0 155 (dk_at dksX4_blanks_0 13 rfl rfl)
theorem dX4_blanks_16 : decode cX4_blanks 16 = .ok (.invokevirtual 158, 3) := dk_182 0 158 (dk_at dksX4_blanks_0 16 rfl rfl)
theorem dX4_blanks_19 : decode cX4_blanks 19 = .ok (.bipush 32, 2) := dk_16 32 (dk_at dksX4_blanks_0 19 rfl rfl)
theorem dX4_blanks_21 : decode cX4_blanks 21 = .ok (.if_icmp .eq 16, 3) := dk_159 0 16 (dk_at dksX4_blanks_0 21 rfl rfl)
theorem dX4_blanks_24 : decode cX4_blanks 24 = .ok (.aload_n 0, 1) := dk_42 (dk_at dksX4_blanks_1 0 rfl rfl)
theorem dX4_blanks_25 : decode cX4_blanks 25 = .ok (.aload_n 0, 1) := dk_42 (dk_at dksX4_blanks_1 1 rfl rfl)
theorem dX4_blanks_26 : decode cX4_blanks 26 = .ok (.getfield 155, 3) := dk_180 0 155 (dk_at dksX4_blanks_1 2 rfl rfl)
theorem dX4_blanks_29 : decode cX4_blanks 29 = .ok (.invokevirtual 158, 3) := dk_182 0 158 (dk_at dksX4_blanks_1 5 rfl rfl)
theorem dX4_blanks_32 : decode cX4_blanks 32 = .ok (.bipush 10, 2) := dk_16 10 (dk_at dksX4_blanks_1 8 rfl rfl)
theorem dX4_blanks_34 : decode cX4_blanks 34 = .ok (.if_icmp .ne 16, 3) := dk_160 0 16 (dk_at dksX4_blanks_1 10 rfl rfl)
theorem dX4_blanks_37 : decode cX4_blanks 37 = .ok (.aload_n 0, 1) := dk_42 (dk_at dksX4_blanks_1 13 rfl rfl)
theorem dX4_blanks_38 : decode cX4_blanks 38 = .ok (.dup, 1) := dk_89 (dk_at dksX4_blanks_1 14 rfl rfl)
theorem dX4_blanks_39 : decode cX4_blanks 39 = .ok (.getfield 155, 3) := dk_180 0 155 (dk_at dksX4_blanks_1 15 rfl rfl)
theorem dX4_blanks_42 : decode cX4_blanks 42 = .ok (.iconst 1, 1) := dk_4 (dk_at dksX4_blanks_1 18 rfl rfl)
theorem dX4_blanks_43 : decode cX4_blanks 43 = .ok (.iadd, 1) := dk_96 (dk_at dksX4_blanks_1 19 rfl rfl)
theorem dX4_blanks_44 : decode cX4_blanks 44 = .ok (.putfield 155, 3) := dk_181 0 155 (dk_at dksX4_blanks_1 20 rfl rfl)
theorem dX4_blanks_47 : decode cX4_blanks 47 = .ok (.goto (-47), 3) := dk_167 255 209 (dk_at dksX4_blanks_2 0 rfl rfl)
theorem dX4_blanks_50 : decode cX4_blanks 50 = .ok (.return_, 1) := dk_177 (dk_at dksX4_blanks_2 3 rfl rfl)
abbrev cX4_byteAt : ByteArray := prog_33_method_5_code
def yX4_byteAt : MethodName := ⟨RX4, "byteAt", "(I)I"⟩
def dkwX4_byteAt_0 : List UInt8 := [27, 42, 180, 0, 152, 162, 0, 16, 42, 180, 0, 7, 27, 51, 17, 0, 255, 126, 167, 0, 4, 3, 172]
abbrev dktX4_byteAt_0 : List UInt8 := dkwX4_byteAt_0 ++ []
theorem dksX4_byteAt_0 : cX4_byteAt.data.toList.drop 0 = dktX4_byteAt_0 := by decide +kernel
theorem dX4_byteAt_0 : decode cX4_byteAt 0 = .ok (.iload_n 1, 1) := dk_27 (dk_at dksX4_byteAt_0 0 rfl rfl)
theorem dX4_byteAt_1 : decode cX4_byteAt 1 = .ok (.aload_n 0, 1) := dk_42 (dk_at dksX4_byteAt_0 1 rfl rfl)
theorem dX4_byteAt_2 : decode cX4_byteAt 2 = .ok (.getfield 152, 3) := dk_180 0 152 (dk_at dksX4_byteAt_0 2 rfl rfl)
theorem dX4_byteAt_5 : decode cX4_byteAt 5 = .ok (.if_icmp .ge 16, 3) := dk_162 0 16 (dk_at dksX4_byteAt_0 5 rfl rfl)
theorem dX4_byteAt_8 : decode cX4_byteAt 8 = .ok (.aload_n 0, 1) := dk_42 (dk_at dksX4_byteAt_0 8 rfl rfl)
theorem dX4_byteAt_9 : decode cX4_byteAt 9 = .ok (.getfield 7, 3) := dk_180 0 7 (dk_at dksX4_byteAt_0 9 rfl rfl)
theorem dX4_byteAt_12 : decode cX4_byteAt 12 = .ok (.iload_n 1, 1) := dk_27 (dk_at dksX4_byteAt_0 12 rfl rfl)
theorem dX4_byteAt_13 : decode cX4_byteAt 13 = .ok (.baload, 1) := dk_51 (dk_at dksX4_byteAt_0 13 rfl rfl)
theorem dX4_byteAt_14 : decode cX4_byteAt 14 = .ok (.sipush 255, 3) := dk_17 0 255 (dk_at dksX4_byteAt_0 14 rfl rfl)
theorem dX4_byteAt_17 : decode cX4_byteAt 17 = .ok (.iand, 1) := dk_126 (dk_at dksX4_byteAt_0 17 rfl rfl)
theorem dX4_byteAt_18 : decode cX4_byteAt 18 = .ok (.goto 4, 3) := dk_167 0 4 (dk_at dksX4_byteAt_0 18 rfl rfl)
theorem dX4_byteAt_21 : decode cX4_byteAt 21 = .ok (.iconst 0, 1) := dk_3 (dk_at dksX4_byteAt_0 21 rfl rfl)
theorem dX4_byteAt_22 : decode cX4_byteAt 22 = .ok (.ireturn, 1) := dk_172 (dk_at dksX4_byteAt_0 22 rfl rfl)
abbrev cX4_clause : ByteArray := prog_33_method_24_code
def yX4_clause : MethodName := ⟨RX4, "clause", "(I)V"⟩
def dkwX4_clause_12 : List UInt8 := [180, 0, 204, 79, 42, 16, 59, 182, 0, 240, 87, 177]
abbrev dktX4_clause_12 : List UInt8 := dkwX4_clause_12 ++ []
def dkwX4_clause_11 : List UInt8 := [3, 181, 0, 228, 42, 19, 1, 50, 182, 0, 216, 153, 0, 7, 42, 182, 0, 237, 42, 180, 0, 36, 28, 42]
abbrev dktX4_clause_11 : List UInt8 := dkwX4_clause_11 ++ dktX4_clause_12
def dkwX4_clause_10 : List UInt8 := [182, 0, 216, 153, 0, 8, 16, 6, 167, 0, 4, 8, 79, 42, 180, 0, 33, 28, 42, 180, 0, 204, 79, 42]
abbrev dktX4_clause_10 : List UInt8 := dkwX4_clause_10 ++ dktX4_clause_11
def dkwX4_clause_9 : List UInt8 := [167, 0, 35, 42, 19, 1, 42, 182, 0, 216, 153, 0, 25, 42, 180, 0, 24, 28, 42, 19, 1, 48]
abbrev dktX4_clause_9 : List UInt8 := dkwX4_clause_9 ++ dktX4_clause_10
def dkwX4_clause_8 : List UInt8 := [182, 1, 11, 79, 42, 16, 47, 182, 0, 240, 87, 42, 180, 0, 30, 28, 42, 4, 182, 1, 11, 79]
abbrev dktX4_clause_8 : List UInt8 := dkwX4_clause_8 ++ dktX4_clause_9
def dkwX4_clause_7 : List UInt8 := [19, 1, 40, 182, 0, 216, 153, 0, 42, 42, 180, 0, 24, 28, 7, 79, 42, 180, 0, 27, 28, 42, 3]
abbrev dktX4_clause_7 : List UInt8 := dkwX4_clause_7 ++ dktX4_clause_8
def dkwX4_clause_6 : List UInt8 := [167, 0, 18, 42, 19, 1, 46, 182, 0, 216, 153, 0, 7, 6, 167, 0, 4, 4, 79, 167, 0, 84, 42]
abbrev dktX4_clause_6 : List UInt8 := dkwX4_clause_6 ++ dktX4_clause_7
def dkwX4_clause_5 : List UInt8 := [28, 42, 3, 182, 1, 11, 79, 42, 180, 0, 24, 28, 42, 19, 1, 44, 182, 0, 216, 153, 0, 7, 5]
abbrev dktX4_clause_5 : List UInt8 := dkwX4_clause_5 ++ dktX4_clause_6
def dkwX4_clause_4 : List UInt8 := [42, 180, 0, 24, 28, 3, 79, 167, 0, 143, 42, 19, 1, 38, 182, 0, 216, 153, 0, 52, 42, 180, 0, 27]
abbrev dktX4_clause_4 : List UInt8 := dkwX4_clause_4 ++ dktX4_clause_5
def dkwX4_clause_3 : List UInt8 := [6, 167, 0, 4, 4, 42, 180, 0, 155, 182, 0, 189, 87, 177, 42, 19, 1, 36, 182, 0, 216, 153, 0, 13]
abbrev dktX4_clause_3 : List UInt8 := dkwX4_clause_3 ++ dktX4_clause_4
def dkwX4_clause_2 : List UInt8 := [153, 0, 7, 4, 167, 0, 4, 3, 62, 29, 153, 0, 9, 27, 16, 40, 160, 0, 22, 42, 29, 153, 0, 7]
abbrev dktX4_clause_2 : List UInt8 := dkwX4_clause_2 ++ dktX4_clause_3
def dkwX4_clause_1 : List UInt8 := [182, 0, 182, 154, 0, 23, 42, 19, 1, 40, 182, 0, 182, 154, 0, 13, 42, 19, 1, 42, 182, 0, 182]
abbrev dktX4_clause_1 : List UInt8 := dkwX4_clause_1 ++ dktX4_clause_2
def dkwX4_clause_0 : List UInt8 := [16, 40, 42, 180, 1, 33, 104, 27, 96, 61, 42, 19, 1, 36, 182, 0, 182, 154, 0, 33, 42, 19, 1, 38]
abbrev dktX4_clause_0 : List UInt8 := dkwX4_clause_0 ++ dktX4_clause_1
theorem dksX4_clause_0 : cX4_clause.data.toList.drop 0 = dktX4_clause_0 := by decide +kernel
theorem dksX4_clause_1 : cX4_clause.data.toList.drop 24 = dktX4_clause_1 := dk_seg dksX4_clause_0 24 rfl rfl
theorem dksX4_clause_2 : cX4_clause.data.toList.drop 47 = dktX4_clause_2 := dk_seg dksX4_clause_1 23 rfl rfl
theorem dksX4_clause_3 : cX4_clause.data.toList.drop 71 = dktX4_clause_3 := dk_seg dksX4_clause_2 24 rfl rfl
theorem dksX4_clause_4 : cX4_clause.data.toList.drop 95 = dktX4_clause_4 := dk_seg dksX4_clause_3 24 rfl rfl
theorem dksX4_clause_5 : cX4_clause.data.toList.drop 119 = dktX4_clause_5 := dk_seg dksX4_clause_4 24 rfl rfl
theorem dksX4_clause_6 : cX4_clause.data.toList.drop 142 = dktX4_clause_6 := dk_seg dksX4_clause_5 23 rfl rfl
theorem dksX4_clause_7 : cX4_clause.data.toList.drop 165 = dktX4_clause_7 := dk_seg dksX4_clause_6 23 rfl rfl
theorem dksX4_clause_8 : cX4_clause.data.toList.drop 188 = dktX4_clause_8 := dk_seg dksX4_clause_7 23 rfl rfl
theorem dksX4_clause_9 : cX4_clause.data.toList.drop 210 = dktX4_clause_9 := dk_seg dksX4_clause_8 22 rfl rfl
theorem dksX4_clause_10 : cX4_clause.data.toList.drop 232 = dktX4_clause_10 := dk_seg dksX4_clause_9 22 rfl rfl
theorem dksX4_clause_11 : cX4_clause.data.toList.drop 256 = dktX4_clause_11 := dk_seg dksX4_clause_10 24 rfl rfl
theorem dksX4_clause_12 : cX4_clause.data.toList.drop 280 = dktX4_clause_12 := dk_seg dksX4_clause_11 24 rfl rfl
theorem dX4_clause_0 : decode cX4_clause 0 = .ok (.bipush 40, 2) := dk_16 40 (dk_at dksX4_clause_0 0 rfl rfl)
theorem dX4_clause_2 : decode cX4_clause 2 = .ok (.aload_n 0, 1) := dk_42 (dk_at dksX4_clause_0 2 rfl rfl)
theorem dX4_clause_3 : decode cX4_clause 3 = .ok (.getfield 289, 3) := dk_180 1 33 (dk_at dksX4_clause_0 3 rfl rfl)
theorem dX4_clause_6 : decode cX4_clause 6 = .ok (.imul, 1) := dk_104 (dk_at dksX4_clause_0 6 rfl rfl)
theorem dX4_clause_7 : decode cX4_clause 7 = .ok (.iload_n 1, 1) := dk_27 (dk_at dksX4_clause_0 7 rfl rfl)
theorem dX4_clause_8 : decode cX4_clause 8 = .ok (.iadd, 1) := dk_96 (dk_at dksX4_clause_0 8 rfl rfl)
theorem dX4_clause_9 : decode cX4_clause 9 = .ok (.istore_n 2, 1) := dk_61 (dk_at dksX4_clause_0 9 rfl rfl)
theorem dX4_clause_10 : decode cX4_clause 10 = .ok (.aload_n 0, 1) := dk_42 (dk_at dksX4_clause_0 10 rfl rfl)
theorem dX4_clause_11 : decode cX4_clause 11 = .ok (.ldc_w 292, 3) := dk_19 1 36 (dk_at dksX4_clause_0 11 rfl rfl)
theorem dX4_clause_14 : decode cX4_clause 14 = .ok (.invokevirtual 182, 3) := dk_182 0 182 (dk_at dksX4_clause_0 14 rfl rfl)
theorem dX4_clause_17 : decode cX4_clause 17 = .ok (.ifCond .ne 33, 3) := dk_154 0 33 (dk_at dksX4_clause_0 17 rfl rfl)
theorem dX4_clause_20 : decode cX4_clause 20 = .ok (.aload_n 0, 1) := dk_42 (dk_at dksX4_clause_0 20 rfl rfl)
theorem dX4_clause_21 : decode cX4_clause 21 = .ok (.ldc_w 294, 3) := dk_19 1 38 (dk_at dksX4_clause_0 21 rfl rfl)
theorem dX4_clause_24 : decode cX4_clause 24 = .ok (.invokevirtual 182, 3) := dk_182 0 182 (dk_at dksX4_clause_1 0 rfl rfl)
theorem dX4_clause_27 : decode cX4_clause 27 = .ok (.ifCond .ne 23, 3) := dk_154 0 23 (dk_at dksX4_clause_1 3 rfl rfl)
theorem dX4_clause_30 : decode cX4_clause 30 = .ok (.aload_n 0, 1) := dk_42 (dk_at dksX4_clause_1 6 rfl rfl)
theorem dX4_clause_31 : decode cX4_clause 31 = .ok (.ldc_w 296, 3) := dk_19 1 40 (dk_at dksX4_clause_1 7 rfl rfl)
theorem dX4_clause_34 : decode cX4_clause 34 = .ok (.invokevirtual 182, 3) := dk_182 0 182 (dk_at dksX4_clause_1 10 rfl rfl)
theorem dX4_clause_37 : decode cX4_clause 37 = .ok (.ifCond .ne 13, 3) := dk_154 0 13 (dk_at dksX4_clause_1 13 rfl rfl)
theorem dX4_clause_40 : decode cX4_clause 40 = .ok (.aload_n 0, 1) := dk_42 (dk_at dksX4_clause_1 16 rfl rfl)
theorem dX4_clause_41 : decode cX4_clause 41 = .ok (.ldc_w 298, 3) := dk_19 1 42 (dk_at dksX4_clause_1 17 rfl rfl)
theorem dX4_clause_44 : decode cX4_clause 44 = .ok (.invokevirtual 182, 3) := dk_182 0 182 (dk_at dksX4_clause_1 20 rfl rfl)
theorem dX4_clause_47 : decode cX4_clause 47 = .ok (.ifCond .eq 7, 3) := dk_153 0 7 (dk_at dksX4_clause_2 0 rfl rfl)
theorem dX4_clause_50 : decode cX4_clause 50 = .ok (.iconst 1, 1) := dk_4 (dk_at dksX4_clause_2 3 rfl rfl)
theorem dX4_clause_51 : decode cX4_clause 51 = .ok (.goto 4, 3) := dk_167 0 4 (dk_at dksX4_clause_2 4 rfl rfl)
theorem dX4_clause_54 : decode cX4_clause 54 = .ok (.iconst 0, 1) := dk_3 (dk_at dksX4_clause_2 7 rfl rfl)
theorem dX4_clause_55 : decode cX4_clause 55 = .ok (.istore_n 3, 1) := dk_62 (dk_at dksX4_clause_2 8 rfl rfl)
theorem dX4_clause_56 : decode cX4_clause 56 = .ok (.iload_n 3, 1) := dk_29 (dk_at dksX4_clause_2 9 rfl rfl)
theorem dX4_clause_57 : decode cX4_clause 57 = .ok (.ifCond .eq 9, 3) := dk_153 0 9 (dk_at dksX4_clause_2 10 rfl rfl)
theorem dX4_clause_60 : decode cX4_clause 60 = .ok (.iload_n 1, 1) := dk_27 (dk_at dksX4_clause_2 13 rfl rfl)
theorem dX4_clause_61 : decode cX4_clause 61 = .ok (.bipush 40, 2) := dk_16 40 (dk_at dksX4_clause_2 14 rfl rfl)
theorem dX4_clause_63 : decode cX4_clause 63 = .ok (.if_icmp .ne 22, 3) := dk_160 0 22 (dk_at dksX4_clause_2 16 rfl rfl)
theorem dX4_clause_66 : decode cX4_clause 66 = .ok (.aload_n 0, 1) := dk_42 (dk_at dksX4_clause_2 19 rfl rfl)
theorem dX4_clause_67 : decode cX4_clause 67 = .ok (.iload_n 3, 1) := dk_29 (dk_at dksX4_clause_2 20 rfl rfl)
theorem dX4_clause_68 : decode cX4_clause 68 = .ok (.ifCond .eq 7, 3) := dk_153 0 7 (dk_at dksX4_clause_2 21 rfl rfl)
theorem dX4_clause_71 : decode cX4_clause 71 = .ok (.iconst 3, 1) := dk_6 (dk_at dksX4_clause_3 0 rfl rfl)
theorem dX4_clause_72 : decode cX4_clause 72 = .ok (.goto 4, 3) := dk_167 0 4 (dk_at dksX4_clause_3 1 rfl rfl)
theorem dX4_clause_75 : decode cX4_clause 75 = .ok (.iconst 1, 1) := dk_4 (dk_at dksX4_clause_3 4 rfl rfl)
theorem dX4_clause_76 : decode cX4_clause 76 = .ok (.aload_n 0, 1) := dk_42 (dk_at dksX4_clause_3 5 rfl rfl)
theorem dX4_clause_77 : decode cX4_clause 77 = .ok (.getfield 155, 3) := dk_180 0 155 (dk_at dksX4_clause_3 6 rfl rfl)
theorem dX4_clause_80 : decode cX4_clause 80 = .ok (.invokevirtual 189, 3) := dk_182 0 189 (dk_at dksX4_clause_3 9 rfl rfl)
theorem dX4_clause_83 : decode cX4_clause 83 = .ok (.pop, 1) := dk_87 (dk_at dksX4_clause_3 12 rfl rfl)
theorem dX4_clause_84 : decode cX4_clause 84 = .ok (.return_, 1) := dk_177 (dk_at dksX4_clause_3 13 rfl rfl)
theorem dX4_clause_85 : decode cX4_clause 85 = .ok (.aload_n 0, 1) := dk_42 (dk_at dksX4_clause_3 14 rfl rfl)
theorem dX4_clause_86 : decode cX4_clause 86 = .ok (.ldc_w 292, 3) := dk_19 1 36 (dk_at dksX4_clause_3 15 rfl rfl)
theorem dX4_clause_89 : decode cX4_clause 89 = .ok (.invokevirtual 216, 3) := dk_182 0 216 (dk_at dksX4_clause_3 18 rfl rfl)
theorem dX4_clause_92 : decode cX4_clause 92 = .ok (.ifCond .eq 13, 3) := dk_153 0 13 (dk_at dksX4_clause_3 21 rfl rfl)
theorem dX4_clause_95 : decode cX4_clause 95 = .ok (.aload_n 0, 1) := dk_42 (dk_at dksX4_clause_4 0 rfl rfl)
theorem dX4_clause_96 : decode cX4_clause 96 = .ok (.getfield 24, 3) := dk_180 0 24 (dk_at dksX4_clause_4 1 rfl rfl)
theorem dX4_clause_99 : decode cX4_clause 99 = .ok (.iload_n 2, 1) := dk_28 (dk_at dksX4_clause_4 4 rfl rfl)
theorem dX4_clause_100 : decode cX4_clause 100 = .ok (.iconst 0, 1) := dk_3 (dk_at dksX4_clause_4 5 rfl rfl)
theorem dX4_clause_101 : decode cX4_clause 101 = .ok (.iastore, 1) := dk_79 (dk_at dksX4_clause_4 6 rfl rfl)
theorem dX4_clause_102 : decode cX4_clause 102 = .ok (.goto 143, 3) := dk_167 0 143 (dk_at dksX4_clause_4 7 rfl rfl)
theorem dX4_clause_105 : decode cX4_clause 105 = .ok (.aload_n 0, 1) := dk_42 (dk_at dksX4_clause_4 10 rfl rfl)
theorem dX4_clause_106 : decode cX4_clause 106 = .ok (.ldc_w 294, 3) := dk_19 1 38 (dk_at dksX4_clause_4 11 rfl rfl)
theorem dX4_clause_109 : decode cX4_clause 109 = .ok (.invokevirtual 216, 3) := dk_182 0 216 (dk_at dksX4_clause_4 14 rfl rfl)
theorem dX4_clause_112 : decode cX4_clause 112 = .ok (.ifCond .eq 52, 3) := dk_153 0 52 (dk_at dksX4_clause_4 17 rfl rfl)
theorem dX4_clause_115 : decode cX4_clause 115 = .ok (.aload_n 0, 1) := dk_42 (dk_at dksX4_clause_4 20 rfl rfl)
theorem dX4_clause_116 : decode cX4_clause 116 = .ok (.getfield 27, 3) := dk_180 0 27 (dk_at dksX4_clause_4 21 rfl rfl)
theorem dX4_clause_119 : decode cX4_clause 119 = .ok (.iload_n 2, 1) := dk_28 (dk_at dksX4_clause_5 0 rfl rfl)
theorem dX4_clause_120 : decode cX4_clause 120 = .ok (.aload_n 0, 1) := dk_42 (dk_at dksX4_clause_5 1 rfl rfl)
theorem dX4_clause_121 : decode cX4_clause 121 = .ok (.iconst 0, 1) := dk_3 (dk_at dksX4_clause_5 2 rfl rfl)
theorem dX4_clause_122 : decode cX4_clause 122 = .ok (.invokevirtual 267, 3) := dk_182 1 11 (dk_at dksX4_clause_5 3 rfl rfl)
theorem dX4_clause_125 : decode cX4_clause 125 = .ok (.iastore, 1) := dk_79 (dk_at dksX4_clause_5 6 rfl rfl)
theorem dX4_clause_126 : decode cX4_clause 126 = .ok (.aload_n 0, 1) := dk_42 (dk_at dksX4_clause_5 7 rfl rfl)
theorem dX4_clause_127 : decode cX4_clause 127 = .ok (.getfield 24, 3) := dk_180 0 24 (dk_at dksX4_clause_5 8 rfl rfl)
theorem dX4_clause_130 : decode cX4_clause 130 = .ok (.iload_n 2, 1) := dk_28 (dk_at dksX4_clause_5 11 rfl rfl)
theorem dX4_clause_131 : decode cX4_clause 131 = .ok (.aload_n 0, 1) := dk_42 (dk_at dksX4_clause_5 12 rfl rfl)
theorem dX4_clause_132 : decode cX4_clause 132 = .ok (.ldc_w 300, 3) := dk_19 1 44 (dk_at dksX4_clause_5 13 rfl rfl)
theorem dX4_clause_135 : decode cX4_clause 135 = .ok (.invokevirtual 216, 3) := dk_182 0 216 (dk_at dksX4_clause_5 16 rfl rfl)
theorem dX4_clause_138 : decode cX4_clause 138 = .ok (.ifCond .eq 7, 3) := dk_153 0 7 (dk_at dksX4_clause_5 19 rfl rfl)
theorem dX4_clause_141 : decode cX4_clause 141 = .ok (.iconst 2, 1) := dk_5 (dk_at dksX4_clause_5 22 rfl rfl)
theorem dX4_clause_142 : decode cX4_clause 142 = .ok (.goto 18, 3) := dk_167 0 18 (dk_at dksX4_clause_6 0 rfl rfl)
theorem dX4_clause_145 : decode cX4_clause 145 = .ok (.aload_n 0, 1) := dk_42 (dk_at dksX4_clause_6 3 rfl rfl)
theorem dX4_clause_146 : decode cX4_clause 146 = .ok (.ldc_w 302, 3) := dk_19 1 46 (dk_at dksX4_clause_6 4 rfl rfl)
theorem dX4_clause_149 : decode cX4_clause 149 = .ok (.invokevirtual 216, 3) := dk_182 0 216 (dk_at dksX4_clause_6 7 rfl rfl)
theorem dX4_clause_152 : decode cX4_clause 152 = .ok (.ifCond .eq 7, 3) := dk_153 0 7 (dk_at dksX4_clause_6 10 rfl rfl)
theorem dX4_clause_155 : decode cX4_clause 155 = .ok (.iconst 3, 1) := dk_6 (dk_at dksX4_clause_6 13 rfl rfl)
theorem dX4_clause_156 : decode cX4_clause 156 = .ok (.goto 4, 3) := dk_167 0 4 (dk_at dksX4_clause_6 14 rfl rfl)
theorem dX4_clause_159 : decode cX4_clause 159 = .ok (.iconst 1, 1) := dk_4 (dk_at dksX4_clause_6 17 rfl rfl)
theorem dX4_clause_160 : decode cX4_clause 160 = .ok (.iastore, 1) := dk_79 (dk_at dksX4_clause_6 18 rfl rfl)
theorem dX4_clause_161 : decode cX4_clause 161 = .ok (.goto 84, 3) := dk_167 0 84 (dk_at dksX4_clause_6 19 rfl rfl)
theorem dX4_clause_164 : decode cX4_clause 164 = .ok (.aload_n 0, 1) := dk_42 (dk_at dksX4_clause_6 22 rfl rfl)
theorem dX4_clause_165 : decode cX4_clause 165 = .ok (.ldc_w 296, 3) := dk_19 1 40 (dk_at dksX4_clause_7 0 rfl rfl)
theorem dX4_clause_168 : decode cX4_clause 168 = .ok (.invokevirtual 216, 3) := dk_182 0 216 (dk_at dksX4_clause_7 3 rfl rfl)
theorem dX4_clause_171 : decode cX4_clause 171 = .ok (.ifCond .eq 42, 3) := dk_153 0 42 (dk_at dksX4_clause_7 6 rfl rfl)
theorem dX4_clause_174 : decode cX4_clause 174 = .ok (.aload_n 0, 1) := dk_42 (dk_at dksX4_clause_7 9 rfl rfl)
theorem dX4_clause_175 : decode cX4_clause 175 = .ok (.getfield 24, 3) := dk_180 0 24 (dk_at dksX4_clause_7 10 rfl rfl)
theorem dX4_clause_178 : decode cX4_clause 178 = .ok (.iload_n 2, 1) := dk_28 (dk_at dksX4_clause_7 13 rfl rfl)
theorem dX4_clause_179 : decode cX4_clause 179 = .ok (.iconst 4, 1) := dk_7 (dk_at dksX4_clause_7 14 rfl rfl)
theorem dX4_clause_180 : decode cX4_clause 180 = .ok (.iastore, 1) := dk_79 (dk_at dksX4_clause_7 15 rfl rfl)
theorem dX4_clause_181 : decode cX4_clause 181 = .ok (.aload_n 0, 1) := dk_42 (dk_at dksX4_clause_7 16 rfl rfl)
theorem dX4_clause_182 : decode cX4_clause 182 = .ok (.getfield 27, 3) := dk_180 0 27 (dk_at dksX4_clause_7 17 rfl rfl)
theorem dX4_clause_185 : decode cX4_clause 185 = .ok (.iload_n 2, 1) := dk_28 (dk_at dksX4_clause_7 20 rfl rfl)
theorem dX4_clause_186 : decode cX4_clause 186 = .ok (.aload_n 0, 1) := dk_42 (dk_at dksX4_clause_7 21 rfl rfl)
theorem dX4_clause_187 : decode cX4_clause 187 = .ok (.iconst 0, 1) := dk_3 (dk_at dksX4_clause_7 22 rfl rfl)
theorem dX4_clause_188 : decode cX4_clause 188 = .ok (.invokevirtual 267, 3) := dk_182 1 11 (dk_at dksX4_clause_8 0 rfl rfl)
theorem dX4_clause_191 : decode cX4_clause 191 = .ok (.iastore, 1) := dk_79 (dk_at dksX4_clause_8 3 rfl rfl)
theorem dX4_clause_192 : decode cX4_clause 192 = .ok (.aload_n 0, 1) := dk_42 (dk_at dksX4_clause_8 4 rfl rfl)
theorem dX4_clause_193 : decode cX4_clause 193 = .ok (.bipush 47, 2) := dk_16 47 (dk_at dksX4_clause_8 5 rfl rfl)
theorem dX4_clause_195 : decode cX4_clause 195 = .ok (.invokevirtual 240, 3) := dk_182 0 240 (dk_at dksX4_clause_8 7 rfl rfl)
theorem dX4_clause_198 : decode cX4_clause 198 = .ok (.pop, 1) := dk_87 (dk_at dksX4_clause_8 10 rfl rfl)
theorem dX4_clause_199 : decode cX4_clause 199 = .ok (.aload_n 0, 1) := dk_42 (dk_at dksX4_clause_8 11 rfl rfl)
theorem dX4_clause_200 : decode cX4_clause 200 = .ok (.getfield 30, 3) := dk_180 0 30 (dk_at dksX4_clause_8 12 rfl rfl)
theorem dX4_clause_203 : decode cX4_clause 203 = .ok (.iload_n 2, 1) := dk_28 (dk_at dksX4_clause_8 15 rfl rfl)
theorem dX4_clause_204 : decode cX4_clause 204 = .ok (.aload_n 0, 1) := dk_42 (dk_at dksX4_clause_8 16 rfl rfl)
theorem dX4_clause_205 : decode cX4_clause 205 = .ok (.iconst 1, 1) := dk_4 (dk_at dksX4_clause_8 17 rfl rfl)
theorem dX4_clause_206 : decode cX4_clause 206 = .ok (.invokevirtual 267, 3) := dk_182 1 11 (dk_at dksX4_clause_8 18 rfl rfl)
theorem dX4_clause_209 : decode cX4_clause 209 = .ok (.iastore, 1) := dk_79 (dk_at dksX4_clause_8 21 rfl rfl)
theorem dX4_clause_210 : decode cX4_clause 210 = .ok (.goto 35, 3) := dk_167 0 35 (dk_at dksX4_clause_9 0 rfl rfl)
theorem dX4_clause_213 : decode cX4_clause 213 = .ok (.aload_n 0, 1) := dk_42 (dk_at dksX4_clause_9 3 rfl rfl)
theorem dX4_clause_214 : decode cX4_clause 214 = .ok (.ldc_w 298, 3) := dk_19 1 42 (dk_at dksX4_clause_9 4 rfl rfl)
theorem dX4_clause_217 : decode cX4_clause 217 = .ok (.invokevirtual 216, 3) := dk_182 0 216 (dk_at dksX4_clause_9 7 rfl rfl)
theorem dX4_clause_220 : decode cX4_clause 220 = .ok (.ifCond .eq 25, 3) := dk_153 0 25 (dk_at dksX4_clause_9 10 rfl rfl)
theorem dX4_clause_223 : decode cX4_clause 223 = .ok (.aload_n 0, 1) := dk_42 (dk_at dksX4_clause_9 13 rfl rfl)
theorem dX4_clause_224 : decode cX4_clause 224 = .ok (.getfield 24, 3) := dk_180 0 24 (dk_at dksX4_clause_9 14 rfl rfl)
theorem dX4_clause_227 : decode cX4_clause 227 = .ok (.iload_n 2, 1) := dk_28 (dk_at dksX4_clause_9 17 rfl rfl)
theorem dX4_clause_228 : decode cX4_clause 228 = .ok (.aload_n 0, 1) := dk_42 (dk_at dksX4_clause_9 18 rfl rfl)
theorem dX4_clause_229 : decode cX4_clause 229 = .ok (.ldc_w 304, 3) := dk_19 1 48 (dk_at dksX4_clause_9 19 rfl rfl)
theorem dX4_clause_232 : decode cX4_clause 232 = .ok (.invokevirtual 216, 3) := dk_182 0 216 (dk_at dksX4_clause_10 0 rfl rfl)
theorem dX4_clause_235 : decode cX4_clause 235 = .ok (.ifCond .eq 8, 3) := dk_153 0 8 (dk_at dksX4_clause_10 3 rfl rfl)
theorem dX4_clause_238 : decode cX4_clause 238 = .ok (.bipush 6, 2) := dk_16 6 (dk_at dksX4_clause_10 6 rfl rfl)
theorem dX4_clause_240 : decode cX4_clause 240 = .ok (.goto 4, 3) := dk_167 0 4 (dk_at dksX4_clause_10 8 rfl rfl)
theorem dX4_clause_243 : decode cX4_clause 243 = .ok (.iconst 5, 1) := dk_8 (dk_at dksX4_clause_10 11 rfl rfl)
theorem dX4_clause_244 : decode cX4_clause 244 = .ok (.iastore, 1) := dk_79 (dk_at dksX4_clause_10 12 rfl rfl)
theorem dX4_clause_245 : decode cX4_clause 245 = .ok (.aload_n 0, 1) := dk_42 (dk_at dksX4_clause_10 13 rfl rfl)
theorem dX4_clause_246 : decode cX4_clause 246 = .ok (.getfield 33, 3) := dk_180 0 33 (dk_at dksX4_clause_10 14 rfl rfl)
theorem dX4_clause_249 : decode cX4_clause 249 = .ok (.iload_n 2, 1) := dk_28 (dk_at dksX4_clause_10 17 rfl rfl)
theorem dX4_clause_250 : decode cX4_clause 250 = .ok (.aload_n 0, 1) := dk_42 (dk_at dksX4_clause_10 18 rfl rfl)
theorem dX4_clause_251 : decode cX4_clause 251 = .ok (.getfield 204, 3) := dk_180 0 204 (dk_at dksX4_clause_10 19 rfl rfl)
theorem dX4_clause_254 : decode cX4_clause 254 = .ok (.iastore, 1) := dk_79 (dk_at dksX4_clause_10 22 rfl rfl)
theorem dX4_clause_255 : decode cX4_clause 255 = .ok (.aload_n 0, 1) := dk_42 (dk_at dksX4_clause_10 23 rfl rfl)
theorem dX4_clause_256 : decode cX4_clause 256 = .ok (.iconst 0, 1) := dk_3 (dk_at dksX4_clause_11 0 rfl rfl)
theorem dX4_clause_257 : decode cX4_clause 257 = .ok (.putfield 228, 3) := dk_181 0 228 (dk_at dksX4_clause_11 1 rfl rfl)
theorem dX4_clause_260 : decode cX4_clause 260 = .ok (.aload_n 0, 1) := dk_42 (dk_at dksX4_clause_11 4 rfl rfl)
theorem dX4_clause_261 : decode cX4_clause 261 = .ok (.ldc_w 306, 3) := dk_19 1 50 (dk_at dksX4_clause_11 5 rfl rfl)
theorem dX4_clause_264 : decode cX4_clause 264 = .ok (.invokevirtual 216, 3) := dk_182 0 216 (dk_at dksX4_clause_11 8 rfl rfl)
theorem dX4_clause_267 : decode cX4_clause 267 = .ok (.ifCond .eq 7, 3) := dk_153 0 7 (dk_at dksX4_clause_11 11 rfl rfl)
theorem dX4_clause_270 : decode cX4_clause 270 = .ok (.aload_n 0, 1) := dk_42 (dk_at dksX4_clause_11 14 rfl rfl)
theorem dX4_clause_271 : decode cX4_clause 271 = .ok (.invokevirtual 237, 3) := dk_182 0 237 (dk_at dksX4_clause_11 15 rfl rfl)
theorem dX4_clause_274 : decode cX4_clause 274 = .ok (.aload_n 0, 1) := dk_42 (dk_at dksX4_clause_11 18 rfl rfl)
theorem dX4_clause_275 : decode cX4_clause 275 = .ok (.getfield 36, 3) := dk_180 0 36 (dk_at dksX4_clause_11 19 rfl rfl)
theorem dX4_clause_278 : decode cX4_clause 278 = .ok (.iload_n 2, 1) := dk_28 (dk_at dksX4_clause_11 22 rfl rfl)
theorem dX4_clause_279 : decode cX4_clause 279 = .ok (.aload_n 0, 1) := dk_42 (dk_at dksX4_clause_11 23 rfl rfl)
theorem dX4_clause_280 : decode cX4_clause 280 = .ok (.getfield 204, 3) := dk_180 0 204 (dk_at dksX4_clause_12 0 rfl rfl)
theorem dX4_clause_283 : decode cX4_clause 283 = .ok (.iastore, 1) := dk_79 (dk_at dksX4_clause_12 3 rfl rfl)
theorem dX4_clause_284 : decode cX4_clause 284 = .ok (.aload_n 0, 1) := dk_42 (dk_at dksX4_clause_12 4 rfl rfl)
theorem dX4_clause_285 : decode cX4_clause 285 = .ok (.bipush 59, 2) := dk_16 59 (dk_at dksX4_clause_12 5 rfl rfl)
theorem dX4_clause_287 : decode cX4_clause 287 = .ok (.invokevirtual 240, 3) := dk_182 0 240 (dk_at dksX4_clause_12 7 rfl rfl)
theorem dX4_clause_290 : decode cX4_clause 290 = .ok (.pop, 1) := dk_87 (dk_at dksX4_clause_12 10 rfl rfl)
theorem dX4_clause_291 : decode cX4_clause 291 = .ok (.return_, 1) := dk_177 (dk_at dksX4_clause_12 11 rfl rfl)
abbrev cX4_isWord : ByteArray := prog_33_method_10_code
def yX4_isWord : MethodName := ⟨RX4, "isWord", "(Ljava/lang/String;)Z"⟩
def dkwX4_isWord_2 : List UInt8 := [28, 96, 182, 0, 158, 184, 0, 178, 154, 0, 7, 4, 167, 0, 4, 3, 172]
abbrev dktX4_isWord_2 : List UInt8 := dkwX4_isWord_2 ++ []
def dkwX4_isWord_1 : List UInt8 := [182, 0, 158, 43, 29, 182, 0, 174, 159, 0, 5, 3, 172, 132, 3, 1, 167, 255, 228, 42, 42, 180, 0, 155]
abbrev dktX4_isWord_1 : List UInt8 := dkwX4_isWord_1 ++ dktX4_isWord_2
def dkwX4_isWord_0 : List UInt8 := [42, 182, 0, 165, 43, 182, 0, 168, 61, 3, 62, 29, 28, 162, 0, 29, 42, 42, 180, 0, 155, 29, 96]
abbrev dktX4_isWord_0 : List UInt8 := dkwX4_isWord_0 ++ dktX4_isWord_1
theorem dksX4_isWord_0 : cX4_isWord.data.toList.drop 0 = dktX4_isWord_0 := by decide +kernel
theorem dksX4_isWord_1 : cX4_isWord.data.toList.drop 23 = dktX4_isWord_1 := dk_seg dksX4_isWord_0 23 rfl rfl
theorem dksX4_isWord_2 : cX4_isWord.data.toList.drop 47 = dktX4_isWord_2 := dk_seg dksX4_isWord_1 24 rfl rfl
theorem dX4_isWord_0 : decode cX4_isWord 0 = .ok (.aload_n 0, 1) := dk_42 (dk_at dksX4_isWord_0 0 rfl rfl)
theorem dX4_isWord_1 : decode cX4_isWord 1 = .ok (.invokevirtual 165, 3) := dk_182 0 165 (dk_at dksX4_isWord_0 1 rfl rfl)
theorem dX4_isWord_4 : decode cX4_isWord 4 = .ok (.aload_n 1, 1) := dk_43 (dk_at dksX4_isWord_0 4 rfl rfl)
theorem dX4_isWord_5 : decode cX4_isWord 5 = .ok (.invokevirtual 168, 3) := dk_182 0 168 (dk_at dksX4_isWord_0 5 rfl rfl)
theorem dX4_isWord_8 : decode cX4_isWord 8 = .ok (.istore_n 2, 1) := dk_61 (dk_at dksX4_isWord_0 8 rfl rfl)
theorem dX4_isWord_9 : decode cX4_isWord 9 = .ok (.iconst 0, 1) := dk_3 (dk_at dksX4_isWord_0 9 rfl rfl)
theorem dX4_isWord_10 : decode cX4_isWord 10 = .ok (.istore_n 3, 1) := dk_62 (dk_at dksX4_isWord_0 10 rfl rfl)
theorem dX4_isWord_11 : decode cX4_isWord 11 = .ok (.iload_n 3, 1) := dk_29 (dk_at dksX4_isWord_0 11 rfl rfl)
theorem dX4_isWord_12 : decode cX4_isWord 12 = .ok (.iload_n 2, 1) := dk_28 (dk_at dksX4_isWord_0 12 rfl rfl)
theorem dX4_isWord_13 : decode cX4_isWord 13 = .ok (.if_icmp .ge 29, 3) := dk_162 0 29 (dk_at dksX4_isWord_0 13 rfl rfl)
theorem dX4_isWord_16 : decode cX4_isWord 16 = .ok (.aload_n 0, 1) := dk_42 (dk_at dksX4_isWord_0 16 rfl rfl)
theorem dX4_isWord_17 : decode cX4_isWord 17 = .ok (.aload_n 0, 1) := dk_42 (dk_at dksX4_isWord_0 17 rfl rfl)
theorem dX4_isWord_18 : decode cX4_isWord 18 = .ok (.getfield 155, 3) := dk_180 0 155 (dk_at dksX4_isWord_0 18 rfl rfl)
theorem dX4_isWord_21 : decode cX4_isWord 21 = .ok (.iload_n 3, 1) := dk_29 (dk_at dksX4_isWord_0 21 rfl rfl)
theorem dX4_isWord_22 : decode cX4_isWord 22 = .ok (.iadd, 1) := dk_96 (dk_at dksX4_isWord_0 22 rfl rfl)
theorem dX4_isWord_23 : decode cX4_isWord 23 = .ok (.invokevirtual 158, 3) := dk_182 0 158 (dk_at dksX4_isWord_1 0 rfl rfl)
theorem dX4_isWord_26 : decode cX4_isWord 26 = .ok (.aload_n 1, 1) := dk_43 (dk_at dksX4_isWord_1 3 rfl rfl)
theorem dX4_isWord_27 : decode cX4_isWord 27 = .ok (.iload_n 3, 1) := dk_29 (dk_at dksX4_isWord_1 4 rfl rfl)
theorem dX4_isWord_28 : decode cX4_isWord 28 = .ok (.invokevirtual 174, 3) := dk_182 0 174 (dk_at dksX4_isWord_1 5 rfl rfl)
theorem dX4_isWord_31 : decode cX4_isWord 31 = .ok (.if_icmp .eq 5, 3) := dk_159 0 5 (dk_at dksX4_isWord_1 8 rfl rfl)
theorem dX4_isWord_34 : decode cX4_isWord 34 = .ok (.iconst 0, 1) := dk_3 (dk_at dksX4_isWord_1 11 rfl rfl)
theorem dX4_isWord_35 : decode cX4_isWord 35 = .ok (.ireturn, 1) := dk_172 (dk_at dksX4_isWord_1 12 rfl rfl)
theorem dX4_isWord_36 : decode cX4_isWord 36 = .ok (.iinc 3 1, 3) := dk_132 3 1 (dk_at dksX4_isWord_1 13 rfl rfl)
theorem dX4_isWord_39 : decode cX4_isWord 39 = .ok (.goto (-28), 3) := dk_167 255 228 (dk_at dksX4_isWord_1 16 rfl rfl)
theorem dX4_isWord_42 : decode cX4_isWord 42 = .ok (.aload_n 0, 1) := dk_42 (dk_at dksX4_isWord_1 19 rfl rfl)
theorem dX4_isWord_43 : decode cX4_isWord 43 = .ok (.aload_n 0, 1) := dk_42 (dk_at dksX4_isWord_1 20 rfl rfl)
theorem dX4_isWord_44 : decode cX4_isWord 44 = .ok (.getfield 155, 3) := dk_180 0 155 (dk_at dksX4_isWord_1 21 rfl rfl)
theorem dX4_isWord_47 : decode cX4_isWord 47 = .ok (.iload_n 2, 1) := dk_28 (dk_at dksX4_isWord_2 0 rfl rfl)
theorem dX4_isWord_48 : decode cX4_isWord 48 = .ok (.iadd, 1) := dk_96 (dk_at dksX4_isWord_2 1 rfl rfl)
theorem dX4_isWord_49 : decode cX4_isWord 49 = .ok (.invokevirtual 158, 3) := dk_182 0 158 (dk_at dksX4_isWord_2 2 rfl rfl)
theorem dX4_isWord_52 : decode cX4_isWord 52 = .ok (.invokestatic 178, 3) := dk_184 0 178 (dk_at dksX4_isWord_2 5 rfl rfl)
theorem dX4_isWord_55 : decode cX4_isWord 55 = .ok (.ifCond .ne 7, 3) := dk_154 0 7 (dk_at dksX4_isWord_2 8 rfl rfl)
theorem dX4_isWord_58 : decode cX4_isWord 58 = .ok (.iconst 1, 1) := dk_4 (dk_at dksX4_isWord_2 11 rfl rfl)
theorem dX4_isWord_59 : decode cX4_isWord 59 = .ok (.goto 4, 3) := dk_167 0 4 (dk_at dksX4_isWord_2 12 rfl rfl)
theorem dX4_isWord_62 : decode cX4_isWord 62 = .ok (.iconst 0, 1) := dk_3 (dk_at dksX4_isWord_2 15 rfl rfl)
theorem dX4_isWord_63 : decode cX4_isWord 63 = .ok (.ireturn, 1) := dk_172 (dk_at dksX4_isWord_2 16 rfl rfl)
abbrev cX4_isSmall : ByteArray := prog_33_method_7_code
def yX4_isSmall : MethodName := ⟨RX4, "isSmall", "(I)Z"⟩
def dkwX4_isSmall_0 : List UInt8 := [26, 16, 97, 161, 0, 13, 26, 16, 122, 163, 0, 7, 4, 167, 0, 4, 3, 172]
abbrev dktX4_isSmall_0 : List UInt8 := dkwX4_isSmall_0 ++ []
theorem dksX4_isSmall_0 : cX4_isSmall.data.toList.drop 0 = dktX4_isSmall_0 := by decide +kernel
theorem dX4_isSmall_0 : decode cX4_isSmall 0 = .ok (.iload_n 0, 1) := dk_26 (dk_at dksX4_isSmall_0 0 rfl rfl)
theorem dX4_isSmall_1 : decode cX4_isSmall 1 = .ok (.bipush 97, 2) := dk_16 97 (dk_at dksX4_isSmall_0 1 rfl rfl)
theorem dX4_isSmall_3 : decode cX4_isSmall 3 = .ok (.if_icmp .lt 13, 3) := dk_161 0 13 (dk_at dksX4_isSmall_0 3 rfl rfl)
theorem dX4_isSmall_6 : decode cX4_isSmall 6 = .ok (.iload_n 0, 1) := dk_26 (dk_at dksX4_isSmall_0 6 rfl rfl)
theorem dX4_isSmall_7 : decode cX4_isSmall 7 = .ok (.bipush 122, 2) := dk_16 122 (dk_at dksX4_isSmall_0 7 rfl rfl)
theorem dX4_isSmall_9 : decode cX4_isSmall 9 = .ok (.if_icmp .gt 7, 3) := dk_163 0 7 (dk_at dksX4_isSmall_0 9 rfl rfl)
theorem dX4_isSmall_12 : decode cX4_isSmall 12 = .ok (.iconst 1, 1) := dk_4 (dk_at dksX4_isSmall_0 12 rfl rfl)
theorem dX4_isSmall_13 : decode cX4_isSmall 13 = .ok (.goto 4, 3) := dk_167 0 4 (dk_at dksX4_isSmall_0 13 rfl rfl)
theorem dX4_isSmall_16 : decode cX4_isSmall 16 = .ok (.iconst 0, 1) := dk_3 (dk_at dksX4_isSmall_0 16 rfl rfl)
theorem dX4_isSmall_17 : decode cX4_isSmall 17 = .ok (.ireturn, 1) := dk_172 (dk_at dksX4_isSmall_0 17 rfl rfl)
abbrev cX4_wrong : ByteArray := prog_33_method_9_code
def yX4_wrong : MethodName := ⟨RX4, "wrong", "(II)Z"⟩
def dkwX4_wrong_0 : List UInt8 := [42, 180, 0, 162, 154, 0, 13, 42, 27, 181, 0, 162, 42, 28, 181, 0, 13, 3, 172]
abbrev dktX4_wrong_0 : List UInt8 := dkwX4_wrong_0 ++ []
theorem dksX4_wrong_0 : cX4_wrong.data.toList.drop 0 = dktX4_wrong_0 := by decide +kernel
theorem dX4_wrong_0 : decode cX4_wrong 0 = .ok (.aload_n 0, 1) := dk_42 (dk_at dksX4_wrong_0 0 rfl rfl)
theorem dX4_wrong_1 : decode cX4_wrong 1 = .ok (.getfield 162, 3) := dk_180 0 162 (dk_at dksX4_wrong_0 1 rfl rfl)
theorem dX4_wrong_4 : decode cX4_wrong 4 = .ok (.ifCond .ne 13, 3) := dk_154 0 13 (dk_at dksX4_wrong_0 4 rfl rfl)
theorem dX4_wrong_7 : decode cX4_wrong 7 = .ok (.aload_n 0, 1) := dk_42 (dk_at dksX4_wrong_0 7 rfl rfl)
theorem dX4_wrong_8 : decode cX4_wrong 8 = .ok (.iload_n 1, 1) := dk_27 (dk_at dksX4_wrong_0 8 rfl rfl)
theorem dX4_wrong_9 : decode cX4_wrong 9 = .ok (.putfield 162, 3) := dk_181 0 162 (dk_at dksX4_wrong_0 9 rfl rfl)
theorem dX4_wrong_12 : decode cX4_wrong 12 = .ok (.aload_n 0, 1) := dk_42 (dk_at dksX4_wrong_0 12 rfl rfl)
theorem dX4_wrong_13 : decode cX4_wrong 13 = .ok (.iload_n 2, 1) := dk_28 (dk_at dksX4_wrong_0 13 rfl rfl)
theorem dX4_wrong_14 : decode cX4_wrong 14 = .ok (.putfield 13, 3) := dk_181 0 13 (dk_at dksX4_wrong_0 14 rfl rfl)
theorem dX4_wrong_17 : decode cX4_wrong 17 = .ok (.iconst 0, 1) := dk_3 (dk_at dksX4_wrong_0 17 rfl rfl)
theorem dX4_wrong_18 : decode cX4_wrong 18 = .ok (.ireturn, 1) := dk_172 (dk_at dksX4_wrong_0 18 rfl rfl)
abbrev cX4_eat : ByteArray := prog_33_method_11_code
def yX4_eat : MethodName := ⟨RX4, "eat", "(Ljava/lang/String;)Z"⟩
def dkwX4_eat_1 : List UInt8 := [153, 0, 16, 42, 89, 180, 0, 155, 43, 182, 0, 168, 96, 181, 0, 155, 28, 172]
abbrev dktX4_eat_1 : List UInt8 := dkwX4_eat_1 ++ []
def dkwX4_eat_0 : List UInt8 := [42, 180, 0, 162, 154, 0, 15, 42, 43, 182, 0, 182, 153, 0, 7, 4, 167, 0, 4, 3, 61, 28]
abbrev dktX4_eat_0 : List UInt8 := dkwX4_eat_0 ++ dktX4_eat_1
theorem dksX4_eat_0 : cX4_eat.data.toList.drop 0 = dktX4_eat_0 := by decide +kernel
theorem dksX4_eat_1 : cX4_eat.data.toList.drop 22 = dktX4_eat_1 := dk_seg dksX4_eat_0 22 rfl rfl
theorem dX4_eat_0 : decode cX4_eat 0 = .ok (.aload_n 0, 1) := dk_42 (dk_at dksX4_eat_0 0 rfl rfl)
theorem dX4_eat_1 : decode cX4_eat 1 = .ok (.getfield 162, 3) := dk_180 0 162 (dk_at dksX4_eat_0 1 rfl rfl)
theorem dX4_eat_4 : decode cX4_eat 4 = .ok (.ifCond .ne 15, 3) := dk_154 0 15 (dk_at dksX4_eat_0 4 rfl rfl)
theorem dX4_eat_7 : decode cX4_eat 7 = .ok (.aload_n 0, 1) := dk_42 (dk_at dksX4_eat_0 7 rfl rfl)
theorem dX4_eat_8 : decode cX4_eat 8 = .ok (.aload_n 1, 1) := dk_43 (dk_at dksX4_eat_0 8 rfl rfl)
theorem dX4_eat_9 : decode cX4_eat 9 = .ok (.invokevirtual 182, 3) := dk_182 0 182 (dk_at dksX4_eat_0 9 rfl rfl)
theorem dX4_eat_12 : decode cX4_eat 12 = .ok (.ifCond .eq 7, 3) := dk_153 0 7 (dk_at dksX4_eat_0 12 rfl rfl)
theorem dX4_eat_15 : decode cX4_eat 15 = .ok (.iconst 1, 1) := dk_4 (dk_at dksX4_eat_0 15 rfl rfl)
theorem dX4_eat_16 : decode cX4_eat 16 = .ok (.goto 4, 3) := dk_167 0 4 (dk_at dksX4_eat_0 16 rfl rfl)
theorem dX4_eat_19 : decode cX4_eat 19 = .ok (.iconst 0, 1) := dk_3 (dk_at dksX4_eat_0 19 rfl rfl)
theorem dX4_eat_20 : decode cX4_eat 20 = .ok (.istore_n 2, 1) := dk_61 (dk_at dksX4_eat_0 20 rfl rfl)
theorem dX4_eat_21 : decode cX4_eat 21 = .ok (.iload_n 2, 1) := dk_28 (dk_at dksX4_eat_0 21 rfl rfl)
theorem dX4_eat_22 : decode cX4_eat 22 = .ok (.ifCond .eq 16, 3) := dk_153 0 16 (dk_at dksX4_eat_1 0 rfl rfl)
theorem dX4_eat_25 : decode cX4_eat 25 = .ok (.aload_n 0, 1) := dk_42 (dk_at dksX4_eat_1 3 rfl rfl)
theorem dX4_eat_26 : decode cX4_eat 26 = .ok (.dup, 1) := dk_89 (dk_at dksX4_eat_1 4 rfl rfl)
theorem dX4_eat_27 : decode cX4_eat 27 = .ok (.getfield 155, 3) := dk_180 0 155 (dk_at dksX4_eat_1 5 rfl rfl)
theorem dX4_eat_30 : decode cX4_eat 30 = .ok (.aload_n 1, 1) := dk_43 (dk_at dksX4_eat_1 8 rfl rfl)
theorem dX4_eat_31 : decode cX4_eat 31 = .ok (.invokevirtual 168, 3) := dk_182 0 168 (dk_at dksX4_eat_1 9 rfl rfl)
theorem dX4_eat_34 : decode cX4_eat 34 = .ok (.iadd, 1) := dk_96 (dk_at dksX4_eat_1 12 rfl rfl)
theorem dX4_eat_35 : decode cX4_eat 35 = .ok (.putfield 155, 3) := dk_181 0 155 (dk_at dksX4_eat_1 13 rfl rfl)
theorem dX4_eat_38 : decode cX4_eat 38 = .ok (.iload_n 2, 1) := dk_28 (dk_at dksX4_eat_1 16 rfl rfl)
theorem dX4_eat_39 : decode cX4_eat 39 = .ok (.ireturn, 1) := dk_172 (dk_at dksX4_eat_1 17 rfl rfl)
abbrev cX4_number : ByteArray := prog_33_method_14_code
def yX4_number : MethodName := ⟨RX4, "number", "(Z)I"⟩
def dkwX4_number_6 : List UInt8 := [33, 136, 172]
abbrev dktX4_number_6 : List UInt8 := dkwX4_number_6 ++ []
def dkwX4_number_5 : List UInt8 := [33, 9, 148, 154, 0, 10, 42, 5, 28, 182, 0, 189, 87, 42, 180, 0, 162, 158, 0, 7, 3, 167, 0, 5]
abbrev dktX4_number_5 : List UInt8 := dkwX4_number_5 ++ dktX4_number_6
def dkwX4_number_4 : List UInt8 := [89, 180, 0, 155, 4, 96, 181, 0, 155, 167, 255, 200, 33, 20, 0, 202, 148, 157, 0, 13, 27, 153, 0, 16]
abbrev dktX4_number_4 : List UInt8 := dkwX4_number_4 ++ dktX4_number_5
def dkwX4_number_3 : List UInt8 := [167, 0, 22, 20, 0, 198, 33, 105, 42, 42, 180, 0, 155, 182, 0, 158, 133, 97, 20, 0, 200, 101, 66, 42]
abbrev dktX4_number_3 : List UInt8 := dkwX4_number_3 ++ dktX4_number_4
def dkwX4_number_2 : List UInt8 := [42, 180, 0, 155, 182, 0, 158, 184, 0, 193, 153, 0, 48, 33, 20, 0, 196, 148, 158, 0, 7, 33]
abbrev dktX4_number_2 : List UInt8 := dkwX4_number_2 ++ dktX4_number_3
def dkwX4_number_1 : List UInt8 := [182, 0, 158, 184, 0, 193, 154, 0, 15, 42, 4, 42, 180, 0, 155, 182, 0, 189, 87, 3, 172, 9, 66, 42]
abbrev dktX4_number_1 : List UInt8 := dkwX4_number_1 ++ dktX4_number_2
def dkwX4_number_0 : List UInt8 := [42, 180, 0, 162, 158, 0, 5, 3, 172, 42, 182, 0, 165, 42, 180, 0, 155, 61, 42, 42, 180, 0, 155]
abbrev dktX4_number_0 : List UInt8 := dkwX4_number_0 ++ dktX4_number_1
theorem dksX4_number_0 : cX4_number.data.toList.drop 0 = dktX4_number_0 := by decide +kernel
theorem dksX4_number_1 : cX4_number.data.toList.drop 23 = dktX4_number_1 := dk_seg dksX4_number_0 23 rfl rfl
theorem dksX4_number_2 : cX4_number.data.toList.drop 47 = dktX4_number_2 := dk_seg dksX4_number_1 24 rfl rfl
theorem dksX4_number_3 : cX4_number.data.toList.drop 69 = dktX4_number_3 := dk_seg dksX4_number_2 22 rfl rfl
theorem dksX4_number_4 : cX4_number.data.toList.drop 93 = dktX4_number_4 := dk_seg dksX4_number_3 24 rfl rfl
theorem dksX4_number_5 : cX4_number.data.toList.drop 117 = dktX4_number_5 := dk_seg dksX4_number_4 24 rfl rfl
theorem dksX4_number_6 : cX4_number.data.toList.drop 141 = dktX4_number_6 := dk_seg dksX4_number_5 24 rfl rfl
theorem dX4_number_0 : decode cX4_number 0 = .ok (.aload_n 0, 1) := dk_42 (dk_at dksX4_number_0 0 rfl rfl)
theorem dX4_number_1 : decode cX4_number 1 = .ok (.getfield 162, 3) := dk_180 0 162 (dk_at dksX4_number_0 1 rfl rfl)
theorem dX4_number_4 : decode cX4_number 4 = .ok (.ifCond .le 5, 3) := dk_158 0 5 (dk_at dksX4_number_0 4 rfl rfl)
theorem dX4_number_7 : decode cX4_number 7 = .ok (.iconst 0, 1) := dk_3 (dk_at dksX4_number_0 7 rfl rfl)
theorem dX4_number_8 : decode cX4_number 8 = .ok (.ireturn, 1) := dk_172 (dk_at dksX4_number_0 8 rfl rfl)
theorem dX4_number_9 : decode cX4_number 9 = .ok (.aload_n 0, 1) := dk_42 (dk_at dksX4_number_0 9 rfl rfl)
theorem dX4_number_10 : decode cX4_number 10 = .ok (.invokevirtual 165, 3) := dk_182 0 165 (dk_at dksX4_number_0 10 rfl rfl)
theorem dX4_number_13 : decode cX4_number 13 = .ok (.aload_n 0, 1) := dk_42 (dk_at dksX4_number_0 13 rfl rfl)
theorem dX4_number_14 : decode cX4_number 14 = .ok (.getfield 155, 3) := dk_180 0 155 (dk_at dksX4_number_0 14 rfl rfl)
theorem dX4_number_17 : decode cX4_number 17 = .ok (.istore_n 2, 1) := dk_61 (dk_at dksX4_number_0 17 rfl rfl)
theorem dX4_number_18 : decode cX4_number 18 = .ok (.aload_n 0, 1) := dk_42 (dk_at dksX4_number_0 18 rfl rfl)
theorem dX4_number_19 : decode cX4_number 19 = .ok (.aload_n 0, 1) := dk_42 (dk_at dksX4_number_0 19 rfl rfl)
theorem dX4_number_20 : decode cX4_number 20 = .ok (.getfield 155, 3) := dk_180 0 155 (dk_at dksX4_number_0 20 rfl rfl)
theorem dX4_number_23 : decode cX4_number 23 = .ok (.invokevirtual 158, 3) := dk_182 0 158 (dk_at dksX4_number_1 0 rfl rfl)
theorem dX4_number_26 : decode cX4_number 26 = .ok (.invokestatic 193, 3) := dk_184 0 193 (dk_at dksX4_number_1 3 rfl rfl)
theorem dX4_number_29 : decode cX4_number 29 = .ok (.ifCond .ne 15, 3) := dk_154 0 15 (dk_at dksX4_number_1 6 rfl rfl)
theorem dX4_number_32 : decode cX4_number 32 = .ok (.aload_n 0, 1) := dk_42 (dk_at dksX4_number_1 9 rfl rfl)
theorem dX4_number_33 : decode cX4_number 33 = .ok (.iconst 1, 1) := dk_4 (dk_at dksX4_number_1 10 rfl rfl)
theorem dX4_number_34 : decode cX4_number 34 = .ok (.aload_n 0, 1) := dk_42 (dk_at dksX4_number_1 11 rfl rfl)
theorem dX4_number_35 : decode cX4_number 35 = .ok (.getfield 155, 3) := dk_180 0 155 (dk_at dksX4_number_1 12 rfl rfl)
theorem dX4_number_38 : decode cX4_number 38 = .ok (.invokevirtual 189, 3) := dk_182 0 189 (dk_at dksX4_number_1 15 rfl rfl)
theorem dX4_number_41 : decode cX4_number 41 = .ok (.pop, 1) := dk_87 (dk_at dksX4_number_1 18 rfl rfl)
theorem dX4_number_42 : decode cX4_number 42 = .ok (.iconst 0, 1) := dk_3 (dk_at dksX4_number_1 19 rfl rfl)
theorem dX4_number_43 : decode cX4_number 43 = .ok (.ireturn, 1) := dk_172 (dk_at dksX4_number_1 20 rfl rfl)
theorem dX4_number_44 : decode cX4_number 44 = .ok (.lconst 0, 1) := dk_9 (dk_at dksX4_number_1 21 rfl rfl)
theorem dX4_number_45 : decode cX4_number 45 = .ok (.lstore_n 3, 1) := dk_66 (dk_at dksX4_number_1 22 rfl rfl)
theorem dX4_number_46 : decode cX4_number 46 = .ok (.aload_n 0, 1) := dk_42 (dk_at dksX4_number_1 23 rfl rfl)
theorem dX4_number_47 : decode cX4_number 47 = .ok (.aload_n 0, 1) := dk_42 (dk_at dksX4_number_2 0 rfl rfl)
theorem dX4_number_48 : decode cX4_number 48 = .ok (.getfield 155, 3) := dk_180 0 155 (dk_at dksX4_number_2 1 rfl rfl)
theorem dX4_number_51 : decode cX4_number 51 = .ok (.invokevirtual 158, 3) := dk_182 0 158 (dk_at dksX4_number_2 4 rfl rfl)
theorem dX4_number_54 : decode cX4_number 54 = .ok (.invokestatic 193, 3) := dk_184 0 193 (dk_at dksX4_number_2 7 rfl rfl)
theorem dX4_number_57 : decode cX4_number 57 = .ok (.ifCond .eq 48, 3) := dk_153 0 48 (dk_at dksX4_number_2 10 rfl rfl)
theorem dX4_number_60 : decode cX4_number 60 = .ok (.lload_n 3, 1) := dk_33 (dk_at dksX4_number_2 13 rfl rfl)
theorem dX4_number_61 : decode cX4_number 61 = .ok (.ldc2_w 196, 3) := dk_20 0 196 (dk_at dksX4_number_2 14 rfl rfl)
theorem dX4_number_64 : decode cX4_number 64 = .ok (.lcmp, 1) := dk_148 (dk_at dksX4_number_2 17 rfl rfl)
theorem dX4_number_65 : decode cX4_number 65 = .ok (.ifCond .le 7, 3) := dk_158 0 7 (dk_at dksX4_number_2 18 rfl rfl)
theorem dX4_number_68 : decode cX4_number 68 = .ok (.lload_n 3, 1) := dk_33 (dk_at dksX4_number_2 21 rfl rfl)
theorem dX4_number_69 : decode cX4_number 69 = .ok (.goto 22, 3) := dk_167 0 22 (dk_at dksX4_number_3 0 rfl rfl)
theorem dX4_number_72 : decode cX4_number 72 = .ok (.ldc2_w 198, 3) := dk_20 0 198 (dk_at dksX4_number_3 3 rfl rfl)
theorem dX4_number_75 : decode cX4_number 75 = .ok (.lload_n 3, 1) := dk_33 (dk_at dksX4_number_3 6 rfl rfl)
theorem dX4_number_76 : decode cX4_number 76 = .ok (.lmul, 1) := dk_105 (dk_at dksX4_number_3 7 rfl rfl)
theorem dX4_number_77 : decode cX4_number 77 = .ok (.aload_n 0, 1) := dk_42 (dk_at dksX4_number_3 8 rfl rfl)
theorem dX4_number_78 : decode cX4_number 78 = .ok (.aload_n 0, 1) := dk_42 (dk_at dksX4_number_3 9 rfl rfl)
theorem dX4_number_79 : decode cX4_number 79 = .ok (.getfield 155, 3) := dk_180 0 155 (dk_at dksX4_number_3 10 rfl rfl)
theorem dX4_number_82 : decode cX4_number 82 = .ok (.invokevirtual 158, 3) := dk_182 0 158 (dk_at dksX4_number_3 13 rfl rfl)
theorem dX4_number_85 : decode cX4_number 85 = .ok (.i2l, 1) := dk_133 (dk_at dksX4_number_3 16 rfl rfl)
theorem dX4_number_86 : decode cX4_number 86 = .ok (.ladd, 1) := dk_97 (dk_at dksX4_number_3 17 rfl rfl)
theorem dX4_number_87 : decode cX4_number 87 = .ok (.ldc2_w 200, 3) := dk_20 0 200 (dk_at dksX4_number_3 18 rfl rfl)
theorem dX4_number_90 : decode cX4_number 90 = .ok (.lsub, 1) := dk_101 (dk_at dksX4_number_3 21 rfl rfl)
theorem dX4_number_91 : decode cX4_number 91 = .ok (.lstore_n 3, 1) := dk_66 (dk_at dksX4_number_3 22 rfl rfl)
theorem dX4_number_92 : decode cX4_number 92 = .ok (.aload_n 0, 1) := dk_42 (dk_at dksX4_number_3 23 rfl rfl)
theorem dX4_number_93 : decode cX4_number 93 = .ok (.dup, 1) := dk_89 (dk_at dksX4_number_4 0 rfl rfl)
theorem dX4_number_94 : decode cX4_number 94 = .ok (.getfield 155, 3) := dk_180 0 155 (dk_at dksX4_number_4 1 rfl rfl)
theorem dX4_number_97 : decode cX4_number 97 = .ok (.iconst 1, 1) := dk_4 (dk_at dksX4_number_4 4 rfl rfl)
theorem dX4_number_98 : decode cX4_number 98 = .ok (.iadd, 1) := dk_96 (dk_at dksX4_number_4 5 rfl rfl)
theorem dX4_number_99 : decode cX4_number 99 = .ok (.putfield 155, 3) := dk_181 0 155 (dk_at dksX4_number_4 6 rfl rfl)
theorem dX4_number_102 : decode cX4_number 102 = .ok (.goto (-56), 3) := dk_167 255 200 (dk_at dksX4_number_4 9 rfl rfl)
theorem dX4_number_105 : decode cX4_number 105 = .ok (.lload_n 3, 1) := dk_33 (dk_at dksX4_number_4 12 rfl rfl)
theorem dX4_number_106 : decode cX4_number 106 = .ok (.ldc2_w 202, 3) := dk_20 0 202 (dk_at dksX4_number_4 13 rfl rfl)
theorem dX4_number_109 : decode cX4_number 109 = .ok (.lcmp, 1) := dk_148 (dk_at dksX4_number_4 16 rfl rfl)
theorem dX4_number_110 : decode cX4_number 110 = .ok (.ifCond .gt 13, 3) := dk_157 0 13 (dk_at dksX4_number_4 17 rfl rfl)
theorem dX4_number_113 : decode cX4_number 113 = .ok (.iload_n 1, 1) := dk_27 (dk_at dksX4_number_4 20 rfl rfl)
theorem dX4_number_114 : decode cX4_number 114 = .ok (.ifCond .eq 16, 3) := dk_153 0 16 (dk_at dksX4_number_4 21 rfl rfl)
theorem dX4_number_117 : decode cX4_number 117 = .ok (.lload_n 3, 1) := dk_33 (dk_at dksX4_number_5 0 rfl rfl)
theorem dX4_number_118 : decode cX4_number 118 = .ok (.lconst 0, 1) := dk_9 (dk_at dksX4_number_5 1 rfl rfl)
theorem dX4_number_119 : decode cX4_number 119 = .ok (.lcmp, 1) := dk_148 (dk_at dksX4_number_5 2 rfl rfl)
theorem dX4_number_120 : decode cX4_number 120 = .ok (.ifCond .ne 10, 3) := dk_154 0 10 (dk_at dksX4_number_5 3 rfl rfl)
theorem dX4_number_123 : decode cX4_number 123 = .ok (.aload_n 0, 1) := dk_42 (dk_at dksX4_number_5 6 rfl rfl)
theorem dX4_number_124 : decode cX4_number 124 = .ok (.iconst 2, 1) := dk_5 (dk_at dksX4_number_5 7 rfl rfl)
theorem dX4_number_125 : decode cX4_number 125 = .ok (.iload_n 2, 1) := dk_28 (dk_at dksX4_number_5 8 rfl rfl)
theorem dX4_number_126 : decode cX4_number 126 = .ok (.invokevirtual 189, 3) := dk_182 0 189 (dk_at dksX4_number_5 9 rfl rfl)
theorem dX4_number_129 : decode cX4_number 129 = .ok (.pop, 1) := dk_87 (dk_at dksX4_number_5 12 rfl rfl)
theorem dX4_number_130 : decode cX4_number 130 = .ok (.aload_n 0, 1) := dk_42 (dk_at dksX4_number_5 13 rfl rfl)
theorem dX4_number_131 : decode cX4_number 131 = .ok (.getfield 162, 3) := dk_180 0 162 (dk_at dksX4_number_5 14 rfl rfl)
theorem dX4_number_134 : decode cX4_number 134 = .ok (.ifCond .le 7, 3) := dk_158 0 7 (dk_at dksX4_number_5 17 rfl rfl)
theorem dX4_number_137 : decode cX4_number 137 = .ok (.iconst 0, 1) := dk_3 (dk_at dksX4_number_5 20 rfl rfl)
theorem dX4_number_138 : decode cX4_number 138 = .ok (.goto 5, 3) := dk_167 0 5 (dk_at dksX4_number_5 21 rfl rfl)
theorem dX4_number_141 : decode cX4_number 141 = .ok (.lload_n 3, 1) := dk_33 (dk_at dksX4_number_6 0 rfl rfl)
theorem dX4_number_142 : decode cX4_number 142 = .ok (.l2i, 1) := dk_136 (dk_at dksX4_number_6 1 rfl rfl)
theorem dX4_number_143 : decode cX4_number 143 = .ok (.ireturn, 1) := dk_172 (dk_at dksX4_number_6 2 rfl rfl)
abbrev cX4_isDigit : ByteArray := prog_33_method_8_code
def yX4_isDigit : MethodName := ⟨RX4, "isDigit", "(I)Z"⟩
def dkwX4_isDigit_0 : List UInt8 := [26, 16, 48, 161, 0, 13, 26, 16, 57, 163, 0, 7, 4, 167, 0, 4, 3, 172]
abbrev dktX4_isDigit_0 : List UInt8 := dkwX4_isDigit_0 ++ []
theorem dksX4_isDigit_0 : cX4_isDigit.data.toList.drop 0 = dktX4_isDigit_0 := by decide +kernel
theorem dX4_isDigit_0 : decode cX4_isDigit 0 = .ok (.iload_n 0, 1) := dk_26 (dk_at dksX4_isDigit_0 0 rfl rfl)
theorem dX4_isDigit_1 : decode cX4_isDigit 1 = .ok (.bipush 48, 2) := dk_16 48 (dk_at dksX4_isDigit_0 1 rfl rfl)
theorem dX4_isDigit_3 : decode cX4_isDigit 3 = .ok (.if_icmp .lt 13, 3) := dk_161 0 13 (dk_at dksX4_isDigit_0 3 rfl rfl)
theorem dX4_isDigit_6 : decode cX4_isDigit 6 = .ok (.iload_n 0, 1) := dk_26 (dk_at dksX4_isDigit_0 6 rfl rfl)
theorem dX4_isDigit_7 : decode cX4_isDigit 7 = .ok (.bipush 57, 2) := dk_16 57 (dk_at dksX4_isDigit_0 7 rfl rfl)
theorem dX4_isDigit_9 : decode cX4_isDigit 9 = .ok (.if_icmp .gt 7, 3) := dk_163 0 7 (dk_at dksX4_isDigit_0 9 rfl rfl)
theorem dX4_isDigit_12 : decode cX4_isDigit 12 = .ok (.iconst 1, 1) := dk_4 (dk_at dksX4_isDigit_0 12 rfl rfl)
theorem dX4_isDigit_13 : decode cX4_isDigit 13 = .ok (.goto 4, 3) := dk_167 0 4 (dk_at dksX4_isDigit_0 13 rfl rfl)
theorem dX4_isDigit_16 : decode cX4_isDigit 16 = .ok (.iconst 0, 1) := dk_3 (dk_at dksX4_isDigit_0 16 rfl rfl)
theorem dX4_isDigit_17 : decode cX4_isDigit 17 = .ok (.ireturn, 1) := dk_172 (dk_at dksX4_isDigit_0 17 rfl rfl)
abbrev cX4_need : ByteArray := prog_33_method_13_code
def yX4_need : MethodName := ⟨RX4, "need", "(I)Z"⟩
def dkwX4_need_1 : List UInt8 := [182, 0, 189, 172, 42, 89, 180, 0, 155, 4, 96, 181, 0, 155, 4, 172]
abbrev dktX4_need_1 : List UInt8 := dkwX4_need_1 ++ []
def dkwX4_need_0 : List UInt8 := [42, 180, 0, 162, 158, 0, 5, 3, 172, 42, 27, 182, 0, 186, 154, 0, 13, 42, 4, 42, 180, 0, 155]
abbrev dktX4_need_0 : List UInt8 := dkwX4_need_0 ++ dktX4_need_1
theorem dksX4_need_0 : cX4_need.data.toList.drop 0 = dktX4_need_0 := by decide +kernel
theorem dksX4_need_1 : cX4_need.data.toList.drop 23 = dktX4_need_1 := dk_seg dksX4_need_0 23 rfl rfl
theorem dX4_need_0 : decode cX4_need 0 = .ok (.aload_n 0, 1) := dk_42 (dk_at dksX4_need_0 0 rfl rfl)
theorem dX4_need_1 : decode cX4_need 1 = .ok (.getfield 162, 3) := dk_180 0 162 (dk_at dksX4_need_0 1 rfl rfl)
theorem dX4_need_4 : decode cX4_need 4 = .ok (.ifCond .le 5, 3) := dk_158 0 5 (dk_at dksX4_need_0 4 rfl rfl)
theorem dX4_need_7 : decode cX4_need 7 = .ok (.iconst 0, 1) := dk_3 (dk_at dksX4_need_0 7 rfl rfl)
theorem dX4_need_8 : decode cX4_need 8 = .ok (.ireturn, 1) := dk_172 (dk_at dksX4_need_0 8 rfl rfl)
theorem dX4_need_9 : decode cX4_need 9 = .ok (.aload_n 0, 1) := dk_42 (dk_at dksX4_need_0 9 rfl rfl)
theorem dX4_need_10 : decode cX4_need 10 = .ok (.iload_n 1, 1) := dk_27 (dk_at dksX4_need_0 10 rfl rfl)
theorem dX4_need_11 : decode cX4_need 11 = .ok (.invokevirtual 186, 3) := dk_182 0 186 (dk_at dksX4_need_0 11 rfl rfl)
theorem dX4_need_14 : decode cX4_need 14 = .ok (.ifCond .ne 13, 3) := dk_154 0 13 (dk_at dksX4_need_0 14 rfl rfl)
theorem dX4_need_17 : decode cX4_need 17 = .ok (.aload_n 0, 1) := dk_42 (dk_at dksX4_need_0 17 rfl rfl)
theorem dX4_need_18 : decode cX4_need 18 = .ok (.iconst 1, 1) := dk_4 (dk_at dksX4_need_0 18 rfl rfl)
theorem dX4_need_19 : decode cX4_need 19 = .ok (.aload_n 0, 1) := dk_42 (dk_at dksX4_need_0 19 rfl rfl)
theorem dX4_need_20 : decode cX4_need 20 = .ok (.getfield 155, 3) := dk_180 0 155 (dk_at dksX4_need_0 20 rfl rfl)
theorem dX4_need_23 : decode cX4_need 23 = .ok (.invokevirtual 189, 3) := dk_182 0 189 (dk_at dksX4_need_1 0 rfl rfl)
theorem dX4_need_26 : decode cX4_need 26 = .ok (.ireturn, 1) := dk_172 (dk_at dksX4_need_1 3 rfl rfl)
theorem dX4_need_27 : decode cX4_need 27 = .ok (.aload_n 0, 1) := dk_42 (dk_at dksX4_need_1 4 rfl rfl)
theorem dX4_need_28 : decode cX4_need 28 = .ok (.dup, 1) := dk_89 (dk_at dksX4_need_1 5 rfl rfl)
theorem dX4_need_29 : decode cX4_need 29 = .ok (.getfield 155, 3) := dk_180 0 155 (dk_at dksX4_need_1 6 rfl rfl)
theorem dX4_need_32 : decode cX4_need 32 = .ok (.iconst 1, 1) := dk_4 (dk_at dksX4_need_1 9 rfl rfl)
theorem dX4_need_33 : decode cX4_need 33 = .ok (.iadd, 1) := dk_96 (dk_at dksX4_need_1 10 rfl rfl)
theorem dX4_need_34 : decode cX4_need 34 = .ok (.putfield 155, 3) := dk_181 0 155 (dk_at dksX4_need_1 11 rfl rfl)
theorem dX4_need_37 : decode cX4_need 37 = .ok (.iconst 1, 1) := dk_4 (dk_at dksX4_need_1 14 rfl rfl)
theorem dX4_need_38 : decode cX4_need 38 = .ok (.ireturn, 1) := dk_172 (dk_at dksX4_need_1 15 rfl rfl)
abbrev cX4_isSign : ByteArray := prog_33_method_12_code
def yX4_isSign : MethodName := ⟨RX4, "isSign", "(I)Z"⟩
def dkwX4_isSign_1 : List UInt8 := [180, 0, 155, 42, 180, 0, 152, 162, 0, 7, 4, 167, 0, 4, 3, 172]
abbrev dktX4_isSign_1 : List UInt8 := dkwX4_isSign_1 ++ []
def dkwX4_isSign_0 : List UInt8 := [42, 182, 0, 165, 42, 180, 0, 162, 154, 0, 30, 42, 42, 180, 0, 155, 182, 0, 158, 27, 160, 0, 18, 42]
abbrev dktX4_isSign_0 : List UInt8 := dkwX4_isSign_0 ++ dktX4_isSign_1
theorem dksX4_isSign_0 : cX4_isSign.data.toList.drop 0 = dktX4_isSign_0 := by decide +kernel
theorem dksX4_isSign_1 : cX4_isSign.data.toList.drop 24 = dktX4_isSign_1 := dk_seg dksX4_isSign_0 24 rfl rfl
theorem dX4_isSign_0 : decode cX4_isSign 0 = .ok (.aload_n 0, 1) := dk_42 (dk_at dksX4_isSign_0 0 rfl rfl)
theorem dX4_isSign_1 : decode cX4_isSign 1 = .ok (.invokevirtual 165, 3) := dk_182 0 165 (dk_at dksX4_isSign_0 1 rfl rfl)
theorem dX4_isSign_4 : decode cX4_isSign 4 = .ok (.aload_n 0, 1) := dk_42 (dk_at dksX4_isSign_0 4 rfl rfl)
theorem dX4_isSign_5 : decode cX4_isSign 5 = .ok (.getfield 162, 3) := dk_180 0 162 (dk_at dksX4_isSign_0 5 rfl rfl)
theorem dX4_isSign_8 : decode cX4_isSign 8 = .ok (.ifCond .ne 30, 3) := dk_154 0 30 (dk_at dksX4_isSign_0 8 rfl rfl)
theorem dX4_isSign_11 : decode cX4_isSign 11 = .ok (.aload_n 0, 1) := dk_42 (dk_at dksX4_isSign_0 11 rfl rfl)
theorem dX4_isSign_12 : decode cX4_isSign 12 = .ok (.aload_n 0, 1) := dk_42 (dk_at dksX4_isSign_0 12 rfl rfl)
theorem dX4_isSign_13 : decode cX4_isSign 13 = .ok (.getfield 155, 3) := dk_180 0 155 (dk_at dksX4_isSign_0 13 rfl rfl)
theorem dX4_isSign_16 : decode cX4_isSign 16 = .ok (.invokevirtual 158, 3) := dk_182 0 158 (dk_at dksX4_isSign_0 16 rfl rfl)
theorem dX4_isSign_19 : decode cX4_isSign 19 = .ok (.iload_n 1, 1) := dk_27 (dk_at dksX4_isSign_0 19 rfl rfl)
theorem dX4_isSign_20 : decode cX4_isSign 20 = .ok (.if_icmp .ne 18, 3) := dk_160 0 18 (dk_at dksX4_isSign_0 20 rfl rfl)
theorem dX4_isSign_23 : decode cX4_isSign 23 = .ok (.aload_n 0, 1) := dk_42 (dk_at dksX4_isSign_0 23 rfl rfl)
theorem dX4_isSign_24 : decode cX4_isSign 24 = .ok (.getfield 155, 3) := dk_180 0 155 (dk_at dksX4_isSign_1 0 rfl rfl)
theorem dX4_isSign_27 : decode cX4_isSign 27 = .ok (.aload_n 0, 1) := dk_42 (dk_at dksX4_isSign_1 3 rfl rfl)
theorem dX4_isSign_28 : decode cX4_isSign 28 = .ok (.getfield 152, 3) := dk_180 0 152 (dk_at dksX4_isSign_1 4 rfl rfl)
theorem dX4_isSign_31 : decode cX4_isSign 31 = .ok (.if_icmp .ge 7, 3) := dk_162 0 7 (dk_at dksX4_isSign_1 7 rfl rfl)
theorem dX4_isSign_34 : decode cX4_isSign 34 = .ok (.iconst 1, 1) := dk_4 (dk_at dksX4_isSign_1 10 rfl rfl)
theorem dX4_isSign_35 : decode cX4_isSign 35 = .ok (.goto 4, 3) := dk_167 0 4 (dk_at dksX4_isSign_1 11 rfl rfl)
theorem dX4_isSign_38 : decode cX4_isSign 38 = .ok (.iconst 0, 1) := dk_3 (dk_at dksX4_isSign_1 14 rfl rfl)
theorem dX4_isSign_39 : decode cX4_isSign 39 = .ok (.ireturn, 1) := dk_172 (dk_at dksX4_isSign_1 15 rfl rfl)
abbrev cX4_condition : ByteArray := prog_33_method_17_code
def yX4_condition : MethodName := ⟨RX4, "condition", "()V"⟩
def dkwX4_condition_1 : List UInt8 := [167, 255, 237, 177]
abbrev dktX4_condition_1 : List UInt8 := dkwX4_condition_1 ++ []
def dkwX4_condition_0 : List UInt8 := [42, 182, 0, 211, 42, 18, 214, 182, 0, 216, 153, 0, 16, 42, 182, 0, 211, 42, 4, 3, 182, 0, 219]
abbrev dktX4_condition_0 : List UInt8 := dkwX4_condition_0 ++ dktX4_condition_1
theorem dksX4_condition_0 : cX4_condition.data.toList.drop 0 = dktX4_condition_0 := by decide +kernel
theorem dksX4_condition_1 : cX4_condition.data.toList.drop 23 = dktX4_condition_1 := dk_seg dksX4_condition_0 23 rfl rfl
theorem dX4_condition_0 : decode cX4_condition 0 = .ok (.aload_n 0, 1) := dk_42 (dk_at dksX4_condition_0 0 rfl rfl)
theorem dX4_condition_1 : decode cX4_condition 1 = .ok (.invokevirtual 211, 3) := dk_182 0 211 (dk_at dksX4_condition_0 1 rfl rfl)
theorem dX4_condition_4 : decode cX4_condition 4 = .ok (.aload_n 0, 1) := dk_42 (dk_at dksX4_condition_0 4 rfl rfl)
theorem dX4_condition_5 : decode cX4_condition 5 = .ok (.ldc 214, 2) := dk_18 214 (dk_at dksX4_condition_0 5 rfl rfl)
theorem dX4_condition_7 : decode cX4_condition 7 = .ok (.invokevirtual 216, 3) := dk_182 0 216 (dk_at dksX4_condition_0 7 rfl rfl)
theorem dX4_condition_10 : decode cX4_condition 10 = .ok (.ifCond .eq 16, 3) := dk_153 0 16 (dk_at dksX4_condition_0 10 rfl rfl)
theorem dX4_condition_13 : decode cX4_condition 13 = .ok (.aload_n 0, 1) := dk_42 (dk_at dksX4_condition_0 13 rfl rfl)
theorem dX4_condition_14 : decode cX4_condition 14 = .ok (.invokevirtual 211, 3) := dk_182 0 211 (dk_at dksX4_condition_0 14 rfl rfl)
theorem dX4_condition_17 : decode cX4_condition 17 = .ok (.aload_n 0, 1) := dk_42 (dk_at dksX4_condition_0 17 rfl rfl)
theorem dX4_condition_18 : decode cX4_condition 18 = .ok (.iconst 1, 1) := dk_4 (dk_at dksX4_condition_0 18 rfl rfl)
theorem dX4_condition_19 : decode cX4_condition 19 = .ok (.iconst 0, 1) := dk_3 (dk_at dksX4_condition_0 19 rfl rfl)
theorem dX4_condition_20 : decode cX4_condition 20 = .ok (.invokevirtual 219, 3) := dk_182 0 219 (dk_at dksX4_condition_0 20 rfl rfl)
theorem dX4_condition_23 : decode cX4_condition 23 = .ok (.goto (-19), 3) := dk_167 255 237 (dk_at dksX4_condition_1 0 rfl rfl)
theorem dX4_condition_26 : decode cX4_condition 26 = .ok (.return_, 1) := dk_177 (dk_at dksX4_condition_1 3 rfl rfl)
abbrev cX4_joined : ByteArray := prog_33_method_18_code
def yX4_joined : MethodName := ⟨RX4, "joined", "()V"⟩
def dkwX4_joined_1 : List UInt8 := [167, 255, 237, 177]
abbrev dktX4_joined_1 : List UInt8 := dkwX4_joined_1 ++ []
def dkwX4_joined_0 : List UInt8 := [42, 182, 0, 223, 42, 18, 226, 182, 0, 216, 153, 0, 16, 42, 182, 0, 223, 42, 3, 3, 182, 0, 219]
abbrev dktX4_joined_0 : List UInt8 := dkwX4_joined_0 ++ dktX4_joined_1
theorem dksX4_joined_0 : cX4_joined.data.toList.drop 0 = dktX4_joined_0 := by decide +kernel
theorem dksX4_joined_1 : cX4_joined.data.toList.drop 23 = dktX4_joined_1 := dk_seg dksX4_joined_0 23 rfl rfl
theorem dX4_joined_0 : decode cX4_joined 0 = .ok (.aload_n 0, 1) := dk_42 (dk_at dksX4_joined_0 0 rfl rfl)
theorem dX4_joined_1 : decode cX4_joined 1 = .ok (.invokevirtual 223, 3) := dk_182 0 223 (dk_at dksX4_joined_0 1 rfl rfl)
theorem dX4_joined_4 : decode cX4_joined 4 = .ok (.aload_n 0, 1) := dk_42 (dk_at dksX4_joined_0 4 rfl rfl)
theorem dX4_joined_5 : decode cX4_joined 5 = .ok (.ldc 226, 2) := dk_18 226 (dk_at dksX4_joined_0 5 rfl rfl)
theorem dX4_joined_7 : decode cX4_joined 7 = .ok (.invokevirtual 216, 3) := dk_182 0 216 (dk_at dksX4_joined_0 7 rfl rfl)
theorem dX4_joined_10 : decode cX4_joined 10 = .ok (.ifCond .eq 16, 3) := dk_153 0 16 (dk_at dksX4_joined_0 10 rfl rfl)
theorem dX4_joined_13 : decode cX4_joined 13 = .ok (.aload_n 0, 1) := dk_42 (dk_at dksX4_joined_0 13 rfl rfl)
theorem dX4_joined_14 : decode cX4_joined 14 = .ok (.invokevirtual 223, 3) := dk_182 0 223 (dk_at dksX4_joined_0 14 rfl rfl)
theorem dX4_joined_17 : decode cX4_joined 17 = .ok (.aload_n 0, 1) := dk_42 (dk_at dksX4_joined_0 17 rfl rfl)
theorem dX4_joined_18 : decode cX4_joined 18 = .ok (.iconst 0, 1) := dk_3 (dk_at dksX4_joined_0 18 rfl rfl)
theorem dX4_joined_19 : decode cX4_joined 19 = .ok (.iconst 0, 1) := dk_3 (dk_at dksX4_joined_0 19 rfl rfl)
theorem dX4_joined_20 : decode cX4_joined 20 = .ok (.invokevirtual 219, 3) := dk_182 0 219 (dk_at dksX4_joined_0 20 rfl rfl)
theorem dX4_joined_23 : decode cX4_joined 23 = .ok (.goto (-19), 3) := dk_167 255 237 (dk_at dksX4_joined_1 0 rfl rfl)
theorem dX4_joined_26 : decode cX4_joined 26 = .ok (.return_, 1) := dk_177 (dk_at dksX4_joined_1 3 rfl rfl)
abbrev cX4_one : ByteArray := prog_33_method_20_code
def yX4_one : MethodName := ⟨RX4, "one", "()V"⟩
def dkwX4_one_12 : List UInt8 := [153, 0, 10, 42, 182, 1, 9, 167, 0, 13, 42, 4, 42, 180, 0, 155, 182, 0, 189, 87, 177]
abbrev dktX4_one_12 : List UInt8 := dkwX4_one_12 ++ []
def dkwX4_one_11 : List UInt8 := [182, 0, 216, 153, 0, 12, 42, 16, 19, 182, 0, 254, 167, 0, 30, 42, 19, 1, 7, 182, 0, 216]
abbrev dktX4_one_11 : List UInt8 := dkwX4_one_11 ++ dktX4_one_12
def dkwX4_one_10 : List UInt8 := [19, 1, 3, 182, 0, 216, 153, 0, 12, 42, 16, 16, 182, 0, 254, 167, 0, 49, 42, 19, 1, 5]
abbrev dktX4_one_10 : List UInt8 := dkwX4_one_10 ++ dktX4_one_11
def dkwX4_one_9 : List UInt8 := [167, 0, 87, 42, 19, 1, 2, 182, 0, 216, 153, 0, 12, 42, 16, 13, 182, 0, 254, 167, 0, 68, 42]
abbrev dktX4_one_9 : List UInt8 := dkwX4_one_9 ++ dktX4_one_10
def dkwX4_one_8 : List UInt8 := [16, 8, 3, 182, 0, 219, 167, 0, 105, 42, 18, 253, 182, 0, 216, 153, 0, 12, 42, 16, 10, 182, 0, 254]
abbrev dktX4_one_8 : List UInt8 := dkwX4_one_8 ++ dktX4_one_9
def dkwX4_one_7 : List UInt8 := [153, 0, 13, 42, 6, 16, 8, 182, 0, 219, 167, 0, 124, 42, 18, 251, 182, 0, 216, 153, 0, 13, 42]
abbrev dktX4_one_7 : List UInt8 := dkwX4_one_7 ++ dktX4_one_8
def dkwX4_one_6 : List UInt8 := [42, 18, 247, 182, 0, 216, 153, 0, 12, 42, 6, 7, 182, 0, 219, 167, 0, 143, 42, 18, 249, 182, 0, 216]
abbrev dktX4_one_6 : List UInt8 := dkwX4_one_6 ++ dktX4_one_7
def dkwX4_one_5 : List UInt8 := [182, 0, 219, 167, 0, 179, 42, 18, 245, 182, 0, 216, 153, 0, 12, 42, 6, 5, 182, 0, 219, 167, 0, 161]
abbrev dktX4_one_5 : List UInt8 := dkwX4_one_5 ++ dktX4_one_6
def dkwX4_one_4 : List UInt8 := [87, 42, 89, 180, 0, 228, 4, 100, 181, 0, 228, 177, 42, 18, 243, 182, 0, 216, 153, 0, 12, 42, 6, 4]
abbrev dktX4_one_4 : List UInt8 := dkwX4_one_4 ++ dktX4_one_5
def dkwX4_one_3 : List UInt8 := [154, 0, 4, 177, 42, 89, 180, 0, 155, 4, 96, 181, 0, 155, 42, 182, 0, 237, 42, 16, 41, 182, 0, 240]
abbrev dktX4_one_3 : List UInt8 := dkwX4_one_3 ++ dktX4_one_4
def dkwX4_one_2 : List UInt8 := [181, 0, 228, 42, 5, 3, 182, 0, 219, 177, 42, 16, 40, 182, 0, 186, 153, 0, 43, 42, 182, 0, 233]
abbrev dktX4_one_2 : List UInt8 := dkwX4_one_2 ++ dktX4_one_3
def dkwX4_one_1 : List UInt8 := [177, 42, 89, 180, 0, 155, 6, 96, 181, 0, 155, 42, 182, 0, 223, 42, 89, 180, 0, 228, 4, 100]
abbrev dktX4_one_1 : List UInt8 := dkwX4_one_1 ++ dktX4_one_2
def dkwX4_one_0 : List UInt8 := [42, 180, 0, 162, 158, 0, 4, 177, 42, 18, 231, 182, 0, 182, 153, 0, 42, 42, 182, 0, 233, 154, 0, 4]
abbrev dktX4_one_0 : List UInt8 := dkwX4_one_0 ++ dktX4_one_1
theorem dksX4_one_0 : cX4_one.data.toList.drop 0 = dktX4_one_0 := by decide +kernel
theorem dksX4_one_1 : cX4_one.data.toList.drop 24 = dktX4_one_1 := dk_seg dksX4_one_0 24 rfl rfl
theorem dksX4_one_2 : cX4_one.data.toList.drop 46 = dktX4_one_2 := dk_seg dksX4_one_1 22 rfl rfl
theorem dksX4_one_3 : cX4_one.data.toList.drop 69 = dktX4_one_3 := dk_seg dksX4_one_2 23 rfl rfl
theorem dksX4_one_4 : cX4_one.data.toList.drop 93 = dktX4_one_4 := dk_seg dksX4_one_3 24 rfl rfl
theorem dksX4_one_5 : cX4_one.data.toList.drop 117 = dktX4_one_5 := dk_seg dksX4_one_4 24 rfl rfl
theorem dksX4_one_6 : cX4_one.data.toList.drop 141 = dktX4_one_6 := dk_seg dksX4_one_5 24 rfl rfl
theorem dksX4_one_7 : cX4_one.data.toList.drop 165 = dktX4_one_7 := dk_seg dksX4_one_6 24 rfl rfl
theorem dksX4_one_8 : cX4_one.data.toList.drop 188 = dktX4_one_8 := dk_seg dksX4_one_7 23 rfl rfl
theorem dksX4_one_9 : cX4_one.data.toList.drop 212 = dktX4_one_9 := dk_seg dksX4_one_8 24 rfl rfl
theorem dksX4_one_10 : cX4_one.data.toList.drop 235 = dktX4_one_10 := dk_seg dksX4_one_9 23 rfl rfl
theorem dksX4_one_11 : cX4_one.data.toList.drop 257 = dktX4_one_11 := dk_seg dksX4_one_10 22 rfl rfl
theorem dksX4_one_12 : cX4_one.data.toList.drop 279 = dktX4_one_12 := dk_seg dksX4_one_11 22 rfl rfl
theorem dX4_one_0 : decode cX4_one 0 = .ok (.aload_n 0, 1) := dk_42 (dk_at dksX4_one_0 0 rfl rfl)
theorem dX4_one_1 : decode cX4_one 1 = .ok (.getfield 162, 3) := dk_180 0 162 (dk_at dksX4_one_0 1 rfl rfl)
theorem dX4_one_4 : decode cX4_one 4 = .ok (.ifCond .le 4, 3) := dk_158 0 4 (dk_at dksX4_one_0 4 rfl rfl)
theorem dX4_one_7 : decode cX4_one 7 = .ok (.return_, 1) := dk_177 (dk_at dksX4_one_0 7 rfl rfl)
theorem dX4_one_8 : decode cX4_one 8 = .ok (.aload_n 0, 1) := dk_42 (dk_at dksX4_one_0 8 rfl rfl)
theorem dX4_one_9 : decode cX4_one 9 = .ok (.ldc 231, 2) := dk_18 231 (dk_at dksX4_one_0 9 rfl rfl)
theorem dX4_one_11 : decode cX4_one 11 = .ok (.invokevirtual 182, 3) := dk_182 0 182 (dk_at dksX4_one_0 11 rfl rfl)
theorem dX4_one_14 : decode cX4_one 14 = .ok (.ifCond .eq 42, 3) := dk_153 0 42 (dk_at dksX4_one_0 14 rfl rfl)
theorem dX4_one_17 : decode cX4_one 17 = .ok (.aload_n 0, 1) := dk_42 (dk_at dksX4_one_0 17 rfl rfl)
theorem dX4_one_18 : decode cX4_one 18 = .ok (.invokevirtual 233, 3) := dk_182 0 233 (dk_at dksX4_one_0 18 rfl rfl)
theorem dX4_one_21 : decode cX4_one 21 = .ok (.ifCond .ne 4, 3) := dk_154 0 4 (dk_at dksX4_one_0 21 rfl rfl)
theorem dX4_one_24 : decode cX4_one 24 = .ok (.return_, 1) := dk_177 (dk_at dksX4_one_1 0 rfl rfl)
theorem dX4_one_25 : decode cX4_one 25 = .ok (.aload_n 0, 1) := dk_42 (dk_at dksX4_one_1 1 rfl rfl)
theorem dX4_one_26 : decode cX4_one 26 = .ok (.dup, 1) := dk_89 (dk_at dksX4_one_1 2 rfl rfl)
theorem dX4_one_27 : decode cX4_one 27 = .ok (.getfield 155, 3) := dk_180 0 155 (dk_at dksX4_one_1 3 rfl rfl)
theorem dX4_one_30 : decode cX4_one 30 = .ok (.iconst 3, 1) := dk_6 (dk_at dksX4_one_1 6 rfl rfl)
theorem dX4_one_31 : decode cX4_one 31 = .ok (.iadd, 1) := dk_96 (dk_at dksX4_one_1 7 rfl rfl)
theorem dX4_one_32 : decode cX4_one 32 = .ok (.putfield 155, 3) := dk_181 0 155 (dk_at dksX4_one_1 8 rfl rfl)
theorem dX4_one_35 : decode cX4_one 35 = .ok (.aload_n 0, 1) := dk_42 (dk_at dksX4_one_1 11 rfl rfl)
theorem dX4_one_36 : decode cX4_one 36 = .ok (.invokevirtual 223, 3) := dk_182 0 223 (dk_at dksX4_one_1 12 rfl rfl)
theorem dX4_one_39 : decode cX4_one 39 = .ok (.aload_n 0, 1) := dk_42 (dk_at dksX4_one_1 15 rfl rfl)
theorem dX4_one_40 : decode cX4_one 40 = .ok (.dup, 1) := dk_89 (dk_at dksX4_one_1 16 rfl rfl)
theorem dX4_one_41 : decode cX4_one 41 = .ok (.getfield 228, 3) := dk_180 0 228 (dk_at dksX4_one_1 17 rfl rfl)
theorem dX4_one_44 : decode cX4_one 44 = .ok (.iconst 1, 1) := dk_4 (dk_at dksX4_one_1 20 rfl rfl)
theorem dX4_one_45 : decode cX4_one 45 = .ok (.isub, 1) := dk_100 (dk_at dksX4_one_1 21 rfl rfl)
theorem dX4_one_46 : decode cX4_one 46 = .ok (.putfield 228, 3) := dk_181 0 228 (dk_at dksX4_one_2 0 rfl rfl)
theorem dX4_one_49 : decode cX4_one 49 = .ok (.aload_n 0, 1) := dk_42 (dk_at dksX4_one_2 3 rfl rfl)
theorem dX4_one_50 : decode cX4_one 50 = .ok (.iconst 2, 1) := dk_5 (dk_at dksX4_one_2 4 rfl rfl)
theorem dX4_one_51 : decode cX4_one 51 = .ok (.iconst 0, 1) := dk_3 (dk_at dksX4_one_2 5 rfl rfl)
theorem dX4_one_52 : decode cX4_one 52 = .ok (.invokevirtual 219, 3) := dk_182 0 219 (dk_at dksX4_one_2 6 rfl rfl)
theorem dX4_one_55 : decode cX4_one 55 = .ok (.return_, 1) := dk_177 (dk_at dksX4_one_2 9 rfl rfl)
theorem dX4_one_56 : decode cX4_one 56 = .ok (.aload_n 0, 1) := dk_42 (dk_at dksX4_one_2 10 rfl rfl)
theorem dX4_one_57 : decode cX4_one 57 = .ok (.bipush 40, 2) := dk_16 40 (dk_at dksX4_one_2 11 rfl rfl)
theorem dX4_one_59 : decode cX4_one 59 = .ok (.invokevirtual 186, 3) := dk_182 0 186 (dk_at dksX4_one_2 13 rfl rfl)
theorem dX4_one_62 : decode cX4_one 62 = .ok (.ifCond .eq 43, 3) := dk_153 0 43 (dk_at dksX4_one_2 16 rfl rfl)
theorem dX4_one_65 : decode cX4_one 65 = .ok (.aload_n 0, 1) := dk_42 (dk_at dksX4_one_2 19 rfl rfl)
theorem dX4_one_66 : decode cX4_one 66 = .ok (.invokevirtual 233, 3) := dk_182 0 233 (dk_at dksX4_one_2 20 rfl rfl)
theorem dX4_one_69 : decode cX4_one 69 = .ok (.ifCond .ne 4, 3) := dk_154 0 4 (dk_at dksX4_one_3 0 rfl rfl)
theorem dX4_one_72 : decode cX4_one 72 = .ok (.return_, 1) := dk_177 (dk_at dksX4_one_3 3 rfl rfl)
theorem dX4_one_73 : decode cX4_one 73 = .ok (.aload_n 0, 1) := dk_42 (dk_at dksX4_one_3 4 rfl rfl)
theorem dX4_one_74 : decode cX4_one 74 = .ok (.dup, 1) := dk_89 (dk_at dksX4_one_3 5 rfl rfl)
theorem dX4_one_75 : decode cX4_one 75 = .ok (.getfield 155, 3) := dk_180 0 155 (dk_at dksX4_one_3 6 rfl rfl)
theorem dX4_one_78 : decode cX4_one 78 = .ok (.iconst 1, 1) := dk_4 (dk_at dksX4_one_3 9 rfl rfl)
theorem dX4_one_79 : decode cX4_one 79 = .ok (.iadd, 1) := dk_96 (dk_at dksX4_one_3 10 rfl rfl)
theorem dX4_one_80 : decode cX4_one 80 = .ok (.putfield 155, 3) := dk_181 0 155 (dk_at dksX4_one_3 11 rfl rfl)
theorem dX4_one_83 : decode cX4_one 83 = .ok (.aload_n 0, 1) := dk_42 (dk_at dksX4_one_3 14 rfl rfl)
theorem dX4_one_84 : decode cX4_one 84 = .ok (.invokevirtual 237, 3) := dk_182 0 237 (dk_at dksX4_one_3 15 rfl rfl)
theorem dX4_one_87 : decode cX4_one 87 = .ok (.aload_n 0, 1) := dk_42 (dk_at dksX4_one_3 18 rfl rfl)
theorem dX4_one_88 : decode cX4_one 88 = .ok (.bipush 41, 2) := dk_16 41 (dk_at dksX4_one_3 19 rfl rfl)
theorem dX4_one_90 : decode cX4_one 90 = .ok (.invokevirtual 240, 3) := dk_182 0 240 (dk_at dksX4_one_3 21 rfl rfl)
theorem dX4_one_93 : decode cX4_one 93 = .ok (.pop, 1) := dk_87 (dk_at dksX4_one_4 0 rfl rfl)
theorem dX4_one_94 : decode cX4_one 94 = .ok (.aload_n 0, 1) := dk_42 (dk_at dksX4_one_4 1 rfl rfl)
theorem dX4_one_95 : decode cX4_one 95 = .ok (.dup, 1) := dk_89 (dk_at dksX4_one_4 2 rfl rfl)
theorem dX4_one_96 : decode cX4_one 96 = .ok (.getfield 228, 3) := dk_180 0 228 (dk_at dksX4_one_4 3 rfl rfl)
theorem dX4_one_99 : decode cX4_one 99 = .ok (.iconst 1, 1) := dk_4 (dk_at dksX4_one_4 6 rfl rfl)
theorem dX4_one_100 : decode cX4_one 100 = .ok (.isub, 1) := dk_100 (dk_at dksX4_one_4 7 rfl rfl)
theorem dX4_one_101 : decode cX4_one 101 = .ok (.putfield 228, 3) := dk_181 0 228 (dk_at dksX4_one_4 8 rfl rfl)
theorem dX4_one_104 : decode cX4_one 104 = .ok (.return_, 1) := dk_177 (dk_at dksX4_one_4 11 rfl rfl)
theorem dX4_one_105 : decode cX4_one 105 = .ok (.aload_n 0, 1) := dk_42 (dk_at dksX4_one_4 12 rfl rfl)
theorem dX4_one_106 : decode cX4_one 106 = .ok (.ldc 243, 2) := dk_18 243 (dk_at dksX4_one_4 13 rfl rfl)
theorem dX4_one_108 : decode cX4_one 108 = .ok (.invokevirtual 216, 3) := dk_182 0 216 (dk_at dksX4_one_4 15 rfl rfl)
theorem dX4_one_111 : decode cX4_one 111 = .ok (.ifCond .eq 12, 3) := dk_153 0 12 (dk_at dksX4_one_4 18 rfl rfl)
theorem dX4_one_114 : decode cX4_one 114 = .ok (.aload_n 0, 1) := dk_42 (dk_at dksX4_one_4 21 rfl rfl)
theorem dX4_one_115 : decode cX4_one 115 = .ok (.iconst 3, 1) := dk_6 (dk_at dksX4_one_4 22 rfl rfl)
theorem dX4_one_116 : decode cX4_one 116 = .ok (.iconst 1, 1) := dk_4 (dk_at dksX4_one_4 23 rfl rfl)
theorem dX4_one_117 : decode cX4_one 117 = .ok (.invokevirtual 219, 3) := dk_182 0 219 (dk_at dksX4_one_5 0 rfl rfl)
theorem dX4_one_120 : decode cX4_one 120 = .ok (.goto 179, 3) := dk_167 0 179 (dk_at dksX4_one_5 3 rfl rfl)
theorem dX4_one_123 : decode cX4_one 123 = .ok (.aload_n 0, 1) := dk_42 (dk_at dksX4_one_5 6 rfl rfl)
theorem dX4_one_124 : decode cX4_one 124 = .ok (.ldc 245, 2) := dk_18 245 (dk_at dksX4_one_5 7 rfl rfl)
theorem dX4_one_126 : decode cX4_one 126 = .ok (.invokevirtual 216, 3) := dk_182 0 216 (dk_at dksX4_one_5 9 rfl rfl)
theorem dX4_one_129 : decode cX4_one 129 = .ok (.ifCond .eq 12, 3) := dk_153 0 12 (dk_at dksX4_one_5 12 rfl rfl)
theorem dX4_one_132 : decode cX4_one 132 = .ok (.aload_n 0, 1) := dk_42 (dk_at dksX4_one_5 15 rfl rfl)
theorem dX4_one_133 : decode cX4_one 133 = .ok (.iconst 3, 1) := dk_6 (dk_at dksX4_one_5 16 rfl rfl)
theorem dX4_one_134 : decode cX4_one 134 = .ok (.iconst 2, 1) := dk_5 (dk_at dksX4_one_5 17 rfl rfl)
theorem dX4_one_135 : decode cX4_one 135 = .ok (.invokevirtual 219, 3) := dk_182 0 219 (dk_at dksX4_one_5 18 rfl rfl)
theorem dX4_one_138 : decode cX4_one 138 = .ok (.goto 161, 3) := dk_167 0 161 (dk_at dksX4_one_5 21 rfl rfl)
theorem dX4_one_141 : decode cX4_one 141 = .ok (.aload_n 0, 1) := dk_42 (dk_at dksX4_one_6 0 rfl rfl)
theorem dX4_one_142 : decode cX4_one 142 = .ok (.ldc 247, 2) := dk_18 247 (dk_at dksX4_one_6 1 rfl rfl)
theorem dX4_one_144 : decode cX4_one 144 = .ok (.invokevirtual 216, 3) := dk_182 0 216 (dk_at dksX4_one_6 3 rfl rfl)
theorem dX4_one_147 : decode cX4_one 147 = .ok (.ifCond .eq 12, 3) := dk_153 0 12 (dk_at dksX4_one_6 6 rfl rfl)
theorem dX4_one_150 : decode cX4_one 150 = .ok (.aload_n 0, 1) := dk_42 (dk_at dksX4_one_6 9 rfl rfl)
theorem dX4_one_151 : decode cX4_one 151 = .ok (.iconst 3, 1) := dk_6 (dk_at dksX4_one_6 10 rfl rfl)
theorem dX4_one_152 : decode cX4_one 152 = .ok (.iconst 4, 1) := dk_7 (dk_at dksX4_one_6 11 rfl rfl)
theorem dX4_one_153 : decode cX4_one 153 = .ok (.invokevirtual 219, 3) := dk_182 0 219 (dk_at dksX4_one_6 12 rfl rfl)
theorem dX4_one_156 : decode cX4_one 156 = .ok (.goto 143, 3) := dk_167 0 143 (dk_at dksX4_one_6 15 rfl rfl)
theorem dX4_one_159 : decode cX4_one 159 = .ok (.aload_n 0, 1) := dk_42 (dk_at dksX4_one_6 18 rfl rfl)
theorem dX4_one_160 : decode cX4_one 160 = .ok (.ldc 249, 2) := dk_18 249 (dk_at dksX4_one_6 19 rfl rfl)
theorem dX4_one_162 : decode cX4_one 162 = .ok (.invokevirtual 216, 3) := dk_182 0 216 (dk_at dksX4_one_6 21 rfl rfl)
theorem dX4_one_165 : decode cX4_one 165 = .ok (.ifCond .eq 13, 3) := dk_153 0 13 (dk_at dksX4_one_7 0 rfl rfl)
theorem dX4_one_168 : decode cX4_one 168 = .ok (.aload_n 0, 1) := dk_42 (dk_at dksX4_one_7 3 rfl rfl)
theorem dX4_one_169 : decode cX4_one 169 = .ok (.iconst 3, 1) := dk_6 (dk_at dksX4_one_7 4 rfl rfl)
theorem dX4_one_170 : decode cX4_one 170 = .ok (.bipush 8, 2) := dk_16 8 (dk_at dksX4_one_7 5 rfl rfl)
theorem dX4_one_172 : decode cX4_one 172 = .ok (.invokevirtual 219, 3) := dk_182 0 219 (dk_at dksX4_one_7 7 rfl rfl)
theorem dX4_one_175 : decode cX4_one 175 = .ok (.goto 124, 3) := dk_167 0 124 (dk_at dksX4_one_7 10 rfl rfl)
theorem dX4_one_178 : decode cX4_one 178 = .ok (.aload_n 0, 1) := dk_42 (dk_at dksX4_one_7 13 rfl rfl)
theorem dX4_one_179 : decode cX4_one 179 = .ok (.ldc 251, 2) := dk_18 251 (dk_at dksX4_one_7 14 rfl rfl)
theorem dX4_one_181 : decode cX4_one 181 = .ok (.invokevirtual 216, 3) := dk_182 0 216 (dk_at dksX4_one_7 16 rfl rfl)
theorem dX4_one_184 : decode cX4_one 184 = .ok (.ifCond .eq 13, 3) := dk_153 0 13 (dk_at dksX4_one_7 19 rfl rfl)
theorem dX4_one_187 : decode cX4_one 187 = .ok (.aload_n 0, 1) := dk_42 (dk_at dksX4_one_7 22 rfl rfl)
theorem dX4_one_188 : decode cX4_one 188 = .ok (.bipush 8, 2) := dk_16 8 (dk_at dksX4_one_8 0 rfl rfl)
theorem dX4_one_190 : decode cX4_one 190 = .ok (.iconst 0, 1) := dk_3 (dk_at dksX4_one_8 2 rfl rfl)
theorem dX4_one_191 : decode cX4_one 191 = .ok (.invokevirtual 219, 3) := dk_182 0 219 (dk_at dksX4_one_8 3 rfl rfl)
theorem dX4_one_194 : decode cX4_one 194 = .ok (.goto 105, 3) := dk_167 0 105 (dk_at dksX4_one_8 6 rfl rfl)
theorem dX4_one_197 : decode cX4_one 197 = .ok (.aload_n 0, 1) := dk_42 (dk_at dksX4_one_8 9 rfl rfl)
theorem dX4_one_198 : decode cX4_one 198 = .ok (.ldc 253, 2) := dk_18 253 (dk_at dksX4_one_8 10 rfl rfl)
theorem dX4_one_200 : decode cX4_one 200 = .ok (.invokevirtual 216, 3) := dk_182 0 216 (dk_at dksX4_one_8 12 rfl rfl)
theorem dX4_one_203 : decode cX4_one 203 = .ok (.ifCond .eq 12, 3) := dk_153 0 12 (dk_at dksX4_one_8 15 rfl rfl)
theorem dX4_one_206 : decode cX4_one 206 = .ok (.aload_n 0, 1) := dk_42 (dk_at dksX4_one_8 18 rfl rfl)
theorem dX4_one_207 : decode cX4_one 207 = .ok (.bipush 10, 2) := dk_16 10 (dk_at dksX4_one_8 19 rfl rfl)
theorem dX4_one_209 : decode cX4_one 209 = .ok (.invokevirtual 254, 3) := dk_182 0 254 (dk_at dksX4_one_8 21 rfl rfl)
theorem dX4_one_212 : decode cX4_one 212 = .ok (.goto 87, 3) := dk_167 0 87 (dk_at dksX4_one_9 0 rfl rfl)
theorem dX4_one_215 : decode cX4_one 215 = .ok (.aload_n 0, 1) := dk_42 (dk_at dksX4_one_9 3 rfl rfl)
theorem dX4_one_216 : decode cX4_one 216 = .ok (.ldc_w 258, 3) := dk_19 1 2 (dk_at dksX4_one_9 4 rfl rfl)
theorem dX4_one_219 : decode cX4_one 219 = .ok (.invokevirtual 216, 3) := dk_182 0 216 (dk_at dksX4_one_9 7 rfl rfl)
theorem dX4_one_222 : decode cX4_one 222 = .ok (.ifCond .eq 12, 3) := dk_153 0 12 (dk_at dksX4_one_9 10 rfl rfl)
theorem dX4_one_225 : decode cX4_one 225 = .ok (.aload_n 0, 1) := dk_42 (dk_at dksX4_one_9 13 rfl rfl)
theorem dX4_one_226 : decode cX4_one 226 = .ok (.bipush 13, 2) := dk_16 13 (dk_at dksX4_one_9 14 rfl rfl)
theorem dX4_one_228 : decode cX4_one 228 = .ok (.invokevirtual 254, 3) := dk_182 0 254 (dk_at dksX4_one_9 16 rfl rfl)
theorem dX4_one_231 : decode cX4_one 231 = .ok (.goto 68, 3) := dk_167 0 68 (dk_at dksX4_one_9 19 rfl rfl)
theorem dX4_one_234 : decode cX4_one 234 = .ok (.aload_n 0, 1) := dk_42 (dk_at dksX4_one_9 22 rfl rfl)
theorem dX4_one_235 : decode cX4_one 235 = .ok (.ldc_w 259, 3) := dk_19 1 3 (dk_at dksX4_one_10 0 rfl rfl)
theorem dX4_one_238 : decode cX4_one 238 = .ok (.invokevirtual 216, 3) := dk_182 0 216 (dk_at dksX4_one_10 3 rfl rfl)
theorem dX4_one_241 : decode cX4_one 241 = .ok (.ifCond .eq 12, 3) := dk_153 0 12 (dk_at dksX4_one_10 6 rfl rfl)
theorem dX4_one_244 : decode cX4_one 244 = .ok (.aload_n 0, 1) := dk_42 (dk_at dksX4_one_10 9 rfl rfl)
theorem dX4_one_245 : decode cX4_one 245 = .ok (.bipush 16, 2) := dk_16 16 (dk_at dksX4_one_10 10 rfl rfl)
theorem dX4_one_247 : decode cX4_one 247 = .ok (.invokevirtual 254, 3) := dk_182 0 254 (dk_at dksX4_one_10 12 rfl rfl)
theorem dX4_one_250 : decode cX4_one 250 = .ok (.goto 49, 3) := dk_167 0 49 (dk_at dksX4_one_10 15 rfl rfl)
theorem dX4_one_253 : decode cX4_one 253 = .ok (.aload_n 0, 1) := dk_42 (dk_at dksX4_one_10 18 rfl rfl)
theorem dX4_one_254 : decode cX4_one 254 = .ok (.ldc_w 261, 3) := dk_19 1 5 (dk_at dksX4_one_10 19 rfl rfl)
theorem dX4_one_257 : decode cX4_one 257 = .ok (.invokevirtual 216, 3) := dk_182 0 216 (dk_at dksX4_one_11 0 rfl rfl)
theorem dX4_one_260 : decode cX4_one 260 = .ok (.ifCond .eq 12, 3) := dk_153 0 12 (dk_at dksX4_one_11 3 rfl rfl)
theorem dX4_one_263 : decode cX4_one 263 = .ok (.aload_n 0, 1) := dk_42 (dk_at dksX4_one_11 6 rfl rfl)
theorem dX4_one_264 : decode cX4_one 264 = .ok (.bipush 19, 2) := dk_16 19 (dk_at dksX4_one_11 7 rfl rfl)
theorem dX4_one_266 : decode cX4_one 266 = .ok (.invokevirtual 254, 3) := dk_182 0 254 (dk_at dksX4_one_11 9 rfl rfl)
theorem dX4_one_269 : decode cX4_one 269 = .ok (.goto 30, 3) := dk_167 0 30 (dk_at dksX4_one_11 12 rfl rfl)
theorem dX4_one_272 : decode cX4_one 272 = .ok (.aload_n 0, 1) := dk_42 (dk_at dksX4_one_11 15 rfl rfl)
theorem dX4_one_273 : decode cX4_one 273 = .ok (.ldc_w 263, 3) := dk_19 1 7 (dk_at dksX4_one_11 16 rfl rfl)
theorem dX4_one_276 : decode cX4_one 276 = .ok (.invokevirtual 216, 3) := dk_182 0 216 (dk_at dksX4_one_11 19 rfl rfl)
theorem dX4_one_279 : decode cX4_one 279 = .ok (.ifCond .eq 10, 3) := dk_153 0 10 (dk_at dksX4_one_12 0 rfl rfl)
theorem dX4_one_282 : decode cX4_one 282 = .ok (.aload_n 0, 1) := dk_42 (dk_at dksX4_one_12 3 rfl rfl)
theorem dX4_one_283 : decode cX4_one 283 = .ok (.invokevirtual 265, 3) := dk_182 1 9 (dk_at dksX4_one_12 4 rfl rfl)
theorem dX4_one_286 : decode cX4_one 286 = .ok (.goto 13, 3) := dk_167 0 13 (dk_at dksX4_one_12 7 rfl rfl)
theorem dX4_one_289 : decode cX4_one 289 = .ok (.aload_n 0, 1) := dk_42 (dk_at dksX4_one_12 10 rfl rfl)
theorem dX4_one_290 : decode cX4_one 290 = .ok (.iconst 1, 1) := dk_4 (dk_at dksX4_one_12 11 rfl rfl)
theorem dX4_one_291 : decode cX4_one 291 = .ok (.aload_n 0, 1) := dk_42 (dk_at dksX4_one_12 12 rfl rfl)
theorem dX4_one_292 : decode cX4_one 292 = .ok (.getfield 155, 3) := dk_180 0 155 (dk_at dksX4_one_12 13 rfl rfl)
theorem dX4_one_295 : decode cX4_one 295 = .ok (.invokevirtual 189, 3) := dk_182 0 189 (dk_at dksX4_one_12 16 rfl rfl)
theorem dX4_one_298 : decode cX4_one 298 = .ok (.pop, 1) := dk_87 (dk_at dksX4_one_12 19 rfl rfl)
theorem dX4_one_299 : decode cX4_one 299 = .ok (.return_, 1) := dk_177 (dk_at dksX4_one_12 20 rfl rfl)
abbrev cX4_opens : ByteArray := prog_33_method_19_code
def yX4_opens : MethodName := ⟨RX4, "opens", "()Z"⟩
def dkwX4_opens_1 : List UInt8 := [4, 96, 181, 0, 228, 4, 172]
abbrev dktX4_opens_1 : List UInt8 := dkwX4_opens_1 ++ []
def dkwX4_opens_0 : List UInt8 := [42, 180, 0, 228, 16, 10, 160, 0, 13, 42, 6, 42, 180, 0, 155, 182, 0, 189, 172, 42, 89, 180, 0, 228]
abbrev dktX4_opens_0 : List UInt8 := dkwX4_opens_0 ++ dktX4_opens_1
theorem dksX4_opens_0 : cX4_opens.data.toList.drop 0 = dktX4_opens_0 := by decide +kernel
theorem dksX4_opens_1 : cX4_opens.data.toList.drop 24 = dktX4_opens_1 := dk_seg dksX4_opens_0 24 rfl rfl
theorem dX4_opens_0 : decode cX4_opens 0 = .ok (.aload_n 0, 1) := dk_42 (dk_at dksX4_opens_0 0 rfl rfl)
theorem dX4_opens_1 : decode cX4_opens 1 = .ok (.getfield 228, 3) := dk_180 0 228 (dk_at dksX4_opens_0 1 rfl rfl)
theorem dX4_opens_4 : decode cX4_opens 4 = .ok (.bipush 10, 2) := dk_16 10 (dk_at dksX4_opens_0 4 rfl rfl)
theorem dX4_opens_6 : decode cX4_opens 6 = .ok (.if_icmp .ne 13, 3) := dk_160 0 13 (dk_at dksX4_opens_0 6 rfl rfl)
theorem dX4_opens_9 : decode cX4_opens 9 = .ok (.aload_n 0, 1) := dk_42 (dk_at dksX4_opens_0 9 rfl rfl)
theorem dX4_opens_10 : decode cX4_opens 10 = .ok (.iconst 3, 1) := dk_6 (dk_at dksX4_opens_0 10 rfl rfl)
theorem dX4_opens_11 : decode cX4_opens 11 = .ok (.aload_n 0, 1) := dk_42 (dk_at dksX4_opens_0 11 rfl rfl)
theorem dX4_opens_12 : decode cX4_opens 12 = .ok (.getfield 155, 3) := dk_180 0 155 (dk_at dksX4_opens_0 12 rfl rfl)
theorem dX4_opens_15 : decode cX4_opens 15 = .ok (.invokevirtual 189, 3) := dk_182 0 189 (dk_at dksX4_opens_0 15 rfl rfl)
theorem dX4_opens_18 : decode cX4_opens 18 = .ok (.ireturn, 1) := dk_172 (dk_at dksX4_opens_0 18 rfl rfl)
theorem dX4_opens_19 : decode cX4_opens 19 = .ok (.aload_n 0, 1) := dk_42 (dk_at dksX4_opens_0 19 rfl rfl)
theorem dX4_opens_20 : decode cX4_opens 20 = .ok (.dup, 1) := dk_89 (dk_at dksX4_opens_0 20 rfl rfl)
theorem dX4_opens_21 : decode cX4_opens 21 = .ok (.getfield 228, 3) := dk_180 0 228 (dk_at dksX4_opens_0 21 rfl rfl)
theorem dX4_opens_24 : decode cX4_opens 24 = .ok (.iconst 1, 1) := dk_4 (dk_at dksX4_opens_1 0 rfl rfl)
theorem dX4_opens_25 : decode cX4_opens 25 = .ok (.iadd, 1) := dk_96 (dk_at dksX4_opens_1 1 rfl rfl)
theorem dX4_opens_26 : decode cX4_opens 26 = .ok (.putfield 228, 3) := dk_181 0 228 (dk_at dksX4_opens_1 2 rfl rfl)
theorem dX4_opens_29 : decode cX4_opens 29 = .ok (.iconst 1, 1) := dk_4 (dk_at dksX4_opens_1 5 rfl rfl)
theorem dX4_opens_30 : decode cX4_opens 30 = .ok (.ireturn, 1) := dk_172 (dk_at dksX4_opens_1 6 rfl rfl)
abbrev cX4_emits : ByteArray := prog_33_method_15_code
def yX4_emits : MethodName := ⟨RX4, "emits", "(II)V"⟩
def dkwX4_emits_2 : List UInt8 := [42, 180, 0, 204, 28, 79, 42, 89, 180, 0, 204, 4, 96, 181, 0, 204, 177]
abbrev dktX4_emits_2 : List UInt8 := dkwX4_emits_2 ++ []
def dkwX4_emits_1 : List UInt8 := [42, 180, 0, 42, 184, 0, 207, 181, 0, 42, 42, 180, 0, 39, 42, 180, 0, 204, 27, 79, 42, 180, 0, 42]
abbrev dktX4_emits_1 : List UInt8 := dkwX4_emits_1 ++ dktX4_emits_2
def dkwX4_emits_0 : List UInt8 := [42, 180, 0, 204, 42, 180, 0, 39, 190, 160, 0, 25, 42, 42, 180, 0, 39, 184, 0, 207, 181, 0, 39, 42]
abbrev dktX4_emits_0 : List UInt8 := dkwX4_emits_0 ++ dktX4_emits_1
theorem dksX4_emits_0 : cX4_emits.data.toList.drop 0 = dktX4_emits_0 := by decide +kernel
theorem dksX4_emits_1 : cX4_emits.data.toList.drop 24 = dktX4_emits_1 := dk_seg dksX4_emits_0 24 rfl rfl
theorem dksX4_emits_2 : cX4_emits.data.toList.drop 48 = dktX4_emits_2 := dk_seg dksX4_emits_1 24 rfl rfl
theorem dX4_emits_0 : decode cX4_emits 0 = .ok (.aload_n 0, 1) := dk_42 (dk_at dksX4_emits_0 0 rfl rfl)
theorem dX4_emits_1 : decode cX4_emits 1 = .ok (.getfield 204, 3) := dk_180 0 204 (dk_at dksX4_emits_0 1 rfl rfl)
theorem dX4_emits_4 : decode cX4_emits 4 = .ok (.aload_n 0, 1) := dk_42 (dk_at dksX4_emits_0 4 rfl rfl)
theorem dX4_emits_5 : decode cX4_emits 5 = .ok (.getfield 39, 3) := dk_180 0 39 (dk_at dksX4_emits_0 5 rfl rfl)
theorem dX4_emits_8 : decode cX4_emits 8 = .ok (.arraylength, 1) := dk_190 (dk_at dksX4_emits_0 8 rfl rfl)
theorem dX4_emits_9 : decode cX4_emits 9 = .ok (.if_icmp .ne 25, 3) := dk_160 0 25 (dk_at dksX4_emits_0 9 rfl rfl)
theorem dX4_emits_12 : decode cX4_emits 12 = .ok (.aload_n 0, 1) := dk_42 (dk_at dksX4_emits_0 12 rfl rfl)
theorem dX4_emits_13 : decode cX4_emits 13 = .ok (.aload_n 0, 1) := dk_42 (dk_at dksX4_emits_0 13 rfl rfl)
theorem dX4_emits_14 : decode cX4_emits 14 = .ok (.getfield 39, 3) := dk_180 0 39 (dk_at dksX4_emits_0 14 rfl rfl)
theorem dX4_emits_17 : decode cX4_emits 17 = .ok (.invokestatic 207, 3) := dk_184 0 207 (dk_at dksX4_emits_0 17 rfl rfl)
theorem dX4_emits_20 : decode cX4_emits 20 = .ok (.putfield 39, 3) := dk_181 0 39 (dk_at dksX4_emits_0 20 rfl rfl)
theorem dX4_emits_23 : decode cX4_emits 23 = .ok (.aload_n 0, 1) := dk_42 (dk_at dksX4_emits_0 23 rfl rfl)
theorem dX4_emits_24 : decode cX4_emits 24 = .ok (.aload_n 0, 1) := dk_42 (dk_at dksX4_emits_1 0 rfl rfl)
theorem dX4_emits_25 : decode cX4_emits 25 = .ok (.getfield 42, 3) := dk_180 0 42 (dk_at dksX4_emits_1 1 rfl rfl)
theorem dX4_emits_28 : decode cX4_emits 28 = .ok (.invokestatic 207, 3) := dk_184 0 207 (dk_at dksX4_emits_1 4 rfl rfl)
theorem dX4_emits_31 : decode cX4_emits 31 = .ok (.putfield 42, 3) := dk_181 0 42 (dk_at dksX4_emits_1 7 rfl rfl)
theorem dX4_emits_34 : decode cX4_emits 34 = .ok (.aload_n 0, 1) := dk_42 (dk_at dksX4_emits_1 10 rfl rfl)
theorem dX4_emits_35 : decode cX4_emits 35 = .ok (.getfield 39, 3) := dk_180 0 39 (dk_at dksX4_emits_1 11 rfl rfl)
theorem dX4_emits_38 : decode cX4_emits 38 = .ok (.aload_n 0, 1) := dk_42 (dk_at dksX4_emits_1 14 rfl rfl)
theorem dX4_emits_39 : decode cX4_emits 39 = .ok (.getfield 204, 3) := dk_180 0 204 (dk_at dksX4_emits_1 15 rfl rfl)
theorem dX4_emits_42 : decode cX4_emits 42 = .ok (.iload_n 1, 1) := dk_27 (dk_at dksX4_emits_1 18 rfl rfl)
theorem dX4_emits_43 : decode cX4_emits 43 = .ok (.iastore, 1) := dk_79 (dk_at dksX4_emits_1 19 rfl rfl)
theorem dX4_emits_44 : decode cX4_emits 44 = .ok (.aload_n 0, 1) := dk_42 (dk_at dksX4_emits_1 20 rfl rfl)
theorem dX4_emits_45 : decode cX4_emits 45 = .ok (.getfield 42, 3) := dk_180 0 42 (dk_at dksX4_emits_1 21 rfl rfl)
theorem dX4_emits_48 : decode cX4_emits 48 = .ok (.aload_n 0, 1) := dk_42 (dk_at dksX4_emits_2 0 rfl rfl)
theorem dX4_emits_49 : decode cX4_emits 49 = .ok (.getfield 204, 3) := dk_180 0 204 (dk_at dksX4_emits_2 1 rfl rfl)
theorem dX4_emits_52 : decode cX4_emits 52 = .ok (.iload_n 2, 1) := dk_28 (dk_at dksX4_emits_2 4 rfl rfl)
theorem dX4_emits_53 : decode cX4_emits 53 = .ok (.iastore, 1) := dk_79 (dk_at dksX4_emits_2 5 rfl rfl)
theorem dX4_emits_54 : decode cX4_emits 54 = .ok (.aload_n 0, 1) := dk_42 (dk_at dksX4_emits_2 6 rfl rfl)
theorem dX4_emits_55 : decode cX4_emits 55 = .ok (.dup, 1) := dk_89 (dk_at dksX4_emits_2 7 rfl rfl)
theorem dX4_emits_56 : decode cX4_emits 56 = .ok (.getfield 204, 3) := dk_180 0 204 (dk_at dksX4_emits_2 8 rfl rfl)
theorem dX4_emits_59 : decode cX4_emits 59 = .ok (.iconst 1, 1) := dk_4 (dk_at dksX4_emits_2 11 rfl rfl)
theorem dX4_emits_60 : decode cX4_emits 60 = .ok (.iadd, 1) := dk_96 (dk_at dksX4_emits_2 12 rfl rfl)
theorem dX4_emits_61 : decode cX4_emits 61 = .ok (.putfield 204, 3) := dk_181 0 204 (dk_at dksX4_emits_2 13 rfl rfl)
theorem dX4_emits_64 : decode cX4_emits 64 = .ok (.return_, 1) := dk_177 (dk_at dksX4_emits_2 16 rfl rfl)
abbrev cX4_longer : ByteArray := prog_33_method_16_code
def yX4_longer : MethodName := ⟨RX4, "longer", "([I)[I"⟩
def dkwX4_longer_1 : List UInt8 := [167, 255, 241, 43, 176]
abbrev dktX4_longer_1 : List UInt8 := dkwX4_longer_1 ++ []
def dkwX4_longer_0 : List UInt8 := [5, 42, 190, 104, 188, 10, 76, 3, 61, 28, 42, 190, 162, 0, 15, 43, 28, 42, 28, 46, 79, 132, 2, 1]
abbrev dktX4_longer_0 : List UInt8 := dkwX4_longer_0 ++ dktX4_longer_1
theorem dksX4_longer_0 : cX4_longer.data.toList.drop 0 = dktX4_longer_0 := by decide +kernel
theorem dksX4_longer_1 : cX4_longer.data.toList.drop 24 = dktX4_longer_1 := dk_seg dksX4_longer_0 24 rfl rfl
theorem dX4_longer_0 : decode cX4_longer 0 = .ok (.iconst 2, 1) := dk_5 (dk_at dksX4_longer_0 0 rfl rfl)
theorem dX4_longer_1 : decode cX4_longer 1 = .ok (.aload_n 0, 1) := dk_42 (dk_at dksX4_longer_0 1 rfl rfl)
theorem dX4_longer_2 : decode cX4_longer 2 = .ok (.arraylength, 1) := dk_190 (dk_at dksX4_longer_0 2 rfl rfl)
theorem dX4_longer_3 : decode cX4_longer 3 = .ok (.imul, 1) := dk_104 (dk_at dksX4_longer_0 3 rfl rfl)
theorem dX4_longer_4 : decode cX4_longer 4 = .ok (.newarray .int, 2) := dk_188_10 (dk_at dksX4_longer_0 4 rfl rfl)
theorem dX4_longer_6 : decode cX4_longer 6 = .ok (.astore_n 1, 1) := dk_76 (dk_at dksX4_longer_0 6 rfl rfl)
theorem dX4_longer_7 : decode cX4_longer 7 = .ok (.iconst 0, 1) := dk_3 (dk_at dksX4_longer_0 7 rfl rfl)
theorem dX4_longer_8 : decode cX4_longer 8 = .ok (.istore_n 2, 1) := dk_61 (dk_at dksX4_longer_0 8 rfl rfl)
theorem dX4_longer_9 : decode cX4_longer 9 = .ok (.iload_n 2, 1) := dk_28 (dk_at dksX4_longer_0 9 rfl rfl)
theorem dX4_longer_10 : decode cX4_longer 10 = .ok (.aload_n 0, 1) := dk_42 (dk_at dksX4_longer_0 10 rfl rfl)
theorem dX4_longer_11 : decode cX4_longer 11 = .ok (.arraylength, 1) := dk_190 (dk_at dksX4_longer_0 11 rfl rfl)
theorem dX4_longer_12 : decode cX4_longer 12 = .ok (.if_icmp .ge 15, 3) := dk_162 0 15 (dk_at dksX4_longer_0 12 rfl rfl)
theorem dX4_longer_15 : decode cX4_longer 15 = .ok (.aload_n 1, 1) := dk_43 (dk_at dksX4_longer_0 15 rfl rfl)
theorem dX4_longer_16 : decode cX4_longer 16 = .ok (.iload_n 2, 1) := dk_28 (dk_at dksX4_longer_0 16 rfl rfl)
theorem dX4_longer_17 : decode cX4_longer 17 = .ok (.aload_n 0, 1) := dk_42 (dk_at dksX4_longer_0 17 rfl rfl)
theorem dX4_longer_18 : decode cX4_longer 18 = .ok (.iload_n 2, 1) := dk_28 (dk_at dksX4_longer_0 18 rfl rfl)
theorem dX4_longer_19 : decode cX4_longer 19 = .ok (.iaload, 1) := dk_46 (dk_at dksX4_longer_0 19 rfl rfl)
theorem dX4_longer_20 : decode cX4_longer 20 = .ok (.iastore, 1) := dk_79 (dk_at dksX4_longer_0 20 rfl rfl)
theorem dX4_longer_21 : decode cX4_longer 21 = .ok (.iinc 2 1, 3) := dk_132 2 1 (dk_at dksX4_longer_0 21 rfl rfl)
theorem dX4_longer_24 : decode cX4_longer 24 = .ok (.goto (-15), 3) := dk_167 255 241 (dk_at dksX4_longer_1 0 rfl rfl)
theorem dX4_longer_27 : decode cX4_longer 27 = .ok (.aload_n 1, 1) := dk_43 (dk_at dksX4_longer_1 3 rfl rfl)
theorem dX4_longer_28 : decode cX4_longer 28 = .ok (.areturn, 1) := dk_176 (dk_at dksX4_longer_1 4 rfl rfl)
abbrev cX4_relation : ByteArray := prog_33_method_21_code
def yX4_relation : MethodName := ⟨RX4, "relation", "(I)V"⟩
def dkwX4_relation_3 : List UInt8 := [3, 182, 1, 11, 182, 0, 219, 177]
abbrev dktX4_relation_3 : List UInt8 := dkwX4_relation_3 ++ []
def dkwX4_relation_2 : List UInt8 := [42, 180, 0, 155, 182, 0, 189, 87, 177, 42, 89, 180, 0, 155, 4, 96, 181, 0, 155, 42, 27, 28, 96, 42]
abbrev dktX4_relation_2 : List UInt8 := dkwX4_relation_2 ++ dktX4_relation_3
def dkwX4_relation_1 : List UInt8 := [167, 0, 17, 42, 16, 62, 182, 0, 186, 153, 0, 7, 5, 167, 0, 4, 2, 61, 28, 156, 0, 14, 42, 4]
abbrev dktX4_relation_1 : List UInt8 := dkwX4_relation_1 ++ dktX4_relation_2
def dkwX4_relation_0 : List UInt8 := [42, 16, 61, 182, 0, 186, 153, 0, 7, 3, 167, 0, 30, 42, 16, 60, 182, 0, 186, 153, 0, 7, 4]
abbrev dktX4_relation_0 : List UInt8 := dkwX4_relation_0 ++ dktX4_relation_1
theorem dksX4_relation_0 : cX4_relation.data.toList.drop 0 = dktX4_relation_0 := by decide +kernel
theorem dksX4_relation_1 : cX4_relation.data.toList.drop 23 = dktX4_relation_1 := dk_seg dksX4_relation_0 23 rfl rfl
theorem dksX4_relation_2 : cX4_relation.data.toList.drop 47 = dktX4_relation_2 := dk_seg dksX4_relation_1 24 rfl rfl
theorem dksX4_relation_3 : cX4_relation.data.toList.drop 71 = dktX4_relation_3 := dk_seg dksX4_relation_2 24 rfl rfl
theorem dX4_relation_0 : decode cX4_relation 0 = .ok (.aload_n 0, 1) := dk_42 (dk_at dksX4_relation_0 0 rfl rfl)
theorem dX4_relation_1 : decode cX4_relation 1 = .ok (.bipush 61, 2) := dk_16 61 (dk_at dksX4_relation_0 1 rfl rfl)
theorem dX4_relation_3 : decode cX4_relation 3 = .ok (.invokevirtual 186, 3) := dk_182 0 186 (dk_at dksX4_relation_0 3 rfl rfl)
theorem dX4_relation_6 : decode cX4_relation 6 = .ok (.ifCond .eq 7, 3) := dk_153 0 7 (dk_at dksX4_relation_0 6 rfl rfl)
theorem dX4_relation_9 : decode cX4_relation 9 = .ok (.iconst 0, 1) := dk_3 (dk_at dksX4_relation_0 9 rfl rfl)
theorem dX4_relation_10 : decode cX4_relation 10 = .ok (.goto 30, 3) := dk_167 0 30 (dk_at dksX4_relation_0 10 rfl rfl)
theorem dX4_relation_13 : decode cX4_relation 13 = .ok (.aload_n 0, 1) := dk_42 (dk_at dksX4_relation_0 13 rfl rfl)
theorem dX4_relation_14 : decode cX4_relation 14 = .ok (.bipush 60, 2) := dk_16 60 (dk_at dksX4_relation_0 14 rfl rfl)
theorem dX4_relation_16 : decode cX4_relation 16 = .ok (.invokevirtual 186, 3) := dk_182 0 186 (dk_at dksX4_relation_0 16 rfl rfl)
theorem dX4_relation_19 : decode cX4_relation 19 = .ok (.ifCond .eq 7, 3) := dk_153 0 7 (dk_at dksX4_relation_0 19 rfl rfl)
theorem dX4_relation_22 : decode cX4_relation 22 = .ok (.iconst 1, 1) := dk_4 (dk_at dksX4_relation_0 22 rfl rfl)
theorem dX4_relation_23 : decode cX4_relation 23 = .ok (.goto 17, 3) := dk_167 0 17 (dk_at dksX4_relation_1 0 rfl rfl)
theorem dX4_relation_26 : decode cX4_relation 26 = .ok (.aload_n 0, 1) := dk_42 (dk_at dksX4_relation_1 3 rfl rfl)
theorem dX4_relation_27 : decode cX4_relation 27 = .ok (.bipush 62, 2) := dk_16 62 (dk_at dksX4_relation_1 4 rfl rfl)
theorem dX4_relation_29 : decode cX4_relation 29 = .ok (.invokevirtual 186, 3) := dk_182 0 186 (dk_at dksX4_relation_1 6 rfl rfl)
theorem dX4_relation_32 : decode cX4_relation 32 = .ok (.ifCond .eq 7, 3) := dk_153 0 7 (dk_at dksX4_relation_1 9 rfl rfl)
theorem dX4_relation_35 : decode cX4_relation 35 = .ok (.iconst 2, 1) := dk_5 (dk_at dksX4_relation_1 12 rfl rfl)
theorem dX4_relation_36 : decode cX4_relation 36 = .ok (.goto 4, 3) := dk_167 0 4 (dk_at dksX4_relation_1 13 rfl rfl)
theorem dX4_relation_39 : decode cX4_relation 39 = .ok (.iconst (-1), 1) := dk_2 (dk_at dksX4_relation_1 16 rfl rfl)
theorem dX4_relation_40 : decode cX4_relation 40 = .ok (.istore_n 2, 1) := dk_61 (dk_at dksX4_relation_1 17 rfl rfl)
theorem dX4_relation_41 : decode cX4_relation 41 = .ok (.iload_n 2, 1) := dk_28 (dk_at dksX4_relation_1 18 rfl rfl)
theorem dX4_relation_42 : decode cX4_relation 42 = .ok (.ifCond .ge 14, 3) := dk_156 0 14 (dk_at dksX4_relation_1 19 rfl rfl)
theorem dX4_relation_45 : decode cX4_relation 45 = .ok (.aload_n 0, 1) := dk_42 (dk_at dksX4_relation_1 22 rfl rfl)
theorem dX4_relation_46 : decode cX4_relation 46 = .ok (.iconst 1, 1) := dk_4 (dk_at dksX4_relation_1 23 rfl rfl)
theorem dX4_relation_47 : decode cX4_relation 47 = .ok (.aload_n 0, 1) := dk_42 (dk_at dksX4_relation_2 0 rfl rfl)
theorem dX4_relation_48 : decode cX4_relation 48 = .ok (.getfield 155, 3) := dk_180 0 155 (dk_at dksX4_relation_2 1 rfl rfl)
theorem dX4_relation_51 : decode cX4_relation 51 = .ok (.invokevirtual 189, 3) := dk_182 0 189 (dk_at dksX4_relation_2 4 rfl rfl)
theorem dX4_relation_54 : decode cX4_relation 54 = .ok (.pop, 1) := dk_87 (dk_at dksX4_relation_2 7 rfl rfl)
theorem dX4_relation_55 : decode cX4_relation 55 = .ok (.return_, 1) := dk_177 (dk_at dksX4_relation_2 8 rfl rfl)
theorem dX4_relation_56 : decode cX4_relation 56 = .ok (.aload_n 0, 1) := dk_42 (dk_at dksX4_relation_2 9 rfl rfl)
theorem dX4_relation_57 : decode cX4_relation 57 = .ok (.dup, 1) := dk_89 (dk_at dksX4_relation_2 10 rfl rfl)
theorem dX4_relation_58 : decode cX4_relation 58 = .ok (.getfield 155, 3) := dk_180 0 155 (dk_at dksX4_relation_2 11 rfl rfl)
theorem dX4_relation_61 : decode cX4_relation 61 = .ok (.iconst 1, 1) := dk_4 (dk_at dksX4_relation_2 14 rfl rfl)
theorem dX4_relation_62 : decode cX4_relation 62 = .ok (.iadd, 1) := dk_96 (dk_at dksX4_relation_2 15 rfl rfl)
theorem dX4_relation_63 : decode cX4_relation 63 = .ok (.putfield 155, 3) := dk_181 0 155 (dk_at dksX4_relation_2 16 rfl rfl)
theorem dX4_relation_66 : decode cX4_relation 66 = .ok (.aload_n 0, 1) := dk_42 (dk_at dksX4_relation_2 19 rfl rfl)
theorem dX4_relation_67 : decode cX4_relation 67 = .ok (.iload_n 1, 1) := dk_27 (dk_at dksX4_relation_2 20 rfl rfl)
theorem dX4_relation_68 : decode cX4_relation 68 = .ok (.iload_n 2, 1) := dk_28 (dk_at dksX4_relation_2 21 rfl rfl)
theorem dX4_relation_69 : decode cX4_relation 69 = .ok (.iadd, 1) := dk_96 (dk_at dksX4_relation_2 22 rfl rfl)
theorem dX4_relation_70 : decode cX4_relation 70 = .ok (.aload_n 0, 1) := dk_42 (dk_at dksX4_relation_2 23 rfl rfl)
theorem dX4_relation_71 : decode cX4_relation 71 = .ok (.iconst 0, 1) := dk_3 (dk_at dksX4_relation_3 0 rfl rfl)
theorem dX4_relation_72 : decode cX4_relation 72 = .ok (.invokevirtual 267, 3) := dk_182 1 11 (dk_at dksX4_relation_3 1 rfl rfl)
theorem dX4_relation_75 : decode cX4_relation 75 = .ok (.invokevirtual 219, 3) := dk_182 0 219 (dk_at dksX4_relation_3 4 rfl rfl)
theorem dX4_relation_78 : decode cX4_relation 78 = .ok (.return_, 1) := dk_177 (dk_at dksX4_relation_3 7 rfl rfl)
abbrev cX4_kind : ByteArray := prog_33_method_22_code
def yX4_kind : MethodName := ⟨RX4, "kind", "()V"⟩
def dkwX4_kind_2 : List UInt8 := [180, 0, 155, 182, 0, 189, 87, 177]
abbrev dktX4_kind_2 : List UInt8 := dkwX4_kind_2 ++ []
def dkwX4_kind_1 : List UInt8 := [154, 0, 6, 167, 0, 11, 42, 16, 22, 27, 182, 0, 219, 177, 132, 1, 1, 167, 255, 225, 42, 4, 42]
abbrev dktX4_kind_1 : List UInt8 := dkwX4_kind_1 ++ dktX4_kind_2
def dkwX4_kind_0 : List UInt8 := [42, 16, 61, 182, 0, 240, 87, 3, 60, 27, 16, 7, 162, 0, 31, 42, 27, 184, 1, 15, 182, 0, 216]
abbrev dktX4_kind_0 : List UInt8 := dkwX4_kind_0 ++ dktX4_kind_1
theorem dksX4_kind_0 : cX4_kind.data.toList.drop 0 = dktX4_kind_0 := by decide +kernel
theorem dksX4_kind_1 : cX4_kind.data.toList.drop 23 = dktX4_kind_1 := dk_seg dksX4_kind_0 23 rfl rfl
theorem dksX4_kind_2 : cX4_kind.data.toList.drop 46 = dktX4_kind_2 := dk_seg dksX4_kind_1 23 rfl rfl
theorem dX4_kind_0 : decode cX4_kind 0 = .ok (.aload_n 0, 1) := dk_42 (dk_at dksX4_kind_0 0 rfl rfl)
theorem dX4_kind_1 : decode cX4_kind 1 = .ok (.bipush 61, 2) := dk_16 61 (dk_at dksX4_kind_0 1 rfl rfl)
theorem dX4_kind_3 : decode cX4_kind 3 = .ok (.invokevirtual 240, 3) := dk_182 0 240 (dk_at dksX4_kind_0 3 rfl rfl)
theorem dX4_kind_6 : decode cX4_kind 6 = .ok (.pop, 1) := dk_87 (dk_at dksX4_kind_0 6 rfl rfl)
theorem dX4_kind_7 : decode cX4_kind 7 = .ok (.iconst 0, 1) := dk_3 (dk_at dksX4_kind_0 7 rfl rfl)
theorem dX4_kind_8 : decode cX4_kind 8 = .ok (.istore_n 1, 1) := dk_60 (dk_at dksX4_kind_0 8 rfl rfl)
theorem dX4_kind_9 : decode cX4_kind 9 = .ok (.iload_n 1, 1) := dk_27 (dk_at dksX4_kind_0 9 rfl rfl)
theorem dX4_kind_10 : decode cX4_kind 10 = .ok (.bipush 7, 2) := dk_16 7 (dk_at dksX4_kind_0 10 rfl rfl)
theorem dX4_kind_12 : decode cX4_kind 12 = .ok (.if_icmp .ge 31, 3) := dk_162 0 31 (dk_at dksX4_kind_0 12 rfl rfl)
theorem dX4_kind_15 : decode cX4_kind 15 = .ok (.aload_n 0, 1) := dk_42 (dk_at dksX4_kind_0 15 rfl rfl)
theorem dX4_kind_16 : decode cX4_kind 16 = .ok (.iload_n 1, 1) := dk_27 (dk_at dksX4_kind_0 16 rfl rfl)
theorem dX4_kind_17 : decode cX4_kind 17 = .ok (.invokestatic 271, 3) := dk_184 1 15 (dk_at dksX4_kind_0 17 rfl rfl)
theorem dX4_kind_20 : decode cX4_kind 20 = .ok (.invokevirtual 216, 3) := dk_182 0 216 (dk_at dksX4_kind_0 20 rfl rfl)
theorem dX4_kind_23 : decode cX4_kind 23 = .ok (.ifCond .ne 6, 3) := dk_154 0 6 (dk_at dksX4_kind_1 0 rfl rfl)
theorem dX4_kind_26 : decode cX4_kind 26 = .ok (.goto 11, 3) := dk_167 0 11 (dk_at dksX4_kind_1 3 rfl rfl)
theorem dX4_kind_29 : decode cX4_kind 29 = .ok (.aload_n 0, 1) := dk_42 (dk_at dksX4_kind_1 6 rfl rfl)
theorem dX4_kind_30 : decode cX4_kind 30 = .ok (.bipush 22, 2) := dk_16 22 (dk_at dksX4_kind_1 7 rfl rfl)
theorem dX4_kind_32 : decode cX4_kind 32 = .ok (.iload_n 1, 1) := dk_27 (dk_at dksX4_kind_1 9 rfl rfl)
theorem dX4_kind_33 : decode cX4_kind 33 = .ok (.invokevirtual 219, 3) := dk_182 0 219 (dk_at dksX4_kind_1 10 rfl rfl)
theorem dX4_kind_36 : decode cX4_kind 36 = .ok (.return_, 1) := dk_177 (dk_at dksX4_kind_1 13 rfl rfl)
theorem dX4_kind_37 : decode cX4_kind 37 = .ok (.iinc 1 1, 3) := dk_132 1 1 (dk_at dksX4_kind_1 14 rfl rfl)
theorem dX4_kind_40 : decode cX4_kind 40 = .ok (.goto (-31), 3) := dk_167 255 225 (dk_at dksX4_kind_1 17 rfl rfl)
theorem dX4_kind_43 : decode cX4_kind 43 = .ok (.aload_n 0, 1) := dk_42 (dk_at dksX4_kind_1 20 rfl rfl)
theorem dX4_kind_44 : decode cX4_kind 44 = .ok (.iconst 1, 1) := dk_4 (dk_at dksX4_kind_1 21 rfl rfl)
theorem dX4_kind_45 : decode cX4_kind 45 = .ok (.aload_n 0, 1) := dk_42 (dk_at dksX4_kind_1 22 rfl rfl)
theorem dX4_kind_46 : decode cX4_kind 46 = .ok (.getfield 155, 3) := dk_180 0 155 (dk_at dksX4_kind_2 0 rfl rfl)
theorem dX4_kind_49 : decode cX4_kind 49 = .ok (.invokevirtual 189, 3) := dk_182 0 189 (dk_at dksX4_kind_2 3 rfl rfl)
theorem dX4_kind_52 : decode cX4_kind 52 = .ok (.pop, 1) := dk_87 (dk_at dksX4_kind_2 6 rfl rfl)
theorem dX4_kind_53 : decode cX4_kind 53 = .ok (.return_, 1) := dk_177 (dk_at dksX4_kind_2 7 rfl rfl)
abbrev cX4_kindName : ByteArray := prog_33_method_23_code
def yX4_kindName : MethodName := ⟨RX4, "kindName", "(I)Ljava/lang/String;"⟩
def dkwX4_kindName_3 : List UInt8 := [19, 1, 31, 176]
abbrev dktX4_kindName_3 : List UInt8 := dkwX4_kindName_3 ++ []
def dkwX4_kindName_2 : List UInt8 := [19, 1, 19, 176, 19, 1, 21, 176, 19, 1, 23, 176, 19, 1, 25, 176, 19, 1, 27, 176, 19, 1, 29, 176]
abbrev dktX4_kindName_2 : List UInt8 := dkwX4_kindName_2 ++ dktX4_kindName_3
def dkwX4_kindName_1 : List UInt8 := [170, 0, 0, 0, 0, 0, 63, 0, 0, 0, 0, 0, 0, 0, 5, 0, 0, 0, 39, 0, 0, 0, 43, 0, 0, 0, 47, 0, 0, 0, 51, 0, 0, 0, 55, 0, 0, 0, 59]
abbrev dktX4_kindName_1 : List UInt8 := dkwX4_kindName_1 ++ dktX4_kindName_2
def dkwX4_kindName_0 : List UInt8 := [26]
abbrev dktX4_kindName_0 : List UInt8 := dkwX4_kindName_0 ++ dktX4_kindName_1
theorem dksX4_kindName_0 : cX4_kindName.data.toList.drop 0 = dktX4_kindName_0 := by decide +kernel
theorem dksX4_kindName_1 : cX4_kindName.data.toList.drop 1 = dktX4_kindName_1 := dk_seg dksX4_kindName_0 1 rfl rfl
theorem dksX4_kindName_2 : cX4_kindName.data.toList.drop 40 = dktX4_kindName_2 := dk_seg dksX4_kindName_1 39 rfl rfl
theorem dksX4_kindName_3 : cX4_kindName.data.toList.drop 64 = dktX4_kindName_3 := dk_seg dksX4_kindName_2 24 rfl rfl
theorem dX4_kindName_0 : decode cX4_kindName 0 = .ok (.iload_n 0, 1) := dk_26 (dk_at dksX4_kindName_0 0 rfl rfl)
theorem dX4_kindName_1 : decode cX4_kindName 1 = .ok (.tableswitch 63 0 5 #[39, 43, 47, 51, 55, 59], 39) := by decide +kernel
theorem dX4_kindName_40 : decode cX4_kindName 40 = .ok (.ldc_w 275, 3) := dk_19 1 19 (dk_at dksX4_kindName_2 0 rfl rfl)
theorem dX4_kindName_43 : decode cX4_kindName 43 = .ok (.areturn, 1) := dk_176 (dk_at dksX4_kindName_2 3 rfl rfl)
theorem dX4_kindName_44 : decode cX4_kindName 44 = .ok (.ldc_w 277, 3) := dk_19 1 21 (dk_at dksX4_kindName_2 4 rfl rfl)
theorem dX4_kindName_47 : decode cX4_kindName 47 = .ok (.areturn, 1) := dk_176 (dk_at dksX4_kindName_2 7 rfl rfl)
theorem dX4_kindName_48 : decode cX4_kindName 48 = .ok (.ldc_w 279, 3) := dk_19 1 23 (dk_at dksX4_kindName_2 8 rfl rfl)
theorem dX4_kindName_51 : decode cX4_kindName 51 = .ok (.areturn, 1) := dk_176 (dk_at dksX4_kindName_2 11 rfl rfl)
theorem dX4_kindName_52 : decode cX4_kindName 52 = .ok (.ldc_w 281, 3) := dk_19 1 25 (dk_at dksX4_kindName_2 12 rfl rfl)
theorem dX4_kindName_55 : decode cX4_kindName 55 = .ok (.areturn, 1) := dk_176 (dk_at dksX4_kindName_2 15 rfl rfl)
theorem dX4_kindName_56 : decode cX4_kindName 56 = .ok (.ldc_w 283, 3) := dk_19 1 27 (dk_at dksX4_kindName_2 16 rfl rfl)
theorem dX4_kindName_59 : decode cX4_kindName 59 = .ok (.areturn, 1) := dk_176 (dk_at dksX4_kindName_2 19 rfl rfl)
theorem dX4_kindName_60 : decode cX4_kindName 60 = .ok (.ldc_w 285, 3) := dk_19 1 29 (dk_at dksX4_kindName_2 20 rfl rfl)
theorem dX4_kindName_63 : decode cX4_kindName 63 = .ok (.areturn, 1) := dk_176 (dk_at dksX4_kindName_2 23 rfl rfl)
theorem dX4_kindName_64 : decode cX4_kindName 64 = .ok (.ldc_w 287, 3) := dk_19 1 31 (dk_at dksX4_kindName_3 0 rfl rfl)
theorem dX4_kindName_67 : decode cX4_kindName 67 = .ok (.areturn, 1) := dk_176 (dk_at dksX4_kindName_3 3 rfl rfl)
abbrev cX4_fault : ByteArray := prog_33_method_26_code
def yX4_fault : MethodName := ⟨RX4, "fault", "()I"⟩
def dkwX4_fault_0 : List UInt8 := [42, 3, 181, 0, 146, 42, 180, 0, 13, 172]
abbrev dktX4_fault_0 : List UInt8 := dkwX4_fault_0 ++ []
theorem dksX4_fault_0 : cX4_fault.data.toList.drop 0 = dktX4_fault_0 := by decide +kernel
theorem dX4_fault_0 : decode cX4_fault 0 = .ok (.aload_n 0, 1) := dk_42 (dk_at dksX4_fault_0 0 rfl rfl)
theorem dX4_fault_1 : decode cX4_fault 1 = .ok (.iconst 0, 1) := dk_3 (dk_at dksX4_fault_0 1 rfl rfl)
theorem dX4_fault_2 : decode cX4_fault 2 = .ok (.putfield 146, 3) := dk_181 0 146 (dk_at dksX4_fault_0 2 rfl rfl)
theorem dX4_fault_5 : decode cX4_fault 5 = .ok (.aload_n 0, 1) := dk_42 (dk_at dksX4_fault_0 5 rfl rfl)
theorem dX4_fault_6 : decode cX4_fault 6 = .ok (.getfield 13, 3) := dk_180 0 13 (dk_at dksX4_fault_0 6 rfl rfl)
theorem dX4_fault_9 : decode cX4_fault 9 = .ok (.ireturn, 1) := dk_172 (dk_at dksX4_fault_0 9 rfl rfl)
abbrev cX4_force : ByteArray := prog_33_method_28_code
def yX4_force : MethodName := ⟨RX4, "force", "(I)I"⟩
def dkwX4_force_1 : List UInt8 := [182, 1, 52, 153, 0, 7, 3, 167, 0, 8, 42, 27, 182, 1, 59, 172]
abbrev dktX4_force_1 : List UInt8 := dkwX4_force_1 ++ []
def dkwX4_force_0 : List UInt8 := [42, 3, 181, 0, 146, 42, 27, 155, 0, 10, 27, 17, 39, 15, 164, 0, 7, 4, 167, 0, 4, 3, 4]
abbrev dktX4_force_0 : List UInt8 := dkwX4_force_0 ++ dktX4_force_1
theorem dksX4_force_0 : cX4_force.data.toList.drop 0 = dktX4_force_0 := by decide +kernel
theorem dksX4_force_1 : cX4_force.data.toList.drop 23 = dktX4_force_1 := dk_seg dksX4_force_0 23 rfl rfl
theorem dX4_force_0 : decode cX4_force 0 = .ok (.aload_n 0, 1) := dk_42 (dk_at dksX4_force_0 0 rfl rfl)
theorem dX4_force_1 : decode cX4_force 1 = .ok (.iconst 0, 1) := dk_3 (dk_at dksX4_force_0 1 rfl rfl)
theorem dX4_force_2 : decode cX4_force 2 = .ok (.putfield 146, 3) := dk_181 0 146 (dk_at dksX4_force_0 2 rfl rfl)
theorem dX4_force_5 : decode cX4_force 5 = .ok (.aload_n 0, 1) := dk_42 (dk_at dksX4_force_0 5 rfl rfl)
theorem dX4_force_6 : decode cX4_force 6 = .ok (.iload_n 1, 1) := dk_27 (dk_at dksX4_force_0 6 rfl rfl)
theorem dX4_force_7 : decode cX4_force 7 = .ok (.ifCond .lt 10, 3) := dk_155 0 10 (dk_at dksX4_force_0 7 rfl rfl)
theorem dX4_force_10 : decode cX4_force 10 = .ok (.iload_n 1, 1) := dk_27 (dk_at dksX4_force_0 10 rfl rfl)
theorem dX4_force_11 : decode cX4_force 11 = .ok (.sipush 9999, 3) := dk_17 39 15 (dk_at dksX4_force_0 11 rfl rfl)
theorem dX4_force_14 : decode cX4_force 14 = .ok (.if_icmp .le 7, 3) := dk_164 0 7 (dk_at dksX4_force_0 14 rfl rfl)
theorem dX4_force_17 : decode cX4_force 17 = .ok (.iconst 1, 1) := dk_4 (dk_at dksX4_force_0 17 rfl rfl)
theorem dX4_force_18 : decode cX4_force 18 = .ok (.goto 4, 3) := dk_167 0 4 (dk_at dksX4_force_0 18 rfl rfl)
theorem dX4_force_21 : decode cX4_force 21 = .ok (.iconst 0, 1) := dk_3 (dk_at dksX4_force_0 21 rfl rfl)
theorem dX4_force_22 : decode cX4_force 22 = .ok (.iconst 1, 1) := dk_4 (dk_at dksX4_force_0 22 rfl rfl)
theorem dX4_force_23 : decode cX4_force 23 = .ok (.invokevirtual 308, 3) := dk_182 1 52 (dk_at dksX4_force_1 0 rfl rfl)
theorem dX4_force_26 : decode cX4_force 26 = .ok (.ifCond .eq 7, 3) := dk_153 0 7 (dk_at dksX4_force_1 3 rfl rfl)
theorem dX4_force_29 : decode cX4_force 29 = .ok (.iconst 0, 1) := dk_3 (dk_at dksX4_force_1 6 rfl rfl)
theorem dX4_force_30 : decode cX4_force 30 = .ok (.goto 8, 3) := dk_167 0 8 (dk_at dksX4_force_1 7 rfl rfl)
theorem dX4_force_33 : decode cX4_force 33 = .ok (.aload_n 0, 1) := dk_42 (dk_at dksX4_force_1 10 rfl rfl)
theorem dX4_force_34 : decode cX4_force 34 = .ok (.iload_n 1, 1) := dk_27 (dk_at dksX4_force_1 11 rfl rfl)
theorem dX4_force_35 : decode cX4_force 35 = .ok (.invokevirtual 315, 3) := dk_182 1 59 (dk_at dksX4_force_1 12 rfl rfl)
theorem dX4_force_38 : decode cX4_force 38 = .ok (.ireturn, 1) := dk_172 (dk_at dksX4_force_1 15 rfl rfl)
abbrev cX4_forceOf : ByteArray := prog_33_method_27_code
def yX4_forceOf : MethodName := ⟨RX4, "forceOf", "(I)I"⟩
def dkwX4_forceOf_2 : List UInt8 := [167, 255, 214, 28, 172]
abbrev dktX4_forceOf_2 : List UInt8 := dkwX4_forceOf_2 ++ []
def dkwX4_forceOf_1 : List UInt8 := [155, 0, 18, 42, 180, 0, 21, 29, 46, 42, 180, 0, 21, 28, 46, 161, 0, 5, 29, 61, 132, 3, 1]
abbrev dktX4_forceOf_1 : List UInt8 := dkwX4_forceOf_1 ++ dktX4_forceOf_2
def dkwX4_forceOf_0 : List UInt8 := [2, 61, 3, 62, 29, 42, 180, 1, 33, 162, 0, 40, 42, 180, 0, 21, 29, 46, 27, 163, 0, 24, 28]
abbrev dktX4_forceOf_0 : List UInt8 := dkwX4_forceOf_0 ++ dktX4_forceOf_1
theorem dksX4_forceOf_0 : cX4_forceOf.data.toList.drop 0 = dktX4_forceOf_0 := by decide +kernel
theorem dksX4_forceOf_1 : cX4_forceOf.data.toList.drop 23 = dktX4_forceOf_1 := dk_seg dksX4_forceOf_0 23 rfl rfl
theorem dksX4_forceOf_2 : cX4_forceOf.data.toList.drop 46 = dktX4_forceOf_2 := dk_seg dksX4_forceOf_1 23 rfl rfl
theorem dX4_forceOf_0 : decode cX4_forceOf 0 = .ok (.iconst (-1), 1) := dk_2 (dk_at dksX4_forceOf_0 0 rfl rfl)
theorem dX4_forceOf_1 : decode cX4_forceOf 1 = .ok (.istore_n 2, 1) := dk_61 (dk_at dksX4_forceOf_0 1 rfl rfl)
theorem dX4_forceOf_2 : decode cX4_forceOf 2 = .ok (.iconst 0, 1) := dk_3 (dk_at dksX4_forceOf_0 2 rfl rfl)
theorem dX4_forceOf_3 : decode cX4_forceOf 3 = .ok (.istore_n 3, 1) := dk_62 (dk_at dksX4_forceOf_0 3 rfl rfl)
theorem dX4_forceOf_4 : decode cX4_forceOf 4 = .ok (.iload_n 3, 1) := dk_29 (dk_at dksX4_forceOf_0 4 rfl rfl)
theorem dX4_forceOf_5 : decode cX4_forceOf 5 = .ok (.aload_n 0, 1) := dk_42 (dk_at dksX4_forceOf_0 5 rfl rfl)
theorem dX4_forceOf_6 : decode cX4_forceOf 6 = .ok (.getfield 289, 3) := dk_180 1 33 (dk_at dksX4_forceOf_0 6 rfl rfl)
theorem dX4_forceOf_9 : decode cX4_forceOf 9 = .ok (.if_icmp .ge 40, 3) := dk_162 0 40 (dk_at dksX4_forceOf_0 9 rfl rfl)
theorem dX4_forceOf_12 : decode cX4_forceOf 12 = .ok (.aload_n 0, 1) := dk_42 (dk_at dksX4_forceOf_0 12 rfl rfl)
theorem dX4_forceOf_13 : decode cX4_forceOf 13 = .ok (.getfield 21, 3) := dk_180 0 21 (dk_at dksX4_forceOf_0 13 rfl rfl)
theorem dX4_forceOf_16 : decode cX4_forceOf 16 = .ok (.iload_n 3, 1) := dk_29 (dk_at dksX4_forceOf_0 16 rfl rfl)
theorem dX4_forceOf_17 : decode cX4_forceOf 17 = .ok (.iaload, 1) := dk_46 (dk_at dksX4_forceOf_0 17 rfl rfl)
theorem dX4_forceOf_18 : decode cX4_forceOf 18 = .ok (.iload_n 1, 1) := dk_27 (dk_at dksX4_forceOf_0 18 rfl rfl)
theorem dX4_forceOf_19 : decode cX4_forceOf 19 = .ok (.if_icmp .gt 24, 3) := dk_163 0 24 (dk_at dksX4_forceOf_0 19 rfl rfl)
theorem dX4_forceOf_22 : decode cX4_forceOf 22 = .ok (.iload_n 2, 1) := dk_28 (dk_at dksX4_forceOf_0 22 rfl rfl)
theorem dX4_forceOf_23 : decode cX4_forceOf 23 = .ok (.ifCond .lt 18, 3) := dk_155 0 18 (dk_at dksX4_forceOf_1 0 rfl rfl)
theorem dX4_forceOf_26 : decode cX4_forceOf 26 = .ok (.aload_n 0, 1) := dk_42 (dk_at dksX4_forceOf_1 3 rfl rfl)
theorem dX4_forceOf_27 : decode cX4_forceOf 27 = .ok (.getfield 21, 3) := dk_180 0 21 (dk_at dksX4_forceOf_1 4 rfl rfl)
theorem dX4_forceOf_30 : decode cX4_forceOf 30 = .ok (.iload_n 3, 1) := dk_29 (dk_at dksX4_forceOf_1 7 rfl rfl)
theorem dX4_forceOf_31 : decode cX4_forceOf 31 = .ok (.iaload, 1) := dk_46 (dk_at dksX4_forceOf_1 8 rfl rfl)
theorem dX4_forceOf_32 : decode cX4_forceOf 32 = .ok (.aload_n 0, 1) := dk_42 (dk_at dksX4_forceOf_1 9 rfl rfl)
theorem dX4_forceOf_33 : decode cX4_forceOf 33 = .ok (.getfield 21, 3) := dk_180 0 21 (dk_at dksX4_forceOf_1 10 rfl rfl)
theorem dX4_forceOf_36 : decode cX4_forceOf 36 = .ok (.iload_n 2, 1) := dk_28 (dk_at dksX4_forceOf_1 13 rfl rfl)
theorem dX4_forceOf_37 : decode cX4_forceOf 37 = .ok (.iaload, 1) := dk_46 (dk_at dksX4_forceOf_1 14 rfl rfl)
theorem dX4_forceOf_38 : decode cX4_forceOf 38 = .ok (.if_icmp .lt 5, 3) := dk_161 0 5 (dk_at dksX4_forceOf_1 15 rfl rfl)
theorem dX4_forceOf_41 : decode cX4_forceOf 41 = .ok (.iload_n 3, 1) := dk_29 (dk_at dksX4_forceOf_1 18 rfl rfl)
theorem dX4_forceOf_42 : decode cX4_forceOf 42 = .ok (.istore_n 2, 1) := dk_61 (dk_at dksX4_forceOf_1 19 rfl rfl)
theorem dX4_forceOf_43 : decode cX4_forceOf 43 = .ok (.iinc 3 1, 3) := dk_132 3 1 (dk_at dksX4_forceOf_1 20 rfl rfl)
theorem dX4_forceOf_46 : decode cX4_forceOf 46 = .ok (.goto (-42), 3) := dk_167 255 214 (dk_at dksX4_forceOf_2 0 rfl rfl)
theorem dX4_forceOf_49 : decode cX4_forceOf 49 = .ok (.iload_n 2, 1) := dk_28 (dk_at dksX4_forceOf_2 3 rfl rfl)
theorem dX4_forceOf_50 : decode cX4_forceOf 50 = .ok (.ireturn, 1) := dk_172 (dk_at dksX4_forceOf_2 4 rfl rfl)
abbrev cX4_stretch : ByteArray := prog_33_method_29_code
def yX4_stretch : MethodName := ⟨RX4, "stretch", "(I)I"⟩
def dkwX4_stretch_3 : List UInt8 := [96, 181, 1, 62, 42, 180, 1, 62, 4, 100, 172]
abbrev dktX4_stretch_3 : List UInt8 := dkwX4_stretch_3 ++ []
def dkwX4_stretch_2 : List UInt8 := [182, 1, 52, 153, 0, 5, 3, 172, 42, 180, 0, 63, 42, 180, 1, 62, 27, 79, 42, 89, 180, 1, 62, 4]
abbrev dktX4_stretch_2 : List UInt8 := dkwX4_stretch_2 ++ dktX4_stretch_3
def dkwX4_stretch_1 : List UInt8 := [182, 1, 52, 154, 0, 25, 42, 42, 180, 1, 62, 16, 12, 160, 0, 7, 4, 167, 0, 4, 3, 5]
abbrev dktX4_stretch_1 : List UInt8 := dkwX4_stretch_1 ++ dktX4_stretch_2
def dkwX4_stretch_0 : List UInt8 := [42, 3, 181, 0, 146, 42, 27, 4, 161, 0, 10, 27, 17, 39, 16, 164, 0, 7, 4, 167, 0, 4, 3, 4]
abbrev dktX4_stretch_0 : List UInt8 := dkwX4_stretch_0 ++ dktX4_stretch_1
theorem dksX4_stretch_0 : cX4_stretch.data.toList.drop 0 = dktX4_stretch_0 := by decide +kernel
theorem dksX4_stretch_1 : cX4_stretch.data.toList.drop 24 = dktX4_stretch_1 := dk_seg dksX4_stretch_0 24 rfl rfl
theorem dksX4_stretch_2 : cX4_stretch.data.toList.drop 46 = dktX4_stretch_2 := dk_seg dksX4_stretch_1 22 rfl rfl
theorem dksX4_stretch_3 : cX4_stretch.data.toList.drop 70 = dktX4_stretch_3 := dk_seg dksX4_stretch_2 24 rfl rfl
theorem dX4_stretch_0 : decode cX4_stretch 0 = .ok (.aload_n 0, 1) := dk_42 (dk_at dksX4_stretch_0 0 rfl rfl)
theorem dX4_stretch_1 : decode cX4_stretch 1 = .ok (.iconst 0, 1) := dk_3 (dk_at dksX4_stretch_0 1 rfl rfl)
theorem dX4_stretch_2 : decode cX4_stretch 2 = .ok (.putfield 146, 3) := dk_181 0 146 (dk_at dksX4_stretch_0 2 rfl rfl)
theorem dX4_stretch_5 : decode cX4_stretch 5 = .ok (.aload_n 0, 1) := dk_42 (dk_at dksX4_stretch_0 5 rfl rfl)
theorem dX4_stretch_6 : decode cX4_stretch 6 = .ok (.iload_n 1, 1) := dk_27 (dk_at dksX4_stretch_0 6 rfl rfl)
theorem dX4_stretch_7 : decode cX4_stretch 7 = .ok (.iconst 1, 1) := dk_4 (dk_at dksX4_stretch_0 7 rfl rfl)
theorem dX4_stretch_8 : decode cX4_stretch 8 = .ok (.if_icmp .lt 10, 3) := dk_161 0 10 (dk_at dksX4_stretch_0 8 rfl rfl)
theorem dX4_stretch_11 : decode cX4_stretch 11 = .ok (.iload_n 1, 1) := dk_27 (dk_at dksX4_stretch_0 11 rfl rfl)
theorem dX4_stretch_12 : decode cX4_stretch 12 = .ok (.sipush 10000, 3) := dk_17 39 16 (dk_at dksX4_stretch_0 12 rfl rfl)
theorem dX4_stretch_15 : decode cX4_stretch 15 = .ok (.if_icmp .le 7, 3) := dk_164 0 7 (dk_at dksX4_stretch_0 15 rfl rfl)
theorem dX4_stretch_18 : decode cX4_stretch 18 = .ok (.iconst 1, 1) := dk_4 (dk_at dksX4_stretch_0 18 rfl rfl)
theorem dX4_stretch_19 : decode cX4_stretch 19 = .ok (.goto 4, 3) := dk_167 0 4 (dk_at dksX4_stretch_0 19 rfl rfl)
theorem dX4_stretch_22 : decode cX4_stretch 22 = .ok (.iconst 0, 1) := dk_3 (dk_at dksX4_stretch_0 22 rfl rfl)
theorem dX4_stretch_23 : decode cX4_stretch 23 = .ok (.iconst 1, 1) := dk_4 (dk_at dksX4_stretch_0 23 rfl rfl)
theorem dX4_stretch_24 : decode cX4_stretch 24 = .ok (.invokevirtual 308, 3) := dk_182 1 52 (dk_at dksX4_stretch_1 0 rfl rfl)
theorem dX4_stretch_27 : decode cX4_stretch 27 = .ok (.ifCond .ne 25, 3) := dk_154 0 25 (dk_at dksX4_stretch_1 3 rfl rfl)
theorem dX4_stretch_30 : decode cX4_stretch 30 = .ok (.aload_n 0, 1) := dk_42 (dk_at dksX4_stretch_1 6 rfl rfl)
theorem dX4_stretch_31 : decode cX4_stretch 31 = .ok (.aload_n 0, 1) := dk_42 (dk_at dksX4_stretch_1 7 rfl rfl)
theorem dX4_stretch_32 : decode cX4_stretch 32 = .ok (.getfield 318, 3) := dk_180 1 62 (dk_at dksX4_stretch_1 8 rfl rfl)
theorem dX4_stretch_35 : decode cX4_stretch 35 = .ok (.bipush 12, 2) := dk_16 12 (dk_at dksX4_stretch_1 11 rfl rfl)
theorem dX4_stretch_37 : decode cX4_stretch 37 = .ok (.if_icmp .ne 7, 3) := dk_160 0 7 (dk_at dksX4_stretch_1 13 rfl rfl)
theorem dX4_stretch_40 : decode cX4_stretch 40 = .ok (.iconst 1, 1) := dk_4 (dk_at dksX4_stretch_1 16 rfl rfl)
theorem dX4_stretch_41 : decode cX4_stretch 41 = .ok (.goto 4, 3) := dk_167 0 4 (dk_at dksX4_stretch_1 17 rfl rfl)
theorem dX4_stretch_44 : decode cX4_stretch 44 = .ok (.iconst 0, 1) := dk_3 (dk_at dksX4_stretch_1 20 rfl rfl)
theorem dX4_stretch_45 : decode cX4_stretch 45 = .ok (.iconst 2, 1) := dk_5 (dk_at dksX4_stretch_1 21 rfl rfl)
theorem dX4_stretch_46 : decode cX4_stretch 46 = .ok (.invokevirtual 308, 3) := dk_182 1 52 (dk_at dksX4_stretch_2 0 rfl rfl)
theorem dX4_stretch_49 : decode cX4_stretch 49 = .ok (.ifCond .eq 5, 3) := dk_153 0 5 (dk_at dksX4_stretch_2 3 rfl rfl)
theorem dX4_stretch_52 : decode cX4_stretch 52 = .ok (.iconst 0, 1) := dk_3 (dk_at dksX4_stretch_2 6 rfl rfl)
theorem dX4_stretch_53 : decode cX4_stretch 53 = .ok (.ireturn, 1) := dk_172 (dk_at dksX4_stretch_2 7 rfl rfl)
theorem dX4_stretch_54 : decode cX4_stretch 54 = .ok (.aload_n 0, 1) := dk_42 (dk_at dksX4_stretch_2 8 rfl rfl)
theorem dX4_stretch_55 : decode cX4_stretch 55 = .ok (.getfield 63, 3) := dk_180 0 63 (dk_at dksX4_stretch_2 9 rfl rfl)
theorem dX4_stretch_58 : decode cX4_stretch 58 = .ok (.aload_n 0, 1) := dk_42 (dk_at dksX4_stretch_2 12 rfl rfl)
theorem dX4_stretch_59 : decode cX4_stretch 59 = .ok (.getfield 318, 3) := dk_180 1 62 (dk_at dksX4_stretch_2 13 rfl rfl)
theorem dX4_stretch_62 : decode cX4_stretch 62 = .ok (.iload_n 1, 1) := dk_27 (dk_at dksX4_stretch_2 16 rfl rfl)
theorem dX4_stretch_63 : decode cX4_stretch 63 = .ok (.iastore, 1) := dk_79 (dk_at dksX4_stretch_2 17 rfl rfl)
theorem dX4_stretch_64 : decode cX4_stretch 64 = .ok (.aload_n 0, 1) := dk_42 (dk_at dksX4_stretch_2 18 rfl rfl)
theorem dX4_stretch_65 : decode cX4_stretch 65 = .ok (.dup, 1) := dk_89 (dk_at dksX4_stretch_2 19 rfl rfl)
theorem dX4_stretch_66 : decode cX4_stretch 66 = .ok (.getfield 318, 3) := dk_180 1 62 (dk_at dksX4_stretch_2 20 rfl rfl)
theorem dX4_stretch_69 : decode cX4_stretch 69 = .ok (.iconst 1, 1) := dk_4 (dk_at dksX4_stretch_2 23 rfl rfl)
theorem dX4_stretch_70 : decode cX4_stretch 70 = .ok (.iadd, 1) := dk_96 (dk_at dksX4_stretch_3 0 rfl rfl)
theorem dX4_stretch_71 : decode cX4_stretch 71 = .ok (.putfield 318, 3) := dk_181 1 62 (dk_at dksX4_stretch_3 1 rfl rfl)
theorem dX4_stretch_74 : decode cX4_stretch 74 = .ok (.aload_n 0, 1) := dk_42 (dk_at dksX4_stretch_3 4 rfl rfl)
theorem dX4_stretch_75 : decode cX4_stretch 75 = .ok (.getfield 318, 3) := dk_180 1 62 (dk_at dksX4_stretch_3 5 rfl rfl)
theorem dX4_stretch_78 : decode cX4_stretch 78 = .ok (.iconst 1, 1) := dk_4 (dk_at dksX4_stretch_3 8 rfl rfl)
theorem dX4_stretch_79 : decode cX4_stretch 79 = .ok (.isub, 1) := dk_100 (dk_at dksX4_stretch_3 9 rfl rfl)
theorem dX4_stretch_80 : decode cX4_stretch 80 = .ok (.ireturn, 1) := dk_172 (dk_at dksX4_stretch_3 10 rfl rfl)
abbrev cX4_gate : ByteArray := prog_33_method_30_code
def yX4_gate : MethodName := ⟨RX4, "gate", "(I)I"⟩
def dkwX4_gate_3 : List UInt8 := [180, 1, 65, 2, 79, 42, 89, 180, 1, 65, 4, 96, 181, 1, 65, 42, 180, 1, 65, 4, 100, 172]
abbrev dktX4_gate_3 : List UInt8 := dkwX4_gate_3 ++ []
def dkwX4_gate_2 : List UInt8 := [182, 1, 52, 153, 0, 5, 3, 172, 42, 180, 0, 70, 42, 180, 1, 65, 27, 79, 42, 180, 0, 113, 42]
abbrev dktX4_gate_2 : List UInt8 := dkwX4_gate_2 ++ dktX4_gate_3
def dkwX4_gate_1 : List UInt8 := [182, 1, 52, 154, 0, 25, 42, 42, 180, 1, 65, 16, 8, 160, 0, 7, 4, 167, 0, 4, 3, 5]
abbrev dktX4_gate_1 : List UInt8 := dkwX4_gate_1 ++ dktX4_gate_2
def dkwX4_gate_0 : List UInt8 := [42, 3, 181, 0, 146, 42, 27, 155, 0, 11, 27, 42, 180, 1, 62, 161, 0, 7, 4, 167, 0, 4, 3, 4]
abbrev dktX4_gate_0 : List UInt8 := dkwX4_gate_0 ++ dktX4_gate_1
theorem dksX4_gate_0 : cX4_gate.data.toList.drop 0 = dktX4_gate_0 := by decide +kernel
theorem dksX4_gate_1 : cX4_gate.data.toList.drop 24 = dktX4_gate_1 := dk_seg dksX4_gate_0 24 rfl rfl
theorem dksX4_gate_2 : cX4_gate.data.toList.drop 46 = dktX4_gate_2 := dk_seg dksX4_gate_1 22 rfl rfl
theorem dksX4_gate_3 : cX4_gate.data.toList.drop 69 = dktX4_gate_3 := dk_seg dksX4_gate_2 23 rfl rfl
theorem dX4_gate_0 : decode cX4_gate 0 = .ok (.aload_n 0, 1) := dk_42 (dk_at dksX4_gate_0 0 rfl rfl)
theorem dX4_gate_1 : decode cX4_gate 1 = .ok (.iconst 0, 1) := dk_3 (dk_at dksX4_gate_0 1 rfl rfl)
theorem dX4_gate_2 : decode cX4_gate 2 = .ok (.putfield 146, 3) := dk_181 0 146 (dk_at dksX4_gate_0 2 rfl rfl)
theorem dX4_gate_5 : decode cX4_gate 5 = .ok (.aload_n 0, 1) := dk_42 (dk_at dksX4_gate_0 5 rfl rfl)
theorem dX4_gate_6 : decode cX4_gate 6 = .ok (.iload_n 1, 1) := dk_27 (dk_at dksX4_gate_0 6 rfl rfl)
theorem dX4_gate_7 : decode cX4_gate 7 = .ok (.ifCond .lt 11, 3) := dk_155 0 11 (dk_at dksX4_gate_0 7 rfl rfl)
theorem dX4_gate_10 : decode cX4_gate 10 = .ok (.iload_n 1, 1) := dk_27 (dk_at dksX4_gate_0 10 rfl rfl)
theorem dX4_gate_11 : decode cX4_gate 11 = .ok (.aload_n 0, 1) := dk_42 (dk_at dksX4_gate_0 11 rfl rfl)
theorem dX4_gate_12 : decode cX4_gate 12 = .ok (.getfield 318, 3) := dk_180 1 62 (dk_at dksX4_gate_0 12 rfl rfl)
theorem dX4_gate_15 : decode cX4_gate 15 = .ok (.if_icmp .lt 7, 3) := dk_161 0 7 (dk_at dksX4_gate_0 15 rfl rfl)
theorem dX4_gate_18 : decode cX4_gate 18 = .ok (.iconst 1, 1) := dk_4 (dk_at dksX4_gate_0 18 rfl rfl)
theorem dX4_gate_19 : decode cX4_gate 19 = .ok (.goto 4, 3) := dk_167 0 4 (dk_at dksX4_gate_0 19 rfl rfl)
theorem dX4_gate_22 : decode cX4_gate 22 = .ok (.iconst 0, 1) := dk_3 (dk_at dksX4_gate_0 22 rfl rfl)
theorem dX4_gate_23 : decode cX4_gate 23 = .ok (.iconst 1, 1) := dk_4 (dk_at dksX4_gate_0 23 rfl rfl)
theorem dX4_gate_24 : decode cX4_gate 24 = .ok (.invokevirtual 308, 3) := dk_182 1 52 (dk_at dksX4_gate_1 0 rfl rfl)
theorem dX4_gate_27 : decode cX4_gate 27 = .ok (.ifCond .ne 25, 3) := dk_154 0 25 (dk_at dksX4_gate_1 3 rfl rfl)
theorem dX4_gate_30 : decode cX4_gate 30 = .ok (.aload_n 0, 1) := dk_42 (dk_at dksX4_gate_1 6 rfl rfl)
theorem dX4_gate_31 : decode cX4_gate 31 = .ok (.aload_n 0, 1) := dk_42 (dk_at dksX4_gate_1 7 rfl rfl)
theorem dX4_gate_32 : decode cX4_gate 32 = .ok (.getfield 321, 3) := dk_180 1 65 (dk_at dksX4_gate_1 8 rfl rfl)
theorem dX4_gate_35 : decode cX4_gate 35 = .ok (.bipush 8, 2) := dk_16 8 (dk_at dksX4_gate_1 11 rfl rfl)
theorem dX4_gate_37 : decode cX4_gate 37 = .ok (.if_icmp .ne 7, 3) := dk_160 0 7 (dk_at dksX4_gate_1 13 rfl rfl)
theorem dX4_gate_40 : decode cX4_gate 40 = .ok (.iconst 1, 1) := dk_4 (dk_at dksX4_gate_1 16 rfl rfl)
theorem dX4_gate_41 : decode cX4_gate 41 = .ok (.goto 4, 3) := dk_167 0 4 (dk_at dksX4_gate_1 17 rfl rfl)
theorem dX4_gate_44 : decode cX4_gate 44 = .ok (.iconst 0, 1) := dk_3 (dk_at dksX4_gate_1 20 rfl rfl)
theorem dX4_gate_45 : decode cX4_gate 45 = .ok (.iconst 2, 1) := dk_5 (dk_at dksX4_gate_1 21 rfl rfl)
theorem dX4_gate_46 : decode cX4_gate 46 = .ok (.invokevirtual 308, 3) := dk_182 1 52 (dk_at dksX4_gate_2 0 rfl rfl)
theorem dX4_gate_49 : decode cX4_gate 49 = .ok (.ifCond .eq 5, 3) := dk_153 0 5 (dk_at dksX4_gate_2 3 rfl rfl)
theorem dX4_gate_52 : decode cX4_gate 52 = .ok (.iconst 0, 1) := dk_3 (dk_at dksX4_gate_2 6 rfl rfl)
theorem dX4_gate_53 : decode cX4_gate 53 = .ok (.ireturn, 1) := dk_172 (dk_at dksX4_gate_2 7 rfl rfl)
theorem dX4_gate_54 : decode cX4_gate 54 = .ok (.aload_n 0, 1) := dk_42 (dk_at dksX4_gate_2 8 rfl rfl)
theorem dX4_gate_55 : decode cX4_gate 55 = .ok (.getfield 70, 3) := dk_180 0 70 (dk_at dksX4_gate_2 9 rfl rfl)
theorem dX4_gate_58 : decode cX4_gate 58 = .ok (.aload_n 0, 1) := dk_42 (dk_at dksX4_gate_2 12 rfl rfl)
theorem dX4_gate_59 : decode cX4_gate 59 = .ok (.getfield 321, 3) := dk_180 1 65 (dk_at dksX4_gate_2 13 rfl rfl)
theorem dX4_gate_62 : decode cX4_gate 62 = .ok (.iload_n 1, 1) := dk_27 (dk_at dksX4_gate_2 16 rfl rfl)
theorem dX4_gate_63 : decode cX4_gate 63 = .ok (.iastore, 1) := dk_79 (dk_at dksX4_gate_2 17 rfl rfl)
theorem dX4_gate_64 : decode cX4_gate 64 = .ok (.aload_n 0, 1) := dk_42 (dk_at dksX4_gate_2 18 rfl rfl)
theorem dX4_gate_65 : decode cX4_gate 65 = .ok (.getfield 113, 3) := dk_180 0 113 (dk_at dksX4_gate_2 19 rfl rfl)
theorem dX4_gate_68 : decode cX4_gate 68 = .ok (.aload_n 0, 1) := dk_42 (dk_at dksX4_gate_2 22 rfl rfl)
theorem dX4_gate_69 : decode cX4_gate 69 = .ok (.getfield 321, 3) := dk_180 1 65 (dk_at dksX4_gate_3 0 rfl rfl)
theorem dX4_gate_72 : decode cX4_gate 72 = .ok (.iconst (-1), 1) := dk_2 (dk_at dksX4_gate_3 3 rfl rfl)
theorem dX4_gate_73 : decode cX4_gate 73 = .ok (.iastore, 1) := dk_79 (dk_at dksX4_gate_3 4 rfl rfl)
theorem dX4_gate_74 : decode cX4_gate 74 = .ok (.aload_n 0, 1) := dk_42 (dk_at dksX4_gate_3 5 rfl rfl)
theorem dX4_gate_75 : decode cX4_gate 75 = .ok (.dup, 1) := dk_89 (dk_at dksX4_gate_3 6 rfl rfl)
theorem dX4_gate_76 : decode cX4_gate 76 = .ok (.getfield 321, 3) := dk_180 1 65 (dk_at dksX4_gate_3 7 rfl rfl)
theorem dX4_gate_79 : decode cX4_gate 79 = .ok (.iconst 1, 1) := dk_4 (dk_at dksX4_gate_3 10 rfl rfl)
theorem dX4_gate_80 : decode cX4_gate 80 = .ok (.iadd, 1) := dk_96 (dk_at dksX4_gate_3 11 rfl rfl)
theorem dX4_gate_81 : decode cX4_gate 81 = .ok (.putfield 321, 3) := dk_181 1 65 (dk_at dksX4_gate_3 12 rfl rfl)
theorem dX4_gate_84 : decode cX4_gate 84 = .ok (.aload_n 0, 1) := dk_42 (dk_at dksX4_gate_3 15 rfl rfl)
theorem dX4_gate_85 : decode cX4_gate 85 = .ok (.getfield 321, 3) := dk_180 1 65 (dk_at dksX4_gate_3 16 rfl rfl)
theorem dX4_gate_88 : decode cX4_gate 88 = .ok (.iconst 1, 1) := dk_4 (dk_at dksX4_gate_3 19 rfl rfl)
theorem dX4_gate_89 : decode cX4_gate 89 = .ok (.isub, 1) := dk_100 (dk_at dksX4_gate_3 20 rfl rfl)
theorem dX4_gate_90 : decode cX4_gate 90 = .ok (.ireturn, 1) := dk_172 (dk_at dksX4_gate_3 21 rfl rfl)
abbrev cX4_traveller : ByteArray := prog_33_method_31_code
def yX4_traveller : MethodName := ⟨RX4, "traveller", "(IIII)I"⟩
def dkwX4_traveller_8 : List UInt8 := [96, 181, 1, 68, 42, 180, 1, 68, 4, 100, 172]
abbrev dktX4_traveller_8 : List UInt8 := dkwX4_traveller_8 ++ []
def dkwX4_traveller_7 : List UInt8 := [16, 8, 42, 180, 1, 68, 104, 21, 6, 96, 2, 79, 132, 6, 1, 167, 255, 214, 42, 89, 180, 1, 68, 4]
abbrev dktX4_traveller_7 : List UInt8 := dkwX4_traveller_7 ++ dktX4_traveller_8
def dkwX4_traveller_6 : List UInt8 := [162, 0, 41, 42, 180, 0, 57, 16, 8, 42, 180, 1, 68, 104, 21, 6, 96, 2, 79, 42, 180, 0, 60]
abbrev dktX4_traveller_6 : List UInt8 := dkwX4_traveller_6 ++ dktX4_traveller_7
def dkwX4_traveller_5 : List UInt8 := [180, 1, 68, 29, 79, 42, 180, 0, 54, 42, 180, 1, 68, 21, 4, 79, 3, 54, 6, 21, 6, 16, 8]
abbrev dktX4_traveller_5 : List UInt8 := dkwX4_traveller_5 ++ dktX4_traveller_6
def dkwX4_traveller_4 : List UInt8 := [180, 0, 45, 42, 180, 1, 68, 27, 79, 42, 180, 0, 48, 42, 180, 1, 68, 28, 79, 42, 180, 0, 51, 42]
abbrev dktX4_traveller_4 : List UInt8 := dkwX4_traveller_4 ++ dktX4_traveller_5
def dkwX4_traveller_3 : List UInt8 := [180, 1, 68, 16, 60, 160, 0, 7, 4, 167, 0, 4, 3, 5, 182, 1, 52, 153, 0, 5, 3, 172, 42]
abbrev dktX4_traveller_3 : List UInt8 := dkwX4_traveller_3 ++ dktX4_traveller_4
def dkwX4_traveller_2 : List UInt8 := [164, 0, 7, 4, 167, 0, 4, 3, 54, 5, 42, 21, 5, 4, 182, 1, 52, 154, 0, 25, 42, 42]
abbrev dktX4_traveller_2 : List UInt8 := dkwX4_traveller_2 ++ dktX4_traveller_3
def dkwX4_traveller_1 : List UInt8 := [163, 0, 26, 29, 155, 0, 22, 29, 17, 39, 16, 163, 0, 15, 21, 4, 155, 0, 10, 21, 4, 16, 15]
abbrev dktX4_traveller_1 : List UInt8 := dkwX4_traveller_1 ++ dktX4_traveller_2
def dkwX4_traveller_0 : List UInt8 := [42, 3, 181, 0, 146, 27, 155, 0, 42, 27, 16, 6, 163, 0, 36, 28, 155, 0, 32, 28, 16, 20]
abbrev dktX4_traveller_0 : List UInt8 := dkwX4_traveller_0 ++ dktX4_traveller_1
theorem dksX4_traveller_0 : cX4_traveller.data.toList.drop 0 = dktX4_traveller_0 := by decide +kernel
theorem dksX4_traveller_1 : cX4_traveller.data.toList.drop 22 = dktX4_traveller_1 := dk_seg dksX4_traveller_0 22 rfl rfl
theorem dksX4_traveller_2 : cX4_traveller.data.toList.drop 45 = dktX4_traveller_2 := dk_seg dksX4_traveller_1 23 rfl rfl
theorem dksX4_traveller_3 : cX4_traveller.data.toList.drop 67 = dktX4_traveller_3 := dk_seg dksX4_traveller_2 22 rfl rfl
theorem dksX4_traveller_4 : cX4_traveller.data.toList.drop 90 = dktX4_traveller_4 := dk_seg dksX4_traveller_3 23 rfl rfl
theorem dksX4_traveller_5 : cX4_traveller.data.toList.drop 114 = dktX4_traveller_5 := dk_seg dksX4_traveller_4 24 rfl rfl
theorem dksX4_traveller_6 : cX4_traveller.data.toList.drop 137 = dktX4_traveller_6 := dk_seg dksX4_traveller_5 23 rfl rfl
theorem dksX4_traveller_7 : cX4_traveller.data.toList.drop 160 = dktX4_traveller_7 := dk_seg dksX4_traveller_6 23 rfl rfl
theorem dksX4_traveller_8 : cX4_traveller.data.toList.drop 184 = dktX4_traveller_8 := dk_seg dksX4_traveller_7 24 rfl rfl
theorem dX4_traveller_0 : decode cX4_traveller 0 = .ok (.aload_n 0, 1) := dk_42 (dk_at dksX4_traveller_0 0 rfl rfl)
theorem dX4_traveller_1 : decode cX4_traveller 1 = .ok (.iconst 0, 1) := dk_3 (dk_at dksX4_traveller_0 1 rfl rfl)
theorem dX4_traveller_2 : decode cX4_traveller 2 = .ok (.putfield 146, 3) := dk_181 0 146 (dk_at dksX4_traveller_0 2 rfl rfl)
theorem dX4_traveller_5 : decode cX4_traveller 5 = .ok (.iload_n 1, 1) := dk_27 (dk_at dksX4_traveller_0 5 rfl rfl)
theorem dX4_traveller_6 : decode cX4_traveller 6 = .ok (.ifCond .lt 42, 3) := dk_155 0 42 (dk_at dksX4_traveller_0 6 rfl rfl)
theorem dX4_traveller_9 : decode cX4_traveller 9 = .ok (.iload_n 1, 1) := dk_27 (dk_at dksX4_traveller_0 9 rfl rfl)
theorem dX4_traveller_10 : decode cX4_traveller 10 = .ok (.bipush 6, 2) := dk_16 6 (dk_at dksX4_traveller_0 10 rfl rfl)
theorem dX4_traveller_12 : decode cX4_traveller 12 = .ok (.if_icmp .gt 36, 3) := dk_163 0 36 (dk_at dksX4_traveller_0 12 rfl rfl)
theorem dX4_traveller_15 : decode cX4_traveller 15 = .ok (.iload_n 2, 1) := dk_28 (dk_at dksX4_traveller_0 15 rfl rfl)
theorem dX4_traveller_16 : decode cX4_traveller 16 = .ok (.ifCond .lt 32, 3) := dk_155 0 32 (dk_at dksX4_traveller_0 16 rfl rfl)
theorem dX4_traveller_19 : decode cX4_traveller 19 = .ok (.iload_n 2, 1) := dk_28 (dk_at dksX4_traveller_0 19 rfl rfl)
theorem dX4_traveller_20 : decode cX4_traveller 20 = .ok (.bipush 20, 2) := dk_16 20 (dk_at dksX4_traveller_0 20 rfl rfl)
theorem dX4_traveller_22 : decode cX4_traveller 22 = .ok (.if_icmp .gt 26, 3) := dk_163 0 26 (dk_at dksX4_traveller_1 0 rfl rfl)
theorem dX4_traveller_25 : decode cX4_traveller 25 = .ok (.iload_n 3, 1) := dk_29 (dk_at dksX4_traveller_1 3 rfl rfl)
theorem dX4_traveller_26 : decode cX4_traveller 26 = .ok (.ifCond .lt 22, 3) := dk_155 0 22 (dk_at dksX4_traveller_1 4 rfl rfl)
theorem dX4_traveller_29 : decode cX4_traveller 29 = .ok (.iload_n 3, 1) := dk_29 (dk_at dksX4_traveller_1 7 rfl rfl)
theorem dX4_traveller_30 : decode cX4_traveller 30 = .ok (.sipush 10000, 3) := dk_17 39 16 (dk_at dksX4_traveller_1 8 rfl rfl)
theorem dX4_traveller_33 : decode cX4_traveller 33 = .ok (.if_icmp .gt 15, 3) := dk_163 0 15 (dk_at dksX4_traveller_1 11 rfl rfl)
theorem dX4_traveller_36 : decode cX4_traveller 36 = .ok (.iload 4, 2) := dk_21 4 (dk_at dksX4_traveller_1 14 rfl rfl)
theorem dX4_traveller_38 : decode cX4_traveller 38 = .ok (.ifCond .lt 10, 3) := dk_155 0 10 (dk_at dksX4_traveller_1 16 rfl rfl)
theorem dX4_traveller_41 : decode cX4_traveller 41 = .ok (.iload 4, 2) := dk_21 4 (dk_at dksX4_traveller_1 19 rfl rfl)
theorem dX4_traveller_43 : decode cX4_traveller 43 = .ok (.bipush 15, 2) := dk_16 15 (dk_at dksX4_traveller_1 21 rfl rfl)
theorem dX4_traveller_45 : decode cX4_traveller 45 = .ok (.if_icmp .le 7, 3) := dk_164 0 7 (dk_at dksX4_traveller_2 0 rfl rfl)
theorem dX4_traveller_48 : decode cX4_traveller 48 = .ok (.iconst 1, 1) := dk_4 (dk_at dksX4_traveller_2 3 rfl rfl)
theorem dX4_traveller_49 : decode cX4_traveller 49 = .ok (.goto 4, 3) := dk_167 0 4 (dk_at dksX4_traveller_2 4 rfl rfl)
theorem dX4_traveller_52 : decode cX4_traveller 52 = .ok (.iconst 0, 1) := dk_3 (dk_at dksX4_traveller_2 7 rfl rfl)
theorem dX4_traveller_53 : decode cX4_traveller 53 = .ok (.istore 5, 2) := dk_54 5 (dk_at dksX4_traveller_2 8 rfl rfl)
theorem dX4_traveller_55 : decode cX4_traveller 55 = .ok (.aload_n 0, 1) := dk_42 (dk_at dksX4_traveller_2 10 rfl rfl)
theorem dX4_traveller_56 : decode cX4_traveller 56 = .ok (.iload 5, 2) := dk_21 5 (dk_at dksX4_traveller_2 11 rfl rfl)
theorem dX4_traveller_58 : decode cX4_traveller 58 = .ok (.iconst 1, 1) := dk_4 (dk_at dksX4_traveller_2 13 rfl rfl)
theorem dX4_traveller_59 : decode cX4_traveller 59 = .ok (.invokevirtual 308, 3) := dk_182 1 52 (dk_at dksX4_traveller_2 14 rfl rfl)
theorem dX4_traveller_62 : decode cX4_traveller 62 = .ok (.ifCond .ne 25, 3) := dk_154 0 25 (dk_at dksX4_traveller_2 17 rfl rfl)
theorem dX4_traveller_65 : decode cX4_traveller 65 = .ok (.aload_n 0, 1) := dk_42 (dk_at dksX4_traveller_2 20 rfl rfl)
theorem dX4_traveller_66 : decode cX4_traveller 66 = .ok (.aload_n 0, 1) := dk_42 (dk_at dksX4_traveller_2 21 rfl rfl)
theorem dX4_traveller_67 : decode cX4_traveller 67 = .ok (.getfield 324, 3) := dk_180 1 68 (dk_at dksX4_traveller_3 0 rfl rfl)
theorem dX4_traveller_70 : decode cX4_traveller 70 = .ok (.bipush 60, 2) := dk_16 60 (dk_at dksX4_traveller_3 3 rfl rfl)
theorem dX4_traveller_72 : decode cX4_traveller 72 = .ok (.if_icmp .ne 7, 3) := dk_160 0 7 (dk_at dksX4_traveller_3 5 rfl rfl)
theorem dX4_traveller_75 : decode cX4_traveller 75 = .ok (.iconst 1, 1) := dk_4 (dk_at dksX4_traveller_3 8 rfl rfl)
theorem dX4_traveller_76 : decode cX4_traveller 76 = .ok (.goto 4, 3) := dk_167 0 4 (dk_at dksX4_traveller_3 9 rfl rfl)
theorem dX4_traveller_79 : decode cX4_traveller 79 = .ok (.iconst 0, 1) := dk_3 (dk_at dksX4_traveller_3 12 rfl rfl)
theorem dX4_traveller_80 : decode cX4_traveller 80 = .ok (.iconst 2, 1) := dk_5 (dk_at dksX4_traveller_3 13 rfl rfl)
theorem dX4_traveller_81 : decode cX4_traveller 81 = .ok (.invokevirtual 308, 3) := dk_182 1 52 (dk_at dksX4_traveller_3 14 rfl rfl)
theorem dX4_traveller_84 : decode cX4_traveller 84 = .ok (.ifCond .eq 5, 3) := dk_153 0 5 (dk_at dksX4_traveller_3 17 rfl rfl)
theorem dX4_traveller_87 : decode cX4_traveller 87 = .ok (.iconst 0, 1) := dk_3 (dk_at dksX4_traveller_3 20 rfl rfl)
theorem dX4_traveller_88 : decode cX4_traveller 88 = .ok (.ireturn, 1) := dk_172 (dk_at dksX4_traveller_3 21 rfl rfl)
theorem dX4_traveller_89 : decode cX4_traveller 89 = .ok (.aload_n 0, 1) := dk_42 (dk_at dksX4_traveller_3 22 rfl rfl)
theorem dX4_traveller_90 : decode cX4_traveller 90 = .ok (.getfield 45, 3) := dk_180 0 45 (dk_at dksX4_traveller_4 0 rfl rfl)
theorem dX4_traveller_93 : decode cX4_traveller 93 = .ok (.aload_n 0, 1) := dk_42 (dk_at dksX4_traveller_4 3 rfl rfl)
theorem dX4_traveller_94 : decode cX4_traveller 94 = .ok (.getfield 324, 3) := dk_180 1 68 (dk_at dksX4_traveller_4 4 rfl rfl)
theorem dX4_traveller_97 : decode cX4_traveller 97 = .ok (.iload_n 1, 1) := dk_27 (dk_at dksX4_traveller_4 7 rfl rfl)
theorem dX4_traveller_98 : decode cX4_traveller 98 = .ok (.iastore, 1) := dk_79 (dk_at dksX4_traveller_4 8 rfl rfl)
theorem dX4_traveller_99 : decode cX4_traveller 99 = .ok (.aload_n 0, 1) := dk_42 (dk_at dksX4_traveller_4 9 rfl rfl)
theorem dX4_traveller_100 : decode cX4_traveller 100 = .ok (.getfield 48, 3) := dk_180 0 48 (dk_at dksX4_traveller_4 10 rfl rfl)
theorem dX4_traveller_103 : decode cX4_traveller 103 = .ok (.aload_n 0, 1) := dk_42 (dk_at dksX4_traveller_4 13 rfl rfl)
theorem dX4_traveller_104 : decode cX4_traveller 104 = .ok (.getfield 324, 3) := dk_180 1 68 (dk_at dksX4_traveller_4 14 rfl rfl)
theorem dX4_traveller_107 : decode cX4_traveller 107 = .ok (.iload_n 2, 1) := dk_28 (dk_at dksX4_traveller_4 17 rfl rfl)
theorem dX4_traveller_108 : decode cX4_traveller 108 = .ok (.iastore, 1) := dk_79 (dk_at dksX4_traveller_4 18 rfl rfl)
theorem dX4_traveller_109 : decode cX4_traveller 109 = .ok (.aload_n 0, 1) := dk_42 (dk_at dksX4_traveller_4 19 rfl rfl)
theorem dX4_traveller_110 : decode cX4_traveller 110 = .ok (.getfield 51, 3) := dk_180 0 51 (dk_at dksX4_traveller_4 20 rfl rfl)
theorem dX4_traveller_113 : decode cX4_traveller 113 = .ok (.aload_n 0, 1) := dk_42 (dk_at dksX4_traveller_4 23 rfl rfl)
theorem dX4_traveller_114 : decode cX4_traveller 114 = .ok (.getfield 324, 3) := dk_180 1 68 (dk_at dksX4_traveller_5 0 rfl rfl)
theorem dX4_traveller_117 : decode cX4_traveller 117 = .ok (.iload_n 3, 1) := dk_29 (dk_at dksX4_traveller_5 3 rfl rfl)
theorem dX4_traveller_118 : decode cX4_traveller 118 = .ok (.iastore, 1) := dk_79 (dk_at dksX4_traveller_5 4 rfl rfl)
theorem dX4_traveller_119 : decode cX4_traveller 119 = .ok (.aload_n 0, 1) := dk_42 (dk_at dksX4_traveller_5 5 rfl rfl)
theorem dX4_traveller_120 : decode cX4_traveller 120 = .ok (.getfield 54, 3) := dk_180 0 54 (dk_at dksX4_traveller_5 6 rfl rfl)
theorem dX4_traveller_123 : decode cX4_traveller 123 = .ok (.aload_n 0, 1) := dk_42 (dk_at dksX4_traveller_5 9 rfl rfl)
theorem dX4_traveller_124 : decode cX4_traveller 124 = .ok (.getfield 324, 3) := dk_180 1 68 (dk_at dksX4_traveller_5 10 rfl rfl)
theorem dX4_traveller_127 : decode cX4_traveller 127 = .ok (.iload 4, 2) := dk_21 4 (dk_at dksX4_traveller_5 13 rfl rfl)
theorem dX4_traveller_129 : decode cX4_traveller 129 = .ok (.iastore, 1) := dk_79 (dk_at dksX4_traveller_5 15 rfl rfl)
theorem dX4_traveller_130 : decode cX4_traveller 130 = .ok (.iconst 0, 1) := dk_3 (dk_at dksX4_traveller_5 16 rfl rfl)
theorem dX4_traveller_131 : decode cX4_traveller 131 = .ok (.istore 6, 2) := dk_54 6 (dk_at dksX4_traveller_5 17 rfl rfl)
theorem dX4_traveller_133 : decode cX4_traveller 133 = .ok (.iload 6, 2) := dk_21 6 (dk_at dksX4_traveller_5 19 rfl rfl)
theorem dX4_traveller_135 : decode cX4_traveller 135 = .ok (.bipush 8, 2) := dk_16 8 (dk_at dksX4_traveller_5 21 rfl rfl)
theorem dX4_traveller_137 : decode cX4_traveller 137 = .ok (.if_icmp .ge 41, 3) := dk_162 0 41 (dk_at dksX4_traveller_6 0 rfl rfl)
theorem dX4_traveller_140 : decode cX4_traveller 140 = .ok (.aload_n 0, 1) := dk_42 (dk_at dksX4_traveller_6 3 rfl rfl)
theorem dX4_traveller_141 : decode cX4_traveller 141 = .ok (.getfield 57, 3) := dk_180 0 57 (dk_at dksX4_traveller_6 4 rfl rfl)
theorem dX4_traveller_144 : decode cX4_traveller 144 = .ok (.bipush 8, 2) := dk_16 8 (dk_at dksX4_traveller_6 7 rfl rfl)
theorem dX4_traveller_146 : decode cX4_traveller 146 = .ok (.aload_n 0, 1) := dk_42 (dk_at dksX4_traveller_6 9 rfl rfl)
theorem dX4_traveller_147 : decode cX4_traveller 147 = .ok (.getfield 324, 3) := dk_180 1 68 (dk_at dksX4_traveller_6 10 rfl rfl)
theorem dX4_traveller_150 : decode cX4_traveller 150 = .ok (.imul, 1) := dk_104 (dk_at dksX4_traveller_6 13 rfl rfl)
theorem dX4_traveller_151 : decode cX4_traveller 151 = .ok (.iload 6, 2) := dk_21 6 (dk_at dksX4_traveller_6 14 rfl rfl)
theorem dX4_traveller_153 : decode cX4_traveller 153 = .ok (.iadd, 1) := dk_96 (dk_at dksX4_traveller_6 16 rfl rfl)
theorem dX4_traveller_154 : decode cX4_traveller 154 = .ok (.iconst (-1), 1) := dk_2 (dk_at dksX4_traveller_6 17 rfl rfl)
theorem dX4_traveller_155 : decode cX4_traveller 155 = .ok (.iastore, 1) := dk_79 (dk_at dksX4_traveller_6 18 rfl rfl)
theorem dX4_traveller_156 : decode cX4_traveller 156 = .ok (.aload_n 0, 1) := dk_42 (dk_at dksX4_traveller_6 19 rfl rfl)
theorem dX4_traveller_157 : decode cX4_traveller 157 = .ok (.getfield 60, 3) := dk_180 0 60 (dk_at dksX4_traveller_6 20 rfl rfl)
theorem dX4_traveller_160 : decode cX4_traveller 160 = .ok (.bipush 8, 2) := dk_16 8 (dk_at dksX4_traveller_7 0 rfl rfl)
theorem dX4_traveller_162 : decode cX4_traveller 162 = .ok (.aload_n 0, 1) := dk_42 (dk_at dksX4_traveller_7 2 rfl rfl)
theorem dX4_traveller_163 : decode cX4_traveller 163 = .ok (.getfield 324, 3) := dk_180 1 68 (dk_at dksX4_traveller_7 3 rfl rfl)
theorem dX4_traveller_166 : decode cX4_traveller 166 = .ok (.imul, 1) := dk_104 (dk_at dksX4_traveller_7 6 rfl rfl)
theorem dX4_traveller_167 : decode cX4_traveller 167 = .ok (.iload 6, 2) := dk_21 6 (dk_at dksX4_traveller_7 7 rfl rfl)
theorem dX4_traveller_169 : decode cX4_traveller 169 = .ok (.iadd, 1) := dk_96 (dk_at dksX4_traveller_7 9 rfl rfl)
theorem dX4_traveller_170 : decode cX4_traveller 170 = .ok (.iconst (-1), 1) := dk_2 (dk_at dksX4_traveller_7 10 rfl rfl)
theorem dX4_traveller_171 : decode cX4_traveller 171 = .ok (.iastore, 1) := dk_79 (dk_at dksX4_traveller_7 11 rfl rfl)
theorem dX4_traveller_172 : decode cX4_traveller 172 = .ok (.iinc 6 1, 3) := dk_132 6 1 (dk_at dksX4_traveller_7 12 rfl rfl)
theorem dX4_traveller_175 : decode cX4_traveller 175 = .ok (.goto (-42), 3) := dk_167 255 214 (dk_at dksX4_traveller_7 15 rfl rfl)
theorem dX4_traveller_178 : decode cX4_traveller 178 = .ok (.aload_n 0, 1) := dk_42 (dk_at dksX4_traveller_7 18 rfl rfl)
theorem dX4_traveller_179 : decode cX4_traveller 179 = .ok (.dup, 1) := dk_89 (dk_at dksX4_traveller_7 19 rfl rfl)
theorem dX4_traveller_180 : decode cX4_traveller 180 = .ok (.getfield 324, 3) := dk_180 1 68 (dk_at dksX4_traveller_7 20 rfl rfl)
theorem dX4_traveller_183 : decode cX4_traveller 183 = .ok (.iconst 1, 1) := dk_4 (dk_at dksX4_traveller_7 23 rfl rfl)
theorem dX4_traveller_184 : decode cX4_traveller 184 = .ok (.iadd, 1) := dk_96 (dk_at dksX4_traveller_8 0 rfl rfl)
theorem dX4_traveller_185 : decode cX4_traveller 185 = .ok (.putfield 324, 3) := dk_181 1 68 (dk_at dksX4_traveller_8 1 rfl rfl)
theorem dX4_traveller_188 : decode cX4_traveller 188 = .ok (.aload_n 0, 1) := dk_42 (dk_at dksX4_traveller_8 4 rfl rfl)
theorem dX4_traveller_189 : decode cX4_traveller 189 = .ok (.getfield 324, 3) := dk_180 1 68 (dk_at dksX4_traveller_8 5 rfl rfl)
theorem dX4_traveller_192 : decode cX4_traveller 192 = .ok (.iconst 1, 1) := dk_4 (dk_at dksX4_traveller_8 8 rfl rfl)
theorem dX4_traveller_193 : decode cX4_traveller 193 = .ok (.isub, 1) := dk_100 (dk_at dksX4_traveller_8 9 rfl rfl)
theorem dX4_traveller_194 : decode cX4_traveller 194 = .ok (.ireturn, 1) := dk_172 (dk_at dksX4_traveller_8 10 rfl rfl)
abbrev cX4_pass : ByteArray := prog_33_method_39_code
def yX4_pass : MethodName := ⟨RX4, "pass", "(II)I"⟩
def dkwX4_pass_12 : List UInt8 := [167, 0, 15, 29, 158, 0, 11, 42, 3, 27, 29, 133, 182, 1, 110, 29, 172]
abbrev dktX4_pass_12 : List UInt8 := dkwX4_pass_12 ++ []
def dkwX4_pass_11 : List UInt8 := [180, 0, 113, 28, 46, 155, 0, 22, 42, 180, 0, 98, 42, 180, 0, 113, 28, 46, 92, 47, 29, 133, 97, 80]
abbrev dktX4_pass_11 : List UInt8 := dkwX4_pass_11 ++ dktX4_pass_12
def dkwX4_pass_10 : List UInt8 := [92, 47, 42, 180, 1, 107, 158, 0, 12, 20, 1, 105, 22, 4, 105, 167, 0, 5, 22, 4, 97, 80, 42]
abbrev dktX4_pass_10 : List UInt8 := dkwX4_pass_10 ++ dktX4_pass_11
def dkwX4_pass_9 : List UInt8 := [180, 0, 51, 27, 46, 7, 108, 133, 167, 0, 4, 9, 55, 4, 42, 180, 0, 66, 42, 180, 0, 70, 28, 46]
abbrev dktX4_pass_9 : List UInt8 := dkwX4_pass_9 ++ dktX4_pass_10
def dkwX4_pass_8 : List UInt8 := [160, 0, 13, 42, 180, 0, 51, 27, 46, 133, 167, 0, 26, 42, 180, 0, 45, 27, 46, 8, 160, 0, 15, 42]
abbrev dktX4_pass_8 : List UInt8 := dkwX4_pass_8 ++ dktX4_pass_9
def dkwX4_pass_7 : List UInt8 := [167, 0, 60, 42, 180, 0, 45, 27, 46, 6, 160, 0, 7, 10, 167, 0, 46, 42, 180, 0, 45, 27, 46, 7]
abbrev dktX4_pass_7 : List UInt8 := dkwX4_pass_7 ++ dktX4_pass_8
def dkwX4_pass_6 : List UInt8 := [20, 0, 198, 42, 180, 0, 48, 27, 46, 16, 6, 162, 0, 9, 20, 1, 105, 167, 0, 4, 10, 105]
abbrev dktX4_pass_6 : List UInt8 := dkwX4_pass_6 ++ dktX4_pass_7
def dkwX4_pass_5 : List UInt8 := [20, 1, 101, 167, 0, 22, 42, 180, 0, 45, 27, 46, 4, 160, 0, 9, 20, 1, 103, 167, 0, 6]
abbrev dktX4_pass_5 : List UInt8 := dkwX4_pass_5 ++ dktX4_pass_6
def dkwX4_pass_4 : List UInt8 := [46, 4, 96, 79, 42, 180, 0, 45, 27, 46, 6, 162, 0, 59, 42, 180, 0, 45, 27, 46, 154, 0, 9]
abbrev dktX4_pass_4 : List UInt8 := dkwX4_pass_4 ++ dktX4_pass_5
def dkwX4_pass_3 : List UInt8 := [158, 0, 18, 42, 180, 0, 60, 16, 8, 27, 104, 28, 96, 42, 180, 1, 75, 79, 42, 180, 0, 73, 28, 92]
abbrev dktX4_pass_3 : List UInt8 := dkwX4_pass_3 ++ dktX4_pass_4
def dkwX4_pass_2 : List UInt8 := [180, 1, 82, 181, 0, 83, 42, 180, 0, 57, 16, 8, 27, 104, 28, 96, 42, 180, 1, 75, 79, 29]
abbrev dktX4_pass_2 : List UInt8 := dkwX4_pass_2 ++ dktX4_pass_3
def dkwX4_pass_1 : List UInt8 := [153, 0, 5, 3, 172, 42, 42, 42, 180, 1, 75, 182, 1, 59, 27, 28, 182, 1, 98, 62, 42, 42]
abbrev dktX4_pass_1 : List UInt8 := dkwX4_pass_1 ++ dktX4_pass_2
def dkwX4_pass_0 : List UInt8 := [42, 3, 181, 0, 146, 42, 42, 27, 28, 182, 1, 95, 154, 0, 7, 4, 167, 0, 4, 3, 4, 182, 1, 52]
abbrev dktX4_pass_0 : List UInt8 := dkwX4_pass_0 ++ dktX4_pass_1
theorem dksX4_pass_0 : cX4_pass.data.toList.drop 0 = dktX4_pass_0 := by decide +kernel
theorem dksX4_pass_1 : cX4_pass.data.toList.drop 24 = dktX4_pass_1 := dk_seg dksX4_pass_0 24 rfl rfl
theorem dksX4_pass_2 : cX4_pass.data.toList.drop 46 = dktX4_pass_2 := dk_seg dksX4_pass_1 22 rfl rfl
theorem dksX4_pass_3 : cX4_pass.data.toList.drop 68 = dktX4_pass_3 := dk_seg dksX4_pass_2 22 rfl rfl
theorem dksX4_pass_4 : cX4_pass.data.toList.drop 92 = dktX4_pass_4 := dk_seg dksX4_pass_3 24 rfl rfl
theorem dksX4_pass_5 : cX4_pass.data.toList.drop 115 = dktX4_pass_5 := dk_seg dksX4_pass_4 23 rfl rfl
theorem dksX4_pass_6 : cX4_pass.data.toList.drop 137 = dktX4_pass_6 := dk_seg dksX4_pass_5 22 rfl rfl
theorem dksX4_pass_7 : cX4_pass.data.toList.drop 159 = dktX4_pass_7 := dk_seg dksX4_pass_6 22 rfl rfl
theorem dksX4_pass_8 : cX4_pass.data.toList.drop 183 = dktX4_pass_8 := dk_seg dksX4_pass_7 24 rfl rfl
theorem dksX4_pass_9 : cX4_pass.data.toList.drop 207 = dktX4_pass_9 := dk_seg dksX4_pass_8 24 rfl rfl
theorem dksX4_pass_10 : cX4_pass.data.toList.drop 231 = dktX4_pass_10 := dk_seg dksX4_pass_9 24 rfl rfl
theorem dksX4_pass_11 : cX4_pass.data.toList.drop 254 = dktX4_pass_11 := dk_seg dksX4_pass_10 23 rfl rfl
theorem dksX4_pass_12 : cX4_pass.data.toList.drop 278 = dktX4_pass_12 := dk_seg dksX4_pass_11 24 rfl rfl
theorem dX4_pass_0 : decode cX4_pass 0 = .ok (.aload_n 0, 1) := dk_42 (dk_at dksX4_pass_0 0 rfl rfl)
theorem dX4_pass_1 : decode cX4_pass 1 = .ok (.iconst 0, 1) := dk_3 (dk_at dksX4_pass_0 1 rfl rfl)
theorem dX4_pass_2 : decode cX4_pass 2 = .ok (.putfield 146, 3) := dk_181 0 146 (dk_at dksX4_pass_0 2 rfl rfl)
theorem dX4_pass_5 : decode cX4_pass 5 = .ok (.aload_n 0, 1) := dk_42 (dk_at dksX4_pass_0 5 rfl rfl)
theorem dX4_pass_6 : decode cX4_pass 6 = .ok (.aload_n 0, 1) := dk_42 (dk_at dksX4_pass_0 6 rfl rfl)
theorem dX4_pass_7 : decode cX4_pass 7 = .ok (.iload_n 1, 1) := dk_27 (dk_at dksX4_pass_0 7 rfl rfl)
theorem dX4_pass_8 : decode cX4_pass 8 = .ok (.iload_n 2, 1) := dk_28 (dk_at dksX4_pass_0 8 rfl rfl)
theorem dX4_pass_9 : decode cX4_pass 9 = .ok (.invokevirtual 351, 3) := dk_182 1 95 (dk_at dksX4_pass_0 9 rfl rfl)
theorem dX4_pass_12 : decode cX4_pass 12 = .ok (.ifCond .ne 7, 3) := dk_154 0 7 (dk_at dksX4_pass_0 12 rfl rfl)
theorem dX4_pass_15 : decode cX4_pass 15 = .ok (.iconst 1, 1) := dk_4 (dk_at dksX4_pass_0 15 rfl rfl)
theorem dX4_pass_16 : decode cX4_pass 16 = .ok (.goto 4, 3) := dk_167 0 4 (dk_at dksX4_pass_0 16 rfl rfl)
theorem dX4_pass_19 : decode cX4_pass 19 = .ok (.iconst 0, 1) := dk_3 (dk_at dksX4_pass_0 19 rfl rfl)
theorem dX4_pass_20 : decode cX4_pass 20 = .ok (.iconst 1, 1) := dk_4 (dk_at dksX4_pass_0 20 rfl rfl)
theorem dX4_pass_21 : decode cX4_pass 21 = .ok (.invokevirtual 308, 3) := dk_182 1 52 (dk_at dksX4_pass_0 21 rfl rfl)
theorem dX4_pass_24 : decode cX4_pass 24 = .ok (.ifCond .eq 5, 3) := dk_153 0 5 (dk_at dksX4_pass_1 0 rfl rfl)
theorem dX4_pass_27 : decode cX4_pass 27 = .ok (.iconst 0, 1) := dk_3 (dk_at dksX4_pass_1 3 rfl rfl)
theorem dX4_pass_28 : decode cX4_pass 28 = .ok (.ireturn, 1) := dk_172 (dk_at dksX4_pass_1 4 rfl rfl)
theorem dX4_pass_29 : decode cX4_pass 29 = .ok (.aload_n 0, 1) := dk_42 (dk_at dksX4_pass_1 5 rfl rfl)
theorem dX4_pass_30 : decode cX4_pass 30 = .ok (.aload_n 0, 1) := dk_42 (dk_at dksX4_pass_1 6 rfl rfl)
theorem dX4_pass_31 : decode cX4_pass 31 = .ok (.aload_n 0, 1) := dk_42 (dk_at dksX4_pass_1 7 rfl rfl)
theorem dX4_pass_32 : decode cX4_pass 32 = .ok (.getfield 331, 3) := dk_180 1 75 (dk_at dksX4_pass_1 8 rfl rfl)
theorem dX4_pass_35 : decode cX4_pass 35 = .ok (.invokevirtual 315, 3) := dk_182 1 59 (dk_at dksX4_pass_1 11 rfl rfl)
theorem dX4_pass_38 : decode cX4_pass 38 = .ok (.iload_n 1, 1) := dk_27 (dk_at dksX4_pass_1 14 rfl rfl)
theorem dX4_pass_39 : decode cX4_pass 39 = .ok (.iload_n 2, 1) := dk_28 (dk_at dksX4_pass_1 15 rfl rfl)
theorem dX4_pass_40 : decode cX4_pass 40 = .ok (.invokevirtual 354, 3) := dk_182 1 98 (dk_at dksX4_pass_1 16 rfl rfl)
theorem dX4_pass_43 : decode cX4_pass 43 = .ok (.istore_n 3, 1) := dk_62 (dk_at dksX4_pass_1 19 rfl rfl)
theorem dX4_pass_44 : decode cX4_pass 44 = .ok (.aload_n 0, 1) := dk_42 (dk_at dksX4_pass_1 20 rfl rfl)
theorem dX4_pass_45 : decode cX4_pass 45 = .ok (.aload_n 0, 1) := dk_42 (dk_at dksX4_pass_1 21 rfl rfl)
theorem dX4_pass_46 : decode cX4_pass 46 = .ok (.getfield 338, 3) := dk_180 1 82 (dk_at dksX4_pass_2 0 rfl rfl)
theorem dX4_pass_49 : decode cX4_pass 49 = .ok (.putfield 83, 3) := dk_181 0 83 (dk_at dksX4_pass_2 3 rfl rfl)
theorem dX4_pass_52 : decode cX4_pass 52 = .ok (.aload_n 0, 1) := dk_42 (dk_at dksX4_pass_2 6 rfl rfl)
theorem dX4_pass_53 : decode cX4_pass 53 = .ok (.getfield 57, 3) := dk_180 0 57 (dk_at dksX4_pass_2 7 rfl rfl)
theorem dX4_pass_56 : decode cX4_pass 56 = .ok (.bipush 8, 2) := dk_16 8 (dk_at dksX4_pass_2 10 rfl rfl)
theorem dX4_pass_58 : decode cX4_pass 58 = .ok (.iload_n 1, 1) := dk_27 (dk_at dksX4_pass_2 12 rfl rfl)
theorem dX4_pass_59 : decode cX4_pass 59 = .ok (.imul, 1) := dk_104 (dk_at dksX4_pass_2 13 rfl rfl)
theorem dX4_pass_60 : decode cX4_pass 60 = .ok (.iload_n 2, 1) := dk_28 (dk_at dksX4_pass_2 14 rfl rfl)
theorem dX4_pass_61 : decode cX4_pass 61 = .ok (.iadd, 1) := dk_96 (dk_at dksX4_pass_2 15 rfl rfl)
theorem dX4_pass_62 : decode cX4_pass 62 = .ok (.aload_n 0, 1) := dk_42 (dk_at dksX4_pass_2 16 rfl rfl)
theorem dX4_pass_63 : decode cX4_pass 63 = .ok (.getfield 331, 3) := dk_180 1 75 (dk_at dksX4_pass_2 17 rfl rfl)
theorem dX4_pass_66 : decode cX4_pass 66 = .ok (.iastore, 1) := dk_79 (dk_at dksX4_pass_2 20 rfl rfl)
theorem dX4_pass_67 : decode cX4_pass 67 = .ok (.iload_n 3, 1) := dk_29 (dk_at dksX4_pass_2 21 rfl rfl)
theorem dX4_pass_68 : decode cX4_pass 68 = .ok (.ifCond .le 18, 3) := dk_158 0 18 (dk_at dksX4_pass_3 0 rfl rfl)
theorem dX4_pass_71 : decode cX4_pass 71 = .ok (.aload_n 0, 1) := dk_42 (dk_at dksX4_pass_3 3 rfl rfl)
theorem dX4_pass_72 : decode cX4_pass 72 = .ok (.getfield 60, 3) := dk_180 0 60 (dk_at dksX4_pass_3 4 rfl rfl)
theorem dX4_pass_75 : decode cX4_pass 75 = .ok (.bipush 8, 2) := dk_16 8 (dk_at dksX4_pass_3 7 rfl rfl)
theorem dX4_pass_77 : decode cX4_pass 77 = .ok (.iload_n 1, 1) := dk_27 (dk_at dksX4_pass_3 9 rfl rfl)
theorem dX4_pass_78 : decode cX4_pass 78 = .ok (.imul, 1) := dk_104 (dk_at dksX4_pass_3 10 rfl rfl)
theorem dX4_pass_79 : decode cX4_pass 79 = .ok (.iload_n 2, 1) := dk_28 (dk_at dksX4_pass_3 11 rfl rfl)
theorem dX4_pass_80 : decode cX4_pass 80 = .ok (.iadd, 1) := dk_96 (dk_at dksX4_pass_3 12 rfl rfl)
theorem dX4_pass_81 : decode cX4_pass 81 = .ok (.aload_n 0, 1) := dk_42 (dk_at dksX4_pass_3 13 rfl rfl)
theorem dX4_pass_82 : decode cX4_pass 82 = .ok (.getfield 331, 3) := dk_180 1 75 (dk_at dksX4_pass_3 14 rfl rfl)
theorem dX4_pass_85 : decode cX4_pass 85 = .ok (.iastore, 1) := dk_79 (dk_at dksX4_pass_3 17 rfl rfl)
theorem dX4_pass_86 : decode cX4_pass 86 = .ok (.aload_n 0, 1) := dk_42 (dk_at dksX4_pass_3 18 rfl rfl)
theorem dX4_pass_87 : decode cX4_pass 87 = .ok (.getfield 73, 3) := dk_180 0 73 (dk_at dksX4_pass_3 19 rfl rfl)
theorem dX4_pass_90 : decode cX4_pass 90 = .ok (.iload_n 2, 1) := dk_28 (dk_at dksX4_pass_3 22 rfl rfl)
theorem dX4_pass_91 : decode cX4_pass 91 = .ok (.dup2, 1) := dk_92 (dk_at dksX4_pass_3 23 rfl rfl)
theorem dX4_pass_92 : decode cX4_pass 92 = .ok (.iaload, 1) := dk_46 (dk_at dksX4_pass_4 0 rfl rfl)
theorem dX4_pass_93 : decode cX4_pass 93 = .ok (.iconst 1, 1) := dk_4 (dk_at dksX4_pass_4 1 rfl rfl)
theorem dX4_pass_94 : decode cX4_pass 94 = .ok (.iadd, 1) := dk_96 (dk_at dksX4_pass_4 2 rfl rfl)
theorem dX4_pass_95 : decode cX4_pass 95 = .ok (.iastore, 1) := dk_79 (dk_at dksX4_pass_4 3 rfl rfl)
theorem dX4_pass_96 : decode cX4_pass 96 = .ok (.aload_n 0, 1) := dk_42 (dk_at dksX4_pass_4 4 rfl rfl)
theorem dX4_pass_97 : decode cX4_pass 97 = .ok (.getfield 45, 3) := dk_180 0 45 (dk_at dksX4_pass_4 5 rfl rfl)
theorem dX4_pass_100 : decode cX4_pass 100 = .ok (.iload_n 1, 1) := dk_27 (dk_at dksX4_pass_4 8 rfl rfl)
theorem dX4_pass_101 : decode cX4_pass 101 = .ok (.iaload, 1) := dk_46 (dk_at dksX4_pass_4 9 rfl rfl)
theorem dX4_pass_102 : decode cX4_pass 102 = .ok (.iconst 3, 1) := dk_6 (dk_at dksX4_pass_4 10 rfl rfl)
theorem dX4_pass_103 : decode cX4_pass 103 = .ok (.if_icmp .ge 59, 3) := dk_162 0 59 (dk_at dksX4_pass_4 11 rfl rfl)
theorem dX4_pass_106 : decode cX4_pass 106 = .ok (.aload_n 0, 1) := dk_42 (dk_at dksX4_pass_4 14 rfl rfl)
theorem dX4_pass_107 : decode cX4_pass 107 = .ok (.getfield 45, 3) := dk_180 0 45 (dk_at dksX4_pass_4 15 rfl rfl)
theorem dX4_pass_110 : decode cX4_pass 110 = .ok (.iload_n 1, 1) := dk_27 (dk_at dksX4_pass_4 18 rfl rfl)
theorem dX4_pass_111 : decode cX4_pass 111 = .ok (.iaload, 1) := dk_46 (dk_at dksX4_pass_4 19 rfl rfl)
theorem dX4_pass_112 : decode cX4_pass 112 = .ok (.ifCond .ne 9, 3) := dk_154 0 9 (dk_at dksX4_pass_4 20 rfl rfl)
theorem dX4_pass_115 : decode cX4_pass 115 = .ok (.ldc2_w 357, 3) := dk_20 1 101 (dk_at dksX4_pass_5 0 rfl rfl)
theorem dX4_pass_118 : decode cX4_pass 118 = .ok (.goto 22, 3) := dk_167 0 22 (dk_at dksX4_pass_5 3 rfl rfl)
theorem dX4_pass_121 : decode cX4_pass 121 = .ok (.aload_n 0, 1) := dk_42 (dk_at dksX4_pass_5 6 rfl rfl)
theorem dX4_pass_122 : decode cX4_pass 122 = .ok (.getfield 45, 3) := dk_180 0 45 (dk_at dksX4_pass_5 7 rfl rfl)
theorem dX4_pass_125 : decode cX4_pass 125 = .ok (.iload_n 1, 1) := dk_27 (dk_at dksX4_pass_5 10 rfl rfl)
theorem dX4_pass_126 : decode cX4_pass 126 = .ok (.iaload, 1) := dk_46 (dk_at dksX4_pass_5 11 rfl rfl)
theorem dX4_pass_127 : decode cX4_pass 127 = .ok (.iconst 1, 1) := dk_4 (dk_at dksX4_pass_5 12 rfl rfl)
theorem dX4_pass_128 : decode cX4_pass 128 = .ok (.if_icmp .ne 9, 3) := dk_160 0 9 (dk_at dksX4_pass_5 13 rfl rfl)
theorem dX4_pass_131 : decode cX4_pass 131 = .ok (.ldc2_w 359, 3) := dk_20 1 103 (dk_at dksX4_pass_5 16 rfl rfl)
theorem dX4_pass_134 : decode cX4_pass 134 = .ok (.goto 6, 3) := dk_167 0 6 (dk_at dksX4_pass_5 19 rfl rfl)
theorem dX4_pass_137 : decode cX4_pass 137 = .ok (.ldc2_w 198, 3) := dk_20 0 198 (dk_at dksX4_pass_6 0 rfl rfl)
theorem dX4_pass_140 : decode cX4_pass 140 = .ok (.aload_n 0, 1) := dk_42 (dk_at dksX4_pass_6 3 rfl rfl)
theorem dX4_pass_141 : decode cX4_pass 141 = .ok (.getfield 48, 3) := dk_180 0 48 (dk_at dksX4_pass_6 4 rfl rfl)
theorem dX4_pass_144 : decode cX4_pass 144 = .ok (.iload_n 1, 1) := dk_27 (dk_at dksX4_pass_6 7 rfl rfl)
theorem dX4_pass_145 : decode cX4_pass 145 = .ok (.iaload, 1) := dk_46 (dk_at dksX4_pass_6 8 rfl rfl)
theorem dX4_pass_146 : decode cX4_pass 146 = .ok (.bipush 6, 2) := dk_16 6 (dk_at dksX4_pass_6 9 rfl rfl)
theorem dX4_pass_148 : decode cX4_pass 148 = .ok (.if_icmp .ge 9, 3) := dk_162 0 9 (dk_at dksX4_pass_6 11 rfl rfl)
theorem dX4_pass_151 : decode cX4_pass 151 = .ok (.ldc2_w 361, 3) := dk_20 1 105 (dk_at dksX4_pass_6 14 rfl rfl)
theorem dX4_pass_154 : decode cX4_pass 154 = .ok (.goto 4, 3) := dk_167 0 4 (dk_at dksX4_pass_6 17 rfl rfl)
theorem dX4_pass_157 : decode cX4_pass 157 = .ok (.lconst 1, 1) := dk_10 (dk_at dksX4_pass_6 20 rfl rfl)
theorem dX4_pass_158 : decode cX4_pass 158 = .ok (.lmul, 1) := dk_105 (dk_at dksX4_pass_6 21 rfl rfl)
theorem dX4_pass_159 : decode cX4_pass 159 = .ok (.goto 60, 3) := dk_167 0 60 (dk_at dksX4_pass_7 0 rfl rfl)
theorem dX4_pass_162 : decode cX4_pass 162 = .ok (.aload_n 0, 1) := dk_42 (dk_at dksX4_pass_7 3 rfl rfl)
theorem dX4_pass_163 : decode cX4_pass 163 = .ok (.getfield 45, 3) := dk_180 0 45 (dk_at dksX4_pass_7 4 rfl rfl)
theorem dX4_pass_166 : decode cX4_pass 166 = .ok (.iload_n 1, 1) := dk_27 (dk_at dksX4_pass_7 7 rfl rfl)
theorem dX4_pass_167 : decode cX4_pass 167 = .ok (.iaload, 1) := dk_46 (dk_at dksX4_pass_7 8 rfl rfl)
theorem dX4_pass_168 : decode cX4_pass 168 = .ok (.iconst 3, 1) := dk_6 (dk_at dksX4_pass_7 9 rfl rfl)
theorem dX4_pass_169 : decode cX4_pass 169 = .ok (.if_icmp .ne 7, 3) := dk_160 0 7 (dk_at dksX4_pass_7 10 rfl rfl)
theorem dX4_pass_172 : decode cX4_pass 172 = .ok (.lconst 1, 1) := dk_10 (dk_at dksX4_pass_7 13 rfl rfl)
theorem dX4_pass_173 : decode cX4_pass 173 = .ok (.goto 46, 3) := dk_167 0 46 (dk_at dksX4_pass_7 14 rfl rfl)
theorem dX4_pass_176 : decode cX4_pass 176 = .ok (.aload_n 0, 1) := dk_42 (dk_at dksX4_pass_7 17 rfl rfl)
theorem dX4_pass_177 : decode cX4_pass 177 = .ok (.getfield 45, 3) := dk_180 0 45 (dk_at dksX4_pass_7 18 rfl rfl)
theorem dX4_pass_180 : decode cX4_pass 180 = .ok (.iload_n 1, 1) := dk_27 (dk_at dksX4_pass_7 21 rfl rfl)
theorem dX4_pass_181 : decode cX4_pass 181 = .ok (.iaload, 1) := dk_46 (dk_at dksX4_pass_7 22 rfl rfl)
theorem dX4_pass_182 : decode cX4_pass 182 = .ok (.iconst 4, 1) := dk_7 (dk_at dksX4_pass_7 23 rfl rfl)
theorem dX4_pass_183 : decode cX4_pass 183 = .ok (.if_icmp .ne 13, 3) := dk_160 0 13 (dk_at dksX4_pass_8 0 rfl rfl)
theorem dX4_pass_186 : decode cX4_pass 186 = .ok (.aload_n 0, 1) := dk_42 (dk_at dksX4_pass_8 3 rfl rfl)
theorem dX4_pass_187 : decode cX4_pass 187 = .ok (.getfield 51, 3) := dk_180 0 51 (dk_at dksX4_pass_8 4 rfl rfl)
theorem dX4_pass_190 : decode cX4_pass 190 = .ok (.iload_n 1, 1) := dk_27 (dk_at dksX4_pass_8 7 rfl rfl)
theorem dX4_pass_191 : decode cX4_pass 191 = .ok (.iaload, 1) := dk_46 (dk_at dksX4_pass_8 8 rfl rfl)
theorem dX4_pass_192 : decode cX4_pass 192 = .ok (.i2l, 1) := dk_133 (dk_at dksX4_pass_8 9 rfl rfl)
theorem dX4_pass_193 : decode cX4_pass 193 = .ok (.goto 26, 3) := dk_167 0 26 (dk_at dksX4_pass_8 10 rfl rfl)
theorem dX4_pass_196 : decode cX4_pass 196 = .ok (.aload_n 0, 1) := dk_42 (dk_at dksX4_pass_8 13 rfl rfl)
theorem dX4_pass_197 : decode cX4_pass 197 = .ok (.getfield 45, 3) := dk_180 0 45 (dk_at dksX4_pass_8 14 rfl rfl)
theorem dX4_pass_200 : decode cX4_pass 200 = .ok (.iload_n 1, 1) := dk_27 (dk_at dksX4_pass_8 17 rfl rfl)
theorem dX4_pass_201 : decode cX4_pass 201 = .ok (.iaload, 1) := dk_46 (dk_at dksX4_pass_8 18 rfl rfl)
theorem dX4_pass_202 : decode cX4_pass 202 = .ok (.iconst 5, 1) := dk_8 (dk_at dksX4_pass_8 19 rfl rfl)
theorem dX4_pass_203 : decode cX4_pass 203 = .ok (.if_icmp .ne 15, 3) := dk_160 0 15 (dk_at dksX4_pass_8 20 rfl rfl)
theorem dX4_pass_206 : decode cX4_pass 206 = .ok (.aload_n 0, 1) := dk_42 (dk_at dksX4_pass_8 23 rfl rfl)
theorem dX4_pass_207 : decode cX4_pass 207 = .ok (.getfield 51, 3) := dk_180 0 51 (dk_at dksX4_pass_9 0 rfl rfl)
theorem dX4_pass_210 : decode cX4_pass 210 = .ok (.iload_n 1, 1) := dk_27 (dk_at dksX4_pass_9 3 rfl rfl)
theorem dX4_pass_211 : decode cX4_pass 211 = .ok (.iaload, 1) := dk_46 (dk_at dksX4_pass_9 4 rfl rfl)
theorem dX4_pass_212 : decode cX4_pass 212 = .ok (.iconst 4, 1) := dk_7 (dk_at dksX4_pass_9 5 rfl rfl)
theorem dX4_pass_213 : decode cX4_pass 213 = .ok (.idiv, 1) := dk_108 (dk_at dksX4_pass_9 6 rfl rfl)
theorem dX4_pass_214 : decode cX4_pass 214 = .ok (.i2l, 1) := dk_133 (dk_at dksX4_pass_9 7 rfl rfl)
theorem dX4_pass_215 : decode cX4_pass 215 = .ok (.goto 4, 3) := dk_167 0 4 (dk_at dksX4_pass_9 8 rfl rfl)
theorem dX4_pass_218 : decode cX4_pass 218 = .ok (.lconst 0, 1) := dk_9 (dk_at dksX4_pass_9 11 rfl rfl)
theorem dX4_pass_219 : decode cX4_pass 219 = .ok (.lstore 4, 2) := dk_55 4 (dk_at dksX4_pass_9 12 rfl rfl)
theorem dX4_pass_221 : decode cX4_pass 221 = .ok (.aload_n 0, 1) := dk_42 (dk_at dksX4_pass_9 14 rfl rfl)
theorem dX4_pass_222 : decode cX4_pass 222 = .ok (.getfield 66, 3) := dk_180 0 66 (dk_at dksX4_pass_9 15 rfl rfl)
theorem dX4_pass_225 : decode cX4_pass 225 = .ok (.aload_n 0, 1) := dk_42 (dk_at dksX4_pass_9 18 rfl rfl)
theorem dX4_pass_226 : decode cX4_pass 226 = .ok (.getfield 70, 3) := dk_180 0 70 (dk_at dksX4_pass_9 19 rfl rfl)
theorem dX4_pass_229 : decode cX4_pass 229 = .ok (.iload_n 2, 1) := dk_28 (dk_at dksX4_pass_9 22 rfl rfl)
theorem dX4_pass_230 : decode cX4_pass 230 = .ok (.iaload, 1) := dk_46 (dk_at dksX4_pass_9 23 rfl rfl)
theorem dX4_pass_231 : decode cX4_pass 231 = .ok (.dup2, 1) := dk_92 (dk_at dksX4_pass_10 0 rfl rfl)
theorem dX4_pass_232 : decode cX4_pass 232 = .ok (.laload, 1) := dk_47 (dk_at dksX4_pass_10 1 rfl rfl)
theorem dX4_pass_233 : decode cX4_pass 233 = .ok (.aload_n 0, 1) := dk_42 (dk_at dksX4_pass_10 2 rfl rfl)
theorem dX4_pass_234 : decode cX4_pass 234 = .ok (.getfield 363, 3) := dk_180 1 107 (dk_at dksX4_pass_10 3 rfl rfl)
theorem dX4_pass_237 : decode cX4_pass 237 = .ok (.ifCond .le 12, 3) := dk_158 0 12 (dk_at dksX4_pass_10 6 rfl rfl)
theorem dX4_pass_240 : decode cX4_pass 240 = .ok (.ldc2_w 361, 3) := dk_20 1 105 (dk_at dksX4_pass_10 9 rfl rfl)
theorem dX4_pass_243 : decode cX4_pass 243 = .ok (.lload 4, 2) := dk_22 4 (dk_at dksX4_pass_10 12 rfl rfl)
theorem dX4_pass_245 : decode cX4_pass 245 = .ok (.lmul, 1) := dk_105 (dk_at dksX4_pass_10 14 rfl rfl)
theorem dX4_pass_246 : decode cX4_pass 246 = .ok (.goto 5, 3) := dk_167 0 5 (dk_at dksX4_pass_10 15 rfl rfl)
theorem dX4_pass_249 : decode cX4_pass 249 = .ok (.lload 4, 2) := dk_22 4 (dk_at dksX4_pass_10 18 rfl rfl)
theorem dX4_pass_251 : decode cX4_pass 251 = .ok (.ladd, 1) := dk_97 (dk_at dksX4_pass_10 20 rfl rfl)
theorem dX4_pass_252 : decode cX4_pass 252 = .ok (.lastore, 1) := dk_80 (dk_at dksX4_pass_10 21 rfl rfl)
theorem dX4_pass_253 : decode cX4_pass 253 = .ok (.aload_n 0, 1) := dk_42 (dk_at dksX4_pass_10 22 rfl rfl)
theorem dX4_pass_254 : decode cX4_pass 254 = .ok (.getfield 113, 3) := dk_180 0 113 (dk_at dksX4_pass_11 0 rfl rfl)
theorem dX4_pass_257 : decode cX4_pass 257 = .ok (.iload_n 2, 1) := dk_28 (dk_at dksX4_pass_11 3 rfl rfl)
theorem dX4_pass_258 : decode cX4_pass 258 = .ok (.iaload, 1) := dk_46 (dk_at dksX4_pass_11 4 rfl rfl)
theorem dX4_pass_259 : decode cX4_pass 259 = .ok (.ifCond .lt 22, 3) := dk_155 0 22 (dk_at dksX4_pass_11 5 rfl rfl)
theorem dX4_pass_262 : decode cX4_pass 262 = .ok (.aload_n 0, 1) := dk_42 (dk_at dksX4_pass_11 8 rfl rfl)
theorem dX4_pass_263 : decode cX4_pass 263 = .ok (.getfield 98, 3) := dk_180 0 98 (dk_at dksX4_pass_11 9 rfl rfl)
theorem dX4_pass_266 : decode cX4_pass 266 = .ok (.aload_n 0, 1) := dk_42 (dk_at dksX4_pass_11 12 rfl rfl)
theorem dX4_pass_267 : decode cX4_pass 267 = .ok (.getfield 113, 3) := dk_180 0 113 (dk_at dksX4_pass_11 13 rfl rfl)
theorem dX4_pass_270 : decode cX4_pass 270 = .ok (.iload_n 2, 1) := dk_28 (dk_at dksX4_pass_11 16 rfl rfl)
theorem dX4_pass_271 : decode cX4_pass 271 = .ok (.iaload, 1) := dk_46 (dk_at dksX4_pass_11 17 rfl rfl)
theorem dX4_pass_272 : decode cX4_pass 272 = .ok (.dup2, 1) := dk_92 (dk_at dksX4_pass_11 18 rfl rfl)
theorem dX4_pass_273 : decode cX4_pass 273 = .ok (.laload, 1) := dk_47 (dk_at dksX4_pass_11 19 rfl rfl)
theorem dX4_pass_274 : decode cX4_pass 274 = .ok (.iload_n 3, 1) := dk_29 (dk_at dksX4_pass_11 20 rfl rfl)
theorem dX4_pass_275 : decode cX4_pass 275 = .ok (.i2l, 1) := dk_133 (dk_at dksX4_pass_11 21 rfl rfl)
theorem dX4_pass_276 : decode cX4_pass 276 = .ok (.ladd, 1) := dk_97 (dk_at dksX4_pass_11 22 rfl rfl)
theorem dX4_pass_277 : decode cX4_pass 277 = .ok (.lastore, 1) := dk_80 (dk_at dksX4_pass_11 23 rfl rfl)
theorem dX4_pass_278 : decode cX4_pass 278 = .ok (.goto 15, 3) := dk_167 0 15 (dk_at dksX4_pass_12 0 rfl rfl)
theorem dX4_pass_281 : decode cX4_pass 281 = .ok (.iload_n 3, 1) := dk_29 (dk_at dksX4_pass_12 3 rfl rfl)
theorem dX4_pass_282 : decode cX4_pass 282 = .ok (.ifCond .le 11, 3) := dk_158 0 11 (dk_at dksX4_pass_12 4 rfl rfl)
theorem dX4_pass_285 : decode cX4_pass 285 = .ok (.aload_n 0, 1) := dk_42 (dk_at dksX4_pass_12 7 rfl rfl)
theorem dX4_pass_286 : decode cX4_pass 286 = .ok (.iconst 0, 1) := dk_3 (dk_at dksX4_pass_12 8 rfl rfl)
theorem dX4_pass_287 : decode cX4_pass 287 = .ok (.iload_n 1, 1) := dk_27 (dk_at dksX4_pass_12 9 rfl rfl)
theorem dX4_pass_288 : decode cX4_pass 288 = .ok (.iload_n 3, 1) := dk_29 (dk_at dksX4_pass_12 10 rfl rfl)
theorem dX4_pass_289 : decode cX4_pass 289 = .ok (.i2l, 1) := dk_133 (dk_at dksX4_pass_12 11 rfl rfl)
theorem dX4_pass_290 : decode cX4_pass 290 = .ok (.invokevirtual 366, 3) := dk_182 1 110 (dk_at dksX4_pass_12 12 rfl rfl)
theorem dX4_pass_293 : decode cX4_pass 293 = .ok (.iload_n 3, 1) := dk_29 (dk_at dksX4_pass_12 15 rfl rfl)
theorem dX4_pass_294 : decode cX4_pass 294 = .ok (.ireturn, 1) := dk_172 (dk_at dksX4_pass_12 16 rfl rfl)
abbrev cX4_isPass : ByteArray := prog_33_method_38_code
def yX4_isPass : MethodName := ⟨RX4, "isPass", "(II)Z"⟩
def dkwX4_isPass_1 : List UInt8 := [4, 167, 0, 4, 3, 172]
abbrev dktX4_isPass_1 : List UInt8 := dkwX4_isPass_1 ++ []
def dkwX4_isPass_0 : List UInt8 := [27, 155, 0, 27, 27, 42, 180, 1, 68, 162, 0, 19, 28, 155, 0, 15, 28, 42, 180, 1, 65, 162, 0, 7]
abbrev dktX4_isPass_0 : List UInt8 := dkwX4_isPass_0 ++ dktX4_isPass_1
theorem dksX4_isPass_0 : cX4_isPass.data.toList.drop 0 = dktX4_isPass_0 := by decide +kernel
theorem dksX4_isPass_1 : cX4_isPass.data.toList.drop 24 = dktX4_isPass_1 := dk_seg dksX4_isPass_0 24 rfl rfl
theorem dX4_isPass_0 : decode cX4_isPass 0 = .ok (.iload_n 1, 1) := dk_27 (dk_at dksX4_isPass_0 0 rfl rfl)
theorem dX4_isPass_1 : decode cX4_isPass 1 = .ok (.ifCond .lt 27, 3) := dk_155 0 27 (dk_at dksX4_isPass_0 1 rfl rfl)
theorem dX4_isPass_4 : decode cX4_isPass 4 = .ok (.iload_n 1, 1) := dk_27 (dk_at dksX4_isPass_0 4 rfl rfl)
theorem dX4_isPass_5 : decode cX4_isPass 5 = .ok (.aload_n 0, 1) := dk_42 (dk_at dksX4_isPass_0 5 rfl rfl)
theorem dX4_isPass_6 : decode cX4_isPass 6 = .ok (.getfield 324, 3) := dk_180 1 68 (dk_at dksX4_isPass_0 6 rfl rfl)
theorem dX4_isPass_9 : decode cX4_isPass 9 = .ok (.if_icmp .ge 19, 3) := dk_162 0 19 (dk_at dksX4_isPass_0 9 rfl rfl)
theorem dX4_isPass_12 : decode cX4_isPass 12 = .ok (.iload_n 2, 1) := dk_28 (dk_at dksX4_isPass_0 12 rfl rfl)
theorem dX4_isPass_13 : decode cX4_isPass 13 = .ok (.ifCond .lt 15, 3) := dk_155 0 15 (dk_at dksX4_isPass_0 13 rfl rfl)
theorem dX4_isPass_16 : decode cX4_isPass 16 = .ok (.iload_n 2, 1) := dk_28 (dk_at dksX4_isPass_0 16 rfl rfl)
theorem dX4_isPass_17 : decode cX4_isPass 17 = .ok (.aload_n 0, 1) := dk_42 (dk_at dksX4_isPass_0 17 rfl rfl)
theorem dX4_isPass_18 : decode cX4_isPass 18 = .ok (.getfield 321, 3) := dk_180 1 65 (dk_at dksX4_isPass_0 18 rfl rfl)
theorem dX4_isPass_21 : decode cX4_isPass 21 = .ok (.if_icmp .ge 7, 3) := dk_162 0 7 (dk_at dksX4_isPass_0 21 rfl rfl)
theorem dX4_isPass_24 : decode cX4_isPass 24 = .ok (.iconst 1, 1) := dk_4 (dk_at dksX4_isPass_1 0 rfl rfl)
theorem dX4_isPass_25 : decode cX4_isPass 25 = .ok (.goto 4, 3) := dk_167 0 4 (dk_at dksX4_isPass_1 1 rfl rfl)
theorem dX4_isPass_28 : decode cX4_isPass 28 = .ok (.iconst 0, 1) := dk_3 (dk_at dksX4_isPass_1 4 rfl rfl)
theorem dX4_isPass_29 : decode cX4_isPass 29 = .ok (.ireturn, 1) := dk_172 (dk_at dksX4_isPass_1 5 rfl rfl)
abbrev cX4_toll : ByteArray := prog_33_method_36_code
def yX4_toll : MethodName := ⟨RX4, "toll", "(III)I"⟩
def dkwX4_toll_7 : List UInt8 := [21, 8, 28, 29, 21, 4, 21, 5, 21, 6, 182, 1, 88, 172, 132, 7, 1, 167, 255, 101, 3, 172]
abbrev dktX4_toll_7 : List UInt8 := dkwX4_toll_7 ++ []
def dkwX4_toll_6 : List UInt8 := [167, 0, 38, 42, 21, 7, 181, 1, 82, 42, 180, 0, 24, 21, 8, 46, 154, 0, 7, 3, 167, 0, 17, 42]
abbrev dktX4_toll_6 : List UInt8 := dkwX4_toll_6 ++ dktX4_toll_7
def dkwX4_toll_5 : List UInt8 := [21, 8, 46, 16, 6, 160, 0, 20, 21, 6, 156, 0, 8, 21, 7, 167, 0, 5, 21, 6, 54, 6]
abbrev dktX4_toll_5 : List UInt8 := dkwX4_toll_5 ++ dktX4_toll_6
def dkwX4_toll_4 : List UInt8 := [160, 0, 20, 21, 5, 156, 0, 8, 21, 7, 167, 0, 5, 21, 5, 54, 5, 167, 0, 67, 42, 180, 0, 24]
abbrev dktX4_toll_4 : List UInt8 := dkwX4_toll_4 ++ dktX4_toll_5
def dkwX4_toll_3 : List UInt8 := [180, 0, 80, 21, 4, 21, 8, 79, 132, 4, 1, 167, 0, 95, 42, 180, 0, 24, 21, 8, 46, 8]
abbrev dktX4_toll_3 : List UInt8 := dkwX4_toll_3 ++ dktX4_toll_4
def dkwX4_toll_2 : List UInt8 := [29, 182, 1, 85, 154, 0, 6, 167, 0, 121, 42, 180, 0, 24, 21, 8, 46, 7, 160, 0, 18, 42]
abbrev dktX4_toll_2 : List UInt8 := dkwX4_toll_2 ++ dktX4_toll_3
def dkwX4_toll_1 : List UInt8 := [21, 7, 42, 180, 0, 17, 27, 46, 162, 0, 150, 16, 40, 27, 104, 21, 7, 96, 54, 8, 42, 21, 8, 28]
abbrev dktX4_toll_1 : List UInt8 := dkwX4_toll_1 ++ dktX4_toll_2
def dkwX4_toll_0 : List UInt8 := [42, 2, 181, 1, 82, 27, 156, 0, 5, 3, 172, 3, 54, 4, 2, 54, 5, 2, 54, 6, 3, 54, 7]
abbrev dktX4_toll_0 : List UInt8 := dkwX4_toll_0 ++ dktX4_toll_1
theorem dksX4_toll_0 : cX4_toll.data.toList.drop 0 = dktX4_toll_0 := by decide +kernel
theorem dksX4_toll_1 : cX4_toll.data.toList.drop 23 = dktX4_toll_1 := dk_seg dksX4_toll_0 23 rfl rfl
theorem dksX4_toll_2 : cX4_toll.data.toList.drop 47 = dktX4_toll_2 := dk_seg dksX4_toll_1 24 rfl rfl
theorem dksX4_toll_3 : cX4_toll.data.toList.drop 69 = dktX4_toll_3 := dk_seg dksX4_toll_2 22 rfl rfl
theorem dksX4_toll_4 : cX4_toll.data.toList.drop 91 = dktX4_toll_4 := dk_seg dksX4_toll_3 22 rfl rfl
theorem dksX4_toll_5 : cX4_toll.data.toList.drop 115 = dktX4_toll_5 := dk_seg dksX4_toll_4 24 rfl rfl
theorem dksX4_toll_6 : cX4_toll.data.toList.drop 137 = dktX4_toll_6 := dk_seg dksX4_toll_5 22 rfl rfl
theorem dksX4_toll_7 : cX4_toll.data.toList.drop 161 = dktX4_toll_7 := dk_seg dksX4_toll_6 24 rfl rfl
theorem dX4_toll_0 : decode cX4_toll 0 = .ok (.aload_n 0, 1) := dk_42 (dk_at dksX4_toll_0 0 rfl rfl)
theorem dX4_toll_1 : decode cX4_toll 1 = .ok (.iconst (-1), 1) := dk_2 (dk_at dksX4_toll_0 1 rfl rfl)
theorem dX4_toll_2 : decode cX4_toll 2 = .ok (.putfield 338, 3) := dk_181 1 82 (dk_at dksX4_toll_0 2 rfl rfl)
theorem dX4_toll_5 : decode cX4_toll 5 = .ok (.iload_n 1, 1) := dk_27 (dk_at dksX4_toll_0 5 rfl rfl)
theorem dX4_toll_6 : decode cX4_toll 6 = .ok (.ifCond .ge 5, 3) := dk_156 0 5 (dk_at dksX4_toll_0 6 rfl rfl)
theorem dX4_toll_9 : decode cX4_toll 9 = .ok (.iconst 0, 1) := dk_3 (dk_at dksX4_toll_0 9 rfl rfl)
theorem dX4_toll_10 : decode cX4_toll 10 = .ok (.ireturn, 1) := dk_172 (dk_at dksX4_toll_0 10 rfl rfl)
theorem dX4_toll_11 : decode cX4_toll 11 = .ok (.iconst 0, 1) := dk_3 (dk_at dksX4_toll_0 11 rfl rfl)
theorem dX4_toll_12 : decode cX4_toll 12 = .ok (.istore 4, 2) := dk_54 4 (dk_at dksX4_toll_0 12 rfl rfl)
theorem dX4_toll_14 : decode cX4_toll 14 = .ok (.iconst (-1), 1) := dk_2 (dk_at dksX4_toll_0 14 rfl rfl)
theorem dX4_toll_15 : decode cX4_toll 15 = .ok (.istore 5, 2) := dk_54 5 (dk_at dksX4_toll_0 15 rfl rfl)
theorem dX4_toll_17 : decode cX4_toll 17 = .ok (.iconst (-1), 1) := dk_2 (dk_at dksX4_toll_0 17 rfl rfl)
theorem dX4_toll_18 : decode cX4_toll 18 = .ok (.istore 6, 2) := dk_54 6 (dk_at dksX4_toll_0 18 rfl rfl)
theorem dX4_toll_20 : decode cX4_toll 20 = .ok (.iconst 0, 1) := dk_3 (dk_at dksX4_toll_0 20 rfl rfl)
theorem dX4_toll_21 : decode cX4_toll 21 = .ok (.istore 7, 2) := dk_54 7 (dk_at dksX4_toll_0 21 rfl rfl)
theorem dX4_toll_23 : decode cX4_toll 23 = .ok (.iload 7, 2) := dk_21 7 (dk_at dksX4_toll_1 0 rfl rfl)
theorem dX4_toll_25 : decode cX4_toll 25 = .ok (.aload_n 0, 1) := dk_42 (dk_at dksX4_toll_1 2 rfl rfl)
theorem dX4_toll_26 : decode cX4_toll 26 = .ok (.getfield 17, 3) := dk_180 0 17 (dk_at dksX4_toll_1 3 rfl rfl)
theorem dX4_toll_29 : decode cX4_toll 29 = .ok (.iload_n 1, 1) := dk_27 (dk_at dksX4_toll_1 6 rfl rfl)
theorem dX4_toll_30 : decode cX4_toll 30 = .ok (.iaload, 1) := dk_46 (dk_at dksX4_toll_1 7 rfl rfl)
theorem dX4_toll_31 : decode cX4_toll 31 = .ok (.if_icmp .ge 150, 3) := dk_162 0 150 (dk_at dksX4_toll_1 8 rfl rfl)
theorem dX4_toll_34 : decode cX4_toll 34 = .ok (.bipush 40, 2) := dk_16 40 (dk_at dksX4_toll_1 11 rfl rfl)
theorem dX4_toll_36 : decode cX4_toll 36 = .ok (.iload_n 1, 1) := dk_27 (dk_at dksX4_toll_1 13 rfl rfl)
theorem dX4_toll_37 : decode cX4_toll 37 = .ok (.imul, 1) := dk_104 (dk_at dksX4_toll_1 14 rfl rfl)
theorem dX4_toll_38 : decode cX4_toll 38 = .ok (.iload 7, 2) := dk_21 7 (dk_at dksX4_toll_1 15 rfl rfl)
theorem dX4_toll_40 : decode cX4_toll 40 = .ok (.iadd, 1) := dk_96 (dk_at dksX4_toll_1 17 rfl rfl)
theorem dX4_toll_41 : decode cX4_toll 41 = .ok (.istore 8, 2) := dk_54 8 (dk_at dksX4_toll_1 18 rfl rfl)
theorem dX4_toll_43 : decode cX4_toll 43 = .ok (.aload_n 0, 1) := dk_42 (dk_at dksX4_toll_1 20 rfl rfl)
theorem dX4_toll_44 : decode cX4_toll 44 = .ok (.iload 8, 2) := dk_21 8 (dk_at dksX4_toll_1 21 rfl rfl)
theorem dX4_toll_46 : decode cX4_toll 46 = .ok (.iload_n 2, 1) := dk_28 (dk_at dksX4_toll_1 23 rfl rfl)
theorem dX4_toll_47 : decode cX4_toll 47 = .ok (.iload_n 3, 1) := dk_29 (dk_at dksX4_toll_2 0 rfl rfl)
theorem dX4_toll_48 : decode cX4_toll 48 = .ok (.invokevirtual 341, 3) := dk_182 1 85 (dk_at dksX4_toll_2 1 rfl rfl)
theorem dX4_toll_51 : decode cX4_toll 51 = .ok (.ifCond .ne 6, 3) := dk_154 0 6 (dk_at dksX4_toll_2 4 rfl rfl)
theorem dX4_toll_54 : decode cX4_toll 54 = .ok (.goto 121, 3) := dk_167 0 121 (dk_at dksX4_toll_2 7 rfl rfl)
theorem dX4_toll_57 : decode cX4_toll 57 = .ok (.aload_n 0, 1) := dk_42 (dk_at dksX4_toll_2 10 rfl rfl)
theorem dX4_toll_58 : decode cX4_toll 58 = .ok (.getfield 24, 3) := dk_180 0 24 (dk_at dksX4_toll_2 11 rfl rfl)
theorem dX4_toll_61 : decode cX4_toll 61 = .ok (.iload 8, 2) := dk_21 8 (dk_at dksX4_toll_2 14 rfl rfl)
theorem dX4_toll_63 : decode cX4_toll 63 = .ok (.iaload, 1) := dk_46 (dk_at dksX4_toll_2 16 rfl rfl)
theorem dX4_toll_64 : decode cX4_toll 64 = .ok (.iconst 4, 1) := dk_7 (dk_at dksX4_toll_2 17 rfl rfl)
theorem dX4_toll_65 : decode cX4_toll 65 = .ok (.if_icmp .ne 18, 3) := dk_160 0 18 (dk_at dksX4_toll_2 18 rfl rfl)
theorem dX4_toll_68 : decode cX4_toll 68 = .ok (.aload_n 0, 1) := dk_42 (dk_at dksX4_toll_2 21 rfl rfl)
theorem dX4_toll_69 : decode cX4_toll 69 = .ok (.getfield 80, 3) := dk_180 0 80 (dk_at dksX4_toll_3 0 rfl rfl)
theorem dX4_toll_72 : decode cX4_toll 72 = .ok (.iload 4, 2) := dk_21 4 (dk_at dksX4_toll_3 3 rfl rfl)
theorem dX4_toll_74 : decode cX4_toll 74 = .ok (.iload 8, 2) := dk_21 8 (dk_at dksX4_toll_3 5 rfl rfl)
theorem dX4_toll_76 : decode cX4_toll 76 = .ok (.iastore, 1) := dk_79 (dk_at dksX4_toll_3 7 rfl rfl)
theorem dX4_toll_77 : decode cX4_toll 77 = .ok (.iinc 4 1, 3) := dk_132 4 1 (dk_at dksX4_toll_3 8 rfl rfl)
theorem dX4_toll_80 : decode cX4_toll 80 = .ok (.goto 95, 3) := dk_167 0 95 (dk_at dksX4_toll_3 11 rfl rfl)
theorem dX4_toll_83 : decode cX4_toll 83 = .ok (.aload_n 0, 1) := dk_42 (dk_at dksX4_toll_3 14 rfl rfl)
theorem dX4_toll_84 : decode cX4_toll 84 = .ok (.getfield 24, 3) := dk_180 0 24 (dk_at dksX4_toll_3 15 rfl rfl)
theorem dX4_toll_87 : decode cX4_toll 87 = .ok (.iload 8, 2) := dk_21 8 (dk_at dksX4_toll_3 18 rfl rfl)
theorem dX4_toll_89 : decode cX4_toll 89 = .ok (.iaload, 1) := dk_46 (dk_at dksX4_toll_3 20 rfl rfl)
theorem dX4_toll_90 : decode cX4_toll 90 = .ok (.iconst 5, 1) := dk_8 (dk_at dksX4_toll_3 21 rfl rfl)
theorem dX4_toll_91 : decode cX4_toll 91 = .ok (.if_icmp .ne 20, 3) := dk_160 0 20 (dk_at dksX4_toll_4 0 rfl rfl)
theorem dX4_toll_94 : decode cX4_toll 94 = .ok (.iload 5, 2) := dk_21 5 (dk_at dksX4_toll_4 3 rfl rfl)
theorem dX4_toll_96 : decode cX4_toll 96 = .ok (.ifCond .ge 8, 3) := dk_156 0 8 (dk_at dksX4_toll_4 5 rfl rfl)
theorem dX4_toll_99 : decode cX4_toll 99 = .ok (.iload 7, 2) := dk_21 7 (dk_at dksX4_toll_4 8 rfl rfl)
theorem dX4_toll_101 : decode cX4_toll 101 = .ok (.goto 5, 3) := dk_167 0 5 (dk_at dksX4_toll_4 10 rfl rfl)
theorem dX4_toll_104 : decode cX4_toll 104 = .ok (.iload 5, 2) := dk_21 5 (dk_at dksX4_toll_4 13 rfl rfl)
theorem dX4_toll_106 : decode cX4_toll 106 = .ok (.istore 5, 2) := dk_54 5 (dk_at dksX4_toll_4 15 rfl rfl)
theorem dX4_toll_108 : decode cX4_toll 108 = .ok (.goto 67, 3) := dk_167 0 67 (dk_at dksX4_toll_4 17 rfl rfl)
theorem dX4_toll_111 : decode cX4_toll 111 = .ok (.aload_n 0, 1) := dk_42 (dk_at dksX4_toll_4 20 rfl rfl)
theorem dX4_toll_112 : decode cX4_toll 112 = .ok (.getfield 24, 3) := dk_180 0 24 (dk_at dksX4_toll_4 21 rfl rfl)
theorem dX4_toll_115 : decode cX4_toll 115 = .ok (.iload 8, 2) := dk_21 8 (dk_at dksX4_toll_5 0 rfl rfl)
theorem dX4_toll_117 : decode cX4_toll 117 = .ok (.iaload, 1) := dk_46 (dk_at dksX4_toll_5 2 rfl rfl)
theorem dX4_toll_118 : decode cX4_toll 118 = .ok (.bipush 6, 2) := dk_16 6 (dk_at dksX4_toll_5 3 rfl rfl)
theorem dX4_toll_120 : decode cX4_toll 120 = .ok (.if_icmp .ne 20, 3) := dk_160 0 20 (dk_at dksX4_toll_5 5 rfl rfl)
theorem dX4_toll_123 : decode cX4_toll 123 = .ok (.iload 6, 2) := dk_21 6 (dk_at dksX4_toll_5 8 rfl rfl)
theorem dX4_toll_125 : decode cX4_toll 125 = .ok (.ifCond .ge 8, 3) := dk_156 0 8 (dk_at dksX4_toll_5 10 rfl rfl)
theorem dX4_toll_128 : decode cX4_toll 128 = .ok (.iload 7, 2) := dk_21 7 (dk_at dksX4_toll_5 13 rfl rfl)
theorem dX4_toll_130 : decode cX4_toll 130 = .ok (.goto 5, 3) := dk_167 0 5 (dk_at dksX4_toll_5 15 rfl rfl)
theorem dX4_toll_133 : decode cX4_toll 133 = .ok (.iload 6, 2) := dk_21 6 (dk_at dksX4_toll_5 18 rfl rfl)
theorem dX4_toll_135 : decode cX4_toll 135 = .ok (.istore 6, 2) := dk_54 6 (dk_at dksX4_toll_5 20 rfl rfl)
theorem dX4_toll_137 : decode cX4_toll 137 = .ok (.goto 38, 3) := dk_167 0 38 (dk_at dksX4_toll_6 0 rfl rfl)
theorem dX4_toll_140 : decode cX4_toll 140 = .ok (.aload_n 0, 1) := dk_42 (dk_at dksX4_toll_6 3 rfl rfl)
theorem dX4_toll_141 : decode cX4_toll 141 = .ok (.iload 7, 2) := dk_21 7 (dk_at dksX4_toll_6 4 rfl rfl)
theorem dX4_toll_143 : decode cX4_toll 143 = .ok (.putfield 338, 3) := dk_181 1 82 (dk_at dksX4_toll_6 6 rfl rfl)
theorem dX4_toll_146 : decode cX4_toll 146 = .ok (.aload_n 0, 1) := dk_42 (dk_at dksX4_toll_6 9 rfl rfl)
theorem dX4_toll_147 : decode cX4_toll 147 = .ok (.getfield 24, 3) := dk_180 0 24 (dk_at dksX4_toll_6 10 rfl rfl)
theorem dX4_toll_150 : decode cX4_toll 150 = .ok (.iload 8, 2) := dk_21 8 (dk_at dksX4_toll_6 13 rfl rfl)
theorem dX4_toll_152 : decode cX4_toll 152 = .ok (.iaload, 1) := dk_46 (dk_at dksX4_toll_6 15 rfl rfl)
theorem dX4_toll_153 : decode cX4_toll 153 = .ok (.ifCond .ne 7, 3) := dk_154 0 7 (dk_at dksX4_toll_6 16 rfl rfl)
theorem dX4_toll_156 : decode cX4_toll 156 = .ok (.iconst 0, 1) := dk_3 (dk_at dksX4_toll_6 19 rfl rfl)
theorem dX4_toll_157 : decode cX4_toll 157 = .ok (.goto 17, 3) := dk_167 0 17 (dk_at dksX4_toll_6 20 rfl rfl)
theorem dX4_toll_160 : decode cX4_toll 160 = .ok (.aload_n 0, 1) := dk_42 (dk_at dksX4_toll_6 23 rfl rfl)
theorem dX4_toll_161 : decode cX4_toll 161 = .ok (.iload 8, 2) := dk_21 8 (dk_at dksX4_toll_7 0 rfl rfl)
theorem dX4_toll_163 : decode cX4_toll 163 = .ok (.iload_n 2, 1) := dk_28 (dk_at dksX4_toll_7 2 rfl rfl)
theorem dX4_toll_164 : decode cX4_toll 164 = .ok (.iload_n 3, 1) := dk_29 (dk_at dksX4_toll_7 3 rfl rfl)
theorem dX4_toll_165 : decode cX4_toll 165 = .ok (.iload 4, 2) := dk_21 4 (dk_at dksX4_toll_7 4 rfl rfl)
theorem dX4_toll_167 : decode cX4_toll 167 = .ok (.iload 5, 2) := dk_21 5 (dk_at dksX4_toll_7 6 rfl rfl)
theorem dX4_toll_169 : decode cX4_toll 169 = .ok (.iload 6, 2) := dk_21 6 (dk_at dksX4_toll_7 8 rfl rfl)
theorem dX4_toll_171 : decode cX4_toll 171 = .ok (.invokevirtual 344, 3) := dk_182 1 88 (dk_at dksX4_toll_7 10 rfl rfl)
theorem dX4_toll_174 : decode cX4_toll 174 = .ok (.ireturn, 1) := dk_172 (dk_at dksX4_toll_7 13 rfl rfl)
theorem dX4_toll_175 : decode cX4_toll 175 = .ok (.iinc 7 1, 3) := dk_132 7 1 (dk_at dksX4_toll_7 14 rfl rfl)
theorem dX4_toll_178 : decode cX4_toll 178 = .ok (.goto (-155), 3) := dk_167 255 101 (dk_at dksX4_toll_7 17 rfl rfl)
theorem dX4_toll_181 : decode cX4_toll 181 = .ok (.iconst 0, 1) := dk_3 (dk_at dksX4_toll_7 20 rfl rfl)
theorem dX4_toll_182 : decode cX4_toll 182 = .ok (.ireturn, 1) := dk_172 (dk_at dksX4_toll_7 21 rfl rfl)
abbrev cX4_holds : ByteArray := prog_33_method_33_code
def yX4_holds : MethodName := ⟨RX4, "holds", "(III)Z"⟩
def dkwX4_holds_8 : List UInt8 := [167, 255, 81, 21, 4, 153, 0, 12, 42, 180, 0, 76, 3, 51, 153, 0, 7, 4, 167, 0, 4, 3, 172]
abbrev dktX4_holds_8 : List UInt8 := dkwX4_holds_8 ++ []
def dkwX4_holds_7 : List UInt8 := [180, 0, 76, 21, 4, 42, 21, 6, 21, 7, 28, 29, 182, 1, 71, 84, 132, 4, 1, 132, 5, 1]
abbrev dktX4_holds_7 : List UInt8 := dkwX4_holds_7 ++ dktX4_holds_8
def dkwX4_holds_6 : List UInt8 := [4, 100, 42, 180, 0, 76, 21, 4, 4, 100, 51, 154, 0, 7, 4, 167, 0, 4, 3, 84, 167, 0, 23, 42]
abbrev dktX4_holds_6 : List UInt8 := dkwX4_holds_6 ++ dktX4_holds_7
def dkwX4_holds_5 : List UInt8 := [153, 0, 7, 4, 167, 0, 4, 3, 84, 167, 0, 58, 21, 6, 5, 160, 0, 32, 42, 180, 0, 76, 21, 4]
abbrev dktX4_holds_5 : List UInt8 := dkwX4_holds_5 ++ dktX4_holds_6
def dkwX4_holds_4 : List UInt8 := [167, 0, 30, 42, 180, 0, 76, 21, 4, 4, 100, 51, 154, 0, 13, 42, 180, 0, 76, 21, 4, 51]
abbrev dktX4_holds_4 : List UInt8 := dkwX4_holds_4 ++ dktX4_holds_5
def dkwX4_holds_3 : List UInt8 := [21, 4, 4, 100, 51, 153, 0, 17, 42, 180, 0, 76, 21, 4, 51, 153, 0, 7, 4, 167, 0, 34, 3]
abbrev dktX4_holds_3 : List UInt8 := dkwX4_holds_3 ++ dktX4_holds_4
def dkwX4_holds_2 : List UInt8 := [4, 160, 0, 80, 132, 4, 255, 42, 180, 0, 76, 21, 4, 4, 100, 21, 6, 154, 0, 33, 42, 180, 0, 76]
abbrev dktX4_holds_2 : List UInt8 := dkwX4_holds_2 ++ dktX4_holds_3
def dkwX4_holds_1 : List UInt8 := [180, 0, 39, 21, 5, 46, 54, 6, 42, 180, 0, 42, 21, 5, 46, 54, 7, 21, 6, 153, 0, 9, 21, 6]
abbrev dktX4_holds_1 : List UInt8 := dkwX4_holds_1 ++ dktX4_holds_2
def dkwX4_holds_0 : List UInt8 := [3, 54, 4, 42, 180, 0, 33, 27, 46, 54, 5, 21, 5, 42, 180, 0, 36, 27, 46, 162, 0, 170, 42]
abbrev dktX4_holds_0 : List UInt8 := dkwX4_holds_0 ++ dktX4_holds_1
theorem dksX4_holds_0 : cX4_holds.data.toList.drop 0 = dktX4_holds_0 := by decide +kernel
theorem dksX4_holds_1 : cX4_holds.data.toList.drop 23 = dktX4_holds_1 := dk_seg dksX4_holds_0 23 rfl rfl
theorem dksX4_holds_2 : cX4_holds.data.toList.drop 47 = dktX4_holds_2 := dk_seg dksX4_holds_1 24 rfl rfl
theorem dksX4_holds_3 : cX4_holds.data.toList.drop 71 = dktX4_holds_3 := dk_seg dksX4_holds_2 24 rfl rfl
theorem dksX4_holds_4 : cX4_holds.data.toList.drop 94 = dktX4_holds_4 := dk_seg dksX4_holds_3 23 rfl rfl
theorem dksX4_holds_5 : cX4_holds.data.toList.drop 116 = dktX4_holds_5 := dk_seg dksX4_holds_4 22 rfl rfl
theorem dksX4_holds_6 : cX4_holds.data.toList.drop 140 = dktX4_holds_6 := dk_seg dksX4_holds_5 24 rfl rfl
theorem dksX4_holds_7 : cX4_holds.data.toList.drop 164 = dktX4_holds_7 := dk_seg dksX4_holds_6 24 rfl rfl
theorem dksX4_holds_8 : cX4_holds.data.toList.drop 186 = dktX4_holds_8 := dk_seg dksX4_holds_7 22 rfl rfl
theorem dX4_holds_0 : decode cX4_holds 0 = .ok (.iconst 0, 1) := dk_3 (dk_at dksX4_holds_0 0 rfl rfl)
theorem dX4_holds_1 : decode cX4_holds 1 = .ok (.istore 4, 2) := dk_54 4 (dk_at dksX4_holds_0 1 rfl rfl)
theorem dX4_holds_3 : decode cX4_holds 3 = .ok (.aload_n 0, 1) := dk_42 (dk_at dksX4_holds_0 3 rfl rfl)
theorem dX4_holds_4 : decode cX4_holds 4 = .ok (.getfield 33, 3) := dk_180 0 33 (dk_at dksX4_holds_0 4 rfl rfl)
theorem dX4_holds_7 : decode cX4_holds 7 = .ok (.iload_n 1, 1) := dk_27 (dk_at dksX4_holds_0 7 rfl rfl)
theorem dX4_holds_8 : decode cX4_holds 8 = .ok (.iaload, 1) := dk_46 (dk_at dksX4_holds_0 8 rfl rfl)
theorem dX4_holds_9 : decode cX4_holds 9 = .ok (.istore 5, 2) := dk_54 5 (dk_at dksX4_holds_0 9 rfl rfl)
theorem dX4_holds_11 : decode cX4_holds 11 = .ok (.iload 5, 2) := dk_21 5 (dk_at dksX4_holds_0 11 rfl rfl)
theorem dX4_holds_13 : decode cX4_holds 13 = .ok (.aload_n 0, 1) := dk_42 (dk_at dksX4_holds_0 13 rfl rfl)
theorem dX4_holds_14 : decode cX4_holds 14 = .ok (.getfield 36, 3) := dk_180 0 36 (dk_at dksX4_holds_0 14 rfl rfl)
theorem dX4_holds_17 : decode cX4_holds 17 = .ok (.iload_n 1, 1) := dk_27 (dk_at dksX4_holds_0 17 rfl rfl)
theorem dX4_holds_18 : decode cX4_holds 18 = .ok (.iaload, 1) := dk_46 (dk_at dksX4_holds_0 18 rfl rfl)
theorem dX4_holds_19 : decode cX4_holds 19 = .ok (.if_icmp .ge 170, 3) := dk_162 0 170 (dk_at dksX4_holds_0 19 rfl rfl)
theorem dX4_holds_22 : decode cX4_holds 22 = .ok (.aload_n 0, 1) := dk_42 (dk_at dksX4_holds_0 22 rfl rfl)
theorem dX4_holds_23 : decode cX4_holds 23 = .ok (.getfield 39, 3) := dk_180 0 39 (dk_at dksX4_holds_1 0 rfl rfl)
theorem dX4_holds_26 : decode cX4_holds 26 = .ok (.iload 5, 2) := dk_21 5 (dk_at dksX4_holds_1 3 rfl rfl)
theorem dX4_holds_28 : decode cX4_holds 28 = .ok (.iaload, 1) := dk_46 (dk_at dksX4_holds_1 5 rfl rfl)
theorem dX4_holds_29 : decode cX4_holds 29 = .ok (.istore 6, 2) := dk_54 6 (dk_at dksX4_holds_1 6 rfl rfl)
theorem dX4_holds_31 : decode cX4_holds 31 = .ok (.aload_n 0, 1) := dk_42 (dk_at dksX4_holds_1 8 rfl rfl)
theorem dX4_holds_32 : decode cX4_holds 32 = .ok (.getfield 42, 3) := dk_180 0 42 (dk_at dksX4_holds_1 9 rfl rfl)
theorem dX4_holds_35 : decode cX4_holds 35 = .ok (.iload 5, 2) := dk_21 5 (dk_at dksX4_holds_1 12 rfl rfl)
theorem dX4_holds_37 : decode cX4_holds 37 = .ok (.iaload, 1) := dk_46 (dk_at dksX4_holds_1 14 rfl rfl)
theorem dX4_holds_38 : decode cX4_holds 38 = .ok (.istore 7, 2) := dk_54 7 (dk_at dksX4_holds_1 15 rfl rfl)
theorem dX4_holds_40 : decode cX4_holds 40 = .ok (.iload 6, 2) := dk_21 6 (dk_at dksX4_holds_1 17 rfl rfl)
theorem dX4_holds_42 : decode cX4_holds 42 = .ok (.ifCond .eq 9, 3) := dk_153 0 9 (dk_at dksX4_holds_1 19 rfl rfl)
theorem dX4_holds_45 : decode cX4_holds 45 = .ok (.iload 6, 2) := dk_21 6 (dk_at dksX4_holds_1 22 rfl rfl)
theorem dX4_holds_47 : decode cX4_holds 47 = .ok (.iconst 1, 1) := dk_4 (dk_at dksX4_holds_2 0 rfl rfl)
theorem dX4_holds_48 : decode cX4_holds 48 = .ok (.if_icmp .ne 80, 3) := dk_160 0 80 (dk_at dksX4_holds_2 1 rfl rfl)
theorem dX4_holds_51 : decode cX4_holds 51 = .ok (.iinc 4 (-1), 3) := dk_132 4 255 (dk_at dksX4_holds_2 4 rfl rfl)
theorem dX4_holds_54 : decode cX4_holds 54 = .ok (.aload_n 0, 1) := dk_42 (dk_at dksX4_holds_2 7 rfl rfl)
theorem dX4_holds_55 : decode cX4_holds 55 = .ok (.getfield 76, 3) := dk_180 0 76 (dk_at dksX4_holds_2 8 rfl rfl)
theorem dX4_holds_58 : decode cX4_holds 58 = .ok (.iload 4, 2) := dk_21 4 (dk_at dksX4_holds_2 11 rfl rfl)
theorem dX4_holds_60 : decode cX4_holds 60 = .ok (.iconst 1, 1) := dk_4 (dk_at dksX4_holds_2 13 rfl rfl)
theorem dX4_holds_61 : decode cX4_holds 61 = .ok (.isub, 1) := dk_100 (dk_at dksX4_holds_2 14 rfl rfl)
theorem dX4_holds_62 : decode cX4_holds 62 = .ok (.iload 6, 2) := dk_21 6 (dk_at dksX4_holds_2 15 rfl rfl)
theorem dX4_holds_64 : decode cX4_holds 64 = .ok (.ifCond .ne 33, 3) := dk_154 0 33 (dk_at dksX4_holds_2 17 rfl rfl)
theorem dX4_holds_67 : decode cX4_holds 67 = .ok (.aload_n 0, 1) := dk_42 (dk_at dksX4_holds_2 20 rfl rfl)
theorem dX4_holds_68 : decode cX4_holds 68 = .ok (.getfield 76, 3) := dk_180 0 76 (dk_at dksX4_holds_2 21 rfl rfl)
theorem dX4_holds_71 : decode cX4_holds 71 = .ok (.iload 4, 2) := dk_21 4 (dk_at dksX4_holds_3 0 rfl rfl)
theorem dX4_holds_73 : decode cX4_holds 73 = .ok (.iconst 1, 1) := dk_4 (dk_at dksX4_holds_3 2 rfl rfl)
theorem dX4_holds_74 : decode cX4_holds 74 = .ok (.isub, 1) := dk_100 (dk_at dksX4_holds_3 3 rfl rfl)
theorem dX4_holds_75 : decode cX4_holds 75 = .ok (.baload, 1) := dk_51 (dk_at dksX4_holds_3 4 rfl rfl)
theorem dX4_holds_76 : decode cX4_holds 76 = .ok (.ifCond .eq 17, 3) := dk_153 0 17 (dk_at dksX4_holds_3 5 rfl rfl)
theorem dX4_holds_79 : decode cX4_holds 79 = .ok (.aload_n 0, 1) := dk_42 (dk_at dksX4_holds_3 8 rfl rfl)
theorem dX4_holds_80 : decode cX4_holds 80 = .ok (.getfield 76, 3) := dk_180 0 76 (dk_at dksX4_holds_3 9 rfl rfl)
theorem dX4_holds_83 : decode cX4_holds 83 = .ok (.iload 4, 2) := dk_21 4 (dk_at dksX4_holds_3 12 rfl rfl)
theorem dX4_holds_85 : decode cX4_holds 85 = .ok (.baload, 1) := dk_51 (dk_at dksX4_holds_3 14 rfl rfl)
theorem dX4_holds_86 : decode cX4_holds 86 = .ok (.ifCond .eq 7, 3) := dk_153 0 7 (dk_at dksX4_holds_3 15 rfl rfl)
theorem dX4_holds_89 : decode cX4_holds 89 = .ok (.iconst 1, 1) := dk_4 (dk_at dksX4_holds_3 18 rfl rfl)
theorem dX4_holds_90 : decode cX4_holds 90 = .ok (.goto 34, 3) := dk_167 0 34 (dk_at dksX4_holds_3 19 rfl rfl)
theorem dX4_holds_93 : decode cX4_holds 93 = .ok (.iconst 0, 1) := dk_3 (dk_at dksX4_holds_3 22 rfl rfl)
theorem dX4_holds_94 : decode cX4_holds 94 = .ok (.goto 30, 3) := dk_167 0 30 (dk_at dksX4_holds_4 0 rfl rfl)
theorem dX4_holds_97 : decode cX4_holds 97 = .ok (.aload_n 0, 1) := dk_42 (dk_at dksX4_holds_4 3 rfl rfl)
theorem dX4_holds_98 : decode cX4_holds 98 = .ok (.getfield 76, 3) := dk_180 0 76 (dk_at dksX4_holds_4 4 rfl rfl)
theorem dX4_holds_101 : decode cX4_holds 101 = .ok (.iload 4, 2) := dk_21 4 (dk_at dksX4_holds_4 7 rfl rfl)
theorem dX4_holds_103 : decode cX4_holds 103 = .ok (.iconst 1, 1) := dk_4 (dk_at dksX4_holds_4 9 rfl rfl)
theorem dX4_holds_104 : decode cX4_holds 104 = .ok (.isub, 1) := dk_100 (dk_at dksX4_holds_4 10 rfl rfl)
theorem dX4_holds_105 : decode cX4_holds 105 = .ok (.baload, 1) := dk_51 (dk_at dksX4_holds_4 11 rfl rfl)
theorem dX4_holds_106 : decode cX4_holds 106 = .ok (.ifCond .ne 13, 3) := dk_154 0 13 (dk_at dksX4_holds_4 12 rfl rfl)
theorem dX4_holds_109 : decode cX4_holds 109 = .ok (.aload_n 0, 1) := dk_42 (dk_at dksX4_holds_4 15 rfl rfl)
theorem dX4_holds_110 : decode cX4_holds 110 = .ok (.getfield 76, 3) := dk_180 0 76 (dk_at dksX4_holds_4 16 rfl rfl)
theorem dX4_holds_113 : decode cX4_holds 113 = .ok (.iload 4, 2) := dk_21 4 (dk_at dksX4_holds_4 19 rfl rfl)
theorem dX4_holds_115 : decode cX4_holds 115 = .ok (.baload, 1) := dk_51 (dk_at dksX4_holds_4 21 rfl rfl)
theorem dX4_holds_116 : decode cX4_holds 116 = .ok (.ifCond .eq 7, 3) := dk_153 0 7 (dk_at dksX4_holds_5 0 rfl rfl)
theorem dX4_holds_119 : decode cX4_holds 119 = .ok (.iconst 1, 1) := dk_4 (dk_at dksX4_holds_5 3 rfl rfl)
theorem dX4_holds_120 : decode cX4_holds 120 = .ok (.goto 4, 3) := dk_167 0 4 (dk_at dksX4_holds_5 4 rfl rfl)
theorem dX4_holds_123 : decode cX4_holds 123 = .ok (.iconst 0, 1) := dk_3 (dk_at dksX4_holds_5 7 rfl rfl)
theorem dX4_holds_124 : decode cX4_holds 124 = .ok (.bastore, 1) := dk_84 (dk_at dksX4_holds_5 8 rfl rfl)
theorem dX4_holds_125 : decode cX4_holds 125 = .ok (.goto 58, 3) := dk_167 0 58 (dk_at dksX4_holds_5 9 rfl rfl)
theorem dX4_holds_128 : decode cX4_holds 128 = .ok (.iload 6, 2) := dk_21 6 (dk_at dksX4_holds_5 12 rfl rfl)
theorem dX4_holds_130 : decode cX4_holds 130 = .ok (.iconst 2, 1) := dk_5 (dk_at dksX4_holds_5 14 rfl rfl)
theorem dX4_holds_131 : decode cX4_holds 131 = .ok (.if_icmp .ne 32, 3) := dk_160 0 32 (dk_at dksX4_holds_5 15 rfl rfl)
theorem dX4_holds_134 : decode cX4_holds 134 = .ok (.aload_n 0, 1) := dk_42 (dk_at dksX4_holds_5 18 rfl rfl)
theorem dX4_holds_135 : decode cX4_holds 135 = .ok (.getfield 76, 3) := dk_180 0 76 (dk_at dksX4_holds_5 19 rfl rfl)
theorem dX4_holds_138 : decode cX4_holds 138 = .ok (.iload 4, 2) := dk_21 4 (dk_at dksX4_holds_5 22 rfl rfl)
theorem dX4_holds_140 : decode cX4_holds 140 = .ok (.iconst 1, 1) := dk_4 (dk_at dksX4_holds_6 0 rfl rfl)
theorem dX4_holds_141 : decode cX4_holds 141 = .ok (.isub, 1) := dk_100 (dk_at dksX4_holds_6 1 rfl rfl)
theorem dX4_holds_142 : decode cX4_holds 142 = .ok (.aload_n 0, 1) := dk_42 (dk_at dksX4_holds_6 2 rfl rfl)
theorem dX4_holds_143 : decode cX4_holds 143 = .ok (.getfield 76, 3) := dk_180 0 76 (dk_at dksX4_holds_6 3 rfl rfl)
theorem dX4_holds_146 : decode cX4_holds 146 = .ok (.iload 4, 2) := dk_21 4 (dk_at dksX4_holds_6 6 rfl rfl)
theorem dX4_holds_148 : decode cX4_holds 148 = .ok (.iconst 1, 1) := dk_4 (dk_at dksX4_holds_6 8 rfl rfl)
theorem dX4_holds_149 : decode cX4_holds 149 = .ok (.isub, 1) := dk_100 (dk_at dksX4_holds_6 9 rfl rfl)
theorem dX4_holds_150 : decode cX4_holds 150 = .ok (.baload, 1) := dk_51 (dk_at dksX4_holds_6 10 rfl rfl)
theorem dX4_holds_151 : decode cX4_holds 151 = .ok (.ifCond .ne 7, 3) := dk_154 0 7 (dk_at dksX4_holds_6 11 rfl rfl)
theorem dX4_holds_154 : decode cX4_holds 154 = .ok (.iconst 1, 1) := dk_4 (dk_at dksX4_holds_6 14 rfl rfl)
theorem dX4_holds_155 : decode cX4_holds 155 = .ok (.goto 4, 3) := dk_167 0 4 (dk_at dksX4_holds_6 15 rfl rfl)
theorem dX4_holds_158 : decode cX4_holds 158 = .ok (.iconst 0, 1) := dk_3 (dk_at dksX4_holds_6 18 rfl rfl)
theorem dX4_holds_159 : decode cX4_holds 159 = .ok (.bastore, 1) := dk_84 (dk_at dksX4_holds_6 19 rfl rfl)
theorem dX4_holds_160 : decode cX4_holds 160 = .ok (.goto 23, 3) := dk_167 0 23 (dk_at dksX4_holds_6 20 rfl rfl)
theorem dX4_holds_163 : decode cX4_holds 163 = .ok (.aload_n 0, 1) := dk_42 (dk_at dksX4_holds_6 23 rfl rfl)
theorem dX4_holds_164 : decode cX4_holds 164 = .ok (.getfield 76, 3) := dk_180 0 76 (dk_at dksX4_holds_7 0 rfl rfl)
theorem dX4_holds_167 : decode cX4_holds 167 = .ok (.iload 4, 2) := dk_21 4 (dk_at dksX4_holds_7 3 rfl rfl)
theorem dX4_holds_169 : decode cX4_holds 169 = .ok (.aload_n 0, 1) := dk_42 (dk_at dksX4_holds_7 5 rfl rfl)
theorem dX4_holds_170 : decode cX4_holds 170 = .ok (.iload 6, 2) := dk_21 6 (dk_at dksX4_holds_7 6 rfl rfl)
theorem dX4_holds_172 : decode cX4_holds 172 = .ok (.iload 7, 2) := dk_21 7 (dk_at dksX4_holds_7 8 rfl rfl)
theorem dX4_holds_174 : decode cX4_holds 174 = .ok (.iload_n 2, 1) := dk_28 (dk_at dksX4_holds_7 10 rfl rfl)
theorem dX4_holds_175 : decode cX4_holds 175 = .ok (.iload_n 3, 1) := dk_29 (dk_at dksX4_holds_7 11 rfl rfl)
theorem dX4_holds_176 : decode cX4_holds 176 = .ok (.invokevirtual 327, 3) := dk_182 1 71 (dk_at dksX4_holds_7 12 rfl rfl)
theorem dX4_holds_179 : decode cX4_holds 179 = .ok (.bastore, 1) := dk_84 (dk_at dksX4_holds_7 15 rfl rfl)
theorem dX4_holds_180 : decode cX4_holds 180 = .ok (.iinc 4 1, 3) := dk_132 4 1 (dk_at dksX4_holds_7 16 rfl rfl)
theorem dX4_holds_183 : decode cX4_holds 183 = .ok (.iinc 5 1, 3) := dk_132 5 1 (dk_at dksX4_holds_7 19 rfl rfl)
theorem dX4_holds_186 : decode cX4_holds 186 = .ok (.goto (-175), 3) := dk_167 255 81 (dk_at dksX4_holds_8 0 rfl rfl)
theorem dX4_holds_189 : decode cX4_holds 189 = .ok (.iload 4, 2) := dk_21 4 (dk_at dksX4_holds_8 3 rfl rfl)
theorem dX4_holds_191 : decode cX4_holds 191 = .ok (.ifCond .eq 12, 3) := dk_153 0 12 (dk_at dksX4_holds_8 5 rfl rfl)
theorem dX4_holds_194 : decode cX4_holds 194 = .ok (.aload_n 0, 1) := dk_42 (dk_at dksX4_holds_8 8 rfl rfl)
theorem dX4_holds_195 : decode cX4_holds 195 = .ok (.getfield 76, 3) := dk_180 0 76 (dk_at dksX4_holds_8 9 rfl rfl)
theorem dX4_holds_198 : decode cX4_holds 198 = .ok (.iconst 0, 1) := dk_3 (dk_at dksX4_holds_8 12 rfl rfl)
theorem dX4_holds_199 : decode cX4_holds 199 = .ok (.baload, 1) := dk_51 (dk_at dksX4_holds_8 13 rfl rfl)
theorem dX4_holds_200 : decode cX4_holds 200 = .ok (.ifCond .eq 7, 3) := dk_153 0 7 (dk_at dksX4_holds_8 14 rfl rfl)
theorem dX4_holds_203 : decode cX4_holds 203 = .ok (.iconst 1, 1) := dk_4 (dk_at dksX4_holds_8 17 rfl rfl)
theorem dX4_holds_204 : decode cX4_holds 204 = .ok (.goto 4, 3) := dk_167 0 4 (dk_at dksX4_holds_8 18 rfl rfl)
theorem dX4_holds_207 : decode cX4_holds 207 = .ok (.iconst 0, 1) := dk_3 (dk_at dksX4_holds_8 21 rfl rfl)
theorem dX4_holds_208 : decode cX4_holds 208 = .ok (.ireturn, 1) := dk_172 (dk_at dksX4_holds_8 22 rfl rfl)
abbrev cX4_single : ByteArray := prog_33_method_34_code
def yX4_single : MethodName := ⟨RX4, "single", "(IIII)Z"⟩
def dkwX4_single_6 : List UInt8 := [42, 180, 0, 48, 29, 46, 28, 184, 1, 78, 172]
abbrev dktX4_single_6 : List UInt8 := dkwX4_single_6 ++ []
def dkwX4_single_5 : List UInt8 := [161, 0, 20, 27, 16, 13, 100, 42, 180, 0, 51, 29, 46, 28, 184, 1, 78, 167, 0, 17, 27, 16, 10, 100]
abbrev dktX4_single_5 : List UInt8 := dkwX4_single_5 ++ dktX4_single_6
def dkwX4_single_4 : List UInt8 := [184, 1, 78, 172, 27, 16, 16, 161, 0, 14, 27, 16, 16, 100, 21, 4, 28, 184, 1, 78, 172, 27, 16, 13]
abbrev dktX4_single_4 : List UInt8 := dkwX4_single_4 ++ dktX4_single_5
def dkwX4_single_3 : List UInt8 := [167, 0, 4, 3, 172, 27, 16, 19, 161, 0, 20, 27, 16, 19, 100, 42, 180, 1, 75, 17, 1, 109, 112, 28]
abbrev dktX4_single_3 : List UInt8 := dkwX4_single_3 ++ dktX4_single_4
def dkwX4_single_2 : List UInt8 := [4, 167, 0, 4, 3, 172, 27, 16, 22, 160, 0, 19, 42, 180, 0, 45, 29, 46, 28, 160, 0, 7, 4]
abbrev dktX4_single_2 : List UInt8 := dkwX4_single_2 ++ dktX4_single_3
def dkwX4_single_1 : List UInt8 := [16, 8, 160, 0, 28, 42, 180, 0, 57, 16, 8, 29, 104, 21, 4, 96, 46, 42, 180, 1, 75, 160, 0, 7]
abbrev dktX4_single_1 : List UInt8 := dkwX4_single_1 ++ dktX4_single_2
def dkwX4_single_0 : List UInt8 := [27, 6, 160, 0, 20, 42, 180, 0, 54, 29, 46, 28, 126, 158, 0, 7, 4, 167, 0, 4, 3, 172, 27]
abbrev dktX4_single_0 : List UInt8 := dkwX4_single_0 ++ dktX4_single_1
theorem dksX4_single_0 : cX4_single.data.toList.drop 0 = dktX4_single_0 := by decide +kernel
theorem dksX4_single_1 : cX4_single.data.toList.drop 23 = dktX4_single_1 := dk_seg dksX4_single_0 23 rfl rfl
theorem dksX4_single_2 : cX4_single.data.toList.drop 47 = dktX4_single_2 := dk_seg dksX4_single_1 24 rfl rfl
theorem dksX4_single_3 : cX4_single.data.toList.drop 70 = dktX4_single_3 := dk_seg dksX4_single_2 23 rfl rfl
theorem dksX4_single_4 : cX4_single.data.toList.drop 94 = dktX4_single_4 := dk_seg dksX4_single_3 24 rfl rfl
theorem dksX4_single_5 : cX4_single.data.toList.drop 118 = dktX4_single_5 := dk_seg dksX4_single_4 24 rfl rfl
theorem dksX4_single_6 : cX4_single.data.toList.drop 142 = dktX4_single_6 := dk_seg dksX4_single_5 24 rfl rfl
theorem dX4_single_0 : decode cX4_single 0 = .ok (.iload_n 1, 1) := dk_27 (dk_at dksX4_single_0 0 rfl rfl)
theorem dX4_single_1 : decode cX4_single 1 = .ok (.iconst 3, 1) := dk_6 (dk_at dksX4_single_0 1 rfl rfl)
theorem dX4_single_2 : decode cX4_single 2 = .ok (.if_icmp .ne 20, 3) := dk_160 0 20 (dk_at dksX4_single_0 2 rfl rfl)
theorem dX4_single_5 : decode cX4_single 5 = .ok (.aload_n 0, 1) := dk_42 (dk_at dksX4_single_0 5 rfl rfl)
theorem dX4_single_6 : decode cX4_single 6 = .ok (.getfield 54, 3) := dk_180 0 54 (dk_at dksX4_single_0 6 rfl rfl)
theorem dX4_single_9 : decode cX4_single 9 = .ok (.iload_n 3, 1) := dk_29 (dk_at dksX4_single_0 9 rfl rfl)
theorem dX4_single_10 : decode cX4_single 10 = .ok (.iaload, 1) := dk_46 (dk_at dksX4_single_0 10 rfl rfl)
theorem dX4_single_11 : decode cX4_single 11 = .ok (.iload_n 2, 1) := dk_28 (dk_at dksX4_single_0 11 rfl rfl)
theorem dX4_single_12 : decode cX4_single 12 = .ok (.iand, 1) := dk_126 (dk_at dksX4_single_0 12 rfl rfl)
theorem dX4_single_13 : decode cX4_single 13 = .ok (.ifCond .le 7, 3) := dk_158 0 7 (dk_at dksX4_single_0 13 rfl rfl)
theorem dX4_single_16 : decode cX4_single 16 = .ok (.iconst 1, 1) := dk_4 (dk_at dksX4_single_0 16 rfl rfl)
theorem dX4_single_17 : decode cX4_single 17 = .ok (.goto 4, 3) := dk_167 0 4 (dk_at dksX4_single_0 17 rfl rfl)
theorem dX4_single_20 : decode cX4_single 20 = .ok (.iconst 0, 1) := dk_3 (dk_at dksX4_single_0 20 rfl rfl)
theorem dX4_single_21 : decode cX4_single 21 = .ok (.ireturn, 1) := dk_172 (dk_at dksX4_single_0 21 rfl rfl)
theorem dX4_single_22 : decode cX4_single 22 = .ok (.iload_n 1, 1) := dk_27 (dk_at dksX4_single_0 22 rfl rfl)
theorem dX4_single_23 : decode cX4_single 23 = .ok (.bipush 8, 2) := dk_16 8 (dk_at dksX4_single_1 0 rfl rfl)
theorem dX4_single_25 : decode cX4_single 25 = .ok (.if_icmp .ne 28, 3) := dk_160 0 28 (dk_at dksX4_single_1 2 rfl rfl)
theorem dX4_single_28 : decode cX4_single 28 = .ok (.aload_n 0, 1) := dk_42 (dk_at dksX4_single_1 5 rfl rfl)
theorem dX4_single_29 : decode cX4_single 29 = .ok (.getfield 57, 3) := dk_180 0 57 (dk_at dksX4_single_1 6 rfl rfl)
theorem dX4_single_32 : decode cX4_single 32 = .ok (.bipush 8, 2) := dk_16 8 (dk_at dksX4_single_1 9 rfl rfl)
theorem dX4_single_34 : decode cX4_single 34 = .ok (.iload_n 3, 1) := dk_29 (dk_at dksX4_single_1 11 rfl rfl)
theorem dX4_single_35 : decode cX4_single 35 = .ok (.imul, 1) := dk_104 (dk_at dksX4_single_1 12 rfl rfl)
theorem dX4_single_36 : decode cX4_single 36 = .ok (.iload 4, 2) := dk_21 4 (dk_at dksX4_single_1 13 rfl rfl)
theorem dX4_single_38 : decode cX4_single 38 = .ok (.iadd, 1) := dk_96 (dk_at dksX4_single_1 15 rfl rfl)
theorem dX4_single_39 : decode cX4_single 39 = .ok (.iaload, 1) := dk_46 (dk_at dksX4_single_1 16 rfl rfl)
theorem dX4_single_40 : decode cX4_single 40 = .ok (.aload_n 0, 1) := dk_42 (dk_at dksX4_single_1 17 rfl rfl)
theorem dX4_single_41 : decode cX4_single 41 = .ok (.getfield 331, 3) := dk_180 1 75 (dk_at dksX4_single_1 18 rfl rfl)
theorem dX4_single_44 : decode cX4_single 44 = .ok (.if_icmp .ne 7, 3) := dk_160 0 7 (dk_at dksX4_single_1 21 rfl rfl)
theorem dX4_single_47 : decode cX4_single 47 = .ok (.iconst 1, 1) := dk_4 (dk_at dksX4_single_2 0 rfl rfl)
theorem dX4_single_48 : decode cX4_single 48 = .ok (.goto 4, 3) := dk_167 0 4 (dk_at dksX4_single_2 1 rfl rfl)
theorem dX4_single_51 : decode cX4_single 51 = .ok (.iconst 0, 1) := dk_3 (dk_at dksX4_single_2 4 rfl rfl)
theorem dX4_single_52 : decode cX4_single 52 = .ok (.ireturn, 1) := dk_172 (dk_at dksX4_single_2 5 rfl rfl)
theorem dX4_single_53 : decode cX4_single 53 = .ok (.iload_n 1, 1) := dk_27 (dk_at dksX4_single_2 6 rfl rfl)
theorem dX4_single_54 : decode cX4_single 54 = .ok (.bipush 22, 2) := dk_16 22 (dk_at dksX4_single_2 7 rfl rfl)
theorem dX4_single_56 : decode cX4_single 56 = .ok (.if_icmp .ne 19, 3) := dk_160 0 19 (dk_at dksX4_single_2 9 rfl rfl)
theorem dX4_single_59 : decode cX4_single 59 = .ok (.aload_n 0, 1) := dk_42 (dk_at dksX4_single_2 12 rfl rfl)
theorem dX4_single_60 : decode cX4_single 60 = .ok (.getfield 45, 3) := dk_180 0 45 (dk_at dksX4_single_2 13 rfl rfl)
theorem dX4_single_63 : decode cX4_single 63 = .ok (.iload_n 3, 1) := dk_29 (dk_at dksX4_single_2 16 rfl rfl)
theorem dX4_single_64 : decode cX4_single 64 = .ok (.iaload, 1) := dk_46 (dk_at dksX4_single_2 17 rfl rfl)
theorem dX4_single_65 : decode cX4_single 65 = .ok (.iload_n 2, 1) := dk_28 (dk_at dksX4_single_2 18 rfl rfl)
theorem dX4_single_66 : decode cX4_single 66 = .ok (.if_icmp .ne 7, 3) := dk_160 0 7 (dk_at dksX4_single_2 19 rfl rfl)
theorem dX4_single_69 : decode cX4_single 69 = .ok (.iconst 1, 1) := dk_4 (dk_at dksX4_single_2 22 rfl rfl)
theorem dX4_single_70 : decode cX4_single 70 = .ok (.goto 4, 3) := dk_167 0 4 (dk_at dksX4_single_3 0 rfl rfl)
theorem dX4_single_73 : decode cX4_single 73 = .ok (.iconst 0, 1) := dk_3 (dk_at dksX4_single_3 3 rfl rfl)
theorem dX4_single_74 : decode cX4_single 74 = .ok (.ireturn, 1) := dk_172 (dk_at dksX4_single_3 4 rfl rfl)
theorem dX4_single_75 : decode cX4_single 75 = .ok (.iload_n 1, 1) := dk_27 (dk_at dksX4_single_3 5 rfl rfl)
theorem dX4_single_76 : decode cX4_single 76 = .ok (.bipush 19, 2) := dk_16 19 (dk_at dksX4_single_3 6 rfl rfl)
theorem dX4_single_78 : decode cX4_single 78 = .ok (.if_icmp .lt 20, 3) := dk_161 0 20 (dk_at dksX4_single_3 8 rfl rfl)
theorem dX4_single_81 : decode cX4_single 81 = .ok (.iload_n 1, 1) := dk_27 (dk_at dksX4_single_3 11 rfl rfl)
theorem dX4_single_82 : decode cX4_single 82 = .ok (.bipush 19, 2) := dk_16 19 (dk_at dksX4_single_3 12 rfl rfl)
theorem dX4_single_84 : decode cX4_single 84 = .ok (.isub, 1) := dk_100 (dk_at dksX4_single_3 14 rfl rfl)
theorem dX4_single_85 : decode cX4_single 85 = .ok (.aload_n 0, 1) := dk_42 (dk_at dksX4_single_3 15 rfl rfl)
theorem dX4_single_86 : decode cX4_single 86 = .ok (.getfield 331, 3) := dk_180 1 75 (dk_at dksX4_single_3 16 rfl rfl)
theorem dX4_single_89 : decode cX4_single 89 = .ok (.sipush 365, 3) := dk_17 1 109 (dk_at dksX4_single_3 19 rfl rfl)
theorem dX4_single_92 : decode cX4_single 92 = .ok (.irem, 1) := dk_112 (dk_at dksX4_single_3 22 rfl rfl)
theorem dX4_single_93 : decode cX4_single 93 = .ok (.iload_n 2, 1) := dk_28 (dk_at dksX4_single_3 23 rfl rfl)
theorem dX4_single_94 : decode cX4_single 94 = .ok (.invokestatic 334, 3) := dk_184 1 78 (dk_at dksX4_single_4 0 rfl rfl)
theorem dX4_single_97 : decode cX4_single 97 = .ok (.ireturn, 1) := dk_172 (dk_at dksX4_single_4 3 rfl rfl)
theorem dX4_single_98 : decode cX4_single 98 = .ok (.iload_n 1, 1) := dk_27 (dk_at dksX4_single_4 4 rfl rfl)
theorem dX4_single_99 : decode cX4_single 99 = .ok (.bipush 16, 2) := dk_16 16 (dk_at dksX4_single_4 5 rfl rfl)
theorem dX4_single_101 : decode cX4_single 101 = .ok (.if_icmp .lt 14, 3) := dk_161 0 14 (dk_at dksX4_single_4 7 rfl rfl)
theorem dX4_single_104 : decode cX4_single 104 = .ok (.iload_n 1, 1) := dk_27 (dk_at dksX4_single_4 10 rfl rfl)
theorem dX4_single_105 : decode cX4_single 105 = .ok (.bipush 16, 2) := dk_16 16 (dk_at dksX4_single_4 11 rfl rfl)
theorem dX4_single_107 : decode cX4_single 107 = .ok (.isub, 1) := dk_100 (dk_at dksX4_single_4 13 rfl rfl)
theorem dX4_single_108 : decode cX4_single 108 = .ok (.iload 4, 2) := dk_21 4 (dk_at dksX4_single_4 14 rfl rfl)
theorem dX4_single_110 : decode cX4_single 110 = .ok (.iload_n 2, 1) := dk_28 (dk_at dksX4_single_4 16 rfl rfl)
theorem dX4_single_111 : decode cX4_single 111 = .ok (.invokestatic 334, 3) := dk_184 1 78 (dk_at dksX4_single_4 17 rfl rfl)
theorem dX4_single_114 : decode cX4_single 114 = .ok (.ireturn, 1) := dk_172 (dk_at dksX4_single_4 20 rfl rfl)
theorem dX4_single_115 : decode cX4_single 115 = .ok (.iload_n 1, 1) := dk_27 (dk_at dksX4_single_4 21 rfl rfl)
theorem dX4_single_116 : decode cX4_single 116 = .ok (.bipush 13, 2) := dk_16 13 (dk_at dksX4_single_4 22 rfl rfl)
theorem dX4_single_118 : decode cX4_single 118 = .ok (.if_icmp .lt 20, 3) := dk_161 0 20 (dk_at dksX4_single_5 0 rfl rfl)
theorem dX4_single_121 : decode cX4_single 121 = .ok (.iload_n 1, 1) := dk_27 (dk_at dksX4_single_5 3 rfl rfl)
theorem dX4_single_122 : decode cX4_single 122 = .ok (.bipush 13, 2) := dk_16 13 (dk_at dksX4_single_5 4 rfl rfl)
theorem dX4_single_124 : decode cX4_single 124 = .ok (.isub, 1) := dk_100 (dk_at dksX4_single_5 6 rfl rfl)
theorem dX4_single_125 : decode cX4_single 125 = .ok (.aload_n 0, 1) := dk_42 (dk_at dksX4_single_5 7 rfl rfl)
theorem dX4_single_126 : decode cX4_single 126 = .ok (.getfield 51, 3) := dk_180 0 51 (dk_at dksX4_single_5 8 rfl rfl)
theorem dX4_single_129 : decode cX4_single 129 = .ok (.iload_n 3, 1) := dk_29 (dk_at dksX4_single_5 11 rfl rfl)
theorem dX4_single_130 : decode cX4_single 130 = .ok (.iaload, 1) := dk_46 (dk_at dksX4_single_5 12 rfl rfl)
theorem dX4_single_131 : decode cX4_single 131 = .ok (.iload_n 2, 1) := dk_28 (dk_at dksX4_single_5 13 rfl rfl)
theorem dX4_single_132 : decode cX4_single 132 = .ok (.invokestatic 334, 3) := dk_184 1 78 (dk_at dksX4_single_5 14 rfl rfl)
theorem dX4_single_135 : decode cX4_single 135 = .ok (.goto 17, 3) := dk_167 0 17 (dk_at dksX4_single_5 17 rfl rfl)
theorem dX4_single_138 : decode cX4_single 138 = .ok (.iload_n 1, 1) := dk_27 (dk_at dksX4_single_5 20 rfl rfl)
theorem dX4_single_139 : decode cX4_single 139 = .ok (.bipush 10, 2) := dk_16 10 (dk_at dksX4_single_5 21 rfl rfl)
theorem dX4_single_141 : decode cX4_single 141 = .ok (.isub, 1) := dk_100 (dk_at dksX4_single_5 23 rfl rfl)
theorem dX4_single_142 : decode cX4_single 142 = .ok (.aload_n 0, 1) := dk_42 (dk_at dksX4_single_6 0 rfl rfl)
theorem dX4_single_143 : decode cX4_single 143 = .ok (.getfield 48, 3) := dk_180 0 48 (dk_at dksX4_single_6 1 rfl rfl)
theorem dX4_single_146 : decode cX4_single 146 = .ok (.iload_n 3, 1) := dk_29 (dk_at dksX4_single_6 4 rfl rfl)
theorem dX4_single_147 : decode cX4_single 147 = .ok (.iaload, 1) := dk_46 (dk_at dksX4_single_6 5 rfl rfl)
theorem dX4_single_148 : decode cX4_single 148 = .ok (.iload_n 2, 1) := dk_28 (dk_at dksX4_single_6 6 rfl rfl)
theorem dX4_single_149 : decode cX4_single 149 = .ok (.invokestatic 334, 3) := dk_184 1 78 (dk_at dksX4_single_6 7 rfl rfl)
theorem dX4_single_152 : decode cX4_single 152 = .ok (.ireturn, 1) := dk_172 (dk_at dksX4_single_6 10 rfl rfl)
abbrev cX4_isSo : ByteArray := prog_33_method_32_code
def yX4_isSo : MethodName := ⟨RX4, "isSo", "(III)Z"⟩
def dkwX4_isSo_1 : List UInt8 := [162, 0, 7, 4, 167, 0, 17, 3, 167, 0, 13, 27, 28, 164, 0, 7, 4, 167, 0, 4, 3, 172]
abbrev dktX4_isSo_1 : List UInt8 := dkwX4_isSo_1 ++ []
def dkwX4_isSo_0 : List UInt8 := [26, 154, 0, 16, 27, 28, 160, 0, 7, 4, 167, 0, 35, 3, 167, 0, 31, 26, 4, 160, 0, 16, 27, 28]
abbrev dktX4_isSo_0 : List UInt8 := dkwX4_isSo_0 ++ dktX4_isSo_1
theorem dksX4_isSo_0 : cX4_isSo.data.toList.drop 0 = dktX4_isSo_0 := by decide +kernel
theorem dksX4_isSo_1 : cX4_isSo.data.toList.drop 24 = dktX4_isSo_1 := dk_seg dksX4_isSo_0 24 rfl rfl
theorem dX4_isSo_0 : decode cX4_isSo 0 = .ok (.iload_n 0, 1) := dk_26 (dk_at dksX4_isSo_0 0 rfl rfl)
theorem dX4_isSo_1 : decode cX4_isSo 1 = .ok (.ifCond .ne 16, 3) := dk_154 0 16 (dk_at dksX4_isSo_0 1 rfl rfl)
theorem dX4_isSo_4 : decode cX4_isSo 4 = .ok (.iload_n 1, 1) := dk_27 (dk_at dksX4_isSo_0 4 rfl rfl)
theorem dX4_isSo_5 : decode cX4_isSo 5 = .ok (.iload_n 2, 1) := dk_28 (dk_at dksX4_isSo_0 5 rfl rfl)
theorem dX4_isSo_6 : decode cX4_isSo 6 = .ok (.if_icmp .ne 7, 3) := dk_160 0 7 (dk_at dksX4_isSo_0 6 rfl rfl)
theorem dX4_isSo_9 : decode cX4_isSo 9 = .ok (.iconst 1, 1) := dk_4 (dk_at dksX4_isSo_0 9 rfl rfl)
theorem dX4_isSo_10 : decode cX4_isSo 10 = .ok (.goto 35, 3) := dk_167 0 35 (dk_at dksX4_isSo_0 10 rfl rfl)
theorem dX4_isSo_13 : decode cX4_isSo 13 = .ok (.iconst 0, 1) := dk_3 (dk_at dksX4_isSo_0 13 rfl rfl)
theorem dX4_isSo_14 : decode cX4_isSo 14 = .ok (.goto 31, 3) := dk_167 0 31 (dk_at dksX4_isSo_0 14 rfl rfl)
theorem dX4_isSo_17 : decode cX4_isSo 17 = .ok (.iload_n 0, 1) := dk_26 (dk_at dksX4_isSo_0 17 rfl rfl)
theorem dX4_isSo_18 : decode cX4_isSo 18 = .ok (.iconst 1, 1) := dk_4 (dk_at dksX4_isSo_0 18 rfl rfl)
theorem dX4_isSo_19 : decode cX4_isSo 19 = .ok (.if_icmp .ne 16, 3) := dk_160 0 16 (dk_at dksX4_isSo_0 19 rfl rfl)
theorem dX4_isSo_22 : decode cX4_isSo 22 = .ok (.iload_n 1, 1) := dk_27 (dk_at dksX4_isSo_0 22 rfl rfl)
theorem dX4_isSo_23 : decode cX4_isSo 23 = .ok (.iload_n 2, 1) := dk_28 (dk_at dksX4_isSo_0 23 rfl rfl)
theorem dX4_isSo_24 : decode cX4_isSo 24 = .ok (.if_icmp .ge 7, 3) := dk_162 0 7 (dk_at dksX4_isSo_1 0 rfl rfl)
theorem dX4_isSo_27 : decode cX4_isSo 27 = .ok (.iconst 1, 1) := dk_4 (dk_at dksX4_isSo_1 3 rfl rfl)
theorem dX4_isSo_28 : decode cX4_isSo 28 = .ok (.goto 17, 3) := dk_167 0 17 (dk_at dksX4_isSo_1 4 rfl rfl)
theorem dX4_isSo_31 : decode cX4_isSo 31 = .ok (.iconst 0, 1) := dk_3 (dk_at dksX4_isSo_1 7 rfl rfl)
theorem dX4_isSo_32 : decode cX4_isSo 32 = .ok (.goto 13, 3) := dk_167 0 13 (dk_at dksX4_isSo_1 8 rfl rfl)
theorem dX4_isSo_35 : decode cX4_isSo 35 = .ok (.iload_n 1, 1) := dk_27 (dk_at dksX4_isSo_1 11 rfl rfl)
theorem dX4_isSo_36 : decode cX4_isSo 36 = .ok (.iload_n 2, 1) := dk_28 (dk_at dksX4_isSo_1 12 rfl rfl)
theorem dX4_isSo_37 : decode cX4_isSo 37 = .ok (.if_icmp .le 7, 3) := dk_164 0 7 (dk_at dksX4_isSo_1 13 rfl rfl)
theorem dX4_isSo_40 : decode cX4_isSo 40 = .ok (.iconst 1, 1) := dk_4 (dk_at dksX4_isSo_1 16 rfl rfl)
theorem dX4_isSo_41 : decode cX4_isSo 41 = .ok (.goto 4, 3) := dk_167 0 4 (dk_at dksX4_isSo_1 17 rfl rfl)
theorem dX4_isSo_44 : decode cX4_isSo 44 = .ok (.iconst 0, 1) := dk_3 (dk_at dksX4_isSo_1 20 rfl rfl)
theorem dX4_isSo_45 : decode cX4_isSo 45 = .ok (.ireturn, 1) := dk_172 (dk_at dksX4_isSo_1 21 rfl rfl)
abbrev cX4_paid : ByteArray := prog_33_method_37_code
def yX4_paid : MethodName := ⟨RX4, "paid", "(IIIIII)I"⟩
def dkwX4_paid_10 : List UInt8 := [181, 1, 82, 3, 172]
abbrev dktX4_paid_10 : List UInt8 := dkwX4_paid_10 ++ []
def dkwX4_paid_9 : List UInt8 := [153, 0, 20, 21, 10, 153, 0, 10, 21, 5, 21, 6, 162, 0, 8, 21, 5, 167, 0, 5, 21, 6]
abbrev dktX4_paid_9 : List UInt8 := dkwX4_paid_9 ++ dktX4_paid_10
def dkwX4_paid_8 : List UInt8 := [167, 0, 4, 3, 54, 10, 21, 9, 154, 0, 12, 21, 10, 154, 0, 7, 22, 7, 136, 172, 42, 21, 9]
abbrev dktX4_paid_8 : List UInt8 := dkwX4_paid_8 ++ dktX4_paid_9
def dkwX4_paid_7 : List UInt8 := [160, 0, 7, 4, 167, 0, 4, 3, 54, 9, 21, 6, 155, 0, 15, 42, 28, 182, 1, 92, 153, 0, 7, 4]
abbrev dktX4_paid_7 : List UInt8 := dkwX4_paid_7 ++ dktX4_paid_8
def dkwX4_paid_6 : List UInt8 := [167, 255, 195, 21, 5, 155, 0, 25, 42, 180, 0, 60, 16, 8, 28, 104, 29, 96, 46, 42, 180, 1, 75]
abbrev dktX4_paid_6 : List UInt8 := dkwX4_paid_6 ++ dktX4_paid_7
def dkwX4_paid_5 : List UInt8 := [55, 7, 22, 7, 20, 0, 202, 148, 158, 0, 9, 20, 0, 202, 167, 0, 5, 22, 7, 55, 7, 132, 9, 1]
abbrev dktX4_paid_5 : List UInt8 := dkwX4_paid_5 ++ dktX4_paid_6
def dkwX4_paid_4 : List UInt8 := [180, 0, 80, 21, 9, 46, 46, 133, 105, 42, 180, 0, 30, 42, 180, 0, 80, 21, 9, 46, 46, 133, 109]
abbrev dktX4_paid_4 : List UInt8 := dkwX4_paid_4 ++ dktX4_paid_5
def dkwX4_paid_3 : List UInt8 := [167, 0, 5, 22, 7, 55, 7, 3, 54, 9, 21, 9, 21, 4, 162, 0, 60, 22, 7, 42, 180, 0, 27, 42]
abbrev dktX4_paid_3 : List UInt8 := dkwX4_paid_3 ++ dktX4_paid_4
def dkwX4_paid_2 : List UInt8 := [16, 19, 96, 16, 20, 108, 133, 105, 55, 7, 22, 7, 20, 0, 202, 148, 158, 0, 9, 20, 0, 202]
abbrev dktX4_paid_2 : List UInt8 := dkwX4_paid_2 ++ dktX4_paid_3
def dkwX4_paid_1 : List UInt8 := [180, 0, 24, 27, 46, 5, 160, 0, 12, 42, 180, 0, 51, 28, 46, 167, 0, 15, 42, 180, 0, 51, 28, 46]
abbrev dktX4_paid_1 : List UInt8 := dkwX4_paid_1 ++ dktX4_paid_2
def dkwX4_paid_0 : List UInt8 := [42, 180, 0, 27, 27, 46, 133, 42, 180, 0, 24, 27, 46, 4, 160, 0, 7, 4, 167, 0, 34, 42]
abbrev dktX4_paid_0 : List UInt8 := dkwX4_paid_0 ++ dktX4_paid_1
theorem dksX4_paid_0 : cX4_paid.data.toList.drop 0 = dktX4_paid_0 := by decide +kernel
theorem dksX4_paid_1 : cX4_paid.data.toList.drop 22 = dktX4_paid_1 := dk_seg dksX4_paid_0 22 rfl rfl
theorem dksX4_paid_2 : cX4_paid.data.toList.drop 46 = dktX4_paid_2 := dk_seg dksX4_paid_1 24 rfl rfl
theorem dksX4_paid_3 : cX4_paid.data.toList.drop 68 = dktX4_paid_3 := dk_seg dksX4_paid_2 22 rfl rfl
theorem dksX4_paid_4 : cX4_paid.data.toList.drop 92 = dktX4_paid_4 := dk_seg dksX4_paid_3 24 rfl rfl
theorem dksX4_paid_5 : cX4_paid.data.toList.drop 115 = dktX4_paid_5 := dk_seg dksX4_paid_4 23 rfl rfl
theorem dksX4_paid_6 : cX4_paid.data.toList.drop 139 = dktX4_paid_6 := dk_seg dksX4_paid_5 24 rfl rfl
theorem dksX4_paid_7 : cX4_paid.data.toList.drop 162 = dktX4_paid_7 := dk_seg dksX4_paid_6 23 rfl rfl
theorem dksX4_paid_8 : cX4_paid.data.toList.drop 186 = dktX4_paid_8 := dk_seg dksX4_paid_7 24 rfl rfl
theorem dksX4_paid_9 : cX4_paid.data.toList.drop 209 = dktX4_paid_9 := dk_seg dksX4_paid_8 23 rfl rfl
theorem dksX4_paid_10 : cX4_paid.data.toList.drop 231 = dktX4_paid_10 := dk_seg dksX4_paid_9 22 rfl rfl
theorem dX4_paid_0 : decode cX4_paid 0 = .ok (.aload_n 0, 1) := dk_42 (dk_at dksX4_paid_0 0 rfl rfl)
theorem dX4_paid_1 : decode cX4_paid 1 = .ok (.getfield 27, 3) := dk_180 0 27 (dk_at dksX4_paid_0 1 rfl rfl)
theorem dX4_paid_4 : decode cX4_paid 4 = .ok (.iload_n 1, 1) := dk_27 (dk_at dksX4_paid_0 4 rfl rfl)
theorem dX4_paid_5 : decode cX4_paid 5 = .ok (.iaload, 1) := dk_46 (dk_at dksX4_paid_0 5 rfl rfl)
theorem dX4_paid_6 : decode cX4_paid 6 = .ok (.i2l, 1) := dk_133 (dk_at dksX4_paid_0 6 rfl rfl)
theorem dX4_paid_7 : decode cX4_paid 7 = .ok (.aload_n 0, 1) := dk_42 (dk_at dksX4_paid_0 7 rfl rfl)
theorem dX4_paid_8 : decode cX4_paid 8 = .ok (.getfield 24, 3) := dk_180 0 24 (dk_at dksX4_paid_0 8 rfl rfl)
theorem dX4_paid_11 : decode cX4_paid 11 = .ok (.iload_n 1, 1) := dk_27 (dk_at dksX4_paid_0 11 rfl rfl)
theorem dX4_paid_12 : decode cX4_paid 12 = .ok (.iaload, 1) := dk_46 (dk_at dksX4_paid_0 12 rfl rfl)
theorem dX4_paid_13 : decode cX4_paid 13 = .ok (.iconst 1, 1) := dk_4 (dk_at dksX4_paid_0 13 rfl rfl)
theorem dX4_paid_14 : decode cX4_paid 14 = .ok (.if_icmp .ne 7, 3) := dk_160 0 7 (dk_at dksX4_paid_0 14 rfl rfl)
theorem dX4_paid_17 : decode cX4_paid 17 = .ok (.iconst 1, 1) := dk_4 (dk_at dksX4_paid_0 17 rfl rfl)
theorem dX4_paid_18 : decode cX4_paid 18 = .ok (.goto 34, 3) := dk_167 0 34 (dk_at dksX4_paid_0 18 rfl rfl)
theorem dX4_paid_21 : decode cX4_paid 21 = .ok (.aload_n 0, 1) := dk_42 (dk_at dksX4_paid_0 21 rfl rfl)
theorem dX4_paid_22 : decode cX4_paid 22 = .ok (.getfield 24, 3) := dk_180 0 24 (dk_at dksX4_paid_1 0 rfl rfl)
theorem dX4_paid_25 : decode cX4_paid 25 = .ok (.iload_n 1, 1) := dk_27 (dk_at dksX4_paid_1 3 rfl rfl)
theorem dX4_paid_26 : decode cX4_paid 26 = .ok (.iaload, 1) := dk_46 (dk_at dksX4_paid_1 4 rfl rfl)
theorem dX4_paid_27 : decode cX4_paid 27 = .ok (.iconst 2, 1) := dk_5 (dk_at dksX4_paid_1 5 rfl rfl)
theorem dX4_paid_28 : decode cX4_paid 28 = .ok (.if_icmp .ne 12, 3) := dk_160 0 12 (dk_at dksX4_paid_1 6 rfl rfl)
theorem dX4_paid_31 : decode cX4_paid 31 = .ok (.aload_n 0, 1) := dk_42 (dk_at dksX4_paid_1 9 rfl rfl)
theorem dX4_paid_32 : decode cX4_paid 32 = .ok (.getfield 51, 3) := dk_180 0 51 (dk_at dksX4_paid_1 10 rfl rfl)
theorem dX4_paid_35 : decode cX4_paid 35 = .ok (.iload_n 2, 1) := dk_28 (dk_at dksX4_paid_1 13 rfl rfl)
theorem dX4_paid_36 : decode cX4_paid 36 = .ok (.iaload, 1) := dk_46 (dk_at dksX4_paid_1 14 rfl rfl)
theorem dX4_paid_37 : decode cX4_paid 37 = .ok (.goto 15, 3) := dk_167 0 15 (dk_at dksX4_paid_1 15 rfl rfl)
theorem dX4_paid_40 : decode cX4_paid 40 = .ok (.aload_n 0, 1) := dk_42 (dk_at dksX4_paid_1 18 rfl rfl)
theorem dX4_paid_41 : decode cX4_paid 41 = .ok (.getfield 51, 3) := dk_180 0 51 (dk_at dksX4_paid_1 19 rfl rfl)
theorem dX4_paid_44 : decode cX4_paid 44 = .ok (.iload_n 2, 1) := dk_28 (dk_at dksX4_paid_1 22 rfl rfl)
theorem dX4_paid_45 : decode cX4_paid 45 = .ok (.iaload, 1) := dk_46 (dk_at dksX4_paid_1 23 rfl rfl)
theorem dX4_paid_46 : decode cX4_paid 46 = .ok (.bipush 19, 2) := dk_16 19 (dk_at dksX4_paid_2 0 rfl rfl)
theorem dX4_paid_48 : decode cX4_paid 48 = .ok (.iadd, 1) := dk_96 (dk_at dksX4_paid_2 2 rfl rfl)
theorem dX4_paid_49 : decode cX4_paid 49 = .ok (.bipush 20, 2) := dk_16 20 (dk_at dksX4_paid_2 3 rfl rfl)
theorem dX4_paid_51 : decode cX4_paid 51 = .ok (.idiv, 1) := dk_108 (dk_at dksX4_paid_2 5 rfl rfl)
theorem dX4_paid_52 : decode cX4_paid 52 = .ok (.i2l, 1) := dk_133 (dk_at dksX4_paid_2 6 rfl rfl)
theorem dX4_paid_53 : decode cX4_paid 53 = .ok (.lmul, 1) := dk_105 (dk_at dksX4_paid_2 7 rfl rfl)
theorem dX4_paid_54 : decode cX4_paid 54 = .ok (.lstore 7, 2) := dk_55 7 (dk_at dksX4_paid_2 8 rfl rfl)
theorem dX4_paid_56 : decode cX4_paid 56 = .ok (.lload 7, 2) := dk_22 7 (dk_at dksX4_paid_2 10 rfl rfl)
theorem dX4_paid_58 : decode cX4_paid 58 = .ok (.ldc2_w 202, 3) := dk_20 0 202 (dk_at dksX4_paid_2 12 rfl rfl)
theorem dX4_paid_61 : decode cX4_paid 61 = .ok (.lcmp, 1) := dk_148 (dk_at dksX4_paid_2 15 rfl rfl)
theorem dX4_paid_62 : decode cX4_paid 62 = .ok (.ifCond .le 9, 3) := dk_158 0 9 (dk_at dksX4_paid_2 16 rfl rfl)
theorem dX4_paid_65 : decode cX4_paid 65 = .ok (.ldc2_w 202, 3) := dk_20 0 202 (dk_at dksX4_paid_2 19 rfl rfl)
theorem dX4_paid_68 : decode cX4_paid 68 = .ok (.goto 5, 3) := dk_167 0 5 (dk_at dksX4_paid_3 0 rfl rfl)
theorem dX4_paid_71 : decode cX4_paid 71 = .ok (.lload 7, 2) := dk_22 7 (dk_at dksX4_paid_3 3 rfl rfl)
theorem dX4_paid_73 : decode cX4_paid 73 = .ok (.lstore 7, 2) := dk_55 7 (dk_at dksX4_paid_3 5 rfl rfl)
theorem dX4_paid_75 : decode cX4_paid 75 = .ok (.iconst 0, 1) := dk_3 (dk_at dksX4_paid_3 7 rfl rfl)
theorem dX4_paid_76 : decode cX4_paid 76 = .ok (.istore 9, 2) := dk_54 9 (dk_at dksX4_paid_3 8 rfl rfl)
theorem dX4_paid_78 : decode cX4_paid 78 = .ok (.iload 9, 2) := dk_21 9 (dk_at dksX4_paid_3 10 rfl rfl)
theorem dX4_paid_80 : decode cX4_paid 80 = .ok (.iload 4, 2) := dk_21 4 (dk_at dksX4_paid_3 12 rfl rfl)
theorem dX4_paid_82 : decode cX4_paid 82 = .ok (.if_icmp .ge 60, 3) := dk_162 0 60 (dk_at dksX4_paid_3 14 rfl rfl)
theorem dX4_paid_85 : decode cX4_paid 85 = .ok (.lload 7, 2) := dk_22 7 (dk_at dksX4_paid_3 17 rfl rfl)
theorem dX4_paid_87 : decode cX4_paid 87 = .ok (.aload_n 0, 1) := dk_42 (dk_at dksX4_paid_3 19 rfl rfl)
theorem dX4_paid_88 : decode cX4_paid 88 = .ok (.getfield 27, 3) := dk_180 0 27 (dk_at dksX4_paid_3 20 rfl rfl)
theorem dX4_paid_91 : decode cX4_paid 91 = .ok (.aload_n 0, 1) := dk_42 (dk_at dksX4_paid_3 23 rfl rfl)
theorem dX4_paid_92 : decode cX4_paid 92 = .ok (.getfield 80, 3) := dk_180 0 80 (dk_at dksX4_paid_4 0 rfl rfl)
theorem dX4_paid_95 : decode cX4_paid 95 = .ok (.iload 9, 2) := dk_21 9 (dk_at dksX4_paid_4 3 rfl rfl)
theorem dX4_paid_97 : decode cX4_paid 97 = .ok (.iaload, 1) := dk_46 (dk_at dksX4_paid_4 5 rfl rfl)
theorem dX4_paid_98 : decode cX4_paid 98 = .ok (.iaload, 1) := dk_46 (dk_at dksX4_paid_4 6 rfl rfl)
theorem dX4_paid_99 : decode cX4_paid 99 = .ok (.i2l, 1) := dk_133 (dk_at dksX4_paid_4 7 rfl rfl)
theorem dX4_paid_100 : decode cX4_paid 100 = .ok (.lmul, 1) := dk_105 (dk_at dksX4_paid_4 8 rfl rfl)
theorem dX4_paid_101 : decode cX4_paid 101 = .ok (.aload_n 0, 1) := dk_42 (dk_at dksX4_paid_4 9 rfl rfl)
theorem dX4_paid_102 : decode cX4_paid 102 = .ok (.getfield 30, 3) := dk_180 0 30 (dk_at dksX4_paid_4 10 rfl rfl)
theorem dX4_paid_105 : decode cX4_paid 105 = .ok (.aload_n 0, 1) := dk_42 (dk_at dksX4_paid_4 13 rfl rfl)
theorem dX4_paid_106 : decode cX4_paid 106 = .ok (.getfield 80, 3) := dk_180 0 80 (dk_at dksX4_paid_4 14 rfl rfl)
theorem dX4_paid_109 : decode cX4_paid 109 = .ok (.iload 9, 2) := dk_21 9 (dk_at dksX4_paid_4 17 rfl rfl)
theorem dX4_paid_111 : decode cX4_paid 111 = .ok (.iaload, 1) := dk_46 (dk_at dksX4_paid_4 19 rfl rfl)
theorem dX4_paid_112 : decode cX4_paid 112 = .ok (.iaload, 1) := dk_46 (dk_at dksX4_paid_4 20 rfl rfl)
theorem dX4_paid_113 : decode cX4_paid 113 = .ok (.i2l, 1) := dk_133 (dk_at dksX4_paid_4 21 rfl rfl)
theorem dX4_paid_114 : decode cX4_paid 114 = .ok (.ldiv, 1) := dk_109 (dk_at dksX4_paid_4 22 rfl rfl)
theorem dX4_paid_115 : decode cX4_paid 115 = .ok (.lstore 7, 2) := dk_55 7 (dk_at dksX4_paid_5 0 rfl rfl)
theorem dX4_paid_117 : decode cX4_paid 117 = .ok (.lload 7, 2) := dk_22 7 (dk_at dksX4_paid_5 2 rfl rfl)
theorem dX4_paid_119 : decode cX4_paid 119 = .ok (.ldc2_w 202, 3) := dk_20 0 202 (dk_at dksX4_paid_5 4 rfl rfl)
theorem dX4_paid_122 : decode cX4_paid 122 = .ok (.lcmp, 1) := dk_148 (dk_at dksX4_paid_5 7 rfl rfl)
theorem dX4_paid_123 : decode cX4_paid 123 = .ok (.ifCond .le 9, 3) := dk_158 0 9 (dk_at dksX4_paid_5 8 rfl rfl)
theorem dX4_paid_126 : decode cX4_paid 126 = .ok (.ldc2_w 202, 3) := dk_20 0 202 (dk_at dksX4_paid_5 11 rfl rfl)
theorem dX4_paid_129 : decode cX4_paid 129 = .ok (.goto 5, 3) := dk_167 0 5 (dk_at dksX4_paid_5 14 rfl rfl)
theorem dX4_paid_132 : decode cX4_paid 132 = .ok (.lload 7, 2) := dk_22 7 (dk_at dksX4_paid_5 17 rfl rfl)
theorem dX4_paid_134 : decode cX4_paid 134 = .ok (.lstore 7, 2) := dk_55 7 (dk_at dksX4_paid_5 19 rfl rfl)
theorem dX4_paid_136 : decode cX4_paid 136 = .ok (.iinc 9 1, 3) := dk_132 9 1 (dk_at dksX4_paid_5 21 rfl rfl)
theorem dX4_paid_139 : decode cX4_paid 139 = .ok (.goto (-61), 3) := dk_167 255 195 (dk_at dksX4_paid_6 0 rfl rfl)
theorem dX4_paid_142 : decode cX4_paid 142 = .ok (.iload 5, 2) := dk_21 5 (dk_at dksX4_paid_6 3 rfl rfl)
theorem dX4_paid_144 : decode cX4_paid 144 = .ok (.ifCond .lt 25, 3) := dk_155 0 25 (dk_at dksX4_paid_6 5 rfl rfl)
theorem dX4_paid_147 : decode cX4_paid 147 = .ok (.aload_n 0, 1) := dk_42 (dk_at dksX4_paid_6 8 rfl rfl)
theorem dX4_paid_148 : decode cX4_paid 148 = .ok (.getfield 60, 3) := dk_180 0 60 (dk_at dksX4_paid_6 9 rfl rfl)
theorem dX4_paid_151 : decode cX4_paid 151 = .ok (.bipush 8, 2) := dk_16 8 (dk_at dksX4_paid_6 12 rfl rfl)
theorem dX4_paid_153 : decode cX4_paid 153 = .ok (.iload_n 2, 1) := dk_28 (dk_at dksX4_paid_6 14 rfl rfl)
theorem dX4_paid_154 : decode cX4_paid 154 = .ok (.imul, 1) := dk_104 (dk_at dksX4_paid_6 15 rfl rfl)
theorem dX4_paid_155 : decode cX4_paid 155 = .ok (.iload_n 3, 1) := dk_29 (dk_at dksX4_paid_6 16 rfl rfl)
theorem dX4_paid_156 : decode cX4_paid 156 = .ok (.iadd, 1) := dk_96 (dk_at dksX4_paid_6 17 rfl rfl)
theorem dX4_paid_157 : decode cX4_paid 157 = .ok (.iaload, 1) := dk_46 (dk_at dksX4_paid_6 18 rfl rfl)
theorem dX4_paid_158 : decode cX4_paid 158 = .ok (.aload_n 0, 1) := dk_42 (dk_at dksX4_paid_6 19 rfl rfl)
theorem dX4_paid_159 : decode cX4_paid 159 = .ok (.getfield 331, 3) := dk_180 1 75 (dk_at dksX4_paid_6 20 rfl rfl)
theorem dX4_paid_162 : decode cX4_paid 162 = .ok (.if_icmp .ne 7, 3) := dk_160 0 7 (dk_at dksX4_paid_7 0 rfl rfl)
theorem dX4_paid_165 : decode cX4_paid 165 = .ok (.iconst 1, 1) := dk_4 (dk_at dksX4_paid_7 3 rfl rfl)
theorem dX4_paid_166 : decode cX4_paid 166 = .ok (.goto 4, 3) := dk_167 0 4 (dk_at dksX4_paid_7 4 rfl rfl)
theorem dX4_paid_169 : decode cX4_paid 169 = .ok (.iconst 0, 1) := dk_3 (dk_at dksX4_paid_7 7 rfl rfl)
theorem dX4_paid_170 : decode cX4_paid 170 = .ok (.istore 9, 2) := dk_54 9 (dk_at dksX4_paid_7 8 rfl rfl)
theorem dX4_paid_172 : decode cX4_paid 172 = .ok (.iload 6, 2) := dk_21 6 (dk_at dksX4_paid_7 10 rfl rfl)
theorem dX4_paid_174 : decode cX4_paid 174 = .ok (.ifCond .lt 15, 3) := dk_155 0 15 (dk_at dksX4_paid_7 12 rfl rfl)
theorem dX4_paid_177 : decode cX4_paid 177 = .ok (.aload_n 0, 1) := dk_42 (dk_at dksX4_paid_7 15 rfl rfl)
theorem dX4_paid_178 : decode cX4_paid 178 = .ok (.iload_n 2, 1) := dk_28 (dk_at dksX4_paid_7 16 rfl rfl)
theorem dX4_paid_179 : decode cX4_paid 179 = .ok (.invokevirtual 348, 3) := dk_182 1 92 (dk_at dksX4_paid_7 17 rfl rfl)
theorem dX4_paid_182 : decode cX4_paid 182 = .ok (.ifCond .eq 7, 3) := dk_153 0 7 (dk_at dksX4_paid_7 20 rfl rfl)
theorem dX4_paid_185 : decode cX4_paid 185 = .ok (.iconst 1, 1) := dk_4 (dk_at dksX4_paid_7 23 rfl rfl)
theorem dX4_paid_186 : decode cX4_paid 186 = .ok (.goto 4, 3) := dk_167 0 4 (dk_at dksX4_paid_8 0 rfl rfl)
theorem dX4_paid_189 : decode cX4_paid 189 = .ok (.iconst 0, 1) := dk_3 (dk_at dksX4_paid_8 3 rfl rfl)
theorem dX4_paid_190 : decode cX4_paid 190 = .ok (.istore 10, 2) := dk_54 10 (dk_at dksX4_paid_8 4 rfl rfl)
theorem dX4_paid_192 : decode cX4_paid 192 = .ok (.iload 9, 2) := dk_21 9 (dk_at dksX4_paid_8 6 rfl rfl)
theorem dX4_paid_194 : decode cX4_paid 194 = .ok (.ifCond .ne 12, 3) := dk_154 0 12 (dk_at dksX4_paid_8 8 rfl rfl)
theorem dX4_paid_197 : decode cX4_paid 197 = .ok (.iload 10, 2) := dk_21 10 (dk_at dksX4_paid_8 11 rfl rfl)
theorem dX4_paid_199 : decode cX4_paid 199 = .ok (.ifCond .ne 7, 3) := dk_154 0 7 (dk_at dksX4_paid_8 13 rfl rfl)
theorem dX4_paid_202 : decode cX4_paid 202 = .ok (.lload 7, 2) := dk_22 7 (dk_at dksX4_paid_8 16 rfl rfl)
theorem dX4_paid_204 : decode cX4_paid 204 = .ok (.l2i, 1) := dk_136 (dk_at dksX4_paid_8 18 rfl rfl)
theorem dX4_paid_205 : decode cX4_paid 205 = .ok (.ireturn, 1) := dk_172 (dk_at dksX4_paid_8 19 rfl rfl)
theorem dX4_paid_206 : decode cX4_paid 206 = .ok (.aload_n 0, 1) := dk_42 (dk_at dksX4_paid_8 20 rfl rfl)
theorem dX4_paid_207 : decode cX4_paid 207 = .ok (.iload 9, 2) := dk_21 9 (dk_at dksX4_paid_8 21 rfl rfl)
theorem dX4_paid_209 : decode cX4_paid 209 = .ok (.ifCond .eq 20, 3) := dk_153 0 20 (dk_at dksX4_paid_9 0 rfl rfl)
theorem dX4_paid_212 : decode cX4_paid 212 = .ok (.iload 10, 2) := dk_21 10 (dk_at dksX4_paid_9 3 rfl rfl)
theorem dX4_paid_214 : decode cX4_paid 214 = .ok (.ifCond .eq 10, 3) := dk_153 0 10 (dk_at dksX4_paid_9 5 rfl rfl)
theorem dX4_paid_217 : decode cX4_paid 217 = .ok (.iload 5, 2) := dk_21 5 (dk_at dksX4_paid_9 8 rfl rfl)
theorem dX4_paid_219 : decode cX4_paid 219 = .ok (.iload 6, 2) := dk_21 6 (dk_at dksX4_paid_9 10 rfl rfl)
theorem dX4_paid_221 : decode cX4_paid 221 = .ok (.if_icmp .ge 8, 3) := dk_162 0 8 (dk_at dksX4_paid_9 12 rfl rfl)
theorem dX4_paid_224 : decode cX4_paid 224 = .ok (.iload 5, 2) := dk_21 5 (dk_at dksX4_paid_9 15 rfl rfl)
theorem dX4_paid_226 : decode cX4_paid 226 = .ok (.goto 5, 3) := dk_167 0 5 (dk_at dksX4_paid_9 17 rfl rfl)
theorem dX4_paid_229 : decode cX4_paid 229 = .ok (.iload 6, 2) := dk_21 6 (dk_at dksX4_paid_9 20 rfl rfl)
theorem dX4_paid_231 : decode cX4_paid 231 = .ok (.putfield 338, 3) := dk_181 1 82 (dk_at dksX4_paid_10 0 rfl rfl)
theorem dX4_paid_234 : decode cX4_paid 234 = .ok (.iconst 0, 1) := dk_3 (dk_at dksX4_paid_10 3 rfl rfl)
theorem dX4_paid_235 : decode cX4_paid 235 = .ok (.ireturn, 1) := dk_172 (dk_at dksX4_paid_10 4 rfl rfl)
abbrev cX4_paidAnywhere : ByteArray := prog_33_method_35_code
def yX4_paidAnywhere : MethodName := ⟨RX4, "paidAnywhere", "(I)Z"⟩
def dkwX4_paidAnywhere_1 : List UInt8 := [29, 96, 46, 42, 180, 1, 75, 160, 0, 7, 4, 167, 0, 4, 3, 61, 132, 3, 1, 167, 255, 217, 28, 172]
abbrev dktX4_paidAnywhere_1 : List UInt8 := dkwX4_paidAnywhere_1 ++ []
def dkwX4_paidAnywhere_0 : List UInt8 := [3, 61, 3, 62, 29, 42, 180, 1, 65, 162, 0, 37, 28, 154, 0, 21, 42, 180, 0, 60, 16, 8, 27, 104]
abbrev dktX4_paidAnywhere_0 : List UInt8 := dkwX4_paidAnywhere_0 ++ dktX4_paidAnywhere_1
theorem dksX4_paidAnywhere_0 : cX4_paidAnywhere.data.toList.drop 0 = dktX4_paidAnywhere_0 := by decide +kernel
theorem dksX4_paidAnywhere_1 : cX4_paidAnywhere.data.toList.drop 24 = dktX4_paidAnywhere_1 := dk_seg dksX4_paidAnywhere_0 24 rfl rfl
theorem dX4_paidAnywhere_0 : decode cX4_paidAnywhere 0 = .ok (.iconst 0, 1) := dk_3 (dk_at dksX4_paidAnywhere_0 0 rfl rfl)
theorem dX4_paidAnywhere_1 : decode cX4_paidAnywhere 1 = .ok (.istore_n 2, 1) := dk_61 (dk_at dksX4_paidAnywhere_0 1 rfl rfl)
theorem dX4_paidAnywhere_2 : decode cX4_paidAnywhere 2 = .ok (.iconst 0, 1) := dk_3 (dk_at dksX4_paidAnywhere_0 2 rfl rfl)
theorem dX4_paidAnywhere_3 : decode cX4_paidAnywhere 3 = .ok (.istore_n 3, 1) := dk_62 (dk_at dksX4_paidAnywhere_0 3 rfl rfl)
theorem dX4_paidAnywhere_4 : decode cX4_paidAnywhere 4 = .ok (.iload_n 3, 1) := dk_29 (dk_at dksX4_paidAnywhere_0 4 rfl rfl)
theorem dX4_paidAnywhere_5 : decode cX4_paidAnywhere 5 = .ok (.aload_n 0, 1) := dk_42 (dk_at dksX4_paidAnywhere_0 5 rfl rfl)
theorem dX4_paidAnywhere_6 : decode cX4_paidAnywhere 6 = .ok (.getfield 321, 3) := dk_180 1 65 (dk_at dksX4_paidAnywhere_0 6 rfl rfl)
theorem dX4_paidAnywhere_9 : decode cX4_paidAnywhere 9 = .ok (.if_icmp .ge 37, 3) := dk_162 0 37 (dk_at dksX4_paidAnywhere_0 9 rfl rfl)
theorem dX4_paidAnywhere_12 : decode cX4_paidAnywhere 12 = .ok (.iload_n 2, 1) := dk_28 (dk_at dksX4_paidAnywhere_0 12 rfl rfl)
theorem dX4_paidAnywhere_13 : decode cX4_paidAnywhere 13 = .ok (.ifCond .ne 21, 3) := dk_154 0 21 (dk_at dksX4_paidAnywhere_0 13 rfl rfl)
theorem dX4_paidAnywhere_16 : decode cX4_paidAnywhere 16 = .ok (.aload_n 0, 1) := dk_42 (dk_at dksX4_paidAnywhere_0 16 rfl rfl)
theorem dX4_paidAnywhere_17 : decode cX4_paidAnywhere 17 = .ok (.getfield 60, 3) := dk_180 0 60 (dk_at dksX4_paidAnywhere_0 17 rfl rfl)
theorem dX4_paidAnywhere_20 : decode cX4_paidAnywhere 20 = .ok (.bipush 8, 2) := dk_16 8 (dk_at dksX4_paidAnywhere_0 20 rfl rfl)
theorem dX4_paidAnywhere_22 : decode cX4_paidAnywhere 22 = .ok (.iload_n 1, 1) := dk_27 (dk_at dksX4_paidAnywhere_0 22 rfl rfl)
theorem dX4_paidAnywhere_23 : decode cX4_paidAnywhere 23 = .ok (.imul, 1) := dk_104 (dk_at dksX4_paidAnywhere_0 23 rfl rfl)
theorem dX4_paidAnywhere_24 : decode cX4_paidAnywhere 24 = .ok (.iload_n 3, 1) := dk_29 (dk_at dksX4_paidAnywhere_1 0 rfl rfl)
theorem dX4_paidAnywhere_25 : decode cX4_paidAnywhere 25 = .ok (.iadd, 1) := dk_96 (dk_at dksX4_paidAnywhere_1 1 rfl rfl)
theorem dX4_paidAnywhere_26 : decode cX4_paidAnywhere 26 = .ok (.iaload, 1) := dk_46 (dk_at dksX4_paidAnywhere_1 2 rfl rfl)
theorem dX4_paidAnywhere_27 : decode cX4_paidAnywhere 27 = .ok (.aload_n 0, 1) := dk_42 (dk_at dksX4_paidAnywhere_1 3 rfl rfl)
theorem dX4_paidAnywhere_28 : decode cX4_paidAnywhere 28 = .ok (.getfield 331, 3) := dk_180 1 75 (dk_at dksX4_paidAnywhere_1 4 rfl rfl)
theorem dX4_paidAnywhere_31 : decode cX4_paidAnywhere 31 = .ok (.if_icmp .ne 7, 3) := dk_160 0 7 (dk_at dksX4_paidAnywhere_1 7 rfl rfl)
theorem dX4_paidAnywhere_34 : decode cX4_paidAnywhere 34 = .ok (.iconst 1, 1) := dk_4 (dk_at dksX4_paidAnywhere_1 10 rfl rfl)
theorem dX4_paidAnywhere_35 : decode cX4_paidAnywhere 35 = .ok (.goto 4, 3) := dk_167 0 4 (dk_at dksX4_paidAnywhere_1 11 rfl rfl)
theorem dX4_paidAnywhere_38 : decode cX4_paidAnywhere 38 = .ok (.iconst 0, 1) := dk_3 (dk_at dksX4_paidAnywhere_1 14 rfl rfl)
theorem dX4_paidAnywhere_39 : decode cX4_paidAnywhere 39 = .ok (.istore_n 2, 1) := dk_61 (dk_at dksX4_paidAnywhere_1 15 rfl rfl)
theorem dX4_paidAnywhere_40 : decode cX4_paidAnywhere 40 = .ok (.iinc 3 1, 3) := dk_132 3 1 (dk_at dksX4_paidAnywhere_1 16 rfl rfl)
theorem dX4_paidAnywhere_43 : decode cX4_paidAnywhere 43 = .ok (.goto (-39), 3) := dk_167 255 217 (dk_at dksX4_paidAnywhere_1 19 rfl rfl)
theorem dX4_paidAnywhere_46 : decode cX4_paidAnywhere 46 = .ok (.iload_n 2, 1) := dk_28 (dk_at dksX4_paidAnywhere_1 22 rfl rfl)
theorem dX4_paidAnywhere_47 : decode cX4_paidAnywhere 47 = .ok (.ireturn, 1) := dk_172 (dk_at dksX4_paidAnywhere_1 23 rfl rfl)
abbrev cX4_line : ByteArray := prog_33_method_42_code
def yX4_line : MethodName := ⟨RX4, "line", "(IIJ)V"⟩
def dkwX4_line_5 : List UInt8 := [181, 1, 117, 177]
abbrev dktX4_line_5 : List UInt8 := dkwX4_line_5 ++ []
def dkwX4_line_4 : List UInt8 := [180, 1, 114, 33, 136, 79, 42, 89, 180, 1, 114, 4, 96, 181, 1, 114, 42, 89, 180, 1, 117, 33, 97]
abbrev dktX4_line_4 : List UInt8 := dkwX4_line_4 ++ dktX4_line_5
def dkwX4_line_3 : List UInt8 := [180, 0, 89, 42, 180, 1, 114, 27, 79, 42, 180, 0, 92, 42, 180, 1, 114, 28, 79, 42, 180, 0, 95, 42]
abbrev dktX4_line_3 : List UInt8 := dkwX4_line_3 ++ dktX4_line_4
def dkwX4_line_2 : List UInt8 := [180, 0, 95, 184, 0, 207, 181, 0, 95, 42, 180, 0, 86, 42, 180, 1, 114, 42, 180, 1, 75, 79, 42]
abbrev dktX4_line_2 : List UInt8 := dkwX4_line_2 ++ dktX4_line_3
def dkwX4_line_1 : List UInt8 := [42, 180, 0, 89, 184, 0, 207, 181, 0, 89, 42, 42, 180, 0, 92, 184, 0, 207, 181, 0, 92, 42, 42]
abbrev dktX4_line_1 : List UInt8 := dkwX4_line_1 ++ dktX4_line_2
def dkwX4_line_0 : List UInt8 := [42, 180, 1, 114, 42, 180, 0, 86, 190, 160, 0, 47, 42, 42, 180, 0, 86, 184, 0, 207, 181, 0, 86, 42]
abbrev dktX4_line_0 : List UInt8 := dkwX4_line_0 ++ dktX4_line_1
theorem dksX4_line_0 : cX4_line.data.toList.drop 0 = dktX4_line_0 := by decide +kernel
theorem dksX4_line_1 : cX4_line.data.toList.drop 24 = dktX4_line_1 := dk_seg dksX4_line_0 24 rfl rfl
theorem dksX4_line_2 : cX4_line.data.toList.drop 47 = dktX4_line_2 := dk_seg dksX4_line_1 23 rfl rfl
theorem dksX4_line_3 : cX4_line.data.toList.drop 70 = dktX4_line_3 := dk_seg dksX4_line_2 23 rfl rfl
theorem dksX4_line_4 : cX4_line.data.toList.drop 94 = dktX4_line_4 := dk_seg dksX4_line_3 24 rfl rfl
theorem dksX4_line_5 : cX4_line.data.toList.drop 117 = dktX4_line_5 := dk_seg dksX4_line_4 23 rfl rfl
theorem dX4_line_0 : decode cX4_line 0 = .ok (.aload_n 0, 1) := dk_42 (dk_at dksX4_line_0 0 rfl rfl)
theorem dX4_line_1 : decode cX4_line 1 = .ok (.getfield 370, 3) := dk_180 1 114 (dk_at dksX4_line_0 1 rfl rfl)
theorem dX4_line_4 : decode cX4_line 4 = .ok (.aload_n 0, 1) := dk_42 (dk_at dksX4_line_0 4 rfl rfl)
theorem dX4_line_5 : decode cX4_line 5 = .ok (.getfield 86, 3) := dk_180 0 86 (dk_at dksX4_line_0 5 rfl rfl)
theorem dX4_line_8 : decode cX4_line 8 = .ok (.arraylength, 1) := dk_190 (dk_at dksX4_line_0 8 rfl rfl)
theorem dX4_line_9 : decode cX4_line 9 = .ok (.if_icmp .ne 47, 3) := dk_160 0 47 (dk_at dksX4_line_0 9 rfl rfl)
theorem dX4_line_12 : decode cX4_line 12 = .ok (.aload_n 0, 1) := dk_42 (dk_at dksX4_line_0 12 rfl rfl)
theorem dX4_line_13 : decode cX4_line 13 = .ok (.aload_n 0, 1) := dk_42 (dk_at dksX4_line_0 13 rfl rfl)
theorem dX4_line_14 : decode cX4_line 14 = .ok (.getfield 86, 3) := dk_180 0 86 (dk_at dksX4_line_0 14 rfl rfl)
theorem dX4_line_17 : decode cX4_line 17 = .ok (.invokestatic 207, 3) := dk_184 0 207 (dk_at dksX4_line_0 17 rfl rfl)
theorem dX4_line_20 : decode cX4_line 20 = .ok (.putfield 86, 3) := dk_181 0 86 (dk_at dksX4_line_0 20 rfl rfl)
theorem dX4_line_23 : decode cX4_line 23 = .ok (.aload_n 0, 1) := dk_42 (dk_at dksX4_line_0 23 rfl rfl)
theorem dX4_line_24 : decode cX4_line 24 = .ok (.aload_n 0, 1) := dk_42 (dk_at dksX4_line_1 0 rfl rfl)
theorem dX4_line_25 : decode cX4_line 25 = .ok (.getfield 89, 3) := dk_180 0 89 (dk_at dksX4_line_1 1 rfl rfl)
theorem dX4_line_28 : decode cX4_line 28 = .ok (.invokestatic 207, 3) := dk_184 0 207 (dk_at dksX4_line_1 4 rfl rfl)
theorem dX4_line_31 : decode cX4_line 31 = .ok (.putfield 89, 3) := dk_181 0 89 (dk_at dksX4_line_1 7 rfl rfl)
theorem dX4_line_34 : decode cX4_line 34 = .ok (.aload_n 0, 1) := dk_42 (dk_at dksX4_line_1 10 rfl rfl)
theorem dX4_line_35 : decode cX4_line 35 = .ok (.aload_n 0, 1) := dk_42 (dk_at dksX4_line_1 11 rfl rfl)
theorem dX4_line_36 : decode cX4_line 36 = .ok (.getfield 92, 3) := dk_180 0 92 (dk_at dksX4_line_1 12 rfl rfl)
theorem dX4_line_39 : decode cX4_line 39 = .ok (.invokestatic 207, 3) := dk_184 0 207 (dk_at dksX4_line_1 15 rfl rfl)
theorem dX4_line_42 : decode cX4_line 42 = .ok (.putfield 92, 3) := dk_181 0 92 (dk_at dksX4_line_1 18 rfl rfl)
theorem dX4_line_45 : decode cX4_line 45 = .ok (.aload_n 0, 1) := dk_42 (dk_at dksX4_line_1 21 rfl rfl)
theorem dX4_line_46 : decode cX4_line 46 = .ok (.aload_n 0, 1) := dk_42 (dk_at dksX4_line_1 22 rfl rfl)
theorem dX4_line_47 : decode cX4_line 47 = .ok (.getfield 95, 3) := dk_180 0 95 (dk_at dksX4_line_2 0 rfl rfl)
theorem dX4_line_50 : decode cX4_line 50 = .ok (.invokestatic 207, 3) := dk_184 0 207 (dk_at dksX4_line_2 3 rfl rfl)
theorem dX4_line_53 : decode cX4_line 53 = .ok (.putfield 95, 3) := dk_181 0 95 (dk_at dksX4_line_2 6 rfl rfl)
theorem dX4_line_56 : decode cX4_line 56 = .ok (.aload_n 0, 1) := dk_42 (dk_at dksX4_line_2 9 rfl rfl)
theorem dX4_line_57 : decode cX4_line 57 = .ok (.getfield 86, 3) := dk_180 0 86 (dk_at dksX4_line_2 10 rfl rfl)
theorem dX4_line_60 : decode cX4_line 60 = .ok (.aload_n 0, 1) := dk_42 (dk_at dksX4_line_2 13 rfl rfl)
theorem dX4_line_61 : decode cX4_line 61 = .ok (.getfield 370, 3) := dk_180 1 114 (dk_at dksX4_line_2 14 rfl rfl)
theorem dX4_line_64 : decode cX4_line 64 = .ok (.aload_n 0, 1) := dk_42 (dk_at dksX4_line_2 17 rfl rfl)
theorem dX4_line_65 : decode cX4_line 65 = .ok (.getfield 331, 3) := dk_180 1 75 (dk_at dksX4_line_2 18 rfl rfl)
theorem dX4_line_68 : decode cX4_line 68 = .ok (.iastore, 1) := dk_79 (dk_at dksX4_line_2 21 rfl rfl)
theorem dX4_line_69 : decode cX4_line 69 = .ok (.aload_n 0, 1) := dk_42 (dk_at dksX4_line_2 22 rfl rfl)
theorem dX4_line_70 : decode cX4_line 70 = .ok (.getfield 89, 3) := dk_180 0 89 (dk_at dksX4_line_3 0 rfl rfl)
theorem dX4_line_73 : decode cX4_line 73 = .ok (.aload_n 0, 1) := dk_42 (dk_at dksX4_line_3 3 rfl rfl)
theorem dX4_line_74 : decode cX4_line 74 = .ok (.getfield 370, 3) := dk_180 1 114 (dk_at dksX4_line_3 4 rfl rfl)
theorem dX4_line_77 : decode cX4_line 77 = .ok (.iload_n 1, 1) := dk_27 (dk_at dksX4_line_3 7 rfl rfl)
theorem dX4_line_78 : decode cX4_line 78 = .ok (.iastore, 1) := dk_79 (dk_at dksX4_line_3 8 rfl rfl)
theorem dX4_line_79 : decode cX4_line 79 = .ok (.aload_n 0, 1) := dk_42 (dk_at dksX4_line_3 9 rfl rfl)
theorem dX4_line_80 : decode cX4_line 80 = .ok (.getfield 92, 3) := dk_180 0 92 (dk_at dksX4_line_3 10 rfl rfl)
theorem dX4_line_83 : decode cX4_line 83 = .ok (.aload_n 0, 1) := dk_42 (dk_at dksX4_line_3 13 rfl rfl)
theorem dX4_line_84 : decode cX4_line 84 = .ok (.getfield 370, 3) := dk_180 1 114 (dk_at dksX4_line_3 14 rfl rfl)
theorem dX4_line_87 : decode cX4_line 87 = .ok (.iload_n 2, 1) := dk_28 (dk_at dksX4_line_3 17 rfl rfl)
theorem dX4_line_88 : decode cX4_line 88 = .ok (.iastore, 1) := dk_79 (dk_at dksX4_line_3 18 rfl rfl)
theorem dX4_line_89 : decode cX4_line 89 = .ok (.aload_n 0, 1) := dk_42 (dk_at dksX4_line_3 19 rfl rfl)
theorem dX4_line_90 : decode cX4_line 90 = .ok (.getfield 95, 3) := dk_180 0 95 (dk_at dksX4_line_3 20 rfl rfl)
theorem dX4_line_93 : decode cX4_line 93 = .ok (.aload_n 0, 1) := dk_42 (dk_at dksX4_line_3 23 rfl rfl)
theorem dX4_line_94 : decode cX4_line 94 = .ok (.getfield 370, 3) := dk_180 1 114 (dk_at dksX4_line_4 0 rfl rfl)
theorem dX4_line_97 : decode cX4_line 97 = .ok (.lload_n 3, 1) := dk_33 (dk_at dksX4_line_4 3 rfl rfl)
theorem dX4_line_98 : decode cX4_line 98 = .ok (.l2i, 1) := dk_136 (dk_at dksX4_line_4 4 rfl rfl)
theorem dX4_line_99 : decode cX4_line 99 = .ok (.iastore, 1) := dk_79 (dk_at dksX4_line_4 5 rfl rfl)
theorem dX4_line_100 : decode cX4_line 100 = .ok (.aload_n 0, 1) := dk_42 (dk_at dksX4_line_4 6 rfl rfl)
theorem dX4_line_101 : decode cX4_line 101 = .ok (.dup, 1) := dk_89 (dk_at dksX4_line_4 7 rfl rfl)
theorem dX4_line_102 : decode cX4_line 102 = .ok (.getfield 370, 3) := dk_180 1 114 (dk_at dksX4_line_4 8 rfl rfl)
theorem dX4_line_105 : decode cX4_line 105 = .ok (.iconst 1, 1) := dk_4 (dk_at dksX4_line_4 11 rfl rfl)
theorem dX4_line_106 : decode cX4_line 106 = .ok (.iadd, 1) := dk_96 (dk_at dksX4_line_4 12 rfl rfl)
theorem dX4_line_107 : decode cX4_line 107 = .ok (.putfield 370, 3) := dk_181 1 114 (dk_at dksX4_line_4 13 rfl rfl)
theorem dX4_line_110 : decode cX4_line 110 = .ok (.aload_n 0, 1) := dk_42 (dk_at dksX4_line_4 16 rfl rfl)
theorem dX4_line_111 : decode cX4_line 111 = .ok (.dup, 1) := dk_89 (dk_at dksX4_line_4 17 rfl rfl)
theorem dX4_line_112 : decode cX4_line 112 = .ok (.getfield 373, 3) := dk_180 1 117 (dk_at dksX4_line_4 18 rfl rfl)
theorem dX4_line_115 : decode cX4_line 115 = .ok (.lload_n 3, 1) := dk_33 (dk_at dksX4_line_4 21 rfl rfl)
theorem dX4_line_116 : decode cX4_line 116 = .ok (.ladd, 1) := dk_97 (dk_at dksX4_line_4 22 rfl rfl)
theorem dX4_line_117 : decode cX4_line 117 = .ok (.putfield 373, 3) := dk_181 1 117 (dk_at dksX4_line_5 0 rfl rfl)
theorem dX4_line_120 : decode cX4_line 120 = .ok (.return_, 1) := dk_177 (dk_at dksX4_line_5 3 rfl rfl)
abbrev cX4_clause_2 : ByteArray := prog_33_method_40_code
def yX4_clause_2 : MethodName := ⟨RX4, "clause", "()I"⟩
def dkwX4_clause_2_0 : List UInt8 := [42, 3, 181, 0, 146, 42, 180, 0, 83, 172]
abbrev dktX4_clause_2_0 : List UInt8 := dkwX4_clause_2_0 ++ []
theorem dksX4_clause_2_0 : cX4_clause_2.data.toList.drop 0 = dktX4_clause_2_0 := by decide +kernel
theorem dX4_clause_2_0 : decode cX4_clause_2 0 = .ok (.aload_n 0, 1) := dk_42 (dk_at dksX4_clause_2_0 0 rfl rfl)
theorem dX4_clause_2_1 : decode cX4_clause_2 1 = .ok (.iconst 0, 1) := dk_3 (dk_at dksX4_clause_2_0 1 rfl rfl)
theorem dX4_clause_2_2 : decode cX4_clause_2 2 = .ok (.putfield 146, 3) := dk_181 0 146 (dk_at dksX4_clause_2_0 2 rfl rfl)
theorem dX4_clause_2_5 : decode cX4_clause_2 5 = .ok (.aload_n 0, 1) := dk_42 (dk_at dksX4_clause_2_0 5 rfl rfl)
theorem dX4_clause_2_6 : decode cX4_clause_2 6 = .ok (.getfield 83, 3) := dk_180 0 83 (dk_at dksX4_clause_2_0 6 rfl rfl)
theorem dX4_clause_2_9 : decode cX4_clause_2 9 = .ok (.ireturn, 1) := dk_172 (dk_at dksX4_clause_2_0 9 rfl rfl)
abbrev cX4_asked : ByteArray := prog_33_method_41_code
def yX4_asked : MethodName := ⟨RX4, "asked", "(III)I"⟩
def dkwX4_asked_2 : List UInt8 := [172]
abbrev dktX4_asked_2 : List UInt8 := dkwX4_asked_2 ++ []
def dkwX4_asked_1 : List UInt8 := [154, 0, 7, 4, 167, 0, 4, 3, 4, 182, 1, 52, 153, 0, 5, 3, 172, 42, 27, 28, 29, 182, 1, 98]
abbrev dktX4_asked_1 : List UInt8 := dkwX4_asked_1 ++ dktX4_asked_2
def dkwX4_asked_0 : List UInt8 := [42, 3, 181, 0, 146, 42, 27, 155, 0, 20, 27, 42, 180, 1, 33, 162, 0, 12, 42, 28, 29, 182, 1, 95]
abbrev dktX4_asked_0 : List UInt8 := dkwX4_asked_0 ++ dktX4_asked_1
theorem dksX4_asked_0 : cX4_asked.data.toList.drop 0 = dktX4_asked_0 := by decide +kernel
theorem dksX4_asked_1 : cX4_asked.data.toList.drop 24 = dktX4_asked_1 := dk_seg dksX4_asked_0 24 rfl rfl
theorem dksX4_asked_2 : cX4_asked.data.toList.drop 48 = dktX4_asked_2 := dk_seg dksX4_asked_1 24 rfl rfl
theorem dX4_asked_0 : decode cX4_asked 0 = .ok (.aload_n 0, 1) := dk_42 (dk_at dksX4_asked_0 0 rfl rfl)
theorem dX4_asked_1 : decode cX4_asked 1 = .ok (.iconst 0, 1) := dk_3 (dk_at dksX4_asked_0 1 rfl rfl)
theorem dX4_asked_2 : decode cX4_asked 2 = .ok (.putfield 146, 3) := dk_181 0 146 (dk_at dksX4_asked_0 2 rfl rfl)
theorem dX4_asked_5 : decode cX4_asked 5 = .ok (.aload_n 0, 1) := dk_42 (dk_at dksX4_asked_0 5 rfl rfl)
theorem dX4_asked_6 : decode cX4_asked 6 = .ok (.iload_n 1, 1) := dk_27 (dk_at dksX4_asked_0 6 rfl rfl)
theorem dX4_asked_7 : decode cX4_asked 7 = .ok (.ifCond .lt 20, 3) := dk_155 0 20 (dk_at dksX4_asked_0 7 rfl rfl)
theorem dX4_asked_10 : decode cX4_asked 10 = .ok (.iload_n 1, 1) := dk_27 (dk_at dksX4_asked_0 10 rfl rfl)
theorem dX4_asked_11 : decode cX4_asked 11 = .ok (.aload_n 0, 1) := dk_42 (dk_at dksX4_asked_0 11 rfl rfl)
theorem dX4_asked_12 : decode cX4_asked 12 = .ok (.getfield 289, 3) := dk_180 1 33 (dk_at dksX4_asked_0 12 rfl rfl)
theorem dX4_asked_15 : decode cX4_asked 15 = .ok (.if_icmp .ge 12, 3) := dk_162 0 12 (dk_at dksX4_asked_0 15 rfl rfl)
theorem dX4_asked_18 : decode cX4_asked 18 = .ok (.aload_n 0, 1) := dk_42 (dk_at dksX4_asked_0 18 rfl rfl)
theorem dX4_asked_19 : decode cX4_asked 19 = .ok (.iload_n 2, 1) := dk_28 (dk_at dksX4_asked_0 19 rfl rfl)
theorem dX4_asked_20 : decode cX4_asked 20 = .ok (.iload_n 3, 1) := dk_29 (dk_at dksX4_asked_0 20 rfl rfl)
theorem dX4_asked_21 : decode cX4_asked 21 = .ok (.invokevirtual 351, 3) := dk_182 1 95 (dk_at dksX4_asked_0 21 rfl rfl)
theorem dX4_asked_24 : decode cX4_asked 24 = .ok (.ifCond .ne 7, 3) := dk_154 0 7 (dk_at dksX4_asked_1 0 rfl rfl)
theorem dX4_asked_27 : decode cX4_asked 27 = .ok (.iconst 1, 1) := dk_4 (dk_at dksX4_asked_1 3 rfl rfl)
theorem dX4_asked_28 : decode cX4_asked 28 = .ok (.goto 4, 3) := dk_167 0 4 (dk_at dksX4_asked_1 4 rfl rfl)
theorem dX4_asked_31 : decode cX4_asked 31 = .ok (.iconst 0, 1) := dk_3 (dk_at dksX4_asked_1 7 rfl rfl)
theorem dX4_asked_32 : decode cX4_asked 32 = .ok (.iconst 1, 1) := dk_4 (dk_at dksX4_asked_1 8 rfl rfl)
theorem dX4_asked_33 : decode cX4_asked 33 = .ok (.invokevirtual 308, 3) := dk_182 1 52 (dk_at dksX4_asked_1 9 rfl rfl)
theorem dX4_asked_36 : decode cX4_asked 36 = .ok (.ifCond .eq 5, 3) := dk_153 0 5 (dk_at dksX4_asked_1 12 rfl rfl)
theorem dX4_asked_39 : decode cX4_asked 39 = .ok (.iconst 0, 1) := dk_3 (dk_at dksX4_asked_1 15 rfl rfl)
theorem dX4_asked_40 : decode cX4_asked 40 = .ok (.ireturn, 1) := dk_172 (dk_at dksX4_asked_1 16 rfl rfl)
theorem dX4_asked_41 : decode cX4_asked 41 = .ok (.aload_n 0, 1) := dk_42 (dk_at dksX4_asked_1 17 rfl rfl)
theorem dX4_asked_42 : decode cX4_asked 42 = .ok (.iload_n 1, 1) := dk_27 (dk_at dksX4_asked_1 18 rfl rfl)
theorem dX4_asked_43 : decode cX4_asked 43 = .ok (.iload_n 2, 1) := dk_28 (dk_at dksX4_asked_1 19 rfl rfl)
theorem dX4_asked_44 : decode cX4_asked 44 = .ok (.iload_n 3, 1) := dk_29 (dk_at dksX4_asked_1 20 rfl rfl)
theorem dX4_asked_45 : decode cX4_asked 45 = .ok (.invokevirtual 354, 3) := dk_182 1 98 (dk_at dksX4_asked_1 21 rfl rfl)
theorem dX4_asked_48 : decode cX4_asked 48 = .ok (.ireturn, 1) := dk_172 (dk_at dksX4_asked_2 0 rfl rfl)
abbrev cX4_farmer : ByteArray := prog_33_method_43_code
def yX4_farmer : MethodName := ⟨RX4, "farmer", "(I)I"⟩
def dkwX4_farmer_3 : List UInt8 := [4, 96, 181, 1, 122, 42, 180, 1, 122, 4, 100, 172]
abbrev dktX4_farmer_3 : List UInt8 := dkwX4_farmer_3 ++ []
def dkwX4_farmer_2 : List UInt8 := [182, 1, 52, 153, 0, 5, 3, 172, 42, 180, 0, 98, 42, 180, 1, 122, 27, 133, 80, 42, 89, 180, 1, 122]
abbrev dktX4_farmer_2 : List UInt8 := dkwX4_farmer_2 ++ dktX4_farmer_3
def dkwX4_farmer_1 : List UInt8 := [182, 1, 52, 154, 0, 25, 42, 42, 180, 1, 122, 16, 8, 160, 0, 7, 4, 167, 0, 4, 3, 5]
abbrev dktX4_farmer_1 : List UInt8 := dkwX4_farmer_1 ++ dktX4_farmer_2
def dkwX4_farmer_0 : List UInt8 := [42, 3, 181, 0, 146, 42, 27, 155, 0, 10, 27, 19, 1, 121, 164, 0, 7, 4, 167, 0, 4, 3, 4]
abbrev dktX4_farmer_0 : List UInt8 := dkwX4_farmer_0 ++ dktX4_farmer_1
theorem dksX4_farmer_0 : cX4_farmer.data.toList.drop 0 = dktX4_farmer_0 := by decide +kernel
theorem dksX4_farmer_1 : cX4_farmer.data.toList.drop 23 = dktX4_farmer_1 := dk_seg dksX4_farmer_0 23 rfl rfl
theorem dksX4_farmer_2 : cX4_farmer.data.toList.drop 45 = dktX4_farmer_2 := dk_seg dksX4_farmer_1 22 rfl rfl
theorem dksX4_farmer_3 : cX4_farmer.data.toList.drop 69 = dktX4_farmer_3 := dk_seg dksX4_farmer_2 24 rfl rfl
theorem dX4_farmer_0 : decode cX4_farmer 0 = .ok (.aload_n 0, 1) := dk_42 (dk_at dksX4_farmer_0 0 rfl rfl)
theorem dX4_farmer_1 : decode cX4_farmer 1 = .ok (.iconst 0, 1) := dk_3 (dk_at dksX4_farmer_0 1 rfl rfl)
theorem dX4_farmer_2 : decode cX4_farmer 2 = .ok (.putfield 146, 3) := dk_181 0 146 (dk_at dksX4_farmer_0 2 rfl rfl)
theorem dX4_farmer_5 : decode cX4_farmer 5 = .ok (.aload_n 0, 1) := dk_42 (dk_at dksX4_farmer_0 5 rfl rfl)
theorem dX4_farmer_6 : decode cX4_farmer 6 = .ok (.iload_n 1, 1) := dk_27 (dk_at dksX4_farmer_0 6 rfl rfl)
theorem dX4_farmer_7 : decode cX4_farmer 7 = .ok (.ifCond .lt 10, 3) := dk_155 0 10 (dk_at dksX4_farmer_0 7 rfl rfl)
theorem dX4_farmer_10 : decode cX4_farmer 10 = .ok (.iload_n 1, 1) := dk_27 (dk_at dksX4_farmer_0 10 rfl rfl)
theorem dX4_farmer_11 : decode cX4_farmer 11 = .ok (.ldc_w 377, 3) := dk_19 1 121 (dk_at dksX4_farmer_0 11 rfl rfl)
theorem dX4_farmer_14 : decode cX4_farmer 14 = .ok (.if_icmp .le 7, 3) := dk_164 0 7 (dk_at dksX4_farmer_0 14 rfl rfl)
theorem dX4_farmer_17 : decode cX4_farmer 17 = .ok (.iconst 1, 1) := dk_4 (dk_at dksX4_farmer_0 17 rfl rfl)
theorem dX4_farmer_18 : decode cX4_farmer 18 = .ok (.goto 4, 3) := dk_167 0 4 (dk_at dksX4_farmer_0 18 rfl rfl)
theorem dX4_farmer_21 : decode cX4_farmer 21 = .ok (.iconst 0, 1) := dk_3 (dk_at dksX4_farmer_0 21 rfl rfl)
theorem dX4_farmer_22 : decode cX4_farmer 22 = .ok (.iconst 1, 1) := dk_4 (dk_at dksX4_farmer_0 22 rfl rfl)
theorem dX4_farmer_23 : decode cX4_farmer 23 = .ok (.invokevirtual 308, 3) := dk_182 1 52 (dk_at dksX4_farmer_1 0 rfl rfl)
theorem dX4_farmer_26 : decode cX4_farmer 26 = .ok (.ifCond .ne 25, 3) := dk_154 0 25 (dk_at dksX4_farmer_1 3 rfl rfl)
theorem dX4_farmer_29 : decode cX4_farmer 29 = .ok (.aload_n 0, 1) := dk_42 (dk_at dksX4_farmer_1 6 rfl rfl)
theorem dX4_farmer_30 : decode cX4_farmer 30 = .ok (.aload_n 0, 1) := dk_42 (dk_at dksX4_farmer_1 7 rfl rfl)
theorem dX4_farmer_31 : decode cX4_farmer 31 = .ok (.getfield 378, 3) := dk_180 1 122 (dk_at dksX4_farmer_1 8 rfl rfl)
theorem dX4_farmer_34 : decode cX4_farmer 34 = .ok (.bipush 8, 2) := dk_16 8 (dk_at dksX4_farmer_1 11 rfl rfl)
theorem dX4_farmer_36 : decode cX4_farmer 36 = .ok (.if_icmp .ne 7, 3) := dk_160 0 7 (dk_at dksX4_farmer_1 13 rfl rfl)
theorem dX4_farmer_39 : decode cX4_farmer 39 = .ok (.iconst 1, 1) := dk_4 (dk_at dksX4_farmer_1 16 rfl rfl)
theorem dX4_farmer_40 : decode cX4_farmer 40 = .ok (.goto 4, 3) := dk_167 0 4 (dk_at dksX4_farmer_1 17 rfl rfl)
theorem dX4_farmer_43 : decode cX4_farmer 43 = .ok (.iconst 0, 1) := dk_3 (dk_at dksX4_farmer_1 20 rfl rfl)
theorem dX4_farmer_44 : decode cX4_farmer 44 = .ok (.iconst 2, 1) := dk_5 (dk_at dksX4_farmer_1 21 rfl rfl)
theorem dX4_farmer_45 : decode cX4_farmer 45 = .ok (.invokevirtual 308, 3) := dk_182 1 52 (dk_at dksX4_farmer_2 0 rfl rfl)
theorem dX4_farmer_48 : decode cX4_farmer 48 = .ok (.ifCond .eq 5, 3) := dk_153 0 5 (dk_at dksX4_farmer_2 3 rfl rfl)
theorem dX4_farmer_51 : decode cX4_farmer 51 = .ok (.iconst 0, 1) := dk_3 (dk_at dksX4_farmer_2 6 rfl rfl)
theorem dX4_farmer_52 : decode cX4_farmer 52 = .ok (.ireturn, 1) := dk_172 (dk_at dksX4_farmer_2 7 rfl rfl)
theorem dX4_farmer_53 : decode cX4_farmer 53 = .ok (.aload_n 0, 1) := dk_42 (dk_at dksX4_farmer_2 8 rfl rfl)
theorem dX4_farmer_54 : decode cX4_farmer 54 = .ok (.getfield 98, 3) := dk_180 0 98 (dk_at dksX4_farmer_2 9 rfl rfl)
theorem dX4_farmer_57 : decode cX4_farmer 57 = .ok (.aload_n 0, 1) := dk_42 (dk_at dksX4_farmer_2 12 rfl rfl)
theorem dX4_farmer_58 : decode cX4_farmer 58 = .ok (.getfield 378, 3) := dk_180 1 122 (dk_at dksX4_farmer_2 13 rfl rfl)
theorem dX4_farmer_61 : decode cX4_farmer 61 = .ok (.iload_n 1, 1) := dk_27 (dk_at dksX4_farmer_2 16 rfl rfl)
theorem dX4_farmer_62 : decode cX4_farmer 62 = .ok (.i2l, 1) := dk_133 (dk_at dksX4_farmer_2 17 rfl rfl)
theorem dX4_farmer_63 : decode cX4_farmer 63 = .ok (.lastore, 1) := dk_80 (dk_at dksX4_farmer_2 18 rfl rfl)
theorem dX4_farmer_64 : decode cX4_farmer 64 = .ok (.aload_n 0, 1) := dk_42 (dk_at dksX4_farmer_2 19 rfl rfl)
theorem dX4_farmer_65 : decode cX4_farmer 65 = .ok (.dup, 1) := dk_89 (dk_at dksX4_farmer_2 20 rfl rfl)
theorem dX4_farmer_66 : decode cX4_farmer 66 = .ok (.getfield 378, 3) := dk_180 1 122 (dk_at dksX4_farmer_2 21 rfl rfl)
theorem dX4_farmer_69 : decode cX4_farmer 69 = .ok (.iconst 1, 1) := dk_4 (dk_at dksX4_farmer_3 0 rfl rfl)
theorem dX4_farmer_70 : decode cX4_farmer 70 = .ok (.iadd, 1) := dk_96 (dk_at dksX4_farmer_3 1 rfl rfl)
theorem dX4_farmer_71 : decode cX4_farmer 71 = .ok (.putfield 378, 3) := dk_181 1 122 (dk_at dksX4_farmer_3 2 rfl rfl)
theorem dX4_farmer_74 : decode cX4_farmer 74 = .ok (.aload_n 0, 1) := dk_42 (dk_at dksX4_farmer_3 5 rfl rfl)
theorem dX4_farmer_75 : decode cX4_farmer 75 = .ok (.getfield 378, 3) := dk_180 1 122 (dk_at dksX4_farmer_3 6 rfl rfl)
theorem dX4_farmer_78 : decode cX4_farmer 78 = .ok (.iconst 1, 1) := dk_4 (dk_at dksX4_farmer_3 9 rfl rfl)
theorem dX4_farmer_79 : decode cX4_farmer 79 = .ok (.isub, 1) := dk_100 (dk_at dksX4_farmer_3 10 rfl rfl)
theorem dX4_farmer_80 : decode cX4_farmer 80 = .ok (.ireturn, 1) := dk_172 (dk_at dksX4_farmer_3 11 rfl rfl)
abbrev cX4_bid : ByteArray := prog_33_method_45_code
def yX4_bid : MethodName := ⟨RX4, "bid", "(IIII)I"⟩
def dkwX4_bid_6 : List UInt8 := [42, 180, 0, 101, 27, 92, 46, 4, 96, 79, 42, 180, 0, 101, 27, 46, 172]
abbrev dktX4_bid_6 : List UInt8 := dkwX4_bid_6 ++ []
def dkwX4_bid_5 : List UInt8 := [180, 0, 104, 21, 5, 28, 79, 42, 180, 0, 107, 21, 5, 29, 79, 42, 180, 0, 110, 21, 5, 21, 4, 79]
abbrev dktX4_bid_5 : List UInt8 := dkwX4_bid_5 ++ dktX4_bid_6
def dkwX4_bid_4 : List UInt8 := [3, 6, 182, 1, 52, 153, 0, 5, 3, 172, 16, 10, 27, 104, 42, 180, 0, 101, 27, 46, 96, 54, 5, 42]
abbrev dktX4_bid_4 : List UInt8 := dkwX4_bid_4 ++ dktX4_bid_5
def dkwX4_bid_3 : List UInt8 := [42, 180, 0, 113, 27, 46, 156, 0, 14, 42, 180, 0, 101, 27, 46, 16, 10, 160, 0, 7, 4, 167, 0, 4]
abbrev dktX4_bid_3 : List UInt8 := dkwX4_bid_3 ++ dktX4_bid_4
def dkwX4_bid_2 : List UInt8 := [153, 0, 11, 21, 4, 184, 1, 126, 154, 0, 7, 4, 167, 0, 4, 3, 5, 182, 1, 52, 154, 0, 36, 42]
abbrev dktX4_bid_2 : List UInt8 := dkwX4_bid_2 ++ dktX4_bid_3
def dkwX4_bid_1 : List UInt8 := [180, 1, 122, 161, 0, 7, 4, 167, 0, 4, 3, 4, 182, 1, 52, 154, 0, 64, 42, 29, 184, 1, 126]
abbrev dktX4_bid_1 : List UInt8 := dkwX4_bid_1 ++ dktX4_bid_2
def dkwX4_bid_0 : List UInt8 := [42, 3, 181, 0, 146, 42, 27, 155, 0, 23, 27, 42, 180, 1, 65, 162, 0, 15, 28, 155, 0, 11, 28, 42]
abbrev dktX4_bid_0 : List UInt8 := dkwX4_bid_0 ++ dktX4_bid_1
theorem dksX4_bid_0 : cX4_bid.data.toList.drop 0 = dktX4_bid_0 := by decide +kernel
theorem dksX4_bid_1 : cX4_bid.data.toList.drop 24 = dktX4_bid_1 := dk_seg dksX4_bid_0 24 rfl rfl
theorem dksX4_bid_2 : cX4_bid.data.toList.drop 47 = dktX4_bid_2 := dk_seg dksX4_bid_1 23 rfl rfl
theorem dksX4_bid_3 : cX4_bid.data.toList.drop 71 = dktX4_bid_3 := dk_seg dksX4_bid_2 24 rfl rfl
theorem dksX4_bid_4 : cX4_bid.data.toList.drop 95 = dktX4_bid_4 := dk_seg dksX4_bid_3 24 rfl rfl
theorem dksX4_bid_5 : cX4_bid.data.toList.drop 119 = dktX4_bid_5 := dk_seg dksX4_bid_4 24 rfl rfl
theorem dksX4_bid_6 : cX4_bid.data.toList.drop 143 = dktX4_bid_6 := dk_seg dksX4_bid_5 24 rfl rfl
theorem dX4_bid_0 : decode cX4_bid 0 = .ok (.aload_n 0, 1) := dk_42 (dk_at dksX4_bid_0 0 rfl rfl)
theorem dX4_bid_1 : decode cX4_bid 1 = .ok (.iconst 0, 1) := dk_3 (dk_at dksX4_bid_0 1 rfl rfl)
theorem dX4_bid_2 : decode cX4_bid 2 = .ok (.putfield 146, 3) := dk_181 0 146 (dk_at dksX4_bid_0 2 rfl rfl)
theorem dX4_bid_5 : decode cX4_bid 5 = .ok (.aload_n 0, 1) := dk_42 (dk_at dksX4_bid_0 5 rfl rfl)
theorem dX4_bid_6 : decode cX4_bid 6 = .ok (.iload_n 1, 1) := dk_27 (dk_at dksX4_bid_0 6 rfl rfl)
theorem dX4_bid_7 : decode cX4_bid 7 = .ok (.ifCond .lt 23, 3) := dk_155 0 23 (dk_at dksX4_bid_0 7 rfl rfl)
theorem dX4_bid_10 : decode cX4_bid 10 = .ok (.iload_n 1, 1) := dk_27 (dk_at dksX4_bid_0 10 rfl rfl)
theorem dX4_bid_11 : decode cX4_bid 11 = .ok (.aload_n 0, 1) := dk_42 (dk_at dksX4_bid_0 11 rfl rfl)
theorem dX4_bid_12 : decode cX4_bid 12 = .ok (.getfield 321, 3) := dk_180 1 65 (dk_at dksX4_bid_0 12 rfl rfl)
theorem dX4_bid_15 : decode cX4_bid 15 = .ok (.if_icmp .ge 15, 3) := dk_162 0 15 (dk_at dksX4_bid_0 15 rfl rfl)
theorem dX4_bid_18 : decode cX4_bid 18 = .ok (.iload_n 2, 1) := dk_28 (dk_at dksX4_bid_0 18 rfl rfl)
theorem dX4_bid_19 : decode cX4_bid 19 = .ok (.ifCond .lt 11, 3) := dk_155 0 11 (dk_at dksX4_bid_0 19 rfl rfl)
theorem dX4_bid_22 : decode cX4_bid 22 = .ok (.iload_n 2, 1) := dk_28 (dk_at dksX4_bid_0 22 rfl rfl)
theorem dX4_bid_23 : decode cX4_bid 23 = .ok (.aload_n 0, 1) := dk_42 (dk_at dksX4_bid_0 23 rfl rfl)
theorem dX4_bid_24 : decode cX4_bid 24 = .ok (.getfield 378, 3) := dk_180 1 122 (dk_at dksX4_bid_1 0 rfl rfl)
theorem dX4_bid_27 : decode cX4_bid 27 = .ok (.if_icmp .lt 7, 3) := dk_161 0 7 (dk_at dksX4_bid_1 3 rfl rfl)
theorem dX4_bid_30 : decode cX4_bid 30 = .ok (.iconst 1, 1) := dk_4 (dk_at dksX4_bid_1 6 rfl rfl)
theorem dX4_bid_31 : decode cX4_bid 31 = .ok (.goto 4, 3) := dk_167 0 4 (dk_at dksX4_bid_1 7 rfl rfl)
theorem dX4_bid_34 : decode cX4_bid 34 = .ok (.iconst 0, 1) := dk_3 (dk_at dksX4_bid_1 10 rfl rfl)
theorem dX4_bid_35 : decode cX4_bid 35 = .ok (.iconst 1, 1) := dk_4 (dk_at dksX4_bid_1 11 rfl rfl)
theorem dX4_bid_36 : decode cX4_bid 36 = .ok (.invokevirtual 308, 3) := dk_182 1 52 (dk_at dksX4_bid_1 12 rfl rfl)
theorem dX4_bid_39 : decode cX4_bid 39 = .ok (.ifCond .ne 64, 3) := dk_154 0 64 (dk_at dksX4_bid_1 15 rfl rfl)
theorem dX4_bid_42 : decode cX4_bid 42 = .ok (.aload_n 0, 1) := dk_42 (dk_at dksX4_bid_1 18 rfl rfl)
theorem dX4_bid_43 : decode cX4_bid 43 = .ok (.iload_n 3, 1) := dk_29 (dk_at dksX4_bid_1 19 rfl rfl)
theorem dX4_bid_44 : decode cX4_bid 44 = .ok (.invokestatic 382, 3) := dk_184 1 126 (dk_at dksX4_bid_1 20 rfl rfl)
theorem dX4_bid_47 : decode cX4_bid 47 = .ok (.ifCond .eq 11, 3) := dk_153 0 11 (dk_at dksX4_bid_2 0 rfl rfl)
theorem dX4_bid_50 : decode cX4_bid 50 = .ok (.iload 4, 2) := dk_21 4 (dk_at dksX4_bid_2 3 rfl rfl)
theorem dX4_bid_52 : decode cX4_bid 52 = .ok (.invokestatic 382, 3) := dk_184 1 126 (dk_at dksX4_bid_2 5 rfl rfl)
theorem dX4_bid_55 : decode cX4_bid 55 = .ok (.ifCond .ne 7, 3) := dk_154 0 7 (dk_at dksX4_bid_2 8 rfl rfl)
theorem dX4_bid_58 : decode cX4_bid 58 = .ok (.iconst 1, 1) := dk_4 (dk_at dksX4_bid_2 11 rfl rfl)
theorem dX4_bid_59 : decode cX4_bid 59 = .ok (.goto 4, 3) := dk_167 0 4 (dk_at dksX4_bid_2 12 rfl rfl)
theorem dX4_bid_62 : decode cX4_bid 62 = .ok (.iconst 0, 1) := dk_3 (dk_at dksX4_bid_2 15 rfl rfl)
theorem dX4_bid_63 : decode cX4_bid 63 = .ok (.iconst 2, 1) := dk_5 (dk_at dksX4_bid_2 16 rfl rfl)
theorem dX4_bid_64 : decode cX4_bid 64 = .ok (.invokevirtual 308, 3) := dk_182 1 52 (dk_at dksX4_bid_2 17 rfl rfl)
theorem dX4_bid_67 : decode cX4_bid 67 = .ok (.ifCond .ne 36, 3) := dk_154 0 36 (dk_at dksX4_bid_2 20 rfl rfl)
theorem dX4_bid_70 : decode cX4_bid 70 = .ok (.aload_n 0, 1) := dk_42 (dk_at dksX4_bid_2 23 rfl rfl)
theorem dX4_bid_71 : decode cX4_bid 71 = .ok (.aload_n 0, 1) := dk_42 (dk_at dksX4_bid_3 0 rfl rfl)
theorem dX4_bid_72 : decode cX4_bid 72 = .ok (.getfield 113, 3) := dk_180 0 113 (dk_at dksX4_bid_3 1 rfl rfl)
theorem dX4_bid_75 : decode cX4_bid 75 = .ok (.iload_n 1, 1) := dk_27 (dk_at dksX4_bid_3 4 rfl rfl)
theorem dX4_bid_76 : decode cX4_bid 76 = .ok (.iaload, 1) := dk_46 (dk_at dksX4_bid_3 5 rfl rfl)
theorem dX4_bid_77 : decode cX4_bid 77 = .ok (.ifCond .ge 14, 3) := dk_156 0 14 (dk_at dksX4_bid_3 6 rfl rfl)
theorem dX4_bid_80 : decode cX4_bid 80 = .ok (.aload_n 0, 1) := dk_42 (dk_at dksX4_bid_3 9 rfl rfl)
theorem dX4_bid_81 : decode cX4_bid 81 = .ok (.getfield 101, 3) := dk_180 0 101 (dk_at dksX4_bid_3 10 rfl rfl)
theorem dX4_bid_84 : decode cX4_bid 84 = .ok (.iload_n 1, 1) := dk_27 (dk_at dksX4_bid_3 13 rfl rfl)
theorem dX4_bid_85 : decode cX4_bid 85 = .ok (.iaload, 1) := dk_46 (dk_at dksX4_bid_3 14 rfl rfl)
theorem dX4_bid_86 : decode cX4_bid 86 = .ok (.bipush 10, 2) := dk_16 10 (dk_at dksX4_bid_3 15 rfl rfl)
theorem dX4_bid_88 : decode cX4_bid 88 = .ok (.if_icmp .ne 7, 3) := dk_160 0 7 (dk_at dksX4_bid_3 17 rfl rfl)
theorem dX4_bid_91 : decode cX4_bid 91 = .ok (.iconst 1, 1) := dk_4 (dk_at dksX4_bid_3 20 rfl rfl)
theorem dX4_bid_92 : decode cX4_bid 92 = .ok (.goto 4, 3) := dk_167 0 4 (dk_at dksX4_bid_3 21 rfl rfl)
theorem dX4_bid_95 : decode cX4_bid 95 = .ok (.iconst 0, 1) := dk_3 (dk_at dksX4_bid_4 0 rfl rfl)
theorem dX4_bid_96 : decode cX4_bid 96 = .ok (.iconst 3, 1) := dk_6 (dk_at dksX4_bid_4 1 rfl rfl)
theorem dX4_bid_97 : decode cX4_bid 97 = .ok (.invokevirtual 308, 3) := dk_182 1 52 (dk_at dksX4_bid_4 2 rfl rfl)
theorem dX4_bid_100 : decode cX4_bid 100 = .ok (.ifCond .eq 5, 3) := dk_153 0 5 (dk_at dksX4_bid_4 5 rfl rfl)
theorem dX4_bid_103 : decode cX4_bid 103 = .ok (.iconst 0, 1) := dk_3 (dk_at dksX4_bid_4 8 rfl rfl)
theorem dX4_bid_104 : decode cX4_bid 104 = .ok (.ireturn, 1) := dk_172 (dk_at dksX4_bid_4 9 rfl rfl)
theorem dX4_bid_105 : decode cX4_bid 105 = .ok (.bipush 10, 2) := dk_16 10 (dk_at dksX4_bid_4 10 rfl rfl)
theorem dX4_bid_107 : decode cX4_bid 107 = .ok (.iload_n 1, 1) := dk_27 (dk_at dksX4_bid_4 12 rfl rfl)
theorem dX4_bid_108 : decode cX4_bid 108 = .ok (.imul, 1) := dk_104 (dk_at dksX4_bid_4 13 rfl rfl)
theorem dX4_bid_109 : decode cX4_bid 109 = .ok (.aload_n 0, 1) := dk_42 (dk_at dksX4_bid_4 14 rfl rfl)
theorem dX4_bid_110 : decode cX4_bid 110 = .ok (.getfield 101, 3) := dk_180 0 101 (dk_at dksX4_bid_4 15 rfl rfl)
theorem dX4_bid_113 : decode cX4_bid 113 = .ok (.iload_n 1, 1) := dk_27 (dk_at dksX4_bid_4 18 rfl rfl)
theorem dX4_bid_114 : decode cX4_bid 114 = .ok (.iaload, 1) := dk_46 (dk_at dksX4_bid_4 19 rfl rfl)
theorem dX4_bid_115 : decode cX4_bid 115 = .ok (.iadd, 1) := dk_96 (dk_at dksX4_bid_4 20 rfl rfl)
theorem dX4_bid_116 : decode cX4_bid 116 = .ok (.istore 5, 2) := dk_54 5 (dk_at dksX4_bid_4 21 rfl rfl)
theorem dX4_bid_118 : decode cX4_bid 118 = .ok (.aload_n 0, 1) := dk_42 (dk_at dksX4_bid_4 23 rfl rfl)
theorem dX4_bid_119 : decode cX4_bid 119 = .ok (.getfield 104, 3) := dk_180 0 104 (dk_at dksX4_bid_5 0 rfl rfl)
theorem dX4_bid_122 : decode cX4_bid 122 = .ok (.iload 5, 2) := dk_21 5 (dk_at dksX4_bid_5 3 rfl rfl)
theorem dX4_bid_124 : decode cX4_bid 124 = .ok (.iload_n 2, 1) := dk_28 (dk_at dksX4_bid_5 5 rfl rfl)
theorem dX4_bid_125 : decode cX4_bid 125 = .ok (.iastore, 1) := dk_79 (dk_at dksX4_bid_5 6 rfl rfl)
theorem dX4_bid_126 : decode cX4_bid 126 = .ok (.aload_n 0, 1) := dk_42 (dk_at dksX4_bid_5 7 rfl rfl)
theorem dX4_bid_127 : decode cX4_bid 127 = .ok (.getfield 107, 3) := dk_180 0 107 (dk_at dksX4_bid_5 8 rfl rfl)
theorem dX4_bid_130 : decode cX4_bid 130 = .ok (.iload 5, 2) := dk_21 5 (dk_at dksX4_bid_5 11 rfl rfl)
theorem dX4_bid_132 : decode cX4_bid 132 = .ok (.iload_n 3, 1) := dk_29 (dk_at dksX4_bid_5 13 rfl rfl)
theorem dX4_bid_133 : decode cX4_bid 133 = .ok (.iastore, 1) := dk_79 (dk_at dksX4_bid_5 14 rfl rfl)
theorem dX4_bid_134 : decode cX4_bid 134 = .ok (.aload_n 0, 1) := dk_42 (dk_at dksX4_bid_5 15 rfl rfl)
theorem dX4_bid_135 : decode cX4_bid 135 = .ok (.getfield 110, 3) := dk_180 0 110 (dk_at dksX4_bid_5 16 rfl rfl)
theorem dX4_bid_138 : decode cX4_bid 138 = .ok (.iload 5, 2) := dk_21 5 (dk_at dksX4_bid_5 19 rfl rfl)
theorem dX4_bid_140 : decode cX4_bid 140 = .ok (.iload 4, 2) := dk_21 4 (dk_at dksX4_bid_5 21 rfl rfl)
theorem dX4_bid_142 : decode cX4_bid 142 = .ok (.iastore, 1) := dk_79 (dk_at dksX4_bid_5 23 rfl rfl)
theorem dX4_bid_143 : decode cX4_bid 143 = .ok (.aload_n 0, 1) := dk_42 (dk_at dksX4_bid_6 0 rfl rfl)
theorem dX4_bid_144 : decode cX4_bid 144 = .ok (.getfield 101, 3) := dk_180 0 101 (dk_at dksX4_bid_6 1 rfl rfl)
theorem dX4_bid_147 : decode cX4_bid 147 = .ok (.iload_n 1, 1) := dk_27 (dk_at dksX4_bid_6 4 rfl rfl)
theorem dX4_bid_148 : decode cX4_bid 148 = .ok (.dup2, 1) := dk_92 (dk_at dksX4_bid_6 5 rfl rfl)
theorem dX4_bid_149 : decode cX4_bid 149 = .ok (.iaload, 1) := dk_46 (dk_at dksX4_bid_6 6 rfl rfl)
theorem dX4_bid_150 : decode cX4_bid 150 = .ok (.iconst 1, 1) := dk_4 (dk_at dksX4_bid_6 7 rfl rfl)
theorem dX4_bid_151 : decode cX4_bid 151 = .ok (.iadd, 1) := dk_96 (dk_at dksX4_bid_6 8 rfl rfl)
theorem dX4_bid_152 : decode cX4_bid 152 = .ok (.iastore, 1) := dk_79 (dk_at dksX4_bid_6 9 rfl rfl)
theorem dX4_bid_153 : decode cX4_bid 153 = .ok (.aload_n 0, 1) := dk_42 (dk_at dksX4_bid_6 10 rfl rfl)
theorem dX4_bid_154 : decode cX4_bid 154 = .ok (.getfield 101, 3) := dk_180 0 101 (dk_at dksX4_bid_6 11 rfl rfl)
theorem dX4_bid_157 : decode cX4_bid 157 = .ok (.iload_n 1, 1) := dk_27 (dk_at dksX4_bid_6 14 rfl rfl)
theorem dX4_bid_158 : decode cX4_bid 158 = .ok (.iaload, 1) := dk_46 (dk_at dksX4_bid_6 15 rfl rfl)
theorem dX4_bid_159 : decode cX4_bid 159 = .ok (.ireturn, 1) := dk_172 (dk_at dksX4_bid_6 16 rfl rfl)
abbrev cX4_isSum : ByteArray := prog_33_method_44_code
def yX4_isSum : MethodName := ⟨RX4, "isSum", "(I)Z"⟩
def dkwX4_isSum_0 : List UInt8 := [26, 4, 161, 0, 14, 26, 19, 1, 125, 163, 0, 7, 4, 167, 0, 4, 3, 172]
abbrev dktX4_isSum_0 : List UInt8 := dkwX4_isSum_0 ++ []
theorem dksX4_isSum_0 : cX4_isSum.data.toList.drop 0 = dktX4_isSum_0 := by decide +kernel
theorem dX4_isSum_0 : decode cX4_isSum 0 = .ok (.iload_n 0, 1) := dk_26 (dk_at dksX4_isSum_0 0 rfl rfl)
theorem dX4_isSum_1 : decode cX4_isSum 1 = .ok (.iconst 1, 1) := dk_4 (dk_at dksX4_isSum_0 1 rfl rfl)
theorem dX4_isSum_2 : decode cX4_isSum 2 = .ok (.if_icmp .lt 14, 3) := dk_161 0 14 (dk_at dksX4_isSum_0 2 rfl rfl)
theorem dX4_isSum_5 : decode cX4_isSum 5 = .ok (.iload_n 0, 1) := dk_26 (dk_at dksX4_isSum_0 5 rfl rfl)
theorem dX4_isSum_6 : decode cX4_isSum 6 = .ok (.ldc_w 381, 3) := dk_19 1 125 (dk_at dksX4_isSum_0 6 rfl rfl)
theorem dX4_isSum_9 : decode cX4_isSum 9 = .ok (.if_icmp .gt 7, 3) := dk_163 0 7 (dk_at dksX4_isSum_0 9 rfl rfl)
theorem dX4_isSum_12 : decode cX4_isSum 12 = .ok (.iconst 1, 1) := dk_4 (dk_at dksX4_isSum_0 12 rfl rfl)
theorem dX4_isSum_13 : decode cX4_isSum 13 = .ok (.goto 4, 3) := dk_167 0 4 (dk_at dksX4_isSum_0 13 rfl rfl)
theorem dX4_isSum_16 : decode cX4_isSum 16 = .ok (.iconst 0, 1) := dk_3 (dk_at dksX4_isSum_0 16 rfl rfl)
theorem dX4_isSum_17 : decode cX4_isSum 17 = .ok (.ireturn, 1) := dk_172 (dk_at dksX4_isSum_0 17 rfl rfl)
abbrev cX4_let : ByteArray := prog_33_method_46_code
def yX4_let : MethodName := ⟨RX4, "let", "(II)I"⟩
def dkwX4_let_11 : List UInt8 := [92, 47, 42, 180, 0, 119, 27, 46, 133, 101, 80, 42, 27, 182, 1, 129, 21, 4, 172]
abbrev dktX4_let_11 : List UInt8 := dkwX4_let_11 ++ []
def dkwX4_let_10 : List UInt8 := [180, 0, 119, 27, 42, 180, 0, 110, 29, 46, 79, 42, 180, 0, 125, 27, 28, 79, 42, 180, 0, 98, 21, 4]
abbrev dktX4_let_10 : List UInt8 := dkwX4_let_10 ++ dktX4_let_11
def dkwX4_let_9 : List UInt8 := [27, 3, 79, 42, 180, 0, 113, 27, 21, 4, 79, 42, 180, 0, 116, 27, 42, 180, 0, 107, 29, 46, 79, 42]
abbrev dktX4_let_9 : List UInt8 := dkwX4_let_9 ++ dktX4_let_10
def dkwX4_let_8 : List UInt8 := [132, 4, 1, 167, 255, 152, 29, 156, 0, 5, 2, 172, 42, 180, 0, 104, 29, 46, 54, 4, 42, 180, 0, 101]
abbrev dktX4_let_8 : List UInt8 := dkwX4_let_8 ++ dktX4_let_9
def dkwX4_let_7 : List UInt8 := [29, 155, 0, 19, 42, 180, 0, 107, 21, 4, 46, 42, 180, 0, 107, 29, 46, 164, 0, 6, 21, 4, 62]
abbrev dktX4_let_7 : List UInt8 := dkwX4_let_7 ++ dktX4_let_8
def dkwX4_let_6 : List UInt8 := [180, 0, 110, 21, 4, 46, 133, 97, 148, 155, 0, 7, 4, 167, 0, 4, 3, 54, 5, 21, 5, 153, 0, 26]
abbrev dktX4_let_6 : List UInt8 := dkwX4_let_6 ++ dktX4_let_7
def dkwX4_let_5 : List UInt8 := [161, 0, 40, 42, 180, 0, 98, 42, 180, 0, 104, 21, 4, 46, 47, 42, 180, 0, 107, 21, 4, 46, 133, 42]
abbrev dktX4_let_5 : List UInt8 := dkwX4_let_5 ++ dktX4_let_6
def dkwX4_let_4 : List UInt8 := [180, 0, 101, 27, 46, 96, 162, 0, 94, 42, 180, 0, 110, 21, 4, 46, 42, 180, 0, 107, 21, 4, 46]
abbrev dktX4_let_4 : List UInt8 := dkwX4_let_4 ++ dktX4_let_5
def dkwX4_let_3 : List UInt8 := [182, 1, 52, 153, 0, 5, 3, 172, 2, 62, 16, 10, 27, 104, 54, 4, 21, 4, 16, 10, 27, 104, 42]
abbrev dktX4_let_3 : List UInt8 := dkwX4_let_3 ++ dktX4_let_4
def dkwX4_let_2 : List UInt8 := [182, 1, 52, 154, 0, 25, 42, 42, 180, 0, 113, 27, 46, 155, 0, 7, 4, 167, 0, 4, 3, 6]
abbrev dktX4_let_2 : List UInt8 := dkwX4_let_2 ++ dktX4_let_3
def dkwX4_let_1 : List UInt8 := [182, 1, 52, 154, 0, 49, 42, 28, 4, 161, 0, 9, 28, 16, 40, 164, 0, 7, 4, 167, 0, 4, 3, 5]
abbrev dktX4_let_1 : List UInt8 := dkwX4_let_1 ++ dktX4_let_2
def dkwX4_let_0 : List UInt8 := [42, 3, 181, 0, 146, 42, 27, 155, 0, 11, 27, 42, 180, 1, 65, 161, 0, 7, 4, 167, 0, 4, 3, 4]
abbrev dktX4_let_0 : List UInt8 := dkwX4_let_0 ++ dktX4_let_1
theorem dksX4_let_0 : cX4_let.data.toList.drop 0 = dktX4_let_0 := by decide +kernel
theorem dksX4_let_1 : cX4_let.data.toList.drop 24 = dktX4_let_1 := dk_seg dksX4_let_0 24 rfl rfl
theorem dksX4_let_2 : cX4_let.data.toList.drop 48 = dktX4_let_2 := dk_seg dksX4_let_1 24 rfl rfl
theorem dksX4_let_3 : cX4_let.data.toList.drop 70 = dktX4_let_3 := dk_seg dksX4_let_2 22 rfl rfl
theorem dksX4_let_4 : cX4_let.data.toList.drop 93 = dktX4_let_4 := dk_seg dksX4_let_3 23 rfl rfl
theorem dksX4_let_5 : cX4_let.data.toList.drop 116 = dktX4_let_5 := dk_seg dksX4_let_4 23 rfl rfl
theorem dksX4_let_6 : cX4_let.data.toList.drop 140 = dktX4_let_6 := dk_seg dksX4_let_5 24 rfl rfl
theorem dksX4_let_7 : cX4_let.data.toList.drop 164 = dktX4_let_7 := dk_seg dksX4_let_6 24 rfl rfl
theorem dksX4_let_8 : cX4_let.data.toList.drop 187 = dktX4_let_8 := dk_seg dksX4_let_7 23 rfl rfl
theorem dksX4_let_9 : cX4_let.data.toList.drop 211 = dktX4_let_9 := dk_seg dksX4_let_8 24 rfl rfl
theorem dksX4_let_10 : cX4_let.data.toList.drop 235 = dktX4_let_10 := dk_seg dksX4_let_9 24 rfl rfl
theorem dksX4_let_11 : cX4_let.data.toList.drop 259 = dktX4_let_11 := dk_seg dksX4_let_10 24 rfl rfl
theorem dX4_let_0 : decode cX4_let 0 = .ok (.aload_n 0, 1) := dk_42 (dk_at dksX4_let_0 0 rfl rfl)
theorem dX4_let_1 : decode cX4_let 1 = .ok (.iconst 0, 1) := dk_3 (dk_at dksX4_let_0 1 rfl rfl)
theorem dX4_let_2 : decode cX4_let 2 = .ok (.putfield 146, 3) := dk_181 0 146 (dk_at dksX4_let_0 2 rfl rfl)
theorem dX4_let_5 : decode cX4_let 5 = .ok (.aload_n 0, 1) := dk_42 (dk_at dksX4_let_0 5 rfl rfl)
theorem dX4_let_6 : decode cX4_let 6 = .ok (.iload_n 1, 1) := dk_27 (dk_at dksX4_let_0 6 rfl rfl)
theorem dX4_let_7 : decode cX4_let 7 = .ok (.ifCond .lt 11, 3) := dk_155 0 11 (dk_at dksX4_let_0 7 rfl rfl)
theorem dX4_let_10 : decode cX4_let 10 = .ok (.iload_n 1, 1) := dk_27 (dk_at dksX4_let_0 10 rfl rfl)
theorem dX4_let_11 : decode cX4_let 11 = .ok (.aload_n 0, 1) := dk_42 (dk_at dksX4_let_0 11 rfl rfl)
theorem dX4_let_12 : decode cX4_let 12 = .ok (.getfield 321, 3) := dk_180 1 65 (dk_at dksX4_let_0 12 rfl rfl)
theorem dX4_let_15 : decode cX4_let 15 = .ok (.if_icmp .lt 7, 3) := dk_161 0 7 (dk_at dksX4_let_0 15 rfl rfl)
theorem dX4_let_18 : decode cX4_let 18 = .ok (.iconst 1, 1) := dk_4 (dk_at dksX4_let_0 18 rfl rfl)
theorem dX4_let_19 : decode cX4_let 19 = .ok (.goto 4, 3) := dk_167 0 4 (dk_at dksX4_let_0 19 rfl rfl)
theorem dX4_let_22 : decode cX4_let 22 = .ok (.iconst 0, 1) := dk_3 (dk_at dksX4_let_0 22 rfl rfl)
theorem dX4_let_23 : decode cX4_let 23 = .ok (.iconst 1, 1) := dk_4 (dk_at dksX4_let_0 23 rfl rfl)
theorem dX4_let_24 : decode cX4_let 24 = .ok (.invokevirtual 308, 3) := dk_182 1 52 (dk_at dksX4_let_1 0 rfl rfl)
theorem dX4_let_27 : decode cX4_let 27 = .ok (.ifCond .ne 49, 3) := dk_154 0 49 (dk_at dksX4_let_1 3 rfl rfl)
theorem dX4_let_30 : decode cX4_let 30 = .ok (.aload_n 0, 1) := dk_42 (dk_at dksX4_let_1 6 rfl rfl)
theorem dX4_let_31 : decode cX4_let 31 = .ok (.iload_n 2, 1) := dk_28 (dk_at dksX4_let_1 7 rfl rfl)
theorem dX4_let_32 : decode cX4_let 32 = .ok (.iconst 1, 1) := dk_4 (dk_at dksX4_let_1 8 rfl rfl)
theorem dX4_let_33 : decode cX4_let 33 = .ok (.if_icmp .lt 9, 3) := dk_161 0 9 (dk_at dksX4_let_1 9 rfl rfl)
theorem dX4_let_36 : decode cX4_let 36 = .ok (.iload_n 2, 1) := dk_28 (dk_at dksX4_let_1 12 rfl rfl)
theorem dX4_let_37 : decode cX4_let 37 = .ok (.bipush 40, 2) := dk_16 40 (dk_at dksX4_let_1 13 rfl rfl)
theorem dX4_let_39 : decode cX4_let 39 = .ok (.if_icmp .le 7, 3) := dk_164 0 7 (dk_at dksX4_let_1 15 rfl rfl)
theorem dX4_let_42 : decode cX4_let 42 = .ok (.iconst 1, 1) := dk_4 (dk_at dksX4_let_1 18 rfl rfl)
theorem dX4_let_43 : decode cX4_let 43 = .ok (.goto 4, 3) := dk_167 0 4 (dk_at dksX4_let_1 19 rfl rfl)
theorem dX4_let_46 : decode cX4_let 46 = .ok (.iconst 0, 1) := dk_3 (dk_at dksX4_let_1 22 rfl rfl)
theorem dX4_let_47 : decode cX4_let 47 = .ok (.iconst 2, 1) := dk_5 (dk_at dksX4_let_1 23 rfl rfl)
theorem dX4_let_48 : decode cX4_let 48 = .ok (.invokevirtual 308, 3) := dk_182 1 52 (dk_at dksX4_let_2 0 rfl rfl)
theorem dX4_let_51 : decode cX4_let 51 = .ok (.ifCond .ne 25, 3) := dk_154 0 25 (dk_at dksX4_let_2 3 rfl rfl)
theorem dX4_let_54 : decode cX4_let 54 = .ok (.aload_n 0, 1) := dk_42 (dk_at dksX4_let_2 6 rfl rfl)
theorem dX4_let_55 : decode cX4_let 55 = .ok (.aload_n 0, 1) := dk_42 (dk_at dksX4_let_2 7 rfl rfl)
theorem dX4_let_56 : decode cX4_let 56 = .ok (.getfield 113, 3) := dk_180 0 113 (dk_at dksX4_let_2 8 rfl rfl)
theorem dX4_let_59 : decode cX4_let 59 = .ok (.iload_n 1, 1) := dk_27 (dk_at dksX4_let_2 11 rfl rfl)
theorem dX4_let_60 : decode cX4_let 60 = .ok (.iaload, 1) := dk_46 (dk_at dksX4_let_2 12 rfl rfl)
theorem dX4_let_61 : decode cX4_let 61 = .ok (.ifCond .lt 7, 3) := dk_155 0 7 (dk_at dksX4_let_2 13 rfl rfl)
theorem dX4_let_64 : decode cX4_let 64 = .ok (.iconst 1, 1) := dk_4 (dk_at dksX4_let_2 16 rfl rfl)
theorem dX4_let_65 : decode cX4_let 65 = .ok (.goto 4, 3) := dk_167 0 4 (dk_at dksX4_let_2 17 rfl rfl)
theorem dX4_let_68 : decode cX4_let 68 = .ok (.iconst 0, 1) := dk_3 (dk_at dksX4_let_2 20 rfl rfl)
theorem dX4_let_69 : decode cX4_let 69 = .ok (.iconst 3, 1) := dk_6 (dk_at dksX4_let_2 21 rfl rfl)
theorem dX4_let_70 : decode cX4_let 70 = .ok (.invokevirtual 308, 3) := dk_182 1 52 (dk_at dksX4_let_3 0 rfl rfl)
theorem dX4_let_73 : decode cX4_let 73 = .ok (.ifCond .eq 5, 3) := dk_153 0 5 (dk_at dksX4_let_3 3 rfl rfl)
theorem dX4_let_76 : decode cX4_let 76 = .ok (.iconst 0, 1) := dk_3 (dk_at dksX4_let_3 6 rfl rfl)
theorem dX4_let_77 : decode cX4_let 77 = .ok (.ireturn, 1) := dk_172 (dk_at dksX4_let_3 7 rfl rfl)
theorem dX4_let_78 : decode cX4_let 78 = .ok (.iconst (-1), 1) := dk_2 (dk_at dksX4_let_3 8 rfl rfl)
theorem dX4_let_79 : decode cX4_let 79 = .ok (.istore_n 3, 1) := dk_62 (dk_at dksX4_let_3 9 rfl rfl)
theorem dX4_let_80 : decode cX4_let 80 = .ok (.bipush 10, 2) := dk_16 10 (dk_at dksX4_let_3 10 rfl rfl)
theorem dX4_let_82 : decode cX4_let 82 = .ok (.iload_n 1, 1) := dk_27 (dk_at dksX4_let_3 12 rfl rfl)
theorem dX4_let_83 : decode cX4_let 83 = .ok (.imul, 1) := dk_104 (dk_at dksX4_let_3 13 rfl rfl)
theorem dX4_let_84 : decode cX4_let 84 = .ok (.istore 4, 2) := dk_54 4 (dk_at dksX4_let_3 14 rfl rfl)
theorem dX4_let_86 : decode cX4_let 86 = .ok (.iload 4, 2) := dk_21 4 (dk_at dksX4_let_3 16 rfl rfl)
theorem dX4_let_88 : decode cX4_let 88 = .ok (.bipush 10, 2) := dk_16 10 (dk_at dksX4_let_3 18 rfl rfl)
theorem dX4_let_90 : decode cX4_let 90 = .ok (.iload_n 1, 1) := dk_27 (dk_at dksX4_let_3 20 rfl rfl)
theorem dX4_let_91 : decode cX4_let 91 = .ok (.imul, 1) := dk_104 (dk_at dksX4_let_3 21 rfl rfl)
theorem dX4_let_92 : decode cX4_let 92 = .ok (.aload_n 0, 1) := dk_42 (dk_at dksX4_let_3 22 rfl rfl)
theorem dX4_let_93 : decode cX4_let 93 = .ok (.getfield 101, 3) := dk_180 0 101 (dk_at dksX4_let_4 0 rfl rfl)
theorem dX4_let_96 : decode cX4_let 96 = .ok (.iload_n 1, 1) := dk_27 (dk_at dksX4_let_4 3 rfl rfl)
theorem dX4_let_97 : decode cX4_let 97 = .ok (.iaload, 1) := dk_46 (dk_at dksX4_let_4 4 rfl rfl)
theorem dX4_let_98 : decode cX4_let 98 = .ok (.iadd, 1) := dk_96 (dk_at dksX4_let_4 5 rfl rfl)
theorem dX4_let_99 : decode cX4_let 99 = .ok (.if_icmp .ge 94, 3) := dk_162 0 94 (dk_at dksX4_let_4 6 rfl rfl)
theorem dX4_let_102 : decode cX4_let 102 = .ok (.aload_n 0, 1) := dk_42 (dk_at dksX4_let_4 9 rfl rfl)
theorem dX4_let_103 : decode cX4_let 103 = .ok (.getfield 110, 3) := dk_180 0 110 (dk_at dksX4_let_4 10 rfl rfl)
theorem dX4_let_106 : decode cX4_let 106 = .ok (.iload 4, 2) := dk_21 4 (dk_at dksX4_let_4 13 rfl rfl)
theorem dX4_let_108 : decode cX4_let 108 = .ok (.iaload, 1) := dk_46 (dk_at dksX4_let_4 15 rfl rfl)
theorem dX4_let_109 : decode cX4_let 109 = .ok (.aload_n 0, 1) := dk_42 (dk_at dksX4_let_4 16 rfl rfl)
theorem dX4_let_110 : decode cX4_let 110 = .ok (.getfield 107, 3) := dk_180 0 107 (dk_at dksX4_let_4 17 rfl rfl)
theorem dX4_let_113 : decode cX4_let 113 = .ok (.iload 4, 2) := dk_21 4 (dk_at dksX4_let_4 20 rfl rfl)
theorem dX4_let_115 : decode cX4_let 115 = .ok (.iaload, 1) := dk_46 (dk_at dksX4_let_4 22 rfl rfl)
theorem dX4_let_116 : decode cX4_let 116 = .ok (.if_icmp .lt 40, 3) := dk_161 0 40 (dk_at dksX4_let_5 0 rfl rfl)
theorem dX4_let_119 : decode cX4_let 119 = .ok (.aload_n 0, 1) := dk_42 (dk_at dksX4_let_5 3 rfl rfl)
theorem dX4_let_120 : decode cX4_let 120 = .ok (.getfield 98, 3) := dk_180 0 98 (dk_at dksX4_let_5 4 rfl rfl)
theorem dX4_let_123 : decode cX4_let 123 = .ok (.aload_n 0, 1) := dk_42 (dk_at dksX4_let_5 7 rfl rfl)
theorem dX4_let_124 : decode cX4_let 124 = .ok (.getfield 104, 3) := dk_180 0 104 (dk_at dksX4_let_5 8 rfl rfl)
theorem dX4_let_127 : decode cX4_let 127 = .ok (.iload 4, 2) := dk_21 4 (dk_at dksX4_let_5 11 rfl rfl)
theorem dX4_let_129 : decode cX4_let 129 = .ok (.iaload, 1) := dk_46 (dk_at dksX4_let_5 13 rfl rfl)
theorem dX4_let_130 : decode cX4_let 130 = .ok (.laload, 1) := dk_47 (dk_at dksX4_let_5 14 rfl rfl)
theorem dX4_let_131 : decode cX4_let 131 = .ok (.aload_n 0, 1) := dk_42 (dk_at dksX4_let_5 15 rfl rfl)
theorem dX4_let_132 : decode cX4_let 132 = .ok (.getfield 107, 3) := dk_180 0 107 (dk_at dksX4_let_5 16 rfl rfl)
theorem dX4_let_135 : decode cX4_let 135 = .ok (.iload 4, 2) := dk_21 4 (dk_at dksX4_let_5 19 rfl rfl)
theorem dX4_let_137 : decode cX4_let 137 = .ok (.iaload, 1) := dk_46 (dk_at dksX4_let_5 21 rfl rfl)
theorem dX4_let_138 : decode cX4_let 138 = .ok (.i2l, 1) := dk_133 (dk_at dksX4_let_5 22 rfl rfl)
theorem dX4_let_139 : decode cX4_let 139 = .ok (.aload_n 0, 1) := dk_42 (dk_at dksX4_let_5 23 rfl rfl)
theorem dX4_let_140 : decode cX4_let 140 = .ok (.getfield 110, 3) := dk_180 0 110 (dk_at dksX4_let_6 0 rfl rfl)
theorem dX4_let_143 : decode cX4_let 143 = .ok (.iload 4, 2) := dk_21 4 (dk_at dksX4_let_6 3 rfl rfl)
theorem dX4_let_145 : decode cX4_let 145 = .ok (.iaload, 1) := dk_46 (dk_at dksX4_let_6 5 rfl rfl)
theorem dX4_let_146 : decode cX4_let 146 = .ok (.i2l, 1) := dk_133 (dk_at dksX4_let_6 6 rfl rfl)
theorem dX4_let_147 : decode cX4_let 147 = .ok (.ladd, 1) := dk_97 (dk_at dksX4_let_6 7 rfl rfl)
theorem dX4_let_148 : decode cX4_let 148 = .ok (.lcmp, 1) := dk_148 (dk_at dksX4_let_6 8 rfl rfl)
theorem dX4_let_149 : decode cX4_let 149 = .ok (.ifCond .lt 7, 3) := dk_155 0 7 (dk_at dksX4_let_6 9 rfl rfl)
theorem dX4_let_152 : decode cX4_let 152 = .ok (.iconst 1, 1) := dk_4 (dk_at dksX4_let_6 12 rfl rfl)
theorem dX4_let_153 : decode cX4_let 153 = .ok (.goto 4, 3) := dk_167 0 4 (dk_at dksX4_let_6 13 rfl rfl)
theorem dX4_let_156 : decode cX4_let 156 = .ok (.iconst 0, 1) := dk_3 (dk_at dksX4_let_6 16 rfl rfl)
theorem dX4_let_157 : decode cX4_let 157 = .ok (.istore 5, 2) := dk_54 5 (dk_at dksX4_let_6 17 rfl rfl)
theorem dX4_let_159 : decode cX4_let 159 = .ok (.iload 5, 2) := dk_21 5 (dk_at dksX4_let_6 19 rfl rfl)
theorem dX4_let_161 : decode cX4_let 161 = .ok (.ifCond .eq 26, 3) := dk_153 0 26 (dk_at dksX4_let_6 21 rfl rfl)
theorem dX4_let_164 : decode cX4_let 164 = .ok (.iload_n 3, 1) := dk_29 (dk_at dksX4_let_7 0 rfl rfl)
theorem dX4_let_165 : decode cX4_let 165 = .ok (.ifCond .lt 19, 3) := dk_155 0 19 (dk_at dksX4_let_7 1 rfl rfl)
theorem dX4_let_168 : decode cX4_let 168 = .ok (.aload_n 0, 1) := dk_42 (dk_at dksX4_let_7 4 rfl rfl)
theorem dX4_let_169 : decode cX4_let 169 = .ok (.getfield 107, 3) := dk_180 0 107 (dk_at dksX4_let_7 5 rfl rfl)
theorem dX4_let_172 : decode cX4_let 172 = .ok (.iload 4, 2) := dk_21 4 (dk_at dksX4_let_7 8 rfl rfl)
theorem dX4_let_174 : decode cX4_let 174 = .ok (.iaload, 1) := dk_46 (dk_at dksX4_let_7 10 rfl rfl)
theorem dX4_let_175 : decode cX4_let 175 = .ok (.aload_n 0, 1) := dk_42 (dk_at dksX4_let_7 11 rfl rfl)
theorem dX4_let_176 : decode cX4_let 176 = .ok (.getfield 107, 3) := dk_180 0 107 (dk_at dksX4_let_7 12 rfl rfl)
theorem dX4_let_179 : decode cX4_let 179 = .ok (.iload_n 3, 1) := dk_29 (dk_at dksX4_let_7 15 rfl rfl)
theorem dX4_let_180 : decode cX4_let 180 = .ok (.iaload, 1) := dk_46 (dk_at dksX4_let_7 16 rfl rfl)
theorem dX4_let_181 : decode cX4_let 181 = .ok (.if_icmp .le 6, 3) := dk_164 0 6 (dk_at dksX4_let_7 17 rfl rfl)
theorem dX4_let_184 : decode cX4_let 184 = .ok (.iload 4, 2) := dk_21 4 (dk_at dksX4_let_7 20 rfl rfl)
theorem dX4_let_186 : decode cX4_let 186 = .ok (.istore_n 3, 1) := dk_62 (dk_at dksX4_let_7 22 rfl rfl)
theorem dX4_let_187 : decode cX4_let 187 = .ok (.iinc 4 1, 3) := dk_132 4 1 (dk_at dksX4_let_8 0 rfl rfl)
theorem dX4_let_190 : decode cX4_let 190 = .ok (.goto (-104), 3) := dk_167 255 152 (dk_at dksX4_let_8 3 rfl rfl)
theorem dX4_let_193 : decode cX4_let 193 = .ok (.iload_n 3, 1) := dk_29 (dk_at dksX4_let_8 6 rfl rfl)
theorem dX4_let_194 : decode cX4_let 194 = .ok (.ifCond .ge 5, 3) := dk_156 0 5 (dk_at dksX4_let_8 7 rfl rfl)
theorem dX4_let_197 : decode cX4_let 197 = .ok (.iconst (-1), 1) := dk_2 (dk_at dksX4_let_8 10 rfl rfl)
theorem dX4_let_198 : decode cX4_let 198 = .ok (.ireturn, 1) := dk_172 (dk_at dksX4_let_8 11 rfl rfl)
theorem dX4_let_199 : decode cX4_let 199 = .ok (.aload_n 0, 1) := dk_42 (dk_at dksX4_let_8 12 rfl rfl)
theorem dX4_let_200 : decode cX4_let 200 = .ok (.getfield 104, 3) := dk_180 0 104 (dk_at dksX4_let_8 13 rfl rfl)
theorem dX4_let_203 : decode cX4_let 203 = .ok (.iload_n 3, 1) := dk_29 (dk_at dksX4_let_8 16 rfl rfl)
theorem dX4_let_204 : decode cX4_let 204 = .ok (.iaload, 1) := dk_46 (dk_at dksX4_let_8 17 rfl rfl)
theorem dX4_let_205 : decode cX4_let 205 = .ok (.istore 4, 2) := dk_54 4 (dk_at dksX4_let_8 18 rfl rfl)
theorem dX4_let_207 : decode cX4_let 207 = .ok (.aload_n 0, 1) := dk_42 (dk_at dksX4_let_8 20 rfl rfl)
theorem dX4_let_208 : decode cX4_let 208 = .ok (.getfield 101, 3) := dk_180 0 101 (dk_at dksX4_let_8 21 rfl rfl)
theorem dX4_let_211 : decode cX4_let 211 = .ok (.iload_n 1, 1) := dk_27 (dk_at dksX4_let_9 0 rfl rfl)
theorem dX4_let_212 : decode cX4_let 212 = .ok (.iconst 0, 1) := dk_3 (dk_at dksX4_let_9 1 rfl rfl)
theorem dX4_let_213 : decode cX4_let 213 = .ok (.iastore, 1) := dk_79 (dk_at dksX4_let_9 2 rfl rfl)
theorem dX4_let_214 : decode cX4_let 214 = .ok (.aload_n 0, 1) := dk_42 (dk_at dksX4_let_9 3 rfl rfl)
theorem dX4_let_215 : decode cX4_let 215 = .ok (.getfield 113, 3) := dk_180 0 113 (dk_at dksX4_let_9 4 rfl rfl)
theorem dX4_let_218 : decode cX4_let 218 = .ok (.iload_n 1, 1) := dk_27 (dk_at dksX4_let_9 7 rfl rfl)
theorem dX4_let_219 : decode cX4_let 219 = .ok (.iload 4, 2) := dk_21 4 (dk_at dksX4_let_9 8 rfl rfl)
theorem dX4_let_221 : decode cX4_let 221 = .ok (.iastore, 1) := dk_79 (dk_at dksX4_let_9 10 rfl rfl)
theorem dX4_let_222 : decode cX4_let 222 = .ok (.aload_n 0, 1) := dk_42 (dk_at dksX4_let_9 11 rfl rfl)
theorem dX4_let_223 : decode cX4_let 223 = .ok (.getfield 116, 3) := dk_180 0 116 (dk_at dksX4_let_9 12 rfl rfl)
theorem dX4_let_226 : decode cX4_let 226 = .ok (.iload_n 1, 1) := dk_27 (dk_at dksX4_let_9 15 rfl rfl)
theorem dX4_let_227 : decode cX4_let 227 = .ok (.aload_n 0, 1) := dk_42 (dk_at dksX4_let_9 16 rfl rfl)
theorem dX4_let_228 : decode cX4_let 228 = .ok (.getfield 107, 3) := dk_180 0 107 (dk_at dksX4_let_9 17 rfl rfl)
theorem dX4_let_231 : decode cX4_let 231 = .ok (.iload_n 3, 1) := dk_29 (dk_at dksX4_let_9 20 rfl rfl)
theorem dX4_let_232 : decode cX4_let 232 = .ok (.iaload, 1) := dk_46 (dk_at dksX4_let_9 21 rfl rfl)
theorem dX4_let_233 : decode cX4_let 233 = .ok (.iastore, 1) := dk_79 (dk_at dksX4_let_9 22 rfl rfl)
theorem dX4_let_234 : decode cX4_let 234 = .ok (.aload_n 0, 1) := dk_42 (dk_at dksX4_let_9 23 rfl rfl)
theorem dX4_let_235 : decode cX4_let 235 = .ok (.getfield 119, 3) := dk_180 0 119 (dk_at dksX4_let_10 0 rfl rfl)
theorem dX4_let_238 : decode cX4_let 238 = .ok (.iload_n 1, 1) := dk_27 (dk_at dksX4_let_10 3 rfl rfl)
theorem dX4_let_239 : decode cX4_let 239 = .ok (.aload_n 0, 1) := dk_42 (dk_at dksX4_let_10 4 rfl rfl)
theorem dX4_let_240 : decode cX4_let 240 = .ok (.getfield 110, 3) := dk_180 0 110 (dk_at dksX4_let_10 5 rfl rfl)
theorem dX4_let_243 : decode cX4_let 243 = .ok (.iload_n 3, 1) := dk_29 (dk_at dksX4_let_10 8 rfl rfl)
theorem dX4_let_244 : decode cX4_let 244 = .ok (.iaload, 1) := dk_46 (dk_at dksX4_let_10 9 rfl rfl)
theorem dX4_let_245 : decode cX4_let 245 = .ok (.iastore, 1) := dk_79 (dk_at dksX4_let_10 10 rfl rfl)
theorem dX4_let_246 : decode cX4_let 246 = .ok (.aload_n 0, 1) := dk_42 (dk_at dksX4_let_10 11 rfl rfl)
theorem dX4_let_247 : decode cX4_let 247 = .ok (.getfield 125, 3) := dk_180 0 125 (dk_at dksX4_let_10 12 rfl rfl)
theorem dX4_let_250 : decode cX4_let 250 = .ok (.iload_n 1, 1) := dk_27 (dk_at dksX4_let_10 15 rfl rfl)
theorem dX4_let_251 : decode cX4_let 251 = .ok (.iload_n 2, 1) := dk_28 (dk_at dksX4_let_10 16 rfl rfl)
theorem dX4_let_252 : decode cX4_let 252 = .ok (.iastore, 1) := dk_79 (dk_at dksX4_let_10 17 rfl rfl)
theorem dX4_let_253 : decode cX4_let 253 = .ok (.aload_n 0, 1) := dk_42 (dk_at dksX4_let_10 18 rfl rfl)
theorem dX4_let_254 : decode cX4_let 254 = .ok (.getfield 98, 3) := dk_180 0 98 (dk_at dksX4_let_10 19 rfl rfl)
theorem dX4_let_257 : decode cX4_let 257 = .ok (.iload 4, 2) := dk_21 4 (dk_at dksX4_let_10 22 rfl rfl)
theorem dX4_let_259 : decode cX4_let 259 = .ok (.dup2, 1) := dk_92 (dk_at dksX4_let_11 0 rfl rfl)
theorem dX4_let_260 : decode cX4_let 260 = .ok (.laload, 1) := dk_47 (dk_at dksX4_let_11 1 rfl rfl)
theorem dX4_let_261 : decode cX4_let 261 = .ok (.aload_n 0, 1) := dk_42 (dk_at dksX4_let_11 2 rfl rfl)
theorem dX4_let_262 : decode cX4_let 262 = .ok (.getfield 119, 3) := dk_180 0 119 (dk_at dksX4_let_11 3 rfl rfl)
theorem dX4_let_265 : decode cX4_let 265 = .ok (.iload_n 1, 1) := dk_27 (dk_at dksX4_let_11 6 rfl rfl)
theorem dX4_let_266 : decode cX4_let 266 = .ok (.iaload, 1) := dk_46 (dk_at dksX4_let_11 7 rfl rfl)
theorem dX4_let_267 : decode cX4_let 267 = .ok (.i2l, 1) := dk_133 (dk_at dksX4_let_11 8 rfl rfl)
theorem dX4_let_268 : decode cX4_let 268 = .ok (.lsub, 1) := dk_101 (dk_at dksX4_let_11 9 rfl rfl)
theorem dX4_let_269 : decode cX4_let 269 = .ok (.lastore, 1) := dk_80 (dk_at dksX4_let_11 10 rfl rfl)
theorem dX4_let_270 : decode cX4_let 270 = .ok (.aload_n 0, 1) := dk_42 (dk_at dksX4_let_11 11 rfl rfl)
theorem dX4_let_271 : decode cX4_let 271 = .ok (.iload_n 1, 1) := dk_27 (dk_at dksX4_let_11 12 rfl rfl)
theorem dX4_let_272 : decode cX4_let 272 = .ok (.invokevirtual 385, 3) := dk_182 1 129 (dk_at dksX4_let_11 13 rfl rfl)
theorem dX4_let_275 : decode cX4_let 275 = .ok (.iload 4, 2) := dk_21 4 (dk_at dksX4_let_11 16 rfl rfl)
theorem dX4_let_277 : decode cX4_let 277 = .ok (.ireturn, 1) := dk_172 (dk_at dksX4_let_11 18 rfl rfl)
abbrev cX4_rentDue : ByteArray := prog_33_method_47_code
def yX4_rentDue : MethodName := ⟨RX4, "rentDue", "(I)V"⟩
def dkwX4_rentDue_5 : List UInt8 := [180, 0, 122, 27, 42, 180, 1, 75, 16, 91, 96, 79, 177]
abbrev dktX4_rentDue_5 : List UInt8 := dkwX4_rentDue_5 ++ []
def dkwX4_rentDue_4 : List UInt8 := [4, 27, 42, 180, 0, 116, 27, 46, 133, 182, 1, 110, 42, 180, 0, 125, 27, 92, 46, 4, 100, 79, 42]
abbrev dktX4_rentDue_4 : List UInt8 := dkwX4_rentDue_4 ++ dktX4_rentDue_5
def dkwX4_rentDue_3 : List UInt8 := [180, 0, 113, 27, 2, 79, 177, 42, 180, 0, 98, 28, 92, 47, 42, 180, 0, 116, 27, 46, 133, 101, 80, 42]
abbrev dktX4_rentDue_3 : List UInt8 := dkwX4_rentDue_3 ++ dktX4_rentDue_4
def dkwX4_rentDue_2 : List UInt8 := [180, 0, 116, 27, 46, 133, 148, 156, 0, 24, 42, 5, 27, 42, 180, 0, 119, 27, 46, 133, 182, 1, 110, 42]
abbrev dktX4_rentDue_2 : List UInt8 := dkwX4_rentDue_2 ++ dktX4_rentDue_3
def dkwX4_rentDue_1 : List UInt8 := [180, 0, 119, 27, 46, 133, 97, 80, 42, 180, 0, 113, 27, 2, 79, 177, 42, 180, 0, 98, 28, 47, 42]
abbrev dktX4_rentDue_1 : List UInt8 := dkwX4_rentDue_1 ++ dktX4_rentDue_2
def dkwX4_rentDue_0 : List UInt8 := [42, 180, 0, 113, 27, 46, 61, 42, 180, 0, 125, 27, 46, 154, 0, 27, 42, 180, 0, 98, 28, 92, 47, 42]
abbrev dktX4_rentDue_0 : List UInt8 := dkwX4_rentDue_0 ++ dktX4_rentDue_1
theorem dksX4_rentDue_0 : cX4_rentDue.data.toList.drop 0 = dktX4_rentDue_0 := by decide +kernel
theorem dksX4_rentDue_1 : cX4_rentDue.data.toList.drop 24 = dktX4_rentDue_1 := dk_seg dksX4_rentDue_0 24 rfl rfl
theorem dksX4_rentDue_2 : cX4_rentDue.data.toList.drop 47 = dktX4_rentDue_2 := dk_seg dksX4_rentDue_1 23 rfl rfl
theorem dksX4_rentDue_3 : cX4_rentDue.data.toList.drop 71 = dktX4_rentDue_3 := dk_seg dksX4_rentDue_2 24 rfl rfl
theorem dksX4_rentDue_4 : cX4_rentDue.data.toList.drop 95 = dktX4_rentDue_4 := dk_seg dksX4_rentDue_3 24 rfl rfl
theorem dksX4_rentDue_5 : cX4_rentDue.data.toList.drop 118 = dktX4_rentDue_5 := dk_seg dksX4_rentDue_4 23 rfl rfl
theorem dX4_rentDue_0 : decode cX4_rentDue 0 = .ok (.aload_n 0, 1) := dk_42 (dk_at dksX4_rentDue_0 0 rfl rfl)
theorem dX4_rentDue_1 : decode cX4_rentDue 1 = .ok (.getfield 113, 3) := dk_180 0 113 (dk_at dksX4_rentDue_0 1 rfl rfl)
theorem dX4_rentDue_4 : decode cX4_rentDue 4 = .ok (.iload_n 1, 1) := dk_27 (dk_at dksX4_rentDue_0 4 rfl rfl)
theorem dX4_rentDue_5 : decode cX4_rentDue 5 = .ok (.iaload, 1) := dk_46 (dk_at dksX4_rentDue_0 5 rfl rfl)
theorem dX4_rentDue_6 : decode cX4_rentDue 6 = .ok (.istore_n 2, 1) := dk_61 (dk_at dksX4_rentDue_0 6 rfl rfl)
theorem dX4_rentDue_7 : decode cX4_rentDue 7 = .ok (.aload_n 0, 1) := dk_42 (dk_at dksX4_rentDue_0 7 rfl rfl)
theorem dX4_rentDue_8 : decode cX4_rentDue 8 = .ok (.getfield 125, 3) := dk_180 0 125 (dk_at dksX4_rentDue_0 8 rfl rfl)
theorem dX4_rentDue_11 : decode cX4_rentDue 11 = .ok (.iload_n 1, 1) := dk_27 (dk_at dksX4_rentDue_0 11 rfl rfl)
theorem dX4_rentDue_12 : decode cX4_rentDue 12 = .ok (.iaload, 1) := dk_46 (dk_at dksX4_rentDue_0 12 rfl rfl)
theorem dX4_rentDue_13 : decode cX4_rentDue 13 = .ok (.ifCond .ne 27, 3) := dk_154 0 27 (dk_at dksX4_rentDue_0 13 rfl rfl)
theorem dX4_rentDue_16 : decode cX4_rentDue 16 = .ok (.aload_n 0, 1) := dk_42 (dk_at dksX4_rentDue_0 16 rfl rfl)
theorem dX4_rentDue_17 : decode cX4_rentDue 17 = .ok (.getfield 98, 3) := dk_180 0 98 (dk_at dksX4_rentDue_0 17 rfl rfl)
theorem dX4_rentDue_20 : decode cX4_rentDue 20 = .ok (.iload_n 2, 1) := dk_28 (dk_at dksX4_rentDue_0 20 rfl rfl)
theorem dX4_rentDue_21 : decode cX4_rentDue 21 = .ok (.dup2, 1) := dk_92 (dk_at dksX4_rentDue_0 21 rfl rfl)
theorem dX4_rentDue_22 : decode cX4_rentDue 22 = .ok (.laload, 1) := dk_47 (dk_at dksX4_rentDue_0 22 rfl rfl)
theorem dX4_rentDue_23 : decode cX4_rentDue 23 = .ok (.aload_n 0, 1) := dk_42 (dk_at dksX4_rentDue_0 23 rfl rfl)
theorem dX4_rentDue_24 : decode cX4_rentDue 24 = .ok (.getfield 119, 3) := dk_180 0 119 (dk_at dksX4_rentDue_1 0 rfl rfl)
theorem dX4_rentDue_27 : decode cX4_rentDue 27 = .ok (.iload_n 1, 1) := dk_27 (dk_at dksX4_rentDue_1 3 rfl rfl)
theorem dX4_rentDue_28 : decode cX4_rentDue 28 = .ok (.iaload, 1) := dk_46 (dk_at dksX4_rentDue_1 4 rfl rfl)
theorem dX4_rentDue_29 : decode cX4_rentDue 29 = .ok (.i2l, 1) := dk_133 (dk_at dksX4_rentDue_1 5 rfl rfl)
theorem dX4_rentDue_30 : decode cX4_rentDue 30 = .ok (.ladd, 1) := dk_97 (dk_at dksX4_rentDue_1 6 rfl rfl)
theorem dX4_rentDue_31 : decode cX4_rentDue 31 = .ok (.lastore, 1) := dk_80 (dk_at dksX4_rentDue_1 7 rfl rfl)
theorem dX4_rentDue_32 : decode cX4_rentDue 32 = .ok (.aload_n 0, 1) := dk_42 (dk_at dksX4_rentDue_1 8 rfl rfl)
theorem dX4_rentDue_33 : decode cX4_rentDue 33 = .ok (.getfield 113, 3) := dk_180 0 113 (dk_at dksX4_rentDue_1 9 rfl rfl)
theorem dX4_rentDue_36 : decode cX4_rentDue 36 = .ok (.iload_n 1, 1) := dk_27 (dk_at dksX4_rentDue_1 12 rfl rfl)
theorem dX4_rentDue_37 : decode cX4_rentDue 37 = .ok (.iconst (-1), 1) := dk_2 (dk_at dksX4_rentDue_1 13 rfl rfl)
theorem dX4_rentDue_38 : decode cX4_rentDue 38 = .ok (.iastore, 1) := dk_79 (dk_at dksX4_rentDue_1 14 rfl rfl)
theorem dX4_rentDue_39 : decode cX4_rentDue 39 = .ok (.return_, 1) := dk_177 (dk_at dksX4_rentDue_1 15 rfl rfl)
theorem dX4_rentDue_40 : decode cX4_rentDue 40 = .ok (.aload_n 0, 1) := dk_42 (dk_at dksX4_rentDue_1 16 rfl rfl)
theorem dX4_rentDue_41 : decode cX4_rentDue 41 = .ok (.getfield 98, 3) := dk_180 0 98 (dk_at dksX4_rentDue_1 17 rfl rfl)
theorem dX4_rentDue_44 : decode cX4_rentDue 44 = .ok (.iload_n 2, 1) := dk_28 (dk_at dksX4_rentDue_1 20 rfl rfl)
theorem dX4_rentDue_45 : decode cX4_rentDue 45 = .ok (.laload, 1) := dk_47 (dk_at dksX4_rentDue_1 21 rfl rfl)
theorem dX4_rentDue_46 : decode cX4_rentDue 46 = .ok (.aload_n 0, 1) := dk_42 (dk_at dksX4_rentDue_1 22 rfl rfl)
theorem dX4_rentDue_47 : decode cX4_rentDue 47 = .ok (.getfield 116, 3) := dk_180 0 116 (dk_at dksX4_rentDue_2 0 rfl rfl)
theorem dX4_rentDue_50 : decode cX4_rentDue 50 = .ok (.iload_n 1, 1) := dk_27 (dk_at dksX4_rentDue_2 3 rfl rfl)
theorem dX4_rentDue_51 : decode cX4_rentDue 51 = .ok (.iaload, 1) := dk_46 (dk_at dksX4_rentDue_2 4 rfl rfl)
theorem dX4_rentDue_52 : decode cX4_rentDue 52 = .ok (.i2l, 1) := dk_133 (dk_at dksX4_rentDue_2 5 rfl rfl)
theorem dX4_rentDue_53 : decode cX4_rentDue 53 = .ok (.lcmp, 1) := dk_148 (dk_at dksX4_rentDue_2 6 rfl rfl)
theorem dX4_rentDue_54 : decode cX4_rentDue 54 = .ok (.ifCond .ge 24, 3) := dk_156 0 24 (dk_at dksX4_rentDue_2 7 rfl rfl)
theorem dX4_rentDue_57 : decode cX4_rentDue 57 = .ok (.aload_n 0, 1) := dk_42 (dk_at dksX4_rentDue_2 10 rfl rfl)
theorem dX4_rentDue_58 : decode cX4_rentDue 58 = .ok (.iconst 2, 1) := dk_5 (dk_at dksX4_rentDue_2 11 rfl rfl)
theorem dX4_rentDue_59 : decode cX4_rentDue 59 = .ok (.iload_n 1, 1) := dk_27 (dk_at dksX4_rentDue_2 12 rfl rfl)
theorem dX4_rentDue_60 : decode cX4_rentDue 60 = .ok (.aload_n 0, 1) := dk_42 (dk_at dksX4_rentDue_2 13 rfl rfl)
theorem dX4_rentDue_61 : decode cX4_rentDue 61 = .ok (.getfield 119, 3) := dk_180 0 119 (dk_at dksX4_rentDue_2 14 rfl rfl)
theorem dX4_rentDue_64 : decode cX4_rentDue 64 = .ok (.iload_n 1, 1) := dk_27 (dk_at dksX4_rentDue_2 17 rfl rfl)
theorem dX4_rentDue_65 : decode cX4_rentDue 65 = .ok (.iaload, 1) := dk_46 (dk_at dksX4_rentDue_2 18 rfl rfl)
theorem dX4_rentDue_66 : decode cX4_rentDue 66 = .ok (.i2l, 1) := dk_133 (dk_at dksX4_rentDue_2 19 rfl rfl)
theorem dX4_rentDue_67 : decode cX4_rentDue 67 = .ok (.invokevirtual 366, 3) := dk_182 1 110 (dk_at dksX4_rentDue_2 20 rfl rfl)
theorem dX4_rentDue_70 : decode cX4_rentDue 70 = .ok (.aload_n 0, 1) := dk_42 (dk_at dksX4_rentDue_2 23 rfl rfl)
theorem dX4_rentDue_71 : decode cX4_rentDue 71 = .ok (.getfield 113, 3) := dk_180 0 113 (dk_at dksX4_rentDue_3 0 rfl rfl)
theorem dX4_rentDue_74 : decode cX4_rentDue 74 = .ok (.iload_n 1, 1) := dk_27 (dk_at dksX4_rentDue_3 3 rfl rfl)
theorem dX4_rentDue_75 : decode cX4_rentDue 75 = .ok (.iconst (-1), 1) := dk_2 (dk_at dksX4_rentDue_3 4 rfl rfl)
theorem dX4_rentDue_76 : decode cX4_rentDue 76 = .ok (.iastore, 1) := dk_79 (dk_at dksX4_rentDue_3 5 rfl rfl)
theorem dX4_rentDue_77 : decode cX4_rentDue 77 = .ok (.return_, 1) := dk_177 (dk_at dksX4_rentDue_3 6 rfl rfl)
theorem dX4_rentDue_78 : decode cX4_rentDue 78 = .ok (.aload_n 0, 1) := dk_42 (dk_at dksX4_rentDue_3 7 rfl rfl)
theorem dX4_rentDue_79 : decode cX4_rentDue 79 = .ok (.getfield 98, 3) := dk_180 0 98 (dk_at dksX4_rentDue_3 8 rfl rfl)
theorem dX4_rentDue_82 : decode cX4_rentDue 82 = .ok (.iload_n 2, 1) := dk_28 (dk_at dksX4_rentDue_3 11 rfl rfl)
theorem dX4_rentDue_83 : decode cX4_rentDue 83 = .ok (.dup2, 1) := dk_92 (dk_at dksX4_rentDue_3 12 rfl rfl)
theorem dX4_rentDue_84 : decode cX4_rentDue 84 = .ok (.laload, 1) := dk_47 (dk_at dksX4_rentDue_3 13 rfl rfl)
theorem dX4_rentDue_85 : decode cX4_rentDue 85 = .ok (.aload_n 0, 1) := dk_42 (dk_at dksX4_rentDue_3 14 rfl rfl)
theorem dX4_rentDue_86 : decode cX4_rentDue 86 = .ok (.getfield 116, 3) := dk_180 0 116 (dk_at dksX4_rentDue_3 15 rfl rfl)
theorem dX4_rentDue_89 : decode cX4_rentDue 89 = .ok (.iload_n 1, 1) := dk_27 (dk_at dksX4_rentDue_3 18 rfl rfl)
theorem dX4_rentDue_90 : decode cX4_rentDue 90 = .ok (.iaload, 1) := dk_46 (dk_at dksX4_rentDue_3 19 rfl rfl)
theorem dX4_rentDue_91 : decode cX4_rentDue 91 = .ok (.i2l, 1) := dk_133 (dk_at dksX4_rentDue_3 20 rfl rfl)
theorem dX4_rentDue_92 : decode cX4_rentDue 92 = .ok (.lsub, 1) := dk_101 (dk_at dksX4_rentDue_3 21 rfl rfl)
theorem dX4_rentDue_93 : decode cX4_rentDue 93 = .ok (.lastore, 1) := dk_80 (dk_at dksX4_rentDue_3 22 rfl rfl)
theorem dX4_rentDue_94 : decode cX4_rentDue 94 = .ok (.aload_n 0, 1) := dk_42 (dk_at dksX4_rentDue_3 23 rfl rfl)
theorem dX4_rentDue_95 : decode cX4_rentDue 95 = .ok (.iconst 1, 1) := dk_4 (dk_at dksX4_rentDue_4 0 rfl rfl)
theorem dX4_rentDue_96 : decode cX4_rentDue 96 = .ok (.iload_n 1, 1) := dk_27 (dk_at dksX4_rentDue_4 1 rfl rfl)
theorem dX4_rentDue_97 : decode cX4_rentDue 97 = .ok (.aload_n 0, 1) := dk_42 (dk_at dksX4_rentDue_4 2 rfl rfl)
theorem dX4_rentDue_98 : decode cX4_rentDue 98 = .ok (.getfield 116, 3) := dk_180 0 116 (dk_at dksX4_rentDue_4 3 rfl rfl)
theorem dX4_rentDue_101 : decode cX4_rentDue 101 = .ok (.iload_n 1, 1) := dk_27 (dk_at dksX4_rentDue_4 6 rfl rfl)
theorem dX4_rentDue_102 : decode cX4_rentDue 102 = .ok (.iaload, 1) := dk_46 (dk_at dksX4_rentDue_4 7 rfl rfl)
theorem dX4_rentDue_103 : decode cX4_rentDue 103 = .ok (.i2l, 1) := dk_133 (dk_at dksX4_rentDue_4 8 rfl rfl)
theorem dX4_rentDue_104 : decode cX4_rentDue 104 = .ok (.invokevirtual 366, 3) := dk_182 1 110 (dk_at dksX4_rentDue_4 9 rfl rfl)
theorem dX4_rentDue_107 : decode cX4_rentDue 107 = .ok (.aload_n 0, 1) := dk_42 (dk_at dksX4_rentDue_4 12 rfl rfl)
theorem dX4_rentDue_108 : decode cX4_rentDue 108 = .ok (.getfield 125, 3) := dk_180 0 125 (dk_at dksX4_rentDue_4 13 rfl rfl)
theorem dX4_rentDue_111 : decode cX4_rentDue 111 = .ok (.iload_n 1, 1) := dk_27 (dk_at dksX4_rentDue_4 16 rfl rfl)
theorem dX4_rentDue_112 : decode cX4_rentDue 112 = .ok (.dup2, 1) := dk_92 (dk_at dksX4_rentDue_4 17 rfl rfl)
theorem dX4_rentDue_113 : decode cX4_rentDue 113 = .ok (.iaload, 1) := dk_46 (dk_at dksX4_rentDue_4 18 rfl rfl)
theorem dX4_rentDue_114 : decode cX4_rentDue 114 = .ok (.iconst 1, 1) := dk_4 (dk_at dksX4_rentDue_4 19 rfl rfl)
theorem dX4_rentDue_115 : decode cX4_rentDue 115 = .ok (.isub, 1) := dk_100 (dk_at dksX4_rentDue_4 20 rfl rfl)
theorem dX4_rentDue_116 : decode cX4_rentDue 116 = .ok (.iastore, 1) := dk_79 (dk_at dksX4_rentDue_4 21 rfl rfl)
theorem dX4_rentDue_117 : decode cX4_rentDue 117 = .ok (.aload_n 0, 1) := dk_42 (dk_at dksX4_rentDue_4 22 rfl rfl)
theorem dX4_rentDue_118 : decode cX4_rentDue 118 = .ok (.getfield 122, 3) := dk_180 0 122 (dk_at dksX4_rentDue_5 0 rfl rfl)
theorem dX4_rentDue_121 : decode cX4_rentDue 121 = .ok (.iload_n 1, 1) := dk_27 (dk_at dksX4_rentDue_5 3 rfl rfl)
theorem dX4_rentDue_122 : decode cX4_rentDue 122 = .ok (.aload_n 0, 1) := dk_42 (dk_at dksX4_rentDue_5 4 rfl rfl)
theorem dX4_rentDue_123 : decode cX4_rentDue 123 = .ok (.getfield 331, 3) := dk_180 1 75 (dk_at dksX4_rentDue_5 5 rfl rfl)
theorem dX4_rentDue_126 : decode cX4_rentDue 126 = .ok (.bipush 91, 2) := dk_16 91 (dk_at dksX4_rentDue_5 8 rfl rfl)
theorem dX4_rentDue_128 : decode cX4_rentDue 128 = .ok (.iadd, 1) := dk_96 (dk_at dksX4_rentDue_5 10 rfl rfl)
theorem dX4_rentDue_129 : decode cX4_rentDue 129 = .ok (.iastore, 1) := dk_79 (dk_at dksX4_rentDue_5 11 rfl rfl)
theorem dX4_rentDue_130 : decode cX4_rentDue 130 = .ok (.return_, 1) := dk_177 (dk_at dksX4_rentDue_5 12 rfl rfl)
abbrev cX4_gateTold : ByteArray := prog_33_method_48_code
def yX4_gateTold : MethodName := ⟨RX4, "gateTold", "(II)I"⟩
def dkwX4_gateTold_7 : List UInt8 := [172]
abbrev dktX4_gateTold_7 : List UInt8 := dkwX4_gateTold_7 ++ []
def dkwX4_gateTold_6 : List UInt8 := [42, 180, 0, 122, 27, 46, 167, 0, 4, 3, 172, 42, 180, 0, 101, 27, 46, 172, 42, 180, 0, 73, 27, 46]
abbrev dktX4_gateTold_6 : List UInt8 := dkwX4_gateTold_6 ++ dktX4_gateTold_7
def dkwX4_gateTold_5 : List UInt8 := [167, 0, 4, 3, 172, 29, 153, 0, 12, 42, 180, 0, 119, 27, 46, 167, 0, 4, 3, 172, 29, 153, 0, 12]
abbrev dktX4_gateTold_5 : List UInt8 := dkwX4_gateTold_5 ++ dktX4_gateTold_6
def dkwX4_gateTold_4 : List UInt8 := [42, 180, 0, 70, 27, 46, 172, 42, 180, 0, 113, 27, 46, 172, 29, 153, 0, 12, 42, 180, 0, 116, 27, 46]
abbrev dktX4_gateTold_4 : List UInt8 := dkwX4_gateTold_4 ++ dktX4_gateTold_5
def dkwX4_gateTold_3 : List UInt8 := [170, 0, 0, 0, 103, 0, 0, 0, 0, 0, 0, 0, 5, 0, 0, 0, 37, 0, 0, 0, 44, 0, 0, 0, 51, 0, 0, 0, 66, 0, 0, 0, 81, 0, 0, 0, 96]
abbrev dktX4_gateTold_3 : List UInt8 := dkwX4_gateTold_3 ++ dktX4_gateTold_4
def dkwX4_gateTold_2 : List UInt8 := [182, 1, 52, 153, 0, 5, 3, 172, 42, 180, 0, 113, 27, 46, 155, 0, 7, 4, 167, 0, 4, 3, 62, 28]
abbrev dktX4_gateTold_2 : List UInt8 := dkwX4_gateTold_2 ++ dktX4_gateTold_3
def dkwX4_gateTold_1 : List UInt8 := [182, 1, 52, 154, 0, 26, 42, 28, 155, 0, 9, 28, 16, 6, 164, 0, 7, 4, 167, 0, 4, 3, 5]
abbrev dktX4_gateTold_1 : List UInt8 := dkwX4_gateTold_1 ++ dktX4_gateTold_2
def dkwX4_gateTold_0 : List UInt8 := [42, 3, 181, 0, 146, 42, 27, 155, 0, 11, 27, 42, 180, 1, 65, 161, 0, 7, 4, 167, 0, 4, 3, 4]
abbrev dktX4_gateTold_0 : List UInt8 := dkwX4_gateTold_0 ++ dktX4_gateTold_1
theorem dksX4_gateTold_0 : cX4_gateTold.data.toList.drop 0 = dktX4_gateTold_0 := by decide +kernel
theorem dksX4_gateTold_1 : cX4_gateTold.data.toList.drop 24 = dktX4_gateTold_1 := dk_seg dksX4_gateTold_0 24 rfl rfl
theorem dksX4_gateTold_2 : cX4_gateTold.data.toList.drop 47 = dktX4_gateTold_2 := dk_seg dksX4_gateTold_1 23 rfl rfl
theorem dksX4_gateTold_3 : cX4_gateTold.data.toList.drop 71 = dktX4_gateTold_3 := dk_seg dksX4_gateTold_2 24 rfl rfl
theorem dksX4_gateTold_4 : cX4_gateTold.data.toList.drop 108 = dktX4_gateTold_4 := dk_seg dksX4_gateTold_3 37 rfl rfl
theorem dksX4_gateTold_5 : cX4_gateTold.data.toList.drop 132 = dktX4_gateTold_5 := dk_seg dksX4_gateTold_4 24 rfl rfl
theorem dksX4_gateTold_6 : cX4_gateTold.data.toList.drop 156 = dktX4_gateTold_6 := dk_seg dksX4_gateTold_5 24 rfl rfl
theorem dksX4_gateTold_7 : cX4_gateTold.data.toList.drop 180 = dktX4_gateTold_7 := dk_seg dksX4_gateTold_6 24 rfl rfl
theorem dX4_gateTold_0 : decode cX4_gateTold 0 = .ok (.aload_n 0, 1) := dk_42 (dk_at dksX4_gateTold_0 0 rfl rfl)
theorem dX4_gateTold_1 : decode cX4_gateTold 1 = .ok (.iconst 0, 1) := dk_3 (dk_at dksX4_gateTold_0 1 rfl rfl)
theorem dX4_gateTold_2 : decode cX4_gateTold 2 = .ok (.putfield 146, 3) := dk_181 0 146 (dk_at dksX4_gateTold_0 2 rfl rfl)
theorem dX4_gateTold_5 : decode cX4_gateTold 5 = .ok (.aload_n 0, 1) := dk_42 (dk_at dksX4_gateTold_0 5 rfl rfl)
theorem dX4_gateTold_6 : decode cX4_gateTold 6 = .ok (.iload_n 1, 1) := dk_27 (dk_at dksX4_gateTold_0 6 rfl rfl)
theorem dX4_gateTold_7 : decode cX4_gateTold 7 = .ok (.ifCond .lt 11, 3) := dk_155 0 11 (dk_at dksX4_gateTold_0 7 rfl rfl)
theorem dX4_gateTold_10 : decode cX4_gateTold 10 = .ok (.iload_n 1, 1) := dk_27 (dk_at dksX4_gateTold_0 10 rfl rfl)
theorem dX4_gateTold_11 : decode cX4_gateTold 11 = .ok (.aload_n 0, 1) := dk_42 (dk_at dksX4_gateTold_0 11 rfl rfl)
theorem dX4_gateTold_12 : decode cX4_gateTold 12 = .ok (.getfield 321, 3) := dk_180 1 65 (dk_at dksX4_gateTold_0 12 rfl rfl)
theorem dX4_gateTold_15 : decode cX4_gateTold 15 = .ok (.if_icmp .lt 7, 3) := dk_161 0 7 (dk_at dksX4_gateTold_0 15 rfl rfl)
theorem dX4_gateTold_18 : decode cX4_gateTold 18 = .ok (.iconst 1, 1) := dk_4 (dk_at dksX4_gateTold_0 18 rfl rfl)
theorem dX4_gateTold_19 : decode cX4_gateTold 19 = .ok (.goto 4, 3) := dk_167 0 4 (dk_at dksX4_gateTold_0 19 rfl rfl)
theorem dX4_gateTold_22 : decode cX4_gateTold 22 = .ok (.iconst 0, 1) := dk_3 (dk_at dksX4_gateTold_0 22 rfl rfl)
theorem dX4_gateTold_23 : decode cX4_gateTold 23 = .ok (.iconst 1, 1) := dk_4 (dk_at dksX4_gateTold_0 23 rfl rfl)
theorem dX4_gateTold_24 : decode cX4_gateTold 24 = .ok (.invokevirtual 308, 3) := dk_182 1 52 (dk_at dksX4_gateTold_1 0 rfl rfl)
theorem dX4_gateTold_27 : decode cX4_gateTold 27 = .ok (.ifCond .ne 26, 3) := dk_154 0 26 (dk_at dksX4_gateTold_1 3 rfl rfl)
theorem dX4_gateTold_30 : decode cX4_gateTold 30 = .ok (.aload_n 0, 1) := dk_42 (dk_at dksX4_gateTold_1 6 rfl rfl)
theorem dX4_gateTold_31 : decode cX4_gateTold 31 = .ok (.iload_n 2, 1) := dk_28 (dk_at dksX4_gateTold_1 7 rfl rfl)
theorem dX4_gateTold_32 : decode cX4_gateTold 32 = .ok (.ifCond .lt 9, 3) := dk_155 0 9 (dk_at dksX4_gateTold_1 8 rfl rfl)
theorem dX4_gateTold_35 : decode cX4_gateTold 35 = .ok (.iload_n 2, 1) := dk_28 (dk_at dksX4_gateTold_1 11 rfl rfl)
theorem dX4_gateTold_36 : decode cX4_gateTold 36 = .ok (.bipush 6, 2) := dk_16 6 (dk_at dksX4_gateTold_1 12 rfl rfl)
theorem dX4_gateTold_38 : decode cX4_gateTold 38 = .ok (.if_icmp .le 7, 3) := dk_164 0 7 (dk_at dksX4_gateTold_1 14 rfl rfl)
theorem dX4_gateTold_41 : decode cX4_gateTold 41 = .ok (.iconst 1, 1) := dk_4 (dk_at dksX4_gateTold_1 17 rfl rfl)
theorem dX4_gateTold_42 : decode cX4_gateTold 42 = .ok (.goto 4, 3) := dk_167 0 4 (dk_at dksX4_gateTold_1 18 rfl rfl)
theorem dX4_gateTold_45 : decode cX4_gateTold 45 = .ok (.iconst 0, 1) := dk_3 (dk_at dksX4_gateTold_1 21 rfl rfl)
theorem dX4_gateTold_46 : decode cX4_gateTold 46 = .ok (.iconst 2, 1) := dk_5 (dk_at dksX4_gateTold_1 22 rfl rfl)
theorem dX4_gateTold_47 : decode cX4_gateTold 47 = .ok (.invokevirtual 308, 3) := dk_182 1 52 (dk_at dksX4_gateTold_2 0 rfl rfl)
theorem dX4_gateTold_50 : decode cX4_gateTold 50 = .ok (.ifCond .eq 5, 3) := dk_153 0 5 (dk_at dksX4_gateTold_2 3 rfl rfl)
theorem dX4_gateTold_53 : decode cX4_gateTold 53 = .ok (.iconst 0, 1) := dk_3 (dk_at dksX4_gateTold_2 6 rfl rfl)
theorem dX4_gateTold_54 : decode cX4_gateTold 54 = .ok (.ireturn, 1) := dk_172 (dk_at dksX4_gateTold_2 7 rfl rfl)
theorem dX4_gateTold_55 : decode cX4_gateTold 55 = .ok (.aload_n 0, 1) := dk_42 (dk_at dksX4_gateTold_2 8 rfl rfl)
theorem dX4_gateTold_56 : decode cX4_gateTold 56 = .ok (.getfield 113, 3) := dk_180 0 113 (dk_at dksX4_gateTold_2 9 rfl rfl)
theorem dX4_gateTold_59 : decode cX4_gateTold 59 = .ok (.iload_n 1, 1) := dk_27 (dk_at dksX4_gateTold_2 12 rfl rfl)
theorem dX4_gateTold_60 : decode cX4_gateTold 60 = .ok (.iaload, 1) := dk_46 (dk_at dksX4_gateTold_2 13 rfl rfl)
theorem dX4_gateTold_61 : decode cX4_gateTold 61 = .ok (.ifCond .lt 7, 3) := dk_155 0 7 (dk_at dksX4_gateTold_2 14 rfl rfl)
theorem dX4_gateTold_64 : decode cX4_gateTold 64 = .ok (.iconst 1, 1) := dk_4 (dk_at dksX4_gateTold_2 17 rfl rfl)
theorem dX4_gateTold_65 : decode cX4_gateTold 65 = .ok (.goto 4, 3) := dk_167 0 4 (dk_at dksX4_gateTold_2 18 rfl rfl)
theorem dX4_gateTold_68 : decode cX4_gateTold 68 = .ok (.iconst 0, 1) := dk_3 (dk_at dksX4_gateTold_2 21 rfl rfl)
theorem dX4_gateTold_69 : decode cX4_gateTold 69 = .ok (.istore_n 3, 1) := dk_62 (dk_at dksX4_gateTold_2 22 rfl rfl)
theorem dX4_gateTold_70 : decode cX4_gateTold 70 = .ok (.iload_n 2, 1) := dk_28 (dk_at dksX4_gateTold_2 23 rfl rfl)
theorem dX4_gateTold_71 : decode cX4_gateTold 71 = .ok (.tableswitch 103 0 5 #[37, 44, 51, 66, 81, 96], 37) := by decide +kernel
theorem dX4_gateTold_108 : decode cX4_gateTold 108 = .ok (.aload_n 0, 1) := dk_42 (dk_at dksX4_gateTold_4 0 rfl rfl)
theorem dX4_gateTold_109 : decode cX4_gateTold 109 = .ok (.getfield 70, 3) := dk_180 0 70 (dk_at dksX4_gateTold_4 1 rfl rfl)
theorem dX4_gateTold_112 : decode cX4_gateTold 112 = .ok (.iload_n 1, 1) := dk_27 (dk_at dksX4_gateTold_4 4 rfl rfl)
theorem dX4_gateTold_113 : decode cX4_gateTold 113 = .ok (.iaload, 1) := dk_46 (dk_at dksX4_gateTold_4 5 rfl rfl)
theorem dX4_gateTold_114 : decode cX4_gateTold 114 = .ok (.ireturn, 1) := dk_172 (dk_at dksX4_gateTold_4 6 rfl rfl)
theorem dX4_gateTold_115 : decode cX4_gateTold 115 = .ok (.aload_n 0, 1) := dk_42 (dk_at dksX4_gateTold_4 7 rfl rfl)
theorem dX4_gateTold_116 : decode cX4_gateTold 116 = .ok (.getfield 113, 3) := dk_180 0 113 (dk_at dksX4_gateTold_4 8 rfl rfl)
theorem dX4_gateTold_119 : decode cX4_gateTold 119 = .ok (.iload_n 1, 1) := dk_27 (dk_at dksX4_gateTold_4 11 rfl rfl)
theorem dX4_gateTold_120 : decode cX4_gateTold 120 = .ok (.iaload, 1) := dk_46 (dk_at dksX4_gateTold_4 12 rfl rfl)
theorem dX4_gateTold_121 : decode cX4_gateTold 121 = .ok (.ireturn, 1) := dk_172 (dk_at dksX4_gateTold_4 13 rfl rfl)
theorem dX4_gateTold_122 : decode cX4_gateTold 122 = .ok (.iload_n 3, 1) := dk_29 (dk_at dksX4_gateTold_4 14 rfl rfl)
theorem dX4_gateTold_123 : decode cX4_gateTold 123 = .ok (.ifCond .eq 12, 3) := dk_153 0 12 (dk_at dksX4_gateTold_4 15 rfl rfl)
theorem dX4_gateTold_126 : decode cX4_gateTold 126 = .ok (.aload_n 0, 1) := dk_42 (dk_at dksX4_gateTold_4 18 rfl rfl)
theorem dX4_gateTold_127 : decode cX4_gateTold 127 = .ok (.getfield 116, 3) := dk_180 0 116 (dk_at dksX4_gateTold_4 19 rfl rfl)
theorem dX4_gateTold_130 : decode cX4_gateTold 130 = .ok (.iload_n 1, 1) := dk_27 (dk_at dksX4_gateTold_4 22 rfl rfl)
theorem dX4_gateTold_131 : decode cX4_gateTold 131 = .ok (.iaload, 1) := dk_46 (dk_at dksX4_gateTold_4 23 rfl rfl)
theorem dX4_gateTold_132 : decode cX4_gateTold 132 = .ok (.goto 4, 3) := dk_167 0 4 (dk_at dksX4_gateTold_5 0 rfl rfl)
theorem dX4_gateTold_135 : decode cX4_gateTold 135 = .ok (.iconst 0, 1) := dk_3 (dk_at dksX4_gateTold_5 3 rfl rfl)
theorem dX4_gateTold_136 : decode cX4_gateTold 136 = .ok (.ireturn, 1) := dk_172 (dk_at dksX4_gateTold_5 4 rfl rfl)
theorem dX4_gateTold_137 : decode cX4_gateTold 137 = .ok (.iload_n 3, 1) := dk_29 (dk_at dksX4_gateTold_5 5 rfl rfl)
theorem dX4_gateTold_138 : decode cX4_gateTold 138 = .ok (.ifCond .eq 12, 3) := dk_153 0 12 (dk_at dksX4_gateTold_5 6 rfl rfl)
theorem dX4_gateTold_141 : decode cX4_gateTold 141 = .ok (.aload_n 0, 1) := dk_42 (dk_at dksX4_gateTold_5 9 rfl rfl)
theorem dX4_gateTold_142 : decode cX4_gateTold 142 = .ok (.getfield 119, 3) := dk_180 0 119 (dk_at dksX4_gateTold_5 10 rfl rfl)
theorem dX4_gateTold_145 : decode cX4_gateTold 145 = .ok (.iload_n 1, 1) := dk_27 (dk_at dksX4_gateTold_5 13 rfl rfl)
theorem dX4_gateTold_146 : decode cX4_gateTold 146 = .ok (.iaload, 1) := dk_46 (dk_at dksX4_gateTold_5 14 rfl rfl)
theorem dX4_gateTold_147 : decode cX4_gateTold 147 = .ok (.goto 4, 3) := dk_167 0 4 (dk_at dksX4_gateTold_5 15 rfl rfl)
theorem dX4_gateTold_150 : decode cX4_gateTold 150 = .ok (.iconst 0, 1) := dk_3 (dk_at dksX4_gateTold_5 18 rfl rfl)
theorem dX4_gateTold_151 : decode cX4_gateTold 151 = .ok (.ireturn, 1) := dk_172 (dk_at dksX4_gateTold_5 19 rfl rfl)
theorem dX4_gateTold_152 : decode cX4_gateTold 152 = .ok (.iload_n 3, 1) := dk_29 (dk_at dksX4_gateTold_5 20 rfl rfl)
theorem dX4_gateTold_153 : decode cX4_gateTold 153 = .ok (.ifCond .eq 12, 3) := dk_153 0 12 (dk_at dksX4_gateTold_5 21 rfl rfl)
theorem dX4_gateTold_156 : decode cX4_gateTold 156 = .ok (.aload_n 0, 1) := dk_42 (dk_at dksX4_gateTold_6 0 rfl rfl)
theorem dX4_gateTold_157 : decode cX4_gateTold 157 = .ok (.getfield 122, 3) := dk_180 0 122 (dk_at dksX4_gateTold_6 1 rfl rfl)
theorem dX4_gateTold_160 : decode cX4_gateTold 160 = .ok (.iload_n 1, 1) := dk_27 (dk_at dksX4_gateTold_6 4 rfl rfl)
theorem dX4_gateTold_161 : decode cX4_gateTold 161 = .ok (.iaload, 1) := dk_46 (dk_at dksX4_gateTold_6 5 rfl rfl)
theorem dX4_gateTold_162 : decode cX4_gateTold 162 = .ok (.goto 4, 3) := dk_167 0 4 (dk_at dksX4_gateTold_6 6 rfl rfl)
theorem dX4_gateTold_165 : decode cX4_gateTold 165 = .ok (.iconst 0, 1) := dk_3 (dk_at dksX4_gateTold_6 9 rfl rfl)
theorem dX4_gateTold_166 : decode cX4_gateTold 166 = .ok (.ireturn, 1) := dk_172 (dk_at dksX4_gateTold_6 10 rfl rfl)
theorem dX4_gateTold_167 : decode cX4_gateTold 167 = .ok (.aload_n 0, 1) := dk_42 (dk_at dksX4_gateTold_6 11 rfl rfl)
theorem dX4_gateTold_168 : decode cX4_gateTold 168 = .ok (.getfield 101, 3) := dk_180 0 101 (dk_at dksX4_gateTold_6 12 rfl rfl)
theorem dX4_gateTold_171 : decode cX4_gateTold 171 = .ok (.iload_n 1, 1) := dk_27 (dk_at dksX4_gateTold_6 15 rfl rfl)
theorem dX4_gateTold_172 : decode cX4_gateTold 172 = .ok (.iaload, 1) := dk_46 (dk_at dksX4_gateTold_6 16 rfl rfl)
theorem dX4_gateTold_173 : decode cX4_gateTold 173 = .ok (.ireturn, 1) := dk_172 (dk_at dksX4_gateTold_6 17 rfl rfl)
theorem dX4_gateTold_174 : decode cX4_gateTold 174 = .ok (.aload_n 0, 1) := dk_42 (dk_at dksX4_gateTold_6 18 rfl rfl)
theorem dX4_gateTold_175 : decode cX4_gateTold 175 = .ok (.getfield 73, 3) := dk_180 0 73 (dk_at dksX4_gateTold_6 19 rfl rfl)
theorem dX4_gateTold_178 : decode cX4_gateTold 178 = .ok (.iload_n 1, 1) := dk_27 (dk_at dksX4_gateTold_6 22 rfl rfl)
theorem dX4_gateTold_179 : decode cX4_gateTold 179 = .ok (.iaload, 1) := dk_46 (dk_at dksX4_gateTold_6 23 rfl rfl)
theorem dX4_gateTold_180 : decode cX4_gateTold 180 = .ok (.ireturn, 1) := dk_172 (dk_at dksX4_gateTold_7 0 rfl rfl)
abbrev cX4_borrow : ByteArray := prog_33_method_49_code
def yX4_borrow : MethodName := ⟨RX4, "borrow", "(III)I"⟩
def dkwX4_borrow_5 : List UInt8 := [181, 1, 132, 42, 180, 1, 132, 4, 100, 172]
abbrev dktX4_borrow_5 : List UInt8 := dkwX4_borrow_5 ++ []
def dkwX4_borrow_4 : List UInt8 := [180, 1, 132, 29, 79, 42, 6, 42, 180, 1, 132, 27, 133, 182, 1, 110, 42, 89, 180, 1, 132, 4, 96]
abbrev dktX4_borrow_4 : List UInt8 := dkwX4_borrow_4 ++ dktX4_borrow_5
def dkwX4_borrow_3 : List UInt8 := [180, 0, 128, 42, 180, 1, 132, 27, 79, 42, 180, 0, 131, 42, 180, 1, 132, 28, 79, 42, 180, 0, 134, 42]
abbrev dktX4_borrow_3 : List UInt8 := dkwX4_borrow_3 ++ dktX4_borrow_4
def dkwX4_borrow_2 : List UInt8 := [180, 1, 132, 16, 10, 160, 0, 7, 4, 167, 0, 4, 3, 5, 182, 1, 52, 153, 0, 5, 3, 172, 42]
abbrev dktX4_borrow_2 : List UInt8 := dkwX4_borrow_2 ++ dktX4_borrow_3
def dkwX4_borrow_1 : List UInt8 := [29, 155, 0, 8, 29, 6, 164, 0, 7, 4, 167, 0, 4, 3, 4, 182, 1, 52, 154, 0, 25, 42, 42]
abbrev dktX4_borrow_1 : List UInt8 := dkwX4_borrow_1 ++ dktX4_borrow_2
def dkwX4_borrow_0 : List UInt8 := [42, 3, 181, 0, 146, 42, 27, 184, 1, 126, 153, 0, 23, 28, 155, 0, 19, 28, 17, 1, 244, 163, 0, 12]
abbrev dktX4_borrow_0 : List UInt8 := dkwX4_borrow_0 ++ dktX4_borrow_1
theorem dksX4_borrow_0 : cX4_borrow.data.toList.drop 0 = dktX4_borrow_0 := by decide +kernel
theorem dksX4_borrow_1 : cX4_borrow.data.toList.drop 24 = dktX4_borrow_1 := dk_seg dksX4_borrow_0 24 rfl rfl
theorem dksX4_borrow_2 : cX4_borrow.data.toList.drop 47 = dktX4_borrow_2 := dk_seg dksX4_borrow_1 23 rfl rfl
theorem dksX4_borrow_3 : cX4_borrow.data.toList.drop 70 = dktX4_borrow_3 := dk_seg dksX4_borrow_2 23 rfl rfl
theorem dksX4_borrow_4 : cX4_borrow.data.toList.drop 94 = dktX4_borrow_4 := dk_seg dksX4_borrow_3 24 rfl rfl
theorem dksX4_borrow_5 : cX4_borrow.data.toList.drop 117 = dktX4_borrow_5 := dk_seg dksX4_borrow_4 23 rfl rfl
theorem dX4_borrow_0 : decode cX4_borrow 0 = .ok (.aload_n 0, 1) := dk_42 (dk_at dksX4_borrow_0 0 rfl rfl)
theorem dX4_borrow_1 : decode cX4_borrow 1 = .ok (.iconst 0, 1) := dk_3 (dk_at dksX4_borrow_0 1 rfl rfl)
theorem dX4_borrow_2 : decode cX4_borrow 2 = .ok (.putfield 146, 3) := dk_181 0 146 (dk_at dksX4_borrow_0 2 rfl rfl)
theorem dX4_borrow_5 : decode cX4_borrow 5 = .ok (.aload_n 0, 1) := dk_42 (dk_at dksX4_borrow_0 5 rfl rfl)
theorem dX4_borrow_6 : decode cX4_borrow 6 = .ok (.iload_n 1, 1) := dk_27 (dk_at dksX4_borrow_0 6 rfl rfl)
theorem dX4_borrow_7 : decode cX4_borrow 7 = .ok (.invokestatic 382, 3) := dk_184 1 126 (dk_at dksX4_borrow_0 7 rfl rfl)
theorem dX4_borrow_10 : decode cX4_borrow 10 = .ok (.ifCond .eq 23, 3) := dk_153 0 23 (dk_at dksX4_borrow_0 10 rfl rfl)
theorem dX4_borrow_13 : decode cX4_borrow 13 = .ok (.iload_n 2, 1) := dk_28 (dk_at dksX4_borrow_0 13 rfl rfl)
theorem dX4_borrow_14 : decode cX4_borrow 14 = .ok (.ifCond .lt 19, 3) := dk_155 0 19 (dk_at dksX4_borrow_0 14 rfl rfl)
theorem dX4_borrow_17 : decode cX4_borrow 17 = .ok (.iload_n 2, 1) := dk_28 (dk_at dksX4_borrow_0 17 rfl rfl)
theorem dX4_borrow_18 : decode cX4_borrow 18 = .ok (.sipush 500, 3) := dk_17 1 244 (dk_at dksX4_borrow_0 18 rfl rfl)
theorem dX4_borrow_21 : decode cX4_borrow 21 = .ok (.if_icmp .gt 12, 3) := dk_163 0 12 (dk_at dksX4_borrow_0 21 rfl rfl)
theorem dX4_borrow_24 : decode cX4_borrow 24 = .ok (.iload_n 3, 1) := dk_29 (dk_at dksX4_borrow_1 0 rfl rfl)
theorem dX4_borrow_25 : decode cX4_borrow 25 = .ok (.ifCond .lt 8, 3) := dk_155 0 8 (dk_at dksX4_borrow_1 1 rfl rfl)
theorem dX4_borrow_28 : decode cX4_borrow 28 = .ok (.iload_n 3, 1) := dk_29 (dk_at dksX4_borrow_1 4 rfl rfl)
theorem dX4_borrow_29 : decode cX4_borrow 29 = .ok (.iconst 3, 1) := dk_6 (dk_at dksX4_borrow_1 5 rfl rfl)
theorem dX4_borrow_30 : decode cX4_borrow 30 = .ok (.if_icmp .le 7, 3) := dk_164 0 7 (dk_at dksX4_borrow_1 6 rfl rfl)
theorem dX4_borrow_33 : decode cX4_borrow 33 = .ok (.iconst 1, 1) := dk_4 (dk_at dksX4_borrow_1 9 rfl rfl)
theorem dX4_borrow_34 : decode cX4_borrow 34 = .ok (.goto 4, 3) := dk_167 0 4 (dk_at dksX4_borrow_1 10 rfl rfl)
theorem dX4_borrow_37 : decode cX4_borrow 37 = .ok (.iconst 0, 1) := dk_3 (dk_at dksX4_borrow_1 13 rfl rfl)
theorem dX4_borrow_38 : decode cX4_borrow 38 = .ok (.iconst 1, 1) := dk_4 (dk_at dksX4_borrow_1 14 rfl rfl)
theorem dX4_borrow_39 : decode cX4_borrow 39 = .ok (.invokevirtual 308, 3) := dk_182 1 52 (dk_at dksX4_borrow_1 15 rfl rfl)
theorem dX4_borrow_42 : decode cX4_borrow 42 = .ok (.ifCond .ne 25, 3) := dk_154 0 25 (dk_at dksX4_borrow_1 18 rfl rfl)
theorem dX4_borrow_45 : decode cX4_borrow 45 = .ok (.aload_n 0, 1) := dk_42 (dk_at dksX4_borrow_1 21 rfl rfl)
theorem dX4_borrow_46 : decode cX4_borrow 46 = .ok (.aload_n 0, 1) := dk_42 (dk_at dksX4_borrow_1 22 rfl rfl)
theorem dX4_borrow_47 : decode cX4_borrow 47 = .ok (.getfield 388, 3) := dk_180 1 132 (dk_at dksX4_borrow_2 0 rfl rfl)
theorem dX4_borrow_50 : decode cX4_borrow 50 = .ok (.bipush 10, 2) := dk_16 10 (dk_at dksX4_borrow_2 3 rfl rfl)
theorem dX4_borrow_52 : decode cX4_borrow 52 = .ok (.if_icmp .ne 7, 3) := dk_160 0 7 (dk_at dksX4_borrow_2 5 rfl rfl)
theorem dX4_borrow_55 : decode cX4_borrow 55 = .ok (.iconst 1, 1) := dk_4 (dk_at dksX4_borrow_2 8 rfl rfl)
theorem dX4_borrow_56 : decode cX4_borrow 56 = .ok (.goto 4, 3) := dk_167 0 4 (dk_at dksX4_borrow_2 9 rfl rfl)
theorem dX4_borrow_59 : decode cX4_borrow 59 = .ok (.iconst 0, 1) := dk_3 (dk_at dksX4_borrow_2 12 rfl rfl)
theorem dX4_borrow_60 : decode cX4_borrow 60 = .ok (.iconst 2, 1) := dk_5 (dk_at dksX4_borrow_2 13 rfl rfl)
theorem dX4_borrow_61 : decode cX4_borrow 61 = .ok (.invokevirtual 308, 3) := dk_182 1 52 (dk_at dksX4_borrow_2 14 rfl rfl)
theorem dX4_borrow_64 : decode cX4_borrow 64 = .ok (.ifCond .eq 5, 3) := dk_153 0 5 (dk_at dksX4_borrow_2 17 rfl rfl)
theorem dX4_borrow_67 : decode cX4_borrow 67 = .ok (.iconst 0, 1) := dk_3 (dk_at dksX4_borrow_2 20 rfl rfl)
theorem dX4_borrow_68 : decode cX4_borrow 68 = .ok (.ireturn, 1) := dk_172 (dk_at dksX4_borrow_2 21 rfl rfl)
theorem dX4_borrow_69 : decode cX4_borrow 69 = .ok (.aload_n 0, 1) := dk_42 (dk_at dksX4_borrow_2 22 rfl rfl)
theorem dX4_borrow_70 : decode cX4_borrow 70 = .ok (.getfield 128, 3) := dk_180 0 128 (dk_at dksX4_borrow_3 0 rfl rfl)
theorem dX4_borrow_73 : decode cX4_borrow 73 = .ok (.aload_n 0, 1) := dk_42 (dk_at dksX4_borrow_3 3 rfl rfl)
theorem dX4_borrow_74 : decode cX4_borrow 74 = .ok (.getfield 388, 3) := dk_180 1 132 (dk_at dksX4_borrow_3 4 rfl rfl)
theorem dX4_borrow_77 : decode cX4_borrow 77 = .ok (.iload_n 1, 1) := dk_27 (dk_at dksX4_borrow_3 7 rfl rfl)
theorem dX4_borrow_78 : decode cX4_borrow 78 = .ok (.iastore, 1) := dk_79 (dk_at dksX4_borrow_3 8 rfl rfl)
theorem dX4_borrow_79 : decode cX4_borrow 79 = .ok (.aload_n 0, 1) := dk_42 (dk_at dksX4_borrow_3 9 rfl rfl)
theorem dX4_borrow_80 : decode cX4_borrow 80 = .ok (.getfield 131, 3) := dk_180 0 131 (dk_at dksX4_borrow_3 10 rfl rfl)
theorem dX4_borrow_83 : decode cX4_borrow 83 = .ok (.aload_n 0, 1) := dk_42 (dk_at dksX4_borrow_3 13 rfl rfl)
theorem dX4_borrow_84 : decode cX4_borrow 84 = .ok (.getfield 388, 3) := dk_180 1 132 (dk_at dksX4_borrow_3 14 rfl rfl)
theorem dX4_borrow_87 : decode cX4_borrow 87 = .ok (.iload_n 2, 1) := dk_28 (dk_at dksX4_borrow_3 17 rfl rfl)
theorem dX4_borrow_88 : decode cX4_borrow 88 = .ok (.iastore, 1) := dk_79 (dk_at dksX4_borrow_3 18 rfl rfl)
theorem dX4_borrow_89 : decode cX4_borrow 89 = .ok (.aload_n 0, 1) := dk_42 (dk_at dksX4_borrow_3 19 rfl rfl)
theorem dX4_borrow_90 : decode cX4_borrow 90 = .ok (.getfield 134, 3) := dk_180 0 134 (dk_at dksX4_borrow_3 20 rfl rfl)
theorem dX4_borrow_93 : decode cX4_borrow 93 = .ok (.aload_n 0, 1) := dk_42 (dk_at dksX4_borrow_3 23 rfl rfl)
theorem dX4_borrow_94 : decode cX4_borrow 94 = .ok (.getfield 388, 3) := dk_180 1 132 (dk_at dksX4_borrow_4 0 rfl rfl)
theorem dX4_borrow_97 : decode cX4_borrow 97 = .ok (.iload_n 3, 1) := dk_29 (dk_at dksX4_borrow_4 3 rfl rfl)
theorem dX4_borrow_98 : decode cX4_borrow 98 = .ok (.iastore, 1) := dk_79 (dk_at dksX4_borrow_4 4 rfl rfl)
theorem dX4_borrow_99 : decode cX4_borrow 99 = .ok (.aload_n 0, 1) := dk_42 (dk_at dksX4_borrow_4 5 rfl rfl)
theorem dX4_borrow_100 : decode cX4_borrow 100 = .ok (.iconst 3, 1) := dk_6 (dk_at dksX4_borrow_4 6 rfl rfl)
theorem dX4_borrow_101 : decode cX4_borrow 101 = .ok (.aload_n 0, 1) := dk_42 (dk_at dksX4_borrow_4 7 rfl rfl)
theorem dX4_borrow_102 : decode cX4_borrow 102 = .ok (.getfield 388, 3) := dk_180 1 132 (dk_at dksX4_borrow_4 8 rfl rfl)
theorem dX4_borrow_105 : decode cX4_borrow 105 = .ok (.iload_n 1, 1) := dk_27 (dk_at dksX4_borrow_4 11 rfl rfl)
theorem dX4_borrow_106 : decode cX4_borrow 106 = .ok (.i2l, 1) := dk_133 (dk_at dksX4_borrow_4 12 rfl rfl)
theorem dX4_borrow_107 : decode cX4_borrow 107 = .ok (.invokevirtual 366, 3) := dk_182 1 110 (dk_at dksX4_borrow_4 13 rfl rfl)
theorem dX4_borrow_110 : decode cX4_borrow 110 = .ok (.aload_n 0, 1) := dk_42 (dk_at dksX4_borrow_4 16 rfl rfl)
theorem dX4_borrow_111 : decode cX4_borrow 111 = .ok (.dup, 1) := dk_89 (dk_at dksX4_borrow_4 17 rfl rfl)
theorem dX4_borrow_112 : decode cX4_borrow 112 = .ok (.getfield 388, 3) := dk_180 1 132 (dk_at dksX4_borrow_4 18 rfl rfl)
theorem dX4_borrow_115 : decode cX4_borrow 115 = .ok (.iconst 1, 1) := dk_4 (dk_at dksX4_borrow_4 21 rfl rfl)
theorem dX4_borrow_116 : decode cX4_borrow 116 = .ok (.iadd, 1) := dk_96 (dk_at dksX4_borrow_4 22 rfl rfl)
theorem dX4_borrow_117 : decode cX4_borrow 117 = .ok (.putfield 388, 3) := dk_181 1 132 (dk_at dksX4_borrow_5 0 rfl rfl)
theorem dX4_borrow_120 : decode cX4_borrow 120 = .ok (.aload_n 0, 1) := dk_42 (dk_at dksX4_borrow_5 3 rfl rfl)
theorem dX4_borrow_121 : decode cX4_borrow 121 = .ok (.getfield 388, 3) := dk_180 1 132 (dk_at dksX4_borrow_5 4 rfl rfl)
theorem dX4_borrow_124 : decode cX4_borrow 124 = .ok (.iconst 1, 1) := dk_4 (dk_at dksX4_borrow_5 7 rfl rfl)
theorem dX4_borrow_125 : decode cX4_borrow 125 = .ok (.isub, 1) := dk_100 (dk_at dksX4_borrow_5 8 rfl rfl)
theorem dX4_borrow_126 : decode cX4_borrow 126 = .ok (.ireturn, 1) := dk_172 (dk_at dksX4_borrow_5 9 rfl rfl)
abbrev cX4_repay : ByteArray := prog_33_method_50_code
def yX4_repay : MethodName := ⟨RX4, "repay", "(II)I"⟩
def dkwX4_repay_4 : List UInt8 := [46, 172]
abbrev dktX4_repay_4 : List UInt8 := dkwX4_repay_4 ++ []
def dkwX4_repay_3 : List UInt8 := [42, 180, 0, 128, 27, 92, 46, 28, 100, 79, 42, 8, 27, 28, 116, 133, 182, 1, 110, 42, 180, 0, 128, 27]
abbrev dktX4_repay_3 : List UInt8 := dkwX4_repay_3 ++ dktX4_repay_4
def dkwX4_repay_2 : List UInt8 := [3, 172, 42, 180, 0, 128, 27, 46, 28, 161, 0, 13, 42, 180, 1, 117, 28, 133, 148, 156, 0, 5, 2, 172]
abbrev dktX4_repay_2 : List UInt8 := dkwX4_repay_2 ++ dktX4_repay_3
def dkwX4_repay_1 : List UInt8 := [182, 1, 52, 154, 0, 21, 42, 28, 4, 162, 0, 7, 4, 167, 0, 4, 3, 5, 182, 1, 52, 153, 0, 5]
abbrev dktX4_repay_1 : List UInt8 := dkwX4_repay_1 ++ dktX4_repay_2
def dkwX4_repay_0 : List UInt8 := [42, 3, 181, 0, 146, 42, 27, 155, 0, 11, 27, 42, 180, 1, 132, 161, 0, 7, 4, 167, 0, 4, 3, 4]
abbrev dktX4_repay_0 : List UInt8 := dkwX4_repay_0 ++ dktX4_repay_1
theorem dksX4_repay_0 : cX4_repay.data.toList.drop 0 = dktX4_repay_0 := by decide +kernel
theorem dksX4_repay_1 : cX4_repay.data.toList.drop 24 = dktX4_repay_1 := dk_seg dksX4_repay_0 24 rfl rfl
theorem dksX4_repay_2 : cX4_repay.data.toList.drop 48 = dktX4_repay_2 := dk_seg dksX4_repay_1 24 rfl rfl
theorem dksX4_repay_3 : cX4_repay.data.toList.drop 72 = dktX4_repay_3 := dk_seg dksX4_repay_2 24 rfl rfl
theorem dksX4_repay_4 : cX4_repay.data.toList.drop 96 = dktX4_repay_4 := dk_seg dksX4_repay_3 24 rfl rfl
theorem dX4_repay_0 : decode cX4_repay 0 = .ok (.aload_n 0, 1) := dk_42 (dk_at dksX4_repay_0 0 rfl rfl)
theorem dX4_repay_1 : decode cX4_repay 1 = .ok (.iconst 0, 1) := dk_3 (dk_at dksX4_repay_0 1 rfl rfl)
theorem dX4_repay_2 : decode cX4_repay 2 = .ok (.putfield 146, 3) := dk_181 0 146 (dk_at dksX4_repay_0 2 rfl rfl)
theorem dX4_repay_5 : decode cX4_repay 5 = .ok (.aload_n 0, 1) := dk_42 (dk_at dksX4_repay_0 5 rfl rfl)
theorem dX4_repay_6 : decode cX4_repay 6 = .ok (.iload_n 1, 1) := dk_27 (dk_at dksX4_repay_0 6 rfl rfl)
theorem dX4_repay_7 : decode cX4_repay 7 = .ok (.ifCond .lt 11, 3) := dk_155 0 11 (dk_at dksX4_repay_0 7 rfl rfl)
theorem dX4_repay_10 : decode cX4_repay 10 = .ok (.iload_n 1, 1) := dk_27 (dk_at dksX4_repay_0 10 rfl rfl)
theorem dX4_repay_11 : decode cX4_repay 11 = .ok (.aload_n 0, 1) := dk_42 (dk_at dksX4_repay_0 11 rfl rfl)
theorem dX4_repay_12 : decode cX4_repay 12 = .ok (.getfield 388, 3) := dk_180 1 132 (dk_at dksX4_repay_0 12 rfl rfl)
theorem dX4_repay_15 : decode cX4_repay 15 = .ok (.if_icmp .lt 7, 3) := dk_161 0 7 (dk_at dksX4_repay_0 15 rfl rfl)
theorem dX4_repay_18 : decode cX4_repay 18 = .ok (.iconst 1, 1) := dk_4 (dk_at dksX4_repay_0 18 rfl rfl)
theorem dX4_repay_19 : decode cX4_repay 19 = .ok (.goto 4, 3) := dk_167 0 4 (dk_at dksX4_repay_0 19 rfl rfl)
theorem dX4_repay_22 : decode cX4_repay 22 = .ok (.iconst 0, 1) := dk_3 (dk_at dksX4_repay_0 22 rfl rfl)
theorem dX4_repay_23 : decode cX4_repay 23 = .ok (.iconst 1, 1) := dk_4 (dk_at dksX4_repay_0 23 rfl rfl)
theorem dX4_repay_24 : decode cX4_repay 24 = .ok (.invokevirtual 308, 3) := dk_182 1 52 (dk_at dksX4_repay_1 0 rfl rfl)
theorem dX4_repay_27 : decode cX4_repay 27 = .ok (.ifCond .ne 21, 3) := dk_154 0 21 (dk_at dksX4_repay_1 3 rfl rfl)
theorem dX4_repay_30 : decode cX4_repay 30 = .ok (.aload_n 0, 1) := dk_42 (dk_at dksX4_repay_1 6 rfl rfl)
theorem dX4_repay_31 : decode cX4_repay 31 = .ok (.iload_n 2, 1) := dk_28 (dk_at dksX4_repay_1 7 rfl rfl)
theorem dX4_repay_32 : decode cX4_repay 32 = .ok (.iconst 1, 1) := dk_4 (dk_at dksX4_repay_1 8 rfl rfl)
theorem dX4_repay_33 : decode cX4_repay 33 = .ok (.if_icmp .ge 7, 3) := dk_162 0 7 (dk_at dksX4_repay_1 9 rfl rfl)
theorem dX4_repay_36 : decode cX4_repay 36 = .ok (.iconst 1, 1) := dk_4 (dk_at dksX4_repay_1 12 rfl rfl)
theorem dX4_repay_37 : decode cX4_repay 37 = .ok (.goto 4, 3) := dk_167 0 4 (dk_at dksX4_repay_1 13 rfl rfl)
theorem dX4_repay_40 : decode cX4_repay 40 = .ok (.iconst 0, 1) := dk_3 (dk_at dksX4_repay_1 16 rfl rfl)
theorem dX4_repay_41 : decode cX4_repay 41 = .ok (.iconst 2, 1) := dk_5 (dk_at dksX4_repay_1 17 rfl rfl)
theorem dX4_repay_42 : decode cX4_repay 42 = .ok (.invokevirtual 308, 3) := dk_182 1 52 (dk_at dksX4_repay_1 18 rfl rfl)
theorem dX4_repay_45 : decode cX4_repay 45 = .ok (.ifCond .eq 5, 3) := dk_153 0 5 (dk_at dksX4_repay_1 21 rfl rfl)
theorem dX4_repay_48 : decode cX4_repay 48 = .ok (.iconst 0, 1) := dk_3 (dk_at dksX4_repay_2 0 rfl rfl)
theorem dX4_repay_49 : decode cX4_repay 49 = .ok (.ireturn, 1) := dk_172 (dk_at dksX4_repay_2 1 rfl rfl)
theorem dX4_repay_50 : decode cX4_repay 50 = .ok (.aload_n 0, 1) := dk_42 (dk_at dksX4_repay_2 2 rfl rfl)
theorem dX4_repay_51 : decode cX4_repay 51 = .ok (.getfield 128, 3) := dk_180 0 128 (dk_at dksX4_repay_2 3 rfl rfl)
theorem dX4_repay_54 : decode cX4_repay 54 = .ok (.iload_n 1, 1) := dk_27 (dk_at dksX4_repay_2 6 rfl rfl)
theorem dX4_repay_55 : decode cX4_repay 55 = .ok (.iaload, 1) := dk_46 (dk_at dksX4_repay_2 7 rfl rfl)
theorem dX4_repay_56 : decode cX4_repay 56 = .ok (.iload_n 2, 1) := dk_28 (dk_at dksX4_repay_2 8 rfl rfl)
theorem dX4_repay_57 : decode cX4_repay 57 = .ok (.if_icmp .lt 13, 3) := dk_161 0 13 (dk_at dksX4_repay_2 9 rfl rfl)
theorem dX4_repay_60 : decode cX4_repay 60 = .ok (.aload_n 0, 1) := dk_42 (dk_at dksX4_repay_2 12 rfl rfl)
theorem dX4_repay_61 : decode cX4_repay 61 = .ok (.getfield 373, 3) := dk_180 1 117 (dk_at dksX4_repay_2 13 rfl rfl)
theorem dX4_repay_64 : decode cX4_repay 64 = .ok (.iload_n 2, 1) := dk_28 (dk_at dksX4_repay_2 16 rfl rfl)
theorem dX4_repay_65 : decode cX4_repay 65 = .ok (.i2l, 1) := dk_133 (dk_at dksX4_repay_2 17 rfl rfl)
theorem dX4_repay_66 : decode cX4_repay 66 = .ok (.lcmp, 1) := dk_148 (dk_at dksX4_repay_2 18 rfl rfl)
theorem dX4_repay_67 : decode cX4_repay 67 = .ok (.ifCond .ge 5, 3) := dk_156 0 5 (dk_at dksX4_repay_2 19 rfl rfl)
theorem dX4_repay_70 : decode cX4_repay 70 = .ok (.iconst (-1), 1) := dk_2 (dk_at dksX4_repay_2 22 rfl rfl)
theorem dX4_repay_71 : decode cX4_repay 71 = .ok (.ireturn, 1) := dk_172 (dk_at dksX4_repay_2 23 rfl rfl)
theorem dX4_repay_72 : decode cX4_repay 72 = .ok (.aload_n 0, 1) := dk_42 (dk_at dksX4_repay_3 0 rfl rfl)
theorem dX4_repay_73 : decode cX4_repay 73 = .ok (.getfield 128, 3) := dk_180 0 128 (dk_at dksX4_repay_3 1 rfl rfl)
theorem dX4_repay_76 : decode cX4_repay 76 = .ok (.iload_n 1, 1) := dk_27 (dk_at dksX4_repay_3 4 rfl rfl)
theorem dX4_repay_77 : decode cX4_repay 77 = .ok (.dup2, 1) := dk_92 (dk_at dksX4_repay_3 5 rfl rfl)
theorem dX4_repay_78 : decode cX4_repay 78 = .ok (.iaload, 1) := dk_46 (dk_at dksX4_repay_3 6 rfl rfl)
theorem dX4_repay_79 : decode cX4_repay 79 = .ok (.iload_n 2, 1) := dk_28 (dk_at dksX4_repay_3 7 rfl rfl)
theorem dX4_repay_80 : decode cX4_repay 80 = .ok (.isub, 1) := dk_100 (dk_at dksX4_repay_3 8 rfl rfl)
theorem dX4_repay_81 : decode cX4_repay 81 = .ok (.iastore, 1) := dk_79 (dk_at dksX4_repay_3 9 rfl rfl)
theorem dX4_repay_82 : decode cX4_repay 82 = .ok (.aload_n 0, 1) := dk_42 (dk_at dksX4_repay_3 10 rfl rfl)
theorem dX4_repay_83 : decode cX4_repay 83 = .ok (.iconst 5, 1) := dk_8 (dk_at dksX4_repay_3 11 rfl rfl)
theorem dX4_repay_84 : decode cX4_repay 84 = .ok (.iload_n 1, 1) := dk_27 (dk_at dksX4_repay_3 12 rfl rfl)
theorem dX4_repay_85 : decode cX4_repay 85 = .ok (.iload_n 2, 1) := dk_28 (dk_at dksX4_repay_3 13 rfl rfl)
theorem dX4_repay_86 : decode cX4_repay 86 = .ok (.ineg, 1) := dk_116 (dk_at dksX4_repay_3 14 rfl rfl)
theorem dX4_repay_87 : decode cX4_repay 87 = .ok (.i2l, 1) := dk_133 (dk_at dksX4_repay_3 15 rfl rfl)
theorem dX4_repay_88 : decode cX4_repay 88 = .ok (.invokevirtual 366, 3) := dk_182 1 110 (dk_at dksX4_repay_3 16 rfl rfl)
theorem dX4_repay_91 : decode cX4_repay 91 = .ok (.aload_n 0, 1) := dk_42 (dk_at dksX4_repay_3 19 rfl rfl)
theorem dX4_repay_92 : decode cX4_repay 92 = .ok (.getfield 128, 3) := dk_180 0 128 (dk_at dksX4_repay_3 20 rfl rfl)
theorem dX4_repay_95 : decode cX4_repay 95 = .ok (.iload_n 1, 1) := dk_27 (dk_at dksX4_repay_3 23 rfl rfl)
theorem dX4_repay_96 : decode cX4_repay 96 = .ok (.iaload, 1) := dk_46 (dk_at dksX4_repay_4 0 rfl rfl)
theorem dX4_repay_97 : decode cX4_repay 97 = .ok (.ireturn, 1) := dk_172 (dk_at dksX4_repay_4 1 rfl rfl)
abbrev cX4_loan : ByteArray := prog_33_method_51_code
def yX4_loan : MethodName := ⟨RX4, "loan", "(II)J"⟩
def dkwX4_loan_4 : List UInt8 := [133, 167, 0, 9, 42, 180, 0, 137, 27, 47, 173]
abbrev dktX4_loan_4 : List UInt8 := dkwX4_loan_4 ++ []
def dkwX4_loan_3 : List UInt8 := [160, 0, 13, 42, 180, 0, 131, 27, 46, 133, 167, 0, 24, 28, 5, 160, 0, 13, 42, 180, 0, 134, 27, 46]
abbrev dktX4_loan_3 : List UInt8 := dkwX4_loan_3 ++ dktX4_loan_4
def dkwX4_loan_2 : List UInt8 := [182, 1, 52, 153, 0, 5, 9, 173, 28, 154, 0, 13, 42, 180, 0, 128, 27, 46, 133, 167, 0, 39, 28, 4]
abbrev dktX4_loan_2 : List UInt8 := dkwX4_loan_2 ++ dktX4_loan_3
def dkwX4_loan_1 : List UInt8 := [182, 1, 52, 154, 0, 25, 42, 28, 155, 0, 8, 28, 6, 164, 0, 7, 4, 167, 0, 4, 3, 5]
abbrev dktX4_loan_1 : List UInt8 := dkwX4_loan_1 ++ dktX4_loan_2
def dkwX4_loan_0 : List UInt8 := [42, 3, 181, 0, 146, 42, 27, 155, 0, 11, 27, 42, 180, 1, 132, 161, 0, 7, 4, 167, 0, 4, 3, 4]
abbrev dktX4_loan_0 : List UInt8 := dkwX4_loan_0 ++ dktX4_loan_1
theorem dksX4_loan_0 : cX4_loan.data.toList.drop 0 = dktX4_loan_0 := by decide +kernel
theorem dksX4_loan_1 : cX4_loan.data.toList.drop 24 = dktX4_loan_1 := dk_seg dksX4_loan_0 24 rfl rfl
theorem dksX4_loan_2 : cX4_loan.data.toList.drop 46 = dktX4_loan_2 := dk_seg dksX4_loan_1 22 rfl rfl
theorem dksX4_loan_3 : cX4_loan.data.toList.drop 70 = dktX4_loan_3 := dk_seg dksX4_loan_2 24 rfl rfl
theorem dksX4_loan_4 : cX4_loan.data.toList.drop 94 = dktX4_loan_4 := dk_seg dksX4_loan_3 24 rfl rfl
theorem dX4_loan_0 : decode cX4_loan 0 = .ok (.aload_n 0, 1) := dk_42 (dk_at dksX4_loan_0 0 rfl rfl)
theorem dX4_loan_1 : decode cX4_loan 1 = .ok (.iconst 0, 1) := dk_3 (dk_at dksX4_loan_0 1 rfl rfl)
theorem dX4_loan_2 : decode cX4_loan 2 = .ok (.putfield 146, 3) := dk_181 0 146 (dk_at dksX4_loan_0 2 rfl rfl)
theorem dX4_loan_5 : decode cX4_loan 5 = .ok (.aload_n 0, 1) := dk_42 (dk_at dksX4_loan_0 5 rfl rfl)
theorem dX4_loan_6 : decode cX4_loan 6 = .ok (.iload_n 1, 1) := dk_27 (dk_at dksX4_loan_0 6 rfl rfl)
theorem dX4_loan_7 : decode cX4_loan 7 = .ok (.ifCond .lt 11, 3) := dk_155 0 11 (dk_at dksX4_loan_0 7 rfl rfl)
theorem dX4_loan_10 : decode cX4_loan 10 = .ok (.iload_n 1, 1) := dk_27 (dk_at dksX4_loan_0 10 rfl rfl)
theorem dX4_loan_11 : decode cX4_loan 11 = .ok (.aload_n 0, 1) := dk_42 (dk_at dksX4_loan_0 11 rfl rfl)
theorem dX4_loan_12 : decode cX4_loan 12 = .ok (.getfield 388, 3) := dk_180 1 132 (dk_at dksX4_loan_0 12 rfl rfl)
theorem dX4_loan_15 : decode cX4_loan 15 = .ok (.if_icmp .lt 7, 3) := dk_161 0 7 (dk_at dksX4_loan_0 15 rfl rfl)
theorem dX4_loan_18 : decode cX4_loan 18 = .ok (.iconst 1, 1) := dk_4 (dk_at dksX4_loan_0 18 rfl rfl)
theorem dX4_loan_19 : decode cX4_loan 19 = .ok (.goto 4, 3) := dk_167 0 4 (dk_at dksX4_loan_0 19 rfl rfl)
theorem dX4_loan_22 : decode cX4_loan 22 = .ok (.iconst 0, 1) := dk_3 (dk_at dksX4_loan_0 22 rfl rfl)
theorem dX4_loan_23 : decode cX4_loan 23 = .ok (.iconst 1, 1) := dk_4 (dk_at dksX4_loan_0 23 rfl rfl)
theorem dX4_loan_24 : decode cX4_loan 24 = .ok (.invokevirtual 308, 3) := dk_182 1 52 (dk_at dksX4_loan_1 0 rfl rfl)
theorem dX4_loan_27 : decode cX4_loan 27 = .ok (.ifCond .ne 25, 3) := dk_154 0 25 (dk_at dksX4_loan_1 3 rfl rfl)
theorem dX4_loan_30 : decode cX4_loan 30 = .ok (.aload_n 0, 1) := dk_42 (dk_at dksX4_loan_1 6 rfl rfl)
theorem dX4_loan_31 : decode cX4_loan 31 = .ok (.iload_n 2, 1) := dk_28 (dk_at dksX4_loan_1 7 rfl rfl)
theorem dX4_loan_32 : decode cX4_loan 32 = .ok (.ifCond .lt 8, 3) := dk_155 0 8 (dk_at dksX4_loan_1 8 rfl rfl)
theorem dX4_loan_35 : decode cX4_loan 35 = .ok (.iload_n 2, 1) := dk_28 (dk_at dksX4_loan_1 11 rfl rfl)
theorem dX4_loan_36 : decode cX4_loan 36 = .ok (.iconst 3, 1) := dk_6 (dk_at dksX4_loan_1 12 rfl rfl)
theorem dX4_loan_37 : decode cX4_loan 37 = .ok (.if_icmp .le 7, 3) := dk_164 0 7 (dk_at dksX4_loan_1 13 rfl rfl)
theorem dX4_loan_40 : decode cX4_loan 40 = .ok (.iconst 1, 1) := dk_4 (dk_at dksX4_loan_1 16 rfl rfl)
theorem dX4_loan_41 : decode cX4_loan 41 = .ok (.goto 4, 3) := dk_167 0 4 (dk_at dksX4_loan_1 17 rfl rfl)
theorem dX4_loan_44 : decode cX4_loan 44 = .ok (.iconst 0, 1) := dk_3 (dk_at dksX4_loan_1 20 rfl rfl)
theorem dX4_loan_45 : decode cX4_loan 45 = .ok (.iconst 2, 1) := dk_5 (dk_at dksX4_loan_1 21 rfl rfl)
theorem dX4_loan_46 : decode cX4_loan 46 = .ok (.invokevirtual 308, 3) := dk_182 1 52 (dk_at dksX4_loan_2 0 rfl rfl)
theorem dX4_loan_49 : decode cX4_loan 49 = .ok (.ifCond .eq 5, 3) := dk_153 0 5 (dk_at dksX4_loan_2 3 rfl rfl)
theorem dX4_loan_52 : decode cX4_loan 52 = .ok (.lconst 0, 1) := dk_9 (dk_at dksX4_loan_2 6 rfl rfl)
theorem dX4_loan_53 : decode cX4_loan 53 = .ok (.lreturn, 1) := dk_173 (dk_at dksX4_loan_2 7 rfl rfl)
theorem dX4_loan_54 : decode cX4_loan 54 = .ok (.iload_n 2, 1) := dk_28 (dk_at dksX4_loan_2 8 rfl rfl)
theorem dX4_loan_55 : decode cX4_loan 55 = .ok (.ifCond .ne 13, 3) := dk_154 0 13 (dk_at dksX4_loan_2 9 rfl rfl)
theorem dX4_loan_58 : decode cX4_loan 58 = .ok (.aload_n 0, 1) := dk_42 (dk_at dksX4_loan_2 12 rfl rfl)
theorem dX4_loan_59 : decode cX4_loan 59 = .ok (.getfield 128, 3) := dk_180 0 128 (dk_at dksX4_loan_2 13 rfl rfl)
theorem dX4_loan_62 : decode cX4_loan 62 = .ok (.iload_n 1, 1) := dk_27 (dk_at dksX4_loan_2 16 rfl rfl)
theorem dX4_loan_63 : decode cX4_loan 63 = .ok (.iaload, 1) := dk_46 (dk_at dksX4_loan_2 17 rfl rfl)
theorem dX4_loan_64 : decode cX4_loan 64 = .ok (.i2l, 1) := dk_133 (dk_at dksX4_loan_2 18 rfl rfl)
theorem dX4_loan_65 : decode cX4_loan 65 = .ok (.goto 39, 3) := dk_167 0 39 (dk_at dksX4_loan_2 19 rfl rfl)
theorem dX4_loan_68 : decode cX4_loan 68 = .ok (.iload_n 2, 1) := dk_28 (dk_at dksX4_loan_2 22 rfl rfl)
theorem dX4_loan_69 : decode cX4_loan 69 = .ok (.iconst 1, 1) := dk_4 (dk_at dksX4_loan_2 23 rfl rfl)
theorem dX4_loan_70 : decode cX4_loan 70 = .ok (.if_icmp .ne 13, 3) := dk_160 0 13 (dk_at dksX4_loan_3 0 rfl rfl)
theorem dX4_loan_73 : decode cX4_loan 73 = .ok (.aload_n 0, 1) := dk_42 (dk_at dksX4_loan_3 3 rfl rfl)
theorem dX4_loan_74 : decode cX4_loan 74 = .ok (.getfield 131, 3) := dk_180 0 131 (dk_at dksX4_loan_3 4 rfl rfl)
theorem dX4_loan_77 : decode cX4_loan 77 = .ok (.iload_n 1, 1) := dk_27 (dk_at dksX4_loan_3 7 rfl rfl)
theorem dX4_loan_78 : decode cX4_loan 78 = .ok (.iaload, 1) := dk_46 (dk_at dksX4_loan_3 8 rfl rfl)
theorem dX4_loan_79 : decode cX4_loan 79 = .ok (.i2l, 1) := dk_133 (dk_at dksX4_loan_3 9 rfl rfl)
theorem dX4_loan_80 : decode cX4_loan 80 = .ok (.goto 24, 3) := dk_167 0 24 (dk_at dksX4_loan_3 10 rfl rfl)
theorem dX4_loan_83 : decode cX4_loan 83 = .ok (.iload_n 2, 1) := dk_28 (dk_at dksX4_loan_3 13 rfl rfl)
theorem dX4_loan_84 : decode cX4_loan 84 = .ok (.iconst 2, 1) := dk_5 (dk_at dksX4_loan_3 14 rfl rfl)
theorem dX4_loan_85 : decode cX4_loan 85 = .ok (.if_icmp .ne 13, 3) := dk_160 0 13 (dk_at dksX4_loan_3 15 rfl rfl)
theorem dX4_loan_88 : decode cX4_loan 88 = .ok (.aload_n 0, 1) := dk_42 (dk_at dksX4_loan_3 18 rfl rfl)
theorem dX4_loan_89 : decode cX4_loan 89 = .ok (.getfield 134, 3) := dk_180 0 134 (dk_at dksX4_loan_3 19 rfl rfl)
theorem dX4_loan_92 : decode cX4_loan 92 = .ok (.iload_n 1, 1) := dk_27 (dk_at dksX4_loan_3 22 rfl rfl)
theorem dX4_loan_93 : decode cX4_loan 93 = .ok (.iaload, 1) := dk_46 (dk_at dksX4_loan_3 23 rfl rfl)
theorem dX4_loan_94 : decode cX4_loan 94 = .ok (.i2l, 1) := dk_133 (dk_at dksX4_loan_4 0 rfl rfl)
theorem dX4_loan_95 : decode cX4_loan 95 = .ok (.goto 9, 3) := dk_167 0 9 (dk_at dksX4_loan_4 1 rfl rfl)
theorem dX4_loan_98 : decode cX4_loan 98 = .ok (.aload_n 0, 1) := dk_42 (dk_at dksX4_loan_4 4 rfl rfl)
theorem dX4_loan_99 : decode cX4_loan 99 = .ok (.getfield 137, 3) := dk_180 0 137 (dk_at dksX4_loan_4 5 rfl rfl)
theorem dX4_loan_102 : decode cX4_loan 102 = .ok (.iload_n 1, 1) := dk_27 (dk_at dksX4_loan_4 8 rfl rfl)
theorem dX4_loan_103 : decode cX4_loan 103 = .ok (.laload, 1) := dk_47 (dk_at dksX4_loan_4 9 rfl rfl)
theorem dX4_loan_104 : decode cX4_loan 104 = .ok (.lreturn, 1) := dk_173 (dk_at dksX4_loan_4 10 rfl rfl)
abbrev cX4_wait : ByteArray := prog_33_method_54_code
def yX4_wait : MethodName := ⟨RX4, "wait", "(I)I"⟩
def dkwX4_wait_6 : List UInt8 := [132, 2, 1, 167, 255, 159, 42, 180, 1, 75, 172]
abbrev dktX4_wait_6 : List UInt8 := dkwX4_wait_6 ++ []
def dkwX4_wait_5 : List UInt8 := [180, 0, 122, 29, 46, 42, 180, 1, 75, 160, 0, 8, 42, 29, 182, 1, 129, 132, 3, 1, 167, 255, 218]
abbrev dktX4_wait_5 : List UInt8 := dkwX4_wait_5 ++ dktX4_wait_6
def dkwX4_wait_4 : List UInt8 := [182, 1, 140, 3, 62, 29, 42, 180, 1, 65, 162, 0, 36, 42, 180, 0, 113, 29, 46, 155, 0, 21, 42]
abbrev dktX4_wait_4 : List UInt8 := dkwX4_wait_4 ++ dktX4_wait_5
def dkwX4_wait_3 : List UInt8 := [158, 0, 7, 4, 167, 0, 4, 3, 100, 181, 1, 107, 42, 180, 1, 75, 17, 1, 109, 112, 154, 0, 7, 42]
abbrev dktX4_wait_3 : List UInt8 := dkwX4_wait_3 ++ dktX4_wait_4
def dkwX4_wait_2 : List UInt8 := [162, 0, 98, 42, 89, 180, 1, 75, 4, 96, 181, 1, 75, 42, 89, 180, 1, 107, 42, 180, 1, 107]
abbrev dktX4_wait_2 : List UInt8 := dkwX4_wait_2 ++ dktX4_wait_3
def dkwX4_wait_1 : List UInt8 := [17, 39, 15, 164, 0, 7, 4, 167, 0, 4, 3, 4, 182, 1, 52, 153, 0, 5, 3, 172, 3, 61, 28, 27]
abbrev dktX4_wait_1 : List UInt8 := dkwX4_wait_1 ++ dktX4_wait_2
def dkwX4_wait_0 : List UInt8 := [42, 3, 181, 0, 146, 42, 27, 155, 0, 22, 27, 17, 3, 232, 163, 0, 15, 42, 180, 1, 75, 27, 96]
abbrev dktX4_wait_0 : List UInt8 := dkwX4_wait_0 ++ dktX4_wait_1
theorem dksX4_wait_0 : cX4_wait.data.toList.drop 0 = dktX4_wait_0 := by decide +kernel
theorem dksX4_wait_1 : cX4_wait.data.toList.drop 23 = dktX4_wait_1 := dk_seg dksX4_wait_0 23 rfl rfl
theorem dksX4_wait_2 : cX4_wait.data.toList.drop 47 = dktX4_wait_2 := dk_seg dksX4_wait_1 24 rfl rfl
theorem dksX4_wait_3 : cX4_wait.data.toList.drop 69 = dktX4_wait_3 := dk_seg dksX4_wait_2 22 rfl rfl
theorem dksX4_wait_4 : cX4_wait.data.toList.drop 93 = dktX4_wait_4 := dk_seg dksX4_wait_3 24 rfl rfl
theorem dksX4_wait_5 : cX4_wait.data.toList.drop 116 = dktX4_wait_5 := dk_seg dksX4_wait_4 23 rfl rfl
theorem dksX4_wait_6 : cX4_wait.data.toList.drop 139 = dktX4_wait_6 := dk_seg dksX4_wait_5 23 rfl rfl
theorem dX4_wait_0 : decode cX4_wait 0 = .ok (.aload_n 0, 1) := dk_42 (dk_at dksX4_wait_0 0 rfl rfl)
theorem dX4_wait_1 : decode cX4_wait 1 = .ok (.iconst 0, 1) := dk_3 (dk_at dksX4_wait_0 1 rfl rfl)
theorem dX4_wait_2 : decode cX4_wait 2 = .ok (.putfield 146, 3) := dk_181 0 146 (dk_at dksX4_wait_0 2 rfl rfl)
theorem dX4_wait_5 : decode cX4_wait 5 = .ok (.aload_n 0, 1) := dk_42 (dk_at dksX4_wait_0 5 rfl rfl)
theorem dX4_wait_6 : decode cX4_wait 6 = .ok (.iload_n 1, 1) := dk_27 (dk_at dksX4_wait_0 6 rfl rfl)
theorem dX4_wait_7 : decode cX4_wait 7 = .ok (.ifCond .lt 22, 3) := dk_155 0 22 (dk_at dksX4_wait_0 7 rfl rfl)
theorem dX4_wait_10 : decode cX4_wait 10 = .ok (.iload_n 1, 1) := dk_27 (dk_at dksX4_wait_0 10 rfl rfl)
theorem dX4_wait_11 : decode cX4_wait 11 = .ok (.sipush 1000, 3) := dk_17 3 232 (dk_at dksX4_wait_0 11 rfl rfl)
theorem dX4_wait_14 : decode cX4_wait 14 = .ok (.if_icmp .gt 15, 3) := dk_163 0 15 (dk_at dksX4_wait_0 14 rfl rfl)
theorem dX4_wait_17 : decode cX4_wait 17 = .ok (.aload_n 0, 1) := dk_42 (dk_at dksX4_wait_0 17 rfl rfl)
theorem dX4_wait_18 : decode cX4_wait 18 = .ok (.getfield 331, 3) := dk_180 1 75 (dk_at dksX4_wait_0 18 rfl rfl)
theorem dX4_wait_21 : decode cX4_wait 21 = .ok (.iload_n 1, 1) := dk_27 (dk_at dksX4_wait_0 21 rfl rfl)
theorem dX4_wait_22 : decode cX4_wait 22 = .ok (.iadd, 1) := dk_96 (dk_at dksX4_wait_0 22 rfl rfl)
theorem dX4_wait_23 : decode cX4_wait 23 = .ok (.sipush 9999, 3) := dk_17 39 15 (dk_at dksX4_wait_1 0 rfl rfl)
theorem dX4_wait_26 : decode cX4_wait 26 = .ok (.if_icmp .le 7, 3) := dk_164 0 7 (dk_at dksX4_wait_1 3 rfl rfl)
theorem dX4_wait_29 : decode cX4_wait 29 = .ok (.iconst 1, 1) := dk_4 (dk_at dksX4_wait_1 6 rfl rfl)
theorem dX4_wait_30 : decode cX4_wait 30 = .ok (.goto 4, 3) := dk_167 0 4 (dk_at dksX4_wait_1 7 rfl rfl)
theorem dX4_wait_33 : decode cX4_wait 33 = .ok (.iconst 0, 1) := dk_3 (dk_at dksX4_wait_1 10 rfl rfl)
theorem dX4_wait_34 : decode cX4_wait 34 = .ok (.iconst 1, 1) := dk_4 (dk_at dksX4_wait_1 11 rfl rfl)
theorem dX4_wait_35 : decode cX4_wait 35 = .ok (.invokevirtual 308, 3) := dk_182 1 52 (dk_at dksX4_wait_1 12 rfl rfl)
theorem dX4_wait_38 : decode cX4_wait 38 = .ok (.ifCond .eq 5, 3) := dk_153 0 5 (dk_at dksX4_wait_1 15 rfl rfl)
theorem dX4_wait_41 : decode cX4_wait 41 = .ok (.iconst 0, 1) := dk_3 (dk_at dksX4_wait_1 18 rfl rfl)
theorem dX4_wait_42 : decode cX4_wait 42 = .ok (.ireturn, 1) := dk_172 (dk_at dksX4_wait_1 19 rfl rfl)
theorem dX4_wait_43 : decode cX4_wait 43 = .ok (.iconst 0, 1) := dk_3 (dk_at dksX4_wait_1 20 rfl rfl)
theorem dX4_wait_44 : decode cX4_wait 44 = .ok (.istore_n 2, 1) := dk_61 (dk_at dksX4_wait_1 21 rfl rfl)
theorem dX4_wait_45 : decode cX4_wait 45 = .ok (.iload_n 2, 1) := dk_28 (dk_at dksX4_wait_1 22 rfl rfl)
theorem dX4_wait_46 : decode cX4_wait 46 = .ok (.iload_n 1, 1) := dk_27 (dk_at dksX4_wait_1 23 rfl rfl)
theorem dX4_wait_47 : decode cX4_wait 47 = .ok (.if_icmp .ge 98, 3) := dk_162 0 98 (dk_at dksX4_wait_2 0 rfl rfl)
theorem dX4_wait_50 : decode cX4_wait 50 = .ok (.aload_n 0, 1) := dk_42 (dk_at dksX4_wait_2 3 rfl rfl)
theorem dX4_wait_51 : decode cX4_wait 51 = .ok (.dup, 1) := dk_89 (dk_at dksX4_wait_2 4 rfl rfl)
theorem dX4_wait_52 : decode cX4_wait 52 = .ok (.getfield 331, 3) := dk_180 1 75 (dk_at dksX4_wait_2 5 rfl rfl)
theorem dX4_wait_55 : decode cX4_wait 55 = .ok (.iconst 1, 1) := dk_4 (dk_at dksX4_wait_2 8 rfl rfl)
theorem dX4_wait_56 : decode cX4_wait 56 = .ok (.iadd, 1) := dk_96 (dk_at dksX4_wait_2 9 rfl rfl)
theorem dX4_wait_57 : decode cX4_wait 57 = .ok (.putfield 331, 3) := dk_181 1 75 (dk_at dksX4_wait_2 10 rfl rfl)
theorem dX4_wait_60 : decode cX4_wait 60 = .ok (.aload_n 0, 1) := dk_42 (dk_at dksX4_wait_2 13 rfl rfl)
theorem dX4_wait_61 : decode cX4_wait 61 = .ok (.dup, 1) := dk_89 (dk_at dksX4_wait_2 14 rfl rfl)
theorem dX4_wait_62 : decode cX4_wait 62 = .ok (.getfield 363, 3) := dk_180 1 107 (dk_at dksX4_wait_2 15 rfl rfl)
theorem dX4_wait_65 : decode cX4_wait 65 = .ok (.aload_n 0, 1) := dk_42 (dk_at dksX4_wait_2 18 rfl rfl)
theorem dX4_wait_66 : decode cX4_wait 66 = .ok (.getfield 363, 3) := dk_180 1 107 (dk_at dksX4_wait_2 19 rfl rfl)
theorem dX4_wait_69 : decode cX4_wait 69 = .ok (.ifCond .le 7, 3) := dk_158 0 7 (dk_at dksX4_wait_3 0 rfl rfl)
theorem dX4_wait_72 : decode cX4_wait 72 = .ok (.iconst 1, 1) := dk_4 (dk_at dksX4_wait_3 3 rfl rfl)
theorem dX4_wait_73 : decode cX4_wait 73 = .ok (.goto 4, 3) := dk_167 0 4 (dk_at dksX4_wait_3 4 rfl rfl)
theorem dX4_wait_76 : decode cX4_wait 76 = .ok (.iconst 0, 1) := dk_3 (dk_at dksX4_wait_3 7 rfl rfl)
theorem dX4_wait_77 : decode cX4_wait 77 = .ok (.isub, 1) := dk_100 (dk_at dksX4_wait_3 8 rfl rfl)
theorem dX4_wait_78 : decode cX4_wait 78 = .ok (.putfield 363, 3) := dk_181 1 107 (dk_at dksX4_wait_3 9 rfl rfl)
theorem dX4_wait_81 : decode cX4_wait 81 = .ok (.aload_n 0, 1) := dk_42 (dk_at dksX4_wait_3 12 rfl rfl)
theorem dX4_wait_82 : decode cX4_wait 82 = .ok (.getfield 331, 3) := dk_180 1 75 (dk_at dksX4_wait_3 13 rfl rfl)
theorem dX4_wait_85 : decode cX4_wait 85 = .ok (.sipush 365, 3) := dk_17 1 109 (dk_at dksX4_wait_3 16 rfl rfl)
theorem dX4_wait_88 : decode cX4_wait 88 = .ok (.irem, 1) := dk_112 (dk_at dksX4_wait_3 19 rfl rfl)
theorem dX4_wait_89 : decode cX4_wait 89 = .ok (.ifCond .ne 7, 3) := dk_154 0 7 (dk_at dksX4_wait_3 20 rfl rfl)
theorem dX4_wait_92 : decode cX4_wait 92 = .ok (.aload_n 0, 1) := dk_42 (dk_at dksX4_wait_3 23 rfl rfl)
theorem dX4_wait_93 : decode cX4_wait 93 = .ok (.invokevirtual 396, 3) := dk_182 1 140 (dk_at dksX4_wait_4 0 rfl rfl)
theorem dX4_wait_96 : decode cX4_wait 96 = .ok (.iconst 0, 1) := dk_3 (dk_at dksX4_wait_4 3 rfl rfl)
theorem dX4_wait_97 : decode cX4_wait 97 = .ok (.istore_n 3, 1) := dk_62 (dk_at dksX4_wait_4 4 rfl rfl)
theorem dX4_wait_98 : decode cX4_wait 98 = .ok (.iload_n 3, 1) := dk_29 (dk_at dksX4_wait_4 5 rfl rfl)
theorem dX4_wait_99 : decode cX4_wait 99 = .ok (.aload_n 0, 1) := dk_42 (dk_at dksX4_wait_4 6 rfl rfl)
theorem dX4_wait_100 : decode cX4_wait 100 = .ok (.getfield 321, 3) := dk_180 1 65 (dk_at dksX4_wait_4 7 rfl rfl)
theorem dX4_wait_103 : decode cX4_wait 103 = .ok (.if_icmp .ge 36, 3) := dk_162 0 36 (dk_at dksX4_wait_4 10 rfl rfl)
theorem dX4_wait_106 : decode cX4_wait 106 = .ok (.aload_n 0, 1) := dk_42 (dk_at dksX4_wait_4 13 rfl rfl)
theorem dX4_wait_107 : decode cX4_wait 107 = .ok (.getfield 113, 3) := dk_180 0 113 (dk_at dksX4_wait_4 14 rfl rfl)
theorem dX4_wait_110 : decode cX4_wait 110 = .ok (.iload_n 3, 1) := dk_29 (dk_at dksX4_wait_4 17 rfl rfl)
theorem dX4_wait_111 : decode cX4_wait 111 = .ok (.iaload, 1) := dk_46 (dk_at dksX4_wait_4 18 rfl rfl)
theorem dX4_wait_112 : decode cX4_wait 112 = .ok (.ifCond .lt 21, 3) := dk_155 0 21 (dk_at dksX4_wait_4 19 rfl rfl)
theorem dX4_wait_115 : decode cX4_wait 115 = .ok (.aload_n 0, 1) := dk_42 (dk_at dksX4_wait_4 22 rfl rfl)
theorem dX4_wait_116 : decode cX4_wait 116 = .ok (.getfield 122, 3) := dk_180 0 122 (dk_at dksX4_wait_5 0 rfl rfl)
theorem dX4_wait_119 : decode cX4_wait 119 = .ok (.iload_n 3, 1) := dk_29 (dk_at dksX4_wait_5 3 rfl rfl)
theorem dX4_wait_120 : decode cX4_wait 120 = .ok (.iaload, 1) := dk_46 (dk_at dksX4_wait_5 4 rfl rfl)
theorem dX4_wait_121 : decode cX4_wait 121 = .ok (.aload_n 0, 1) := dk_42 (dk_at dksX4_wait_5 5 rfl rfl)
theorem dX4_wait_122 : decode cX4_wait 122 = .ok (.getfield 331, 3) := dk_180 1 75 (dk_at dksX4_wait_5 6 rfl rfl)
theorem dX4_wait_125 : decode cX4_wait 125 = .ok (.if_icmp .ne 8, 3) := dk_160 0 8 (dk_at dksX4_wait_5 9 rfl rfl)
theorem dX4_wait_128 : decode cX4_wait 128 = .ok (.aload_n 0, 1) := dk_42 (dk_at dksX4_wait_5 12 rfl rfl)
theorem dX4_wait_129 : decode cX4_wait 129 = .ok (.iload_n 3, 1) := dk_29 (dk_at dksX4_wait_5 13 rfl rfl)
theorem dX4_wait_130 : decode cX4_wait 130 = .ok (.invokevirtual 385, 3) := dk_182 1 129 (dk_at dksX4_wait_5 14 rfl rfl)
theorem dX4_wait_133 : decode cX4_wait 133 = .ok (.iinc 3 1, 3) := dk_132 3 1 (dk_at dksX4_wait_5 17 rfl rfl)
theorem dX4_wait_136 : decode cX4_wait 136 = .ok (.goto (-38), 3) := dk_167 255 218 (dk_at dksX4_wait_5 20 rfl rfl)
theorem dX4_wait_139 : decode cX4_wait 139 = .ok (.iinc 2 1, 3) := dk_132 2 1 (dk_at dksX4_wait_6 0 rfl rfl)
theorem dX4_wait_142 : decode cX4_wait 142 = .ok (.goto (-97), 3) := dk_167 255 159 (dk_at dksX4_wait_6 3 rfl rfl)
theorem dX4_wait_145 : decode cX4_wait 145 = .ok (.aload_n 0, 1) := dk_42 (dk_at dksX4_wait_6 6 rfl rfl)
theorem dX4_wait_146 : decode cX4_wait 146 = .ok (.getfield 331, 3) := dk_180 1 75 (dk_at dksX4_wait_6 7 rfl rfl)
theorem dX4_wait_149 : decode cX4_wait 149 = .ok (.ireturn, 1) := dk_172 (dk_at dksX4_wait_6 10 rfl rfl)
abbrev cX4_interest : ByteArray := prog_33_method_52_code
def yX4_interest : MethodName := ⟨RX4, "interest", "()V"⟩
def dkwX4_interest_2 : List UInt8 := [162, 0, 14, 42, 27, 182, 1, 137, 132, 1, 1, 167, 255, 243, 177]
abbrev dktX4_interest_2 : List UInt8 := dkwX4_interest_2 ++ []
def dkwX4_interest_1 : List UInt8 := [42, 180, 0, 131, 27, 46, 133, 105, 20, 1, 135, 109, 97, 80, 132, 1, 1, 167, 255, 217, 3, 60, 27, 7]
abbrev dktX4_interest_1 : List UInt8 := dkwX4_interest_1 ++ dktX4_interest_2
def dkwX4_interest_0 : List UInt8 := [3, 60, 27, 42, 180, 1, 132, 162, 0, 37, 42, 180, 0, 137, 27, 92, 47, 42, 180, 0, 128, 27, 46, 133]
abbrev dktX4_interest_0 : List UInt8 := dkwX4_interest_0 ++ dktX4_interest_1
theorem dksX4_interest_0 : cX4_interest.data.toList.drop 0 = dktX4_interest_0 := by decide +kernel
theorem dksX4_interest_1 : cX4_interest.data.toList.drop 24 = dktX4_interest_1 := dk_seg dksX4_interest_0 24 rfl rfl
theorem dksX4_interest_2 : cX4_interest.data.toList.drop 48 = dktX4_interest_2 := dk_seg dksX4_interest_1 24 rfl rfl
theorem dX4_interest_0 : decode cX4_interest 0 = .ok (.iconst 0, 1) := dk_3 (dk_at dksX4_interest_0 0 rfl rfl)
theorem dX4_interest_1 : decode cX4_interest 1 = .ok (.istore_n 1, 1) := dk_60 (dk_at dksX4_interest_0 1 rfl rfl)
theorem dX4_interest_2 : decode cX4_interest 2 = .ok (.iload_n 1, 1) := dk_27 (dk_at dksX4_interest_0 2 rfl rfl)
theorem dX4_interest_3 : decode cX4_interest 3 = .ok (.aload_n 0, 1) := dk_42 (dk_at dksX4_interest_0 3 rfl rfl)
theorem dX4_interest_4 : decode cX4_interest 4 = .ok (.getfield 388, 3) := dk_180 1 132 (dk_at dksX4_interest_0 4 rfl rfl)
theorem dX4_interest_7 : decode cX4_interest 7 = .ok (.if_icmp .ge 37, 3) := dk_162 0 37 (dk_at dksX4_interest_0 7 rfl rfl)
theorem dX4_interest_10 : decode cX4_interest 10 = .ok (.aload_n 0, 1) := dk_42 (dk_at dksX4_interest_0 10 rfl rfl)
theorem dX4_interest_11 : decode cX4_interest 11 = .ok (.getfield 137, 3) := dk_180 0 137 (dk_at dksX4_interest_0 11 rfl rfl)
theorem dX4_interest_14 : decode cX4_interest 14 = .ok (.iload_n 1, 1) := dk_27 (dk_at dksX4_interest_0 14 rfl rfl)
theorem dX4_interest_15 : decode cX4_interest 15 = .ok (.dup2, 1) := dk_92 (dk_at dksX4_interest_0 15 rfl rfl)
theorem dX4_interest_16 : decode cX4_interest 16 = .ok (.laload, 1) := dk_47 (dk_at dksX4_interest_0 16 rfl rfl)
theorem dX4_interest_17 : decode cX4_interest 17 = .ok (.aload_n 0, 1) := dk_42 (dk_at dksX4_interest_0 17 rfl rfl)
theorem dX4_interest_18 : decode cX4_interest 18 = .ok (.getfield 128, 3) := dk_180 0 128 (dk_at dksX4_interest_0 18 rfl rfl)
theorem dX4_interest_21 : decode cX4_interest 21 = .ok (.iload_n 1, 1) := dk_27 (dk_at dksX4_interest_0 21 rfl rfl)
theorem dX4_interest_22 : decode cX4_interest 22 = .ok (.iaload, 1) := dk_46 (dk_at dksX4_interest_0 22 rfl rfl)
theorem dX4_interest_23 : decode cX4_interest 23 = .ok (.i2l, 1) := dk_133 (dk_at dksX4_interest_0 23 rfl rfl)
theorem dX4_interest_24 : decode cX4_interest 24 = .ok (.aload_n 0, 1) := dk_42 (dk_at dksX4_interest_1 0 rfl rfl)
theorem dX4_interest_25 : decode cX4_interest 25 = .ok (.getfield 131, 3) := dk_180 0 131 (dk_at dksX4_interest_1 1 rfl rfl)
theorem dX4_interest_28 : decode cX4_interest 28 = .ok (.iload_n 1, 1) := dk_27 (dk_at dksX4_interest_1 4 rfl rfl)
theorem dX4_interest_29 : decode cX4_interest 29 = .ok (.iaload, 1) := dk_46 (dk_at dksX4_interest_1 5 rfl rfl)
theorem dX4_interest_30 : decode cX4_interest 30 = .ok (.i2l, 1) := dk_133 (dk_at dksX4_interest_1 6 rfl rfl)
theorem dX4_interest_31 : decode cX4_interest 31 = .ok (.lmul, 1) := dk_105 (dk_at dksX4_interest_1 7 rfl rfl)
theorem dX4_interest_32 : decode cX4_interest 32 = .ok (.ldc2_w 391, 3) := dk_20 1 135 (dk_at dksX4_interest_1 8 rfl rfl)
theorem dX4_interest_35 : decode cX4_interest 35 = .ok (.ldiv, 1) := dk_109 (dk_at dksX4_interest_1 11 rfl rfl)
theorem dX4_interest_36 : decode cX4_interest 36 = .ok (.ladd, 1) := dk_97 (dk_at dksX4_interest_1 12 rfl rfl)
theorem dX4_interest_37 : decode cX4_interest 37 = .ok (.lastore, 1) := dk_80 (dk_at dksX4_interest_1 13 rfl rfl)
theorem dX4_interest_38 : decode cX4_interest 38 = .ok (.iinc 1 1, 3) := dk_132 1 1 (dk_at dksX4_interest_1 14 rfl rfl)
theorem dX4_interest_41 : decode cX4_interest 41 = .ok (.goto (-39), 3) := dk_167 255 217 (dk_at dksX4_interest_1 17 rfl rfl)
theorem dX4_interest_44 : decode cX4_interest 44 = .ok (.iconst 0, 1) := dk_3 (dk_at dksX4_interest_1 20 rfl rfl)
theorem dX4_interest_45 : decode cX4_interest 45 = .ok (.istore_n 1, 1) := dk_60 (dk_at dksX4_interest_1 21 rfl rfl)
theorem dX4_interest_46 : decode cX4_interest 46 = .ok (.iload_n 1, 1) := dk_27 (dk_at dksX4_interest_1 22 rfl rfl)
theorem dX4_interest_47 : decode cX4_interest 47 = .ok (.iconst 4, 1) := dk_7 (dk_at dksX4_interest_1 23 rfl rfl)
theorem dX4_interest_48 : decode cX4_interest 48 = .ok (.if_icmp .ge 14, 3) := dk_162 0 14 (dk_at dksX4_interest_2 0 rfl rfl)
theorem dX4_interest_51 : decode cX4_interest 51 = .ok (.aload_n 0, 1) := dk_42 (dk_at dksX4_interest_2 3 rfl rfl)
theorem dX4_interest_52 : decode cX4_interest 52 = .ok (.iload_n 1, 1) := dk_27 (dk_at dksX4_interest_2 4 rfl rfl)
theorem dX4_interest_53 : decode cX4_interest 53 = .ok (.invokevirtual 393, 3) := dk_182 1 137 (dk_at dksX4_interest_2 5 rfl rfl)
theorem dX4_interest_56 : decode cX4_interest 56 = .ok (.iinc 1 1, 3) := dk_132 1 1 (dk_at dksX4_interest_2 8 rfl rfl)
theorem dX4_interest_59 : decode cX4_interest 59 = .ok (.goto (-13), 3) := dk_167 255 243 (dk_at dksX4_interest_2 11 rfl rfl)
theorem dX4_interest_62 : decode cX4_interest 62 = .ok (.return_, 1) := dk_177 (dk_at dksX4_interest_2 14 rfl rfl)
abbrev cX4_rank : ByteArray := prog_33_method_53_code
def yX4_rank : MethodName := ⟨RX4, "rank", "(I)V"⟩
def dkwX4_rank_16 : List UInt8 := [167, 255, 186, 177]
abbrev dktX4_rank_16 : List UInt8 := dkwX4_rank_16 ++ []
def dkwX4_rank_15 : List UInt8 := [21, 8, 47, 101, 80, 42, 7, 21, 8, 42, 180, 0, 140, 21, 8, 47, 117, 182, 1, 110, 132, 8, 1]
abbrev dktX4_rank_15 : List UInt8 := dkwX4_rank_15 ++ dktX4_rank_16
def dkwX4_rank_14 : List UInt8 := [21, 8, 47, 9, 148, 154, 0, 6, 167, 0, 35, 42, 180, 0, 137, 21, 8, 92, 47, 42, 180, 0, 140]
abbrev dktX4_rank_14 : List UInt8 := dkwX4_rank_14 ++ dktX4_rank_15
def dkwX4_rank_13 : List UInt8 := [21, 8, 42, 180, 1, 132, 162, 0, 67, 42, 180, 0, 134, 21, 8, 46, 27, 160, 0, 50, 42, 180, 0, 140]
abbrev dktX4_rank_13 : List UInt8 := dkwX4_rank_13 ++ dktX4_rank_14
def dkwX4_rank_12 : List UInt8 := [10, 97, 80, 42, 180, 0, 143, 21, 10, 9, 80, 22, 8, 10, 101, 55, 8, 167, 255, 145, 3, 54, 8]
abbrev dktX4_rank_12 : List UInt8 := dkwX4_rank_12 ++ dktX4_rank_13
def dkwX4_rank_11 : List UInt8 := [54, 10, 132, 11, 1, 167, 255, 194, 21, 10, 156, 0, 6, 167, 0, 31, 42, 180, 0, 140, 21, 10, 92, 47]
abbrev dktX4_rank_11 : List UInt8 := dkwX4_rank_11 ++ dktX4_rank_12
def dkwX4_rank_10 : List UInt8 := [155, 0, 21, 42, 180, 0, 143, 21, 11, 47, 42, 180, 0, 143, 21, 10, 47, 148, 158, 0, 7, 21, 11]
abbrev dktX4_rank_10 : List UInt8 := dkwX4_rank_10 ++ dktX4_rank_11
def dkwX4_rank_9 : List UInt8 := [180, 0, 134, 21, 11, 46, 27, 160, 0, 42, 42, 180, 0, 143, 21, 11, 47, 9, 148, 158, 0, 30, 21, 10]
abbrev dktX4_rank_9 : List UInt8 := dkwX4_rank_9 ++ dktX4_rank_10
def dkwX4_rank_8 : List UInt8 := [22, 8, 9, 148, 158, 0, 110, 2, 54, 10, 3, 54, 11, 21, 11, 42, 180, 1, 132, 162, 0, 59, 42]
abbrev dktX4_rank_8 : List UInt8 := dkwX4_rank_8 ++ dktX4_rank_9
def dkwX4_rank_7 : List UInt8 := [132, 8, 1, 167, 255, 152, 22, 4, 32, 148, 155, 0, 7, 9, 167, 0, 8, 22, 4, 22, 6, 101, 55, 8]
abbrev dktX4_rank_7 : List UInt8 := dkwX4_rank_7 ++ dktX4_rank_8
def dkwX4_rank_6 : List UInt8 := [180, 0, 137, 21, 8, 47, 22, 4, 105, 32, 113, 80, 22, 6, 42, 180, 0, 140, 21, 8, 47, 97, 55, 6]
abbrev dktX4_rank_6 : List UInt8 := dkwX4_rank_6 ++ dktX4_rank_7
def dkwX4_rank_5 : List UInt8 := [22, 4, 105, 32, 109, 80, 42, 180, 0, 143, 21, 8, 22, 4, 32, 148, 155, 0, 7, 9, 167, 0, 15, 42]
abbrev dktX4_rank_5 : List UInt8 := dkwX4_rank_5 ++ dktX4_rank_6
def dkwX4_rank_4 : List UInt8 := [22, 4, 32, 148, 155, 0, 13, 42, 180, 0, 137, 21, 8, 47, 167, 0, 15, 42, 180, 0, 137, 21, 8, 47]
abbrev dktX4_rank_4 : List UInt8 := dkwX4_rank_4 ++ dktX4_rank_5
def dkwX4_rank_3 : List UInt8 := [162, 0, 101, 42, 180, 0, 134, 21, 8, 46, 27, 159, 0, 6, 167, 0, 81, 42, 180, 0, 140, 21, 8]
abbrev dktX4_rank_3 : List UInt8 := dkwX4_rank_3 ++ dktX4_rank_4
def dkwX4_rank_2 : List UInt8 := [148, 154, 0, 4, 177, 42, 180, 1, 117, 55, 4, 9, 55, 6, 3, 54, 8, 21, 8, 42, 180, 1, 132]
abbrev dktX4_rank_2 : List UInt8 := dkwX4_rank_2 ++ dktX4_rank_3
def dkwX4_rank_1 : List UInt8 := [160, 0, 13, 42, 180, 0, 137, 21, 4, 47, 167, 0, 4, 9, 97, 65, 132, 4, 1, 167, 255, 219, 32, 9]
abbrev dktX4_rank_1 : List UInt8 := dkwX4_rank_1 ++ dktX4_rank_2
def dkwX4_rank_0 : List UInt8 := [9, 65, 3, 54, 4, 21, 4, 42, 180, 1, 132, 162, 0, 34, 32, 42, 180, 0, 134, 21, 4, 46, 27]
abbrev dktX4_rank_0 : List UInt8 := dkwX4_rank_0 ++ dktX4_rank_1
theorem dksX4_rank_0 : cX4_rank.data.toList.drop 0 = dktX4_rank_0 := by decide +kernel
theorem dksX4_rank_1 : cX4_rank.data.toList.drop 23 = dktX4_rank_1 := dk_seg dksX4_rank_0 23 rfl rfl
theorem dksX4_rank_2 : cX4_rank.data.toList.drop 47 = dktX4_rank_2 := dk_seg dksX4_rank_1 24 rfl rfl
theorem dksX4_rank_3 : cX4_rank.data.toList.drop 70 = dktX4_rank_3 := dk_seg dksX4_rank_2 23 rfl rfl
theorem dksX4_rank_4 : cX4_rank.data.toList.drop 93 = dktX4_rank_4 := dk_seg dksX4_rank_3 23 rfl rfl
theorem dksX4_rank_5 : cX4_rank.data.toList.drop 117 = dktX4_rank_5 := dk_seg dksX4_rank_4 24 rfl rfl
theorem dksX4_rank_6 : cX4_rank.data.toList.drop 141 = dktX4_rank_6 := dk_seg dksX4_rank_5 24 rfl rfl
theorem dksX4_rank_7 : cX4_rank.data.toList.drop 165 = dktX4_rank_7 := dk_seg dksX4_rank_6 24 rfl rfl
theorem dksX4_rank_8 : cX4_rank.data.toList.drop 189 = dktX4_rank_8 := dk_seg dksX4_rank_7 24 rfl rfl
theorem dksX4_rank_9 : cX4_rank.data.toList.drop 212 = dktX4_rank_9 := dk_seg dksX4_rank_8 23 rfl rfl
theorem dksX4_rank_10 : cX4_rank.data.toList.drop 236 = dktX4_rank_10 := dk_seg dksX4_rank_9 24 rfl rfl
theorem dksX4_rank_11 : cX4_rank.data.toList.drop 259 = dktX4_rank_11 := dk_seg dksX4_rank_10 23 rfl rfl
theorem dksX4_rank_12 : cX4_rank.data.toList.drop 283 = dktX4_rank_12 := dk_seg dksX4_rank_11 24 rfl rfl
theorem dksX4_rank_13 : cX4_rank.data.toList.drop 306 = dktX4_rank_13 := dk_seg dksX4_rank_12 23 rfl rfl
theorem dksX4_rank_14 : cX4_rank.data.toList.drop 330 = dktX4_rank_14 := dk_seg dksX4_rank_13 24 rfl rfl
theorem dksX4_rank_15 : cX4_rank.data.toList.drop 353 = dktX4_rank_15 := dk_seg dksX4_rank_14 23 rfl rfl
theorem dksX4_rank_16 : cX4_rank.data.toList.drop 376 = dktX4_rank_16 := dk_seg dksX4_rank_15 23 rfl rfl
theorem dX4_rank_0 : decode cX4_rank 0 = .ok (.lconst 0, 1) := dk_9 (dk_at dksX4_rank_0 0 rfl rfl)
theorem dX4_rank_1 : decode cX4_rank 1 = .ok (.lstore_n 2, 1) := dk_65 (dk_at dksX4_rank_0 1 rfl rfl)
theorem dX4_rank_2 : decode cX4_rank 2 = .ok (.iconst 0, 1) := dk_3 (dk_at dksX4_rank_0 2 rfl rfl)
theorem dX4_rank_3 : decode cX4_rank 3 = .ok (.istore 4, 2) := dk_54 4 (dk_at dksX4_rank_0 3 rfl rfl)
theorem dX4_rank_5 : decode cX4_rank 5 = .ok (.iload 4, 2) := dk_21 4 (dk_at dksX4_rank_0 5 rfl rfl)
theorem dX4_rank_7 : decode cX4_rank 7 = .ok (.aload_n 0, 1) := dk_42 (dk_at dksX4_rank_0 7 rfl rfl)
theorem dX4_rank_8 : decode cX4_rank 8 = .ok (.getfield 388, 3) := dk_180 1 132 (dk_at dksX4_rank_0 8 rfl rfl)
theorem dX4_rank_11 : decode cX4_rank 11 = .ok (.if_icmp .ge 34, 3) := dk_162 0 34 (dk_at dksX4_rank_0 11 rfl rfl)
theorem dX4_rank_14 : decode cX4_rank 14 = .ok (.lload_n 2, 1) := dk_32 (dk_at dksX4_rank_0 14 rfl rfl)
theorem dX4_rank_15 : decode cX4_rank 15 = .ok (.aload_n 0, 1) := dk_42 (dk_at dksX4_rank_0 15 rfl rfl)
theorem dX4_rank_16 : decode cX4_rank 16 = .ok (.getfield 134, 3) := dk_180 0 134 (dk_at dksX4_rank_0 16 rfl rfl)
theorem dX4_rank_19 : decode cX4_rank 19 = .ok (.iload 4, 2) := dk_21 4 (dk_at dksX4_rank_0 19 rfl rfl)
theorem dX4_rank_21 : decode cX4_rank 21 = .ok (.iaload, 1) := dk_46 (dk_at dksX4_rank_0 21 rfl rfl)
theorem dX4_rank_22 : decode cX4_rank 22 = .ok (.iload_n 1, 1) := dk_27 (dk_at dksX4_rank_0 22 rfl rfl)
theorem dX4_rank_23 : decode cX4_rank 23 = .ok (.if_icmp .ne 13, 3) := dk_160 0 13 (dk_at dksX4_rank_1 0 rfl rfl)
theorem dX4_rank_26 : decode cX4_rank 26 = .ok (.aload_n 0, 1) := dk_42 (dk_at dksX4_rank_1 3 rfl rfl)
theorem dX4_rank_27 : decode cX4_rank 27 = .ok (.getfield 137, 3) := dk_180 0 137 (dk_at dksX4_rank_1 4 rfl rfl)
theorem dX4_rank_30 : decode cX4_rank 30 = .ok (.iload 4, 2) := dk_21 4 (dk_at dksX4_rank_1 7 rfl rfl)
theorem dX4_rank_32 : decode cX4_rank 32 = .ok (.laload, 1) := dk_47 (dk_at dksX4_rank_1 9 rfl rfl)
theorem dX4_rank_33 : decode cX4_rank 33 = .ok (.goto 4, 3) := dk_167 0 4 (dk_at dksX4_rank_1 10 rfl rfl)
theorem dX4_rank_36 : decode cX4_rank 36 = .ok (.lconst 0, 1) := dk_9 (dk_at dksX4_rank_1 13 rfl rfl)
theorem dX4_rank_37 : decode cX4_rank 37 = .ok (.ladd, 1) := dk_97 (dk_at dksX4_rank_1 14 rfl rfl)
theorem dX4_rank_38 : decode cX4_rank 38 = .ok (.lstore_n 2, 1) := dk_65 (dk_at dksX4_rank_1 15 rfl rfl)
theorem dX4_rank_39 : decode cX4_rank 39 = .ok (.iinc 4 1, 3) := dk_132 4 1 (dk_at dksX4_rank_1 16 rfl rfl)
theorem dX4_rank_42 : decode cX4_rank 42 = .ok (.goto (-37), 3) := dk_167 255 219 (dk_at dksX4_rank_1 19 rfl rfl)
theorem dX4_rank_45 : decode cX4_rank 45 = .ok (.lload_n 2, 1) := dk_32 (dk_at dksX4_rank_1 22 rfl rfl)
theorem dX4_rank_46 : decode cX4_rank 46 = .ok (.lconst 0, 1) := dk_9 (dk_at dksX4_rank_1 23 rfl rfl)
theorem dX4_rank_47 : decode cX4_rank 47 = .ok (.lcmp, 1) := dk_148 (dk_at dksX4_rank_2 0 rfl rfl)
theorem dX4_rank_48 : decode cX4_rank 48 = .ok (.ifCond .ne 4, 3) := dk_154 0 4 (dk_at dksX4_rank_2 1 rfl rfl)
theorem dX4_rank_51 : decode cX4_rank 51 = .ok (.return_, 1) := dk_177 (dk_at dksX4_rank_2 4 rfl rfl)
theorem dX4_rank_52 : decode cX4_rank 52 = .ok (.aload_n 0, 1) := dk_42 (dk_at dksX4_rank_2 5 rfl rfl)
theorem dX4_rank_53 : decode cX4_rank 53 = .ok (.getfield 373, 3) := dk_180 1 117 (dk_at dksX4_rank_2 6 rfl rfl)
theorem dX4_rank_56 : decode cX4_rank 56 = .ok (.lstore 4, 2) := dk_55 4 (dk_at dksX4_rank_2 9 rfl rfl)
theorem dX4_rank_58 : decode cX4_rank 58 = .ok (.lconst 0, 1) := dk_9 (dk_at dksX4_rank_2 11 rfl rfl)
theorem dX4_rank_59 : decode cX4_rank 59 = .ok (.lstore 6, 2) := dk_55 6 (dk_at dksX4_rank_2 12 rfl rfl)
theorem dX4_rank_61 : decode cX4_rank 61 = .ok (.iconst 0, 1) := dk_3 (dk_at dksX4_rank_2 14 rfl rfl)
theorem dX4_rank_62 : decode cX4_rank 62 = .ok (.istore 8, 2) := dk_54 8 (dk_at dksX4_rank_2 15 rfl rfl)
theorem dX4_rank_64 : decode cX4_rank 64 = .ok (.iload 8, 2) := dk_21 8 (dk_at dksX4_rank_2 17 rfl rfl)
theorem dX4_rank_66 : decode cX4_rank 66 = .ok (.aload_n 0, 1) := dk_42 (dk_at dksX4_rank_2 19 rfl rfl)
theorem dX4_rank_67 : decode cX4_rank 67 = .ok (.getfield 388, 3) := dk_180 1 132 (dk_at dksX4_rank_2 20 rfl rfl)
theorem dX4_rank_70 : decode cX4_rank 70 = .ok (.if_icmp .ge 101, 3) := dk_162 0 101 (dk_at dksX4_rank_3 0 rfl rfl)
theorem dX4_rank_73 : decode cX4_rank 73 = .ok (.aload_n 0, 1) := dk_42 (dk_at dksX4_rank_3 3 rfl rfl)
theorem dX4_rank_74 : decode cX4_rank 74 = .ok (.getfield 134, 3) := dk_180 0 134 (dk_at dksX4_rank_3 4 rfl rfl)
theorem dX4_rank_77 : decode cX4_rank 77 = .ok (.iload 8, 2) := dk_21 8 (dk_at dksX4_rank_3 7 rfl rfl)
theorem dX4_rank_79 : decode cX4_rank 79 = .ok (.iaload, 1) := dk_46 (dk_at dksX4_rank_3 9 rfl rfl)
theorem dX4_rank_80 : decode cX4_rank 80 = .ok (.iload_n 1, 1) := dk_27 (dk_at dksX4_rank_3 10 rfl rfl)
theorem dX4_rank_81 : decode cX4_rank 81 = .ok (.if_icmp .eq 6, 3) := dk_159 0 6 (dk_at dksX4_rank_3 11 rfl rfl)
theorem dX4_rank_84 : decode cX4_rank 84 = .ok (.goto 81, 3) := dk_167 0 81 (dk_at dksX4_rank_3 14 rfl rfl)
theorem dX4_rank_87 : decode cX4_rank 87 = .ok (.aload_n 0, 1) := dk_42 (dk_at dksX4_rank_3 17 rfl rfl)
theorem dX4_rank_88 : decode cX4_rank 88 = .ok (.getfield 140, 3) := dk_180 0 140 (dk_at dksX4_rank_3 18 rfl rfl)
theorem dX4_rank_91 : decode cX4_rank 91 = .ok (.iload 8, 2) := dk_21 8 (dk_at dksX4_rank_3 21 rfl rfl)
theorem dX4_rank_93 : decode cX4_rank 93 = .ok (.lload 4, 2) := dk_22 4 (dk_at dksX4_rank_4 0 rfl rfl)
theorem dX4_rank_95 : decode cX4_rank 95 = .ok (.lload_n 2, 1) := dk_32 (dk_at dksX4_rank_4 2 rfl rfl)
theorem dX4_rank_96 : decode cX4_rank 96 = .ok (.lcmp, 1) := dk_148 (dk_at dksX4_rank_4 3 rfl rfl)
theorem dX4_rank_97 : decode cX4_rank 97 = .ok (.ifCond .lt 13, 3) := dk_155 0 13 (dk_at dksX4_rank_4 4 rfl rfl)
theorem dX4_rank_100 : decode cX4_rank 100 = .ok (.aload_n 0, 1) := dk_42 (dk_at dksX4_rank_4 7 rfl rfl)
theorem dX4_rank_101 : decode cX4_rank 101 = .ok (.getfield 137, 3) := dk_180 0 137 (dk_at dksX4_rank_4 8 rfl rfl)
theorem dX4_rank_104 : decode cX4_rank 104 = .ok (.iload 8, 2) := dk_21 8 (dk_at dksX4_rank_4 11 rfl rfl)
theorem dX4_rank_106 : decode cX4_rank 106 = .ok (.laload, 1) := dk_47 (dk_at dksX4_rank_4 13 rfl rfl)
theorem dX4_rank_107 : decode cX4_rank 107 = .ok (.goto 15, 3) := dk_167 0 15 (dk_at dksX4_rank_4 14 rfl rfl)
theorem dX4_rank_110 : decode cX4_rank 110 = .ok (.aload_n 0, 1) := dk_42 (dk_at dksX4_rank_4 17 rfl rfl)
theorem dX4_rank_111 : decode cX4_rank 111 = .ok (.getfield 137, 3) := dk_180 0 137 (dk_at dksX4_rank_4 18 rfl rfl)
theorem dX4_rank_114 : decode cX4_rank 114 = .ok (.iload 8, 2) := dk_21 8 (dk_at dksX4_rank_4 21 rfl rfl)
theorem dX4_rank_116 : decode cX4_rank 116 = .ok (.laload, 1) := dk_47 (dk_at dksX4_rank_4 23 rfl rfl)
theorem dX4_rank_117 : decode cX4_rank 117 = .ok (.lload 4, 2) := dk_22 4 (dk_at dksX4_rank_5 0 rfl rfl)
theorem dX4_rank_119 : decode cX4_rank 119 = .ok (.lmul, 1) := dk_105 (dk_at dksX4_rank_5 2 rfl rfl)
theorem dX4_rank_120 : decode cX4_rank 120 = .ok (.lload_n 2, 1) := dk_32 (dk_at dksX4_rank_5 3 rfl rfl)
theorem dX4_rank_121 : decode cX4_rank 121 = .ok (.ldiv, 1) := dk_109 (dk_at dksX4_rank_5 4 rfl rfl)
theorem dX4_rank_122 : decode cX4_rank 122 = .ok (.lastore, 1) := dk_80 (dk_at dksX4_rank_5 5 rfl rfl)
theorem dX4_rank_123 : decode cX4_rank 123 = .ok (.aload_n 0, 1) := dk_42 (dk_at dksX4_rank_5 6 rfl rfl)
theorem dX4_rank_124 : decode cX4_rank 124 = .ok (.getfield 143, 3) := dk_180 0 143 (dk_at dksX4_rank_5 7 rfl rfl)
theorem dX4_rank_127 : decode cX4_rank 127 = .ok (.iload 8, 2) := dk_21 8 (dk_at dksX4_rank_5 10 rfl rfl)
theorem dX4_rank_129 : decode cX4_rank 129 = .ok (.lload 4, 2) := dk_22 4 (dk_at dksX4_rank_5 12 rfl rfl)
theorem dX4_rank_131 : decode cX4_rank 131 = .ok (.lload_n 2, 1) := dk_32 (dk_at dksX4_rank_5 14 rfl rfl)
theorem dX4_rank_132 : decode cX4_rank 132 = .ok (.lcmp, 1) := dk_148 (dk_at dksX4_rank_5 15 rfl rfl)
theorem dX4_rank_133 : decode cX4_rank 133 = .ok (.ifCond .lt 7, 3) := dk_155 0 7 (dk_at dksX4_rank_5 16 rfl rfl)
theorem dX4_rank_136 : decode cX4_rank 136 = .ok (.lconst 0, 1) := dk_9 (dk_at dksX4_rank_5 19 rfl rfl)
theorem dX4_rank_137 : decode cX4_rank 137 = .ok (.goto 15, 3) := dk_167 0 15 (dk_at dksX4_rank_5 20 rfl rfl)
theorem dX4_rank_140 : decode cX4_rank 140 = .ok (.aload_n 0, 1) := dk_42 (dk_at dksX4_rank_5 23 rfl rfl)
theorem dX4_rank_141 : decode cX4_rank 141 = .ok (.getfield 137, 3) := dk_180 0 137 (dk_at dksX4_rank_6 0 rfl rfl)
theorem dX4_rank_144 : decode cX4_rank 144 = .ok (.iload 8, 2) := dk_21 8 (dk_at dksX4_rank_6 3 rfl rfl)
theorem dX4_rank_146 : decode cX4_rank 146 = .ok (.laload, 1) := dk_47 (dk_at dksX4_rank_6 5 rfl rfl)
theorem dX4_rank_147 : decode cX4_rank 147 = .ok (.lload 4, 2) := dk_22 4 (dk_at dksX4_rank_6 6 rfl rfl)
theorem dX4_rank_149 : decode cX4_rank 149 = .ok (.lmul, 1) := dk_105 (dk_at dksX4_rank_6 8 rfl rfl)
theorem dX4_rank_150 : decode cX4_rank 150 = .ok (.lload_n 2, 1) := dk_32 (dk_at dksX4_rank_6 9 rfl rfl)
theorem dX4_rank_151 : decode cX4_rank 151 = .ok (.lrem, 1) := dk_113 (dk_at dksX4_rank_6 10 rfl rfl)
theorem dX4_rank_152 : decode cX4_rank 152 = .ok (.lastore, 1) := dk_80 (dk_at dksX4_rank_6 11 rfl rfl)
theorem dX4_rank_153 : decode cX4_rank 153 = .ok (.lload 6, 2) := dk_22 6 (dk_at dksX4_rank_6 12 rfl rfl)
theorem dX4_rank_155 : decode cX4_rank 155 = .ok (.aload_n 0, 1) := dk_42 (dk_at dksX4_rank_6 14 rfl rfl)
theorem dX4_rank_156 : decode cX4_rank 156 = .ok (.getfield 140, 3) := dk_180 0 140 (dk_at dksX4_rank_6 15 rfl rfl)
theorem dX4_rank_159 : decode cX4_rank 159 = .ok (.iload 8, 2) := dk_21 8 (dk_at dksX4_rank_6 18 rfl rfl)
theorem dX4_rank_161 : decode cX4_rank 161 = .ok (.laload, 1) := dk_47 (dk_at dksX4_rank_6 20 rfl rfl)
theorem dX4_rank_162 : decode cX4_rank 162 = .ok (.ladd, 1) := dk_97 (dk_at dksX4_rank_6 21 rfl rfl)
theorem dX4_rank_163 : decode cX4_rank 163 = .ok (.lstore 6, 2) := dk_55 6 (dk_at dksX4_rank_6 22 rfl rfl)
theorem dX4_rank_165 : decode cX4_rank 165 = .ok (.iinc 8 1, 3) := dk_132 8 1 (dk_at dksX4_rank_7 0 rfl rfl)
theorem dX4_rank_168 : decode cX4_rank 168 = .ok (.goto (-104), 3) := dk_167 255 152 (dk_at dksX4_rank_7 3 rfl rfl)
theorem dX4_rank_171 : decode cX4_rank 171 = .ok (.lload 4, 2) := dk_22 4 (dk_at dksX4_rank_7 6 rfl rfl)
theorem dX4_rank_173 : decode cX4_rank 173 = .ok (.lload_n 2, 1) := dk_32 (dk_at dksX4_rank_7 8 rfl rfl)
theorem dX4_rank_174 : decode cX4_rank 174 = .ok (.lcmp, 1) := dk_148 (dk_at dksX4_rank_7 9 rfl rfl)
theorem dX4_rank_175 : decode cX4_rank 175 = .ok (.ifCond .lt 7, 3) := dk_155 0 7 (dk_at dksX4_rank_7 10 rfl rfl)
theorem dX4_rank_178 : decode cX4_rank 178 = .ok (.lconst 0, 1) := dk_9 (dk_at dksX4_rank_7 13 rfl rfl)
theorem dX4_rank_179 : decode cX4_rank 179 = .ok (.goto 8, 3) := dk_167 0 8 (dk_at dksX4_rank_7 14 rfl rfl)
theorem dX4_rank_182 : decode cX4_rank 182 = .ok (.lload 4, 2) := dk_22 4 (dk_at dksX4_rank_7 17 rfl rfl)
theorem dX4_rank_184 : decode cX4_rank 184 = .ok (.lload 6, 2) := dk_22 6 (dk_at dksX4_rank_7 19 rfl rfl)
theorem dX4_rank_186 : decode cX4_rank 186 = .ok (.lsub, 1) := dk_101 (dk_at dksX4_rank_7 21 rfl rfl)
theorem dX4_rank_187 : decode cX4_rank 187 = .ok (.lstore 8, 2) := dk_55 8 (dk_at dksX4_rank_7 22 rfl rfl)
theorem dX4_rank_189 : decode cX4_rank 189 = .ok (.lload 8, 2) := dk_22 8 (dk_at dksX4_rank_8 0 rfl rfl)
theorem dX4_rank_191 : decode cX4_rank 191 = .ok (.lconst 0, 1) := dk_9 (dk_at dksX4_rank_8 2 rfl rfl)
theorem dX4_rank_192 : decode cX4_rank 192 = .ok (.lcmp, 1) := dk_148 (dk_at dksX4_rank_8 3 rfl rfl)
theorem dX4_rank_193 : decode cX4_rank 193 = .ok (.ifCond .le 110, 3) := dk_158 0 110 (dk_at dksX4_rank_8 4 rfl rfl)
theorem dX4_rank_196 : decode cX4_rank 196 = .ok (.iconst (-1), 1) := dk_2 (dk_at dksX4_rank_8 7 rfl rfl)
theorem dX4_rank_197 : decode cX4_rank 197 = .ok (.istore 10, 2) := dk_54 10 (dk_at dksX4_rank_8 8 rfl rfl)
theorem dX4_rank_199 : decode cX4_rank 199 = .ok (.iconst 0, 1) := dk_3 (dk_at dksX4_rank_8 10 rfl rfl)
theorem dX4_rank_200 : decode cX4_rank 200 = .ok (.istore 11, 2) := dk_54 11 (dk_at dksX4_rank_8 11 rfl rfl)
theorem dX4_rank_202 : decode cX4_rank 202 = .ok (.iload 11, 2) := dk_21 11 (dk_at dksX4_rank_8 13 rfl rfl)
theorem dX4_rank_204 : decode cX4_rank 204 = .ok (.aload_n 0, 1) := dk_42 (dk_at dksX4_rank_8 15 rfl rfl)
theorem dX4_rank_205 : decode cX4_rank 205 = .ok (.getfield 388, 3) := dk_180 1 132 (dk_at dksX4_rank_8 16 rfl rfl)
theorem dX4_rank_208 : decode cX4_rank 208 = .ok (.if_icmp .ge 59, 3) := dk_162 0 59 (dk_at dksX4_rank_8 19 rfl rfl)
theorem dX4_rank_211 : decode cX4_rank 211 = .ok (.aload_n 0, 1) := dk_42 (dk_at dksX4_rank_8 22 rfl rfl)
theorem dX4_rank_212 : decode cX4_rank 212 = .ok (.getfield 134, 3) := dk_180 0 134 (dk_at dksX4_rank_9 0 rfl rfl)
theorem dX4_rank_215 : decode cX4_rank 215 = .ok (.iload 11, 2) := dk_21 11 (dk_at dksX4_rank_9 3 rfl rfl)
theorem dX4_rank_217 : decode cX4_rank 217 = .ok (.iaload, 1) := dk_46 (dk_at dksX4_rank_9 5 rfl rfl)
theorem dX4_rank_218 : decode cX4_rank 218 = .ok (.iload_n 1, 1) := dk_27 (dk_at dksX4_rank_9 6 rfl rfl)
theorem dX4_rank_219 : decode cX4_rank 219 = .ok (.if_icmp .ne 42, 3) := dk_160 0 42 (dk_at dksX4_rank_9 7 rfl rfl)
theorem dX4_rank_222 : decode cX4_rank 222 = .ok (.aload_n 0, 1) := dk_42 (dk_at dksX4_rank_9 10 rfl rfl)
theorem dX4_rank_223 : decode cX4_rank 223 = .ok (.getfield 143, 3) := dk_180 0 143 (dk_at dksX4_rank_9 11 rfl rfl)
theorem dX4_rank_226 : decode cX4_rank 226 = .ok (.iload 11, 2) := dk_21 11 (dk_at dksX4_rank_9 14 rfl rfl)
theorem dX4_rank_228 : decode cX4_rank 228 = .ok (.laload, 1) := dk_47 (dk_at dksX4_rank_9 16 rfl rfl)
theorem dX4_rank_229 : decode cX4_rank 229 = .ok (.lconst 0, 1) := dk_9 (dk_at dksX4_rank_9 17 rfl rfl)
theorem dX4_rank_230 : decode cX4_rank 230 = .ok (.lcmp, 1) := dk_148 (dk_at dksX4_rank_9 18 rfl rfl)
theorem dX4_rank_231 : decode cX4_rank 231 = .ok (.ifCond .le 30, 3) := dk_158 0 30 (dk_at dksX4_rank_9 19 rfl rfl)
theorem dX4_rank_234 : decode cX4_rank 234 = .ok (.iload 10, 2) := dk_21 10 (dk_at dksX4_rank_9 22 rfl rfl)
theorem dX4_rank_236 : decode cX4_rank 236 = .ok (.ifCond .lt 21, 3) := dk_155 0 21 (dk_at dksX4_rank_10 0 rfl rfl)
theorem dX4_rank_239 : decode cX4_rank 239 = .ok (.aload_n 0, 1) := dk_42 (dk_at dksX4_rank_10 3 rfl rfl)
theorem dX4_rank_240 : decode cX4_rank 240 = .ok (.getfield 143, 3) := dk_180 0 143 (dk_at dksX4_rank_10 4 rfl rfl)
theorem dX4_rank_243 : decode cX4_rank 243 = .ok (.iload 11, 2) := dk_21 11 (dk_at dksX4_rank_10 7 rfl rfl)
theorem dX4_rank_245 : decode cX4_rank 245 = .ok (.laload, 1) := dk_47 (dk_at dksX4_rank_10 9 rfl rfl)
theorem dX4_rank_246 : decode cX4_rank 246 = .ok (.aload_n 0, 1) := dk_42 (dk_at dksX4_rank_10 10 rfl rfl)
theorem dX4_rank_247 : decode cX4_rank 247 = .ok (.getfield 143, 3) := dk_180 0 143 (dk_at dksX4_rank_10 11 rfl rfl)
theorem dX4_rank_250 : decode cX4_rank 250 = .ok (.iload 10, 2) := dk_21 10 (dk_at dksX4_rank_10 14 rfl rfl)
theorem dX4_rank_252 : decode cX4_rank 252 = .ok (.laload, 1) := dk_47 (dk_at dksX4_rank_10 16 rfl rfl)
theorem dX4_rank_253 : decode cX4_rank 253 = .ok (.lcmp, 1) := dk_148 (dk_at dksX4_rank_10 17 rfl rfl)
theorem dX4_rank_254 : decode cX4_rank 254 = .ok (.ifCond .le 7, 3) := dk_158 0 7 (dk_at dksX4_rank_10 18 rfl rfl)
theorem dX4_rank_257 : decode cX4_rank 257 = .ok (.iload 11, 2) := dk_21 11 (dk_at dksX4_rank_10 21 rfl rfl)
theorem dX4_rank_259 : decode cX4_rank 259 = .ok (.istore 10, 2) := dk_54 10 (dk_at dksX4_rank_11 0 rfl rfl)
theorem dX4_rank_261 : decode cX4_rank 261 = .ok (.iinc 11 1, 3) := dk_132 11 1 (dk_at dksX4_rank_11 2 rfl rfl)
theorem dX4_rank_264 : decode cX4_rank 264 = .ok (.goto (-62), 3) := dk_167 255 194 (dk_at dksX4_rank_11 5 rfl rfl)
theorem dX4_rank_267 : decode cX4_rank 267 = .ok (.iload 10, 2) := dk_21 10 (dk_at dksX4_rank_11 8 rfl rfl)
theorem dX4_rank_269 : decode cX4_rank 269 = .ok (.ifCond .ge 6, 3) := dk_156 0 6 (dk_at dksX4_rank_11 10 rfl rfl)
theorem dX4_rank_272 : decode cX4_rank 272 = .ok (.goto 31, 3) := dk_167 0 31 (dk_at dksX4_rank_11 13 rfl rfl)
theorem dX4_rank_275 : decode cX4_rank 275 = .ok (.aload_n 0, 1) := dk_42 (dk_at dksX4_rank_11 16 rfl rfl)
theorem dX4_rank_276 : decode cX4_rank 276 = .ok (.getfield 140, 3) := dk_180 0 140 (dk_at dksX4_rank_11 17 rfl rfl)
theorem dX4_rank_279 : decode cX4_rank 279 = .ok (.iload 10, 2) := dk_21 10 (dk_at dksX4_rank_11 20 rfl rfl)
theorem dX4_rank_281 : decode cX4_rank 281 = .ok (.dup2, 1) := dk_92 (dk_at dksX4_rank_11 22 rfl rfl)
theorem dX4_rank_282 : decode cX4_rank 282 = .ok (.laload, 1) := dk_47 (dk_at dksX4_rank_11 23 rfl rfl)
theorem dX4_rank_283 : decode cX4_rank 283 = .ok (.lconst 1, 1) := dk_10 (dk_at dksX4_rank_12 0 rfl rfl)
theorem dX4_rank_284 : decode cX4_rank 284 = .ok (.ladd, 1) := dk_97 (dk_at dksX4_rank_12 1 rfl rfl)
theorem dX4_rank_285 : decode cX4_rank 285 = .ok (.lastore, 1) := dk_80 (dk_at dksX4_rank_12 2 rfl rfl)
theorem dX4_rank_286 : decode cX4_rank 286 = .ok (.aload_n 0, 1) := dk_42 (dk_at dksX4_rank_12 3 rfl rfl)
theorem dX4_rank_287 : decode cX4_rank 287 = .ok (.getfield 143, 3) := dk_180 0 143 (dk_at dksX4_rank_12 4 rfl rfl)
theorem dX4_rank_290 : decode cX4_rank 290 = .ok (.iload 10, 2) := dk_21 10 (dk_at dksX4_rank_12 7 rfl rfl)
theorem dX4_rank_292 : decode cX4_rank 292 = .ok (.lconst 0, 1) := dk_9 (dk_at dksX4_rank_12 9 rfl rfl)
theorem dX4_rank_293 : decode cX4_rank 293 = .ok (.lastore, 1) := dk_80 (dk_at dksX4_rank_12 10 rfl rfl)
theorem dX4_rank_294 : decode cX4_rank 294 = .ok (.lload 8, 2) := dk_22 8 (dk_at dksX4_rank_12 11 rfl rfl)
theorem dX4_rank_296 : decode cX4_rank 296 = .ok (.lconst 1, 1) := dk_10 (dk_at dksX4_rank_12 13 rfl rfl)
theorem dX4_rank_297 : decode cX4_rank 297 = .ok (.lsub, 1) := dk_101 (dk_at dksX4_rank_12 14 rfl rfl)
theorem dX4_rank_298 : decode cX4_rank 298 = .ok (.lstore 8, 2) := dk_55 8 (dk_at dksX4_rank_12 15 rfl rfl)
theorem dX4_rank_300 : decode cX4_rank 300 = .ok (.goto (-111), 3) := dk_167 255 145 (dk_at dksX4_rank_12 17 rfl rfl)
theorem dX4_rank_303 : decode cX4_rank 303 = .ok (.iconst 0, 1) := dk_3 (dk_at dksX4_rank_12 20 rfl rfl)
theorem dX4_rank_304 : decode cX4_rank 304 = .ok (.istore 8, 2) := dk_54 8 (dk_at dksX4_rank_12 21 rfl rfl)
theorem dX4_rank_306 : decode cX4_rank 306 = .ok (.iload 8, 2) := dk_21 8 (dk_at dksX4_rank_13 0 rfl rfl)
theorem dX4_rank_308 : decode cX4_rank 308 = .ok (.aload_n 0, 1) := dk_42 (dk_at dksX4_rank_13 2 rfl rfl)
theorem dX4_rank_309 : decode cX4_rank 309 = .ok (.getfield 388, 3) := dk_180 1 132 (dk_at dksX4_rank_13 3 rfl rfl)
theorem dX4_rank_312 : decode cX4_rank 312 = .ok (.if_icmp .ge 67, 3) := dk_162 0 67 (dk_at dksX4_rank_13 6 rfl rfl)
theorem dX4_rank_315 : decode cX4_rank 315 = .ok (.aload_n 0, 1) := dk_42 (dk_at dksX4_rank_13 9 rfl rfl)
theorem dX4_rank_316 : decode cX4_rank 316 = .ok (.getfield 134, 3) := dk_180 0 134 (dk_at dksX4_rank_13 10 rfl rfl)
theorem dX4_rank_319 : decode cX4_rank 319 = .ok (.iload 8, 2) := dk_21 8 (dk_at dksX4_rank_13 13 rfl rfl)
theorem dX4_rank_321 : decode cX4_rank 321 = .ok (.iaload, 1) := dk_46 (dk_at dksX4_rank_13 15 rfl rfl)
theorem dX4_rank_322 : decode cX4_rank 322 = .ok (.iload_n 1, 1) := dk_27 (dk_at dksX4_rank_13 16 rfl rfl)
theorem dX4_rank_323 : decode cX4_rank 323 = .ok (.if_icmp .ne 50, 3) := dk_160 0 50 (dk_at dksX4_rank_13 17 rfl rfl)
theorem dX4_rank_326 : decode cX4_rank 326 = .ok (.aload_n 0, 1) := dk_42 (dk_at dksX4_rank_13 20 rfl rfl)
theorem dX4_rank_327 : decode cX4_rank 327 = .ok (.getfield 140, 3) := dk_180 0 140 (dk_at dksX4_rank_13 21 rfl rfl)
theorem dX4_rank_330 : decode cX4_rank 330 = .ok (.iload 8, 2) := dk_21 8 (dk_at dksX4_rank_14 0 rfl rfl)
theorem dX4_rank_332 : decode cX4_rank 332 = .ok (.laload, 1) := dk_47 (dk_at dksX4_rank_14 2 rfl rfl)
theorem dX4_rank_333 : decode cX4_rank 333 = .ok (.lconst 0, 1) := dk_9 (dk_at dksX4_rank_14 3 rfl rfl)
theorem dX4_rank_334 : decode cX4_rank 334 = .ok (.lcmp, 1) := dk_148 (dk_at dksX4_rank_14 4 rfl rfl)
theorem dX4_rank_335 : decode cX4_rank 335 = .ok (.ifCond .ne 6, 3) := dk_154 0 6 (dk_at dksX4_rank_14 5 rfl rfl)
theorem dX4_rank_338 : decode cX4_rank 338 = .ok (.goto 35, 3) := dk_167 0 35 (dk_at dksX4_rank_14 8 rfl rfl)
theorem dX4_rank_341 : decode cX4_rank 341 = .ok (.aload_n 0, 1) := dk_42 (dk_at dksX4_rank_14 11 rfl rfl)
theorem dX4_rank_342 : decode cX4_rank 342 = .ok (.getfield 137, 3) := dk_180 0 137 (dk_at dksX4_rank_14 12 rfl rfl)
theorem dX4_rank_345 : decode cX4_rank 345 = .ok (.iload 8, 2) := dk_21 8 (dk_at dksX4_rank_14 15 rfl rfl)
theorem dX4_rank_347 : decode cX4_rank 347 = .ok (.dup2, 1) := dk_92 (dk_at dksX4_rank_14 17 rfl rfl)
theorem dX4_rank_348 : decode cX4_rank 348 = .ok (.laload, 1) := dk_47 (dk_at dksX4_rank_14 18 rfl rfl)
theorem dX4_rank_349 : decode cX4_rank 349 = .ok (.aload_n 0, 1) := dk_42 (dk_at dksX4_rank_14 19 rfl rfl)
theorem dX4_rank_350 : decode cX4_rank 350 = .ok (.getfield 140, 3) := dk_180 0 140 (dk_at dksX4_rank_14 20 rfl rfl)
theorem dX4_rank_353 : decode cX4_rank 353 = .ok (.iload 8, 2) := dk_21 8 (dk_at dksX4_rank_15 0 rfl rfl)
theorem dX4_rank_355 : decode cX4_rank 355 = .ok (.laload, 1) := dk_47 (dk_at dksX4_rank_15 2 rfl rfl)
theorem dX4_rank_356 : decode cX4_rank 356 = .ok (.lsub, 1) := dk_101 (dk_at dksX4_rank_15 3 rfl rfl)
theorem dX4_rank_357 : decode cX4_rank 357 = .ok (.lastore, 1) := dk_80 (dk_at dksX4_rank_15 4 rfl rfl)
theorem dX4_rank_358 : decode cX4_rank 358 = .ok (.aload_n 0, 1) := dk_42 (dk_at dksX4_rank_15 5 rfl rfl)
theorem dX4_rank_359 : decode cX4_rank 359 = .ok (.iconst 4, 1) := dk_7 (dk_at dksX4_rank_15 6 rfl rfl)
theorem dX4_rank_360 : decode cX4_rank 360 = .ok (.iload 8, 2) := dk_21 8 (dk_at dksX4_rank_15 7 rfl rfl)
theorem dX4_rank_362 : decode cX4_rank 362 = .ok (.aload_n 0, 1) := dk_42 (dk_at dksX4_rank_15 9 rfl rfl)
theorem dX4_rank_363 : decode cX4_rank 363 = .ok (.getfield 140, 3) := dk_180 0 140 (dk_at dksX4_rank_15 10 rfl rfl)
theorem dX4_rank_366 : decode cX4_rank 366 = .ok (.iload 8, 2) := dk_21 8 (dk_at dksX4_rank_15 13 rfl rfl)
theorem dX4_rank_368 : decode cX4_rank 368 = .ok (.laload, 1) := dk_47 (dk_at dksX4_rank_15 15 rfl rfl)
theorem dX4_rank_369 : decode cX4_rank 369 = .ok (.lneg, 1) := dk_117 (dk_at dksX4_rank_15 16 rfl rfl)
theorem dX4_rank_370 : decode cX4_rank 370 = .ok (.invokevirtual 366, 3) := dk_182 1 110 (dk_at dksX4_rank_15 17 rfl rfl)
theorem dX4_rank_373 : decode cX4_rank 373 = .ok (.iinc 8 1, 3) := dk_132 8 1 (dk_at dksX4_rank_15 20 rfl rfl)
theorem dX4_rank_376 : decode cX4_rank 376 = .ok (.goto (-70), 3) := dk_167 255 186 (dk_at dksX4_rank_16 0 rfl rfl)
theorem dX4_rank_379 : decode cX4_rank 379 = .ok (.return_, 1) := dk_177 (dk_at dksX4_rank_16 3 rfl rfl)
abbrev cX4_rain : ByteArray := prog_33_method_55_code
def yX4_rain : MethodName := ⟨RX4, "rain", "(I)V"⟩
def dkwX4_rain_1 : List UInt8 := [182, 1, 52, 153, 0, 4, 177, 42, 27, 181, 1, 107, 177]
abbrev dktX4_rain_1 : List UInt8 := dkwX4_rain_1 ++ []
def dkwX4_rain_0 : List UInt8 := [42, 3, 181, 0, 146, 42, 27, 155, 0, 10, 27, 17, 3, 232, 164, 0, 7, 4, 167, 0, 4, 3, 4]
abbrev dktX4_rain_0 : List UInt8 := dkwX4_rain_0 ++ dktX4_rain_1
theorem dksX4_rain_0 : cX4_rain.data.toList.drop 0 = dktX4_rain_0 := by decide +kernel
theorem dksX4_rain_1 : cX4_rain.data.toList.drop 23 = dktX4_rain_1 := dk_seg dksX4_rain_0 23 rfl rfl
theorem dX4_rain_0 : decode cX4_rain 0 = .ok (.aload_n 0, 1) := dk_42 (dk_at dksX4_rain_0 0 rfl rfl)
theorem dX4_rain_1 : decode cX4_rain 1 = .ok (.iconst 0, 1) := dk_3 (dk_at dksX4_rain_0 1 rfl rfl)
theorem dX4_rain_2 : decode cX4_rain 2 = .ok (.putfield 146, 3) := dk_181 0 146 (dk_at dksX4_rain_0 2 rfl rfl)
theorem dX4_rain_5 : decode cX4_rain 5 = .ok (.aload_n 0, 1) := dk_42 (dk_at dksX4_rain_0 5 rfl rfl)
theorem dX4_rain_6 : decode cX4_rain 6 = .ok (.iload_n 1, 1) := dk_27 (dk_at dksX4_rain_0 6 rfl rfl)
theorem dX4_rain_7 : decode cX4_rain 7 = .ok (.ifCond .lt 10, 3) := dk_155 0 10 (dk_at dksX4_rain_0 7 rfl rfl)
theorem dX4_rain_10 : decode cX4_rain 10 = .ok (.iload_n 1, 1) := dk_27 (dk_at dksX4_rain_0 10 rfl rfl)
theorem dX4_rain_11 : decode cX4_rain 11 = .ok (.sipush 1000, 3) := dk_17 3 232 (dk_at dksX4_rain_0 11 rfl rfl)
theorem dX4_rain_14 : decode cX4_rain 14 = .ok (.if_icmp .le 7, 3) := dk_164 0 7 (dk_at dksX4_rain_0 14 rfl rfl)
theorem dX4_rain_17 : decode cX4_rain 17 = .ok (.iconst 1, 1) := dk_4 (dk_at dksX4_rain_0 17 rfl rfl)
theorem dX4_rain_18 : decode cX4_rain 18 = .ok (.goto 4, 3) := dk_167 0 4 (dk_at dksX4_rain_0 18 rfl rfl)
theorem dX4_rain_21 : decode cX4_rain 21 = .ok (.iconst 0, 1) := dk_3 (dk_at dksX4_rain_0 21 rfl rfl)
theorem dX4_rain_22 : decode cX4_rain 22 = .ok (.iconst 1, 1) := dk_4 (dk_at dksX4_rain_0 22 rfl rfl)
theorem dX4_rain_23 : decode cX4_rain 23 = .ok (.invokevirtual 308, 3) := dk_182 1 52 (dk_at dksX4_rain_1 0 rfl rfl)
theorem dX4_rain_26 : decode cX4_rain 26 = .ok (.ifCond .eq 4, 3) := dk_153 0 4 (dk_at dksX4_rain_1 3 rfl rfl)
theorem dX4_rain_29 : decode cX4_rain 29 = .ok (.return_, 1) := dk_177 (dk_at dksX4_rain_1 6 rfl rfl)
theorem dX4_rain_30 : decode cX4_rain 30 = .ok (.aload_n 0, 1) := dk_42 (dk_at dksX4_rain_1 7 rfl rfl)
theorem dX4_rain_31 : decode cX4_rain 31 = .ok (.iload_n 1, 1) := dk_27 (dk_at dksX4_rain_1 8 rfl rfl)
theorem dX4_rain_32 : decode cX4_rain 32 = .ok (.putfield 363, 3) := dk_181 1 107 (dk_at dksX4_rain_1 9 rfl rfl)
theorem dX4_rain_35 : decode cX4_rain 35 = .ok (.return_, 1) := dk_177 (dk_at dksX4_rain_1 12 rfl rfl)
abbrev cX4_mend : ByteArray := prog_33_method_56_code
def yX4_mend : MethodName := ⟨RX4, "mend", "(I)I"⟩
def dkwX4_mend_7 : List UInt8 := [182, 1, 110, 132, 2, 1, 167, 255, 124, 27, 172]
abbrev dktX4_mend_7 : List UInt8 := dkwX4_mend_7 ++ []
def dkwX4_mend_6 : List UInt8 := [29, 92, 47, 42, 29, 182, 1, 143, 101, 80, 42, 16, 6, 29, 42, 180, 0, 63, 29, 46, 116, 133]
abbrev dktX4_mend_6 : List UInt8 := dkwX4_mend_6 ++ dktX4_mend_7
def dkwX4_mend_5 : List UInt8 := [155, 0, 18, 42, 180, 1, 117, 42, 180, 0, 63, 29, 46, 133, 148, 156, 0, 5, 28, 172, 42, 180, 0, 66]
abbrev dktX4_mend_5 : List UInt8 := dkwX4_mend_5 ++ dktX4_mend_6
def dkwX4_mend_4 : List UInt8 := [180, 0, 63, 21, 4, 46, 133, 105, 148, 158, 0, 6, 21, 4, 62, 132, 4, 1, 167, 255, 190, 29]
abbrev dktX4_mend_4 : List UInt8 := dkwX4_mend_4 ++ dktX4_mend_5
def dkwX4_mend_3 : List UInt8 := [155, 0, 35, 42, 21, 4, 182, 1, 143, 42, 180, 0, 63, 29, 46, 133, 105, 42, 29, 182, 1, 143, 42]
abbrev dktX4_mend_3 : List UInt8 := dkwX4_mend_3 ++ dktX4_mend_4
def dkwX4_mend_2 : List UInt8 := [180, 1, 62, 162, 0, 63, 42, 180, 0, 66, 21, 4, 47, 9, 148, 154, 0, 6, 167, 0, 42, 29]
abbrev dktX4_mend_2 : List UInt8 := dkwX4_mend_2 ++ dktX4_mend_3
def dkwX4_mend_1 : List UInt8 := [182, 1, 52, 153, 0, 5, 3, 172, 3, 61, 28, 27, 162, 0, 133, 2, 62, 3, 54, 4, 21, 4, 42]
abbrev dktX4_mend_1 : List UInt8 := dkwX4_mend_1 ++ dktX4_mend_2
def dkwX4_mend_0 : List UInt8 := [42, 3, 181, 0, 146, 42, 27, 155, 0, 9, 27, 16, 20, 164, 0, 7, 4, 167, 0, 4, 3, 4]
abbrev dktX4_mend_0 : List UInt8 := dkwX4_mend_0 ++ dktX4_mend_1
theorem dksX4_mend_0 : cX4_mend.data.toList.drop 0 = dktX4_mend_0 := by decide +kernel
theorem dksX4_mend_1 : cX4_mend.data.toList.drop 22 = dktX4_mend_1 := dk_seg dksX4_mend_0 22 rfl rfl
theorem dksX4_mend_2 : cX4_mend.data.toList.drop 45 = dktX4_mend_2 := dk_seg dksX4_mend_1 23 rfl rfl
theorem dksX4_mend_3 : cX4_mend.data.toList.drop 67 = dktX4_mend_3 := dk_seg dksX4_mend_2 22 rfl rfl
theorem dksX4_mend_4 : cX4_mend.data.toList.drop 90 = dktX4_mend_4 := dk_seg dksX4_mend_3 23 rfl rfl
theorem dksX4_mend_5 : cX4_mend.data.toList.drop 112 = dktX4_mend_5 := dk_seg dksX4_mend_4 22 rfl rfl
theorem dksX4_mend_6 : cX4_mend.data.toList.drop 136 = dktX4_mend_6 := dk_seg dksX4_mend_5 24 rfl rfl
theorem dksX4_mend_7 : cX4_mend.data.toList.drop 158 = dktX4_mend_7 := dk_seg dksX4_mend_6 22 rfl rfl
theorem dX4_mend_0 : decode cX4_mend 0 = .ok (.aload_n 0, 1) := dk_42 (dk_at dksX4_mend_0 0 rfl rfl)
theorem dX4_mend_1 : decode cX4_mend 1 = .ok (.iconst 0, 1) := dk_3 (dk_at dksX4_mend_0 1 rfl rfl)
theorem dX4_mend_2 : decode cX4_mend 2 = .ok (.putfield 146, 3) := dk_181 0 146 (dk_at dksX4_mend_0 2 rfl rfl)
theorem dX4_mend_5 : decode cX4_mend 5 = .ok (.aload_n 0, 1) := dk_42 (dk_at dksX4_mend_0 5 rfl rfl)
theorem dX4_mend_6 : decode cX4_mend 6 = .ok (.iload_n 1, 1) := dk_27 (dk_at dksX4_mend_0 6 rfl rfl)
theorem dX4_mend_7 : decode cX4_mend 7 = .ok (.ifCond .lt 9, 3) := dk_155 0 9 (dk_at dksX4_mend_0 7 rfl rfl)
theorem dX4_mend_10 : decode cX4_mend 10 = .ok (.iload_n 1, 1) := dk_27 (dk_at dksX4_mend_0 10 rfl rfl)
theorem dX4_mend_11 : decode cX4_mend 11 = .ok (.bipush 20, 2) := dk_16 20 (dk_at dksX4_mend_0 11 rfl rfl)
theorem dX4_mend_13 : decode cX4_mend 13 = .ok (.if_icmp .le 7, 3) := dk_164 0 7 (dk_at dksX4_mend_0 13 rfl rfl)
theorem dX4_mend_16 : decode cX4_mend 16 = .ok (.iconst 1, 1) := dk_4 (dk_at dksX4_mend_0 16 rfl rfl)
theorem dX4_mend_17 : decode cX4_mend 17 = .ok (.goto 4, 3) := dk_167 0 4 (dk_at dksX4_mend_0 17 rfl rfl)
theorem dX4_mend_20 : decode cX4_mend 20 = .ok (.iconst 0, 1) := dk_3 (dk_at dksX4_mend_0 20 rfl rfl)
theorem dX4_mend_21 : decode cX4_mend 21 = .ok (.iconst 1, 1) := dk_4 (dk_at dksX4_mend_0 21 rfl rfl)
theorem dX4_mend_22 : decode cX4_mend 22 = .ok (.invokevirtual 308, 3) := dk_182 1 52 (dk_at dksX4_mend_1 0 rfl rfl)
theorem dX4_mend_25 : decode cX4_mend 25 = .ok (.ifCond .eq 5, 3) := dk_153 0 5 (dk_at dksX4_mend_1 3 rfl rfl)
theorem dX4_mend_28 : decode cX4_mend 28 = .ok (.iconst 0, 1) := dk_3 (dk_at dksX4_mend_1 6 rfl rfl)
theorem dX4_mend_29 : decode cX4_mend 29 = .ok (.ireturn, 1) := dk_172 (dk_at dksX4_mend_1 7 rfl rfl)
theorem dX4_mend_30 : decode cX4_mend 30 = .ok (.iconst 0, 1) := dk_3 (dk_at dksX4_mend_1 8 rfl rfl)
theorem dX4_mend_31 : decode cX4_mend 31 = .ok (.istore_n 2, 1) := dk_61 (dk_at dksX4_mend_1 9 rfl rfl)
theorem dX4_mend_32 : decode cX4_mend 32 = .ok (.iload_n 2, 1) := dk_28 (dk_at dksX4_mend_1 10 rfl rfl)
theorem dX4_mend_33 : decode cX4_mend 33 = .ok (.iload_n 1, 1) := dk_27 (dk_at dksX4_mend_1 11 rfl rfl)
theorem dX4_mend_34 : decode cX4_mend 34 = .ok (.if_icmp .ge 133, 3) := dk_162 0 133 (dk_at dksX4_mend_1 12 rfl rfl)
theorem dX4_mend_37 : decode cX4_mend 37 = .ok (.iconst (-1), 1) := dk_2 (dk_at dksX4_mend_1 15 rfl rfl)
theorem dX4_mend_38 : decode cX4_mend 38 = .ok (.istore_n 3, 1) := dk_62 (dk_at dksX4_mend_1 16 rfl rfl)
theorem dX4_mend_39 : decode cX4_mend 39 = .ok (.iconst 0, 1) := dk_3 (dk_at dksX4_mend_1 17 rfl rfl)
theorem dX4_mend_40 : decode cX4_mend 40 = .ok (.istore 4, 2) := dk_54 4 (dk_at dksX4_mend_1 18 rfl rfl)
theorem dX4_mend_42 : decode cX4_mend 42 = .ok (.iload 4, 2) := dk_21 4 (dk_at dksX4_mend_1 20 rfl rfl)
theorem dX4_mend_44 : decode cX4_mend 44 = .ok (.aload_n 0, 1) := dk_42 (dk_at dksX4_mend_1 22 rfl rfl)
theorem dX4_mend_45 : decode cX4_mend 45 = .ok (.getfield 318, 3) := dk_180 1 62 (dk_at dksX4_mend_2 0 rfl rfl)
theorem dX4_mend_48 : decode cX4_mend 48 = .ok (.if_icmp .ge 63, 3) := dk_162 0 63 (dk_at dksX4_mend_2 3 rfl rfl)
theorem dX4_mend_51 : decode cX4_mend 51 = .ok (.aload_n 0, 1) := dk_42 (dk_at dksX4_mend_2 6 rfl rfl)
theorem dX4_mend_52 : decode cX4_mend 52 = .ok (.getfield 66, 3) := dk_180 0 66 (dk_at dksX4_mend_2 7 rfl rfl)
theorem dX4_mend_55 : decode cX4_mend 55 = .ok (.iload 4, 2) := dk_21 4 (dk_at dksX4_mend_2 10 rfl rfl)
theorem dX4_mend_57 : decode cX4_mend 57 = .ok (.laload, 1) := dk_47 (dk_at dksX4_mend_2 12 rfl rfl)
theorem dX4_mend_58 : decode cX4_mend 58 = .ok (.lconst 0, 1) := dk_9 (dk_at dksX4_mend_2 13 rfl rfl)
theorem dX4_mend_59 : decode cX4_mend 59 = .ok (.lcmp, 1) := dk_148 (dk_at dksX4_mend_2 14 rfl rfl)
theorem dX4_mend_60 : decode cX4_mend 60 = .ok (.ifCond .ne 6, 3) := dk_154 0 6 (dk_at dksX4_mend_2 15 rfl rfl)
theorem dX4_mend_63 : decode cX4_mend 63 = .ok (.goto 42, 3) := dk_167 0 42 (dk_at dksX4_mend_2 18 rfl rfl)
theorem dX4_mend_66 : decode cX4_mend 66 = .ok (.iload_n 3, 1) := dk_29 (dk_at dksX4_mend_2 21 rfl rfl)
theorem dX4_mend_67 : decode cX4_mend 67 = .ok (.ifCond .lt 35, 3) := dk_155 0 35 (dk_at dksX4_mend_3 0 rfl rfl)
theorem dX4_mend_70 : decode cX4_mend 70 = .ok (.aload_n 0, 1) := dk_42 (dk_at dksX4_mend_3 3 rfl rfl)
theorem dX4_mend_71 : decode cX4_mend 71 = .ok (.iload 4, 2) := dk_21 4 (dk_at dksX4_mend_3 4 rfl rfl)
theorem dX4_mend_73 : decode cX4_mend 73 = .ok (.invokevirtual 399, 3) := dk_182 1 143 (dk_at dksX4_mend_3 6 rfl rfl)
theorem dX4_mend_76 : decode cX4_mend 76 = .ok (.aload_n 0, 1) := dk_42 (dk_at dksX4_mend_3 9 rfl rfl)
theorem dX4_mend_77 : decode cX4_mend 77 = .ok (.getfield 63, 3) := dk_180 0 63 (dk_at dksX4_mend_3 10 rfl rfl)
theorem dX4_mend_80 : decode cX4_mend 80 = .ok (.iload_n 3, 1) := dk_29 (dk_at dksX4_mend_3 13 rfl rfl)
theorem dX4_mend_81 : decode cX4_mend 81 = .ok (.iaload, 1) := dk_46 (dk_at dksX4_mend_3 14 rfl rfl)
theorem dX4_mend_82 : decode cX4_mend 82 = .ok (.i2l, 1) := dk_133 (dk_at dksX4_mend_3 15 rfl rfl)
theorem dX4_mend_83 : decode cX4_mend 83 = .ok (.lmul, 1) := dk_105 (dk_at dksX4_mend_3 16 rfl rfl)
theorem dX4_mend_84 : decode cX4_mend 84 = .ok (.aload_n 0, 1) := dk_42 (dk_at dksX4_mend_3 17 rfl rfl)
theorem dX4_mend_85 : decode cX4_mend 85 = .ok (.iload_n 3, 1) := dk_29 (dk_at dksX4_mend_3 18 rfl rfl)
theorem dX4_mend_86 : decode cX4_mend 86 = .ok (.invokevirtual 399, 3) := dk_182 1 143 (dk_at dksX4_mend_3 19 rfl rfl)
theorem dX4_mend_89 : decode cX4_mend 89 = .ok (.aload_n 0, 1) := dk_42 (dk_at dksX4_mend_3 22 rfl rfl)
theorem dX4_mend_90 : decode cX4_mend 90 = .ok (.getfield 63, 3) := dk_180 0 63 (dk_at dksX4_mend_4 0 rfl rfl)
theorem dX4_mend_93 : decode cX4_mend 93 = .ok (.iload 4, 2) := dk_21 4 (dk_at dksX4_mend_4 3 rfl rfl)
theorem dX4_mend_95 : decode cX4_mend 95 = .ok (.iaload, 1) := dk_46 (dk_at dksX4_mend_4 5 rfl rfl)
theorem dX4_mend_96 : decode cX4_mend 96 = .ok (.i2l, 1) := dk_133 (dk_at dksX4_mend_4 6 rfl rfl)
theorem dX4_mend_97 : decode cX4_mend 97 = .ok (.lmul, 1) := dk_105 (dk_at dksX4_mend_4 7 rfl rfl)
theorem dX4_mend_98 : decode cX4_mend 98 = .ok (.lcmp, 1) := dk_148 (dk_at dksX4_mend_4 8 rfl rfl)
theorem dX4_mend_99 : decode cX4_mend 99 = .ok (.ifCond .le 6, 3) := dk_158 0 6 (dk_at dksX4_mend_4 9 rfl rfl)
theorem dX4_mend_102 : decode cX4_mend 102 = .ok (.iload 4, 2) := dk_21 4 (dk_at dksX4_mend_4 12 rfl rfl)
theorem dX4_mend_104 : decode cX4_mend 104 = .ok (.istore_n 3, 1) := dk_62 (dk_at dksX4_mend_4 14 rfl rfl)
theorem dX4_mend_105 : decode cX4_mend 105 = .ok (.iinc 4 1, 3) := dk_132 4 1 (dk_at dksX4_mend_4 15 rfl rfl)
theorem dX4_mend_108 : decode cX4_mend 108 = .ok (.goto (-66), 3) := dk_167 255 190 (dk_at dksX4_mend_4 18 rfl rfl)
theorem dX4_mend_111 : decode cX4_mend 111 = .ok (.iload_n 3, 1) := dk_29 (dk_at dksX4_mend_4 21 rfl rfl)
theorem dX4_mend_112 : decode cX4_mend 112 = .ok (.ifCond .lt 18, 3) := dk_155 0 18 (dk_at dksX4_mend_5 0 rfl rfl)
theorem dX4_mend_115 : decode cX4_mend 115 = .ok (.aload_n 0, 1) := dk_42 (dk_at dksX4_mend_5 3 rfl rfl)
theorem dX4_mend_116 : decode cX4_mend 116 = .ok (.getfield 373, 3) := dk_180 1 117 (dk_at dksX4_mend_5 4 rfl rfl)
theorem dX4_mend_119 : decode cX4_mend 119 = .ok (.aload_n 0, 1) := dk_42 (dk_at dksX4_mend_5 7 rfl rfl)
theorem dX4_mend_120 : decode cX4_mend 120 = .ok (.getfield 63, 3) := dk_180 0 63 (dk_at dksX4_mend_5 8 rfl rfl)
theorem dX4_mend_123 : decode cX4_mend 123 = .ok (.iload_n 3, 1) := dk_29 (dk_at dksX4_mend_5 11 rfl rfl)
theorem dX4_mend_124 : decode cX4_mend 124 = .ok (.iaload, 1) := dk_46 (dk_at dksX4_mend_5 12 rfl rfl)
theorem dX4_mend_125 : decode cX4_mend 125 = .ok (.i2l, 1) := dk_133 (dk_at dksX4_mend_5 13 rfl rfl)
theorem dX4_mend_126 : decode cX4_mend 126 = .ok (.lcmp, 1) := dk_148 (dk_at dksX4_mend_5 14 rfl rfl)
theorem dX4_mend_127 : decode cX4_mend 127 = .ok (.ifCond .ge 5, 3) := dk_156 0 5 (dk_at dksX4_mend_5 15 rfl rfl)
theorem dX4_mend_130 : decode cX4_mend 130 = .ok (.iload_n 2, 1) := dk_28 (dk_at dksX4_mend_5 18 rfl rfl)
theorem dX4_mend_131 : decode cX4_mend 131 = .ok (.ireturn, 1) := dk_172 (dk_at dksX4_mend_5 19 rfl rfl)
theorem dX4_mend_132 : decode cX4_mend 132 = .ok (.aload_n 0, 1) := dk_42 (dk_at dksX4_mend_5 20 rfl rfl)
theorem dX4_mend_133 : decode cX4_mend 133 = .ok (.getfield 66, 3) := dk_180 0 66 (dk_at dksX4_mend_5 21 rfl rfl)
theorem dX4_mend_136 : decode cX4_mend 136 = .ok (.iload_n 3, 1) := dk_29 (dk_at dksX4_mend_6 0 rfl rfl)
theorem dX4_mend_137 : decode cX4_mend 137 = .ok (.dup2, 1) := dk_92 (dk_at dksX4_mend_6 1 rfl rfl)
theorem dX4_mend_138 : decode cX4_mend 138 = .ok (.laload, 1) := dk_47 (dk_at dksX4_mend_6 2 rfl rfl)
theorem dX4_mend_139 : decode cX4_mend 139 = .ok (.aload_n 0, 1) := dk_42 (dk_at dksX4_mend_6 3 rfl rfl)
theorem dX4_mend_140 : decode cX4_mend 140 = .ok (.iload_n 3, 1) := dk_29 (dk_at dksX4_mend_6 4 rfl rfl)
theorem dX4_mend_141 : decode cX4_mend 141 = .ok (.invokevirtual 399, 3) := dk_182 1 143 (dk_at dksX4_mend_6 5 rfl rfl)
theorem dX4_mend_144 : decode cX4_mend 144 = .ok (.lsub, 1) := dk_101 (dk_at dksX4_mend_6 8 rfl rfl)
theorem dX4_mend_145 : decode cX4_mend 145 = .ok (.lastore, 1) := dk_80 (dk_at dksX4_mend_6 9 rfl rfl)
theorem dX4_mend_146 : decode cX4_mend 146 = .ok (.aload_n 0, 1) := dk_42 (dk_at dksX4_mend_6 10 rfl rfl)
theorem dX4_mend_147 : decode cX4_mend 147 = .ok (.bipush 6, 2) := dk_16 6 (dk_at dksX4_mend_6 11 rfl rfl)
theorem dX4_mend_149 : decode cX4_mend 149 = .ok (.iload_n 3, 1) := dk_29 (dk_at dksX4_mend_6 13 rfl rfl)
theorem dX4_mend_150 : decode cX4_mend 150 = .ok (.aload_n 0, 1) := dk_42 (dk_at dksX4_mend_6 14 rfl rfl)
theorem dX4_mend_151 : decode cX4_mend 151 = .ok (.getfield 63, 3) := dk_180 0 63 (dk_at dksX4_mend_6 15 rfl rfl)
theorem dX4_mend_154 : decode cX4_mend 154 = .ok (.iload_n 3, 1) := dk_29 (dk_at dksX4_mend_6 18 rfl rfl)
theorem dX4_mend_155 : decode cX4_mend 155 = .ok (.iaload, 1) := dk_46 (dk_at dksX4_mend_6 19 rfl rfl)
theorem dX4_mend_156 : decode cX4_mend 156 = .ok (.ineg, 1) := dk_116 (dk_at dksX4_mend_6 20 rfl rfl)
theorem dX4_mend_157 : decode cX4_mend 157 = .ok (.i2l, 1) := dk_133 (dk_at dksX4_mend_6 21 rfl rfl)
theorem dX4_mend_158 : decode cX4_mend 158 = .ok (.invokevirtual 366, 3) := dk_182 1 110 (dk_at dksX4_mend_7 0 rfl rfl)
theorem dX4_mend_161 : decode cX4_mend 161 = .ok (.iinc 2 1, 3) := dk_132 2 1 (dk_at dksX4_mend_7 3 rfl rfl)
theorem dX4_mend_164 : decode cX4_mend 164 = .ok (.goto (-132), 3) := dk_167 255 124 (dk_at dksX4_mend_7 6 rfl rfl)
theorem dX4_mend_167 : decode cX4_mend 167 = .ok (.iload_n 1, 1) := dk_27 (dk_at dksX4_mend_7 9 rfl rfl)
theorem dX4_mend_168 : decode cX4_mend 168 = .ok (.ireturn, 1) := dk_172 (dk_at dksX4_mend_7 10 rfl rfl)
abbrev cX4_takes : ByteArray := prog_33_method_57_code
def yX4_takes : MethodName := ⟨RX4, "takes", "(I)J"⟩
def dkwX4_takes_1 : List UInt8 := [20, 1, 147, 173]
abbrev dktX4_takes_1 : List UInt8 := dkwX4_takes_1 ++ []
def dkwX4_takes_0 : List UInt8 := [42, 180, 0, 66, 27, 47, 20, 1, 147, 148, 156, 0, 12, 42, 180, 0, 66, 27, 47, 167, 0, 6]
abbrev dktX4_takes_0 : List UInt8 := dkwX4_takes_0 ++ dktX4_takes_1
theorem dksX4_takes_0 : cX4_takes.data.toList.drop 0 = dktX4_takes_0 := by decide +kernel
theorem dksX4_takes_1 : cX4_takes.data.toList.drop 22 = dktX4_takes_1 := dk_seg dksX4_takes_0 22 rfl rfl
theorem dX4_takes_0 : decode cX4_takes 0 = .ok (.aload_n 0, 1) := dk_42 (dk_at dksX4_takes_0 0 rfl rfl)
theorem dX4_takes_1 : decode cX4_takes 1 = .ok (.getfield 66, 3) := dk_180 0 66 (dk_at dksX4_takes_0 1 rfl rfl)
theorem dX4_takes_4 : decode cX4_takes 4 = .ok (.iload_n 1, 1) := dk_27 (dk_at dksX4_takes_0 4 rfl rfl)
theorem dX4_takes_5 : decode cX4_takes 5 = .ok (.laload, 1) := dk_47 (dk_at dksX4_takes_0 5 rfl rfl)
theorem dX4_takes_6 : decode cX4_takes 6 = .ok (.ldc2_w 403, 3) := dk_20 1 147 (dk_at dksX4_takes_0 6 rfl rfl)
theorem dX4_takes_9 : decode cX4_takes 9 = .ok (.lcmp, 1) := dk_148 (dk_at dksX4_takes_0 9 rfl rfl)
theorem dX4_takes_10 : decode cX4_takes 10 = .ok (.ifCond .ge 12, 3) := dk_156 0 12 (dk_at dksX4_takes_0 10 rfl rfl)
theorem dX4_takes_13 : decode cX4_takes 13 = .ok (.aload_n 0, 1) := dk_42 (dk_at dksX4_takes_0 13 rfl rfl)
theorem dX4_takes_14 : decode cX4_takes 14 = .ok (.getfield 66, 3) := dk_180 0 66 (dk_at dksX4_takes_0 14 rfl rfl)
theorem dX4_takes_17 : decode cX4_takes 17 = .ok (.iload_n 1, 1) := dk_27 (dk_at dksX4_takes_0 17 rfl rfl)
theorem dX4_takes_18 : decode cX4_takes 18 = .ok (.laload, 1) := dk_47 (dk_at dksX4_takes_0 18 rfl rfl)
theorem dX4_takes_19 : decode cX4_takes 19 = .ok (.goto 6, 3) := dk_167 0 6 (dk_at dksX4_takes_0 19 rfl rfl)
theorem dX4_takes_22 : decode cX4_takes 22 = .ok (.ldc2_w 403, 3) := dk_20 1 147 (dk_at dksX4_takes_1 0 rfl rfl)
theorem dX4_takes_25 : decode cX4_takes 25 = .ok (.lreturn, 1) := dk_173 (dk_at dksX4_takes_1 3 rfl rfl)
abbrev cX4_money : ByteArray := prog_33_method_59_code
def yX4_money : MethodName := ⟨RX4, "money", "(I)J"⟩
def dkwX4_money_0 : List UInt8 := [42, 27, 42, 180, 1, 122, 182, 1, 149, 153, 0, 7, 9, 167, 0, 9, 42, 180, 0, 98, 27, 47, 173]
abbrev dktX4_money_0 : List UInt8 := dkwX4_money_0 ++ []
theorem dksX4_money_0 : cX4_money.data.toList.drop 0 = dktX4_money_0 := by decide +kernel
theorem dX4_money_0 : decode cX4_money 0 = .ok (.aload_n 0, 1) := dk_42 (dk_at dksX4_money_0 0 rfl rfl)
theorem dX4_money_1 : decode cX4_money 1 = .ok (.iload_n 1, 1) := dk_27 (dk_at dksX4_money_0 1 rfl rfl)
theorem dX4_money_2 : decode cX4_money 2 = .ok (.aload_n 0, 1) := dk_42 (dk_at dksX4_money_0 2 rfl rfl)
theorem dX4_money_3 : decode cX4_money 3 = .ok (.getfield 378, 3) := dk_180 1 122 (dk_at dksX4_money_0 3 rfl rfl)
theorem dX4_money_6 : decode cX4_money 6 = .ok (.invokevirtual 405, 3) := dk_182 1 149 (dk_at dksX4_money_0 6 rfl rfl)
theorem dX4_money_9 : decode cX4_money 9 = .ok (.ifCond .eq 7, 3) := dk_153 0 7 (dk_at dksX4_money_0 9 rfl rfl)
theorem dX4_money_12 : decode cX4_money 12 = .ok (.lconst 0, 1) := dk_9 (dk_at dksX4_money_0 12 rfl rfl)
theorem dX4_money_13 : decode cX4_money 13 = .ok (.goto 9, 3) := dk_167 0 9 (dk_at dksX4_money_0 13 rfl rfl)
theorem dX4_money_16 : decode cX4_money 16 = .ok (.aload_n 0, 1) := dk_42 (dk_at dksX4_money_0 16 rfl rfl)
theorem dX4_money_17 : decode cX4_money 17 = .ok (.getfield 98, 3) := dk_180 0 98 (dk_at dksX4_money_0 17 rfl rfl)
theorem dX4_money_20 : decode cX4_money 20 = .ok (.iload_n 1, 1) := dk_27 (dk_at dksX4_money_0 20 rfl rfl)
theorem dX4_money_21 : decode cX4_money 21 = .ok (.laload, 1) := dk_47 (dk_at dksX4_money_0 21 rfl rfl)
theorem dX4_money_22 : decode cX4_money 22 = .ok (.lreturn, 1) := dk_173 (dk_at dksX4_money_0 22 rfl rfl)
abbrev cX4_no : ByteArray := prog_33_method_58_code
def yX4_no : MethodName := ⟨RX4, "no", "(II)Z"⟩
def dkwX4_no_1 : List UInt8 := [158, 0, 7, 4, 167, 0, 4, 3, 172]
abbrev dktX4_no_1 : List UInt8 := dkwX4_no_1 ++ []
def dkwX4_no_0 : List UInt8 := [42, 27, 155, 0, 8, 27, 28, 161, 0, 7, 4, 167, 0, 4, 3, 181, 0, 146, 42, 180, 0, 146]
abbrev dktX4_no_0 : List UInt8 := dkwX4_no_0 ++ dktX4_no_1
theorem dksX4_no_0 : cX4_no.data.toList.drop 0 = dktX4_no_0 := by decide +kernel
theorem dksX4_no_1 : cX4_no.data.toList.drop 22 = dktX4_no_1 := dk_seg dksX4_no_0 22 rfl rfl
theorem dX4_no_0 : decode cX4_no 0 = .ok (.aload_n 0, 1) := dk_42 (dk_at dksX4_no_0 0 rfl rfl)
theorem dX4_no_1 : decode cX4_no 1 = .ok (.iload_n 1, 1) := dk_27 (dk_at dksX4_no_0 1 rfl rfl)
theorem dX4_no_2 : decode cX4_no 2 = .ok (.ifCond .lt 8, 3) := dk_155 0 8 (dk_at dksX4_no_0 2 rfl rfl)
theorem dX4_no_5 : decode cX4_no 5 = .ok (.iload_n 1, 1) := dk_27 (dk_at dksX4_no_0 5 rfl rfl)
theorem dX4_no_6 : decode cX4_no 6 = .ok (.iload_n 2, 1) := dk_28 (dk_at dksX4_no_0 6 rfl rfl)
theorem dX4_no_7 : decode cX4_no 7 = .ok (.if_icmp .lt 7, 3) := dk_161 0 7 (dk_at dksX4_no_0 7 rfl rfl)
theorem dX4_no_10 : decode cX4_no 10 = .ok (.iconst 1, 1) := dk_4 (dk_at dksX4_no_0 10 rfl rfl)
theorem dX4_no_11 : decode cX4_no 11 = .ok (.goto 4, 3) := dk_167 0 4 (dk_at dksX4_no_0 11 rfl rfl)
theorem dX4_no_14 : decode cX4_no 14 = .ok (.iconst 0, 1) := dk_3 (dk_at dksX4_no_0 14 rfl rfl)
theorem dX4_no_15 : decode cX4_no 15 = .ok (.putfield 146, 3) := dk_181 0 146 (dk_at dksX4_no_0 15 rfl rfl)
theorem dX4_no_18 : decode cX4_no 18 = .ok (.aload_n 0, 1) := dk_42 (dk_at dksX4_no_0 18 rfl rfl)
theorem dX4_no_19 : decode cX4_no 19 = .ok (.getfield 146, 3) := dk_180 0 146 (dk_at dksX4_no_0 19 rfl rfl)
theorem dX4_no_22 : decode cX4_no 22 = .ok (.ifCond .le 7, 3) := dk_158 0 7 (dk_at dksX4_no_1 0 rfl rfl)
theorem dX4_no_25 : decode cX4_no 25 = .ok (.iconst 1, 1) := dk_4 (dk_at dksX4_no_1 3 rfl rfl)
theorem dX4_no_26 : decode cX4_no 26 = .ok (.goto 4, 3) := dk_167 0 4 (dk_at dksX4_no_1 4 rfl rfl)
theorem dX4_no_29 : decode cX4_no 29 = .ok (.iconst 0, 1) := dk_3 (dk_at dksX4_no_1 7 rfl rfl)
theorem dX4_no_30 : decode cX4_no 30 = .ok (.ireturn, 1) := dk_172 (dk_at dksX4_no_1 8 rfl rfl)
abbrev cX4_wear : ByteArray := prog_33_method_60_code
def yX4_wear : MethodName := ⟨RX4, "wear", "(I)J"⟩
def dkwX4_wear_0 : List UInt8 := [42, 27, 42, 180, 1, 62, 182, 1, 149, 153, 0, 7, 9, 167, 0, 9, 42, 180, 0, 66, 27, 47, 173]
abbrev dktX4_wear_0 : List UInt8 := dkwX4_wear_0 ++ []
theorem dksX4_wear_0 : cX4_wear.data.toList.drop 0 = dktX4_wear_0 := by decide +kernel
theorem dX4_wear_0 : decode cX4_wear 0 = .ok (.aload_n 0, 1) := dk_42 (dk_at dksX4_wear_0 0 rfl rfl)
theorem dX4_wear_1 : decode cX4_wear 1 = .ok (.iload_n 1, 1) := dk_27 (dk_at dksX4_wear_0 1 rfl rfl)
theorem dX4_wear_2 : decode cX4_wear 2 = .ok (.aload_n 0, 1) := dk_42 (dk_at dksX4_wear_0 2 rfl rfl)
theorem dX4_wear_3 : decode cX4_wear 3 = .ok (.getfield 318, 3) := dk_180 1 62 (dk_at dksX4_wear_0 3 rfl rfl)
theorem dX4_wear_6 : decode cX4_wear 6 = .ok (.invokevirtual 405, 3) := dk_182 1 149 (dk_at dksX4_wear_0 6 rfl rfl)
theorem dX4_wear_9 : decode cX4_wear 9 = .ok (.ifCond .eq 7, 3) := dk_153 0 7 (dk_at dksX4_wear_0 9 rfl rfl)
theorem dX4_wear_12 : decode cX4_wear 12 = .ok (.lconst 0, 1) := dk_9 (dk_at dksX4_wear_0 12 rfl rfl)
theorem dX4_wear_13 : decode cX4_wear 13 = .ok (.goto 9, 3) := dk_167 0 9 (dk_at dksX4_wear_0 13 rfl rfl)
theorem dX4_wear_16 : decode cX4_wear 16 = .ok (.aload_n 0, 1) := dk_42 (dk_at dksX4_wear_0 16 rfl rfl)
theorem dX4_wear_17 : decode cX4_wear 17 = .ok (.getfield 66, 3) := dk_180 0 66 (dk_at dksX4_wear_0 17 rfl rfl)
theorem dX4_wear_20 : decode cX4_wear 20 = .ok (.iload_n 1, 1) := dk_27 (dk_at dksX4_wear_0 20 rfl rfl)
theorem dX4_wear_21 : decode cX4_wear 21 = .ok (.laload, 1) := dk_47 (dk_at dksX4_wear_0 21 rfl rfl)
theorem dX4_wear_22 : decode cX4_wear 22 = .ok (.lreturn, 1) := dk_173 (dk_at dksX4_wear_0 22 rfl rfl)
abbrev cX4_box : ByteArray := prog_33_method_61_code
def yX4_box : MethodName := ⟨RX4, "box", "(I)J"⟩
def dkwX4_box_3 : List UInt8 := [132, 4, 1, 167, 255, 218, 32, 173]
abbrev dktX4_box_3 : List UInt8 := dkwX4_box_3 ++ []
def dkwX4_box_2 : List UInt8 := [180, 0, 86, 21, 4, 46, 27, 163, 0, 14, 42, 180, 0, 95, 21, 4, 46, 133, 167, 0, 4, 9, 97, 65]
abbrev dktX4_box_2 : List UInt8 := dkwX4_box_2 ++ dktX4_box_3
def dkwX4_box_1 : List UInt8 := [182, 1, 52, 153, 0, 5, 9, 173, 9, 65, 3, 54, 4, 21, 4, 42, 180, 1, 114, 162, 0, 35, 32, 42]
abbrev dktX4_box_1 : List UInt8 := dkwX4_box_1 ++ dktX4_box_2
def dkwX4_box_0 : List UInt8 := [42, 3, 181, 0, 146, 42, 27, 155, 0, 10, 27, 17, 39, 15, 164, 0, 7, 4, 167, 0, 4, 3, 4]
abbrev dktX4_box_0 : List UInt8 := dkwX4_box_0 ++ dktX4_box_1
theorem dksX4_box_0 : cX4_box.data.toList.drop 0 = dktX4_box_0 := by decide +kernel
theorem dksX4_box_1 : cX4_box.data.toList.drop 23 = dktX4_box_1 := dk_seg dksX4_box_0 23 rfl rfl
theorem dksX4_box_2 : cX4_box.data.toList.drop 47 = dktX4_box_2 := dk_seg dksX4_box_1 24 rfl rfl
theorem dksX4_box_3 : cX4_box.data.toList.drop 71 = dktX4_box_3 := dk_seg dksX4_box_2 24 rfl rfl
theorem dX4_box_0 : decode cX4_box 0 = .ok (.aload_n 0, 1) := dk_42 (dk_at dksX4_box_0 0 rfl rfl)
theorem dX4_box_1 : decode cX4_box 1 = .ok (.iconst 0, 1) := dk_3 (dk_at dksX4_box_0 1 rfl rfl)
theorem dX4_box_2 : decode cX4_box 2 = .ok (.putfield 146, 3) := dk_181 0 146 (dk_at dksX4_box_0 2 rfl rfl)
theorem dX4_box_5 : decode cX4_box 5 = .ok (.aload_n 0, 1) := dk_42 (dk_at dksX4_box_0 5 rfl rfl)
theorem dX4_box_6 : decode cX4_box 6 = .ok (.iload_n 1, 1) := dk_27 (dk_at dksX4_box_0 6 rfl rfl)
theorem dX4_box_7 : decode cX4_box 7 = .ok (.ifCond .lt 10, 3) := dk_155 0 10 (dk_at dksX4_box_0 7 rfl rfl)
theorem dX4_box_10 : decode cX4_box 10 = .ok (.iload_n 1, 1) := dk_27 (dk_at dksX4_box_0 10 rfl rfl)
theorem dX4_box_11 : decode cX4_box 11 = .ok (.sipush 9999, 3) := dk_17 39 15 (dk_at dksX4_box_0 11 rfl rfl)
theorem dX4_box_14 : decode cX4_box 14 = .ok (.if_icmp .le 7, 3) := dk_164 0 7 (dk_at dksX4_box_0 14 rfl rfl)
theorem dX4_box_17 : decode cX4_box 17 = .ok (.iconst 1, 1) := dk_4 (dk_at dksX4_box_0 17 rfl rfl)
theorem dX4_box_18 : decode cX4_box 18 = .ok (.goto 4, 3) := dk_167 0 4 (dk_at dksX4_box_0 18 rfl rfl)
theorem dX4_box_21 : decode cX4_box 21 = .ok (.iconst 0, 1) := dk_3 (dk_at dksX4_box_0 21 rfl rfl)
theorem dX4_box_22 : decode cX4_box 22 = .ok (.iconst 1, 1) := dk_4 (dk_at dksX4_box_0 22 rfl rfl)
theorem dX4_box_23 : decode cX4_box 23 = .ok (.invokevirtual 308, 3) := dk_182 1 52 (dk_at dksX4_box_1 0 rfl rfl)
theorem dX4_box_26 : decode cX4_box 26 = .ok (.ifCond .eq 5, 3) := dk_153 0 5 (dk_at dksX4_box_1 3 rfl rfl)
theorem dX4_box_29 : decode cX4_box 29 = .ok (.lconst 0, 1) := dk_9 (dk_at dksX4_box_1 6 rfl rfl)
theorem dX4_box_30 : decode cX4_box 30 = .ok (.lreturn, 1) := dk_173 (dk_at dksX4_box_1 7 rfl rfl)
theorem dX4_box_31 : decode cX4_box 31 = .ok (.lconst 0, 1) := dk_9 (dk_at dksX4_box_1 8 rfl rfl)
theorem dX4_box_32 : decode cX4_box 32 = .ok (.lstore_n 2, 1) := dk_65 (dk_at dksX4_box_1 9 rfl rfl)
theorem dX4_box_33 : decode cX4_box 33 = .ok (.iconst 0, 1) := dk_3 (dk_at dksX4_box_1 10 rfl rfl)
theorem dX4_box_34 : decode cX4_box 34 = .ok (.istore 4, 2) := dk_54 4 (dk_at dksX4_box_1 11 rfl rfl)
theorem dX4_box_36 : decode cX4_box 36 = .ok (.iload 4, 2) := dk_21 4 (dk_at dksX4_box_1 13 rfl rfl)
theorem dX4_box_38 : decode cX4_box 38 = .ok (.aload_n 0, 1) := dk_42 (dk_at dksX4_box_1 15 rfl rfl)
theorem dX4_box_39 : decode cX4_box 39 = .ok (.getfield 370, 3) := dk_180 1 114 (dk_at dksX4_box_1 16 rfl rfl)
theorem dX4_box_42 : decode cX4_box 42 = .ok (.if_icmp .ge 35, 3) := dk_162 0 35 (dk_at dksX4_box_1 19 rfl rfl)
theorem dX4_box_45 : decode cX4_box 45 = .ok (.lload_n 2, 1) := dk_32 (dk_at dksX4_box_1 22 rfl rfl)
theorem dX4_box_46 : decode cX4_box 46 = .ok (.aload_n 0, 1) := dk_42 (dk_at dksX4_box_1 23 rfl rfl)
theorem dX4_box_47 : decode cX4_box 47 = .ok (.getfield 86, 3) := dk_180 0 86 (dk_at dksX4_box_2 0 rfl rfl)
theorem dX4_box_50 : decode cX4_box 50 = .ok (.iload 4, 2) := dk_21 4 (dk_at dksX4_box_2 3 rfl rfl)
theorem dX4_box_52 : decode cX4_box 52 = .ok (.iaload, 1) := dk_46 (dk_at dksX4_box_2 5 rfl rfl)
theorem dX4_box_53 : decode cX4_box 53 = .ok (.iload_n 1, 1) := dk_27 (dk_at dksX4_box_2 6 rfl rfl)
theorem dX4_box_54 : decode cX4_box 54 = .ok (.if_icmp .gt 14, 3) := dk_163 0 14 (dk_at dksX4_box_2 7 rfl rfl)
theorem dX4_box_57 : decode cX4_box 57 = .ok (.aload_n 0, 1) := dk_42 (dk_at dksX4_box_2 10 rfl rfl)
theorem dX4_box_58 : decode cX4_box 58 = .ok (.getfield 95, 3) := dk_180 0 95 (dk_at dksX4_box_2 11 rfl rfl)
theorem dX4_box_61 : decode cX4_box 61 = .ok (.iload 4, 2) := dk_21 4 (dk_at dksX4_box_2 14 rfl rfl)
theorem dX4_box_63 : decode cX4_box 63 = .ok (.iaload, 1) := dk_46 (dk_at dksX4_box_2 16 rfl rfl)
theorem dX4_box_64 : decode cX4_box 64 = .ok (.i2l, 1) := dk_133 (dk_at dksX4_box_2 17 rfl rfl)
theorem dX4_box_65 : decode cX4_box 65 = .ok (.goto 4, 3) := dk_167 0 4 (dk_at dksX4_box_2 18 rfl rfl)
theorem dX4_box_68 : decode cX4_box 68 = .ok (.lconst 0, 1) := dk_9 (dk_at dksX4_box_2 21 rfl rfl)
theorem dX4_box_69 : decode cX4_box 69 = .ok (.ladd, 1) := dk_97 (dk_at dksX4_box_2 22 rfl rfl)
theorem dX4_box_70 : decode cX4_box 70 = .ok (.lstore_n 2, 1) := dk_65 (dk_at dksX4_box_2 23 rfl rfl)
theorem dX4_box_71 : decode cX4_box 71 = .ok (.iinc 4 1, 3) := dk_132 4 1 (dk_at dksX4_box_3 0 rfl rfl)
theorem dX4_box_74 : decode cX4_box 74 = .ok (.goto (-38), 3) := dk_167 255 218 (dk_at dksX4_box_3 3 rfl rfl)
theorem dX4_box_77 : decode cX4_box 77 = .ok (.lload_n 2, 1) := dk_32 (dk_at dksX4_box_3 6 rfl rfl)
theorem dX4_box_78 : decode cX4_box 78 = .ok (.lreturn, 1) := dk_173 (dk_at dksX4_box_3 7 rfl rfl)
abbrev cX4_journal : ByteArray := prog_33_method_62_code
def yX4_journal : MethodName := ⟨RX4, "journal", "(II)J"⟩
def dkwX4_journal_3 : List UInt8 := [180, 0, 92, 27, 46, 133, 167, 0, 10, 42, 180, 0, 95, 27, 46, 133, 173]
abbrev dktX4_journal_3 : List UInt8 := dkwX4_journal_3 ++ []
def dkwX4_journal_2 : List UInt8 := [167, 0, 40, 28, 4, 160, 0, 13, 42, 180, 0, 89, 27, 46, 133, 167, 0, 25, 28, 5, 160, 0, 13, 42]
abbrev dktX4_journal_2 : List UInt8 := dkwX4_journal_2 ++ dktX4_journal_3
def dkwX4_journal_1 : List UInt8 := [167, 0, 4, 3, 5, 182, 1, 52, 153, 0, 5, 9, 173, 28, 154, 0, 13, 42, 180, 0, 86, 27, 46, 133]
abbrev dktX4_journal_1 : List UInt8 := dkwX4_journal_1 ++ dktX4_journal_2
def dkwX4_journal_0 : List UInt8 := [42, 27, 42, 180, 1, 114, 182, 1, 149, 154, 0, 25, 42, 28, 155, 0, 8, 28, 6, 164, 0, 7, 4]
abbrev dktX4_journal_0 : List UInt8 := dkwX4_journal_0 ++ dktX4_journal_1
theorem dksX4_journal_0 : cX4_journal.data.toList.drop 0 = dktX4_journal_0 := by decide +kernel
theorem dksX4_journal_1 : cX4_journal.data.toList.drop 23 = dktX4_journal_1 := dk_seg dksX4_journal_0 23 rfl rfl
theorem dksX4_journal_2 : cX4_journal.data.toList.drop 47 = dktX4_journal_2 := dk_seg dksX4_journal_1 24 rfl rfl
theorem dksX4_journal_3 : cX4_journal.data.toList.drop 71 = dktX4_journal_3 := dk_seg dksX4_journal_2 24 rfl rfl
theorem dX4_journal_0 : decode cX4_journal 0 = .ok (.aload_n 0, 1) := dk_42 (dk_at dksX4_journal_0 0 rfl rfl)
theorem dX4_journal_1 : decode cX4_journal 1 = .ok (.iload_n 1, 1) := dk_27 (dk_at dksX4_journal_0 1 rfl rfl)
theorem dX4_journal_2 : decode cX4_journal 2 = .ok (.aload_n 0, 1) := dk_42 (dk_at dksX4_journal_0 2 rfl rfl)
theorem dX4_journal_3 : decode cX4_journal 3 = .ok (.getfield 370, 3) := dk_180 1 114 (dk_at dksX4_journal_0 3 rfl rfl)
theorem dX4_journal_6 : decode cX4_journal 6 = .ok (.invokevirtual 405, 3) := dk_182 1 149 (dk_at dksX4_journal_0 6 rfl rfl)
theorem dX4_journal_9 : decode cX4_journal 9 = .ok (.ifCond .ne 25, 3) := dk_154 0 25 (dk_at dksX4_journal_0 9 rfl rfl)
theorem dX4_journal_12 : decode cX4_journal 12 = .ok (.aload_n 0, 1) := dk_42 (dk_at dksX4_journal_0 12 rfl rfl)
theorem dX4_journal_13 : decode cX4_journal 13 = .ok (.iload_n 2, 1) := dk_28 (dk_at dksX4_journal_0 13 rfl rfl)
theorem dX4_journal_14 : decode cX4_journal 14 = .ok (.ifCond .lt 8, 3) := dk_155 0 8 (dk_at dksX4_journal_0 14 rfl rfl)
theorem dX4_journal_17 : decode cX4_journal 17 = .ok (.iload_n 2, 1) := dk_28 (dk_at dksX4_journal_0 17 rfl rfl)
theorem dX4_journal_18 : decode cX4_journal 18 = .ok (.iconst 3, 1) := dk_6 (dk_at dksX4_journal_0 18 rfl rfl)
theorem dX4_journal_19 : decode cX4_journal 19 = .ok (.if_icmp .le 7, 3) := dk_164 0 7 (dk_at dksX4_journal_0 19 rfl rfl)
theorem dX4_journal_22 : decode cX4_journal 22 = .ok (.iconst 1, 1) := dk_4 (dk_at dksX4_journal_0 22 rfl rfl)
theorem dX4_journal_23 : decode cX4_journal 23 = .ok (.goto 4, 3) := dk_167 0 4 (dk_at dksX4_journal_1 0 rfl rfl)
theorem dX4_journal_26 : decode cX4_journal 26 = .ok (.iconst 0, 1) := dk_3 (dk_at dksX4_journal_1 3 rfl rfl)
theorem dX4_journal_27 : decode cX4_journal 27 = .ok (.iconst 2, 1) := dk_5 (dk_at dksX4_journal_1 4 rfl rfl)
theorem dX4_journal_28 : decode cX4_journal 28 = .ok (.invokevirtual 308, 3) := dk_182 1 52 (dk_at dksX4_journal_1 5 rfl rfl)
theorem dX4_journal_31 : decode cX4_journal 31 = .ok (.ifCond .eq 5, 3) := dk_153 0 5 (dk_at dksX4_journal_1 8 rfl rfl)
theorem dX4_journal_34 : decode cX4_journal 34 = .ok (.lconst 0, 1) := dk_9 (dk_at dksX4_journal_1 11 rfl rfl)
theorem dX4_journal_35 : decode cX4_journal 35 = .ok (.lreturn, 1) := dk_173 (dk_at dksX4_journal_1 12 rfl rfl)
theorem dX4_journal_36 : decode cX4_journal 36 = .ok (.iload_n 2, 1) := dk_28 (dk_at dksX4_journal_1 13 rfl rfl)
theorem dX4_journal_37 : decode cX4_journal 37 = .ok (.ifCond .ne 13, 3) := dk_154 0 13 (dk_at dksX4_journal_1 14 rfl rfl)
theorem dX4_journal_40 : decode cX4_journal 40 = .ok (.aload_n 0, 1) := dk_42 (dk_at dksX4_journal_1 17 rfl rfl)
theorem dX4_journal_41 : decode cX4_journal 41 = .ok (.getfield 86, 3) := dk_180 0 86 (dk_at dksX4_journal_1 18 rfl rfl)
theorem dX4_journal_44 : decode cX4_journal 44 = .ok (.iload_n 1, 1) := dk_27 (dk_at dksX4_journal_1 21 rfl rfl)
theorem dX4_journal_45 : decode cX4_journal 45 = .ok (.iaload, 1) := dk_46 (dk_at dksX4_journal_1 22 rfl rfl)
theorem dX4_journal_46 : decode cX4_journal 46 = .ok (.i2l, 1) := dk_133 (dk_at dksX4_journal_1 23 rfl rfl)
theorem dX4_journal_47 : decode cX4_journal 47 = .ok (.goto 40, 3) := dk_167 0 40 (dk_at dksX4_journal_2 0 rfl rfl)
theorem dX4_journal_50 : decode cX4_journal 50 = .ok (.iload_n 2, 1) := dk_28 (dk_at dksX4_journal_2 3 rfl rfl)
theorem dX4_journal_51 : decode cX4_journal 51 = .ok (.iconst 1, 1) := dk_4 (dk_at dksX4_journal_2 4 rfl rfl)
theorem dX4_journal_52 : decode cX4_journal 52 = .ok (.if_icmp .ne 13, 3) := dk_160 0 13 (dk_at dksX4_journal_2 5 rfl rfl)
theorem dX4_journal_55 : decode cX4_journal 55 = .ok (.aload_n 0, 1) := dk_42 (dk_at dksX4_journal_2 8 rfl rfl)
theorem dX4_journal_56 : decode cX4_journal 56 = .ok (.getfield 89, 3) := dk_180 0 89 (dk_at dksX4_journal_2 9 rfl rfl)
theorem dX4_journal_59 : decode cX4_journal 59 = .ok (.iload_n 1, 1) := dk_27 (dk_at dksX4_journal_2 12 rfl rfl)
theorem dX4_journal_60 : decode cX4_journal 60 = .ok (.iaload, 1) := dk_46 (dk_at dksX4_journal_2 13 rfl rfl)
theorem dX4_journal_61 : decode cX4_journal 61 = .ok (.i2l, 1) := dk_133 (dk_at dksX4_journal_2 14 rfl rfl)
theorem dX4_journal_62 : decode cX4_journal 62 = .ok (.goto 25, 3) := dk_167 0 25 (dk_at dksX4_journal_2 15 rfl rfl)
theorem dX4_journal_65 : decode cX4_journal 65 = .ok (.iload_n 2, 1) := dk_28 (dk_at dksX4_journal_2 18 rfl rfl)
theorem dX4_journal_66 : decode cX4_journal 66 = .ok (.iconst 2, 1) := dk_5 (dk_at dksX4_journal_2 19 rfl rfl)
theorem dX4_journal_67 : decode cX4_journal 67 = .ok (.if_icmp .ne 13, 3) := dk_160 0 13 (dk_at dksX4_journal_2 20 rfl rfl)
theorem dX4_journal_70 : decode cX4_journal 70 = .ok (.aload_n 0, 1) := dk_42 (dk_at dksX4_journal_2 23 rfl rfl)
theorem dX4_journal_71 : decode cX4_journal 71 = .ok (.getfield 92, 3) := dk_180 0 92 (dk_at dksX4_journal_3 0 rfl rfl)
theorem dX4_journal_74 : decode cX4_journal 74 = .ok (.iload_n 1, 1) := dk_27 (dk_at dksX4_journal_3 3 rfl rfl)
theorem dX4_journal_75 : decode cX4_journal 75 = .ok (.iaload, 1) := dk_46 (dk_at dksX4_journal_3 4 rfl rfl)
theorem dX4_journal_76 : decode cX4_journal 76 = .ok (.i2l, 1) := dk_133 (dk_at dksX4_journal_3 5 rfl rfl)
theorem dX4_journal_77 : decode cX4_journal 77 = .ok (.goto 10, 3) := dk_167 0 10 (dk_at dksX4_journal_3 6 rfl rfl)
theorem dX4_journal_80 : decode cX4_journal 80 = .ok (.aload_n 0, 1) := dk_42 (dk_at dksX4_journal_3 9 rfl rfl)
theorem dX4_journal_81 : decode cX4_journal 81 = .ok (.getfield 95, 3) := dk_180 0 95 (dk_at dksX4_journal_3 10 rfl rfl)
theorem dX4_journal_84 : decode cX4_journal 84 = .ok (.iload_n 1, 1) := dk_27 (dk_at dksX4_journal_3 13 rfl rfl)
theorem dX4_journal_85 : decode cX4_journal 85 = .ok (.iaload, 1) := dk_46 (dk_at dksX4_journal_3 14 rfl rfl)
theorem dX4_journal_86 : decode cX4_journal 86 = .ok (.i2l, 1) := dk_133 (dk_at dksX4_journal_3 15 rfl rfl)
theorem dX4_journal_87 : decode cX4_journal 87 = .ok (.lreturn, 1) := dk_173 (dk_at dksX4_journal_3 16 rfl rfl)
abbrev cX4_count : ByteArray := prog_33_method_63_code
def yX4_count : MethodName := ⟨RX4, "count", "(I)I"⟩
def dkwX4_count_4 : List UInt8 := [180, 1, 107, 172, 2, 172]
abbrev dktX4_count_4 : List UInt8 := dkwX4_count_4 ++ []
def dkwX4_count_3 : List UInt8 := [172, 42, 180, 1, 122, 172, 42, 180, 1, 132, 172, 42, 180, 1, 114, 172, 42, 180, 0, 149, 172, 42]
abbrev dktX4_count_3 : List UInt8 := dkwX4_count_3 ++ dktX4_count_4
def dkwX4_count_2 : List UInt8 := [42, 180, 1, 75, 172, 42, 180, 1, 33, 172, 42, 180, 1, 62, 172, 42, 180, 1, 65, 172, 42, 180, 1, 68]
abbrev dktX4_count_2 : List UInt8 := dkwX4_count_2 ++ dktX4_count_3
def dkwX4_count_1 : List UInt8 := [170, 0, 0, 0, 0, 104, 0, 0, 0, 0, 0, 0, 0, 9, 0, 0, 0, 54, 0, 0, 0, 59, 0, 0, 0, 64, 0, 0, 0, 69, 0, 0, 0, 74, 0, 0, 0, 79, 0, 0, 0, 84, 0, 0, 0, 89, 0, 0, 0, 94, 0, 0, 0, 99]
abbrev dktX4_count_1 : List UInt8 := dkwX4_count_1 ++ dktX4_count_2
def dkwX4_count_0 : List UInt8 := [42, 3, 181, 0, 146, 27]
abbrev dktX4_count_0 : List UInt8 := dkwX4_count_0 ++ dktX4_count_1
theorem dksX4_count_0 : cX4_count.data.toList.drop 0 = dktX4_count_0 := by decide +kernel
theorem dksX4_count_1 : cX4_count.data.toList.drop 6 = dktX4_count_1 := dk_seg dksX4_count_0 6 rfl rfl
theorem dksX4_count_2 : cX4_count.data.toList.drop 60 = dktX4_count_2 := dk_seg dksX4_count_1 54 rfl rfl
theorem dksX4_count_3 : cX4_count.data.toList.drop 84 = dktX4_count_3 := dk_seg dksX4_count_2 24 rfl rfl
theorem dksX4_count_4 : cX4_count.data.toList.drop 106 = dktX4_count_4 := dk_seg dksX4_count_3 22 rfl rfl
theorem dX4_count_0 : decode cX4_count 0 = .ok (.aload_n 0, 1) := dk_42 (dk_at dksX4_count_0 0 rfl rfl)
theorem dX4_count_1 : decode cX4_count 1 = .ok (.iconst 0, 1) := dk_3 (dk_at dksX4_count_0 1 rfl rfl)
theorem dX4_count_2 : decode cX4_count 2 = .ok (.putfield 146, 3) := dk_181 0 146 (dk_at dksX4_count_0 2 rfl rfl)
theorem dX4_count_5 : decode cX4_count 5 = .ok (.iload_n 1, 1) := dk_27 (dk_at dksX4_count_0 5 rfl rfl)
theorem dX4_count_6 : decode cX4_count 6 = .ok (.tableswitch 104 0 9 #[54, 59, 64, 69, 74, 79, 84, 89, 94, 99], 54) := by decide +kernel
theorem dX4_count_60 : decode cX4_count 60 = .ok (.aload_n 0, 1) := dk_42 (dk_at dksX4_count_2 0 rfl rfl)
theorem dX4_count_61 : decode cX4_count 61 = .ok (.getfield 331, 3) := dk_180 1 75 (dk_at dksX4_count_2 1 rfl rfl)
theorem dX4_count_64 : decode cX4_count 64 = .ok (.ireturn, 1) := dk_172 (dk_at dksX4_count_2 4 rfl rfl)
theorem dX4_count_65 : decode cX4_count 65 = .ok (.aload_n 0, 1) := dk_42 (dk_at dksX4_count_2 5 rfl rfl)
theorem dX4_count_66 : decode cX4_count 66 = .ok (.getfield 289, 3) := dk_180 1 33 (dk_at dksX4_count_2 6 rfl rfl)
theorem dX4_count_69 : decode cX4_count 69 = .ok (.ireturn, 1) := dk_172 (dk_at dksX4_count_2 9 rfl rfl)
theorem dX4_count_70 : decode cX4_count 70 = .ok (.aload_n 0, 1) := dk_42 (dk_at dksX4_count_2 10 rfl rfl)
theorem dX4_count_71 : decode cX4_count 71 = .ok (.getfield 318, 3) := dk_180 1 62 (dk_at dksX4_count_2 11 rfl rfl)
theorem dX4_count_74 : decode cX4_count 74 = .ok (.ireturn, 1) := dk_172 (dk_at dksX4_count_2 14 rfl rfl)
theorem dX4_count_75 : decode cX4_count 75 = .ok (.aload_n 0, 1) := dk_42 (dk_at dksX4_count_2 15 rfl rfl)
theorem dX4_count_76 : decode cX4_count 76 = .ok (.getfield 321, 3) := dk_180 1 65 (dk_at dksX4_count_2 16 rfl rfl)
theorem dX4_count_79 : decode cX4_count 79 = .ok (.ireturn, 1) := dk_172 (dk_at dksX4_count_2 19 rfl rfl)
theorem dX4_count_80 : decode cX4_count 80 = .ok (.aload_n 0, 1) := dk_42 (dk_at dksX4_count_2 20 rfl rfl)
theorem dX4_count_81 : decode cX4_count 81 = .ok (.getfield 324, 3) := dk_180 1 68 (dk_at dksX4_count_2 21 rfl rfl)
theorem dX4_count_84 : decode cX4_count 84 = .ok (.ireturn, 1) := dk_172 (dk_at dksX4_count_3 0 rfl rfl)
theorem dX4_count_85 : decode cX4_count 85 = .ok (.aload_n 0, 1) := dk_42 (dk_at dksX4_count_3 1 rfl rfl)
theorem dX4_count_86 : decode cX4_count 86 = .ok (.getfield 378, 3) := dk_180 1 122 (dk_at dksX4_count_3 2 rfl rfl)
theorem dX4_count_89 : decode cX4_count 89 = .ok (.ireturn, 1) := dk_172 (dk_at dksX4_count_3 5 rfl rfl)
theorem dX4_count_90 : decode cX4_count 90 = .ok (.aload_n 0, 1) := dk_42 (dk_at dksX4_count_3 6 rfl rfl)
theorem dX4_count_91 : decode cX4_count 91 = .ok (.getfield 388, 3) := dk_180 1 132 (dk_at dksX4_count_3 7 rfl rfl)
theorem dX4_count_94 : decode cX4_count 94 = .ok (.ireturn, 1) := dk_172 (dk_at dksX4_count_3 10 rfl rfl)
theorem dX4_count_95 : decode cX4_count 95 = .ok (.aload_n 0, 1) := dk_42 (dk_at dksX4_count_3 11 rfl rfl)
theorem dX4_count_96 : decode cX4_count 96 = .ok (.getfield 370, 3) := dk_180 1 114 (dk_at dksX4_count_3 12 rfl rfl)
theorem dX4_count_99 : decode cX4_count 99 = .ok (.ireturn, 1) := dk_172 (dk_at dksX4_count_3 15 rfl rfl)
theorem dX4_count_100 : decode cX4_count 100 = .ok (.aload_n 0, 1) := dk_42 (dk_at dksX4_count_3 16 rfl rfl)
theorem dX4_count_101 : decode cX4_count 101 = .ok (.getfield 149, 3) := dk_180 0 149 (dk_at dksX4_count_3 17 rfl rfl)
theorem dX4_count_104 : decode cX4_count 104 = .ok (.ireturn, 1) := dk_172 (dk_at dksX4_count_3 20 rfl rfl)
theorem dX4_count_105 : decode cX4_count 105 = .ok (.aload_n 0, 1) := dk_42 (dk_at dksX4_count_3 21 rfl rfl)
theorem dX4_count_106 : decode cX4_count 106 = .ok (.getfield 363, 3) := dk_180 1 107 (dk_at dksX4_count_4 0 rfl rfl)
theorem dX4_count_109 : decode cX4_count 109 = .ok (.ireturn, 1) := dk_172 (dk_at dksX4_count_4 3 rfl rfl)
theorem dX4_count_110 : decode cX4_count 110 = .ok (.iconst (-1), 1) := dk_2 (dk_at dksX4_count_4 4 rfl rfl)
theorem dX4_count_111 : decode cX4_count 111 = .ok (.ireturn, 1) := dk_172 (dk_at dksX4_count_4 5 rfl rfl)
theorem q85 : (Jvm.Cond.initialized "TurnpikeTrustModel") ∈ lw_all := lw_g (lw_at lw_m1 23 rfl) rfl
theorem q1176 : (Jvm.Cond.selects "TurnpikeTrustModel" ({ cls := "java/lang/Object", name := "getClass", desc := "()Ljava/lang/Class;" } : Jvm.MethodName) ({ cls := "java/lang/Object", name := "getClass", desc := "()Ljava/lang/Class;" } : Jvm.MethodName)) ∈ lw_all := lw_g (lw_at lw_m5 154 rfl) rfl
theorem q1747 : (Jvm.Cond.instantiable "TurnpikeTrustModel" (62 : Nat)) ∈ lw_all := lw_g (lw_at lw_m8 5 rfl) rfl
theorem q1749 : (Jvm.Cond.instanceMethod ({ cls := "TurnpikeTrustModel", name := "<init>", desc := "()V" } : Jvm.MethodName)) ∈ lw_all := lw_g (lw_at lw_m8 7 rfl) rfl
theorem q1750 : (Jvm.Cond.code ({ cls := "TurnpikeTrustModel", name := "<init>", desc := "()V" } : Jvm.MethodName) prog_33_method_1_code (1 : Nat) (Option.none : Option Jvm.ClassFile.FieldType)) ∈ lw_all := lw_g (lw_at lw_m8 8 rfl) rfl
theorem q1751 : (Jvm.Cond.methodLink "TurnpikeTrustModel" (1 : Nat) ({ cls := "java/lang/Object", name := "<init>", desc := "()V" } : Jvm.MethodName)) ∈ lw_all := lw_g (lw_at lw_m8 9 rfl) rfl
theorem q1752 : (Jvm.Cond.fieldLink "TurnpikeTrustModel" (146 : Nat) "TurnpikeTrustModel" "thrown" "I") ∈ lw_all := lw_g (lw_at lw_m8 10 rfl) rfl
theorem q1753 : (Jvm.Cond.fieldLink "TurnpikeTrustModel" (7 : Nat) "TurnpikeTrustModel" "tape" "[B") ∈ lw_all := lw_g (lw_at lw_m8 11 rfl) rfl
theorem q1754 : (Jvm.Cond.fieldLink "TurnpikeTrustModel" (149 : Nat) "TurnpikeTrustModel" "taped" "I") ∈ lw_all := lw_g (lw_at lw_m8 12 rfl) rfl
theorem q1755 : (Jvm.Cond.fieldLink "TurnpikeTrustModel" (152 : Nat) "TurnpikeTrustModel" "size" "I") ∈ lw_all := lw_g (lw_at lw_m8 13 rfl) rfl
theorem q1756 : (Jvm.Cond.fieldLink "TurnpikeTrustModel" (155 : Nat) "TurnpikeTrustModel" "at" "I") ∈ lw_all := lw_g (lw_at lw_m8 14 rfl) rfl
theorem q1757 : (Jvm.Cond.fieldLink "TurnpikeTrustModel" (162 : Nat) "TurnpikeTrustModel" "fault" "I") ∈ lw_all := lw_g (lw_at lw_m8 15 rfl) rfl
theorem q1758 : (Jvm.Cond.fieldLink "TurnpikeTrustModel" (13 : Nat) "TurnpikeTrustModel" "place" "I") ∈ lw_all := lw_g (lw_at lw_m8 16 rfl) rfl
theorem q1759 : (Jvm.Cond.fieldLink "TurnpikeTrustModel" (228 : Nat) "TurnpikeTrustModel" "open" "I") ∈ lw_all := lw_g (lw_at lw_m8 17 rfl) rfl
theorem q1760 : (Jvm.Cond.fieldLink "TurnpikeTrustModel" (17 : Nat) "TurnpikeTrustModel" "clauses" "[I") ∈ lw_all := lw_g (lw_at lw_m8 18 rfl) rfl
theorem q1761 : (Jvm.Cond.fieldLink "TurnpikeTrustModel" (21 : Nat) "TurnpikeTrustModel" "since" "[I") ∈ lw_all := lw_g (lw_at lw_m8 19 rfl) rfl
theorem q1762 : (Jvm.Cond.fieldLink "TurnpikeTrustModel" (24 : Nat) "TurnpikeTrustModel" "sort" "[I") ∈ lw_all := lw_g (lw_at lw_m8 20 rfl) rfl
theorem q1763 : (Jvm.Cond.fieldLink "TurnpikeTrustModel" (27 : Nat) "TurnpikeTrustModel" "first" "[I") ∈ lw_all := lw_g (lw_at lw_m8 21 rfl) rfl
theorem q1764 : (Jvm.Cond.fieldLink "TurnpikeTrustModel" (30 : Nat) "TurnpikeTrustModel" "second" "[I") ∈ lw_all := lw_g (lw_at lw_m8 22 rfl) rfl
theorem q1765 : (Jvm.Cond.fieldLink "TurnpikeTrustModel" (33 : Nat) "TurnpikeTrustModel" "codeFrom" "[I") ∈ lw_all := lw_g (lw_at lw_m8 23 rfl) rfl
theorem q1766 : (Jvm.Cond.fieldLink "TurnpikeTrustModel" (36 : Nat) "TurnpikeTrustModel" "codeTo" "[I") ∈ lw_all := lw_g (lw_at lw_m8 24 rfl) rfl
theorem q1767 : (Jvm.Cond.fieldLink "TurnpikeTrustModel" (39 : Nat) "TurnpikeTrustModel" "code" "[I") ∈ lw_all := lw_g (lw_at lw_m8 25 rfl) rfl
theorem q1768 : (Jvm.Cond.fieldLink "TurnpikeTrustModel" (42 : Nat) "TurnpikeTrustModel" "codeNumber" "[I") ∈ lw_all := lw_g (lw_at lw_m8 26 rfl) rfl
theorem q1769 : (Jvm.Cond.fieldLink "TurnpikeTrustModel" (204 : Nat) "TurnpikeTrustModel" "codes" "I") ∈ lw_all := lw_g (lw_at lw_m8 27 rfl) rfl
theorem q1770 : (Jvm.Cond.fieldLink "TurnpikeTrustModel" (289 : Nat) "TurnpikeTrustModel" "acts" "I") ∈ lw_all := lw_g (lw_at lw_m8 28 rfl) rfl
theorem q1771 : (Jvm.Cond.fieldLink "TurnpikeTrustModel" (45 : Nat) "TurnpikeTrustModel" "kinds" "[I") ∈ lw_all := lw_g (lw_at lw_m8 29 rfl) rfl
theorem q1772 : (Jvm.Cond.fieldLink "TurnpikeTrustModel" (48 : Nat) "TurnpikeTrustModel" "wheels" "[I") ∈ lw_all := lw_g (lw_at lw_m8 30 rfl) rfl
theorem q1773 : (Jvm.Cond.fieldLink "TurnpikeTrustModel" (51 : Nat) "TurnpikeTrustModel" "beasts" "[I") ∈ lw_all := lw_g (lw_at lw_m8 31 rfl) rfl
theorem q1774 : (Jvm.Cond.fieldLink "TurnpikeTrustModel" (54 : Nat) "TurnpikeTrustModel" "bits" "[I") ∈ lw_all := lw_g (lw_at lw_m8 32 rfl) rfl
theorem q1775 : (Jvm.Cond.fieldLink "TurnpikeTrustModel" (57 : Nat) "TurnpikeTrustModel" "passedOn" "[I") ∈ lw_all := lw_g (lw_at lw_m8 33 rfl) rfl
theorem q1776 : (Jvm.Cond.fieldLink "TurnpikeTrustModel" (60 : Nat) "TurnpikeTrustModel" "paidOn" "[I") ∈ lw_all := lw_g (lw_at lw_m8 34 rfl) rfl
theorem q1777 : (Jvm.Cond.fieldLink "TurnpikeTrustModel" (324 : Nat) "TurnpikeTrustModel" "travellers" "I") ∈ lw_all := lw_g (lw_at lw_m8 35 rfl) rfl
theorem q1778 : (Jvm.Cond.fieldLink "TurnpikeTrustModel" (63 : Nat) "TurnpikeTrustModel" "prices" "[I") ∈ lw_all := lw_g (lw_at lw_m8 36 rfl) rfl
theorem q1779 : (Jvm.Cond.fieldLink "TurnpikeTrustModel" (66 : Nat) "TurnpikeTrustModel" "wears" "[J") ∈ lw_all := lw_g (lw_at lw_m8 37 rfl) rfl
theorem q1780 : (Jvm.Cond.fieldLink "TurnpikeTrustModel" (318 : Nat) "TurnpikeTrustModel" "stretches" "I") ∈ lw_all := lw_g (lw_at lw_m8 38 rfl) rfl
theorem q1781 : (Jvm.Cond.fieldLink "TurnpikeTrustModel" (70 : Nat) "TurnpikeTrustModel" "onStretch" "[I") ∈ lw_all := lw_g (lw_at lw_m8 39 rfl) rfl
theorem q1782 : (Jvm.Cond.fieldLink "TurnpikeTrustModel" (73 : Nat) "TurnpikeTrustModel" "passes" "[I") ∈ lw_all := lw_g (lw_at lw_m8 40 rfl) rfl
theorem q1783 : (Jvm.Cond.fieldLink "TurnpikeTrustModel" (321 : Nat) "TurnpikeTrustModel" "gates" "I") ∈ lw_all := lw_g (lw_at lw_m8 41 rfl) rfl
theorem q1784 : (Jvm.Cond.fieldLink "TurnpikeTrustModel" (331 : Nat) "TurnpikeTrustModel" "today" "I") ∈ lw_all := lw_g (lw_at lw_m8 42 rfl) rfl
theorem q1785 : (Jvm.Cond.fieldLink "TurnpikeTrustModel" (363 : Nat) "TurnpikeTrustModel" "rains" "I") ∈ lw_all := lw_g (lw_at lw_m8 43 rfl) rfl
theorem q1786 : (Jvm.Cond.fieldLink "TurnpikeTrustModel" (76 : Nat) "TurnpikeTrustModel" "pile" "[Z") ∈ lw_all := lw_g (lw_at lw_m8 44 rfl) rfl
theorem q1787 : (Jvm.Cond.fieldLink "TurnpikeTrustModel" (338 : Nat) "TurnpikeTrustModel" "by" "I") ∈ lw_all := lw_g (lw_at lw_m8 45 rfl) rfl
theorem q1788 : (Jvm.Cond.fieldLink "TurnpikeTrustModel" (80 : Nat) "TurnpikeTrustModel" "keptTimes" "[I") ∈ lw_all := lw_g (lw_at lw_m8 46 rfl) rfl
theorem q1789 : (Jvm.Cond.fieldLink "TurnpikeTrustModel" (83 : Nat) "TurnpikeTrustModel" "lastBy" "I") ∈ lw_all := lw_g (lw_at lw_m8 47 rfl) rfl
theorem q1790 : (Jvm.Cond.fieldLink "TurnpikeTrustModel" (86 : Nat) "TurnpikeTrustModel" "lineDay" "[I") ∈ lw_all := lw_g (lw_at lw_m8 48 rfl) rfl
theorem q1791 : (Jvm.Cond.fieldLink "TurnpikeTrustModel" (89 : Nat) "TurnpikeTrustModel" "lineKind" "[I") ∈ lw_all := lw_g (lw_at lw_m8 49 rfl) rfl
theorem q1792 : (Jvm.Cond.fieldLink "TurnpikeTrustModel" (92 : Nat) "TurnpikeTrustModel" "lineWho" "[I") ∈ lw_all := lw_g (lw_at lw_m8 50 rfl) rfl
theorem q1793 : (Jvm.Cond.fieldLink "TurnpikeTrustModel" (95 : Nat) "TurnpikeTrustModel" "lineSum" "[I") ∈ lw_all := lw_g (lw_at lw_m8 51 rfl) rfl
theorem q1794 : (Jvm.Cond.fieldLink "TurnpikeTrustModel" (370 : Nat) "TurnpikeTrustModel" "lines" "I") ∈ lw_all := lw_g (lw_at lw_m8 52 rfl) rfl
theorem q1795 : (Jvm.Cond.fieldLink "TurnpikeTrustModel" (373 : Nat) "TurnpikeTrustModel" "box" "J") ∈ lw_all := lw_g (lw_at lw_m8 53 rfl) rfl
theorem q1796 : (Jvm.Cond.fieldLink "TurnpikeTrustModel" (98 : Nat) "TurnpikeTrustModel" "money" "[J") ∈ lw_all := lw_g (lw_at lw_m8 54 rfl) rfl
theorem q1797 : (Jvm.Cond.fieldLink "TurnpikeTrustModel" (378 : Nat) "TurnpikeTrustModel" "farmers" "I") ∈ lw_all := lw_g (lw_at lw_m8 55 rfl) rfl
theorem q1798 : (Jvm.Cond.fieldLink "TurnpikeTrustModel" (101 : Nat) "TurnpikeTrustModel" "bids" "[I") ∈ lw_all := lw_g (lw_at lw_m8 56 rfl) rfl
theorem q1799 : (Jvm.Cond.fieldLink "TurnpikeTrustModel" (104 : Nat) "TurnpikeTrustModel" "bidFarmer" "[I") ∈ lw_all := lw_g (lw_at lw_m8 57 rfl) rfl
theorem q1800 : (Jvm.Cond.fieldLink "TurnpikeTrustModel" (107 : Nat) "TurnpikeTrustModel" "bidRent" "[I") ∈ lw_all := lw_g (lw_at lw_m8 58 rfl) rfl
theorem q1801 : (Jvm.Cond.fieldLink "TurnpikeTrustModel" (110 : Nat) "TurnpikeTrustModel" "bidSurety" "[I") ∈ lw_all := lw_g (lw_at lw_m8 59 rfl) rfl
theorem q1802 : (Jvm.Cond.fieldLink "TurnpikeTrustModel" (113 : Nat) "TurnpikeTrustModel" "leased" "[I") ∈ lw_all := lw_g (lw_at lw_m8 60 rfl) rfl
theorem q1803 : (Jvm.Cond.fieldLink "TurnpikeTrustModel" (116 : Nat) "TurnpikeTrustModel" "rent" "[I") ∈ lw_all := lw_g (lw_at lw_m8 61 rfl) rfl
theorem q1804 : (Jvm.Cond.fieldLink "TurnpikeTrustModel" (119 : Nat) "TurnpikeTrustModel" "surety" "[I") ∈ lw_all := lw_g (lw_at lw_m8 62 rfl) rfl
theorem q1805 : (Jvm.Cond.fieldLink "TurnpikeTrustModel" (122 : Nat) "TurnpikeTrustModel" "due" "[I") ∈ lw_all := lw_g (lw_at lw_m8 63 rfl) rfl
theorem q1806 : (Jvm.Cond.fieldLink "TurnpikeTrustModel" (125 : Nat) "TurnpikeTrustModel" "left" "[I") ∈ lw_all := lw_g (lw_at lw_m8 64 rfl) rfl
theorem q1807 : (Jvm.Cond.fieldLink "TurnpikeTrustModel" (128 : Nat) "TurnpikeTrustModel" "sums" "[I") ∈ lw_all := lw_g (lw_at lw_m8 65 rfl) rfl
theorem q1808 : (Jvm.Cond.fieldLink "TurnpikeTrustModel" (131 : Nat) "TurnpikeTrustModel" "rates" "[I") ∈ lw_all := lw_g (lw_at lw_m8 66 rfl) rfl
theorem q1809 : (Jvm.Cond.fieldLink "TurnpikeTrustModel" (134 : Nat) "TurnpikeTrustModel" "ranks" "[I") ∈ lw_all := lw_g (lw_at lw_m8 67 rfl) rfl
theorem q1810 : (Jvm.Cond.fieldLink "TurnpikeTrustModel" (137 : Nat) "TurnpikeTrustModel" "dues" "[J") ∈ lw_all := lw_g (lw_at lw_m8 68 rfl) rfl
theorem q1811 : (Jvm.Cond.fieldLink "TurnpikeTrustModel" (140 : Nat) "TurnpikeTrustModel" "gets" "[J") ∈ lw_all := lw_g (lw_at lw_m8 69 rfl) rfl
theorem q1812 : (Jvm.Cond.fieldLink "TurnpikeTrustModel" (143 : Nat) "TurnpikeTrustModel" "rests" "[J") ∈ lw_all := lw_g (lw_at lw_m8 70 rfl) rfl
theorem q1813 : (Jvm.Cond.fieldLink "TurnpikeTrustModel" (388 : Nat) "TurnpikeTrustModel" "loans" "I") ∈ lw_all := lw_g (lw_at lw_m8 71 rfl) rfl
theorem q1814 : (Jvm.Cond.lays "TurnpikeTrustModel" "TurnpikeTrustModel" "thrown" "I") ∈ lw_all := lw_g (lw_at lw_m8 72 rfl) rfl
theorem q1815 : (Jvm.Cond.soleField "TurnpikeTrustModel" "thrown") ∈ lw_all := lw_g (lw_at lw_m8 73 rfl) rfl
theorem q1816 : (Jvm.Cond.laysFinal "TurnpikeTrustModel" "TurnpikeTrustModel" "tape" "[B") ∈ lw_all := lw_g (lw_at lw_m8 74 rfl) rfl
theorem q1817 : (Jvm.Cond.soleField "TurnpikeTrustModel" "tape") ∈ lw_all := lw_g (lw_at lw_m8 75 rfl) rfl
theorem q1818 : (Jvm.Cond.lays "TurnpikeTrustModel" "TurnpikeTrustModel" "taped" "I") ∈ lw_all := lw_g (lw_at lw_m8 76 rfl) rfl
theorem q1819 : (Jvm.Cond.soleField "TurnpikeTrustModel" "taped") ∈ lw_all := lw_g (lw_at lw_m8 77 rfl) rfl
theorem q1820 : (Jvm.Cond.lays "TurnpikeTrustModel" "TurnpikeTrustModel" "size" "I") ∈ lw_all := lw_g (lw_at lw_m8 78 rfl) rfl
theorem q1821 : (Jvm.Cond.soleField "TurnpikeTrustModel" "size") ∈ lw_all := lw_g (lw_at lw_m8 79 rfl) rfl
theorem q1822 : (Jvm.Cond.lays "TurnpikeTrustModel" "TurnpikeTrustModel" "at" "I") ∈ lw_all := lw_g (lw_at lw_m8 80 rfl) rfl
theorem q1823 : (Jvm.Cond.soleField "TurnpikeTrustModel" "at") ∈ lw_all := lw_g (lw_at lw_m8 81 rfl) rfl
theorem q1824 : (Jvm.Cond.lays "TurnpikeTrustModel" "TurnpikeTrustModel" "fault" "I") ∈ lw_all := lw_g (lw_at lw_m8 82 rfl) rfl
theorem q1825 : (Jvm.Cond.soleField "TurnpikeTrustModel" "fault") ∈ lw_all := lw_g (lw_at lw_m8 83 rfl) rfl
theorem q1826 : (Jvm.Cond.lays "TurnpikeTrustModel" "TurnpikeTrustModel" "place" "I") ∈ lw_all := lw_g (lw_at lw_m8 84 rfl) rfl
theorem q1827 : (Jvm.Cond.soleField "TurnpikeTrustModel" "place") ∈ lw_all := lw_g (lw_at lw_m8 85 rfl) rfl
theorem q1828 : (Jvm.Cond.lays "TurnpikeTrustModel" "TurnpikeTrustModel" "open" "I") ∈ lw_all := lw_g (lw_at lw_m8 86 rfl) rfl
theorem q1829 : (Jvm.Cond.soleField "TurnpikeTrustModel" "open") ∈ lw_all := lw_g (lw_at lw_m8 87 rfl) rfl
theorem q1830 : (Jvm.Cond.laysFinal "TurnpikeTrustModel" "TurnpikeTrustModel" "clauses" "[I") ∈ lw_all := lw_g (lw_at lw_m8 88 rfl) rfl
theorem q1831 : (Jvm.Cond.soleField "TurnpikeTrustModel" "clauses") ∈ lw_all := lw_g (lw_at lw_m8 89 rfl) rfl
theorem q1832 : (Jvm.Cond.laysFinal "TurnpikeTrustModel" "TurnpikeTrustModel" "since" "[I") ∈ lw_all := lw_g (lw_at lw_m8 90 rfl) rfl
theorem q1833 : (Jvm.Cond.soleField "TurnpikeTrustModel" "since") ∈ lw_all := lw_g (lw_at lw_m8 91 rfl) rfl
theorem q1834 : (Jvm.Cond.laysFinal "TurnpikeTrustModel" "TurnpikeTrustModel" "sort" "[I") ∈ lw_all := lw_g (lw_at lw_m8 92 rfl) rfl
theorem q1835 : (Jvm.Cond.soleField "TurnpikeTrustModel" "sort") ∈ lw_all := lw_g (lw_at lw_m8 93 rfl) rfl
theorem q1836 : (Jvm.Cond.laysFinal "TurnpikeTrustModel" "TurnpikeTrustModel" "first" "[I") ∈ lw_all := lw_g (lw_at lw_m8 94 rfl) rfl
theorem q1837 : (Jvm.Cond.soleField "TurnpikeTrustModel" "first") ∈ lw_all := lw_g (lw_at lw_m8 95 rfl) rfl
theorem q1838 : (Jvm.Cond.laysFinal "TurnpikeTrustModel" "TurnpikeTrustModel" "second" "[I") ∈ lw_all := lw_g (lw_at lw_m8 96 rfl) rfl
theorem q1839 : (Jvm.Cond.soleField "TurnpikeTrustModel" "second") ∈ lw_all := lw_g (lw_at lw_m8 97 rfl) rfl
theorem q1840 : (Jvm.Cond.laysFinal "TurnpikeTrustModel" "TurnpikeTrustModel" "codeFrom" "[I") ∈ lw_all := lw_g (lw_at lw_m8 98 rfl) rfl
theorem q1841 : (Jvm.Cond.soleField "TurnpikeTrustModel" "codeFrom") ∈ lw_all := lw_g (lw_at lw_m8 99 rfl) rfl
theorem q1842 : (Jvm.Cond.laysFinal "TurnpikeTrustModel" "TurnpikeTrustModel" "codeTo" "[I") ∈ lw_all := lw_g (lw_at lw_m8 100 rfl) rfl
theorem q1843 : (Jvm.Cond.soleField "TurnpikeTrustModel" "codeTo") ∈ lw_all := lw_g (lw_at lw_m8 101 rfl) rfl
theorem q1844 : (Jvm.Cond.lays "TurnpikeTrustModel" "TurnpikeTrustModel" "code" "[I") ∈ lw_all := lw_g (lw_at lw_m8 102 rfl) rfl
theorem q1845 : (Jvm.Cond.soleField "TurnpikeTrustModel" "code") ∈ lw_all := lw_g (lw_at lw_m8 103 rfl) rfl
theorem q1846 : (Jvm.Cond.lays "TurnpikeTrustModel" "TurnpikeTrustModel" "codeNumber" "[I") ∈ lw_all := lw_g (lw_at lw_m8 104 rfl) rfl
theorem q1847 : (Jvm.Cond.soleField "TurnpikeTrustModel" "codeNumber") ∈ lw_all := lw_g (lw_at lw_m8 105 rfl) rfl
theorem q1848 : (Jvm.Cond.lays "TurnpikeTrustModel" "TurnpikeTrustModel" "codes" "I") ∈ lw_all := lw_g (lw_at lw_m8 106 rfl) rfl
theorem q1849 : (Jvm.Cond.soleField "TurnpikeTrustModel" "codes") ∈ lw_all := lw_g (lw_at lw_m8 107 rfl) rfl
theorem q1850 : (Jvm.Cond.lays "TurnpikeTrustModel" "TurnpikeTrustModel" "acts" "I") ∈ lw_all := lw_g (lw_at lw_m8 108 rfl) rfl
theorem q1851 : (Jvm.Cond.soleField "TurnpikeTrustModel" "acts") ∈ lw_all := lw_g (lw_at lw_m8 109 rfl) rfl
theorem q1852 : (Jvm.Cond.laysFinal "TurnpikeTrustModel" "TurnpikeTrustModel" "kinds" "[I") ∈ lw_all := lw_g (lw_at lw_m8 110 rfl) rfl
theorem q1853 : (Jvm.Cond.soleField "TurnpikeTrustModel" "kinds") ∈ lw_all := lw_g (lw_at lw_m8 111 rfl) rfl
theorem q1854 : (Jvm.Cond.laysFinal "TurnpikeTrustModel" "TurnpikeTrustModel" "wheels" "[I") ∈ lw_all := lw_g (lw_at lw_m8 112 rfl) rfl
theorem q1855 : (Jvm.Cond.soleField "TurnpikeTrustModel" "wheels") ∈ lw_all := lw_g (lw_at lw_m8 113 rfl) rfl
theorem q1856 : (Jvm.Cond.laysFinal "TurnpikeTrustModel" "TurnpikeTrustModel" "beasts" "[I") ∈ lw_all := lw_g (lw_at lw_m8 114 rfl) rfl
theorem q1857 : (Jvm.Cond.soleField "TurnpikeTrustModel" "beasts") ∈ lw_all := lw_g (lw_at lw_m8 115 rfl) rfl
theorem q1858 : (Jvm.Cond.laysFinal "TurnpikeTrustModel" "TurnpikeTrustModel" "bits" "[I") ∈ lw_all := lw_g (lw_at lw_m8 116 rfl) rfl
theorem q1859 : (Jvm.Cond.soleField "TurnpikeTrustModel" "bits") ∈ lw_all := lw_g (lw_at lw_m8 117 rfl) rfl
theorem q1860 : (Jvm.Cond.laysFinal "TurnpikeTrustModel" "TurnpikeTrustModel" "passedOn" "[I") ∈ lw_all := lw_g (lw_at lw_m8 118 rfl) rfl
theorem q1861 : (Jvm.Cond.soleField "TurnpikeTrustModel" "passedOn") ∈ lw_all := lw_g (lw_at lw_m8 119 rfl) rfl
theorem q1862 : (Jvm.Cond.laysFinal "TurnpikeTrustModel" "TurnpikeTrustModel" "paidOn" "[I") ∈ lw_all := lw_g (lw_at lw_m8 120 rfl) rfl
theorem q1863 : (Jvm.Cond.soleField "TurnpikeTrustModel" "paidOn") ∈ lw_all := lw_g (lw_at lw_m8 121 rfl) rfl
theorem q1864 : (Jvm.Cond.lays "TurnpikeTrustModel" "TurnpikeTrustModel" "travellers" "I") ∈ lw_all := lw_g (lw_at lw_m8 122 rfl) rfl
theorem q1865 : (Jvm.Cond.soleField "TurnpikeTrustModel" "travellers") ∈ lw_all := lw_g (lw_at lw_m8 123 rfl) rfl
theorem q1866 : (Jvm.Cond.laysFinal "TurnpikeTrustModel" "TurnpikeTrustModel" "prices" "[I") ∈ lw_all := lw_g (lw_at lw_m8 124 rfl) rfl
theorem q1867 : (Jvm.Cond.soleField "TurnpikeTrustModel" "prices") ∈ lw_all := lw_g (lw_at lw_m8 125 rfl) rfl
theorem q1868 : (Jvm.Cond.laysFinal "TurnpikeTrustModel" "TurnpikeTrustModel" "wears" "[J") ∈ lw_all := lw_g (lw_at lw_m8 126 rfl) rfl
theorem q1869 : (Jvm.Cond.soleField "TurnpikeTrustModel" "wears") ∈ lw_all := lw_g (lw_at lw_m8 127 rfl) rfl
theorem q1870 : (Jvm.Cond.lays "TurnpikeTrustModel" "TurnpikeTrustModel" "stretches" "I") ∈ lw_all := lw_g (lw_at lw_m8 128 rfl) rfl
theorem q1871 : (Jvm.Cond.soleField "TurnpikeTrustModel" "stretches") ∈ lw_all := lw_g (lw_at lw_m8 129 rfl) rfl
theorem q1872 : (Jvm.Cond.laysFinal "TurnpikeTrustModel" "TurnpikeTrustModel" "onStretch" "[I") ∈ lw_all := lw_g (lw_at lw_m8 130 rfl) rfl
theorem q1873 : (Jvm.Cond.soleField "TurnpikeTrustModel" "onStretch") ∈ lw_all := lw_g (lw_at lw_m8 131 rfl) rfl
theorem q1874 : (Jvm.Cond.laysFinal "TurnpikeTrustModel" "TurnpikeTrustModel" "passes" "[I") ∈ lw_all := lw_g (lw_at lw_m8 132 rfl) rfl
theorem q1875 : (Jvm.Cond.soleField "TurnpikeTrustModel" "passes") ∈ lw_all := lw_g (lw_at lw_m8 133 rfl) rfl
theorem q1876 : (Jvm.Cond.lays "TurnpikeTrustModel" "TurnpikeTrustModel" "gates" "I") ∈ lw_all := lw_g (lw_at lw_m8 134 rfl) rfl
theorem q1877 : (Jvm.Cond.soleField "TurnpikeTrustModel" "gates") ∈ lw_all := lw_g (lw_at lw_m8 135 rfl) rfl
theorem q1878 : (Jvm.Cond.lays "TurnpikeTrustModel" "TurnpikeTrustModel" "today" "I") ∈ lw_all := lw_g (lw_at lw_m8 136 rfl) rfl
theorem q1879 : (Jvm.Cond.soleField "TurnpikeTrustModel" "today") ∈ lw_all := lw_g (lw_at lw_m8 137 rfl) rfl
theorem q1880 : (Jvm.Cond.lays "TurnpikeTrustModel" "TurnpikeTrustModel" "rains" "I") ∈ lw_all := lw_g (lw_at lw_m8 138 rfl) rfl
theorem q1881 : (Jvm.Cond.soleField "TurnpikeTrustModel" "rains") ∈ lw_all := lw_g (lw_at lw_m8 139 rfl) rfl
theorem q1882 : (Jvm.Cond.laysFinal "TurnpikeTrustModel" "TurnpikeTrustModel" "pile" "[Z") ∈ lw_all := lw_g (lw_at lw_m8 140 rfl) rfl
theorem q1883 : (Jvm.Cond.soleField "TurnpikeTrustModel" "pile") ∈ lw_all := lw_g (lw_at lw_m8 141 rfl) rfl
theorem q1884 : (Jvm.Cond.lays "TurnpikeTrustModel" "TurnpikeTrustModel" "by" "I") ∈ lw_all := lw_g (lw_at lw_m8 142 rfl) rfl
theorem q1885 : (Jvm.Cond.soleField "TurnpikeTrustModel" "by") ∈ lw_all := lw_g (lw_at lw_m8 143 rfl) rfl
theorem q1886 : (Jvm.Cond.laysFinal "TurnpikeTrustModel" "TurnpikeTrustModel" "keptTimes" "[I") ∈ lw_all := lw_g (lw_at lw_m8 144 rfl) rfl
theorem q1887 : (Jvm.Cond.soleField "TurnpikeTrustModel" "keptTimes") ∈ lw_all := lw_g (lw_at lw_m8 145 rfl) rfl
theorem q1888 : (Jvm.Cond.lays "TurnpikeTrustModel" "TurnpikeTrustModel" "lastBy" "I") ∈ lw_all := lw_g (lw_at lw_m8 146 rfl) rfl
theorem q1889 : (Jvm.Cond.soleField "TurnpikeTrustModel" "lastBy") ∈ lw_all := lw_g (lw_at lw_m8 147 rfl) rfl
theorem q1890 : (Jvm.Cond.lays "TurnpikeTrustModel" "TurnpikeTrustModel" "lineDay" "[I") ∈ lw_all := lw_g (lw_at lw_m8 148 rfl) rfl
theorem q1891 : (Jvm.Cond.soleField "TurnpikeTrustModel" "lineDay") ∈ lw_all := lw_g (lw_at lw_m8 149 rfl) rfl
theorem q1892 : (Jvm.Cond.lays "TurnpikeTrustModel" "TurnpikeTrustModel" "lineKind" "[I") ∈ lw_all := lw_g (lw_at lw_m8 150 rfl) rfl
theorem q1893 : (Jvm.Cond.soleField "TurnpikeTrustModel" "lineKind") ∈ lw_all := lw_g (lw_at lw_m8 151 rfl) rfl
theorem q1894 : (Jvm.Cond.lays "TurnpikeTrustModel" "TurnpikeTrustModel" "lineWho" "[I") ∈ lw_all := lw_g (lw_at lw_m8 152 rfl) rfl
theorem q1895 : (Jvm.Cond.soleField "TurnpikeTrustModel" "lineWho") ∈ lw_all := lw_g (lw_at lw_m8 153 rfl) rfl
theorem q1896 : (Jvm.Cond.lays "TurnpikeTrustModel" "TurnpikeTrustModel" "lineSum" "[I") ∈ lw_all := lw_g (lw_at lw_m8 154 rfl) rfl
theorem q1897 : (Jvm.Cond.soleField "TurnpikeTrustModel" "lineSum") ∈ lw_all := lw_g (lw_at lw_m8 155 rfl) rfl
theorem q1898 : (Jvm.Cond.lays "TurnpikeTrustModel" "TurnpikeTrustModel" "lines" "I") ∈ lw_all := lw_g (lw_at lw_m8 156 rfl) rfl
theorem q1899 : (Jvm.Cond.soleField "TurnpikeTrustModel" "lines") ∈ lw_all := lw_g (lw_at lw_m8 157 rfl) rfl
theorem q1900 : (Jvm.Cond.lays "TurnpikeTrustModel" "TurnpikeTrustModel" "box" "J") ∈ lw_all := lw_g (lw_at lw_m8 158 rfl) rfl
theorem q1901 : (Jvm.Cond.soleField "TurnpikeTrustModel" "box") ∈ lw_all := lw_g (lw_at lw_m8 159 rfl) rfl
theorem q1902 : (Jvm.Cond.laysFinal "TurnpikeTrustModel" "TurnpikeTrustModel" "money" "[J") ∈ lw_all := lw_g (lw_at lw_m8 160 rfl) rfl
theorem q1903 : (Jvm.Cond.soleField "TurnpikeTrustModel" "money") ∈ lw_all := lw_g (lw_at lw_m8 161 rfl) rfl
theorem q1904 : (Jvm.Cond.lays "TurnpikeTrustModel" "TurnpikeTrustModel" "farmers" "I") ∈ lw_all := lw_g (lw_at lw_m8 162 rfl) rfl
theorem q1905 : (Jvm.Cond.soleField "TurnpikeTrustModel" "farmers") ∈ lw_all := lw_g (lw_at lw_m8 163 rfl) rfl
theorem q1906 : (Jvm.Cond.laysFinal "TurnpikeTrustModel" "TurnpikeTrustModel" "bids" "[I") ∈ lw_all := lw_g (lw_at lw_m8 164 rfl) rfl
theorem q1907 : (Jvm.Cond.soleField "TurnpikeTrustModel" "bids") ∈ lw_all := lw_g (lw_at lw_m8 165 rfl) rfl
theorem q1908 : (Jvm.Cond.laysFinal "TurnpikeTrustModel" "TurnpikeTrustModel" "bidFarmer" "[I") ∈ lw_all := lw_g (lw_at lw_m8 166 rfl) rfl
theorem q1909 : (Jvm.Cond.soleField "TurnpikeTrustModel" "bidFarmer") ∈ lw_all := lw_g (lw_at lw_m8 167 rfl) rfl
theorem q1910 : (Jvm.Cond.laysFinal "TurnpikeTrustModel" "TurnpikeTrustModel" "bidRent" "[I") ∈ lw_all := lw_g (lw_at lw_m8 168 rfl) rfl
theorem q1911 : (Jvm.Cond.soleField "TurnpikeTrustModel" "bidRent") ∈ lw_all := lw_g (lw_at lw_m8 169 rfl) rfl
theorem q1912 : (Jvm.Cond.laysFinal "TurnpikeTrustModel" "TurnpikeTrustModel" "bidSurety" "[I") ∈ lw_all := lw_g (lw_at lw_m8 170 rfl) rfl
theorem q1913 : (Jvm.Cond.soleField "TurnpikeTrustModel" "bidSurety") ∈ lw_all := lw_g (lw_at lw_m8 171 rfl) rfl
theorem q1914 : (Jvm.Cond.laysFinal "TurnpikeTrustModel" "TurnpikeTrustModel" "leased" "[I") ∈ lw_all := lw_g (lw_at lw_m8 172 rfl) rfl
theorem q1915 : (Jvm.Cond.soleField "TurnpikeTrustModel" "leased") ∈ lw_all := lw_g (lw_at lw_m8 173 rfl) rfl
theorem q1916 : (Jvm.Cond.laysFinal "TurnpikeTrustModel" "TurnpikeTrustModel" "rent" "[I") ∈ lw_all := lw_g (lw_at lw_m8 174 rfl) rfl
theorem q1917 : (Jvm.Cond.soleField "TurnpikeTrustModel" "rent") ∈ lw_all := lw_g (lw_at lw_m8 175 rfl) rfl
theorem q1918 : (Jvm.Cond.laysFinal "TurnpikeTrustModel" "TurnpikeTrustModel" "surety" "[I") ∈ lw_all := lw_g (lw_at lw_m8 176 rfl) rfl
theorem q1919 : (Jvm.Cond.soleField "TurnpikeTrustModel" "surety") ∈ lw_all := lw_g (lw_at lw_m8 177 rfl) rfl
theorem q1920 : (Jvm.Cond.laysFinal "TurnpikeTrustModel" "TurnpikeTrustModel" "due" "[I") ∈ lw_all := lw_g (lw_at lw_m8 178 rfl) rfl
theorem q1921 : (Jvm.Cond.soleField "TurnpikeTrustModel" "due") ∈ lw_all := lw_g (lw_at lw_m8 179 rfl) rfl
theorem q1922 : (Jvm.Cond.laysFinal "TurnpikeTrustModel" "TurnpikeTrustModel" "left" "[I") ∈ lw_all := lw_g (lw_at lw_m8 180 rfl) rfl
theorem q1923 : (Jvm.Cond.soleField "TurnpikeTrustModel" "left") ∈ lw_all := lw_g (lw_at lw_m8 181 rfl) rfl
theorem q1924 : (Jvm.Cond.laysFinal "TurnpikeTrustModel" "TurnpikeTrustModel" "sums" "[I") ∈ lw_all := lw_g (lw_at lw_m8 182 rfl) rfl
theorem q1925 : (Jvm.Cond.soleField "TurnpikeTrustModel" "sums") ∈ lw_all := lw_g (lw_at lw_m8 183 rfl) rfl
theorem q1926 : (Jvm.Cond.laysFinal "TurnpikeTrustModel" "TurnpikeTrustModel" "rates" "[I") ∈ lw_all := lw_g (lw_at lw_m8 184 rfl) rfl
theorem q1927 : (Jvm.Cond.soleField "TurnpikeTrustModel" "rates") ∈ lw_all := lw_g (lw_at lw_m8 185 rfl) rfl
theorem q1928 : (Jvm.Cond.laysFinal "TurnpikeTrustModel" "TurnpikeTrustModel" "ranks" "[I") ∈ lw_all := lw_g (lw_at lw_m8 186 rfl) rfl
theorem q1929 : (Jvm.Cond.soleField "TurnpikeTrustModel" "ranks") ∈ lw_all := lw_g (lw_at lw_m8 187 rfl) rfl
theorem q1930 : (Jvm.Cond.laysFinal "TurnpikeTrustModel" "TurnpikeTrustModel" "dues" "[J") ∈ lw_all := lw_g (lw_at lw_m8 188 rfl) rfl
theorem q1931 : (Jvm.Cond.soleField "TurnpikeTrustModel" "dues") ∈ lw_all := lw_g (lw_at lw_m8 189 rfl) rfl
theorem q1932 : (Jvm.Cond.laysFinal "TurnpikeTrustModel" "TurnpikeTrustModel" "gets" "[J") ∈ lw_all := lw_g (lw_at lw_m8 190 rfl) rfl
theorem q1933 : (Jvm.Cond.soleField "TurnpikeTrustModel" "gets") ∈ lw_all := lw_g (lw_at lw_m8 191 rfl) rfl
theorem q1934 : (Jvm.Cond.laysFinal "TurnpikeTrustModel" "TurnpikeTrustModel" "rests" "[J") ∈ lw_all := lw_g (lw_at lw_m8 192 rfl) rfl
theorem q1935 : (Jvm.Cond.soleField "TurnpikeTrustModel" "rests") ∈ lw_all := lw_g (lw_at lw_m8 193 rfl) rfl
theorem q1936 : (Jvm.Cond.lays "TurnpikeTrustModel" "TurnpikeTrustModel" "loans" "I") ∈ lw_all := lw_g (lw_at lw_m8 194 rfl) rfl
theorem q1937 : (Jvm.Cond.soleField "TurnpikeTrustModel" "loans") ∈ lw_all := lw_g (lw_at lw_m8 195 rfl) rfl
theorem q1938 : (Jvm.Cond.superclass "TurnpikeTrustModel" "java/lang/Object") ∈ lw_all := lw_g (lw_at lw_m8 196 rfl) rfl
theorem q1941 : (Jvm.Cond.instanceMethod ({ cls := "TurnpikeTrustModel", name := "thrown", desc := "()I" } : Jvm.MethodName)) ∈ lw_all := lw_g (lw_at lw_m8 199 rfl) rfl
theorem q1942 : (Jvm.Cond.selects "TurnpikeTrustModel" ({ cls := "TurnpikeTrustModel", name := "thrown", desc := "()I" } : Jvm.MethodName) ({ cls := "TurnpikeTrustModel", name := "thrown", desc := "()I" } : Jvm.MethodName)) ∈ lw_all := lw_g (lw_at lw_m8 200 rfl) rfl
theorem q1943 : (Jvm.Cond.code ({ cls := "TurnpikeTrustModel", name := "thrown", desc := "()I" } : Jvm.MethodName) prog_33_method_2_code (1 : Nat) (Option.some Jvm.ClassFile.FieldType.int)) ∈ lw_all := lw_g (lw_at lw_m8 201 rfl) rfl
theorem q1945 : (Jvm.Cond.instanceMethod ({ cls := "TurnpikeTrustModel", name := "feed", desc := "(IIIII)I" } : Jvm.MethodName)) ∈ lw_all := lw_g (lw_at lw_m8 203 rfl) rfl
theorem q1946 : (Jvm.Cond.selects "TurnpikeTrustModel" ({ cls := "TurnpikeTrustModel", name := "feed", desc := "(IIIII)I" } : Jvm.MethodName) ({ cls := "TurnpikeTrustModel", name := "feed", desc := "(IIIII)I" } : Jvm.MethodName)) ∈ lw_all := lw_g (lw_at lw_m8 204 rfl) rfl
theorem q1947 : (Jvm.Cond.code ({ cls := "TurnpikeTrustModel", name := "feed", desc := "(IIIII)I" } : Jvm.MethodName) prog_33_method_4_code (9 : Nat) (Option.some Jvm.ClassFile.FieldType.int)) ∈ lw_all := lw_g (lw_at lw_m8 205 rfl) rfl
theorem q1949 : (Jvm.Cond.instanceMethod ({ cls := "TurnpikeTrustModel", name := "act", desc := "(II)I" } : Jvm.MethodName)) ∈ lw_all := lw_g (lw_at lw_m8 207 rfl) rfl
theorem q1950 : (Jvm.Cond.selects "TurnpikeTrustModel" ({ cls := "TurnpikeTrustModel", name := "act", desc := "(II)I" } : Jvm.MethodName) ({ cls := "TurnpikeTrustModel", name := "act", desc := "(II)I" } : Jvm.MethodName)) ∈ lw_all := lw_g (lw_at lw_m8 208 rfl) rfl
theorem q1951 : (Jvm.Cond.code ({ cls := "TurnpikeTrustModel", name := "act", desc := "(II)I" } : Jvm.MethodName) prog_33_method_25_code (5 : Nat) (Option.some Jvm.ClassFile.FieldType.int)) ∈ lw_all := lw_g (lw_at lw_m8 209 rfl) rfl
theorem q1952 : (Jvm.Cond.methodLink "TurnpikeTrustModel" (308 : Nat) ({ cls := "TurnpikeTrustModel", name := "bad", desc := "(ZI)Z" } : Jvm.MethodName)) ∈ lw_all := lw_g (lw_at lw_m8 210 rfl) rfl
theorem q1953 : (Jvm.Cond.privateMethod ({ cls := "TurnpikeTrustModel", name := "bad", desc := "(ZI)Z" } : Jvm.MethodName)) ∈ lw_tbl := lw_at lw_m8 211 rfl
theorem q1954 : (Jvm.Cond.instanceMethod ({ cls := "TurnpikeTrustModel", name := "bad", desc := "(ZI)Z" } : Jvm.MethodName)) ∈ lw_all := lw_g (lw_at lw_m8 212 rfl) rfl
theorem q1955 : (Jvm.Cond.code ({ cls := "TurnpikeTrustModel", name := "bad", desc := "(ZI)Z" } : Jvm.MethodName) prog_33_method_3_code (3 : Nat) (Option.some Jvm.ClassFile.FieldType.boolean)) ∈ lw_all := lw_g (lw_at lw_m8 213 rfl) rfl
theorem q1956 : (Jvm.Cond.methodLink "TurnpikeTrustModel" (165 : Nat) ({ cls := "TurnpikeTrustModel", name := "blanks", desc := "()V" } : Jvm.MethodName)) ∈ lw_all := lw_g (lw_at lw_m8 214 rfl) rfl
theorem q1957 : (Jvm.Cond.privateMethod ({ cls := "TurnpikeTrustModel", name := "blanks", desc := "()V" } : Jvm.MethodName)) ∈ lw_tbl := lw_at lw_m8 215 rfl
theorem q1958 : (Jvm.Cond.instanceMethod ({ cls := "TurnpikeTrustModel", name := "blanks", desc := "()V" } : Jvm.MethodName)) ∈ lw_all := lw_g (lw_at lw_m8 216 rfl) rfl
theorem q1959 : (Jvm.Cond.code ({ cls := "TurnpikeTrustModel", name := "blanks", desc := "()V" } : Jvm.MethodName) prog_33_method_6_code (1 : Nat) (Option.none : Option Jvm.ClassFile.FieldType)) ∈ lw_all := lw_g (lw_at lw_m8 217 rfl) rfl
theorem q1960 : (Jvm.Cond.methodLink "TurnpikeTrustModel" (158 : Nat) ({ cls := "TurnpikeTrustModel", name := "byteAt", desc := "(I)I" } : Jvm.MethodName)) ∈ lw_all := lw_g (lw_at lw_m8 218 rfl) rfl
theorem q1961 : (Jvm.Cond.privateMethod ({ cls := "TurnpikeTrustModel", name := "byteAt", desc := "(I)I" } : Jvm.MethodName)) ∈ lw_tbl := lw_at lw_m8 219 rfl
theorem q1962 : (Jvm.Cond.instanceMethod ({ cls := "TurnpikeTrustModel", name := "byteAt", desc := "(I)I" } : Jvm.MethodName)) ∈ lw_all := lw_g (lw_at lw_m8 220 rfl) rfl
theorem q1963 : (Jvm.Cond.code ({ cls := "TurnpikeTrustModel", name := "byteAt", desc := "(I)I" } : Jvm.MethodName) prog_33_method_5_code (2 : Nat) (Option.some Jvm.ClassFile.FieldType.int)) ∈ lw_all := lw_g (lw_at lw_m8 221 rfl) rfl
theorem q1964 : (Jvm.Cond.methodLink "TurnpikeTrustModel" (312 : Nat) ({ cls := "TurnpikeTrustModel", name := "clause", desc := "(I)V" } : Jvm.MethodName)) ∈ lw_all := lw_g (lw_at lw_m8 222 rfl) rfl
theorem q1965 : (Jvm.Cond.privateMethod ({ cls := "TurnpikeTrustModel", name := "clause", desc := "(I)V" } : Jvm.MethodName)) ∈ lw_tbl := lw_at lw_m8 223 rfl
theorem q1966 : (Jvm.Cond.instanceMethod ({ cls := "TurnpikeTrustModel", name := "clause", desc := "(I)V" } : Jvm.MethodName)) ∈ lw_all := lw_g (lw_at lw_m8 224 rfl) rfl
theorem q1967 : (Jvm.Cond.code ({ cls := "TurnpikeTrustModel", name := "clause", desc := "(I)V" } : Jvm.MethodName) prog_33_method_24_code (4 : Nat) (Option.none : Option Jvm.ClassFile.FieldType)) ∈ lw_all := lw_g (lw_at lw_m8 225 rfl) rfl
theorem q1968 : (Jvm.Cond.stringRef "TurnpikeTrustModel" (292 : Nat) "free") ∈ lw_tbl := lw_at lw_m8 226 rfl
theorem q1969 : (Jvm.Cond.methodLink "TurnpikeTrustModel" (182 : Nat) ({ cls := "TurnpikeTrustModel", name := "isWord", desc := "(Ljava/lang/String;)Z" } : Jvm.MethodName)) ∈ lw_all := lw_g (lw_at lw_m8 227 rfl) rfl
theorem q1970 : (Jvm.Cond.privateMethod ({ cls := "TurnpikeTrustModel", name := "isWord", desc := "(Ljava/lang/String;)Z" } : Jvm.MethodName)) ∈ lw_tbl := lw_at lw_m8 228 rfl
theorem q1971 : (Jvm.Cond.instanceMethod ({ cls := "TurnpikeTrustModel", name := "isWord", desc := "(Ljava/lang/String;)Z" } : Jvm.MethodName)) ∈ lw_all := lw_g (lw_at lw_m8 229 rfl) rfl
theorem q1972 : (Jvm.Cond.code ({ cls := "TurnpikeTrustModel", name := "isWord", desc := "(Ljava/lang/String;)Z" } : Jvm.MethodName) prog_33_method_10_code (4 : Nat) (Option.some Jvm.ClassFile.FieldType.boolean)) ∈ lw_all := lw_g (lw_at lw_m8 230 rfl) rfl
theorem q1973 : (Jvm.Cond.methodLink "TurnpikeTrustModel" (168 : Nat) ({ cls := "java/lang/String", name := "length", desc := "()I" } : Jvm.MethodName)) ∈ lw_all := lw_g (lw_at lw_m8 231 rfl) rfl
theorem q1974 : (Jvm.Cond.methodLink "TurnpikeTrustModel" (174 : Nat) ({ cls := "java/lang/String", name := "charAt", desc := "(I)C" } : Jvm.MethodName)) ∈ lw_all := lw_g (lw_at lw_m8 232 rfl) rfl
theorem q1985 : (Jvm.Cond.methodLink "TurnpikeTrustModel" (178 : Nat) ({ cls := "TurnpikeTrustModel", name := "isSmall", desc := "(I)Z" } : Jvm.MethodName)) ∈ lw_all := lw_g (lw_at lw_m9 3 rfl) rfl
theorem q1986 : (Jvm.Cond.static ({ cls := "TurnpikeTrustModel", name := "isSmall", desc := "(I)Z" } : Jvm.MethodName)) ∈ lw_all := lw_g (lw_at lw_m9 4 rfl) rfl
theorem q1987 : (Jvm.Cond.code ({ cls := "TurnpikeTrustModel", name := "isSmall", desc := "(I)Z" } : Jvm.MethodName) prog_33_method_7_code (1 : Nat) (Option.some Jvm.ClassFile.FieldType.boolean)) ∈ lw_all := lw_g (lw_at lw_m9 5 rfl) rfl
theorem q1988 : (Jvm.Cond.stringRef "TurnpikeTrustModel" (294 : Nat) "toll") ∈ lw_tbl := lw_at lw_m9 6 rfl
theorem q1989 : (Jvm.Cond.stringRef "TurnpikeTrustModel" (296 : Nat) "times") ∈ lw_tbl := lw_at lw_m9 7 rfl
theorem q1990 : (Jvm.Cond.stringRef "TurnpikeTrustModel" (298 : Nat) "once") ∈ lw_tbl := lw_at lw_m9 8 rfl
theorem q1991 : (Jvm.Cond.methodLink "TurnpikeTrustModel" (189 : Nat) ({ cls := "TurnpikeTrustModel", name := "wrong", desc := "(II)Z" } : Jvm.MethodName)) ∈ lw_all := lw_g (lw_at lw_m9 9 rfl) rfl
theorem q1992 : (Jvm.Cond.privateMethod ({ cls := "TurnpikeTrustModel", name := "wrong", desc := "(II)Z" } : Jvm.MethodName)) ∈ lw_tbl := lw_at lw_m9 10 rfl
theorem q1993 : (Jvm.Cond.instanceMethod ({ cls := "TurnpikeTrustModel", name := "wrong", desc := "(II)Z" } : Jvm.MethodName)) ∈ lw_all := lw_g (lw_at lw_m9 11 rfl) rfl
theorem q1994 : (Jvm.Cond.code ({ cls := "TurnpikeTrustModel", name := "wrong", desc := "(II)Z" } : Jvm.MethodName) prog_33_method_9_code (3 : Nat) (Option.some Jvm.ClassFile.FieldType.boolean)) ∈ lw_all := lw_g (lw_at lw_m9 12 rfl) rfl
theorem q1995 : (Jvm.Cond.methodLink "TurnpikeTrustModel" (216 : Nat) ({ cls := "TurnpikeTrustModel", name := "eat", desc := "(Ljava/lang/String;)Z" } : Jvm.MethodName)) ∈ lw_all := lw_g (lw_at lw_m9 13 rfl) rfl
theorem q1996 : (Jvm.Cond.privateMethod ({ cls := "TurnpikeTrustModel", name := "eat", desc := "(Ljava/lang/String;)Z" } : Jvm.MethodName)) ∈ lw_tbl := lw_at lw_m9 14 rfl
theorem q1997 : (Jvm.Cond.instanceMethod ({ cls := "TurnpikeTrustModel", name := "eat", desc := "(Ljava/lang/String;)Z" } : Jvm.MethodName)) ∈ lw_all := lw_g (lw_at lw_m9 15 rfl) rfl
theorem q1998 : (Jvm.Cond.code ({ cls := "TurnpikeTrustModel", name := "eat", desc := "(Ljava/lang/String;)Z" } : Jvm.MethodName) prog_33_method_11_code (3 : Nat) (Option.some Jvm.ClassFile.FieldType.boolean)) ∈ lw_all := lw_g (lw_at lw_m9 16 rfl) rfl
theorem q1999 : (Jvm.Cond.methodLink "TurnpikeTrustModel" (267 : Nat) ({ cls := "TurnpikeTrustModel", name := "number", desc := "(Z)I" } : Jvm.MethodName)) ∈ lw_all := lw_g (lw_at lw_m9 17 rfl) rfl
theorem q2000 : (Jvm.Cond.privateMethod ({ cls := "TurnpikeTrustModel", name := "number", desc := "(Z)I" } : Jvm.MethodName)) ∈ lw_tbl := lw_at lw_m9 18 rfl
theorem q2001 : (Jvm.Cond.instanceMethod ({ cls := "TurnpikeTrustModel", name := "number", desc := "(Z)I" } : Jvm.MethodName)) ∈ lw_all := lw_g (lw_at lw_m9 19 rfl) rfl
theorem q2002 : (Jvm.Cond.code ({ cls := "TurnpikeTrustModel", name := "number", desc := "(Z)I" } : Jvm.MethodName) prog_33_method_14_code (5 : Nat) (Option.some Jvm.ClassFile.FieldType.int)) ∈ lw_all := lw_g (lw_at lw_m9 20 rfl) rfl
theorem q2003 : (Jvm.Cond.methodLink "TurnpikeTrustModel" (193 : Nat) ({ cls := "TurnpikeTrustModel", name := "isDigit", desc := "(I)Z" } : Jvm.MethodName)) ∈ lw_all := lw_g (lw_at lw_m9 21 rfl) rfl
theorem q2004 : (Jvm.Cond.static ({ cls := "TurnpikeTrustModel", name := "isDigit", desc := "(I)Z" } : Jvm.MethodName)) ∈ lw_all := lw_g (lw_at lw_m9 22 rfl) rfl
theorem q2005 : (Jvm.Cond.code ({ cls := "TurnpikeTrustModel", name := "isDigit", desc := "(I)Z" } : Jvm.MethodName) prog_33_method_8_code (1 : Nat) (Option.some Jvm.ClassFile.FieldType.boolean)) ∈ lw_all := lw_g (lw_at lw_m9 23 rfl) rfl
theorem q2006 : (Jvm.Cond.constantLong "TurnpikeTrustModel" (196 : Nat) (2000000 : Int64)) ∈ lw_all := lw_g (lw_at lw_m9 24 rfl) rfl
theorem q2007 : (Jvm.Cond.constantLong "TurnpikeTrustModel" (198 : Nat) (10 : Int64)) ∈ lw_all := lw_g (lw_at lw_m9 25 rfl) rfl
theorem q2008 : (Jvm.Cond.constantLong "TurnpikeTrustModel" (200 : Nat) (48 : Int64)) ∈ lw_all := lw_g (lw_at lw_m9 26 rfl) rfl
theorem q2009 : (Jvm.Cond.constantLong "TurnpikeTrustModel" (202 : Nat) (1000000 : Int64)) ∈ lw_all := lw_g (lw_at lw_m9 27 rfl) rfl
theorem q2010 : (Jvm.Cond.stringRef "TurnpikeTrustModel" (300 : Nat) "each") ∈ lw_tbl := lw_at lw_m9 28 rfl
theorem q2011 : (Jvm.Cond.stringRef "TurnpikeTrustModel" (302 : Nat) "score") ∈ lw_tbl := lw_at lw_m9 29 rfl
theorem q2012 : (Jvm.Cond.methodLink "TurnpikeTrustModel" (240 : Nat) ({ cls := "TurnpikeTrustModel", name := "need", desc := "(I)Z" } : Jvm.MethodName)) ∈ lw_all := lw_g (lw_at lw_m9 30 rfl) rfl
theorem q2013 : (Jvm.Cond.privateMethod ({ cls := "TurnpikeTrustModel", name := "need", desc := "(I)Z" } : Jvm.MethodName)) ∈ lw_tbl := lw_at lw_m9 31 rfl
theorem q2014 : (Jvm.Cond.instanceMethod ({ cls := "TurnpikeTrustModel", name := "need", desc := "(I)Z" } : Jvm.MethodName)) ∈ lw_all := lw_g (lw_at lw_m9 32 rfl) rfl
theorem q2015 : (Jvm.Cond.code ({ cls := "TurnpikeTrustModel", name := "need", desc := "(I)Z" } : Jvm.MethodName) prog_33_method_13_code (2 : Nat) (Option.some Jvm.ClassFile.FieldType.boolean)) ∈ lw_all := lw_g (lw_at lw_m9 33 rfl) rfl
theorem q2016 : (Jvm.Cond.methodLink "TurnpikeTrustModel" (186 : Nat) ({ cls := "TurnpikeTrustModel", name := "isSign", desc := "(I)Z" } : Jvm.MethodName)) ∈ lw_all := lw_g (lw_at lw_m9 34 rfl) rfl
theorem q2017 : (Jvm.Cond.privateMethod ({ cls := "TurnpikeTrustModel", name := "isSign", desc := "(I)Z" } : Jvm.MethodName)) ∈ lw_tbl := lw_at lw_m9 35 rfl
theorem q2018 : (Jvm.Cond.instanceMethod ({ cls := "TurnpikeTrustModel", name := "isSign", desc := "(I)Z" } : Jvm.MethodName)) ∈ lw_all := lw_g (lw_at lw_m9 36 rfl) rfl
theorem q2019 : (Jvm.Cond.code ({ cls := "TurnpikeTrustModel", name := "isSign", desc := "(I)Z" } : Jvm.MethodName) prog_33_method_12_code (2 : Nat) (Option.some Jvm.ClassFile.FieldType.boolean)) ∈ lw_all := lw_g (lw_at lw_m9 37 rfl) rfl
theorem q2020 : (Jvm.Cond.stringRef "TurnpikeTrustModel" (304 : Nat) "all") ∈ lw_tbl := lw_at lw_m9 38 rfl
theorem q2021 : (Jvm.Cond.stringRef "TurnpikeTrustModel" (306 : Nat) "if") ∈ lw_tbl := lw_at lw_m9 39 rfl
theorem q2022 : (Jvm.Cond.methodLink "TurnpikeTrustModel" (237 : Nat) ({ cls := "TurnpikeTrustModel", name := "condition", desc := "()V" } : Jvm.MethodName)) ∈ lw_all := lw_g (lw_at lw_m9 40 rfl) rfl
theorem q2023 : (Jvm.Cond.privateMethod ({ cls := "TurnpikeTrustModel", name := "condition", desc := "()V" } : Jvm.MethodName)) ∈ lw_tbl := lw_at lw_m9 41 rfl
theorem q2024 : (Jvm.Cond.instanceMethod ({ cls := "TurnpikeTrustModel", name := "condition", desc := "()V" } : Jvm.MethodName)) ∈ lw_all := lw_g (lw_at lw_m9 42 rfl) rfl
theorem q2025 : (Jvm.Cond.code ({ cls := "TurnpikeTrustModel", name := "condition", desc := "()V" } : Jvm.MethodName) prog_33_method_17_code (1 : Nat) (Option.none : Option Jvm.ClassFile.FieldType)) ∈ lw_all := lw_g (lw_at lw_m9 43 rfl) rfl
theorem q2026 : (Jvm.Cond.methodLink "TurnpikeTrustModel" (211 : Nat) ({ cls := "TurnpikeTrustModel", name := "joined", desc := "()V" } : Jvm.MethodName)) ∈ lw_all := lw_g (lw_at lw_m9 44 rfl) rfl
theorem q2027 : (Jvm.Cond.privateMethod ({ cls := "TurnpikeTrustModel", name := "joined", desc := "()V" } : Jvm.MethodName)) ∈ lw_tbl := lw_at lw_m9 45 rfl
theorem q2028 : (Jvm.Cond.instanceMethod ({ cls := "TurnpikeTrustModel", name := "joined", desc := "()V" } : Jvm.MethodName)) ∈ lw_all := lw_g (lw_at lw_m9 46 rfl) rfl
theorem q2029 : (Jvm.Cond.code ({ cls := "TurnpikeTrustModel", name := "joined", desc := "()V" } : Jvm.MethodName) prog_33_method_18_code (1 : Nat) (Option.none : Option Jvm.ClassFile.FieldType)) ∈ lw_all := lw_g (lw_at lw_m9 47 rfl) rfl
theorem q2030 : (Jvm.Cond.methodLink "TurnpikeTrustModel" (223 : Nat) ({ cls := "TurnpikeTrustModel", name := "one", desc := "()V" } : Jvm.MethodName)) ∈ lw_all := lw_g (lw_at lw_m9 48 rfl) rfl
theorem q2031 : (Jvm.Cond.privateMethod ({ cls := "TurnpikeTrustModel", name := "one", desc := "()V" } : Jvm.MethodName)) ∈ lw_tbl := lw_at lw_m9 49 rfl
theorem q2032 : (Jvm.Cond.instanceMethod ({ cls := "TurnpikeTrustModel", name := "one", desc := "()V" } : Jvm.MethodName)) ∈ lw_all := lw_g (lw_at lw_m9 50 rfl) rfl
theorem q2033 : (Jvm.Cond.code ({ cls := "TurnpikeTrustModel", name := "one", desc := "()V" } : Jvm.MethodName) prog_33_method_20_code (1 : Nat) (Option.none : Option Jvm.ClassFile.FieldType)) ∈ lw_all := lw_g (lw_at lw_m9 51 rfl) rfl
theorem q2034 : (Jvm.Cond.stringRef "TurnpikeTrustModel" (231 : Nat) "not") ∈ lw_tbl := lw_at lw_m9 52 rfl
theorem q2035 : (Jvm.Cond.methodLink "TurnpikeTrustModel" (233 : Nat) ({ cls := "TurnpikeTrustModel", name := "opens", desc := "()Z" } : Jvm.MethodName)) ∈ lw_all := lw_g (lw_at lw_m9 53 rfl) rfl
theorem q2036 : (Jvm.Cond.privateMethod ({ cls := "TurnpikeTrustModel", name := "opens", desc := "()Z" } : Jvm.MethodName)) ∈ lw_tbl := lw_at lw_m9 54 rfl
theorem q2037 : (Jvm.Cond.instanceMethod ({ cls := "TurnpikeTrustModel", name := "opens", desc := "()Z" } : Jvm.MethodName)) ∈ lw_all := lw_g (lw_at lw_m9 55 rfl) rfl
theorem q2038 : (Jvm.Cond.code ({ cls := "TurnpikeTrustModel", name := "opens", desc := "()Z" } : Jvm.MethodName) prog_33_method_19_code (1 : Nat) (Option.some Jvm.ClassFile.FieldType.boolean)) ∈ lw_all := lw_g (lw_at lw_m9 56 rfl) rfl
theorem q2039 : (Jvm.Cond.methodLink "TurnpikeTrustModel" (219 : Nat) ({ cls := "TurnpikeTrustModel", name := "emits", desc := "(II)V" } : Jvm.MethodName)) ∈ lw_all := lw_g (lw_at lw_m9 57 rfl) rfl
theorem q2040 : (Jvm.Cond.privateMethod ({ cls := "TurnpikeTrustModel", name := "emits", desc := "(II)V" } : Jvm.MethodName)) ∈ lw_tbl := lw_at lw_m9 58 rfl
theorem q2041 : (Jvm.Cond.instanceMethod ({ cls := "TurnpikeTrustModel", name := "emits", desc := "(II)V" } : Jvm.MethodName)) ∈ lw_all := lw_g (lw_at lw_m9 59 rfl) rfl
theorem q2042 : (Jvm.Cond.code ({ cls := "TurnpikeTrustModel", name := "emits", desc := "(II)V" } : Jvm.MethodName) prog_33_method_15_code (3 : Nat) (Option.none : Option Jvm.ClassFile.FieldType)) ∈ lw_all := lw_g (lw_at lw_m9 60 rfl) rfl
theorem q2043 : (Jvm.Cond.methodLink "TurnpikeTrustModel" (207 : Nat) ({ cls := "TurnpikeTrustModel", name := "longer", desc := "([I)[I" } : Jvm.MethodName)) ∈ lw_all := lw_g (lw_at lw_m9 61 rfl) rfl
theorem q2044 : (Jvm.Cond.static ({ cls := "TurnpikeTrustModel", name := "longer", desc := "([I)[I" } : Jvm.MethodName)) ∈ lw_all := lw_g (lw_at lw_m9 62 rfl) rfl
theorem q2045 : (Jvm.Cond.code ({ cls := "TurnpikeTrustModel", name := "longer", desc := "([I)[I" } : Jvm.MethodName) prog_33_method_16_code (3 : Nat) (Option.some (Jvm.ClassFile.FieldType.array Jvm.ClassFile.FieldType.int))) ∈ lw_all := lw_g (lw_at lw_m9 63 rfl) rfl
theorem q2046 : (Jvm.Cond.stringRef "TurnpikeTrustModel" (243 : Nat) "mail") ∈ lw_tbl := lw_at lw_m9 64 rfl
theorem q2047 : (Jvm.Cond.stringRef "TurnpikeTrustModel" (245 : Nat) "army") ∈ lw_tbl := lw_at lw_m9 65 rfl
theorem q2048 : (Jvm.Cond.stringRef "TurnpikeTrustModel" (247 : Nat) "church") ∈ lw_tbl := lw_at lw_m9 66 rfl
theorem q2049 : (Jvm.Cond.stringRef "TurnpikeTrustModel" (249 : Nat) "farm") ∈ lw_tbl := lw_at lw_m9 67 rfl
theorem q2050 : (Jvm.Cond.stringRef "TurnpikeTrustModel" (251 : Nat) "back") ∈ lw_tbl := lw_at lw_m9 68 rfl
theorem q2051 : (Jvm.Cond.stringRef "TurnpikeTrustModel" (253 : Nat) "wheels") ∈ lw_tbl := lw_at lw_m9 69 rfl
theorem q2052 : (Jvm.Cond.methodLink "TurnpikeTrustModel" (254 : Nat) ({ cls := "TurnpikeTrustModel", name := "relation", desc := "(I)V" } : Jvm.MethodName)) ∈ lw_all := lw_g (lw_at lw_m9 70 rfl) rfl
theorem q2053 : (Jvm.Cond.privateMethod ({ cls := "TurnpikeTrustModel", name := "relation", desc := "(I)V" } : Jvm.MethodName)) ∈ lw_tbl := lw_at lw_m9 71 rfl
theorem q2054 : (Jvm.Cond.instanceMethod ({ cls := "TurnpikeTrustModel", name := "relation", desc := "(I)V" } : Jvm.MethodName)) ∈ lw_all := lw_g (lw_at lw_m9 72 rfl) rfl
theorem q2055 : (Jvm.Cond.code ({ cls := "TurnpikeTrustModel", name := "relation", desc := "(I)V" } : Jvm.MethodName) prog_33_method_21_code (3 : Nat) (Option.none : Option Jvm.ClassFile.FieldType)) ∈ lw_all := lw_g (lw_at lw_m9 73 rfl) rfl
theorem q2056 : (Jvm.Cond.stringRef "TurnpikeTrustModel" (258 : Nat) "beasts") ∈ lw_tbl := lw_at lw_m9 74 rfl
theorem q2057 : (Jvm.Cond.stringRef "TurnpikeTrustModel" (259 : Nat) "gate") ∈ lw_tbl := lw_at lw_m9 75 rfl
theorem q2058 : (Jvm.Cond.stringRef "TurnpikeTrustModel" (261 : Nat) "day") ∈ lw_tbl := lw_at lw_m9 76 rfl
theorem q2059 : (Jvm.Cond.stringRef "TurnpikeTrustModel" (263 : Nat) "kind") ∈ lw_tbl := lw_at lw_m9 77 rfl
theorem q2060 : (Jvm.Cond.methodLink "TurnpikeTrustModel" (265 : Nat) ({ cls := "TurnpikeTrustModel", name := "kind", desc := "()V" } : Jvm.MethodName)) ∈ lw_all := lw_g (lw_at lw_m9 78 rfl) rfl
theorem q2061 : (Jvm.Cond.privateMethod ({ cls := "TurnpikeTrustModel", name := "kind", desc := "()V" } : Jvm.MethodName)) ∈ lw_tbl := lw_at lw_m9 79 rfl
theorem q2062 : (Jvm.Cond.instanceMethod ({ cls := "TurnpikeTrustModel", name := "kind", desc := "()V" } : Jvm.MethodName)) ∈ lw_all := lw_g (lw_at lw_m9 80 rfl) rfl
theorem q2063 : (Jvm.Cond.code ({ cls := "TurnpikeTrustModel", name := "kind", desc := "()V" } : Jvm.MethodName) prog_33_method_22_code (2 : Nat) (Option.none : Option Jvm.ClassFile.FieldType)) ∈ lw_all := lw_g (lw_at lw_m9 81 rfl) rfl
theorem q2064 : (Jvm.Cond.methodLink "TurnpikeTrustModel" (271 : Nat) ({ cls := "TurnpikeTrustModel", name := "kindName", desc := "(I)Ljava/lang/String;" } : Jvm.MethodName)) ∈ lw_all := lw_g (lw_at lw_m9 82 rfl) rfl
theorem q2065 : (Jvm.Cond.static ({ cls := "TurnpikeTrustModel", name := "kindName", desc := "(I)Ljava/lang/String;" } : Jvm.MethodName)) ∈ lw_all := lw_g (lw_at lw_m9 83 rfl) rfl
theorem q2066 : (Jvm.Cond.code ({ cls := "TurnpikeTrustModel", name := "kindName", desc := "(I)Ljava/lang/String;" } : Jvm.MethodName) prog_33_method_23_code (1 : Nat) (Option.some (Jvm.ClassFile.FieldType.object "java/lang/String"))) ∈ lw_all := lw_g (lw_at lw_m9 84 rfl) rfl
theorem q2067 : (Jvm.Cond.stringRef "TurnpikeTrustModel" (275 : Nat) "coach") ∈ lw_tbl := lw_at lw_m9 85 rfl
theorem q2068 : (Jvm.Cond.stringRef "TurnpikeTrustModel" (277 : Nat) "cart") ∈ lw_tbl := lw_at lw_m9 86 rfl
theorem q2069 : (Jvm.Cond.stringRef "TurnpikeTrustModel" (279 : Nat) "wagon") ∈ lw_tbl := lw_at lw_m9 87 rfl
theorem q2070 : (Jvm.Cond.stringRef "TurnpikeTrustModel" (281 : Nat) "horse") ∈ lw_tbl := lw_at lw_m9 88 rfl
theorem q2071 : (Jvm.Cond.stringRef "TurnpikeTrustModel" (283 : Nat) "cattle") ∈ lw_tbl := lw_at lw_m9 89 rfl
theorem q2072 : (Jvm.Cond.stringRef "TurnpikeTrustModel" (285 : Nat) "sheep") ∈ lw_tbl := lw_at lw_m9 90 rfl
theorem q2073 : (Jvm.Cond.stringRef "TurnpikeTrustModel" (287 : Nat) "foot") ∈ lw_tbl := lw_at lw_m9 91 rfl
theorem q2074 : (Jvm.Cond.stringRef "TurnpikeTrustModel" (226 : Nat) "and") ∈ lw_tbl := lw_at lw_m9 92 rfl
theorem q2075 : (Jvm.Cond.stringRef "TurnpikeTrustModel" (214 : Nat) "or") ∈ lw_tbl := lw_at lw_m9 93 rfl
theorem q2077 : (Jvm.Cond.instanceMethod ({ cls := "TurnpikeTrustModel", name := "fault", desc := "()I" } : Jvm.MethodName)) ∈ lw_all := lw_g (lw_at lw_m9 95 rfl) rfl
theorem q2078 : (Jvm.Cond.selects "TurnpikeTrustModel" ({ cls := "TurnpikeTrustModel", name := "fault", desc := "()I" } : Jvm.MethodName) ({ cls := "TurnpikeTrustModel", name := "fault", desc := "()I" } : Jvm.MethodName)) ∈ lw_all := lw_g (lw_at lw_m9 96 rfl) rfl
theorem q2079 : (Jvm.Cond.code ({ cls := "TurnpikeTrustModel", name := "fault", desc := "()I" } : Jvm.MethodName) prog_33_method_26_code (1 : Nat) (Option.some Jvm.ClassFile.FieldType.int)) ∈ lw_all := lw_g (lw_at lw_m9 97 rfl) rfl
theorem q2081 : (Jvm.Cond.instanceMethod ({ cls := "TurnpikeTrustModel", name := "force", desc := "(I)I" } : Jvm.MethodName)) ∈ lw_all := lw_g (lw_at lw_m9 99 rfl) rfl
theorem q2082 : (Jvm.Cond.selects "TurnpikeTrustModel" ({ cls := "TurnpikeTrustModel", name := "force", desc := "(I)I" } : Jvm.MethodName) ({ cls := "TurnpikeTrustModel", name := "force", desc := "(I)I" } : Jvm.MethodName)) ∈ lw_all := lw_g (lw_at lw_m9 100 rfl) rfl
theorem q2083 : (Jvm.Cond.code ({ cls := "TurnpikeTrustModel", name := "force", desc := "(I)I" } : Jvm.MethodName) prog_33_method_28_code (2 : Nat) (Option.some Jvm.ClassFile.FieldType.int)) ∈ lw_all := lw_g (lw_at lw_m9 101 rfl) rfl
theorem q2084 : (Jvm.Cond.methodLink "TurnpikeTrustModel" (315 : Nat) ({ cls := "TurnpikeTrustModel", name := "forceOf", desc := "(I)I" } : Jvm.MethodName)) ∈ lw_all := lw_g (lw_at lw_m9 102 rfl) rfl
theorem q2085 : (Jvm.Cond.privateMethod ({ cls := "TurnpikeTrustModel", name := "forceOf", desc := "(I)I" } : Jvm.MethodName)) ∈ lw_tbl := lw_at lw_m9 103 rfl
theorem q2086 : (Jvm.Cond.instanceMethod ({ cls := "TurnpikeTrustModel", name := "forceOf", desc := "(I)I" } : Jvm.MethodName)) ∈ lw_all := lw_g (lw_at lw_m9 104 rfl) rfl
theorem q2087 : (Jvm.Cond.code ({ cls := "TurnpikeTrustModel", name := "forceOf", desc := "(I)I" } : Jvm.MethodName) prog_33_method_27_code (4 : Nat) (Option.some Jvm.ClassFile.FieldType.int)) ∈ lw_all := lw_g (lw_at lw_m9 105 rfl) rfl
theorem q2089 : (Jvm.Cond.instanceMethod ({ cls := "TurnpikeTrustModel", name := "stretch", desc := "(I)I" } : Jvm.MethodName)) ∈ lw_all := lw_g (lw_at lw_m9 107 rfl) rfl
theorem q2090 : (Jvm.Cond.selects "TurnpikeTrustModel" ({ cls := "TurnpikeTrustModel", name := "stretch", desc := "(I)I" } : Jvm.MethodName) ({ cls := "TurnpikeTrustModel", name := "stretch", desc := "(I)I" } : Jvm.MethodName)) ∈ lw_all := lw_g (lw_at lw_m9 108 rfl) rfl
theorem q2091 : (Jvm.Cond.code ({ cls := "TurnpikeTrustModel", name := "stretch", desc := "(I)I" } : Jvm.MethodName) prog_33_method_29_code (2 : Nat) (Option.some Jvm.ClassFile.FieldType.int)) ∈ lw_all := lw_g (lw_at lw_m9 109 rfl) rfl
theorem q2093 : (Jvm.Cond.instanceMethod ({ cls := "TurnpikeTrustModel", name := "gate", desc := "(I)I" } : Jvm.MethodName)) ∈ lw_all := lw_g (lw_at lw_m9 111 rfl) rfl
theorem q2094 : (Jvm.Cond.selects "TurnpikeTrustModel" ({ cls := "TurnpikeTrustModel", name := "gate", desc := "(I)I" } : Jvm.MethodName) ({ cls := "TurnpikeTrustModel", name := "gate", desc := "(I)I" } : Jvm.MethodName)) ∈ lw_all := lw_g (lw_at lw_m9 112 rfl) rfl
theorem q2095 : (Jvm.Cond.code ({ cls := "TurnpikeTrustModel", name := "gate", desc := "(I)I" } : Jvm.MethodName) prog_33_method_30_code (2 : Nat) (Option.some Jvm.ClassFile.FieldType.int)) ∈ lw_all := lw_g (lw_at lw_m9 113 rfl) rfl
theorem q2097 : (Jvm.Cond.instanceMethod ({ cls := "TurnpikeTrustModel", name := "traveller", desc := "(IIII)I" } : Jvm.MethodName)) ∈ lw_all := lw_g (lw_at lw_m9 115 rfl) rfl
theorem q2098 : (Jvm.Cond.selects "TurnpikeTrustModel" ({ cls := "TurnpikeTrustModel", name := "traveller", desc := "(IIII)I" } : Jvm.MethodName) ({ cls := "TurnpikeTrustModel", name := "traveller", desc := "(IIII)I" } : Jvm.MethodName)) ∈ lw_all := lw_g (lw_at lw_m9 116 rfl) rfl
theorem q2099 : (Jvm.Cond.code ({ cls := "TurnpikeTrustModel", name := "traveller", desc := "(IIII)I" } : Jvm.MethodName) prog_33_method_31_code (7 : Nat) (Option.some Jvm.ClassFile.FieldType.int)) ∈ lw_all := lw_g (lw_at lw_m9 117 rfl) rfl
theorem q2101 : (Jvm.Cond.instanceMethod ({ cls := "TurnpikeTrustModel", name := "pass", desc := "(II)I" } : Jvm.MethodName)) ∈ lw_all := lw_g (lw_at lw_m9 119 rfl) rfl
theorem q2102 : (Jvm.Cond.selects "TurnpikeTrustModel" ({ cls := "TurnpikeTrustModel", name := "pass", desc := "(II)I" } : Jvm.MethodName) ({ cls := "TurnpikeTrustModel", name := "pass", desc := "(II)I" } : Jvm.MethodName)) ∈ lw_all := lw_g (lw_at lw_m9 120 rfl) rfl
theorem q2103 : (Jvm.Cond.code ({ cls := "TurnpikeTrustModel", name := "pass", desc := "(II)I" } : Jvm.MethodName) prog_33_method_39_code (6 : Nat) (Option.some Jvm.ClassFile.FieldType.int)) ∈ lw_all := lw_g (lw_at lw_m9 121 rfl) rfl
theorem q2104 : (Jvm.Cond.methodLink "TurnpikeTrustModel" (351 : Nat) ({ cls := "TurnpikeTrustModel", name := "isPass", desc := "(II)Z" } : Jvm.MethodName)) ∈ lw_all := lw_g (lw_at lw_m9 122 rfl) rfl
theorem q2105 : (Jvm.Cond.privateMethod ({ cls := "TurnpikeTrustModel", name := "isPass", desc := "(II)Z" } : Jvm.MethodName)) ∈ lw_tbl := lw_at lw_m9 123 rfl
theorem q2106 : (Jvm.Cond.instanceMethod ({ cls := "TurnpikeTrustModel", name := "isPass", desc := "(II)Z" } : Jvm.MethodName)) ∈ lw_all := lw_g (lw_at lw_m9 124 rfl) rfl
theorem q2107 : (Jvm.Cond.code ({ cls := "TurnpikeTrustModel", name := "isPass", desc := "(II)Z" } : Jvm.MethodName) prog_33_method_38_code (3 : Nat) (Option.some Jvm.ClassFile.FieldType.boolean)) ∈ lw_all := lw_g (lw_at lw_m9 125 rfl) rfl
theorem q2108 : (Jvm.Cond.methodLink "TurnpikeTrustModel" (354 : Nat) ({ cls := "TurnpikeTrustModel", name := "toll", desc := "(III)I" } : Jvm.MethodName)) ∈ lw_all := lw_g (lw_at lw_m9 126 rfl) rfl
theorem q2109 : (Jvm.Cond.privateMethod ({ cls := "TurnpikeTrustModel", name := "toll", desc := "(III)I" } : Jvm.MethodName)) ∈ lw_tbl := lw_at lw_m9 127 rfl
theorem q2110 : (Jvm.Cond.instanceMethod ({ cls := "TurnpikeTrustModel", name := "toll", desc := "(III)I" } : Jvm.MethodName)) ∈ lw_all := lw_g (lw_at lw_m9 128 rfl) rfl
theorem q2111 : (Jvm.Cond.code ({ cls := "TurnpikeTrustModel", name := "toll", desc := "(III)I" } : Jvm.MethodName) prog_33_method_36_code (9 : Nat) (Option.some Jvm.ClassFile.FieldType.int)) ∈ lw_all := lw_g (lw_at lw_m9 129 rfl) rfl
theorem q2112 : (Jvm.Cond.methodLink "TurnpikeTrustModel" (341 : Nat) ({ cls := "TurnpikeTrustModel", name := "holds", desc := "(III)Z" } : Jvm.MethodName)) ∈ lw_all := lw_g (lw_at lw_m9 130 rfl) rfl
theorem q2113 : (Jvm.Cond.privateMethod ({ cls := "TurnpikeTrustModel", name := "holds", desc := "(III)Z" } : Jvm.MethodName)) ∈ lw_tbl := lw_at lw_m9 131 rfl
theorem q2114 : (Jvm.Cond.instanceMethod ({ cls := "TurnpikeTrustModel", name := "holds", desc := "(III)Z" } : Jvm.MethodName)) ∈ lw_all := lw_g (lw_at lw_m9 132 rfl) rfl
theorem q2115 : (Jvm.Cond.code ({ cls := "TurnpikeTrustModel", name := "holds", desc := "(III)Z" } : Jvm.MethodName) prog_33_method_33_code (8 : Nat) (Option.some Jvm.ClassFile.FieldType.boolean)) ∈ lw_all := lw_g (lw_at lw_m9 133 rfl) rfl
theorem q2116 : (Jvm.Cond.methodLink "TurnpikeTrustModel" (327 : Nat) ({ cls := "TurnpikeTrustModel", name := "single", desc := "(IIII)Z" } : Jvm.MethodName)) ∈ lw_all := lw_g (lw_at lw_m9 134 rfl) rfl
theorem q2117 : (Jvm.Cond.privateMethod ({ cls := "TurnpikeTrustModel", name := "single", desc := "(IIII)Z" } : Jvm.MethodName)) ∈ lw_tbl := lw_at lw_m9 135 rfl
theorem q2118 : (Jvm.Cond.instanceMethod ({ cls := "TurnpikeTrustModel", name := "single", desc := "(IIII)Z" } : Jvm.MethodName)) ∈ lw_all := lw_g (lw_at lw_m9 136 rfl) rfl
theorem q2119 : (Jvm.Cond.code ({ cls := "TurnpikeTrustModel", name := "single", desc := "(IIII)Z" } : Jvm.MethodName) prog_33_method_34_code (5 : Nat) (Option.some Jvm.ClassFile.FieldType.boolean)) ∈ lw_all := lw_g (lw_at lw_m9 137 rfl) rfl
theorem q2120 : (Jvm.Cond.methodLink "TurnpikeTrustModel" (334 : Nat) ({ cls := "TurnpikeTrustModel", name := "isSo", desc := "(III)Z" } : Jvm.MethodName)) ∈ lw_all := lw_g (lw_at lw_m9 138 rfl) rfl
theorem q2121 : (Jvm.Cond.static ({ cls := "TurnpikeTrustModel", name := "isSo", desc := "(III)Z" } : Jvm.MethodName)) ∈ lw_all := lw_g (lw_at lw_m9 139 rfl) rfl
theorem q2122 : (Jvm.Cond.code ({ cls := "TurnpikeTrustModel", name := "isSo", desc := "(III)Z" } : Jvm.MethodName) prog_33_method_32_code (3 : Nat) (Option.some Jvm.ClassFile.FieldType.boolean)) ∈ lw_all := lw_g (lw_at lw_m9 140 rfl) rfl
theorem q2123 : (Jvm.Cond.methodLink "TurnpikeTrustModel" (344 : Nat) ({ cls := "TurnpikeTrustModel", name := "paid", desc := "(IIIIII)I" } : Jvm.MethodName)) ∈ lw_all := lw_g (lw_at lw_m9 141 rfl) rfl
theorem q2124 : (Jvm.Cond.privateMethod ({ cls := "TurnpikeTrustModel", name := "paid", desc := "(IIIIII)I" } : Jvm.MethodName)) ∈ lw_tbl := lw_at lw_m9 142 rfl
theorem q2125 : (Jvm.Cond.instanceMethod ({ cls := "TurnpikeTrustModel", name := "paid", desc := "(IIIIII)I" } : Jvm.MethodName)) ∈ lw_all := lw_g (lw_at lw_m9 143 rfl) rfl
theorem q2126 : (Jvm.Cond.code ({ cls := "TurnpikeTrustModel", name := "paid", desc := "(IIIIII)I" } : Jvm.MethodName) prog_33_method_37_code (11 : Nat) (Option.some Jvm.ClassFile.FieldType.int)) ∈ lw_all := lw_g (lw_at lw_m9 144 rfl) rfl
theorem q2127 : (Jvm.Cond.methodLink "TurnpikeTrustModel" (348 : Nat) ({ cls := "TurnpikeTrustModel", name := "paidAnywhere", desc := "(I)Z" } : Jvm.MethodName)) ∈ lw_all := lw_g (lw_at lw_m9 145 rfl) rfl
theorem q2128 : (Jvm.Cond.privateMethod ({ cls := "TurnpikeTrustModel", name := "paidAnywhere", desc := "(I)Z" } : Jvm.MethodName)) ∈ lw_tbl := lw_at lw_m9 146 rfl
theorem q2129 : (Jvm.Cond.instanceMethod ({ cls := "TurnpikeTrustModel", name := "paidAnywhere", desc := "(I)Z" } : Jvm.MethodName)) ∈ lw_all := lw_g (lw_at lw_m9 147 rfl) rfl
theorem q2130 : (Jvm.Cond.code ({ cls := "TurnpikeTrustModel", name := "paidAnywhere", desc := "(I)Z" } : Jvm.MethodName) prog_33_method_35_code (4 : Nat) (Option.some Jvm.ClassFile.FieldType.boolean)) ∈ lw_all := lw_g (lw_at lw_m9 148 rfl) rfl
theorem q2131 : (Jvm.Cond.constantLong "TurnpikeTrustModel" (357 : Nat) (6 : Int64)) ∈ lw_all := lw_g (lw_at lw_m9 149 rfl) rfl
theorem q2132 : (Jvm.Cond.constantLong "TurnpikeTrustModel" (359 : Nat) (4 : Int64)) ∈ lw_all := lw_g (lw_at lw_m9 150 rfl) rfl
theorem q2133 : (Jvm.Cond.constantLong "TurnpikeTrustModel" (361 : Nat) (2 : Int64)) ∈ lw_all := lw_g (lw_at lw_m9 151 rfl) rfl
theorem q2134 : (Jvm.Cond.methodLink "TurnpikeTrustModel" (366 : Nat) ({ cls := "TurnpikeTrustModel", name := "line", desc := "(IIJ)V" } : Jvm.MethodName)) ∈ lw_all := lw_g (lw_at lw_m9 152 rfl) rfl
theorem q2135 : (Jvm.Cond.privateMethod ({ cls := "TurnpikeTrustModel", name := "line", desc := "(IIJ)V" } : Jvm.MethodName)) ∈ lw_tbl := lw_at lw_m9 153 rfl
theorem q2136 : (Jvm.Cond.instanceMethod ({ cls := "TurnpikeTrustModel", name := "line", desc := "(IIJ)V" } : Jvm.MethodName)) ∈ lw_all := lw_g (lw_at lw_m9 154 rfl) rfl
theorem q2137 : (Jvm.Cond.code ({ cls := "TurnpikeTrustModel", name := "line", desc := "(IIJ)V" } : Jvm.MethodName) prog_33_method_42_code (5 : Nat) (Option.none : Option Jvm.ClassFile.FieldType)) ∈ lw_all := lw_g (lw_at lw_m9 155 rfl) rfl
theorem q2139 : (Jvm.Cond.instanceMethod ({ cls := "TurnpikeTrustModel", name := "clause", desc := "()I" } : Jvm.MethodName)) ∈ lw_all := lw_g (lw_at lw_m9 157 rfl) rfl
theorem q2140 : (Jvm.Cond.selects "TurnpikeTrustModel" ({ cls := "TurnpikeTrustModel", name := "clause", desc := "()I" } : Jvm.MethodName) ({ cls := "TurnpikeTrustModel", name := "clause", desc := "()I" } : Jvm.MethodName)) ∈ lw_all := lw_g (lw_at lw_m9 158 rfl) rfl
theorem q2141 : (Jvm.Cond.code ({ cls := "TurnpikeTrustModel", name := "clause", desc := "()I" } : Jvm.MethodName) prog_33_method_40_code (1 : Nat) (Option.some Jvm.ClassFile.FieldType.int)) ∈ lw_all := lw_g (lw_at lw_m9 159 rfl) rfl
theorem q2143 : (Jvm.Cond.instanceMethod ({ cls := "TurnpikeTrustModel", name := "asked", desc := "(III)I" } : Jvm.MethodName)) ∈ lw_all := lw_g (lw_at lw_m9 161 rfl) rfl
theorem q2144 : (Jvm.Cond.selects "TurnpikeTrustModel" ({ cls := "TurnpikeTrustModel", name := "asked", desc := "(III)I" } : Jvm.MethodName) ({ cls := "TurnpikeTrustModel", name := "asked", desc := "(III)I" } : Jvm.MethodName)) ∈ lw_all := lw_g (lw_at lw_m9 162 rfl) rfl
theorem q2145 : (Jvm.Cond.code ({ cls := "TurnpikeTrustModel", name := "asked", desc := "(III)I" } : Jvm.MethodName) prog_33_method_41_code (4 : Nat) (Option.some Jvm.ClassFile.FieldType.int)) ∈ lw_all := lw_g (lw_at lw_m9 163 rfl) rfl
theorem q2147 : (Jvm.Cond.instanceMethod ({ cls := "TurnpikeTrustModel", name := "farmer", desc := "(I)I" } : Jvm.MethodName)) ∈ lw_all := lw_g (lw_at lw_m9 165 rfl) rfl
theorem q2148 : (Jvm.Cond.selects "TurnpikeTrustModel" ({ cls := "TurnpikeTrustModel", name := "farmer", desc := "(I)I" } : Jvm.MethodName) ({ cls := "TurnpikeTrustModel", name := "farmer", desc := "(I)I" } : Jvm.MethodName)) ∈ lw_all := lw_g (lw_at lw_m9 166 rfl) rfl
theorem q2149 : (Jvm.Cond.code ({ cls := "TurnpikeTrustModel", name := "farmer", desc := "(I)I" } : Jvm.MethodName) prog_33_method_43_code (2 : Nat) (Option.some Jvm.ClassFile.FieldType.int)) ∈ lw_all := lw_g (lw_at lw_m9 167 rfl) rfl
theorem q2150 : (Jvm.Cond.constant "TurnpikeTrustModel" (377 : Nat) (1000000000 : Int32)) ∈ lw_all := lw_g (lw_at lw_m9 168 rfl) rfl
theorem q2152 : (Jvm.Cond.instanceMethod ({ cls := "TurnpikeTrustModel", name := "bid", desc := "(IIII)I" } : Jvm.MethodName)) ∈ lw_all := lw_g (lw_at lw_m9 170 rfl) rfl
theorem q2153 : (Jvm.Cond.selects "TurnpikeTrustModel" ({ cls := "TurnpikeTrustModel", name := "bid", desc := "(IIII)I" } : Jvm.MethodName) ({ cls := "TurnpikeTrustModel", name := "bid", desc := "(IIII)I" } : Jvm.MethodName)) ∈ lw_all := lw_g (lw_at lw_m9 171 rfl) rfl
theorem q2154 : (Jvm.Cond.code ({ cls := "TurnpikeTrustModel", name := "bid", desc := "(IIII)I" } : Jvm.MethodName) prog_33_method_45_code (6 : Nat) (Option.some Jvm.ClassFile.FieldType.int)) ∈ lw_all := lw_g (lw_at lw_m9 172 rfl) rfl
theorem q2155 : (Jvm.Cond.methodLink "TurnpikeTrustModel" (382 : Nat) ({ cls := "TurnpikeTrustModel", name := "isSum", desc := "(I)Z" } : Jvm.MethodName)) ∈ lw_all := lw_g (lw_at lw_m9 173 rfl) rfl
theorem q2156 : (Jvm.Cond.static ({ cls := "TurnpikeTrustModel", name := "isSum", desc := "(I)Z" } : Jvm.MethodName)) ∈ lw_all := lw_g (lw_at lw_m9 174 rfl) rfl
theorem q2157 : (Jvm.Cond.code ({ cls := "TurnpikeTrustModel", name := "isSum", desc := "(I)Z" } : Jvm.MethodName) prog_33_method_44_code (1 : Nat) (Option.some Jvm.ClassFile.FieldType.boolean)) ∈ lw_all := lw_g (lw_at lw_m9 175 rfl) rfl
theorem q2158 : (Jvm.Cond.constant "TurnpikeTrustModel" (381 : Nat) (10000000 : Int32)) ∈ lw_all := lw_g (lw_at lw_m9 176 rfl) rfl
theorem q2160 : (Jvm.Cond.instanceMethod ({ cls := "TurnpikeTrustModel", name := "let", desc := "(II)I" } : Jvm.MethodName)) ∈ lw_all := lw_g (lw_at lw_m9 178 rfl) rfl
theorem q2161 : (Jvm.Cond.selects "TurnpikeTrustModel" ({ cls := "TurnpikeTrustModel", name := "let", desc := "(II)I" } : Jvm.MethodName) ({ cls := "TurnpikeTrustModel", name := "let", desc := "(II)I" } : Jvm.MethodName)) ∈ lw_all := lw_g (lw_at lw_m9 179 rfl) rfl
theorem q2162 : (Jvm.Cond.code ({ cls := "TurnpikeTrustModel", name := "let", desc := "(II)I" } : Jvm.MethodName) prog_33_method_46_code (6 : Nat) (Option.some Jvm.ClassFile.FieldType.int)) ∈ lw_all := lw_g (lw_at lw_m9 180 rfl) rfl
theorem q2163 : (Jvm.Cond.methodLink "TurnpikeTrustModel" (385 : Nat) ({ cls := "TurnpikeTrustModel", name := "rentDue", desc := "(I)V" } : Jvm.MethodName)) ∈ lw_all := lw_g (lw_at lw_m9 181 rfl) rfl
theorem q2164 : (Jvm.Cond.privateMethod ({ cls := "TurnpikeTrustModel", name := "rentDue", desc := "(I)V" } : Jvm.MethodName)) ∈ lw_tbl := lw_at lw_m9 182 rfl
theorem q2165 : (Jvm.Cond.instanceMethod ({ cls := "TurnpikeTrustModel", name := "rentDue", desc := "(I)V" } : Jvm.MethodName)) ∈ lw_all := lw_g (lw_at lw_m9 183 rfl) rfl
theorem q2166 : (Jvm.Cond.code ({ cls := "TurnpikeTrustModel", name := "rentDue", desc := "(I)V" } : Jvm.MethodName) prog_33_method_47_code (3 : Nat) (Option.none : Option Jvm.ClassFile.FieldType)) ∈ lw_all := lw_g (lw_at lw_m9 184 rfl) rfl
theorem q2168 : (Jvm.Cond.instanceMethod ({ cls := "TurnpikeTrustModel", name := "gateTold", desc := "(II)I" } : Jvm.MethodName)) ∈ lw_all := lw_g (lw_at lw_m9 186 rfl) rfl
theorem q2169 : (Jvm.Cond.selects "TurnpikeTrustModel" ({ cls := "TurnpikeTrustModel", name := "gateTold", desc := "(II)I" } : Jvm.MethodName) ({ cls := "TurnpikeTrustModel", name := "gateTold", desc := "(II)I" } : Jvm.MethodName)) ∈ lw_all := lw_g (lw_at lw_m9 187 rfl) rfl
theorem q2170 : (Jvm.Cond.code ({ cls := "TurnpikeTrustModel", name := "gateTold", desc := "(II)I" } : Jvm.MethodName) prog_33_method_48_code (4 : Nat) (Option.some Jvm.ClassFile.FieldType.int)) ∈ lw_all := lw_g (lw_at lw_m9 188 rfl) rfl
theorem q2172 : (Jvm.Cond.instanceMethod ({ cls := "TurnpikeTrustModel", name := "borrow", desc := "(III)I" } : Jvm.MethodName)) ∈ lw_all := lw_g (lw_at lw_m9 190 rfl) rfl
theorem q2173 : (Jvm.Cond.selects "TurnpikeTrustModel" ({ cls := "TurnpikeTrustModel", name := "borrow", desc := "(III)I" } : Jvm.MethodName) ({ cls := "TurnpikeTrustModel", name := "borrow", desc := "(III)I" } : Jvm.MethodName)) ∈ lw_all := lw_g (lw_at lw_m9 191 rfl) rfl
theorem q2174 : (Jvm.Cond.code ({ cls := "TurnpikeTrustModel", name := "borrow", desc := "(III)I" } : Jvm.MethodName) prog_33_method_49_code (4 : Nat) (Option.some Jvm.ClassFile.FieldType.int)) ∈ lw_all := lw_g (lw_at lw_m9 192 rfl) rfl
theorem q2176 : (Jvm.Cond.instanceMethod ({ cls := "TurnpikeTrustModel", name := "repay", desc := "(II)I" } : Jvm.MethodName)) ∈ lw_all := lw_g (lw_at lw_m9 194 rfl) rfl
theorem q2177 : (Jvm.Cond.selects "TurnpikeTrustModel" ({ cls := "TurnpikeTrustModel", name := "repay", desc := "(II)I" } : Jvm.MethodName) ({ cls := "TurnpikeTrustModel", name := "repay", desc := "(II)I" } : Jvm.MethodName)) ∈ lw_all := lw_g (lw_at lw_m9 195 rfl) rfl
theorem q2178 : (Jvm.Cond.code ({ cls := "TurnpikeTrustModel", name := "repay", desc := "(II)I" } : Jvm.MethodName) prog_33_method_50_code (3 : Nat) (Option.some Jvm.ClassFile.FieldType.int)) ∈ lw_all := lw_g (lw_at lw_m9 196 rfl) rfl
theorem q2180 : (Jvm.Cond.instanceMethod ({ cls := "TurnpikeTrustModel", name := "loan", desc := "(II)J" } : Jvm.MethodName)) ∈ lw_all := lw_g (lw_at lw_m9 198 rfl) rfl
theorem q2181 : (Jvm.Cond.selects "TurnpikeTrustModel" ({ cls := "TurnpikeTrustModel", name := "loan", desc := "(II)J" } : Jvm.MethodName) ({ cls := "TurnpikeTrustModel", name := "loan", desc := "(II)J" } : Jvm.MethodName)) ∈ lw_all := lw_g (lw_at lw_m9 199 rfl) rfl
theorem q2182 : (Jvm.Cond.code ({ cls := "TurnpikeTrustModel", name := "loan", desc := "(II)J" } : Jvm.MethodName) prog_33_method_51_code (3 : Nat) (Option.some Jvm.ClassFile.FieldType.long)) ∈ lw_all := lw_g (lw_at lw_m9 200 rfl) rfl
theorem q2184 : (Jvm.Cond.instanceMethod ({ cls := "TurnpikeTrustModel", name := "wait", desc := "(I)I" } : Jvm.MethodName)) ∈ lw_all := lw_g (lw_at lw_m9 202 rfl) rfl
theorem q2185 : (Jvm.Cond.selects "TurnpikeTrustModel" ({ cls := "TurnpikeTrustModel", name := "wait", desc := "(I)I" } : Jvm.MethodName) ({ cls := "TurnpikeTrustModel", name := "wait", desc := "(I)I" } : Jvm.MethodName)) ∈ lw_all := lw_g (lw_at lw_m9 203 rfl) rfl
theorem q2186 : (Jvm.Cond.code ({ cls := "TurnpikeTrustModel", name := "wait", desc := "(I)I" } : Jvm.MethodName) prog_33_method_54_code (4 : Nat) (Option.some Jvm.ClassFile.FieldType.int)) ∈ lw_all := lw_g (lw_at lw_m9 204 rfl) rfl
theorem q2187 : (Jvm.Cond.methodLink "TurnpikeTrustModel" (396 : Nat) ({ cls := "TurnpikeTrustModel", name := "interest", desc := "()V" } : Jvm.MethodName)) ∈ lw_all := lw_g (lw_at lw_m9 205 rfl) rfl
theorem q2188 : (Jvm.Cond.privateMethod ({ cls := "TurnpikeTrustModel", name := "interest", desc := "()V" } : Jvm.MethodName)) ∈ lw_tbl := lw_at lw_m9 206 rfl
theorem q2189 : (Jvm.Cond.instanceMethod ({ cls := "TurnpikeTrustModel", name := "interest", desc := "()V" } : Jvm.MethodName)) ∈ lw_all := lw_g (lw_at lw_m9 207 rfl) rfl
theorem q2190 : (Jvm.Cond.code ({ cls := "TurnpikeTrustModel", name := "interest", desc := "()V" } : Jvm.MethodName) prog_33_method_52_code (2 : Nat) (Option.none : Option Jvm.ClassFile.FieldType)) ∈ lw_all := lw_g (lw_at lw_m9 208 rfl) rfl
theorem q2191 : (Jvm.Cond.constantLong "TurnpikeTrustModel" (391 : Nat) (1000 : Int64)) ∈ lw_all := lw_g (lw_at lw_m9 209 rfl) rfl
theorem q2192 : (Jvm.Cond.methodLink "TurnpikeTrustModel" (393 : Nat) ({ cls := "TurnpikeTrustModel", name := "rank", desc := "(I)V" } : Jvm.MethodName)) ∈ lw_all := lw_g (lw_at lw_m9 210 rfl) rfl
theorem q2193 : (Jvm.Cond.privateMethod ({ cls := "TurnpikeTrustModel", name := "rank", desc := "(I)V" } : Jvm.MethodName)) ∈ lw_tbl := lw_at lw_m9 211 rfl
theorem q2194 : (Jvm.Cond.instanceMethod ({ cls := "TurnpikeTrustModel", name := "rank", desc := "(I)V" } : Jvm.MethodName)) ∈ lw_all := lw_g (lw_at lw_m9 212 rfl) rfl
theorem q2195 : (Jvm.Cond.code ({ cls := "TurnpikeTrustModel", name := "rank", desc := "(I)V" } : Jvm.MethodName) prog_33_method_53_code (12 : Nat) (Option.none : Option Jvm.ClassFile.FieldType)) ∈ lw_all := lw_g (lw_at lw_m9 213 rfl) rfl
theorem q2197 : (Jvm.Cond.instanceMethod ({ cls := "TurnpikeTrustModel", name := "rain", desc := "(I)V" } : Jvm.MethodName)) ∈ lw_all := lw_g (lw_at lw_m9 215 rfl) rfl
theorem q2198 : (Jvm.Cond.selects "TurnpikeTrustModel" ({ cls := "TurnpikeTrustModel", name := "rain", desc := "(I)V" } : Jvm.MethodName) ({ cls := "TurnpikeTrustModel", name := "rain", desc := "(I)V" } : Jvm.MethodName)) ∈ lw_all := lw_g (lw_at lw_m9 216 rfl) rfl
theorem q2199 : (Jvm.Cond.code ({ cls := "TurnpikeTrustModel", name := "rain", desc := "(I)V" } : Jvm.MethodName) prog_33_method_55_code (2 : Nat) (Option.none : Option Jvm.ClassFile.FieldType)) ∈ lw_all := lw_g (lw_at lw_m9 217 rfl) rfl
theorem q2201 : (Jvm.Cond.instanceMethod ({ cls := "TurnpikeTrustModel", name := "mend", desc := "(I)I" } : Jvm.MethodName)) ∈ lw_all := lw_g (lw_at lw_m9 219 rfl) rfl
theorem q2202 : (Jvm.Cond.selects "TurnpikeTrustModel" ({ cls := "TurnpikeTrustModel", name := "mend", desc := "(I)I" } : Jvm.MethodName) ({ cls := "TurnpikeTrustModel", name := "mend", desc := "(I)I" } : Jvm.MethodName)) ∈ lw_all := lw_g (lw_at lw_m9 220 rfl) rfl
theorem q2203 : (Jvm.Cond.code ({ cls := "TurnpikeTrustModel", name := "mend", desc := "(I)I" } : Jvm.MethodName) prog_33_method_56_code (5 : Nat) (Option.some Jvm.ClassFile.FieldType.int)) ∈ lw_all := lw_g (lw_at lw_m9 221 rfl) rfl
theorem q2204 : (Jvm.Cond.methodLink "TurnpikeTrustModel" (399 : Nat) ({ cls := "TurnpikeTrustModel", name := "takes", desc := "(I)J" } : Jvm.MethodName)) ∈ lw_all := lw_g (lw_at lw_m9 222 rfl) rfl
theorem q2205 : (Jvm.Cond.privateMethod ({ cls := "TurnpikeTrustModel", name := "takes", desc := "(I)J" } : Jvm.MethodName)) ∈ lw_tbl := lw_at lw_m9 223 rfl
theorem q2206 : (Jvm.Cond.instanceMethod ({ cls := "TurnpikeTrustModel", name := "takes", desc := "(I)J" } : Jvm.MethodName)) ∈ lw_all := lw_g (lw_at lw_m9 224 rfl) rfl
theorem q2207 : (Jvm.Cond.code ({ cls := "TurnpikeTrustModel", name := "takes", desc := "(I)J" } : Jvm.MethodName) prog_33_method_57_code (2 : Nat) (Option.some Jvm.ClassFile.FieldType.long)) ∈ lw_all := lw_g (lw_at lw_m9 225 rfl) rfl
theorem q2208 : (Jvm.Cond.constantLong "TurnpikeTrustModel" (403 : Nat) (50 : Int64)) ∈ lw_all := lw_g (lw_at lw_m9 226 rfl) rfl
theorem q2210 : (Jvm.Cond.instanceMethod ({ cls := "TurnpikeTrustModel", name := "money", desc := "(I)J" } : Jvm.MethodName)) ∈ lw_all := lw_g (lw_at lw_m9 228 rfl) rfl
theorem q2211 : (Jvm.Cond.selects "TurnpikeTrustModel" ({ cls := "TurnpikeTrustModel", name := "money", desc := "(I)J" } : Jvm.MethodName) ({ cls := "TurnpikeTrustModel", name := "money", desc := "(I)J" } : Jvm.MethodName)) ∈ lw_all := lw_g (lw_at lw_m9 229 rfl) rfl
theorem q2212 : (Jvm.Cond.code ({ cls := "TurnpikeTrustModel", name := "money", desc := "(I)J" } : Jvm.MethodName) prog_33_method_59_code (2 : Nat) (Option.some Jvm.ClassFile.FieldType.long)) ∈ lw_all := lw_g (lw_at lw_m9 230 rfl) rfl
theorem q2213 : (Jvm.Cond.methodLink "TurnpikeTrustModel" (405 : Nat) ({ cls := "TurnpikeTrustModel", name := "no", desc := "(II)Z" } : Jvm.MethodName)) ∈ lw_all := lw_g (lw_at lw_m9 231 rfl) rfl
theorem q2214 : (Jvm.Cond.privateMethod ({ cls := "TurnpikeTrustModel", name := "no", desc := "(II)Z" } : Jvm.MethodName)) ∈ lw_tbl := lw_at lw_m9 232 rfl
theorem q2215 : (Jvm.Cond.instanceMethod ({ cls := "TurnpikeTrustModel", name := "no", desc := "(II)Z" } : Jvm.MethodName)) ∈ lw_all := lw_g (lw_at lw_m9 233 rfl) rfl
theorem q2216 : (Jvm.Cond.code ({ cls := "TurnpikeTrustModel", name := "no", desc := "(II)Z" } : Jvm.MethodName) prog_33_method_58_code (3 : Nat) (Option.some Jvm.ClassFile.FieldType.boolean)) ∈ lw_all := lw_g (lw_at lw_m9 234 rfl) rfl
theorem q2218 : (Jvm.Cond.instanceMethod ({ cls := "TurnpikeTrustModel", name := "wear", desc := "(I)J" } : Jvm.MethodName)) ∈ lw_all := lw_g (lw_at lw_m9 236 rfl) rfl
theorem q2219 : (Jvm.Cond.selects "TurnpikeTrustModel" ({ cls := "TurnpikeTrustModel", name := "wear", desc := "(I)J" } : Jvm.MethodName) ({ cls := "TurnpikeTrustModel", name := "wear", desc := "(I)J" } : Jvm.MethodName)) ∈ lw_all := lw_g (lw_at lw_m9 237 rfl) rfl
theorem q2220 : (Jvm.Cond.code ({ cls := "TurnpikeTrustModel", name := "wear", desc := "(I)J" } : Jvm.MethodName) prog_33_method_60_code (2 : Nat) (Option.some Jvm.ClassFile.FieldType.long)) ∈ lw_all := lw_g (lw_at lw_m9 238 rfl) rfl
theorem q2222 : (Jvm.Cond.instanceMethod ({ cls := "TurnpikeTrustModel", name := "box", desc := "(I)J" } : Jvm.MethodName)) ∈ lw_all := lw_g (lw_at lw_m10 0 rfl) rfl
theorem q2223 : (Jvm.Cond.selects "TurnpikeTrustModel" ({ cls := "TurnpikeTrustModel", name := "box", desc := "(I)J" } : Jvm.MethodName) ({ cls := "TurnpikeTrustModel", name := "box", desc := "(I)J" } : Jvm.MethodName)) ∈ lw_all := lw_g (lw_at lw_m10 1 rfl) rfl
theorem q2224 : (Jvm.Cond.code ({ cls := "TurnpikeTrustModel", name := "box", desc := "(I)J" } : Jvm.MethodName) prog_33_method_61_code (5 : Nat) (Option.some Jvm.ClassFile.FieldType.long)) ∈ lw_all := lw_g (lw_at lw_m10 2 rfl) rfl
theorem q2226 : (Jvm.Cond.instanceMethod ({ cls := "TurnpikeTrustModel", name := "journal", desc := "(II)J" } : Jvm.MethodName)) ∈ lw_all := lw_g (lw_at lw_m10 4 rfl) rfl
theorem q2227 : (Jvm.Cond.selects "TurnpikeTrustModel" ({ cls := "TurnpikeTrustModel", name := "journal", desc := "(II)J" } : Jvm.MethodName) ({ cls := "TurnpikeTrustModel", name := "journal", desc := "(II)J" } : Jvm.MethodName)) ∈ lw_all := lw_g (lw_at lw_m10 5 rfl) rfl
theorem q2228 : (Jvm.Cond.code ({ cls := "TurnpikeTrustModel", name := "journal", desc := "(II)J" } : Jvm.MethodName) prog_33_method_62_code (3 : Nat) (Option.some Jvm.ClassFile.FieldType.long)) ∈ lw_all := lw_g (lw_at lw_m10 6 rfl) rfl
theorem q2230 : (Jvm.Cond.instanceMethod ({ cls := "TurnpikeTrustModel", name := "count", desc := "(I)I" } : Jvm.MethodName)) ∈ lw_all := lw_g (lw_at lw_m10 8 rfl) rfl
theorem q2231 : (Jvm.Cond.selects "TurnpikeTrustModel" ({ cls := "TurnpikeTrustModel", name := "count", desc := "(I)I" } : Jvm.MethodName) ({ cls := "TurnpikeTrustModel", name := "count", desc := "(I)I" } : Jvm.MethodName)) ∈ lw_all := lw_g (lw_at lw_m10 9 rfl) rfl
theorem q2232 : (Jvm.Cond.code ({ cls := "TurnpikeTrustModel", name := "count", desc := "(I)I" } : Jvm.MethodName) prog_33_method_63_code (2 : Nat) (Option.some Jvm.ClassFile.FieldType.int)) ∈ lw_all := lw_g (lw_at lw_m10 10 rfl) rfl
theorem q2260 : (Jvm.Cond.castable "TurnpikeTrustModel" "java/lang/Object") ∈ lw_tbl := lw_at lw_m10 38 rfl
theorem in_X4 : ∀ w ∈ wsX40, w ∈ lw_all := lw_in wsX40 [1814, 1816, 1818, 1820, 1822, 1824, 1826, 1828, 1830, 1832, 1834, 1836, 1838, 1840, 1842, 1844, 1846, 1848, 1850, 1852, 1854, 1856, 1858, 1860, 1862, 1864, 1866, 1868, 1870, 1872, 1874, 1876, 1878, 1880, 1882, 1884, 1886, 1888, 1890, 1892, 1894, 1896, 1898, 1900, 1902, 1904, 1906, 1908, 1910, 1912, 1914, 1916, 1918, 1920, 1922, 1924, 1926, 1928, 1930, 1932, 1934, 1936] (by decide +kernel) (by decide +kernel)
