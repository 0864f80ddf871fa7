/-! THE COMPONENT: what days leave, in plain numbers -/
set_option maxRecDepth 100000
/-- rents to come -/
def tL (A : Nat → Nat → Int32) (n : Nat) : Nat := if A 50 n < 0 then 0 else (A 54 n).toInt.toNat
def zL (A : Nat → Nat → Int32) : Nat → Nat
  | 0 => 0
  | n + 1 => zL A n + tL A n
theorem zL_same {A A' : Nat → Nat → Int32} : ∀ {n : Nat}, (∀ j, j < n → A' 50 j = A 50 j ∧ A' 54 j = A 54 j) → zL A' n = zL A n := by
  intro n
  induction n with
  | zero => intro _; rfl
  | succ n ih =>
    intro h
    simp only [zL, tL]
    rw [ih (fun j hj => h j (by omega)), (h n (by omega)).1, (h n (by omega)).2]
theorem zL_at {A A' : Nat → Nat → Int32} {k : Nat} : ∀ {n : Nat}, k < n → (∀ j, j < n → j ≠ k → A' 50 j = A 50 j ∧ A' 54 j = A 54 j) → zL A' n + tL A k = zL A n + tL A' k := by
  intro n
  induction n with
  | zero => intro h; omega
  | succ n ih =>
    intro hk h
    simp only [zL]
    by_cases y : k = n
    · subst y
      rw [zL_same (fun j hj => h j (by omega) (by omega))]
      omega
    · have := ih (by omega) (fun j hj hne => h j (by omega) hne)
      have e : tL A' n = tL A n := by
        unfold tL
        rw [(h n (by omega) (by omega)).1, (h n (by omega) (by omega)).2]
      omega
/-- loans, leases, box and days are in their bounds -/
def wLs (A : Nat → Nat → Int32) (u nf : Nat) : Prop := ∀ j, j < u → ¬ A 50 j < 0 → A 50 j = nI (ix (A 50 j)) ∧ ix (A 50 j) < nf ∧ (0 ≤ (A 51 j).toInt ∧ (A 51 j).toInt ≤ 10000000) ∧ (0 ≤ (A 52 j).toInt ∧ (A 52 j).toInt ≤ 10000000) ∧ 0 ≤ (A 54 j).toInt ∧ (A 54 j).toInt ≤ 40
def wLn (A : Nat → Nat → Int32) (N : Nat) : Prop := ∀ k, k < N → (0 ≤ (A 55 k).toInt ∧ (A 55 k).toInt ≤ 10000000) ∧ 0 ≤ (A 56 k).toInt ∧ (A 56 k).toInt ≤ 500
def wDy (A : Nat → Nat → Int32) : Prop := (0 ≤ (A 32 0).toInt ∧ (A 32 0).toInt ≤ 9999) ∧ 0 ≤ (A 33 0).toInt
def wDu (A : Nat → Nat → Int32) (B : Nat → Nat → Int64) (N : Nat) : Prop := ∀ k, k < N → 0 ≤ (B 58 k).toInt ∧ (B 58 k).toInt ≤ 5000000 * ((A 32 0).toInt / 365)
def wBx (B : Nat → Nat → Int64) (nl : Nat) : Prop := 0 ≤ (B 43 0).toInt ∧ (B 43 0).toInt ≤ 10000000 * nl
def wOk (N u nf : Nat) (s : mS) : Prop := s.1 42 0 = nI s.2.2.1 ∧ s.1 61 0 = nI N ∧ s.1 31 0 = nI u ∧ wDy s.1 ∧ wLn s.1 N ∧ wDu s.1 s.2.1 N ∧ wBx s.2.1 s.2.2.1 ∧ wLs s.1 u nf
theorem box_up {B : Nat → Nat → Int64} {nl : Nat} (h : wBx B nl) (hn : nl < 400000) {x : Int32} (hx : 0 ≤ x.toInt ∧ x.toInt ≤ 10000000) : wBx (mB B 43 0 (B 43 0 + x.toInt64)) (nl + 1) := by
  unfold wBx at h ⊢
  rw [mB_rd]
  have e : (B 43 0 + x.toInt64).toInt = (B 43 0).toInt + x.toInt := by
    rw [Int64.toInt_add, Int32.toInt_toInt64, bm_in] <;> omega
  rw [e]
  omega
theorem sRentA_k (A : Nat → Nat → Int32) (B : Nat → Nat → Int64) (j f nl : Nat) {k : Nat} (h : k ≠ 38 ∧ k ≠ 39 ∧ k ≠ 40 ∧ k ≠ 41 ∧ k ≠ 42) (h2 : k ≠ 50 ∧ k ≠ 53 ∧ k ≠ 54) : sRentA A B j f nl k = A k := by
  have hL : ∀ (kd w : Int32) (s : Int64), sLineA A nl kd w s k = A k := by
    intro kd w s
    unfold sLineA
    rw [mA_n _ _ _ h.2.2.2.2, mA_n _ _ _ h.2.2.2.1, mA_n _ _ _ h.2.2.1, mA_n _ _ _ h.2.1, mA_n _ _ _ h.1]
  unfold sRentA
  split
  · rw [mA_n _ _ _ h2.1]
  · split
    · rw [mA_n _ _ _ h2.1, hL]
    · rw [mA_n _ _ _ h2.2.1, mA_n _ _ _ h2.2.2, hL]
theorem sLineA_k (A : Nat → Nat → Int32) (nl : Nat) (kd w : Int32) (s : Int64) {k : Nat} (h : k ≠ 38 ∧ k ≠ 39 ∧ k ≠ 40 ∧ k ≠ 41 ∧ k ≠ 42) : sLineA A nl kd w s k = A k := by
  unfold sLineA
  rw [mA_n _ _ _ h.2.2.2.2, mA_n _ _ _ h.2.2.2.1, mA_n _ _ _ h.2.2.1, mA_n _ _ _ h.2.1, mA_n _ _ _ h.1]
theorem sRentB_58 (A : Nat → Nat → Int32) (B : Nat → Nat → Int64) (j f : Nat) {k : Nat} (h : k ≠ 43 ∧ k ≠ 44) : sRentB A B j f k = B k := by
  unfold sRentB
  split
  · rw [mB_n _ _ _ h.2]
  · split
    · rw [mB_n _ _ _ h.1]
    · rw [mB_n _ _ _ h.1, mB_n _ _ _ h.2]
/-- the leases behind a rent -/
theorem rent_ls {A : Nat → Nat → Int32} {B : Nat → Nat → Int64} {u nf k f nl : Nat} (h : wLs A u nf) (hk : k < u) (hz : ¬ A 50 k < 0) : wLs (sRentA A B k f nl) u nf ∧ (if sRentC A B k f = 0 then nl else nl + 1) + zL (sRentA A B k f nl) u ≤ nl + zL A u ∧ (∀ j, ¬ sRentA A B k f nl 50 j < 0 → sRentA A B k f nl 50 j = A 50 j) := by
  have e51 : sRentA A B k f nl 51 = A 51 := sRentA_k A B k f nl (by decide) (by decide)
  have e52 : sRentA A B k f nl 52 = A 52 := sRentA_k A B k f nl (by decide) (by decide)
  have hk54 := (h k hk hz).2.2.2.2
  have t0 : tL A k = (A 54 k).toInt.toNat := if_neg hz
  by_cases c0 : sRentC A B k f = 0
  · have eA : sRentA A B k f nl = mA A 50 k (-1) := if_pos c0
    have e50 : ∀ j, j ≠ k → sRentA A B k f nl 50 j = A 50 j := fun j hj => by rw [eA, mA_rn _ _ _ hj]
    have e50k : sRentA A B k f nl 50 k = -1 := by rw [eA, mA_rd]
    have e54 : sRentA A B k f nl 54 = A 54 := by rw [eA, mA_n _ _ _ (by decide)]
    refine ⟨fun j hj hn => ?_, ?_, fun j hn => ?_⟩
    · by_cases y : j = k
      · subst y; rw [e50k] at hn; exact absurd (by decide) hn
      · rw [e50 j y] at hn ⊢
        rw [e51, e52, e54]
        exact h j hj hn
    · rw [if_pos c0]
      have := zL_at (A := A) (A' := sRentA A B k f nl) hk (fun j _ hne => ⟨e50 j hne, by rw [e54]⟩)
      have t1 : tL (sRentA A B k f nl) k = 0 := if_pos (by rw [e50k]; decide)
      omega
    · by_cases y : j = k
      · subst y; rw [e50k] at hn; exact absurd (by decide) hn
      · exact e50 j y
  · by_cases c1 : sRentC A B k f = 1
    · have eA : sRentA A B k f nl = mA (sLineA A nl 2 (nI k) (A 52 k).toInt64) 50 k (-1) := (if_neg c0).trans (if_pos c1)
      have e50 : ∀ j, j ≠ k → sRentA A B k f nl 50 j = A 50 j := fun j hj => by rw [eA, mA_rn _ _ _ hj, sLineA_k _ _ _ _ _ (by decide)]
      have e50k : sRentA A B k f nl 50 k = -1 := by rw [eA, mA_rd]
      have e54 : sRentA A B k f nl 54 = A 54 := by rw [eA, mA_n _ _ _ (by decide), sLineA_k _ _ _ _ _ (by decide)]
      have n54 : ¬ A 54 k = 0 := by
        intro z
        unfold sRentC at c1
        rw [if_neg (fun q => q z)] at c1
        cases c1
      have p54 : 1 ≤ (A 54 k).toInt := by
        have : (A 54 k).toInt ≠ 0 := fun z => n54 (Int32.toInt_inj.mp z)
        omega
      refine ⟨fun j hj hn => ?_, ?_, fun j hn => ?_⟩
      · by_cases y : j = k
        · subst y; rw [e50k] at hn; exact absurd (by decide) hn
        · rw [e50 j y] at hn ⊢
          rw [e51, e52, e54]
          exact h j hj hn
      · rw [if_neg c0]
        have := zL_at (A := A) (A' := sRentA A B k f nl) hk (fun j _ hne => ⟨e50 j hne, by rw [e54]⟩)
        have t1 : tL (sRentA A B k f nl) k = 0 := if_pos (by rw [e50k]; decide)
        omega
      · by_cases y : j = k
        · subst y; rw [e50k] at hn; exact absurd (by decide) hn
        · exact e50 j y
    · have eA : sRentA A B k f nl = mA (mA (sLineA A nl 1 (nI k) (A 51 k).toInt64) 54 k (A 54 k - 1)) 53 k (A 32 0 + 91) := (if_neg c0).trans (if_neg c1)
      have e50 : sRentA A B k f nl 50 = A 50 := by rw [eA, mA_n _ _ _ (by decide), mA_n _ _ _ (by decide), sLineA_k _ _ _ _ _ (by decide)]
      have e54 : ∀ j, j ≠ k → sRentA A B k f nl 54 j = A 54 j := fun j hj => by rw [eA, mA_n _ _ _ (by decide), mA_rn _ _ _ hj, sLineA_k _ _ _ _ _ (by decide)]
      have e54k : sRentA A B k f nl 54 k = A 54 k - 1 := by rw [eA, mA_n _ _ _ (by decide), mA_rd]
      have n54 : ¬ A 54 k = 0 := by
        intro z
        unfold sRentC at c0
        rw [if_neg (fun q => q z)] at c0
        exact c0 rfl
      have p54 : 1 ≤ (A 54 k).toInt := by
        have : (A 54 k).toInt ≠ 0 := fun z => n54 (Int32.toInt_inj.mp z)
        omega
      have s54 : (A 54 k - 1).toInt = (A 54 k).toInt - 1 := by
        rw [Int32.toInt_sub, show (1 : Int32).toInt = 1 from rfl, Int.bmod_eq_of_le] <;> omega
      refine ⟨fun j hj hn => ?_, ?_, fun j hn => by rw [e50]⟩
      · rw [e50] at hn ⊢
        rw [e51, e52]
        obtain ⟨q1, q2, q3, q4, q5⟩ := h j hj hn
        refine ⟨q1, q2, q3, q4, ?_⟩
        by_cases y : j = k
        · subst y
          rw [e54k, s54]
          omega
        · rw [e54 j y]
          exact q5
      · rw [if_neg c0]
        have := zL_at (A := A) (A' := sRentA A B k f nl) hk (fun j _ hne => ⟨by rw [e50], e54 j hne⟩)
        have t1 : tL (sRentA A B k f nl) k = (A 54 k - 1).toInt.toNat := by unfold tL; rw [e50, e54k, if_neg hz]
        rw [s54] at t1
        omega
theorem wOk.gate1 {N u nf k : Nat} {A : Nat → Nat → Int32} {B : Nat → Nat → Int64} {nl ll : Nat} (h : wOk N u nf (A, B, nl, ll)) (hk : k < u) (hn : nl < 400000) : wOk N u nf (sGate1 k (A, B, nl, ll)) ∧ (sGate1 k (A, B, nl, ll)).2.2.1 + zL (sGate1 k (A, B, nl, ll)).1 u ≤ nl + zL A u ∧ (sGate1 k (A, B, nl, ll)).1 32 = A 32 ∧ (sGate1 k (A, B, nl, ll)).1 51 = A 51 ∧ (sGate1 k (A, B, nl, ll)).1 52 = A 52 ∧ (∀ j, ¬ (sGate1 k (A, B, nl, ll)).1 50 j < 0 → (sGate1 k (A, B, nl, ll)).1 50 j = A 50 j) := by
  unfold sGate1
  dsimp only
  by_cases hz : A 50 k < 0
  · rw [if_pos hz]
    exact ⟨h, Nat.le_refl _, rfl, rfl, rfl, fun _ _ => rfl⟩
  · rw [if_neg hz]
    by_cases hd : A 53 k = A 32 0
    · rw [if_pos hd]
      obtain ⟨h1, h2, h3, h4, h5, h6, h7, h8⟩ := h
      dsimp only at h1 h2 h3 h4 h5 h6 h7 h8
      obtain ⟨r1, r2, r3⟩ := rent_ls (B := B) (f := ix (A 50 k)) (nl := nl) h8 hk hz
      have e : ∀ {m : Nat}, (m ≠ 38 ∧ m ≠ 39 ∧ m ≠ 40 ∧ m ≠ 41 ∧ m ≠ 42) → (m ≠ 50 ∧ m ≠ 53 ∧ m ≠ 54) → sRentA A B k (ix (A 50 k)) nl m = A m := fun a b => sRentA_k A B k _ nl a b
      have hl := h8 k hk hz
      refine ⟨⟨?_, by show sRentA _ _ _ _ _ 61 0 = _; rw [e (by decide) (by decide)]; exact h2, by show sRentA _ _ _ _ _ 31 0 = _; rw [e (by decide) (by decide)]; exact h3, ?_, ?_, ?_, ?_, r1⟩, r2, e (by decide) (by decide), e (by decide) (by decide), e (by decide) (by decide), r3⟩
      · show sRentA A B k _ nl 42 0 = nI (if _ then _ else _)
        by_cases c0 : sRentC A B k (ix (A 50 k)) = 0
        · rw [if_pos c0, show sRentA A B k (ix (A 50 k)) nl = mA A 50 k (-1) from if_pos c0, mA_n _ _ _ (by decide)]
          exact h1
        · rw [if_neg c0]
          by_cases c1 : sRentC A B k (ix (A 50 k)) = 1
          · rw [show sRentA A B k (ix (A 50 k)) nl = mA (sLineA A nl 2 (nI k) (A 52 k).toInt64) 50 k (-1) from (if_neg c0).trans (if_pos c1), mA_n _ _ _ (by decide)]
            exact sLineA_42 _ _ _ _ _
          · rw [show sRentA A B k (ix (A 50 k)) nl = mA (mA (sLineA A nl 1 (nI k) (A 51 k).toInt64) 54 k (A 54 k - 1)) 53 k (A 32 0 + 91) from (if_neg c0).trans (if_neg c1), mA_n _ _ _ (by decide), mA_n _ _ _ (by decide)]
            exact sLineA_42 _ _ _ _ _
      · show wDy (sRentA _ _ _ _ _)
        unfold wDy
        rw [e (m := 32) (by decide) (by decide), e (m := 33) (by decide) (by decide)]
        exact h4
      · show wLn (sRentA _ _ _ _ _) N
        unfold wLn
        rw [e (m := 55) (by decide) (by decide), e (m := 56) (by decide) (by decide)]
        exact h5
      · show wDu (sRentA _ _ _ _ _) (sRentB _ _ _ _) N
        unfold wDu
        rw [e (m := 32) (by decide) (by decide), sRentB_58 _ _ _ _ (by decide)]
        exact h6
      · show wBx (sRentB A B k _) (if _ then _ else _)
        by_cases c0 : sRentC A B k (ix (A 50 k)) = 0
        · rw [if_pos c0, show sRentB A B k (ix (A 50 k)) = mB B 44 (ix (A 50 k)) (B 44 (ix (A 50 k)) + (A 52 k).toInt64) from if_pos c0]
          unfold wBx
          rw [mB_n _ _ _ (by decide)]
          exact h7
        · rw [if_neg c0]
          by_cases c1 : sRentC A B k (ix (A 50 k)) = 1
          · rw [show sRentB A B k (ix (A 50 k)) = mB B 43 0 (B 43 0 + (A 52 k).toInt64) from (if_neg c0).trans (if_pos c1)]
            exact box_up h7 hn hl.2.2.2.1
          · rw [show sRentB A B k (ix (A 50 k)) = mB (mB B 44 (ix (A 50 k)) (B 44 (ix (A 50 k)) - (A 51 k).toInt64)) 43 0 (B 43 0 + (A 51 k).toInt64) from (if_neg c0).trans (if_neg c1)]
            have := box_up (B := mB B 44 (ix (A 50 k)) (B 44 (ix (A 50 k)) - (A 51 k).toInt64)) (by unfold wBx; rw [mB_n _ _ _ (by decide)]; exact h7) hn hl.2.2.1
            rw [mB_n _ _ _ (by decide)] at this
            exact this
    · rw [if_neg hd]
      exact ⟨h, Nat.le_refl _, rfl, rfl, rfl, fun _ _ => rfl⟩
theorem wOk.gates {N u nf : Nat} : ∀ (n k : Nat) (A : Nat → Nat → Int32) (B : Nat → Nat → Int64) (nl ll : Nat), wOk N u nf (A, B, nl, ll) → k + n ≤ u → (sGates n k (A, B, nl, ll)).2.2.1 < 400000 → wOk N u nf (sGates n k (A, B, nl, ll)) ∧ (sGates n k (A, B, nl, ll)).2.2.1 + zL (sGates n k (A, B, nl, ll)).1 u ≤ nl + zL A u ∧ (sGates n k (A, B, nl, ll)).1 32 = A 32 := by
  intro n
  induction n with
  | zero => intro k A B nl ll h _ _; exact ⟨h, Nat.le_refl _, rfl⟩
  | succ n ih =>
    intro k A B nl ll h hk hn
    simp only [sGates] at hn ⊢
    have u1 := sGate1_up k (A, B, nl, ll)
    have u2 := sGates_up n (k + 1) (sGate1 k (A, B, nl, ll))
    have hn0 : nl < 400000 := by
      have : nl ≤ (sGate1 k (A, B, nl, ll)).2.2.1 := u1.1
      omega
    obtain ⟨g1, g2, g3, -⟩ := h.gate1 (k := k) (by omega) hn0
    generalize sGate1 k (A, B, nl, ll) = s2 at g1 g2 g3 hn u1 u2
    obtain ⟨A2, B2, n2, l2⟩ := s2
    obtain ⟨j1, j2, j3⟩ := ih (k + 1) A2 B2 n2 l2 g1 (by omega) hn
    exact ⟨j1, Nat.le_trans j2 g2, j3.trans g3⟩
theorem morn_32 (A : Nat → Nat → Int32) : sMorn A 32 0 = A 32 0 + 1 := by
  unfold sMorn
  rw [mA_n _ _ _ (by decide), mA_rd]
theorem morn_k (A : Nat → Nat → Int32) {k : Nat} (h1 : k ≠ 32) (h2 : k ≠ 33) : sMorn A k = A k := by
  unfold sMorn
  rw [mA_n _ _ _ h2, mA_n _ _ _ h1]
theorem day_1 {A : Nat → Nat → Int32} (h : wDy A) (hd : (A 32 0).toInt < 9999) : (A 32 0 + 1).toInt = (A 32 0).toInt + 1 := by
  have := h.1
  rw [Int32.toInt_add, show (1 : Int32).toInt = 1 from rfl, Int.bmod_eq_of_le] <;> omega
theorem wOk.morn {N u nf : Nat} {A : Nat → Nat → Int32} {B : Nat → Nat → Int64} {nl ll : Nat} (h : wOk N u nf (A, B, nl, ll)) (hd : (A 32 0).toInt < 9999) : wOk N u nf (sMorn A, B, nl, ll) ∧ zL (sMorn A) u = zL A u := by
  obtain ⟨h1, h2, h3, h4, h5, h6, h7, h8⟩ := h
  dsimp only at h1 h2 h3 h4 h5 h6 h7 h8
  have e32 := morn_32 A
  have d1 := day_1 h4 hd
  refine ⟨⟨by show sMorn A 42 0 = _; rw [morn_k A (by decide) (by decide)]; exact h1, by show sMorn A 61 0 = _; rw [morn_k A (by decide) (by decide)]; exact h2, by show sMorn A 31 0 = _; rw [morn_k A (by decide) (by decide)]; exact h3, ?_, ?_, ?_, h7, ?_⟩, zL_same (fun j _ => ⟨by rw [morn_k A (by decide) (by decide)], by rw [morn_k A (by decide) (by decide)]⟩)⟩
  · show wDy (sMorn A)
    have h33 := h4.2
    refine ⟨by rw [e32, d1]; have := h4.1; omega, ?_⟩
    have e33 : sMorn A 33 0 = A 33 0 - (if A 33 0 ≤ 0 then 0 else 1) := by unfold sMorn; rw [mA_rd]
    rw [e33]
    by_cases z : A 33 0 ≤ 0
    · rw [if_pos z, Int32.sub_zero]
      exact h33
    · rw [if_neg z]
      have z2 : 0 < (A 33 0).toInt := by
        rw [Int32.le_iff_toInt_le] at z
        have : (0 : Int32).toInt = 0 := rfl
        omega
      have b := Int32.toInt_lt (A 33 0)
      rw [Int32.toInt_sub, show (1 : Int32).toInt = 1 from rfl, Int.bmod_eq_of_le] <;> omega
  · show wLn (sMorn A) N
    unfold wLn
    rw [morn_k A (k := 55) (by decide) (by decide), morn_k A (k := 56) (by decide) (by decide)]
    exact h5
  · show wDu (sMorn A) B N
    intro k hk
    rw [e32, d1]
    have := h6 k hk
    have := h4.1
    exact ⟨this.1 |> fun _ => (h6 k hk).1, by omega⟩
  · show wLs (sMorn A) u nf
    unfold wLs
    rw [morn_k A (k := 50) (by decide) (by decide), morn_k A (k := 51) (by decide) (by decide), morn_k A (k := 52) (by decide) (by decide), morn_k A (k := 54) (by decide) (by decide)]
    exact h8
/-- a year's interest on the dues -/
theorem dues_58 (A : Nat → Nat → Int32) (B : Nat → Nat → Int64) : ∀ n k, sDues A B n 58 k = if k < n then B 58 k + (A 55 k).toInt64 * (A 56 k).toInt64 / 1000 else B 58 k := by
  intro n
  induction n with
  | zero => intro k; rw [if_neg (by omega)]; rfl
  | succ n ih =>
    intro k
    simp only [sDues]
    by_cases y : k = n
    · subst y
      rw [mB_rd, if_pos (by omega), ih, if_neg (by omega)]
    · rw [mB_rn _ _ _ y, ih]
      by_cases z : k < n
      · rw [if_pos z, if_pos (by omega)]
      · rw [if_neg z, if_neg (by omega)]
theorem int_z {s r : Int32} (hs : 0 ≤ s.toInt ∧ s.toInt ≤ 10000000) (hr : 0 ≤ r.toInt ∧ r.toInt ≤ 500) : 0 ≤ (s.toInt64 * r.toInt64 / 1000).toInt ∧ (s.toInt64 * r.toInt64 / 1000).toInt ≤ 5000000 := by
  obtain ⟨e, m0⟩ := mul_b (x := s.toInt64) (y := r.toInt64) (M := 10000000) (N := 500) (by rw [Int32.toInt_toInt64]; exact hs.1) (by rw [Int32.toInt_toInt64]; exact hs.2) (by rw [Int32.toInt_toInt64]; exact hr.1) (by rw [Int32.toInt_toInt64]; exact hr.2) (by decide)
  have m1 : (s.toInt64 * r.toInt64).toInt ≤ 10000000 * 500 := by
    rw [e, Int32.toInt_toInt64, Int32.toInt_toInt64]
    exact Int.mul_le_mul hs.2 hr.2 hr.1 (by decide)
  have e2 : (s.toInt64 * r.toInt64 / 1000).toInt = (s.toInt64 * r.toInt64).toInt / 1000 := by
    rw [Int64.toInt_div, show (1000 : Int64).toInt = 1000 from rfl, Int.tdiv_eq_ediv_of_nonneg m0, bm_in] <;> omega
  rw [e2]
  omega
/-- the dues before a payment, on the year's day -/
theorem dues_ok {A : Nat → Nat → Int32} {B : Nat → Nat → Int64} {N : Nat} (h5 : wLn A N) (h6 : ∀ k, k < N → 0 ≤ (B 58 k).toInt ∧ (B 58 k).toInt ≤ 5000000 * (((A 32 0).toInt - 1) / 365)) (hd : 0 ≤ (A 32 0).toInt - 1 ∧ (A 32 0).toInt ≤ 9999) (hy : (A 32 0).toInt % 365 = 0) : ∀ k, k < N → 0 ≤ (sDues A B N 58 k).toInt ∧ (sDues A B N 58 k).toInt ≤ 5000000 * ((A 32 0).toInt / 365) := by
  intro k hk
  rw [dues_58, if_pos hk]
  obtain ⟨i1, i2⟩ := int_z (h5 k hk).1 (h5 k hk).2
  have b := h6 k hk
  have e : (B 58 k + (A 55 k).toInt64 * (A 56 k).toInt64 / 1000).toInt = (B 58 k).toInt + ((A 55 k).toInt64 * (A 56 k).toInt64 / 1000).toInt := by
    rw [Int64.toInt_add, bm_in] <;> omega
  rw [e]
  omega
theorem irem_z {x : Int32} (h : 0 ≤ x.toInt) : x - x / 365 * 365 = 0 ↔ x.toInt % 365 = 0 := by
  have b := Int32.toInt_lt x
  have e1 : (x / 365).toInt = x.toInt / 365 := by
    rw [Int32.toInt_div, show (365 : Int32).toInt = 365 from rfl, Int.tdiv_eq_ediv_of_nonneg h, Int.bmod_eq_of_le] <;> omega
  have e2 : (x / 365 * 365).toInt = x.toInt / 365 * 365 := by
    rw [Int32.toInt_mul, e1, show (365 : Int32).toInt = 365 from rfl, Int.bmod_eq_of_le] <;> omega
  have e3 : (x - x / 365 * 365).toInt = x.toInt % 365 := by
    rw [Int32.toInt_sub, e2, Int.bmod_eq_of_le] <;> omega
  constructor
  · intro q
    rw [q] at e3
    exact e3.symm
  · intro q
    refine Int32.toInt_inj.mp ?_
    rw [e3, q]
    rfl
theorem WOk_ranks42 (N : Nat) : ∀ (m k : Nat) {A : Nat → Nat → Int32} {B : Nat → Nat → Int64} {nl ll : Nat}, A 42 0 = nI nl → (sRanks N m k (A, B, nl, ll)).1 42 0 = nI (sRanks N m k (A, B, nl, ll)).2.2.1 := by
  intro m
  induction m with
  | zero => intro k A B nl ll h; exact h
  | succ m ih =>
    intro k A B nl ll h
    simp only [sRanks]
    have := rank_42 (nI k) N (B := B) (ll := ll) h
    generalize sRank (nI k) N (A, B, nl, ll) = s2 at this
    obtain ⟨A2, B2, n2, l2⟩ := s2
    exact ih (k + 1) this
theorem wOk.noon {N u nf : Nat} {A : Nat → Nat → Int32} {B : Nat → Nat → Int64} {nl ll : Nat} (hN : N ≤ 10) (h : wOk N u nf (A, B, nl, ll)) (hd : (A 32 0).toInt < 9999) : wOk N u nf (sNoon N (A, B, nl, ll)) ∧ ((sNoon N (A, B, nl, ll)).2.2.1 + zL (sNoon N (A, B, nl, ll)).1 u : Int) + 40 * ((A 32 0).toInt / 365) ≤ nl + zL A u + 40 * (((A 32 0).toInt + 1) / 365) ∧ (sNoon N (A, B, nl, ll)).1 32 0 = A 32 0 + 1 ∧ (sYear (sMorn A) = true → dOk (sDues (sMorn A) B N 58) N) ∧ (∀ j, (sNoon N (A, B, nl, ll)).1 50 j = A 50 j ∧ (sNoon N (A, B, nl, ll)).1 51 j = A 51 j ∧ (sNoon N (A, B, nl, ll)).1 52 j = A 52 j) := by
  have d1 : (A 32 0 + 1).toInt = (A 32 0).toInt + 1 := day_1 h.2.2.2.1 hd
  have hday := h.2.2.2.1.1
  dsimp only at hday
  obtain ⟨m1, mz⟩ := h.morn hd
  have e32 := morn_32 A
  unfold sNoon
  dsimp only
  by_cases hy : sYear (sMorn A) = true
  · rw [if_pos hy]
    have hy2 : ((A 32 0).toInt + 1) % 365 = 0 := by
      unfold sYear at hy
      simp only [decide_eq_true_eq] at hy
      rw [e32] at hy
      have := (irem_z (x := A 32 0 + 1) (by omega)).mp hy
      rw [d1] at this
      exact this
    obtain ⟨h1, h2, h3, h4, h5, h6, h7, h8⟩ := m1
    dsimp only at h1 h2 h3 h4 h5 h6 h7 h8
    have hdu := dues_ok (A := sMorn A) (B := B) h5 (fun k hk => by rw [e32, d1]; have := h.2.2.2.2.2.1 k hk; dsimp only at this; rw [show (A 32 0).toInt + 1 - 1 = (A 32 0).toInt by omega]; exact this) (by rw [e32, d1]; omega) (by rw [e32, d1]; exact hy2)
    have hdk : dOk (sDues (sMorn A) B N 58) N := fun k hk => by
      have := hdu k hk
      rw [e32, d1] at this
      omega
    have hb43 : sDues (sMorn A) B N 43 = B 43 := dues_k _ _ (by decide) N
    have hw := WOk_ranks42 N 4 0 (A := sMorn A) (B := sDues (sMorn A) B N) (nl := nl) (ll := ll) h1
    obtain ⟨r1, r2, r3, r4⟩ := ranks_ok hN 4 0 (sMorn A) (sDues (sMorn A) B N) nl ll hdk (by rw [hb43]; exact h7.1)
    have r5 := fun {f : Nat} (hf : f ≠ 38 ∧ f ≠ 39 ∧ f ≠ 40 ∧ f ≠ 41 ∧ f ≠ 42) => sRanks_A N hf 4 0 (sMorn A, sDues (sMorn A) B N, nl, ll)
    have r6 := sRanks_up N 4 0 (sMorn A, sDues (sMorn A) B N, nl, ll)
    unfold sInt
    dsimp only
    generalize sRanks N 4 0 (sMorn A, sDues (sMorn A) B N, nl, ll) = s2 at hw r1 r2 r3 r4 r5 r6
    obtain ⟨A2, B2, n2, l2⟩ := s2
    dsimp only at hw r1 r2 r3 r4 r5 r6
    have hle : nl ≤ n2 := r6.1
    rw [hb43] at r3
    dsimp only
    refine ⟨⟨hw, by show A2 61 0 = _; rw [r5 (by decide)]; exact h2, by show A2 31 0 = _; rw [r5 (by decide)]; exact h3, ?_, ?_, ?_, ?_, ?_⟩, ?_, by rw [r5 (by decide)]; exact e32, fun _ => hdk, fun j => ⟨by rw [r5 (by decide), morn_k A (by decide) (by decide)], by rw [r5 (by decide), morn_k A (by decide) (by decide)], by rw [r5 (by decide), morn_k A (by decide) (by decide)]⟩⟩
    · show wDy A2
      unfold wDy
      rw [r5 (f := 32) (by decide), r5 (f := 33) (by decide)]
      exact h4
    · show wLn A2 N
      unfold wLn
      rw [r5 (f := 55) (by decide), r5 (f := 56) (by decide)]
      exact h5
    · show wDu A2 B2 N
      intro k hk
      rw [r5 (f := 32) (by decide)]
      exact ⟨(r1 k hk).1, Int.le_trans (r1 k hk).2 (hdu k hk).2⟩
    · show wBx B2 n2
      have := h7.2
      exact ⟨r2, by omega⟩
    · show wLs A2 u nf
      unfold wLs
      rw [r5 (f := 50) (by decide), r5 (f := 51) (by decide), r5 (f := 52) (by decide), r5 (f := 54) (by decide)]
      exact h8
    · have zz : zL A2 u = zL A u := by
        rw [← mz]
        exact zL_same (fun j _ => ⟨by rw [r5 (f := 50) (by decide)], by rw [r5 (f := 54) (by decide)]⟩)
      rw [zz]
      omega
  · rw [if_neg hy]
    dsimp only
    refine ⟨m1, ?_, e32, fun q => absurd q hy, fun j => ⟨by rw [morn_k A (by decide) (by decide)], by rw [morn_k A (by decide) (by decide)], by rw [morn_k A (by decide) (by decide)]⟩⟩
    show ((nl : Int) + zL (sMorn A) u) + _ ≤ _
    rw [mz]
    omega
theorem wOk.day {N u nf : Nat} {A : Nat → Nat → Int32} {B : Nat → Nat → Int64} {nl ll : Nat} (hN : N ≤ 10) (h : wOk N u nf (A, B, nl, ll)) (hd : (A 32 0).toInt < 9999) (hn : (sDayS N u (A, B, nl, ll)).2.2.1 < 400000) : wOk N u nf (sDayS N u (A, B, nl, ll)) ∧ ((sDayS N u (A, B, nl, ll)).2.2.1 + zL (sDayS N u (A, B, nl, ll)).1 u : Int) + 40 * ((A 32 0).toInt / 365) ≤ nl + zL A u + 40 * (((A 32 0).toInt + 1) / 365) ∧ ((sDayS N u (A, B, nl, ll)).1 32 0).toInt = (A 32 0).toInt + 1 := by
  obtain ⟨n1, n2, n3, -, -⟩ := wOk.noon hN h hd
  have d1 : (A 32 0 + 1).toInt = (A 32 0).toInt + 1 := day_1 h.2.2.2.1 hd
  unfold sDayS at hn ⊢
  generalize sNoon N (A, B, nl, ll) = s2 at n1 n2 n3 hn
  obtain ⟨A2, B2, m2, l2⟩ := s2
  obtain ⟨g1, g2, g3⟩ := wOk.gates u 0 A2 B2 m2 l2 n1 (by omega) hn
  refine ⟨g1, ?_, by rw [g3]; dsimp only at n3; rw [n3, d1]⟩
  dsimp only at n2
  omega
theorem wOk.days {N u nf : Nat} (hN : N ≤ 10) : ∀ (n : Nat) (A : Nat → Nat → Int32) (B : Nat → Nat → Int64) (nl ll : Nat), wOk N u nf (A, B, nl, ll) → (A 32 0).toInt + n ≤ 9999 → (sDays N u n (A, B, nl, ll)).2.2.1 < 400000 → wOk N u nf (sDays N u n (A, B, nl, ll)) ∧ ((sDays N u n (A, B, nl, ll)).2.2.1 + zL (sDays N u n (A, B, nl, ll)).1 u : Int) + 40 * ((A 32 0).toInt / 365) ≤ nl + zL A u + 40 * (((A 32 0).toInt + n) / 365) ∧ ((sDays N u n (A, B, nl, ll)).1 32 0).toInt = (A 32 0).toInt + n := by
  intro n
  induction n with
  | zero =>
    intro A B nl ll h _ _
    refine ⟨h, ?_, ?_⟩
    · show ((nl : Int) + zL A u) + _ ≤ _
      rw [show (A 32 0).toInt + ((0 : Nat) : Int) = (A 32 0).toInt by omega]
      omega
    · show (A 32 0).toInt = _
      omega
  | succ n ih =>
    intro A B nl ll h hd hn
    simp only [sDays] at hn ⊢
    have up := sDays_up N u n (sDayS N u (A, B, nl, ll))
    obtain ⟨j1, j2, j3⟩ := wOk.day hN h (by omega) (by omega)
    generalize sDayS N u (A, B, nl, ll) = s2 at j1 j2 j3 hn up
    obtain ⟨A2, B2, m2, l2⟩ := s2
    dsimp only at j2 j3
    obtain ⟨k1, k2, k3⟩ := ih A2 B2 m2 l2 j1 (by omega) hn
    refine ⟨k1, ?_, by omega⟩
    rw [j3] at k2
    rw [show (A 32 0).toInt + ((n + 1 : Nat) : Int) = (A 32 0).toInt + 1 + n by omega]
    omega
