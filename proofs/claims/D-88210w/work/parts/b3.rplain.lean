/-! THE READER, plain: bytes, words, numbers as the component reads them -/
set_option maxRecDepth 100000
/-- a byte, as an int -/
def isB (x : Int32) : Prop := ∃ b : Fin 256, x = nI b.val - 128
theorem b256 : ∀ b : Fin 256, ((0 : Int32) ≤ nI b.val - 128 ∧ (nI b.val - 128) &&& 255 = nI b.val - 128 ∧ nI b.val - 128 < 128) ∨ (nI b.val - 128 < 0 ∧ (128 : Int32) ≤ (nI b.val - 128) &&& 255) := by decide +kernel
theorem isB.cases {x : Int32} (h : isB x) : (0 ≤ x ∧ x &&& 255 = x ∧ x < 128) ∨ (x < 0 ∧ 128 ≤ x &&& 255) := by
  obtain ⟨b, rfl⟩ := h
  exact b256 b
theorem isB.eq {x w : Int32} (h : isB x) (h0 : 0 ≤ w) (h1 : w < 128) : x &&& 255 = w ↔ x = w := by
  rcases h.cases with ⟨a, b, c⟩ | ⟨a, b⟩
  · rw [b]
  · constructor
    · intro e; rw [e] at b; exact absurd h1 (Int32.not_lt.mpr b)
    · intro e; subst e; exact absurd a (Int32.not_lt.mpr h0)
theorem i32lt {a b c : Int32} (h1 : a < b) (h2 : b ≤ c) : a < c := by
  rw [Int32.lt_iff_toInt_lt] at *; rw [Int32.le_iff_toInt_le] at h2; omega
theorem i32lt2 {a b c : Int32} (h1 : a ≤ b) (h2 : b < c) : a < c := by
  rw [Int32.lt_iff_toInt_lt] at *; rw [Int32.le_iff_toInt_le] at h1; omega
theorem isB.small {x : Int32} (h : isB x) : sSmall (x &&& 255) = sSmall x := by
  rcases h.cases with ⟨a, b, c⟩ | ⟨a, b⟩
  · rw [b]
  · unfold sSmall
    rw [decide_eq_true (i32lt a (show (0 : Int32) ≤ 97 by decide)), decide_eq_true (show 122 < x &&& 255 from i32lt (show (122 : Int32) < 128 by decide) b)]
    simp
theorem isB.digit {x : Int32} (h : isB x) : sDigit (x &&& 255) = sDigit x := by
  rcases h.cases with ⟨a, b, c⟩ | ⟨a, b⟩
  · rw [b]
  · unfold sDigit
    rw [decide_eq_true (i32lt a (show (0 : Int32) ≤ 48 by decide)), decide_eq_true (show 57 < x &&& 255 from i32lt (show (57 : Int32) < 128 by decide) b)]
    simp
/-- the text: letters T (as the model sees them), bytes f -/
def rTx (T f : Nat → Int32) (sz : Nat) : Prop := pTz T sz ∧ ∀ k, k < sz → T k = f k &&& 255 ∧ isB (f k)
/-- what at(k) tells -/
def rt (f : Nat → Int32) (sz k : Nat) : Int32 := if k < sz then f k else 0
theorem rTx.small {T f : Nat → Int32} {sz : Nat} (h : rTx T f sz) {k : Nat} (hk : k < 100000) : sSmall (rt f sz k) = sSmall (T k) := by
  unfold rt
  split
  · next h1 => rw [(h.2 k h1).1, (h.2 k h1).2.small]
  · next h1 => rw [h.1.2 k (by omega) hk]
theorem rTx.digit {T f : Nat → Int32} {sz : Nat} (h : rTx T f sz) {k : Nat} (hk : k < 100000) : sDigit (rt f sz k) = sDigit (T k) := by
  unfold rt
  split
  · next h1 => rw [(h.2 k h1).1, (h.2 k h1).2.digit]
  · next h1 => rw [h.1.2 k (by omega) hk]
theorem rTx.eq {T f : Nat → Int32} {sz : Nat} (h : rTx T f sz) {k : Nat} (hk : k < sz) {w : Int32} (h0 : 0 ≤ w) (h1 : w < 128) : T k = w ↔ f k = w := by
  rw [(h.2 k hk).1]
  exact (h.2 k hk).2.eq h0 h1
theorem small_pos {x : Int32} (h : sSmall x = true) : ¬ x < 0 ∧ x < 128 ∧ ix x < 128 ∧ nI (ix x) = x ∧ 97 ≤ ix x ∧ ix x ≤ 122 := by
  unfold sSmall at h
  simp only [Bool.and_eq_true, Bool.not_eq_true', decide_eq_false_iff_not] at h
  have h1 := Int32.le_iff_toInt_le.mp (Int32.not_lt.mp h.1)
  have h2 := Int32.le_iff_toInt_le.mp (Int32.not_lt.mp h.2)
  have e1 : (97 : Int32).toInt = 97 := by decide
  have e2 : (122 : Int32).toInt = 122 := by decide
  have e3 : (128 : Int32).toInt = 128 := by decide
  have e0 : (0 : Int32).toInt = 0 := by decide
  have p : ¬ x < 0 := fun q => by have := Int32.lt_iff_toInt_lt.mp q; omega
  have q := d_ix p
  refine ⟨p, Int32.lt_iff_toInt_lt.mpr (by omega), by omega, ?_, by omega, by omega⟩
  have r := ix_of (n := 1000) p (show x < nI 1000 from Int32.lt_iff_toInt_lt.mpr (by have : (nI 1000).toInt = 1000 := by decide
                                                                                     omega)) rfl (by decide)
  exact r.2.symm
theorem rTx.sm {T f : Nat → Int32} {sz : Nat} (h : rTx T f sz) {k : Nat} (hk : k < sz) (hs : sSmall (T k) = true) : f k = T k := by
  have p := small_pos hs
  exact (h.eq hk (Int32.not_lt.mp p.1) p.2.1).mp rfl
/-- where the letters from p on end -/
def pLt (T : Nat → Int32) : Nat → Nat → Nat
  | 0, p => p
  | m + 1, p => if sSmall (T p) = true then pLt T m (p + 1) else p
theorem pLt_le (T : Nat → Int32) : ∀ (m p : Nat), p ≤ pLt T m p ∧ pLt T m p ≤ p + m ∧ ∀ k, p ≤ k → k < pLt T m p → sSmall (T k) = true
  | 0, p => ⟨Nat.le_refl _, Nat.le_refl _, fun k h1 h2 => absurd h2 (by simp only [pLt]; omega)⟩
  | m + 1, p => by
    simp only [pLt]
    split
    · next h =>
      have := pLt_le T m (p + 1)
      refine ⟨by omega, by omega, fun k h1 h2 => ?_⟩
      by_cases e : k = p
      · rw [e]; exact h
      · exact this.2.2 k (by omega) h2
    · exact ⟨Nat.le_refl _, by omega, fun k h1 h2 => absurd h2 (by omega)⟩
theorem small_0 : sSmall 0 = false := by decide
theorem digit_0 : sDigit 0 = false := by decide
theorem pLt_end {T : Nat → Int32} {sz : Nat} (hT : pTz T sz) : ∀ (m p : Nat), p + m = sz → sSmall (T (pLt T m p)) = false
  | 0, p, h => by simp only [pLt]; rw [hT.2 p (by omega) (by have := hT.1; omega)]; exact small_0
  | m + 1, p, h => by
    simp only [pLt]
    split
    · exact pLt_end hT m (p + 1) (by omega)
    · next h => simpa using h
/-- the letters of a word -/
def wL (T : Nat → Int32) (q n : Nat) : List Nat := (List.range n).map (fun i => ix (T (q + i)))
theorem wL_len (T : Nat → Int32) (q n : Nat) : (wL T q n).length = n := by simp [wL]
theorem wL_at (T : Nat → Int32) (q : Nat) {n j : Nat} (h : j < n) : (wL T q n).getD j 0 = ix (T (q + j)) := by simp [wL, List.getD_eq_getElem?_getD, h]
theorem pEq_iff {T : Nat → Int32} {p : Nat} {W : List Nat} : pEq T p W W.length 0 = true ↔ ∀ k, k < W.length → T (p + k) = nI (W.getD k 0) := by
  have key : ∀ (j k : Nat), k + j = W.length → (pEq T p W (W.length - k) k = true ↔ ∀ i, k ≤ i → i < W.length → T (p + i) = nI (W.getD i 0)) := by
    intro j
    induction j with
    | zero =>
      intro k hk
      rw [show W.length - k = 0 by omega]
      simp only [pEq, true_iff]
      intro i h1 h2
      omega
    | succ j ih =>
      intro k hk
      rw [pEq_step (by omega)]
      split
      · next e =>
        rw [ih (k + 1) (by omega)]
        constructor
        · intro h i h1 h2
          by_cases q : i = k
          · rw [q]; exact e
          · exact h i (by omega) h2
        · intro h i h1 h2
          exact h i (by omega) h2
      · next e =>
        constructor
        · intro h; cases h
        · intro h; exact absurd (h k (Nat.le_refl _) (by omega)) e
  have := key W.length 0 (by omega)
  rw [Nat.sub_zero] at this
  rw [this]
  exact ⟨fun h k hk => h k (Nat.zero_le _) hk, fun h k _ hk => h k hk⟩
/-- a word of small letters -/
def isWs (W : List Nat) : Prop := (∀ w ∈ W, 97 ≤ w ∧ w ≤ 122) ∧ 0 < W.length ∧ W.length ≤ 8
theorem isWs.at {W : List Nat} (h : isWs W) {k : Nat} (hk : k < W.length) : 97 ≤ W.getD k 0 ∧ W.getD k 0 ≤ 122 := by
  have hm : W.getD k 0 ∈ W := by rw [List.getD_eq_getElem?_getD, List.getElem?_eq_getElem hk]; exact List.getElem_mem hk
  exact h.1 _ hm
theorem sm_n : ∀ w : Fin 123, 97 ≤ w.val → sSmall (nI w.val) = true := by decide +kernel
theorem isWs.sm {W : List Nat} (h : isWs W) {k : Nat} (hk : k < W.length) : sSmall (nI (W.getD k 0)) = true := by
  have := h.at hk
  exact sm_n ⟨W.getD k 0, by omega⟩ this.1
theorem isWs.wd {W : List Nat} (h : isWs W) : isWd W := ⟨fun w hw => by have := h.1 w hw; omega, h.2⟩
/-- where word W stands, the letters end with it -/
theorem pIsW_end {T : Nat → Int32} {sz q : Nat} (hT : pTz T sz) (hq : q ≤ sz) {W : List Nat} (hW : isWs W) (h : pIsW T q W = true) : pLt T (sz - q) q = q + W.length := by
  have hl := pIsW_lt hT hq hW.wd.1 hW.wd.2 h
  unfold pIsW at h
  rw [Bool.and_eq_true] at h
  have h1 := pEq_iff.mp h.1
  have h2 : sSmall (T (q + W.length)) = false := by simpa using h.2
  have a := pLt_le T (sz - q) q
  have b := pLt_end hT (sz - q) q (by omega)
  by_cases c1 : pLt T (sz - q) q < q + W.length
  · have e : pLt T (sz - q) q = q + (pLt T (sz - q) q - q) := by omega
    rw [e, h1 _ (by omega), hW.sm (by omega)] at b
    cases b
  · by_cases c2 : q + W.length < pLt T (sz - q) q
    · rw [a.2.2 (q + W.length) (by omega) c2] at h2
      cases h2
    · omega
/-- whether W stands at q, by the word read there -/
theorem pIsW_word {T : Nat → Int32} {sz q : Nat} (hT : pTz T sz) (hq : q ≤ sz) {W : List Nat} (hW : isWs W) : pIsW T q W = decide (wL T q (pLt T (sz - q) q - q) = W) := by
  have a := pLt_le T (sz - q) q
  have b := pLt_end hT (sz - q) q (by omega)
  cases h : pIsW T q W with
  | true =>
    have e := pIsW_end hT hq hW h
    unfold pIsW at h
    rw [Bool.and_eq_true] at h
    have h1 := pEq_iff.mp h.1
    symm
    rw [decide_eq_true_iff, e, Nat.add_sub_cancel_left]
    refine gl_eq (wL_len _ _ _) (fun j hj => ?_) (fun j hj => ?_) (fun j hj => ?_)
    · rw [wL_len] at hj
      rw [wL_at T q hj, h1 j hj, ix_nI (by have := hW.at hj; omega)]
      have := hW.at hj; omega
    · have := hW.at hj; omega
    · rw [wL_len] at hj
      rw [wL_at T q hj, h1 j hj, ix_nI (by have := hW.at hj; omega)]
  | false =>
    symm
    rw [decide_eq_false_iff_not]
    intro e
    have hl : W.length = pLt T (sz - q) q - q := by rw [← e, wL_len]
    have : pIsW T q W = true := by
      unfold pIsW
      rw [Bool.and_eq_true]
      refine ⟨pEq_iff.mpr (fun k hk => ?_), ?_⟩
      · rw [← e, wL_at T q (by omega)]
        exact (small_pos (a.2.2 (q + k) (by omega) (by omega))).2.2.2.1.symm
      · rw [hl, show q + (pLt T (sz - q) q - q) = pLt T (sz - q) q by omega, b]; rfl
    rw [h] at this
    cases this
theorem pIsW_long {T : Nat → Int32} {sz q : Nat} (hT : pTz T sz) (hq : q ≤ sz) {W : List Nat} (hW : isWs W) (h : ¬ pLt T (sz - q) q - q ≤ 8) : pIsW T q W = false := by
  rw [pIsW_word hT hq hW, decide_eq_false_iff_not]
  intro e
  have hl : W.length = pLt T (sz - q) q - q := by rw [← e, wL_len]
  have := hW.2.2
  omega
theorem pIsW_not {T : Nat → Int32} {q : Nat} {W : List Nat} (hW : isWs W) (h : sSmall (T q) = false) : pIsW T q W = false := by
  cases e : pIsW T q W with
  | false => rfl
  | true =>
    unfold pIsW at e
    rw [Bool.and_eq_true] at e
    have h1 := pEq_iff.mp e.1 0 hW.2.1
    rw [Nat.add_zero] at h1
    rw [h1, hW.sm hW.2.1] at h
    cases h
/-- a number as the component reads it -/
def pCp (T : Nat → Int32) : Nat → Nat → Int64 → Nat × Int64
  | 0, p, v => (p, v)
  | m + 1, p, v => if sDigit (T p) = true then pCp T m (p + 1) (if 1000001 < 10 * v + (T p).toInt64 - 48 then 1000001 else 10 * v + (T p).toInt64 - 48) else (p, v)
theorem dig_v {x : Int32} (h : sDigit x = true) : 48 ≤ x.toInt64.toInt ∧ x.toInt64.toInt ≤ 57 := by
  unfold sDigit at h
  simp only [Bool.and_eq_true, Bool.not_eq_true', decide_eq_false_iff_not] at h
  have h1 := Int32.le_iff_toInt_le.mp (Int32.not_lt.mp h.1)
  have h2 := Int32.le_iff_toInt_le.mp (Int32.not_lt.mp h.2)
  rw [show (48 : Int32).toInt = 48 from by decide] at h1
  rw [show (57 : Int32).toInt = 57 from by decide] at h2
  rw [Int32.toInt_toInt64]
  omega
theorem ten_v {v d : Int64} (h0 : 0 ≤ v.toInt) (h1 : v.toInt ≤ 30000000) (h2 : 48 ≤ d.toInt ∧ d.toInt ≤ 57) : (10 * v + d - 48).toInt = 10 * v.toInt + d.toInt - 48 := by
  have e10 : (10 : Int64).toInt = 10 := by decide
  have e48 : (48 : Int64).toInt = 48 := by decide
  have a : (10 * v).toInt = 10 * v.toInt := by rw [Int64.toInt_mul, e10]; exact Int.bmod_eq_of_le (by omega) (by omega)
  have b : (10 * v + d).toInt = 10 * v.toInt + d.toInt := by rw [Int64.toInt_add, a]; exact Int.bmod_eq_of_le (by omega) (by omega)
  rw [Int64.toInt_sub, b, e48]; exact Int.bmod_eq_of_le (by omega) (by omega)
/-- the two numbers: alike up to the most, else both above it -/
def cpR (v w : Int64) : Prop := 0 ≤ v.toInt ∧ v.toInt ≤ 30000000 ∧ ((v = w ∧ v.toInt ≤ 1000000) ∨ (1000000 < v.toInt ∧ w.toInt = 1000001))
theorem pCp_pDig (T : Nat → Int32) : ∀ (m p : Nat) (v w : Int64), cpR v w → (pCp T m p w).1 = (pDig T m p v).1 ∧ cpR (pDig T m p v).2 (pCp T m p w).2
  | 0, p, v, w, h => ⟨rfl, h⟩
  | m + 1, p, v, w, h => by
    simp only [pCp, pDig]
    split
    · next hd =>
      refine pCp_pDig T m (p + 1) _ _ ?_
      have d := dig_v hd
      obtain ⟨h0, h1, h2⟩ := h
      have e2 : (2000000 : Int64).toInt = 2000000 := by decide
      have e1 : (1000001 : Int64).toInt = 1000001 := by decide
      rcases h2 with ⟨rfl, h2⟩ | ⟨h2, h3⟩
      · rw [if_pos (show v ≤ 2000000 from Int64.le_iff_toInt_le.mpr (by omega))]
        have t := ten_v h0 (by omega) d
        split
        · next q => 
          have q := Int64.lt_iff_toInt_lt.mp q
          exact ⟨by omega, by omega, Or.inr ⟨by omega, e1⟩⟩
        · next q =>
          have q := Int64.le_iff_toInt_le.mp (Int64.not_lt.mp q)
          by_cases z : (10 * v + (T p).toInt64 - 48).toInt ≤ 1000000
          · exact ⟨by omega, by omega, Or.inl ⟨rfl, z⟩⟩
          · exact ⟨by omega, by omega, Or.inr ⟨by omega, by omega⟩⟩
      · have t := ten_v (v := w) (by omega) (by omega) d
        have q : 1000001 < 10 * w + (T p).toInt64 - 48 := Int64.lt_iff_toInt_lt.mpr (by omega)
        rw [if_pos q]
        split
        · next z =>
          have z := Int64.le_iff_toInt_le.mp z
          have t2 := ten_v (v := v) h0 (by omega) d
          exact ⟨by omega, by omega, Or.inr ⟨by omega, e1⟩⟩
        · exact ⟨h0, h1, Or.inr ⟨h2, e1⟩⟩
    · exact ⟨rfl, h⟩
theorem cpR_0 : cpR 0 0 := ⟨by decide, by decide, Or.inl ⟨rfl, by decide⟩⟩
theorem pCp_le (T : Nat → Int32) (m p : Nat) : p ≤ (pCp T m p 0).1 ∧ (pCp T m p 0).1 ≤ p + m := by
  rw [(pCp_pDig T m p 0 0 cpR_0).1]
  exact pDig_le T m p 0
theorem cpR.out {v w : Int64} (h : cpR v w) : decide (1000000 < v) = decide (1000000 < w) := by
  obtain ⟨h0, h1, ⟨rfl, h2⟩ | ⟨h2, h3⟩⟩ := h
  · rfl
  · have e : (1000000 : Int64).toInt = 1000000 := by decide
    rw [decide_eq_true (Int64.lt_iff_toInt_lt.mpr (by omega)), decide_eq_true (Int64.lt_iff_toInt_lt.mpr (by omega))]
theorem cpR.z {v w : Int64} (h : cpR v w) (hw : ¬ 1000000 < w) : v = w ∧ 0 ≤ w.toInt ∧ w.toInt ≤ 1000000 := by
  have e : (1000000 : Int64).toInt = 1000000 := by decide
  obtain ⟨h0, h1, ⟨rfl, h2⟩ | ⟨h2, h3⟩⟩ := h
  · exact ⟨rfl, h0, h2⟩
  · exact absurd (Int64.lt_iff_toInt_lt.mpr (by omega)) hw
/-- the sorts of signs -/
def rSg (x : Int32) : Bool := decide (x = 40) || decide (x = 41) || decide (x = 59) || decide (x = 47) || decide (x = 61) || decide (x = 60) || decide (x = 62)
/-- the sort of what stands at q: 0 end, 1 word, 2 number, 3 sign, 4 bad -/
def rKd (T : Nat → Int32) (sz q : Nat) : Nat := if sz ≤ q then 0 else if sSmall (T q) = true then 1 else if sDigit (T q) = true then 2 else if rSg (T q) = true then 3 else 4
/-- where the next thing may begin -/
def rNx (T : Nat → Int32) (sz q : Nat) : Nat := if sz ≤ q then q else if sSmall (T q) = true then pLt T (sz - q) q else if sDigit (T q) = true then (pCp T (sz - q) q 0).1 else q + 1
theorem rNx_le {T : Nat → Int32} {sz q : Nat} (hq : q ≤ sz) : q ≤ rNx T sz q ∧ rNx T sz q ≤ sz := by
  unfold rNx
  have a := pLt_le T (sz - q) q
  have b := pCp_le T (sz - q) q
  repeat' split
  all_goals omega
theorem rKd_1 {T : Nat → Int32} {sz q : Nat} (hT : pTz T sz) (hq : q ≤ sz) : rKd T sz q = 1 ↔ sSmall (T q) = true := by
  unfold rKd
  constructor
  · intro h
    split at h
    · cases h
    · split at h
      · assumption
      · split at h
        · cases h
        · split at h <;> cases h
  · intro h
    rw [if_neg, if_pos h]
    intro q2
    rw [hT.2 q q2 (by have := hT.1; omega)] at h
    cases h
theorem rKd_2 {T : Nat → Int32} {sz q : Nat} (hT : pTz T sz) (hq : q ≤ sz) : rKd T sz q = 2 ↔ sDigit (T q) = true := by
  have ns : sDigit (T q) = true → ¬ sSmall (T q) = true := by
    intro a b
    have x := small_pos b
    have y := dig_v a
    rw [Int32.toInt_toInt64, d_ix x.1] at y
    omega
  unfold rKd
  constructor
  · intro h
    split at h
    · cases h
    · split at h
      · cases h
      · split at h
        · assumption
        · split at h <;> cases h
  · intro h
    rw [if_neg, if_neg (ns h), if_pos h]
    intro q2
    rw [hT.2 q q2 (by have := hT.1; omega)] at h
    cases h
/-- a sign stands at q: of those that are signs -/
theorem rKd_3 {T : Nat → Int32} {sz q : Nat} {x : Int32} (hx : rSg x = true) (hn : sSmall x = false ∧ sDigit x = false) : (rKd T sz q = 3 ∧ T q = x) ↔ (T q = x ∧ q < sz) := by
  unfold rKd
  constructor
  · rintro ⟨h, e⟩
    refine ⟨e, ?_⟩
    split at h
    · cases h
    · omega
  · rintro ⟨e, h⟩
    rw [if_neg (by omega), e, hn.1, hn.2, hx]
    exact ⟨rfl, rfl⟩
