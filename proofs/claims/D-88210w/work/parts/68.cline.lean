/-! THE COMPONENT: change -/
set_option maxRecDepth 100000
theorem up2_up2 {α : Type} (f : Nat → Nat → α) (k i : Nat) (x y : α) : up2 (up2 f k i x) k i y = up2 f k i y := by
  funext k' i'
  unfold up2
  split <;> rfl
theorem up2_id {α : Type} (f : Nat → Nat → α) (k i : Nat) : up2 f k i (f k i) = f := by
  funext k' i'
  unfold up2
  split
  · rename_i h; rw [h.1, h.2]
  · rfl
theorem up2_k {α : Type} (f : Nat → Nat → α) {k i k' : Nat} (v : α) (h : k' ≠ k) : up2 f k i v k' = f k' := by
  funext i'
  exact up2_n _ _ (fun q => h q.1)
section CCH
variable {c0 c : gLH} {ad cp fz : Nat → Nat → Nat} {md : Nat → Nat → Int32} {S : Nat → List Value} {U : Nat → Nat → Int64} {A : Nat → Nat → Int32} {B : Nat → Nat → Int64}
/-- the journal's array is another one, alike -/
theorem cells_grow (q L : Nat) : cells (up2 ad 8 0 q) (up2 cp 8 0 L) fz md S U A B = up2 (up2 (cells ad cp fz md S U A B) 8 0 (some (gLongs L (cLn A)))) 0 0 (some (.inr (1, (cXf ad A B).set 15 (.ref q)))) := by
  have hE : cE (up2 ad 8 0 q) fz = cE ad fz := by
    funext i j
    unfold cE
    split <;> first | rfl | exact congrFun (up2_k _ _ (by decide)) _
  have r3 : up2 ad 8 0 q 3 = ad 3 := up2_k _ _ (by decide)
  have r6 : up2 ad 8 0 q 6 = ad 6 := up2_k _ _ (by decide)
  have r7 : up2 ad 8 0 q 7 = ad 7 := up2_k _ _ (by decide)
  have r9 : up2 ad 8 0 q 9 = ad 9 := up2_k _ _ (by decide)
  have r10 : up2 ad 8 0 q 10 = ad 10 := up2_k _ _ (by decide)
  have r11 : up2 ad 8 0 q 11 = ad 11 := up2_k _ _ (by decide)
  have r12 : up2 ad 8 0 q 12 = ad 12 := up2_k _ _ (by decide)
  have r15 : up2 ad 8 0 q 15 = ad 15 := up2_k _ _ (by decide)
  have r16 : up2 ad 8 0 q 16 = ad 16 := up2_k _ _ (by decide)
  have r33 : up2 cp 8 0 L 3 = cp 3 := up2_k _ _ (by decide)
  have r312 : up2 cp 8 0 L 12 = cp 12 := up2_k _ _ (by decide)
  funext k i
  rcases k_17 k with rfl | rfl | rfl | rfl | rfl | rfl | rfl | rfl | rfl | rfl | rfl | rfl | rfl | rfl | rfl | rfl | rfl | hb
  · by_cases hi : i = 0
    · subst hi
      rw [up2_s]
      rfl
    · rw [up2_n _ _ (fun z => hi z.2), up2_n _ _ (fun z => absurd z.1 (by decide))]
      show (if i = 0 then _ else _) = (if i = 0 then _ else _)
      rw [if_neg hi, if_neg hi]
  · rw [up2_n _ _ (fun z => absurd z.1 (by decide)), up2_n _ _ (fun z => absurd z.1 (by decide))]
    simp only [cells, cL, cGf, r3, r6, r7, r9, r10, r11, r12, r15, r16, r33, r312, hE]
  · rw [up2_n _ _ (fun z => absurd z.1 (by decide)), up2_n _ _ (fun z => absurd z.1 (by decide))]
    simp only [cells, cL, cGf, r3, r6, r7, r9, r10, r11, r12, r15, r16, r33, r312, hE]
  · rw [up2_n _ _ (fun z => absurd z.1 (by decide)), up2_n _ _ (fun z => absurd z.1 (by decide))]
    simp only [cells, cL, cGf, r3, r6, r7, r9, r10, r11, r12, r15, r16, r33, r312, hE]
  · rw [up2_n _ _ (fun z => absurd z.1 (by decide)), up2_n _ _ (fun z => absurd z.1 (by decide))]
    simp only [cells, cL, cGf, r3, r6, r7, r9, r10, r11, r12, r15, r16, r33, r312, hE]
  · rw [up2_n _ _ (fun z => absurd z.1 (by decide)), up2_n _ _ (fun z => absurd z.1 (by decide))]
    simp only [cells, cL, cGf, r3, r6, r7, r9, r10, r11, r12, r15, r16, r33, r312, hE]
  · rw [up2_n _ _ (fun z => absurd z.1 (by decide)), up2_n _ _ (fun z => absurd z.1 (by decide))]
    simp only [cells, cL, cGf, r3, r6, r7, r9, r10, r11, r12, r15, r16, r33, r312, hE]
  · rw [up2_n _ _ (fun z => absurd z.1 (by decide)), up2_n _ _ (fun z => absurd z.1 (by decide))]
    simp only [cells, cL, cGf, r3, r6, r7, r9, r10, r11, r12, r15, r16, r33, r312, hE]
  · rw [up2_n _ _ (fun z => absurd z.1 (by decide))]
    by_cases hi : i = 0
    · subst hi
      rw [up2_s]
      rfl
    · rw [up2_n _ _ (fun z => hi z.2)]
      show (if i = 0 then _ else _) = (if i = 0 then _ else _)
      rw [if_neg hi, if_neg hi]
  · rw [up2_n _ _ (fun z => absurd z.1 (by decide)), up2_n _ _ (fun z => absurd z.1 (by decide))]
    simp only [cells, cL, cGf, r3, r6, r7, r9, r10, r11, r12, r15, r16, r33, r312, hE]
  · rw [up2_n _ _ (fun z => absurd z.1 (by decide)), up2_n _ _ (fun z => absurd z.1 (by decide))]
    simp only [cells, cL, cGf, r3, r6, r7, r9, r10, r11, r12, r15, r16, r33, r312, hE]
  · rw [up2_n _ _ (fun z => absurd z.1 (by decide)), up2_n _ _ (fun z => absurd z.1 (by decide))]
    simp only [cells, cL, cGf, r3, r6, r7, r9, r10, r11, r12, r15, r16, r33, r312, hE]
  · rw [up2_n _ _ (fun z => absurd z.1 (by decide)), up2_n _ _ (fun z => absurd z.1 (by decide))]
    simp only [cells, cL, cGf, r3, r6, r7, r9, r10, r11, r12, r15, r16, r33, r312, hE]
  · rw [up2_n _ _ (fun z => absurd z.1 (by decide)), up2_n _ _ (fun z => absurd z.1 (by decide))]
    simp only [cells, cL, cGf, r3, r6, r7, r9, r10, r11, r12, r15, r16, r33, r312, hE]
  · rw [up2_n _ _ (fun z => absurd z.1 (by decide)), up2_n _ _ (fun z => absurd z.1 (by decide))]
    simp only [cells, cL, cGf, r3, r6, r7, r9, r10, r11, r12, r15, r16, r33, r312, hE]
  · rw [up2_n _ _ (fun z => absurd z.1 (by decide)), up2_n _ _ (fun z => absurd z.1 (by decide))]
    simp only [cells, cL, cGf, r3, r6, r7, r9, r10, r11, r12, r15, r16, r33, r312, hE]
  · rw [up2_n _ _ (fun z => absurd z.1 (by decide)), up2_n _ _ (fun z => absurd z.1 (by decide))]
    simp only [cells, cL, cGf, r3, r6, r7, r9, r10, r11, r12, r15, r16, r33, r312, hE]
  · rw [up2_n _ _ (fun z => by omega), up2_n _ _ (fun z => by omega), cells_big i hb, cells_big i hb]
theorem CW.grow (h : CW c0 ad cp fz md S U A B c) {q L : Nat} (hq : c q = none) (hL : cp 8 0 ≤ L) (hL2 : L < 4000000) (hL4 : L % 4 = 0) : CW c0 (up2 ad 8 0 q) (up2 cp 8 0 L) fz md S U A B (va_up (va_up c q (some (cR 8 0, gLongs L (cLn A)))) (ad 0 0) (some (cR 0 0, .inr (1, (cXf ad A B).set 15 (.ref q))))) := by
  refine ⟨?_, ?_⟩
  · rw [cells_grow]
    have h1 := h.1.push (k := 8) (i := 0) (e := gLongs L (cLn A)) hq (by decide) (by decide)
    exact h1.set (k := 0) (i := 0) (e := .inr (1, cXf ad A B)) rfl
  · obtain ⟨g1, g2, g3, g4, g5, g6⟩ := h.2
    have r33 : up2 cp 8 0 L 3 = cp 3 := up2_k _ _ (by decide)
    have r312 : up2 cp 8 0 L 12 = cp 12 := up2_k _ _ (by decide)
    unfold CI
    rw [r33, r312, up2_s]
    exact ⟨g1, g2, g3, by omega, by omega, hL2, hL4⟩
/-- one more line -/
abbrev cLu (A : Nat → Nat → Int32) (nl : Nat) (kind who : Int32) (sum : Int64) : Nat → Int64 := vp_updL (vp_updL (vp_updL (vp_updL (cLn A) (4 * nl) (A 32 0).toInt64) (4 * nl + 1) kind.toInt64) (4 * nl + 2) who.toInt64) (4 * nl + 3) sum
theorem sLineA_42 (A : Nat → Nat → Int32) (nl : Nat) (kind who : Int32) (sum : Int64) : sLineA A nl kind who sum 42 0 = nI (nl + 1) := by unfold sLineA; rw [mA_rd]
theorem cLn_line {nl : Nat} (kind who : Int32) {sum : Int64} (hnl : A 42 0 = nI nl) (h2 : nl < 1000000) (hs : sum.toInt32.toInt64 = sum) : cLn (sLineA A nl kind who sum) = cLu A nl kind who sum := by
  funext j
  have e1 : ix (sLineA A nl kind who sum 42 0) = nl + 1 := by rw [sLineA_42, ix_nI (by omega)]
  have e2 : ix (A 42 0) = nl := by rw [hnl, ix_nI (by omega)]
  have e3 : ∀ w, cLv (sLineA A nl kind who sum) nl w = (if w = 0 then (A 32 0).toInt64 else if w = 1 then kind.toInt64 else if w = 2 then who.toInt64 else sum) := by
    intro w
    unfold cLv
    split
    · simp [sLineA, va_up, upd]
    · simp [sLineA, va_up, upd]
    · simp [sLineA, va_up, upd]
    · rename_i n0 n1 n2
      rw [if_neg n0, if_neg n1, if_neg n2]
      simp [sLineA, va_up, upd, hs]
  have e4 : ∀ n w, n ≠ nl → cLv (sLineA A nl kind who sum) n w = cLv A n w := by
    intro n w hn
    unfold cLv
    split <;> simp [sLineA, va_up, upd, hn]
  unfold cLn
  rw [e1]
  simp only [cLu, vp_updL]
  by_cases h1 : j < 4 * nl
  · rw [if_pos (by omega), e4 _ _ (by omega), if_neg (by omega), if_neg (by omega), if_neg (by omega), if_neg (by omega), cLn, e2, if_pos h1]
  · by_cases h3 : j < 4 * (nl + 1)
    · rw [if_pos h3, show j / 4 = nl by omega, e3]
      rcases (show j = 4 * nl ∨ j = 4 * nl + 1 ∨ j = 4 * nl + 2 ∨ j = 4 * nl + 3 by omega) with e | e | e | e
      · rw [if_pos (by omega), if_neg (by omega), if_neg (by omega), if_neg (by omega), if_pos e]
      · rw [if_neg (by omega), if_pos (by omega), if_neg (by omega), if_neg (by omega), if_pos e]
      · rw [if_neg (by omega), if_neg (by omega), if_pos (by omega), if_neg (by omega), if_pos e]
      · rw [if_neg (by omega), if_neg (by omega), if_neg (by omega), if_pos e]
    · rw [if_neg h3, if_neg (by omega), if_neg (by omega), if_neg (by omega), if_neg (by omega), cLn, if_neg (by rw [e2]; omega)]
theorem cells_line {nl : Nat} (kind who : Int32) {sum : Int64} (s : Int64) (hnl : A 42 0 = nI nl) (h2 : nl < 1000000) (hs : sum.toInt32.toInt64 = sum) : cells ad cp fz md S U (sLineA A nl kind who sum) (mB B 43 0 s) = up2 (up2 (cells ad cp fz md S U A B) 8 0 (some (gLongs (cp 8 0) (cLu A nl kind who sum)))) 0 0 (some (.inr (1, ((cXf ad A B).set 16 (.int (nI (nl + 1)))).set 6 (.long s)))) := by
  funext k i
  by_cases h0 : k = 0
  · subst h0
    by_cases hi : i = 0
    · subst hi
      rw [up2_s]
      show some _ = some _
      simp only [cXf, sLineA_42, List.set, mB_rd]
      simp [sLineA, va_up]
    · rw [up2_n _ _ (fun z => hi z.2), up2_n _ _ (fun z => absurd z.1 (by decide))]
      show (if i = 0 then _ else _) = (if i = 0 then _ else _)
      rw [if_neg hi, if_neg hi]
  · rw [up2_n _ _ (fun z => h0 z.1)]
    by_cases h8 : k = 8
    · subst h8
      by_cases hi : i = 0
      · subst hi
        rw [up2_s]
        show some _ = some _
        rw [cLn_line kind who hnl h2 hs]
      · rw [up2_n _ _ (fun z => hi z.2)]
        show (if i = 0 then _ else _) = (if i = 0 then _ else _)
        rw [if_neg hi, if_neg hi]
    · rw [up2_n _ _ (fun z => h8 z.1)]
      unfold sLineA
      have u : ∀ f, f = 38 ∨ f = 39 ∨ f = 40 ∨ f = 41 ∨ f = 42 → cUse k f = false := by
        intro f hf
        unfold cUse
        split <;> first | exact absurd rfl h0 | exact absurd rfl h8 | (rcases hf with rfl | rfl | rfl | rfl | rfl <;> rfl)
      have ub : cUsb k 43 = false := by
        unfold cUsb
        split <;> first | exact absurd rfl h0 | rfl
      rw [cells_mB _ _ _ ub, cells_mA _ _ _ (u 42 (by decide)), cells_mA _ _ _ (u 41 (by decide)), cells_mA _ _ _ (u 40 (by decide)), cells_mA _ _ _ (u 39 (by decide)), cells_mA _ _ _ (u 38 (by decide))]
theorem CI_line {nl : Nat} (kind who : Int32) (sum : Int64) (hc : CI cp A) (h2 : nl < 1000000) (h4 : 4 * (nl + 1) ≤ cp 8 0) : CI cp (sLineA A nl kind who sum) := by
  obtain ⟨g1, g2, g3, g4, g5, g6⟩ := hc
  have e : ix (sLineA A nl kind who sum 42 0) = nl + 1 := by rw [sLineA_42, ix_nI (by omega)]
  refine ⟨g1, g2, ?_, ?_, g5, g6⟩
  · rw [e, sLineA_42]
  · rw [e]; exact h4
end CCH
