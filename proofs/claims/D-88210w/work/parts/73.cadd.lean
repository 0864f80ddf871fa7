/-! THE COMPONENT: one more thing in a list -/
set_option maxRecDepth 100000
section CAD
variable {c0 c : gLH} {ad cp fz ad' cp' : Nat → Nat → Nat} {md md' : Nat → Nat → Int32} {S : Nat → List Value} {U : Nat → Nat → Int64} {A A' : Nat → Nat → Int32} {B B' : Nat → Nat → Int64}
theorem cells_P {k : Nat} (i : Nat) (h2 : k ≠ 2) (h3 : k ≠ 3) (a1 : ad' 1 = ad 1) (a2 : ad' 2 = ad 2) (a4 : ad' 4 = ad 4) (a5 : ad' 5 = ad 5) (a6 : ad' 6 = ad 6) (a7 : ad' 7 = ad 7) (a8 : ad' 8 = ad 8) (a11 : ad' 11 = ad 11) (a12 : ad' 12 = ad 12) (p8 : cp' 8 = cp 8) (p12 : cp' 12 = cp 12) (m11 : md' 11 = md 11) : cells ad' cp' fz md' S U A B k i = cells ad cp fz md S U A B k i := by
  rcases k_17 k with rfl | rfl | rfl | rfl | rfl | rfl | rfl | rfl | rfl | rfl | rfl | rfl | rfl | rfl | rfl | rfl | rfl | hb
  · simp only [cells, cXf, cGf, a1, a2, a4, a5, a6, a7, a8, a11, a12, p8, p12, m11]
  · simp only [cells, cXf, cGf, a1, a2, a4, a5, a6, a7, a8, a11, a12, p8, p12, m11]
  · exact absurd rfl h2
  · exact absurd rfl h3
  · simp only [cells, cXf, cGf, a1, a2, a4, a5, a6, a7, a8, a11, a12, p8, p12, m11]
  · simp only [cells, cXf, cGf, a1, a2, a4, a5, a6, a7, a8, a11, a12, p8, p12, m11]
  · simp only [cells, cXf, cGf, a1, a2, a4, a5, a6, a7, a8, a11, a12, p8, p12, m11]
  · simp only [cells, cXf, cGf, a1, a2, a4, a5, a6, a7, a8, a11, a12, p8, p12, m11]
  · simp only [cells, cXf, cGf, a1, a2, a4, a5, a6, a7, a8, a11, a12, p8, p12, m11]
  · simp only [cells, cXf, cGf, a1, a2, a4, a5, a6, a7, a8, a11, a12, p8, p12, m11]
  · simp only [cells, cXf, cGf, a1, a2, a4, a5, a6, a7, a8, a11, a12, p8, p12, m11]
  · simp only [cells, cXf, cGf, a1, a2, a4, a5, a6, a7, a8, a11, a12, p8, p12, m11]
  · simp only [cells, cXf, cGf, a1, a2, a4, a5, a6, a7, a8, a11, a12, p8, p12, m11]
  · simp only [cells, cXf, cGf, a1, a2, a4, a5, a6, a7, a8, a11, a12, p8, p12, m11]
  · simp only [cells, cXf, cGf, a1, a2, a4, a5, a6, a7, a8, a11, a12, p8, p12, m11]
  · simp only [cells, cXf, cGf, a1, a2, a4, a5, a6, a7, a8, a11, a12, p8, p12, m11]
  · simp only [cells, cXf, cGf, a1, a2, a4, a5, a6, a7, a8, a11, a12, p8, p12, m11]
  · rw [cells_big i hb, cells_big i hb]
theorem CW.add1 (h : CW c0 ad cp fz md S U A B c) {n q cap' d' : Nat} {e : va_E} {c' : gLH} (hn : cn A 1 = n) (hq : c q = none) (hL : gAL c' (ad 2 1) d' cap' (cR 2 1) (cR 3 1) (cL ad fz A 1 ++ [q])) (hd : d' = ad 3 1 ∨ va_up c q (some (cR 9 n, e)) d' = none) (hfr : gFrm (va_up c q (some (cR 9 n, e))) c' (ad 2 1) (ad 3 1)) (hcn : cn A' 1 = n + 1) (hcnO : ∀ i, i < 6 → i ≠ 1 → cn A' i = cn A i) (hoth : ∀ k i, k ≠ 2 → k ≠ 3 → k ≠ 9 → cells ad cp fz md S U A' B' k i = cells ad cp fz md S U A B k i) (hnew : cells ad cp fz md S U A' B' 9 n = some e) (hold : ∀ i, i ≠ n → cells ad cp fz md S U A' B' 9 i = cells ad cp fz md S U A B 9 i) (hCI : CI (up2 cp 3 1 cap') A') : ∃ m', CW c0 (up2 (up2 ad 9 n q) 3 1 d') (up2 cp 3 1 cap') fz (up2 md 2 1 m') S U A' B' c' := by
  have hn9 : n < 1000 := by have := (h.2.1 1 (by decide)).2.2.2.1; rw [hn] at this; exact Nat.lt_of_le_of_lt this (by decide)
  have hP := h.1.push (k := 9) (i := n) (e := e) hq (by decide) hn9
  have f1 : up2 (cells ad cp fz md S U A B) 9 n (some e) 2 1 = some (.inr (31, [.int (md 2 1), .ref (up2 ad 9 n q 3 1), .int (nI (cL ad fz A 1).length)])) := by rw [up2_n _ _ (fun z => absurd z.1 (by decide)), up2_n _ _ (fun z => absurd z.1 (by decide))]; rfl
  have f2 : up2 (cells ad cp fz md S U A B) 9 n (some e) 3 1 = some (gRefs (cp 3 1) (fun j => (cL ad fz A 1)[j]?)) := by rw [up2_n _ _ (fun z => absurd z.1 (by decide))]; rfl
  have g2 : up2 ad 9 n q 2 1 = ad 2 1 := up2_n _ _ (fun z => absurd z.1 (by decide))
  have g3 : up2 ad 9 n q 3 1 = ad 3 1 := up2_n _ _ (fun z => absurd z.1 (by decide))
  obtain ⟨m', hR⟩ := hP.relist (k := 2) (k' := 3) (i := 1) (d' := d') (cap' := cap') (es' := cL ad fz A 1 ++ [q]) f1 f2 (by rw [g2]; exact hL) (by rw [g3]; exact hd) (by rw [g2, g3]; exact hfr)
  have hcl : cL (up2 (up2 ad 9 n q) 3 1 d') fz A' 1 = cL ad fz A 1 ++ [q] := by
    unfold cL
    rw [hcn, hn, List.range_succ, List.map_append]
    congr 1
    · apply List.map_congr_left
      intro j hj
      have := List.mem_range.mp hj
      show (up2 (up2 ad 9 n q) 3 1 d') 9 j = ad 9 j
      rw [up2_k _ _ (by decide), up2_n _ _ (by omega)]
    · show [(up2 (up2 ad 9 n q) 3 1 d') 9 n] = [q]
      rw [up2_k _ _ (by decide), up2_s]
  have hcO : ∀ i, i < 6 → i ≠ 1 → cL (up2 (up2 ad 9 n q) 3 1 d') fz A' i = cL ad fz A i := by
    intro i h6 hi
    have hE : ∀ j, cE (up2 (up2 ad 9 n q) 3 1 d') fz i j = cE ad fz i j := by
      intro j
      rcases (show i = 0 ∨ i = 1 ∨ i = 2 ∨ i = 3 ∨ i = 4 ∨ i = 5 by omega) with rfl | rfl | rfl | rfl | rfl | rfl
      · rfl
      · exact absurd rfl hi
      · show (up2 (up2 ad 9 n q) 3 1 d') 10 j = ad 10 j; rw [up2_k _ _ (by decide), up2_k _ _ (by decide)]
      · rfl
      · show (up2 (up2 ad 9 n q) 3 1 d') 15 j = ad 15 j; rw [up2_k _ _ (by decide), up2_k _ _ (by decide)]
      · show (up2 (up2 ad 9 n q) 3 1 d') 16 j = ad 16 j; rw [up2_k _ _ (by decide), up2_k _ _ (by decide)]
    unfold cL
    rw [hcnO i h6 hi]
    exact congrArg (fun z => List.map z _) (funext hE)
  refine ⟨m', hR.sub ?_, hCI⟩
  intro k i e2 he
  by_cases k3 : k = 3
  · subst k3
    by_cases i1 : i = 1
    · subst i1
      rw [up2_s]
      rw [← he]
      show _ = some (gRefs (up2 cp 3 1 cap' 3 1) (fun j => (cL (up2 (up2 ad 9 n q) 3 1 d') fz A' 1)[j]?))
      rw [hcl, up2_s]
    · rw [up2_n _ _ (fun z => i1 z.2), up2_n _ _ (fun z => absurd z.1 (by decide)), up2_n _ _ (fun z => absurd z.1 (by decide)), ← he]
      show (if i < 6 then _ else _) = (if i < 6 then _ else _)
      by_cases h6 : i < 6
      · rw [if_pos h6, if_pos h6, hcO i h6 i1, up2_n _ _ (fun z => i1 z.2)]
      · rw [if_neg h6, if_neg h6]
  · rw [up2_n _ _ (fun z => k3 z.1)]
    by_cases k2 : k = 2
    · subst k2
      by_cases i1 : i = 1
      · subst i1
        rw [up2_s, ← he]
        show _ = some (Sum.inr (31, [Value.int (up2 md 2 1 m' 2 1), Value.ref ((up2 (up2 ad 9 n q) 3 1 d') 3 1), Value.int (nI (cL (up2 (up2 ad 9 n q) 3 1 d') fz A' 1).length)]))
        rw [hcl, up2_s, up2_s]
      · rw [up2_n _ _ (fun z => i1 z.2), up2_n _ _ (fun z => absurd z.1 (by decide)), ← he]
        show (if i < 6 then _ else _) = (if i < 6 then _ else _)
        by_cases h6 : i < 6
        · rw [if_pos h6, if_pos h6, hcO i h6 i1, up2_n _ _ (fun z => i1 z.2), up2_n _ _ (fun z => i1 z.2), up2_n _ _ (fun z => absurd z.1 (by decide))]
        · rw [if_neg h6, if_neg h6]
    · rw [up2_n _ _ (fun z => k2 z.1)]
      rw [cells_P i k2 k3 (by rw [up2_k _ _ (by decide), up2_k _ _ (by decide)]) (by rw [up2_k _ _ (by decide), up2_k _ _ (by decide)]) (by rw [up2_k _ _ (by decide), up2_k _ _ (by decide)]) (by rw [up2_k _ _ (by decide), up2_k _ _ (by decide)]) (by rw [up2_k _ _ (by decide), up2_k _ _ (by decide)]) (by rw [up2_k _ _ (by decide), up2_k _ _ (by decide)]) (by rw [up2_k _ _ (by decide), up2_k _ _ (by decide)]) (by rw [up2_k _ _ (by decide), up2_k _ _ (by decide)]) (by rw [up2_k _ _ (by decide), up2_k _ _ (by decide)]) (up2_k _ _ (by decide)) (up2_k _ _ (by decide)) (up2_k _ _ (by decide))] at he
      by_cases k9 : k = 9
      · subst k9
        by_cases hin : i = n
        · subst hin
          rw [up2_s, ← hnew]; exact he
        · rw [up2_n _ _ (fun z => hin z.2), ← hold i hin]; exact he
      · rw [up2_n _ _ (fun z => k9 z.1), ← hoth k i k2 k3 k9]; exact he
theorem CW.add4 (h : CW c0 ad cp fz md S U A B c) {n q cap' d' : Nat} {e : va_E} {c' : gLH} (hn : cn A 4 = n) (hq : c q = none) (hL : gAL c' (ad 2 4) d' cap' (cR 2 4) (cR 3 4) (cL ad fz A 4 ++ [q])) (hd : d' = ad 3 4 ∨ va_up c q (some (cR 15 n, e)) d' = none) (hfr : gFrm (va_up c q (some (cR 15 n, e))) c' (ad 2 4) (ad 3 4)) (hcn : cn A' 4 = n + 1) (hcnO : ∀ i, i < 6 → i ≠ 4 → cn A' i = cn A i) (hoth : ∀ k i, k ≠ 2 → k ≠ 3 → k ≠ 15 → cells ad cp fz md S U A' B' k i = cells ad cp fz md S U A B k i) (hnew : cells ad cp fz md S U A' B' 15 n = some e) (hold : ∀ i, i ≠ n → cells ad cp fz md S U A' B' 15 i = cells ad cp fz md S U A B 15 i) (hCI : CI (up2 cp 3 4 cap') A') : ∃ m', CW c0 (up2 (up2 ad 15 n q) 3 4 d') (up2 cp 3 4 cap') fz (up2 md 2 4 m') S U A' B' c' := by
  have hn9 : n < 1000 := by have := (h.2.1 4 (by decide)).2.2.2.1; rw [hn] at this; exact Nat.lt_of_le_of_lt this (by decide)
  have hP := h.1.push (k := 15) (i := n) (e := e) hq (by decide) hn9
  have f1 : up2 (cells ad cp fz md S U A B) 15 n (some e) 2 4 = some (.inr (31, [.int (md 2 4), .ref (up2 ad 15 n q 3 4), .int (nI (cL ad fz A 4).length)])) := by rw [up2_n _ _ (fun z => absurd z.1 (by decide)), up2_n _ _ (fun z => absurd z.1 (by decide))]; rfl
  have f2 : up2 (cells ad cp fz md S U A B) 15 n (some e) 3 4 = some (gRefs (cp 3 4) (fun j => (cL ad fz A 4)[j]?)) := by rw [up2_n _ _ (fun z => absurd z.1 (by decide))]; rfl
  have g2 : up2 ad 15 n q 2 4 = ad 2 4 := up2_n _ _ (fun z => absurd z.1 (by decide))
  have g3 : up2 ad 15 n q 3 4 = ad 3 4 := up2_n _ _ (fun z => absurd z.1 (by decide))
  obtain ⟨m', hR⟩ := hP.relist (k := 2) (k' := 3) (i := 4) (d' := d') (cap' := cap') (es' := cL ad fz A 4 ++ [q]) f1 f2 (by rw [g2]; exact hL) (by rw [g3]; exact hd) (by rw [g2, g3]; exact hfr)
  have hcl : cL (up2 (up2 ad 15 n q) 3 4 d') fz A' 4 = cL ad fz A 4 ++ [q] := by
    unfold cL
    rw [hcn, hn, List.range_succ, List.map_append]
    congr 1
    · apply List.map_congr_left
      intro j hj
      have := List.mem_range.mp hj
      show (up2 (up2 ad 15 n q) 3 4 d') 15 j = ad 15 j
      rw [up2_k _ _ (by decide), up2_n _ _ (by omega)]
    · show [(up2 (up2 ad 15 n q) 3 4 d') 15 n] = [q]
      rw [up2_k _ _ (by decide), up2_s]
  have hcO : ∀ i, i < 6 → i ≠ 4 → cL (up2 (up2 ad 15 n q) 3 4 d') fz A' i = cL ad fz A i := by
    intro i h6 hi
    have hE : ∀ j, cE (up2 (up2 ad 15 n q) 3 4 d') fz i j = cE ad fz i j := by
      intro j
      rcases (show i = 0 ∨ i = 1 ∨ i = 2 ∨ i = 3 ∨ i = 4 ∨ i = 5 by omega) with rfl | rfl | rfl | rfl | rfl | rfl
      · rfl
      · show (up2 (up2 ad 15 n q) 3 4 d') 9 j = ad 9 j; rw [up2_k _ _ (by decide), up2_k _ _ (by decide)]
      · show (up2 (up2 ad 15 n q) 3 4 d') 10 j = ad 10 j; rw [up2_k _ _ (by decide), up2_k _ _ (by decide)]
      · rfl
      · exact absurd rfl hi
      · show (up2 (up2 ad 15 n q) 3 4 d') 16 j = ad 16 j; rw [up2_k _ _ (by decide), up2_k _ _ (by decide)]
    unfold cL
    rw [hcnO i h6 hi]
    exact congrArg (fun z => List.map z _) (funext hE)
  refine ⟨m', hR.sub ?_, hCI⟩
  intro k i e2 he
  by_cases k3 : k = 3
  · subst k3
    by_cases i1 : i = 4
    · subst i1
      rw [up2_s]
      rw [← he]
      show _ = some (gRefs (up2 cp 3 4 cap' 3 4) (fun j => (cL (up2 (up2 ad 15 n q) 3 4 d') fz A' 4)[j]?))
      rw [hcl, up2_s]
    · rw [up2_n _ _ (fun z => i1 z.2), up2_n _ _ (fun z => absurd z.1 (by decide)), up2_n _ _ (fun z => absurd z.1 (by decide)), ← he]
      show (if i < 6 then _ else _) = (if i < 6 then _ else _)
      by_cases h6 : i < 6
      · rw [if_pos h6, if_pos h6, hcO i h6 i1, up2_n _ _ (fun z => i1 z.2)]
      · rw [if_neg h6, if_neg h6]
  · rw [up2_n _ _ (fun z => k3 z.1)]
    by_cases k2 : k = 2
    · subst k2
      by_cases i1 : i = 4
      · subst i1
        rw [up2_s, ← he]
        show _ = some (Sum.inr (31, [Value.int (up2 md 2 4 m' 2 4), Value.ref ((up2 (up2 ad 15 n q) 3 4 d') 3 4), Value.int (nI (cL (up2 (up2 ad 15 n q) 3 4 d') fz A' 4).length)]))
        rw [hcl, up2_s, up2_s]
      · rw [up2_n _ _ (fun z => i1 z.2), up2_n _ _ (fun z => absurd z.1 (by decide)), ← he]
        show (if i < 6 then _ else _) = (if i < 6 then _ else _)
        by_cases h6 : i < 6
        · rw [if_pos h6, if_pos h6, hcO i h6 i1, up2_n _ _ (fun z => i1 z.2), up2_n _ _ (fun z => i1 z.2), up2_n _ _ (fun z => absurd z.1 (by decide))]
        · rw [if_neg h6, if_neg h6]
    · rw [up2_n _ _ (fun z => k2 z.1)]
      rw [cells_P i k2 k3 (by rw [up2_k _ _ (by decide), up2_k _ _ (by decide)]) (by rw [up2_k _ _ (by decide), up2_k _ _ (by decide)]) (by rw [up2_k _ _ (by decide), up2_k _ _ (by decide)]) (by rw [up2_k _ _ (by decide), up2_k _ _ (by decide)]) (by rw [up2_k _ _ (by decide), up2_k _ _ (by decide)]) (by rw [up2_k _ _ (by decide), up2_k _ _ (by decide)]) (by rw [up2_k _ _ (by decide), up2_k _ _ (by decide)]) (by rw [up2_k _ _ (by decide), up2_k _ _ (by decide)]) (by rw [up2_k _ _ (by decide), up2_k _ _ (by decide)]) (up2_k _ _ (by decide)) (up2_k _ _ (by decide)) (up2_k _ _ (by decide))] at he
      by_cases k9 : k = 15
      · subst k9
        by_cases hin : i = n
        · subst hin
          rw [up2_s, ← hnew]; exact he
        · rw [up2_n _ _ (fun z => hin z.2), ← hold i hin]; exact he
      · rw [up2_n _ _ (fun z => k9 z.1), ← hoth k i k2 k3 k9]; exact he
theorem CW.add5 (h : CW c0 ad cp fz md S U A B c) {n q cap' d' : Nat} {e : va_E} {c' : gLH} (hn : cn A 5 = n) (hq : c q = none) (hL : gAL c' (ad 2 5) d' cap' (cR 2 5) (cR 3 5) (cL ad fz A 5 ++ [q])) (hd : d' = ad 3 5 ∨ va_up c q (some (cR 16 n, e)) d' = none) (hfr : gFrm (va_up c q (some (cR 16 n, e))) c' (ad 2 5) (ad 3 5)) (hcn : cn A' 5 = n + 1) (hcnO : ∀ i, i < 6 → i ≠ 5 → cn A' i = cn A i) (hoth : ∀ k i, k ≠ 2 → k ≠ 3 → k ≠ 16 → cells ad cp fz md S U A' B' k i = cells ad cp fz md S U A B k i) (hnew : cells ad cp fz md S U A' B' 16 n = some e) (hold : ∀ i, i ≠ n → cells ad cp fz md S U A' B' 16 i = cells ad cp fz md S U A B 16 i) (hCI : CI (up2 cp 3 5 cap') A') : ∃ m', CW c0 (up2 (up2 ad 16 n q) 3 5 d') (up2 cp 3 5 cap') fz (up2 md 2 5 m') S U A' B' c' := by
  have hn9 : n < 1000 := by have := (h.2.1 5 (by decide)).2.2.2.1; rw [hn] at this; exact Nat.lt_of_le_of_lt this (by decide)
  have hP := h.1.push (k := 16) (i := n) (e := e) hq (by decide) hn9
  have f1 : up2 (cells ad cp fz md S U A B) 16 n (some e) 2 5 = some (.inr (31, [.int (md 2 5), .ref (up2 ad 16 n q 3 5), .int (nI (cL ad fz A 5).length)])) := by rw [up2_n _ _ (fun z => absurd z.1 (by decide)), up2_n _ _ (fun z => absurd z.1 (by decide))]; rfl
  have f2 : up2 (cells ad cp fz md S U A B) 16 n (some e) 3 5 = some (gRefs (cp 3 5) (fun j => (cL ad fz A 5)[j]?)) := by rw [up2_n _ _ (fun z => absurd z.1 (by decide))]; rfl
  have g2 : up2 ad 16 n q 2 5 = ad 2 5 := up2_n _ _ (fun z => absurd z.1 (by decide))
  have g3 : up2 ad 16 n q 3 5 = ad 3 5 := up2_n _ _ (fun z => absurd z.1 (by decide))
  obtain ⟨m', hR⟩ := hP.relist (k := 2) (k' := 3) (i := 5) (d' := d') (cap' := cap') (es' := cL ad fz A 5 ++ [q]) f1 f2 (by rw [g2]; exact hL) (by rw [g3]; exact hd) (by rw [g2, g3]; exact hfr)
  have hcl : cL (up2 (up2 ad 16 n q) 3 5 d') fz A' 5 = cL ad fz A 5 ++ [q] := by
    unfold cL
    rw [hcn, hn, List.range_succ, List.map_append]
    congr 1
    · apply List.map_congr_left
      intro j hj
      have := List.mem_range.mp hj
      show (up2 (up2 ad 16 n q) 3 5 d') 16 j = ad 16 j
      rw [up2_k _ _ (by decide), up2_n _ _ (by omega)]
    · show [(up2 (up2 ad 16 n q) 3 5 d') 16 n] = [q]
      rw [up2_k _ _ (by decide), up2_s]
  have hcO : ∀ i, i < 6 → i ≠ 5 → cL (up2 (up2 ad 16 n q) 3 5 d') fz A' i = cL ad fz A i := by
    intro i h6 hi
    have hE : ∀ j, cE (up2 (up2 ad 16 n q) 3 5 d') fz i j = cE ad fz i j := by
      intro j
      rcases (show i = 0 ∨ i = 1 ∨ i = 2 ∨ i = 3 ∨ i = 4 ∨ i = 5 by omega) with rfl | rfl | rfl | rfl | rfl | rfl
      · rfl
      · show (up2 (up2 ad 16 n q) 3 5 d') 9 j = ad 9 j; rw [up2_k _ _ (by decide), up2_k _ _ (by decide)]
      · show (up2 (up2 ad 16 n q) 3 5 d') 10 j = ad 10 j; rw [up2_k _ _ (by decide), up2_k _ _ (by decide)]
      · rfl
      · show (up2 (up2 ad 16 n q) 3 5 d') 15 j = ad 15 j; rw [up2_k _ _ (by decide), up2_k _ _ (by decide)]
      · exact absurd rfl hi
    unfold cL
    rw [hcnO i h6 hi]
    exact congrArg (fun z => List.map z _) (funext hE)
  refine ⟨m', hR.sub ?_, hCI⟩
  intro k i e2 he
  by_cases k3 : k = 3
  · subst k3
    by_cases i1 : i = 5
    · subst i1
      rw [up2_s]
      rw [← he]
      show _ = some (gRefs (up2 cp 3 5 cap' 3 5) (fun j => (cL (up2 (up2 ad 16 n q) 3 5 d') fz A' 5)[j]?))
      rw [hcl, up2_s]
    · rw [up2_n _ _ (fun z => i1 z.2), up2_n _ _ (fun z => absurd z.1 (by decide)), up2_n _ _ (fun z => absurd z.1 (by decide)), ← he]
      show (if i < 6 then _ else _) = (if i < 6 then _ else _)
      by_cases h6 : i < 6
      · rw [if_pos h6, if_pos h6, hcO i h6 i1, up2_n _ _ (fun z => i1 z.2)]
      · rw [if_neg h6, if_neg h6]
  · rw [up2_n _ _ (fun z => k3 z.1)]
    by_cases k2 : k = 2
    · subst k2
      by_cases i1 : i = 5
      · subst i1
        rw [up2_s, ← he]
        show _ = some (Sum.inr (31, [Value.int (up2 md 2 5 m' 2 5), Value.ref ((up2 (up2 ad 16 n q) 3 5 d') 3 5), Value.int (nI (cL (up2 (up2 ad 16 n q) 3 5 d') fz A' 5).length)]))
        rw [hcl, up2_s, up2_s]
      · rw [up2_n _ _ (fun z => i1 z.2), up2_n _ _ (fun z => absurd z.1 (by decide)), ← he]
        show (if i < 6 then _ else _) = (if i < 6 then _ else _)
        by_cases h6 : i < 6
        · rw [if_pos h6, if_pos h6, hcO i h6 i1, up2_n _ _ (fun z => i1 z.2), up2_n _ _ (fun z => i1 z.2), up2_n _ _ (fun z => absurd z.1 (by decide))]
        · rw [if_neg h6, if_neg h6]
    · rw [up2_n _ _ (fun z => k2 z.1)]
      rw [cells_P i k2 k3 (by rw [up2_k _ _ (by decide), up2_k _ _ (by decide)]) (by rw [up2_k _ _ (by decide), up2_k _ _ (by decide)]) (by rw [up2_k _ _ (by decide), up2_k _ _ (by decide)]) (by rw [up2_k _ _ (by decide), up2_k _ _ (by decide)]) (by rw [up2_k _ _ (by decide), up2_k _ _ (by decide)]) (by rw [up2_k _ _ (by decide), up2_k _ _ (by decide)]) (by rw [up2_k _ _ (by decide), up2_k _ _ (by decide)]) (by rw [up2_k _ _ (by decide), up2_k _ _ (by decide)]) (by rw [up2_k _ _ (by decide), up2_k _ _ (by decide)]) (up2_k _ _ (by decide)) (up2_k _ _ (by decide)) (up2_k _ _ (by decide))] at he
      by_cases k9 : k = 16
      · subst k9
        by_cases hin : i = n
        · subst hin
          rw [up2_s, ← hnew]; exact he
        · rw [up2_n _ _ (fun z => hin z.2), ← hold i hin]; exact he
      · rw [up2_n _ _ (fun z => k9 z.1), ← hoth k i k2 k3 k9]; exact he
end CAD
