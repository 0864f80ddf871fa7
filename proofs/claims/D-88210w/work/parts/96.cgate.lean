/-! THE COMPONENT: a list grows; gate -/
set_option maxRecDepth 100000
theorem gEls.mono {c c' : gLH} (hs : gSub c c') {a : Nat} {es : List Nat} (h : gEls c a es) : gEls c' a es := fun y hy => by
  obtain ⟨⟨r, ci, vs, q, h1, h2⟩, h3⟩ := h y hy
  exact ⟨⟨r, ci, vs, q, hs _ _ _ h1, h2⟩, h3⟩
/-- one list has changed; cells have been made -/
theorem CWf.grown {c0 : gLH} {ad : Nat → Nat → Nat} {f : cF} {c : gLH} (h : CWf c0 ad f c) {k1 k2 li : Nat} {e1 e2 : va_E} (h1 : f k1 li = some e1) (h2 : f k2 li = some e2) (hk : k1 ≠ k2) {c1 c' : gLH} {ad' : Nat → Nat → Nat} {f' : Int32 → cF} {d' cap' : Nat} {es' : List Nat} (hs : gSub c c1) (hL : gAL c' (ad k1 li) d' cap' (cR k1 li) (cR k2 li) es') (hfr : gFrm c1 c' (ad k1 li) (ad k2 li)) (a1 : ad' k1 li = ad k1 li) (a2 : ad' k2 li = d') (f1 : ∀ m e, f' m k1 li = some e → e = .inr (31, [.int m, .ref d', .int (nI es'.length)])) (f2 : ∀ m e, f' m k2 li = some e → e = gRefs cap' (fun j => es'[j]?)) (fo : ∀ m k i e, ¬ (k = k1 ∧ i = li) → ¬ (k = k2 ∧ i = li) → f' m k i = some e → c1 (ad' k i) = some (cR k i, e) ∧ k < 32 ∧ i < 1000) : (∃ m, CWf c ad' (f' m) c') ∧ cFr c c' := by
  obtain ⟨⟨m, hc1⟩, hc2, -⟩ := hL
  have b1 := h.1 k1 li _ h1
  have b2 := h.1 k2 li _ h2
  have d1 := hs _ _ _ b1.1
  have d2 := hs _ _ _ b2.1
  have fr : cFr c c' := by
    intro a r e ha hr
    refine hfr a r e (hs _ _ _ ha) (fun q => ?_) (fun q => ?_)
    · rw [q, b1.1] at ha
      have : cR k1 li = r := congrArg Prod.fst (Option.some.inj ha)
      rw [← this, cR_core b1.2.1] at hr
      cases hr
    · rw [q, b2.1] at ha
      have : cR k2 li = r := congrArg Prod.fst (Option.some.inj ha)
      rw [← this, cR_core b2.2.1] at hr
      cases hr
  refine ⟨⟨m, fun k i e he => ?_, fr⟩, fr⟩
  by_cases z1 : k = k1 ∧ i = li
  · obtain ⟨rfl, rfl⟩ := z1
    rw [a1, f1 m e he]
    exact ⟨hc1, b1.2⟩
  · by_cases z2 : k = k2 ∧ i = li
    · obtain ⟨rfl, rfl⟩ := z2
      rw [a2, f2 m e he]
      exact ⟨hc2, b2.2⟩
    · have q := fo m k i e z1 z2 he
      refine ⟨hfr _ _ _ q.1 (fun y => ?_) (fun y => ?_), q.2⟩
      · have q1 := q.1
        rw [y, d1] at q1
        obtain ⟨u, v⟩ := cR_inj b1.2.1 q.2.1 (congrArg Prod.fst (Option.some.inj q1))
        exact z1 ⟨u.symm, v.symm⟩
      · have q1 := q.1
        rw [y, d2] at q1
        obtain ⟨u, v⟩ := cR_inj b2.2.1 q.2.1 (congrArg Prod.fst (Option.some.inj q1))
        exact z2 ⟨u.symm, v.symm⟩
section CAG
variable {c0 c : gLH} {ad cp fz ad' cp' fz' : Nat → Nat → Nat} {md md' : Nat → Nat → Int32} {S : Nat → List Value} {U : Nat → Nat → Int64} {A A' : Nat → Nat → Int32} {B : Nat → Nat → Int64}
theorem cells_Q {k : Nat} (i : Nat) (h2 : k ≠ 2) (h3 : k ≠ 3) (h10 : k ≠ 10) (h11 : k ≠ 11) (h12 : k ≠ 12) (a1 : ad' 1 = ad 1) (a2 : ad' 2 = ad 2) (a4 : ad' 4 = ad 4) (a5 : ad' 5 = ad 5) (a6 : ad' 6 = ad 6) (a7 : ad' 7 = ad 7) (a8 : ad' 8 = ad 8) (p8 : cp' 8 = cp 8) : cells ad' cp' fz' md' S U A B k i = cells ad cp fz md S U A B k i := by
  rcases k_17 k with rfl | rfl | rfl | rfl | rfl | rfl | rfl | rfl | rfl | rfl | rfl | rfl | rfl | rfl | rfl | rfl | rfl | hb
  · simp only [cells, cXf, a1, a2, a4, a5, a6, a7, a8, p8]
  · simp only [cells, cXf, a1, a2, a4, a5, a6, a7, a8, p8]
  · exact absurd rfl h2
  · exact absurd rfl h3
  · simp only [cells, cXf, a1, a2, a4, a5, a6, a7, a8, p8]
  · simp only [cells, cXf, a1, a2, a4, a5, a6, a7, a8, p8]
  · simp only [cells, cXf, a1, a2, a4, a5, a6, a7, a8, p8]
  · simp only [cells, cXf, a1, a2, a4, a5, a6, a7, a8, p8]
  · simp only [cells, cXf, a1, a2, a4, a5, a6, a7, a8, p8]
  · simp only [cells, cXf, a1, a2, a4, a5, a6, a7, a8, p8]
  · exact absurd rfl h10
  · exact absurd rfl h11
  · exact absurd rfl h12
  · simp only [cells, cXf, a1, a2, a4, a5, a6, a7, a8, p8]
  · simp only [cells, cXf, a1, a2, a4, a5, a6, a7, a8, p8]
  · simp only [cells, cXf, a1, a2, a4, a5, a6, a7, a8, p8]
  · simp only [cells, cXf, a1, a2, a4, a5, a6, a7, a8, p8]
  · rw [cells_big i hb, cells_big i hb]
theorem cell_2 {i : Nat} (h : i < 6) : cells ad cp fz md S U A B 2 i = some (.inr (31, [.int (md 2 i), .ref (ad 3 i), .int (nI (cL ad fz A i).length)])) := if_pos h
theorem cell_3 {i : Nat} (h : i < 6) : cells ad cp fz md S U A B 3 i = some (gRefs (cp 3 i) (fun j => (cL ad fz A i)[j]?)) := if_pos h
theorem cell_11 {i : Nat} (h : i < cn A 2) : cells ad cp fz md S U A B 11 i = some (.inr (31, [.int (md 11 i), .ref (ad 12 i), .int (nI (cBd fz A i).length)])) := if_pos h
theorem cell_12 {i : Nat} (h : i < cn A 2) : cells ad cp fz md S U A B 12 i = some (gRefs (cp 12 i) (fun j => (cBd fz A i)[j]?)) := if_pos h
theorem cell_n2 {i : Nat} (h : ¬ i < 6) : cells ad cp fz md S U A B 2 i = none := if_neg h
theorem cell_n3 {i : Nat} (h : ¬ i < 6) : cells ad cp fz md S U A B 3 i = none := if_neg h
theorem cell_n10 {i : Nat} (h : ¬ i < cn A 2) : cells ad cp fz md S U A B 10 i = none := if_neg h
theorem cell_n11 {i : Nat} (h : ¬ i < cn A 2) : cells ad cp fz md S U A B 11 i = none := if_neg h
theorem cell_n12 {i : Nat} (h : ¬ i < cn A 2) : cells ad cp fz md S U A B 12 i = none := if_neg h
theorem cell_n13 {i : Nat} (h : ¬ i < cn A 3) : cells ad cp fz md S U A B 13 i = none := if_neg h
theorem cell_n14 {i : Nat} (h : ¬ i < cn A 3) : cells ad cp fz md S U A B 14 i = none := if_neg h
theorem CW.els2 (h : CW c0 ad cp fz md S U A B c) : gEls c (ad 2 2) (cL ad fz A 2) := by
  intro y hy
  obtain ⟨j, hj⟩ := List.getElem?_of_mem hy
  by_cases z : j < cn A 2
  · rw [cL_at ad fz z] at hj
    cases hj
    refine ⟨⟨_, _, _, _, h.1.at (cells_10 z), rfl, q2283⟩, fun e => ?_⟩
    have h1 := h.1.at (cells_10 z)
    have h2 : c (ad 2 2) = some (cR 2 2, _) := h.1.at (k := 2) (i := 2) rfl
    have e' : ad 10 j = ad 2 2 := e
    rw [e', h2] at h1
    cases (cR_inj (by decide) (by decide) (congrArg Prod.fst (Option.some.inj h1))).1
  · rw [List.getElem?_eq_none (by rw [cL_len]; omega)] at hj
    cases hj
theorem gt_cn {n : Nat} (s : Int32) (hn : n < 1000) : cn (sGateA A n s) 2 = n + 1 ∧ cV (sGateA A n s) 2 = nI (n + 1) := by
  have e : (sGateA A n s) 31 0 = nI (n + 1) := mA_rd _ _ _ _
  refine ⟨?_, e⟩
  show ix ((sGateA A n s) 31 0) = n + 1
  rw [e, ix_nI (by omega)]
theorem gt_cnO (n : Nat) (s : Int32) (i : Nat) (hi : i ≠ 2) : cn (sGateA A n s) i = cn A i ∧ cV (sGateA A n s) i = cV A i := by
  unfold sGateA
  refine ⟨?_, ?_⟩
  · unfold cn
    split <;> first | rfl | exact absurd rfl hi
  · unfold cV
    split <;> first | rfl | exact absurd rfl hi
theorem gt_oth (n : Nat) (s : Int32) {k : Nat} (i : Nat) (h2 : k ≠ 2) (h3 : k ≠ 3) (h10 : k ≠ 10) (h11 : k ≠ 11) (h12 : k ≠ 12) : cells ad cp fz md S U (sGateA A n s) B k i = cells ad cp fz md S U A B k i := by
  have u : ∀ f, f = 29 ∨ f = 50 ∨ f = 31 → cUse k f = false := by
    intro f hf
    unfold cUse
    split <;> first | exact absurd rfl h2 | exact absurd rfl h3 | exact absurd rfl h10 | exact absurd rfl h11 | exact absurd rfl h12 | (rcases hf with rfl | rfl | rfl <;> rfl)
  unfold sGateA
  rw [cells_mA _ _ _ (u 31 (by decide)), cells_mA _ _ _ (u 50 (by decide)), cells_mA _ _ _ (u 29 (by decide))]
/-- a gate is made: its object at p, its list at q, the list's array at d -/
theorem CW.gate (h : CW c0 ad cp fz md S U A B c) {n p q d d' cap' : Nat} {s m1 : Int32} {c1 c' : gLH} (hn : cn A 2 = n) (hn8 : n < 8) (hz : A 46 n = 0 ∧ A 53 n = 0 ∧ A 54 n = 0 ∧ A 30 n = 0) (hs : gSub c c1) (hp : c1 p = some (cR 10 n, .inr (23, [.int (nI n), .int s, .ref q, .null, .int 0, .int 0, .int 0]))) (hq : c1 q = some (cR 11 n, .inr (31, [.int m1, .ref d, .int (nI 0)]))) (hd : c1 d = some (cR 12 n, gRefs 4 (fun _ => none))) (hL : gAL c' (ad 2 2) d' cap' (cR 2 2) (cR 3 2) (cL ad fz A 2 ++ [p])) (hfr : gFrm c1 c' (ad 2 2) (ad 3 2)) : (∃ m, CW c (up2 (up2 (up2 (up2 ad 10 n p) 11 n q) 12 n d) 3 2 d') (up2 (up2 cp 12 n 4) 3 2 cap') fz (up2 (up2 md 11 n m1) 2 2 m) S U (sGateA A n s) B c') ∧ cFr c c' := by
  have cn2 := gt_cn (A := A) s (show n < 1000 by omega)
  have aO : ∀ k, k ≠ 3 → k ≠ 10 → k ≠ 11 → k ≠ 12 → (up2 (up2 (up2 (up2 ad 10 n p) 11 n q) 12 n d) 3 2 d') k = ad k := by
    intro k z1 z2 z3 z4
    rw [up2_k _ _ z1, up2_k _ _ z4, up2_k _ _ z3, up2_k _ _ z2]
  have a3 : ∀ i, i ≠ 2 → (up2 (up2 (up2 (up2 ad 10 n p) 11 n q) 12 n d) 3 2 d') 3 i = ad 3 i := by
    intro i z
    rw [up2_n _ _ (fun y => z y.2), up2_k _ _ (by decide), up2_k _ _ (by decide), up2_k _ _ (by decide)]
  have a10 : (up2 (up2 (up2 (up2 ad 10 n p) 11 n q) 12 n d) 3 2 d') 10 n = p := by rw [up2_k _ _ (by decide), up2_k _ _ (by decide), up2_k _ _ (by decide), up2_s]
  have a11 : (up2 (up2 (up2 (up2 ad 10 n p) 11 n q) 12 n d) 3 2 d') 11 n = q := by rw [up2_k _ _ (by decide), up2_k _ _ (by decide), up2_s]
  have a12 : (up2 (up2 (up2 (up2 ad 10 n p) 11 n q) 12 n d) 3 2 d') 12 n = d := by rw [up2_k _ _ (by decide), up2_s]
  have b10 : ∀ i, i ≠ n → (up2 (up2 (up2 (up2 ad 10 n p) 11 n q) 12 n d) 3 2 d') 10 i = ad 10 i := by
    intro i z
    rw [up2_k _ _ (by decide), up2_k _ _ (by decide), up2_k _ _ (by decide), up2_n _ _ (fun y => z y.2)]
  have b11 : ∀ i, i ≠ n → (up2 (up2 (up2 (up2 ad 10 n p) 11 n q) 12 n d) 3 2 d') 11 i = ad 11 i := by
    intro i z
    rw [up2_k _ _ (by decide), up2_k _ _ (by decide), up2_n _ _ (fun y => z y.2), up2_k _ _ (by decide)]
  have b12 : ∀ i, i ≠ n → (up2 (up2 (up2 (up2 ad 10 n p) 11 n q) 12 n d) 3 2 d') 12 i = ad 12 i := by
    intro i z
    rw [up2_k _ _ (by decide), up2_n _ _ (fun y => z y.2), up2_k _ _ (by decide), up2_k _ _ (by decide)]
  have g46 : (sGateA A n s) 46 = A 46 := rfl
  have hcBd : ∀ i, cBd fz (sGateA A n s) i = cBd fz A i := fun i => rfl
  have hcBn : cBd fz A n = [] := by
    unfold cBd
    rw [hz.1]
    rfl
  have hcl : cL (up2 (up2 (up2 (up2 ad 10 n p) 11 n q) 12 n d) 3 2 d') fz (sGateA A n s) 2 = cL ad fz A 2 ++ [p] := by
    unfold cL
    rw [cn2.1, hn, List.range_succ, List.map_append]
    congr 1
    · apply List.map_congr_left
      intro j hj
      have := List.mem_range.mp hj
      exact b10 j (by omega)
    · show [(up2 (up2 (up2 (up2 ad 10 n p) 11 n q) 12 n d) 3 2 d') 10 n] = [p]
      rw [a10]
  have hcO : ∀ i, i < 6 → i ≠ 2 → cL (up2 (up2 (up2 (up2 ad 10 n p) 11 n q) 12 n d) 3 2 d') fz (sGateA A n s) i = cL ad fz A i := by
    intro i h6 hi
    unfold cL
    rw [(gt_cnO n s i hi).1]
    refine congrArg (fun z => List.map z _) (funext fun j => ?_)
    rcases (show i = 0 ∨ i = 1 ∨ i = 2 ∨ i = 3 ∨ i = 4 ∨ i = 5 by omega) with rfl | rfl | rfl | rfl | rfl | rfl
    · rfl
    · show (up2 (up2 (up2 (up2 ad 10 n p) 11 n q) 12 n d) 3 2 d') 9 j = ad 9 j; rw [aO 9 (by decide) (by decide) (by decide) (by decide)]
    · exact absurd rfl hi
    · rfl
    · show (up2 (up2 (up2 (up2 ad 10 n p) 11 n q) 12 n d) 3 2 d') 15 j = ad 15 j; rw [aO 15 (by decide) (by decide) (by decide) (by decide)]
    · show (up2 (up2 (up2 (up2 ad 10 n p) 11 n q) 12 n d) 3 2 d') 16 j = ad 16 j; rw [aO 16 (by decide) (by decide) (by decide) (by decide)]
  have key := h.1.grown (k1 := 2) (k2 := 3) (li := 2) (ad' := (up2 (up2 (up2 (up2 ad 10 n p) 11 n q) 12 n d) 3 2 d')) (f' := fun m => cells (up2 (up2 (up2 (up2 ad 10 n p) 11 n q) 12 n d) 3 2 d') (up2 (up2 cp 12 n 4) 3 2 cap') fz (up2 (up2 md 11 n m1) 2 2 m) S U (sGateA A n s) B) (cell_2 (by decide)) (cell_3 (by decide)) (by decide) hs hL hfr (by rw [aO 2 (by decide) (by decide) (by decide) (by decide)]) (up2_s _ _ _ _)
    (fun m e he => by
      rw [cell_2 (by decide), hcl, up2_s, up2_s] at he
      exact (Option.some.inj he).symm)
    (fun m e he => by
      rw [cell_3 (by decide), hcl, up2_s] at he
      exact (Option.some.inj he).symm)
    (fun m k i e z1 z2 he => by
      have old : ∀ {k i : Nat} {e : va_E}, cells ad cp fz md S U A B k i = some e → c1 (ad k i) = some (cR k i, e) ∧ k < 32 ∧ i < 1000 := fun {k i e} q => ⟨hs _ _ _ (h.1.1 k i e q).1, (h.1.1 k i e q).2⟩
      by_cases k2 : k = 2
      · subst k2
        by_cases h6 : i < 6
        · have hi : i ≠ 2 := fun y => z1 ⟨rfl, y⟩
          rw [cell_2 h6, hcO i h6 hi, up2_n _ _ (fun y => hi y.2), up2_k _ _ (by decide), a3 i hi] at he
          rw [aO 2 (by decide) (by decide) (by decide) (by decide)]
          exact old (by rw [cell_2 h6]; exact he)
        · rw [cell_n2 h6] at he
          cases he
      by_cases k3 : k = 3
      · subst k3
        by_cases h6 : i < 6
        · have hi : i ≠ 2 := fun y => z2 ⟨rfl, y⟩
          rw [cell_3 h6, hcO i h6 hi, up2_n _ _ (fun y => hi y.2), up2_k _ _ (by decide)] at he
          rw [a3 i hi]
          exact old (by rw [cell_3 h6]; exact he)
        · rw [cell_n3 h6] at he
          cases he
      by_cases k10 : k = 10
      · subst k10
        by_cases hi : i < cn (sGateA A n s) 2
        · rw [cells_10 hi] at he
          by_cases y : i = n
          · subst y
            rw [a10]
            refine ⟨?_, by decide, by omega⟩
            rw [hp, ← Option.some.inj he]
            unfold cGf cLe sGateA
            rw [a11]
            simp [va_up, upd, hz]
          · rw [b10 i y]
            refine old ?_
            rw [cells_10 (by rw [cn2.1] at hi; omega), ← he]
            unfold cGf cLe sGateA
            rw [b11 i y]
            simp [va_up, upd, y]
        · rw [cell_n10 hi] at he
          cases he
      by_cases k11 : k = 11
      · subst k11
        by_cases hi : i < cn (sGateA A n s) 2
        · rw [cell_11 hi, hcBd] at he
          by_cases y : i = n
          · subst y
            rw [a11]
            refine ⟨?_, by decide, by omega⟩
            rw [hq, ← Option.some.inj he, a12, hcBn, up2_k _ _ (by decide), up2_s]
            rfl
          · rw [b11 i y]
            refine old ?_
            rw [cell_11 (by rw [cn2.1] at hi; omega), ← he, b12 i y, up2_k _ _ (by decide), up2_n _ _ (fun w => y w.2)]
        · rw [cell_n11 hi] at he
          cases he
      by_cases k12 : k = 12
      · subst k12
        by_cases hi : i < cn (sGateA A n s) 2
        · rw [cell_12 hi, hcBd] at he
          by_cases y : i = n
          · subst y
            rw [a12]
            refine ⟨?_, by decide, by omega⟩
            rw [hd, ← Option.some.inj he, hcBn, up2_k _ _ (by decide), up2_s]
            rfl
          · rw [b12 i y]
            refine old ?_
            rw [cell_12 (by rw [cn2.1] at hi; omega), ← he, up2_k _ _ (by decide), up2_n _ _ (fun w => y w.2)]
        · rw [cell_n12 hi] at he
          cases he
      rw [cells_Q (ad := ad) (cp := cp) (fz := fz) (md := md) i k2 k3 k10 k11 k12 (aO 1 (by decide) (by decide) (by decide) (by decide)) (aO 2 (by decide) (by decide) (by decide) (by decide)) (aO 4 (by decide) (by decide) (by decide) (by decide)) (aO 5 (by decide) (by decide) (by decide) (by decide)) (aO 6 (by decide) (by decide) (by decide) (by decide)) (aO 7 (by decide) (by decide) (by decide) (by decide)) (aO 8 (by decide) (by decide) (by decide) (by decide)) (by rw [up2_k _ _ (by decide), up2_k _ _ (by decide)]), gt_oth n s i k2 k3 k10 k11 k12] at he
      rw [aO k k3 k10 k11 k12]
      exact old he)
  obtain ⟨⟨m, hm⟩, hF⟩ := key
  refine ⟨⟨m, hm, ?_⟩, hF⟩
  obtain ⟨c1', c2', c3'⟩ := h.2
  have hl : (cL ad fz A 2 ++ [p]).length = n + 1 := by rw [List.length_append, cL_len, hn]; rfl
  refine ⟨fun i hi => ?_, fun i hi => ?_, ?_⟩
  · by_cases z : i = 2
    · subst z
      rw [up2_s, cn2.1, cn2.2]
      have := hL.2.2.1
      rw [hl] at this
      exact ⟨this, by omega, hL.2.2.2, hn8, rfl⟩
    · rw [up2_n _ _ (fun y => z y.2), up2_k _ _ (by decide), (gt_cnO n s i z).1, (gt_cnO n s i z).2]
      exact c1' i hi
  · rw [g46, up2_k _ _ (by decide)]
    by_cases y : i = n
    · subst y
      rw [up2_s, hz.1]
      decide
    · rw [up2_n _ _ (fun w => y w.2)]
      exact c2' i (by rw [cn2.1] at hi; omega)
  · rw [up2_k _ _ (by decide), up2_k _ _ (by decide)]
    exact c3'
end CAG
theorem gSub_up {c : gLH} {p : Nat} {x : Nat × va_E} (h : c p = none) : gSub c (va_up c p (some x)) := fun b r e hb => by
  rw [va_up_n _ _ (fun z => by rw [z, h] at hb; cases hb)]
  exact hb
theorem gSub.trans {c c1 c2 : gLH} (h1 : gSub c c1) (h2 : gSub c1 c2) : gSub c c2 := fun a r e h => h2 a r e (h1 a r e h)
theorem gSub.refl (c : gLH) : gSub c c := fun _ _ _ h => h
/-- the world after something was made: all told anew, with itself as what is frozen -/
def cXw (c : gLH) (S : Nat → List Value) (U : Nat → Nat → Int64) (A : Nat → Nat → Int32) (B : Nat → Nat → Int64) (P : (Nat → Nat → Nat) → (Nat → Nat → Nat) → (Nat → Nat → Nat) → gLH → Prop) (c' : gLH) : Prop := ∃ ad cp fz md, CW c' ad cp fz md S U A B c' ∧ P ad cp fz c' ∧ cFr c c'
theorem CW.now {c0 c : gLH} {ad cp fz : Nat → Nat → Nat} {md : Nat → Nat → Int32} {S : Nat → List Value} {U : Nat → Nat → Int64} {A : Nat → Nat → Int32} {B : Nat → Nat → Int64} (h : CW c0 ad cp fz md S U A B c) : CW c ad cp fz md S U A B c := ⟨⟨h.1.1, fun _ _ _ q _ => q⟩, h.2⟩
theorem cx_gate {l : Launch} {g : gGP} (hk : gK l g) {c0 c : gLH} {ad cp fz : Nat → Nat → Nat} {md : Nat → Nat → Int32} {S : Nat → List Value} {U : Nat → Nat → Int64} {A : Nat → Nat → Int32} {B : Nat → Nat → Int64} (hX : CW c0 ad cp fz md S U A B c) (s : Int32) (hS : gLS g) (hz : A 46 (cn A 2) = 0 ∧ A 53 (cn A 2) = 0 ∧ A 54 (cn A 2) = 0 ∧ A 30 (cn A 2) = 0) (hts : gTS g) : Ct l g yX1_gate hwX1_gate 7 280 [.ref (ad 0 0), .int s] c (12) (260) (pCx (sGateK A s) eBS c (pI (nI (cn A 2)) (fun c' => (∃ m1 p q d d' cap' m, CW c (up2 (up2 (up2 (up2 ad 10 (cn A 2) p) 11 (cn A 2) q) 12 (cn A 2) d) 3 2 d') (up2 (up2 cp 12 (cn A 2) 4) 3 2 cap') fz (up2 (up2 md 11 (cn A 2) m1) 2 2 m) S U (sGateA A (cn A 2) s) B c') ∧ cFr c c'))) := by
  refine Ct.intro hk hcX1_gate (by decide +kernel) (Nat.le_of_ble_eq_true rfl) (fun φ h => ?_)
  refine g_iload_n (i := 1) h dX1_gate_0 rfl rfl ?_
  refine g_aload_n (i := 0) h dX1_gate_1 rfl rfl ?_
  refine g_get (v := .ref (ad 2 1)) h f_X1_29_1 hX.x rfl dX1_gate_2 ?_
  refine g_invV h (ct_xsize1 h.k hX) hcJ2_size w_X1_81 rfl rfl (xlist1 hX) (Nat.le_of_ble_eq_true rfl) ⟨Nat.le_of_ble_eq_true rfl, Nat.le_of_ble_eq_true rfl⟩ (by refine ⟨?_, ?_⟩ <;> first | exact Nat.le_refl _ | exact Nat.zero_le _ | (dsimp only; omega)) dX1_gate_5 (gkr_ip ?_) gkt_ip
  refine g_invS h (ct_thereX h.k _ _ hts) hcX1_there w_X1_112 rfl rfl (Nat.le_of_ble_eq_true rfl) ⟨Nat.le_of_ble_eq_true rfl, Nat.le_of_ble_eq_true rfl⟩ (by refine ⟨?_, ?_⟩ <;> ((try dsimp only); omega)) dX1_gate_8 (gkr_gd (fun b8 => ?_)) (gkt_gd (fun b8 a e ha => ?_))
  rotate_left 1
  · refine gt_out h (fun q hq => by cases hq) ?_ (by (try dsimp only); omega) (by (try dsimp only); omega)
    exact pCx_t (n := 1) (by unfold sGateK; rcases sNo_ge b8 with q | q <;> simp [q]) (by decide) rfl ⟨a, e, rfl, ha, rfl⟩
  have bz := sNo_lt b8
  refine g_aload_n (i := 0) h dX1_gate_11 rfl rfl ?_
  refine g_get (v := .ref (ad 2 2)) h f_X1_32_1 hX.x rfl dX1_gate_12 ?_
  refine g_invV h (ct_xsize2 h.k hX) hcJ2_size w_X1_81 rfl rfl (xlist2 hX) (Nat.le_of_ble_eq_true rfl) ⟨Nat.le_of_ble_eq_true rfl, Nat.le_of_ble_eq_true rfl⟩ (by refine ⟨?_, ?_⟩ <;> first | exact Nat.le_refl _ | exact Nat.zero_le _ | (dsimp only; omega)) dX1_gate_15 (gkr_ip ?_) gkt_ip
  refine g_bipush (v := 8) h dX1_gate_18 (by decide) ?_
  refine g_icmp_ge (tgt := 27) h dX1_gate_20 (by decide) (fun b20 => ?_) (fun b20 => ?_)
  · refine g_iconst (v := 0) h dX1_gate_27 (by decide) ?_
    refine g_invS h (ct_rightX h.k false hts) hcX1_right w_X1_85 rfl rfl (Nat.le_of_ble_eq_true rfl) ⟨Nat.le_of_ble_eq_true rfl, Nat.le_of_ble_eq_true rfl⟩ (by refine ⟨?_, ?_⟩ <;> ((try dsimp only); omega)) dX1_gate_28 (gkr_gd (fun hb => absurd hb (by decide))) (gkt_gd (fun _ a e ha => ?_))
    refine gt_out h (fun q hq => by cases hq) ?_ (by (try dsimp only); omega) (by (try dsimp only); omega)
    exact pCx_t (n := 2) (by have z : A 31 0 = 8 := full_eq (m := 8) (hX.cnt (i := 2) (by decide)).1 (hX.cnt (i := 2) (by decide)).2.1 (by decide) b20; simp [sGateK, bz, z]) (by decide) rfl ⟨a, e, rfl, ha, rfl⟩
  · refine g_iconst (v := 1) h dX1_gate_23 (by decide) ?_
    refine g_goto (tgt := 28) h dX1_gate_24 (by decide) ?_
    refine g_invS h (ct_rightX h.k true hts) hcX1_right w_X1_85 rfl rfl (Nat.le_of_ble_eq_true rfl) ⟨Nat.le_of_ble_eq_true rfl, Nat.le_of_ble_eq_true rfl⟩ (by refine ⟨?_, ?_⟩ <;> ((try dsimp only); omega)) dX1_gate_28 (gkr_gd (fun _ => ?_)) (gkt_gd (fun hb => absurd hb (by decide)))
    refine g_aload_n (i := 0) h dX1_gate_31 rfl rfl ?_
    refine g_get (v := .ref (ad 2 2)) h f_X1_32_1 hX.x rfl dX1_gate_32 ?_
    obtain ⟨n, hn⟩ : ∃ n, cn A 2 = n := ⟨_, rfl⟩
    have hM : cn A 2 ≤ 8 := (hX.cnt (i := 2) (by decide)).2.1
    have hcv : A 31 0 = nI (cn A 2) := (hX.cnt (i := 2) (by decide)).1
    have hlt : n < 8 := by
      rcases Nat.lt_or_ge n 8 with z | z
      · exact z
      · exact absurd (by rw [hcv, show cn A 2 = 8 by omega]; exact Int32.le_refl _) b20
    refine g_new h (cR 10 n) n_X1_116 (by (try dsimp only); omega) (by (try dsimp only); omega) dX1_gate_35 (fun p hp => ?_)
    have hs1 : gSub c (va_up c p (some (cR 10 n, .inr (23, [.int 0, .int 0, .null, .null, .int 0, .int 0, .int 0])))) := gSub_up hp
    refine g_dup h dX1_gate_38 rfl ?_
    refine g_aload_n (i := 0) h dX1_gate_39 rfl rfl ?_
    refine g_get (v := .ref (ad 2 2)) h f_X1_32_1 (hs1 _ _ _ hX.x) rfl dX1_gate_40 ?_
    refine g_invV h (ct_lsize h.k ((hX.list (i := 2) (by decide)).mono hs1)) hcJ2_size w_X1_81 rfl rfl (hs1 _ _ _ (xlist2 hX)) (Nat.le_of_ble_eq_true rfl) ⟨Nat.le_of_ble_eq_true rfl, Nat.le_of_ble_eq_true rfl⟩ (by refine ⟨?_, ?_⟩ <;> ((try dsimp only); omega)) dX1_gate_43 (gkr_ip ?_) gkt_ip
    refine G.int (show _ = nI n by rw [cL_len, hn]) ?_
    refine g_iload_n (i := 1) h dX1_gate_46 rfl rfl ?_
    refine g_invI h (ct_X23init23 h.k (nI n) s (cR 11 n) (cR 12 n) (cR_lt (by decide) (by omega)) (cR_lt (by decide) (by omega)) hS (va_up_s _ _ _)) w_X1_118 rfl rfl (Nat.le_of_ble_eq_true rfl) ⟨Nat.le_of_ble_eq_true rfl, Nat.le_of_ble_eq_true rfl⟩ (by refine ⟨?_, ?_⟩ <;> ((try dsimp only); omega)) dX1_gate_47 (gkr_v (fun c2 e2 => ?_)) gkt_v
    obtain ⟨q, d, hq0, hd0, hdq, hp2, ⟨⟨m1, hq2⟩, hd2, -⟩, hf2⟩ := e2
    have hs2 : gSub c c2 := fun b r e hb => hf2 b r e (hs1 b r e hb) (fun z => by rw [z, hp] at hb; cases hb) (fun z => by have := hs1 b r e hb; rw [z, hq0] at this; cases this) (fun z => by have := hs1 b r e hb; rw [z, hd0] at this; cases this)
    refine g_invV h (ct_ladd h.k (cR_lt (by decide) (by decide)) (cR_lt (by decide) (by decide)) hS ((hX.list (i := 2) (by decide)).mono hs2) (hX.2.1 2 (by decide)).2.1 (by rw [cL_len]; omega) (hX.els2.mono hs2) ⟨_, _, _, _, hp2, rfl, q2283⟩ (fun z => by have := hX.1.at (k := 2) (i := 2) (cell_2 (by decide)); rw [← z, hp] at this; cases this) 1 120 (fun z => ⟨Nat.le_refl _, by rw [cL_len] at z; omega⟩)) hcJ2_add w_X1_97 rfl rfl (hs2 _ _ _ (xlist2 hX)) (Nat.le_of_ble_eq_true rfl) ⟨Nat.le_of_ble_eq_true rfl, Nat.le_of_ble_eq_true rfl⟩ (by refine ⟨?_, ?_⟩ <;> ((try dsimp only); omega)) dX1_gate_50 (gkr_i (fun c3 hP => ?_)) gkt_i
    obtain ⟨d', cap', hL3, hc0, -, hf3⟩ := hP
    obtain ⟨⟨m, hX3⟩, hF3⟩ := hX.gate hn hlt (by rw [← hn]; exact hz) hs2 hp2 hq2 hd2 hL3 hf3
    refine g_pop h dX1_gate_53 rfl ?_
    refine g_aload_n (i := 0) h dX1_gate_54 rfl rfl ?_
    refine g_get (v := .ref (ad 2 2)) h f_X1_32_1 hX3.x rfl dX1_gate_55 ?_
    refine g_invV h (ct_lsize h.k hL3) hcJ2_size w_X1_81 rfl rfl hL3.1.choose_spec (Nat.le_of_ble_eq_true rfl) ⟨Nat.le_of_ble_eq_true rfl, Nat.le_of_ble_eq_true rfl⟩ (by refine ⟨?_, ?_⟩ <;> ((try dsimp only); omega)) dX1_gate_58 (gkr_ip ?_) gkt_ip
    refine G.int (show _ = nI (n + 1) by rw [List.length_append, cL_len, hn]; rfl) ?_
    refine g_iconst (v := nI 1) h dX1_gate_61 (by decide) ?_
    refine g_isub h dX1_gate_62 ?_
    exact g_iret h (pCx_0 (by have z : ¬ A 31 0 = 8 := fun e => b20 (by rw [e]; exact Int32.le_refl _); simp [sGateK, bz, z]) ⟨by rw [show nI (n + 1) - nI 1 = nI n from nI_pred n, hn], ⟨m1, p, q, d, d', cap', m, by rw [hn]; exact hX3⟩, hF3⟩) (by (try dsimp only); omega) (by (try dsimp only); omega) dX1_gate_63
