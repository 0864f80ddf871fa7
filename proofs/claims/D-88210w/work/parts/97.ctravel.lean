/-! THE COMPONENT: traveller -/
set_option maxRecDepth 100000
theorem gObj_T {c : gLH} {p r : Nat} {k : Int32} {fs : List Value} (h : c p = some (r, .inr (tCl k, fs))) : gObj c p := by
  rcases tCl_3 k with e | e | e <;> rw [e] at h
  · exact ⟨_, _, _, _, h, rfl, q2284⟩
  · exact ⟨_, _, _, _, h, rfl, q2286⟩
  · exact ⟨_, _, _, _, h, rfl, q2285⟩
theorem sTravN_at (A : Nat → Nat → Int32) (t : Nat) {k : Nat} (hk : k = 23 ∨ k = 24) : ∀ n, n ≤ 8 → c8 (sTravN A t n k) t = fun j => if j < n then -1 else c8 (A k) t j := by
  intro n
  induction n with
  | zero => intro _; funext j; simp [sTravN]
  | succ n ih =>
    intro hn
    have i2 := ih (by omega)
    have e : c8 (sTravN A t (n + 1) k) t = upd (c8 (sTravN A t n k) t) n (-1) := by
      rcases hk with rfl | rfl
      · show c8 (mA (mA (sTravN A t n) 23 (8 * t + n) (-1)) 24 (8 * t + n) (-1) 23) t = _
        rw [mA_n _ _ _ (by decide), mA_s, c8_s _ _ (by omega)]
      · show c8 (mA (mA (sTravN A t n) 23 (8 * t + n) (-1)) 24 (8 * t + n) (-1) 24) t = _
        rw [mA_s, c8_s _ _ (by omega), mA_n _ _ _ (by decide)]
    rw [e, i2]
    funext j
    unfold upd
    by_cases q : j = n
    · subst q; simp
    · simp only [q, if_false]
      by_cases z : j < n
      · rw [if_pos z, if_pos (by omega)]
      · rw [if_neg z, if_neg (by omega)]
theorem sTravN_no (A : Nat → Nat → Int32) (t : Nat) {k t' : Nat} (hk : k = 23 ∨ k = 24) (ht : t' ≠ t) : ∀ n, n ≤ 8 → c8 (sTravN A t n k) t' = c8 (A k) t' := by
  intro n
  induction n with
  | zero => intro _; rfl
  | succ n ih =>
    intro hn
    have i2 := ih (by omega)
    rcases hk with rfl | rfl
    · show c8 (mA (mA (sTravN A t n) 23 (8 * t + n) (-1)) 24 (8 * t + n) (-1) 23) t' = _
      rw [mA_n _ _ _ (by decide), mA_s, c8_n _ _ (by omega) ht, i2]
    · show c8 (mA (mA (sTravN A t n) 23 (8 * t + n) (-1)) 24 (8 * t + n) (-1) 24) t' = _
      rw [mA_s, c8_n _ _ (by omega) ht, mA_n _ _ _ (by decide), i2]
section CAT
variable {c0 c : gLH} {ad cp fz ad' cp' fz' : Nat → Nat → Nat} {md md' : Nat → Nat → Int32} {S : Nat → List Value} {U : Nat → Nat → Int64} {A A' : Nat → Nat → Int32} {B : Nat → Nat → Int64}
theorem CW.els3 (h : CW c0 ad cp fz md S U A B c) (hT : FT ad fz A c0) : gEls c (ad 2 3) (cL ad fz A 3) := by
  intro y hy
  obtain ⟨j, hj⟩ := List.getElem?_of_mem hy
  by_cases z : j < cn A 3
  · rw [cL_at ad fz z] at hj
    cases hj
    have h1 := h.1.frz (hT j z) gT_core
    refine ⟨gObj_T h1, fun e => ?_⟩
    have h2 : c (ad 2 3) = some (cR 2 3, _) := h.1.at (k := 2) (i := 3) rfl
    have e' : fz 1 j = ad 2 3 := e
    rw [e', h2] at h1
    have := congrArg Prod.fst (Option.some.inj h1)
    exact absurd (show cR 2 3 = gT from this) (by decide)
  · rw [List.getElem?_eq_none (by rw [cL_len]; omega)] at hj
    cases hj
theorem cells_T {k : Nat} (i : Nat) (h2 : k ≠ 2) (h3 : k ≠ 3) (h13 : k ≠ 13) (h14 : k ≠ 14) (a1 : ad' 1 = ad 1) (a2 : ad' 2 = ad 2) (a4 : ad' 4 = ad 4) (a5 : ad' 5 = ad 5) (a6 : ad' 6 = ad 6) (a7 : ad' 7 = ad 7) (a8 : ad' 8 = ad 8) (a11 : ad' 11 = ad 11) (a12 : ad' 12 = ad 12) (p8 : cp' 8 = cp 8) (p12 : cp' 12 = cp 12) (m11 : md' 11 = md 11) (z2 : fz' 2 = fz 2) (z16 : ∀ j, fz' (16 + j) = fz (16 + j)) : cells ad' cp' fz' md' S U A B k i = cells ad cp fz md S U A B k i := by
  rcases k_17 k with rfl | rfl | rfl | rfl | rfl | rfl | rfl | rfl | rfl | rfl | rfl | rfl | rfl | rfl | rfl | rfl | rfl | hb
  · simp only [cells, cXf, a1, a2, a4, a5, a6, a7, a8, p8]
  · simp only [cells, cXf, a1, a2, a4, a5, a6, a7, a8, p8]
  · exact absurd rfl h2
  · exact absurd rfl h3
  · simp only [cells, cXf, a1, a2, a4, a5, a6, a7, a8, p8]
  · simp only [cells, cXf, a1, a2, a4, a5, a6, a7, a8, p8]
  · simp only [cells, cXf, a1, a2, a4, a5, a6, a7, a8, p8]
  · simp only [cells, cXf, a1, a2, a4, a5, a6, a7, a8, p8]
  · simp only [cells, cXf, a1, a2, a4, a5, a6, a7, a8, p8]
  · simp only [cells, cXf, a1, a2, a4, a5, a6, a7, a8, p8]
  · simp only [cells, cGf, cLe, a11, z2]
  · simp only [cells, cBd, a12, m11, z16]
  · simp only [cells, cBd, p12, z16]
  · exact absurd rfl h13
  · exact absurd rfl h14
  · simp only [cells, cXf, a1, a2, a4, a5, a6, a7, a8, p8]
  · simp only [cells, cXf, a1, a2, a4, a5, a6, a7, a8, p8]
  · rw [cells_big i hb, cells_big i hb]
theorem tr_k (n : Nat) (k w b s : Int32) {f : Nat} (h19 : f ≠ 19) (h20 : f ≠ 20) (h21 : f ≠ 21) (h22 : f ≠ 22) (h23 : f ≠ 23) (h24 : f ≠ 24) (h25 : f ≠ 25) : (sTravA A n k w b s) f = A f := by
  unfold sTravA
  rw [mA_n _ _ _ h25, sTravN_k _ _ h23 h24, mA_n _ _ _ h22, mA_n _ _ _ h21, mA_n _ _ _ h20, mA_n _ _ _ h19]
theorem tr_cn {n : Nat} (k w b s : Int32) (hn : n < 1000) : cn (sTravA A n k w b s) 3 = n + 1 ∧ cV (sTravA A n k w b s) 3 = nI (n + 1) := by
  have e : (sTravA A n k w b s) 25 0 = nI (n + 1) := mA_rd _ _ _ _
  refine ⟨?_, e⟩
  show ix ((sTravA A n k w b s) 25 0) = n + 1
  rw [e, ix_nI (by omega)]
theorem tr_cnO (n : Nat) (k w b s : Int32) (i : Nat) (hi : i ≠ 3) : cn (sTravA A n k w b s) i = cn A i ∧ cV (sTravA A n k w b s) i = cV A i := by
  refine ⟨?_, ?_⟩
  · unfold cn
    split <;> first | exact absurd rfl hi | rw [tr_k n k w b s (by decide) (by decide) (by decide) (by decide) (by decide) (by decide) (by decide)]
  · unfold cV
    split <;> first | exact absurd rfl hi | rw [tr_k n k w b s (by decide) (by decide) (by decide) (by decide) (by decide) (by decide) (by decide)]
theorem tr_oN (X : Nat → Nat → Int32) (t : Nat) {k : Nat} (i : Nat) (h13 : k ≠ 13) (h14 : k ≠ 14) : ∀ n, cells ad cp fz md S U (sTravN X t n) B k i = cells ad cp fz md S U X B k i := by
  have u : ∀ f, f = 23 ∨ f = 24 → cUse k f = false := by
    intro f hf
    unfold cUse
    split <;> first | exact absurd rfl h13 | exact absurd rfl h14 | (rcases hf with rfl | rfl <;> rfl)
  intro n
  induction n with
  | zero => rfl
  | succ n ih =>
    show cells ad cp fz md S U (mA (mA (sTravN X t n) 23 (8 * t + n) (-1)) 24 (8 * t + n) (-1)) B k i = _
    rw [cells_mA _ _ _ (u 24 (by decide)), cells_mA _ _ _ (u 23 (by decide)), ih]
theorem tr_oth (n : Nat) (kk w b s : Int32) {k : Nat} (i : Nat) (h2 : k ≠ 2) (h3 : k ≠ 3) (h13 : k ≠ 13) (h14 : k ≠ 14) : cells ad cp fz md S U (sTravA A n kk w b s) B k i = cells ad cp fz md S U A B k i := by
  have u : ∀ f, f = 19 ∨ f = 20 ∨ f = 21 ∨ f = 22 ∨ f = 25 → cUse k f = false := by
    intro f hf
    unfold cUse
    split <;> first | exact absurd rfl h2 | exact absurd rfl h3 | exact absurd rfl h13 | exact absurd rfl h14 | (rcases hf with rfl | rfl | rfl | rfl | rfl <;> rfl)
  unfold sTravA
  rw [cells_mA _ _ _ (u 25 (by decide)), tr_oN _ _ i h13 h14, cells_mA _ _ _ (u 22 (by decide)), cells_mA _ _ _ (u 21 (by decide)), cells_mA _ _ _ (u 20 (by decide)), cells_mA _ _ _ (u 19 (by decide))]
theorem tr_c8 (n : Nat) (kk w b s : Int32) {f : Nat} (hf : f = 23 ∨ f = 24) : c8 (sTravA A n kk w b s f) n = m8 8 := by
  have e : sTravA A n kk w b s f = sTravN (mA (mA (mA (mA A 19 n kk) 20 n w) 21 n b) 22 n s) n 8 f := by
    unfold sTravA
    rw [mA_n _ _ _ (by rcases hf with rfl | rfl <;> decide)]
  rw [e, sTravN_at _ _ hf 8 (Nat.le_refl _)]
  funext j
  unfold m8 c8
  by_cases z : j < 8
  · rw [if_pos z, if_pos z]
  · rw [if_neg z, if_neg z, if_neg z]
theorem tr_c8o {n i : Nat} (kk w b s : Int32) {f : Nat} (hf : f = 23 ∨ f = 24) (hi : i ≠ n) : c8 (sTravA A n kk w b s f) i = c8 (A f) i := by
  have e : sTravA A n kk w b s f = sTravN (mA (mA (mA (mA A 19 n kk) 20 n w) 21 n b) 22 n s) n 8 f := by
    unfold sTravA
    rw [mA_n _ _ _ (by rcases hf with rfl | rfl <;> decide)]
  rw [e, sTravN_no _ _ hf hi 8 (Nat.le_refl _)]
  rcases hf with rfl | rfl <;> rfl
/-- a traveller is made: his object at p (frozen), his days at q1, q2 -/
theorem CW.trav (h : CW c0 ad cp fz md S U A B c) {n p q1 q2 d' cap' : Nat} {k w b s : Int32} {c1 c' : gLH} (hn : cn A 3 = n) (hn8 : n < 60) (hs : gSub c c1) (hq1 : c1 q1 = some (cR 13 n, .inl (0, 8, .inl (m8 8)))) (hq2 : c1 q2 = some (cR 14 n, .inl (0, 8, .inl (m8 8)))) (hL : gAL c' (ad 2 3) d' cap' (cR 2 3) (cR 3 3) (cL ad fz A 3 ++ [p])) (hfr : gFrm c1 c' (ad 2 3) (ad 3 3)) : (∃ m, CW c (up2 (up2 (up2 ad 13 n q1) 14 n q2) 3 3 d') (up2 cp 3 3 cap') (up2 fz 1 n p) (up2 md 2 3 m) S U (sTravA A n k w b s) B c') ∧ cFr c c' := by
  have cn2 := tr_cn (A := A) k w b s (show n < 1000 by omega)
  have aO : ∀ k, k ≠ 3 → k ≠ 13 → k ≠ 14 → (up2 (up2 (up2 ad 13 n q1) 14 n q2) 3 3 d') k = ad k := by
    intro k z1 z2 z3
    rw [up2_k _ _ z1, up2_k _ _ z3, up2_k _ _ z2]
  have a3 : ∀ i, i ≠ 3 → (up2 (up2 (up2 ad 13 n q1) 14 n q2) 3 3 d') 3 i = ad 3 i := by
    intro i z
    rw [up2_n _ _ (fun y => z y.2), up2_k _ _ (by decide), up2_k _ _ (by decide)]
  have a13 : (up2 (up2 (up2 ad 13 n q1) 14 n q2) 3 3 d') 13 n = q1 := by rw [up2_k _ _ (by decide), up2_k _ _ (by decide), up2_s]
  have a14 : (up2 (up2 (up2 ad 13 n q1) 14 n q2) 3 3 d') 14 n = q2 := by rw [up2_k _ _ (by decide), up2_s]
  have b13 : ∀ i, i ≠ n → (up2 (up2 (up2 ad 13 n q1) 14 n q2) 3 3 d') 13 i = ad 13 i := by
    intro i z
    rw [up2_k _ _ (by decide), up2_k _ _ (by decide), up2_n _ _ (fun y => z y.2)]
  have b14 : ∀ i, i ≠ n → (up2 (up2 (up2 ad 13 n q1) 14 n q2) 3 3 d') 14 i = ad 14 i := by
    intro i z
    rw [up2_k _ _ (by decide), up2_n _ _ (fun y => z y.2), up2_k _ _ (by decide)]
  have hcl : cL (up2 (up2 (up2 ad 13 n q1) 14 n q2) 3 3 d') (up2 fz 1 n p) (sTravA A n k w b s) 3 = cL ad fz A 3 ++ [p] := by
    unfold cL
    rw [cn2.1, hn, List.range_succ, List.map_append]
    congr 1
    · apply List.map_congr_left
      intro j hj
      have := List.mem_range.mp hj
      show (up2 fz 1 n p) 1 j = fz 1 j
      rw [up2_n _ _ (by omega)]
    · show [(up2 fz 1 n p) 1 n] = [p]
      rw [up2_s]
  have hcO : ∀ i, i < 6 → i ≠ 3 → cL (up2 (up2 (up2 ad 13 n q1) 14 n q2) 3 3 d') (up2 fz 1 n p) (sTravA A n k w b s) i = cL ad fz A i := by
    intro i h6 hi
    unfold cL
    rw [(tr_cnO n k w b s i hi).1]
    refine congrArg (fun z => List.map z _) (funext fun j => ?_)
    rcases (show i = 0 ∨ i = 1 ∨ i = 2 ∨ i = 3 ∨ i = 4 ∨ i = 5 by omega) with rfl | rfl | rfl | rfl | rfl | rfl
    · show (up2 fz 1 n p) 0 j = fz 0 j; rw [up2_k _ _ (by decide)]
    · show (up2 (up2 (up2 ad 13 n q1) 14 n q2) 3 3 d') 9 j = ad 9 j; rw [aO 9 (by decide) (by decide) (by decide)]
    · show (up2 (up2 (up2 ad 13 n q1) 14 n q2) 3 3 d') 10 j = ad 10 j; rw [aO 10 (by decide) (by decide) (by decide)]
    · exact absurd rfl hi
    · show (up2 (up2 (up2 ad 13 n q1) 14 n q2) 3 3 d') 15 j = ad 15 j; rw [aO 15 (by decide) (by decide) (by decide)]
    · show (up2 (up2 (up2 ad 13 n q1) 14 n q2) 3 3 d') 16 j = ad 16 j; rw [aO 16 (by decide) (by decide) (by decide)]
  have key := h.1.grown (k1 := 2) (k2 := 3) (li := 3) (ad' := (up2 (up2 (up2 ad 13 n q1) 14 n q2) 3 3 d')) (f' := fun m => cells (up2 (up2 (up2 ad 13 n q1) 14 n q2) 3 3 d') (up2 cp 3 3 cap') (up2 fz 1 n p) (up2 md 2 3 m) S U (sTravA A n k w b s) B) (cell_2 (by decide)) (cell_3 (by decide)) (by decide) hs hL hfr (by rw [aO 2 (by decide) (by decide) (by decide)]) (up2_s _ _ _ _)
    (fun m e he => by
      rw [cell_2 (by decide), hcl, up2_s, up2_s] at he
      exact (Option.some.inj he).symm)
    (fun m e he => by
      rw [cell_3 (by decide), hcl, up2_s] at he
      exact (Option.some.inj he).symm)
    (fun m kk i e z1 z2 he => by
      have old : ∀ {k i : Nat} {e : va_E}, cells ad cp fz md S U A B k i = some e → c1 (ad k i) = some (cR k i, e) ∧ k < 32 ∧ i < 1000 := fun {k i e} q => ⟨hs _ _ _ (h.1.1 k i e q).1, (h.1.1 k i e q).2⟩
      by_cases k2 : kk = 2
      · subst k2
        by_cases h6 : i < 6
        · have hi : i ≠ 3 := fun y => z1 ⟨rfl, y⟩
          rw [cell_2 h6, hcO i h6 hi, up2_n _ _ (fun y => hi y.2), a3 i hi] at he
          rw [aO 2 (by decide) (by decide) (by decide)]
          exact old (by rw [cell_2 h6]; exact he)
        · rw [cell_n2 h6] at he
          cases he
      by_cases k3 : kk = 3
      · subst k3
        by_cases h6 : i < 6
        · have hi : i ≠ 3 := fun y => z2 ⟨rfl, y⟩
          rw [cell_3 h6, hcO i h6 hi, up2_n _ _ (fun y => hi y.2)] at he
          rw [a3 i hi]
          exact old (by rw [cell_3 h6]; exact he)
        · rw [cell_n3 h6] at he
          cases he
      by_cases k13 : kk = 13
      · subst k13
        by_cases hi : i < cn (sTravA A n k w b s) 3
        · rw [cells_13 hi] at he
          by_cases y : i = n
          · subst y
            rw [tr_c8 _ _ _ _ _ (Or.inl rfl)] at he
            rw [a13, hq1, ← Option.some.inj he]
            exact ⟨rfl, by decide, by omega⟩
          · rw [tr_c8o _ _ _ _ (Or.inl rfl) y] at he
            rw [b13 i y]
            exact old (by rw [cells_13 (by rw [cn2.1] at hi; omega)]; exact he)
        · rw [cell_n13 hi] at he
          cases he
      by_cases k14 : kk = 14
      · subst k14
        by_cases hi : i < cn (sTravA A n k w b s) 3
        · rw [cells_14 hi] at he
          by_cases y : i = n
          · subst y
            rw [tr_c8 _ _ _ _ _ (Or.inr rfl)] at he
            rw [a14, hq2, ← Option.some.inj he]
            exact ⟨rfl, by decide, by omega⟩
          · rw [tr_c8o _ _ _ _ (Or.inr rfl) y] at he
            rw [b14 i y]
            exact old (by rw [cells_14 (by rw [cn2.1] at hi; omega)]; exact he)
        · rw [cell_n14 hi] at he
          cases he
      rw [cells_T (ad := ad) (cp := cp) (fz := fz) (md := md) i k2 k3 k13 k14 (aO 1 (by decide) (by decide) (by decide)) (aO 2 (by decide) (by decide) (by decide)) (aO 4 (by decide) (by decide) (by decide)) (aO 5 (by decide) (by decide) (by decide)) (aO 6 (by decide) (by decide) (by decide)) (aO 7 (by decide) (by decide) (by decide)) (aO 8 (by decide) (by decide) (by decide)) (aO 11 (by decide) (by decide) (by decide)) (aO 12 (by decide) (by decide) (by decide)) (by rw [up2_k _ _ (by decide)]) (by rw [up2_k _ _ (by decide)]) (by rw [up2_k _ _ (by decide)]) (by rw [up2_k _ _ (by decide)]) (fun j => by rw [up2_k _ _ (by omega)]), tr_oth n k w b s i k2 k3 k13 k14] at he
      rw [aO kk k3 k13 k14]
      exact old he)
  obtain ⟨⟨m, hm⟩, hF⟩ := key
  refine ⟨⟨m, hm, ?_⟩, hF⟩
  obtain ⟨c1', c2', c3'⟩ := h.2
  have hl : (cL ad fz A 3 ++ [p]).length = n + 1 := by rw [List.length_append, cL_len, hn]; rfl
  have g46 : (sTravA A n k w b s) 46 = A 46 := tr_k n k w b s (by decide) (by decide) (by decide) (by decide) (by decide) (by decide) (by decide)
  have g42 : (sTravA A n k w b s) 42 = A 42 := tr_k n k w b s (by decide) (by decide) (by decide) (by decide) (by decide) (by decide) (by decide)
  refine ⟨fun i hi => ?_, ?_, ?_⟩
  · by_cases z : i = 3
    · subst z
      rw [up2_s, cn2.1, cn2.2]
      have := hL.2.2.1
      rw [hl] at this
      exact ⟨this, by omega, hL.2.2.2, hn8, rfl⟩
    · rw [up2_n _ _ (fun y => z y.2), (tr_cnO n k w b s i z).1, (tr_cnO n k w b s i z).2]
      exact c1' i hi
  · rw [g46, (tr_cnO n k w b s 2 (by decide)).1, up2_k _ _ (by decide)]
    exact c2'
  · rw [g42, up2_k _ _ (by decide)]
    exact c3'
end CAT
theorem cx_traveller {l : Launch} {g : gGP} (hk : gK l g) {c0 c : gLH} {ad cp fz : Nat → Nat → Nat} {md : Nat → Nat → Int32} {S : Nat → List Value} {U : Nat → Nat → Int64} {A : Nat → Nat → Int32} {B : Nat → Nat → Int64} (hX : CW c0 ad cp fz md S U A B c) (k w b s : Int32) (hS : gLS g) (hT : FT ad fz A c0) (hts : gTS g) : Ct l g yX1_traveller hwX1_traveller 7 280 [.ref (ad 0 0), .int k, .int w, .int b, .int s] c (16) (320) (pCx (sTravK A k w b s) eAS c (pI (nI (cn A 3)) (fun c' => (∃ p q1 q2 d' cap' m, CW c (up2 (up2 (up2 ad 13 (cn A 3) q1) 14 (cn A 3) q2) 3 3 d') (up2 cp 3 3 cap') (up2 fz 1 (cn A 3) p) (up2 md 2 3 m) S U (sTravA A (cn A 3) k w b s) B c' ∧ c' p = some (gT, .inr (tCl k, [.int (nI (cn A 3)), .int w, .int b, .int s, .ref q1, .ref q2, .int k]))) ∧ cFr c c'))) := by
  refine Ct.intro hk hcX1_traveller (by decide +kernel) (Nat.le_of_ble_eq_true rfl) (fun φ h => ?_)
  refine g_iload_n (i := 1) h dX1_traveller_0 rfl rfl ?_
  refine g_if_lt (tgt := 47) h dX1_traveller_1 (by decide) (fun b1 => ?_) (fun b1 => ?_)
  · refine g_iconst (v := 0) h dX1_traveller_47 (by decide) ?_
    refine g_invS h (ct_needX h.k false hts) hcX1_need w_X1_77 rfl rfl (Nat.le_of_ble_eq_true rfl) ⟨Nat.le_of_ble_eq_true rfl, Nat.le_of_ble_eq_true rfl⟩ (by refine ⟨?_, ?_⟩ <;> ((try dsimp only); omega)) dX1_traveller_48 (gkr_gd (fun hb => absurd hb (by decide))) (gkt_gd (fun _ a e ha => ?_))
    refine gt_out h (fun q hq => by cases hq) ?_ (by (try dsimp only); omega) (by (try dsimp only); omega)
    exact pCx_t (n := 1) (by first | (simp [sTravK, b1]; done) | (have z : ¬ s ≤ 15 := (by simpa using b40); simp [sTravK, b1, b7, b11, b17, b21, b28, b33, z]; done) | (simp at *; simp [sTravK, *])) (by decide) rfl ⟨a, e, rfl, ha, rfl⟩
  · refine g_iload_n (i := 1) h dX1_traveller_4 rfl rfl ?_
    refine g_bipush (v := 6) h dX1_traveller_5 (by decide) ?_
    refine g_icmp_gt (tgt := 47) h dX1_traveller_7 (by decide) (fun b7 => ?_) (fun b7 => ?_)
    · refine g_iconst (v := 0) h dX1_traveller_47 (by decide) ?_
      refine g_invS h (ct_needX h.k false hts) hcX1_need w_X1_77 rfl rfl (Nat.le_of_ble_eq_true rfl) ⟨Nat.le_of_ble_eq_true rfl, Nat.le_of_ble_eq_true rfl⟩ (by refine ⟨?_, ?_⟩ <;> ((try dsimp only); omega)) dX1_traveller_48 (gkr_gd (fun hb => absurd hb (by decide))) (gkt_gd (fun _ a e ha => ?_))
      refine gt_out h (fun q hq => by cases hq) ?_ (by (try dsimp only); omega) (by (try dsimp only); omega)
      exact pCx_t (n := 1) (by first | (simp [sTravK, b1, b7]; done) | (have z : ¬ s ≤ 15 := (by simpa using b40); simp [sTravK, b1, b7, b11, b17, b21, b28, b33, z]; done) | (simp at *; simp [sTravK, *])) (by decide) rfl ⟨a, e, rfl, ha, rfl⟩
    · refine g_iload_n (i := 2) h dX1_traveller_10 rfl rfl ?_
      refine g_if_lt (tgt := 47) h dX1_traveller_11 (by decide) (fun b11 => ?_) (fun b11 => ?_)
      · refine g_iconst (v := 0) h dX1_traveller_47 (by decide) ?_
        refine g_invS h (ct_needX h.k false hts) hcX1_need w_X1_77 rfl rfl (Nat.le_of_ble_eq_true rfl) ⟨Nat.le_of_ble_eq_true rfl, Nat.le_of_ble_eq_true rfl⟩ (by refine ⟨?_, ?_⟩ <;> ((try dsimp only); omega)) dX1_traveller_48 (gkr_gd (fun hb => absurd hb (by decide))) (gkt_gd (fun _ a e ha => ?_))
        refine gt_out h (fun q hq => by cases hq) ?_ (by (try dsimp only); omega) (by (try dsimp only); omega)
        exact pCx_t (n := 1) (by first | (simp [sTravK, b1, b7, b11]; done) | (have z : ¬ s ≤ 15 := (by simpa using b40); simp [sTravK, b1, b7, b11, b17, b21, b28, b33, z]; done) | (simp at *; simp [sTravK, *])) (by decide) rfl ⟨a, e, rfl, ha, rfl⟩
      · refine g_iload_n (i := 2) h dX1_traveller_14 rfl rfl ?_
        refine g_bipush (v := 20) h dX1_traveller_15 (by decide) ?_
        refine g_icmp_gt (tgt := 47) h dX1_traveller_17 (by decide) (fun b17 => ?_) (fun b17 => ?_)
        · refine g_iconst (v := 0) h dX1_traveller_47 (by decide) ?_
          refine g_invS h (ct_needX h.k false hts) hcX1_need w_X1_77 rfl rfl (Nat.le_of_ble_eq_true rfl) ⟨Nat.le_of_ble_eq_true rfl, Nat.le_of_ble_eq_true rfl⟩ (by refine ⟨?_, ?_⟩ <;> ((try dsimp only); omega)) dX1_traveller_48 (gkr_gd (fun hb => absurd hb (by decide))) (gkt_gd (fun _ a e ha => ?_))
          refine gt_out h (fun q hq => by cases hq) ?_ (by (try dsimp only); omega) (by (try dsimp only); omega)
          exact pCx_t (n := 1) (by first | (simp [sTravK, b1, b7, b11, b17]; done) | (have z : ¬ s ≤ 15 := (by simpa using b40); simp [sTravK, b1, b7, b11, b17, b21, b28, b33, z]; done) | (simp at *; simp [sTravK, *])) (by decide) rfl ⟨a, e, rfl, ha, rfl⟩
        · refine g_iload_n (i := 3) h dX1_traveller_20 rfl rfl ?_
          refine g_if_lt (tgt := 47) h dX1_traveller_21 (by decide) (fun b21 => ?_) (fun b21 => ?_)
          · refine g_iconst (v := 0) h dX1_traveller_47 (by decide) ?_
            refine g_invS h (ct_needX h.k false hts) hcX1_need w_X1_77 rfl rfl (Nat.le_of_ble_eq_true rfl) ⟨Nat.le_of_ble_eq_true rfl, Nat.le_of_ble_eq_true rfl⟩ (by refine ⟨?_, ?_⟩ <;> ((try dsimp only); omega)) dX1_traveller_48 (gkr_gd (fun hb => absurd hb (by decide))) (gkt_gd (fun _ a e ha => ?_))
            refine gt_out h (fun q hq => by cases hq) ?_ (by (try dsimp only); omega) (by (try dsimp only); omega)
            exact pCx_t (n := 1) (by first | (simp [sTravK, b1, b7, b11, b17, b21]; done) | (have z : ¬ s ≤ 15 := (by simpa using b40); simp [sTravK, b1, b7, b11, b17, b21, b28, b33, z]; done) | (simp at *; simp [sTravK, *])) (by decide) rfl ⟨a, e, rfl, ha, rfl⟩
          · refine g_iload_n (i := 3) h dX1_traveller_24 rfl rfl ?_
            refine g_sipush (v := 10000) h dX1_traveller_25 (by decide) ?_
            refine g_icmp_gt (tgt := 47) h dX1_traveller_28 (by decide) (fun b28 => ?_) (fun b28 => ?_)
            · refine g_iconst (v := 0) h dX1_traveller_47 (by decide) ?_
              refine g_invS h (ct_needX h.k false hts) hcX1_need w_X1_77 rfl rfl (Nat.le_of_ble_eq_true rfl) ⟨Nat.le_of_ble_eq_true rfl, Nat.le_of_ble_eq_true rfl⟩ (by refine ⟨?_, ?_⟩ <;> ((try dsimp only); omega)) dX1_traveller_48 (gkr_gd (fun hb => absurd hb (by decide))) (gkt_gd (fun _ a e ha => ?_))
              refine gt_out h (fun q hq => by cases hq) ?_ (by (try dsimp only); omega) (by (try dsimp only); omega)
              exact pCx_t (n := 1) (by first | (simp [sTravK, b1, b7, b11, b17, b21, b28]; done) | (have z : ¬ s ≤ 15 := (by simpa using b40); simp [sTravK, b1, b7, b11, b17, b21, b28, b33, z]; done) | (simp at *; simp [sTravK, *])) (by decide) rfl ⟨a, e, rfl, ha, rfl⟩
            · refine g_iload h dX1_traveller_31 rfl ?_
              refine g_if_lt (tgt := 47) h dX1_traveller_33 (by decide) (fun b33 => ?_) (fun b33 => ?_)
              · refine g_iconst (v := 0) h dX1_traveller_47 (by decide) ?_
                refine g_invS h (ct_needX h.k false hts) hcX1_need w_X1_77 rfl rfl (Nat.le_of_ble_eq_true rfl) ⟨Nat.le_of_ble_eq_true rfl, Nat.le_of_ble_eq_true rfl⟩ (by refine ⟨?_, ?_⟩ <;> ((try dsimp only); omega)) dX1_traveller_48 (gkr_gd (fun hb => absurd hb (by decide))) (gkt_gd (fun _ a e ha => ?_))
                refine gt_out h (fun q hq => by cases hq) ?_ (by (try dsimp only); omega) (by (try dsimp only); omega)
                exact pCx_t (n := 1) (by first | (simp [sTravK, b1, b7, b11, b17, b21, b28, b33]; done) | (have z : ¬ s ≤ 15 := (by simpa using b40); simp [sTravK, b1, b7, b11, b17, b21, b28, b33, z]; done) | (simp at *; simp [sTravK, *])) (by decide) rfl ⟨a, e, rfl, ha, rfl⟩
              · refine g_iload h dX1_traveller_36 rfl ?_
                refine g_bipush (v := 15) h dX1_traveller_38 (by decide) ?_
                refine g_icmp_gt (tgt := 47) h dX1_traveller_40 (by decide) (fun b40 => ?_) (fun b40 => ?_)
                · refine g_iconst (v := 0) h dX1_traveller_47 (by decide) ?_
                  refine g_invS h (ct_needX h.k false hts) hcX1_need w_X1_77 rfl rfl (Nat.le_of_ble_eq_true rfl) ⟨Nat.le_of_ble_eq_true rfl, Nat.le_of_ble_eq_true rfl⟩ (by refine ⟨?_, ?_⟩ <;> ((try dsimp only); omega)) dX1_traveller_48 (gkr_gd (fun hb => absurd hb (by decide))) (gkt_gd (fun _ a e ha => ?_))
                  refine gt_out h (fun q hq => by cases hq) ?_ (by (try dsimp only); omega) (by (try dsimp only); omega)
                  exact pCx_t (n := 1) (by first | (simp [sTravK, b1, b7, b11, b17, b21, b28, b33, b40]; done) | (have z : ¬ s ≤ 15 := (by simpa using b40); simp [sTravK, b1, b7, b11, b17, b21, b28, b33, z]; done) | (simp at *; simp [sTravK, *])) (by decide) rfl ⟨a, e, rfl, ha, rfl⟩
                · refine g_iconst (v := 1) h dX1_traveller_43 (by decide) ?_
                  refine g_goto (tgt := 48) h dX1_traveller_44 (by decide) ?_
                  refine g_invS h (ct_needX h.k true hts) hcX1_need w_X1_77 rfl rfl (Nat.le_of_ble_eq_true rfl) ⟨Nat.le_of_ble_eq_true rfl, Nat.le_of_ble_eq_true rfl⟩ (by refine ⟨?_, ?_⟩ <;> ((try dsimp only); omega)) dX1_traveller_48 (gkr_gd (fun _ => ?_)) (gkt_gd (fun hb => absurd hb (by decide)))
                  refine g_aload_n (i := 0) h dX1_traveller_51 rfl rfl ?_
                  refine g_get (v := .ref (ad 2 3)) h f_X1_35_1 hX.x rfl dX1_traveller_52 ?_
                  refine g_invV h (ct_xsize3 h.k hX) hcJ2_size w_X1_81 rfl rfl (xlist3 hX) (Nat.le_of_ble_eq_true rfl) ⟨Nat.le_of_ble_eq_true rfl, Nat.le_of_ble_eq_true rfl⟩ (by refine ⟨?_, ?_⟩ <;> first | exact Nat.le_refl _ | exact Nat.zero_le _ | (dsimp only; omega)) dX1_traveller_55 (gkr_ip ?_) gkt_ip
                  refine g_istore h dX1_traveller_58 (by decide) ?_
                  refine g_iload h dX1_traveller_60 rfl ?_
                  refine g_bipush (v := 60) h dX1_traveller_62 (by decide) ?_
                  refine g_icmp_ge (tgt := 71) h dX1_traveller_64 (by decide) (fun b64 => ?_) (fun b64 => ?_)
                  · refine g_iconst (v := 0) h dX1_traveller_71 (by decide) ?_
                    refine g_invS h (ct_rightX h.k false hts) hcX1_right w_X1_85 rfl rfl (Nat.le_of_ble_eq_true rfl) ⟨Nat.le_of_ble_eq_true rfl, Nat.le_of_ble_eq_true rfl⟩ (by refine ⟨?_, ?_⟩ <;> ((try dsimp only); omega)) dX1_traveller_72 (gkr_gd (fun hb => absurd hb (by decide))) (gkt_gd (fun _ a e ha => ?_))
                    refine gt_out h (fun q hq => by cases hq) ?_ (by (try dsimp only); omega) (by (try dsimp only); omega)
                    exact pCx_t (n := 2) (by have z : A 25 0 = 60 := full_eq (m := 60) (hX.cnt (i := 3) (by decide)).1 (hX.cnt (i := 3) (by decide)).2.1 (by decide) b64; simp [sTravK, b1, b7, b11, b17, b21, b28, b33, b40, b64, z]) (by decide) rfl ⟨a, e, rfl, ha, rfl⟩
                  · refine g_iconst (v := 1) h dX1_traveller_67 (by decide) ?_
                    refine g_goto (tgt := 72) h dX1_traveller_68 (by decide) ?_
                    refine g_invS h (ct_rightX h.k true hts) hcX1_right w_X1_85 rfl rfl (Nat.le_of_ble_eq_true rfl) ⟨Nat.le_of_ble_eq_true rfl, Nat.le_of_ble_eq_true rfl⟩ (by refine ⟨?_, ?_⟩ <;> ((try dsimp only); omega)) dX1_traveller_72 (gkr_gd (fun _ => ?_)) (gkt_gd (fun hb => absurd hb (by decide)))
                    obtain ⟨n, hn⟩ : ∃ n, cn A 3 = n := ⟨_, rfl⟩
                    have hM : cn A 3 ≤ 60 := (hX.cnt (i := 3) (by decide)).2.1
                    have hcv : A 25 0 = nI (cn A 3) := (hX.cnt (i := 3) (by decide)).1
                    have hlt : n < 60 := by
                      rcases Nat.lt_or_ge n 60 with z | z
                      · exact z
                      · exact absurd (by rw [hcv, show cn A 3 = 60 by omega]; exact Int32.le_refl _) b64
                    have hK : sTravK A k w b s = 0 := by
                      have z : ¬ A 25 0 = 60 := fun e => b64 (by rw [e]; exact Int32.le_refl _)
                      simp [sTravK, b1, b7, b11, b17, b21, b28, b33, b40, b64, z]
                    have fin : ∀ (c2 : gLH) (p q1 q2 : Nat), gSub c c2 → c p = none → c2 p = some (gT, .inr (tCl k, [.int (nI n), .int w, .int b, .int s, .ref q1, .ref q2, .int k])) → c2 q1 = some (cR 13 n, .inl (0, 8, .inl (m8 8))) → c2 q2 = some (cR 14 n, .inl (0, 8, .inl (m8 8))) → G φ (gQ φ (pCx (sTravK A k w b s) eAS c (pI (nI (cn A 3)) (fun c' => (∃ p q1 q2 d' cap' m, CW c (up2 (up2 (up2 ad 13 (cn A 3) q1) 14 (cn A 3) q2) 3 3 d') (up2 cp 3 3 cap') (up2 fz 1 (cn A 3) p) (up2 md 2 3 m) S U (sTravA A (cn A 3) k w b s) B c' ∧ c' p = some (gT, .inr (tCl k, [.int (nI (cn A 3)), .int w, .int b, .int s, .ref q1, .ref q2, .int k]))) ∧ cFr c c'))) 16 320) 142 [(0, .ref (ad 0 0)), (1, .int k), (2, .int w), (3, .int b), (4, .int s), (5, .int (nI n))] [.ref p, .ref (ad 2 3)] c2 12 80 := by
                      intro c2 p q1 q2 hs2 hp hp2 hq1 hq2
                      refine g_invV h (ct_ladd h.k (cR_lt (by decide) (by decide)) (cR_lt (by decide) (by decide)) hS ((hX.list (i := 3) (by decide)).mono hs2) (hX.2.1 3 (by decide)).2.1 (by rw [cL_len]; omega) ((hX.els3 hT).mono hs2) (gObj_T hp2) (fun z => by have := hX.1.at (k := 2) (i := 3) (cell_2 (by decide)); rw [← z, hp] at this; cases this) 1 200 (fun z => ⟨Nat.le_refl _, by rw [cL_len] at z; omega⟩)) hcJ2_add w_X1_97 rfl rfl (hs2 _ _ _ (xlist3 hX)) (Nat.le_of_ble_eq_true rfl) ⟨Nat.le_of_ble_eq_true rfl, Nat.le_of_ble_eq_true rfl⟩ (by refine ⟨?_, ?_⟩ <;> ((try dsimp only); omega)) dX1_traveller_142 (gkr_i (fun c3 hP => ?_)) gkt_i
                      obtain ⟨d', cap', hL3, hc0, -, hf3⟩ := hP
                      obtain ⟨⟨m, hX3⟩, hF3⟩ := hX.trav (k := k) (w := w) (b := b) (s := s) hn hlt hs2 hq1 hq2 hL3 hf3
                      have hp3 := hf3 p _ _ hp2 (fun z => by have := hX.1.at (k := 2) (i := 3) (cell_2 (by decide)); rw [← z, hp] at this; cases this) (fun z => by have := hX.1.at (k := 3) (i := 3) (cell_3 (by decide)); rw [← z, hp] at this; cases this)
                      refine g_pop h dX1_traveller_145 rfl ?_
                      refine g_iload h dX1_traveller_146 rfl ?_
                      exact g_iret h (pCx_0 hK ⟨by rw [hn], ⟨p, q1, q2, d', cap', m, by rw [hn]; exact hX3, by rw [hn]; exact hp3⟩, hF3⟩) (by (try dsimp only); omega) (by (try dsimp only); omega) dX1_traveller_148
                    refine G.to (lv' := [(0, .ref (ad 0 0)), (1, .int k), (2, .int w), (3, .int b), (4, .int s), (5, .int (nI n))]) ?_ ⟨rfl, rfl, rfl, rfl, ?_, ?_, trivial⟩
                    rotate_left 1
                    · rfl
                    · show some (Value.int (A 25 0)) = some (Value.int (nI n)); rw [hcv, hn]
                    by_cases q3 : 3 ≤ k
                    rotate_left 1
                    · skip
                      refine g_aload_n (i := 0) h dX1_traveller_75 rfl rfl ?_
                      refine g_get (v := .ref (ad 2 3)) h f_X1_35_1 hX.x rfl dX1_traveller_76 ?_
                      refine g_iload_n (i := 1) h dX1_traveller_79 rfl rfl ?_
                      refine g_iconst (v := 3) h dX1_traveller_80 (by decide) ?_
                      refine g_icmp_ge (tgt := 101) h dX1_traveller_81 (by decide) (fun _bz => absurd _bz q3) (fun b81 => ?_)
                      refine g_new h gT n_X1_120 (by (try dsimp only); omega) (by (try dsimp only); omega) dX1_traveller_84 (fun p hp => ?_)
                      have hs1 : gSub c (va_up c p (some (gT, .inr (25, [.int 0, .int 0, .int 0, .int 0, .null, .null, .int 0])))) := gSub_up hp
                      refine g_dup h dX1_traveller_87 rfl ?_
                      refine g_iload h dX1_traveller_88 rfl ?_
                      refine g_iload_n (i := 1) h dX1_traveller_90 rfl rfl ?_
                      refine g_iload_n (i := 2) h dX1_traveller_91 rfl rfl ?_
                      refine g_iload_n (i := 3) h dX1_traveller_92 rfl rfl ?_
                      refine g_iload h dX1_traveller_93 rfl ?_
                      refine g_invI h (ct_X25init25 h.k (cR 13 n) (cR 14 n) (nI n) k w b s gT_lt (cR_lt (by decide) (by omega)) (cR_lt (by decide) (by omega)) (va_up_s _ _ _)) w_X1_122 rfl rfl (Nat.le_of_ble_eq_true rfl) ⟨Nat.le_of_ble_eq_true rfl, Nat.le_of_ble_eq_true rfl⟩ (by refine ⟨?_, ?_⟩ <;> ((try dsimp only); omega)) dX1_traveller_95 (gkr_v (fun c2 e2 => ?_)) gkt_v
                      obtain ⟨q1, q2, hq10, hq20, hq12, hp2, hq1, hq2, hf2⟩ := e2
                      have hs2 : gSub c c2 := fun b2 r2 e2 hb => by
                        have hb1 := hs1 b2 r2 e2 hb
                        rw [hf2 b2 (fun z => by rw [z, hp] at hb; cases hb) (fun z => by rw [z, hq10] at hb1; cases hb1) (fun z => by rw [z, hq20] at hb1; cases hb1)]
                        exact hb1
                      refine g_goto (tgt := 142) h dX1_traveller_98 (by decide) ?_
                      rw [show 25 = tCl k from (if_pos (Int32.not_le.mp q3)).symm] at hp2
                      refine G.up (ce' := 12) (sl' := 80) (by (try dsimp only); omega) (by (try dsimp only); omega) ?_
                      exact G.to (fin _ _ _ _ hs2 hp hp2 hq1 hq2) ⟨rfl, rfl, rfl, rfl, rfl, rfl, trivial⟩
                    · by_cases q4 : k = 4
                      · skip
                        refine g_aload_n (i := 0) h dX1_traveller_75 rfl rfl ?_
                        refine g_get (v := .ref (ad 2 3)) h f_X1_35_1 hX.x rfl dX1_traveller_76 ?_
                        refine g_iload_n (i := 1) h dX1_traveller_79 rfl rfl ?_
                        refine g_iconst (v := 3) h dX1_traveller_80 (by decide) ?_
                        refine g_icmp_ge (tgt := 101) h dX1_traveller_81 (by decide) (fun b81 => ?_) (fun _bz => absurd _bz (fun z => z q3))
                        refine g_iload_n (i := 1) h dX1_traveller_101 rfl rfl ?_
                        refine g_iconst (v := 4) h dX1_traveller_102 (by decide) ?_
                        refine g_icmp_eq (tgt := 111) h dX1_traveller_103 (by decide) (fun b103 => ?_) (fun _bz => absurd _bz (fun z => z q4))
                        refine g_new h gT n_X1_125 (by (try dsimp only); omega) (by (try dsimp only); omega) dX1_traveller_111 (fun p hp => ?_)
                        have hs1 : gSub c (va_up c p (some (gT, .inr (27, [.int 0, .int 0, .int 0, .int 0, .null, .null, .int 0])))) := gSub_up hp
                        refine g_dup h dX1_traveller_114 rfl ?_
                        refine g_iload h dX1_traveller_115 rfl ?_
                        refine g_iload_n (i := 1) h dX1_traveller_117 rfl rfl ?_
                        refine g_iload_n (i := 2) h dX1_traveller_118 rfl rfl ?_
                        refine g_iload_n (i := 3) h dX1_traveller_119 rfl rfl ?_
                        refine g_iload h dX1_traveller_120 rfl ?_
                        refine g_invI h (ct_X27init27 h.k (cR 13 n) (cR 14 n) (nI n) k w b s gT_lt (cR_lt (by decide) (by omega)) (cR_lt (by decide) (by omega)) (va_up_s _ _ _)) w_X1_127 rfl rfl (Nat.le_of_ble_eq_true rfl) ⟨Nat.le_of_ble_eq_true rfl, Nat.le_of_ble_eq_true rfl⟩ (by refine ⟨?_, ?_⟩ <;> ((try dsimp only); omega)) dX1_traveller_122 (gkr_v (fun c2 e2 => ?_)) gkt_v
                        obtain ⟨q1, q2, hq10, hq20, hq12, hp2, hq1, hq2, hf2⟩ := e2
                        have hs2 : gSub c c2 := fun b2 r2 e2 hb => by
                          have hb1 := hs1 b2 r2 e2 hb
                          rw [hf2 b2 (fun z => by rw [z, hp] at hb; cases hb) (fun z => by rw [z, hq10] at hb1; cases hb1) (fun z => by rw [z, hq20] at hb1; cases hb1)]
                          exact hb1
                        refine g_goto (tgt := 142) h dX1_traveller_125 (by decide) ?_
                        rw [show 27 = tCl k from ((if_neg (Int32.not_lt.mpr q3)).trans (if_pos (Or.inl q4))).symm] at hp2
                        refine G.up (ce' := 12) (sl' := 80) (by (try dsimp only); omega) (by (try dsimp only); omega) ?_
                        exact G.to (fin _ _ _ _ hs2 hp hp2 hq1 hq2) ⟨rfl, rfl, rfl, rfl, rfl, rfl, trivial⟩
                      · by_cases q5 : k = 5
                        · skip
                          refine g_aload_n (i := 0) h dX1_traveller_75 rfl rfl ?_
                          refine g_get (v := .ref (ad 2 3)) h f_X1_35_1 hX.x rfl dX1_traveller_76 ?_
                          refine g_iload_n (i := 1) h dX1_traveller_79 rfl rfl ?_
                          refine g_iconst (v := 3) h dX1_traveller_80 (by decide) ?_
                          refine g_icmp_ge (tgt := 101) h dX1_traveller_81 (by decide) (fun b81 => ?_) (fun _bz => absurd _bz (fun z => z q3))
                          refine g_iload_n (i := 1) h dX1_traveller_101 rfl rfl ?_
                          refine g_iconst (v := 4) h dX1_traveller_102 (by decide) ?_
                          refine g_icmp_eq (tgt := 111) h dX1_traveller_103 (by decide) (fun _bz => absurd _bz q4) (fun b103 => ?_)
                          refine g_iload_n (i := 1) h dX1_traveller_106 rfl rfl ?_
                          refine g_iconst (v := 5) h dX1_traveller_107 (by decide) ?_
                          refine g_icmp_ne (tgt := 128) h dX1_traveller_108 (by decide) (fun _bz => absurd _bz (fun z => z q5)) (fun b108 => ?_)
                          refine g_new h gT n_X1_125 (by (try dsimp only); omega) (by (try dsimp only); omega) dX1_traveller_111 (fun p hp => ?_)
                          have hs1 : gSub c (va_up c p (some (gT, .inr (27, [.int 0, .int 0, .int 0, .int 0, .null, .null, .int 0])))) := gSub_up hp
                          refine g_dup h dX1_traveller_114 rfl ?_
                          refine g_iload h dX1_traveller_115 rfl ?_
                          refine g_iload_n (i := 1) h dX1_traveller_117 rfl rfl ?_
                          refine g_iload_n (i := 2) h dX1_traveller_118 rfl rfl ?_
                          refine g_iload_n (i := 3) h dX1_traveller_119 rfl rfl ?_
                          refine g_iload h dX1_traveller_120 rfl ?_
                          refine g_invI h (ct_X27init27 h.k (cR 13 n) (cR 14 n) (nI n) k w b s gT_lt (cR_lt (by decide) (by omega)) (cR_lt (by decide) (by omega)) (va_up_s _ _ _)) w_X1_127 rfl rfl (Nat.le_of_ble_eq_true rfl) ⟨Nat.le_of_ble_eq_true rfl, Nat.le_of_ble_eq_true rfl⟩ (by refine ⟨?_, ?_⟩ <;> ((try dsimp only); omega)) dX1_traveller_122 (gkr_v (fun c2 e2 => ?_)) gkt_v
                          obtain ⟨q1, q2, hq10, hq20, hq12, hp2, hq1, hq2, hf2⟩ := e2
                          have hs2 : gSub c c2 := fun b2 r2 e2 hb => by
                            have hb1 := hs1 b2 r2 e2 hb
                            rw [hf2 b2 (fun z => by rw [z, hp] at hb; cases hb) (fun z => by rw [z, hq10] at hb1; cases hb1) (fun z => by rw [z, hq20] at hb1; cases hb1)]
                            exact hb1
                          refine g_goto (tgt := 142) h dX1_traveller_125 (by decide) ?_
                          rw [show 27 = tCl k from ((if_neg (Int32.not_lt.mpr q3)).trans (if_pos (Or.inr q5))).symm] at hp2
                          refine G.up (ce' := 12) (sl' := 80) (by (try dsimp only); omega) (by (try dsimp only); omega) ?_
                          exact G.to (fin _ _ _ _ hs2 hp hp2 hq1 hq2) ⟨rfl, rfl, rfl, rfl, rfl, rfl, trivial⟩
                        · skip
                          refine g_aload_n (i := 0) h dX1_traveller_75 rfl rfl ?_
                          refine g_get (v := .ref (ad 2 3)) h f_X1_35_1 hX.x rfl dX1_traveller_76 ?_
                          refine g_iload_n (i := 1) h dX1_traveller_79 rfl rfl ?_
                          refine g_iconst (v := 3) h dX1_traveller_80 (by decide) ?_
                          refine g_icmp_ge (tgt := 101) h dX1_traveller_81 (by decide) (fun b81 => ?_) (fun _bz => absurd _bz (fun z => z q3))
                          refine g_iload_n (i := 1) h dX1_traveller_101 rfl rfl ?_
                          refine g_iconst (v := 4) h dX1_traveller_102 (by decide) ?_
                          refine g_icmp_eq (tgt := 111) h dX1_traveller_103 (by decide) (fun _bz => absurd _bz q4) (fun b103 => ?_)
                          refine g_iload_n (i := 1) h dX1_traveller_106 rfl rfl ?_
                          refine g_iconst (v := 5) h dX1_traveller_107 (by decide) ?_
                          refine g_icmp_ne (tgt := 128) h dX1_traveller_108 (by decide) (fun b108 => ?_) (fun _bz => absurd _bz q5)
                          refine g_new h gT n_X1_128 (by (try dsimp only); omega) (by (try dsimp only); omega) dX1_traveller_128 (fun p hp => ?_)
                          have hs1 : gSub c (va_up c p (some (gT, .inr (26, [.int 0, .int 0, .int 0, .int 0, .null, .null, .int 0])))) := gSub_up hp
                          refine g_dup h dX1_traveller_131 rfl ?_
                          refine g_iload h dX1_traveller_132 rfl ?_
                          refine g_iload_n (i := 1) h dX1_traveller_134 rfl rfl ?_
                          refine g_iload_n (i := 2) h dX1_traveller_135 rfl rfl ?_
                          refine g_iload_n (i := 3) h dX1_traveller_136 rfl rfl ?_
                          refine g_iload h dX1_traveller_137 rfl ?_
                          refine g_invI h (ct_X26init26 h.k (cR 13 n) (cR 14 n) (nI n) k w b s gT_lt (cR_lt (by decide) (by omega)) (cR_lt (by decide) (by omega)) (va_up_s _ _ _)) w_X1_130 rfl rfl (Nat.le_of_ble_eq_true rfl) ⟨Nat.le_of_ble_eq_true rfl, Nat.le_of_ble_eq_true rfl⟩ (by refine ⟨?_, ?_⟩ <;> ((try dsimp only); omega)) dX1_traveller_139 (gkr_v (fun c2 e2 => ?_)) gkt_v
                          obtain ⟨q1, q2, hq10, hq20, hq12, hp2, hq1, hq2, hf2⟩ := e2
                          have hs2 : gSub c c2 := fun b2 r2 e2 hb => by
                            have hb1 := hs1 b2 r2 e2 hb
                            rw [hf2 b2 (fun z => by rw [z, hp] at hb; cases hb) (fun z => by rw [z, hq10] at hb1; cases hb1) (fun z => by rw [z, hq20] at hb1; cases hb1)]
                            exact hb1
                          rw [show 26 = tCl k from ((if_neg (Int32.not_lt.mpr q3)).trans (if_neg (fun z => z.elim q4 q5))).symm] at hp2
                          refine G.up (ce' := 12) (sl' := 80) (by (try dsimp only); omega) (by (try dsimp only); omega) ?_
                          exact G.to (fin _ _ _ _ hs2 hp hp2 hq1 hq2) ⟨rfl, rfl, rfl, rfl, rfl, rfl, trivial⟩
