/-! THE COMPONENT: bid -/
set_option maxRecDepth 100000
section CAB
variable {c0 c : gLH} {ad cp fz ad' cp' fz' : Nat → Nat → Nat} {md md' : Nat → Nat → Int32} {S : Nat → List Value} {U : Nat → Nat → Int64} {A A' : Nat → Nat → Int32} {B : Nat → Nat → Int64}
theorem CW.elsB (h : CW c0 ad cp fz md S U A B c) (hF : FB fz A c0) {i : Nat} (hi : i < cn A 2) : gEls c (ad 11 i) (cBd fz A i) := by
  intro y hy
  obtain ⟨j, hj⟩ := List.getElem?_of_mem hy
  by_cases z : j < ix (A 46 i)
  · rw [cBd_at fz z] at hj
    cases hj
    have h1 := h.1.frz (hF i j hi z) gT_core
    refine ⟨⟨_, _, _, _, h1, rfl, q2288⟩, fun e => ?_⟩
    have h2 := h.1.at (k := 11) (i := i) (cell_11 hi)
    rw [e, h2] at h1
    have q := congrArg Prod.fst (Option.some.inj h1)
    have q2 : isCore (cR 11 i) = isCore gT := by rw [show cR 11 i = gT from q]
    rw [cR_core (by decide), gT_core] at q2
    cases q2
  · rw [List.getElem?_eq_none (by rw [cBd_len]; omega)] at hj
    cases hj
theorem cL_R (a9 : ad' 9 = ad 9) (a10 : ad' 10 = ad 10) (a15 : ad' 15 = ad 15) (a16 : ad' 16 = ad 16) (z0 : fz' 0 = fz 0) (z1 : fz' 1 = fz 1) (i : Nat) : cL ad' fz' A i = cL ad fz A i := by
  unfold cL
  refine congrArg (fun z => List.map z _) (funext fun j => ?_)
  unfold cE
  split <;> simp only [a9, a10, a15, a16, z0, z1]
theorem cells_R {k : Nat} (i : Nat) (h11 : k ≠ 11) (h12 : k ≠ 12) (a1 : ad' 1 = ad 1) (a2 : ad' 2 = ad 2) (a3 : ad' 3 = ad 3) (a4 : ad' 4 = ad 4) (a5 : ad' 5 = ad 5) (a6 : ad' 6 = ad 6) (a7 : ad' 7 = ad 7) (a8 : ad' 8 = ad 8) (a9 : ad' 9 = ad 9) (a10 : ad' 10 = ad 10) (a11 : ad' 11 = ad 11) (a15 : ad' 15 = ad 15) (a16 : ad' 16 = ad 16) (p3 : cp' 3 = cp 3) (p8 : cp' 8 = cp 8) (m2 : md' 2 = md 2) (z0 : fz' 0 = fz 0) (z1 : fz' 1 = fz 1) (z2 : fz' 2 = fz 2) : cells ad' cp' fz' md' S U A B k i = cells ad cp fz md S U A B k i := by
  rcases k_17 k with rfl | rfl | rfl | rfl | rfl | rfl | rfl | rfl | rfl | rfl | rfl | rfl | rfl | rfl | rfl | rfl | rfl | hb
  · simp only [cells, cXf, a1, a2, a4, a5, a6, a7, a8, p8]
  · simp only [cells, cXf, a1, a2, a4, a5, a6, a7, a8, p8]
  · simp only [cells, a3, m2, cL_R (A := A) a9 a10 a15 a16 z0 z1]
  · simp only [cells, p3, cL_R (A := A) a9 a10 a15 a16 z0 z1]
  · simp only [cells, cXf, a1, a2, a4, a5, a6, a7, a8, p8]
  · simp only [cells, cXf, a1, a2, a4, a5, a6, a7, a8, p8]
  · simp only [cells, cXf, a1, a2, a4, a5, a6, a7, a8, p8]
  · simp only [cells, cXf, a1, a2, a4, a5, a6, a7, a8, p8]
  · simp only [cells, cXf, a1, a2, a4, a5, a6, a7, a8, p8]
  · simp only [cells, cXf, a1, a2, a4, a5, a6, a7, a8, p8]
  · simp only [cells, cGf, cLe, a11, z2]
  · exact absurd rfl h11
  · exact absurd rfl h12
  · simp only [cells, cXf, a1, a2, a4, a5, a6, a7, a8, p8]
  · simp only [cells, cXf, a1, a2, a4, a5, a6, a7, a8, p8]
  · simp only [cells, cXf, a1, a2, a4, a5, a6, a7, a8, p8]
  · simp only [cells, cXf, a1, a2, a4, a5, a6, a7, a8, p8]
  · rw [cells_big i hb, cells_big i hb]
theorem bd_cn (g nb : Nat) (f r s : Int32) (i : Nat) : cn (sBidA A g nb f r s) i = cn A i := by
  unfold sBidA
  rw [cn_mA _ _ _ (by decide), cn_mA _ _ _ (by decide), cn_mA _ _ _ (by decide), cn_mA _ _ _ (by decide)]
theorem bd_cV (g nb : Nat) (f r s : Int32) (i : Nat) : cV (sBidA A g nb f r s) i = cV A i := by
  unfold sBidA
  rw [cV_mA _ _ _ (by decide), cV_mA _ _ _ (by decide), cV_mA _ _ _ (by decide), cV_mA _ _ _ (by decide)]
theorem bd_oth (g nb : Nat) (f r s : Int32) {k : Nat} (i : Nat) (h11 : k ≠ 11) (h12 : k ≠ 12) : cells ad cp fz md S U (sBidA A g nb f r s) B k i = cells ad cp fz md S U A B k i := by
  have u : ∀ x, x = 46 ∨ x = 47 ∨ x = 48 ∨ x = 49 → cUse k x = false := by
    intro x hx
    unfold cUse
    split <;> first | exact absurd rfl h11 | exact absurd rfl h12 | (rcases hx with rfl | rfl | rfl | rfl <;> rfl)
  unfold sBidA
  rw [cells_mA _ _ _ (u 46 (by decide)), cells_mA _ _ _ (u 49 (by decide)), cells_mA _ _ _ (u 48 (by decide)), cells_mA _ _ _ (u 47 (by decide))]
theorem bd_46 (g nb : Nat) (f r s : Int32) : (sBidA A g nb f r s) 46 g = nI (nb + 1) := mA_rd _ _ _ _
theorem bd_46n {g nb i : Nat} (f r s : Int32) (h : i ≠ g) : (sBidA A g nb f r s) 46 i = A 46 i := by
  unfold sBidA
  rw [mA_rn _ _ _ h, mA_n _ _ _ (by decide), mA_n _ _ _ (by decide), mA_n _ _ _ (by decide)]
/-- a bid is made (frozen, at p) and laid into gate g's list -/
theorem CW.bid (h : CW c0 ad cp fz md S U A B c) {g nb p d' cap' : Nat} {f r s : Int32} {c1 c' : gLH} (hg : g < cn A 2) (hnb : ix (A 46 g) = nb) (hn10 : nb < 10) (hs : gSub c c1) (hL : gAL c' (ad 11 g) d' cap' (cR 11 g) (cR 12 g) (cBd fz A g ++ [p])) (hfr : gFrm c1 c' (ad 11 g) (ad 12 g)) : (∃ m, CW c (up2 ad 12 g d') (up2 cp 12 g cap') (up2 fz (16 + g) nb p) (up2 md 11 g m) S U (sBidA A g nb f r s) B c') ∧ cFr c c' := by
  have hg9 : g < 1000 := (h.1.1 11 g _ (cell_11 hg)).2.2
  have hcn2 : cn (sBidA A g nb f r s) 2 = cn A 2 := bd_cn g nb f r s 2
  have hcl : cBd (up2 fz (16 + g) nb p) (sBidA A g nb f r s) g = cBd fz A g ++ [p] := by
    unfold cBd
    rw [bd_46, ix_nI (by omega), hnb, List.range_succ, List.map_append]
    congr 1
    · apply List.map_congr_left
      intro j hj
      have := List.mem_range.mp hj
      rw [up2_n _ _ (by omega)]
    · show [(up2 fz (16 + g) nb p) (16 + g) nb] = [p]
      rw [up2_s]
  have hcO : ∀ i, i ≠ g → cBd (up2 fz (16 + g) nb p) (sBidA A g nb f r s) i = cBd fz A i := by
    intro i hi
    unfold cBd
    rw [bd_46n _ _ _ hi, up2_k _ _ (by omega)]
  have key := h.1.grown (k1 := 11) (k2 := 12) (li := g) (ad' := (up2 ad 12 g d')) (f' := fun m => cells (up2 ad 12 g d') (up2 cp 12 g cap') (up2 fz (16 + g) nb p) (up2 md 11 g m) S U (sBidA A g nb f r s) B) (cell_11 hg) (cell_12 hg) (by decide) hs hL hfr (by rw [up2_k _ _ (by decide)]) (up2_s _ _ _ _)
    (fun m e he => by
      rw [cell_11 (by rw [hcn2]; exact hg), hcl, up2_s, up2_s] at he
      exact (Option.some.inj he).symm)
    (fun m e he => by
      rw [cell_12 (by rw [hcn2]; exact hg), hcl, up2_s] at he
      exact (Option.some.inj he).symm)
    (fun m k i e z1 z2 he => by
      have old : ∀ {k i : Nat} {e : va_E}, cells ad cp fz md S U A B k i = some e → c1 (ad k i) = some (cR k i, e) ∧ k < 32 ∧ i < 1000 := fun {k i e} q => ⟨hs _ _ _ (h.1.1 k i e q).1, (h.1.1 k i e q).2⟩
      by_cases k11 : k = 11
      · subst k11
        have hi : i ≠ g := fun y => z1 ⟨rfl, y⟩
        by_cases hc : i < cn A 2
        · rw [cell_11 (by rw [hcn2]; exact hc), hcO i hi, up2_n _ _ (fun y => hi y.2), up2_n _ _ (fun y => hi y.2)] at he
          rw [up2_k _ _ (by decide)]
          exact old (by rw [cell_11 hc]; exact he)
        · rw [cell_n11 (by rw [hcn2]; exact hc)] at he
          cases he
      by_cases k12 : k = 12
      · subst k12
        have hi : i ≠ g := fun y => z2 ⟨rfl, y⟩
        by_cases hc : i < cn A 2
        · rw [cell_12 (by rw [hcn2]; exact hc), hcO i hi, up2_n _ _ (fun y => hi y.2)] at he
          rw [up2_n _ _ (fun y => hi y.2)]
          exact old (by rw [cell_12 hc]; exact he)
        · rw [cell_n12 (by rw [hcn2]; exact hc)] at he
          cases he
      rw [cells_R (ad := ad) (cp := cp) (fz := fz) (md := md) i k11 k12 (up2_k _ _ (by decide)) (up2_k _ _ (by decide)) (up2_k _ _ (by decide)) (up2_k _ _ (by decide)) (up2_k _ _ (by decide)) (up2_k _ _ (by decide)) (up2_k _ _ (by decide)) (up2_k _ _ (by decide)) (up2_k _ _ (by decide)) (up2_k _ _ (by decide)) (up2_k _ _ (by decide)) (up2_k _ _ (by decide)) (up2_k _ _ (by decide)) (up2_k _ _ (by decide)) (up2_k _ _ (by decide)) (up2_k _ _ (by decide)) (up2_k _ _ (by omega)) (up2_k _ _ (by omega)) (up2_k _ _ (by omega)), bd_oth g nb f r s i k11 k12] at he
      rw [up2_k _ _ k12]
      exact old he)
  obtain ⟨⟨m, hm⟩, hF⟩ := key
  refine ⟨⟨m, hm, ?_⟩, hF⟩
  obtain ⟨c1', c2', c3'⟩ := h.2
  have hl : (cBd fz A g ++ [p]).length = nb + 1 := by rw [List.length_append, cBd_len, hnb]; rfl
  have g42 : (sBidA A g nb f r s) 42 = A 42 := by
    unfold sBidA
    rw [mA_n _ _ _ (by decide), mA_n _ _ _ (by decide), mA_n _ _ _ (by decide), mA_n _ _ _ (by decide)]
  refine ⟨fun i hi => ?_, fun i hi => ?_, ?_⟩
  · rw [bd_cn, bd_cV, up2_k _ _ (by decide)]
    exact c1' i hi
  · by_cases y : i = g
    · subst y
      have := hL.2.2.1
      rw [hl] at this
      rw [bd_46, up2_s, ix_nI (by omega)]
      exact ⟨rfl, by omega, this, by omega, hL.2.2.2⟩
    · rw [bd_46n _ _ _ y, up2_n _ _ (fun w => y w.2)]
      exact c2' i (by rw [hcn2] at hi; exact hi)
  · rw [g42, up2_k _ _ (by decide)]
    exact c3'
end CAB
theorem bid_1 {A : Nat → Nat → Int32} {n f r s : Int32} (h : (n < 0 ∨ ¬ n < A 31 0) ∨ (f < 0 ∨ ¬ f < A 45 0)) : sBidK A n f r s = 1 := by
  unfold sBidK
  rcases h with (h | h) | (h | h)
  · simp [h]
  · have := Int32.not_lt.mp h
    simp [this]
  · simp [h]
  · simp [h]
theorem bid_h {A : Nat → Nat → Int32} {n f r s : Int32} (h1 : ¬ n < 0 ∧ n < A 31 0) (h2 : ¬ f < 0 ∧ f < A 45 0) : sBidK A n f r s = (if sSum r = true then (if sSum s = true then (if 0 ≤ A 50 (ix n) then 3 else if A 46 (ix n) = 10 then 3 else 0) else 2) else 2) := by
  have : ¬ A 31 0 ≤ n := Int32.not_le.mpr h1.2
  unfold sBidK
  simp [h1.1, this, h2.1, h2.2]
theorem cx_bid {l : Launch} {g : gGP} (hk : gK l g) {c0 c : gLH} {ad cp fz : Nat → Nat → Nat} {md : Nat → Nat → Int32} {S : Nat → List Value} {U : Nat → Nat → Int64} {A : Nat → Nat → Int32} {B : Nat → Nat → Int64} (hX : CW c0 ad cp fz md S U A B c) (n f r s : Int32) (hS : gLS g) (hF : FB fz A c0) (hts : gTS g) : Ct l g yX1_bid hwX1_bid 7 280 [.ref (ad 0 0), .int n, .int f, .int r, .int s] c (12) (260) (pCx (sBidK A n f r s) eBAS c (pI (nI (ix (A 46 (ix n)) + 1)) (fun c' => (∃ p d' cap' m, CW c (up2 ad 12 (ix n) d') (up2 cp 12 (ix n) cap') (up2 fz (16 + ix n) (ix (A 46 (ix n))) p) (up2 md 11 (ix n) m) S U (sBidA A (ix n) (ix (A 46 (ix n))) f r s) B c' ∧ c' p = some (gT, .inr (29, [.int f, .int r, .int s]))) ∧ cFr c c'))) := by
  refine Ct.intro hk hcX1_bid (by decide +kernel) (Nat.le_of_ble_eq_true rfl) (fun φ h => ?_)
  refine g_iload_n (i := 1) h dX1_bid_0 rfl rfl ?_
  refine g_aload_n (i := 0) h dX1_bid_1 rfl rfl ?_
  refine g_get (v := .ref (ad 2 2)) h f_X1_32_1 hX.x rfl dX1_bid_2 ?_
  refine g_invV h (ct_xsize2 h.k hX) hcJ2_size w_X1_81 rfl rfl (xlist2 hX) (Nat.le_of_ble_eq_true rfl) ⟨Nat.le_of_ble_eq_true rfl, Nat.le_of_ble_eq_true rfl⟩ (by refine ⟨?_, ?_⟩ <;> first | exact Nat.le_refl _ | exact Nat.zero_le _ | (dsimp only; omega)) dX1_bid_5 (gkr_ip ?_) gkt_ip
  refine g_invS h (ct_thereX h.k _ _ hts) hcX1_there w_X1_112 rfl rfl (Nat.le_of_ble_eq_true rfl) ⟨Nat.le_of_ble_eq_true rfl, Nat.le_of_ble_eq_true rfl⟩ (by refine ⟨?_, ?_⟩ <;> ((try dsimp only); omega)) dX1_bid_8 (gkr_gd (fun b8 => ?_)) (gkt_gd (fun b8 a e ha => ?_))
  rotate_left 1
  · refine gt_out h (fun q hq => by cases hq) ?_ (by (try dsimp only); omega) (by (try dsimp only); omega)
    exact pCx_t (n := 1) (by exact bid_1 (Or.inl (sNo_ge b8))) (by decide) rfl ⟨a, e, rfl, ha, rfl⟩
  have bz8 := sNo_lt b8
  obtain ⟨hj, hx⟩ := there_ix b8 (hX.cnt (i := 2) (by decide)).1 (hX.cnt (i := 2) (by decide)).2.2
  refine g_iload_n (i := 2) h dX1_bid_11 rfl rfl ?_
  refine g_aload_n (i := 0) h dX1_bid_12 rfl rfl ?_
  refine g_get (v := .ref (ad 2 4)) h f_X1_38_1 hX.x rfl dX1_bid_13 ?_
  refine g_invV h (ct_xsize4 h.k hX) hcJ2_size w_X1_81 rfl rfl (xlist4 hX) (Nat.le_of_ble_eq_true rfl) ⟨Nat.le_of_ble_eq_true rfl, Nat.le_of_ble_eq_true rfl⟩ (by refine ⟨?_, ?_⟩ <;> first | exact Nat.le_refl _ | exact Nat.zero_le _ | (dsimp only; omega)) dX1_bid_16 (gkr_ip ?_) gkt_ip
  refine g_invS h (ct_thereX h.k _ _ hts) hcX1_there w_X1_112 rfl rfl (Nat.le_of_ble_eq_true rfl) ⟨Nat.le_of_ble_eq_true rfl, Nat.le_of_ble_eq_true rfl⟩ (by refine ⟨?_, ?_⟩ <;> ((try dsimp only); omega)) dX1_bid_19 (gkr_gd (fun b19 => ?_)) (gkt_gd (fun b19 a e ha => ?_))
  rotate_left 1
  · refine gt_out h (fun q hq => by cases hq) ?_ (by (try dsimp only); omega) (by (try dsimp only); omega)
    exact pCx_t (n := 1) (by exact bid_1 (Or.inr (sNo_ge b19))) (by decide) rfl ⟨a, e, rfl, ha, rfl⟩
  have bz19 := sNo_lt b19
  obtain ⟨hjf, hxf⟩ := there_ix b19 (hX.cnt (i := 4) (by decide)).1 (hX.cnt (i := 4) (by decide)).2.2
  refine g_iload_n (i := 3) h dX1_bid_22 rfl rfl ?_
  refine g_iconst (v := 1) h dX1_bid_23 (by decide) ?_
  refine g_icmp_lt (tgt := 52) h dX1_bid_24 (by decide) (fun b24 => ?_) (fun b24 => ?_)
  · refine g_iconst (v := 0) h dX1_bid_52 (by decide) ?_
    refine g_invS h (ct_needX h.k false hts) hcX1_need w_X1_77 rfl rfl (Nat.le_of_ble_eq_true rfl) ⟨Nat.le_of_ble_eq_true rfl, Nat.le_of_ble_eq_true rfl⟩ (by refine ⟨?_, ?_⟩ <;> ((try dsimp only); omega)) dX1_bid_53 (gkr_gd (fun hb => absurd hb (by decide))) (gkt_gd (fun _ a e ha => ?_))
    refine gt_out h (fun q hq => by cases hq) ?_ (by (try dsimp only); omega) (by (try dsimp only); omega)
    exact pCx_t (n := 2) (by rw [bid_h bz8 bz19]; first | (simp [sSum, b24]; done) | (simp at *; simp [sSum, *])) (by decide) rfl ⟨a, e, rfl, ha, rfl⟩
  · refine g_iload_n (i := 3) h dX1_bid_27 rfl rfl ?_
    refine g_ldcw (v := 10000000) h dX1_bid_28 q1638 ?_
    refine g_icmp_gt (tgt := 52) h dX1_bid_31 (by decide) (fun b31 => ?_) (fun b31 => ?_)
    · refine g_iconst (v := 0) h dX1_bid_52 (by decide) ?_
      refine g_invS h (ct_needX h.k false hts) hcX1_need w_X1_77 rfl rfl (Nat.le_of_ble_eq_true rfl) ⟨Nat.le_of_ble_eq_true rfl, Nat.le_of_ble_eq_true rfl⟩ (by refine ⟨?_, ?_⟩ <;> ((try dsimp only); omega)) dX1_bid_53 (gkr_gd (fun hb => absurd hb (by decide))) (gkt_gd (fun _ a e ha => ?_))
      refine gt_out h (fun q hq => by cases hq) ?_ (by (try dsimp only); omega) (by (try dsimp only); omega)
      exact pCx_t (n := 2) (by rw [bid_h bz8 bz19]; first | (simp [sSum, b24, b31]; done) | (simp at *; simp [sSum, *])) (by decide) rfl ⟨a, e, rfl, ha, rfl⟩
    · refine g_iload h dX1_bid_34 rfl ?_
      refine g_iconst (v := 1) h dX1_bid_36 (by decide) ?_
      refine g_icmp_lt (tgt := 52) h dX1_bid_37 (by decide) (fun b37 => ?_) (fun b37 => ?_)
      · refine g_iconst (v := 0) h dX1_bid_52 (by decide) ?_
        refine g_invS h (ct_needX h.k false hts) hcX1_need w_X1_77 rfl rfl (Nat.le_of_ble_eq_true rfl) ⟨Nat.le_of_ble_eq_true rfl, Nat.le_of_ble_eq_true rfl⟩ (by refine ⟨?_, ?_⟩ <;> ((try dsimp only); omega)) dX1_bid_53 (gkr_gd (fun hb => absurd hb (by decide))) (gkt_gd (fun _ a e ha => ?_))
        refine gt_out h (fun q hq => by cases hq) ?_ (by (try dsimp only); omega) (by (try dsimp only); omega)
        exact pCx_t (n := 2) (by rw [bid_h bz8 bz19]; first | (simp [sSum, b24, b31, b37]; done) | (simp at *; simp [sSum, *])) (by decide) rfl ⟨a, e, rfl, ha, rfl⟩
      · refine g_iload h dX1_bid_40 rfl ?_
        refine g_ldcw (v := 10000000) h dX1_bid_42 q1638 ?_
        refine g_icmp_gt (tgt := 52) h dX1_bid_45 (by decide) (fun b45 => ?_) (fun b45 => ?_)
        · refine g_iconst (v := 0) h dX1_bid_52 (by decide) ?_
          refine g_invS h (ct_needX h.k false hts) hcX1_need w_X1_77 rfl rfl (Nat.le_of_ble_eq_true rfl) ⟨Nat.le_of_ble_eq_true rfl, Nat.le_of_ble_eq_true rfl⟩ (by refine ⟨?_, ?_⟩ <;> ((try dsimp only); omega)) dX1_bid_53 (gkr_gd (fun hb => absurd hb (by decide))) (gkt_gd (fun _ a e ha => ?_))
          refine gt_out h (fun q hq => by cases hq) ?_ (by (try dsimp only); omega) (by (try dsimp only); omega)
          exact pCx_t (n := 2) (by rw [bid_h bz8 bz19]; first | (simp [sSum, b24, b31, b37, b45]; done) | (simp at *; simp [sSum, *])) (by decide) rfl ⟨a, e, rfl, ha, rfl⟩
        · refine g_iconst (v := 1) h dX1_bid_48 (by decide) ?_
          refine g_goto (tgt := 53) h dX1_bid_49 (by decide) ?_
          refine g_invS h (ct_needX h.k true hts) hcX1_need w_X1_77 rfl rfl (Nat.le_of_ble_eq_true rfl) ⟨Nat.le_of_ble_eq_true rfl, Nat.le_of_ble_eq_true rfl⟩ (by refine ⟨?_, ?_⟩ <;> ((try dsimp only); omega)) dX1_bid_53 (gkr_gd (fun _ => ?_)) (gkt_gd (fun hb => absurd hb (by decide)))
          have hK : sBidK A n f r s = (if 0 ≤ A 50 (ix n) then 3 else if A 46 (ix n) = 10 then 3 else 0) := by
            rw [bid_h bz8 bz19, show sSum r = true by simp at *; simp [sSum, *], show sSum s = true by simp at *; simp [sSum, *]]
            rfl
          obtain ⟨hb46, hb10, -⟩ := hX.2.2.1 _ hj
          by_cases hz : A 50 (ix n) < 0
          · skip
            refine g_aload_n (i := 0) h dX1_bid_56 rfl rfl ?_
            refine g_get (v := .ref (ad 2 2)) h f_X1_32_1 hX.x rfl dX1_bid_57 ?_
            refine g_iload_n (i := 1) h dX1_bid_60 rfl rfl ?_
            refine G.int hx ?_
            refine g_invV h (ct_xget2 h.k hX hj) hcJ2_get w_X1_162 rfl rfl (xlist2 hX) (Nat.le_of_ble_eq_true rfl) ⟨Nat.le_of_ble_eq_true rfl, Nat.le_of_ble_eq_true rfl⟩ (by refine ⟨?_, ?_⟩ <;> first | exact Nat.le_refl _ | exact Nat.zero_le _ | (dsimp only; omega)) dX1_bid_61 (gkr_ap ?_) gkt_ap
            refine g_castS h (hX.1.at (cells_10 hj)) rfl q1261 dX1_bid_64 ?_
            refine g_astore h dX1_bid_67 (by decide) ?_
            refine g_aload h dX1_bid_69 rfl ?_
            refine g_get (v := cLe fz A (ix n)) h f_X1_190_23 (hX.1.at (cells_10 hj)) rfl dX1_bid_71 ?_
            rw [show cLe fz A (ix n) = .null from if_pos hz]
            refine g_ifnonnullN h dX1_bid_74 ?_
            refine g_aload h dX1_bid_77 rfl ?_
            refine g_get (v := .ref (ad 11 (ix n))) h f_X1_297_23 (hX.1.at (cells_10 hj)) rfl dX1_bid_79 ?_
            refine g_invV h (ct_bsize h.k hX hj) hcJ2_size w_X1_81 rfl rfl (xbids hX hj) (Nat.le_of_ble_eq_true rfl) ⟨Nat.le_of_ble_eq_true rfl, Nat.le_of_ble_eq_true rfl⟩ (by refine ⟨?_, ?_⟩ <;> ((try dsimp only); omega)) dX1_bid_82 (gkr_ip ?_) gkt_ip
            refine G.int hb46 ?_
            refine g_bipush (v := nI 10) h dX1_bid_85 (by decide) ?_
            refine g_icmp_ge (tgt := 94) h dX1_bid_87 (by decide) (fun b87 => ?_) (fun b87 => ?_)
            · refine g_iconst (v := 0) h dX1_bid_94 (by decide) ?_
              refine g_invS h (ct_rightX h.k false hts) hcX1_right w_X1_85 rfl rfl (Nat.le_of_ble_eq_true rfl) ⟨Nat.le_of_ble_eq_true rfl, Nat.le_of_ble_eq_true rfl⟩ (by refine ⟨?_, ?_⟩ <;> ((try dsimp only); omega)) dX1_bid_95 (gkr_gd (fun hb => absurd hb (by decide))) (gkt_gd (fun _ a e ha => ?_))
              refine gt_out h (fun q hq => by cases hq) ?_ (by (try dsimp only); omega) (by (try dsimp only); omega)
              exact pCx_t (n := 3) (by have z : A 46 (ix n) = 10 := hb46.trans (congrArg nI (by have := (nI_full hb10 (by decide)).mp b87; exact this)); rw [hK]; simp [z]) (by decide) rfl ⟨a, e, rfl, ha, rfl⟩
            · refine g_iconst (v := 1) h dX1_bid_90 (by decide) ?_
              refine g_goto (tgt := 95) h dX1_bid_91 (by decide) ?_
              refine g_invS h (ct_rightX h.k true hts) hcX1_right w_X1_85 rfl rfl (Nat.le_of_ble_eq_true rfl) ⟨Nat.le_of_ble_eq_true rfl, Nat.le_of_ble_eq_true rfl⟩ (by refine ⟨?_, ?_⟩ <;> ((try dsimp only); omega)) dX1_bid_95 (gkr_gd (fun _ => ?_)) (gkt_gd (fun hb => absurd hb (by decide)))
              have hlt : ix (A 46 (ix n)) < 10 := by
                rcases Nat.lt_or_ge (ix (A 46 (ix n))) 10 with z | z
                · exact z
                · exact absurd (by rw [show ix (A 46 (ix n)) = 10 by omega]; exact Int32.le_refl _) b87
              refine g_aload h dX1_bid_98 rfl ?_
              refine g_get (v := .ref (ad 11 (ix n))) h f_X1_297_23 (hX.1.at (cells_10 hj)) rfl dX1_bid_100 ?_
              refine g_new h gT n_X1_195 (by (try dsimp only); omega) (by (try dsimp only); omega) dX1_bid_103 (fun p hp => ?_)
              refine g_dup h dX1_bid_106 rfl ?_
              refine g_iload_n (i := 2) h dX1_bid_107 rfl rfl ?_
              refine g_iload_n (i := 3) h dX1_bid_108 rfl rfl ?_
              refine g_iload h dX1_bid_109 rfl ?_
              refine g_invI h (ct_X29init h.k f r s gT_lt (va_up_s _ _ _)) w_X1_300 rfl rfl (Nat.le_of_ble_eq_true rfl) ⟨Nat.le_of_ble_eq_true rfl, Nat.le_of_ble_eq_true rfl⟩ (by refine ⟨?_, ?_⟩ <;> ((try dsimp only); omega)) dX1_bid_111 (gkr_v (fun c2 e2 => ?_)) gkt_v
              subst e2
              rw [va_up_up]
              have hs2 : gSub c (va_up c p (some (gT, .inr (29, [.int f, .int r, .int s])))) := gSub_up hp
              have hne : p ≠ ad 11 (ix n) := fun z => by have := hX.1.at (k := 11) (i := ix n) (cell_11 hj); rw [← z, hp] at this; cases this
              have hne2 : p ≠ ad 12 (ix n) := fun z => by have := hX.1.at (k := 12) (i := ix n) (cell_12 hj); rw [← z, hp] at this; cases this
              refine g_invV h (ct_ladd h.k (hX.1.sb (cell_11 hj)) (hX.1.sb (cell_12 hj)) hS ((hX.bids hj).mono hs2) (hX.2.2.1 _ hj).2.2.2.1 (by rw [cBd_len]; omega) ((hX.elsB hF hj).mono hs2) ⟨_, _, _, _, va_up_s _ _ _, rfl, q2288⟩ hne 1 120 (fun z => ⟨Nat.le_refl _, by rw [cBd_len] at z; omega⟩)) hcJ2_add w_X1_97 rfl rfl (hs2 _ _ _ (xbids hX hj)) (Nat.le_of_ble_eq_true rfl) ⟨Nat.le_of_ble_eq_true rfl, Nat.le_of_ble_eq_true rfl⟩ (by refine ⟨?_, ?_⟩ <;> ((try dsimp only); omega)) dX1_bid_114 (gkr_i (fun c3 hP => ?_)) gkt_i
              obtain ⟨d', cap', hL3, hc0, -, hf3⟩ := hP
              obtain ⟨⟨m, hX3⟩, hF3⟩ := hX.bid (f := f) (r := r) (s := s) hj rfl hlt hs2 hL3 hf3
              have hp3 := hf3 p _ _ (va_up_s _ _ _) hne hne2
              have hj3 : ix n < cn (sBidA A (ix n) (ix (A 46 (ix n))) f r s) 2 := by rw [bd_cn]; exact hj
              refine g_pop h dX1_bid_117 rfl ?_
              refine g_aload h dX1_bid_118 rfl ?_
              refine g_get (v := .ref (ad 11 (ix n))) h f_X1_297_23 (by have q := hX3.1.at (cells_10 hj3); rw [up2_k _ _ (by decide)] at q; exact q) (by unfold cGf; rw [up2_k _ _ (by decide)]; rfl) dX1_bid_120 ?_
              refine g_invV h (ct_lsize h.k hL3) hcJ2_size w_X1_81 rfl rfl hL3.1.choose_spec (Nat.le_of_ble_eq_true rfl) ⟨Nat.le_of_ble_eq_true rfl, Nat.le_of_ble_eq_true rfl⟩ (by refine ⟨?_, ?_⟩ <;> ((try dsimp only); omega)) dX1_bid_123 (gkr_ip ?_) gkt_ip
              refine G.int (show _ = nI (ix (A 46 (ix n)) + 1) by rw [List.length_append, cBd_len]; rfl) ?_
              exact g_iret h (pCx_0 (by have z : ¬ A 46 (ix n) = 10 := fun e => b87 (by rw [← hb46, e]; exact Int32.le_refl _); have z2 : ¬ 0 ≤ A 50 (ix n) := Int32.not_le.mpr hz; rw [hK]; simp [z, z2]) ⟨rfl, ⟨p, d', cap', m, hX3, hp3⟩, hF3⟩) (by (try dsimp only); omega) (by (try dsimp only); omega) dX1_bid_126
          · skip
            refine g_aload_n (i := 0) h dX1_bid_56 rfl rfl ?_
            refine g_get (v := .ref (ad 2 2)) h f_X1_32_1 hX.x rfl dX1_bid_57 ?_
            refine g_iload_n (i := 1) h dX1_bid_60 rfl rfl ?_
            refine G.int hx ?_
            refine g_invV h (ct_xget2 h.k hX hj) hcJ2_get w_X1_162 rfl rfl (xlist2 hX) (Nat.le_of_ble_eq_true rfl) ⟨Nat.le_of_ble_eq_true rfl, Nat.le_of_ble_eq_true rfl⟩ (by refine ⟨?_, ?_⟩ <;> first | exact Nat.le_refl _ | exact Nat.zero_le _ | (dsimp only; omega)) dX1_bid_61 (gkr_ap ?_) gkt_ap
            refine g_castS h (hX.1.at (cells_10 hj)) rfl q1261 dX1_bid_64 ?_
            refine g_astore h dX1_bid_67 (by decide) ?_
            refine g_aload h dX1_bid_69 rfl ?_
            refine g_get (v := cLe fz A (ix n)) h f_X1_190_23 (hX.1.at (cells_10 hj)) rfl dX1_bid_71 ?_
            rw [show cLe fz A (ix n) = .ref (fz 2 (ix n)) from if_neg hz]
            refine g_ifnonnull (tgt := 94) h dX1_bid_74 (by decide) ?_
            refine g_iconst (v := 0) h dX1_bid_94 (by decide) ?_
            refine g_invS h (ct_rightX h.k false hts) hcX1_right w_X1_85 rfl rfl (Nat.le_of_ble_eq_true rfl) ⟨Nat.le_of_ble_eq_true rfl, Nat.le_of_ble_eq_true rfl⟩ (by refine ⟨?_, ?_⟩ <;> ((try dsimp only); omega)) dX1_bid_95 (gkr_gd (fun hb => absurd hb (by decide))) (gkt_gd (fun _ a e ha => ?_))
            refine gt_out h (fun q hq => by cases hq) ?_ (by (try dsimp only); omega) (by (try dsimp only); omega)
            exact pCx_t (n := 3) (by have z2 : 0 ≤ A 50 (ix n) := Int32.not_lt.mp hz; rw [hK]; simp [z2]) (by decide) rfl ⟨a, e, rfl, ha, rfl⟩
