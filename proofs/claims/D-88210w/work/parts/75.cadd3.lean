/-! THE COMPONENT: stretch, farmer -/
set_option maxRecDepth 100000
section CAS1
variable {c0 c : gLH} {ad cp fz : Nat → Nat → Nat} {md : Nat → Nat → Int32} {S : Nat → List Value} {U : Nat → Nat → Int64} {A : Nat → Nat → Int32} {B : Nat → Nat → Int64}
theorem add1_cn {n : Nat} (p : Int32) (hn : n < 1000) : cn (mA (mA A 26 n p) 28 0 (nI (n + 1))) 1 = n + 1 ∧ cV (mA (mA A 26 n p) 28 0 (nI (n + 1))) 1 = nI (n + 1) := by
  have e : (mA (mA A 26 n p) 28 0 (nI (n + 1))) 28 0 = nI (n + 1) := mA_rd _ _ _ _
  refine ⟨?_, e⟩
  show ix ((mA (mA A 26 n p) 28 0 (nI (n + 1))) 28 0) = n + 1
  rw [e, ix_nI (by omega)]
theorem add1_cnO (n : Nat) (p : Int32) (i : Nat) (hi : i ≠ 1) : cn (mA (mA A 26 n p) 28 0 (nI (n + 1))) i = cn A i ∧ cV (mA (mA A 26 n p) 28 0 (nI (n + 1))) i = cV A i := by
  refine ⟨?_, ?_⟩
  · unfold cn
    split <;> first | rfl | exact absurd rfl hi
  · unfold cV
    split <;> first | rfl | exact absurd rfl hi
theorem add1_oth (n : Nat) (p : Int32) (k i : Nat) (h2 : k ≠ 2) (h3 : k ≠ 3) (h9 : k ≠ 9) : cells ad cp fz md S U (mA (mA A 26 n p) 28 0 (nI (n + 1))) B k i = cells ad cp fz md S U A B k i := by
  have u : ∀ f, f = 26 ∨ f = 28 → cUse k f = false := by
    intro f hf
    unfold cUse
    split <;> first | exact absurd rfl h2 | exact absurd rfl h3 | exact absurd rfl h9 | (rcases hf with rfl | rfl <;> rfl)
  rw [cells_mA _ _ _ (u 28 (by decide)), cells_mA _ _ _ (u 26 (by decide))]
theorem add1_new {n : Nat} (p : Int32) (hn : n < 1000) (hB : B 27 n = 0) : cells ad cp fz md S U (mA (mA A 26 n p) 28 0 (nI (n + 1))) B 9 n = some (.inr (22, [.int p, .long 0])) := by
  rw [cells_9 (by rw [(add1_cn p hn).1]; omega)]
  show some (Sum.inr (22, [Value.int (mA A 26 n p 26 n), Value.long (B 27 n)])) = _
  rw [mA_rd, hB]
theorem add1_old {n : Nat} (p : Int32) (hn : n < 1000) (hc : cn A 1 = n) (i : Nat) (hi : i ≠ n) : cells ad cp fz md S U (mA (mA A 26 n p) 28 0 (nI (n + 1))) B 9 i = cells ad cp fz md S U A B 9 i := by
  show (if i < cn (mA (mA A 26 n p) 28 0 (nI (n + 1))) 1 then _ else _) = (if i < cn A 1 then _ else _)
  rw [(add1_cn p hn).1, hc]
  by_cases z : i < n
  · rw [if_pos (by omega), if_pos z]
    show some (Sum.inr (22, [Value.int (mA A 26 n p 26 i), Value.long (B 27 i)])) = _
    rw [mA_rn _ _ _ hi]
    rfl
  · rw [if_neg (by omega), if_neg z]
end CAS1
section CAS4
variable {c0 c : gLH} {ad cp fz : Nat → Nat → Nat} {md : Nat → Nat → Int32} {S : Nat → List Value} {U : Nat → Nat → Int64} {A : Nat → Nat → Int32} {B : Nat → Nat → Int64}
theorem add4_cn {n : Nat} (hn : n < 1000) : cn (mA A 45 0 (nI (n + 1))) 4 = n + 1 ∧ cV (mA A 45 0 (nI (n + 1))) 4 = nI (n + 1) := by
  have e : (mA A 45 0 (nI (n + 1))) 45 0 = nI (n + 1) := mA_rd _ _ _ _
  refine ⟨?_, e⟩
  show ix ((mA A 45 0 (nI (n + 1))) 45 0) = n + 1
  rw [e, ix_nI (by omega)]
theorem add4_cnO (n : Nat) (i : Nat) (hi : i ≠ 4) : cn (mA A 45 0 (nI (n + 1))) i = cn A i ∧ cV (mA A 45 0 (nI (n + 1))) i = cV A i := by
  refine ⟨?_, ?_⟩
  · unfold cn
    split <;> first | rfl | exact absurd rfl hi
  · unfold cV
    split <;> first | rfl | exact absurd rfl hi
theorem add4_oth (n : Nat) (m : Int32) (k i : Nat) (h2 : k ≠ 2) (h3 : k ≠ 3) (h9 : k ≠ 15) : cells ad cp fz md S U (mA A 45 0 (nI (n + 1))) (mB B 44 n m.toInt64) k i = cells ad cp fz md S U A B k i := by
  have u : cUse k 45 = false := by
    unfold cUse
    split <;> first | exact absurd rfl h2 | exact absurd rfl h3 | exact absurd rfl h9 | rfl
  have u2 : cUsb k 44 = false := by
    unfold cUsb
    split <;> first | exact absurd rfl h9 | rfl
  rw [cells_mB _ _ _ u2, cells_mA _ _ _ u]
theorem add4_new {n : Nat} (m : Int32) (hn : n < 1000) : cells ad cp fz md S U (mA A 45 0 (nI (n + 1))) (mB B 44 n m.toInt64) 15 n = some (.inr (28, [.long m.toInt64])) := by
  rw [cells_15 (by rw [(add4_cn hn).1]; omega), mB_rd]
theorem add4_old {n : Nat} (m : Int32) (hn : n < 1000) (hc : cn A 4 = n) (i : Nat) (hi : i ≠ n) : cells ad cp fz md S U (mA A 45 0 (nI (n + 1))) (mB B 44 n m.toInt64) 15 i = cells ad cp fz md S U A B 15 i := by
  show (if i < cn (mA A 45 0 (nI (n + 1))) 4 then _ else _) = (if i < cn A 4 then _ else _)
  rw [(add4_cn hn).1, hc]
  by_cases z : i < n
  · rw [if_pos (by omega), if_pos z, mB_rn _ _ _ hi]
  · rw [if_neg (by omega), if_neg z]
end CAS4
theorem full_eq {x : Int32} {n m : Nat} (hx : x = nI n) (h : n ≤ m) (hm : m < 2147483648) (hb : nI m ≤ x) : x = nI m := by
  rw [hx] at hb ⊢
  rw [(nI_full h hm).mp hb]
theorem cx_stretch {l : Launch} {g : gGP} (hk : gK l g) {c0 c : gLH} {ad cp fz : Nat → Nat → Nat} {md : Nat → Nat → Int32} {S : Nat → List Value} {U : Nat → Nat → Int64} {A : Nat → Nat → Int32} {B : Nat → Nat → Int64} (hX : CW c0 ad cp fz md S U A B c) (p : Int32) (hS : gLS g) (hB : B 27 (cn A 1) = 0) (hts : gTS g) : Ct l g yX1_stretch hwX1_stretch 7 280 [.ref (ad 0 0), .int p] c (12) (250) (pCx (sStretchK A p) eAS c (pI (nI (cn A 1)) (fun c' => ∃ q d' cap' m', CW c0 (up2 (up2 ad 9 (cn A 1) q) 3 1 d') (up2 cp 3 1 cap') fz (up2 md 2 1 m') S U (mA (mA A 26 (cn A 1) p) 28 0 (nI (cn A 1 + 1))) B c'))) := by
  refine Ct.intro hk hcX1_stretch (by decide +kernel) (Nat.le_of_ble_eq_true rfl) (fun φ h => ?_)
  refine g_iload_n (i := 1) h dX1_stretch_0 rfl rfl ?_
  refine g_iconst (v := 1) h dX1_stretch_1 (by decide) ?_
  refine g_icmp_lt (tgt := 16) h dX1_stretch_2 (by decide) (fun b2 => ?_) (fun b2 => ?_)
  · refine g_iconst (v := 0) h dX1_stretch_16 (by decide) ?_
    refine g_invS h (ct_needX h.k false hts) hcX1_need w_X1_77 rfl rfl (Nat.le_of_ble_eq_true rfl) ⟨Nat.le_of_ble_eq_true rfl, Nat.le_of_ble_eq_true rfl⟩ (by refine ⟨?_, ?_⟩ <;> ((try dsimp only); omega)) dX1_stretch_17 (gkr_gd (fun hb => absurd hb (by decide))) (gkt_gd (fun _ a e ha => ?_))
    refine gt_out h (fun q hq => by cases hq) ?_ (by (try dsimp only); omega) (by (try dsimp only); omega)
    exact pCx_t (n := 1) (by first | (simp [sStretchK, b2]; done) | (have z : ¬ p ≤ 10000 := (by simpa using b9); simp [sStretchK, b2, z])) (by decide) rfl ⟨a, e, rfl, ha, rfl⟩
  · refine g_iload_n (i := 1) h dX1_stretch_5 rfl rfl ?_
    refine g_sipush (v := 10000) h dX1_stretch_6 (by decide) ?_
    refine g_icmp_gt (tgt := 16) h dX1_stretch_9 (by decide) (fun b9 => ?_) (fun b9 => ?_)
    · refine g_iconst (v := 0) h dX1_stretch_16 (by decide) ?_
      refine g_invS h (ct_needX h.k false hts) hcX1_need w_X1_77 rfl rfl (Nat.le_of_ble_eq_true rfl) ⟨Nat.le_of_ble_eq_true rfl, Nat.le_of_ble_eq_true rfl⟩ (by refine ⟨?_, ?_⟩ <;> ((try dsimp only); omega)) dX1_stretch_17 (gkr_gd (fun hb => absurd hb (by decide))) (gkt_gd (fun _ a e ha => ?_))
      refine gt_out h (fun q hq => by cases hq) ?_ (by (try dsimp only); omega) (by (try dsimp only); omega)
      exact pCx_t (n := 1) (by first | (simp [sStretchK, b2, b9]; done) | (have z : ¬ p ≤ 10000 := (by simpa using b9); simp [sStretchK, b2, z])) (by decide) rfl ⟨a, e, rfl, ha, rfl⟩
    · refine g_iconst (v := 1) h dX1_stretch_12 (by decide) ?_
      refine g_goto (tgt := 17) h dX1_stretch_13 (by decide) ?_
      refine g_invS h (ct_needX h.k true hts) hcX1_need w_X1_77 rfl rfl (Nat.le_of_ble_eq_true rfl) ⟨Nat.le_of_ble_eq_true rfl, Nat.le_of_ble_eq_true rfl⟩ (by refine ⟨?_, ?_⟩ <;> ((try dsimp only); omega)) dX1_stretch_17 (gkr_gd (fun _ => ?_)) (gkt_gd (fun hb => absurd hb (by decide)))
      refine g_aload_n (i := 0) h dX1_stretch_20 rfl rfl ?_
      refine g_get (v := .ref (ad 2 1)) h f_X1_29_1 hX.x rfl dX1_stretch_21 ?_
      refine g_invV h (ct_xsize1 h.k hX) hcJ2_size w_X1_81 rfl rfl (xlist1 hX) (Nat.le_of_ble_eq_true rfl) ⟨Nat.le_of_ble_eq_true rfl, Nat.le_of_ble_eq_true rfl⟩ (by refine ⟨?_, ?_⟩ <;> first | exact Nat.le_refl _ | exact Nat.zero_le _ | (dsimp only; omega)) dX1_stretch_24 (gkr_ip ?_) gkt_ip
      refine g_bipush (v := 12) h dX1_stretch_27 (by decide) ?_
      refine g_icmp_ge (tgt := 36) h dX1_stretch_29 (by decide) (fun b29 => ?_) (fun b29 => ?_)
      · refine g_iconst (v := 0) h dX1_stretch_36 (by decide) ?_
        refine g_invS h (ct_rightX h.k false hts) hcX1_right w_X1_85 rfl rfl (Nat.le_of_ble_eq_true rfl) ⟨Nat.le_of_ble_eq_true rfl, Nat.le_of_ble_eq_true rfl⟩ (by refine ⟨?_, ?_⟩ <;> ((try dsimp only); omega)) dX1_stretch_37 (gkr_gd (fun hb => absurd hb (by decide))) (gkt_gd (fun _ a e ha => ?_))
        refine gt_out h (fun q hq => by cases hq) ?_ (by (try dsimp only); omega) (by (try dsimp only); omega)
        exact pCx_t (n := 2) (by have z : A 28 0 = 12 := full_eq (m := 12) (hX.cnt (i := 1) (by decide)).1 (hX.cnt (i := 1) (by decide)).2.1 (by decide) b29; simp [sStretchK, b2, b9, b29, z]) (by decide) rfl ⟨a, e, rfl, ha, rfl⟩
      · refine g_iconst (v := 1) h dX1_stretch_32 (by decide) ?_
        refine g_goto (tgt := 37) h dX1_stretch_33 (by decide) ?_
        refine g_invS h (ct_rightX h.k true hts) hcX1_right w_X1_85 rfl rfl (Nat.le_of_ble_eq_true rfl) ⟨Nat.le_of_ble_eq_true rfl, Nat.le_of_ble_eq_true rfl⟩ (by refine ⟨?_, ?_⟩ <;> ((try dsimp only); omega)) dX1_stretch_37 (gkr_gd (fun _ => ?_)) (gkt_gd (fun hb => absurd hb (by decide)))
        refine g_aload_n (i := 0) h dX1_stretch_40 rfl rfl ?_
        refine g_get (v := .ref (ad 2 1)) h f_X1_29_1 hX.x rfl dX1_stretch_41 ?_
        obtain ⟨n, hn⟩ : ∃ n, cn A 1 = n := ⟨_, rfl⟩
        have hcnt := hX.cnt (i := 1) (by decide)
        have hM : cn A 1 ≤ 12 := hcnt.2.1
        have hcv : A 28 0 = nI (cn A 1) := hcnt.1
        have hlt : n < 12 := by
          rcases Nat.lt_or_ge n 12 with z | z
          · exact z
          · exact absurd (by rw [hcv, show cn A 1 = 12 by omega]; exact Int32.le_refl _) b29
        refine g_new h (cR 9 n) n_X1_109 (by (try dsimp only); omega) (by (try dsimp only); omega) dX1_stretch_44 (fun q hq => ?_)
        have hqx : ad 2 1 ≠ q := fun e => by rw [← e, xlist1 hX] at hq; cases hq
        refine g_dup h dX1_stretch_47 rfl ?_
        refine g_iload_n (i := 1) h dX1_stretch_48 rfl rfl ?_
        refine g_invI h (ct_X22init h.k p (cR_lt (by decide) (by omega)) (va_up_s _ _ _)) w_X1_111 rfl rfl (Nat.le_of_ble_eq_true rfl) ⟨Nat.le_of_ble_eq_true rfl, Nat.le_of_ble_eq_true rfl⟩ (by refine ⟨?_, ?_⟩ <;> ((try dsimp only); omega)) dX1_stretch_49 (gkr_v (fun c1 e1 => ?_)) gkt_v
        subst e1
        rw [va_up_up]
        refine g_invV h (ct_xadd1 h.k hS hX (n := n) (A' := (mA (mA A 26 n p) 28 0 (nI (n + 1)))) (B' := B) hn hq (add1_cn p (by omega)).1 (add1_cn p (by omega)).2 hlt (fun i _ hi => (add1_cnO n p i hi).1) (fun i _ hi => (add1_cnO n p i hi).2) rfl rfl (add1_oth n p) (add1_new p (by omega) (by rw [← hn]; exact hB)) (add1_old p (by omega) hn)) hcJ2_add w_X1_97 rfl rfl (by rw [va_up_n _ _ hqx]; exact xlist1 hX) (Nat.le_of_ble_eq_true rfl) ⟨Nat.le_of_ble_eq_true rfl, Nat.le_of_ble_eq_true rfl⟩ (by refine ⟨?_, ?_⟩ <;> ((try dsimp only); omega)) dX1_stretch_52 (gkr_i (fun c hP => ?_)) gkt_i
        obtain ⟨d', cap', m', hX⟩ := hP
        refine g_pop h dX1_stretch_55 rfl ?_
        refine g_aload_n (i := 0) h dX1_stretch_56 rfl rfl ?_
        refine g_get (v := .ref (ad 2 1)) h f_X1_29_1 hX.x rfl dX1_stretch_57 ?_
        refine g_invV h (ct_xsize1 h.k hX) hcJ2_size w_X1_81 rfl rfl (xlist1 hX) (Nat.le_of_ble_eq_true rfl) ⟨Nat.le_of_ble_eq_true rfl, Nat.le_of_ble_eq_true rfl⟩ (by refine ⟨?_, ?_⟩ <;> ((try dsimp only); omega)) dX1_stretch_60 (gkr_ip ?_) gkt_ip
        refine G.int (y := nI (n + 1)) (mA_rd _ _ _ _) ?_
        refine g_iconst (v := nI 1) h dX1_stretch_63 (by decide) ?_
        refine g_isub h dX1_stretch_64 ?_
        exact g_iret h (pCx_0 (by have z : ¬ A 28 0 = 12 := fun e => b29 (by rw [e]; exact Int32.le_refl _); simp [sStretchK, b2, b9, b29, z]) ⟨by rw [show nI (n + 1) - nI 1 = nI n from nI_pred n, hn], q, d', cap', m', by rw [hn]; exact hX⟩) (by (try dsimp only); omega) (by (try dsimp only); omega) dX1_stretch_65
theorem cx_farmer {l : Launch} {g : gGP} (hk : gK l g) {c0 c : gLH} {ad cp fz : Nat → Nat → Nat} {md : Nat → Nat → Int32} {S : Nat → List Value} {U : Nat → Nat → Int64} {A : Nat → Nat → Int32} {B : Nat → Nat → Int64} (hX : CW c0 ad cp fz md S U A B c) (m : Int32) (hS : gLS g) (hts : gTS g) : Ct l g yX1_farmer hwX1_farmer 7 280 [.ref (ad 0 0), .int m] c (12) (250) (pCx (sFarmerK A m) eAS c (pI (nI (cn A 4)) (fun c' => ∃ q d' cap' m', CW c0 (up2 (up2 ad 15 (cn A 4) q) 3 4 d') (up2 cp 3 4 cap') fz (up2 md 2 4 m') S U (mA A 45 0 (nI (cn A 4 + 1))) (mB B 44 (cn A 4) m.toInt64) c'))) := by
  refine Ct.intro hk hcX1_farmer (by decide +kernel) (Nat.le_of_ble_eq_true rfl) (fun φ h => ?_)
  refine g_iload_n (i := 1) h dX1_farmer_0 rfl rfl ?_
  refine g_if_lt (tgt := 15) h dX1_farmer_1 (by decide) (fun b1 => ?_) (fun b1 => ?_)
  · refine g_iconst (v := 0) h dX1_farmer_15 (by decide) ?_
    refine g_invS h (ct_needX h.k false hts) hcX1_need w_X1_77 rfl rfl (Nat.le_of_ble_eq_true rfl) ⟨Nat.le_of_ble_eq_true rfl, Nat.le_of_ble_eq_true rfl⟩ (by refine ⟨?_, ?_⟩ <;> ((try dsimp only); omega)) dX1_farmer_16 (gkr_gd (fun hb => absurd hb (by decide))) (gkt_gd (fun _ a e ha => ?_))
    refine gt_out h (fun q hq => by cases hq) ?_ (by (try dsimp only); omega) (by (try dsimp only); omega)
    exact pCx_t (n := 1) (by first | (simp [sFarmerK, b1]; done) | (have z : ¬ m ≤ 1000000000 := (by simpa using b8); simp [sFarmerK, b1, z])) (by decide) rfl ⟨a, e, rfl, ha, rfl⟩
  · refine g_iload_n (i := 1) h dX1_farmer_4 rfl rfl ?_
    refine g_ldcw (v := 1000000000) h dX1_farmer_5 q1620 ?_
    refine g_icmp_gt (tgt := 15) h dX1_farmer_8 (by decide) (fun b8 => ?_) (fun b8 => ?_)
    · refine g_iconst (v := 0) h dX1_farmer_15 (by decide) ?_
      refine g_invS h (ct_needX h.k false hts) hcX1_need w_X1_77 rfl rfl (Nat.le_of_ble_eq_true rfl) ⟨Nat.le_of_ble_eq_true rfl, Nat.le_of_ble_eq_true rfl⟩ (by refine ⟨?_, ?_⟩ <;> ((try dsimp only); omega)) dX1_farmer_16 (gkr_gd (fun hb => absurd hb (by decide))) (gkt_gd (fun _ a e ha => ?_))
      refine gt_out h (fun q hq => by cases hq) ?_ (by (try dsimp only); omega) (by (try dsimp only); omega)
      exact pCx_t (n := 1) (by first | (simp [sFarmerK, b1, b8]; done) | (have z : ¬ m ≤ 1000000000 := (by simpa using b8); simp [sFarmerK, b1, z])) (by decide) rfl ⟨a, e, rfl, ha, rfl⟩
    · refine g_iconst (v := 1) h dX1_farmer_11 (by decide) ?_
      refine g_goto (tgt := 16) h dX1_farmer_12 (by decide) ?_
      refine g_invS h (ct_needX h.k true hts) hcX1_need w_X1_77 rfl rfl (Nat.le_of_ble_eq_true rfl) ⟨Nat.le_of_ble_eq_true rfl, Nat.le_of_ble_eq_true rfl⟩ (by refine ⟨?_, ?_⟩ <;> ((try dsimp only); omega)) dX1_farmer_16 (gkr_gd (fun _ => ?_)) (gkt_gd (fun hb => absurd hb (by decide)))
      refine g_aload_n (i := 0) h dX1_farmer_19 rfl rfl ?_
      refine g_get (v := .ref (ad 2 4)) h f_X1_38_1 hX.x rfl dX1_farmer_20 ?_
      refine g_invV h (ct_xsize4 h.k hX) hcJ2_size w_X1_81 rfl rfl (xlist4 hX) (Nat.le_of_ble_eq_true rfl) ⟨Nat.le_of_ble_eq_true rfl, Nat.le_of_ble_eq_true rfl⟩ (by refine ⟨?_, ?_⟩ <;> first | exact Nat.le_refl _ | exact Nat.zero_le _ | (dsimp only; omega)) dX1_farmer_23 (gkr_ip ?_) gkt_ip
      refine g_bipush (v := 8) h dX1_farmer_26 (by decide) ?_
      refine g_icmp_ge (tgt := 35) h dX1_farmer_28 (by decide) (fun b28 => ?_) (fun b28 => ?_)
      · refine g_iconst (v := 0) h dX1_farmer_35 (by decide) ?_
        refine g_invS h (ct_rightX h.k false hts) hcX1_right w_X1_85 rfl rfl (Nat.le_of_ble_eq_true rfl) ⟨Nat.le_of_ble_eq_true rfl, Nat.le_of_ble_eq_true rfl⟩ (by refine ⟨?_, ?_⟩ <;> ((try dsimp only); omega)) dX1_farmer_36 (gkr_gd (fun hb => absurd hb (by decide))) (gkt_gd (fun _ a e ha => ?_))
        refine gt_out h (fun q hq => by cases hq) ?_ (by (try dsimp only); omega) (by (try dsimp only); omega)
        exact pCx_t (n := 2) (by have z : A 45 0 = 8 := full_eq (m := 8) (hX.cnt (i := 4) (by decide)).1 (hX.cnt (i := 4) (by decide)).2.1 (by decide) b28; simp [sFarmerK, b1, b8, b28, z]) (by decide) rfl ⟨a, e, rfl, ha, rfl⟩
      · refine g_iconst (v := 1) h dX1_farmer_31 (by decide) ?_
        refine g_goto (tgt := 36) h dX1_farmer_32 (by decide) ?_
        refine g_invS h (ct_rightX h.k true hts) hcX1_right w_X1_85 rfl rfl (Nat.le_of_ble_eq_true rfl) ⟨Nat.le_of_ble_eq_true rfl, Nat.le_of_ble_eq_true rfl⟩ (by refine ⟨?_, ?_⟩ <;> ((try dsimp only); omega)) dX1_farmer_36 (gkr_gd (fun _ => ?_)) (gkt_gd (fun hb => absurd hb (by decide)))
        refine g_aload_n (i := 0) h dX1_farmer_39 rfl rfl ?_
        refine g_get (v := .ref (ad 2 4)) h f_X1_38_1 hX.x rfl dX1_farmer_40 ?_
        obtain ⟨n, hn⟩ : ∃ n, cn A 4 = n := ⟨_, rfl⟩
        have hcnt := hX.cnt (i := 4) (by decide)
        have hM : cn A 4 ≤ 8 := hcnt.2.1
        have hcv : A 45 0 = nI (cn A 4) := hcnt.1
        have hlt : n < 8 := by
          rcases Nat.lt_or_ge n 8 with z | z
          · exact z
          · exact absurd (by rw [hcv, show cn A 4 = 8 by omega]; exact Int32.le_refl _) b28
        refine g_new h (cR 15 n) n_X1_199 (by (try dsimp only); omega) (by (try dsimp only); omega) dX1_farmer_43 (fun q hq => ?_)
        have hqx : ad 2 4 ≠ q := fun e => by rw [← e, xlist4 hX] at hq; cases hq
        refine g_dup h dX1_farmer_46 rfl ?_
        refine g_iload_n (i := 1) h dX1_farmer_47 rfl rfl ?_
        refine g_i2l h dX1_farmer_48 ?_
        refine g_invI h (ct_X28init h.k m.toInt64 (cR_lt (by decide) (by omega)) (va_up_s _ _ _)) w_X1_293 rfl rfl (Nat.le_of_ble_eq_true rfl) ⟨Nat.le_of_ble_eq_true rfl, Nat.le_of_ble_eq_true rfl⟩ (by refine ⟨?_, ?_⟩ <;> ((try dsimp only); omega)) dX1_farmer_49 (gkr_v (fun c1 e1 => ?_)) gkt_v
        subst e1
        rw [va_up_up]
        refine g_invV h (ct_xadd4 h.k hS hX (n := n) (A' := (mA A 45 0 (nI (n + 1)))) (B' := (mB B 44 n m.toInt64)) hn hq (add4_cn (by omega)).1 (add4_cn (by omega)).2 hlt (fun i _ hi => (add4_cnO n i hi).1) (fun i _ hi => (add4_cnO n i hi).2) rfl rfl (add4_oth n m) (add4_new m (by omega)) (add4_old m (by omega) hn)) hcJ2_add w_X1_97 rfl rfl (by rw [va_up_n _ _ hqx]; exact xlist4 hX) (Nat.le_of_ble_eq_true rfl) ⟨Nat.le_of_ble_eq_true rfl, Nat.le_of_ble_eq_true rfl⟩ (by refine ⟨?_, ?_⟩ <;> ((try dsimp only); omega)) dX1_farmer_52 (gkr_i (fun c hP => ?_)) gkt_i
        obtain ⟨d', cap', m', hX⟩ := hP
        refine g_pop h dX1_farmer_55 rfl ?_
        refine g_aload_n (i := 0) h dX1_farmer_56 rfl rfl ?_
        refine g_get (v := .ref (ad 2 4)) h f_X1_38_1 hX.x rfl dX1_farmer_57 ?_
        refine g_invV h (ct_xsize4 h.k hX) hcJ2_size w_X1_81 rfl rfl (xlist4 hX) (Nat.le_of_ble_eq_true rfl) ⟨Nat.le_of_ble_eq_true rfl, Nat.le_of_ble_eq_true rfl⟩ (by refine ⟨?_, ?_⟩ <;> ((try dsimp only); omega)) dX1_farmer_60 (gkr_ip ?_) gkt_ip
        refine G.int (y := nI (n + 1)) (mA_rd _ _ _ _) ?_
        refine g_iconst (v := nI 1) h dX1_farmer_63 (by decide) ?_
        refine g_isub h dX1_farmer_64 ?_
        exact g_iret h (pCx_0 (by have z : ¬ A 45 0 = 8 := fun e => b28 (by rw [e]; exact Int32.le_refl _); simp [sFarmerK, b1, b8, b28, z]) ⟨by rw [show nI (n + 1) - nI 1 = nI n from nI_pred n, hn], q, d', cap', m', by rw [hn]; exact hX⟩) (by (try dsimp only); omega) (by (try dsimp only); omega) dX1_farmer_65
