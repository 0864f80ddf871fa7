/-! THE READER: kind -/
set_option maxRecDepth 100000
theorem pEat_t {T : Nat → Int32} {sz : Nat} {s : pSt} {W : List Nat} (h0 : s.2.1 = 0) (h : pIsW T (pB T sz s.1) W = true) : pEat T sz s W = (true, (pB T sz s.1 + W.length, s.2)) := by
  unfold pEat; rw [if_pos h0, if_pos h]
theorem pEat_f {T : Nat → Int32} {sz : Nat} {s : pSt} {W : List Nat} (h0 : s.2.1 = 0) (h : pIsW T (pB T sz s.1) W = false) : pEat T sz s W = (false, (pB T sz s.1, s.2)) := by
  unfold pEat; rw [if_pos h0, if_neg (by rw [h]; decide)]
theorem pKinds_t {T : Nat → Int32} {sz m k : Nat} {s : pSt} (h0 : s.2.1 = 0) (h : pIsW T (pB T sz s.1) (kindW k) = true) : pKinds T sz (m + 1) k s = pEmit (pB T sz s.1 + (kindW k).length, s.2) 22 (nI k) := by
  simp only [pKinds]
  rw [pEat_t h0 h]
  exact if_pos rfl
theorem pKinds_f {T : Nat → Int32} {sz m k : Nat} {s : pSt} (h0 : s.2.1 = 0) (h : pIsW T (pB T sz s.1) (kindW k) = false) : pKinds T sz (m + 1) k s = pKinds T sz m (k + 1) (pB T sz s.1, s.2) := by
  simp only [pKinds]
  rw [pEat_f h0 h]
  exact if_neg (show ¬ false = true by decide)
/-- which kind stands at q -/
theorem pKinds_all {T : Nat → Int32} {sz q : Nat} {r : Nat × Int32 × Nat × List (Int32 × Int32)} (hq : pB T sz q = q) (h0 : r.1 = 0) : (∀ k, k < 7 → pIsW T q (kindW k) = false) → pKinds T sz 7 0 (q, r) = (q, 1, nI q, r.2.2) := by
  intro h
  have st : ∀ (m k : Nat), k < 7 → pKinds T sz (m + 1) k (q, r) = pKinds T sz m (k + 1) (q, r) := fun m k hk => by
    rw [pKinds_f (s := (q, r)) h0 (by show pIsW T (pB T sz q) _ = _; rw [hq]; exact h k hk)]
    show pKinds T sz m (k + 1) (pB T sz q, r) = _
    rw [hq]
  rw [st 6 0 (by omega), st 5 1 (by omega), st 4 2 (by omega), st 3 3 (by omega), st 2 4 (by omega), st 1 5 (by omega), st 0 6 (by omega)]
  simp only [pKinds, pWrong]
  rw [if_pos h0]
theorem pKinds_one {T : Nat → Int32} {sz q : Nat} {r : Nat × Int32 × Nat × List (Int32 × Int32)} (hq : pB T sz q = q) (h0 : r.1 = 0) : ∀ (k m : Nat), (∀ j, m ≤ j → j < m + k → pIsW T q (kindW j) = false) → pIsW T q (kindW (m + k)) = true → ∀ n, pKinds T sz (k + 1 + n) m (q, r) = pEmit (q + (kindW (m + k)).length, r) 22 (nI (m + k))
  | 0, m, _, h, n => by
    rw [show 0 + 1 + n = n + 1 by omega, pKinds_t (s := (q, r)) h0 (by show pIsW T (pB T sz q) _ = _; rw [hq]; exact h)]
    show pEmit (pB T sz q + _, r) _ _ = _
    rw [hq]; rfl
  | k + 1, m, hf, h, n => by
    rw [show k + 1 + 1 + n = (k + 1 + n) + 1 by omega, pKinds_f (s := (q, r)) h0 (by show pIsW T (pB T sz q) _ = _; rw [hq]; exact hf m (Nat.le_refl _) (by omega))]
    show pKinds T sz (k + 1 + n) (m + 1) (pB T sz q, r) = _
    rw [hq, pKinds_one hq h0 k (m + 1) (fun j h1 h2 => hf j (by omega) (by omega)) (by rw [show m + 1 + k = m + (k + 1) by omega]; exact h) n, show m + 1 + k = m + (k + 1) by omega]
theorem kindW_ws (k : Nat) : isWs (kindW k) := by
  unfold kindW isWs
  repeat' split
  all_goals decide
/-- the word's kind, as the component finds it -/
theorem kdx_c (V : List Nat) : (kdx V = -1 ∧ ∀ k, k < 7 → V ≠ kindW k) ∨ ∃ k, k < 7 ∧ kdx V = nI k ∧ V = kindW k ∧ ∀ j, j < k → V ≠ kindW j := by
  by_cases e0 : V = w_coach
  · subst e0; exact Or.inr ⟨0, by decide, rfl, rfl, fun j hj => absurd hj (by omega)⟩
  by_cases e1 : V = w_cart
  · subst e1; exact Or.inr ⟨1, by decide, rfl, rfl, by decide⟩
  by_cases e2 : V = w_wagon
  · subst e2; exact Or.inr ⟨2, by decide, rfl, rfl, by decide⟩
  by_cases e3 : V = w_horse
  · subst e3; exact Or.inr ⟨3, by decide, rfl, rfl, by decide⟩
  by_cases e4 : V = w_cattle
  · subst e4; exact Or.inr ⟨4, by decide, rfl, rfl, by decide⟩
  by_cases e5 : V = w_sheep
  · subst e5; exact Or.inr ⟨5, by decide, rfl, rfl, by decide⟩
  by_cases e6 : V = w_foot
  · subst e6; exact Or.inr ⟨6, by decide, rfl, rfl, by decide⟩
  refine Or.inl ⟨by unfold kdx; rw [if_neg e0, if_neg e1, if_neg e2, if_neg e3, if_neg e4, if_neg e5, if_neg e6], fun k hk => ?_⟩
  have : k = 0 ∨ k = 1 ∨ k = 2 ∨ k = 3 ∨ k = 4 ∨ k = 5 ∨ k = 6 := by omega
  rcases this with rfl | rfl | rfl | rfl | rfl | rfl | rfl
  · exact e0
  · exact e1
  · exact e2
  · exact e3
  · exact e4
  · exact e5
  · exact e6
theorem pKinds_V {T : Nat → Int32} {sz : Nat} {s : pSt} (h0 : s.2.1 = 0) (V : List Nat) (hV : ∀ W, isWs W → pIsW T (pB T sz s.1) W = decide (V = W)) : (kdx V = -1 ∧ pKinds T sz 7 0 s = (pB T sz s.1, 1, nI (pB T sz s.1), s.2.2.2)) ∨ ∃ k, k < 7 ∧ kdx V = nI k ∧ pIsW T (pB T sz s.1) (kindW k) = true ∧ pKinds T sz 7 0 s = pEmit (pB T sz s.1 + (kindW k).length, s.2) 22 (nI k) := by
  have first : ∀ m k, pKinds T sz (m + 1) k s = pKinds T sz (m + 1) k (pB T sz s.1, s.2) := fun m k => by
    cases e : pIsW T (pB T sz s.1) (kindW k) with
    | true => rw [pKinds_t h0 e, pKinds_t (s := (pB T sz s.1, s.2)) h0 (by show pIsW T (pB T sz (pB T sz s.1)) _ = _; rw [pB_idem]; exact e)]; show _ = pEmit (pB T sz (pB T sz s.1) + _, s.2) _ _; rw [pB_idem]
    | false => rw [pKinds_f h0 e, pKinds_f (s := (pB T sz s.1, s.2)) h0 (by show pIsW T (pB T sz (pB T sz s.1)) _ = _; rw [pB_idem]; exact e)]; show _ = pKinds T sz m (k + 1) (pB T sz (pB T sz s.1), s.2); rw [pB_idem]
  rcases kdx_c V with ⟨h1, h2⟩ | ⟨k, hk, h1, h2, h3⟩
  · refine Or.inl ⟨h1, ?_⟩
    rw [first 6 0, pKinds_all (pB_idem T) h0 (fun k hk => by rw [hV _ (kindW_ws k)]; exact decide_eq_false (h2 k hk))]
  · have hw : pIsW T (pB T sz s.1) (kindW k) = true := by rw [hV _ (kindW_ws k)]; exact decide_eq_true h2
    refine Or.inr ⟨k, hk, h1, hw, ?_⟩
    have := pKinds_one (T := T) (sz := sz) (q := pB T sz s.1) (r := s.2) (pB_idem T) h0 k 0 (fun j _ hj => by rw [hV _ (kindW_ws j)]; exact decide_eq_false (h3 j (by omega))) (by rw [Nat.zero_add]; exact hw) (6 - k)
    rw [first 6 0, show 6 + 1 = k + 1 + (6 - k) by omega, this, Nat.zero_add]
theorem ct_rkind {l : Launch} {g : gGP} (hk : gK l g) {T f : Nat → Int32} {E : Nat → Nat} {c : gLH} {e9 rd tx sz : Nat} (hX : rTx T f sz) (hs : gSS g) (hE : rEnv g E e9 c) (hts : gTS g) {nx o : Nat} {pl : Int32} {cs : List (Int32 × Int32)} (hN : RN f rd tx sz nx o c) : Ct l g yX5_kind hwX5_kind 9 360 [.ref rd] c (13) (97) (pRa (pKind T sz (nx, 0, pl, o, cs)) (rFr c) (fun a c' => cOk c c' 1 1 a (nx, 0, pl, o, cs) (pKind T sz (nx, 0, pl, o, cs)) ∧ RS T f E e9 rd tx sz (pKind T sz (nx, 0, pl, o, cs)) c')) := by
  refine Ct.intro hk hcX5_kind (by decide +kernel) (Nat.le_of_ble_eq_true rfl) (fun φ h => ?_)
  have X10 : ∀ c2 : gLH, (pNeed T sz (nx, 0, pl, o, cs) 61).2.1 = 0 → rFr c c2 → rEnv g E e9 c2 → RS T f E e9 rd tx sz (pNeed T sz (nx, 0, pl, o, cs) 61) c2 → (pNeed T sz (nx, 0, pl, o, cs) 61).1 ≤ sz → (pB T sz (pNeed T sz (nx, 0, pl, o, cs) 61).1) ≤ sz → G φ (gQ φ (pRa (pKind T sz (nx, 0, pl, o, cs)) (rFr c) (fun a c' => cOk c c' 1 1 a (nx, 0, pl, o, cs) (pKind T sz (nx, 0, pl, o, cs)) ∧ RS T f E e9 rd tx sz (pKind T sz (nx, 0, pl, o, cs)) c')) 13 97) 10 [(0, .ref rd)] [] c2 8 64 := by
    intro c2 h2 hf2 hE2 g2 hsz hq1
    by_cases h1 : rKd T sz (pB T sz (pNeed T sz (nx, 0, pl, o, cs) 61).1) = 1
    case neg =>
      have hs0 : sSmall (T (pB T sz (pNeed T sz (nx, 0, pl, o, cs) 61).1)) = false := by cases z : sSmall (T (pB T sz (pNeed T sz (nx, 0, pl, o, cs) 61).1)) with | false => rfl | true => exact absurd ((rKd_1 hX.1 hq1).mpr z) h1
      have hf : (pKind T sz (nx, 0, pl, o, cs)) = ((pB T sz (pNeed T sz (nx, 0, pl, o, cs) 61).1), 1, nI (pB T sz (pNeed T sz (nx, 0, pl, o, cs) 61).1), (pNeed T sz (nx, 0, pl, o, cs) 61).2.2.2) := by
        rcases pKinds_V (T := T) (sz := sz) h2 [] (fun W hW => by rw [pIsW_not hW hs0]; symm; rw [decide_eq_false_iff_not]; intro e; have := hW.2.1; rw [← e] at this; exact absurd this (by simp)) with ⟨_, z⟩ | ⟨k, _, _, z, _⟩
        · exact z
        · rw [pIsW_not (kindW_ws k) hs0] at z; cases z
      obtain ⟨hT2, w2, sg2, nu2, hc2, -⟩ := g2
      refine g_aload_n (i := 0) h dX5_kind_10 rfl rfl ?_
      refine g_get h f_X5_47_5 hc2 rfl dX5_kind_11 ?_
      refine g_getstatic h hE2.1.2.1 q678 dX5_kind_14 ?_
      refine g_acmp_eq (rx := some (E (rKd T sz (pB T sz (pNeed T sz (nx, 0, pl, o, cs) 61).1)))) (ry := some (E 1)) (tgt := 24) h dX5_kind_17 (by decide) (fun b17 => absurd (hE2.2.1 _ _ (rKd_lt T sz _) (by decide) (Option.some.inj b17)) h1) (fun b17 => ?_)
      refine g_iconst (v := (-1)) h dX5_kind_20 (by decide) ?_
      refine g_goto (tgt := 31) h dX5_kind_21 (by decide) ?_
      refine g_istore_n (i := 1) h dX5_kind_31 rfl (by decide) ?_
      refine g_iload_n (i := 1) h dX5_kind_32 rfl rfl ?_
      refine g_iconst (v := (-1)) h dX5_kind_33 (by decide) ?_
      refine g_icmp_ne (tgt := 42) h dX5_kind_34 (by decide) (fun _bz => absurd _bz (fun z => z rfl)) (fun b34 => ?_)
      refine g_aload_n (i := 0) h dX5_kind_37 rfl rfl ?_
      refine g_invV h (ct_rwrong h.k hc2 hts) hcX5_wrong w_X5_117 rfl rfl hc2 (Nat.le_of_ble_eq_true rfl) ⟨Nat.le_of_ble_eq_true rfl, Nat.le_of_ble_eq_true rfl⟩ (by refine ⟨?_, ?_⟩ <;> ((try dsimp only); omega)) dX5_kind_38 (gkr_ae (fun a c3 hP => ?_)) gkt_ae
      refine g_athrow h dX5_kind_41 ?_
      refine gt_out h (fun q hq => by cases hq) ?_ (by (try dsimp only); omega) (by (try dsimp only); omega)
      exact ⟨hf2.trans (fun b r e z _ _ => hP.2.2 b r e z), Or.inr (pTw.of (t := (pKind T sz (nx, 0, pl, o, cs))) (e := 1) (pl := nI (pB T sz (pNeed T sz (nx, 0, pl, o, cs) 61).1)) (by rw [hf]) (by rw [hf]) (by decide) hP.2.1)⟩
    obtain ⟨w, V, sg2, nu2, hc2, hwo, hV⟩ := RD.word hX hq1 g2 h1
    rcases pKinds_V (T := T) (sz := sz) h2 V hV with ⟨hk, hf⟩ | ⟨k, hk7, hk, hw, hf⟩
    · replace hf : (pKind T sz (nx, 0, pl, o, cs)) = ((pB T sz (pNeed T sz (nx, 0, pl, o, cs) 61).1), 1, nI (pB T sz (pNeed T sz (nx, 0, pl, o, cs) 61).1), (pNeed T sz (nx, 0, pl, o, cs) 61).2.2.2) := hf
      refine g_aload_n (i := 0) h dX5_kind_10 rfl rfl ?_
      refine g_get h f_X5_47_5 hc2 rfl dX5_kind_11 ?_
      refine g_getstatic h hE2.1.2.1 q678 dX5_kind_14 ?_
      refine g_acmp_eq (rx := some (E (rKd T sz (pB T sz (pNeed T sz (nx, 0, pl, o, cs) 61).1)))) (ry := some (E 1)) (tgt := 24) h dX5_kind_17 (by decide) (fun b17 => ?_) (fun b17 => absurd (by rw [h1]) b17)
      refine g_aload_n (i := 0) h dX5_kind_24 rfl rfl ?_
      refine g_get h f_X5_11_5 hc2 rfl dX5_kind_25 ?_
      refine g_invS h (ct_rkindOf h.k hs hE2 hwo) hcX5_kindOf w_X5_282 rfl rfl (Nat.le_of_ble_eq_true rfl) ⟨Nat.le_of_ble_eq_true rfl, Nat.le_of_ble_eq_true rfl⟩ (by refine ⟨?_, ?_⟩ <;> ((try dsimp only); omega)) dX5_kind_28 (gkr_i (fun c3 hf3 => ?_)) gkt_i
      rw [hk]
      refine g_istore_n (i := 1) h dX5_kind_31 rfl (by decide) ?_
      refine g_iload_n (i := 1) h dX5_kind_32 rfl rfl ?_
      refine g_iconst (v := (-1)) h dX5_kind_33 (by decide) ?_
      refine g_icmp_ne (tgt := 42) h dX5_kind_34 (by decide) (fun _bz => absurd _bz (fun z => z rfl)) (fun b34 => ?_)
      refine g_aload_n (i := 0) h dX5_kind_37 rfl rfl ?_
      refine g_invV h (ct_rwrong h.k (hf3.2 _ _ hc2) hts) hcX5_wrong w_X5_117 rfl rfl (hf3.2 _ _ hc2) (Nat.le_of_ble_eq_true rfl) ⟨Nat.le_of_ble_eq_true rfl, Nat.le_of_ble_eq_true rfl⟩ (by refine ⟨?_, ?_⟩ <;> ((try dsimp only); omega)) dX5_kind_38 (gkr_ae (fun a c4 hP => ?_)) gkt_ae
      refine g_athrow h dX5_kind_41 ?_
      refine gt_out h (fun q hq => by cases hq) ?_ (by (try dsimp only); omega) (by (try dsimp only); omega)
      exact ⟨(hf2.trans hf3.1).trans (fun b r e z _ _ => hP.2.2 b r e z), Or.inr (pTw.of (t := (pKind T sz (nx, 0, pl, o, cs))) (e := 1) (pl := nI (pB T sz (pNeed T sz (nx, 0, pl, o, cs) 61).1)) (by rw [hf]) (by rw [hf]) (by decide) hP.2.1)⟩
    · replace hf : (pKind T sz (nx, 0, pl, o, cs)) = pEmit ((pB T sz (pNeed T sz (nx, 0, pl, o, cs) 61).1) + (kindW k).length, (pNeed T sz (nx, 0, pl, o, cs) 61).2) 22 (nI k) := hf
      refine g_aload_n (i := 0) h dX5_kind_10 rfl rfl ?_
      refine g_get h f_X5_47_5 hc2 rfl dX5_kind_11 ?_
      refine g_getstatic h hE2.1.2.1 q678 dX5_kind_14 ?_
      refine g_acmp_eq (rx := some (E (rKd T sz (pB T sz (pNeed T sz (nx, 0, pl, o, cs) 61).1)))) (ry := some (E 1)) (tgt := 24) h dX5_kind_17 (by decide) (fun b17 => ?_) (fun b17 => absurd (by rw [h1]) b17)
      refine g_aload_n (i := 0) h dX5_kind_24 rfl rfl ?_
      refine g_get h f_X5_11_5 hc2 rfl dX5_kind_25 ?_
      refine g_invS h (ct_rkindOf h.k hs hE2 hwo) hcX5_kindOf w_X5_282 rfl rfl (Nat.le_of_ble_eq_true rfl) ⟨Nat.le_of_ble_eq_true rfl, Nat.le_of_ble_eq_true rfl⟩ (by refine ⟨?_, ?_⟩ <;> ((try dsimp only); omega)) dX5_kind_28 (gkr_i (fun c3 hf3 => ?_)) gkt_i
      rw [hk]
      have hE3 := hE2.mono hf3.1
      have hN3 := hf3.rn (RD.rn g2 hq1)
      refine g_istore_n (i := 1) h dX5_kind_31 rfl (by decide) ?_
      refine g_iload_n (i := 1) h dX5_kind_32 rfl rfl ?_
      refine g_iconst (v := (-1)) h dX5_kind_33 (by decide) ?_
      refine g_icmp_ne (tgt := 42) h dX5_kind_34 (by decide) (fun b34 => ?_) (fun _bz => absurd _bz (fun z => absurd (fun y => nI_nm1 (b := k) (by omega) y) (not_not_intro (by first | exact z | exact Classical.not_not.mp z))))
      refine g_aload_n (i := 0) h dX5_kind_42 rfl rfl ?_
      refine g_invV h (ct_rgo h.k hX hs hE3 (hN3)) hcX5_go w_X5_25 rfl rfl (hN3).cell.choose_spec (Nat.le_of_ble_eq_true rfl) ⟨Nat.le_of_ble_eq_true rfl, Nat.le_of_ble_eq_true rfl⟩ (by refine ⟨?_, ?_⟩ <;> ((try dsimp only); omega)) dX5_kind_43 (gkr_v (fun c4 hP4 => ?_)) gkt_v
      have hf4 := (hf2.trans hf3.1).trans hP4.2
      refine g_new h gT n_X5_286 (by (try dsimp only); omega) (by (try dsimp only); omega) dX5_kind_46 (fun a ha => ?_)
      have hnw := rNone hf4 ha
      refine g_dup h dX5_kind_49 rfl ?_
      refine g_iload_n (i := 1) h dX5_kind_50 rfl rfl ?_
      refine g_invI h (ct_X21init h.k (nI k) gT_lt (va_up_s _ _ _)) w_X5_288 rfl rfl (Nat.le_of_ble_eq_true rfl) ⟨Nat.le_of_ble_eq_true rfl, Nat.le_of_ble_eq_true rfl⟩ (by refine ⟨?_, ?_⟩ <;> ((try dsimp only); omega)) dX5_kind_51 (gkr_v (fun c5 hP5 => ?_)) gkt_v
      rw [va_up_up] at hP5
      exact g_aret h ⟨by rw [hP5]; exact hf4.up ha, Or.inl ⟨by rw [hf]; exact h2, a, rfl, ⟨[(22, nI k)], _, by rw [hf]; show (pNeed T sz (nx, 0, pl, o, cs) 61).2.2.2.2 ++ _ = _; rw [show (pNeed T sz (nx, 0, pl, o, cs) 61).2.2.2.2 = cs from congrArg Prod.snd (pNeed_cs (T := T) (sz := sz) (nx, 0, pl, o, cs) 61)], ⟨gT, Or.inr (Or.inr (Or.inr (Or.inr (Or.inr (Or.inr ⟨_, gNw_i hnw.only (by rw [hP5]; exact va_up_s _ _ _), rfl⟩)))))⟩, tM_kind _⟩, by rw [hf, hP5]; refine RD.up ?_ ha; have z := hP4.1; rw [rNx_w hX.1 hq1 (kindW_ws k) hw] at z; exact z⟩⟩ (by (try dsimp only); omega) (by (try dsimp only); omega) (Or.inl ⟨_, rfl⟩) dX5_kind_54
  refine g_aload_n (i := 0) h dX5_kind_0 rfl rfl ?_
  refine g_invV h (ct_rgo h.k hX hs hE (hN)) hcX5_go w_X5_25 rfl rfl (hN).cell.choose_spec (Nat.le_of_ble_eq_true rfl) ⟨Nat.le_of_ble_eq_true rfl, Nat.le_of_ble_eq_true rfl⟩ (by refine ⟨?_, ?_⟩ <;> ((try dsimp only); omega)) dX5_kind_1 (gkr_v (fun c1 hP1 => ?_)) gkt_v
  have hE1 := hE.mono hP1.2
  have hR1 : RS T f E e9 rd tx sz (nx, 0, pl, o, cs) c1 := hP1.1
  refine g_aload_n (i := 0) h dX5_kind_4 rfl rfl ?_
  refine g_bipush (v := 61) h dX5_kind_5 (by decide) ?_
  refine g_invV h (ct_rneed (s := (nx, 0, pl, o, cs)) h.k hX hs hE1 rfl hN.2.1 hR1 hts isSg_x.2.2.2.2.1) hcX5_need w_X5_181 rfl rfl hR1.cell.choose_spec (Nat.le_of_ble_eq_true rfl) ⟨Nat.le_of_ble_eq_true rfl, Nat.le_of_ble_eq_true rfl⟩ (by refine ⟨?_, ?_⟩ <;> ((try dsimp only); omega)) dX5_kind_7 (gkr_rv (fun c2 h2 f2 g2 => ?_)) (gkt_rv (fun e2 c2 h2 f2 g2 => ?_))
  rotate_left 1
  · refine gt_out h (fun q hq => by cases hq) ?_ (by (try dsimp only); omega) (by (try dsimp only); omega)
    have hgo := (pKinds_go hX.1 7 0 (pNeed T sz (nx, 0, pl, o, cs) 61) ((pNeed_go (T := T) (nx, 0, pl, o, cs) 61).2.1 hN.2.1)).2.2.2.2.2.2.1 h2
    exact ⟨hP1.2.trans f2, Or.inr (pTw.of (t := (pKind T sz (nx, 0, pl, o, cs))) hgo.1 hgo.2 h2 g2)⟩
  have hE2 := hE1.mono f2
  have hf2 := hP1.2.trans f2
  have hsz : (pNeed T sz (nx, 0, pl, o, cs) 61).1 ≤ sz := (pNeed_go (T := T) (nx, 0, pl, o, cs) 61).2.1 hN.2.1
  have hq1 : (pB T sz (pNeed T sz (nx, 0, pl, o, cs) 61).1) ≤ sz := pB_sz T hsz
  exact X10 c2 h2 hf2 hE2 g2 hsz hq1
