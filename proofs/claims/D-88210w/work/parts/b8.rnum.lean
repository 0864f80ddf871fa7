/-! THE READER: number opens bit compares -/
set_option maxRecDepth 100000
theorem pNum_bad {T : Nat → Int32} {sz : Nat} {s : pSt} {b : Bool} (h0 : s.2.1 = 0) (hd : ¬ sDigit (T (pB T sz s.1)) = true) : pNum T sz s b = (0, (pB T sz s.1, 1, nI (pB T sz s.1), s.2.2.2)) := by
  unfold pNum pWrong
  rw [if_pos h0, if_neg hd, if_pos (show (pB T sz s.1, s.2).2.1 = 0 from h0)]
theorem pNum_out {T : Nat → Int32} {sz : Nat} {s : pSt} {b : Bool} (h0 : s.2.1 = 0) (hd : sDigit (T (pB T sz s.1)) = true) (ho : pOut b (pDig T (sz - pB T sz s.1) (pB T sz s.1) 0).2 = true) : pNum T sz s b = (0, ((pDig T (sz - pB T sz s.1) (pB T sz s.1) 0).1, 2, nI (pB T sz s.1), s.2.2.2)) := by
  unfold pNum
  rw [if_pos h0, if_pos hd, if_pos ho]
theorem pNum_ok {T : Nat → Int32} {sz : Nat} {s : pSt} {b : Bool} (h0 : s.2.1 = 0) (hd : sDigit (T (pB T sz s.1)) = true) (ho : pOut b (pDig T (sz - pB T sz s.1) (pB T sz s.1) 0).2 = false) : pNum T sz s b = ((pDig T (sz - pB T sz s.1) (pB T sz s.1) 0).2.toInt32, ((pDig T (sz - pB T sz s.1) (pB T sz s.1) 0).1, s.2)) := by
  unfold pNum
  rw [if_pos h0, if_pos hd, if_neg (by rw [ho]; decide)]
/-- the least number that may stand -/
def lst (b : Bool) : Int64 := if b then 1 else 0
theorem lst_v (b : Bool) : (lst b).toInt = if b then 1 else 0 := by cases b <;> decide
theorem tOk32 {x : Int64} (h1 : 0 ≤ x.toInt) (h2 : x.toInt ≤ 1000000) : tOk x.toInt32 := by
  have := congrArg Int64.toInt (l32 h1 h2)
  rw [Int32.toInt_toInt64] at this
  unfold tOk
  omega
theorem one32 {x : Int64} (h1 : 0 ≤ x.toInt) (h2 : x.toInt ≤ 1000000) (h3 : 1 ≤ x.toInt) : 1 ≤ x.toInt32.toInt := by
  have := congrArg Int64.toInt (l32 h1 h2)
  rw [Int32.toInt_toInt64] at this
  omega
theorem ct_rnumber {l : Launch} {g : gGP} (hk : gK l g) {T f : Nat → Int32} {E : Nat → Nat} {c : gLH} {e9 rd tx sz : Nat} (hX : rTx T f sz) (hs : gSS g) (hE : rEnv g E e9 c) {s : pSt} (h0 : s.2.1 = 0) (hq1 : s.1 ≤ sz) (hR : RS T f E e9 rd tx sz s c) (hts : gTS g) (b : Bool) : Ct l g yX5_number hwX5_number 8 320 [.ref rd, .long (lst b)] c (4) (32) (pRl (pNum T sz s b).2 (rFr c) (fun r c' => r = (pNum T sz s b).1.toInt64 ∧ tOk (pNum T sz s b).1 ∧ (b = true → 1 ≤ (pNum T sz s b).1.toInt) ∧ RS T f E e9 rd tx sz (pNum T sz s b).2 c')) := by
  refine Ct.intro hk hcX5_number (by decide +kernel) (Nat.le_of_ble_eq_true rfl) (fun φ h => ?_)
  have hq : pB T sz s.1 ≤ sz := pB_sz T hq1
  have hRN := hR.rn hq
  obtain ⟨hT, w, sg, nu, hc, -, hnu, -⟩ := hR
  have hk2 := rKd_2 hX.1 hq
  by_cases h2 : rKd T sz (pB T sz s.1) = 2
  case neg =>
    have hnd : ¬ sDigit (T (pB T sz s.1)) = true := fun z => h2 (hk2.mpr z)
    refine g_aload_n (i := 0) h dX5_number_0 rfl rfl ?_
    refine g_get h f_X5_47_5 hc rfl dX5_number_1 ?_
    refine g_getstatic h hE.1.2.2.1 q712 dX5_number_4 ?_
    refine g_acmp_eq (rx := some (E (rKd T sz (pB T sz s.1)))) (ry := some (E 2)) (tgt := 15) h dX5_number_7 (by decide) (fun b7 => absurd (hE.2.1 _ _ (rKd_lt T sz _) (by decide) (Option.some.inj b7)) h2) (fun b7 => ?_)
    refine g_aload_n (i := 0) h dX5_number_10 rfl rfl ?_
    refine g_invV h (ct_rwrong h.k hc hts) hcX5_wrong w_X5_117 rfl rfl hc (Nat.le_of_ble_eq_true rfl) ⟨Nat.le_of_ble_eq_true rfl, Nat.le_of_ble_eq_true rfl⟩ (by refine ⟨?_, ?_⟩ <;> ((try dsimp only); omega)) dX5_number_11 (gkr_ae (fun a c1 hP => ?_)) gkt_ae
    refine g_athrow h dX5_number_14 ?_
    refine gt_out h (fun q hq => by cases hq) ?_ (by (try dsimp only); omega) (by (try dsimp only); omega)
    exact ⟨fun b r e z _ _ => hP.2.2 b r e z, Or.inr (pTw.of (e := 1) (pl := nI (pB T sz s.1)) (by rw [pNum_bad h0 hnd]) (by rw [pNum_bad h0 hnd]) (by decide) hP.2.1)⟩
  have hd := hk2.mp h2
  have hnum := hnu h2
  have hcc := pCp_pDig T (sz - (pB T sz s.1)) (pB T sz s.1) 0 0 cpR_0
  rw [← hnum] at hcc
  have hcp := hcc.2
  have hns : ¬ sSmall (T (pB T sz s.1)) = true := fun z => by rw [(rKd_1 hX.1 hq).mpr z] at h2; cases h2
  have hlt : ¬ sz ≤ (pB T sz s.1) := fun z => by rw [hX.1.2 _ z (by have := hX.1.1; omega)] at hd; cases hd
  have hpe : rNx T sz (pB T sz s.1) = (pDig T (sz - (pB T sz s.1)) (pB T sz s.1) 0).1 := by
    unfold rNx
    rw [if_neg hlt, if_neg hns, if_pos hd, hcc.1]
  have ho1 : 1000000 < nu → pOut b (pDig T (sz - (pB T sz s.1)) (pB T sz s.1) 0).2 = true := fun z => by
    unfold pOut; rw [hcp.out, decide_eq_true z]; rfl
  have ho2 : ¬ 1000000 < nu → ¬ lst b ≤ nu → pOut b (pDig T (sz - (pB T sz s.1)) (pB T sz s.1) 0).2 = true := fun z1 z2 => by
    obtain ⟨hv, hv0, hv1⟩ := hcp.z z1
    have z3 := Int64.lt_iff_toInt_lt.mp (Int64.not_le.mp z2)
    rw [lst_v] at z3
    cases b with
    | false => exact absurd z3 (by simp; omega)
    | true =>
      simp only [if_true] at z3
      have e : nu = 0 := Int64.toInt_inj.mp (by rw [show (0 : Int64).toInt = 0 from by decide]; omega)
      unfold pOut; rw [hv, e]; rfl
  have ho3 : ¬ 1000000 < nu → lst b ≤ nu → pOut b (pDig T (sz - (pB T sz s.1)) (pB T sz s.1) 0).2 = false := fun z1 z2 => by
    obtain ⟨hv, hv0, hv1⟩ := hcp.z z1
    have z3 := Int64.le_iff_toInt_le.mp z2
    rw [lst_v] at z3
    unfold pOut; rw [hv, decide_eq_false z1]
    cases b with
    | false => rfl
    | true =>
      simp only [if_true] at z3
      have e : ¬ nu = 0 := fun q => by rw [q, show (0 : Int64).toInt = 0 from by decide] at z3; omega
      rw [decide_eq_false e]; rfl
  have X34 : pOut b (pDig T (sz - (pB T sz s.1)) (pB T sz s.1) 0).2 = true → G φ (gQ φ (pRl (pNum T sz s b).2 (rFr c) (fun r c' => r = (pNum T sz s b).1.toInt64 ∧ tOk (pNum T sz s b).1 ∧ (b = true → 1 ≤ (pNum T sz s b).1.toInt) ∧ RS T f E e9 rd tx sz (pNum T sz s b).2 c')) 4 32) 34 [(0, .ref rd), (1, .long (lst b)), (3, .long nu)] [] c 0 0 := by
    intro ho
    refine g_new h gFr n_X5_99 (by (try dsimp only); omega) (by (try dsimp only); omega) dX5_number_34 (fun a ha => ?_)
    have hax : rd ≠ a := fun z => by rw [← z, hc] at ha; cases ha
    refine g_dup h dX5_number_37 rfl ?_
    refine g_iconst (v := 2) h dX5_number_38 (by decide) ?_
    refine g_aload_n (i := 0) h dX5_number_39 rfl rfl ?_
    refine g_get h f_X5_31_5 (show va_up c a _ rd = _ by rw [va_up_n _ _ hax]; exact hc) rfl dX5_number_40 ?_
    refine g_invI h (ct_X7init h.k _ _ hts (va_up_s _ _ _)) w_X5_101 rfl rfl (Nat.le_of_ble_eq_true rfl) ⟨Nat.le_of_ble_eq_true rfl, Nat.le_of_ble_eq_true rfl⟩ (by refine ⟨?_, ?_⟩ <;> ((try dsimp only); omega)) dX5_number_43 (gkr_v (fun c1 hP => ?_)) gkt_v
    obtain ⟨u, s9, hP⟩ := hP
    rw [va_up_up] at hP
    have old : ∀ (b r : Nat) (e : va_E), c b = some (r, e) → c1 b = some (r, e) := fun b r e hb => by rw [hP, va_up_n _ _ (fun z => by rw [z, ha] at hb; cases hb)]; exact hb
    refine g_athrow h dX5_number_46 ?_
    refine gt_out h (fun q hq => by cases hq) ?_ (by (try dsimp only); omega) (by (try dsimp only); omega)
    have hf := pNum_out (b := b) h0 hd ho
    exact ⟨fun b r e z _ _ => old b r e z, Or.inr (pTw.of (e := 2) (pl := nI (pB T sz s.1)) (by rw [hf]) (by rw [hf]) (by decide) ⟨_, _, _, _, _, _, by rw [hP]; exact va_up_s _ _ _⟩)⟩
  refine g_aload_n (i := 0) h dX5_number_0 rfl rfl ?_
  refine g_get h f_X5_47_5 hc rfl dX5_number_1 ?_
  refine g_getstatic h hE.1.2.2.1 q712 dX5_number_4 ?_
  refine g_acmp_eq (rx := some (E (rKd T sz (pB T sz s.1)))) (ry := some (E 2)) (tgt := 15) h dX5_number_7 (by decide) (fun b7 => ?_) (fun b7 => absurd (by rw [h2]) b7)
  refine g_aload_n (i := 0) h dX5_number_15 rfl rfl ?_
  refine g_get h f_X5_67_5 hc rfl dX5_number_16 ?_
  refine g_lstore_n (i := 3) h dX5_number_19 rfl (by decide) ?_
  refine g_lload_n (i := 3) h dX5_number_20 rfl rfl ?_
  refine g_ldc2 (v := 1000000) h dX5_number_21 q852 ?_
  refine g_lcmp h dX5_number_24 ?_
  refine g_if_gt (tgt := 34) h dX5_number_25 (by decide) (fun b25 => ?_) (fun b25 => ?_)
  · rw [lg_cmp_gt] at b25
    exact G.to (X34 (by first | exact ho1 b25 | exact ho2 b25 b31)) ⟨rfl, rfl, rfl, trivial⟩
  · rw [lg_cmp_gt] at b25
    refine g_lload_n (i := 3) h dX5_number_28 rfl rfl ?_
    refine g_lload_n (i := 1) h dX5_number_29 rfl rfl ?_
    refine g_lcmp h dX5_number_30 ?_
    refine g_if_ge (tgt := 47) h dX5_number_31 (by decide) (fun b31 => ?_) (fun b31 => ?_)
    · rw [lg_cmp_ge] at b31
      refine g_aload_n (i := 0) h dX5_number_47 rfl rfl ?_
      refine g_invV h (ct_rgo h.k hX hs hE (hRN)) hcX5_go w_X5_25 rfl rfl (hRN).cell.choose_spec (Nat.le_of_ble_eq_true rfl) ⟨Nat.le_of_ble_eq_true rfl, Nat.le_of_ble_eq_true rfl⟩ (by refine ⟨?_, ?_⟩ <;> ((try dsimp only); omega)) dX5_number_48 (gkr_v (fun c1 hP => ?_)) gkt_v
      refine g_lload_n (i := 3) h dX5_number_51 rfl rfl ?_
      have hf := pNum_ok (b := b) h0 hd (ho3 b25 b31)
      obtain ⟨hv, hv0, hv1⟩ := hcp.z b25
      exact g_lret h ⟨hP.2, Or.inl ⟨by rw [hf]; exact h0, _, rfl, by rw [hf]; show _ = Int32.toInt64 (Int64.toInt32 _); rw [hv, l32 hv0 hv1], by rw [hf]; show tOk (Int64.toInt32 _); rw [hv]; exact tOk32 hv0 hv1, fun hb => by rw [hf]; show 1 ≤ (Int64.toInt32 _).toInt; rw [hv]; exact one32 hv0 hv1 (by have z := Int64.le_iff_toInt_le.mp b31; rw [lst_v, hb] at z; exact z), by rw [hf]; show RD T f E e9 rd tx sz (pB T sz (pDig T _ _ 0).1) _ c1; rw [← hpe]; exact hP.1⟩⟩ (by (try dsimp only); omega) (by (try dsimp only); omega) dX5_number_52
    · rw [lg_cmp_ge] at b31
      exact G.to (X34 (by first | exact ho1 b25 | exact ho2 b25 b31)) ⟨rfl, rfl, rfl, trivial⟩
theorem ct_ropens {l : Launch} {g : gGP} (hk : gK l g) {T f : Nat → Int32} {E : Nat → Nat} {c : gLH} {e9 rd tx sz : Nat} (hX : rTx T f sz) (hs : gSS g) (hE : rEnv g E e9 c) (hts : gTS g) {q o : Nat} {pl : Int32} {cs : List (Int32 × Int32)} (ho : o ≤ 10) (hq : q ≤ sz) (hR : RD T f E e9 rd tx sz q o c) : Ct l g yX5_opens hwX5_opens 8 320 [.ref rd] c (4) (32) (pRv (pOpens (q, 0, pl, o, cs)) (rFr c) (RD T f E e9 rd tx sz (pB T sz (rNx T sz q)) (o + 1))) := by
  refine Ct.intro hk hcX5_opens (by decide +kernel) (Nat.le_of_ble_eq_true rfl) (fun φ h => ?_)
  obtain ⟨hT, w, sg, nu, hc, -⟩ := hR
  have hw : rW c rd tx f c := ⟨fun a r e z _ => z, hT, fun z => by rw [z, hc] at hT; cases hT⟩
  refine g_aload_n (i := 0) h dX5_opens_0 rfl rfl ?_
  refine g_get h f_X5_226_5 hc rfl dX5_opens_1 ?_
  refine g_bipush (v := nI 10) h dX5_opens_4 (by decide) ?_
  refine g_icmp_ne (tgt := 22) h dX5_opens_6 (by decide) (fun b6 => ?_) (fun b6 => ?_)
  · have hf : pOpens (q, 0, pl, o, cs) = (q, 0, pl, o + 1, cs) := by unfold pOpens; rw [if_neg (show ¬ (q, 0, pl, o, cs).2.2.2.1 = 10 from fun z => b6 (by rw [show o = 10 from z]))]
    refine g_aload_n (i := 0) h dX5_opens_22 rfl rfl ?_
    refine g_dup h dX5_opens_23 rfl ?_
    refine g_get h f_X5_226_5 hc rfl dX5_opens_24 ?_
    refine g_iconst (v := nI 1) h dX5_opens_27 (by decide) ?_
    first | (with_reducible refine g_iaddN h dX5_opens_28 ?_) | refine g_iadd h dX5_opens_28 ?_
    refine r_put h fp_X5_226_5 hc hw (Nat.le_of_ble_eq_true rfl) rfl rfl dX5_opens_29 (fun c1 hc1 hw1 => ?_)
    have hfr : rFr c c1 := fun a r e z1 z2 z3 => hw1.1 a r e z1 (fun z => by subst z; rw [hc] at z1; cases z1; exact z2 rfl)
    replace hc := hc1
    replace hw := hw1
    refine g_aload_n (i := 0) h dX5_opens_32 rfl rfl ?_
    refine g_invV h (ct_rgo h.k hX hs (hE.mono hfr) ⟨hw.2.1, (rNx_le hq).2, _, _, _, _, _, hc⟩) hcX5_go w_X5_25 rfl rfl hc (Nat.le_of_ble_eq_true rfl) ⟨Nat.le_of_ble_eq_true rfl, Nat.le_of_ble_eq_true rfl⟩ (by refine ⟨?_, ?_⟩ <;> ((try dsimp only); omega)) dX5_opens_33 (gkr_v (fun c1 hP => ?_)) gkt_v
    exact g_vret h ⟨hfr.trans hP.2, Or.inl ⟨by rw [hf], rfl, hP.1⟩⟩ (by (try dsimp only); omega) (by (try dsimp only); omega) dX5_opens_36
  · have hf : pOpens (q, 0, pl, o, cs) = (q, 3, nI q, o, cs) := by unfold pOpens pWrong; rw [if_pos (show (q, 0, pl, o, cs).2.2.2.1 = 10 from nI_inj (a := o) (by omega) (by decide) b6)]; rfl
    refine g_new h gFr n_X5_99 (by (try dsimp only); omega) (by (try dsimp only); omega) dX5_opens_9 (fun a ha => ?_)
    have hax : rd ≠ a := fun z => by rw [← z, hc] at ha; cases ha
    refine g_dup h dX5_opens_12 rfl ?_
    refine g_iconst (v := 3) h dX5_opens_13 (by decide) ?_
    refine g_aload_n (i := 0) h dX5_opens_14 rfl rfl ?_
    refine g_get h f_X5_31_5 (show va_up c a _ rd = _ by rw [va_up_n _ _ hax]; exact hc) rfl dX5_opens_15 ?_
    refine g_invI h (ct_X7init h.k _ _ hts (va_up_s _ _ _)) w_X5_101 rfl rfl (Nat.le_of_ble_eq_true rfl) ⟨Nat.le_of_ble_eq_true rfl, Nat.le_of_ble_eq_true rfl⟩ (by refine ⟨?_, ?_⟩ <;> ((try dsimp only); omega)) dX5_opens_18 (gkr_v (fun c1 hP => ?_)) gkt_v
    obtain ⟨u, s9, hP⟩ := hP
    rw [va_up_up] at hP
    have old : ∀ (b r : Nat) (e : va_E), c b = some (r, e) → c1 b = some (r, e) := fun b r e hb => by rw [hP, va_up_n _ _ (fun z => by rw [z, ha] at hb; cases hb)]; exact hb
    refine g_athrow h dX5_opens_21 ?_
    refine gt_out h (fun q hq => by cases hq) ?_ (by (try dsimp only); omega) (by (try dsimp only); omega)
    exact ⟨fun b r e z _ _ => old b r e z, Or.inr (pTw.of (e := 3) (pl := nI q) (by rw [hf]) (by rw [hf]) (by decide) ⟨_, _, _, _, _, _, by rw [hP]; exact va_up_s _ _ _⟩)⟩
theorem rFr.up {c c' : gLH} (h : rFr c c') {a : Nat} {y : Option (Nat × va_E)} (ha : c' a = none) : rFr c (va_up c' a y) := fun b r e z1 z2 z3 => by
  have := h b r e z1 z2 z3
  rw [va_up_n _ _ (fun z => by rw [z, ha] at this; cases this)]
  exact this
theorem RD.up {T f : Nat → Int32} {E : Nat → Nat} {e9 rd tx sz q o : Nat} {c : gLH} (h : RD T f E e9 rd tx sz q o c) {a : Nat} {y : Option (Nat × va_E)} (ha : c a = none) : RD T f E e9 rd tx sz q o (va_up c a y) := by
  have k : ∀ (b : Nat) (z : Nat × va_E), c b = some z → va_up c a y b = some z := fun b z hb => by
    rw [va_up_n _ _ (fun q => by rw [q, ha] at hb; cases hb)]; exact hb
  obtain ⟨h1, w, sg, nu, h2, h3, h4, h5⟩ := h
  refine ⟨k _ _ h1, w, sg, nu, k _ _ h2, h3, h4, fun z => ?_⟩
  rcases h5 z with ⟨h8, v, f', k1, k2, k3⟩ | h8
  · exact Or.inl ⟨h8, v, f', k _ _ k1, k _ _ k2, k3⟩
  · exact Or.inr h8
/-- a cell new behind a reading was new ahead of it, or it is the reader's -/
def rNw (c : gLH) (a : Nat) : Prop := ∀ (r : Nat) (e : va_E), c a = some (r, e) → r = gRd ∨ r = gWr
theorem rNone {c c' : gLH} (h : rFr c c') {a : Nat} (ha : c' a = none) : rNw c a := fun r e z => by
  by_cases h1 : r = gRd
  · exact Or.inl h1
  · by_cases h2 : r = gWr
    · exact Or.inr h2
    · rw [h a r e z h1 h2] at ha; cases ha
theorem ct_rbit {l : Launch} {g : gGP} (hk : gK l g) {T f : Nat → Int32} {E : Nat → Nat} {c : gLH} {e9 rd tx sz : Nat} (hX : rTx T f sz) (hs : gSS g) (hE : rEnv g E e9 c) {nx o : Nat} (hN : RN f rd tx sz nx o c) (b : Int32) : Ct l g yX5_bit hwX5_bit 8 320 [.ref rd, .int b] c (5) (33) (pAe (fun a c' => rNw c a ∧ c' a = some (gT, .inr (18, [.int b])) ∧ RD T f E e9 rd tx sz (pB T sz nx) o c' ∧ rFr c c')) := by
  refine Ct.intro hk hcX5_bit (by decide +kernel) (Nat.le_of_ble_eq_true rfl) (fun φ h => ?_)
  refine g_aload_n (i := 0) h dX5_bit_0 rfl rfl ?_
  refine g_invV h (ct_rgo h.k hX hs hE (hN)) hcX5_go w_X5_25 rfl rfl (hN).cell.choose_spec (Nat.le_of_ble_eq_true rfl) ⟨Nat.le_of_ble_eq_true rfl, Nat.le_of_ble_eq_true rfl⟩ (by refine ⟨?_, ?_⟩ <;> ((try dsimp only); omega)) dX5_bit_1 (gkr_v (fun c1 hP => ?_)) gkt_v
  refine g_new h gT n_X5_274 (by (try dsimp only); omega) (by (try dsimp only); omega) dX5_bit_4 (fun a ha => ?_)
  refine g_dup h dX5_bit_7 rfl ?_
  refine g_iload_n (i := 1) h dX5_bit_8 rfl rfl ?_
  refine g_invI h (ct_X18init h.k b gT_lt (va_up_s _ _ _)) w_X5_276 rfl rfl (Nat.le_of_ble_eq_true rfl) ⟨Nat.le_of_ble_eq_true rfl, Nat.le_of_ble_eq_true rfl⟩ (by refine ⟨?_, ?_⟩ <;> ((try dsimp only); omega)) dX5_bit_9 (gkr_v (fun c2 hP2 => ?_)) gkt_v
  rw [va_up_up] at hP2
  exact g_aret h ⟨a, rfl, rNone hP.2 ha, by rw [hP2]; exact va_up_s _ _ _, by rw [hP2]; exact hP.1.up ha, by rw [hP2]; exact hP.2.up ha⟩ (by (try dsimp only); omega) (by (try dsimp only); omega) (Or.inl ⟨_, rfl⟩) dX5_bit_12
