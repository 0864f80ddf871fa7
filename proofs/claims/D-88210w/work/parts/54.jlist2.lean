/-! JDK: java.util.ArrayList, 2 -/
set_option maxRecDepth 100000
theorem gObj.up {c : gLH} {y b : Nat} {x : Option (Nat × va_E)} (h : gObj c y) (hne : y ≠ b) : gObj (va_up c b x) y := by
  obtain ⟨r, ci, vs, q, h1, h2, h3⟩ := h
  exact ⟨r, ci, vs, q, by rw [va_up_n _ _ hne]; exact h1, h2, h3⟩
theorem nI_sub1 (a b : Nat) : nI (a + b) - nI a = nI b := by rw [← nI_add, Int32.add_comm, Int32.add_sub_cancel]
theorem es_app (es : List Nat) (v : Nat) : va_up (fun i => es[i]?) es.length (some v) = fun i => (es ++ [v])[i]? := by
  funext i
  unfold va_up
  by_cases h : i = es.length
  · subst h; simp
  · rw [if_neg h]
    by_cases h2 : i < es.length
    · rw [List.getElem?_append_left h2]
    · show es[i]? = _
      rw [List.getElem?_eq_none (l := es) (by omega), List.getElem?_eq_none (l := es ++ [v]) (by simp; omega)]
theorem gFrm.refl (c : gLH) (a d : Nat) : gFrm c c a d := fun _ _ _ h _ _ => h
/-- what an element must be -/
abbrev gEls (c : gLH) (a : Nat) (es : List Nat) : Prop := ∀ y ∈ es, gObj c y ∧ y ≠ a
theorem ct_grow2 {l : Launch} {g : gGP} (hk : gK l g) {c : gLH} {a d cap ra rd : Nat} {es : List Nat} {m0 : Int32} (hra : ra < gSB) (hrd : rd < gSB) (hS : gLS g) (hc : c a = some (ra, .inr (31, [.int m0, .ref d, .int (nI es.length)]))) (hd : c d = some (rd, gRefs cap (fun i => es[i]?))) (hfull : es.length = cap) (h0 : 0 < cap) (hcap : cap ≤ 2000) (hel : gEls c a es) : Ct l g yJ2_grow_2 hwJ2_grow_2 3 120 [.ref a, .int (nI (cap + 1))] c (1) ((cap + max 1 (cap / 2))) (pAe (fun q c' => c q = none ∧ c' = va_up (va_up c q (some (rd, gRefs (cap + max 1 (cap / 2)) (fun i => es[i]?)))) a (some (ra, .inr (31, [.int m0, .ref q, .int (nI es.length)]))))) := by
  refine Ct.intro hk hcJ2_grow_2 (by decide +kernel) (Nat.le_of_ble_eq_true rfl) (fun φ h => ?_)
  refine g_aload_n (i := 0) h dJ2_grow_2_0 rfl rfl ?_
  refine g_get h f_J2_9_31 hc rfl dJ2_grow_2_1 ?_
  refine g_alen (k := 5) h (by decide) hd dJ2_grow_2_4 ?_
  refine g_istore_n (i := 2) h dJ2_grow_2_5 rfl (by decide) ?_
  refine g_iload_n (i := 2) h dJ2_grow_2_6 rfl rfl ?_
  refine g_if_gt (tgt := 20) h dJ2_grow_2_7 (by decide) (fun b7 => ?_) (fun _bz => absurd _bz (not_not_intro (Int32.not_le.mp (nI_nle h0 (by omega)))))
  refine g_iload_n (i := 2) h dJ2_grow_2_20 rfl rfl ?_
  refine g_iload_n (i := 1) h dJ2_grow_2_21 rfl rfl ?_
  refine g_iload_n (i := 2) h dJ2_grow_2_22 rfl rfl ?_
  refine g_isub h dJ2_grow_2_23 ?_
  refine G.int (nI_sub1 cap 1) ?_
  refine g_iload_n (i := 2) h dJ2_grow_2_24 rfl rfl ?_
  refine g_iconst (v := 1) h dJ2_grow_2_25 (by decide) ?_
  refine g_ishr h dJ2_grow_2_26 ?_
  refine G.int (shr1 (by omega)) ?_
  refine g_invS h (ct_newLen h.k h0 (by omega) (by omega) (by omega)) hcJ11_newLength w_J2_73 rfl rfl (Nat.le_of_ble_eq_true rfl) ⟨Nat.le_of_ble_eq_true rfl, Nat.le_of_ble_eq_true rfl⟩ (by refine ⟨?_, ?_⟩ <;> first | exact Nat.le_refl _ | exact Nat.zero_le _ | (dsimp only; omega)) dJ2_grow_2_27 (gkr_ip ?_) gkt_ip
  refine g_istore_n (i := 3) h dJ2_grow_2_30 rfl (by decide) ?_
  refine g_aload_n (i := 0) h dJ2_grow_2_31 rfl rfl ?_
  refine g_aload_n (i := 0) h dJ2_grow_2_32 rfl rfl ?_
  refine g_get h f_J2_9_31 hc rfl dJ2_grow_2_33 ?_
  refine g_iload_n (i := 3) h dJ2_grow_2_36 rfl rfl ?_
  refine g_invS h (ct_copyOf2 h.k rd hrd hS hd (fun y hy => (hel y hy).1) hfull (n := (cap + max 1 (cap / 2))) (by omega) (by omega)) hcJ13_copyOf_2 w_J2_66 rfl rfl (Nat.le_of_ble_eq_true rfl) ⟨Nat.le_of_ble_eq_true rfl, Nat.le_of_ble_eq_true rfl⟩ (by refine ⟨?_, ?_⟩ <;> (dsimp only; omega)) dJ2_grow_2_37 (gkr_ae (fun q c1 hq => ?_)) gkt_ae
  obtain ⟨hq, rfl⟩ := hq
  refine g_dup_x1 h dJ2_grow_2_40 rfl rfl ?_
  refine g_put h fp_J2_9_31 (by rw [va_up_n _ _ (fun e => by rw [e, hq] at hc; cases hc)]; exact hc) hra (Nat.le_of_ble_eq_true rfl) rfl rfl dJ2_grow_2_41 ?_
  exact g_aret h ⟨_, rfl, hq, rfl⟩ (by omega) (by omega) (Or.inr ⟨_, rfl⟩) dJ2_grow_2_44
theorem ct_grow {l : Launch} {g : gGP} (hk : gK l g) {c : gLH} {a d cap ra rd : Nat} {es : List Nat} {m0 : Int32} (hra : ra < gSB) (hrd : rd < gSB) (hS : gLS g) (hc : c a = some (ra, .inr (31, [.int m0, .ref d, .int (nI es.length)]))) (hd : c d = some (rd, gRefs cap (fun i => es[i]?))) (hfull : es.length = cap) (h0 : 0 < cap) (hcap : cap ≤ 2000) (hel : gEls c a es) : Ct l g yJ2_grow hwJ2_grow 4 160 [.ref a] c (1) ((cap + max 1 (cap / 2))) (pAe (fun q c' => c q = none ∧ c' = va_up (va_up c q (some (rd, gRefs (cap + max 1 (cap / 2)) (fun i => es[i]?)))) a (some (ra, .inr (31, [.int m0, .ref q, .int (nI es.length)]))))) := by
  refine Ct.intro hk hcJ2_grow (by decide +kernel) (Nat.le_of_ble_eq_true rfl) (fun φ h => ?_)
  refine g_aload_n (i := 0) h dJ2_grow_0 rfl rfl ?_
  refine g_aload_n (i := 0) h dJ2_grow_1 rfl rfl ?_
  refine g_get h f_J2_48_31 hc rfl dJ2_grow_2 ?_
  refine G.int (congrArg nI hfull) ?_
  refine g_iconst (v := nI 1) h dJ2_grow_5 (by decide) ?_
  first | (with_reducible refine g_iaddN h dJ2_grow_6 ?_) | refine g_iadd h dJ2_grow_6 ?_
  refine g_invV h (ct_grow2 h.k hra hrd hS hc hd hfull h0 hcap hel) hcJ2_grow_2 w_J2_69 rfl rfl hc (Nat.le_of_ble_eq_true rfl) ⟨Nat.le_of_ble_eq_true rfl, Nat.le_of_ble_eq_true rfl⟩ (by refine ⟨?_, ?_⟩ <;> (dsimp only; omega)) dJ2_grow_7 (gkr_ae (fun q c1 hq => ?_)) gkt_ae
  exact g_aret h ⟨_, rfl, hq⟩ (by omega) (by omega) (Or.inr ⟨_, rfl⟩) dJ2_grow_10
theorem ct_add2 {l : Launch} {g : gGP} (hk : gK l g) {c : gLH} {a d cap ra rd v : Nat} {es : List Nat} (hra : ra < gSB) (hrd : rd < gSB) (hS : gLS g) (hL : gAL c a d cap ra rd es) (h0 : 0 < cap) (hn2 : es.length ≤ 2000) (hel : gEls c a es) (hv : gObj c v) (hva : v ≠ a) (mc ms : Nat) (hcost : es.length = cap → 1 ≤ mc ∧ cap + cap / 2 + 1 ≤ ms) : Ct l g yJ2_add_2 hwJ2_add_2 5 200 [.ref a, .ref v, .ref d, .int (nI es.length)] c (mc) (ms) (pV (fun c' => ∃ d' cap', gAL c' a d' cap' ra rd (es ++ [v]) ∧ 0 < cap' ∧ (d' = d ∨ c d' = none) ∧ gFrm c c' a d)) := by
  refine Ct.intro hk hcJ2_add_2 (by decide +kernel) (Nat.le_of_ble_eq_true rfl) (fun φ h => ?_)
  obtain ⟨⟨m0, hc⟩, hd, hle, hcap⟩ := hL
  have J : ∀ (c1 : gLH) (d1 cap1 : Nat) (m1 : Int32) (ce sl : Nat), ce ≤ mc → sl ≤ ms → c1 a = some (ra, .inr (31, [.int m1, .ref d1, .int (nI es.length)])) → c1 d1 = some (rd, gRefs cap1 (fun i => es[i]?)) → es.length < cap1 → cap1 ≤ 4000 → gObj c1 v → (d1 = d ∨ c d1 = none) → gFrm c c1 a d → G φ (gQ φ (pV (fun c' => ∃ d' cap', gAL c' a d' cap' ra rd (es ++ [v]) ∧ 0 < cap' ∧ (d' = d ∨ c d' = none) ∧ gFrm c c' a d)) mc ms) 11 [(0, .ref a), (1, .ref v), (2, .ref d1), (3, .int (nI es.length))] [] c1 ce sl := by
    intro c1 d1 cap1 m1 ce sl hm1 hm2 hc1 hd1 hlt hcap1 hv1 hdd hfr
    have hne : a ≠ d1 := fun e => by rw [e, hd1] at hc1; cases hc1
    refine g_aload_n (i := 2) h dJ2_add_2_11 rfl rfl ?_
    refine g_iload_n (i := 3) h dJ2_add_2_12 rfl rfl ?_
    refine g_aload_n (i := 1) h dJ2_add_2_13 rfl rfl ?_
    refine g_aast h hd1 hrd hlt (by omega) hv1 dJ2_add_2_14 ?_
    refine g_aload_n (i := 0) h dJ2_add_2_15 rfl rfl ?_
    refine g_iload_n (i := 3) h dJ2_add_2_16 rfl rfl ?_
    refine g_iconst (v := nI 1) h dJ2_add_2_17 (by decide) ?_
    first | (with_reducible refine g_iaddN h dJ2_add_2_18 ?_) | refine g_iadd h dJ2_add_2_18 ?_
    refine g_put h fp_J2_48_31 (by rw [va_up_n _ _ hne]; exact hc1) hra (Nat.le_of_ble_eq_true rfl) rfl rfl dJ2_add_2_19 ?_
    exact g_vret h ⟨rfl, d1, cap1, ⟨⟨m1, by rw [va_up_s]; simp⟩, by rw [va_up_n _ _ (Ne.symm hne), va_up_s, es_app], by simp; omega, hcap1⟩, by omega, hdd, fun b r e hb hba hbd => by rw [va_up_n _ _ hba, va_up_n _ _ (fun q => by subst q; rcases hdd with q | q; exact hbd q; rw [q] at hb; cases hb)]; exact hfr b r e hb hba hbd⟩ hm1 hm2 dJ2_add_2_22
  by_cases hfull : es.length = cap
  · obtain ⟨k1, k2⟩ := hcost hfull
    refine g_iload_n (i := 3) h dJ2_add_2_0 rfl rfl ?_
    refine g_aload_n (i := 2) h dJ2_add_2_1 rfl rfl ?_
    refine g_alen (k := 5) h (by decide) hd dJ2_add_2_2 ?_
    refine g_icmp_ne (tgt := 11) h dJ2_add_2_3 (by decide) (fun _bz => absurd _bz (not_not_intro (congrArg nI hfull))) (fun b3 => ?_)
    refine g_aload_n (i := 0) h dJ2_add_2_6 rfl rfl ?_
    refine g_invV h (ct_grow h.k hra hrd hS hc hd hfull h0 (by omega) hel) hcJ2_grow w_J2_129 rfl rfl hc (Nat.le_of_ble_eq_true rfl) ⟨Nat.le_of_ble_eq_true rfl, Nat.le_of_ble_eq_true rfl⟩ (by refine ⟨?_, ?_⟩ <;> (dsimp only; omega)) dJ2_add_2_7 (gkr_ae (fun q c1 hq => ?_)) gkt_ae
    obtain ⟨hq, rfl⟩ := hq
    refine g_astore_n (i := 2) h dJ2_add_2_10 rfl (by decide) ?_
    exact G.to (J _ q (cap + max 1 (cap / 2)) m0 _ _ (by omega) (by omega) (va_up_s _ _ _) (by rw [va_up_n _ _ (fun e => by rw [e, hc] at hq; cases hq), va_up_s]) (by omega) (by omega) ((hv.up (fun e => by obtain ⟨r, ci, vs, w, k1, -⟩ := hv; rw [e, hq] at k1; cases k1)).up hva) (Or.inr hq) (fun b r e hb hba hbd => by rw [va_up_n _ _ hba, va_up_n _ _ (fun z => by rw [z, hq] at hb; cases hb)]; exact hb)) ⟨rfl, rfl, rfl, rfl, trivial⟩
  · skip
    refine g_iload_n (i := 3) h dJ2_add_2_0 rfl rfl ?_
    refine g_aload_n (i := 2) h dJ2_add_2_1 rfl rfl ?_
    refine g_alen (k := 5) h (by decide) hd dJ2_add_2_2 ?_
    refine g_icmp_ne (tgt := 11) h dJ2_add_2_3 (by decide) (fun b3 => ?_) (fun _bz => absurd _bz (fun q => hfull ((nI_eq (by omega) (by omega)).mp q)))
    exact G.to (J c d cap m0 0 0 (Nat.zero_le _) (Nat.zero_le _) hc hd (by omega) hcap hv (Or.inl rfl) (gFrm.refl _ _ _)) ⟨rfl, rfl, rfl, rfl, trivial⟩
theorem ct_ladd {l : Launch} {g : gGP} (hk : gK l g) {c : gLH} {a d cap ra rd v : Nat} {es : List Nat} (hra : ra < gSB) (hrd : rd < gSB) (hS : gLS g) (hL : gAL c a d cap ra rd es) (h0 : 0 < cap) (hn2 : es.length ≤ 2000) (hel : gEls c a es) (hv : gObj c v) (hva : v ≠ a) (mc ms : Nat) (hcost : es.length = cap → 1 ≤ mc ∧ cap + cap / 2 + 1 ≤ ms) : Ct l g yJ2_add hwJ2_add 6 240 [.ref a, .ref v] c (mc) (ms) (pI 1 (fun c' => ∃ d' cap', gAL c' a d' cap' ra rd (es ++ [v]) ∧ 0 < cap' ∧ (d' = d ∨ c d' = none) ∧ gFrm c c' a d)) := by
  refine Ct.intro hk hcJ2_add (by decide +kernel) (Nat.le_of_ble_eq_true rfl) (fun φ h => ?_)
  have hne := hL.ne
  obtain ⟨⟨m0, hc⟩, hd, hle, hcap⟩ := hL
  refine g_aload_n (i := 0) h dJ2_add_0 rfl rfl ?_
  refine g_dup h dJ2_add_1 rfl ?_
  refine g_get h f_J2_63_31 hc rfl dJ2_add_2 ?_
  refine g_iconst (v := 1) h dJ2_add_5 (by decide) ?_
  first | (with_reducible refine g_iaddN h dJ2_add_6 ?_) | refine g_iadd h dJ2_add_6 ?_
  refine g_put h fp_J2_63_31 hc hra (Nat.le_of_ble_eq_true rfl) rfl rfl dJ2_add_7 ?_
  refine g_aload_n (i := 0) h dJ2_add_10 rfl rfl ?_
  refine g_aload_n (i := 1) h dJ2_add_11 rfl rfl ?_
  refine g_aload_n (i := 0) h dJ2_add_12 rfl rfl ?_
  refine g_get h f_J2_9_31 (va_up_s _ _ _) rfl dJ2_add_13 ?_
  refine g_aload_n (i := 0) h dJ2_add_16 rfl rfl ?_
  refine g_get h f_J2_48_31 (va_up_s _ _ _) rfl dJ2_add_17 ?_
  refine g_invV h (ct_add2 h.k hra hrd hS ⟨⟨_, va_up_s _ _ _⟩, by rw [va_up_n _ _ (Ne.symm hne)]; exact hd, hle, hcap⟩ h0 hn2 (fun y hy => ⟨(hel y hy).1.up (hel y hy).2, (hel y hy).2⟩) (hv.up hva) hva mc ms hcost) hcJ2_add_2 w_J2_131 rfl rfl (va_up_s _ _ _) (Nat.le_of_ble_eq_true rfl) ⟨Nat.le_of_ble_eq_true rfl, Nat.le_of_ble_eq_true rfl⟩ (by refine ⟨?_, ?_⟩ <;> (dsimp only; omega)) dJ2_add_20 (gkr_v (fun c' hP => ?_)) gkt_v
  refine g_iconst (v := 1) h dJ2_add_23 (by decide) ?_
  obtain ⟨d', cap', k1, k2, k3, k4⟩ := hP
  exact g_zret h ⟨rfl, d', cap', k1, k2, k3.imp id (fun e => by by_cases q : d' = a; subst q; rw [va_up_s] at e; cases e; rw [va_up_n _ _ q] at e; exact e), fun b r e hb hba hbd => k4 b r e (by rw [va_up_n _ _ hba]; exact hb) hba hbd⟩ (by omega) (by omega) rfl dJ2_add_24
theorem ct_acInit {l : Launch} {g : gGP} (hk : gK l g) {c : gLH} {a : Nat} : Ct l g yJ0_init hwJ0_init 1 40 [.ref a] c (0) (0) (pVp c) := by
  refine Ct.intro hk hcJ0_init (by decide +kernel) (Nat.le_of_ble_eq_true rfl) (fun φ h => ?_)
  refine g_aload_n (i := 0) h dJ0_init_0 rfl rfl ?_
  refine g_objInit h q137 ⟨Nat.le_of_ble_eq_true rfl, Nat.le_of_ble_eq_true rfl⟩ (Nat.le_of_ble_eq_true rfl) dJ0_init_1 ?_
  exact g_vret h ⟨rfl, rfl⟩ (Nat.le_refl _) (Nat.le_refl _) dJ0_init_4
theorem ct_alInit {l : Launch} {g : gGP} (hk : gK l g) {c : gLH} {a ra : Nat} {x y z : Value} (hra : ra < gSB) (hc : c a = some (ra, .inr (31, [x, y, z]))) : Ct l g yJ1_init hwJ1_init 2 80 [.ref a] c (0) (0) (pV (fun c' => c' = va_up c a (some (ra, .inr (31, [.int 0, y, z]))))) := by
  refine Ct.intro hk hcJ1_init (by decide +kernel) (Nat.le_of_ble_eq_true rfl) (fun φ h => ?_)
  refine g_aload_n (i := 0) h dJ1_init_0 rfl rfl ?_
  refine g_invI h (ct_acInit h.k) w_J1_1 rfl rfl (Nat.le_of_ble_eq_true rfl) ⟨Nat.le_of_ble_eq_true rfl, Nat.le_of_ble_eq_true rfl⟩ (by refine ⟨?_, ?_⟩ <;> first | exact Nat.le_refl _ | exact Nat.zero_le _ | (dsimp only; omega)) dJ1_init_1 (gkr_vp ?_) gkt_vp
  refine g_aload_n (i := 0) h dJ1_init_4 rfl rfl ?_
  refine g_iconst (v := 0) h dJ1_init_5 (by decide) ?_
  refine g_put h fp_J1_7_31 hc hra (Nat.le_of_ble_eq_true rfl) rfl rfl dJ1_init_6 ?_
  exact g_vret h ⟨rfl, rfl⟩ (Nat.le_refl _) (Nat.le_refl _) dJ1_init_9
theorem ct_lnew {l : Launch} {g : gGP} (hk : gK l g) {c : gLH} {a ra n : Nat} (rd : Nat) (hra : ra < gSB) (hS : gLS g) (hc : c a = some (ra, .inr (31, [.int 0, .null, .int 0]))) (h0 : 0 < n) (hn : n ≤ 4000) : Ct l g yJ2_init hwJ2_init 3 120 [.ref a, .int (nI n)] c (1) (n) (pV (fun c' => ∃ d, c d = none ∧ gAL c' a d n ra rd [] ∧ gFrm c c' a d)) := by
  refine Ct.intro hk hcJ2_init (by decide +kernel) (Nat.le_of_ble_eq_true rfl) (fun φ h => ?_)
  refine g_aload_n (i := 0) h dJ2_init_0 rfl rfl ?_
  refine g_invI h (ct_alInit h.k hra hc) w_J2_1 rfl rfl (Nat.le_of_ble_eq_true rfl) ⟨Nat.le_of_ble_eq_true rfl, Nat.le_of_ble_eq_true rfl⟩ (by refine ⟨?_, ?_⟩ <;> first | exact Nat.le_refl _ | exact Nat.zero_le _ | (dsimp only; omega)) dJ2_init_1 (gkr_v (fun c1 hc1 => ?_)) gkt_v
  subst hc1
  refine g_iload_n (i := 1) h dJ2_init_4 rfl rfl ?_
  refine g_if_le (tgt := 19) h dJ2_init_5 (by decide) (fun _bz => absurd _bz (nI_nle h0 (by omega))) (fun b5 => ?_)
  refine g_aload_n (i := 0) h dJ2_init_8 rfl rfl ?_
  refine g_iload_n (i := 1) h dJ2_init_9 rfl rfl ?_
  refine g_anew h hS.1 rd q138 (by omega) (by show 0 + 1 ≤ 1; omega) (by show 0 + n ≤ n; omega) dJ2_init_10 (fun q hq => ?_)
  have hqa : a ≠ q := fun e => by rw [← e, va_up_s] at hq; cases hq
  refine g_put h fp_J2_9_31 (by rw [va_up_n _ _ hqa, va_up_s]) hra (Nat.le_of_ble_eq_true rfl) rfl rfl dJ2_init_13 ?_
  refine g_goto (tgt := 60) h dJ2_init_16 (by decide) ?_
  exact g_vret h ⟨rfl, q, by rw [va_up_n _ _ (Ne.symm hqa)] at hq; exact hq, ⟨⟨0, va_up_s _ _ _⟩, by rw [va_up_n _ _ (Ne.symm hqa), va_up_s]; rfl, Nat.zero_le _, hn⟩, fun b r e hb hba hbd => by rw [va_up_n _ _ hba, va_up_n _ _ hbd, va_up_n _ _ hba]; exact hb⟩ (by omega) (by omega) dJ2_init_60
