/-! THE READER: lists, trees, progress -/
set_option maxRecDepth 100000
theorem ct_add2c {l : Launch} {g : gGP} (hk : gK l g) {c : gLH} {a d cap ra rd v : Nat} {es : List Nat} (hra : ra < gSB) (hrd : rd < gSB) (hS : gLS g) (hL : gAL c a d cap ra rd es) (h0 : 0 < cap) (hn2 : es.length ≤ 2000) (hel : gEls c a es) (hv : gObj c v) (hva : v ≠ a) (mc ms : Nat) (hcost : es.length = cap → 1 ≤ mc ∧ cap + cap / 2 + 1 ≤ ms) : Ct l g yJ2_add_2 hwJ2_add_2 5 200 [.ref a, .ref v, .ref d, .int (nI es.length)] c (mc) (ms) (pV (fun c' => ∃ d' cap', gAL c' a d' cap' ra rd (es ++ [v]) ∧ 0 < cap' ∧ (d' = d ∨ c d' = none) ∧ gFrm c c' a d ∧ (cap' = cap ∨ (es.length = cap ∧ cap' = cap + max 1 (cap / 2))))) := by
  refine Ct.intro hk hcJ2_add_2 (by decide +kernel) (Nat.le_of_ble_eq_true rfl) (fun φ h => ?_)
  obtain ⟨⟨m0, hc⟩, hd, hle, hcap⟩ := hL
  have J : ∀ (c1 : gLH) (d1 cap1 : Nat) (m1 : Int32) (ce sl : Nat), ce ≤ mc → sl ≤ ms → c1 a = some (ra, .inr (31, [.int m1, .ref d1, .int (nI es.length)])) → c1 d1 = some (rd, gRefs cap1 (fun i => es[i]?)) → es.length < cap1 → cap1 ≤ 4000 → gObj c1 v → (d1 = d ∨ c d1 = none) → gFrm c c1 a d → (cap1 = cap ∨ (es.length = cap ∧ cap1 = cap + max 1 (cap / 2))) → G φ (gQ φ (pV (fun c' => ∃ d' cap', gAL c' a d' cap' ra rd (es ++ [v]) ∧ 0 < cap' ∧ (d' = d ∨ c d' = none) ∧ gFrm c c' a d ∧ (cap' = cap ∨ (es.length = cap ∧ cap' = cap + max 1 (cap / 2))))) mc ms) 11 [(0, .ref a), (1, .ref v), (2, .ref d1), (3, .int (nI es.length))] [] c1 ce sl := by
    intro c1 d1 cap1 m1 ce sl hm1 hm2 hc1 hd1 hlt hcap1 hv1 hdd hfr hrl
    have hne : a ≠ d1 := fun e => by rw [e, hd1] at hc1; cases hc1
    refine g_aload_n (i := 2) h dJ2_add_2_11 rfl rfl ?_
    refine g_iload_n (i := 3) h dJ2_add_2_12 rfl rfl ?_
    refine g_aload_n (i := 1) h dJ2_add_2_13 rfl rfl ?_
    refine g_aast h hd1 hrd hlt (by omega) hv1 dJ2_add_2_14 ?_
    refine g_aload_n (i := 0) h dJ2_add_2_15 rfl rfl ?_
    refine g_iload_n (i := 3) h dJ2_add_2_16 rfl rfl ?_
    refine g_iconst (v := nI 1) h dJ2_add_2_17 (by decide) ?_
    first | (with_reducible refine g_iaddN h dJ2_add_2_18 ?_) | refine g_iadd h dJ2_add_2_18 ?_
    refine g_put h fp_J2_48_31 (by rw [va_up_n _ _ hne]; exact hc1) hra (Nat.le_of_ble_eq_true rfl) rfl rfl dJ2_add_2_19 ?_
    exact g_vret h ⟨rfl, d1, cap1, ⟨⟨m1, by rw [va_up_s]; simp⟩, by rw [va_up_n _ _ (Ne.symm hne), va_up_s, es_app], by simp; omega, hcap1⟩, by omega, hdd, fun b r e hb hba hbd => by rw [va_up_n _ _ hba, va_up_n _ _ (fun q => by subst q; rcases hdd with q | q; exact hbd q; rw [q] at hb; cases hb)]; exact hfr b r e hb hba hbd, hrl⟩ hm1 hm2 dJ2_add_2_22
  by_cases hfull : es.length = cap
  · obtain ⟨k1, k2⟩ := hcost hfull
    refine g_iload_n (i := 3) h dJ2_add_2_0 rfl rfl ?_
    refine g_aload_n (i := 2) h dJ2_add_2_1 rfl rfl ?_
    refine g_alen (k := 5) h (by decide) hd dJ2_add_2_2 ?_
    refine g_icmp_ne (tgt := 11) h dJ2_add_2_3 (by decide) (fun _bz => absurd _bz (not_not_intro (congrArg nI hfull))) (fun b3 => ?_)
    refine g_aload_n (i := 0) h dJ2_add_2_6 rfl rfl ?_
    refine g_invV h (ct_grow h.k hra hrd hS hc hd hfull h0 (by omega) hel) hcJ2_grow w_J2_129 rfl rfl hc (Nat.le_of_ble_eq_true rfl) ⟨Nat.le_of_ble_eq_true rfl, Nat.le_of_ble_eq_true rfl⟩ (by refine ⟨?_, ?_⟩ <;> (dsimp only; omega)) dJ2_add_2_7 (gkr_ae (fun q c1 hq => ?_)) gkt_ae
    obtain ⟨hq, rfl⟩ := hq
    refine g_astore_n (i := 2) h dJ2_add_2_10 rfl (by decide) ?_
    exact G.to (J _ q (cap + max 1 (cap / 2)) m0 _ _ (by omega) (by omega) (va_up_s _ _ _) (by rw [va_up_n _ _ (fun e => by rw [e, hc] at hq; cases hq), va_up_s]) (by omega) (by omega) ((hv.up (fun e => by obtain ⟨r, ci, vs, w, k1, -⟩ := hv; rw [e, hq] at k1; cases k1)).up hva) (Or.inr hq) (fun b r e hb hba hbd => by rw [va_up_n _ _ hba, va_up_n _ _ (fun z => by rw [z, hq] at hb; cases hb)]; exact hb) (Or.inr ⟨hfull, rfl⟩)) ⟨rfl, rfl, rfl, rfl, trivial⟩
  · skip
    refine g_iload_n (i := 3) h dJ2_add_2_0 rfl rfl ?_
    refine g_aload_n (i := 2) h dJ2_add_2_1 rfl rfl ?_
    refine g_alen (k := 5) h (by decide) hd dJ2_add_2_2 ?_
    refine g_icmp_ne (tgt := 11) h dJ2_add_2_3 (by decide) (fun b3 => ?_) (fun _bz => absurd _bz (fun q => hfull ((nI_eq (by omega) (by omega)).mp q)))
    exact G.to (J c d cap m0 0 0 (Nat.zero_le _) (Nat.zero_le _) hc hd (by omega) hcap hv (Or.inl rfl) (gFrm.refl _ _ _) (Or.inl rfl)) ⟨rfl, rfl, rfl, rfl, trivial⟩
theorem ct_laddc {l : Launch} {g : gGP} (hk : gK l g) {c : gLH} {a d cap ra rd v : Nat} {es : List Nat} (hra : ra < gSB) (hrd : rd < gSB) (hS : gLS g) (hL : gAL c a d cap ra rd es) (h0 : 0 < cap) (hn2 : es.length ≤ 2000) (hel : gEls c a es) (hv : gObj c v) (hva : v ≠ a) (mc ms : Nat) (hcost : es.length = cap → 1 ≤ mc ∧ cap + cap / 2 + 1 ≤ ms) : Ct l g yJ2_add hwJ2_add 6 240 [.ref a, .ref v] c (mc) (ms) (pI 1 (fun c' => ∃ d' cap', gAL c' a d' cap' ra rd (es ++ [v]) ∧ 0 < cap' ∧ (d' = d ∨ c d' = none) ∧ gFrm c c' a d ∧ (cap' = cap ∨ (es.length = cap ∧ cap' = cap + max 1 (cap / 2))))) := by
  refine Ct.intro hk hcJ2_add (by decide +kernel) (Nat.le_of_ble_eq_true rfl) (fun φ h => ?_)
  have hne := hL.ne
  obtain ⟨⟨m0, hc⟩, hd, hle, hcap⟩ := hL
  refine g_aload_n (i := 0) h dJ2_add_0 rfl rfl ?_
  refine g_dup h dJ2_add_1 rfl ?_
  refine g_get h f_J2_63_31 hc rfl dJ2_add_2 ?_
  refine g_iconst (v := 1) h dJ2_add_5 (by decide) ?_
  first | (with_reducible refine g_iaddN h dJ2_add_6 ?_) | refine g_iadd h dJ2_add_6 ?_
  refine g_put h fp_J2_63_31 hc hra (Nat.le_of_ble_eq_true rfl) rfl rfl dJ2_add_7 ?_
  refine g_aload_n (i := 0) h dJ2_add_10 rfl rfl ?_
  refine g_aload_n (i := 1) h dJ2_add_11 rfl rfl ?_
  refine g_aload_n (i := 0) h dJ2_add_12 rfl rfl ?_
  refine g_get h f_J2_9_31 (va_up_s _ _ _) rfl dJ2_add_13 ?_
  refine g_aload_n (i := 0) h dJ2_add_16 rfl rfl ?_
  refine g_get h f_J2_48_31 (va_up_s _ _ _) rfl dJ2_add_17 ?_
  refine g_invV h (ct_add2c h.k hra hrd hS ⟨⟨_, va_up_s _ _ _⟩, by rw [va_up_n _ _ (Ne.symm hne)]; exact hd, hle, hcap⟩ h0 hn2 (fun y hy => ⟨(hel y hy).1.up (hel y hy).2, (hel y hy).2⟩) (hv.up hva) hva mc ms hcost) hcJ2_add_2 w_J2_131 rfl rfl (va_up_s _ _ _) (Nat.le_of_ble_eq_true rfl) ⟨Nat.le_of_ble_eq_true rfl, Nat.le_of_ble_eq_true rfl⟩ (by refine ⟨?_, ?_⟩ <;> (dsimp only; omega)) dJ2_add_20 (gkr_v (fun c' hP => ?_)) gkt_v
  refine g_iconst (v := 1) h dJ2_add_23 (by decide) ?_
  obtain ⟨d', cap', k1, k2, k3, k4, k5⟩ := hP
  exact g_zret h ⟨rfl, d', cap', k1, k2, k3.imp id (fun e => by by_cases q : d' = a; subst q; rw [va_up_s] at e; cases e; rw [va_up_n _ _ q] at e; exact e), fun b r e hb hba hbd => k4 b r e (by rw [va_up_n _ _ hba]; exact hb) hba hbd, k5⟩ (by omega) (by omega) rfl dJ2_add_24
theorem TR_deep {c : gLH} : ∀ (d a : Nat) (m : (Nat → Int32) → Bool), TR c d a m → TR c (d + 1) a m := by
  intro d
  induction d with
  | zero => intro a m h; exact h.elim
  | succ d ih =>
    rintro a m ⟨r, h | h | h | h | h | h | h⟩
    · obtain ⟨q, dq, cap, ra, rd, es, ms, h1, h2, h3, h4⟩ := h
      exact ⟨r, Or.inl ⟨q, dq, cap, ra, rd, es, ms, h1, h2, fun j x hx => ih _ _ (h3 j x hx), h4⟩⟩
    · obtain ⟨q, dq, cap, ra, rd, es, ms, h1, h2, h3, h4⟩ := h
      exact ⟨r, Or.inr (Or.inl ⟨q, dq, cap, ra, rd, es, ms, h1, h2, fun j x hx => ih _ _ (h3 j x hx), h4⟩)⟩
    · obtain ⟨q, m1, h1, h2, h3⟩ := h
      exact ⟨r, Or.inr (Or.inr (Or.inl ⟨q, m1, h1, ih _ _ h2, h3⟩))⟩
    · exact ⟨r, Or.inr (Or.inr (Or.inr (Or.inl h)))⟩
    · exact ⟨r, Or.inr (Or.inr (Or.inr (Or.inr (Or.inl h))))⟩
    · exact ⟨r, Or.inr (Or.inr (Or.inr (Or.inr (Or.inr (Or.inl h)))))⟩
    · exact ⟨r, Or.inr (Or.inr (Or.inr (Or.inr (Or.inr (Or.inr h)))))⟩
theorem TR_le {c : gLH} {d e a : Nat} {m : (Nat → Int32) → Bool} (h : TR c d a m) (hd : d ≤ e) : TR c e a m := by
  induction hd with
  | refl => exact h
  | step _ ih => exact TR_deep _ _ _ ih
theorem TR_obj {c : gLH} {d a : Nat} {m : (Nat → Int32) → Bool} (h : TR c d a m) : ∃ (r ci : Nat) (vs : List Value) (q : vw_C), c a = some (r, .inr (ci, vs)) ∧ gcl[ci]? = some q ∧ Cond.castable q.1 "java/lang/Object" ∈ lw_tbl := by
  cases d with
  | zero => exact h.elim
  | succ d =>
    obtain ⟨r, h | h | h | h | h | h | h⟩ := h
    · obtain ⟨q, dq, cap, ra, rd, es, ms, h1, -⟩ := h
      exact ⟨r, 15, _, _, h1, rfl, q2272⟩
    · obtain ⟨q, dq, cap, ra, rd, es, ms, h1, -⟩ := h
      exact ⟨r, 16, _, _, h1, rfl, q2273⟩
    · obtain ⟨q, m1, h1, -⟩ := h
      exact ⟨r, 17, _, _, h1, rfl, q2274⟩
    · obtain ⟨b, h1, -⟩ := h
      exact ⟨r, 18, _, _, h1, rfl, q2276⟩
    · obtain ⟨h1, -⟩ := h
      exact ⟨r, 19, _, _, h1, rfl, q2277⟩
    · obtain ⟨w, s, n, h1, -⟩ := h
      exact ⟨r, 20, _, _, h1, rfl, q2278⟩
    · obtain ⟨k, h1, -⟩ := h
      exact ⟨r, 21, _, _, h1, rfl, q2279⟩
theorem gObj_sub {c c' : gLH} (hs : gSub c c') {a : Nat} (h : gObj c a) : gObj c' a := by
  obtain ⟨r, ci, vs, q, h1, h2, h3⟩ := h
  exact ⟨r, ci, vs, q, hs _ _ _ h1, h2, h3⟩
/-- what was made since c, but the list at q (array d) and the thing at b -/
def gNx (c : gLH) (b q d : Nat) (c' : gLH) : gLH := fun a => if a = b ∨ a = q ∨ a = d then none else gNw c c' a
theorem gNx_e {c c' : gLH} {b q d a r : Nat} {e : va_E} (h : gNx c b q d c' a = some (r, e)) : a ≠ b ∧ a ≠ q ∧ a ≠ d ∧ gOnly c a = none ∧ c' a = some (gT, e) ∧ r = gT := by
  unfold gNx at h
  split at h
  · cases h
  · next hn =>
    obtain ⟨h1, h2, h3⟩ := gNw_e h
    exact ⟨fun z => hn (Or.inl z), fun z => hn (Or.inr (Or.inl z)), fun z => hn (Or.inr (Or.inr z)), h1, h2, h3⟩
theorem gNx_i {c c' : gLH} {b q d a : Nat} {e : va_E} (h1 : a ≠ b) (h2 : a ≠ q) (h3 : a ≠ d) (h4 : gOnly c a = none) (h5 : c' a = some (gT, e)) : gNx c b q d c' a = some (gT, e) := by
  unfold gNx
  rw [if_neg (fun z => by rcases z with z | z | z; exact h1 z; exact h2 z; exact h3 z)]
  exact gNw_i h4 h5
theorem gNx_sub {c c' : gLH} {b q d : Nat} : gSub (gNx c b q d c') (gNw c c') := fun a r e h => by
  obtain ⟨h1, h2, h3, h4, h5, rfl⟩ := gNx_e h
  exact gNw_i h4 h5
theorem RD.frm {T f : Nat → Int32} {E : Nat → Nat} {e9 rd tx sz q o : Nat} {c c' : gLH} (h : RD T f E e9 rd tx sz q o c) {a d r1 r2 cap : Nat} {vs : List Value} {F : Nat → Option Nat} (ha : c a = some (r1, .inr (31, vs))) (hd : c d = some (r2, gRefs cap F)) (hf : gFrm c c' a d) : RD T f E e9 rd tx sz q o c' := by
  obtain ⟨h1, w, sg, nu, h2, h3, h4, h5⟩ := h
  refine ⟨hf _ _ _ h1 (fun z => by rw [z, ha] at h1; cases h1) (fun z => by rw [z, hd] at h1; cases h1), w, sg, nu, hf _ _ _ h2 (fun z => by rw [z, ha] at h2; cases h2) (fun z => by rw [z, hd] at h2; cases h2), h3, h4, fun z => ?_⟩
  rcases h5 z with ⟨h8, v, f', k1, k2, k3⟩ | h8
  · exact Or.inl ⟨h8, v, f', hf _ _ _ k1 (fun z => by rw [z, ha] at k1; cases k1) (fun z => by rw [z, hd] at k1; cases k1), hf _ _ _ k2 (fun z => by rw [z, ha] at k2; cases k2) (fun z => by rw [z, hd] at k2; cases k2), k3⟩
  · exact Or.inr h8
theorem rFr.frm {c c1 c2 : gLH} (h : rFr c c1) {a d : Nat} (ha : rNw c a) (hd : rNw c d) (hf : gFrm c1 c2 a d) : rFr c c2 := fun b r e z1 z2 z3 =>
  hf b r e (h b r e z1 z2 z3) (fun z => by subst z; rcases ha r e z1 with q | q; exact z2 q; exact z3 q) (fun z => by subst z; rcases hd r e z1 with q | q; exact z2 q; exact z3 q)
/-- what F takes from the text where it finds no fault -/
def pPr (sz om : Nat) (F : pSt → pSt) : Prop := ∀ s : pSt, s.2.1 = 0 → s.1 ≤ sz → om ≤ s.2.2.2.1 → s.2.2.2.1 ≤ 10 → (F s).2.1 = 0 → s.1 + 3 ≤ (F s).1
theorem pGo.back {sz : Nat} {s t : pSt} (h : pGo sz s t) (ht : t.2.1 = 0) : s.2.1 = 0 := by
  by_cases q : s.2.1 = 0
  · exact q
  · exact absurd ((h.2.2.2.2.2.2.1 q).1.symm.trans ht) q
theorem pJoin_pr {T : Nat → Int32} {sz om : Nat} (hT : pTz T sz) {F : pSt → pSt} (hg : ∀ s, s.1 ≤ sz → pGo sz s (F s)) {W : List Nat} (hW : isWd W) (k : Int32) (h : pPr sz om F) : pPr sz om (pJoin T sz F W k) := by
  intro s h0 h1 h2 h3 h4
  have g1 := hg s h1
  have g2 := pMore_go hT hg hW k (sz + 1) (F s) (g1.2.1 h1)
  have := h s h0 h1 h2 h3 (g2.back h4)
  have := g2.1
  show s.1 + 3 ≤ (pMore T sz F W k (sz + 1) (F s)).1
  omega
theorem pAct_pr {T : Nat → Int32} {sz : Nat} (hT : pTz T sz) (a : Nat × Nat) (s : pSt) (hs : s.1 ≤ sz) : s.1 ≤ (pAct T sz a s).1 := by
  unfold pAct
  split
  · exact Nat.le_refl _
  · split
    · exact Nat.le_refl _
    · split
      · exact (pRel_go _ _).1
      · exact (pKind_go hT _ hs).1
theorem pAtom_pr {T : Nat → Int32} {sz : Nat} (hT : pTz T sz) (s : pSt) (hs : s.1 ≤ sz) (h0 : s.2.1 = 0) : ∀ l : List (List Nat × Nat × Nat), (∀ x ∈ l, isWd x.1 ∧ 3 ≤ x.1.length) → (pAtom T sz s l).2.1 = 0 → s.1 + 3 ≤ (pAtom T sz s l).1
  | [], _, h => by
    simp only [pAtom, pWrong] at h
    rw [if_pos h0] at h
    exact absurd (show (1 : Nat) = 0 from h) (by decide)
  | x :: t, hl, h => by
    simp only [pAtom] at h ⊢
    have hx := hl x List.mem_cons_self
    split at h
    · next hw =>
      rw [if_pos hw]
      have h1 := pIsW_lt hT hs hx.1.1 hx.1.2 hw
      have h2 := pAct_pr hT x.2 (pOn s x.1.length) h1
      have h3 : (pOn s x.1.length).1 = s.1 + x.1.length := rfl
      omega
    · next hw =>
      rw [if_neg hw]
      exact pAtom_pr hT s hs h0 t (fun y hy => hl y (List.mem_cons_of_mem _ hy)) h
theorem pAtoms_3 : ∀ x ∈ pAtoms, isWd x.1 ∧ 3 ≤ x.1.length := by unfold pAtoms isWd; decide
theorem pOne_pr {T : Nat → Int32} {sz : Nat} (hT : pTz T sz) : ∀ d : Nat, d ≤ 11 → pPr sz (11 - d) (pOne T sz d)
  | 0, _ => fun s h0 h1 h2 h3 h4 => absurd h2 (by omega)
  | d + 1, hd => by
    have ih := pOne_pr hT d (by omega)
    have iAny : pPr sz (11 - d) (pJoin T sz (pJoin T sz (pOne T sz d) w_and 0) w_or 1) := pJoin_pr hT (fun s hs => pJoin_go hT (pOne_go hT d) w_and_wd 0 s hs) w_or_wd 1 (pJoin_pr hT (pOne_go hT d) w_and_wd 0 ih)
    intro s h0 h1 h2 h3 h4
    have hb := pB_ge T sz s.1
    have hbz := pB_sz T h1
    simp only [pOne, pOneB] at h4 ⊢
    rw [if_pos h0] at h4 ⊢
    split at h4
    · next hw =>
      rw [if_pos hw]
      have hl : pB T sz s.1 + 3 ≤ sz := pIsW_lt hT hbz w_not_wd.1 w_not_wd.2 hw
      split at h4
      · unfold pWrong at h4
        rw [if_pos (show (pAt s (pB T sz s.1)).2.1 = 0 from h0)] at h4
        exact absurd (show (3 : Nat) = 0 from h4) (by decide)
      · next ho =>
        rw [if_neg ho]
        have e : pOn (pOpens (pAt s (pB T sz s.1))) 3 = (pB T sz s.1 + 3, s.2.1, s.2.2.1, s.2.2.2.1 + 1, s.2.2.2.2) := by
          unfold pOpens
          rw [if_neg (show ¬ (pAt s (pB T sz s.1)).2.2.2.1 = 10 from ho)]
          rfl
        rw [e] at h4 ⊢
        have := ih (pB T sz s.1 + 3, s.2.1, s.2.2.1, s.2.2.2.1 + 1, s.2.2.2.2) h0 hl (by show 11 - d ≤ s.2.2.2.1 + 1; omega) (by show s.2.2.2.1 + 1 ≤ 10; omega) h4
        show s.1 + 3 ≤ (pOne T sz d (pB T sz s.1 + 3, s.2.1, s.2.2.1, s.2.2.2.1 + 1, s.2.2.2.2)).1
        have : (pB T sz s.1 + 3, s.2.1, s.2.2.1, s.2.2.2.1 + 1, s.2.2.2.2).1 = pB T sz s.1 + 3 := rfl
        omega
    · next hw =>
      rw [if_neg hw]
      split at h4
      · next hsg =>
        rw [if_pos hsg]
        simp only [pSign, Bool.and_eq_true, decide_eq_true_eq] at hsg
        split at h4
        · unfold pWrong at h4
          rw [if_pos (show (pAt s (pB T sz s.1)).2.1 = 0 from h0)] at h4
          exact absurd (show (3 : Nat) = 0 from h4) (by decide)
        · next ho =>
          rw [if_neg ho]
          have e : pOn (pOpens (pAt s (pB T sz s.1))) 1 = (pB T sz s.1 + 1, s.2.1, s.2.2.1, s.2.2.2.1 + 1, s.2.2.2.2) := by
            unfold pOpens
            rw [if_neg (show ¬ (pAt s (pB T sz s.1)).2.2.2.1 = 10 from ho)]
            rfl
          rw [e] at h4 ⊢
          have gn := pNeed_go (T := T) (sz := sz) (pJoin T sz (pJoin T sz (pOne T sz d) w_and 0) w_or 1 (pB T sz s.1 + 1, s.2.1, s.2.2.1, s.2.2.2.1 + 1, s.2.2.2.2)) 41
          have h5 := gn.back h4
          have := iAny (pB T sz s.1 + 1, s.2.1, s.2.2.1, s.2.2.2.1 + 1, s.2.2.2.2) h0 hsg.2 (by show 11 - d ≤ s.2.2.2.1 + 1; omega) (by show s.2.2.2.1 + 1 ≤ 10; omega) h5
          have := gn.1
          show s.1 + 3 ≤ (pNeed T sz (pJoin T sz (pJoin T sz (pOne T sz d) w_and 0) w_or 1 (pB T sz s.1 + 1, s.2.1, s.2.2.1, s.2.2.2.1 + 1, s.2.2.2.2)) 41).1
          have : (pB T sz s.1 + 1, s.2.1, s.2.2.1, s.2.2.2.1 + 1, s.2.2.2.2).1 = pB T sz s.1 + 1 := rfl
          omega
      · next hsg =>
        rw [if_neg hsg]
        have := pAtom_pr hT (pAt s (pB T sz s.1)) hbz h0 pAtoms pAtoms_3 h4
        have : (pAt s (pB T sz s.1)).1 = pB T sz s.1 := rfl
        omega
theorem pAll_pr {T : Nat → Int32} {sz : Nat} (hT : pTz T sz) {d : Nat} (hd : d ≤ 11) : pPr sz (11 - d) (pAll T sz d) := pJoin_pr hT (pOne_go hT d) w_and_wd 0 (pOne_pr hT d hd)
theorem pAny_pr {T : Nat → Int32} {sz : Nat} (hT : pTz T sz) {d : Nat} (hd : d ≤ 11) : pPr sz (11 - d) (pAny T sz d) := pJoin_pr hT (pAll_go hT d) w_or_wd 1 (pAll_pr hT hd)
/-- what a method of the parser may make: K by letter, less o; f more where it finds a fault -/
def cO (K o f sz : Nat) (s t : pSt) : Nat := if t.2.1 = 0 then K * (t.1 - s.1) - o else K * (sz + 1 - s.1) + f
theorem cO_0 {K o f sz : Nat} {s t : pSt} (h : t.2.1 = 0) : cO K o f sz s t = K * (t.1 - s.1) - o := if_pos h
theorem cO_1 {K o f sz : Nat} {s t : pSt} (h : ¬ t.2.1 = 0) : cO K o f sz s t = K * (sz + 1 - s.1) + f := if_neg h
