/-! THE READER: wrong is isWord takes need number opens bit -/
set_option maxRecDepth 100000
/-- a fault, as an object -/
def wrg (c : gLH) (a e : Nat) (pl : Int32) : Prop := ∃ x0 x1 x2 x3 x4 x5 : Value, c a = some (gT, .inr (7, [x0, x1, x2, x3, x4, x5, .int (nI e), .int pl]))
theorem wrg.mono {c c' : gLH} (hf : rFr c c') {a e : Nat} {pl : Int32} (h : wrg c a e pl) : wrg c' a e pl := by
  obtain ⟨x0, x1, x2, x3, x4, x5, h⟩ := h
  exact ⟨x0, x1, x2, x3, x4, x5, hf _ _ _ h (by decide) (by decide)⟩
/-- posts of the parser's methods: done, or thrown as the state t says -/
abbrev pTw (t : pSt) (o : Outcome) (c' : gLH) : Prop := ¬ t.2.1 = 0 ∧ ∃ a, o = .threw a ∧ wrg c' a t.2.1 t.2.2.1
abbrev pRv (t : pSt) (Fr K : gLH → Prop) : Outcome → gLH → Prop := fun o c' => Fr c' ∧ ((t.2.1 = 0 ∧ o = .returned none ∧ K c') ∨ pTw t o c')
abbrev pRl (t : pSt) (Fr : gLH → Prop) (K : Int64 → gLH → Prop) : Outcome → gLH → Prop := fun o c' => Fr c' ∧ ((t.2.1 = 0 ∧ ∃ r, o = .returned (some (.long r)) ∧ K r c') ∨ pTw t o c')
abbrev pRa (t : pSt) (Fr : gLH → Prop) (K : Nat → gLH → Prop) : Outcome → gLH → Prop := fun o c' => Fr c' ∧ ((t.2.1 = 0 ∧ ∃ r, o = .returned (some (.ref r)) ∧ K r c') ∨ pTw t o c')
section GPR
variable {φ : gFx} {Q : State → Prop} {pc : Nat} {lv : List (Nat × Value)} {st : List Value} {ce sl : Nat} {t : pSt} {Fr : gLH → Prop}
theorem gkr_rv {K : gLH → Prop} (k : ∀ c : gLH, t.2.1 = 0 → Fr c → K c → G φ Q pc lv st c ce sl) : gKR φ Q pc lv st ce sl (pRv t Fr K) := fun v c' hp => by
  obtain ⟨hf, ⟨h0, hv, hk⟩ | ⟨h0, a, hv, hk⟩⟩ := hp
  · cases hv; exact k c' h0 hf hk
  · cases hv
theorem gkr_rl {K : Int64 → gLH → Prop} (k : ∀ (r : Int64) (c : gLH), t.2.1 = 0 → Fr c → K r c → G φ Q pc lv (.long r :: st) c ce sl) : gKR φ Q pc lv st ce sl (pRl t Fr K) := fun v c' hp => by
  obtain ⟨hf, ⟨h0, r, hv, hk⟩ | ⟨h0, a, hv, hk⟩⟩ := hp
  · cases hv; exact k r c' h0 hf hk
  · cases hv
theorem gkr_ra {K : Nat → gLH → Prop} (k : ∀ (r : Nat) (c : gLH), t.2.1 = 0 → Fr c → K r c → G φ Q pc lv (.ref r :: st) c ce sl) : gKR φ Q pc lv st ce sl (pRa t Fr K) := fun v c' hp => by
  obtain ⟨hf, ⟨h0, r, hv, hk⟩ | ⟨h0, a, hv, hk⟩⟩ := hp
  · cases hv; exact k r c' h0 hf hk
  · cases hv
theorem gkt_rv {K : gLH → Prop} (k : ∀ (a : Nat) (c : gLH), ¬ t.2.1 = 0 → Fr c → wrg c a t.2.1 t.2.2.1 → GT φ Q pc lv a c ce sl) : gKT φ Q pc lv ce sl (pRv t Fr K) := fun v c' hp => by
  obtain ⟨hf, ⟨h0, hv, hk⟩ | ⟨h0, a, hv, hk⟩⟩ := hp
  · cases hv
  · cases hv; exact k _ c' h0 hf hk
theorem gkt_rl {K : Int64 → gLH → Prop} (k : ∀ (a : Nat) (c : gLH), ¬ t.2.1 = 0 → Fr c → wrg c a t.2.1 t.2.2.1 → GT φ Q pc lv a c ce sl) : gKT φ Q pc lv ce sl (pRl t Fr K) := fun v c' hp => by
  obtain ⟨hf, ⟨h0, r, hv, hk⟩ | ⟨h0, a, hv, hk⟩⟩ := hp
  · cases hv
  · cases hv; exact k _ c' h0 hf hk
theorem gkt_ra {K : Nat → gLH → Prop} (k : ∀ (a : Nat) (c : gLH), ¬ t.2.1 = 0 → Fr c → wrg c a t.2.1 t.2.2.1 → GT φ Q pc lv a c ce sl) : gKT φ Q pc lv ce sl (pRa t Fr K) := fun v c' hp => by
  obtain ⟨hf, ⟨h0, r, hv, hk⟩ | ⟨h0, a, hv, hk⟩⟩ := hp
  · cases hv
  · cases hv; exact k _ c' h0 hf hk
end GPR
theorem pTw.of {t : pSt} {a e : Nat} {pl : Int32} {c' : gLH} (h1 : t.2.1 = e) (h2 : t.2.2.1 = pl) (he : ¬ e = 0) (hw : wrg c' a e pl) : pTw t (.threw a) c' := by
  subst h1; subst h2
  exact ⟨he, a, rfl, hw⟩
theorem rKd_lt (T : Nat → Int32) (sz q : Nat) : rKd T sz q < 5 := by
  unfold rKd
  repeat' split
  all_goals omega
/-- the reader stands ahead of nx -/
def RN (f : Nat → Int32) (rd tx sz nx o : Nat) (c : gLH) : Prop := c tx = some (cR 1 0, gBytes 2000 f) ∧ nx ≤ sz ∧ ∃ (q0 : Nat) (so w : Value) (sg : Int32) (nu : Int64), c rd = rC tx sz nx q0 o so w sg nu
theorem RD.rn {T f : Nat → Int32} {E : Nat → Nat} {e9 rd tx sz q o : Nat} {c : gLH} (h : RD T f E e9 rd tx sz q o c) (hq : q ≤ sz) : RN f rd tx sz (rNx T sz q) o c := by
  obtain ⟨h1, w, sg, nu, h2, -⟩ := h
  exact ⟨h1, (rNx_le hq).2, _, _, _, _, _, h2⟩
theorem RD.cell {T f : Nat → Int32} {E : Nat → Nat} {e9 rd tx sz q o : Nat} {c : gLH} (h : RD T f E e9 rd tx sz q o c) : ∃ fs, c rd = some (gRd, .inr (5, fs)) := by
  obtain ⟨h1, w, sg, nu, h2, -⟩ := h
  exact ⟨_, h2⟩
theorem RN.cell {f : Nat → Int32} {rd tx sz nx o : Nat} {c : gLH} (h : RN f rd tx sz nx o c) : ∃ fs, c rd = some (gRd, .inr (5, fs)) := by
  obtain ⟨h1, h0, q0, so, w, sg, nu, h2⟩ := h
  exact ⟨_, h2⟩
/-- the reader in the state s -/
abbrev RS (T f : Nat → Int32) (E : Nat → Nat) (e9 rd tx sz : Nat) (s : pSt) (c : gLH) : Prop := RD T f E e9 rd tx sz (pB T sz s.1) s.2.2.2.1 c
theorem ct_rgo {l : Launch} {g : gGP} (hk : gK l g) {T f : Nat → Int32} {E : Nat → Nat} {c : gLH} {e9 rd tx sz nx o : Nat} (hX : rTx T f sz) (hs : gSS g) (hE : rEnv g E e9 c) (hN : RN f rd tx sz nx o c) : Ct l g yX5_go hwX5_go 7 280 [.ref rd] c 4 32 (pV (fun c' => RD T f E e9 rd tx sz (pB T sz nx) o c' ∧ rFr c c')) := by
  obtain ⟨h1, h0, q0, so, w, sg, nu, h2⟩ := hN
  refine (ct_rgoW hk hX hs hE h0 h2 ⟨fun a r e z _ => z, h1, fun z => by rw [z, h2] at h1; cases h1⟩).weaken (fun o c' h => ?_)
  obtain ⟨hv, h3, h4⟩ := h
  refine ⟨hv, h3, fun a r e z1 z2 z3 => h4 a r e z1 (fun z => ?_)⟩
  subst z
  rw [h2] at z1
  cases z1
  exact z2 rfl
theorem ct_rwrong {l : Launch} {g : gGP} (hk : gK l g) {c : gLH} {rd tx sz nx q o : Nat} {so w : Value} {sg : Int32} {nu : Int64} (hc : c rd = rC tx sz nx q o so w sg nu) (hts : gTS g) : Ct l g yX5_wrong hwX5_wrong 5 200 [.ref rd] c (1) (8) (pAe (fun a c' => c a = none ∧ wrg c' a 1 (nI q) ∧ ∀ (b r : Nat) (e : va_E), c b = some (r, e) → c' b = some (r, e))) := by
  refine Ct.intro hk hcX5_wrong (by decide +kernel) (Nat.le_of_ble_eq_true rfl) (fun φ h => ?_)
  refine g_new h gFr n_X5_99 (by (try dsimp only); omega) (by (try dsimp only); omega) dX5_wrong_0 (fun a ha => ?_)
  have hax : rd ≠ a := fun z => by rw [← z, hc] at ha; cases ha
  refine g_dup h dX5_wrong_3 rfl ?_
  refine g_iconst (v := 1) h dX5_wrong_4 (by decide) ?_
  refine g_aload_n (i := 0) h dX5_wrong_5 rfl rfl ?_
  refine g_get h f_X5_31_5 (show va_up c a _ rd = _ by rw [va_up_n _ _ hax]; exact hc) rfl dX5_wrong_6 ?_
  refine g_invI h (ct_X7init h.k _ _ hts (va_up_s _ _ _)) w_X5_101 rfl rfl (Nat.le_of_ble_eq_true rfl) ⟨Nat.le_of_ble_eq_true rfl, Nat.le_of_ble_eq_true rfl⟩ (by refine ⟨?_, ?_⟩ <;> ((try dsimp only); omega)) dX5_wrong_9 (gkr_v (fun c1 hP => ?_)) gkt_v
  obtain ⟨u, s9, hP⟩ := hP
  rw [va_up_up] at hP
  have old : ∀ (b r : Nat) (e : va_E), c b = some (r, e) → c1 b = some (r, e) := fun b r e hb => by rw [hP, va_up_n _ _ (fun z => by rw [z, ha] at hb; cases hb)]; exact hb
  exact g_aret h ⟨a, rfl, ha, ⟨_, _, _, _, _, _, by rw [hP]; exact va_up_s _ _ _⟩, old⟩ (by (try dsimp only); omega) (by (try dsimp only); omega) (Or.inl ⟨_, rfl⟩) dX5_wrong_12
theorem ct_risWord {l : Launch} {g : gGP} (hk : gK l g) {T f : Nat → Int32} {E : Nat → Nat} {c : gLH} {e9 rd tx sz : Nat} (hX : rTx T f sz) (hs : gSS g) (hE : rEnv g E e9 c) {q o a : Nat} {W : List Nat} (hq : q ≤ sz) (hR : RD T f E e9 rd tx sz q o c) (hWs : isWs W) (hW : gStr c a W) : Ct l g yX5_isWord hwX5_isWord 2 80 [.ref rd, .ref a] c (0) (0) (pIp (zB (pIsW T q W)) c) := by
  refine Ct.intro hk hcX5_isWord (by decide +kernel) (Nat.le_of_ble_eq_true rfl) (fun φ h => ?_)
  obtain ⟨hT, w, sg, nu, hc, -, -, hwd⟩ := hR
  have hk1 := rKd_1 hX.1 hq
  by_cases h1 : rKd T sz q = 1
  case neg =>
    have hr : pIsW T q W = false := pIsW_not hWs (by cases z : sSmall (T q) with | false => rfl | true => exact absurd (hk1.mpr z) h1)
    refine g_aload_n (i := 0) h dX5_isWord_0 rfl rfl ?_
    refine g_get h f_X5_47_5 hc rfl dX5_isWord_1 ?_
    refine g_getstatic h hE.1.2.1 q678 dX5_isWord_4 ?_
    refine g_acmp_ne (rx := some (E (rKd T sz q))) (ry := some (E 1)) (tgt := 25) h dX5_isWord_7 (by decide) (fun b7 => ?_) (fun b7 => absurd (hE.2.1 _ _ (rKd_lt T sz q) (by decide) (Option.some.inj b7)) h1)
    refine g_iconst (v := 0) h dX5_isWord_25 (by decide) ?_
    exact g_zret h ⟨by rw [hr]; rfl, rfl⟩ (Nat.le_refl _) (Nat.le_refl _) (by first | rfl | exact zB_nar _) dX5_isWord_26
  have hsm := hk1.mp h1
  have hnx : rNx T sz q = pLt T (sz - q) q := by
    unfold rNx
    split
    · next z => rw [hX.1.2 q z (by have := hX.1.1; omega)] at hsm; cases hsm
    · first | rw [if_pos hsm] | rfl
  have hle := pLt_le T (sz - q) q
  obtain ⟨V, hgw, heq⟩ : ∃ V, gStr c w V ∧ decide (V = W) = pIsW T q W := by
    rcases hwd h1 with ⟨h8, v, f', k1, k2, k3⟩ | ⟨h8, rfl⟩
    · rw [hnx] at h8 k2 k3
      refine ⟨wL T q (pLt T (sz - q) q - q), ⟨gWr, v, gT, _, _, f', k1, by rw [wL_len]; exact k2, by rw [wL_len]; omega, fun j hj => ?_, by decide, by decide⟩, (pIsW_word hX.1 hq hWs).symm⟩
      rw [wL_len] at hj
      have p := small_pos (hle.2.2 (q + j) (by omega) (by omega))
      rw [wL_at T q hj]
      exact ⟨(k3 j hj).trans p.2.2.2.1.symm, p.2.2.1⟩
    · rw [hnx] at h8
      refine ⟨[], hE.e9, ?_⟩
      rw [pIsW_long hX.1 hq hWs h8, decide_eq_false_iff_not]
      intro e
      have := hWs.2.1
      rw [← e] at this
      exact absurd this (by simp)
  obtain ⟨rw_, fw, hwc⟩ := hgw.obj
  refine g_aload_n (i := 0) h dX5_isWord_0 rfl rfl ?_
  refine g_get h f_X5_47_5 hc rfl dX5_isWord_1 ?_
  refine g_getstatic h hE.1.2.1 q678 dX5_isWord_4 ?_
  refine g_acmp_ne (rx := some (E (rKd T sz q))) (ry := some (E 1)) (tgt := 25) h dX5_isWord_7 (by decide) (fun b7 => absurd (by rw [h1]) b7) (fun b7 => ?_)
  refine g_aload_n (i := 0) h dX5_isWord_10 rfl rfl ?_
  refine g_get h f_X5_11_5 hc rfl dX5_isWord_11 ?_
  refine g_aload_n (i := 1) h dX5_isWord_14 rfl rfl ?_
  refine g_invV h (ct_strEquals h.k hs hgw hW) hcJ9_equals w_X5_104 rfl rfl hwc (Nat.le_of_ble_eq_true rfl) ⟨Nat.le_of_ble_eq_true rfl, Nat.le_of_ble_eq_true rfl⟩ (by refine ⟨?_, ?_⟩ <;> ((try dsimp only); omega)) dX5_isWord_15 (gkr_ip ?_) gkt_ip
  refine g_if_eq (tgt := 25) h dX5_isWord_18 (by decide) (fun b18 => ?_) (fun b18 => ?_)
  · rw [zB_0] at b18
    refine g_iconst (v := 0) h dX5_isWord_25 (by decide) ?_
    exact g_zret h ⟨by rw [← heq, b18]; rfl, rfl⟩ (Nat.le_refl _) (Nat.le_refl _) (by first | rfl | exact zB_nar _) dX5_isWord_26
  · rw [zB_n0] at b18
    refine g_iconst (v := 1) h dX5_isWord_21 (by decide) ?_
    refine g_goto (tgt := 26) h dX5_isWord_22 (by decide) ?_
    exact g_zret h ⟨by rw [← heq, b18]; rfl, rfl⟩ (Nat.le_refl _) (Nat.le_refl _) (by first | rfl | exact zB_nar _) dX5_isWord_26
/-- the signs that are asked for -/
def isSg (x : Int32) : Prop := rSg x = true ∧ sSmall x = false ∧ sDigit x = false ∧ 0 ≤ x ∧ x < 128
theorem ct_ris {l : Launch} {g : gGP} (hk : gK l g) {T f : Nat → Int32} {E : Nat → Nat} {c : gLH} {e9 rd tx sz : Nat} (hX : rTx T f sz) (hE : rEnv g E e9 c) {q o : Nat} {x : Int32} (hx : isSg x) (hR : RD T f E e9 rd tx sz q o c) : Ct l g yX5_is hwX5_is 0 0 [.ref rd, .int x] c (0) (0) (pIp (zB (decide (T q = x) && decide (q < sz))) c) := by
  refine Ct.intro hk hcX5_is (by decide +kernel) (Nat.le_of_ble_eq_true rfl) (fun φ h => ?_)
  obtain ⟨hT, w, sg, nu, hc, hsg, -, -⟩ := hR
  have h3 := rKd_3 (T := T) (sz := sz) (q := q) hx.1 ⟨hx.2.1, hx.2.2.1⟩
  by_cases h1 : rKd T sz q = 3
  case neg =>
    have hr : (decide (T q = x) && decide (q < sz)) = false := by
      cases z : (decide (T q = x) && decide (q < sz)) with
      | false => rfl
      | true =>
        rw [Bool.and_eq_true, decide_eq_true_iff, decide_eq_true_iff] at z
        exact absurd (h3.mpr z).1 h1
    refine g_aload_n (i := 0) h dX5_is_0 rfl rfl ?_
    refine g_get h f_X5_47_5 hc rfl dX5_is_1 ?_
    refine g_getstatic h hE.1.2.2.2.1 q720 dX5_is_4 ?_
    refine g_acmp_ne (rx := some (E (rKd T sz q))) (ry := some (E 3)) (tgt := 22) h dX5_is_7 (by decide) (fun b7 => ?_) (fun b7 => absurd (hE.2.1 _ _ (rKd_lt T sz q) (by decide) (Option.some.inj b7)) h1)
    refine g_iconst (v := 0) h dX5_is_22 (by decide) ?_
    exact g_zret h ⟨by rw [hr]; rfl, rfl⟩ (Nat.le_refl _) (Nat.le_refl _) (by first | rfl | exact zB_nar _) dX5_is_23
  have hlt : q < sz := by
    unfold rKd at h1
    split at h1
    · cases h1
    · omega
  have he := hX.eq hlt hx.2.2.2.1 hx.2.2.2.2
  have hsg := hsg h1
  refine g_aload_n (i := 0) h dX5_is_0 rfl rfl ?_
  refine g_get h f_X5_47_5 hc rfl dX5_is_1 ?_
  refine g_getstatic h hE.1.2.2.2.1 q720 dX5_is_4 ?_
  refine g_acmp_ne (rx := some (E (rKd T sz q))) (ry := some (E 3)) (tgt := 22) h dX5_is_7 (by decide) (fun b7 => absurd (by rw [h1]) b7) (fun b7 => ?_)
  refine g_aload_n (i := 0) h dX5_is_10 rfl rfl ?_
  refine g_get h f_X5_38_5 hc rfl dX5_is_11 ?_
  refine g_iload_n (i := 1) h dX5_is_14 rfl rfl ?_
  refine g_icmp_ne (tgt := 22) h dX5_is_15 (by decide) (fun b15 => ?_) (fun b15 => ?_)
  · refine g_iconst (v := 0) h dX5_is_22 (by decide) ?_
    exact g_zret h ⟨by rw [hsg] at b15; simp [he, b15, hlt, zB], rfl⟩ (Nat.le_refl _) (Nat.le_refl _) (by first | rfl | exact zB_nar _) dX5_is_23
  · refine g_iconst (v := 1) h dX5_is_18 (by decide) ?_
    refine g_goto (tgt := 23) h dX5_is_19 (by decide) ?_
    exact g_zret h ⟨by rw [hsg] at b15; simp [he, b15, hlt, zB], rfl⟩ (Nat.le_refl _) (Nat.le_refl _) (by first | rfl | exact zB_nar _) dX5_is_23
theorem isSg_x : isSg 40 ∧ isSg 41 ∧ isSg 59 ∧ isSg 47 ∧ isSg 61 ∧ isSg 60 ∧ isSg 62 := by unfold isSg; decide
theorem rNx_sg {T : Nat → Int32} {sz q : Nat} {x : Int32} (hx : isSg x) (h : (decide (T q = x) && decide (q < sz)) = true) : rNx T sz q = q + 1 ∧ q < sz := by
  rw [Bool.and_eq_true, decide_eq_true_iff, decide_eq_true_iff] at h
  unfold rNx
  rw [if_neg (by omega), h.1, hx.2.1, hx.2.2.1]
  exact ⟨rfl, h.2⟩
theorem rNx_w {T : Nat → Int32} {sz q : Nat} (hT : pTz T sz) (hq : q ≤ sz) {W : List Nat} (hW : isWs W) (h : pIsW T q W = true) : rNx T sz q = q + W.length := by
  have e := pIsW_end hT hq hW h
  have hl := pIsW_lt hT hq hW.wd.1 hW.wd.2 h
  have hp := hW.2.1
  have hs : sSmall (T q) = true := (pLt_le T (sz - q) q).2.2 q (Nat.le_refl _) (by omega)
  unfold rNx
  rw [if_neg (by omega), if_pos hs, e]
theorem ct_rtakes {l : Launch} {g : gGP} (hk : gK l g) {T f : Nat → Int32} {E : Nat → Nat} {c : gLH} {e9 rd tx sz : Nat} (hX : rTx T f sz) (hs : gSS g) (hE : rEnv g E e9 c) {s : pSt} (h0 : s.2.1 = 0) (hq1 : s.1 ≤ sz) (hR : RS T f E e9 rd tx sz s c) {a : Nat} {W : List Nat} (hWs : isWs W) (hW : gStr c a W) : Ct l g yX5_takes hwX5_takes 8 320 [.ref rd, .ref a] c (4) (32) (pI (zB (pEat T sz s W).1) (fun c' => RS T f E e9 rd tx sz (pEat T sz s W).2 c' ∧ rFr c c')) := by
  refine Ct.intro hk hcX5_takes (by decide +kernel) (Nat.le_of_ble_eq_true rfl) (fun φ h => ?_)
  have hq : pB T sz s.1 ≤ sz := pB_sz T hq1
  refine g_aload_n (i := 0) h dX5_takes_0 rfl rfl ?_
  refine g_aload_n (i := 1) h dX5_takes_1 rfl rfl ?_
  refine g_invV h (ct_risWord h.k hX hs hE hq hR hWs hW) hcX5_isWord w_X5_110 rfl rfl hR.cell.choose_spec (Nat.le_of_ble_eq_true rfl) ⟨Nat.le_of_ble_eq_true rfl, Nat.le_of_ble_eq_true rfl⟩ (by refine ⟨?_, ?_⟩ <;> ((try dsimp only); omega)) dX5_takes_2 (gkr_ip ?_) gkt_ip
  refine g_istore_n (i := 2) h dX5_takes_5 rfl (by decide) ?_
  refine g_iload_n (i := 2) h dX5_takes_6 rfl rfl ?_
  refine g_if_eq (tgt := 14) h dX5_takes_7 (by decide) (fun b7 => ?_) (fun b7 => ?_)
  · rw [zB_0] at b7
    refine g_iload_n (i := 2) h dX5_takes_14 rfl rfl ?_
    first
    | exact g_zret h ⟨by unfold pEat; rw [if_pos h0, if_neg (by rw [b7]; decide)]; rw [b7], by unfold pEat; rw [if_pos h0, if_neg (by rw [b7]; decide)]; show RD T f E e9 rd tx sz (pB T sz (pB T sz s.1)) _ c; rw [pB_idem]; exact hR, rFr.refl c⟩ (by (try dsimp only); omega) (by (try dsimp only); omega) (by first | rfl | exact zB_nar _) dX5_takes_15
    | exact g_zret h ⟨by unfold pEat; rw [if_pos h0, if_pos b7]; rw [b7], by unfold pEat; rw [if_pos h0, if_pos b7]; have z := hP.1; rw [rNx_w hX.1 hq hWs b7] at z; exact z, hP.2⟩ (by (try dsimp only); omega) (by (try dsimp only); omega) (by first | rfl | exact zB_nar _) dX5_takes_15
  · rw [zB_n0] at b7
    refine g_aload_n (i := 0) h dX5_takes_10 rfl rfl ?_
    refine g_invV h (ct_rgo h.k hX hs hE (hR.rn hq)) hcX5_go w_X5_25 rfl rfl (hR.rn hq).cell.choose_spec (Nat.le_of_ble_eq_true rfl) ⟨Nat.le_of_ble_eq_true rfl, Nat.le_of_ble_eq_true rfl⟩ (by refine ⟨?_, ?_⟩ <;> ((try dsimp only); omega)) dX5_takes_11 (gkr_v (fun c1 hP => ?_)) gkt_v
    refine g_iload_n (i := 2) h dX5_takes_14 rfl rfl ?_
    first
    | exact g_zret h ⟨by unfold pEat; rw [if_pos h0, if_neg (by rw [b7]; decide)]; rw [b7], by unfold pEat; rw [if_pos h0, if_neg (by rw [b7]; decide)]; show RD T f E e9 rd tx sz (pB T sz (pB T sz s.1)) _ c; rw [pB_idem]; exact hR, rFr.refl c⟩ (by (try dsimp only); omega) (by (try dsimp only); omega) (by first | rfl | exact zB_nar _) dX5_takes_15
    | exact g_zret h ⟨by unfold pEat; rw [if_pos h0, if_pos b7]; rw [b7], by unfold pEat; rw [if_pos h0, if_pos b7]; have z := hP.1; rw [rNx_w hX.1 hq hWs b7] at z; exact z, hP.2⟩ (by (try dsimp only); omega) (by (try dsimp only); omega) (by first | rfl | exact zB_nar _) dX5_takes_15
theorem ct_rneed {l : Launch} {g : gGP} (hk : gK l g) {T f : Nat → Int32} {E : Nat → Nat} {c : gLH} {e9 rd tx sz : Nat} (hX : rTx T f sz) (hs : gSS g) (hE : rEnv g E e9 c) {s : pSt} (h0 : s.2.1 = 0) (hq1 : s.1 ≤ sz) (hR : RS T f E e9 rd tx sz s c) (hts : gTS g) {x : Int32} (hx : isSg x) : Ct l g yX5_need hwX5_need 8 320 [.ref rd, .int x] c (4) (32) (pRv (pNeed T sz s x) (rFr c) (RS T f E e9 rd tx sz (pNeed T sz s x))) := by
  refine Ct.intro hk hcX5_need (by decide +kernel) (Nat.le_of_ble_eq_true rfl) (fun φ h => ?_)
  have hq : pB T sz s.1 ≤ sz := pB_sz T hq1
  have hps : pSign T sz s x = (decide (T (pB T sz s.1) = x) && decide (pB T sz s.1 < sz)) := by unfold pSign; rw [decide_eq_true h0]; rfl
  refine g_aload_n (i := 0) h dX5_need_0 rfl rfl ?_
  refine g_iload_n (i := 1) h dX5_need_1 rfl rfl ?_
  refine g_invV h (ct_ris h.k hX hE hx hR) hcX5_is w_X5_114 rfl rfl hR.cell.choose_spec (Nat.le_of_ble_eq_true rfl) ⟨Nat.le_of_ble_eq_true rfl, Nat.le_of_ble_eq_true rfl⟩ (by refine ⟨?_, ?_⟩ <;> ((try dsimp only); omega)) dX5_need_2 (gkr_ip ?_) gkt_ip
  refine g_if_ne (tgt := 13) h dX5_need_5 (by decide) (fun b5 => ?_) (fun b5 => ?_)
  · rw [zB_n0] at b5
    have hf : pNeed T sz s x = (pB T sz s.1 + 1, s.2) := by unfold pNeed; rw [if_pos h0, hps, if_pos b5]
    refine g_aload_n (i := 0) h dX5_need_13 rfl rfl ?_
    refine g_invV h (ct_rgo h.k hX hs hE (hR.rn hq)) hcX5_go w_X5_25 rfl rfl (hR.rn hq).cell.choose_spec (Nat.le_of_ble_eq_true rfl) ⟨Nat.le_of_ble_eq_true rfl, Nat.le_of_ble_eq_true rfl⟩ (by refine ⟨?_, ?_⟩ <;> ((try dsimp only); omega)) dX5_need_14 (gkr_v (fun c1 hP => ?_)) gkt_v
    exact g_vret h ⟨hP.2, Or.inl ⟨by rw [hf]; exact h0, rfl, by rw [hf]; have z := hP.1; rw [(rNx_sg hx b5).1] at z; exact z⟩⟩ (by (try dsimp only); omega) (by (try dsimp only); omega) dX5_need_17
  · rw [zB_0] at b5
    have hf : pNeed T sz s x = pWrong (pB T sz s.1, s.2) 1 (pB T sz s.1) := by unfold pNeed; rw [if_pos h0, hps, if_neg (by rw [b5]; decide)]
    obtain ⟨hT, w, sg, nu, hc, -⟩ := hR
    refine g_aload_n (i := 0) h dX5_need_8 rfl rfl ?_
    refine g_invV h (ct_rwrong h.k hc hts) hcX5_wrong w_X5_117 rfl rfl hc (Nat.le_of_ble_eq_true rfl) ⟨Nat.le_of_ble_eq_true rfl, Nat.le_of_ble_eq_true rfl⟩ (by refine ⟨?_, ?_⟩ <;> ((try dsimp only); omega)) dX5_need_9 (gkr_ae (fun a c1 hP => ?_)) gkt_ae
    refine g_athrow h dX5_need_12 ?_
    refine gt_out h (fun q hq => by cases hq) ?_ (by (try dsimp only); omega) (by (try dsimp only); omega)
    exact ⟨fun b r e z _ _ => hP.2.2 b r e z, Or.inr (pTw.of (e := 1) (pl := nI (pB T sz s.1)) (by rw [hf]; unfold pWrong; rw [if_pos (show (pB T sz s.1, s.2).2.1 = 0 from h0)]) (by rw [hf]; unfold pWrong; rw [if_pos (show (pB T sz s.1, s.2).2.1 = 0 from h0)]) (by decide) hP.2.1)⟩
