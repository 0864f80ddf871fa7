/-! THE MODEL: signs, numbers -/
set_option maxRecDepth 100000
theorem pSk_le (T : Nat → Int32) (sz : Nat) : ∀ (m p : Nat), p ≤ pSk T sz m p ∧ (p ≤ sz → pSk T sz m p ≤ sz)
  | 0, p => ⟨Nat.le_refl _, id⟩
  | m + 1, p => by
    simp only [pSk]
    split
    · next h =>
      have := pSk_le T sz m (p + 1)
      exact ⟨by omega, fun _ => this.2 (by omega)⟩
    · exact ⟨Nat.le_refl _, id⟩
theorem pB_le (T : Nat → Int32) {sz p : Nat} (h : p ≤ sz) : p ≤ pB T sz p ∧ pB T sz p ≤ sz := ⟨(pSk_le T sz _ p).1, (pSk_le T sz _ p).2 h⟩
/-- whether a sign stands next -/
def pSign (T : Nat → Int32) (sz : Nat) (s : pSt) (x : Int32) : Bool := decide (s.2.1 = 0) && decide (T (pB T sz s.1) = x) && decide (pB T sz s.1 < sz)
def pNeed (T : Nat → Int32) (sz : Nat) (s : pSt) (x : Int32) : pSt := if s.2.1 = 0 then (if pSign T sz s x = true then (pB T sz s.1 + 1, s.2) else pWrong (pB T sz s.1, s.2) 1 (pB T sz s.1)) else s
def pOpens (s : pSt) : pSt := if s.2.2.2.1 = 10 then pWrong s 3 s.1 else (s.1, s.2.1, s.2.2.1, s.2.2.2.1 + 1, s.2.2.2.2)
theorem nI_z {f : Nat} (h : f < 4) : nI f = 0 ↔ f = 0 := ⟨fun q => nI_inj (b := 0) (by omega) (by omega) q, fun q => by rw [q]; rfl⟩
theorem nI_p {f : Nat} (h : f < 4) : nI f ≤ 0 ↔ f = 0 := by
  rw [show (0 : Int32) = nI 0 from rfl, nI_leI (by omega) (by omega)]
  omega
theorem sign_f {T : Nat → Int32} {sz p f : Nat} {r : Int32 × Nat × List (Int32 × Int32)} {x : Int32} (h : f = 0 → T (pB T sz p) = x → pB T sz p < sz → False) : pSign T sz (p, f, r) x = false := by
  cases hs : pSign T sz (p, f, r) x with
  | false => rfl
  | true =>
    simp only [pSign, Bool.and_eq_true, decide_eq_true_eq] at hs
    exact (h hs.1.1 hs.1.2 hs.2).elim
theorem sign_t {T : Nat → Int32} {sz p f : Nat} {r : Int32 × Nat × List (Int32 × Int32)} {x : Int32} (h1 : f = 0) (h2 : T (pB T sz p) = x) (h3 : pB T sz p < sz) : pSign T sz (p, f, r) x = true := by
  simp only [pSign, Bool.and_eq_true, decide_eq_true_eq]
  exact ⟨⟨h1, h2⟩, h3⟩
theorem ct_isSign {l : Launch} {g : gGP} (hk : gK l g) {c0 c : gLH} {mo : Nat} {ma : Nat → Nat} {cl ll : Nat} {A : Nat → Nat → Int32} {B : Nat → Nat → Int64} {n sz : Nat} {p f : Nat} {r : Int32 × Nat × List (Int32 × Int32)} (hM : MW c0 mo ma cl ll (rA A n (p, f, r)) B c) (hsz : A 3 0 = nI sz) (hz : sz ≤ 2000) (hp : p ≤ sz) (hf : f < 4) (x : Int32) : Ct l g yX4_isSign hwX4_isSign 2 80 [.ref mo, .int x] c (0) (0) (pI (zB (pSign (pT A) sz (p, f, r) x)) (MW c0 mo ma cl ll (rA A n ((pB (pT A) sz p), f, r)) B)) := by
  refine Ct.intro hk hcX4_isSign (by decide +kernel) (Nat.le_of_ble_eq_true rfl) (fun φ h => ?_)
  have hpb := pB_le (pT A) hp
  refine g_aload_n (i := 0) h dX4_isSign_0 rfl rfl ?_
  refine g_invV h (ct_blanks h.k hM hsz hz (by omega)) hcX4_blanks w_X4_165 rfl rfl hM.obj (Nat.le_of_ble_eq_true rfl) ⟨Nat.le_of_ble_eq_true rfl, Nat.le_of_ble_eq_true rfl⟩ (by refine ⟨?_, ?_⟩ <;> first | exact Nat.le_refl _ | exact Nat.zero_le _ | (dsimp only; omega)) dX4_isSign_1 (gkr_v (fun c hM => ?_)) gkt_v
  refine g_aload_n (i := 0) h dX4_isSign_4 rfl rfl ?_
  refine m_get (v := .int (nI f)) h hM f_X4_162_4 rfl dX4_isSign_5 ?_
  refine g_if_ne (tgt := 38) h dX4_isSign_8 (by decide) (fun b8 => ?_) (fun b8 => ?_)
  · refine g_iconst (v := 0) h dX4_isSign_38 (by decide) ?_
    exact g_zret h ⟨by congr 3; first | (rw [show pSign (pT A) sz (p, f, r) x = false from sign_f (fun a b c => by first | exact b8 ((nI_z hf).mpr a) | exact b20 b | exact absurd ((nI_leI (by omega) (by omega)).mp b31) (by omega))]; rfl) | (rw [show pSign (pT A) sz (p, f, r) x = true from sign_t ((nI_z hf).mp b8) b20 (Nat.lt_of_not_le (fun q => b31 ((nI_leI (by omega) (by omega)).mpr q)))]; rfl), hM⟩ (Nat.le_refl _) (Nat.le_refl _) (by first | rfl | exact zB_nar _) dX4_isSign_39
  · refine g_aload_n (i := 0) h dX4_isSign_11 rfl rfl ?_
    refine g_aload_n (i := 0) h dX4_isSign_12 rfl rfl ?_
    refine m_get (v := .int (nI (pB (pT A) sz p))) h hM f_X4_155_4 rfl dX4_isSign_13 ?_
    refine g_invV h (ct_byteAt h.k hM (nI (pB (pT A) sz p)) (nI_pos (by omega)) hsz hz) hcX4_byteAt w_X4_158 rfl rfl hM.obj (Nat.le_of_ble_eq_true rfl) ⟨Nat.le_of_ble_eq_true rfl, Nat.le_of_ble_eq_true rfl⟩ (by refine ⟨?_, ?_⟩ <;> first | exact Nat.le_refl _ | exact Nat.zero_le _ | (dsimp only; omega)) dX4_isSign_16 (gkr_ip ?_) gkt_ip
    refine g_iload_n (i := 1) h dX4_isSign_19 rfl rfl ?_
    refine g_icmp_ne (tgt := 38) h dX4_isSign_20 (by decide) (fun b20 => ?_) (fun b20 => ?_)
    · refine g_iconst (v := 0) h dX4_isSign_38 (by decide) ?_
      exact g_zret h ⟨by congr 3; first | (rw [show pSign (pT A) sz (p, f, r) x = false from sign_f (fun a b c => by first | exact b8 ((nI_z hf).mpr a) | exact b20 b | exact absurd ((nI_leI (by omega) (by omega)).mp b31) (by omega))]; rfl) | (rw [show pSign (pT A) sz (p, f, r) x = true from sign_t ((nI_z hf).mp b8) b20 (Nat.lt_of_not_le (fun q => b31 ((nI_leI (by omega) (by omega)).mpr q)))]; rfl), hM⟩ (Nat.le_refl _) (Nat.le_refl _) (by first | rfl | exact zB_nar _) dX4_isSign_39
    · refine g_aload_n (i := 0) h dX4_isSign_23 rfl rfl ?_
      refine m_get (v := .int (nI (pB (pT A) sz p))) h hM f_X4_155_4 rfl dX4_isSign_24 ?_
      refine g_aload_n (i := 0) h dX4_isSign_27 rfl rfl ?_
      refine m_get (v := .int (A 3 0)) h hM f_X4_152_4 rfl dX4_isSign_28 ?_
      refine G.int hsz ?_
      refine g_icmp_ge (tgt := 38) h dX4_isSign_31 (by decide) (fun b31 => ?_) (fun b31 => ?_)
      · refine g_iconst (v := 0) h dX4_isSign_38 (by decide) ?_
        exact g_zret h ⟨by congr 3; first | (rw [show pSign (pT A) sz (p, f, r) x = false from sign_f (fun a b c => by first | exact b8 ((nI_z hf).mpr a) | exact b20 b | exact absurd ((nI_leI (by omega) (by omega)).mp b31) (by omega))]; rfl) | (rw [show pSign (pT A) sz (p, f, r) x = true from sign_t ((nI_z hf).mp b8) b20 (Nat.lt_of_not_le (fun q => b31 ((nI_leI (by omega) (by omega)).mpr q)))]; rfl), hM⟩ (Nat.le_refl _) (Nat.le_refl _) (by first | rfl | exact zB_nar _) dX4_isSign_39
      · refine g_iconst (v := 1) h dX4_isSign_34 (by decide) ?_
        refine g_goto (tgt := 39) h dX4_isSign_35 (by decide) ?_
        exact g_zret h ⟨by congr 3; first | (rw [show pSign (pT A) sz (p, f, r) x = false from sign_f (fun a b c => by first | exact b8 ((nI_z hf).mpr a) | exact b20 b | exact absurd ((nI_leI (by omega) (by omega)).mp b31) (by omega))]; rfl) | (rw [show pSign (pT A) sz (p, f, r) x = true from sign_t ((nI_z hf).mp b8) b20 (Nat.lt_of_not_le (fun q => b31 ((nI_leI (by omega) (by omega)).mpr q)))]; rfl), hM⟩ (Nat.le_refl _) (Nat.le_refl _) (by first | rfl | exact zB_nar _) dX4_isSign_39
theorem ct_need {l : Launch} {g : gGP} (hk : gK l g) {c0 c : gLH} {mo : Nat} {ma : Nat → Nat} {cl ll : Nat} {A : Nat → Nat → Int32} {B : Nat → Nat → Int64} {n sz : Nat} {p f : Nat} {r : Int32 × Nat × List (Int32 × Int32)} (hM : MW c0 mo ma cl ll (rA A n (p, f, r)) B c) (hsz : A 3 0 = nI sz) (hz : sz ≤ 2000) (hp : p ≤ sz) (hf : f < 4) (x : Int32) : Ct l g yX4_need hwX4_need 3 120 [.ref mo, .int x] c (0) (0) (pI (zB (decide (f = 0) && pSign (pT A) sz (p, f, r) x)) (MW c0 mo ma cl ll (rA A n (pNeed (pT A) sz (p, f, r) x)) B)) := by
  refine Ct.intro hk hcX4_need (by decide +kernel) (Nat.le_of_ble_eq_true rfl) (fun φ h => ?_)
  refine g_aload_n (i := 0) h dX4_need_0 rfl rfl ?_
  refine m_get (v := .int (nI f)) h hM f_X4_162_4 rfl dX4_need_1 ?_
  refine g_if_le (tgt := 9) h dX4_need_4 (by decide) (fun b4 => ?_) (fun b4 => ?_)
  · refine g_aload_n (i := 0) h dX4_need_9 rfl rfl ?_
    refine g_iload_n (i := 1) h dX4_need_10 rfl rfl ?_
    refine g_invV h (ct_isSign h.k hM hsz hz hp hf _) hcX4_isSign w_X4_186 rfl rfl hM.obj (Nat.le_of_ble_eq_true rfl) ⟨Nat.le_of_ble_eq_true rfl, Nat.le_of_ble_eq_true rfl⟩ (by refine ⟨?_, ?_⟩ <;> first | exact Nat.le_refl _ | exact Nat.zero_le _ | (dsimp only; omega)) dX4_need_11 (gkr_i (fun c hM => ?_)) gkt_i
    refine g_if_ne (tgt := 27) h dX4_need_14 (by decide) (fun b14 => ?_) (fun b14 => ?_)
    · rw [zB_n0] at b14
      refine g_aload_n (i := 0) h dX4_need_27 rfl rfl ?_
      refine g_dup h dX4_need_28 rfl ?_
      refine m_get (v := .int (nI (pB (pT A) sz p))) h hM f_X4_155_4 rfl dX4_need_29 ?_
      refine g_iconst (v := nI 1) h dX4_need_32 (by decide) ?_
      first | (with_reducible refine g_iaddN h dX4_need_33 ?_) | refine g_iadd h dX4_need_33 ?_
      refine m_puti h hM mp_4 fp_X4_155_4 dX4_need_34 (fun c hM => ?_)
      rw [rA_4] at hM
      refine g_iconst (v := 1) h dX4_need_37 (by decide) ?_
      exact g_zret h ⟨by rw [b14, decide_eq_true ((nI_p hf).mp b4)]; rfl, by unfold pNeed; rw [if_pos (show f = 0 from (nI_p hf).mp b4), b14]; exact hM⟩ (Nat.le_refl _) (Nat.le_refl _) (by first | rfl | exact zB_nar _) dX4_need_38
    · rw [zB_0] at b14
      refine g_aload_n (i := 0) h dX4_need_17 rfl rfl ?_
      refine g_iconst (v := nI 1) h dX4_need_18 (by decide) ?_
      refine g_aload_n (i := 0) h dX4_need_19 rfl rfl ?_
      refine m_get (v := .int (nI (pB (pT A) sz p))) h hM f_X4_155_4 rfl dX4_need_20 ?_
      refine g_invV h (ct_wrong h.k hM 1 (nI (pB (pT A) sz p))) hcX4_wrong w_X4_189 rfl rfl hM.obj (Nat.le_of_ble_eq_true rfl) ⟨Nat.le_of_ble_eq_true rfl, Nat.le_of_ble_eq_true rfl⟩ (by refine ⟨?_, ?_⟩ <;> first | exact Nat.le_refl _ | exact Nat.zero_le _ | (dsimp only; omega)) dX4_need_23 (gkr_i (fun c hM => ?_)) gkt_i
      replace hM := rA_wrong (s := ((pB (pT A) sz p), f, r)) hf 1 (pB (pT A) sz p) ▸ hM
      exact g_zret h ⟨by rw [b14, Bool.and_false]; rfl, by unfold pNeed; rw [if_pos (show f = 0 from (nI_p hf).mp b4), b14]; exact hM⟩ (Nat.le_refl _) (Nat.le_refl _) (by first | rfl | exact zB_nar _) dX4_need_26
  · refine g_iconst (v := 0) h dX4_need_7 (by decide) ?_
    exact g_zret h ⟨by rw [decide_eq_false (fun q => b4 ((nI_p hf).mpr q))]; rfl, by unfold pNeed; rw [if_neg (show ¬ f = 0 from fun q => b4 ((nI_p hf).mpr q))]; exact hM⟩ (Nat.le_refl _) (Nat.le_refl _) (by first | rfl | exact zB_nar _) dX4_need_8
theorem ct_opens {l : Launch} {g : gGP} (hk : gK l g) {c0 c : gLH} {mo : Nat} {ma : Nat → Nat} {cl ll : Nat} {A : Nat → Nat → Int32} {B : Nat → Nat → Int64} {n sz : Nat} {p f o : Nat} {q : Int32} {cs : List (Int32 × Int32)} (hM : MW c0 mo ma cl ll (rA A n (p, f, q, o, cs)) B c) (hsz : A 3 0 = nI sz) (hz : sz ≤ 2000) (hf : f < 4) (ho : o ≤ 10) : Ct l g yX4_opens hwX4_opens 1 40 [.ref mo] c (0) (0) (pI (zB (!decide (o = 10))) (MW c0 mo ma cl ll (rA A n (pOpens (p, f, q, o, cs))) B)) := by
  refine Ct.intro hk hcX4_opens (by decide +kernel) (Nat.le_of_ble_eq_true rfl) (fun φ h => ?_)
  refine g_aload_n (i := 0) h dX4_opens_0 rfl rfl ?_
  refine m_get (v := .int (nI o)) h hM f_X4_228_4 rfl dX4_opens_1 ?_
  refine g_bipush (v := nI 10) h dX4_opens_4 (by decide) ?_
  refine g_icmp_ne (tgt := 19) h dX4_opens_6 (by decide) (fun b6 => ?_) (fun b6 => ?_)
  · refine g_aload_n (i := 0) h dX4_opens_19 rfl rfl ?_
    refine g_dup h dX4_opens_20 rfl ?_
    refine m_get (v := .int (nI o)) h hM f_X4_228_4 rfl dX4_opens_21 ?_
    refine g_iconst (v := nI 1) h dX4_opens_24 (by decide) ?_
    first | (with_reducible refine g_iaddN h dX4_opens_25 ?_) | refine g_iadd h dX4_opens_25 ?_
    refine m_puti h hM mp_7 fp_X4_228_4 dX4_opens_26 (fun c hM => ?_)
    rw [rA_7] at hM
    refine g_iconst (v := 1) h dX4_opens_29 (by decide) ?_
    exact g_zret h ⟨by rw [decide_eq_false (fun q => b6 (congrArg nI q))]; rfl, by unfold pOpens; rw [if_neg (show ¬ o = 10 from fun q => b6 (congrArg nI q))]; exact hM⟩ (Nat.le_refl _) (Nat.le_refl _) (by first | rfl | exact zB_nar _) dX4_opens_30
  · refine g_aload_n (i := 0) h dX4_opens_9 rfl rfl ?_
    refine g_iconst (v := nI 3) h dX4_opens_10 (by decide) ?_
    refine g_aload_n (i := 0) h dX4_opens_11 rfl rfl ?_
    refine m_get (v := .int (nI p)) h hM f_X4_155_4 rfl dX4_opens_12 ?_
    refine g_invV h (ct_wrong h.k hM 3 (nI p)) hcX4_wrong w_X4_189 rfl rfl hM.obj (Nat.le_of_ble_eq_true rfl) ⟨Nat.le_of_ble_eq_true rfl, Nat.le_of_ble_eq_true rfl⟩ (by refine ⟨?_, ?_⟩ <;> first | exact Nat.le_refl _ | exact Nat.zero_le _ | (dsimp only; omega)) dX4_opens_15 (gkr_i (fun c hM => ?_)) gkt_i
    replace hM := rA_wrong (s := (p, f, q, o, cs)) hf 3 p ▸ hM
    exact g_zret h ⟨by rw [decide_eq_true (nI_inj (b := 10) (by omega) (by omega) b6)]; rfl, by unfold pOpens; rw [if_pos (show o = 10 from nI_inj (b := 10) (by omega) (by omega) b6)]; exact hM⟩ (Nat.le_refl _) (Nat.le_refl _) (by first | rfl | exact zB_nar _) dX4_opens_18
