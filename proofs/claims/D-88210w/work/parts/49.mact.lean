/-! THE MODEL: act -/
set_option maxRecDepth 100000
/-- the clauses of act a, from clause k on -/
def pActs (T : Nat → Int32) (sz a n : Nat) : Nat → Nat → (Nat → Nat → Int32) → pSt → Nat × (Nat → Nat → Int32) × pSt
  | 0, k, A, s => (k, A, s)
  | m + 1, k, A, s => if s.2.1 = 0 ∧ s.1 < sz then pActs T sz a n m (k + 1) (pCl T sz (40 * a + k) k n A s).1 (pAt (pCl T sz (40 * a + k) k n A s).2 (pB T sz (pCl T sz (40 * a + k) k n A s).2.1)) else (k, A, s)
theorem hA_row {A : Nat → Nat → Int32} {w : Nat} {x : Int32 × Int32 × Int32} {j : Nat} (h : ¬ (10 ≤ j ∧ j ≤ 14)) : hA A w x j = A j := by
  unfold hA
  repeat' split
  all_goals simp only [mA_n _ _ _ (show j ≠ 10 by omega), mA_n _ _ _ (show j ≠ 11 by omega), mA_n _ _ _ (show j ≠ 12 by omega)]
theorem pCl_row {T : Nat → Int32} {sz w k n : Nat} {A : Nat → Nat → Int32} {s : pSt} {j : Nat} (h : ¬ (10 ≤ j ∧ j ≤ 14)) : (pCl T sz w k n A s).1 j = A j := by
  unfold pCl
  split
  · rfl
  · split
    · rfl
    · simp only [mA_n _ _ _ (show j ≠ 13 by omega), mA_n _ _ _ (show j ≠ 14 by omega), hA_row h]
theorem pCl_40 {T : Nat → Int32} {sz w n : Nat} {A : Nat → Nat → Int32} {s : pSt} (h : s.2.1 = 0) : ¬ (pCl T sz w 40 n A s).2.2.1 = 0 := by
  unfold pCl
  split
  · unfold pWrong; rw [if_pos (show (pAt s (pB T sz s.1)).2.1 = 0 from h)]; exact (by decide : ¬ (1 : Nat) = 0)
  · rw [if_pos rfl]; unfold pWrong; rw [if_pos (show (pAt s (pB T sz s.1)).2.1 = 0 from h)]; exact (by decide : ¬ (3 : Nat) = 0)
theorem pT_row {A A' : Nat → Nat → Int32} (h1 : A' 1 = A 1) (h3 : A' 3 = A 3) : pT A' = pT A := by
  funext i
  show sByte (A' 1) (A' 3 0) (nI i) = sByte (A 1) (A 3 0) (nI i)
  rw [h1, h3]
theorem pActs_len {T : Nat → Int32} {sz a n : Nat} (hT : pTz T sz) : ∀ (m k : Nat) (A : Nat → Nat → Int32) (s : pSt), s.1 ≤ sz → s.2.2.2.2.length ≤ (pActs T sz a n m k A s).2.2.2.2.2.2.length
  | 0, k, A, s, _ => Nat.le_refl _
  | m + 1, k, A, s, hs => by
    simp only [pActs]
    split
    · have g := (pCl_go hT (40 * a + k) k n A s hs).1
      refine Nat.le_trans g.2.2.2.2.1 ?_
      exact pActs_len hT m (k + 1) _ (pAt (pCl T sz (40 * a + k) k n A s).2 (pB T sz (pCl T sz (40 * a + k) k n A s).2.1)) (pB_sz T (g.2.1 hs))
    · exact Nat.le_refl _
theorem rA_begin {A : Nat → Nat → Int32} {n o : Nat} (h7 : A 7 0 = nI o) (h17 : A 17 0 = nI n) : mA (mA (mA A 4 0 0) 5 0 0) 6 0 (-1) = rA A n (0, 0, -1, o, []) := by
  funext i
  unfold mA va_up rA
  by_cases c6 : i = 6
  · subst c6; rfl
  by_cases c5 : i = 5
  · subst c5; rfl
  by_cases c4 : i = 4
  · subst c4; rfl
  by_cases c7 : i = 7
  · subst c7
    simp only [if_true, if_false, c6, c5, c4]
    funext j
    show A 7 j = upd (A 7) 0 (nI o) j
    unfold upd
    split
    · next h => rw [h, h7]
    · rfl
  by_cases c15 : i = 15
  · subst c15
    funext j
    show A 15 j = pApp (A 15) n [] j
    unfold pApp
    split <;> simp
  by_cases c16 : i = 16
  · subst c16
    funext j
    show A 16 j = pApp (A 16) n [] j
    unfold pApp
    split <;> simp
  by_cases c17 : i = 17
  · subst c17
    funext j
    show A 17 j = upd (A 17) 0 (nI (n + 0)) j
    unfold upd
    split
    · next h => rw [h, h17]; rfl
    · rfl
  simp only [c4, c5, c6, c7, c15, c16, c17, if_false]
def sActK (A : Nat → Nat → Int32) (x day : Int32) : Nat := if x < 0 then 1 else if A 2 0 < x then 1 else if day < 0 then 1 else if day ≤ 9999 then (if A 18 0 = 12 then 2 else 0) else 1
/-- the rows ahead of the reading -/
abbrev sAct0 (A : Nat → Nat → Int32) (sz : Nat) : Nat → Nat → Int32 := mA (mA (mA A 0 0 0) 3 0 (nI sz)) 2 0 0
def sActA (A : Nat → Nat → Int32) (n a k fr : Nat) (day : Int32) : Nat → Nat → Int32 := if fr = 0 then mA (mA (mA A 8 a (nI k)) 9 a day) 18 0 (nI (a + 1)) else mA A 17 0 (nI n)
theorem ct_actB {l : Launch} {g : gGP} (hk : gK l g) {c0 c : gLH} {mo : Nat} {ma : Nat → Nat} {cl ll : Nat} {A : Nat → Nat → Int32} {B : Nat → Nat → Int64} (hM : MW c0 mo ma cl ll A B c) (x day : Int32) (hK : ¬ sActK A x day = 0) : Ct l g yX4_act hwX4_act 1 40 [.ref mo, .int x, .int day] c (0) (0) (pI 0 (MW c0 mo ma cl ll (mA (mA A 0 0 0) 0 0 (nI (sActK A x day))) B)) := by
  refine Ct.intro hk hcX4_act (by decide +kernel) (Nat.le_of_ble_eq_true rfl) (fun φ h => ?_)
  refine g_aload_n (i := 0) h dX4_act_0 rfl rfl ?_
  refine g_iconst (v := 0) h dX4_act_1 (by decide) ?_
  refine m_puti h hM mp_0 fp_X4_146_4 dX4_act_2 (fun c hM => ?_)
  refine g_aload_n (i := 0) h dX4_act_5 rfl rfl ?_
  refine g_iload_n (i := 1) h dX4_act_6 rfl rfl ?_
  refine g_if_lt (tgt := 29) h dX4_act_7 (by decide) (fun b7 => ?_) (fun b7 => ?_)
  · refine g_iconst (v := 1) h dX4_act_29 (by decide) ?_
    refine g_goto (tgt := 34) h dX4_act_30 (by decide) ?_
    refine g_iconst (v := 1) h dX4_act_34 (by decide) ?_
    refine g_invV h (ct_bad h.k hM true 1) hcX4_bad w_X4_308 rfl rfl hM.obj (Nat.le_of_ble_eq_true rfl) ⟨Nat.le_of_ble_eq_true rfl, Nat.le_of_ble_eq_true rfl⟩ (by refine ⟨?_, ?_⟩ <;> first | exact Nat.le_refl _ | exact Nat.zero_le _ | (dsimp only; omega)) dX4_act_35 (gkr_i (fun c hM => ?_)) gkt_i
    replace hM := bad1 hM
    refine g_if_ne (tgt := 63) h dX4_act_38 (by decide) (fun _bz => ?_) (fun _bz => absurd _bz (by decide))
    refine g_iconst (v := 0) h dX4_act_63 (by decide) ?_
    exact g_iret h ⟨by simp [sActK, b7] <;> rfl, by simp [sActK, b7]; exact hM⟩ (Nat.le_refl _) (Nat.le_refl _) dX4_act_64
  · refine g_iload_n (i := 1) h dX4_act_10 rfl rfl ?_
    refine g_aload_n (i := 0) h dX4_act_11 rfl rfl ?_
    refine m_get (v := .int (A 2 0)) h hM f_X4_149_4 rfl dX4_act_12 ?_
    refine g_icmp_gt (tgt := 29) h dX4_act_15 (by decide) (fun b15 => ?_) (fun b15 => ?_)
    · refine g_iconst (v := 1) h dX4_act_29 (by decide) ?_
      refine g_goto (tgt := 34) h dX4_act_30 (by decide) ?_
      refine g_iconst (v := 1) h dX4_act_34 (by decide) ?_
      refine g_invV h (ct_bad h.k hM true 1) hcX4_bad w_X4_308 rfl rfl hM.obj (Nat.le_of_ble_eq_true rfl) ⟨Nat.le_of_ble_eq_true rfl, Nat.le_of_ble_eq_true rfl⟩ (by refine ⟨?_, ?_⟩ <;> first | exact Nat.le_refl _ | exact Nat.zero_le _ | (dsimp only; omega)) dX4_act_35 (gkr_i (fun c hM => ?_)) gkt_i
      replace hM := bad1 hM
      refine g_if_ne (tgt := 63) h dX4_act_38 (by decide) (fun _bz => ?_) (fun _bz => absurd _bz (by decide))
      refine g_iconst (v := 0) h dX4_act_63 (by decide) ?_
      exact g_iret h ⟨by simp [sActK, b7, b15] <;> rfl, by simp [sActK, b7, b15]; exact hM⟩ (Nat.le_refl _) (Nat.le_refl _) dX4_act_64
    · refine g_iload_n (i := 2) h dX4_act_18 rfl rfl ?_
      refine g_if_lt (tgt := 29) h dX4_act_19 (by decide) (fun b19 => ?_) (fun b19 => ?_)
      · refine g_iconst (v := 1) h dX4_act_29 (by decide) ?_
        refine g_goto (tgt := 34) h dX4_act_30 (by decide) ?_
        refine g_iconst (v := 1) h dX4_act_34 (by decide) ?_
        refine g_invV h (ct_bad h.k hM true 1) hcX4_bad w_X4_308 rfl rfl hM.obj (Nat.le_of_ble_eq_true rfl) ⟨Nat.le_of_ble_eq_true rfl, Nat.le_of_ble_eq_true rfl⟩ (by refine ⟨?_, ?_⟩ <;> first | exact Nat.le_refl _ | exact Nat.zero_le _ | (dsimp only; omega)) dX4_act_35 (gkr_i (fun c hM => ?_)) gkt_i
        replace hM := bad1 hM
        refine g_if_ne (tgt := 63) h dX4_act_38 (by decide) (fun _bz => ?_) (fun _bz => absurd _bz (by decide))
        refine g_iconst (v := 0) h dX4_act_63 (by decide) ?_
        exact g_iret h ⟨by simp [sActK, b7, b15, b19] <;> rfl, by simp [sActK, b7, b15, b19]; exact hM⟩ (Nat.le_refl _) (Nat.le_refl _) dX4_act_64
      · refine g_iload_n (i := 2) h dX4_act_22 rfl rfl ?_
        refine g_sipush (v := 9999) h dX4_act_23 (by decide) ?_
        refine g_icmp_le (tgt := 33) h dX4_act_26 (by decide) (fun b26 => ?_) (fun b26 => ?_)
        · refine g_iconst (v := 0) h dX4_act_33 (by decide) ?_
          refine g_iconst (v := 1) h dX4_act_34 (by decide) ?_
          refine g_invV h (ct_bad h.k hM false 1) hcX4_bad w_X4_308 rfl rfl hM.obj (Nat.le_of_ble_eq_true rfl) ⟨Nat.le_of_ble_eq_true rfl, Nat.le_of_ble_eq_true rfl⟩ (by refine ⟨?_, ?_⟩ <;> first | exact Nat.le_refl _ | exact Nat.zero_le _ | (dsimp only; omega)) dX4_act_35 (gkr_i (fun c hM => ?_)) gkt_i
          replace hM := bad0 hM
          refine g_if_ne (tgt := 63) h dX4_act_38 (by decide) (fun _bz => absurd _bz (by decide)) (fun _bz => ?_)
          refine g_aload_n (i := 0) h dX4_act_41 rfl rfl ?_
          refine g_aload_n (i := 0) h dX4_act_42 rfl rfl ?_
          refine m_get (v := .int (A 18 0)) h hM f_X4_289_4 rfl dX4_act_43 ?_
          refine g_bipush (v := 12) h dX4_act_46 (by decide) ?_
          refine g_icmp_ne (tgt := 55) h dX4_act_48 (by decide) (fun b48 => ?_) (fun b48 => ?_)
          · refine g_iconst (v := 0) h dX4_act_55 (by decide) ?_
            refine g_iconst (v := 2) h dX4_act_56 (by decide) ?_
            refine g_invV h (ct_bad h.k hM false 2) hcX4_bad w_X4_308 rfl rfl hM.obj (Nat.le_of_ble_eq_true rfl) ⟨Nat.le_of_ble_eq_true rfl, Nat.le_of_ble_eq_true rfl⟩ (by refine ⟨?_, ?_⟩ <;> first | exact Nat.le_refl _ | exact Nat.zero_le _ | (dsimp only; omega)) dX4_act_57 (gkr_i (fun c hM => ?_)) gkt_i
            replace hM := bad0 hM
            refine g_if_eq (tgt := 65) h dX4_act_60 (by decide) (fun _bz => ?_) (fun _bz => absurd _bz (by decide))
            exact absurd (by simp [sActK, b7, b15, b19, b26, b48]) hK
          · refine g_iconst (v := 1) h dX4_act_51 (by decide) ?_
            refine g_goto (tgt := 56) h dX4_act_52 (by decide) ?_
            refine g_iconst (v := 2) h dX4_act_56 (by decide) ?_
            refine g_invV h (ct_bad h.k hM true 2) hcX4_bad w_X4_308 rfl rfl hM.obj (Nat.le_of_ble_eq_true rfl) ⟨Nat.le_of_ble_eq_true rfl, Nat.le_of_ble_eq_true rfl⟩ (by refine ⟨?_, ?_⟩ <;> first | exact Nat.le_refl _ | exact Nat.zero_le _ | (dsimp only; omega)) dX4_act_57 (gkr_i (fun c hM => ?_)) gkt_i
            replace hM := bad1 hM
            refine g_if_eq (tgt := 65) h dX4_act_60 (by decide) (fun _bz => absurd _bz (by decide)) (fun _bz => ?_)
            refine g_iconst (v := 0) h dX4_act_63 (by decide) ?_
            exact g_iret h ⟨by simp [sActK, b7, b15, b19, b26, b48] <;> rfl, by simp [sActK, b7, b15, b19, b26, b48]; exact hM⟩ (Nat.le_refl _) (Nat.le_refl _) dX4_act_64
        · refine g_iconst (v := 1) h dX4_act_29 (by decide) ?_
          refine g_goto (tgt := 34) h dX4_act_30 (by decide) ?_
          refine g_iconst (v := 1) h dX4_act_34 (by decide) ?_
          refine g_invV h (ct_bad h.k hM true 1) hcX4_bad w_X4_308 rfl rfl hM.obj (Nat.le_of_ble_eq_true rfl) ⟨Nat.le_of_ble_eq_true rfl, Nat.le_of_ble_eq_true rfl⟩ (by refine ⟨?_, ?_⟩ <;> first | exact Nat.le_refl _ | exact Nat.zero_le _ | (dsimp only; omega)) dX4_act_35 (gkr_i (fun c hM => ?_)) gkt_i
          replace hM := bad1 hM
          refine g_if_ne (tgt := 63) h dX4_act_38 (by decide) (fun _bz => ?_) (fun _bz => absurd _bz (by decide))
          refine g_iconst (v := 0) h dX4_act_63 (by decide) ?_
          exact g_iret h ⟨by simp [sActK, b7, b15, b19, b26] <;> rfl, by simp [sActK, b7, b15, b19, b26]; exact hM⟩ (Nat.le_refl _) (Nat.le_refl _) dX4_act_64
theorem ct_act0 {l : Launch} {g : gGP} (hk : gK l g) {c0 c : gLH} {mo : Nat} {ma : Nat → Nat} {cl ll : Nat} {A AR : Nat → Nat → Int32} {B : Nat → Nat → Int64} (hM : MW c0 mo ma cl ll A B c) {sz n a o kr pr fr or_ : Nat} {qr : Int32} {csr : List (Int32 × Int32)} (day : Int32) (hs : gSS g) (hx : gLits RX4 xLits g c0) (hz : sz ≤ 2000) (hK : sActK A (nI sz) day = 0) (hcl : n ≤ cl ∧ 4 ≤ cl ∧ cl ≤ 200000 ∧ n ≤ 60000) (h7 : A 7 0 = nI o) (h17 : A 17 0 = nI n) (h18 : A 18 0 = nI a) (ha12 : a < 12) (hR : pActs (pT (sAct0 A sz)) sz a n (sz + 1) 0 (sAct0 A sz) (pB (pT (sAct0 A sz)) sz 0, 0, -1, o, []) = (kr, AR, (pr, fr, qr, or_, csr))) (mc ms : Nat) (hcost : pE cl n csr.length ≤ cl + mc ∧ 4 * pE cl n csr.length ≤ 4 * cl + ms) : Ct l g yX4_act hwX4_act 43 1720 [.ref mo, .int (nI sz), .int day] c (mc) (ms) (pI (if fr = 0 then nI a else nI fr - 10) (fun c' => ∃ ma', MW c0 mo ma' (pE cl n csr.length) ll (sActA (rA AR n (pr, fr, qr, or_, csr)) n a kr fr day) B c')) := by
  refine Ct.intro hk hcX4_act (by decide +kernel) (Nat.le_of_ble_eq_true rfl) (fun φ h => ?_)
  have hzz := hz
  obtain ⟨T, hTT⟩ : ∃ T, pT (sAct0 A sz) = T := ⟨_, rfl⟩
  have hF0 : pFix (sAct0 A sz) n sz cl := ⟨rfl, hz, hcl⟩
  have hTz : pTz T sz := by rw [← hTT]; exact hF0.tz
  rw [hTT] at hR
  have hpb0 : pB T sz 0 ≤ sz := pB_sz T (Nat.zero_le _)
  have hCB : ∀ (c : gLH) (ma : Nat → Nat), MW c0 mo ma (pE cl n ([] : List (Int32 × Int32)).length) ll (rA (sAct0 A sz) n (0, 0, -1, o, [])) B c → Ct l g yX4_blanks hwX4_blanks 1 40 [.ref mo] c 0 0 (pV (MW c0 mo ma (pE cl n ([] : List (Int32 × Int32)).length) ll (rA (sAct0 A sz) n (pB T sz 0, 0, -1, o, [])) B)) := by
    intro c ma hM
    have hh := ct_blanks hk hM rfl hz (by decide)
    rw [hTT] at hh
    exact hh
  have loop : ∀ (m k : Nat) (A1 : Nat → Nat → Int32) (p f : Nat) (q : Int32) (o : Nat) (cs : List (Int32 × Int32)) (c : gLH) (ma : Nat → Nat) (ce sl : Nat), pActs T sz a n m k A1 (p, f, q, o, cs) = (kr, AR, (pr, fr, qr, or_, csr)) → 1 ≤ m → (f = 0 → sz + 1 ≤ p + m) → pB T sz p = p → p ≤ sz → f < 4 → (f = 0 → k ≤ 40) → cs.length ≤ p → pT A1 = T → A1 3 0 = nI sz → A1 18 0 = nI a → ce + cl ≤ pE cl n cs.length → sl + 4 * cl ≤ 4 * pE cl n cs.length →
      MW c0 mo ma (pE cl n cs.length) ll (rA A1 n (p, f, q, o, cs)) B c → G φ (gQ φ (pI (if fr = 0 then nI a else nI fr - 10) (fun c' => ∃ ma', MW c0 mo ma' (pE cl n csr.length) ll (sActA (rA AR n (pr, fr, qr, or_, csr)) n a kr fr day) B c')) mc ms) 102 [(0, .ref mo), (1, .int (nI sz)), (2, .int day), (3, .int (nI n)), (4, .int (nI k))] [] c ce sl := by
    intro m
    induction m with
    | zero => intro k A1 p f q o cs c ma ce sl hres h1; omega
    | succ m ih =>
      intro k A1 p f q o cs c ma ce sl hres h1 hm hpp hp hf hk0 hct hTi h3 h18 hce hsl hM
      have eR := pActs_len (T := T) (a := a) (n := n) hTz (m + 1) k A1 (p, f, q, o, cs) hp
      rw [hres] at eR
      have eR2 := pE_mono (cl := cl) (n := n) eR
      dsimp only at eR2
      simp only [pActs] at hres
      by_cases hf0 : f = 0
      case neg =>
        rw [if_neg (fun q => hf0 q.1)] at hres
        simp only [Prod.mk.injEq] at hres
        obtain ⟨rfl, rfl, rfl, rfl, rfl, rfl, rfl⟩ := hres
        refine g_aload_n (i := 0) h dX4_act_102 rfl rfl ?_
        refine m_get (v := .int (nI f)) h hM f_X4_162_4 rfl dX4_act_103 ?_
        refine g_if_ne (tgt := 136) h dX4_act_106 (by decide) (fun b106 => ?_) (fun _bz => absurd _bz (fun q => hf0 ((nI_z hf).mp q)))
        refine g_aload_n (i := 0) h dX4_act_136 rfl rfl ?_
        refine m_get (v := .int (nI f)) h hM f_X4_162_4 rfl dX4_act_137 ?_
        refine g_if_le (tgt := 156) h dX4_act_140 (by decide) (fun _bz => absurd _bz (fun q => hf0 ((nI_p hf).mp q))) (fun b140 => ?_)
        refine g_aload_n (i := 0) h dX4_act_143 rfl rfl ?_
        refine g_iload_n (i := 3) h dX4_act_144 rfl rfl ?_
        refine m_puti h hM mp_17 fp_X4_204_4 dX4_act_145 (fun c hM => ?_)
        refine g_aload_n (i := 0) h dX4_act_148 rfl rfl ?_
        refine m_get (v := .int (nI f)) h hM f_X4_162_4 rfl dX4_act_149 ?_
        refine g_bipush (v := 10) h dX4_act_152 (by decide) ?_
        refine g_isub h dX4_act_154 ?_
        exact g_iret h ⟨by rw [if_neg hf0], _, by unfold sActA; rw [if_neg hf0]; exact hM⟩ (by (try dsimp only); omega) (by (try dsimp only); omega) dX4_act_155
      subst hf0
      by_cases hps : p < sz
      case neg =>
        rw [if_neg (fun q => hps q.2)] at hres
        simp only [Prod.mk.injEq] at hres
        obtain ⟨rfl, rfl, rfl, rfl, rfl, rfl, rfl⟩ := hres
        refine g_aload_n (i := 0) h dX4_act_102 rfl rfl ?_
        refine m_get (v := .int (nI 0)) h hM f_X4_162_4 rfl dX4_act_103 ?_
        refine g_if_ne (tgt := 136) h dX4_act_106 (by decide) (fun _bz => absurd _bz (by decide)) (fun b106 => ?_)
        refine g_aload_n (i := 0) h dX4_act_109 rfl rfl ?_
        refine m_get (v := .int (nI p)) h hM f_X4_155_4 rfl dX4_act_110 ?_
        refine g_aload_n (i := 0) h dX4_act_113 rfl rfl ?_
        refine m_get (v := .int (nI sz)) h hM f_X4_152_4 (by rw [← h3]; rfl) dX4_act_114 ?_
        refine g_icmp_ge (tgt := 136) h dX4_act_117 (by decide) (fun b117 => ?_) (fun _bz => absurd _bz (not_not_intro ((nI_leI (by omega) (by omega)).mpr (by omega))))
        refine g_aload_n (i := 0) h dX4_act_136 rfl rfl ?_
        refine m_get (v := .int (nI 0)) h hM f_X4_162_4 rfl dX4_act_137 ?_
        refine g_if_le (tgt := 156) h dX4_act_140 (by decide) (fun b140 => ?_) (fun _bz => absurd _bz (by decide))
        refine g_aload_n (i := 0) h dX4_act_156 rfl rfl ?_
        refine m_get h hM f_X4_17_4 rfl dX4_act_157 ?_
        refine g_aload_n (i := 0) h dX4_act_160 rfl rfl ?_
        refine m_get (v := .int (nI a)) h hM f_X4_289_4 (by rw [← h18]; rfl) dX4_act_161 ?_
        refine g_iload h dX4_act_164 rfl ?_
        refine m_iast (k := 8) h hM rfl rfl (by show a < 12; omega) dX4_act_166 (fun c hM => ?_)
        refine g_aload_n (i := 0) h dX4_act_167 rfl rfl ?_
        refine m_get h hM f_X4_21_4 rfl dX4_act_168 ?_
        refine g_aload_n (i := 0) h dX4_act_171 rfl rfl ?_
        refine m_get (v := .int (nI a)) h hM f_X4_289_4 (by rw [← h18]; rfl) dX4_act_172 ?_
        refine g_iload_n (i := 2) h dX4_act_175 rfl rfl ?_
        refine m_iast (k := 9) h hM rfl rfl (by show a < 12; omega) dX4_act_176 (fun c hM => ?_)
        refine g_aload_n (i := 0) h dX4_act_177 rfl rfl ?_
        refine g_dup h dX4_act_178 rfl ?_
        refine m_get (v := .int (nI a)) h hM f_X4_289_4 (by rw [← h18]; rfl) dX4_act_179 ?_
        refine g_iconst (v := nI 1) h dX4_act_182 (by decide) ?_
        first | (with_reducible refine g_iaddN h dX4_act_183 ?_) | refine g_iadd h dX4_act_183 ?_
        refine m_puti h hM mp_18 fp_X4_289_4 dX4_act_184 (fun c hM => ?_)
        refine g_aload_n (i := 0) h dX4_act_187 rfl rfl ?_
        refine m_get (v := .int (nI (a + 1))) h hM f_X4_289_4 rfl dX4_act_188 ?_
        refine g_iconst (v := 1) h dX4_act_191 (by decide) ?_
        refine g_isub h dX4_act_192 ?_
        exact g_iret h ⟨by rw [if_pos rfl, nI_pred], _, by unfold sActA; rw [if_pos rfl]; exact hM⟩ (by (try dsimp only); omega) (by (try dsimp only); omega) dX4_act_193
      case pos =>
        rw [if_pos ⟨rfl, hps⟩] at hres
        have hFi : pFix A1 n sz cl := ⟨h3, hz, hcl⟩
        have gC := pCl_go hTz (40 * a + k) k n A1 (p, 0, q, o, cs) hp
        have r1 := pCl_row (T := T) (sz := sz) (w := 40 * a + k) (k := k) (n := n) (A := A1) (s := (p, 0, q, o, cs)) (j := 1) (by decide)
        have r3 := pCl_row (T := T) (sz := sz) (w := 40 * a + k) (k := k) (n := n) (A := A1) (s := (p, 0, q, o, cs)) (j := 3) (by decide)
        have r18 := pCl_row (T := T) (sz := sz) (w := 40 * a + k) (k := k) (n := n) (A := A1) (s := (p, 0, q, o, cs)) (j := 18) (by decide)
        have h40 : k = 40 → ¬ (pCl T sz (40 * a + k) k n A1 (p, 0, q, o, cs)).2.2.1 = 0 := fun e => by subst e; exact pCl_40 rfl
        rcases hcl2 : pCl T sz (40 * a + k) k n A1 (p, 0, q, o, cs) with ⟨A2, p2, f2, q2, o2, cs2⟩
        rw [hcl2] at hres gC r1 r3 r18 h40
        have hcl := hcl2
        dsimp only [pAt] at hres r1 r3 r18 h40
        obtain ⟨⟨g1, g2, g3, g4, g5, g6, g7⟩, g8⟩ := gC
        dsimp only at g1 g2 g3 g5 g6 g8
        have hp2 := g2 hp
        have hf2 := g3 (by decide)
        have g8 := g8 rfl
        have hpb2 := pB_sz T hp2
        have hpg2 := pB_ge T sz p2
        have hT2 : pT A2 = T := (pT_row r1 r3).trans hTi
        have h32 : A2 3 0 = nI sz := by rw [r3]; exact h3
        have h182 : A2 18 0 = nI a := by rw [r18]; exact h18
        have e2 : pE cl n cs.length ≤ pE cl n cs2.length := pE_mono (cl := cl) (n := n) g5
        have eR3 := pActs_len (T := T) (a := a) (n := n) hTz m (k + 1) A2 (pB T sz p2, f2, q2, o2, cs2) hpb2
        rw [hres] at eR3
        have eR4 : pE cl n cs2.length ≤ pE cl n csr.length := pE_mono (cl := cl) (n := n) eR3
        have hk40 := hk0 rfl
        have hk0' : f2 = 0 → k + 1 ≤ 40 := fun e => by
          by_cases e40 : k = 40
          · exact absurd e (h40 e40)
          · omega
        have hCB2 : ∀ (c : gLH) (ma : Nat → Nat), MW c0 mo ma (pE cl n cs2.length) ll (rA A2 n (p2, f2, q2, o2, cs2)) B c → Ct l g yX4_blanks hwX4_blanks 1 40 [.ref mo] c 0 0 (pV (MW c0 mo ma (pE cl n cs2.length) ll (rA A2 n (pB T sz p2, f2, q2, o2, cs2)) B)) := by
          intro c ma hM
          have hh := ct_blanks hk hM h32 hz (by omega)
          rw [hT2] at hh
          exact hh
        refine g_aload_n (i := 0) h dX4_act_102 rfl rfl ?_
        refine m_get (v := .int (nI 0)) h hM f_X4_162_4 rfl dX4_act_103 ?_
        refine g_if_ne (tgt := 136) h dX4_act_106 (by decide) (fun _bz => absurd _bz (by decide)) (fun b106 => ?_)
        refine g_aload_n (i := 0) h dX4_act_109 rfl rfl ?_
        refine m_get (v := .int (nI p)) h hM f_X4_155_4 rfl dX4_act_110 ?_
        refine g_aload_n (i := 0) h dX4_act_113 rfl rfl ?_
        refine m_get (v := .int (nI sz)) h hM f_X4_152_4 (by rw [← h3]; rfl) dX4_act_114 ?_
        refine g_icmp_ge (tgt := 136) h dX4_act_117 (by decide) (fun _bz => absurd _bz (fun q => absurd ((nI_leI (by omega) (by omega)).mp q) (by omega))) (fun b117 => ?_)
        refine g_aload_n (i := 0) h dX4_act_120 rfl rfl ?_
        refine g_iload h dX4_act_121 rfl ?_
        refine g_invV h (ct_clause (csr := cs2) h.k hFi hs hx hM hp (by omega) h18 ha12 (hk40) (pE cl n cs2.length - pE cl n cs.length) (4 * (pE cl n cs2.length - pE cl n cs.length)) (by omega) (by rw [hTi]; exact hcl)) hcX4_clause w_X4_312 rfl rfl hM.obj (Nat.le_of_ble_eq_true rfl) ⟨Nat.le_of_ble_eq_true rfl, Nat.le_of_ble_eq_true rfl⟩ (by refine ⟨?_, ?_⟩ <;> ((try dsimp only); omega)) dX4_act_123 (gkr_v (fun c hM => ?_)) gkt_v
        obtain ⟨ma, hM⟩ := hM
        first | (with_reducible refine g_iincN h dX4_act_126 rfl (by decide) ?_) | refine g_iinc1 h dX4_act_126 rfl (by decide) ?_
        refine g_aload_n (i := 0) h dX4_act_129 rfl rfl ?_
        refine g_invV h (hCB2 c ma hM) hcX4_blanks w_X4_165 rfl rfl hM.obj (Nat.le_of_ble_eq_true rfl) ⟨Nat.le_of_ble_eq_true rfl, Nat.le_of_ble_eq_true rfl⟩ (by refine ⟨?_, ?_⟩ <;> ((try dsimp only); omega)) dX4_act_130 (gkr_v (fun c hM => ?_)) gkt_v
        refine g_goto (tgt := 102) h dX4_act_133 (by decide) ?_
        exact G.to (ih (k + 1) A2 (pB T sz p2) f2 q2 o2 cs2 c ma _ _ hres (by omega) (fun e => by have := g8 e; omega) (pB_idem T) hpb2 hf2 hk0' (by omega) hT2 h32 h182 (by omega) (by omega) hM) ⟨rfl, rfl, rfl, rfl, rfl, trivial⟩
  refine g_aload_n (i := 0) h dX4_act_0 rfl rfl ?_
  refine g_iconst (v := 0) h dX4_act_1 (by decide) ?_
  refine m_puti h hM mp_0 fp_X4_146_4 dX4_act_2 (fun c hM => ?_)
  refine g_aload_n (i := 0) h dX4_act_5 rfl rfl ?_
  refine g_iload_n (i := 1) h dX4_act_6 rfl rfl ?_
  refine g_if_lt (tgt := 29) h dX4_act_7 (by decide) (fun b7 => ?_) (fun b7 => ?_)
  · refine g_iconst (v := 1) h dX4_act_29 (by decide) ?_
    refine g_goto (tgt := 34) h dX4_act_30 (by decide) ?_
    refine g_iconst (v := 1) h dX4_act_34 (by decide) ?_
    refine g_invV h (ct_bad h.k hM true 1) hcX4_bad w_X4_308 rfl rfl hM.obj (Nat.le_of_ble_eq_true rfl) ⟨Nat.le_of_ble_eq_true rfl, Nat.le_of_ble_eq_true rfl⟩ (by refine ⟨?_, ?_⟩ <;> first | exact Nat.le_refl _ | exact Nat.zero_le _ | (dsimp only; omega)) dX4_act_35 (gkr_i (fun c hM => ?_)) gkt_i
    replace hM := bad1 hM
    refine g_if_ne (tgt := 63) h dX4_act_38 (by decide) (fun _bz => ?_) (fun _bz => absurd _bz (by decide))
    refine g_iconst (v := 0) h dX4_act_63 (by decide) ?_
    exact absurd hK (by simp [sActK, b7])
  · refine g_iload_n (i := 1) h dX4_act_10 rfl rfl ?_
    refine g_aload_n (i := 0) h dX4_act_11 rfl rfl ?_
    refine m_get (v := .int (A 2 0)) h hM f_X4_149_4 rfl dX4_act_12 ?_
    refine g_icmp_gt (tgt := 29) h dX4_act_15 (by decide) (fun b15 => ?_) (fun b15 => ?_)
    · refine g_iconst (v := 1) h dX4_act_29 (by decide) ?_
      refine g_goto (tgt := 34) h dX4_act_30 (by decide) ?_
      refine g_iconst (v := 1) h dX4_act_34 (by decide) ?_
      refine g_invV h (ct_bad h.k hM true 1) hcX4_bad w_X4_308 rfl rfl hM.obj (Nat.le_of_ble_eq_true rfl) ⟨Nat.le_of_ble_eq_true rfl, Nat.le_of_ble_eq_true rfl⟩ (by refine ⟨?_, ?_⟩ <;> first | exact Nat.le_refl _ | exact Nat.zero_le _ | (dsimp only; omega)) dX4_act_35 (gkr_i (fun c hM => ?_)) gkt_i
      replace hM := bad1 hM
      refine g_if_ne (tgt := 63) h dX4_act_38 (by decide) (fun _bz => ?_) (fun _bz => absurd _bz (by decide))
      refine g_iconst (v := 0) h dX4_act_63 (by decide) ?_
      exact absurd hK (by simp [sActK, b7, b15])
    · refine g_iload_n (i := 2) h dX4_act_18 rfl rfl ?_
      refine g_if_lt (tgt := 29) h dX4_act_19 (by decide) (fun b19 => ?_) (fun b19 => ?_)
      · refine g_iconst (v := 1) h dX4_act_29 (by decide) ?_
        refine g_goto (tgt := 34) h dX4_act_30 (by decide) ?_
        refine g_iconst (v := 1) h dX4_act_34 (by decide) ?_
        refine g_invV h (ct_bad h.k hM true 1) hcX4_bad w_X4_308 rfl rfl hM.obj (Nat.le_of_ble_eq_true rfl) ⟨Nat.le_of_ble_eq_true rfl, Nat.le_of_ble_eq_true rfl⟩ (by refine ⟨?_, ?_⟩ <;> first | exact Nat.le_refl _ | exact Nat.zero_le _ | (dsimp only; omega)) dX4_act_35 (gkr_i (fun c hM => ?_)) gkt_i
        replace hM := bad1 hM
        refine g_if_ne (tgt := 63) h dX4_act_38 (by decide) (fun _bz => ?_) (fun _bz => absurd _bz (by decide))
        refine g_iconst (v := 0) h dX4_act_63 (by decide) ?_
        exact absurd hK (by simp [sActK, b7, b15, b19])
      · refine g_iload_n (i := 2) h dX4_act_22 rfl rfl ?_
        refine g_sipush (v := 9999) h dX4_act_23 (by decide) ?_
        refine g_icmp_le (tgt := 33) h dX4_act_26 (by decide) (fun b26 => ?_) (fun b26 => ?_)
        · refine g_iconst (v := 0) h dX4_act_33 (by decide) ?_
          refine g_iconst (v := 1) h dX4_act_34 (by decide) ?_
          refine g_invV h (ct_bad h.k hM false 1) hcX4_bad w_X4_308 rfl rfl hM.obj (Nat.le_of_ble_eq_true rfl) ⟨Nat.le_of_ble_eq_true rfl, Nat.le_of_ble_eq_true rfl⟩ (by refine ⟨?_, ?_⟩ <;> first | exact Nat.le_refl _ | exact Nat.zero_le _ | (dsimp only; omega)) dX4_act_35 (gkr_i (fun c hM => ?_)) gkt_i
          replace hM := bad0 hM
          refine g_if_ne (tgt := 63) h dX4_act_38 (by decide) (fun _bz => absurd _bz (by decide)) (fun _bz => ?_)
          refine g_aload_n (i := 0) h dX4_act_41 rfl rfl ?_
          refine g_aload_n (i := 0) h dX4_act_42 rfl rfl ?_
          refine m_get (v := .int (A 18 0)) h hM f_X4_289_4 rfl dX4_act_43 ?_
          refine g_bipush (v := 12) h dX4_act_46 (by decide) ?_
          refine g_icmp_ne (tgt := 55) h dX4_act_48 (by decide) (fun b48 => ?_) (fun b48 => ?_)
          · refine g_iconst (v := 0) h dX4_act_55 (by decide) ?_
            refine g_iconst (v := 2) h dX4_act_56 (by decide) ?_
            refine g_invV h (ct_bad h.k hM false 2) hcX4_bad w_X4_308 rfl rfl hM.obj (Nat.le_of_ble_eq_true rfl) ⟨Nat.le_of_ble_eq_true rfl, Nat.le_of_ble_eq_true rfl⟩ (by refine ⟨?_, ?_⟩ <;> first | exact Nat.le_refl _ | exact Nat.zero_le _ | (dsimp only; omega)) dX4_act_57 (gkr_i (fun c hM => ?_)) gkt_i
            replace hM := bad0 hM
            refine g_if_eq (tgt := 65) h dX4_act_60 (by decide) (fun _bz => ?_) (fun _bz => absurd _bz (by decide))
            refine g_aload_n (i := 0) h dX4_act_65 rfl rfl ?_
            refine g_iload_n (i := 1) h dX4_act_66 rfl rfl ?_
            refine m_puti h hM mp_3 fp_X4_152_4 dX4_act_67 (fun c hM => ?_)
            refine g_aload_n (i := 0) h dX4_act_70 rfl rfl ?_
            refine g_iconst (v := 0) h dX4_act_71 (by decide) ?_
            refine m_puti h hM mp_2 fp_X4_149_4 dX4_act_72 (fun c hM => ?_)
            refine g_aload_n (i := 0) h dX4_act_75 rfl rfl ?_
            refine g_iconst (v := 0) h dX4_act_76 (by decide) ?_
            refine m_puti h hM mp_4 fp_X4_155_4 dX4_act_77 (fun c hM => ?_)
            refine g_aload_n (i := 0) h dX4_act_80 rfl rfl ?_
            refine g_iconst (v := 0) h dX4_act_81 (by decide) ?_
            refine m_puti h hM mp_5 fp_X4_162_4 dX4_act_82 (fun c hM => ?_)
            refine g_aload_n (i := 0) h dX4_act_85 rfl rfl ?_
            refine g_iconst (v := (-1)) h dX4_act_86 (by decide) ?_
            refine m_puti h hM mp_6 fp_X4_13_4 dX4_act_87 (fun c hM => ?_)
            replace hM : MW c0 mo ma (pE cl n ([] : List (Int32 × Int32)).length) ll (rA (sAct0 A sz) n (0, 0, -1, o, [])) B c := rA_begin (A := sAct0 A sz) h7 h17 ▸ hM
            refine g_aload_n (i := 0) h dX4_act_90 rfl rfl ?_
            refine m_get (v := .int (nI n)) h hM f_X4_204_4 rfl dX4_act_91 ?_
            refine g_istore_n (i := 3) h dX4_act_94 rfl (by decide) ?_
            refine g_iconst (v := nI 0) h dX4_act_95 (by decide) ?_
            refine g_istore h dX4_act_96 (by decide) ?_
            refine g_aload_n (i := 0) h dX4_act_98 rfl rfl ?_
            refine g_invV h (hCB c ma hM) hcX4_blanks w_X4_165 rfl rfl hM.obj (Nat.le_of_ble_eq_true rfl) (by refine ⟨?_, ?_⟩ <;> ((try dsimp only); omega)) (by refine ⟨?_, ?_⟩ <;> ((try dsimp only); omega)) dX4_act_99 (gkr_v (fun c hM => ?_)) gkt_v
            exact G.to (loop (sz + 1) 0 (sAct0 A sz) (pB T sz 0) 0 (-1) o [] c ma _ _ hR (by omega) (fun _ => by omega) (pB_idem T) hpb0 (by decide) (fun _ => Nat.zero_le _) (Nat.zero_le _) hTT rfl h18 (by show _ + cl ≤ cl; omega) (by show _ + 4 * cl ≤ 4 * cl; omega) hM) ⟨rfl, rfl, rfl, rfl, rfl, trivial⟩
          · refine g_iconst (v := 1) h dX4_act_51 (by decide) ?_
            refine g_goto (tgt := 56) h dX4_act_52 (by decide) ?_
            refine g_iconst (v := 2) h dX4_act_56 (by decide) ?_
            refine g_invV h (ct_bad h.k hM true 2) hcX4_bad w_X4_308 rfl rfl hM.obj (Nat.le_of_ble_eq_true rfl) ⟨Nat.le_of_ble_eq_true rfl, Nat.le_of_ble_eq_true rfl⟩ (by refine ⟨?_, ?_⟩ <;> first | exact Nat.le_refl _ | exact Nat.zero_le _ | (dsimp only; omega)) dX4_act_57 (gkr_i (fun c hM => ?_)) gkt_i
            replace hM := bad1 hM
            refine g_if_eq (tgt := 65) h dX4_act_60 (by decide) (fun _bz => absurd _bz (by decide)) (fun _bz => ?_)
            refine g_iconst (v := 0) h dX4_act_63 (by decide) ?_
            exact absurd hK (by simp [sActK, b7, b15, b19, b26, b48])
        · refine g_iconst (v := 1) h dX4_act_29 (by decide) ?_
          refine g_goto (tgt := 34) h dX4_act_30 (by decide) ?_
          refine g_iconst (v := 1) h dX4_act_34 (by decide) ?_
          refine g_invV h (ct_bad h.k hM true 1) hcX4_bad w_X4_308 rfl rfl hM.obj (Nat.le_of_ble_eq_true rfl) ⟨Nat.le_of_ble_eq_true rfl, Nat.le_of_ble_eq_true rfl⟩ (by refine ⟨?_, ?_⟩ <;> first | exact Nat.le_refl _ | exact Nat.zero_le _ | (dsimp only; omega)) dX4_act_35 (gkr_i (fun c hM => ?_)) gkt_i
          replace hM := bad1 hM
          refine g_if_ne (tgt := 63) h dX4_act_38 (by decide) (fun _bz => ?_) (fun _bz => absurd _bz (by decide))
          refine g_iconst (v := 0) h dX4_act_63 (by decide) ?_
          exact absurd hK (by simp [sActK, b7, b15, b19, b26])
