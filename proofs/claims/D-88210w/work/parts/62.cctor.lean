/-! THE COMPONENT: constructors, 2 -/
set_option maxRecDepth 100000
theorem ct_X9init9 {l : Launch} {g : gGP} (hk : gK l g) {c : gLH} {a r : Nat} {x0 x1 : Value} (a0 : Int32) (hr : r < gSB) (hc : c a = some (r, .inr (9, [x0, x1]))) : Ct l g yX9_init hwX9_init 2 80 [.ref a, .int a0] c (0) (0) (pV (fun c' => c' = va_up c a (some (r, .inr (9, [.int a0, x1]))))) := by
  refine Ct.intro hk hcX9_init (by decide +kernel) (Nat.le_of_ble_eq_true rfl) (fun φ h => ?_)
  refine g_aload_n (i := 0) h dX9_init_0 rfl rfl ?_
  refine g_iload_n (i := 1) h dX9_init_1 rfl rfl ?_
  refine g_invI h (ct_X8init9 h.k a0 hr hc) w_X9_1 rfl rfl (Nat.le_of_ble_eq_true rfl) ⟨Nat.le_of_ble_eq_true rfl, Nat.le_of_ble_eq_true rfl⟩ (by refine ⟨?_, ?_⟩ <;> first | exact Nat.le_refl _ | exact Nat.zero_le _ | (dsimp only; omega)) dX9_init_2 (gkr_v (fun c1 e1 => ?_)) gkt_v
  subst e1
  exact g_vret h ⟨rfl, rfl⟩ (Nat.le_refl _) (Nat.le_refl _) dX9_init_5
theorem ct_X10init10 {l : Launch} {g : gGP} (hk : gK l g) {c : gLH} {a r : Nat} {x0 x1 x2 : Value} (a0 : Int32) (a1 : Int64) (hr : r < gSB) (hc : c a = some (r, .inr (10, [x0, x1, x2]))) : Ct l g yX10_init hwX10_init 2 80 [.ref a, .int a0, .long a1] c (0) (0) (pV (fun c' => c' = va_up c a (some (r, .inr (10, [.int a0, x1, .long a1]))))) := by
  refine Ct.intro hk hcX10_init (by decide +kernel) (Nat.le_of_ble_eq_true rfl) (fun φ h => ?_)
  refine g_aload_n (i := 0) h dX10_init_0 rfl rfl ?_
  refine g_iload_n (i := 1) h dX10_init_1 rfl rfl ?_
  refine g_invI h (ct_X8init10 h.k a0 hr hc) w_X10_1 rfl rfl (Nat.le_of_ble_eq_true rfl) ⟨Nat.le_of_ble_eq_true rfl, Nat.le_of_ble_eq_true rfl⟩ (by refine ⟨?_, ?_⟩ <;> first | exact Nat.le_refl _ | exact Nat.zero_le _ | (dsimp only; omega)) dX10_init_2 (gkr_v (fun c1 e1 => ?_)) gkt_v
  subst e1
  refine g_aload_n (i := 0) h dX10_init_5 rfl rfl ?_
  refine g_lload_n (i := 2) h dX10_init_6 rfl rfl ?_
  refine g_putF h rfl fp_X10_7_10 (va_up_s _ _ _) hr (Nat.le_of_ble_eq_true rfl) rfl rfl dX10_init_7 ?_
  exact g_vret h ⟨rfl, by simp only [va_up_up]; rfl⟩ (Nat.le_refl _) (Nat.le_refl _) dX10_init_10
theorem ct_X10init11 {l : Launch} {g : gGP} (hk : gK l g) {c : gLH} {a r : Nat} {x0 x1 x2 : Value} (a0 : Int32) (a1 : Int64) (hr : r < gSB) (hc : c a = some (r, .inr (11, [x0, x1, x2]))) : Ct l g yX10_init hwX10_init 2 80 [.ref a, .int a0, .long a1] c (0) (0) (pV (fun c' => c' = va_up c a (some (r, .inr (11, [.int a0, x1, .long a1]))))) := by
  refine Ct.intro hk hcX10_init (by decide +kernel) (Nat.le_of_ble_eq_true rfl) (fun φ h => ?_)
  refine g_aload_n (i := 0) h dX10_init_0 rfl rfl ?_
  refine g_iload_n (i := 1) h dX10_init_1 rfl rfl ?_
  refine g_invI h (ct_X8init11 h.k a0 hr hc) w_X10_1 rfl rfl (Nat.le_of_ble_eq_true rfl) ⟨Nat.le_of_ble_eq_true rfl, Nat.le_of_ble_eq_true rfl⟩ (by refine ⟨?_, ?_⟩ <;> first | exact Nat.le_refl _ | exact Nat.zero_le _ | (dsimp only; omega)) dX10_init_2 (gkr_v (fun c1 e1 => ?_)) gkt_v
  subst e1
  refine g_aload_n (i := 0) h dX10_init_5 rfl rfl ?_
  refine g_lload_n (i := 2) h dX10_init_6 rfl rfl ?_
  refine g_putF h rfl fp_X10_7_11 (va_up_s _ _ _) hr (Nat.le_of_ble_eq_true rfl) rfl rfl dX10_init_7 ?_
  exact g_vret h ⟨rfl, by simp only [va_up_up]; rfl⟩ (Nat.le_refl _) (Nat.le_refl _) dX10_init_10
theorem ct_X10init12 {l : Launch} {g : gGP} (hk : gK l g) {c : gLH} {a r : Nat} {x0 x1 x2 : Value} (a0 : Int32) (a1 : Int64) (hr : r < gSB) (hc : c a = some (r, .inr (12, [x0, x1, x2]))) : Ct l g yX10_init hwX10_init 2 80 [.ref a, .int a0, .long a1] c (0) (0) (pV (fun c' => c' = va_up c a (some (r, .inr (12, [.int a0, x1, .long a1]))))) := by
  refine Ct.intro hk hcX10_init (by decide +kernel) (Nat.le_of_ble_eq_true rfl) (fun φ h => ?_)
  refine g_aload_n (i := 0) h dX10_init_0 rfl rfl ?_
  refine g_iload_n (i := 1) h dX10_init_1 rfl rfl ?_
  refine g_invI h (ct_X8init12 h.k a0 hr hc) w_X10_1 rfl rfl (Nat.le_of_ble_eq_true rfl) ⟨Nat.le_of_ble_eq_true rfl, Nat.le_of_ble_eq_true rfl⟩ (by refine ⟨?_, ?_⟩ <;> first | exact Nat.le_refl _ | exact Nat.zero_le _ | (dsimp only; omega)) dX10_init_2 (gkr_v (fun c1 e1 => ?_)) gkt_v
  subst e1
  refine g_aload_n (i := 0) h dX10_init_5 rfl rfl ?_
  refine g_lload_n (i := 2) h dX10_init_6 rfl rfl ?_
  refine g_putF h rfl fp_X10_7_12 (va_up_s _ _ _) hr (Nat.le_of_ble_eq_true rfl) rfl rfl dX10_init_7 ?_
  exact g_vret h ⟨rfl, by simp only [va_up_up]; rfl⟩ (Nat.le_refl _) (Nat.le_refl _) dX10_init_10
theorem ct_X11init11 {l : Launch} {g : gGP} (hk : gK l g) {c : gLH} {a r : Nat} {x0 x1 x2 : Value} (a0 : Int32) (a1 : Int64) (hr : r < gSB) (hc : c a = some (r, .inr (11, [x0, x1, x2]))) : Ct l g yX11_init hwX11_init 3 120 [.ref a, .int a0, .long a1] c (0) (0) (pV (fun c' => c' = va_up c a (some (r, .inr (11, [.int a0, x1, .long a1]))))) := by
  refine Ct.intro hk hcX11_init (by decide +kernel) (Nat.le_of_ble_eq_true rfl) (fun φ h => ?_)
  refine g_aload_n (i := 0) h dX11_init_0 rfl rfl ?_
  refine g_iload_n (i := 1) h dX11_init_1 rfl rfl ?_
  refine g_lload_n (i := 2) h dX11_init_2 rfl rfl ?_
  refine g_invI h (ct_X10init11 h.k a0 a1 hr hc) w_X11_1 rfl rfl (Nat.le_of_ble_eq_true rfl) ⟨Nat.le_of_ble_eq_true rfl, Nat.le_of_ble_eq_true rfl⟩ (by refine ⟨?_, ?_⟩ <;> first | exact Nat.le_refl _ | exact Nat.zero_le _ | (dsimp only; omega)) dX11_init_3 (gkr_v (fun c1 e1 => ?_)) gkt_v
  subst e1
  exact g_vret h ⟨rfl, rfl⟩ (Nat.le_refl _) (Nat.le_refl _) dX11_init_6
theorem ct_X12init12 {l : Launch} {g : gGP} (hk : gK l g) {c : gLH} {a r : Nat} {x0 x1 x2 : Value} (a0 : Int32) (a1 : Int64) (hr : r < gSB) (hc : c a = some (r, .inr (12, [x0, x1, x2]))) : Ct l g yX12_init hwX12_init 3 120 [.ref a, .int a0, .long a1] c (0) (0) (pV (fun c' => c' = va_up c a (some (r, .inr (12, [.int a0, x1, .long a1]))))) := by
  refine Ct.intro hk hcX12_init (by decide +kernel) (Nat.le_of_ble_eq_true rfl) (fun φ h => ?_)
  refine g_aload_n (i := 0) h dX12_init_0 rfl rfl ?_
  refine g_iload_n (i := 1) h dX12_init_1 rfl rfl ?_
  refine g_lload_n (i := 2) h dX12_init_2 rfl rfl ?_
  refine g_invI h (ct_X10init12 h.k a0 a1 hr hc) w_X12_1 rfl rfl (Nat.le_of_ble_eq_true rfl) ⟨Nat.le_of_ble_eq_true rfl, Nat.le_of_ble_eq_true rfl⟩ (by refine ⟨?_, ?_⟩ <;> first | exact Nat.le_refl _ | exact Nat.zero_le _ | (dsimp only; omega)) dX12_init_3 (gkr_v (fun c1 e1 => ?_)) gkt_v
  subst e1
  exact g_vret h ⟨rfl, rfl⟩ (Nat.le_refl _) (Nat.le_refl _) dX12_init_6
theorem ct_X13init13 {l : Launch} {g : gGP} (hk : gK l g) {c : gLH} {a r : Nat} {x0 x1 x2 x3 : Value} (a0 : Int32) (a1 : Int64) (a2 : Int64) (hr : r < gSB) (hc : c a = some (r, .inr (13, [x0, x1, x2, x3]))) : Ct l g yX13_init hwX13_init 2 80 [.ref a, .int a0, .long a1, .long a2] c (0) (0) (pV (fun c' => c' = va_up c a (some (r, .inr (13, [.int a0, x1, .long a1, .long a2]))))) := by
  refine Ct.intro hk hcX13_init (by decide +kernel) (Nat.le_of_ble_eq_true rfl) (fun φ h => ?_)
  refine g_aload_n (i := 0) h dX13_init_0 rfl rfl ?_
  refine g_iload_n (i := 1) h dX13_init_1 rfl rfl ?_
  refine g_invI h (ct_X8init13 h.k a0 hr hc) w_X13_1 rfl rfl (Nat.le_of_ble_eq_true rfl) ⟨Nat.le_of_ble_eq_true rfl, Nat.le_of_ble_eq_true rfl⟩ (by refine ⟨?_, ?_⟩ <;> first | exact Nat.le_refl _ | exact Nat.zero_le _ | (dsimp only; omega)) dX13_init_2 (gkr_v (fun c1 e1 => ?_)) gkt_v
  subst e1
  refine g_aload_n (i := 0) h dX13_init_5 rfl rfl ?_
  refine g_lload_n (i := 2) h dX13_init_6 rfl rfl ?_
  refine g_putF h rfl fp_X13_7_13 (va_up_s _ _ _) hr (Nat.le_of_ble_eq_true rfl) rfl rfl dX13_init_7 ?_
  refine g_aload_n (i := 0) h dX13_init_10 rfl rfl ?_
  refine g_lload h dX13_init_11 rfl ?_
  refine g_putF h rfl fp_X13_13_13 (va_up_s _ _ _) hr (Nat.le_of_ble_eq_true rfl) rfl rfl dX13_init_13 ?_
  exact g_vret h ⟨rfl, by simp only [va_up_up]; rfl⟩ (Nat.le_refl _) (Nat.le_refl _) dX13_init_16
theorem ct_X14init14 {l : Launch} {g : gGP} (hk : gK l g) {c : gLH} {a r : Nat} {x0 x1 x2 : Value} (a0 : Int32) (a1 : Bool) (hr : r < gSB) (hc : c a = some (r, .inr (14, [x0, x1, x2]))) : Ct l g yX14_init hwX14_init 2 80 [.ref a, .int a0, .int (zB a1)] c (0) (0) (pV (fun c' => c' = va_up c a (some (r, .inr (14, [.int a0, x1, .int (zB a1)]))))) := by
  refine Ct.intro hk hcX14_init (by decide +kernel) (Nat.le_of_ble_eq_true rfl) (fun φ h => ?_)
  refine g_aload_n (i := 0) h dX14_init_0 rfl rfl ?_
  refine g_iload_n (i := 1) h dX14_init_1 rfl rfl ?_
  refine g_invI h (ct_X8init14 h.k a0 hr hc) w_X14_3 rfl rfl (Nat.le_of_ble_eq_true rfl) ⟨Nat.le_of_ble_eq_true rfl, Nat.le_of_ble_eq_true rfl⟩ (by refine ⟨?_, ?_⟩ <;> first | exact Nat.le_refl _ | exact Nat.zero_le _ | (dsimp only; omega)) dX14_init_2 (gkr_v (fun c1 e1 => ?_)) gkt_v
  subst e1
  refine g_aload_n (i := 0) h dX14_init_5 rfl rfl ?_
  refine g_iload_n (i := 2) h dX14_init_6 rfl rfl ?_
  refine g_putF h rfl fp_X14_9_14 (va_up_s _ _ _) hr (Nat.le_of_ble_eq_true rfl) (zB_nar _) (zB_fit _) dX14_init_7 ?_
  exact g_vret h ⟨rfl, by simp only [va_up_up]; rfl⟩ (Nat.le_refl _) (Nat.le_refl _) dX14_init_10
theorem ct_X7init {l : Launch} {g : gGP} (hk : gK l g) {c : gLH} {a : Nat} (k p : Int32) (hts : gTS g) (hc : c a = some (gFr, .inr (7, [.null, .null, .null, .null, .null, .int 0, .int 0, .int 0]))) : Ct l g yX7_init hwX7_init 4 160 [.ref a, .int k, .int p] c (0) (0) (pV (fun c' => ∃ u s : Value, c' = va_up c a (some (gT, .inr (7, [.ref a, u, s, .null, .null, .int 0, .int k, .int p]))))) := by
  refine Ct.intro hk hcX7_init (by decide +kernel) (Nat.le_of_ble_eq_true rfl) (fun φ h => ?_)
  refine g_aload_n (i := 0) h dX7_init_0 rfl rfl ?_
  refine g_excInit h hts ex_WRG ch_EXC q810 hc rfl gT_lt (Nat.le_of_ble_eq_true rfl) ⟨Nat.le_of_ble_eq_true rfl, Nat.le_of_ble_eq_true rfl⟩ dX7_init_1 (fun u sn => ?_)
  refine g_aload_n (i := 0) h dX7_init_4 rfl rfl ?_
  refine g_iload_n (i := 1) h dX7_init_5 rfl rfl ?_
  refine g_putF h rfl fp_X7_7_7 (va_up_s _ _ _) gT_lt (Nat.le_of_ble_eq_true rfl) rfl rfl dX7_init_6 ?_
  refine g_aload_n (i := 0) h dX7_init_9 rfl rfl ?_
  refine g_iload_n (i := 2) h dX7_init_10 rfl rfl ?_
  refine g_putF h rfl fp_X7_13_7 (va_up_s _ _ _) gT_lt (Nat.le_of_ble_eq_true rfl) rfl rfl dX7_init_11 ?_
  exact g_vret h ⟨rfl, u, sn, by simp only [va_up_up]; rfl⟩ (Nat.le_refl _) (Nat.le_refl _) dX7_init_14
theorem ct_X6init6 {l : Launch} {g : gGP} (hk : gK l g) {c : gLH} {a r : Nat} {x0 x1 : Value} (v : Int32) (rl rd : Nat) (hr : r < gSB) (hrl : rl < gSB) (hS : gLS g) (hc : c a = some (r, .inr (6, [x0, x1]))) : Ct l g yX6_init hwX6_init 4 160 [.ref a, .int v] c (2) (3 + 8) (pV (fun c' => ∃ q d : Nat, c q = none ∧ c d = none ∧ d ≠ q ∧ c' a = some (r, .inr (6, [.int v, .ref q])) ∧ gAL c' q d 8 rl rd [] ∧ ∀ (b r2 : Nat) (e : va_E), c b = some (r2, e) → b ≠ a → b ≠ q → b ≠ d → c' b = some (r2, e))) := by
  refine Ct.intro hk hcX6_init (by decide +kernel) (Nat.le_of_ble_eq_true rfl) (fun φ h => ?_)
  refine g_aload_n (i := 0) h dX6_init_0 rfl rfl ?_
  refine g_objInit h q761 ⟨Nat.le_of_ble_eq_true rfl, Nat.le_of_ble_eq_true rfl⟩ (Nat.le_of_ble_eq_true rfl) dX6_init_1 ?_
  refine g_aload_n (i := 0) h dX6_init_4 rfl rfl ?_
  refine g_new h rl n_X6_7 (by show 0 + 1 ≤ 2; omega) (by show 0 + 3 ≤ 3 + 8; omega) dX6_init_5 (fun q hq => ?_)
  have hqa : a ≠ q := fun e => by rw [← e, hc] at hq; cases hq
  refine g_dup h dX6_init_8 rfl ?_
  refine g_bipush (v := nI 8) h dX6_init_9 (by decide) ?_
  refine g_invI h (ct_lnew h.k rd hrl hS (va_up_s _ _ _) (by decide) (by decide)) w_X6_9 rfl rfl (Nat.le_of_ble_eq_true rfl) ⟨Nat.le_of_ble_eq_true rfl, Nat.le_of_ble_eq_true rfl⟩ (by refine ⟨?_, ?_⟩ <;> (dsimp only; omega)) dX6_init_11 (gkr_v (fun c1 hP => ?_)) gkt_v
  obtain ⟨d, hd0, hL, hfr⟩ := hP
  have hda : d ≠ a := fun e => by rw [e, va_up_n _ _ hqa, hc] at hd0; cases hd0
  have hc1 : c1 a = some (r, .inr (6, [x0, x1])) := hfr _ _ _ (by rw [va_up_n _ _ hqa]; exact hc) hqa (Ne.symm hda)
  have hdq : d ≠ q := fun e => by rw [e, va_up_s] at hd0; cases hd0
  rw [va_up_n _ _ hdq] at hd0
  have hL2 := hL
  refine g_putF h rfl fp_X6_12_6 hc1 hr (Nat.le_of_ble_eq_true rfl) rfl rfl dX6_init_14 ?_
  refine g_aload_n (i := 0) h dX6_init_17 rfl rfl ?_
  refine g_iload_n (i := 1) h dX6_init_18 rfl rfl ?_
  refine g_putF h rfl fp_X6_18_6 (va_up_s _ _ _) hr (Nat.le_of_ble_eq_true rfl) rfl rfl dX6_init_19 ?_
  refine g_vret h ⟨rfl, q, d, hq, hd0, hdq, ?_, ?_, ?_⟩ (by (try dsimp only); omega) (by (try dsimp only); omega) dX6_init_22
  · try simp only [va_up_up]
    exact va_up_s _ _ _
  · obtain ⟨⟨m, k1⟩, k2, k3, k4⟩ := hL2
    try simp only [va_up_up]
    exact ⟨⟨m, by rw [va_up_n _ _ (Ne.symm hqa)]; exact k1⟩, by rw [va_up_n _ _ hda]; exact k2, k3, k4⟩
  · intro b r2 e hb hba hbq hbd
    try simp only [va_up_up]
    rw [va_up_n _ _ hba]
    exact hfr b r2 e (by rw [va_up_n _ _ hbq]; exact hb) hbq hbd
theorem ct_X15init15 {l : Launch} {g : gGP} (hk : gK l g) {c : gLH} {a r : Nat} {x0 : Value} (rl rd : Nat) (hr : r < gSB) (hrl : rl < gSB) (hS : gLS g) (hc : c a = some (r, .inr (15, [x0]))) : Ct l g yX15_init hwX15_init 4 160 [.ref a] c (2) (3 + 2) (pV (fun c' => ∃ q d : Nat, c q = none ∧ c d = none ∧ d ≠ q ∧ c' a = some (r, .inr (15, [.ref q])) ∧ gAL c' q d 2 rl rd [] ∧ ∀ (b r2 : Nat) (e : va_E), c b = some (r2, e) → b ≠ a → b ≠ q → b ≠ d → c' b = some (r2, e))) := by
  refine Ct.intro hk hcX15_init (by decide +kernel) (Nat.le_of_ble_eq_true rfl) (fun φ h => ?_)
  refine g_aload_n (i := 0) h dX15_init_0 rfl rfl ?_
  refine g_objInit h q945 ⟨Nat.le_of_ble_eq_true rfl, Nat.le_of_ble_eq_true rfl⟩ (Nat.le_of_ble_eq_true rfl) dX15_init_1 ?_
  refine g_aload_n (i := 0) h dX15_init_4 rfl rfl ?_
  refine g_new h rl n_X15_7 (by show 0 + 1 ≤ 2; omega) (by show 0 + 3 ≤ 3 + 2; omega) dX15_init_5 (fun q hq => ?_)
  have hqa : a ≠ q := fun e => by rw [← e, hc] at hq; cases hq
  refine g_dup h dX15_init_8 rfl ?_
  refine g_iconst (v := nI 2) h dX15_init_9 (by decide) ?_
  refine g_invI h (ct_lnew h.k rd hrl hS (va_up_s _ _ _) (by decide) (by decide)) w_X15_9 rfl rfl (Nat.le_of_ble_eq_true rfl) ⟨Nat.le_of_ble_eq_true rfl, Nat.le_of_ble_eq_true rfl⟩ (by refine ⟨?_, ?_⟩ <;> (dsimp only; omega)) dX15_init_10 (gkr_v (fun c1 hP => ?_)) gkt_v
  obtain ⟨d, hd0, hL, hfr⟩ := hP
  have hda : d ≠ a := fun e => by rw [e, va_up_n _ _ hqa, hc] at hd0; cases hd0
  have hc1 : c1 a = some (r, .inr (15, [x0])) := hfr _ _ _ (by rw [va_up_n _ _ hqa]; exact hc) hqa (Ne.symm hda)
  have hdq : d ≠ q := fun e => by rw [e, va_up_s] at hd0; cases hd0
  rw [va_up_n _ _ hdq] at hd0
  have hL2 := hL
  refine g_putF h rfl fp_X15_12_15 hc1 hr (Nat.le_of_ble_eq_true rfl) rfl rfl dX15_init_13 ?_
  refine g_vret h ⟨rfl, q, d, hq, hd0, hdq, ?_, ?_, ?_⟩ (by (try dsimp only); omega) (by (try dsimp only); omega) dX15_init_16
  · try simp only [va_up_up]
    exact va_up_s _ _ _
  · obtain ⟨⟨m, k1⟩, k2, k3, k4⟩ := hL2
    try simp only [va_up_up]
    exact ⟨⟨m, by rw [va_up_n _ _ (Ne.symm hqa)]; exact k1⟩, by rw [va_up_n _ _ hda]; exact k2, k3, k4⟩
  · intro b r2 e hb hba hbq hbd
    try simp only [va_up_up]
    rw [va_up_n _ _ hba]
    exact hfr b r2 e (by rw [va_up_n _ _ hbq]; exact hb) hbq hbd
theorem ct_X15init16 {l : Launch} {g : gGP} (hk : gK l g) {c : gLH} {a r : Nat} {x0 : Value} (rl rd : Nat) (hr : r < gSB) (hrl : rl < gSB) (hS : gLS g) (hc : c a = some (r, .inr (16, [x0]))) : Ct l g yX15_init hwX15_init 4 160 [.ref a] c (2) (3 + 2) (pV (fun c' => ∃ q d : Nat, c q = none ∧ c d = none ∧ d ≠ q ∧ c' a = some (r, .inr (16, [.ref q])) ∧ gAL c' q d 2 rl rd [] ∧ ∀ (b r2 : Nat) (e : va_E), c b = some (r2, e) → b ≠ a → b ≠ q → b ≠ d → c' b = some (r2, e))) := by
  refine Ct.intro hk hcX15_init (by decide +kernel) (Nat.le_of_ble_eq_true rfl) (fun φ h => ?_)
  refine g_aload_n (i := 0) h dX15_init_0 rfl rfl ?_
  refine g_objInit h q945 ⟨Nat.le_of_ble_eq_true rfl, Nat.le_of_ble_eq_true rfl⟩ (Nat.le_of_ble_eq_true rfl) dX15_init_1 ?_
  refine g_aload_n (i := 0) h dX15_init_4 rfl rfl ?_
  refine g_new h rl n_X15_7 (by show 0 + 1 ≤ 2; omega) (by show 0 + 3 ≤ 3 + 2; omega) dX15_init_5 (fun q hq => ?_)
  have hqa : a ≠ q := fun e => by rw [← e, hc] at hq; cases hq
  refine g_dup h dX15_init_8 rfl ?_
  refine g_iconst (v := nI 2) h dX15_init_9 (by decide) ?_
  refine g_invI h (ct_lnew h.k rd hrl hS (va_up_s _ _ _) (by decide) (by decide)) w_X15_9 rfl rfl (Nat.le_of_ble_eq_true rfl) ⟨Nat.le_of_ble_eq_true rfl, Nat.le_of_ble_eq_true rfl⟩ (by refine ⟨?_, ?_⟩ <;> (dsimp only; omega)) dX15_init_10 (gkr_v (fun c1 hP => ?_)) gkt_v
  obtain ⟨d, hd0, hL, hfr⟩ := hP
  have hda : d ≠ a := fun e => by rw [e, va_up_n _ _ hqa, hc] at hd0; cases hd0
  have hc1 : c1 a = some (r, .inr (16, [x0])) := hfr _ _ _ (by rw [va_up_n _ _ hqa]; exact hc) hqa (Ne.symm hda)
  have hdq : d ≠ q := fun e => by rw [e, va_up_s] at hd0; cases hd0
  rw [va_up_n _ _ hdq] at hd0
  have hL2 := hL
  refine g_putF h rfl fp_X15_12_16 hc1 hr (Nat.le_of_ble_eq_true rfl) rfl rfl dX15_init_13 ?_
  refine g_vret h ⟨rfl, q, d, hq, hd0, hdq, ?_, ?_, ?_⟩ (by (try dsimp only); omega) (by (try dsimp only); omega) dX15_init_16
  · try simp only [va_up_up]
    exact va_up_s _ _ _
  · obtain ⟨⟨m, k1⟩, k2, k3, k4⟩ := hL2
    try simp only [va_up_up]
    exact ⟨⟨m, by rw [va_up_n _ _ (Ne.symm hqa)]; exact k1⟩, by rw [va_up_n _ _ hda]; exact k2, k3, k4⟩
  · intro b r2 e hb hba hbq hbd
    try simp only [va_up_up]
    rw [va_up_n _ _ hba]
    exact hfr b r2 e (by rw [va_up_n _ _ hbq]; exact hb) hbq hbd
theorem ct_X23init23 {l : Launch} {g : gGP} (hk : gK l g) {c : gLH} {a r : Nat} {x0 x1 x2 x3 x4 x5 x6 : Value} (v w : Int32) (rl rd : Nat) (hr : r < gSB) (hrl : rl < gSB) (hS : gLS g) (hc : c a = some (r, .inr (23, [x0, x1, x2, x3, x4, x5, x6]))) : Ct l g yX23_init hwX23_init 4 160 [.ref a, .int v, .int w] c (2) (3 + 4) (pV (fun c' => ∃ q d : Nat, c q = none ∧ c d = none ∧ d ≠ q ∧ c' a = some (r, .inr (23, [.int v, .int w, .ref q, x3, x4, x5, x6])) ∧ gAL c' q d 4 rl rd [] ∧ ∀ (b r2 : Nat) (e : va_E), c b = some (r2, e) → b ≠ a → b ≠ q → b ≠ d → c' b = some (r2, e))) := by
  refine Ct.intro hk hcX23_init (by decide +kernel) (Nat.le_of_ble_eq_true rfl) (fun φ h => ?_)
  refine g_aload_n (i := 0) h dX23_init_0 rfl rfl ?_
  refine g_objInit h q1266 ⟨Nat.le_of_ble_eq_true rfl, Nat.le_of_ble_eq_true rfl⟩ (Nat.le_of_ble_eq_true rfl) dX23_init_1 ?_
  refine g_aload_n (i := 0) h dX23_init_4 rfl rfl ?_
  refine g_new h rl n_X23_7 (by show 0 + 1 ≤ 2; omega) (by show 0 + 3 ≤ 3 + 4; omega) dX23_init_5 (fun q hq => ?_)
  have hqa : a ≠ q := fun e => by rw [← e, hc] at hq; cases hq
  refine g_dup h dX23_init_8 rfl ?_
  refine g_iconst (v := nI 4) h dX23_init_9 (by decide) ?_
  refine g_invI h (ct_lnew h.k rd hrl hS (va_up_s _ _ _) (by decide) (by decide)) w_X23_9 rfl rfl (Nat.le_of_ble_eq_true rfl) ⟨Nat.le_of_ble_eq_true rfl, Nat.le_of_ble_eq_true rfl⟩ (by refine ⟨?_, ?_⟩ <;> (dsimp only; omega)) dX23_init_10 (gkr_v (fun c1 hP => ?_)) gkt_v
  obtain ⟨d, hd0, hL, hfr⟩ := hP
  have hda : d ≠ a := fun e => by rw [e, va_up_n _ _ hqa, hc] at hd0; cases hd0
  have hc1 : c1 a = some (r, .inr (23, [x0, x1, x2, x3, x4, x5, x6])) := hfr _ _ _ (by rw [va_up_n _ _ hqa]; exact hc) hqa (Ne.symm hda)
  have hdq : d ≠ q := fun e => by rw [e, va_up_s] at hd0; cases hd0
  rw [va_up_n _ _ hdq] at hd0
  have hL2 := hL
  refine g_putF h rfl fp_X23_12_23 hc1 hr (Nat.le_of_ble_eq_true rfl) rfl rfl dX23_init_13 ?_
  refine g_aload_n (i := 0) h dX23_init_16 rfl rfl ?_
  refine g_iload_n (i := 1) h dX23_init_17 rfl rfl ?_
  refine g_putF h rfl fp_X23_18_23 (va_up_s _ _ _) hr (Nat.le_of_ble_eq_true rfl) rfl rfl dX23_init_18 ?_
  refine g_aload_n (i := 0) h dX23_init_21 rfl rfl ?_
  refine g_iload_n (i := 2) h dX23_init_22 rfl rfl ?_
  refine g_putF h rfl fp_X23_22_23 (va_up_s _ _ _) hr (Nat.le_of_ble_eq_true rfl) rfl rfl dX23_init_23 ?_
  refine g_vret h ⟨rfl, q, d, hq, hd0, hdq, ?_, ?_, ?_⟩ (by (try dsimp only); omega) (by (try dsimp only); omega) dX23_init_26
  · try simp only [va_up_up]
    exact va_up_s _ _ _
  · obtain ⟨⟨m, k1⟩, k2, k3, k4⟩ := hL2
    try simp only [va_up_up]
    exact ⟨⟨m, by rw [va_up_n _ _ (Ne.symm hqa)]; exact k1⟩, by rw [va_up_n _ _ hda]; exact k2, k3, k4⟩
  · intro b r2 e hb hba hbq hbd
    try simp only [va_up_up]
    rw [va_up_n _ _ hba]
    exact hfr b r2 e (by rw [va_up_n _ _ hbq]; exact hb) hbq hbd
theorem wn_X16_1 : gWN RX16 1 yX15_init hwX15_init 0 := ⟨⟨_, q965⟩, q943, q99, q944, ⟨by decide +kernel, by decide +kernel⟩, by decide +kernel, rfl⟩
theorem ct_X16init16 {l : Launch} {g : gGP} (hk : gK l g) {c : gLH} {a r : Nat} {x0 : Value} (rl rd : Nat) (hr : r < gSB) (hrl : rl < gSB) (hS : gLS g) (hc : c a = some (r, .inr (16, [x0]))) : Ct l g yX16_init hwX16_init 5 200 [.ref a] c (2) (3 + 2) (pV (fun c' => ∃ q d : Nat, c q = none ∧ c d = none ∧ d ≠ q ∧ c' a = some (r, .inr (16, [.ref q])) ∧ gAL c' q d 2 rl rd [] ∧ ∀ (b r2 : Nat) (e : va_E), c b = some (r2, e) → b ≠ a → b ≠ q → b ≠ d → c' b = some (r2, e))) := by
  refine Ct.intro hk hcX16_init (by decide +kernel) (Nat.le_of_ble_eq_true rfl) (fun φ h => ?_)
  refine g_aload_n (i := 0) h dX16_init_0 rfl rfl ?_
  refine g_invN h (ct_X15init16 h.k rl rd hr hrl hS hc) wn_X16_1 rfl rfl (Nat.le_of_ble_eq_true rfl) ⟨Nat.le_of_ble_eq_true rfl, Nat.le_of_ble_eq_true rfl⟩ ⟨Nat.le_refl _, Nat.le_refl _⟩ dX16_init_1 (gkr_v (fun c1 hP => ?_)) gkt_v
  exact g_vret h ⟨rfl, hP⟩ (Nat.le_refl _) (Nat.le_refl _) dX16_init_4
