/-! THE COMPONENT: heirs of Traveller -/
set_option maxRecDepth 100000
theorem ct_X25init25 {l : Launch} {g : gGP} (hk : gK l g) {c : gLH} {a r : Nat} {x0 x1 x2 x3 x4 x5 x6 : Value} (r1 r2 : Nat) (a0 a1 a2 a3 a4 : Int32) (hr : r < gSB) (hr1 : r1 < gSB) (hr2 : r2 < gSB) (hc : c a = some (r, .inr (25, [x0, x1, x2, x3, x4, x5, x6]))) : Ct l g yX25_init hwX25_init 2 80 [.ref a, .int a0, .int a1, .int a2, .int a3, .int a4] c (2) (16) (pV (fun c' => ∃ q1 q2, tMade c c' a r r1 r2 25 8 [.int a0, .int a2, .int a3, .int a4, .ref q1, .ref q2, .int a1] q1 q2)) := by
  refine Ct.intro hk hcX25_init (by decide +kernel) (Nat.le_of_ble_eq_true rfl) (fun φ h => ?_)
  refine g_aload_n (i := 0) h dX25_init_0 rfl rfl ?_
  refine g_iload_n (i := 1) h dX25_init_1 rfl rfl ?_
  refine g_iload_n (i := 3) h dX25_init_2 rfl rfl ?_
  refine g_iload h dX25_init_3 rfl ?_
  refine g_iload h dX25_init_5 rfl ?_
  refine g_invI h (ct_X24init25 h.k r1 r2 a0 a2 a3 a4 hr hr1 hr2 hc) w_X25_1 rfl rfl (Nat.le_of_ble_eq_true rfl) ⟨Nat.le_of_ble_eq_true rfl, Nat.le_of_ble_eq_true rfl⟩ (by refine ⟨?_, ?_⟩ <;> ((try dsimp only); omega)) dX25_init_7 (gkr_v (fun c1 hP => ?_)) gkt_v
  obtain ⟨q1, q2, k1, k2, k3, k4, k5, k6, k7⟩ := hP
  have n1 : a ≠ q1 := fun e => by rw [← e, hc] at k1; cases k1
  have n2 : a ≠ q2 := fun e => by rw [← e, hc] at k2; cases k2
  refine g_aload_n (i := 0) h dX25_init_10 rfl rfl ?_
  refine g_iload_n (i := 2) h dX25_init_11 rfl rfl ?_
  refine g_putF h rfl fp_X25_7_25 k4 hr (Nat.le_of_ble_eq_true rfl) rfl rfl dX25_init_12 ?_
  exact g_vret h ⟨rfl, q1, q2, k1, k2, k3, va_up_s _ _ _, by rw [va_up_n _ _ (Ne.symm n1)]; exact k5, by rw [va_up_n _ _ (Ne.symm n2)]; exact k6, fun b z1 z2 z3 => by rw [va_up_n _ _ z1]; exact k7 b z1 z2 z3⟩ (by (try dsimp only); omega) (by (try dsimp only); omega) dX25_init_15
theorem ct_X26init26 {l : Launch} {g : gGP} (hk : gK l g) {c : gLH} {a r : Nat} {x0 x1 x2 x3 x4 x5 x6 : Value} (r1 r2 : Nat) (a0 a1 a2 a3 a4 : Int32) (hr : r < gSB) (hr1 : r1 < gSB) (hr2 : r2 < gSB) (hc : c a = some (r, .inr (26, [x0, x1, x2, x3, x4, x5, x6]))) : Ct l g yX26_init hwX26_init 2 80 [.ref a, .int a0, .int a1, .int a2, .int a3, .int a4] c (2) (16) (pV (fun c' => ∃ q1 q2, tMade c c' a r r1 r2 26 8 [.int a0, .int a2, .int a3, .int a4, .ref q1, .ref q2, .int a1] q1 q2)) := by
  refine Ct.intro hk hcX26_init (by decide +kernel) (Nat.le_of_ble_eq_true rfl) (fun φ h => ?_)
  refine g_aload_n (i := 0) h dX26_init_0 rfl rfl ?_
  refine g_iload_n (i := 1) h dX26_init_1 rfl rfl ?_
  refine g_iload_n (i := 3) h dX26_init_2 rfl rfl ?_
  refine g_iload h dX26_init_3 rfl ?_
  refine g_iload h dX26_init_5 rfl ?_
  refine g_invI h (ct_X24init26 h.k r1 r2 a0 a2 a3 a4 hr hr1 hr2 hc) w_X26_1 rfl rfl (Nat.le_of_ble_eq_true rfl) ⟨Nat.le_of_ble_eq_true rfl, Nat.le_of_ble_eq_true rfl⟩ (by refine ⟨?_, ?_⟩ <;> ((try dsimp only); omega)) dX26_init_7 (gkr_v (fun c1 hP => ?_)) gkt_v
  obtain ⟨q1, q2, k1, k2, k3, k4, k5, k6, k7⟩ := hP
  have n1 : a ≠ q1 := fun e => by rw [← e, hc] at k1; cases k1
  have n2 : a ≠ q2 := fun e => by rw [← e, hc] at k2; cases k2
  refine g_aload_n (i := 0) h dX26_init_10 rfl rfl ?_
  refine g_iload_n (i := 2) h dX26_init_11 rfl rfl ?_
  refine g_putF h rfl fp_X26_7_26 k4 hr (Nat.le_of_ble_eq_true rfl) rfl rfl dX26_init_12 ?_
  exact g_vret h ⟨rfl, q1, q2, k1, k2, k3, va_up_s _ _ _, by rw [va_up_n _ _ (Ne.symm n1)]; exact k5, by rw [va_up_n _ _ (Ne.symm n2)]; exact k6, fun b z1 z2 z3 => by rw [va_up_n _ _ z1]; exact k7 b z1 z2 z3⟩ (by (try dsimp only); omega) (by (try dsimp only); omega) dX26_init_15
theorem ct_X26init27 {l : Launch} {g : gGP} (hk : gK l g) {c : gLH} {a r : Nat} {x0 x1 x2 x3 x4 x5 x6 : Value} (r1 r2 : Nat) (a0 a1 a2 a3 a4 : Int32) (hr : r < gSB) (hr1 : r1 < gSB) (hr2 : r2 < gSB) (hc : c a = some (r, .inr (27, [x0, x1, x2, x3, x4, x5, x6]))) : Ct l g yX26_init hwX26_init 2 80 [.ref a, .int a0, .int a1, .int a2, .int a3, .int a4] c (2) (16) (pV (fun c' => ∃ q1 q2, tMade c c' a r r1 r2 27 8 [.int a0, .int a2, .int a3, .int a4, .ref q1, .ref q2, .int a1] q1 q2)) := by
  refine Ct.intro hk hcX26_init (by decide +kernel) (Nat.le_of_ble_eq_true rfl) (fun φ h => ?_)
  refine g_aload_n (i := 0) h dX26_init_0 rfl rfl ?_
  refine g_iload_n (i := 1) h dX26_init_1 rfl rfl ?_
  refine g_iload_n (i := 3) h dX26_init_2 rfl rfl ?_
  refine g_iload h dX26_init_3 rfl ?_
  refine g_iload h dX26_init_5 rfl ?_
  refine g_invI h (ct_X24init27 h.k r1 r2 a0 a2 a3 a4 hr hr1 hr2 hc) w_X26_1 rfl rfl (Nat.le_of_ble_eq_true rfl) ⟨Nat.le_of_ble_eq_true rfl, Nat.le_of_ble_eq_true rfl⟩ (by refine ⟨?_, ?_⟩ <;> ((try dsimp only); omega)) dX26_init_7 (gkr_v (fun c1 hP => ?_)) gkt_v
  obtain ⟨q1, q2, k1, k2, k3, k4, k5, k6, k7⟩ := hP
  have n1 : a ≠ q1 := fun e => by rw [← e, hc] at k1; cases k1
  have n2 : a ≠ q2 := fun e => by rw [← e, hc] at k2; cases k2
  refine g_aload_n (i := 0) h dX26_init_10 rfl rfl ?_
  refine g_iload_n (i := 2) h dX26_init_11 rfl rfl ?_
  refine g_putF h rfl fp_X26_7_27 k4 hr (Nat.le_of_ble_eq_true rfl) rfl rfl dX26_init_12 ?_
  exact g_vret h ⟨rfl, q1, q2, k1, k2, k3, va_up_s _ _ _, by rw [va_up_n _ _ (Ne.symm n1)]; exact k5, by rw [va_up_n _ _ (Ne.symm n2)]; exact k6, fun b z1 z2 z3 => by rw [va_up_n _ _ z1]; exact k7 b z1 z2 z3⟩ (by (try dsimp only); omega) (by (try dsimp only); omega) dX26_init_15
theorem ct_X27init27 {l : Launch} {g : gGP} (hk : gK l g) {c : gLH} {a r : Nat} {x0 x1 x2 x3 x4 x5 x6 : Value} (r1 r2 : Nat) (a0 a1 a2 a3 a4 : Int32) (hr : r < gSB) (hr1 : r1 < gSB) (hr2 : r2 < gSB) (hc : c a = some (r, .inr (27, [x0, x1, x2, x3, x4, x5, x6]))) : Ct l g yX27_init hwX27_init 3 120 [.ref a, .int a0, .int a1, .int a2, .int a3, .int a4] c (2) (16) (pV (fun c' => ∃ q1 q2, tMade c c' a r r1 r2 27 8 [.int a0, .int a2, .int a3, .int a4, .ref q1, .ref q2, .int a1] q1 q2)) := by
  refine Ct.intro hk hcX27_init (by decide +kernel) (Nat.le_of_ble_eq_true rfl) (fun φ h => ?_)
  refine g_aload_n (i := 0) h dX27_init_0 rfl rfl ?_
  refine g_iload_n (i := 1) h dX27_init_1 rfl rfl ?_
  refine g_iload_n (i := 2) h dX27_init_2 rfl rfl ?_
  refine g_iload_n (i := 3) h dX27_init_3 rfl rfl ?_
  refine g_iload h dX27_init_4 rfl ?_
  refine g_iload h dX27_init_6 rfl ?_
  refine g_invI h (ct_X26init27 h.k r1 r2 a0 a1 a2 a3 a4 hr hr1 hr2 hc) w_X27_1 rfl rfl (Nat.le_of_ble_eq_true rfl) ⟨Nat.le_of_ble_eq_true rfl, Nat.le_of_ble_eq_true rfl⟩ (by refine ⟨?_, ?_⟩ <;> ((try dsimp only); omega)) dX27_init_8 (gkr_v (fun c1 hP => ?_)) gkt_v
  exact g_vret h ⟨rfl, hP⟩ (by (try dsimp only); omega) (by (try dsimp only); omega) dX27_init_11
theorem ct_X25kind25 {l : Launch} {g : gGP} (hk : gK l g) {c : gLH} {a r : Nat} {a0 a1 a2 a3 k : Int32} {p1 p2 : Value} (hc : c a = some (r, .inr (25, [.int a0, .int a1, .int a2, .int a3, p1, p2, .int k]))) : Ct l g yX25_kind hwX25_kind 0 0 [.ref a] c (0) (0) (pIp k c) := by
  refine Ct.intro hk hcX25_kind (by decide +kernel) (Nat.le_of_ble_eq_true rfl) (fun φ h => ?_)
  refine g_aload_n (i := 0) h dX25_kind_0 rfl rfl ?_
  refine g_get (v := .int k) h f_X25_7_25 hc rfl dX25_kind_1 ?_
  exact g_iret h ⟨rfl, rfl⟩ (Nat.le_refl _) (Nat.le_refl _) dX25_kind_4
theorem ct_X26kind26 {l : Launch} {g : gGP} (hk : gK l g) {c : gLH} {a r : Nat} {a0 a1 a2 a3 k : Int32} {p1 p2 : Value} (hc : c a = some (r, .inr (26, [.int a0, .int a1, .int a2, .int a3, p1, p2, .int k]))) : Ct l g yX26_kind hwX26_kind 0 0 [.ref a] c (0) (0) (pIp k c) := by
  refine Ct.intro hk hcX26_kind (by decide +kernel) (Nat.le_of_ble_eq_true rfl) (fun φ h => ?_)
  refine g_aload_n (i := 0) h dX26_kind_0 rfl rfl ?_
  refine g_get (v := .int k) h f_X26_7_26 hc rfl dX26_kind_1 ?_
  exact g_iret h ⟨rfl, rfl⟩ (Nat.le_refl _) (Nat.le_refl _) dX26_kind_4
theorem ct_X26kind27 {l : Launch} {g : gGP} (hk : gK l g) {c : gLH} {a r : Nat} {a0 a1 a2 a3 k : Int32} {p1 p2 : Value} (hc : c a = some (r, .inr (27, [.int a0, .int a1, .int a2, .int a3, p1, p2, .int k]))) : Ct l g yX26_kind hwX26_kind 0 0 [.ref a] c (0) (0) (pIp k c) := by
  refine Ct.intro hk hcX26_kind (by decide +kernel) (Nat.le_of_ble_eq_true rfl) (fun φ h => ?_)
  refine g_aload_n (i := 0) h dX26_kind_0 rfl rfl ?_
  refine g_get (v := .int k) h f_X26_7_27 hc rfl dX26_kind_1 ?_
  exact g_iret h ⟨rfl, rfl⟩ (Nat.le_refl _) (Nat.le_refl _) dX26_kind_4
def tWh (k w : Int32) : Int32 := (if k = 0 then 6 else if k = 1 then 4 else 10) * (if 6 ≤ w then 1 else 2)
theorem ct_X25wear {l : Launch} {g : gGP} (hk : gK l g) {c : gLH} {a r : Nat} {a0 a1 a2 a3 k : Int32} {p1 p2 : Value} (hc : c a = some (r, .inr (25, [.int a0, .int a1, .int a2, .int a3, p1, p2, .int k]))) : Ct l g yX25_wear hwX25_wear 0 0 [.ref a] c (0) (0) (pIp (tWh k a1) c) := by
  refine Ct.intro hk hcX25_wear (by decide +kernel) (Nat.le_of_ble_eq_true rfl) (fun φ h => ?_)
  refine g_aload_n (i := 0) h dX25_wear_0 rfl rfl ?_
  refine g_get (v := .int k) h f_X25_7_25 hc rfl dX25_wear_1 ?_
  refine g_if_ne (tgt := 12) h dX25_wear_4 (by decide) (fun b4 => ?_) (fun b4 => ?_)
  · refine g_aload_n (i := 0) h dX25_wear_12 rfl rfl ?_
    refine g_get (v := .int k) h f_X25_7_25 hc rfl dX25_wear_13 ?_
    refine g_iconst (v := 1) h dX25_wear_16 (by decide) ?_
    refine g_icmp_ne (tgt := 24) h dX25_wear_17 (by decide) (fun b17 => ?_) (fun b17 => ?_)
    · refine g_bipush (v := 10) h dX25_wear_24 (by decide) ?_
      refine g_aload_n (i := 0) h dX25_wear_26 rfl rfl ?_
      refine g_get (v := .int a1) h f_X25_13_25 hc rfl dX25_wear_27 ?_
      refine g_bipush (v := 6) h dX25_wear_30 (by decide) ?_
      refine g_icmp_ge (tgt := 39) h dX25_wear_32 (by decide) (fun b32 => ?_) (fun b32 => ?_)
      · refine g_iconst (v := 1) h dX25_wear_39 (by decide) ?_
        refine g_imul h dX25_wear_40 ?_
        exact g_iret h ⟨by simp [tWh, b4, b17, b32], rfl⟩ (Nat.le_refl _) (Nat.le_refl _) dX25_wear_41
      · refine g_iconst (v := 2) h dX25_wear_35 (by decide) ?_
        refine g_goto (tgt := 40) h dX25_wear_36 (by decide) ?_
        refine g_imul h dX25_wear_40 ?_
        exact g_iret h ⟨by simp [tWh, b4, b17, b32], rfl⟩ (Nat.le_refl _) (Nat.le_refl _) dX25_wear_41
    · refine g_iconst (v := 4) h dX25_wear_20 (by decide) ?_
      refine g_goto (tgt := 26) h dX25_wear_21 (by decide) ?_
      refine g_aload_n (i := 0) h dX25_wear_26 rfl rfl ?_
      refine g_get (v := .int a1) h f_X25_13_25 hc rfl dX25_wear_27 ?_
      refine g_bipush (v := 6) h dX25_wear_30 (by decide) ?_
      refine g_icmp_ge (tgt := 39) h dX25_wear_32 (by decide) (fun b32 => ?_) (fun b32 => ?_)
      · refine g_iconst (v := 1) h dX25_wear_39 (by decide) ?_
        refine g_imul h dX25_wear_40 ?_
        exact g_iret h ⟨by simp [tWh, b4, b17, b32], rfl⟩ (Nat.le_refl _) (Nat.le_refl _) dX25_wear_41
      · refine g_iconst (v := 2) h dX25_wear_35 (by decide) ?_
        refine g_goto (tgt := 40) h dX25_wear_36 (by decide) ?_
        refine g_imul h dX25_wear_40 ?_
        exact g_iret h ⟨by simp [tWh, b4, b17, b32], rfl⟩ (Nat.le_refl _) (Nat.le_refl _) dX25_wear_41
  · refine g_bipush (v := 6) h dX25_wear_7 (by decide) ?_
    refine g_goto (tgt := 26) h dX25_wear_9 (by decide) ?_
    refine g_aload_n (i := 0) h dX25_wear_26 rfl rfl ?_
    refine g_get (v := .int a1) h f_X25_13_25 hc rfl dX25_wear_27 ?_
    refine g_bipush (v := 6) h dX25_wear_30 (by decide) ?_
    refine g_icmp_ge (tgt := 39) h dX25_wear_32 (by decide) (fun b32 => ?_) (fun b32 => ?_)
    · refine g_iconst (v := 1) h dX25_wear_39 (by decide) ?_
      refine g_imul h dX25_wear_40 ?_
      exact g_iret h ⟨by simp [tWh, b4, b32], rfl⟩ (Nat.le_refl _) (Nat.le_refl _) dX25_wear_41
    · refine g_iconst (v := 2) h dX25_wear_35 (by decide) ?_
      refine g_goto (tgt := 40) h dX25_wear_36 (by decide) ?_
      refine g_imul h dX25_wear_40 ?_
      exact g_iret h ⟨by simp [tWh, b4, b32], rfl⟩ (Nat.le_refl _) (Nat.le_refl _) dX25_wear_41
theorem ct_X26wear {l : Launch} {g : gGP} (hk : gK l g) {c : gLH} {a r : Nat} {a0 a1 a2 a3 k : Int32} {p1 p2 : Value} (hc : c a = some (r, .inr (26, [.int a0, .int a1, .int a2, .int a3, p1, p2, .int k]))) : Ct l g yX26_wear hwX26_wear 0 0 [.ref a] c (0) (0) (pIp (if k = 3 then 1 else 0) c) := by
  refine Ct.intro hk hcX26_wear (by decide +kernel) (Nat.le_of_ble_eq_true rfl) (fun φ h => ?_)
  refine g_aload_n (i := 0) h dX26_wear_0 rfl rfl ?_
  refine g_get (v := .int k) h f_X26_7_26 hc rfl dX26_wear_1 ?_
  refine g_iconst (v := 3) h dX26_wear_4 (by decide) ?_
  refine g_icmp_ne (tgt := 12) h dX26_wear_5 (by decide) (fun b5 => ?_) (fun b5 => ?_)
  · refine g_iconst (v := 0) h dX26_wear_12 (by decide) ?_
    exact g_iret h ⟨by simp [b5], rfl⟩ (Nat.le_refl _) (Nat.le_refl _) dX26_wear_13
  · refine g_iconst (v := 1) h dX26_wear_8 (by decide) ?_
    refine g_goto (tgt := 13) h dX26_wear_9 (by decide) ?_
    exact g_iret h ⟨by simp [b5], rfl⟩ (Nat.le_refl _) (Nat.le_refl _) dX26_wear_13
theorem ct_X3init {l : Launch} {g : gGP} (hk : gK l g) {c : gLH} {a r : Nat} {x0 x1 x2 x3 x4 x5 x6 x7 x8 : Value} (r1 r2 : Nat) (hr : r < gSB) (hc : c a = some (r, .inr (3, [x0, x1, x2, x3, x4, x5, x6, x7, x8]))) : Ct l g yX3_init hwX3_init 1 40 [.ref a] c (2) (80) (pV (fun c' => ∃ q1 q2, c q1 = none ∧ c q2 = none ∧ q1 ≠ q2 ∧ c' a = some (r, .inr (3, [.ref q1, .ref q2, x2, x3, x4, x5, x6, x7, x8])) ∧ c' q1 = some (r1, gLongs 40 (fun _ => 0)) ∧ c' q2 = some (r2, gLongs 40 (fun _ => 0)) ∧ ∀ b, b ≠ a → b ≠ q1 → b ≠ q2 → c' b = c b)) := by
  refine Ct.intro hk hcX3_init (by decide +kernel) (Nat.le_of_ble_eq_true rfl) (fun φ h => ?_)
  refine g_aload_n (i := 0) h dX3_init_0 rfl rfl ?_
  refine g_objInit h q502 ⟨Nat.le_of_ble_eq_true rfl, Nat.le_of_ble_eq_true rfl⟩ (Nat.le_of_ble_eq_true rfl) dX3_init_1 ?_
  refine g_aload_n (i := 0) h dX3_init_4 rfl rfl ?_
  refine g_bipush (v := nI 40) h dX3_init_5 (by decide) ?_
  refine g_newarr_long h r1 q539 (by decide) (by (try dsimp only); omega) (by (try dsimp only); omega) dX3_init_7 (fun q1 hq1 => ?_)
  have n1 : a ≠ q1 := fun e => by rw [← e, hc] at hq1; cases hq1
  refine g_putF h rfl fp_X3_9_3 (by rw [va_up_n _ _ n1]; exact hc) hr (Nat.le_of_ble_eq_true rfl) rfl rfl dX3_init_9 ?_
  refine g_aload_n (i := 0) h dX3_init_12 rfl rfl ?_
  refine g_bipush (v := nI 40) h dX3_init_13 (by decide) ?_
  refine g_newarr_long h r2 q539 (by decide) (by (try dsimp only); omega) (by (try dsimp only); omega) dX3_init_15 (fun q2 hq2 => ?_)
  have n2 : a ≠ q2 := fun e => by rw [← e, va_up_s] at hq2; cases hq2
  have n12 : q1 ≠ q2 := fun e => by rw [← e, va_up_n _ _ (Ne.symm n1), va_up_s] at hq2; cases hq2
  have hq2c : c q2 = none := by rw [va_up_n _ _ (Ne.symm n2), va_up_n _ _ (Ne.symm n12)] at hq2; exact hq2
  refine g_putF h rfl fp_X3_15_3 (by rw [va_up_n _ _ n2]; exact va_up_s _ _ _) hr (Nat.le_of_ble_eq_true rfl) rfl rfl dX3_init_17 ?_
  refine g_vret h ⟨rfl, q1, q2, hq1, hq2c, n12, va_up_s _ _ _, ?_, ?_, ?_⟩ (by (try dsimp only); omega) (by (try dsimp only); omega) dX3_init_20
  · simp only [va_up_n _ _ (Ne.symm n1), va_up_n _ _ n12, va_up_s]
  · simp only [va_up_n _ _ (Ne.symm n2), va_up_s]
  · intro b z1 z2 z3
    simp only [va_up_n _ _ z1, va_up_n _ _ z2, va_up_n _ _ z3]
