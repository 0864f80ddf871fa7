/-! THE COMPONENT: Not, Clause.holds -/
set_option maxRecDepth 100000
theorem ct_notHolds {l : Launch} {g : gGP} (hk : gK l g) {c : gLH} {a p q r d : Nat} {b : Bool} (hH : HC l g d c q p b) (hC : c a = some (r, .inr (17, [.ref q]))) : Ct l g yX17_holds hwX17_holds (d + 1) (40 * (d + 1)) [.ref a, .ref p] c (0) (0) (pIp (zB (!b)) c) := by
  refine Ct.intro hk hcX17_holds (by decide +kernel) (Nat.le_of_ble_eq_true rfl) (fun φ h => ?_)
  refine g_aload_n (i := 0) h dX17_holds_0 rfl rfl ?_
  refine g_get (v := .ref q) h f_X17_7_17 hC rfl dX17_holds_1 ?_
  refine g_aload_n (i := 1) h dX17_holds_4 rfl rfl ?_
  refine g_condX17 h hH (Nat.le_of_ble_eq_true rfl) ⟨Nat.le_refl _, Nat.le_refl _⟩ ⟨Nat.zero_le _, Nat.zero_le _⟩ dX17_holds_5 ?_
  refine g_if_ne (tgt := 17) h dX17_holds_10 (by decide) (fun b10 => ?_) (fun b10 => ?_)
  · rw [zB_n0] at b10
    refine g_iconst (v := 0) h dX17_holds_17 (by decide) ?_
    exact g_zret h ⟨by rw [b10]; rfl, rfl⟩ (Nat.le_refl _) (Nat.le_refl _) (by first | rfl | exact zB_nar _) dX17_holds_18
  · rw [zB_0] at b10
    refine g_iconst (v := 1) h dX17_holds_13 (by decide) ?_
    refine g_goto (tgt := 18) h dX17_holds_14 (by decide) ?_
    exact g_zret h ⟨by rw [b10]; rfl, rfl⟩ (Nat.le_refl _) (Nat.le_refl _) (by first | rfl | exact zB_nar _) dX17_holds_18
theorem ct_holdsN9 {l : Launch} {g : gGP} (hk : gK l g) {c : gLH} {a p r : Nat} {num : Value} (hC : c a = some (r, .inr (9, [num, .null]))) : Ct l g yX8_holds hwX8_holds 0 0 [.ref a, .ref p] c (0) (0) (pIp (zB true) c) := by
  refine Ct.intro hk hcX8_holds (by decide +kernel) (Nat.le_of_ble_eq_true rfl) (fun φ h => ?_)
  refine g_aload_n (i := 0) h dX8_holds_0 rfl rfl ?_
  refine g_get (v := .null) h f_X8_13_9 hC rfl dX8_holds_1 ?_
  refine g_ifnullN (tgt := 20) h dX8_holds_4 (by decide) ?_
  refine g_iconst (v := 1) h dX8_holds_20 (by decide) ?_
  refine g_goto (tgt := 25) h dX8_holds_21 (by decide) ?_
  exact g_zret h ⟨rfl, rfl⟩ (Nat.le_refl _) (Nat.le_refl _) (by first | rfl | exact zB_nar _) dX8_holds_25
theorem ct_holdsC9 {l : Launch} {g : gGP} (hk : gK l g) {c : gLH} {a p q r d : Nat} {b : Bool} {num : Value} (hH : HC l g d c q p b) (hC : c a = some (r, .inr (9, [num, .ref q]))) : Ct l g yX8_holds hwX8_holds (d + 1) (40 * (d + 1)) [.ref a, .ref p] c (0) (0) (pIp (zB b) c) := by
  refine Ct.intro hk hcX8_holds (by decide +kernel) (Nat.le_of_ble_eq_true rfl) (fun φ h => ?_)
  refine g_aload_n (i := 0) h dX8_holds_0 rfl rfl ?_
  refine g_get (v := .ref q) h f_X8_13_9 hC rfl dX8_holds_1 ?_
  refine g_ifnull h dX8_holds_4 ?_
  refine g_aload_n (i := 0) h dX8_holds_7 rfl rfl ?_
  refine g_get (v := .ref q) h f_X8_13_9 hC rfl dX8_holds_8 ?_
  refine g_aload_n (i := 1) h dX8_holds_11 rfl rfl ?_
  refine g_condX8 h hH (Nat.le_of_ble_eq_true rfl) ⟨Nat.le_refl _, Nat.le_refl _⟩ ⟨Nat.zero_le _, Nat.zero_le _⟩ dX8_holds_12 ?_
  refine g_if_eq (tgt := 24) h dX8_holds_17 (by decide) (fun b17 => ?_) (fun b17 => ?_)
  · rw [zB_0] at b17
    refine g_iconst (v := 0) h dX8_holds_24 (by decide) ?_
    exact g_zret h ⟨by rw [b17]; rfl, rfl⟩ (Nat.le_refl _) (Nat.le_refl _) (by first | rfl | exact zB_nar _) dX8_holds_25
  · rw [zB_n0] at b17
    refine g_iconst (v := 1) h dX8_holds_20 (by decide) ?_
    refine g_goto (tgt := 25) h dX8_holds_21 (by decide) ?_
    exact g_zret h ⟨by rw [b17]; rfl, rfl⟩ (Nat.le_refl _) (Nat.le_refl _) (by first | rfl | exact zB_nar _) dX8_holds_25
theorem ct_holdsN10 {l : Launch} {g : gGP} (hk : gK l g) {c : gLH} {a p r : Nat} {num : Value} {y0 : Value} (hC : c a = some (r, .inr (10, [num, .null, y0]))) : Ct l g yX8_holds hwX8_holds 0 0 [.ref a, .ref p] c (0) (0) (pIp (zB true) c) := by
  refine Ct.intro hk hcX8_holds (by decide +kernel) (Nat.le_of_ble_eq_true rfl) (fun φ h => ?_)
  refine g_aload_n (i := 0) h dX8_holds_0 rfl rfl ?_
  refine g_get (v := .null) h f_X8_13_10 hC rfl dX8_holds_1 ?_
  refine g_ifnullN (tgt := 20) h dX8_holds_4 (by decide) ?_
  refine g_iconst (v := 1) h dX8_holds_20 (by decide) ?_
  refine g_goto (tgt := 25) h dX8_holds_21 (by decide) ?_
  exact g_zret h ⟨rfl, rfl⟩ (Nat.le_refl _) (Nat.le_refl _) (by first | rfl | exact zB_nar _) dX8_holds_25
theorem ct_holdsC10 {l : Launch} {g : gGP} (hk : gK l g) {c : gLH} {a p q r d : Nat} {b : Bool} {num : Value} {y0 : Value} (hH : HC l g d c q p b) (hC : c a = some (r, .inr (10, [num, .ref q, y0]))) : Ct l g yX8_holds hwX8_holds (d + 1) (40 * (d + 1)) [.ref a, .ref p] c (0) (0) (pIp (zB b) c) := by
  refine Ct.intro hk hcX8_holds (by decide +kernel) (Nat.le_of_ble_eq_true rfl) (fun φ h => ?_)
  refine g_aload_n (i := 0) h dX8_holds_0 rfl rfl ?_
  refine g_get (v := .ref q) h f_X8_13_10 hC rfl dX8_holds_1 ?_
  refine g_ifnull h dX8_holds_4 ?_
  refine g_aload_n (i := 0) h dX8_holds_7 rfl rfl ?_
  refine g_get (v := .ref q) h f_X8_13_10 hC rfl dX8_holds_8 ?_
  refine g_aload_n (i := 1) h dX8_holds_11 rfl rfl ?_
  refine g_condX8 h hH (Nat.le_of_ble_eq_true rfl) ⟨Nat.le_refl _, Nat.le_refl _⟩ ⟨Nat.zero_le _, Nat.zero_le _⟩ dX8_holds_12 ?_
  refine g_if_eq (tgt := 24) h dX8_holds_17 (by decide) (fun b17 => ?_) (fun b17 => ?_)
  · rw [zB_0] at b17
    refine g_iconst (v := 0) h dX8_holds_24 (by decide) ?_
    exact g_zret h ⟨by rw [b17]; rfl, rfl⟩ (Nat.le_refl _) (Nat.le_refl _) (by first | rfl | exact zB_nar _) dX8_holds_25
  · rw [zB_n0] at b17
    refine g_iconst (v := 1) h dX8_holds_20 (by decide) ?_
    refine g_goto (tgt := 25) h dX8_holds_21 (by decide) ?_
    exact g_zret h ⟨by rw [b17]; rfl, rfl⟩ (Nat.le_refl _) (Nat.le_refl _) (by first | rfl | exact zB_nar _) dX8_holds_25
theorem ct_holdsN11 {l : Launch} {g : gGP} (hk : gK l g) {c : gLH} {a p r : Nat} {num : Value} {y0 : Value} (hC : c a = some (r, .inr (11, [num, .null, y0]))) : Ct l g yX8_holds hwX8_holds 0 0 [.ref a, .ref p] c (0) (0) (pIp (zB true) c) := by
  refine Ct.intro hk hcX8_holds (by decide +kernel) (Nat.le_of_ble_eq_true rfl) (fun φ h => ?_)
  refine g_aload_n (i := 0) h dX8_holds_0 rfl rfl ?_
  refine g_get (v := .null) h f_X8_13_11 hC rfl dX8_holds_1 ?_
  refine g_ifnullN (tgt := 20) h dX8_holds_4 (by decide) ?_
  refine g_iconst (v := 1) h dX8_holds_20 (by decide) ?_
  refine g_goto (tgt := 25) h dX8_holds_21 (by decide) ?_
  exact g_zret h ⟨rfl, rfl⟩ (Nat.le_refl _) (Nat.le_refl _) (by first | rfl | exact zB_nar _) dX8_holds_25
theorem ct_holdsC11 {l : Launch} {g : gGP} (hk : gK l g) {c : gLH} {a p q r d : Nat} {b : Bool} {num : Value} {y0 : Value} (hH : HC l g d c q p b) (hC : c a = some (r, .inr (11, [num, .ref q, y0]))) : Ct l g yX8_holds hwX8_holds (d + 1) (40 * (d + 1)) [.ref a, .ref p] c (0) (0) (pIp (zB b) c) := by
  refine Ct.intro hk hcX8_holds (by decide +kernel) (Nat.le_of_ble_eq_true rfl) (fun φ h => ?_)
  refine g_aload_n (i := 0) h dX8_holds_0 rfl rfl ?_
  refine g_get (v := .ref q) h f_X8_13_11 hC rfl dX8_holds_1 ?_
  refine g_ifnull h dX8_holds_4 ?_
  refine g_aload_n (i := 0) h dX8_holds_7 rfl rfl ?_
  refine g_get (v := .ref q) h f_X8_13_11 hC rfl dX8_holds_8 ?_
  refine g_aload_n (i := 1) h dX8_holds_11 rfl rfl ?_
  refine g_condX8 h hH (Nat.le_of_ble_eq_true rfl) ⟨Nat.le_refl _, Nat.le_refl _⟩ ⟨Nat.zero_le _, Nat.zero_le _⟩ dX8_holds_12 ?_
  refine g_if_eq (tgt := 24) h dX8_holds_17 (by decide) (fun b17 => ?_) (fun b17 => ?_)
  · rw [zB_0] at b17
    refine g_iconst (v := 0) h dX8_holds_24 (by decide) ?_
    exact g_zret h ⟨by rw [b17]; rfl, rfl⟩ (Nat.le_refl _) (Nat.le_refl _) (by first | rfl | exact zB_nar _) dX8_holds_25
  · rw [zB_n0] at b17
    refine g_iconst (v := 1) h dX8_holds_20 (by decide) ?_
    refine g_goto (tgt := 25) h dX8_holds_21 (by decide) ?_
    exact g_zret h ⟨by rw [b17]; rfl, rfl⟩ (Nat.le_refl _) (Nat.le_refl _) (by first | rfl | exact zB_nar _) dX8_holds_25
theorem ct_holdsN12 {l : Launch} {g : gGP} (hk : gK l g) {c : gLH} {a p r : Nat} {num : Value} {y0 : Value} (hC : c a = some (r, .inr (12, [num, .null, y0]))) : Ct l g yX8_holds hwX8_holds 0 0 [.ref a, .ref p] c (0) (0) (pIp (zB true) c) := by
  refine Ct.intro hk hcX8_holds (by decide +kernel) (Nat.le_of_ble_eq_true rfl) (fun φ h => ?_)
  refine g_aload_n (i := 0) h dX8_holds_0 rfl rfl ?_
  refine g_get (v := .null) h f_X8_13_12 hC rfl dX8_holds_1 ?_
  refine g_ifnullN (tgt := 20) h dX8_holds_4 (by decide) ?_
  refine g_iconst (v := 1) h dX8_holds_20 (by decide) ?_
  refine g_goto (tgt := 25) h dX8_holds_21 (by decide) ?_
  exact g_zret h ⟨rfl, rfl⟩ (Nat.le_refl _) (Nat.le_refl _) (by first | rfl | exact zB_nar _) dX8_holds_25
theorem ct_holdsC12 {l : Launch} {g : gGP} (hk : gK l g) {c : gLH} {a p q r d : Nat} {b : Bool} {num : Value} {y0 : Value} (hH : HC l g d c q p b) (hC : c a = some (r, .inr (12, [num, .ref q, y0]))) : Ct l g yX8_holds hwX8_holds (d + 1) (40 * (d + 1)) [.ref a, .ref p] c (0) (0) (pIp (zB b) c) := by
  refine Ct.intro hk hcX8_holds (by decide +kernel) (Nat.le_of_ble_eq_true rfl) (fun φ h => ?_)
  refine g_aload_n (i := 0) h dX8_holds_0 rfl rfl ?_
  refine g_get (v := .ref q) h f_X8_13_12 hC rfl dX8_holds_1 ?_
  refine g_ifnull h dX8_holds_4 ?_
  refine g_aload_n (i := 0) h dX8_holds_7 rfl rfl ?_
  refine g_get (v := .ref q) h f_X8_13_12 hC rfl dX8_holds_8 ?_
  refine g_aload_n (i := 1) h dX8_holds_11 rfl rfl ?_
  refine g_condX8 h hH (Nat.le_of_ble_eq_true rfl) ⟨Nat.le_refl _, Nat.le_refl _⟩ ⟨Nat.zero_le _, Nat.zero_le _⟩ dX8_holds_12 ?_
  refine g_if_eq (tgt := 24) h dX8_holds_17 (by decide) (fun b17 => ?_) (fun b17 => ?_)
  · rw [zB_0] at b17
    refine g_iconst (v := 0) h dX8_holds_24 (by decide) ?_
    exact g_zret h ⟨by rw [b17]; rfl, rfl⟩ (Nat.le_refl _) (Nat.le_refl _) (by first | rfl | exact zB_nar _) dX8_holds_25
  · rw [zB_n0] at b17
    refine g_iconst (v := 1) h dX8_holds_20 (by decide) ?_
    refine g_goto (tgt := 25) h dX8_holds_21 (by decide) ?_
    exact g_zret h ⟨by rw [b17]; rfl, rfl⟩ (Nat.le_refl _) (Nat.le_refl _) (by first | rfl | exact zB_nar _) dX8_holds_25
theorem ct_holdsN13 {l : Launch} {g : gGP} (hk : gK l g) {c : gLH} {a p r : Nat} {num : Value} {y0 y1 : Value} (hC : c a = some (r, .inr (13, [num, .null, y0, y1]))) : Ct l g yX8_holds hwX8_holds 0 0 [.ref a, .ref p] c (0) (0) (pIp (zB true) c) := by
  refine Ct.intro hk hcX8_holds (by decide +kernel) (Nat.le_of_ble_eq_true rfl) (fun φ h => ?_)
  refine g_aload_n (i := 0) h dX8_holds_0 rfl rfl ?_
  refine g_get (v := .null) h f_X8_13_13 hC rfl dX8_holds_1 ?_
  refine g_ifnullN (tgt := 20) h dX8_holds_4 (by decide) ?_
  refine g_iconst (v := 1) h dX8_holds_20 (by decide) ?_
  refine g_goto (tgt := 25) h dX8_holds_21 (by decide) ?_
  exact g_zret h ⟨rfl, rfl⟩ (Nat.le_refl _) (Nat.le_refl _) (by first | rfl | exact zB_nar _) dX8_holds_25
theorem ct_holdsC13 {l : Launch} {g : gGP} (hk : gK l g) {c : gLH} {a p q r d : Nat} {b : Bool} {num : Value} {y0 y1 : Value} (hH : HC l g d c q p b) (hC : c a = some (r, .inr (13, [num, .ref q, y0, y1]))) : Ct l g yX8_holds hwX8_holds (d + 1) (40 * (d + 1)) [.ref a, .ref p] c (0) (0) (pIp (zB b) c) := by
  refine Ct.intro hk hcX8_holds (by decide +kernel) (Nat.le_of_ble_eq_true rfl) (fun φ h => ?_)
  refine g_aload_n (i := 0) h dX8_holds_0 rfl rfl ?_
  refine g_get (v := .ref q) h f_X8_13_13 hC rfl dX8_holds_1 ?_
  refine g_ifnull h dX8_holds_4 ?_
  refine g_aload_n (i := 0) h dX8_holds_7 rfl rfl ?_
  refine g_get (v := .ref q) h f_X8_13_13 hC rfl dX8_holds_8 ?_
  refine g_aload_n (i := 1) h dX8_holds_11 rfl rfl ?_
  refine g_condX8 h hH (Nat.le_of_ble_eq_true rfl) ⟨Nat.le_refl _, Nat.le_refl _⟩ ⟨Nat.zero_le _, Nat.zero_le _⟩ dX8_holds_12 ?_
  refine g_if_eq (tgt := 24) h dX8_holds_17 (by decide) (fun b17 => ?_) (fun b17 => ?_)
  · rw [zB_0] at b17
    refine g_iconst (v := 0) h dX8_holds_24 (by decide) ?_
    exact g_zret h ⟨by rw [b17]; rfl, rfl⟩ (Nat.le_refl _) (Nat.le_refl _) (by first | rfl | exact zB_nar _) dX8_holds_25
  · rw [zB_n0] at b17
    refine g_iconst (v := 1) h dX8_holds_20 (by decide) ?_
    refine g_goto (tgt := 25) h dX8_holds_21 (by decide) ?_
    exact g_zret h ⟨by rw [b17]; rfl, rfl⟩ (Nat.le_refl _) (Nat.le_refl _) (by first | rfl | exact zB_nar _) dX8_holds_25
theorem ct_holdsN14 {l : Launch} {g : gGP} (hk : gK l g) {c : gLH} {a p r : Nat} {num : Value} {y0 : Value} (hC : c a = some (r, .inr (14, [num, .null, y0]))) : Ct l g yX8_holds hwX8_holds 0 0 [.ref a, .ref p] c (0) (0) (pIp (zB true) c) := by
  refine Ct.intro hk hcX8_holds (by decide +kernel) (Nat.le_of_ble_eq_true rfl) (fun φ h => ?_)
  refine g_aload_n (i := 0) h dX8_holds_0 rfl rfl ?_
  refine g_get (v := .null) h f_X8_13_14 hC rfl dX8_holds_1 ?_
  refine g_ifnullN (tgt := 20) h dX8_holds_4 (by decide) ?_
  refine g_iconst (v := 1) h dX8_holds_20 (by decide) ?_
  refine g_goto (tgt := 25) h dX8_holds_21 (by decide) ?_
  exact g_zret h ⟨rfl, rfl⟩ (Nat.le_refl _) (Nat.le_refl _) (by first | rfl | exact zB_nar _) dX8_holds_25
theorem ct_holdsC14 {l : Launch} {g : gGP} (hk : gK l g) {c : gLH} {a p q r d : Nat} {b : Bool} {num : Value} {y0 : Value} (hH : HC l g d c q p b) (hC : c a = some (r, .inr (14, [num, .ref q, y0]))) : Ct l g yX8_holds hwX8_holds (d + 1) (40 * (d + 1)) [.ref a, .ref p] c (0) (0) (pIp (zB b) c) := by
  refine Ct.intro hk hcX8_holds (by decide +kernel) (Nat.le_of_ble_eq_true rfl) (fun φ h => ?_)
  refine g_aload_n (i := 0) h dX8_holds_0 rfl rfl ?_
  refine g_get (v := .ref q) h f_X8_13_14 hC rfl dX8_holds_1 ?_
  refine g_ifnull h dX8_holds_4 ?_
  refine g_aload_n (i := 0) h dX8_holds_7 rfl rfl ?_
  refine g_get (v := .ref q) h f_X8_13_14 hC rfl dX8_holds_8 ?_
  refine g_aload_n (i := 1) h dX8_holds_11 rfl rfl ?_
  refine g_condX8 h hH (Nat.le_of_ble_eq_true rfl) ⟨Nat.le_refl _, Nat.le_refl _⟩ ⟨Nat.zero_le _, Nat.zero_le _⟩ dX8_holds_12 ?_
  refine g_if_eq (tgt := 24) h dX8_holds_17 (by decide) (fun b17 => ?_) (fun b17 => ?_)
  · rw [zB_0] at b17
    refine g_iconst (v := 0) h dX8_holds_24 (by decide) ?_
    exact g_zret h ⟨by rw [b17]; rfl, rfl⟩ (Nat.le_refl _) (Nat.le_refl _) (by first | rfl | exact zB_nar _) dX8_holds_25
  · rw [zB_n0] at b17
    refine g_iconst (v := 1) h dX8_holds_20 (by decide) ?_
    refine g_goto (tgt := 25) h dX8_holds_21 (by decide) ?_
    exact g_zret h ⟨by rw [b17]; rfl, rfl⟩ (Nat.le_refl _) (Nat.le_refl _) (by first | rfl | exact zB_nar _) dX8_holds_25
