/-! THE COMPONENT: leaf conditions, bases -/
set_option maxRecDepth 100000
/-- the pass at p: v: kind, wheels, beasts, bits, gate, day, back -/
def pW (c : gLH) (p : Nat) (v : Nat → Int32) : Prop := ∃ (rp w rt ci : Nat) (nu : Int32) (p1 p2 : Value), c p = some (rp, .inr (2, [.ref w, .int (v 4), .int (v 5), .int (v 6)])) ∧ c w = some (rt, .inr (ci, [.int nu, .int (v 1), .int (v 2), .int (v 3), p1, p2, .int (v 0)])) ∧ (ci = 25 ∨ ci = 26 ∨ ci = 27) ∧ (v 6 = 0 ∨ v 6 = 1)
theorem fT_X11_19 {ci : Nat} (h : ci = 25 ∨ ci = 26 ∨ ci = 27) : gF RX11 19 ci 2 := by
  rcases h with rfl | rfl | rfl
  · exact f_X11_19_25
  · exact f_X11_19_26
  · exact f_X11_19_27
theorem fT_X12_19 {ci : Nat} (h : ci = 25 ∨ ci = 26 ∨ ci = 27) : gF RX12 19 ci 2 := by
  rcases h with rfl | rfl | rfl
  · exact f_X12_19_25
  · exact f_X12_19_26
  · exact f_X12_19_27
theorem fT_X18_19 {ci : Nat} (h : ci = 25 ∨ ci = 26 ∨ ci = 27) : gF RX18 19 ci 3 := by
  rcases h with rfl | rfl | rfl
  · exact f_X18_19_25
  · exact f_X18_19_26
  · exact f_X18_19_27
theorem fT_X20_25 {ci : Nat} (h : ci = 25 ∨ ci = 26 ∨ ci = 27) : gF RX20 25 ci 1 := by
  rcases h with rfl | rfl | rfl
  · exact f_X20_25_25
  · exact f_X20_25_26
  · exact f_X20_25_27
theorem fT_X20_30 {ci : Nat} (h : ci = 25 ∨ ci = 26 ∨ ci = 27) : gF RX20 30 ci 2 := by
  rcases h with rfl | rfl | rfl
  · exact f_X20_30_25
  · exact f_X20_30_26
  · exact f_X20_30_27
theorem ct_base10 {l : Launch} {g : gGP} (hk : gK l g) {c : gLH} {a p ra : Nat} {v : Nat → Int32} (hP : pW c p v) {num : Int32} {cd : Value} {s : Int64} (hC : c a = some (ra, .inr (10, [.int num, cd, .long s]))) : Ct l g yX10_base hwX10_base 0 0 [.ref a, .ref p] c (0) (0) (pLp s c) := by
  refine Ct.intro hk hcX10_base (by decide +kernel) (Nat.le_of_ble_eq_true rfl) (fun φ h => ?_)
  obtain ⟨rp, w, rt, ci, nu, p1, p2, hp, hw, hci, hbk⟩ := hP
  refine g_aload_n (i := 0) h dX10_base_0 rfl rfl ?_
  refine g_get (v := .long s) h f_X10_7_10 hC rfl dX10_base_1 ?_
  exact g_lret h ⟨rfl, rfl⟩ (Nat.le_refl _) (Nat.le_refl _) dX10_base_4
theorem ct_base11 {l : Launch} {g : gGP} (hk : gK l g) {c : gLH} {a p ra : Nat} {v : Nat → Int32} (hP : pW c p v) {num : Int32} {cd : Value} {s : Int64} (hC : c a = some (ra, .inr (11, [.int num, cd, .long s]))) : Ct l g yX11_base hwX11_base 0 0 [.ref a, .ref p] c (0) (0) (pLp (s * (v 2).toInt64) c) := by
  refine Ct.intro hk hcX11_base (by decide +kernel) (Nat.le_of_ble_eq_true rfl) (fun φ h => ?_)
  obtain ⟨rp, w, rt, ci, nu, p1, p2, hp, hw, hci, hbk⟩ := hP
  refine g_aload_n (i := 0) h dX11_base_0 rfl rfl ?_
  refine g_get (v := .long s) h f_X11_7_11 hC rfl dX11_base_1 ?_
  refine g_aload_n (i := 1) h dX11_base_4 rfl rfl ?_
  refine g_get (v := .ref w) h f_X11_13_2 hp rfl dX11_base_5 ?_
  refine g_get (v := .int (v 2)) h (fT_X11_19 hci) hw rfl dX11_base_8 ?_
  refine g_i2l h dX11_base_11 ?_
  refine g_lmul h dX11_base_12 ?_
  exact g_lret h ⟨rfl, rfl⟩ (Nat.le_refl _) (Nat.le_refl _) dX11_base_13
theorem ct_base12 {l : Launch} {g : gGP} (hk : gK l g) {c : gLH} {a p ra : Nat} {v : Nat → Int32} (hP : pW c p v) {num : Int32} {cd : Value} {s : Int64} (hC : c a = some (ra, .inr (12, [.int num, cd, .long s]))) : Ct l g yX12_base hwX12_base 0 0 [.ref a, .ref p] c (0) (0) (pLp (s * ((v 2 + 19) / 20).toInt64) c) := by
  refine Ct.intro hk hcX12_base (by decide +kernel) (Nat.le_of_ble_eq_true rfl) (fun φ h => ?_)
  obtain ⟨rp, w, rt, ci, nu, p1, p2, hp, hw, hci, hbk⟩ := hP
  refine g_aload_n (i := 0) h dX12_base_0 rfl rfl ?_
  refine g_get (v := .long s) h f_X12_7_12 hC rfl dX12_base_1 ?_
  refine g_aload_n (i := 1) h dX12_base_4 rfl rfl ?_
  refine g_get (v := .ref w) h f_X12_13_2 hp rfl dX12_base_5 ?_
  refine g_get (v := .int (v 2)) h (fT_X12_19 hci) hw rfl dX12_base_8 ?_
  refine g_bipush (v := 19) h dX12_base_11 (by decide) ?_
  first | (with_reducible refine g_iaddN h dX12_base_13 ?_) | refine g_iadd h dX12_base_13 ?_
  refine g_bipush (v := 20) h dX12_base_14 (by decide) ?_
  refine g_idiv h dX12_base_16 (by decide) ?_
  refine g_i2l h dX12_base_17 ?_
  refine g_lmul h dX12_base_18 ?_
  exact g_lret h ⟨rfl, rfl⟩ (Nat.le_refl _) (Nat.le_refl _) dX12_base_19
theorem ct_bitHolds {l : Launch} {g : gGP} (hk : gK l g) {c : gLH} {a p ra : Nat} {v : Nat → Int32} (hP : pW c p v) {bit : Int32} (hC : c a = some (ra, .inr (18, [.int bit]))) : Ct l g yX18_holds hwX18_holds 0 0 [.ref a, .ref p] c (0) (0) (pIp (zB (!decide (v 3 &&& bit = 0))) c) := by
  refine Ct.intro hk hcX18_holds (by decide +kernel) (Nat.le_of_ble_eq_true rfl) (fun φ h => ?_)
  obtain ⟨rp, w, rt, ci, nu, p1, p2, hp, hw, hci, hbk⟩ := hP
  refine g_aload_n (i := 1) h dX18_holds_0 rfl rfl ?_
  refine g_get (v := .ref w) h f_X18_13_2 hp rfl dX18_holds_1 ?_
  refine g_get (v := .int (v 3)) h (fT_X18_19 hci) hw rfl dX18_holds_4 ?_
  refine g_aload_n (i := 0) h dX18_holds_7 rfl rfl ?_
  refine g_get (v := .int bit) h f_X18_7_18 hC rfl dX18_holds_8 ?_
  refine g_iand h dX18_holds_11 ?_
  refine g_if_eq (tgt := 19) h dX18_holds_12 (by decide) (fun b12 => ?_) (fun b12 => ?_)
  · refine g_iconst (v := 0) h dX18_holds_19 (by decide) ?_
    exact g_zret h ⟨by simp [b12, zB], rfl⟩ (Nat.le_refl _) (Nat.le_refl _) (by first | rfl | exact zB_nar _) dX18_holds_20
  · refine g_iconst (v := 1) h dX18_holds_15 (by decide) ?_
    refine g_goto (tgt := 20) h dX18_holds_16 (by decide) ?_
    exact g_zret h ⟨by simp [b12, zB], rfl⟩ (Nat.le_refl _) (Nat.le_refl _) (by first | rfl | exact zB_nar _) dX18_holds_20
theorem ct_backHolds {l : Launch} {g : gGP} (hk : gK l g) {c : gLH} {a p : Nat} {v : Nat → Int32} (hP : pW c p v) : Ct l g yX19_holds hwX19_holds 0 0 [.ref a, .ref p] c (0) (0) (pIp (v 6) c) := by
  refine Ct.intro hk hcX19_holds (by decide +kernel) (Nat.le_of_ble_eq_true rfl) (fun φ h => ?_)
  obtain ⟨rp, w, rt, ci, nu, p1, p2, hp, hw, hci, hbk⟩ := hP
  refine g_aload_n (i := 1) h dX19_holds_0 rfl rfl ?_
  refine g_get (v := .int (v 6)) h f_X19_7_2 hp rfl dX19_holds_1 ?_
  exact g_zret h ⟨rfl, rfl⟩ (Nat.le_refl _) (Nat.le_refl _) (by rcases hbk with z | z <;> rw [z] <;> rfl) dX19_holds_4
