/-! THE COMPONENT: travellers' constructors -/
set_option maxRecDepth 100000
/-- the first n places are -1 -/
def m8 (n j : Nat) : Int32 := if j < n then -1 else 0
theorem m8_up (n : Nat) : upd (m8 n) n (-1) = m8 (n + 1) := by
  funext j
  unfold upd m8
  by_cases h : j = n
  · rw [if_pos h, if_pos (by omega)]
  · rw [if_neg h]
    by_cases z : j < n
    · rw [if_pos z, if_pos (by omega)]
    · rw [if_neg z, if_neg (by omega)]
theorem m8_0 : m8 0 = fun _ => 0 := by funext j; unfold m8; rw [if_neg (by omega)]
/-- what a traveller's constructor leaves -/
def tMade (c c' : gLH) (a r r1 r2 ci n : Nat) (fs : List Value) (q1 q2 : Nat) : Prop := c q1 = none ∧ c q2 = none ∧ q1 ≠ q2 ∧ c' a = some (r, .inr (ci, fs)) ∧ c' q1 = some (r1, .inl (0, 8, .inl (m8 n))) ∧ c' q2 = some (r2, .inl (0, 8, .inl (m8 n))) ∧ ∀ b, b ≠ a → b ≠ q1 → b ≠ q2 → c' b = c b
theorem ct_X24init25 {l : Launch} {g : gGP} (hk : gK l g) {c : gLH} {a r : Nat} {x0 x1 x2 x3 x4 x5 x6 : Value} (r1 r2 : Nat) (a0 a1 a2 a3 : Int32) (hr : r < gSB) (hr1 : r1 < gSB) (hr2 : r2 < gSB) (hc : c a = some (r, .inr (25, [x0, x1, x2, x3, x4, x5, x6]))) : Ct l g yX24_init hwX24_init 1 40 [.ref a, .int a0, .int a1, .int a2, .int a3] c (2) (16) (pV (fun c' => ∃ q1 q2, tMade c c' a r r1 r2 25 8 [.int a0, .int a1, .int a2, .int a3, .ref q1, .ref q2, x6] q1 q2)) := by
  refine Ct.intro hk hcX24_init (by decide +kernel) (Nat.le_of_ble_eq_true rfl) (fun φ h => ?_)
  refine g_aload_n (i := 0) h dX24_init_0 rfl rfl ?_
  refine g_objInit h q1309 ⟨Nat.le_of_ble_eq_true rfl, Nat.le_of_ble_eq_true rfl⟩ (Nat.le_of_ble_eq_true rfl) dX24_init_1 ?_
  refine g_aload_n (i := 0) h dX24_init_4 rfl rfl ?_
  refine g_bipush (v := nI 8) h dX24_init_5 (by decide) ?_
  refine g_newarr_int h r1 q1343 (by decide) (by (try dsimp only); omega) (by (try dsimp only); omega) dX24_init_7 (fun q1 hq1 => ?_)
  have n1 : a ≠ q1 := fun e => by rw [← e, hc] at hq1; cases hq1
  refine g_putF h rfl fp_X24_9_25 (by rw [va_up_n _ _ n1]; exact hc) hr (Nat.le_of_ble_eq_true rfl) rfl rfl dX24_init_9 ?_
  refine g_aload_n (i := 0) h dX24_init_12 rfl rfl ?_
  refine g_bipush (v := nI 8) h dX24_init_13 (by decide) ?_
  refine g_newarr_int h r2 q1343 (by decide) (by (try dsimp only); omega) (by (try dsimp only); omega) dX24_init_15 (fun q2 hq2 => ?_)
  have n2 : a ≠ q2 := fun e => by rw [← e, va_up_s] at hq2; cases hq2
  have n12 : q1 ≠ q2 := fun e => by rw [← e, va_up_n _ _ (Ne.symm n1), va_up_s] at hq2; cases hq2
  have hq2c : c q2 = none := by rw [va_up_n _ _ (Ne.symm n2), va_up_n _ _ (Ne.symm n12)] at hq2; exact hq2
  refine g_putF h rfl fp_X24_15_25 (by rw [va_up_n _ _ n2]; exact va_up_s _ _ _) hr (Nat.le_of_ble_eq_true rfl) rfl rfl dX24_init_17 ?_
  refine g_aload_n (i := 0) h dX24_init_20 rfl rfl ?_
  refine g_iload_n (i := 1) h dX24_init_21 rfl rfl ?_
  refine g_putF h rfl fp_X24_18_25 (va_up_s _ _ _) hr (Nat.le_of_ble_eq_true rfl) rfl rfl dX24_init_22 ?_
  refine g_aload_n (i := 0) h dX24_init_25 rfl rfl ?_
  refine g_iload_n (i := 2) h dX24_init_26 rfl rfl ?_
  refine g_putF h rfl fp_X24_22_25 (va_up_s _ _ _) hr (Nat.le_of_ble_eq_true rfl) rfl rfl dX24_init_27 ?_
  refine g_aload_n (i := 0) h dX24_init_30 rfl rfl ?_
  refine g_iload_n (i := 3) h dX24_init_31 rfl rfl ?_
  refine g_putF h rfl fp_X24_25_25 (va_up_s _ _ _) hr (Nat.le_of_ble_eq_true rfl) rfl rfl dX24_init_32 ?_
  refine g_aload_n (i := 0) h dX24_init_35 rfl rfl ?_
  refine g_iload h dX24_init_36 rfl ?_
  refine g_putF h rfl fp_X24_28_25 (va_up_s _ _ _) hr (Nat.le_of_ble_eq_true rfl) rfl rfl dX24_init_38 ?_
  refine g_iconst (v := 0) h dX24_init_41 (by decide) ?_
  refine g_istore h dX24_init_42 (by decide) ?_
  have loop : ∀ n, n ≤ 8 → ∀ c', tMade c c' a r r1 r2 25 n [.int a0, .int a1, .int a2, .int a3, .ref q1, .ref q2, x6] q1 q2 → G φ (gQ φ (pV (fun c' => ∃ q1 q2, tMade c c' a r r1 r2 25 8 [.int a0, .int a1, .int a2, .int a3, .ref q1, .ref q2, x6] q1 q2)) 2 16) 44 [(0, .ref a), (1, .int a0), (2, .int a1), (3, .int a2), (4, .int a3), (5, .int (nI n))] [] c' 2 16 := by
    refine gloop ?_ ?_
    · rintro c' ⟨k1, k2, k3, k4, k5, k6, k7⟩
      refine g_iload h dX24_init_44 rfl ?_
      refine g_bipush (v := nI 8) h dX24_init_46 (by decide) ?_
      refine g_icmp_ge (tgt := 73) h dX24_init_48 (by decide) (fun b48 => ?_) (fun _bz => absurd _bz (fun q => absurd (nI_le (Nat.le_refl _) (by omega)) q))
      exact g_vret h ⟨rfl, q1, q2, k1, k2, k3, k4, k5, k6, k7⟩ (by (try dsimp only); omega) (by (try dsimp only); omega) dX24_init_73
    · rintro n hn ih c' ⟨k1, k2, k3, k4, k5, k6, k7⟩
      refine g_iload h dX24_init_44 rfl ?_
      refine g_bipush (v := nI 8) h dX24_init_46 (by decide) ?_
      refine g_icmp_ge (tgt := 73) h dX24_init_48 (by decide) (fun _bz => absurd _bz (nI_ge hn (by omega))) (fun b48 => ?_)
      refine g_aload_n (i := 0) h dX24_init_51 rfl rfl ?_
      refine g_get (v := .ref q1) h f_X24_9_25 k4 rfl dX24_init_52 ?_
      refine g_iload h dX24_init_55 rfl ?_
      refine g_iconst (v := (-1)) h dX24_init_57 (by decide) ?_
      refine g_iastN h k5 hr1 hn (by decide) dX24_init_58 ?_
      rw [m8_up]
      have k4' := k4
      have k6' := k6
      refine g_aload_n (i := 0) h dX24_init_59 rfl rfl ?_
      refine g_get (v := .ref q2) h f_X24_15_25 (by rw [va_up_n _ _ n1]; exact k4) rfl dX24_init_60 ?_
      refine g_iload h dX24_init_63 rfl ?_
      refine g_iconst (v := (-1)) h dX24_init_65 (by decide) ?_
      refine g_iastN h (by rw [va_up_n _ _ (Ne.symm n12)]; exact k6) hr2 hn (by decide) dX24_init_66 ?_
      rw [m8_up]
      first | (with_reducible refine g_iincN h dX24_init_67 rfl (by decide) ?_) | refine g_iinc1 h dX24_init_67 rfl (by decide) ?_
      refine g_goto (tgt := 44) h dX24_init_70 (by decide) ?_
      exact G.to (ih _ ⟨k1, k2, k3, by rw [va_up_n _ _ n2, va_up_n _ _ n1]; exact k4, by rw [va_up_n _ _ n12]; exact va_up_s _ _ _, va_up_s _ _ _, fun b z1 z2 z3 => by rw [va_up_n _ _ z3, va_up_n _ _ z2]; exact k7 b z1 z2 z3⟩) ⟨rfl, rfl, rfl, rfl, rfl, rfl, trivial⟩
  refine G.up (ce' := 2) (sl' := 16) (by omega) (by omega) ?_
  refine G.to (loop 0 (Nat.zero_le _) _ ⟨hq1, hq2c, n12, ?_, ?_, ?_, ?_⟩) ⟨rfl, rfl, rfl, rfl, rfl, rfl, trivial⟩
  · exact va_up_s _ _ _
  · simp only [va_up_n _ _ (Ne.symm n1), va_up_n _ _ n12, va_up_s, m8_0]
  · simp only [va_up_n _ _ (Ne.symm n2), va_up_s, m8_0]
  · intro b z1 z2 z3
    simp only [va_up_n _ _ z1, va_up_n _ _ z2, va_up_n _ _ z3]
theorem ct_X24init26 {l : Launch} {g : gGP} (hk : gK l g) {c : gLH} {a r : Nat} {x0 x1 x2 x3 x4 x5 x6 : Value} (r1 r2 : Nat) (a0 a1 a2 a3 : Int32) (hr : r < gSB) (hr1 : r1 < gSB) (hr2 : r2 < gSB) (hc : c a = some (r, .inr (26, [x0, x1, x2, x3, x4, x5, x6]))) : Ct l g yX24_init hwX24_init 1 40 [.ref a, .int a0, .int a1, .int a2, .int a3] c (2) (16) (pV (fun c' => ∃ q1 q2, tMade c c' a r r1 r2 26 8 [.int a0, .int a1, .int a2, .int a3, .ref q1, .ref q2, x6] q1 q2)) := by
  refine Ct.intro hk hcX24_init (by decide +kernel) (Nat.le_of_ble_eq_true rfl) (fun φ h => ?_)
  refine g_aload_n (i := 0) h dX24_init_0 rfl rfl ?_
  refine g_objInit h q1309 ⟨Nat.le_of_ble_eq_true rfl, Nat.le_of_ble_eq_true rfl⟩ (Nat.le_of_ble_eq_true rfl) dX24_init_1 ?_
  refine g_aload_n (i := 0) h dX24_init_4 rfl rfl ?_
  refine g_bipush (v := nI 8) h dX24_init_5 (by decide) ?_
  refine g_newarr_int h r1 q1343 (by decide) (by (try dsimp only); omega) (by (try dsimp only); omega) dX24_init_7 (fun q1 hq1 => ?_)
  have n1 : a ≠ q1 := fun e => by rw [← e, hc] at hq1; cases hq1
  refine g_putF h rfl fp_X24_9_26 (by rw [va_up_n _ _ n1]; exact hc) hr (Nat.le_of_ble_eq_true rfl) rfl rfl dX24_init_9 ?_
  refine g_aload_n (i := 0) h dX24_init_12 rfl rfl ?_
  refine g_bipush (v := nI 8) h dX24_init_13 (by decide) ?_
  refine g_newarr_int h r2 q1343 (by decide) (by (try dsimp only); omega) (by (try dsimp only); omega) dX24_init_15 (fun q2 hq2 => ?_)
  have n2 : a ≠ q2 := fun e => by rw [← e, va_up_s] at hq2; cases hq2
  have n12 : q1 ≠ q2 := fun e => by rw [← e, va_up_n _ _ (Ne.symm n1), va_up_s] at hq2; cases hq2
  have hq2c : c q2 = none := by rw [va_up_n _ _ (Ne.symm n2), va_up_n _ _ (Ne.symm n12)] at hq2; exact hq2
  refine g_putF h rfl fp_X24_15_26 (by rw [va_up_n _ _ n2]; exact va_up_s _ _ _) hr (Nat.le_of_ble_eq_true rfl) rfl rfl dX24_init_17 ?_
  refine g_aload_n (i := 0) h dX24_init_20 rfl rfl ?_
  refine g_iload_n (i := 1) h dX24_init_21 rfl rfl ?_
  refine g_putF h rfl fp_X24_18_26 (va_up_s _ _ _) hr (Nat.le_of_ble_eq_true rfl) rfl rfl dX24_init_22 ?_
  refine g_aload_n (i := 0) h dX24_init_25 rfl rfl ?_
  refine g_iload_n (i := 2) h dX24_init_26 rfl rfl ?_
  refine g_putF h rfl fp_X24_22_26 (va_up_s _ _ _) hr (Nat.le_of_ble_eq_true rfl) rfl rfl dX24_init_27 ?_
  refine g_aload_n (i := 0) h dX24_init_30 rfl rfl ?_
  refine g_iload_n (i := 3) h dX24_init_31 rfl rfl ?_
  refine g_putF h rfl fp_X24_25_26 (va_up_s _ _ _) hr (Nat.le_of_ble_eq_true rfl) rfl rfl dX24_init_32 ?_
  refine g_aload_n (i := 0) h dX24_init_35 rfl rfl ?_
  refine g_iload h dX24_init_36 rfl ?_
  refine g_putF h rfl fp_X24_28_26 (va_up_s _ _ _) hr (Nat.le_of_ble_eq_true rfl) rfl rfl dX24_init_38 ?_
  refine g_iconst (v := 0) h dX24_init_41 (by decide) ?_
  refine g_istore h dX24_init_42 (by decide) ?_
  have loop : ∀ n, n ≤ 8 → ∀ c', tMade c c' a r r1 r2 26 n [.int a0, .int a1, .int a2, .int a3, .ref q1, .ref q2, x6] q1 q2 → G φ (gQ φ (pV (fun c' => ∃ q1 q2, tMade c c' a r r1 r2 26 8 [.int a0, .int a1, .int a2, .int a3, .ref q1, .ref q2, x6] q1 q2)) 2 16) 44 [(0, .ref a), (1, .int a0), (2, .int a1), (3, .int a2), (4, .int a3), (5, .int (nI n))] [] c' 2 16 := by
    refine gloop ?_ ?_
    · rintro c' ⟨k1, k2, k3, k4, k5, k6, k7⟩
      refine g_iload h dX24_init_44 rfl ?_
      refine g_bipush (v := nI 8) h dX24_init_46 (by decide) ?_
      refine g_icmp_ge (tgt := 73) h dX24_init_48 (by decide) (fun b48 => ?_) (fun _bz => absurd _bz (fun q => absurd (nI_le (Nat.le_refl _) (by omega)) q))
      exact g_vret h ⟨rfl, q1, q2, k1, k2, k3, k4, k5, k6, k7⟩ (by (try dsimp only); omega) (by (try dsimp only); omega) dX24_init_73
    · rintro n hn ih c' ⟨k1, k2, k3, k4, k5, k6, k7⟩
      refine g_iload h dX24_init_44 rfl ?_
      refine g_bipush (v := nI 8) h dX24_init_46 (by decide) ?_
      refine g_icmp_ge (tgt := 73) h dX24_init_48 (by decide) (fun _bz => absurd _bz (nI_ge hn (by omega))) (fun b48 => ?_)
      refine g_aload_n (i := 0) h dX24_init_51 rfl rfl ?_
      refine g_get (v := .ref q1) h f_X24_9_26 k4 rfl dX24_init_52 ?_
      refine g_iload h dX24_init_55 rfl ?_
      refine g_iconst (v := (-1)) h dX24_init_57 (by decide) ?_
      refine g_iastN h k5 hr1 hn (by decide) dX24_init_58 ?_
      rw [m8_up]
      have k4' := k4
      have k6' := k6
      refine g_aload_n (i := 0) h dX24_init_59 rfl rfl ?_
      refine g_get (v := .ref q2) h f_X24_15_26 (by rw [va_up_n _ _ n1]; exact k4) rfl dX24_init_60 ?_
      refine g_iload h dX24_init_63 rfl ?_
      refine g_iconst (v := (-1)) h dX24_init_65 (by decide) ?_
      refine g_iastN h (by rw [va_up_n _ _ (Ne.symm n12)]; exact k6) hr2 hn (by decide) dX24_init_66 ?_
      rw [m8_up]
      first | (with_reducible refine g_iincN h dX24_init_67 rfl (by decide) ?_) | refine g_iinc1 h dX24_init_67 rfl (by decide) ?_
      refine g_goto (tgt := 44) h dX24_init_70 (by decide) ?_
      exact G.to (ih _ ⟨k1, k2, k3, by rw [va_up_n _ _ n2, va_up_n _ _ n1]; exact k4, by rw [va_up_n _ _ n12]; exact va_up_s _ _ _, va_up_s _ _ _, fun b z1 z2 z3 => by rw [va_up_n _ _ z3, va_up_n _ _ z2]; exact k7 b z1 z2 z3⟩) ⟨rfl, rfl, rfl, rfl, rfl, rfl, trivial⟩
  refine G.up (ce' := 2) (sl' := 16) (by omega) (by omega) ?_
  refine G.to (loop 0 (Nat.zero_le _) _ ⟨hq1, hq2c, n12, ?_, ?_, ?_, ?_⟩) ⟨rfl, rfl, rfl, rfl, rfl, rfl, trivial⟩
  · exact va_up_s _ _ _
  · simp only [va_up_n _ _ (Ne.symm n1), va_up_n _ _ n12, va_up_s, m8_0]
  · simp only [va_up_n _ _ (Ne.symm n2), va_up_s, m8_0]
  · intro b z1 z2 z3
    simp only [va_up_n _ _ z1, va_up_n _ _ z2, va_up_n _ _ z3]
theorem ct_X24init27 {l : Launch} {g : gGP} (hk : gK l g) {c : gLH} {a r : Nat} {x0 x1 x2 x3 x4 x5 x6 : Value} (r1 r2 : Nat) (a0 a1 a2 a3 : Int32) (hr : r < gSB) (hr1 : r1 < gSB) (hr2 : r2 < gSB) (hc : c a = some (r, .inr (27, [x0, x1, x2, x3, x4, x5, x6]))) : Ct l g yX24_init hwX24_init 1 40 [.ref a, .int a0, .int a1, .int a2, .int a3] c (2) (16) (pV (fun c' => ∃ q1 q2, tMade c c' a r r1 r2 27 8 [.int a0, .int a1, .int a2, .int a3, .ref q1, .ref q2, x6] q1 q2)) := by
  refine Ct.intro hk hcX24_init (by decide +kernel) (Nat.le_of_ble_eq_true rfl) (fun φ h => ?_)
  refine g_aload_n (i := 0) h dX24_init_0 rfl rfl ?_
  refine g_objInit h q1309 ⟨Nat.le_of_ble_eq_true rfl, Nat.le_of_ble_eq_true rfl⟩ (Nat.le_of_ble_eq_true rfl) dX24_init_1 ?_
  refine g_aload_n (i := 0) h dX24_init_4 rfl rfl ?_
  refine g_bipush (v := nI 8) h dX24_init_5 (by decide) ?_
  refine g_newarr_int h r1 q1343 (by decide) (by (try dsimp only); omega) (by (try dsimp only); omega) dX24_init_7 (fun q1 hq1 => ?_)
  have n1 : a ≠ q1 := fun e => by rw [← e, hc] at hq1; cases hq1
  refine g_putF h rfl fp_X24_9_27 (by rw [va_up_n _ _ n1]; exact hc) hr (Nat.le_of_ble_eq_true rfl) rfl rfl dX24_init_9 ?_
  refine g_aload_n (i := 0) h dX24_init_12 rfl rfl ?_
  refine g_bipush (v := nI 8) h dX24_init_13 (by decide) ?_
  refine g_newarr_int h r2 q1343 (by decide) (by (try dsimp only); omega) (by (try dsimp only); omega) dX24_init_15 (fun q2 hq2 => ?_)
  have n2 : a ≠ q2 := fun e => by rw [← e, va_up_s] at hq2; cases hq2
  have n12 : q1 ≠ q2 := fun e => by rw [← e, va_up_n _ _ (Ne.symm n1), va_up_s] at hq2; cases hq2
  have hq2c : c q2 = none := by rw [va_up_n _ _ (Ne.symm n2), va_up_n _ _ (Ne.symm n12)] at hq2; exact hq2
  refine g_putF h rfl fp_X24_15_27 (by rw [va_up_n _ _ n2]; exact va_up_s _ _ _) hr (Nat.le_of_ble_eq_true rfl) rfl rfl dX24_init_17 ?_
  refine g_aload_n (i := 0) h dX24_init_20 rfl rfl ?_
  refine g_iload_n (i := 1) h dX24_init_21 rfl rfl ?_
  refine g_putF h rfl fp_X24_18_27 (va_up_s _ _ _) hr (Nat.le_of_ble_eq_true rfl) rfl rfl dX24_init_22 ?_
  refine g_aload_n (i := 0) h dX24_init_25 rfl rfl ?_
  refine g_iload_n (i := 2) h dX24_init_26 rfl rfl ?_
  refine g_putF h rfl fp_X24_22_27 (va_up_s _ _ _) hr (Nat.le_of_ble_eq_true rfl) rfl rfl dX24_init_27 ?_
  refine g_aload_n (i := 0) h dX24_init_30 rfl rfl ?_
  refine g_iload_n (i := 3) h dX24_init_31 rfl rfl ?_
  refine g_putF h rfl fp_X24_25_27 (va_up_s _ _ _) hr (Nat.le_of_ble_eq_true rfl) rfl rfl dX24_init_32 ?_
  refine g_aload_n (i := 0) h dX24_init_35 rfl rfl ?_
  refine g_iload h dX24_init_36 rfl ?_
  refine g_putF h rfl fp_X24_28_27 (va_up_s _ _ _) hr (Nat.le_of_ble_eq_true rfl) rfl rfl dX24_init_38 ?_
  refine g_iconst (v := 0) h dX24_init_41 (by decide) ?_
  refine g_istore h dX24_init_42 (by decide) ?_
  have loop : ∀ n, n ≤ 8 → ∀ c', tMade c c' a r r1 r2 27 n [.int a0, .int a1, .int a2, .int a3, .ref q1, .ref q2, x6] q1 q2 → G φ (gQ φ (pV (fun c' => ∃ q1 q2, tMade c c' a r r1 r2 27 8 [.int a0, .int a1, .int a2, .int a3, .ref q1, .ref q2, x6] q1 q2)) 2 16) 44 [(0, .ref a), (1, .int a0), (2, .int a1), (3, .int a2), (4, .int a3), (5, .int (nI n))] [] c' 2 16 := by
    refine gloop ?_ ?_
    · rintro c' ⟨k1, k2, k3, k4, k5, k6, k7⟩
      refine g_iload h dX24_init_44 rfl ?_
      refine g_bipush (v := nI 8) h dX24_init_46 (by decide) ?_
      refine g_icmp_ge (tgt := 73) h dX24_init_48 (by decide) (fun b48 => ?_) (fun _bz => absurd _bz (fun q => absurd (nI_le (Nat.le_refl _) (by omega)) q))
      exact g_vret h ⟨rfl, q1, q2, k1, k2, k3, k4, k5, k6, k7⟩ (by (try dsimp only); omega) (by (try dsimp only); omega) dX24_init_73
    · rintro n hn ih c' ⟨k1, k2, k3, k4, k5, k6, k7⟩
      refine g_iload h dX24_init_44 rfl ?_
      refine g_bipush (v := nI 8) h dX24_init_46 (by decide) ?_
      refine g_icmp_ge (tgt := 73) h dX24_init_48 (by decide) (fun _bz => absurd _bz (nI_ge hn (by omega))) (fun b48 => ?_)
      refine g_aload_n (i := 0) h dX24_init_51 rfl rfl ?_
      refine g_get (v := .ref q1) h f_X24_9_27 k4 rfl dX24_init_52 ?_
      refine g_iload h dX24_init_55 rfl ?_
      refine g_iconst (v := (-1)) h dX24_init_57 (by decide) ?_
      refine g_iastN h k5 hr1 hn (by decide) dX24_init_58 ?_
      rw [m8_up]
      have k4' := k4
      have k6' := k6
      refine g_aload_n (i := 0) h dX24_init_59 rfl rfl ?_
      refine g_get (v := .ref q2) h f_X24_15_27 (by rw [va_up_n _ _ n1]; exact k4) rfl dX24_init_60 ?_
      refine g_iload h dX24_init_63 rfl ?_
      refine g_iconst (v := (-1)) h dX24_init_65 (by decide) ?_
      refine g_iastN h (by rw [va_up_n _ _ (Ne.symm n12)]; exact k6) hr2 hn (by decide) dX24_init_66 ?_
      rw [m8_up]
      first | (with_reducible refine g_iincN h dX24_init_67 rfl (by decide) ?_) | refine g_iinc1 h dX24_init_67 rfl (by decide) ?_
      refine g_goto (tgt := 44) h dX24_init_70 (by decide) ?_
      exact G.to (ih _ ⟨k1, k2, k3, by rw [va_up_n _ _ n2, va_up_n _ _ n1]; exact k4, by rw [va_up_n _ _ n12]; exact va_up_s _ _ _, va_up_s _ _ _, fun b z1 z2 z3 => by rw [va_up_n _ _ z3, va_up_n _ _ z2]; exact k7 b z1 z2 z3⟩) ⟨rfl, rfl, rfl, rfl, rfl, rfl, trivial⟩
  refine G.up (ce' := 2) (sl' := 16) (by omega) (by omega) ?_
  refine G.to (loop 0 (Nat.zero_le _) _ ⟨hq1, hq2c, n12, ?_, ?_, ?_, ?_⟩) ⟨rfl, rfl, rfl, rfl, rfl, rfl, trivial⟩
  · exact va_up_s _ _ _
  · simp only [va_up_n _ _ (Ne.symm n1), va_up_n _ _ n12, va_up_s, m8_0]
  · simp only [va_up_n _ _ (Ne.symm n2), va_up_s, m8_0]
  · intro b z1 z2 z3
    simp only [va_up_n _ _ z1, va_up_n _ _ z2, va_up_n _ _ z3]
