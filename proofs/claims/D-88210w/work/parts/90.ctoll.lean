/-! THE COMPONENT: Toll.does -/
set_option maxRecDepth 100000
theorem wu_X10_10 : gWU RX10 13 10 ⟨"TurnpikeTrust$Toll", "base", "(LTurnpikeTrust$Pass;)J"⟩ yX10_base "TurnpikeTrust$Toll" hwX10_base 1 := ⟨⟨_, rfl, q1500⟩, q1498, q1501, Or.inr ⟨_, _, _, q1499, q1508⟩, ⟨by decide +kernel, by decide +kernel⟩, q1499, q94, q1508, by decide +kernel⟩
theorem cx_tollDoes10 {l : Launch} {g : gGP} (hk : gK l g) {c0 c : gLH} {ad cp fz : Nat → Nat → Nat} {md : Nat → Nat → Int32} {S : Nat → List Value} {U : Nat → Nat → Int64} {A : Nat → Nat → Int32} {B : Nat → Nat → Int64} {n : Nat} {o al ln : Int32} {t : Int64} {hb ab : Bool} (hX : CW c0 ad cp fz md (va_up S 1 (rF (nI n) o al ln t hb ab)) U A B c) {a : Nat} {num : Int32} {cd : Value} {s : Int64} {v : Nat → Int32} (hn : n ≤ 40) (hV : ∀ k, k < n → U 1 k ≠ 0) (hP : pW c (ad 4 0) v) (hC : c0 a = some (gT, .inr (10, [.int num, cd, .long s]))) : Ct l g yX10_does hwX10_does 2 80 [.ref a, .ref (ad 5 0), .ref (ad 4 0)] c (0) (0) (pI 1 (CW c0 ad cp fz md (va_up S 1 (rF (nI n) o al (rL o al hb ab num) (rV o al hb ab (rT (U 0) (U 1) s n)) hb ab)) U A B)) := by
  refine Ct.intro hk hcX10_does (by decide +kernel) (Nat.le_of_ble_eq_true rfl) (fun φ h => ?_)
  refine g_aload_n (i := 1) h dX10_does_0 rfl rfl ?_
  refine g_aload_n (i := 0) h dX10_does_1 rfl rfl ?_
  refine g_aload_n (i := 2) h dX10_does_2 rfl rfl ?_
  refine g_invU h (ct_base10 h.k hP (hX.1.frz hC gT_core)) hcX10_base wu_X10_10 rfl rfl (hX.1.frz hC gT_core) (Nat.le_of_ble_eq_true rfl) ⟨Nat.le_of_ble_eq_true rfl, Nat.le_of_ble_eq_true rfl⟩ (by refine ⟨?_, ?_⟩ <;> first | exact Nat.le_refl _ | exact Nat.zero_le _ | (dsimp only; omega)) dX10_does_3 (gkr_lp ?_) gkt_lp
  refine g_aload_n (i := 0) h dX10_does_6 rfl rfl ?_
  refine g_get (v := .int num) h f_X10_17_10 (hX.1.frz hC gT_core) rfl dX10_does_7 ?_
  refine g_invV h (cx_ends h.k hX hn s num hV) hcX3_ends w_X10_21 rfl rfl (x_rk hX) (Nat.le_of_ble_eq_true rfl) ⟨Nat.le_of_ble_eq_true rfl, Nat.le_of_ble_eq_true rfl⟩ (by refine ⟨?_, ?_⟩ <;> first | exact Nat.le_refl _ | exact Nat.zero_le _ | (dsimp only; omega)) dX10_does_10 (gkr_v (fun c hX => ?_)) gkt_v
  refine g_iconst (v := 1) h dX10_does_13 (by decide) ?_
  exact g_zret h ⟨rfl, hX⟩ (Nat.le_refl _) (Nat.le_refl _) (by first | rfl | exact zB_nar _) dX10_does_14
theorem wu_X10_11 : gWU RX10 13 11 ⟨"TurnpikeTrust$Toll", "base", "(LTurnpikeTrust$Pass;)J"⟩ yX11_base "TurnpikeTrust$Toll" hwX11_base 1 := ⟨⟨_, rfl, q1502⟩, q1498, q1501, Or.inr ⟨_, _, _, q1499, q1508⟩, ⟨by decide +kernel, by decide +kernel⟩, q1503, q95, q1504, by decide +kernel⟩
theorem cx_tollDoes11 {l : Launch} {g : gGP} (hk : gK l g) {c0 c : gLH} {ad cp fz : Nat → Nat → Nat} {md : Nat → Nat → Int32} {S : Nat → List Value} {U : Nat → Nat → Int64} {A : Nat → Nat → Int32} {B : Nat → Nat → Int64} {n : Nat} {o al ln : Int32} {t : Int64} {hb ab : Bool} (hX : CW c0 ad cp fz md (va_up S 1 (rF (nI n) o al ln t hb ab)) U A B c) {a : Nat} {num : Int32} {cd : Value} {s : Int64} {v : Nat → Int32} (hn : n ≤ 40) (hV : ∀ k, k < n → U 1 k ≠ 0) (hP : pW c (ad 4 0) v) (hC : c0 a = some (gT, .inr (11, [.int num, cd, .long s]))) : Ct l g yX10_does hwX10_does 2 80 [.ref a, .ref (ad 5 0), .ref (ad 4 0)] c (0) (0) (pI 1 (CW c0 ad cp fz md (va_up S 1 (rF (nI n) o al (rL o al hb ab num) (rV o al hb ab (rT (U 0) (U 1) (s * (v 2).toInt64) n)) hb ab)) U A B)) := by
  refine Ct.intro hk hcX10_does (by decide +kernel) (Nat.le_of_ble_eq_true rfl) (fun φ h => ?_)
  refine g_aload_n (i := 1) h dX10_does_0 rfl rfl ?_
  refine g_aload_n (i := 0) h dX10_does_1 rfl rfl ?_
  refine g_aload_n (i := 2) h dX10_does_2 rfl rfl ?_
  refine g_invU h (ct_base11 h.k hP (hX.1.frz hC gT_core)) hcX11_base wu_X10_11 rfl rfl (hX.1.frz hC gT_core) (Nat.le_of_ble_eq_true rfl) ⟨Nat.le_of_ble_eq_true rfl, Nat.le_of_ble_eq_true rfl⟩ (by refine ⟨?_, ?_⟩ <;> first | exact Nat.le_refl _ | exact Nat.zero_le _ | (dsimp only; omega)) dX10_does_3 (gkr_lp ?_) gkt_lp
  refine g_aload_n (i := 0) h dX10_does_6 rfl rfl ?_
  refine g_get (v := .int num) h f_X10_17_11 (hX.1.frz hC gT_core) rfl dX10_does_7 ?_
  refine g_invV h (cx_ends h.k hX hn (s * (v 2).toInt64) num hV) hcX3_ends w_X10_21 rfl rfl (x_rk hX) (Nat.le_of_ble_eq_true rfl) ⟨Nat.le_of_ble_eq_true rfl, Nat.le_of_ble_eq_true rfl⟩ (by refine ⟨?_, ?_⟩ <;> first | exact Nat.le_refl _ | exact Nat.zero_le _ | (dsimp only; omega)) dX10_does_10 (gkr_v (fun c hX => ?_)) gkt_v
  refine g_iconst (v := 1) h dX10_does_13 (by decide) ?_
  exact g_zret h ⟨rfl, hX⟩ (Nat.le_refl _) (Nat.le_refl _) (by first | rfl | exact zB_nar _) dX10_does_14
theorem wu_X10_12 : gWU RX10 13 12 ⟨"TurnpikeTrust$Toll", "base", "(LTurnpikeTrust$Pass;)J"⟩ yX12_base "TurnpikeTrust$Toll" hwX12_base 1 := ⟨⟨_, rfl, q1505⟩, q1498, q1501, Or.inr ⟨_, _, _, q1499, q1508⟩, ⟨by decide +kernel, by decide +kernel⟩, q1506, q96, q1507, by decide +kernel⟩
theorem cx_tollDoes12 {l : Launch} {g : gGP} (hk : gK l g) {c0 c : gLH} {ad cp fz : Nat → Nat → Nat} {md : Nat → Nat → Int32} {S : Nat → List Value} {U : Nat → Nat → Int64} {A : Nat → Nat → Int32} {B : Nat → Nat → Int64} {n : Nat} {o al ln : Int32} {t : Int64} {hb ab : Bool} (hX : CW c0 ad cp fz md (va_up S 1 (rF (nI n) o al ln t hb ab)) U A B c) {a : Nat} {num : Int32} {cd : Value} {s : Int64} {v : Nat → Int32} (hn : n ≤ 40) (hV : ∀ k, k < n → U 1 k ≠ 0) (hP : pW c (ad 4 0) v) (hC : c0 a = some (gT, .inr (12, [.int num, cd, .long s]))) : Ct l g yX10_does hwX10_does 2 80 [.ref a, .ref (ad 5 0), .ref (ad 4 0)] c (0) (0) (pI 1 (CW c0 ad cp fz md (va_up S 1 (rF (nI n) o al (rL o al hb ab num) (rV o al hb ab (rT (U 0) (U 1) (s * ((v 2 + 19) / 20).toInt64) n)) hb ab)) U A B)) := by
  refine Ct.intro hk hcX10_does (by decide +kernel) (Nat.le_of_ble_eq_true rfl) (fun φ h => ?_)
  refine g_aload_n (i := 1) h dX10_does_0 rfl rfl ?_
  refine g_aload_n (i := 0) h dX10_does_1 rfl rfl ?_
  refine g_aload_n (i := 2) h dX10_does_2 rfl rfl ?_
  refine g_invU h (ct_base12 h.k hP (hX.1.frz hC gT_core)) hcX12_base wu_X10_12 rfl rfl (hX.1.frz hC gT_core) (Nat.le_of_ble_eq_true rfl) ⟨Nat.le_of_ble_eq_true rfl, Nat.le_of_ble_eq_true rfl⟩ (by refine ⟨?_, ?_⟩ <;> first | exact Nat.le_refl _ | exact Nat.zero_le _ | (dsimp only; omega)) dX10_does_3 (gkr_lp ?_) gkt_lp
  refine g_aload_n (i := 0) h dX10_does_6 rfl rfl ?_
  refine g_get (v := .int num) h f_X10_17_12 (hX.1.frz hC gT_core) rfl dX10_does_7 ?_
  refine g_invV h (cx_ends h.k hX hn (s * ((v 2 + 19) / 20).toInt64) num hV) hcX3_ends w_X10_21 rfl rfl (x_rk hX) (Nat.le_of_ble_eq_true rfl) ⟨Nat.le_of_ble_eq_true rfl, Nat.le_of_ble_eq_true rfl⟩ (by refine ⟨?_, ?_⟩ <;> first | exact Nat.le_refl _ | exact Nat.zero_le _ | (dsimp only; omega)) dX10_does_10 (gkr_v (fun c hX => ?_)) gkt_v
  refine g_iconst (v := 1) h dX10_does_13 (by decide) ?_
  exact g_zret h ⟨rfl, hX⟩ (Nat.le_refl _) (Nat.le_refl _) (by first | rfl | exact zB_nar _) dX10_does_14
