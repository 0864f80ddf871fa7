/-! THE COMPONENT: guards that throw, simple constructors -/
set_option maxRecDepth 100000
theorem va_up_up {α : Type} (f : Nat → α) (k : Nat) (x y : α) : va_up (va_up f k x) k y = va_up f k y := by
  funext i; unfold va_up; split <;> rfl
/-- an exception of class ci is thrown, a cell just made -/
abbrev pThr (ci : Nat) (c : gLH) : Outcome → gLH → Prop := fun o c' => ∃ (a : Nat) (e : List Value), o = .threw a ∧ c a = none ∧ c' = va_up c a (some (gT, .inr (ci, e)))
abbrev pGd (b : Bool) (ci : Nat) (c : gLH) : Outcome → gLH → Prop := fun o c' => if b = true then o = .returned none ∧ c' = c else pThr ci c o c'
section GGD
variable {φ : gFx} {Q : State → Prop} {pc : Nat} {lv : List (Nat × Value)} {st : List Value} {c : gLH} {ce sl ci : Nat} {b : Bool}
theorem gkr_gd (k : b = true → G φ Q pc lv st c ce sl) : gKR φ Q pc lv st ce sl (pGd b ci c) := fun v c' hp => by
  cases b with
  | true => obtain ⟨hv, rfl⟩ := hp; cases hv; exact k rfl
  | false => obtain ⟨a, e, hv, -⟩ := hp; cases hv
theorem gkt_gd (k : b = false → ∀ (a : Nat) (e : List Value), c a = none → GT φ Q pc lv a (va_up c a (some (gT, .inr (ci, e)))) ce sl) : gKT φ Q pc lv ce sl (pGd b ci c) := fun a c' hp => by
  cases b with
  | true => obtain ⟨hv, -⟩ := hp; cases hv
  | false => obtain ⟨a', e, hv, ha, rfl⟩ := hp; cases hv; exact k rfl a e ha
end GGD
theorem ct_needX {l : Launch} {g : gGP} (hk : gK l g) {c : gLH} (b : Bool) (hts : gTS g) : Ct l g yX1_need hwX1_need 6 240 [.int (zB b)] c (1) (6) (pGd b 32 c) := by
  refine Ct.intro hk hcX1_need (by decide +kernel) (Nat.le_of_ble_eq_true rfl) (fun φ h => ?_)
  cases b
  case true =>
    refine g_iload_n (i := 0) h dX1_need_0 rfl rfl ?_
    refine g_if_ne (tgt := 12) h dX1_need_1 (by decide) (fun b1 => ?_) (fun _bz => absurd _bz (by decide))
    exact g_vret h ⟨rfl, rfl⟩ (Nat.zero_le _) (Nat.zero_le _) dX1_need_12
  case false =>
    refine g_iload_n (i := 0) h dX1_need_0 rfl rfl ?_
    refine g_if_ne (tgt := 12) h dX1_need_1 (by decide) (fun _bz => absurd _bz (by decide)) (fun b1 => ?_)
    refine g_new h gFr n_X1_62 (by show 0 + 1 ≤ 1; omega) (by show 0 + 6 ≤ 6; omega) dX1_need_4 (fun a ha => ?_)
    refine g_dup h dX1_need_7 rfl ?_
    refine g_excInit h hts ex_IAE ch_IAE q630 (va_up_s _ _ _) rfl gT_lt (Nat.le_of_ble_eq_true rfl) ⟨Nat.le_of_ble_eq_true rfl, Nat.le_of_ble_eq_true rfl⟩ dX1_need_8 (fun u sn => ?_)
    refine g_athrow h dX1_need_11 (gt_out h (fun q hq => by cases hq) ?_ (by omega) (by omega))
    exact ⟨a, _, rfl, ha, by rw [va_up_up]⟩
theorem ct_rightX {l : Launch} {g : gGP} (hk : gK l g) {c : gLH} (b : Bool) (hts : gTS g) : Ct l g yX1_right hwX1_right 6 240 [.int (zB b)] c (1) (6) (pGd b 33 c) := by
  refine Ct.intro hk hcX1_right (by decide +kernel) (Nat.le_of_ble_eq_true rfl) (fun φ h => ?_)
  cases b
  case true =>
    refine g_iload_n (i := 0) h dX1_right_0 rfl rfl ?_
    refine g_if_ne (tgt := 12) h dX1_right_1 (by decide) (fun b1 => ?_) (fun _bz => absurd _bz (by decide))
    exact g_vret h ⟨rfl, rfl⟩ (Nat.zero_le _) (Nat.zero_le _) dX1_right_12
  case false =>
    refine g_iload_n (i := 0) h dX1_right_0 rfl rfl ?_
    refine g_if_ne (tgt := 12) h dX1_right_1 (by decide) (fun _bz => absurd _bz (by decide)) (fun b1 => ?_)
    refine g_new h gFr n_X1_65 (by show 0 + 1 ≤ 1; omega) (by show 0 + 6 ≤ 6; omega) dX1_right_4 (fun a ha => ?_)
    refine g_dup h dX1_right_7 rfl ?_
    refine g_excInit h hts ex_ISE ch_ISE q652 (va_up_s _ _ _) rfl gT_lt (Nat.le_of_ble_eq_true rfl) ⟨Nat.le_of_ble_eq_true rfl, Nat.le_of_ble_eq_true rfl⟩ dX1_right_8 (fun u sn => ?_)
    refine g_athrow h dX1_right_11 (gt_out h (fun q hq => by cases hq) ?_ (by omega) (by omega))
    exact ⟨a, _, rfl, ha, by rw [va_up_up]⟩
def sThere (k n : Int32) : Bool := !decide (k < 0) && decide (k < n)
theorem ct_thereX {l : Launch} {g : gGP} (hk : gK l g) {c : gLH} (k n : Int32) (hts : gTS g) : Ct l g yX1_there hwX1_there 6 240 [.int k, .int n] c (1) (6) (pGd (sThere k n) 34 c) := by
  refine Ct.intro hk hcX1_there (by decide +kernel) (Nat.le_of_ble_eq_true rfl) (fun φ h => ?_)
  refine g_iload_n (i := 0) h dX1_there_0 rfl rfl ?_
  refine g_if_lt (tgt := 9) h dX1_there_1 (by decide) (fun b1 => ?_) (fun b1 => ?_)
  · refine g_new h gFr n_X1_68 (by show 0 + 1 ≤ 1; omega) (by show 0 + 6 ≤ 6; omega) dX1_there_9 (fun a ha => ?_)
    refine g_dup h dX1_there_12 rfl ?_
    refine g_excInit h hts ex_IOB ch_IOB q1255 (va_up_s _ _ _) rfl gT_lt (Nat.le_of_ble_eq_true rfl) ⟨Nat.le_of_ble_eq_true rfl, Nat.le_of_ble_eq_true rfl⟩ dX1_there_13 (fun u sn => ?_)
    have hE : sThere k n = false := by simp [sThere, b1]
    rw [hE]
    refine g_athrow h dX1_there_16 (gt_out h (fun q hq => by cases hq) ?_ (by omega) (by omega))
    exact ⟨a, _, rfl, ha, by rw [va_up_up]⟩
  · refine g_iload_n (i := 0) h dX1_there_4 rfl rfl ?_
    refine g_iload_n (i := 1) h dX1_there_5 rfl rfl ?_
    refine g_icmp_lt (tgt := 17) h dX1_there_6 (by decide) (fun b6 => ?_) (fun b6 => ?_)
    · exact g_vret h (by rw [show sThere k n = true by simp [sThere, b1, b6]]; exact ⟨rfl, rfl⟩) (Nat.zero_le _) (Nat.zero_le _) dX1_there_17
    · refine g_new h gFr n_X1_68 (by show 0 + 1 ≤ 1; omega) (by show 0 + 6 ≤ 6; omega) dX1_there_9 (fun a ha => ?_)
      refine g_dup h dX1_there_12 rfl ?_
      refine g_excInit h hts ex_IOB ch_IOB q1255 (va_up_s _ _ _) rfl gT_lt (Nat.le_of_ble_eq_true rfl) ⟨Nat.le_of_ble_eq_true rfl, Nat.le_of_ble_eq_true rfl⟩ dX1_there_13 (fun u sn => ?_)
      have hE : sThere k n = false := by simp [sThere, b1, b6]
      rw [hE]
      refine g_athrow h dX1_there_16 (gt_out h (fun q hq => by cases hq) ?_ (by omega) (by omega))
      exact ⟨a, _, rfl, ha, by rw [va_up_up]⟩
theorem ct_X22init {l : Launch} {g : gGP} (hk : gK l g) {c : gLH} {a r : Nat} {x0 x1 : Value} (a0 : Int32) (hr : r < gSB) (hc : c a = some (r, .inr (22, [x0, x1]))) : Ct l g yX22_init hwX22_init 1 40 [.ref a, .int a0] c (0) (0) (pV (fun c' => c' = va_up c a (some (r, .inr (22, [.int a0, x1]))))) := by
  refine Ct.intro hk hcX22_init (by decide +kernel) (Nat.le_of_ble_eq_true rfl) (fun φ h => ?_)
  refine g_aload_n (i := 0) h dX22_init_0 rfl rfl ?_
  refine g_objInit h q1207 ⟨Nat.le_of_ble_eq_true rfl, Nat.le_of_ble_eq_true rfl⟩ (Nat.le_of_ble_eq_true rfl) dX22_init_1 ?_
  refine g_aload_n (i := 0) h dX22_init_4 rfl rfl ?_
  refine g_iload_n (i := 1) h dX22_init_5 rfl rfl ?_
  refine g_putF h rfl fp_X22_7_22 hc hr (Nat.le_of_ble_eq_true rfl) rfl rfl dX22_init_6 ?_
  exact g_vret h ⟨rfl, by simp only [va_up_up]; rfl⟩ (Nat.le_refl _) (Nat.le_refl _) dX22_init_9
theorem ct_X28init {l : Launch} {g : gGP} (hk : gK l g) {c : gLH} {a r : Nat} {x0 : Value} (a0 : Int64) (hr : r < gSB) (hc : c a = some (r, .inr (28, [x0]))) : Ct l g yX28_init hwX28_init 1 40 [.ref a, .long a0] c (0) (0) (pV (fun c' => c' = va_up c a (some (r, .inr (28, [.long a0]))))) := by
  refine Ct.intro hk hcX28_init (by decide +kernel) (Nat.le_of_ble_eq_true rfl) (fun φ h => ?_)
  refine g_aload_n (i := 0) h dX28_init_0 rfl rfl ?_
  refine g_objInit h q1625 ⟨Nat.le_of_ble_eq_true rfl, Nat.le_of_ble_eq_true rfl⟩ (Nat.le_of_ble_eq_true rfl) dX28_init_1 ?_
  refine g_aload_n (i := 0) h dX28_init_4 rfl rfl ?_
  refine g_lload_n (i := 1) h dX28_init_5 rfl rfl ?_
  refine g_put h fp_X28_7_28 hc hr (Nat.le_of_ble_eq_true rfl) rfl rfl dX28_init_6 ?_
  exact g_vret h ⟨rfl, by simp only [va_up_up]; rfl⟩ (Nat.le_refl _) (Nat.le_refl _) dX28_init_9
theorem ct_X29init {l : Launch} {g : gGP} (hk : gK l g) {c : gLH} {a r : Nat} {x0 x1 x2 : Value} (a0 : Int32) (a1 : Int32) (a2 : Int32) (hr : r < gSB) (hc : c a = some (r, .inr (29, [x0, x1, x2]))) : Ct l g yX29_init hwX29_init 1 40 [.ref a, .int a0, .int a1, .int a2] c (0) (0) (pV (fun c' => c' = va_up c a (some (r, .inr (29, [.int a0, .int a1, .int a2]))))) := by
  refine Ct.intro hk hcX29_init (by decide +kernel) (Nat.le_of_ble_eq_true rfl) (fun φ h => ?_)
  refine g_aload_n (i := 0) h dX29_init_0 rfl rfl ?_
  refine g_objInit h q1644 ⟨Nat.le_of_ble_eq_true rfl, Nat.le_of_ble_eq_true rfl⟩ (Nat.le_of_ble_eq_true rfl) dX29_init_1 ?_
  refine g_aload_n (i := 0) h dX29_init_4 rfl rfl ?_
  refine g_iload_n (i := 1) h dX29_init_5 rfl rfl ?_
  refine g_putF h rfl fp_X29_7_29 hc hr (Nat.le_of_ble_eq_true rfl) rfl rfl dX29_init_6 ?_
  refine g_aload_n (i := 0) h dX29_init_9 rfl rfl ?_
  refine g_iload_n (i := 2) h dX29_init_10 rfl rfl ?_
  refine g_putF h rfl fp_X29_13_29 (va_up_s _ _ _) hr (Nat.le_of_ble_eq_true rfl) rfl rfl dX29_init_11 ?_
  refine g_aload_n (i := 0) h dX29_init_14 rfl rfl ?_
  refine g_iload_n (i := 3) h dX29_init_15 rfl rfl ?_
  refine g_putF h rfl fp_X29_16_29 (va_up_s _ _ _) hr (Nat.le_of_ble_eq_true rfl) rfl rfl dX29_init_16 ?_
  exact g_vret h ⟨rfl, by simp only [va_up_up]; rfl⟩ (Nat.le_refl _) (Nat.le_refl _) dX29_init_19
theorem ct_X30init {l : Launch} {g : gGP} (hk : gK l g) {c : gLH} {a r : Nat} {x0 x1 x2 x3 : Value} (a0 : Int64) (a1 : Int32) (a2 : Int32) (hr : r < gSB) (hc : c a = some (r, .inr (30, [x0, x1, x2, x3]))) : Ct l g yX30_init hwX30_init 1 40 [.ref a, .long a0, .int a1, .int a2] c (0) (0) (pV (fun c' => c' = va_up c a (some (r, .inr (30, [.int a1, .int a2, .long a0, x3]))))) := by
  refine Ct.intro hk hcX30_init (by decide +kernel) (Nat.le_of_ble_eq_true rfl) (fun φ h => ?_)
  refine g_aload_n (i := 0) h dX30_init_0 rfl rfl ?_
  refine g_objInit h q1687 ⟨Nat.le_of_ble_eq_true rfl, Nat.le_of_ble_eq_true rfl⟩ (Nat.le_of_ble_eq_true rfl) dX30_init_1 ?_
  refine g_aload_n (i := 0) h dX30_init_4 rfl rfl ?_
  refine g_lload_n (i := 1) h dX30_init_5 rfl rfl ?_
  refine g_put h fp_X30_7_30 hc hr (Nat.le_of_ble_eq_true rfl) rfl rfl dX30_init_6 ?_
  refine g_aload_n (i := 0) h dX30_init_9 rfl rfl ?_
  refine g_iload_n (i := 3) h dX30_init_10 rfl rfl ?_
  refine g_putF h rfl fp_X30_13_30 (va_up_s _ _ _) hr (Nat.le_of_ble_eq_true rfl) rfl rfl dX30_init_11 ?_
  refine g_aload_n (i := 0) h dX30_init_14 rfl rfl ?_
  refine g_iload h dX30_init_15 rfl ?_
  refine g_putF h rfl fp_X30_17_30 (va_up_s _ _ _) hr (Nat.le_of_ble_eq_true rfl) rfl rfl dX30_init_17 ?_
  exact g_vret h ⟨rfl, by simp only [va_up_up]; rfl⟩ (Nat.le_refl _) (Nat.le_refl _) dX30_init_20
theorem ct_X2init {l : Launch} {g : gGP} (hk : gK l g) {c : gLH} {a r : Nat} {x0 x1 x2 x3 : Value} (hr : r < gSB) (hc : c a = some (r, .inr (2, [x0, x1, x2, x3]))) : Ct l g yX2_init hwX2_init 1 40 [.ref a] c (0) (0) (pVp c) := by
  refine Ct.intro hk hcX2_init (by decide +kernel) (Nat.le_of_ble_eq_true rfl) (fun φ h => ?_)
  refine g_aload_n (i := 0) h dX2_init_0 rfl rfl ?_
  refine g_objInit h q475 ⟨Nat.le_of_ble_eq_true rfl, Nat.le_of_ble_eq_true rfl⟩ (Nat.le_of_ble_eq_true rfl) dX2_init_1 ?_
  exact g_vret h ⟨rfl, rfl⟩ (Nat.le_refl _) (Nat.le_refl _) dX2_init_4
theorem ct_X17init {l : Launch} {g : gGP} (hk : gK l g) {c : gLH} {a r : Nat} {x0 : Value} (a0 : Nat) (hr : r < gSB) (hc : c a = some (r, .inr (17, [x0]))) : Ct l g yX17_init hwX17_init 1 40 [.ref a, .ref a0] c (0) (0) (pV (fun c' => c' = va_up c a (some (r, .inr (17, [.ref a0]))))) := by
  refine Ct.intro hk hcX17_init (by decide +kernel) (Nat.le_of_ble_eq_true rfl) (fun φ h => ?_)
  refine g_aload_n (i := 0) h dX17_init_0 rfl rfl ?_
  refine g_objInit h q982 ⟨Nat.le_of_ble_eq_true rfl, Nat.le_of_ble_eq_true rfl⟩ (Nat.le_of_ble_eq_true rfl) dX17_init_1 ?_
  refine g_aload_n (i := 0) h dX17_init_4 rfl rfl ?_
  refine g_aload_n (i := 1) h dX17_init_5 rfl rfl ?_
  refine g_putF h rfl fp_X17_7_17 hc hr (Nat.le_of_ble_eq_true rfl) rfl rfl dX17_init_6 ?_
  exact g_vret h ⟨rfl, by simp only [va_up_up]; rfl⟩ (Nat.le_refl _) (Nat.le_refl _) dX17_init_9
theorem ct_X18init {l : Launch} {g : gGP} (hk : gK l g) {c : gLH} {a r : Nat} {x0 : Value} (a0 : Int32) (hr : r < gSB) (hc : c a = some (r, .inr (18, [x0]))) : Ct l g yX18_init hwX18_init 1 40 [.ref a, .int a0] c (0) (0) (pV (fun c' => c' = va_up c a (some (r, .inr (18, [.int a0]))))) := by
  refine Ct.intro hk hcX18_init (by decide +kernel) (Nat.le_of_ble_eq_true rfl) (fun φ h => ?_)
  refine g_aload_n (i := 0) h dX18_init_0 rfl rfl ?_
  refine g_objInit h q1067 ⟨Nat.le_of_ble_eq_true rfl, Nat.le_of_ble_eq_true rfl⟩ (Nat.le_of_ble_eq_true rfl) dX18_init_1 ?_
  refine g_aload_n (i := 0) h dX18_init_4 rfl rfl ?_
  refine g_iload_n (i := 1) h dX18_init_5 rfl rfl ?_
  refine g_putF h rfl fp_X18_7_18 hc hr (Nat.le_of_ble_eq_true rfl) rfl rfl dX18_init_6 ?_
  exact g_vret h ⟨rfl, by simp only [va_up_up]; rfl⟩ (Nat.le_refl _) (Nat.le_refl _) dX18_init_9
theorem ct_X20init {l : Launch} {g : gGP} (hk : gK l g) {c : gLH} {a r : Nat} {x0 x1 x2 : Value} (a0 : Int32) (a1 : Int32) (a2 : Int32) (hr : r < gSB) (hc : c a = some (r, .inr (20, [x0, x1, x2]))) : Ct l g yX20_init hwX20_init 1 40 [.ref a, .int a0, .int a1, .int a2] c (0) (0) (pV (fun c' => c' = va_up c a (some (r, .inr (20, [.int a0, .int a1, .int a2]))))) := by
  refine Ct.intro hk hcX20_init (by decide +kernel) (Nat.le_of_ble_eq_true rfl) (fun φ h => ?_)
  refine g_aload_n (i := 0) h dX20_init_0 rfl rfl ?_
  refine g_objInit h q1088 ⟨Nat.le_of_ble_eq_true rfl, Nat.le_of_ble_eq_true rfl⟩ (Nat.le_of_ble_eq_true rfl) dX20_init_1 ?_
  refine g_aload_n (i := 0) h dX20_init_4 rfl rfl ?_
  refine g_iload_n (i := 1) h dX20_init_5 rfl rfl ?_
  refine g_putF h rfl fp_X20_7_20 hc hr (Nat.le_of_ble_eq_true rfl) rfl rfl dX20_init_6 ?_
  refine g_aload_n (i := 0) h dX20_init_9 rfl rfl ?_
  refine g_iload_n (i := 2) h dX20_init_10 rfl rfl ?_
  refine g_putF h rfl fp_X20_13_20 (va_up_s _ _ _) hr (Nat.le_of_ble_eq_true rfl) rfl rfl dX20_init_11 ?_
  refine g_aload_n (i := 0) h dX20_init_14 rfl rfl ?_
  refine g_iload_n (i := 3) h dX20_init_15 rfl rfl ?_
  refine g_putF h rfl fp_X20_16_20 (va_up_s _ _ _) hr (Nat.le_of_ble_eq_true rfl) rfl rfl dX20_init_16 ?_
  exact g_vret h ⟨rfl, by simp only [va_up_up]; rfl⟩ (Nat.le_refl _) (Nat.le_refl _) dX20_init_19
theorem ct_X21init {l : Launch} {g : gGP} (hk : gK l g) {c : gLH} {a r : Nat} {x0 : Value} (a0 : Int32) (hr : r < gSB) (hc : c a = some (r, .inr (21, [x0]))) : Ct l g yX21_init hwX21_init 1 40 [.ref a, .int a0] c (0) (0) (pV (fun c' => c' = va_up c a (some (r, .inr (21, [.int a0]))))) := by
  refine Ct.intro hk hcX21_init (by decide +kernel) (Nat.le_of_ble_eq_true rfl) (fun φ h => ?_)
  refine g_aload_n (i := 0) h dX21_init_0 rfl rfl ?_
  refine g_objInit h q1118 ⟨Nat.le_of_ble_eq_true rfl, Nat.le_of_ble_eq_true rfl⟩ (Nat.le_of_ble_eq_true rfl) dX21_init_1 ?_
  refine g_aload_n (i := 0) h dX21_init_4 rfl rfl ?_
  refine g_iload_n (i := 1) h dX21_init_5 rfl rfl ?_
  refine g_putF h rfl fp_X21_7_21 hc hr (Nat.le_of_ble_eq_true rfl) rfl rfl dX21_init_6 ?_
  exact g_vret h ⟨rfl, by simp only [va_up_up]; rfl⟩ (Nat.le_refl _) (Nat.le_refl _) dX21_init_9
theorem ct_X19init {l : Launch} {g : gGP} (hk : gK l g) {c : gLH} {a : Nat} : Ct l g yX19_init hwX19_init 1 40 [.ref a] c (0) (0) (pVp c) := by
  refine Ct.intro hk hcX19_init (by decide +kernel) (Nat.le_of_ble_eq_true rfl) (fun φ h => ?_)
  refine g_aload_n (i := 0) h dX19_init_0 rfl rfl ?_
  refine g_objInit h q1077 ⟨Nat.le_of_ble_eq_true rfl, Nat.le_of_ble_eq_true rfl⟩ (Nat.le_of_ble_eq_true rfl) dX19_init_1 ?_
  exact g_vret h ⟨rfl, rfl⟩ (Nat.le_refl _) (Nat.le_refl _) dX19_init_4
theorem ct_X8init9 {l : Launch} {g : gGP} (hk : gK l g) {c : gLH} {a r : Nat} {x0 x1 : Value} (a0 : Int32) (hr : r < gSB) (hc : c a = some (r, .inr (9, [x0, x1]))) : Ct l g yX8_init hwX8_init 1 40 [.ref a, .int a0] c (0) (0) (pV (fun c' => c' = va_up c a (some (r, .inr (9, [.int a0, x1]))))) := by
  refine Ct.intro hk hcX8_init (by decide +kernel) (Nat.le_of_ble_eq_true rfl) (fun φ h => ?_)
  refine g_aload_n (i := 0) h dX8_init_0 rfl rfl ?_
  refine g_objInit h q829 ⟨Nat.le_of_ble_eq_true rfl, Nat.le_of_ble_eq_true rfl⟩ (Nat.le_of_ble_eq_true rfl) dX8_init_1 ?_
  refine g_aload_n (i := 0) h dX8_init_4 rfl rfl ?_
  refine g_iload_n (i := 1) h dX8_init_5 rfl rfl ?_
  refine g_putF h rfl fp_X8_7_9 hc hr (Nat.le_of_ble_eq_true rfl) rfl rfl dX8_init_6 ?_
  exact g_vret h ⟨rfl, rfl⟩ (Nat.le_refl _) (Nat.le_refl _) dX8_init_9
theorem ct_X8init10 {l : Launch} {g : gGP} (hk : gK l g) {c : gLH} {a r : Nat} {x0 x1 x2 : Value} (a0 : Int32) (hr : r < gSB) (hc : c a = some (r, .inr (10, [x0, x1, x2]))) : Ct l g yX8_init hwX8_init 1 40 [.ref a, .int a0] c (0) (0) (pV (fun c' => c' = va_up c a (some (r, .inr (10, [.int a0, x1, x2]))))) := by
  refine Ct.intro hk hcX8_init (by decide +kernel) (Nat.le_of_ble_eq_true rfl) (fun φ h => ?_)
  refine g_aload_n (i := 0) h dX8_init_0 rfl rfl ?_
  refine g_objInit h q829 ⟨Nat.le_of_ble_eq_true rfl, Nat.le_of_ble_eq_true rfl⟩ (Nat.le_of_ble_eq_true rfl) dX8_init_1 ?_
  refine g_aload_n (i := 0) h dX8_init_4 rfl rfl ?_
  refine g_iload_n (i := 1) h dX8_init_5 rfl rfl ?_
  refine g_putF h rfl fp_X8_7_10 hc hr (Nat.le_of_ble_eq_true rfl) rfl rfl dX8_init_6 ?_
  exact g_vret h ⟨rfl, rfl⟩ (Nat.le_refl _) (Nat.le_refl _) dX8_init_9
theorem ct_X8init11 {l : Launch} {g : gGP} (hk : gK l g) {c : gLH} {a r : Nat} {x0 x1 x2 : Value} (a0 : Int32) (hr : r < gSB) (hc : c a = some (r, .inr (11, [x0, x1, x2]))) : Ct l g yX8_init hwX8_init 1 40 [.ref a, .int a0] c (0) (0) (pV (fun c' => c' = va_up c a (some (r, .inr (11, [.int a0, x1, x2]))))) := by
  refine Ct.intro hk hcX8_init (by decide +kernel) (Nat.le_of_ble_eq_true rfl) (fun φ h => ?_)
  refine g_aload_n (i := 0) h dX8_init_0 rfl rfl ?_
  refine g_objInit h q829 ⟨Nat.le_of_ble_eq_true rfl, Nat.le_of_ble_eq_true rfl⟩ (Nat.le_of_ble_eq_true rfl) dX8_init_1 ?_
  refine g_aload_n (i := 0) h dX8_init_4 rfl rfl ?_
  refine g_iload_n (i := 1) h dX8_init_5 rfl rfl ?_
  refine g_putF h rfl fp_X8_7_11 hc hr (Nat.le_of_ble_eq_true rfl) rfl rfl dX8_init_6 ?_
  exact g_vret h ⟨rfl, rfl⟩ (Nat.le_refl _) (Nat.le_refl _) dX8_init_9
theorem ct_X8init12 {l : Launch} {g : gGP} (hk : gK l g) {c : gLH} {a r : Nat} {x0 x1 x2 : Value} (a0 : Int32) (hr : r < gSB) (hc : c a = some (r, .inr (12, [x0, x1, x2]))) : Ct l g yX8_init hwX8_init 1 40 [.ref a, .int a0] c (0) (0) (pV (fun c' => c' = va_up c a (some (r, .inr (12, [.int a0, x1, x2]))))) := by
  refine Ct.intro hk hcX8_init (by decide +kernel) (Nat.le_of_ble_eq_true rfl) (fun φ h => ?_)
  refine g_aload_n (i := 0) h dX8_init_0 rfl rfl ?_
  refine g_objInit h q829 ⟨Nat.le_of_ble_eq_true rfl, Nat.le_of_ble_eq_true rfl⟩ (Nat.le_of_ble_eq_true rfl) dX8_init_1 ?_
  refine g_aload_n (i := 0) h dX8_init_4 rfl rfl ?_
  refine g_iload_n (i := 1) h dX8_init_5 rfl rfl ?_
  refine g_putF h rfl fp_X8_7_12 hc hr (Nat.le_of_ble_eq_true rfl) rfl rfl dX8_init_6 ?_
  exact g_vret h ⟨rfl, rfl⟩ (Nat.le_refl _) (Nat.le_refl _) dX8_init_9
theorem ct_X8init13 {l : Launch} {g : gGP} (hk : gK l g) {c : gLH} {a r : Nat} {x0 x1 x2 x3 : Value} (a0 : Int32) (hr : r < gSB) (hc : c a = some (r, .inr (13, [x0, x1, x2, x3]))) : Ct l g yX8_init hwX8_init 1 40 [.ref a, .int a0] c (0) (0) (pV (fun c' => c' = va_up c a (some (r, .inr (13, [.int a0, x1, x2, x3]))))) := by
  refine Ct.intro hk hcX8_init (by decide +kernel) (Nat.le_of_ble_eq_true rfl) (fun φ h => ?_)
  refine g_aload_n (i := 0) h dX8_init_0 rfl rfl ?_
  refine g_objInit h q829 ⟨Nat.le_of_ble_eq_true rfl, Nat.le_of_ble_eq_true rfl⟩ (Nat.le_of_ble_eq_true rfl) dX8_init_1 ?_
  refine g_aload_n (i := 0) h dX8_init_4 rfl rfl ?_
  refine g_iload_n (i := 1) h dX8_init_5 rfl rfl ?_
  refine g_putF h rfl fp_X8_7_13 hc hr (Nat.le_of_ble_eq_true rfl) rfl rfl dX8_init_6 ?_
  exact g_vret h ⟨rfl, rfl⟩ (Nat.le_refl _) (Nat.le_refl _) dX8_init_9
theorem ct_X8init14 {l : Launch} {g : gGP} (hk : gK l g) {c : gLH} {a r : Nat} {x0 x1 x2 : Value} (a0 : Int32) (hr : r < gSB) (hc : c a = some (r, .inr (14, [x0, x1, x2]))) : Ct l g yX8_init hwX8_init 1 40 [.ref a, .int a0] c (0) (0) (pV (fun c' => c' = va_up c a (some (r, .inr (14, [.int a0, x1, x2]))))) := by
  refine Ct.intro hk hcX8_init (by decide +kernel) (Nat.le_of_ble_eq_true rfl) (fun φ h => ?_)
  refine g_aload_n (i := 0) h dX8_init_0 rfl rfl ?_
  refine g_objInit h q829 ⟨Nat.le_of_ble_eq_true rfl, Nat.le_of_ble_eq_true rfl⟩ (Nat.le_of_ble_eq_true rfl) dX8_init_1 ?_
  refine g_aload_n (i := 0) h dX8_init_4 rfl rfl ?_
  refine g_iload_n (i := 1) h dX8_init_5 rfl rfl ?_
  refine g_putF h rfl fp_X8_7_14 hc hr (Nat.le_of_ble_eq_true rfl) rfl rfl dX8_init_6 ?_
  exact g_vret h ⟨rfl, rfl⟩ (Nat.le_refl _) (Nat.le_refl _) dX8_init_9
