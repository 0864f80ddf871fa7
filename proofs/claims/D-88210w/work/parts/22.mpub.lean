/-! THE MODEL: public methods without loops -/
set_option maxRecDepth 100000
theorem nI_nl {n m : Nat} {x : Int32} (hx : x = nI n) (h : ¬ x = nI m) : n ≠ m := fun q => h (by rw [hx, q])
/-- stretch(price): 1: a bad price, 2: too many -/
def sStretchK (A : Nat → Nat → Int32) (p : Int32) : Nat := if p < 1 then 1 else if p ≤ 10000 then (if A 28 0 = 12 then 2 else 0) else 1
theorem ct_stretch {l : Launch} {g : gGP} (hk : gK l g) {c0 c : gLH} {mo : Nat} {ma : Nat → Nat} {cl ll : Nat} {A : Nat → Nat → Int32} {B : Nat → Nat → Int64} (hM : MW c0 mo ma cl ll A B c) (p : Int32) {ns : Nat} (hns : A 28 0 = nI ns) (hs : ns ≤ 12) : Ct l g yX4_stretch hwX4_stretch 1 40 [.ref mo, .int p] c (0) (0) (pI (if sStretchK A p = 0 then nI ns else 0) (MW c0 mo ma cl ll (if sStretchK A p = 0 then mA (mA (mA A 0 0 0) 26 ns p) 28 0 (nI (ns + 1)) else mA (mA A 0 0 0) 0 0 (nI (sStretchK A p))) B)) := by
  refine Ct.intro hk hcX4_stretch (by decide +kernel) (Nat.le_of_ble_eq_true rfl) (fun φ h => ?_)
  refine g_aload_n (i := 0) h dX4_stretch_0 rfl rfl ?_
  refine g_iconst (v := 0) h dX4_stretch_1 (by decide) ?_
  refine m_puti h hM mp_0 fp_X4_146_4 dX4_stretch_2 (fun c hM => ?_)
  refine g_aload_n (i := 0) h dX4_stretch_5 rfl rfl ?_
  refine g_iload_n (i := 1) h dX4_stretch_6 rfl rfl ?_
  refine g_iconst (v := 1) h dX4_stretch_7 (by decide) ?_
  refine g_icmp_lt (tgt := 18) h dX4_stretch_8 (by decide) (fun b8 => ?_) (fun b8 => ?_)
  · refine g_iconst (v := 1) h dX4_stretch_18 (by decide) ?_
    refine g_goto (tgt := 23) h dX4_stretch_19 (by decide) ?_
    refine g_iconst (v := 1) h dX4_stretch_23 (by decide) ?_
    refine g_invV h (ct_bad h.k hM true 1) hcX4_bad w_X4_308 rfl rfl hM.obj (Nat.le_of_ble_eq_true rfl) ⟨Nat.le_of_ble_eq_true rfl, Nat.le_of_ble_eq_true rfl⟩ (by refine ⟨?_, ?_⟩ <;> first | exact Nat.le_refl _ | exact Nat.zero_le _ | (dsimp only; omega)) dX4_stretch_24 (gkr_i (fun c hM => ?_)) gkt_i
    replace hM := bad1 hM
    refine g_if_ne (tgt := 52) h dX4_stretch_27 (by decide) (fun _bz => ?_) (fun _bz => absurd _bz (by decide))
    refine g_iconst (v := 0) h dX4_stretch_52 (by decide) ?_
    exact g_iret h ⟨by simp [sStretchK, b8], by simp [sStretchK, b8]; exact hM⟩ (Nat.le_refl _) (Nat.le_refl _) dX4_stretch_53
  · refine g_iload_n (i := 1) h dX4_stretch_11 rfl rfl ?_
    refine g_sipush (v := 10000) h dX4_stretch_12 (by decide) ?_
    refine g_icmp_le (tgt := 22) h dX4_stretch_15 (by decide) (fun b15 => ?_) (fun b15 => ?_)
    · refine g_iconst (v := 0) h dX4_stretch_22 (by decide) ?_
      refine g_iconst (v := 1) h dX4_stretch_23 (by decide) ?_
      refine g_invV h (ct_bad h.k hM false 1) hcX4_bad w_X4_308 rfl rfl hM.obj (Nat.le_of_ble_eq_true rfl) ⟨Nat.le_of_ble_eq_true rfl, Nat.le_of_ble_eq_true rfl⟩ (by refine ⟨?_, ?_⟩ <;> first | exact Nat.le_refl _ | exact Nat.zero_le _ | (dsimp only; omega)) dX4_stretch_24 (gkr_i (fun c hM => ?_)) gkt_i
      replace hM := bad0 hM
      refine g_if_ne (tgt := 52) h dX4_stretch_27 (by decide) (fun _bz => absurd _bz (by decide)) (fun _bz => ?_)
      refine g_aload_n (i := 0) h dX4_stretch_30 rfl rfl ?_
      refine g_aload_n (i := 0) h dX4_stretch_31 rfl rfl ?_
      refine m_get (v := .int (A 28 0)) h hM f_X4_318_4 rfl dX4_stretch_32 ?_
      refine g_bipush (v := 12) h dX4_stretch_35 (by decide) ?_
      refine g_icmp_ne (tgt := 44) h dX4_stretch_37 (by decide) (fun b37 => ?_) (fun b37 => ?_)
      · refine g_iconst (v := 0) h dX4_stretch_44 (by decide) ?_
        refine g_iconst (v := 2) h dX4_stretch_45 (by decide) ?_
        refine g_invV h (ct_bad h.k hM false 2) hcX4_bad w_X4_308 rfl rfl hM.obj (Nat.le_of_ble_eq_true rfl) ⟨Nat.le_of_ble_eq_true rfl, Nat.le_of_ble_eq_true rfl⟩ (by refine ⟨?_, ?_⟩ <;> first | exact Nat.le_refl _ | exact Nat.zero_le _ | (dsimp only; omega)) dX4_stretch_46 (gkr_i (fun c hM => ?_)) gkt_i
        replace hM := bad0 hM
        refine g_if_eq (tgt := 54) h dX4_stretch_49 (by decide) (fun _bz => ?_) (fun _bz => absurd _bz (by decide))
        have hn := nI_nl (m := 12) hns b37
        refine g_aload_n (i := 0) h dX4_stretch_54 rfl rfl ?_
        refine m_get h hM f_X4_63_4 rfl dX4_stretch_55 ?_
        refine g_aload_n (i := 0) h dX4_stretch_58 rfl rfl ?_
        refine m_get (v := .int (A 28 0)) h hM f_X4_318_4 rfl dX4_stretch_59 ?_
        refine G.int hns ?_
        refine g_iload_n (i := 1) h dX4_stretch_62 rfl rfl ?_
        refine m_iast (k := 26) h hM rfl rfl (by show _ < 12; omega) dX4_stretch_63 (fun c hM => ?_)
        refine g_aload_n (i := 0) h dX4_stretch_64 rfl rfl ?_
        refine g_dup h dX4_stretch_65 rfl ?_
        refine m_get (v := .int (A 28 0)) h hM f_X4_318_4 rfl dX4_stretch_66 ?_
        refine G.int hns ?_
        refine g_iconst (v := nI 1) h dX4_stretch_69 (by decide) ?_
        first | (with_reducible refine g_iaddN h dX4_stretch_70 ?_) | refine g_iadd h dX4_stretch_70 ?_
        refine m_puti h hM mp_28 fp_X4_318_4 dX4_stretch_71 (fun c hM => ?_)
        refine g_aload_n (i := 0) h dX4_stretch_74 rfl rfl ?_
        refine m_get (v := .int (nI (ns + 1))) h hM f_X4_318_4 rfl dX4_stretch_75 ?_
        refine g_iconst (v := 1) h dX4_stretch_78 (by decide) ?_
        refine g_isub h dX4_stretch_79 ?_
        exact g_iret h ⟨by simp [sStretchK, b8, b15, b37, nI_pred], by simp [sStretchK, b8, b15, b37]; exact hM⟩ (Nat.le_refl _) (Nat.le_refl _) dX4_stretch_80
      · refine g_iconst (v := 1) h dX4_stretch_40 (by decide) ?_
        refine g_goto (tgt := 45) h dX4_stretch_41 (by decide) ?_
        refine g_iconst (v := 2) h dX4_stretch_45 (by decide) ?_
        refine g_invV h (ct_bad h.k hM true 2) hcX4_bad w_X4_308 rfl rfl hM.obj (Nat.le_of_ble_eq_true rfl) ⟨Nat.le_of_ble_eq_true rfl, Nat.le_of_ble_eq_true rfl⟩ (by refine ⟨?_, ?_⟩ <;> first | exact Nat.le_refl _ | exact Nat.zero_le _ | (dsimp only; omega)) dX4_stretch_46 (gkr_i (fun c hM => ?_)) gkt_i
        replace hM := bad1 hM
        refine g_if_eq (tgt := 54) h dX4_stretch_49 (by decide) (fun _bz => absurd _bz (by decide)) (fun _bz => ?_)
        refine g_iconst (v := 0) h dX4_stretch_52 (by decide) ?_
        exact g_iret h ⟨by simp [sStretchK, b8, b15, b37], by simp [sStretchK, b8, b15, b37]; exact hM⟩ (Nat.le_refl _) (Nat.le_refl _) dX4_stretch_53
    · refine g_iconst (v := 1) h dX4_stretch_18 (by decide) ?_
      refine g_goto (tgt := 23) h dX4_stretch_19 (by decide) ?_
      refine g_iconst (v := 1) h dX4_stretch_23 (by decide) ?_
      refine g_invV h (ct_bad h.k hM true 1) hcX4_bad w_X4_308 rfl rfl hM.obj (Nat.le_of_ble_eq_true rfl) ⟨Nat.le_of_ble_eq_true rfl, Nat.le_of_ble_eq_true rfl⟩ (by refine ⟨?_, ?_⟩ <;> first | exact Nat.le_refl _ | exact Nat.zero_le _ | (dsimp only; omega)) dX4_stretch_24 (gkr_i (fun c hM => ?_)) gkt_i
      replace hM := bad1 hM
      refine g_if_ne (tgt := 52) h dX4_stretch_27 (by decide) (fun _bz => ?_) (fun _bz => absurd _bz (by decide))
      refine g_iconst (v := 0) h dX4_stretch_52 (by decide) ?_
      exact g_iret h ⟨by simp [sStretchK, b8, b15], by simp [sStretchK, b8, b15]; exact hM⟩ (Nat.le_refl _) (Nat.le_refl _) dX4_stretch_53
