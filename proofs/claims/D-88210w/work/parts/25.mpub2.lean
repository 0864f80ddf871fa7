/-! THE MODEL: public methods, 2 -/
set_option maxRecDepth 100000
/-- a number of a place -/
abbrev ix (x : Int32) : Nat := x.toNatClampNeg
theorem ix_of {x y : Int32} {n : Nat} (h0 : ¬ x < 0) (h : x < y) (hy : y = nI n) (hn : n < 2147483648) : ix x < n ∧ x = nI (ix x) := by
  obtain ⟨j, hj, rfl⟩ := i32_lt_trans h0 h hy hn
  have : ix (nI j) = j := nI_clamp (by omega)
  rw [this]
  exact ⟨hj, rfl⟩
theorem ix_nI {n : Nat} (h : n < 2147483648) : ix (nI n) = n := nI_clamp h
def sGateK (A : Nat → Nat → Int32) (s : Int32) : Nat := if s < 0 then 1 else if s < A 28 0 then (if A 31 0 = 8 then 2 else 0) else 1
def sGateA (A : Nat → Nat → Int32) (ng : Nat) (s : Int32) : Nat → Nat → Int32 := mA (mA (mA A 29 ng s) 50 ng (-1)) 31 0 (nI (ng + 1))
theorem ct_gate {l : Launch} {g : gGP} (hk : gK l g) {c0 c : gLH} {mo : Nat} {ma : Nat → Nat} {cl ll : Nat} {A : Nat → Nat → Int32} {B : Nat → Nat → Int64} (hM : MW c0 mo ma cl ll A B c) (s : Int32) {ng : Nat} (hng : A 31 0 = nI ng) (hg8 : ng ≤ 8) : Ct l g yX4_gate hwX4_gate 1 40 [.ref mo, .int s] c (0) (0) (pI (if sGateK A s = 0 then nI ng else 0) (MW c0 mo ma cl ll (if sGateK A s = 0 then sGateA (mA A 0 0 0) ng s else mA (mA A 0 0 0) 0 0 (nI (sGateK A s))) B)) := by
  refine Ct.intro hk hcX4_gate (by decide +kernel) (Nat.le_of_ble_eq_true rfl) (fun φ h => ?_)
  refine g_aload_n (i := 0) h dX4_gate_0 rfl rfl ?_
  refine g_iconst (v := 0) h dX4_gate_1 (by decide) ?_
  refine m_puti h hM mp_0 fp_X4_146_4 dX4_gate_2 (fun c hM => ?_)
  refine g_aload_n (i := 0) h dX4_gate_5 rfl rfl ?_
  refine g_iload_n (i := 1) h dX4_gate_6 rfl rfl ?_
  refine g_if_lt (tgt := 18) h dX4_gate_7 (by decide) (fun b7 => ?_) (fun b7 => ?_)
  · refine g_iconst (v := 1) h dX4_gate_18 (by decide) ?_
    refine g_goto (tgt := 23) h dX4_gate_19 (by decide) ?_
    refine g_iconst (v := 1) h dX4_gate_23 (by decide) ?_
    refine g_invV h (ct_bad h.k hM true 1) hcX4_bad w_X4_308 rfl rfl hM.obj (Nat.le_of_ble_eq_true rfl) ⟨Nat.le_of_ble_eq_true rfl, Nat.le_of_ble_eq_true rfl⟩ (by refine ⟨?_, ?_⟩ <;> first | exact Nat.le_refl _ | exact Nat.zero_le _ | (dsimp only; omega)) dX4_gate_24 (gkr_i (fun c hM => ?_)) gkt_i
    replace hM := bad1 hM
    refine g_if_ne (tgt := 52) h dX4_gate_27 (by decide) (fun _bz => ?_) (fun _bz => absurd _bz (by decide))
    refine g_iconst (v := 0) h dX4_gate_52 (by decide) ?_
    exact g_iret h ⟨by simp [sGateK, b7] <;> rfl, by simp [sGateK, b7]; exact hM⟩ (Nat.le_refl _) (Nat.le_refl _) dX4_gate_53
  · refine g_iload_n (i := 1) h dX4_gate_10 rfl rfl ?_
    refine g_aload_n (i := 0) h dX4_gate_11 rfl rfl ?_
    refine m_get (v := .int (A 28 0)) h hM f_X4_318_4 rfl dX4_gate_12 ?_
    refine g_icmp_lt (tgt := 22) h dX4_gate_15 (by decide) (fun b15 => ?_) (fun b15 => ?_)
    · refine g_iconst (v := 0) h dX4_gate_22 (by decide) ?_
      refine g_iconst (v := 1) h dX4_gate_23 (by decide) ?_
      refine g_invV h (ct_bad h.k hM false 1) hcX4_bad w_X4_308 rfl rfl hM.obj (Nat.le_of_ble_eq_true rfl) ⟨Nat.le_of_ble_eq_true rfl, Nat.le_of_ble_eq_true rfl⟩ (by refine ⟨?_, ?_⟩ <;> first | exact Nat.le_refl _ | exact Nat.zero_le _ | (dsimp only; omega)) dX4_gate_24 (gkr_i (fun c hM => ?_)) gkt_i
      replace hM := bad0 hM
      refine g_if_ne (tgt := 52) h dX4_gate_27 (by decide) (fun _bz => absurd _bz (by decide)) (fun _bz => ?_)
      refine g_aload_n (i := 0) h dX4_gate_30 rfl rfl ?_
      refine g_aload_n (i := 0) h dX4_gate_31 rfl rfl ?_
      refine m_get (v := .int (A 31 0)) h hM f_X4_321_4 rfl dX4_gate_32 ?_
      refine g_bipush (v := 8) h dX4_gate_35 (by decide) ?_
      refine g_icmp_ne (tgt := 44) h dX4_gate_37 (by decide) (fun b37 => ?_) (fun b37 => ?_)
      · refine g_iconst (v := 0) h dX4_gate_44 (by decide) ?_
        refine g_iconst (v := 2) h dX4_gate_45 (by decide) ?_
        refine g_invV h (ct_bad h.k hM false 2) hcX4_bad w_X4_308 rfl rfl hM.obj (Nat.le_of_ble_eq_true rfl) ⟨Nat.le_of_ble_eq_true rfl, Nat.le_of_ble_eq_true rfl⟩ (by refine ⟨?_, ?_⟩ <;> first | exact Nat.le_refl _ | exact Nat.zero_le _ | (dsimp only; omega)) dX4_gate_46 (gkr_i (fun c hM => ?_)) gkt_i
        replace hM := bad0 hM
        refine g_if_eq (tgt := 54) h dX4_gate_49 (by decide) (fun _bz => ?_) (fun _bz => absurd _bz (by decide))
        have hn := nI_nl (m := 8) hng b37
        refine g_aload_n (i := 0) h dX4_gate_54 rfl rfl ?_
        refine m_get h hM f_X4_70_4 rfl dX4_gate_55 ?_
        refine g_aload_n (i := 0) h dX4_gate_58 rfl rfl ?_
        refine m_get (v := .int (A 31 0)) h hM f_X4_321_4 rfl dX4_gate_59 ?_
        refine G.int hng ?_
        refine g_iload_n (i := 1) h dX4_gate_62 rfl rfl ?_
        refine m_iast (k := 29) h hM rfl rfl (by show _ < 8; omega) dX4_gate_63 (fun c hM => ?_)
        refine g_aload_n (i := 0) h dX4_gate_64 rfl rfl ?_
        refine m_get h hM f_X4_113_4 rfl dX4_gate_65 ?_
        refine g_aload_n (i := 0) h dX4_gate_68 rfl rfl ?_
        refine m_get (v := .int (A 31 0)) h hM f_X4_321_4 rfl dX4_gate_69 ?_
        refine G.int hng ?_
        refine g_iconst (v := (-1)) h dX4_gate_72 (by decide) ?_
        refine m_iast (k := 50) h hM rfl rfl (by show _ < 8; omega) dX4_gate_73 (fun c hM => ?_)
        refine g_aload_n (i := 0) h dX4_gate_74 rfl rfl ?_
        refine g_dup h dX4_gate_75 rfl ?_
        refine m_get (v := .int (A 31 0)) h hM f_X4_321_4 rfl dX4_gate_76 ?_
        refine G.int hng ?_
        refine g_iconst (v := nI 1) h dX4_gate_79 (by decide) ?_
        first | (with_reducible refine g_iaddN h dX4_gate_80 ?_) | refine g_iadd h dX4_gate_80 ?_
        refine m_puti h hM mp_31 fp_X4_321_4 dX4_gate_81 (fun c hM => ?_)
        refine g_aload_n (i := 0) h dX4_gate_84 rfl rfl ?_
        refine m_get (v := .int (nI (ng + 1))) h hM f_X4_321_4 rfl dX4_gate_85 ?_
        refine g_iconst (v := 1) h dX4_gate_88 (by decide) ?_
        refine g_isub h dX4_gate_89 ?_
        exact g_iret h ⟨by simp [sGateK, b7, b15, b37, nI_pred] <;> rfl, by simp [sGateK, b7, b15, b37]; exact hM⟩ (Nat.le_refl _) (Nat.le_refl _) dX4_gate_90
      · refine g_iconst (v := 1) h dX4_gate_40 (by decide) ?_
        refine g_goto (tgt := 45) h dX4_gate_41 (by decide) ?_
        refine g_iconst (v := 2) h dX4_gate_45 (by decide) ?_
        refine g_invV h (ct_bad h.k hM true 2) hcX4_bad w_X4_308 rfl rfl hM.obj (Nat.le_of_ble_eq_true rfl) ⟨Nat.le_of_ble_eq_true rfl, Nat.le_of_ble_eq_true rfl⟩ (by refine ⟨?_, ?_⟩ <;> first | exact Nat.le_refl _ | exact Nat.zero_le _ | (dsimp only; omega)) dX4_gate_46 (gkr_i (fun c hM => ?_)) gkt_i
        replace hM := bad1 hM
        refine g_if_eq (tgt := 54) h dX4_gate_49 (by decide) (fun _bz => absurd _bz (by decide)) (fun _bz => ?_)
        refine g_iconst (v := 0) h dX4_gate_52 (by decide) ?_
        exact g_iret h ⟨by simp [sGateK, b7, b15, b37] <;> rfl, by simp [sGateK, b7, b15, b37]; exact hM⟩ (Nat.le_refl _) (Nat.le_refl _) dX4_gate_53
    · refine g_iconst (v := 1) h dX4_gate_18 (by decide) ?_
      refine g_goto (tgt := 23) h dX4_gate_19 (by decide) ?_
      refine g_iconst (v := 1) h dX4_gate_23 (by decide) ?_
      refine g_invV h (ct_bad h.k hM true 1) hcX4_bad w_X4_308 rfl rfl hM.obj (Nat.le_of_ble_eq_true rfl) ⟨Nat.le_of_ble_eq_true rfl, Nat.le_of_ble_eq_true rfl⟩ (by refine ⟨?_, ?_⟩ <;> first | exact Nat.le_refl _ | exact Nat.zero_le _ | (dsimp only; omega)) dX4_gate_24 (gkr_i (fun c hM => ?_)) gkt_i
      replace hM := bad1 hM
      refine g_if_ne (tgt := 52) h dX4_gate_27 (by decide) (fun _bz => ?_) (fun _bz => absurd _bz (by decide))
      refine g_iconst (v := 0) h dX4_gate_52 (by decide) ?_
      exact g_iret h ⟨by simp [sGateK, b7, b15] <;> rfl, by simp [sGateK, b7, b15]; exact hM⟩ (Nat.le_refl _) (Nat.le_refl _) dX4_gate_53
def sFarmerK (A : Nat → Nat → Int32) (m : Int32) : Nat := if m < 0 then 1 else if m ≤ 1000000000 then (if A 45 0 = 8 then 2 else 0) else 1
theorem ct_farmer {l : Launch} {g : gGP} (hk : gK l g) {c0 c : gLH} {mo : Nat} {ma : Nat → Nat} {cl ll : Nat} {A : Nat → Nat → Int32} {B : Nat → Nat → Int64} (hM : MW c0 mo ma cl ll A B c) (m : Int32) {nf : Nat} (hnf : A 45 0 = nI nf) (hf8 : nf ≤ 8) : Ct l g yX4_farmer hwX4_farmer 1 40 [.ref mo, .int m] c (0) (0) (pI (if sFarmerK A m = 0 then nI nf else 0) (MW c0 mo ma cl ll (if sFarmerK A m = 0 then mA (mA A 0 0 0) 45 0 (nI (nf + 1)) else mA (mA A 0 0 0) 0 0 (nI (sFarmerK A m))) (if sFarmerK A m = 0 then mB B 44 nf m.toInt64 else B))) := by
  refine Ct.intro hk hcX4_farmer (by decide +kernel) (Nat.le_of_ble_eq_true rfl) (fun φ h => ?_)
  refine g_aload_n (i := 0) h dX4_farmer_0 rfl rfl ?_
  refine g_iconst (v := 0) h dX4_farmer_1 (by decide) ?_
  refine m_puti h hM mp_0 fp_X4_146_4 dX4_farmer_2 (fun c hM => ?_)
  refine g_aload_n (i := 0) h dX4_farmer_5 rfl rfl ?_
  refine g_iload_n (i := 1) h dX4_farmer_6 rfl rfl ?_
  refine g_if_lt (tgt := 17) h dX4_farmer_7 (by decide) (fun b7 => ?_) (fun b7 => ?_)
  · refine g_iconst (v := 1) h dX4_farmer_17 (by decide) ?_
    refine g_goto (tgt := 22) h dX4_farmer_18 (by decide) ?_
    refine g_iconst (v := 1) h dX4_farmer_22 (by decide) ?_
    refine g_invV h (ct_bad h.k hM true 1) hcX4_bad w_X4_308 rfl rfl hM.obj (Nat.le_of_ble_eq_true rfl) ⟨Nat.le_of_ble_eq_true rfl, Nat.le_of_ble_eq_true rfl⟩ (by refine ⟨?_, ?_⟩ <;> first | exact Nat.le_refl _ | exact Nat.zero_le _ | (dsimp only; omega)) dX4_farmer_23 (gkr_i (fun c hM => ?_)) gkt_i
    replace hM := bad1 hM
    refine g_if_ne (tgt := 51) h dX4_farmer_26 (by decide) (fun _bz => ?_) (fun _bz => absurd _bz (by decide))
    refine g_iconst (v := 0) h dX4_farmer_51 (by decide) ?_
    exact g_iret h ⟨by simp [sFarmerK, b7] <;> rfl, by simp [sFarmerK, b7]; exact hM⟩ (Nat.le_refl _) (Nat.le_refl _) dX4_farmer_52
  · refine g_iload_n (i := 1) h dX4_farmer_10 rfl rfl ?_
    refine g_ldcw (v := 1000000000) h dX4_farmer_11 q2150 ?_
    refine g_icmp_le (tgt := 21) h dX4_farmer_14 (by decide) (fun b14 => ?_) (fun b14 => ?_)
    · refine g_iconst (v := 0) h dX4_farmer_21 (by decide) ?_
      refine g_iconst (v := 1) h dX4_farmer_22 (by decide) ?_
      refine g_invV h (ct_bad h.k hM false 1) hcX4_bad w_X4_308 rfl rfl hM.obj (Nat.le_of_ble_eq_true rfl) ⟨Nat.le_of_ble_eq_true rfl, Nat.le_of_ble_eq_true rfl⟩ (by refine ⟨?_, ?_⟩ <;> first | exact Nat.le_refl _ | exact Nat.zero_le _ | (dsimp only; omega)) dX4_farmer_23 (gkr_i (fun c hM => ?_)) gkt_i
      replace hM := bad0 hM
      refine g_if_ne (tgt := 51) h dX4_farmer_26 (by decide) (fun _bz => absurd _bz (by decide)) (fun _bz => ?_)
      refine g_aload_n (i := 0) h dX4_farmer_29 rfl rfl ?_
      refine g_aload_n (i := 0) h dX4_farmer_30 rfl rfl ?_
      refine m_get (v := .int (A 45 0)) h hM f_X4_378_4 rfl dX4_farmer_31 ?_
      refine g_bipush (v := 8) h dX4_farmer_34 (by decide) ?_
      refine g_icmp_ne (tgt := 43) h dX4_farmer_36 (by decide) (fun b36 => ?_) (fun b36 => ?_)
      · refine g_iconst (v := 0) h dX4_farmer_43 (by decide) ?_
        refine g_iconst (v := 2) h dX4_farmer_44 (by decide) ?_
        refine g_invV h (ct_bad h.k hM false 2) hcX4_bad w_X4_308 rfl rfl hM.obj (Nat.le_of_ble_eq_true rfl) ⟨Nat.le_of_ble_eq_true rfl, Nat.le_of_ble_eq_true rfl⟩ (by refine ⟨?_, ?_⟩ <;> first | exact Nat.le_refl _ | exact Nat.zero_le _ | (dsimp only; omega)) dX4_farmer_45 (gkr_i (fun c hM => ?_)) gkt_i
        replace hM := bad0 hM
        refine g_if_eq (tgt := 53) h dX4_farmer_48 (by decide) (fun _bz => ?_) (fun _bz => absurd _bz (by decide))
        have hn := nI_nl (m := 8) hnf b36
        refine g_aload_n (i := 0) h dX4_farmer_53 rfl rfl ?_
        refine m_get h hM f_X4_98_4 rfl dX4_farmer_54 ?_
        refine g_aload_n (i := 0) h dX4_farmer_57 rfl rfl ?_
        refine m_get (v := .int (A 45 0)) h hM f_X4_378_4 rfl dX4_farmer_58 ?_
        refine G.int hnf ?_
        refine g_iload_n (i := 1) h dX4_farmer_61 rfl rfl ?_
        refine g_i2l h dX4_farmer_62 ?_
        refine m_last (k := 44) h hM rfl (by show _ < 8; omega) dX4_farmer_63 (fun c hM => ?_)
        refine g_aload_n (i := 0) h dX4_farmer_64 rfl rfl ?_
        refine g_dup h dX4_farmer_65 rfl ?_
        refine m_get (v := .int (A 45 0)) h hM f_X4_378_4 rfl dX4_farmer_66 ?_
        refine G.int hnf ?_
        refine g_iconst (v := nI 1) h dX4_farmer_69 (by decide) ?_
        first | (with_reducible refine g_iaddN h dX4_farmer_70 ?_) | refine g_iadd h dX4_farmer_70 ?_
        refine m_puti h hM mp_45 fp_X4_378_4 dX4_farmer_71 (fun c hM => ?_)
        refine g_aload_n (i := 0) h dX4_farmer_74 rfl rfl ?_
        refine m_get (v := .int (nI (nf + 1))) h hM f_X4_378_4 rfl dX4_farmer_75 ?_
        refine g_iconst (v := 1) h dX4_farmer_78 (by decide) ?_
        refine g_isub h dX4_farmer_79 ?_
        exact g_iret h ⟨by simp [sFarmerK, b7, b14, b36, nI_pred] <;> rfl, by simp [sFarmerK, b7, b14, b36]; exact hM⟩ (Nat.le_refl _) (Nat.le_refl _) dX4_farmer_80
      · refine g_iconst (v := 1) h dX4_farmer_39 (by decide) ?_
        refine g_goto (tgt := 44) h dX4_farmer_40 (by decide) ?_
        refine g_iconst (v := 2) h dX4_farmer_44 (by decide) ?_
        refine g_invV h (ct_bad h.k hM true 2) hcX4_bad w_X4_308 rfl rfl hM.obj (Nat.le_of_ble_eq_true rfl) ⟨Nat.le_of_ble_eq_true rfl, Nat.le_of_ble_eq_true rfl⟩ (by refine ⟨?_, ?_⟩ <;> first | exact Nat.le_refl _ | exact Nat.zero_le _ | (dsimp only; omega)) dX4_farmer_45 (gkr_i (fun c hM => ?_)) gkt_i
        replace hM := bad1 hM
        refine g_if_eq (tgt := 53) h dX4_farmer_48 (by decide) (fun _bz => absurd _bz (by decide)) (fun _bz => ?_)
        refine g_iconst (v := 0) h dX4_farmer_51 (by decide) ?_
        exact g_iret h ⟨by simp [sFarmerK, b7, b14, b36] <;> rfl, by simp [sFarmerK, b7, b14, b36]; exact hM⟩ (Nat.le_refl _) (Nat.le_refl _) dX4_farmer_52
    · refine g_iconst (v := 1) h dX4_farmer_17 (by decide) ?_
      refine g_goto (tgt := 22) h dX4_farmer_18 (by decide) ?_
      refine g_iconst (v := 1) h dX4_farmer_22 (by decide) ?_
      refine g_invV h (ct_bad h.k hM true 1) hcX4_bad w_X4_308 rfl rfl hM.obj (Nat.le_of_ble_eq_true rfl) ⟨Nat.le_of_ble_eq_true rfl, Nat.le_of_ble_eq_true rfl⟩ (by refine ⟨?_, ?_⟩ <;> first | exact Nat.le_refl _ | exact Nat.zero_le _ | (dsimp only; omega)) dX4_farmer_23 (gkr_i (fun c hM => ?_)) gkt_i
      replace hM := bad1 hM
      refine g_if_ne (tgt := 51) h dX4_farmer_26 (by decide) (fun _bz => ?_) (fun _bz => absurd _bz (by decide))
      refine g_iconst (v := 0) h dX4_farmer_51 (by decide) ?_
      exact g_iret h ⟨by simp [sFarmerK, b7, b14] <;> rfl, by simp [sFarmerK, b7, b14]; exact hM⟩ (Nat.le_refl _) (Nat.le_refl _) dX4_farmer_52
def sRainK (d : Int32) : Nat := if d < 0 then 1 else if d ≤ 1000 then 0 else 1
theorem ct_rain {l : Launch} {g : gGP} (hk : gK l g) {c0 c : gLH} {mo : Nat} {ma : Nat → Nat} {cl ll : Nat} {A : Nat → Nat → Int32} {B : Nat → Nat → Int64} (hM : MW c0 mo ma cl ll A B c) (d : Int32) : Ct l g yX4_rain hwX4_rain 1 40 [.ref mo, .int d] c (0) (0) (pV (MW c0 mo ma cl ll (if sRainK d = 0 then mA (mA A 0 0 0) 33 0 d else mA (mA A 0 0 0) 0 0 (nI (sRainK d))) B)) := by
  refine Ct.intro hk hcX4_rain (by decide +kernel) (Nat.le_of_ble_eq_true rfl) (fun φ h => ?_)
  refine g_aload_n (i := 0) h dX4_rain_0 rfl rfl ?_
  refine g_iconst (v := 0) h dX4_rain_1 (by decide) ?_
  refine m_puti h hM mp_0 fp_X4_146_4 dX4_rain_2 (fun c hM => ?_)
  refine g_aload_n (i := 0) h dX4_rain_5 rfl rfl ?_
  refine g_iload_n (i := 1) h dX4_rain_6 rfl rfl ?_
  refine g_if_lt (tgt := 17) h dX4_rain_7 (by decide) (fun b7 => ?_) (fun b7 => ?_)
  · refine g_iconst (v := 1) h dX4_rain_17 (by decide) ?_
    refine g_goto (tgt := 22) h dX4_rain_18 (by decide) ?_
    refine g_iconst (v := 1) h dX4_rain_22 (by decide) ?_
    refine g_invV h (ct_bad h.k hM true 1) hcX4_bad w_X4_308 rfl rfl hM.obj (Nat.le_of_ble_eq_true rfl) ⟨Nat.le_of_ble_eq_true rfl, Nat.le_of_ble_eq_true rfl⟩ (by refine ⟨?_, ?_⟩ <;> first | exact Nat.le_refl _ | exact Nat.zero_le _ | (dsimp only; omega)) dX4_rain_23 (gkr_i (fun c hM => ?_)) gkt_i
    replace hM := bad1 hM
    refine g_if_eq (tgt := 30) h dX4_rain_26 (by decide) (fun _bz => absurd _bz (by decide)) (fun _bz => ?_)
    exact g_vret h ⟨rfl, by simp [sRainK, b7]; exact hM⟩ (Nat.le_refl _) (Nat.le_refl _) dX4_rain_29
  · refine g_iload_n (i := 1) h dX4_rain_10 rfl rfl ?_
    refine g_sipush (v := 1000) h dX4_rain_11 (by decide) ?_
    refine g_icmp_le (tgt := 21) h dX4_rain_14 (by decide) (fun b14 => ?_) (fun b14 => ?_)
    · refine g_iconst (v := 0) h dX4_rain_21 (by decide) ?_
      refine g_iconst (v := 1) h dX4_rain_22 (by decide) ?_
      refine g_invV h (ct_bad h.k hM false 1) hcX4_bad w_X4_308 rfl rfl hM.obj (Nat.le_of_ble_eq_true rfl) ⟨Nat.le_of_ble_eq_true rfl, Nat.le_of_ble_eq_true rfl⟩ (by refine ⟨?_, ?_⟩ <;> first | exact Nat.le_refl _ | exact Nat.zero_le _ | (dsimp only; omega)) dX4_rain_23 (gkr_i (fun c hM => ?_)) gkt_i
      replace hM := bad0 hM
      refine g_if_eq (tgt := 30) h dX4_rain_26 (by decide) (fun _bz => ?_) (fun _bz => absurd _bz (by decide))
      refine g_aload_n (i := 0) h dX4_rain_30 rfl rfl ?_
      refine g_iload_n (i := 1) h dX4_rain_31 rfl rfl ?_
      refine m_puti h hM mp_33 fp_X4_363_4 dX4_rain_32 (fun c hM => ?_)
      exact g_vret h ⟨rfl, by simp [sRainK, b7, b14]; exact hM⟩ (Nat.le_refl _) (Nat.le_refl _) dX4_rain_35
    · refine g_iconst (v := 1) h dX4_rain_17 (by decide) ?_
      refine g_goto (tgt := 22) h dX4_rain_18 (by decide) ?_
      refine g_iconst (v := 1) h dX4_rain_22 (by decide) ?_
      refine g_invV h (ct_bad h.k hM true 1) hcX4_bad w_X4_308 rfl rfl hM.obj (Nat.le_of_ble_eq_true rfl) ⟨Nat.le_of_ble_eq_true rfl, Nat.le_of_ble_eq_true rfl⟩ (by refine ⟨?_, ?_⟩ <;> first | exact Nat.le_refl _ | exact Nat.zero_le _ | (dsimp only; omega)) dX4_rain_23 (gkr_i (fun c hM => ?_)) gkt_i
      replace hM := bad1 hM
      refine g_if_eq (tgt := 30) h dX4_rain_26 (by decide) (fun _bz => absurd _bz (by decide)) (fun _bz => ?_)
      exact g_vret h ⟨rfl, by simp [sRainK, b7, b14]; exact hM⟩ (Nat.le_refl _) (Nat.le_refl _) dX4_rain_29
def sDayK (d : Int32) : Nat := if d < 0 then 1 else if d ≤ 9999 then 0 else 1
theorem ct_force {l : Launch} {g : gGP} (hk : gK l g) {c0 c : gLH} {mo : Nat} {ma : Nat → Nat} {cl ll : Nat} {A : Nat → Nat → Int32} {B : Nat → Nat → Int64} (hM : MW c0 mo ma cl ll A B c) (d : Int32) {na : Nat} (hna : A 18 0 = nI na) (ha : na ≤ 12) : Ct l g yX4_force hwX4_force 1 40 [.ref mo, .int d] c (0) (0) (pI (if sDayK d = 0 then oI (sForce (A 9) d na) else 0) (MW c0 mo ma cl ll (if sDayK d = 0 then mA A 0 0 0 else mA (mA A 0 0 0) 0 0 (nI (sDayK d))) B)) := by
  refine Ct.intro hk hcX4_force (by decide +kernel) (Nat.le_of_ble_eq_true rfl) (fun φ h => ?_)
  refine g_aload_n (i := 0) h dX4_force_0 rfl rfl ?_
  refine g_iconst (v := 0) h dX4_force_1 (by decide) ?_
  refine m_puti h hM mp_0 fp_X4_146_4 dX4_force_2 (fun c hM => ?_)
  refine g_aload_n (i := 0) h dX4_force_5 rfl rfl ?_
  refine g_iload_n (i := 1) h dX4_force_6 rfl rfl ?_
  refine g_if_lt (tgt := 17) h dX4_force_7 (by decide) (fun b7 => ?_) (fun b7 => ?_)
  · refine g_iconst (v := 1) h dX4_force_17 (by decide) ?_
    refine g_goto (tgt := 22) h dX4_force_18 (by decide) ?_
    refine g_iconst (v := 1) h dX4_force_22 (by decide) ?_
    refine g_invV h (ct_bad h.k hM true 1) hcX4_bad w_X4_308 rfl rfl hM.obj (Nat.le_of_ble_eq_true rfl) ⟨Nat.le_of_ble_eq_true rfl, Nat.le_of_ble_eq_true rfl⟩ (by refine ⟨?_, ?_⟩ <;> first | exact Nat.le_refl _ | exact Nat.zero_le _ | (dsimp only; omega)) dX4_force_23 (gkr_i (fun c hM => ?_)) gkt_i
    replace hM := bad1 hM
    refine g_if_eq (tgt := 33) h dX4_force_26 (by decide) (fun _bz => absurd _bz (by decide)) (fun _bz => ?_)
    refine g_iconst (v := 0) h dX4_force_29 (by decide) ?_
    refine g_goto (tgt := 38) h dX4_force_30 (by decide) ?_
    exact g_iret h ⟨by simp [sDayK, b7] <;> rfl, by simp [sDayK, b7]; exact hM⟩ (Nat.le_refl _) (Nat.le_refl _) dX4_force_38
  · refine g_iload_n (i := 1) h dX4_force_10 rfl rfl ?_
    refine g_sipush (v := 9999) h dX4_force_11 (by decide) ?_
    refine g_icmp_le (tgt := 21) h dX4_force_14 (by decide) (fun b14 => ?_) (fun b14 => ?_)
    · refine g_iconst (v := 0) h dX4_force_21 (by decide) ?_
      refine g_iconst (v := 1) h dX4_force_22 (by decide) ?_
      refine g_invV h (ct_bad h.k hM false 1) hcX4_bad w_X4_308 rfl rfl hM.obj (Nat.le_of_ble_eq_true rfl) ⟨Nat.le_of_ble_eq_true rfl, Nat.le_of_ble_eq_true rfl⟩ (by refine ⟨?_, ?_⟩ <;> first | exact Nat.le_refl _ | exact Nat.zero_le _ | (dsimp only; omega)) dX4_force_23 (gkr_i (fun c hM => ?_)) gkt_i
      replace hM := bad0 hM
      refine g_if_eq (tgt := 33) h dX4_force_26 (by decide) (fun _bz => ?_) (fun _bz => absurd _bz (by decide))
      refine g_aload_n (i := 0) h dX4_force_33 rfl rfl ?_
      refine g_iload_n (i := 1) h dX4_force_34 rfl rfl ?_
      refine g_invV h (ct_forceOf (na := na) h.k hM _ hna (by omega)) hcX4_forceOf w_X4_315 rfl rfl hM.obj (Nat.le_of_ble_eq_true rfl) ⟨Nat.le_of_ble_eq_true rfl, Nat.le_of_ble_eq_true rfl⟩ (by refine ⟨?_, ?_⟩ <;> first | exact Nat.le_refl _ | exact Nat.zero_le _ | (dsimp only; omega)) dX4_force_35 (gkr_ip ?_) gkt_ip
      exact g_iret h ⟨by simp [sDayK, b7, b14] <;> rfl, by simp [sDayK, b7, b14]; exact hM⟩ (Nat.le_refl _) (Nat.le_refl _) dX4_force_38
    · refine g_iconst (v := 1) h dX4_force_17 (by decide) ?_
      refine g_goto (tgt := 22) h dX4_force_18 (by decide) ?_
      refine g_iconst (v := 1) h dX4_force_22 (by decide) ?_
      refine g_invV h (ct_bad h.k hM true 1) hcX4_bad w_X4_308 rfl rfl hM.obj (Nat.le_of_ble_eq_true rfl) ⟨Nat.le_of_ble_eq_true rfl, Nat.le_of_ble_eq_true rfl⟩ (by refine ⟨?_, ?_⟩ <;> first | exact Nat.le_refl _ | exact Nat.zero_le _ | (dsimp only; omega)) dX4_force_23 (gkr_i (fun c hM => ?_)) gkt_i
      replace hM := bad1 hM
      refine g_if_eq (tgt := 33) h dX4_force_26 (by decide) (fun _bz => absurd _bz (by decide)) (fun _bz => ?_)
      refine g_iconst (v := 0) h dX4_force_29 (by decide) ?_
      refine g_goto (tgt := 38) h dX4_force_30 (by decide) ?_
      exact g_iret h ⟨by simp [sDayK, b7, b14] <;> rfl, by simp [sDayK, b7, b14]; exact hM⟩ (Nat.le_refl _) (Nat.le_refl _) dX4_force_38
theorem ct_money {l : Launch} {g : gGP} (hk : gK l g) {c0 c : gLH} {mo : Nat} {ma : Nat → Nat} {cl ll : Nat} {A : Nat → Nat → Int32} {B : Nat → Nat → Int64} (hM : MW c0 mo ma cl ll A B c) (x : Int32) {nf : Nat} (hn0 : A 45 0 = nI nf) (hle : nf ≤ 8) : Ct l g yX4_money hwX4_money 1 40 [.ref mo, .int x] c (0) (0) (pL (if sNo x (A 45 0) = true then 0 else B 44 (ix x)) (MW c0 mo ma cl ll (mA A 0 0 (zB (sNo x (A 45 0)))) B)) := by
  refine Ct.intro hk hcX4_money (by decide +kernel) (Nat.le_of_ble_eq_true rfl) (fun φ h => ?_)
  refine g_aload_n (i := 0) h dX4_money_0 rfl rfl ?_
  refine g_iload_n (i := 1) h dX4_money_1 rfl rfl ?_
  refine g_aload_n (i := 0) h dX4_money_2 rfl rfl ?_
  refine m_get (v := .int (A 45 0)) h hM f_X4_378_4 rfl dX4_money_3 ?_
  refine g_invV h (ct_no h.k hM _ _) hcX4_no w_X4_405 rfl rfl hM.obj (Nat.le_of_ble_eq_true rfl) ⟨Nat.le_of_ble_eq_true rfl, Nat.le_of_ble_eq_true rfl⟩ (by refine ⟨?_, ?_⟩ <;> first | exact Nat.le_refl _ | exact Nat.zero_le _ | (dsimp only; omega)) dX4_money_6 (gkr_i (fun c hM => ?_)) gkt_i
  refine g_if_eq (tgt := 16) h dX4_money_9 (by decide) (fun b9 => ?_) (fun b9 => ?_)
  · rw [zB_0] at b9
    obtain ⟨hj, hx⟩ : ix x < nf ∧ x = nI (ix x) := by
      simp only [sNo, Bool.or_eq_false_iff, decide_eq_false_iff_not, Bool.not_eq_false', decide_eq_true_eq] at b9
      exact ix_of b9.1 b9.2 hn0 (by omega)
    refine g_aload_n (i := 0) h dX4_money_16 rfl rfl ?_
    refine m_get h hM f_X4_98_4 rfl dX4_money_17 ?_
    refine g_iload_n (i := 1) h dX4_money_20 rfl rfl ?_
    refine G.int hx ?_
    refine m_lald (k := 44) (x := B 44 _) h hM rfl (by show _ < 8; omega) rfl dX4_money_21 ?_
    exact g_lret h ⟨by rw [b9]; rfl, hM⟩ (Nat.le_refl _) (Nat.le_refl _) dX4_money_22
  · rw [zB_n0] at b9
    refine g_lconst (v := 0) h dX4_money_12 (by decide) ?_
    refine g_goto (tgt := 22) h dX4_money_13 (by decide) ?_
    exact g_lret h ⟨by rw [b9]; rfl, hM⟩ (Nat.le_refl _) (Nat.le_refl _) dX4_money_22
theorem ct_wear {l : Launch} {g : gGP} (hk : gK l g) {c0 c : gLH} {mo : Nat} {ma : Nat → Nat} {cl ll : Nat} {A : Nat → Nat → Int32} {B : Nat → Nat → Int64} (hM : MW c0 mo ma cl ll A B c) (x : Int32) {ns : Nat} (hn0 : A 28 0 = nI ns) (hle : ns ≤ 12) : Ct l g yX4_wear hwX4_wear 1 40 [.ref mo, .int x] c (0) (0) (pL (if sNo x (A 28 0) = true then 0 else B 27 (ix x)) (MW c0 mo ma cl ll (mA A 0 0 (zB (sNo x (A 28 0)))) B)) := by
  refine Ct.intro hk hcX4_wear (by decide +kernel) (Nat.le_of_ble_eq_true rfl) (fun φ h => ?_)
  refine g_aload_n (i := 0) h dX4_wear_0 rfl rfl ?_
  refine g_iload_n (i := 1) h dX4_wear_1 rfl rfl ?_
  refine g_aload_n (i := 0) h dX4_wear_2 rfl rfl ?_
  refine m_get (v := .int (A 28 0)) h hM f_X4_318_4 rfl dX4_wear_3 ?_
  refine g_invV h (ct_no h.k hM _ _) hcX4_no w_X4_405 rfl rfl hM.obj (Nat.le_of_ble_eq_true rfl) ⟨Nat.le_of_ble_eq_true rfl, Nat.le_of_ble_eq_true rfl⟩ (by refine ⟨?_, ?_⟩ <;> first | exact Nat.le_refl _ | exact Nat.zero_le _ | (dsimp only; omega)) dX4_wear_6 (gkr_i (fun c hM => ?_)) gkt_i
  refine g_if_eq (tgt := 16) h dX4_wear_9 (by decide) (fun b9 => ?_) (fun b9 => ?_)
  · rw [zB_0] at b9
    obtain ⟨hj, hx⟩ : ix x < ns ∧ x = nI (ix x) := by
      simp only [sNo, Bool.or_eq_false_iff, decide_eq_false_iff_not, Bool.not_eq_false', decide_eq_true_eq] at b9
      exact ix_of b9.1 b9.2 hn0 (by omega)
    refine g_aload_n (i := 0) h dX4_wear_16 rfl rfl ?_
    refine m_get h hM f_X4_66_4 rfl dX4_wear_17 ?_
    refine g_iload_n (i := 1) h dX4_wear_20 rfl rfl ?_
    refine G.int hx ?_
    refine m_lald (k := 27) (x := B 27 _) h hM rfl (by show _ < 12; omega) rfl dX4_wear_21 ?_
    exact g_lret h ⟨by rw [b9]; rfl, hM⟩ (Nat.le_refl _) (Nat.le_refl _) dX4_wear_22
  · rw [zB_n0] at b9
    refine g_lconst (v := 0) h dX4_wear_12 (by decide) ?_
    refine g_goto (tgt := 22) h dX4_wear_13 (by decide) ?_
    exact g_lret h ⟨by rw [b9]; rfl, hM⟩ (Nat.le_refl _) (Nat.le_refl _) dX4_wear_22
