/-! THE MODEL: bids, loans, rents -/
set_option maxRecDepth 100000
/-- what comes of a rent that is due at gate j, farmer f: 0: over, 1: the surety is lost, 2: paid -/
def sRentC (A : Nat → Nat → Int32) (B : Nat → Nat → Int64) (j f : Nat) : Nat := if ¬ A 54 j = 0 then (if (A 51 j).toInt64 ≤ B 44 f then 2 else 1) else 0
def sRentA (A : Nat → Nat → Int32) (B : Nat → Nat → Int64) (j f nl : Nat) : Nat → Nat → Int32 :=
  if sRentC A B j f = 0 then mA A 50 j (-1) else if sRentC A B j f = 1 then mA (sLineA A nl 2 (nI j) (A 52 j).toInt64) 50 j (-1)
  else mA (mA (sLineA A nl 1 (nI j) (A 51 j).toInt64) 54 j (A 54 j - 1)) 53 j (A 32 0 + 91)
def sRentB (A : Nat → Nat → Int32) (B : Nat → Nat → Int64) (j f : Nat) : Nat → Nat → Int64 :=
  if sRentC A B j f = 0 then mB B 44 f (B 44 f + (A 52 j).toInt64) else if sRentC A B j f = 1 then mB B 43 0 (B 43 0 + (A 52 j).toInt64)
  else mB (mB B 44 f (B 44 f - (A 51 j).toInt64)) 43 0 (B 43 0 + (A 51 j).toInt64)
def sRentL (A : Nat → Nat → Int32) (B : Nat → Nat → Int64) (j f nl ll : Nat) : Nat := if sRentC A B j f = 0 then ll else sLn ll nl
theorem ct_rentDue {l : Launch} {g : gGP} (hk : gK l g) {c0 c : gLH} {mo : Nat} {ma : Nat → Nat} {cl ll : Nat} {A : Nat → Nat → Int32} {B : Nat → Nat → Int64} (hM : MW c0 mo ma cl ll A B c) {j f nl : Nat} (hj : j < 8) (hf : A 50 j = nI f) (hf8 : f < 8) (hnl : A 42 0 = nI nl) (hle : nl ≤ ll) (hl0 : 4 ≤ ll) (hl2 : nl < 400000) : Ct l g yX4_rentDue hwX4_rentDue 2 80 [.ref mo, .int (nI j)] c (sRentL A B j f nl ll - ll) (8 * (sRentL A B j f nl ll - ll)) (pV (fun c' => ∃ ma', MW c0 mo ma' cl (sRentL A B j f nl ll) (sRentA A B j f nl) (sRentB A B j f) c')) := by
  refine Ct.intro hk hcX4_rentDue (by decide +kernel) (Nat.le_of_ble_eq_true rfl) (fun φ h => ?_)
  refine g_aload_n (i := 0) h dX4_rentDue_0 rfl rfl ?_
  refine m_get h hM f_X4_113_4 rfl dX4_rentDue_1 ?_
  refine g_iload_n (i := 1) h dX4_rentDue_4 rfl rfl ?_
  refine m_iald (k := 50) (x := nI f) h hM rfl rfl (by show _ < 8; omega) hf dX4_rentDue_5 ?_
  refine g_istore_n (i := 2) h dX4_rentDue_6 rfl (by decide) ?_
  refine g_aload_n (i := 0) h dX4_rentDue_7 rfl rfl ?_
  refine m_get h hM f_X4_125_4 rfl dX4_rentDue_8 ?_
  refine g_iload_n (i := 1) h dX4_rentDue_11 rfl rfl ?_
  refine m_iald (k := 54) (x := A 54 _) h hM rfl rfl (by show _ < 8; omega) rfl dX4_rentDue_12 ?_
  refine g_if_ne (tgt := 40) h dX4_rentDue_13 (by decide) (fun b13 => ?_) (fun b13 => ?_)
  · refine g_aload_n (i := 0) h dX4_rentDue_40 rfl rfl ?_
    refine m_get h hM f_X4_98_4 rfl dX4_rentDue_41 ?_
    refine g_iload_n (i := 2) h dX4_rentDue_44 rfl rfl ?_
    refine m_lald (k := 44) (x := B 44 _) h hM rfl (by show _ < 8; omega) rfl dX4_rentDue_45 ?_
    refine g_aload_n (i := 0) h dX4_rentDue_46 rfl rfl ?_
    refine m_get h hM f_X4_116_4 rfl dX4_rentDue_47 ?_
    refine g_iload_n (i := 1) h dX4_rentDue_50 rfl rfl ?_
    refine m_iald (k := 51) (x := A 51 _) h hM rfl rfl (by show _ < 8; omega) rfl dX4_rentDue_51 ?_
    refine g_i2l h dX4_rentDue_52 ?_
    refine g_lcmp h dX4_rentDue_53 ?_
    refine g_if_ge (tgt := 78) h dX4_rentDue_54 (by decide) (fun b54 => ?_) (fun b54 => ?_)
    · rw [lg_cmp_ge] at b54
      refine g_aload_n (i := 0) h dX4_rentDue_78 rfl rfl ?_
      refine m_get h hM f_X4_98_4 rfl dX4_rentDue_79 ?_
      refine g_iload_n (i := 2) h dX4_rentDue_82 rfl rfl ?_
      refine g_dup2 h dX4_rentDue_83 rfl rfl ?_
      refine m_lald (k := 44) (x := B 44 _) h hM rfl (by show _ < 8; omega) rfl dX4_rentDue_84 ?_
      refine g_aload_n (i := 0) h dX4_rentDue_85 rfl rfl ?_
      refine m_get h hM f_X4_116_4 rfl dX4_rentDue_86 ?_
      refine g_iload_n (i := 1) h dX4_rentDue_89 rfl rfl ?_
      refine m_iald (k := 51) (x := A 51 _) h hM rfl rfl (by show _ < 8; omega) rfl dX4_rentDue_90 ?_
      refine g_i2l h dX4_rentDue_91 ?_
      refine g_lsub h dX4_rentDue_92 ?_
      refine m_last (k := 44) h hM rfl (by show _ < 8; omega) dX4_rentDue_93 (fun c hM => ?_)
      refine g_aload_n (i := 0) h dX4_rentDue_94 rfl rfl ?_
      refine g_iconst (v := 1) h dX4_rentDue_95 (by decide) ?_
      refine g_iload_n (i := 1) h dX4_rentDue_96 rfl rfl ?_
      refine g_aload_n (i := 0) h dX4_rentDue_97 rfl rfl ?_
      refine m_get h hM f_X4_116_4 rfl dX4_rentDue_98 ?_
      refine g_iload_n (i := 1) h dX4_rentDue_101 rfl rfl ?_
      refine m_iald (k := 51) (x := A 51 _) h hM rfl rfl (by show _ < 8; omega) rfl dX4_rentDue_102 ?_
      refine g_i2l h dX4_rentDue_103 ?_
      refine g_invV h (ct_line (nl := nl) h.k hM 1 _ _ hnl hle hl0 hl2) hcX4_line w_X4_366 rfl rfl hM.obj (Nat.le_of_ble_eq_true rfl) ⟨Nat.le_of_ble_eq_true rfl, Nat.le_of_ble_eq_true rfl⟩ (by rw [show sRentL A B j f nl ll = sLn ll nl by simp [sRentL, sRentC, b13, b54]]; exact ⟨by show 0 + (sLn ll nl - ll) ≤ sLn ll nl - ll; omega, by show 0 + 8 * (sLn ll nl - ll) ≤ 8 * (sLn ll nl - ll); omega⟩) dX4_rentDue_104 (gkr_v (fun c hM => ?_)) gkt_v
      obtain ⟨ma, hM⟩ := hM
      refine g_aload_n (i := 0) h dX4_rentDue_107 rfl rfl ?_
      refine m_get h hM f_X4_125_4 rfl dX4_rentDue_108 ?_
      refine g_iload_n (i := 1) h dX4_rentDue_111 rfl rfl ?_
      refine g_dup2 h dX4_rentDue_112 rfl rfl ?_
      refine m_iald (k := 54) (x := A 54 _) h hM rfl rfl (by show _ < 8; omega) rfl dX4_rentDue_113 ?_
      refine g_iconst (v := 1) h dX4_rentDue_114 (by decide) ?_
      refine g_isub h dX4_rentDue_115 ?_
      refine m_iast (k := 54) h hM rfl rfl (by show _ < 8; omega) dX4_rentDue_116 (fun c hM => ?_)
      refine g_aload_n (i := 0) h dX4_rentDue_117 rfl rfl ?_
      refine m_get h hM f_X4_122_4 rfl dX4_rentDue_118 ?_
      refine g_iload_n (i := 1) h dX4_rentDue_121 rfl rfl ?_
      refine g_aload_n (i := 0) h dX4_rentDue_122 rfl rfl ?_
      refine m_get (v := .int (A 32 0)) h hM f_X4_331_4 rfl dX4_rentDue_123 ?_
      refine g_bipush (v := 91) h dX4_rentDue_126 (by decide) ?_
      first | (with_reducible refine g_iaddN h dX4_rentDue_128 ?_) | refine g_iadd h dX4_rentDue_128 ?_
      refine m_iast (k := 53) h hM rfl rfl (by show _ < 8; omega) dX4_rentDue_129 (fun c hM => ?_)
      exact g_vret h ⟨rfl, _, by simp [sRentC, sRentA, sRentB, sRentL, b13, b54]; exact hM⟩ (by first | exact Nat.zero_le _ | (rw [show sRentL A B j f nl ll = sLn ll nl by simp [sRentL, sRentC, b13, b54]]; omega)) (by first | exact Nat.zero_le _ | (rw [show sRentL A B j f nl ll = sLn ll nl by simp [sRentL, sRentC, b13, b54]]; omega)) dX4_rentDue_130
    · rw [lg_cmp_ge] at b54
      refine g_aload_n (i := 0) h dX4_rentDue_57 rfl rfl ?_
      refine g_iconst (v := 2) h dX4_rentDue_58 (by decide) ?_
      refine g_iload_n (i := 1) h dX4_rentDue_59 rfl rfl ?_
      refine g_aload_n (i := 0) h dX4_rentDue_60 rfl rfl ?_
      refine m_get h hM f_X4_119_4 rfl dX4_rentDue_61 ?_
      refine g_iload_n (i := 1) h dX4_rentDue_64 rfl rfl ?_
      refine m_iald (k := 52) (x := A 52 _) h hM rfl rfl (by show _ < 8; omega) rfl dX4_rentDue_65 ?_
      refine g_i2l h dX4_rentDue_66 ?_
      refine g_invV h (ct_line (nl := nl) h.k hM 2 _ _ hnl hle hl0 hl2) hcX4_line w_X4_366 rfl rfl hM.obj (Nat.le_of_ble_eq_true rfl) ⟨Nat.le_of_ble_eq_true rfl, Nat.le_of_ble_eq_true rfl⟩ (by rw [show sRentL A B j f nl ll = sLn ll nl by simp [sRentL, sRentC, b13, b54]]; exact ⟨by show 0 + (sLn ll nl - ll) ≤ sLn ll nl - ll; omega, by show 0 + 8 * (sLn ll nl - ll) ≤ 8 * (sLn ll nl - ll); omega⟩) dX4_rentDue_67 (gkr_v (fun c hM => ?_)) gkt_v
      obtain ⟨ma, hM⟩ := hM
      refine g_aload_n (i := 0) h dX4_rentDue_70 rfl rfl ?_
      refine m_get h hM f_X4_113_4 rfl dX4_rentDue_71 ?_
      refine g_iload_n (i := 1) h dX4_rentDue_74 rfl rfl ?_
      refine g_iconst (v := (-1)) h dX4_rentDue_75 (by decide) ?_
      refine m_iast (k := 50) h hM rfl rfl (by show _ < 8; omega) dX4_rentDue_76 (fun c hM => ?_)
      exact g_vret h ⟨rfl, _, by simp [sRentC, sRentA, sRentB, sRentL, b13, b54]; exact hM⟩ (by first | exact Nat.zero_le _ | (rw [show sRentL A B j f nl ll = sLn ll nl by simp [sRentL, sRentC, b13, b54]]; omega)) (by first | exact Nat.zero_le _ | (rw [show sRentL A B j f nl ll = sLn ll nl by simp [sRentL, sRentC, b13, b54]]; omega)) dX4_rentDue_77
  · refine g_aload_n (i := 0) h dX4_rentDue_16 rfl rfl ?_
    refine m_get h hM f_X4_98_4 rfl dX4_rentDue_17 ?_
    refine g_iload_n (i := 2) h dX4_rentDue_20 rfl rfl ?_
    refine g_dup2 h dX4_rentDue_21 rfl rfl ?_
    refine m_lald (k := 44) (x := B 44 _) h hM rfl (by show _ < 8; omega) rfl dX4_rentDue_22 ?_
    refine g_aload_n (i := 0) h dX4_rentDue_23 rfl rfl ?_
    refine m_get h hM f_X4_119_4 rfl dX4_rentDue_24 ?_
    refine g_iload_n (i := 1) h dX4_rentDue_27 rfl rfl ?_
    refine m_iald (k := 52) (x := A 52 _) h hM rfl rfl (by show _ < 8; omega) rfl dX4_rentDue_28 ?_
    refine g_i2l h dX4_rentDue_29 ?_
    refine g_ladd h dX4_rentDue_30 ?_
    refine m_last (k := 44) h hM rfl (by show _ < 8; omega) dX4_rentDue_31 (fun c hM => ?_)
    refine g_aload_n (i := 0) h dX4_rentDue_32 rfl rfl ?_
    refine m_get h hM f_X4_113_4 rfl dX4_rentDue_33 ?_
    refine g_iload_n (i := 1) h dX4_rentDue_36 rfl rfl ?_
    refine g_iconst (v := (-1)) h dX4_rentDue_37 (by decide) ?_
    refine m_iast (k := 50) h hM rfl rfl (by show _ < 8; omega) dX4_rentDue_38 (fun c hM => ?_)
    exact g_vret h ⟨rfl, _, by simp [sRentC, sRentA, sRentB, sRentL, b13]; exact hM⟩ (by first | exact Nat.zero_le _ | (rw [show sRentL A B j f nl ll = sLn ll nl by simp [sRentL, sRentC, b13]]; omega)) (by first | exact Nat.zero_le _ | (rw [show sRentL A B j f nl ll = sLn ll nl by simp [sRentL, sRentC, b13]]; omega)) dX4_rentDue_39
