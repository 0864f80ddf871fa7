/-! THE MODEL: public methods, 3 -/
set_option maxRecDepth 100000
theorem sw_6 (x : Int32) : x = 0 ∨ x = 1 ∨ x = 2 ∨ x = 3 ∨ x = 4 ∨ x = 5 ∨ (x.toInt < 0 ∨ 5 < x.toInt) := by
  rcases (show x.toInt = 0 ∨ x.toInt = 1 ∨ x.toInt = 2 ∨ x.toInt = 3 ∨ x.toInt = 4 ∨ x.toInt = 5 ∨ (x.toInt < 0 ∨ 5 < x.toInt) by omega) with q | q | q | q | q | q | q
  · exact Or.inl (Int32.toInt_inj.mp (q.trans (by decide)))
  · exact Or.inr (Or.inl (Int32.toInt_inj.mp (q.trans (by decide))))
  · exact Or.inr (Or.inr (Or.inl (Int32.toInt_inj.mp (q.trans (by decide)))))
  · exact Or.inr (Or.inr (Or.inr (Or.inl (Int32.toInt_inj.mp (q.trans (by decide))))))
  · exact Or.inr (Or.inr (Or.inr (Or.inr (Or.inl (Int32.toInt_inj.mp (q.trans (by decide)))))))
  · exact Or.inr (Or.inr (Or.inr (Or.inr (Or.inr (Or.inl (Int32.toInt_inj.mp (q.trans (by decide))))))))
  · exact Or.inr (Or.inr (Or.inr (Or.inr (Or.inr (Or.inr (q))))))
theorem sw_10 (x : Int32) : x = 0 ∨ x = 1 ∨ x = 2 ∨ x = 3 ∨ x = 4 ∨ x = 5 ∨ x = 6 ∨ x = 7 ∨ x = 8 ∨ x = 9 ∨ (x.toInt < 0 ∨ 9 < x.toInt) := by
  rcases (show x.toInt = 0 ∨ x.toInt = 1 ∨ x.toInt = 2 ∨ x.toInt = 3 ∨ x.toInt = 4 ∨ x.toInt = 5 ∨ x.toInt = 6 ∨ x.toInt = 7 ∨ x.toInt = 8 ∨ x.toInt = 9 ∨ (x.toInt < 0 ∨ 9 < x.toInt) by omega) with q | q | q | q | q | q | q | q | q | q | q
  · exact Or.inl (Int32.toInt_inj.mp (q.trans (by decide)))
  · exact Or.inr (Or.inl (Int32.toInt_inj.mp (q.trans (by decide))))
  · exact Or.inr (Or.inr (Or.inl (Int32.toInt_inj.mp (q.trans (by decide)))))
  · exact Or.inr (Or.inr (Or.inr (Or.inl (Int32.toInt_inj.mp (q.trans (by decide))))))
  · exact Or.inr (Or.inr (Or.inr (Or.inr (Or.inl (Int32.toInt_inj.mp (q.trans (by decide)))))))
  · exact Or.inr (Or.inr (Or.inr (Or.inr (Or.inr (Or.inl (Int32.toInt_inj.mp (q.trans (by decide))))))))
  · exact Or.inr (Or.inr (Or.inr (Or.inr (Or.inr (Or.inr (Or.inl (Int32.toInt_inj.mp (q.trans (by decide)))))))))
  · exact Or.inr (Or.inr (Or.inr (Or.inr (Or.inr (Or.inr (Or.inr (Or.inl (Int32.toInt_inj.mp (q.trans (by decide))))))))))
  · exact Or.inr (Or.inr (Or.inr (Or.inr (Or.inr (Or.inr (Or.inr (Or.inr (Or.inl (Int32.toInt_inj.mp (q.trans (by decide)))))))))))
  · exact Or.inr (Or.inr (Or.inr (Or.inr (Or.inr (Or.inr (Or.inr (Or.inr (Or.inr (Or.inl (Int32.toInt_inj.mp (q.trans (by decide))))))))))))
  · exact Or.inr (Or.inr (Or.inr (Or.inr (Or.inr (Or.inr (Or.inr (Or.inr (Or.inr (Or.inr (q))))))))))
def sCount (A : Nat → Nat → Int32) (w : Int32) : Int32 := if w = 0 then A 32 0 else if w = 1 then A 18 0 else if w = 2 then A 28 0 else if w = 3 then A 31 0 else if w = 4 then A 25 0 else if w = 5 then A 45 0 else if w = 6 then A 61 0 else if w = 7 then A 42 0 else if w = 8 then A 2 0 else if w = 9 then A 33 0 else -1
theorem sw_no {n : Nat} {x : Int32} (h : x.toInt < 0 ∨ (n : Int) < x.toInt) {k : Int32} (hk : 0 ≤ k.toInt ∧ k.toInt ≤ n) : ¬ x = k := by
  rintro rfl
  omega
theorem ct_count {l : Launch} {g : gGP} (hk : gK l g) {c0 c : gLH} {mo : Nat} {ma : Nat → Nat} {cl ll : Nat} {A : Nat → Nat → Int32} {B : Nat → Nat → Int64} (hM : MW c0 mo ma cl ll A B c) (w : Int32) : Ct l g yX4_count hwX4_count 0 0 [.ref mo, .int w] c (0) (0) (pI (sCount A w) (MW c0 mo ma cl ll (mA A 0 0 0) B)) := by
  refine Ct.intro hk hcX4_count (by decide +kernel) (Nat.le_of_ble_eq_true rfl) (fun φ h => ?_)
  refine g_aload_n (i := 0) h dX4_count_0 rfl rfl ?_
  refine g_iconst (v := 0) h dX4_count_1 (by decide) ?_
  refine m_puti h hM mp_0 fp_X4_146_4 dX4_count_2 (fun c hM => ?_)
  refine g_iload_n (i := 1) h dX4_count_5 rfl rfl ?_
  rcases sw_10 w with rfl | rfl | rfl | rfl | rfl | rfl | rfl | rfl | rfl | rfl | hsw6
  · refine g_tableIn (off := 54) (tgt := 60) h dX4_count_6 (by decide) (by decide) (by decide) (by decide) ?_
    refine g_aload_n (i := 0) h dX4_count_60 rfl rfl ?_
    refine m_get (v := .int (A 32 0)) h hM f_X4_331_4 rfl dX4_count_61 ?_
    exact g_iret h ⟨by first | rfl | simp [sCount], hM⟩ (Nat.le_refl _) (Nat.le_refl _) dX4_count_64
  · refine g_tableIn (off := 59) (tgt := 65) h dX4_count_6 (by decide) (by decide) (by decide) (by decide) ?_
    refine g_aload_n (i := 0) h dX4_count_65 rfl rfl ?_
    refine m_get (v := .int (A 18 0)) h hM f_X4_289_4 rfl dX4_count_66 ?_
    exact g_iret h ⟨by first | rfl | simp [sCount], hM⟩ (Nat.le_refl _) (Nat.le_refl _) dX4_count_69
  · refine g_tableIn (off := 64) (tgt := 70) h dX4_count_6 (by decide) (by decide) (by decide) (by decide) ?_
    refine g_aload_n (i := 0) h dX4_count_70 rfl rfl ?_
    refine m_get (v := .int (A 28 0)) h hM f_X4_318_4 rfl dX4_count_71 ?_
    exact g_iret h ⟨by first | rfl | simp [sCount], hM⟩ (Nat.le_refl _) (Nat.le_refl _) dX4_count_74
  · refine g_tableIn (off := 69) (tgt := 75) h dX4_count_6 (by decide) (by decide) (by decide) (by decide) ?_
    refine g_aload_n (i := 0) h dX4_count_75 rfl rfl ?_
    refine m_get (v := .int (A 31 0)) h hM f_X4_321_4 rfl dX4_count_76 ?_
    exact g_iret h ⟨by first | rfl | simp [sCount], hM⟩ (Nat.le_refl _) (Nat.le_refl _) dX4_count_79
  · refine g_tableIn (off := 74) (tgt := 80) h dX4_count_6 (by decide) (by decide) (by decide) (by decide) ?_
    refine g_aload_n (i := 0) h dX4_count_80 rfl rfl ?_
    refine m_get (v := .int (A 25 0)) h hM f_X4_324_4 rfl dX4_count_81 ?_
    exact g_iret h ⟨by first | rfl | simp [sCount], hM⟩ (Nat.le_refl _) (Nat.le_refl _) dX4_count_84
  · refine g_tableIn (off := 79) (tgt := 85) h dX4_count_6 (by decide) (by decide) (by decide) (by decide) ?_
    refine g_aload_n (i := 0) h dX4_count_85 rfl rfl ?_
    refine m_get (v := .int (A 45 0)) h hM f_X4_378_4 rfl dX4_count_86 ?_
    exact g_iret h ⟨by first | rfl | simp [sCount], hM⟩ (Nat.le_refl _) (Nat.le_refl _) dX4_count_89
  · refine g_tableIn (off := 84) (tgt := 90) h dX4_count_6 (by decide) (by decide) (by decide) (by decide) ?_
    refine g_aload_n (i := 0) h dX4_count_90 rfl rfl ?_
    refine m_get (v := .int (A 61 0)) h hM f_X4_388_4 rfl dX4_count_91 ?_
    exact g_iret h ⟨by first | rfl | simp [sCount], hM⟩ (Nat.le_refl _) (Nat.le_refl _) dX4_count_94
  · refine g_tableIn (off := 89) (tgt := 95) h dX4_count_6 (by decide) (by decide) (by decide) (by decide) ?_
    refine g_aload_n (i := 0) h dX4_count_95 rfl rfl ?_
    refine m_get (v := .int (A 42 0)) h hM f_X4_370_4 rfl dX4_count_96 ?_
    exact g_iret h ⟨by first | rfl | simp [sCount], hM⟩ (Nat.le_refl _) (Nat.le_refl _) dX4_count_99
  · refine g_tableIn (off := 94) (tgt := 100) h dX4_count_6 (by decide) (by decide) (by decide) (by decide) ?_
    refine g_aload_n (i := 0) h dX4_count_100 rfl rfl ?_
    refine m_get (v := .int (A 2 0)) h hM f_X4_149_4 rfl dX4_count_101 ?_
    exact g_iret h ⟨by first | rfl | simp [sCount], hM⟩ (Nat.le_refl _) (Nat.le_refl _) dX4_count_104
  · refine g_tableIn (off := 99) (tgt := 105) h dX4_count_6 (by decide) (by decide) (by decide) (by decide) ?_
    refine g_aload_n (i := 0) h dX4_count_105 rfl rfl ?_
    refine m_get (v := .int (A 33 0)) h hM f_X4_363_4 rfl dX4_count_106 ?_
    exact g_iret h ⟨by first | rfl | simp [sCount], hM⟩ (Nat.le_refl _) (Nat.le_refl _) dX4_count_109
  · refine g_tableOut (tgt := 110) h dX4_count_6 hsw6 (by decide) ?_
    refine g_iconst (v := (-1)) h dX4_count_110 (by decide) ?_
    exact g_iret h ⟨by simp [sCount, sw_no (n := 9) hsw6 (k := 0) (by decide), sw_no (n := 9) hsw6 (k := 1) (by decide), sw_no (n := 9) hsw6 (k := 2) (by decide), sw_no (n := 9) hsw6 (k := 3) (by decide), sw_no (n := 9) hsw6 (k := 4) (by decide), sw_no (n := 9) hsw6 (k := 5) (by decide), sw_no (n := 9) hsw6 (k := 6) (by decide), sw_no (n := 9) hsw6 (k := 7) (by decide), sw_no (n := 9) hsw6 (k := 8) (by decide), sw_no (n := 9) hsw6 (k := 9) (by decide)], hM⟩ (Nat.le_refl _) (Nat.le_refl _) dX4_count_111
def sToldK (A : Nat → Nat → Int32) (n w : Int32) (most : Int32) : Nat := if n < 0 then 1 else if n < A 31 0 then (if w < 0 then 2 else if w ≤ most then 0 else 2) else 1
def sTold (A : Nat → Nat → Int32) (j : Nat) (w : Int32) : Int32 := if w = 0 then A 29 j else if w = 1 then A 50 j else if w = 2 then (if A 50 j < 0 then 0 else A 51 j) else if w = 3 then (if A 50 j < 0 then 0 else A 52 j) else if w = 4 then (if A 50 j < 0 then 0 else A 53 j) else if w = 5 then A 46 j else A 30 j
theorem ct_gateTold {l : Launch} {g : gGP} (hk : gK l g) {c0 c : gLH} {mo : Nat} {ma : Nat → Nat} {cl ll : Nat} {A : Nat → Nat → Int32} {B : Nat → Nat → Int64} (hM : MW c0 mo ma cl ll A B c) (n w : Int32) {ng : Nat} (hng : A 31 0 = nI ng) (hg8 : ng ≤ 8) : Ct l g yX4_gateTold hwX4_gateTold 1 40 [.ref mo, .int n, .int w] c (0) (0) (pI (if sToldK A n w 6 = 0 then sTold A (ix n) w else 0) (MW c0 mo ma cl ll (if sToldK A n w 6 = 0 then mA A 0 0 0 else mA (mA A 0 0 0) 0 0 (nI (sToldK A n w 6))) B)) := by
  refine Ct.intro hk hcX4_gateTold (by decide +kernel) (Nat.le_of_ble_eq_true rfl) (fun φ h => ?_)
  refine g_aload_n (i := 0) h dX4_gateTold_0 rfl rfl ?_
  refine g_iconst (v := 0) h dX4_gateTold_1 (by decide) ?_
  refine m_puti h hM mp_0 fp_X4_146_4 dX4_gateTold_2 (fun c hM => ?_)
  refine g_aload_n (i := 0) h dX4_gateTold_5 rfl rfl ?_
  refine g_iload_n (i := 1) h dX4_gateTold_6 rfl rfl ?_
  refine g_if_lt (tgt := 18) h dX4_gateTold_7 (by decide) (fun b7 => ?_) (fun b7 => ?_)
  · refine g_iconst (v := 1) h dX4_gateTold_18 (by decide) ?_
    refine g_goto (tgt := 23) h dX4_gateTold_19 (by decide) ?_
    refine g_iconst (v := 1) h dX4_gateTold_23 (by decide) ?_
    refine g_invV h (ct_bad h.k hM true 1) hcX4_bad w_X4_308 rfl rfl hM.obj (Nat.le_of_ble_eq_true rfl) ⟨Nat.le_of_ble_eq_true rfl, Nat.le_of_ble_eq_true rfl⟩ (by refine ⟨?_, ?_⟩ <;> first | exact Nat.le_refl _ | exact Nat.zero_le _ | (dsimp only; omega)) dX4_gateTold_24 (gkr_i (fun c hM => ?_)) gkt_i
    replace hM := bad1 hM
    refine g_if_ne (tgt := 53) h dX4_gateTold_27 (by decide) (fun _bz => ?_) (fun _bz => absurd _bz (by decide))
    refine g_iconst (v := 0) h dX4_gateTold_53 (by decide) ?_
    exact g_iret h ⟨by simp [sToldK, b7] <;> rfl, by simp [sToldK, b7]; exact hM⟩ (Nat.le_refl _) (Nat.le_refl _) dX4_gateTold_54
  · refine g_iload_n (i := 1) h dX4_gateTold_10 rfl rfl ?_
    refine g_aload_n (i := 0) h dX4_gateTold_11 rfl rfl ?_
    refine m_get (v := .int (A 31 0)) h hM f_X4_321_4 rfl dX4_gateTold_12 ?_
    refine g_icmp_lt (tgt := 22) h dX4_gateTold_15 (by decide) (fun b15 => ?_) (fun b15 => ?_)
    · obtain ⟨hj, hx⟩ := ix_of b7 b15 hng (by omega)
      refine g_iconst (v := 0) h dX4_gateTold_22 (by decide) ?_
      refine g_iconst (v := 1) h dX4_gateTold_23 (by decide) ?_
      refine g_invV h (ct_bad h.k hM false 1) hcX4_bad w_X4_308 rfl rfl hM.obj (Nat.le_of_ble_eq_true rfl) ⟨Nat.le_of_ble_eq_true rfl, Nat.le_of_ble_eq_true rfl⟩ (by refine ⟨?_, ?_⟩ <;> first | exact Nat.le_refl _ | exact Nat.zero_le _ | (dsimp only; omega)) dX4_gateTold_24 (gkr_i (fun c hM => ?_)) gkt_i
      replace hM := bad0 hM
      refine g_if_ne (tgt := 53) h dX4_gateTold_27 (by decide) (fun _bz => absurd _bz (by decide)) (fun _bz => ?_)
      refine g_aload_n (i := 0) h dX4_gateTold_30 rfl rfl ?_
      refine g_iload_n (i := 2) h dX4_gateTold_31 rfl rfl ?_
      refine g_if_lt (tgt := 41) h dX4_gateTold_32 (by decide) (fun b32 => ?_) (fun b32 => ?_)
      · refine g_iconst (v := 1) h dX4_gateTold_41 (by decide) ?_
        refine g_goto (tgt := 46) h dX4_gateTold_42 (by decide) ?_
        refine g_iconst (v := 2) h dX4_gateTold_46 (by decide) ?_
        refine g_invV h (ct_bad h.k hM true 2) hcX4_bad w_X4_308 rfl rfl hM.obj (Nat.le_of_ble_eq_true rfl) ⟨Nat.le_of_ble_eq_true rfl, Nat.le_of_ble_eq_true rfl⟩ (by refine ⟨?_, ?_⟩ <;> first | exact Nat.le_refl _ | exact Nat.zero_le _ | (dsimp only; omega)) dX4_gateTold_47 (gkr_i (fun c hM => ?_)) gkt_i
        replace hM := bad1 hM
        refine g_if_eq (tgt := 55) h dX4_gateTold_50 (by decide) (fun _bz => absurd _bz (by decide)) (fun _bz => ?_)
        refine g_iconst (v := 0) h dX4_gateTold_53 (by decide) ?_
        exact g_iret h ⟨by simp [sToldK, b7, b15, b32] <;> rfl, by simp [sToldK, b7, b15, b32]; exact hM⟩ (Nat.le_refl _) (Nat.le_refl _) dX4_gateTold_54
      · refine g_iload_n (i := 2) h dX4_gateTold_35 rfl rfl ?_
        refine g_bipush (v := 6) h dX4_gateTold_36 (by decide) ?_
        refine g_icmp_le (tgt := 45) h dX4_gateTold_38 (by decide) (fun b38 => ?_) (fun b38 => ?_)
        · refine g_iconst (v := 0) h dX4_gateTold_45 (by decide) ?_
          refine g_iconst (v := 2) h dX4_gateTold_46 (by decide) ?_
          refine g_invV h (ct_bad h.k hM false 2) hcX4_bad w_X4_308 rfl rfl hM.obj (Nat.le_of_ble_eq_true rfl) ⟨Nat.le_of_ble_eq_true rfl, Nat.le_of_ble_eq_true rfl⟩ (by refine ⟨?_, ?_⟩ <;> first | exact Nat.le_refl _ | exact Nat.zero_le _ | (dsimp only; omega)) dX4_gateTold_47 (gkr_i (fun c hM => ?_)) gkt_i
          replace hM := bad0 hM
          refine g_if_eq (tgt := 55) h dX4_gateTold_50 (by decide) (fun _bz => ?_) (fun _bz => absurd _bz (by decide))
          refine g_aload_n (i := 0) h dX4_gateTold_55 rfl rfl ?_
          refine m_get h hM f_X4_113_4 rfl dX4_gateTold_56 ?_
          refine g_iload_n (i := 1) h dX4_gateTold_59 rfl rfl ?_
          refine G.int hx ?_
          refine m_iald (k := 50) (x := A 50 _) h hM rfl rfl (by show _ < 8; omega) rfl dX4_gateTold_60 ?_
          refine g_if_lt (tgt := 68) h dX4_gateTold_61 (by decide) (fun b61 => ?_) (fun b61 => ?_)
          · refine g_iconst (v := 0) h dX4_gateTold_68 (by decide) ?_
            refine g_istore_n (i := 3) h dX4_gateTold_69 rfl (by decide) ?_
            refine g_iload_n (i := 2) h dX4_gateTold_70 rfl rfl ?_
            rcases sw_6 w with rfl | rfl | rfl | rfl | rfl | rfl | hsw71
            · refine g_tableIn (off := 37) (tgt := 108) h dX4_gateTold_71 (by decide) (by decide) (by decide) (by decide) ?_
              refine g_aload_n (i := 0) h dX4_gateTold_108 rfl rfl ?_
              refine m_get h hM f_X4_70_4 rfl dX4_gateTold_109 ?_
              refine g_iload_n (i := 1) h dX4_gateTold_112 rfl rfl ?_
              refine G.int hx ?_
              refine m_iald (k := 29) (x := A 29 _) h hM rfl rfl (by show _ < 8; omega) rfl dX4_gateTold_113 ?_
              exact g_iret h ⟨by first | (simp [sToldK, sTold, b7, b15, b32, b38, b61] <;> rfl) | simp_all, by simp [sToldK, b7, b15, b32, b38, b61]; exact hM⟩ (Nat.le_refl _) (Nat.le_refl _) dX4_gateTold_114
            · refine g_tableIn (off := 44) (tgt := 115) h dX4_gateTold_71 (by decide) (by decide) (by decide) (by decide) ?_
              refine g_aload_n (i := 0) h dX4_gateTold_115 rfl rfl ?_
              refine m_get h hM f_X4_113_4 rfl dX4_gateTold_116 ?_
              refine g_iload_n (i := 1) h dX4_gateTold_119 rfl rfl ?_
              refine G.int hx ?_
              refine m_iald (k := 50) (x := A 50 _) h hM rfl rfl (by show _ < 8; omega) rfl dX4_gateTold_120 ?_
              exact g_iret h ⟨by first | (simp [sToldK, sTold, b7, b15, b32, b38, b61] <;> rfl) | simp_all, by simp [sToldK, b7, b15, b32, b38, b61]; exact hM⟩ (Nat.le_refl _) (Nat.le_refl _) dX4_gateTold_121
            · refine g_tableIn (off := 51) (tgt := 122) h dX4_gateTold_71 (by decide) (by decide) (by decide) (by decide) ?_
              refine g_iload_n (i := 3) h dX4_gateTold_122 rfl rfl ?_
              refine g_if_eq (tgt := 135) h dX4_gateTold_123 (by decide) (fun _bz => ?_) (fun _bz => absurd _bz (by decide))
              refine g_iconst (v := 0) h dX4_gateTold_135 (by decide) ?_
              exact g_iret h ⟨by first | (simp [sToldK, sTold, b7, b15, b32, b38, b61] <;> rfl) | simp_all, by simp [sToldK, b7, b15, b32, b38, b61]; exact hM⟩ (Nat.le_refl _) (Nat.le_refl _) dX4_gateTold_136
            · refine g_tableIn (off := 66) (tgt := 137) h dX4_gateTold_71 (by decide) (by decide) (by decide) (by decide) ?_
              refine g_iload_n (i := 3) h dX4_gateTold_137 rfl rfl ?_
              refine g_if_eq (tgt := 150) h dX4_gateTold_138 (by decide) (fun _bz => ?_) (fun _bz => absurd _bz (by decide))
              refine g_iconst (v := 0) h dX4_gateTold_150 (by decide) ?_
              exact g_iret h ⟨by first | (simp [sToldK, sTold, b7, b15, b32, b38, b61] <;> rfl) | simp_all, by simp [sToldK, b7, b15, b32, b38, b61]; exact hM⟩ (Nat.le_refl _) (Nat.le_refl _) dX4_gateTold_151
            · refine g_tableIn (off := 81) (tgt := 152) h dX4_gateTold_71 (by decide) (by decide) (by decide) (by decide) ?_
              refine g_iload_n (i := 3) h dX4_gateTold_152 rfl rfl ?_
              refine g_if_eq (tgt := 165) h dX4_gateTold_153 (by decide) (fun _bz => ?_) (fun _bz => absurd _bz (by decide))
              refine g_iconst (v := 0) h dX4_gateTold_165 (by decide) ?_
              exact g_iret h ⟨by first | (simp [sToldK, sTold, b7, b15, b32, b38, b61] <;> rfl) | simp_all, by simp [sToldK, b7, b15, b32, b38, b61]; exact hM⟩ (Nat.le_refl _) (Nat.le_refl _) dX4_gateTold_166
            · refine g_tableIn (off := 96) (tgt := 167) h dX4_gateTold_71 (by decide) (by decide) (by decide) (by decide) ?_
              refine g_aload_n (i := 0) h dX4_gateTold_167 rfl rfl ?_
              refine m_get h hM f_X4_101_4 rfl dX4_gateTold_168 ?_
              refine g_iload_n (i := 1) h dX4_gateTold_171 rfl rfl ?_
              refine G.int hx ?_
              refine m_iald (k := 46) (x := A 46 _) h hM rfl rfl (by show _ < 8; omega) rfl dX4_gateTold_172 ?_
              exact g_iret h ⟨by first | (simp [sToldK, sTold, b7, b15, b32, b38, b61] <;> rfl) | simp_all, by simp [sToldK, b7, b15, b32, b38, b61]; exact hM⟩ (Nat.le_refl _) (Nat.le_refl _) dX4_gateTold_173
            · refine g_tableOut (tgt := 174) h dX4_gateTold_71 hsw71 (by decide) ?_
              refine g_aload_n (i := 0) h dX4_gateTold_174 rfl rfl ?_
              refine m_get h hM f_X4_73_4 rfl dX4_gateTold_175 ?_
              refine g_iload_n (i := 1) h dX4_gateTold_178 rfl rfl ?_
              refine G.int hx ?_
              refine m_iald (k := 30) (x := A 30 _) h hM rfl rfl (by show _ < 8; omega) rfl dX4_gateTold_179 ?_
              exact g_iret h ⟨by simp [sToldK, sTold, b7, b15, b32, b38, b61, sw_no (n := 5) hsw71 (k := 0) (by decide), sw_no (n := 5) hsw71 (k := 1) (by decide), sw_no (n := 5) hsw71 (k := 2) (by decide), sw_no (n := 5) hsw71 (k := 3) (by decide), sw_no (n := 5) hsw71 (k := 4) (by decide), sw_no (n := 5) hsw71 (k := 5) (by decide)] <;> rfl, by simp [sToldK, b7, b15, b32, b38, b61]; exact hM⟩ (Nat.le_refl _) (Nat.le_refl _) dX4_gateTold_180
          · refine g_iconst (v := 1) h dX4_gateTold_64 (by decide) ?_
            refine g_goto (tgt := 69) h dX4_gateTold_65 (by decide) ?_
            refine g_istore_n (i := 3) h dX4_gateTold_69 rfl (by decide) ?_
            refine g_iload_n (i := 2) h dX4_gateTold_70 rfl rfl ?_
            rcases sw_6 w with rfl | rfl | rfl | rfl | rfl | rfl | hsw71
            · refine g_tableIn (off := 37) (tgt := 108) h dX4_gateTold_71 (by decide) (by decide) (by decide) (by decide) ?_
              refine g_aload_n (i := 0) h dX4_gateTold_108 rfl rfl ?_
              refine m_get h hM f_X4_70_4 rfl dX4_gateTold_109 ?_
              refine g_iload_n (i := 1) h dX4_gateTold_112 rfl rfl ?_
              refine G.int hx ?_
              refine m_iald (k := 29) (x := A 29 _) h hM rfl rfl (by show _ < 8; omega) rfl dX4_gateTold_113 ?_
              exact g_iret h ⟨by first | (simp [sToldK, sTold, b7, b15, b32, b38, b61] <;> rfl) | simp_all, by simp [sToldK, b7, b15, b32, b38, b61]; exact hM⟩ (Nat.le_refl _) (Nat.le_refl _) dX4_gateTold_114
            · refine g_tableIn (off := 44) (tgt := 115) h dX4_gateTold_71 (by decide) (by decide) (by decide) (by decide) ?_
              refine g_aload_n (i := 0) h dX4_gateTold_115 rfl rfl ?_
              refine m_get h hM f_X4_113_4 rfl dX4_gateTold_116 ?_
              refine g_iload_n (i := 1) h dX4_gateTold_119 rfl rfl ?_
              refine G.int hx ?_
              refine m_iald (k := 50) (x := A 50 _) h hM rfl rfl (by show _ < 8; omega) rfl dX4_gateTold_120 ?_
              exact g_iret h ⟨by first | (simp [sToldK, sTold, b7, b15, b32, b38, b61] <;> rfl) | simp_all, by simp [sToldK, b7, b15, b32, b38, b61]; exact hM⟩ (Nat.le_refl _) (Nat.le_refl _) dX4_gateTold_121
            · refine g_tableIn (off := 51) (tgt := 122) h dX4_gateTold_71 (by decide) (by decide) (by decide) (by decide) ?_
              refine g_iload_n (i := 3) h dX4_gateTold_122 rfl rfl ?_
              refine g_if_eq (tgt := 135) h dX4_gateTold_123 (by decide) (fun _bz => absurd _bz (by decide)) (fun _bz => ?_)
              refine g_aload_n (i := 0) h dX4_gateTold_126 rfl rfl ?_
              refine m_get h hM f_X4_116_4 rfl dX4_gateTold_127 ?_
              refine g_iload_n (i := 1) h dX4_gateTold_130 rfl rfl ?_
              refine G.int hx ?_
              refine m_iald (k := 51) (x := A 51 _) h hM rfl rfl (by show _ < 8; omega) rfl dX4_gateTold_131 ?_
              refine g_goto (tgt := 136) h dX4_gateTold_132 (by decide) ?_
              exact g_iret h ⟨by first | (simp [sToldK, sTold, b7, b15, b32, b38, b61] <;> rfl) | simp_all, by simp [sToldK, b7, b15, b32, b38, b61]; exact hM⟩ (Nat.le_refl _) (Nat.le_refl _) dX4_gateTold_136
            · refine g_tableIn (off := 66) (tgt := 137) h dX4_gateTold_71 (by decide) (by decide) (by decide) (by decide) ?_
              refine g_iload_n (i := 3) h dX4_gateTold_137 rfl rfl ?_
              refine g_if_eq (tgt := 150) h dX4_gateTold_138 (by decide) (fun _bz => absurd _bz (by decide)) (fun _bz => ?_)
              refine g_aload_n (i := 0) h dX4_gateTold_141 rfl rfl ?_
              refine m_get h hM f_X4_119_4 rfl dX4_gateTold_142 ?_
              refine g_iload_n (i := 1) h dX4_gateTold_145 rfl rfl ?_
              refine G.int hx ?_
              refine m_iald (k := 52) (x := A 52 _) h hM rfl rfl (by show _ < 8; omega) rfl dX4_gateTold_146 ?_
              refine g_goto (tgt := 151) h dX4_gateTold_147 (by decide) ?_
              exact g_iret h ⟨by first | (simp [sToldK, sTold, b7, b15, b32, b38, b61] <;> rfl) | simp_all, by simp [sToldK, b7, b15, b32, b38, b61]; exact hM⟩ (Nat.le_refl _) (Nat.le_refl _) dX4_gateTold_151
            · refine g_tableIn (off := 81) (tgt := 152) h dX4_gateTold_71 (by decide) (by decide) (by decide) (by decide) ?_
              refine g_iload_n (i := 3) h dX4_gateTold_152 rfl rfl ?_
              refine g_if_eq (tgt := 165) h dX4_gateTold_153 (by decide) (fun _bz => absurd _bz (by decide)) (fun _bz => ?_)
              refine g_aload_n (i := 0) h dX4_gateTold_156 rfl rfl ?_
              refine m_get h hM f_X4_122_4 rfl dX4_gateTold_157 ?_
              refine g_iload_n (i := 1) h dX4_gateTold_160 rfl rfl ?_
              refine G.int hx ?_
              refine m_iald (k := 53) (x := A 53 _) h hM rfl rfl (by show _ < 8; omega) rfl dX4_gateTold_161 ?_
              refine g_goto (tgt := 166) h dX4_gateTold_162 (by decide) ?_
              exact g_iret h ⟨by first | (simp [sToldK, sTold, b7, b15, b32, b38, b61] <;> rfl) | simp_all, by simp [sToldK, b7, b15, b32, b38, b61]; exact hM⟩ (Nat.le_refl _) (Nat.le_refl _) dX4_gateTold_166
            · refine g_tableIn (off := 96) (tgt := 167) h dX4_gateTold_71 (by decide) (by decide) (by decide) (by decide) ?_
              refine g_aload_n (i := 0) h dX4_gateTold_167 rfl rfl ?_
              refine m_get h hM f_X4_101_4 rfl dX4_gateTold_168 ?_
              refine g_iload_n (i := 1) h dX4_gateTold_171 rfl rfl ?_
              refine G.int hx ?_
              refine m_iald (k := 46) (x := A 46 _) h hM rfl rfl (by show _ < 8; omega) rfl dX4_gateTold_172 ?_
              exact g_iret h ⟨by first | (simp [sToldK, sTold, b7, b15, b32, b38, b61] <;> rfl) | simp_all, by simp [sToldK, b7, b15, b32, b38, b61]; exact hM⟩ (Nat.le_refl _) (Nat.le_refl _) dX4_gateTold_173
            · refine g_tableOut (tgt := 174) h dX4_gateTold_71 hsw71 (by decide) ?_
              refine g_aload_n (i := 0) h dX4_gateTold_174 rfl rfl ?_
              refine m_get h hM f_X4_73_4 rfl dX4_gateTold_175 ?_
              refine g_iload_n (i := 1) h dX4_gateTold_178 rfl rfl ?_
              refine G.int hx ?_
              refine m_iald (k := 30) (x := A 30 _) h hM rfl rfl (by show _ < 8; omega) rfl dX4_gateTold_179 ?_
              exact g_iret h ⟨by simp [sToldK, sTold, b7, b15, b32, b38, b61, sw_no (n := 5) hsw71 (k := 0) (by decide), sw_no (n := 5) hsw71 (k := 1) (by decide), sw_no (n := 5) hsw71 (k := 2) (by decide), sw_no (n := 5) hsw71 (k := 3) (by decide), sw_no (n := 5) hsw71 (k := 4) (by decide), sw_no (n := 5) hsw71 (k := 5) (by decide)] <;> rfl, by simp [sToldK, b7, b15, b32, b38, b61]; exact hM⟩ (Nat.le_refl _) (Nat.le_refl _) dX4_gateTold_180
        · refine g_iconst (v := 1) h dX4_gateTold_41 (by decide) ?_
          refine g_goto (tgt := 46) h dX4_gateTold_42 (by decide) ?_
          refine g_iconst (v := 2) h dX4_gateTold_46 (by decide) ?_
          refine g_invV h (ct_bad h.k hM true 2) hcX4_bad w_X4_308 rfl rfl hM.obj (Nat.le_of_ble_eq_true rfl) ⟨Nat.le_of_ble_eq_true rfl, Nat.le_of_ble_eq_true rfl⟩ (by refine ⟨?_, ?_⟩ <;> first | exact Nat.le_refl _ | exact Nat.zero_le _ | (dsimp only; omega)) dX4_gateTold_47 (gkr_i (fun c hM => ?_)) gkt_i
          replace hM := bad1 hM
          refine g_if_eq (tgt := 55) h dX4_gateTold_50 (by decide) (fun _bz => absurd _bz (by decide)) (fun _bz => ?_)
          refine g_iconst (v := 0) h dX4_gateTold_53 (by decide) ?_
          exact g_iret h ⟨by simp [sToldK, b7, b15, b32, b38] <;> rfl, by simp [sToldK, b7, b15, b32, b38]; exact hM⟩ (Nat.le_refl _) (Nat.le_refl _) dX4_gateTold_54
    · refine g_iconst (v := 1) h dX4_gateTold_18 (by decide) ?_
      refine g_goto (tgt := 23) h dX4_gateTold_19 (by decide) ?_
      refine g_iconst (v := 1) h dX4_gateTold_23 (by decide) ?_
      refine g_invV h (ct_bad h.k hM true 1) hcX4_bad w_X4_308 rfl rfl hM.obj (Nat.le_of_ble_eq_true rfl) ⟨Nat.le_of_ble_eq_true rfl, Nat.le_of_ble_eq_true rfl⟩ (by refine ⟨?_, ?_⟩ <;> first | exact Nat.le_refl _ | exact Nat.zero_le _ | (dsimp only; omega)) dX4_gateTold_24 (gkr_i (fun c hM => ?_)) gkt_i
      replace hM := bad1 hM
      refine g_if_ne (tgt := 53) h dX4_gateTold_27 (by decide) (fun _bz => ?_) (fun _bz => absurd _bz (by decide))
      refine g_iconst (v := 0) h dX4_gateTold_53 (by decide) ?_
      exact g_iret h ⟨by simp [sToldK, b7, b15] <;> rfl, by simp [sToldK, b7, b15]; exact hM⟩ (Nat.le_refl _) (Nat.le_refl _) dX4_gateTold_54
def sLoanK (A : Nat → Nat → Int32) (n w : Int32) : Nat := if n < 0 then 1 else if n < A 61 0 then (if w < 0 then 2 else if w ≤ 3 then 0 else 2) else 1
def sLoan (A : Nat → Nat → Int32) (B : Nat → Nat → Int64) (j : Nat) (w : Int32) : Int64 := if w = 0 then (A 55 j).toInt64 else if w = 1 then (A 56 j).toInt64 else if w = 2 then (A 57 j).toInt64 else B 58 j
theorem ct_loan {l : Launch} {g : gGP} (hk : gK l g) {c0 c : gLH} {mo : Nat} {ma : Nat → Nat} {cl ll : Nat} {A : Nat → Nat → Int32} {B : Nat → Nat → Int64} (hM : MW c0 mo ma cl ll A B c) (n w : Int32) {nl : Nat} (hnl : A 61 0 = nI nl) (hl10 : nl ≤ 10) : Ct l g yX4_loan hwX4_loan 1 40 [.ref mo, .int n, .int w] c (0) (0) (pL (if sLoanK A n w = 0 then sLoan A B (ix n) w else 0) (MW c0 mo ma cl ll (if sLoanK A n w = 0 then mA A 0 0 0 else mA (mA A 0 0 0) 0 0 (nI (sLoanK A n w))) B)) := by
  refine Ct.intro hk hcX4_loan (by decide +kernel) (Nat.le_of_ble_eq_true rfl) (fun φ h => ?_)
  refine g_aload_n (i := 0) h dX4_loan_0 rfl rfl ?_
  refine g_iconst (v := 0) h dX4_loan_1 (by decide) ?_
  refine m_puti h hM mp_0 fp_X4_146_4 dX4_loan_2 (fun c hM => ?_)
  refine g_aload_n (i := 0) h dX4_loan_5 rfl rfl ?_
  refine g_iload_n (i := 1) h dX4_loan_6 rfl rfl ?_
  refine g_if_lt (tgt := 18) h dX4_loan_7 (by decide) (fun b7 => ?_) (fun b7 => ?_)
  · refine g_iconst (v := 1) h dX4_loan_18 (by decide) ?_
    refine g_goto (tgt := 23) h dX4_loan_19 (by decide) ?_
    refine g_iconst (v := 1) h dX4_loan_23 (by decide) ?_
    refine g_invV h (ct_bad h.k hM true 1) hcX4_bad w_X4_308 rfl rfl hM.obj (Nat.le_of_ble_eq_true rfl) ⟨Nat.le_of_ble_eq_true rfl, Nat.le_of_ble_eq_true rfl⟩ (by refine ⟨?_, ?_⟩ <;> first | exact Nat.le_refl _ | exact Nat.zero_le _ | (dsimp only; omega)) dX4_loan_24 (gkr_i (fun c hM => ?_)) gkt_i
    replace hM := bad1 hM
    refine g_if_ne (tgt := 52) h dX4_loan_27 (by decide) (fun _bz => ?_) (fun _bz => absurd _bz (by decide))
    refine g_lconst (v := 0) h dX4_loan_52 (by decide) ?_
    exact g_lret h ⟨by simp [sLoanK, b7] <;> rfl, by simp [sLoanK, b7]; exact hM⟩ (Nat.le_refl _) (Nat.le_refl _) dX4_loan_53
  · refine g_iload_n (i := 1) h dX4_loan_10 rfl rfl ?_
    refine g_aload_n (i := 0) h dX4_loan_11 rfl rfl ?_
    refine m_get (v := .int (A 61 0)) h hM f_X4_388_4 rfl dX4_loan_12 ?_
    refine g_icmp_lt (tgt := 22) h dX4_loan_15 (by decide) (fun b15 => ?_) (fun b15 => ?_)
    · obtain ⟨hj, hx⟩ := ix_of b7 b15 hnl (by omega)
      refine g_iconst (v := 0) h dX4_loan_22 (by decide) ?_
      refine g_iconst (v := 1) h dX4_loan_23 (by decide) ?_
      refine g_invV h (ct_bad h.k hM false 1) hcX4_bad w_X4_308 rfl rfl hM.obj (Nat.le_of_ble_eq_true rfl) ⟨Nat.le_of_ble_eq_true rfl, Nat.le_of_ble_eq_true rfl⟩ (by refine ⟨?_, ?_⟩ <;> first | exact Nat.le_refl _ | exact Nat.zero_le _ | (dsimp only; omega)) dX4_loan_24 (gkr_i (fun c hM => ?_)) gkt_i
      replace hM := bad0 hM
      refine g_if_ne (tgt := 52) h dX4_loan_27 (by decide) (fun _bz => absurd _bz (by decide)) (fun _bz => ?_)
      refine g_aload_n (i := 0) h dX4_loan_30 rfl rfl ?_
      refine g_iload_n (i := 2) h dX4_loan_31 rfl rfl ?_
      refine g_if_lt (tgt := 40) h dX4_loan_32 (by decide) (fun b32 => ?_) (fun b32 => ?_)
      · refine g_iconst (v := 1) h dX4_loan_40 (by decide) ?_
        refine g_goto (tgt := 45) h dX4_loan_41 (by decide) ?_
        refine g_iconst (v := 2) h dX4_loan_45 (by decide) ?_
        refine g_invV h (ct_bad h.k hM true 2) hcX4_bad w_X4_308 rfl rfl hM.obj (Nat.le_of_ble_eq_true rfl) ⟨Nat.le_of_ble_eq_true rfl, Nat.le_of_ble_eq_true rfl⟩ (by refine ⟨?_, ?_⟩ <;> first | exact Nat.le_refl _ | exact Nat.zero_le _ | (dsimp only; omega)) dX4_loan_46 (gkr_i (fun c hM => ?_)) gkt_i
        replace hM := bad1 hM
        refine g_if_eq (tgt := 54) h dX4_loan_49 (by decide) (fun _bz => absurd _bz (by decide)) (fun _bz => ?_)
        refine g_lconst (v := 0) h dX4_loan_52 (by decide) ?_
        exact g_lret h ⟨by simp [sLoanK, b7, b15, b32] <;> rfl, by simp [sLoanK, b7, b15, b32]; exact hM⟩ (Nat.le_refl _) (Nat.le_refl _) dX4_loan_53
      · refine g_iload_n (i := 2) h dX4_loan_35 rfl rfl ?_
        refine g_iconst (v := 3) h dX4_loan_36 (by decide) ?_
        refine g_icmp_le (tgt := 44) h dX4_loan_37 (by decide) (fun b37 => ?_) (fun b37 => ?_)
        · refine g_iconst (v := 0) h dX4_loan_44 (by decide) ?_
          refine g_iconst (v := 2) h dX4_loan_45 (by decide) ?_
          refine g_invV h (ct_bad h.k hM false 2) hcX4_bad w_X4_308 rfl rfl hM.obj (Nat.le_of_ble_eq_true rfl) ⟨Nat.le_of_ble_eq_true rfl, Nat.le_of_ble_eq_true rfl⟩ (by refine ⟨?_, ?_⟩ <;> first | exact Nat.le_refl _ | exact Nat.zero_le _ | (dsimp only; omega)) dX4_loan_46 (gkr_i (fun c hM => ?_)) gkt_i
          replace hM := bad0 hM
          refine g_if_eq (tgt := 54) h dX4_loan_49 (by decide) (fun _bz => ?_) (fun _bz => absurd _bz (by decide))
          refine g_iload_n (i := 2) h dX4_loan_54 rfl rfl ?_
          refine g_if_ne (tgt := 68) h dX4_loan_55 (by decide) (fun b55 => ?_) (fun b55 => ?_)
          · refine g_iload_n (i := 2) h dX4_loan_68 rfl rfl ?_
            refine g_iconst (v := 1) h dX4_loan_69 (by decide) ?_
            refine g_icmp_ne (tgt := 83) h dX4_loan_70 (by decide) (fun b70 => ?_) (fun b70 => ?_)
            · refine g_iload_n (i := 2) h dX4_loan_83 rfl rfl ?_
              refine g_iconst (v := 2) h dX4_loan_84 (by decide) ?_
              refine g_icmp_ne (tgt := 98) h dX4_loan_85 (by decide) (fun b85 => ?_) (fun b85 => ?_)
              · refine g_aload_n (i := 0) h dX4_loan_98 rfl rfl ?_
                refine m_get h hM f_X4_137_4 rfl dX4_loan_99 ?_
                refine g_iload_n (i := 1) h dX4_loan_102 rfl rfl ?_
                refine G.int hx ?_
                refine m_lald (k := 58) (x := B 58 _) h hM rfl (by show _ < 10; omega) rfl dX4_loan_103 ?_
                exact g_lret h ⟨by simp [sLoanK, sLoan, b7, b15, b32, b37, b55, b70, b85] <;> rfl, by simp [sLoanK, b7, b15, b32, b37, b55, b70, b85]; exact hM⟩ (Nat.le_refl _) (Nat.le_refl _) dX4_loan_104
              · refine g_aload_n (i := 0) h dX4_loan_88 rfl rfl ?_
                refine m_get h hM f_X4_134_4 rfl dX4_loan_89 ?_
                refine g_iload_n (i := 1) h dX4_loan_92 rfl rfl ?_
                refine G.int hx ?_
                refine m_iald (k := 57) (x := A 57 _) h hM rfl rfl (by show _ < 10; omega) rfl dX4_loan_93 ?_
                refine g_i2l h dX4_loan_94 ?_
                refine g_goto (tgt := 104) h dX4_loan_95 (by decide) ?_
                exact g_lret h ⟨by simp [sLoanK, sLoan, b7, b15, b32, b37, b55, b70, b85] <;> rfl, by simp [sLoanK, b7, b15, b32, b37, b55, b70, b85]; exact hM⟩ (Nat.le_refl _) (Nat.le_refl _) dX4_loan_104
            · refine g_aload_n (i := 0) h dX4_loan_73 rfl rfl ?_
              refine m_get h hM f_X4_131_4 rfl dX4_loan_74 ?_
              refine g_iload_n (i := 1) h dX4_loan_77 rfl rfl ?_
              refine G.int hx ?_
              refine m_iald (k := 56) (x := A 56 _) h hM rfl rfl (by show _ < 10; omega) rfl dX4_loan_78 ?_
              refine g_i2l h dX4_loan_79 ?_
              refine g_goto (tgt := 104) h dX4_loan_80 (by decide) ?_
              exact g_lret h ⟨by simp [sLoanK, sLoan, b7, b15, b32, b37, b55, b70] <;> rfl, by simp [sLoanK, b7, b15, b32, b37, b55, b70]; exact hM⟩ (Nat.le_refl _) (Nat.le_refl _) dX4_loan_104
          · refine g_aload_n (i := 0) h dX4_loan_58 rfl rfl ?_
            refine m_get h hM f_X4_128_4 rfl dX4_loan_59 ?_
            refine g_iload_n (i := 1) h dX4_loan_62 rfl rfl ?_
            refine G.int hx ?_
            refine m_iald (k := 55) (x := A 55 _) h hM rfl rfl (by show _ < 10; omega) rfl dX4_loan_63 ?_
            refine g_i2l h dX4_loan_64 ?_
            refine g_goto (tgt := 104) h dX4_loan_65 (by decide) ?_
            exact g_lret h ⟨by simp [sLoanK, sLoan, b7, b15, b32, b37, b55] <;> rfl, by simp [sLoanK, b7, b15, b32, b37, b55]; exact hM⟩ (Nat.le_refl _) (Nat.le_refl _) dX4_loan_104
        · refine g_iconst (v := 1) h dX4_loan_40 (by decide) ?_
          refine g_goto (tgt := 45) h dX4_loan_41 (by decide) ?_
          refine g_iconst (v := 2) h dX4_loan_45 (by decide) ?_
          refine g_invV h (ct_bad h.k hM true 2) hcX4_bad w_X4_308 rfl rfl hM.obj (Nat.le_of_ble_eq_true rfl) ⟨Nat.le_of_ble_eq_true rfl, Nat.le_of_ble_eq_true rfl⟩ (by refine ⟨?_, ?_⟩ <;> first | exact Nat.le_refl _ | exact Nat.zero_le _ | (dsimp only; omega)) dX4_loan_46 (gkr_i (fun c hM => ?_)) gkt_i
          replace hM := bad1 hM
          refine g_if_eq (tgt := 54) h dX4_loan_49 (by decide) (fun _bz => absurd _bz (by decide)) (fun _bz => ?_)
          refine g_lconst (v := 0) h dX4_loan_52 (by decide) ?_
          exact g_lret h ⟨by simp [sLoanK, b7, b15, b32, b37] <;> rfl, by simp [sLoanK, b7, b15, b32, b37]; exact hM⟩ (Nat.le_refl _) (Nat.le_refl _) dX4_loan_53
    · refine g_iconst (v := 1) h dX4_loan_18 (by decide) ?_
      refine g_goto (tgt := 23) h dX4_loan_19 (by decide) ?_
      refine g_iconst (v := 1) h dX4_loan_23 (by decide) ?_
      refine g_invV h (ct_bad h.k hM true 1) hcX4_bad w_X4_308 rfl rfl hM.obj (Nat.le_of_ble_eq_true rfl) ⟨Nat.le_of_ble_eq_true rfl, Nat.le_of_ble_eq_true rfl⟩ (by refine ⟨?_, ?_⟩ <;> first | exact Nat.le_refl _ | exact Nat.zero_le _ | (dsimp only; omega)) dX4_loan_24 (gkr_i (fun c hM => ?_)) gkt_i
      replace hM := bad1 hM
      refine g_if_ne (tgt := 52) h dX4_loan_27 (by decide) (fun _bz => ?_) (fun _bz => absurd _bz (by decide))
      refine g_lconst (v := 0) h dX4_loan_52 (by decide) ?_
      exact g_lret h ⟨by simp [sLoanK, b7, b15] <;> rfl, by simp [sLoanK, b7, b15]; exact hM⟩ (Nat.le_refl _) (Nat.le_refl _) dX4_loan_53
