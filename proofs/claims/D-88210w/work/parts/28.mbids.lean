/-! THE MODEL: bids, loans, the journal's places, single conditions -/
set_option maxRecDepth 100000
def sBidK (A : Nat → Nat → Int32) (n f r s : Int32) : Nat := if n < 0 then 1 else if A 31 0 ≤ n then 1 else if f < 0 then 1 else if f < A 45 0 then
  (if sSum r = true then (if sSum s = true then (if 0 ≤ A 50 (ix n) then 3 else if A 46 (ix n) = 10 then 3 else 0) else 2) else 2) else 1
def sBidA (A : Nat → Nat → Int32) (j nb : Nat) (f r s : Int32) : Nat → Nat → Int32 := mA (mA (mA (mA A 47 (10 * j + nb) f) 48 (10 * j + nb) r) 49 (10 * j + nb) s) 46 j (nI (nb + 1))
theorem ct_bid {l : Launch} {g : gGP} (hk : gK l g) {c0 c : gLH} {mo : Nat} {ma : Nat → Nat} {cl ll : Nat} {A : Nat → Nat → Int32} {B : Nat → Nat → Int64} (hM : MW c0 mo ma cl ll A B c) (n f r s : Int32) {ng : Nat} (hng : A 31 0 = nI ng) (hg8 : ng ≤ 8) {nb : Nat → Nat} (hbid : ∀ j, j < ng → A 46 j = nI (nb j) ∧ nb j ≤ 10) : Ct l g yX4_bid hwX4_bid 1 40 [.ref mo, .int n, .int f, .int r, .int s] c (0) (0) (pI (if sBidK A n f r s = 0 then nI (nb (ix n) + 1) else 0) (MW c0 mo ma cl ll (if sBidK A n f r s = 0 then sBidA (mA A 0 0 0) (ix n) (nb (ix n)) f r s else mA (mA A 0 0 0) 0 0 (nI (sBidK A n f r s))) B)) := by
  refine Ct.intro hk hcX4_bid (by decide +kernel) (Nat.le_of_ble_eq_true rfl) (fun φ h => ?_)
  refine g_aload_n (i := 0) h dX4_bid_0 rfl rfl ?_
  refine g_iconst (v := 0) h dX4_bid_1 (by decide) ?_
  refine m_puti h hM mp_0 fp_X4_146_4 dX4_bid_2 (fun c hM => ?_)
  refine g_aload_n (i := 0) h dX4_bid_5 rfl rfl ?_
  refine g_iload_n (i := 1) h dX4_bid_6 rfl rfl ?_
  refine g_if_lt (tgt := 30) h dX4_bid_7 (by decide) (fun b7 => ?_) (fun b7 => ?_)
  · refine g_iconst (v := 1) h dX4_bid_30 (by decide) ?_
    refine g_goto (tgt := 35) h dX4_bid_31 (by decide) ?_
    refine g_iconst (v := 1) h dX4_bid_35 (by decide) ?_
    refine g_invV h (ct_bad h.k hM true 1) hcX4_bad w_X4_308 rfl rfl hM.obj (Nat.le_of_ble_eq_true rfl) ⟨Nat.le_of_ble_eq_true rfl, Nat.le_of_ble_eq_true rfl⟩ (by refine ⟨?_, ?_⟩ <;> first | exact Nat.le_refl _ | exact Nat.zero_le _ | (dsimp only; omega)) dX4_bid_36 (gkr_i (fun c hM => ?_)) gkt_i
    replace hM := bad1 hM
    refine g_if_ne (tgt := 103) h dX4_bid_39 (by decide) (fun _bz => ?_) (fun _bz => absurd _bz (by decide))
    refine g_iconst (v := 0) h dX4_bid_103 (by decide) ?_
    exact g_iret h ⟨by simp [sBidK, b7] <;> rfl, by simp [sBidK, b7]; exact hM⟩ (Nat.le_refl _) (Nat.le_refl _) dX4_bid_104
  · refine g_iload_n (i := 1) h dX4_bid_10 rfl rfl ?_
    refine g_aload_n (i := 0) h dX4_bid_11 rfl rfl ?_
    refine m_get (v := .int (A 31 0)) h hM f_X4_321_4 rfl dX4_bid_12 ?_
    refine g_icmp_ge (tgt := 30) h dX4_bid_15 (by decide) (fun b15 => ?_) (fun b15 => ?_)
    · refine g_iconst (v := 1) h dX4_bid_30 (by decide) ?_
      refine g_goto (tgt := 35) h dX4_bid_31 (by decide) ?_
      refine g_iconst (v := 1) h dX4_bid_35 (by decide) ?_
      refine g_invV h (ct_bad h.k hM true 1) hcX4_bad w_X4_308 rfl rfl hM.obj (Nat.le_of_ble_eq_true rfl) ⟨Nat.le_of_ble_eq_true rfl, Nat.le_of_ble_eq_true rfl⟩ (by refine ⟨?_, ?_⟩ <;> first | exact Nat.le_refl _ | exact Nat.zero_le _ | (dsimp only; omega)) dX4_bid_36 (gkr_i (fun c hM => ?_)) gkt_i
      replace hM := bad1 hM
      refine g_if_ne (tgt := 103) h dX4_bid_39 (by decide) (fun _bz => ?_) (fun _bz => absurd _bz (by decide))
      refine g_iconst (v := 0) h dX4_bid_103 (by decide) ?_
      exact g_iret h ⟨by simp [sBidK, b7, b15] <;> rfl, by simp [sBidK, b7, b15]; exact hM⟩ (Nat.le_refl _) (Nat.le_refl _) dX4_bid_104
    · refine g_iload_n (i := 2) h dX4_bid_18 rfl rfl ?_
      refine g_if_lt (tgt := 30) h dX4_bid_19 (by decide) (fun b19 => ?_) (fun b19 => ?_)
      · refine g_iconst (v := 1) h dX4_bid_30 (by decide) ?_
        refine g_goto (tgt := 35) h dX4_bid_31 (by decide) ?_
        refine g_iconst (v := 1) h dX4_bid_35 (by decide) ?_
        refine g_invV h (ct_bad h.k hM true 1) hcX4_bad w_X4_308 rfl rfl hM.obj (Nat.le_of_ble_eq_true rfl) ⟨Nat.le_of_ble_eq_true rfl, Nat.le_of_ble_eq_true rfl⟩ (by refine ⟨?_, ?_⟩ <;> first | exact Nat.le_refl _ | exact Nat.zero_le _ | (dsimp only; omega)) dX4_bid_36 (gkr_i (fun c hM => ?_)) gkt_i
        replace hM := bad1 hM
        refine g_if_ne (tgt := 103) h dX4_bid_39 (by decide) (fun _bz => ?_) (fun _bz => absurd _bz (by decide))
        refine g_iconst (v := 0) h dX4_bid_103 (by decide) ?_
        exact g_iret h ⟨by simp [sBidK, b7, b15, b19] <;> rfl, by simp [sBidK, b7, b15, b19]; exact hM⟩ (Nat.le_refl _) (Nat.le_refl _) dX4_bid_104
      · refine g_iload_n (i := 2) h dX4_bid_22 rfl rfl ?_
        refine g_aload_n (i := 0) h dX4_bid_23 rfl rfl ?_
        refine m_get (v := .int (A 45 0)) h hM f_X4_378_4 rfl dX4_bid_24 ?_
        refine g_icmp_lt (tgt := 34) h dX4_bid_27 (by decide) (fun b27 => ?_) (fun b27 => ?_)
        · obtain ⟨hj, hx⟩ := ix_of b7 (Int32.not_le.mp b15) hng (by omega)
          obtain ⟨hnb, hb10⟩ := hbid (ix n) hj
          refine g_iconst (v := 0) h dX4_bid_34 (by decide) ?_
          refine g_iconst (v := 1) h dX4_bid_35 (by decide) ?_
          refine g_invV h (ct_bad h.k hM false 1) hcX4_bad w_X4_308 rfl rfl hM.obj (Nat.le_of_ble_eq_true rfl) ⟨Nat.le_of_ble_eq_true rfl, Nat.le_of_ble_eq_true rfl⟩ (by refine ⟨?_, ?_⟩ <;> first | exact Nat.le_refl _ | exact Nat.zero_le _ | (dsimp only; omega)) dX4_bid_36 (gkr_i (fun c hM => ?_)) gkt_i
          replace hM := bad0 hM
          refine g_if_ne (tgt := 103) h dX4_bid_39 (by decide) (fun _bz => absurd _bz (by decide)) (fun _bz => ?_)
          refine g_aload_n (i := 0) h dX4_bid_42 rfl rfl ?_
          refine g_iload_n (i := 3) h dX4_bid_43 rfl rfl ?_
          refine g_invS h (ct_isSum h.k _) hcX4_isSum w_X4_382 rfl rfl (Nat.le_of_ble_eq_true rfl) ⟨Nat.le_of_ble_eq_true rfl, Nat.le_of_ble_eq_true rfl⟩ (by refine ⟨?_, ?_⟩ <;> first | exact Nat.le_refl _ | exact Nat.zero_le _ | (dsimp only; omega)) dX4_bid_44 (gkr_ip ?_) gkt_ip
          refine g_if_eq (tgt := 58) h dX4_bid_47 (by decide) (fun b47 => ?_) (fun b47 => ?_)
          · rw [zB_0] at b47
            refine g_iconst (v := 1) h dX4_bid_58 (by decide) ?_
            refine g_goto (tgt := 63) h dX4_bid_59 (by decide) ?_
            refine g_iconst (v := 2) h dX4_bid_63 (by decide) ?_
            refine g_invV h (ct_bad h.k hM true 2) hcX4_bad w_X4_308 rfl rfl hM.obj (Nat.le_of_ble_eq_true rfl) ⟨Nat.le_of_ble_eq_true rfl, Nat.le_of_ble_eq_true rfl⟩ (by refine ⟨?_, ?_⟩ <;> first | exact Nat.le_refl _ | exact Nat.zero_le _ | (dsimp only; omega)) dX4_bid_64 (gkr_i (fun c hM => ?_)) gkt_i
            replace hM := bad1 hM
            refine g_if_ne (tgt := 103) h dX4_bid_67 (by decide) (fun _bz => ?_) (fun _bz => absurd _bz (by decide))
            refine g_iconst (v := 0) h dX4_bid_103 (by decide) ?_
            exact g_iret h ⟨by simp [sBidK, b7, b15, b19, b27, b47] <;> rfl, by simp [sBidK, b7, b15, b19, b27, b47]; exact hM⟩ (Nat.le_refl _) (Nat.le_refl _) dX4_bid_104
          · rw [zB_n0] at b47
            refine g_iload h dX4_bid_50 rfl ?_
            refine g_invS h (ct_isSum h.k _) hcX4_isSum w_X4_382 rfl rfl (Nat.le_of_ble_eq_true rfl) ⟨Nat.le_of_ble_eq_true rfl, Nat.le_of_ble_eq_true rfl⟩ (by refine ⟨?_, ?_⟩ <;> first | exact Nat.le_refl _ | exact Nat.zero_le _ | (dsimp only; omega)) dX4_bid_52 (gkr_ip ?_) gkt_ip
            refine g_if_ne (tgt := 62) h dX4_bid_55 (by decide) (fun b55 => ?_) (fun b55 => ?_)
            · rw [zB_n0] at b55
              refine g_iconst (v := 0) h dX4_bid_62 (by decide) ?_
              refine g_iconst (v := 2) h dX4_bid_63 (by decide) ?_
              refine g_invV h (ct_bad h.k hM false 2) hcX4_bad w_X4_308 rfl rfl hM.obj (Nat.le_of_ble_eq_true rfl) ⟨Nat.le_of_ble_eq_true rfl, Nat.le_of_ble_eq_true rfl⟩ (by refine ⟨?_, ?_⟩ <;> first | exact Nat.le_refl _ | exact Nat.zero_le _ | (dsimp only; omega)) dX4_bid_64 (gkr_i (fun c hM => ?_)) gkt_i
              replace hM := bad0 hM
              refine g_if_ne (tgt := 103) h dX4_bid_67 (by decide) (fun _bz => absurd _bz (by decide)) (fun _bz => ?_)
              refine g_aload_n (i := 0) h dX4_bid_70 rfl rfl ?_
              refine g_aload_n (i := 0) h dX4_bid_71 rfl rfl ?_
              refine m_get h hM f_X4_113_4 rfl dX4_bid_72 ?_
              refine g_iload_n (i := 1) h dX4_bid_75 rfl rfl ?_
              refine G.int hx ?_
              refine m_iald (k := 50) (x := A 50 _) h hM rfl rfl (by show _ < 8; omega) rfl dX4_bid_76 ?_
              refine g_if_ge (tgt := 91) h dX4_bid_77 (by decide) (fun b77 => ?_) (fun b77 => ?_)
              · refine g_iconst (v := 1) h dX4_bid_91 (by decide) ?_
                refine g_goto (tgt := 96) h dX4_bid_92 (by decide) ?_
                refine g_iconst (v := 3) h dX4_bid_96 (by decide) ?_
                refine g_invV h (ct_bad h.k hM true 3) hcX4_bad w_X4_308 rfl rfl hM.obj (Nat.le_of_ble_eq_true rfl) ⟨Nat.le_of_ble_eq_true rfl, Nat.le_of_ble_eq_true rfl⟩ (by refine ⟨?_, ?_⟩ <;> first | exact Nat.le_refl _ | exact Nat.zero_le _ | (dsimp only; omega)) dX4_bid_97 (gkr_i (fun c hM => ?_)) gkt_i
                replace hM := bad1 hM
                refine g_if_eq (tgt := 105) h dX4_bid_100 (by decide) (fun _bz => absurd _bz (by decide)) (fun _bz => ?_)
                refine g_iconst (v := 0) h dX4_bid_103 (by decide) ?_
                exact g_iret h ⟨by simp [sBidK, b7, b15, b19, b27, b47, b55, b77] <;> rfl, by simp [sBidK, b7, b15, b19, b27, b47, b55, b77]; exact hM⟩ (Nat.le_refl _) (Nat.le_refl _) dX4_bid_104
              · refine g_aload_n (i := 0) h dX4_bid_80 rfl rfl ?_
                refine m_get h hM f_X4_101_4 rfl dX4_bid_81 ?_
                refine g_iload_n (i := 1) h dX4_bid_84 rfl rfl ?_
                refine G.int hx ?_
                refine m_iald (k := 46) (x := A 46 _) h hM rfl rfl (by show _ < 8; omega) rfl dX4_bid_85 ?_
                refine g_bipush (v := 10) h dX4_bid_86 (by decide) ?_
                refine g_icmp_ne (tgt := 95) h dX4_bid_88 (by decide) (fun b88 => ?_) (fun b88 => ?_)
                · refine g_iconst (v := 0) h dX4_bid_95 (by decide) ?_
                  refine g_iconst (v := 3) h dX4_bid_96 (by decide) ?_
                  refine g_invV h (ct_bad h.k hM false 3) hcX4_bad w_X4_308 rfl rfl hM.obj (Nat.le_of_ble_eq_true rfl) ⟨Nat.le_of_ble_eq_true rfl, Nat.le_of_ble_eq_true rfl⟩ (by refine ⟨?_, ?_⟩ <;> first | exact Nat.le_refl _ | exact Nat.zero_le _ | (dsimp only; omega)) dX4_bid_97 (gkr_i (fun c hM => ?_)) gkt_i
                  replace hM := bad0 hM
                  refine g_if_eq (tgt := 105) h dX4_bid_100 (by decide) (fun _bz => ?_) (fun _bz => absurd _bz (by decide))
                  have hb9 := nI_nl (m := 10) hnb b88
                  refine g_bipush (v := nI 10) h dX4_bid_105 (by decide) ?_
                  refine g_iload_n (i := 1) h dX4_bid_107 rfl rfl ?_
                  refine G.int hx ?_
                  first | (with_reducible refine g_imulN h dX4_bid_108 ?_) | refine g_imul h dX4_bid_108 ?_
                  refine g_aload_n (i := 0) h dX4_bid_109 rfl rfl ?_
                  refine m_get h hM f_X4_101_4 rfl dX4_bid_110 ?_
                  refine g_iload_n (i := 1) h dX4_bid_113 rfl rfl ?_
                  refine G.int hx ?_
                  refine m_iald (k := 46) (x := nI (nb (ix n))) h hM rfl rfl (by show _ < 8; omega) hnb dX4_bid_114 ?_
                  first | (with_reducible refine g_iaddN h dX4_bid_115 ?_) | refine g_iadd h dX4_bid_115 ?_
                  refine g_istore h dX4_bid_116 (by decide) ?_
                  refine g_aload_n (i := 0) h dX4_bid_118 rfl rfl ?_
                  refine m_get h hM f_X4_104_4 rfl dX4_bid_119 ?_
                  refine g_iload h dX4_bid_122 rfl ?_
                  refine g_iload_n (i := 2) h dX4_bid_124 rfl rfl ?_
                  refine m_iast (k := 47) h hM rfl rfl (by show _ < 80; omega) dX4_bid_125 (fun c hM => ?_)
                  refine g_aload_n (i := 0) h dX4_bid_126 rfl rfl ?_
                  refine m_get h hM f_X4_107_4 rfl dX4_bid_127 ?_
                  refine g_iload h dX4_bid_130 rfl ?_
                  refine g_iload_n (i := 3) h dX4_bid_132 rfl rfl ?_
                  refine m_iast (k := 48) h hM rfl rfl (by show _ < 80; omega) dX4_bid_133 (fun c hM => ?_)
                  refine g_aload_n (i := 0) h dX4_bid_134 rfl rfl ?_
                  refine m_get h hM f_X4_110_4 rfl dX4_bid_135 ?_
                  refine g_iload h dX4_bid_138 rfl ?_
                  refine g_iload h dX4_bid_140 rfl ?_
                  refine m_iast (k := 49) h hM rfl rfl (by show _ < 80; omega) dX4_bid_142 (fun c hM => ?_)
                  refine g_aload_n (i := 0) h dX4_bid_143 rfl rfl ?_
                  refine m_get h hM f_X4_101_4 rfl dX4_bid_144 ?_
                  refine g_iload_n (i := 1) h dX4_bid_147 rfl rfl ?_
                  refine G.int hx ?_
                  refine g_dup2 h dX4_bid_148 rfl rfl ?_
                  refine m_iald (k := 46) (x := nI (nb (ix n))) h hM rfl rfl (by show _ < 8; omega) hnb dX4_bid_149 ?_
                  refine g_iconst (v := nI 1) h dX4_bid_150 (by decide) ?_
                  first | (with_reducible refine g_iaddN h dX4_bid_151 ?_) | refine g_iadd h dX4_bid_151 ?_
                  refine m_iast (k := 46) h hM rfl rfl (by show _ < 8; omega) dX4_bid_152 (fun c hM => ?_)
                  refine g_aload_n (i := 0) h dX4_bid_153 rfl rfl ?_
                  refine m_get h hM f_X4_101_4 rfl dX4_bid_154 ?_
                  refine g_iload_n (i := 1) h dX4_bid_157 rfl rfl ?_
                  refine G.int hx ?_
                  refine m_iald (k := 46) (x := nI (nb (ix n) + 1)) h hM rfl rfl (by show _ < 8; omega) (by rw [mA_rd]) dX4_bid_158 ?_
                  exact g_iret h ⟨by simp [sBidK, b7, b15, b19, b27, b47, b55, b77, b88] <;> rfl, by simp [sBidK, b7, b15, b19, b27, b47, b55, b77, b88]; exact hM⟩ (Nat.le_refl _) (Nat.le_refl _) dX4_bid_159
                · refine g_iconst (v := 1) h dX4_bid_91 (by decide) ?_
                  refine g_goto (tgt := 96) h dX4_bid_92 (by decide) ?_
                  refine g_iconst (v := 3) h dX4_bid_96 (by decide) ?_
                  refine g_invV h (ct_bad h.k hM true 3) hcX4_bad w_X4_308 rfl rfl hM.obj (Nat.le_of_ble_eq_true rfl) ⟨Nat.le_of_ble_eq_true rfl, Nat.le_of_ble_eq_true rfl⟩ (by refine ⟨?_, ?_⟩ <;> first | exact Nat.le_refl _ | exact Nat.zero_le _ | (dsimp only; omega)) dX4_bid_97 (gkr_i (fun c hM => ?_)) gkt_i
                  replace hM := bad1 hM
                  refine g_if_eq (tgt := 105) h dX4_bid_100 (by decide) (fun _bz => absurd _bz (by decide)) (fun _bz => ?_)
                  refine g_iconst (v := 0) h dX4_bid_103 (by decide) ?_
                  exact g_iret h ⟨by simp [sBidK, b7, b15, b19, b27, b47, b55, b77, b88] <;> rfl, by simp [sBidK, b7, b15, b19, b27, b47, b55, b77, b88]; exact hM⟩ (Nat.le_refl _) (Nat.le_refl _) dX4_bid_104
            · rw [zB_0] at b55
              refine g_iconst (v := 1) h dX4_bid_58 (by decide) ?_
              refine g_goto (tgt := 63) h dX4_bid_59 (by decide) ?_
              refine g_iconst (v := 2) h dX4_bid_63 (by decide) ?_
              refine g_invV h (ct_bad h.k hM true 2) hcX4_bad w_X4_308 rfl rfl hM.obj (Nat.le_of_ble_eq_true rfl) ⟨Nat.le_of_ble_eq_true rfl, Nat.le_of_ble_eq_true rfl⟩ (by refine ⟨?_, ?_⟩ <;> first | exact Nat.le_refl _ | exact Nat.zero_le _ | (dsimp only; omega)) dX4_bid_64 (gkr_i (fun c hM => ?_)) gkt_i
              replace hM := bad1 hM
              refine g_if_ne (tgt := 103) h dX4_bid_67 (by decide) (fun _bz => ?_) (fun _bz => absurd _bz (by decide))
              refine g_iconst (v := 0) h dX4_bid_103 (by decide) ?_
              exact g_iret h ⟨by simp [sBidK, b7, b15, b19, b27, b47, b55] <;> rfl, by simp [sBidK, b7, b15, b19, b27, b47, b55]; exact hM⟩ (Nat.le_refl _) (Nat.le_refl _) dX4_bid_104
        · refine g_iconst (v := 1) h dX4_bid_30 (by decide) ?_
          refine g_goto (tgt := 35) h dX4_bid_31 (by decide) ?_
          refine g_iconst (v := 1) h dX4_bid_35 (by decide) ?_
          refine g_invV h (ct_bad h.k hM true 1) hcX4_bad w_X4_308 rfl rfl hM.obj (Nat.le_of_ble_eq_true rfl) ⟨Nat.le_of_ble_eq_true rfl, Nat.le_of_ble_eq_true rfl⟩ (by refine ⟨?_, ?_⟩ <;> first | exact Nat.le_refl _ | exact Nat.zero_le _ | (dsimp only; omega)) dX4_bid_36 (gkr_i (fun c hM => ?_)) gkt_i
          replace hM := bad1 hM
          refine g_if_ne (tgt := 103) h dX4_bid_39 (by decide) (fun _bz => ?_) (fun _bz => absurd _bz (by decide))
          refine g_iconst (v := 0) h dX4_bid_103 (by decide) ?_
          exact g_iret h ⟨by simp [sBidK, b7, b15, b19, b27] <;> rfl, by simp [sBidK, b7, b15, b19, b27]; exact hM⟩ (Nat.le_refl _) (Nat.le_refl _) dX4_bid_104
def sBorrowK (A : Nat → Nat → Int32) (s r k : Int32) : Nat := if sSum s = true then (if r < 0 then 1 else if 500 < r then 1 else if k < 0 then 1 else if k ≤ 3 then (if A 61 0 = 10 then 2 else 0) else 1) else 1
def sBorrowA (A : Nat → Nat → Int32) (n nl : Nat) (s r k : Int32) : Nat → Nat → Int32 := mA (sLineA (mA (mA (mA A 55 n s) 56 n r) 57 n k) nl 3 (nI n) s.toInt64) 61 0 (nI (n + 1))
theorem ct_borrow {l : Launch} {g : gGP} (hk : gK l g) {c0 c : gLH} {mo : Nat} {ma : Nat → Nat} {cl ll : Nat} {A : Nat → Nat → Int32} {B : Nat → Nat → Int64} (hM : MW c0 mo ma cl ll A B c) (s r k : Int32) {n nl : Nat} (hn : A 61 0 = nI n) (hn10' : n ≤ 10) (hnl : A 42 0 = nI nl) (hle : nl ≤ ll) (hl0 : 4 ≤ ll) (hl2 : nl < 400000) : Ct l g yX4_borrow hwX4_borrow 2 80 [.ref mo, .int s, .int r, .int k] c ((if sBorrowK A s r k = 0 then sLn ll nl else ll) - ll) (8 * ((if sBorrowK A s r k = 0 then sLn ll nl else ll) - ll)) (pI (if sBorrowK A s r k = 0 then nI n else 0) (fun c' => ∃ ma', MW c0 mo ma' cl (if sBorrowK A s r k = 0 then sLn ll nl else ll) (if sBorrowK A s r k = 0 then sBorrowA (mA A 0 0 0) n nl s r k else mA (mA A 0 0 0) 0 0 (nI (sBorrowK A s r k))) (if sBorrowK A s r k = 0 then mB B 43 0 (B 43 0 + s.toInt64) else B) c')) := by
  refine Ct.intro hk hcX4_borrow (by decide +kernel) (Nat.le_of_ble_eq_true rfl) (fun φ h => ?_)
  refine g_aload_n (i := 0) h dX4_borrow_0 rfl rfl ?_
  refine g_iconst (v := 0) h dX4_borrow_1 (by decide) ?_
  refine m_puti h hM mp_0 fp_X4_146_4 dX4_borrow_2 (fun c hM => ?_)
  refine g_aload_n (i := 0) h dX4_borrow_5 rfl rfl ?_
  refine g_iload_n (i := 1) h dX4_borrow_6 rfl rfl ?_
  refine g_invS h (ct_isSum h.k _) hcX4_isSum w_X4_382 rfl rfl (Nat.le_of_ble_eq_true rfl) ⟨Nat.le_of_ble_eq_true rfl, Nat.le_of_ble_eq_true rfl⟩ (by refine ⟨?_, ?_⟩ <;> first | exact Nat.le_refl _ | exact Nat.zero_le _ | (dsimp only; omega)) dX4_borrow_7 (gkr_ip ?_) gkt_ip
  refine g_if_eq (tgt := 33) h dX4_borrow_10 (by decide) (fun b10 => ?_) (fun b10 => ?_)
  · rw [zB_0] at b10
    refine g_iconst (v := 1) h dX4_borrow_33 (by decide) ?_
    refine g_goto (tgt := 38) h dX4_borrow_34 (by decide) ?_
    refine g_iconst (v := 1) h dX4_borrow_38 (by decide) ?_
    refine g_invV h (ct_bad h.k hM true 1) hcX4_bad w_X4_308 rfl rfl hM.obj (Nat.le_of_ble_eq_true rfl) ⟨Nat.le_of_ble_eq_true rfl, Nat.le_of_ble_eq_true rfl⟩ (by refine ⟨?_, ?_⟩ <;> first | exact Nat.le_refl _ | exact Nat.zero_le _ | (dsimp only; omega)) dX4_borrow_39 (gkr_i (fun c hM => ?_)) gkt_i
    replace hM := bad1 hM
    refine g_if_ne (tgt := 67) h dX4_borrow_42 (by decide) (fun _bz => ?_) (fun _bz => absurd _bz (by decide))
    refine g_iconst (v := 0) h dX4_borrow_67 (by decide) ?_
    exact g_iret h ⟨by simp [sBorrowK, b10] <;> rfl, _, by simp [sBorrowK, b10]; exact hM⟩ (by first | exact Nat.zero_le _ | (rw [show (if sBorrowK A s r k = 0 then sLn ll nl else ll) = sLn ll nl by simp [sBorrowK, b10]]; omega)) (by first | exact Nat.zero_le _ | (rw [show (if sBorrowK A s r k = 0 then sLn ll nl else ll) = sLn ll nl by simp [sBorrowK, b10]]; omega)) dX4_borrow_68
  · rw [zB_n0] at b10
    refine g_iload_n (i := 2) h dX4_borrow_13 rfl rfl ?_
    refine g_if_lt (tgt := 33) h dX4_borrow_14 (by decide) (fun b14 => ?_) (fun b14 => ?_)
    · refine g_iconst (v := 1) h dX4_borrow_33 (by decide) ?_
      refine g_goto (tgt := 38) h dX4_borrow_34 (by decide) ?_
      refine g_iconst (v := 1) h dX4_borrow_38 (by decide) ?_
      refine g_invV h (ct_bad h.k hM true 1) hcX4_bad w_X4_308 rfl rfl hM.obj (Nat.le_of_ble_eq_true rfl) ⟨Nat.le_of_ble_eq_true rfl, Nat.le_of_ble_eq_true rfl⟩ (by refine ⟨?_, ?_⟩ <;> first | exact Nat.le_refl _ | exact Nat.zero_le _ | (dsimp only; omega)) dX4_borrow_39 (gkr_i (fun c hM => ?_)) gkt_i
      replace hM := bad1 hM
      refine g_if_ne (tgt := 67) h dX4_borrow_42 (by decide) (fun _bz => ?_) (fun _bz => absurd _bz (by decide))
      refine g_iconst (v := 0) h dX4_borrow_67 (by decide) ?_
      exact g_iret h ⟨by simp [sBorrowK, b10, b14] <;> rfl, _, by simp [sBorrowK, b10, b14]; exact hM⟩ (by first | exact Nat.zero_le _ | (rw [show (if sBorrowK A s r k = 0 then sLn ll nl else ll) = sLn ll nl by simp [sBorrowK, b10, b14]]; omega)) (by first | exact Nat.zero_le _ | (rw [show (if sBorrowK A s r k = 0 then sLn ll nl else ll) = sLn ll nl by simp [sBorrowK, b10, b14]]; omega)) dX4_borrow_68
    · refine g_iload_n (i := 2) h dX4_borrow_17 rfl rfl ?_
      refine g_sipush (v := 500) h dX4_borrow_18 (by decide) ?_
      refine g_icmp_gt (tgt := 33) h dX4_borrow_21 (by decide) (fun b21 => ?_) (fun b21 => ?_)
      · refine g_iconst (v := 1) h dX4_borrow_33 (by decide) ?_
        refine g_goto (tgt := 38) h dX4_borrow_34 (by decide) ?_
        refine g_iconst (v := 1) h dX4_borrow_38 (by decide) ?_
        refine g_invV h (ct_bad h.k hM true 1) hcX4_bad w_X4_308 rfl rfl hM.obj (Nat.le_of_ble_eq_true rfl) ⟨Nat.le_of_ble_eq_true rfl, Nat.le_of_ble_eq_true rfl⟩ (by refine ⟨?_, ?_⟩ <;> first | exact Nat.le_refl _ | exact Nat.zero_le _ | (dsimp only; omega)) dX4_borrow_39 (gkr_i (fun c hM => ?_)) gkt_i
        replace hM := bad1 hM
        refine g_if_ne (tgt := 67) h dX4_borrow_42 (by decide) (fun _bz => ?_) (fun _bz => absurd _bz (by decide))
        refine g_iconst (v := 0) h dX4_borrow_67 (by decide) ?_
        exact g_iret h ⟨by simp [sBorrowK, b10, b14, b21] <;> rfl, _, by simp [sBorrowK, b10, b14, b21]; exact hM⟩ (by first | exact Nat.zero_le _ | (rw [show (if sBorrowK A s r k = 0 then sLn ll nl else ll) = sLn ll nl by simp [sBorrowK, b10, b14, b21]]; omega)) (by first | exact Nat.zero_le _ | (rw [show (if sBorrowK A s r k = 0 then sLn ll nl else ll) = sLn ll nl by simp [sBorrowK, b10, b14, b21]]; omega)) dX4_borrow_68
      · refine g_iload_n (i := 3) h dX4_borrow_24 rfl rfl ?_
        refine g_if_lt (tgt := 33) h dX4_borrow_25 (by decide) (fun b25 => ?_) (fun b25 => ?_)
        · refine g_iconst (v := 1) h dX4_borrow_33 (by decide) ?_
          refine g_goto (tgt := 38) h dX4_borrow_34 (by decide) ?_
          refine g_iconst (v := 1) h dX4_borrow_38 (by decide) ?_
          refine g_invV h (ct_bad h.k hM true 1) hcX4_bad w_X4_308 rfl rfl hM.obj (Nat.le_of_ble_eq_true rfl) ⟨Nat.le_of_ble_eq_true rfl, Nat.le_of_ble_eq_true rfl⟩ (by refine ⟨?_, ?_⟩ <;> first | exact Nat.le_refl _ | exact Nat.zero_le _ | (dsimp only; omega)) dX4_borrow_39 (gkr_i (fun c hM => ?_)) gkt_i
          replace hM := bad1 hM
          refine g_if_ne (tgt := 67) h dX4_borrow_42 (by decide) (fun _bz => ?_) (fun _bz => absurd _bz (by decide))
          refine g_iconst (v := 0) h dX4_borrow_67 (by decide) ?_
          exact g_iret h ⟨by simp [sBorrowK, b10, b14, b21, b25] <;> rfl, _, by simp [sBorrowK, b10, b14, b21, b25]; exact hM⟩ (by first | exact Nat.zero_le _ | (rw [show (if sBorrowK A s r k = 0 then sLn ll nl else ll) = sLn ll nl by simp [sBorrowK, b10, b14, b21, b25]]; omega)) (by first | exact Nat.zero_le _ | (rw [show (if sBorrowK A s r k = 0 then sLn ll nl else ll) = sLn ll nl by simp [sBorrowK, b10, b14, b21, b25]]; omega)) dX4_borrow_68
        · refine g_iload_n (i := 3) h dX4_borrow_28 rfl rfl ?_
          refine g_iconst (v := 3) h dX4_borrow_29 (by decide) ?_
          refine g_icmp_le (tgt := 37) h dX4_borrow_30 (by decide) (fun b30 => ?_) (fun b30 => ?_)
          · refine g_iconst (v := 0) h dX4_borrow_37 (by decide) ?_
            refine g_iconst (v := 1) h dX4_borrow_38 (by decide) ?_
            refine g_invV h (ct_bad h.k hM false 1) hcX4_bad w_X4_308 rfl rfl hM.obj (Nat.le_of_ble_eq_true rfl) ⟨Nat.le_of_ble_eq_true rfl, Nat.le_of_ble_eq_true rfl⟩ (by refine ⟨?_, ?_⟩ <;> first | exact Nat.le_refl _ | exact Nat.zero_le _ | (dsimp only; omega)) dX4_borrow_39 (gkr_i (fun c hM => ?_)) gkt_i
            replace hM := bad0 hM
            refine g_if_ne (tgt := 67) h dX4_borrow_42 (by decide) (fun _bz => absurd _bz (by decide)) (fun _bz => ?_)
            refine g_aload_n (i := 0) h dX4_borrow_45 rfl rfl ?_
            refine g_aload_n (i := 0) h dX4_borrow_46 rfl rfl ?_
            refine m_get (v := .int (A 61 0)) h hM f_X4_388_4 rfl dX4_borrow_47 ?_
            refine g_bipush (v := 10) h dX4_borrow_50 (by decide) ?_
            refine g_icmp_ne (tgt := 59) h dX4_borrow_52 (by decide) (fun b52 => ?_) (fun b52 => ?_)
            · refine g_iconst (v := 0) h dX4_borrow_59 (by decide) ?_
              refine g_iconst (v := 2) h dX4_borrow_60 (by decide) ?_
              refine g_invV h (ct_bad h.k hM false 2) hcX4_bad w_X4_308 rfl rfl hM.obj (Nat.le_of_ble_eq_true rfl) ⟨Nat.le_of_ble_eq_true rfl, Nat.le_of_ble_eq_true rfl⟩ (by refine ⟨?_, ?_⟩ <;> first | exact Nat.le_refl _ | exact Nat.zero_le _ | (dsimp only; omega)) dX4_borrow_61 (gkr_i (fun c hM => ?_)) gkt_i
              replace hM := bad0 hM
              refine g_if_eq (tgt := 69) h dX4_borrow_64 (by decide) (fun _bz => ?_) (fun _bz => absurd _bz (by decide))
              have hn10 := nI_nl (m := 10) hn b52
              refine g_aload_n (i := 0) h dX4_borrow_69 rfl rfl ?_
              refine m_get h hM f_X4_128_4 rfl dX4_borrow_70 ?_
              refine g_aload_n (i := 0) h dX4_borrow_73 rfl rfl ?_
              refine m_get (v := .int (A 61 0)) h hM f_X4_388_4 rfl dX4_borrow_74 ?_
              refine G.int hn ?_
              refine g_iload_n (i := 1) h dX4_borrow_77 rfl rfl ?_
              refine m_iast (k := 55) h hM rfl rfl (by show _ < 10; omega) dX4_borrow_78 (fun c hM => ?_)
              refine g_aload_n (i := 0) h dX4_borrow_79 rfl rfl ?_
              refine m_get h hM f_X4_131_4 rfl dX4_borrow_80 ?_
              refine g_aload_n (i := 0) h dX4_borrow_83 rfl rfl ?_
              refine m_get (v := .int (A 61 0)) h hM f_X4_388_4 rfl dX4_borrow_84 ?_
              refine G.int hn ?_
              refine g_iload_n (i := 2) h dX4_borrow_87 rfl rfl ?_
              refine m_iast (k := 56) h hM rfl rfl (by show _ < 10; omega) dX4_borrow_88 (fun c hM => ?_)
              refine g_aload_n (i := 0) h dX4_borrow_89 rfl rfl ?_
              refine m_get h hM f_X4_134_4 rfl dX4_borrow_90 ?_
              refine g_aload_n (i := 0) h dX4_borrow_93 rfl rfl ?_
              refine m_get (v := .int (A 61 0)) h hM f_X4_388_4 rfl dX4_borrow_94 ?_
              refine G.int hn ?_
              refine g_iload_n (i := 3) h dX4_borrow_97 rfl rfl ?_
              refine m_iast (k := 57) h hM rfl rfl (by show _ < 10; omega) dX4_borrow_98 (fun c hM => ?_)
              refine g_aload_n (i := 0) h dX4_borrow_99 rfl rfl ?_
              refine g_iconst (v := 3) h dX4_borrow_100 (by decide) ?_
              refine g_aload_n (i := 0) h dX4_borrow_101 rfl rfl ?_
              refine m_get (v := .int (A 61 0)) h hM f_X4_388_4 rfl dX4_borrow_102 ?_
              refine G.int hn ?_
              refine g_iload_n (i := 1) h dX4_borrow_105 rfl rfl ?_
              refine g_i2l h dX4_borrow_106 ?_
              refine g_invV h (ct_line (nl := nl) h.k hM 3 _ _ hnl hle hl0 hl2) hcX4_line w_X4_366 rfl rfl hM.obj (Nat.le_of_ble_eq_true rfl) ⟨Nat.le_of_ble_eq_true rfl, Nat.le_of_ble_eq_true rfl⟩ (by rw [show (if sBorrowK A s r k = 0 then sLn ll nl else ll) = sLn ll nl by simp [sBorrowK, b10, b14, b21, b25, b30, b52]]; exact ⟨by show 0 + (sLn ll nl - ll) ≤ sLn ll nl - ll; omega, by show 0 + 8 * (sLn ll nl - ll) ≤ 8 * (sLn ll nl - ll); omega⟩) dX4_borrow_107 (gkr_v (fun c hM => ?_)) gkt_v
              obtain ⟨ma, hM⟩ := hM
              refine g_aload_n (i := 0) h dX4_borrow_110 rfl rfl ?_
              refine g_dup h dX4_borrow_111 rfl ?_
              refine m_get (v := .int (A 61 0)) h hM f_X4_388_4 rfl dX4_borrow_112 ?_
              refine G.int hn ?_
              refine g_iconst (v := nI 1) h dX4_borrow_115 (by decide) ?_
              first | (with_reducible refine g_iaddN h dX4_borrow_116 ?_) | refine g_iadd h dX4_borrow_116 ?_
              refine m_puti h hM mp_61 fp_X4_388_4 dX4_borrow_117 (fun c hM => ?_)
              refine g_aload_n (i := 0) h dX4_borrow_120 rfl rfl ?_
              refine m_get (v := .int (nI (n + 1))) h hM f_X4_388_4 rfl dX4_borrow_121 ?_
              refine g_iconst (v := 1) h dX4_borrow_124 (by decide) ?_
              refine g_isub h dX4_borrow_125 ?_
              exact g_iret h ⟨by simp [sBorrowK, b10, b14, b21, b25, b30, b52, nI_pred] <;> rfl, _, by simp [sBorrowK, b10, b14, b21, b25, b30, b52]; exact hM⟩ (by first | exact Nat.zero_le _ | (rw [show (if sBorrowK A s r k = 0 then sLn ll nl else ll) = sLn ll nl by simp [sBorrowK, b10, b14, b21, b25, b30, b52]]; omega)) (by first | exact Nat.zero_le _ | (rw [show (if sBorrowK A s r k = 0 then sLn ll nl else ll) = sLn ll nl by simp [sBorrowK, b10, b14, b21, b25, b30, b52]]; omega)) dX4_borrow_126
            · refine g_iconst (v := 1) h dX4_borrow_55 (by decide) ?_
              refine g_goto (tgt := 60) h dX4_borrow_56 (by decide) ?_
              refine g_iconst (v := 2) h dX4_borrow_60 (by decide) ?_
              refine g_invV h (ct_bad h.k hM true 2) hcX4_bad w_X4_308 rfl rfl hM.obj (Nat.le_of_ble_eq_true rfl) ⟨Nat.le_of_ble_eq_true rfl, Nat.le_of_ble_eq_true rfl⟩ (by refine ⟨?_, ?_⟩ <;> first | exact Nat.le_refl _ | exact Nat.zero_le _ | (dsimp only; omega)) dX4_borrow_61 (gkr_i (fun c hM => ?_)) gkt_i
              replace hM := bad1 hM
              refine g_if_eq (tgt := 69) h dX4_borrow_64 (by decide) (fun _bz => absurd _bz (by decide)) (fun _bz => ?_)
              refine g_iconst (v := 0) h dX4_borrow_67 (by decide) ?_
              exact g_iret h ⟨by simp [sBorrowK, b10, b14, b21, b25, b30, b52] <;> rfl, _, by simp [sBorrowK, b10, b14, b21, b25, b30, b52]; exact hM⟩ (by first | exact Nat.zero_le _ | (rw [show (if sBorrowK A s r k = 0 then sLn ll nl else ll) = sLn ll nl by simp [sBorrowK, b10, b14, b21, b25, b30, b52]]; omega)) (by first | exact Nat.zero_le _ | (rw [show (if sBorrowK A s r k = 0 then sLn ll nl else ll) = sLn ll nl by simp [sBorrowK, b10, b14, b21, b25, b30, b52]]; omega)) dX4_borrow_68
          · refine g_iconst (v := 1) h dX4_borrow_33 (by decide) ?_
            refine g_goto (tgt := 38) h dX4_borrow_34 (by decide) ?_
            refine g_iconst (v := 1) h dX4_borrow_38 (by decide) ?_
            refine g_invV h (ct_bad h.k hM true 1) hcX4_bad w_X4_308 rfl rfl hM.obj (Nat.le_of_ble_eq_true rfl) ⟨Nat.le_of_ble_eq_true rfl, Nat.le_of_ble_eq_true rfl⟩ (by refine ⟨?_, ?_⟩ <;> first | exact Nat.le_refl _ | exact Nat.zero_le _ | (dsimp only; omega)) dX4_borrow_39 (gkr_i (fun c hM => ?_)) gkt_i
            replace hM := bad1 hM
            refine g_if_ne (tgt := 67) h dX4_borrow_42 (by decide) (fun _bz => ?_) (fun _bz => absurd _bz (by decide))
            refine g_iconst (v := 0) h dX4_borrow_67 (by decide) ?_
            exact g_iret h ⟨by simp [sBorrowK, b10, b14, b21, b25, b30] <;> rfl, _, by simp [sBorrowK, b10, b14, b21, b25, b30]; exact hM⟩ (by first | exact Nat.zero_le _ | (rw [show (if sBorrowK A s r k = 0 then sLn ll nl else ll) = sLn ll nl by simp [sBorrowK, b10, b14, b21, b25, b30]]; omega)) (by first | exact Nat.zero_le _ | (rw [show (if sBorrowK A s r k = 0 then sLn ll nl else ll) = sLn ll nl by simp [sBorrowK, b10, b14, b21, b25, b30]]; omega)) dX4_borrow_68
def sRepayK (A : Nat → Nat → Int32) (B : Nat → Nat → Int64) (n s : Int32) : Nat := if n < 0 then 1 else if n < A 61 0 then (if 1 ≤ s then (if A 55 (ix n) < s then 4 else if s.toInt64 ≤ B 43 0 then 0 else 4) else 2) else 1
def sRepayA (A : Nat → Nat → Int32) (j nl : Nat) (s : Int32) : Nat → Nat → Int32 := sLineA (mA A 55 j (A 55 j - s)) nl 5 (nI j) (-s).toInt64
theorem ct_repay {l : Launch} {g : gGP} (hk : gK l g) {c0 c : gLH} {mo : Nat} {ma : Nat → Nat} {cl ll : Nat} {A : Nat → Nat → Int32} {B : Nat → Nat → Int64} (hM : MW c0 mo ma cl ll A B c) (n s : Int32) {m nl : Nat} (hn : A 61 0 = nI m) (hn10 : m ≤ 10) (hnl : A 42 0 = nI nl) (hle : nl ≤ ll) (hl0 : 4 ≤ ll) (hl2 : nl < 400000) : Ct l g yX4_repay hwX4_repay 2 80 [.ref mo, .int n, .int s] c ((if sRepayK A B n s = 0 then sLn ll nl else ll) - ll) (8 * ((if sRepayK A B n s = 0 then sLn ll nl else ll) - ll)) (pI (if sRepayK A B n s = 0 then A 55 (ix n) - s else if sRepayK A B n s = 4 then -1 else 0) (fun c' => ∃ ma', MW c0 mo ma' cl (if sRepayK A B n s = 0 then sLn ll nl else ll) (if sRepayK A B n s = 0 then sRepayA (mA A 0 0 0) (ix n) nl s else if sRepayK A B n s = 4 then mA A 0 0 0 else mA (mA A 0 0 0) 0 0 (nI (sRepayK A B n s))) (if sRepayK A B n s = 0 then mB B 43 0 (B 43 0 + (-s).toInt64) else B) c')) := by
  refine Ct.intro hk hcX4_repay (by decide +kernel) (Nat.le_of_ble_eq_true rfl) (fun φ h => ?_)
  refine g_aload_n (i := 0) h dX4_repay_0 rfl rfl ?_
  refine g_iconst (v := 0) h dX4_repay_1 (by decide) ?_
  refine m_puti h hM mp_0 fp_X4_146_4 dX4_repay_2 (fun c hM => ?_)
  refine g_aload_n (i := 0) h dX4_repay_5 rfl rfl ?_
  refine g_iload_n (i := 1) h dX4_repay_6 rfl rfl ?_
  refine g_if_lt (tgt := 18) h dX4_repay_7 (by decide) (fun b7 => ?_) (fun b7 => ?_)
  · refine g_iconst (v := 1) h dX4_repay_18 (by decide) ?_
    refine g_goto (tgt := 23) h dX4_repay_19 (by decide) ?_
    refine g_iconst (v := 1) h dX4_repay_23 (by decide) ?_
    refine g_invV h (ct_bad h.k hM true 1) hcX4_bad w_X4_308 rfl rfl hM.obj (Nat.le_of_ble_eq_true rfl) ⟨Nat.le_of_ble_eq_true rfl, Nat.le_of_ble_eq_true rfl⟩ (by refine ⟨?_, ?_⟩ <;> first | exact Nat.le_refl _ | exact Nat.zero_le _ | (dsimp only; omega)) dX4_repay_24 (gkr_i (fun c hM => ?_)) gkt_i
    replace hM := bad1 hM
    refine g_if_ne (tgt := 48) h dX4_repay_27 (by decide) (fun _bz => ?_) (fun _bz => absurd _bz (by decide))
    refine g_iconst (v := 0) h dX4_repay_48 (by decide) ?_
    exact g_iret h ⟨by simp [sRepayK, b7] <;> rfl, _, by simp [sRepayK, b7]; exact hM⟩ (by first | exact Nat.zero_le _ | (rw [show (if sRepayK A B n s = 0 then sLn ll nl else ll) = sLn ll nl by simp [sRepayK, b7]]; omega)) (by first | exact Nat.zero_le _ | (rw [show (if sRepayK A B n s = 0 then sLn ll nl else ll) = sLn ll nl by simp [sRepayK, b7]]; omega)) dX4_repay_49
  · refine g_iload_n (i := 1) h dX4_repay_10 rfl rfl ?_
    refine g_aload_n (i := 0) h dX4_repay_11 rfl rfl ?_
    refine m_get (v := .int (A 61 0)) h hM f_X4_388_4 rfl dX4_repay_12 ?_
    refine g_icmp_lt (tgt := 22) h dX4_repay_15 (by decide) (fun b15 => ?_) (fun b15 => ?_)
    · obtain ⟨hj, hx⟩ := ix_of b7 b15 hn (by omega)
      refine g_iconst (v := 0) h dX4_repay_22 (by decide) ?_
      refine g_iconst (v := 1) h dX4_repay_23 (by decide) ?_
      refine g_invV h (ct_bad h.k hM false 1) hcX4_bad w_X4_308 rfl rfl hM.obj (Nat.le_of_ble_eq_true rfl) ⟨Nat.le_of_ble_eq_true rfl, Nat.le_of_ble_eq_true rfl⟩ (by refine ⟨?_, ?_⟩ <;> first | exact Nat.le_refl _ | exact Nat.zero_le _ | (dsimp only; omega)) dX4_repay_24 (gkr_i (fun c hM => ?_)) gkt_i
      replace hM := bad0 hM
      refine g_if_ne (tgt := 48) h dX4_repay_27 (by decide) (fun _bz => absurd _bz (by decide)) (fun _bz => ?_)
      refine g_aload_n (i := 0) h dX4_repay_30 rfl rfl ?_
      refine g_iload_n (i := 2) h dX4_repay_31 rfl rfl ?_
      refine g_iconst (v := 1) h dX4_repay_32 (by decide) ?_
      refine g_icmp_ge (tgt := 40) h dX4_repay_33 (by decide) (fun b33 => ?_) (fun b33 => ?_)
      · refine g_iconst (v := 0) h dX4_repay_40 (by decide) ?_
        refine g_iconst (v := 2) h dX4_repay_41 (by decide) ?_
        refine g_invV h (ct_bad h.k hM false 2) hcX4_bad w_X4_308 rfl rfl hM.obj (Nat.le_of_ble_eq_true rfl) ⟨Nat.le_of_ble_eq_true rfl, Nat.le_of_ble_eq_true rfl⟩ (by refine ⟨?_, ?_⟩ <;> first | exact Nat.le_refl _ | exact Nat.zero_le _ | (dsimp only; omega)) dX4_repay_42 (gkr_i (fun c hM => ?_)) gkt_i
        replace hM := bad0 hM
        refine g_if_eq (tgt := 50) h dX4_repay_45 (by decide) (fun _bz => ?_) (fun _bz => absurd _bz (by decide))
        refine g_aload_n (i := 0) h dX4_repay_50 rfl rfl ?_
        refine m_get h hM f_X4_128_4 rfl dX4_repay_51 ?_
        refine g_iload_n (i := 1) h dX4_repay_54 rfl rfl ?_
        refine G.int hx ?_
        refine m_iald (k := 55) (x := A 55 _) h hM rfl rfl (by show _ < 10; omega) rfl dX4_repay_55 ?_
        refine g_iload_n (i := 2) h dX4_repay_56 rfl rfl ?_
        refine g_icmp_lt (tgt := 70) h dX4_repay_57 (by decide) (fun b57 => ?_) (fun b57 => ?_)
        · refine g_iconst (v := (-1)) h dX4_repay_70 (by decide) ?_
          exact g_iret h ⟨by simp [sRepayK, b7, b15, b33, b57] <;> rfl, _, by simp [sRepayK, b7, b15, b33, b57]; exact hM⟩ (by first | exact Nat.zero_le _ | (rw [show (if sRepayK A B n s = 0 then sLn ll nl else ll) = sLn ll nl by simp [sRepayK, b7, b15, b33, b57]]; omega)) (by first | exact Nat.zero_le _ | (rw [show (if sRepayK A B n s = 0 then sLn ll nl else ll) = sLn ll nl by simp [sRepayK, b7, b15, b33, b57]]; omega)) dX4_repay_71
        · refine g_aload_n (i := 0) h dX4_repay_60 rfl rfl ?_
          refine m_get (v := .long (B 43 0)) h hM f_X4_373_4 rfl dX4_repay_61 ?_
          refine g_iload_n (i := 2) h dX4_repay_64 rfl rfl ?_
          refine g_i2l h dX4_repay_65 ?_
          refine g_lcmp h dX4_repay_66 ?_
          refine g_if_ge (tgt := 72) h dX4_repay_67 (by decide) (fun b67 => ?_) (fun b67 => ?_)
          · rw [lg_cmp_ge] at b67
            refine g_aload_n (i := 0) h dX4_repay_72 rfl rfl ?_
            refine m_get h hM f_X4_128_4 rfl dX4_repay_73 ?_
            refine g_iload_n (i := 1) h dX4_repay_76 rfl rfl ?_
            refine G.int hx ?_
            refine g_dup2 h dX4_repay_77 rfl rfl ?_
            refine m_iald (k := 55) (x := A 55 _) h hM rfl rfl (by show _ < 10; omega) rfl dX4_repay_78 ?_
            refine g_iload_n (i := 2) h dX4_repay_79 rfl rfl ?_
            refine g_isub h dX4_repay_80 ?_
            refine m_iast (k := 55) h hM rfl rfl (by show _ < 10; omega) dX4_repay_81 (fun c hM => ?_)
            refine g_aload_n (i := 0) h dX4_repay_82 rfl rfl ?_
            refine g_iconst (v := 5) h dX4_repay_83 (by decide) ?_
            refine g_iload_n (i := 1) h dX4_repay_84 rfl rfl ?_
            refine G.int hx ?_
            refine g_iload_n (i := 2) h dX4_repay_85 rfl rfl ?_
            refine g_ineg h dX4_repay_86 ?_
            refine g_i2l h dX4_repay_87 ?_
            refine g_invV h (ct_line (nl := nl) h.k hM 5 _ _ hnl hle hl0 hl2) hcX4_line w_X4_366 rfl rfl hM.obj (Nat.le_of_ble_eq_true rfl) ⟨Nat.le_of_ble_eq_true rfl, Nat.le_of_ble_eq_true rfl⟩ (by rw [show (if sRepayK A B n s = 0 then sLn ll nl else ll) = sLn ll nl by simp [sRepayK, b7, b15, b33, b57, b67]]; exact ⟨by show 0 + (sLn ll nl - ll) ≤ sLn ll nl - ll; omega, by show 0 + 8 * (sLn ll nl - ll) ≤ 8 * (sLn ll nl - ll); omega⟩) dX4_repay_88 (gkr_v (fun c hM => ?_)) gkt_v
            obtain ⟨ma, hM⟩ := hM
            refine g_aload_n (i := 0) h dX4_repay_91 rfl rfl ?_
            refine m_get h hM f_X4_128_4 rfl dX4_repay_92 ?_
            refine g_iload_n (i := 1) h dX4_repay_95 rfl rfl ?_
            refine G.int hx ?_
            refine m_iald (k := 55) (x := A 55 (ix n) - s) h hM rfl rfl (by show _ < 10; omega) (mA_rd (mA A 0 0 0) 55 (ix n) _) dX4_repay_96 ?_
            exact g_iret h ⟨by simp [sRepayK, b7, b15, b33, b57, b67] <;> rfl, _, by simp [sRepayK, b7, b15, b33, b57, b67]; exact hM⟩ (by first | exact Nat.zero_le _ | (rw [show (if sRepayK A B n s = 0 then sLn ll nl else ll) = sLn ll nl by simp [sRepayK, b7, b15, b33, b57, b67]]; omega)) (by first | exact Nat.zero_le _ | (rw [show (if sRepayK A B n s = 0 then sLn ll nl else ll) = sLn ll nl by simp [sRepayK, b7, b15, b33, b57, b67]]; omega)) dX4_repay_97
          · rw [lg_cmp_ge] at b67
            refine g_iconst (v := (-1)) h dX4_repay_70 (by decide) ?_
            exact g_iret h ⟨by simp [sRepayK, b7, b15, b33, b57, b67] <;> rfl, _, by simp [sRepayK, b7, b15, b33, b57, b67]; exact hM⟩ (by first | exact Nat.zero_le _ | (rw [show (if sRepayK A B n s = 0 then sLn ll nl else ll) = sLn ll nl by simp [sRepayK, b7, b15, b33, b57, b67]]; omega)) (by first | exact Nat.zero_le _ | (rw [show (if sRepayK A B n s = 0 then sLn ll nl else ll) = sLn ll nl by simp [sRepayK, b7, b15, b33, b57, b67]]; omega)) dX4_repay_71
      · refine g_iconst (v := 1) h dX4_repay_36 (by decide) ?_
        refine g_goto (tgt := 41) h dX4_repay_37 (by decide) ?_
        refine g_iconst (v := 2) h dX4_repay_41 (by decide) ?_
        refine g_invV h (ct_bad h.k hM true 2) hcX4_bad w_X4_308 rfl rfl hM.obj (Nat.le_of_ble_eq_true rfl) ⟨Nat.le_of_ble_eq_true rfl, Nat.le_of_ble_eq_true rfl⟩ (by refine ⟨?_, ?_⟩ <;> first | exact Nat.le_refl _ | exact Nat.zero_le _ | (dsimp only; omega)) dX4_repay_42 (gkr_i (fun c hM => ?_)) gkt_i
        replace hM := bad1 hM
        refine g_if_eq (tgt := 50) h dX4_repay_45 (by decide) (fun _bz => absurd _bz (by decide)) (fun _bz => ?_)
        refine g_iconst (v := 0) h dX4_repay_48 (by decide) ?_
        exact g_iret h ⟨by simp [sRepayK, b7, b15, b33] <;> rfl, _, by simp [sRepayK, b7, b15, b33]; exact hM⟩ (by first | exact Nat.zero_le _ | (rw [show (if sRepayK A B n s = 0 then sLn ll nl else ll) = sLn ll nl by simp [sRepayK, b7, b15, b33]]; omega)) (by first | exact Nat.zero_le _ | (rw [show (if sRepayK A B n s = 0 then sLn ll nl else ll) = sLn ll nl by simp [sRepayK, b7, b15, b33]]; omega)) dX4_repay_49
    · refine g_iconst (v := 1) h dX4_repay_18 (by decide) ?_
      refine g_goto (tgt := 23) h dX4_repay_19 (by decide) ?_
      refine g_iconst (v := 1) h dX4_repay_23 (by decide) ?_
      refine g_invV h (ct_bad h.k hM true 1) hcX4_bad w_X4_308 rfl rfl hM.obj (Nat.le_of_ble_eq_true rfl) ⟨Nat.le_of_ble_eq_true rfl, Nat.le_of_ble_eq_true rfl⟩ (by refine ⟨?_, ?_⟩ <;> first | exact Nat.le_refl _ | exact Nat.zero_le _ | (dsimp only; omega)) dX4_repay_24 (gkr_i (fun c hM => ?_)) gkt_i
      replace hM := bad1 hM
      refine g_if_ne (tgt := 48) h dX4_repay_27 (by decide) (fun _bz => ?_) (fun _bz => absurd _bz (by decide))
      refine g_iconst (v := 0) h dX4_repay_48 (by decide) ?_
      exact g_iret h ⟨by simp [sRepayK, b7, b15] <;> rfl, _, by simp [sRepayK, b7, b15]; exact hM⟩ (by first | exact Nat.zero_le _ | (rw [show (if sRepayK A B n s = 0 then sLn ll nl else ll) = sLn ll nl by simp [sRepayK, b7, b15]]; omega)) (by first | exact Nat.zero_le _ | (rw [show (if sRepayK A B n s = 0 then sLn ll nl else ll) = sLn ll nl by simp [sRepayK, b7, b15]]; omega)) dX4_repay_49
def sSingle (A : Nat → Nat → Int32) (k v : Int32) (t u : Nat) : Bool := if k = 3 then !decide (A 22 t &&& v ≤ 0) else if k = 8 then decide (A 23 (8 * t + u) = A 32 0) else if k = 22 then decide (A 19 t = v)
  else if k < 19 then (if k < 16 then (if k < 13 then sSo (k - 10) (A 20 t) v else sSo (k - 13) (A 21 t) v) else sSo (k - 16) (nI u) v) else sSo (k - 19) (A 32 0 - A 32 0 / 365 * 365) v
theorem ct_single {l : Launch} {g : gGP} (hk : gK l g) {c0 c : gLH} {mo : Nat} {ma : Nat → Nat} {cl ll : Nat} {A : Nat → Nat → Int32} {B : Nat → Nat → Int64} (hM : MW c0 mo ma cl ll A B c) (k v : Int32) {t u : Nat} (ht : t < 60) (hu : u < 8) : Ct l g yX4_single hwX4_single 1 40 [.ref mo, .int k, .int v, .int (nI t), .int (nI u)] c (0) (0) (pIp (zB (sSingle A k v t u)) c) := by
  refine Ct.intro hk hcX4_single (by decide +kernel) (Nat.le_of_ble_eq_true rfl) (fun φ h => ?_)
  refine g_iload_n (i := 1) h dX4_single_0 rfl rfl ?_
  refine g_iconst (v := 3) h dX4_single_1 (by decide) ?_
  refine g_icmp_ne (tgt := 22) h dX4_single_2 (by decide) (fun b2 => ?_) (fun b2 => ?_)
  · refine g_iload_n (i := 1) h dX4_single_22 rfl rfl ?_
    refine g_bipush (v := 8) h dX4_single_23 (by decide) ?_
    refine g_icmp_ne (tgt := 53) h dX4_single_25 (by decide) (fun b25 => ?_) (fun b25 => ?_)
    · refine g_iload_n (i := 1) h dX4_single_53 rfl rfl ?_
      refine g_bipush (v := 22) h dX4_single_54 (by decide) ?_
      refine g_icmp_ne (tgt := 75) h dX4_single_56 (by decide) (fun b56 => ?_) (fun b56 => ?_)
      · refine g_iload_n (i := 1) h dX4_single_75 rfl rfl ?_
        refine g_bipush (v := 19) h dX4_single_76 (by decide) ?_
        refine g_icmp_lt (tgt := 98) h dX4_single_78 (by decide) (fun b78 => ?_) (fun b78 => ?_)
        · refine g_iload_n (i := 1) h dX4_single_98 rfl rfl ?_
          refine g_bipush (v := 16) h dX4_single_99 (by decide) ?_
          refine g_icmp_lt (tgt := 115) h dX4_single_101 (by decide) (fun b101 => ?_) (fun b101 => ?_)
          · refine g_iload_n (i := 1) h dX4_single_115 rfl rfl ?_
            refine g_bipush (v := 13) h dX4_single_116 (by decide) ?_
            refine g_icmp_lt (tgt := 138) h dX4_single_118 (by decide) (fun b118 => ?_) (fun b118 => ?_)
            · refine g_iload_n (i := 1) h dX4_single_138 rfl rfl ?_
              refine g_bipush (v := 10) h dX4_single_139 (by decide) ?_
              refine g_isub h dX4_single_141 ?_
              refine g_aload_n (i := 0) h dX4_single_142 rfl rfl ?_
              refine m_get h hM f_X4_48_4 rfl dX4_single_143 ?_
              refine g_iload_n (i := 3) h dX4_single_146 rfl rfl ?_
              refine m_iald (k := 20) (x := A 20 _) h hM rfl rfl (by show _ < 60; omega) rfl dX4_single_147 ?_
              refine g_iload_n (i := 2) h dX4_single_148 rfl rfl ?_
              refine g_invS h (ct_isSo h.k _ _ _) hcX4_isSo w_X4_334 rfl rfl (Nat.le_of_ble_eq_true rfl) ⟨Nat.le_of_ble_eq_true rfl, Nat.le_of_ble_eq_true rfl⟩ (by refine ⟨?_, ?_⟩ <;> first | exact Nat.le_refl _ | exact Nat.zero_le _ | (dsimp only; omega)) dX4_single_149 (gkr_ip ?_) gkt_ip
              exact g_zret h ⟨by simp [sSingle, zB, b2, b25, b56, b78, b101, b118] <;> rfl, rfl⟩ (Nat.le_refl _) (Nat.le_refl _) (by first | rfl | exact zB_nar _) dX4_single_152
            · refine g_iload_n (i := 1) h dX4_single_121 rfl rfl ?_
              refine g_bipush (v := 13) h dX4_single_122 (by decide) ?_
              refine g_isub h dX4_single_124 ?_
              refine g_aload_n (i := 0) h dX4_single_125 rfl rfl ?_
              refine m_get h hM f_X4_51_4 rfl dX4_single_126 ?_
              refine g_iload_n (i := 3) h dX4_single_129 rfl rfl ?_
              refine m_iald (k := 21) (x := A 21 _) h hM rfl rfl (by show _ < 60; omega) rfl dX4_single_130 ?_
              refine g_iload_n (i := 2) h dX4_single_131 rfl rfl ?_
              refine g_invS h (ct_isSo h.k _ _ _) hcX4_isSo w_X4_334 rfl rfl (Nat.le_of_ble_eq_true rfl) ⟨Nat.le_of_ble_eq_true rfl, Nat.le_of_ble_eq_true rfl⟩ (by refine ⟨?_, ?_⟩ <;> first | exact Nat.le_refl _ | exact Nat.zero_le _ | (dsimp only; omega)) dX4_single_132 (gkr_ip ?_) gkt_ip
              refine g_goto (tgt := 152) h dX4_single_135 (by decide) ?_
              exact g_zret h ⟨by simp [sSingle, zB, b2, b25, b56, b78, b101, b118] <;> rfl, rfl⟩ (Nat.le_refl _) (Nat.le_refl _) (by first | rfl | exact zB_nar _) dX4_single_152
          · refine g_iload_n (i := 1) h dX4_single_104 rfl rfl ?_
            refine g_bipush (v := 16) h dX4_single_105 (by decide) ?_
            refine g_isub h dX4_single_107 ?_
            refine g_iload h dX4_single_108 rfl ?_
            refine g_iload_n (i := 2) h dX4_single_110 rfl rfl ?_
            refine g_invS h (ct_isSo h.k _ _ _) hcX4_isSo w_X4_334 rfl rfl (Nat.le_of_ble_eq_true rfl) ⟨Nat.le_of_ble_eq_true rfl, Nat.le_of_ble_eq_true rfl⟩ (by refine ⟨?_, ?_⟩ <;> first | exact Nat.le_refl _ | exact Nat.zero_le _ | (dsimp only; omega)) dX4_single_111 (gkr_ip ?_) gkt_ip
            exact g_zret h ⟨by simp [sSingle, zB, b2, b25, b56, b78, b101] <;> rfl, rfl⟩ (Nat.le_refl _) (Nat.le_refl _) (by first | rfl | exact zB_nar _) dX4_single_114
        · refine g_iload_n (i := 1) h dX4_single_81 rfl rfl ?_
          refine g_bipush (v := 19) h dX4_single_82 (by decide) ?_
          refine g_isub h dX4_single_84 ?_
          refine g_aload_n (i := 0) h dX4_single_85 rfl rfl ?_
          refine m_get (v := .int (A 32 0)) h hM f_X4_331_4 rfl dX4_single_86 ?_
          refine g_sipush (v := 365) h dX4_single_89 (by decide) ?_
          refine g_irem h dX4_single_92 (by decide) ?_
          refine g_iload_n (i := 2) h dX4_single_93 rfl rfl ?_
          refine g_invS h (ct_isSo h.k _ _ _) hcX4_isSo w_X4_334 rfl rfl (Nat.le_of_ble_eq_true rfl) ⟨Nat.le_of_ble_eq_true rfl, Nat.le_of_ble_eq_true rfl⟩ (by refine ⟨?_, ?_⟩ <;> first | exact Nat.le_refl _ | exact Nat.zero_le _ | (dsimp only; omega)) dX4_single_94 (gkr_ip ?_) gkt_ip
          exact g_zret h ⟨by simp [sSingle, zB, b2, b25, b56, b78] <;> rfl, rfl⟩ (Nat.le_refl _) (Nat.le_refl _) (by first | rfl | exact zB_nar _) dX4_single_97
      · refine g_aload_n (i := 0) h dX4_single_59 rfl rfl ?_
        refine m_get h hM f_X4_45_4 rfl dX4_single_60 ?_
        refine g_iload_n (i := 3) h dX4_single_63 rfl rfl ?_
        refine m_iald (k := 19) (x := A 19 _) h hM rfl rfl (by show _ < 60; omega) rfl dX4_single_64 ?_
        refine g_iload_n (i := 2) h dX4_single_65 rfl rfl ?_
        refine g_icmp_ne (tgt := 73) h dX4_single_66 (by decide) (fun b66 => ?_) (fun b66 => ?_)
        · refine g_iconst (v := 0) h dX4_single_73 (by decide) ?_
          exact g_zret h ⟨by simp [sSingle, zB, b2, b25, b56, b66] <;> rfl, rfl⟩ (Nat.le_refl _) (Nat.le_refl _) (by first | rfl | exact zB_nar _) dX4_single_74
        · refine g_iconst (v := 1) h dX4_single_69 (by decide) ?_
          refine g_goto (tgt := 74) h dX4_single_70 (by decide) ?_
          exact g_zret h ⟨by simp [sSingle, zB, b2, b25, b56, b66] <;> rfl, rfl⟩ (Nat.le_refl _) (Nat.le_refl _) (by first | rfl | exact zB_nar _) dX4_single_74
    · refine g_aload_n (i := 0) h dX4_single_28 rfl rfl ?_
      refine m_get h hM f_X4_57_4 rfl dX4_single_29 ?_
      refine g_bipush (v := nI 8) h dX4_single_32 (by decide) ?_
      refine g_iload_n (i := 3) h dX4_single_34 rfl rfl ?_
      first | (with_reducible refine g_imulN h dX4_single_35 ?_) | refine g_imul h dX4_single_35 ?_
      refine g_iload h dX4_single_36 rfl ?_
      first | (with_reducible refine g_iaddN h dX4_single_38 ?_) | refine g_iadd h dX4_single_38 ?_
      refine m_iald (k := 23) (x := A 23 _) h hM rfl rfl (by show _ < 480; omega) rfl dX4_single_39 ?_
      refine g_aload_n (i := 0) h dX4_single_40 rfl rfl ?_
      refine m_get (v := .int (A 32 0)) h hM f_X4_331_4 rfl dX4_single_41 ?_
      refine g_icmp_ne (tgt := 51) h dX4_single_44 (by decide) (fun b44 => ?_) (fun b44 => ?_)
      · refine g_iconst (v := 0) h dX4_single_51 (by decide) ?_
        exact g_zret h ⟨by simp [sSingle, zB, b2, b25, b44] <;> rfl, rfl⟩ (Nat.le_refl _) (Nat.le_refl _) (by first | rfl | exact zB_nar _) dX4_single_52
      · refine g_iconst (v := 1) h dX4_single_47 (by decide) ?_
        refine g_goto (tgt := 52) h dX4_single_48 (by decide) ?_
        exact g_zret h ⟨by simp [sSingle, zB, b2, b25, b44] <;> rfl, rfl⟩ (Nat.le_refl _) (Nat.le_refl _) (by first | rfl | exact zB_nar _) dX4_single_52
  · refine g_aload_n (i := 0) h dX4_single_5 rfl rfl ?_
    refine m_get h hM f_X4_54_4 rfl dX4_single_6 ?_
    refine g_iload_n (i := 3) h dX4_single_9 rfl rfl ?_
    refine m_iald (k := 22) (x := A 22 _) h hM rfl rfl (by show _ < 60; omega) rfl dX4_single_10 ?_
    refine g_iload_n (i := 2) h dX4_single_11 rfl rfl ?_
    refine g_iand h dX4_single_12 ?_
    refine g_if_le (tgt := 20) h dX4_single_13 (by decide) (fun b13 => ?_) (fun b13 => ?_)
    · refine g_iconst (v := 0) h dX4_single_20 (by decide) ?_
      exact g_zret h ⟨by simp [sSingle, zB, b2, b13] <;> rfl, rfl⟩ (Nat.le_refl _) (Nat.le_refl _) (by first | rfl | exact zB_nar _) dX4_single_21
    · refine g_iconst (v := 1) h dX4_single_16 (by decide) ?_
      refine g_goto (tgt := 21) h dX4_single_17 (by decide) ?_
      exact g_zret h ⟨by simp [sSingle, zB, b2, b13] <;> rfl, rfl⟩ (Nat.le_refl _) (Nat.le_refl _) (by first | rfl | exact zB_nar _) dX4_single_21
