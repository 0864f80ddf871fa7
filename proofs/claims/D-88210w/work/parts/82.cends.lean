/-! THE COMPONENT: the reckoning's end -/
set_option maxRecDepth 100000
theorem cap_min (w : Int64) : (if (1000000 : Int64) < w then 1000000 else w) = sCap w := by
  unfold sCap
  by_cases h : (1000000 : Int64) < w
  · rw [if_pos h, if_neg (Int64.not_le.mpr h)]
  · rw [if_neg h, if_pos (Int64.not_lt.mp h)]
def rT (u v : Nat → Int64) (b : Int64) : Nat → Int64
  | 0 => sCap b
  | n + 1 => sCap (rT u v b n * u n / v n)
def rH (o : Int32) (hb : Bool) : Bool := !decide (o = -1) && hb
def rV (o al : Int32) (hb ab : Bool) (t : Int64) : Int64 := if (rH o hb || rH al ab) = true then 0 else t
def rL (o al : Int32) (hb ab : Bool) (num : Int32) : Int32 := if (rH o hb && rH al ab) = true then (if al < o then al else o) else if rH o hb = true then o else if rH al ab = true then al else num
theorem cx_ends {l : Launch} {g : gGP} (hk : gK l g) {c0 c : gLH} {ad cp fz : Nat → Nat → Nat} {md : Nat → Nat → Int32} {S : Nat → List Value} {U : Nat → Nat → Int64} {A : Nat → Nat → Int32} {B : Nat → Nat → Int64} {n : Nat} {o al ln : Int32} {t : Int64} {hb ab : Bool} (hX : CW c0 ad cp fz md (va_up S 1 (rF (nI n) o al ln t hb ab)) U A B c) (hn : n ≤ 40) (b : Int64) (num : Int32) (hV : ∀ k, k < n → U 1 k ≠ 0) : Ct l g yX3_ends hwX3_ends 1 40 [.ref (ad 5 0), .long b, .int num] c (0) (0) (pV (CW c0 ad cp fz md (va_up S 1 (rF (nI n) o al (rL o al hb ab num) (rV o al hb ab (rT (U 0) (U 1) b n)) hb ab)) U A B)) := by
  refine Ct.intro hk hcX3_ends (by decide +kernel) (Nat.le_of_ble_eq_true rfl) (fun φ h => ?_)
  have loop : ∀ k, k ≤ n → ∀ c, CW c0 ad cp fz md (va_up S 1 (rF (nI n) o al ln (rT (U 0) (U 1) b k) hb ab)) U A B c → G φ (gQ φ (pV (CW c0 ad cp fz md (va_up S 1 (rF (nI n) o al (rL o al hb ab num) (rV o al hb ab (rT (U 0) (U 1) b n)) hb ab)) U A B)) 0 0) 14 [(0, .ref (ad 5 0)), (1, .long b), (3, .int num), (4, .int (nI k))] [] c 0 0 := by
    refine gloop ?_ ?_
    · intro c hX
      refine g_iload h dX3_ends_14 rfl ?_
      refine g_aload_n (i := 0) h dX3_ends_16 rfl rfl ?_
      refine g_get (v := .int (nI n)) h f_X3_18_3 (x_rk hX) rfl dX3_ends_17 ?_
      refine g_icmp_ge (tgt := 59) h dX3_ends_20 (by decide) (fun b20 => ?_) (fun _bz => absurd _bz (fun q => absurd (nI_le (Nat.le_refl _) (by omega)) q))
      refine g_aload_n (i := 0) h dX3_ends_59 rfl rfl ?_
      refine g_iload_n (i := 3) h dX3_ends_60 rfl rfl ?_
      refine x_putS1 (j := 3) h hX fp_X3_28_3 (Nat.le_of_ble_eq_true rfl) rfl rfl dX3_ends_61 (fun c hX => ?_)
      refine g_aload_n (i := 0) h dX3_ends_64 rfl rfl ?_
      refine g_get (v := .int o) h f_X3_22_3 (x_rk hX) rfl dX3_ends_65 ?_
      refine g_iconst (v := (-1)) h dX3_ends_68 (by decide) ?_
      refine g_icmp_eq (tgt := 83) h dX3_ends_69 (by decide) (fun b69 => ?_) (fun b69 => ?_)
      · refine g_iconst (v := 0) h dX3_ends_83 (by decide) ?_
        refine g_istore h dX3_ends_84 (by decide) ?_
        refine g_aload_n (i := 0) h dX3_ends_86 rfl rfl ?_
        refine g_get (v := .int al) h f_X3_25_3 (x_rk hX) rfl dX3_ends_87 ?_
        refine g_iconst (v := (-1)) h dX3_ends_90 (by decide) ?_
        refine g_icmp_eq (tgt := 105) h dX3_ends_91 (by decide) (fun b91 => ?_) (fun b91 => ?_)
        · refine g_iconst (v := 0) h dX3_ends_105 (by decide) ?_
          refine g_istore h dX3_ends_106 (by decide) ?_
          refine g_iload h dX3_ends_108 rfl ?_
          refine g_if_ne (tgt := 119) h dX3_ends_110 (by decide) (fun _bz => absurd _bz (by decide)) (fun _bz => ?_)
          refine g_iload h dX3_ends_113 rfl ?_
          refine g_if_ne (tgt := 119) h dX3_ends_115 (by decide) (fun _bz => absurd _bz (by decide)) (fun _bz => ?_)
          exact g_vret h ⟨rfl, by simp only [rL, rV, rH, rF, List.set, b20, b69, b91, decide_true, decide_false, Bool.not_true, Bool.not_false, Bool.true_and, Bool.false_and, Bool.and_true, Bool.and_false, Bool.or_true, Bool.true_or, Bool.or_false, Bool.false_or, if_true, if_false, Bool.false_eq_true] at hX ⊢; exact hX⟩ (Nat.le_refl _) (Nat.le_refl _) dX3_ends_118
        · refine g_aload_n (i := 0) h dX3_ends_94 rfl rfl ?_
          refine g_get (v := .int (zB ab)) h f_X3_39_3 (x_rk hX) rfl dX3_ends_95 ?_
          refine g_if_eq (tgt := 105) h dX3_ends_98 (by decide) (fun b98 => ?_) (fun b98 => ?_)
          · rw [zB_0] at b98
            refine g_iconst (v := 0) h dX3_ends_105 (by decide) ?_
            refine g_istore h dX3_ends_106 (by decide) ?_
            refine g_iload h dX3_ends_108 rfl ?_
            refine g_if_ne (tgt := 119) h dX3_ends_110 (by decide) (fun _bz => absurd _bz (by decide)) (fun _bz => ?_)
            refine g_iload h dX3_ends_113 rfl ?_
            refine g_if_ne (tgt := 119) h dX3_ends_115 (by decide) (fun _bz => absurd _bz (by decide)) (fun _bz => ?_)
            exact g_vret h ⟨rfl, by simp only [rL, rV, rH, rF, List.set, b20, b69, b91, b98, decide_true, decide_false, Bool.not_true, Bool.not_false, Bool.true_and, Bool.false_and, Bool.and_true, Bool.and_false, Bool.or_true, Bool.true_or, Bool.or_false, Bool.false_or, if_true, if_false, Bool.false_eq_true] at hX ⊢; exact hX⟩ (Nat.le_refl _) (Nat.le_refl _) dX3_ends_118
          · rw [zB_n0] at b98
            refine g_iconst (v := 1) h dX3_ends_101 (by decide) ?_
            refine g_goto (tgt := 106) h dX3_ends_102 (by decide) ?_
            refine g_istore h dX3_ends_106 (by decide) ?_
            refine g_iload h dX3_ends_108 rfl ?_
            refine g_if_ne (tgt := 119) h dX3_ends_110 (by decide) (fun _bz => absurd _bz (by decide)) (fun _bz => ?_)
            refine g_iload h dX3_ends_113 rfl ?_
            refine g_if_ne (tgt := 119) h dX3_ends_115 (by decide) (fun _bz => ?_) (fun _bz => absurd _bz (by decide))
            refine g_aload_n (i := 0) h dX3_ends_119 rfl rfl ?_
            refine g_lconst (v := 0) h dX3_ends_120 (by decide) ?_
            refine x_putS1 (j := 4) h hX fp_X3_31_3 (Nat.le_of_ble_eq_true rfl) rfl rfl dX3_ends_121 (fun c hX => ?_)
            refine g_aload_n (i := 0) h dX3_ends_124 rfl rfl ?_
            refine g_iload h dX3_ends_125 rfl ?_
            refine g_if_eq (tgt := 149) h dX3_ends_127 (by decide) (fun _bz => ?_) (fun _bz => absurd _bz (by decide))
            refine g_iload h dX3_ends_149 rfl ?_
            refine g_if_eq (tgt := 161) h dX3_ends_151 (by decide) (fun _bz => ?_) (fun _bz => absurd _bz (by decide))
            refine g_aload_n (i := 0) h dX3_ends_161 rfl rfl ?_
            refine g_get (v := .int al) h f_X3_25_3 (x_rk hX) rfl dX3_ends_162 ?_
            refine x_putS1 (j := 3) h hX fp_X3_28_3 (Nat.le_of_ble_eq_true rfl) rfl rfl dX3_ends_165 (fun c hX => ?_)
            exact g_vret h ⟨rfl, by simp only [rL, rV, rH, rF, List.set, b20, b69, b91, b98, decide_true, decide_false, Bool.not_true, Bool.not_false, Bool.true_and, Bool.false_and, Bool.and_true, Bool.and_false, Bool.or_true, Bool.true_or, Bool.or_false, Bool.false_or, if_true, if_false, Bool.false_eq_true] at hX ⊢; exact hX⟩ (Nat.le_refl _) (Nat.le_refl _) dX3_ends_168
      · refine g_aload_n (i := 0) h dX3_ends_72 rfl rfl ?_
        refine g_get (v := .int (zB hb)) h f_X3_35_3 (x_rk hX) rfl dX3_ends_73 ?_
        refine g_if_eq (tgt := 83) h dX3_ends_76 (by decide) (fun b76 => ?_) (fun b76 => ?_)
        · rw [zB_0] at b76
          refine g_iconst (v := 0) h dX3_ends_83 (by decide) ?_
          refine g_istore h dX3_ends_84 (by decide) ?_
          refine g_aload_n (i := 0) h dX3_ends_86 rfl rfl ?_
          refine g_get (v := .int al) h f_X3_25_3 (x_rk hX) rfl dX3_ends_87 ?_
          refine g_iconst (v := (-1)) h dX3_ends_90 (by decide) ?_
          refine g_icmp_eq (tgt := 105) h dX3_ends_91 (by decide) (fun b91 => ?_) (fun b91 => ?_)
          · refine g_iconst (v := 0) h dX3_ends_105 (by decide) ?_
            refine g_istore h dX3_ends_106 (by decide) ?_
            refine g_iload h dX3_ends_108 rfl ?_
            refine g_if_ne (tgt := 119) h dX3_ends_110 (by decide) (fun _bz => absurd _bz (by decide)) (fun _bz => ?_)
            refine g_iload h dX3_ends_113 rfl ?_
            refine g_if_ne (tgt := 119) h dX3_ends_115 (by decide) (fun _bz => absurd _bz (by decide)) (fun _bz => ?_)
            exact g_vret h ⟨rfl, by simp only [rL, rV, rH, rF, List.set, b20, b69, b76, b91, decide_true, decide_false, Bool.not_true, Bool.not_false, Bool.true_and, Bool.false_and, Bool.and_true, Bool.and_false, Bool.or_true, Bool.true_or, Bool.or_false, Bool.false_or, if_true, if_false, Bool.false_eq_true] at hX ⊢; exact hX⟩ (Nat.le_refl _) (Nat.le_refl _) dX3_ends_118
          · refine g_aload_n (i := 0) h dX3_ends_94 rfl rfl ?_
            refine g_get (v := .int (zB ab)) h f_X3_39_3 (x_rk hX) rfl dX3_ends_95 ?_
            refine g_if_eq (tgt := 105) h dX3_ends_98 (by decide) (fun b98 => ?_) (fun b98 => ?_)
            · rw [zB_0] at b98
              refine g_iconst (v := 0) h dX3_ends_105 (by decide) ?_
              refine g_istore h dX3_ends_106 (by decide) ?_
              refine g_iload h dX3_ends_108 rfl ?_
              refine g_if_ne (tgt := 119) h dX3_ends_110 (by decide) (fun _bz => absurd _bz (by decide)) (fun _bz => ?_)
              refine g_iload h dX3_ends_113 rfl ?_
              refine g_if_ne (tgt := 119) h dX3_ends_115 (by decide) (fun _bz => absurd _bz (by decide)) (fun _bz => ?_)
              exact g_vret h ⟨rfl, by simp only [rL, rV, rH, rF, List.set, b20, b69, b76, b91, b98, decide_true, decide_false, Bool.not_true, Bool.not_false, Bool.true_and, Bool.false_and, Bool.and_true, Bool.and_false, Bool.or_true, Bool.true_or, Bool.or_false, Bool.false_or, if_true, if_false, Bool.false_eq_true] at hX ⊢; exact hX⟩ (Nat.le_refl _) (Nat.le_refl _) dX3_ends_118
            · rw [zB_n0] at b98
              refine g_iconst (v := 1) h dX3_ends_101 (by decide) ?_
              refine g_goto (tgt := 106) h dX3_ends_102 (by decide) ?_
              refine g_istore h dX3_ends_106 (by decide) ?_
              refine g_iload h dX3_ends_108 rfl ?_
              refine g_if_ne (tgt := 119) h dX3_ends_110 (by decide) (fun _bz => absurd _bz (by decide)) (fun _bz => ?_)
              refine g_iload h dX3_ends_113 rfl ?_
              refine g_if_ne (tgt := 119) h dX3_ends_115 (by decide) (fun _bz => ?_) (fun _bz => absurd _bz (by decide))
              refine g_aload_n (i := 0) h dX3_ends_119 rfl rfl ?_
              refine g_lconst (v := 0) h dX3_ends_120 (by decide) ?_
              refine x_putS1 (j := 4) h hX fp_X3_31_3 (Nat.le_of_ble_eq_true rfl) rfl rfl dX3_ends_121 (fun c hX => ?_)
              refine g_aload_n (i := 0) h dX3_ends_124 rfl rfl ?_
              refine g_iload h dX3_ends_125 rfl ?_
              refine g_if_eq (tgt := 149) h dX3_ends_127 (by decide) (fun _bz => ?_) (fun _bz => absurd _bz (by decide))
              refine g_iload h dX3_ends_149 rfl ?_
              refine g_if_eq (tgt := 161) h dX3_ends_151 (by decide) (fun _bz => ?_) (fun _bz => absurd _bz (by decide))
              refine g_aload_n (i := 0) h dX3_ends_161 rfl rfl ?_
              refine g_get (v := .int al) h f_X3_25_3 (x_rk hX) rfl dX3_ends_162 ?_
              refine x_putS1 (j := 3) h hX fp_X3_28_3 (Nat.le_of_ble_eq_true rfl) rfl rfl dX3_ends_165 (fun c hX => ?_)
              exact g_vret h ⟨rfl, by simp only [rL, rV, rH, rF, List.set, b20, b69, b76, b91, b98, decide_true, decide_false, Bool.not_true, Bool.not_false, Bool.true_and, Bool.false_and, Bool.and_true, Bool.and_false, Bool.or_true, Bool.true_or, Bool.or_false, Bool.false_or, if_true, if_false, Bool.false_eq_true] at hX ⊢; exact hX⟩ (Nat.le_refl _) (Nat.le_refl _) dX3_ends_168
        · rw [zB_n0] at b76
          refine g_iconst (v := 1) h dX3_ends_79 (by decide) ?_
          refine g_goto (tgt := 84) h dX3_ends_80 (by decide) ?_
          refine g_istore h dX3_ends_84 (by decide) ?_
          refine g_aload_n (i := 0) h dX3_ends_86 rfl rfl ?_
          refine g_get (v := .int al) h f_X3_25_3 (x_rk hX) rfl dX3_ends_87 ?_
          refine g_iconst (v := (-1)) h dX3_ends_90 (by decide) ?_
          refine g_icmp_eq (tgt := 105) h dX3_ends_91 (by decide) (fun b91 => ?_) (fun b91 => ?_)
          · refine g_iconst (v := 0) h dX3_ends_105 (by decide) ?_
            refine g_istore h dX3_ends_106 (by decide) ?_
            refine g_iload h dX3_ends_108 rfl ?_
            refine g_if_ne (tgt := 119) h dX3_ends_110 (by decide) (fun _bz => ?_) (fun _bz => absurd _bz (by decide))
            refine g_aload_n (i := 0) h dX3_ends_119 rfl rfl ?_
            refine g_lconst (v := 0) h dX3_ends_120 (by decide) ?_
            refine x_putS1 (j := 4) h hX fp_X3_31_3 (Nat.le_of_ble_eq_true rfl) rfl rfl dX3_ends_121 (fun c hX => ?_)
            refine g_aload_n (i := 0) h dX3_ends_124 rfl rfl ?_
            refine g_iload h dX3_ends_125 rfl ?_
            refine g_if_eq (tgt := 149) h dX3_ends_127 (by decide) (fun _bz => absurd _bz (by decide)) (fun _bz => ?_)
            refine g_iload h dX3_ends_130 rfl ?_
            refine g_if_eq (tgt := 149) h dX3_ends_132 (by decide) (fun _bz => ?_) (fun _bz => absurd _bz (by decide))
            refine g_iload h dX3_ends_149 rfl ?_
            refine g_if_eq (tgt := 161) h dX3_ends_151 (by decide) (fun _bz => absurd _bz (by decide)) (fun _bz => ?_)
            refine g_aload_n (i := 0) h dX3_ends_154 rfl rfl ?_
            refine g_get (v := .int o) h f_X3_22_3 (x_rk hX) rfl dX3_ends_155 ?_
            refine g_goto (tgt := 165) h dX3_ends_158 (by decide) ?_
            refine x_putS1 (j := 3) h hX fp_X3_28_3 (Nat.le_of_ble_eq_true rfl) rfl rfl dX3_ends_165 (fun c hX => ?_)
            exact g_vret h ⟨rfl, by simp only [rL, rV, rH, rF, List.set, b20, b69, b76, b91, decide_true, decide_false, Bool.not_true, Bool.not_false, Bool.true_and, Bool.false_and, Bool.and_true, Bool.and_false, Bool.or_true, Bool.true_or, Bool.or_false, Bool.false_or, if_true, if_false, Bool.false_eq_true] at hX ⊢; exact hX⟩ (Nat.le_refl _) (Nat.le_refl _) dX3_ends_168
          · refine g_aload_n (i := 0) h dX3_ends_94 rfl rfl ?_
            refine g_get (v := .int (zB ab)) h f_X3_39_3 (x_rk hX) rfl dX3_ends_95 ?_
            refine g_if_eq (tgt := 105) h dX3_ends_98 (by decide) (fun b98 => ?_) (fun b98 => ?_)
            · rw [zB_0] at b98
              refine g_iconst (v := 0) h dX3_ends_105 (by decide) ?_
              refine g_istore h dX3_ends_106 (by decide) ?_
              refine g_iload h dX3_ends_108 rfl ?_
              refine g_if_ne (tgt := 119) h dX3_ends_110 (by decide) (fun _bz => ?_) (fun _bz => absurd _bz (by decide))
              refine g_aload_n (i := 0) h dX3_ends_119 rfl rfl ?_
              refine g_lconst (v := 0) h dX3_ends_120 (by decide) ?_
              refine x_putS1 (j := 4) h hX fp_X3_31_3 (Nat.le_of_ble_eq_true rfl) rfl rfl dX3_ends_121 (fun c hX => ?_)
              refine g_aload_n (i := 0) h dX3_ends_124 rfl rfl ?_
              refine g_iload h dX3_ends_125 rfl ?_
              refine g_if_eq (tgt := 149) h dX3_ends_127 (by decide) (fun _bz => absurd _bz (by decide)) (fun _bz => ?_)
              refine g_iload h dX3_ends_130 rfl ?_
              refine g_if_eq (tgt := 149) h dX3_ends_132 (by decide) (fun _bz => ?_) (fun _bz => absurd _bz (by decide))
              refine g_iload h dX3_ends_149 rfl ?_
              refine g_if_eq (tgt := 161) h dX3_ends_151 (by decide) (fun _bz => absurd _bz (by decide)) (fun _bz => ?_)
              refine g_aload_n (i := 0) h dX3_ends_154 rfl rfl ?_
              refine g_get (v := .int o) h f_X3_22_3 (x_rk hX) rfl dX3_ends_155 ?_
              refine g_goto (tgt := 165) h dX3_ends_158 (by decide) ?_
              refine x_putS1 (j := 3) h hX fp_X3_28_3 (Nat.le_of_ble_eq_true rfl) rfl rfl dX3_ends_165 (fun c hX => ?_)
              exact g_vret h ⟨rfl, by simp only [rL, rV, rH, rF, List.set, b20, b69, b76, b91, b98, decide_true, decide_false, Bool.not_true, Bool.not_false, Bool.true_and, Bool.false_and, Bool.and_true, Bool.and_false, Bool.or_true, Bool.true_or, Bool.or_false, Bool.false_or, if_true, if_false, Bool.false_eq_true] at hX ⊢; exact hX⟩ (Nat.le_refl _) (Nat.le_refl _) dX3_ends_168
            · rw [zB_n0] at b98
              refine g_iconst (v := 1) h dX3_ends_101 (by decide) ?_
              refine g_goto (tgt := 106) h dX3_ends_102 (by decide) ?_
              refine g_istore h dX3_ends_106 (by decide) ?_
              refine g_iload h dX3_ends_108 rfl ?_
              refine g_if_ne (tgt := 119) h dX3_ends_110 (by decide) (fun _bz => ?_) (fun _bz => absurd _bz (by decide))
              refine g_aload_n (i := 0) h dX3_ends_119 rfl rfl ?_
              refine g_lconst (v := 0) h dX3_ends_120 (by decide) ?_
              refine x_putS1 (j := 4) h hX fp_X3_31_3 (Nat.le_of_ble_eq_true rfl) rfl rfl dX3_ends_121 (fun c hX => ?_)
              refine g_aload_n (i := 0) h dX3_ends_124 rfl rfl ?_
              refine g_iload h dX3_ends_125 rfl ?_
              refine g_if_eq (tgt := 149) h dX3_ends_127 (by decide) (fun _bz => absurd _bz (by decide)) (fun _bz => ?_)
              refine g_iload h dX3_ends_130 rfl ?_
              refine g_if_eq (tgt := 149) h dX3_ends_132 (by decide) (fun _bz => absurd _bz (by decide)) (fun _bz => ?_)
              refine g_aload_n (i := 0) h dX3_ends_135 rfl rfl ?_
              refine g_get (v := .int o) h f_X3_22_3 (x_rk hX) rfl dX3_ends_136 ?_
              refine g_aload_n (i := 0) h dX3_ends_139 rfl rfl ?_
              refine g_get (v := .int al) h f_X3_25_3 (x_rk hX) rfl dX3_ends_140 ?_
              refine g_mmin h q1515 (Nat.le_of_ble_eq_true rfl) ⟨Nat.le_of_ble_eq_true rfl, Nat.le_of_ble_eq_true rfl⟩ ⟨Nat.le_refl _, Nat.le_refl _⟩ dX3_ends_143 ?_
              refine g_goto (tgt := 165) h dX3_ends_146 (by decide) ?_
              refine x_putS1 (j := 3) h hX fp_X3_28_3 (Nat.le_of_ble_eq_true rfl) rfl rfl dX3_ends_165 (fun c hX => ?_)
              exact g_vret h ⟨rfl, by simp only [rL, rV, rH, rF, List.set, b20, b69, b76, b91, b98, decide_true, decide_false, Bool.not_true, Bool.not_false, Bool.true_and, Bool.false_and, Bool.and_true, Bool.and_false, Bool.or_true, Bool.true_or, Bool.or_false, Bool.false_or, if_true, if_false, Bool.false_eq_true] at hX ⊢; exact hX⟩ (Nat.le_refl _) (Nat.le_refl _) dX3_ends_168
    · intro k hk1 ih c hX
      refine g_iload h dX3_ends_14 rfl ?_
      refine g_aload_n (i := 0) h dX3_ends_16 rfl rfl ?_
      refine g_get (v := .int (nI n)) h f_X3_18_3 (x_rk hX) rfl dX3_ends_17 ?_
      refine g_icmp_ge (tgt := 59) h dX3_ends_20 (by decide) (fun _bz => absurd _bz (nI_ge hk1 (by omega))) (fun b20 => ?_)
      refine g_aload_n (i := 0) h dX3_ends_23 rfl rfl ?_
      refine g_aload_n (i := 0) h dX3_ends_24 rfl rfl ?_
      refine g_get (v := .long (rT (U 0) (U 1) b k)) h f_X3_31_3 (x_rk hX) rfl dX3_ends_25 ?_
      refine g_aload_n (i := 0) h dX3_ends_28 rfl rfl ?_
      refine g_get (v := .ref (ad 6 0)) h f_X3_9_3 (x_rk hX) rfl dX3_ends_29 ?_
      refine g_iload h dX3_ends_32 rfl ?_
      refine g_laldN h (hX.1.at (k := 6) (i := 0) rfl) (by omega) (by decide) dX3_ends_34 ?_
      refine g_lmul h dX3_ends_35 ?_
      refine g_aload_n (i := 0) h dX3_ends_36 rfl rfl ?_
      refine g_get (v := .ref (ad 7 0)) h f_X3_15_3 (x_rk hX) rfl dX3_ends_37 ?_
      refine g_iload h dX3_ends_40 rfl ?_
      refine g_laldN h (hX.1.at (k := 7) (i := 0) rfl) (by omega) (by decide) dX3_ends_42 ?_
      refine g_ldiv h dX3_ends_43 (hV k hk1) ?_
      refine g_ldc2 (v := 1000000) h dX3_ends_44 q1513 ?_
      refine g_mminl h q1514 (Nat.le_of_ble_eq_true rfl) ⟨Nat.le_of_ble_eq_true rfl, Nat.le_of_ble_eq_true rfl⟩ ⟨Nat.le_refl _, Nat.le_refl _⟩ dX3_ends_47 ?_
      refine G.long (cap_min _) ?_
      refine x_putS1 (j := 4) h hX fp_X3_31_3 (Nat.le_of_ble_eq_true rfl) rfl rfl dX3_ends_50 (fun c hX => ?_)
      first | (with_reducible refine g_iincN h dX3_ends_53 rfl (by decide) ?_) | refine g_iinc1 h dX3_ends_53 rfl (by decide) ?_
      refine g_goto (tgt := 14) h dX3_ends_56 (by decide) ?_
      exact G.to (ih c hX) ⟨rfl, rfl, rfl, rfl, trivial⟩
  refine g_aload_n (i := 0) h dX3_ends_0 rfl rfl ?_
  refine g_lload_n (i := 1) h dX3_ends_1 rfl rfl ?_
  refine g_ldc2 (v := 1000000) h dX3_ends_2 q1513 ?_
  refine g_mminl h q1514 (Nat.le_of_ble_eq_true rfl) ⟨Nat.le_of_ble_eq_true rfl, Nat.le_of_ble_eq_true rfl⟩ ⟨Nat.le_refl _, Nat.le_refl _⟩ dX3_ends_5 ?_
  refine G.long (cap_min _) ?_
  refine x_putS1 (j := 4) h hX fp_X3_31_3 (Nat.le_of_ble_eq_true rfl) rfl rfl dX3_ends_8 (fun c hX => ?_)
  refine g_iconst (v := 0) h dX3_ends_11 (by decide) ?_
  refine g_istore h dX3_ends_12 (by decide) ?_
  exact G.to (loop 0 (Nat.zero_le _) c hX) ⟨rfl, rfl, rfl, rfl, trivial⟩
