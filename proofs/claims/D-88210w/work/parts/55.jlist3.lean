/-! JDK: java.util.ArrayList, clear -/
set_option maxRecDepth 100000
theorem ct_lclear {l : Launch} {g : gGP} (hk : gK l g) {c : gLH} {a d cap ra rd : Nat} {es : List Nat} (hra : ra < gSB) (hrd : rd < gSB) (hL : gAL c a d cap ra rd es) : Ct l g yJ2_clear hwJ2_clear 0 0 [.ref a] c (0) (0) (pV (fun c' => gAL c' a d cap ra rd [] ∧ gFrm c c' a d)) := by
  refine Ct.intro hk hcJ2_clear (by decide +kernel) (Nat.le_of_ble_eq_true rfl) (fun φ h => ?_)
  have hne := hL.ne
  obtain ⟨⟨m0, hc⟩, hd, hle, hcap⟩ := hL
  have loop : ∀ k, k ≤ es.length → ∀ (c1 : gLH) (m1 : Int32), c1 a = some (ra, .inr (31, [.int m1, .ref d, .int (nI 0)])) → c1 d = some (rd, gRefs cap (fun i => if i < k then none else es[i]?)) → gFrm c c1 a d → G φ (gQ φ (pV (fun c' => gAL c' a d cap ra rd [] ∧ gFrm c c' a d)) 0 0) 27 [(0, .ref a), (1, .ref d), (2, .int (nI es.length)), (3, .int (nI k))] [] c1 0 0 := by
    refine gloop ?_ ?_
    · intro c1 m1 hc1 hd1 hfr
      refine g_iload_n (i := 3) h dJ2_clear_27 rfl rfl ?_
      refine g_iload_n (i := 2) h dJ2_clear_28 rfl rfl ?_
      refine g_icmp_ge (tgt := 42) h dJ2_clear_29 (by decide) (fun b29 => ?_) (fun _bz => absurd _bz (not_not_intro ((nI_leI (by omega) (by omega)).mpr (Nat.le_refl _))))
      exact g_vret h ⟨rfl, ⟨⟨m1, hc1⟩, by rw [hd1]; congr 3; funext i; by_cases hi : i < es.length; simp [hi]; simp [hi, List.getElem?_eq_none (Nat.le_of_not_lt hi)], Nat.zero_le _, hcap⟩, hfr⟩ (Nat.le_refl _) (Nat.le_refl _) dJ2_clear_42
    · intro k hk ih c1 m1 hc1 hd1 hfr
      have fk : va_up (fun i => if i < k then none else es[i]?) k none = (fun i => if i < (k + 1) then none else es[i]?) := by
        funext i
        unfold va_up
        by_cases e : i = k
        · subst e; simp
        · rw [if_neg e]
          by_cases e2 : i < k
          · simp [e2, Nat.lt_succ_of_lt e2]
          · have : ¬ i < k + 1 := by omega
            simp [e2, this]
      refine g_iload_n (i := 3) h dJ2_clear_27 rfl rfl ?_
      refine g_iload_n (i := 2) h dJ2_clear_28 rfl rfl ?_
      refine g_icmp_ge (tgt := 42) h dJ2_clear_29 (by decide) (fun _bz => absurd _bz (fun q => absurd ((nI_leI (by omega) (by omega)).mp q) (by omega))) (fun b29 => ?_)
      refine g_aload_n (i := 1) h dJ2_clear_32 rfl rfl ?_
      refine g_iload_n (i := 3) h dJ2_clear_33 rfl rfl ?_
      refine g_null h dJ2_clear_34 ?_
      refine g_aastNull h hd1 hrd (by omega) (by omega) dJ2_clear_35 ?_
      first | (with_reducible refine g_iincN h dJ2_clear_36 rfl (by decide) ?_) | refine g_iinc1 h dJ2_clear_36 rfl (by decide) ?_
      refine g_goto (tgt := 27) h dJ2_clear_39 (by decide) ?_
      refine G.to (ih _ m1 (by rw [va_up_n _ _ hne]; exact hc1) (by rw [va_up_s, fk]) (fun b r e hb hba hbd => by rw [va_up_n _ _ hbd]; exact hfr b r e hb hba hbd)) ⟨rfl, rfl, rfl, rfl, trivial⟩
  refine g_aload_n (i := 0) h dJ2_clear_0 rfl rfl ?_
  refine g_dup h dJ2_clear_1 rfl ?_
  refine g_get h f_J2_63_31 hc rfl dJ2_clear_2 ?_
  refine g_iconst (v := 1) h dJ2_clear_5 (by decide) ?_
  first | (with_reducible refine g_iaddN h dJ2_clear_6 ?_) | refine g_iadd h dJ2_clear_6 ?_
  refine g_put h fp_J2_63_31 hc hra (Nat.le_of_ble_eq_true rfl) rfl rfl dJ2_clear_7 ?_
  refine g_aload_n (i := 0) h dJ2_clear_10 rfl rfl ?_
  refine g_get h f_J2_9_31 (va_up_s _ _ _) rfl dJ2_clear_11 ?_
  refine g_astore_n (i := 1) h dJ2_clear_14 rfl (by decide) ?_
  refine g_aload_n (i := 0) h dJ2_clear_15 rfl rfl ?_
  refine g_get h f_J2_48_31 (va_up_s _ _ _) rfl dJ2_clear_16 ?_
  refine g_istore_n (i := 2) h dJ2_clear_19 rfl (by decide) ?_
  refine g_aload_n (i := 0) h dJ2_clear_20 rfl rfl ?_
  refine g_iconst (v := nI 0) h dJ2_clear_21 (by decide) ?_
  refine g_dup_x1 h dJ2_clear_22 rfl rfl ?_
  refine g_put h fp_J2_48_31 (va_up_s _ _ _) hra (Nat.le_of_ble_eq_true rfl) rfl rfl dJ2_clear_23 ?_
  refine g_istore_n (i := 3) h dJ2_clear_26 rfl (by decide) ?_
  exact G.to (loop 0 (Nat.zero_le _) _ _ (va_up_s _ _ _) (by rw [va_up_n _ _ (Ne.symm hne), va_up_n _ _ (Ne.symm hne), hd]; simp) (fun b r e hb hba hbd => by rw [va_up_n _ _ hba, va_up_n _ _ hba]; exact hb)) ⟨rfl, rfl, rfl, rfl, trivial⟩
