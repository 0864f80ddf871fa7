/-! THE COMPONENT: Compares -/
set_option maxRecDepth 100000
def cVal (what : Int32) (v : Nat → Int32) : Int32 := if what = 0 then v 1 else if what = 1 then v 2 else if what = 2 then v 4 else v 5
def cCmp (sign x n : Int32) : Bool := if sign = 61 then decide (x = n) else if sign = 60 then !decide (n ≤ x) else !decide (x ≤ n)
theorem ct_cmpHolds {l : Launch} {g : gGP} (hk : gK l g) {c : gLH} {a p ra : Nat} {v : Nat → Int32} (hP : pW c p v) {what sign num : Int32} (hC : c a = some (ra, .inr (20, [.int what, .int sign, .int num]))) : Ct l g yX20_holds hwX20_holds 0 0 [.ref a, .ref p] c (0) (0) (pIp (zB (cCmp sign (cVal what v) num)) c) := by
  refine Ct.intro hk hcX20_holds (by decide +kernel) (Nat.le_of_ble_eq_true rfl) (fun φ h => ?_)
  obtain ⟨rp, w, rt, ci, nu, p1, p2, hp, hw, hci, hbk⟩ := hP
  have tail : ∀ x : Int32, x = cVal what v → G φ (gQ φ (pIp (zB (cCmp sign (cVal what v) num)) c) 0 0) 54 [(0, .ref a), (1, .ref p)] [.int x] c 0 0 := by
    intro x hx
    rw [← hx]
    refine g_istore_n (i := 2) h dX20_holds_54 rfl (by decide) ?_
    refine g_aload_n (i := 0) h dX20_holds_55 rfl rfl ?_
    refine g_get (v := .int sign) h f_X20_13_20 hC rfl dX20_holds_56 ?_
    refine g_bipush (v := 61) h dX20_holds_59 (by decide) ?_
    refine g_icmp_ne (tgt := 80) h dX20_holds_61 (by decide) (fun b61 => ?_) (fun b61 => ?_)
    · refine g_aload_n (i := 0) h dX20_holds_80 rfl rfl ?_
      refine g_get (v := .int sign) h f_X20_13_20 hC rfl dX20_holds_81 ?_
      refine g_bipush (v := 60) h dX20_holds_84 (by decide) ?_
      refine g_icmp_ne (tgt := 105) h dX20_holds_86 (by decide) (fun b86 => ?_) (fun b86 => ?_)
      · refine g_iload_n (i := 2) h dX20_holds_105 rfl rfl ?_
        refine g_aload_n (i := 0) h dX20_holds_106 rfl rfl ?_
        refine g_get (v := .int num) h f_X20_16_20 hC rfl dX20_holds_107 ?_
        refine g_icmp_le (tgt := 117) h dX20_holds_110 (by decide) (fun b110 => ?_) (fun b110 => ?_)
        · refine g_iconst (v := 0) h dX20_holds_117 (by decide) ?_
          exact g_zret h ⟨by simp [cCmp, b61, b86, b110, zB], rfl⟩ (Nat.le_refl _) (Nat.le_refl _) (by first | rfl | exact zB_nar _) dX20_holds_118
        · refine g_iconst (v := 1) h dX20_holds_113 (by decide) ?_
          refine g_goto (tgt := 118) h dX20_holds_114 (by decide) ?_
          exact g_zret h ⟨by simp [cCmp, b61, b86, b110, zB], rfl⟩ (Nat.le_refl _) (Nat.le_refl _) (by first | rfl | exact zB_nar _) dX20_holds_118
      · refine g_iload_n (i := 2) h dX20_holds_89 rfl rfl ?_
        refine g_aload_n (i := 0) h dX20_holds_90 rfl rfl ?_
        refine g_get (v := .int num) h f_X20_16_20 hC rfl dX20_holds_91 ?_
        refine g_icmp_ge (tgt := 101) h dX20_holds_94 (by decide) (fun b94 => ?_) (fun b94 => ?_)
        · refine g_iconst (v := 0) h dX20_holds_101 (by decide) ?_
          refine g_goto (tgt := 118) h dX20_holds_102 (by decide) ?_
          exact g_zret h ⟨by simp [cCmp, b61, b86, b94, zB], rfl⟩ (Nat.le_refl _) (Nat.le_refl _) (by first | rfl | exact zB_nar _) dX20_holds_118
        · refine g_iconst (v := 1) h dX20_holds_97 (by decide) ?_
          refine g_goto (tgt := 118) h dX20_holds_98 (by decide) ?_
          exact g_zret h ⟨by simp [cCmp, b61, b86, b94, zB], rfl⟩ (Nat.le_refl _) (Nat.le_refl _) (by first | rfl | exact zB_nar _) dX20_holds_118
    · refine g_iload_n (i := 2) h dX20_holds_64 rfl rfl ?_
      refine g_aload_n (i := 0) h dX20_holds_65 rfl rfl ?_
      refine g_get (v := .int num) h f_X20_16_20 hC rfl dX20_holds_66 ?_
      refine g_icmp_ne (tgt := 76) h dX20_holds_69 (by decide) (fun b69 => ?_) (fun b69 => ?_)
      · refine g_iconst (v := 0) h dX20_holds_76 (by decide) ?_
        refine g_goto (tgt := 118) h dX20_holds_77 (by decide) ?_
        exact g_zret h ⟨by simp [cCmp, b61, b69, zB], rfl⟩ (Nat.le_refl _) (Nat.le_refl _) (by first | rfl | exact zB_nar _) dX20_holds_118
      · refine g_iconst (v := 1) h dX20_holds_72 (by decide) ?_
        refine g_goto (tgt := 118) h dX20_holds_73 (by decide) ?_
        exact g_zret h ⟨by simp [cCmp, b61, b69, zB], rfl⟩ (Nat.le_refl _) (Nat.le_refl _) (by first | rfl | exact zB_nar _) dX20_holds_118
  refine g_aload_n (i := 0) h dX20_holds_0 rfl rfl ?_
  refine g_get (v := .int what) h f_X20_7_20 hC rfl dX20_holds_1 ?_
  refine g_if_ne (tgt := 17) h dX20_holds_4 (by decide) (fun b4 => ?_) (fun b4 => ?_)
  · refine g_aload_n (i := 0) h dX20_holds_17 rfl rfl ?_
    refine g_get (v := .int what) h f_X20_7_20 hC rfl dX20_holds_18 ?_
    refine g_iconst (v := 1) h dX20_holds_21 (by decide) ?_
    refine g_icmp_ne (tgt := 35) h dX20_holds_22 (by decide) (fun b22 => ?_) (fun b22 => ?_)
    · refine g_aload_n (i := 0) h dX20_holds_35 rfl rfl ?_
      refine g_get (v := .int what) h f_X20_7_20 hC rfl dX20_holds_36 ?_
      refine g_iconst (v := 2) h dX20_holds_39 (by decide) ?_
      refine g_icmp_ne (tgt := 50) h dX20_holds_40 (by decide) (fun b40 => ?_) (fun b40 => ?_)
      · refine g_aload_n (i := 1) h dX20_holds_50 rfl rfl ?_
        refine g_get (v := .int (v 5)) h f_X20_36_2 hp rfl dX20_holds_51 ?_
        refine G.int (y := cVal what v) (by simp [cVal, b4, b22, b40]) ?_
        exact G.to (tail _ rfl) ⟨rfl, rfl, trivial⟩
      · refine g_aload_n (i := 1) h dX20_holds_43 rfl rfl ?_
        refine g_get (v := .int (v 4)) h f_X20_33_2 hp rfl dX20_holds_44 ?_
        refine g_goto (tgt := 54) h dX20_holds_47 (by decide) ?_
        refine G.int (y := cVal what v) (by simp [cVal, b4, b22, b40]) ?_
        exact G.to (tail _ rfl) ⟨rfl, rfl, trivial⟩
    · refine g_aload_n (i := 1) h dX20_holds_25 rfl rfl ?_
      refine g_get (v := .ref w) h f_X20_19_2 hp rfl dX20_holds_26 ?_
      refine g_get (v := .int (v 2)) h (fT_X20_30 hci) hw rfl dX20_holds_29 ?_
      refine g_goto (tgt := 54) h dX20_holds_32 (by decide) ?_
      refine G.int (y := cVal what v) (by simp [cVal, b4, b22]) ?_
      exact G.to (tail _ rfl) ⟨rfl, rfl, trivial⟩
  · refine g_aload_n (i := 1) h dX20_holds_7 rfl rfl ?_
    refine g_get (v := .ref w) h f_X20_19_2 hp rfl dX20_holds_8 ?_
    refine g_get (v := .int (v 1)) h (fT_X20_25 hci) hw rfl dX20_holds_11 ?_
    refine g_goto (tgt := 54) h dX20_holds_14 (by decide) ?_
    refine G.int (y := cVal what v) (by simp [cVal, b4]) ?_
    exact G.to (tail _ rfl) ⟨rfl, rfl, trivial⟩
