/-! THE COMPONENT: change, the walk -/
set_option maxRecDepth 100000
def cN (L nl : Nat) : Nat := if 4 * nl = L then 2 * L else L
theorem cLn_cpy {A : Nat → Nat → Int32} {L : Nat} (h : 4 * ix (A 42 0) ≤ L) : va_cpy (cLn A) (fun _ => 0) 0 0 L = cLn A := by
  funext j
  unfold va_cpy
  split
  · rename_i q; rw [show 0 + (j - 0) = j by omega]
  · rename_i q; rw [cLn, if_neg (by omega)]
theorem cx_change {l : Launch} {g : gGP} (hk : gK l g) {c0 c : gLH} {ad cp fz : Nat → Nat → Nat} {md : Nat → Nat → Int32} {S : Nat → List Value} {U : Nat → Nat → Int64} {A : Nat → Nat → Int32} {B : Nat → Nat → Int64} (hX : CW c0 ad cp fz md S U A B c) (kind who : Int32) (sum : Int64) {nl : Nat} (hnl : A 42 0 = nI nl) (h2 : nl < 400000) (hL2 : 2 * cp 8 0 < 4000000) (hs : sum.toInt32.toInt64 = sum) : Ct l g yX1_change hwX1_change 1 40 [.ref (ad 0 0), .int kind, .int who, .long sum] c (cN (cp 8 0) nl - cp 8 0) (2 * (cN (cp 8 0) nl - cp 8 0)) (pV (fun c' => ∃ q, CW c0 (up2 ad 8 0 q) (up2 cp 8 0 (cN (cp 8 0) nl)) fz md S U (sLineA A nl kind who sum) (mB B 43 0 (B 43 0 + sum)) c')) := by
  refine Ct.intro hk hcX1_change (by decide +kernel) (Nat.le_of_ble_eq_true rfl) (fun φ h => ?_)
  have hci := hX.2
  have e42 : ix (A 42 0) = nl := by rw [hnl, ix_nI (by omega)]
  have tail : ∀ (ad1 cp1 : Nat → Nat → Nat) (c : gLH) (ce sl : Nat), CW c0 ad1 cp1 fz md S U A B c → 4 * nl + 4 ≤ cp1 8 0 → cp1 8 0 < 4000000 → (∀ c' : gLH, CW c0 ad1 cp1 fz md S U (sLineA A nl kind who sum) (mB B 43 0 (B 43 0 + sum)) c' → (fun c' => ∃ q, CW c0 (up2 ad 8 0 q) (up2 cp 8 0 (cN (cp 8 0) nl)) fz md S U (sLineA A nl kind who sum) (mB B 43 0 (B 43 0 + sum)) c') c') → ce ≤ cN (cp 8 0) nl - cp 8 0 → sl ≤ 2 * (cN (cp 8 0) nl - cp 8 0) → G φ (gQ φ (pV (fun c' => ∃ q, CW c0 (up2 ad 8 0 q) (up2 cp 8 0 (cN (cp 8 0) nl)) fz md S U (sLineA A nl kind who sum) (mB B 43 0 (B 43 0 + sum)) c')) (cN (cp 8 0) nl - cp 8 0) (2 * (cN (cp 8 0) nl - cp 8 0))) 47 [(0, .ref (ad1 0 0)), (1, .int kind), (2, .int who), (3, .long sum)] [] c ce sl := by
    intro ad1 cp1 c ce sl hX hr hr2 hp h1 h2
    refine g_aload_n (i := 0) h dX1_change_47 rfl rfl ?_
    refine c_get (k := 0) (i := 0) (fs := cXf ad1 A B) (v := .ref (ad1 8 0)) h hX.1 rfl f_X1_58_1 rfl dX1_change_48 ?_
    refine g_iconst (v := nI 4) h dX1_change_51 (by decide) ?_
    refine g_aload_n (i := 0) h dX1_change_52 rfl rfl ?_
    refine c_get (k := 0) (i := 0) (fs := cXf ad1 A B) (v := .int (A 42 0)) h hX.1 rfl f_X1_222_1 rfl dX1_change_53 ?_
    refine G.int hnl ?_
    first | (with_reducible refine g_imulN h dX1_change_56 ?_) | refine g_imul h dX1_change_56 ?_
    refine g_aload_n (i := 0) h dX1_change_57 rfl rfl ?_
    refine c_get (k := 0) (i := 0) (fs := cXf ad1 A B) (v := .int (A 32 0)) h hX.1 rfl f_X1_137_1 rfl dX1_change_58 ?_
    refine g_i2l h dX1_change_61 ?_
    refine c_last (k := 8) (i := 0) h hX.1 rfl (by omega) (by omega) dX1_change_62 (fun c hY => ?_)
    refine g_aload_n (i := 0) h dX1_change_63 rfl rfl ?_
    refine c_get (k := 0) (i := 0) (fs := cXf ad1 A B) (v := .ref (ad1 8 0)) h hY rfl f_X1_58_1 rfl dX1_change_64 ?_
    refine g_iconst (v := nI 4) h dX1_change_67 (by decide) ?_
    refine g_aload_n (i := 0) h dX1_change_68 rfl rfl ?_
    refine c_get (k := 0) (i := 0) (fs := cXf ad1 A B) (v := .int (A 42 0)) h hY rfl f_X1_222_1 rfl dX1_change_69 ?_
    refine G.int hnl ?_
    first | (with_reducible refine g_imulN h dX1_change_72 ?_) | refine g_imul h dX1_change_72 ?_
    refine g_iconst (v := nI 1) h dX1_change_73 (by decide) ?_
    first | (with_reducible refine g_iaddN h dX1_change_74 ?_) | refine g_iadd h dX1_change_74 ?_
    refine g_iload_n (i := 1) h dX1_change_75 rfl rfl ?_
    refine g_i2l h dX1_change_76 ?_
    refine c_last (k := 8) (i := 0) h hY (up2_s _ _ _ _) (by omega) (by omega) dX1_change_77 (fun c hY => ?_)
    rw [up2_up2] at hY
    refine g_aload_n (i := 0) h dX1_change_78 rfl rfl ?_
    refine c_get (k := 0) (i := 0) (fs := cXf ad1 A B) (v := .ref (ad1 8 0)) h hY rfl f_X1_58_1 rfl dX1_change_79 ?_
    refine g_iconst (v := nI 4) h dX1_change_82 (by decide) ?_
    refine g_aload_n (i := 0) h dX1_change_83 rfl rfl ?_
    refine c_get (k := 0) (i := 0) (fs := cXf ad1 A B) (v := .int (A 42 0)) h hY rfl f_X1_222_1 rfl dX1_change_84 ?_
    refine G.int hnl ?_
    first | (with_reducible refine g_imulN h dX1_change_87 ?_) | refine g_imul h dX1_change_87 ?_
    refine g_iconst (v := nI 2) h dX1_change_88 (by decide) ?_
    first | (with_reducible refine g_iaddN h dX1_change_89 ?_) | refine g_iadd h dX1_change_89 ?_
    refine g_iload_n (i := 2) h dX1_change_90 rfl rfl ?_
    refine g_i2l h dX1_change_91 ?_
    refine c_last (k := 8) (i := 0) h hY (up2_s _ _ _ _) (by omega) (by omega) dX1_change_92 (fun c hY => ?_)
    rw [up2_up2] at hY
    refine g_aload_n (i := 0) h dX1_change_93 rfl rfl ?_
    refine c_get (k := 0) (i := 0) (fs := cXf ad1 A B) (v := .ref (ad1 8 0)) h hY rfl f_X1_58_1 rfl dX1_change_94 ?_
    refine g_iconst (v := nI 4) h dX1_change_97 (by decide) ?_
    refine g_aload_n (i := 0) h dX1_change_98 rfl rfl ?_
    refine c_get (k := 0) (i := 0) (fs := cXf ad1 A B) (v := .int (A 42 0)) h hY rfl f_X1_222_1 rfl dX1_change_99 ?_
    refine G.int hnl ?_
    first | (with_reducible refine g_imulN h dX1_change_102 ?_) | refine g_imul h dX1_change_102 ?_
    refine g_iconst (v := nI 3) h dX1_change_103 (by decide) ?_
    first | (with_reducible refine g_iaddN h dX1_change_104 ?_) | refine g_iadd h dX1_change_104 ?_
    refine g_lload_n (i := 3) h dX1_change_105 rfl rfl ?_
    refine c_last (k := 8) (i := 0) h hY (up2_s _ _ _ _) (by omega) (by omega) dX1_change_106 (fun c hY => ?_)
    rw [up2_up2] at hY
    refine g_aload_n (i := 0) h dX1_change_107 rfl rfl ?_
    refine g_dup h dX1_change_108 rfl ?_
    refine c_get (k := 0) (i := 0) (fs := cXf ad1 A B) (v := .int (A 42 0)) h hY rfl f_X1_222_1 rfl dX1_change_109 ?_
    refine G.int hnl ?_
    refine g_iconst (v := nI 1) h dX1_change_112 (by decide) ?_
    first | (with_reducible refine g_iaddN h dX1_change_113 ?_) | refine g_iadd h dX1_change_113 ?_
    refine c_put (k := 0) (i := 0) (fs := cXf ad1 A B) h hY rfl fp_X1_222_1 (Nat.le_of_ble_eq_true rfl) rfl rfl dX1_change_114 (fun c hY => ?_)
    refine g_aload_n (i := 0) h dX1_change_117 rfl rfl ?_
    refine g_dup h dX1_change_118 rfl ?_
    refine c_get (k := 0) (i := 0) (fs := (cXf ad1 A B).set 16 (.int (nI (nl + 1)))) (v := .long (B 43 0)) h hY (up2_s _ _ _ _) f_X1_231_1 rfl dX1_change_119 ?_
    refine g_lload_n (i := 3) h dX1_change_122 rfl rfl ?_
    refine g_ladd h dX1_change_123 ?_
    refine c_put (k := 0) (i := 0) (fs := (cXf ad1 A B).set 16 (.int (nI (nl + 1)))) h hY (up2_s _ _ _ _) fp_X1_231_1 (Nat.le_of_ble_eq_true rfl) rfl rfl dX1_change_124 (fun c hY => ?_)
    rw [up2_up2] at hY
    exact g_vret h ⟨rfl, hp c ⟨by rw [cells_line kind who _ hnl (by omega) hs]; exact hY, CI_line kind who sum hX.2 (by omega) (by omega)⟩⟩ h1 h2 dX1_change_127
  by_cases hfull : 4 * nl = cp 8 0
  · have hcN : cN (cp 8 0) nl = 2 * cp 8 0 := if_pos hfull
    have h64 := hci.2.2.2.2
    refine g_iconst (v := nI 4) h dX1_change_0 (by decide) ?_
    refine g_aload_n (i := 0) h dX1_change_1 rfl rfl ?_
    refine g_get (v := .int (A 42 0)) h f_X1_222_1 hX.x rfl dX1_change_2 ?_
    refine G.int hnl ?_
    first | (with_reducible refine g_imulN h dX1_change_5 ?_) | refine g_imul h dX1_change_5 ?_
    refine g_aload_n (i := 0) h dX1_change_6 rfl rfl ?_
    refine g_get (v := .ref (ad 8 0)) h f_X1_58_1 hX.x rfl dX1_change_7 ?_
    refine g_alen (k := 2) h (by decide) (hX.1.at (k := 8) (i := 0) rfl) dX1_change_10 ?_
    refine g_icmp_ne (tgt := 47) h dX1_change_11 (by decide) (fun _bz => absurd _bz (fun q => q (by rw [hfull]))) (fun b11 => ?_)
    refine g_iconst (v := nI 2) h dX1_change_14 (by decide) ?_
    refine g_aload_n (i := 0) h dX1_change_15 rfl rfl ?_
    refine g_get (v := .ref (ad 8 0)) h f_X1_58_1 hX.x rfl dX1_change_16 ?_
    refine g_alen (k := 2) h (by decide) (hX.1.at (k := 8) (i := 0) rfl) dX1_change_19 ?_
    first | (with_reducible refine g_imulN h dX1_change_20 ?_) | refine g_imul h dX1_change_20 ?_
    refine g_newarr_long h (cR 8 0) q539 (by omega) (by show _ ≤ cN (cp 8 0) nl - cp 8 0; omega) (by show _ ≤ 2 * (cN (cp 8 0) nl - cp 8 0); omega) dX1_change_21 (fun q hq => ?_)
    have hqx : ad 0 0 ≠ q := fun e => by rw [← e, hX.x] at hq; cases hq
    have hq8 : ad 8 0 ≠ q := fun e => by rw [← e, hX.1.at (k := 8) (i := 0) rfl] at hq; cases hq
    refine g_astore h dX1_change_23 (by decide) ?_
    refine g_aload_n (i := 0) h dX1_change_25 rfl rfl ?_
    refine g_get (v := .ref (ad 8 0)) h f_X1_58_1 (by rw [va_up_n _ _ hqx]; exact hX.x) rfl dX1_change_26 ?_
    refine g_iconst (v := nI 0) h dX1_change_29 (by decide) ?_
    refine g_aload h dX1_change_30 rfl ?_
    refine g_iconst (v := nI 0) h dX1_change_32 (by decide) ?_
    refine g_aload_n (i := 0) h dX1_change_33 rfl rfl ?_
    refine g_get (v := .ref (ad 8 0)) h f_X1_58_1 (by rw [va_up_n _ _ hqx]; exact hX.x) rfl dX1_change_34 ?_
    refine g_alen (k := 2) h (by decide) (by rw [va_up_n _ _ hq8]; exact hX.1.at (k := 8) (i := 0) rfl) dX1_change_37 ?_
    refine g_copyl h q1532 q263 q262 q78 (by rw [va_up_n _ _ hq8]; exact hX.1.at (k := 8) (i := 0) rfl) (va_up_s _ _ _) (hX.1.sb (k := 8) (i := 0) rfl) (by omega) (by omega) (by omega) (by omega) (Nat.le_of_ble_eq_true rfl) ⟨Nat.le_of_ble_eq_true rfl, Nat.le_of_ble_eq_true rfl⟩ dX1_change_38 ?_
    rw [va_up_up, cLn_cpy (by omega)]
    refine g_aload_n (i := 0) h dX1_change_41 rfl rfl ?_
    refine g_aload h dX1_change_42 rfl ?_
    refine g_put h fp_X1_58_1 (by rw [va_up_n _ _ hqx]; exact hX.x) (hX.1.sb (k := 0) (i := 0) rfl) (Nat.le_of_ble_eq_true rfl) rfl rfl dX1_change_44 ?_
    have hG := hX.grow (L := 2 * cp 8 0) hq (by omega) (by omega) (by omega)
    refine G.to (tail (up2 ad 8 0 q) (up2 cp 8 0 (2 * cp 8 0)) _ _ _ hG (by rw [up2_s]; omega) (by rw [up2_s]; omega) (fun c' hc => ⟨q, by rw [hcN]; exact hc⟩) (by omega) (by omega)) ⟨rfl, rfl, rfl, rfl, trivial⟩
  · have hcN : cN (cp 8 0) nl = cp 8 0 := if_neg hfull
    have h4 := hci.2.2.2.1
    have hlt := hci.2.2.2.2.2
    rw [e42] at h4
    refine g_iconst (v := nI 4) h dX1_change_0 (by decide) ?_
    refine g_aload_n (i := 0) h dX1_change_1 rfl rfl ?_
    refine g_get (v := .int (A 42 0)) h f_X1_222_1 hX.x rfl dX1_change_2 ?_
    refine G.int hnl ?_
    first | (with_reducible refine g_imulN h dX1_change_5 ?_) | refine g_imul h dX1_change_5 ?_
    refine g_aload_n (i := 0) h dX1_change_6 rfl rfl ?_
    refine g_get (v := .ref (ad 8 0)) h f_X1_58_1 hX.x rfl dX1_change_7 ?_
    refine g_alen (k := 2) h (by decide) (hX.1.at (k := 8) (i := 0) rfl) dX1_change_10 ?_
    refine g_icmp_ne (tgt := 47) h dX1_change_11 (by decide) (fun b11 => ?_) (fun _bz => absurd _bz (fun q => hfull (nI_inj (by omega) (by omega) (by simpa using q))))
    refine G.to (tail ad cp _ _ _ hX (by omega) (by omega) (fun c' hc => ⟨ad 8 0, by rw [hcN, up2_id, up2_id]; exact hc⟩) (by omega) (by omega)) ⟨rfl, rfl, rfl, rfl, trivial⟩
