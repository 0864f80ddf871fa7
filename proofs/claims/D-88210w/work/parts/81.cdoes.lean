/-! THE COMPONENT: clauses that do -/
set_option maxRecDepth 100000
section CRV
variable {φ : gFx} {Q : State → Prop} {pc : Nat} {lv : List (Nat × Value)} {st : List Value} {ce sl : Nat} {l : Launch} {g : gGP} {R : Room} {cc : ByteArray} {nL : Nat} {own mn : String} {ret : Option FieldType} {tbl : List (Nat × Nat × Nat × Nat)} {idx : Nat} {c0 c : gLH} {ad cp fz : Nat → Nat → Nat} {md : Nat → Nat → Int32} {S : Nat → List Value} {U : Nat → Nat → Int64} {A : Nat → Nat → Int32} {B : Nat → Nat → Int64}
theorem x_rk {L : List Value} (hX : CW c0 ad cp fz md (va_up S 1 L) U A B c) : c (ad 5 0) = some (cR 5 0, .inr (3, .ref (ad 6 0) :: .ref (ad 7 0) :: L)) := by
  have hcell : cells ad cp fz md (va_up S 1 L) U A B 5 0 = some (.inr (3, .ref (ad 6 0) :: .ref (ad 7 0) :: L)) := by
    show some (Sum.inr (3, Value.ref (ad 6 0) :: Value.ref (ad 7 0) :: va_up S 1 L 1)) = _
    rw [va_up_s]
  exact hX.1.at hcell
theorem x_lastU0 (h : gOK φ l g R cc nL own mn ret tbl) (hX : CW c0 ad cp fz md S U A B c) {j : Nat} {v : Int64} (hj : j < 40) (hd : decode cc pc = .ok (.lastore, 1)) (kk : ∀ c : gLH, CW c0 ad cp fz md S (va_up U 0 (vp_updL (U 0) j v)) A B c → G φ Q (pc + 1) lv st c ce sl) : G φ Q pc lv (.long v :: .int (nI j) :: .ref (ad 6 0) :: st) c ce sl :=
  g_lastN h (hX.1.at (k := 6) (i := 0) rfl) (hX.1.sb (k := 6) (i := 0) rfl) hj (by decide) hd (kk _ ⟨by rw [cells_U0]; exact hX.1.set (k := 6) (i := 0) rfl, hX.2⟩)
theorem x_lastU1 (h : gOK φ l g R cc nL own mn ret tbl) (hX : CW c0 ad cp fz md S U A B c) {j : Nat} {v : Int64} (hj : j < 40) (hd : decode cc pc = .ok (.lastore, 1)) (kk : ∀ c : gLH, CW c0 ad cp fz md S (va_up U 1 (vp_updL (U 1) j v)) A B c → G φ Q (pc + 1) lv st c ce sl) : G φ Q pc lv (.long v :: .int (nI j) :: .ref (ad 7 0) :: st) c ce sl :=
  g_lastN h (hX.1.at (k := 7) (i := 0) rfl) (hX.1.sb (k := 7) (i := 0) rfl) hj (by decide) hd (kk _ ⟨by rw [cells_U1]; exact hX.1.set (k := 7) (i := 0) rfl, hX.2⟩)
end CRV
theorem cx_freeDoes {l : Launch} {g : gGP} (hk : gK l g) {c0 c : gLH} {ad cp fz : Nat → Nat → Nat} {md : Nat → Nat → Int32} {S : Nat → List Value} {U : Nat → Nat → Int64} {A : Nat → Nat → Int32} {B : Nat → Nat → Int64} {n : Nat} {o al ln : Int32} {t : Int64} {hb ab : Bool} (hX : CW c0 ad cp fz md (va_up S 1 (rF (nI n) o al ln t hb ab)) U A B c) {a : Nat} {num : Int32} {cd : Value} (hC : c0 a = some (gT, .inr (9, [.int num, cd]))) : Ct l g yX9_does hwX9_does 0 0 [.ref a, .ref (ad 5 0), .ref (ad 4 0)] c (0) (0) (pI 1 (CW c0 ad cp fz md (va_up S 1 (rF (nI n) o al num t hb ab)) U A B)) := by
  refine Ct.intro hk hcX9_does (by decide +kernel) (Nat.le_of_ble_eq_true rfl) (fun φ h => ?_)
  refine g_aload_n (i := 1) h dX9_does_0 rfl rfl ?_
  refine g_aload_n (i := 0) h dX9_does_1 rfl rfl ?_
  refine g_get (v := .int num) h f_X9_7_9 (hX.1.frz hC gT_core) rfl dX9_does_2 ?_
  refine x_putS1 (j := 3) h hX fp_X9_13_3 (Nat.le_of_ble_eq_true rfl) rfl rfl dX9_does_5 (fun c hX => ?_)
  refine g_iconst (v := 1) h dX9_does_8 (by decide) ?_
  exact g_zret h ⟨rfl, hX⟩ (Nat.le_refl _) (Nat.le_refl _) (by first | rfl | exact zB_nar _) dX9_does_9
theorem cx_timesDoes {l : Launch} {g : gGP} (hk : gK l g) {c0 c : gLH} {ad cp fz : Nat → Nat → Nat} {md : Nat → Nat → Int32} {S : Nat → List Value} {U : Nat → Nat → Int64} {A : Nat → Nat → Int32} {B : Nat → Nat → Int64} {n : Nat} {o al ln : Int32} {t : Int64} {hb ab : Bool} (hX : CW c0 ad cp fz md (va_up S 1 (rF (nI n) o al ln t hb ab)) U A B c) {a : Nat} {num : Int32} {up by_ : Int64} {cd : Value} (hn : n < 40) (hC : c0 a = some (gT, .inr (13, [.int num, cd, .long up, .long by_]))) : Ct l g yX13_does hwX13_does 0 0 [.ref a, .ref (ad 5 0), .ref (ad 4 0)] c (0) (0) (pI 0 (CW c0 ad cp fz md (va_up S 1 (rF (nI (n + 1)) o al ln t hb ab)) (va_up (va_up U 0 (vp_updL (U 0) n up)) 1 (vp_updL (U 1) n by_)) A B)) := by
  refine Ct.intro hk hcX13_does (by decide +kernel) (Nat.le_of_ble_eq_true rfl) (fun φ h => ?_)
  refine g_aload_n (i := 1) h dX13_does_0 rfl rfl ?_
  refine g_get (v := .ref (ad 6 0)) h f_X13_16_3 (x_rk hX) rfl dX13_does_1 ?_
  refine g_aload_n (i := 1) h dX13_does_4 rfl rfl ?_
  refine g_get (v := .int (nI n)) h f_X13_21_3 (x_rk hX) rfl dX13_does_5 ?_
  refine g_aload_n (i := 0) h dX13_does_8 rfl rfl ?_
  refine g_get (v := .long up) h f_X13_7_13 (hX.1.frz hC gT_core) rfl dX13_does_9 ?_
  refine x_lastU0 h hX hn dX13_does_12 (fun c hX => ?_)
  refine g_aload_n (i := 1) h dX13_does_13 rfl rfl ?_
  refine g_get (v := .ref (ad 7 0)) h f_X13_25_3 (x_rk hX) rfl dX13_does_14 ?_
  refine g_aload_n (i := 1) h dX13_does_17 rfl rfl ?_
  refine g_get (v := .int (nI n)) h f_X13_21_3 (x_rk hX) rfl dX13_does_18 ?_
  refine g_aload_n (i := 0) h dX13_does_21 rfl rfl ?_
  refine g_get (v := .long by_) h f_X13_13_13 (hX.1.frz hC gT_core) rfl dX13_does_22 ?_
  refine x_lastU1 h hX hn dX13_does_25 (fun c hX => ?_)
  refine g_aload_n (i := 1) h dX13_does_26 rfl rfl ?_
  refine g_dup h dX13_does_27 rfl ?_
  refine g_get (v := .int (nI n)) h f_X13_21_3 (x_rk hX) rfl dX13_does_28 ?_
  refine g_iconst (v := nI 1) h dX13_does_31 (by decide) ?_
  first | (with_reducible refine g_iaddN h dX13_does_32 ?_) | refine g_iadd h dX13_does_32 ?_
  refine x_putS1 (j := 0) h hX fp_X13_21_3 (Nat.le_of_ble_eq_true rfl) rfl rfl dX13_does_33 (fun c hX => ?_)
  refine g_iconst (v := 0) h dX13_does_36 (by decide) ?_
  exact g_zret h ⟨rfl, by rw [vU_1] at hX; exact hX⟩ (Nat.le_refl _) (Nat.le_refl _) (by first | rfl | exact zB_nar _) dX13_does_37
theorem cx_onceAll {l : Launch} {g : gGP} (hk : gK l g) {c0 c : gLH} {ad cp fz : Nat → Nat → Nat} {md : Nat → Nat → Int32} {S : Nat → List Value} {U : Nat → Nat → Int64} {A : Nat → Nat → Int32} {B : Nat → Nat → Int64} {n : Nat} {o al ln : Int32} {t : Int64} {hb ab : Bool} (hX : CW c0 ad cp fz md (va_up S 1 (rF (nI n) o al ln t hb ab)) U A B c) {a : Nat} {num : Int32} {cd : Value} (hC : c0 a = some (gT, .inr (14, [.int num, cd, .int (zB true)]))) : Ct l g yX14_does hwX14_does 0 0 [.ref a, .ref (ad 5 0), .ref (ad 4 0)] c (0) (0) (pI 0 (CW c0 ad cp fz md (va_up S 1 (rF (nI n) o (if al = -1 then num else al) ln t hb ab)) U A B)) := by
  refine Ct.intro hk hcX14_does (by decide +kernel) (Nat.le_of_ble_eq_true rfl) (fun φ h => ?_)
  refine g_aload_n (i := 0) h dX14_does_0 rfl rfl ?_
  refine g_get (v := .int (zB true)) h f_X14_9_14 (hX.1.frz hC gT_core) rfl dX14_does_1 ?_
  refine g_if_eq (tgt := 23) h dX14_does_4 (by decide) (fun _bz => absurd _bz (by decide)) (fun b4 => ?_)
  refine g_aload_n (i := 1) h dX14_does_7 rfl rfl ?_
  refine g_get (v := .int al) h f_X14_15_3 (x_rk hX) rfl dX14_does_8 ?_
  refine g_iconst (v := (-1)) h dX14_does_11 (by decide) ?_
  refine g_icmp_ne (tgt := 23) h dX14_does_12 (by decide) (fun b12 => ?_) (fun b12 => ?_)
  · refine g_aload_n (i := 0) h dX14_does_23 rfl rfl ?_
    refine g_get (v := .int (zB true)) h f_X14_9_14 (hX.1.frz hC gT_core) rfl dX14_does_24 ?_
    refine g_if_ne (tgt := 46) h dX14_does_27 (by decide) (fun b27 => ?_) (fun _bz => absurd _bz (by decide))
    refine g_iconst (v := 0) h dX14_does_46 (by decide) ?_
    exact g_zret h ⟨rfl, by first | (rw [if_pos (by first | exact b12 | exact b35)]; exact hX) | (rw [if_neg (by first | exact b12 | exact b35)]; exact hX)⟩ (Nat.le_refl _) (Nat.le_refl _) (by first | rfl | exact zB_nar _) dX14_does_47
  · refine g_aload_n (i := 1) h dX14_does_15 rfl rfl ?_
    refine g_aload_n (i := 0) h dX14_does_16 rfl rfl ?_
    refine g_get (v := .int num) h f_X14_21_14 (hX.1.frz hC gT_core) rfl dX14_does_17 ?_
    refine x_putS1 (j := 2) h hX fp_X14_15_3 (Nat.le_of_ble_eq_true rfl) rfl rfl dX14_does_20 (fun c hX => ?_)
    refine g_aload_n (i := 0) h dX14_does_23 rfl rfl ?_
    refine g_get (v := .int (zB true)) h f_X14_9_14 (hX.1.frz hC gT_core) rfl dX14_does_24 ?_
    refine g_if_ne (tgt := 46) h dX14_does_27 (by decide) (fun b27 => ?_) (fun _bz => absurd _bz (by decide))
    refine g_iconst (v := 0) h dX14_does_46 (by decide) ?_
    exact g_zret h ⟨rfl, by first | (rw [if_pos (by first | exact b12 | exact b35)]; exact hX) | (rw [if_neg (by first | exact b12 | exact b35)]; exact hX)⟩ (Nat.le_refl _) (Nat.le_refl _) (by first | rfl | exact zB_nar _) dX14_does_47
theorem cx_onceHere {l : Launch} {g : gGP} (hk : gK l g) {c0 c : gLH} {ad cp fz : Nat → Nat → Nat} {md : Nat → Nat → Int32} {S : Nat → List Value} {U : Nat → Nat → Int64} {A : Nat → Nat → Int32} {B : Nat → Nat → Int64} {n : Nat} {o al ln : Int32} {t : Int64} {hb ab : Bool} (hX : CW c0 ad cp fz md (va_up S 1 (rF (nI n) o al ln t hb ab)) U A B c) {a : Nat} {num : Int32} {cd : Value} (hC : c0 a = some (gT, .inr (14, [.int num, cd, .int (zB false)]))) : Ct l g yX14_does hwX14_does 0 0 [.ref a, .ref (ad 5 0), .ref (ad 4 0)] c (0) (0) (pI 0 (CW c0 ad cp fz md (va_up S 1 (rF (nI n) (if o = -1 then num else o) al ln t hb ab)) U A B)) := by
  refine Ct.intro hk hcX14_does (by decide +kernel) (Nat.le_of_ble_eq_true rfl) (fun φ h => ?_)
  refine g_aload_n (i := 0) h dX14_does_0 rfl rfl ?_
  refine g_get (v := .int (zB false)) h f_X14_9_14 (hX.1.frz hC gT_core) rfl dX14_does_1 ?_
  refine g_if_eq (tgt := 23) h dX14_does_4 (by decide) (fun b4 => ?_) (fun _bz => absurd _bz (by decide))
  refine g_aload_n (i := 0) h dX14_does_23 rfl rfl ?_
  refine g_get (v := .int (zB false)) h f_X14_9_14 (hX.1.frz hC gT_core) rfl dX14_does_24 ?_
  refine g_if_ne (tgt := 46) h dX14_does_27 (by decide) (fun _bz => absurd _bz (by decide)) (fun b27 => ?_)
  refine g_aload_n (i := 1) h dX14_does_30 rfl rfl ?_
  refine g_get (v := .int o) h f_X14_24_3 (x_rk hX) rfl dX14_does_31 ?_
  refine g_iconst (v := (-1)) h dX14_does_34 (by decide) ?_
  refine g_icmp_ne (tgt := 46) h dX14_does_35 (by decide) (fun b35 => ?_) (fun b35 => ?_)
  · refine g_iconst (v := 0) h dX14_does_46 (by decide) ?_
    exact g_zret h ⟨rfl, by first | (rw [if_pos (by first | exact b12 | exact b35)]; exact hX) | (rw [if_neg (by first | exact b12 | exact b35)]; exact hX)⟩ (Nat.le_refl _) (Nat.le_refl _) (by first | rfl | exact zB_nar _) dX14_does_47
  · refine g_aload_n (i := 1) h dX14_does_38 rfl rfl ?_
    refine g_aload_n (i := 0) h dX14_does_39 rfl rfl ?_
    refine g_get (v := .int num) h f_X14_21_14 (hX.1.frz hC gT_core) rfl dX14_does_40 ?_
    refine x_putS1 (j := 1) h hX fp_X14_24_3 (Nat.le_of_ble_eq_true rfl) rfl rfl dX14_does_43 (fun c hX => ?_)
    refine g_iconst (v := 0) h dX14_does_46 (by decide) ?_
    exact g_zret h ⟨rfl, by first | (rw [if_pos (by first | exact b12 | exact b35)]; exact hX) | (rw [if_neg (by first | exact b12 | exact b35)]; exact hX)⟩ (Nat.le_refl _) (Nat.le_refl _) (by first | rfl | exact zB_nar _) dX14_does_47
