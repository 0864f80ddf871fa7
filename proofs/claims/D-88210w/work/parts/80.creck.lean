/-! THE COMPONENT: the reckoning -/
set_option maxRecDepth 100000
section CRK
variable {c0 c : gLH} {ad cp fz : Nat → Nat → Nat} {md : Nat → Nat → Int32} {S : Nat → List Value} {U : Nat → Nat → Int64} {A : Nat → Nat → Int32} {B : Nat → Nat → Int64}
theorem vS_0 (S : Nat → List Value) (L : List Value) : va_up S 1 L 0 = S 0 := va_up_n _ _ (by decide)
theorem vS_1 (S : Nat → List Value) (L : List Value) : va_up S 0 L 1 = S 1 := va_up_n _ _ (by decide)
theorem vU_0 (U : Nat → Nat → Int64) (f : Nat → Int64) : va_up U 1 f 0 = U 0 := va_up_n _ _ (by decide)
theorem vU_1 (U : Nat → Nat → Int64) (f : Nat → Int64) : va_up U 0 f 1 = U 1 := va_up_n _ _ (by decide)
theorem cells_S1 (L : List Value) : cells ad cp fz md (va_up S 1 L) U A B = up2 (cells ad cp fz md S U A B) 5 0 (some (.inr (3, .ref (ad 6 0) :: .ref (ad 7 0) :: L))) := by
  funext k i
  rcases k_17 k with rfl | rfl | rfl | rfl | rfl | rfl | rfl | rfl | rfl | rfl | rfl | rfl | rfl | rfl | rfl | rfl | rfl | hb
  · rw [up2_n _ _ (fun z => absurd z.1 (by decide))]
    simp only [cells, vS_0]
  · rw [up2_n _ _ (fun z => absurd z.1 (by decide))]
    simp only [cells, vS_0]
  · rw [up2_n _ _ (fun z => absurd z.1 (by decide))]
    simp only [cells, vS_0]
  · rw [up2_n _ _ (fun z => absurd z.1 (by decide))]
    simp only [cells, vS_0]
  · rw [up2_n _ _ (fun z => absurd z.1 (by decide))]
    simp only [cells, vS_0]
  · by_cases hi : i = 0
    · subst hi
      rw [up2_s]
      rfl
    · rw [up2_n _ _ (fun z => hi z.2)]
      show (if i = 0 then _ else _) = (if i = 0 then _ else _)
      rw [if_neg hi, if_neg hi]
  · rw [up2_n _ _ (fun z => absurd z.1 (by decide))]
    simp only [cells, vS_0]
  · rw [up2_n _ _ (fun z => absurd z.1 (by decide))]
    simp only [cells, vS_0]
  · rw [up2_n _ _ (fun z => absurd z.1 (by decide))]
    simp only [cells, vS_0]
  · rw [up2_n _ _ (fun z => absurd z.1 (by decide))]
    simp only [cells, vS_0]
  · rw [up2_n _ _ (fun z => absurd z.1 (by decide))]
    simp only [cells, vS_0]
  · rw [up2_n _ _ (fun z => absurd z.1 (by decide))]
    simp only [cells, vS_0]
  · rw [up2_n _ _ (fun z => absurd z.1 (by decide))]
    simp only [cells, vS_0]
  · rw [up2_n _ _ (fun z => absurd z.1 (by decide))]
    simp only [cells, vS_0]
  · rw [up2_n _ _ (fun z => absurd z.1 (by decide))]
    simp only [cells, vS_0]
  · rw [up2_n _ _ (fun z => absurd z.1 (by decide))]
    simp only [cells, vS_0]
  · rw [up2_n _ _ (fun z => absurd z.1 (by decide))]
    simp only [cells, vS_0]
  · rw [up2_n _ _ (fun z => by omega), cells_big i hb, cells_big i hb]
theorem cells_S0 (L : List Value) : cells ad cp fz md (va_up S 0 L) U A B = up2 (cells ad cp fz md S U A B) 4 0 (some (.inr (2, L))) := by
  funext k i
  rcases k_17 k with rfl | rfl | rfl | rfl | rfl | rfl | rfl | rfl | rfl | rfl | rfl | rfl | rfl | rfl | rfl | rfl | rfl | hb
  · rw [up2_n _ _ (fun z => absurd z.1 (by decide))]
    simp only [cells, vS_1]
  · rw [up2_n _ _ (fun z => absurd z.1 (by decide))]
    simp only [cells, vS_1]
  · rw [up2_n _ _ (fun z => absurd z.1 (by decide))]
    simp only [cells, vS_1]
  · rw [up2_n _ _ (fun z => absurd z.1 (by decide))]
    simp only [cells, vS_1]
  · by_cases hi : i = 0
    · subst hi
      rw [up2_s]
      rfl
    · rw [up2_n _ _ (fun z => hi z.2)]
      show (if i = 0 then _ else _) = (if i = 0 then _ else _)
      rw [if_neg hi, if_neg hi]
  · rw [up2_n _ _ (fun z => absurd z.1 (by decide))]
    simp only [cells, vS_1]
  · rw [up2_n _ _ (fun z => absurd z.1 (by decide))]
    simp only [cells, vS_1]
  · rw [up2_n _ _ (fun z => absurd z.1 (by decide))]
    simp only [cells, vS_1]
  · rw [up2_n _ _ (fun z => absurd z.1 (by decide))]
    simp only [cells, vS_1]
  · rw [up2_n _ _ (fun z => absurd z.1 (by decide))]
    simp only [cells, vS_1]
  · rw [up2_n _ _ (fun z => absurd z.1 (by decide))]
    simp only [cells, vS_1]
  · rw [up2_n _ _ (fun z => absurd z.1 (by decide))]
    simp only [cells, vS_1]
  · rw [up2_n _ _ (fun z => absurd z.1 (by decide))]
    simp only [cells, vS_1]
  · rw [up2_n _ _ (fun z => absurd z.1 (by decide))]
    simp only [cells, vS_1]
  · rw [up2_n _ _ (fun z => absurd z.1 (by decide))]
    simp only [cells, vS_1]
  · rw [up2_n _ _ (fun z => absurd z.1 (by decide))]
    simp only [cells, vS_1]
  · rw [up2_n _ _ (fun z => absurd z.1 (by decide))]
    simp only [cells, vS_1]
  · rw [up2_n _ _ (fun z => by omega), cells_big i hb, cells_big i hb]
theorem cells_U0 (f : Nat → Int64) : cells ad cp fz md S (va_up U 0 f) A B = up2 (cells ad cp fz md S U A B) 6 0 (some (gLongs 40 f)) := by
  funext k i
  rcases k_17 k with rfl | rfl | rfl | rfl | rfl | rfl | rfl | rfl | rfl | rfl | rfl | rfl | rfl | rfl | rfl | rfl | rfl | hb
  · rw [up2_n _ _ (fun z => absurd z.1 (by decide))]
    simp only [cells, vU_1]
  · rw [up2_n _ _ (fun z => absurd z.1 (by decide))]
    simp only [cells, vU_1]
  · rw [up2_n _ _ (fun z => absurd z.1 (by decide))]
    simp only [cells, vU_1]
  · rw [up2_n _ _ (fun z => absurd z.1 (by decide))]
    simp only [cells, vU_1]
  · rw [up2_n _ _ (fun z => absurd z.1 (by decide))]
    simp only [cells, vU_1]
  · rw [up2_n _ _ (fun z => absurd z.1 (by decide))]
    simp only [cells, vU_1]
  · by_cases hi : i = 0
    · subst hi
      rw [up2_s]
      rfl
    · rw [up2_n _ _ (fun z => hi z.2)]
      show (if i = 0 then _ else _) = (if i = 0 then _ else _)
      rw [if_neg hi, if_neg hi]
  · rw [up2_n _ _ (fun z => absurd z.1 (by decide))]
    simp only [cells, vU_1]
  · rw [up2_n _ _ (fun z => absurd z.1 (by decide))]
    simp only [cells, vU_1]
  · rw [up2_n _ _ (fun z => absurd z.1 (by decide))]
    simp only [cells, vU_1]
  · rw [up2_n _ _ (fun z => absurd z.1 (by decide))]
    simp only [cells, vU_1]
  · rw [up2_n _ _ (fun z => absurd z.1 (by decide))]
    simp only [cells, vU_1]
  · rw [up2_n _ _ (fun z => absurd z.1 (by decide))]
    simp only [cells, vU_1]
  · rw [up2_n _ _ (fun z => absurd z.1 (by decide))]
    simp only [cells, vU_1]
  · rw [up2_n _ _ (fun z => absurd z.1 (by decide))]
    simp only [cells, vU_1]
  · rw [up2_n _ _ (fun z => absurd z.1 (by decide))]
    simp only [cells, vU_1]
  · rw [up2_n _ _ (fun z => absurd z.1 (by decide))]
    simp only [cells, vU_1]
  · rw [up2_n _ _ (fun z => by omega), cells_big i hb, cells_big i hb]
theorem cells_U1 (f : Nat → Int64) : cells ad cp fz md S (va_up U 1 f) A B = up2 (cells ad cp fz md S U A B) 7 0 (some (gLongs 40 f)) := by
  funext k i
  rcases k_17 k with rfl | rfl | rfl | rfl | rfl | rfl | rfl | rfl | rfl | rfl | rfl | rfl | rfl | rfl | rfl | rfl | rfl | hb
  · rw [up2_n _ _ (fun z => absurd z.1 (by decide))]
    simp only [cells, vU_0]
  · rw [up2_n _ _ (fun z => absurd z.1 (by decide))]
    simp only [cells, vU_0]
  · rw [up2_n _ _ (fun z => absurd z.1 (by decide))]
    simp only [cells, vU_0]
  · rw [up2_n _ _ (fun z => absurd z.1 (by decide))]
    simp only [cells, vU_0]
  · rw [up2_n _ _ (fun z => absurd z.1 (by decide))]
    simp only [cells, vU_0]
  · rw [up2_n _ _ (fun z => absurd z.1 (by decide))]
    simp only [cells, vU_0]
  · rw [up2_n _ _ (fun z => absurd z.1 (by decide))]
    simp only [cells, vU_0]
  · by_cases hi : i = 0
    · subst hi
      rw [up2_s]
      rfl
    · rw [up2_n _ _ (fun z => hi z.2)]
      show (if i = 0 then _ else _) = (if i = 0 then _ else _)
      rw [if_neg hi, if_neg hi]
  · rw [up2_n _ _ (fun z => absurd z.1 (by decide))]
    simp only [cells, vU_0]
  · rw [up2_n _ _ (fun z => absurd z.1 (by decide))]
    simp only [cells, vU_0]
  · rw [up2_n _ _ (fun z => absurd z.1 (by decide))]
    simp only [cells, vU_0]
  · rw [up2_n _ _ (fun z => absurd z.1 (by decide))]
    simp only [cells, vU_0]
  · rw [up2_n _ _ (fun z => absurd z.1 (by decide))]
    simp only [cells, vU_0]
  · rw [up2_n _ _ (fun z => absurd z.1 (by decide))]
    simp only [cells, vU_0]
  · rw [up2_n _ _ (fun z => absurd z.1 (by decide))]
    simp only [cells, vU_0]
  · rw [up2_n _ _ (fun z => absurd z.1 (by decide))]
    simp only [cells, vU_0]
  · rw [up2_n _ _ (fun z => absurd z.1 (by decide))]
    simp only [cells, vU_0]
  · rw [up2_n _ _ (fun z => by omega), cells_big i hb, cells_big i hb]
end CRK
section CRT
variable {φ : gFx} {Q : State → Prop} {pc : Nat} {lv : List (Nat × Value)} {st : List Value} {ce sl : Nat} {l : Launch} {g : gGP} {R : Room} {cc : ByteArray} {nL : Nat} {own mn : String} {ret : Option FieldType} {tbl : List (Nat × Nat × Nat × Nat)} {idx : Nat} {c0 c : gLH} {ad cp fz : Nat → Nat → Nat} {md : Nat → Nat → Int32} {S : Nat → List Value} {U : Nat → Nat → Int64} {A : Nat → Nat → Int32} {B : Nat → Nat → Int64}
theorem x_putS1 (h : gOK φ l g R cc nL own mn ret tbl) {L : List Value} (hX : CW c0 ad cp fz md (va_up S 1 L) U A B c) {j : Nat} {v : Value} {ty : FieldType} (hF : gFP own idx 3 (j + 2) ty) (hl : j < L.length) (hn : narrow ty v = v) (hft : fits ty v = true) (hd : decode cc pc = .ok (.putfield idx, 3)) (kk : ∀ c : gLH, CW c0 ad cp fz md (va_up S 1 (L.set j v)) U A B c → G φ Q (pc + 3) lv st c ce sl) : G φ Q pc lv (v :: .ref (ad 5 0) :: st) c ce sl := by
  have hcell : cells ad cp fz md (va_up S 1 L) U A B 5 0 = some (.inr (3, .ref (ad 6 0) :: .ref (ad 7 0) :: L)) := by
    show some (Sum.inr (3, Value.ref (ad 6 0) :: Value.ref (ad 7 0) :: va_up S 1 L 1)) = _
    rw [va_up_s]
  refine g_put h hF (hX.1.at hcell) (hX.1.sb hcell) (by simp only [List.length_cons]; omega) hn hft hd (kk _ ⟨?_, hX.2⟩)
  have h1 := hX.1.set (e' := .inr (3, (Value.ref (ad 6 0) :: Value.ref (ad 7 0) :: L).set (j + 2) v)) hcell
  have e := cells_S1 (ad := ad) (cp := cp) (fz := fz) (md := md) (S := va_up S 1 L) (U := U) (A := A) (B := B) (L.set j v)
  rw [va_up_up] at e
  rw [e]
  exact h1
theorem x_getS1 (h : gOK φ l g R cc nL own mn ret tbl) {L : List Value} (hX : CW c0 ad cp fz md (va_up S 1 L) U A B c) {j : Nat} {v : Value} (hF : gF own idx 3 (j + 2)) (hv : L[j]? = some v) (hd : decode cc pc = .ok (.getfield idx, 3)) (kk : G φ Q (pc + 3) lv (v :: st) c ce sl) : G φ Q pc lv (.ref (ad 5 0) :: st) c ce sl := by
  have hcell : cells ad cp fz md (va_up S 1 L) U A B 5 0 = some (.inr (3, .ref (ad 6 0) :: .ref (ad 7 0) :: L)) := by
    show some (Sum.inr (3, Value.ref (ad 6 0) :: Value.ref (ad 7 0) :: va_up S 1 L 1)) = _
    rw [va_up_s]
  exact g_get h hF (hX.1.at hcell) hv hd kk
end CRT
/-- the reckoning's fields but its arrays -/
def rF (n o al ln : Int32) (t : Int64) (hb ab : Bool) : List Value := [.int n, .int o, .int al, .int ln, .long t, .int (zB hb), .int (zB ab)]
theorem rF_all {L : List Value} (hL : L.length = 7) (v0 v1 v2 v3 v4 v5 v6 : Value) : ((((((L.set 0 v0).set 1 v1).set 2 v2).set 3 v3).set 4 v4).set 5 v5).set 6 v6 = [v0, v1, v2, v3, v4, v5, v6] := by
  rcases L with _ | ⟨a, _ | ⟨b, _ | ⟨c, _ | ⟨d, _ | ⟨e, _ | ⟨f, _ | ⟨g, _ | ⟨i, L⟩⟩⟩⟩⟩⟩⟩⟩ <;> simp at hL ⊢
theorem cx_begin {l : Launch} {g : gGP} (hk : gK l g) {c0 c : gLH} {ad cp fz : Nat → Nat → Nat} {md : Nat → Nat → Int32} {S : Nat → List Value} {U : Nat → Nat → Int64} {A : Nat → Nat → Int32} {B : Nat → Nat → Int64} {L : List Value} (hX : CW c0 ad cp fz md (va_up S 1 L) U A B c) (hL : L.length = 7) (hb ab : Bool) : Ct l g yX3_begin hwX3_begin 0 0 [.ref (ad 5 0), .int (zB hb), .int (zB ab)] c (0) (0) (pV (CW c0 ad cp fz md (va_up S 1 (rF 0 (-1) (-1) (-1) 0 hb ab)) U A B)) := by
  refine Ct.intro hk hcX3_begin (by decide +kernel) (Nat.le_of_ble_eq_true rfl) (fun φ h => ?_)
  refine g_aload_n (i := 0) h dX3_begin_0 rfl rfl ?_
  refine g_iconst (v := 0) h dX3_begin_1 (by decide) ?_
  refine x_putS1 (j := 0) h hX fp_X3_18_3 (by (try simp only [List.length_set]); omega) rfl rfl dX3_begin_2 (fun c hX => ?_)
  refine g_aload_n (i := 0) h dX3_begin_5 rfl rfl ?_
  refine g_iconst (v := (-1)) h dX3_begin_6 (by decide) ?_
  refine x_putS1 (j := 1) h hX fp_X3_22_3 (by (try simp only [List.length_set]); omega) rfl rfl dX3_begin_7 (fun c hX => ?_)
  refine g_aload_n (i := 0) h dX3_begin_10 rfl rfl ?_
  refine g_iconst (v := (-1)) h dX3_begin_11 (by decide) ?_
  refine x_putS1 (j := 2) h hX fp_X3_25_3 (by (try simp only [List.length_set]); omega) rfl rfl dX3_begin_12 (fun c hX => ?_)
  refine g_aload_n (i := 0) h dX3_begin_15 rfl rfl ?_
  refine g_iconst (v := (-1)) h dX3_begin_16 (by decide) ?_
  refine x_putS1 (j := 3) h hX fp_X3_28_3 (by (try simp only [List.length_set]); omega) rfl rfl dX3_begin_17 (fun c hX => ?_)
  refine g_aload_n (i := 0) h dX3_begin_20 rfl rfl ?_
  refine g_lconst (v := 0) h dX3_begin_21 (by decide) ?_
  refine x_putS1 (j := 4) h hX fp_X3_31_3 (by (try simp only [List.length_set]); omega) rfl rfl dX3_begin_22 (fun c hX => ?_)
  refine g_aload_n (i := 0) h dX3_begin_25 rfl rfl ?_
  refine g_iload_n (i := 1) h dX3_begin_26 rfl rfl ?_
  refine x_putS1 (j := 5) h hX fp_X3_35_3 (by (try simp only [List.length_set]); omega) (zB_nar _) (zB_fit _) dX3_begin_27 (fun c hX => ?_)
  refine g_aload_n (i := 0) h dX3_begin_30 rfl rfl ?_
  refine g_iload_n (i := 2) h dX3_begin_31 rfl rfl ?_
  refine x_putS1 (j := 6) h hX fp_X3_39_3 (by (try simp only [List.length_set]); omega) (zB_nar _) (zB_fit _) dX3_begin_32 (fun c hX => ?_)
  exact g_vret h ⟨rfl, by rw [rF_all hL] at hX; exact hX⟩ (Nat.le_refl _) (Nat.le_refl _) dX3_begin_35
