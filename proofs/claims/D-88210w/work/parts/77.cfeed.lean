/-! THE COMPONENT: put, feed -/
set_option maxRecDepth 100000
section CTP
variable {c0 c : gLH} {ad cp fz : Nat → Nat → Nat} {md : Nat → Nat → Int32} {S : Nat → List Value} {U : Nat → Nat → Int64} {A : Nat → Nat → Int32} {B : Nat → Nat → Int64}
theorem cx_1_u {k' : Nat} (h : k' ≠ 1) : cUse k' 1 = false := by
  unfold cUse
  split <;> first | rfl | exact absurd rfl h
theorem cx_1_eq (j : Nat) (v : Int32) : cells ad cp fz md S U (mA A 1 j v) B = up2 (cells ad cp fz md S U A B) 1 0 (some (gBytes 2000 (upd (A 1) j v))) := by
  refine up2_of (by show some (gBytes 2000 (mA A 1 j v 1)) = _; rw [mA_s]) (fun k' i' hne => ?_)
  by_cases hk : k' = 1
  · subst hk
    show (if i' = 0 then _ else _) = (if i' = 0 then _ else _); rw [if_neg (fun e => hne ⟨rfl, e⟩), if_neg (fun e => hne ⟨rfl, e⟩)]
  · exact cells_mA _ _ _ (cx_1_u hk)
end CTP
section CTR
variable {φ : gFx} {Q : State → Prop} {pc : Nat} {lv : List (Nat × Value)} {st : List Value} {ce sl : Nat} {l : Launch} {g : gGP} {R : Room} {cc : ByteArray} {nL : Nat} {own mn : String} {ret : Option FieldType} {tbl : List (Nat × Nat × Nat × Nat)} {idx : Nat} {c0 c : gLH} {ad cp fz : Nat → Nat → Nat} {md : Nat → Nat → Int32} {S : Nat → List Value} {U : Nat → Nat → Int64} {A : Nat → Nat → Int32} {B : Nat → Nat → Int64}
theorem x_bast (h : gOK φ l g R cc nL own mn ret tbl) (hX : CW c0 ad cp fz md S U A B c) {j : Nat} {v : Int32} (hj : j < 2000) (hd : decode cc pc = .ok (.bastore, 1)) (kk : ∀ c : gLH, CW c0 ad cp fz md S U (mA A 1 j (vp_nar .byte v)) B c → G φ Q (pc + 1) lv st c ce sl) : G φ Q pc lv (.int v :: .int (nI j) :: .ref (ad 1 0) :: st) c ce sl := g_bastN h (hX.1.at (k := 1) (i := 0) rfl) (hX.1.sb (k := 1) (i := 0) rfl) hj (by decide) hd (kk _ (hX.set (k := 1) (i := 0) rfl (cx_1_eq j _) (CI_mA _ _ (by unfold cFree; decide) hX.2)))
end CTR
theorem cx_put {l : Launch} {g : gGP} (hk : gK l g) {c0 c : gLH} {ad cp fz : Nat → Nat → Nat} {md : Nat → Nat → Int32} {S : Nat → List Value} {U : Nat → Nat → Int64} {A : Nat → Nat → Int32} {B : Nat → Nat → Int64} (hX : CW c0 ad cp fz md S U A B c) (v : Int32) {tp : Nat} (htp : A 2 0 = nI tp) (h4 : tp + 4 ≤ 2000) : Ct l g yX1_put hwX1_put 0 0 [.ref (ad 0 0), .int v] c (0) (0) (pV (CW c0 ad cp fz md S U (sPuts A v tp 4) B)) := by
  refine Ct.intro hk hcX1_put (by decide +kernel) (Nat.le_of_ble_eq_true rfl) (fun φ h => ?_)
  have loop : ∀ i, i ≤ 4 → ∀ c, CW c0 ad cp fz md S U (sPuts A v tp i) B c → G φ (gQ φ (pV (CW c0 ad cp fz md S U (sPuts A v tp 4) B)) 0 0) 3 [(0, .ref (ad 0 0)), (1, .int v), (2, .int (sSh i))] [] c 0 0 := by
    refine gloop ?_ ?_
    · intro c hX
      refine g_iload_n (i := 2) h dX1_put_3 rfl rfl ?_
      refine g_if_lt (tgt := 36) h dX1_put_4 (by decide) (fun b4 => ?_) (fun _bz => absurd _bz (by decide))
      exact g_vret h ⟨rfl, hX⟩ (Nat.le_refl _) (Nat.le_refl _) dX1_put_36
    · intro i hi ih c hX
      refine g_iload_n (i := 2) h dX1_put_3 rfl rfl ?_
      refine g_if_lt (tgt := 36) h dX1_put_4 (by decide) (fun _bz => absurd _bz (sSh_pos hi)) (fun b4 => ?_)
      refine g_aload_n (i := 0) h dX1_put_7 rfl rfl ?_
      refine g_get (v := .ref (ad 1 0)) h f_X1_9_1 hX.x rfl dX1_put_8 ?_
      refine g_aload_n (i := 0) h dX1_put_11 rfl rfl ?_
      refine g_get (v := .int (nI (tp + i))) h f_X1_71_1 hX.x (congrArg (fun x => some (Value.int x)) (sPuts_2 htp i)) dX1_put_12 ?_
      refine g_iload_n (i := 1) h dX1_put_15 rfl rfl ?_
      refine g_iload_n (i := 2) h dX1_put_16 rfl rfl ?_
      refine g_ishr h dX1_put_17 ?_
      refine g_i2b h dX1_put_18 ?_
      refine x_bast h hX (by omega) dX1_put_19 (fun c hX => ?_)
      refine g_aload_n (i := 0) h dX1_put_20 rfl rfl ?_
      refine g_dup h dX1_put_21 rfl ?_
      refine g_get (v := .int (nI (tp + i))) h f_X1_71_1 hX.x (congrArg (fun x => some (Value.int x)) (show mA (sPuts A v tp i) 1 _ _ 2 0 = _ from (sPuts_2 htp i))) dX1_put_22 ?_
      refine g_iconst (v := nI 1) h dX1_put_25 (by decide) ?_
      first | (with_reducible refine g_iaddN h dX1_put_26 ?_) | refine g_iadd h dX1_put_26 ?_
      refine x_put2 h hX fp_X1_71_1 rfl rfl dX1_put_27 (fun c hX => ?_)
      refine g_iinc h dX1_put_30 rfl (sSh_up hi) (by decide) ?_
      refine g_goto (tgt := 3) h dX1_put_33 (by decide) ?_
      exact G.to (ih c hX) ⟨rfl, rfl, rfl, trivial⟩
  refine g_bipush (v := 24) h dX1_put_0 (by decide) ?_
  refine g_istore_n (i := 2) h dX1_put_2 rfl (by decide) ?_
  exact G.to (loop 0 (Nat.zero_le _) c hX) ⟨rfl, rfl, rfl, trivial⟩
theorem cx_feed {l : Launch} {g : gGP} (hk : gK l g) {c0 c : gLH} {ad cp fz : Nat → Nat → Nat} {md : Nat → Nat → Int32} {S : Nat → List Value} {U : Nat → Nat → Int64} {A : Nat → Nat → Int32} {B : Nat → Nat → Int64} (hX : CW c0 ad cp fz md S U A B c) (a b cc d e : Int32) {tp : Nat} (htp : A 2 0 = nI tp) (htp2 : tp ≤ 2000) : Ct l g yX1_feed hwX1_feed 1 40 [.ref (ad 0 0), .int a, .int b, .int cc, .int d, .int e] c (0) (0) (pI (if sFeedK A = true then nI (tp + 20) else -1) (CW c0 ad cp fz md S U (if sFeedK A = true then sFeed A tp (sFive a b cc d e) 5 else A) B)) := by
  refine Ct.intro hk hcX1_feed (by decide +kernel) (Nat.le_of_ble_eq_true rfl) (fun φ h => ?_)
  refine g_aload_n (i := 0) h dX1_feed_0 rfl rfl ?_
  refine g_get (v := .int (A 2 0)) h f_X1_71_1 hX.x rfl dX1_feed_1 ?_
  refine g_bipush (v := 20) h dX1_feed_4 (by decide) ?_
  first | (with_reducible refine g_iaddN h dX1_feed_6 ?_) | refine g_iadd h dX1_feed_6 ?_
  refine g_sipush (v := 2000) h dX1_feed_7 (by decide) ?_
  refine g_icmp_le (tgt := 15) h dX1_feed_10 (by decide) (fun b10 => ?_) (fun b10 => ?_)
  · have hK : sFeedK A = true := by simp [sFeedK, b10]
    have h20 : tp + 20 ≤ 2000 := by
      have := of_decide_eq_true hK
      rw [htp, show (20 : Int32) = nI 20 from rfl, nI_add, show (2000 : Int32) = nI 2000 from rfl] at this
      exact (nI_leI (by omega) (by omega)).mp this
    refine g_aload_n (i := 0) h dX1_feed_15 rfl rfl ?_
    refine g_iload_n (i := 1) h dX1_feed_16 rfl rfl ?_
    refine g_invV h (cx_put (A := sFeed A tp (sFive a b cc d e) 0) h.k hX a (tp := tp + 4 * 0) (sFeed_2 htp 0) (by omega)) hcX1_put w_X1_74 rfl rfl hX.x (Nat.le_of_ble_eq_true rfl) ⟨Nat.le_of_ble_eq_true rfl, Nat.le_of_ble_eq_true rfl⟩ (by refine ⟨?_, ?_⟩ <;> first | exact Nat.le_refl _ | exact Nat.zero_le _ | (dsimp only; omega)) dX1_feed_17 (gkr_v (fun c hX => ?_)) gkt_v
    refine g_aload_n (i := 0) h dX1_feed_20 rfl rfl ?_
    refine g_iload_n (i := 2) h dX1_feed_21 rfl rfl ?_
    refine g_invV h (cx_put (A := sFeed A tp (sFive a b cc d e) 1) h.k hX b (tp := tp + 4 * 1) (sFeed_2 htp 1) (by omega)) hcX1_put w_X1_74 rfl rfl hX.x (Nat.le_of_ble_eq_true rfl) ⟨Nat.le_of_ble_eq_true rfl, Nat.le_of_ble_eq_true rfl⟩ (by refine ⟨?_, ?_⟩ <;> first | exact Nat.le_refl _ | exact Nat.zero_le _ | (dsimp only; omega)) dX1_feed_22 (gkr_v (fun c hX => ?_)) gkt_v
    refine g_aload_n (i := 0) h dX1_feed_25 rfl rfl ?_
    refine g_iload_n (i := 3) h dX1_feed_26 rfl rfl ?_
    refine g_invV h (cx_put (A := sFeed A tp (sFive a b cc d e) 2) h.k hX cc (tp := tp + 4 * 2) (sFeed_2 htp 2) (by omega)) hcX1_put w_X1_74 rfl rfl hX.x (Nat.le_of_ble_eq_true rfl) ⟨Nat.le_of_ble_eq_true rfl, Nat.le_of_ble_eq_true rfl⟩ (by refine ⟨?_, ?_⟩ <;> first | exact Nat.le_refl _ | exact Nat.zero_le _ | (dsimp only; omega)) dX1_feed_27 (gkr_v (fun c hX => ?_)) gkt_v
    refine g_aload_n (i := 0) h dX1_feed_30 rfl rfl ?_
    refine g_iload h dX1_feed_31 rfl ?_
    refine g_invV h (cx_put (A := sFeed A tp (sFive a b cc d e) 3) h.k hX d (tp := tp + 4 * 3) (sFeed_2 htp 3) (by omega)) hcX1_put w_X1_74 rfl rfl hX.x (Nat.le_of_ble_eq_true rfl) ⟨Nat.le_of_ble_eq_true rfl, Nat.le_of_ble_eq_true rfl⟩ (by refine ⟨?_, ?_⟩ <;> first | exact Nat.le_refl _ | exact Nat.zero_le _ | (dsimp only; omega)) dX1_feed_33 (gkr_v (fun c hX => ?_)) gkt_v
    refine g_aload_n (i := 0) h dX1_feed_36 rfl rfl ?_
    refine g_iload h dX1_feed_37 rfl ?_
    refine g_invV h (cx_put (A := sFeed A tp (sFive a b cc d e) 4) h.k hX e (tp := tp + 4 * 4) (sFeed_2 htp 4) (by omega)) hcX1_put w_X1_74 rfl rfl hX.x (Nat.le_of_ble_eq_true rfl) ⟨Nat.le_of_ble_eq_true rfl, Nat.le_of_ble_eq_true rfl⟩ (by refine ⟨?_, ?_⟩ <;> first | exact Nat.le_refl _ | exact Nat.zero_le _ | (dsimp only; omega)) dX1_feed_39 (gkr_v (fun c hX => ?_)) gkt_v
    refine g_aload_n (i := 0) h dX1_feed_42 rfl rfl ?_
    refine g_get (v := .int (nI (tp + 20))) h f_X1_71_1 hX.x (congrArg (fun x => some (Value.int x)) (sFeed_2 (vs := (sFive a b cc d e)) htp 5)) dX1_feed_43 ?_
    exact g_iret h ⟨by rw [if_pos hK], by rw [if_pos hK]; exact hX⟩ (Nat.le_refl _) (Nat.le_refl _) dX1_feed_46
  · refine g_iconst (v := (-1)) h dX1_feed_13 (by decide) ?_
    exact g_iret h ⟨by simp [sFeedK, b10], by simp [sFeedK, b10]; exact hX⟩ (Nat.le_refl _) (Nat.le_refl _) dX1_feed_14
