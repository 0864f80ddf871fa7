/-! THE COMPONENT: gets, pays, comes -/
set_option maxRecDepth 100000
section CRN
variable {c0 c : gLH} {ad cp fz : Nat → Nat → Nat} {md : Nat → Nat → Int32} {S : Nat → List Value} {U : Nat → Nat → Int64} {A : Nat → Nat → Int32} {B : Nat → Nat → Int64}
theorem cx_50n_u {k' : Nat} (h : k' ≠ 10) : cUse k' 50 = false := by
  unfold cUse
  split <;> first | rfl | exact absurd rfl h
theorem cx_50n_eq {i : Nat} (hi : i < cn A 2) : cells ad cp fz md S U (mA A 50 i (-1)) B = up2 (cells ad cp fz md S U A B) 10 i (some (.inr (23, (cGf ad fz A i).set 3 .null))) := by
  refine up2_of ((if_pos (show i < cn (mA A 50 i (-1)) 2 from hi)).trans (by simp only [cGf, cLe, mA_rd, List.set, mA_n A (k := 50) (i := 29) i (-1) (by decide), mA_n A (k := 50) (i := 53) i (-1) (by decide), mA_n A (k := 50) (i := 54) i (-1) (by decide), mA_n A (k := 50) (i := 30) i (-1) (by decide)]; rfl)) (fun k' i' hne => ?_)
  by_cases hk : k' = 10
  · subst hk
    have hne' : i' ≠ i := fun e => hne ⟨rfl, e⟩
    show (if i' < cn (mA A 50 i (-1)) 2 then _ else _) = (if i' < cn A 2 then _ else _)
    rw [show cn (mA A 50 i (-1)) 2 = cn A 2 from rfl]
    congr 2
    simp only [cGf, cLe, mA_rn _ _ _ hne', mA_n A (k := 50) (i := 29) i (-1) (by decide), mA_n A (k := 50) (i := 53) i (-1) (by decide), mA_n A (k := 50) (i := 54) i (-1) (by decide), mA_n A (k := 50) (i := 30) i (-1) (by decide)]
  · exact cells_mA _ _ _ (cx_50n_u hk)
end CRN
section CRO
variable {φ : gFx} {Q : State → Prop} {pc : Nat} {lv : List (Nat × Value)} {st : List Value} {ce sl : Nat} {l : Launch} {g : gGP} {R : Room} {cc : ByteArray} {nL : Nat} {own mn : String} {ret : Option FieldType} {tbl : List (Nat × Nat × Nat × Nat)} {idx : Nat} {c0 c : gLH} {ad cp fz : Nat → Nat → Nat} {md : Nat → Nat → Int32} {S : Nat → List Value} {U : Nat → Nat → Int64} {A : Nat → Nat → Int32} {B : Nat → Nat → Int64}
theorem x_put50n (h : gOK φ l g R cc nL own mn ret tbl) (hX : CW c0 ad cp fz md S U A B c) {i : Nat} (hi : i < cn A 2) {ty : FieldType} (hF : gFP own idx 23 3 ty) (hn : narrow ty .null = .null) (hft : fits ty .null = true) (hd : decode cc pc = .ok (.putfield idx, 3)) (kk : ∀ c : gLH, CW c0 ad cp fz md S U (mA A 50 i (-1)) B c → G φ Q (pc + 3) lv st c ce sl) : G φ Q pc lv (.null :: .ref (ad 10 i) :: st) c ce sl := g_put h hF (hX.1.at (cells_10 hi)) (hX.1.sb (cells_10 hi)) (Nat.le_of_ble_eq_true rfl) hn hft hd (kk _ (hX.set (cells_10 hi) (cx_50n_eq hi) (CI_mA _ _ (by unfold cFree; decide) hX.2)))
end CRO
theorem cx_gets {l : Launch} {g : gGP} (hk : gK l g) {c0 c : gLH} {ad cp fz : Nat → Nat → Nat} {md : Nat → Nat → Int32} {S : Nat → List Value} {U : Nat → Nat → Int64} {A : Nat → Nat → Int32} {B : Nat → Nat → Int64} (hX : CW c0 ad cp fz md S U A B c) {k : Nat} (hk5 : k < cn A 5) {sum : Int64} (hs0 : ¬ sum = 0) {nl : Nat} (hnl : A 42 0 = nI nl) (h2 : nl < 400000) (hL2 : 2 * cp 8 0 < 4000000) (hs : (-sum).toInt32.toInt64 = -sum) : Ct l g yX1_gets hwX1_gets 3 120 [.ref (ad 0 0), .int (nI k), .long sum] c (cN (cp 8 0) nl - cp 8 0) (2 * (cN (cp 8 0) nl - cp 8 0)) (pV (fun c' => ∃ q, CW c0 (up2 ad 8 0 q) (up2 cp 8 0 (cN (cp 8 0) nl)) fz md S U (sLineA A nl 4 (nI k) (-sum)) (mB (mB B 58 k (B 58 k - sum)) 43 0 (B 43 0 + -sum)) c')) := by
  refine Ct.intro hk hcX1_gets (by decide +kernel) (Nat.le_of_ble_eq_true rfl) (fun φ h => ?_)
  refine g_lload_n (i := 2) h dX1_gets_0 rfl rfl ?_
  refine g_lconst (v := 0) h dX1_gets_1 (by decide) ?_
  refine g_lcmp h dX1_gets_2 ?_
  refine g_if_ne (tgt := 7) h dX1_gets_3 (by decide) (fun b3 => ?_) (fun _bz => absurd _bz (by rw [lg_cmp_eq]; exact hs0))
  rw [lg_cmp_eq] at b3
  refine g_aload_n (i := 0) h dX1_gets_7 rfl rfl ?_
  refine g_get (v := .ref (ad 2 5)) h f_X1_41_1 hX.x rfl dX1_gets_8 ?_
  refine g_iload_n (i := 1) h dX1_gets_11 rfl rfl ?_
  refine g_invV h (ct_xget5 h.k hX hk5) hcJ2_get w_X1_162 rfl rfl (xlist5 hX) (Nat.le_of_ble_eq_true rfl) ⟨Nat.le_of_ble_eq_true rfl, Nat.le_of_ble_eq_true rfl⟩ (by refine ⟨?_, ?_⟩ <;> first | exact Nat.le_refl _ | exact Nat.zero_le _ | (dsimp only; omega)) dX1_gets_12 (gkr_ap ?_) gkt_ap
  refine g_castS h (hX.1.at (cells_16 hk5)) rfl q1575 dX1_gets_15 ?_
  refine g_dup h dX1_gets_18 rfl ?_
  refine g_get h f_X1_265_30 (hX.1.at (cells_16 hk5)) rfl dX1_gets_19 ?_
  refine g_lload_n (i := 2) h dX1_gets_22 rfl rfl ?_
  refine g_lsub h dX1_gets_23 ?_
  refine x_put58 h hX hk5 fp_X1_265_30 rfl rfl dX1_gets_24 (fun c hX => ?_)
  refine g_aload_n (i := 0) h dX1_gets_27 rfl rfl ?_
  refine g_iconst (v := 4) h dX1_gets_28 (by decide) ?_
  refine g_iload_n (i := 1) h dX1_gets_29 rfl rfl ?_
  refine g_lload_n (i := 2) h dX1_gets_30 rfl rfl ?_
  refine g_lneg h dX1_gets_31 ?_
  refine g_invV h (cx_change h.k hX 4 (nI k) (-sum) hnl h2 hL2 hs) hcX1_change w_X1_204 rfl rfl hX.x (Nat.le_of_ble_eq_true rfl) ⟨Nat.le_of_ble_eq_true rfl, Nat.le_of_ble_eq_true rfl⟩ (by refine ⟨?_, ?_⟩ <;> ((try dsimp only); omega)) dX1_gets_32 (gkr_v (fun c hP => ?_)) gkt_v
  obtain ⟨q, hX⟩ := hP
  exact g_vret h ⟨rfl, q, hX⟩ (by (try dsimp only); omega) (by (try dsimp only); omega) dX1_gets_35
theorem cx_gets0 {l : Launch} {g : gGP} (hk : gK l g) {c0 c : gLH} {ad cp fz : Nat → Nat → Nat} {md : Nat → Nat → Int32} {S : Nat → List Value} {U : Nat → Nat → Int64} {A : Nat → Nat → Int32} {B : Nat → Nat → Int64} (hX : CW c0 ad cp fz md S U A B c) (k : Int32) : Ct l g yX1_gets hwX1_gets 3 120 [.ref (ad 0 0), .int k, .long 0] c (0) (0) (pVp c) := by
  refine Ct.intro hk hcX1_gets (by decide +kernel) (Nat.le_of_ble_eq_true rfl) (fun φ h => ?_)
  refine g_lload_n (i := 2) h dX1_gets_0 rfl rfl ?_
  refine g_lconst (v := 0) h dX1_gets_1 (by decide) ?_
  refine g_lcmp h dX1_gets_2 ?_
  refine g_if_ne (tgt := 7) h dX1_gets_3 (by decide) (fun _bz => absurd _bz (by intro q; exact q rfl)) (fun b3 => ?_)
  rw [lg_cmp_eq] at b3
  exact g_vret h ⟨rfl, rfl⟩ (Nat.le_refl _) (Nat.le_refl _) dX1_gets_6
theorem i64_rt (x : Int32) : x.toInt64.toInt32.toInt64 = x.toInt64 := by rw [Int32.toInt32_toInt64]
theorem cx_pays {l : Launch} {g : gGP} (hk : gK l g) {c0 c : gLH} {ad cp fz : Nat → Nat → Nat} {md : Nat → Nat → Int32} {S : Nat → List Value} {U : Nat → Nat → Int64} {A : Nat → Nat → Int32} {B : Nat → Nat → Int64} (hX : CW c0 ad cp fz md S U A B c) {i f : Nat} (hi : i < cn A 2) (hf : f < cn A 4) (hz : ¬ A 50 i < 0) (hL : FL fz A c0) {nl : Nat} (hnl : A 42 0 = nI nl) (h2 : nl < 400000) (hL2 : 2 * cp 8 0 < 4000000) : Ct l g yX1_pays hwX1_pays 2 80 [.ref (ad 0 0), .ref (ad 10 i), .ref (ad 15 f)] c (cN (cp 8 0) nl - cp 8 0) (2 * (cN (cp 8 0) nl - cp 8 0)) (pV (fun c' => ∃ q, CW c0 (up2 ad 8 0 q) (up2 cp 8 0 (cN (cp 8 0) nl)) fz md S U (mA (mA (sLineA A nl 1 (nI i) (A 51 i).toInt64) 54 i (A 54 i - 1)) 53 i (A 32 0 + 91)) (mB (mB B 44 f (B 44 f - (A 51 i).toInt64)) 43 0 (B 43 0 + (A 51 i).toInt64)) c')) := by
  refine Ct.intro hk hcX1_pays (by decide +kernel) (Nat.le_of_ble_eq_true rfl) (fun φ h => ?_)
  refine g_aload_n (i := 2) h dX1_pays_0 rfl rfl ?_
  refine g_dup h dX1_pays_1 rfl ?_
  refine g_get h f_X1_201_28 (hX.1.at (cells_15 hf)) rfl dX1_pays_2 ?_
  refine g_aload_n (i := 1) h dX1_pays_5 rfl rfl ?_
  refine g_get (v := cLe fz A i) h f_X1_190_23 (hX.1.at (cells_10 hi)) rfl dX1_pays_6 ?_
  rw [show cLe fz A i = .ref (fz 2 i) from if_neg hz]
  refine g_get h f_X1_256_29 (hX.1.frz (hL _ hi hz) gT_core) rfl dX1_pays_9 ?_
  refine g_i2l h dX1_pays_12 ?_
  refine g_lsub h dX1_pays_13 ?_
  refine x_put44 h hX hf fp_X1_201_28 rfl rfl dX1_pays_14 (fun c hX => ?_)
  refine g_aload_n (i := 0) h dX1_pays_17 rfl rfl ?_
  refine g_iconst (v := 1) h dX1_pays_18 (by decide) ?_
  refine g_aload_n (i := 1) h dX1_pays_19 rfl rfl ?_
  refine g_get h f_X1_140_23 (hX.1.at (cells_10 hi)) rfl dX1_pays_20 ?_
  refine g_aload_n (i := 1) h dX1_pays_23 rfl rfl ?_
  refine g_get (v := cLe fz A i) h f_X1_190_23 (hX.1.at (cells_10 hi)) rfl dX1_pays_24 ?_
  rw [show cLe fz A i = .ref (fz 2 i) from if_neg hz]
  refine g_get h f_X1_256_29 (hX.1.frz (hL _ hi hz) gT_core) rfl dX1_pays_27 ?_
  refine g_i2l h dX1_pays_30 ?_
  refine g_invV h (cx_change h.k hX 1 (nI i) (A 51 i).toInt64 hnl h2 hL2 (i64_rt _)) hcX1_change w_X1_204 rfl rfl hX.x (Nat.le_of_ble_eq_true rfl) ⟨Nat.le_of_ble_eq_true rfl, Nat.le_of_ble_eq_true rfl⟩ (by refine ⟨?_, ?_⟩ <;> ((try dsimp only); omega)) dX1_pays_31 (gkr_v (fun c hP => ?_)) gkt_v
  obtain ⟨q, hX⟩ := hP
  refine g_aload_n (i := 1) h dX1_pays_34 rfl rfl ?_
  refine g_dup h dX1_pays_35 rfl ?_
  refine g_get (v := .int (A 54 i)) h f_X1_250_23 (hX.1.at (cells_10 hi)) rfl dX1_pays_36 ?_
  refine g_iconst (v := 1) h dX1_pays_39 (by decide) ?_
  refine g_isub h dX1_pays_40 ?_
  refine x_put54 (ad := up2 ad 8 0 q) h hX hi fp_X1_250_23 rfl rfl dX1_pays_41 (fun c hX => ?_)
  refine g_aload_n (i := 1) h dX1_pays_44 rfl rfl ?_
  refine g_aload_n (i := 0) h dX1_pays_45 rfl rfl ?_
  refine g_get (v := .int (A 32 0)) h f_X1_137_1 hX.x rfl dX1_pays_46 ?_
  refine g_bipush (v := 91) h dX1_pays_49 (by decide) ?_
  first | (with_reducible refine g_iaddN h dX1_pays_51 ?_) | refine g_iadd h dX1_pays_51 ?_
  refine x_put53 (ad := up2 ad 8 0 q) h hX hi fp_X1_243_23 rfl rfl dX1_pays_52 (fun c hX => ?_)
  exact g_vret h ⟨rfl, q, hX⟩ (by (try dsimp only); omega) (by (try dsimp only); omega) dX1_pays_55
def cRl (A : Nat → Nat → Int32) (B : Nat → Nat → Int64) (i f nl L : Nat) : Nat := if sRentC A B i f = 0 then L else cN L nl
theorem cx_comes {l : Launch} {g : gGP} (hk : gK l g) {c0 c : gLH} {ad cp fz : Nat → Nat → Nat} {md : Nat → Nat → Int32} {S : Nat → List Value} {U : Nat → Nat → Int64} {A : Nat → Nat → Int32} {B : Nat → Nat → Int64} (hX : CW c0 ad cp fz md S U A B c) {i f : Nat} (hi : i < cn A 2) (hf : f < cn A 4) (hz : ¬ A 50 i < 0) (hf50 : A 50 i = nI f) (hL : FL fz A c0) {nl : Nat} (hnl : A 42 0 = nI nl) (h2 : nl < 400000) (hL2 : 2 * cp 8 0 < 4000000) : Ct l g yX1_comes hwX1_comes 3 120 [.ref (ad 0 0), .ref (ad 10 i)] c (cRl A B i f nl (cp 8 0) - cp 8 0) (2 * (cRl A B i f nl (cp 8 0) - cp 8 0)) (pV (fun c' => ∃ q, CW c0 (up2 ad 8 0 q) (up2 cp 8 0 (cRl A B i f nl (cp 8 0))) fz md S U (sRentA A B i f nl) (sRentB A B i f) c')) := by
  refine Ct.intro hk hcX1_comes (by decide +kernel) (Nat.le_of_ble_eq_true rfl) (fun φ h => ?_)
  by_cases hA : A 54 i = 0
  · have hC : sRentC A B i f = 0 := by simp [sRentC, hA]
    have hRl : cRl A B i f nl (cp 8 0) = cp 8 0 := if_pos hC
    refine g_aload_n (i := 0) h dX1_comes_0 rfl rfl ?_
    refine g_get (v := .ref (ad 2 4)) h f_X1_38_1 hX.x rfl dX1_comes_1 ?_
    refine g_aload_n (i := 1) h dX1_comes_4 rfl rfl ?_
    refine g_get (v := cLe fz A i) h f_X1_190_23 (hX.1.at (cells_10 hi)) rfl dX1_comes_5 ?_
    rw [show cLe fz A i = .ref (fz 2 i) from if_neg hz]
    refine g_get h f_X1_194_29 (hX.1.frz (hL _ hi hz) gT_core) rfl dX1_comes_8 ?_
    refine G.int hf50 ?_
    refine g_invV h (ct_xget4 h.k hX hf) hcJ2_get w_X1_162 rfl rfl (xlist4 hX) (Nat.le_of_ble_eq_true rfl) ⟨Nat.le_of_ble_eq_true rfl, Nat.le_of_ble_eq_true rfl⟩ (by refine ⟨?_, ?_⟩ <;> first | exact Nat.le_refl _ | exact Nat.zero_le _ | (dsimp only; omega)) dX1_comes_11 (gkr_ap ?_) gkt_ap
    refine g_castS h (hX.1.at (cells_15 hf)) rfl q1527 dX1_comes_14 ?_
    refine g_astore_n (i := 2) h dX1_comes_17 rfl (by decide) ?_
    refine g_aload_n (i := 1) h dX1_comes_18 rfl rfl ?_
    refine g_get (v := .int (A 54 i)) h f_X1_250_23 (hX.1.at (cells_10 hi)) rfl dX1_comes_19 ?_
    refine g_if_ne (tgt := 50) h dX1_comes_22 (by decide) (fun _bz => absurd _bz (fun q => q hA)) (fun b22 => ?_)
    refine g_aload_n (i := 2) h dX1_comes_25 rfl rfl ?_
    refine g_dup h dX1_comes_26 rfl ?_
    refine g_get h f_X1_201_28 (hX.1.at (cells_15 hf)) rfl dX1_comes_27 ?_
    refine g_aload_n (i := 1) h dX1_comes_30 rfl rfl ?_
    refine g_get (v := cLe fz A i) h f_X1_190_23 (hX.1.at (cells_10 hi)) rfl dX1_comes_31 ?_
    rw [show cLe fz A i = .ref (fz 2 i) from if_neg hz]
    refine g_get h f_X1_253_29 (hX.1.frz (hL _ hi hz) gT_core) rfl dX1_comes_34 ?_
    refine g_i2l h dX1_comes_37 ?_
    refine g_ladd h dX1_comes_38 ?_
    refine x_put44 h hX hf fp_X1_201_28 rfl rfl dX1_comes_39 (fun c hX => ?_)
    refine g_aload_n (i := 1) h dX1_comes_42 rfl rfl ?_
    refine g_null h dX1_comes_43 ?_
    refine x_put50n h hX hi fp_X1_190_23 rfl rfl dX1_comes_44 (fun c hX => ?_)
    refine g_goto (tgt := 97) h dX1_comes_47 (by decide) ?_
    exact g_vret h ⟨rfl, ad 8 0, by rw [hRl, up2_id, up2_id, sRentA, if_pos hC, sRentB, if_pos hC]; exact hX⟩ (by rw [hRl]; (try dsimp only); omega) (by rw [hRl]; (try dsimp only); omega) dX1_comes_97
  · by_cases hB : (A 51 i).toInt64 ≤ B 44 f
    · have hC : sRentC A B i f = 2 := by simp [sRentC, hA, hB]
      have hRl : cRl A B i f nl (cp 8 0) = cN (cp 8 0) nl := if_neg (by rw [hC]; decide)
      refine g_aload_n (i := 0) h dX1_comes_0 rfl rfl ?_
      refine g_get (v := .ref (ad 2 4)) h f_X1_38_1 hX.x rfl dX1_comes_1 ?_
      refine g_aload_n (i := 1) h dX1_comes_4 rfl rfl ?_
      refine g_get (v := cLe fz A i) h f_X1_190_23 (hX.1.at (cells_10 hi)) rfl dX1_comes_5 ?_
      rw [show cLe fz A i = .ref (fz 2 i) from if_neg hz]
      refine g_get h f_X1_194_29 (hX.1.frz (hL _ hi hz) gT_core) rfl dX1_comes_8 ?_
      refine G.int hf50 ?_
      refine g_invV h (ct_xget4 h.k hX hf) hcJ2_get w_X1_162 rfl rfl (xlist4 hX) (Nat.le_of_ble_eq_true rfl) ⟨Nat.le_of_ble_eq_true rfl, Nat.le_of_ble_eq_true rfl⟩ (by refine ⟨?_, ?_⟩ <;> first | exact Nat.le_refl _ | exact Nat.zero_le _ | (dsimp only; omega)) dX1_comes_11 (gkr_ap ?_) gkt_ap
      refine g_castS h (hX.1.at (cells_15 hf)) rfl q1527 dX1_comes_14 ?_
      refine g_astore_n (i := 2) h dX1_comes_17 rfl (by decide) ?_
      refine g_aload_n (i := 1) h dX1_comes_18 rfl rfl ?_
      refine g_get (v := .int (A 54 i)) h f_X1_250_23 (hX.1.at (cells_10 hi)) rfl dX1_comes_19 ?_
      refine g_if_ne (tgt := 50) h dX1_comes_22 (by decide) (fun b22 => ?_) (fun _bz => absurd _bz hA)
      refine g_aload_n (i := 2) h dX1_comes_50 rfl rfl ?_
      refine g_get h f_X1_201_28 (hX.1.at (cells_15 hf)) rfl dX1_comes_51 ?_
      refine g_aload_n (i := 1) h dX1_comes_54 rfl rfl ?_
      refine g_get (v := cLe fz A i) h f_X1_190_23 (hX.1.at (cells_10 hi)) rfl dX1_comes_55 ?_
      rw [show cLe fz A i = .ref (fz 2 i) from if_neg hz]
      refine g_get h f_X1_256_29 (hX.1.frz (hL _ hi hz) gT_core) rfl dX1_comes_58 ?_
      refine g_i2l h dX1_comes_61 ?_
      refine g_lcmp h dX1_comes_62 ?_
      refine g_if_lt (tgt := 75) h dX1_comes_63 (by decide) (fun _bz => absurd _bz (fun q => by rw [lg_cmp_lt] at q; exact absurd hB (by rw [Int64.not_le]; exact q))) (fun b63 => ?_)
      rw [lg_cmp_lt] at b63
      refine g_aload_n (i := 0) h dX1_comes_66 rfl rfl ?_
      refine g_aload_n (i := 1) h dX1_comes_67 rfl rfl ?_
      refine g_aload_n (i := 2) h dX1_comes_68 rfl rfl ?_
      refine g_invV h (cx_pays h.k hX hi hf hz hL hnl h2 hL2) hcX1_pays w_X1_259 rfl rfl hX.x (Nat.le_of_ble_eq_true rfl) ⟨Nat.le_of_ble_eq_true rfl, Nat.le_of_ble_eq_true rfl⟩ (by rw [hRl]; refine ⟨?_, ?_⟩ <;> ((try dsimp only); omega)) dX1_comes_69 (gkr_v (fun c hP => ?_)) gkt_v
      obtain ⟨q, hX⟩ := hP
      refine g_goto (tgt := 97) h dX1_comes_72 (by decide) ?_
      exact g_vret h ⟨rfl, q, by rw [hRl, sRentA, if_neg (by rw [hC]; decide), if_neg (by rw [hC]; decide), sRentB, if_neg (by rw [hC]; decide), if_neg (by rw [hC]; decide)]; exact hX⟩ (by rw [hRl]; (try dsimp only); omega) (by rw [hRl]; (try dsimp only); omega) dX1_comes_97
    · have hC : sRentC A B i f = 1 := by simp [sRentC, hA, hB]
      have hRl : cRl A B i f nl (cp 8 0) = cN (cp 8 0) nl := if_neg (by rw [hC]; decide)
      refine g_aload_n (i := 0) h dX1_comes_0 rfl rfl ?_
      refine g_get (v := .ref (ad 2 4)) h f_X1_38_1 hX.x rfl dX1_comes_1 ?_
      refine g_aload_n (i := 1) h dX1_comes_4 rfl rfl ?_
      refine g_get (v := cLe fz A i) h f_X1_190_23 (hX.1.at (cells_10 hi)) rfl dX1_comes_5 ?_
      rw [show cLe fz A i = .ref (fz 2 i) from if_neg hz]
      refine g_get h f_X1_194_29 (hX.1.frz (hL _ hi hz) gT_core) rfl dX1_comes_8 ?_
      refine G.int hf50 ?_
      refine g_invV h (ct_xget4 h.k hX hf) hcJ2_get w_X1_162 rfl rfl (xlist4 hX) (Nat.le_of_ble_eq_true rfl) ⟨Nat.le_of_ble_eq_true rfl, Nat.le_of_ble_eq_true rfl⟩ (by refine ⟨?_, ?_⟩ <;> first | exact Nat.le_refl _ | exact Nat.zero_le _ | (dsimp only; omega)) dX1_comes_11 (gkr_ap ?_) gkt_ap
      refine g_castS h (hX.1.at (cells_15 hf)) rfl q1527 dX1_comes_14 ?_
      refine g_astore_n (i := 2) h dX1_comes_17 rfl (by decide) ?_
      refine g_aload_n (i := 1) h dX1_comes_18 rfl rfl ?_
      refine g_get (v := .int (A 54 i)) h f_X1_250_23 (hX.1.at (cells_10 hi)) rfl dX1_comes_19 ?_
      refine g_if_ne (tgt := 50) h dX1_comes_22 (by decide) (fun b22 => ?_) (fun _bz => absurd _bz hA)
      refine g_aload_n (i := 2) h dX1_comes_50 rfl rfl ?_
      refine g_get h f_X1_201_28 (hX.1.at (cells_15 hf)) rfl dX1_comes_51 ?_
      refine g_aload_n (i := 1) h dX1_comes_54 rfl rfl ?_
      refine g_get (v := cLe fz A i) h f_X1_190_23 (hX.1.at (cells_10 hi)) rfl dX1_comes_55 ?_
      rw [show cLe fz A i = .ref (fz 2 i) from if_neg hz]
      refine g_get h f_X1_256_29 (hX.1.frz (hL _ hi hz) gT_core) rfl dX1_comes_58 ?_
      refine g_i2l h dX1_comes_61 ?_
      refine g_lcmp h dX1_comes_62 ?_
      refine g_if_lt (tgt := 75) h dX1_comes_63 (by decide) (fun b63 => ?_) (fun _bz => absurd _bz (fun q => q (by rw [lg_cmp_lt]; exact Int64.not_le.mp hB)))
      rw [lg_cmp_lt] at b63
      refine g_aload_n (i := 0) h dX1_comes_75 rfl rfl ?_
      refine g_iconst (v := 2) h dX1_comes_76 (by decide) ?_
      refine g_aload_n (i := 1) h dX1_comes_77 rfl rfl ?_
      refine g_get (v := .int (nI i)) h f_X1_140_23 (hX.1.at (cells_10 hi)) rfl dX1_comes_78 ?_
      refine g_aload_n (i := 1) h dX1_comes_81 rfl rfl ?_
      refine g_get (v := cLe fz A i) h f_X1_190_23 (hX.1.at (cells_10 hi)) rfl dX1_comes_82 ?_
      rw [show cLe fz A i = .ref (fz 2 i) from if_neg hz]
      refine g_get h f_X1_253_29 (hX.1.frz (hL _ hi hz) gT_core) rfl dX1_comes_85 ?_
      refine g_i2l h dX1_comes_88 ?_
      refine g_invV h (cx_change h.k hX 2 (nI i) (A 52 i).toInt64 hnl h2 hL2 (i64_rt _)) hcX1_change w_X1_204 rfl rfl hX.x (Nat.le_of_ble_eq_true rfl) ⟨Nat.le_of_ble_eq_true rfl, Nat.le_of_ble_eq_true rfl⟩ (by rw [hRl]; refine ⟨?_, ?_⟩ <;> ((try dsimp only); omega)) dX1_comes_89 (gkr_v (fun c hP => ?_)) gkt_v
      obtain ⟨q, hX⟩ := hP
      refine g_aload_n (i := 1) h dX1_comes_92 rfl rfl ?_
      refine g_null h dX1_comes_93 ?_
      refine x_put50n (ad := up2 ad 8 0 q) h hX hi fp_X1_190_23 rfl rfl dX1_comes_94 (fun c hX => ?_)
      exact g_vret h ⟨rfl, q, by rw [hRl, sRentA, if_neg (by rw [hC]; decide), if_pos hC, sRentB, if_neg (by rw [hC]; decide), if_pos hC]; exact hX⟩ (by rw [hRl]; (try dsimp only); omega) (by rw [hRl]; (try dsimp only); omega) dX1_comes_97
