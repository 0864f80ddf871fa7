/-! THE COMPONENT: repay, taken -/
set_option maxRecDepth 100000
section CRP
variable {φ : gFx} {Q : State → Prop} {pc : Nat} {lv : List (Nat × Value)} {st : List Value} {ce sl : Nat} {l : Launch} {g : gGP} {R : Room} {cc : ByteArray} {nL : Nat} {own mn : String} {ret : Option FieldType} {tbl : List (Nat × Nat × Nat × Nat)} {idx : Nat} {c0 c : gLH} {ad cp fz : Nat → Nat → Nat} {md : Nat → Nat → Int32} {S : Nat → List Value} {U : Nat → Nat → Int64} {A : Nat → Nat → Int32} {B : Nat → Nat → Int64}
theorem x_put55 (h : gOK φ l g R cc nL own mn ret tbl) (hX : CW c0 ad cp fz md S U A B c) {i : Nat} (hi : i < cn A 5) {v : Int32} {ty : FieldType} (hF : gFP own idx 30 2 ty) (hn : narrow ty (.long v.toInt64) = .long v.toInt64) (hft : fits ty (.long v.toInt64) = true) (hd : decode cc pc = .ok (.putfield idx, 3)) (kk : ∀ c : gLH, CW c0 ad cp fz md S U (mA A 55 i v) B c → G φ Q (pc + 3) lv st c ce sl) : G φ Q pc lv (.long v.toInt64 :: .ref (ad 16 i) :: st) c ce sl := g_put h hF (hX.1.at (cells_16 hi)) (hX.1.sb (cells_16 hi)) (Nat.le_of_ble_eq_true rfl) hn hft hd (kk _ (hX.set (cells_16 hi) (cx_55_eq hi v) (CI_mA _ _ (by unfold cFree; decide) hX.2)))
end CRP
theorem i64_sub {x s : Int32} (h1 : 1 ≤ s) (h2 : ¬ x < s) : x.toInt64 - s.toInt64 = (x - s).toInt64 := by
  apply Int64.toInt_inj.mp
  rw [Int64.toInt_sub, Int32.toInt_toInt64, Int32.toInt_toInt64, Int32.toInt_toInt64, Int32.toInt_sub]
  rw [Int32.le_iff_toInt_le] at h1
  rw [Int32.lt_iff_toInt_lt] at h2
  have e1 : (1 : Int32).toInt = 1 := rfl
  have a1 := Int32.toInt_lt x
  have a2 := Int32.toInt_lt s
  rw [e1] at h1
  rw [Int.bmod_eq_of_le (by omega) (by omega), Int.bmod_eq_of_le (by omega) (by omega)]
theorem cx_repay {l : Launch} {g : gGP} (hk : gK l g) {c0 c : gLH} {ad cp fz : Nat → Nat → Nat} {md : Nat → Nat → Int32} {S : Nat → List Value} {U : Nat → Nat → Int64} {A : Nat → Nat → Int32} {B : Nat → Nat → Int64} (hX : CW c0 ad cp fz md S U A B c) (n s : Int32) {nl : Nat} (hnl : A 42 0 = nI nl) (h2 : nl < 400000) (hL2 : 2 * cp 8 0 < 4000000) (hts : gTS g) : Ct l g yX1_repay hwX1_repay 7 280 [.ref (ad 0 0), .int n, .int s] c (8 + (cN (cp 8 0) nl - cp 8 0)) (48 + 2 * (cN (cp 8 0) nl - cp 8 0)) (pCx (if sRepayK A B n s = 4 then 0 else sRepayK A B n s) eBAS c (pI (if sRepayK A B n s = 0 then A 55 (ix n) - s else -1) (fun c' => if sRepayK A B n s = 0 then ∃ q, CW c0 (up2 ad 8 0 q) (up2 cp 8 0 (cN (cp 8 0) nl)) fz md S U (sRepayA A (ix n) nl s) (mB B 43 0 (B 43 0 + (-s).toInt64)) c' else c' = c))) := by
  refine Ct.intro hk hcX1_repay (by decide +kernel) (Nat.le_of_ble_eq_true rfl) (fun φ h => ?_)
  refine g_iload_n (i := 1) h dX1_repay_0 rfl rfl ?_
  refine g_aload_n (i := 0) h dX1_repay_1 rfl rfl ?_
  refine g_get (v := .ref (ad 2 5)) h f_X1_41_1 hX.x rfl dX1_repay_2 ?_
  refine g_invV h (ct_xsize5 h.k hX) hcJ2_size w_X1_81 rfl rfl (xlist5 hX) (Nat.le_of_ble_eq_true rfl) ⟨Nat.le_of_ble_eq_true rfl, Nat.le_of_ble_eq_true rfl⟩ (by refine ⟨?_, ?_⟩ <;> first | exact Nat.le_refl _ | exact Nat.zero_le _ | (dsimp only; omega)) dX1_repay_5 (gkr_ip ?_) gkt_ip
  refine g_invS h (ct_thereX h.k _ _ hts) hcX1_there w_X1_112 rfl rfl (Nat.le_of_ble_eq_true rfl) ⟨Nat.le_of_ble_eq_true rfl, Nat.le_of_ble_eq_true rfl⟩ (by refine ⟨?_, ?_⟩ <;> ((try dsimp only); omega)) dX1_repay_8 (gkr_gd (fun b8 => ?_)) (gkt_gd (fun b8 a e ha => ?_))
  rotate_left 1
  · refine gt_out h (fun q hq => by cases hq) ?_ (by (try dsimp only); omega) (by (try dsimp only); omega)
    exact pCx_t (n := 1) (by unfold sRepayK; rcases sNo_ge b8 with q | q <;> simp [q]) (by decide) rfl ⟨a, e, rfl, ha, rfl⟩
  have bz := sNo_lt b8
  obtain ⟨hj, hx⟩ := there_ix b8 (hX.cnt (i := 5) (by decide)).1 (hX.cnt (i := 5) (by decide)).2.2
  refine g_iload_n (i := 2) h dX1_repay_11 rfl rfl ?_
  refine g_iconst (v := 1) h dX1_repay_12 (by decide) ?_
  refine g_icmp_lt (tgt := 20) h dX1_repay_13 (by decide) (fun b13 => ?_) (fun b13 => ?_)
  · refine g_iconst (v := 0) h dX1_repay_20 (by decide) ?_
    refine g_invS h (ct_needX h.k false hts) hcX1_need w_X1_77 rfl rfl (Nat.le_of_ble_eq_true rfl) ⟨Nat.le_of_ble_eq_true rfl, Nat.le_of_ble_eq_true rfl⟩ (by refine ⟨?_, ?_⟩ <;> ((try dsimp only); omega)) dX1_repay_21 (gkr_gd (fun hb => absurd hb (by decide))) (gkt_gd (fun _ a e ha => ?_))
    refine gt_out h (fun q hq => by cases hq) ?_ (by (try dsimp only); omega) (by (try dsimp only); omega)
    exact pCx_t (n := 2) (by have q : ¬ 1 ≤ s := (by simpa using b13); simp [sRepayK, bz, q]) (by decide) rfl ⟨a, e, rfl, ha, rfl⟩
  · refine g_iconst (v := 1) h dX1_repay_16 (by decide) ?_
    refine g_goto (tgt := 21) h dX1_repay_17 (by decide) ?_
    refine g_invS h (ct_needX h.k true hts) hcX1_need w_X1_77 rfl rfl (Nat.le_of_ble_eq_true rfl) ⟨Nat.le_of_ble_eq_true rfl, Nat.le_of_ble_eq_true rfl⟩ (by refine ⟨?_, ?_⟩ <;> ((try dsimp only); omega)) dX1_repay_21 (gkr_gd (fun _ => ?_)) (gkt_gd (fun hb => absurd hb (by decide)))
    refine g_aload_n (i := 0) h dX1_repay_24 rfl rfl ?_
    refine g_get (v := .ref (ad 2 5)) h f_X1_41_1 hX.x rfl dX1_repay_25 ?_
    refine g_iload_n (i := 1) h dX1_repay_28 rfl rfl ?_
    refine G.int hx ?_
    refine g_invV h (ct_xget5 h.k hX hj) hcJ2_get w_X1_162 rfl rfl (xlist5 hX) (Nat.le_of_ble_eq_true rfl) ⟨Nat.le_of_ble_eq_true rfl, Nat.le_of_ble_eq_true rfl⟩ (by refine ⟨?_, ?_⟩ <;> first | exact Nat.le_refl _ | exact Nat.zero_le _ | (dsimp only; omega)) dX1_repay_29 (gkr_ap ?_) gkt_ap
    refine g_castS h (hX.1.at (cells_16 hj)) rfl q1575 dX1_repay_32 ?_
    refine g_astore_n (i := 3) h dX1_repay_35 rfl (by decide) ?_
    refine g_aload_n (i := 3) h dX1_repay_36 rfl rfl ?_
    refine g_get (v := .long (A 55 (ix n)).toInt64) h f_X1_267_30 (hX.1.at (cells_16 hj)) rfl dX1_repay_37 ?_
    refine g_iload_n (i := 2) h dX1_repay_40 rfl rfl ?_
    refine g_i2l h dX1_repay_41 ?_
    refine g_lcmp h dX1_repay_42 ?_
    refine g_if_lt (tgt := 56) h dX1_repay_43 (by decide) (fun b43 => ?_) (fun b43 => ?_)
    · rw [lg_cmp_lt] at b43
      refine g_iconst (v := (-1)) h dX1_repay_56 (by decide) ?_
      have hK : sRepayK A B n s = 4 := by
        have hs1 : 1 ≤ s := by simpa using b13
        first
          | (have q : A 55 (ix n) < s := (i64_lt _ _).mp b43
             simp [sRepayK, bz, hs1, q]; done)
          | (have hge : ¬ A 55 (ix n) < s := fun q => b43 ((i64_lt _ _).mpr q)
             have b53' : ¬ s.toInt64 ≤ B 43 0 := by simpa using b53
             simp [sRepayK, bz, hs1, hge, b53']; done)
      exact g_iret h (pCx_0 (by rw [hK]; rfl) ⟨by rw [hK]; rfl, by rw [hK]; rfl⟩) (by (try dsimp only); omega) (by (try dsimp only); omega) dX1_repay_57
    · rw [lg_cmp_lt] at b43
      refine g_aload_n (i := 0) h dX1_repay_46 rfl rfl ?_
      refine g_get (v := .long (B 43 0)) h f_X1_231_1 hX.x rfl dX1_repay_47 ?_
      refine g_iload_n (i := 2) h dX1_repay_50 rfl rfl ?_
      refine g_i2l h dX1_repay_51 ?_
      refine g_lcmp h dX1_repay_52 ?_
      refine g_if_ge (tgt := 58) h dX1_repay_53 (by decide) (fun b53 => ?_) (fun b53 => ?_)
      · rw [lg_cmp_ge] at b53
        have hs1 : 1 ≤ s := by simpa using b13
        have hge : ¬ A 55 (ix n) < s := fun q => b43 ((i64_lt _ _).mpr q)
        have hK : sRepayK A B n s = 0 := by
          have b53' : s.toInt64 ≤ B 43 0 := by simpa using b53
          simp [sRepayK, bz, hs1, hge, b53']
        refine g_aload_n (i := 3) h dX1_repay_58 rfl rfl ?_
        refine g_dup h dX1_repay_59 rfl ?_
        refine g_get (v := .long (A 55 (ix n)).toInt64) h f_X1_267_30 (hX.1.at (cells_16 hj)) rfl dX1_repay_60 ?_
        refine g_iload_n (i := 2) h dX1_repay_63 rfl rfl ?_
        refine g_i2l h dX1_repay_64 ?_
        refine g_lsub h dX1_repay_65 ?_
        refine G.long (i64_sub hs1 hge) ?_
        refine x_put55 h hX hj fp_X1_267_30 rfl rfl dX1_repay_66 (fun c hX => ?_)
        refine g_aload_n (i := 0) h dX1_repay_69 rfl rfl ?_
        refine g_iconst (v := 5) h dX1_repay_70 (by decide) ?_
        refine g_iload_n (i := 1) h dX1_repay_71 rfl rfl ?_
        refine G.int hx ?_
        refine g_iload_n (i := 2) h dX1_repay_72 rfl rfl ?_
        refine g_ineg h dX1_repay_73 ?_
        refine g_i2l h dX1_repay_74 ?_
        refine g_invV h (cx_change h.k hX 5 (nI (ix n)) (-s).toInt64 hnl h2 hL2 (i64_rt _)) hcX1_change w_X1_204 rfl rfl hX.x (Nat.le_of_ble_eq_true rfl) ⟨Nat.le_of_ble_eq_true rfl, Nat.le_of_ble_eq_true rfl⟩ (by refine ⟨?_, ?_⟩ <;> ((try dsimp only); omega)) dX1_repay_75 (gkr_v (fun c hP => ?_)) gkt_v
        obtain ⟨q, hX⟩ := hP
        refine g_aload_n (i := 3) h dX1_repay_78 rfl rfl ?_
        refine g_get (v := .long (A 55 (ix n) - s).toInt64) h f_X1_267_30 (hX.1.at (cells_16 hj)) (by rw [show (cOf _ _ _)[2]? = some _ from rfl]; simp [sLineA, va_up, upd]) dX1_repay_79 ?_
        refine g_l2i h dX1_repay_82 ?_
        exact g_iret h (pCx_0 (by rw [hK]; rfl) ⟨by rw [hK, Int32.toInt32_toInt64]; rfl, by rw [hK]; exact ⟨q, hX⟩⟩) (by (try dsimp only); omega) (by (try dsimp only); omega) dX1_repay_83
      · rw [lg_cmp_ge] at b53
        refine g_iconst (v := (-1)) h dX1_repay_56 (by decide) ?_
        have hK : sRepayK A B n s = 4 := by
          have hs1 : 1 ≤ s := by simpa using b13
          first
            | (have q : A 55 (ix n) < s := (i64_lt _ _).mp b43
               simp [sRepayK, bz, hs1, q]; done)
            | (have hge : ¬ A 55 (ix n) < s := fun q => b43 ((i64_lt _ _).mpr q)
               have b53' : ¬ s.toInt64 ≤ B 43 0 := by simpa using b53
               simp [sRepayK, bz, hs1, hge, b53']; done)
        exact g_iret h (pCx_0 (by rw [hK]; rfl) ⟨by rw [hK]; rfl, by rw [hK]; rfl⟩) (by (try dsimp only); omega) (by (try dsimp only); omega) dX1_repay_57
theorem takes_min (w : Int64) : (if (50 : Int64) < w then 50 else w) = sTakes w := by
  unfold sTakes
  by_cases h : (50 : Int64) ≤ w
  · rw [if_pos h]
    by_cases q : (50 : Int64) < w
    · rw [if_pos q]
    · rw [if_neg q]
      exact Int64.le_antisymm (Int64.not_lt.mp q) h
  · rw [if_neg h, if_neg (fun q => h (Int64.le_of_lt q))]
theorem cx_taken {l : Launch} {g : gGP} (hk : gK l g) {c0 c : gLH} {ad cp fz : Nat → Nat → Nat} {md : Nat → Nat → Int32} {S : Nat → List Value} {U : Nat → Nat → Int64} {A : Nat → Nat → Int32} {B : Nat → Nat → Int64} (hX : CW c0 ad cp fz md S U A B c) {i : Nat} (hi : i < cn A 1) : Ct l g yX22_taken hwX22_taken 1 40 [.ref (ad 9 i)] c (0) (0) (pLp (sTakes (B 27 i)) c) := by
  refine Ct.intro hk hcX22_taken (by decide +kernel) (Nat.le_of_ble_eq_true rfl) (fun φ h => ?_)
  refine g_aload_n (i := 0) h dX22_taken_0 rfl rfl ?_
  refine g_get (v := .long (B 27 i)) h f_X22_13_22 (hX.1.at (cells_9 hi)) rfl dX22_taken_1 ?_
  refine g_ldc2 (v := 50) h dX22_taken_4 q1611 ?_
  refine g_mminl h q1612 (Nat.le_of_ble_eq_true rfl) ⟨Nat.le_of_ble_eq_true rfl, Nat.le_of_ble_eq_true rfl⟩ ⟨Nat.le_refl _, Nat.le_refl _⟩ dX22_taken_7 ?_
  refine G.long (takes_min _) ?_
  exact g_lret h ⟨rfl, rfl⟩ (Nat.le_refl _) (Nat.le_refl _) dX22_taken_10
