/-! THE COMPONENT: what is frozen; gateTold, force -/
set_option maxRecDepth 100000
/-- leases, bids, travellers, acts' days: in the store that nobody writes -/
def FL (fz : Nat → Nat → Nat) (A : Nat → Nat → Int32) (c : gLH) : Prop := ∀ i, i < cn A 2 → ¬ A 50 i < 0 → c (fz 2 i) = some (gT, .inr (29, [.int (A 50 i), .int (A 51 i), .int (A 52 i)]))
def FB (fz : Nat → Nat → Nat) (A : Nat → Nat → Int32) (c : gLH) : Prop := ∀ i j, i < cn A 2 → j < ix (A 46 i) → c (fz (16 + i) j) = some (gT, .inr (29, [.int (A 47 (10 * i + j)), .int (A 48 (10 * i + j)), .int (A 49 (10 * i + j))]))
/-- a traveller's class -/
def tCl (k : Int32) : Nat := if k < 3 then 25 else if k = 4 ∨ k = 5 then 27 else 26
def FT (ad fz : Nat → Nat → Nat) (A : Nat → Nat → Int32) (c : gLH) : Prop := ∀ i, i < cn A 3 → c (fz 1 i) = some (gT, .inr (tCl (A 19 i), [.int (nI i), .int (A 20 i), .int (A 21 i), .int (A 22 i), .ref (ad 13 i), .ref (ad 14 i), .int (A 19 i)]))
def FD (fz : Nat → Nat → Nat) (A : Nat → Nat → Int32) (c : gLH) : Prop := ∀ i, i < cn A 0 → ∃ q, c (fz 0 i) = some (gT, .inr (6, [.int (A 9 i), .ref q]))
theorem ct_bsize {l : Launch} {g : gGP} (hk : gK l g) {c0 c : gLH} {ad cp fz : Nat → Nat → Nat} {md : Nat → Nat → Int32} {S : Nat → List Value} {U : Nat → Nat → Int64} {A : Nat → Nat → Int32} {B : Nat → Nat → Int64} (hX : CW c0 ad cp fz md S U A B c) {i : Nat} (hi : i < cn A 2) : Ct l g yJ2_size hwJ2_size 0 0 [.ref (ad 11 i)] c 0 0 (pIp (A 46 i) c) := by
  have h := ct_lsize hk (hX.bids hi)
  rw [cBd_len, ← (hX.2.2.1 i hi).1] at h
  exact h
theorem xbids {c0 c : gLH} {ad cp fz : Nat → Nat → Nat} {md : Nat → Nat → Int32} {S : Nat → List Value} {U : Nat → Nat → Int64} {A : Nat → Nat → Int32} {B : Nat → Nat → Int64} (hX : CW c0 ad cp fz md S U A B c) {i : Nat} (hi : i < cn A 2) : c (ad 11 i) = some (cR 11 i, .inr (31, [.int (md 11 i), .ref (ad 12 i), .int (nI (cBd fz A i).length)])) := hX.1.at (k := 11) (i := i) (if_pos hi)
theorem cx_gateTold {l : Launch} {g : gGP} (hk : gK l g) {c0 c : gLH} {ad cp fz : Nat → Nat → Nat} {md : Nat → Nat → Int32} {S : Nat → List Value} {U : Nat → Nat → Int64} {A : Nat → Nat → Int32} {B : Nat → Nat → Int64} (hX : CW c0 ad cp fz md S U A B c) (n w : Int32) (hL : FL fz A c0) (hN : ∀ i, i < cn A 2 → A 50 i < 0 → A 50 i = -1) (hts : gTS g) : Ct l g yX1_gateTold hwX1_gateTold 7 280 [.ref (ad 0 0), .int n, .int w] c (8) (48) (pCx (sToldK A n w 6) eBAS c (pIp (sTold A (ix n) w) c)) := by
  refine Ct.intro hk hcX1_gateTold (by decide +kernel) (Nat.le_of_ble_eq_true rfl) (fun φ h => ?_)
  refine g_iload_n (i := 1) h dX1_gateTold_0 rfl rfl ?_
  refine g_aload_n (i := 0) h dX1_gateTold_1 rfl rfl ?_
  refine g_get (v := .ref (ad 2 2)) h f_X1_32_1 hX.x rfl dX1_gateTold_2 ?_
  refine g_invV h (ct_xsize2 h.k hX) hcJ2_size w_X1_81 rfl rfl (xlist2 hX) (Nat.le_of_ble_eq_true rfl) ⟨Nat.le_of_ble_eq_true rfl, Nat.le_of_ble_eq_true rfl⟩ (by refine ⟨?_, ?_⟩ <;> first | exact Nat.le_refl _ | exact Nat.zero_le _ | (dsimp only; omega)) dX1_gateTold_5 (gkr_ip ?_) gkt_ip
  refine g_invS h (ct_thereX h.k _ _ hts) hcX1_there w_X1_112 rfl rfl (Nat.le_of_ble_eq_true rfl) ⟨Nat.le_of_ble_eq_true rfl, Nat.le_of_ble_eq_true rfl⟩ (by refine ⟨?_, ?_⟩ <;> ((try dsimp only); omega)) dX1_gateTold_8 (gkr_gd (fun b8 => ?_)) (gkt_gd (fun b8 a e ha => ?_))
  rotate_left 1
  · refine gt_out h (fun q hq => by cases hq) ?_ (by (try dsimp only); omega) (by (try dsimp only); omega)
    exact pCx_t (n := 1) (by unfold sToldK; rcases sNo_ge b8 with q | q <;> simp [q]) (by decide) rfl ⟨a, e, rfl, ha, rfl⟩
  have bz := sNo_lt b8
  obtain ⟨hj, hx⟩ := there_ix b8 (hX.cnt (i := 2) (by decide)).1 (hX.cnt (i := 2) (by decide)).2.2
  refine g_iload_n (i := 2) h dX1_gateTold_11 rfl rfl ?_
  refine g_if_lt (tgt := 25) h dX1_gateTold_12 (by decide) (fun b12 => ?_) (fun b12 => ?_)
  · refine g_iconst (v := 0) h dX1_gateTold_25 (by decide) ?_
    refine g_invS h (ct_needX h.k false hts) hcX1_need w_X1_77 rfl rfl (Nat.le_of_ble_eq_true rfl) ⟨Nat.le_of_ble_eq_true rfl, Nat.le_of_ble_eq_true rfl⟩ (by refine ⟨?_, ?_⟩ <;> ((try dsimp only); omega)) dX1_gateTold_26 (gkr_gd (fun hb => absurd hb (by decide))) (gkt_gd (fun _ a e ha => ?_))
    refine gt_out h (fun q hq => by cases hq) ?_ (by (try dsimp only); omega) (by (try dsimp only); omega)
    exact pCx_t (n := 2) (by simp [sToldK, bz, b12]) (by decide) rfl ⟨a, e, rfl, ha, rfl⟩
  · refine g_iload_n (i := 2) h dX1_gateTold_15 rfl rfl ?_
    refine g_bipush (v := 6) h dX1_gateTold_16 (by decide) ?_
    refine g_icmp_gt (tgt := 25) h dX1_gateTold_18 (by decide) (fun b18 => ?_) (fun b18 => ?_)
    · refine g_iconst (v := 0) h dX1_gateTold_25 (by decide) ?_
      refine g_invS h (ct_needX h.k false hts) hcX1_need w_X1_77 rfl rfl (Nat.le_of_ble_eq_true rfl) ⟨Nat.le_of_ble_eq_true rfl, Nat.le_of_ble_eq_true rfl⟩ (by refine ⟨?_, ?_⟩ <;> ((try dsimp only); omega)) dX1_gateTold_26 (gkr_gd (fun hb => absurd hb (by decide))) (gkt_gd (fun _ a e ha => ?_))
      refine gt_out h (fun q hq => by cases hq) ?_ (by (try dsimp only); omega) (by (try dsimp only); omega)
      exact pCx_t (n := 2) (by simp [sToldK, bz, b12, b18]) (by decide) rfl ⟨a, e, rfl, ha, rfl⟩
    · refine g_iconst (v := 1) h dX1_gateTold_21 (by decide) ?_
      refine g_goto (tgt := 26) h dX1_gateTold_22 (by decide) ?_
      refine g_invS h (ct_needX h.k true hts) hcX1_need w_X1_77 rfl rfl (Nat.le_of_ble_eq_true rfl) ⟨Nat.le_of_ble_eq_true rfl, Nat.le_of_ble_eq_true rfl⟩ (by refine ⟨?_, ?_⟩ <;> ((try dsimp only); omega)) dX1_gateTold_26 (gkr_gd (fun _ => ?_)) (gkt_gd (fun hb => absurd hb (by decide)))
      refine g_aload_n (i := 0) h dX1_gateTold_29 rfl rfl ?_
      refine g_get (v := .ref (ad 2 2)) h f_X1_32_1 hX.x rfl dX1_gateTold_30 ?_
      refine g_iload_n (i := 1) h dX1_gateTold_33 rfl rfl ?_
      refine G.int hx ?_
      refine g_invV h (ct_xget2 h.k hX hj) hcJ2_get w_X1_162 rfl rfl (xlist2 hX) (Nat.le_of_ble_eq_true rfl) ⟨Nat.le_of_ble_eq_true rfl, Nat.le_of_ble_eq_true rfl⟩ (by refine ⟨?_, ?_⟩ <;> first | exact Nat.le_refl _ | exact Nat.zero_le _ | (dsimp only; omega)) dX1_gateTold_34 (gkr_ap ?_) gkt_ap
      refine g_castS h (hX.1.at (cells_10 hj)) rfl q1261 dX1_gateTold_37 ?_
      refine g_astore_n (i := 3) h dX1_gateTold_40 rfl (by decide) ?_
      have hK : sToldK A n w 6 = 0 := by simp [sToldK, bz, b12, b18]
      by_cases hz : A 50 (ix n) < 0
      · have hneg := hN _ hj hz
        refine g_aload_n (i := 3) h dX1_gateTold_41 rfl rfl ?_
        refine g_get (v := cLe fz A (ix n)) h f_X1_190_23 (hX.1.at (cells_10 hj)) rfl dX1_gateTold_42 ?_
        rw [show cLe fz A (ix n) = .null from if_pos hz]
        refine g_ifnullN (tgt := 52) h dX1_gateTold_45 (by decide) ?_
        refine g_iconst (v := 0) h dX1_gateTold_52 (by decide) ?_
        refine g_istore h dX1_gateTold_53 (by decide) ?_
        refine g_iload_n (i := 2) h dX1_gateTold_55 rfl rfl ?_
        rcases sw_6 w with rfl | rfl | rfl | rfl | rfl | rfl | hsw56
        · refine g_tableIn (off := 40) (tgt := 96) h dX1_gateTold_56 (by decide) (by decide) (by decide) (by decide) ?_
          refine g_aload_n (i := 3) h dX1_gateTold_96 rfl rfl ?_
          refine g_get h f_X1_211_23 (hX.1.at (cells_10 hj)) rfl dX1_gateTold_97 ?_
          exact g_iret h (pCx_0 hK ⟨by first | rfl | (simp [sTold, hz]; done) | (simp [sTold, hneg]; done), rfl⟩) (by (try dsimp only); omega) (by (try dsimp only); omega) dX1_gateTold_100
        · refine g_tableIn (off := 45) (tgt := 101) h dX1_gateTold_56 (by decide) (by decide) (by decide) (by decide) ?_
          refine g_iload h dX1_gateTold_101 rfl ?_
          refine g_if_eq (tgt := 116) h dX1_gateTold_103 (by decide) (fun _bz => ?_) (fun _bz => absurd _bz (by decide))
          refine g_iconst (v := (-1)) h dX1_gateTold_116 (by decide) ?_
          exact g_iret h (pCx_0 hK ⟨by first | rfl | (simp [sTold, hz]; done) | (simp [sTold, hneg]; done), rfl⟩) (by (try dsimp only); omega) (by (try dsimp only); omega) dX1_gateTold_117
        · refine g_tableIn (off := 62) (tgt := 118) h dX1_gateTold_56 (by decide) (by decide) (by decide) (by decide) ?_
          refine g_iload h dX1_gateTold_118 rfl ?_
          refine g_if_eq (tgt := 133) h dX1_gateTold_120 (by decide) (fun _bz => ?_) (fun _bz => absurd _bz (by decide))
          refine g_iconst (v := 0) h dX1_gateTold_133 (by decide) ?_
          exact g_iret h (pCx_0 hK ⟨by first | rfl | (simp [sTold, hz]; done) | (simp [sTold, hneg]; done), rfl⟩) (by (try dsimp only); omega) (by (try dsimp only); omega) dX1_gateTold_134
        · refine g_tableIn (off := 79) (tgt := 135) h dX1_gateTold_56 (by decide) (by decide) (by decide) (by decide) ?_
          refine g_iload h dX1_gateTold_135 rfl ?_
          refine g_if_eq (tgt := 150) h dX1_gateTold_137 (by decide) (fun _bz => ?_) (fun _bz => absurd _bz (by decide))
          refine g_iconst (v := 0) h dX1_gateTold_150 (by decide) ?_
          exact g_iret h (pCx_0 hK ⟨by first | rfl | (simp [sTold, hz]; done) | (simp [sTold, hneg]; done), rfl⟩) (by (try dsimp only); omega) (by (try dsimp only); omega) dX1_gateTold_151
        · refine g_tableIn (off := 96) (tgt := 152) h dX1_gateTold_56 (by decide) (by decide) (by decide) (by decide) ?_
          refine g_iload h dX1_gateTold_152 rfl ?_
          refine g_if_eq (tgt := 164) h dX1_gateTold_154 (by decide) (fun _bz => ?_) (fun _bz => absurd _bz (by decide))
          refine g_iconst (v := 0) h dX1_gateTold_164 (by decide) ?_
          exact g_iret h (pCx_0 hK ⟨by first | rfl | (simp [sTold, hz]; done) | (simp [sTold, hneg]; done), rfl⟩) (by (try dsimp only); omega) (by (try dsimp only); omega) dX1_gateTold_165
        · refine g_tableIn (off := 110) (tgt := 166) h dX1_gateTold_56 (by decide) (by decide) (by decide) (by decide) ?_
          refine g_aload_n (i := 3) h dX1_gateTold_166 rfl rfl ?_
          refine g_get h f_X1_297_23 (hX.1.at (cells_10 hj)) rfl dX1_gateTold_167 ?_
          refine g_invV h (ct_bsize h.k hX hj) hcJ2_size w_X1_81 rfl rfl (xbids hX hj) (Nat.le_of_ble_eq_true rfl) ⟨Nat.le_of_ble_eq_true rfl, Nat.le_of_ble_eq_true rfl⟩ (by refine ⟨?_, ?_⟩ <;> first | exact Nat.le_refl _ | exact Nat.zero_le _ | (dsimp only; omega)) dX1_gateTold_170 (gkr_ip ?_) gkt_ip
          exact g_iret h (pCx_0 hK ⟨by first | rfl | (simp [sTold, hz]; done) | (simp [sTold, hneg]; done), rfl⟩) (by (try dsimp only); omega) (by (try dsimp only); omega) dX1_gateTold_173
        · refine g_tableOut (tgt := 174) h dX1_gateTold_56 hsw56 (by decide) ?_
          refine g_aload_n (i := 3) h dX1_gateTold_174 rfl rfl ?_
          refine g_get h f_X1_208_23 (hX.1.at (cells_10 hj)) rfl dX1_gateTold_175 ?_
          exact g_iret h (pCx_0 hK ⟨by simp [sTold, sw_no (n := 5) hsw56 (k := 0) (by decide), sw_no (n := 5) hsw56 (k := 1) (by decide), sw_no (n := 5) hsw56 (k := 2) (by decide), sw_no (n := 5) hsw56 (k := 3) (by decide), sw_no (n := 5) hsw56 (k := 4) (by decide), sw_no (n := 5) hsw56 (k := 5) (by decide)], rfl⟩) (by (try dsimp only); omega) (by (try dsimp only); omega) dX1_gateTold_178
      · skip
        refine g_aload_n (i := 3) h dX1_gateTold_41 rfl rfl ?_
        refine g_get (v := cLe fz A (ix n)) h f_X1_190_23 (hX.1.at (cells_10 hj)) rfl dX1_gateTold_42 ?_
        rw [show cLe fz A (ix n) = .ref (fz 2 (ix n)) from if_neg hz]
        refine g_ifnull h dX1_gateTold_45 ?_
        refine g_iconst (v := 1) h dX1_gateTold_48 (by decide) ?_
        refine g_goto (tgt := 53) h dX1_gateTold_49 (by decide) ?_
        refine g_istore h dX1_gateTold_53 (by decide) ?_
        refine g_iload_n (i := 2) h dX1_gateTold_55 rfl rfl ?_
        rcases sw_6 w with rfl | rfl | rfl | rfl | rfl | rfl | hsw56
        · refine g_tableIn (off := 40) (tgt := 96) h dX1_gateTold_56 (by decide) (by decide) (by decide) (by decide) ?_
          refine g_aload_n (i := 3) h dX1_gateTold_96 rfl rfl ?_
          refine g_get h f_X1_211_23 (hX.1.at (cells_10 hj)) rfl dX1_gateTold_97 ?_
          exact g_iret h (pCx_0 hK ⟨by first | rfl | (simp [sTold, hz]; done) | (simp [sTold, hneg]; done), rfl⟩) (by (try dsimp only); omega) (by (try dsimp only); omega) dX1_gateTold_100
        · refine g_tableIn (off := 45) (tgt := 101) h dX1_gateTold_56 (by decide) (by decide) (by decide) (by decide) ?_
          refine g_iload h dX1_gateTold_101 rfl ?_
          refine g_if_eq (tgt := 116) h dX1_gateTold_103 (by decide) (fun _bz => absurd _bz (by decide)) (fun _bz => ?_)
          refine g_aload_n (i := 3) h dX1_gateTold_106 rfl rfl ?_
          refine g_get (v := cLe fz A (ix n)) h f_X1_190_23 (hX.1.at (cells_10 hj)) rfl dX1_gateTold_107 ?_
          rw [show cLe fz A (ix n) = .ref (fz 2 (ix n)) from if_neg hz]
          refine g_get h f_X1_194_29 (hX.1.frz (hL _ hj hz) gT_core) rfl dX1_gateTold_110 ?_
          refine g_goto (tgt := 117) h dX1_gateTold_113 (by decide) ?_
          exact g_iret h (pCx_0 hK ⟨by first | rfl | (simp [sTold, hz]; done) | (simp [sTold, hneg]; done), rfl⟩) (by (try dsimp only); omega) (by (try dsimp only); omega) dX1_gateTold_117
        · refine g_tableIn (off := 62) (tgt := 118) h dX1_gateTold_56 (by decide) (by decide) (by decide) (by decide) ?_
          refine g_iload h dX1_gateTold_118 rfl ?_
          refine g_if_eq (tgt := 133) h dX1_gateTold_120 (by decide) (fun _bz => absurd _bz (by decide)) (fun _bz => ?_)
          refine g_aload_n (i := 3) h dX1_gateTold_123 rfl rfl ?_
          refine g_get (v := cLe fz A (ix n)) h f_X1_190_23 (hX.1.at (cells_10 hj)) rfl dX1_gateTold_124 ?_
          rw [show cLe fz A (ix n) = .ref (fz 2 (ix n)) from if_neg hz]
          refine g_get h f_X1_256_29 (hX.1.frz (hL _ hj hz) gT_core) rfl dX1_gateTold_127 ?_
          refine g_goto (tgt := 134) h dX1_gateTold_130 (by decide) ?_
          exact g_iret h (pCx_0 hK ⟨by first | rfl | (simp [sTold, hz]; done) | (simp [sTold, hneg]; done), rfl⟩) (by (try dsimp only); omega) (by (try dsimp only); omega) dX1_gateTold_134
        · refine g_tableIn (off := 79) (tgt := 135) h dX1_gateTold_56 (by decide) (by decide) (by decide) (by decide) ?_
          refine g_iload h dX1_gateTold_135 rfl ?_
          refine g_if_eq (tgt := 150) h dX1_gateTold_137 (by decide) (fun _bz => absurd _bz (by decide)) (fun _bz => ?_)
          refine g_aload_n (i := 3) h dX1_gateTold_140 rfl rfl ?_
          refine g_get (v := cLe fz A (ix n)) h f_X1_190_23 (hX.1.at (cells_10 hj)) rfl dX1_gateTold_141 ?_
          rw [show cLe fz A (ix n) = .ref (fz 2 (ix n)) from if_neg hz]
          refine g_get h f_X1_253_29 (hX.1.frz (hL _ hj hz) gT_core) rfl dX1_gateTold_144 ?_
          refine g_goto (tgt := 151) h dX1_gateTold_147 (by decide) ?_
          exact g_iret h (pCx_0 hK ⟨by first | rfl | (simp [sTold, hz]; done) | (simp [sTold, hneg]; done), rfl⟩) (by (try dsimp only); omega) (by (try dsimp only); omega) dX1_gateTold_151
        · refine g_tableIn (off := 96) (tgt := 152) h dX1_gateTold_56 (by decide) (by decide) (by decide) (by decide) ?_
          refine g_iload h dX1_gateTold_152 rfl ?_
          refine g_if_eq (tgt := 164) h dX1_gateTold_154 (by decide) (fun _bz => absurd _bz (by decide)) (fun _bz => ?_)
          refine g_aload_n (i := 3) h dX1_gateTold_157 rfl rfl ?_
          refine g_get h f_X1_243_23 (hX.1.at (cells_10 hj)) rfl dX1_gateTold_158 ?_
          refine g_goto (tgt := 165) h dX1_gateTold_161 (by decide) ?_
          exact g_iret h (pCx_0 hK ⟨by first | rfl | (simp [sTold, hz]; done) | (simp [sTold, hneg]; done), rfl⟩) (by (try dsimp only); omega) (by (try dsimp only); omega) dX1_gateTold_165
        · refine g_tableIn (off := 110) (tgt := 166) h dX1_gateTold_56 (by decide) (by decide) (by decide) (by decide) ?_
          refine g_aload_n (i := 3) h dX1_gateTold_166 rfl rfl ?_
          refine g_get h f_X1_297_23 (hX.1.at (cells_10 hj)) rfl dX1_gateTold_167 ?_
          refine g_invV h (ct_bsize h.k hX hj) hcJ2_size w_X1_81 rfl rfl (xbids hX hj) (Nat.le_of_ble_eq_true rfl) ⟨Nat.le_of_ble_eq_true rfl, Nat.le_of_ble_eq_true rfl⟩ (by refine ⟨?_, ?_⟩ <;> first | exact Nat.le_refl _ | exact Nat.zero_le _ | (dsimp only; omega)) dX1_gateTold_170 (gkr_ip ?_) gkt_ip
          exact g_iret h (pCx_0 hK ⟨by first | rfl | (simp [sTold, hz]; done) | (simp [sTold, hneg]; done), rfl⟩) (by (try dsimp only); omega) (by (try dsimp only); omega) dX1_gateTold_173
        · refine g_tableOut (tgt := 174) h dX1_gateTold_56 hsw56 (by decide) ?_
          refine g_aload_n (i := 3) h dX1_gateTold_174 rfl rfl ?_
          refine g_get h f_X1_208_23 (hX.1.at (cells_10 hj)) rfl dX1_gateTold_175 ?_
          exact g_iret h (pCx_0 hK ⟨by simp [sTold, sw_no (n := 5) hsw56 (k := 0) (by decide), sw_no (n := 5) hsw56 (k := 1) (by decide), sw_no (n := 5) hsw56 (k := 2) (by decide), sw_no (n := 5) hsw56 (k := 3) (by decide), sw_no (n := 5) hsw56 (k := 4) (by decide), sw_no (n := 5) hsw56 (k := 5) (by decide)], rfl⟩) (by (try dsimp only); omega) (by (try dsimp only); omega) dX1_gateTold_178
theorem nI_nm1 {b : Nat} (h : b < 2147483648) : ¬ nI b = -1 := fun e => nI_pos (n := b) (by omega) (by rw [e]; decide)
theorem cx_inForce {l : Launch} {g : gGP} (hk : gK l g) {c0 c : gLH} {ad cp fz : Nat → Nat → Nat} {md : Nat → Nat → Int32} {S : Nat → List Value} {U : Nat → Nat → Int64} {A : Nat → Nat → Int32} {B : Nat → Nat → Int64} (hX : CW c0 ad cp fz md S U A B c) (day : Int32) (hD : FD fz A c0) : Ct l g yX1_inForce hwX1_inForce 3 120 [.ref (ad 0 0), .int day] c (0) (0) (pIp (oI (sForce (A 9) day (cn A 0))) c) := by
  refine Ct.intro hk hcX1_inForce (by decide +kernel) (Nat.le_of_ble_eq_true rfl) (fun φ h => ?_)
  have loop : ∀ n, n ≤ cn A 0 → G φ (gQ φ (pIp (oI (sForce (A 9) day (cn A 0))) c) 0 0) 4 [(0, .ref (ad 0 0)), (1, .int day), (2, .int (oI (sForce (A 9) day n))), (3, .int (nI n))] [] c 0 0 := by
    refine gloop ?_ ?_
    · skip
      refine g_iload_n (i := 3) h dX1_inForce_4 rfl rfl ?_
      refine g_aload_n (i := 0) h dX1_inForce_5 rfl rfl ?_
      refine g_get (v := .ref (ad 2 0)) h f_X1_25_1 hX.x rfl dX1_inForce_6 ?_
      refine g_invV h (ct_xsize0 h.k hX) hcJ2_size w_X1_81 rfl rfl (xlist0 hX) (Nat.le_of_ble_eq_true rfl) ⟨Nat.le_of_ble_eq_true rfl, Nat.le_of_ble_eq_true rfl⟩ (by refine ⟨?_, ?_⟩ <;> first | exact Nat.le_refl _ | exact Nat.zero_le _ | (dsimp only; omega)) dX1_inForce_9 (gkr_ip ?_) gkt_ip
      refine G.int (hX.cnt (i := 0) (by decide)).1 ?_
      refine g_icmp_ge (tgt := 77) h dX1_inForce_12 (by decide) (fun b12 => ?_) (fun _bz => absurd _bz (fun q => absurd (nI_le (Nat.le_refl _) (by have := (hX.cnt (i := 0) (by decide)).2.2; omega)) q))
      refine g_iload_n (i := 2) h dX1_inForce_77 rfl rfl ?_
      exact g_iret h ⟨rfl, rfl⟩ (by (try dsimp only); omega) (by (try dsimp only); omega) dX1_inForce_78
    · intro n hn ih
      obtain ⟨qn, hqn⟩ := hD n hn
      cases hf : sForce (A 9) day n with
      | none =>
        refine g_iload_n (i := 3) h dX1_inForce_4 rfl rfl ?_
        refine g_aload_n (i := 0) h dX1_inForce_5 rfl rfl ?_
        refine g_get (v := .ref (ad 2 0)) h f_X1_25_1 hX.x rfl dX1_inForce_6 ?_
        refine g_invV h (ct_xsize0 h.k hX) hcJ2_size w_X1_81 rfl rfl (xlist0 hX) (Nat.le_of_ble_eq_true rfl) ⟨Nat.le_of_ble_eq_true rfl, Nat.le_of_ble_eq_true rfl⟩ (by refine ⟨?_, ?_⟩ <;> first | exact Nat.le_refl _ | exact Nat.zero_le _ | (dsimp only; omega)) dX1_inForce_9 (gkr_ip ?_) gkt_ip
        refine G.int (hX.cnt (i := 0) (by decide)).1 ?_
        refine g_icmp_ge (tgt := 77) h dX1_inForce_12 (by decide) (fun _bz => absurd _bz (nI_ge hn (by have := (hX.cnt (i := 0) (by decide)).2.2; omega))) (fun b12 => ?_)
        refine g_aload_n (i := 0) h dX1_inForce_15 rfl rfl ?_
        refine g_get (v := .ref (ad 2 0)) h f_X1_25_1 hX.x rfl dX1_inForce_16 ?_
        refine g_iload_n (i := 3) h dX1_inForce_19 rfl rfl ?_
        refine g_invV h (ct_xget0 h.k hX hn) hcJ2_get w_X1_162 rfl rfl (xlist0 hX) (Nat.le_of_ble_eq_true rfl) ⟨Nat.le_of_ble_eq_true rfl, Nat.le_of_ble_eq_true rfl⟩ (by refine ⟨?_, ?_⟩ <;> first | exact Nat.le_refl _ | exact Nat.zero_le _ | (dsimp only; omega)) dX1_inForce_20 (gkr_ap ?_) gkt_ap
        refine g_castS h (hX.1.frz hqn gT_core) rfl q1398 dX1_inForce_23 ?_
        refine g_get h f_X1_172_6 (hX.1.frz hqn gT_core) rfl dX1_inForce_26 ?_
        refine g_iload_n (i := 1) h dX1_inForce_29 rfl rfl ?_
        refine g_icmp_gt (tgt := 71) h dX1_inForce_30 (by decide) (fun b30 => ?_) (fun b30 => ?_)
        · first | (with_reducible refine g_iincN h dX1_inForce_71 rfl (by decide) ?_) | refine g_iinc1 h dX1_inForce_71 rfl (by decide) ?_
          refine g_goto (tgt := 4) h dX1_inForce_74 (by decide) ?_
          simp only [sForce, hf, b12, b30, if_true, if_false] at ih
          exact G.to ih ⟨rfl, rfl, rfl, rfl, trivial⟩
        · refine g_iload_n (i := 2) h dX1_inForce_33 rfl rfl ?_
          refine g_iconst (v := (-1)) h dX1_inForce_34 (by decide) ?_
          refine g_icmp_eq (tgt := 69) h dX1_inForce_35 (by decide) (fun b35 => ?_) (fun _bz => absurd _bz (fun q => absurd rfl q))
          refine g_iload_n (i := 3) h dX1_inForce_69 rfl rfl ?_
          refine g_istore_n (i := 2) h dX1_inForce_70 rfl (by decide) ?_
          first | (with_reducible refine g_iincN h dX1_inForce_71 rfl (by decide) ?_) | refine g_iinc1 h dX1_inForce_71 rfl (by decide) ?_
          refine g_goto (tgt := 4) h dX1_inForce_74 (by decide) ?_
          simp only [sForce, hf, b12, b30, b35, if_true, if_false] at ih
          exact G.to ih ⟨rfl, rfl, rfl, rfl, trivial⟩
      | some b =>
        have hbn := sForce_lt hf
        have hbc : b < cn A 0 := by omega
        obtain ⟨qb, hqb⟩ := hD b hbc
        refine g_iload_n (i := 3) h dX1_inForce_4 rfl rfl ?_
        refine g_aload_n (i := 0) h dX1_inForce_5 rfl rfl ?_
        refine g_get (v := .ref (ad 2 0)) h f_X1_25_1 hX.x rfl dX1_inForce_6 ?_
        refine g_invV h (ct_xsize0 h.k hX) hcJ2_size w_X1_81 rfl rfl (xlist0 hX) (Nat.le_of_ble_eq_true rfl) ⟨Nat.le_of_ble_eq_true rfl, Nat.le_of_ble_eq_true rfl⟩ (by refine ⟨?_, ?_⟩ <;> first | exact Nat.le_refl _ | exact Nat.zero_le _ | (dsimp only; omega)) dX1_inForce_9 (gkr_ip ?_) gkt_ip
        refine G.int (hX.cnt (i := 0) (by decide)).1 ?_
        refine g_icmp_ge (tgt := 77) h dX1_inForce_12 (by decide) (fun _bz => absurd _bz (nI_ge hn (by have := (hX.cnt (i := 0) (by decide)).2.2; omega))) (fun b12 => ?_)
        refine g_aload_n (i := 0) h dX1_inForce_15 rfl rfl ?_
        refine g_get (v := .ref (ad 2 0)) h f_X1_25_1 hX.x rfl dX1_inForce_16 ?_
        refine g_iload_n (i := 3) h dX1_inForce_19 rfl rfl ?_
        refine g_invV h (ct_xget0 h.k hX hn) hcJ2_get w_X1_162 rfl rfl (xlist0 hX) (Nat.le_of_ble_eq_true rfl) ⟨Nat.le_of_ble_eq_true rfl, Nat.le_of_ble_eq_true rfl⟩ (by refine ⟨?_, ?_⟩ <;> first | exact Nat.le_refl _ | exact Nat.zero_le _ | (dsimp only; omega)) dX1_inForce_20 (gkr_ap ?_) gkt_ap
        refine g_castS h (hX.1.frz hqn gT_core) rfl q1398 dX1_inForce_23 ?_
        refine g_get h f_X1_172_6 (hX.1.frz hqn gT_core) rfl dX1_inForce_26 ?_
        refine g_iload_n (i := 1) h dX1_inForce_29 rfl rfl ?_
        refine g_icmp_gt (tgt := 71) h dX1_inForce_30 (by decide) (fun b30 => ?_) (fun b30 => ?_)
        · first | (with_reducible refine g_iincN h dX1_inForce_71 rfl (by decide) ?_) | refine g_iinc1 h dX1_inForce_71 rfl (by decide) ?_
          refine g_goto (tgt := 4) h dX1_inForce_74 (by decide) ?_
          simp only [sForce, hf, b12, b30, if_true, if_false] at ih
          exact G.to ih ⟨rfl, rfl, rfl, rfl, trivial⟩
        · refine g_iload_n (i := 2) h dX1_inForce_33 rfl rfl ?_
          refine g_iconst (v := (-1)) h dX1_inForce_34 (by decide) ?_
          refine g_icmp_eq (tgt := 69) h dX1_inForce_35 (by decide) (fun _bz => absurd _bz (nI_nm1 (by have := (hX.cnt (i := 0) (by decide)).2.2; omega))) (fun b35 => ?_)
          refine g_aload_n (i := 0) h dX1_inForce_38 rfl rfl ?_
          refine g_get (v := .ref (ad 2 0)) h f_X1_25_1 hX.x rfl dX1_inForce_39 ?_
          refine g_iload_n (i := 3) h dX1_inForce_42 rfl rfl ?_
          refine g_invV h (ct_xget0 h.k hX hn) hcJ2_get w_X1_162 rfl rfl (xlist0 hX) (Nat.le_of_ble_eq_true rfl) ⟨Nat.le_of_ble_eq_true rfl, Nat.le_of_ble_eq_true rfl⟩ (by refine ⟨?_, ?_⟩ <;> first | exact Nat.le_refl _ | exact Nat.zero_le _ | (dsimp only; omega)) dX1_inForce_43 (gkr_ap ?_) gkt_ap
          refine g_castS h (hX.1.frz hqn gT_core) rfl q1398 dX1_inForce_46 ?_
          refine g_get h f_X1_172_6 (hX.1.frz hqn gT_core) rfl dX1_inForce_49 ?_
          refine g_aload_n (i := 0) h dX1_inForce_52 rfl rfl ?_
          refine g_get (v := .ref (ad 2 0)) h f_X1_25_1 hX.x rfl dX1_inForce_53 ?_
          refine g_iload_n (i := 2) h dX1_inForce_56 rfl rfl ?_
          refine g_invV h (ct_xget0 h.k hX hbc) hcJ2_get w_X1_162 rfl rfl (xlist0 hX) (Nat.le_of_ble_eq_true rfl) ⟨Nat.le_of_ble_eq_true rfl, Nat.le_of_ble_eq_true rfl⟩ (by refine ⟨?_, ?_⟩ <;> first | exact Nat.le_refl _ | exact Nat.zero_le _ | (dsimp only; omega)) dX1_inForce_57 (gkr_ap ?_) gkt_ap
          refine g_castS h (hX.1.frz hqb gT_core) rfl q1398 dX1_inForce_60 ?_
          refine g_get h f_X1_172_6 (hX.1.frz hqb gT_core) rfl dX1_inForce_63 ?_
          refine g_icmp_lt (tgt := 71) h dX1_inForce_66 (by decide) (fun b66 => ?_) (fun b66 => ?_)
          · first | (with_reducible refine g_iincN h dX1_inForce_71 rfl (by decide) ?_) | refine g_iinc1 h dX1_inForce_71 rfl (by decide) ?_
            refine g_goto (tgt := 4) h dX1_inForce_74 (by decide) ?_
            simp only [sForce, hf, b12, b30, b35, b66, if_true, if_false] at ih
            exact G.to ih ⟨rfl, rfl, rfl, rfl, trivial⟩
          · refine g_iload_n (i := 3) h dX1_inForce_69 rfl rfl ?_
            refine g_istore_n (i := 2) h dX1_inForce_70 rfl (by decide) ?_
            first | (with_reducible refine g_iincN h dX1_inForce_71 rfl (by decide) ?_) | refine g_iinc1 h dX1_inForce_71 rfl (by decide) ?_
            refine g_goto (tgt := 4) h dX1_inForce_74 (by decide) ?_
            simp only [sForce, hf, b12, b30, b35, b66, if_true, if_false] at ih
            exact G.to ih ⟨rfl, rfl, rfl, rfl, trivial⟩
  refine g_iconst (v := (-1)) h dX1_inForce_0 (by decide) ?_
  refine g_istore_n (i := 2) h dX1_inForce_1 rfl (by decide) ?_
  refine g_iconst (v := 0) h dX1_inForce_2 (by decide) ?_
  refine g_istore_n (i := 3) h dX1_inForce_3 rfl (by decide) ?_
  exact G.to (loop 0 (Nat.zero_le _)) ⟨rfl, rfl, rfl, rfl, trivial⟩
theorem cx_force {l : Launch} {g : gGP} (hk : gK l g) {c0 c : gLH} {ad cp fz : Nat → Nat → Nat} {md : Nat → Nat → Int32} {S : Nat → List Value} {U : Nat → Nat → Int64} {A : Nat → Nat → Int32} {B : Nat → Nat → Int64} (hX : CW c0 ad cp fz md S U A B c) (d : Int32) (hD : FD fz A c0) (hts : gTS g) : Ct l g yX1_force hwX1_force 7 280 [.ref (ad 0 0), .int d] c (8) (48) (pCx (sDayK d) eAS c (pIp (oI (sForce (A 9) d (cn A 0))) c)) := by
  refine Ct.intro hk hcX1_force (by decide +kernel) (Nat.le_of_ble_eq_true rfl) (fun φ h => ?_)
  refine g_iload_n (i := 1) h dX1_force_0 rfl rfl ?_
  refine g_if_lt (tgt := 15) h dX1_force_1 (by decide) (fun b1 => ?_) (fun b1 => ?_)
  · refine g_iconst (v := 0) h dX1_force_15 (by decide) ?_
    refine g_invS h (ct_needX h.k false hts) hcX1_need w_X1_77 rfl rfl (Nat.le_of_ble_eq_true rfl) ⟨Nat.le_of_ble_eq_true rfl, Nat.le_of_ble_eq_true rfl⟩ (by refine ⟨?_, ?_⟩ <;> ((try dsimp only); omega)) dX1_force_16 (gkr_gd (fun hb => absurd hb (by decide))) (gkt_gd (fun _ a e ha => ?_))
    refine gt_out h (fun q hq => by cases hq) ?_ (by (try dsimp only); omega) (by (try dsimp only); omega)
    exact pCx_t (n := 1) (by simp [sDayK, b1]) (by decide) rfl ⟨a, e, rfl, ha, rfl⟩
  · refine g_iload_n (i := 1) h dX1_force_4 rfl rfl ?_
    refine g_sipush (v := 9999) h dX1_force_5 (by decide) ?_
    refine g_icmp_gt (tgt := 15) h dX1_force_8 (by decide) (fun b8 => ?_) (fun b8 => ?_)
    · refine g_iconst (v := 0) h dX1_force_15 (by decide) ?_
      refine g_invS h (ct_needX h.k false hts) hcX1_need w_X1_77 rfl rfl (Nat.le_of_ble_eq_true rfl) ⟨Nat.le_of_ble_eq_true rfl, Nat.le_of_ble_eq_true rfl⟩ (by refine ⟨?_, ?_⟩ <;> ((try dsimp only); omega)) dX1_force_16 (gkr_gd (fun hb => absurd hb (by decide))) (gkt_gd (fun _ a e ha => ?_))
      refine gt_out h (fun q hq => by cases hq) ?_ (by (try dsimp only); omega) (by (try dsimp only); omega)
      exact pCx_t (n := 1) (by simp [sDayK, b1, b8]) (by decide) rfl ⟨a, e, rfl, ha, rfl⟩
    · refine g_iconst (v := 1) h dX1_force_11 (by decide) ?_
      refine g_goto (tgt := 16) h dX1_force_12 (by decide) ?_
      refine g_invS h (ct_needX h.k true hts) hcX1_need w_X1_77 rfl rfl (Nat.le_of_ble_eq_true rfl) ⟨Nat.le_of_ble_eq_true rfl, Nat.le_of_ble_eq_true rfl⟩ (by refine ⟨?_, ?_⟩ <;> ((try dsimp only); omega)) dX1_force_16 (gkr_gd (fun _ => ?_)) (gkt_gd (fun hb => absurd hb (by decide)))
      refine g_aload_n (i := 0) h dX1_force_19 rfl rfl ?_
      refine g_iload_n (i := 1) h dX1_force_20 rfl rfl ?_
      refine g_invV h (cx_inForce h.k hX d hD) hcX1_inForce w_X1_175 rfl rfl hX.x (Nat.le_of_ble_eq_true rfl) ⟨Nat.le_of_ble_eq_true rfl, Nat.le_of_ble_eq_true rfl⟩ (by refine ⟨?_, ?_⟩ <;> ((try dsimp only); omega)) dX1_force_21 (gkr_ip ?_) gkt_ip
      exact g_iret h (pCx_0 (by simp [sDayK, b1, b8]) ⟨rfl, rfl⟩) (by (try dsimp only); omega) (by (try dsimp only); omega) dX1_force_24
