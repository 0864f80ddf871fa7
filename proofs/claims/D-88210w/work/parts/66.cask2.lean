/-! THE COMPONENT: rain, loan, journal, box -/
set_option maxRecDepth 100000
theorem cx_rain {l : Launch} {g : gGP} (hk : gK l g) {c0 c : gLH} {ad cp fz : Nat → Nat → Nat} {md : Nat → Nat → Int32} {S : Nat → List Value} {U : Nat → Nat → Int64} {A : Nat → Nat → Int32} {B : Nat → Nat → Int64} (hX : CW c0 ad cp fz md S U A B c) (d : Int32) (hts : gTS g) : Ct l g yX1_rain hwX1_rain 7 280 [.ref (ad 0 0), .int d] c (8) (48) (pCx (sRainK d) eAS c (pV (CW c0 ad cp fz md S U (mA A 33 0 d) B))) := by
  refine Ct.intro hk hcX1_rain (by decide +kernel) (Nat.le_of_ble_eq_true rfl) (fun φ h => ?_)
  refine g_iload_n (i := 1) h dX1_rain_0 rfl rfl ?_
  refine g_if_lt (tgt := 15) h dX1_rain_1 (by decide) (fun b1 => ?_) (fun b1 => ?_)
  · refine g_iconst (v := 0) h dX1_rain_15 (by decide) ?_
    refine g_invS h (ct_needX h.k false hts) hcX1_need w_X1_77 rfl rfl (Nat.le_of_ble_eq_true rfl) ⟨Nat.le_of_ble_eq_true rfl, Nat.le_of_ble_eq_true rfl⟩ (by refine ⟨?_, ?_⟩ <;> ((try dsimp only); omega)) dX1_rain_16 (gkr_gd (fun hb => absurd hb (by decide))) (gkt_gd (fun _ a e ha => ?_))
    refine gt_out h (fun q hq => by cases hq) ?_ (by (try dsimp only); omega) (by (try dsimp only); omega)
    exact pCx_t (n := 1) (by simp [sRainK, b1]) (by decide) rfl ⟨a, e, rfl, ha, rfl⟩
  · refine g_iload_n (i := 1) h dX1_rain_4 rfl rfl ?_
    refine g_sipush (v := 1000) h dX1_rain_5 (by decide) ?_
    refine g_icmp_gt (tgt := 15) h dX1_rain_8 (by decide) (fun b8 => ?_) (fun b8 => ?_)
    · refine g_iconst (v := 0) h dX1_rain_15 (by decide) ?_
      refine g_invS h (ct_needX h.k false hts) hcX1_need w_X1_77 rfl rfl (Nat.le_of_ble_eq_true rfl) ⟨Nat.le_of_ble_eq_true rfl, Nat.le_of_ble_eq_true rfl⟩ (by refine ⟨?_, ?_⟩ <;> ((try dsimp only); omega)) dX1_rain_16 (gkr_gd (fun hb => absurd hb (by decide))) (gkt_gd (fun _ a e ha => ?_))
      refine gt_out h (fun q hq => by cases hq) ?_ (by (try dsimp only); omega) (by (try dsimp only); omega)
      exact pCx_t (n := 1) (by simp [sRainK, b1, b8]) (by decide) rfl ⟨a, e, rfl, ha, rfl⟩
    · refine g_iconst (v := 1) h dX1_rain_11 (by decide) ?_
      refine g_goto (tgt := 16) h dX1_rain_12 (by decide) ?_
      refine g_invS h (ct_needX h.k true hts) hcX1_need w_X1_77 rfl rfl (Nat.le_of_ble_eq_true rfl) ⟨Nat.le_of_ble_eq_true rfl, Nat.le_of_ble_eq_true rfl⟩ (by refine ⟨?_, ?_⟩ <;> ((try dsimp only); omega)) dX1_rain_16 (gkr_gd (fun _ => ?_)) (gkt_gd (fun hb => absurd hb (by decide)))
      refine g_aload_n (i := 0) h dX1_rain_19 rfl rfl ?_
      refine g_iload_n (i := 1) h dX1_rain_20 rfl rfl ?_
      refine x_put33 h hX fp_X1_219_1 rfl rfl dX1_rain_21 (fun c hX => ?_)
      exact g_vret h (pCx_0 (by simp [sRainK, b1, b8]) ⟨rfl, hX⟩) (by (try dsimp only); omega) (by (try dsimp only); omega) dX1_rain_24
theorem sNo_lt {x y : Int32} (h : sThere x y = true) : ¬ x < 0 ∧ x < y := by
  unfold sThere at h
  simp only [Bool.and_eq_true, Bool.not_eq_true', decide_eq_false_iff_not, decide_eq_true_eq] at h
  exact h
theorem sNo_ge {x y : Int32} (h : sThere x y = false) : x < 0 ∨ ¬ x < y := by
  unfold sThere at h
  by_cases q : x < 0
  · exact Or.inl q
  · right
    simp [q] at h
    simpa using h
theorem cx_loan {l : Launch} {g : gGP} (hk : gK l g) {c0 c : gLH} {ad cp fz : Nat → Nat → Nat} {md : Nat → Nat → Int32} {S : Nat → List Value} {U : Nat → Nat → Int64} {A : Nat → Nat → Int32} {B : Nat → Nat → Int64} (hX : CW c0 ad cp fz md S U A B c) (n w : Int32) (hts : gTS g) : Ct l g yX1_loan hwX1_loan 7 280 [.ref (ad 0 0), .int n, .int w] c (8) (48) (pCx (sLoanK A n w) eBAS c (pLp (sLoan A B (ix n) w) c)) := by
  refine Ct.intro hk hcX1_loan (by decide +kernel) (Nat.le_of_ble_eq_true rfl) (fun φ h => ?_)
  refine g_iload_n (i := 1) h dX1_loan_0 rfl rfl ?_
  refine g_aload_n (i := 0) h dX1_loan_1 rfl rfl ?_
  refine g_get (v := .ref (ad 2 5)) h f_X1_41_1 hX.x rfl dX1_loan_2 ?_
  refine g_invV h (ct_xsize5 h.k hX) hcJ2_size w_X1_81 rfl rfl (xlist5 hX) (Nat.le_of_ble_eq_true rfl) ⟨Nat.le_of_ble_eq_true rfl, Nat.le_of_ble_eq_true rfl⟩ (by refine ⟨?_, ?_⟩ <;> first | exact Nat.le_refl _ | exact Nat.zero_le _ | (dsimp only; omega)) dX1_loan_5 (gkr_ip ?_) gkt_ip
  refine g_invS h (ct_thereX h.k _ _ hts) hcX1_there w_X1_112 rfl rfl (Nat.le_of_ble_eq_true rfl) ⟨Nat.le_of_ble_eq_true rfl, Nat.le_of_ble_eq_true rfl⟩ (by refine ⟨?_, ?_⟩ <;> ((try dsimp only); omega)) dX1_loan_8 (gkr_gd (fun b8 => ?_)) (gkt_gd (fun b8 a e ha => ?_))
  rotate_left 1
  · refine gt_out h (fun q hq => by cases hq) ?_ (by (try dsimp only); omega) (by (try dsimp only); omega)
    exact pCx_t (n := 1) (by unfold sLoanK; rcases sNo_ge b8 with q | q <;> simp [q]) (by decide) rfl ⟨a, e, rfl, ha, rfl⟩
  have bz := sNo_lt b8
  obtain ⟨hj, hx⟩ := there_ix b8 (hX.cnt (i := 5) (by decide)).1 (hX.cnt (i := 5) (by decide)).2.2
  refine g_iload_n (i := 2) h dX1_loan_11 rfl rfl ?_
  refine g_if_lt (tgt := 24) h dX1_loan_12 (by decide) (fun b12 => ?_) (fun b12 => ?_)
  · refine g_iconst (v := 0) h dX1_loan_24 (by decide) ?_
    refine g_invS h (ct_needX h.k false hts) hcX1_need w_X1_77 rfl rfl (Nat.le_of_ble_eq_true rfl) ⟨Nat.le_of_ble_eq_true rfl, Nat.le_of_ble_eq_true rfl⟩ (by refine ⟨?_, ?_⟩ <;> ((try dsimp only); omega)) dX1_loan_25 (gkr_gd (fun hb => absurd hb (by decide))) (gkt_gd (fun _ a e ha => ?_))
    refine gt_out h (fun q hq => by cases hq) ?_ (by (try dsimp only); omega) (by (try dsimp only); omega)
    exact pCx_t (n := 2) (by simp [sLoanK, bz, b12]) (by decide) rfl ⟨a, e, rfl, ha, rfl⟩
  · refine g_iload_n (i := 2) h dX1_loan_15 rfl rfl ?_
    refine g_iconst (v := 3) h dX1_loan_16 (by decide) ?_
    refine g_icmp_gt (tgt := 24) h dX1_loan_17 (by decide) (fun b17 => ?_) (fun b17 => ?_)
    · refine g_iconst (v := 0) h dX1_loan_24 (by decide) ?_
      refine g_invS h (ct_needX h.k false hts) hcX1_need w_X1_77 rfl rfl (Nat.le_of_ble_eq_true rfl) ⟨Nat.le_of_ble_eq_true rfl, Nat.le_of_ble_eq_true rfl⟩ (by refine ⟨?_, ?_⟩ <;> ((try dsimp only); omega)) dX1_loan_25 (gkr_gd (fun hb => absurd hb (by decide))) (gkt_gd (fun _ a e ha => ?_))
      refine gt_out h (fun q hq => by cases hq) ?_ (by (try dsimp only); omega) (by (try dsimp only); omega)
      exact pCx_t (n := 2) (by simp [sLoanK, bz, b12, b17]) (by decide) rfl ⟨a, e, rfl, ha, rfl⟩
    · refine g_iconst (v := 1) h dX1_loan_20 (by decide) ?_
      refine g_goto (tgt := 25) h dX1_loan_21 (by decide) ?_
      refine g_invS h (ct_needX h.k true hts) hcX1_need w_X1_77 rfl rfl (Nat.le_of_ble_eq_true rfl) ⟨Nat.le_of_ble_eq_true rfl, Nat.le_of_ble_eq_true rfl⟩ (by refine ⟨?_, ?_⟩ <;> ((try dsimp only); omega)) dX1_loan_25 (gkr_gd (fun _ => ?_)) (gkt_gd (fun hb => absurd hb (by decide)))
      refine g_aload_n (i := 0) h dX1_loan_28 rfl rfl ?_
      refine g_get (v := .ref (ad 2 5)) h f_X1_41_1 hX.x rfl dX1_loan_29 ?_
      refine g_iload_n (i := 1) h dX1_loan_32 rfl rfl ?_
      refine G.int hx ?_
      refine g_invV h (ct_xget5 h.k hX hj) hcJ2_get w_X1_162 rfl rfl (xlist5 hX) (Nat.le_of_ble_eq_true rfl) ⟨Nat.le_of_ble_eq_true rfl, Nat.le_of_ble_eq_true rfl⟩ (by refine ⟨?_, ?_⟩ <;> first | exact Nat.le_refl _ | exact Nat.zero_le _ | (dsimp only; omega)) dX1_loan_33 (gkr_ap ?_) gkt_ap
      refine g_castS h (hX.1.at (cells_16 hj)) rfl q1575 dX1_loan_36 ?_
      refine g_astore_n (i := 3) h dX1_loan_39 rfl (by decide) ?_
      refine g_iload_n (i := 2) h dX1_loan_40 rfl rfl ?_
      refine g_if_ne (tgt := 51) h dX1_loan_41 (by decide) (fun b41 => ?_) (fun b41 => ?_)
      · refine g_iload_n (i := 2) h dX1_loan_51 rfl rfl ?_
        refine g_iconst (v := 1) h dX1_loan_52 (by decide) ?_
        refine g_icmp_ne (tgt := 64) h dX1_loan_53 (by decide) (fun b53 => ?_) (fun b53 => ?_)
        · refine g_iload_n (i := 2) h dX1_loan_64 rfl rfl ?_
          refine g_iconst (v := 2) h dX1_loan_65 (by decide) ?_
          refine g_icmp_ne (tgt := 77) h dX1_loan_66 (by decide) (fun b66 => ?_) (fun b66 => ?_)
          · refine g_aload_n (i := 3) h dX1_loan_77 rfl rfl ?_
            refine g_get h f_X1_265_30 (hX.1.at (cells_16 hj)) rfl dX1_loan_78 ?_
            exact g_lret h (pCx_0 (by simp [sLoanK, bz, b12, b17, b41, b53, b66]) ⟨by simp [sLoan, b12, b17, b41, b53, b66], rfl⟩) (by (try dsimp only); omega) (by (try dsimp only); omega) dX1_loan_81
          · refine g_aload_n (i := 3) h dX1_loan_69 rfl rfl ?_
            refine g_get h f_X1_275_30 (hX.1.at (cells_16 hj)) rfl dX1_loan_70 ?_
            refine g_i2l h dX1_loan_73 ?_
            refine g_goto (tgt := 81) h dX1_loan_74 (by decide) ?_
            exact g_lret h (pCx_0 (by simp [sLoanK, bz, b12, b17, b41, b53, b66]) ⟨by simp [sLoan, b12, b17, b41, b53, b66], rfl⟩) (by (try dsimp only); omega) (by (try dsimp only); omega) dX1_loan_81
        · refine g_aload_n (i := 3) h dX1_loan_56 rfl rfl ?_
          refine g_get h f_X1_270_30 (hX.1.at (cells_16 hj)) rfl dX1_loan_57 ?_
          refine g_i2l h dX1_loan_60 ?_
          refine g_goto (tgt := 81) h dX1_loan_61 (by decide) ?_
          exact g_lret h (pCx_0 (by simp [sLoanK, bz, b12, b17, b41, b53]) ⟨by simp [sLoan, b12, b17, b41, b53], rfl⟩) (by (try dsimp only); omega) (by (try dsimp only); omega) dX1_loan_81
      · refine g_aload_n (i := 3) h dX1_loan_44 rfl rfl ?_
        refine g_get h f_X1_267_30 (hX.1.at (cells_16 hj)) rfl dX1_loan_45 ?_
        refine g_goto (tgt := 81) h dX1_loan_48 (by decide) ?_
        exact g_lret h (pCx_0 (by simp [sLoanK, bz, b12, b17, b41]) ⟨by simp [sLoan, b12, b17, b41], rfl⟩) (by (try dsimp only); omega) (by (try dsimp only); omega) dX1_loan_81
theorem cLn_at {A : Nat → Nat → Int32} {n w : Nat} (hn : n < ix (A 42 0)) (hw : w < 4) : cLn A (4 * n + w) = cLv A n w := by
  unfold cLn
  rw [if_pos (by omega), show (4 * n + w) / 4 = n by omega, show (4 * n + w) % 4 = w by omega]
theorem cLv_j {A : Nat → Nat → Int32} {n k : Nat} (hk : k < 4) : cLv A n k = sJourn A n (nI k) := by
  rcases (show k = 0 ∨ k = 1 ∨ k = 2 ∨ k = 3 by omega) with rfl | rfl | rfl | rfl <;> rfl
theorem ix_3 {w : Int32} (h0 : ¬ w < 0) (h : w ≤ 3) : ix w < 4 ∧ w = nI (ix w) := by
  obtain ⟨a, b⟩ := ix_le (m := 3) h0 h rfl (by decide)
  exact ⟨by omega, b⟩
theorem cx_journal {l : Launch} {g : gGP} (hk : gK l g) {c0 c : gLH} {ad cp fz : Nat → Nat → Nat} {md : Nat → Nat → Int32} {S : Nat → List Value} {U : Nat → Nat → Int64} {A : Nat → Nat → Int32} {B : Nat → Nat → Int64} (hX : CW c0 ad cp fz md S U A B c) (k w : Int32) (hts : gTS g) : Ct l g yX1_journal hwX1_journal 7 280 [.ref (ad 0 0), .int k, .int w] c (8) (48) (pCx (sJournK A k w) eBAS c (pLp (sJourn A (ix k) w) c)) := by
  refine Ct.intro hk hcX1_journal (by decide +kernel) (Nat.le_of_ble_eq_true rfl) (fun φ h => ?_)
  refine g_iload_n (i := 1) h dX1_journal_0 rfl rfl ?_
  refine g_aload_n (i := 0) h dX1_journal_1 rfl rfl ?_
  refine g_get (v := .int (A 42 0)) h f_X1_222_1 hX.x rfl dX1_journal_2 ?_
  refine g_invS h (ct_thereX h.k _ _ hts) hcX1_there w_X1_112 rfl rfl (Nat.le_of_ble_eq_true rfl) ⟨Nat.le_of_ble_eq_true rfl, Nat.le_of_ble_eq_true rfl⟩ (by refine ⟨?_, ?_⟩ <;> ((try dsimp only); omega)) dX1_journal_5 (gkr_gd (fun b5 => ?_)) (gkt_gd (fun b5 a e ha => ?_))
  rotate_left 1
  · refine gt_out h (fun q hq => by cases hq) ?_ (by (try dsimp only); omega) (by (try dsimp only); omega)
    exact pCx_t (n := 1) (by rw [sThere_no] at b5; simp at b5; simp [sJournK, b5]) (by decide) rfl ⟨a, e, rfl, ha, rfl⟩
  have bz : sNo k (A 42 0) = false := by rw [sThere_no] at b5; simpa using b5
  obtain ⟨hj, hx⟩ := there_ix b5 hX.2.2.2.1 (by have := hX.2.2.2.2; omega)
  refine g_iload_n (i := 2) h dX1_journal_8 rfl rfl ?_
  refine g_if_lt (tgt := 21) h dX1_journal_9 (by decide) (fun b9 => ?_) (fun b9 => ?_)
  · refine g_iconst (v := 0) h dX1_journal_21 (by decide) ?_
    refine g_invS h (ct_needX h.k false hts) hcX1_need w_X1_77 rfl rfl (Nat.le_of_ble_eq_true rfl) ⟨Nat.le_of_ble_eq_true rfl, Nat.le_of_ble_eq_true rfl⟩ (by refine ⟨?_, ?_⟩ <;> ((try dsimp only); omega)) dX1_journal_22 (gkr_gd (fun hb => absurd hb (by decide))) (gkt_gd (fun _ a e ha => ?_))
    refine gt_out h (fun q hq => by cases hq) ?_ (by (try dsimp only); omega) (by (try dsimp only); omega)
    exact pCx_t (n := 2) (by simp [sJournK, bz, b9]) (by decide) rfl ⟨a, e, rfl, ha, rfl⟩
  · refine g_iload_n (i := 2) h dX1_journal_12 rfl rfl ?_
    refine g_iconst (v := 3) h dX1_journal_13 (by decide) ?_
    refine g_icmp_gt (tgt := 21) h dX1_journal_14 (by decide) (fun b14 => ?_) (fun b14 => ?_)
    · refine g_iconst (v := 0) h dX1_journal_21 (by decide) ?_
      refine g_invS h (ct_needX h.k false hts) hcX1_need w_X1_77 rfl rfl (Nat.le_of_ble_eq_true rfl) ⟨Nat.le_of_ble_eq_true rfl, Nat.le_of_ble_eq_true rfl⟩ (by refine ⟨?_, ?_⟩ <;> ((try dsimp only); omega)) dX1_journal_22 (gkr_gd (fun hb => absurd hb (by decide))) (gkt_gd (fun _ a e ha => ?_))
      refine gt_out h (fun q hq => by cases hq) ?_ (by (try dsimp only); omega) (by (try dsimp only); omega)
      exact pCx_t (n := 2) (by simp [sJournK, bz, b9, b14]) (by decide) rfl ⟨a, e, rfl, ha, rfl⟩
    · refine g_iconst (v := 1) h dX1_journal_17 (by decide) ?_
      refine g_goto (tgt := 22) h dX1_journal_18 (by decide) ?_
      refine g_invS h (ct_needX h.k true hts) hcX1_need w_X1_77 rfl rfl (Nat.le_of_ble_eq_true rfl) ⟨Nat.le_of_ble_eq_true rfl, Nat.le_of_ble_eq_true rfl⟩ (by refine ⟨?_, ?_⟩ <;> ((try dsimp only); omega)) dX1_journal_22 (gkr_gd (fun _ => ?_)) (gkt_gd (fun hb => absurd hb (by decide)))
      obtain ⟨hw4, hw⟩ := ix_3 (w := w) (by simpa using b9) (by simpa using b14)
      refine g_aload_n (i := 0) h dX1_journal_25 rfl rfl ?_
      refine g_get (v := .ref (ad 8 0)) h f_X1_58_1 hX.x rfl dX1_journal_26 ?_
      refine g_iconst (v := nI 4) h dX1_journal_29 (by decide) ?_
      refine g_iload_n (i := 1) h dX1_journal_30 rfl rfl ?_
      refine G.int hx ?_
      first | (with_reducible refine g_imulN h dX1_journal_31 ?_) | refine g_imul h dX1_journal_31 ?_
      refine g_iload_n (i := 2) h dX1_journal_32 rfl rfl ?_
      refine G.int hw ?_
      first | (with_reducible refine g_iaddN h dX1_journal_33 ?_) | refine g_iadd h dX1_journal_33 ?_
      refine g_laldN h (hX.1.at (k := 8) (i := 0) rfl) (by have := hX.2.2.2.2; omega) (by have := hX.2.2.2.2; omega) dX1_journal_34 ?_
      exact g_lret h (pCx_0 (by simp [sJournK, bz, b9, b14]) ⟨by rw [cLn_at hj hw4, cLv_j hw4, ← hw], rfl⟩) (by (try dsimp only); omega) (by (try dsimp only); omega) dX1_journal_35
theorem i64_lt (x y : Int32) : x.toInt64 < y.toInt64 ↔ x < y := by
  rw [Int64.lt_iff_toInt_lt, Int32.lt_iff_toInt_lt, Int32.toInt_toInt64, Int32.toInt_toInt64]
theorem cx_box {l : Launch} {g : gGP} (hk : gK l g) {c0 c : gLH} {ad cp fz : Nat → Nat → Nat} {md : Nat → Nat → Int32} {S : Nat → List Value} {U : Nat → Nat → Int64} {A : Nat → Nat → Int32} {B : Nat → Nat → Int64} (hX : CW c0 ad cp fz md S U A B c) (d : Int32) (hts : gTS g) : Ct l g yX1_box hwX1_box 7 280 [.ref (ad 0 0), .int d] c (8) (48) (pCx (sDayK d) eAS c (pLp (sBox (A 38) (A 41) d (ix (A 42 0))) c)) := by
  refine Ct.intro hk hcX1_box (by decide +kernel) (Nat.le_of_ble_eq_true rfl) (fun φ h => ?_)
  refine g_iload_n (i := 1) h dX1_box_0 rfl rfl ?_
  refine g_if_lt (tgt := 15) h dX1_box_1 (by decide) (fun b1 => ?_) (fun b1 => ?_)
  · refine g_iconst (v := 0) h dX1_box_15 (by decide) ?_
    refine g_invS h (ct_needX h.k false hts) hcX1_need w_X1_77 rfl rfl (Nat.le_of_ble_eq_true rfl) ⟨Nat.le_of_ble_eq_true rfl, Nat.le_of_ble_eq_true rfl⟩ (by refine ⟨?_, ?_⟩ <;> ((try dsimp only); omega)) dX1_box_16 (gkr_gd (fun hb => absurd hb (by decide))) (gkt_gd (fun _ a e ha => ?_))
    refine gt_out h (fun q hq => by cases hq) ?_ (by (try dsimp only); omega) (by (try dsimp only); omega)
    exact pCx_t (n := 1) (by simp [sDayK, b1]) (by decide) rfl ⟨a, e, rfl, ha, rfl⟩
  · refine g_iload_n (i := 1) h dX1_box_4 rfl rfl ?_
    refine g_sipush (v := 9999) h dX1_box_5 (by decide) ?_
    refine g_icmp_gt (tgt := 15) h dX1_box_8 (by decide) (fun b8 => ?_) (fun b8 => ?_)
    · refine g_iconst (v := 0) h dX1_box_15 (by decide) ?_
      refine g_invS h (ct_needX h.k false hts) hcX1_need w_X1_77 rfl rfl (Nat.le_of_ble_eq_true rfl) ⟨Nat.le_of_ble_eq_true rfl, Nat.le_of_ble_eq_true rfl⟩ (by refine ⟨?_, ?_⟩ <;> ((try dsimp only); omega)) dX1_box_16 (gkr_gd (fun hb => absurd hb (by decide))) (gkt_gd (fun _ a e ha => ?_))
      refine gt_out h (fun q hq => by cases hq) ?_ (by (try dsimp only); omega) (by (try dsimp only); omega)
      exact pCx_t (n := 1) (by simp [sDayK, b1, b8]) (by decide) rfl ⟨a, e, rfl, ha, rfl⟩
    · refine g_iconst (v := 1) h dX1_box_11 (by decide) ?_
      refine g_goto (tgt := 16) h dX1_box_12 (by decide) ?_
      refine g_invS h (ct_needX h.k true hts) hcX1_need w_X1_77 rfl rfl (Nat.le_of_ble_eq_true rfl) ⟨Nat.le_of_ble_eq_true rfl, Nat.le_of_ble_eq_true rfl⟩ (by refine ⟨?_, ?_⟩ <;> ((try dsimp only); omega)) dX1_box_16 (gkr_gd (fun _ => ?_)) (gkt_gd (fun hb => absurd hb (by decide)))
      refine g_lconst (v := 0) h dX1_box_19 (by decide) ?_
      refine g_lstore_n (i := 2) h dX1_box_20 rfl (by decide) ?_
      refine g_iconst (v := 0) h dX1_box_21 (by decide) ?_
      refine g_istore h dX1_box_22 (by decide) ?_
      have hD : sDayK d = 0 := by simp [sDayK, b1, b8]
      refine G.up (ce' := 8) (sl' := 48) (by decide) (by decide) ?_
      have loop : ∀ n, n ≤ ix (A 42 0) → G φ (gQ φ (pCx (sDayK d) eAS c (pLp (sBox (A 38) (A 41) d (ix (A 42 0))) c)) 8 48) 24 [(0, .ref (ad 0 0)), (1, .int d), (2, .long (sBox (A 38) (A 41) d n)), (4, .int (nI n))] [] c 8 48 := by
        refine gloop ?_ ?_
        · skip
          refine g_iload h dX1_box_24 rfl ?_
          refine g_aload_n (i := 0) h dX1_box_26 rfl rfl ?_
          refine g_get (v := .int (A 42 0)) h f_X1_222_1 hX.x rfl dX1_box_27 ?_
          refine G.int hX.2.2.2.1 ?_
          refine g_icmp_ge (tgt := 72) h dX1_box_30 (by decide) (fun b30 => ?_) (fun _bz => absurd _bz (fun q => absurd (nI_le (Nat.le_refl _) (by have := hX.2.2.2.2; omega)) q))
          refine g_lload_n (i := 2) h dX1_box_72 rfl rfl ?_
          exact g_lret h (pCx_0 hD ⟨rfl, rfl⟩) (by (try dsimp only); omega) (by (try dsimp only); omega) dX1_box_73
        · intro n hn ih
          refine g_iload h dX1_box_24 rfl ?_
          refine g_aload_n (i := 0) h dX1_box_26 rfl rfl ?_
          refine g_get (v := .int (A 42 0)) h f_X1_222_1 hX.x rfl dX1_box_27 ?_
          refine G.int hX.2.2.2.1 ?_
          refine g_icmp_ge (tgt := 72) h dX1_box_30 (by decide) (fun _bz => absurd _bz (nI_ge hn (by have := hX.2.2.2.2; omega))) (fun b30 => ?_)
          refine g_lload_n (i := 2) h dX1_box_33 rfl rfl ?_
          refine g_aload_n (i := 0) h dX1_box_34 rfl rfl ?_
          refine g_get (v := .ref (ad 8 0)) h f_X1_58_1 hX.x rfl dX1_box_35 ?_
          refine g_iconst (v := nI 4) h dX1_box_38 (by decide) ?_
          refine g_iload h dX1_box_39 rfl ?_
          first | (with_reducible refine g_imulN h dX1_box_41 ?_) | refine g_imul h dX1_box_41 ?_
          refine g_laldN h (hX.1.at (k := 8) (i := 0) rfl) (by have := hX.2.2.2.2; omega) (by have := hX.2.2.2.2; omega) dX1_box_42 ?_
          refine G.long (cLn_at (w := 0) hn (by decide)) ?_
          refine g_iload_n (i := 1) h dX1_box_43 rfl rfl ?_
          refine g_i2l h dX1_box_44 ?_
          refine g_lcmp h dX1_box_45 ?_
          refine g_if_gt (tgt := 63) h dX1_box_46 (by decide) (fun b46 => ?_) (fun b46 => ?_)
          · rw [lg_cmp_gt] at b46
            refine g_lconst (v := 0) h dX1_box_63 (by decide) ?_
            refine g_ladd h dX1_box_64 ?_
            refine g_lstore_n (i := 2) h dX1_box_65 rfl (by decide) ?_
            first | (with_reducible refine g_iincN h dX1_box_66 rfl (by decide) ?_) | refine g_iinc1 h dX1_box_66 rfl (by decide) ?_
            refine g_goto (tgt := 24) h dX1_box_69 (by decide) ?_
            have ih' := ih
            first
              | (have q : d < A 38 n := (i64_lt _ _).mp b46
                 simp only [sBox, if_pos q] at ih')
              | (have q : ¬ d < A 38 n := fun z => b46 ((i64_lt _ _).mpr z)
                 simp only [sBox, if_neg q] at ih')
            exact G.to ih' ⟨rfl, rfl, rfl, rfl, trivial⟩
          · rw [lg_cmp_gt] at b46
            refine g_aload_n (i := 0) h dX1_box_49 rfl rfl ?_
            refine g_get (v := .ref (ad 8 0)) h f_X1_58_1 hX.x rfl dX1_box_50 ?_
            refine g_iconst (v := nI 4) h dX1_box_53 (by decide) ?_
            refine g_iload h dX1_box_54 rfl ?_
            first | (with_reducible refine g_imulN h dX1_box_56 ?_) | refine g_imul h dX1_box_56 ?_
            refine g_iconst (v := nI 3) h dX1_box_57 (by decide) ?_
            first | (with_reducible refine g_iaddN h dX1_box_58 ?_) | refine g_iadd h dX1_box_58 ?_
            refine g_laldN h (hX.1.at (k := 8) (i := 0) rfl) (by have := hX.2.2.2.2; omega) (by have := hX.2.2.2.2; omega) dX1_box_59 ?_
            refine G.long (cLn_at (w := 3) hn (by decide)) ?_
            refine g_goto (tgt := 64) h dX1_box_60 (by decide) ?_
            refine g_ladd h dX1_box_64 ?_
            refine g_lstore_n (i := 2) h dX1_box_65 rfl (by decide) ?_
            first | (with_reducible refine g_iincN h dX1_box_66 rfl (by decide) ?_) | refine g_iinc1 h dX1_box_66 rfl (by decide) ?_
            refine g_goto (tgt := 24) h dX1_box_69 (by decide) ?_
            have ih' := ih
            first
              | (have q : d < A 38 n := (i64_lt _ _).mp b46
                 simp only [sBox, if_pos q] at ih')
              | (have q : ¬ d < A 38 n := fun z => b46 ((i64_lt _ _).mpr z)
                 simp only [sBox, if_neg q] at ih')
            exact G.to ih' ⟨rfl, rfl, rfl, rfl, trivial⟩
      exact G.to (loop 0 (Nat.zero_le _)) ⟨rfl, rfl, rfl, rfl, trivial⟩
