/-! THE COMPONENT: questions -/
set_option maxRecDepth 100000
theorem cx_fault {l : Launch} {g : gGP} (hk : gK l g) {c0 c : gLH} {ad cp fz : Nat → Nat → Nat} {md : Nat → Nat → Int32} {S : Nat → List Value} {U : Nat → Nat → Int64} {A : Nat → Nat → Int32} {B : Nat → Nat → Int64} (hX : CW c0 ad cp fz md S U A B c) : Ct l g yX1_fault hwX1_fault 0 0 [.ref (ad 0 0)] c (0) (0) (pIp (A 6 0) c) := by
  refine Ct.intro hk hcX1_fault (by decide +kernel) (Nat.le_of_ble_eq_true rfl) (fun φ h => ?_)
  refine g_aload_n (i := 0) h dX1_fault_0 rfl rfl ?_
  refine g_get (v := .int (A 6 0)) h f_X1_13_1 hX.x rfl dX1_fault_1 ?_
  exact g_iret h ⟨rfl, rfl⟩ (Nat.zero_le _) (Nat.zero_le _) dX1_fault_4
theorem cx_clause {l : Launch} {g : gGP} (hk : gK l g) {c0 c : gLH} {ad cp fz : Nat → Nat → Nat} {md : Nat → Nat → Int32} {S : Nat → List Value} {U : Nat → Nat → Int64} {A : Nat → Nat → Int32} {B : Nat → Nat → Int64} (hX : CW c0 ad cp fz md S U A B c) : Ct l g yX1_clause hwX1_clause 0 0 [.ref (ad 0 0)] c (0) (0) (pIp (A 37 0) c) := by
  refine Ct.intro hk hcX1_clause (by decide +kernel) (Nat.le_of_ble_eq_true rfl) (fun φ h => ?_)
  refine g_aload_n (i := 0) h dX1_clause_0 rfl rfl ?_
  refine g_get (v := .int (A 37 0)) h f_X1_17_1 hX.x rfl dX1_clause_1 ?_
  exact g_iret h ⟨rfl, rfl⟩ (Nat.zero_le _) (Nat.zero_le _) dX1_clause_4
theorem cx_count {l : Launch} {g : gGP} (hk : gK l g) {c0 c : gLH} {ad cp fz : Nat → Nat → Nat} {md : Nat → Nat → Int32} {S : Nat → List Value} {U : Nat → Nat → Int64} {A : Nat → Nat → Int32} {B : Nat → Nat → Int64} (hX : CW c0 ad cp fz md S U A B c) (w : Int32) : Ct l g yX1_count hwX1_count 1 40 [.ref (ad 0 0), .int w] c (0) (0) (pIp (sCount A w) c) := by
  refine Ct.intro hk hcX1_count (by decide +kernel) (Nat.le_of_ble_eq_true rfl) (fun φ h => ?_)
  refine g_iload_n (i := 1) h dX1_count_0 rfl rfl ?_
  rcases sw_10 w with rfl | rfl | rfl | rfl | rfl | rfl | rfl | rfl | rfl | rfl | hsw1
  · refine g_tableIn (off := 55) (tgt := 56) h dX1_count_1 (by decide) (by decide) (by decide) (by decide) ?_
    refine g_aload_n (i := 0) h dX1_count_56 rfl rfl ?_
    refine g_get (v := .int (A 32 0)) h f_X1_137_1 hX.x rfl dX1_count_57 ?_
    exact g_iret h ⟨by simp [sCount], rfl⟩ (Nat.zero_le _) (Nat.zero_le _) dX1_count_60
  · refine g_tableIn (off := 60) (tgt := 61) h dX1_count_1 (by decide) (by decide) (by decide) (by decide) ?_
    refine g_aload_n (i := 0) h dX1_count_61 rfl rfl ?_
    refine g_get (v := .ref (ad 2 0)) h f_X1_25_1 hX.x rfl dX1_count_62 ?_
    refine g_invV h (ct_xsize0 h.k hX) hcJ2_size w_X1_81 rfl rfl (xlist0 hX) (Nat.le_of_ble_eq_true rfl) ⟨Nat.le_of_ble_eq_true rfl, Nat.le_of_ble_eq_true rfl⟩ (by refine ⟨?_, ?_⟩ <;> first | exact Nat.le_refl _ | exact Nat.zero_le _ | (dsimp only; omega)) dX1_count_65 (gkr_ip ?_) gkt_ip
    exact g_iret h ⟨by simp [sCount], rfl⟩ (Nat.zero_le _) (Nat.zero_le _) dX1_count_68
  · refine g_tableIn (off := 68) (tgt := 69) h dX1_count_1 (by decide) (by decide) (by decide) (by decide) ?_
    refine g_aload_n (i := 0) h dX1_count_69 rfl rfl ?_
    refine g_get (v := .ref (ad 2 1)) h f_X1_29_1 hX.x rfl dX1_count_70 ?_
    refine g_invV h (ct_xsize1 h.k hX) hcJ2_size w_X1_81 rfl rfl (xlist1 hX) (Nat.le_of_ble_eq_true rfl) ⟨Nat.le_of_ble_eq_true rfl, Nat.le_of_ble_eq_true rfl⟩ (by refine ⟨?_, ?_⟩ <;> first | exact Nat.le_refl _ | exact Nat.zero_le _ | (dsimp only; omega)) dX1_count_73 (gkr_ip ?_) gkt_ip
    exact g_iret h ⟨by simp [sCount], rfl⟩ (Nat.zero_le _) (Nat.zero_le _) dX1_count_76
  · refine g_tableIn (off := 76) (tgt := 77) h dX1_count_1 (by decide) (by decide) (by decide) (by decide) ?_
    refine g_aload_n (i := 0) h dX1_count_77 rfl rfl ?_
    refine g_get (v := .ref (ad 2 2)) h f_X1_32_1 hX.x rfl dX1_count_78 ?_
    refine g_invV h (ct_xsize2 h.k hX) hcJ2_size w_X1_81 rfl rfl (xlist2 hX) (Nat.le_of_ble_eq_true rfl) ⟨Nat.le_of_ble_eq_true rfl, Nat.le_of_ble_eq_true rfl⟩ (by refine ⟨?_, ?_⟩ <;> first | exact Nat.le_refl _ | exact Nat.zero_le _ | (dsimp only; omega)) dX1_count_81 (gkr_ip ?_) gkt_ip
    exact g_iret h ⟨by simp [sCount], rfl⟩ (Nat.zero_le _) (Nat.zero_le _) dX1_count_84
  · refine g_tableIn (off := 84) (tgt := 85) h dX1_count_1 (by decide) (by decide) (by decide) (by decide) ?_
    refine g_aload_n (i := 0) h dX1_count_85 rfl rfl ?_
    refine g_get (v := .ref (ad 2 3)) h f_X1_35_1 hX.x rfl dX1_count_86 ?_
    refine g_invV h (ct_xsize3 h.k hX) hcJ2_size w_X1_81 rfl rfl (xlist3 hX) (Nat.le_of_ble_eq_true rfl) ⟨Nat.le_of_ble_eq_true rfl, Nat.le_of_ble_eq_true rfl⟩ (by refine ⟨?_, ?_⟩ <;> first | exact Nat.le_refl _ | exact Nat.zero_le _ | (dsimp only; omega)) dX1_count_89 (gkr_ip ?_) gkt_ip
    exact g_iret h ⟨by simp [sCount], rfl⟩ (Nat.zero_le _) (Nat.zero_le _) dX1_count_92
  · refine g_tableIn (off := 92) (tgt := 93) h dX1_count_1 (by decide) (by decide) (by decide) (by decide) ?_
    refine g_aload_n (i := 0) h dX1_count_93 rfl rfl ?_
    refine g_get (v := .ref (ad 2 4)) h f_X1_38_1 hX.x rfl dX1_count_94 ?_
    refine g_invV h (ct_xsize4 h.k hX) hcJ2_size w_X1_81 rfl rfl (xlist4 hX) (Nat.le_of_ble_eq_true rfl) ⟨Nat.le_of_ble_eq_true rfl, Nat.le_of_ble_eq_true rfl⟩ (by refine ⟨?_, ?_⟩ <;> first | exact Nat.le_refl _ | exact Nat.zero_le _ | (dsimp only; omega)) dX1_count_97 (gkr_ip ?_) gkt_ip
    exact g_iret h ⟨by simp [sCount], rfl⟩ (Nat.zero_le _) (Nat.zero_le _) dX1_count_100
  · refine g_tableIn (off := 100) (tgt := 101) h dX1_count_1 (by decide) (by decide) (by decide) (by decide) ?_
    refine g_aload_n (i := 0) h dX1_count_101 rfl rfl ?_
    refine g_get (v := .ref (ad 2 5)) h f_X1_41_1 hX.x rfl dX1_count_102 ?_
    refine g_invV h (ct_xsize5 h.k hX) hcJ2_size w_X1_81 rfl rfl (xlist5 hX) (Nat.le_of_ble_eq_true rfl) ⟨Nat.le_of_ble_eq_true rfl, Nat.le_of_ble_eq_true rfl⟩ (by refine ⟨?_, ?_⟩ <;> first | exact Nat.le_refl _ | exact Nat.zero_le _ | (dsimp only; omega)) dX1_count_105 (gkr_ip ?_) gkt_ip
    exact g_iret h ⟨by simp [sCount], rfl⟩ (Nat.zero_le _) (Nat.zero_le _) dX1_count_108
  · refine g_tableIn (off := 108) (tgt := 109) h dX1_count_1 (by decide) (by decide) (by decide) (by decide) ?_
    refine g_aload_n (i := 0) h dX1_count_109 rfl rfl ?_
    refine g_get (v := .int (A 42 0)) h f_X1_222_1 hX.x rfl dX1_count_110 ?_
    exact g_iret h ⟨by simp [sCount], rfl⟩ (Nat.zero_le _) (Nat.zero_le _) dX1_count_113
  · refine g_tableIn (off := 113) (tgt := 114) h dX1_count_1 (by decide) (by decide) (by decide) (by decide) ?_
    refine g_aload_n (i := 0) h dX1_count_114 rfl rfl ?_
    refine g_get (v := .int (A 2 0)) h f_X1_71_1 hX.x rfl dX1_count_115 ?_
    exact g_iret h ⟨by simp [sCount], rfl⟩ (Nat.zero_le _) (Nat.zero_le _) dX1_count_118
  · refine g_tableIn (off := 118) (tgt := 119) h dX1_count_1 (by decide) (by decide) (by decide) (by decide) ?_
    refine g_aload_n (i := 0) h dX1_count_119 rfl rfl ?_
    refine g_get (v := .int (A 33 0)) h f_X1_219_1 hX.x rfl dX1_count_120 ?_
    exact g_iret h ⟨by simp [sCount], rfl⟩ (Nat.zero_le _) (Nat.zero_le _) dX1_count_123
  · refine g_tableOut (tgt := 124) h dX1_count_1 hsw1 (by decide) ?_
    refine g_iconst (v := (-1)) h dX1_count_124 (by decide) ?_
    exact g_iret h ⟨by simp [sCount, sw_no (n := 9) hsw1 (k := 0) (by decide), sw_no (n := 9) hsw1 (k := 1) (by decide), sw_no (n := 9) hsw1 (k := 2) (by decide), sw_no (n := 9) hsw1 (k := 3) (by decide), sw_no (n := 9) hsw1 (k := 4) (by decide), sw_no (n := 9) hsw1 (k := 5) (by decide), sw_no (n := 9) hsw1 (k := 6) (by decide), sw_no (n := 9) hsw1 (k := 7) (by decide), sw_no (n := 9) hsw1 (k := 8) (by decide), sw_no (n := 9) hsw1 (k := 9) (by decide)], rfl⟩ (Nat.zero_le _) (Nat.zero_le _) dX1_count_125
theorem cx_money {l : Launch} {g : gGP} (hk : gK l g) {c0 c : gLH} {ad cp fz : Nat → Nat → Nat} {md : Nat → Nat → Int32} {S : Nat → List Value} {U : Nat → Nat → Int64} {A : Nat → Nat → Int32} {B : Nat → Nat → Int64} (hX : CW c0 ad cp fz md S U A B c) (x : Int32) (hts : gTS g) : Ct l g yX1_money hwX1_money 7 280 [.ref (ad 0 0), .int x] c (8) (48) (pCx (if sNo x (A 45 0) = true then 1 else 0) eBAS c (pLp (B 44 (ix x)) c)) := by
  refine Ct.intro hk hcX1_money (by decide +kernel) (Nat.le_of_ble_eq_true rfl) (fun φ h => ?_)
  refine g_iload_n (i := 1) h dX1_money_0 rfl rfl ?_
  refine g_aload_n (i := 0) h dX1_money_1 rfl rfl ?_
  refine g_get (v := .ref (ad 2 4)) h f_X1_38_1 hX.x rfl dX1_money_2 ?_
  refine g_invV h (ct_xsize4 h.k hX) hcJ2_size w_X1_81 rfl rfl (xlist4 hX) (Nat.le_of_ble_eq_true rfl) ⟨Nat.le_of_ble_eq_true rfl, Nat.le_of_ble_eq_true rfl⟩ (by refine ⟨?_, ?_⟩ <;> first | exact Nat.le_refl _ | exact Nat.zero_le _ | (dsimp only; omega)) dX1_money_5 (gkr_ip ?_) gkt_ip
  refine g_invS h (ct_thereX h.k _ _ hts) hcX1_there w_X1_112 rfl rfl (Nat.le_of_ble_eq_true rfl) ⟨Nat.le_of_ble_eq_true rfl, Nat.le_of_ble_eq_true rfl⟩ (by refine ⟨?_, ?_⟩ <;> ((try dsimp only); omega)) dX1_money_8 (gkr_gd (fun b8 => ?_)) (gkt_gd (fun b8 a e ha => ?_))
  rotate_left 1
  · refine gt_out h (fun q hq => by cases hq) ?_ (by (try dsimp only); omega) (by (try dsimp only); omega)
    exact pCx_t (n := 1) (by rw [sThere_no] at b8; simp at b8; simp [b8]) (by decide) rfl ⟨a, e, rfl, ha, rfl⟩
  obtain ⟨hj, hx⟩ := there_ix b8 (hX.cnt (i := 4) (by decide)).1 (hX.cnt (i := 4) (by decide)).2.2
  refine g_aload_n (i := 0) h dX1_money_11 rfl rfl ?_
  refine g_get (v := .ref (ad 2 4)) h f_X1_38_1 hX.x rfl dX1_money_12 ?_
  refine g_iload_n (i := 1) h dX1_money_15 rfl rfl ?_
  refine G.int hx ?_
  refine g_invV h (ct_xget4 h.k hX hj) hcJ2_get w_X1_162 rfl rfl (xlist4 hX) (Nat.le_of_ble_eq_true rfl) ⟨Nat.le_of_ble_eq_true rfl, Nat.le_of_ble_eq_true rfl⟩ (by refine ⟨?_, ?_⟩ <;> first | exact Nat.le_refl _ | exact Nat.zero_le _ | (dsimp only; omega)) dX1_money_16 (gkr_ap ?_) gkt_ap
  refine g_castS h (hX.1.at (cells_15 hj)) rfl q1527 dX1_money_19 ?_
  refine g_get h f_X1_201_28 (hX.1.at (cells_15 hj)) rfl dX1_money_22 ?_
  exact g_lret h (pCx_0 (by rw [sThere_no] at b8; simp at b8; simp [b8]) ⟨rfl, rfl⟩) (by (try dsimp only); omega) (by (try dsimp only); omega) dX1_money_25
theorem cx_wear {l : Launch} {g : gGP} (hk : gK l g) {c0 c : gLH} {ad cp fz : Nat → Nat → Nat} {md : Nat → Nat → Int32} {S : Nat → List Value} {U : Nat → Nat → Int64} {A : Nat → Nat → Int32} {B : Nat → Nat → Int64} (hX : CW c0 ad cp fz md S U A B c) (x : Int32) (hts : gTS g) : Ct l g yX1_wear hwX1_wear 7 280 [.ref (ad 0 0), .int x] c (8) (48) (pCx (if sNo x (A 28 0) = true then 1 else 0) eBAS c (pLp (B 27 (ix x)) c)) := by
  refine Ct.intro hk hcX1_wear (by decide +kernel) (Nat.le_of_ble_eq_true rfl) (fun φ h => ?_)
  refine g_iload_n (i := 1) h dX1_wear_0 rfl rfl ?_
  refine g_aload_n (i := 0) h dX1_wear_1 rfl rfl ?_
  refine g_get (v := .ref (ad 2 1)) h f_X1_29_1 hX.x rfl dX1_wear_2 ?_
  refine g_invV h (ct_xsize1 h.k hX) hcJ2_size w_X1_81 rfl rfl (xlist1 hX) (Nat.le_of_ble_eq_true rfl) ⟨Nat.le_of_ble_eq_true rfl, Nat.le_of_ble_eq_true rfl⟩ (by refine ⟨?_, ?_⟩ <;> first | exact Nat.le_refl _ | exact Nat.zero_le _ | (dsimp only; omega)) dX1_wear_5 (gkr_ip ?_) gkt_ip
  refine g_invS h (ct_thereX h.k _ _ hts) hcX1_there w_X1_112 rfl rfl (Nat.le_of_ble_eq_true rfl) ⟨Nat.le_of_ble_eq_true rfl, Nat.le_of_ble_eq_true rfl⟩ (by refine ⟨?_, ?_⟩ <;> ((try dsimp only); omega)) dX1_wear_8 (gkr_gd (fun b8 => ?_)) (gkt_gd (fun b8 a e ha => ?_))
  rotate_left 1
  · refine gt_out h (fun q hq => by cases hq) ?_ (by (try dsimp only); omega) (by (try dsimp only); omega)
    exact pCx_t (n := 1) (by rw [sThere_no] at b8; simp at b8; simp [b8]) (by decide) rfl ⟨a, e, rfl, ha, rfl⟩
  obtain ⟨hj, hx⟩ := there_ix b8 (hX.cnt (i := 1) (by decide)).1 (hX.cnt (i := 1) (by decide)).2.2
  refine g_aload_n (i := 0) h dX1_wear_11 rfl rfl ?_
  refine g_get (v := .ref (ad 2 1)) h f_X1_29_1 hX.x rfl dX1_wear_12 ?_
  refine g_iload_n (i := 1) h dX1_wear_15 rfl rfl ?_
  refine G.int hx ?_
  refine g_invV h (ct_xget1 h.k hX hj) hcJ2_get w_X1_162 rfl rfl (xlist1 hX) (Nat.le_of_ble_eq_true rfl) ⟨Nat.le_of_ble_eq_true rfl, Nat.le_of_ble_eq_true rfl⟩ (by refine ⟨?_, ?_⟩ <;> first | exact Nat.le_refl _ | exact Nat.zero_le _ | (dsimp only; omega)) dX1_wear_16 (gkr_ap ?_) gkt_ap
  refine g_castS h (hX.1.at (cells_9 hj)) rfl q1202 dX1_wear_19 ?_
  refine g_get h f_X1_214_22 (hX.1.at (cells_9 hj)) rfl dX1_wear_22 ?_
  exact g_lret h (pCx_0 (by rw [sThere_no] at b8; simp at b8; simp [b8]) ⟨rfl, rfl⟩) (by (try dsimp only); omega) (by (try dsimp only); omega) dX1_wear_25
