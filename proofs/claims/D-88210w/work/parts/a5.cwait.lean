/-! THE COMPONENT: wait -/
set_option maxRecDepth 100000
theorem FL.mono {fz : Nat → Nat → Nat} {A A' : Nat → Nat → Int32} {c : gLH} (h : FL fz A c) (hc : cn A' 2 ≤ cn A 2) (he : ∀ i, i < cn A' 2 → ¬ A' 50 i < 0 → A' 50 i = A 50 i ∧ A' 51 i = A 51 i ∧ A' 52 i = A 52 i) : FL fz A' c := fun i hi hz => by
  obtain ⟨e1, e2, e3⟩ := he i hi hz
  rw [e1] at hz
  rw [e1, e2, e3]
  exact h i (by omega) hz
theorem cRl_go (A : Nat → Nat → Int32) (B : Nat → Nat → Int64) (i f nl L : Nat) : cRl A B i f nl L = cGo L nl (if sRentC A B i f = 0 then nl else nl + 1) := by
  unfold cRl
  split
  · rw [cGo_self]
  · rw [cGo_step (Nat.lt_succ_self _), cGo_self]
theorem cRl_ge (A : Nat → Nat → Int32) (B : Nat → Nat → Int64) (i f nl L : Nat) : L ≤ cRl A B i f nl L := by
  rw [cRl_go]
  exact cGo_ge _ _ _
theorem rain_eq {x : Int32} (h : 0 ≤ x.toInt) : (if (0 : Int32) < x - 1 then x - 1 else 0) = x - (if x ≤ 0 then 0 else 1) := by
  have b := Int32.toInt_lt x
  have z0 : (0 : Int32).toInt = 0 := rfl
  have e : (x - 1).toInt = x.toInt - 1 := by
    rw [Int32.toInt_sub, show (1 : Int32).toInt = 1 from rfl, Int.bmod_eq_of_le] <;> omega
  by_cases q : x ≤ 0
  · have q2 := q
    rw [Int32.le_iff_toInt_le] at q2
    have hx : x = 0 := Int32.toInt_inj.mp (by omega)
    subst hx
    decide
  · rw [if_neg q]
    by_cases p : (0 : Int32) < x - 1
    · rw [if_pos p]
    · rw [if_neg p]
      rw [Int32.lt_iff_toInt_lt] at p
      rw [Int32.le_iff_toInt_le] at q
      exact Int32.toInt_inj.mp (by omega)
theorem wait_gates {φ : gFx} {l : Launch} {g : gGP} {MC MS : Nat} (h : gOK φ l g { frames := 7, cells := MC, slots := MS, locals := 280 } cX1_wait 4 RX1 "wait" (some .int) []) {Q : State → Prop} {c0 : gLH} {ad0 cp0 fz : Nat → Nat → Nat} {md : Nat → Nat → Int32} {S : Nat → List Value} {U : Nat → Nat → Int64} {N u nf LC NN LL ce0 sl0 : Nat} {dI kI : Int32} {AA : Nat → Nat → Int32} {BB : Nat → Nat → Int64} (hu8 : u ≤ 8) (hf8 : nf ≤ 8) (hNN : NN < 200000) (hMC : ce0 + (LC - cp0 8 0) ≤ MC) (hMS : sl0 + 2 * (LC - cp0 8 0) ≤ MS)
    (kk : ∀ (ad cp : Nat → Nat → Nat) (c : gLH), ad = up2 ad0 8 0 (ad 8 0) → cp = up2 cp0 8 0 LC → CW c0 ad cp fz md S U AA BB c → wOk N u nf (AA, BB, NN, LL) → AA 45 0 = nI nf → FL fz AA c0 → G φ Q 149 [(0, .ref (ad 0 0)), (1, .int dI), (2, .int kI)] [] c (ce0 + (cp 8 0 - cp0 8 0)) (sl0 + 2 * (cp 8 0 - cp0 8 0))) :
    ∀ (m j : Nat) (A : Nat → Nat → Int32) (B : Nat → Nat → Int64) (nl ll : Nat) (ad cp : Nat → Nat → Nat) (c : gLH), j + m = u → sGates m j (A, B, nl, ll) = (AA, BB, NN, LL) → ad = up2 ad0 8 0 (ad 8 0) → cp = up2 cp0 8 0 (cp 8 0) → CW c0 ad cp fz md S U A B c → wOk N u nf (A, B, nl, ll) → A 45 0 = nI nf → FL fz A c0 → cp 8 0 ≤ 1600000 → cp0 8 0 ≤ cp 8 0 → LC = cGo (cp 8 0) nl NN →
      G φ Q 79 [(0, .ref (ad 0 0)), (1, .int dI), (2, .int kI), (3, .int (nI j))] [] c (ce0 + (cp 8 0 - cp0 8 0)) (sl0 + 2 * (cp 8 0 - cp0 8 0)) := by
  intro m
  induction m with
  | zero =>
    intro j A B nl ll ad cp c hk hS hq hcp hX hW hnf hL hM hlo hLC
    simp only [sGates, Prod.mk.injEq] at hS
    obtain ⟨rfl, rfl, rfl, rfl⟩ := hS
    rw [cGo_self] at hLC
    refine g_iload_n (i := 3) h dX1_wait_79 rfl rfl ?_
    refine g_aload_n (i := 0) h dX1_wait_80 rfl rfl ?_
    refine g_get (v := .ref (ad 2 2)) h f_X1_32_1 hX.x rfl dX1_wait_81 ?_
    refine g_invV h (ct_xsize2 h.k hX) hcJ2_size w_X1_81 rfl rfl (xlist2 hX) (Nat.le_of_ble_eq_true rfl) ⟨Nat.le_of_ble_eq_true rfl, Nat.le_of_ble_eq_true rfl⟩ (by refine ⟨?_, ?_⟩ <;> ((try dsimp only); omega)) dX1_wait_84 (gkr_ip ?_) gkt_ip
    refine G.int hW.2.2.1 ?_
    refine g_icmp_ge (tgt := 149) h dX1_wait_87 (by decide) (fun b87 => ?_) (fun _bz => absurd _bz (fun q => absurd (nI_le (show u ≤ j by omega) (by omega)) q))
    exact G.to (kk ad cp c hq (by rw [hLC, ← hcp]) hX hW hnf hL) ⟨rfl, rfl, rfl, trivial⟩
  | succ m ih =>
    intro j A B nl ll ad cp c hk hS hq hcp hX hW hnf hL hM hlo hLC
    have hcn : cn A 2 = u := by show ix (A 31 0) = u; rw [show A 31 0 = nI u from hW.2.2.1, ix_nI (by omega)]
    have hcn4 : cn A 4 = nf := by show ix (A 45 0) = nf; rw [hnf, ix_nI (by omega)]
    have hj2 : j < cn A 2 := by omega
    have hup := sGates_up (m + 1) j (A, B, nl, ll)
    rw [hS] at hup
    have hup : nl ≤ NN ∧ ll ≤ LL := hup
    have hge : cp 8 0 ≤ LC := by rw [hLC]; exact cGo_ge _ _ _
    simp only [sGates] at hS
    by_cases hz : A 50 j < 0
    · rw [show sGate1 j (A, B, nl, ll) = (A, B, nl, ll) from if_pos hz] at hS
      refine g_iload_n (i := 3) h dX1_wait_79 rfl rfl ?_
      refine g_aload_n (i := 0) h dX1_wait_80 rfl rfl ?_
      refine g_get (v := .ref (ad 2 2)) h f_X1_32_1 hX.x rfl dX1_wait_81 ?_
      refine g_invV h (ct_xsize2 h.k hX) hcJ2_size w_X1_81 rfl rfl (xlist2 hX) (Nat.le_of_ble_eq_true rfl) ⟨Nat.le_of_ble_eq_true rfl, Nat.le_of_ble_eq_true rfl⟩ (by refine ⟨?_, ?_⟩ <;> ((try dsimp only); omega)) dX1_wait_84 (gkr_ip ?_) gkt_ip
      refine G.int hW.2.2.1 ?_
      refine g_icmp_ge (tgt := 149) h dX1_wait_87 (by decide) (fun _bz => absurd _bz (nI_ge (show j < u by omega) (by omega))) (fun b87 => ?_)
      refine g_aload_n (i := 0) h dX1_wait_90 rfl rfl ?_
      refine g_get (v := .ref (ad 2 2)) h f_X1_32_1 hX.x rfl dX1_wait_91 ?_
      refine g_iload_n (i := 3) h dX1_wait_94 rfl rfl ?_
      refine g_invV h (ct_xget2 h.k hX hj2) hcJ2_get w_X1_162 rfl rfl (xlist2 hX) (Nat.le_of_ble_eq_true rfl) ⟨Nat.le_of_ble_eq_true rfl, Nat.le_of_ble_eq_true rfl⟩ (by refine ⟨?_, ?_⟩ <;> ((try dsimp only); omega)) dX1_wait_95 (gkr_ap ?_) gkt_ap
      refine g_castS h (hX.1.at (cells_10 hj2)) rfl q1261 dX1_wait_98 ?_
      refine g_get (v := cLe fz A j) h f_X1_190_23 (hX.1.at (cells_10 hj2)) rfl dX1_wait_101 ?_
      rw [show cLe fz A j = .null from if_pos hz]
      refine g_ifnullN (tgt := 143) h dX1_wait_104 (by decide) ?_
      first | (with_reducible refine g_iincN h dX1_wait_143 rfl (by decide) ?_) | refine g_iinc1 h dX1_wait_143 rfl (by decide) ?_
      refine g_goto (tgt := 79) h dX1_wait_146 (by decide) ?_
      exact G.to (ih (j + 1) A B nl ll ad cp c (by omega) hS hq hcp hX hW hnf hL hM hlo hLC) ⟨rfl, rfl, rfl, rfl, trivial⟩
    · by_cases hd : A 53 j = A 32 0
      · obtain ⟨hg1, -, -, h51, h52, h50⟩ := hW.gate1 (k := j) (by omega) (by omega)
        have eg : sGate1 j (A, B, nl, ll) = (sRentA A B j (ix (A 50 j)) nl, sRentB A B j (ix (A 50 j)), (if sRentC A B j (ix (A 50 j)) = 0 then nl else nl + 1), sRentL A B j (ix (A 50 j)) nl ll) := (if_neg hz).trans (if_pos hd)
        rw [eg] at hS hg1 h51 h52 h50
        dsimp only at h51 h52 h50
        have hlz := hW.2.2.2.2.2.2.2 j (by omega) hz
        have hf4 : ix (A 50 j) < cn A 4 := by rw [hcn4]; exact hlz.2.1
        have hup2 := sGates_up m (j + 1) (sRentA A B j (ix (A 50 j)) nl, sRentB A B j (ix (A 50 j)), (if sRentC A B j (ix (A 50 j)) = 0 then nl else nl + 1), sRentL A B j (ix (A 50 j)) nl ll)
        rw [hS] at hup2
        have hup2 : (if sRentC A B j (ix (A 50 j)) = 0 then nl else nl + 1) ≤ NN ∧ sRentL A B j (ix (A 50 j)) nl ll ≤ LL := hup2
        have hnn : nl ≤ (if sRentC A B j (ix (A 50 j)) = 0 then nl else nl + 1) := by split <;> omega
        have hLC2 : LC = cGo (cRl A B j (ix (A 50 j)) nl (cp 8 0)) (if sRentC A B j (ix (A 50 j)) = 0 then nl else nl + 1) NN := by rw [hLC, cRl_go, cGo_trans hnn hup2.1]
        have hM2 : cRl A B j (ix (A 50 j)) nl (cp 8 0) ≤ 1600000 := by rw [cRl_go]; exact cGo_bd hnn (by omega) (by omega)
        have hge1 := cRl_ge A B j (ix (A 50 j)) nl (cp 8 0)
        have hge2 : cRl A B j (ix (A 50 j)) nl (cp 8 0) ≤ LC := by rw [hLC2]; exact cGo_ge _ _ _
        have hFL2 : FL fz (sRentA A B j (ix (A 50 j)) nl) c0 := hL.mono (by rw [show cn (sRentA A B j (ix (A 50 j)) nl) 2 = cn A 2 from by show ix (sRentA A B j (ix (A 50 j)) nl 31 0) = ix (A 31 0); rw [sRentA_k _ _ _ _ _ (by decide) (by decide)]]; exact Nat.le_refl _) (fun i _ hi => ⟨h50 i hi, by rw [h51], by rw [h52]⟩)
        refine g_iload_n (i := 3) h dX1_wait_79 rfl rfl ?_
        refine g_aload_n (i := 0) h dX1_wait_80 rfl rfl ?_
        refine g_get (v := .ref (ad 2 2)) h f_X1_32_1 hX.x rfl dX1_wait_81 ?_
        refine g_invV h (ct_xsize2 h.k hX) hcJ2_size w_X1_81 rfl rfl (xlist2 hX) (Nat.le_of_ble_eq_true rfl) ⟨Nat.le_of_ble_eq_true rfl, Nat.le_of_ble_eq_true rfl⟩ (by refine ⟨?_, ?_⟩ <;> ((try dsimp only); omega)) dX1_wait_84 (gkr_ip ?_) gkt_ip
        refine G.int hW.2.2.1 ?_
        refine g_icmp_ge (tgt := 149) h dX1_wait_87 (by decide) (fun _bz => absurd _bz (nI_ge (show j < u by omega) (by omega))) (fun b87 => ?_)
        refine g_aload_n (i := 0) h dX1_wait_90 rfl rfl ?_
        refine g_get (v := .ref (ad 2 2)) h f_X1_32_1 hX.x rfl dX1_wait_91 ?_
        refine g_iload_n (i := 3) h dX1_wait_94 rfl rfl ?_
        refine g_invV h (ct_xget2 h.k hX hj2) hcJ2_get w_X1_162 rfl rfl (xlist2 hX) (Nat.le_of_ble_eq_true rfl) ⟨Nat.le_of_ble_eq_true rfl, Nat.le_of_ble_eq_true rfl⟩ (by refine ⟨?_, ?_⟩ <;> ((try dsimp only); omega)) dX1_wait_95 (gkr_ap ?_) gkt_ap
        refine g_castS h (hX.1.at (cells_10 hj2)) rfl q1261 dX1_wait_98 ?_
        refine g_get (v := cLe fz A j) h f_X1_190_23 (hX.1.at (cells_10 hj2)) rfl dX1_wait_101 ?_
        rw [show cLe fz A j = .ref (fz 2 j) from if_neg hz]
        refine g_ifnull h dX1_wait_104 ?_
        refine g_aload_n (i := 0) h dX1_wait_107 rfl rfl ?_
        refine g_get (v := .ref (ad 2 2)) h f_X1_32_1 hX.x rfl dX1_wait_108 ?_
        refine g_iload_n (i := 3) h dX1_wait_111 rfl rfl ?_
        refine g_invV h (ct_xget2 h.k hX hj2) hcJ2_get w_X1_162 rfl rfl (xlist2 hX) (Nat.le_of_ble_eq_true rfl) ⟨Nat.le_of_ble_eq_true rfl, Nat.le_of_ble_eq_true rfl⟩ (by refine ⟨?_, ?_⟩ <;> ((try dsimp only); omega)) dX1_wait_112 (gkr_ap ?_) gkt_ap
        refine g_castS h (hX.1.at (cells_10 hj2)) rfl q1261 dX1_wait_115 ?_
        refine g_get (v := .int (A 53 j)) h f_X1_243_23 (hX.1.at (cells_10 hj2)) rfl dX1_wait_118 ?_
        refine g_aload_n (i := 0) h dX1_wait_121 rfl rfl ?_
        refine g_get (v := .int (A 32 0)) h f_X1_137_1 hX.x rfl dX1_wait_122 ?_
        refine g_icmp_ne (tgt := 143) h dX1_wait_125 (by decide) (fun _bz => absurd _bz (fun z => z hd)) (fun b125 => ?_)
        refine g_aload_n (i := 0) h dX1_wait_128 rfl rfl ?_
        refine g_aload_n (i := 0) h dX1_wait_129 rfl rfl ?_
        refine g_get (v := .ref (ad 2 2)) h f_X1_32_1 hX.x rfl dX1_wait_130 ?_
        refine g_iload_n (i := 3) h dX1_wait_133 rfl rfl ?_
        refine g_invV h (ct_xget2 h.k hX hj2) hcJ2_get w_X1_162 rfl rfl (xlist2 hX) (Nat.le_of_ble_eq_true rfl) ⟨Nat.le_of_ble_eq_true rfl, Nat.le_of_ble_eq_true rfl⟩ (by refine ⟨?_, ?_⟩ <;> ((try dsimp only); omega)) dX1_wait_134 (gkr_ap ?_) gkt_ap
        refine g_castS h (hX.1.at (cells_10 hj2)) rfl q1261 dX1_wait_137 ?_
        refine g_invV h (cx_comes (nl := nl) h.k hX hj2 hf4 hz hlz.1 hL (show A 42 0 = nI nl from hW.1) (by have := hup.1; omega) (by omega)) hcX1_comes w_X1_246 rfl rfl hX.x (Nat.le_of_ble_eq_true rfl) ⟨Nat.le_of_ble_eq_true rfl, Nat.le_of_ble_eq_true rfl⟩ (by refine ⟨?_, ?_⟩ <;> ((try dsimp only); omega)) dX1_wait_140 (gkr_v (fun c2 hP => ?_)) gkt_v
        obtain ⟨q, hX⟩ := hP
        first | (with_reducible refine g_iincN h dX1_wait_143 rfl (by decide) ?_) | refine g_iinc1 h dX1_wait_143 rfl (by decide) ?_
        refine g_goto (tgt := 79) h dX1_wait_146 (by decide) ?_
        refine G.up (ce' := ce0 + (cRl A B j (ix (A 50 j)) nl (cp 8 0) - cp0 8 0)) (sl' := sl0 + 2 * (cRl A B j (ix (A 50 j)) nl (cp 8 0) - cp0 8 0)) (by (try dsimp only); omega) (by (try dsimp only); omega) ?_
        have hGo := ih (j + 1) (sRentA A B j (ix (A 50 j)) nl) (sRentB A B j (ix (A 50 j))) (if sRentC A B j (ix (A 50 j)) = 0 then nl else nl + 1) (sRentL A B j (ix (A 50 j)) nl ll) (up2 ad 8 0 q) (up2 cp 8 0 (cRl A B j (ix (A 50 j)) nl (cp 8 0))) c2 (by omega) hS (up2_re _ hq) (up2_re _ hcp) hX hg1 (by rw [sRentA_k _ _ _ _ _ (by decide) (by decide)]; exact hnf) hFL2 (by rw [up2_s]; exact hM2) (by rw [up2_s]; omega) (by rw [up2_s]; exact hLC2)
        rw [up2_s] at hGo
        exact G.to hGo ⟨rfl, rfl, rfl, rfl, trivial⟩
      · rw [show sGate1 j (A, B, nl, ll) = (A, B, nl, ll) from (if_neg hz).trans (if_neg hd)] at hS
        refine g_iload_n (i := 3) h dX1_wait_79 rfl rfl ?_
        refine g_aload_n (i := 0) h dX1_wait_80 rfl rfl ?_
        refine g_get (v := .ref (ad 2 2)) h f_X1_32_1 hX.x rfl dX1_wait_81 ?_
        refine g_invV h (ct_xsize2 h.k hX) hcJ2_size w_X1_81 rfl rfl (xlist2 hX) (Nat.le_of_ble_eq_true rfl) ⟨Nat.le_of_ble_eq_true rfl, Nat.le_of_ble_eq_true rfl⟩ (by refine ⟨?_, ?_⟩ <;> ((try dsimp only); omega)) dX1_wait_84 (gkr_ip ?_) gkt_ip
        refine G.int hW.2.2.1 ?_
        refine g_icmp_ge (tgt := 149) h dX1_wait_87 (by decide) (fun _bz => absurd _bz (nI_ge (show j < u by omega) (by omega))) (fun b87 => ?_)
        refine g_aload_n (i := 0) h dX1_wait_90 rfl rfl ?_
        refine g_get (v := .ref (ad 2 2)) h f_X1_32_1 hX.x rfl dX1_wait_91 ?_
        refine g_iload_n (i := 3) h dX1_wait_94 rfl rfl ?_
        refine g_invV h (ct_xget2 h.k hX hj2) hcJ2_get w_X1_162 rfl rfl (xlist2 hX) (Nat.le_of_ble_eq_true rfl) ⟨Nat.le_of_ble_eq_true rfl, Nat.le_of_ble_eq_true rfl⟩ (by refine ⟨?_, ?_⟩ <;> ((try dsimp only); omega)) dX1_wait_95 (gkr_ap ?_) gkt_ap
        refine g_castS h (hX.1.at (cells_10 hj2)) rfl q1261 dX1_wait_98 ?_
        refine g_get (v := cLe fz A j) h f_X1_190_23 (hX.1.at (cells_10 hj2)) rfl dX1_wait_101 ?_
        rw [show cLe fz A j = .ref (fz 2 j) from if_neg hz]
        refine g_ifnull h dX1_wait_104 ?_
        refine g_aload_n (i := 0) h dX1_wait_107 rfl rfl ?_
        refine g_get (v := .ref (ad 2 2)) h f_X1_32_1 hX.x rfl dX1_wait_108 ?_
        refine g_iload_n (i := 3) h dX1_wait_111 rfl rfl ?_
        refine g_invV h (ct_xget2 h.k hX hj2) hcJ2_get w_X1_162 rfl rfl (xlist2 hX) (Nat.le_of_ble_eq_true rfl) ⟨Nat.le_of_ble_eq_true rfl, Nat.le_of_ble_eq_true rfl⟩ (by refine ⟨?_, ?_⟩ <;> ((try dsimp only); omega)) dX1_wait_112 (gkr_ap ?_) gkt_ap
        refine g_castS h (hX.1.at (cells_10 hj2)) rfl q1261 dX1_wait_115 ?_
        refine g_get (v := .int (A 53 j)) h f_X1_243_23 (hX.1.at (cells_10 hj2)) rfl dX1_wait_118 ?_
        refine g_aload_n (i := 0) h dX1_wait_121 rfl rfl ?_
        refine g_get (v := .int (A 32 0)) h f_X1_137_1 hX.x rfl dX1_wait_122 ?_
        refine g_icmp_ne (tgt := 143) h dX1_wait_125 (by decide) (fun b125 => ?_) (fun _bz => absurd _bz hd)
        first | (with_reducible refine g_iincN h dX1_wait_143 rfl (by decide) ?_) | refine g_iinc1 h dX1_wait_143 rfl (by decide) ?_
        refine g_goto (tgt := 79) h dX1_wait_146 (by decide) ?_
        exact G.to (ih (j + 1) A B nl ll ad cp c (by omega) hS hq hcp hX hW hnf hL hM hlo hLC) ⟨rfl, rfl, rfl, rfl, trivial⟩
theorem wait_days {φ : gFx} {l : Launch} {g : gGP} {MC MS : Nat} (h : gOK φ l g { frames := 7, cells := MC, slots := MS, locals := 280 } cX1_wait 4 RX1 "wait" (some .int) []) {c0 : gLH} {ad0 cp0 fz : Nat → Nat → Nat} {md : Nat → Nat → Int32} {S : Nat → List Value} {U : Nat → Nat → Int64} {N u nf L LC NN LL : Nat} {AA : Nat → Nat → Int32} {BB : Nat → Nat → Int64} (hL1k : L ≤ 1000) (hN10 : N ≤ 10) (hu8 : u ≤ 8) (hf8 : nf ≤ 8) (hNN : NN < 200000) (hMC : 8 + 8 * L + (LC - cp0 8 0) ≤ MC) (hMS : 48 + 80 * L + 2 * (LC - cp0 8 0) ≤ MS) :
    ∀ (m k : Nat) (A : Nat → Nat → Int32) (B : Nat → Nat → Int64) (nl ll : Nat) (ad cp : Nat → Nat → Nat) (c : gLH), k + m = L → sDays N u m (A, B, nl, ll) = (AA, BB, NN, LL) → ad = up2 ad0 8 0 (ad 8 0) → cp = up2 cp0 8 0 (cp 8 0) → CW c0 ad cp fz md S U A B c → wOk N u nf (A, B, nl, ll) → (A 32 0).toInt + m ≤ 9999 → A 45 0 = nI nf → FL fz A c0 → cp 8 0 ≤ 1600000 → cp0 8 0 ≤ cp 8 0 → LC = cGo (cp 8 0) nl NN →
      G φ (gQ φ (pI (AA 32 0) (fun c' => ∃ q, CW c0 (up2 ad0 8 0 q) (up2 cp0 8 0 LC) fz md S U AA BB c' ∧ FL fz AA c0)) MC MS) 33 [(0, .ref (ad 0 0)), (1, .int (nI L)), (2, .int (nI k))] [] c (8 + 8 * k + (cp 8 0 - cp0 8 0)) (48 + 80 * k + 2 * (cp 8 0 - cp0 8 0)) := by
  intro m
  induction m with
  | zero =>
    intro k A B nl ll ad cp c hk hS hq hcp hX hW hday hnf hL hM hlo hLC
    simp only [sDays, Prod.mk.injEq] at hS
    obtain ⟨rfl, rfl, rfl, rfl⟩ := hS
    rw [cGo_self] at hLC
    refine g_iload_n (i := 2) h dX1_wait_33 rfl rfl ?_
    refine g_iload_n (i := 1) h dX1_wait_34 rfl rfl ?_
    refine g_icmp_ge (tgt := 155) h dX1_wait_35 (by decide) (fun b35 => ?_) (fun _bz => absurd _bz (fun q => absurd (nI_le (show L ≤ k by omega) (by omega)) q))
    refine g_aload_n (i := 0) h dX1_wait_155 rfl rfl ?_
    refine g_get (v := .int (A 32 0)) h f_X1_137_1 hX.x rfl dX1_wait_156 ?_
    exact g_iret h ⟨rfl, ad 8 0, by rw [hLC, ← hq, ← hcp]; exact hX, hL⟩ (by (try dsimp only); omega) (by (try dsimp only); omega) dX1_wait_159
  | succ m ih =>
    intro k A B nl ll ad cp c hk hS hq hcp hX hW hday hnf hL hM hlo hLC
    have hge : cp 8 0 ≤ LC := by rw [hLC]; exact cGo_ge _ _ _
    simp only [sDays] at hS
    have hup3 := sDays_up N u m (sDayS N u (A, B, nl, ll))
    rw [hS] at hup3
    have hN3' : (sDayS N u (A, B, nl, ll)).2.2.1 ≤ NN := hup3.1
    obtain ⟨hW3, -, hd3⟩ := hW.day hN10 (show (A 32 0).toInt < 9999 by omega) (show (sDayS N u (A, B, nl, ll)).2.2.1 < 400000 by omega)
    obtain ⟨hW1, -, h321, hdk, hls1⟩ := hW.noon hN10 (show (A 32 0).toInt < 9999 by omega)
    obtain ⟨hW1m, -⟩ := hW.morn (show (A 32 0).toInt < 9999 by omega)
    have hupn := sNoon_up N (A, B, nl, ll)
    have hupg := sGates_up u 0 (sNoon N (A, B, nl, ll))
    obtain ⟨A3, B3, n3, l3, hG3⟩ : ∃ A3 B3 n3 l3, sDayS N u (A, B, nl, ll) = (A3, B3, n3, l3) := ⟨_, _, _, _, rfl⟩
    have hG3' : sGates u 0 (sNoon N (A, B, nl, ll)) = (A3, B3, n3, l3) := hG3
    rw [hG3] at hS hW3 hd3 hN3'
    rw [hG3'] at hupg
    dsimp only at hd3 hN3' hupg
    have hN3 : n3 < 200000 := by omega
    have hpn : nl ≤ n3 := Nat.le_trans hupn.1 hupg.1
    have hLC3 : LC = cGo (cGo (cp 8 0) nl n3) n3 NN := by rw [hLC, cGo_trans hpn hN3']
    have hM3 : cGo (cp 8 0) nl n3 ≤ 1600000 := cGo_bd hpn (by omega) (by omega)
    have hg3 := cGo_ge (cp 8 0) nl n3
    have hg4 : cGo (cp 8 0) nl n3 ≤ LC := by rw [hLC3]; exact cGo_ge _ _ _
    have kk : ∀ (ad2 cp2 : Nat → Nat → Nat) (c2 : gLH), ad2 = up2 ad0 8 0 (ad2 8 0) → cp2 = up2 cp0 8 0 (cGo (cp 8 0) nl n3) → CW c0 ad2 cp2 fz md S U A3 B3 c2 → wOk N u nf (A3, B3, n3, l3) → A3 45 0 = nI nf → FL fz A3 c0 → G φ (gQ φ (pI (AA 32 0) (fun c' => ∃ q, CW c0 (up2 ad0 8 0 q) (up2 cp0 8 0 LC) fz md S U AA BB c' ∧ FL fz AA c0)) MC MS) 149 [(0, .ref (ad2 0 0)), (1, .int (nI L)), (2, .int (nI k))] [] c2 (8 + 8 * (k + 1) + (cp2 8 0 - cp0 8 0)) (48 + 80 * (k + 1) + 2 * (cp2 8 0 - cp0 8 0)) := by
      intro ad2 cp2 c2 h1 h2 hX2 hW2 hf2 hL2
      have e2 : cp2 8 0 = cGo (cp 8 0) nl n3 := by rw [h2, up2_s]
      first | (with_reducible refine g_iincN h dX1_wait_149 rfl (by decide) ?_) | refine g_iinc1 h dX1_wait_149 rfl (by decide) ?_
      refine g_goto (tgt := 33) h dX1_wait_152 (by decide) ?_
      exact G.to (ih (k + 1) A3 B3 n3 l3 ad2 cp2 c2 (by omega) hS h1 (by rw [e2]; exact h2) hX2 hW2 (by omega) hf2 hL2 (by rw [e2]; exact hM3) (by rw [e2]; omega) (by rw [e2]; exact hLC3)) ⟨rfl, rfl, rfl, trivial⟩
    by_cases hy : sYear (sMorn A) = true
    · have hy0 : sMorn A 32 0 - sMorn A 32 0 / 365 * 365 = 0 := by unfold sYear at hy; simpa using hy
      have en : sNoon N (A, B, nl, ll) = sInt N (sMorn A, B, nl, ll) := if_pos hy
      obtain ⟨A2, B2, n2, l2, hI⟩ : ∃ A2 B2 n2 l2, sInt N (sMorn A, B, nl, ll) = (A2, B2, n2, l2) := ⟨_, _, _, _, rfl⟩
      rw [en, hI] at hW1 h321 hls1 hupn hupg hG3'
      have hGs := hG3'
      have hupn : nl ≤ n2 ∧ ll ≤ l2 := hupn
      have hupg : n2 ≤ n3 ∧ l2 ≤ l3 := hupg
      have hN2 : n2 < 200000 := by omega
      have hM2 : cGo (cp 8 0) nl n2 ≤ 1600000 := cGo_bd hupn.1 (by omega) (by omega)
      have hgg := cGo_ge (cp 8 0) nl n2
      have hgh : cGo (cp 8 0) nl n2 ≤ cGo (cp 8 0) nl n3 := by rw [← cGo_trans hupn.1 hupg.1]; exact cGo_ge _ _ _
      have kk := fun ad2 cp2 c2 h1 (h2 : cp2 = up2 cp0 8 0 (cGo (cGo (cp 8 0) nl n2) n2 n3)) => kk ad2 cp2 c2 h1 (by rw [h2, cGo_trans hupn.1 hupg.1])
      have hcg := cGo_trans (L := cp 8 0) hupn.1 hupg.1
      have hrA : ∀ {f : Nat}, (f ≠ 38 ∧ f ≠ 39 ∧ f ≠ 40 ∧ f ≠ 41 ∧ f ≠ 42) → A2 f = sMorn A f := fun hf => by
        have := sRanks_A N hf 4 0 (sMorn A, sDues (sMorn A) B N, nl, ll)
        rw [show sRanks N 4 0 (sMorn A, sDues (sMorn A) B N, nl, ll) = (A2, B2, n2, l2) from hI] at this
        exact this
      have hnf1 : A2 45 0 = nI nf := by rw [hrA (by decide), morn_k A (by decide) (by decide)]; exact hnf
      have hL1 : FL fz A2 c0 := hL.mono (by rw [show cn A2 2 = cn A 2 from by show ix (A2 31 0) = ix (A 31 0); rw [hrA (by decide), morn_k A (by decide) (by decide)]]; exact Nat.le_refl _) (fun i _ _ => hls1 i)
      refine g_iload_n (i := 2) h dX1_wait_33 rfl rfl ?_
      refine g_iload_n (i := 1) h dX1_wait_34 rfl rfl ?_
      refine g_icmp_ge (tgt := 155) h dX1_wait_35 (by decide) (fun _bz => absurd _bz (nI_ge (show k < L by omega) (by omega))) (fun b35 => ?_)
      refine g_aload_n (i := 0) h dX1_wait_38 rfl rfl ?_
      refine g_dup h dX1_wait_39 rfl ?_
      refine g_get (v := .int (A 32 0)) h f_X1_137_1 hX.x rfl dX1_wait_40 ?_
      refine g_iconst (v := 1) h dX1_wait_43 (by decide) ?_
      first | (with_reducible refine g_iaddN h dX1_wait_44 ?_) | refine g_iadd h dX1_wait_44 ?_
      refine x_put32 h hX fp_X1_137_1 rfl rfl dX1_wait_45 (fun c hX => ?_)
      refine g_aload_n (i := 0) h dX1_wait_48 rfl rfl ?_
      refine g_iconst (v := 0) h dX1_wait_49 (by decide) ?_
      refine g_aload_n (i := 0) h dX1_wait_50 rfl rfl ?_
      refine g_get (v := .int (A 33 0)) h f_X1_219_1 hX.x rfl dX1_wait_51 ?_
      refine g_iconst (v := 1) h dX1_wait_54 (by decide) ?_
      refine g_isub h dX1_wait_55 ?_
      refine g_mmax h q1570 (Nat.le_of_ble_eq_true rfl) ⟨Nat.le_of_ble_eq_true rfl, Nat.le_of_ble_eq_true rfl⟩ (by refine ⟨?_, ?_⟩ <;> ((try dsimp only); omega)) dX1_wait_56 ?_
      refine G.int (rain_eq hW.2.2.2.1.2) ?_
      refine x_put33 h hX fp_X1_219_1 rfl rfl dX1_wait_59 (fun c hX => ?_)
      replace hX : CW c0 ad cp fz md S U (sMorn A) B c := hX
      refine g_aload_n (i := 0) h dX1_wait_62 rfl rfl ?_
      refine g_get (v := .int (sMorn A 32 0)) h f_X1_137_1 hX.x rfl dX1_wait_63 ?_
      refine g_sipush (v := 365) h dX1_wait_66 (by decide) ?_
      refine g_irem h dX1_wait_69 (by decide) ?_
      refine g_if_ne (tgt := 77) h dX1_wait_70 (by decide) (fun _bz => absurd _bz (fun z => z hy0)) (fun b70 => ?_)
      refine g_aload_n (i := 0) h dX1_wait_73 rfl rfl ?_
      refine g_invV h (cx_interest h.k hX hW1m.2.1 hN10 hW1m.1 (hdk hy) hW.2.2.2.2.2.2.1.1 hI hN2 hM) hcX1_interest w_X1_240 rfl rfl hX.x (Nat.le_of_ble_eq_true rfl) ⟨Nat.le_of_ble_eq_true rfl, Nat.le_of_ble_eq_true rfl⟩ (by refine ⟨?_, ?_⟩ <;> ((try dsimp only); omega)) dX1_wait_74 (gkr_v (fun c2 hP => ?_)) gkt_v
      obtain ⟨q, hX⟩ := hP
      refine g_iconst (v := nI 0) h dX1_wait_77 (by decide) ?_
      refine g_istore_n (i := 3) h dX1_wait_78 rfl (by decide) ?_
      refine G.up (ce' := 8 + 8 * (k + 1) + (cGo (cp 8 0) nl n2 - cp0 8 0)) (sl' := 48 + 80 * (k + 1) + 2 * (cGo (cp 8 0) nl n2 - cp0 8 0)) (by (try dsimp only); omega) (by (try dsimp only); omega) ?_
      have hGo := wait_gates (dI := nI L) (kI := nI k) h hu8 hf8 hN3 (by omega) (by omega) kk u 0 A2 B2 n2 l2 (up2 ad 8 0 q) (up2 cp 8 0 (cGo (cp 8 0) nl n2)) c2 (by omega) hGs (up2_re _ hq) (up2_re _ hcp) hX hW1 hnf1 hL1 (by rw [up2_s]; exact hM2) (by rw [up2_s]; omega) (by rw [up2_s])
      rw [up2_s] at hGo
      exact G.to hGo ⟨rfl, rfl, rfl, rfl, trivial⟩
    · have hy0 : ¬ sMorn A 32 0 - sMorn A 32 0 / 365 * 365 = 0 := by unfold sYear at hy; simpa using hy
      have en : sNoon N (A, B, nl, ll) = (sMorn A, B, nl, ll) := if_neg hy
      rw [en] at hW1 hls1 hG3'
      have hGs := hG3'
      have hnf1 : sMorn A 45 0 = nI nf := by rw [morn_k A (by decide) (by decide)]; exact hnf
      have hL1 : FL fz (sMorn A) c0 := hL.mono (by rw [show cn (sMorn A) 2 = cn A 2 from by show ix (sMorn A 31 0) = ix (A 31 0); rw [morn_k A (by decide) (by decide)]]; exact Nat.le_refl _) (fun i _ _ => hls1 i)
      refine g_iload_n (i := 2) h dX1_wait_33 rfl rfl ?_
      refine g_iload_n (i := 1) h dX1_wait_34 rfl rfl ?_
      refine g_icmp_ge (tgt := 155) h dX1_wait_35 (by decide) (fun _bz => absurd _bz (nI_ge (show k < L by omega) (by omega))) (fun b35 => ?_)
      refine g_aload_n (i := 0) h dX1_wait_38 rfl rfl ?_
      refine g_dup h dX1_wait_39 rfl ?_
      refine g_get (v := .int (A 32 0)) h f_X1_137_1 hX.x rfl dX1_wait_40 ?_
      refine g_iconst (v := 1) h dX1_wait_43 (by decide) ?_
      first | (with_reducible refine g_iaddN h dX1_wait_44 ?_) | refine g_iadd h dX1_wait_44 ?_
      refine x_put32 h hX fp_X1_137_1 rfl rfl dX1_wait_45 (fun c hX => ?_)
      refine g_aload_n (i := 0) h dX1_wait_48 rfl rfl ?_
      refine g_iconst (v := 0) h dX1_wait_49 (by decide) ?_
      refine g_aload_n (i := 0) h dX1_wait_50 rfl rfl ?_
      refine g_get (v := .int (A 33 0)) h f_X1_219_1 hX.x rfl dX1_wait_51 ?_
      refine g_iconst (v := 1) h dX1_wait_54 (by decide) ?_
      refine g_isub h dX1_wait_55 ?_
      refine g_mmax h q1570 (Nat.le_of_ble_eq_true rfl) ⟨Nat.le_of_ble_eq_true rfl, Nat.le_of_ble_eq_true rfl⟩ (by refine ⟨?_, ?_⟩ <;> ((try dsimp only); omega)) dX1_wait_56 ?_
      refine G.int (rain_eq hW.2.2.2.1.2) ?_
      refine x_put33 h hX fp_X1_219_1 rfl rfl dX1_wait_59 (fun c hX => ?_)
      replace hX : CW c0 ad cp fz md S U (sMorn A) B c := hX
      refine g_aload_n (i := 0) h dX1_wait_62 rfl rfl ?_
      refine g_get (v := .int (sMorn A 32 0)) h f_X1_137_1 hX.x rfl dX1_wait_63 ?_
      refine g_sipush (v := 365) h dX1_wait_66 (by decide) ?_
      refine g_irem h dX1_wait_69 (by decide) ?_
      refine g_if_ne (tgt := 77) h dX1_wait_70 (by decide) (fun b70 => ?_) (fun _bz => absurd _bz hy0)
      refine g_iconst (v := nI 0) h dX1_wait_77 (by decide) ?_
      refine g_istore_n (i := 3) h dX1_wait_78 rfl (by decide) ?_
      refine G.up (ce' := 8 + 8 * (k + 1) + (cp 8 0 - cp0 8 0)) (sl' := 48 + 80 * (k + 1) + 2 * (cp 8 0 - cp0 8 0)) (by (try dsimp only); omega) (by (try dsimp only); omega) ?_
      exact G.to (wait_gates (dI := nI L) (kI := nI k) h hu8 hf8 hN3 (by omega) (by omega) kk u 0 (sMorn A) B nl ll ad cp c (by omega) hGs hq hcp hX hW1 hnf1 hL1 (by omega) hlo rfl) ⟨rfl, rfl, rfl, rfl, trivial⟩
theorem d_ix {d : Int32} (h : ¬ d < 0) : d.toInt = ix d := by
  rw [Int32.lt_iff_toInt_lt] at h
  have : (0 : Int32).toInt = 0 := rfl
  show d.toInt = ((d.toInt.toNat : Nat) : Int)
  omega
theorem cx_wait {l : Launch} {g : gGP} (hk : gK l g) {c0 c : gLH} {ad cp fz : Nat → Nat → Nat} {md : Nat → Nat → Int32} {S : Nat → List Value} {U : Nat → Nat → Int64} {A : Nat → Nat → Int32} {B : Nat → Nat → Int64} (hX : CW c0 ad cp fz md S U A B c) (d : Int32) {N u nf nl ll NN LL : Nat} {AA : Nat → Nat → Int32} {BB : Nat → Nat → Int64} (hW : wOk N u nf (A, B, nl, ll)) (hN10 : N ≤ 10) (hu8 : u ≤ 8) (hf8 : nf ≤ 8) (hnf : A 45 0 = nI nf) (hL : FL fz A c0) (hS : sDays N u (ix d) (A, B, nl, ll) = (AA, BB, NN, LL)) (hNN : NN < 200000) (hM : cp 8 0 ≤ 1600000) (hts : gTS g) : Ct l g yX1_wait hwX1_wait 7 280 [.ref (ad 0 0), .int d] c (8 + 8 * ix d + (cGo (cp 8 0) nl NN - cp 8 0)) (48 + 80 * ix d + 2 * (cGo (cp 8 0) nl NN - cp 8 0)) (pCx (sWaitK A d) eAS c (pI (AA 32 0) (fun c' => ∃ q, CW c0 (up2 ad 8 0 q) (up2 cp 8 0 (cGo (cp 8 0) nl NN)) fz md S U AA BB c' ∧ FL fz AA c0))) := by
  refine Ct.intro hk hcX1_wait (by decide +kernel) (Nat.le_of_ble_eq_true rfl) (fun φ h => ?_)
  refine g_iload_n (i := 1) h dX1_wait_0 rfl rfl ?_
  refine g_if_lt (tgt := 27) h dX1_wait_1 (by decide) (fun b1 => ?_) (fun b1 => ?_)
  · refine g_iconst (v := 0) h dX1_wait_27 (by decide) ?_
    refine g_invS h (ct_needX h.k false hts) hcX1_need w_X1_77 rfl rfl (Nat.le_of_ble_eq_true rfl) ⟨Nat.le_of_ble_eq_true rfl, Nat.le_of_ble_eq_true rfl⟩ (by refine ⟨?_, ?_⟩ <;> ((try dsimp only); omega)) dX1_wait_28 (gkr_gd (fun hb => absurd hb (by decide))) (gkt_gd (fun _ a e ha => ?_))
    refine gt_out h (fun q hq => by cases hq) ?_ (by (try dsimp only); omega) (by (try dsimp only); omega)
    exact pCx_t (n := 1) (by first | (simp [sWaitK, b1]; done) | (have z : ¬ A 32 0 + d ≤ 9999 := (by simpa using b20); simp [sWaitK, z])) (by decide) rfl ⟨a, e, rfl, ha, rfl⟩
  · refine g_iload_n (i := 1) h dX1_wait_4 rfl rfl ?_
    refine g_sipush (v := 1000) h dX1_wait_5 (by decide) ?_
    refine g_icmp_gt (tgt := 27) h dX1_wait_8 (by decide) (fun b8 => ?_) (fun b8 => ?_)
    · refine g_iconst (v := 0) h dX1_wait_27 (by decide) ?_
      refine g_invS h (ct_needX h.k false hts) hcX1_need w_X1_77 rfl rfl (Nat.le_of_ble_eq_true rfl) ⟨Nat.le_of_ble_eq_true rfl, Nat.le_of_ble_eq_true rfl⟩ (by refine ⟨?_, ?_⟩ <;> ((try dsimp only); omega)) dX1_wait_28 (gkr_gd (fun hb => absurd hb (by decide))) (gkt_gd (fun _ a e ha => ?_))
      refine gt_out h (fun q hq => by cases hq) ?_ (by (try dsimp only); omega) (by (try dsimp only); omega)
      exact pCx_t (n := 1) (by first | (simp [sWaitK, b1, b8]; done) | (have z : ¬ A 32 0 + d ≤ 9999 := (by simpa using b20); simp [sWaitK, z])) (by decide) rfl ⟨a, e, rfl, ha, rfl⟩
    · refine g_aload_n (i := 0) h dX1_wait_11 rfl rfl ?_
      refine g_get (v := .int (A 32 0)) h f_X1_137_1 hX.x rfl dX1_wait_12 ?_
      refine g_iload_n (i := 1) h dX1_wait_15 rfl rfl ?_
      first | (with_reducible refine g_iaddN h dX1_wait_16 ?_) | refine g_iadd h dX1_wait_16 ?_
      refine g_sipush (v := 9999) h dX1_wait_17 (by decide) ?_
      refine g_icmp_gt (tgt := 27) h dX1_wait_20 (by decide) (fun b20 => ?_) (fun b20 => ?_)
      · refine g_iconst (v := 0) h dX1_wait_27 (by decide) ?_
        refine g_invS h (ct_needX h.k false hts) hcX1_need w_X1_77 rfl rfl (Nat.le_of_ble_eq_true rfl) ⟨Nat.le_of_ble_eq_true rfl, Nat.le_of_ble_eq_true rfl⟩ (by refine ⟨?_, ?_⟩ <;> ((try dsimp only); omega)) dX1_wait_28 (gkr_gd (fun hb => absurd hb (by decide))) (gkt_gd (fun _ a e ha => ?_))
        refine gt_out h (fun q hq => by cases hq) ?_ (by (try dsimp only); omega) (by (try dsimp only); omega)
        exact pCx_t (n := 1) (by first | (simp [sWaitK, b1, b8, b20]; done) | (have z : ¬ A 32 0 + d ≤ 9999 := (by simpa using b20); simp [sWaitK, z])) (by decide) rfl ⟨a, e, rfl, ha, rfl⟩
      · refine g_iconst (v := 1) h dX1_wait_23 (by decide) ?_
        refine g_goto (tgt := 28) h dX1_wait_24 (by decide) ?_
        refine g_invS h (ct_needX h.k true hts) hcX1_need w_X1_77 rfl rfl (Nat.le_of_ble_eq_true rfl) ⟨Nat.le_of_ble_eq_true rfl, Nat.le_of_ble_eq_true rfl⟩ (by refine ⟨?_, ?_⟩ <;> ((try dsimp only); omega)) dX1_wait_28 (gkr_gd (fun _ => ?_)) (gkt_gd (fun hb => absurd hb (by decide)))
        refine g_iconst (v := nI 0) h dX1_wait_31 (by decide) ?_
        refine g_istore_n (i := 2) h dX1_wait_32 rfl (by decide) ?_
        have hK : sWaitK A d = 0 := by have z : A 32 0 + d ≤ 9999 := (by simpa using b20); simp [sWaitK, b1, b8, z]
        obtain ⟨hd, hde⟩ := ix_le (m := 1000) (y := 1000) (by simpa using b1) (by simpa using b8) rfl (by omega)
        have hsum : (A 32 0).toInt + ix d ≤ 9999 := by
          have z : A 32 0 + d ≤ 9999 := (by simpa using b20)
          rw [Int32.le_iff_toInt_le] at z
          have hw := hW.2.2.2.1.1
          dsimp only at hw
          have e : d.toInt = ix d := d_ix (by simpa using b1)
          rw [Int32.toInt_add, e, show (9999 : Int32).toInt = 9999 from rfl, Int.bmod_eq_of_le] at z <;> omega
        refine G.to (lv' := [(0, .ref (ad 0 0)), (1, .int (nI (ix d))), (2, .int (nI 0))]) ?_ ⟨rfl, congrArg (fun z => some (Value.int z)) hde, rfl, trivial⟩
        refine G.up (ce' := 8 + 8 * 0 + (cp 8 0 - cp 8 0)) (sl' := 48 + 80 * 0 + 2 * (cp 8 0 - cp 8 0)) (by (try dsimp only); omega) (by (try dsimp only); omega) ?_
        rw [pCx_eq hK]
        exact wait_days h hd hN10 hu8 hf8 hNN (Nat.le_refl _) (Nat.le_refl _) (ix d) 0 A B nl ll ad cp c (by omega) hS (up2_id _ _ _).symm (up2_id _ _ _).symm hX hW hsum hnf hL hM (Nat.le_refl _) rfl
