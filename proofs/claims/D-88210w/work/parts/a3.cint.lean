/-! THE COMPONENT: interest -/
set_option maxRecDepth 100000
theorem pay_42 (r : Int32) : ∀ (n l : Nat) (s : mS), s.1 42 0 = nI s.2.2.1 → (sPay r n l s).1 42 0 = nI (sPay r n l s).2.2.1 := by
  intro n
  induction n with
  | zero => intro l s h; exact h
  | succ n ih =>
    intro l s h
    simp only [sPay]
    refine ih _ _ ?_
    split
    · split
      · exact h
      · exact sLineA_42 s.1 s.2.2.1 4 (nI l) (-(s.2.1 59 l))
    · exact h
theorem rank_42 (r : Int32) (N : Nat) {A : Nat → Nat → Int32} {B : Nat → Nat → Int64} {nl ll : Nat} (h : A 42 0 = nI nl) : (sRank r N (A, B, nl, ll)).1 42 0 = nI (sRank r N (A, B, nl, ll)).2.2.1 := by
  obtain ⟨H, e⟩ := sRank_eq r N (A, B, nl, ll)
  rw [e]
  split
  · exact h
  · exact pay_42 r N 0 _ h
theorem int_pay {φ : gFx} {l : Launch} {g : gGP} {MC MS : Nat} (h : gOK φ l g { frames := 6, cells := MC, slots := MS, locals := 240 } cX1_interest 5 RX1 "interest" none []) {Q : State → Prop} {c0 : gLH} {ad0 cp0 fz : Nat → Nat → Nat} {md : Nat → Nat → Int32} {S : Nat → List Value} {U : Nat → Nat → Int64} {N LC NN LL ce0 sl0 : Nat} {r : Int32} {AA : Nat → Nat → Int32} {BB : Nat → Nat → Int64} (hN10 : N ≤ 10) (hNN : NN < 200000) (hMC : ce0 + (LC - cp0 8 0) ≤ MC) (hMS : sl0 + 2 * (LC - cp0 8 0) ≤ MS)
    (kk : ∀ (ad cp : Nat → Nat → Nat) (c : gLH), ad = up2 ad0 8 0 (ad 8 0) → cp = up2 cp0 8 0 LC → CW c0 ad cp fz md S U AA BB c → G φ Q 222 [(0, .ref (ad 0 0)), (1, .int r)] [] c (ce0 + (cp 8 0 - cp0 8 0)) (sl0 + 2 * (cp 8 0 - cp0 8 0))) :
    ∀ (m k : Nat) (A : Nat → Nat → Int32) (B : Nat → Nat → Int64) (nl ll : Nat) (ad cp : Nat → Nat → Nat) (c : gLH), k + m = N → sPay r m k (A, B, nl, ll) = (AA, BB, NN, LL) → ad = up2 ad0 8 0 (ad 8 0) → cp = up2 cp0 8 0 (cp 8 0) → CW c0 ad cp fz md S U A B c → A 61 0 = nI N → A 42 0 = nI nl → cp 8 0 ≤ 1600000 → cp0 8 0 ≤ cp 8 0 → LC = cGo (cp 8 0) nl NN → (∀ j, k ≤ j → j < N → A 57 j = r → B 59 j = B 58 j) → dOk (B 58) N →
      G φ Q 155 [(0, .ref (ad 0 0)), (1, .int r), (4, .int (nI k))] [] c (ce0 + (cp 8 0 - cp0 8 0)) (sl0 + 2 * (cp 8 0 - cp0 8 0)) := by
  intro m
  induction m with
  | zero =>
    intro k A B nl ll ad cp c hk hS hq hcp hX hN hnl hM hlo hLC hG hD
    simp only [sPay, Prod.mk.injEq] at hS
    obtain ⟨rfl, rfl, rfl, rfl⟩ := hS
    rw [cGo_self] at hLC
    refine g_iload h dX1_interest_155 rfl ?_
    refine g_aload_n (i := 0) h dX1_interest_157 rfl rfl ?_
    refine g_get (v := .ref (ad 2 5)) h f_X1_41_1 hX.x rfl dX1_interest_158 ?_
    refine g_invV h (ct_xsize5 h.k hX) hcJ2_size w_X1_81 rfl rfl (xlist5 hX) (Nat.le_of_ble_eq_true rfl) ⟨Nat.le_of_ble_eq_true rfl, Nat.le_of_ble_eq_true rfl⟩ (by refine ⟨?_, ?_⟩ <;> ((try dsimp only); omega)) dX1_interest_161 (gkr_ip ?_) gkt_ip
    refine G.int hN ?_
    refine g_icmp_ge (tgt := 213) h dX1_interest_164 (by decide) (fun b164 => ?_) (fun _bz => absurd _bz (fun q => absurd (nI_le (show N ≤ k by omega) (by omega)) q))
    refine g_goto (tgt := 222) h dX1_interest_213 (by decide) ?_
    exact G.to (kk ad cp c hq (by rw [hLC, ← hcp]) hX) ⟨rfl, rfl, trivial⟩
  | succ m ih =>
    intro k A B nl ll ad cp c hk hS hq hcp hX hN hnl hM hlo hLC hG hD
    have hcn : cn A 5 = N := by show ix (A 61 0) = N; rw [hN, ix_nI (by omega)]
    have hn5 : k < cn A 5 := by omega
    have hup := sPay_up r (m + 1) k (A, B, nl, ll)
    rw [hS] at hup
    have hup : nl ≤ NN ∧ ll ≤ LL := hup
    have hge : cp 8 0 ≤ LC := by rw [hLC]; exact cGo_ge _ _ _
    simp only [sPay] at hS
    by_cases hr : A 57 k = r
    · have e59 := hG k (Nat.le_refl _) (by omega) hr
      by_cases h0 : B 58 k = 0
      · rw [if_pos hr, if_pos (by rw [e59]; exact h0)] at hS
        refine g_iload h dX1_interest_155 rfl ?_
        refine g_aload_n (i := 0) h dX1_interest_157 rfl rfl ?_
        refine g_get (v := .ref (ad 2 5)) h f_X1_41_1 hX.x rfl dX1_interest_158 ?_
        refine g_invV h (ct_xsize5 h.k hX) hcJ2_size w_X1_81 rfl rfl (xlist5 hX) (Nat.le_of_ble_eq_true rfl) ⟨Nat.le_of_ble_eq_true rfl, Nat.le_of_ble_eq_true rfl⟩ (by refine ⟨?_, ?_⟩ <;> ((try dsimp only); omega)) dX1_interest_161 (gkr_ip ?_) gkt_ip
        refine G.int hN ?_
        refine g_icmp_ge (tgt := 213) h dX1_interest_164 (by decide) (fun _bz => absurd _bz (nI_ge (show k < N by omega) (by omega))) (fun b164 => ?_)
        refine g_aload_n (i := 0) h dX1_interest_167 rfl rfl ?_
        refine g_get (v := .ref (ad 2 5)) h f_X1_41_1 hX.x rfl dX1_interest_168 ?_
        refine g_iload h dX1_interest_171 rfl ?_
        refine g_invV h (ct_xget5 h.k hX hn5) hcJ2_get w_X1_162 rfl rfl (xlist5 hX) (Nat.le_of_ble_eq_true rfl) ⟨Nat.le_of_ble_eq_true rfl, Nat.le_of_ble_eq_true rfl⟩ (by refine ⟨?_, ?_⟩ <;> ((try dsimp only); omega)) dX1_interest_173 (gkr_ap ?_) gkt_ap
        refine g_castS h (hX.1.at (cells_16 hn5)) rfl q1575 dX1_interest_176 ?_
        refine g_get (v := .int (A 57 k)) h f_X1_275_30 (hX.1.at (cells_16 hn5)) rfl dX1_interest_179 ?_
        refine g_iload_n (i := 1) h dX1_interest_182 rfl rfl ?_
        refine g_icmp_ne (tgt := 207) h dX1_interest_183 (by decide) (fun _bz => absurd _bz (fun z => z hr)) (fun b183 => ?_)
        refine g_aload_n (i := 0) h dX1_interest_186 rfl rfl ?_
        refine g_iload h dX1_interest_187 rfl ?_
        refine g_aload_n (i := 0) h dX1_interest_189 rfl rfl ?_
        refine g_get (v := .ref (ad 2 5)) h f_X1_41_1 hX.x rfl dX1_interest_190 ?_
        refine g_iload h dX1_interest_193 rfl ?_
        refine g_invV h (ct_xget5 h.k hX hn5) hcJ2_get w_X1_162 rfl rfl (xlist5 hX) (Nat.le_of_ble_eq_true rfl) ⟨Nat.le_of_ble_eq_true rfl, Nat.le_of_ble_eq_true rfl⟩ (by refine ⟨?_, ?_⟩ <;> ((try dsimp only); omega)) dX1_interest_195 (gkr_ap ?_) gkt_ap
        refine g_castS h (hX.1.at (cells_16 hn5)) rfl q1575 dX1_interest_198 ?_
        refine g_get (v := .long (B 58 k)) h f_X1_265_30 (hX.1.at (cells_16 hn5)) rfl dX1_interest_201 ?_
        refine G.long h0 ?_
        refine g_invV h (cx_gets0 h.k hX (nI k)) hcX1_gets w_X1_278 rfl rfl hX.x (Nat.le_of_ble_eq_true rfl) ⟨Nat.le_of_ble_eq_true rfl, Nat.le_of_ble_eq_true rfl⟩ (by refine ⟨?_, ?_⟩ <;> ((try dsimp only); omega)) dX1_interest_204 (gkr_vp ?_) gkt_vp
        first | (with_reducible refine g_iincN h dX1_interest_207 rfl (by decide) ?_) | refine g_iinc1 h dX1_interest_207 rfl (by decide) ?_
        refine g_goto (tgt := 155) h dX1_interest_210 (by decide) ?_
        exact G.to (ih (k + 1) A B nl ll ad cp c (by omega) hS hq hcp hX hN hnl hM hlo hLC (fun j h1 h2 => hG j (by omega) h2) hD) ⟨rfl, rfl, rfl, trivial⟩
      · have e : (if A 57 k = r then (if B 59 k = 0 then (A, B, nl, ll) else sPay1 (A, B, nl, ll) k) else (A, B, nl, ll)) = (sLineA A nl 4 (nI k) (-(B 58 k)), mB (mB B 58 k (B 58 k - B 58 k)) 43 0 (B 43 0 + -(B 58 k)), nl + 1, sLn ll nl) := by
          rw [if_pos hr, if_neg (by rw [e59]; exact h0)]
          simp only [sPay1, e59]
        rw [e] at hS
        have hup2 := sPay_up r m (k + 1) (sLineA A nl 4 (nI k) (-(B 58 k)), mB (mB B 58 k (B 58 k - B 58 k)) 43 0 (B 43 0 + -(B 58 k)), nl + 1, sLn ll nl)
        rw [hS] at hup2
        have hlt : nl + 1 ≤ NN := hup2.1
        have hstep : LC = cGo (cN (cp 8 0) nl) (nl + 1) NN := by rw [hLC, cGo_step hlt]
        have hge2 : cN (cp 8 0) nl ≤ LC := by rw [hstep]; exact cGo_ge _ _ _
        have hg := cN_ge (cp 8 0) nl
        refine g_iload h dX1_interest_155 rfl ?_
        refine g_aload_n (i := 0) h dX1_interest_157 rfl rfl ?_
        refine g_get (v := .ref (ad 2 5)) h f_X1_41_1 hX.x rfl dX1_interest_158 ?_
        refine g_invV h (ct_xsize5 h.k hX) hcJ2_size w_X1_81 rfl rfl (xlist5 hX) (Nat.le_of_ble_eq_true rfl) ⟨Nat.le_of_ble_eq_true rfl, Nat.le_of_ble_eq_true rfl⟩ (by refine ⟨?_, ?_⟩ <;> ((try dsimp only); omega)) dX1_interest_161 (gkr_ip ?_) gkt_ip
        refine G.int hN ?_
        refine g_icmp_ge (tgt := 213) h dX1_interest_164 (by decide) (fun _bz => absurd _bz (nI_ge (show k < N by omega) (by omega))) (fun b164 => ?_)
        refine g_aload_n (i := 0) h dX1_interest_167 rfl rfl ?_
        refine g_get (v := .ref (ad 2 5)) h f_X1_41_1 hX.x rfl dX1_interest_168 ?_
        refine g_iload h dX1_interest_171 rfl ?_
        refine g_invV h (ct_xget5 h.k hX hn5) hcJ2_get w_X1_162 rfl rfl (xlist5 hX) (Nat.le_of_ble_eq_true rfl) ⟨Nat.le_of_ble_eq_true rfl, Nat.le_of_ble_eq_true rfl⟩ (by refine ⟨?_, ?_⟩ <;> ((try dsimp only); omega)) dX1_interest_173 (gkr_ap ?_) gkt_ap
        refine g_castS h (hX.1.at (cells_16 hn5)) rfl q1575 dX1_interest_176 ?_
        refine g_get (v := .int (A 57 k)) h f_X1_275_30 (hX.1.at (cells_16 hn5)) rfl dX1_interest_179 ?_
        refine g_iload_n (i := 1) h dX1_interest_182 rfl rfl ?_
        refine g_icmp_ne (tgt := 207) h dX1_interest_183 (by decide) (fun _bz => absurd _bz (fun z => z hr)) (fun b183 => ?_)
        refine g_aload_n (i := 0) h dX1_interest_186 rfl rfl ?_
        refine g_iload h dX1_interest_187 rfl ?_
        refine g_aload_n (i := 0) h dX1_interest_189 rfl rfl ?_
        refine g_get (v := .ref (ad 2 5)) h f_X1_41_1 hX.x rfl dX1_interest_190 ?_
        refine g_iload h dX1_interest_193 rfl ?_
        refine g_invV h (ct_xget5 h.k hX hn5) hcJ2_get w_X1_162 rfl rfl (xlist5 hX) (Nat.le_of_ble_eq_true rfl) ⟨Nat.le_of_ble_eq_true rfl, Nat.le_of_ble_eq_true rfl⟩ (by refine ⟨?_, ?_⟩ <;> ((try dsimp only); omega)) dX1_interest_195 (gkr_ap ?_) gkt_ap
        refine g_castS h (hX.1.at (cells_16 hn5)) rfl q1575 dX1_interest_198 ?_
        refine g_get (v := .long (B 58 k)) h f_X1_265_30 (hX.1.at (cells_16 hn5)) rfl dX1_interest_201 ?_
        refine g_invV h (cx_gets h.k hX hn5 h0 hnl (by omega) (by omega) (neg_fit (hD k (by omega)).1 (by have := hD k (by omega); omega))) hcX1_gets w_X1_278 rfl rfl hX.x (Nat.le_of_ble_eq_true rfl) ⟨Nat.le_of_ble_eq_true rfl, Nat.le_of_ble_eq_true rfl⟩ (by refine ⟨?_, ?_⟩ <;> ((try dsimp only); omega)) dX1_interest_204 (gkr_v (fun c2 hP => ?_)) gkt_v
        obtain ⟨q, hX⟩ := hP
        first | (with_reducible refine g_iincN h dX1_interest_207 rfl (by decide) ?_) | refine g_iinc1 h dX1_interest_207 rfl (by decide) ?_
        refine g_goto (tgt := 155) h dX1_interest_210 (by decide) ?_
        refine G.up (ce' := ce0 + (cN (cp 8 0) nl - cp0 8 0)) (sl' := sl0 + 2 * (cN (cp 8 0) nl - cp0 8 0)) (by (try dsimp only); omega) (by (try dsimp only); omega) ?_
        have hGo := ih (k + 1) (sLineA A nl 4 (nI k) (-(B 58 k))) (mB (mB B 58 k (B 58 k - B 58 k)) 43 0 (B 43 0 + -(B 58 k))) (nl + 1) (sLn ll nl) (up2 ad 8 0 q) (up2 cp 8 0 (cN (cp 8 0) nl)) c2 (by omega) hS (up2_re _ hq) (up2_re _ hcp) hX hN (sLineA_42 _ _ _ _ _) (by rw [up2_s]; exact cN_bd (by omega) (by omega)) (by rw [up2_s]; omega) (by rw [up2_s]; exact hstep) (fun j h1 h2 hj => by rw [mB_n _ _ _ (by decide), mB_n _ _ _ (by decide), mB_n _ _ _ (show (58 : Nat) ≠ 43 by decide), mB_rn _ _ _ (show j ≠ k by omega)]; exact hG j (by omega) h2 (by rw [← sLineA_57 A nl 4 (nI k) (-(B 58 k))]; exact hj)) (fun j hj => by
            rw [mB_n _ _ _ (show (58 : Nat) ≠ 43 by decide)]
            by_cases y : j = k
            · subst y
              rw [mB_rd, Int64.sub_self]
              decide
            · rw [mB_rn _ _ _ y]
              exact hD j hj)
        rw [up2_s] at hGo
        exact G.to hGo ⟨rfl, rfl, rfl, trivial⟩
    · rw [if_neg hr] at hS
      refine g_iload h dX1_interest_155 rfl ?_
      refine g_aload_n (i := 0) h dX1_interest_157 rfl rfl ?_
      refine g_get (v := .ref (ad 2 5)) h f_X1_41_1 hX.x rfl dX1_interest_158 ?_
      refine g_invV h (ct_xsize5 h.k hX) hcJ2_size w_X1_81 rfl rfl (xlist5 hX) (Nat.le_of_ble_eq_true rfl) ⟨Nat.le_of_ble_eq_true rfl, Nat.le_of_ble_eq_true rfl⟩ (by refine ⟨?_, ?_⟩ <;> ((try dsimp only); omega)) dX1_interest_161 (gkr_ip ?_) gkt_ip
      refine G.int hN ?_
      refine g_icmp_ge (tgt := 213) h dX1_interest_164 (by decide) (fun _bz => absurd _bz (nI_ge (show k < N by omega) (by omega))) (fun b164 => ?_)
      refine g_aload_n (i := 0) h dX1_interest_167 rfl rfl ?_
      refine g_get (v := .ref (ad 2 5)) h f_X1_41_1 hX.x rfl dX1_interest_168 ?_
      refine g_iload h dX1_interest_171 rfl ?_
      refine g_invV h (ct_xget5 h.k hX hn5) hcJ2_get w_X1_162 rfl rfl (xlist5 hX) (Nat.le_of_ble_eq_true rfl) ⟨Nat.le_of_ble_eq_true rfl, Nat.le_of_ble_eq_true rfl⟩ (by refine ⟨?_, ?_⟩ <;> ((try dsimp only); omega)) dX1_interest_173 (gkr_ap ?_) gkt_ap
      refine g_castS h (hX.1.at (cells_16 hn5)) rfl q1575 dX1_interest_176 ?_
      refine g_get (v := .int (A 57 k)) h f_X1_275_30 (hX.1.at (cells_16 hn5)) rfl dX1_interest_179 ?_
      refine g_iload_n (i := 1) h dX1_interest_182 rfl rfl ?_
      refine g_icmp_ne (tgt := 207) h dX1_interest_183 (by decide) (fun b183 => ?_) (fun _bz => absurd _bz hr)
      first | (with_reducible refine g_iincN h dX1_interest_207 rfl (by decide) ?_) | refine g_iinc1 h dX1_interest_207 rfl (by decide) ?_
      refine g_goto (tgt := 155) h dX1_interest_210 (by decide) ?_
      exact G.to (ih (k + 1) A B nl ll ad cp c (by omega) hS hq hcp hX hN hnl hM hlo hLC (fun j h1 h2 => hG j (by omega) h2) hD) ⟨rfl, rfl, rfl, trivial⟩
theorem int_ranks {φ : gFx} {l : Launch} {g : gGP} {MC MS : Nat} (h : gOK φ l g { frames := 6, cells := MC, slots := MS, locals := 240 } cX1_interest 5 RX1 "interest" none []) {c0 : gLH} {ad0 cp0 fz : Nat → Nat → Nat} {md : Nat → Nat → Int32} {S : Nat → List Value} {U : Nat → Nat → Int64} {N LC NN LL : Nat} {AA : Nat → Nat → Int32} {BB : Nat → Nat → Int64} (hN10 : N ≤ 10) (hNN : NN < 200000) (hMC : 8 + (LC - cp0 8 0) ≤ MC) (hMS : 80 + 2 * (LC - cp0 8 0) ≤ MS) :
    ∀ (m k : Nat) (A : Nat → Nat → Int32) (B : Nat → Nat → Int64) (nl ll : Nat) (ad cp : Nat → Nat → Nat) (c : gLH), k + m = 4 → sRanks N m k (A, B, nl, ll) = (AA, BB, NN, LL) → ad = up2 ad0 8 0 (ad 8 0) → cp = up2 cp0 8 0 (cp 8 0) → CW c0 ad cp fz md S U A B c → A 61 0 = nI N → A 42 0 = nI nl → dOk (B 58) N → 0 ≤ (B 43 0).toInt → cp 8 0 ≤ 1600000 → cp0 8 0 ≤ cp 8 0 → LC = cGo (cp 8 0) nl NN →
      G φ (gQ φ (pV (fun c' => ∃ q, CW c0 (up2 ad0 8 0 q) (up2 cp0 8 0 LC) fz md S U AA BB c')) MC MS) 74 [(0, .ref (ad 0 0)), (1, .int (nI k))] [] c (2 * k + (cp 8 0 - cp0 8 0)) (20 * k + 2 * (cp 8 0 - cp0 8 0)) := by
  intro m
  induction m with
  | zero =>
    intro k A B nl ll ad cp c hk hS hq hcp hX hN hnl hD hh hM hlo hLC
    simp only [sRanks, Prod.mk.injEq] at hS
    obtain ⟨rfl, rfl, rfl, rfl⟩ := hS
    rw [cGo_self] at hLC
    refine g_iload_n (i := 1) h dX1_interest_74 rfl rfl ?_
    refine g_iconst (v := nI 4) h dX1_interest_75 (by decide) ?_
    refine g_icmp_ge (tgt := 228) h dX1_interest_76 (by decide) (fun b76 => ?_) (fun _bz => absurd _bz (fun q => absurd (nI_le (show 4 ≤ k by omega) (by omega)) q))
    exact g_vret h ⟨rfl, ad 8 0, by rw [hLC, ← hq, ← hcp]; exact hX⟩ (by (try dsimp only); omega) (by (try dsimp only); omega) dX1_interest_228
  | succ m ih =>
    intro k A B nl ll ad cp c hk hS hq hcp hX hN hnl hD hh hM hlo hLC
    have hcn : cn A 5 = N := by show ix (A 61 0) = N; rw [hN, ix_nI (by omega)]
    have hge : cp 8 0 ≤ LC := by rw [hLC]; exact cGo_ge _ _ _
    simp only [sRanks] at hS
    obtain ⟨r1, r2, r3, r4⟩ := rank_ok (r := nI k) (A := A) (nl := nl) (ll := ll) hN10 hD hh
    have r5 := sRank_up (nI k) N (A, B, nl, ll)
    have r6 := fun {f : Nat} (hf : f ≠ 38 ∧ f ≠ 39 ∧ f ≠ 40 ∧ f ≠ 41 ∧ f ≠ 42) => sRank_A (nI k) N (A, B, nl, ll) hf
    have r7 : (sRank (nI k) N (A, B, nl, ll)).1 42 0 = nI (sRank (nI k) N (A, B, nl, ll)).2.2.1 := rank_42 (nI k) N hnl
    obtain ⟨A1, B1, n1, l1, hR⟩ : ∃ A1 B1 n1 l1, sRank (nI k) N (A, B, nl, ll) = (A1, B1, n1, l1) := ⟨_, _, _, _, rfl⟩
    rw [hR] at hS r1 r2 r3 r4 r5 r6 r7
    dsimp only at r1 r2 r3 r4 r6 r7
    have hup1 : nl ≤ n1 ∧ ll ≤ l1 := r5
    have hup2 := sRanks_up N m (k + 1) (A1, B1, n1, l1)
    rw [hS] at hup2
    have hup2 : n1 ≤ NN ∧ l1 ≤ LL := hup2
    have hNN1 : n1 < 200000 := by omega
    have hN1 : A1 61 0 = nI N := by rw [r6 (by decide)]; exact hN
    have hnl1 : A1 42 0 = nI n1 := r7
    have hD1 : dOk (B1 58) N := fun j hj => ⟨(r1 j hj).1, by have := hD j hj; have := r1 j hj; omega⟩
    have hh1 : 0 ≤ (B1 43 0).toInt := r2
    have hM1 : cGo (cp 8 0) nl n1 ≤ 1600000 := cGo_bd hup1.1 (by omega) (by omega)
    have hg1 := cGo_ge (cp 8 0) nl n1
    have hg2 : cGo (cp 8 0) nl n1 ≤ LC := by rw [hLC, ← cGo_trans hup1.1 hup2.1]; exact cGo_ge _ _ _
    have after : G φ (gQ φ (pV (fun c' => ∃ q, CW c0 (up2 ad0 8 0 q) (up2 cp0 8 0 LC) fz md S U AA BB c')) MC MS) 143 [(0, .ref (ad 0 0)), (1, .int (nI k)), (2, .long (sAll (A 57) (B 58) (nI k) N))] [] c (2 * k + (cp 8 0 - cp0 8 0)) (20 * k + 2 * (cp 8 0 - cp0 8 0)) := by
      by_cases hlt : B 43 0 < sAll (A 57) (B 58) (nI k) N
      · skip
        refine g_aload_n (i := 0) h dX1_interest_143 rfl rfl ?_
        refine g_get (v := .long (B 43 0)) h f_X1_231_1 hX.x rfl dX1_interest_144 ?_
        refine g_lload_n (i := 2) h dX1_interest_147 rfl rfl ?_
        refine g_lcmp h dX1_interest_148 ?_
        refine g_if_lt (tgt := 216) h dX1_interest_149 (by decide) (fun b149 => ?_) (fun _bz => absurd _bz (fun q => q (by rw [lg_cmp_lt]; exact hlt)))
        rw [lg_cmp_lt] at b149
        refine g_aload_n (i := 0) h dX1_interest_216 rfl rfl ?_
        refine g_iload_n (i := 1) h dX1_interest_217 rfl rfl ?_
        refine g_lload_n (i := 2) h dX1_interest_218 rfl rfl ?_
        refine g_invV h (cx_parts (r := nI k) h.k hX hN hN10 hnl hD hh rfl (Int64.not_le.mpr hlt) hR hNN1 hM) hcX1_parts w_X1_282 rfl rfl hX.x (Nat.le_of_ble_eq_true rfl) ⟨Nat.le_of_ble_eq_true rfl, Nat.le_of_ble_eq_true rfl⟩ (by refine ⟨?_, ?_⟩ <;> ((try dsimp only); omega)) dX1_interest_219 (gkr_v (fun c2 hP => ?_)) gkt_v
        obtain ⟨q, hX⟩ := hP
        first | (with_reducible refine g_iincN h dX1_interest_222 rfl (by decide) ?_) | refine g_iinc1 h dX1_interest_222 rfl (by decide) ?_
        refine g_goto (tgt := 74) h dX1_interest_225 (by decide) ?_
        refine G.up (ce' := 2 * (k + 1) + (cGo (cp 8 0) nl n1 - cp0 8 0)) (sl' := 20 * (k + 1) + 2 * (cGo (cp 8 0) nl n1 - cp0 8 0)) (by (try dsimp only); omega) (by (try dsimp only); omega) ?_
        have hGo := ih (k + 1) A1 B1 n1 l1 (up2 ad 8 0 q) (up2 cp 8 0 (cGo (cp 8 0) nl n1)) c2 (by omega) hS (up2_re _ hq) (up2_re _ hcp) hX hN1 hnl1 hD1 hh1 (by rw [up2_s]; exact hM1) (by rw [up2_s]; omega) (by rw [up2_s, hLC]; exact (cGo_trans hup1.1 hup2.1).symm)
        rw [up2_s] at hGo
        exact G.to hGo ⟨rfl, rfl, trivial⟩
      · skip
        refine g_aload_n (i := 0) h dX1_interest_143 rfl rfl ?_
        refine g_get (v := .long (B 43 0)) h f_X1_231_1 hX.x rfl dX1_interest_144 ?_
        refine g_lload_n (i := 2) h dX1_interest_147 rfl rfl ?_
        refine g_lcmp h dX1_interest_148 ?_
        refine g_if_lt (tgt := 216) h dX1_interest_149 (by decide) (fun _bz => absurd _bz (fun q => hlt (by rw [lg_cmp_lt] at q; exact q))) (fun b149 => ?_)
        rw [lg_cmp_lt] at b149
        refine g_iconst (v := nI 0) h dX1_interest_152 (by decide) ?_
        refine g_istore h dX1_interest_153 (by decide) ?_
        have kk : ∀ (ad2 cp2 : Nat → Nat → Nat) (c2 : gLH), ad2 = up2 ad0 8 0 (ad2 8 0) → cp2 = up2 cp0 8 0 (cGo (cp 8 0) nl n1) → CW c0 ad2 cp2 fz md S U A1 B1 c2 → G φ (gQ φ (pV (fun c' => ∃ q, CW c0 (up2 ad0 8 0 q) (up2 cp0 8 0 LC) fz md S U AA BB c')) MC MS) 222 [(0, .ref (ad2 0 0)), (1, .int (nI k))] [] c2 (2 * k + (cp2 8 0 - cp0 8 0)) (20 * k + 2 * (cp2 8 0 - cp0 8 0)) := by
          intro ad2 cp2 c2 h1 h2 hX2
          have e2 : cp2 8 0 = cGo (cp 8 0) nl n1 := by rw [h2, up2_s]
          first | (with_reducible refine g_iincN h dX1_interest_222 rfl (by decide) ?_) | refine g_iinc1 h dX1_interest_222 rfl (by decide) ?_
          refine g_goto (tgt := 74) h dX1_interest_225 (by decide) ?_
          refine G.up (ce' := 2 * (k + 1) + (cp2 8 0 - cp0 8 0)) (sl' := 20 * (k + 1) + 2 * (cp2 8 0 - cp0 8 0)) (by (try dsimp only); omega) (by (try dsimp only); omega) ?_
          exact G.to (ih (k + 1) A1 B1 n1 l1 ad2 cp2 c2 (by omega) hS h1 (by rw [e2]; exact h2) hX2 hN1 hnl1 hD1 hh1 (by rw [e2]; exact hM1) (by rw [e2]; omega) (by rw [e2, hLC]; exact (cGo_trans hup1.1 hup2.1).symm)) ⟨rfl, rfl, trivial⟩
        obtain ⟨H, e⟩ := sRank_eq (nI k) N (A, B, nl, ll)
        by_cases hz : sAll (A 57) (B 58) (nI k) N = 0
        · rw [hR, if_pos hz] at e
          have hd0 := zAll_0 (R := A 57) (r := nI k) hD (by rw [← (sAll_z (R := A 57) (r := nI k) hN10 hD).1, hz]; rfl)
          have hS0 := sPay_0 (nI k) A (b2 B (B 58) (B 60)) nl ll N 0 (fun j _ hj hr => hd0 j (by omega) hr)
          simp only [Prod.mk.injEq] at e
          obtain ⟨rfl, rfl, rfl, rfl⟩ := e
          refine G.to (int_pay h (LC := cGo (cp 8 0) n1 n1) hN10 hNN1 (by rw [cGo_self]; omega) (by rw [cGo_self]; omega) (fun ad2 cp2 c2 h1 h2 h3 => kk ad2 cp2 c2 h1 h2 (cw_nb2 h3)) N 0 _ _ n1 l1 ad cp c (by omega) hS0 hq hcp (hX.b2 _ _) hN hnl hM hlo rfl (fun j _ hj hr => rfl) hD) ⟨rfl, rfl, rfl, trivial⟩
        · rw [hR, if_neg hz] at e
          refine G.to (int_pay h hN10 hNN1 (by omega) (by omega) kk N 0 _ _ nl ll ad cp c (by omega) e.symm hq hcp (hX.b2 _ _) hN hnl hM hlo rfl (fun j _ hj hr => got_full (nl := nl) (ll := ll) hlt j hj hr) hD) ⟨rfl, rfl, rfl, trivial⟩
    have sums : ∀ n, n ≤ N → G φ (gQ φ (pV (fun c' => ∃ q, CW c0 (up2 ad0 8 0 q) (up2 cp0 8 0 LC) fz md S U AA BB c')) MC MS) 84 [(0, .ref (ad 0 0)), (1, .int (nI k)), (2, .long (sAll (A 57) (B 58) (nI k) n)), (4, .int (nI n))] [] c (2 * k + (cp 8 0 - cp0 8 0)) (20 * k + 2 * (cp 8 0 - cp0 8 0)) := by
      refine gloop ?_ ?_
      · skip
        refine g_iload h dX1_interest_84 rfl ?_
        refine g_aload_n (i := 0) h dX1_interest_86 rfl rfl ?_
        refine g_get (v := .ref (ad 2 5)) h f_X1_41_1 hX.x rfl dX1_interest_87 ?_
        refine g_invV h (ct_xsize5 h.k hX) hcJ2_size w_X1_81 rfl rfl (xlist5 hX) (Nat.le_of_ble_eq_true rfl) ⟨Nat.le_of_ble_eq_true rfl, Nat.le_of_ble_eq_true rfl⟩ (by refine ⟨?_, ?_⟩ <;> ((try dsimp only); omega)) dX1_interest_90 (gkr_ip ?_) gkt_ip
        refine G.int hN ?_
        refine g_icmp_ge (tgt := 143) h dX1_interest_93 (by decide) (fun b93 => ?_) (fun _bz => absurd _bz (fun q => absurd (nI_le (Nat.le_refl N) (by omega)) q))
        exact G.to after ⟨rfl, rfl, rfl, trivial⟩
      · intro n hn ih2
        have hn5 : n < cn A 5 := by omega
        by_cases hr : A 57 n = nI k
        · skip
          refine g_iload h dX1_interest_84 rfl ?_
          refine g_aload_n (i := 0) h dX1_interest_86 rfl rfl ?_
          refine g_get (v := .ref (ad 2 5)) h f_X1_41_1 hX.x rfl dX1_interest_87 ?_
          refine g_invV h (ct_xsize5 h.k hX) hcJ2_size w_X1_81 rfl rfl (xlist5 hX) (Nat.le_of_ble_eq_true rfl) ⟨Nat.le_of_ble_eq_true rfl, Nat.le_of_ble_eq_true rfl⟩ (by refine ⟨?_, ?_⟩ <;> ((try dsimp only); omega)) dX1_interest_90 (gkr_ip ?_) gkt_ip
          refine G.int hN ?_
          refine g_icmp_ge (tgt := 143) h dX1_interest_93 (by decide) (fun _bz => absurd _bz (nI_ge hn (by omega))) (fun b93 => ?_)
          refine g_lload_n (i := 2) h dX1_interest_96 rfl rfl ?_
          refine g_aload_n (i := 0) h dX1_interest_97 rfl rfl ?_
          refine g_get (v := .ref (ad 2 5)) h f_X1_41_1 hX.x rfl dX1_interest_98 ?_
          refine g_iload h dX1_interest_101 rfl ?_
          refine g_invV h (ct_xget5 h.k hX hn5) hcJ2_get w_X1_162 rfl rfl (xlist5 hX) (Nat.le_of_ble_eq_true rfl) ⟨Nat.le_of_ble_eq_true rfl, Nat.le_of_ble_eq_true rfl⟩ (by refine ⟨?_, ?_⟩ <;> ((try dsimp only); omega)) dX1_interest_103 (gkr_ap ?_) gkt_ap
          refine g_castS h (hX.1.at (cells_16 hn5)) rfl q1575 dX1_interest_106 ?_
          refine g_get (v := .int (A 57 n)) h f_X1_275_30 (hX.1.at (cells_16 hn5)) rfl dX1_interest_109 ?_
          refine g_iload_n (i := 1) h dX1_interest_112 rfl rfl ?_
          refine g_icmp_ne (tgt := 134) h dX1_interest_113 (by decide) (fun _bz => absurd _bz (fun z => z hr)) (fun b113 => ?_)
          refine g_aload_n (i := 0) h dX1_interest_116 rfl rfl ?_
          refine g_get (v := .ref (ad 2 5)) h f_X1_41_1 hX.x rfl dX1_interest_117 ?_
          refine g_iload h dX1_interest_120 rfl ?_
          refine g_invV h (ct_xget5 h.k hX hn5) hcJ2_get w_X1_162 rfl rfl (xlist5 hX) (Nat.le_of_ble_eq_true rfl) ⟨Nat.le_of_ble_eq_true rfl, Nat.le_of_ble_eq_true rfl⟩ (by refine ⟨?_, ?_⟩ <;> ((try dsimp only); omega)) dX1_interest_122 (gkr_ap ?_) gkt_ap
          refine g_castS h (hX.1.at (cells_16 hn5)) rfl q1575 dX1_interest_125 ?_
          refine g_get (v := .long (B 58 n)) h f_X1_265_30 (hX.1.at (cells_16 hn5)) rfl dX1_interest_128 ?_
          refine g_goto (tgt := 135) h dX1_interest_131 (by decide) ?_
          refine g_ladd h dX1_interest_135 ?_
          refine g_lstore_n (i := 2) h dX1_interest_136 rfl (by decide) ?_
          first | (with_reducible refine g_iincN h dX1_interest_137 rfl (by decide) ?_) | refine g_iinc1 h dX1_interest_137 rfl (by decide) ?_
          refine g_goto (tgt := 84) h dX1_interest_140 (by decide) ?_
          rw [show sAll (A 57) (B 58) (nI k) (n + 1) = sAll (A 57) (B 58) (nI k) n + B 58 n by simp only [sAll, hr, if_true]] at ih2
          exact G.to ih2 ⟨rfl, rfl, rfl, rfl, trivial⟩
        · skip
          refine g_iload h dX1_interest_84 rfl ?_
          refine g_aload_n (i := 0) h dX1_interest_86 rfl rfl ?_
          refine g_get (v := .ref (ad 2 5)) h f_X1_41_1 hX.x rfl dX1_interest_87 ?_
          refine g_invV h (ct_xsize5 h.k hX) hcJ2_size w_X1_81 rfl rfl (xlist5 hX) (Nat.le_of_ble_eq_true rfl) ⟨Nat.le_of_ble_eq_true rfl, Nat.le_of_ble_eq_true rfl⟩ (by refine ⟨?_, ?_⟩ <;> ((try dsimp only); omega)) dX1_interest_90 (gkr_ip ?_) gkt_ip
          refine G.int hN ?_
          refine g_icmp_ge (tgt := 143) h dX1_interest_93 (by decide) (fun _bz => absurd _bz (nI_ge hn (by omega))) (fun b93 => ?_)
          refine g_lload_n (i := 2) h dX1_interest_96 rfl rfl ?_
          refine g_aload_n (i := 0) h dX1_interest_97 rfl rfl ?_
          refine g_get (v := .ref (ad 2 5)) h f_X1_41_1 hX.x rfl dX1_interest_98 ?_
          refine g_iload h dX1_interest_101 rfl ?_
          refine g_invV h (ct_xget5 h.k hX hn5) hcJ2_get w_X1_162 rfl rfl (xlist5 hX) (Nat.le_of_ble_eq_true rfl) ⟨Nat.le_of_ble_eq_true rfl, Nat.le_of_ble_eq_true rfl⟩ (by refine ⟨?_, ?_⟩ <;> ((try dsimp only); omega)) dX1_interest_103 (gkr_ap ?_) gkt_ap
          refine g_castS h (hX.1.at (cells_16 hn5)) rfl q1575 dX1_interest_106 ?_
          refine g_get (v := .int (A 57 n)) h f_X1_275_30 (hX.1.at (cells_16 hn5)) rfl dX1_interest_109 ?_
          refine g_iload_n (i := 1) h dX1_interest_112 rfl rfl ?_
          refine g_icmp_ne (tgt := 134) h dX1_interest_113 (by decide) (fun b113 => ?_) (fun _bz => absurd _bz hr)
          refine g_lconst (v := 0) h dX1_interest_134 (by decide) ?_
          refine g_ladd h dX1_interest_135 ?_
          refine g_lstore_n (i := 2) h dX1_interest_136 rfl (by decide) ?_
          first | (with_reducible refine g_iincN h dX1_interest_137 rfl (by decide) ?_) | refine g_iinc1 h dX1_interest_137 rfl (by decide) ?_
          refine g_goto (tgt := 84) h dX1_interest_140 (by decide) ?_
          rw [show sAll (A 57) (B 58) (nI k) (n + 1) = sAll (A 57) (B 58) (nI k) n + 0 by simp only [sAll, hr, if_false]] at ih2
          exact G.to ih2 ⟨rfl, rfl, rfl, rfl, trivial⟩
    refine g_iload_n (i := 1) h dX1_interest_74 rfl rfl ?_
    refine g_iconst (v := nI 4) h dX1_interest_75 (by decide) ?_
    refine g_icmp_ge (tgt := 228) h dX1_interest_76 (by decide) (fun _bz => absurd _bz (nI_ge (show k < 4 by omega) (by decide))) (fun b76 => ?_)
    refine g_lconst (v := 0) h dX1_interest_79 (by decide) ?_
    refine g_lstore_n (i := 2) h dX1_interest_80 rfl (by decide) ?_
    refine g_iconst (v := nI 0) h dX1_interest_81 (by decide) ?_
    refine g_istore h dX1_interest_82 (by decide) ?_
    exact G.to (sums 0 (Nat.zero_le _)) ⟨rfl, rfl, rfl, rfl, trivial⟩
theorem dues_k (A : Nat → Nat → Int32) (B : Nat → Nat → Int64) {k : Nat} (h : k ≠ 58) : ∀ n, sDues A B n k = B k := by
  intro n
  induction n with
  | zero => rfl
  | succ n ih => simp only [sDues]; rw [mB_n _ _ _ h, ih]
theorem cx_interest {l : Launch} {g : gGP} (hk : gK l g) {c0 c : gLH} {ad cp fz : Nat → Nat → Nat} {md : Nat → Nat → Int32} {S : Nat → List Value} {U : Nat → Nat → Int64} {A : Nat → Nat → Int32} {B : Nat → Nat → Int64} (hX : CW c0 ad cp fz md S U A B c) {N nl ll NN LL : Nat} {AA : Nat → Nat → Int32} {BB : Nat → Nat → Int64} (hN : A 61 0 = nI N) (hN10 : N ≤ 10) (hnl : A 42 0 = nI nl) (hD : dOk (sDues A B N 58) N) (hh : 0 ≤ (B 43 0).toInt) (hS : sInt N (A, B, nl, ll) = (AA, BB, NN, LL)) (hNN : NN < 200000) (hM : cp 8 0 ≤ 1600000) : Ct l g yX1_interest hwX1_interest 6 240 [.ref (ad 0 0)] c (8 + (cGo (cp 8 0) nl NN - cp 8 0)) (80 + 2 * (cGo (cp 8 0) nl NN - cp 8 0)) (pV (fun c' => ∃ q, CW c0 (up2 ad 8 0 q) (up2 cp 8 0 (cGo (cp 8 0) nl NN)) fz md S U AA BB c')) := by
  refine Ct.intro hk hcX1_interest (by decide +kernel) (Nat.le_of_ble_eq_true rfl) (fun φ h => ?_)
  have hcn : cn A 5 = N := by show ix (A 61 0) = N; rw [hN, ix_nI (by omega)]
  replace hh : 0 ≤ (sDues A B N 43 0).toInt := by rw [dues_k A B (by decide) N]; exact hh
  have loop : ∀ n, n ≤ N → ∀ c, CW c0 ad cp fz md S U A (sDues A B n) c → G φ (gQ φ (pV (fun c' => ∃ q, CW c0 (up2 ad 8 0 q) (up2 cp 8 0 (cGo (cp 8 0) nl NN)) fz md S U AA BB c')) (8 + (cGo (cp 8 0) nl NN - cp 8 0)) (80 + 2 * (cGo (cp 8 0) nl NN - cp 8 0))) 2 [(0, .ref (ad 0 0)), (1, .int (nI n))] [] c 0 0 := by
    refine gloop ?_ ?_
    · intro c hX
      refine g_iload_n (i := 1) h dX1_interest_2 rfl rfl ?_
      refine g_aload_n (i := 0) h dX1_interest_3 rfl rfl ?_
      refine g_get (v := .ref (ad 2 5)) h f_X1_41_1 hX.x rfl dX1_interest_4 ?_
      refine g_invV h (ct_xsize5 h.k hX) hcJ2_size w_X1_81 rfl rfl (xlist5 hX) (Nat.le_of_ble_eq_true rfl) ⟨Nat.le_of_ble_eq_true rfl, Nat.le_of_ble_eq_true rfl⟩ (by refine ⟨?_, ?_⟩ <;> ((try dsimp only); omega)) dX1_interest_7 (gkr_ip ?_) gkt_ip
      refine G.int hN ?_
      refine g_icmp_ge (tgt := 72) h dX1_interest_10 (by decide) (fun b10 => ?_) (fun _bz => absurd _bz (fun q => absurd (nI_le (Nat.le_refl N) (by omega)) q))
      refine g_iconst (v := nI 0) h dX1_interest_72 (by decide) ?_
      refine g_istore_n (i := 1) h dX1_interest_73 rfl (by decide) ?_
      refine G.up (ce' := 2 * 0 + (cp 8 0 - cp 8 0)) (sl' := 20 * 0 + 2 * (cp 8 0 - cp 8 0)) (by omega) (by omega) ?_
      exact G.to (int_ranks h hN10 hNN (Nat.le_refl _) (Nat.le_refl _) 4 0 A (sDues A B N) nl ll ad cp c (by omega) hS (up2_id _ _ _).symm (up2_id _ _ _).symm hX hN hnl hD hh (by omega) (Nat.le_refl _) rfl) ⟨rfl, rfl, trivial⟩
    · intro n hn ih c hX
      have hn5 : n < cn A 5 := by omega
      refine g_iload_n (i := 1) h dX1_interest_2 rfl rfl ?_
      refine g_aload_n (i := 0) h dX1_interest_3 rfl rfl ?_
      refine g_get (v := .ref (ad 2 5)) h f_X1_41_1 hX.x rfl dX1_interest_4 ?_
      refine g_invV h (ct_xsize5 h.k hX) hcJ2_size w_X1_81 rfl rfl (xlist5 hX) (Nat.le_of_ble_eq_true rfl) ⟨Nat.le_of_ble_eq_true rfl, Nat.le_of_ble_eq_true rfl⟩ (by refine ⟨?_, ?_⟩ <;> ((try dsimp only); omega)) dX1_interest_7 (gkr_ip ?_) gkt_ip
      refine G.int hN ?_
      refine g_icmp_ge (tgt := 72) h dX1_interest_10 (by decide) (fun _bz => absurd _bz (nI_ge hn (by omega))) (fun b10 => ?_)
      refine g_aload_n (i := 0) h dX1_interest_13 rfl rfl ?_
      refine g_get (v := .ref (ad 2 5)) h f_X1_41_1 hX.x rfl dX1_interest_14 ?_
      refine g_iload_n (i := 1) h dX1_interest_17 rfl rfl ?_
      refine g_invV h (ct_xget5 h.k hX hn5) hcJ2_get w_X1_162 rfl rfl (xlist5 hX) (Nat.le_of_ble_eq_true rfl) ⟨Nat.le_of_ble_eq_true rfl, Nat.le_of_ble_eq_true rfl⟩ (by refine ⟨?_, ?_⟩ <;> ((try dsimp only); omega)) dX1_interest_18 (gkr_ap ?_) gkt_ap
      refine g_castS h (hX.1.at (cells_16 hn5)) rfl q1575 dX1_interest_21 ?_
      refine g_dup h dX1_interest_24 rfl ?_
      refine g_get (v := .long (sDues A B n 58 n)) h f_X1_265_30 (hX.1.at (cells_16 hn5)) rfl dX1_interest_25 ?_
      refine g_aload_n (i := 0) h dX1_interest_28 rfl rfl ?_
      refine g_get (v := .ref (ad 2 5)) h f_X1_41_1 hX.x rfl dX1_interest_29 ?_
      refine g_iload_n (i := 1) h dX1_interest_32 rfl rfl ?_
      refine g_invV h (ct_xget5 h.k hX hn5) hcJ2_get w_X1_162 rfl rfl (xlist5 hX) (Nat.le_of_ble_eq_true rfl) ⟨Nat.le_of_ble_eq_true rfl, Nat.le_of_ble_eq_true rfl⟩ (by refine ⟨?_, ?_⟩ <;> ((try dsimp only); omega)) dX1_interest_33 (gkr_ap ?_) gkt_ap
      refine g_castS h (hX.1.at (cells_16 hn5)) rfl q1575 dX1_interest_36 ?_
      refine g_get (v := .long (A 55 n).toInt64) h f_X1_267_30 (hX.1.at (cells_16 hn5)) rfl dX1_interest_39 ?_
      refine g_aload_n (i := 0) h dX1_interest_42 rfl rfl ?_
      refine g_get (v := .ref (ad 2 5)) h f_X1_41_1 hX.x rfl dX1_interest_43 ?_
      refine g_iload_n (i := 1) h dX1_interest_46 rfl rfl ?_
      refine g_invV h (ct_xget5 h.k hX hn5) hcJ2_get w_X1_162 rfl rfl (xlist5 hX) (Nat.le_of_ble_eq_true rfl) ⟨Nat.le_of_ble_eq_true rfl, Nat.le_of_ble_eq_true rfl⟩ (by refine ⟨?_, ?_⟩ <;> ((try dsimp only); omega)) dX1_interest_47 (gkr_ap ?_) gkt_ap
      refine g_castS h (hX.1.at (cells_16 hn5)) rfl q1575 dX1_interest_50 ?_
      refine g_get (v := .int (A 56 n)) h f_X1_270_30 (hX.1.at (cells_16 hn5)) rfl dX1_interest_53 ?_
      refine g_i2l h dX1_interest_56 ?_
      refine g_lmul h dX1_interest_57 ?_
      refine g_ldc2 (v := 1000) h dX1_interest_58 q1576 ?_
      refine g_ldiv h dX1_interest_61 (by decide) ?_
      refine g_ladd h dX1_interest_62 ?_
      refine x_put58 h hX hn5 fp_X1_265_30 rfl rfl dX1_interest_63 (fun c hX => ?_)
      first | (with_reducible refine g_iincN h dX1_interest_66 rfl (by decide) ?_) | refine g_iinc1 h dX1_interest_66 rfl (by decide) ?_
      refine g_goto (tgt := 2) h dX1_interest_69 (by decide) ?_
      exact G.to (ih c hX) ⟨rfl, rfl, trivial⟩
  refine g_iconst (v := nI 0) h dX1_interest_0 (by decide) ?_
  refine g_istore_n (i := 1) h dX1_interest_1 rfl (by decide) ?_
  exact G.to (loop 0 (Nat.zero_le _) c hX) ⟨rfl, rfl, trivial⟩
