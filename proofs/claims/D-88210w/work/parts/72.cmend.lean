/-! THE COMPONENT: mend -/
set_option maxRecDepth 100000
theorem cN_ge (L nl : Nat) : L ≤ cN L nl := by unfold cN; split <;> omega
/-- the journal's room when k lines more have been written -/
def cG : Nat → Nat → Nat → Nat
  | L, _, 0 => L
  | L, nl, k + 1 => cG (cN L nl) (nl + 1) k
def cGo (L nl NN : Nat) : Nat := cG L nl (NN - nl)
theorem cGo_self (L nl : Nat) : cGo L nl nl = L := by unfold cGo; rw [Nat.sub_self]; rfl
theorem cGo_step {L nl NN : Nat} (h : nl < NN) : cGo L nl NN = cGo (cN L nl) (nl + 1) NN := by
  unfold cGo
  rw [show NN - nl = (NN - (nl + 1)) + 1 by omega]
  rfl
theorem cG_ge : ∀ (k L nl : Nat), L ≤ cG L nl k := by
  intro k
  induction k with
  | zero => intro L nl; exact Nat.le_refl _
  | succ k ih => intro L nl; exact Nat.le_trans (cN_ge L nl) (ih _ _)
theorem cGo_ge (L nl NN : Nat) : L ≤ cGo L nl NN := cG_ge _ _ _
theorem cG_add : ∀ (j k L nl : Nat), cG L nl (j + k) = cG (cG L nl j) (nl + j) k := by
  intro j
  induction j with
  | zero => intro k L nl; rw [Nat.zero_add]; rfl
  | succ j ih =>
    intro k L nl
    rw [show j + 1 + k = (j + k) + 1 by omega]
    show cG (cN L nl) (nl + 1) (j + k) = cG (cG (cN L nl) (nl + 1) j) (nl + (j + 1)) k
    rw [ih, show nl + 1 + j = nl + (j + 1) by omega]
theorem cGo_trans {L nl n1 n2 : Nat} (h1 : nl ≤ n1) (h2 : n1 ≤ n2) : cGo (cGo L nl n1) n1 n2 = cGo L nl n2 := by
  unfold cGo
  rw [show n2 - nl = (n1 - nl) + (n2 - n1) by omega, cG_add, show nl + (n1 - nl) = n1 by omega]
theorem cN_bd {L nl M : Nat} (h1 : L ≤ M) (h2 : 8 * nl ≤ M) : cN L nl ≤ M := by unfold cN; split <;> omega
theorem cG_bd : ∀ (k L nl M : Nat), L ≤ M → 8 * (nl + k) ≤ M → cG L nl k ≤ M := by
  intro k
  induction k with
  | zero => intro L nl M h _; exact h
  | succ k ih => intro L nl M h1 h2; exact ih _ _ _ (cN_bd h1 (by omega)) (by omega)
theorem cGo_bd {L nl NN M : Nat} (h0 : nl ≤ NN) (h1 : L ≤ M) (h2 : 8 * NN ≤ M) : cGo L nl NN ≤ M := cG_bd _ _ _ _ h1 (by omega)
theorem up2_re {α : Type} {f f0 : Nat → Nat → α} {k i : Nat} (v : α) (h : f = up2 f0 k i (f k i)) : up2 f k i v = up2 f0 k i (up2 f k i v k i) := by
  rw [up2_s]
  conv => lhs; rw [h]
  rw [up2_up2]
theorem cmend_out {φ : gFx} {l : Launch} {g : gGP} {MC MS : Nat} (h : gOK φ l g { frames := 7, cells := MC, slots := MS, locals := 280 } cX1_mend 6 RX1 "mend" (some .int) []) {c0 : gLH} {ad0 cp0 fz : Nat → Nat → Nat} {md : Nat → Nat → Int32} {S : Nat → List Value} {U : Nat → Nat → Int64} {ns L r0 LC NN LL : Nat} {AA : Nat → Nat → Int32} {BB : Nat → Nat → Int64} (hL : L ≤ 20) (hns12 : ns ≤ 12) (hNN : NN < 200000) (hMC : 8 + (LC - cp0 8 0) ≤ MC) (hMS : 48 + 2 * (LC - cp0 8 0) ≤ MS) :
    ∀ (m k r : Nat) (A : Nat → Nat → Int32) (B : Nat → Nat → Int64) (nl ll : Nat) (ad cp : Nat → Nat → Nat) (c : gLH), k + m = L → k + r = r0 → sMend ns m (A, B, nl, ll) = (r, AA, BB, NN, LL) → ad = up2 ad0 8 0 (ad 8 0) → cp = up2 cp0 8 0 (cp 8 0) → CW c0 ad cp fz md S U A B c → A 28 0 = nI ns → A 42 0 = nI nl → cp 8 0 ≤ 1600000 → cp0 8 0 ≤ cp 8 0 → LC = cGo (cp 8 0) nl NN →
      G φ (gQ φ (pI (nI r0) (fun c' => ∃ q, CW c0 (up2 ad0 8 0 q) (up2 cp0 8 0 LC) fz md S U AA BB c')) MC MS) 20 [(0, .ref (ad 0 0)), (1, .int (nI L)), (2, .int (nI k))] [] c (8 + (cp 8 0 - cp0 8 0)) (48 + 2 * (cp 8 0 - cp0 8 0)) := by
  intro m
  induction m with
  | zero =>
    intro k r A B nl ll ad cp c hk hr hS hq hcp hX hns hnl hM hlo hLC
    simp only [sMend, Prod.mk.injEq] at hS
    obtain ⟨rfl, rfl, rfl, rfl, rfl⟩ := hS
    obtain rfl : k = L := by omega
    obtain rfl : k = r0 := by omega
    rw [cGo_self] at hLC
    refine g_iload_n (i := 2) h dX1_mend_20 rfl rfl ?_
    refine g_iload_n (i := 1) h dX1_mend_21 rfl rfl ?_
    refine g_icmp_ge (tgt := 221) h dX1_mend_22 (by decide) (fun b22 => ?_) (fun _bz => absurd _bz (fun q => absurd (nI_le (Nat.le_refl _) (by omega)) q))
    refine g_iload_n (i := 1) h dX1_mend_221 rfl rfl ?_
    exact g_iret h ⟨rfl, ad 8 0, by rw [← hq, hLC, ← hcp]; exact hX⟩ (by (try dsimp only); omega) (by (try dsimp only); omega) dX1_mend_222
  | succ m ih =>
    intro k r A B nl ll ad cp c hk hr hS hq hcp hX hns hnl hM hlo hLC
    have hup := sMend_up ns (m + 1) (A, B, nl, ll)
    rw [hS] at hup
    have hup : nl ≤ NN ∧ ll ≤ LL := hup
    have hge : cp 8 0 ≤ LC := by rw [hLC]; exact cGo_ge _ _ _
    have hcn : cn A 1 = ns := by show ix (A 28 0) = ns; rw [hns, ix_nI (by omega)]
    have after : G φ (gQ φ (pI (nI r0) (fun c' => ∃ q, CW c0 (up2 ad0 8 0 q) (up2 cp0 8 0 LC) fz md S U AA BB c')) MC MS) 129 [(0, .ref (ad 0 0)), (1, .int (nI L)), (2, .int (nI k)), (3, .int (oI (sBest (B 27) (A 26) ns)))] [] c (8 + (cp 8 0 - cp0 8 0)) (48 + 2 * (cp 8 0 - cp0 8 0)) := by
      simp only [sMend] at hS
      cases hb : sBest (B 27) (A 26) ns with
      | none =>
        simp only [sMend1, hb, Prod.mk.injEq] at hS
        obtain ⟨rfl, rfl, rfl, rfl, rfl⟩ := hS
        obtain rfl : k = r0 := by omega
        rw [cGo_self] at hLC
        refine g_iload_n (i := 3) h dX1_mend_129 rfl rfl ?_
        refine g_iconst (v := (-1)) h dX1_mend_130 (by decide) ?_
        refine g_icmp_eq (tgt := 157) h dX1_mend_131 (by decide) (fun b131 => ?_) (fun _bz => absurd _bz (fun q => absurd rfl q))
        refine g_iload_n (i := 2) h dX1_mend_157 rfl rfl ?_
        exact g_iret h ⟨rfl, ad 8 0, by rw [← hq, hLC, ← hcp]; exact hX⟩ (by (try dsimp only); omega) (by (try dsimp only); omega) dX1_mend_158
      | some b =>
        have hb12 : b < cn A 1 := by rw [hcn]; exact sBest_lt hb
        have hbs := sBest_lt hb
        refine G.to (lv' := [(0, .ref (ad 0 0)), (1, .int (nI L)), (2, .int (nI k)), (3, .int (nI b))]) ?_ ⟨rfl, rfl, rfl, rfl, trivial⟩
        refine g_iload_n (i := 3) h dX1_mend_129 rfl rfl ?_
        refine g_iconst (v := (-1)) h dX1_mend_130 (by decide) ?_
        refine g_icmp_eq (tgt := 157) h dX1_mend_131 (by decide) (fun _bz => absurd _bz (nI_nm1 (by omega))) (fun b131 => ?_)
        refine g_aload_n (i := 0) h dX1_mend_134 rfl rfl ?_
        refine g_get (v := .long (B 43 0)) h f_X1_231_1 hX.x rfl dX1_mend_135 ?_
        refine g_aload_n (i := 0) h dX1_mend_138 rfl rfl ?_
        refine g_get (v := .ref (ad 2 1)) h f_X1_29_1 hX.x rfl dX1_mend_139 ?_
        refine g_iload_n (i := 3) h dX1_mend_142 rfl rfl ?_
        refine g_invV h (ct_xget1 h.k hX hb12) hcJ2_get w_X1_162 rfl rfl (xlist1 hX) (Nat.le_of_ble_eq_true rfl) ⟨Nat.le_of_ble_eq_true rfl, Nat.le_of_ble_eq_true rfl⟩ (by refine ⟨?_, ?_⟩ <;> first | exact Nat.le_refl _ | exact Nat.zero_le _ | (dsimp only; omega)) dX1_mend_143 (gkr_ap ?_) gkt_ap
        refine g_castS h (hX.1.at (cells_9 hb12)) rfl q1202 dX1_mend_146 ?_
        refine g_get h f_X1_289_22 (hX.1.at (cells_9 hb12)) rfl dX1_mend_149 ?_
        refine g_i2l h dX1_mend_152 ?_
        refine g_lcmp h dX1_mend_153 ?_
        refine g_if_ge (tgt := 159) h dX1_mend_154 (by decide) (fun b154 => ?_) (fun b154 => ?_)
        · rw [lg_cmp_ge] at b154
          have hbox : (A 26 b).toInt64 ≤ B 43 0 := by simpa using b154
          simp only [sMend1, hb, if_pos hbox, Prod.mk.injEq] at hS
          obtain ⟨hr1, hS2⟩ := hS
          generalize hS1 : (sLineA A nl 6 (nI b) (-(A 26 b)).toInt64, mB (mB B 27 b (B 27 b - sTakes (B 27 b))) 43 0 (B 43 0 + (-(A 26 b)).toInt64), nl + 1, sLn ll nl) = S1 at hr1 hS2
          have hup2 := sMend_up ns m S1
          rw [hS2, ← hS1] at hup2
          have hlt : nl + 1 ≤ NN := hup2.1
          have hstep : LC = cGo (cN (cp 8 0) nl) (nl + 1) NN := by rw [hLC, cGo_step hlt]
          have hge2 : cN (cp 8 0) nl ≤ LC := by rw [hstep]; exact cGo_ge _ _ _
          have hg := cN_ge (cp 8 0) nl
          refine g_aload_n (i := 0) h dX1_mend_159 rfl rfl ?_
          refine g_get (v := .ref (ad 2 1)) h f_X1_29_1 hX.x rfl dX1_mend_160 ?_
          refine g_iload_n (i := 3) h dX1_mend_163 rfl rfl ?_
          refine g_invV h (ct_xget1 h.k hX hb12) hcJ2_get w_X1_162 rfl rfl (xlist1 hX) (Nat.le_of_ble_eq_true rfl) ⟨Nat.le_of_ble_eq_true rfl, Nat.le_of_ble_eq_true rfl⟩ (by refine ⟨?_, ?_⟩ <;> first | exact Nat.le_refl _ | exact Nat.zero_le _ | (dsimp only; omega)) dX1_mend_164 (gkr_ap ?_) gkt_ap
          refine g_castS h (hX.1.at (cells_9 hb12)) rfl q1202 dX1_mend_167 ?_
          refine g_dup h dX1_mend_170 rfl ?_
          refine g_get h f_X1_214_22 (hX.1.at (cells_9 hb12)) rfl dX1_mend_171 ?_
          refine g_aload_n (i := 0) h dX1_mend_174 rfl rfl ?_
          refine g_get (v := .ref (ad 2 1)) h f_X1_29_1 hX.x rfl dX1_mend_175 ?_
          refine g_iload_n (i := 3) h dX1_mend_178 rfl rfl ?_
          refine g_invV h (ct_xget1 h.k hX hb12) hcJ2_get w_X1_162 rfl rfl (xlist1 hX) (Nat.le_of_ble_eq_true rfl) ⟨Nat.le_of_ble_eq_true rfl, Nat.le_of_ble_eq_true rfl⟩ (by refine ⟨?_, ?_⟩ <;> first | exact Nat.le_refl _ | exact Nat.zero_le _ | (dsimp only; omega)) dX1_mend_179 (gkr_ap ?_) gkt_ap
          refine g_castS h (hX.1.at (cells_9 hb12)) rfl q1202 dX1_mend_182 ?_
          refine g_invV h (cx_taken h.k hX hb12) hcX22_taken w_X1_285 rfl rfl (hX.1.at (cells_9 hb12)) (Nat.le_of_ble_eq_true rfl) ⟨Nat.le_of_ble_eq_true rfl, Nat.le_of_ble_eq_true rfl⟩ (by refine ⟨?_, ?_⟩ <;> first | exact Nat.le_refl _ | exact Nat.zero_le _ | (dsimp only; omega)) dX1_mend_185 (gkr_lp ?_) gkt_lp
          refine g_lsub h dX1_mend_188 ?_
          refine x_put27 h hX hb12 fp_X1_214_22 rfl rfl dX1_mend_189 (fun c hX => ?_)
          refine g_aload_n (i := 0) h dX1_mend_192 rfl rfl ?_
          refine g_bipush (v := 6) h dX1_mend_193 (by decide) ?_
          refine g_iload_n (i := 3) h dX1_mend_195 rfl rfl ?_
          refine g_aload_n (i := 0) h dX1_mend_196 rfl rfl ?_
          refine g_get (v := .ref (ad 2 1)) h f_X1_29_1 hX.x rfl dX1_mend_197 ?_
          refine g_iload_n (i := 3) h dX1_mend_200 rfl rfl ?_
          refine g_invV h (ct_xget1 h.k hX hb12) hcJ2_get w_X1_162 rfl rfl (xlist1 hX) (Nat.le_of_ble_eq_true rfl) ⟨Nat.le_of_ble_eq_true rfl, Nat.le_of_ble_eq_true rfl⟩ (by refine ⟨?_, ?_⟩ <;> first | exact Nat.le_refl _ | exact Nat.zero_le _ | (dsimp only; omega)) dX1_mend_201 (gkr_ap ?_) gkt_ap
          refine g_castS h (hX.1.at (cells_9 hb12)) rfl q1202 dX1_mend_204 ?_
          refine g_get h f_X1_289_22 (hX.1.at (cells_9 hb12)) rfl dX1_mend_207 ?_
          refine g_ineg h dX1_mend_210 ?_
          refine g_i2l h dX1_mend_211 ?_
          refine g_invV h (cx_change h.k hX 6 (nI b) (-(A 26 b)).toInt64 hnl (by omega) (by omega) (i64_rt _)) hcX1_change w_X1_204 rfl rfl hX.x (Nat.le_of_ble_eq_true rfl) ⟨Nat.le_of_ble_eq_true rfl, Nat.le_of_ble_eq_true rfl⟩ (by refine ⟨?_, ?_⟩ <;> ((try dsimp only); omega)) dX1_mend_212 (gkr_v (fun c hP => ?_)) gkt_v
          obtain ⟨q, hX⟩ := hP
          first | (with_reducible refine g_iincN h dX1_mend_215 rfl (by decide) ?_) | refine g_iinc1 h dX1_mend_215 rfl (by decide) ?_
          refine g_goto (tgt := 20) h dX1_mend_218 (by decide) ?_
          refine G.up (ce' := 8 + (cN (cp 8 0) nl - cp0 8 0)) (sl' := 48 + 2 * (cN (cp 8 0) nl - cp0 8 0)) (by (try dsimp only); omega) (by (try dsimp only); omega) ?_
          have hG := ih (k + 1) (sMend ns m S1).1 (sLineA A nl 6 (nI b) (-(A 26 b)).toInt64) (mB (mB B 27 b (B 27 b - sTakes (B 27 b))) 43 0 (B 43 0 + (-(A 26 b)).toInt64)) (nl + 1) (sLn ll nl) (up2 ad 8 0 q) (up2 cp 8 0 (cN (cp 8 0) nl)) c (by omega) (by omega) (by rw [hS1, ← hS2]) (up2_re _ hq) (up2_re _ hcp) hX hns (sLineA_42 _ _ _ _ _) (by rw [up2_s]; exact cN_bd (by omega) (by omega)) (by rw [up2_s]; omega) (by rw [up2_s]; exact hstep)
          rw [up2_s] at hG
          exact G.to hG ⟨rfl, rfl, rfl, trivial⟩
        · rw [lg_cmp_ge] at b154
          refine g_iload_n (i := 2) h dX1_mend_157 rfl rfl ?_
          have hbox : ¬ (A 26 b).toInt64 ≤ B 43 0 := by simpa using b154
          simp only [sMend1, hb, if_neg hbox, Prod.mk.injEq] at hS
          obtain ⟨rfl, rfl, rfl, rfl, rfl⟩ := hS
          obtain rfl : k = r0 := by omega
          rw [cGo_self] at hLC
          exact g_iret h ⟨rfl, ad 8 0, by rw [← hq, hLC, ← hcp]; exact hX⟩ (by (try dsimp only); omega) (by (try dsimp only); omega) dX1_mend_158
    have inner : ∀ n, n ≤ ns → G φ (gQ φ (pI (nI r0) (fun c' => ∃ q, CW c0 (up2 ad0 8 0 q) (up2 cp0 8 0 LC) fz md S U AA BB c')) MC MS) 30 [(0, .ref (ad 0 0)), (1, .int (nI L)), (2, .int (nI k)), (3, .int (oI (sBest (B 27) (A 26) n))), (4, .int (nI n))] [] c (8 + (cp 8 0 - cp0 8 0)) (48 + 2 * (cp 8 0 - cp0 8 0)) := by
      refine gloop ?_ ?_
      · skip
        refine g_iload h dX1_mend_30 rfl ?_
        refine g_aload_n (i := 0) h dX1_mend_32 rfl rfl ?_
        refine g_get (v := .ref (ad 2 1)) h f_X1_29_1 hX.x rfl dX1_mend_33 ?_
        refine g_invV h (ct_xsize1 h.k hX) hcJ2_size w_X1_81 rfl rfl (xlist1 hX) (Nat.le_of_ble_eq_true rfl) ⟨Nat.le_of_ble_eq_true rfl, Nat.le_of_ble_eq_true rfl⟩ (by refine ⟨?_, ?_⟩ <;> first | exact Nat.le_refl _ | exact Nat.zero_le _ | (dsimp only; omega)) dX1_mend_36 (gkr_ip ?_) gkt_ip
        refine G.int hns ?_
        refine g_icmp_ge (tgt := 129) h dX1_mend_39 (by decide) (fun b39 => ?_) (fun _bz => absurd _bz (fun q => absurd (nI_le (Nat.le_refl ns) (by omega)) q))
        exact G.to after ⟨rfl, rfl, rfl, rfl, trivial⟩
      · intro n hn ih
        have hn' : n < cn A 1 := by omega
        cases hf : sBest (B 27) (A 26) n with
        | none =>
          refine g_iload h dX1_mend_30 rfl ?_
          refine g_aload_n (i := 0) h dX1_mend_32 rfl rfl ?_
          refine g_get (v := .ref (ad 2 1)) h f_X1_29_1 hX.x rfl dX1_mend_33 ?_
          refine g_invV h (ct_xsize1 h.k hX) hcJ2_size w_X1_81 rfl rfl (xlist1 hX) (Nat.le_of_ble_eq_true rfl) ⟨Nat.le_of_ble_eq_true rfl, Nat.le_of_ble_eq_true rfl⟩ (by refine ⟨?_, ?_⟩ <;> first | exact Nat.le_refl _ | exact Nat.zero_le _ | (dsimp only; omega)) dX1_mend_36 (gkr_ip ?_) gkt_ip
          refine G.int hns ?_
          refine g_icmp_ge (tgt := 129) h dX1_mend_39 (by decide) (fun _bz => absurd _bz (nI_ge hn (by omega))) (fun b39 => ?_)
          refine g_aload_n (i := 0) h dX1_mend_42 rfl rfl ?_
          refine g_get (v := .ref (ad 2 1)) h f_X1_29_1 hX.x rfl dX1_mend_43 ?_
          refine g_iload h dX1_mend_46 rfl ?_
          refine g_invV h (ct_xget1 h.k hX hn') hcJ2_get w_X1_162 rfl rfl (xlist1 hX) (Nat.le_of_ble_eq_true rfl) ⟨Nat.le_of_ble_eq_true rfl, Nat.le_of_ble_eq_true rfl⟩ (by refine ⟨?_, ?_⟩ <;> first | exact Nat.le_refl _ | exact Nat.zero_le _ | (dsimp only; omega)) dX1_mend_48 (gkr_ap ?_) gkt_ap
          refine g_castS h (hX.1.at (cells_9 hn')) rfl q1202 dX1_mend_51 ?_
          refine g_astore h dX1_mend_54 (by decide) ?_
          refine g_aload h dX1_mend_56 rfl ?_
          refine g_get h f_X1_214_22 (hX.1.at (cells_9 hn')) rfl dX1_mend_58 ?_
          refine g_lconst (v := 0) h dX1_mend_61 (by decide) ?_
          refine g_lcmp h dX1_mend_62 ?_
          refine g_if_ne (tgt := 69) h dX1_mend_63 (by decide) (fun b63 => ?_) (fun b63 => ?_)
          · rw [lg_cmp_eq] at b63
            refine g_iload_n (i := 3) h dX1_mend_69 rfl rfl ?_
            refine g_iconst (v := (-1)) h dX1_mend_70 (by decide) ?_
            refine g_icmp_eq (tgt := 120) h dX1_mend_71 (by decide) (fun b71 => ?_) (fun _bz => absurd _bz (fun q => absurd rfl q))
            refine g_iload h dX1_mend_120 rfl ?_
            refine g_istore_n (i := 3) h dX1_mend_122 rfl (by decide) ?_
            first | (with_reducible refine g_iincN h dX1_mend_123 rfl (by decide) ?_) | refine g_iinc1 h dX1_mend_123 rfl (by decide) ?_
            refine g_goto (tgt := 30) h dX1_mend_126 (by decide) ?_
            simp only [sBest, hf, b39, b63, b71, if_true, if_false] at ih
            exact G.to ih ⟨rfl, rfl, rfl, rfl, rfl, trivial⟩
          · rw [lg_cmp_eq] at b63
            refine g_goto (tgt := 123) h dX1_mend_66 (by decide) ?_
            first | (with_reducible refine g_iincN h dX1_mend_123 rfl (by decide) ?_) | refine g_iinc1 h dX1_mend_123 rfl (by decide) ?_
            refine g_goto (tgt := 30) h dX1_mend_126 (by decide) ?_
            simp only [sBest, hf, b39, b63, if_true, if_false] at ih
            exact G.to ih ⟨rfl, rfl, rfl, rfl, rfl, trivial⟩
        | some b =>
          have hbn := sBest_lt hf
          have hbn' : b < cn A 1 := by omega
          refine G.to (lv' := [(0, .ref (ad 0 0)), (1, .int (nI L)), (2, .int (nI k)), (3, .int (nI b)), (4, .int (nI n))]) ?_ ⟨rfl, rfl, rfl, rfl, rfl, trivial⟩
          refine g_iload h dX1_mend_30 rfl ?_
          refine g_aload_n (i := 0) h dX1_mend_32 rfl rfl ?_
          refine g_get (v := .ref (ad 2 1)) h f_X1_29_1 hX.x rfl dX1_mend_33 ?_
          refine g_invV h (ct_xsize1 h.k hX) hcJ2_size w_X1_81 rfl rfl (xlist1 hX) (Nat.le_of_ble_eq_true rfl) ⟨Nat.le_of_ble_eq_true rfl, Nat.le_of_ble_eq_true rfl⟩ (by refine ⟨?_, ?_⟩ <;> first | exact Nat.le_refl _ | exact Nat.zero_le _ | (dsimp only; omega)) dX1_mend_36 (gkr_ip ?_) gkt_ip
          refine G.int hns ?_
          refine g_icmp_ge (tgt := 129) h dX1_mend_39 (by decide) (fun _bz => absurd _bz (nI_ge hn (by omega))) (fun b39 => ?_)
          refine g_aload_n (i := 0) h dX1_mend_42 rfl rfl ?_
          refine g_get (v := .ref (ad 2 1)) h f_X1_29_1 hX.x rfl dX1_mend_43 ?_
          refine g_iload h dX1_mend_46 rfl ?_
          refine g_invV h (ct_xget1 h.k hX hn') hcJ2_get w_X1_162 rfl rfl (xlist1 hX) (Nat.le_of_ble_eq_true rfl) ⟨Nat.le_of_ble_eq_true rfl, Nat.le_of_ble_eq_true rfl⟩ (by refine ⟨?_, ?_⟩ <;> first | exact Nat.le_refl _ | exact Nat.zero_le _ | (dsimp only; omega)) dX1_mend_48 (gkr_ap ?_) gkt_ap
          refine g_castS h (hX.1.at (cells_9 hn')) rfl q1202 dX1_mend_51 ?_
          refine g_astore h dX1_mend_54 (by decide) ?_
          refine g_aload h dX1_mend_56 rfl ?_
          refine g_get h f_X1_214_22 (hX.1.at (cells_9 hn')) rfl dX1_mend_58 ?_
          refine g_lconst (v := 0) h dX1_mend_61 (by decide) ?_
          refine g_lcmp h dX1_mend_62 ?_
          refine g_if_ne (tgt := 69) h dX1_mend_63 (by decide) (fun b63 => ?_) (fun b63 => ?_)
          · rw [lg_cmp_eq] at b63
            refine g_iload_n (i := 3) h dX1_mend_69 rfl rfl ?_
            refine g_iconst (v := (-1)) h dX1_mend_70 (by decide) ?_
            refine g_icmp_eq (tgt := 120) h dX1_mend_71 (by decide) (fun _bz => absurd _bz (nI_nm1 (by omega))) (fun b71 => ?_)
            refine g_aload h dX1_mend_74 rfl ?_
            refine g_invV h (cx_taken h.k hX hn') hcX22_taken w_X1_285 rfl rfl (hX.1.at (cells_9 hn')) (Nat.le_of_ble_eq_true rfl) ⟨Nat.le_of_ble_eq_true rfl, Nat.le_of_ble_eq_true rfl⟩ (by refine ⟨?_, ?_⟩ <;> first | exact Nat.le_refl _ | exact Nat.zero_le _ | (dsimp only; omega)) dX1_mend_76 (gkr_lp ?_) gkt_lp
            refine g_aload_n (i := 0) h dX1_mend_79 rfl rfl ?_
            refine g_get (v := .ref (ad 2 1)) h f_X1_29_1 hX.x rfl dX1_mend_80 ?_
            refine g_iload_n (i := 3) h dX1_mend_83 rfl rfl ?_
            refine g_invV h (ct_xget1 h.k hX hbn') hcJ2_get w_X1_162 rfl rfl (xlist1 hX) (Nat.le_of_ble_eq_true rfl) ⟨Nat.le_of_ble_eq_true rfl, Nat.le_of_ble_eq_true rfl⟩ (by refine ⟨?_, ?_⟩ <;> first | exact Nat.le_refl _ | exact Nat.zero_le _ | (dsimp only; omega)) dX1_mend_84 (gkr_ap ?_) gkt_ap
            refine g_castS h (hX.1.at (cells_9 hbn')) rfl q1202 dX1_mend_87 ?_
            refine g_get h f_X1_289_22 (hX.1.at (cells_9 hbn')) rfl dX1_mend_90 ?_
            refine g_i2l h dX1_mend_93 ?_
            refine g_lmul h dX1_mend_94 ?_
            refine g_aload_n (i := 0) h dX1_mend_95 rfl rfl ?_
            refine g_get (v := .ref (ad 2 1)) h f_X1_29_1 hX.x rfl dX1_mend_96 ?_
            refine g_iload_n (i := 3) h dX1_mend_99 rfl rfl ?_
            refine g_invV h (ct_xget1 h.k hX hbn') hcJ2_get w_X1_162 rfl rfl (xlist1 hX) (Nat.le_of_ble_eq_true rfl) ⟨Nat.le_of_ble_eq_true rfl, Nat.le_of_ble_eq_true rfl⟩ (by refine ⟨?_, ?_⟩ <;> first | exact Nat.le_refl _ | exact Nat.zero_le _ | (dsimp only; omega)) dX1_mend_100 (gkr_ap ?_) gkt_ap
            refine g_castS h (hX.1.at (cells_9 hbn')) rfl q1202 dX1_mend_103 ?_
            refine g_invV h (cx_taken h.k hX hbn') hcX22_taken w_X1_285 rfl rfl (hX.1.at (cells_9 hbn')) (Nat.le_of_ble_eq_true rfl) ⟨Nat.le_of_ble_eq_true rfl, Nat.le_of_ble_eq_true rfl⟩ (by refine ⟨?_, ?_⟩ <;> first | exact Nat.le_refl _ | exact Nat.zero_le _ | (dsimp only; omega)) dX1_mend_106 (gkr_lp ?_) gkt_lp
            refine g_aload h dX1_mend_109 rfl ?_
            refine g_get h f_X1_289_22 (hX.1.at (cells_9 hn')) rfl dX1_mend_111 ?_
            refine g_i2l h dX1_mend_114 ?_
            refine g_lmul h dX1_mend_115 ?_
            refine g_lcmp h dX1_mend_116 ?_
            refine g_if_le (tgt := 123) h dX1_mend_117 (by decide) (fun b117 => ?_) (fun b117 => ?_)
            · rw [lg_cmp_le] at b117
              first | (with_reducible refine g_iincN h dX1_mend_123 rfl (by decide) ?_) | refine g_iinc1 h dX1_mend_123 rfl (by decide) ?_
              refine g_goto (tgt := 30) h dX1_mend_126 (by decide) ?_
              simp only [sBest, hf, b39, b63, b71, b117, if_true, if_false] at ih
              exact G.to ih ⟨rfl, rfl, rfl, rfl, rfl, trivial⟩
            · rw [lg_cmp_le] at b117
              refine g_iload h dX1_mend_120 rfl ?_
              refine g_istore_n (i := 3) h dX1_mend_122 rfl (by decide) ?_
              first | (with_reducible refine g_iincN h dX1_mend_123 rfl (by decide) ?_) | refine g_iinc1 h dX1_mend_123 rfl (by decide) ?_
              refine g_goto (tgt := 30) h dX1_mend_126 (by decide) ?_
              simp only [sBest, hf, b39, b63, b71, b117, if_true, if_false] at ih
              exact G.to ih ⟨rfl, rfl, rfl, rfl, rfl, trivial⟩
          · rw [lg_cmp_eq] at b63
            refine g_goto (tgt := 123) h dX1_mend_66 (by decide) ?_
            first | (with_reducible refine g_iincN h dX1_mend_123 rfl (by decide) ?_) | refine g_iinc1 h dX1_mend_123 rfl (by decide) ?_
            refine g_goto (tgt := 30) h dX1_mend_126 (by decide) ?_
            simp only [sBest, hf, b39, b63, if_true, if_false] at ih
            exact G.to ih ⟨rfl, rfl, rfl, rfl, rfl, trivial⟩
    refine g_iload_n (i := 2) h dX1_mend_20 rfl rfl ?_
    refine g_iload_n (i := 1) h dX1_mend_21 rfl rfl ?_
    refine g_icmp_ge (tgt := 221) h dX1_mend_22 (by decide) (fun _bz => absurd _bz (nI_ge (by omega) (by omega))) (fun b22 => ?_)
    refine g_iconst (v := (-1)) h dX1_mend_25 (by decide) ?_
    refine g_istore_n (i := 3) h dX1_mend_26 rfl (by decide) ?_
    refine g_iconst (v := 0) h dX1_mend_27 (by decide) ?_
    refine g_istore h dX1_mend_28 (by decide) ?_
    exact G.to (inner 0 (Nat.zero_le _)) ⟨rfl, rfl, rfl, rfl, rfl, trivial⟩
theorem pCx_eq {k : Nat} {E : Nat → Nat} {c : gLH} {P : Outcome → gLH → Prop} (h : k = 0) : pCx k E c P = P := by
  funext o c'
  exact if_pos h
theorem cx_mend {l : Launch} {g : gGP} (hk : gK l g) {c0 c : gLH} {ad cp fz : Nat → Nat → Nat} {md : Nat → Nat → Int32} {S : Nat → List Value} {U : Nat → Nat → Int64} {A : Nat → Nat → Int32} {B : Nat → Nat → Int64} (hX : CW c0 ad cp fz md S U A B c) (d : Int32) {ns nl ll r NN LL : Nat} {AA : Nat → Nat → Int32} {BB : Nat → Nat → Int64} (hns : A 28 0 = nI ns) (hns12 : ns ≤ 12) (hnl : A 42 0 = nI nl) (hM : cp 8 0 ≤ 1600000) (hS : sMend ns (ix d) (A, B, nl, ll) = (r, AA, BB, NN, LL)) (hNN : NN < 200000) (hts : gTS g) : Ct l g yX1_mend hwX1_mend 7 280 [.ref (ad 0 0), .int d] c (8 + (cGo (cp 8 0) nl NN - cp 8 0)) (48 + 2 * (cGo (cp 8 0) nl NN - cp 8 0)) (pCx (sMendK d) eAS c (pI (nI r) (fun c' => ∃ q, CW c0 (up2 ad 8 0 q) (up2 cp 8 0 (cGo (cp 8 0) nl NN)) fz md S U AA BB c'))) := by
  refine Ct.intro hk hcX1_mend (by decide +kernel) (Nat.le_of_ble_eq_true rfl) (fun φ h => ?_)
  refine g_iload_n (i := 1) h dX1_mend_0 rfl rfl ?_
  refine g_if_lt (tgt := 14) h dX1_mend_1 (by decide) (fun b1 => ?_) (fun b1 => ?_)
  · refine g_iconst (v := 0) h dX1_mend_14 (by decide) ?_
    refine g_invS h (ct_needX h.k false hts) hcX1_need w_X1_77 rfl rfl (Nat.le_of_ble_eq_true rfl) ⟨Nat.le_of_ble_eq_true rfl, Nat.le_of_ble_eq_true rfl⟩ (by refine ⟨?_, ?_⟩ <;> ((try dsimp only); omega)) dX1_mend_15 (gkr_gd (fun hb => absurd hb (by decide))) (gkt_gd (fun _ a e ha => ?_))
    refine gt_out h (fun q hq => by cases hq) ?_ (by (try dsimp only); omega) (by (try dsimp only); omega)
    exact pCx_t (n := 1) (by simp [sMendK, b1]) (by decide) rfl ⟨a, e, rfl, ha, rfl⟩
  · refine g_iload_n (i := 1) h dX1_mend_4 rfl rfl ?_
    refine g_bipush (v := 20) h dX1_mend_5 (by decide) ?_
    refine g_icmp_gt (tgt := 14) h dX1_mend_7 (by decide) (fun b7 => ?_) (fun b7 => ?_)
    · refine g_iconst (v := 0) h dX1_mend_14 (by decide) ?_
      refine g_invS h (ct_needX h.k false hts) hcX1_need w_X1_77 rfl rfl (Nat.le_of_ble_eq_true rfl) ⟨Nat.le_of_ble_eq_true rfl, Nat.le_of_ble_eq_true rfl⟩ (by refine ⟨?_, ?_⟩ <;> ((try dsimp only); omega)) dX1_mend_15 (gkr_gd (fun hb => absurd hb (by decide))) (gkt_gd (fun _ a e ha => ?_))
      refine gt_out h (fun q hq => by cases hq) ?_ (by (try dsimp only); omega) (by (try dsimp only); omega)
      exact pCx_t (n := 1) (by simp [sMendK, b1, b7]) (by decide) rfl ⟨a, e, rfl, ha, rfl⟩
    · refine g_iconst (v := 1) h dX1_mend_10 (by decide) ?_
      refine g_goto (tgt := 15) h dX1_mend_11 (by decide) ?_
      refine g_invS h (ct_needX h.k true hts) hcX1_need w_X1_77 rfl rfl (Nat.le_of_ble_eq_true rfl) ⟨Nat.le_of_ble_eq_true rfl, Nat.le_of_ble_eq_true rfl⟩ (by refine ⟨?_, ?_⟩ <;> ((try dsimp only); omega)) dX1_mend_15 (gkr_gd (fun _ => ?_)) (gkt_gd (fun hb => absurd hb (by decide)))
      refine g_iconst (v := 0) h dX1_mend_18 (by decide) ?_
      refine g_istore_n (i := 2) h dX1_mend_19 rfl (by decide) ?_
      have hK : sMendK d = 0 := by simp [sMendK, b1, b7]
      obtain ⟨hd, hde⟩ := ix_le (m := 20) (y := 20) (by simpa using b1) (by simpa using b7) rfl (by omega)
      refine G.to (lv' := [(0, .ref (ad 0 0)), (1, .int (nI (ix d))), (2, .int (nI 0))]) ?_ ⟨rfl, congrArg (fun z => some (Value.int z)) hde, rfl, trivial⟩
      refine G.up (ce' := 8 + (cp 8 0 - cp 8 0)) (sl' := 48 + 2 * (cp 8 0 - cp 8 0)) (by omega) (by omega) ?_
      rw [pCx_eq hK]
      exact cmend_out h hd hns12 hNN (Nat.le_refl _) (Nat.le_refl _) (ix d) 0 r A B nl ll ad cp c (by omega) (by omega) hS (up2_id _ _ _).symm (up2_id _ _ _).symm hX hns hnl hM (Nat.le_refl _) rfl
