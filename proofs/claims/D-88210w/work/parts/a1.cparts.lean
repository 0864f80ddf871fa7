/-! THE COMPONENT: the box is parted -/
set_option maxRecDepth 100000
theorem b2_k (B : Nat → Nat → Int64) (G S : Nat → Int64) {k : Nat} (h1 : k ≠ 59) (h2 : k ≠ 60) : b2 B G S k = B k := by
  unfold b2
  rw [if_neg h1, if_neg h2]
section CAP
variable {c0 c : gLH} {ad cp fz : Nat → Nat → Nat} {md : Nat → Nat → Int32} {S : Nat → List Value} {U : Nat → Nat → Int64} {A : Nat → Nat → Int32} {B : Nat → Nat → Int64}
theorem cells_b2 (G H : Nat → Int64) : cells ad cp fz md S U A (b2 B G H) = cells ad cp fz md S U A B := by
  funext k i
  rcases k_17 k with rfl | rfl | rfl | rfl | rfl | rfl | rfl | rfl | rfl | rfl | rfl | rfl | rfl | rfl | rfl | rfl | rfl | hb
  · simp only [cells, cXf, cSf, cOf, b2_k B G H (k := 43) (by decide) (by decide), b2_k B G H (k := 27) (by decide) (by decide), b2_k B G H (k := 44) (by decide) (by decide), b2_k B G H (k := 58) (by decide) (by decide)]
  · simp only [cells]
  · simp only [cells]
  · simp only [cells]
  · simp only [cells]
  · simp only [cells]
  · simp only [cells]
  · simp only [cells]
  · simp only [cells]
  · simp only [cells, cXf, cSf, cOf, b2_k B G H (k := 43) (by decide) (by decide), b2_k B G H (k := 27) (by decide) (by decide), b2_k B G H (k := 44) (by decide) (by decide), b2_k B G H (k := 58) (by decide) (by decide)]
  · simp only [cells]
  · simp only [cells]
  · simp only [cells]
  · simp only [cells]
  · simp only [cells]
  · simp only [cells, cXf, cSf, cOf, b2_k B G H (k := 43) (by decide) (by decide), b2_k B G H (k := 27) (by decide) (by decide), b2_k B G H (k := 44) (by decide) (by decide), b2_k B G H (k := 58) (by decide) (by decide)]
  · simp only [cells, cXf, cSf, cOf, b2_k B G H (k := 43) (by decide) (by decide), b2_k B G H (k := 27) (by decide) (by decide), b2_k B G H (k := 44) (by decide) (by decide), b2_k B G H (k := 58) (by decide) (by decide)]
  · rw [cells_big i hb, cells_big i hb]
theorem CW.b2 (h : CW c0 ad cp fz md S U A B c) (G H : Nat → Int64) : CW c0 ad cp fz md S U A (b2 B G H) c := ⟨by rw [cells_b2]; exact h.1, h.2⟩
/-- nothing frozen lies there -/
def offC (c0 : gLH) (q : Nat) : Prop := ∀ (r : Nat) (e : va_E), c0 q = some (r, e) → isCore r = true
theorem CW.off (h : CW c0 ad cp fz md S U A B c) {q : Nat} (hq : c q = none) : offC c0 q := by
  intro r e h0
  cases hr : isCore r with
  | true => rfl
  | false => rw [h.1.2 q r e h0 hr] at hq; cases hq
theorem CW.other (h : CW c0 ad cp fz md S U A B c) {q : Nat} {x : Nat × va_E} (hq : c q = none) : CW c0 ad cp fz md S U A B (va_up c q (some x)) := by
  refine ⟨⟨fun k i e he => ?_, fun a r e ha hr => ?_⟩, h.2⟩
  · have := h.1.1 k i e he
    exact ⟨by rw [va_up_n _ _ (fun z => by rw [z, hq] at this; cases this.1)]; exact this.1, this.2⟩
  · have := h.1.2 a r e ha hr
    rw [va_up_n _ _ (fun z => by rw [z, hq] at this; cases this)]
    exact this
theorem CW.mine (h : CW c0 ad cp fz md S U A B c) {q r : Nat} {e : va_E} {x : Nat × va_E} (hc : c q = some (r, e)) (hr : isCore r = false) (ho : offC c0 q) : CW c0 ad cp fz md S U A B (va_up c q (some x)) := by
  refine ⟨⟨fun k i e2 he => ?_, fun a r2 e2 ha hr2 => ?_⟩, h.2⟩
  · have := h.1.1 k i e2 he
    refine ⟨?_, this.2⟩
    rw [va_up_n _ _ (fun z => ?_)]
    · exact this.1
    · rw [z, hc] at this
      have q1 : r = cR k i := congrArg Prod.fst (Option.some.inj this.1)
      rw [q1, cR_core this.2.1] at hr
      cases hr
  · rw [va_up_n _ _ (fun z => ?_)]
    · exact h.1.2 a r2 e2 ha hr2
    · rw [z] at ha
      rw [ho r2 e2 ha] at hr2
      cases hr2
/-- the world told from its last state, told from the first -/
theorem CW.rebase {ad1 cp1 fz1 : Nat → Nat → Nat} {md1 : Nat → Nat → Int32} {S1 : Nat → List Value} {U1 : Nat → Nat → Int64} {A1 : Nat → Nat → Int32} {B1 : Nat → Nat → Int64} {c1 : gLH} (h : CW c0 ad cp fz md S U A B c) (h1 : CW c ad1 cp1 fz1 md1 S1 U1 A1 B1 c1) : CW c0 ad1 cp1 fz1 md1 S1 U1 A1 B1 c1 := ⟨⟨h1.1.1, fun a r e ha hr => h1.1.2 a r e (h.1.2 a r e ha hr) hr⟩, h1.2⟩
/-- the world and two rows of one's own -/
def PW (c0 : gLH) (ad cp fz : Nat → Nat → Nat) (md : Nat → Nat → Int32) (S : Nat → List Value) (U : Nat → Nat → Int64) (A : Nat → Nat → Int32) (B : Nat → Nat → Int64) (q1 q2 : Nat) (P R : Nat → Int64) (c : gLH) : Prop := CW c0 ad cp fz md S U A B c ∧ c q1 = some (gT, gLongs 10 P) ∧ c q2 = some (gT, gLongs 10 R) ∧ q1 ≠ q2 ∧ offC c0 q1 ∧ offC c0 q2
theorem PW.set1 {q1 q2 : Nat} {P R P' : Nat → Int64} (h : PW c0 ad cp fz md S U A B q1 q2 P R c) : PW c0 ad cp fz md S U A B q1 q2 P' R (va_up c q1 (some (gT, gLongs 10 P'))) := by
  obtain ⟨h1, h2, h3, h4, h5, h6⟩ := h
  exact ⟨h1.mine h2 gT_core h5, va_up_s _ _ _, by rw [va_up_n _ _ (Ne.symm h4)]; exact h3, h4, h5, h6⟩
theorem PW.set2 {q1 q2 : Nat} {P R R' : Nat → Int64} (h : PW c0 ad cp fz md S U A B q1 q2 P R c) : PW c0 ad cp fz md S U A B q1 q2 P R' (va_up c q2 (some (gT, gLongs 10 R'))) := by
  obtain ⟨h1, h2, h3, h4, h5, h6⟩ := h
  exact ⟨h1.mine h3 gT_core h6, by rw [va_up_n _ _ h4]; exact h2, va_up_s _ _ _, h4, h5, h6⟩
end CAP
section CRM
variable {φ : gFx} {Q : State → Prop} {pc : Nat} {lv : List (Nat × Value)} {st : List Value} {ce sl : Nat} {l : Launch} {g : gGP} {R : Room} {cc : ByteArray} {nL : Nat} {own mn : String} {ret : Option FieldType} {tbl : List (Nat × Nat × Nat × Nat)} {idx : Nat} {c0 c : gLH} {ad cp fz : Nat → Nat → Nat} {md : Nat → Nat → Int32} {S : Nat → List Value} {U : Nat → Nat → Int64} {A : Nat → Nat → Int32} {B : Nat → Nat → Int64}
theorem p_ast1 (h : gOK φ l g R cc nL own mn ret tbl) {q1 q2 j : Nat} {P H : Nat → Int64} {v : Int64} (hX : PW c0 ad cp fz md S U A B q1 q2 P H c) (hj : j < 10) (hd : decode cc pc = .ok (.lastore, 1)) (kk : ∀ c : gLH, PW c0 ad cp fz md S U A B q1 q2 (vp_updL P j v) H c → G φ Q (pc + 1) lv st c ce sl) : G φ Q pc lv (.long v :: .int (nI j) :: .ref q1 :: st) c ce sl := g_lastN h hX.2.1 gT_lt hj (by decide) hd (kk _ hX.set1)
theorem p_ast2 (h : gOK φ l g R cc nL own mn ret tbl) {q1 q2 j : Nat} {P H : Nat → Int64} {v : Int64} (hX : PW c0 ad cp fz md S U A B q1 q2 P H c) (hj : j < 10) (hd : decode cc pc = .ok (.lastore, 1)) (kk : ∀ c : gLH, PW c0 ad cp fz md S U A B q1 q2 P (vp_updL H j v) c → G φ Q (pc + 1) lv st c ce sl) : G φ Q pc lv (.long v :: .int (nI j) :: .ref q2 :: st) c ce sl := g_lastN h hX.2.2.1 gT_lt hj (by decide) hd (kk _ hX.set2)
end CRM
theorem sLineA_57 (A : Nat → Nat → Int32) (nl : Nat) (kind who : Int32) (sum : Int64) : sLineA A nl kind who sum 57 = A 57 := by
  unfold sLineA
  rw [mA_n _ _ _ (by decide), mA_n _ _ _ (by decide), mA_n _ _ _ (by decide), mA_n _ _ _ (by decide), mA_n _ _ _ (by decide)]
/-- the rows paid, one by one: P on the heap, the model's row 59 in B -/
theorem parts_pay {φ : gFx} {l : Launch} {g : gGP} {MC MS : Nat} (h : gOK φ l g { frames := 5, cells := MC, slots := MS, locals := 200 } cX1_parts 10 RX1 "parts" none []) {c0 : gLH} {ad0 cp0 fz : Nat → Nat → Nat} {md : Nat → Nat → Int32} {S : Nat → List Value} {U : Nat → Nat → Int64} {N LC NN LL q1 : Nat} {r : Int32} {P : Nat → Int64} {AA : Nat → Nat → Int32} {BB : Nat → Nat → Int64} (hN10 : N ≤ 10) (hNN : NN < 200000) (hMC : 2 + (LC - cp0 8 0) ≤ MC) (hMS : 20 + 2 * (LC - cp0 8 0) ≤ MS) (hfit : ∀ k, k < N → (-(P k)).toInt32.toInt64 = -(P k)) :
    ∀ (m k : Nat) (A : Nat → Nat → Int32) (B : Nat → Nat → Int64) (nl ll : Nat) (ad cp : Nat → Nat → Nat) (c : gLH), k + m = N → sPay r m k (A, B, nl, ll) = (AA, BB, NN, LL) → ad = up2 ad0 8 0 (ad 8 0) → cp = up2 cp0 8 0 (cp 8 0) → CW c0 ad cp fz md S U A B c → A 61 0 = nI N → A 42 0 = nI nl → cp 8 0 ≤ 1600000 → cp0 8 0 ≤ cp 8 0 → LC = cGo (cp 8 0) nl NN → c q1 = some (gT, gLongs 10 P) → (∀ j, j < N → (A 57 j = r → B 59 j = P j) ∧ (¬ A 57 j = r → P j = 0)) →
      G φ (gQ φ (pV (fun c' => ∃ q, CW c0 (up2 ad0 8 0 q) (up2 cp0 8 0 LC) fz md S U AA BB c')) MC MS) 201 [(0, .ref (ad 0 0)), (4, .ref q1), (8, .int (nI k))] [] c (2 + (cp 8 0 - cp0 8 0)) (20 + 2 * (cp 8 0 - cp0 8 0)) := by
  intro m
  induction m with
  | zero =>
    intro k A B nl ll ad cp c hk hS hq hcp hX hN hnl hM hlo hLC hq1 hG0
    simp only [sPay, Prod.mk.injEq] at hS
    obtain ⟨rfl, rfl, rfl, rfl⟩ := hS
    rw [cGo_self] at hLC
    refine g_iload h dX1_parts_201 rfl ?_
    refine g_aload_n (i := 0) h dX1_parts_203 rfl rfl ?_
    refine g_get (v := .ref (ad 2 5)) h f_X1_41_1 hX.x rfl dX1_parts_204 ?_
    refine g_invV h (ct_xsize5 h.k hX) hcJ2_size w_X1_81 rfl rfl (xlist5 hX) (Nat.le_of_ble_eq_true rfl) ⟨Nat.le_of_ble_eq_true rfl, Nat.le_of_ble_eq_true rfl⟩ (by refine ⟨?_, ?_⟩ <;> first | exact Nat.le_refl _ | exact Nat.zero_le _ | (dsimp only; omega)) dX1_parts_207 (gkr_ip ?_) gkt_ip
    refine G.int hN ?_
    refine g_icmp_ge (tgt := 230) h dX1_parts_210 (by decide) (fun b210 => ?_) (fun _bz => absurd _bz (fun q => absurd (nI_le (show N ≤ k by omega) (by omega)) q))
    exact g_vret h ⟨rfl, ad 8 0, by rw [hLC, ← hq, ← hcp]; exact hX⟩ (by (try dsimp only); omega) (by (try dsimp only); omega) dX1_parts_230
  | succ m ih =>
    intro k A B nl ll ad cp c hk hS hq hcp hX hN hnl hM hlo hLC hq1 hG0
    have hcn : cn A 5 = N := by show ix (A 61 0) = N; rw [hN, ix_nI (by omega)]
    have hk5 : k < cn A 5 := by omega
    have hup := sPay_up r (m + 1) k (A, B, nl, ll)
    rw [hS] at hup
    have hup : nl ≤ NN ∧ ll ≤ LL := hup
    have hge : cp 8 0 ≤ LC := by rw [hLC]; exact cGo_ge _ _ _
    simp only [sPay] at hS
    by_cases hP0 : P k = 0
    · have e : (if A 57 k = r then (if B 59 k = 0 then (A, B, nl, ll) else sPay1 (A, B, nl, ll) k) else (A, B, nl, ll)) = (A, B, nl, ll) := by
        by_cases hr : A 57 k = r
        · rw [if_pos hr, if_pos (by rw [((hG0 k (by omega)).1 hr), hP0])]
        · rw [if_neg hr]
      rw [e] at hS
      refine g_iload h dX1_parts_201 rfl ?_
      refine g_aload_n (i := 0) h dX1_parts_203 rfl rfl ?_
      refine g_get (v := .ref (ad 2 5)) h f_X1_41_1 hX.x rfl dX1_parts_204 ?_
      refine g_invV h (ct_xsize5 h.k hX) hcJ2_size w_X1_81 rfl rfl (xlist5 hX) (Nat.le_of_ble_eq_true rfl) ⟨Nat.le_of_ble_eq_true rfl, Nat.le_of_ble_eq_true rfl⟩ (by refine ⟨?_, ?_⟩ <;> first | exact Nat.le_refl _ | exact Nat.zero_le _ | (dsimp only; omega)) dX1_parts_207 (gkr_ip ?_) gkt_ip
      refine G.int hN ?_
      refine g_icmp_ge (tgt := 230) h dX1_parts_210 (by decide) (fun _bz => absurd _bz (nI_ge (show k < N by omega) (by omega))) (fun b210 => ?_)
      refine g_aload_n (i := 0) h dX1_parts_213 rfl rfl ?_
      refine g_iload h dX1_parts_214 rfl ?_
      refine g_aload h dX1_parts_216 rfl ?_
      refine g_iload h dX1_parts_218 rfl ?_
      refine g_laldN h hq1 (show k < 10 by omega) (by decide) dX1_parts_220 ?_
      refine G.long hP0 ?_
      refine g_invV h (cx_gets0 h.k hX (nI k)) hcX1_gets w_X1_278 rfl rfl hX.x (Nat.le_of_ble_eq_true rfl) ⟨Nat.le_of_ble_eq_true rfl, Nat.le_of_ble_eq_true rfl⟩ (by refine ⟨?_, ?_⟩ <;> ((try dsimp only); omega)) dX1_parts_221 (gkr_vp ?_) gkt_vp
      first | (with_reducible refine g_iincN h dX1_parts_224 rfl (by decide) ?_) | refine g_iinc1 h dX1_parts_224 rfl (by decide) ?_
      refine g_goto (tgt := 201) h dX1_parts_227 (by decide) ?_
      exact G.to (ih (k + 1) A B nl ll ad cp c (by omega) hS hq hcp hX hN hnl hM hlo hLC hq1 hG0) ⟨rfl, rfl, rfl, trivial⟩
    · have hr : A 57 k = r := by
        rcases Decidable.em (A 57 k = r) with z | z
        · exact z
        · exact absurd ((hG0 k (by omega)).2 z) hP0
      have e59 := (hG0 k (by omega)).1 hr
      have e : (if A 57 k = r then (if B 59 k = 0 then (A, B, nl, ll) else sPay1 (A, B, nl, ll) k) else (A, B, nl, ll)) = (sLineA A nl 4 (nI k) (-(P k)), mB (mB B 58 k (B 58 k - P k)) 43 0 (B 43 0 + -(P k)), nl + 1, sLn ll nl) := by
        rw [if_pos hr, if_neg (by rw [e59]; exact hP0)]
        simp only [sPay1, e59]
      rw [e] at hS
      have hup2 := sPay_up r m (k + 1) (sLineA A nl 4 (nI k) (-(P k)), mB (mB B 58 k (B 58 k - P k)) 43 0 (B 43 0 + -(P k)), nl + 1, sLn ll nl)
      rw [hS] at hup2
      have hlt : nl + 1 ≤ NN := hup2.1
      have hstep : LC = cGo (cN (cp 8 0) nl) (nl + 1) NN := by rw [hLC, cGo_step hlt]
      have hge2 : cN (cp 8 0) nl ≤ LC := by rw [hstep]; exact cGo_ge _ _ _
      have hg := cN_ge (cp 8 0) nl
      refine g_iload h dX1_parts_201 rfl ?_
      refine g_aload_n (i := 0) h dX1_parts_203 rfl rfl ?_
      refine g_get (v := .ref (ad 2 5)) h f_X1_41_1 hX.x rfl dX1_parts_204 ?_
      refine g_invV h (ct_xsize5 h.k hX) hcJ2_size w_X1_81 rfl rfl (xlist5 hX) (Nat.le_of_ble_eq_true rfl) ⟨Nat.le_of_ble_eq_true rfl, Nat.le_of_ble_eq_true rfl⟩ (by refine ⟨?_, ?_⟩ <;> first | exact Nat.le_refl _ | exact Nat.zero_le _ | (dsimp only; omega)) dX1_parts_207 (gkr_ip ?_) gkt_ip
      refine G.int hN ?_
      refine g_icmp_ge (tgt := 230) h dX1_parts_210 (by decide) (fun _bz => absurd _bz (nI_ge (show k < N by omega) (by omega))) (fun b210 => ?_)
      refine g_aload_n (i := 0) h dX1_parts_213 rfl rfl ?_
      refine g_iload h dX1_parts_214 rfl ?_
      refine g_aload h dX1_parts_216 rfl ?_
      refine g_iload h dX1_parts_218 rfl ?_
      refine g_laldN h hq1 (show k < 10 by omega) (by decide) dX1_parts_220 ?_
      refine g_invV h (cx_gets h.k hX.now hk5 hP0 hnl (by omega) (by omega) (hfit k (by omega))) hcX1_gets w_X1_278 rfl rfl hX.x (Nat.le_of_ble_eq_true rfl) ⟨Nat.le_of_ble_eq_true rfl, Nat.le_of_ble_eq_true rfl⟩ (by refine ⟨?_, ?_⟩ <;> ((try dsimp only); omega)) dX1_parts_221 (gkr_v (fun c2 hP => ?_)) gkt_v
      obtain ⟨q, hX2⟩ := hP
      have hq1b := hX2.1.2 _ _ _ hq1 gT_core
      replace hX := hX.rebase hX2
      first | (with_reducible refine g_iincN h dX1_parts_224 rfl (by decide) ?_) | refine g_iinc1 h dX1_parts_224 rfl (by decide) ?_
      refine g_goto (tgt := 201) h dX1_parts_227 (by decide) ?_
      refine G.up (ce' := 2 + (cN (cp 8 0) nl - cp0 8 0)) (sl' := 20 + 2 * (cN (cp 8 0) nl - cp0 8 0)) (by (try dsimp only); omega) (by (try dsimp only); omega) ?_
      have hG := ih (k + 1) (sLineA A nl 4 (nI k) (-(P k))) (mB (mB B 58 k (B 58 k - P k)) 43 0 (B 43 0 + -(P k))) (nl + 1) (sLn ll nl) (up2 ad 8 0 q) (up2 cp 8 0 (cN (cp 8 0) nl)) c2 (by omega) hS (up2_re _ hq) (up2_re _ hcp) hX hN (sLineA_42 _ _ _ _ _) (by rw [up2_s]; exact cN_bd (by omega) (by omega)) (by rw [up2_s]; omega) (by rw [up2_s]; exact hstep) hq1b (fun j hj => ⟨fun hr => by rw [mB_n _ _ _ (by decide), mB_n _ _ _ (by decide)]; exact (hG0 j hj).1 (by rw [← sLineA_57 A nl 4 (nI k) (-(P k))]; exact hr), fun hr => (hG0 j hj).2 (by rw [← sLineA_57 A nl 4 (nI k) (-(P k))]; exact hr)⟩)
      rw [up2_s] at hG
      exact G.to hG ⟨rfl, rfl, rfl, trivial⟩
theorem parts_give {φ : gFx} {l : Launch} {g : gGP} {MC MS : Nat} (h : gOK φ l g { frames := 5, cells := MC, slots := MS, locals := 200 } cX1_parts 10 RX1 "parts" none []) {Q : State → Prop} {c0 : gLH} {ad cp fz : Nat → Nat → Nat} {md : Nat → Nat → Int32} {S : Nat → List Value} {U : Nat → Nat → Int64} {A : Nat → Nat → Int32} {B : Nat → Nat → Int64} {N q1 q2 : Nat} {r : Int32} {all : Int64} (hN10 : N ≤ 10) (hN1 : 1 ≤ N) (hN : A 61 0 = nI N) {P1 H1 : Nat → Int64} {m0 ce sl : Nat} (hce : ce ≤ MC) (hsl : sl ≤ MS) (kk0 : ∀ (H : Nat → Int64) (c : gLH), PW c0 ad cp fz md S U A B q1 q2 (cGive N m0 (P1, H1)).1 H c → G φ Q 201 [(0, .ref (ad 0 0)), (4, .ref q1), (8, .int (nI 0))] [] c ce sl) :
    ∀ (m : Nat) (P H : Nat → Int64) (left : Int64) (c : gLH), PW c0 ad cp fz md S U A B q1 q2 P H c → left.toInt.toNat = m → cGive N m (P, H) = cGive N m0 (P1, H1) → G φ Q 125 [(0, .ref (ad 0 0)), (1, .int r), (2, .long all), (4, .ref q1), (5, .ref q2), (6, .long left)] [] c ce sl := by
  intro m
  induction m with
  | zero =>
    intro P H left c hW hm hC
    have hl : left ≤ 0 := by
      rcases Decidable.em (left ≤ 0) with z | z
      · exact z
      · have := i64_dec z; omega
    have kk : ∀ (P' H' : Nat → Int64) (c : gLH), PW c0 ad cp fz md S U A B q1 q2 P H c → G φ Q 201 [(0, .ref (ad 0 0)), (4, .ref q1), (8, .int (nI 0))] [] c ce sl := fun _ _ c hw => kk0 H c (by rw [← hC]; exact hw)
    refine g_lload h dX1_parts_125 rfl ?_
    refine g_lconst (v := 0) h dX1_parts_127 (by decide) ?_
    refine g_lcmp h dX1_parts_128 ?_
    refine g_if_le (tgt := 198) h dX1_parts_129 (by decide) (fun b129 => ?_) (fun _bz => absurd _bz (fun q => q (by rw [lg_cmp_le]; exact hl)))
    rw [lg_cmp_le] at b129
    refine g_iconst (v := 0) h dX1_parts_198 (by decide) ?_
    refine g_istore h dX1_parts_199 (by decide) ?_
    exact G.to (kk P H c hW) ⟨rfl, rfl, rfl, trivial⟩
  | succ m ih =>
    intro P H left c hW hm hC
    have hl : ¬ left ≤ 0 := fun z => by rw [i64_np z] at hm; omega
    have hm' : (left - 1).toInt.toNat = m := by have := i64_dec hl; omega
    have hbl : cBest H N < 10 := by have := cBest_lt H (n := N) (by omega); omega
    have after : G φ Q 174 [(0, .ref (ad 0 0)), (1, .int r), (2, .long all), (4, .ref q1), (5, .ref q2), (6, .long left), (8, .int (nI (cBest H N)))] [] c ce sl := by
      refine g_aload h dX1_parts_174 rfl ?_
      refine g_iload h dX1_parts_176 rfl ?_
      refine g_dup2 h dX1_parts_178 rfl rfl ?_
      refine g_laldN h hW.2.1 (show cBest H N < 10 by omega) (by decide) dX1_parts_179 ?_
      refine g_lconst (v := 1) h dX1_parts_180 (by decide) ?_
      refine g_ladd h dX1_parts_181 ?_
      refine p_ast1 h hW (show cBest H N < 10 by omega) dX1_parts_182 (fun c hW => ?_)
      refine g_aload h dX1_parts_183 rfl ?_
      refine g_iload h dX1_parts_185 rfl ?_
      refine g_lconst (v := 0) h dX1_parts_187 (by decide) ?_
      refine p_ast2 h hW (show cBest H N < 10 by omega) dX1_parts_188 (fun c hW => ?_)
      refine g_lload h dX1_parts_189 rfl ?_
      refine g_lconst (v := 1) h dX1_parts_191 (by decide) ?_
      refine g_lsub h dX1_parts_192 ?_
      refine g_lstore h dX1_parts_193 (by decide) ?_
      refine g_goto (tgt := 125) h dX1_parts_195 (by decide) ?_
      exact G.to (ih _ _ (left - 1) c hW hm' hC) ⟨rfl, rfl, rfl, rfl, rfl, rfl, trivial⟩
    have inner : ∀ n, 1 ≤ n → n ≤ N → G φ Q 138 [(0, .ref (ad 0 0)), (1, .int r), (2, .long all), (4, .ref q1), (5, .ref q2), (6, .long left), (8, .int (nI (cBest H n))), (9, .int (nI n))] [] c ce sl := by
      have key : ∀ n, n ≤ N → 1 ≤ n → G φ Q 138 [(0, .ref (ad 0 0)), (1, .int r), (2, .long all), (4, .ref q1), (5, .ref q2), (6, .long left), (8, .int (nI (cBest H n))), (9, .int (nI n))] [] c ce sl := by
        refine gloop ?_ ?_
        · intro _
          refine g_iload h dX1_parts_138 rfl ?_
          refine g_aload_n (i := 0) h dX1_parts_140 rfl rfl ?_
          refine g_get (v := .ref (ad 2 5)) h f_X1_41_1 hW.1.x rfl dX1_parts_141 ?_
          refine g_invV h (ct_xsize5 h.k hW.1) hcJ2_size w_X1_81 rfl rfl (xlist5 hW.1) (Nat.le_of_ble_eq_true rfl) ⟨Nat.le_of_ble_eq_true rfl, Nat.le_of_ble_eq_true rfl⟩ (by refine ⟨?_, ?_⟩ <;> first | exact Nat.le_refl _ | exact Nat.zero_le _ | (dsimp only; omega)) dX1_parts_144 (gkr_ip ?_) gkt_ip
          refine G.int hN ?_
          refine g_icmp_ge (tgt := 174) h dX1_parts_147 (by decide) (fun b147 => ?_) (fun _bz => absurd _bz (fun q => absurd (nI_le (Nat.le_refl N) (by omega)) q))
          exact G.to after ⟨rfl, rfl, rfl, rfl, rfl, rfl, rfl, trivial⟩
        · intro n hn ih1 h1
          have ih2 := ih1 (by omega)
          have hb := cBest_lt H (n := n) (by omega)
          refine g_iload h dX1_parts_138 rfl ?_
          refine g_aload_n (i := 0) h dX1_parts_140 rfl rfl ?_
          refine g_get (v := .ref (ad 2 5)) h f_X1_41_1 hW.1.x rfl dX1_parts_141 ?_
          refine g_invV h (ct_xsize5 h.k hW.1) hcJ2_size w_X1_81 rfl rfl (xlist5 hW.1) (Nat.le_of_ble_eq_true rfl) ⟨Nat.le_of_ble_eq_true rfl, Nat.le_of_ble_eq_true rfl⟩ (by refine ⟨?_, ?_⟩ <;> first | exact Nat.le_refl _ | exact Nat.zero_le _ | (dsimp only; omega)) dX1_parts_144 (gkr_ip ?_) gkt_ip
          refine G.int hN ?_
          refine g_icmp_ge (tgt := 174) h dX1_parts_147 (by decide) (fun _bz => absurd _bz (nI_ge hn (by omega))) (fun b147 => ?_)
          refine g_aload h dX1_parts_150 rfl ?_
          refine g_iload h dX1_parts_152 rfl ?_
          refine g_laldN h hW.2.2.1 (show n < 10 by omega) (by decide) dX1_parts_154 ?_
          refine g_aload h dX1_parts_155 rfl ?_
          refine g_iload h dX1_parts_157 rfl ?_
          refine g_laldN h hW.2.2.1 (show cBest H n < 10 by omega) (by decide) dX1_parts_159 ?_
          refine g_lcmp h dX1_parts_160 ?_
          refine g_if_le (tgt := 168) h dX1_parts_161 (by decide) (fun b161 => ?_) (fun b161 => ?_)
          · rw [lg_cmp_le] at b161
            first | (with_reducible refine g_iincN h dX1_parts_168 rfl (by decide) ?_) | refine g_iinc1 h dX1_parts_168 rfl (by decide) ?_
            refine g_goto (tgt := 138) h dX1_parts_171 (by decide) ?_
            have e : cBest H (n + 1) = cBest H n := if_pos (by simpa using b161)
            rw [e] at ih2
            exact G.to ih2 ⟨rfl, rfl, rfl, rfl, rfl, rfl, rfl, rfl, trivial⟩
          · rw [lg_cmp_le] at b161
            refine g_iload h dX1_parts_164 rfl ?_
            refine g_istore h dX1_parts_166 (by decide) ?_
            first | (with_reducible refine g_iincN h dX1_parts_168 rfl (by decide) ?_) | refine g_iinc1 h dX1_parts_168 rfl (by decide) ?_
            refine g_goto (tgt := 138) h dX1_parts_171 (by decide) ?_
            have e : cBest H (n + 1) = n := if_neg (by simpa using b161)
            rw [e] at ih2
            exact G.to ih2 ⟨rfl, rfl, rfl, rfl, rfl, rfl, rfl, rfl, trivial⟩
      exact fun n h1 h2 => key n h2 h1
    refine g_lload h dX1_parts_125 rfl ?_
    refine g_lconst (v := 0) h dX1_parts_127 (by decide) ?_
    refine g_lcmp h dX1_parts_128 ?_
    refine g_if_le (tgt := 198) h dX1_parts_129 (by decide) (fun _bz => absurd _bz (fun q => hl (by rw [lg_cmp_le] at q; exact q))) (fun b129 => ?_)
    rw [lg_cmp_le] at b129
    refine g_iconst (v := nI 0) h dX1_parts_132 (by decide) ?_
    refine g_istore h dX1_parts_133 (by decide) ?_
    refine g_iconst (v := nI 1) h dX1_parts_135 (by decide) ?_
    refine g_istore h dX1_parts_136 (by decide) ?_
    have hi := inner 1 (by omega) (by omega)
    rw [show cBest H 1 = 0 by simp [cBest]] at hi
    exact G.to hi ⟨rfl, rfl, rfl, rfl, rfl, rfl, rfl, rfl, trivial⟩
theorem zSum_nn {S : Nat → Int64} : ∀ {n : Nat}, (∀ k, k < n → 0 ≤ (S k).toInt) → 0 ≤ zSum S n := by
  intro n
  induction n with
  | zero => intro _; exact Int.le_refl _
  | succ n ih =>
    intro h
    have := ih (fun k hk => h k (by omega))
    have := h n (by omega)
    simp only [zSum]
    omega
theorem neg_fit {x : Int64} (h1 : 0 ≤ x.toInt) (h2 : x.toInt ≤ 2000000000) : (-x).toInt32.toInt64 = -x := by
  have e : (-x).toInt = -x.toInt := by rw [Int64.toInt_neg, bm_in] <;> omega
  refine Int64.toInt_inj.mp ?_
  rw [Int32.toInt_toInt64, Int64.toInt_toInt32, e, Int.bmod_eq_of_le] <;> omega
theorem cx_parts {l : Launch} {g : gGP} (hk : gK l g) {c0 c : gLH} {ad cp fz : Nat → Nat → Nat} {md : Nat → Nat → Int32} {S : Nat → List Value} {U : Nat → Nat → Int64} {A : Nat → Nat → Int32} {B : Nat → Nat → Int64} (hX : CW c0 ad cp fz md S U A B c) {N nl ll NN LL : Nat} {r : Int32} {all : Int64} {AA : Nat → Nat → Int32} {BB : Nat → Nat → Int64} (hN : A 61 0 = nI N) (hN10 : N ≤ 10) (hnl : A 42 0 = nI nl) (hD : dOk (B 58) N) (hh : 0 ≤ (B 43 0).toInt) (hall : all = sAll (A 57) (B 58) r N) (hlt : ¬ all ≤ B 43 0) (hS : sRank r N (A, B, nl, ll) = (AA, BB, NN, LL)) (hNN : NN < 200000) (hM : cp 8 0 ≤ 1600000) : Ct l g yX1_parts hwX1_parts 5 200 [.ref (ad 0 0), .int r, .long all] c (2 + (cGo (cp 8 0) nl NN - cp 8 0)) (20 + 2 * (cGo (cp 8 0) nl NN - cp 8 0)) (pV (fun c' => ∃ q, CW c0 (up2 ad 8 0 q) (up2 cp 8 0 (cGo (cp 8 0) nl NN)) fz md S U AA BB c')) := by
  refine Ct.intro hk hcX1_parts (by decide +kernel) (Nat.le_of_ble_eq_true rfl) (fun φ h => ?_)
  refine g_bipush (v := nI 10) h dX1_parts_0 (by decide) ?_
  refine g_newarr_long h gT q539 (by decide) (by (try dsimp only); omega) (by (try dsimp only); omega) dX1_parts_2 (fun q1 hq1 => ?_)
  refine g_astore h dX1_parts_4 (by decide) ?_
  refine g_bipush (v := nI 10) h dX1_parts_6 (by decide) ?_
  refine g_newarr_long h gT q539 (by decide) (by (try dsimp only); omega) (by (try dsimp only); omega) dX1_parts_8 (fun q2 hq2 => ?_)
  have h12 : q1 ≠ q2 := fun e => by rw [← e, va_up_s] at hq2; cases hq2
  refine g_astore h dX1_parts_10 (by decide) ?_
  refine g_aload_n (i := 0) h dX1_parts_12 rfl rfl ?_
  refine g_get (v := .long (B 43 0)) h f_X1_231_1 ((hX.other hq1).other hq2).x rfl dX1_parts_13 ?_
  refine g_lstore h dX1_parts_16 (by decide) ?_
  refine g_iconst (v := nI 0) h dX1_parts_18 (by decide) ?_
  refine g_istore h dX1_parts_19 (by decide) ?_
  have hW : PW c0 ad cp fz md S U A B q1 q2 (cPt (A 57) (B 58) r (B 43 0) all 0).1 (cPt (A 57) (B 58) r (B 43 0) all 0).2.1 (va_up (va_up c q1 (some (gT, gLongs 10 (fun _ => 0)))) q2 (some (gT, gLongs 10 (fun _ => 0)))) := ⟨(hX.other hq1).other hq2, by rw [va_up_n _ _ h12]; exact va_up_s _ _ _, va_up_s _ _ _, h12, hX.off hq1, (hX.other hq1).off hq2⟩
  have hcn : cn A 5 = N := by show ix (A 61 0) = N; rw [hN, ix_nI (by omega)]
  have hltI : (B 43 0).toInt < all.toInt := by rw [← Int64.lt_iff_toInt_lt]; exact Int64.not_le.mp hlt
  obtain ⟨za, zb, zc⟩ := sAll_z (R := A 57) (r := r) hN10 hD
  rw [← hall] at za
  have hall9 : all.toInt ≤ 1400000000 := by omega
  have hall0 : ¬ all = 0 := fun e => by rw [e] at hltI; have : (0 : Int64).toInt = 0 := rfl; omega
  have hN1 : 1 ≤ N := by
    rcases Nat.eq_zero_or_pos N with z | z
    · subst z
      exact absurd hall hall0
    · exact z
  obtain ⟨i1, i2, i3, i4, i5, i6, i7, i8⟩ := cPt_ok (R := A 57) (r := r) (G := B 59) (S' := B 60) hN10 hD hh hltI hall9 N (Nat.le_refl _)
  generalize hP : cPt (A 57) (B 58) r (B 43 0) all N = PT at i1 i2 i3 i4 i5 i6 i7 i8
  obtain ⟨P1, H1, L1⟩ := PT
  dsimp only at i1 i2 i3 i4 i5 i6 i7 i8
  rw [← za, Int.mul_sub, Int.mul_comm (B 43 0).toInt] at i3
  have i3' : zSum H1 N = L1.toInt * all.toInt := by rw [i3, Int.mul_comm L1.toInt]; omega
  have hL0 : 0 ≤ L1.toInt := by
    rcases Int.lt_or_le L1.toInt 0 with z | z
    · exfalso
      have p0 : 0 ≤ zSum H1 N := zSum_nn (fun k hk => (i1 k hk).1)
      have : L1.toInt * all.toInt < 0 := Int.mul_neg_of_neg_of_pos z (by omega)
      omega
    · exact z
  have hLn : ((L1.toInt.toNat : Nat) : Int) = L1.toInt := Int.toNat_of_nonneg hL0
  obtain ⟨g1, g2, g3⟩ := give_ok (R := A 57) (r := r) (h := (B 43 0).toInt) hD (show 0 < all.toInt by omega) L1.toInt.toNat P1 H1 (sPart (A 57) (B 58) r (B 43 0) all (B 59) (B 60) N).1 (sPart (A 57) (B 58) r (B 43 0) all (B 59) (B 60) N).2.1 i1 (by rw [hLn, i3']; exact Int.le_refl _) (by rw [hLn]; exact i4) i5
  have hmore : (sMore (B 43 0) all (sPart (A 57) (B 58) r (B 43 0) all (B 59) (B 60) N).2.2).toInt.toNat = L1.toInt.toNat := by
    unfold sMore
    rw [if_pos (Int64.not_le.mp hlt)]
    congr 1
    rw [Int64.toInt_sub, i6, bm_in] <;> omega
  have hfit : ∀ k, k < N → (-((cGive N L1.toInt.toNat (P1, H1)).1 k)).toInt32.toInt64 = -((cGive N L1.toInt.toNat (P1, H1)).1 k) := by
    intro k hk
    have a1 := g1 k hk
    have a2 := hD k hk
    exact neg_fit a1.1 (by omega)
  unfold sRank at hS
  simp only [← hall, if_neg hall0, hmore] at hS
  refine G.up (ce' := 2 + (cp 8 0 - cp 8 0)) (sl' := 20 + 2 * (cp 8 0 - cp 8 0)) (by (try dsimp only); omega) (by (try dsimp only); omega) ?_
  have paid : ∀ (H : Nat → Int64) (c : gLH), PW c0 ad cp fz md S U A B q1 q2 (cGive N L1.toInt.toNat (P1, H1)).1 H c → G φ (gQ φ (pV (fun c' => ∃ q, CW c0 (up2 ad 8 0 q) (up2 cp 8 0 (cGo (cp 8 0) nl NN)) fz md S U AA BB c')) (2 + (cGo (cp 8 0) nl NN - cp 8 0)) (20 + 2 * (cGo (cp 8 0) nl NN - cp 8 0))) 201 [(0, .ref (ad 0 0)), (4, .ref q1), (8, .int (nI 0))] [] c (2 + (cp 8 0 - cp 8 0)) (20 + 2 * (cp 8 0 - cp 8 0)) := by
    intro H c hw
    exact parts_pay h hN10 hNN (Nat.le_refl _) (Nat.le_refl _) hfit N 0 A _ nl ll ad cp c (by omega) hS (up2_id _ _ _).symm (up2_id _ _ _).symm (hw.1.b2 _ _) hN hnl hM (Nat.le_refl _) rfl hw.2.1 (fun j hj => ⟨fun hr => g3 j hj hr, fun hr => (g1 j hj).2.2 hr⟩)
  have after : ∀ c, PW c0 ad cp fz md S U A B q1 q2 P1 H1 c → G φ (gQ φ (pV (fun c' => ∃ q, CW c0 (up2 ad 8 0 q) (up2 cp 8 0 (cGo (cp 8 0) nl NN)) fz md S U AA BB c')) (2 + (cGo (cp 8 0) nl NN - cp 8 0)) (20 + 2 * (cGo (cp 8 0) nl NN - cp 8 0))) 125 [(0, .ref (ad 0 0)), (1, .int r), (2, .long all), (4, .ref q1), (5, .ref q2), (6, .long L1)] [] c (2 + (cp 8 0 - cp 8 0)) (20 + 2 * (cp 8 0 - cp 8 0)) := fun c hw => parts_give h hN10 hN1 hN (by (try dsimp only); omega) (by (try dsimp only); omega) paid L1.toInt.toNat P1 H1 L1 c hw rfl rfl
  have loop : ∀ n, n ≤ N → ∀ c, PW c0 ad cp fz md S U A B q1 q2 (cPt (A 57) (B 58) r (B 43 0) all n).1 (cPt (A 57) (B 58) r (B 43 0) all n).2.1 c → G φ (gQ φ (pV (fun c' => ∃ q, CW c0 (up2 ad 8 0 q) (up2 cp 8 0 (cGo (cp 8 0) nl NN)) fz md S U AA BB c')) (2 + (cGo (cp 8 0) nl NN - cp 8 0)) (20 + 2 * (cGo (cp 8 0) nl NN - cp 8 0))) 21 [(0, .ref (ad 0 0)), (1, .int r), (2, .long all), (4, .ref q1), (5, .ref q2), (6, .long (cPt (A 57) (B 58) r (B 43 0) all n).2.2), (8, .int (nI n))] [] c (2 + (cp 8 0 - cp 8 0)) (20 + 2 * (cp 8 0 - cp 8 0)) := by
    refine gloop ?_ ?_
    · intro c hW
      rw [hP] at hW ⊢
      refine g_iload h dX1_parts_21 rfl ?_
      refine g_aload_n (i := 0) h dX1_parts_23 rfl rfl ?_
      refine g_get (v := .ref (ad 2 5)) h f_X1_41_1 hW.1.x rfl dX1_parts_24 ?_
      refine g_invV h (ct_xsize5 h.k hW.1) hcJ2_size w_X1_81 rfl rfl (xlist5 hW.1) (Nat.le_of_ble_eq_true rfl) ⟨Nat.le_of_ble_eq_true rfl, Nat.le_of_ble_eq_true rfl⟩ (by refine ⟨?_, ?_⟩ <;> first | exact Nat.le_refl _ | exact Nat.zero_le _ | (dsimp only; omega)) dX1_parts_27 (gkr_ip ?_) gkt_ip
      refine G.int hN ?_
      refine g_icmp_ge (tgt := 125) h dX1_parts_30 (by decide) (fun b30 => ?_) (fun _bz => absurd _bz (fun q => absurd (nI_le (Nat.le_refl N) (by omega)) q))
      exact G.to (after c hW) ⟨rfl, rfl, rfl, rfl, rfl, rfl, trivial⟩
    · intro n hn ih c hW
      have hn5 : n < cn A 5 := by omega
      by_cases hr : A 57 n = r
      · skip
        refine g_iload h dX1_parts_21 rfl ?_
        refine g_aload_n (i := 0) h dX1_parts_23 rfl rfl ?_
        refine g_get (v := .ref (ad 2 5)) h f_X1_41_1 hW.1.x rfl dX1_parts_24 ?_
        refine g_invV h (ct_xsize5 h.k hW.1) hcJ2_size w_X1_81 rfl rfl (xlist5 hW.1) (Nat.le_of_ble_eq_true rfl) ⟨Nat.le_of_ble_eq_true rfl, Nat.le_of_ble_eq_true rfl⟩ (by refine ⟨?_, ?_⟩ <;> first | exact Nat.le_refl _ | exact Nat.zero_le _ | (dsimp only; omega)) dX1_parts_27 (gkr_ip ?_) gkt_ip
        refine G.int hN ?_
        refine g_icmp_ge (tgt := 125) h dX1_parts_30 (by decide) (fun _bz => absurd _bz (nI_ge hn (by omega))) (fun b30 => ?_)
        refine g_aload_n (i := 0) h dX1_parts_33 rfl rfl ?_
        refine g_get (v := .ref (ad 2 5)) h f_X1_41_1 hW.1.x rfl dX1_parts_34 ?_
        refine g_iload h dX1_parts_37 rfl ?_
        refine g_invV h (ct_xget5 h.k hW.1 hn5) hcJ2_get w_X1_162 rfl rfl (xlist5 hW.1) (Nat.le_of_ble_eq_true rfl) ⟨Nat.le_of_ble_eq_true rfl, Nat.le_of_ble_eq_true rfl⟩ (by refine ⟨?_, ?_⟩ <;> first | exact Nat.le_refl _ | exact Nat.zero_le _ | (dsimp only; omega)) dX1_parts_39 (gkr_ap ?_) gkt_ap
        refine g_castS h (hW.1.1.at (cells_16 hn5)) rfl q1575 dX1_parts_42 ?_
        refine g_get (v := .int (A 57 n)) h f_X1_275_30 (hW.1.1.at (cells_16 hn5)) rfl dX1_parts_45 ?_
        refine g_iload_n (i := 1) h dX1_parts_48 rfl rfl ?_
        refine g_icmp_eq (tgt := 55) h dX1_parts_49 (by decide) (fun b49 => ?_) (fun _bz => absurd _bz (fun q => q hr))
        refine g_aload h dX1_parts_55 rfl ?_
        refine g_iload h dX1_parts_57 rfl ?_
        refine g_aload_n (i := 0) h dX1_parts_59 rfl rfl ?_
        refine g_get (v := .ref (ad 2 5)) h f_X1_41_1 hW.1.x rfl dX1_parts_60 ?_
        refine g_iload h dX1_parts_63 rfl ?_
        refine g_invV h (ct_xget5 h.k hW.1 hn5) hcJ2_get w_X1_162 rfl rfl (xlist5 hW.1) (Nat.le_of_ble_eq_true rfl) ⟨Nat.le_of_ble_eq_true rfl, Nat.le_of_ble_eq_true rfl⟩ (by refine ⟨?_, ?_⟩ <;> first | exact Nat.le_refl _ | exact Nat.zero_le _ | (dsimp only; omega)) dX1_parts_65 (gkr_ap ?_) gkt_ap
        refine g_castS h (hW.1.1.at (cells_16 hn5)) rfl q1575 dX1_parts_68 ?_
        refine g_get (v := .long (B 58 n)) h f_X1_265_30 (hW.1.1.at (cells_16 hn5)) rfl dX1_parts_71 ?_
        refine g_aload_n (i := 0) h dX1_parts_74 rfl rfl ?_
        refine g_get (v := .long (B 43 0)) h f_X1_231_1 hW.1.x rfl dX1_parts_75 ?_
        refine g_lmul h dX1_parts_78 ?_
        refine g_lload_n (i := 2) h dX1_parts_79 rfl rfl ?_
        refine g_ldiv h dX1_parts_80 hall0 ?_
        refine p_ast1 h hW (show n < 10 by omega) dX1_parts_81 (fun c hW => ?_)
        refine g_aload h dX1_parts_82 rfl ?_
        refine g_iload h dX1_parts_84 rfl ?_
        refine g_aload_n (i := 0) h dX1_parts_86 rfl rfl ?_
        refine g_get (v := .ref (ad 2 5)) h f_X1_41_1 hW.1.x rfl dX1_parts_87 ?_
        refine g_iload h dX1_parts_90 rfl ?_
        refine g_invV h (ct_xget5 h.k hW.1 hn5) hcJ2_get w_X1_162 rfl rfl (xlist5 hW.1) (Nat.le_of_ble_eq_true rfl) ⟨Nat.le_of_ble_eq_true rfl, Nat.le_of_ble_eq_true rfl⟩ (by refine ⟨?_, ?_⟩ <;> first | exact Nat.le_refl _ | exact Nat.zero_le _ | (dsimp only; omega)) dX1_parts_92 (gkr_ap ?_) gkt_ap
        refine g_castS h (hW.1.1.at (cells_16 hn5)) rfl q1575 dX1_parts_95 ?_
        refine g_get (v := .long (B 58 n)) h f_X1_265_30 (hW.1.1.at (cells_16 hn5)) rfl dX1_parts_98 ?_
        refine g_aload_n (i := 0) h dX1_parts_101 rfl rfl ?_
        refine g_get (v := .long (B 43 0)) h f_X1_231_1 hW.1.x rfl dX1_parts_102 ?_
        refine g_lmul h dX1_parts_105 ?_
        refine g_lload_n (i := 2) h dX1_parts_106 rfl rfl ?_
        refine g_lrem h dX1_parts_107 hall0 ?_
        refine p_ast2 h hW (show n < 10 by omega) dX1_parts_108 (fun c hW => ?_)
        refine g_lload h dX1_parts_109 rfl ?_
        refine g_aload h dX1_parts_111 rfl ?_
        refine g_iload h dX1_parts_113 rfl ?_
        refine g_laldN h hW.2.1 (show n < 10 by omega) (by decide) dX1_parts_115 ?_
        refine G.long pk_uLs ?_
        refine g_lsub h dX1_parts_116 ?_
        refine g_lstore h dX1_parts_117 (by decide) ?_
        first | (with_reducible refine g_iincN h dX1_parts_119 rfl (by decide) ?_) | refine g_iinc1 h dX1_parts_119 rfl (by decide) ?_
        refine g_goto (tgt := 21) h dX1_parts_122 (by decide) ?_
        have e : cPt (A 57) (B 58) r (B 43 0) all (n + 1) = (vp_updL (cPt (A 57) (B 58) r (B 43 0) all n).1 n (B 58 n * B 43 0 / all), vp_updL (cPt (A 57) (B 58) r (B 43 0) all n).2.1 n (B 58 n * B 43 0 - B 58 n * B 43 0 / all * all), (cPt (A 57) (B 58) r (B 43 0) all n).2.2 - B 58 n * B 43 0 / all) := by simp only [cPt, hr, if_true]
        rw [e] at ih
        exact G.to (ih c hW) ⟨rfl, rfl, rfl, rfl, rfl, rfl, rfl, trivial⟩
      · skip
        refine g_iload h dX1_parts_21 rfl ?_
        refine g_aload_n (i := 0) h dX1_parts_23 rfl rfl ?_
        refine g_get (v := .ref (ad 2 5)) h f_X1_41_1 hW.1.x rfl dX1_parts_24 ?_
        refine g_invV h (ct_xsize5 h.k hW.1) hcJ2_size w_X1_81 rfl rfl (xlist5 hW.1) (Nat.le_of_ble_eq_true rfl) ⟨Nat.le_of_ble_eq_true rfl, Nat.le_of_ble_eq_true rfl⟩ (by refine ⟨?_, ?_⟩ <;> first | exact Nat.le_refl _ | exact Nat.zero_le _ | (dsimp only; omega)) dX1_parts_27 (gkr_ip ?_) gkt_ip
        refine G.int hN ?_
        refine g_icmp_ge (tgt := 125) h dX1_parts_30 (by decide) (fun _bz => absurd _bz (nI_ge hn (by omega))) (fun b30 => ?_)
        refine g_aload_n (i := 0) h dX1_parts_33 rfl rfl ?_
        refine g_get (v := .ref (ad 2 5)) h f_X1_41_1 hW.1.x rfl dX1_parts_34 ?_
        refine g_iload h dX1_parts_37 rfl ?_
        refine g_invV h (ct_xget5 h.k hW.1 hn5) hcJ2_get w_X1_162 rfl rfl (xlist5 hW.1) (Nat.le_of_ble_eq_true rfl) ⟨Nat.le_of_ble_eq_true rfl, Nat.le_of_ble_eq_true rfl⟩ (by refine ⟨?_, ?_⟩ <;> first | exact Nat.le_refl _ | exact Nat.zero_le _ | (dsimp only; omega)) dX1_parts_39 (gkr_ap ?_) gkt_ap
        refine g_castS h (hW.1.1.at (cells_16 hn5)) rfl q1575 dX1_parts_42 ?_
        refine g_get (v := .int (A 57 n)) h f_X1_275_30 (hW.1.1.at (cells_16 hn5)) rfl dX1_parts_45 ?_
        refine g_iload_n (i := 1) h dX1_parts_48 rfl rfl ?_
        refine g_icmp_eq (tgt := 55) h dX1_parts_49 (by decide) (fun _bz => absurd _bz hr) (fun b49 => ?_)
        refine g_goto (tgt := 119) h dX1_parts_52 (by decide) ?_
        first | (with_reducible refine g_iincN h dX1_parts_119 rfl (by decide) ?_) | refine g_iinc1 h dX1_parts_119 rfl (by decide) ?_
        refine g_goto (tgt := 21) h dX1_parts_122 (by decide) ?_
        have e : cPt (A 57) (B 58) r (B 43 0) all (n + 1) = cPt (A 57) (B 58) r (B 43 0) all n := by simp only [cPt, hr, if_false]
        rw [e] at ih
        exact G.to (ih c hW) ⟨rfl, rfl, rfl, rfl, rfl, rfl, rfl, trivial⟩
  exact G.to (loop 0 (Nat.zero_le _) _ hW) ⟨rfl, rfl, rfl, rfl, rfl, rfl, rfl, trivial⟩
