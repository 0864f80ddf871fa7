/-! THE COMPONENT: let -/
set_option maxRecDepth 100000
section CAL
variable {c0 c : gLH} {ad cp fz fz' : Nat → Nat → Nat} {md : Nat → Nat → Int32} {S : Nat → List Value} {U : Nat → Nat → Int64} {A : Nat → Nat → Int32} {B : Nat → Nat → Int64}
theorem cells_F {k : Nat} (i : Nat) (h10 : k ≠ 10) (z0 : fz' 0 = fz 0) (z1 : fz' 1 = fz 1) (z16 : ∀ j, fz' (16 + j) = fz (16 + j)) : cells ad cp fz' md S U A B k i = cells ad cp fz md S U A B k i := by
  have hL : cL ad fz' A i = cL ad fz A i := cL_R rfl rfl rfl rfl z0 z1 i
  have hBd : cBd fz' A i = cBd fz A i := by unfold cBd; rw [z16]
  rcases k_17 k with rfl | rfl | rfl | rfl | rfl | rfl | rfl | rfl | rfl | rfl | rfl | rfl | rfl | rfl | rfl | rfl | rfl | hb
  · simp only [cells]
  · simp only [cells]
  · simp only [cells, hL]
  · simp only [cells, hL]
  · simp only [cells]
  · simp only [cells]
  · simp only [cells]
  · simp only [cells]
  · simp only [cells]
  · simp only [cells]
  · exact absurd rfl h10
  · simp only [cells, hBd]
  · simp only [cells, hBd]
  · simp only [cells]
  · simp only [cells]
  · simp only [cells]
  · simp only [cells]
  · rw [cells_big i hb, cells_big i hb]
/-- a lease is given -/
theorem cx_50s_eq {i b : Nat} (hi : i < cn A 2) {f : Int32} (r s : Int32) (hf : ¬ f < 0) : cells ad cp (up2 fz 2 i b) md S U (mA (mA (mA A 50 i f) 51 i r) 52 i s) B = up2 (cells ad cp fz md S U A B) 10 i (some (.inr (23, (cGf ad fz A i).set 3 (.ref b)))) := by
  have hcn : cn (mA (mA (mA A 50 i f) 51 i r) 52 i s) 2 = cn A 2 := by rw [cn_mA _ _ _ (by decide), cn_mA _ _ _ (by decide), cn_mA _ _ _ (by decide)]
  refine up2_of ?_ (fun k' i' hne => ?_)
  · rw [cells_10 (by rw [hcn]; exact hi)]
    unfold cGf cLe
    rw [up2_s]
    simp [va_up, upd, hf]
  · by_cases h10 : k' = 10
    · subst h10
      have hne' : i' ≠ i := fun e => hne ⟨rfl, e⟩
      by_cases z : i' < cn A 2
      · rw [cells_10 (by rw [hcn]; exact z), cells_10 z]
        unfold cGf cLe
        rw [up2_n _ _ (fun y => hne' y.2)]
        simp [va_up, upd, hne']
      · rw [cell_n10 (by rw [hcn]; exact z), cell_n10 z]
    · rw [cells_F i' h10 (up2_k _ _ (by decide)) (up2_k _ _ (by decide)) (fun j => up2_k _ _ (by omega))]
      have u : ∀ x, x = 50 ∨ x = 51 ∨ x = 52 → cUse k' x = false := by
        intro x hx
        unfold cUse
        split <;> first | exact absurd rfl h10 | (rcases hx with rfl | rfl | rfl <;> rfl)
      rw [cells_mA _ _ _ (u 52 (by decide)), cells_mA _ _ _ (u 51 (by decide)), cells_mA _ _ _ (u 50 (by decide))]
theorem CW.clearB (h : CW c0 ad cp fz md S U A B c) {g : Nat} {c' : gLH} (hg : g < cn A 2) (hL : gAL c' (ad 11 g) (ad 12 g) (cp 12 g) (cR 11 g) (cR 12 g) []) (hfr : gFrm c c' (ad 11 g) (ad 12 g)) : ∃ m, CW c ad cp fz (up2 md 11 g m) S U (mA A 46 g 0) B c' := by
  have hcn : ∀ i, cn (mA A 46 g 0) i = cn A i := fun i => cn_mA _ _ _ (by decide)
  have hbg : cBd fz (mA A 46 g 0) g = [] := by unfold cBd; rw [mA_rd]; rfl
  have hbo : ∀ i, i ≠ g → cBd fz (mA A 46 g 0) i = cBd fz A i := fun i hi => by unfold cBd; rw [mA_rn _ _ _ hi]
  have key := h.1.grown (k1 := 11) (k2 := 12) (li := g) (ad' := ad) (f' := fun m => cells ad cp fz (up2 md 11 g m) S U (mA A 46 g 0) B) (cell_11 hg) (cell_12 hg) (by decide) (gSub.refl c) hL hfr rfl rfl
    (fun m e he => by
      rw [cell_11 (by rw [hcn]; exact hg), hbg, up2_s] at he
      exact (Option.some.inj he).symm)
    (fun m e he => by
      rw [cell_12 (by rw [hcn]; exact hg), hbg] at he
      exact (Option.some.inj he).symm)
    (fun m k i e z1 z2 he => by
      refine h.1.1 k i e ?_
      by_cases k11 : k = 11
      · subst k11
        have hi : i ≠ g := fun y => z1 ⟨rfl, y⟩
        by_cases hc : i < cn A 2
        · rw [cell_11 (by rw [hcn]; exact hc), hbo i hi, up2_n _ _ (fun y => hi y.2)] at he
          rw [cell_11 hc]; exact he
        · rw [cell_n11 (by rw [hcn]; exact hc)] at he
          cases he
      by_cases k12 : k = 12
      · subst k12
        have hi : i ≠ g := fun y => z2 ⟨rfl, y⟩
        by_cases hc : i < cn A 2
        · rw [cell_12 (by rw [hcn]; exact hc), hbo i hi] at he
          rw [cell_12 hc]; exact he
        · rw [cell_n12 (by rw [hcn]; exact hc)] at he
          cases he
      rw [cells_R (ad := ad) (cp := cp) (fz := fz) (md := md) i k11 k12 rfl rfl rfl rfl rfl rfl rfl rfl rfl rfl rfl rfl rfl rfl rfl (up2_k _ _ (by decide)) rfl rfl rfl, cells_mA _ _ _ (by unfold cUse; split <;> first | rfl | exact absurd rfl k11 | exact absurd rfl k12)] at he
      exact he)
  obtain ⟨⟨m, hm⟩, -⟩ := key
  refine ⟨m, hm, ?_⟩
  obtain ⟨c1', c2', c3'⟩ := h.2
  refine ⟨fun i hi => ?_, fun i hi => ?_, ?_⟩
  · rw [hcn, cV_mA _ _ _ (by decide)]
    exact c1' i hi
  · rw [hcn] at hi
    have := c2' i hi
    by_cases y : i = g
    · subst y
      rw [mA_rd]
      exact ⟨rfl, by decide, Nat.zero_le _, this.2.2.2⟩
    · rw [mA_rn _ _ _ y]
      exact this
  · rw [mA_n _ _ _ (by decide)]
    exact c3'
end CAL
section CRL
variable {φ : gFx} {Q : State → Prop} {pc : Nat} {lv : List (Nat × Value)} {st : List Value} {ce sl : Nat} {l : Launch} {g : gGP} {R : Room} {cc : ByteArray} {nL : Nat} {own mn : String} {ret : Option FieldType} {tbl : List (Nat × Nat × Nat × Nat)} {idx : Nat} {c0 c : gLH} {ad cp fz : Nat → Nat → Nat} {md : Nat → Nat → Int32} {S : Nat → List Value} {U : Nat → Nat → Int64} {A : Nat → Nat → Int32} {B : Nat → Nat → Int64}
theorem x_put50s (h : gOK φ l g R cc nL own mn ret tbl) (hX : CW c0 ad cp fz md S U A B c) {i b : Nat} (hi : i < cn A 2) {f : Int32} (r s : Int32) (hf : ¬ f < 0) {ty : FieldType} (hF : gFP own idx 23 3 ty) (hn : narrow ty (.ref b) = .ref b) (hft : fits ty (.ref b) = true) (hd : decode cc pc = .ok (.putfield idx, 3)) (kk : ∀ c : gLH, CW c0 ad cp (up2 fz 2 i b) md S U (mA (mA (mA A 50 i f) 51 i r) 52 i s) B c → G φ Q (pc + 3) lv st c ce sl) : G φ Q pc lv (.ref b :: .ref (ad 10 i) :: st) c ce sl := g_put h hF (hX.1.at (cells_10 hi)) (hX.1.sb (cells_10 hi)) (Nat.le_of_ble_eq_true rfl) hn hft hd (kk _ ⟨by rw [cx_50s_eq hi r s hf]; exact hX.1.set (cells_10 hi), CI_mA _ _ (by unfold cFree; decide) (CI_mA _ _ (by unfold cFree; decide) (CI_mA _ _ (by unfold cFree; decide) hX.2))⟩)
end CRL
theorem let_le {x : Int64} {r s : Int32} (hr : 1 ≤ r.toInt) (hs : 1 ≤ s.toInt) (h : ¬ x < r.toInt64 + s.toInt64) : r.toInt64 ≤ x - s.toInt64 := by
  rw [Int64.lt_iff_toInt_lt] at h
  rw [Int64.le_iff_toInt_le]
  have b1 := Int32.toInt_lt r
  have b2 := Int32.toInt_lt s
  have b3 := Int64.toInt_lt x
  have e1 : (r.toInt64 + s.toInt64).toInt = r.toInt + s.toInt := by
    rw [Int64.toInt_add, Int32.toInt_toInt64, Int32.toInt_toInt64, bm_id] <;> omega
  rw [e1] at h
  have e2 : (x - s.toInt64).toInt = x.toInt - s.toInt := by
    rw [Int64.toInt_sub, Int32.toInt_toInt64, bm_id] <;> omega
  rw [e2, Int32.toInt_toInt64]
  omega
/-- the best bid so far -/
def bV (fz : Nat → Nat → Nat) (j : Nat) (o : Option Nat) : Value := match o with
  | none => .null
  | some b => .ref (fz (16 + j) (b - 10 * j))
def fzL (fz : Nat → Nat → Nat) (j : Nat) (o : Option Nat) : Nat → Nat → Nat := match o with
  | none => fz
  | some b => up2 fz 2 j (fz (16 + j) (b - 10 * j))
def cLt (L nl : Nat) (o : Option Nat) : Nat := match o with
  | none => L
  | some _ => cN L nl
theorem let_1 {A : Nat → Nat → Int32} {n q : Int32} (h : n < 0 ∨ ¬ n < A 31 0) : sLetK A n q = 1 := by
  unfold sLetK
  rcases h with h | h <;> simp [h]
theorem let_h {A : Nat → Nat → Int32} {n q : Int32} (h : ¬ n < 0 ∧ n < A 31 0) : sLetK A n q = (if q < 1 then 2 else if q ≤ 40 then (if A 50 (ix n) < 0 then 0 else 3) else 2) := by
  unfold sLetK
  simp [h.1, h.2]
theorem cx_let {l : Launch} {g : gGP} (hk : gK l g) {c0 c : gLH} {ad cp fz : Nat → Nat → Nat} {md : Nat → Nat → Int32} {S : Nat → List Value} {U : Nat → Nat → Int64} {A : Nat → Nat → Int32} {B : Nat → Nat → Int64} (hX : CW c0 ad cp fz md S U A B c) (n q : Int32) (ll : Nat) (hF : FB fz A c0) (hL : FL fz A c0) (hbd : ∀ i j, i < cn A 2 → j < ix (A 46 i) → (A 47 (10 * i + j) = nI (ix (A 47 (10 * i + j))) ∧ ix (A 47 (10 * i + j)) < cn A 4) ∧ 1 ≤ (A 48 (10 * i + j)).toInt ∧ 1 ≤ (A 49 (10 * i + j)).toInt) {nl : Nat} (hnl : A 42 0 = nI nl) (h2 : nl < 400000) (hL2 : 2 * cp 8 0 < 4000000) (hts : gTS g) : Ct l g yX1_let hwX1_let 8 320 [.ref (ad 0 0), .int n, .int q] c (8 + (cLt (cp 8 0) nl (sLetB A B (ix n) (ix (A 46 (ix n)))) - cp 8 0)) (48 + 2 * (cLt (cp 8 0) nl (sLetB A B (ix n) (ix (A 46 (ix n)))) - cp 8 0)) (pCx (sLetK A n q) eBAS c (pI (sLet A B (ix n) (ix (A 46 (ix n))) nl ll q).1 (fun c' => ∃ q2 m, CW c (up2 ad 8 0 q2) (up2 cp 8 0 (cLt (cp 8 0) nl (sLetB A B (ix n) (ix (A 46 (ix n)))))) (fzL fz (ix n) (sLetB A B (ix n) (ix (A 46 (ix n))))) (up2 md 11 (ix n) m) S U (sLet A B (ix n) (ix (A 46 (ix n))) nl ll q).2.1 (sLet A B (ix n) (ix (A 46 (ix n))) nl ll q).2.2.1 c'))) := by
  refine Ct.intro hk hcX1_let (by decide +kernel) (Nat.le_of_ble_eq_true rfl) (fun φ h => ?_)
  refine g_iload_n (i := 1) h dX1_let_0 rfl rfl ?_
  refine g_aload_n (i := 0) h dX1_let_1 rfl rfl ?_
  refine g_get (v := .ref (ad 2 2)) h f_X1_32_1 hX.x rfl dX1_let_2 ?_
  refine g_invV h (ct_xsize2 h.k hX) hcJ2_size w_X1_81 rfl rfl (xlist2 hX) (Nat.le_of_ble_eq_true rfl) ⟨Nat.le_of_ble_eq_true rfl, Nat.le_of_ble_eq_true rfl⟩ (by refine ⟨?_, ?_⟩ <;> first | exact Nat.le_refl _ | exact Nat.zero_le _ | (dsimp only; omega)) dX1_let_5 (gkr_ip ?_) gkt_ip
  refine g_invS h (ct_thereX h.k _ _ hts) hcX1_there w_X1_112 rfl rfl (Nat.le_of_ble_eq_true rfl) ⟨Nat.le_of_ble_eq_true rfl, Nat.le_of_ble_eq_true rfl⟩ (by refine ⟨?_, ?_⟩ <;> ((try dsimp only); omega)) dX1_let_8 (gkr_gd (fun b8 => ?_)) (gkt_gd (fun b8 a e ha => ?_))
  rotate_left 1
  · refine gt_out h (fun q hq => by cases hq) ?_ (by (try dsimp only); omega) (by (try dsimp only); omega)
    exact pCx_t (n := 1) (by exact let_1 (sNo_ge b8)) (by decide) rfl ⟨a, e, rfl, ha, rfl⟩
  have bz8 := sNo_lt b8
  obtain ⟨hj, hx⟩ := there_ix b8 (hX.cnt (i := 2) (by decide)).1 (hX.cnt (i := 2) (by decide)).2.2
  refine g_iload_n (i := 2) h dX1_let_11 rfl rfl ?_
  refine g_iconst (v := 1) h dX1_let_12 (by decide) ?_
  refine g_icmp_lt (tgt := 26) h dX1_let_13 (by decide) (fun b13 => ?_) (fun b13 => ?_)
  · refine g_iconst (v := 0) h dX1_let_26 (by decide) ?_
    refine g_invS h (ct_needX h.k false hts) hcX1_need w_X1_77 rfl rfl (Nat.le_of_ble_eq_true rfl) ⟨Nat.le_of_ble_eq_true rfl, Nat.le_of_ble_eq_true rfl⟩ (by refine ⟨?_, ?_⟩ <;> ((try dsimp only); omega)) dX1_let_27 (gkr_gd (fun hb => absurd hb (by decide))) (gkt_gd (fun _ a e ha => ?_))
    refine gt_out h (fun q hq => by cases hq) ?_ (by (try dsimp only); omega) (by (try dsimp only); omega)
    exact pCx_t (n := 2) (by rw [let_h bz8]; first | (simp [b13]; done) | (have z2 : ¬ q ≤ 40 := (by simpa using b19); simp [z2])) (by decide) rfl ⟨a, e, rfl, ha, rfl⟩
  · refine g_iload_n (i := 2) h dX1_let_16 rfl rfl ?_
    refine g_bipush (v := 40) h dX1_let_17 (by decide) ?_
    refine g_icmp_gt (tgt := 26) h dX1_let_19 (by decide) (fun b19 => ?_) (fun b19 => ?_)
    · refine g_iconst (v := 0) h dX1_let_26 (by decide) ?_
      refine g_invS h (ct_needX h.k false hts) hcX1_need w_X1_77 rfl rfl (Nat.le_of_ble_eq_true rfl) ⟨Nat.le_of_ble_eq_true rfl, Nat.le_of_ble_eq_true rfl⟩ (by refine ⟨?_, ?_⟩ <;> ((try dsimp only); omega)) dX1_let_27 (gkr_gd (fun hb => absurd hb (by decide))) (gkt_gd (fun _ a e ha => ?_))
      refine gt_out h (fun q hq => by cases hq) ?_ (by (try dsimp only); omega) (by (try dsimp only); omega)
      exact pCx_t (n := 2) (by rw [let_h bz8]; first | (simp [b13, b19]; done) | (have z2 : ¬ q ≤ 40 := (by simpa using b19); simp [z2])) (by decide) rfl ⟨a, e, rfl, ha, rfl⟩
    · refine g_iconst (v := 1) h dX1_let_22 (by decide) ?_
      refine g_goto (tgt := 27) h dX1_let_23 (by decide) ?_
      refine g_invS h (ct_needX h.k true hts) hcX1_need w_X1_77 rfl rfl (Nat.le_of_ble_eq_true rfl) ⟨Nat.le_of_ble_eq_true rfl, Nat.le_of_ble_eq_true rfl⟩ (by refine ⟨?_, ?_⟩ <;> ((try dsimp only); omega)) dX1_let_27 (gkr_gd (fun _ => ?_)) (gkt_gd (fun hb => absurd hb (by decide)))
      have hb46 := (hX.2.2.1 _ hj).1
      by_cases hz : A 50 (ix n) < 0
      · skip
        refine g_aload_n (i := 0) h dX1_let_30 rfl rfl ?_
        refine g_get (v := .ref (ad 2 2)) h f_X1_32_1 hX.x rfl dX1_let_31 ?_
        refine g_iload_n (i := 1) h dX1_let_34 rfl rfl ?_
        refine G.int hx ?_
        refine g_invV h (ct_xget2 h.k hX hj) hcJ2_get w_X1_162 rfl rfl (xlist2 hX) (Nat.le_of_ble_eq_true rfl) ⟨Nat.le_of_ble_eq_true rfl, Nat.le_of_ble_eq_true rfl⟩ (by refine ⟨?_, ?_⟩ <;> first | exact Nat.le_refl _ | exact Nat.zero_le _ | (dsimp only; omega)) dX1_let_35 (gkr_ap ?_) gkt_ap
        refine g_castS h (hX.1.at (cells_10 hj)) rfl q1261 dX1_let_38 ?_
        refine g_astore_n (i := 3) h dX1_let_41 rfl (by decide) ?_
        refine g_aload_n (i := 3) h dX1_let_42 rfl rfl ?_
        refine g_get (v := cLe fz A (ix n)) h f_X1_190_23 (hX.1.at (cells_10 hj)) rfl dX1_let_43 ?_
        rw [show cLe fz A (ix n) = .null from if_pos hz]
        refine g_ifnonnullN h dX1_let_46 ?_
        refine g_iconst (v := 1) h dX1_let_49 (by decide) ?_
        refine g_goto (tgt := 54) h dX1_let_50 (by decide) ?_
        refine g_invS h (ct_rightX h.k true hts) hcX1_right w_X1_85 rfl rfl (Nat.le_of_ble_eq_true rfl) ⟨Nat.le_of_ble_eq_true rfl, Nat.le_of_ble_eq_true rfl⟩ (by refine ⟨?_, ?_⟩ <;> ((try dsimp only); omega)) dX1_let_54 (gkr_gd (fun _ => ?_)) (gkt_gd (fun hb => absurd hb (by decide)))
        refine g_null h dX1_let_57 ?_
        refine g_astoreN h dX1_let_58 (by decide) ?_
        refine g_iconst (v := 0) h dX1_let_60 (by decide) ?_
        refine g_istore h dX1_let_61 (by decide) ?_
        have hK : sLetK A n q = 0 := by
          have z1 : ¬ q < 1 := (by simpa using b13)
          have z2 : q ≤ 40 := (by simpa using b19)
          rw [let_h bz8]
          simp [z1, z2, hz]
        have hq0 : ¬ q = 0 := by
          have z1 : ¬ q < 1 := (by simpa using b13)
          intro e
          rw [e] at z1
          exact z1 (by decide)
        refine G.up (ce' := 8) (sl' := 48) (by decide) (by decide) ?_
        have after : G φ (gQ φ (pCx (sLetK A n q) eBAS c (pI (sLet A B (ix n) (ix (A 46 (ix n))) nl ll q).1 (fun c' => ∃ q2 m, CW c (up2 ad 8 0 q2) (up2 cp 8 0 (cLt (cp 8 0) nl (sLetB A B (ix n) (ix (A 46 (ix n)))))) (fzL fz (ix n) (sLetB A B (ix n) (ix (A 46 (ix n))))) (up2 md 11 (ix n) m) S U (sLet A B (ix n) (ix (A 46 (ix n))) nl ll q).2.1 (sLet A B (ix n) (ix (A 46 (ix n))) nl ll q).2.2.1 c'))) (8 + (cLt (cp 8 0) nl (sLetB A B (ix n) (ix (A 46 (ix n)))) - cp 8 0)) (48 + 2 * (cLt (cp 8 0) nl (sLetB A B (ix n) (ix (A 46 (ix n)))) - cp 8 0))) 177 [(0, .ref (ad 0 0)), (1, .int n), (2, .int q), (3, .ref (ad 10 (ix n))), (4, bV fz (ix n) (sLetB A B (ix n) (ix (A 46 (ix n)))))] [] c 8 48 := by
          cases hB2 : sLetB A B (ix n) (ix (A 46 (ix n))) with
          | none =>
            have hSv : sLet A B (ix n) (ix (A 46 (ix n))) nl ll q = (-1, A, B, ll) := by unfold sLet; rw [hB2]
            refine g_aloadN h dX1_let_177 rfl ?_
            refine g_ifnonnullN h dX1_let_179 ?_
            refine g_iconst (v := (-1)) h dX1_let_182 (by decide) ?_
            exact g_iret h (pCx_0 hK ⟨by rw [hSv], ad 8 0, md 11 (ix n), by rw [hSv]; show CW _ _ (up2 cp 8 0 (cp 8 0)) fz _ _ _ A B c; rw [up2_id, up2_id, up2_id]; exact hX.now⟩) (by (try dsimp only); omega) (by (try dsimp only); omega) dX1_let_183
          | some b =>
            have hlb := sLetB_lt hB2
            have hSv : sLet A B (ix n) (ix (A 46 (ix n))) nl ll q = (A 47 b, sRentA (sLetA A (ix n) b q) (sLetBB A B b) (ix n) (ix (A 47 b)) nl, sRentB (sLetA A (ix n) b q) (sLetBB A B b) (ix n) (ix (A 47 b)), sRentL (sLetA A (ix n) b q) (sLetBB A B b) (ix n) (ix (A 47 b)) nl ll) := by unfold sLet; rw [hB2]
            have hLt : cLt (cp 8 0) nl (some b) = cN (cp 8 0) nl := rfl
            have hLt2 : cLt (cp 8 0) nl (sLetB A B (ix n) (ix (A 46 (ix n)))) = cN (cp 8 0) nl := by rw [hB2]; rfl
            have hbk : b = 10 * ix n + (b - 10 * ix n) := by omega
            have hbc : c (fz (16 + ix n) (b - 10 * ix n)) = some (gT, .inr (29, [.int (A 47 b), .int (A 48 b), .int (A 49 b)])) := by
              have := hX.1.frz (hF (ix n) (b - 10 * ix n) hj (by omega)) gT_core
              rw [← hbk] at this
              exact this
            have hbo := hbd (ix n) (b - 10 * ix n) hj (by omega)
            rw [← hbk] at hbo
            obtain ⟨hf47, hr1, hs1⟩ := hbo
            have hf0 : ¬ A 47 b < 0 := by rw [hf47.1]; exact nI_pos (by have := (hX.cnt (i := 4) (by decide)).2.2; omega)
            have hcan := hlb.2.2
            simp only [sCan, Bool.and_eq_true, Bool.not_eq_true', decide_eq_false_iff_not] at hcan
            have hj4 : ix n < cn (sLetA A (ix n) b q) 2 := hj
            have hf4 : ix (A 47 b) < cn (sLetA A (ix n) b q) 4 := hf47.2
            have h50 : sLetA A (ix n) b q 50 (ix n) = A 47 b := by unfold sLetA; simp [va_up, upd]
            have h51 : sLetA A (ix n) b q 51 (ix n) = A 48 b := by unfold sLetA; simp [va_up, upd]
            have h52 : sLetA A (ix n) b q 52 (ix n) = A 49 b := by unfold sLetA; simp [va_up, upd]
            have h54 : sLetA A (ix n) b q 54 (ix n) = q := by unfold sLetA; simp [va_up, upd]
            have hz4 : ¬ sLetA A (ix n) b q 50 (ix n) < 0 := by rw [h50]; exact hf0
            have hnl4 : sLetA A (ix n) b q 42 0 = nI nl := hnl
            have hC : sRentC (sLetA A (ix n) b q) (sLetBB A B b) (ix n) (ix (A 47 b)) = 2 := by
              unfold sRentC
              rw [h54, h51, if_pos hq0, if_pos]
              unfold sLetBB
              rw [mB_rd]
              exact let_le hr1 hs1 hcan.2
            have hFL : FL (up2 fz 2 (ix n) (fz (16 + ix n) (b - 10 * ix n))) (sLetA A (ix n) b q) c := by
              intro i hi hi0
              by_cases y : i = ix n
              · subst y
                rw [up2_s, h50, h51, h52]
                exact hbc
              · have e50 : sLetA A (ix n) b q 50 i = A 50 i := by unfold sLetA; simp [va_up, upd, y]
                have e51 : sLetA A (ix n) b q 51 i = A 51 i := by unfold sLetA; simp [va_up, upd, y]
                have e52 : sLetA A (ix n) b q 52 i = A 52 i := by unfold sLetA; simp [va_up, upd, y]
                rw [e50] at hi0
                rw [up2_n _ _ (fun w => y w.2), e50, e51, e52]
                exact hX.1.frz (hL i hi hi0) gT_core
            refine g_aload h dX1_let_177 rfl ?_
            refine g_ifnonnull (tgt := 184) h dX1_let_179 (by decide) ?_
            refine g_aload_n (i := 3) h dX1_let_184 rfl rfl ?_
            refine g_get (v := .ref (ad 11 (ix n))) h f_X1_297_23 (hX.1.at (cells_10 hj)) rfl dX1_let_185 ?_
            refine g_invV h (ct_lclear h.k (hX.1.sb (cell_11 hj)) (hX.1.sb (cell_12 hj)) (hX.bids hj)) hcJ2_clear w_X1_303 rfl rfl (xbids hX hj) (Nat.le_of_ble_eq_true rfl) ⟨Nat.le_of_ble_eq_true rfl, Nat.le_of_ble_eq_true rfl⟩ (by refine ⟨?_, ?_⟩ <;> ((try dsimp only); omega)) dX1_let_188 (gkr_v (fun c2 hP => ?_)) gkt_v
            obtain ⟨m, hX⟩ := hX.clearB hj hP.1 hP.2
            refine g_aload_n (i := 3) h dX1_let_191 rfl rfl ?_
            refine g_aload h dX1_let_192 rfl ?_
            refine x_put50s h hX hj (f := A 47 b) (A 48 b) (A 49 b) hf0 fp_X1_190_23 rfl rfl dX1_let_194 (fun c3 hX => ?_)
            refine g_aload_n (i := 3) h dX1_let_197 rfl rfl ?_
            refine g_iload_n (i := 2) h dX1_let_198 rfl rfl ?_
            refine x_put54 h hX hj fp_X1_250_23 rfl rfl dX1_let_199 (fun c4 hX => ?_)
            replace hX : CW c ad cp (up2 fz 2 (ix n) (fz (16 + ix n) (b - 10 * ix n))) (up2 md 11 (ix n) m) S U (sLetA A (ix n) b q) B c4 := hX
            refine g_aload_n (i := 0) h dX1_let_202 rfl rfl ?_
            refine g_get (v := .ref (ad 2 4)) h f_X1_38_1 hX.x rfl dX1_let_203 ?_
            refine g_aload h dX1_let_206 rfl ?_
            refine g_get (v := .int (A 47 b)) h f_X1_194_29 (hX.1.frz hbc gT_core) rfl dX1_let_208 ?_
            refine G.int hf47.1 ?_
            refine g_invV h (ct_xget4 h.k hX hf4) hcJ2_get w_X1_162 rfl rfl (xlist4 hX) (Nat.le_of_ble_eq_true rfl) ⟨Nat.le_of_ble_eq_true rfl, Nat.le_of_ble_eq_true rfl⟩ (by refine ⟨?_, ?_⟩ <;> ((try dsimp only); omega)) dX1_let_211 (gkr_ap ?_) gkt_ap
            refine g_castS h (hX.1.at (cells_15 hf4)) rfl q1527 dX1_let_214 ?_
            refine g_astore h dX1_let_217 (by decide) ?_
            refine g_aload h dX1_let_219 rfl ?_
            refine g_dup h dX1_let_221 rfl ?_
            refine g_get (v := .long (B 44 (ix (A 47 b)))) h f_X1_201_28 (hX.1.at (cells_15 hf4)) rfl dX1_let_222 ?_
            refine g_aload h dX1_let_225 rfl ?_
            refine g_get (v := .int (A 49 b)) h f_X1_253_29 (hX.1.frz hbc gT_core) rfl dX1_let_227 ?_
            refine g_i2l h dX1_let_230 ?_
            refine g_lsub h dX1_let_231 ?_
            refine x_put44 h hX hf4 fp_X1_201_28 rfl rfl dX1_let_232 (fun c5 hX => ?_)
            replace hX : CW c ad cp (up2 fz 2 (ix n) (fz (16 + ix n) (b - 10 * ix n))) (up2 md 11 (ix n) m) S U (sLetA A (ix n) b q) (sLetBB A B b) c5 := hX
            refine g_aload_n (i := 0) h dX1_let_235 rfl rfl ?_
            refine g_aload_n (i := 3) h dX1_let_236 rfl rfl ?_
            refine g_aload h dX1_let_237 rfl ?_
            refine g_invV h (cx_pays h.k hX hj4 hf4 hz4 hFL hnl4 h2 hL2) hcX1_pays w_X1_259 rfl rfl hX.x (Nat.le_of_ble_eq_true rfl) ⟨Nat.le_of_ble_eq_true rfl, Nat.le_of_ble_eq_true rfl⟩ (by refine ⟨?_, ?_⟩ <;> ((try dsimp only); omega)) dX1_let_239 (gkr_v (fun c6 hP => ?_)) gkt_v
            obtain ⟨q2, hX⟩ := hP
            refine g_aload h dX1_let_242 rfl ?_
            refine g_get (v := .int (A 47 b)) h f_X1_194_29 (hX.1.frz hbc gT_core) rfl dX1_let_244 ?_
            exact g_iret h (pCx_0 hK ⟨by rw [hSv], q2, m, by rw [hSv]; show CW _ _ (up2 cp 8 0 (cN (cp 8 0) nl)) _ _ _ _ (sRentA _ _ _ _ _) (sRentB _ _ _ _) _; rw [sRentA, if_neg (by rw [hC]; decide), if_neg (by rw [hC]; decide), sRentB, if_neg (by rw [hC]; decide), if_neg (by rw [hC]; decide)]; exact hX⟩) (by (try dsimp only); omega) (by (try dsimp only); omega) dX1_let_247
        have loop : ∀ k, k ≤ ix (A 46 (ix n)) → G φ (gQ φ (pCx (sLetK A n q) eBAS c (pI (sLet A B (ix n) (ix (A 46 (ix n))) nl ll q).1 (fun c' => ∃ q2 m, CW c (up2 ad 8 0 q2) (up2 cp 8 0 (cLt (cp 8 0) nl (sLetB A B (ix n) (ix (A 46 (ix n)))))) (fzL fz (ix n) (sLetB A B (ix n) (ix (A 46 (ix n))))) (up2 md 11 (ix n) m) S U (sLet A B (ix n) (ix (A 46 (ix n))) nl ll q).2.1 (sLet A B (ix n) (ix (A 46 (ix n))) nl ll q).2.2.1 c'))) (8 + (cLt (cp 8 0) nl (sLetB A B (ix n) (ix (A 46 (ix n)))) - cp 8 0)) (48 + 2 * (cLt (cp 8 0) nl (sLetB A B (ix n) (ix (A 46 (ix n)))) - cp 8 0))) 63 [(0, .ref (ad 0 0)), (1, .int n), (2, .int q), (3, .ref (ad 10 (ix n))), (4, bV fz (ix n) (sLetB A B (ix n) k)), (5, .int (nI k))] [] c 8 48 := by
          refine gloop ?_ ?_
          · skip
            cases hb : sLetB A B (ix n) (ix (A 46 (ix n))) with
            | none =>
              rw [hb] at after
              refine g_iload h dX1_let_63 rfl ?_
              refine g_aload_n (i := 3) h dX1_let_65 rfl rfl ?_
              refine g_get (v := .ref (ad 11 (ix n))) h f_X1_297_23 (hX.1.at (cells_10 hj)) rfl dX1_let_66 ?_
              refine g_invV h (ct_bsize h.k hX hj) hcJ2_size w_X1_81 rfl rfl (xbids hX hj) (Nat.le_of_ble_eq_true rfl) ⟨Nat.le_of_ble_eq_true rfl, Nat.le_of_ble_eq_true rfl⟩ (by refine ⟨?_, ?_⟩ <;> ((try dsimp only); omega)) dX1_let_69 (gkr_ip ?_) gkt_ip
              refine G.int hb46 ?_
              refine g_icmp_ge (tgt := 177) h dX1_let_72 (by decide) (fun b72 => ?_) (fun _bz => absurd _bz (fun z => absurd (nI_le (Nat.le_refl _) (by have := (hX.2.2.1 _ hj).2.1; omega)) z))
              exact G.to after ⟨rfl, rfl, rfl, rfl, rfl, trivial⟩
            | some b =>
              rw [hb] at after
              refine g_iload h dX1_let_63 rfl ?_
              refine g_aload_n (i := 3) h dX1_let_65 rfl rfl ?_
              refine g_get (v := .ref (ad 11 (ix n))) h f_X1_297_23 (hX.1.at (cells_10 hj)) rfl dX1_let_66 ?_
              refine g_invV h (ct_bsize h.k hX hj) hcJ2_size w_X1_81 rfl rfl (xbids hX hj) (Nat.le_of_ble_eq_true rfl) ⟨Nat.le_of_ble_eq_true rfl, Nat.le_of_ble_eq_true rfl⟩ (by refine ⟨?_, ?_⟩ <;> ((try dsimp only); omega)) dX1_let_69 (gkr_ip ?_) gkt_ip
              refine G.int hb46 ?_
              refine g_icmp_ge (tgt := 177) h dX1_let_72 (by decide) (fun b72 => ?_) (fun _bz => absurd _bz (fun z => absurd (nI_le (Nat.le_refl _) (by have := (hX.2.2.1 _ hj).2.1; omega)) z))
              exact G.to after ⟨rfl, rfl, rfl, rfl, rfl, trivial⟩
          · intro k hk ih
            have hf47 := (hbd (ix n) k hj hk).1
            cases hb : sLetB A B (ix n) k with
            | none =>
              skip
              rw [show sLetB A B (ix n) (k + 1) = if sCan A B (10 * ix n + k) = true then some (10 * ix n + k) else none by simp only [sLetB, hb]] at ih
              by_cases c1 : A 49 (10 * ix n + k) < A 48 (10 * ix n + k)
              · rw [if_neg (by simp [sCan, c1])] at ih
                refine g_iload h dX1_let_63 rfl ?_
                refine g_aload_n (i := 3) h dX1_let_65 rfl rfl ?_
                refine g_get (v := .ref (ad 11 (ix n))) h f_X1_297_23 (hX.1.at (cells_10 hj)) rfl dX1_let_66 ?_
                refine g_invV h (ct_bsize h.k hX hj) hcJ2_size w_X1_81 rfl rfl (xbids hX hj) (Nat.le_of_ble_eq_true rfl) ⟨Nat.le_of_ble_eq_true rfl, Nat.le_of_ble_eq_true rfl⟩ (by refine ⟨?_, ?_⟩ <;> ((try dsimp only); omega)) dX1_let_69 (gkr_ip ?_) gkt_ip
                refine G.int hb46 ?_
                refine g_icmp_ge (tgt := 177) h dX1_let_72 (by decide) (fun _bz => absurd _bz (nI_ge hk (by have := (hX.2.2.1 _ hj).2.1; omega))) (fun b72 => ?_)
                refine g_aload_n (i := 3) h dX1_let_75 rfl rfl ?_
                refine g_get (v := .ref (ad 11 (ix n))) h f_X1_297_23 (hX.1.at (cells_10 hj)) rfl dX1_let_76 ?_
                refine g_iload h dX1_let_79 rfl ?_
                refine g_invV h (ct_lget h.k (hX.bids hj) (cBd_at fz hk)) hcJ2_get w_X1_162 rfl rfl (xbids hX hj) (Nat.le_of_ble_eq_true rfl) ⟨Nat.le_of_ble_eq_true rfl, Nat.le_of_ble_eq_true rfl⟩ (by refine ⟨?_, ?_⟩ <;> ((try dsimp only); omega)) dX1_let_81 (gkr_ap ?_) gkt_ap
                refine g_castS h (hX.1.frz (hF _ k hj hk) gT_core) rfl q1639 dX1_let_84 ?_
                refine g_astore h dX1_let_87 (by decide) ?_
                refine g_aload h dX1_let_89 rfl ?_
                refine g_get (v := .int (A 49 (10 * ix n + k))) h f_X1_253_29 (hX.1.frz (hF _ k hj hk) gT_core) rfl dX1_let_91 ?_
                refine g_aload h dX1_let_94 rfl ?_
                refine g_get (v := .int (A 48 (10 * ix n + k))) h f_X1_256_29 (hX.1.frz (hF _ k hj hk) gT_core) rfl dX1_let_96 ?_
                refine g_icmp_lt (tgt := 141) h dX1_let_99 (by decide) (fun b99 => ?_) (fun _bz => absurd _bz (fun z => z c1))
                refine g_iconst (v := 0) h dX1_let_141 (by decide) ?_
                refine g_istore h dX1_let_142 (by decide) ?_
                refine g_iload h dX1_let_144 rfl ?_
                refine g_if_eq (tgt := 171) h dX1_let_146 (by decide) (fun _bz => ?_) (fun _bz => absurd _bz (by decide))
                first | (with_reducible refine g_iincN h dX1_let_171 rfl (by decide) ?_) | refine g_iinc1 h dX1_let_171 rfl (by decide) ?_
                refine g_goto (tgt := 63) h dX1_let_174 (by decide) ?_
                exact G.to ih ⟨rfl, rfl, rfl, rfl, rfl, rfl, trivial⟩
              · by_cases c2 : B 44 (ix (A 47 (10 * ix n + k))) < (A 48 (10 * ix n + k)).toInt64 + (A 49 (10 * ix n + k)).toInt64
                · rw [if_neg (by simp [sCan, c1, c2])] at ih
                  refine g_iload h dX1_let_63 rfl ?_
                  refine g_aload_n (i := 3) h dX1_let_65 rfl rfl ?_
                  refine g_get (v := .ref (ad 11 (ix n))) h f_X1_297_23 (hX.1.at (cells_10 hj)) rfl dX1_let_66 ?_
                  refine g_invV h (ct_bsize h.k hX hj) hcJ2_size w_X1_81 rfl rfl (xbids hX hj) (Nat.le_of_ble_eq_true rfl) ⟨Nat.le_of_ble_eq_true rfl, Nat.le_of_ble_eq_true rfl⟩ (by refine ⟨?_, ?_⟩ <;> ((try dsimp only); omega)) dX1_let_69 (gkr_ip ?_) gkt_ip
                  refine G.int hb46 ?_
                  refine g_icmp_ge (tgt := 177) h dX1_let_72 (by decide) (fun _bz => absurd _bz (nI_ge hk (by have := (hX.2.2.1 _ hj).2.1; omega))) (fun b72 => ?_)
                  refine g_aload_n (i := 3) h dX1_let_75 rfl rfl ?_
                  refine g_get (v := .ref (ad 11 (ix n))) h f_X1_297_23 (hX.1.at (cells_10 hj)) rfl dX1_let_76 ?_
                  refine g_iload h dX1_let_79 rfl ?_
                  refine g_invV h (ct_lget h.k (hX.bids hj) (cBd_at fz hk)) hcJ2_get w_X1_162 rfl rfl (xbids hX hj) (Nat.le_of_ble_eq_true rfl) ⟨Nat.le_of_ble_eq_true rfl, Nat.le_of_ble_eq_true rfl⟩ (by refine ⟨?_, ?_⟩ <;> ((try dsimp only); omega)) dX1_let_81 (gkr_ap ?_) gkt_ap
                  refine g_castS h (hX.1.frz (hF _ k hj hk) gT_core) rfl q1639 dX1_let_84 ?_
                  refine g_astore h dX1_let_87 (by decide) ?_
                  refine g_aload h dX1_let_89 rfl ?_
                  refine g_get (v := .int (A 49 (10 * ix n + k))) h f_X1_253_29 (hX.1.frz (hF _ k hj hk) gT_core) rfl dX1_let_91 ?_
                  refine g_aload h dX1_let_94 rfl ?_
                  refine g_get (v := .int (A 48 (10 * ix n + k))) h f_X1_256_29 (hX.1.frz (hF _ k hj hk) gT_core) rfl dX1_let_96 ?_
                  refine g_icmp_lt (tgt := 141) h dX1_let_99 (by decide) (fun _bz => absurd _bz c1) (fun b99 => ?_)
                  refine g_aload_n (i := 0) h dX1_let_102 rfl rfl ?_
                  refine g_get (v := .ref (ad 2 4)) h f_X1_38_1 hX.x rfl dX1_let_103 ?_
                  refine g_aload h dX1_let_106 rfl ?_
                  refine g_get (v := .int (A 47 (10 * ix n + k))) h f_X1_194_29 (hX.1.frz (hF _ k hj hk) gT_core) rfl dX1_let_108 ?_
                  refine G.int hf47.1 ?_
                  refine g_invV h (ct_xget4 h.k hX hf47.2) hcJ2_get w_X1_162 rfl rfl (xlist4 hX) (Nat.le_of_ble_eq_true rfl) ⟨Nat.le_of_ble_eq_true rfl, Nat.le_of_ble_eq_true rfl⟩ (by refine ⟨?_, ?_⟩ <;> ((try dsimp only); omega)) dX1_let_111 (gkr_ap ?_) gkt_ap
                  refine g_castS h (hX.1.at (cells_15 hf47.2)) rfl q1527 dX1_let_114 ?_
                  refine g_get (v := .long (B 44 (ix (A 47 (10 * ix n + k))))) h f_X1_201_28 (hX.1.at (cells_15 hf47.2)) rfl dX1_let_117 ?_
                  refine g_aload h dX1_let_120 rfl ?_
                  refine g_get (v := .int (A 48 (10 * ix n + k))) h f_X1_256_29 (hX.1.frz (hF _ k hj hk) gT_core) rfl dX1_let_122 ?_
                  refine g_i2l h dX1_let_125 ?_
                  refine g_aload h dX1_let_126 rfl ?_
                  refine g_get (v := .int (A 49 (10 * ix n + k))) h f_X1_253_29 (hX.1.frz (hF _ k hj hk) gT_core) rfl dX1_let_128 ?_
                  refine g_i2l h dX1_let_131 ?_
                  refine g_ladd h dX1_let_132 ?_
                  refine g_lcmp h dX1_let_133 ?_
                  refine g_if_lt (tgt := 141) h dX1_let_134 (by decide) (fun b134 => ?_) (fun _bz => absurd _bz (fun z => z (by rw [lg_cmp_lt]; exact c2)))
                  rw [lg_cmp_lt] at b134
                  refine g_iconst (v := 0) h dX1_let_141 (by decide) ?_
                  refine g_istore h dX1_let_142 (by decide) ?_
                  refine g_iload h dX1_let_144 rfl ?_
                  refine g_if_eq (tgt := 171) h dX1_let_146 (by decide) (fun _bz => ?_) (fun _bz => absurd _bz (by decide))
                  first | (with_reducible refine g_iincN h dX1_let_171 rfl (by decide) ?_) | refine g_iinc1 h dX1_let_171 rfl (by decide) ?_
                  refine g_goto (tgt := 63) h dX1_let_174 (by decide) ?_
                  exact G.to ih ⟨rfl, rfl, rfl, rfl, rfl, rfl, trivial⟩
                · rw [if_pos (by simp [sCan, c1, c2]), show bV fz (ix n) (some (10 * ix n + k)) = .ref (fz (16 + ix n) k) by show Value.ref (fz (16 + ix n) (10 * ix n + k - 10 * ix n)) = _; rw [Nat.add_sub_cancel_left]] at ih
                  refine g_iload h dX1_let_63 rfl ?_
                  refine g_aload_n (i := 3) h dX1_let_65 rfl rfl ?_
                  refine g_get (v := .ref (ad 11 (ix n))) h f_X1_297_23 (hX.1.at (cells_10 hj)) rfl dX1_let_66 ?_
                  refine g_invV h (ct_bsize h.k hX hj) hcJ2_size w_X1_81 rfl rfl (xbids hX hj) (Nat.le_of_ble_eq_true rfl) ⟨Nat.le_of_ble_eq_true rfl, Nat.le_of_ble_eq_true rfl⟩ (by refine ⟨?_, ?_⟩ <;> ((try dsimp only); omega)) dX1_let_69 (gkr_ip ?_) gkt_ip
                  refine G.int hb46 ?_
                  refine g_icmp_ge (tgt := 177) h dX1_let_72 (by decide) (fun _bz => absurd _bz (nI_ge hk (by have := (hX.2.2.1 _ hj).2.1; omega))) (fun b72 => ?_)
                  refine g_aload_n (i := 3) h dX1_let_75 rfl rfl ?_
                  refine g_get (v := .ref (ad 11 (ix n))) h f_X1_297_23 (hX.1.at (cells_10 hj)) rfl dX1_let_76 ?_
                  refine g_iload h dX1_let_79 rfl ?_
                  refine g_invV h (ct_lget h.k (hX.bids hj) (cBd_at fz hk)) hcJ2_get w_X1_162 rfl rfl (xbids hX hj) (Nat.le_of_ble_eq_true rfl) ⟨Nat.le_of_ble_eq_true rfl, Nat.le_of_ble_eq_true rfl⟩ (by refine ⟨?_, ?_⟩ <;> ((try dsimp only); omega)) dX1_let_81 (gkr_ap ?_) gkt_ap
                  refine g_castS h (hX.1.frz (hF _ k hj hk) gT_core) rfl q1639 dX1_let_84 ?_
                  refine g_astore h dX1_let_87 (by decide) ?_
                  refine g_aload h dX1_let_89 rfl ?_
                  refine g_get (v := .int (A 49 (10 * ix n + k))) h f_X1_253_29 (hX.1.frz (hF _ k hj hk) gT_core) rfl dX1_let_91 ?_
                  refine g_aload h dX1_let_94 rfl ?_
                  refine g_get (v := .int (A 48 (10 * ix n + k))) h f_X1_256_29 (hX.1.frz (hF _ k hj hk) gT_core) rfl dX1_let_96 ?_
                  refine g_icmp_lt (tgt := 141) h dX1_let_99 (by decide) (fun _bz => absurd _bz c1) (fun b99 => ?_)
                  refine g_aload_n (i := 0) h dX1_let_102 rfl rfl ?_
                  refine g_get (v := .ref (ad 2 4)) h f_X1_38_1 hX.x rfl dX1_let_103 ?_
                  refine g_aload h dX1_let_106 rfl ?_
                  refine g_get (v := .int (A 47 (10 * ix n + k))) h f_X1_194_29 (hX.1.frz (hF _ k hj hk) gT_core) rfl dX1_let_108 ?_
                  refine G.int hf47.1 ?_
                  refine g_invV h (ct_xget4 h.k hX hf47.2) hcJ2_get w_X1_162 rfl rfl (xlist4 hX) (Nat.le_of_ble_eq_true rfl) ⟨Nat.le_of_ble_eq_true rfl, Nat.le_of_ble_eq_true rfl⟩ (by refine ⟨?_, ?_⟩ <;> ((try dsimp only); omega)) dX1_let_111 (gkr_ap ?_) gkt_ap
                  refine g_castS h (hX.1.at (cells_15 hf47.2)) rfl q1527 dX1_let_114 ?_
                  refine g_get (v := .long (B 44 (ix (A 47 (10 * ix n + k))))) h f_X1_201_28 (hX.1.at (cells_15 hf47.2)) rfl dX1_let_117 ?_
                  refine g_aload h dX1_let_120 rfl ?_
                  refine g_get (v := .int (A 48 (10 * ix n + k))) h f_X1_256_29 (hX.1.frz (hF _ k hj hk) gT_core) rfl dX1_let_122 ?_
                  refine g_i2l h dX1_let_125 ?_
                  refine g_aload h dX1_let_126 rfl ?_
                  refine g_get (v := .int (A 49 (10 * ix n + k))) h f_X1_253_29 (hX.1.frz (hF _ k hj hk) gT_core) rfl dX1_let_128 ?_
                  refine g_i2l h dX1_let_131 ?_
                  refine g_ladd h dX1_let_132 ?_
                  refine g_lcmp h dX1_let_133 ?_
                  refine g_if_lt (tgt := 141) h dX1_let_134 (by decide) (fun _bz => absurd _bz (fun z => c2 (by rw [lg_cmp_lt] at z; exact z))) (fun b134 => ?_)
                  rw [lg_cmp_lt] at b134
                  refine g_iconst (v := 1) h dX1_let_137 (by decide) ?_
                  refine g_goto (tgt := 142) h dX1_let_138 (by decide) ?_
                  refine g_istore h dX1_let_142 (by decide) ?_
                  refine g_iload h dX1_let_144 rfl ?_
                  refine g_if_eq (tgt := 171) h dX1_let_146 (by decide) (fun _bz => absurd _bz (by decide)) (fun _bz => ?_)
                  refine g_aloadN h dX1_let_149 rfl ?_
                  refine g_ifnullN (tgt := 167) h dX1_let_151 (by decide) ?_
                  refine g_aload h dX1_let_167 rfl ?_
                  refine g_astore h dX1_let_169 (by decide) ?_
                  first | (with_reducible refine g_iincN h dX1_let_171 rfl (by decide) ?_) | refine g_iinc1 h dX1_let_171 rfl (by decide) ?_
                  refine g_goto (tgt := 63) h dX1_let_174 (by decide) ?_
                  exact G.to ih ⟨rfl, rfl, rfl, rfl, rfl, rfl, trivial⟩
            | some b =>
              rw [show sLetB A B (ix n) (k + 1) = if sCan A B (10 * ix n + k) = true then (if A 48 (10 * ix n + k) ≤ A 48 b then some b else some (10 * ix n + k)) else some b by simp only [sLetB, hb]] at ih
              have hlb := sLetB_lt hb
              have hbb : c0 (fz (16 + ix n) (b - 10 * ix n)) = some (gT, .inr (29, [.int (A 47 b), .int (A 48 b), .int (A 49 b)])) := by
                have := hF (ix n) (b - 10 * ix n) hj (by omega)
                rw [show 10 * ix n + (b - 10 * ix n) = b by omega] at this
                exact this
              by_cases c1 : A 49 (10 * ix n + k) < A 48 (10 * ix n + k)
              · rw [if_neg (by simp [sCan, c1])] at ih
                refine g_iload h dX1_let_63 rfl ?_
                refine g_aload_n (i := 3) h dX1_let_65 rfl rfl ?_
                refine g_get (v := .ref (ad 11 (ix n))) h f_X1_297_23 (hX.1.at (cells_10 hj)) rfl dX1_let_66 ?_
                refine g_invV h (ct_bsize h.k hX hj) hcJ2_size w_X1_81 rfl rfl (xbids hX hj) (Nat.le_of_ble_eq_true rfl) ⟨Nat.le_of_ble_eq_true rfl, Nat.le_of_ble_eq_true rfl⟩ (by refine ⟨?_, ?_⟩ <;> ((try dsimp only); omega)) dX1_let_69 (gkr_ip ?_) gkt_ip
                refine G.int hb46 ?_
                refine g_icmp_ge (tgt := 177) h dX1_let_72 (by decide) (fun _bz => absurd _bz (nI_ge hk (by have := (hX.2.2.1 _ hj).2.1; omega))) (fun b72 => ?_)
                refine g_aload_n (i := 3) h dX1_let_75 rfl rfl ?_
                refine g_get (v := .ref (ad 11 (ix n))) h f_X1_297_23 (hX.1.at (cells_10 hj)) rfl dX1_let_76 ?_
                refine g_iload h dX1_let_79 rfl ?_
                refine g_invV h (ct_lget h.k (hX.bids hj) (cBd_at fz hk)) hcJ2_get w_X1_162 rfl rfl (xbids hX hj) (Nat.le_of_ble_eq_true rfl) ⟨Nat.le_of_ble_eq_true rfl, Nat.le_of_ble_eq_true rfl⟩ (by refine ⟨?_, ?_⟩ <;> ((try dsimp only); omega)) dX1_let_81 (gkr_ap ?_) gkt_ap
                refine g_castS h (hX.1.frz (hF _ k hj hk) gT_core) rfl q1639 dX1_let_84 ?_
                refine g_astore h dX1_let_87 (by decide) ?_
                refine g_aload h dX1_let_89 rfl ?_
                refine g_get (v := .int (A 49 (10 * ix n + k))) h f_X1_253_29 (hX.1.frz (hF _ k hj hk) gT_core) rfl dX1_let_91 ?_
                refine g_aload h dX1_let_94 rfl ?_
                refine g_get (v := .int (A 48 (10 * ix n + k))) h f_X1_256_29 (hX.1.frz (hF _ k hj hk) gT_core) rfl dX1_let_96 ?_
                refine g_icmp_lt (tgt := 141) h dX1_let_99 (by decide) (fun b99 => ?_) (fun _bz => absurd _bz (fun z => z c1))
                refine g_iconst (v := 0) h dX1_let_141 (by decide) ?_
                refine g_istore h dX1_let_142 (by decide) ?_
                refine g_iload h dX1_let_144 rfl ?_
                refine g_if_eq (tgt := 171) h dX1_let_146 (by decide) (fun _bz => ?_) (fun _bz => absurd _bz (by decide))
                first | (with_reducible refine g_iincN h dX1_let_171 rfl (by decide) ?_) | refine g_iinc1 h dX1_let_171 rfl (by decide) ?_
                refine g_goto (tgt := 63) h dX1_let_174 (by decide) ?_
                exact G.to ih ⟨rfl, rfl, rfl, rfl, rfl, rfl, trivial⟩
              · by_cases c2 : B 44 (ix (A 47 (10 * ix n + k))) < (A 48 (10 * ix n + k)).toInt64 + (A 49 (10 * ix n + k)).toInt64
                · rw [if_neg (by simp [sCan, c1, c2])] at ih
                  refine g_iload h dX1_let_63 rfl ?_
                  refine g_aload_n (i := 3) h dX1_let_65 rfl rfl ?_
                  refine g_get (v := .ref (ad 11 (ix n))) h f_X1_297_23 (hX.1.at (cells_10 hj)) rfl dX1_let_66 ?_
                  refine g_invV h (ct_bsize h.k hX hj) hcJ2_size w_X1_81 rfl rfl (xbids hX hj) (Nat.le_of_ble_eq_true rfl) ⟨Nat.le_of_ble_eq_true rfl, Nat.le_of_ble_eq_true rfl⟩ (by refine ⟨?_, ?_⟩ <;> ((try dsimp only); omega)) dX1_let_69 (gkr_ip ?_) gkt_ip
                  refine G.int hb46 ?_
                  refine g_icmp_ge (tgt := 177) h dX1_let_72 (by decide) (fun _bz => absurd _bz (nI_ge hk (by have := (hX.2.2.1 _ hj).2.1; omega))) (fun b72 => ?_)
                  refine g_aload_n (i := 3) h dX1_let_75 rfl rfl ?_
                  refine g_get (v := .ref (ad 11 (ix n))) h f_X1_297_23 (hX.1.at (cells_10 hj)) rfl dX1_let_76 ?_
                  refine g_iload h dX1_let_79 rfl ?_
                  refine g_invV h (ct_lget h.k (hX.bids hj) (cBd_at fz hk)) hcJ2_get w_X1_162 rfl rfl (xbids hX hj) (Nat.le_of_ble_eq_true rfl) ⟨Nat.le_of_ble_eq_true rfl, Nat.le_of_ble_eq_true rfl⟩ (by refine ⟨?_, ?_⟩ <;> ((try dsimp only); omega)) dX1_let_81 (gkr_ap ?_) gkt_ap
                  refine g_castS h (hX.1.frz (hF _ k hj hk) gT_core) rfl q1639 dX1_let_84 ?_
                  refine g_astore h dX1_let_87 (by decide) ?_
                  refine g_aload h dX1_let_89 rfl ?_
                  refine g_get (v := .int (A 49 (10 * ix n + k))) h f_X1_253_29 (hX.1.frz (hF _ k hj hk) gT_core) rfl dX1_let_91 ?_
                  refine g_aload h dX1_let_94 rfl ?_
                  refine g_get (v := .int (A 48 (10 * ix n + k))) h f_X1_256_29 (hX.1.frz (hF _ k hj hk) gT_core) rfl dX1_let_96 ?_
                  refine g_icmp_lt (tgt := 141) h dX1_let_99 (by decide) (fun _bz => absurd _bz c1) (fun b99 => ?_)
                  refine g_aload_n (i := 0) h dX1_let_102 rfl rfl ?_
                  refine g_get (v := .ref (ad 2 4)) h f_X1_38_1 hX.x rfl dX1_let_103 ?_
                  refine g_aload h dX1_let_106 rfl ?_
                  refine g_get (v := .int (A 47 (10 * ix n + k))) h f_X1_194_29 (hX.1.frz (hF _ k hj hk) gT_core) rfl dX1_let_108 ?_
                  refine G.int hf47.1 ?_
                  refine g_invV h (ct_xget4 h.k hX hf47.2) hcJ2_get w_X1_162 rfl rfl (xlist4 hX) (Nat.le_of_ble_eq_true rfl) ⟨Nat.le_of_ble_eq_true rfl, Nat.le_of_ble_eq_true rfl⟩ (by refine ⟨?_, ?_⟩ <;> ((try dsimp only); omega)) dX1_let_111 (gkr_ap ?_) gkt_ap
                  refine g_castS h (hX.1.at (cells_15 hf47.2)) rfl q1527 dX1_let_114 ?_
                  refine g_get (v := .long (B 44 (ix (A 47 (10 * ix n + k))))) h f_X1_201_28 (hX.1.at (cells_15 hf47.2)) rfl dX1_let_117 ?_
                  refine g_aload h dX1_let_120 rfl ?_
                  refine g_get (v := .int (A 48 (10 * ix n + k))) h f_X1_256_29 (hX.1.frz (hF _ k hj hk) gT_core) rfl dX1_let_122 ?_
                  refine g_i2l h dX1_let_125 ?_
                  refine g_aload h dX1_let_126 rfl ?_
                  refine g_get (v := .int (A 49 (10 * ix n + k))) h f_X1_253_29 (hX.1.frz (hF _ k hj hk) gT_core) rfl dX1_let_128 ?_
                  refine g_i2l h dX1_let_131 ?_
                  refine g_ladd h dX1_let_132 ?_
                  refine g_lcmp h dX1_let_133 ?_
                  refine g_if_lt (tgt := 141) h dX1_let_134 (by decide) (fun b134 => ?_) (fun _bz => absurd _bz (fun z => z (by rw [lg_cmp_lt]; exact c2)))
                  rw [lg_cmp_lt] at b134
                  refine g_iconst (v := 0) h dX1_let_141 (by decide) ?_
                  refine g_istore h dX1_let_142 (by decide) ?_
                  refine g_iload h dX1_let_144 rfl ?_
                  refine g_if_eq (tgt := 171) h dX1_let_146 (by decide) (fun _bz => ?_) (fun _bz => absurd _bz (by decide))
                  first | (with_reducible refine g_iincN h dX1_let_171 rfl (by decide) ?_) | refine g_iinc1 h dX1_let_171 rfl (by decide) ?_
                  refine g_goto (tgt := 63) h dX1_let_174 (by decide) ?_
                  exact G.to ih ⟨rfl, rfl, rfl, rfl, rfl, rfl, trivial⟩
                · rw [if_pos (by simp [sCan, c1, c2])] at ih
                  by_cases c3 : A 48 (10 * ix n + k) ≤ A 48 b
                  · rw [if_pos c3] at ih
                    refine g_iload h dX1_let_63 rfl ?_
                    refine g_aload_n (i := 3) h dX1_let_65 rfl rfl ?_
                    refine g_get (v := .ref (ad 11 (ix n))) h f_X1_297_23 (hX.1.at (cells_10 hj)) rfl dX1_let_66 ?_
                    refine g_invV h (ct_bsize h.k hX hj) hcJ2_size w_X1_81 rfl rfl (xbids hX hj) (Nat.le_of_ble_eq_true rfl) ⟨Nat.le_of_ble_eq_true rfl, Nat.le_of_ble_eq_true rfl⟩ (by refine ⟨?_, ?_⟩ <;> ((try dsimp only); omega)) dX1_let_69 (gkr_ip ?_) gkt_ip
                    refine G.int hb46 ?_
                    refine g_icmp_ge (tgt := 177) h dX1_let_72 (by decide) (fun _bz => absurd _bz (nI_ge hk (by have := (hX.2.2.1 _ hj).2.1; omega))) (fun b72 => ?_)
                    refine g_aload_n (i := 3) h dX1_let_75 rfl rfl ?_
                    refine g_get (v := .ref (ad 11 (ix n))) h f_X1_297_23 (hX.1.at (cells_10 hj)) rfl dX1_let_76 ?_
                    refine g_iload h dX1_let_79 rfl ?_
                    refine g_invV h (ct_lget h.k (hX.bids hj) (cBd_at fz hk)) hcJ2_get w_X1_162 rfl rfl (xbids hX hj) (Nat.le_of_ble_eq_true rfl) ⟨Nat.le_of_ble_eq_true rfl, Nat.le_of_ble_eq_true rfl⟩ (by refine ⟨?_, ?_⟩ <;> ((try dsimp only); omega)) dX1_let_81 (gkr_ap ?_) gkt_ap
                    refine g_castS h (hX.1.frz (hF _ k hj hk) gT_core) rfl q1639 dX1_let_84 ?_
                    refine g_astore h dX1_let_87 (by decide) ?_
                    refine g_aload h dX1_let_89 rfl ?_
                    refine g_get (v := .int (A 49 (10 * ix n + k))) h f_X1_253_29 (hX.1.frz (hF _ k hj hk) gT_core) rfl dX1_let_91 ?_
                    refine g_aload h dX1_let_94 rfl ?_
                    refine g_get (v := .int (A 48 (10 * ix n + k))) h f_X1_256_29 (hX.1.frz (hF _ k hj hk) gT_core) rfl dX1_let_96 ?_
                    refine g_icmp_lt (tgt := 141) h dX1_let_99 (by decide) (fun _bz => absurd _bz c1) (fun b99 => ?_)
                    refine g_aload_n (i := 0) h dX1_let_102 rfl rfl ?_
                    refine g_get (v := .ref (ad 2 4)) h f_X1_38_1 hX.x rfl dX1_let_103 ?_
                    refine g_aload h dX1_let_106 rfl ?_
                    refine g_get (v := .int (A 47 (10 * ix n + k))) h f_X1_194_29 (hX.1.frz (hF _ k hj hk) gT_core) rfl dX1_let_108 ?_
                    refine G.int hf47.1 ?_
                    refine g_invV h (ct_xget4 h.k hX hf47.2) hcJ2_get w_X1_162 rfl rfl (xlist4 hX) (Nat.le_of_ble_eq_true rfl) ⟨Nat.le_of_ble_eq_true rfl, Nat.le_of_ble_eq_true rfl⟩ (by refine ⟨?_, ?_⟩ <;> ((try dsimp only); omega)) dX1_let_111 (gkr_ap ?_) gkt_ap
                    refine g_castS h (hX.1.at (cells_15 hf47.2)) rfl q1527 dX1_let_114 ?_
                    refine g_get (v := .long (B 44 (ix (A 47 (10 * ix n + k))))) h f_X1_201_28 (hX.1.at (cells_15 hf47.2)) rfl dX1_let_117 ?_
                    refine g_aload h dX1_let_120 rfl ?_
                    refine g_get (v := .int (A 48 (10 * ix n + k))) h f_X1_256_29 (hX.1.frz (hF _ k hj hk) gT_core) rfl dX1_let_122 ?_
                    refine g_i2l h dX1_let_125 ?_
                    refine g_aload h dX1_let_126 rfl ?_
                    refine g_get (v := .int (A 49 (10 * ix n + k))) h f_X1_253_29 (hX.1.frz (hF _ k hj hk) gT_core) rfl dX1_let_128 ?_
                    refine g_i2l h dX1_let_131 ?_
                    refine g_ladd h dX1_let_132 ?_
                    refine g_lcmp h dX1_let_133 ?_
                    refine g_if_lt (tgt := 141) h dX1_let_134 (by decide) (fun _bz => absurd _bz (fun z => c2 (by rw [lg_cmp_lt] at z; exact z))) (fun b134 => ?_)
                    rw [lg_cmp_lt] at b134
                    refine g_iconst (v := 1) h dX1_let_137 (by decide) ?_
                    refine g_goto (tgt := 142) h dX1_let_138 (by decide) ?_
                    refine g_istore h dX1_let_142 (by decide) ?_
                    refine g_iload h dX1_let_144 rfl ?_
                    refine g_if_eq (tgt := 171) h dX1_let_146 (by decide) (fun _bz => absurd _bz (by decide)) (fun _bz => ?_)
                    refine g_aload h dX1_let_149 rfl ?_
                    refine g_ifnull h dX1_let_151 ?_
                    refine g_aload h dX1_let_154 rfl ?_
                    refine g_get (v := .int (A 48 (10 * ix n + k))) h f_X1_256_29 (hX.1.frz (hF _ k hj hk) gT_core) rfl dX1_let_156 ?_
                    refine g_aload h dX1_let_159 rfl ?_
                    refine g_get (v := .int (A 48 b)) h f_X1_256_29 (hX.1.frz hbb gT_core) rfl dX1_let_161 ?_
                    refine g_icmp_le (tgt := 171) h dX1_let_164 (by decide) (fun b164 => ?_) (fun _bz => absurd _bz (fun z => z c3))
                    first | (with_reducible refine g_iincN h dX1_let_171 rfl (by decide) ?_) | refine g_iinc1 h dX1_let_171 rfl (by decide) ?_
                    refine g_goto (tgt := 63) h dX1_let_174 (by decide) ?_
                    exact G.to ih ⟨rfl, rfl, rfl, rfl, rfl, rfl, trivial⟩
                  · rw [if_neg c3, show bV fz (ix n) (some (10 * ix n + k)) = .ref (fz (16 + ix n) k) by show Value.ref (fz (16 + ix n) (10 * ix n + k - 10 * ix n)) = _; rw [Nat.add_sub_cancel_left]] at ih
                    refine g_iload h dX1_let_63 rfl ?_
                    refine g_aload_n (i := 3) h dX1_let_65 rfl rfl ?_
                    refine g_get (v := .ref (ad 11 (ix n))) h f_X1_297_23 (hX.1.at (cells_10 hj)) rfl dX1_let_66 ?_
                    refine g_invV h (ct_bsize h.k hX hj) hcJ2_size w_X1_81 rfl rfl (xbids hX hj) (Nat.le_of_ble_eq_true rfl) ⟨Nat.le_of_ble_eq_true rfl, Nat.le_of_ble_eq_true rfl⟩ (by refine ⟨?_, ?_⟩ <;> ((try dsimp only); omega)) dX1_let_69 (gkr_ip ?_) gkt_ip
                    refine G.int hb46 ?_
                    refine g_icmp_ge (tgt := 177) h dX1_let_72 (by decide) (fun _bz => absurd _bz (nI_ge hk (by have := (hX.2.2.1 _ hj).2.1; omega))) (fun b72 => ?_)
                    refine g_aload_n (i := 3) h dX1_let_75 rfl rfl ?_
                    refine g_get (v := .ref (ad 11 (ix n))) h f_X1_297_23 (hX.1.at (cells_10 hj)) rfl dX1_let_76 ?_
                    refine g_iload h dX1_let_79 rfl ?_
                    refine g_invV h (ct_lget h.k (hX.bids hj) (cBd_at fz hk)) hcJ2_get w_X1_162 rfl rfl (xbids hX hj) (Nat.le_of_ble_eq_true rfl) ⟨Nat.le_of_ble_eq_true rfl, Nat.le_of_ble_eq_true rfl⟩ (by refine ⟨?_, ?_⟩ <;> ((try dsimp only); omega)) dX1_let_81 (gkr_ap ?_) gkt_ap
                    refine g_castS h (hX.1.frz (hF _ k hj hk) gT_core) rfl q1639 dX1_let_84 ?_
                    refine g_astore h dX1_let_87 (by decide) ?_
                    refine g_aload h dX1_let_89 rfl ?_
                    refine g_get (v := .int (A 49 (10 * ix n + k))) h f_X1_253_29 (hX.1.frz (hF _ k hj hk) gT_core) rfl dX1_let_91 ?_
                    refine g_aload h dX1_let_94 rfl ?_
                    refine g_get (v := .int (A 48 (10 * ix n + k))) h f_X1_256_29 (hX.1.frz (hF _ k hj hk) gT_core) rfl dX1_let_96 ?_
                    refine g_icmp_lt (tgt := 141) h dX1_let_99 (by decide) (fun _bz => absurd _bz c1) (fun b99 => ?_)
                    refine g_aload_n (i := 0) h dX1_let_102 rfl rfl ?_
                    refine g_get (v := .ref (ad 2 4)) h f_X1_38_1 hX.x rfl dX1_let_103 ?_
                    refine g_aload h dX1_let_106 rfl ?_
                    refine g_get (v := .int (A 47 (10 * ix n + k))) h f_X1_194_29 (hX.1.frz (hF _ k hj hk) gT_core) rfl dX1_let_108 ?_
                    refine G.int hf47.1 ?_
                    refine g_invV h (ct_xget4 h.k hX hf47.2) hcJ2_get w_X1_162 rfl rfl (xlist4 hX) (Nat.le_of_ble_eq_true rfl) ⟨Nat.le_of_ble_eq_true rfl, Nat.le_of_ble_eq_true rfl⟩ (by refine ⟨?_, ?_⟩ <;> ((try dsimp only); omega)) dX1_let_111 (gkr_ap ?_) gkt_ap
                    refine g_castS h (hX.1.at (cells_15 hf47.2)) rfl q1527 dX1_let_114 ?_
                    refine g_get (v := .long (B 44 (ix (A 47 (10 * ix n + k))))) h f_X1_201_28 (hX.1.at (cells_15 hf47.2)) rfl dX1_let_117 ?_
                    refine g_aload h dX1_let_120 rfl ?_
                    refine g_get (v := .int (A 48 (10 * ix n + k))) h f_X1_256_29 (hX.1.frz (hF _ k hj hk) gT_core) rfl dX1_let_122 ?_
                    refine g_i2l h dX1_let_125 ?_
                    refine g_aload h dX1_let_126 rfl ?_
                    refine g_get (v := .int (A 49 (10 * ix n + k))) h f_X1_253_29 (hX.1.frz (hF _ k hj hk) gT_core) rfl dX1_let_128 ?_
                    refine g_i2l h dX1_let_131 ?_
                    refine g_ladd h dX1_let_132 ?_
                    refine g_lcmp h dX1_let_133 ?_
                    refine g_if_lt (tgt := 141) h dX1_let_134 (by decide) (fun _bz => absurd _bz (fun z => c2 (by rw [lg_cmp_lt] at z; exact z))) (fun b134 => ?_)
                    rw [lg_cmp_lt] at b134
                    refine g_iconst (v := 1) h dX1_let_137 (by decide) ?_
                    refine g_goto (tgt := 142) h dX1_let_138 (by decide) ?_
                    refine g_istore h dX1_let_142 (by decide) ?_
                    refine g_iload h dX1_let_144 rfl ?_
                    refine g_if_eq (tgt := 171) h dX1_let_146 (by decide) (fun _bz => absurd _bz (by decide)) (fun _bz => ?_)
                    refine g_aload h dX1_let_149 rfl ?_
                    refine g_ifnull h dX1_let_151 ?_
                    refine g_aload h dX1_let_154 rfl ?_
                    refine g_get (v := .int (A 48 (10 * ix n + k))) h f_X1_256_29 (hX.1.frz (hF _ k hj hk) gT_core) rfl dX1_let_156 ?_
                    refine g_aload h dX1_let_159 rfl ?_
                    refine g_get (v := .int (A 48 b)) h f_X1_256_29 (hX.1.frz hbb gT_core) rfl dX1_let_161 ?_
                    refine g_icmp_le (tgt := 171) h dX1_let_164 (by decide) (fun _bz => absurd _bz c3) (fun b164 => ?_)
                    refine g_aload h dX1_let_167 rfl ?_
                    refine g_astore h dX1_let_169 (by decide) ?_
                    first | (with_reducible refine g_iincN h dX1_let_171 rfl (by decide) ?_) | refine g_iinc1 h dX1_let_171 rfl (by decide) ?_
                    refine g_goto (tgt := 63) h dX1_let_174 (by decide) ?_
                    exact G.to ih ⟨rfl, rfl, rfl, rfl, rfl, rfl, trivial⟩
        exact G.to (loop 0 (Nat.zero_le _)) ⟨rfl, rfl, rfl, rfl, rfl, rfl, trivial⟩
      · skip
        refine g_aload_n (i := 0) h dX1_let_30 rfl rfl ?_
        refine g_get (v := .ref (ad 2 2)) h f_X1_32_1 hX.x rfl dX1_let_31 ?_
        refine g_iload_n (i := 1) h dX1_let_34 rfl rfl ?_
        refine G.int hx ?_
        refine g_invV h (ct_xget2 h.k hX hj) hcJ2_get w_X1_162 rfl rfl (xlist2 hX) (Nat.le_of_ble_eq_true rfl) ⟨Nat.le_of_ble_eq_true rfl, Nat.le_of_ble_eq_true rfl⟩ (by refine ⟨?_, ?_⟩ <;> first | exact Nat.le_refl _ | exact Nat.zero_le _ | (dsimp only; omega)) dX1_let_35 (gkr_ap ?_) gkt_ap
        refine g_castS h (hX.1.at (cells_10 hj)) rfl q1261 dX1_let_38 ?_
        refine g_astore_n (i := 3) h dX1_let_41 rfl (by decide) ?_
        refine g_aload_n (i := 3) h dX1_let_42 rfl rfl ?_
        refine g_get (v := cLe fz A (ix n)) h f_X1_190_23 (hX.1.at (cells_10 hj)) rfl dX1_let_43 ?_
        rw [show cLe fz A (ix n) = .ref (fz 2 (ix n)) from if_neg hz]
        refine g_ifnonnull (tgt := 53) h dX1_let_46 (by decide) ?_
        refine g_iconst (v := 0) h dX1_let_53 (by decide) ?_
        refine g_invS h (ct_rightX h.k false hts) hcX1_right w_X1_85 rfl rfl (Nat.le_of_ble_eq_true rfl) ⟨Nat.le_of_ble_eq_true rfl, Nat.le_of_ble_eq_true rfl⟩ (by refine ⟨?_, ?_⟩ <;> ((try dsimp only); omega)) dX1_let_54 (gkr_gd (fun hb => absurd hb (by decide))) (gkt_gd (fun _ a e ha => ?_))
        refine gt_out h (fun q hq => by cases hq) ?_ (by (try dsimp only); omega) (by (try dsimp only); omega)
        exact pCx_t (n := 3) (by have z1 : ¬ q < 1 := (by simpa using b13); have z2 : q ≤ 40 := (by simpa using b19); rw [let_h bz8]; simp [z1, z2, hz]) (by decide) rfl ⟨a, e, rfl, ha, rfl⟩
