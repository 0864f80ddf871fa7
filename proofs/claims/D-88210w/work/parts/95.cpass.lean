/-! THE COMPONENT: pass -/
set_option maxRecDepth 100000
section CRP
variable {c0 c : gLH} {ad cp fz : Nat → Nat → Nat} {md : Nat → Nat → Int32} {S : Nat → List Value} {U : Nat → Nat → Int64} {A : Nat → Nat → Int32} {B : Nat → Nat → Int64}
theorem c8_s (x : Nat → Int32) {t j : Nat} (v : Int32) (hj : j < 8) : c8 (upd x (8 * t + j) v) t = upd (c8 x t) j v := by
  funext i
  unfold c8 upd
  by_cases h : i = j
  · subst h
    simp [hj]
  · by_cases h8 : i < 8
    · rw [if_pos h8, if_neg (by omega), if_neg h]
      exact (if_pos h8).symm
    · rw [if_neg h8, if_neg h]
      exact (if_neg h8).symm
theorem c8_n (x : Nat → Int32) {t t' j : Nat} (v : Int32) (hj : j < 8) (h : t' ≠ t) : c8 (upd x (8 * t + j) v) t' = c8 x t' := by
  funext i
  unfold c8 upd
  by_cases h8 : i < 8
  · rw [if_pos h8, if_neg (by omega), if_pos h8]
  · rw [if_neg h8, if_neg h8]
theorem cx_23_u {k' : Nat} (h : k' ≠ 13) : cUse k' 23 = false := by
  unfold cUse
  split <;> first | rfl | exact absurd rfl h
theorem cx_23_eq {i j : Nat} (hi : i < cn A 3) (hj : j < 8) (v : Int32) : cells ad cp fz md S U (mA A 23 (8 * i + j) v) B = up2 (cells ad cp fz md S U A B) 13 i (some (.inl (0, 8, .inl (upd (c8 (A 23) i) j v)))) := by
  refine up2_of ((if_pos (show i < cn (mA A 23 (8 * i + j) v) 3 from hi)).trans (by simp only [mA_s, c8_s _ _ hj])) (fun k' i' hne => ?_)
  by_cases hk : k' = 13
  · subst hk
    have hne' : i' ≠ i := fun e => hne ⟨rfl, e⟩
    show (if i' < cn (mA A 23 (8 * i + j) v) 3 then _ else _) = (if i' < cn A 3 then _ else _)
    rw [show cn (mA A 23 (8 * i + j) v) 3 = cn A 3 from rfl]
    congr 2
    simp only [mA_s, c8_n _ _ hj hne']
  · exact cells_mA _ _ _ (cx_23_u hk)
theorem cx_24_u {k' : Nat} (h : k' ≠ 14) : cUse k' 24 = false := by
  unfold cUse
  split <;> first | rfl | exact absurd rfl h
theorem cx_24_eq {i j : Nat} (hi : i < cn A 3) (hj : j < 8) (v : Int32) : cells ad cp fz md S U (mA A 24 (8 * i + j) v) B = up2 (cells ad cp fz md S U A B) 14 i (some (.inl (0, 8, .inl (upd (c8 (A 24) i) j v)))) := by
  refine up2_of ((if_pos (show i < cn (mA A 24 (8 * i + j) v) 3 from hi)).trans (by simp only [mA_s, c8_s _ _ hj])) (fun k' i' hne => ?_)
  by_cases hk : k' = 14
  · subst hk
    have hne' : i' ≠ i := fun e => hne ⟨rfl, e⟩
    show (if i' < cn (mA A 24 (8 * i + j) v) 3 then _ else _) = (if i' < cn A 3 then _ else _)
    rw [show cn (mA A 24 (8 * i + j) v) 3 = cn A 3 from rfl]
    congr 2
    simp only [mA_s, c8_n _ _ hj hne']
  · exact cells_mA _ _ _ (cx_24_u hk)
end CRP
section CRQ
variable {φ : gFx} {Q : State → Prop} {pc : Nat} {lv : List (Nat × Value)} {st : List Value} {ce sl : Nat} {l : Launch} {g : gGP} {R : Room} {cc : ByteArray} {nL : Nat} {own mn : String} {ret : Option FieldType} {tbl : List (Nat × Nat × Nat × Nat)} {idx : Nat} {c0 c : gLH} {ad cp fz : Nat → Nat → Nat} {md : Nat → Nat → Int32} {S : Nat → List Value} {U : Nat → Nat → Int64} {A : Nat → Nat → Int32} {B : Nat → Nat → Int64}
theorem x_ast23 (h : gOK φ l g R cc nL own mn ret tbl) (hX : CW c0 ad cp fz md S U A B c) {i j : Nat} (hi : i < cn A 3) (hj : j < 8) {v : Int32} (hd : decode cc pc = .ok (.iastore, 1)) (kk : ∀ c : gLH, CW c0 ad cp fz md S U (mA A 23 (8 * i + j) v) B c → G φ Q (pc + 1) lv st c ce sl) : G φ Q pc lv (.int v :: .int (nI j) :: .ref (ad 13 i) :: st) c ce sl := g_iastN h (hX.1.at (cells_13 hi)) (hX.1.sb (cells_13 hi)) hj (by decide) hd (kk _ (hX.set (cells_13 hi) (cx_23_eq hi hj v) (CI_mA _ _ (by unfold cFree; decide) hX.2)))
theorem x_ast24 (h : gOK φ l g R cc nL own mn ret tbl) (hX : CW c0 ad cp fz md S U A B c) {i j : Nat} (hi : i < cn A 3) (hj : j < 8) {v : Int32} (hd : decode cc pc = .ok (.iastore, 1)) (kk : ∀ c : gLH, CW c0 ad cp fz md S U (mA A 24 (8 * i + j) v) B c → G φ Q (pc + 1) lv st c ce sl) : G φ Q pc lv (.int v :: .int (nI j) :: .ref (ad 14 i) :: st) c ce sl := g_iastN h (hX.1.at (cells_14 hi)) (hX.1.sb (cells_14 hi)) hj (by decide) hd (kk _ (hX.set (cells_14 hi) (cx_24_eq hi hj v) (CI_mA _ _ (by unfold cFree; decide) hX.2)))
theorem wu_X1w_25 : gWU RX1 217 25 ⟨"TurnpikeTrust$Traveller", "wear", "()I"⟩ yX25_wear "TurnpikeTrust$Traveller" hwX25_wear 0 := ⟨⟨_, rfl, q1546⟩, q1533, q1535, Or.inl q1534, ⟨by decide +kernel, by decide +kernel⟩, q1547, q111, q1548, by decide +kernel⟩
theorem wu_X1w_26 : gWU RX1 217 26 ⟨"TurnpikeTrust$Traveller", "wear", "()I"⟩ yX26_wear "TurnpikeTrust$Traveller" hwX26_wear 0 := ⟨⟨_, rfl, q1543⟩, q1533, q1535, Or.inl q1534, ⟨by decide +kernel, by decide +kernel⟩, q1544, q112, q1545, by decide +kernel⟩
theorem wu_X1w_27 : gWU RX1 217 27 ⟨"TurnpikeTrust$Traveller", "wear", "()I"⟩ yX27_wear "TurnpikeTrust$Traveller" hwX27_wear 0 := ⟨⟨_, rfl, q1536⟩, q1533, q1535, Or.inl q1534, ⟨by decide +kernel, by decide +kernel⟩, q1537, q113, q1538, by decide +kernel⟩
def wI (k w b : Int32) : Int32 := if k < 3 then tWh k w else if k = 4 ∨ k = 5 then (if k = 4 then b else b / 4) else if k = 3 then 1 else 0
theorem x_wear (h : gOK φ l g R cc nL RX1 mn ret tbl) {a r : Nat} {a0 a1 a2 a3 k : Int32} {p1 p2 : Value} (hc : c a = some (r, .inr (tCl k, [.int a0, .int a1, .int a2, .int a3, p1, p2, .int k]))) (hcat : (st.map fun v => v.category).sum ≤ 8) (hR : 2 ≤ R.frames ∧ 80 ≤ R.locals) (hS : ce ≤ R.cells ∧ sl ≤ R.slots) (hd : decode cc pc = .ok (.invokevirtual 217, 3)) (kk : G φ Q (pc + 3) lv (.int (wI k a1 a2) :: st) c ce sl) : G φ Q pc lv (.ref a :: st) c ce sl := by
  by_cases h3 : k < 3
  · rw [show tCl k = 25 from if_pos h3] at hc
    rw [show wI k a1 a2 = tWh k a1 from if_pos h3] at kk
    exact g_invU h (ct_X25wear h.k hc) hcX25_wear wu_X1w_25 rfl rfl hc hcat ⟨by (try dsimp only); omega, by (try dsimp only); omega⟩ ⟨by (try dsimp only); omega, by (try dsimp only); omega⟩ hd (gkr_ip kk) gkt_ip
  · by_cases h4 : k = 4 ∨ k = 5
    · rw [show tCl k = 27 from (if_neg h3).trans (if_pos h4)] at hc
      rw [show wI k a1 a2 = (if k = 4 then a2 else a2 / 4) from (if_neg h3).trans (if_pos h4)] at kk
      exact g_invU h (ct_X27wear h.k hc) hcX27_wear wu_X1w_27 rfl rfl hc hcat ⟨by (try dsimp only); omega, by (try dsimp only); omega⟩ ⟨by (try dsimp only); omega, by (try dsimp only); omega⟩ hd (gkr_ip kk) gkt_ip
    · rw [show tCl k = 26 from (if_neg h3).trans (if_neg h4)] at hc
      rw [show wI k a1 a2 = (if k = 3 then 1 else 0) from (if_neg h3).trans (if_neg h4)] at kk
      exact g_invU h (ct_X26wear h.k hc) hcX26_wear wu_X1w_26 rfl rfl hc hcat ⟨by (try dsimp only); omega, by (try dsimp only); omega⟩ ⟨by (try dsimp only); omega, by (try dsimp only); omega⟩ hd (gkr_ip kk) gkt_ip
end CRQ
theorem sWear_I (A : Nat → Nat → Int32) (t : Nat) : (wI (A 19 t) (A 20 t) (A 21 t)).toInt64 = sWear A t := by
  unfold wI sWear tWh
  by_cases h3 : 3 ≤ A 19 t
  · have h3' : ¬ A 19 t < 3 := Int32.not_lt.mpr h3
    rw [if_pos h3, if_neg h3']
    by_cases h4 : A 19 t = 4
    · rw [h4]; simp
    · by_cases h5 : A 19 t = 5
      · rw [h5]; simp
      · by_cases h6 : A 19 t = 3
        · rw [h6]; rfl
        · simp [h4, h5, h6]
  · have h3' : A 19 t < 3 := Int32.not_le.mp h3
    rw [if_neg h3, if_pos h3']
    by_cases h0 : A 19 t = 0
    · rw [if_pos h0, if_pos h0]
      by_cases h6 : 6 ≤ A 20 t
      · rw [if_pos h6, if_pos h6]; rfl
      · rw [if_neg h6, if_neg h6]; rfl
    · rw [if_neg h0, if_neg h0]
      by_cases h1 : A 19 t = 1
      · rw [if_pos h1, if_pos h1]
        by_cases h6 : 6 ≤ A 20 t
        · rw [if_pos h6, if_pos h6]; rfl
        · rw [if_neg h6, if_neg h6]; rfl
      · rw [if_neg h1, if_neg h1]
        by_cases h6 : 6 ≤ A 20 t
        · rw [if_pos h6, if_pos h6]; rfl
        · rw [if_neg h6, if_neg h6]; rfl
theorem mB_comm (B : Nat → Nat → Int64) {k k' : Nat} (j j' : Nat) (x x' : Int64) (h : k ≠ k') : mB (mB B k j x) k' j' x' = mB (mB B k' j' x') k j x := by
  unfold mB
  rw [va_up_n _ _ (Ne.symm h), va_up_n _ _ h, va_up_comm _ _ _ h]
theorem mA_comm (A : Nat → Nat → Int32) {k k' : Nat} (j j' : Nat) (x x' : Int32) (h : k ≠ k') : mA (mA A k j x) k' j' x' = mA (mA A k' j' x') k j x := by
  unfold mA
  rw [va_up_n _ _ (Ne.symm h), va_up_n _ _ h, va_up_comm _ _ _ h]
theorem mB_id (B : Nat → Nat → Int64) (k j : Nat) : mB B k j (B k j) = B := by
  unfold mB
  rw [show vp_updL (B k) j (B k j) = B k by funext i; unfold vp_updL; split; rename_i h; rw [h]; rfl, vu_self]
theorem sLineA_30 (X : Nat → Nat → Int32) (nl : Nat) (kind who : Int32) (sum : Int64) (u : Nat) (v : Int32) : sLineA (mA X 30 u v) nl kind who sum = mA (sLineA X nl kind who sum) 30 u v := by
  unfold sLineA
  rw [mA_n X u v (show (32 : Nat) ≠ 30 by decide)]
  rw [mA_comm X u nl v (X 32 0) (show (30 : Nat) ≠ 38 by decide), mA_comm _ u nl v kind (show (30 : Nat) ≠ 39 by decide), mA_comm _ u nl v who (show (30 : Nat) ≠ 40 by decide), mA_comm _ u nl v _ (show (30 : Nat) ≠ 41 by decide), mA_comm _ u 0 v _ (show (30 : Nat) ≠ 42 by decide)]
theorem pass_A0 (A : Nat → Nat → Int32) {t u : Nat} {r v : Int32} (h : v ≤ 0) : sPass1 (mA A 35 0 r) t u v = mA (mA (mA (mA A 35 0 r) 37 0 r) 23 (8 * t + u) (A 32 0)) 30 u (A 30 u + 1) := by
  unfold sPass1 sPass0
  rw [if_pos h, mA_rd, mA_n A (k := 35) (i := 32) 0 r (by decide), mA_n A (k := 35) (i := 30) 0 r (by decide)]
theorem pass_A1 (A : Nat → Nat → Int32) {t u : Nat} {r v : Int32} (h : ¬ v ≤ 0) : sPass1 (mA A 35 0 r) t u v = mA (mA (mA (mA (mA A 35 0 r) 37 0 r) 23 (8 * t + u) (A 32 0)) 24 (8 * t + u) (A 32 0)) 30 u (A 30 u + 1) := by
  unfold sPass1 sPass0
  rw [if_neg h, mA_rd, mA_n A (k := 35) (i := 32) 0 r (by decide), mA_n A (k := 35) (i := 30) 0 r (by decide)]
/-- the wear of a pass -/
def pWr (A : Nat → Nat → Int32) (t : Nat) : Int64 := if A 33 0 ≤ 0 then sWear A t else 2 * sWear A t
theorem pass_B1 (A : Nat → Nat → Int32) (B : Nat → Nat → Int64) (t u : Nat) (r : Int32) : sPassB1 (mA A 35 0 r) B t u = mB B 27 (ix (A 29 u)) (B 27 (ix (A 29 u)) + pWr A t) := by
  unfold sPassB1 pWr sWear
  rw [mA_n A (k := 35) (i := 29) 0 r (by decide), mA_n A (k := 35) (i := 33) 0 r (by decide), mA_n A (k := 35) (i := 19) 0 r (by decide), mA_n A (k := 35) (i := 20) 0 r (by decide), mA_n A (k := 35) (i := 21) 0 r (by decide)]
theorem pass_C (A : Nat → Nat → Int32) (u : Nat) (r v : Int32) : sPassC (mA A 35 0 r) u v = sPassC A u v := by
  unfold sPassC
  rw [mA_n A (k := 35) (i := 50) 0 r (by decide)]
theorem pass_B0 (A : Nat → Nat → Int32) (B : Nat → Nat → Int64) (t u : Nat) (r : Int32) {v : Int32} (hv : v ≤ 0) (h0 : 0 ≤ v.toInt) : sPassB (mA A 35 0 r) B t u v = sPassB1 (mA A 35 0 r) B t u := by
  have e : v = 0 := by
    rw [Int32.le_iff_toInt_le] at hv
    refine Int32.toInt_inj.mp ?_
    have : (0 : Int32).toInt = 0 := rfl
    omega
  unfold sPassB
  rw [pass_C]
  by_cases hz : A 50 u < 0
  · rw [show sPassC A u v = 0 by simp [sPassC, hz, hv], if_neg (by decide), if_neg (by decide)]
  · rw [show sPassC A u v = 2 by simp [sPassC, hz], if_neg (by decide), if_pos rfl, e, show ((0 : Int32)).toInt64 = 0 from rfl, Int64.add_zero, pass_B1]
    conv => lhs; rw [← mB_n B (k := 27) (i := 44) (ix (A 29 u)) (B 27 (ix (A 29 u)) + pWr A t) (by decide), mB_id]
theorem pass_B2 (A : Nat → Nat → Int32) (B : Nat → Nat → Int64) (t u : Nat) (r v : Int32) (hz : ¬ A 50 u < 0) : sPassB (mA A 35 0 r) B t u v = mB (sPassB1 (mA A 35 0 r) B t u) 44 (ix (A 50 u)) (B 44 (ix (A 50 u)) + v.toInt64) := by
  unfold sPassB
  rw [pass_C, show sPassC A u v = 2 by simp [sPassC, hz], if_neg (by decide), if_pos rfl, mA_n A (k := 35) (i := 50) 0 r (by decide)]
/-- the journal's room behind a pass -/
def cPl (A : Nat → Nat → Int32) (u nl L : Nat) (v : Int32) : Nat := if sPassC A u v = 1 then cN L nl else L
theorem l_pos {v : Int32} : v.toInt64 ≤ 0 ↔ v ≤ 0 := by
  rw [Int64.le_iff_toInt_le, Int32.le_iff_toInt_le, Int32.toInt_toInt64]
  rfl
theorem isp_0 {A : Nat → Nat → Int32} {t u : Int32} (h2 : ¬ t < 0 ∧ t < A 25 0) (h3 : ¬ u < 0 ∧ u < A 31 0) : sIsPass A t u = true := by
  have n2 : ¬ A 25 0 ≤ t := Int32.not_le.mpr h2.2
  have n3 : ¬ A 31 0 ≤ u := Int32.not_le.mpr h3.2
  simp [sIsPass, h2.1, n2, h3.1, n3]
theorem isp_1 {A : Nat → Nat → Int32} {t u : Int32} (h : (t < 0 ∨ ¬ t < A 25 0) ∨ (u < 0 ∨ ¬ u < A 31 0)) : ¬ sIsPass A t u = true := by
  unfold sIsPass
  rcases h with (h | h) | (h | h)
  · simp [h]
  · have := Int32.not_lt.mp h
    simp [this]
  · simp [h]
  · have := Int32.not_lt.mp h
    simp [this]
theorem cx_pass {l : Launch} {g : gGP} (hk : gK l g) {c0 c : gLH} {ad cp fz : Nat → Nat → Nat} {md : Nat → Nat → Int32} {S : Nat → List Value} {U : Nat → Nat → Int64} {A : Nat → Nat → Int32} {B : Nat → Nat → Int64} (hX : CW c0 ad cp fz md S U A B c) (t u : Int32) (hSk : SOk S) (hT : FT ad fz A c0) (hA : FA fz A c0) (hbt : ∀ t, t < cn A 3 → 0 ≤ (A 21 t).toInt ∧ (A 21 t).toInt ≤ 10000) (hpa : ∀ t, t < cn A 3 → ∀ g, cn A 2 ≤ g → g < 8 → A 24 (8 * t + g) ≠ A 32 0) (hL : FL fz A c0) (hgt : ∀ j, j < cn A 2 → A 29 j = nI (ix (A 29 j)) ∧ ix (A 29 j) < cn A 1) (hls : ∀ j, j < cn A 2 → ¬ A 50 j < 0 → A 50 j = nI (ix (A 50 j)) ∧ ix (A 50 j) < cn A 4) {nl : Nat} (hnl : A 42 0 = nI nl) (h2 : nl < 400000) (hL2 : 2 * cp 8 0 < 4000000) (hts : gTS g) : Ct l g yX1_pass hwX1_pass 77 3080 [.ref (ad 0 0), .int t, .int u] c (8 + (cPl A (ix u) nl (cp 8 0) (sToll A (ix t) (ix u) (cn A 2) (sForce (A 9) (A 32 0) (cn A 0))).1 - cp 8 0)) (48 + 2 * (cPl A (ix u) nl (cp 8 0) (sToll A (ix t) (ix u) (cn A 2) (sForce (A 9) (A 32 0) (cn A 0))).1 - cp 8 0)) (pCx (if sIsPass A t u = true then 0 else 1) eBS c (pI (sToll A (ix t) (ix u) (cn A 2) (sForce (A 9) (A 32 0) (cn A 0))).1 (fun c' => ∃ q S U, SOk S ∧ CW c0 (up2 ad 8 0 q) (up2 cp 8 0 (cPl A (ix u) nl (cp 8 0) (sToll A (ix t) (ix u) (cn A 2) (sForce (A 9) (A 32 0) (cn A 0))).1)) fz md S U (sPassA (mA A 35 0 (sToll A (ix t) (ix u) (cn A 2) (sForce (A 9) (A 32 0) (cn A 0))).2) (ix t) (ix u) nl (sToll A (ix t) (ix u) (cn A 2) (sForce (A 9) (A 32 0) (cn A 0))).1) (sPassB (mA A 35 0 (sToll A (ix t) (ix u) (cn A 2) (sForce (A 9) (A 32 0) (cn A 0))).2) B (ix t) (ix u) (sToll A (ix t) (ix u) (cn A 2) (sForce (A 9) (A 32 0) (cn A 0))).1) c'))) := by
  refine Ct.intro hk hcX1_pass (by decide +kernel) (Nat.le_of_ble_eq_true rfl) (fun φ h => ?_)
  refine g_iload_n (i := 1) h dX1_pass_0 rfl rfl ?_
  refine g_aload_n (i := 0) h dX1_pass_1 rfl rfl ?_
  refine g_get (v := .ref (ad 2 3)) h f_X1_35_1 hX.x rfl dX1_pass_2 ?_
  refine g_invV h (ct_xsize3 h.k hX) hcJ2_size w_X1_81 rfl rfl (xlist3 hX) (Nat.le_of_ble_eq_true rfl) ⟨Nat.le_of_ble_eq_true rfl, Nat.le_of_ble_eq_true rfl⟩ (by refine ⟨?_, ?_⟩ <;> first | exact Nat.le_refl _ | exact Nat.zero_le _ | (dsimp only; omega)) dX1_pass_5 (gkr_ip ?_) gkt_ip
  refine g_invS h (ct_thereX h.k _ _ hts) hcX1_there w_X1_112 rfl rfl (Nat.le_of_ble_eq_true rfl) ⟨Nat.le_of_ble_eq_true rfl, Nat.le_of_ble_eq_true rfl⟩ (by refine ⟨?_, ?_⟩ <;> ((try dsimp only); omega)) dX1_pass_8 (gkr_gd (fun b8 => ?_)) (gkt_gd (fun b8 a e ha => ?_))
  rotate_left 1
  · refine gt_out h (fun q hq => by cases hq) ?_ (by (try dsimp only); omega) (by (try dsimp only); omega)
    exact pCx_t (n := 1) (by exact if_neg (isp_1 (Or.inl (sNo_ge b8)))) (by decide) rfl ⟨a, e, rfl, ha, rfl⟩
  have hX0 := hX
  have bz8 := sNo_lt b8
  obtain ⟨hjt, hxt⟩ := there_ix b8 (hX.cnt (i := 3) (by decide)).1 (hX.cnt (i := 3) (by decide)).2.2
  refine g_iload_n (i := 2) h dX1_pass_11 rfl rfl ?_
  refine g_aload_n (i := 0) h dX1_pass_12 rfl rfl ?_
  refine g_get (v := .ref (ad 2 2)) h f_X1_32_1 hX.x rfl dX1_pass_13 ?_
  refine g_invV h (ct_xsize2 h.k hX) hcJ2_size w_X1_81 rfl rfl (xlist2 hX) (Nat.le_of_ble_eq_true rfl) ⟨Nat.le_of_ble_eq_true rfl, Nat.le_of_ble_eq_true rfl⟩ (by refine ⟨?_, ?_⟩ <;> first | exact Nat.le_refl _ | exact Nat.zero_le _ | (dsimp only; omega)) dX1_pass_16 (gkr_ip ?_) gkt_ip
  refine g_invS h (ct_thereX h.k _ _ hts) hcX1_there w_X1_112 rfl rfl (Nat.le_of_ble_eq_true rfl) ⟨Nat.le_of_ble_eq_true rfl, Nat.le_of_ble_eq_true rfl⟩ (by refine ⟨?_, ?_⟩ <;> ((try dsimp only); omega)) dX1_pass_19 (gkr_gd (fun b19 => ?_)) (gkt_gd (fun b19 a e ha => ?_))
  rotate_left 1
  · refine gt_out h (fun q hq => by cases hq) ?_ (by (try dsimp only); omega) (by (try dsimp only); omega)
    exact pCx_t (n := 1) (by exact if_neg (isp_1 (Or.inr (sNo_ge b19)))) (by decide) rfl ⟨a, e, rfl, ha, rfl⟩
  have bz19 := sNo_lt b19
  obtain ⟨hju, hxu⟩ := there_ix b19 (hX.cnt (i := 2) (by decide)).1 (hX.cnt (i := 2) (by decide)).2.2
  refine g_aload_n (i := 0) h dX1_pass_22 rfl rfl ?_
  refine g_get (v := .ref (ad 2 3)) h f_X1_35_1 hX.x rfl dX1_pass_23 ?_
  refine g_iload_n (i := 1) h dX1_pass_26 rfl rfl ?_
  refine G.int hxt ?_
  refine g_invV h (ct_xget3 h.k hX hjt) hcJ2_get w_X1_162 rfl rfl (xlist3 hX) (Nat.le_of_ble_eq_true rfl) ⟨Nat.le_of_ble_eq_true rfl, Nat.le_of_ble_eq_true rfl⟩ (by refine ⟨?_, ?_⟩ <;> first | exact Nat.le_refl _ | exact Nat.zero_le _ | (dsimp only; omega)) dX1_pass_27 (gkr_ap ?_) gkt_ap
  refine x_castT h (hX.1.frz (hT _ hjt) gT_core) dX1_pass_30 ?_
  refine g_astore_n (i := 3) h dX1_pass_33 rfl (by decide) ?_
  refine g_aload_n (i := 0) h dX1_pass_34 rfl rfl ?_
  refine g_get (v := .ref (ad 2 2)) h f_X1_32_1 hX.x rfl dX1_pass_35 ?_
  refine g_iload_n (i := 2) h dX1_pass_38 rfl rfl ?_
  refine G.int hxu ?_
  refine g_invV h (ct_xget2 h.k hX hju) hcJ2_get w_X1_162 rfl rfl (xlist2 hX) (Nat.le_of_ble_eq_true rfl) ⟨Nat.le_of_ble_eq_true rfl, Nat.le_of_ble_eq_true rfl⟩ (by refine ⟨?_, ?_⟩ <;> first | exact Nat.le_refl _ | exact Nat.zero_le _ | (dsimp only; omega)) dX1_pass_39 (gkr_ap ?_) gkt_ap
  refine g_castS h (hX.1.at (cells_10 hju)) rfl q1261 dX1_pass_42 ?_
  refine g_astore h dX1_pass_45 (by decide) ?_
  refine g_aload_n (i := 0) h dX1_pass_47 rfl rfl ?_
  refine g_aload_n (i := 0) h dX1_pass_48 rfl rfl ?_
  refine g_aload_n (i := 0) h dX1_pass_49 rfl rfl ?_
  refine g_get (v := .int (A 32 0)) h f_X1_137_1 hX.x rfl dX1_pass_50 ?_
  refine g_invV h (cx_inForce h.k hX (A 32 0) hA.fd) hcX1_inForce w_X1_175 rfl rfl hX.x (Nat.le_of_ble_eq_true rfl) ⟨Nat.le_of_ble_eq_true rfl, Nat.le_of_ble_eq_true rfl⟩ (by refine ⟨?_, ?_⟩ <;> ((try dsimp only); omega)) dX1_pass_53 (gkr_ip ?_) gkt_ip
  refine g_aload_n (i := 3) h dX1_pass_56 rfl rfl ?_
  refine g_aload h dX1_pass_57 rfl ?_
  refine g_invV h (cx_reckon (t := ix t) (u := ix u) (a := sForce (A 9) (A 32 0) (cn A 0)) h.k hX hjt hju hSk hT hA (fun a2 e => sForce_lt e) (hbt _ hjt) (hpa _ hjt)) hcX1_reckon w_X1_179 rfl rfl hX.x (Nat.le_of_ble_eq_true rfl) ⟨Nat.le_of_ble_eq_true rfl, Nat.le_of_ble_eq_true rfl⟩ (by refine ⟨?_, ?_⟩ <;> ((try dsimp only); omega)) dX1_pass_59 (gkr_v (fun c hX => ?_)) gkt_v
  have hK : (if sIsPass A t u = true then 0 else 1) = 0 := if_pos (isp_0 bz8 bz19)
  have hu8 : ix u < 8 := Nat.lt_of_lt_of_le hju (hX0.cnt (i := 2) (by decide)).2.1
  obtain ⟨r, hr⟩ : ∃ r, sToll A (ix t) (ix u) (cn A 2) (sForce (A 9) (A 32 0) (cn A 0)) = r := ⟨_, rfl⟩
  rw [hr] at hX ⊢
  obtain ⟨S', U', n, o, al, hb, ab, hS4, hr0, hX⟩ := hX
  have hSO : SOk (va_up S' 1 (rF n o al r.2 r.1.toInt64 hb ab)) := ⟨by rw [vS_0]; exact hS4, by rw [va_up_s]; rfl⟩
  replace hX := hX.free (kk := 35) 0 r.2 (by intro k; unfold cUse; split <;> rfl) (by unfold cFree; decide)
  obtain ⟨hs29, hs1⟩ := hgt _ hju
  refine G.up (ce' := 8) (sl' := 48) (by decide) (by decide) ?_
  by_cases hv : r.1 ≤ 0
  · have hC : ¬ sPassC A (ix u) r.1 = 1 := by unfold sPassC; split <;> simp [hv]
    refine g_aload_n (i := 0) h dX1_pass_62 rfl rfl ?_
    refine g_aload_n (i := 0) h dX1_pass_63 rfl rfl ?_
    refine g_get (v := .ref (ad 5 0)) h f_X1_54_1 hX.x rfl dX1_pass_64 ?_
    refine g_get (v := .int r.2) h f_X1_183_3 (x_rk hX) rfl dX1_pass_67 ?_
    refine x_put37 h hX fp_X1_17_1 rfl rfl dX1_pass_70 (fun c hX => ?_)
    refine g_aload_n (i := 0) h dX1_pass_73 rfl rfl ?_
    refine g_get (v := .ref (ad 5 0)) h f_X1_54_1 hX.x rfl dX1_pass_74 ?_
    refine g_get (v := .long r.1.toInt64) h f_X1_186_3 (x_rk hX) rfl dX1_pass_77 ?_
    refine g_lstore h dX1_pass_80 (by decide) ?_
    refine g_aload_n (i := 3) h dX1_pass_82 rfl rfl ?_
    refine g_get (v := .ref (ad 13 (ix t))) h (fT_X1_155 _) (hX.1.frz (hT _ hjt) gT_core) rfl dX1_pass_83 ?_
    refine g_iload_n (i := 2) h dX1_pass_86 rfl rfl ?_
    refine G.int hxu ?_
    refine g_aload_n (i := 0) h dX1_pass_87 rfl rfl ?_
    refine g_get (v := .int (A 32 0)) h f_X1_137_1 hX.x rfl dX1_pass_88 ?_
    refine x_ast23 h hX hjt hu8 dX1_pass_91 (fun c hX => ?_)
    refine g_lload h dX1_pass_92 rfl ?_
    refine g_lconst (v := 0) h dX1_pass_94 (by decide) ?_
    refine g_lcmp h dX1_pass_95 ?_
    refine g_if_le (tgt := 156) h dX1_pass_96 (by decide) (fun b96 => ?_) (fun _bz => absurd _bz (fun q => q (by rw [lg_cmp_le]; exact l_pos.mpr hv)))
    rw [lg_cmp_le] at b96
    refine g_aload h dX1_pass_156 rfl ?_
    refine g_dup h dX1_pass_158 rfl ?_
    refine g_get (v := .int (A 30 (ix u))) h f_X1_208_23 (hX.1.at (cells_10 hju)) rfl dX1_pass_159 ?_
    refine g_iconst (v := 1) h dX1_pass_162 (by decide) ?_
    first | (with_reducible refine g_iaddN h dX1_pass_163 ?_) | refine g_iadd h dX1_pass_163 ?_
    refine x_put30  h hX hju fp_X1_208_23 rfl rfl dX1_pass_164 (fun c hX => ?_)
    refine g_aload_n (i := 0) h dX1_pass_167 rfl rfl ?_
    refine g_get (v := .ref (ad 2 1)) h f_X1_29_1 hX.x rfl dX1_pass_168 ?_
    refine g_aload h dX1_pass_171 rfl ?_
    refine g_get (v := .int (A 29 (ix u))) h f_X1_211_23 (hX.1.at (cells_10 hju)) rfl dX1_pass_173 ?_
    refine G.int hs29 ?_
    refine g_invV h (ct_xget1 h.k hX hs1) hcJ2_get w_X1_162 rfl rfl (xlist1 hX) (Nat.le_of_ble_eq_true rfl) ⟨Nat.le_of_ble_eq_true rfl, Nat.le_of_ble_eq_true rfl⟩ (by refine ⟨?_, ?_⟩ <;> first | exact Nat.le_refl _ | exact Nat.zero_le _ | (dsimp only; omega)) dX1_pass_176 (gkr_ap ?_) gkt_ap
    refine g_castS h (hX.1.at (cells_9 hs1)) rfl q1202 dX1_pass_179 ?_
    refine g_dup h dX1_pass_182 rfl ?_
    refine g_get (v := .long (B 27 (ix (A 29 (ix u))))) h f_X1_214_22 (hX.1.at (cells_9 hs1)) rfl dX1_pass_183 ?_
    refine g_aload_n (i := 3) h dX1_pass_186 rfl rfl ?_
    refine x_wear h (hX.1.frz (hT _ hjt) gT_core) (Nat.le_of_ble_eq_true rfl) ⟨Nat.le_of_ble_eq_true rfl, Nat.le_of_ble_eq_true rfl⟩ ⟨by (try dsimp only); omega, by (try dsimp only); omega⟩ dX1_pass_187 ?_
    refine g_i2l h dX1_pass_190 ?_
    refine g_aload_n (i := 0) h dX1_pass_191 rfl rfl ?_
    refine g_get (v := .int (A 33 0)) h f_X1_219_1 hX.x rfl dX1_pass_192 ?_
    refine g_if_le (tgt := 202) h dX1_pass_195 (by decide) (fun b195 => ?_) (fun b195 => ?_)
    · refine g_iconst (v := 1) h dX1_pass_202 (by decide) ?_
      refine g_i2l h dX1_pass_203 ?_
      refine g_lmul h dX1_pass_204 ?_
      refine g_ladd h dX1_pass_205 ?_
      refine G.long (show _ = B 27 (ix (A 29 (ix u))) + pWr A (ix t) by rw [sWear_I]; simp only [pWr, b195, if_true, if_false]; first | rw [show ((1 : Int32)).toInt64 = 1 from rfl, Int64.mul_one] | rw [show ((2 : Int32)).toInt64 = 2 from rfl, Int64.mul_comm]) ?_
      refine x_put27  h hX hs1 fp_X1_214_22 rfl rfl dX1_pass_206 (fun c hX => ?_)
      refine g_lload h dX1_pass_209 rfl ?_
      refine g_l2i h dX1_pass_211 ?_
      exact g_iret h (pCx_0 hK ⟨by rw [Int32.toInt32_toInt64], ad 8 0, by rw [show cPl A (ix u) nl (cp 8 0) r.1 = cp 8 0 from if_neg hC, up2_id, up2_id]; refine ⟨_, U', hSO, ?_⟩; rw [show sPassA (mA A 35 0 r.2) (ix t) (ix u) nl r.1 = _ from if_neg (by rw [pass_C]; exact hC), pass_A0 A hv]; rw [pass_B0 A B (ix t) (ix u) r.2 hv hr0, pass_B1]; exact hX⟩) (by (try dsimp only); omega) (by (try dsimp only); omega) dX1_pass_212
    · refine g_iconst (v := 2) h dX1_pass_198 (by decide) ?_
      refine g_goto (tgt := 203) h dX1_pass_199 (by decide) ?_
      refine g_i2l h dX1_pass_203 ?_
      refine g_lmul h dX1_pass_204 ?_
      refine g_ladd h dX1_pass_205 ?_
      refine G.long (show _ = B 27 (ix (A 29 (ix u))) + pWr A (ix t) by rw [sWear_I]; simp only [pWr, b195, if_true, if_false]; first | rw [show ((1 : Int32)).toInt64 = 1 from rfl, Int64.mul_one] | rw [show ((2 : Int32)).toInt64 = 2 from rfl, Int64.mul_comm]) ?_
      refine x_put27  h hX hs1 fp_X1_214_22 rfl rfl dX1_pass_206 (fun c hX => ?_)
      refine g_lload h dX1_pass_209 rfl ?_
      refine g_l2i h dX1_pass_211 ?_
      exact g_iret h (pCx_0 hK ⟨by rw [Int32.toInt32_toInt64], ad 8 0, by rw [show cPl A (ix u) nl (cp 8 0) r.1 = cp 8 0 from if_neg hC, up2_id, up2_id]; refine ⟨_, U', hSO, ?_⟩; rw [show sPassA (mA A 35 0 r.2) (ix t) (ix u) nl r.1 = _ from if_neg (by rw [pass_C]; exact hC), pass_A0 A hv]; rw [pass_B0 A B (ix t) (ix u) r.2 hv hr0, pass_B1]; exact hX⟩) (by (try dsimp only); omega) (by (try dsimp only); omega) dX1_pass_212
  · by_cases hz : A 50 (ix u) < 0
    · have hC : sPassC A (ix u) r.1 = 1 := by simp [sPassC, hz, hv]
      have hPl : cPl A (ix u) nl (cp 8 0) r.1 = cN (cp 8 0) nl := if_pos hC
      have hPl2 : cPl A (ix u) nl (cp 8 0) (sToll A (ix t) (ix u) (cn A 2) (sForce (A 9) (A 32 0) (cn A 0))).1 = cN (cp 8 0) nl := by rw [hr]; exact hPl
      refine g_aload_n (i := 0) h dX1_pass_62 rfl rfl ?_
      refine g_aload_n (i := 0) h dX1_pass_63 rfl rfl ?_
      refine g_get (v := .ref (ad 5 0)) h f_X1_54_1 hX.x rfl dX1_pass_64 ?_
      refine g_get (v := .int r.2) h f_X1_183_3 (x_rk hX) rfl dX1_pass_67 ?_
      refine x_put37 h hX fp_X1_17_1 rfl rfl dX1_pass_70 (fun c hX => ?_)
      refine g_aload_n (i := 0) h dX1_pass_73 rfl rfl ?_
      refine g_get (v := .ref (ad 5 0)) h f_X1_54_1 hX.x rfl dX1_pass_74 ?_
      refine g_get (v := .long r.1.toInt64) h f_X1_186_3 (x_rk hX) rfl dX1_pass_77 ?_
      refine g_lstore h dX1_pass_80 (by decide) ?_
      refine g_aload_n (i := 3) h dX1_pass_82 rfl rfl ?_
      refine g_get (v := .ref (ad 13 (ix t))) h (fT_X1_155 _) (hX.1.frz (hT _ hjt) gT_core) rfl dX1_pass_83 ?_
      refine g_iload_n (i := 2) h dX1_pass_86 rfl rfl ?_
      refine G.int hxu ?_
      refine g_aload_n (i := 0) h dX1_pass_87 rfl rfl ?_
      refine g_get (v := .int (A 32 0)) h f_X1_137_1 hX.x rfl dX1_pass_88 ?_
      refine x_ast23 h hX hjt hu8 dX1_pass_91 (fun c hX => ?_)
      refine g_lload h dX1_pass_92 rfl ?_
      refine g_lconst (v := 0) h dX1_pass_94 (by decide) ?_
      refine g_lcmp h dX1_pass_95 ?_
      refine g_if_le (tgt := 156) h dX1_pass_96 (by decide) (fun _bz => absurd _bz (fun q => hv (l_pos.mp (by rw [lg_cmp_le] at q; exact q)))) (fun b96 => ?_)
      rw [lg_cmp_le] at b96
      refine g_aload_n (i := 3) h dX1_pass_99 rfl rfl ?_
      refine g_get (v := .ref (ad 14 (ix t))) h (fT_X1_131 _) (hX.1.frz (hT _ hjt) gT_core) rfl dX1_pass_100 ?_
      refine g_iload_n (i := 2) h dX1_pass_103 rfl rfl ?_
      refine G.int hxu ?_
      refine g_aload_n (i := 0) h dX1_pass_104 rfl rfl ?_
      refine g_get (v := .int (A 32 0)) h f_X1_137_1 hX.x rfl dX1_pass_105 ?_
      refine x_ast24 h hX hjt hu8 dX1_pass_108 (fun c hX => ?_)
      refine g_aload h dX1_pass_109 rfl ?_
      refine g_get (v := cLe fz A (ix u)) h f_X1_190_23 (hX.1.at (cells_10 hju)) rfl dX1_pass_111 ?_
      rw [show cLe fz A (ix u) = .null from if_pos hz]
      refine g_ifnullN (tgt := 148) h dX1_pass_114 (by decide) ?_
      refine g_aload_n (i := 0) h dX1_pass_148 rfl rfl ?_
      refine g_iconst (v := 0) h dX1_pass_149 (by decide) ?_
      refine g_iload_n (i := 1) h dX1_pass_150 rfl rfl ?_
      refine G.int hxt ?_
      refine g_lload h dX1_pass_151 rfl ?_
      refine g_invV h (cx_change h.k hX 0 (nI (ix t)) r.1.toInt64 hnl h2 hL2 (i64_rt _)) hcX1_change w_X1_204 rfl rfl hX.x (Nat.le_of_ble_eq_true rfl) ⟨Nat.le_of_ble_eq_true rfl, Nat.le_of_ble_eq_true rfl⟩ (by refine ⟨?_, ?_⟩ <;> ((try dsimp only); omega)) dX1_pass_153 (gkr_v (fun c hP => ?_)) gkt_v
      obtain ⟨q, hX⟩ := hP
      refine g_aload h dX1_pass_156 rfl ?_
      refine g_dup h dX1_pass_158 rfl ?_
      refine g_get (v := .int (A 30 (ix u))) h f_X1_208_23 (hX.1.at (cells_10 hju)) rfl dX1_pass_159 ?_
      refine g_iconst (v := 1) h dX1_pass_162 (by decide) ?_
      first | (with_reducible refine g_iaddN h dX1_pass_163 ?_) | refine g_iadd h dX1_pass_163 ?_
      refine x_put30 (ad := up2 ad 8 0 q) h hX hju fp_X1_208_23 rfl rfl dX1_pass_164 (fun c hX => ?_)
      refine g_aload_n (i := 0) h dX1_pass_167 rfl rfl ?_
      refine g_get (v := .ref (ad 2 1)) h f_X1_29_1 hX.x rfl dX1_pass_168 ?_
      refine g_aload h dX1_pass_171 rfl ?_
      refine g_get (v := .int (A 29 (ix u))) h f_X1_211_23 (hX.1.at (cells_10 hju)) rfl dX1_pass_173 ?_
      refine G.int hs29 ?_
      refine g_invV h (ct_xget1 h.k hX hs1) hcJ2_get w_X1_162 rfl rfl (xlist1 hX) (Nat.le_of_ble_eq_true rfl) ⟨Nat.le_of_ble_eq_true rfl, Nat.le_of_ble_eq_true rfl⟩ (by refine ⟨?_, ?_⟩ <;> first | exact Nat.le_refl _ | exact Nat.zero_le _ | (dsimp only; omega)) dX1_pass_176 (gkr_ap ?_) gkt_ap
      refine g_castS h (hX.1.at (cells_9 hs1)) rfl q1202 dX1_pass_179 ?_
      refine g_dup h dX1_pass_182 rfl ?_
      refine g_get (v := .long (B 27 (ix (A 29 (ix u))))) h f_X1_214_22 (hX.1.at (cells_9 hs1)) rfl dX1_pass_183 ?_
      refine g_aload_n (i := 3) h dX1_pass_186 rfl rfl ?_
      refine x_wear h (hX.1.frz (hT _ hjt) gT_core) (Nat.le_of_ble_eq_true rfl) ⟨Nat.le_of_ble_eq_true rfl, Nat.le_of_ble_eq_true rfl⟩ ⟨by (try dsimp only); omega, by (try dsimp only); omega⟩ dX1_pass_187 ?_
      refine g_i2l h dX1_pass_190 ?_
      refine g_aload_n (i := 0) h dX1_pass_191 rfl rfl ?_
      refine g_get (v := .int (A 33 0)) h f_X1_219_1 hX.x rfl dX1_pass_192 ?_
      refine g_if_le (tgt := 202) h dX1_pass_195 (by decide) (fun b195 => ?_) (fun b195 => ?_)
      · refine g_iconst (v := 1) h dX1_pass_202 (by decide) ?_
        refine g_i2l h dX1_pass_203 ?_
        refine g_lmul h dX1_pass_204 ?_
        refine g_ladd h dX1_pass_205 ?_
        refine G.long (show _ = B 27 (ix (A 29 (ix u))) + pWr A (ix t) by rw [sWear_I]; simp only [pWr, b195, if_true, if_false]; first | rw [show ((1 : Int32)).toInt64 = 1 from rfl, Int64.mul_one] | rw [show ((2 : Int32)).toInt64 = 2 from rfl, Int64.mul_comm]) ?_
        refine x_put27 (ad := up2 ad 8 0 q) h hX hs1 fp_X1_214_22 rfl rfl dX1_pass_206 (fun c hX => ?_)
        refine g_lload h dX1_pass_209 rfl ?_
        refine g_l2i h dX1_pass_211 ?_
        exact g_iret h (pCx_0 hK ⟨by rw [Int32.toInt32_toInt64], q, by rw [show cPl A (ix u) nl (cp 8 0) r.1 = cN (cp 8 0) nl from if_pos hC]; refine ⟨_, U', hSO, ?_⟩; rw [show sPassA (mA A 35 0 r.2) (ix t) (ix u) nl r.1 = _ from if_pos (by rw [pass_C]; exact hC), pass_A1 A hv, sLineA_30]; rw [show sPassB (mA A 35 0 r.2) B (ix t) (ix u) r.1 = mB (sPassB1 (mA A 35 0 r.2) B (ix t) (ix u)) 43 0 (B 43 0 + r.1.toInt64) from if_pos (by rw [pass_C]; exact hC), pass_B1, mB_comm _ _ _ _ _ (show (27 : Nat) ≠ 43 by decide)]; exact hX⟩) (by (try dsimp only); omega) (by (try dsimp only); omega) dX1_pass_212
      · refine g_iconst (v := 2) h dX1_pass_198 (by decide) ?_
        refine g_goto (tgt := 203) h dX1_pass_199 (by decide) ?_
        refine g_i2l h dX1_pass_203 ?_
        refine g_lmul h dX1_pass_204 ?_
        refine g_ladd h dX1_pass_205 ?_
        refine G.long (show _ = B 27 (ix (A 29 (ix u))) + pWr A (ix t) by rw [sWear_I]; simp only [pWr, b195, if_true, if_false]; first | rw [show ((1 : Int32)).toInt64 = 1 from rfl, Int64.mul_one] | rw [show ((2 : Int32)).toInt64 = 2 from rfl, Int64.mul_comm]) ?_
        refine x_put27 (ad := up2 ad 8 0 q) h hX hs1 fp_X1_214_22 rfl rfl dX1_pass_206 (fun c hX => ?_)
        refine g_lload h dX1_pass_209 rfl ?_
        refine g_l2i h dX1_pass_211 ?_
        exact g_iret h (pCx_0 hK ⟨by rw [Int32.toInt32_toInt64], q, by rw [show cPl A (ix u) nl (cp 8 0) r.1 = cN (cp 8 0) nl from if_pos hC]; refine ⟨_, U', hSO, ?_⟩; rw [show sPassA (mA A 35 0 r.2) (ix t) (ix u) nl r.1 = _ from if_pos (by rw [pass_C]; exact hC), pass_A1 A hv, sLineA_30]; rw [show sPassB (mA A 35 0 r.2) B (ix t) (ix u) r.1 = mB (sPassB1 (mA A 35 0 r.2) B (ix t) (ix u)) 43 0 (B 43 0 + r.1.toInt64) from if_pos (by rw [pass_C]; exact hC), pass_B1, mB_comm _ _ _ _ _ (show (27 : Nat) ≠ 43 by decide)]; exact hX⟩) (by (try dsimp only); omega) (by (try dsimp only); omega) dX1_pass_212
    · have hC : ¬ sPassC A (ix u) r.1 = 1 := by simp [sPassC, hz]
      obtain ⟨hf50, hf4⟩ := hls _ hju hz
      refine g_aload_n (i := 0) h dX1_pass_62 rfl rfl ?_
      refine g_aload_n (i := 0) h dX1_pass_63 rfl rfl ?_
      refine g_get (v := .ref (ad 5 0)) h f_X1_54_1 hX.x rfl dX1_pass_64 ?_
      refine g_get (v := .int r.2) h f_X1_183_3 (x_rk hX) rfl dX1_pass_67 ?_
      refine x_put37 h hX fp_X1_17_1 rfl rfl dX1_pass_70 (fun c hX => ?_)
      refine g_aload_n (i := 0) h dX1_pass_73 rfl rfl ?_
      refine g_get (v := .ref (ad 5 0)) h f_X1_54_1 hX.x rfl dX1_pass_74 ?_
      refine g_get (v := .long r.1.toInt64) h f_X1_186_3 (x_rk hX) rfl dX1_pass_77 ?_
      refine g_lstore h dX1_pass_80 (by decide) ?_
      refine g_aload_n (i := 3) h dX1_pass_82 rfl rfl ?_
      refine g_get (v := .ref (ad 13 (ix t))) h (fT_X1_155 _) (hX.1.frz (hT _ hjt) gT_core) rfl dX1_pass_83 ?_
      refine g_iload_n (i := 2) h dX1_pass_86 rfl rfl ?_
      refine G.int hxu ?_
      refine g_aload_n (i := 0) h dX1_pass_87 rfl rfl ?_
      refine g_get (v := .int (A 32 0)) h f_X1_137_1 hX.x rfl dX1_pass_88 ?_
      refine x_ast23 h hX hjt hu8 dX1_pass_91 (fun c hX => ?_)
      refine g_lload h dX1_pass_92 rfl ?_
      refine g_lconst (v := 0) h dX1_pass_94 (by decide) ?_
      refine g_lcmp h dX1_pass_95 ?_
      refine g_if_le (tgt := 156) h dX1_pass_96 (by decide) (fun _bz => absurd _bz (fun q => hv (l_pos.mp (by rw [lg_cmp_le] at q; exact q)))) (fun b96 => ?_)
      rw [lg_cmp_le] at b96
      refine g_aload_n (i := 3) h dX1_pass_99 rfl rfl ?_
      refine g_get (v := .ref (ad 14 (ix t))) h (fT_X1_131 _) (hX.1.frz (hT _ hjt) gT_core) rfl dX1_pass_100 ?_
      refine g_iload_n (i := 2) h dX1_pass_103 rfl rfl ?_
      refine G.int hxu ?_
      refine g_aload_n (i := 0) h dX1_pass_104 rfl rfl ?_
      refine g_get (v := .int (A 32 0)) h f_X1_137_1 hX.x rfl dX1_pass_105 ?_
      refine x_ast24 h hX hjt hu8 dX1_pass_108 (fun c hX => ?_)
      refine g_aload h dX1_pass_109 rfl ?_
      refine g_get (v := cLe fz A (ix u)) h f_X1_190_23 (hX.1.at (cells_10 hju)) rfl dX1_pass_111 ?_
      rw [show cLe fz A (ix u) = .ref (fz 2 (ix u)) from if_neg hz]
      refine g_ifnull h dX1_pass_114 ?_
      refine g_aload_n (i := 0) h dX1_pass_117 rfl rfl ?_
      refine g_get (v := .ref (ad 2 4)) h f_X1_38_1 hX.x rfl dX1_pass_118 ?_
      refine g_aload h dX1_pass_121 rfl ?_
      refine g_get (v := cLe fz A (ix u)) h f_X1_190_23 (hX.1.at (cells_10 hju)) rfl dX1_pass_123 ?_
      rw [show cLe fz A (ix u) = .ref (fz 2 (ix u)) from if_neg hz]
      refine g_get h f_X1_194_29 (hX.1.frz (hL _ hju hz) gT_core) rfl dX1_pass_126 ?_
      refine G.int hf50 ?_
      refine g_invV h (ct_xget4 h.k hX hf4) hcJ2_get w_X1_162 rfl rfl (xlist4 hX) (Nat.le_of_ble_eq_true rfl) ⟨Nat.le_of_ble_eq_true rfl, Nat.le_of_ble_eq_true rfl⟩ (by refine ⟨?_, ?_⟩ <;> first | exact Nat.le_refl _ | exact Nat.zero_le _ | (dsimp only; omega)) dX1_pass_129 (gkr_ap ?_) gkt_ap
      refine g_castS h (hX.1.at (cells_15 hf4)) rfl q1527 dX1_pass_132 ?_
      refine g_dup h dX1_pass_135 rfl ?_
      refine g_get (v := .long (B 44 (ix (A 50 (ix u))))) h f_X1_201_28 (hX.1.at (cells_15 hf4)) rfl dX1_pass_136 ?_
      refine g_lload h dX1_pass_139 rfl ?_
      refine g_ladd h dX1_pass_141 ?_
      refine x_put44 h hX hf4 fp_X1_201_28 rfl rfl dX1_pass_142 (fun c hX => ?_)
      refine g_goto (tgt := 156) h dX1_pass_145 (by decide) ?_
      refine g_aload h dX1_pass_156 rfl ?_
      refine g_dup h dX1_pass_158 rfl ?_
      refine g_get (v := .int (A 30 (ix u))) h f_X1_208_23 (hX.1.at (cells_10 hju)) rfl dX1_pass_159 ?_
      refine g_iconst (v := 1) h dX1_pass_162 (by decide) ?_
      first | (with_reducible refine g_iaddN h dX1_pass_163 ?_) | refine g_iadd h dX1_pass_163 ?_
      refine x_put30  h hX hju fp_X1_208_23 rfl rfl dX1_pass_164 (fun c hX => ?_)
      refine g_aload_n (i := 0) h dX1_pass_167 rfl rfl ?_
      refine g_get (v := .ref (ad 2 1)) h f_X1_29_1 hX.x rfl dX1_pass_168 ?_
      refine g_aload h dX1_pass_171 rfl ?_
      refine g_get (v := .int (A 29 (ix u))) h f_X1_211_23 (hX.1.at (cells_10 hju)) rfl dX1_pass_173 ?_
      refine G.int hs29 ?_
      refine g_invV h (ct_xget1 h.k hX hs1) hcJ2_get w_X1_162 rfl rfl (xlist1 hX) (Nat.le_of_ble_eq_true rfl) ⟨Nat.le_of_ble_eq_true rfl, Nat.le_of_ble_eq_true rfl⟩ (by refine ⟨?_, ?_⟩ <;> first | exact Nat.le_refl _ | exact Nat.zero_le _ | (dsimp only; omega)) dX1_pass_176 (gkr_ap ?_) gkt_ap
      refine g_castS h (hX.1.at (cells_9 hs1)) rfl q1202 dX1_pass_179 ?_
      refine g_dup h dX1_pass_182 rfl ?_
      refine g_get (v := .long (B 27 (ix (A 29 (ix u))))) h f_X1_214_22 (hX.1.at (cells_9 hs1)) rfl dX1_pass_183 ?_
      refine g_aload_n (i := 3) h dX1_pass_186 rfl rfl ?_
      refine x_wear h (hX.1.frz (hT _ hjt) gT_core) (Nat.le_of_ble_eq_true rfl) ⟨Nat.le_of_ble_eq_true rfl, Nat.le_of_ble_eq_true rfl⟩ ⟨by (try dsimp only); omega, by (try dsimp only); omega⟩ dX1_pass_187 ?_
      refine g_i2l h dX1_pass_190 ?_
      refine g_aload_n (i := 0) h dX1_pass_191 rfl rfl ?_
      refine g_get (v := .int (A 33 0)) h f_X1_219_1 hX.x rfl dX1_pass_192 ?_
      refine g_if_le (tgt := 202) h dX1_pass_195 (by decide) (fun b195 => ?_) (fun b195 => ?_)
      · refine g_iconst (v := 1) h dX1_pass_202 (by decide) ?_
        refine g_i2l h dX1_pass_203 ?_
        refine g_lmul h dX1_pass_204 ?_
        refine g_ladd h dX1_pass_205 ?_
        refine G.long (show _ = B 27 (ix (A 29 (ix u))) + pWr A (ix t) by rw [sWear_I]; simp only [pWr, b195, if_true, if_false]; first | rw [show ((1 : Int32)).toInt64 = 1 from rfl, Int64.mul_one] | rw [show ((2 : Int32)).toInt64 = 2 from rfl, Int64.mul_comm]) ?_
        refine x_put27  h hX hs1 fp_X1_214_22 rfl rfl dX1_pass_206 (fun c hX => ?_)
        refine g_lload h dX1_pass_209 rfl ?_
        refine g_l2i h dX1_pass_211 ?_
        exact g_iret h (pCx_0 hK ⟨by rw [Int32.toInt32_toInt64], ad 8 0, by rw [show cPl A (ix u) nl (cp 8 0) r.1 = cp 8 0 from if_neg hC, up2_id, up2_id]; refine ⟨_, U', hSO, ?_⟩; rw [show sPassA (mA A 35 0 r.2) (ix t) (ix u) nl r.1 = _ from if_neg (by rw [pass_C]; exact hC), pass_A1 A hv]; rw [show sPassB (mA A 35 0 r.2) B (ix t) (ix u) r.1 = mB (sPassB1 (mA A 35 0 r.2) B (ix t) (ix u)) 44 (ix (A 50 (ix u))) (B 44 (ix (A 50 (ix u))) + r.1.toInt64) from pass_B2 A B (ix t) (ix u) r.2 r.1 hz, pass_B1, mB_comm _ _ _ _ _ (show (27 : Nat) ≠ 44 by decide)]; exact hX⟩) (by (try dsimp only); omega) (by (try dsimp only); omega) dX1_pass_212
      · refine g_iconst (v := 2) h dX1_pass_198 (by decide) ?_
        refine g_goto (tgt := 203) h dX1_pass_199 (by decide) ?_
        refine g_i2l h dX1_pass_203 ?_
        refine g_lmul h dX1_pass_204 ?_
        refine g_ladd h dX1_pass_205 ?_
        refine G.long (show _ = B 27 (ix (A 29 (ix u))) + pWr A (ix t) by rw [sWear_I]; simp only [pWr, b195, if_true, if_false]; first | rw [show ((1 : Int32)).toInt64 = 1 from rfl, Int64.mul_one] | rw [show ((2 : Int32)).toInt64 = 2 from rfl, Int64.mul_comm]) ?_
        refine x_put27  h hX hs1 fp_X1_214_22 rfl rfl dX1_pass_206 (fun c hX => ?_)
        refine g_lload h dX1_pass_209 rfl ?_
        refine g_l2i h dX1_pass_211 ?_
        exact g_iret h (pCx_0 hK ⟨by rw [Int32.toInt32_toInt64], ad 8 0, by rw [show cPl A (ix u) nl (cp 8 0) r.1 = cp 8 0 from if_neg hC, up2_id, up2_id]; refine ⟨_, U', hSO, ?_⟩; rw [show sPassA (mA A 35 0 r.2) (ix t) (ix u) nl r.1 = _ from if_neg (by rw [pass_C]; exact hC), pass_A1 A hv]; rw [show sPassB (mA A 35 0 r.2) B (ix t) (ix u) r.1 = mB (sPassB1 (mA A 35 0 r.2) B (ix t) (ix u)) 44 (ix (A 50 (ix u))) (B 44 (ix (A 50 (ix u))) + r.1.toInt64) from pass_B2 A B (ix t) (ix u) r.2 r.1 hz, pass_B1, mB_comm _ _ _ _ _ (show (27 : Nat) ≠ 44 by decide)]; exact hX⟩) (by (try dsimp only); omega) (by (try dsimp only); omega) dX1_pass_212
