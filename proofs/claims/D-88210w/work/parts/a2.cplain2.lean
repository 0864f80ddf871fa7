/-! THE COMPONENT: what a rank's payment leaves, in plain numbers -/
set_option maxRecDepth 100000
theorem cw_nb2 {c0 c : gLH} {ad cp fz : Nat → Nat → Nat} {md : Nat → Nat → Int32} {S : Nat → List Value} {U : Nat → Nat → Int64} {A : Nat → Nat → Int32} {B : Nat → Nat → Int64} {G H : Nat → Int64} (h : CW c0 ad cp fz md S U A (b2 B G H) c) : CW c0 ad cp fz md S U A B c := ⟨by have := h.1; rw [cells_b2] at this; exact this, h.2⟩
def zPay (R : Nat → Int32) (G : Nat → Int64) (r : Int32) : Nat → Nat → Int
  | 0, _ => 0
  | n + 1, l => (if R l = r then (G l).toInt else 0) + zPay R G r n (l + 1)
theorem zPay_sum {R : Nat → Int32} {G P : Nat → Int64} {r : Int32} : ∀ (n l : Nat), (∀ j, l ≤ j → j < l + n → (R j = r → G j = P j) ∧ (¬ R j = r → P j = 0)) → zPay R G r n l + zSum P l = zSum P (l + n) := by
  intro n
  induction n with
  | zero => intro l _; simp [zPay]
  | succ n ih =>
    intro l h
    have i := ih (l + 1) (fun j h1 h2 => h j (by omega) (by omega))
    have hl := h l (Nat.le_refl _) (by omega)
    rw [show l + (n + 1) = l + 1 + n by omega, ← i]
    simp only [zPay, zSum]
    by_cases hr : R l = r
    · rw [if_pos hr, hl.1 hr]
      omega
    · rw [if_neg hr, hl.2 hr]
      show _ = _ + (_ + (0 : Int))
      omega
theorem zPay_nn {R : Nat → Int32} {G : Nat → Int64} {r : Int32} : ∀ (n l : Nat), (∀ j, l ≤ j → j < l + n → R j = r → 0 ≤ (G j).toInt) → 0 ≤ zPay R G r n l := by
  intro n
  induction n with
  | zero => intro l _; exact Int.le_refl _
  | succ n ih =>
    intro l h
    have i := ih (l + 1) (fun j h1 h2 => h j (by omega) (by omega))
    simp only [zPay]
    by_cases hr : R l = r
    · have := h l (Nat.le_refl _) (by omega) hr
      rw [if_pos hr]
      omega
    · rw [if_neg hr]
      omega
theorem zPay_congr {R : Nat → Int32} {G G' : Nat → Int64} {r : Int32} (h : ∀ j, G j = G' j) (n l : Nat) : zPay R G r n l = zPay R G' r n l := by rw [show G = G' from funext h]
/-- dues and box behind the payment -/
theorem pay_ok {r : Int32} {N : Nat} : ∀ (n l : Nat) (A : Nat → Nat → Int32) (B : Nat → Nat → Int64) (nl ll : Nat), l + n ≤ N → dOk (B 58) N → (∀ j, l ≤ j → j < l + n → A 57 j = r → 0 ≤ (B 59 j).toInt ∧ (B 59 j).toInt ≤ (B 58 j).toInt) → zPay (A 57) (B 59) r n l ≤ (B 43 0).toInt →
    (∀ k, k < N → 0 ≤ ((sPay r n l (A, B, nl, ll)).2.1 58 k).toInt ∧ ((sPay r n l (A, B, nl, ll)).2.1 58 k).toInt ≤ (B 58 k).toInt) ∧ 0 ≤ ((sPay r n l (A, B, nl, ll)).2.1 43 0).toInt ∧ ((sPay r n l (A, B, nl, ll)).2.1 43 0).toInt ≤ (B 43 0).toInt ∧ (sPay r n l (A, B, nl, ll)).2.2.1 ≤ nl + n := by
  intro n
  induction n with
  | zero =>
    intro l A B nl ll _ hD _ hz
    have z : (0 : Int) ≤ (B 43 0).toInt := hz
    exact ⟨fun k hk => ⟨(hD k hk).1, Int.le_refl _⟩, z, Int.le_refl _, Nat.le_refl _⟩
  | succ n ih =>
    intro l A B nl ll hl hD hG hz
    have hnn := zPay_nn (R := A 57) (G := B 59) (r := r) n (l + 1) (fun j h1 h2 hr => (hG j (by omega) (by omega) hr).1)
    simp only [zPay] at hz
    simp only [sPay]
    by_cases hr : A 57 l = r
    · rw [if_pos hr] at hz
      have hgl := hG l (Nat.le_refl _) (by omega) hr
      have hdl := hD l (by omega)
      by_cases h0 : B 59 l = 0
      · rw [if_pos hr, if_pos h0]
        obtain ⟨a1, a2, a3, a4⟩ := ih (l + 1) A B nl ll (by omega) hD (fun j h1 h2 => hG j (by omega) (by omega)) (by omega)
        exact ⟨a1, a2, a3, by omega⟩
      · rw [if_pos hr, if_neg h0]
        have e58 : ∀ k, (mB (mB B 58 l (B 58 l - B 59 l)) 43 0 (B 43 0 + -(B 59 l))) 58 k = if k = l then B 58 l - B 59 l else B 58 k := by
          intro k
          rw [mB_n _ _ _ (by decide), mB_s]
          rfl
        have e59 : (mB (mB B 58 l (B 58 l - B 59 l)) 43 0 (B 43 0 + -(B 59 l))) 59 = B 59 := by rw [mB_n _ _ _ (by decide), mB_n _ _ _ (by decide)]
        have ed : (B 58 l - B 59 l).toInt = (B 58 l).toInt - (B 59 l).toInt := by rw [Int64.toInt_sub, bm_in] <;> omega
        have bx := Int64.toInt_lt (B 43 0)
        have eb : (B 43 0 + -(B 59 l)).toInt = (B 43 0).toInt - (B 59 l).toInt := by
          have en : (-(B 59 l)).toInt = -(B 59 l).toInt := by rw [Int64.toInt_neg, bm_in] <;> omega
          rw [Int64.toInt_add, en, bm_in] <;> omega
        have h57 : sLineA A nl 4 (nI l) (-(B 59 l)) 57 = A 57 := sLineA_57 _ _ _ _ _
        obtain ⟨a1, a2, a3, a4⟩ := ih (l + 1) (sLineA A nl 4 (nI l) (-(B 59 l))) (mB (mB B 58 l (B 58 l - B 59 l)) 43 0 (B 43 0 + -(B 59 l))) (nl + 1) (sLn ll nl) (by omega)
          (fun k hk => by
            rw [e58]
            by_cases y : k = l
            · rw [if_pos y, ed]; omega
            · rw [if_neg y]; exact hD k hk)
          (fun j h1 h2 hj => by
            rw [h57] at hj
            rw [e58, if_neg (by omega), e59]
            exact hG j (by omega) (by omega) hj)
          (by
            rw [h57, e59, mB_rd, eb]
            omega)
        refine ⟨fun k hk => ?_, a2, ?_, ?_⟩
        · have := a1 k hk
          refine ⟨this.1, Int.le_trans this.2 ?_⟩
          rw [e58]
          by_cases y : k = l
          · rw [if_pos y, ed, y]; omega
          · rw [if_neg y]; exact Int.le_refl _
        · refine Int.le_trans a3 ?_
          rw [mB_rd, eb]
          omega
        · have : (sPay r n (l + 1) (sPay1 (A, B, nl, ll) l)).2.2.1 ≤ nl + 1 + n := a4
          omega
    · rw [if_neg hr] at hz
      rw [if_neg hr]
      obtain ⟨a1, a2, a3, a4⟩ := ih (l + 1) A B nl ll (by omega) hD (fun j h1 h2 => hG j (by omega) (by omega)) (by omega)
      exact ⟨a1, a2, a3, by omega⟩
theorem sPart_full {R : Nat → Int32} {D : Nat → Int64} {r : Int32} {has all : Int64} (G S : Nat → Int64) (h : ¬ has < all) : ∀ n k, k < n → R k = r → (sPart R D r has all G S n).1 k = D k := by
  intro n
  induction n with
  | zero => intro k hk; omega
  | succ n ih =>
    intro k hk hr
    by_cases y : k = n
    · subst y
      simp only [sPart, hr, if_true, h, if_false, pk_uLs]
    · by_cases hn : R n = r
      · simp only [sPart, hn, if_true, h, if_false]
        rw [pk_uLn y]
        exact ih k (by omega) hr
      · simp only [sPart, hn, if_false]
        exact ih k (by omega) hr
/-- the row of payments of a rank -/
def sGot (r : Int32) (N : Nat) (s : mS) : Nat → Int64 := (sGive (s.1 57) r N (sMore (s.2.1 43 0) (sAll (s.1 57) (s.2.1 58) r N) (sPart (s.1 57) (s.2.1 58) r (s.2.1 43 0) (sAll (s.1 57) (s.2.1 58) r N) (s.2.1 59) (s.2.1 60) N).2.2).toInt.toNat ((sPart (s.1 57) (s.2.1 58) r (s.2.1 43 0) (sAll (s.1 57) (s.2.1 58) r N) (s.2.1 59) (s.2.1 60) N).1, (sPart (s.1 57) (s.2.1 58) r (s.2.1 43 0) (sAll (s.1 57) (s.2.1 58) r N) (s.2.1 59) (s.2.1 60) N).2.1)).1
theorem sRank_eq (r : Int32) (N : Nat) (s : mS) : ∃ H, sRank r N s = if sAll (s.1 57) (s.2.1 58) r N = 0 then s else sPay r N 0 (s.1, b2 s.2.1 (sGot r N s) H, s.2.2.1, s.2.2.2) := ⟨_, rfl⟩
theorem got_full {r : Int32} {N : Nat} {A : Nat → Nat → Int32} {B : Nat → Nat → Int64} {nl ll : Nat} (h : ¬ B 43 0 < sAll (A 57) (B 58) r N) : ∀ k, k < N → A 57 k = r → sGot r N (A, B, nl, ll) k = B 58 k := by
  intro k hk hr
  have e : (sMore (B 43 0) (sAll (A 57) (B 58) r N) (sPart (A 57) (B 58) r (B 43 0) (sAll (A 57) (B 58) r N) (B 59) (B 60) N).2.2).toInt.toNat = 0 := by
    unfold sMore
    rw [if_neg h]
    rfl
  unfold sGot
  simp only [e, sGive]
  exact sPart_full _ _ h N k hk hr
/-- what each gets: no more than its due, all together no more than the box -/
theorem got_ok {r : Int32} {N : Nat} {A : Nat → Nat → Int32} {B : Nat → Nat → Int64} {nl ll : Nat} (hN10 : N ≤ 10) (hD : dOk (B 58) N) (hh : 0 ≤ (B 43 0).toInt) : (∀ k, k < N → A 57 k = r → 0 ≤ (sGot r N (A, B, nl, ll) k).toInt ∧ (sGot r N (A, B, nl, ll) k).toInt ≤ (B 58 k).toInt) ∧ zPay (A 57) (sGot r N (A, B, nl, ll)) r N 0 ≤ (B 43 0).toInt := by
  obtain ⟨za, zb, zc⟩ := sAll_z (R := A 57) (r := r) hN10 hD
  generalize hall : sAll (A 57) (B 58) r N = all at za
  by_cases hlt : B 43 0 < all
  · have hltI : (B 43 0).toInt < all.toInt := by rw [← Int64.lt_iff_toInt_lt]; exact hlt
    have hall9 : all.toInt ≤ 1400000000 := by omega
    obtain ⟨i1, i2, i3, i4, i5, i6, i7, i8⟩ := cPt_ok (R := A 57) (r := r) (G := B 59) (S' := B 60) hN10 hD hh hltI hall9 N (Nat.le_refl _)
    generalize hP : cPt (A 57) (B 58) r (B 43 0) all N = PT at i1 i2 i3 i4 i5 i6 i7 i8
    obtain ⟨P1, H1, L1⟩ := PT
    dsimp only at i1 i2 i3 i4 i5 i6 i7 i8
    rw [← za, Int.mul_sub, Int.mul_comm (B 43 0).toInt] at i3
    have i3' : zSum H1 N = L1.toInt * all.toInt := by rw [i3, Int.mul_comm L1.toInt]; omega
    have hL0 : 0 ≤ L1.toInt := by
      rcases Int.lt_or_le L1.toInt 0 with z | z
      · exfalso
        have p0 : 0 ≤ zSum H1 N := zSum_nn (fun k hk => (i1 k hk).1)
        have : L1.toInt * all.toInt < 0 := Int.mul_neg_of_neg_of_pos z (by omega)
        omega
      · exact z
    have hLn : ((L1.toInt.toNat : Nat) : Int) = L1.toInt := Int.toNat_of_nonneg hL0
    obtain ⟨g1, g2, g3⟩ := give_ok (R := A 57) (r := r) (h := (B 43 0).toInt) hD (show 0 < all.toInt by omega) L1.toInt.toNat P1 H1 (sPart (A 57) (B 58) r (B 43 0) all (B 59) (B 60) N).1 (sPart (A 57) (B 58) r (B 43 0) all (B 59) (B 60) N).2.1 i1 (by rw [hLn, i3']; exact Int.le_refl _) (by rw [hLn]; exact i4) i5
    have hmore : (sMore (B 43 0) all (sPart (A 57) (B 58) r (B 43 0) all (B 59) (B 60) N).2.2).toInt.toNat = L1.toInt.toNat := by
      unfold sMore
      rw [if_pos hlt]
      congr 1
      rw [Int64.toInt_sub, i6, bm_in] <;> omega
    have hgot : ∀ k, k < N → A 57 k = r → sGot r N (A, B, nl, ll) k = (cGive N L1.toInt.toNat (P1, H1)).1 k := by
      intro k hk hr
      unfold sGot
      simp only [hall, hmore]
      exact g3 k hk hr
    refine ⟨fun k hk hr => ?_, ?_⟩
    · rw [hgot k hk hr]
      exact ⟨(g1 k hk).1, (g1 k hk).2.1⟩
    · have := zPay_sum (R := A 57) (G := sGot r N (A, B, nl, ll)) (P := (cGive N L1.toInt.toNat (P1, H1)).1) (r := r) N 0 (fun j _ hj => ⟨fun hr => hgot j (by omega) hr, fun hr => (g1 j (by omega)).2.2 hr⟩)
      rw [Nat.zero_add, g2] at this
      have z : zSum (cGive N L1.toInt.toNat (P1, H1)).1 0 = 0 := rfl
      omega
  · have hf := got_full (nl := nl) (ll := ll) (show ¬ B 43 0 < sAll (A 57) (B 58) r N by rw [hall]; exact hlt)
    refine ⟨fun k hk hr => ?_, ?_⟩
    · rw [hf k hk hr]
      exact ⟨(hD k hk).1, Int.le_refl _⟩
    · have := zPay_sum (R := A 57) (G := sGot r N (A, B, nl, ll)) (P := fun j => if A 57 j = r then B 58 j else 0) (r := r) N 0 (fun j _ hj => ⟨fun hr => by rw [hf j (by omega) hr]; exact (if_pos hr).symm, fun hr => if_neg hr⟩)
      have z2 : ∀ n, zSum (fun j => if A 57 j = r then B 58 j else 0) n = zAll (A 57) (B 58) r n := by
        intro n
        induction n with
        | zero => rfl
        | succ n ih =>
          simp only [zSum, zAll, ih]
          split <;> rfl
      rw [Nat.zero_add, z2, z2] at this
      have z : zAll (A 57) (B 58) r 0 = 0 := rfl
      have := Int64.not_lt.mp hlt
      rw [Int64.le_iff_toInt_le] at this
      omega
/-- dues and box behind a rank -/
theorem rank_ok {r : Int32} {N : Nat} {A : Nat → Nat → Int32} {B : Nat → Nat → Int64} {nl ll : Nat} (hN10 : N ≤ 10) (hD : dOk (B 58) N) (hh : 0 ≤ (B 43 0).toInt) : (∀ k, k < N → 0 ≤ ((sRank r N (A, B, nl, ll)).2.1 58 k).toInt ∧ ((sRank r N (A, B, nl, ll)).2.1 58 k).toInt ≤ (B 58 k).toInt) ∧ 0 ≤ ((sRank r N (A, B, nl, ll)).2.1 43 0).toInt ∧ ((sRank r N (A, B, nl, ll)).2.1 43 0).toInt ≤ (B 43 0).toInt ∧ (sRank r N (A, B, nl, ll)).2.2.1 ≤ nl + N := by
  obtain ⟨H, e⟩ := sRank_eq r N (A, B, nl, ll)
  rw [e]
  split
  · exact ⟨fun k hk => ⟨(hD k hk).1, Int.le_refl _⟩, hh, Int.le_refl _, by show nl ≤ nl + N; omega⟩
  · obtain ⟨g1, g2⟩ := got_ok (r := r) (A := A) (nl := nl) (ll := ll) hN10 hD hh
    exact pay_ok (r := r) (N := N) N 0 A (b2 B (sGot r N (A, B, nl, ll)) H) nl ll (by omega) hD (fun j _ hj hr => g1 j (by omega) hr) g2
/-- fields of ints that payments leave -/
theorem sPay_A (r : Int32) {k : Nat} (h : k ≠ 38 ∧ k ≠ 39 ∧ k ≠ 40 ∧ k ≠ 41 ∧ k ≠ 42) : ∀ (n l : Nat) (s : mS), (sPay r n l s).1 k = s.1 k := by
  intro n
  induction n with
  | zero => intro l s; rfl
  | succ n ih =>
    intro l s
    simp only [sPay]
    rw [ih]
    split
    · split
      · rfl
      · show sLineA s.1 _ _ _ _ k = s.1 k
        unfold sLineA
        rw [mA_n _ _ _ h.2.2.2.2, mA_n _ _ _ h.2.2.2.1, mA_n _ _ _ h.2.2.1, mA_n _ _ _ h.2.1, mA_n _ _ _ h.1]
    · rfl
theorem sRank_A (r : Int32) (N : Nat) (s : mS) {k : Nat} (h : k ≠ 38 ∧ k ≠ 39 ∧ k ≠ 40 ∧ k ≠ 41 ∧ k ≠ 42) : (sRank r N s).1 k = s.1 k := by
  obtain ⟨H, e⟩ := sRank_eq r N s
  rw [e]
  split
  · rfl
  · rw [sPay_A r h]
theorem ranks_ok {N : Nat} (hN10 : N ≤ 10) : ∀ (m k : Nat) (A : Nat → Nat → Int32) (B : Nat → Nat → Int64) (nl ll : Nat), dOk (B 58) N → 0 ≤ (B 43 0).toInt → (∀ j, j < N → 0 ≤ ((sRanks N m k (A, B, nl, ll)).2.1 58 j).toInt ∧ ((sRanks N m k (A, B, nl, ll)).2.1 58 j).toInt ≤ (B 58 j).toInt) ∧ 0 ≤ ((sRanks N m k (A, B, nl, ll)).2.1 43 0).toInt ∧ ((sRanks N m k (A, B, nl, ll)).2.1 43 0).toInt ≤ (B 43 0).toInt ∧ (sRanks N m k (A, B, nl, ll)).2.2.1 ≤ nl + 10 * m := by
  intro m
  induction m with
  | zero => intro k A B nl ll hD hh; exact ⟨fun j hj => ⟨(hD j hj).1, Int.le_refl _⟩, hh, Int.le_refl _, by show nl ≤ _; omega⟩
  | succ m ih =>
    intro k A B nl ll hD hh
    obtain ⟨a1, a2, a3, a4⟩ := rank_ok (r := nI k) (A := A) (nl := nl) (ll := ll) hN10 hD hh
    simp only [sRanks]
    generalize sRank (nI k) N (A, B, nl, ll) = s2 at a1 a2 a3 a4
    obtain ⟨A2, B2, n2, l2⟩ := s2
    dsimp only at a1 a2 a3 a4
    obtain ⟨b1, b2', b3, b4⟩ := ih (k + 1) A2 B2 n2 l2 (fun j hj => ⟨(a1 j hj).1, by have := hD j hj; have := a1 j hj; omega⟩) a2
    refine ⟨fun j hj => ⟨(b1 j hj).1, Int.le_trans (b1 j hj).2 (a1 j hj).2⟩, b2', Int.le_trans b3 a3, ?_⟩
    have : n2 ≤ nl + N := a4
    omega
theorem sRanks_A (N : Nat) {f : Nat} (h : f ≠ 38 ∧ f ≠ 39 ∧ f ≠ 40 ∧ f ≠ 41 ∧ f ≠ 42) : ∀ (m k : Nat) (s : mS), (sRanks N m k s).1 f = s.1 f := by
  intro m
  induction m with
  | zero => intro k s; rfl
  | succ m ih => intro k s; simp only [sRanks]; rw [ih, sRank_A _ _ _ h]
theorem sPay_0 (r : Int32) (A : Nat → Nat → Int32) (B : Nat → Nat → Int64) (nl ll : Nat) : ∀ (n l : Nat), (∀ j, l ≤ j → j < l + n → A 57 j = r → B 59 j = 0) → sPay r n l (A, B, nl, ll) = (A, B, nl, ll) := by
  intro n
  induction n with
  | zero => intro l _; rfl
  | succ n ih =>
    intro l h
    simp only [sPay]
    have e : (if A 57 l = r then (if B 59 l = 0 then (A, B, nl, ll) else sPay1 (A, B, nl, ll) l) else (A, B, nl, ll)) = (A, B, nl, ll) := by
      by_cases hr : A 57 l = r
      · rw [if_pos hr, if_pos (h l (Nat.le_refl _) (by omega) hr)]
      · rw [if_neg hr]
    rw [e]
    exact ih (l + 1) (fun j h1 h2 => h j (by omega) (by omega))
