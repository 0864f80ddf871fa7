/-! THE COMPONENT: how a rank is paid, in plain numbers -/
set_option maxRecDepth 100000
def zAll (R : Nat → Int32) (D : Nat → Int64) (r : Int32) : Nat → Int
  | 0 => 0
  | n + 1 => zAll R D r n + (if R n = r then (D n).toInt else 0)
def zSum (S : Nat → Int64) : Nat → Int
  | 0 => 0
  | n + 1 => zSum S n + (S n).toInt
/-- dues in their bounds -/
def dOk (D : Nat → Int64) (N : Nat) : Prop := ∀ k, k < N → 0 ≤ (D k).toInt ∧ (D k).toInt ≤ 140000000
theorem bm_in {x : Int} (h1 : -9223372036854775808 ≤ x) (h2 : x < 9223372036854775808) : x.bmod (2 ^ 64) = x := by
  rw [Int.bmod_eq_of_le] <;> omega
theorem sAll_z {R : Nat → Int32} {D : Nat → Int64} {r : Int32} : ∀ {n : Nat}, n ≤ 10 → dOk D n → (sAll R D r n).toInt = zAll R D r n ∧ 0 ≤ zAll R D r n ∧ zAll R D r n ≤ n * 140000000 := by
  intro n
  induction n with
  | zero => intro _ _; exact ⟨rfl, Int.le_refl _, by simp [zAll]⟩
  | succ n ih =>
    intro hn hD
    obtain ⟨e, z0, z1⟩ := ih (by omega) (fun k hk => hD k (by omega))
    have hd := hD n (by omega)
    have e2 : (if R n = r then D n else 0).toInt = (if R n = r then (D n).toInt else 0) := by split <;> rfl
    have b : 0 ≤ (if R n = r then (D n).toInt else 0) ∧ (if R n = r then (D n).toInt else 0) ≤ 140000000 := by split <;> omega
    simp only [sAll, zAll]
    rw [Int64.toInt_add, e, e2, bm_in] <;> omega
theorem zAll_0 {R : Nat → Int32} {D : Nat → Int64} {r : Int32} : ∀ {n : Nat}, dOk D n → zAll R D r n = 0 → ∀ k, k < n → R k = r → D k = 0 := by
  intro n
  induction n with
  | zero => intro _ _ k hk; omega
  | succ n ih =>
    intro hD h k hk hr
    have hp : ∀ m, m ≤ n → 0 ≤ zAll R D r m := by
      intro m
      induction m with
      | zero => intro _; exact Int.le_refl _
      | succ m ih2 =>
        intro hm
        have := ih2 (by omega)
        have hd := hD m (by omega)
        simp only [zAll]
        split <;> omega
    have h0 := hp n (Nat.le_refl _)
    have hd := hD n (by omega)
    simp only [zAll] at h
    by_cases q : k = n
    · subst q
      rw [if_pos hr] at h
      refine Int64.toInt_inj.mp ?_
      have : (0 : Int64).toInt = 0 := rfl
      omega
    · refine ih (fun j hj => hD j (by omega)) ?_ k (by omega) hr
      split at h <;> omega
theorem zSum_up (S : Nat → Int64) (b : Nat) (y : Int64) : ∀ {n : Nat}, zSum (vp_updL S b y) n = if b < n then zSum S n - (S b).toInt + y.toInt else zSum S n := by
  intro n
  induction n with
  | zero => rfl
  | succ n ih =>
    simp only [zSum]
    rw [ih]
    by_cases q : n = b
    · subst q
      rw [pk_uLs, if_neg (by omega), if_pos (by omega)]
      omega
    · rw [pk_uLn q]
      by_cases z : b < n
      · rw [if_pos z, if_pos (by omega)]
        omega
      · rw [if_neg z, if_neg (by omega)]
theorem div_z {x h a : Int64} (hx : 0 ≤ x.toInt ∧ x.toInt ≤ 140000000) (hh : 0 ≤ h.toInt) (hl : h.toInt < a.toInt) (ha : a.toInt ≤ 1400000000) : (x * h / a).toInt = x.toInt * h.toInt / a.toInt ∧ (x * h - x * h / a * a).toInt = x.toInt * h.toInt % a.toInt ∧ (0 ≤ x.toInt * h.toInt / a.toInt ∧ x.toInt * h.toInt / a.toInt ≤ x.toInt) ∧ (0 ≤ x.toInt * h.toInt % a.toInt ∧ x.toInt * h.toInt % a.toInt < a.toInt) ∧ (0 < x.toInt * h.toInt % a.toInt → x.toInt * h.toInt / a.toInt < x.toInt) := by
  obtain ⟨e, m0⟩ := mul_b (x := x) (y := h) (M := 140000000) (N := 1400000000) hx.1 hx.2 hh (by omega) (by decide)
  have m1 : x.toInt * h.toInt ≤ 140000000 * 1400000000 := Int.mul_le_mul hx.2 (by omega) hh (by decide)
  rw [e] at m0
  have a0 : 0 < a.toInt := by omega
  have d0 : 0 ≤ x.toInt * h.toInt / a.toInt := Int.ediv_nonneg m0 (by omega)
  have d1 : x.toInt * h.toInt / a.toInt ≤ x.toInt * h.toInt := Int.ediv_le_self _ m0
  have e1 : (x * h / a).toInt = x.toInt * h.toInt / a.toInt := by
    rw [Int64.toInt_div, e, Int.tdiv_eq_ediv_of_nonneg m0, bm_in] <;> omega
  have dm : x.toInt * h.toInt = a.toInt * (x.toInt * h.toInt / a.toInt) + x.toInt * h.toInt % a.toInt := (Int.mul_ediv_add_emod _ _).symm
  have r0 : 0 ≤ x.toInt * h.toInt % a.toInt := Int.emod_nonneg _ (by omega)
  have r1 : x.toInt * h.toInt % a.toInt < a.toInt := Int.emod_lt_of_pos _ a0
  have hq : x.toInt * h.toInt / a.toInt ≤ x.toInt := by
    refine Int.ediv_le_of_le_mul a0 ?_
    exact Int.mul_le_mul_of_nonneg_left (by omega) hx.1
  have e2 : (x * h / a * a).toInt = a.toInt * (x.toInt * h.toInt / a.toInt) := by
    rw [Int64.toInt_mul, e1, Int.mul_comm, bm_in]
    · have := Int.mul_nonneg (Int.le_of_lt a0) d0
      omega
    · omega
  refine ⟨e1, ?_, ⟨d0, hq⟩, ⟨r0, r1⟩, ?_⟩
  · have := Int.mul_nonneg (Int.le_of_lt a0) d0
    rw [Int64.toInt_sub, e, e2, bm_in] <;> omega
  · intro hr
    rcases Int.lt_or_eq_of_le hq with z | z
    · exact z
    · exfalso
      rw [z] at dm
      have q : x.toInt * h.toInt ≤ x.toInt * a.toInt := Int.mul_le_mul_of_nonneg_left (by omega) hx.1
      rw [Int.mul_comm a.toInt x.toInt] at dm
      omega
/-- the parts, the rests, what is left -/
def cPt (R : Nat → Int32) (D : Nat → Int64) (r : Int32) (has all : Int64) : Nat → (Nat → Int64) × (Nat → Int64) × Int64
  | 0 => (fun _ => 0, fun _ => 0, has)
  | n + 1 => if R n = r then (vp_updL (cPt R D r has all n).1 n (D n * has / all), vp_updL (cPt R D r has all n).2.1 n (D n * has - D n * has / all * all), (cPt R D r has all n).2.2 - D n * has / all) else cPt R D r has all n
/-- the greatest of all rests, the first -/
def cBest (S : Nat → Int64) : Nat → Nat
  | 0 => 0
  | n + 1 => if S n ≤ S (cBest S n) then cBest S n else n
def cGive (N : Nat) : Nat → (Nat → Int64) × (Nat → Int64) → (Nat → Int64) × (Nat → Int64)
  | 0, s => s
  | m + 1, s => cGive N m (vp_updL s.1 (cBest s.2 N) (s.1 (cBest s.2 N) + 1), vp_updL s.2 (cBest s.2 N) 0)
def kInv (R : Nat → Int32) (D : Nat → Int64) (r : Int32) (a : Int) (P S : Nat → Int64) (k : Nat) : Prop := 0 ≤ (S k).toInt ∧ (S k).toInt < a ∧ 0 ≤ (P k).toInt ∧ (P k).toInt ≤ (D k).toInt ∧ (0 < (S k).toInt → (P k).toInt < (D k).toInt) ∧ (¬ R k = r → P k = 0 ∧ S k = 0)
theorem cPt_ok {R : Nat → Int32} {D : Nat → Int64} {r : Int32} {has all : Int64} {G S' : Nat → Int64} {N : Nat} (hN : N ≤ 10) (hD : dOk D N) (hh : 0 ≤ has.toInt) (hl : has.toInt < all.toInt) (ha : all.toInt ≤ 1400000000) : ∀ n, n ≤ N →
    (∀ k, k < n → kInv R D r all.toInt (cPt R D r has all n).1 (cPt R D r has all n).2.1 k) ∧ (∀ k, n ≤ k → (cPt R D r has all n).1 k = 0 ∧ (cPt R D r has all n).2.1 k = 0) ∧
    zSum (cPt R D r has all n).2.1 n = has.toInt * zAll R D r n - all.toInt * (has.toInt - (cPt R D r has all n).2.2.toInt) ∧ zSum (cPt R D r has all n).1 n + (cPt R D r has all n).2.2.toInt = has.toInt ∧
    (∀ k, k < n → R k = r → (sPart R D r has all G S' n).1 k = (cPt R D r has all n).1 k ∧ (sPart R D r has all G S' n).2.1 k = (cPt R D r has all n).2.1 k) ∧ (sPart R D r has all G S' n).2.2.toInt = zSum (cPt R D r has all n).1 n ∧ 0 ≤ zSum (cPt R D r has all n).1 n ∧ zSum (cPt R D r has all n).1 n ≤ n * 140000000 := by
  intro n
  induction n with
  | zero =>
    intro _
    refine ⟨fun k hk => by omega, fun k _ => ⟨rfl, rfl⟩, ?_, ?_, fun k hk => by omega, rfl, Int.le_refl _, by simp [zSum]⟩
    · simp only [zSum, zAll, cPt]
      simp
    · simp only [zSum, cPt]
      omega
  | succ n ih =>
    intro hn
    obtain ⟨i1, i2, i3, i4, i5, i6, i7, i8⟩ := ih (by omega)
    have hlt : has < all := by rw [Int64.lt_iff_toInt_lt]; exact hl
    by_cases hr : R n = r
    · have hd := hD n (by omega)
      obtain ⟨q1, q2, q3, q4, q5⟩ := div_z hd hh hl ha
      have dm : (D n).toInt * has.toInt = all.toInt * ((D n).toInt * has.toInt / all.toInt) + (D n).toInt * has.toInt % all.toInt := (Int.mul_ediv_add_emod _ _).symm
      have eP : cPt R D r has all (n + 1) = (vp_updL (cPt R D r has all n).1 n (D n * has / all), vp_updL (cPt R D r has all n).2.1 n (D n * has - D n * has / all * all), (cPt R D r has all n).2.2 - D n * has / all) := by simp only [cPt, hr, if_true]
      have eS : sPart R D r has all G S' (n + 1) = (vp_updL (sPart R D r has all G S' n).1 n (D n * has / all), vp_updL (sPart R D r has all G S' n).2.1 n (D n * has - D n * has / all * all), (sPart R D r has all G S' n).2.2 + D n * has / all) := by simp only [sPart, hr, if_true, hlt]
      have eL : ((cPt R D r has all n).2.2 - D n * has / all).toInt = (cPt R D r has all n).2.2.toInt - (D n).toInt * has.toInt / all.toInt := by
        rw [Int64.toInt_sub, q1, bm_in] <;> omega
      have eG : ((sPart R D r has all G S' n).2.2 + D n * has / all).toInt = zSum (cPt R D r has all n).1 n + (D n).toInt * has.toInt / all.toInt := by
        rw [Int64.toInt_add, q1, i6, bm_in] <;> omega
      have z1 : zSum (vp_updL (cPt R D r has all n).1 n (D n * has / all)) (n + 1) = zSum (cPt R D r has all n).1 n + (D n).toInt * has.toInt / all.toInt := by
        rw [zSum, zSum_up, if_neg (by omega), pk_uLs, q1]
      have z2 : zSum (vp_updL (cPt R D r has all n).2.1 n (D n * has - D n * has / all * all)) (n + 1) = zSum (cPt R D r has all n).2.1 n + (D n).toInt * has.toInt % all.toInt := by
        rw [zSum, zSum_up, if_neg (by omega), pk_uLs, q2]
      rw [eP, eS]
      refine ⟨fun k hk => ?_, fun k hk => ?_, ?_, ?_, fun k hk hrk => ?_, ?_, ?_, ?_⟩
      · by_cases y : k = n
        · subst y
          unfold kInv
          simp only [pk_uLs, q1, q2]
          exact ⟨q4.1, q4.2, q3.1, q3.2, q5, fun z => absurd hr z⟩
        · have := i1 k (by omega)
          unfold kInv at this ⊢
          simp only [pk_uLn y]
          exact this
      · simp only [pk_uLn (show k ≠ n by omega)]
        exact i2 k (by omega)
      · show zSum (vp_updL (cPt R D r has all n).2.1 n (D n * has - D n * has / all * all)) (n + 1) = has.toInt * zAll R D r (n + 1) - all.toInt * (has.toInt - ((cPt R D r has all n).2.2 - D n * has / all).toInt)
        rw [z2, i3, eL]
        simp only [zAll, hr, if_true]
        rw [Int.mul_add, Int.mul_sub, Int.mul_sub, Int.mul_sub, Int.mul_comm has.toInt (D n).toInt]
        omega
      · show zSum (vp_updL (cPt R D r has all n).1 n (D n * has / all)) (n + 1) + ((cPt R D r has all n).2.2 - D n * has / all).toInt = has.toInt
        rw [z1, eL]
        omega
      · by_cases y : k = n
        · subst y
          exact ⟨by simp only [pk_uLs], by simp only [pk_uLs]⟩
        · simp only [pk_uLn y]
          exact i5 k (by omega) hrk
      · show ((sPart R D r has all G S' n).2.2 + D n * has / all).toInt = zSum (vp_updL (cPt R D r has all n).1 n (D n * has / all)) (n + 1)
        rw [eG, z1]
      · show 0 ≤ zSum (vp_updL (cPt R D r has all n).1 n (D n * has / all)) (n + 1)
        rw [z1]; omega
      · show zSum (vp_updL (cPt R D r has all n).1 n (D n * has / all)) (n + 1) ≤ ((n + 1 : Nat) : Int) * 140000000
        rw [z1]; omega
    · have eP : cPt R D r has all (n + 1) = cPt R D r has all n := by simp only [cPt, hr, if_false]
      have eS : sPart R D r has all G S' (n + 1) = sPart R D r has all G S' n := by simp only [sPart, hr, if_false]
      have hz := i2 n (Nat.le_refl _)
      rw [eP, eS]
      refine ⟨fun k hk => ?_, fun k hk => i2 k (by omega), ?_, ?_, fun k hk hrk => ?_, ?_, ?_, ?_⟩
      · by_cases y : k = n
        · subst y
          have hd := hD k (by omega)
          unfold kInv
          rw [hz.1, hz.2]
          have z0 : (0 : Int64).toInt = 0 := rfl
          exact ⟨by omega, by omega, by omega, by omega, fun z => by omega, fun _ => ⟨rfl, rfl⟩⟩
        · exact i1 k (by omega)
      · simp only [zSum, zAll, hr, if_false]
        rw [hz.2, i3]
        show _ + (0 : Int) = _
        simp
      · simp only [zSum]
        rw [hz.1]
        show _ + (0 : Int) + _ = _
        omega
      · exact i5 k (by have : k ≠ n := fun y => hr (y ▸ hrk); omega) hrk
      · simp only [zSum]
        rw [hz.1, i6]
        show _ = _ + (0 : Int)
        omega
      · simp only [zSum]
        rw [hz.1]
        show 0 ≤ _ + (0 : Int)
        omega
      · simp only [zSum]
        rw [hz.1]
        show _ + (0 : Int) ≤ _
        omega
theorem cBest_lt (S : Nat → Int64) : ∀ {n : Nat}, 0 < n → cBest S n < n := by
  intro n
  induction n with
  | zero => intro h; omega
  | succ n ih =>
    intro _
    simp only [cBest]
    split
    · by_cases h : 0 < n
      · have := ih h; omega
      · have : n = 0 := by omega
        subst this
        simp [cBest]
    · omega
/-- the two ways to the greatest rest -/
theorem best_ok {R : Nat → Int32} {r : Int32} {S S' : Nat → Int64} {N : Nat} (h1 : ∀ k, k < N → R k = r → S' k = S k) (h2 : ∀ k, k < N → ¬ R k = r → S k = 0) (h3 : ∀ k, k < N → 0 ≤ (S k).toInt) : ∀ n, n ≤ N → (sRest R S' r n = none ∧ (∀ k, k < n → (S k).toInt = 0)) ∨ ∃ b, sRest R S' r n = some b ∧ cBest S n = b ∧ 0 < (S b).toInt ∧ R b = r ∧ b < n := by
  intro n
  induction n with
  | zero => intro _; exact Or.inl ⟨rfl, fun k hk => by omega⟩
  | succ n ih =>
    intro hn
    have hs := h3 n (by omega)
    have z0 : (0 : Int64).toInt = 0 := rfl
    rcases ih (by omega) with ⟨i1, i2⟩ | ⟨b, i1, i2, i3, i4, i5⟩
    · by_cases hr : R n = r
      · have e := h1 n (by omega) hr
        by_cases hp : (S n).toInt = 0
        · left
          have : S' n ≤ 0 := by rw [e, Int64.le_iff_toInt_le]; omega
          refine ⟨by simp only [sRest, i1, hr, if_true, this], fun k hk => ?_⟩
          by_cases y : k = n
          · subst y; exact hp
          · exact i2 k (by omega)
        · right
          have q : ¬ S' n ≤ 0 := by rw [e, Int64.le_iff_toInt_le]; omega
          refine ⟨n, by simp only [sRest, i1, hr, if_true, q, if_false], ?_, by omega, hr, by omega⟩
          simp only [cBest]
          by_cases h0 : 0 < n
          · have hb := cBest_lt S h0
            have := i2 _ hb
            rw [if_neg (by rw [Int64.le_iff_toInt_le]; omega)]
          · have : n = 0 := by omega
            subst this
            simp [cBest]
      · left
        have e := h2 n (by omega) hr
        refine ⟨by simp only [sRest, i1, hr, if_false], fun k hk => ?_⟩
        by_cases y : k = n
        · subst y; rw [e]; rfl
        · exact i2 k (by omega)
    · right
      have eb := h1 b (by omega) i4
      by_cases hr : R n = r
      · have e := h1 n (by omega) hr
        by_cases hp : (S n).toInt ≤ 0
        · have q : S' n ≤ 0 := by rw [e, Int64.le_iff_toInt_le]; omega
          refine ⟨b, by simp only [sRest, i1, hr, if_true, q], ?_, i3, i4, by omega⟩
          simp only [cBest, i2]
          rw [if_pos (by rw [Int64.le_iff_toInt_le]; omega)]
        · have q : ¬ S' n ≤ 0 := by rw [e, Int64.le_iff_toInt_le]; omega
          have q' := q
          rw [e] at q'
          by_cases hg : S n ≤ S b
          · refine ⟨b, by simp only [sRest, i1, hr, if_true, q', if_false, e, eb, hg], ?_, i3, i4, by omega⟩
            simp only [cBest, i2, hg, if_true]
          · refine ⟨n, by simp only [sRest, i1, hr, if_true, q', if_false, e, eb, hg], ?_, by omega, hr, by omega⟩
            simp only [cBest, i2, hg, if_false]
      · have e := h2 n (by omega) hr
        refine ⟨b, by simp only [sRest, i1, hr, if_false], ?_, i3, i4, by omega⟩
        simp only [cBest, i2]
        rw [if_pos (by rw [e, Int64.le_iff_toInt_le]; omega)]
theorem zSum_pos {S : Nat → Int64} : ∀ {n : Nat}, (∀ k, k < n → (S k).toInt = 0) → zSum S n = 0 := by
  intro n
  induction n with
  | zero => intro _; rfl
  | succ n ih =>
    intro h
    simp only [zSum]
    rw [ih (fun k hk => h k (by omega)), h n (by omega)]
    rfl
/-- one more each to the greatest rests: both ways -/
theorem give_ok {R : Nat → Int32} {D : Nat → Int64} {r : Int32} {N : Nat} {a h : Int} (hD : dOk D N) (ha : 0 < a) : ∀ (m : Nat) (P S G S' : Nat → Int64), (∀ k, k < N → kInv R D r a P S k) → (m : Int) * a ≤ zSum S N → zSum P N + m = h → (∀ k, k < N → R k = r → G k = P k ∧ S' k = S k) →
    (∀ k, k < N → 0 ≤ ((cGive N m (P, S)).1 k).toInt ∧ ((cGive N m (P, S)).1 k).toInt ≤ (D k).toInt ∧ (¬ R k = r → (cGive N m (P, S)).1 k = 0)) ∧ zSum (cGive N m (P, S)).1 N = h ∧ ∀ k, k < N → R k = r → (sGive R r N m (G, S')).1 k = (cGive N m (P, S)).1 k := by
  intro m
  induction m with
  | zero =>
    intro P S G S' h1 h2 h3 h4
    refine ⟨fun k hk => ?_, by simpa [cGive] using h3, fun k hk hr => (h4 k hk hr).1⟩
    obtain ⟨-, -, k1, k2, -, k3⟩ := h1 k hk
    exact ⟨k1, k2, fun z => (k3 z).1⟩
  | succ m ih =>
    intro P S G S' h1 h2 h3 h4
    have z0 : (0 : Int64).toInt = 0 := rfl
    rcases best_ok (R := R) (r := r) (S := S) (S' := S') (N := N) (fun k hk hr => (h4 k hk hr).2) (fun k hk hr => ((h1 k hk).2.2.2.2.2 hr).2) (fun k hk => (h1 k hk).1) N (Nat.le_refl _) with ⟨-, q⟩ | ⟨b, q1, q2, q3, q4, q5⟩
    · exfalso
      rw [zSum_pos q, Int.natCast_succ, Int.add_mul] at h2
      have := Int.mul_nonneg (Int.natCast_nonneg m) (Int.le_of_lt ha)
      omega
    · have hb := h1 b q5
      have hd := hD b q5
      have eP : (P b + 1).toInt = (P b).toInt + 1 := by
        obtain ⟨-, -, k1, k2, -, -⟩ := hb
        rw [Int64.toInt_add, bm_in] <;> first | rfl | (show _ ; have : (1 : Int64).toInt = 1 := rfl; omega)
      have hP1 := hb.2.2.2.2.1 q3
      have step := ih (vp_updL P b (P b + 1)) (vp_updL S b 0) (vp_updL G b (G b + 1)) (vp_updL S' b 0) (fun k hk => by
          by_cases y : k = b
          · subst y
            unfold kInv
            simp only [pk_uLs, eP, z0]
            obtain ⟨k0, k00, k1, k2, -, -⟩ := hb
            exact ⟨Int.le_refl _, ha, by omega, by omega, fun z => by omega, fun z => absurd q4 z⟩
          · have := h1 k hk
            unfold kInv at this ⊢
            simp only [pk_uLn y]
            exact this) (by
          rw [zSum_up, if_pos q5, z0]
          rw [Int.natCast_succ, Int.add_mul] at h2
          have := hb.2.1
          omega) (by
          rw [zSum_up, if_pos q5, eP]
          rw [Int.natCast_succ] at h3
          omega) (fun k hk hr => by
          by_cases y : k = b
          · subst y
            simp only [pk_uLs]
            rw [(h4 k hk hr).1]
            exact ⟨rfl, trivial⟩
          · simp only [pk_uLn y]
            exact h4 k hk hr)
      have eC : cGive N (m + 1) (P, S) = cGive N m (vp_updL P b (P b + 1), vp_updL S b 0) := by simp only [cGive, q2]
      have eS : sGive R r N (m + 1) (G, S') = sGive R r N m (vp_updL G b (G b + 1), vp_updL S' b 0) := by simp only [sGive, q1]
      rw [eC, eS]
      exact step
