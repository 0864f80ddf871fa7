/-! THE COMPONENT: stretch, farmer -/
set_option maxRecDepth 100000
theorem nI_full {n m : Nat} (h : n ≤ m) (hm : m < 2147483648) : nI m ≤ nI n ↔ n = m := by
  constructor
  · intro q
    by_cases z : n < m
    · exact absurd q (nI_ge z (by omega))
    · omega
  · rintro rfl
    exact nI_le (Nat.le_refl _) (by omega)
theorem Ct.weaken {l : Launch} {g : gGP} {y : MethodName} {hw : Cond} {fr lo mc ms : Nat} {as : List Value} {c : gLH} {P P' : Outcome → gLH → Prop} (h : Ct l g y hw fr lo as c mc ms P) (hp : ∀ o c', P o c' → P' o c') : Ct l g y hw fr lo as c mc ms P' :=
  MetFree.mono h (fun _ _ h => h) (fun _ _ _ _ _ h => h) (fun _ _ _ _ _ h => ⟨by obtain ⟨c', g1, g2⟩ := h.1; exact ⟨c', g1, hp _ _ g2⟩, h.2⟩)
section CAE
variable {c0 c : gLH} {ad cp fz : Nat → Nat → Nat} {md : Nat → Nat → Int32} {S : Nat → List Value} {U : Nat → Nat → Int64} {A A' : Nat → Nat → Int32} {B B' : Nat → Nat → Int64}
theorem CI_add1 (h : CI cp A) {n cap' : Nat} (hcn : cn A' 1 = n + 1) (hcV : cV A' 1 = nI (n + 1)) (hM : n + 1 ≤ cM 1) (hcnO : ∀ i, i < 6 → i ≠ 1 → cn A' i = cn A i) (hcVO : ∀ i, i < 6 → i ≠ 1 → cV A' i = cV A i) (h46 : A' 46 = A 46) (h42 : A' 42 = A 42) (h1 : n + 1 ≤ cap') (h2 : cap' ≤ 4000) : CI (up2 cp 3 1 cap') A' := by
  obtain ⟨g1, g2, g3⟩ := h
  refine ⟨fun i hi => ?_, ?_, ?_⟩
  · by_cases z : i = 1
    · subst z
      rw [up2_s, hcn, hcV]
      exact ⟨h1, by omega, h2, hM, rfl⟩
    · rw [up2_n _ _ (fun y => z y.2), hcnO i hi z, hcVO i hi z]
      exact g1 i hi
  · rw [hcnO 2 (by decide) (by decide), h46, up2_k _ _ (by decide)]
    exact g2
  · rw [h42, up2_k _ _ (by decide)]
    exact g3
theorem CW.els1 (h : CW c0 ad cp fz md S U A B c) : gEls c (ad 2 1) (cL ad fz A 1) := by
  intro y hy
  obtain ⟨j, hj⟩ := List.getElem?_of_mem hy
  by_cases z : j < cn A 1
  · rw [cL_at ad fz z] at hj
    cases hj
    refine ⟨⟨_, _, _, _, h.1.at (cells_9 z), rfl, q2280⟩, fun e => ?_⟩
    have h1 := h.1.at (cells_9 z)
    have h2 : c (ad 2 1) = some (cR 2 1, _) := h.1.at (k := 2) (i := 1) rfl
    have e' : ad 9 j = ad 2 1 := e
    rw [e', h2] at h1
    cases (cR_inj (by decide) (by decide) (congrArg Prod.fst (Option.some.inj h1))).1
  · rw [List.getElem?_eq_none (by rw [cL_len]; omega)] at hj
    cases hj
theorem CI_add4 (h : CI cp A) {n cap' : Nat} (hcn : cn A' 4 = n + 1) (hcV : cV A' 4 = nI (n + 1)) (hM : n + 1 ≤ cM 4) (hcnO : ∀ i, i < 6 → i ≠ 4 → cn A' i = cn A i) (hcVO : ∀ i, i < 6 → i ≠ 4 → cV A' i = cV A i) (h46 : A' 46 = A 46) (h42 : A' 42 = A 42) (h1 : n + 1 ≤ cap') (h2 : cap' ≤ 4000) : CI (up2 cp 3 4 cap') A' := by
  obtain ⟨g1, g2, g3⟩ := h
  refine ⟨fun i hi => ?_, ?_, ?_⟩
  · by_cases z : i = 4
    · subst z
      rw [up2_s, hcn, hcV]
      exact ⟨h1, by omega, h2, hM, rfl⟩
    · rw [up2_n _ _ (fun y => z y.2), hcnO i hi z, hcVO i hi z]
      exact g1 i hi
  · rw [hcnO 2 (by decide) (by decide), h46, up2_k _ _ (by decide)]
    exact g2
  · rw [h42, up2_k _ _ (by decide)]
    exact g3
theorem CW.els4 (h : CW c0 ad cp fz md S U A B c) : gEls c (ad 2 4) (cL ad fz A 4) := by
  intro y hy
  obtain ⟨j, hj⟩ := List.getElem?_of_mem hy
  by_cases z : j < cn A 4
  · rw [cL_at ad fz z] at hj
    cases hj
    refine ⟨⟨_, _, _, _, h.1.at (cells_15 z), rfl, q2287⟩, fun e => ?_⟩
    have h1 := h.1.at (cells_15 z)
    have h2 : c (ad 2 4) = some (cR 2 4, _) := h.1.at (k := 2) (i := 4) rfl
    have e' : ad 15 j = ad 2 4 := e
    rw [e', h2] at h1
    cases (cR_inj (by decide) (by decide) (congrArg Prod.fst (Option.some.inj h1))).1
  · rw [List.getElem?_eq_none (by rw [cL_len]; omega)] at hj
    cases hj
theorem CI_add5 (h : CI cp A) {n cap' : Nat} (hcn : cn A' 5 = n + 1) (hcV : cV A' 5 = nI (n + 1)) (hM : n + 1 ≤ cM 5) (hcnO : ∀ i, i < 6 → i ≠ 5 → cn A' i = cn A i) (hcVO : ∀ i, i < 6 → i ≠ 5 → cV A' i = cV A i) (h46 : A' 46 = A 46) (h42 : A' 42 = A 42) (h1 : n + 1 ≤ cap') (h2 : cap' ≤ 4000) : CI (up2 cp 3 5 cap') A' := by
  obtain ⟨g1, g2, g3⟩ := h
  refine ⟨fun i hi => ?_, ?_, ?_⟩
  · by_cases z : i = 5
    · subst z
      rw [up2_s, hcn, hcV]
      exact ⟨h1, by omega, h2, hM, rfl⟩
    · rw [up2_n _ _ (fun y => z y.2), hcnO i hi z, hcVO i hi z]
      exact g1 i hi
  · rw [hcnO 2 (by decide) (by decide), h46, up2_k _ _ (by decide)]
    exact g2
  · rw [h42, up2_k _ _ (by decide)]
    exact g3
theorem CW.els5 (h : CW c0 ad cp fz md S U A B c) : gEls c (ad 2 5) (cL ad fz A 5) := by
  intro y hy
  obtain ⟨j, hj⟩ := List.getElem?_of_mem hy
  by_cases z : j < cn A 5
  · rw [cL_at ad fz z] at hj
    cases hj
    refine ⟨⟨_, _, _, _, h.1.at (cells_16 z), rfl, q2289⟩, fun e => ?_⟩
    have h1 := h.1.at (cells_16 z)
    have h2 : c (ad 2 5) = some (cR 2 5, _) := h.1.at (k := 2) (i := 5) rfl
    have e' : ad 16 j = ad 2 5 := e
    rw [e', h2] at h1
    cases (cR_inj (by decide) (by decide) (congrArg Prod.fst (Option.some.inj h1))).1
  · rw [List.getElem?_eq_none (by rw [cL_len]; omega)] at hj
    cases hj
end CAE
theorem ct_xadd1 {l : Launch} {g : gGP} (hk : gK l g) (hS : gLS g) {c0 c : gLH} {ad cp fz : Nat → Nat → Nat} {md : Nat → Nat → Int32} {S : Nat → List Value} {U : Nat → Nat → Int64} {A : Nat → Nat → Int32} {B : Nat → Nat → Int64} (hX : CW c0 ad cp fz md S U A B c) {n q : Nat} {vs : List Value} {A' : Nat → Nat → Int32} {B' : Nat → Nat → Int64} (hn : cn A 1 = n) (hq : c q = none) (hcn : cn A' 1 = n + 1) (hcV : cV A' 1 = nI (n + 1)) (hM : n + 1 ≤ cM 1) (hcnO : ∀ i, i < 6 → i ≠ 1 → cn A' i = cn A i) (hcVO : ∀ i, i < 6 → i ≠ 1 → cV A' i = cV A i) (h46 : A' 46 = A 46) (h42 : A' 42 = A 42) (hoth : ∀ k i, k ≠ 2 → k ≠ 3 → k ≠ 9 → cells ad cp fz md S U A' B' k i = cells ad cp fz md S U A B k i) (hnew : cells ad cp fz md S U A' B' 9 n = some (.inr (22, vs))) (hold : ∀ i, i ≠ n → cells ad cp fz md S U A' B' 9 i = cells ad cp fz md S U A B 9 i) :
    Ct l g yJ2_add hwJ2_add 6 240 [.ref (ad 2 1), .ref q] (va_up c q (some (cR 9 n, .inr (22, vs)))) 1 120 (pI 1 (fun c' => ∃ d' cap' m', CW c0 (up2 (up2 ad 9 n q) 3 1 d') (up2 cp 3 1 cap') fz (up2 md 2 1 m') S U A' B' c')) := by
  have hL := hX.list (i := 1) (by decide)
  obtain ⟨⟨m, k1⟩, k2, k3, k4⟩ := hL
  have n1 : ad 2 1 ≠ q := fun e => by rw [e, hq] at k1; cases k1
  have n2 : ad 3 1 ≠ q := fun e => by rw [e, hq] at k2; cases k2
  have hCI := hX.2.1 1 (by decide)
  have hcMb : cM 1 ≤ 60 := by decide
  have hL1 : gAL (va_up c q (some (cR 9 n, .inr (22, vs)))) (ad 2 1) (ad 3 1) (cp 3 1) (cR 2 1) (cR 3 1) (cL ad fz A 1) := ⟨⟨m, by rw [va_up_n _ _ n1]; exact k1⟩, by rw [va_up_n _ _ n2]; exact k2, k3, k4⟩
  have hel : gEls (va_up c q (some (cR 9 n, .inr (22, vs)))) (ad 2 1) (cL ad fz A 1) := fun y hy => by
    obtain ⟨o, hne⟩ := hX.els1 y hy
    exact ⟨o.up (fun e => by obtain ⟨_, _, _, _, z, -⟩ := o; rw [e, hq] at z; cases z), hne⟩
  have hb : (cL ad fz A 1).length ≤ 60 := by rw [cL_len, hn]; omega
  have hA := ct_ladd (v := q) hk (hX.1.sb (k := 2) (i := 1) rfl) (hX.1.sb (k := 3) (i := 1) rfl) hS hL1 hCI.2.1 (by omega) hel ⟨_, _, _, _, va_up_s _ _ _, rfl, q2280⟩ (Ne.symm n1) 1 120 (fun z => by omega)
  refine hA.weaken (fun o c' hp => ?_)
  obtain ⟨ho, d', cap', g1, g2, g3, g4⟩ := hp
  have h1 : n + 1 ≤ cap' := by have := g1.2.2.1; rw [List.length_append, cL_len, hn] at this; exact this
  obtain ⟨m', hZ⟩ := hX.add1 (A' := A') (B' := B') hn hq g1 g3 g4 hcn hcnO hoth hnew hold (CI_add1 hX.2 hcn hcV hM hcnO hcVO h46 h42 h1 g1.2.2.2)
  exact ⟨ho, d', cap', m', hZ⟩
theorem ct_xadd4 {l : Launch} {g : gGP} (hk : gK l g) (hS : gLS g) {c0 c : gLH} {ad cp fz : Nat → Nat → Nat} {md : Nat → Nat → Int32} {S : Nat → List Value} {U : Nat → Nat → Int64} {A : Nat → Nat → Int32} {B : Nat → Nat → Int64} (hX : CW c0 ad cp fz md S U A B c) {n q : Nat} {vs : List Value} {A' : Nat → Nat → Int32} {B' : Nat → Nat → Int64} (hn : cn A 4 = n) (hq : c q = none) (hcn : cn A' 4 = n + 1) (hcV : cV A' 4 = nI (n + 1)) (hM : n + 1 ≤ cM 4) (hcnO : ∀ i, i < 6 → i ≠ 4 → cn A' i = cn A i) (hcVO : ∀ i, i < 6 → i ≠ 4 → cV A' i = cV A i) (h46 : A' 46 = A 46) (h42 : A' 42 = A 42) (hoth : ∀ k i, k ≠ 2 → k ≠ 3 → k ≠ 15 → cells ad cp fz md S U A' B' k i = cells ad cp fz md S U A B k i) (hnew : cells ad cp fz md S U A' B' 15 n = some (.inr (28, vs))) (hold : ∀ i, i ≠ n → cells ad cp fz md S U A' B' 15 i = cells ad cp fz md S U A B 15 i) :
    Ct l g yJ2_add hwJ2_add 6 240 [.ref (ad 2 4), .ref q] (va_up c q (some (cR 15 n, .inr (28, vs)))) 1 120 (pI 1 (fun c' => ∃ d' cap' m', CW c0 (up2 (up2 ad 15 n q) 3 4 d') (up2 cp 3 4 cap') fz (up2 md 2 4 m') S U A' B' c')) := by
  have hL := hX.list (i := 4) (by decide)
  obtain ⟨⟨m, k1⟩, k2, k3, k4⟩ := hL
  have n1 : ad 2 4 ≠ q := fun e => by rw [e, hq] at k1; cases k1
  have n2 : ad 3 4 ≠ q := fun e => by rw [e, hq] at k2; cases k2
  have hCI := hX.2.1 4 (by decide)
  have hcMb : cM 4 ≤ 60 := by decide
  have hL1 : gAL (va_up c q (some (cR 15 n, .inr (28, vs)))) (ad 2 4) (ad 3 4) (cp 3 4) (cR 2 4) (cR 3 4) (cL ad fz A 4) := ⟨⟨m, by rw [va_up_n _ _ n1]; exact k1⟩, by rw [va_up_n _ _ n2]; exact k2, k3, k4⟩
  have hel : gEls (va_up c q (some (cR 15 n, .inr (28, vs)))) (ad 2 4) (cL ad fz A 4) := fun y hy => by
    obtain ⟨o, hne⟩ := hX.els4 y hy
    exact ⟨o.up (fun e => by obtain ⟨_, _, _, _, z, -⟩ := o; rw [e, hq] at z; cases z), hne⟩
  have hb : (cL ad fz A 4).length ≤ 60 := by rw [cL_len, hn]; omega
  have hA := ct_ladd (v := q) hk (hX.1.sb (k := 2) (i := 4) rfl) (hX.1.sb (k := 3) (i := 4) rfl) hS hL1 hCI.2.1 (by omega) hel ⟨_, _, _, _, va_up_s _ _ _, rfl, q2287⟩ (Ne.symm n1) 1 120 (fun z => by omega)
  refine hA.weaken (fun o c' hp => ?_)
  obtain ⟨ho, d', cap', g1, g2, g3, g4⟩ := hp
  have h1 : n + 1 ≤ cap' := by have := g1.2.2.1; rw [List.length_append, cL_len, hn] at this; exact this
  obtain ⟨m', hZ⟩ := hX.add4 (A' := A') (B' := B') hn hq g1 g3 g4 hcn hcnO hoth hnew hold (CI_add4 hX.2 hcn hcV hM hcnO hcVO h46 h42 h1 g1.2.2.2)
  exact ⟨ho, d', cap', m', hZ⟩
theorem ct_xadd5 {l : Launch} {g : gGP} (hk : gK l g) (hS : gLS g) {c0 c : gLH} {ad cp fz : Nat → Nat → Nat} {md : Nat → Nat → Int32} {S : Nat → List Value} {U : Nat → Nat → Int64} {A : Nat → Nat → Int32} {B : Nat → Nat → Int64} (hX : CW c0 ad cp fz md S U A B c) {n q : Nat} {vs : List Value} {A' : Nat → Nat → Int32} {B' : Nat → Nat → Int64} (hn : cn A 5 = n) (hq : c q = none) (hcn : cn A' 5 = n + 1) (hcV : cV A' 5 = nI (n + 1)) (hM : n + 1 ≤ cM 5) (hcnO : ∀ i, i < 6 → i ≠ 5 → cn A' i = cn A i) (hcVO : ∀ i, i < 6 → i ≠ 5 → cV A' i = cV A i) (h46 : A' 46 = A 46) (h42 : A' 42 = A 42) (hoth : ∀ k i, k ≠ 2 → k ≠ 3 → k ≠ 16 → cells ad cp fz md S U A' B' k i = cells ad cp fz md S U A B k i) (hnew : cells ad cp fz md S U A' B' 16 n = some (.inr (30, vs))) (hold : ∀ i, i ≠ n → cells ad cp fz md S U A' B' 16 i = cells ad cp fz md S U A B 16 i) :
    Ct l g yJ2_add hwJ2_add 6 240 [.ref (ad 2 5), .ref q] (va_up c q (some (cR 16 n, .inr (30, vs)))) 1 120 (pI 1 (fun c' => ∃ d' cap' m', CW c0 (up2 (up2 ad 16 n q) 3 5 d') (up2 cp 3 5 cap') fz (up2 md 2 5 m') S U A' B' c')) := by
  have hL := hX.list (i := 5) (by decide)
  obtain ⟨⟨m, k1⟩, k2, k3, k4⟩ := hL
  have n1 : ad 2 5 ≠ q := fun e => by rw [e, hq] at k1; cases k1
  have n2 : ad 3 5 ≠ q := fun e => by rw [e, hq] at k2; cases k2
  have hCI := hX.2.1 5 (by decide)
  have hcMb : cM 5 ≤ 60 := by decide
  have hL1 : gAL (va_up c q (some (cR 16 n, .inr (30, vs)))) (ad 2 5) (ad 3 5) (cp 3 5) (cR 2 5) (cR 3 5) (cL ad fz A 5) := ⟨⟨m, by rw [va_up_n _ _ n1]; exact k1⟩, by rw [va_up_n _ _ n2]; exact k2, k3, k4⟩
  have hel : gEls (va_up c q (some (cR 16 n, .inr (30, vs)))) (ad 2 5) (cL ad fz A 5) := fun y hy => by
    obtain ⟨o, hne⟩ := hX.els5 y hy
    exact ⟨o.up (fun e => by obtain ⟨_, _, _, _, z, -⟩ := o; rw [e, hq] at z; cases z), hne⟩
  have hb : (cL ad fz A 5).length ≤ 60 := by rw [cL_len, hn]; omega
  have hA := ct_ladd (v := q) hk (hX.1.sb (k := 2) (i := 5) rfl) (hX.1.sb (k := 3) (i := 5) rfl) hS hL1 hCI.2.1 (by omega) hel ⟨_, _, _, _, va_up_s _ _ _, rfl, q2289⟩ (Ne.symm n1) 1 120 (fun z => by omega)
  refine hA.weaken (fun o c' hp => ?_)
  obtain ⟨ho, d', cap', g1, g2, g3, g4⟩ := hp
  have h1 : n + 1 ≤ cap' := by have := g1.2.2.1; rw [List.length_append, cL_len, hn] at this; exact this
  obtain ⟨m', hZ⟩ := hX.add5 (A' := A') (B' := B') hn hq g1 g3 g4 hcn hcnO hoth hnew hold (CI_add5 hX.2 hcn hcV hM hcnO hcVO h46 h42 h1 g1.2.2.2)
  exact ⟨ho, d', cap', m', hZ⟩
