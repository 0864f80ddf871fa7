/-! THE COMPONENT's WORLD: cells by kind k and number i, at ad k i, with roles of their own; c0: what is frozen (and all that isn't the component's) -/
set_option maxRecDepth 100000
/-- the role of cell i of kind k -/
def cR (k i : Nat) : Nat := 2 * (64 * i + k) + 1
/-- roles of the component's mutable cells -/
def isCore (r : Nat) : Bool := decide (r % 2 = 1) && decide (r / 2 % 64 < 32)
/-- the role of frozen things -/
def gT : Nat := 81
theorem gT_core : isCore gT = false := by decide
theorem gT_lt : gT < gSB := by decide
theorem cR_core {k i : Nat} (h : k < 32) : isCore (cR k i) = true := by
  unfold isCore cR
  simp only [Bool.and_eq_true, decide_eq_true_eq]
  omega
theorem cR_inj {k i k' i' : Nat} (h : k < 32) (h' : k' < 32) (e : cR k i = cR k' i') : k = k' ∧ i = i' := by
  unfold cR at e
  omega
theorem cR_lt {k i : Nat} (h : k < 32) (hi : i < 1000) : cR k i < gSB := by
  unfold cR gSB
  omega
def up2 {α : Type} (f : Nat → Nat → α) (k i : Nat) (v : α) : Nat → Nat → α := fun k' i' => if k' = k ∧ i' = i then v else f k' i'
theorem up2_s {α : Type} (f : Nat → Nat → α) (k i : Nat) (v : α) : up2 f k i v k i = v := by simp [up2]
theorem up2_n {α : Type} (f : Nat → Nat → α) {k i k' i' : Nat} (v : α) (h : ¬ (k' = k ∧ i' = i)) : up2 f k i v k' i' = f k' i' := by simp [up2, h]
abbrev cF : Type := Nat → Nat → Option va_E
def CWf (c0 : gLH) (ad : Nat → Nat → Nat) (f : cF) (c : gLH) : Prop := (∀ (k i : Nat) (e : va_E), f k i = some e → c (ad k i) = some (cR k i, e) ∧ k < 32 ∧ i < 1000) ∧ ∀ (a r : Nat) (e : va_E), c0 a = some (r, e) → isCore r = false → c a = some (r, e)
theorem CWf.at {c0 : gLH} {ad : Nat → Nat → Nat} {f : cF} {c : gLH} (h : CWf c0 ad f c) {k i : Nat} {e : va_E} (hk : f k i = some e) : c (ad k i) = some (cR k i, e) := (h.1 k i e hk).1
theorem CWf.sb {c0 : gLH} {ad : Nat → Nat → Nat} {f : cF} {c : gLH} (h : CWf c0 ad f c) {k i : Nat} {e : va_E} (hk : f k i = some e) : cR k i < gSB := cR_lt (h.1 k i e hk).2.1 (h.1 k i e hk).2.2
theorem CWf.ne {c0 : gLH} {ad : Nat → Nat → Nat} {f : cF} {c : gLH} (h : CWf c0 ad f c) {k i k' i' : Nat} {e e' : va_E} (hk : f k i = some e) (hk' : f k' i' = some e') (hne : ¬ (k' = k ∧ i' = i)) : ad k' i' ≠ ad k i := by
  intro q
  have h1 := h.1 k i e hk
  have h2 := h.1 k' i' e' hk'
  rw [q, h1.1] at h2
  have h3 := congrArg Prod.fst (Option.some.inj h2.1)
  obtain ⟨e1, e2⟩ := cR_inj h1.2.1 h2.2.1 h3
  exact hne ⟨e1.symm, e2.symm⟩
theorem CWf.frz {c0 : gLH} {ad : Nat → Nat → Nat} {f : cF} {c : gLH} (h : CWf c0 ad f c) {a r : Nat} {e : va_E} (ha : c0 a = some (r, e)) (hr : isCore r = false) : c a = some (r, e) := h.2 a r e ha hr
/-- a cell is written -/
theorem CWf.set {c0 : gLH} {ad : Nat → Nat → Nat} {f : cF} {c : gLH} (h : CWf c0 ad f c) {k i : Nat} {e e' : va_E} (hk : f k i = some e) : CWf c0 ad (up2 f k i (some e')) (va_up c (ad k i) (some (cR k i, e'))) := by
  have h0 := h.1 k i e hk
  refine ⟨fun k' i' e2 he => ?_, fun a r e2 ha hr => ?_⟩
  · by_cases q : k' = k ∧ i' = i
    · obtain ⟨rfl, rfl⟩ := q
      rw [up2_s] at he
      cases he
      exact ⟨va_up_s _ _ _, h0.2⟩
    · rw [up2_n _ _ q] at he
      have h2 := h.1 k' i' e2 he
      refine ⟨?_, h2.2⟩
      rw [va_up_n _ _ (h.ne hk he q)]
      exact h2.1
  · have hc := h.2 a r e2 ha hr
    rw [va_up_n]
    · exact hc
    · intro q
      rw [q, h0.1] at hc
      have : cR k i = r := congrArg Prod.fst (Option.some.inj hc)
      rw [← this] at hr
      rw [cR_core h0.2.1] at hr
      cases hr
/-- a cell is made -/
theorem CWf.push {c0 : gLH} {ad : Nat → Nat → Nat} {f : cF} {c : gLH} (h : CWf c0 ad f c) {k i q : Nat} {e : va_E} (hq : c q = none) (hk : k < 32) (hi : i < 1000) : CWf c0 (up2 ad k i q) (up2 f k i (some e)) (va_up c q (some (cR k i, e))) := by
  refine ⟨fun k' i' e2 he => ?_, fun a r e2 ha hr => ?_⟩
  · by_cases z : k' = k ∧ i' = i
    · obtain ⟨rfl, rfl⟩ := z
      rw [up2_s] at he ⊢
      cases he
      exact ⟨va_up_s _ _ _, hk, hi⟩
    · rw [up2_n _ _ z] at he ⊢
      have h2 := h.1 k' i' e2 he
      refine ⟨?_, h2.2⟩
      rw [va_up_n _ _ (fun x => by rw [x, hq] at h2; cases h2.1)]
      exact h2.1
  · have hc := h.2 a r e2 ha hr
    rw [va_up_n _ _ (fun x => by rw [x, hq] at hc; cases hc)]
    exact hc
/-- a frozen thing is made -/
theorem CWf.frozen {c0 : gLH} {ad : Nat → Nat → Nat} {f : cF} {c : gLH} (h : CWf c0 ad f c) {q r : Nat} {e : va_E} (hq : c q = none) : CWf (va_up c0 q (some (r, e))) ad f (va_up c q (some (r, e))) := by
  refine ⟨fun k' i' e2 he => ?_, fun a r2 e2 ha hr => ?_⟩
  · have h2 := h.1 k' i' e2 he
    refine ⟨?_, h2.2⟩
    rw [va_up_n _ _ (fun x => by rw [x, hq] at h2; cases h2.1)]
    exact h2.1
  · by_cases z : a = q
    · subst z
      rw [va_up_s] at ha ⊢
      exact ha
    · rw [va_up_n _ _ z] at ha ⊢
      exact h.2 a r2 e2 ha hr
theorem CWf.sub {c0 : gLH} {ad : Nat → Nat → Nat} {f f' : cF} {c : gLH} (h : CWf c0 ad f c) (hf : ∀ k i e, f' k i = some e → f k i = some e) : CWf c0 ad f' c := ⟨fun k i e he => h.1 k i e (hf k i e he), h.2⟩
theorem CWf.base {c0 c1 : gLH} {ad : Nat → Nat → Nat} {f : cF} {c : gLH} (h : CWf c0 ad f c) (hb : ∀ (a r : Nat) (e : va_E), c1 a = some (r, e) → isCore r = false → c0 a = some (r, e)) : CWf c1 ad f c := ⟨h.1, fun a r e ha hr => h.2 a r e (hb a r e ha hr) hr⟩
/-- the lists -/
theorem CWf.list {c0 : gLH} {ad : Nat → Nat → Nat} {f : cF} {c : gLH} (h : CWf c0 ad f c) {k k' i cap : Nat} {m : Int32} {es : List Nat} (h1 : f k i = some (.inr (31, [.int m, .ref (ad k' i), .int (nI es.length)]))) (h2 : f k' i = some (gRefs cap (fun j => es[j]?))) (hle : es.length ≤ cap) (hcap : cap ≤ 4000) : gAL c (ad k i) (ad k' i) cap (cR k i) (cR k' i) es :=
  ⟨⟨m, h.at h1⟩, h.at h2, hle, hcap⟩
/-- a list has changed, nothing else -/
theorem CWf.relist {c0 : gLH} {ad : Nat → Nat → Nat} {f : cF} {c c' : gLH} (h : CWf c0 ad f c) {k k' i cap cap' d' : Nat} {m : Int32} {es es' : List Nat} (h1 : f k i = some (.inr (31, [.int m, .ref (ad k' i), .int (nI es.length)]))) (h2 : f k' i = some (gRefs cap (fun j => es[j]?))) (hL : gAL c' (ad k i) d' cap' (cR k i) (cR k' i) es') (hd : d' = ad k' i ∨ c d' = none) (hfr : gFrm c c' (ad k i) (ad k' i)) :
    ∃ m' : Int32, CWf c0 (up2 ad k' i d') (up2 (up2 f k i (some (.inr (31, [.int m', .ref d', .int (nI es'.length)])))) k' i (some (gRefs cap' (fun j => es'[j]?)))) c' := by
  obtain ⟨⟨m', hc1⟩, hc2, -⟩ := hL
  have a1 := h.1 k i _ h1
  have a2 := h.1 k' i _ h2
  have hkk : ¬ (k = k' ∧ i = i) := fun q => by rw [q.1, h2] at h1; cases h1
  refine ⟨m', fun k2 i2 e2 he => ?_, fun a r e2 ha hr => ?_⟩
  · by_cases z : k2 = k' ∧ i2 = i
    · obtain ⟨rfl, rfl⟩ := z
      rw [up2_s] at he ⊢
      cases he
      exact ⟨hc2, a2.2⟩
    · rw [up2_n _ _ z] at he ⊢
      by_cases y : k2 = k ∧ i2 = i
      · obtain ⟨rfl, rfl⟩ := y
        rw [up2_s] at he
        cases he
        exact ⟨hc1, a1.2⟩
      · rw [up2_n _ _ y] at he
        have b := h.1 k2 i2 e2 he
        exact ⟨hfr _ _ _ b.1 (h.ne h1 he y) (h.ne h2 he z), b.2⟩
  · have hc := h.2 a r e2 ha hr
    refine hfr a r e2 hc (fun q => ?_) (fun q => ?_)
    · rw [q, a1.1] at hc
      have : cR k i = r := congrArg Prod.fst (Option.some.inj hc)
      rw [← this, cR_core a1.2.1] at hr
      cases hr
    · rw [q, a2.1] at hc
      have : cR k' i = r := congrArg Prod.fst (Option.some.inj hc)
      rw [← this, cR_core a2.2.1] at hr
      cases hr
section CROWS
variable {φ : gFx} {Q : State → Prop} {pc : Nat} {lv : List (Nat × Value)} {st : List Value} {c0 c : gLH} {ce sl : Nat} {l : Launch} {g : gGP} {R : Room} {cc : ByteArray} {nL : Nat} {own mn : String} {ret : Option FieldType} {tbl : List (Nat × Nat × Nat × Nat)} {idx : Nat} {ad : Nat → Nat → Nat} {f : cF}
theorem c_get (h : gOK φ l g R cc nL own mn ret tbl) (hX : CWf c0 ad f c) {k i ci j : Nat} {fs : List Value} {v : Value} (hf : f k i = some (.inr (ci, fs))) (hF : gF own idx ci j) (hv' : fs[j]? = some v) (hd : decode cc pc = .ok (.getfield idx, 3)) (kk : G φ Q (pc + 3) lv (v :: st) c ce sl) : G φ Q pc lv (.ref (ad k i) :: st) c ce sl := g_get h hF (hX.at hf) hv' hd kk
theorem c_put (h : gOK φ l g R cc nL own mn ret tbl) (hX : CWf c0 ad f c) {k i ci j : Nat} {fs : List Value} {v : Value} {ty : FieldType} (hf : f k i = some (.inr (ci, fs))) (hF : gFP own idx ci j ty) (hl' : j < fs.length) (hn : narrow ty v = v) (hft : fits ty v = true) (hd : decode cc pc = .ok (.putfield idx, 3)) (kk : ∀ c : gLH, CWf c0 ad (up2 f k i (some (.inr (ci, fs.set j v)))) c → G φ Q (pc + 3) lv st c ce sl) : G φ Q pc lv (v :: .ref (ad k i) :: st) c ce sl :=
  g_put h hF (hX.at hf) (hX.sb hf) hl' hn hft hd (kk _ (hX.set hf))
theorem c_iald (h : gOK φ l g R cc nL own mn ret tbl) (hX : CWf c0 ad f c) {k i n j : Nat} {x : Nat → Int32} (hf : f k i = some (.inl (0, n, .inl x))) (hj : j < n) (hn : n < 2147483648) (hd : decode cc pc = .ok (.iaload, 1)) (kk : G φ Q (pc + 1) lv (.int (x j) :: st) c ce sl) : G φ Q pc lv (.int (nI j) :: .ref (ad k i) :: st) c ce sl := g_ialdN h (hX.at hf) hj hn hd kk
theorem c_iast (h : gOK φ l g R cc nL own mn ret tbl) (hX : CWf c0 ad f c) {k i n j : Nat} {x : Nat → Int32} {v : Int32} (hf : f k i = some (.inl (0, n, .inl x))) (hj : j < n) (hn : n < 2147483648) (hd : decode cc pc = .ok (.iastore, 1)) (kk : ∀ c : gLH, CWf c0 ad (up2 f k i (some (.inl (0, n, .inl (upd x j v))))) c → G φ Q (pc + 1) lv st c ce sl) : G φ Q pc lv (.int v :: .int (nI j) :: .ref (ad k i) :: st) c ce sl :=
  g_iastN h (hX.at hf) (hX.sb hf) hj hn hd (kk _ (hX.set hf))
theorem c_lald (h : gOK φ l g R cc nL own mn ret tbl) (hX : CWf c0 ad f c) {k i n j : Nat} {x : Nat → Int64} (hf : f k i = some (gLongs n x)) (hj : j < n) (hn : n < 2147483648) (hd : decode cc pc = .ok (.laload, 1)) (kk : G φ Q (pc + 1) lv (.long (x j) :: st) c ce sl) : G φ Q pc lv (.int (nI j) :: .ref (ad k i) :: st) c ce sl := g_laldN h (hX.at hf) hj hn hd kk
theorem c_last (h : gOK φ l g R cc nL own mn ret tbl) (hX : CWf c0 ad f c) {k i n j : Nat} {x : Nat → Int64} {v : Int64} (hf : f k i = some (gLongs n x)) (hj : j < n) (hn : n < 2147483648) (hd : decode cc pc = .ok (.lastore, 1)) (kk : ∀ c : gLH, CWf c0 ad (up2 f k i (some (gLongs n (vp_updL x j v)))) c → G φ Q (pc + 1) lv st c ce sl) : G φ Q pc lv (.long v :: .int (nI j) :: .ref (ad k i) :: st) c ce sl :=
  g_lastN h (hX.at hf) (hX.sb hf) hj hn hd (kk _ (hX.set hf))
theorem c_bast (h : gOK φ l g R cc nL own mn ret tbl) (hX : CWf c0 ad f c) {k i n j : Nat} {x : Nat → Int32} {v : Int32} (hf : f k i = some (gBytes n x)) (hj : j < n) (hn : n < 2147483648) (hd : decode cc pc = .ok (.bastore, 1)) (kk : ∀ c : gLH, CWf c0 ad (up2 f k i (some (gBytes n (upd x j (vp_nar .byte v))))) c → G φ Q (pc + 1) lv st c ce sl) : G φ Q pc lv (.int v :: .int (nI j) :: .ref (ad k i) :: st) c ce sl :=
  g_bastN h (hX.at hf) (hX.sb hf) hj hn hd (kk _ (hX.set hf))
end CROWS
