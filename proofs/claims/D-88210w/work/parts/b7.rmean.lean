/-! THE READER, plain: what codes mean -/
set_option maxRecDepth 100000
/-- codes worked on a pile -/
def sRunL (one : Int32 × Int32 → Bool) : List (Int32 × Int32) → List Bool → Option (List Bool)
  | [], s => some s
  | x :: r, s => match sStep (one x) x.1 s with
    | none => none
    | some s' => sRunL one r s'
theorem sRunL_app (one : Int32 × Int32 → Bool) : ∀ (a b : List (Int32 × Int32)) (s : List Bool), sRunL one (a ++ b) s = (sRunL one a s).bind (sRunL one b)
  | [], b, s => rfl
  | x :: r, b, s => by
    simp only [List.cons_append, sRunL]
    cases sStep (one x) x.1 s with
    | none => rfl
    | some s' => exact sRunL_app one r b s'
theorem sRun_L {one : Nat → Bool} {C N : Nat → Int32} {o2 : Int32 × Int32 → Bool} : ∀ (cs : List (Int32 × Int32)) (f : Nat) (s : List Bool), (∀ i x, cs[i]? = some x → C (f + i) = x.1 ∧ one (f + i) = o2 x) → sRun one C f cs.length s = sRunL o2 cs s
  | [], f, s, _ => rfl
  | x :: r, f, s, h => by
    have h0 := h 0 x rfl
    rw [Nat.add_zero] at h0
    simp only [List.length_cons, sRun, sRunL]
    rw [h0.1, h0.2]
    cases sStep (o2 x) x.1 s with
    | none => rfl
    | some s' => exact sRun_L (N := N) r (f + 1) s' (fun i y hy => by
        have := h (i + 1) y (by rw [List.getElem?_cons_succ]; exact hy)
        rwa [show f + (i + 1) = f + 1 + i by omega] at this)
/-- the codes cs mean m, with k places of the pile -/
def tM (k : Nat) (cs : List (Int32 × Int32)) (m : (Nat → Int32) → Bool) : Prop := ∀ (D : Nat → Nat → Int32) (t u : Nat) (st : List Bool), st.length + k ≤ 64 → sRunL (fun x => sSingle D x.1 x.2 t u) cs st = some (m (vP D t u) :: st)
theorem tM.mono {k j : Nat} {cs : List (Int32 × Int32)} {m : (Nat → Int32) → Bool} (h : tM k cs m) (hk : k ≤ j) : tM j cs m := fun D t u st hs => h D t u st (by omega)
theorem tM_one {k n : Int32} {m : (Nat → Int32) → Bool} (h0 : ¬ k = 0) (h1 : ¬ k = 1) (h2 : ¬ k = 2) (h : ∀ (D : Nat → Nat → Int32) (t u : Nat), sSingle D k n t u = m (vP D t u)) : tM 1 [(k, n)] m := by
  intro D t u st hs
  simp only [sRunL, sStep]
  rw [if_neg h0, if_neg h1, if_neg h2, if_pos (by omega), h D t u]
theorem tM_not {k : Nat} {cs : List (Int32 × Int32)} {m : (Nat → Int32) → Bool} (h : tM k cs m) : tM k (cs ++ [(2, 0)]) (fun v => !m v) := by
  intro D t u st hs
  rw [sRunL_app, h D t u st hs]
  rfl
theorem tM_and {k j : Nat} {cs ds : List (Int32 × Int32)} {m n : (Nat → Int32) → Bool} (h : tM k cs m) (h2 : tM j ds n) (hj : j + 1 ≤ k) : tM k (cs ++ (ds ++ [(0, 0)])) (fun v => m v && n v) := by
  intro D t u st hs
  rw [sRunL_app, h D t u st hs]
  show sRunL _ (ds ++ [(0, 0)]) (m (vP D t u) :: st) = _
  rw [sRunL_app, h2 D t u _ (by simp only [List.length_cons]; omega)]
  rfl
theorem tM_or {k j : Nat} {cs ds : List (Int32 × Int32)} {m n : (Nat → Int32) → Bool} (h : tM k cs m) (h2 : tM j ds n) (hj : j + 1 ≤ k) : tM k (cs ++ (ds ++ [(1, 0)])) (fun v => m v || n v) := by
  intro D t u st hs
  rw [sRunL_app, h D t u st hs]
  show sRunL _ (ds ++ [(1, 0)]) (m (vP D t u) :: st) = _
  rw [sRunL_app, h2 D t u _ (by simp only [List.length_cons]; omega)]
  rfl
theorem and_pos {x b : Int32} (hb : 0 ≤ b) : 0 ≤ x &&& b := by
  have h : b.toBitVec.msb = false := by
    rw [BitVec.msb_eq_false_iff_two_mul_lt]
    have := Int32.le_iff_toInt_le.mp hb
    have e : b.toInt = b.toBitVec.toInt := rfl
    rw [e, show (0 : Int32).toInt = 0 from by decide, BitVec.toInt_eq_toNat_cond] at this
    split at this
    · omega
    · have := b.toBitVec.isLt
      omega
  have h2 : (x &&& b).toBitVec.msb = false := by
    rw [Int32.toBitVec_and, BitVec.msb_and, h, Bool.and_false]
  refine Int32.le_iff_toInt_le.mpr ?_
  have e : (x &&& b).toInt = (x &&& b).toBitVec.toInt := rfl
  rw [show (0 : Int32).toInt = 0 from by decide, e, BitVec.toInt_eq_msb_cond, h2]
  simp
theorem tM_bit {b : Int32} (hb : 0 ≤ b) : tM 1 [(3, b)] (fun v => !decide (v 3 &&& b = 0)) := by
  refine tM_one (by decide) (by decide) (by decide) (fun D t u => ?_)
  unfold sSingle
  rw [if_pos rfl]
  show (!decide (D 22 t &&& b ≤ 0)) = !decide (D 22 t &&& b = 0)
  congr 1
  refine decide_eq_decide.mpr ⟨fun q => Int32.le_antisymm q (and_pos hb), fun q => by rw [q]; decide⟩
theorem tM_back : tM 1 [(8, 0)] (fun v => !decide (v 6 = 0)) := by
  refine tM_one (by decide) (by decide) (by decide) (fun D t u => ?_)
  unfold sSingle
  rw [if_neg (by decide), if_pos rfl]
  show _ = !decide (zB (decide (D 23 (8 * t + u) = D 32 0)) = 0)
  cases decide (D 23 (8 * t + u) = D 32 0) <;> rfl
theorem tM_kind (k : Int32) : tM 1 [(22, k)] (fun v => decide (v 0 = k)) := by
  refine tM_one (by decide) (by decide) (by decide) (fun D t u => ?_)
  unfold sSingle
  rw [if_neg (by decide), if_neg (by decide), if_pos rfl]
  rfl
/-- the signs of relations -/
def sgR (r : Nat) : Int32 := if r = 0 then 61 else if r = 1 then 60 else 62
theorem so_c (r : Nat) (hr : r < 3) (x n : Int32) : sSo (nI r) x n = cCmp (sgR r) x n := by
  have : r = 0 ∨ r = 1 ∨ r = 2 := by omega
  rcases this with rfl | rfl | rfl
  · rfl
  · show decide (x < n) = !decide (n ≤ x)
    by_cases h : x < n
    · rw [decide_eq_true h, decide_eq_false (Int32.not_le.mpr h)]; rfl
    · rw [decide_eq_false h, decide_eq_true (Int32.not_lt.mp h)]; rfl
  · show decide (n < x) = !decide (x ≤ n)
    by_cases h : n < x
    · rw [decide_eq_true h, decide_eq_false (Int32.not_le.mpr h)]; rfl
    · rw [decide_eq_false h, decide_eq_true (Int32.not_lt.mp h)]; rfl
theorem tM_rel (w r : Nat) (hw : w < 4) (hr : r < 3) (n : Int32) : tM 1 [(nI (10 + 3 * w + r), n)] (fun v => cCmp (sgR r) (cVal (nI w) v) n) := by
  have fin : ∀ (w : Fin 4) (r : Fin 3), ¬ nI (10 + 3 * w.val + r.val) = 0 ∧ ¬ nI (10 + 3 * w.val + r.val) = 1 ∧ ¬ nI (10 + 3 * w.val + r.val) = 2 ∧ ¬ nI (10 + 3 * w.val + r.val) = 3 ∧ ¬ nI (10 + 3 * w.val + r.val) = 8 ∧ ¬ nI (10 + 3 * w.val + r.val) = 22 := by decide +kernel
  obtain ⟨e0, e1, e2, e3, e8, e22⟩ := fin ⟨w, hw⟩ ⟨r, hr⟩
  refine tM_one e0 e1 e2 (fun D t u => ?_)
  unfold sSingle
  rw [if_neg e3, if_neg e8, if_neg e22]
  have fin2 : ∀ r : Fin 3, (nI (10 + r.val) < 19 ∧ nI (10 + r.val) < 16 ∧ nI (10 + r.val) < 13 ∧ nI (10 + r.val) - 10 = nI r.val) ∧ (nI (13 + r.val) < 19 ∧ nI (13 + r.val) < 16 ∧ ¬ nI (13 + r.val) < 13 ∧ nI (13 + r.val) - 13 = nI r.val) ∧ (nI (16 + r.val) < 19 ∧ ¬ nI (16 + r.val) < 16 ∧ nI (16 + r.val) - 16 = nI r.val) ∧ (¬ nI (19 + r.val) < 19 ∧ nI (19 + r.val) - 19 = nI r.val) := by decide +kernel
  obtain ⟨f0, f1, f2, f3⟩ := fin2 ⟨r, hr⟩
  have : w = 0 ∨ w = 1 ∨ w = 2 ∨ w = 3 := by omega
  rcases this with rfl | rfl | rfl | rfl
  · show (if nI (10 + r) < 19 then _ else _) = _
    rw [if_pos f0.1, if_pos f0.2.1, if_pos f0.2.2.1, f0.2.2.2]
    exact so_c r hr _ _
  · show (if nI (13 + r) < 19 then _ else _) = _
    rw [if_pos f1.1, if_pos f1.2.1, if_neg f1.2.2.1, f1.2.2.2]
    exact so_c r hr _ _
  · show (if nI (16 + r) < 19 then _ else _) = _
    rw [if_pos f2.1, if_neg f2.2.1, f2.2.2]
    exact so_c r hr _ _
  · show (if nI (19 + r) < 19 then _ else _) = _
    rw [if_neg f3.1, f3.2]
    exact so_c r hr _ _
/-- cells made since c, of the frozen role -/
def gNw (c c' : gLH) : gLH := fun a => match gOnly c a with
  | none => gOnly c' a
  | some _ => none
theorem gNw_i {c c' : gLH} {a : Nat} {e : va_E} (h : gOnly c a = none) (h2 : c' a = some (gT, e)) : gNw c c' a = some (gT, e) := by
  unfold gNw
  rw [h]
  exact gOnly_i h2
theorem gNw_e {c c' : gLH} {a r : Nat} {e : va_E} (h : gNw c c' a = some (r, e)) : gOnly c a = none ∧ c' a = some (gT, e) ∧ r = gT := by
  unfold gNw at h
  cases hc : gOnly c a with
  | none => rw [hc] at h; have z := gOnly_e h; obtain ⟨z1, rfl⟩ := z; exact ⟨rfl, z1, rfl⟩
  | some y => rw [hc] at h; cases h
theorem gNw_only {c c' : gLH} : gSub (gNw c c') (gOnly c') := fun a r e h => by
  obtain ⟨h1, h2, rfl⟩ := gNw_e h
  exact gOnly_i h2
theorem gOnly_n {c : gLH} {a : Nat} (h : c a = none) : gOnly c a = none := by
  cases q : gOnly c a with
  | none => rfl
  | some y => have z := gOnly_e (r := y.1) (e := y.2) q; rw [h] at z; cases z.1
/-- what was made is still there -/
theorem gNw_mono {c0 c1 c2 c3 : gLH} (h0 : ∀ a, gOnly c1 a = none → gOnly c0 a = none) (h : ∀ (a : Nat) (e : va_E), gOnly c1 a = none → c2 a = some (gT, e) → c3 a = some (gT, e)) : gSub (gNw c1 c2) (gNw c0 c3) := by
  intro a r e ha
  obtain ⟨x, y, rfl⟩ := gNw_e ha
  exact gNw_i (h0 a x) (h a e x y)
