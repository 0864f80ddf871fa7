/-! THE PARSER's PLAIN FUNCTIONS, which model and component share -/
set_option maxRecDepth 100000
abbrev w_or : List Nat := [111, 114]
abbrev w_and : List Nat := [97, 110, 100]
abbrev w_not : List Nat := [110, 111, 116]
abbrev w_mail : List Nat := [109, 97, 105, 108]
abbrev w_army : List Nat := [97, 114, 109, 121]
abbrev w_church : List Nat := [99, 104, 117, 114, 99, 104]
abbrev w_farm : List Nat := [102, 97, 114, 109]
abbrev w_back : List Nat := [98, 97, 99, 107]
abbrev w_wheels : List Nat := [119, 104, 101, 101, 108, 115]
abbrev w_beasts : List Nat := [98, 101, 97, 115, 116, 115]
abbrev w_gate : List Nat := [103, 97, 116, 101]
abbrev w_day : List Nat := [100, 97, 121]
abbrev w_kind : List Nat := [107, 105, 110, 100]
abbrev w_coach : List Nat := [99, 111, 97, 99, 104]
abbrev w_cart : List Nat := [99, 97, 114, 116]
abbrev w_wagon : List Nat := [119, 97, 103, 111, 110]
abbrev w_horse : List Nat := [104, 111, 114, 115, 101]
abbrev w_cattle : List Nat := [99, 97, 116, 116, 108, 101]
abbrev w_sheep : List Nat := [115, 104, 101, 101, 112]
abbrev w_foot : List Nat := [102, 111, 111, 116]
abbrev w_free : List Nat := [102, 114, 101, 101]
abbrev w_toll : List Nat := [116, 111, 108, 108]
abbrev w_times : List Nat := [116, 105, 109, 101, 115]
abbrev w_once : List Nat := [111, 110, 99, 101]
abbrev w_each : List Nat := [101, 97, 99, 104]
abbrev w_score : List Nat := [115, 99, 111, 114, 101]
abbrev w_all : List Nat := [97, 108, 108]
abbrev w_if : List Nat := [105, 102]
def pEmit (s : pSt) (k n : Int32) : pSt := (s.1, s.2.1, s.2.2.1, s.2.2.2.1, s.2.2.2.2 ++ [(k, n)])
def pShut (s : pSt) : pSt := (s.1, s.2.1, s.2.2.1, s.2.2.2.1 - 1, s.2.2.2.2)
def pOn (s : pSt) (k : Nat) : pSt := (s.1 + k, s.2)
def pAt (s : pSt) (p : Nat) : pSt := (p, s.2)
/-- a relation, behind its word: r is the sign's place among = < > -/
def pRelN (T : Nat → Int32) (sz : Nat) (s : pSt) (what r : Nat) : pSt := pEmit (pNum T sz (pB T sz s.1 + 1, s.2) false).2 (nI (what + r)) (pNum T sz (pB T sz s.1 + 1, s.2) false).1
def pRel (T : Nat → Int32) (sz : Nat) (s : pSt) (what : Nat) : pSt :=
  if pSign T sz s 61 = true then pRelN T sz s what 0 else if pSign T sz s 60 = true then pRelN T sz s what 1 else if pSign T sz s 62 = true then pRelN T sz s what 2
  else pWrong (pB T sz s.1, s.2) 1 (pB T sz s.1)
def kindW (k : Nat) : List Nat := if k = 0 then w_coach else if k = 1 then w_cart else if k = 2 then w_wagon else if k = 3 then w_horse else if k = 4 then w_cattle else if k = 5 then w_sheep else w_foot
def pKinds (T : Nat → Int32) (sz : Nat) : Nat → Nat → pSt → pSt
  | 0, _, s => pWrong s 1 s.1
  | m + 1, k, s => if (pEat T sz s (kindW k)).1 = true then pEmit (pEat T sz s (kindW k)).2 22 (nI k) else pKinds T sz m (k + 1) (pEat T sz s (kindW k)).2
def pKind (T : Nat → Int32) (sz : Nat) (s : pSt) : pSt := pKinds T sz 7 0 (pNeed T sz s 61)
/-- a word's act: 0 a bit, 1 back, 2 a relation, 3 a kind -/
def pAct (T : Nat → Int32) (sz : Nat) (a : Nat × Nat) (s : pSt) : pSt := if a.1 = 0 then pEmit s 3 (nI a.2) else if a.1 = 1 then pEmit s 8 0 else if a.1 = 2 then pRel T sz s a.2 else pKind T sz s
def pAtom (T : Nat → Int32) (sz : Nat) (s : pSt) : List (List Nat × Nat × Nat) → pSt
  | [] => pWrong s 1 s.1
  | x :: t => if pIsW T s.1 x.1 = true then pAct T sz x.2 (pOn s x.1.length) else pAtom T sz s t
def pAtoms : List (List Nat × Nat × Nat) := [(w_mail, 0, 1), (w_army, 0, 2), (w_church, 0, 4), (w_farm, 0, 8), (w_back, 1, 0), (w_wheels, 2, 10), (w_beasts, 2, 13), (w_gate, 2, 16), (w_day, 2, 19), (w_kind, 3, 0)]
/-- one condition: 'con' and 'one' are what is called deeper -/
def pOneB (T : Nat → Int32) (sz : Nat) (con one : pSt → pSt) (s : pSt) : pSt :=
  if s.2.1 = 0 then
    if pIsW T (pB T sz s.1) w_not = true then (if s.2.2.2.1 = 10 then pWrong (pAt s (pB T sz s.1)) 3 (pB T sz s.1) else pEmit (pShut (one (pOn (pOpens (pAt s (pB T sz s.1))) 3))) 2 0)
    else if pSign T sz s 40 = true then (if s.2.2.2.1 = 10 then pWrong (pAt s (pB T sz s.1)) 3 (pB T sz s.1) else pShut (pNeed T sz (con (pOn (pOpens (pAt s (pB T sz s.1))) 1)) 41))
    else pAtom T sz (pAt s (pB T sz s.1)) pAtoms
  else s
/-- more of them, behind a word -/
def pMore (T : Nat → Int32) (sz : Nat) (f : pSt → pSt) (W : List Nat) (k : Int32) : Nat → pSt → pSt
  | 0, s => s
  | m + 1, s => if (pEat T sz s W).1 = true then pMore T sz f W k m (pEmit (f (pEat T sz s W).2) k 0) else (pEat T sz s W).2
def pJoin (T : Nat → Int32) (sz : Nat) (f : pSt → pSt) (W : List Nat) (k : Int32) (s : pSt) : pSt := pMore T sz f W k (sz + 1) (f s)
def pOne (T : Nat → Int32) (sz : Nat) : Nat → pSt → pSt
  | 0, s => s
  | d + 1, s => pOneB T sz (pJoin T sz (pJoin T sz (pOne T sz d) w_and 0) w_or 1) (pOne T sz d) s
def pAll (T : Nat → Int32) (sz d : Nat) : pSt → pSt := pJoin T sz (pOne T sz d) w_and 0
def pAny (T : Nat → Int32) (sz d : Nat) : pSt → pSt := pJoin T sz (pAll T sz d) w_or 1
/-- what every function does: on from p, no more codes than letters, the openings as they were; a fault stays -/
def pGo (sz : Nat) (s t : pSt) : Prop := s.1 ≤ t.1 ∧ (s.1 ≤ sz → t.1 ≤ sz) ∧ (s.2.1 < 4 → t.2.1 < 4) ∧ t.2.2.2.1 = s.2.2.2.1 ∧ s.2.2.2.2.length ≤ t.2.2.2.2.length ∧ t.2.2.2.2.length + s.1 ≤ s.2.2.2.2.length + t.1 ∧ (¬ s.2.1 = 0 → t.2.1 = s.2.1 ∧ t.2.2.1 = s.2.2.1) ∧ ∃ cs, t.2.2.2.2 = s.2.2.2.2 ++ cs
theorem pGo.refl (sz : Nat) (s : pSt) : pGo sz s s := ⟨Nat.le_refl _, id, id, rfl, Nat.le_refl _, Nat.le_refl _, fun _ => ⟨rfl, rfl⟩, [], by simp⟩
theorem pGo.trans {sz : Nat} {s t u : pSt} (h : pGo sz s t) (k : pGo sz t u) : pGo sz s u := by
  obtain ⟨a1, a2, a3, a4, a5, a6, a7, cs, a8⟩ := h
  obtain ⟨b1, b2, b3, b4, b5, b6, b7, ds, b8⟩ := k
  refine ⟨by omega, fun q => b2 (a2 q), fun q => b3 (a3 q), by omega, by omega, by omega, fun q => ?_, cs ++ ds, by rw [b8, a8, List.append_assoc]⟩
  have x := a7 q
  have y := b7 (by rw [x.1]; exact q)
  exact ⟨y.1.trans x.1, y.2.trans x.2⟩
theorem pB_idem (T : Nat → Int32) {sz p : Nat} : pB T sz (pB T sz p) = pB T sz p := by
  have key : ∀ (k p : Nat), sz - p = k → pB T sz (pB T sz p) = pB T sz p := by
    intro k
    induction k with
    | zero => intro p hk; rw [pB_end T (p := p) (by omega)]; exact pB_end T (by omega)
    | succ k ih =>
      intro p hk
      by_cases h : p < sz ∧ (T p = 32 ∨ T p = 10)
      · rw [pB_go T h]; exact ih (p + 1) (by omega)
      · rw [pB_end T h]; exact pB_end T h
  exact key _ p rfl
theorem pB_ge (T : Nat → Int32) (sz p : Nat) : p ≤ pB T sz p := (pSk_le T sz _ p).1
theorem pB_sz (T : Nat → Int32) {sz p : Nat} (h : p ≤ sz) : pB T sz p ≤ sz := (pSk_le T sz _ p).2 h
theorem pGo.blank (T : Nat → Int32) (sz : Nat) (s : pSt) : pGo sz s (pAt s (pB T sz s.1)) := ⟨pB_ge T sz s.1, pB_sz T, id, rfl, Nat.le_refl _, by have := pB_ge T sz s.1; simp only [pAt]; omega, fun _ => ⟨rfl, rfl⟩, [], by simp [pAt]⟩
theorem pWrong_go (sz : Nat) (s : pSt) {w : Nat} (hw : w < 4) (p : Nat) : pGo sz s (pWrong s w p) := by
  unfold pWrong
  split
  · next h => exact ⟨Nat.le_refl _, id, fun _ => hw, rfl, Nat.le_refl _, Nat.le_refl _, fun q => absurd h q, [], by simp⟩
  · exact pGo.refl sz s
/-- the letters end with the text -/
def pTz (T : Nat → Int32) (sz : Nat) : Prop := sz ≤ 2000 ∧ ∀ p, sz ≤ p → p < 100000 → T p = 0
theorem pEq_lt {T : Nat → Int32} {sz p : Nat} {W : List Nat} (hT : pTz T sz) (hp : p ≤ sz) (hW : ∀ w ∈ W, 0 < w ∧ w < 128) (h : pEq T p W W.length 0 = true) (hl : 0 < W.length) (hl8 : W.length ≤ 8) : p + W.length ≤ sz := by
  have hz0 := hT.1
  have key : ∀ k, k < W.length → pEq T p W (W.length - k) k = true → p + W.length ≤ sz := by
    intro k hk
    have e : ∃ j, W.length = k + j + 1 := ⟨W.length - k - 1, by omega⟩
    obtain ⟨j, hj⟩ := e
    induction j generalizing k with
    | zero =>
      intro h
      rw [pEq_step hk] at h
      split at h
      · next hq =>
        by_cases hz : p + W.length ≤ sz
        · exact hz
        · rw [hT.2 (p + k) (by omega) (by omega)] at hq
          have hm : W.getD k 0 ∈ W := by rw [List.getD_eq_getElem?_getD, List.getElem?_eq_getElem hk]; exact List.getElem_mem hk
          have := hW _ hm
          exact absurd (nI_inj (a := 0) (b := W.getD k 0) (by omega) (by omega) hq) (by omega)
      · cases h
    | succ j ih =>
      intro h
      rw [pEq_step hk] at h
      split at h
      · exact ih (k + 1) (by omega) (by omega) h
      · cases h
  exact key 0 hl h
theorem pIsW_lt {T : Nat → Int32} {sz p : Nat} {W : List Nat} (hT : pTz T sz) (hp : p ≤ sz) (hW : ∀ w ∈ W, 0 < w ∧ w < 128) (hl : 0 < W.length ∧ W.length ≤ 8) (h : pIsW T p W = true) : p + W.length ≤ sz := by
  unfold pIsW at h
  rw [Bool.and_eq_true] at h
  exact pEq_lt hT hp hW h.1 hl.1 hl.2
/-- a word is of letters, and not empty -/
def isWd (W : List Nat) : Prop := (∀ w ∈ W, 0 < w ∧ w < 128) ∧ 0 < W.length ∧ W.length ≤ 8
theorem pEat_go {T : Nat → Int32} {sz : Nat} (hT : pTz T sz) (s : pSt) (hs : s.1 ≤ sz) {W : List Nat} (hW : isWd W) : pGo sz s (pEat T sz s W).2 ∧ ((pEat T sz s W).1 = true → s.1 + W.length ≤ (pEat T sz s W).2.1 ∧ (pEat T sz s W).2.2 = s.2 ∧ s.2.1 = 0 ∧ (pEat T sz s W).2.1 ≤ sz) := by
  unfold pEat
  split
  · next hf =>
    split
    · next h =>
      have h1 := pIsW_lt hT (pB_sz T hs) hW.1 hW.2 h
      have h2 := pB_ge T sz s.1
      exact ⟨⟨by simp only; omega, fun _ => h1, id, rfl, Nat.le_refl _, by simp only; omega, fun q => absurd hf q, [], by simp⟩, fun _ => ⟨by simp only; omega, rfl, hf, h1⟩⟩
    · exact ⟨pGo.blank T sz s, fun q => by cases q⟩
  · exact ⟨pGo.refl sz s, fun q => by cases q⟩
theorem pNeed_go {T : Nat → Int32} {sz : Nat} (s : pSt) (x : Int32) : pGo sz s (pNeed T sz s x) := by
  unfold pNeed
  split
  · next hf =>
    split
    · next h =>
      simp only [pSign, Bool.and_eq_true, decide_eq_true_eq] at h
      have h2 := pB_ge T sz s.1
      exact ⟨by simp only; omega, fun _ => h.2, id, rfl, Nat.le_refl _, by simp only; omega, fun q => absurd hf q, [], by simp⟩
    · exact (pGo.blank T sz s).trans (pWrong_go sz _ (by decide) _)
  · exact pGo.refl sz s
theorem pNum_go {T : Nat → Int32} {sz : Nat} (s : pSt) (b : Bool) : pGo sz s (pNum T sz s b).2 := by
  unfold pNum
  have h2 := pB_ge T sz s.1
  have h3 := pDig_le T (sz - pB T sz s.1) (pB T sz s.1) 0
  split
  · next hf =>
    split
    · split
      · exact ⟨by simp only; omega, fun q => by have := pB_sz T q; simp only; omega, fun _ => (by decide : 2 < 4), rfl, Nat.le_refl _, by simp only; omega, fun q => absurd hf q, [], by simp⟩
      · exact ⟨by simp only; omega, fun q => by have := pB_sz T q; simp only; omega, id, rfl, Nat.le_refl _, by simp only; omega, fun q => absurd hf q, [], by simp⟩
    · exact (pGo.blank T sz s).trans (pWrong_go sz _ (by decide) _)
  · exact pGo.refl sz s
/-- a code is made behind a letter at least -/
theorem pEmit_go {sz : Nat} {s t : pSt} (h : pGo sz s t) (h1 : s.1 + 1 + (t.2.2.2.2.length - s.2.2.2.2.length) ≤ t.1) (k n : Int32) : pGo sz s (pEmit t k n) := by
  obtain ⟨a1, a2, a3, a4, a5, a6, a7, cs, a8⟩ := h
  refine ⟨a1, a2, a3, a4, ?_, ?_, a7, cs ++ [(k, n)], ?_⟩
  · simp only [pEmit, List.length_append, List.length_singleton]; omega
  · simp only [pEmit, List.length_append, List.length_singleton]; omega
  · simp only [pEmit, a8, List.append_assoc]
theorem pOn_go {sz : Nat} (s : pSt) {k : Nat} (h : s.1 + k ≤ sz) : pGo sz s (pOn s k) := ⟨by simp only [pOn]; omega, fun _ => h, id, rfl, Nat.le_refl _, by simp only [pOn]; omega, fun _ => ⟨rfl, rfl⟩, [], by simp [pOn]⟩
theorem pRelN_go {T : Nat → Int32} {sz : Nat} (s : pSt) (what r : Nat) {x : Int32} (h : pSign T sz s x = true) : pGo sz s (pRelN T sz s what r) := by
  simp only [pSign, Bool.and_eq_true, decide_eq_true_eq] at h
  have h2 := pB_ge T sz s.1
  have g1 : pGo sz s (pB T sz s.1 + 1, s.2) := ⟨by simp only; omega, fun _ => h.2, id, rfl, Nat.le_refl _, by simp only; omega, fun q => absurd h.1.1 q, [], by simp⟩
  have g2 := pNum_go (T := T) (sz := sz) (pB T sz s.1 + 1, s.2) false
  refine pEmit_go (g1.trans g2) ?_ _ _
  have x1 := g2.2.2.2.2.1
  have x2 := g2.2.2.2.2.2.1
  have x3 := g2.1
  simp only at x1 x2 x3
  omega
theorem pRel_go {T : Nat → Int32} {sz : Nat} (s : pSt) (what : Nat) : pGo sz s (pRel T sz s what) := by
  unfold pRel
  split
  · next h => exact pRelN_go s what 0 h
  · split
    · next h => exact pRelN_go s what 1 h
    · split
      · next h => exact pRelN_go s what 2 h
      · exact (pGo.blank T sz s).trans (pWrong_go sz _ (by decide) _)
theorem kindW_wd (k : Nat) : isWd (kindW k) := by
  unfold kindW isWd
  repeat' split
  all_goals decide
theorem pKinds_go {T : Nat → Int32} {sz : Nat} (hT : pTz T sz) : ∀ (m k : Nat) (s : pSt), s.1 ≤ sz → pGo sz s (pKinds T sz m k s)
  | 0, _, s, _ => pWrong_go sz s (by decide) _
  | m + 1, k, s, hs => by
    have h := pEat_go hT s hs (kindW_wd k)
    have hl := (kindW_wd k).2.1
    simp only [pKinds]
    split
    · next he =>
      have := h.2 he
      exact pEmit_go h.1 (by rw [this.2.1]; omega) _ _
    · exact h.1.trans (pKinds_go hT m (k + 1) _ (h.1.2.1 hs))
theorem pKind_go {T : Nat → Int32} {sz : Nat} (hT : pTz T sz) (s : pSt) (hs : s.1 ≤ sz) : pGo sz s (pKind T sz s) := (pNeed_go s 61).trans (pKinds_go hT 7 0 _ ((pNeed_go s 61).2.1 hs))
theorem pAct_go {T : Nat → Int32} {sz : Nat} (hT : pTz T sz) (a : Nat × Nat) (s : pSt) {k : Nat} (h : s.1 + k ≤ sz) (hk : 0 < k) : pGo sz s (pAct T sz a (pOn s k)) := by
  have g1 := pOn_go s h
  unfold pAct
  split
  · exact pEmit_go g1 (by simp only [pOn]; omega) _ _
  · split
    · exact pEmit_go g1 (by simp only [pOn]; omega) _ _
    · split
      · exact g1.trans (pRel_go _ _)
      · exact g1.trans (pKind_go hT _ h)
theorem pAtom_go {T : Nat → Int32} {sz : Nat} (hT : pTz T sz) (s : pSt) (hs : s.1 ≤ sz) : ∀ l : List (List Nat × Nat × Nat), (∀ x ∈ l, isWd x.1) → pGo sz s (pAtom T sz s l)
  | [], _ => pWrong_go sz s (by decide) _
  | x :: t, hl => by
    simp only [pAtom]
    split
    · next h => exact pAct_go hT x.2 s (pIsW_lt hT hs (hl x List.mem_cons_self).1 (hl x List.mem_cons_self).2 h) (hl x List.mem_cons_self).2.1
    · exact pAtom_go hT s hs t (fun y hy => hl y (List.mem_cons_of_mem _ hy))
theorem pAtoms_wd : ∀ x ∈ pAtoms, isWd x.1 := by unfold pAtoms isWd; decide
theorem pMore_go {T : Nat → Int32} {sz : Nat} (hT : pTz T sz) {f : pSt → pSt} (hf : ∀ s, s.1 ≤ sz → pGo sz s (f s)) {W : List Nat} (hW : isWd W) (k : Int32) : ∀ (m : Nat) (s : pSt), s.1 ≤ sz → pGo sz s (pMore T sz f W k m s)
  | 0, s, _ => pGo.refl sz s
  | m + 1, s, hs => by
    have h := pEat_go hT s hs hW
    have hl := hW.2.1
    simp only [pMore]
    split
    · next he =>
      have h1 := h.2 he
      have h2 := hf (pEat T sz s W).2 h1.2.2.2
      have h3 : pGo sz s (pEmit (f (pEat T sz s W).2) k 0) := by
        refine pEmit_go (h.1.trans h2) ?_ _ _
        have x1 := h2.2.2.2.2.1
        have x2 := h2.2.2.2.2.2.1
        have x3 := h2.1
        rw [h1.2.1] at x1 x2
        omega
      exact h3.trans (pMore_go hT hf hW k m _ (h3.2.1 hs))
    · exact h.1
theorem pJoin_go {T : Nat → Int32} {sz : Nat} (hT : pTz T sz) {f : pSt → pSt} (hf : ∀ s, s.1 ≤ sz → pGo sz s (f s)) {W : List Nat} (hW : isWd W) (k : Int32) (s : pSt) (hs : s.1 ≤ sz) : pGo sz s (pJoin T sz f W k s) :=
  (hf s hs).trans (pMore_go hT hf hW k _ _ ((hf s hs).2.1 hs))
theorem w_and_wd : isWd w_and := by unfold isWd; decide
theorem w_or_wd : isWd w_or := by unfold isWd; decide
theorem w_not_wd : isWd w_not := by unfold isWd; decide
theorem pShut_go {sz : Nat} {s t : pSt} {k : Nat} (hk : s.1 + k ≤ sz) (h : pGo sz (pOn (pOpens s) k) t) (ho : ¬ s.2.2.2.1 = 10) : pGo sz s (pShut t) := by
  obtain ⟨a1, a2, a3, a4, a5, a6, a7, cs, a8⟩ := h
  have e : pOn (pOpens s) k = (s.1 + k, s.2.1, s.2.2.1, s.2.2.2.1 + 1, s.2.2.2.2) := by unfold pOpens; rw [if_neg ho]; rfl
  rw [e] at a1 a2 a3 a4 a5 a6 a7 a8
  simp only at a1 a2 a3 a4 a5 a6 a7 a8
  exact ⟨by simp only [pShut]; omega, fun _ => a2 hk, a3, by simp only [pShut]; omega, by simp only [pShut]; omega, by simp only [pShut]; omega, a7, cs, a8⟩
theorem pOne_go {T : Nat → Int32} {sz : Nat} (hT : pTz T sz) : ∀ (d : Nat) (s : pSt), s.1 ≤ sz → pGo sz s (pOne T sz d s)
  | 0, s, _ => pGo.refl sz s
  | d + 1, s, hs => by
    have ih := pOne_go hT d
    have iAll : ∀ s : pSt, s.1 ≤ sz → pGo sz s (pJoin T sz (pOne T sz d) w_and 0 s) := fun s hs => pJoin_go hT ih w_and_wd 0 s hs
    have iAny : ∀ s : pSt, s.1 ≤ sz → pGo sz s (pJoin T sz (pJoin T sz (pOne T sz d) w_and 0) w_or 1 s) := fun s hs => pJoin_go hT iAll w_or_wd 1 s hs
    have gb := pGo.blank T sz s
    simp only [pOne, pOneB]
    split
    · split
      · next hw =>
        have hl := pIsW_lt hT (pB_sz T hs) w_not_wd.1 w_not_wd.2 hw
        have hl : pB T sz s.1 + 3 ≤ sz := hl
        split
        · exact gb.trans (pWrong_go sz _ (by decide) _)
        · next ho =>
          have hp : (pOn (pOpens (pAt s (pB T sz s.1))) 3).1 = pB T sz s.1 + 3 := by
            unfold pOpens
            rw [if_neg (show ¬ (pAt s (pB T sz s.1)).2.2.2.1 = 10 from ho)]
            rfl
          have g1 := ih (pOn (pOpens (pAt s (pB T sz s.1))) 3) (by rw [hp]; exact hl)
          have g2 : pGo sz (pAt s (pB T sz s.1)) (pShut (pOne T sz d (pOn (pOpens (pAt s (pB T sz s.1))) 3))) := pShut_go hl g1 ho
          refine pEmit_go (gb.trans g2) ?_ _ _
          have x2 := g1.2.2.2.2.2.1
          have x5 := g1.2.2.2.2.1
          have x1 := g1.1
          have e : (pOn (pOpens (pAt s (pB T sz s.1))) 3).2.2.2.2 = s.2.2.2.2 := by
            unfold pOpens
            rw [if_neg (show ¬ (pAt s (pB T sz s.1)).2.2.2.1 = 10 from ho)]
            rfl
          rw [e, hp] at x2
          rw [e] at x5
          have hb := pB_ge T sz s.1
          simp only [pShut]
          omega
      · split
        · next hsg =>
          simp only [pSign, Bool.and_eq_true, decide_eq_true_eq] at hsg
          split
          · exact gb.trans (pWrong_go sz _ (by decide) _)
          · next ho =>
            have hp : (pOn (pOpens (pAt s (pB T sz s.1))) 1).1 = pB T sz s.1 + 1 := by
              unfold pOpens
              rw [if_neg (show ¬ (pAt s (pB T sz s.1)).2.2.2.1 = 10 from ho)]
              rfl
            have g1 := iAny (pOn (pOpens (pAt s (pB T sz s.1))) 1) (by rw [hp]; exact hsg.2)
            exact gb.trans (pShut_go (s := pAt s (pB T sz s.1)) (k := 1) hsg.2 (g1.trans (pNeed_go _ 41)) ho)
        · exact gb.trans (pAtom_go hT _ (pB_sz T hs) pAtoms pAtoms_wd)
    · exact pGo.refl sz s
theorem pAll_go {T : Nat → Int32} {sz : Nat} (hT : pTz T sz) (d : Nat) (s : pSt) (hs : s.1 ≤ sz) : pGo sz s (pAll T sz d s) := pJoin_go hT (pOne_go hT d) w_and_wd 0 s hs
theorem pAny_go {T : Nat → Int32} {sz : Nat} (hT : pTz T sz) (d : Nat) (s : pSt) (hs : s.1 ≤ sz) : pGo sz s (pAny T sz d s) := pJoin_go hT (pAll_go hT d) w_or_wd 1 s hs
/-- the codes' room behind k codes more than n -/
def pE (cl n : Nat) : Nat → Nat
  | 0 => cl
  | k + 1 => sLn (pE cl n k) (n + k)
theorem pE_ge {cl n : Nat} (h : n ≤ cl) (h0 : 0 < cl) : ∀ k, n + k ≤ pE cl n k ∧ 0 < pE cl n k
  | 0 => ⟨h, h0⟩
  | k + 1 => by
    have := pE_ge h h0 k
    simp only [pE, sLn]
    split <;> omega
theorem pE_cl {cl n : Nat} : ∀ k, cl ≤ pE cl n k
  | 0 => Nat.le_refl _
  | k + 1 => by
    have := @pE_cl cl n k
    simp only [pE, sLn]
    split <;> omega
theorem pE_mono {cl n : Nat} : ∀ {k j : Nat}, k ≤ j → pE cl n k ≤ pE cl n j := by
  intro k j h
  induction h with
  | refl => exact Nat.le_refl _
  | step _ ih =>
    refine Nat.le_trans ih ?_
    simp only [pE, sLn]
    split <;> omega
theorem pE_lt {cl n : Nat} (hc : cl ≤ 200000) : ∀ k, n + k ≤ 100000 → pE cl n k ≤ 200000
  | 0, _ => hc
  | k + 1, h => by
    have := pE_lt (n := n) hc k (by omega)
    simp only [pE, sLn]
    split <;> omega
theorem pApp_emit (C : Nat → Int32) (n : Nat) (cs : List Int32) (x : Int32) : upd (pApp C n cs) (n + cs.length) x = pApp C n (cs ++ [x]) := by
  funext i
  unfold upd pApp
  by_cases h : i = n + cs.length
  · subst h
    rw [if_pos rfl, if_neg (by omega), Nat.add_sub_cancel_left]
    simp
  · rw [if_neg h]
    by_cases h2 : i < n
    · rw [if_pos h2, if_pos h2]
    · rw [if_neg h2, if_neg h2]
      by_cases h3 : i - n < cs.length
      · rw [List.getElem?_append_left h3]
      · rw [List.getElem?_eq_none (by omega), List.getElem?_eq_none (by simp; omega)]
theorem rA_emit (A : Nat → Nat → Int32) (n : Nat) (s : pSt) (k v : Int32) : sEmitA (rA A n s) (n + s.2.2.2.2.length) k v = rA A n (pEmit s k v) := by
  obtain ⟨p, f, q, o, cs⟩ := s
  funext i
  have h1 := pApp_emit (A 15) n (cs.map Prod.fst) k
  have h2 := pApp_emit (A 16) n (cs.map Prod.snd) v
  simp only [List.length_map] at h1 h2
  unfold sEmitA mA va_up rA pEmit
  by_cases c1 : i = 17
  · subst c1
    simp only [List.length_append, List.length_singleton, Nat.add_assoc]
    simp [upd_upd0]
  · by_cases c2 : i = 16
    · subst c2
      simp [h2]
    · by_cases c3 : i = 15
      · subst c3
        simp [h1]
      · simp [c1, c2, c3]
/-- what is fixed while a text is read -/
def pFix (A : Nat → Nat → Int32) (n sz cl : Nat) : Prop := A 3 0 = nI sz ∧ sz ≤ 2000 ∧ n ≤ cl ∧ 4 ≤ cl ∧ cl ≤ 200000 ∧ n ≤ 60000
theorem pFix.tz {A : Nat → Nat → Int32} {n sz cl : Nat} (h : pFix A n sz cl) : pTz (pT A) sz := ⟨h.2.1, fun p h1 h2 => pT_end h.1 h.2.1 h1 h2⟩
theorem ct_emitR {l : Launch} {g : gGP} (hk : gK l g) {c0 c : gLH} {mo : Nat} {ma : Nat → Nat} {cl ll : Nat} {A : Nat → Nat → Int32} {B : Nat → Nat → Int64} {n sz : Nat} {s : pSt} (hF : pFix A n sz cl) (hM : MW c0 mo ma (pE cl n s.2.2.2.2.length) ll (rA A n s) B c) (hcs : s.2.2.2.2.length ≤ 2000) (k v : Int32) :
    Ct l g yX4_emits hwX4_emits 1 40 [.ref mo, .int k, .int v] c (pE cl n (s.2.2.2.2.length + 1) - pE cl n s.2.2.2.2.length) (4 * (pE cl n (s.2.2.2.2.length + 1) - pE cl n s.2.2.2.2.length)) (pV (fun c' => ∃ ma', MW c0 mo ma' (pE cl n (s.2.2.2.2.length + 1)) ll (rA A n (pEmit s k v)) B c')) := by
  obtain ⟨-, -, h3, h4, h5, h6⟩ := hF
  have hg := pE_ge h3 (by omega) s.2.2.2.2.length
  have hc := @pE_cl cl n s.2.2.2.2.length
  have hl := pE_lt (n := n) h5 s.2.2.2.2.length (by omega)
  rw [← rA_emit]
  refine ct_emits hk hM k v (nc := n + s.2.2.2.2.length) rfl hg.1 hg.2 (by omega) _ _ (fun e => ?_)
  have e2 : pE cl n (s.2.2.2.2.length + 1) = 2 * pE cl n s.2.2.2.2.length := by simp only [pE, sLn]; rw [if_pos e]
  rw [e2]
  omega
