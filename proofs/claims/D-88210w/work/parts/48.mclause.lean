/-! THE MODEL: clauses -/
set_option maxRecDepth 100000
/-- a clause's head at its word (0 free, 1 toll, 2 times, 3 once): the state behind it; sort, first, second -/
def pHead (T : Nat → Int32) (sz : Nat) (h : Nat) (s : pSt) : pSt × Int32 × Int32 × Int32 :=
  if h = 0 then (s, 0, 0, 0)
  else if h = 1 then
    (if (pEat T sz (pNum T sz s false).2 w_each).1 = true then ((pEat T sz (pNum T sz s false).2 w_each).2, 2, (pNum T sz s false).1, 0)
     else if (pEat T sz (pEat T sz (pNum T sz s false).2 w_each).2 w_score).1 = true then ((pEat T sz (pEat T sz (pNum T sz s false).2 w_each).2 w_score).2, 3, (pNum T sz s false).1, 0)
     else ((pEat T sz (pEat T sz (pNum T sz s false).2 w_each).2 w_score).2, 1, (pNum T sz s false).1, 0))
  else if h = 2 then ((pNum T sz (pNeed T sz (pNum T sz s false).2 47) true).2, 4, (pNum T sz s false).1, (pNum T sz (pNeed T sz (pNum T sz s false).2 47) true).1)
  else ((pEat T sz s w_all).2, if (pEat T sz s w_all).1 = true then 6 else 5, 0, 0)
/-- the rows of clause w, by its head -/
def hA (A : Nat → Nat → Int32) (w : Nat) (x : Int32 × Int32 × Int32) : Nat → Nat → Int32 :=
  if x.1 = 1 ∨ x.1 = 2 ∨ x.1 = 3 then mA (mA A 11 w x.2.1) 10 w x.1 else if x.1 = 4 then mA (mA (mA A 10 w x.1) 11 w x.2.1) 12 w x.2.2 else mA A 10 w x.1
def pWhich (T : Nat → Int32) (P : Nat) : Option Nat := if pIsW T P w_free = true then some 0 else if pIsW T P w_toll = true then some 1 else if pIsW T P w_times = true then some 2 else if pIsW T P w_once = true then some 3 else none
def hLen (h : Nat) : Nat := if h = 2 then 5 else 4
def pCond (T : Nat → Int32) (sz : Nat) (s : pSt) : pSt := if (pEat T sz s w_if).1 = true then pAny T sz 11 (pEat T sz s w_if).2 else (pEat T sz s w_if).2
def pZero (s : pSt) : pSt := (s.1, s.2.1, s.2.2.1, 0, s.2.2.2.2)
/-- clause k of an act, its rows at w, behind n codes -/
def pCl (T : Nat → Int32) (sz w k n : Nat) (A : Nat → Nat → Int32) (s : pSt) : (Nat → Nat → Int32) × pSt :=
  match pWhich T (pB T sz s.1) with
  | none => (A, pWrong (pAt s (pB T sz s.1)) 1 (pB T sz s.1))
  | some h => if k = 40 then (A, pWrong (pAt s (pB T sz s.1)) 3 (pB T sz s.1)) else
      (mA (mA (hA A w (pHead T sz h (pOn (pAt s (pB T sz s.1)) (hLen h))).2) 13 w (nI (n + (pHead T sz h (pOn (pAt s (pB T sz s.1)) (hLen h))).1.2.2.2.2.length))) 14 w (nI (n + (pCond T sz (pZero (pHead T sz h (pOn (pAt s (pB T sz s.1)) (hLen h))).1)).2.2.2.2.length)),
       pNeed T sz (pCond T sz (pZero (pHead T sz h (pOn (pAt s (pB T sz s.1)) (hLen h))).1)) 59)
theorem pT_mA {A : Nat → Nat → Int32} {k j : Nat} {x : Int32} (h1 : 1 ≠ k) (h3 : 3 ≠ k) : pT (mA A k j x) = pT A := by
  funext i
  show sByte (mA A k j x 1) (mA A k j x 3 0) (nI i) = _
  rw [mA_n A j x h1, mA_n A j x h3]
theorem rA_mA (A : Nat → Nat → Int32) (n : Nat) (s : pSt) {k : Nat} (j : Nat) (x : Int32) (h : ¬ (k = 4 ∨ k = 5 ∨ k = 6 ∨ k = 7 ∨ k = 15 ∨ k = 16 ∨ k = 17)) : mA (rA A n s) k j x = rA (mA A k j x) n s := by
  have e : rA A n s k = A k := by
    unfold rA
    rw [if_neg (fun q => h (by simp [q])), if_neg (fun q => h (by simp [q])), if_neg (fun q => h (by simp [q])), if_neg (fun q => h (by simp [q])), if_neg (fun q => h (by simp [q])), if_neg (fun q => h (by simp [q])), if_neg (fun q => h (by simp [q]))]
  funext i
  by_cases c : i = k
  · subst c
    rw [mA_s, e]
    unfold rA
    rw [if_neg (fun q => h (by simp [q])), if_neg (fun q => h (by simp [q])), if_neg (fun q => h (by simp [q])), if_neg (fun q => h (by simp [q])), if_neg (fun q => h (by simp [q])), if_neg (fun q => h (by simp [q])), if_neg (fun q => h (by simp [q])), mA_s]
  · rw [mA_n _ _ _ c]
    unfold rA
    by_cases c4 : i = 4
    · subst c4; simp only [if_true]; rw [mA_n _ _ _ c]
    by_cases c5 : i = 5
    · subst c5; simp only [if_true]; rw [mA_n _ _ _ c]; rfl
    by_cases c6 : i = 6
    · subst c6; simp only [if_true]; rw [mA_n _ _ _ c]; rfl
    by_cases c7 : i = 7
    · subst c7; simp only [if_true]; rw [mA_n _ _ _ c]; rfl
    by_cases c15 : i = 15
    · subst c15; simp only [if_true]; rw [mA_n _ _ _ c]; rfl
    by_cases c16 : i = 16
    · subst c16; simp only [if_true]; rw [mA_n _ _ _ c]; rfl
    by_cases c17 : i = 17
    · subst c17; simp only [if_true]; rw [mA_n _ _ _ c]; rfl
    simp only [c4, c5, c6, c7, c15, c16, c17, if_false]
    rw [mA_n _ _ _ c]
theorem hA_T (A : Nat → Nat → Int32) (w : Nat) (x : Int32 × Int32 × Int32) : pT (hA A w x) = pT A ∧ hA A w x 3 = A 3 ∧ hA A w x 1 = A 1 := by
  unfold hA
  repeat' split
  all_goals
    refine ⟨?_, ?_, ?_⟩
    · simp only [pT_mA (show 1 ≠ 10 by decide) (show 3 ≠ 10 by decide), pT_mA (show 1 ≠ 11 by decide) (show 3 ≠ 11 by decide), pT_mA (show 1 ≠ 12 by decide) (show 3 ≠ 12 by decide)]
    · simp only [mA_n _ _ _ (show 3 ≠ 10 by decide), mA_n _ _ _ (show 3 ≠ 11 by decide), mA_n _ _ _ (show 3 ≠ 12 by decide)]
    · simp only [mA_n _ _ _ (show 1 ≠ 10 by decide), mA_n _ _ _ (show 1 ≠ 11 by decide), mA_n _ _ _ (show 1 ≠ 12 by decide)]
theorem w_wd {W : List Nat} (h : ((W.all fun w => decide (0 < w) && decide (w < 128)) && decide (0 < W.length) && decide (W.length ≤ 8)) = true) : isWd W := by
  simp only [Bool.and_eq_true, List.all_eq_true, decide_eq_true_eq] at h
  exact ⟨fun w hw => h.1.1 w hw, h.1.2, h.2⟩
theorem pHead_go {T : Nat → Int32} {sz : Nat} (hT : pTz T sz) (h : Nat) (s : pSt) (hs : s.1 ≤ sz) : pGo sz s (pHead T sz h s).1 ∧ (pHead T sz h s).1.2.2.2 = s.2.2.2 := by
  have n1 := pNum_go (T := T) (sz := sz) s false
  have c1 := pNum_cs (T := T) (sz := sz) s false
  have hs1 := n1.2.1 hs
  unfold pHead
  split
  · exact ⟨pGo.refl sz s, rfl⟩
  · split
    · have e1 := (pEat_go hT (pNum T sz s false).2 hs1 (W := w_each) (w_wd (by decide))).1
      have d1 := pEat_cs (T := T) (sz := sz) (pNum T sz s false).2 w_each
      have hs2 := e1.2.1 hs1
      have e2 := (pEat_go hT (pEat T sz (pNum T sz s false).2 w_each).2 hs2 (W := w_score) (w_wd (by decide))).1
      have d2 := pEat_cs (T := T) (sz := sz) (pEat T sz (pNum T sz s false).2 w_each).2 w_score
      split
      · exact ⟨n1.trans e1, d1.trans c1⟩
      · split
        · exact ⟨(n1.trans e1).trans e2, (d2.trans d1).trans c1⟩
        · exact ⟨(n1.trans e1).trans e2, (d2.trans d1).trans c1⟩
    · split
      · have e1 := pNeed_go (T := T) (sz := sz) (pNum T sz s false).2 47
        have d1 := pNeed_cs (T := T) (sz := sz) (pNum T sz s false).2 47
        have e2 := pNum_go (T := T) (sz := sz) (pNeed T sz (pNum T sz s false).2 47) true
        have d2 := pNum_cs (T := T) (sz := sz) (pNeed T sz (pNum T sz s false).2 47) true
        exact ⟨(n1.trans e1).trans e2, (d2.trans d1).trans c1⟩
      · exact ⟨(pEat_go hT s hs (W := w_all) (w_wd (by decide))).1, pEat_cs s w_all⟩
theorem pCond_go {T : Nat → Int32} {sz : Nat} (hT : pTz T sz) (s : pSt) (hs : s.1 ≤ sz) : pGo sz s (pCond T sz s) := by
  have e := pEat_go hT s hs (W := w_if) (w_wd (by decide))
  unfold pCond
  split
  · exact e.1.trans (pAny_go hT 11 _ (e.1.2.1 hs))
  · exact e.1
theorem pWhich_lt {T : Nat → Int32} {sz P h : Nat} (hT : pTz T sz) (hP : P ≤ sz) (hw : pWhich T P = some h) : h < 4 ∧ P + hLen h ≤ sz := by
  unfold pWhich at hw
  split at hw
  · next q => cases hw; exact ⟨by decide, pIsW_lt hT hP (W := w_free) (w_wd (by decide)).1 (w_wd (by decide)).2 q⟩
  · split at hw
    · next q => cases hw; exact ⟨by decide, pIsW_lt hT hP (W := w_toll) (w_wd (by decide)).1 (w_wd (by decide)).2 q⟩
    · split at hw
      · next q => cases hw; exact ⟨by decide, pIsW_lt hT hP (W := w_times) (w_wd (by decide)).1 (w_wd (by decide)).2 q⟩
      · split at hw
        · next q => cases hw; exact ⟨by decide, pIsW_lt hT hP (W := w_once) (w_wd (by decide)).1 (w_wd (by decide)).2 q⟩
        · cases hw
/-- what a clause does to the state: as the others, but the openings are 0 behind it -/
def pGo0 (sz : Nat) (s t : pSt) : Prop := s.1 ≤ t.1 ∧ (s.1 ≤ sz → t.1 ≤ sz) ∧ (s.2.1 < 4 → t.2.1 < 4) ∧ (t.2.2.2.1 = 0 ∨ t.2.2.2.1 = s.2.2.2.1) ∧ s.2.2.2.2.length ≤ t.2.2.2.2.length ∧ t.2.2.2.2.length + s.1 ≤ s.2.2.2.2.length + t.1 ∧ ∃ cs, t.2.2.2.2 = s.2.2.2.2 ++ cs
theorem pGo0.of {sz : Nat} {s t : pSt} (h : pGo sz s t) : pGo0 sz s t := ⟨h.1, h.2.1, h.2.2.1, Or.inr h.2.2.2.1, h.2.2.2.2.1, h.2.2.2.2.2.1, h.2.2.2.2.2.2.2⟩
theorem pCl_go {T : Nat → Int32} {sz : Nat} (hT : pTz T sz) (w k n : Nat) (A : Nat → Nat → Int32) (s : pSt) (hs : s.1 ≤ sz) : pGo0 sz s (pCl T sz w k n A s).2 ∧ (s.2.1 = 0 → (pCl T sz w k n A s).2.2.1 = 0 → s.1 < (pCl T sz w k n A s).2.1) := by
  have gb := pGo.blank T sz s
  have hP := pB_sz T hs
  have hPs := pB_ge T sz s.1
  unfold pCl
  split
  · refine ⟨pGo0.of (gb.trans (pWrong_go sz _ (by decide) _)), fun q1 q2 => ?_⟩
    unfold pWrong at q2
    rw [if_pos (show (pAt s (pB T sz s.1)).2.1 = 0 from q1)] at q2
    cases q2
  · next h hw =>
    split
    · refine ⟨pGo0.of (gb.trans (pWrong_go sz _ (by decide) _)), fun q1 q2 => ?_⟩
      unfold pWrong at q2
      rw [if_pos (show (pAt s (pB T sz s.1)).2.1 = 0 from q1)] at q2
      cases q2
    · obtain ⟨h4, hl⟩ := pWhich_lt hT hP hw
      have hlen : 0 < hLen h := by unfold hLen; split <;> decide
      have g1 : pGo sz s (pOn (pAt s (pB T sz s.1)) (hLen h)) := gb.trans (pOn_go _ hl)
      obtain ⟨g2, d2⟩ := pHead_go hT h (pOn (pAt s (pB T sz s.1)) (hLen h)) hl
      have g12 := g1.trans g2
      generalize pHead T sz h (pOn (pAt s (pB T sz s.1)) (hLen h)) = H at g2 d2 g12 ⊢
      obtain ⟨⟨p1, f1, q1, o1, cs1⟩, x⟩ := H
      have hs2 := g12.2.1 hs
      have g4 := (pCond_go hT (p1, f1, q1, 0, cs1) hs2).trans (pNeed_go (T := T) (sz := sz) _ 59)
      show pGo0 sz s (pNeed T sz (pCond T sz (p1, f1, q1, 0, cs1)) 59) ∧ (_ → (pNeed T sz (pCond T sz (p1, f1, q1, 0, cs1)) 59).2.1 = 0 → s.1 < (pNeed T sz (pCond T sz (p1, f1, q1, 0, cs1)) 59).1)
      generalize pNeed T sz (pCond T sz (p1, f1, q1, 0, cs1)) 59 = X at g4 ⊢
      obtain ⟨a1, a2, a3, a4, a5, a6, a7, cs, a8⟩ := g12
      obtain ⟨b1, b2, b3, b4, b5, b6, b7, ds, b8⟩ := g4
      have g2p := g2.1
      simp only [pOn, pAt] at g2p
      dsimp only at a1 a2 a3 a4 a5 a6 a8 b1 b2 b3 b4 b5 b6 b8 g2p
      refine ⟨⟨by omega, fun q => b2 hs2, fun q => b3 (a3 q), Or.inl b4, by omega, by omega, cs ++ ds, by rw [b8, a8, List.append_assoc]⟩, fun _ _ => by omega⟩
theorem ctT_eat {l : Launch} {g : gGP} (hk : gK l g) {c0 c : gLH} {mo : Nat} {ma : Nat → Nat} {cl ll : Nat} {A : Nat → Nat → Int32} {B : Nat → Nat → Int64} {n sz p f : Nat} {r : Int32 × Nat × List (Int32 × Int32)} {T : Nat → Int32} (hM : MW c0 mo ma cl ll (rA A n (p, f, r)) B c) (hT : pT A = T) (h3 : A 3 0 = nI sz) (hz : sz ≤ 2000) (hp : p ≤ sz) (hf : f < 4) (hs : gSS g) {a : Nat} {W : List Nat} (hW : W.length ≤ 8) {b : Bool} {t : pSt} (he : pEat T sz (p, f, r) W = (b, t)) (hS : gStr c0 a W) : Ct l g yX4_eat hwX4_eat 5 200 [.ref mo, .ref a] c 0 0 (pI (zB b) (MW c0 mo ma cl ll (rA A n t) B)) := by
  have hh := ct_eat hk hM h3 hz hp hf hs hS hW
  rw [hT, he] at hh
  exact hh
theorem ctT_word {l : Launch} {g : gGP} (hk : gK l g) {c0 c : gLH} {mo : Nat} {ma : Nat → Nat} {cl ll : Nat} {A : Nat → Nat → Int32} {B : Nat → Nat → Int64} {n sz p f : Nat} {r : Int32 × Nat × List (Int32 × Int32)} {T : Nat → Int32} (hM : MW c0 mo ma cl ll (rA A n (p, f, r)) B c) (hT : pT A = T) (h3 : A 3 0 = nI sz) (hz : sz ≤ 2000) (hp : p ≤ sz) (hf : f < 4) (hs : gSS g) {a P : Nat} {W : List Nat} (hW : W.length ≤ 8) {b : Bool} (hP : pB T sz p = P) (he : pIsW T P W = b) (hS : gStr c0 a W) : Ct l g yX4_isWord hwX4_isWord 4 160 [.ref mo, .ref a] c 0 0 (pI (zB b) (MW c0 mo ma cl ll (rA A n (P, f, r)) B)) := by
  have hh := ct_isWord hk hM h3 hz hp hf hs hS hW
  rw [hT, hP, he] at hh
  exact hh
theorem ctT_num {l : Launch} {g : gGP} (hk : gK l g) {c0 c : gLH} {mo : Nat} {ma : Nat → Nat} {cl ll : Nat} {A : Nat → Nat → Int32} {B : Nat → Nat → Int64} {n sz p f : Nat} {r : Int32 × Nat × List (Int32 × Int32)} {T : Nat → Int32} (hM : MW c0 mo ma cl ll (rA A n (p, f, r)) B c) (hT : pT A = T) (h3 : A 3 0 = nI sz) (hz : sz ≤ 2000) (hp : p ≤ sz) (hf : f < 4) (b : Bool) {v : Int32} {t : pSt} (he : pNum T sz (p, f, r) b = (v, t)) : Ct l g yX4_number hwX4_number 2 80 [.ref mo, .int (zB b)] c 0 0 (pI v (MW c0 mo ma cl ll (rA A n t) B)) := by
  have hh := ct_number hk hM h3 hz hp hf b
  rw [hT, he] at hh
  exact hh
theorem ctT_need {l : Launch} {g : gGP} (hk : gK l g) {c0 c : gLH} {mo : Nat} {ma : Nat → Nat} {cl ll : Nat} {A : Nat → Nat → Int32} {B : Nat → Nat → Int64} {n sz p f : Nat} {r : Int32 × Nat × List (Int32 × Int32)} {T : Nat → Int32} (hM : MW c0 mo ma cl ll (rA A n (p, f, r)) B c) (hT : pT A = T) (h3 : A 3 0 = nI sz) (hz : sz ≤ 2000) (hp : p ≤ sz) (hf : f < 4) (x : Int32) {t : pSt} (he : pNeed T sz (p, f, r) x = t) : Ct l g yX4_need hwX4_need 3 120 [.ref mo, .int x] c 0 0 (pI (zB (decide (f = 0) && pSign T sz (p, f, r) x)) (MW c0 mo ma cl ll (rA A n t) B)) := by
  have hh := ct_need hk hM h3 hz hp hf x
  rw [hT, he] at hh
  exact hh
theorem clause_tail {φ : gFx} {l : Launch} {g : gGP} {mc ms : Nat} (h : gOK φ l g { frames := 42, cells := mc, slots := ms, locals := 1680 } cX4_clause 4 RX4 "clause" none []) {c0 : gLH} {mo cl ll n sz w k : Nat} {AR : Nat → Nat → Int32} {B : Nat → Nat → Int64} {pr fr or_ : Nat} {qr : Int32} {csr : List (Int32 × Int32)} {T : Nat → Int32} (hs : gSS g) (hx : gLits RX4 xLits g c0) (hz : sz ≤ 2000) (hcl : n ≤ cl ∧ 4 ≤ cl ∧ cl ≤ 200000 ∧ n ≤ 60000) (hw480 : w < 480)
    (A1 : Nat → Nat → Int32) (p1 f1 : Nat) (q1 : Int32) (o1 : Nat) (cs1 : List (Int32 × Int32)) (c : gLH) (ma : Nat → Nat) (hT1 : pT A1 = T) (h3 : A1 3 0 = nI sz) (hp1 : p1 ≤ sz) (hf1 : f1 < 4) (hc1 : cs1.length ≤ p1) (hcost : pE cl n csr.length ≤ pE cl n cs1.length + mc ∧ 4 * pE cl n csr.length ≤ 4 * pE cl n cs1.length + ms)
    (hres : (mA (mA A1 13 w (nI (n + cs1.length))) 14 w (nI (n + (pCond T sz (p1, f1, q1, 0, cs1)).2.2.2.2.length)), pNeed T sz (pCond T sz (p1, f1, q1, 0, cs1)) 59) = (AR, (pr, fr, qr, or_, csr))) (hM : MW c0 mo ma (pE cl n cs1.length) ll (rA A1 n (p1, f1, q1, o1, cs1)) B c) : G φ (gQ φ (pV (fun c' => ∃ ma', MW c0 mo ma' (pE cl n csr.length) ll (rA AR n (pr, fr, qr, or_, csr)) B c')) mc ms) 245 [(0, .ref mo), (1, .int (nI k)), (2, .int (nI w))] [] c 0 0 := by
  have hk := h.k
  have hF2 : pFix (mA A1 13 w (nI (n + cs1.length))) n sz cl := ⟨h3, hz, hcl⟩
  have hT2 : pT (mA A1 13 w (nI (n + cs1.length))) = T := (pT_mA (by decide) (by decide)).trans hT1
  have hTz : pTz T sz := by rw [← hT2]; exact hF2.tz
  have hgo := pEat_go hTz (p1, f1, q1, 0, cs1) hp1 (W := w_if) (w_wd (by decide))
  have ecs := pEat_cs (T := T) (sz := sz) (p1, f1, q1, 0, cs1) w_if
  unfold pCond at hres
  rcases he : pEat T sz (p1, f1, q1, 0, cs1) w_if with ⟨b2, p2, f2, q2, o2, cs2⟩
  rw [he] at hgo ecs hres
  have ecs2 : cs1 = cs2 := (congrArg Prod.snd ecs).symm
  have eo2 : o2 = 0 := congrArg Prod.fst ecs
  have hp2 := hgo.1.2.1 hp1
  have hf2 := hgo.1.2.2.1 hf1
  have hx2 := hgo.1.1
  dsimp only at hp2 hf2 hx2
  subst ecs2
  subst eo2
  have hT3 : ∀ m : Nat, pT (mA (mA A1 13 w (nI (n + cs1.length))) 14 w (nI m)) = T := fun m => (pT_mA (by decide) (by decide)).trans hT2
  cases b2
  case true =>
    have g3 := pAny_go hTz 11 (p2, f2, q2, 0, cs1) hp2
    have hcon := ct_condP (mo := mo) (ll := ll) (B := B) hk hF2 hs hx
    rw [hT2] at hcon
    have hres : (mA (mA A1 13 w (nI (n + cs1.length))) 14 w (nI (n + (pAny T sz 11 (p2, f2, q2, 0, cs1)).2.2.2.2.length)), pNeed T sz (pAny T sz 11 (p2, f2, q2, 0, cs1)) 59) = (AR, (pr, fr, qr, or_, csr)) := hres
    rcases hc3 : pAny T sz 11 (p2, f2, q2, 0, cs1) with ⟨p3, f3, q3, o3, cs3⟩
    rw [hc3] at hres g3
    have h4 := congrArg Prod.snd hres
    have hAR := congrArg Prod.fst hres
    dsimp only at h4 hAR
    subst hAR
    have g4 := pNeed_cs (T := T) (sz := sz) (p3, f3, q3, o3, cs3) 59
    rw [h4] at g4
    have ecr : cs3 = csr := (congrArg Prod.snd g4).symm
    subst ecr
    have hp3 := g3.2.1 hp2
    have hf3 := g3.2.2.1 hf2
    have e3 := pE_mono (cl := cl) (n := n) g3.2.2.2.2.1
    have hT3 := hT3 (n + cs3.length)
    dsimp only at hp3 hf3 e3
    refine g_aload_n (i := 0) h dX4_clause_245 rfl rfl ?_
    refine m_get h hM f_X4_33_4 rfl dX4_clause_246 ?_
    refine g_iload_n (i := 2) h dX4_clause_249 rfl rfl ?_
    refine g_aload_n (i := 0) h dX4_clause_250 rfl rfl ?_
    refine m_get (v := .int (nI (n + cs1.length))) h hM f_X4_204_4 rfl dX4_clause_251 ?_
    refine m_iast (k := 13) h hM rfl rfl (by show w < 481; omega) dX4_clause_254 (fun c hM => ?_)
    rw [rA_mA _ n _ w _ (k := 13) (by decide)] at hM
    refine g_aload_n (i := 0) h dX4_clause_255 rfl rfl ?_
    refine g_iconst (v := nI 0) h dX4_clause_256 (by decide) ?_
    refine m_puti h hM mp_7 fp_X4_228_4 dX4_clause_257 (fun c hM => ?_)
    rw [rA_7] at hM
    refine g_aload_n (i := 0) h dX4_clause_260 rfl rfl ?_
    obtain ⟨a261, z261, s261⟩ := hx 27 _ rfl
    refine g_ldcwS h z261 dX4_clause_261 ?_
    refine g_invV h (ctT_eat h.k hM hT2 h3 hz hp1 hf1 hs (by decide) he s261) hcX4_eat w_X4_216 rfl rfl hM.obj (Nat.le_of_ble_eq_true rfl) (by refine ⟨?_, ?_⟩ <;> ((try dsimp only); omega)) (by refine ⟨?_, ?_⟩ <;> ((try dsimp only); omega)) dX4_clause_264 (gkr_i (fun c hM => ?_)) gkt_i
    refine g_if_eq (tgt := 274) h dX4_clause_267 (by decide) (fun _bz => absurd _bz (by decide)) (fun b267 => ?_)
    refine g_aload_n (i := 0) h dX4_clause_270 rfl rfl ?_
    refine g_invV h (hcon c ma p2 f2 q2 0 cs1 (p3, f3, q3, o3, cs3) hc3 hM hp2 hf2 (by omega) (Nat.zero_le _) (by omega) (pE cl n cs3.length - pE cl n cs1.length) (4 * (pE cl n cs3.length - pE cl n cs1.length)) (by (try dsimp only); omega)) hcX4_condition w_X4_237 rfl rfl hM.obj (Nat.le_of_ble_eq_true rfl) (by refine ⟨?_, ?_⟩ <;> ((try dsimp only); omega)) (by refine ⟨?_, ?_⟩ <;> ((try dsimp only); omega)) dX4_clause_271 (gkr_v (fun c hM => ?_)) gkt_v
    obtain ⟨ma, hM⟩ := hM
    refine g_aload_n (i := 0) h dX4_clause_274 rfl rfl ?_
    refine m_get h hM f_X4_36_4 rfl dX4_clause_275 ?_
    refine g_iload_n (i := 2) h dX4_clause_278 rfl rfl ?_
    refine g_aload_n (i := 0) h dX4_clause_279 rfl rfl ?_
    refine m_get (v := .int (nI (n + cs3.length))) h hM f_X4_204_4 rfl dX4_clause_280 ?_
    refine m_iast (k := 14) h hM rfl rfl (by show w < 480; omega) dX4_clause_283 (fun c hM => ?_)
    rw [rA_mA _ n _ w _ (k := 14) (by decide)] at hM
    refine g_aload_n (i := 0) h dX4_clause_284 rfl rfl ?_
    refine g_bipush (v := 59) h dX4_clause_285 (by decide) ?_
    refine g_invV h (ctT_need h.k hM hT3 h3 hz hp3 hf3 59 h4) hcX4_need w_X4_240 rfl rfl hM.obj (Nat.le_of_ble_eq_true rfl) (by refine ⟨?_, ?_⟩ <;> ((try dsimp only); omega)) (by refine ⟨?_, ?_⟩ <;> ((try dsimp only); omega)) dX4_clause_287 (gkr_i (fun c hM => ?_)) gkt_i
    refine g_pop h dX4_clause_290 rfl ?_
    exact g_vret h ⟨rfl, _, hM⟩ (by (try dsimp only); omega) (by (try dsimp only); omega) dX4_clause_291
  case false =>
    have hres : (mA (mA A1 13 w (nI (n + cs1.length))) 14 w (nI (n + cs1.length)), pNeed T sz (p2, f2, q2, 0, cs1) 59) = (AR, (pr, fr, qr, or_, csr)) := hres
    have h4 := congrArg Prod.snd hres
    have hAR := congrArg Prod.fst hres
    dsimp only at h4 hAR
    subst hAR
    have g4 := pNeed_cs (T := T) (sz := sz) (p2, f2, q2, 0, cs1) 59
    rw [h4] at g4
    have ecr : cs1 = csr := (congrArg Prod.snd g4).symm
    subst ecr
    have hp3 := hp2
    have hf3 := hf2
    have hT3 := hT3 (n + cs1.length)
    refine g_aload_n (i := 0) h dX4_clause_245 rfl rfl ?_
    refine m_get h hM f_X4_33_4 rfl dX4_clause_246 ?_
    refine g_iload_n (i := 2) h dX4_clause_249 rfl rfl ?_
    refine g_aload_n (i := 0) h dX4_clause_250 rfl rfl ?_
    refine m_get (v := .int (nI (n + cs1.length))) h hM f_X4_204_4 rfl dX4_clause_251 ?_
    refine m_iast (k := 13) h hM rfl rfl (by show w < 481; omega) dX4_clause_254 (fun c hM => ?_)
    rw [rA_mA _ n _ w _ (k := 13) (by decide)] at hM
    refine g_aload_n (i := 0) h dX4_clause_255 rfl rfl ?_
    refine g_iconst (v := nI 0) h dX4_clause_256 (by decide) ?_
    refine m_puti h hM mp_7 fp_X4_228_4 dX4_clause_257 (fun c hM => ?_)
    rw [rA_7] at hM
    refine g_aload_n (i := 0) h dX4_clause_260 rfl rfl ?_
    obtain ⟨a261, z261, s261⟩ := hx 27 _ rfl
    refine g_ldcwS h z261 dX4_clause_261 ?_
    refine g_invV h (ctT_eat h.k hM hT2 h3 hz hp1 hf1 hs (by decide) he s261) hcX4_eat w_X4_216 rfl rfl hM.obj (Nat.le_of_ble_eq_true rfl) (by refine ⟨?_, ?_⟩ <;> ((try dsimp only); omega)) (by refine ⟨?_, ?_⟩ <;> ((try dsimp only); omega)) dX4_clause_264 (gkr_i (fun c hM => ?_)) gkt_i
    refine g_if_eq (tgt := 274) h dX4_clause_267 (by decide) (fun b267 => ?_) (fun _bz => absurd _bz (by decide))
    refine g_aload_n (i := 0) h dX4_clause_274 rfl rfl ?_
    refine m_get h hM f_X4_36_4 rfl dX4_clause_275 ?_
    refine g_iload_n (i := 2) h dX4_clause_278 rfl rfl ?_
    refine g_aload_n (i := 0) h dX4_clause_279 rfl rfl ?_
    refine m_get (v := .int (nI (n + cs1.length))) h hM f_X4_204_4 rfl dX4_clause_280 ?_
    refine m_iast (k := 14) h hM rfl rfl (by show w < 480; omega) dX4_clause_283 (fun c hM => ?_)
    rw [rA_mA _ n _ w _ (k := 14) (by decide)] at hM
    refine g_aload_n (i := 0) h dX4_clause_284 rfl rfl ?_
    refine g_bipush (v := 59) h dX4_clause_285 (by decide) ?_
    refine g_invV h (ctT_need h.k hM hT3 h3 hz hp3 hf3 59 h4) hcX4_need w_X4_240 rfl rfl hM.obj (Nat.le_of_ble_eq_true rfl) (by refine ⟨?_, ?_⟩ <;> ((try dsimp only); omega)) (by refine ⟨?_, ?_⟩ <;> ((try dsimp only); omega)) dX4_clause_287 (gkr_i (fun c hM => ?_)) gkt_i
    refine g_pop h dX4_clause_290 rfl ?_
    exact g_vret h ⟨rfl, _, hM⟩ (by (try dsimp only); omega) (by (try dsimp only); omega) dX4_clause_291
theorem hA_toll {A : Nat → Nat → Int32} {w : Nat} {v z s : Int32} (h : s = 1 ∨ s = 2 ∨ s = 3) : hA A w (s, v, z) = mA (mA A 11 w v) 10 w s := if_pos h
theorem hA_times {A : Nat → Nat → Int32} {w : Nat} {v z : Int32} : hA A w (4, v, z) = mA (mA (mA A 10 w 4) 11 w v) 12 w z := by
  show (if (4 : Int32) = 1 ∨ (4 : Int32) = 2 ∨ (4 : Int32) = 3 then _ else if (4 : Int32) = 4 then _ else _) = _
  rw [if_neg (by decide), if_pos rfl]
theorem hA_oth {A : Nat → Nat → Int32} {w : Nat} {v z s : Int32} (h : s = 0 ∨ s = 5 ∨ s = 6) : hA A w (s, v, z) = mA A 10 w s := by
  show (if s = 1 ∨ s = 2 ∨ s = 3 then _ else if s = 4 then _ else _) = _
  rcases h with rfl | rfl | rfl
  · rw [if_neg (by decide), if_neg (by decide)]
  · rw [if_neg (by decide), if_neg (by decide)]
  · rw [if_neg (by decide), if_neg (by decide)]
theorem ct_clause {l : Launch} {g : gGP} (hk : gK l g) {c0 c : gLH} {mo : Nat} {ma : Nat → Nat} {cl ll : Nat} {A AR : Nat → Nat → Int32} {B : Nat → Nat → Int64} {n sz p : Nat} {q : Int32} {o : Nat} {cs csr : List (Int32 × Int32)} {pr fr or_ : Nat} {qr : Int32} (hF : pFix A n sz cl) (hs : gSS g) (hx : gLits RX4 xLits g c0) (hM : MW c0 mo ma (pE cl n cs.length) ll (rA A n (p, 0, q, o, cs)) B c) (hp : p ≤ sz) (hcs : cs.length ≤ p) {a k : Nat} (ha : A 18 0 = nI a) (ha12 : a < 12) (hk41 : k ≤ 40) (mc ms : Nat) (hcost : pE cl n csr.length ≤ pE cl n cs.length + mc ∧ 4 * pE cl n csr.length ≤ 4 * pE cl n cs.length + ms) (hR : pCl (pT A) sz (40 * a + k) k n A (p, 0, q, o, cs) = (AR, (pr, fr, qr, or_, csr))) : Ct l g yX4_clause hwX4_clause 42 1680 [.ref mo, .int (nI k)] c (mc) (ms) (pV (fun c' => ∃ ma', MW c0 mo ma' (pE cl n csr.length) ll (rA AR n (pr, fr, qr, or_, csr)) B c')) := by
  refine Ct.intro hk hcX4_clause (by decide +kernel) (Nat.le_of_ble_eq_true rfl) (fun φ h => ?_)
  have hz := hF.2.1
  obtain ⟨T, hTT⟩ : ∃ T, pT A = T := ⟨_, rfl⟩
  have hTz : pTz T sz := by rw [← hTT]; exact hF.tz
  rw [hTT] at hR
  have hPB : pB T sz (pB T sz p) = pB T sz p := pB_idem _
  have hPz : pB T sz p ≤ sz := pB_sz _ hp
  have hPp : p ≤ pB T sz p := pB_ge _ _ _
  unfold pCl at hR
  dsimp only [pAt] at hR
  obtain ⟨P, hPe⟩ : ∃ P, pB T sz p = P := ⟨_, rfl⟩
  rw [hPe] at hPB hPz hPp hR
  have noA : ∀ (code : Nat), (A, pWrong (P, 0, q, o, cs) code P) = (AR, (pr, fr, qr, or_, csr)) → A = AR ∧ csr = cs ∧ pWrong (P, 0, q, o, cs) code P = (pr, fr, qr, or_, csr) := by
    intro code hh
    have h1 := congrArg Prod.fst hh
    have h2 := congrArg Prod.snd hh
    dsimp only at h1 h2
    refine ⟨h1, ?_, h2⟩
    have := congrArg (fun s : pSt => s.2.2.2.2) h2
    unfold pWrong at this
    split at this <;> exact this.symm
  unfold pWhich at hR
  have key : ∀ h : Nat, (if k = 40 then (A, pWrong (P, 0, q, o, cs) 3 P) else (mA (mA (hA A (40 * a + k) (pHead T sz h (pOn (P, 0, q, o, cs) (hLen h))).2) 13 (40 * a + k) (nI (n + (pHead T sz h (pOn (P, 0, q, o, cs) (hLen h))).1.2.2.2.2.length))) 14 (40 * a + k) (nI (n + (pCond T sz (pZero (pHead T sz h (pOn (P, 0, q, o, cs) (hLen h))).1)).2.2.2.2.length)), pNeed T sz (pCond T sz (pZero (pHead T sz h (pOn (P, 0, q, o, cs) (hLen h))).1)) 59)) = (AR, (pr, fr, qr, or_, csr)) → ¬ k = 40 → (mA (mA (hA A (40 * a + k) (pHead T sz h (P + hLen h, 0, q, o, cs)).2) 13 (40 * a + k) (nI (n + (pHead T sz h (P + hLen h, 0, q, o, cs)).1.2.2.2.2.length))) 14 (40 * a + k) (nI (n + (pCond T sz (pZero (pHead T sz h (P + hLen h, 0, q, o, cs)).1)).2.2.2.2.length)), pNeed T sz (pCond T sz (pZero (pHead T sz h (P + hLen h, 0, q, o, cs)).1)) 59) = (AR, (pr, fr, qr, or_, csr)) := by
    intro h hh hk
    rw [if_neg hk] at hh
    exact hh
  cases hq0 : pIsW T P w_free
  case true =>
    rw [if_pos hq0] at hR
    dsimp only at hR
    by_cases hk40 : k = 40
    · rw [if_pos hk40] at hR
      obtain ⟨hAR, hlen, hres⟩ := noA 3 hR
      refine g_bipush (v := nI 40) h dX4_clause_0 (by decide) ?_
      refine g_aload_n (i := 0) h dX4_clause_2 rfl rfl ?_
      refine m_get (v := .int (nI a)) h hM f_X4_289_4 (by rw [← ha]; rfl) dX4_clause_3 ?_
      first | (with_reducible refine g_imulN h dX4_clause_6 ?_) | refine g_imul h dX4_clause_6 ?_
      refine g_iload_n (i := 1) h dX4_clause_7 rfl rfl ?_
      first | (with_reducible refine g_iaddN h dX4_clause_8 ?_) | refine g_iadd h dX4_clause_8 ?_
      refine g_istore_n (i := 2) h dX4_clause_9 rfl (by decide) ?_
      refine g_aload_n (i := 0) h dX4_clause_10 rfl rfl ?_
      obtain ⟨a11, z11, s11⟩ := hx 20 _ rfl
      refine g_ldcwS h z11 dX4_clause_11 ?_
      refine g_invV h (ctT_word h.k hM hTT hF.1 hz hp (by decide) hs (by decide) hPe hq0 s11) hcX4_isWord w_X4_182 rfl rfl hM.obj (Nat.le_of_ble_eq_true rfl) (by refine ⟨?_, ?_⟩ <;> ((try dsimp only); omega)) (by refine ⟨?_, ?_⟩ <;> ((try dsimp only); omega)) dX4_clause_14 (gkr_i (fun c hM => ?_)) gkt_i
      refine g_if_ne (tgt := 50) h dX4_clause_17 (by decide) (fun b17 => ?_) (fun _bz => absurd _bz (by decide))
      refine g_iconst (v := 1) h dX4_clause_50 (by decide) ?_
      refine g_goto (tgt := 55) h dX4_clause_51 (by decide) ?_
      refine g_istore_n (i := 3) h dX4_clause_55 rfl (by decide) ?_
      refine g_iload_n (i := 3) h dX4_clause_56 rfl rfl ?_
      refine g_if_eq (tgt := 66) h dX4_clause_57 (by decide) (fun _bz => absurd _bz (by decide)) (fun _bz => ?_)
      refine g_iload_n (i := 1) h dX4_clause_60 rfl rfl ?_
      refine g_bipush (v := nI 40) h dX4_clause_61 (by decide) ?_
      refine g_icmp_ne (tgt := 85) h dX4_clause_63 (by decide) (fun _bz => absurd _bz (by rw [hk40]; decide)) (fun b63 => ?_)
      refine g_aload_n (i := 0) h dX4_clause_66 rfl rfl ?_
      refine g_iload_n (i := 3) h dX4_clause_67 rfl rfl ?_
      refine g_if_eq (tgt := 75) h dX4_clause_68 (by decide) (fun _bz => absurd _bz (by decide)) (fun _bz => ?_)
      refine g_iconst (v := nI 3) h dX4_clause_71 (by decide) ?_
      refine g_goto (tgt := 76) h dX4_clause_72 (by decide) ?_
      refine g_aload_n (i := 0) h dX4_clause_76 rfl rfl ?_
      refine m_get (v := .int (nI P)) h hM f_X4_155_4 rfl dX4_clause_77 ?_
      refine g_invV h (ct_wrong h.k hM 3 (nI P)) hcX4_wrong w_X4_189 rfl rfl hM.obj (Nat.le_of_ble_eq_true rfl) (by refine ⟨?_, ?_⟩ <;> ((try dsimp only); omega)) (by refine ⟨?_, ?_⟩ <;> ((try dsimp only); omega)) dX4_clause_80 (gkr_i (fun c hM => ?_)) gkt_i
      replace hM := rA_wrong (s := (P, 0, q, o, cs)) (show 0 < 4 by decide) 3 P ▸ hM
      refine g_pop h dX4_clause_83 rfl ?_
      exact g_vret h ⟨rfl, ma, (by rw [← hres, hlen, ← hAR]; exact hM : MW c0 mo ma (pE cl n csr.length) ll (rA AR n (pr, fr, qr, or_, csr)) B c)⟩ (Nat.zero_le _) (Nat.zero_le _) dX4_clause_84
    have he0 : pEat T sz (P, 0, q, o, cs) w_free = (true, (P + 4, 0, q, o, cs)) := by rw [pEat_at hPB, if_pos hq0]; rfl
    have hl : P + 4 ≤ sz := pIsW_lt hTz hPz (W := w_free) (w_wd (by decide)).1 (w_wd (by decide)).2 hq0
    have hres := key 0 hR hk40
    have hH : pHead T sz 0 (P + 4, 0, q, o, cs) = ((P + 4, 0, q, o, cs), 0, 0, 0) := by simp [pHead]
    rw [show hLen 0 = 4 from rfl, hH] at hres
    dsimp only [pZero] at hres
    rw [hA_oth (by decide)] at hres
    refine g_bipush (v := nI 40) h dX4_clause_0 (by decide) ?_
    refine g_aload_n (i := 0) h dX4_clause_2 rfl rfl ?_
    refine m_get (v := .int (nI a)) h hM f_X4_289_4 (by rw [← ha]; rfl) dX4_clause_3 ?_
    first | (with_reducible refine g_imulN h dX4_clause_6 ?_) | refine g_imul h dX4_clause_6 ?_
    refine g_iload_n (i := 1) h dX4_clause_7 rfl rfl ?_
    first | (with_reducible refine g_iaddN h dX4_clause_8 ?_) | refine g_iadd h dX4_clause_8 ?_
    refine g_istore_n (i := 2) h dX4_clause_9 rfl (by decide) ?_
    refine g_aload_n (i := 0) h dX4_clause_10 rfl rfl ?_
    obtain ⟨a11, z11, s11⟩ := hx 20 _ rfl
    refine g_ldcwS h z11 dX4_clause_11 ?_
    refine g_invV h (ctT_word h.k hM hTT hF.1 hz hp (by decide) hs (by decide) hPe hq0 s11) hcX4_isWord w_X4_182 rfl rfl hM.obj (Nat.le_of_ble_eq_true rfl) (by refine ⟨?_, ?_⟩ <;> ((try dsimp only); omega)) (by refine ⟨?_, ?_⟩ <;> ((try dsimp only); omega)) dX4_clause_14 (gkr_i (fun c hM => ?_)) gkt_i
    refine g_if_ne (tgt := 50) h dX4_clause_17 (by decide) (fun b17 => ?_) (fun _bz => absurd _bz (by decide))
    refine g_iconst (v := 1) h dX4_clause_50 (by decide) ?_
    refine g_goto (tgt := 55) h dX4_clause_51 (by decide) ?_
    refine g_istore_n (i := 3) h dX4_clause_55 rfl (by decide) ?_
    refine g_iload_n (i := 3) h dX4_clause_56 rfl rfl ?_
    refine g_if_eq (tgt := 66) h dX4_clause_57 (by decide) (fun _bz => absurd _bz (by decide)) (fun _bz => ?_)
    refine g_iload_n (i := 1) h dX4_clause_60 rfl rfl ?_
    refine g_bipush (v := nI 40) h dX4_clause_61 (by decide) ?_
    refine g_icmp_ne (tgt := 85) h dX4_clause_63 (by decide) (fun b63 => ?_) (fun _bz => absurd _bz (fun q => hk40 (nI_inj (by omega) (by omega) q)))
    refine g_aload_n (i := 0) h dX4_clause_85 rfl rfl ?_
    obtain ⟨a86, z86, s86⟩ := hx 20 _ rfl
    refine g_ldcwS h z86 dX4_clause_86 ?_
    refine g_invV h (ctT_eat h.k hM hTT hF.1 hz hPz (by decide) hs (by decide) he0 s86) hcX4_eat w_X4_216 rfl rfl hM.obj (Nat.le_of_ble_eq_true rfl) (by refine ⟨?_, ?_⟩ <;> ((try dsimp only); omega)) (by refine ⟨?_, ?_⟩ <;> ((try dsimp only); omega)) dX4_clause_89 (gkr_i (fun c hM => ?_)) gkt_i
    refine g_if_eq (tgt := 105) h dX4_clause_92 (by decide) (fun _bz => absurd _bz (by decide)) (fun b92 => ?_)
    refine g_aload_n (i := 0) h dX4_clause_95 rfl rfl ?_
    refine m_get h hM f_X4_24_4 rfl dX4_clause_96 ?_
    refine g_iload_n (i := 2) h dX4_clause_99 rfl rfl ?_
    refine g_iconst (v := 0) h dX4_clause_100 (by decide) ?_
    refine m_iast (k := 10) h hM rfl rfl (by show 40 * a + k < 480; omega) dX4_clause_101 (fun c hM => ?_)
    rw [rA_mA _ n _ (40 * a + k) _ (k := 10) (by decide)] at hM
    refine g_goto (tgt := 245) h dX4_clause_102 (by decide) ?_
    exact G.to (clause_tail h hs hx hz hF.2.2 (by omega) (mA A 10 (40 * a + k) 0) (P + 4) 0 q o cs c ma ((pT_mA (by decide) (by decide)).trans hTT) hF.1 hl (by decide) (by omega) hcost hres hM) ⟨rfl, rfl, rfl, trivial⟩
  rw [if_neg (by rw [hq0]; decide)] at hR
  cases hq1 : pIsW T P w_toll
  case true =>
    rw [if_pos hq1] at hR
    dsimp only at hR
    by_cases hk40 : k = 40
    · rw [if_pos hk40] at hR
      obtain ⟨hAR, hlen, hres⟩ := noA 3 hR
      refine g_bipush (v := nI 40) h dX4_clause_0 (by decide) ?_
      refine g_aload_n (i := 0) h dX4_clause_2 rfl rfl ?_
      refine m_get (v := .int (nI a)) h hM f_X4_289_4 (by rw [← ha]; rfl) dX4_clause_3 ?_
      first | (with_reducible refine g_imulN h dX4_clause_6 ?_) | refine g_imul h dX4_clause_6 ?_
      refine g_iload_n (i := 1) h dX4_clause_7 rfl rfl ?_
      first | (with_reducible refine g_iaddN h dX4_clause_8 ?_) | refine g_iadd h dX4_clause_8 ?_
      refine g_istore_n (i := 2) h dX4_clause_9 rfl (by decide) ?_
      refine g_aload_n (i := 0) h dX4_clause_10 rfl rfl ?_
      obtain ⟨a11, z11, s11⟩ := hx 20 _ rfl
      refine g_ldcwS h z11 dX4_clause_11 ?_
      refine g_invV h (ctT_word h.k hM hTT hF.1 hz hp (by decide) hs (by decide) hPe hq0 s11) hcX4_isWord w_X4_182 rfl rfl hM.obj (Nat.le_of_ble_eq_true rfl) (by refine ⟨?_, ?_⟩ <;> ((try dsimp only); omega)) (by refine ⟨?_, ?_⟩ <;> ((try dsimp only); omega)) dX4_clause_14 (gkr_i (fun c hM => ?_)) gkt_i
      refine g_if_ne (tgt := 50) h dX4_clause_17 (by decide) (fun _bz => absurd _bz (by decide)) (fun b17 => ?_)
      refine g_aload_n (i := 0) h dX4_clause_20 rfl rfl ?_
      obtain ⟨a21, z21, s21⟩ := hx 21 _ rfl
      refine g_ldcwS h z21 dX4_clause_21 ?_
      refine g_invV h (ctT_word h.k hM hTT hF.1 hz hPz (by decide) hs (by decide) hPB hq1 s21) hcX4_isWord w_X4_182 rfl rfl hM.obj (Nat.le_of_ble_eq_true rfl) (by refine ⟨?_, ?_⟩ <;> ((try dsimp only); omega)) (by refine ⟨?_, ?_⟩ <;> ((try dsimp only); omega)) dX4_clause_24 (gkr_i (fun c hM => ?_)) gkt_i
      refine g_if_ne (tgt := 50) h dX4_clause_27 (by decide) (fun b27 => ?_) (fun _bz => absurd _bz (by decide))
      refine g_iconst (v := 1) h dX4_clause_50 (by decide) ?_
      refine g_goto (tgt := 55) h dX4_clause_51 (by decide) ?_
      refine g_istore_n (i := 3) h dX4_clause_55 rfl (by decide) ?_
      refine g_iload_n (i := 3) h dX4_clause_56 rfl rfl ?_
      refine g_if_eq (tgt := 66) h dX4_clause_57 (by decide) (fun _bz => absurd _bz (by decide)) (fun _bz => ?_)
      refine g_iload_n (i := 1) h dX4_clause_60 rfl rfl ?_
      refine g_bipush (v := nI 40) h dX4_clause_61 (by decide) ?_
      refine g_icmp_ne (tgt := 85) h dX4_clause_63 (by decide) (fun _bz => absurd _bz (by rw [hk40]; decide)) (fun b63 => ?_)
      refine g_aload_n (i := 0) h dX4_clause_66 rfl rfl ?_
      refine g_iload_n (i := 3) h dX4_clause_67 rfl rfl ?_
      refine g_if_eq (tgt := 75) h dX4_clause_68 (by decide) (fun _bz => absurd _bz (by decide)) (fun _bz => ?_)
      refine g_iconst (v := nI 3) h dX4_clause_71 (by decide) ?_
      refine g_goto (tgt := 76) h dX4_clause_72 (by decide) ?_
      refine g_aload_n (i := 0) h dX4_clause_76 rfl rfl ?_
      refine m_get (v := .int (nI P)) h hM f_X4_155_4 rfl dX4_clause_77 ?_
      refine g_invV h (ct_wrong h.k hM 3 (nI P)) hcX4_wrong w_X4_189 rfl rfl hM.obj (Nat.le_of_ble_eq_true rfl) (by refine ⟨?_, ?_⟩ <;> ((try dsimp only); omega)) (by refine ⟨?_, ?_⟩ <;> ((try dsimp only); omega)) dX4_clause_80 (gkr_i (fun c hM => ?_)) gkt_i
      replace hM := rA_wrong (s := (P, 0, q, o, cs)) (show 0 < 4 by decide) 3 P ▸ hM
      refine g_pop h dX4_clause_83 rfl ?_
      exact g_vret h ⟨rfl, ma, (by rw [← hres, hlen, ← hAR]; exact hM : MW c0 mo ma (pE cl n csr.length) ll (rA AR n (pr, fr, qr, or_, csr)) B c)⟩ (Nat.zero_le _) (Nat.zero_le _) dX4_clause_84
    have he0 : pEat T sz (P, 0, q, o, cs) w_free = (false, (P, 0, q, o, cs)) := by rw [pEat_at hPB, if_neg (by rw [hq0]; decide)]
    have he1 : pEat T sz (P, 0, q, o, cs) w_toll = (true, (P + 4, 0, q, o, cs)) := by rw [pEat_at hPB, if_pos hq1]; rfl
    have hl : P + 4 ≤ sz := pIsW_lt hTz hPz (W := w_toll) (w_wd (by decide)).1 (w_wd (by decide)).2 hq1
    have hres := key 1 hR hk40
    have ghN := pNum_go (T := T) (sz := sz) (P + 4, 0, q, o, cs) false
    have dhN := pNum_cs (T := T) (sz := sz) (P + 4, 0, q, o, cs) false
    rcases hN : pNum T sz (P + 4, 0, q, o, cs) false with ⟨v1, p1, f1, q1, o1, cs1⟩
    rw [hN] at ghN dhN
    have ehN : o = o1 := (congrArg Prod.fst dhN).symm
    have chN : cs = cs1 := (congrArg Prod.snd dhN).symm
    subst ehN
    subst chN
    have hp1 := ghN.2.1 hl
    have hf1 := ghN.2.2.1 (show 0 < 4 by decide)
    have hx1 := ghN.1
    dsimp only at hp1 hf1 hx1
    have ghe5 := (pEat_go hTz (p1, f1, q1, o, cs) hp1 (W := w_each) (w_wd (by decide))).1
    have dhe5 := pEat_cs (T := T) (sz := sz) (p1, f1, q1, o, cs) w_each
    rcases he5 : pEat T sz (p1, f1, q1, o, cs) w_each with ⟨b2, p2, f2, q2, o2, cs2⟩
    rw [he5] at ghe5 dhe5
    have ehe5 : o = o2 := (congrArg Prod.fst dhe5).symm
    have che5 : cs = cs2 := (congrArg Prod.snd dhe5).symm
    subst ehe5
    subst che5
    have hp2 := ghe5.2.1 hp1
    have hf2 := ghe5.2.2.1 hf1
    have hx2 := ghe5.1
    dsimp only at hp2 hf2 hx2
    cases b2
    case true =>
      have hH : pHead T sz 1 (P + 4, 0, q, o, cs) = ((p2, f2, q2, o, cs), 2, v1, 0) := by simp [pHead, hN, he5]
      rw [show hLen 1 = 4 from rfl, hH] at hres
      dsimp only [pZero] at hres
      rw [hA_toll (by decide)] at hres
      refine g_bipush (v := nI 40) h dX4_clause_0 (by decide) ?_
      refine g_aload_n (i := 0) h dX4_clause_2 rfl rfl ?_
      refine m_get (v := .int (nI a)) h hM f_X4_289_4 (by rw [← ha]; rfl) dX4_clause_3 ?_
      first | (with_reducible refine g_imulN h dX4_clause_6 ?_) | refine g_imul h dX4_clause_6 ?_
      refine g_iload_n (i := 1) h dX4_clause_7 rfl rfl ?_
      first | (with_reducible refine g_iaddN h dX4_clause_8 ?_) | refine g_iadd h dX4_clause_8 ?_
      refine g_istore_n (i := 2) h dX4_clause_9 rfl (by decide) ?_
      refine g_aload_n (i := 0) h dX4_clause_10 rfl rfl ?_
      obtain ⟨a11, z11, s11⟩ := hx 20 _ rfl
      refine g_ldcwS h z11 dX4_clause_11 ?_
      refine g_invV h (ctT_word h.k hM hTT hF.1 hz hp (by decide) hs (by decide) hPe hq0 s11) hcX4_isWord w_X4_182 rfl rfl hM.obj (Nat.le_of_ble_eq_true rfl) (by refine ⟨?_, ?_⟩ <;> ((try dsimp only); omega)) (by refine ⟨?_, ?_⟩ <;> ((try dsimp only); omega)) dX4_clause_14 (gkr_i (fun c hM => ?_)) gkt_i
      refine g_if_ne (tgt := 50) h dX4_clause_17 (by decide) (fun _bz => absurd _bz (by decide)) (fun b17 => ?_)
      refine g_aload_n (i := 0) h dX4_clause_20 rfl rfl ?_
      obtain ⟨a21, z21, s21⟩ := hx 21 _ rfl
      refine g_ldcwS h z21 dX4_clause_21 ?_
      refine g_invV h (ctT_word h.k hM hTT hF.1 hz hPz (by decide) hs (by decide) hPB hq1 s21) hcX4_isWord w_X4_182 rfl rfl hM.obj (Nat.le_of_ble_eq_true rfl) (by refine ⟨?_, ?_⟩ <;> ((try dsimp only); omega)) (by refine ⟨?_, ?_⟩ <;> ((try dsimp only); omega)) dX4_clause_24 (gkr_i (fun c hM => ?_)) gkt_i
      refine g_if_ne (tgt := 50) h dX4_clause_27 (by decide) (fun b27 => ?_) (fun _bz => absurd _bz (by decide))
      refine g_iconst (v := 1) h dX4_clause_50 (by decide) ?_
      refine g_goto (tgt := 55) h dX4_clause_51 (by decide) ?_
      refine g_istore_n (i := 3) h dX4_clause_55 rfl (by decide) ?_
      refine g_iload_n (i := 3) h dX4_clause_56 rfl rfl ?_
      refine g_if_eq (tgt := 66) h dX4_clause_57 (by decide) (fun _bz => absurd _bz (by decide)) (fun _bz => ?_)
      refine g_iload_n (i := 1) h dX4_clause_60 rfl rfl ?_
      refine g_bipush (v := nI 40) h dX4_clause_61 (by decide) ?_
      refine g_icmp_ne (tgt := 85) h dX4_clause_63 (by decide) (fun b63 => ?_) (fun _bz => absurd _bz (fun q => hk40 (nI_inj (by omega) (by omega) q)))
      refine g_aload_n (i := 0) h dX4_clause_85 rfl rfl ?_
      obtain ⟨a86, z86, s86⟩ := hx 20 _ rfl
      refine g_ldcwS h z86 dX4_clause_86 ?_
      refine g_invV h (ctT_eat h.k hM hTT hF.1 hz hPz (by decide) hs (by decide) he0 s86) hcX4_eat w_X4_216 rfl rfl hM.obj (Nat.le_of_ble_eq_true rfl) (by refine ⟨?_, ?_⟩ <;> ((try dsimp only); omega)) (by refine ⟨?_, ?_⟩ <;> ((try dsimp only); omega)) dX4_clause_89 (gkr_i (fun c hM => ?_)) gkt_i
      refine g_if_eq (tgt := 105) h dX4_clause_92 (by decide) (fun b92 => ?_) (fun _bz => absurd _bz (by decide))
      refine g_aload_n (i := 0) h dX4_clause_105 rfl rfl ?_
      obtain ⟨a106, z106, s106⟩ := hx 21 _ rfl
      refine g_ldcwS h z106 dX4_clause_106 ?_
      refine g_invV h (ctT_eat h.k hM hTT hF.1 hz hPz (by decide) hs (by decide) he1 s106) hcX4_eat w_X4_216 rfl rfl hM.obj (Nat.le_of_ble_eq_true rfl) (by refine ⟨?_, ?_⟩ <;> ((try dsimp only); omega)) (by refine ⟨?_, ?_⟩ <;> ((try dsimp only); omega)) dX4_clause_109 (gkr_i (fun c hM => ?_)) gkt_i
      refine g_if_eq (tgt := 164) h dX4_clause_112 (by decide) (fun _bz => absurd _bz (by decide)) (fun b112 => ?_)
      refine g_aload_n (i := 0) h dX4_clause_115 rfl rfl ?_
      refine m_get h hM f_X4_27_4 rfl dX4_clause_116 ?_
      refine g_iload_n (i := 2) h dX4_clause_119 rfl rfl ?_
      refine g_aload_n (i := 0) h dX4_clause_120 rfl rfl ?_
      refine g_iconst (v := zB false) h dX4_clause_121 (by decide) ?_
      refine g_invV h (ctT_num h.k hM hTT hF.1 hz hl (by decide) false hN) hcX4_number w_X4_267 rfl rfl hM.obj (Nat.le_of_ble_eq_true rfl) (by refine ⟨?_, ?_⟩ <;> ((try dsimp only); omega)) (by refine ⟨?_, ?_⟩ <;> ((try dsimp only); omega)) dX4_clause_122 (gkr_i (fun c hM => ?_)) gkt_i
      refine m_iast (k := 11) h hM rfl rfl (by show 40 * a + k < 480; omega) dX4_clause_125 (fun c hM => ?_)
      rw [rA_mA _ n _ (40 * a + k) _ (k := 11) (by decide)] at hM
      refine g_aload_n (i := 0) h dX4_clause_126 rfl rfl ?_
      refine m_get h hM f_X4_24_4 rfl dX4_clause_127 ?_
      refine g_iload_n (i := 2) h dX4_clause_130 rfl rfl ?_
      refine g_aload_n (i := 0) h dX4_clause_131 rfl rfl ?_
      obtain ⟨a132, z132, s132⟩ := hx 24 _ rfl
      refine g_ldcwS h z132 dX4_clause_132 ?_
      refine g_invV h (ctT_eat h.k hM ((pT_mA (by decide) (by decide)).trans hTT) hF.1 hz hp1 hf1 hs (by decide) he5 s132) hcX4_eat w_X4_216 rfl rfl hM.obj (Nat.le_of_ble_eq_true rfl) (by refine ⟨?_, ?_⟩ <;> ((try dsimp only); omega)) (by refine ⟨?_, ?_⟩ <;> ((try dsimp only); omega)) dX4_clause_135 (gkr_i (fun c hM => ?_)) gkt_i
      refine g_if_eq (tgt := 145) h dX4_clause_138 (by decide) (fun _bz => absurd _bz (by decide)) (fun b138 => ?_)
      refine g_iconst (v := 2) h dX4_clause_141 (by decide) ?_
      refine g_goto (tgt := 160) h dX4_clause_142 (by decide) ?_
      refine m_iast (k := 10) h hM rfl rfl (by show 40 * a + k < 480; omega) dX4_clause_160 (fun c hM => ?_)
      rw [rA_mA _ n _ (40 * a + k) _ (k := 10) (by decide)] at hM
      refine g_goto (tgt := 245) h dX4_clause_161 (by decide) ?_
      exact G.to (clause_tail h hs hx hz hF.2.2 (by omega) (mA (mA A 11 (40 * a + k) v1) 10 (40 * a + k) 2) p2 f2 q2 o cs c ma ((pT_mA (by decide) (by decide)).trans ((pT_mA (by decide) (by decide)).trans hTT)) hF.1 hp2 hf2 (by omega) hcost hres hM) ⟨rfl, rfl, rfl, trivial⟩
    have ghe6 := (pEat_go hTz (p2, f2, q2, o, cs) hp2 (W := w_score) (w_wd (by decide))).1
    have dhe6 := pEat_cs (T := T) (sz := sz) (p2, f2, q2, o, cs) w_score
    rcases he6 : pEat T sz (p2, f2, q2, o, cs) w_score with ⟨b3, p3, f3, q3, o3, cs3⟩
    rw [he6] at ghe6 dhe6
    have ehe6 : o = o3 := (congrArg Prod.fst dhe6).symm
    have che6 : cs = cs3 := (congrArg Prod.snd dhe6).symm
    subst ehe6
    subst che6
    have hp3 := ghe6.2.1 hp2
    have hf3 := ghe6.2.2.1 hf2
    have hx3 := ghe6.1
    dsimp only at hp3 hf3 hx3
    cases b3
    case true =>
      have hH : pHead T sz 1 (P + 4, 0, q, o, cs) = ((p3, f3, q3, o, cs), 3, v1, 0) := by simp [pHead, hN, he5, he6]
      rw [show hLen 1 = 4 from rfl, hH] at hres
      dsimp only [pZero] at hres
      rw [hA_toll (by decide)] at hres
      refine g_bipush (v := nI 40) h dX4_clause_0 (by decide) ?_
      refine g_aload_n (i := 0) h dX4_clause_2 rfl rfl ?_
      refine m_get (v := .int (nI a)) h hM f_X4_289_4 (by rw [← ha]; rfl) dX4_clause_3 ?_
      first | (with_reducible refine g_imulN h dX4_clause_6 ?_) | refine g_imul h dX4_clause_6 ?_
      refine g_iload_n (i := 1) h dX4_clause_7 rfl rfl ?_
      first | (with_reducible refine g_iaddN h dX4_clause_8 ?_) | refine g_iadd h dX4_clause_8 ?_
      refine g_istore_n (i := 2) h dX4_clause_9 rfl (by decide) ?_
      refine g_aload_n (i := 0) h dX4_clause_10 rfl rfl ?_
      obtain ⟨a11, z11, s11⟩ := hx 20 _ rfl
      refine g_ldcwS h z11 dX4_clause_11 ?_
      refine g_invV h (ctT_word h.k hM hTT hF.1 hz hp (by decide) hs (by decide) hPe hq0 s11) hcX4_isWord w_X4_182 rfl rfl hM.obj (Nat.le_of_ble_eq_true rfl) (by refine ⟨?_, ?_⟩ <;> ((try dsimp only); omega)) (by refine ⟨?_, ?_⟩ <;> ((try dsimp only); omega)) dX4_clause_14 (gkr_i (fun c hM => ?_)) gkt_i
      refine g_if_ne (tgt := 50) h dX4_clause_17 (by decide) (fun _bz => absurd _bz (by decide)) (fun b17 => ?_)
      refine g_aload_n (i := 0) h dX4_clause_20 rfl rfl ?_
      obtain ⟨a21, z21, s21⟩ := hx 21 _ rfl
      refine g_ldcwS h z21 dX4_clause_21 ?_
      refine g_invV h (ctT_word h.k hM hTT hF.1 hz hPz (by decide) hs (by decide) hPB hq1 s21) hcX4_isWord w_X4_182 rfl rfl hM.obj (Nat.le_of_ble_eq_true rfl) (by refine ⟨?_, ?_⟩ <;> ((try dsimp only); omega)) (by refine ⟨?_, ?_⟩ <;> ((try dsimp only); omega)) dX4_clause_24 (gkr_i (fun c hM => ?_)) gkt_i
      refine g_if_ne (tgt := 50) h dX4_clause_27 (by decide) (fun b27 => ?_) (fun _bz => absurd _bz (by decide))
      refine g_iconst (v := 1) h dX4_clause_50 (by decide) ?_
      refine g_goto (tgt := 55) h dX4_clause_51 (by decide) ?_
      refine g_istore_n (i := 3) h dX4_clause_55 rfl (by decide) ?_
      refine g_iload_n (i := 3) h dX4_clause_56 rfl rfl ?_
      refine g_if_eq (tgt := 66) h dX4_clause_57 (by decide) (fun _bz => absurd _bz (by decide)) (fun _bz => ?_)
      refine g_iload_n (i := 1) h dX4_clause_60 rfl rfl ?_
      refine g_bipush (v := nI 40) h dX4_clause_61 (by decide) ?_
      refine g_icmp_ne (tgt := 85) h dX4_clause_63 (by decide) (fun b63 => ?_) (fun _bz => absurd _bz (fun q => hk40 (nI_inj (by omega) (by omega) q)))
      refine g_aload_n (i := 0) h dX4_clause_85 rfl rfl ?_
      obtain ⟨a86, z86, s86⟩ := hx 20 _ rfl
      refine g_ldcwS h z86 dX4_clause_86 ?_
      refine g_invV h (ctT_eat h.k hM hTT hF.1 hz hPz (by decide) hs (by decide) he0 s86) hcX4_eat w_X4_216 rfl rfl hM.obj (Nat.le_of_ble_eq_true rfl) (by refine ⟨?_, ?_⟩ <;> ((try dsimp only); omega)) (by refine ⟨?_, ?_⟩ <;> ((try dsimp only); omega)) dX4_clause_89 (gkr_i (fun c hM => ?_)) gkt_i
      refine g_if_eq (tgt := 105) h dX4_clause_92 (by decide) (fun b92 => ?_) (fun _bz => absurd _bz (by decide))
      refine g_aload_n (i := 0) h dX4_clause_105 rfl rfl ?_
      obtain ⟨a106, z106, s106⟩ := hx 21 _ rfl
      refine g_ldcwS h z106 dX4_clause_106 ?_
      refine g_invV h (ctT_eat h.k hM hTT hF.1 hz hPz (by decide) hs (by decide) he1 s106) hcX4_eat w_X4_216 rfl rfl hM.obj (Nat.le_of_ble_eq_true rfl) (by refine ⟨?_, ?_⟩ <;> ((try dsimp only); omega)) (by refine ⟨?_, ?_⟩ <;> ((try dsimp only); omega)) dX4_clause_109 (gkr_i (fun c hM => ?_)) gkt_i
      refine g_if_eq (tgt := 164) h dX4_clause_112 (by decide) (fun _bz => absurd _bz (by decide)) (fun b112 => ?_)
      refine g_aload_n (i := 0) h dX4_clause_115 rfl rfl ?_
      refine m_get h hM f_X4_27_4 rfl dX4_clause_116 ?_
      refine g_iload_n (i := 2) h dX4_clause_119 rfl rfl ?_
      refine g_aload_n (i := 0) h dX4_clause_120 rfl rfl ?_
      refine g_iconst (v := zB false) h dX4_clause_121 (by decide) ?_
      refine g_invV h (ctT_num h.k hM hTT hF.1 hz hl (by decide) false hN) hcX4_number w_X4_267 rfl rfl hM.obj (Nat.le_of_ble_eq_true rfl) (by refine ⟨?_, ?_⟩ <;> ((try dsimp only); omega)) (by refine ⟨?_, ?_⟩ <;> ((try dsimp only); omega)) dX4_clause_122 (gkr_i (fun c hM => ?_)) gkt_i
      refine m_iast (k := 11) h hM rfl rfl (by show 40 * a + k < 480; omega) dX4_clause_125 (fun c hM => ?_)
      rw [rA_mA _ n _ (40 * a + k) _ (k := 11) (by decide)] at hM
      refine g_aload_n (i := 0) h dX4_clause_126 rfl rfl ?_
      refine m_get h hM f_X4_24_4 rfl dX4_clause_127 ?_
      refine g_iload_n (i := 2) h dX4_clause_130 rfl rfl ?_
      refine g_aload_n (i := 0) h dX4_clause_131 rfl rfl ?_
      obtain ⟨a132, z132, s132⟩ := hx 24 _ rfl
      refine g_ldcwS h z132 dX4_clause_132 ?_
      refine g_invV h (ctT_eat h.k hM ((pT_mA (by decide) (by decide)).trans hTT) hF.1 hz hp1 hf1 hs (by decide) he5 s132) hcX4_eat w_X4_216 rfl rfl hM.obj (Nat.le_of_ble_eq_true rfl) (by refine ⟨?_, ?_⟩ <;> ((try dsimp only); omega)) (by refine ⟨?_, ?_⟩ <;> ((try dsimp only); omega)) dX4_clause_135 (gkr_i (fun c hM => ?_)) gkt_i
      refine g_if_eq (tgt := 145) h dX4_clause_138 (by decide) (fun b138 => ?_) (fun _bz => absurd _bz (by decide))
      refine g_aload_n (i := 0) h dX4_clause_145 rfl rfl ?_
      obtain ⟨a146, z146, s146⟩ := hx 25 _ rfl
      refine g_ldcwS h z146 dX4_clause_146 ?_
      refine g_invV h (ctT_eat h.k hM ((pT_mA (by decide) (by decide)).trans hTT) hF.1 hz hp2 hf2 hs (by decide) he6 s146) hcX4_eat w_X4_216 rfl rfl hM.obj (Nat.le_of_ble_eq_true rfl) (by refine ⟨?_, ?_⟩ <;> ((try dsimp only); omega)) (by refine ⟨?_, ?_⟩ <;> ((try dsimp only); omega)) dX4_clause_149 (gkr_i (fun c hM => ?_)) gkt_i
      refine g_if_eq (tgt := 159) h dX4_clause_152 (by decide) (fun _bz => absurd _bz (by decide)) (fun b152 => ?_)
      refine g_iconst (v := 3) h dX4_clause_155 (by decide) ?_
      refine g_goto (tgt := 160) h dX4_clause_156 (by decide) ?_
      refine m_iast (k := 10) h hM rfl rfl (by show 40 * a + k < 480; omega) dX4_clause_160 (fun c hM => ?_)
      rw [rA_mA _ n _ (40 * a + k) _ (k := 10) (by decide)] at hM
      refine g_goto (tgt := 245) h dX4_clause_161 (by decide) ?_
      exact G.to (clause_tail h hs hx hz hF.2.2 (by omega) (mA (mA A 11 (40 * a + k) v1) 10 (40 * a + k) 3) p3 f3 q3 o cs c ma ((pT_mA (by decide) (by decide)).trans ((pT_mA (by decide) (by decide)).trans hTT)) hF.1 hp3 hf3 (by omega) hcost hres hM) ⟨rfl, rfl, rfl, trivial⟩
    have hH : pHead T sz 1 (P + 4, 0, q, o, cs) = ((p3, f3, q3, o, cs), 1, v1, 0) := by simp [pHead, hN, he5, he6]
    rw [show hLen 1 = 4 from rfl, hH] at hres
    dsimp only [pZero] at hres
    rw [hA_toll (by decide)] at hres
    refine g_bipush (v := nI 40) h dX4_clause_0 (by decide) ?_
    refine g_aload_n (i := 0) h dX4_clause_2 rfl rfl ?_
    refine m_get (v := .int (nI a)) h hM f_X4_289_4 (by rw [← ha]; rfl) dX4_clause_3 ?_
    first | (with_reducible refine g_imulN h dX4_clause_6 ?_) | refine g_imul h dX4_clause_6 ?_
    refine g_iload_n (i := 1) h dX4_clause_7 rfl rfl ?_
    first | (with_reducible refine g_iaddN h dX4_clause_8 ?_) | refine g_iadd h dX4_clause_8 ?_
    refine g_istore_n (i := 2) h dX4_clause_9 rfl (by decide) ?_
    refine g_aload_n (i := 0) h dX4_clause_10 rfl rfl ?_
    obtain ⟨a11, z11, s11⟩ := hx 20 _ rfl
    refine g_ldcwS h z11 dX4_clause_11 ?_
    refine g_invV h (ctT_word h.k hM hTT hF.1 hz hp (by decide) hs (by decide) hPe hq0 s11) hcX4_isWord w_X4_182 rfl rfl hM.obj (Nat.le_of_ble_eq_true rfl) (by refine ⟨?_, ?_⟩ <;> ((try dsimp only); omega)) (by refine ⟨?_, ?_⟩ <;> ((try dsimp only); omega)) dX4_clause_14 (gkr_i (fun c hM => ?_)) gkt_i
    refine g_if_ne (tgt := 50) h dX4_clause_17 (by decide) (fun _bz => absurd _bz (by decide)) (fun b17 => ?_)
    refine g_aload_n (i := 0) h dX4_clause_20 rfl rfl ?_
    obtain ⟨a21, z21, s21⟩ := hx 21 _ rfl
    refine g_ldcwS h z21 dX4_clause_21 ?_
    refine g_invV h (ctT_word h.k hM hTT hF.1 hz hPz (by decide) hs (by decide) hPB hq1 s21) hcX4_isWord w_X4_182 rfl rfl hM.obj (Nat.le_of_ble_eq_true rfl) (by refine ⟨?_, ?_⟩ <;> ((try dsimp only); omega)) (by refine ⟨?_, ?_⟩ <;> ((try dsimp only); omega)) dX4_clause_24 (gkr_i (fun c hM => ?_)) gkt_i
    refine g_if_ne (tgt := 50) h dX4_clause_27 (by decide) (fun b27 => ?_) (fun _bz => absurd _bz (by decide))
    refine g_iconst (v := 1) h dX4_clause_50 (by decide) ?_
    refine g_goto (tgt := 55) h dX4_clause_51 (by decide) ?_
    refine g_istore_n (i := 3) h dX4_clause_55 rfl (by decide) ?_
    refine g_iload_n (i := 3) h dX4_clause_56 rfl rfl ?_
    refine g_if_eq (tgt := 66) h dX4_clause_57 (by decide) (fun _bz => absurd _bz (by decide)) (fun _bz => ?_)
    refine g_iload_n (i := 1) h dX4_clause_60 rfl rfl ?_
    refine g_bipush (v := nI 40) h dX4_clause_61 (by decide) ?_
    refine g_icmp_ne (tgt := 85) h dX4_clause_63 (by decide) (fun b63 => ?_) (fun _bz => absurd _bz (fun q => hk40 (nI_inj (by omega) (by omega) q)))
    refine g_aload_n (i := 0) h dX4_clause_85 rfl rfl ?_
    obtain ⟨a86, z86, s86⟩ := hx 20 _ rfl
    refine g_ldcwS h z86 dX4_clause_86 ?_
    refine g_invV h (ctT_eat h.k hM hTT hF.1 hz hPz (by decide) hs (by decide) he0 s86) hcX4_eat w_X4_216 rfl rfl hM.obj (Nat.le_of_ble_eq_true rfl) (by refine ⟨?_, ?_⟩ <;> ((try dsimp only); omega)) (by refine ⟨?_, ?_⟩ <;> ((try dsimp only); omega)) dX4_clause_89 (gkr_i (fun c hM => ?_)) gkt_i
    refine g_if_eq (tgt := 105) h dX4_clause_92 (by decide) (fun b92 => ?_) (fun _bz => absurd _bz (by decide))
    refine g_aload_n (i := 0) h dX4_clause_105 rfl rfl ?_
    obtain ⟨a106, z106, s106⟩ := hx 21 _ rfl
    refine g_ldcwS h z106 dX4_clause_106 ?_
    refine g_invV h (ctT_eat h.k hM hTT hF.1 hz hPz (by decide) hs (by decide) he1 s106) hcX4_eat w_X4_216 rfl rfl hM.obj (Nat.le_of_ble_eq_true rfl) (by refine ⟨?_, ?_⟩ <;> ((try dsimp only); omega)) (by refine ⟨?_, ?_⟩ <;> ((try dsimp only); omega)) dX4_clause_109 (gkr_i (fun c hM => ?_)) gkt_i
    refine g_if_eq (tgt := 164) h dX4_clause_112 (by decide) (fun _bz => absurd _bz (by decide)) (fun b112 => ?_)
    refine g_aload_n (i := 0) h dX4_clause_115 rfl rfl ?_
    refine m_get h hM f_X4_27_4 rfl dX4_clause_116 ?_
    refine g_iload_n (i := 2) h dX4_clause_119 rfl rfl ?_
    refine g_aload_n (i := 0) h dX4_clause_120 rfl rfl ?_
    refine g_iconst (v := zB false) h dX4_clause_121 (by decide) ?_
    refine g_invV h (ctT_num h.k hM hTT hF.1 hz hl (by decide) false hN) hcX4_number w_X4_267 rfl rfl hM.obj (Nat.le_of_ble_eq_true rfl) (by refine ⟨?_, ?_⟩ <;> ((try dsimp only); omega)) (by refine ⟨?_, ?_⟩ <;> ((try dsimp only); omega)) dX4_clause_122 (gkr_i (fun c hM => ?_)) gkt_i
    refine m_iast (k := 11) h hM rfl rfl (by show 40 * a + k < 480; omega) dX4_clause_125 (fun c hM => ?_)
    rw [rA_mA _ n _ (40 * a + k) _ (k := 11) (by decide)] at hM
    refine g_aload_n (i := 0) h dX4_clause_126 rfl rfl ?_
    refine m_get h hM f_X4_24_4 rfl dX4_clause_127 ?_
    refine g_iload_n (i := 2) h dX4_clause_130 rfl rfl ?_
    refine g_aload_n (i := 0) h dX4_clause_131 rfl rfl ?_
    obtain ⟨a132, z132, s132⟩ := hx 24 _ rfl
    refine g_ldcwS h z132 dX4_clause_132 ?_
    refine g_invV h (ctT_eat h.k hM ((pT_mA (by decide) (by decide)).trans hTT) hF.1 hz hp1 hf1 hs (by decide) he5 s132) hcX4_eat w_X4_216 rfl rfl hM.obj (Nat.le_of_ble_eq_true rfl) (by refine ⟨?_, ?_⟩ <;> ((try dsimp only); omega)) (by refine ⟨?_, ?_⟩ <;> ((try dsimp only); omega)) dX4_clause_135 (gkr_i (fun c hM => ?_)) gkt_i
    refine g_if_eq (tgt := 145) h dX4_clause_138 (by decide) (fun b138 => ?_) (fun _bz => absurd _bz (by decide))
    refine g_aload_n (i := 0) h dX4_clause_145 rfl rfl ?_
    obtain ⟨a146, z146, s146⟩ := hx 25 _ rfl
    refine g_ldcwS h z146 dX4_clause_146 ?_
    refine g_invV h (ctT_eat h.k hM ((pT_mA (by decide) (by decide)).trans hTT) hF.1 hz hp2 hf2 hs (by decide) he6 s146) hcX4_eat w_X4_216 rfl rfl hM.obj (Nat.le_of_ble_eq_true rfl) (by refine ⟨?_, ?_⟩ <;> ((try dsimp only); omega)) (by refine ⟨?_, ?_⟩ <;> ((try dsimp only); omega)) dX4_clause_149 (gkr_i (fun c hM => ?_)) gkt_i
    refine g_if_eq (tgt := 159) h dX4_clause_152 (by decide) (fun b152 => ?_) (fun _bz => absurd _bz (by decide))
    refine g_iconst (v := 1) h dX4_clause_159 (by decide) ?_
    refine m_iast (k := 10) h hM rfl rfl (by show 40 * a + k < 480; omega) dX4_clause_160 (fun c hM => ?_)
    rw [rA_mA _ n _ (40 * a + k) _ (k := 10) (by decide)] at hM
    refine g_goto (tgt := 245) h dX4_clause_161 (by decide) ?_
    exact G.to (clause_tail h hs hx hz hF.2.2 (by omega) (mA (mA A 11 (40 * a + k) v1) 10 (40 * a + k) 1) p3 f3 q3 o cs c ma ((pT_mA (by decide) (by decide)).trans ((pT_mA (by decide) (by decide)).trans hTT)) hF.1 hp3 hf3 (by omega) hcost hres hM) ⟨rfl, rfl, rfl, trivial⟩
  rw [if_neg (by rw [hq1]; decide)] at hR
  cases hq2 : pIsW T P w_times
  case true =>
    rw [if_pos hq2] at hR
    dsimp only at hR
    by_cases hk40 : k = 40
    · rw [if_pos hk40] at hR
      obtain ⟨hAR, hlen, hres⟩ := noA 3 hR
      refine g_bipush (v := nI 40) h dX4_clause_0 (by decide) ?_
      refine g_aload_n (i := 0) h dX4_clause_2 rfl rfl ?_
      refine m_get (v := .int (nI a)) h hM f_X4_289_4 (by rw [← ha]; rfl) dX4_clause_3 ?_
      first | (with_reducible refine g_imulN h dX4_clause_6 ?_) | refine g_imul h dX4_clause_6 ?_
      refine g_iload_n (i := 1) h dX4_clause_7 rfl rfl ?_
      first | (with_reducible refine g_iaddN h dX4_clause_8 ?_) | refine g_iadd h dX4_clause_8 ?_
      refine g_istore_n (i := 2) h dX4_clause_9 rfl (by decide) ?_
      refine g_aload_n (i := 0) h dX4_clause_10 rfl rfl ?_
      obtain ⟨a11, z11, s11⟩ := hx 20 _ rfl
      refine g_ldcwS h z11 dX4_clause_11 ?_
      refine g_invV h (ctT_word h.k hM hTT hF.1 hz hp (by decide) hs (by decide) hPe hq0 s11) hcX4_isWord w_X4_182 rfl rfl hM.obj (Nat.le_of_ble_eq_true rfl) (by refine ⟨?_, ?_⟩ <;> ((try dsimp only); omega)) (by refine ⟨?_, ?_⟩ <;> ((try dsimp only); omega)) dX4_clause_14 (gkr_i (fun c hM => ?_)) gkt_i
      refine g_if_ne (tgt := 50) h dX4_clause_17 (by decide) (fun _bz => absurd _bz (by decide)) (fun b17 => ?_)
      refine g_aload_n (i := 0) h dX4_clause_20 rfl rfl ?_
      obtain ⟨a21, z21, s21⟩ := hx 21 _ rfl
      refine g_ldcwS h z21 dX4_clause_21 ?_
      refine g_invV h (ctT_word h.k hM hTT hF.1 hz hPz (by decide) hs (by decide) hPB hq1 s21) hcX4_isWord w_X4_182 rfl rfl hM.obj (Nat.le_of_ble_eq_true rfl) (by refine ⟨?_, ?_⟩ <;> ((try dsimp only); omega)) (by refine ⟨?_, ?_⟩ <;> ((try dsimp only); omega)) dX4_clause_24 (gkr_i (fun c hM => ?_)) gkt_i
      refine g_if_ne (tgt := 50) h dX4_clause_27 (by decide) (fun _bz => absurd _bz (by decide)) (fun b27 => ?_)
      refine g_aload_n (i := 0) h dX4_clause_30 rfl rfl ?_
      obtain ⟨a31, z31, s31⟩ := hx 22 _ rfl
      refine g_ldcwS h z31 dX4_clause_31 ?_
      refine g_invV h (ctT_word h.k hM hTT hF.1 hz hPz (by decide) hs (by decide) hPB hq2 s31) hcX4_isWord w_X4_182 rfl rfl hM.obj (Nat.le_of_ble_eq_true rfl) (by refine ⟨?_, ?_⟩ <;> ((try dsimp only); omega)) (by refine ⟨?_, ?_⟩ <;> ((try dsimp only); omega)) dX4_clause_34 (gkr_i (fun c hM => ?_)) gkt_i
      refine g_if_ne (tgt := 50) h dX4_clause_37 (by decide) (fun b37 => ?_) (fun _bz => absurd _bz (by decide))
      refine g_iconst (v := 1) h dX4_clause_50 (by decide) ?_
      refine g_goto (tgt := 55) h dX4_clause_51 (by decide) ?_
      refine g_istore_n (i := 3) h dX4_clause_55 rfl (by decide) ?_
      refine g_iload_n (i := 3) h dX4_clause_56 rfl rfl ?_
      refine g_if_eq (tgt := 66) h dX4_clause_57 (by decide) (fun _bz => absurd _bz (by decide)) (fun _bz => ?_)
      refine g_iload_n (i := 1) h dX4_clause_60 rfl rfl ?_
      refine g_bipush (v := nI 40) h dX4_clause_61 (by decide) ?_
      refine g_icmp_ne (tgt := 85) h dX4_clause_63 (by decide) (fun _bz => absurd _bz (by rw [hk40]; decide)) (fun b63 => ?_)
      refine g_aload_n (i := 0) h dX4_clause_66 rfl rfl ?_
      refine g_iload_n (i := 3) h dX4_clause_67 rfl rfl ?_
      refine g_if_eq (tgt := 75) h dX4_clause_68 (by decide) (fun _bz => absurd _bz (by decide)) (fun _bz => ?_)
      refine g_iconst (v := nI 3) h dX4_clause_71 (by decide) ?_
      refine g_goto (tgt := 76) h dX4_clause_72 (by decide) ?_
      refine g_aload_n (i := 0) h dX4_clause_76 rfl rfl ?_
      refine m_get (v := .int (nI P)) h hM f_X4_155_4 rfl dX4_clause_77 ?_
      refine g_invV h (ct_wrong h.k hM 3 (nI P)) hcX4_wrong w_X4_189 rfl rfl hM.obj (Nat.le_of_ble_eq_true rfl) (by refine ⟨?_, ?_⟩ <;> ((try dsimp only); omega)) (by refine ⟨?_, ?_⟩ <;> ((try dsimp only); omega)) dX4_clause_80 (gkr_i (fun c hM => ?_)) gkt_i
      replace hM := rA_wrong (s := (P, 0, q, o, cs)) (show 0 < 4 by decide) 3 P ▸ hM
      refine g_pop h dX4_clause_83 rfl ?_
      exact g_vret h ⟨rfl, ma, (by rw [← hres, hlen, ← hAR]; exact hM : MW c0 mo ma (pE cl n csr.length) ll (rA AR n (pr, fr, qr, or_, csr)) B c)⟩ (Nat.zero_le _) (Nat.zero_le _) dX4_clause_84
    have he0 : pEat T sz (P, 0, q, o, cs) w_free = (false, (P, 0, q, o, cs)) := by rw [pEat_at hPB, if_neg (by rw [hq0]; decide)]
    have he1 : pEat T sz (P, 0, q, o, cs) w_toll = (false, (P, 0, q, o, cs)) := by rw [pEat_at hPB, if_neg (by rw [hq1]; decide)]
    have he2 : pEat T sz (P, 0, q, o, cs) w_times = (true, (P + 5, 0, q, o, cs)) := by rw [pEat_at hPB, if_pos hq2]; rfl
    have hl : P + 5 ≤ sz := pIsW_lt hTz hPz (W := w_times) (w_wd (by decide)).1 (w_wd (by decide)).2 hq2
    have hres := key 2 hR hk40
    have ghN := pNum_go (T := T) (sz := sz) (P + 5, 0, q, o, cs) false
    have dhN := pNum_cs (T := T) (sz := sz) (P + 5, 0, q, o, cs) false
    rcases hN : pNum T sz (P + 5, 0, q, o, cs) false with ⟨v1, p1, f1, q1, o1, cs1⟩
    rw [hN] at ghN dhN
    have ehN : o = o1 := (congrArg Prod.fst dhN).symm
    have chN : cs = cs1 := (congrArg Prod.snd dhN).symm
    subst ehN
    subst chN
    have hp1 := ghN.2.1 hl
    have hf1 := ghN.2.2.1 (show 0 < 4 by decide)
    have hx1 := ghN.1
    dsimp only at hp1 hf1 hx1
    have ghe5 := pNeed_go (T := T) (sz := sz) (p1, f1, q1, o, cs) 47
    have dhe5 := pNeed_cs (T := T) (sz := sz) (p1, f1, q1, o, cs) 47
    rcases he5 : pNeed T sz (p1, f1, q1, o, cs) 47 with ⟨p2, f2, q2, o2, cs2⟩
    rw [he5] at ghe5 dhe5
    have ehe5 : o = o2 := (congrArg Prod.fst dhe5).symm
    have che5 : cs = cs2 := (congrArg Prod.snd dhe5).symm
    subst ehe5
    subst che5
    have hp2 := ghe5.2.1 hp1
    have hf2 := ghe5.2.2.1 hf1
    have hx2 := ghe5.1
    dsimp only at hp2 hf2 hx2
    have ghN3 := pNum_go (T := T) (sz := sz) (p2, f2, q2, o, cs) true
    have dhN3 := pNum_cs (T := T) (sz := sz) (p2, f2, q2, o, cs) true
    rcases hN3 : pNum T sz (p2, f2, q2, o, cs) true with ⟨v3, p3, f3, q3, o3, cs3⟩
    rw [hN3] at ghN3 dhN3
    have ehN3 : o = o3 := (congrArg Prod.fst dhN3).symm
    have chN3 : cs = cs3 := (congrArg Prod.snd dhN3).symm
    subst ehN3
    subst chN3
    have hp3 := ghN3.2.1 hp2
    have hf3 := ghN3.2.2.1 hf2
    have hx3 := ghN3.1
    dsimp only at hp3 hf3 hx3
    have hH : pHead T sz 2 (P + 5, 0, q, o, cs) = ((p3, f3, q3, o, cs), 4, v1, v3) := by simp [pHead, hN, he5, hN3]
    rw [show hLen 2 = 5 from rfl, hH] at hres
    dsimp only [pZero] at hres
    rw [hA_times] at hres
    refine g_bipush (v := nI 40) h dX4_clause_0 (by decide) ?_
    refine g_aload_n (i := 0) h dX4_clause_2 rfl rfl ?_
    refine m_get (v := .int (nI a)) h hM f_X4_289_4 (by rw [← ha]; rfl) dX4_clause_3 ?_
    first | (with_reducible refine g_imulN h dX4_clause_6 ?_) | refine g_imul h dX4_clause_6 ?_
    refine g_iload_n (i := 1) h dX4_clause_7 rfl rfl ?_
    first | (with_reducible refine g_iaddN h dX4_clause_8 ?_) | refine g_iadd h dX4_clause_8 ?_
    refine g_istore_n (i := 2) h dX4_clause_9 rfl (by decide) ?_
    refine g_aload_n (i := 0) h dX4_clause_10 rfl rfl ?_
    obtain ⟨a11, z11, s11⟩ := hx 20 _ rfl
    refine g_ldcwS h z11 dX4_clause_11 ?_
    refine g_invV h (ctT_word h.k hM hTT hF.1 hz hp (by decide) hs (by decide) hPe hq0 s11) hcX4_isWord w_X4_182 rfl rfl hM.obj (Nat.le_of_ble_eq_true rfl) (by refine ⟨?_, ?_⟩ <;> ((try dsimp only); omega)) (by refine ⟨?_, ?_⟩ <;> ((try dsimp only); omega)) dX4_clause_14 (gkr_i (fun c hM => ?_)) gkt_i
    refine g_if_ne (tgt := 50) h dX4_clause_17 (by decide) (fun _bz => absurd _bz (by decide)) (fun b17 => ?_)
    refine g_aload_n (i := 0) h dX4_clause_20 rfl rfl ?_
    obtain ⟨a21, z21, s21⟩ := hx 21 _ rfl
    refine g_ldcwS h z21 dX4_clause_21 ?_
    refine g_invV h (ctT_word h.k hM hTT hF.1 hz hPz (by decide) hs (by decide) hPB hq1 s21) hcX4_isWord w_X4_182 rfl rfl hM.obj (Nat.le_of_ble_eq_true rfl) (by refine ⟨?_, ?_⟩ <;> ((try dsimp only); omega)) (by refine ⟨?_, ?_⟩ <;> ((try dsimp only); omega)) dX4_clause_24 (gkr_i (fun c hM => ?_)) gkt_i
    refine g_if_ne (tgt := 50) h dX4_clause_27 (by decide) (fun _bz => absurd _bz (by decide)) (fun b27 => ?_)
    refine g_aload_n (i := 0) h dX4_clause_30 rfl rfl ?_
    obtain ⟨a31, z31, s31⟩ := hx 22 _ rfl
    refine g_ldcwS h z31 dX4_clause_31 ?_
    refine g_invV h (ctT_word h.k hM hTT hF.1 hz hPz (by decide) hs (by decide) hPB hq2 s31) hcX4_isWord w_X4_182 rfl rfl hM.obj (Nat.le_of_ble_eq_true rfl) (by refine ⟨?_, ?_⟩ <;> ((try dsimp only); omega)) (by refine ⟨?_, ?_⟩ <;> ((try dsimp only); omega)) dX4_clause_34 (gkr_i (fun c hM => ?_)) gkt_i
    refine g_if_ne (tgt := 50) h dX4_clause_37 (by decide) (fun b37 => ?_) (fun _bz => absurd _bz (by decide))
    refine g_iconst (v := 1) h dX4_clause_50 (by decide) ?_
    refine g_goto (tgt := 55) h dX4_clause_51 (by decide) ?_
    refine g_istore_n (i := 3) h dX4_clause_55 rfl (by decide) ?_
    refine g_iload_n (i := 3) h dX4_clause_56 rfl rfl ?_
    refine g_if_eq (tgt := 66) h dX4_clause_57 (by decide) (fun _bz => absurd _bz (by decide)) (fun _bz => ?_)
    refine g_iload_n (i := 1) h dX4_clause_60 rfl rfl ?_
    refine g_bipush (v := nI 40) h dX4_clause_61 (by decide) ?_
    refine g_icmp_ne (tgt := 85) h dX4_clause_63 (by decide) (fun b63 => ?_) (fun _bz => absurd _bz (fun q => hk40 (nI_inj (by omega) (by omega) q)))
    refine g_aload_n (i := 0) h dX4_clause_85 rfl rfl ?_
    obtain ⟨a86, z86, s86⟩ := hx 20 _ rfl
    refine g_ldcwS h z86 dX4_clause_86 ?_
    refine g_invV h (ctT_eat h.k hM hTT hF.1 hz hPz (by decide) hs (by decide) he0 s86) hcX4_eat w_X4_216 rfl rfl hM.obj (Nat.le_of_ble_eq_true rfl) (by refine ⟨?_, ?_⟩ <;> ((try dsimp only); omega)) (by refine ⟨?_, ?_⟩ <;> ((try dsimp only); omega)) dX4_clause_89 (gkr_i (fun c hM => ?_)) gkt_i
    refine g_if_eq (tgt := 105) h dX4_clause_92 (by decide) (fun b92 => ?_) (fun _bz => absurd _bz (by decide))
    refine g_aload_n (i := 0) h dX4_clause_105 rfl rfl ?_
    obtain ⟨a106, z106, s106⟩ := hx 21 _ rfl
    refine g_ldcwS h z106 dX4_clause_106 ?_
    refine g_invV h (ctT_eat h.k hM hTT hF.1 hz hPz (by decide) hs (by decide) he1 s106) hcX4_eat w_X4_216 rfl rfl hM.obj (Nat.le_of_ble_eq_true rfl) (by refine ⟨?_, ?_⟩ <;> ((try dsimp only); omega)) (by refine ⟨?_, ?_⟩ <;> ((try dsimp only); omega)) dX4_clause_109 (gkr_i (fun c hM => ?_)) gkt_i
    refine g_if_eq (tgt := 164) h dX4_clause_112 (by decide) (fun b112 => ?_) (fun _bz => absurd _bz (by decide))
    refine g_aload_n (i := 0) h dX4_clause_164 rfl rfl ?_
    obtain ⟨a165, z165, s165⟩ := hx 22 _ rfl
    refine g_ldcwS h z165 dX4_clause_165 ?_
    refine g_invV h (ctT_eat h.k hM hTT hF.1 hz hPz (by decide) hs (by decide) he2 s165) hcX4_eat w_X4_216 rfl rfl hM.obj (Nat.le_of_ble_eq_true rfl) (by refine ⟨?_, ?_⟩ <;> ((try dsimp only); omega)) (by refine ⟨?_, ?_⟩ <;> ((try dsimp only); omega)) dX4_clause_168 (gkr_i (fun c hM => ?_)) gkt_i
    refine g_if_eq (tgt := 213) h dX4_clause_171 (by decide) (fun _bz => absurd _bz (by decide)) (fun b171 => ?_)
    refine g_aload_n (i := 0) h dX4_clause_174 rfl rfl ?_
    refine m_get h hM f_X4_24_4 rfl dX4_clause_175 ?_
    refine g_iload_n (i := 2) h dX4_clause_178 rfl rfl ?_
    refine g_iconst (v := 4) h dX4_clause_179 (by decide) ?_
    refine m_iast (k := 10) h hM rfl rfl (by show 40 * a + k < 480; omega) dX4_clause_180 (fun c hM => ?_)
    rw [rA_mA _ n _ (40 * a + k) _ (k := 10) (by decide)] at hM
    refine g_aload_n (i := 0) h dX4_clause_181 rfl rfl ?_
    refine m_get h hM f_X4_27_4 rfl dX4_clause_182 ?_
    refine g_iload_n (i := 2) h dX4_clause_185 rfl rfl ?_
    refine g_aload_n (i := 0) h dX4_clause_186 rfl rfl ?_
    refine g_iconst (v := zB false) h dX4_clause_187 (by decide) ?_
    refine g_invV h (ctT_num h.k hM ((pT_mA (by decide) (by decide)).trans hTT) hF.1 hz hl (by decide) false hN) hcX4_number w_X4_267 rfl rfl hM.obj (Nat.le_of_ble_eq_true rfl) (by refine ⟨?_, ?_⟩ <;> ((try dsimp only); omega)) (by refine ⟨?_, ?_⟩ <;> ((try dsimp only); omega)) dX4_clause_188 (gkr_i (fun c hM => ?_)) gkt_i
    refine m_iast (k := 11) h hM rfl rfl (by show 40 * a + k < 480; omega) dX4_clause_191 (fun c hM => ?_)
    rw [rA_mA _ n _ (40 * a + k) _ (k := 11) (by decide)] at hM
    refine g_aload_n (i := 0) h dX4_clause_192 rfl rfl ?_
    refine g_bipush (v := 47) h dX4_clause_193 (by decide) ?_
    refine g_invV h (ctT_need h.k hM ((pT_mA (by decide) (by decide)).trans ((pT_mA (by decide) (by decide)).trans hTT)) hF.1 hz hp1 hf1 47 he5) hcX4_need w_X4_240 rfl rfl hM.obj (Nat.le_of_ble_eq_true rfl) (by refine ⟨?_, ?_⟩ <;> ((try dsimp only); omega)) (by refine ⟨?_, ?_⟩ <;> ((try dsimp only); omega)) dX4_clause_195 (gkr_i (fun c hM => ?_)) gkt_i
    refine g_pop h dX4_clause_198 rfl ?_
    refine g_aload_n (i := 0) h dX4_clause_199 rfl rfl ?_
    refine m_get h hM f_X4_30_4 rfl dX4_clause_200 ?_
    refine g_iload_n (i := 2) h dX4_clause_203 rfl rfl ?_
    refine g_aload_n (i := 0) h dX4_clause_204 rfl rfl ?_
    refine g_iconst (v := zB true) h dX4_clause_205 (by decide) ?_
    refine g_invV h (ctT_num h.k hM ((pT_mA (by decide) (by decide)).trans ((pT_mA (by decide) (by decide)).trans hTT)) hF.1 hz hp2 hf2 true hN3) hcX4_number w_X4_267 rfl rfl hM.obj (Nat.le_of_ble_eq_true rfl) (by refine ⟨?_, ?_⟩ <;> ((try dsimp only); omega)) (by refine ⟨?_, ?_⟩ <;> ((try dsimp only); omega)) dX4_clause_206 (gkr_i (fun c hM => ?_)) gkt_i
    refine m_iast (k := 12) h hM rfl rfl (by show 40 * a + k < 480; omega) dX4_clause_209 (fun c hM => ?_)
    rw [rA_mA _ n _ (40 * a + k) _ (k := 12) (by decide)] at hM
    refine g_goto (tgt := 245) h dX4_clause_210 (by decide) ?_
    exact G.to (clause_tail h hs hx hz hF.2.2 (by omega) (mA (mA (mA A 10 (40 * a + k) 4) 11 (40 * a + k) v1) 12 (40 * a + k) v3) p3 f3 q3 o cs c ma ((pT_mA (by decide) (by decide)).trans ((pT_mA (by decide) (by decide)).trans ((pT_mA (by decide) (by decide)).trans hTT))) hF.1 hp3 hf3 (by omega) hcost hres hM) ⟨rfl, rfl, rfl, trivial⟩
  rw [if_neg (by rw [hq2]; decide)] at hR
  cases hq3 : pIsW T P w_once
  case true =>
    rw [if_pos hq3] at hR
    dsimp only at hR
    by_cases hk40 : k = 40
    · rw [if_pos hk40] at hR
      obtain ⟨hAR, hlen, hres⟩ := noA 3 hR
      refine g_bipush (v := nI 40) h dX4_clause_0 (by decide) ?_
      refine g_aload_n (i := 0) h dX4_clause_2 rfl rfl ?_
      refine m_get (v := .int (nI a)) h hM f_X4_289_4 (by rw [← ha]; rfl) dX4_clause_3 ?_
      first | (with_reducible refine g_imulN h dX4_clause_6 ?_) | refine g_imul h dX4_clause_6 ?_
      refine g_iload_n (i := 1) h dX4_clause_7 rfl rfl ?_
      first | (with_reducible refine g_iaddN h dX4_clause_8 ?_) | refine g_iadd h dX4_clause_8 ?_
      refine g_istore_n (i := 2) h dX4_clause_9 rfl (by decide) ?_
      refine g_aload_n (i := 0) h dX4_clause_10 rfl rfl ?_
      obtain ⟨a11, z11, s11⟩ := hx 20 _ rfl
      refine g_ldcwS h z11 dX4_clause_11 ?_
      refine g_invV h (ctT_word h.k hM hTT hF.1 hz hp (by decide) hs (by decide) hPe hq0 s11) hcX4_isWord w_X4_182 rfl rfl hM.obj (Nat.le_of_ble_eq_true rfl) (by refine ⟨?_, ?_⟩ <;> ((try dsimp only); omega)) (by refine ⟨?_, ?_⟩ <;> ((try dsimp only); omega)) dX4_clause_14 (gkr_i (fun c hM => ?_)) gkt_i
      refine g_if_ne (tgt := 50) h dX4_clause_17 (by decide) (fun _bz => absurd _bz (by decide)) (fun b17 => ?_)
      refine g_aload_n (i := 0) h dX4_clause_20 rfl rfl ?_
      obtain ⟨a21, z21, s21⟩ := hx 21 _ rfl
      refine g_ldcwS h z21 dX4_clause_21 ?_
      refine g_invV h (ctT_word h.k hM hTT hF.1 hz hPz (by decide) hs (by decide) hPB hq1 s21) hcX4_isWord w_X4_182 rfl rfl hM.obj (Nat.le_of_ble_eq_true rfl) (by refine ⟨?_, ?_⟩ <;> ((try dsimp only); omega)) (by refine ⟨?_, ?_⟩ <;> ((try dsimp only); omega)) dX4_clause_24 (gkr_i (fun c hM => ?_)) gkt_i
      refine g_if_ne (tgt := 50) h dX4_clause_27 (by decide) (fun _bz => absurd _bz (by decide)) (fun b27 => ?_)
      refine g_aload_n (i := 0) h dX4_clause_30 rfl rfl ?_
      obtain ⟨a31, z31, s31⟩ := hx 22 _ rfl
      refine g_ldcwS h z31 dX4_clause_31 ?_
      refine g_invV h (ctT_word h.k hM hTT hF.1 hz hPz (by decide) hs (by decide) hPB hq2 s31) hcX4_isWord w_X4_182 rfl rfl hM.obj (Nat.le_of_ble_eq_true rfl) (by refine ⟨?_, ?_⟩ <;> ((try dsimp only); omega)) (by refine ⟨?_, ?_⟩ <;> ((try dsimp only); omega)) dX4_clause_34 (gkr_i (fun c hM => ?_)) gkt_i
      refine g_if_ne (tgt := 50) h dX4_clause_37 (by decide) (fun _bz => absurd _bz (by decide)) (fun b37 => ?_)
      refine g_aload_n (i := 0) h dX4_clause_40 rfl rfl ?_
      obtain ⟨a41, z41, s41⟩ := hx 23 _ rfl
      refine g_ldcwS h z41 dX4_clause_41 ?_
      refine g_invV h (ctT_word h.k hM hTT hF.1 hz hPz (by decide) hs (by decide) hPB hq3 s41) hcX4_isWord w_X4_182 rfl rfl hM.obj (Nat.le_of_ble_eq_true rfl) (by refine ⟨?_, ?_⟩ <;> ((try dsimp only); omega)) (by refine ⟨?_, ?_⟩ <;> ((try dsimp only); omega)) dX4_clause_44 (gkr_i (fun c hM => ?_)) gkt_i
      refine g_if_eq (tgt := 54) h dX4_clause_47 (by decide) (fun _bz => absurd _bz (by decide)) (fun b47 => ?_)
      refine g_iconst (v := 1) h dX4_clause_50 (by decide) ?_
      refine g_goto (tgt := 55) h dX4_clause_51 (by decide) ?_
      refine g_istore_n (i := 3) h dX4_clause_55 rfl (by decide) ?_
      refine g_iload_n (i := 3) h dX4_clause_56 rfl rfl ?_
      refine g_if_eq (tgt := 66) h dX4_clause_57 (by decide) (fun _bz => absurd _bz (by decide)) (fun _bz => ?_)
      refine g_iload_n (i := 1) h dX4_clause_60 rfl rfl ?_
      refine g_bipush (v := nI 40) h dX4_clause_61 (by decide) ?_
      refine g_icmp_ne (tgt := 85) h dX4_clause_63 (by decide) (fun _bz => absurd _bz (by rw [hk40]; decide)) (fun b63 => ?_)
      refine g_aload_n (i := 0) h dX4_clause_66 rfl rfl ?_
      refine g_iload_n (i := 3) h dX4_clause_67 rfl rfl ?_
      refine g_if_eq (tgt := 75) h dX4_clause_68 (by decide) (fun _bz => absurd _bz (by decide)) (fun _bz => ?_)
      refine g_iconst (v := nI 3) h dX4_clause_71 (by decide) ?_
      refine g_goto (tgt := 76) h dX4_clause_72 (by decide) ?_
      refine g_aload_n (i := 0) h dX4_clause_76 rfl rfl ?_
      refine m_get (v := .int (nI P)) h hM f_X4_155_4 rfl dX4_clause_77 ?_
      refine g_invV h (ct_wrong h.k hM 3 (nI P)) hcX4_wrong w_X4_189 rfl rfl hM.obj (Nat.le_of_ble_eq_true rfl) (by refine ⟨?_, ?_⟩ <;> ((try dsimp only); omega)) (by refine ⟨?_, ?_⟩ <;> ((try dsimp only); omega)) dX4_clause_80 (gkr_i (fun c hM => ?_)) gkt_i
      replace hM := rA_wrong (s := (P, 0, q, o, cs)) (show 0 < 4 by decide) 3 P ▸ hM
      refine g_pop h dX4_clause_83 rfl ?_
      exact g_vret h ⟨rfl, ma, (by rw [← hres, hlen, ← hAR]; exact hM : MW c0 mo ma (pE cl n csr.length) ll (rA AR n (pr, fr, qr, or_, csr)) B c)⟩ (Nat.zero_le _) (Nat.zero_le _) dX4_clause_84
    have he0 : pEat T sz (P, 0, q, o, cs) w_free = (false, (P, 0, q, o, cs)) := by rw [pEat_at hPB, if_neg (by rw [hq0]; decide)]
    have he1 : pEat T sz (P, 0, q, o, cs) w_toll = (false, (P, 0, q, o, cs)) := by rw [pEat_at hPB, if_neg (by rw [hq1]; decide)]
    have he2 : pEat T sz (P, 0, q, o, cs) w_times = (false, (P, 0, q, o, cs)) := by rw [pEat_at hPB, if_neg (by rw [hq2]; decide)]
    have he3 : pEat T sz (P, 0, q, o, cs) w_once = (true, (P + 4, 0, q, o, cs)) := by rw [pEat_at hPB, if_pos hq3]; rfl
    have hl : P + 4 ≤ sz := pIsW_lt hTz hPz (W := w_once) (w_wd (by decide)).1 (w_wd (by decide)).2 hq3
    have hres := key 3 hR hk40
    have ghe5 := (pEat_go hTz (P + 4, 0, q, o, cs) hl (W := w_all) (w_wd (by decide))).1
    have dhe5 := pEat_cs (T := T) (sz := sz) (P + 4, 0, q, o, cs) w_all
    rcases he5 : pEat T sz (P + 4, 0, q, o, cs) w_all with ⟨b2, p2, f2, q2, o2, cs2⟩
    rw [he5] at ghe5 dhe5
    have ehe5 : o = o2 := (congrArg Prod.fst dhe5).symm
    have che5 : cs = cs2 := (congrArg Prod.snd dhe5).symm
    subst ehe5
    subst che5
    have hp2 := ghe5.2.1 hl
    have hf2 := ghe5.2.2.1 (show 0 < 4 by decide)
    have hx2 := ghe5.1
    dsimp only at hp2 hf2 hx2
    cases b2
    case true =>
      have hH : pHead T sz 3 (P + 4, 0, q, o, cs) = ((p2, f2, q2, o, cs), 6, 0, 0) := by simp [pHead, he5]
      rw [show hLen 3 = 4 from rfl, hH] at hres
      dsimp only [pZero] at hres
      rw [hA_oth (by decide)] at hres
      refine g_bipush (v := nI 40) h dX4_clause_0 (by decide) ?_
      refine g_aload_n (i := 0) h dX4_clause_2 rfl rfl ?_
      refine m_get (v := .int (nI a)) h hM f_X4_289_4 (by rw [← ha]; rfl) dX4_clause_3 ?_
      first | (with_reducible refine g_imulN h dX4_clause_6 ?_) | refine g_imul h dX4_clause_6 ?_
      refine g_iload_n (i := 1) h dX4_clause_7 rfl rfl ?_
      first | (with_reducible refine g_iaddN h dX4_clause_8 ?_) | refine g_iadd h dX4_clause_8 ?_
      refine g_istore_n (i := 2) h dX4_clause_9 rfl (by decide) ?_
      refine g_aload_n (i := 0) h dX4_clause_10 rfl rfl ?_
      obtain ⟨a11, z11, s11⟩ := hx 20 _ rfl
      refine g_ldcwS h z11 dX4_clause_11 ?_
      refine g_invV h (ctT_word h.k hM hTT hF.1 hz hp (by decide) hs (by decide) hPe hq0 s11) hcX4_isWord w_X4_182 rfl rfl hM.obj (Nat.le_of_ble_eq_true rfl) (by refine ⟨?_, ?_⟩ <;> ((try dsimp only); omega)) (by refine ⟨?_, ?_⟩ <;> ((try dsimp only); omega)) dX4_clause_14 (gkr_i (fun c hM => ?_)) gkt_i
      refine g_if_ne (tgt := 50) h dX4_clause_17 (by decide) (fun _bz => absurd _bz (by decide)) (fun b17 => ?_)
      refine g_aload_n (i := 0) h dX4_clause_20 rfl rfl ?_
      obtain ⟨a21, z21, s21⟩ := hx 21 _ rfl
      refine g_ldcwS h z21 dX4_clause_21 ?_
      refine g_invV h (ctT_word h.k hM hTT hF.1 hz hPz (by decide) hs (by decide) hPB hq1 s21) hcX4_isWord w_X4_182 rfl rfl hM.obj (Nat.le_of_ble_eq_true rfl) (by refine ⟨?_, ?_⟩ <;> ((try dsimp only); omega)) (by refine ⟨?_, ?_⟩ <;> ((try dsimp only); omega)) dX4_clause_24 (gkr_i (fun c hM => ?_)) gkt_i
      refine g_if_ne (tgt := 50) h dX4_clause_27 (by decide) (fun _bz => absurd _bz (by decide)) (fun b27 => ?_)
      refine g_aload_n (i := 0) h dX4_clause_30 rfl rfl ?_
      obtain ⟨a31, z31, s31⟩ := hx 22 _ rfl
      refine g_ldcwS h z31 dX4_clause_31 ?_
      refine g_invV h (ctT_word h.k hM hTT hF.1 hz hPz (by decide) hs (by decide) hPB hq2 s31) hcX4_isWord w_X4_182 rfl rfl hM.obj (Nat.le_of_ble_eq_true rfl) (by refine ⟨?_, ?_⟩ <;> ((try dsimp only); omega)) (by refine ⟨?_, ?_⟩ <;> ((try dsimp only); omega)) dX4_clause_34 (gkr_i (fun c hM => ?_)) gkt_i
      refine g_if_ne (tgt := 50) h dX4_clause_37 (by decide) (fun _bz => absurd _bz (by decide)) (fun b37 => ?_)
      refine g_aload_n (i := 0) h dX4_clause_40 rfl rfl ?_
      obtain ⟨a41, z41, s41⟩ := hx 23 _ rfl
      refine g_ldcwS h z41 dX4_clause_41 ?_
      refine g_invV h (ctT_word h.k hM hTT hF.1 hz hPz (by decide) hs (by decide) hPB hq3 s41) hcX4_isWord w_X4_182 rfl rfl hM.obj (Nat.le_of_ble_eq_true rfl) (by refine ⟨?_, ?_⟩ <;> ((try dsimp only); omega)) (by refine ⟨?_, ?_⟩ <;> ((try dsimp only); omega)) dX4_clause_44 (gkr_i (fun c hM => ?_)) gkt_i
      refine g_if_eq (tgt := 54) h dX4_clause_47 (by decide) (fun _bz => absurd _bz (by decide)) (fun b47 => ?_)
      refine g_iconst (v := 1) h dX4_clause_50 (by decide) ?_
      refine g_goto (tgt := 55) h dX4_clause_51 (by decide) ?_
      refine g_istore_n (i := 3) h dX4_clause_55 rfl (by decide) ?_
      refine g_iload_n (i := 3) h dX4_clause_56 rfl rfl ?_
      refine g_if_eq (tgt := 66) h dX4_clause_57 (by decide) (fun _bz => absurd _bz (by decide)) (fun _bz => ?_)
      refine g_iload_n (i := 1) h dX4_clause_60 rfl rfl ?_
      refine g_bipush (v := nI 40) h dX4_clause_61 (by decide) ?_
      refine g_icmp_ne (tgt := 85) h dX4_clause_63 (by decide) (fun b63 => ?_) (fun _bz => absurd _bz (fun q => hk40 (nI_inj (by omega) (by omega) q)))
      refine g_aload_n (i := 0) h dX4_clause_85 rfl rfl ?_
      obtain ⟨a86, z86, s86⟩ := hx 20 _ rfl
      refine g_ldcwS h z86 dX4_clause_86 ?_
      refine g_invV h (ctT_eat h.k hM hTT hF.1 hz hPz (by decide) hs (by decide) he0 s86) hcX4_eat w_X4_216 rfl rfl hM.obj (Nat.le_of_ble_eq_true rfl) (by refine ⟨?_, ?_⟩ <;> ((try dsimp only); omega)) (by refine ⟨?_, ?_⟩ <;> ((try dsimp only); omega)) dX4_clause_89 (gkr_i (fun c hM => ?_)) gkt_i
      refine g_if_eq (tgt := 105) h dX4_clause_92 (by decide) (fun b92 => ?_) (fun _bz => absurd _bz (by decide))
      refine g_aload_n (i := 0) h dX4_clause_105 rfl rfl ?_
      obtain ⟨a106, z106, s106⟩ := hx 21 _ rfl
      refine g_ldcwS h z106 dX4_clause_106 ?_
      refine g_invV h (ctT_eat h.k hM hTT hF.1 hz hPz (by decide) hs (by decide) he1 s106) hcX4_eat w_X4_216 rfl rfl hM.obj (Nat.le_of_ble_eq_true rfl) (by refine ⟨?_, ?_⟩ <;> ((try dsimp only); omega)) (by refine ⟨?_, ?_⟩ <;> ((try dsimp only); omega)) dX4_clause_109 (gkr_i (fun c hM => ?_)) gkt_i
      refine g_if_eq (tgt := 164) h dX4_clause_112 (by decide) (fun b112 => ?_) (fun _bz => absurd _bz (by decide))
      refine g_aload_n (i := 0) h dX4_clause_164 rfl rfl ?_
      obtain ⟨a165, z165, s165⟩ := hx 22 _ rfl
      refine g_ldcwS h z165 dX4_clause_165 ?_
      refine g_invV h (ctT_eat h.k hM hTT hF.1 hz hPz (by decide) hs (by decide) he2 s165) hcX4_eat w_X4_216 rfl rfl hM.obj (Nat.le_of_ble_eq_true rfl) (by refine ⟨?_, ?_⟩ <;> ((try dsimp only); omega)) (by refine ⟨?_, ?_⟩ <;> ((try dsimp only); omega)) dX4_clause_168 (gkr_i (fun c hM => ?_)) gkt_i
      refine g_if_eq (tgt := 213) h dX4_clause_171 (by decide) (fun b171 => ?_) (fun _bz => absurd _bz (by decide))
      refine g_aload_n (i := 0) h dX4_clause_213 rfl rfl ?_
      obtain ⟨a214, z214, s214⟩ := hx 23 _ rfl
      refine g_ldcwS h z214 dX4_clause_214 ?_
      refine g_invV h (ctT_eat h.k hM hTT hF.1 hz hPz (by decide) hs (by decide) he3 s214) hcX4_eat w_X4_216 rfl rfl hM.obj (Nat.le_of_ble_eq_true rfl) (by refine ⟨?_, ?_⟩ <;> ((try dsimp only); omega)) (by refine ⟨?_, ?_⟩ <;> ((try dsimp only); omega)) dX4_clause_217 (gkr_i (fun c hM => ?_)) gkt_i
      refine g_if_eq (tgt := 245) h dX4_clause_220 (by decide) (fun _bz => absurd _bz (by decide)) (fun b220 => ?_)
      refine g_aload_n (i := 0) h dX4_clause_223 rfl rfl ?_
      refine m_get h hM f_X4_24_4 rfl dX4_clause_224 ?_
      refine g_iload_n (i := 2) h dX4_clause_227 rfl rfl ?_
      refine g_aload_n (i := 0) h dX4_clause_228 rfl rfl ?_
      obtain ⟨a229, z229, s229⟩ := hx 26 _ rfl
      refine g_ldcwS h z229 dX4_clause_229 ?_
      refine g_invV h (ctT_eat h.k hM hTT hF.1 hz hl (by decide) hs (by decide) he5 s229) hcX4_eat w_X4_216 rfl rfl hM.obj (Nat.le_of_ble_eq_true rfl) (by refine ⟨?_, ?_⟩ <;> ((try dsimp only); omega)) (by refine ⟨?_, ?_⟩ <;> ((try dsimp only); omega)) dX4_clause_232 (gkr_i (fun c hM => ?_)) gkt_i
      refine g_if_eq (tgt := 243) h dX4_clause_235 (by decide) (fun _bz => absurd _bz (by decide)) (fun b235 => ?_)
      refine g_bipush (v := 6) h dX4_clause_238 (by decide) ?_
      refine g_goto (tgt := 244) h dX4_clause_240 (by decide) ?_
      refine m_iast (k := 10) h hM rfl rfl (by show 40 * a + k < 480; omega) dX4_clause_244 (fun c hM => ?_)
      rw [rA_mA _ n _ (40 * a + k) _ (k := 10) (by decide)] at hM
      exact G.to (clause_tail h hs hx hz hF.2.2 (by omega) (mA A 10 (40 * a + k) 6) p2 f2 q2 o cs c ma ((pT_mA (by decide) (by decide)).trans hTT) hF.1 hp2 hf2 (by omega) hcost hres hM) ⟨rfl, rfl, rfl, trivial⟩
    have hH : pHead T sz 3 (P + 4, 0, q, o, cs) = ((p2, f2, q2, o, cs), 5, 0, 0) := by simp [pHead, he5]
    rw [show hLen 3 = 4 from rfl, hH] at hres
    dsimp only [pZero] at hres
    rw [hA_oth (by decide)] at hres
    refine g_bipush (v := nI 40) h dX4_clause_0 (by decide) ?_
    refine g_aload_n (i := 0) h dX4_clause_2 rfl rfl ?_
    refine m_get (v := .int (nI a)) h hM f_X4_289_4 (by rw [← ha]; rfl) dX4_clause_3 ?_
    first | (with_reducible refine g_imulN h dX4_clause_6 ?_) | refine g_imul h dX4_clause_6 ?_
    refine g_iload_n (i := 1) h dX4_clause_7 rfl rfl ?_
    first | (with_reducible refine g_iaddN h dX4_clause_8 ?_) | refine g_iadd h dX4_clause_8 ?_
    refine g_istore_n (i := 2) h dX4_clause_9 rfl (by decide) ?_
    refine g_aload_n (i := 0) h dX4_clause_10 rfl rfl ?_
    obtain ⟨a11, z11, s11⟩ := hx 20 _ rfl
    refine g_ldcwS h z11 dX4_clause_11 ?_
    refine g_invV h (ctT_word h.k hM hTT hF.1 hz hp (by decide) hs (by decide) hPe hq0 s11) hcX4_isWord w_X4_182 rfl rfl hM.obj (Nat.le_of_ble_eq_true rfl) (by refine ⟨?_, ?_⟩ <;> ((try dsimp only); omega)) (by refine ⟨?_, ?_⟩ <;> ((try dsimp only); omega)) dX4_clause_14 (gkr_i (fun c hM => ?_)) gkt_i
    refine g_if_ne (tgt := 50) h dX4_clause_17 (by decide) (fun _bz => absurd _bz (by decide)) (fun b17 => ?_)
    refine g_aload_n (i := 0) h dX4_clause_20 rfl rfl ?_
    obtain ⟨a21, z21, s21⟩ := hx 21 _ rfl
    refine g_ldcwS h z21 dX4_clause_21 ?_
    refine g_invV h (ctT_word h.k hM hTT hF.1 hz hPz (by decide) hs (by decide) hPB hq1 s21) hcX4_isWord w_X4_182 rfl rfl hM.obj (Nat.le_of_ble_eq_true rfl) (by refine ⟨?_, ?_⟩ <;> ((try dsimp only); omega)) (by refine ⟨?_, ?_⟩ <;> ((try dsimp only); omega)) dX4_clause_24 (gkr_i (fun c hM => ?_)) gkt_i
    refine g_if_ne (tgt := 50) h dX4_clause_27 (by decide) (fun _bz => absurd _bz (by decide)) (fun b27 => ?_)
    refine g_aload_n (i := 0) h dX4_clause_30 rfl rfl ?_
    obtain ⟨a31, z31, s31⟩ := hx 22 _ rfl
    refine g_ldcwS h z31 dX4_clause_31 ?_
    refine g_invV h (ctT_word h.k hM hTT hF.1 hz hPz (by decide) hs (by decide) hPB hq2 s31) hcX4_isWord w_X4_182 rfl rfl hM.obj (Nat.le_of_ble_eq_true rfl) (by refine ⟨?_, ?_⟩ <;> ((try dsimp only); omega)) (by refine ⟨?_, ?_⟩ <;> ((try dsimp only); omega)) dX4_clause_34 (gkr_i (fun c hM => ?_)) gkt_i
    refine g_if_ne (tgt := 50) h dX4_clause_37 (by decide) (fun _bz => absurd _bz (by decide)) (fun b37 => ?_)
    refine g_aload_n (i := 0) h dX4_clause_40 rfl rfl ?_
    obtain ⟨a41, z41, s41⟩ := hx 23 _ rfl
    refine g_ldcwS h z41 dX4_clause_41 ?_
    refine g_invV h (ctT_word h.k hM hTT hF.1 hz hPz (by decide) hs (by decide) hPB hq3 s41) hcX4_isWord w_X4_182 rfl rfl hM.obj (Nat.le_of_ble_eq_true rfl) (by refine ⟨?_, ?_⟩ <;> ((try dsimp only); omega)) (by refine ⟨?_, ?_⟩ <;> ((try dsimp only); omega)) dX4_clause_44 (gkr_i (fun c hM => ?_)) gkt_i
    refine g_if_eq (tgt := 54) h dX4_clause_47 (by decide) (fun _bz => absurd _bz (by decide)) (fun b47 => ?_)
    refine g_iconst (v := 1) h dX4_clause_50 (by decide) ?_
    refine g_goto (tgt := 55) h dX4_clause_51 (by decide) ?_
    refine g_istore_n (i := 3) h dX4_clause_55 rfl (by decide) ?_
    refine g_iload_n (i := 3) h dX4_clause_56 rfl rfl ?_
    refine g_if_eq (tgt := 66) h dX4_clause_57 (by decide) (fun _bz => absurd _bz (by decide)) (fun _bz => ?_)
    refine g_iload_n (i := 1) h dX4_clause_60 rfl rfl ?_
    refine g_bipush (v := nI 40) h dX4_clause_61 (by decide) ?_
    refine g_icmp_ne (tgt := 85) h dX4_clause_63 (by decide) (fun b63 => ?_) (fun _bz => absurd _bz (fun q => hk40 (nI_inj (by omega) (by omega) q)))
    refine g_aload_n (i := 0) h dX4_clause_85 rfl rfl ?_
    obtain ⟨a86, z86, s86⟩ := hx 20 _ rfl
    refine g_ldcwS h z86 dX4_clause_86 ?_
    refine g_invV h (ctT_eat h.k hM hTT hF.1 hz hPz (by decide) hs (by decide) he0 s86) hcX4_eat w_X4_216 rfl rfl hM.obj (Nat.le_of_ble_eq_true rfl) (by refine ⟨?_, ?_⟩ <;> ((try dsimp only); omega)) (by refine ⟨?_, ?_⟩ <;> ((try dsimp only); omega)) dX4_clause_89 (gkr_i (fun c hM => ?_)) gkt_i
    refine g_if_eq (tgt := 105) h dX4_clause_92 (by decide) (fun b92 => ?_) (fun _bz => absurd _bz (by decide))
    refine g_aload_n (i := 0) h dX4_clause_105 rfl rfl ?_
    obtain ⟨a106, z106, s106⟩ := hx 21 _ rfl
    refine g_ldcwS h z106 dX4_clause_106 ?_
    refine g_invV h (ctT_eat h.k hM hTT hF.1 hz hPz (by decide) hs (by decide) he1 s106) hcX4_eat w_X4_216 rfl rfl hM.obj (Nat.le_of_ble_eq_true rfl) (by refine ⟨?_, ?_⟩ <;> ((try dsimp only); omega)) (by refine ⟨?_, ?_⟩ <;> ((try dsimp only); omega)) dX4_clause_109 (gkr_i (fun c hM => ?_)) gkt_i
    refine g_if_eq (tgt := 164) h dX4_clause_112 (by decide) (fun b112 => ?_) (fun _bz => absurd _bz (by decide))
    refine g_aload_n (i := 0) h dX4_clause_164 rfl rfl ?_
    obtain ⟨a165, z165, s165⟩ := hx 22 _ rfl
    refine g_ldcwS h z165 dX4_clause_165 ?_
    refine g_invV h (ctT_eat h.k hM hTT hF.1 hz hPz (by decide) hs (by decide) he2 s165) hcX4_eat w_X4_216 rfl rfl hM.obj (Nat.le_of_ble_eq_true rfl) (by refine ⟨?_, ?_⟩ <;> ((try dsimp only); omega)) (by refine ⟨?_, ?_⟩ <;> ((try dsimp only); omega)) dX4_clause_168 (gkr_i (fun c hM => ?_)) gkt_i
    refine g_if_eq (tgt := 213) h dX4_clause_171 (by decide) (fun b171 => ?_) (fun _bz => absurd _bz (by decide))
    refine g_aload_n (i := 0) h dX4_clause_213 rfl rfl ?_
    obtain ⟨a214, z214, s214⟩ := hx 23 _ rfl
    refine g_ldcwS h z214 dX4_clause_214 ?_
    refine g_invV h (ctT_eat h.k hM hTT hF.1 hz hPz (by decide) hs (by decide) he3 s214) hcX4_eat w_X4_216 rfl rfl hM.obj (Nat.le_of_ble_eq_true rfl) (by refine ⟨?_, ?_⟩ <;> ((try dsimp only); omega)) (by refine ⟨?_, ?_⟩ <;> ((try dsimp only); omega)) dX4_clause_217 (gkr_i (fun c hM => ?_)) gkt_i
    refine g_if_eq (tgt := 245) h dX4_clause_220 (by decide) (fun _bz => absurd _bz (by decide)) (fun b220 => ?_)
    refine g_aload_n (i := 0) h dX4_clause_223 rfl rfl ?_
    refine m_get h hM f_X4_24_4 rfl dX4_clause_224 ?_
    refine g_iload_n (i := 2) h dX4_clause_227 rfl rfl ?_
    refine g_aload_n (i := 0) h dX4_clause_228 rfl rfl ?_
    obtain ⟨a229, z229, s229⟩ := hx 26 _ rfl
    refine g_ldcwS h z229 dX4_clause_229 ?_
    refine g_invV h (ctT_eat h.k hM hTT hF.1 hz hl (by decide) hs (by decide) he5 s229) hcX4_eat w_X4_216 rfl rfl hM.obj (Nat.le_of_ble_eq_true rfl) (by refine ⟨?_, ?_⟩ <;> ((try dsimp only); omega)) (by refine ⟨?_, ?_⟩ <;> ((try dsimp only); omega)) dX4_clause_232 (gkr_i (fun c hM => ?_)) gkt_i
    refine g_if_eq (tgt := 243) h dX4_clause_235 (by decide) (fun b235 => ?_) (fun _bz => absurd _bz (by decide))
    refine g_iconst (v := 5) h dX4_clause_243 (by decide) ?_
    refine m_iast (k := 10) h hM rfl rfl (by show 40 * a + k < 480; omega) dX4_clause_244 (fun c hM => ?_)
    rw [rA_mA _ n _ (40 * a + k) _ (k := 10) (by decide)] at hM
    exact G.to (clause_tail h hs hx hz hF.2.2 (by omega) (mA A 10 (40 * a + k) 5) p2 f2 q2 o cs c ma ((pT_mA (by decide) (by decide)).trans hTT) hF.1 hp2 hf2 (by omega) hcost hres hM) ⟨rfl, rfl, rfl, trivial⟩
  rw [if_neg (by rw [hq3]; decide)] at hR
  dsimp only at hR
  obtain ⟨hAR, hlen, hres⟩ := noA 1 hR
  refine g_bipush (v := nI 40) h dX4_clause_0 (by decide) ?_
  refine g_aload_n (i := 0) h dX4_clause_2 rfl rfl ?_
  refine m_get (v := .int (nI a)) h hM f_X4_289_4 (by rw [← ha]; rfl) dX4_clause_3 ?_
  first | (with_reducible refine g_imulN h dX4_clause_6 ?_) | refine g_imul h dX4_clause_6 ?_
  refine g_iload_n (i := 1) h dX4_clause_7 rfl rfl ?_
  first | (with_reducible refine g_iaddN h dX4_clause_8 ?_) | refine g_iadd h dX4_clause_8 ?_
  refine g_istore_n (i := 2) h dX4_clause_9 rfl (by decide) ?_
  refine g_aload_n (i := 0) h dX4_clause_10 rfl rfl ?_
  obtain ⟨a11, z11, s11⟩ := hx 20 _ rfl
  refine g_ldcwS h z11 dX4_clause_11 ?_
  refine g_invV h (ctT_word h.k hM hTT hF.1 hz hp (by decide) hs (by decide) hPe hq0 s11) hcX4_isWord w_X4_182 rfl rfl hM.obj (Nat.le_of_ble_eq_true rfl) (by refine ⟨?_, ?_⟩ <;> ((try dsimp only); omega)) (by refine ⟨?_, ?_⟩ <;> ((try dsimp only); omega)) dX4_clause_14 (gkr_i (fun c hM => ?_)) gkt_i
  refine g_if_ne (tgt := 50) h dX4_clause_17 (by decide) (fun _bz => absurd _bz (by decide)) (fun b17 => ?_)
  refine g_aload_n (i := 0) h dX4_clause_20 rfl rfl ?_
  obtain ⟨a21, z21, s21⟩ := hx 21 _ rfl
  refine g_ldcwS h z21 dX4_clause_21 ?_
  refine g_invV h (ctT_word h.k hM hTT hF.1 hz hPz (by decide) hs (by decide) hPB hq1 s21) hcX4_isWord w_X4_182 rfl rfl hM.obj (Nat.le_of_ble_eq_true rfl) (by refine ⟨?_, ?_⟩ <;> ((try dsimp only); omega)) (by refine ⟨?_, ?_⟩ <;> ((try dsimp only); omega)) dX4_clause_24 (gkr_i (fun c hM => ?_)) gkt_i
  refine g_if_ne (tgt := 50) h dX4_clause_27 (by decide) (fun _bz => absurd _bz (by decide)) (fun b27 => ?_)
  refine g_aload_n (i := 0) h dX4_clause_30 rfl rfl ?_
  obtain ⟨a31, z31, s31⟩ := hx 22 _ rfl
  refine g_ldcwS h z31 dX4_clause_31 ?_
  refine g_invV h (ctT_word h.k hM hTT hF.1 hz hPz (by decide) hs (by decide) hPB hq2 s31) hcX4_isWord w_X4_182 rfl rfl hM.obj (Nat.le_of_ble_eq_true rfl) (by refine ⟨?_, ?_⟩ <;> ((try dsimp only); omega)) (by refine ⟨?_, ?_⟩ <;> ((try dsimp only); omega)) dX4_clause_34 (gkr_i (fun c hM => ?_)) gkt_i
  refine g_if_ne (tgt := 50) h dX4_clause_37 (by decide) (fun _bz => absurd _bz (by decide)) (fun b37 => ?_)
  refine g_aload_n (i := 0) h dX4_clause_40 rfl rfl ?_
  obtain ⟨a41, z41, s41⟩ := hx 23 _ rfl
  refine g_ldcwS h z41 dX4_clause_41 ?_
  refine g_invV h (ctT_word h.k hM hTT hF.1 hz hPz (by decide) hs (by decide) hPB hq3 s41) hcX4_isWord w_X4_182 rfl rfl hM.obj (Nat.le_of_ble_eq_true rfl) (by refine ⟨?_, ?_⟩ <;> ((try dsimp only); omega)) (by refine ⟨?_, ?_⟩ <;> ((try dsimp only); omega)) dX4_clause_44 (gkr_i (fun c hM => ?_)) gkt_i
  refine g_if_eq (tgt := 54) h dX4_clause_47 (by decide) (fun b47 => ?_) (fun _bz => absurd _bz (by decide))
  refine g_iconst (v := 0) h dX4_clause_54 (by decide) ?_
  refine g_istore_n (i := 3) h dX4_clause_55 rfl (by decide) ?_
  refine g_iload_n (i := 3) h dX4_clause_56 rfl rfl ?_
  refine g_if_eq (tgt := 66) h dX4_clause_57 (by decide) (fun _bz => ?_) (fun _bz => absurd _bz (by decide))
  refine g_aload_n (i := 0) h dX4_clause_66 rfl rfl ?_
  refine g_iload_n (i := 3) h dX4_clause_67 rfl rfl ?_
  refine g_if_eq (tgt := 75) h dX4_clause_68 (by decide) (fun _bz => ?_) (fun _bz => absurd _bz (by decide))
  refine g_iconst (v := nI 1) h dX4_clause_75 (by decide) ?_
  refine g_aload_n (i := 0) h dX4_clause_76 rfl rfl ?_
  refine m_get (v := .int (nI P)) h hM f_X4_155_4 rfl dX4_clause_77 ?_
  refine g_invV h (ct_wrong h.k hM 1 (nI P)) hcX4_wrong w_X4_189 rfl rfl hM.obj (Nat.le_of_ble_eq_true rfl) (by refine ⟨?_, ?_⟩ <;> ((try dsimp only); omega)) (by refine ⟨?_, ?_⟩ <;> ((try dsimp only); omega)) dX4_clause_80 (gkr_i (fun c hM => ?_)) gkt_i
  replace hM := rA_wrong (s := (P, 0, q, o, cs)) (show 0 < 4 by decide) 1 P ▸ hM
  refine g_pop h dX4_clause_83 rfl ?_
  exact g_vret h ⟨rfl, ma, (by rw [← hres, hlen, ← hAR]; exact hM : MW c0 mo ma (pE cl n csr.length) ll (rA AR n (pr, fr, qr, or_, csr)) B c)⟩ (Nat.zero_le _) (Nat.zero_le _) dX4_clause_84
