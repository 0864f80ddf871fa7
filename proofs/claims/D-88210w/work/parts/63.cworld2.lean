/-! THE COMPONENT's WORLD over the model's A, B (printed by tools/p63.py) -/
set_option maxRecDepth 100000
/-- how many: acts, stretches, gates, travellers, farmers, loans -/
def cn (A : Nat → Nat → Int32) (i : Nat) : Nat := match i with
  | 0 => ix (A 18 0)
  | 1 => ix (A 28 0)
  | 2 => ix (A 31 0)
  | 3 => ix (A 25 0)
  | 4 => ix (A 45 0)
  | _ => ix (A 61 0)
/-- where thing j of list i lies -/
def cE (ad fz : Nat → Nat → Nat) (i j : Nat) : Nat := match i with
  | 0 => fz 0 j
  | 1 => ad 9 j
  | 2 => ad 10 j
  | 3 => fz 1 j
  | 4 => ad 15 j
  | _ => ad 16 j
def cL (ad fz : Nat → Nat → Nat) (A : Nat → Nat → Int32) (i : Nat) : List Nat := (List.range (cn A i)).map (cE ad fz i)
/-- gate i's bids -/
def cBd (fz : Nat → Nat → Nat) (A : Nat → Nat → Int32) (i : Nat) : List Nat := (List.range (ix (A 46 i))).map (fz (16 + i))
def cLe (fz : Nat → Nat → Nat) (A : Nat → Nat → Int32) (i : Nat) : Value := if A 50 i < 0 then .null else .ref (fz 2 i)
def c8 (x : Nat → Int32) (t j : Nat) : Int32 := if j < 8 then x (8 * t + j) else 0
/-- the journal: four longs a line -/
def cLv (A : Nat → Nat → Int32) (n w : Nat) : Int64 := match w with
  | 0 => (A 38 n).toInt64
  | 1 => (A 39 n).toInt64
  | 2 => (A 40 n).toInt64
  | _ => (A 41 n).toInt64
def cLn (A : Nat → Nat → Int32) (j : Nat) : Int64 := if j < 4 * ix (A 42 0) then cLv A (j / 4) (j % 4) else 0
def cXf (ad : Nat → Nat → Nat) (A : Nat → Nat → Int32) (B : Nat → Nat → Int64) : List Value := [.ref (ad 1 0), .int (A 2 0), .int (A 6 0), .int (A 32 0), .int (A 37 0), .int (A 33 0), .long (B 43 0), .ref (ad 2 0), .ref (ad 2 1), .ref (ad 2 2), .ref (ad 2 3), .ref (ad 2 4), .ref (ad 2 5), .ref (ad 4 0), .ref (ad 5 0), .ref (ad 8 0), .int (A 42 0)]
def cSf (A : Nat → Nat → Int32) (B : Nat → Nat → Int64) (i : Nat) : List Value := [.int (A 26 i), .long (B 27 i)]
def cGf (ad fz : Nat → Nat → Nat) (A : Nat → Nat → Int32) (i : Nat) : List Value := [.int (nI i), .int (A 29 i), .ref (ad 11 i), cLe fz A i, .int (A 53 i), .int (A 54 i), .int (A 30 i)]
def cOf (A : Nat → Nat → Int32) (B : Nat → Nat → Int64) (i : Nat) : List Value := [.int (A 56 i), .int (A 57 i), .long (A 55 i).toInt64, .long (B 58 i)]
def cells (ad cp fz : Nat → Nat → Nat) (md : Nat → Nat → Int32) (S : Nat → List Value) (U : Nat → Nat → Int64) (A : Nat → Nat → Int32) (B : Nat → Nat → Int64) : cF := fun k i => match k with
  | 0 => if i = 0 then some (.inr (1, cXf ad A B)) else none
  | 1 => if i = 0 then some (gBytes 2000 (A 1)) else none
  | 2 => if i < 6 then some (.inr (31, [.int (md 2 i), .ref (ad 3 i), .int (nI (cL ad fz A i).length)])) else none
  | 3 => if i < 6 then some (gRefs (cp 3 i) (fun j => (cL ad fz A i)[j]?)) else none
  | 4 => if i = 0 then some (.inr (2, S 0)) else none
  | 5 => if i = 0 then some (.inr (3, .ref (ad 6 0) :: .ref (ad 7 0) :: S 1)) else none
  | 6 => if i = 0 then some (gLongs 40 (U 0)) else none
  | 7 => if i = 0 then some (gLongs 40 (U 1)) else none
  | 8 => if i = 0 then some (gLongs (cp 8 0) (cLn A)) else none
  | 9 => if i < cn A 1 then some (.inr (22, cSf A B i)) else none
  | 10 => if i < cn A 2 then some (.inr (23, cGf ad fz A i)) else none
  | 11 => if i < cn A 2 then some (.inr (31, [.int (md 11 i), .ref (ad 12 i), .int (nI (cBd fz A i).length)])) else none
  | 12 => if i < cn A 2 then some (gRefs (cp 12 i) (fun j => (cBd fz A i)[j]?)) else none
  | 13 => if i < cn A 3 then some (.inl (0, 8, .inl (c8 (A 23) i))) else none
  | 14 => if i < cn A 3 then some (.inl (0, 8, .inl (c8 (A 24) i))) else none
  | 15 => if i < cn A 4 then some (.inr (28, [.long (B 44 i)])) else none
  | 16 => if i < cn A 5 then some (.inr (30, cOf A B i)) else none
  | _ => none
/-- the most of each, its count as an int -/
def cM (i : Nat) : Nat := match i with
  | 0 => 12
  | 1 => 12
  | 2 => 8
  | 3 => 60
  | 4 => 8
  | _ => 10
def cV (A : Nat → Nat → Int32) (i : Nat) : Int32 := match i with
  | 0 => A 18 0
  | 1 => A 28 0
  | 2 => A 31 0
  | 3 => A 25 0
  | 4 => A 45 0
  | _ => A 61 0
/-- counts and rooms -/
def CI (cp : Nat → Nat → Nat) (A : Nat → Nat → Int32) : Prop := (∀ i, i < 6 → cn A i ≤ cp 3 i ∧ 0 < cp 3 i ∧ cp 3 i ≤ 4000 ∧ cn A i ≤ cM i ∧ cV A i = nI (cn A i)) ∧ (∀ i, i < cn A 2 → A 46 i = nI (ix (A 46 i)) ∧ ix (A 46 i) ≤ 10 ∧ ix (A 46 i) ≤ cp 12 i ∧ 0 < cp 12 i ∧ cp 12 i ≤ 4000) ∧ A 42 0 = nI (ix (A 42 0)) ∧ 4 * ix (A 42 0) ≤ cp 8 0 ∧ 64 ≤ cp 8 0 ∧ cp 8 0 < 4000000 ∧ cp 8 0 % 4 = 0
def CW (c0 : gLH) (ad cp fz : Nat → Nat → Nat) (md : Nat → Nat → Int32) (S : Nat → List Value) (U : Nat → Nat → Int64) (A : Nat → Nat → Int32) (B : Nat → Nat → Int64) (c : gLH) : Prop := CWf c0 ad (cells ad cp fz md S U A B) c ∧ CI cp A
theorem up2_of {f f' : cF} {k i : Nat} {e : va_E} (h1 : f' k i = some e) (h2 : ∀ k' i', ¬ (k' = k ∧ i' = i) → f' k' i' = f k' i') : f' = up2 f k i (some e) := by
  funext k' i'
  by_cases q : k' = k ∧ i' = i
  · obtain ⟨rfl, rfl⟩ := q
    rw [up2_s, h1]
  · rw [up2_n _ _ q, h2 k' i' q]
theorem cL_len (ad fz : Nat → Nat → Nat) (A : Nat → Nat → Int32) (i : Nat) : (cL ad fz A i).length = cn A i := by simp [cL]
theorem cBd_len (fz : Nat → Nat → Nat) (A : Nat → Nat → Int32) (i : Nat) : (cBd fz A i).length = ix (A 46 i) := by simp [cBd]
theorem cL_at (ad fz : Nat → Nat → Nat) {A : Nat → Nat → Int32} {i j : Nat} (h : j < cn A i) : (cL ad fz A i)[j]? = some (cE ad fz i j) := by
  unfold cL
  rw [List.getElem?_map, List.getElem?_range h]
  rfl
theorem cBd_at (fz : Nat → Nat → Nat) {A : Nat → Nat → Int32} {i j : Nat} (h : j < ix (A 46 i)) : (cBd fz A i)[j]? = some (fz (16 + i) j) := by
  unfold cBd
  rw [List.getElem?_map, List.getElem?_range h]
  rfl
section CWS
variable {c0 c : gLH} {ad cp fz : Nat → Nat → Nat} {md : Nat → Nat → Int32} {S : Nat → List Value} {U : Nat → Nat → Int64} {A : Nat → Nat → Int32} {B : Nat → Nat → Int64}
theorem cells_9 {i : Nat} (h : i < cn A 1) : cells ad cp fz md S U A B 9 i = some (.inr (22, cSf A B i)) := if_pos h
theorem cells_10 {i : Nat} (h : i < cn A 2) : cells ad cp fz md S U A B 10 i = some (.inr (23, cGf ad fz A i)) := if_pos h
theorem cells_13 {i : Nat} (h : i < cn A 3) : cells ad cp fz md S U A B 13 i = some (.inl (0, 8, .inl (c8 (A 23) i))) := if_pos h
theorem cells_14 {i : Nat} (h : i < cn A 3) : cells ad cp fz md S U A B 14 i = some (.inl (0, 8, .inl (c8 (A 24) i))) := if_pos h
theorem cells_15 {i : Nat} (h : i < cn A 4) : cells ad cp fz md S U A B 15 i = some (.inr (28, [.long (B 44 i)])) := if_pos h
theorem cells_16 {i : Nat} (h : i < cn A 5) : cells ad cp fz md S U A B 16 i = some (.inr (30, cOf A B i)) := if_pos h
theorem CW.list (h : CW c0 ad cp fz md S U A B c) {i : Nat} (hi : i < 6) : gAL c (ad 2 i) (ad 3 i) (cp 3 i) (cR 2 i) (cR 3 i) (cL ad fz A i) :=
  h.1.list (k := 2) (k' := 3) (m := md 2 i) (if_pos hi) (if_pos hi) (by rw [cL_len]; exact (h.2.1 i hi).1) (by have := (h.2.1 i hi).2.2.1; omega)
theorem CW.bids (h : CW c0 ad cp fz md S U A B c) {i : Nat} (hi : i < cn A 2) : gAL c (ad 11 i) (ad 12 i) (cp 12 i) (cR 11 i) (cR 12 i) (cBd fz A i) :=
  h.1.list (k := 11) (k' := 12) (m := md 11 i) (if_pos hi) (if_pos hi) (by rw [cBd_len]; exact (h.2.2.1 i hi).2.2.1) (by have := (h.2.2.1 i hi).2.2.2.2; omega)
theorem CW.x (h : CW c0 ad cp fz md S U A B c) : c (ad 0 0) = some (cR 0 0, .inr (1, cXf ad A B)) := h.1.at rfl
def cUse (k m : Nat) : Bool := match k with
  | 0 => m == 2 || m == 6 || m == 32 || m == 37 || m == 33 || m == 42
  | 1 => m == 1
  | 2 => m == 18 || m == 28 || m == 31 || m == 25 || m == 45 || m == 61
  | 3 => m == 18 || m == 28 || m == 31 || m == 25 || m == 45 || m == 61
  | 8 => m == 42 || m == 38 || m == 39 || m == 40 || m == 41
  | 9 => m == 28 || m == 26
  | 10 => m == 31 || m == 29 || m == 50 || m == 53 || m == 54 || m == 30
  | 11 => m == 31 || m == 46
  | 12 => m == 31 || m == 46
  | 13 => m == 25 || m == 23
  | 14 => m == 25 || m == 24
  | 15 => m == 45
  | 16 => m == 61 || m == 56 || m == 57 || m == 55
  | _ => false
def cUsb (k m : Nat) : Bool := match k with
  | 0 => m == 43
  | 9 => m == 27
  | 15 => m == 44
  | 16 => m == 58
  | _ => false
theorem cn_mA {kk : Nat} (jj : Nat) (v : Int32) (i : Nat) (h : kk ≠ 18 ∧ kk ≠ 28 ∧ kk ≠ 31 ∧ kk ≠ 25 ∧ kk ≠ 45 ∧ kk ≠ 61) : cn (mA A kk jj v) i = cn A i := by
  obtain ⟨h1, h2, h3, h4, h5, h6⟩ := h
  unfold cn
  split <;> rw [mA_n _ _ _ (Ne.symm ‹_›)]
theorem cellsA_0 {kk : Nat} (jj : Nat) (v : Int32) (i : Nat) (n2 : kk ≠ 2) (n6 : kk ≠ 6) (n32 : kk ≠ 32) (n37 : kk ≠ 37) (n33 : kk ≠ 33) (n42 : kk ≠ 42) : cells ad cp fz md S U (mA A kk jj v) B 0 i = cells ad cp fz md S U A B 0 i := by
  show (if _ then _ else _) = (if _ then _ else _)
  simp only [cXf, cn, cSf, cGf, cLe, cBd, cOf, mA_n A (k := kk) (i := 2) jj v (Ne.symm n2), mA_n A (k := kk) (i := 6) jj v (Ne.symm n6), mA_n A (k := kk) (i := 32) jj v (Ne.symm n32), mA_n A (k := kk) (i := 37) jj v (Ne.symm n37), mA_n A (k := kk) (i := 33) jj v (Ne.symm n33), mA_n A (k := kk) (i := 42) jj v (Ne.symm n42)]
theorem cellsA_1 {kk : Nat} (jj : Nat) (v : Int32) (i : Nat) (n1 : kk ≠ 1) : cells ad cp fz md S U (mA A kk jj v) B 1 i = cells ad cp fz md S U A B 1 i := by
  show (if _ then _ else _) = (if _ then _ else _)
  simp only [cXf, cn, cSf, cGf, cLe, cBd, cOf, mA_n A (k := kk) (i := 1) jj v (Ne.symm n1)]
theorem cellsA_2 {kk : Nat} (jj : Nat) (v : Int32) (i : Nat) (n18 : kk ≠ 18) (n28 : kk ≠ 28) (n31 : kk ≠ 31) (n25 : kk ≠ 25) (n45 : kk ≠ 45) (n61 : kk ≠ 61) : cells ad cp fz md S U (mA A kk jj v) B 2 i = cells ad cp fz md S U A B 2 i := by
  have e : cL ad fz (mA A kk jj v) i = cL ad fz A i := by unfold cL; rw [cn_mA jj v i ⟨n18, n28, n31, n25, n45, n61⟩]
  show (if i < 6 then _ else _) = (if i < 6 then _ else _)
  rw [e]
theorem cellsA_3 {kk : Nat} (jj : Nat) (v : Int32) (i : Nat) (n18 : kk ≠ 18) (n28 : kk ≠ 28) (n31 : kk ≠ 31) (n25 : kk ≠ 25) (n45 : kk ≠ 45) (n61 : kk ≠ 61) : cells ad cp fz md S U (mA A kk jj v) B 3 i = cells ad cp fz md S U A B 3 i := by
  have e : cL ad fz (mA A kk jj v) i = cL ad fz A i := by unfold cL; rw [cn_mA jj v i ⟨n18, n28, n31, n25, n45, n61⟩]
  show (if i < 6 then _ else _) = (if i < 6 then _ else _)
  rw [e]
theorem cLn_mA {kk : Nat} (jj : Nat) (v : Int32) (n42 : kk ≠ 42) (n38 : kk ≠ 38) (n39 : kk ≠ 39) (n40 : kk ≠ 40) (n41 : kk ≠ 41) : cLn (mA A kk jj v) = cLn A := by funext j; unfold cLn cLv; simp only [mA_n A (k := kk) (i := 42) jj v (Ne.symm n42), mA_n A (k := kk) (i := 38) jj v (Ne.symm n38), mA_n A (k := kk) (i := 39) jj v (Ne.symm n39), mA_n A (k := kk) (i := 40) jj v (Ne.symm n40), mA_n A (k := kk) (i := 41) jj v (Ne.symm n41)]
theorem cellsA_8 {kk : Nat} (jj : Nat) (v : Int32) (i : Nat) (n42 : kk ≠ 42) (n38 : kk ≠ 38) (n39 : kk ≠ 39) (n40 : kk ≠ 40) (n41 : kk ≠ 41) : cells ad cp fz md S U (mA A kk jj v) B 8 i = cells ad cp fz md S U A B 8 i := by
  show (if i = 0 then _ else _) = (if i = 0 then _ else _); rw [cLn_mA jj v n42 n38 n39 n40 n41]
theorem cellsA_9 {kk : Nat} (jj : Nat) (v : Int32) (i : Nat) (n28 : kk ≠ 28) (n26 : kk ≠ 26) : cells ad cp fz md S U (mA A kk jj v) B 9 i = cells ad cp fz md S U A B 9 i := by
  show (if _ then _ else _) = (if _ then _ else _)
  simp only [cXf, cn, cSf, cGf, cLe, cBd, cOf, mA_n A (k := kk) (i := 28) jj v (Ne.symm n28), mA_n A (k := kk) (i := 26) jj v (Ne.symm n26)]
theorem cellsA_10 {kk : Nat} (jj : Nat) (v : Int32) (i : Nat) (n31 : kk ≠ 31) (n29 : kk ≠ 29) (n50 : kk ≠ 50) (n53 : kk ≠ 53) (n54 : kk ≠ 54) (n30 : kk ≠ 30) : cells ad cp fz md S U (mA A kk jj v) B 10 i = cells ad cp fz md S U A B 10 i := by
  show (if _ then _ else _) = (if _ then _ else _)
  simp only [cXf, cn, cSf, cGf, cLe, cBd, cOf, mA_n A (k := kk) (i := 31) jj v (Ne.symm n31), mA_n A (k := kk) (i := 29) jj v (Ne.symm n29), mA_n A (k := kk) (i := 50) jj v (Ne.symm n50), mA_n A (k := kk) (i := 53) jj v (Ne.symm n53), mA_n A (k := kk) (i := 54) jj v (Ne.symm n54), mA_n A (k := kk) (i := 30) jj v (Ne.symm n30)]
theorem cellsA_11 {kk : Nat} (jj : Nat) (v : Int32) (i : Nat) (n31 : kk ≠ 31) (n46 : kk ≠ 46) : cells ad cp fz md S U (mA A kk jj v) B 11 i = cells ad cp fz md S U A B 11 i := by
  show (if _ then _ else _) = (if _ then _ else _)
  simp only [cXf, cn, cSf, cGf, cLe, cBd, cOf, mA_n A (k := kk) (i := 31) jj v (Ne.symm n31), mA_n A (k := kk) (i := 46) jj v (Ne.symm n46)]
theorem cellsA_12 {kk : Nat} (jj : Nat) (v : Int32) (i : Nat) (n31 : kk ≠ 31) (n46 : kk ≠ 46) : cells ad cp fz md S U (mA A kk jj v) B 12 i = cells ad cp fz md S U A B 12 i := by
  show (if _ then _ else _) = (if _ then _ else _)
  simp only [cXf, cn, cSf, cGf, cLe, cBd, cOf, mA_n A (k := kk) (i := 31) jj v (Ne.symm n31), mA_n A (k := kk) (i := 46) jj v (Ne.symm n46)]
theorem cellsA_13 {kk : Nat} (jj : Nat) (v : Int32) (i : Nat) (n25 : kk ≠ 25) (n23 : kk ≠ 23) : cells ad cp fz md S U (mA A kk jj v) B 13 i = cells ad cp fz md S U A B 13 i := by
  show (if _ then _ else _) = (if _ then _ else _)
  simp only [cXf, cn, cSf, cGf, cLe, cBd, cOf, mA_n A (k := kk) (i := 25) jj v (Ne.symm n25), mA_n A (k := kk) (i := 23) jj v (Ne.symm n23)]
theorem cellsA_14 {kk : Nat} (jj : Nat) (v : Int32) (i : Nat) (n25 : kk ≠ 25) (n24 : kk ≠ 24) : cells ad cp fz md S U (mA A kk jj v) B 14 i = cells ad cp fz md S U A B 14 i := by
  show (if _ then _ else _) = (if _ then _ else _)
  simp only [cXf, cn, cSf, cGf, cLe, cBd, cOf, mA_n A (k := kk) (i := 25) jj v (Ne.symm n25), mA_n A (k := kk) (i := 24) jj v (Ne.symm n24)]
theorem cellsA_15 {kk : Nat} (jj : Nat) (v : Int32) (i : Nat) (n45 : kk ≠ 45) : cells ad cp fz md S U (mA A kk jj v) B 15 i = cells ad cp fz md S U A B 15 i := by
  show (if _ then _ else _) = (if _ then _ else _)
  simp only [cXf, cn, cSf, cGf, cLe, cBd, cOf, mA_n A (k := kk) (i := 45) jj v (Ne.symm n45)]
theorem cellsA_16 {kk : Nat} (jj : Nat) (v : Int32) (i : Nat) (n61 : kk ≠ 61) (n56 : kk ≠ 56) (n57 : kk ≠ 57) (n55 : kk ≠ 55) : cells ad cp fz md S U (mA A kk jj v) B 16 i = cells ad cp fz md S U A B 16 i := by
  show (if _ then _ else _) = (if _ then _ else _)
  simp only [cXf, cn, cSf, cGf, cLe, cBd, cOf, mA_n A (k := kk) (i := 61) jj v (Ne.symm n61), mA_n A (k := kk) (i := 56) jj v (Ne.symm n56), mA_n A (k := kk) (i := 57) jj v (Ne.symm n57), mA_n A (k := kk) (i := 55) jj v (Ne.symm n55)]
theorem cells_big {k : Nat} (i : Nat) (h : 17 ≤ k) : cells ad cp fz md S U A B k i = none := by
  unfold cells
  split <;> first | omega | rfl
theorem k_17 (k : Nat) : k = 0 ∨ k = 1 ∨ k = 2 ∨ k = 3 ∨ k = 4 ∨ k = 5 ∨ k = 6 ∨ k = 7 ∨ k = 8 ∨ k = 9 ∨ k = 10 ∨ k = 11 ∨ k = 12 ∨ k = 13 ∨ k = 14 ∨ k = 15 ∨ k = 16 ∨ 17 ≤ k := by omega
theorem cells_mA {kk k : Nat} (jj : Nat) (v : Int32) (i : Nat) (h : cUse k kk = false) : cells ad cp fz md S U (mA A kk jj v) B k i = cells ad cp fz md S U A B k i := by
  rcases k_17 k with rfl | rfl | rfl | rfl | rfl | rfl | rfl | rfl | rfl | rfl | rfl | rfl | rfl | rfl | rfl | rfl | rfl | hb
  · simp only [cUse, Bool.or_eq_false_iff, beq_eq_false_iff_ne, ne_eq] at h
    obtain ⟨⟨⟨⟨⟨n2, n6⟩, n32⟩, n37⟩, n33⟩, n42⟩ := h
    exact cellsA_0 jj v i n2 n6 n32 n37 n33 n42
  · simp only [cUse, Bool.or_eq_false_iff, beq_eq_false_iff_ne, ne_eq] at h
    exact cellsA_1 jj v i h
  · simp only [cUse, Bool.or_eq_false_iff, beq_eq_false_iff_ne, ne_eq] at h
    obtain ⟨⟨⟨⟨⟨n18, n28⟩, n31⟩, n25⟩, n45⟩, n61⟩ := h
    exact cellsA_2 jj v i n18 n28 n31 n25 n45 n61
  · simp only [cUse, Bool.or_eq_false_iff, beq_eq_false_iff_ne, ne_eq] at h
    obtain ⟨⟨⟨⟨⟨n18, n28⟩, n31⟩, n25⟩, n45⟩, n61⟩ := h
    exact cellsA_3 jj v i n18 n28 n31 n25 n45 n61
  · simp only [cells]
  · simp only [cells]
  · simp only [cells]
  · simp only [cells]
  · simp only [cUse, Bool.or_eq_false_iff, beq_eq_false_iff_ne, ne_eq] at h
    obtain ⟨⟨⟨⟨n42, n38⟩, n39⟩, n40⟩, n41⟩ := h
    exact cellsA_8 jj v i n42 n38 n39 n40 n41
  · simp only [cUse, Bool.or_eq_false_iff, beq_eq_false_iff_ne, ne_eq] at h
    obtain ⟨n28, n26⟩ := h
    exact cellsA_9 jj v i n28 n26
  · simp only [cUse, Bool.or_eq_false_iff, beq_eq_false_iff_ne, ne_eq] at h
    obtain ⟨⟨⟨⟨⟨n31, n29⟩, n50⟩, n53⟩, n54⟩, n30⟩ := h
    exact cellsA_10 jj v i n31 n29 n50 n53 n54 n30
  · simp only [cUse, Bool.or_eq_false_iff, beq_eq_false_iff_ne, ne_eq] at h
    obtain ⟨n31, n46⟩ := h
    exact cellsA_11 jj v i n31 n46
  · simp only [cUse, Bool.or_eq_false_iff, beq_eq_false_iff_ne, ne_eq] at h
    obtain ⟨n31, n46⟩ := h
    exact cellsA_12 jj v i n31 n46
  · simp only [cUse, Bool.or_eq_false_iff, beq_eq_false_iff_ne, ne_eq] at h
    obtain ⟨n25, n23⟩ := h
    exact cellsA_13 jj v i n25 n23
  · simp only [cUse, Bool.or_eq_false_iff, beq_eq_false_iff_ne, ne_eq] at h
    obtain ⟨n25, n24⟩ := h
    exact cellsA_14 jj v i n25 n24
  · simp only [cUse, Bool.or_eq_false_iff, beq_eq_false_iff_ne, ne_eq] at h
    exact cellsA_15 jj v i h
  · simp only [cUse, Bool.or_eq_false_iff, beq_eq_false_iff_ne, ne_eq] at h
    obtain ⟨⟨⟨n61, n56⟩, n57⟩, n55⟩ := h
    exact cellsA_16 jj v i n61 n56 n57 n55
  · rw [cells_big i hb, cells_big i hb]
theorem cells_mB {kk k : Nat} (jj : Nat) (v : Int64) (i : Nat) (h : cUsb k kk = false) : cells ad cp fz md S U A (mB B kk jj v) k i = cells ad cp fz md S U A B k i := by
  rcases k_17 k with rfl | rfl | rfl | rfl | rfl | rfl | rfl | rfl | rfl | rfl | rfl | rfl | rfl | rfl | rfl | rfl | rfl | hb
  · simp only [cUsb, beq_eq_false_iff_ne, ne_eq] at h
    simp only [cells, cXf, cSf, cOf, mB_n B (k := kk) (i := 43) jj v (fun e => h e.symm)]
  · simp only [cells]
  · simp only [cells]
  · simp only [cells]
  · simp only [cells]
  · simp only [cells]
  · simp only [cells]
  · simp only [cells]
  · simp only [cells]
  · simp only [cUsb, beq_eq_false_iff_ne, ne_eq] at h
    simp only [cells, cXf, cSf, cOf, mB_n B (k := kk) (i := 27) jj v (fun e => h e.symm)]
  · simp only [cells]
  · simp only [cells]
  · simp only [cells]
  · simp only [cells]
  · simp only [cells]
  · simp only [cUsb, beq_eq_false_iff_ne, ne_eq] at h
    simp only [cells, cXf, cSf, cOf, mB_n B (k := kk) (i := 44) jj v (fun e => h e.symm)]
  · simp only [cUsb, beq_eq_false_iff_ne, ne_eq] at h
    simp only [cells, cXf, cSf, cOf, mB_n B (k := kk) (i := 58) jj v (fun e => h e.symm)]
  · rw [cells_big i hb, cells_big i hb]
theorem cx_2_u {k' : Nat} (h : k' ≠ 0) : cUse k' 2 = false := by
  unfold cUse
  split <;> first | rfl | exact absurd rfl h
theorem cx_2_eq (v : Int32) : cells ad cp fz md S U (mA A 2 0 v) B = up2 (cells ad cp fz md S U A B) 0 0 (some (.inr (1, (cXf ad A B).set 1 (.int v)))) := by
  refine up2_of rfl (fun k' i' hne => ?_)
  by_cases hk : k' = 0
  · subst hk
    show (if i' = 0 then _ else _) = (if i' = 0 then _ else _); rw [if_neg (fun e => hne ⟨rfl, e⟩), if_neg (fun e => hne ⟨rfl, e⟩)]
  · exact cells_mA _ _ _ (cx_2_u hk)
theorem cx_6_u {k' : Nat} (h : k' ≠ 0) : cUse k' 6 = false := by
  unfold cUse
  split <;> first | rfl | exact absurd rfl h
theorem cx_6_eq (v : Int32) : cells ad cp fz md S U (mA A 6 0 v) B = up2 (cells ad cp fz md S U A B) 0 0 (some (.inr (1, (cXf ad A B).set 2 (.int v)))) := by
  refine up2_of rfl (fun k' i' hne => ?_)
  by_cases hk : k' = 0
  · subst hk
    show (if i' = 0 then _ else _) = (if i' = 0 then _ else _); rw [if_neg (fun e => hne ⟨rfl, e⟩), if_neg (fun e => hne ⟨rfl, e⟩)]
  · exact cells_mA _ _ _ (cx_6_u hk)
theorem cx_32_u {k' : Nat} (h : k' ≠ 0) : cUse k' 32 = false := by
  unfold cUse
  split <;> first | rfl | exact absurd rfl h
theorem cx_32_eq (v : Int32) : cells ad cp fz md S U (mA A 32 0 v) B = up2 (cells ad cp fz md S U A B) 0 0 (some (.inr (1, (cXf ad A B).set 3 (.int v)))) := by
  refine up2_of rfl (fun k' i' hne => ?_)
  by_cases hk : k' = 0
  · subst hk
    show (if i' = 0 then _ else _) = (if i' = 0 then _ else _); rw [if_neg (fun e => hne ⟨rfl, e⟩), if_neg (fun e => hne ⟨rfl, e⟩)]
  · exact cells_mA _ _ _ (cx_32_u hk)
theorem cx_37_u {k' : Nat} (h : k' ≠ 0) : cUse k' 37 = false := by
  unfold cUse
  split <;> first | rfl | exact absurd rfl h
theorem cx_37_eq (v : Int32) : cells ad cp fz md S U (mA A 37 0 v) B = up2 (cells ad cp fz md S U A B) 0 0 (some (.inr (1, (cXf ad A B).set 4 (.int v)))) := by
  refine up2_of rfl (fun k' i' hne => ?_)
  by_cases hk : k' = 0
  · subst hk
    show (if i' = 0 then _ else _) = (if i' = 0 then _ else _); rw [if_neg (fun e => hne ⟨rfl, e⟩), if_neg (fun e => hne ⟨rfl, e⟩)]
  · exact cells_mA _ _ _ (cx_37_u hk)
theorem cx_33_u {k' : Nat} (h : k' ≠ 0) : cUse k' 33 = false := by
  unfold cUse
  split <;> first | rfl | exact absurd rfl h
theorem cx_33_eq (v : Int32) : cells ad cp fz md S U (mA A 33 0 v) B = up2 (cells ad cp fz md S U A B) 0 0 (some (.inr (1, (cXf ad A B).set 5 (.int v)))) := by
  refine up2_of rfl (fun k' i' hne => ?_)
  by_cases hk : k' = 0
  · subst hk
    show (if i' = 0 then _ else _) = (if i' = 0 then _ else _); rw [if_neg (fun e => hne ⟨rfl, e⟩), if_neg (fun e => hne ⟨rfl, e⟩)]
  · exact cells_mA _ _ _ (cx_33_u hk)
theorem cx_43_u {k' : Nat} (h : k' ≠ 0) : cUsb k' 43 = false := by
  unfold cUsb
  split <;> first | rfl | exact absurd rfl h
theorem cx_43_eq (v : Int64) : cells ad cp fz md S U A (mB B 43 0 v) = up2 (cells ad cp fz md S U A B) 0 0 (some (.inr (1, (cXf ad A B).set 6 (.long v)))) := by
  refine up2_of rfl (fun k' i' hne => ?_)
  by_cases hk : k' = 0
  · subst hk
    show (if i' = 0 then _ else _) = (if i' = 0 then _ else _); rw [if_neg (fun e => hne ⟨rfl, e⟩), if_neg (fun e => hne ⟨rfl, e⟩)]
  · exact cells_mB _ _ _ (cx_43_u hk)
theorem cx_27_u {k' : Nat} (h : k' ≠ 9) : cUsb k' 27 = false := by
  unfold cUsb
  split <;> first | rfl | exact absurd rfl h
theorem cx_27_eq {i : Nat} (hi : i < cn A 1) (v : Int64) : cells ad cp fz md S U A (mB B 27 i v) = up2 (cells ad cp fz md S U A B) 9 i (some (.inr (22, (cSf A B i).set 1 (.long v)))) := by
  refine up2_of ((if_pos (show i < cn A 1 from hi)).trans (by simp only [cSf, mB_rd, List.set])) (fun k' i' hne => ?_)
  by_cases hk : k' = 9
  · subst hk
    have hne' : i' ≠ i := fun e => hne ⟨rfl, e⟩
    show (if i' < cn A 1 then _ else _) = (if i' < cn A 1 then _ else _)
    rw [show cn A 1 = cn A 1 from rfl]
    congr 2
    simp only [cSf, mB_rn _ _ _ hne']
  · exact cells_mB _ _ _ (cx_27_u hk)
theorem cx_44_u {k' : Nat} (h : k' ≠ 15) : cUsb k' 44 = false := by
  unfold cUsb
  split <;> first | rfl | exact absurd rfl h
theorem cx_44_eq {i : Nat} (hi : i < cn A 4) (v : Int64) : cells ad cp fz md S U A (mB B 44 i v) = up2 (cells ad cp fz md S U A B) 15 i (some (.inr (28, [.long v]))) := by
  refine up2_of ((if_pos (show i < cn A 4 from hi)).trans (by simp only [mB_rd])) (fun k' i' hne => ?_)
  by_cases hk : k' = 15
  · subst hk
    have hne' : i' ≠ i := fun e => hne ⟨rfl, e⟩
    show (if i' < cn A 4 then _ else _) = (if i' < cn A 4 then _ else _)
    rw [show cn A 4 = cn A 4 from rfl]
    congr 2
    simp only [mB_rn _ _ _ hne']
  · exact cells_mB _ _ _ (cx_44_u hk)
theorem cx_58_u {k' : Nat} (h : k' ≠ 16) : cUsb k' 58 = false := by
  unfold cUsb
  split <;> first | rfl | exact absurd rfl h
theorem cx_58_eq {i : Nat} (hi : i < cn A 5) (v : Int64) : cells ad cp fz md S U A (mB B 58 i v) = up2 (cells ad cp fz md S U A B) 16 i (some (.inr (30, (cOf A B i).set 3 (.long v)))) := by
  refine up2_of ((if_pos (show i < cn A 5 from hi)).trans (by simp only [cOf, mB_rd, List.set])) (fun k' i' hne => ?_)
  by_cases hk : k' = 16
  · subst hk
    have hne' : i' ≠ i := fun e => hne ⟨rfl, e⟩
    show (if i' < cn A 5 then _ else _) = (if i' < cn A 5 then _ else _)
    rw [show cn A 5 = cn A 5 from rfl]
    congr 2
    simp only [cOf, mB_rn _ _ _ hne']
  · exact cells_mB _ _ _ (cx_58_u hk)
theorem cx_55_u {k' : Nat} (h : k' ≠ 16) : cUse k' 55 = false := by
  unfold cUse
  split <;> first | rfl | exact absurd rfl h
theorem cx_55_eq {i : Nat} (hi : i < cn A 5) (v : Int32) : cells ad cp fz md S U (mA A 55 i v) B = up2 (cells ad cp fz md S U A B) 16 i (some (.inr (30, (cOf A B i).set 2 (.long v.toInt64)))) := by
  refine up2_of ((if_pos (show i < cn (mA A 55 i v) 5 from hi)).trans (by simp only [cOf, mA_rd, List.set, mA_n A (k := 55) (i := 56) i v (by decide), mA_n A (k := 55) (i := 57) i v (by decide)])) (fun k' i' hne => ?_)
  by_cases hk : k' = 16
  · subst hk
    have hne' : i' ≠ i := fun e => hne ⟨rfl, e⟩
    show (if i' < cn (mA A 55 i v) 5 then _ else _) = (if i' < cn A 5 then _ else _)
    rw [show cn (mA A 55 i v) 5 = cn A 5 from rfl]
    congr 2
    simp only [cOf, mA_rn _ _ _ hne', mA_n A (k := 55) (i := 56) i v (by decide), mA_n A (k := 55) (i := 57) i v (by decide)]
  · exact cells_mA _ _ _ (cx_55_u hk)
theorem cx_53_u {k' : Nat} (h : k' ≠ 10) : cUse k' 53 = false := by
  unfold cUse
  split <;> first | rfl | exact absurd rfl h
theorem cx_53_eq {i : Nat} (hi : i < cn A 2) (v : Int32) : cells ad cp fz md S U (mA A 53 i v) B = up2 (cells ad cp fz md S U A B) 10 i (some (.inr (23, (cGf ad fz A i).set 4 (.int v)))) := by
  refine up2_of ((if_pos (show i < cn (mA A 53 i v) 2 from hi)).trans (by simp only [cGf, cLe, mA_rd, List.set, mA_n A (k := 53) (i := 29) i v (by decide), mA_n A (k := 53) (i := 50) i v (by decide), mA_n A (k := 53) (i := 54) i v (by decide), mA_n A (k := 53) (i := 30) i v (by decide)])) (fun k' i' hne => ?_)
  by_cases hk : k' = 10
  · subst hk
    have hne' : i' ≠ i := fun e => hne ⟨rfl, e⟩
    show (if i' < cn (mA A 53 i v) 2 then _ else _) = (if i' < cn A 2 then _ else _)
    rw [show cn (mA A 53 i v) 2 = cn A 2 from rfl]
    congr 2
    simp only [cGf, cLe, mA_rn _ _ _ hne', mA_n A (k := 53) (i := 29) i v (by decide), mA_n A (k := 53) (i := 50) i v (by decide), mA_n A (k := 53) (i := 54) i v (by decide), mA_n A (k := 53) (i := 30) i v (by decide)]
  · exact cells_mA _ _ _ (cx_53_u hk)
theorem cx_54_u {k' : Nat} (h : k' ≠ 10) : cUse k' 54 = false := by
  unfold cUse
  split <;> first | rfl | exact absurd rfl h
theorem cx_54_eq {i : Nat} (hi : i < cn A 2) (v : Int32) : cells ad cp fz md S U (mA A 54 i v) B = up2 (cells ad cp fz md S U A B) 10 i (some (.inr (23, (cGf ad fz A i).set 5 (.int v)))) := by
  refine up2_of ((if_pos (show i < cn (mA A 54 i v) 2 from hi)).trans (by simp only [cGf, cLe, mA_rd, List.set, mA_n A (k := 54) (i := 29) i v (by decide), mA_n A (k := 54) (i := 50) i v (by decide), mA_n A (k := 54) (i := 53) i v (by decide), mA_n A (k := 54) (i := 30) i v (by decide)])) (fun k' i' hne => ?_)
  by_cases hk : k' = 10
  · subst hk
    have hne' : i' ≠ i := fun e => hne ⟨rfl, e⟩
    show (if i' < cn (mA A 54 i v) 2 then _ else _) = (if i' < cn A 2 then _ else _)
    rw [show cn (mA A 54 i v) 2 = cn A 2 from rfl]
    congr 2
    simp only [cGf, cLe, mA_rn _ _ _ hne', mA_n A (k := 54) (i := 29) i v (by decide), mA_n A (k := 54) (i := 50) i v (by decide), mA_n A (k := 54) (i := 53) i v (by decide), mA_n A (k := 54) (i := 30) i v (by decide)]
  · exact cells_mA _ _ _ (cx_54_u hk)
theorem cx_30_u {k' : Nat} (h : k' ≠ 10) : cUse k' 30 = false := by
  unfold cUse
  split <;> first | rfl | exact absurd rfl h
theorem cx_30_eq {i : Nat} (hi : i < cn A 2) (v : Int32) : cells ad cp fz md S U (mA A 30 i v) B = up2 (cells ad cp fz md S U A B) 10 i (some (.inr (23, (cGf ad fz A i).set 6 (.int v)))) := by
  refine up2_of ((if_pos (show i < cn (mA A 30 i v) 2 from hi)).trans (by simp only [cGf, cLe, mA_rd, List.set, mA_n A (k := 30) (i := 29) i v (by decide), mA_n A (k := 30) (i := 50) i v (by decide), mA_n A (k := 30) (i := 53) i v (by decide), mA_n A (k := 30) (i := 54) i v (by decide)])) (fun k' i' hne => ?_)
  by_cases hk : k' = 10
  · subst hk
    have hne' : i' ≠ i := fun e => hne ⟨rfl, e⟩
    show (if i' < cn (mA A 30 i v) 2 then _ else _) = (if i' < cn A 2 then _ else _)
    rw [show cn (mA A 30 i v) 2 = cn A 2 from rfl]
    congr 2
    simp only [cGf, cLe, mA_rn _ _ _ hne', mA_n A (k := 30) (i := 29) i v (by decide), mA_n A (k := 30) (i := 50) i v (by decide), mA_n A (k := 30) (i := 53) i v (by decide), mA_n A (k := 30) (i := 54) i v (by decide)]
  · exact cells_mA _ _ _ (cx_30_u hk)
end CWS
