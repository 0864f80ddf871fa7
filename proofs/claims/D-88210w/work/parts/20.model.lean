/-! THE MODEL's WORLD (printed by tools/mk_model.py): A k i: field k, place i (ints); B k i: longs; ma k: the address of the array of field k -/
set_option maxRecDepth 100000
def mIA : Nat → Bool := fun k => match k with
  | 1 => true
  | 8 => true
  | 9 => true
  | 10 => true
  | 11 => true
  | 12 => true
  | 13 => true
  | 14 => true
  | 15 => true
  | 16 => true
  | 19 => true
  | 20 => true
  | 21 => true
  | 22 => true
  | 23 => true
  | 24 => true
  | 26 => true
  | 29 => true
  | 30 => true
  | 34 => true
  | 36 => true
  | 38 => true
  | 39 => true
  | 40 => true
  | 41 => true
  | 46 => true
  | 47 => true
  | 48 => true
  | 49 => true
  | 50 => true
  | 51 => true
  | 52 => true
  | 53 => true
  | 54 => true
  | 55 => true
  | 56 => true
  | 57 => true
  | _ => false
def mLA : Nat → Bool := fun k => match k with
  | 27 => true
  | 44 => true
  | 58 => true
  | 59 => true
  | 60 => true
  | _ => false
def mKd : Nat → Nat := fun k => match k with
  | 1 => 1
  | 34 => 3
  | _ => 0
def mlen (cl ll : Nat) : Nat → Nat := fun k => match k with
  | 1 => 2000
  | 8 => 12
  | 9 => 12
  | 10 => 480
  | 11 => 480
  | 12 => 480
  | 13 => 481
  | 14 => 480
  | 15 => cl
  | 16 => cl
  | 19 => 60
  | 20 => 60
  | 21 => 60
  | 22 => 60
  | 23 => 480
  | 24 => 480
  | 26 => 12
  | 27 => 12
  | 29 => 8
  | 30 => 8
  | 34 => 64
  | 36 => 40
  | 38 => ll
  | 39 => ll
  | 40 => ll
  | 41 => ll
  | 44 => 8
  | 46 => 8
  | 47 => 80
  | 48 => 80
  | 49 => 80
  | 50 => 8
  | 51 => 8
  | 52 => 8
  | 53 => 8
  | 54 => 8
  | 55 => 10
  | 56 => 10
  | 57 => 10
  | 58 => 10
  | 59 => 10
  | 60 => 10
  | _ => 0
def mfl (ma : Nat → Nat) (A : Nat → Nat → Int32) (B : Nat → Nat → Int64) : List Value := [.int (A 0 0), .ref (ma 1), .int (A 2 0), .int (A 3 0), .int (A 4 0), .int (A 5 0), .int (A 6 0), .int (A 7 0), .ref (ma 8), .ref (ma 9), .ref (ma 10), .ref (ma 11), .ref (ma 12), .ref (ma 13), .ref (ma 14), .ref (ma 15), .ref (ma 16), .int (A 17 0), .int (A 18 0), .ref (ma 19), .ref (ma 20), .ref (ma 21), .ref (ma 22), .ref (ma 23), .ref (ma 24), .int (A 25 0), .ref (ma 26), .ref (ma 27), .int (A 28 0), .ref (ma 29), .ref (ma 30), .int (A 31 0), .int (A 32 0), .int (A 33 0), .ref (ma 34), .int (A 35 0), .ref (ma 36), .int (A 37 0), .ref (ma 38), .ref (ma 39), .ref (ma 40), .ref (ma 41), .int (A 42 0), .long (B 43 0), .ref (ma 44), .int (A 45 0), .ref (ma 46), .ref (ma 47), .ref (ma 48), .ref (ma 49), .ref (ma 50), .ref (ma 51), .ref (ma 52), .ref (ma 53), .ref (ma 54), .ref (ma 55), .ref (ma 56), .ref (ma 57), .ref (ma 58), .ref (ma 59), .ref (ma 60), .int (A 61 0)]
def mG : Nat → Bool := fun k => match k with
  | 15 => true
  | 16 => true
  | 38 => true
  | 39 => true
  | 40 => true
  | 41 => true
  | _ => false
/-- the model's cells, its arrays of the lengths ln -/
def MWn (c0 : gLH) (mo : Nat) (ma ln : Nat → Nat) (A : Nat → Nat → Int32) (B : Nat → Nat → Int64) (c : gLH) : Prop :=
  c mo = some (0, .inr (4, mfl ma A B)) ∧ (∀ k, mIA k = true → c (ma k) = some (2 * k + 2, .inl (mKd k, ln k, .inl (A k)))) ∧ (∀ k, mLA k = true → c (ma k) = some (2 * k + 2, .inl (2, ln k, .inr (.inl (B k))))) ∧
    (∀ (a r : Nat) (e : va_E), c0 a = some (r, e) → r % 2 = 1 → c a = some (r, e)) ∧ ∀ k, mG k = true → ∀ j, ln k ≤ j → A k j = 0
def MW (c0 : gLH) (mo : Nat) (ma : Nat → Nat) (cl ll : Nat) (A : Nat → Nat → Int32) (B : Nat → Nat → Int64) (c : gLH) : Prop := MWn c0 mo ma (mlen cl ll) A B c ∧ cl < 1000000 ∧ ll < 1000000
def mIL (k : Nat) : Bool := mIA k || mLA k
theorem mlen_lt {cl ll : Nat} (h1 : cl < 1000000) (h2 : ll < 1000000) (k : Nat) : mlen cl ll k < 2147483648 := by
  unfold mlen
  split <;> omega
/-- an update of one place of field k -/
abbrev mA (A : Nat → Nat → Int32) (k j : Nat) (x : Int32) : Nat → Nat → Int32 := va_up A k (upd (A k) j x)
abbrev mB (B : Nat → Nat → Int64) (k j : Nat) (x : Int64) : Nat → Nat → Int64 := va_up B k (vp_updL (B k) j x)
theorem mA_s (A : Nat → Nat → Int32) (k j : Nat) (x : Int32) : mA A k j x k = upd (A k) j x := va_up_s _ _ _
theorem mA_n (A : Nat → Nat → Int32) {k i : Nat} (j : Nat) (x : Int32) (h : i ≠ k) : mA A k j x i = A i := va_up_n _ _ h
theorem mB_s (B : Nat → Nat → Int64) (k j : Nat) (x : Int64) : mB B k j x k = vp_updL (B k) j x := va_up_s _ _ _
theorem mB_n (B : Nat → Nat → Int64) {k i : Nat} (j : Nat) (x : Int64) (h : i ≠ k) : mB B k j x i = B i := va_up_n _ _ h
theorem mA_rd (A : Nat → Nat → Int32) (k j : Nat) (x : Int32) : mA A k j x k j = x := by rw [mA_s]; simp [upd]
theorem mB_rd (B : Nat → Nat → Int64) (k j : Nat) (x : Int64) : mB B k j x k j = x := by rw [mB_s]; simp [vp_updL]
theorem mA_rn (A : Nat → Nat → Int32) (k : Nat) {i j : Nat} (x : Int32) (h : i ≠ j) : mA A k j x k i = A k i := by rw [mA_s]; simp [upd, h]
theorem mB_rn (B : Nat → Nat → Int64) (k : Nat) {i j : Nat} (x : Int64) (h : i ≠ j) : mB B k j x k i = B k i := by rw [mB_s]; simp [vp_updL, h]
section MODEL
variable {c0 c : gLH} {mo : Nat} {ma ln : Nat → Nat} {cl ll : Nat} {A : Nat → Nat → Int32} {B : Nat → Nat → Int64}
theorem mG_IA {k : Nat} (h : mG k = true) : mIA k = true := by
  unfold mG at h
  split at h <;> first | rfl | cases h
theorem MWn.obj (h : MWn c0 mo ma ln A B c) : c mo = some (0, .inr (4, mfl ma A B)) := h.1
theorem MWn.ia (h : MWn c0 mo ma ln A B c) {k : Nat} (hk : mIA k = true) : c (ma k) = some (2 * k + 2, .inl (mKd k, ln k, .inl (A k))) := h.2.1 k hk
theorem MWn.la (h : MWn c0 mo ma ln A B c) {k : Nat} (hk : mLA k = true) : c (ma k) = some (2 * k + 2, .inl (2, ln k, .inr (.inl (B k)))) := h.2.2.1 k hk
theorem MWn.tag (h : MWn c0 mo ma ln A B c) {k : Nat} (hk : mIL k = true) : ∃ e, c (ma k) = some (2 * k + 2, e) := by
  unfold mIL at hk
  rcases Bool.or_eq_true_iff.mp hk with q | q
  · exact ⟨_, h.ia q⟩
  · exact ⟨_, h.la q⟩
theorem MWn.ne (h : MWn c0 mo ma ln A B c) {k j : Nat} (hk : mIL k = true) (hj : mIL j = true) (hne : k ≠ j) : ma k ≠ ma j := by
  intro e
  obtain ⟨e1, h1⟩ := h.tag hk
  obtain ⟨e2, h2⟩ := h.tag hj
  rw [e, h2] at h1
  have := congrArg (fun o => (o.map Prod.fst)) h1
  simp at this
  omega
theorem MWn.neo (h : MWn c0 mo ma ln A B c) {k : Nat} (hk : mIL k = true) : ma k ≠ mo := by
  intro e
  obtain ⟨e1, h1⟩ := h.tag hk
  rw [e, h.obj] at h1
  have := congrArg (fun o => (o.map Prod.fst)) h1
  simp at this
theorem MWn.frame (h : MWn c0 mo ma ln A B c) {a r : Nat} {e e' : va_E} {x x' : Nat} (hr : r % 2 = 0) (hx : c x = some (r, e')) (h0 : c0 a = some (x', e)) (ho : x' % 2 = 1) : a ≠ x := by
  intro q
  have h1 := h.2.2.2.1 a x' e h0 ho
  rw [q, hx] at h1
  have := congrArg (fun o => (o.map Prod.fst)) h1
  simp at this
  omega
/-- a scalar: what is asked of the field k -/
def mP (k : Nat) : Prop := k < 62 ∧ mIA k = false ∧ ∀ (ma : Nat → Nat) (A : Nat → Nat → Int32) (B : Nat → Nat → Int64) (x : Int32), (mfl ma A B).set k (.int x) = mfl ma (mA A k 0 x) B
theorem MWn.puti (h : MWn c0 mo ma ln A B c) {k : Nat} (hp : mP k) (x : Int32) : MWn c0 mo ma ln (mA A k 0 x) B (va_up c mo (some (0, .inr (4, (mfl ma A B).set k (.int x))))) := by
  obtain ⟨-, h1, h2⟩ := hp
  refine ⟨by rw [va_up_s, h2], fun j hj => ?_, fun j hj => ?_, fun a r e h0 ho => ?_, fun i hi j hj => ?_⟩
  · rw [va_up_n _ _ (h.neo (by unfold mIL; rw [hj]; rfl)), h.ia hj]
    have : j ≠ k := by rintro rfl; rw [h1] at hj; cases hj
    rw [mA_n _ _ _ this]
  · rw [va_up_n _ _ (h.neo (by unfold mIL; rw [hj]; cases mIA j <;> rfl)), h.la hj]
  · rw [va_up_n _ _ (h.frame (r := 0) rfl h.obj h0 ho)]
    exact h.2.2.2.1 a r e h0 ho
  · have : i ≠ k := by rintro rfl; rw [mG_IA hi] at h1; cases h1
    rw [mA_n _ _ _ this]
    exact h.2.2.2.2 i hi j hj
theorem MWn.putl (h : MWn c0 mo ma ln A B c) (x : Int64) : MWn c0 mo ma ln A (mB B 43 0 x) (va_up c mo (some (0, .inr (4, (mfl ma A B).set 43 (.long x))))) := by
  refine ⟨by rw [va_up_s]; rfl, fun j hj => ?_, fun j hj => ?_, fun a r e h0 ho => ?_, h.2.2.2.2⟩
  · rw [va_up_n _ _ (h.neo (by unfold mIL; rw [hj]; rfl)), h.ia hj]
  · rw [va_up_n _ _ (h.neo (by unfold mIL; rw [hj]; cases mIA j <;> rfl)), h.la hj]
    have : j ≠ 43 := by rintro rfl; cases hj
    rw [mB_n _ _ _ this]
  · rw [va_up_n _ _ (h.frame (r := 0) rfl h.obj h0 ho)]
    exact h.2.2.2.1 a r e h0 ho
theorem mfl_ai {k j : Nat} (hk : mIA k = true) (x : Int32) : mfl ma (mA A k j x) B = mfl ma A B := by
  unfold mfl
  have hz : ∀ i, mIA i = false → mA A k j x i = A i := fun i hi => mA_n _ _ _ (by rintro rfl; rw [hk] at hi; cases hi)
  rw [hz 0 rfl, hz 2 rfl, hz 3 rfl, hz 4 rfl, hz 5 rfl, hz 6 rfl, hz 7 rfl, hz 17 rfl, hz 18 rfl, hz 25 rfl, hz 28 rfl, hz 31 rfl, hz 32 rfl, hz 33 rfl, hz 35 rfl, hz 37 rfl, hz 42 rfl, hz 45 rfl, hz 61 rfl]
theorem mfl_al {k j : Nat} (hk : mLA k = true) (x : Int64) : mfl ma A (mB B k j x) = mfl ma A B := by
  unfold mfl
  rw [mB_n _ _ _ (show 43 ≠ k by rintro rfl; cases hk)]
theorem MWn.asti (h : MWn c0 mo ma ln A B c) {k j : Nat} (hk : mIA k = true) (hlt : j < ln k) (x : Int32) : MWn c0 mo ma ln (mA A k j x) B (va_up c (ma k) (some (2 * k + 2, .inl (mKd k, ln k, .inl (upd (A k) j x))))) := by
  have hkl : mIL k = true := by unfold mIL; rw [hk]; rfl
  refine ⟨?_, fun i hi => ?_, fun i hi => ?_, fun a r e h0 ho => ?_, fun i hi j2 hj2 => ?_⟩
  · rw [va_up_n _ _ (h.neo hkl).symm, h.obj, mfl_ai hk]
  · by_cases q : i = k
    · subst q
      rw [va_up_s, mA_s]
    · rw [va_up_n _ _ (h.ne (by unfold mIL; rw [hi]; rfl) hkl q), h.ia hi, mA_n _ _ _ q]
  · have q : i ≠ k := by
      rintro rfl
      have h1 := h.ia hk
      rw [h.la hi] at h1
      simp at h1
    rw [va_up_n _ _ (h.ne (by unfold mIL; rw [hi]; cases mIA i <;> rfl) hkl q), h.la hi]
  · rw [va_up_n _ _ (h.frame (r := 2 * k + 2) (by omega) (h.ia hk) h0 ho)]
    exact h.2.2.2.1 a r e h0 ho
  · by_cases q : i = k
    · subst q
      rw [mA_rn _ _ _ (show j2 ≠ j by omega)]
      exact h.2.2.2.2 i hi j2 hj2
    · rw [mA_n _ _ _ q]
      exact h.2.2.2.2 i hi j2 hj2
theorem MWn.astl (h : MWn c0 mo ma ln A B c) {k j : Nat} (hk : mLA k = true) (x : Int64) : MWn c0 mo ma ln A (mB B k j x) (va_up c (ma k) (some (2 * k + 2, .inl (2, ln k, .inr (.inl (vp_updL (B k) j x)))))) := by
  have hkl : mIL k = true := by unfold mIL; rw [hk]; cases mIA k <;> rfl
  refine ⟨?_, fun i hi => ?_, fun i hi => ?_, fun a r e h0 ho => ?_, h.2.2.2.2⟩
  · rw [va_up_n _ _ (h.neo hkl).symm, h.obj, mfl_al hk]
  · have q : i ≠ k := by
      rintro rfl
      have h1 := h.la hk
      rw [h.ia hi] at h1
      simp at h1
    rw [va_up_n _ _ (h.ne (by unfold mIL; rw [hi]; rfl) hkl q), h.ia hi]
  · by_cases q : i = k
    · subst q
      rw [va_up_s, mB_s]
    · rw [va_up_n _ _ (h.ne (by unfold mIL; rw [hi]; cases mIA i <;> rfl) hkl q), h.la hi, mB_n _ _ _ q]
  · rw [va_up_n _ _ (h.frame (r := 2 * k + 2) (by omega) (h.la hk) h0 ho)]
    exact h.2.2.2.1 a r e h0 ho
theorem MW.obj (h : MW c0 mo ma cl ll A B c) : c mo = some (0, .inr (4, mfl ma A B)) := h.1.1
theorem MW.ia (h : MW c0 mo ma cl ll A B c) {k : Nat} (hk : mIA k = true) : c (ma k) = some (2 * k + 2, .inl (mKd k, mlen cl ll k, .inl (A k))) := h.1.2.1 k hk
theorem MW.la (h : MW c0 mo ma cl ll A B c) {k : Nat} (hk : mLA k = true) : c (ma k) = some (2 * k + 2, .inl (2, mlen cl ll k, .inr (.inl (B k)))) := h.1.2.2.1 k hk
theorem MW.lt (h : MW c0 mo ma cl ll A B c) (k : Nat) : mlen cl ll k < 2147483648 := mlen_lt h.2.1 h.2.2 k
theorem MW.puti (h : MW c0 mo ma cl ll A B c) {k : Nat} (hp : mP k) (x : Int32) : MW c0 mo ma cl ll (mA A k 0 x) B (va_up c mo (some (0, .inr (4, (mfl ma A B).set k (.int x))))) := ⟨h.1.puti hp x, h.2⟩
theorem MW.putl (h : MW c0 mo ma cl ll A B c) (x : Int64) : MW c0 mo ma cl ll A (mB B 43 0 x) (va_up c mo (some (0, .inr (4, (mfl ma A B).set 43 (.long x))))) := ⟨h.1.putl x, h.2⟩
theorem MW.asti (h : MW c0 mo ma cl ll A B c) {k j : Nat} (hk : mIA k = true) (hlt : j < mlen cl ll k) (x : Int32) : MW c0 mo ma cl ll (mA A k j x) B (va_up c (ma k) (some (2 * k + 2, .inl (mKd k, mlen cl ll k, .inl (upd (A k) j x))))) := ⟨h.1.asti hk hlt x, h.2⟩
theorem MW.astl (h : MW c0 mo ma cl ll A B c) {k j : Nat} (hk : mLA k = true) (x : Int64) : MW c0 mo ma cl ll A (mB B k j x) (va_up c (ma k) (some (2 * k + 2, .inl (2, mlen cl ll k, .inr (.inl (vp_updL (B k) j x)))))) := ⟨h.1.astl hk x, h.2⟩
/-- a row is replaced by one of twice its length -/
theorem MWn.grow (h : MWn c0 mo ma ln A B c) {k q : Nat} (hg : mG k = true) (hkd : mKd k = 0) (hset : (mfl ma A B).set k (.ref q) = mfl (va_up ma k q) A B) (hq : c q = none) {n : Nat} (hn : ln k ≤ n) {f : Nat → Int32} (hf : ∀ j, f j = if j < ln k then A k j else 0) :
    MWn c0 mo (va_up ma k q) (va_up ln k n) A B (va_up (va_up c q (some (2 * k + 2, .inl (0, n, .inl f)))) mo (some (0, .inr (4, (mfl ma A B).set k (.ref q))))) := by
  have ef : f = A k := by
    funext j
    rw [hf]
    by_cases z : j < ln k
    · rw [if_pos z]
    · rw [if_neg z, h.2.2.2.2 k hg j (by omega)]
  have hmo : mo ≠ q := fun e => by rw [← e, h.obj] at hq; cases hq
  have hne : ∀ i, mIL i = true → ma i ≠ q := fun i hi e => by
    obtain ⟨e1, h1⟩ := h.tag hi
    rw [e, hq] at h1
    cases h1
  refine ⟨by rw [va_up_s, hset], fun i hi => ?_, fun i hi => ?_, fun a r e h0 ho => ?_, fun i hi j hj => ?_⟩
  · by_cases z : i = k
    · subst z
      rw [va_up_s, va_up_s, va_up_n _ _ hmo.symm, va_up_s, hkd, ef]
    · have hil : mIL i = true := by unfold mIL; rw [hi]; rfl
      rw [va_up_n _ _ z, va_up_n _ _ z, va_up_n _ _ (h.neo hil), va_up_n _ _ (hne i hil)]
      exact h.ia hi
  · have z : i ≠ k := by
      rintro rfl
      have h1 := h.ia (mG_IA hg)
      rw [h.la hi] at h1
      simp at h1
    have hil : mIL i = true := by unfold mIL; rw [hi]; cases mIA i <;> rfl
    rw [va_up_n _ _ z, va_up_n _ _ z, va_up_n _ _ (h.neo hil), va_up_n _ _ (hne i hil)]
    exact h.la hi
  · rw [va_up_n _ _ (h.frame (r := 0) rfl h.obj h0 ho), va_up_n _ _ (fun e1 => by
      have := h.2.2.2.1 a r e h0 ho
      rw [e1, hq] at this
      cases this)]
    exact h.2.2.2.1 a r e h0 ho
  · by_cases z : i = k
    · subst z
      rw [va_up_s] at hj
      exact h.2.2.2.2 i hi j (by omega)
    · rw [va_up_n _ _ z] at hj
      exact h.2.2.2.2 i hi j hj
variable {φ : gFx} {Q : State → Prop} {pc : Nat} {lv : List (Nat × Value)} {st : List Value} {ce sl : Nat} {l : Launch} {g : gGP} {R : Room} {cc : ByteArray} {nL : Nat} {own mn : String} {ret : Option FieldType} {tbl : List (Nat × Nat × Nat × Nat)}
theorem m_get (h : gOK φ l g R cc nL own mn ret tbl) (hM : MW c0 mo ma cl ll A B c) {idx k : Nat} {v : Value} (hF : gF own idx 4 k) (hv : (mfl ma A B)[k]? = some v) (hd : decode cc pc = .ok (.getfield idx, 3)) (kk : G φ Q (pc + 3) lv (v :: st) c ce sl) : G φ Q pc lv (.ref mo :: st) c ce sl := g_get h hF hM.obj hv hd kk
theorem mfl_len : (mfl ma A B).length = 62 := rfl
theorem m_puti (h : gOK φ l g R cc nL own mn ret tbl) (hM : MW c0 mo ma cl ll A B c) {idx k : Nat} {x : Int32} (hp : mP k) (hF : gFP own idx 4 k .int) (hd : decode cc pc = .ok (.putfield idx, 3)) (kk : ∀ c : gLH, MW c0 mo ma cl ll (mA A k 0 x) B c → G φ Q (pc + 3) lv st c ce sl) : G φ Q pc lv (.int x :: .ref mo :: st) c ce sl :=
  g_put h hF hM.obj (by decide) (by rw [mfl_len]; exact hp.1) rfl rfl hd (kk _ (hM.puti hp x))
theorem m_putl (h : gOK φ l g R cc nL own mn ret tbl) (hM : MW c0 mo ma cl ll A B c) {idx : Nat} {x : Int64} (hF : gFP own idx 4 43 .long) (hd : decode cc pc = .ok (.putfield idx, 3)) (kk : ∀ c : gLH, MW c0 mo ma cl ll A (mB B 43 0 x) c → G φ Q (pc + 3) lv st c ce sl) : G φ Q pc lv (.long x :: .ref mo :: st) c ce sl :=
  g_put h hF hM.obj (by decide) (by rw [mfl_len]; decide) rfl rfl hd (kk _ (hM.putl x))
theorem mSB {k : Nat} (hk : mIL k = true) : 2 * k + 2 < gSB := by
  have : k < 62 := by
    unfold mIL mIA mLA at hk
    rcases Nat.lt_or_ge k 62 with q | q
    · exact q
    · exfalso
      revert hk
      split
      all_goals first | omega | skip
      split
      all_goals first | omega | (intro hk; cases hk)
  unfold gSB
  omega
theorem m_iald (h : gOK φ l g R cc nL own mn ret tbl) (hM : MW c0 mo ma cl ll A B c) {k j : Nat} {x : Int32} (hk : mIA k = true) (hkd : mKd k = 0) (hj : j < mlen cl ll k) (hx : A k j = x) (hd : decode cc pc = .ok (.iaload, 1)) (kk : G φ Q (pc + 1) lv (.int x :: st) c ce sl) : G φ Q pc lv (.int (nI j) :: .ref (ma k) :: st) c ce sl := by
  have h1 := hM.ia hk
  rw [hkd] at h1
  subst hx
  exact g_ialdN h h1 hj (hM.lt k) hd kk
theorem m_bald (h : gOK φ l g R cc nL own mn ret tbl) (hM : MW c0 mo ma cl ll A B c) {j : Nat} (hj : j < 2000) (hd : decode cc pc = .ok (.baload, 1)) (kk : G φ Q (pc + 1) lv (.int (A 1 j) :: st) c ce sl) : G φ Q pc lv (.int (nI j) :: .ref (ma 1) :: st) c ce sl :=
  g_baldN h (hM.ia (k := 1) rfl) hj (hM.lt 1) hd kk
theorem m_zald (h : gOK φ l g R cc nL own mn ret tbl) (hM : MW c0 mo ma cl ll A B c) {j : Nat} (hj : j < 64) (hd : decode cc pc = .ok (.baload, 1)) (kk : G φ Q (pc + 1) lv (.int (A 34 j) :: st) c ce sl) : G φ Q pc lv (.int (nI j) :: .ref (ma 34) :: st) c ce sl :=
  g_zaldN h (hM.ia (k := 34) rfl) hj (hM.lt 34) hd kk
theorem m_lald (h : gOK φ l g R cc nL own mn ret tbl) (hM : MW c0 mo ma cl ll A B c) {k j : Nat} {x : Int64} (hk : mLA k = true) (hj : j < mlen cl ll k) (hx : B k j = x) (hd : decode cc pc = .ok (.laload, 1)) (kk : G φ Q (pc + 1) lv (.long x :: st) c ce sl) : G φ Q pc lv (.int (nI j) :: .ref (ma k) :: st) c ce sl := by
  subst hx
  exact g_laldN h (hM.la hk) hj (hM.lt k) hd kk
theorem m_iast (h : gOK φ l g R cc nL own mn ret tbl) (hM : MW c0 mo ma cl ll A B c) {k j : Nat} {x : Int32} (hk : mIA k = true) (hkd : mKd k = 0) (hj : j < mlen cl ll k) (hd : decode cc pc = .ok (.iastore, 1)) (kk : ∀ c : gLH, MW c0 mo ma cl ll (mA A k j x) B c → G φ Q (pc + 1) lv st c ce sl) : G φ Q pc lv (.int x :: .int (nI j) :: .ref (ma k) :: st) c ce sl := by
  have h1 := hM.ia hk
  have h2 := hM.asti (j := j) hk hj x
  rw [hkd] at h1 h2
  exact g_iastN h h1 (mSB (by unfold mIL; rw [hk]; rfl)) hj (hM.lt k) hd (kk _ h2)
theorem m_bast (h : gOK φ l g R cc nL own mn ret tbl) (hM : MW c0 mo ma cl ll A B c) {j : Nat} {x : Int32} (hj : j < 2000) (hd : decode cc pc = .ok (.bastore, 1)) (kk : ∀ c : gLH, MW c0 mo ma cl ll (mA A 1 j (vp_nar .byte x)) B c → G φ Q (pc + 1) lv st c ce sl) : G φ Q pc lv (.int x :: .int (nI j) :: .ref (ma 1) :: st) c ce sl :=
  g_bastN h (hM.ia (k := 1) rfl) (by decide) hj (hM.lt 1) hd (kk _ (hM.asti (k := 1) (j := j) rfl hj _))
theorem m_zast (h : gOK φ l g R cc nL own mn ret tbl) (hM : MW c0 mo ma cl ll A B c) {j : Nat} {x : Int32} (hj : j < 64) (hd : decode cc pc = .ok (.bastore, 1)) (kk : ∀ c : gLH, MW c0 mo ma cl ll (mA A 34 j (vp_nar .boolean x)) B c → G φ Q (pc + 1) lv st c ce sl) : G φ Q pc lv (.int x :: .int (nI j) :: .ref (ma 34) :: st) c ce sl :=
  g_zastN h (hM.ia (k := 34) rfl) (by decide) hj (hM.lt 34) hd (kk _ (hM.asti (k := 34) (j := j) rfl hj _))
theorem m_last (h : gOK φ l g R cc nL own mn ret tbl) (hM : MW c0 mo ma cl ll A B c) {k j : Nat} {x : Int64} (hk : mLA k = true) (hj : j < mlen cl ll k) (hd : decode cc pc = .ok (.lastore, 1)) (kk : ∀ c : gLH, MW c0 mo ma cl ll A (mB B k j x) c → G φ Q (pc + 1) lv st c ce sl) : G φ Q pc lv (.long x :: .int (nI j) :: .ref (ma k) :: st) c ce sl :=
  g_lastN h (hM.la hk) (mSB (by unfold mIL; rw [hk]; cases mIA k <;> rfl)) hj (hM.lt k) hd (kk _ (hM.astl (j := j) hk x))
end MODEL
theorem mp_0 : mP 0 := ⟨by decide, rfl, fun _ _ _ _ => rfl⟩
theorem mp_2 : mP 2 := ⟨by decide, rfl, fun _ _ _ _ => rfl⟩
theorem mp_3 : mP 3 := ⟨by decide, rfl, fun _ _ _ _ => rfl⟩
theorem mp_4 : mP 4 := ⟨by decide, rfl, fun _ _ _ _ => rfl⟩
theorem mp_5 : mP 5 := ⟨by decide, rfl, fun _ _ _ _ => rfl⟩
theorem mp_6 : mP 6 := ⟨by decide, rfl, fun _ _ _ _ => rfl⟩
theorem mp_7 : mP 7 := ⟨by decide, rfl, fun _ _ _ _ => rfl⟩
theorem mp_17 : mP 17 := ⟨by decide, rfl, fun _ _ _ _ => rfl⟩
theorem mp_18 : mP 18 := ⟨by decide, rfl, fun _ _ _ _ => rfl⟩
theorem mp_25 : mP 25 := ⟨by decide, rfl, fun _ _ _ _ => rfl⟩
theorem mp_28 : mP 28 := ⟨by decide, rfl, fun _ _ _ _ => rfl⟩
theorem mp_31 : mP 31 := ⟨by decide, rfl, fun _ _ _ _ => rfl⟩
theorem mp_32 : mP 32 := ⟨by decide, rfl, fun _ _ _ _ => rfl⟩
theorem mp_33 : mP 33 := ⟨by decide, rfl, fun _ _ _ _ => rfl⟩
theorem mp_35 : mP 35 := ⟨by decide, rfl, fun _ _ _ _ => rfl⟩
theorem mp_37 : mP 37 := ⟨by decide, rfl, fun _ _ _ _ => rfl⟩
theorem mp_42 : mP 42 := ⟨by decide, rfl, fun _ _ _ _ => rfl⟩
theorem mp_45 : mP 45 := ⟨by decide, rfl, fun _ _ _ _ => rfl⟩
theorem mp_61 : mP 61 := ⟨by decide, rfl, fun _ _ _ _ => rfl⟩
