/-! THE COMPONENT: a condition's tree -/
set_option maxRecDepth 100000
/-- the tree at a, at most d deep, means m -/
def TR (c : gLH) : Nat → Nat → ((Nat → Int32) → Bool) → Prop
  | 0, _, _ => False
  | d + 1, a, m => ∃ r : Nat,
    (∃ (q dq cap ra rd : Nat) (es : List Nat) (ms : Nat → (Nat → Int32) → Bool), c a = some (r, .inr (15, [.ref q])) ∧ gAL c q dq cap ra rd es ∧ (∀ j x, es[j]? = some x → TR c d x (ms j)) ∧ m = fun v => cAny (fun j => ms j v) es.length) ∨
    (∃ (q dq cap ra rd : Nat) (es : List Nat) (ms : Nat → (Nat → Int32) → Bool), c a = some (r, .inr (16, [.ref q])) ∧ gAL c q dq cap ra rd es ∧ (∀ j x, es[j]? = some x → TR c d x (ms j)) ∧ m = fun v => cAll (fun j => ms j v) es.length) ∨
    (∃ (q : Nat) (m1 : (Nat → Int32) → Bool), c a = some (r, .inr (17, [.ref q])) ∧ TR c d q m1 ∧ m = fun v => !m1 v) ∨
    (∃ bit : Int32, c a = some (r, .inr (18, [.int bit])) ∧ m = fun v => !decide (v 3 &&& bit = 0)) ∨
    (c a = some (r, .inr (19, [])) ∧ m = fun v => !decide (v 6 = 0)) ∨
    (∃ what sign num : Int32, c a = some (r, .inr (20, [.int what, .int sign, .int num])) ∧ m = fun v => cCmp sign (cVal what v) num) ∨
    (∃ kd : Int32, c a = some (r, .inr (21, [.int kd])) ∧ m = fun v => decide (v 0 = kd))
theorem TR_HC {l : Launch} {g : gGP} (hk : gK l g) {c : gLH} {p : Nat} {v : Nat → Int32} (hP : pW c p v) : ∀ (d a : Nat) (m : (Nat → Int32) → Bool), TR c d a m → HC l g (3 * d) c a p (m v) := by
  intro d
  induction d with
  | zero => intro a m h; exact h.elim
  | succ d ih =>
    rintro a m ⟨r, h | h | h | h | h | h | h⟩
    · obtain ⟨q, dq, cap, ra, rd, es, ms, h1, h2, h3, rfl⟩ := h
      exact ⟨r, _, Or.inl ⟨h1, (ct_anyHolds hk (bs := fun j => ms j v) h2 (fun j x hx => ih x _ (h3 j x hx)) h1).level (by omega) (by omega)⟩⟩
    · obtain ⟨q, dq, cap, ra, rd, es, ms, h1, h2, h3, rfl⟩ := h
      exact ⟨r, _, Or.inr (Or.inl ⟨h1, (ct_allHolds hk (bs := fun j => ms j v) h2 (fun j x hx => ih x _ (h3 j x hx)) h1).level (by omega) (by omega)⟩)⟩
    · obtain ⟨q, m1, h1, h2, rfl⟩ := h
      exact ⟨r, _, Or.inr (Or.inr (Or.inl ⟨h1, (ct_notHolds hk (ih q _ h2) h1).level (by omega) (by omega)⟩))⟩
    · obtain ⟨bit, h1, rfl⟩ := h
      exact ⟨r, _, Or.inr (Or.inr (Or.inr (Or.inl ⟨h1, (ct_bitHolds hk hP h1).level (by omega) (by omega)⟩)))⟩
    · obtain ⟨h1, rfl⟩ := h
      have hb := ct_backHolds (a := a) hk hP
      have e : v 6 = zB (!decide (v 6 = 0)) := by obtain ⟨_, _, _, _, _, _, _, -, -, -, z⟩ := hP; rcases z with z | z <;> rw [z] <;> rfl
      rw [e] at hb
      exact ⟨r, _, Or.inr (Or.inr (Or.inr (Or.inr (Or.inl ⟨h1, hb.level (by omega) (by omega)⟩))))⟩
    · obtain ⟨what, sign, num, h1, rfl⟩ := h
      exact ⟨r, _, Or.inr (Or.inr (Or.inr (Or.inr (Or.inr (Or.inl ⟨h1, (ct_cmpHolds hk hP h1).level (by omega) (by omega)⟩)))))⟩
    · obtain ⟨kd, h1, rfl⟩ := h
      exact ⟨r, _, Or.inr (Or.inr (Or.inr (Or.inr (Or.inr (Or.inr ⟨h1, (ct_kindHolds hk hP h1).level (by omega) (by omega)⟩)))))⟩
