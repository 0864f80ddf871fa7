/-! MY KIT, 3: rows of G for fields, arrays, new, returns (printed by tools/mk_heap.py) -/
set_option maxRecDepth 100000
theorem gRel.set {g : gGP} {c : gLH} {H H1 : Heap} {a r : Nat} {e e' : va_E} (hr : gRel g c H) (hc : c a = some (r, e)) (he : va_at g.2.1 gcl (a, gE g e') H1) (hs : r < gSB) (hz : H1.size = H.size) (oq : ∀ q : Nat, q ≠ a → H1[q]? = H[q]?) : gRel g (va_up c a (some (r, e'))) H1 := by
  obtain ⟨h1, h2, h3, h4⟩ := hr
  have hb := (h1 a r e hc).2 hs
  refine ⟨fun b r2 e2 hb2 => ?_, by rw [hz]; exact h2, fun q hq => ?_, fun b e2 hb2 => ?_⟩
  · unfold va_up at hb2
    by_cases z : b = a
    · rw [if_pos z] at hb2
      cases hb2
      subst z
      exact ⟨he, fun _ => hb⟩
    · rw [if_neg z] at hb2
      exact ⟨(h1 b r2 e2 hb2).1.kept (oq b z), (h1 b r2 e2 hb2).2⟩
  · rw [oq q (by omega)]
    exact h3 q hq
  · unfold va_up at hb2
    by_cases z : b = a
    · rw [if_pos z] at hb2
      have hb2 := congrArg Prod.fst (Option.some.inj hb2)
      have hb2 : r = gFr := hb2
      rw [hb2] at hs
      exact absurd hs (by decide)
    · rw [if_neg z] at hb2
      obtain ⟨x, y⟩ := h4 b e2 hb2
      rw [oq b z]
      exact ⟨x, y⟩
/-- a cell just made is written, and gets another role -/
theorem gRel.setFr {g : gGP} {c : gLH} {H H1 : Heap} {a r : Nat} {e e' : va_E} (hr : gRel g c H) (hc : c a = some (gFr, e)) (he : va_at g.2.1 gcl (a, gE g e') H1) (hs : r < gSB) (hz : H1.size = H.size) (oq : ∀ q : Nat, q ≠ a → H1[q]? = H[q]?) : gRel g (va_up c a (some (r, e'))) H1 := by
  obtain ⟨h1, h2, h3, h4⟩ := hr
  have hb := (h4 a e hc).1
  refine ⟨fun b r2 e2 hb2 => ?_, by rw [hz]; exact h2, fun q hq => ?_, fun b e2 hb2 => ?_⟩
  · unfold va_up at hb2
    by_cases z : b = a
    · rw [if_pos z] at hb2
      cases hb2
      subst z
      exact ⟨he, fun _ => hb⟩
    · rw [if_neg z] at hb2
      exact ⟨(h1 b r2 e2 hb2).1.kept (oq b z), (h1 b r2 e2 hb2).2⟩
  · rw [oq q (by omega)]
    exact h3 q hq
  · unfold va_up at hb2
    by_cases z : b = a
    · rw [if_pos z] at hb2
      have hb2 := congrArg Prod.fst (Option.some.inj hb2)
      have hb2 : r = gFr := hb2
      rw [hb2] at hs
      exact absurd hs (by decide)
    · rw [if_neg z] at hb2
      obtain ⟨x, y⟩ := h4 b e2 hb2
      rw [oq b z]
      exact ⟨x, y⟩
theorem gRel.push {g : gGP} {c : gLH} {H H1 : Heap} {a r : Nat} {e : va_E} (hr : gRel g c H) (he : va_at g.2.1 gcl (a, gE g e) H1) (hm : ∃ cell : Cell, H1[a]? = some cell ∧ cell.monitor.owner = none ∧ cell.monitor.count = 0) (ha : a = H.size) (hz : H1.size = a + 1) (oq : ∀ q : Nat, q < a → H1[q]? = H[q]?) : c a = none ∧ gRel g (va_up c a (some (r, e))) H1 := by
  obtain ⟨h1, h2, h3, h4⟩ := hr
  subst ha
  refine ⟨?_, fun b r2 e2 hb2 => ?_, by omega, fun q hq => ?_, fun b e2 hb2 => ?_⟩
  · cases hq : c H.size with
    | none => rfl
    | some x =>
      have := (h1 _ x.1 x.2 hq).1.lt
      simp at this
  · unfold va_up at hb2
    by_cases z : b = H.size
    · rw [if_pos z] at hb2
      cases hb2
      subst z
      exact ⟨he, fun _ => h2⟩
    · rw [if_neg z] at hb2
      exact ⟨(h1 b r2 e2 hb2).1.kept (oq b ((h1 b r2 e2 hb2).1.lt)), (h1 b r2 e2 hb2).2⟩
  · rw [oq q (by omega)]
    exact h3 q hq
  · unfold va_up at hb2
    by_cases z : b = H.size
    · subst z
      exact ⟨h2, hm⟩
    · rw [if_neg z] at hb2
      obtain ⟨x, y⟩ := h4 b e2 hb2
      rw [oq b ((h1 b gFr e2 hb2).1.lt)]
      exact ⟨x, y⟩
theorem va_up_s {α : Type} (f : Nat → α) (k : Nat) (v : α) : va_up f k v k = v := by simp [va_up]
theorem va_up_n {α : Type} (f : Nat → α) {k j : Nat} (v : α) (h : j ≠ k) : va_up f k v j = f j := by simp [va_up, h]
theorem gloc {locs : List Loc} {b : Nat} {a i : Nat} (hl : ∀ q ∈ locs, b ≤ q.base) (ha : b ≤ a) : ∀ q ∈ locs ++ [⟨a, i⟩], b ≤ q.base := by
  intro q hq
  rcases List.mem_append.mp hq with h | h
  · exact hl q h
  · rw [List.mem_singleton] at h
    subst h
    exact ha
/-- a field's link, its own or a nest mate's -/
def gSame (ref o n d : String) : Prop := ref = o ∨ Cond.sameField ref o n d ∈ lw_all
def gL (own : String) (idx : Nat) (ref n d : String) : Prop := Cond.fieldLink own idx ref n d ∈ lw_all ∨ ∃ host, Cond.fieldLinkNest own idx ref n d host ∈ lw_tbl
def gF (own : String) (idx ci k : Nat) : Prop := ∃ (C : String) (T : u_T) (N : Nat) (ref : String), gcl[ci]? = some (C, T, N) ∧ k < N ∧ (∀ w ∈ u_ws C T N, w ∈ lw_all) ∧ gL own idx ref (T k).2.1 (T k).2.2.1 ∧ gSame ref (T k).1 (T k).2.1 (T k).2.2.1
def gFP (own : String) (idx ci k : Nat) (ty : FieldType) : Prop := ∃ (C : String) (T : u_T) (N : Nat) (ref : String) (ty0 : Nat → FieldType), gcl[ci]? = some (C, T, N) ∧ k < N ∧ (∀ w ∈ u_ws C T N, w ∈ lw_all) ∧ gL own idx ref (T k).2.1 (T k).2.2.1 ∧ gSame ref (T k).1 (T k).2.1 (T k).2.2.1 ∧
  (∀ k, k < N → parseFieldDescriptor (T k).2.2.1 = some (ty0 k)) ∧ (∀ a, a < N → ∀ b, b < N → a ≠ b → (T a).2.1 ≠ (T b).2.1) ∧ (T k).2.2.2 = false ∧ ty0 k = ty
/-- a final field, in its class's constructor -/
def gFF (own : String) (idx ci k : Nat) (ty : FieldType) : Prop := ∃ (C : String) (T : u_T) (N : Nat) (ref : String) (ty0 : Nat → FieldType), gcl[ci]? = some (C, T, N) ∧ k < N ∧ (∀ w ∈ u_ws C T N, w ∈ lw_all) ∧ Cond.fieldLink own idx ref (T k).2.1 (T k).2.2.1 ∈ lw_all ∧ gSame ref (T k).1 (T k).2.1 (T k).2.2.1 ∧
  (∀ k, k < N → parseFieldDescriptor (T k).2.2.1 = some (ty0 k)) ∧ (∀ a, a < N → ∀ b, b < N → a ≠ b → (T a).2.1 ≠ (T b).2.1) ∧ (T k).2.2.2 = true ∧ (T k).1 = own ∧ ty0 k = ty
def gN (own : String) (idx ci N : Nat) (fs : List Value) : Prop := ∃ (C : String) (T : u_T) (ty0 : Nat → FieldType), gcl[ci]? = some (C, T, N) ∧ (∀ w ∈ u_ws C T N, w ∈ lw_all) ∧ (∀ k, k < N → parseFieldDescriptor (T k).2.2.1 = some (ty0 k)) ∧ Cond.classLink own idx C ∈ lw_all ∧ Cond.instantiable C N ∈ lw_all ∧ Cond.initialized C ∈ lw_all ∧ ∀ j, j < N → defaultValue (ty0 j) = vp_V fs j
section GHEAP
variable {φ : gFx} {Q : State → Prop} {pc : Nat} {lv : List (Nat × Value)} {st : List Value} {c : gLH} {ce sl : Nat} {l : Launch} {g : gGP} {R : Room} {cc : ByteArray} {nL : Nat} {own mn : String} {ret : Option FieldType} {tbl : List (Nat × Nat × Nat × Nat)}
theorem gSame.use (h : gOK φ l g R cc nL own mn ret tbl) {ref o n d : String} (hs : gSame ref o n d) : ∀ x, φ.2.1.1.fieldFound? o n d = some x → φ.2.1.1.fieldFound? ref n d = some x := by
  intro x hx
  rcases hs with rfl | hw
  · exact hx
  · exact u_same (h.word hw (a := #[])) x hx
theorem gOK.nestF (h : gOK φ l g R cc nL own mn ret tbl) {a : String} {i : Nat} {b n d o : String} (hw : Cond.fieldLinkNest a i b n d o ∈ lw_tbl) {A : Array Value} : (Cond.fieldLinkNest a i b n d o).before A φ.2.1.1 = true :=
  va_Nw.use rfl (va_Nw.warmF h.warm (h.k.2.1 _ hw rfl))
theorem gOK.g_ (h : gOK φ l g R cc nL own mn ret tbl) : φ.2.2.2 = g := h.2.1
theorem g_get (h : gOK φ l g R cc nL own mn ret tbl) {idx ci k a r : Nat} {fs : List Value} {v : Value} (hF : gF own idx ci k) (hc : c a = some (r, .inr (ci, fs))) (hv' : fs[k]? = some v) (hd : decode cc pc = .ok (.getfield idx, 3)) (kk : G φ Q (pc + 3) lv (v :: st) c ce sl) : G φ Q pc lv (.ref a :: st) c ce sl := by
  intro H locs ls hr hl hv
  obtain ⟨C, T, N, ref, h1, h2, h3, h4, h5⟩ := hF
  have hP : va_P g.2.1 gcl [(a, .inr (ci, fs))] H := by
    intro k q hk
    have hz : k < 1 := (List.getElem?_eq_some_iff.mp hk).1
    rw [show k = 0 by omega] at hk
    cases hk
    have := (hr.1 a r _ hc).1
    rw [h.g_] at this
    exact this
  rcases h4 with h4 | ⟨host, h4⟩
  · exact va_get h.exec h.code (fun w hw => h.word hw) h3 h.own_ h.K hP 0 rfl h1 k h2 (h.word h4) (h5.use h) hv' hd (kk H locs ls hr hl hv)
  · exact va_getN h.exec h.code (fun w hw => h.word hw) h3 h.own_ h.K hP 0 rfl h1 k h2 (h.nestF h4) (h5.use h) hv' hd (kk H locs ls hr hl hv)
theorem g_put (h : gOK φ l g R cc nL own mn ret tbl) {idx ci k a r : Nat} {fs : List Value} {v : Value} {ty : FieldType} (hF : gFP own idx ci k ty) (hc : c a = some (r, .inr (ci, fs))) (hs : r < gSB) (hl' : k < fs.length) (hn : narrow ty v = v) (hf : fits ty v = true) (hd : decode cc pc = .ok (.putfield idx, 3)) (kk : G φ Q (pc + 3) lv st (va_up c a (some (r, .inr (ci, fs.set k v)))) ce sl) : G φ Q pc lv (v :: .ref a :: st) c ce sl := by
  intro H locs ls hr hl hv
  obtain ⟨C, T, N, ref, ty0, h1, h2, h3, h4, h5, h6, h7, h8, h9⟩ := hF
  subst h9
  have hap := va_apart (args := #[]) (own := own) (fun w hw => h.word hw) h3 ty0 h6 h7 h.K h1
  have hA := (hr.1 a r _ hc).2 hs
  have hR := hr
  rw [h.g_] at hr
  obtain ⟨r', k1, cell, q1, q2, q3, q4⟩ := (hr.1 a r _ hc).1
  have hrr : r' = (C, T, N) := Option.some.inj (k1.symm.trans h1)
  subst hrr
  obtain ⟨hS, hfc, kC, hkC, hkind⟩ := h.K.1 ci _ h1
  obtain ⟨cf, kf, fi, f, hi, hsl⟩ := hS k h2
  have hlay := h.word (h3 _ (u_in_lay h2)) (a := #[])
  unfold u_lay at hlay
  rw [if_neg (by rw [h8]; decide)] at hlay
  have hst := (u_facts (args := #[]) hfc hkC (u_lays (fun w hw => h.word hw) h3 h2) hi).1
  have h6' := u_store hfc hkC hkind hlay hi (h6 k h2) hn hf
  have key : ∀ H' : Heap, H'[a]? = some (cell.setSlot f.slot v) → H'.size = H.size → (∀ q, q ≠ a → H'[q]? = H[q]?) → gRel φ.2.2.2 (va_up c a (some (r, .inr (ci, fs.set k v)))) H' := by
    intro H' e1 e2 e3
    refine hR.set hc ?_ hs e2 e3
    rw [h.g_]
    rw [hsl] at e1
    exact ⟨_, h1, t_OB.to (V := updV (vp_V fs) k v) ⟨_, e1, q2, q3, t_set q4 hap h2 v⟩ (fun j _ => vp_updV_set hl' v j)⟩
  rcases h4 with h4 | ⟨host, h4⟩
  · exact W.putK h.exec h.code (f := f) ⟨h.own_, h.word h4, ⟨_, _, _, h5.use h _ hi⟩, hst⟩ (by rw [q2]; exact h6') q1 q3 (by rw [hsl]; exact k2_hasslot (q4 k h2)) rfl rfl hd fun H' e1 e2 e3 => kk H' _ ls (key H' e1 e2 e3) (gloc hl hA) hv
  · exact va_WputK h.exec h.code (f := f) h.own_ (h.nestF h4) (h5.use h _ hi) hst (by rw [q2]; exact h6') q1 q3 (by rw [hsl]; exact k2_hasslot (q4 k h2)) rfl rfl hd fun H' e1 e2 e3 => kk H' _ ls (key H' e1 e2 e3) (gloc hl hA) hv
theorem g_putF (h : gOK φ l g R cc nL own mn ret tbl) (hmn : mn = "<init>") {idx ci k a r : Nat} {fs : List Value} {v : Value} {ty : FieldType} (hF : gFF own idx ci k ty) (hc : c a = some (r, .inr (ci, fs))) (hs : r < gSB) (hl' : k < fs.length) (hn : narrow ty v = v) (hf : fits ty v = true) (hd : decode cc pc = .ok (.putfield idx, 3)) (kk : G φ Q (pc + 3) lv st (va_up c a (some (r, .inr (ci, fs.set k v)))) ce sl) : G φ Q pc lv (v :: .ref a :: st) c ce sl := by
  intro H locs ls hr hl hv
  obtain ⟨C, T, N, ref, ty0, h1, h2, h3, h4, h5, h6, h7, h8, hdecl, h9⟩ := hF
  subst h9
  have hap := va_apart (args := #[]) (own := own) (fun w hw => h.word hw) h3 ty0 h6 h7 h.K h1
  have hA := (hr.1 a r _ hc).2 hs
  have hR := hr
  rw [h.g_] at hr
  obtain ⟨r', k1, cell, q1, q2, q3, q4⟩ := (hr.1 a r _ hc).1
  have hrr : r' = (C, T, N) := Option.some.inj (k1.symm.trans h1)
  subst hrr
  obtain ⟨hS, hfc, kC, hkC, hkind⟩ := h.K.1 ci _ h1
  obtain ⟨cf, kf, fi, f, hi, hsl⟩ := hS k h2
  have hlay := h.word (h3 _ (u_in_lay h2)) (a := #[])
  unfold u_lay at hlay
  rw [if_pos h8] at hlay
  have hst := (u_facts (args := #[]) hfc hkC (u_lays (fun w hw => h.word hw) h3 h2) hi).1
  have hcf : φ.2.1.2.1.cls = cf := by
    obtain ⟨_, _, c', _, _, _, -, -, hf', -, -, -, hown2, -⟩ := Cond.laysFinal_spec hlay
    have e1 : c' = cf := by have := hi.symm.trans hf'; simp at this; exact this.1.symm
    rw [hdecl] at hown2
    rw [← e1]; exact Option.some.inj (h.own_.symm.trans hown2)
  have h6' := u_fits hfc hkC hkind (Or.inr hlay) hi (h6 k h2) hn hf
  exact W.putFinK h.exec h.code h.own_ (h.word h4) (h5.use h _ hi) hst hcf (by rw [h.name]; exact hmn) (by rw [q2]; exact h6') q1 q3 (by rw [hsl]; exact k2_hasslot (q4 k h2)) rfl rfl hd fun H' e1 e2 e3 => kk H' _ ls (by
    refine hR.set hc ?_ hs e2 e3
    rw [h.g_]
    rw [hsl] at e1
    exact ⟨_, h1, t_OB.to (V := updV (vp_V fs) k v) ⟨_, e1, q2, q3, t_set q4 hap h2 v⟩ (fun j _ => vp_updV_set hl' v j)⟩) (gloc hl hA) hv
theorem g_new (h : gOK φ l g R cc nL own mn ret tbl) {idx ci N : Nat} {fs : List Value} (role : Nat) (hN : gN own idx ci N fs) (hce : ce + 1 ≤ R.cells) (hsl : sl + N ≤ R.slots) (hd : decode cc pc = .ok (.new idx, 3)) (kk : ∀ q : Nat, c q = none → G φ Q (pc + 3) lv (.ref q :: st) (va_up c q (some (role, .inr (ci, fs)))) (ce + 1) (sl + N)) : G φ Q pc lv st c ce sl := by
  intro H locs ls hr hl hv
  obtain ⟨C, T, ty0, h1, h3, h6, h7, h8, h9, h10⟩ := hN
  have hKn := h.K.1 ci _ h1
  refine W.newcK h.exec h.code h.own_ (h.word h7) (h.word h8) (h.word h9) rfl hd (by rw [h.2.2.1]; exact hce) (by rw [h.2.2.1]; exact hsl) hKn.2.1 rfl fun H1 kC hkC e1 z1 o1 => ?_
  obtain ⟨n1, n2⟩ := hr.push (r := role) (e := .inr (ci, fs)) (H1 := H1) (by rw [h.g_]; exact ⟨_, h1, (u_born ty0 (fun w hw => h.word hw (a := #[])) h3 hKn hkC e1 h6).to h10⟩) ⟨_, e1, rfl, rfl⟩ rfl z1 o1
  exact kk H.size n1 H1 locs ls n2 hl hv
theorem g_alen (h : gOK φ l g R cc nL own mn ret tbl) {a r k n : Nat} {x : (Nat → Int32) ⊕ (Nat → Int64) ⊕ (Nat → UInt32) ⊕ (Nat → UInt64) ⊕ (Nat → Option Nat)} (hk : k < 6) (hc : c a = some (r, .inl (k, n, x))) (hd : decode cc pc = .ok (.arraylength, 1)) (kk : G φ Q (pc + 1) lv (.int (nI n) :: st) c ce sl) : G φ Q pc lv (.ref a :: st) c ce sl := by
  intro H locs ls hr hl hv
  have hP : va_P g.2.1 gcl [(a, .inl (g.2.2 k, n, x))] H := by
    intro k q hk
    have hz : k < 1 := (List.getElem?_eq_some_iff.mp hk).1
    rw [show k = 0 by omega] at hk
    cases hk
    have := (hr.1 a r _ hc).1
    rw [h.g_] at this
    exact this
  have ht : (gtys g)[k]? = some (g.2.2 k, gkty k) := by
    rcases (show k = 0 ∨ k = 1 ∨ k = 2 ∨ k = 3 ∨ k = 4 ∨ k = 5 by omega) with rfl | rfl | rfl | rfl | rfl | rfl <;> rfl
  exact va_alen h.exec h.code h.K hP 0 k rfl ht rfl hd (kk H locs ls hr hl hv)
theorem g_iald (h : gOK φ l g R cc nL own mn ret tbl) {a r n : Nat} {f : Nat → Int32} {i : Int32} (hc : c a = some (r, .inl (0, n, .inl f))) (hin : vp_in i n) (hd : decode cc pc = .ok (.iaload, 1)) (kk : G φ Q (pc + 1) lv (.int (f i.toNatClampNeg) :: st) c ce sl) : G φ Q pc lv (.int i :: .ref a :: st) c ce sl := by
  intro H locs ls hr hl hv
  have hP : va_P g.2.1 gcl [(a, .inl (g.2.2 0, n, .inl f))] H := by
    intro k q hk
    have hz : k < 1 := (List.getElem?_eq_some_iff.mp hk).1
    rw [show k = 0 by omega] at hk
    cases hk
    have := (hr.1 a r _ hc).1
    rw [h.g_] at this
    exact this
  exact va_iald h.exec h.code h.K hP 0 0 rfl rfl hin hd (kk H locs ls hr hl hv)
theorem g_ialdN (h : gOK φ l g R cc nL own mn ret tbl) {a r n j : Nat} {f : Nat → Int32} (hc : c a = some (r, .inl (0, n, .inl f))) (hj : j < n) (hn : n < 2147483648) (hd : decode cc pc = .ok (.iaload, 1)) (kk : G φ Q (pc + 1) lv (.int (f j) :: st) c ce sl) : G φ Q pc lv (.int (nI j) :: .ref a :: st) c ce sl :=
  g_iald h hc (vp_in_nI hj hn) hd (by rw [nI_clamp (Nat.lt_trans hj hn)]; exact kk)
theorem g_iast (h : gOK φ l g R cc nL own mn ret tbl) {a r n : Nat} {f : Nat → Int32} {i : Int32} {x : Int32} (hc : c a = some (r, .inl (0, n, .inl f))) (hs : r < gSB) (hin : vp_in i n) (hd : decode cc pc = .ok (.iastore, 1)) (kk : G φ Q (pc + 1) lv st (va_up c a (some (r, .inl (0, n, .inl (upd f i.toNatClampNeg (x)))))) ce sl) : G φ Q pc lv (.int x :: .int i :: .ref a :: st) c ce sl := by
  intro H locs ls hr hl hv
  have hP : va_P g.2.1 gcl [(a, .inl (g.2.2 0, n, .inl f))] H := by
    intro k q hk
    have hz : k < 1 := (List.getElem?_eq_some_iff.mp hk).1
    rw [show k = 0 by omega] at hk
    cases hk
    have := (hr.1 a r _ hc).1
    rw [h.g_] at this
    exact this
  have hA := (hr.1 a r _ hc).2 hs
  refine W.iast h.exec h.code (hP 0 _ rfl) ((h.K.2 0 _ rfl).1 n (fun j => .int (f j))) (fun q => by cases q) (by show ¬ (i < 0 ∨ (arrV _ _ _).slots.size ≤ _); rw [arrV_size]; exact hin) rfl rfl hd fun H1 e z oq => ?_
  refine kk H1 _ ls (hr.set hc ?_ hs z oq) (gloc hl hA) hv
  rw [h.g_]
  show H1[a]? = some (vp_cell _ _)
  rw [e]
  rw [vp_cell_i, vp_cell_i, arrV_store]
  congr 2
  funext q
  by_cases hq : q = i.toNatClampNeg
  · subst hq
    simp [updV, upd, vp_updL, vp_nar]
    try rfl
  · simp [updV, upd, vp_updL, hq]
theorem g_iastN (h : gOK φ l g R cc nL own mn ret tbl) {a r n j : Nat} {f : Nat → Int32} {x : Int32} (hc : c a = some (r, .inl (0, n, .inl f))) (hs : r < gSB) (hj : j < n) (hn : n < 2147483648) (hd : decode cc pc = .ok (.iastore, 1)) (kk : G φ Q (pc + 1) lv st (va_up c a (some (r, .inl (0, n, .inl (upd f j (x)))))) ce sl) : G φ Q pc lv (.int x :: .int (nI j) :: .ref a :: st) c ce sl :=
  g_iast h hc hs (vp_in_nI hj hn) hd (by rw [nI_clamp (Nat.lt_trans hj hn)]; exact kk)
theorem g_bald (h : gOK φ l g R cc nL own mn ret tbl) {a r n : Nat} {f : Nat → Int32} {i : Int32} (hc : c a = some (r, .inl (1, n, .inl f))) (hin : vp_in i n) (hd : decode cc pc = .ok (.baload, 1)) (kk : G φ Q (pc + 1) lv (.int (f i.toNatClampNeg) :: st) c ce sl) : G φ Q pc lv (.int i :: .ref a :: st) c ce sl := by
  intro H locs ls hr hl hv
  have hP : va_P g.2.1 gcl [(a, .inl (g.2.2 1, n, .inl f))] H := by
    intro k q hk
    have hz : k < 1 := (List.getElem?_eq_some_iff.mp hk).1
    rw [show k = 0 by omega] at hk
    cases hk
    have := (hr.1 a r _ hc).1
    rw [h.g_] at this
    exact this
  exact va_bald h.exec h.code h.K hP 0 1 rfl rfl hin hd (kk H locs ls hr hl hv)
theorem g_baldN (h : gOK φ l g R cc nL own mn ret tbl) {a r n j : Nat} {f : Nat → Int32} (hc : c a = some (r, .inl (1, n, .inl f))) (hj : j < n) (hn : n < 2147483648) (hd : decode cc pc = .ok (.baload, 1)) (kk : G φ Q (pc + 1) lv (.int (f j) :: st) c ce sl) : G φ Q pc lv (.int (nI j) :: .ref a :: st) c ce sl :=
  g_bald h hc (vp_in_nI hj hn) hd (by rw [nI_clamp (Nat.lt_trans hj hn)]; exact kk)
theorem g_bast (h : gOK φ l g R cc nL own mn ret tbl) {a r n : Nat} {f : Nat → Int32} {i : Int32} {x : Int32} (hc : c a = some (r, .inl (1, n, .inl f))) (hs : r < gSB) (hin : vp_in i n) (hd : decode cc pc = .ok (.bastore, 1)) (kk : G φ Q (pc + 1) lv st (va_up c a (some (r, .inl (1, n, .inl (upd f i.toNatClampNeg (vp_nar .byte x)))))) ce sl) : G φ Q pc lv (.int x :: .int i :: .ref a :: st) c ce sl := by
  intro H locs ls hr hl hv
  have hP : va_P g.2.1 gcl [(a, .inl (g.2.2 1, n, .inl f))] H := by
    intro k q hk
    have hz : k < 1 := (List.getElem?_eq_some_iff.mp hk).1
    rw [show k = 0 by omega] at hk
    cases hk
    have := (hr.1 a r _ hc).1
    rw [h.g_] at this
    exact this
  have hA := (hr.1 a r _ hc).2 hs
  refine W.bast h.exec h.code (hP 0 _ rfl) ((h.K.2 1 _ rfl).1 n (fun j => .int (f j))) (fun q => by cases q) (by show ¬ (i < 0 ∨ (arrV _ _ _).slots.size ≤ _); rw [arrV_size]; exact hin) rfl rfl hd fun H1 e z oq => ?_
  refine kk H1 _ ls (hr.set hc ?_ hs z oq) (gloc hl hA) hv
  rw [h.g_]
  show H1[a]? = some (vp_cell _ _)
  rw [e]
  rw [vp_cell_i, vp_cell_i, arrV_store]
  congr 2
  funext q
  by_cases hq : q = i.toNatClampNeg
  · subst hq
    simp [updV, upd, vp_updL, vp_nar]
    try rfl
  · simp [updV, upd, vp_updL, hq]
theorem g_bastN (h : gOK φ l g R cc nL own mn ret tbl) {a r n j : Nat} {f : Nat → Int32} {x : Int32} (hc : c a = some (r, .inl (1, n, .inl f))) (hs : r < gSB) (hj : j < n) (hn : n < 2147483648) (hd : decode cc pc = .ok (.bastore, 1)) (kk : G φ Q (pc + 1) lv st (va_up c a (some (r, .inl (1, n, .inl (upd f j (vp_nar .byte x)))))) ce sl) : G φ Q pc lv (.int x :: .int (nI j) :: .ref a :: st) c ce sl :=
  g_bast h hc hs (vp_in_nI hj hn) hd (by rw [nI_clamp (Nat.lt_trans hj hn)]; exact kk)
theorem g_lald (h : gOK φ l g R cc nL own mn ret tbl) {a r n : Nat} {f : Nat → Int64} {i : Int32} (hc : c a = some (r, .inl (2, n, .inr (.inl f)))) (hin : vp_in i n) (hd : decode cc pc = .ok (.laload, 1)) (kk : G φ Q (pc + 1) lv (.long (f i.toNatClampNeg) :: st) c ce sl) : G φ Q pc lv (.int i :: .ref a :: st) c ce sl := by
  intro H locs ls hr hl hv
  have hP : va_P g.2.1 gcl [(a, .inl (g.2.2 2, n, .inr (.inl f)))] H := by
    intro k q hk
    have hz : k < 1 := (List.getElem?_eq_some_iff.mp hk).1
    rw [show k = 0 by omega] at hk
    cases hk
    have := (hr.1 a r _ hc).1
    rw [h.g_] at this
    exact this
  exact va_lald h.exec h.code h.K hP 0 2 rfl rfl hin hd (kk H locs ls hr hl hv)
theorem g_laldN (h : gOK φ l g R cc nL own mn ret tbl) {a r n j : Nat} {f : Nat → Int64} (hc : c a = some (r, .inl (2, n, .inr (.inl f)))) (hj : j < n) (hn : n < 2147483648) (hd : decode cc pc = .ok (.laload, 1)) (kk : G φ Q (pc + 1) lv (.long (f j) :: st) c ce sl) : G φ Q pc lv (.int (nI j) :: .ref a :: st) c ce sl :=
  g_lald h hc (vp_in_nI hj hn) hd (by rw [nI_clamp (Nat.lt_trans hj hn)]; exact kk)
theorem g_last (h : gOK φ l g R cc nL own mn ret tbl) {a r n : Nat} {f : Nat → Int64} {i : Int32} {x : Int64} (hc : c a = some (r, .inl (2, n, .inr (.inl f)))) (hs : r < gSB) (hin : vp_in i n) (hd : decode cc pc = .ok (.lastore, 1)) (kk : G φ Q (pc + 1) lv st (va_up c a (some (r, .inl (2, n, .inr (.inl (vp_updL f i.toNatClampNeg x)))))) ce sl) : G φ Q pc lv (.long x :: .int i :: .ref a :: st) c ce sl := by
  intro H locs ls hr hl hv
  have hP : va_P g.2.1 gcl [(a, .inl (g.2.2 2, n, .inr (.inl f)))] H := by
    intro k q hk
    have hz : k < 1 := (List.getElem?_eq_some_iff.mp hk).1
    rw [show k = 0 by omega] at hk
    cases hk
    have := (hr.1 a r _ hc).1
    rw [h.g_] at this
    exact this
  have hA := (hr.1 a r _ hc).2 hs
  refine W.last h.exec h.code (hP 0 _ rfl) ((h.K.2 2 _ rfl).1 n (fun j => .long (f j))) (fun q => by cases q) (by show ¬ (i < 0 ∨ (arrV _ _ _).slots.size ≤ _); rw [arrV_size]; exact hin) rfl rfl hd fun H1 e z oq => ?_
  refine kk H1 _ ls (hr.set hc ?_ hs z oq) (gloc hl hA) hv
  rw [h.g_]
  show H1[a]? = some (vp_cell _ _)
  rw [e]
  rw [vp_cell_l, vp_cell_l, arrV_store]
  congr 2
  funext q
  by_cases hq : q = i.toNatClampNeg
  · subst hq
    simp [updV, upd, vp_updL, vp_nar]
    try rfl
  · simp [updV, upd, vp_updL, hq]
theorem g_lastN (h : gOK φ l g R cc nL own mn ret tbl) {a r n j : Nat} {f : Nat → Int64} {x : Int64} (hc : c a = some (r, .inl (2, n, .inr (.inl f)))) (hs : r < gSB) (hj : j < n) (hn : n < 2147483648) (hd : decode cc pc = .ok (.lastore, 1)) (kk : G φ Q (pc + 1) lv st (va_up c a (some (r, .inl (2, n, .inr (.inl (vp_updL f j x)))))) ce sl) : G φ Q pc lv (.long x :: .int (nI j) :: .ref a :: st) c ce sl :=
  g_last h hc hs (vp_in_nI hj hn) hd (by rw [nI_clamp (Nat.lt_trans hj hn)]; exact kk)
theorem g_zald (h : gOK φ l g R cc nL own mn ret tbl) {a r n : Nat} {f : Nat → Int32} {i : Int32} (hc : c a = some (r, .inl (3, n, .inl f))) (hin : vp_in i n) (hd : decode cc pc = .ok (.baload, 1)) (kk : G φ Q (pc + 1) lv (.int (f i.toNatClampNeg) :: st) c ce sl) : G φ Q pc lv (.int i :: .ref a :: st) c ce sl := by
  intro H locs ls hr hl hv
  have hP : va_P g.2.1 gcl [(a, .inl (g.2.2 3, n, .inl f))] H := by
    intro k q hk
    have hz : k < 1 := (List.getElem?_eq_some_iff.mp hk).1
    rw [show k = 0 by omega] at hk
    cases hk
    have := (hr.1 a r _ hc).1
    rw [h.g_] at this
    exact this
  exact va_zald h.exec h.code h.K hP 0 3 rfl rfl hin hd (kk H locs ls hr hl hv)
theorem g_zaldN (h : gOK φ l g R cc nL own mn ret tbl) {a r n j : Nat} {f : Nat → Int32} (hc : c a = some (r, .inl (3, n, .inl f))) (hj : j < n) (hn : n < 2147483648) (hd : decode cc pc = .ok (.baload, 1)) (kk : G φ Q (pc + 1) lv (.int (f j) :: st) c ce sl) : G φ Q pc lv (.int (nI j) :: .ref a :: st) c ce sl :=
  g_zald h hc (vp_in_nI hj hn) hd (by rw [nI_clamp (Nat.lt_trans hj hn)]; exact kk)
theorem g_zast (h : gOK φ l g R cc nL own mn ret tbl) {a r n : Nat} {f : Nat → Int32} {i : Int32} {x : Int32} (hc : c a = some (r, .inl (3, n, .inl f))) (hs : r < gSB) (hin : vp_in i n) (hd : decode cc pc = .ok (.bastore, 1)) (kk : G φ Q (pc + 1) lv st (va_up c a (some (r, .inl (3, n, .inl (upd f i.toNatClampNeg (vp_nar .boolean x)))))) ce sl) : G φ Q pc lv (.int x :: .int i :: .ref a :: st) c ce sl := by
  intro H locs ls hr hl hv
  have hP : va_P g.2.1 gcl [(a, .inl (g.2.2 3, n, .inl f))] H := by
    intro k q hk
    have hz : k < 1 := (List.getElem?_eq_some_iff.mp hk).1
    rw [show k = 0 by omega] at hk
    cases hk
    have := (hr.1 a r _ hc).1
    rw [h.g_] at this
    exact this
  have hA := (hr.1 a r _ hc).2 hs
  refine W.zast h.exec h.code (hP 0 _ rfl) ((h.K.2 3 _ rfl).1 n (fun j => .int (f j))) (fun q => by cases q) (by show ¬ (i < 0 ∨ (arrV _ _ _).slots.size ≤ _); rw [arrV_size]; exact hin) rfl rfl hd fun H1 e z oq => ?_
  refine kk H1 _ ls (hr.set hc ?_ hs z oq) (gloc hl hA) hv
  rw [h.g_]
  show H1[a]? = some (vp_cell _ _)
  rw [e]
  rw [vp_cell_i, vp_cell_i, arrV_store]
  congr 2
  funext q
  by_cases hq : q = i.toNatClampNeg
  · subst hq
    simp [updV, upd, vp_updL, vp_nar]
    try rfl
  · simp [updV, upd, vp_updL, hq]
theorem g_zastN (h : gOK φ l g R cc nL own mn ret tbl) {a r n j : Nat} {f : Nat → Int32} {x : Int32} (hc : c a = some (r, .inl (3, n, .inl f))) (hs : r < gSB) (hj : j < n) (hn : n < 2147483648) (hd : decode cc pc = .ok (.bastore, 1)) (kk : G φ Q (pc + 1) lv st (va_up c a (some (r, .inl (3, n, .inl (upd f j (vp_nar .boolean x)))))) ce sl) : G φ Q pc lv (.int x :: .int (nI j) :: .ref a :: st) c ce sl :=
  g_zast h hc hs (vp_in_nI hj hn) hd (by rw [nI_clamp (Nat.lt_trans hj hn)]; exact kk)
theorem g_cald (h : gOK φ l g R cc nL own mn ret tbl) {a r n : Nat} {f : Nat → Int32} {i : Int32} (hc : c a = some (r, .inl (4, n, .inl f))) (hin : vp_in i n) (hd : decode cc pc = .ok (.caload, 1)) (kk : G φ Q (pc + 1) lv (.int (f i.toNatClampNeg) :: st) c ce sl) : G φ Q pc lv (.int i :: .ref a :: st) c ce sl := by
  intro H locs ls hr hl hv
  have hP : va_P g.2.1 gcl [(a, .inl (g.2.2 4, n, .inl f))] H := by
    intro k q hk
    have hz : k < 1 := (List.getElem?_eq_some_iff.mp hk).1
    rw [show k = 0 by omega] at hk
    cases hk
    have := (hr.1 a r _ hc).1
    rw [h.g_] at this
    exact this
  exact va_cald h.exec h.code h.K hP 0 4 rfl rfl hin hd (kk H locs ls hr hl hv)
theorem g_caldN (h : gOK φ l g R cc nL own mn ret tbl) {a r n j : Nat} {f : Nat → Int32} (hc : c a = some (r, .inl (4, n, .inl f))) (hj : j < n) (hn : n < 2147483648) (hd : decode cc pc = .ok (.caload, 1)) (kk : G φ Q (pc + 1) lv (.int (f j) :: st) c ce sl) : G φ Q pc lv (.int (nI j) :: .ref a :: st) c ce sl :=
  g_cald h hc (vp_in_nI hj hn) hd (by rw [nI_clamp (Nat.lt_trans hj hn)]; exact kk)
theorem g_cast (h : gOK φ l g R cc nL own mn ret tbl) {a r n : Nat} {f : Nat → Int32} {i : Int32} {x : Int32} (hc : c a = some (r, .inl (4, n, .inl f))) (hs : r < gSB) (hin : vp_in i n) (hd : decode cc pc = .ok (.castore, 1)) (kk : G φ Q (pc + 1) lv st (va_up c a (some (r, .inl (4, n, .inl (upd f i.toNatClampNeg (vp_nar .char x)))))) ce sl) : G φ Q pc lv (.int x :: .int i :: .ref a :: st) c ce sl := by
  intro H locs ls hr hl hv
  have hP : va_P g.2.1 gcl [(a, .inl (g.2.2 4, n, .inl f))] H := by
    intro k q hk
    have hz : k < 1 := (List.getElem?_eq_some_iff.mp hk).1
    rw [show k = 0 by omega] at hk
    cases hk
    have := (hr.1 a r _ hc).1
    rw [h.g_] at this
    exact this
  have hA := (hr.1 a r _ hc).2 hs
  refine W.cast h.exec h.code (hP 0 _ rfl) ((h.K.2 4 _ rfl).1 n (fun j => .int (f j))) (fun q => by cases q) (by show ¬ (i < 0 ∨ (arrV _ _ _).slots.size ≤ _); rw [arrV_size]; exact hin) rfl rfl hd fun H1 e z oq => ?_
  refine kk H1 _ ls (hr.set hc ?_ hs z oq) (gloc hl hA) hv
  rw [h.g_]
  show H1[a]? = some (vp_cell _ _)
  rw [e]
  rw [vp_cell_i, vp_cell_i, arrV_store]
  congr 2
  funext q
  by_cases hq : q = i.toNatClampNeg
  · subst hq
    simp [updV, upd, vp_updL, vp_nar]
    try rfl
  · simp [updV, upd, vp_updL, hq]
theorem g_castN (h : gOK φ l g R cc nL own mn ret tbl) {a r n j : Nat} {f : Nat → Int32} {x : Int32} (hc : c a = some (r, .inl (4, n, .inl f))) (hs : r < gSB) (hj : j < n) (hn : n < 2147483648) (hd : decode cc pc = .ok (.castore, 1)) (kk : G φ Q (pc + 1) lv st (va_up c a (some (r, .inl (4, n, .inl (upd f j (vp_nar .char x)))))) ce sl) : G φ Q pc lv (.int x :: .int (nI j) :: .ref a :: st) c ce sl :=
  g_cast h hc hs (vp_in_nI hj hn) hd (by rw [nI_clamp (Nat.lt_trans hj hn)]; exact kk)
theorem g_aald (h : gOK φ l g R cc nL own mn ret tbl) {a r n : Nat} {f : Nat → Option Nat} {i : Int32} (hc : c a = some (r, .inl (5, n, .inr (.inr (.inr (.inr f)))))) (hin : vp_in i n) (hd : decode cc pc = .ok (.aaload, 1)) (kk : G φ Q (pc + 1) lv (va_rf (f i.toNatClampNeg) :: st) c ce sl) : G φ Q pc lv (.int i :: .ref a :: st) c ce sl := by
  intro H locs ls hr hl hv
  have hP : va_P g.2.1 gcl [(a, .inl (g.2.2 5, n, .inr (.inr (.inr (.inr f)))))] H := by
    intro k q hk
    have hz : k < 1 := (List.getElem?_eq_some_iff.mp hk).1
    rw [show k = 0 by omega] at hk
    cases hk
    have := (hr.1 a r _ hc).1
    rw [h.g_] at this
    exact this
  exact va_aldq h.exec h.code h.K hP 0 5 rfl rfl hin hd (kk H locs ls hr hl hv)
theorem g_aaldN (h : gOK φ l g R cc nL own mn ret tbl) {a r n j x : Nat} {f : Nat → Option Nat} (hc : c a = some (r, .inl (5, n, .inr (.inr (.inr (.inr f)))))) (hj : j < n) (hn : n < 2147483648) (hx : f j = some x) (hd : decode cc pc = .ok (.aaload, 1)) (kk : G φ Q (pc + 1) lv (.ref x :: st) c ce sl) : G φ Q pc lv (.int (nI j) :: .ref a :: st) c ce sl :=
  g_aald h hc (vp_in_nI hj hn) hd (by rw [nI_clamp (Nat.lt_trans hj hn), hx]; exact kk)
theorem g_newarr_int (h : gOK φ l g R cc nL own mn ret tbl) {n : Nat} (role : Nat) (hw : Cond.arrayClass .int ∈ lw_all) (hn : n < 67108865) (hce : ce + 1 ≤ R.cells) (hsl : sl + n ≤ R.slots) (hd : decode cc pc = .ok (.newarray .int, 2)) (kk : ∀ q : Nat, c q = none → G φ Q (pc + 2) lv (.ref q :: st) (va_up c q (some (role, .inl (0, n, .inl (fun _ => 0))))) (ce + 1) (sl + n)) : G φ Q pc lv (.int (nI n) :: st) c ce sl := by
  intro H locs ls hr hl hv
  have hp : ¬ nI n < 0 := nI_pos (by omega)
  have hcl : (nI n).toNatClampNeg = n := nI_clamp (by omega)
  have hby : n * componentBytes (newarray.typeOf .int) ≤ 536870912 := by
    have : componentBytes (newarray.typeOf .int) ≤ 8 := by decide
    have := Nat.mul_le_mul_left n this
    omega
  have hfc : φ.2.1.1.vm.findClass ("[" ++ (newarray.typeOf .int).toString) = some (g.2.2 0) := (h.K.2 0 _ rfl).2
  refine va_newaK h.exec h.code (atype := .int) (h.word hw) rfl hd rfl hp hcl hby (by rw [h.2.2.1]; exact hce) (by rw [h.2.2.1]; exact hsl) rfl fun H1 cA e1 z1 o1 hAr hNm => ?_
  have hcA : cA = g.2.2 0 := Option.some.inj (hNm.symm.trans hfc)
  subst hcA
  obtain ⟨n1, n2⟩ := hr.push (r := role) (e := .inl (0, n, .inl (fun _ => 0))) (H1 := H1) (by rw [h.g_]; exact e1) ⟨_, e1, rfl, rfl⟩ rfl z1 o1
  exact kk H.size n1 H1 locs ls n2 hl hv
theorem g_newarr_byte (h : gOK φ l g R cc nL own mn ret tbl) {n : Nat} (role : Nat) (hw : Cond.arrayClass .byte ∈ lw_all) (hn : n < 67108865) (hce : ce + 1 ≤ R.cells) (hsl : sl + n ≤ R.slots) (hd : decode cc pc = .ok (.newarray .byte, 2)) (kk : ∀ q : Nat, c q = none → G φ Q (pc + 2) lv (.ref q :: st) (va_up c q (some (role, .inl (1, n, .inl (fun _ => 0))))) (ce + 1) (sl + n)) : G φ Q pc lv (.int (nI n) :: st) c ce sl := by
  intro H locs ls hr hl hv
  have hp : ¬ nI n < 0 := nI_pos (by omega)
  have hcl : (nI n).toNatClampNeg = n := nI_clamp (by omega)
  have hby : n * componentBytes (newarray.typeOf .byte) ≤ 536870912 := by
    have : componentBytes (newarray.typeOf .byte) ≤ 8 := by decide
    have := Nat.mul_le_mul_left n this
    omega
  have hfc : φ.2.1.1.vm.findClass ("[" ++ (newarray.typeOf .byte).toString) = some (g.2.2 1) := (h.K.2 1 _ rfl).2
  refine va_newaK h.exec h.code (atype := .byte) (h.word hw) rfl hd rfl hp hcl hby (by rw [h.2.2.1]; exact hce) (by rw [h.2.2.1]; exact hsl) rfl fun H1 cA e1 z1 o1 hAr hNm => ?_
  have hcA : cA = g.2.2 1 := Option.some.inj (hNm.symm.trans hfc)
  subst hcA
  obtain ⟨n1, n2⟩ := hr.push (r := role) (e := .inl (1, n, .inl (fun _ => 0))) (H1 := H1) (by rw [h.g_]; exact e1) ⟨_, e1, rfl, rfl⟩ rfl z1 o1
  exact kk H.size n1 H1 locs ls n2 hl hv
theorem g_newarr_long (h : gOK φ l g R cc nL own mn ret tbl) {n : Nat} (role : Nat) (hw : Cond.arrayClass .long ∈ lw_all) (hn : n < 67108865) (hce : ce + 1 ≤ R.cells) (hsl : sl + n ≤ R.slots) (hd : decode cc pc = .ok (.newarray .long, 2)) (kk : ∀ q : Nat, c q = none → G φ Q (pc + 2) lv (.ref q :: st) (va_up c q (some (role, .inl (2, n, .inr (.inl (fun _ => 0)))))) (ce + 1) (sl + n)) : G φ Q pc lv (.int (nI n) :: st) c ce sl := by
  intro H locs ls hr hl hv
  have hp : ¬ nI n < 0 := nI_pos (by omega)
  have hcl : (nI n).toNatClampNeg = n := nI_clamp (by omega)
  have hby : n * componentBytes (newarray.typeOf .long) ≤ 536870912 := by
    have : componentBytes (newarray.typeOf .long) ≤ 8 := by decide
    have := Nat.mul_le_mul_left n this
    omega
  have hfc : φ.2.1.1.vm.findClass ("[" ++ (newarray.typeOf .long).toString) = some (g.2.2 2) := (h.K.2 2 _ rfl).2
  refine va_newaK h.exec h.code (atype := .long) (h.word hw) rfl hd rfl hp hcl hby (by rw [h.2.2.1]; exact hce) (by rw [h.2.2.1]; exact hsl) rfl fun H1 cA e1 z1 o1 hAr hNm => ?_
  have hcA : cA = g.2.2 2 := Option.some.inj (hNm.symm.trans hfc)
  subst hcA
  obtain ⟨n1, n2⟩ := hr.push (r := role) (e := .inl (2, n, .inr (.inl (fun _ => 0)))) (H1 := H1) (by rw [h.g_]; exact e1) ⟨_, e1, rfl, rfl⟩ rfl z1 o1
  exact kk H.size n1 H1 locs ls n2 hl hv
theorem g_newarr_boolean (h : gOK φ l g R cc nL own mn ret tbl) {n : Nat} (role : Nat) (hw : Cond.arrayClass .boolean ∈ lw_all) (hn : n < 67108865) (hce : ce + 1 ≤ R.cells) (hsl : sl + n ≤ R.slots) (hd : decode cc pc = .ok (.newarray .boolean, 2)) (kk : ∀ q : Nat, c q = none → G φ Q (pc + 2) lv (.ref q :: st) (va_up c q (some (role, .inl (3, n, .inl (fun _ => 0))))) (ce + 1) (sl + n)) : G φ Q pc lv (.int (nI n) :: st) c ce sl := by
  intro H locs ls hr hl hv
  have hp : ¬ nI n < 0 := nI_pos (by omega)
  have hcl : (nI n).toNatClampNeg = n := nI_clamp (by omega)
  have hby : n * componentBytes (newarray.typeOf .boolean) ≤ 536870912 := by
    have : componentBytes (newarray.typeOf .boolean) ≤ 8 := by decide
    have := Nat.mul_le_mul_left n this
    omega
  have hfc : φ.2.1.1.vm.findClass ("[" ++ (newarray.typeOf .boolean).toString) = some (g.2.2 3) := (h.K.2 3 _ rfl).2
  refine va_newaK h.exec h.code (atype := .boolean) (h.word hw) rfl hd rfl hp hcl hby (by rw [h.2.2.1]; exact hce) (by rw [h.2.2.1]; exact hsl) rfl fun H1 cA e1 z1 o1 hAr hNm => ?_
  have hcA : cA = g.2.2 3 := Option.some.inj (hNm.symm.trans hfc)
  subst hcA
  obtain ⟨n1, n2⟩ := hr.push (r := role) (e := .inl (3, n, .inl (fun _ => 0))) (H1 := H1) (by rw [h.g_]; exact e1) ⟨_, e1, rfl, rfl⟩ rfl z1 o1
  exact kk H.size n1 H1 locs ls n2 hl hv
theorem g_newarr_char (h : gOK φ l g R cc nL own mn ret tbl) {n : Nat} (role : Nat) (hw : Cond.arrayClass .char ∈ lw_all) (hn : n < 67108865) (hce : ce + 1 ≤ R.cells) (hsl : sl + n ≤ R.slots) (hd : decode cc pc = .ok (.newarray .char, 2)) (kk : ∀ q : Nat, c q = none → G φ Q (pc + 2) lv (.ref q :: st) (va_up c q (some (role, .inl (4, n, .inl (fun _ => 0))))) (ce + 1) (sl + n)) : G φ Q pc lv (.int (nI n) :: st) c ce sl := by
  intro H locs ls hr hl hv
  have hp : ¬ nI n < 0 := nI_pos (by omega)
  have hcl : (nI n).toNatClampNeg = n := nI_clamp (by omega)
  have hby : n * componentBytes (newarray.typeOf .char) ≤ 536870912 := by
    have : componentBytes (newarray.typeOf .char) ≤ 8 := by decide
    have := Nat.mul_le_mul_left n this
    omega
  have hfc : φ.2.1.1.vm.findClass ("[" ++ (newarray.typeOf .char).toString) = some (g.2.2 4) := (h.K.2 4 _ rfl).2
  refine va_newaK h.exec h.code (atype := .char) (h.word hw) rfl hd rfl hp hcl hby (by rw [h.2.2.1]; exact hce) (by rw [h.2.2.1]; exact hsl) rfl fun H1 cA e1 z1 o1 hAr hNm => ?_
  have hcA : cA = g.2.2 4 := Option.some.inj (hNm.symm.trans hfc)
  subst hcA
  obtain ⟨n1, n2⟩ := hr.push (r := role) (e := .inl (4, n, .inl (fun _ => 0))) (H1 := H1) (by rw [h.g_]; exact e1) ⟨_, e1, rfl, rfl⟩ rfl z1 o1
  exact kk H.size n1 H1 locs ls n2 hl hv
theorem gQ.of_leave {mc ms : Nat} {Post : Outcome → gLH → Prop} {v : Option Value} {T : State} {fs : List Frame} {locs : List Loc} {H : Heap} (hT : T.heap = H) (hr : gRel φ.2.2.2 c H) (hl : ∀ q ∈ locs, φ.2.2.2.1.heap.size ≤ q.base) (h1 : ce ≤ mc) (h2 : sl ≤ ms) (hp : Post (.returned v) c)
    (hrun : (T.setFrames fs).status = .running) (hend : Ended (T.setFrames fs) φ.2.1.2.2.2 (.returned v)) (hW : φ.2.1.1.WarmedH (T.setFrames fs).vm) (hf : φ.2.1.1.sameButNew ({ T.setFrames fs with vm := φ.2.1.1.vm } : State) locs ce sl) : gQ φ Post mc ms (T.setFrames fs) :=
  ⟨_, hrun, hend, ⟨c, by subst hT; exact hr, hp⟩, hW, locs, hf.mono h1 h2, hl⟩
theorem g_iret {Post : Outcome → gLH → Prop} {mc ms : Nat} {st' : List Value} {v : Int32} (h : gOK φ l g R cc nL own mn (some .int) tbl) (hp : Post (.returned (some (.int v))) c) (h1 : ce ≤ mc) (h2 : sl ≤ ms) (hd : decode cc pc = .ok (.ireturn, 1)) : G φ (gQ φ Post mc ms) pc lv (.int v :: st') c ce sl := by
  intro H locs ls hr hl hv T hT X
  have hlocks : φ.2.2.1.1.locks = false := h.locks
  obtain ⟨fs, hret, hrun, hended, hW, hframe⟩ := X.leave (v := some (.int v)) (fun hh => by rw [h.ret_] at hh; cases hh)
  have hmeth' : T.vm.method? φ.2.1.2.1 = some φ.2.2.1.1 := X.method'
  have hr' := h.ret_
  refine ⟨T.setFrames fs, ?_, gQ.of_leave hT hr hl h1 h2 hp hrun hended hW hframe⟩
  jvm_step X.here [X.here.top, h.exec, h.code, hd, hmeth', hr', narrow]
  (try refine ⟨rfl, ?_⟩); (try refine ⟨rfl, ?_⟩)
  first | (intro acts; rw [hret _ acts rfl rfl rfl]) | rw [hret _ _ rfl rfl rfl]
  exact Steps.refl _
theorem g_zret {Post : Outcome → gLH → Prop} {mc ms : Nat} {st' : List Value} {v : Int32} {ty : FieldType} (h : gOK φ l g R cc nL own mn (some ty) tbl) (hp : Post (.returned (some (.int v))) c) (h1 : ce ≤ mc) (h2 : sl ≤ ms) (hn : narrow ty (.int v) = .int v) (hd : decode cc pc = .ok (.ireturn, 1)) : G φ (gQ φ Post mc ms) pc lv (.int v :: st') c ce sl := by
  intro H locs ls hr hl hv T hT X
  have hlocks : φ.2.2.1.1.locks = false := h.locks
  obtain ⟨fs, hret, hrun, hended, hW, hframe⟩ := X.leave (v := some (.int v)) (fun hh => by rw [h.ret_] at hh; cases hh)
  have hmeth' : T.vm.method? φ.2.1.2.1 = some φ.2.2.1.1 := X.method'
  have hr' := h.ret_
  refine ⟨T.setFrames fs, ?_, gQ.of_leave hT hr hl h1 h2 hp hrun hended hW hframe⟩
  jvm_step X.here [X.here.top, h.exec, h.code, hd, hmeth', hr', hn]
  (try refine ⟨rfl, ?_⟩); (try refine ⟨rfl, ?_⟩)
  first | (intro acts; rw [hret _ acts rfl rfl rfl]) | rw [hret _ _ rfl rfl rfl]
  exact Steps.refl _
theorem g_lret {Post : Outcome → gLH → Prop} {mc ms : Nat} {st' : List Value} {v : Int64} (h : gOK φ l g R cc nL own mn (some .long) tbl) (hp : Post (.returned (some (.long v))) c) (h1 : ce ≤ mc) (h2 : sl ≤ ms) (hd : decode cc pc = .ok (.lreturn, 1)) : G φ (gQ φ Post mc ms) pc lv (.long v :: st') c ce sl := by
  intro H locs ls hr hl hv T hT X
  have hlocks : φ.2.2.1.1.locks = false := h.locks
  obtain ⟨fs, hret, hrun, hended, hW, hframe⟩ := X.leave (v := some (.long v)) (fun hh => by rw [h.ret_] at hh; cases hh)
  have hmeth' : T.vm.method? φ.2.1.2.1 = some φ.2.2.1.1 := X.method'
  have hr' := h.ret_
  refine ⟨T.setFrames fs, ?_, gQ.of_leave hT hr hl h1 h2 hp hrun hended hW hframe⟩
  jvm_step X.here [X.here.top, h.exec, h.code, hd, hmeth', hr', narrow]
  (try refine ⟨rfl, ?_⟩); (try refine ⟨rfl, ?_⟩)
  first | (intro acts; rw [hret _ acts rfl rfl rfl]) | rw [hret _ _ rfl rfl rfl]
  exact Steps.refl _
theorem g_vret {Post : Outcome → gLH → Prop} {mc ms : Nat} {st' : List Value} (h : gOK φ l g R cc nL own mn none tbl) (hp : Post (.returned none) c) (h1 : ce ≤ mc) (h2 : sl ≤ ms) (hd : decode cc pc = .ok (.return_, 1)) : G φ (gQ φ Post mc ms) pc lv (st') c ce sl := by
  intro H locs ls hr hl hv T hT X
  have hlocks : φ.2.2.1.1.locks = false := h.locks
  obtain ⟨fs, hret, hrun, hended, hW, hframe⟩ := X.leave (v := none) (fun _ => rfl)
  have hmeth' : T.vm.method? φ.2.1.2.1 = some φ.2.2.1.1 := X.method'
  have hr' := h.ret_
  refine ⟨T.setFrames fs, ?_, gQ.of_leave hT hr hl h1 h2 hp hrun hended hW hframe⟩
  jvm_step X.here [X.here.top, h.exec, h.code, hd, hmeth', hr']
  (try refine ⟨rfl, ?_⟩); (try refine ⟨rfl, ?_⟩)
  first | (intro acts; rw [hret _ acts rfl rfl rfl]) | rw [hret _ _ rfl rfl rfl]
  exact Steps.refl _
theorem g_aret {Post : Outcome → gLH → Prop} {mc ms : Nat} {rt : FieldType} {st' : List Value} (h : gOK φ l g R cc nL own mn (some rt) tbl) {v : Nat} (hp : Post (.returned (some (.ref v))) c) (h1 : ce ≤ mc) (h2 : sl ≤ ms) (hrt : (∃ n, rt = .object n) ∨ ∃ t, rt = .array t) (hd : decode cc pc = .ok (.areturn, 1)) : G φ (gQ φ Post mc ms) pc lv (.ref v :: st') c ce sl := by
  intro H locs ls hr hl hv T hT X
  have hlocks : φ.2.2.1.1.locks = false := h.locks
  obtain ⟨fs, hret, hrun, hended, hW, hframe⟩ := X.leave (v := some (.ref v)) (fun hh => by rw [h.ret_] at hh; cases hh)
  have hmeth' : T.vm.method? φ.2.1.2.1 = some φ.2.2.1.1 := X.method'
  have hr' := h.ret_
  refine ⟨T.setFrames fs, ?_, gQ.of_leave hT hr hl h1 h2 hp hrun hended hW hframe⟩
  rcases hrt with ⟨n, rfl⟩ | ⟨t, rfl⟩ <;>
    (jvm_step X.here [X.here.top, h.exec, h.code, hd, hmeth', hr']
     (try refine ⟨rfl, ?_⟩); (try refine ⟨rfl, ?_⟩)
     first | (intro acts; rw [hret _ acts rfl rfl rfl]) | rw [hret _ _ rfl rfl rfl]
     exact Steps.refl _)
theorem g_aretN {Post : Outcome → gLH → Prop} {mc ms : Nat} {rt : FieldType} {st' : List Value} (h : gOK φ l g R cc nL own mn (some rt) tbl) (hp : Post (.returned (some (.null))) c) (h1 : ce ≤ mc) (h2 : sl ≤ ms) (hrt : (∃ n, rt = .object n) ∨ ∃ t, rt = .array t) (hd : decode cc pc = .ok (.areturn, 1)) : G φ (gQ φ Post mc ms) pc lv (.null :: st') c ce sl := by
  intro H locs ls hr hl hv T hT X
  have hlocks : φ.2.2.1.1.locks = false := h.locks
  obtain ⟨fs, hret, hrun, hended, hW, hframe⟩ := X.leave (v := some (.null)) (fun hh => by rw [h.ret_] at hh; cases hh)
  have hmeth' : T.vm.method? φ.2.1.2.1 = some φ.2.2.1.1 := X.method'
  have hr' := h.ret_
  refine ⟨T.setFrames fs, ?_, gQ.of_leave hT hr hl h1 h2 hp hrun hended hW hframe⟩
  rcases hrt with ⟨n, rfl⟩ | ⟨t, rfl⟩ <;>
    (jvm_step X.here [X.here.top, h.exec, h.code, hd, hmeth', hr']
     (try refine ⟨rfl, ?_⟩); (try refine ⟨rfl, ?_⟩)
     first | (intro acts; rw [hret _ acts rfl rfl rfl]) | rw [hret _ _ rfl rfl rfl]
     exact Steps.refl _)
end GHEAP
