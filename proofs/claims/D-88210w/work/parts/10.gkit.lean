/-! MY KIT, 1: the logical heap (address to role and contents), the judgement G of a walk, contracts Ct -/
set_option maxRecDepth 100000
/-- Back has no fields -/
def TX19 : u_T := fun _ => ("TurnpikeTrust$Back", "none", "I", false)
/-- the classes whose objects the run makes: the place of Xn is n (1..30), then the JDK's -/
def gcl : List vw_C := [(RX22, TX22, 2), (RX1, TX1, 17), (RX2, TX2, 4), (RX3, TX3, 9), (RX4, TX4, 62), (RX5, TX5, 9), (RX6, TX6, 2), (RX7, TX7, 8), (RX22, TX22, 2), (RX9, TX9, 2), (RX10, TX10, 3), (RX11, TX11, 3), (RX12, TX12, 3), (RX13, TX13, 4), (RX14, TX14, 3), (RX15, TX15, 1), (RX16, TX16, 1), (RX17, TX17, 1), (RX18, TX18, 1), (RX19, TX19, 0), (RX20, TX20, 3), (RX21, TX21, 1), (RX22, TX22, 2), (RX23, TX23, 7), (RX22, TX22, 2), (RX25, TX25, 7), (RX26, TX26, 7), (RX27, TX27, 7), (RX28, TX28, 1), (RX29, TX29, 3), (RX30, TX30, 4), (RJ2, TJ2, 3), (RJ6, TJ6, 6), (RJ17, TJ17, 6), (RJ18, TJ18, 6), (RJ8, TJ8, 4), (RJ9, TJ9, 4)]
/-- roles from here on: cells that nobody writes (constants that were there before) -/
def gSB : Nat := 1000000000
/-- the role of a cell just made whose monitor is known to be free (an exception ahead of its constructor); nobody writes it by the ordinary rows -/
def gFr : Nat := 2000000001
abbrev gLH : Type := Nat → Option (Nat × va_E)
/-- the law's start, the classes' numbers and slots, the array classes' numbers by kind -/
abbrev gGP : Type := State × va_G × (Nat → ClassId)
def gkty : Nat → FieldType := fun k => match k with
  | 0 => .int
  | 1 => .byte
  | 2 => .long
  | 3 => .boolean
  | 4 => .char
  | _ => .object "java/lang/Object"
def gtys (g : gGP) : List (ClassId × FieldType) := [(g.2.2 0, gkty 0), (g.2.2 1, gkty 1), (g.2.2 2, gkty 2), (g.2.2 3, gkty 3), (g.2.2 4, gkty 4), (g.2.2 5, gkty 5)]
def gE (g : gGP) (e : va_E) : va_E := match e with
  | .inl a => .inl (g.2.2 a.1, a.2)
  | .inr o => .inr o
def gRel (g : gGP) (c : gLH) (H : Heap) : Prop := (∀ (a r : Nat) (e : va_E), c a = some (r, e) → va_at g.2.1 gcl (a, gE g e) H ∧ (r < gSB → g.1.heap.size ≤ a)) ∧ g.1.heap.size ≤ H.size ∧ (∀ q : Nat, q < g.1.heap.size → H[q]? = g.1.heap[q]?) ∧ ∀ (a : Nat) (e : va_E), c a = some (gFr, e) → g.1.heap.size ≤ a ∧ ∃ cell : Cell, H[a]? = some cell ∧ cell.monitor.owner = none ∧ cell.monitor.count = 0
def gK (l : Launch) (g : gGP) : Prop := l.flags = pinnedFlags ++ [noTraceFlag] ∧ (∀ w ∈ lw_tbl, w.onTables = true → va_Nw w g.1) ∧ (∀ w ∈ lw_all, w.before #[] g.1 = true) ∧ va_K g.2.1 gcl (gtys g) g.1
abbrev gFx : Type := (Program × Launch × Env × Room) × (State × MethodId × Array Value × List Frame) × (Method × Code) × gGP
/-- the locals that are known, the latest first; a later one hides an earlier one -/
def lget : List (Nat × Value) → Nat → Option Value
  | [], _ => none
  | q :: t, j => if j = q.1 then some q.2 else if q.2.category = 2 ∧ j = q.1 + 1 then none else
      match lget t j with
      | some w => if w.category = 2 ∧ j + 1 = q.1 then none else some w
      | none => none
def gLv (ls : Array Slot) (nL : Nat) (lv : List (Nat × Value)) : Prop := ls.size = nL ∧ lv_wf ls ∧ ∀ (i : Nat) (v : Value), lget lv i = some v → ls[i]? = some (.val v)
def G (φ : gFx) (Q : State → Prop) (pc : Nat) (lv : List (Nat × Value)) (st : List Value) (c : gLH) (ce sl : Nat) : Prop :=
  ∀ (H : Heap) (locs : List Loc) (ls : Array Slot), gRel φ.2.2.2 c H → (∀ q ∈ locs, φ.2.2.2.1.heap.size ≤ q.base) → gLv ls φ.2.2.1.2.maxLocals lv →
    W φ.1.1 φ.1.2.1 φ.1.2.2.1 φ.1.2.2.2 φ.2.1.1 φ.2.1.2.1 φ.2.1.2.2.1 φ.2.1.2.2.2 φ.2.2.1.1 φ.2.2.1.2 H locs ce sl Q (F0 φ.2.1.2.1 pc ls st)
/-- a walk where a is being thrown, from the frame at pc -/
def GT (φ : gFx) (Q : State → Prop) (pc : Nat) (lv : List (Nat × Value)) (a : Nat) (c : gLH) (ce sl : Nat) : Prop :=
  ∀ (H : Heap) (locs : List Loc) (ls : Array Slot) (st : List Value), gRel φ.2.2.2 c H → (∀ q ∈ locs, φ.2.2.2.1.heap.size ≤ q.base) → gLv ls φ.2.2.1.2.maxLocals lv →
    ∀ T : State, T.heap = H → Stand φ.1.1 φ.1.2.1 φ.1.2.2.1 φ.1.2.2.2 φ.2.1.1 φ.2.1.2.1 φ.2.1.2.2.1 φ.2.1.2.2.2 φ.2.2.1.1 φ.2.2.1.2 T locs ce sl →
      ∃ t, Steps φ.1.1.tables φ.1.2.2.1 φ.2.1.2.2.2 ((T.setTop (F0 φ.2.1.2.1 pc ls st)).pushFrame (.throwing a)) t ∧ Q t
/-- what is fixed in a method's walk -/
def gOK (φ : gFx) (l : Launch) (g : gGP) (R : Room) (cc : ByteArray) (nL : Nat) (own mn : String) (ret : Option FieldType) (tbl : List (Nat × Nat × Nat × Nat)) : Prop :=
  φ.1.2.1 = l ∧ φ.2.2.2 = g ∧ φ.1.2.2.2 = R ∧ φ.1.1.tables.exec = Jvm.exec ∧ φ.2.2.1.2.code = cc ∧ φ.2.2.1.2.maxLocals = nL ∧ φ.2.1.1.vm.findClass own = some φ.2.1.2.1.cls ∧ φ.2.2.1.1.sig.returnType = ret ∧ φ.2.2.1.1.locks = false ∧ gK l g ∧ g.1.WarmedH φ.2.1.1.vm ∧
    φ.2.2.1.2.exceptionTable.toList.map (fun x => (x.startPc, x.endPc, x.handlerPc, x.catchType)) = tbl ∧ φ.2.2.1.1.name = mn ∧ ∀ q : Nat, q < g.1.heap.size → φ.2.1.1.heap[q]? = g.1.heap[q]?
/-- the end of a method -/
def gQ (φ : gFx) (Post : Outcome → gLH → Prop) (mc ms : Nat) : State → Prop := fun t =>
  ∃ o, t.status = .running ∧ Ended t φ.2.1.2.2.2 o ∧ (∃ c', gRel φ.2.2.2 c' t.heap ∧ Post o c') ∧ φ.2.1.1.WarmedH t.vm ∧ ∃ L, φ.2.1.1.sameButNew ({ t with vm := φ.2.1.1.vm } : State) L mc ms ∧ ∀ q ∈ L, φ.2.2.2.1.heap.size ≤ q.base
/-- A CONTRACT: with the arguments as in the logical heap c, room and words given, y ends, and 'Post outcome heap'; hw: its code's word -/
def Ct (l : Launch) (g : gGP) (y : MethodName) (hw : Cond) (fr lo : Nat) (as : List Value) (c : gLH) (mc ms : Nat) (Post : Outcome → gLH → Prop) : Prop :=
  MetFree l y (headSpec (hw :: lw_all) { frames := fr, cells := mc, slots := ms, locals := lo }) (fun av U => av = as.toArray ∧ g.1.WarmedH U.vm ∧ gRel g c U.heap) (fun _ _ _ _ _ => True)
    (fun _ st o t => (∃ c', gRel g c' t.heap ∧ Post o c') ∧ st.WarmedH t.vm ∧ ∃ L, st.sameButNew ({ t with vm := st.vm } : State) L mc ms ∧ ∀ q ∈ L, g.1.heap.size ≤ q.base)
theorem gLv.at {ls : Array Slot} {nL : Nat} {lv : List (Nat × Value)} (h : gLv ls nL lv) {i : Nat} {v : Value} (hi : lget lv i = some v) : ls[i]? = some (.val v) := h.2.2 i v hi
theorem gLv.has {ls : Array Slot} {nL : Nat} {lv : List (Nat × Value)} (h : gLv ls nL lv) : lv_has ls nL [] := ⟨h.1, h.2.1, fun _ q => by cases q⟩
theorem gLv.store1 {ls : Array Slot} {nL : Nat} {lv : List (Nat × Value)} {i : Nat} {v : Value} (h : gLv ls nL lv) (hi : i < nL) (hc : v.category = 1) : ∃ ls', storeLocals ls i v = some ls' ∧ gLv ls' nL ((i, v) :: lv) := by
  obtain ⟨ls', e, h'⟩ := lv_store1 h.has hi hc
  refine ⟨ls', e, h'.1, h'.2.1, fun j w hj => ?_⟩
  have hc2 : ¬ v.category = 2 := by omega
  simp only [lget] at hj
  by_cases a : j = i
  · subst a
    rw [if_pos rfl] at hj
    cases hj
    exact h'.2.2 (j, v) List.mem_cons_self
  · rw [if_neg a, if_neg (fun q => hc2 q.1)] at hj
    cases hl : lget lv j with
    | none => rw [hl] at hj; cases hj
    | some u =>
      rw [hl] at hj
      by_cases b : u.category = 2 ∧ j + 1 = i
      · simp [b.1, b.2] at hj
      · have hj : some u = some w := by
          have : (if u.category = 2 ∧ j + 1 = i then none else some u) = some w := hj
          rwa [if_neg b] at this
        have hj := Option.some.inj hj
        subst hj
        obtain ⟨ls2, e2, h2⟩ := lv_store1 (l := [(j, u)]) (v := v) ⟨h.1, h.2.1, fun q hq => by rw [List.mem_singleton] at hq; subst hq; exact h.2.2 j u hl⟩ hi hc
        cases e.symm.trans e2
        refine h2.2.2 (j, u) (List.mem_cons_of_mem _ (List.mem_filter.mpr ⟨List.mem_singleton.mpr rfl, ?_⟩))
        simp only [Bool.and_eq_true, Bool.not_eq_true', beq_eq_false_iff_ne, ne_eq, Bool.and_eq_false_iff]
        refine ⟨a, ?_⟩
        by_cases z : j + 1 = i
        · exact Or.inr (fun q => b ⟨q, z⟩)
        · exact Or.inl z
theorem gLv.store2 {ls : Array Slot} {nL : Nat} {lv : List (Nat × Value)} {i : Nat} {v : Value} (h : gLv ls nL lv) (hi : i + 1 < nL) (hc : v.category = 2) : ∃ ls', storeLocals ls i v = some ls' ∧ gLv ls' nL ((i, v) :: lv) := by
  obtain ⟨ls', e, h'⟩ := lv_store2 h.has hi hc
  refine ⟨ls', e, h'.1, h'.2.1, fun j w hj => ?_⟩
  simp only [lget] at hj
  by_cases a : j = i
  · subst a
    rw [if_pos rfl] at hj
    cases hj
    exact h'.2.2 (j, v) List.mem_cons_self
  · rw [if_neg a] at hj
    by_cases a2 : j = i + 1
    · rw [if_pos ⟨hc, a2⟩] at hj
      cases hj
    · rw [if_neg (fun q => a2 q.2)] at hj
      cases hl : lget lv j with
      | none => rw [hl] at hj; cases hj
      | some u =>
        rw [hl] at hj
        by_cases b : u.category = 2 ∧ j + 1 = i
        · simp [b.1, b.2] at hj
        · have hj : some u = some w := by
            have : (if u.category = 2 ∧ j + 1 = i then none else some u) = some w := hj
            rwa [if_neg b] at this
          have hj := Option.some.inj hj
          subst hj
          obtain ⟨ls2, e2, h2⟩ := lv_store2 (l := [(j, u)]) (v := v) ⟨h.1, h.2.1, fun q hq => by rw [List.mem_singleton] at hq; subst hq; exact h.2.2 j u hl⟩ hi hc
          cases e.symm.trans e2
          refine h2.2.2 (j, u) (List.mem_cons_of_mem _ (List.mem_filter.mpr ⟨List.mem_singleton.mpr rfl, ?_⟩))
          simp only [Bool.and_eq_true, Bool.not_eq_true', beq_eq_false_iff_ne, ne_eq, Bool.and_eq_false_iff]
          refine ⟨a, a2, ?_⟩
          by_cases z : j + 1 = i
          · exact Or.inr (fun q => b ⟨q, z⟩)
          · exact Or.inl z
/-- fewer locals -/
def lsub (lv : List (Nat × Value)) : List (Nat × Value) → Prop
  | [] => True
  | q :: t => lget lv q.1 = some q.2 ∧ lsub lv t
theorem lsub_at {lv lv' : List (Nat × Value)} (h : lsub lv lv') : ∀ (i : Nat) (v : Value), lget lv' i = some v → lget lv i = some v := by
  induction lv' with
  | nil => intro i v hi; cases hi
  | cons q t ih =>
    intro i v hi
    simp only [lget] at hi
    by_cases a : i = q.1
    · rw [if_pos a] at hi
      cases hi
      rw [a]
      exact h.1
    · rw [if_neg a] at hi
      by_cases b : q.2.category = 2 ∧ i = q.1 + 1
      · rw [if_pos b] at hi
        cases hi
      · rw [if_neg b] at hi
        cases hl : lget t i with
        | none => rw [hl] at hi; cases hi
        | some u =>
          rw [hl] at hi
          have : (if u.category = 2 ∧ i + 1 = q.1 then none else some u) = some v := hi
          split at this
          · cases this
          · cases this
            exact ih h.2 i _ hl
theorem gLv.sub {ls : Array Slot} {nL : Nat} {lv lv' : List (Nat × Value)} (h : gLv ls nL lv) (hs : lsub lv lv') : gLv ls nL lv' := ⟨h.1, h.2.1, fun i v hi => h.2.2 i v (lsub_at hs i v hi)⟩
section GBASE
variable {φ : gFx} {Q : State → Prop} {pc : Nat} {lv lv' : List (Nat × Value)} {st : List Value} {c : gLH} {ce sl : Nat}
theorem G.locals (hs : lsub lv lv') (k : G φ Q pc lv' st c ce sl) : G φ Q pc lv st c ce sl := fun H locs ls hr hl hv => k H locs ls hr hl (hv.sub hs)
theorem G.up {ce' sl' : Nat} (h1 : ce ≤ ce') (h2 : sl ≤ sl') (k : G φ Q pc lv st c ce' sl') : G φ Q pc lv st c ce sl := fun H locs ls hr hl hv => W.widen h1 h2 (k H locs ls hr hl hv)
theorem G.stack {st' : List Value} (e : st = st') (k : G φ Q pc lv st' c ce sl) : G φ Q pc lv st c ce sl := e ▸ k
theorem G.heap {c' : gLH} (e : c = c') (k : G φ Q pc lv st c' ce sl) : G φ Q pc lv st c ce sl := e ▸ k
theorem G.at_ {pc' : Nat} (e : pc = pc') (k : G φ Q pc' lv st c ce sl) : G φ Q pc lv st c ce sl := e ▸ k
theorem G.int {x y : Int32} (e : x = y) (k : G φ Q pc lv (.int y :: st) c ce sl) : G φ Q pc lv (.int x :: st) c ce sl := e ▸ k
theorem G.long {x y : Int64} (e : x = y) (k : G φ Q pc lv (.long y :: st) c ce sl) : G φ Q pc lv (.long x :: st) c ce sl := e ▸ k
theorem G.int2 {x y : Int32} {v : Value} (e : x = y) (k : G φ Q pc lv (v :: .int y :: st) c ce sl) : G φ Q pc lv (v :: .int x :: st) c ce sl := e ▸ k
theorem G.topi {x : Int32} (k : ∀ y : Int32, y = x → G φ Q pc lv (.int y :: st) c ce sl) : G φ Q pc lv (.int x :: st) c ce sl := k x rfl
theorem G.topl {x : Int64} (k : ∀ y : Int64, y = x → G φ Q pc lv (.long y :: st) c ce sl) : G φ Q pc lv (.long x :: st) c ce sl := k x rfl
end GBASE
