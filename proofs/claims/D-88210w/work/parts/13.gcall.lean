/-! MY KIT, 4: a contract out of a walk; calls by contract, with both outcomes; what is thrown -/
set_option maxRecDepth 100000
theorem lget_mem {lv : List (Nat × Value)} {i : Nat} {v : Value} (h : lget lv i = some v) : (i, v) ∈ lv := by
  induction lv with
  | nil => cases h
  | cons q t ih =>
    simp only [lget] at h
    by_cases a : i = q.1
    · rw [if_pos a] at h
      cases h
      rw [a]
      exact List.mem_cons_self
    · rw [if_neg a] at h
      by_cases b : q.2.category = 2 ∧ i = q.1 + 1
      · rw [if_pos b] at h
        cases h
      · rw [if_neg b] at h
        cases hl : lget t i with
        | none => rw [hl] at h; cases h
        | some u =>
          rw [hl] at h
          have : (if u.category = 2 ∧ i + 1 = q.1 then none else some u) = some v := h
          split at this
          · cases this
          · cases this
            exact List.mem_cons_of_mem _ (ih hl)
def gIsCode (hw : Cond) (y : MethodName) (bytes : ByteArray) (maxL : Nat) (ret : Option FieldType) (hh : List (Nat × Nat × Nat × Nat)) : Prop := (hw = .code y bytes maxL ret ∧ hh = []) ∨ hw = .codeWith y bytes maxL ret hh
theorem gIsCode.spec {hw : Cond} {y : MethodName} {bytes : ByteArray} {maxL : Nat} {ret : Option FieldType} {hh : List (Nat × Nat × Nat × Nat)} (h : gIsCode hw y bytes maxL ret hh) {args : Array Value} {s : State} (hb : hw.before args s = true) :
    ∃ m meth c, s.methodNamed? y = some m ∧ s.vm.method? m = some meth ∧ meth.code = some c ∧ c.code = bytes ∧ c.maxLocals = maxL ∧ meth.sig.returnType = ret ∧ meth.locks = false ∧ c.exceptionTable.toList.map (fun x => (x.startPc, x.endPc, x.handlerPc, x.catchType)) = hh ∧ parseMethodDescriptor y.desc = some meth.sig := by
  rcases h with ⟨rfl, rfl⟩ | rfl
  · obtain ⟨m, hn⟩ := Cond.code_named hb
    obtain ⟨meth, c, h1, h2, h3, h4, h5, h6, h7, h8⟩ := Cond.code_spec hn hb
    refine ⟨m, meth, c, hn, h1, h2, h3, h4, h5, h6, ?_, h8⟩
    have h0 : c.exceptionTable.size = 0 := by simpa [Array.isEmpty] using h7
    have h1 : c.exceptionTable.toList = [] := List.eq_nil_of_length_eq_zero (by simpa using h0)
    rw [h1]
    rfl
  · obtain ⟨m, meth, c, h0, h1, h2, h3, h4, h5, h6, h7, h8⟩ := Cond.codeWith_spec hb
    exact ⟨m, meth, c, h0, h1, h2, h3, h4, h6, h7, h5, h8⟩
theorem Ct.intro {l : Launch} {g : gGP} {y : MethodName} {hw : Cond} {cc : ByteArray} {maxL : Nat} {ret : Option FieldType} {hh : List (Nat × Nat × Nat × Nat)} {fr lo mc ms : Nat} {as : List Value} {c : gLH} {Post : Outcome → gLH → Prop} (hk : gK l g) (hcw : gIsCode hw y cc maxL ret hh) (hy : plainName y.cls = true) (hn : (lg_sl as).length ≤ maxL)
    (body : ∀ φ : gFx, gOK φ l g { frames := fr, cells := mc, slots := ms, locals := lo } cc maxL y.cls y.name ret hh → G φ (gQ φ Post mc ms) 0 (lv_args 0 as) [] c 0 0) : Ct l g y hw fr lo as c mc ms Post := by
  refine MetFree.of_bodyS (code := cc) (maxLocals := maxL) (ret := ret) hy ?_ ?_
  · intro args s m h hn
    obtain ⟨m9, meth, c, hn9, h1, h2, h3, h4, h5, h6, -, -⟩ := hcw.spec (atoms_spec (ws := hw :: lw_all) h _ List.mem_cons_self)
    cases hn.symm.trans hn9
    exact ⟨meth, c, h1, h2, h3, h4, h5, h6⟩
  · intro p e s m args below meth cd s₁ B hml hP _
    obtain ⟨rfl, hwm, hrel⟩ := hP
    have hh0 : s₁.heap = s.heap := by rw [B.state]; rfl
    obtain ⟨m9, meth9, c9, hn9, h1, h2, -, -, -, -, h7, -⟩ := hcw.spec (atoms_spec (ws := hw :: lw_all) B.pre _ List.mem_cons_self)
    cases B.named.symm.trans hn9
    cases B.method.symm.trans h1
    cases (Stand.of_body B).code.symm.trans h2
    have hok : gOK ((p, l, e, { frames := fr, cells := mc, slots := ms, locals := lo }), (s, m, as.toArray, below), (meth, cd), g) l g { frames := fr, cells := mc, slots := ms, locals := lo } cc maxL y.cls y.name ret hh :=
      ⟨rfl, rfl, rfl, B.exec, B.bytes, hml, findClass_of_methodNamed B.named, B.returns, B.notSynchronized, hk, hwm, h7, (name_of_methodNamed B.named B.method).1, fun q hq => hrel.2.2.1 q hq⟩
    have hl := lv_entry as (n := maxL) hn
    have hlv : gLv ((lg_sl as ++ List.replicate (maxL - (lg_sl as).length) Slot.unset).toArray) cd.maxLocals (lv_args 0 as) := ⟨by rw [hml]; exact hl.1, hl.2.1, fun i v hi => hl.2.2 (i, v) (lget_mem hi)⟩
    obtain ⟨t, a1, o, b1, b2, b3, b4, b5⟩ := body _ hok s.heap [] _ hrel (fun q hq => by cases hq) hlv s₁ hh0 (Stand.of_body B)
    rw [lg_entry_eq]
    exact ⟨t, o, a1, b1, b2, b3, b4, b5⟩
/-- a call by contract, from where the callee is entered: it returns, or it throws -/
theorem gcall {p : Program} {l : Launch} {e : Env} {R : Room} {s : State} {m : MethodId} {sargs : Array Value} {below : List Frame} {meth : Method} {cd : Code} {T : State} {locs : List Loc} {cells slots : Nat} (X : Stand p l e R s m sargs below meth cd T locs cells slots)
    {g : gGP} {y : MethodName} {hw : Cond} {bytes : ByteArray} {maxL : Nat} {ret : Option FieldType} {hh : List (Nat × Nat × Nat × Nat)} (hcw : gIsCode hw y bytes maxL ret hh) {fr lo mc ms : Nat} {as : List Value} {c : gLH} {Post : Outcome → gLH → Prop} (hC : Ct l g y hw fr lo as c mc ms Post)
    (hk : gK l g) (hwm : g.1.WarmedH s.vm) (hwin : hw ∈ lw_all) (hini : Cond.initialized y.cls ∈ lw_all) (hrel : gRel g c T.heap)
    {gf : JFrame} {ig : Instr} {len : Nat} (hg : gf.method = m) (hsize : gf.locals.size = cd.maxLocals) (hdg : decode cd.code gf.pc = .ok (ig, len)) (hW : 2 * gf.monitorRoom + (gf.stack.map fun v => v.category).sum ≤ 8) {mk : MethodId} (hn : T.methodNamed? y = some mk)
    (hfr : fr + 1 ≤ R.frames) (hlo : 8 + (maxL + 11) + lo ≤ R.locals) (hce : cells + mc ≤ R.cells) (hsl : slots + ms ≤ R.slots) :
    (∃ (v : Option Value) (c' : gLH) (T' : State) (L : List Loc), Stand p l e R s m sargs below meth cd T' (locs ++ L) (cells + mc) (slots + ms) ∧ (∀ q ∈ L, g.1.heap.size ≤ q.base) ∧ gRel g c' T'.heap ∧ Post (.returned v) c' ∧
      Steps p.tables e below (doInvoke e (T.setTop gf) [] mk as.toArray).1 (T'.setTop { gf with pc := gf.pc + len, stack := v.toList ++ gf.stack })) ∨
    (∃ (a : Nat) (c' : gLH) (T' : State) (L : List Loc), Stand p l e R s m sargs below meth cd T' (locs ++ L) (cells + mc) (slots + ms) ∧ (∀ q ∈ L, g.1.heap.size ≤ q.base) ∧ gRel g c' T'.heap ∧ Post (.threw a) c' ∧
      Steps p.tables e below (doInvoke e (T.setTop gf) [] mk as.toArray).1 ((T'.setTop gf).pushFrame (.throwing a))) := by
  have hwT : g.1.WarmedH T.vm := State.WarmedH.trans hwm X.warmed
  have ok : ∀ w ∈ lw_all, ∀ a', w.before a' T = true := fun w hw a' => word_at hwT (lw_self w hw).2 (hk.2.2.1 w hw)
  have hpre : (allAtoms (hw :: lw_all)).before as.toArray T = true := atoms_intro fun w hw' => by
    rcases List.mem_cons.mp hw' with h | h
    · rw [h]; exact ok _ hwin _
    · exact ok _ h _
  obtain ⟨m9, methY, cY, hn9, hmY, hcY, -, hlY, -⟩ := hcw.spec (ok _ hwin as.toArray)
  cases hn.symm.trans hn9
  obtain ⟨kY, hkY, -⟩ := className_of_methodNamed hn
  have hinitY : kY.init = .initialized := Cond.initialized_spec (findClass_of_methodNamed hn) hkY (ok _ hini #[])
  have h : At T gf.method cd below := by rw [hg]; exact X.here
  have happ : (headSpec (hw :: lw_all) { frames := fr, cells := mc, slots := ms, locals := lo }).appliesLoose y e.platform (T.calling gf mk as.toArray) = true :=
    Spec.appliesLoose_calling (g := gf) h hdg hn hkY hinitY
      (X.room_calling (g := gf) (R' := { frames := fr, cells := mc, slots := ms, locals := lo }) hsize hmY hcY hfr (by rw [hlY]; simp only; omega) hce hsl) hpre
  obtain ⟨mid, hmid⟩ := h.above
  have hfrs : (T.setTop gf).frames = (.java gf :: mid) ++ below := by rw [State.frames_setTop' gf h.top, hmid]; rfl
  obtain ⟨o, s₂, hsteps, -, hend, hq⟩ := Steps.callFree hC p X.admits X.cas X.clock (acts := []) hfrs happ ⟨rfl, hwT, hrel⟩ trivial
  have hq' : (∃ c', gRel g c' s₂.heap ∧ Post o c') ∧ (T.calling gf mk as.toArray).WarmedH s₂.vm ∧ ∃ L, (T.calling gf mk as.toArray).sameButNew ({ s₂ with vm := (T.calling gf mk as.toArray).vm } : State) L mc ms ∧ ∀ q ∈ L, g.1.heap.size ≤ q.base := hq
  obtain ⟨⟨c', hrel', hpost⟩, hW₂, L, ⟨e2, q2, q3, q4, q5, q6⟩, hL⟩ := hq'
  rw [State.frames_setTop' gf h.top] at hend
  have e3 : s₂ = ({ (T.calling gf mk as.toArray).setFrames s₂.frames with heap := s₂.heap, slotsUsed := s₂.slotsUsed } : State).setVm s₂.vm := by
    have : s₂ = ({ s₂ with vm := (T.calling gf mk as.toArray).vm } : State).setVm s₂.vm := rfl
    rw [e2] at this
    exact this
  have hW' : T.WarmedH s₂.vm := hW₂
  obtain ⟨g₀, hg0⟩ := Option.isSome_iff_exists.mp h.top
  obtain ⟨r, hr⟩ := State.topJava?_eq_some.mp hg0
  have hsame : T.sameButNew ({ T with heap := s₂.heap, slotsUsed := s₂.slotsUsed } : State) L mc ms := by
    refine ⟨?_, q2, q3, q4, q5, q6⟩
    obtain ⟨t, ht, -⟩ := State.frames_cons hr
    show ({ T with heap := s₂.heap, slotsUsed := s₂.slotsUsed } : State) = { T.setFrames T.frames with heap := s₂.heap, slotsUsed := s₂.slotsUsed }
    rw [State.setFrames_self ht]
  have X' : Stand p l e R s m sargs below meth cd (({ T with heap := s₂.heap, slotsUsed := s₂.slotsUsed } : State).setVm s₂.vm) (locs ++ L) (cells + mc) (slots + ms) :=
    ⟨X.admits, X.cas, X.clock, X.frames, X.room, X.hears, X.method, X.code, (X.here.setHeapUsed s₂.heap s₂.slotsUsed).setVm hW'.alike, X.tail, State.WarmedH.trans X.warmed hW', X.limits, X.bytes, X.same.trans (hsame.setVm s.vm)⟩
  have hr' : (({ T with heap := s₂.heap, slotsUsed := s₂.slotsUsed } : State).setVm s₂.vm).frames = .java g₀ :: r := hr
  cases o with
  | returned v =>
    obtain ⟨c₂, i₂, len₂, hc₂, hd₂, hf₂⟩ := hend
    have hcc : c₂ = cd := by
      have h1 : s₂.code? gf.method = T.code? gf.method := by
        rw [State.code?_eq, State.code?_eq, hW'.alike.method?]
      exact Option.some.inj (hc₂.symm.trans (h1.trans h.code))
    subst hcc
    have hlen : len₂ = len := by rw [hdg] at hd₂; cases hd₂; rfl
    subst hlen
    have hs₂ : s₂ = (({ T with heap := s₂.heap, slotsUsed := s₂.slotsUsed } : State).setVm s₂.vm).setTop { gf with pc := gf.pc + len₂, stack := v.toList ++ gf.stack } := by
      refine e3.trans ?_
      rw [hf₂, State.calling_eq h.top, State.setFrames_setFrames, State.setTop_of_frames _ hr', hr]
      rfl
    refine Or.inl ⟨v, c', _, L, X', hL, hrel', hpost, ?_⟩
    rw [← hs₂]
    exact hsteps
  | threw a =>
    have hend : s₂.frames = .throwing a :: .java gf :: T.frames.tail := hend
    have hs₂ : s₂ = ((({ T with heap := s₂.heap, slotsUsed := s₂.slotsUsed } : State).setVm s₂.vm).setTop gf).pushFrame (.throwing a) := by
      refine e3.trans ?_
      rw [hend, State.calling_eq h.top, State.setFrames_setFrames, State.pushFrame, State.frames_setTop _ hr', State.setTop_of_frames _ hr', State.setFrames_setFrames, hr]
      rfl
    refine Or.inr ⟨a, c', _, L, X', hL, hrel', hpost, ?_⟩
    rw [← hs₂]
    exact hsteps
section GCALL
variable {φ : gFx} {Q : State → Prop} {pc : Nat} {lv : List (Nat × Value)} {st st0 : List Value} {c : gLH} {ce sl : Nat} {l : Launch} {g : gGP} {R : Room} {cc : ByteArray} {nL : Nat} {own mn : String} {ret : Option FieldType} {tbl : List (Nat × Nat × Nat × Nat)}
variable {y : MethodName} {hw : Cond} {bytes : ByteArray} {maxL : Nat} {ret' : Option FieldType} {hh : List (Nat × Nat × Nat × Nat)} {fr lo mc ms idx : Nat} {as : List Value} {Post : Outcome → gLH → Prop}
/-- what goes on behind a call -/
def gKR (φ : gFx) (Q : State → Prop) (pc : Nat) (lv : List (Nat × Value)) (st : List Value) (ce sl : Nat) (Post : Outcome → gLH → Prop) : Prop := ∀ (v : Option Value) (c' : gLH), Post (.returned v) c' → G φ Q pc lv (v.toList ++ st) c' ce sl
def gKT (φ : gFx) (Q : State → Prop) (pc : Nat) (lv : List (Nat × Value)) (ce sl : Nat) (Post : Outcome → gLH → Prop) : Prop := ∀ (a : Nat) (c' : gLH), Post (.threw a) c' → GT φ Q pc lv a c' ce sl
def gNotMH (y : MethodName) : Prop := y.cls ≠ "java/lang/invoke/MethodHandle" ∧ y.cls ≠ "java/lang/invoke/VarHandle"
theorem gcat {φ : gFx} {ls : Array Slot} (h : (st.map fun v => v.category).sum ≤ 8) : 2 * (F0 φ.2.1.2.1 pc ls st).monitorRoom + ((F0 φ.2.1.2.1 pc ls st).stack.map fun v => v.category).sum ≤ 8 := by
  show 2 * 0 + (st.map fun v => v.category).sum ≤ 8
  omega
theorem gmore {L locs : List Loc} {b : Nat} (h1 : ∀ q ∈ locs, b ≤ q.base) (h2 : ∀ q ∈ L, b ≤ q.base) : ∀ q ∈ locs ++ L, b ≤ q.base := by
  intro q hq
  rcases List.mem_append.mp hq with h | h
  · exact h1 q h
  · exact h2 q h
/-- the common end of all invocations -/
theorem ginv (h : gOK φ l g R cc nL own mn ret tbl) (hcw : gIsCode hw y bytes maxL ret' hh) (hC : Ct l g y hw fr lo as c mc ms Post) (hwin : hw ∈ lw_all) (hini : Cond.initialized y.cls ∈ lw_all) {ig : Instr} {len : Nat} (hd : decode cc pc = .ok (ig, len)) (hcat : (st.map fun v => v.category).sum ≤ 8)
    (hfr : fr + 1 ≤ R.frames) (hlo : 8 + (maxL + 11) + lo ≤ R.locals) (hce : ce + mc ≤ R.cells) (hsl : sl + ms ≤ R.slots) (kr : gKR φ Q (pc + len) lv st (ce + mc) (sl + ms) Post) (kt : gKT φ Q pc lv (ce + mc) (sl + ms) Post)
    {H : Heap} {locs : List Loc} {ls : Array Slot} (hr : gRel φ.2.2.2 c H) (hl : ∀ q ∈ locs, φ.2.2.2.1.heap.size ≤ q.base) (hv : gLv ls φ.2.2.1.2.maxLocals lv) {T : State} (hT : T.heap = H) {mk : MethodId} {vm₁ : Vm}
    (X₁ : Stand φ.1.1 φ.1.2.1 φ.1.2.2.1 φ.1.2.2.2 φ.2.1.1 φ.2.1.2.1 φ.2.1.2.2.1 φ.2.1.2.2.2 φ.2.2.1.1 φ.2.2.1.2 (T.setVm vm₁) locs ce sl) (hn : (T.setVm vm₁).methodNamed? y = some mk)
    (hstep : ∀ target, (∀ acts, Steps φ.1.1.tables φ.1.2.2.1 φ.2.1.2.2.2 (doInvoke φ.1.2.2.1 ((T.setVm vm₁).setTop (F0 φ.2.1.2.1 pc ls st)) acts mk as.toArray).1 target) → Steps φ.1.1.tables φ.1.2.2.1 φ.2.1.2.2.2 (T.setTop (F0 φ.2.1.2.1 pc ls st0)) target) :
    ∃ t, Steps φ.1.1.tables φ.1.2.2.1 φ.2.1.2.2.2 (T.setTop (F0 φ.2.1.2.1 pc ls st0)) t ∧ Q t := by
  subst hT
  have hl0 : φ.1.2.1 = l := h.1
  have hR0 : φ.1.2.2.2 = R := h.2.2.1
  subst hl0
  subst hR0
  have hg0 := h.g_
  subst hg0
  rcases gcall X₁ hcw hC h.k h.warm hwin hini (show gRel φ.2.2.2 c (T.setVm vm₁).heap from hr) (gf := F0 φ.2.1.2.1 pc ls st) rfl hv.1 (by rw [h.code]; exact hd) (gcat hcat) hn hfr hlo hce hsl with ⟨v, c', T', L, X', hL, hrel', hp, hs⟩ | ⟨a, c', T', L, X', hL, hrel', hp, hs⟩
  · obtain ⟨t, a1, b1⟩ := kr v c' hp T'.heap (locs ++ L) ls hrel' (gmore hl hL) hv T' rfl X'
    exact ⟨t, hstep t fun acts => by rw [doInvoke_state]; exact hs.trans a1, b1⟩
  · obtain ⟨t, a1, b1⟩ := kt a c' hp T'.heap (locs ++ L) ls st hrel' (gmore hl hL) hv T' rfl X'
    exact ⟨t, hstep t fun acts => by rw [doInvoke_state]; exact hs.trans a1, b1⟩
/-- a static call's words -/
def gWS (own : String) (idx : Nat) (y : MethodName) (hw : Cond) (n : Nat) : Prop := Cond.methodLink own idx y ∈ lw_all ∧ Cond.static y ∈ lw_all ∧ Cond.initialized y.cls ∈ lw_all ∧ hw ∈ lw_all ∧ gNotMH y ∧ (parseMethodDescriptor y.desc).map (fun d => d.parameters.length) = some n
theorem glen {y : MethodName} {n : Nat} (h : (parseMethodDescriptor y.desc).map (fun d => d.parameters.length) = some n) : ∀ sig, parseMethodDescriptor y.desc = some sig → n = sig.parameters.length := fun sig hs => by
  rw [hs] at h
  exact (Option.some.inj h).symm
theorem g_invS (h : gOK φ l g R cc nL own mn ret tbl) (hC : Ct l g y hw fr lo as c mc ms Post) (hcw : gIsCode hw y bytes maxL ret' hh) {n : Nat} (w : gWS own idx y hw n) (hn : as.length = n) (hst : st0 = as.reverse ++ st) (hcat : (st.map fun v => v.category).sum ≤ 8)
    (hR : fr + 1 ≤ R.frames ∧ 8 + (maxL + 11) + lo ≤ R.locals) (hM : ce + mc ≤ R.cells ∧ sl + ms ≤ R.slots) (hd : decode cc pc = .ok (.invokestatic idx, 3)) (kr : gKR φ Q (pc + 3) lv st (ce + mc) (sl + ms) Post) (kt : gKT φ Q pc lv (ce + mc) (sl + ms) Post) : G φ Q pc lv st0 c ce sl := by
  intro H locs ls hr hl hv T hT X
  obtain ⟨w1, w2, w3, w4, w5, w6⟩ := w
  obtain ⟨mk, methM, cM, hnamed, hmethM, -, -, -, -, -, -, hsigM⟩ := hcw.spec (h.word w4 (a := #[]))
  have hstatic : methM.isStatic = true := Cond.static_spec hnamed hmethM (h.word w2 (a := #[]))
  obtain ⟨kP, hkP, -⟩ := className_of_methodNamed hnamed
  have hinitP : kP.init = .initialized := Cond.initialized_spec (findClass_of_methodNamed hnamed) hkP (h.word w3 (a := #[]))
  obtain ⟨vm₁, X₁, hstep₁⟩ := X.invokestatic h.exec h.own_ (h.word w1) hnamed hmethM hstatic hkP hinitP w5 (g := F0 φ.2.1.2.1 pc ls st0) rfl (argsL := as) (rest := st) (by rw [hn]; exact glen w6 _ hsigM) hst (by rw [h.code]; exact hd)
  exact ginv h hcw hC w4 w3 hd hcat hR.1 hR.2 hM.1 hM.2 kr kt hr hl hv hT X₁ (X₁.named hnamed) hstep₁
/-- a call through an object, the method of its own class -/
def gWV (own : String) (idx ci : Nat) (y : MethodName) (hw : Cond) (n : Nat) : Prop := (∃ q : vw_C, gcl[ci]? = some q ∧ Cond.selects q.1 y y ∈ lw_all) ∧ Cond.methodLink own idx y ∈ lw_all ∧ Cond.instanceMethod y ∈ lw_all ∧ Cond.initialized y.cls ∈ lw_all ∧ hw ∈ lw_all ∧ gNotMH y ∧ (parseMethodDescriptor y.desc).map (fun d => d.parameters.length) = some n
theorem gOK.recv (h : gOK φ l g R cc nL own mn ret tbl) {H : Heap} {a r ci : Nat} {fs : List Value} {q : vw_C} (hr : gRel φ.2.2.2 c H) (hc : c a = some (r, .inr (ci, fs))) (hq : gcl[ci]? = some q) : ∃ cell : Cell, H[a]? = some cell ∧ cell.vm.isStatics = false ∧ φ.2.1.1.vm.findClass q.1 = some cell.cls := by
  obtain ⟨r', k1, cell, q1, q2, q3, -⟩ := (hr.1 a r _ hc).1
  refine ⟨cell, q1, by rw [q3]; rfl, ?_⟩
  rw [q2, h.g_]
  exact (h.K.1 ci _ hq).2.1
theorem g_invV (h : gOK φ l g R cc nL own mn ret tbl) {b r ci : Nat} {fs as' : List Value} (hC : Ct l g y hw fr lo (.ref b :: as') c mc ms Post) (hcw : gIsCode hw y bytes maxL ret' hh) {n : Nat} (w : gWV own idx ci y hw n) (hn : as'.length = n) (hst : st0 = as'.reverse ++ .ref b :: st) (hc : c b = some (r, .inr (ci, fs))) (hcat : (st.map fun v => v.category).sum ≤ 8)
    (hR : fr + 1 ≤ R.frames ∧ 8 + (maxL + 11) + lo ≤ R.locals) (hM : ce + mc ≤ R.cells ∧ sl + ms ≤ R.slots) (hd : decode cc pc = .ok (.invokevirtual idx, 3)) (kr : gKR φ Q (pc + 3) lv st (ce + mc) (sl + ms) Post) (kt : gKT φ Q pc lv (ce + mc) (sl + ms) Post) : G φ Q pc lv st0 c ce sl := by
  intro H locs ls hr hl hv T hT X
  obtain ⟨⟨q, hq, w0⟩, w1, w2, w3, w4, w5, w6⟩ := w
  obtain ⟨cellB, hcell, hobj, hcls⟩ := h.recv hr hc hq
  obtain ⟨mk, methM, hnamed, hmethM, hstM, habM⟩ := Cond.instanceMethod_spec (h.word w2 (a := #[]))
  have hsigM : parseMethodDescriptor y.desc = some methM.sig := by
    obtain ⟨m9, meth9, cM, hnamed9, hmeth9, -, -, -, -, -, -, hsig9⟩ := hcw.spec (h.word w4 (a := #[]))
    cases hnamed.symm.trans hnamed9
    cases hmethM.symm.trans hmeth9
    exact hsig9
  obtain ⟨c2, r2, m2, q1, q2, q3, q4, kP, hkP, hkPi⟩ := Cond.selects_spec (h.word w0 (a := #[]))
  cases hcls.symm.trans q1
  cases (State.methodFound?_of_named hnamed w5).symm.trans q2
  cases hnamed.symm.trans q3
  have hselP : selectMethod φ.1.2.2.1.platform φ.2.1.1.vm cellB.cls mk = .method mk := by rw [Launch.admits_selectMethod X.admits]; exact q4
  obtain ⟨vm₁, X₁, hstep₁⟩ := X.invokevirtual h.exec h.own_ (h.word w1) hnamed hmethM hstM hkP hkPi w5 (a := b) (cell := cellB) (by rw [hT]; exact hcell)
    (fun z hz => by rw [hz] at hobj; cases hobj) hselP hmethM habM hkP hkPi (g := F0 φ.2.1.2.1 pc ls st0) rfl (argsL := as') (rest := st) (by rw [hn]; exact glen w6 _ hsigM) hst (by rw [h.code]; exact hd)
  exact ginv h hcw hC w4 w3 hd hcat hR.1 hR.2 hM.1 hM.2 kr kt hr hl hv hT X₁ (X₁.named hnamed) hstep₁
/-- a constructor's call -/
def gWI (own : String) (idx : Nat) (y : MethodName) (hw : Cond) (n : Nat) : Prop := Cond.methodLink own idx y ∈ lw_all ∧ Cond.instanceMethod y ∈ lw_all ∧ Cond.initialized y.cls ∈ lw_all ∧ hw ∈ lw_all ∧ gNotMH y ∧ (parseMethodDescriptor y.desc).map (fun d => d.parameters.length) = some n ∧ y.name = "<init>"
theorem g_invI (h : gOK φ l g R cc nL own mn ret tbl) {b : Nat} {as' : List Value} (hC : Ct l g y (.code y bytes maxL none) fr lo (.ref b :: as') c mc ms Post) {n : Nat} (w : gWI own idx y (.code y bytes maxL none) n) (hn : as'.length = n) (hst : st0 = as'.reverse ++ .ref b :: st) (hcat : (st.map fun v => v.category).sum ≤ 8)
    (hR : fr + 1 ≤ R.frames ∧ 8 + (maxL + 11) + lo ≤ R.locals) (hM : ce + mc ≤ R.cells ∧ sl + ms ≤ R.slots) (hd : decode cc pc = .ok (.invokespecial idx, 3)) (kr : gKR φ Q (pc + 3) lv st (ce + mc) (sl + ms) Post) (kt : gKT φ Q pc lv (ce + mc) (sl + ms) Post) : G φ Q pc lv st0 c ce sl := by
  intro H locs ls hr hl hv T hT X
  obtain ⟨w1, w2, w3, w4, w5, w6, w7⟩ := w
  have hpl : φ.1.2.2.1.platform.magicAccessors = ({} : Platform).magicAccessors := by rw [X.admits.platform]
  obtain ⟨mk, methM, cM, kP, vm₁, hnamed, hmethM, hcodeM, -, hlocalsM, -, hkP, -, hW₁, hstep₁⟩ := Steps.initColdArgs (e := φ.1.2.2.1) X.here h.exec X.warmed hpl h.own_ w7 w5 (h.word w1 (a := #[])) (h.word w2 (a := #[])) (h.word w4 (a := #[])) (f := F0 φ.2.1.2.1 pc ls st0) rfl (argsL := as') (rest := st) (a := b) (fun sig hs => by rw [hn]; exact glen w6 sig hs) hst (by rw [h.code]; exact hd)
  have X₁ := X.noted hW₁
  exact ginv h (Or.inl ⟨rfl, rfl⟩) hC w4 w3 hd hcat hR.1 hR.2 hM.1 hM.2 kr kt hr hl hv hT X₁ (X₁.named hnamed) hstep₁
end GCALL
