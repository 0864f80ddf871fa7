/-! MY KIT, 18: what is thrown: athrow, out of the method, into a handler (cold or warm); Throwable's constructor -/
set_option maxRecDepth 100000
theorem go_links {E : CtlPost} {e : Env} {d : Bool} {acts : List Action} {s : State} {f : JFrame} {a : Addr} {Q : Handler → Pre} {x : ExceptionTableEntry} {t : List ExceptionTableEntry} {c : ClassId} {cell : Cell} {b : Bool} (hx : covers x f.pc = true) (h0 : x.catchType ≠ 0)
    (hl : s.vm.ClassLinks e.platform f.method.cls x.catchType c) (hcell : s.heap[a]? = some cell) (hobj : ∀ k, cell.vm ≠ .statics k)
    (hk : ∃ k, (s.vm.noted f.method.cls x.catchType (.cls c)).classes[cell.cls]? = some k) (hc : ∃ k, (s.vm.noted f.method.cls x.catchType (.cls c)).classes[c]? = some k) (hfit : (s.vm.noted f.method.cls x.catchType (.cls c)).assignable cell.cls c = b) :
    wp (findHandler.go f a (x :: t)) Q E e d acts s ↔
      if b = true then Q (.found x.handlerPc) d acts (s.setVm (s.vm.noted f.method.cls x.catchType (.cls c))) else wp (findHandler.go f a t) Q E e d acts (s.setVm (s.vm.noted f.method.cls x.catchType (.cls c))) := by
  simp only [covers] at hx
  obtain ⟨ha, ht⟩ := (resolveClass_links e.toSetting hl).op (op := VmOp.resolveClass f.method.cls x.catchType) rfl
  have hsz : (s.vm.noted f.method.cls x.catchType (.cls c)).classes.size ≤ s.vm.classes.size := by rw [Vm.size_note]; exact Nat.le_refl _
  cases b <;> simp [findHandler.go, hx, h0, ha, ht, hsz, hcell, hobj, hk, hc, hfit, VmOp.dirties, VmOp.acts]
/-- where the search of a handler for an object of class X ends -/
def gFind (own X : String) (g : gGP) (pc : Nat) : List (Nat × Nat × Nat × Nat) → Nat → Prop
  | [], _ => False
  | q :: t, r => (¬ (q.1 ≤ pc ∧ pc < q.2.1) ∧ gFind own X g pc t r) ∨
      ((q.1 ≤ pc ∧ pc < q.2.1) ∧ q.2.2.2 ≠ 0 ∧ ∃ C, Cond.classLink own q.2.2.2 C ∈ lw_all ∧ ((va_Nw (.castable X C) g.1 ∧ r = q.2.2.1) ∨ (va_Nc X C g.1 ∧ gFind own X g pc t r)))
section GTHROW
variable {φ : gFx} {Q : State → Prop} {pc : Nat} {lv : List (Nat × Value)} {st : List Value} {c : gLH} {ce sl : Nat} {l : Launch} {g : gGP} {R : Room} {cc : ByteArray} {nL : Nat} {own mn : String} {ret : Option FieldType} {tbl : List (Nat × Nat × Nat × Nat)}
theorem gfind (h : gOK φ l g R cc nL own mn ret tbl) {X : String} {a : Nat} {cell : Cell} {gf : JFrame} (hgf : gf.method = φ.2.1.2.1) (hcls : φ.2.1.1.vm.findClass X = some cell.cls) (hobj : cell.vm.isStatics = false) (hpl : φ.1.2.2.1.platform.magicAccessors = ({} : Platform).magicAccessors) {hp : Nat} :
    ∀ (es : List ExceptionTableEntry) (S : State), φ.2.1.1.WarmedH S.vm → S.heap[a]? = some cell → gFind own X g gf.pc (es.map (fun x => (x.startPc, x.endPc, x.handlerPc, x.catchType))) hp →
      ∃ vm', φ.2.1.1.WarmedH vm' ∧ ∀ (Q : Handler → Pre) (E : CtlPost) (d : Bool) (acts : List Action), wp (findHandler.go gf a es) Q E φ.1.2.2.1 d acts S ↔ Q (.found hp) d acts (S.setVm vm') := by
  intro es
  induction es with
  | nil => intro S _ _ hF; exact hF.elim
  | cons x t ih =>
    intro S hW hcell hF
    rcases hF with ⟨hn, hF⟩ | ⟨hcv, h0, C, hw, hy⟩
    · obtain ⟨vm', h1, h2⟩ := ih S hW hcell hF
      refine ⟨vm', h1, fun Q E d acts => ?_⟩
      have hx : covers x gf.pc = false := by
        cases hcx : covers x gf.pc with
        | false => rfl
        | true =>
          simp only [covers, Bool.and_eq_true, decide_eq_true_eq] at hcx
          exact absurd hcx hn
      rw [W.findHandler_go_skip hx]
      exact h2 Q E d acts
    · have hx : covers x gf.pc = true := by
        simp only [covers, Bool.and_eq_true, decide_eq_true_eq]
        exact hcv
      obtain ⟨c', hc', hcl⟩ := Cond.classLink_spec h.own_ (h.word hw (a := #[])) φ.1.2.2.1.platform hpl
      obtain ⟨dk, _, _, kt, hd, _, _, _, _, hkt, _, hopen⟩ := hcl.here
      have hW' : φ.2.1.1.WarmedH (S.vm.noted gf.method.cls x.catchType (.cls c')) := by rw [hgf]; exact hW.noted hd hopen (State.rightAt_cls hcl)
      have hl2 : S.vm.ClassLinks φ.1.2.2.1.platform gf.method.cls x.catchType c' := by rw [hgf]; exact hW.classLinks hcl
      obtain ⟨ks, hks, -⟩ := Vm.findClass_spec hcls
      obtain ⟨ks', hks', -⟩ := hW'.alike.2.2 _ _ hks
      obtain ⟨kt', hkt', -⟩ := hW'.alike.2.2 _ _ hkt
      rcases hy with ⟨hy, rfl⟩ | ⟨hy, hF⟩
      · obtain ⟨c0, t0, f1, f2, f3⟩ := Cond.castable_spec (va_Nw.use (A := #[]) rfl (va_Nw.warmC h.warm hy))
        cases hcls.symm.trans f1
        cases hc'.symm.trans f2
        refine ⟨_, hW', fun Q E d acts => ?_⟩
        rw [go_links (b := true) hx h0 hl2 hcell (VmData.noStatics_of hobj) ⟨ks', hks'⟩ ⟨kt', hkt'⟩ (by rw [hW'.alike.assignable]; exact f3), if_pos rfl]
      · obtain ⟨c0, t0, f1, f2, f3⟩ := va_Nc.moved h.warm.alike hy
        cases hcls.symm.trans f1
        cases hc'.symm.trans f2
        obtain ⟨vm', h1, h2⟩ := ih (S.setVm (S.vm.noted gf.method.cls x.catchType (.cls c'))) hW' hcell hF
        refine ⟨vm', h1, fun Q E d acts => ?_⟩
        rw [go_links (b := false) hx h0 hl2 hcell (VmData.noStatics_of hobj) ⟨ks', hks'⟩ ⟨kt', hkt'⟩ (by rw [hW'.alike.assignable]; exact f3), if_neg (by decide), h2 Q E d acts]
        exact Iff.rfl
theorem stepThrowing_catchTo {e : Env} {s : State} {a : Addr} {f : JFrame} {r : List Frame} {pc : Nat} {vm' : Vm} (hfind : ∀ (Q : Handler → Pre) (E : CtlPost) (d : Bool) (acts : List Action), wp (findHandler f a) Q E e d acts s ↔ Q (.found pc) d acts (s.setVm vm')) :
    (stepThrowing e s a (.java f :: r)).Is ((s.setVm vm').setFrames (.java { f with pc := pc, stack := [.ref a] } :: r)) [] := by
  simp only [stepThrowing, searchFrame, vmDo]
  generalize hr : Sem.go _ e false [] s = res
  obtain ⟨as, rfl, ha⟩ := Sem.eq_ok_of hr (a := Handler.found pc) (s' := s.setVm vm') (acts' := []) (by simp [hfind _ _ _ _])
  exact ⟨rfl, ha⟩
theorem Steps_caughtTo {tb : Tables} [Ours tb] {e : Env} {s target : State} {g : JFrame} {c : Code} {below : List Frame} {a : Addr} (h : At s g.method c below) {pc : Nat} {vm' : Vm}
    (hfind : ∀ (Q : Handler → Pre) (E : CtlPost) (d : Bool) (acts : List Action), wp (findHandler g a) Q E e d acts ((s.setTop g).pushFrame (.throwing a)) ↔ Q (.found pc) d acts (((s.setTop g).pushFrame (.throwing a)).setVm vm'))
    (hrest : Steps tb e below ((s.setVm vm').setTop { g with pc := pc, stack := [.ref a] }) target) : Steps tb e below ((s.setTop g).pushFrame (.throwing a)) target := by
  obtain ⟨hgo, hw⟩ := h.throwing a
  refine Steps.head hgo hw ?_
  rw [stepThread_throwing (frames_entered h.top _), (stepThrowing_catchTo (s := (s.setTop g).pushFrame (.throwing a)) hfind).1]
  obtain ⟨g₀, hg⟩ := Option.isSome_iff_exists.mp h.top
  obtain ⟨r, hr⟩ := State.topJava?_eq_some.mp hg
  have hr' : (s.setVm vm').frames = .java g₀ :: r := hr
  rw [State.setTop_of_frames _ hr'] at hrest
  have e1 : (((s.setTop g).pushFrame (.throwing a)).setVm vm').setFrames (.java { g with pc := pc, stack := [.ref a] } :: s.frames.tail) = (s.setVm vm').setFrames (.java { g with pc := pc, stack := [.ref a] } :: r) := by
    rw [State.pushFrame, State.setTop_of_frames _ hr, State.setFrames_setFrames, hr]
    show ((s.setVm vm').setFrames _).setFrames _ = _
    rw [State.setFrames_setFrames]
    rfl
  rw [e1]
  exact hrest
theorem gt_catch (h : gOK φ l g R cc nL own mn ret tbl) {a r ci : Nat} {fs : List Value} {q : vw_C} {hp : Nat} (hc : c a = some (r, .inr (ci, fs))) (hq : gcl[ci]? = some q) (hF : gFind own q.1 g pc tbl hp) (k : G φ Q hp lv [.ref a] c ce sl) : GT φ Q pc lv a c ce sl := by
  intro H locs ls st hr hl hv T hT X
  obtain ⟨cell, h1, h2, h3⟩ := h.recv hr hc hq
  have hpl : φ.1.2.2.1.platform.magicAccessors = ({} : Platform).magicAccessors := by rw [X.admits.platform]
  obtain ⟨vm', hW', hf⟩ := gfind h (gf := F0 φ.2.1.2.1 pc ls st) rfl h3 h2 hpl (hp := hp) φ.2.2.1.2.exceptionTable.toList ((T.setTop (F0 φ.2.1.2.1 pc ls st)).pushFrame (.throwing a)) (by rw [Stand.throwing_vm]; exact X.warmed) (by rw [Stand.throwing_heap, hT]; exact h1) (by rw [h.tbl_]; exact hF)
  obtain ⟨t, a1, b1⟩ := k H locs ls hr hl hv (T.setVm vm') hT (X.noted hW')
  refine ⟨t, Steps_caughtTo (g := F0 φ.2.1.2.1 pc ls st) X.here (fun Q E d acts => ?_) a1, b1⟩
  rw [W.findHandler_eq (meth := φ.2.2.1.1) (code := φ.2.2.1.2) (by rw [Stand.throwing_vm]; exact X.method') X.code]
  exact hf Q E d acts
/-- out of the method: no handler over this place -/
theorem gt_out {Post : Outcome → gLH → Prop} {mc ms : Nat} (h : gOK φ l g R cc nL own mn ret tbl) {a : Nat} (hout : ∀ q ∈ tbl, ¬ (q.1 ≤ pc ∧ pc < q.2.1)) (hp : Post (.threw a) c) (h1 : ce ≤ mc) (h2 : sl ≤ ms) : GT φ (gQ φ Post mc ms) pc lv a c ce sl := by
  intro H locs ls st hr hl hv T hT X
  have hlocks : φ.2.2.1.1.locks = false := h.locks
  obtain ⟨hw, hrun, hend, hW, hf⟩ := X.leaveThrown a (g := F0 φ.2.1.2.1 pc ls st) rfl rfl rfl (fun x hx => by
    cases hcx : covers x pc with
    | false => rfl
    | true =>
      simp only [covers, Bool.and_eq_true, decide_eq_true_eq] at hcx
      refine absurd hcx (hout (x.startPc, x.endPc, x.handlerPc, x.catchType) ?_)
      rw [← h.tbl_]
      exact List.mem_map.mpr ⟨x, hx, rfl⟩)
  exact ⟨_, hw, .threw a, hrun, hend, ⟨c, by subst hT; exact hr, hp⟩, hW, locs, hf.mono h1 h2, hl⟩
theorem g_athrowStep {p : Program} {l : Launch} {e : Env} {R : Room} {s : State} {m : MethodId} {args : Array Value} {below : List Frame} {meth : Method} {c : Code} {T : State} {locs : List Loc} {cells slots : Nat} (X : Stand p l e R s m args below meth c T locs cells slots) (hexec : p.tables.exec = Jvm.exec) {g : JFrame} (hg : g.method = m) {a : Addr} {rest : List Value} (hstack : g.stack = .ref a :: rest) (hdg : decode c.code g.pc = .ok (.athrow, 1)) {target : State}
    (hwalk : Steps p.tables e below ((T.setTop { g with stack := rest }).pushFrame (.throwing a)) target) : Steps p.tables e below (T.setTop g) target := by
  subst hg
  jvm_step X.here [hexec, hdg, athrow.wp_sem, hstack]
  exact hwalk
theorem g_athrow (h : gOK φ l g R cc nL own mn ret tbl) {a : Nat} (hd : decode cc pc = .ok (.athrow, 1)) (k : GT φ Q pc lv a c ce sl) : G φ Q pc lv (.ref a :: st) c ce sl := by
  intro H locs ls hr hl hv T hT X
  obtain ⟨t, a1, b1⟩ := k H locs ls st hr hl hv T hT X
  exact ⟨t, g_athrowStep X h.exec (g := F0 φ.2.1.2.1 pc ls (.ref a :: st)) rfl rfl (by rw [h.code]; exact hd) a1, b1⟩
/-- Throwable's two static fields, at the law's start -/
def gTS (g : gGP) : Prop := (Cond.laysStatic Bundle.tN "UNASSIGNED_STACK" Bundle.steD).before #[] g.1 = true ∧ (Cond.laysStatic Bundle.tN "SUPPRESSED_SENTINEL" Bundle.listD).before #[] g.1 = true ∧
  ∃ u0 sen : RefV, gZ g Bundle.tN "UNASSIGNED_STACK" Bundle.steD u0.v ∧ gZ g Bundle.tN "SUPPRESSED_SENTINEL" Bundle.listD sen.v
theorem gstat (h : gOK φ l g R cc nL own mn ret tbl) {O f d : String} (hl : (Cond.laysStatic O f d).before #[] g.1 = true) {a : Array Value} : (Cond.laysStatic O f d).before a φ.2.1.1 = true := by
  obtain ⟨c, k, i, fl, ad, cell, hc, hi, hst, ha, hcell, hs, hcls, hlt, hty⟩ := Cond.laysStatic_spec (Cond.laysStatic_setVm h.warm.alike hl)
  exact Cond.laysStatic_of (s := φ.2.1.1) hc hi hst ha (by rw [h.base ad (Array.getElem?_eq_some_iff.mp hcell).1]; exact hcell) hs hcls hlt hty
def gThr : List Cond := Bundle.throwableAtoms
theorem gThr_in : ∀ w ∈ gThr, w ∈ lw_tbl := by
  have e : gThr = ([[67, 164, 173, 179, 182, 184, 165, 166, 124, 125, 167, 172, 180, 420, 154, 421, 156, 422, 158, 168, 169, 170, 171, 160]] : List (List Nat)).flatten.filterMap (fun i => lw_tbl[i]?) := by decide +kernel
  intro w hw
  rw [e, List.mem_filterMap] at hw
  obtain ⟨i, -, hi⟩ := hw
  exact List.mem_of_getElem? hi
theorem gThr_good : (gThr.all fun w => goodWord w || decide (w = .laysStatic Bundle.tN "UNASSIGNED_STACK" Bundle.steD) || decide (w = .laysStatic Bundle.tN "SUPPRESSED_SENTINEL" Bundle.listD)) = true := by decide +kernel
theorem gthr (h : gOK φ l g R cc nL own mn ret tbl) (hts : gTS g) : ∀ w ∈ Bundle.throwableAtoms, w.before #[] φ.2.1.1 = true := by
  intro w hw
  have hg := List.all_eq_true.mp gThr_good w hw
  simp only [Bool.or_eq_true, decide_eq_true_eq] at hg
  rcases hg with (hg | rfl) | rfl
  · exact h.word (List.mem_filter.mpr ⟨gThr_in w hw, hg⟩)
  · exact gstat h hts.1
  · exact gstat h hts.2.1
def gIsDecl (w : Cond) : Bool := match w with
  | .declares _ => true
  | _ => false
/-- a chain of constructors that pass on to Throwable's -/
def gCh (X : String) (names : List String) : Prop := Bundle.fit X = true ∧ (∀ n ∈ names, Bundle.fit n = true) ∧ (∀ w ∈ Bundle.chain0Atoms X names, w ∈ lw_tbl) ∧ ((Bundle.chain0Atoms X names).all fun w => goodWord w || gIsDecl w) = true
theorem gchIn {ws : List Cond} (ps : List Nat) (e : ws = ps.filterMap (fun i => lw_tbl[i]?)) : ∀ w ∈ ws, w ∈ lw_tbl := by
  intro w hw
  rw [e, List.mem_filterMap] at hw
  obtain ⟨i, -, hi⟩ := hw
  exact List.mem_of_getElem? hi
theorem gCh.words (h : gOK φ l g R cc nL own mn ret tbl) {X : String} {names : List String} (hX : gCh X names) : ∀ w ∈ Bundle.chain0Atoms X names, w.before #[] φ.2.1.1 = true := by
  intro w hw
  have hg := List.all_eq_true.mp hX.2.2.2 w hw
  rw [Bool.or_eq_true] at hg
  rcases hg with hg | hg
  · exact h.word (List.mem_filter.mpr ⟨hX.2.2.1 w hw, hg⟩)
  · have hw2 := hX.2.2.1 w hw
    cases w <;> simp [gIsDecl] at hg
    exact va_Nw.warmD h.warm (h.k.2.1 _ hw2 rfl)
/-- an exception class by its place in gcl: Throwable's fields first -/
def gEx (ci : Nat) : Prop := ∃ (C : String) (T : u_T) (N : Nat) (ty0 : Nat → FieldType), gcl[ci]? = some (C, T, N) ∧ 5 ≤ N ∧ T 0 = (Bundle.tN, "cause", "Ljava/lang/Throwable;", false) ∧ T 1 = (Bundle.tN, "stackTrace", Bundle.steD, false) ∧ T 2 = (Bundle.tN, "suppressedExceptions", Bundle.listD, false) ∧ T 4 = (Bundle.tN, "backtrace", "Ljava/lang/Object;", false) ∧
  (∀ w ∈ u_ws C T N, w ∈ lw_all) ∧ (∀ k, k < N → parseFieldDescriptor (T k).2.2.1 = some (ty0 k)) ∧ (∀ a, a < N → ∀ b, b < N → a ≠ b → (T a).2.1 ≠ (T b).2.1) ∧ Cond.selects C Bundle.tFill0 Bundle.tFill0 ∈ lw_all ∧ Cond.selects C Bundle.tFill Bundle.tFill ∈ lw_all
theorem updV_set {fs : List Value} {k : Nat} (hk : k < fs.length) (v : Value) : updV (vp_V fs) k v = vp_V (fs.set k v) := funext fun j => vp_updV_set hk v j
theorem g_excInit (h : gOK φ l g R cc nL own mn ret tbl) (hts : gTS g) {ci a r idx : Nat} {fs : List Value} {X0 : String} {names : List String} (hE : gEx ci) (hX : gCh X0 names) (hlink : Cond.methodLink own idx (Bundle.init0 X0) ∈ lw_all) (hc : c a = some (gFr, .inr (ci, fs))) (hfs : fs[4]? = some .null) (hs : r < gSB) (hcat : (st.map fun v => v.category).sum ≤ 8)
    (hR : names.length + 3 < R.frames ∧ 8 + (13 * (names.length + 1) + 41) ≤ R.locals) (hd : decode cc pc = .ok (.invokespecial idx, 3))
    (kk : ∀ u sen : Value, G φ Q (pc + 3) lv st (va_up c a (some (r, .inr (ci, (((fs.set 0 (.ref a)).set 1 u).set 2 sen).set 1 u)))) ce sl) : G φ Q pc lv (.ref a :: st) c ce sl := by
  intro H locs ls hr hl hv T hT X
  subst hT
  have hR0 : φ.1.2.2.2 = R := h.2.2.1
  have hl0 : φ.1.2.1 = l := h.1
  have hlenF : 5 ≤ fs.length := by have := (List.getElem?_eq_some_iff.mp hfs).1; omega
  obtain ⟨hnew, cell0, hcell0, hfree, hcount⟩ := hr.2.2.2 a _ hc
  have hRel := hr
  rw [h.g_] at hr
  obtain ⟨C, TT, N, ty0, e1, e5, t0, t1, t2, t4, hws, hty, hnm, hs0, hsF⟩ := hE
  obtain ⟨r', k1, cell, q1, q2, q3, q4⟩ := (hr.1 a gFr _ hc).1
  have ec := Option.some.inj (hcell0.symm.trans q1)
  rw [ec] at hfree hcount
  have hrr : r' = (C, TT, N) := Option.some.inj (k1.symm.trans e1)
  subst hrr
  have hap := va_apart (args := #[]) (own := own) (fun w hw => h.word hw) hws ty0 hty hnm h.K e1
  obtain ⟨hS, hfc, kC, hkC, hkind⟩ := h.K.1 ci _ e1
  have howns : φ.1.2.2.1.platform.frameOwnsMonitors = true := by rw [X.admits.platform]
  have hfin : φ.1.2.2.1.platform.finalization = false := by rw [X.admits.platform]
  have hpl : φ.1.2.2.1.platform.magicAccessors = ({} : Platform).magicAccessors := by rw [X.admits.platform]
  have htr : φ.1.2.2.1.platform.stackTraces = false := by
    rw [Jvm.Example.NoTraceControls.admits_follows X.admits, hl0]
    unfold Launch.stackTraces
    rw [h.k.1]
    decide +kernel
  obtain ⟨T0, Z, L, LZ, Y⟩ := ThrowableC.of_atoms (args := #[]) (s := φ.2.1.1) howns hfin hpl (gthr h hts)
  obtain ⟨P1, Ps, hlen, L1, hL, hP1m, hlink1, hlinkP⟩ := Bundle.chain0 (args := #[]) (s := φ.2.1.1) hpl Y.init0 names X0 hX.1 hX.2.1 (hX.words h)
  have hsel0 : selectMethod φ.1.2.2.1.platform φ.2.1.1.vm cell.cls T0.fill0 = .method T0.fill0 := by
    obtain ⟨c2, r2, m2, z1, z2, z3, z4, -⟩ := Cond.selects_spec (h.word hs0 (a := #[]))
    cases Option.some.inj (z1.symm.trans hfc)
    cases Option.some.inj (z2.symm.trans (State.methodFound?_of_named Y.fill0 (by decide)))
    cases Option.some.inj (z3.symm.trans Y.fill0)
    rw [q2, Launch.admits_selectMethod X.admits]; exact z4
  have hselF : selectMethod φ.1.2.2.1.platform φ.2.1.1.vm cell.cls T0.fill = .method T0.fill := by
    obtain ⟨c2, r2, m2, z1, z2, z3, z4, -⟩ := Cond.selects_spec (h.word hsF (a := #[]))
    cases Option.some.inj (z1.symm.trans hfc)
    cases Option.some.inj (z2.symm.trans (State.methodFound?_of_named Y.fill (by decide)))
    cases Option.some.inj (z3.symm.trans Y.fill)
    rw [q2, Launch.admits_selectMethod X.admits]; exact z4
  obtain ⟨u0, sen, zu, zs⟩ := hts.2.2
  obtain ⟨cf, kf, fi, f, aU, cellU, y1, y2, y3, y4, y5, y6, y7, -⟩ := va_Z.moved h.warm.alike zu
  obtain ⟨cf', kf', fi', f', aV, cellV, w1, w2, w3, w4, w5, w6, w7, -⟩ := va_Z.moved h.warm.alike zs
  have eu := y1.symm.trans Y.unassigned
  simp only [Option.some.injEq, Prod.mk.injEq] at eu
  obtain ⟨rfl, rfl, rfl, rfl⟩ := eu
  have ev := w1.symm.trans Y.sentinel
  simp only [Option.some.injEq, Prod.mk.injEq] at ev
  obtain ⟨-, ek, -, rfl⟩ := ev
  rw [ek] at w4
  cases y4.symm.trans L.statics
  cases w4.symm.trans L.statics
  cases w5.symm.trans y5
  have hlt : T0.aS < g.1.heap.size := (Array.getElem?_eq_some_iff.mp y5).1
  have hcellS : T.heap[T0.aS]? = some cellU := by rw [hr.2.2.1 _ hlt]; exact y5
  have hnew' : g.1.heap.size ≤ a := by rw [← h.g_]; exact hnew
  have hneS : T0.aS ≠ a := fun q => absurd hlt (by rw [q]; exact Nat.not_lt.mpr hnew')
  have hknownS : cellU.vm ≠ .unknown := fun hu => by rw [hu] at y6; cases y6
  have hsl : ∀ {k : Nat} {o n d : String} {cf : ClassId} {kf : Class} {fi : Nat} {fd : Field}, k < N → TT k = (o, n, d, false) → φ.2.1.1.fieldFound? o n d = some (cf, kf, fi, fd) → fd.slot = g.2.1.2 ci k := by
    intro k o n d cf kf fi fd hk ht hff
    obtain ⟨_, _, _, fd', hi, hs⟩ := hS k hk
    have hi : φ.2.1.1.fieldFound? (TT k).1 (TT k).2.1 (TT k).2.2.1 = _ := hi
    rw [ht] at hi
    cases hi.symm.trans hff
    exact hs
  have hfit : ∀ {k : Nat} {o n d : String} {cf : ClassId} {kf : Class} {fi : Nat} {fd : Field} {v : Value} {ty : FieldType}, k < N → TT k = (o, n, d, false) → φ.2.1.1.fieldFound? o n d = some (cf, kf, fi, fd) → parseFieldDescriptor d = some ty → narrow ty v = v → fits ty v = true → Takes φ.2.1.1 cell fd v := by
    intro k o n d cf kf fi fd v ty hk ht hff hd hn hv
    have hlay := h.word (hws _ (u_in_lay hk)) (a := #[])
    unfold u_lay at hlay
    rw [ht] at hlay
    refine ⟨?_, ?_⟩
    · rw [hsl hk ht hff]
      exact (Array.getElem?_eq_some_iff.mp (q4 k hk)).1
    · rw [q2, q3]
      exact (u_fits hfc hkC hkind (Or.inl hlay) hff hd hn hv).2
  have eC := hsl (by omega) t0 Y.cause
  have eS := hsl (by omega) t1 Y.stack
  have eP := hsl (by omega) t2 Y.supp
  obtain ⟨ci198, i198, fB, hk198, hg198, ha198, hsB, -, hnB, htB, hffB⟩ := Cond.ownField (t := .object "java/lang/Object") Y.found L.cls (by decide +kernel) (h.word q163 (a := #[])) (h.word q162 (a := #[])) φ.1.2.2.1.platform hpl
  have eB := hsl (by omega) t4 hffB
  have g1 := t_set q4 hap (show 0 < N by omega) (.ref a)
  have g2 := t_set g1 hap (show 1 < N by omega) u0.v
  have g3 := t_set g2 hap (show 2 < N by omega) sen.v
  have g4 := t_set g3 hap (show 1 < N by omega) u0.v
  have hskip : SkipFacts T0 φ.1.2.2.1.platform φ.2.1.1 (fun u => u) u0 ((preparedCellV T0.toThrowableT cell a u0 sen).withEntry T.cur) := by
    refine ⟨{ ci198 := ci198, i198 := i198, fBack := fB }, ⟨hk198, hg198, ha198, hsB⟩, ?_, fun _ _ => rfl⟩
    show (preparedCellV T0.toThrowableT cell a u0 sen).slots[fB.slot]? = some .null
    rw [eB]
    unfold preparedCellV
    rw [eC, eS, eP, g3 4 (show 4 < N by omega)]
    simp only [updV]
    have : vp_V fs 4 = .null := by unfold vp_V; rw [List.getD_eq_getElem?_getD, hfs]; rfl
    rw [if_neg (by decide), if_neg (by decide), if_neg (by decide), this]
  have hinst : (Cond.instanceMethod (Bundle.init0 X0)).before #[] φ.2.1.1 = true := hX.words h _ (by cases names <;> simp [Bundle.chain0Atoms, Bundle.passAtoms])
  have hcode : (Cond.code (Bundle.init0 X0) Bundle.five 1 none).before #[] φ.2.1.1 = true := hX.words h _ (by cases names <;> simp [Bundle.chain0Atoms, Bundle.passAtoms])
  obtain ⟨tm, methC, cdC, kC', vm₁, hnC, -, -, -, -, -, -, -, hW₁, st1⟩ := Steps.initCold (tb := φ.1.1.tables) (e := φ.1.2.2.1) (below := φ.2.1.2.2.2) (s := φ.2.1.1) (U := T) X.here h.exec X.warmed hpl h.own_ (t := Bundle.init0 X0) rfl rfl (Bundle.fit_spec hX.1).2
    (h.word hlink (a := #[])) hinst (bytes := Bundle.five) (maxL := 1) hcode (f := F0 φ.2.1.2.1 pc ls (.ref a :: st)) rfl (a := a) (rest := st) rfl (by rw [h.code]; exact hd)
  cases Option.some.inj (hnC.symm.trans hP1m)
  have X₁ := X.noted hW₁
  obtain ⟨vm₂, X₂, st2⟩ := X₁.ctorPlainOffV h.exec (g := F0 φ.2.1.2.1 pc ls st) rfl hv.1 T0 L Z LZ (P1 :: Ps)
    (fun P hP => by rcases List.mem_cons.mp hP with rfl | hP; exact L1; exact hL P hP) ⟨hlink1, hlinkP⟩ (u0 := u0) (sen := sen) (self := a) (cell := cell) (cellS := cellU)
    q1 (fun _ hk => by rw [q3] at hk; cases hk) (fun hk => by rw [q3] at hk; cases hk) hfree hcount hsel0 hselF hcellS hneS hknownS y7 w7
    (hfit (by omega) t0 Y.cause (ty := .object Bundle.tN) (by decide +kernel) rfl rfl) (hfit (by omega) t1 Y.stack (ty := .array (.object "java/lang/StackTraceElement")) (by decide +kernel) (narrow_refV _ u0) (fits_refV_array _ u0)) (hfit (by omega) t2 Y.supp (ty := .object "java/util/List") (by decide +kernel) (narrow_refV _ sen) (fits_refV_object _ sen)) Y.objLocals hskip htr [] (by rw [h.code]; exact hd)
    (by rw [hR0]; simp only [List.length_cons, hlen]; omega) (by rw [hR0]; simp only [List.length_cons, hlen]; show 2 * 0 + (st.map fun v => v.category).sum + _ ≤ _; omega)
  have hlt2 : a < ((T.setVm vm₁).setVm vm₂).heap.size := (Array.getElem?_eq_some_iff.mp q1).1
  have hU := heapAt_setCell_self (s := (T.setVm vm₁).setVm vm₂) ((preparedCellV T0.toThrowableT cell a u0 sen).setSlot T0.fStack.slot u0.v) hlt2
  have hrel' : gRel φ.2.2.2 (va_up c a (some (r, .inr (ci, (((fs.set 0 (.ref a)).set 1 u0.v).set 2 sen.v).set 1 u0.v)))) ((((T.setVm vm₁).setVm vm₂).setCell a ((preparedCellV T0.toThrowableT cell a u0 sen).setSlot T0.fStack.slot u0.v)).heap) := by
    refine hRel.setFr hc ?_ hs ?_ (fun q hq => heapAt_setCell_ne _ (Ne.symm hq))
    · rw [h.g_]
      refine ⟨_, e1, t_OB.to (V := updV (updV (updV (updV (vp_V fs) 0 (.ref a)) 1 u0.v) 2 sen.v) 1 u0.v) ⟨_, hU, q2, q3, ?_⟩ (fun j _ => ?_)⟩
      · unfold preparedCellV
        rw [eC, eS, eP]
        exact g4
      · rw [updV_set (by omega), updV_set (by simp; omega), updV_set (by simp; omega), updV_set (by simp; omega)]
    · show (T.heap.setIfInBounds a _).size = T.heap.size
      rw [Array.size_setIfInBounds]
  obtain ⟨t, a1, b1⟩ := kk u0.v sen.v _ _ ls hrel' (fun q hq => by
    rcases List.mem_append.mp hq with h1 | h1
    · exact hl q h1
    · have hb : q.base = a := by
        simp only [List.mem_cons, List.not_mem_nil, or_false] at h1
        rcases h1 with rfl | rfl | rfl | rfl <;> rfl
      rw [hb]
      exact hnew) hv _ rfl X₂
  refine ⟨t, st1 t (fun acts => ?_), b1⟩
  rw [doInvoke_state]
  exact st2 _ a1
end GTHROW
theorem ch_IAE : gCh "java/lang/IllegalArgumentException" ["java/lang/RuntimeException", "java/lang/Exception"] := ⟨by decide +kernel, by decide +kernel, gchIn [631, 632, 633, 634, 145, 634, 635, 636, 637, 147, 637, 638, 639, 165, 149] (by decide +kernel), by decide +kernel⟩
theorem ch_ISE : gCh "java/lang/IllegalStateException" ["java/lang/RuntimeException", "java/lang/Exception"] := ⟨by decide +kernel, by decide +kernel, gchIn [653, 654, 655, 634, 145, 634, 635, 636, 637, 147, 637, 638, 639, 165, 149] (by decide +kernel), by decide +kernel⟩
theorem ch_IOB : gCh "java/lang/IndexOutOfBoundsException" ["java/lang/RuntimeException", "java/lang/Exception"] := ⟨by decide +kernel, by decide +kernel, gchIn [1256, 1257, 1258, 634, 145, 634, 635, 636, 637, 147, 637, 638, 639, 165, 149] (by decide +kernel), by decide +kernel⟩
theorem ch_EXC : gCh "java/lang/Exception" [] := ⟨by decide +kernel, by decide +kernel, gchIn [637, 638, 639, 165, 149] (by decide +kernel), by decide +kernel⟩
theorem ex_IAE : gEx 32 := by
  refine ⟨RJ6, TJ6, 6, fun k => (([.object "java/lang/Throwable", .array (.object "java/lang/StackTraceElement"), .object "java/util/List", .object "java/lang/String", .object "java/lang/Object", .int] : List FieldType)[k]?).getD .int, rfl, by decide, rfl, rfl, rfl, rfl, in_J6, ?_, ?_, q151, q152⟩
  · have : ∀ k : Fin 6, parseFieldDescriptor (TJ6 k.val).2.2.1 = some ((([.object "java/lang/Throwable", .array (.object "java/lang/StackTraceElement"), .object "java/util/List", .object "java/lang/String", .object "java/lang/Object", .int] : List FieldType)[k.val]?).getD .int) := by decide +kernel
    exact fun k hk => this ⟨k, hk⟩
  · have : ∀ a b : Fin 6, a ≠ b → (TJ6 a.val).2.1 ≠ (TJ6 b.val).2.1 := by decide +kernel
    exact fun a ha b hb hne => this ⟨a, ha⟩ ⟨b, hb⟩ (fun q => hne (congrArg Fin.val q))
theorem ex_ISE : gEx 33 := by
  refine ⟨RJ17, TJ17, 6, fun k => (([.object "java/lang/Throwable", .array (.object "java/lang/StackTraceElement"), .object "java/util/List", .object "java/lang/String", .object "java/lang/Object", .int] : List FieldType)[k]?).getD .int, rfl, by decide, rfl, rfl, rfl, rfl, in_J17, ?_, ?_, q646, q177⟩
  · have : ∀ k : Fin 6, parseFieldDescriptor (TJ17 k.val).2.2.1 = some ((([.object "java/lang/Throwable", .array (.object "java/lang/StackTraceElement"), .object "java/util/List", .object "java/lang/String", .object "java/lang/Object", .int] : List FieldType)[k.val]?).getD .int) := by decide +kernel
    exact fun k hk => this ⟨k, hk⟩
  · have : ∀ a b : Fin 6, a ≠ b → (TJ17 a.val).2.1 ≠ (TJ17 b.val).2.1 := by decide +kernel
    exact fun a ha b hb hne => this ⟨a, ha⟩ ⟨b, hb⟩ (fun q => hne (congrArg Fin.val q))
theorem ex_IOB : gEx 34 := by
  refine ⟨RJ18, TJ18, 6, fun k => (([.object "java/lang/Throwable", .array (.object "java/lang/StackTraceElement"), .object "java/util/List", .object "java/lang/String", .object "java/lang/Object", .int] : List FieldType)[k]?).getD .int, rfl, by decide, rfl, rfl, rfl, rfl, in_J18, ?_, ?_, q1249, q178⟩
  · have : ∀ k : Fin 6, parseFieldDescriptor (TJ18 k.val).2.2.1 = some ((([.object "java/lang/Throwable", .array (.object "java/lang/StackTraceElement"), .object "java/util/List", .object "java/lang/String", .object "java/lang/Object", .int] : List FieldType)[k.val]?).getD .int) := by decide +kernel
    exact fun k hk => this ⟨k, hk⟩
  · have : ∀ a b : Fin 6, a ≠ b → (TJ18 a.val).2.1 ≠ (TJ18 b.val).2.1 := by decide +kernel
    exact fun a ha b hb hne => this ⟨a, ha⟩ ⟨b, hb⟩ (fun q => hne (congrArg Fin.val q))
theorem ex_WRG : gEx 7 := by
  refine ⟨RX7, TX7, 8, fun k => (([.object "java/lang/Throwable", .array (.object "java/lang/StackTraceElement"), .object "java/util/List", .object "java/lang/String", .object "java/lang/Object", .int, .int, .int] : List FieldType)[k]?).getD .int, rfl, by decide, rfl, rfl, rfl, rfl, in_X7, ?_, ?_, q801, q175⟩
  · have : ∀ k : Fin 8, parseFieldDescriptor (TX7 k.val).2.2.1 = some ((([.object "java/lang/Throwable", .array (.object "java/lang/StackTraceElement"), .object "java/util/List", .object "java/lang/String", .object "java/lang/Object", .int, .int, .int] : List FieldType)[k.val]?).getD .int) := by decide +kernel
    exact fun k hk => this ⟨k, hk⟩
  · have : ∀ a b : Fin 8, a ≠ b → (TX7 a.val).2.1 ≠ (TX7 b.val).2.1 := by decide +kernel
    exact fun a ha b hb hne => this ⟨a, ha⟩ ⟨b, hb⟩ (fun q => hne (congrArg Fin.val q))
