/-! MY KIT, 50: Object's constructor, dispatch, interfaces, nest mates, casts, arrays of references, copies, class objects -/
set_option maxRecDepth 100000
section GKB
variable {φ : gFx} {Q : State → Prop} {pc : Nat} {lv : List (Nat × Value)} {st st0 : List Value} {c : gLH} {ce sl : Nat} {l : Launch} {g : gGP} {R : Room} {cc : ByteArray} {nL : Nat} {own mn : String} {ret : Option FieldType} {tbl : List (Nat × Nat × Nat × Nat)}
variable {x y : MethodName} {hw : Cond} {bytes : ByteArray} {maxL : Nat} {ret' : Option FieldType} {hh : List (Nat × Nat × Nat × Nat)} {fr lo mc ms idx : Nat} {Post : Outcome → gLH → Prop}
theorem g_objInit (h : gOK φ l g R cc nL own mn ret tbl) {a : Nat} (hlink : Cond.methodLink own idx Lib.objectInit ∈ lw_all) (hR : 1 ≤ R.frames ∧ 20 ≤ R.locals) (hcat : (st.map fun v => v.category).sum ≤ 8) (hd : decode cc pc = .ok (.invokespecial idx, 3)) (k : G φ Q (pc + 3) lv st c ce sl) : G φ Q pc lv (.ref a :: st) c ce sl := by
  intro H locs ls hr hl hv
  have hR0 := h.2.2.1
  refine W.objInit h.exec h.code h.own_ (h.word hlink) (h.word q124) (h.word q125) rfl hv.1 rfl hd (by rw [hR0]; exact hR.1) (by rw [hR0]; show 2 * 0 + _ + 12 ≤ _; omega) ?_
  exact k H locs ls hr hl hv
/-- a call through an object: the method is declared above, or abstract -/
def gWU (own : String) (idx ci : Nat) (x y : MethodName) (owner : String) (hw : Cond) (n : Nat) : Prop := (∃ q : vw_C, gcl[ci]? = some q ∧ Cond.selects q.1 x y ∈ lw_all) ∧ Cond.methodLink own idx x ∈ lw_all ∧ Cond.sameMethod x.cls owner x.name x.desc ∈ lw_all ∧ (Cond.declares ⟨owner, x.name, x.desc⟩ ∈ lw_tbl ∨ ∃ b m r, Cond.instanceMethod ⟨owner, x.name, x.desc⟩ ∈ lw_all ∧ Cond.code ⟨owner, x.name, x.desc⟩ b m r ∈ lw_all) ∧
  (owner ≠ "java/lang/invoke/MethodHandle" ∧ owner ≠ "java/lang/invoke/VarHandle") ∧ Cond.instanceMethod y ∈ lw_all ∧ Cond.initialized y.cls ∈ lw_all ∧ hw ∈ lw_all ∧ (parseMethodDescriptor x.desc).map (fun d => d.parameters.length) = some n
theorem g_invU (h : gOK φ l g R cc nL own mn ret tbl) {b r ci : Nat} {fs as' : List Value} {owner : String} (hC : Ct l g y hw fr lo (.ref b :: as') c mc ms Post) (hcw : gIsCode hw y bytes maxL ret' hh) {n : Nat} (w : gWU own idx ci x y owner hw n) (hn : as'.length = n) (hst : st0 = as'.reverse ++ .ref b :: st) (hc : c b = some (r, .inr (ci, fs))) (hcat : (st.map fun v => v.category).sum ≤ 8)
    (hR : fr + 1 ≤ R.frames ∧ 8 + (maxL + 11) + lo ≤ R.locals) (hM : ce + mc ≤ R.cells ∧ sl + ms ≤ R.slots) (hd : decode cc pc = .ok (.invokevirtual idx, 3)) (kr : gKR φ Q (pc + 3) lv st (ce + mc) (sl + ms) Post) (kt : gKT φ Q pc lv (ce + mc) (sl + ms) Post) : G φ Q pc lv st0 c ce sl := by
  intro H locs ls hr hl hv T hT X
  obtain ⟨⟨q, hq, w0⟩, w1, w2, w3, w4, w5, w6, w7, w8⟩ := w
  obtain ⟨cellB, hcell, hobj, hcls⟩ := h.recv hr hc hq
  have hd0 : va_Decl φ.2.1.1 ⟨owner, x.name, x.desc⟩ := by
    rcases w3 with w3 | ⟨b0, m0, r0, w3, w3'⟩
    · exact va_Decl.abs (va_Nw.warmD h.warm (h.k.2.1 _ w3 rfl))
    · exact va_Decl.of (h.word w3 (a := #[])) (h.word w3' (a := #[]))
  obtain ⟨r0, rr, hn0, hrm, hstR, hsigR⟩ := hd0
  obtain ⟨cn, ck, r1, hcn, hck, hni, hf, hn1⟩ := Cond.sameMethod_found (h.word w2 (a := #[]))
  cases hn0.symm.trans hn1
  obtain ⟨mk, methM, hnamed, hmethM, -, habM⟩ := Cond.instanceMethod_spec (h.word w5 (a := #[]))
  obtain ⟨c2, r2, m2, q1, q2, q3, q4, kP, hkP, hkPi⟩ := Cond.selects_spec (h.word w0 (a := #[]))
  cases hcls.symm.trans q1
  cases hf.symm.trans q2
  cases hnamed.symm.trans q3
  have hselP : selectMethod φ.1.2.2.1.platform φ.2.1.1.vm cellB.cls r0 = .method mk := by rw [Launch.admits_selectMethod X.admits]; exact q4
  obtain ⟨vm₁, X₁, hstep₁⟩ := X.invokevirtualUp h.exec h.own_ (h.word w1) (h.word w2) w4 hn0 hrm hstR (a := b) (cell := cellB) (by rw [hT]; exact hcell)
    (fun z hz => by rw [hz] at hobj; cases hobj) hselP hmethM habM hkP hkPi (g := F0 φ.2.1.2.1 pc ls st0) rfl (argsL := as') (rest := st) (by rw [hn]; exact glen (y := x) w8 _ hsigR) hst (by rw [h.code]; exact hd)
  exact ginv h hcw hC w7 w6 hd hcat hR.1 hR.2 hM.1 hM.2 kr kt hr hl hv hT X₁ (X₁.named hnamed) hstep₁
/-- a call through an interface -/
def gWF (own : String) (idx ci : Nat) (x y : MethodName) (hw : Cond) (n : Nat) : Prop := (∃ q : vw_C, gcl[ci]? = some q ∧ Cond.selects q.1 x y ∈ lw_all ∧ Cond.unhidden q.1 x.name x.desc ∈ lw_tbl ∧ Cond.castable q.1 x.cls ∈ lw_tbl) ∧ Cond.methodLink own idx x ∈ lw_all ∧ Cond.declares x ∈ lw_tbl ∧ Cond.interfaceMethod x.cls x.cls x.name x.desc ∈ lw_tbl ∧ Cond.publicMethod y ∈ lw_tbl ∧ gNotMH x ∧ Cond.instanceMethod y ∈ lw_all ∧ Cond.initialized y.cls ∈ lw_all ∧ hw ∈ lw_all ∧ (parseMethodDescriptor x.desc).map (fun d => d.parameters.length) = some n
theorem g_invF (h : gOK φ l g R cc nL own mn ret tbl) {b r ci cnt : Nat} {fs as' : List Value} (hC : Ct l g y hw fr lo (.ref b :: as') c mc ms Post) (hcw : gIsCode hw y bytes maxL ret' hh) {n : Nat} (w : gWF own idx ci x y hw n) (hn : as'.length = n) (hst : st0 = as'.reverse ++ .ref b :: st) (hc : c b = some (r, .inr (ci, fs))) (hcat : (st.map fun v => v.category).sum ≤ 8)
    (hR : fr + 1 ≤ R.frames ∧ 8 + (maxL + 11) + lo ≤ R.locals) (hM : ce + mc ≤ R.cells ∧ sl + ms ≤ R.slots) (hd : decode cc pc = .ok (.invokeinterface idx cnt, 5)) (kr : gKR φ Q (pc + 5) lv st (ce + mc) (sl + ms) Post) (kt : gKT φ Q pc lv (ce + mc) (sl + ms) Post) : G φ Q pc lv st0 c ce sl := by
  intro H locs ls hr hl hv T hT X
  obtain ⟨⟨q, hq, w0, w0u, w0c⟩, w1, w2, w3, w4, w5, w6, w7, w8, w9⟩ := w
  obtain ⟨cellB, hcell, hobj, hcls⟩ := h.recv hr hc hq
  have hFw : va_Fw q.1 x y φ.2.1.1 := va_Fw.moved w5 h.warm.alike ⟨h.k.2.1 _ w2 rfl, h.k.2.1 _ w3 rfl, h.k.2.1 _ w4 rfl, h.k.2.1 _ w0u rfl, h.k.2.1 _ w0c rfl⟩
  obtain ⟨f1, f2, f3, f4, f5⟩ := hFw
  obtain ⟨r0, rr, hn0, hrm, hstR, hsigR⟩ := Cond.declares_spec f1
  obtain ⟨cL, kL, r1, hcL, hkL, hiL, hfoundL, hn1⟩ := Cond.interfaceMethod_spec f2
  cases hn0.symm.trans hn1
  have hr0cls : r0.cls = cL := Option.some.inj ((findClass_of_methodNamed hn0).symm.trans hcL)
  obtain ⟨hnameR, hdescR⟩ := name_of_methodNamed hn0 hrm
  obtain ⟨mk, methM, hnamed, hmethM, -, habM⟩ := Cond.instanceMethod_spec (h.word w6 (a := #[]))
  obtain ⟨c2, r2, m2, q1, q2, q3, q4, -⟩ := Cond.selects_spec (h.word w0 (a := #[]))
  cases hcls.symm.trans q1
  cases hfoundL.symm.trans q2
  cases hnamed.symm.trans q3
  have hselP : selectMethod φ.1.2.2.1.platform φ.2.1.1.vm cellB.cls r0 = .method mk := by rw [Launch.admits_selectMethod X.admits]; exact q4
  have hpubM : hasFlag methM.accessFlags Acc.public_ = true := Cond.publicMethod_spec hnamed hmethM f3
  have hway : ((cellB.cls :: φ.2.1.1.vm.superclasses cellB.cls).any fun k => (declaredIn φ.2.1.1.vm rr.name rr.desc k).any fun (_, z) => z.isPrivate || z.isStatic) = false := by
    rw [hnameR, hdescR]; exact Cond.unhidden_spec hcls f4
  obtain ⟨c3, t3, z1, z2, z3⟩ := Cond.castable_spec f5
  cases hcls.symm.trans z1
  cases hcL.symm.trans z2
  obtain ⟨kB, hkB, -⟩ := Vm.findClass_spec hcls
  obtain ⟨vm₁, X₁, hstep₁⟩ := X.invokeinterface h.exec h.own_ (h.word w1) hn0 hrm hstR (by rw [hr0cls]; exact hkL) hiL w5 (a := b) (cell := cellB) (kcell := kB) (by rw [hT]; exact hcell)
    (fun z hz => by rw [hz] at hobj; cases hobj) hkB (by rw [hr0cls]; exact z3) hselP hmethM hway hpubM habM (g := F0 φ.2.1.2.1 pc ls st0) rfl (argsL := as') (rest := st) (by rw [hn]; exact glen (y := x) w9 _ hsigR) hst (by rw [h.code]; exact hd)
  exact ginv h hcw hC w8 w7 hd hcat hR.1 hR.2 hM.1 hM.2 kr kt hr hl hv hT X₁ (X₁.named hnamed) hstep₁
/-- a nest mate's private constructor -/
def gWN (own : String) (idx : Nat) (y : MethodName) (hw : Cond) (n : Nat) : Prop := (∃ host, Cond.methodLinkNest own idx y host ∈ lw_tbl) ∧ Cond.instanceMethod y ∈ lw_all ∧ Cond.initialized y.cls ∈ lw_all ∧ hw ∈ lw_all ∧ gNotMH y ∧ (parseMethodDescriptor y.desc).map (fun d => d.parameters.length) = some n ∧ y.name = "<init>"
theorem g_invN (h : gOK φ l g R cc nL own mn ret tbl) {b : Nat} {as' : List Value} (hC : Ct l g y (.code y bytes maxL none) fr lo (.ref b :: as') c mc ms Post) {n : Nat} (w : gWN own idx y (.code y bytes maxL none) n) (hn : as'.length = n) (hst : st0 = as'.reverse ++ .ref b :: st) (hcat : (st.map fun v => v.category).sum ≤ 8)
    (hR : fr + 1 ≤ R.frames ∧ 8 + (maxL + 11) + lo ≤ R.locals) (hM : ce + mc ≤ R.cells ∧ sl + ms ≤ R.slots) (hd : decode cc pc = .ok (.invokespecial idx, 3)) (kr : gKR φ Q (pc + 3) lv st (ce + mc) (sl + ms) Post) (kt : gKT φ Q pc lv (ce + mc) (sl + ms) Post) : G φ Q pc lv st0 c ce sl := by
  intro H locs ls hr hl hv T hT X
  obtain ⟨⟨host, w1⟩, w2, w3, w4, w5, w6, w7⟩ := w
  have hpl : φ.1.2.2.1.platform.magicAccessors = ({} : Platform).magicAccessors := by rw [X.admits.platform]
  have hlink : (Cond.methodLinkNest own idx y host).before #[] φ.2.1.1 = true := va_Nw.use rfl (va_Nw.warmM h.warm (h.k.2.1 _ w1 rfl))
  obtain ⟨mk, methM, cM, kP, vm₁, hnamed, hmethM, hcodeM, -, hlocalsM, -, hkP, -, hW₁, hstep₁⟩ := Steps.initColdArgsNest (e := φ.1.2.2.1) X.here h.exec X.warmed hpl h.own_ w7 w5 hlink (h.word w2 (a := #[])) (h.word w4 (a := #[])) (f := F0 φ.2.1.2.1 pc ls st0) rfl (argsL := as') (rest := st) (a := b) (fun sig hs => by rw [hn]; exact glen w6 sig hs) hst (by rw [h.code]; exact hd)
  have X₁ := X.noted hW₁
  exact ginv h (Or.inl ⟨rfl, rfl⟩) hC w4 w3 hd hcat hR.1 hR.2 hM.1 hM.2 kr kt hr hl hv hT X₁ (X₁.named hnamed) hstep₁
theorem g_castS (h : gOK φ l g R cc nL own mn ret tbl) {a r ci : Nat} {fs : List Value} {q : vw_C} (hc : c a = some (r, .inr (ci, fs))) (hq : gcl[ci]? = some q) (hlink : Cond.classLink own idx q.1 ∈ lw_all) (hd : decode cc pc = .ok (.checkcast idx, 3)) (k : G φ Q (pc + 3) lv (.ref a :: st) c ce sl) : G φ Q pc lv (.ref a :: st) c ce sl :=
  fun H locs ls hr hl hv => va_castS h.exec h.code h.own_ (h.word hlink) (h.K.1 ci q hq).2 (h.recv hr hc hq) hd (k H locs ls hr hl hv)
theorem g_castY (h : gOK φ l g R cc nL own mn ret tbl) {a r ci : Nat} {fs : List Value} {q : vw_C} {C : String} (hc : c a = some (r, .inr (ci, fs))) (hq : gcl[ci]? = some q) (hlink : Cond.classLink own idx C ∈ lw_all) (hca : Cond.castable q.1 C ∈ lw_tbl) (hd : decode cc pc = .ok (.checkcast idx, 3)) (k : G φ Q (pc + 3) lv (.ref a :: st) c ce sl) : G φ Q pc lv (.ref a :: st) c ce sl :=
  fun H locs ls hr hl hv => va_castY h.exec h.code h.own_ (h.word hlink) (va_Nw.warmC h.warm (h.k.2.1 _ hca rfl)) (h.recv hr hc hq) hd (k H locs ls hr hl hv)
theorem g_instS (h : gOK φ l g R cc nL own mn ret tbl) {a r ci : Nat} {fs : List Value} {q : vw_C} (hc : c a = some (r, .inr (ci, fs))) (hq : gcl[ci]? = some q) (hlink : Cond.classLink own idx q.1 ∈ lw_all) (hd : decode cc pc = .ok (.instanceof idx, 3)) (k : G φ Q (pc + 3) lv (.int 1 :: st) c ce sl) : G φ Q pc lv (.ref a :: st) c ce sl :=
  fun H locs ls hr hl hv => va_instS h.exec h.code h.own_ (h.word hlink) (h.K.1 ci q hq).2 (h.recv hr hc hq) hd (k H locs ls hr hl hv)
abbrev gRefs (n : Nat) (f : Nat → Option Nat) : va_E := .inl (5, n, .inr (.inr (.inr (.inr f))))
abbrev gLongs (n : Nat) (f : Nat → Int64) : va_E := .inl (2, n, .inr (.inl f))
abbrev gBytes (n : Nat) (f : Nat → Int32) : va_E := .inl (1, n, .inl f)
/-- an object that an array of references may hold -/
def gObj (c : gLH) (v : Nat) : Prop := ∃ (r ci : Nat) (vs : List Value) (q : vw_C), c v = some (r, .inr (ci, vs)) ∧ gcl[ci]? = some q ∧ Cond.castable q.1 "java/lang/Object" ∈ lw_tbl
theorem g_aast (h : gOK φ l g R cc nL own mn ret tbl) {a r n j v : Nat} {f : Nat → Option Nat} (hc : c a = some (r, gRefs n f)) (hs : r < gSB) (hj : j < n) (hn : n < 2147483648) (hv' : gObj c v) (hd : decode cc pc = .ok (.aastore, 1)) (kk : G φ Q (pc + 1) lv st (va_up c a (some (r, gRefs n (va_up f j (some v))))) ce sl) : G φ Q pc lv (.ref v :: .int (nI j) :: .ref a :: st) c ce sl := by
  intro H locs ls hr hl hv
  have hA := (hr.1 a r _ hc).2 hs
  have hRel := hr
  rw [h.g_] at hr
  obtain ⟨r2, ci, vs, q, hcv, hq, hca⟩ := hv'
  have hat : H[a]? = some (vp_cell (g.2.2 5) (n, .inr (.inr (.inr (.inr f))))) := (hr.1 a r _ hc).1
  obtain ⟨r', k1, cellV, g1, g2, g3, -⟩ := (hr.1 v r2 _ hcv).1
  have hcls := (h.K.1 ci q hq).2
  obtain ⟨kA, comp, z1, z2, z3, -⟩ := (h.K.2 5 _ rfl).2
  obtain ⟨kE, hkE, -⟩ := Vm.findClass_spec z3
  obtain ⟨c0, t1, f1, f2, f3⟩ := Cond.castable_spec (va_Nw.use (A := #[]) rfl (va_Nw.warmC h.warm (h.k.2.1 _ hca rfl)))
  cases hcls.1.symm.trans f1
  cases z3.symm.trans f2
  obtain ⟨kC, hkC, -⟩ := hcls.2
  have hcl : (nI j).toNatClampNeg = j := nI_clamp (by omega)
  refine W.aast h.exec h.code hat (fun q hz => by cases hz) (fun hz => by cases hz) z1 z2 rfl hkE ⟨nI_pos (by omega), by show _ < (arrV _ _ _).slots.size; rw [arrV_size, hcl]; exact hj⟩ g1 (fun q hz => by rw [g3] at hz; cases hz) (by rw [g2]; exact hkC) (by rw [g2]; exact f3) rfl rfl hd fun H1 e z oq => ?_
  rw [hcl] at e ⊢
  refine kk H1 _ ls (hRel.set hc ?_ hs z oq) (gloc hl hA) hv
  rw [h.g_]
  show H1[a]? = some (vp_cell _ _)
  rw [e]
  rw [vp_cell_q, vp_cell_q, arrV_store]
  congr 2
  funext q
  by_cases hq : q = j
  · subst hq
    simp [updV, va_up, va_rf]
  · simp [updV, va_up, hq]
theorem g_aastNull (h : gOK φ l g R cc nL own mn ret tbl) {a r n j : Nat} {f : Nat → Option Nat} (hc : c a = some (r, gRefs n f)) (hs : r < gSB) (hj : j < n) (hn : n < 2147483648) (hd : decode cc pc = .ok (.aastore, 1)) (kk : G φ Q (pc + 1) lv st (va_up c a (some (r, gRefs n (va_up f j none)))) ce sl) : G φ Q pc lv (.null :: .int (nI j) :: .ref a :: st) c ce sl := by
  intro H locs ls hr hl hv
  have hA := (hr.1 a r _ hc).2 hs
  have hRel := hr
  rw [h.g_] at hr
  have hat : H[a]? = some (vp_cell (g.2.2 5) (n, .inr (.inr (.inr (.inr f))))) := (hr.1 a r _ hc).1
  have hcl : (nI j).toNatClampNeg = j := nI_clamp (by omega)
  refine va_WaastN (C := "java/lang/Object") h.exec h.code hat ((h.K.2 5 _ rfl).1 n (fun j => va_rf (f j))) (fun hz => by cases hz) (by show ¬ (nI j < 0 ∨ (arrV _ _ _).slots.size ≤ _); rw [arrV_size, hcl]; rintro (q | q); exact nI_pos (by omega) q; omega) rfl rfl hd fun H1 e z oq => ?_
  rw [hcl] at e ⊢
  refine kk H1 _ ls (hRel.set hc ?_ hs z oq) (gloc hl hA) hv
  rw [h.g_]
  show H1[a]? = some (vp_cell _ _)
  rw [e]
  rw [vp_cell_q, vp_cell_q, arrV_store]
  congr 2
  funext q
  by_cases hq : q = j
  · subst hq
    simp [updV, va_up, va_rf]
  · simp [updV, va_up, hq]
theorem g_anew (h : gOK φ l g R cc nL own mn ret tbl) (hao : va_AO "java/lang/Object" g.1) {n : Nat} (role : Nat) (hlink : Cond.classLink own idx "java/lang/Object" ∈ lw_all) (hn : n < 67108865) (hce : ce + 1 ≤ R.cells) (hsl : sl + n ≤ R.slots) (hd : decode cc pc = .ok (.anewarray idx, 3)) (kk : ∀ q : Nat, c q = none → G φ Q (pc + 3) lv (.ref q :: st) (va_up c q (some (role, gRefs n (fun _ => none)))) (ce + 1) (sl + n)) : G φ Q pc lv (.int (nI n) :: st) c ce sl := by
  intro H locs ls hr hl hv
  have hp : ¬ nI n < 0 := nI_pos (by omega)
  have hcl : (nI n).toNatClampNeg = n := nI_clamp (by omega)
  have hover : va_AO "java/lang/Object" φ.2.1.1 := va_AO.moved h.warm.alike hao
  refine W.anew h.exec h.code h.own_ (h.word hlink) (va_AO.use hover) rfl hd rfl hp (by rw [hcl]; omega) (by rw [h.2.2.1]; exact hce) (by rw [h.2.2.1, hcl]; exact hsl) fun cA kA comp f1 f2 f3 f4 => ?_
  rw [hcl]
  have hcA : cA = g.2.2 5 := by
    obtain ⟨kA', comp', z1, z2, z3, z4⟩ := (h.K.2 5 _ rfl).2
    exact Option.some.inj (f1.symm.trans z4)
  subst hcA
  generalize hH1 : H.push ({ cls := g.2.2 5, slots := Array.replicate n .null, vm := .none } : Cell) = H1
  have z1 : H1.size = H.size + 1 := by rw [← hH1, Array.size_push]
  have e1 : H1[H.size]? = some (arrV (g.2.2 5) n (fun _ => .null)) := by rw [← hH1, Array.getElem?_push_size, ← arrV_new]
  have o1 : ∀ q : Nat, q < H.size → H1[q]? = H[q]? := fun q hq => by rw [← hH1, Array.getElem?_push, if_neg (Nat.ne_of_lt hq)]
  obtain ⟨n1, n2⟩ := hr.push (r := role) (e := gRefs n (fun _ => none)) (H1 := H1) (by rw [h.g_]; exact e1) ⟨_, e1, rfl, rfl⟩ rfl z1 o1
  exact kk H.size n1 H1 locs ls n2 hl hv
end GKB
