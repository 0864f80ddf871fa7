/-! MY KIT: an array's cast; a private method of a forefather -/
set_option maxRecDepth 100000
section GK4
variable {φ : gFx} {Q : State → Prop} {pc : Nat} {lv : List (Nat × Value)} {st st0 : List Value} {c : gLH} {ce sl : Nat} {l : Launch} {g : gGP} {R : Room} {cc : ByteArray} {nL : Nat} {own mn : String} {ret ret' : Option FieldType} {tbl : List (Nat × Nat × Nat × Nat)} {idx : Nat} {x y : MethodName} {hw : Cond} {fr lo mc ms : Nat} {Post : Outcome → gLH → Prop} {bytes : ByteArray} {maxL : Nat} {hh : List (Nat × Nat × Nat × Nat)}
theorem g_castB (h : gOK φ l g R cc nL own mn ret tbl) {a r n : Nat} {f : Nat → Int32} (hc : c a = some (r, .inl (1, n, .inl f))) (hlink : Cond.classLink own idx "[B" ∈ lw_all) (hd : decode cc pc = .ok (.checkcast idx, 3)) (k : G φ Q (pc + 3) lv (.ref a :: st) c ce sl) : G φ Q pc lv (.ref a :: st) c ce sl := by
  intro H locs ls hr hl hv
  have hP : va_P g.2.1 gcl [(a, .inl (g.2.2 1, n, .inl f))] H := by
    intro k q hk
    have hz : k < 1 := (List.getElem?_eq_some_iff.mp hk).1
    rw [show k = 0 by omega] at hk
    cases hk
    have := (hr.1 a r _ hc).1
    rw [h.g_] at this
    exact this
  exact va_castA h.exec h.code h.own_ (h.word hlink) hP 0 rfl (va_nm_byte (h.K.2 1 _ rfl).2) hd (k H locs ls hr hl hv)
/-- a private method that a forefather has -/
def gWP (own : String) (idx ci : Nat) (y : MethodName) (hw : Cond) (n : Nat) : Prop := (∃ q : vw_C, gcl[ci]? = some q) ∧ Cond.methodLink own idx y ∈ lw_all ∧ Cond.sameMethod y.cls y.cls y.name y.desc ∈ lw_all ∧ Cond.privateMethod y ∈ lw_tbl ∧ (∃ b m r, Cond.code y b m r ∈ lw_all) ∧ (y.cls ≠ "java/lang/invoke/MethodHandle" ∧ y.cls ≠ "java/lang/invoke/VarHandle") ∧ Cond.instanceMethod y ∈ lw_all ∧ Cond.initialized y.cls ∈ lw_all ∧ hw ∈ lw_all ∧ (parseMethodDescriptor y.desc).map (fun d => d.parameters.length) = some n
theorem g_invP (h : gOK φ l g R cc nL own mn ret tbl) {b r ci : Nat} {fs as' : List Value} (hC : Ct l g y hw fr lo (.ref b :: as') c mc ms Post) (hcw : gIsCode hw y bytes maxL ret' hh) {n : Nat} (w : gWP own idx ci y hw n) (hn : as'.length = n) (hst : st0 = as'.reverse ++ .ref b :: st) (hc : c b = some (r, .inr (ci, fs))) (hcat : (st.map fun v => v.category).sum ≤ 8)
    (hR : fr + 1 ≤ R.frames ∧ 8 + (maxL + 11) + lo ≤ R.locals) (hM : ce + mc ≤ R.cells ∧ sl + ms ≤ R.slots) (hd : decode cc pc = .ok (.invokevirtual idx, 3)) (kr : gKR φ Q (pc + 3) lv st (ce + mc) (sl + ms) Post) (kt : gKT φ Q pc lv (ce + mc) (sl + ms) Post) : G φ Q pc lv st0 c ce sl := by
  intro H locs ls hr hl hv T hT X
  obtain ⟨⟨q, hq⟩, w1, w2, wp, ⟨b0, m0, r00, w3'⟩, w4, w5, w6, w7, w8⟩ := w
  obtain ⟨cellB, hcell, hobj, hcls⟩ := h.recv hr hc hq
  have hd0 : va_Decl φ.2.1.1 ⟨y.cls, y.name, y.desc⟩ := va_Decl.of (h.word w5 (a := #[])) (h.word w3' (a := #[]))
  obtain ⟨r0, rr, hn0, hrm, hstR, hsigR⟩ := hd0
  obtain ⟨cn, ck, r1, hcn, hck, hni, hf, hn1⟩ := Cond.sameMethod_found (h.word w2 (a := #[]))
  cases hn0.symm.trans hn1
  obtain ⟨mk, methM, hnamed, hmethM, -, habM⟩ := Cond.instanceMethod_spec (h.word w5 (a := #[]))
  have hpr := Cond.privateMethod_at (Cond.privateMethod_warm (args' := #[]) h.warm (h.k.2.1 _ wp rfl))
  cases hn0.symm.trans hnamed
  have hcl : r0.cls = cn := Option.some.inj ((findClass_of_methodNamed hnamed).symm.trans hcn)
  have hselP : selectMethod φ.1.2.2.1.platform φ.2.1.1.vm cellB.cls r0 = .method r0 := selectMethod_private hmethM (hpr r0 methM hnamed hmethM)
  obtain ⟨vm₁, X₁, hstep₁⟩ := X.invokevirtualUp h.exec h.own_ (h.word w1) (h.word w2) w4 hn0 hrm hstR (a := b) (cell := cellB) (by rw [hT]; exact hcell)
    (fun z hz => by rw [hz] at hobj; cases hobj) hselP hmethM habM (by rw [hcl]; exact hck) hni (g := F0 φ.2.1.2.1 pc ls st0) rfl (argsL := as') (rest := st) (by rw [hn]; exact glen (y := y) w8 _ hsigR) hst (by rw [h.code]; exact hd)
  exact ginv h hcw hC w7 w6 hd hcat hR.1 hR.2 hM.1 hM.2 kr kt hr hl hv hT X₁ (X₁.named hnamed) hstep₁
/-- super.m(..) -/
def gWSU (own : String) (idx ci : Nat) (y : MethodName) (hw : Cond) (n : Nat) : Prop := (∃ q : vw_C, gcl[ci]? = some q) ∧ Cond.methodLink own idx y ∈ lw_all ∧ Cond.sameMethod y.cls y.cls y.name y.desc ∈ lw_all ∧ Cond.superclass own y.cls ∈ lw_all ∧ (∃ b m r, Cond.code y b m r ∈ lw_all) ∧ y.name ≠ "<init>" ∧ Cond.instanceMethod y ∈ lw_all ∧ Cond.initialized y.cls ∈ lw_all ∧ hw ∈ lw_all ∧ (parseMethodDescriptor y.desc).map (fun d => d.parameters.length) = some n
theorem g_invSU (h : gOK φ l g R cc nL own mn ret tbl) {b r ci : Nat} {fs as' : List Value} (hC : Ct l g y hw fr lo (.ref b :: as') c mc ms Post) (hcw : gIsCode hw y bytes maxL ret' hh) {n : Nat} (w : gWSU own idx ci y hw n) (hn : as'.length = n) (hst : st0 = as'.reverse ++ .ref b :: st) (hc : c b = some (r, .inr (ci, fs))) (hcat : (st.map fun v => v.category).sum ≤ 8)
    (hR : fr + 1 ≤ R.frames ∧ 8 + (maxL + 11) + lo ≤ R.locals) (hM : ce + mc ≤ R.cells ∧ sl + ms ≤ R.slots) (hd : decode cc pc = .ok (.invokespecial idx, 3)) (kr : gKR φ Q (pc + 3) lv st (ce + mc) (sl + ms) Post) (kt : gKT φ Q pc lv (ce + mc) (sl + ms) Post) : G φ Q pc lv st0 c ce sl := by
  intro H locs ls hr hl hv T hT X
  obtain ⟨⟨q, hq⟩, w1, w2, w3, ⟨b0, m0, r00, w3'⟩, w4, w5, w6, w7, w8⟩ := w
  obtain ⟨cellB, hcell, hobj, hcls⟩ := h.recv hr hc hq
  obtain ⟨mk, methM, hnamed, hmethM, hstM, habM⟩ := Cond.instanceMethod_spec (h.word w5 (a := #[]))
  obtain ⟨methM', cM, hmethM', -, -, -, -, -, -, hsigM⟩ := Cond.code_spec hnamed (h.word w3' (a := #[]))
  cases hmethM.symm.trans hmethM'
  obtain ⟨ps, dk, kp, hps, hdk, hkp, hsuper, -, -, hnid⟩ := Cond.superclass_spec h.own_ (h.word w3 (a := #[]))
  have hn0 : φ.2.1.1.methodNamed? ⟨y.cls, y.name, y.desc⟩ = some mk := hnamed
  have hpm : ps = mk.cls := Option.some.inj (hps.symm.trans (findClass_of_methodNamed hnamed))
  have hsub : φ.2.1.1.vm.isSubclass ps mk.cls = true := by rw [hpm]; simp [Vm.isSubclass, Vm.isSubclassAux]
  obtain ⟨kB, hkB⟩ : ∃ kB, φ.2.1.1.vm.classes[cellB.cls]? = some kB := by
    obtain ⟨hfc, kB, hkB, -⟩ := (h.K.1 ci q hq).2
    have e := Option.some.inj (hfc.symm.trans hcls)
    exact ⟨kB, by rw [← e]; exact hkB⟩
  obtain ⟨vm₁, X₁, hstep₁⟩ := X.invokespecialUp h.exec h.own_ (h.word w1) (h.word w2) hn0 hmethM hstM habM w4 hdk hnid hps hsuper hsub (a := b) (cell := cellB) (by rw [hT]; exact hcell)
    (fun z hz => by rw [hz] at hobj; cases hobj) hkB (g := F0 φ.2.1.2.1 pc ls st0) rfl (argsL := as') (rest := st) (by rw [hn]; exact glen (y := y) w8 _ hsigM) hst (by rw [h.code]; exact hd)
  exact ginv h hcw hC w7 w6 hd hcat hR.1 hR.2 hM.1 hM.2 kr kt hr hl hv hT X₁ (X₁.named hnamed) (fun t k => hstep₁ t (k []))
end GK4
