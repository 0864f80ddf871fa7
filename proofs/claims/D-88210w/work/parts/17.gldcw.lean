/-! MY KIT, 17: ldc_w of a string constant that is resolved -/
set_option maxRecDepth 100000
section GLDCW
variable {p : Program} {l : Launch} {e : Env} {R : Room} {s : State} {m : MethodId} {args : Array Value} {below : List Frame} {meth : Method} {c : Code} {locs : List Loc} {cells slots : Nat}
theorem g_ldcwStep {T : State} (X : Stand p l e R s m args below meth c T locs cells slots) (hexec : p.tables.exec = Jvm.exec) {own tx : String} {index q : Nat} (hown : s.vm.findClass own = some m.cls) (hZ : vk_R own index tx q s) {g : JFrame} (hg : g.method = m) (hdg : decode c.code g.pc = .ok (.ldc_w index, 3)) :
    ∀ target, Steps p.tables e below (T.setTop { g with pc := g.pc + 3, stack := .ref q :: g.stack }) target → Steps p.tables e below (T.setTop g) target := by
  obtain ⟨k, cf, i, a', hk, hcf, hcp, -, hr, hev'⟩ := Cond.stringRef_spec hown hZ.1
  cases hZ.2.symm.trans hev'
  obtain ⟨k', hk', he⟩ := X.warmed.alike.2.2 _ _ hk
  have hr' : k'.resolved[index]? = some (some (.string q)) := by
    rcases X.warmed.entry hk hk' index with h | ⟨h, -⟩
    · rw [h]; exact hr
    · rw [hr] at h; cases h
  intro target hrest
  subst hg
  jvm_step X.here [hexec, hdg, ldc_w.wp_string (e := e) (s := T) (f := g) X.here.top hk' (by rw [he]; exact hcf) hcp hr']
  exact hrest
end GLDCW
theorem g_ldcwS {φ : gFx} {l : Launch} {g : gGP} {R : Room} {cc : ByteArray} {nL : Nat} {own mn : String} {ret : Option FieldType} {tbl : List (Nat × Nat × Nat × Nat)} {Q : State → Prop} {pc : Nat} {lv : List (Nat × Value)} {st : List Value} {c : gLH} {ce sl : Nat} (h : gOK φ l g R cc nL own mn ret tbl) {tx : String} {q idx : Nat} (hZ : vk_R own idx tx q g.1) (hd : decode cc pc = .ok (.ldc_w idx, 3)) (kk : G φ Q (pc + 3) lv (.ref q :: st) c ce sl) : G φ Q pc lv st c ce sl := by
  intro H locs ls hr hl hv T hT X
  obtain ⟨t, a1, b1⟩ := kk H locs ls hr hl hv T hT X
  exact ⟨t, g_ldcwStep X h.exec h.own_ (hZ.warm h.warm) (g := F0 _ pc ls st) rfl (by rw [h.code]; exact hd) t a1, b1⟩
