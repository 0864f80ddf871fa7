/-! MY KIT, 16: static fields that were set before the run -/
set_option maxRecDepth 100000
/-- a static field's value at the law's start -/
def gZ (g : gGP) (C n d : String) (v : Value) : Prop := va_Z C n d v (fun q => g.1.heap.size ≤ q) g.1 g.1.heap
section GSTAT
variable {φ : gFx} {l : Launch} {g : gGP} {R : Room} {cc : ByteArray} {nL : Nat} {own mn : String} {ret : Option FieldType} {tbl : List (Nat × Nat × Nat × Nat)} {Q : State → Prop} {pc : Nat} {lv : List (Nat × Value)} {st : List Value} {c : gLH} {ce sl : Nat}
theorem g_getstatic (h : gOK φ l g R cc nL own mn ret tbl) {C n d : String} {v : Value} {idx : Nat} (hZ : gZ g C n d v) (hlink : Cond.fieldLink own idx C n d ∈ lw_all) (hd : decode cc pc = .ok (.getstatic idx, 3)) (kk : G φ Q (pc + 3) lv (v :: st) c ce sl) : G φ Q pc lv st c ce sl := by
  intro H locs ls hr hl hv
  have hr2 := hr
  rw [h.g_] at hr2
  have hZ2 : va_Z C n d v (fun q => g.1.heap.size ≤ q) φ.2.1.1 g.1.heap := va_Z.moved h.warm.alike hZ
  obtain ⟨cf, kf, fi, f, a, cell, h1, h2, h3, h4, h5, h6, h7, h8⟩ := hZ2
  refine W.gets h.exec h.code h.own_ (h.word hlink) h1 h2 h3 h4 (by rw [hr2.2.2.1 a (Array.getElem?_eq_some_iff.mp h5).1]; exact h5) (fun e => by rw [e] at h6; cases h6) h7 rfl hd ?_
  exact kk H locs ls hr hl hv
theorem g_ldcS (h : gOK φ l g R cc nL own mn ret tbl) {tx : String} {q idx : Nat} (hZ : vk_R own idx tx q g.1) (hd : decode cc pc = .ok (.ldc idx, 2)) (kk : G φ Q (pc + 2) lv (.ref q :: st) c ce sl) : G φ Q pc lv st c ce sl :=
  fun H locs ls hr hl hv => va_ldcS h.exec h.code h.own_ (hZ.warm h.warm) hd (kk H locs ls hr hl hv)
end GSTAT
