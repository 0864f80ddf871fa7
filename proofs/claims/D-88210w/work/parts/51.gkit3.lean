/-! MY KIT, 51: System.arraycopy; class objects; a super's method -/
set_option maxRecDepth 100000
section GKC
variable {φ : gFx} {Q : State → Prop} {pc : Nat} {lv : List (Nat × Value)} {st st0 : List Value} {c : gLH} {ce sl : Nat} {l : Launch} {g : gGP} {R : Room} {cc : ByteArray} {nL : Nat} {own mn : String} {ret : Option FieldType} {tbl : List (Nat × Nat × Nat × Nat)} {idx : Nat}
theorem i32_clamp {z : Int32} (hz : ¬ z < 0) : z.toInt = (z.toNatClampNeg : Int) := by
  have hz0 : (0 : Int) ≤ z.toInt := by
    have := Int32.not_lt.mp hz
    simpa using Int32.le_iff_toInt_le.mp this
  show z.toInt = ((z.toInt.toNat : Nat) : Int)
  omega
theorem gnw : nativeFrameWords "java/lang/System" "arraycopy" 5 ≤ 21 := by decide +kernel
theorem g_copyl (h : gOK φ l g R cc nL own mn ret tbl) {a0 a r0 r n0 n1 sp dp n : Nat} {f f1 : Nat → Int64} (hlink : Cond.methodLink own idx arraycopyName ∈ lw_all) (hnat : Cond.native arraycopyName ∈ lw_all) (hstat : Cond.static arraycopyName ∈ lw_all) (hini : Cond.initialized "java/lang/System" ∈ lw_all)
    (hc0 : c a0 = some (r0, gLongs n0 f)) (hc1 : c a = some (r, gLongs n1 f1)) (hs : r < gSB) (h4 : sp + n ≤ n0) (h5 : dp + n ≤ n1) (hb0 : n0 < 2147483648) (hb1 : n1 < 2147483648) (hcat : (st.map fun v => v.category).sum ≤ 8) (hR : 1 ≤ R.frames ∧ 40 ≤ R.locals) (hd : decode cc pc = .ok (.invokestatic idx, 3))
    (kk : G φ Q (pc + 3) lv st (va_up c a (some (r, gLongs n1 (va_cpy f f1 sp dp n)))) ce sl) : G φ Q pc lv (.int (nI n) :: .int (nI dp) :: .ref a :: .int (nI sp) :: .ref a0 :: st) c ce sl := by
  intro H locs ls hr hl hv T hT X
  have hA := (hr.1 a r _ hc1).2 hs
  have hRel := hr
  rw [h.g_] at hr
  have hx0 : H[a0]? = some (vp_cell (g.2.2 2) (n0, .inr (.inl f))) := (hr.1 a0 r0 _ hc0).1
  have hx1 : H[a]? = some (vp_cell (g.2.2 2) (n1, .inr (.inl f1))) := (hr.1 a r _ hc1).1
  have e_sp : (nI sp).toNatClampNeg = sp := nI_clamp (by omega)
  have e_dp : (nI dp).toNatClampNeg = dp := nI_clamp (by omega)
  have e_n : (nI n).toNatClampNeg = n := nI_clamp (by omega)
  have h1 : ¬ nI sp < 0 := nI_pos (by omega)
  have h2 : ¬ nI dp < 0 := nI_pos (by omega)
  have h3 : ¬ nI n < 0 := nI_pos (by omega)
  obtain ⟨-, k0, hk0, cm0, hkk0⟩ := (h.K.2 2 _ rfl).1 n0 (fun j => .long (f j))
  obtain ⟨-, k1, hk1, cm1, hkk1⟩ := (h.K.2 2 _ rfl).1 n1 (fun j => .long (f1 j))
  obtain ⟨vm', X', step⟩ := X.arraycopy h.exec h.own_ (h.word hlink) (h.word hnat) (h.word hstat) (h.word hini) (src := a0) (dst := a) (cs := vp_cell (g.2.2 2) (n0, .inr (.inl f))) (cd := vp_cell (g.2.2 2) (n1, .inr (.inl f1))) (srcPos := nI sp) (destPos := nI dp) (n := nI n) (by rw [hT]; exact hx0) (by rw [hT]; exact hx1)
    (fun _ hz => by cases hz) (fun _ hz => by cases hz) (fun hz => by cases hz) (fun hz => by cases hz) hk0 hk1 hkk0 hkk1 (by rfl) h1 h2 h3
    (by rw [i32_clamp h1, i32_clamp h3]; show ¬ _ > ((arrV (g.2.2 2) n0 (fun j => .long (f j))).slots.size : Int); rw [arrV_size]; omega)
    (by rw [i32_clamp h2, i32_clamp h3]; show ¬ _ > ((arrV (g.2.2 2) n1 (fun j => .long (f1 j))).slots.size : Int); rw [arrV_size]; omega)
    (fun vm₁ _ i hi => by
      have e : (vp_cell (g.2.2 2) (n0, .inr (.inl f))).slots.getD ((nI sp).toNatClampNeg + i) .null = .long (f ((nI sp).toNatClampNeg + i)) := by
        show (arrV (g.2.2 2) n0 (fun j => .long (f j))).slots.getD _ _ = _
        rw [Array.getD_eq_getD_getElem?, arrV_read _ _ (by omega)]
        rfl
      refine ⟨?_, ?_⟩
      · rw [e]
        rfl
      · rw [e]
        exact trivial)
    (g := F0 φ.2.1.2.1 pc ls (.int (nI n) :: .int (nI dp) :: .ref a :: .int (nI sp) :: .ref a0 :: st)) rfl hv.1 (rest := st) rfl (by rw [h.code]; exact hd) (by rw [h.2.2.1]; exact hR.1) (by rw [h.2.2.1]; show 2 * 0 + _ + _ ≤ _; have hnw := gnw; omega)
  have e1 : copied (vp_cell (g.2.2 2) (n0, .inr (.inl f))) (vp_cell (g.2.2 2) (n1, .inr (.inl f1))) (nI sp) (nI dp) (nI n) = vp_cell (g.2.2 2) (n1, .inr (.inl (va_cpy f f1 sp dp n))) := by
    have := va_copied (fun z => Value.long z) (g.2.2 2) (g.2.2 2) (n0 := n0) (n1 := n1) (sp := sp) (dp := dp) (n := n) f f1 h4
    unfold copied
    rw [e_sp, e_dp, e_n]
    exact this
  rw [e1] at X' step
  have hlt : a < H.size := (Array.getElem?_eq_some_iff.mp hx1).1
  have hheap : ((T.setVm vm').setCell a (vp_cell (g.2.2 2) (n1, .inr (.inl (va_cpy f f1 sp dp n))))).heap = H.setIfInBounds a (vp_cell (g.2.2 2) (n1, .inr (.inl (va_cpy f f1 sp dp n)))) := by rw [← hT]; rfl
  have oq : ∀ q : Nat, q ≠ a → (H.setIfInBounds a (vp_cell (g.2.2 2) (n1, .inr (.inl (va_cpy f f1 sp dp n)))))[q]? = H[q]? := fun q hq => by simp [Array.getElem?_setIfInBounds, Ne.symm hq]
  obtain ⟨t, a1, b1⟩ := kk _ _ ls (hRel.set hc1 (by rw [h.g_]; show (H.setIfInBounds a _)[a]? = some _; simp [Array.getElem?_setIfInBounds, hlt]) hs (by simp) oq) (fun q hq => by
      rcases List.mem_append.mp hq with h | h
      · exact hl q h
      · obtain ⟨z, -, hz⟩ := List.mem_map.mp h
        rw [← hz]
        exact hA) hv _ hheap X'
  exact ⟨t, step t a1, b1⟩
theorem g_copyb (h : gOK φ l g R cc nL own mn ret tbl) {a0 a r0 r n0 n1 sp dp n : Nat} {f f1 : Nat → Int32} (hlink : Cond.methodLink own idx arraycopyName ∈ lw_all) (hnat : Cond.native arraycopyName ∈ lw_all) (hstat : Cond.static arraycopyName ∈ lw_all) (hini : Cond.initialized "java/lang/System" ∈ lw_all)
    (hc0 : c a0 = some (r0, gBytes n0 f)) (hc1 : c a = some (r, gBytes n1 f1)) (hs : r < gSB) (h4 : sp + n ≤ n0) (h5 : dp + n ≤ n1) (hb0 : n0 < 2147483648) (hb1 : n1 < 2147483648) (hfit : ∀ i, i < n → fits .byte (.int (f (sp + i))) = true) (hcat : (st.map fun v => v.category).sum ≤ 8) (hR : 1 ≤ R.frames ∧ 40 ≤ R.locals) (hd : decode cc pc = .ok (.invokestatic idx, 3))
    (kk : G φ Q (pc + 3) lv st (va_up c a (some (r, gBytes n1 (va_cpy f f1 sp dp n)))) ce sl) : G φ Q pc lv (.int (nI n) :: .int (nI dp) :: .ref a :: .int (nI sp) :: .ref a0 :: st) c ce sl := by
  intro H locs ls hr hl hv T hT X
  have hA := (hr.1 a r _ hc1).2 hs
  have hRel := hr
  rw [h.g_] at hr
  have hx0 : H[a0]? = some (vp_cell (g.2.2 1) (n0, .inl f)) := (hr.1 a0 r0 _ hc0).1
  have hx1 : H[a]? = some (vp_cell (g.2.2 1) (n1, .inl f1)) := (hr.1 a r _ hc1).1
  have e_sp : (nI sp).toNatClampNeg = sp := nI_clamp (by omega)
  have e_dp : (nI dp).toNatClampNeg = dp := nI_clamp (by omega)
  have e_n : (nI n).toNatClampNeg = n := nI_clamp (by omega)
  have h1 : ¬ nI sp < 0 := nI_pos (by omega)
  have h2 : ¬ nI dp < 0 := nI_pos (by omega)
  have h3 : ¬ nI n < 0 := nI_pos (by omega)
  obtain ⟨-, k0, hk0, cm0, hkk0⟩ := (h.K.2 1 _ rfl).1 n0 (fun j => .int (f j))
  obtain ⟨-, k1, hk1, cm1, hkk1⟩ := (h.K.2 1 _ rfl).1 n1 (fun j => .int (f1 j))
  obtain ⟨vm', X', step⟩ := X.arraycopy h.exec h.own_ (h.word hlink) (h.word hnat) (h.word hstat) (h.word hini) (src := a0) (dst := a) (cs := vp_cell (g.2.2 1) (n0, .inl f)) (cd := vp_cell (g.2.2 1) (n1, .inl f1)) (srcPos := nI sp) (destPos := nI dp) (n := nI n) (by rw [hT]; exact hx0) (by rw [hT]; exact hx1)
    (fun _ hz => by cases hz) (fun _ hz => by cases hz) (fun hz => by cases hz) (fun hz => by cases hz) hk0 hk1 hkk0 hkk1 (by rfl) h1 h2 h3
    (by rw [i32_clamp h1, i32_clamp h3]; show ¬ _ > ((arrV (g.2.2 1) n0 (fun j => .int (f j))).slots.size : Int); rw [arrV_size]; omega)
    (by rw [i32_clamp h2, i32_clamp h3]; show ¬ _ > ((arrV (g.2.2 1) n1 (fun j => .int (f1 j))).slots.size : Int); rw [arrV_size]; omega)
    (fun vm₁ _ i hi => by
      have e : (vp_cell (g.2.2 1) (n0, .inl f)).slots.getD ((nI sp).toNatClampNeg + i) .null = .int (f ((nI sp).toNatClampNeg + i)) := by
        show (arrV (g.2.2 1) n0 (fun j => .int (f j))).slots.getD _ _ = _
        rw [Array.getD_eq_getD_getElem?, arrV_read _ _ (by omega)]
        rfl
      refine ⟨?_, ?_⟩
      · rw [e, e_sp]
        exact hfit i (by omega)
      · rw [e]
        exact trivial)
    (g := F0 φ.2.1.2.1 pc ls (.int (nI n) :: .int (nI dp) :: .ref a :: .int (nI sp) :: .ref a0 :: st)) rfl hv.1 (rest := st) rfl (by rw [h.code]; exact hd) (by rw [h.2.2.1]; exact hR.1) (by rw [h.2.2.1]; show 2 * 0 + _ + _ ≤ _; have hnw := gnw; omega)
  have e1 : copied (vp_cell (g.2.2 1) (n0, .inl f)) (vp_cell (g.2.2 1) (n1, .inl f1)) (nI sp) (nI dp) (nI n) = vp_cell (g.2.2 1) (n1, .inl (va_cpy f f1 sp dp n)) := by
    have := va_copied (fun z => Value.int z) (g.2.2 1) (g.2.2 1) (n0 := n0) (n1 := n1) (sp := sp) (dp := dp) (n := n) f f1 h4
    unfold copied
    rw [e_sp, e_dp, e_n]
    exact this
  rw [e1] at X' step
  have hlt : a < H.size := (Array.getElem?_eq_some_iff.mp hx1).1
  have hheap : ((T.setVm vm').setCell a (vp_cell (g.2.2 1) (n1, .inl (va_cpy f f1 sp dp n)))).heap = H.setIfInBounds a (vp_cell (g.2.2 1) (n1, .inl (va_cpy f f1 sp dp n))) := by rw [← hT]; rfl
  have oq : ∀ q : Nat, q ≠ a → (H.setIfInBounds a (vp_cell (g.2.2 1) (n1, .inl (va_cpy f f1 sp dp n))))[q]? = H[q]? := fun q hq => by simp [Array.getElem?_setIfInBounds, Ne.symm hq]
  obtain ⟨t, a1, b1⟩ := kk _ _ ls (hRel.set hc1 (by rw [h.g_]; show (H.setIfInBounds a _)[a]? = some _; simp [Array.getElem?_setIfInBounds, hlt]) hs (by simp) oq) (fun q hq => by
      rcases List.mem_append.mp hq with h | h
      · exact hl q h
      · obtain ⟨z, -, hz⟩ := List.mem_map.mp h
        rw [← hz]
        exact hA) hv _ hheap X'
  exact ⟨t, step t a1, b1⟩
theorem g_copyq (h : gOK φ l g R cc nL own mn ret tbl) {a0 a r0 r n0 n1 sp dp n : Nat} {f f1 : Nat → Option Nat} (hlink : Cond.methodLink own idx arraycopyName ∈ lw_all) (hnat : Cond.native arraycopyName ∈ lw_all) (hstat : Cond.static arraycopyName ∈ lw_all) (hini : Cond.initialized "java/lang/System" ∈ lw_all)
    (hc0 : c a0 = some (r0, gRefs n0 f)) (hc1 : c a = some (r, gRefs n1 f1)) (hs : r < gSB) (h4 : sp + n ≤ n0) (h5 : dp + n ≤ n1) (hb0 : n0 < 2147483648) (hb1 : n1 < 2147483648) (hel : ∀ i, i < n → ∀ y, f (sp + i) = some y → gObj c y) (hcat : (st.map fun v => v.category).sum ≤ 8) (hR : 1 ≤ R.frames ∧ 40 ≤ R.locals) (hd : decode cc pc = .ok (.invokestatic idx, 3))
    (kk : G φ Q (pc + 3) lv st (va_up c a (some (r, gRefs n1 (va_cpy f f1 sp dp n)))) ce sl) : G φ Q pc lv (.int (nI n) :: .int (nI dp) :: .ref a :: .int (nI sp) :: .ref a0 :: st) c ce sl := by
  intro H locs ls hr hl hv T hT X
  have hA := (hr.1 a r _ hc1).2 hs
  have hRel := hr
  rw [h.g_] at hr
  have hx0 : H[a0]? = some (vp_cell (g.2.2 5) (n0, .inr (.inr (.inr (.inr f))))) := (hr.1 a0 r0 _ hc0).1
  have hx1 : H[a]? = some (vp_cell (g.2.2 5) (n1, .inr (.inr (.inr (.inr f1))))) := (hr.1 a r _ hc1).1
  have e_sp : (nI sp).toNatClampNeg = sp := nI_clamp (by omega)
  have e_dp : (nI dp).toNatClampNeg = dp := nI_clamp (by omega)
  have e_n : (nI n).toNatClampNeg = n := nI_clamp (by omega)
  have h1 : ¬ nI sp < 0 := nI_pos (by omega)
  have h2 : ¬ nI dp < 0 := nI_pos (by omega)
  have h3 : ¬ nI n < 0 := nI_pos (by omega)
  obtain ⟨-, k0, hk0, cm0, hkk0⟩ := (h.K.2 5 _ rfl).1 n0 (fun j => va_rf (f j))
  obtain ⟨-, k1, hk1, cm1, hkk1⟩ := (h.K.2 5 _ rfl).1 n1 (fun j => va_rf (f1 j))
  obtain ⟨vm', X', step⟩ := X.arraycopy h.exec h.own_ (h.word hlink) (h.word hnat) (h.word hstat) (h.word hini) (src := a0) (dst := a) (cs := vp_cell (g.2.2 5) (n0, .inr (.inr (.inr (.inr f))))) (cd := vp_cell (g.2.2 5) (n1, .inr (.inr (.inr (.inr f1))))) (srcPos := nI sp) (destPos := nI dp) (n := nI n) (by rw [hT]; exact hx0) (by rw [hT]; exact hx1)
    (fun _ hz => by cases hz) (fun _ hz => by cases hz) (fun hz => by cases hz) (fun hz => by cases hz) hk0 hk1 hkk0 hkk1 rfl h1 h2 h3
    (by rw [i32_clamp h1, i32_clamp h3]; show ¬ _ > ((arrV (g.2.2 5) n0 (fun j => va_rf (f j))).slots.size : Int); rw [arrV_size]; omega)
    (by rw [i32_clamp h2, i32_clamp h3]; show ¬ _ > ((arrV (g.2.2 5) n1 (fun j => va_rf (f1 j))).slots.size : Int); rw [arrV_size]; omega)
    (fun vm₁ hal i hi => by
      have e : (vp_cell (g.2.2 5) (n0, .inr (.inr (.inr (.inr f))))).slots.getD ((nI sp).toNatClampNeg + i) .null = va_rf (f ((nI sp).toNatClampNeg + i)) := by
        show (arrV (g.2.2 5) n0 (fun j => va_rf (f j))).slots.getD _ _ = _
        rw [Array.getD_eq_getD_getElem?, arrV_read _ _ (by omega)]
        rfl
      rw [e, e_sp]
      cases hy : f (sp + i) with
      | none => exact ⟨rfl, trivial⟩
      | some y =>
        obtain ⟨r2, ci, vs, qc, hcv, hq, hca⟩ := hel i (by omega) y hy
        obtain ⟨cellV, g1, g2, g3⟩ := h.recv hRel hcv hq
        obtain ⟨kA, comp, s1, s2, s3, -⟩ := (h.K.2 5 _ rfl).2
        cases hk1.symm.trans s1
        cases hkk1.symm.trans s2
        obtain ⟨kC, hkC, -⟩ := Vm.findClass_spec g3
        obtain ⟨kE, hkE, -⟩ := Vm.findClass_spec s3
        obtain ⟨kC', hkC', -⟩ := hal.2.2 _ _ hkC
        obtain ⟨kE', hkE', -⟩ := hal.2.2 _ _ hkE
        obtain ⟨c0, t1, f1', f2', f3'⟩ := Cond.castable_spec (va_Nw.use (A := #[]) rfl (va_Nw.warmC h.warm (h.k.2.1 _ hca rfl)))
        cases g3.symm.trans f1'
        cases s3.symm.trans f2'
        refine ⟨rfl, cellV, (show T.heap[y]? = some cellV by rw [hT]; exact g1), (fun q hz => by rw [hz] at g2; cases g2), ⟨kC', hkC'⟩, ?_, ?_⟩
        · exact ⟨kE', hkE'⟩
        · show vm₁.assignable _ _ = true
          rw [hal.assignable]
          exact f3')
    (g := F0 φ.2.1.2.1 pc ls (.int (nI n) :: .int (nI dp) :: .ref a :: .int (nI sp) :: .ref a0 :: st)) rfl hv.1 (rest := st) rfl (by rw [h.code]; exact hd) (by rw [h.2.2.1]; exact hR.1) (by rw [h.2.2.1]; show 2 * 0 + _ + _ ≤ _; have hnw := gnw; omega)
  have e1 : copied (vp_cell (g.2.2 5) (n0, .inr (.inr (.inr (.inr f))))) (vp_cell (g.2.2 5) (n1, .inr (.inr (.inr (.inr f1))))) (nI sp) (nI dp) (nI n) = vp_cell (g.2.2 5) (n1, .inr (.inr (.inr (.inr (va_cpy f f1 sp dp n))))) := by
    have := va_copied (fun z => va_rf z) (g.2.2 5) (g.2.2 5) (n0 := n0) (n1 := n1) (sp := sp) (dp := dp) (n := n) f f1 h4
    rw [vp_cell_q, vp_cell_q, vp_cell_q]
    unfold copied
    rw [e_sp, e_dp, e_n]
    exact this
  rw [e1] at X' step
  have hlt : a < H.size := (Array.getElem?_eq_some_iff.mp hx1).1
  have hheap : ((T.setVm vm').setCell a (vp_cell (g.2.2 5) (n1, .inr (.inr (.inr (.inr (va_cpy f f1 sp dp n))))))).heap = H.setIfInBounds a (vp_cell (g.2.2 5) (n1, .inr (.inr (.inr (.inr (va_cpy f f1 sp dp n)))))) := by rw [← hT]; rfl
  have oq : ∀ q : Nat, q ≠ a → (H.setIfInBounds a (vp_cell (g.2.2 5) (n1, .inr (.inr (.inr (.inr (va_cpy f f1 sp dp n)))))))[q]? = H[q]? := fun q hq => by simp [Array.getElem?_setIfInBounds, Ne.symm hq]
  obtain ⟨t, a1, b1⟩ := kk _ _ ls (hRel.set hc1 (by rw [h.g_]; show (H.setIfInBounds a _)[a]? = some _; simp [Array.getElem?_setIfInBounds, hlt]) hs (by simp) oq) (fun q hq => by
      rcases List.mem_append.mp hq with h | h
      · exact hl q h
      · obtain ⟨z, -, hz⟩ := List.mem_map.mp h
        rw [← hz]
        exact hA) hv _ hheap X'
  exact ⟨t, step t a1, b1⟩
/-- the class object of an array of references, at the law's start -/
def gMi (g : gGP) (mi : Nat) : Prop := va_Mi "[Ljava/lang/Object;" mi g.1
theorem g_ldcM (h : gOK φ l g R cc nL own mn ret tbl) {mi : Nat} (hM : gMi g mi) (hlink : Cond.classLink own idx "[Ljava/lang/Object;" ∈ lw_all) (hd : decode cc pc = .ok (.ldc idx, 2)) (k : G φ Q (pc + 2) lv (.ref mi :: st) c ce sl) : G φ Q pc lv st c ce sl :=
  fun H locs ls hr hl hv => va_ldcM h.exec h.code h.own_ (h.word hlink) (va_Mi.moved h.warm.alike hM) hd (k H locs ls hr hl hv)
theorem g_getC (h : gOK φ l g R cc nL own mn ret tbl) {mi a r n : Nat} {f : Nat → Option Nat} (hM : gMi g mi) (hlink : Cond.methodLink own idx ⟨"java/lang/Object", "getClass", "()Ljava/lang/Class;"⟩ ∈ lw_all) (hsel : Cond.selects "[Ljava/lang/Object;" ⟨"java/lang/Object", "getClass", "()Ljava/lang/Class;"⟩ ⟨"java/lang/Object", "getClass", "()Ljava/lang/Class;"⟩ ∈ lw_all) (hinst : Cond.instanceMethod ⟨"java/lang/Object", "getClass", "()Ljava/lang/Class;"⟩ ∈ lw_all) (hnat : Cond.native ⟨"java/lang/Object", "getClass", "()Ljava/lang/Class;"⟩ ∈ lw_all) (hdecl : Cond.declares ⟨"java/lang/Object", "getClass", "()Ljava/lang/Class;"⟩ ∈ lw_tbl)
    (hc : c a = some (r, gRefs n f)) (hcat : (st.map fun v => v.category).sum ≤ 8) (hR : 1 ≤ R.frames ∧ 40 ≤ R.locals) (hd : decode cc pc = .ok (.invokevirtual idx, 3)) (k : G φ Q (pc + 3) lv (.ref mi :: st) c ce sl) : G φ Q pc lv (.ref a :: st) c ce sl := by
  intro H locs ls hr hl hv
  have hr2 := hr
  rw [h.g_] at hr2
  have hx : H[a]? = some (vp_cell (g.2.2 5) (n, .inr (.inr (.inr (.inr f))))) := (hr2.1 a r _ hc).1
  have hdc : va_Dc φ.2.1.1 := va_Dc.moved h.warm.alike (h.k.2.1 _ hdecl rfl)
  refine va_getC h.exec h.code hv.1.symm h.own_ (h.word hlink) hdc.use (h.word hsel) (h.word hinst) (h.word hnat) (va_Mi.moved h.warm.alike hM) ⟨_, hx, rfl, ?_⟩ (by rw [h.2.2.1]; exact hR.1) (by rw [h.2.2.1]; omega) hd (k H locs ls hr hl hv)
  exact va_nmO (C := "java/lang/Object") (h.K.2 5 _ rfl).2 (by decide +kernel)
end GKC
