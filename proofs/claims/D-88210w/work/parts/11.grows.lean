/-! MY KIT, 2: rows of G for instructions that touch no heap (printed by tools/mk_rows.py) -/
set_option maxRecDepth 100000
section GPURE
variable {φ : gFx} {Q : State → Prop} {pc : Nat} {lv : List (Nat × Value)} {st : List Value} {c : gLH} {ce sl : Nat} {l : Launch} {g : gGP} {R : Room} {cc : ByteArray} {nL : Nat} {own mn : String} {ret : Option FieldType} {tbl : List (Nat × Nat × Nat × Nat)}
theorem gOK.exec (h : gOK φ l g R cc nL own mn ret tbl) : φ.1.1.tables.exec = Jvm.exec := h.2.2.2.1
theorem gOK.code (h : gOK φ l g R cc nL own mn ret tbl) : φ.2.2.1.2.code = cc := h.2.2.2.2.1
theorem gOK.nl (h : gOK φ l g R cc nL own mn ret tbl) : φ.2.2.1.2.maxLocals = nL := h.2.2.2.2.2.1
theorem gOK.own_ (h : gOK φ l g R cc nL own mn ret tbl) : φ.2.1.1.vm.findClass own = some φ.2.1.2.1.cls := h.2.2.2.2.2.2.1
theorem gOK.ret_ (h : gOK φ l g R cc nL own mn ret tbl) : φ.2.2.1.1.sig.returnType = ret := h.2.2.2.2.2.2.2.1
theorem gOK.locks (h : gOK φ l g R cc nL own mn ret tbl) : φ.2.2.1.1.locks = false := h.2.2.2.2.2.2.2.2.1
theorem gOK.k (h : gOK φ l g R cc nL own mn ret tbl) : gK l g := h.2.2.2.2.2.2.2.2.2.1
theorem gOK.warm (h : gOK φ l g R cc nL own mn ret tbl) : g.1.WarmedH φ.2.1.1.vm := h.2.2.2.2.2.2.2.2.2.2.1
theorem gOK.tbl_ (h : gOK φ l g R cc nL own mn ret tbl) : φ.2.2.1.2.exceptionTable.toList.map (fun x => (x.startPc, x.endPc, x.handlerPc, x.catchType)) = tbl := h.2.2.2.2.2.2.2.2.2.2.2.1
theorem gOK.name (h : gOK φ l g R cc nL own mn ret tbl) : φ.2.2.1.1.name = mn := h.2.2.2.2.2.2.2.2.2.2.2.2.1
theorem gOK.base (h : gOK φ l g R cc nL own mn ret tbl) : ∀ q : Nat, q < g.1.heap.size → φ.2.1.1.heap[q]? = g.1.heap[q]? := h.2.2.2.2.2.2.2.2.2.2.2.2.2
theorem gOK.word (h : gOK φ l g R cc nL own mn ret tbl) {w : Cond} (hw : w ∈ lw_all) {a : Array Value} : w.before a φ.2.1.1 = true := word_at h.warm (lw_self w hw).2 (h.k.2.2.1 w hw)
theorem gOK.K (h : gOK φ l g R cc nL own mn ret tbl) : va_K g.2.1 gcl (gtys g) φ.2.1.1 := va_K.moved h.warm.alike h.k.2.2.2
theorem g_iconst (h : gOK φ l g R cc nL own mn ret tbl) {n : Int} {v : Int32} (hd : decode cc pc = .ok (.iconst n, 1)) (hw : Int32.ofInt n = v) (k : G φ Q (pc + 1) lv (.int v :: st) c ce sl) : G φ Q pc lv st c ce sl :=
  fun H locs ls hr hl hv => lv_iconst h.exec h.code hd hw (k H locs ls hr hl hv)
theorem g_bipush (h : gOK φ l g R cc nL own mn ret tbl) {n : Int} {v : Int32} (hd : decode cc pc = .ok (.bipush n, 2)) (hw : (Int8.ofInt n).toInt32 = v) (k : G φ Q (pc + 2) lv (.int v :: st) c ce sl) : G φ Q pc lv st c ce sl :=
  fun H locs ls hr hl hv => lv_bipush h.exec h.code hd hw (k H locs ls hr hl hv)
theorem g_sipush (h : gOK φ l g R cc nL own mn ret tbl) {n : Int} {v : Int32} (hd : decode cc pc = .ok (.sipush n, 3)) (hw : (Int16.ofInt n).toInt32 = v) (k : G φ Q (pc + 3) lv (.int v :: st) c ce sl) : G φ Q pc lv st c ce sl :=
  fun H locs ls hr hl hv => lv_sipush h.exec h.code hd hw (k H locs ls hr hl hv)
theorem g_lconst (h : gOK φ l g R cc nL own mn ret tbl) {n : Fin 2} {v : Int64} (hd : decode cc pc = .ok (.lconst n, 1)) (hw : Int64.ofNat (n : Nat) = v) (k : G φ Q (pc + 1) lv (.long v :: st) c ce sl) : G φ Q pc lv st c ce sl :=
  fun H locs ls hr hl hv => lv_lconst h.exec h.code hd hw (k H locs ls hr hl hv)
theorem g_null (h : gOK φ l g R cc nL own mn ret tbl) (hd : decode cc pc = .ok (.aconst_null, 1)) (k : G φ Q (pc + 1) lv (.null :: st) c ce sl) : G φ Q pc lv st c ce sl :=
  fun H locs ls hr hl hv => lv_null h.exec h.code hd (k H locs ls hr hl hv)
theorem g_ldc (h : gOK φ l g R cc nL own mn ret tbl) {idx : Nat} {v : Int32} (hd : decode cc pc = .ok (.ldc idx, 2)) (hw : Cond.constant own idx v ∈ lw_all) (k : G φ Q (pc + 2) lv (.int v :: st) c ce sl) : G φ Q pc lv st c ce sl :=
  fun H locs ls hr hl hv => lv_ldc h.exec h.code h.own_ (h.word hw) hd (k H locs ls hr hl hv)
theorem g_ldcw (h : gOK φ l g R cc nL own mn ret tbl) {idx : Nat} {v : Int32} (hd : decode cc pc = .ok (.ldc_w idx, 3)) (hw : Cond.constant own idx v ∈ lw_all) (k : G φ Q (pc + 3) lv (.int v :: st) c ce sl) : G φ Q pc lv st c ce sl :=
  fun H locs ls hr hl hv => lv_ldcw h.exec h.code h.own_ (h.word hw) hd (k H locs ls hr hl hv)
theorem g_ldc2 (h : gOK φ l g R cc nL own mn ret tbl) {idx : Nat} {v : Int64} (hd : decode cc pc = .ok (.ldc2_w idx, 3)) (hw : Cond.constantLong own idx v ∈ lw_all) (k : G φ Q (pc + 3) lv (.long v :: st) c ce sl) : G φ Q pc lv st c ce sl :=
  fun H locs ls hr hl hv => lv_ldc2 h.exec h.code h.own_ (h.word hw) hd (k H locs ls hr hl hv)
theorem g_iload_n (h : gOK φ l g R cc nL own mn ret tbl) {k' : Fin 4} {i : Nat} {x : Int32} (hd : decode cc pc = .ok (.iload_n k', 1)) (hi : (k' : Nat) = i) (hx : lget lv i = some (.int x)) (k : G φ Q (pc + 1) lv (.int x :: st) c ce sl) : G φ Q pc lv st c ce sl :=
  fun H locs ls hr hl hv => lv_iload_n h.exec h.code hd hi (hv.at hx) (k H locs ls hr hl hv)
theorem g_iload (h : gOK φ l g R cc nL own mn ret tbl) {i : Nat} {x : Int32} (hd : decode cc pc = .ok (.iload i, 2)) (hx : lget lv i = some (.int x)) (k : G φ Q (pc + 2) lv (.int x :: st) c ce sl) : G φ Q pc lv st c ce sl :=
  fun H locs ls hr hl hv => lv_iload h.exec h.code hd (hv.at hx) (k H locs ls hr hl hv)
theorem g_lload_n (h : gOK φ l g R cc nL own mn ret tbl) {k' : Fin 4} {i : Nat} {x : Int64} (hd : decode cc pc = .ok (.lload_n k', 1)) (hi : (k' : Nat) = i) (hx : lget lv i = some (.long x)) (k : G φ Q (pc + 1) lv (.long x :: st) c ce sl) : G φ Q pc lv st c ce sl :=
  fun H locs ls hr hl hv => lv_lload_n h.exec h.code hd hi (hv.at hx) (k H locs ls hr hl hv)
theorem g_lload (h : gOK φ l g R cc nL own mn ret tbl) {i : Nat} {x : Int64} (hd : decode cc pc = .ok (.lload i, 2)) (hx : lget lv i = some (.long x)) (k : G φ Q (pc + 2) lv (.long x :: st) c ce sl) : G φ Q pc lv st c ce sl :=
  fun H locs ls hr hl hv => lv_lload h.exec h.code hd (hv.at hx) (k H locs ls hr hl hv)
theorem g_aload_n (h : gOK φ l g R cc nL own mn ret tbl) {k' : Fin 4} {i : Nat} {x : Nat} (hd : decode cc pc = .ok (.aload_n k', 1)) (hi : (k' : Nat) = i) (hx : lget lv i = some (.ref x)) (k : G φ Q (pc + 1) lv (.ref x :: st) c ce sl) : G φ Q pc lv st c ce sl :=
  fun H locs ls hr hl hv => lv_aload_n h.exec h.code hd hi (hv.at hx) (k H locs ls hr hl hv)
theorem g_aload (h : gOK φ l g R cc nL own mn ret tbl) {i : Nat} {x : Nat} (hd : decode cc pc = .ok (.aload i, 2)) (hx : lget lv i = some (.ref x)) (k : G φ Q (pc + 2) lv (.ref x :: st) c ce sl) : G φ Q pc lv st c ce sl :=
  fun H locs ls hr hl hv => lv_aload h.exec h.code hd (hv.at hx) (k H locs ls hr hl hv)
theorem g_aload_nN (h : gOK φ l g R cc nL own mn ret tbl) {k' : Fin 4} {i : Nat} (hd : decode cc pc = .ok (.aload_n k', 1)) (hi : (k' : Nat) = i) (hx : lget lv i = some .null) (k : G φ Q (pc + 1) lv (.null :: st) c ce sl) : G φ Q pc lv st c ce sl :=
  fun H locs ls hr hl hv => lv_aload_nN h.exec h.code hd hi (hv.at hx) (k H locs ls hr hl hv)
theorem g_aloadN (h : gOK φ l g R cc nL own mn ret tbl) {i : Nat} (hd : decode cc pc = .ok (.aload i, 2)) (hx : lget lv i = some .null) (k : G φ Q (pc + 2) lv (.null :: st) c ce sl) : G φ Q pc lv st c ce sl :=
  fun H locs ls hr hl hv => lv_aloadN h.exec h.code hd (hv.at hx) (k H locs ls hr hl hv)
theorem g_istore_n (h : gOK φ l g R cc nL own mn ret tbl) {k' : Fin 4} {i : Nat} {x : Int32} (hd : decode cc pc = .ok (.istore_n k', 1)) (hi : (k' : Nat) = i) (hn : i < nL) (k : G φ Q (pc + 1) ((i, .int x) :: lv) st c ce sl) : G φ Q pc lv (.int x :: st) c ce sl := by
  intro H locs ls hr hl hv T hT X
  subst hi
  obtain ⟨ls', e', h'⟩ := hv.store1 (v := .int x) (by rw [h.nl]; exact hn) rfl
  obtain ⟨t, a, b⟩ := k H locs ls' hr hl h' T hT X
  refine ⟨t, ?_, b⟩
  jvm_step X.here [X.here.top, ↓top_set X.here.top, h.exec, h.code, hd, e']
  exact a
theorem g_istore (h : gOK φ l g R cc nL own mn ret tbl) {i : Nat} {x : Int32} (hd : decode cc pc = .ok (.istore i, 2)) (hn : i < nL) (k : G φ Q (pc + 2) ((i, .int x) :: lv) st c ce sl) : G φ Q pc lv (.int x :: st) c ce sl := by
  intro H locs ls hr hl hv T hT X
  obtain ⟨ls', e', h'⟩ := hv.store1 (v := .int x) (by rw [h.nl]; exact hn) rfl
  obtain ⟨t, a, b⟩ := k H locs ls' hr hl h' T hT X
  refine ⟨t, ?_, b⟩
  jvm_step X.here [X.here.top, ↓top_set X.here.top, h.exec, h.code, hd, e']
  exact a
theorem g_lstore_n (h : gOK φ l g R cc nL own mn ret tbl) {k' : Fin 4} {i : Nat} {x : Int64} (hd : decode cc pc = .ok (.lstore_n k', 1)) (hi : (k' : Nat) = i) (hn : i + 1 < nL) (k : G φ Q (pc + 1) ((i, .long x) :: lv) st c ce sl) : G φ Q pc lv (.long x :: st) c ce sl := by
  intro H locs ls hr hl hv T hT X
  subst hi
  obtain ⟨ls', e', h'⟩ := hv.store2 (v := .long x) (by rw [h.nl]; exact hn) rfl
  obtain ⟨t, a, b⟩ := k H locs ls' hr hl h' T hT X
  refine ⟨t, ?_, b⟩
  jvm_step X.here [X.here.top, ↓top_set X.here.top, h.exec, h.code, hd, e']
  exact a
theorem g_lstore (h : gOK φ l g R cc nL own mn ret tbl) {i : Nat} {x : Int64} (hd : decode cc pc = .ok (.lstore i, 2)) (hn : i + 1 < nL) (k : G φ Q (pc + 2) ((i, .long x) :: lv) st c ce sl) : G φ Q pc lv (.long x :: st) c ce sl := by
  intro H locs ls hr hl hv T hT X
  obtain ⟨ls', e', h'⟩ := hv.store2 (v := .long x) (by rw [h.nl]; exact hn) rfl
  obtain ⟨t, a, b⟩ := k H locs ls' hr hl h' T hT X
  refine ⟨t, ?_, b⟩
  jvm_step X.here [X.here.top, ↓top_set X.here.top, h.exec, h.code, hd, e']
  exact a
theorem g_astore_n (h : gOK φ l g R cc nL own mn ret tbl) {k' : Fin 4} {i : Nat} {x : Nat} (hd : decode cc pc = .ok (.astore_n k', 1)) (hi : (k' : Nat) = i) (hn : i < nL) (k : G φ Q (pc + 1) ((i, .ref x) :: lv) st c ce sl) : G φ Q pc lv (.ref x :: st) c ce sl := by
  intro H locs ls hr hl hv T hT X
  subst hi
  obtain ⟨ls', e', h'⟩ := hv.store1 (v := .ref x) (by rw [h.nl]; exact hn) rfl
  obtain ⟨t, a, b⟩ := k H locs ls' hr hl h' T hT X
  refine ⟨t, ?_, b⟩
  jvm_step X.here [X.here.top, ↓top_set X.here.top, h.exec, h.code, hd, e', Value.isRef]
  exact a
theorem g_astore (h : gOK φ l g R cc nL own mn ret tbl) {i : Nat} {x : Nat} (hd : decode cc pc = .ok (.astore i, 2)) (hn : i < nL) (k : G φ Q (pc + 2) ((i, .ref x) :: lv) st c ce sl) : G φ Q pc lv (.ref x :: st) c ce sl := by
  intro H locs ls hr hl hv T hT X
  obtain ⟨ls', e', h'⟩ := hv.store1 (v := .ref x) (by rw [h.nl]; exact hn) rfl
  obtain ⟨t, a, b⟩ := k H locs ls' hr hl h' T hT X
  refine ⟨t, ?_, b⟩
  jvm_step X.here [X.here.top, ↓top_set X.here.top, h.exec, h.code, hd, e', Value.isRef]
  exact a
theorem g_astore_nN (h : gOK φ l g R cc nL own mn ret tbl) {k' : Fin 4} {i : Nat} (hd : decode cc pc = .ok (.astore_n k', 1)) (hi : (k' : Nat) = i) (hn : i < nL) (k : G φ Q (pc + 1) ((i, .null) :: lv) st c ce sl) : G φ Q pc lv (.null :: st) c ce sl := by
  intro H locs ls hr hl hv T hT X
  subst hi
  obtain ⟨ls', e', h'⟩ := hv.store1 (v := .null) (by rw [h.nl]; exact hn) rfl
  obtain ⟨t, a, b⟩ := k H locs ls' hr hl h' T hT X
  refine ⟨t, ?_, b⟩
  jvm_step X.here [X.here.top, ↓top_set X.here.top, h.exec, h.code, hd, e', Value.isRef]
  exact a
theorem g_astoreN (h : gOK φ l g R cc nL own mn ret tbl) {i : Nat} (hd : decode cc pc = .ok (.astore i, 2)) (hn : i < nL) (k : G φ Q (pc + 2) ((i, .null) :: lv) st c ce sl) : G φ Q pc lv (.null :: st) c ce sl := by
  intro H locs ls hr hl hv T hT X
  obtain ⟨ls', e', h'⟩ := hv.store1 (v := .null) (by rw [h.nl]; exact hn) rfl
  obtain ⟨t, a, b⟩ := k H locs ls' hr hl h' T hT X
  refine ⟨t, ?_, b⟩
  jvm_step X.here [X.here.top, ↓top_set X.here.top, h.exec, h.code, hd, e', Value.isRef]
  exact a
theorem g_iinc (h : gOK φ l g R cc nL own mn ret tbl) {i : Nat} {n : Int} {x v : Int32} (hd : decode cc pc = .ok (.iinc i n, 3)) (hx : lget lv i = some (.int x)) (hw : x + Int32.ofInt n = v) (hn : i < nL) (k : G φ Q (pc + 3) ((i, .int v) :: lv) st c ce sl) : G φ Q pc lv st c ce sl := by
  intro H locs ls hr hl hv T hT X
  have hg := hv.at hx
  subst hw
  obtain ⟨ls', e', h'⟩ := hv.store1 (v := .int (x + Int32.ofInt n)) (by rw [h.nl]; exact hn) rfl
  obtain ⟨t, a, b⟩ := k H locs ls' hr hl h' T hT X
  refine ⟨t, ?_, b⟩
  jvm_step X.here [X.here.top, ↓top_set X.here.top, h.exec, h.code, hd, hg, e']
  exact a
theorem g_iadd (h : gOK φ l g R cc nL own mn ret tbl) {x y : Int32} (hd : decode cc pc = .ok (.iadd, 1)) (k : G φ Q (pc + 1) lv (.int (x + y) :: st) c ce sl) : G φ Q pc lv (.int y :: .int x :: st) c ce sl :=
  fun H locs ls hr hl hv => lv_iadd h.exec h.code hd (k H locs ls hr hl hv)
theorem g_isub (h : gOK φ l g R cc nL own mn ret tbl) {x y : Int32} (hd : decode cc pc = .ok (.isub, 1)) (k : G φ Q (pc + 1) lv (.int (x - y) :: st) c ce sl) : G φ Q pc lv (.int y :: .int x :: st) c ce sl :=
  fun H locs ls hr hl hv => lv_isub h.exec h.code hd (k H locs ls hr hl hv)
theorem g_imul (h : gOK φ l g R cc nL own mn ret tbl) {x y : Int32} (hd : decode cc pc = .ok (.imul, 1)) (k : G φ Q (pc + 1) lv (.int (x * y) :: st) c ce sl) : G φ Q pc lv (.int y :: .int x :: st) c ce sl :=
  fun H locs ls hr hl hv => lv_imul h.exec h.code hd (k H locs ls hr hl hv)
theorem g_iand (h : gOK φ l g R cc nL own mn ret tbl) {x y : Int32} (hd : decode cc pc = .ok (.iand, 1)) (k : G φ Q (pc + 1) lv (.int (x &&& y) :: st) c ce sl) : G φ Q pc lv (.int y :: .int x :: st) c ce sl :=
  fun H locs ls hr hl hv => lv_iand h.exec h.code hd (k H locs ls hr hl hv)
theorem g_ior (h : gOK φ l g R cc nL own mn ret tbl) {x y : Int32} (hd : decode cc pc = .ok (.ior, 1)) (k : G φ Q (pc + 1) lv (.int (x ||| y) :: st) c ce sl) : G φ Q pc lv (.int y :: .int x :: st) c ce sl :=
  fun H locs ls hr hl hv => lv_ior h.exec h.code hd (k H locs ls hr hl hv)
theorem g_ixor (h : gOK φ l g R cc nL own mn ret tbl) {x y : Int32} (hd : decode cc pc = .ok (.ixor, 1)) (k : G φ Q (pc + 1) lv (.int (x ^^^ y) :: st) c ce sl) : G φ Q pc lv (.int y :: .int x :: st) c ce sl :=
  fun H locs ls hr hl hv => lv_ixor h.exec h.code hd (k H locs ls hr hl hv)
theorem g_ishl (h : gOK φ l g R cc nL own mn ret tbl) {x y : Int32} (hd : decode cc pc = .ok (.ishl, 1)) (k : G φ Q (pc + 1) lv (.int (x <<< (y &&& 31)) :: st) c ce sl) : G φ Q pc lv (.int y :: .int x :: st) c ce sl :=
  fun H locs ls hr hl hv => lv_ishl h.exec h.code hd (k H locs ls hr hl hv)
theorem g_ishr (h : gOK φ l g R cc nL own mn ret tbl) {x y : Int32} (hd : decode cc pc = .ok (.ishr, 1)) (k : G φ Q (pc + 1) lv (.int (x >>> (y &&& 31)) :: st) c ce sl) : G φ Q pc lv (.int y :: .int x :: st) c ce sl :=
  fun H locs ls hr hl hv => lv_ishr h.exec h.code hd (k H locs ls hr hl hv)
theorem g_idiv (h : gOK φ l g R cc nL own mn ret tbl) {x y : Int32} (hd : decode cc pc = .ok (.idiv, 1)) (hne : ¬ y = 0) (k : G φ Q (pc + 1) lv (.int (x / y) :: st) c ce sl) : G φ Q pc lv (.int y :: .int x :: st) c ce sl :=
  fun H locs ls hr hl hv => lv_idiv h.exec h.code hd hne (k H locs ls hr hl hv)
theorem g_irem (h : gOK φ l g R cc nL own mn ret tbl) {x y : Int32} (hd : decode cc pc = .ok (.irem, 1)) (hne : ¬ y = 0) (k : G φ Q (pc + 1) lv (.int (x - x / y * y) :: st) c ce sl) : G φ Q pc lv (.int y :: .int x :: st) c ce sl :=
  fun H locs ls hr hl hv => lv_irem h.exec h.code hd hne (k H locs ls hr hl hv)
theorem g_ineg (h : gOK φ l g R cc nL own mn ret tbl) {x : Int32} (hd : decode cc pc = .ok (.ineg, 1)) (k : G φ Q (pc + 1) lv (.int (-x) :: st) c ce sl) : G φ Q pc lv (.int x :: st) c ce sl :=
  fun H locs ls hr hl hv => lv_ineg h.exec h.code hd (k H locs ls hr hl hv)
theorem g_ladd (h : gOK φ l g R cc nL own mn ret tbl) {x y : Int64} (hd : decode cc pc = .ok (.ladd, 1)) (k : G φ Q (pc + 1) lv (.long (x + y) :: st) c ce sl) : G φ Q pc lv (.long y :: .long x :: st) c ce sl :=
  fun H locs ls hr hl hv => lv_ladd h.exec h.code hd (k H locs ls hr hl hv)
theorem g_lsub (h : gOK φ l g R cc nL own mn ret tbl) {x y : Int64} (hd : decode cc pc = .ok (.lsub, 1)) (k : G φ Q (pc + 1) lv (.long (x - y) :: st) c ce sl) : G φ Q pc lv (.long y :: .long x :: st) c ce sl :=
  fun H locs ls hr hl hv => lv_lsub h.exec h.code hd (k H locs ls hr hl hv)
theorem g_lmul (h : gOK φ l g R cc nL own mn ret tbl) {x y : Int64} (hd : decode cc pc = .ok (.lmul, 1)) (k : G φ Q (pc + 1) lv (.long (x * y) :: st) c ce sl) : G φ Q pc lv (.long y :: .long x :: st) c ce sl :=
  fun H locs ls hr hl hv => lv_lmul h.exec h.code hd (k H locs ls hr hl hv)
theorem g_land (h : gOK φ l g R cc nL own mn ret tbl) {x y : Int64} (hd : decode cc pc = .ok (.land, 1)) (k : G φ Q (pc + 1) lv (.long (x &&& y) :: st) c ce sl) : G φ Q pc lv (.long y :: .long x :: st) c ce sl :=
  fun H locs ls hr hl hv => lv_land h.exec h.code hd (k H locs ls hr hl hv)
theorem g_ldiv (h : gOK φ l g R cc nL own mn ret tbl) {x y : Int64} (hd : decode cc pc = .ok (.ldiv, 1)) (hne : ¬ y = 0) (k : G φ Q (pc + 1) lv (.long (x / y) :: st) c ce sl) : G φ Q pc lv (.long y :: .long x :: st) c ce sl :=
  fun H locs ls hr hl hv => lv_ldiv h.exec h.code hd hne (k H locs ls hr hl hv)
theorem g_lrem (h : gOK φ l g R cc nL own mn ret tbl) {x y : Int64} (hd : decode cc pc = .ok (.lrem, 1)) (hne : ¬ y = 0) (k : G φ Q (pc + 1) lv (.long (x - x / y * y) :: st) c ce sl) : G φ Q pc lv (.long y :: .long x :: st) c ce sl :=
  fun H locs ls hr hl hv => lv_lrem h.exec h.code hd hne (k H locs ls hr hl hv)
theorem g_lneg (h : gOK φ l g R cc nL own mn ret tbl) {x : Int64} (hd : decode cc pc = .ok (.lneg, 1)) (k : G φ Q (pc + 1) lv (.long (-x) :: st) c ce sl) : G φ Q pc lv (.long x :: st) c ce sl :=
  fun H locs ls hr hl hv => lv_lneg h.exec h.code hd (k H locs ls hr hl hv)
theorem g_lcmp (h : gOK φ l g R cc nL own mn ret tbl) {x y : Int64} (hd : decode cc pc = .ok (.lcmp, 1)) (k : G φ Q (pc + 1) lv (.int (lg_cmp x y) :: st) c ce sl) : G φ Q pc lv (.long y :: .long x :: st) c ce sl :=
  fun H locs ls hr hl hv => W.lcmp h.exec h.code hd (k H locs ls hr hl hv)
theorem g_i2l (h : gOK φ l g R cc nL own mn ret tbl) {x : Int32} (hd : decode cc pc = .ok (.i2l, 1)) (k : G φ Q (pc + 1) lv (.long x.toInt64 :: st) c ce sl) : G φ Q pc lv (.int x :: st) c ce sl :=
  fun H locs ls hr hl hv => lv_i2l h.exec h.code hd rfl (k H locs ls hr hl hv)
theorem g_l2i (h : gOK φ l g R cc nL own mn ret tbl) {x : Int64} (hd : decode cc pc = .ok (.l2i, 1)) (k : G φ Q (pc + 1) lv (.int x.toInt32 :: st) c ce sl) : G φ Q pc lv (.long x :: st) c ce sl :=
  fun H locs ls hr hl hv => lv_l2i h.exec h.code hd rfl (k H locs ls hr hl hv)
theorem g_i2b (h : gOK φ l g R cc nL own mn ret tbl) {x : Int32} (hd : decode cc pc = .ok (.i2b, 1)) (k : G φ Q (pc + 1) lv (.int x.toInt8.toInt32 :: st) c ce sl) : G φ Q pc lv (.int x :: st) c ce sl :=
  fun H locs ls hr hl hv => lv_i2b h.exec h.code hd rfl (k H locs ls hr hl hv)
theorem g_i2c (h : gOK φ l g R cc nL own mn ret tbl) {x : Int32} (hd : decode cc pc = .ok (.i2c, 1)) (k : G φ Q (pc + 1) lv (.int (x.toUInt32 % 65536).toInt32 :: st) c ce sl) : G φ Q pc lv (.int x :: st) c ce sl :=
  fun H locs ls hr hl hv => lv_i2c h.exec h.code hd rfl (k H locs ls hr hl hv)
theorem g_dup (h : gOK φ l g R cc nL own mn ret tbl) {va : Value} (hd : decode cc pc = .ok (.dup, 1)) (ha : va.category = 1) (k : G φ Q (pc + 1) lv (va :: va :: st) c ce sl) : G φ Q pc lv (va :: st) c ce sl :=
  fun H locs ls hr hl hv => lv_dup h.exec h.code hd ha (k H locs ls hr hl hv)
theorem g_pop (h : gOK φ l g R cc nL own mn ret tbl) {va : Value} (hd : decode cc pc = .ok (.pop, 1)) (ha : va.category = 1) (k : G φ Q (pc + 1) lv st c ce sl) : G φ Q pc lv (va :: st) c ce sl :=
  fun H locs ls hr hl hv => lv_pop h.exec h.code hd ha (k H locs ls hr hl hv)
theorem g_dup_x1 (h : gOK φ l g R cc nL own mn ret tbl) {va vb : Value} (hd : decode cc pc = .ok (.dup_x1, 1)) (ha : va.category = 1) (hb : vb.category = 1) (k : G φ Q (pc + 1) lv (va :: vb :: va :: st) c ce sl) : G φ Q pc lv (va :: vb :: st) c ce sl :=
  fun H locs ls hr hl hv => lv_dup_x1 h.exec h.code hd ha hb (k H locs ls hr hl hv)
theorem g_dup_x2 (h : gOK φ l g R cc nL own mn ret tbl) {va vb vd : Value} (hd : decode cc pc = .ok (.dup_x2, 1)) (ha : va.category = 1) (hb : vb.category = 1) (hc : vd.category = 1) (k : G φ Q (pc + 1) lv (va :: vb :: vd :: va :: st) c ce sl) : G φ Q pc lv (va :: vb :: vd :: st) c ce sl :=
  fun H locs ls hr hl hv => lv_dup_x2 h.exec h.code hd ha hb hc (k H locs ls hr hl hv)
theorem g_dup2 (h : gOK φ l g R cc nL own mn ret tbl) {va vb : Value} (hd : decode cc pc = .ok (.dup2, 1)) (ha : va.category = 1) (hb : vb.category = 1) (k : G φ Q (pc + 1) lv (va :: vb :: va :: vb :: st) c ce sl) : G φ Q pc lv (va :: vb :: st) c ce sl :=
  fun H locs ls hr hl hv => lv_dup2_11 h.exec h.code hd ha hb (k H locs ls hr hl hv)
theorem g_dup2_2 (h : gOK φ l g R cc nL own mn ret tbl) {va : Value} (hd : decode cc pc = .ok (.dup2, 1)) (ha : va.category = 2) (k : G φ Q (pc + 1) lv (va :: va :: st) c ce sl) : G φ Q pc lv (va :: st) c ce sl :=
  fun H locs ls hr hl hv => lv_dup2_2 h.exec h.code hd ha (k H locs ls hr hl hv)
theorem g_ccastN (h : gOK φ l g R cc nL own mn ret tbl) {idx : Nat} (hd : decode cc pc = .ok (.checkcast idx, 3)) (k : G φ Q (pc + 3) lv (.null :: st) c ce sl) : G φ Q pc lv (.null :: st) c ce sl :=
  fun H locs ls hr hl hv => lv_castN h.exec h.code hd (k H locs ls hr hl hv)
theorem g_icmp_eq (h : gOK φ l g R cc nL own mn ret tbl) {x y : Int32} {off : Int} {tgt : Nat} (hd : decode cc pc = .ok (.if_icmp .eq off, 3)) (ht : (pc : Int) + off = (tgt : Int)) (kt : x = y → G φ Q tgt lv st c ce sl) (kf : ¬ x = y → G φ Q (pc + 3) lv st c ce sl) : G φ Q pc lv (.int y :: .int x :: st) c ce sl :=
  fun H locs ls hr hl hv => lv_icmp_eq h.exec h.code hd ht (fun q => kt q H locs ls hr hl hv) (fun q => kf q H locs ls hr hl hv)
theorem g_if_eq (h : gOK φ l g R cc nL own mn ret tbl) {x : Int32} {off : Int} {tgt : Nat} (hd : decode cc pc = .ok (.ifCond .eq off, 3)) (ht : (pc : Int) + off = (tgt : Int)) (kt : x = 0 → G φ Q tgt lv st c ce sl) (kf : ¬ x = 0 → G φ Q (pc + 3) lv st c ce sl) : G φ Q pc lv (.int x :: st) c ce sl :=
  fun H locs ls hr hl hv => lv_if_eq h.exec h.code hd ht (fun q => kt q H locs ls hr hl hv) (fun q => kf q H locs ls hr hl hv)
theorem g_icmp_lt (h : gOK φ l g R cc nL own mn ret tbl) {x y : Int32} {off : Int} {tgt : Nat} (hd : decode cc pc = .ok (.if_icmp .lt off, 3)) (ht : (pc : Int) + off = (tgt : Int)) (kt : x < y → G φ Q tgt lv st c ce sl) (kf : ¬ x < y → G φ Q (pc + 3) lv st c ce sl) : G φ Q pc lv (.int y :: .int x :: st) c ce sl :=
  fun H locs ls hr hl hv => lv_icmp_lt h.exec h.code hd ht (fun q => kt q H locs ls hr hl hv) (fun q => kf q H locs ls hr hl hv)
theorem g_if_lt (h : gOK φ l g R cc nL own mn ret tbl) {x : Int32} {off : Int} {tgt : Nat} (hd : decode cc pc = .ok (.ifCond .lt off, 3)) (ht : (pc : Int) + off = (tgt : Int)) (kt : x < 0 → G φ Q tgt lv st c ce sl) (kf : ¬ x < 0 → G φ Q (pc + 3) lv st c ce sl) : G φ Q pc lv (.int x :: st) c ce sl :=
  fun H locs ls hr hl hv => lv_if_lt h.exec h.code hd ht (fun q => kt q H locs ls hr hl hv) (fun q => kf q H locs ls hr hl hv)
theorem g_icmp_ge (h : gOK φ l g R cc nL own mn ret tbl) {x y : Int32} {off : Int} {tgt : Nat} (hd : decode cc pc = .ok (.if_icmp .ge off, 3)) (ht : (pc : Int) + off = (tgt : Int)) (kt : y ≤ x → G φ Q tgt lv st c ce sl) (kf : ¬ y ≤ x → G φ Q (pc + 3) lv st c ce sl) : G φ Q pc lv (.int y :: .int x :: st) c ce sl :=
  fun H locs ls hr hl hv => lv_icmp_ge h.exec h.code hd ht (fun q => kt q H locs ls hr hl hv) (fun q => kf q H locs ls hr hl hv)
theorem g_if_ge (h : gOK φ l g R cc nL own mn ret tbl) {x : Int32} {off : Int} {tgt : Nat} (hd : decode cc pc = .ok (.ifCond .ge off, 3)) (ht : (pc : Int) + off = (tgt : Int)) (kt : 0 ≤ x → G φ Q tgt lv st c ce sl) (kf : ¬ 0 ≤ x → G φ Q (pc + 3) lv st c ce sl) : G φ Q pc lv (.int x :: st) c ce sl :=
  fun H locs ls hr hl hv => lv_if_ge h.exec h.code hd ht (fun q => kt q H locs ls hr hl hv) (fun q => kf q H locs ls hr hl hv)
theorem g_icmp_gt (h : gOK φ l g R cc nL own mn ret tbl) {x y : Int32} {off : Int} {tgt : Nat} (hd : decode cc pc = .ok (.if_icmp .gt off, 3)) (ht : (pc : Int) + off = (tgt : Int)) (kt : y < x → G φ Q tgt lv st c ce sl) (kf : ¬ y < x → G φ Q (pc + 3) lv st c ce sl) : G φ Q pc lv (.int y :: .int x :: st) c ce sl :=
  fun H locs ls hr hl hv => lv_icmp_gt h.exec h.code hd ht (fun q => kt q H locs ls hr hl hv) (fun q => kf q H locs ls hr hl hv)
theorem g_if_gt (h : gOK φ l g R cc nL own mn ret tbl) {x : Int32} {off : Int} {tgt : Nat} (hd : decode cc pc = .ok (.ifCond .gt off, 3)) (ht : (pc : Int) + off = (tgt : Int)) (kt : 0 < x → G φ Q tgt lv st c ce sl) (kf : ¬ 0 < x → G φ Q (pc + 3) lv st c ce sl) : G φ Q pc lv (.int x :: st) c ce sl :=
  fun H locs ls hr hl hv => lv_if_gt h.exec h.code hd ht (fun q => kt q H locs ls hr hl hv) (fun q => kf q H locs ls hr hl hv)
theorem g_icmp_le (h : gOK φ l g R cc nL own mn ret tbl) {x y : Int32} {off : Int} {tgt : Nat} (hd : decode cc pc = .ok (.if_icmp .le off, 3)) (ht : (pc : Int) + off = (tgt : Int)) (kt : x ≤ y → G φ Q tgt lv st c ce sl) (kf : ¬ x ≤ y → G φ Q (pc + 3) lv st c ce sl) : G φ Q pc lv (.int y :: .int x :: st) c ce sl :=
  fun H locs ls hr hl hv => lv_icmp_le h.exec h.code hd ht (fun q => kt q H locs ls hr hl hv) (fun q => kf q H locs ls hr hl hv)
theorem g_if_le (h : gOK φ l g R cc nL own mn ret tbl) {x : Int32} {off : Int} {tgt : Nat} (hd : decode cc pc = .ok (.ifCond .le off, 3)) (ht : (pc : Int) + off = (tgt : Int)) (kt : x ≤ 0 → G φ Q tgt lv st c ce sl) (kf : ¬ x ≤ 0 → G φ Q (pc + 3) lv st c ce sl) : G φ Q pc lv (.int x :: st) c ce sl :=
  fun H locs ls hr hl hv => lv_if_le h.exec h.code hd ht (fun q => kt q H locs ls hr hl hv) (fun q => kf q H locs ls hr hl hv)
theorem g_icmp_ne (h : gOK φ l g R cc nL own mn ret tbl) {x y : Int32} {off : Int} {tgt : Nat} (hd : decode cc pc = .ok (.if_icmp .ne off, 3)) (ht : (pc : Int) + off = (tgt : Int)) (kt : ¬ x = y → G φ Q tgt lv st c ce sl) (kf : x = y → G φ Q (pc + 3) lv st c ce sl) : G φ Q pc lv (.int y :: .int x :: st) c ce sl :=
  fun H locs ls hr hl hv => lv_icmp_ne h.exec h.code hd ht (fun q => kt q H locs ls hr hl hv) (fun q => kf q H locs ls hr hl hv)
theorem g_if_ne (h : gOK φ l g R cc nL own mn ret tbl) {x : Int32} {off : Int} {tgt : Nat} (hd : decode cc pc = .ok (.ifCond .ne off, 3)) (ht : (pc : Int) + off = (tgt : Int)) (kt : ¬ x = 0 → G φ Q tgt lv st c ce sl) (kf : x = 0 → G φ Q (pc + 3) lv st c ce sl) : G φ Q pc lv (.int x :: st) c ce sl :=
  fun H locs ls hr hl hv => lv_if_ne h.exec h.code hd ht (fun q => kt q H locs ls hr hl hv) (fun q => kf q H locs ls hr hl hv)
theorem g_acmp_eq (h : gOK φ l g R cc nL own mn ret tbl) {rx ry : Option Nat} {off : Int} {tgt : Nat} (hd : decode cc pc = .ok (.if_acmp .eq off, 3)) (ht : (pc : Int) + off = (tgt : Int)) (kt : rx = ry → G φ Q tgt lv st c ce sl) (kf : ¬ rx = ry → G φ Q (pc + 3) lv st c ce sl) : G φ Q pc lv (va_rf ry :: va_rf rx :: st) c ce sl :=
  fun H locs ls hr hl hv => lv_acmp_eq h.exec h.code hd ht (fun q => kt q H locs ls hr hl hv) (fun q => kf q H locs ls hr hl hv)
theorem g_acmp_ne (h : gOK φ l g R cc nL own mn ret tbl) {rx ry : Option Nat} {off : Int} {tgt : Nat} (hd : decode cc pc = .ok (.if_acmp .ne off, 3)) (ht : (pc : Int) + off = (tgt : Int)) (kt : ¬ rx = ry → G φ Q tgt lv st c ce sl) (kf : rx = ry → G φ Q (pc + 3) lv st c ce sl) : G φ Q pc lv (va_rf ry :: va_rf rx :: st) c ce sl :=
  fun H locs ls hr hl hv => lv_acmp_ne h.exec h.code hd ht (fun q => kt q H locs ls hr hl hv) (fun q => kf q H locs ls hr hl hv)
theorem g_goto (h : gOK φ l g R cc nL own mn ret tbl) {off : Int} {tgt : Nat} (hd : decode cc pc = .ok (.goto off, 3)) (ht : (pc : Int) + off = (tgt : Int)) (k : G φ Q tgt lv st c ce sl) : G φ Q pc lv st c ce sl :=
  fun H locs ls hr hl hv => lv_goto h.exec h.code hd ht (k H locs ls hr hl hv)
theorem g_ifnonnull (h : gOK φ l g R cc nL own mn ret tbl) {x : Nat} {off : Int} {tgt : Nat} (hd : decode cc pc = .ok (.ifnonnull off, 3)) (ht : (pc : Int) + off = (tgt : Int)) (k : G φ Q tgt lv st c ce sl) : G φ Q pc lv (.ref x :: st) c ce sl :=
  fun H locs ls hr hl hv => lv_ifnonnull h.exec h.code hd ht (k H locs ls hr hl hv)
theorem g_ifnonnullN (h : gOK φ l g R cc nL own mn ret tbl) {off : Int} (hd : decode cc pc = .ok (.ifnonnull off, 3)) (k : G φ Q (pc + 3) lv st c ce sl) : G φ Q pc lv (.null :: st) c ce sl :=
  fun H locs ls hr hl hv => lv_ifnonnullN h.exec h.code hd (k H locs ls hr hl hv)
theorem g_ifnull (h : gOK φ l g R cc nL own mn ret tbl) {x : Nat} {off : Int} (hd : decode cc pc = .ok (.ifnull off, 3)) (k : G φ Q (pc + 3) lv st c ce sl) : G φ Q pc lv (.ref x :: st) c ce sl :=
  fun H locs ls hr hl hv => lv_ifnull h.exec h.code hd (k H locs ls hr hl hv)
theorem g_ifnullN (h : gOK φ l g R cc nL own mn ret tbl) {off : Int} {tgt : Nat} (hd : decode cc pc = .ok (.ifnull off, 3)) (ht : (pc : Int) + off = (tgt : Int)) (k : G φ Q tgt lv st c ce sl) : G φ Q pc lv (.null :: st) c ce sl :=
  fun H locs ls hr hl hv => lv_ifnullN h.exec h.code hd ht (k H locs ls hr hl hv)
theorem g_tableOut (h : gOK φ l g R cc nL own mn ret tbl) {dflt lo hi : Int} {offs : Array Int} {len : Nat} {x : Int32} {tgt : Nat} (hd : decode cc pc = .ok (.tableswitch dflt lo hi offs, len)) (hx : x.toInt < lo ∨ hi < x.toInt) (ht : (pc : Int) + dflt = (tgt : Int)) (k : G φ Q tgt lv st c ce sl) : G φ Q pc lv (.int x :: st) c ce sl :=
  fun H locs ls hr hl hv => lv_tableOut h.exec h.code hd hx ht (k H locs ls hr hl hv)
theorem g_tableIn (h : gOK φ l g R cc nL own mn ret tbl) {dflt lo hi : Int} {offs : Array Int} {len : Nat} {x : Int32} {off : Int} {tgt : Nat} (hd : decode cc pc = .ok (.tableswitch dflt lo hi offs, len)) (h1 : ¬ x.toInt < lo) (h2 : ¬ hi < x.toInt) (ho : offs[(x.toInt - lo).toNat]? = some off) (ht : (pc : Int) + off = (tgt : Int)) (k : G φ Q tgt lv st c ce sl) : G φ Q pc lv (.int x :: st) c ce sl :=
  fun H locs ls hr hl hv => lv_tableIn h.exec h.code hd h1 h2 ho ht (k H locs ls hr hl hv)
theorem g_lookup (h : gOK φ l g R cc nL own mn ret tbl) {dflt : Int} {ps : Array (Int × Int)} {len : Nat} {x : Int32} {off : Int} {tgt : Nat} (hd : decode cc pc = .ok (.lookupswitch dflt ps, len)) (hp : (ps.toList.zip (ps.toList.drop 1)).all (fun (a, next) => a.1 < next.1) = true) (ho : Op.lookupswitch.offset ps.toList dflt x.toInt = off) (ht : (pc : Int) + off = (tgt : Int)) (k : G φ Q tgt lv st c ce sl) : G φ Q pc lv (.int x :: st) c ce sl :=
  fun H locs ls hr hl hv => lv_lookup h.exec h.code hd hp ho ht (k H locs ls hr hl hv)
end GPURE
