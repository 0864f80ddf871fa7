/-! JDK: java.util.ArrayList -/
set_option maxRecDepth 100000
/-- a list at a: its array at d, of cap places; its elements es -/
def gAL (c : gLH) (a d cap ra rd : Nat) (es : List Nat) : Prop := (∃ m : Int32, c a = some (ra, .inr (31, [.int m, .ref d, .int (nI es.length)]))) ∧ c d = some (rd, gRefs cap (fun i => es[i]?)) ∧ es.length ≤ cap ∧ cap ≤ 4000
theorem gAL.ne {c : gLH} {a d cap ra rd : Nat} {es : List Nat} (h : gAL c a d cap ra rd es) : a ≠ d := by
  obtain ⟨⟨m, h1⟩, h2, -⟩ := h
  intro e
  rw [e, h2] at h1
  cases h1
/-- nothing else has changed -/
def gFrm (c c' : gLH) (a d : Nat) : Prop := ∀ (b r : Nat) (e : va_E), c b = some (r, e) → b ≠ a → b ≠ d → c' b = some (r, e)
/-- what lists want of the start -/
def gLS (g : gGP) : Prop := va_AO "java/lang/Object" g.1 ∧ ∃ mi, gMi g mi
theorem va_cpy0 {f : Nat → Option Nat} {es : List Nat} {n : Nat} (hf : f = fun i => es[i]?) (hn : es.length = n) : va_cpy f (fun _ => none) 0 0 n = fun i => es[i]? := by
  subst hf
  funext i
  unfold va_cpy
  by_cases h : i < n
  · simp [h]
  · simp only [Nat.zero_le, true_and, Nat.zero_add, h, if_false, Nat.sub_zero]
    rw [List.getElem?_eq_none (by omega)]
theorem ct_lsize {l : Launch} {g : gGP} (hk : gK l g) {c : gLH} {a d cap ra rd : Nat} {es : List Nat} (hL : gAL c a d cap ra rd es) : Ct l g yJ2_size hwJ2_size 0 0 [.ref a] c (0) (0) (pIp (nI es.length) c) := by
  refine Ct.intro hk hcJ2_size (by decide +kernel) (Nat.le_of_ble_eq_true rfl) (fun φ h => ?_)
  obtain ⟨⟨m0, hc⟩, hd, hle, hcap⟩ := hL
  refine g_aload_n (i := 0) h dJ2_size_0 rfl rfl ?_
  refine g_get h f_J2_48_31 hc rfl dJ2_size_1 ?_
  exact g_iret h ⟨rfl, rfl⟩ (Nat.le_refl _) (Nat.le_refl _) dJ2_size_4
theorem ct_ocheck {l : Launch} {g : gGP} (hk : gK l g) {c : gLH} {j n : Nat} (hj : j < n) (hn : n < 2147483648) : Ct l g yJ20_checkIndex hwJ20_checkIndex 1 40 [.int (nI j), .int (nI n)] c (0) (0) (pIp (nI j) c) := by
  refine Ct.intro hk hcJ20_checkIndex (by decide +kernel) (Nat.le_of_ble_eq_true rfl) (fun φ h => ?_)
  refine g_iload_n (i := 0) h dJ20_checkIndex_0 rfl rfl ?_
  refine g_iload_n (i := 1) h dJ20_checkIndex_1 rfl rfl ?_
  refine g_null h dJ20_checkIndex_2 ?_
  refine g_invS h (ct_pcheckN h.k hj hn) hcJ14_checkIndex w_J20_105 rfl rfl (Nat.le_of_ble_eq_true rfl) ⟨Nat.le_of_ble_eq_true rfl, Nat.le_of_ble_eq_true rfl⟩ (by refine ⟨?_, ?_⟩ <;> first | exact Nat.le_refl _ | exact Nat.zero_le _ | (dsimp only; omega)) dJ20_checkIndex_3 (gkr_ip ?_) gkt_ip
  exact g_iret h ⟨rfl, rfl⟩ (Nat.le_refl _) (Nat.le_refl _) dJ20_checkIndex_6
theorem ct_lelem {l : Launch} {g : gGP} (hk : gK l g) {c : gLH} {a d cap ra rd : Nat} {es : List Nat} (hL : gAL c a d cap ra rd es) {j x : Nat} (hj : j < es.length) (hx : es[j]? = some x) : Ct l g yJ2_elementData hwJ2_elementData 0 0 [.ref a, .int (nI j)] c (0) (0) (pAp x c) := by
  refine Ct.intro hk hcJ2_elementData (by decide +kernel) (Nat.le_of_ble_eq_true rfl) (fun φ h => ?_)
  obtain ⟨⟨m0, hc⟩, hd, hle, hcap⟩ := hL
  refine g_aload_n (i := 0) h dJ2_elementData_0 rfl rfl ?_
  refine g_get h f_J2_9_31 hc rfl dJ2_elementData_1 ?_
  refine g_iload_n (i := 1) h dJ2_elementData_4 rfl rfl ?_
  refine g_aaldN h hd (by omega) (by omega) hx dJ2_elementData_5 ?_
  exact g_aret h ⟨rfl, rfl⟩ (Nat.le_refl _) (Nat.le_refl _) (Or.inl ⟨_, rfl⟩) dJ2_elementData_6
theorem ct_lget {l : Launch} {g : gGP} (hk : gK l g) {c : gLH} {a d cap ra rd : Nat} {es : List Nat} (hL : gAL c a d cap ra rd es) {j x : Nat} (hx : es[j]? = some x) : Ct l g yJ2_get hwJ2_get 2 80 [.ref a, .int (nI j)] c (0) (0) (pAp x c) := by
  refine Ct.intro hk hcJ2_get (by decide +kernel) (Nat.le_of_ble_eq_true rfl) (fun φ h => ?_)
  have hL0 := hL
  have hj : j < es.length := (List.getElem?_eq_some_iff.mp hx).1
  obtain ⟨⟨m0, hc⟩, hd, hle, hcap⟩ := hL
  refine g_iload_n (i := 1) h dJ2_get_0 rfl rfl ?_
  refine g_aload_n (i := 0) h dJ2_get_1 rfl rfl ?_
  refine g_get h f_J2_48_31 hc rfl dJ2_get_2 ?_
  refine g_invS h (ct_ocheck h.k hj (by omega)) hcJ20_checkIndex w_J2_118 rfl rfl (Nat.le_of_ble_eq_true rfl) ⟨Nat.le_of_ble_eq_true rfl, Nat.le_of_ble_eq_true rfl⟩ (by refine ⟨?_, ?_⟩ <;> first | exact Nat.le_refl _ | exact Nat.zero_le _ | (dsimp only; omega)) dJ2_get_5 (gkr_ip ?_) gkt_ip
  refine g_pop h dJ2_get_8 rfl ?_
  refine g_aload_n (i := 0) h dJ2_get_9 rfl rfl ?_
  refine g_iload_n (i := 1) h dJ2_get_10 rfl rfl ?_
  refine g_invV h (ct_lelem h.k hL0 hj hx) hcJ2_elementData w_J2_123 rfl rfl hc (Nat.le_of_ble_eq_true rfl) ⟨Nat.le_of_ble_eq_true rfl, Nat.le_of_ble_eq_true rfl⟩ (by refine ⟨?_, ?_⟩ <;> first | exact Nat.le_refl _ | exact Nat.zero_le _ | (dsimp only; omega)) dJ2_get_11 (gkr_ap ?_) gkt_ap
  exact g_aret h ⟨rfl, rfl⟩ (Nat.le_refl _) (Nat.le_refl _) (Or.inl ⟨_, rfl⟩) dJ2_get_14
section GMATH
variable {φ : gFx} {Q : State → Prop} {pc : Nat} {lv : List (Nat × Value)} {st : List Value} {c : gLH} {ce sl : Nat} {l : Launch} {g : gGP} {R : Room} {cc : ByteArray} {nL : Nat} {own mn : String} {ret : Option FieldType} {tbl : List (Nat × Nat × Nat × Nat)} {idx : Nat}
theorem g_mmax (h : gOK φ l g R cc nL own mn ret tbl) {x y : Int32} (hlink : Cond.methodLink own idx yJ12_max ∈ lw_all) (hcat : (st.map fun v => v.category).sum ≤ 8) (hR : 1 ≤ R.frames ∧ 40 ≤ R.locals) (hM : ce ≤ R.cells ∧ sl ≤ R.slots) (hd : decode cc pc = .ok (.invokestatic idx, 3)) (k : G φ Q (pc + 3) lv (.int (if x < y then y else x) :: st) c ce sl) : G φ Q pc lv (.int y :: .int x :: st) c ce sl :=
  fun H locs ls hr hl hv => va_mmax h.exec h.code hv.1.symm h.own_ (h.word hlink) (h.word q241) (h.word q76) (h.word q242) (by rw [h.2.2.1]; exact hR.1) (by rw [h.2.2.1]; omega) (by rw [h.2.2.1]; exact hM.1) (by rw [h.2.2.1]; exact hM.2) hd (k H locs ls hr hl hv)
theorem g_mmin (h : gOK φ l g R cc nL own mn ret tbl) {x y : Int32} (hlink : Cond.methodLink own idx yJ12_min ∈ lw_all) (hcat : (st.map fun v => v.category).sum ≤ 8) (hR : 1 ≤ R.frames ∧ 40 ≤ R.locals) (hM : ce ≤ R.cells ∧ sl ≤ R.slots) (hd : decode cc pc = .ok (.invokestatic idx, 3)) (k : G φ Q (pc + 3) lv (.int (if y < x then y else x) :: st) c ce sl) : G φ Q pc lv (.int y :: .int x :: st) c ce sl :=
  fun H locs ls hr hl hv => va_mmin h.exec h.code hv.1.symm h.own_ (h.word hlink) (h.word q259) (h.word q76) (h.word q260) (by rw [h.2.2.1]; exact hR.1) (by rw [h.2.2.1]; omega) (by rw [h.2.2.1]; exact hM.1) (by rw [h.2.2.1]; exact hM.2) hd (k H locs ls hr hl hv)
theorem g_mminl (h : gOK φ l g R cc nL own mn ret tbl) {x y : Int64} (hlink : Cond.methodLink own idx yJ12_min_2 ∈ lw_all) (hcat : (st.map fun v => v.category).sum ≤ 8) (hR : 1 ≤ R.frames ∧ 40 ≤ R.locals) (hM : ce ≤ R.cells ∧ sl ≤ R.slots) (hd : decode cc pc = .ok (.invokestatic idx, 3)) (k : G φ Q (pc + 3) lv (.long (if y < x then y else x) :: st) c ce sl) : G φ Q pc lv (.long y :: .long x :: st) c ce sl :=
  fun H locs ls hr hl hv => va_mmin_long h.exec h.code hv.1.symm h.own_ (h.word hlink) (h.word q718) (h.word q76) (h.word q719) (by rw [h.2.2.1]; exact hR.1) (by rw [h.2.2.1]; omega) (by rw [h.2.2.1]; exact hM.1) (by rw [h.2.2.1]; exact hM.2) hd (k H locs ls hr hl hv)
end GMATH
theorem maxN {i j : Nat} (hi : i < 2147483648) (hj : j < 2147483648) : (if nI i < nI j then nI j else nI i) = nI (max i j) := by
  by_cases h : i < j
  · rw [if_pos (nI_lt h hj), Nat.max_eq_right (by omega)]
  · rw [if_neg (fun q => h ((nI_ltI hi hj).mp q)), Nat.max_eq_left (by omega)]
theorem minN {i j : Nat} (hi : i < 2147483648) (hj : j < 2147483648) : (if nI j < nI i then nI j else nI i) = nI (min i j) := by
  by_cases h : j < i
  · rw [if_pos (nI_lt h hi), Nat.min_eq_right (by omega)]
  · rw [if_neg (fun q => h ((nI_ltI hj hi).mp q)), Nat.min_eq_left (by omega)]
theorem ct_newLen {l : Launch} {g : gGP} (hk : gK l g) {c : gLH} {i j k : Nat} (hi : 0 < i) (hi2 : i < 100000) (hj : j < 100000) (hk2 : k < 100000) : Ct l g yJ11_newLength hwJ11_newLength 1 40 [.int (nI i), .int (nI j), .int (nI k)] c (0) (0) (pIp (nI (i + max j k)) c) := by
  refine Ct.intro hk hcJ11_newLength (by decide +kernel) (Nat.le_of_ble_eq_true rfl) (fun φ h => ?_)
  refine g_iload_n (i := 0) h dJ11_newLength_0 rfl rfl ?_
  refine g_iload_n (i := 1) h dJ11_newLength_1 rfl rfl ?_
  refine g_iload_n (i := 2) h dJ11_newLength_2 rfl rfl ?_
  refine g_mmax h q240 (Nat.le_of_ble_eq_true rfl) ⟨Nat.le_of_ble_eq_true rfl, Nat.le_of_ble_eq_true rfl⟩ ⟨Nat.zero_le _, Nat.zero_le _⟩ dJ11_newLength_3 ?_
  refine G.int (maxN (by omega) (by omega)) ?_
  first | (with_reducible refine g_iaddN h dJ11_newLength_6 ?_) | refine g_iadd h dJ11_newLength_6 ?_
  refine g_istore_n (i := 3) h dJ11_newLength_7 rfl (by decide) ?_
  refine g_iconst (v := nI 0) h dJ11_newLength_8 (by decide) ?_
  refine g_iload_n (i := 3) h dJ11_newLength_9 rfl rfl ?_
  refine g_icmp_ge (tgt := 21) h dJ11_newLength_10 (by decide) (fun _bz => absurd _bz (fun q => absurd ((nI_leI (by omega) (by omega)).mp q) (by omega))) (fun b10 => ?_)
  refine g_iload_n (i := 3) h dJ11_newLength_13 rfl rfl ?_
  refine g_ldc (v := nI 2147483639) h dJ11_newLength_14 q243 ?_
  refine g_icmp_gt (tgt := 21) h dJ11_newLength_16 (by decide) (fun _bz => absurd _bz (fun q => absurd ((nI_ltI (by omega) (by omega)).mp q) (by omega))) (fun b16 => ?_)
  refine g_iload_n (i := 3) h dJ11_newLength_19 rfl rfl ?_
  exact g_iret h ⟨rfl, rfl⟩ (Nat.le_refl _) (Nat.le_refl _) dJ11_newLength_20
theorem ct_copyOf3 {l : Launch} {g : gGP} (hk : gK l g) {c : gLH} {a r n0 n : Nat} {es : List Nat} (role : Nat) (hrole : role < gSB) (hS : gLS g) (hc : c a = some (r, gRefs n0 (fun i => es[i]?))) (hel : ∀ y ∈ es, gObj c y) (h0 : es.length = n0) (hn0 : n0 ≤ n) (hn : n < 100000) {mi : Nat} (hMi : gMi g mi) : Ct l g yJ13_copyOf_3 hwJ13_copyOf_3 1 40 [.ref a, .int (nI n), .ref mi] c (1) (n) (pAe (fun q c' => c q = none ∧ c' = va_up c q (some (role, gRefs n (fun i => es[i]?))))) := by
  refine Ct.intro hk hcJ13_copyOf_3 (by decide +kernel) (Nat.le_of_ble_eq_true rfl) (fun φ h => ?_)
  refine g_aload_n (i := 2) h dJ13_copyOf_3_0 rfl rfl ?_
  refine g_ldcM h hMi q1189 dJ13_copyOf_3_1 ?_
  refine g_acmp_ne (rx := some mi) (ry := some mi) (tgt := 13) h dJ13_copyOf_3_3 (by decide) (fun b3 => absurd rfl b3) (fun b3 => ?_)
  refine g_iload_n (i := 1) h dJ13_copyOf_3_6 rfl rfl ?_
  refine g_anew h hS.1 role q1190 (by omega) (by show 0 + 1 ≤ 1; omega) (by show 0 + n ≤ n; omega) dJ13_copyOf_3_7 (fun q hq => ?_)
  refine g_goto (tgt := 24) h dJ13_copyOf_3_10 (by decide) ?_
  refine g_astore_n (i := 3) h dJ13_copyOf_3_24 rfl (by decide) ?_
  refine g_aload_n (i := 0) h dJ13_copyOf_3_25 rfl rfl ?_
  refine g_iconst (v := nI 0) h dJ13_copyOf_3_26 (by decide) ?_
  refine g_aload_n (i := 3) h dJ13_copyOf_3_27 rfl rfl ?_
  refine g_iconst (v := nI 0) h dJ13_copyOf_3_28 (by decide) ?_
  refine g_aload_n (i := 0) h dJ13_copyOf_3_29 rfl rfl ?_
  refine g_alen (k := 5) h (by decide) (by rw [va_up_n _ _ (fun e => by rw [e, hq] at hc; cases hc)]; exact hc) dJ13_copyOf_3_30 ?_
  refine g_iload_n (i := 1) h dJ13_copyOf_3_31 rfl rfl ?_
  refine g_mmin h q258 (Nat.le_of_ble_eq_true rfl) ⟨Nat.le_of_ble_eq_true rfl, Nat.le_of_ble_eq_true rfl⟩ (by refine ⟨?_, ?_⟩ <;> (dsimp only; omega)) dJ13_copyOf_3_32 ?_
  refine G.int (minN (by omega) (by omega)) ?_
  rw [Nat.min_eq_left hn0]
  refine g_copyq h q261 q263 q262 q78 (by rw [va_up_n _ _ (fun e => by rw [e, hq] at hc; cases hc)]; exact hc) (va_up_s _ _ _) hrole (by omega) (by omega) (by omega) (by omega) (fun i hi y hy => ?_) (Nat.le_of_ble_eq_true rfl) ⟨Nat.le_of_ble_eq_true rfl, Nat.le_of_ble_eq_true rfl⟩ dJ13_copyOf_3_35 ?_
  · obtain ⟨r2, ci, vs, w, k1, k2, k3⟩ := hel y (List.mem_of_getElem? hy)
    exact ⟨r2, ci, vs, w, by rw [va_up_n _ _ (fun e => by rw [e, hq] at k1; cases k1)]; exact k1, k2, k3⟩
  rw [va_cpy0 rfl h0]
  refine g_aload_n (i := 3) h dJ13_copyOf_3_38 rfl rfl ?_
  exact g_aret h ⟨_, rfl, hq, by funext b; unfold va_up; by_cases hb : b = q <;> simp [hb]⟩ (by omega) (by omega) (Or.inr ⟨_, rfl⟩) dJ13_copyOf_3_39
theorem ct_copyOf2 {l : Launch} {g : gGP} (hk : gK l g) {c : gLH} {a r n0 n : Nat} {es : List Nat} (role : Nat) (hrole : role < gSB) (hS : gLS g) (hc : c a = some (r, gRefs n0 (fun i => es[i]?))) (hel : ∀ y ∈ es, gObj c y) (h0 : es.length = n0) (hn0 : n0 ≤ n) (hn : n < 100000) : Ct l g yJ13_copyOf_2 hwJ13_copyOf_2 2 80 [.ref a, .int (nI n)] c (1) (n) (pAe (fun q c' => c q = none ∧ c' = va_up c q (some (role, gRefs n (fun i => es[i]?))))) := by
  refine Ct.intro hk hcJ13_copyOf_2 (by decide +kernel) (Nat.le_of_ble_eq_true rfl) (fun φ h => ?_)
  obtain ⟨mi, hMi⟩ := hS.2
  refine g_aload_n (i := 0) h dJ13_copyOf_2_0 rfl rfl ?_
  refine g_iload_n (i := 1) h dJ13_copyOf_2_1 rfl rfl ?_
  refine g_aload_n (i := 0) h dJ13_copyOf_2_2 rfl rfl ?_
  refine g_getC h hMi q1145 q2292 q1146 q1185 q2293 hc (Nat.le_of_ble_eq_true rfl) ⟨Nat.le_of_ble_eq_true rfl, Nat.le_of_ble_eq_true rfl⟩ dJ13_copyOf_2_3 ?_
  refine g_invS h (ct_copyOf3 h.k role hrole hS hc hel h0 hn0 hn hMi) hcJ13_copyOf_3 w_J13_300 rfl rfl (Nat.le_of_ble_eq_true rfl) ⟨Nat.le_of_ble_eq_true rfl, Nat.le_of_ble_eq_true rfl⟩ (by refine ⟨?_, ?_⟩ <;> first | exact Nat.le_refl _ | exact Nat.zero_le _ | (dsimp only; omega)) dJ13_copyOf_2_6 (gkr_ae (fun q c' hq => ?_)) gkt_ae
  exact g_aret h ⟨_, rfl, hq⟩ (by omega) (by omega) (Or.inr ⟨_, rfl⟩) dJ13_copyOf_2_9
