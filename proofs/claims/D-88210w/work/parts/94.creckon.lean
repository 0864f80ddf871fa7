/-! THE COMPONENT: a pass is reckoned -/
set_option maxRecDepth 100000
/-- the pass as a vector -/
def vP (A : Nat → Nat → Int32) (t u : Nat) : Nat → Int32 := fun i => match i with
  | 0 => A 19 t
  | 1 => A 20 t
  | 2 => A 21 t
  | 3 => A 22 t
  | 4 => nI u
  | 5 => A 32 0 - A 32 0 / 365 * 365
  | _ => zB (decide (A 23 (8 * t + u) = A 32 0))
/-- what clause w's codes mean -/
def cMn (A : Nat → Nat → Int32) (w : Nat) (m : (Nat → Int32) → Bool) : Prop := ∃ f e : Nat, A 13 w = nI f ∧ A 14 w = nI e ∧ f ≤ e ∧ e ≤ 100000 ∧ e ≤ ix (A 17 0) ∧ ((e = f ∧ m = fun _ => true) ∨ ∀ (D : Nat → Nat → Int32) (t u : Nat), (∀ k, f ≤ k → k < e → D 15 k = A 15 k ∧ D 16 k = A 16 k) → sRun (sOne D t u) (D 15) f (e - f) [] = some [m (vP D t u)])
/-- the acts as objects -/
def FA (fz : Nat → Nat → Nat) (A : Nat → Nat → Int32) (c : gLH) : Prop := ∀ a, a < cn A 0 → ∃ (q dq cap : Nat) (es : List Nat) (cd : Nat → Value) (m : Nat → (Nat → Int32) → Bool), c (fz 0 a) = some (gT, .inr (6, [.int (A 9 a), .ref q])) ∧ gAL (gOnly c) q dq cap gT gT es ∧ A 8 a = nI es.length ∧ es.length ≤ 40 ∧ ∀ k x, es[k]? = some x → clO c x (nI k) (A 10 (40 * a + k)) (A 11 (40 * a + k)) (A 12 (40 * a + k)) (cd k) ∧ clM (gOnly c) 24 (cd k) (m k) ∧ cMn A (40 * a + k) (m k)
theorem FA.fd {fz : Nat → Nat → Nat} {A : Nat → Nat → Int32} {c : gLH} (h : FA fz A c) : FD fz A c := fun i hi => by
  obtain ⟨q, _, _, _, _, _, h1, -⟩ := h i hi
  exact ⟨q, h1⟩
theorem cMn.hold {A : Nat → Nat → Int32} {w : Nat} {m : (Nat → Int32) → Bool} (h : cMn A w m) (t u : Nat) : sHold A t u w = m (vP A t u) := by
  obtain ⟨f, e, h1, h2, h3, h4, h5, h6⟩ := h
  unfold sHold
  rw [h1, h2, ix_nI (by omega), ix_nI (by omega)]
  rcases h6 with ⟨rfl, rfl⟩ | h6
  · rw [Nat.sub_self]
    rfl
  · rw [h6 A t u (fun k _ _ => ⟨rfl, rfl⟩)]
    rfl
theorem tCl_3 (k : Int32) : tCl k = 25 ∨ tCl k = 26 ∨ tCl k = 27 := by
  unfold tCl
  split
  · exact Or.inl rfl
  · split
    · exact Or.inr (Or.inr rfl)
    · exact Or.inr (Or.inl rfl)
theorem sPaidAny_ext {A : Nat → Nat → Int32} {t n : Nat} : ∀ {m : Nat}, n ≤ m → (∀ g, n ≤ g → g < m → A 24 (8 * t + g) ≠ A 32 0) → sPaidAny A t m = sPaidAny A t n := by
  intro m hm
  induction hm with
  | refl => intro _; rfl
  | step hm ih =>
    intro h
    simp only [sPaidAny]
    rw [ih (fun g h1 h2 => h g h1 (Nat.lt_succ_of_lt h2))]
    have := h _ hm (Nat.lt_succ_self _)
    rw [decide_eq_false this]
    cases sPaidAny A t n <;> rfl
theorem va_up_comm {α : Type} (f : Nat → α) {i j : Nat} (x y : α) (h : i ≠ j) : va_up (va_up f i x) j y = va_up (va_up f j y) i x := by
  funext k
  unfold va_up
  by_cases h1 : k = i
  · by_cases h2 : k = j
    · exact absurd (h1.symm.trans h2) h
    · simp [h1, h2]
      intro q
      exact absurd q h
  · simp [h1]
theorem vu_self {α : Type} (f : Nat → α) (i : Nat) : va_up f i (f i) = f := by
  funext k
  unfold va_up
  split
  · rename_i h; rw [h]
  · rfl
theorem l4_all {L : List Value} (hL : L.length = 4) (v0 v1 v2 v3 : Value) : (((L.set 0 v0).set 1 v1).set 2 v2).set 3 v3 = [v0, v1, v2, v3] := by
  rcases L with _ | ⟨a, _ | ⟨b, _ | ⟨c, _ | ⟨d, _ | ⟨i, L⟩⟩⟩⟩⟩ <;> simp at hL ⊢
/-- the two scratch objects -/
def SOk (S : Nat → List Value) : Prop := (S 0).length = 4 ∧ (S 1).length = 7
/-- the toll and the clause are told -/
def kR (c0 : gLH) (ad cp fz : Nat → Nat → Nat) (md : Nat → Nat → Int32) (A : Nat → Nat → Int32) (B : Nat → Nat → Int64) (r : Int32 × Int32) (c : gLH) : Prop := ∃ (S : Nat → List Value) (U : Nat → Nat → Int64) (n o al : Int32) (hb ab : Bool), (S 0).length = 4 ∧ 0 ≤ r.1.toInt ∧ CW c0 ad cp fz md (va_up S 1 (rF n o al r.2 r.1.toInt64 hb ab)) U A B c
theorem fT_X1_131 (k : Int32) : gF RX1 131 (tCl k) 5 := by
  rcases tCl_3 k with h | h | h <;> rw [h]
  · exact f_X1_131_25
  · exact f_X1_131_26
  · exact f_X1_131_27
theorem fT_X1_155 (k : Int32) : gF RX1 155 (tCl k) 4 := by
  rcases tCl_3 k with h | h | h <;> rw [h]
  · exact f_X1_155_25
  · exact f_X1_155_26
  · exact f_X1_155_27
section CRS
variable {φ : gFx} {Q : State → Prop} {pc : Nat} {lv : List (Nat × Value)} {st : List Value} {ce sl : Nat} {l : Launch} {g : gGP} {R : Room} {cc : ByteArray} {nL : Nat} {own mn : String} {ret : Option FieldType} {tbl : List (Nat × Nat × Nat × Nat)} {idx : Nat} {c0 c : gLH} {ad cp fz : Nat → Nat → Nat} {md : Nat → Nat → Int32} {S : Nat → List Value} {U : Nat → Nat → Int64} {A : Nat → Nat → Int32} {B : Nat → Nat → Int64}
theorem x_putS0 (h : gOK φ l g R cc nL own mn ret tbl) {L : List Value} (hX : CW c0 ad cp fz md (va_up S 0 L) U A B c) {j : Nat} {v : Value} {ty : FieldType} (hF : gFP own idx 2 j ty) (hl : j < L.length) (hn : narrow ty v = v) (hft : fits ty v = true) (hd : decode cc pc = .ok (.putfield idx, 3)) (kk : ∀ c : gLH, CW c0 ad cp fz md (va_up S 0 (L.set j v)) U A B c → G φ Q (pc + 3) lv st c ce sl) : G φ Q pc lv (v :: .ref (ad 4 0) :: st) c ce sl := by
  have hcell : cells ad cp fz md (va_up S 0 L) U A B 4 0 = some (.inr (2, L)) := by
    show some (Sum.inr (2, va_up S 0 L 0)) = _
    rw [va_up_s]
  refine g_put h hF (hX.1.at hcell) (hX.1.sb hcell) hl hn hft hd (kk _ ⟨?_, hX.2⟩)
  have h1 := hX.1.set (e' := .inr (2, L.set j v)) hcell
  have e := cells_S0 (ad := ad) (cp := cp) (fz := fz) (md := md) (S := va_up S 0 L) (U := U) (A := A) (B := B) (L.set j v)
  rw [va_up_up] at e
  rw [e]
  exact h1
theorem x_castT (h : gOK φ l g R cc nL RX1 mn ret tbl) {k : Int32} {a r : Nat} {fs : List Value} (hc : c a = some (r, .inr (tCl k, fs))) (hd : decode cc pc = .ok (.checkcast 132, 3)) (kk : G φ Q (pc + 3) lv (.ref a :: st) c ce sl) : G φ Q pc lv (.ref a :: st) c ce sl := by
  rcases tCl_3 k with e | e | e <;> rw [e] at hc
  · exact g_castY h hc rfl q1393 q2246 hd kk
  · exact g_castY h hc rfl q1393 q2245 hd kk
  · exact g_castY h hc rfl q1393 q2244 hd kk
end CRS
theorem n_lt8 {n : Nat} (h : n < 8) : ¬ (8 : Int32) ≤ nI n := by
  have := nI_ge h (by decide)
  exact this
theorem cx_reckon {l : Launch} {g : gGP} (hk : gK l g) {c0 c : gLH} {ad cp fz : Nat → Nat → Nat} {md : Nat → Nat → Int32} {S : Nat → List Value} {U : Nat → Nat → Int64} {A : Nat → Nat → Int32} {B : Nat → Nat → Int64} (hX : CW c0 ad cp fz md S U A B c) {t u : Nat} {a : Option Nat} (ht : t < cn A 3) (hu : u < cn A 2) (hSk : SOk S) (hT : FT ad fz A c0) (hA : FA fz A c0) (ha : ∀ a', a = some a' → a' < cn A 0) (hbt : 0 ≤ (A 21 t).toInt ∧ (A 21 t).toInt ≤ 10000) (hpa : ∀ g, cn A 2 ≤ g → g < 8 → A 24 (8 * t + g) ≠ A 32 0) : Ct l g yX1_reckon hwX1_reckon 76 3040 [.ref (ad 0 0), .int (oI a), .ref (fz 1 t), .ref (ad 10 u)] c (0) (0) (pV (kR c0 ad cp fz md A B (sToll A t u (cn A 2) a))) := by
  refine Ct.intro hk hcX1_reckon (by decide +kernel) (Nat.le_of_ble_eq_true rfl) (fun φ h => ?_)
  have hab8 : sPaidAny A t 8 = sPaidAny A t (cn A 2) := sPaidAny_ext (by have := (hX.cnt (i := 2) (by decide)).2.1; exact this) hpa
  have hu8 : cn A 2 ≤ 8 := (hX.cnt (i := 2) (by decide)).2.1
  have hX : CW c0 ad cp fz md (va_up S 1 (S 1)) U A B c := by rw [vu_self]; exact hX
  have begun : G φ (gQ φ (pV (kR c0 ad cp fz md A B (sToll A t u (cn A 2) a))) 0 0) 70 [(0, .ref (ad 0 0)), (1, .int (oI a)), (2, .ref (fz 1 t)), (3, .ref (ad 10 u)), (4, .int (zB (sPaidAny A t (cn A 2))))] [.int (zB (decide (A 24 (8 * t + u) = A 32 0))), .ref (ad 5 0)] c 0 0 := by
    rcases a with _ | a
    · skip
      refine g_iload h dX1_reckon_70 rfl ?_
      refine g_invV h (cx_begin h.k hX hSk.2 _ _) hcX3_begin w_X1_143 rfl rfl (x_rk hX) (Nat.le_of_ble_eq_true rfl) ⟨Nat.le_of_ble_eq_true rfl, Nat.le_of_ble_eq_true rfl⟩ (by refine ⟨?_, ?_⟩ <;> first | exact Nat.le_refl _ | exact Nat.zero_le _ | (dsimp only; omega)) dX1_reckon_72 (gkr_v (fun c hX => ?_)) gkt_v
      refine g_iload_n (i := 1) h dX1_reckon_75 rfl rfl ?_
      refine g_iconst (v := (-1)) h dX1_reckon_76 (by decide) ?_
      refine g_icmp_ne (tgt := 81) h dX1_reckon_77 (by decide) (fun _bz => absurd _bz (by decide)) (fun b77 => ?_)
      exact g_vret h ⟨rfl, _, _, _, _, _, _, _, hSk.1, (show (0 : Int) ≤ (0 : Int32).toInt by decide), hX⟩ (Nat.le_refl _) (Nat.le_refl _) dX1_reckon_80
    · skip
      refine g_iload h dX1_reckon_70 rfl ?_
      refine g_invV h (cx_begin h.k hX hSk.2 _ _) hcX3_begin w_X1_143 rfl rfl (x_rk hX) (Nat.le_of_ble_eq_true rfl) ⟨Nat.le_of_ble_eq_true rfl, Nat.le_of_ble_eq_true rfl⟩ (by refine ⟨?_, ?_⟩ <;> first | exact Nat.le_refl _ | exact Nat.zero_le _ | (dsimp only; omega)) dX1_reckon_72 (gkr_v (fun c hX => ?_)) gkt_v
      refine g_iload_n (i := 1) h dX1_reckon_75 rfl rfl ?_
      refine g_iconst (v := (-1)) h dX1_reckon_76 (by decide) ?_
      refine g_icmp_ne (tgt := 81) h dX1_reckon_77 (by decide) (fun b77 => ?_) (fun _bz => absurd _bz (nI_nm1 (by have := (hX.cnt (i := 0) (by decide)).2.2; have := ha a rfl; omega)))
      obtain ⟨q, dq, cap, es, cd, m, hact, hL0, hnc, hle, hcl⟩ := hA a (ha a rfl)
      have hSk0 := hSk.1
      generalize hR : rF 0 (-1) (-1) (-1) 0 (decide (A 24 (8 * t + u) = A 32 0)) (sPaidAny A t (cn A 2)) = R at hX
      have hX : CW c0 ad cp fz md (va_up (va_up S 1 R) 0 (S 0)) U A B c := by rw [← vS_0 S R, vu_self]; exact hX
      have back : ∀ (L : List Value) (c : gLH), CW c0 ad cp fz md (va_up (va_up S 1 R) 0 (((L.set 0 (.ref (fz 1 t))).set 1 (.int (nI u))).set 2 (.int (A 32 0 - A 32 0 / 365 * 365)))) U A B c → L.length = 4 → G φ (gQ φ (pV (kR c0 ad cp fz md A B (sToll A t u (cn A 2) (some a)))) 0 0) 140 [(0, .ref (ad 0 0)), (1, .int (nI a)), (2, .ref (fz 1 t)), (3, .ref (ad 10 u))] [.int (zB (decide (A 23 (8 * t + u) = A 32 0))), .ref (ad 4 0)] c 0 0 := by
        intro L c hX hL4
        refine x_putS0 (j := 3) h hX fp_X1_158_2 (by (try simp only [List.length_set]); omega) (zB_nar _) (zB_fit _) dX1_reckon_140 (fun c hX => ?_)
        rw [l4_all hL4] at hX
        rw [va_up_comm _ _ _ (show (1 : Nat) ≠ 0 by decide), ← hR] at hX
        have hS0 : va_up S 0 [Value.ref (fz 1 t), .int (nI u), .int (A 32 0 - A 32 0 / 365 * 365), .int (zB (decide (A 23 (8 * t + u) = A 32 0)))] 0 = [.ref (fz 1 t), .int (vP A t u 4), .int (vP A t u 5), .int (vP A t u 6)] := va_up_s _ _ _
        refine g_aload_n (i := 0) h dX1_reckon_143 rfl rfl ?_
        refine g_get (v := .ref (ad 2 0)) h f_X1_25_1 hX.x rfl dX1_reckon_144 ?_
        refine g_iload_n (i := 1) h dX1_reckon_147 rfl rfl ?_
        refine g_invV h (ct_xget0 h.k hX (ha a rfl)) hcJ2_get w_X1_162 rfl rfl (xlist0 hX) (Nat.le_of_ble_eq_true rfl) ⟨Nat.le_of_ble_eq_true rfl, Nat.le_of_ble_eq_true rfl⟩ (by refine ⟨?_, ?_⟩ <;> first | exact Nat.le_refl _ | exact Nat.zero_le _ | (dsimp only; omega)) dX1_reckon_148 (gkr_ap ?_) gkt_ap
        refine g_castS h (hX.1.frz hact gT_core) rfl q1398 dX1_reckon_151 ?_
        refine g_aload_n (i := 0) h dX1_reckon_154 rfl rfl ?_
        refine g_get (v := .ref (ad 5 0)) h f_X1_54_1 hX.x rfl dX1_reckon_155 ?_
        refine g_aload_n (i := 0) h dX1_reckon_158 rfl rfl ?_
        refine g_get (v := .ref (ad 4 0)) h f_X1_47_1 hX.x rfl dX1_reckon_159 ?_
        refine g_invV h (cx_asks (a := a) (t := t) (u := u) (ng := cn A 2) (v := vP A t u) (hold := sHold A t u) h.k hX hact hL0 hle (fun k y hy => ⟨(hcl k y hy).1, (hcl k y hy).2.1⟩) (fun k hk => by obtain ⟨y, hy⟩ : ∃ y, es[k]? = some y := ⟨_, List.getElem?_eq_getElem hk⟩; exact (hcl k y hy).2.2.hold t u) hS0 (hT t ht) (tCl_3 _) (by show zB _ = 0 ∨ zB _ = 1; cases decide (A 23 (8 * t + u) = A 32 0) <;> simp [zB]) rfl hbt rfl rfl) hcX6_asks w_X1_168 rfl rfl (hX.1.frz hact gT_core) (Nat.le_of_ble_eq_true rfl) ⟨Nat.le_of_ble_eq_true rfl, Nat.le_of_ble_eq_true rfl⟩ (by refine ⟨?_, ?_⟩ <;> first | exact Nat.le_refl _ | exact Nat.zero_le _ | (dsimp only; omega)) dX1_reckon_162 (gkr_v (fun c hX => ?_)) gkt_v
        have fin : kR c0 ad cp fz md A B (sToll A t u (cn A 2) (some a)) c := by
          obtain ⟨n, o, al, U', hr0, hX⟩ := hX
          have e : sToll A t u (cn A 2) (some a) = sTollL A (sHold A t u) a t u (cn A 2) es.length 0 (fun _ => 0) 0 none none := by
            show sTollL A (sHold A t u) a t u (cn A 2) (ix (A 8 a)) 0 (fun _ => 0) 0 none none = _
            rw [hnc, ix_nI (by omega)]
          rw [e]
          refine ⟨_, U', n, o, al, _, _, ?_, hr0, hX⟩
          rw [hS0]
          rfl
        exact g_vret h ⟨rfl, fin⟩ (Nat.le_refl _) (Nat.le_refl _) dX1_reckon_165
      refine g_aload_n (i := 0) h dX1_reckon_81 rfl rfl ?_
      refine g_get (v := .ref (ad 4 0)) h f_X1_47_1 hX.x rfl dX1_reckon_82 ?_
      refine g_aload_n (i := 2) h dX1_reckon_85 rfl rfl ?_
      refine x_putS0 (j := 0) h hX fp_X1_147_2 (by (try simp only [List.length_set]); omega) rfl rfl dX1_reckon_86 (fun c hX => ?_)
      refine g_aload_n (i := 0) h dX1_reckon_89 rfl rfl ?_
      refine g_get (v := .ref (ad 4 0)) h f_X1_47_1 hX.x rfl dX1_reckon_90 ?_
      refine g_aload_n (i := 3) h dX1_reckon_93 rfl rfl ?_
      refine g_get (v := .int (nI u)) h f_X1_140_23 (hX.1.at (cells_10 hu)) rfl dX1_reckon_94 ?_
      refine x_putS0 (j := 1) h hX fp_X1_151_2 (by (try simp only [List.length_set]); omega) rfl rfl dX1_reckon_97 (fun c hX => ?_)
      refine g_aload_n (i := 0) h dX1_reckon_100 rfl rfl ?_
      refine g_get (v := .ref (ad 4 0)) h f_X1_47_1 hX.x rfl dX1_reckon_101 ?_
      refine g_aload_n (i := 0) h dX1_reckon_104 rfl rfl ?_
      refine g_get (v := .int (A 32 0)) h f_X1_137_1 hX.x rfl dX1_reckon_105 ?_
      refine g_sipush (v := 365) h dX1_reckon_108 (by decide) ?_
      refine g_irem h dX1_reckon_111 (by decide) ?_
      refine x_putS0 (j := 2) h hX fp_X1_154_2 (by (try simp only [List.length_set]); omega) rfl rfl dX1_reckon_112 (fun c hX => ?_)
      refine g_aload_n (i := 0) h dX1_reckon_115 rfl rfl ?_
      refine g_get (v := .ref (ad 4 0)) h f_X1_47_1 hX.x rfl dX1_reckon_116 ?_
      refine g_aload_n (i := 2) h dX1_reckon_119 rfl rfl ?_
      refine g_get (v := .ref (ad 13 t)) h (fT_X1_155 _) (hX.1.frz (hT t ht) gT_core) rfl dX1_reckon_120 ?_
      refine g_aload_n (i := 3) h dX1_reckon_123 rfl rfl ?_
      refine g_get (v := .int (nI u)) h f_X1_140_23 (hX.1.at (cells_10 hu)) rfl dX1_reckon_124 ?_
      refine g_ialdN h (hX.1.at (cells_13 ht)) (show u < 8 by omega) (by decide) dX1_reckon_127 ?_
      refine G.int (show c8 (A 23) t u = A 23 (8 * t + u) from if_pos (show u < 8 by omega)) ?_
      refine g_aload_n (i := 0) h dX1_reckon_128 rfl rfl ?_
      refine g_get (v := .int (A 32 0)) h f_X1_137_1 hX.x rfl dX1_reckon_129 ?_
      refine g_icmp_ne (tgt := 139) h dX1_reckon_132 (by decide) (fun b132 => ?_) (fun b132 => ?_)
      · refine g_iconst (v := 0) h dX1_reckon_139 (by decide) ?_
        refine G.int (show _ = zB (decide (A 23 (8 * t + u) = A 32 0)) by simp [zB, b132]) ?_
        exact G.to (back (S 0) c hX hSk0) ⟨rfl, rfl, rfl, rfl, trivial⟩
      · refine g_iconst (v := 1) h dX1_reckon_135 (by decide) ?_
        refine g_goto (tgt := 140) h dX1_reckon_136 (by decide) ?_
        refine G.int (show _ = zB (decide (A 23 (8 * t + u) = A 32 0)) by simp [zB, b132]) ?_
        exact G.to (back (S 0) c hX hSk0) ⟨rfl, rfl, rfl, rfl, trivial⟩
  have loop : ∀ n, n ≤ 8 → G φ (gQ φ (pV (kR c0 ad cp fz md A B (sToll A t u (cn A 2) a))) 0 0) 6 [(0, .ref (ad 0 0)), (1, .int (oI a)), (2, .ref (fz 1 t)), (3, .ref (ad 10 u)), (4, .int (zB (sPaidAny A t n))), (5, .int (nI n))] [] c 0 0 := by
    refine gloop ?_ ?_
    · skip
      refine g_iload h dX1_reckon_6 rfl ?_
      refine g_bipush (v := 8) h dX1_reckon_8 (by decide) ?_
      refine g_icmp_ge (tgt := 45) h dX1_reckon_10 (by decide) (fun b10 => ?_) (fun _bz => absurd _bz (by decide))
      refine g_aload_n (i := 0) h dX1_reckon_45 rfl rfl ?_
      refine g_get (v := .ref (ad 5 0)) h f_X1_54_1 hX.x rfl dX1_reckon_46 ?_
      refine g_aload_n (i := 2) h dX1_reckon_49 rfl rfl ?_
      refine g_get (v := .ref (ad 14 t)) h (fT_X1_131 _) (hX.1.frz (hT t ht) gT_core) rfl dX1_reckon_50 ?_
      refine g_aload_n (i := 3) h dX1_reckon_53 rfl rfl ?_
      refine g_get (v := .int (nI u)) h f_X1_140_23 (hX.1.at (cells_10 hu)) rfl dX1_reckon_54 ?_
      refine g_ialdN h (hX.1.at (cells_14 ht)) (show u < 8 by omega) (by decide) dX1_reckon_57 ?_
      refine G.int (show c8 (A 24) t u = A 24 (8 * t + u) from if_pos (show u < 8 by omega)) ?_
      refine g_aload_n (i := 0) h dX1_reckon_58 rfl rfl ?_
      refine g_get (v := .int (A 32 0)) h f_X1_137_1 hX.x rfl dX1_reckon_59 ?_
      refine g_icmp_ne (tgt := 69) h dX1_reckon_62 (by decide) (fun b62 => ?_) (fun b62 => ?_)
      · refine g_iconst (v := 0) h dX1_reckon_69 (by decide) ?_
        refine G.int (show _ = zB (decide (A 24 (8 * t + u) = A 32 0)) by simp [zB, b62]) ?_
        rw [hab8]
        exact G.to begun ⟨rfl, rfl, rfl, rfl, rfl, trivial⟩
      · refine g_iconst (v := 1) h dX1_reckon_65 (by decide) ?_
        refine g_goto (tgt := 70) h dX1_reckon_66 (by decide) ?_
        refine G.int (show _ = zB (decide (A 24 (8 * t + u) = A 32 0)) by simp [zB, b62]) ?_
        rw [hab8]
        exact G.to begun ⟨rfl, rfl, rfl, rfl, rfl, trivial⟩
    · intro n hn ih
      cases hp : sPaidAny A t n
      · rw [show sPaidAny A t (n + 1) = decide (A 24 (8 * t + n) = A 32 0) by simp only [sPaidAny, hp]; rfl] at ih
        refine g_iload h dX1_reckon_6 rfl ?_
        refine g_bipush (v := 8) h dX1_reckon_8 (by decide) ?_
        refine g_icmp_ge (tgt := 45) h dX1_reckon_10 (by decide) (fun _bz => absurd _bz (n_lt8 hn)) (fun b10 => ?_)
        refine g_iload h dX1_reckon_13 rfl ?_
        refine g_if_ne (tgt := 32) h dX1_reckon_15 (by decide) (fun _bz => absurd _bz (by decide)) (fun b15 => ?_)
        refine g_aload_n (i := 2) h dX1_reckon_18 rfl rfl ?_
        refine g_get (v := .ref (ad 14 t)) h (fT_X1_131 _) (hX.1.frz (hT t ht) gT_core) rfl dX1_reckon_19 ?_
        refine g_iload h dX1_reckon_22 rfl ?_
        refine g_ialdN h (hX.1.at (cells_14 ht)) hn (by decide) dX1_reckon_24 ?_
        refine G.int (show c8 (A 24) t n = A 24 (8 * t + n) from if_pos hn) ?_
        refine g_aload_n (i := 0) h dX1_reckon_25 rfl rfl ?_
        refine g_get (v := .int (A 32 0)) h f_X1_137_1 hX.x rfl dX1_reckon_26 ?_
        refine g_icmp_ne (tgt := 36) h dX1_reckon_29 (by decide) (fun b29 => ?_) (fun b29 => ?_)
        · refine g_iconst (v := 0) h dX1_reckon_36 (by decide) ?_
          refine g_istore h dX1_reckon_37 (by decide) ?_
          first | (with_reducible refine g_iincN h dX1_reckon_39 rfl (by decide) ?_) | refine g_iinc1 h dX1_reckon_39 rfl (by decide) ?_
          refine g_goto (tgt := 6) h dX1_reckon_42 (by decide) ?_
          exact G.to ih ⟨rfl, rfl, rfl, rfl, by simp [b29]; rfl, rfl, trivial⟩
        · refine g_iconst (v := 1) h dX1_reckon_32 (by decide) ?_
          refine g_goto (tgt := 37) h dX1_reckon_33 (by decide) ?_
          refine g_istore h dX1_reckon_37 (by decide) ?_
          first | (with_reducible refine g_iincN h dX1_reckon_39 rfl (by decide) ?_) | refine g_iinc1 h dX1_reckon_39 rfl (by decide) ?_
          refine g_goto (tgt := 6) h dX1_reckon_42 (by decide) ?_
          exact G.to ih ⟨rfl, rfl, rfl, rfl, by simp [b29]; rfl, rfl, trivial⟩
      · rw [show sPaidAny A t (n + 1) = true by simp only [sPaidAny, hp]; rfl] at ih
        refine g_iload h dX1_reckon_6 rfl ?_
        refine g_bipush (v := 8) h dX1_reckon_8 (by decide) ?_
        refine g_icmp_ge (tgt := 45) h dX1_reckon_10 (by decide) (fun _bz => absurd _bz (n_lt8 hn)) (fun b10 => ?_)
        refine g_iload h dX1_reckon_13 rfl ?_
        refine g_if_ne (tgt := 32) h dX1_reckon_15 (by decide) (fun b15 => ?_) (fun _bz => absurd _bz (by decide))
        refine g_iconst (v := 1) h dX1_reckon_32 (by decide) ?_
        refine g_goto (tgt := 37) h dX1_reckon_33 (by decide) ?_
        refine g_istore h dX1_reckon_37 (by decide) ?_
        first | (with_reducible refine g_iincN h dX1_reckon_39 rfl (by decide) ?_) | refine g_iinc1 h dX1_reckon_39 rfl (by decide) ?_
        refine g_goto (tgt := 6) h dX1_reckon_42 (by decide) ?_
        exact G.to ih ⟨rfl, rfl, rfl, rfl, rfl, rfl, trivial⟩
  refine g_iconst (v := 0) h dX1_reckon_0 (by decide) ?_
  refine g_istore h dX1_reckon_1 (by decide) ?_
  refine g_iconst (v := 0) h dX1_reckon_3 (by decide) ?_
  refine g_istore h dX1_reckon_4 (by decide) ?_
  exact G.to (loop 0 (Nat.zero_le _)) ⟨rfl, rfl, rfl, rfl, rfl, rfl, trivial⟩
theorem ask_0 {A : Nat → Nat → Int32} {a t u : Int32} (h1 : ¬ a < 0 ∧ a < A 18 0) (h2 : ¬ t < 0 ∧ t < A 25 0) (h3 : ¬ u < 0 ∧ u < A 31 0) : sAskK A a t u = 0 := by
  have : ¬ A 18 0 ≤ a := Int32.not_le.mpr h1.2
  have n2 : ¬ A 25 0 ≤ t := Int32.not_le.mpr h2.2
  have n3 : ¬ A 31 0 ≤ u := Int32.not_le.mpr h3.2
  simp [sAskK, sIsPass, h1.1, this, h2.1, n2, h3.1, n3]
theorem ask_1 {A : Nat → Nat → Int32} {a t u : Int32} (h : (a < 0 ∨ ¬ a < A 18 0) ∨ (t < 0 ∨ ¬ t < A 25 0) ∨ (u < 0 ∨ ¬ u < A 31 0)) : sAskK A a t u = 1 := by
  unfold sAskK sIsPass
  rcases h with (h | h) | (h | h) | (h | h)
  · simp [h]
  · have := Int32.not_lt.mp h
    simp [this]
  · simp [h]
  · have := Int32.not_lt.mp h
    simp [this]
  · simp [h]
  · have := Int32.not_lt.mp h
    simp [this]
theorem cx_asked {l : Launch} {g : gGP} (hk : gK l g) {c0 c : gLH} {ad cp fz : Nat → Nat → Nat} {md : Nat → Nat → Int32} {S : Nat → List Value} {U : Nat → Nat → Int64} {A : Nat → Nat → Int32} {B : Nat → Nat → Int64} (hX : CW c0 ad cp fz md S U A B c) (a t u : Int32) (hSk : SOk S) (hT : FT ad fz A c0) (hA : FA fz A c0) (hbt : ∀ t, t < cn A 3 → 0 ≤ (A 21 t).toInt ∧ (A 21 t).toInt ≤ 10000) (hpa : ∀ t, t < cn A 3 → ∀ g, cn A 2 ≤ g → g < 8 → A 24 (8 * t + g) ≠ A 32 0) (hts : gTS g) : Ct l g yX1_asked hwX1_asked 77 3080 [.ref (ad 0 0), .int a, .int t, .int u] c (8) (48) (pCx (sAskK A a t u) eBS c (pI (sToll A (ix t) (ix u) (cn A 2) (some (ix a))).1 (fun c' => ∃ S U, SOk S ∧ CW c0 ad cp fz md S U A B c'))) := by
  refine Ct.intro hk hcX1_asked (by decide +kernel) (Nat.le_of_ble_eq_true rfl) (fun φ h => ?_)
  refine g_iload_n (i := 1) h dX1_asked_0 rfl rfl ?_
  refine g_aload_n (i := 0) h dX1_asked_1 rfl rfl ?_
  refine g_get (v := .ref (ad 2 0)) h f_X1_25_1 hX.x rfl dX1_asked_2 ?_
  refine g_invV h (ct_xsize0 h.k hX) hcJ2_size w_X1_81 rfl rfl (xlist0 hX) (Nat.le_of_ble_eq_true rfl) ⟨Nat.le_of_ble_eq_true rfl, Nat.le_of_ble_eq_true rfl⟩ (by refine ⟨?_, ?_⟩ <;> first | exact Nat.le_refl _ | exact Nat.zero_le _ | (dsimp only; omega)) dX1_asked_5 (gkr_ip ?_) gkt_ip
  refine g_invS h (ct_thereX h.k _ _ hts) hcX1_there w_X1_112 rfl rfl (Nat.le_of_ble_eq_true rfl) ⟨Nat.le_of_ble_eq_true rfl, Nat.le_of_ble_eq_true rfl⟩ (by refine ⟨?_, ?_⟩ <;> ((try dsimp only); omega)) dX1_asked_8 (gkr_gd (fun b8 => ?_)) (gkt_gd (fun b8 a e ha => ?_))
  rotate_left 1
  · refine gt_out h (fun q hq => by cases hq) ?_ (by (try dsimp only); omega) (by (try dsimp only); omega)
    exact pCx_t (n := 1) (by exact ask_1 (Or.inl (sNo_ge b8))) (by decide) rfl ⟨a, e, rfl, ha, rfl⟩
  have bz8 := sNo_lt b8
  obtain ⟨hja, hxa⟩ := there_ix b8 (hX.cnt (i := 0) (by decide)).1 (hX.cnt (i := 0) (by decide)).2.2
  refine g_iload_n (i := 2) h dX1_asked_11 rfl rfl ?_
  refine g_aload_n (i := 0) h dX1_asked_12 rfl rfl ?_
  refine g_get (v := .ref (ad 2 3)) h f_X1_35_1 hX.x rfl dX1_asked_13 ?_
  refine g_invV h (ct_xsize3 h.k hX) hcJ2_size w_X1_81 rfl rfl (xlist3 hX) (Nat.le_of_ble_eq_true rfl) ⟨Nat.le_of_ble_eq_true rfl, Nat.le_of_ble_eq_true rfl⟩ (by refine ⟨?_, ?_⟩ <;> first | exact Nat.le_refl _ | exact Nat.zero_le _ | (dsimp only; omega)) dX1_asked_16 (gkr_ip ?_) gkt_ip
  refine g_invS h (ct_thereX h.k _ _ hts) hcX1_there w_X1_112 rfl rfl (Nat.le_of_ble_eq_true rfl) ⟨Nat.le_of_ble_eq_true rfl, Nat.le_of_ble_eq_true rfl⟩ (by refine ⟨?_, ?_⟩ <;> ((try dsimp only); omega)) dX1_asked_19 (gkr_gd (fun b19 => ?_)) (gkt_gd (fun b19 a e ha => ?_))
  rotate_left 1
  · refine gt_out h (fun q hq => by cases hq) ?_ (by (try dsimp only); omega) (by (try dsimp only); omega)
    exact pCx_t (n := 1) (by exact ask_1 (Or.inr (Or.inl (sNo_ge b19)))) (by decide) rfl ⟨a, e, rfl, ha, rfl⟩
  have bz19 := sNo_lt b19
  obtain ⟨hjt, hxt⟩ := there_ix b19 (hX.cnt (i := 3) (by decide)).1 (hX.cnt (i := 3) (by decide)).2.2
  refine g_iload_n (i := 3) h dX1_asked_22 rfl rfl ?_
  refine g_aload_n (i := 0) h dX1_asked_23 rfl rfl ?_
  refine g_get (v := .ref (ad 2 2)) h f_X1_32_1 hX.x rfl dX1_asked_24 ?_
  refine g_invV h (ct_xsize2 h.k hX) hcJ2_size w_X1_81 rfl rfl (xlist2 hX) (Nat.le_of_ble_eq_true rfl) ⟨Nat.le_of_ble_eq_true rfl, Nat.le_of_ble_eq_true rfl⟩ (by refine ⟨?_, ?_⟩ <;> first | exact Nat.le_refl _ | exact Nat.zero_le _ | (dsimp only; omega)) dX1_asked_27 (gkr_ip ?_) gkt_ip
  refine g_invS h (ct_thereX h.k _ _ hts) hcX1_there w_X1_112 rfl rfl (Nat.le_of_ble_eq_true rfl) ⟨Nat.le_of_ble_eq_true rfl, Nat.le_of_ble_eq_true rfl⟩ (by refine ⟨?_, ?_⟩ <;> ((try dsimp only); omega)) dX1_asked_30 (gkr_gd (fun b30 => ?_)) (gkt_gd (fun b30 a e ha => ?_))
  rotate_left 1
  · refine gt_out h (fun q hq => by cases hq) ?_ (by (try dsimp only); omega) (by (try dsimp only); omega)
    exact pCx_t (n := 1) (by exact ask_1 (Or.inr (Or.inr (sNo_ge b30)))) (by decide) rfl ⟨a, e, rfl, ha, rfl⟩
  have bz30 := sNo_lt b30
  obtain ⟨hju, hxu⟩ := there_ix b30 (hX.cnt (i := 2) (by decide)).1 (hX.cnt (i := 2) (by decide)).2.2
  refine g_aload_n (i := 0) h dX1_asked_33 rfl rfl ?_
  refine g_iload_n (i := 1) h dX1_asked_34 rfl rfl ?_
  refine G.int hxa ?_
  refine g_aload_n (i := 0) h dX1_asked_35 rfl rfl ?_
  refine g_get (v := .ref (ad 2 3)) h f_X1_35_1 hX.x rfl dX1_asked_36 ?_
  refine g_iload_n (i := 2) h dX1_asked_39 rfl rfl ?_
  refine G.int hxt ?_
  refine g_invV h (ct_xget3 h.k hX hjt) hcJ2_get w_X1_162 rfl rfl (xlist3 hX) (Nat.le_of_ble_eq_true rfl) ⟨Nat.le_of_ble_eq_true rfl, Nat.le_of_ble_eq_true rfl⟩ (by refine ⟨?_, ?_⟩ <;> first | exact Nat.le_refl _ | exact Nat.zero_le _ | (dsimp only; omega)) dX1_asked_40 (gkr_ap ?_) gkt_ap
  refine x_castT h (hX.1.frz (hT _ hjt) gT_core) dX1_asked_43 ?_
  refine g_aload_n (i := 0) h dX1_asked_46 rfl rfl ?_
  refine g_get (v := .ref (ad 2 2)) h f_X1_32_1 hX.x rfl dX1_asked_47 ?_
  refine g_iload_n (i := 3) h dX1_asked_50 rfl rfl ?_
  refine G.int hxu ?_
  refine g_invV h (ct_xget2 h.k hX hju) hcJ2_get w_X1_162 rfl rfl (xlist2 hX) (Nat.le_of_ble_eq_true rfl) ⟨Nat.le_of_ble_eq_true rfl, Nat.le_of_ble_eq_true rfl⟩ (by refine ⟨?_, ?_⟩ <;> first | exact Nat.le_refl _ | exact Nat.zero_le _ | (dsimp only; omega)) dX1_asked_51 (gkr_ap ?_) gkt_ap
  refine g_castS h (hX.1.at (cells_10 hju)) rfl q1261 dX1_asked_54 ?_
  refine g_invV h (cx_reckon (t := ix t) (u := ix u) (a := some (ix a)) h.k hX hjt hju hSk hT hA (fun a2 e => by cases e; exact hja) (hbt _ hjt) (hpa _ hjt)) hcX1_reckon w_X1_179 rfl rfl hX.x (Nat.le_of_ble_eq_true rfl) ⟨Nat.le_of_ble_eq_true rfl, Nat.le_of_ble_eq_true rfl⟩ (by refine ⟨?_, ?_⟩ <;> ((try dsimp only); omega)) dX1_asked_57 (gkr_v (fun c hX => ?_)) gkt_v
  obtain ⟨S', U', n, o, al, hb, ab, hS4, -, hX⟩ := hX
  refine g_aload_n (i := 0) h dX1_asked_60 rfl rfl ?_
  refine g_get (v := .ref (ad 5 0)) h f_X1_54_1 hX.x rfl dX1_asked_61 ?_
  refine g_get (v := .long (sToll A (ix t) (ix u) (cn A 2) (some (ix a))).1.toInt64) h f_X1_186_3 (x_rk hX) rfl dX1_asked_64 ?_
  refine g_l2i h dX1_asked_67 ?_
  exact g_iret h (pCx_0 (ask_0 bz8 bz19 bz30) ⟨by rw [Int32.toInt32_toInt64], _, _, ⟨by rw [vS_0]; exact hS4, by rw [va_up_s]; rfl⟩, hX⟩) (by (try dsimp only); omega) (by (try dsimp only); omega) dX1_asked_68
