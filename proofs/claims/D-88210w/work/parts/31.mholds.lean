/-! THE MODEL: conditions as a pile works them -/
set_option maxRecDepth 100000
/-- a whole row is another -/
def mR (A : Nat → Nat → Int32) (k : Nat) (P : Nat → Int32) : Nat → Nat → Int32 := va_up A k P
theorem mR_up {A : Nat → Nat → Int32} {k j : Nat} {P : Nat → Int32} {x : Int32} : mA (mR A k P) k j x = mR A k (upd P j x) := by
  unfold mA mR
  rw [bx_uu, va_up_s]
theorem mR_id (A : Nat → Nat → Int32) (k : Nat) : mR A k (A k) = A := by
  funext i
  unfold mR
  by_cases h : i = k
  · subst h; exact va_up_s _ _ _
  · exact va_up_n _ _ h
/-- a pile holds these, the top first -/
def Pl (P : Nat → Int32) : List Bool → Prop
  | [] => True
  | x :: s => P s.length = zB x ∧ Pl P s
theorem Pl_out {P : Nat → Int32} {v : Int32} : ∀ {s : List Bool} {j : Nat}, s.length ≤ j → Pl P s → Pl (upd P j v) s
  | [], _, _, _ => trivial
  | x :: s, j, hj, h => by
    have hj : s.length + 1 ≤ j := hj
    refine ⟨?_, Pl_out (by omega) h.2⟩
    show upd P j v s.length = zB x
    unfold upd
    rw [if_neg (by omega)]
    exact h.1
theorem Pl_put {P : Nat → Int32} {s : List Bool} {x : Bool} {v : Int32} (h : Pl P s) (hv : v = zB x) : Pl (upd P s.length v) (x :: s) := by
  refine ⟨?_, Pl_out (Nat.le_refl _) h⟩
  unfold upd
  rw [if_pos rfl, hv]
def sStep (b : Bool) (c : Int32) (s : List Bool) : Option (List Bool) :=
  if c = 0 then (match s with | x :: y :: r => some ((y && x) :: r) | _ => none)
  else if c = 1 then (match s with | x :: y :: r => some ((y || x) :: r) | _ => none)
  else if c = 2 then (match s with | x :: r => some ((!x) :: r) | _ => none)
  else if s.length < 64 then some (b :: s) else none
/-- n codes from k on, worked on a pile -/
def sRun (one : Nat → Bool) (C : Nat → Int32) : Nat → Nat → List Bool → Option (List Bool)
  | _, 0, s => some s
  | k, n + 1, s => match sStep (one k) (C k) s with
    | none => none
    | some s' => sRun one C (k + 1) n s'
def sTop (s : List Bool) : Bool := match s with | [] => true | x :: _ => x
abbrev sOne (A : Nat → Nat → Int32) (t u : Nat) : Nat → Bool := fun k => sSingle A (A 15 k) (A 16 k) t u
theorem nI_m1 (n : Nat) : nI (n + 1) + (-1) = nI n := by rw [← Int32.sub_eq_add_neg]; exact nI_pred n
theorem ct_holds {l : Launch} {g : gGP} (hk : gK l g) {c0 c : gLH} {mo : Nat} {ma : Nat → Nat} {cl ll : Nat} {A : Nat → Nat → Int32} {B : Nat → Nat → Int64} (hM : MW c0 mo ma cl ll A B c) {w t u f n e : Nat} {sf : List Bool} (hw : w < 480) (ht : t < 60) (hu : u < 8) (hf : A 13 w = nI f) (hto : A 14 w = nI e) (hfe : f + n = e) (he : e ≤ cl) (hrun : sRun (sOne A t u) (A 15) f n [] = some sf) (hsf : sf = [] ∨ ∃ b, sf = [b]) : Ct l g yX4_holds hwX4_holds 2 80 [.ref mo, .int (nI w), .int (nI t), .int (nI u)] c (0) (0) (pI (zB (sTop sf)) (fun c' => ∃ P, MW c0 mo ma cl ll (mR A 34 P) B c')) := by
  refine Ct.intro hk hcX4_holds (by decide +kernel) (Nat.le_of_ble_eq_true rfl) (fun φ h => ?_)
  have loop : ∀ (n k : Nat) (s : List Bool) (P : Nat → Int32) (c : gLH), k + n = e → sRun (sOne A t u) (A 15) k n s = some sf → s.length ≤ 64 → Pl P s → MW c0 mo ma cl ll (mR A 34 P) B c →
      G φ (gQ φ (pI (zB (sTop sf)) (fun c' => ∃ P, MW c0 mo ma cl ll (mR A 34 P) B c')) 0 0) 11 [(0, .ref mo), (1, .int (nI w)), (2, .int (nI t)), (3, .int (nI u)), (4, .int (nI s.length)), (5, .int (nI k))] [] c 0 0 := by
    intro n
    induction n with
    | zero =>
      intro k s P c hke hrun hs hP hM
      obtain rfl : k = e := by omega
      cases hrun
      have hcl := hM.2.1
      rcases hsf with rfl | ⟨x, rfl⟩
      · skip
        refine g_iload h dX4_holds_11 rfl ?_
        refine g_aload_n (i := 0) h dX4_holds_13 rfl rfl ?_
        refine m_get h hM f_X4_36_4 rfl dX4_holds_14 ?_
        refine g_iload_n (i := 1) h dX4_holds_17 rfl rfl ?_
        refine m_iald (k := 14) (x := nI _) h hM rfl rfl (by show _ < 480; omega) hto dX4_holds_18 ?_
        refine g_icmp_ge (tgt := 189) h dX4_holds_19 (by decide) (fun b19 => ?_) (fun _bz => absurd _bz (fun q => absurd (nI_le (Nat.le_refl _) (by omega)) q))
        refine g_iload h dX4_holds_189 rfl ?_
        refine g_if_eq (tgt := 203) h dX4_holds_191 (by decide) (fun b191 => ?_) (fun _bz => absurd _bz (fun q => q rfl))
        refine g_iconst (v := 1) h dX4_holds_203 (by decide) ?_
        refine g_goto (tgt := 208) h dX4_holds_204 (by decide) ?_
        exact g_zret h ⟨rfl, _, hM⟩ (Nat.le_refl _) (Nat.le_refl _) (by first | rfl | exact zB_nar _) dX4_holds_208
      · skip
        refine g_iload h dX4_holds_11 rfl ?_
        refine g_aload_n (i := 0) h dX4_holds_13 rfl rfl ?_
        refine m_get h hM f_X4_36_4 rfl dX4_holds_14 ?_
        refine g_iload_n (i := 1) h dX4_holds_17 rfl rfl ?_
        refine m_iald (k := 14) (x := nI _) h hM rfl rfl (by show _ < 480; omega) hto dX4_holds_18 ?_
        refine g_icmp_ge (tgt := 189) h dX4_holds_19 (by decide) (fun b19 => ?_) (fun _bz => absurd _bz (fun q => absurd (nI_le (Nat.le_refl _) (by omega)) q))
        refine g_iload h dX4_holds_189 rfl ?_
        refine g_if_eq (tgt := 203) h dX4_holds_191 (by decide) (fun _bz => absurd _bz (by show ¬ nI 1 = 0; decide)) (fun b191 => ?_)
        refine g_aload_n (i := 0) h dX4_holds_194 rfl rfl ?_
        refine m_get h hM f_X4_76_4 rfl dX4_holds_195 ?_
        refine g_iconst (v := nI 0) h dX4_holds_198 (by decide) ?_
        refine m_zald (j := 0) h hM (by omega) dX4_holds_199 ?_
        refine G.int hP.1 ?_
        refine g_if_eq (tgt := 207) h dX4_holds_200 (by decide) (fun b200 => ?_) (fun b200 => ?_)
        · rw [zB_0] at b200
          refine g_iconst (v := 0) h dX4_holds_207 (by decide) ?_
          exact g_zret h ⟨by simp only [sTop, b19, b191, b200]; rfl, _, hM⟩ (Nat.le_refl _) (Nat.le_refl _) (by first | rfl | exact zB_nar _) dX4_holds_208
        · rw [zB_n0] at b200
          refine g_iconst (v := 1) h dX4_holds_203 (by decide) ?_
          refine g_goto (tgt := 208) h dX4_holds_204 (by decide) ?_
          exact g_zret h ⟨by simp only [sTop, b19, b191, b200]; rfl, _, hM⟩ (Nat.le_refl _) (Nat.le_refl _) (by first | rfl | exact zB_nar _) dX4_holds_208
    | succ n ih =>
      intro k s P c hke hrun hs hP hM
      have hcl := hM.2.1
      simp only [sRun] at hrun
      by_cases h0 : A 15 k = 0
      · simp only [sStep, h0, if_true] at hrun
        rcases s with _ | ⟨x, _ | ⟨y, r⟩⟩
        · cases hrun
        · cases hrun
        replace hrun : sRun (sOne A t u) (A 15) (k + 1) n ((y && x) :: r) = some sf := hrun
        have hs' : r.length + 1 + 1 ≤ 64 := hs
        refine g_iload h dX4_holds_11 rfl ?_
        refine g_aload_n (i := 0) h dX4_holds_13 rfl rfl ?_
        refine m_get h hM f_X4_36_4 rfl dX4_holds_14 ?_
        refine g_iload_n (i := 1) h dX4_holds_17 rfl rfl ?_
        refine m_iald (k := 14) (x := nI _) h hM rfl rfl (by show _ < 480; omega) hto dX4_holds_18 ?_
        refine g_icmp_ge (tgt := 189) h dX4_holds_19 (by decide) (fun _bz => absurd _bz (nI_ge (by omega) (by omega))) (fun b19 => ?_)
        refine g_aload_n (i := 0) h dX4_holds_22 rfl rfl ?_
        refine m_get h hM f_X4_39_4 rfl dX4_holds_23 ?_
        refine g_iload h dX4_holds_26 rfl ?_
        refine m_iald (k := 15) (x := A 15 _) h hM rfl rfl (by show _ < cl; omega) rfl dX4_holds_28 ?_
        refine g_istore h dX4_holds_29 (by decide) ?_
        refine g_aload_n (i := 0) h dX4_holds_31 rfl rfl ?_
        refine m_get h hM f_X4_42_4 rfl dX4_holds_32 ?_
        refine g_iload h dX4_holds_35 rfl ?_
        refine m_iald (k := 16) (x := A 16 _) h hM rfl rfl (by show _ < cl; omega) rfl dX4_holds_37 ?_
        refine g_istore h dX4_holds_38 (by decide) ?_
        refine g_iload h dX4_holds_40 rfl ?_
        refine g_if_eq (tgt := 51) h dX4_holds_42 (by decide) (fun b42 => ?_) (fun _bz => absurd _bz (not_not_intro h0))
        refine g_iinc h dX4_holds_51 rfl rfl (by decide) ?_
        refine G.to (lv' := [(0, .ref mo), (1, .int (nI w)), (2, .int (nI t)), (3, .int (nI u)), (4, .int (nI (r.length + 1))), (5, .int (nI k)), (6, .int (A 15 k)), (7, .int (A 16 k))]) ?_ ⟨rfl, rfl, rfl, rfl, congrArg _ (congrArg _ (nI_m1 _)), rfl, rfl, rfl, trivial⟩
        refine g_aload_n (i := 0) h dX4_holds_54 rfl rfl ?_
        refine m_get h hM f_X4_76_4 rfl dX4_holds_55 ?_
        refine g_iload h dX4_holds_58 rfl ?_
        refine g_iconst (v := 1) h dX4_holds_60 (by decide) ?_
        refine g_isub h dX4_holds_61 ?_
        refine G.int (nI_pred r.length) ?_
        refine g_iload h dX4_holds_62 rfl ?_
        refine g_if_ne (tgt := 97) h dX4_holds_64 (by decide) (fun _bz => absurd _bz (not_not_intro h0)) (fun b64 => ?_)
        refine g_aload_n (i := 0) h dX4_holds_67 rfl rfl ?_
        refine m_get h hM f_X4_76_4 rfl dX4_holds_68 ?_
        refine g_iload h dX4_holds_71 rfl ?_
        refine g_iconst (v := 1) h dX4_holds_73 (by decide) ?_
        refine g_isub h dX4_holds_74 ?_
        refine G.int (nI_pred r.length) ?_
        refine m_zald (j := r.length) h hM (by omega) dX4_holds_75 ?_
        refine G.int hP.2.1 ?_
        refine g_if_eq (tgt := 93) h dX4_holds_76 (by decide) (fun b76 => ?_) (fun b76 => ?_)
        · rw [zB_0] at b76
          refine g_iconst (v := 0) h dX4_holds_93 (by decide) ?_
          refine g_goto (tgt := 124) h dX4_holds_94 (by decide) ?_
          refine m_zast h hM (by omega) dX4_holds_124 (fun c hM => ?_)
          refine g_goto (tgt := 183) h dX4_holds_125 (by decide) ?_
          first | (with_reducible refine g_iincN h dX4_holds_183 rfl (by decide) ?_) | refine g_iinc1 h dX4_holds_183 rfl (by decide) ?_
          refine g_goto (tgt := 11) h dX4_holds_186 (by decide) ?_
          exact G.to (ih (k + 1) ((y && x) :: r) _ c (by omega) hrun (by simp only [List.length_cons] at hs ⊢; omega) (Pl_put hP.2.2 (by simp only [b19, b42, b64, b76, Bool.and_false, Bool.false_and, Bool.true_and, Bool.and_true, Bool.or_true, Bool.true_or, Bool.false_or, Bool.or_false, Bool.not_true, Bool.not_false, bne, Bool.not_eq_true]; rfl)) (mR_up ▸ hM)) ⟨rfl, rfl, rfl, rfl, rfl, rfl, trivial⟩
        · rw [zB_n0] at b76
          refine g_aload_n (i := 0) h dX4_holds_79 rfl rfl ?_
          refine m_get h hM f_X4_76_4 rfl dX4_holds_80 ?_
          refine g_iload h dX4_holds_83 rfl ?_
          refine m_zald (j := (r.length + 1)) h hM (by omega) dX4_holds_85 ?_
          refine G.int hP.1 ?_
          refine g_if_eq (tgt := 93) h dX4_holds_86 (by decide) (fun b86 => ?_) (fun b86 => ?_)
          · rw [zB_0] at b86
            refine g_iconst (v := 0) h dX4_holds_93 (by decide) ?_
            refine g_goto (tgt := 124) h dX4_holds_94 (by decide) ?_
            refine m_zast h hM (by omega) dX4_holds_124 (fun c hM => ?_)
            refine g_goto (tgt := 183) h dX4_holds_125 (by decide) ?_
            first | (with_reducible refine g_iincN h dX4_holds_183 rfl (by decide) ?_) | refine g_iinc1 h dX4_holds_183 rfl (by decide) ?_
            refine g_goto (tgt := 11) h dX4_holds_186 (by decide) ?_
            exact G.to (ih (k + 1) ((y && x) :: r) _ c (by omega) hrun (by simp only [List.length_cons] at hs ⊢; omega) (Pl_put hP.2.2 (by simp only [b19, b42, b64, b76, b86, Bool.and_false, Bool.false_and, Bool.true_and, Bool.and_true, Bool.or_true, Bool.true_or, Bool.false_or, Bool.or_false, Bool.not_true, Bool.not_false, bne, Bool.not_eq_true]; rfl)) (mR_up ▸ hM)) ⟨rfl, rfl, rfl, rfl, rfl, rfl, trivial⟩
          · rw [zB_n0] at b86
            refine g_iconst (v := 1) h dX4_holds_89 (by decide) ?_
            refine g_goto (tgt := 124) h dX4_holds_90 (by decide) ?_
            refine m_zast h hM (by omega) dX4_holds_124 (fun c hM => ?_)
            refine g_goto (tgt := 183) h dX4_holds_125 (by decide) ?_
            first | (with_reducible refine g_iincN h dX4_holds_183 rfl (by decide) ?_) | refine g_iinc1 h dX4_holds_183 rfl (by decide) ?_
            refine g_goto (tgt := 11) h dX4_holds_186 (by decide) ?_
            exact G.to (ih (k + 1) ((y && x) :: r) _ c (by omega) hrun (by simp only [List.length_cons] at hs ⊢; omega) (Pl_put hP.2.2 (by simp only [b19, b42, b64, b76, b86, Bool.and_false, Bool.false_and, Bool.true_and, Bool.and_true, Bool.or_true, Bool.true_or, Bool.false_or, Bool.or_false, Bool.not_true, Bool.not_false, bne, Bool.not_eq_true]; rfl)) (mR_up ▸ hM)) ⟨rfl, rfl, rfl, rfl, rfl, rfl, trivial⟩
      by_cases h1 : A 15 k = 1
      · simp only [sStep, h0, h1, if_true, if_false] at hrun
        rcases s with _ | ⟨x, _ | ⟨y, r⟩⟩
        · cases hrun
        · cases hrun
        replace hrun : sRun (sOne A t u) (A 15) (k + 1) n ((y || x) :: r) = some sf := hrun
        have hs' : r.length + 1 + 1 ≤ 64 := hs
        refine g_iload h dX4_holds_11 rfl ?_
        refine g_aload_n (i := 0) h dX4_holds_13 rfl rfl ?_
        refine m_get h hM f_X4_36_4 rfl dX4_holds_14 ?_
        refine g_iload_n (i := 1) h dX4_holds_17 rfl rfl ?_
        refine m_iald (k := 14) (x := nI _) h hM rfl rfl (by show _ < 480; omega) hto dX4_holds_18 ?_
        refine g_icmp_ge (tgt := 189) h dX4_holds_19 (by decide) (fun _bz => absurd _bz (nI_ge (by omega) (by omega))) (fun b19 => ?_)
        refine g_aload_n (i := 0) h dX4_holds_22 rfl rfl ?_
        refine m_get h hM f_X4_39_4 rfl dX4_holds_23 ?_
        refine g_iload h dX4_holds_26 rfl ?_
        refine m_iald (k := 15) (x := A 15 _) h hM rfl rfl (by show _ < cl; omega) rfl dX4_holds_28 ?_
        refine g_istore h dX4_holds_29 (by decide) ?_
        refine g_aload_n (i := 0) h dX4_holds_31 rfl rfl ?_
        refine m_get h hM f_X4_42_4 rfl dX4_holds_32 ?_
        refine g_iload h dX4_holds_35 rfl ?_
        refine m_iald (k := 16) (x := A 16 _) h hM rfl rfl (by show _ < cl; omega) rfl dX4_holds_37 ?_
        refine g_istore h dX4_holds_38 (by decide) ?_
        refine g_iload h dX4_holds_40 rfl ?_
        refine g_if_eq (tgt := 51) h dX4_holds_42 (by decide) (fun _bz => absurd _bz h0) (fun b42 => ?_)
        refine g_iload h dX4_holds_45 rfl ?_
        refine g_iconst (v := 1) h dX4_holds_47 (by decide) ?_
        refine g_icmp_ne (tgt := 128) h dX4_holds_48 (by decide) (fun _bz => absurd _bz (not_not_intro h1)) (fun b48 => ?_)
        refine g_iinc h dX4_holds_51 rfl rfl (by decide) ?_
        refine G.to (lv' := [(0, .ref mo), (1, .int (nI w)), (2, .int (nI t)), (3, .int (nI u)), (4, .int (nI (r.length + 1))), (5, .int (nI k)), (6, .int (A 15 k)), (7, .int (A 16 k))]) ?_ ⟨rfl, rfl, rfl, rfl, congrArg _ (congrArg _ (nI_m1 _)), rfl, rfl, rfl, trivial⟩
        refine g_aload_n (i := 0) h dX4_holds_54 rfl rfl ?_
        refine m_get h hM f_X4_76_4 rfl dX4_holds_55 ?_
        refine g_iload h dX4_holds_58 rfl ?_
        refine g_iconst (v := 1) h dX4_holds_60 (by decide) ?_
        refine g_isub h dX4_holds_61 ?_
        refine G.int (nI_pred r.length) ?_
        refine g_iload h dX4_holds_62 rfl ?_
        refine g_if_ne (tgt := 97) h dX4_holds_64 (by decide) (fun b64 => ?_) (fun _bz => absurd _bz h0)
        refine g_aload_n (i := 0) h dX4_holds_97 rfl rfl ?_
        refine m_get h hM f_X4_76_4 rfl dX4_holds_98 ?_
        refine g_iload h dX4_holds_101 rfl ?_
        refine g_iconst (v := 1) h dX4_holds_103 (by decide) ?_
        refine g_isub h dX4_holds_104 ?_
        refine G.int (nI_pred r.length) ?_
        refine m_zald (j := r.length) h hM (by omega) dX4_holds_105 ?_
        refine G.int hP.2.1 ?_
        refine g_if_ne (tgt := 119) h dX4_holds_106 (by decide) (fun b106 => ?_) (fun b106 => ?_)
        · rw [zB_n0] at b106
          refine g_iconst (v := 1) h dX4_holds_119 (by decide) ?_
          refine g_goto (tgt := 124) h dX4_holds_120 (by decide) ?_
          refine m_zast h hM (by omega) dX4_holds_124 (fun c hM => ?_)
          refine g_goto (tgt := 183) h dX4_holds_125 (by decide) ?_
          first | (with_reducible refine g_iincN h dX4_holds_183 rfl (by decide) ?_) | refine g_iinc1 h dX4_holds_183 rfl (by decide) ?_
          refine g_goto (tgt := 11) h dX4_holds_186 (by decide) ?_
          exact G.to (ih (k + 1) ((y || x) :: r) _ c (by omega) hrun (by simp only [List.length_cons] at hs ⊢; omega) (Pl_put hP.2.2 (by simp only [b19, b42, b48, b64, b106, Bool.and_false, Bool.false_and, Bool.true_and, Bool.and_true, Bool.or_true, Bool.true_or, Bool.false_or, Bool.or_false, Bool.not_true, Bool.not_false, bne, Bool.not_eq_true]; rfl)) (mR_up ▸ hM)) ⟨rfl, rfl, rfl, rfl, rfl, rfl, trivial⟩
        · rw [zB_0] at b106
          refine g_aload_n (i := 0) h dX4_holds_109 rfl rfl ?_
          refine m_get h hM f_X4_76_4 rfl dX4_holds_110 ?_
          refine g_iload h dX4_holds_113 rfl ?_
          refine m_zald (j := (r.length + 1)) h hM (by omega) dX4_holds_115 ?_
          refine G.int hP.1 ?_
          refine g_if_eq (tgt := 123) h dX4_holds_116 (by decide) (fun b116 => ?_) (fun b116 => ?_)
          · rw [zB_0] at b116
            refine g_iconst (v := 0) h dX4_holds_123 (by decide) ?_
            refine m_zast h hM (by omega) dX4_holds_124 (fun c hM => ?_)
            refine g_goto (tgt := 183) h dX4_holds_125 (by decide) ?_
            first | (with_reducible refine g_iincN h dX4_holds_183 rfl (by decide) ?_) | refine g_iinc1 h dX4_holds_183 rfl (by decide) ?_
            refine g_goto (tgt := 11) h dX4_holds_186 (by decide) ?_
            exact G.to (ih (k + 1) ((y || x) :: r) _ c (by omega) hrun (by simp only [List.length_cons] at hs ⊢; omega) (Pl_put hP.2.2 (by simp only [b19, b42, b48, b64, b106, b116, Bool.and_false, Bool.false_and, Bool.true_and, Bool.and_true, Bool.or_true, Bool.true_or, Bool.false_or, Bool.or_false, Bool.not_true, Bool.not_false, bne, Bool.not_eq_true]; rfl)) (mR_up ▸ hM)) ⟨rfl, rfl, rfl, rfl, rfl, rfl, trivial⟩
          · rw [zB_n0] at b116
            refine g_iconst (v := 1) h dX4_holds_119 (by decide) ?_
            refine g_goto (tgt := 124) h dX4_holds_120 (by decide) ?_
            refine m_zast h hM (by omega) dX4_holds_124 (fun c hM => ?_)
            refine g_goto (tgt := 183) h dX4_holds_125 (by decide) ?_
            first | (with_reducible refine g_iincN h dX4_holds_183 rfl (by decide) ?_) | refine g_iinc1 h dX4_holds_183 rfl (by decide) ?_
            refine g_goto (tgt := 11) h dX4_holds_186 (by decide) ?_
            exact G.to (ih (k + 1) ((y || x) :: r) _ c (by omega) hrun (by simp only [List.length_cons] at hs ⊢; omega) (Pl_put hP.2.2 (by simp only [b19, b42, b48, b64, b106, b116, Bool.and_false, Bool.false_and, Bool.true_and, Bool.and_true, Bool.or_true, Bool.true_or, Bool.false_or, Bool.or_false, Bool.not_true, Bool.not_false, bne, Bool.not_eq_true]; rfl)) (mR_up ▸ hM)) ⟨rfl, rfl, rfl, rfl, rfl, rfl, trivial⟩
      by_cases h2 : A 15 k = 2
      · simp only [sStep, h0, h1, h2, if_true, if_false] at hrun
        rcases s with _ | ⟨x, r⟩
        · cases hrun
        replace hrun : sRun (sOne A t u) (A 15) (k + 1) n ((!x) :: r) = some sf := hrun
        have hs' : r.length + 1 ≤ 64 := hs
        refine g_iload h dX4_holds_11 rfl ?_
        refine g_aload_n (i := 0) h dX4_holds_13 rfl rfl ?_
        refine m_get h hM f_X4_36_4 rfl dX4_holds_14 ?_
        refine g_iload_n (i := 1) h dX4_holds_17 rfl rfl ?_
        refine m_iald (k := 14) (x := nI _) h hM rfl rfl (by show _ < 480; omega) hto dX4_holds_18 ?_
        refine g_icmp_ge (tgt := 189) h dX4_holds_19 (by decide) (fun _bz => absurd _bz (nI_ge (by omega) (by omega))) (fun b19 => ?_)
        refine g_aload_n (i := 0) h dX4_holds_22 rfl rfl ?_
        refine m_get h hM f_X4_39_4 rfl dX4_holds_23 ?_
        refine g_iload h dX4_holds_26 rfl ?_
        refine m_iald (k := 15) (x := A 15 _) h hM rfl rfl (by show _ < cl; omega) rfl dX4_holds_28 ?_
        refine g_istore h dX4_holds_29 (by decide) ?_
        refine g_aload_n (i := 0) h dX4_holds_31 rfl rfl ?_
        refine m_get h hM f_X4_42_4 rfl dX4_holds_32 ?_
        refine g_iload h dX4_holds_35 rfl ?_
        refine m_iald (k := 16) (x := A 16 _) h hM rfl rfl (by show _ < cl; omega) rfl dX4_holds_37 ?_
        refine g_istore h dX4_holds_38 (by decide) ?_
        refine g_iload h dX4_holds_40 rfl ?_
        refine g_if_eq (tgt := 51) h dX4_holds_42 (by decide) (fun _bz => absurd _bz h0) (fun b42 => ?_)
        refine g_iload h dX4_holds_45 rfl ?_
        refine g_iconst (v := 1) h dX4_holds_47 (by decide) ?_
        refine g_icmp_ne (tgt := 128) h dX4_holds_48 (by decide) (fun b48 => ?_) (fun _bz => absurd _bz h1)
        refine g_iload h dX4_holds_128 rfl ?_
        refine g_iconst (v := 2) h dX4_holds_130 (by decide) ?_
        refine g_icmp_ne (tgt := 163) h dX4_holds_131 (by decide) (fun _bz => absurd _bz (not_not_intro h2)) (fun b131 => ?_)
        refine g_aload_n (i := 0) h dX4_holds_134 rfl rfl ?_
        refine m_get h hM f_X4_76_4 rfl dX4_holds_135 ?_
        refine g_iload h dX4_holds_138 rfl ?_
        refine g_iconst (v := 1) h dX4_holds_140 (by decide) ?_
        refine g_isub h dX4_holds_141 ?_
        refine G.int (nI_pred r.length) ?_
        refine g_aload_n (i := 0) h dX4_holds_142 rfl rfl ?_
        refine m_get h hM f_X4_76_4 rfl dX4_holds_143 ?_
        refine g_iload h dX4_holds_146 rfl ?_
        refine g_iconst (v := 1) h dX4_holds_148 (by decide) ?_
        refine g_isub h dX4_holds_149 ?_
        refine G.int (nI_pred r.length) ?_
        refine m_zald (j := r.length) h hM (by omega) dX4_holds_150 ?_
        refine G.int hP.1 ?_
        refine g_if_ne (tgt := 158) h dX4_holds_151 (by decide) (fun b151 => ?_) (fun b151 => ?_)
        · rw [zB_n0] at b151
          refine g_iconst (v := 0) h dX4_holds_158 (by decide) ?_
          refine m_zast h hM (by omega) dX4_holds_159 (fun c hM => ?_)
          refine g_goto (tgt := 183) h dX4_holds_160 (by decide) ?_
          first | (with_reducible refine g_iincN h dX4_holds_183 rfl (by decide) ?_) | refine g_iinc1 h dX4_holds_183 rfl (by decide) ?_
          refine g_goto (tgt := 11) h dX4_holds_186 (by decide) ?_
          exact G.to (ih (k + 1) ((!x) :: r) _ c (by omega) hrun (by simp only [List.length_cons] at hs ⊢; omega) (Pl_put hP.2 (by simp only [b19, b42, b48, b131, b151, Bool.and_false, Bool.false_and, Bool.true_and, Bool.and_true, Bool.or_true, Bool.true_or, Bool.false_or, Bool.or_false, Bool.not_true, Bool.not_false, bne, Bool.not_eq_true]; rfl)) (mR_up ▸ hM)) ⟨rfl, rfl, rfl, rfl, rfl, rfl, trivial⟩
        · rw [zB_0] at b151
          refine g_iconst (v := 1) h dX4_holds_154 (by decide) ?_
          refine g_goto (tgt := 159) h dX4_holds_155 (by decide) ?_
          refine m_zast h hM (by omega) dX4_holds_159 (fun c hM => ?_)
          refine g_goto (tgt := 183) h dX4_holds_160 (by decide) ?_
          first | (with_reducible refine g_iincN h dX4_holds_183 rfl (by decide) ?_) | refine g_iinc1 h dX4_holds_183 rfl (by decide) ?_
          refine g_goto (tgt := 11) h dX4_holds_186 (by decide) ?_
          exact G.to (ih (k + 1) ((!x) :: r) _ c (by omega) hrun (by simp only [List.length_cons] at hs ⊢; omega) (Pl_put hP.2 (by simp only [b19, b42, b48, b131, b151, Bool.and_false, Bool.false_and, Bool.true_and, Bool.and_true, Bool.or_true, Bool.true_or, Bool.false_or, Bool.or_false, Bool.not_true, Bool.not_false, bne, Bool.not_eq_true]; rfl)) (mR_up ▸ hM)) ⟨rfl, rfl, rfl, rfl, rfl, rfl, trivial⟩
      simp only [sStep, h0, h1, h2, if_false] at hrun
      by_cases hs6 : s.length < 64
      · rw [if_pos hs6] at hrun
        replace hrun : sRun (sOne A t u) (A 15) (k + 1) n (sOne A t u k :: s) = some sf := hrun
        refine g_iload h dX4_holds_11 rfl ?_
        refine g_aload_n (i := 0) h dX4_holds_13 rfl rfl ?_
        refine m_get h hM f_X4_36_4 rfl dX4_holds_14 ?_
        refine g_iload_n (i := 1) h dX4_holds_17 rfl rfl ?_
        refine m_iald (k := 14) (x := nI _) h hM rfl rfl (by show _ < 480; omega) hto dX4_holds_18 ?_
        refine g_icmp_ge (tgt := 189) h dX4_holds_19 (by decide) (fun _bz => absurd _bz (nI_ge (by omega) (by omega))) (fun b19 => ?_)
        refine g_aload_n (i := 0) h dX4_holds_22 rfl rfl ?_
        refine m_get h hM f_X4_39_4 rfl dX4_holds_23 ?_
        refine g_iload h dX4_holds_26 rfl ?_
        refine m_iald (k := 15) (x := A 15 _) h hM rfl rfl (by show _ < cl; omega) rfl dX4_holds_28 ?_
        refine g_istore h dX4_holds_29 (by decide) ?_
        refine g_aload_n (i := 0) h dX4_holds_31 rfl rfl ?_
        refine m_get h hM f_X4_42_4 rfl dX4_holds_32 ?_
        refine g_iload h dX4_holds_35 rfl ?_
        refine m_iald (k := 16) (x := A 16 _) h hM rfl rfl (by show _ < cl; omega) rfl dX4_holds_37 ?_
        refine g_istore h dX4_holds_38 (by decide) ?_
        refine g_iload h dX4_holds_40 rfl ?_
        refine g_if_eq (tgt := 51) h dX4_holds_42 (by decide) (fun _bz => absurd _bz h0) (fun b42 => ?_)
        refine g_iload h dX4_holds_45 rfl ?_
        refine g_iconst (v := 1) h dX4_holds_47 (by decide) ?_
        refine g_icmp_ne (tgt := 128) h dX4_holds_48 (by decide) (fun b48 => ?_) (fun _bz => absurd _bz h1)
        refine g_iload h dX4_holds_128 rfl ?_
        refine g_iconst (v := 2) h dX4_holds_130 (by decide) ?_
        refine g_icmp_ne (tgt := 163) h dX4_holds_131 (by decide) (fun b131 => ?_) (fun _bz => absurd _bz h2)
        refine g_aload_n (i := 0) h dX4_holds_163 rfl rfl ?_
        refine m_get h hM f_X4_76_4 rfl dX4_holds_164 ?_
        refine g_iload h dX4_holds_167 rfl ?_
        refine g_aload_n (i := 0) h dX4_holds_169 rfl rfl ?_
        refine g_iload h dX4_holds_170 rfl ?_
        refine g_iload h dX4_holds_172 rfl ?_
        refine g_iload_n (i := 2) h dX4_holds_174 rfl rfl ?_
        refine g_iload_n (i := 3) h dX4_holds_175 rfl rfl ?_
        refine g_invV h (ct_single h.k hM _ _ ht hu) hcX4_single w_X4_327 rfl rfl hM.obj (Nat.le_of_ble_eq_true rfl) ⟨Nat.le_of_ble_eq_true rfl, Nat.le_of_ble_eq_true rfl⟩ (by refine ⟨?_, ?_⟩ <;> first | exact Nat.le_refl _ | exact Nat.zero_le _ | (dsimp only; omega)) dX4_holds_176 (gkr_ip ?_) gkt_ip
        refine m_zast h hM (by omega) dX4_holds_179 (fun c hM => ?_)
        first | (with_reducible refine g_iincN h dX4_holds_180 rfl (by decide) ?_) | refine g_iinc1 h dX4_holds_180 rfl (by decide) ?_
        first | (with_reducible refine g_iincN h dX4_holds_183 rfl (by decide) ?_) | refine g_iinc1 h dX4_holds_183 rfl (by decide) ?_
        refine g_goto (tgt := 11) h dX4_holds_186 (by decide) ?_
        exact G.to (ih (k + 1) (sOne A t u k :: s) _ c (by omega) hrun (by simp only [List.length_cons] at hs ⊢; omega) (Pl_put hP (zB_vp _)) (mR_up ▸ hM)) ⟨rfl, rfl, rfl, rfl, rfl, rfl, trivial⟩
      · rw [if_neg hs6] at hrun
        cases hrun
  refine g_iconst (v := 0) h dX4_holds_0 (by decide) ?_
  refine g_istore h dX4_holds_1 (by decide) ?_
  refine g_aload_n (i := 0) h dX4_holds_3 rfl rfl ?_
  refine m_get h hM f_X4_33_4 rfl dX4_holds_4 ?_
  refine g_iload_n (i := 1) h dX4_holds_7 rfl rfl ?_
  refine m_iald (k := 13) (x := nI f) h hM rfl rfl (by show _ < 481; omega) hf dX4_holds_8 ?_
  refine g_istore h dX4_holds_9 (by decide) ?_
  exact G.to (loop n f [] (A 34) c hfe hrun (Nat.zero_le _) trivial ((mR_id A 34).symm ▸ hM)) ⟨rfl, rfl, rfl, rfl, rfl, rfl, trivial⟩
