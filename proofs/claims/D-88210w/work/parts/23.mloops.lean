/-! THE MODEL: loops -/
set_option maxRecDepth 100000
/-- the act in force on a day, among the first n: S: since when -/
def sForce (S : Nat → Int32) (day : Int32) : Nat → Option Nat
  | 0 => none
  | n + 1 => match sForce S day n with
    | none => if day < S n then none else some n
    | some b => if day < S n then some b else if S n < S b then some b else some n
theorem sForce_lt {S : Nat → Int32} {day : Int32} : ∀ {n b : Nat}, sForce S day n = some b → b < n := by
  intro n
  induction n with
  | zero => intro b h; cases h
  | succ n ih =>
    intro b h
    simp only [sForce] at h
    cases hf : sForce S day n with
    | none =>
      rw [hf] at h
      simp only at h
      split at h
      · cases h
      · cases h; omega
    | some b2 =>
      rw [hf] at h
      simp only at h
      have := ih hf
      split at h
      · cases h; omega
      · split at h
        · cases h; omega
        · cases h; omega
theorem ct_forceOf {l : Launch} {g : gGP} (hk : gK l g) {c0 c : gLH} {mo : Nat} {ma : Nat → Nat} {cl ll : Nat} {A : Nat → Nat → Int32} {B : Nat → Nat → Int64} (hM : MW c0 mo ma cl ll A B c) (day : Int32) {na : Nat} (hna : A 18 0 = nI na) (ha : na ≤ 12) : Ct l g yX4_forceOf hwX4_forceOf 0 0 [.ref mo, .int day] c (0) (0) (pIp (oI (sForce (A 9) day na)) c) := by
  refine Ct.intro hk hcX4_forceOf (by decide +kernel) (Nat.le_of_ble_eq_true rfl) (fun φ h => ?_)
  have loop : ∀ n, n ≤ na → G φ (gQ φ (pIp (oI (sForce (A 9) day na)) c) 0 0) 4 [(0, .ref mo), (1, .int day), (2, .int (oI (sForce (A 9) day n))), (3, .int (nI n))] [] c 0 0 := by
    refine gloop ?_ ?_
    · skip
      refine g_iload_n (i := 3) h dX4_forceOf_4 rfl rfl ?_
      refine g_aload_n (i := 0) h dX4_forceOf_5 rfl rfl ?_
      refine m_get (v := .int (A 18 0)) h hM f_X4_289_4 rfl dX4_forceOf_6 ?_
      refine G.int hna ?_
      refine g_icmp_ge (tgt := 49) h dX4_forceOf_9 (by decide) (fun b9 => ?_) (fun _bz => absurd _bz (fun q => absurd (nI_le (Nat.le_refl na) (by omega)) q))
      refine g_iload_n (i := 2) h dX4_forceOf_49 rfl rfl ?_
      exact g_iret h ⟨rfl, rfl⟩ (Nat.le_refl _) (Nat.le_refl _) dX4_forceOf_50
    · intro n hn ih
      cases hf : sForce (A 9) day n with
      | none =>
        refine g_iload_n (i := 3) h dX4_forceOf_4 rfl rfl ?_
        refine g_aload_n (i := 0) h dX4_forceOf_5 rfl rfl ?_
        refine m_get (v := .int (A 18 0)) h hM f_X4_289_4 rfl dX4_forceOf_6 ?_
        refine G.int hna ?_
        refine g_icmp_ge (tgt := 49) h dX4_forceOf_9 (by decide) (fun _bz => absurd _bz (nI_ge hn (by omega))) (fun b9 => ?_)
        refine g_aload_n (i := 0) h dX4_forceOf_12 rfl rfl ?_
        refine m_get h hM f_X4_21_4 rfl dX4_forceOf_13 ?_
        refine g_iload_n (i := 3) h dX4_forceOf_16 rfl rfl ?_
        refine m_iald (k := 9) (x := A 9 _) h hM rfl rfl (by show _ < 12; omega) rfl dX4_forceOf_17 ?_
        refine g_iload_n (i := 1) h dX4_forceOf_18 rfl rfl ?_
        refine g_icmp_gt (tgt := 43) h dX4_forceOf_19 (by decide) (fun b19 => ?_) (fun b19 => ?_)
        · first | (with_reducible refine g_iincN h dX4_forceOf_43 rfl (by decide) ?_) | refine g_iinc1 h dX4_forceOf_43 rfl (by decide) ?_
          refine g_goto (tgt := 4) h dX4_forceOf_46 (by decide) ?_
          simp only [sForce, hf, b9, b19, if_true, if_false] at ih
          exact G.to ih ⟨rfl, rfl, rfl, rfl, trivial⟩
        · refine g_iload_n (i := 2) h dX4_forceOf_22 rfl rfl ?_
          refine g_if_lt (tgt := 41) h dX4_forceOf_23 (by decide) (fun b23 => ?_) (fun _bz => absurd _bz (fun q => absurd (by decide) q))
          refine g_iload_n (i := 3) h dX4_forceOf_41 rfl rfl ?_
          refine g_istore_n (i := 2) h dX4_forceOf_42 rfl (by decide) ?_
          first | (with_reducible refine g_iincN h dX4_forceOf_43 rfl (by decide) ?_) | refine g_iinc1 h dX4_forceOf_43 rfl (by decide) ?_
          refine g_goto (tgt := 4) h dX4_forceOf_46 (by decide) ?_
          simp only [sForce, hf, b9, b19, b23, if_true, if_false] at ih
          exact G.to ih ⟨rfl, rfl, rfl, rfl, trivial⟩
      | some b =>
        have hbn := sForce_lt hf
        refine g_iload_n (i := 3) h dX4_forceOf_4 rfl rfl ?_
        refine g_aload_n (i := 0) h dX4_forceOf_5 rfl rfl ?_
        refine m_get (v := .int (A 18 0)) h hM f_X4_289_4 rfl dX4_forceOf_6 ?_
        refine G.int hna ?_
        refine g_icmp_ge (tgt := 49) h dX4_forceOf_9 (by decide) (fun _bz => absurd _bz (nI_ge hn (by omega))) (fun b9 => ?_)
        refine g_aload_n (i := 0) h dX4_forceOf_12 rfl rfl ?_
        refine m_get h hM f_X4_21_4 rfl dX4_forceOf_13 ?_
        refine g_iload_n (i := 3) h dX4_forceOf_16 rfl rfl ?_
        refine m_iald (k := 9) (x := A 9 _) h hM rfl rfl (by show _ < 12; omega) rfl dX4_forceOf_17 ?_
        refine g_iload_n (i := 1) h dX4_forceOf_18 rfl rfl ?_
        refine g_icmp_gt (tgt := 43) h dX4_forceOf_19 (by decide) (fun b19 => ?_) (fun b19 => ?_)
        · first | (with_reducible refine g_iincN h dX4_forceOf_43 rfl (by decide) ?_) | refine g_iinc1 h dX4_forceOf_43 rfl (by decide) ?_
          refine g_goto (tgt := 4) h dX4_forceOf_46 (by decide) ?_
          simp only [sForce, hf, b9, b19, if_true, if_false] at ih
          exact G.to ih ⟨rfl, rfl, rfl, rfl, trivial⟩
        · refine g_iload_n (i := 2) h dX4_forceOf_22 rfl rfl ?_
          refine g_if_lt (tgt := 41) h dX4_forceOf_23 (by decide) (fun _bz => absurd _bz (nI_pos (by omega))) (fun b23 => ?_)
          refine g_aload_n (i := 0) h dX4_forceOf_26 rfl rfl ?_
          refine m_get h hM f_X4_21_4 rfl dX4_forceOf_27 ?_
          refine g_iload_n (i := 3) h dX4_forceOf_30 rfl rfl ?_
          refine m_iald (k := 9) (x := A 9 _) h hM rfl rfl (by show _ < 12; omega) rfl dX4_forceOf_31 ?_
          refine g_aload_n (i := 0) h dX4_forceOf_32 rfl rfl ?_
          refine m_get h hM f_X4_21_4 rfl dX4_forceOf_33 ?_
          refine g_iload_n (i := 2) h dX4_forceOf_36 rfl rfl ?_
          refine m_iald (k := 9) (x := A 9 _) h hM rfl rfl (by show _ < 12; omega) rfl dX4_forceOf_37 ?_
          refine g_icmp_lt (tgt := 43) h dX4_forceOf_38 (by decide) (fun b38 => ?_) (fun b38 => ?_)
          · first | (with_reducible refine g_iincN h dX4_forceOf_43 rfl (by decide) ?_) | refine g_iinc1 h dX4_forceOf_43 rfl (by decide) ?_
            refine g_goto (tgt := 4) h dX4_forceOf_46 (by decide) ?_
            simp only [sForce, hf, b9, b19, b23, b38, if_true, if_false] at ih
            exact G.to ih ⟨rfl, rfl, rfl, rfl, trivial⟩
          · refine g_iload_n (i := 3) h dX4_forceOf_41 rfl rfl ?_
            refine g_istore_n (i := 2) h dX4_forceOf_42 rfl (by decide) ?_
            first | (with_reducible refine g_iincN h dX4_forceOf_43 rfl (by decide) ?_) | refine g_iinc1 h dX4_forceOf_43 rfl (by decide) ?_
            refine g_goto (tgt := 4) h dX4_forceOf_46 (by decide) ?_
            simp only [sForce, hf, b9, b19, b23, b38, if_true, if_false] at ih
            exact G.to ih ⟨rfl, rfl, rfl, rfl, trivial⟩
  refine g_iconst (v := (-1)) h dX4_forceOf_0 (by decide) ?_
  refine g_istore_n (i := 2) h dX4_forceOf_1 rfl (by decide) ?_
  refine g_iconst (v := 0) h dX4_forceOf_2 (by decide) ?_
  refine g_istore_n (i := 3) h dX4_forceOf_3 rfl (by decide) ?_
  exact G.to (loop 0 (Nat.zero_le _)) ⟨rfl, rfl, rfl, rfl, trivial⟩
