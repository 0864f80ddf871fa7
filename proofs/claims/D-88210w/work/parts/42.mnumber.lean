/-! THE MODEL: numbers -/
set_option maxRecDepth 100000
def pDig (T : Nat → Int32) : Nat → Nat → Int64 → Nat × Int64
  | 0, p, v => (p, v)
  | m + 1, p, v => if sDigit (T p) = true then pDig T m (p + 1) (if v ≤ 2000000 then 10 * v + (T p).toInt64 - 48 else v) else (p, v)
theorem pDig_le (T : Nat → Int32) : ∀ (m p : Nat) (v : Int64), p ≤ (pDig T m p v).1 ∧ (pDig T m p v).1 ≤ p + m
  | 0, p, v => ⟨Nat.le_refl _, Nat.le_refl _⟩
  | m + 1, p, v => by
    simp only [pDig]
    split
    · have := pDig_le T m (p + 1) (if v ≤ 2000000 then 10 * v + (T p).toInt64 - 48 else v)
      omega
    · exact ⟨Nat.le_refl _, by omega⟩
/-- whether a number is out of bounds -/
def pOut (some_ : Bool) (v : Int64) : Bool := decide (1000000 < v) || (some_ && decide (v = 0))
def pNum (T : Nat → Int32) (sz : Nat) (s : pSt) (b : Bool) : Int32 × pSt :=
  if s.2.1 = 0 then
    if sDigit (T (pB T sz s.1)) = true then
      if pOut b (pDig T (sz - pB T sz s.1) (pB T sz s.1) 0).2 = true then (0, ((pDig T (sz - pB T sz s.1) (pB T sz s.1) 0).1, 2, nI (pB T sz s.1), s.2.2.2))
      else ((pDig T (sz - pB T sz s.1) (pB T sz s.1) 0).2.toInt32, ((pDig T (sz - pB T sz s.1) (pB T sz s.1) 0).1, s.2))
    else (0, pWrong (pB T sz s.1, s.2) 1 (pB T sz s.1))
  else (0, s)
theorem pT_end {A : Nat → Nat → Int32} {sz p : Nat} (hsz : A 3 0 = nI sz) (hz : sz ≤ 2000) (hp : sz ≤ p) (hp2 : p < 100000) : pT A p = 0 := by
  show sByte (A 1) (A 3 0) (nI p) = 0
  unfold sByte
  rw [hsz, if_neg]
  intro q
  exact absurd (Int32.not_le.mpr q) (not_not_intro ((nI_leI (by omega) (by omega)).mpr hp))
theorem ct_number {l : Launch} {g : gGP} (hk : gK l g) {c0 c : gLH} {mo : Nat} {ma : Nat → Nat} {cl ll : Nat} {A : Nat → Nat → Int32} {B : Nat → Nat → Int64} {n sz : Nat} {p f : Nat} {r : Int32 × Nat × List (Int32 × Int32)} (hM : MW c0 mo ma cl ll (rA A n (p, f, r)) B c) (hsz : A 3 0 = nI sz) (hz : sz ≤ 2000) (hp : p ≤ sz) (hf : f < 4) (b : Bool) : Ct l g yX4_number hwX4_number 2 80 [.ref mo, .int (zB b)] c (0) (0) (pI (pNum (pT A) sz (p, f, r) b).1 (MW c0 mo ma cl ll (rA A n (pNum (pT A) sz (p, f, r) b).2) B)) := by
  refine Ct.intro hk hcX4_number (by decide +kernel) (Nat.le_of_ble_eq_true rfl) (fun φ h => ?_)
  by_cases hf0 : f = 0
  case neg =>
    refine g_aload_n (i := 0) h dX4_number_0 rfl rfl ?_
    refine m_get (v := .int (nI f)) h hM f_X4_162_4 rfl dX4_number_1 ?_
    refine g_if_le (tgt := 9) h dX4_number_4 (by decide) (fun _bz => absurd _bz (fun q => hf0 ((nI_p hf).mp q))) (fun b4 => ?_)
    refine g_iconst (v := 0) h dX4_number_7 (by decide) ?_
    exact g_iret h ⟨by unfold pNum; rw [if_neg (show ¬ (p, f, r).2.1 = 0 from hf0)], by unfold pNum; rw [if_neg (show ¬ (p, f, r).2.1 = 0 from hf0)]; exact hM⟩ (Nat.le_refl _) (Nat.le_refl _) dX4_number_8
  subst hf0
  have hpb := pB_le (pT A) hp
  have dig : sDigit (pT A (pB (pT A) sz p)) = true → True := fun _ => trivial
  have after : ∀ (k : Nat) (v : Int64) (c : gLH), sDigit (pT A (pB (pT A) sz p)) = true → (k, v) = pDig (pT A) (sz - (pB (pT A) sz p)) (pB (pT A) sz p) 0 → MW c0 mo ma cl ll (rA A n (k, 0, r)) B c → G φ (gQ φ (pI (pNum (pT A) sz (p, 0, r) b).1 (MW c0 mo ma cl ll (rA A n (pNum (pT A) sz (p, 0, r) b).2) B)) 0 0) 105 [(0, .ref mo), (1, .int (zB b)), (2, .int (nI (pB (pT A) sz p))), (3, .long v)] [] c 0 0 := by
    intro k v c hdg hS hM
    have e2 : pOut b v = true → ∀ c, MW c0 mo ma cl ll (rA A n (k, 2, nI (pB (pT A) sz p), r.2)) B c → G φ (gQ φ (pI (pNum (pT A) sz (p, 0, r) b).1 (MW c0 mo ma cl ll (rA A n (pNum (pT A) sz (p, 0, r) b).2) B)) 0 0) 130 [(0, .ref mo), (1, .int (zB b)), (2, .int (nI (pB (pT A) sz p))), (3, .long v)] [] c 0 0 := by
      intro hb c hM
      have hres : pNum (pT A) sz (p, 0, r) b = (0, (k, 2, nI (pB (pT A) sz p), r.2)) := by
        unfold pNum
        rw [if_pos rfl, if_pos hdg, ← hS, if_pos hb]
      refine g_aload_n (i := 0) h dX4_number_130 rfl rfl ?_
      refine m_get (v := .int (nI 2)) h hM f_X4_162_4 rfl dX4_number_131 ?_
      refine g_if_le (tgt := 141) h dX4_number_134 (by decide) (fun _bz => absurd _bz (by decide)) (fun b134 => ?_)
      refine g_iconst (v := 0) h dX4_number_137 (by decide) ?_
      refine g_goto (tgt := 143) h dX4_number_138 (by decide) ?_
      exact g_iret h ⟨by rw [hres], by rw [hres]; exact hM⟩ (Nat.le_refl _) (Nat.le_refl _) dX4_number_143
    have e0 : pOut b v = false → ∀ c, MW c0 mo ma cl ll (rA A n (k, 0, r)) B c → G φ (gQ φ (pI (pNum (pT A) sz (p, 0, r) b).1 (MW c0 mo ma cl ll (rA A n (pNum (pT A) sz (p, 0, r) b).2) B)) 0 0) 130 [(0, .ref mo), (1, .int (zB b)), (2, .int (nI (pB (pT A) sz p))), (3, .long v)] [] c 0 0 := by
      intro hb c hM
      have hres : pNum (pT A) sz (p, 0, r) b = (v.toInt32, (k, 0, r)) := by
        unfold pNum
        rw [if_pos rfl, if_pos hdg, ← hS, if_neg (by rw [hb]; decide)]
      refine g_aload_n (i := 0) h dX4_number_130 rfl rfl ?_
      refine m_get (v := .int (nI 0)) h hM f_X4_162_4 rfl dX4_number_131 ?_
      refine g_if_le (tgt := 141) h dX4_number_134 (by decide) (fun b134 => ?_) (fun _bz => absurd _bz (by decide))
      refine g_lload_n (i := 3) h dX4_number_141 rfl rfl ?_
      refine g_l2i h dX4_number_142 ?_
      exact g_iret h ⟨by rw [hres], by rw [hres]; exact hM⟩ (Nat.le_refl _) (Nat.le_refl _) dX4_number_143
    refine g_lload_n (i := 3) h dX4_number_105 rfl rfl ?_
    refine g_ldc2 (v := 1000000) h dX4_number_106 q2009 ?_
    refine g_lcmp h dX4_number_109 ?_
    refine g_if_gt (tgt := 123) h dX4_number_110 (by decide) (fun b110 => ?_) (fun b110 => ?_)
    · rw [lg_cmp_gt] at b110
      refine g_aload_n (i := 0) h dX4_number_123 rfl rfl ?_
      refine g_iconst (v := nI 2) h dX4_number_124 (by decide) ?_
      refine g_iload_n (i := 2) h dX4_number_125 rfl rfl ?_
      refine g_invV h (ct_wrong h.k hM 2 (nI (pB (pT A) sz p))) hcX4_wrong w_X4_189 rfl rfl hM.obj (Nat.le_of_ble_eq_true rfl) ⟨Nat.le_of_ble_eq_true rfl, Nat.le_of_ble_eq_true rfl⟩ (by refine ⟨?_, ?_⟩ <;> first | exact Nat.le_refl _ | exact Nat.zero_le _ | (dsimp only; omega)) dX4_number_126 (gkr_i (fun c hM => ?_)) gkt_i
      replace hM := rA_wrong (s := (k, 0, r)) (show 0 < 4 by decide) 2 (pB (pT A) sz p) ▸ hM
      refine g_pop h dX4_number_129 rfl ?_
      first | exact G.to (e2 (by simp [pOut, b110]) c hM) ⟨rfl, rfl, rfl, rfl, trivial⟩ | exact G.to (e0 (by simp [pOut, b110]) c hM) ⟨rfl, rfl, rfl, rfl, trivial⟩
    · rw [lg_cmp_gt] at b110
      refine g_iload_n (i := 1) h dX4_number_113 rfl rfl ?_
      refine g_if_eq (tgt := 130) h dX4_number_114 (by decide) (fun b114 => ?_) (fun b114 => ?_)
      · rw [zB_0] at b114
        first | exact G.to (e2 (by simp [pOut, b110, b114]) c hM) ⟨rfl, rfl, rfl, rfl, trivial⟩ | exact G.to (e0 (by simp [pOut, b110, b114]) c hM) ⟨rfl, rfl, rfl, rfl, trivial⟩
      · rw [zB_n0] at b114
        refine g_lload_n (i := 3) h dX4_number_117 rfl rfl ?_
        refine g_lconst (v := 0) h dX4_number_118 (by decide) ?_
        refine g_lcmp h dX4_number_119 ?_
        refine g_if_ne (tgt := 130) h dX4_number_120 (by decide) (fun b120 => ?_) (fun b120 => ?_)
        · rw [lg_cmp_eq] at b120
          first | exact G.to (e2 (by simp [pOut, b110, b114, b120]) c hM) ⟨rfl, rfl, rfl, rfl, trivial⟩ | exact G.to (e0 (by simp [pOut, b110, b114, b120]) c hM) ⟨rfl, rfl, rfl, rfl, trivial⟩
        · rw [lg_cmp_eq] at b120
          refine g_aload_n (i := 0) h dX4_number_123 rfl rfl ?_
          refine g_iconst (v := nI 2) h dX4_number_124 (by decide) ?_
          refine g_iload_n (i := 2) h dX4_number_125 rfl rfl ?_
          refine g_invV h (ct_wrong h.k hM 2 (nI (pB (pT A) sz p))) hcX4_wrong w_X4_189 rfl rfl hM.obj (Nat.le_of_ble_eq_true rfl) ⟨Nat.le_of_ble_eq_true rfl, Nat.le_of_ble_eq_true rfl⟩ (by refine ⟨?_, ?_⟩ <;> first | exact Nat.le_refl _ | exact Nat.zero_le _ | (dsimp only; omega)) dX4_number_126 (gkr_i (fun c hM => ?_)) gkt_i
          replace hM := rA_wrong (s := (k, 0, r)) (show 0 < 4 by decide) 2 (pB (pT A) sz p) ▸ hM
          refine g_pop h dX4_number_129 rfl ?_
          first | exact G.to (e2 (by simp [pOut, b110, b114, b120]) c hM) ⟨rfl, rfl, rfl, rfl, trivial⟩ | exact G.to (e0 (by simp [pOut, b110, b114, b120]) c hM) ⟨rfl, rfl, rfl, rfl, trivial⟩
  have loop : sDigit (pT A (pB (pT A) sz p)) = true → ∀ (j k : Nat) (v : Int64) (c : gLH), k + j = sz → pDig (pT A) j k v = pDig (pT A) (sz - (pB (pT A) sz p)) (pB (pT A) sz p) 0 → MW c0 mo ma cl ll (rA A n (k, 0, r)) B c → G φ (gQ φ (pI (pNum (pT A) sz (p, 0, r) b).1 (MW c0 mo ma cl ll (rA A n (pNum (pT A) sz (p, 0, r) b).2) B)) 0 0) 46 [(0, .ref mo), (1, .int (zB b)), (2, .int (nI (pB (pT A) sz p))), (3, .long v)] [] c 0 0 := by
    intro hdg j
    induction j with
    | zero =>
      intro k v c hk hS hM
      refine g_aload_n (i := 0) h dX4_number_46 rfl rfl ?_
      refine g_aload_n (i := 0) h dX4_number_47 rfl rfl ?_
      refine m_get (v := .int (nI k)) h hM f_X4_155_4 rfl dX4_number_48 ?_
      refine g_invV h (ct_byteAt h.k hM (nI k) (nI_pos (by omega)) hsz hz) hcX4_byteAt w_X4_158 rfl rfl hM.obj (Nat.le_of_ble_eq_true rfl) ⟨Nat.le_of_ble_eq_true rfl, Nat.le_of_ble_eq_true rfl⟩ (by refine ⟨?_, ?_⟩ <;> first | exact Nat.le_refl _ | exact Nat.zero_le _ | (dsimp only; omega)) dX4_number_51 (gkr_ip ?_) gkt_ip
      refine g_invS h (ct_isDigit h.k _) hcX4_isDigit w_X4_193 rfl rfl (Nat.le_of_ble_eq_true rfl) ⟨Nat.le_of_ble_eq_true rfl, Nat.le_of_ble_eq_true rfl⟩ (by refine ⟨?_, ?_⟩ <;> first | exact Nat.le_refl _ | exact Nat.zero_le _ | (dsimp only; omega)) dX4_number_54 (gkr_ip ?_) gkt_ip
      refine g_if_eq (tgt := 105) h dX4_number_57 (by decide) (fun b57 => ?_) (fun _bz => absurd _bz (by rw [show sByte (rA A n (k, 0, r) 1) (rA A n (k, 0, r) 3 0) (nI k) = 0 from pT_end hsz hz (by omega) (by omega)]; decide))
      exact G.to (after k v c hdg hS hM) ⟨rfl, rfl, rfl, rfl, trivial⟩
    | succ j ih =>
      intro k v c hk hS hM
      simp only [pDig] at hS
      refine g_aload_n (i := 0) h dX4_number_46 rfl rfl ?_
      refine g_aload_n (i := 0) h dX4_number_47 rfl rfl ?_
      refine m_get (v := .int (nI k)) h hM f_X4_155_4 rfl dX4_number_48 ?_
      refine g_invV h (ct_byteAt h.k hM (nI k) (nI_pos (by omega)) hsz hz) hcX4_byteAt w_X4_158 rfl rfl hM.obj (Nat.le_of_ble_eq_true rfl) ⟨Nat.le_of_ble_eq_true rfl, Nat.le_of_ble_eq_true rfl⟩ (by refine ⟨?_, ?_⟩ <;> first | exact Nat.le_refl _ | exact Nat.zero_le _ | (dsimp only; omega)) dX4_number_51 (gkr_ip ?_) gkt_ip
      refine g_invS h (ct_isDigit h.k _) hcX4_isDigit w_X4_193 rfl rfl (Nat.le_of_ble_eq_true rfl) ⟨Nat.le_of_ble_eq_true rfl, Nat.le_of_ble_eq_true rfl⟩ (by refine ⟨?_, ?_⟩ <;> first | exact Nat.le_refl _ | exact Nat.zero_le _ | (dsimp only; omega)) dX4_number_54 (gkr_ip ?_) gkt_ip
      refine g_if_eq (tgt := 105) h dX4_number_57 (by decide) (fun b57 => ?_) (fun b57 => ?_)
      · rw [zB_0] at b57
        rw [show sDigit (pT A k) = false from b57] at hS
        exact G.to (after k v c hdg hS hM) ⟨rfl, rfl, rfl, rfl, trivial⟩
      · rw [zB_n0] at b57
        refine g_lload_n (i := 3) h dX4_number_60 rfl rfl ?_
        refine g_ldc2 (v := 2000000) h dX4_number_61 q2006 ?_
        refine g_lcmp h dX4_number_64 ?_
        refine g_if_le (tgt := 72) h dX4_number_65 (by decide) (fun b65 => ?_) (fun b65 => ?_)
        · rw [lg_cmp_le] at b65
          refine g_ldc2 (v := 10) h dX4_number_72 q2007 ?_
          refine g_lload_n (i := 3) h dX4_number_75 rfl rfl ?_
          refine g_lmul h dX4_number_76 ?_
          refine g_aload_n (i := 0) h dX4_number_77 rfl rfl ?_
          refine g_aload_n (i := 0) h dX4_number_78 rfl rfl ?_
          refine m_get (v := .int (nI k)) h hM f_X4_155_4 rfl dX4_number_79 ?_
          refine g_invV h (ct_byteAt h.k hM (nI k) (nI_pos (by omega)) hsz hz) hcX4_byteAt w_X4_158 rfl rfl hM.obj (Nat.le_of_ble_eq_true rfl) ⟨Nat.le_of_ble_eq_true rfl, Nat.le_of_ble_eq_true rfl⟩ (by refine ⟨?_, ?_⟩ <;> first | exact Nat.le_refl _ | exact Nat.zero_le _ | (dsimp only; omega)) dX4_number_82 (gkr_ip ?_) gkt_ip
          refine g_i2l h dX4_number_85 ?_
          refine g_ladd h dX4_number_86 ?_
          refine g_ldc2 (v := 48) h dX4_number_87 q2008 ?_
          refine g_lsub h dX4_number_90 ?_
          refine g_lstore_n (i := 3) h dX4_number_91 rfl (by decide) ?_
          refine g_aload_n (i := 0) h dX4_number_92 rfl rfl ?_
          refine g_dup h dX4_number_93 rfl ?_
          refine m_get (v := .int (nI k)) h hM f_X4_155_4 rfl dX4_number_94 ?_
          refine g_iconst (v := nI 1) h dX4_number_97 (by decide) ?_
          first | (with_reducible refine g_iaddN h dX4_number_98 ?_) | refine g_iadd h dX4_number_98 ?_
          refine m_puti h hM mp_4 fp_X4_155_4 dX4_number_99 (fun c hM => ?_)
          rw [rA_4] at hM
          refine g_goto (tgt := 46) h dX4_number_102 (by decide) ?_
          rw [show sDigit (pT A k) = true from b57, if_pos rfl] at hS
          simp only [b57, b65, if_true, if_false] at hS
          exact G.to (ih (k + 1) _ c (by omega) hS hM) ⟨rfl, rfl, rfl, rfl, trivial⟩
        · rw [lg_cmp_le] at b65
          refine g_lload_n (i := 3) h dX4_number_68 rfl rfl ?_
          refine g_goto (tgt := 91) h dX4_number_69 (by decide) ?_
          refine g_lstore_n (i := 3) h dX4_number_91 rfl (by decide) ?_
          refine g_aload_n (i := 0) h dX4_number_92 rfl rfl ?_
          refine g_dup h dX4_number_93 rfl ?_
          refine m_get (v := .int (nI k)) h hM f_X4_155_4 rfl dX4_number_94 ?_
          refine g_iconst (v := nI 1) h dX4_number_97 (by decide) ?_
          first | (with_reducible refine g_iaddN h dX4_number_98 ?_) | refine g_iadd h dX4_number_98 ?_
          refine m_puti h hM mp_4 fp_X4_155_4 dX4_number_99 (fun c hM => ?_)
          rw [rA_4] at hM
          refine g_goto (tgt := 46) h dX4_number_102 (by decide) ?_
          rw [show sDigit (pT A k) = true from b57, if_pos rfl] at hS
          simp only [b57, b65, if_true, if_false] at hS
          exact G.to (ih (k + 1) _ c (by omega) hS hM) ⟨rfl, rfl, rfl, rfl, trivial⟩
  refine g_aload_n (i := 0) h dX4_number_0 rfl rfl ?_
  refine m_get (v := .int (nI 0)) h hM f_X4_162_4 rfl dX4_number_1 ?_
  refine g_if_le (tgt := 9) h dX4_number_4 (by decide) (fun b4 => ?_) (fun _bz => absurd _bz (by decide))
  refine g_aload_n (i := 0) h dX4_number_9 rfl rfl ?_
  refine g_invV h (ct_blanks h.k hM hsz hz (by omega)) hcX4_blanks w_X4_165 rfl rfl hM.obj (Nat.le_of_ble_eq_true rfl) ⟨Nat.le_of_ble_eq_true rfl, Nat.le_of_ble_eq_true rfl⟩ (by refine ⟨?_, ?_⟩ <;> first | exact Nat.le_refl _ | exact Nat.zero_le _ | (dsimp only; omega)) dX4_number_10 (gkr_v (fun c hM => ?_)) gkt_v
  refine g_aload_n (i := 0) h dX4_number_13 rfl rfl ?_
  refine m_get (v := .int (nI (pB (pT A) sz p))) h hM f_X4_155_4 rfl dX4_number_14 ?_
  refine g_istore_n (i := 2) h dX4_number_17 rfl (by decide) ?_
  refine g_aload_n (i := 0) h dX4_number_18 rfl rfl ?_
  refine g_aload_n (i := 0) h dX4_number_19 rfl rfl ?_
  refine m_get (v := .int (nI (pB (pT A) sz p))) h hM f_X4_155_4 rfl dX4_number_20 ?_
  refine g_invV h (ct_byteAt h.k hM (nI (pB (pT A) sz p)) (nI_pos (by omega)) hsz hz) hcX4_byteAt w_X4_158 rfl rfl hM.obj (Nat.le_of_ble_eq_true rfl) ⟨Nat.le_of_ble_eq_true rfl, Nat.le_of_ble_eq_true rfl⟩ (by refine ⟨?_, ?_⟩ <;> first | exact Nat.le_refl _ | exact Nat.zero_le _ | (dsimp only; omega)) dX4_number_23 (gkr_ip ?_) gkt_ip
  refine g_invS h (ct_isDigit h.k _) hcX4_isDigit w_X4_193 rfl rfl (Nat.le_of_ble_eq_true rfl) ⟨Nat.le_of_ble_eq_true rfl, Nat.le_of_ble_eq_true rfl⟩ (by refine ⟨?_, ?_⟩ <;> first | exact Nat.le_refl _ | exact Nat.zero_le _ | (dsimp only; omega)) dX4_number_26 (gkr_ip ?_) gkt_ip
  refine g_if_ne (tgt := 44) h dX4_number_29 (by decide) (fun b29 => ?_) (fun b29 => ?_)
  · rw [zB_n0] at b29
    refine g_lconst (v := 0) h dX4_number_44 (by decide) ?_
    refine g_lstore_n (i := 3) h dX4_number_45 rfl (by decide) ?_
    exact G.to (loop b29 (sz - (pB (pT A) sz p)) (pB (pT A) sz p) 0 c (by omega) rfl hM) ⟨rfl, rfl, rfl, rfl, trivial⟩
  · rw [zB_0] at b29
    refine g_aload_n (i := 0) h dX4_number_32 rfl rfl ?_
    refine g_iconst (v := nI 1) h dX4_number_33 (by decide) ?_
    refine g_aload_n (i := 0) h dX4_number_34 rfl rfl ?_
    refine m_get (v := .int (nI (pB (pT A) sz p))) h hM f_X4_155_4 rfl dX4_number_35 ?_
    refine g_invV h (ct_wrong h.k hM 1 (nI (pB (pT A) sz p))) hcX4_wrong w_X4_189 rfl rfl hM.obj (Nat.le_of_ble_eq_true rfl) ⟨Nat.le_of_ble_eq_true rfl, Nat.le_of_ble_eq_true rfl⟩ (by refine ⟨?_, ?_⟩ <;> first | exact Nat.le_refl _ | exact Nat.zero_le _ | (dsimp only; omega)) dX4_number_38 (gkr_i (fun c hM => ?_)) gkt_i
    replace hM := rA_wrong (s := ((pB (pT A) sz p), 0, r)) (show 0 < 4 by decide) 1 (pB (pT A) sz p) ▸ hM
    refine g_pop h dX4_number_41 rfl ?_
    refine g_iconst (v := 0) h dX4_number_42 (by decide) ?_
    exact g_iret h ⟨by unfold pNum; rw [if_pos rfl, if_neg (by rw [show sDigit (pT A (pB (pT A) sz p)) = false from b29]; decide)], by unfold pNum; rw [if_pos rfl, if_neg (by rw [show sDigit (pT A (pB (pT A) sz p)) = false from b29]; decide)]; exact hM⟩ (Nat.le_refl _) (Nat.le_refl _) dX4_number_43
