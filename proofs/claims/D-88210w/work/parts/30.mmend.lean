/-! THE MODEL: journal, mend -/
set_option maxRecDepth 100000
def sJournK (A : Nat → Nat → Int32) (k w : Int32) : Nat := if sNo k (A 42 0) = true then 1 else if w < 0 then 2 else if w ≤ 3 then 0 else 2
def sJourn (A : Nat → Nat → Int32) (j : Nat) (w : Int32) : Int64 := if w = 0 then (A 38 j).toInt64 else if w = 1 then (A 39 j).toInt64 else if w = 2 then (A 40 j).toInt64 else (A 41 j).toInt64
theorem sNo_f {k y : Int32} {n : Nat} (h : sNo k y = false) (hy : y = nI n) (hn : n < 2147483648) : ix k < n ∧ k = nI (ix k) := by
  simp only [sNo, Bool.or_eq_false_iff, decide_eq_false_iff_not, Bool.not_eq_false', decide_eq_true_eq] at h
  exact ix_of h.1 h.2 hy hn
theorem ct_journal {l : Launch} {g : gGP} (hk : gK l g) {c0 c : gLH} {mo : Nat} {ma : Nat → Nat} {cl ll : Nat} {A : Nat → Nat → Int32} {B : Nat → Nat → Int64} (hM : MW c0 mo ma cl ll A B c) (k w : Int32) {nl : Nat} (hnl : A 42 0 = nI nl) (hle : nl ≤ ll) (hl2 : nl < 400000) : Ct l g yX4_journal hwX4_journal 1 40 [.ref mo, .int k, .int w] c (0) (0) (pL (if sJournK A k w = 0 then sJourn A (ix k) w else 0) (MW c0 mo ma cl ll (if sJournK A k w = 0 then mA A 0 0 0 else if sJournK A k w = 1 then mA A 0 0 1 else mA (mA A 0 0 0) 0 0 2) B)) := by
  refine Ct.intro hk hcX4_journal (by decide +kernel) (Nat.le_of_ble_eq_true rfl) (fun φ h => ?_)
  refine g_aload_n (i := 0) h dX4_journal_0 rfl rfl ?_
  refine g_iload_n (i := 1) h dX4_journal_1 rfl rfl ?_
  refine g_aload_n (i := 0) h dX4_journal_2 rfl rfl ?_
  refine m_get (v := .int (A 42 0)) h hM f_X4_370_4 rfl dX4_journal_3 ?_
  refine g_invV h (ct_no h.k hM _ _) hcX4_no w_X4_405 rfl rfl hM.obj (Nat.le_of_ble_eq_true rfl) ⟨Nat.le_of_ble_eq_true rfl, Nat.le_of_ble_eq_true rfl⟩ (by refine ⟨?_, ?_⟩ <;> first | exact Nat.le_refl _ | exact Nat.zero_le _ | (dsimp only; omega)) dX4_journal_6 (gkr_i (fun c hM => ?_)) gkt_i
  refine g_if_ne (tgt := 34) h dX4_journal_9 (by decide) (fun b9 => ?_) (fun b9 => ?_)
  · rw [zB_n0] at b9
    first | (rw [b9] at hM; refine g_lconst (v := 0) h dX4_journal_34 (by decide) ?_) | refine g_lconst (v := 0) h dX4_journal_34 (by decide) ?_
    exact g_lret h ⟨by simp [sJournK, b9], by simp [sJournK, b9]; exact hM⟩ (Nat.le_refl _) (Nat.le_refl _) dX4_journal_35
  · rw [zB_0] at b9
    obtain ⟨hj, hx⟩ := sNo_f b9 hnl (by omega)
    rw [b9] at hM
    replace hM : MW c0 mo ma cl ll (mA A 0 0 0) B c := hM
    refine g_aload_n (i := 0) h dX4_journal_12 rfl rfl ?_
    refine g_iload_n (i := 2) h dX4_journal_13 rfl rfl ?_
    refine g_if_lt (tgt := 22) h dX4_journal_14 (by decide) (fun b14 => ?_) (fun b14 => ?_)
    · refine g_iconst (v := 1) h dX4_journal_22 (by decide) ?_
      refine g_goto (tgt := 27) h dX4_journal_23 (by decide) ?_
      refine g_iconst (v := 2) h dX4_journal_27 (by decide) ?_
      refine g_invV h (ct_bad h.k hM true 2) hcX4_bad w_X4_308 rfl rfl hM.obj (Nat.le_of_ble_eq_true rfl) ⟨Nat.le_of_ble_eq_true rfl, Nat.le_of_ble_eq_true rfl⟩ (by refine ⟨?_, ?_⟩ <;> first | exact Nat.le_refl _ | exact Nat.zero_le _ | (dsimp only; omega)) dX4_journal_28 (gkr_i (fun c hM => ?_)) gkt_i
      replace hM := bad1 hM
      refine g_if_eq (tgt := 36) h dX4_journal_31 (by decide) (fun _bz => absurd _bz (by decide)) (fun _bz => ?_)
      first | (rw [b9] at hM; refine g_lconst (v := 0) h dX4_journal_34 (by decide) ?_) | refine g_lconst (v := 0) h dX4_journal_34 (by decide) ?_
      exact g_lret h ⟨by simp [sJournK, b9, b14], by simp [sJournK, b9, b14]; exact hM⟩ (Nat.le_refl _) (Nat.le_refl _) dX4_journal_35
    · refine g_iload_n (i := 2) h dX4_journal_17 rfl rfl ?_
      refine g_iconst (v := 3) h dX4_journal_18 (by decide) ?_
      refine g_icmp_le (tgt := 26) h dX4_journal_19 (by decide) (fun b19 => ?_) (fun b19 => ?_)
      · refine g_iconst (v := 0) h dX4_journal_26 (by decide) ?_
        refine g_iconst (v := 2) h dX4_journal_27 (by decide) ?_
        refine g_invV h (ct_bad h.k hM false 2) hcX4_bad w_X4_308 rfl rfl hM.obj (Nat.le_of_ble_eq_true rfl) ⟨Nat.le_of_ble_eq_true rfl, Nat.le_of_ble_eq_true rfl⟩ (by refine ⟨?_, ?_⟩ <;> first | exact Nat.le_refl _ | exact Nat.zero_le _ | (dsimp only; omega)) dX4_journal_28 (gkr_i (fun c hM => ?_)) gkt_i
        replace hM := bad0 hM
        refine g_if_eq (tgt := 36) h dX4_journal_31 (by decide) (fun _bz => ?_) (fun _bz => absurd _bz (by decide))
        refine g_iload_n (i := 2) h dX4_journal_36 rfl rfl ?_
        refine g_if_ne (tgt := 50) h dX4_journal_37 (by decide) (fun b37 => ?_) (fun b37 => ?_)
        · refine g_iload_n (i := 2) h dX4_journal_50 rfl rfl ?_
          refine g_iconst (v := 1) h dX4_journal_51 (by decide) ?_
          refine g_icmp_ne (tgt := 65) h dX4_journal_52 (by decide) (fun b52 => ?_) (fun b52 => ?_)
          · refine g_iload_n (i := 2) h dX4_journal_65 rfl rfl ?_
            refine g_iconst (v := 2) h dX4_journal_66 (by decide) ?_
            refine g_icmp_ne (tgt := 80) h dX4_journal_67 (by decide) (fun b67 => ?_) (fun b67 => ?_)
            · refine g_aload_n (i := 0) h dX4_journal_80 rfl rfl ?_
              refine m_get h hM f_X4_95_4 rfl dX4_journal_81 ?_
              refine g_iload_n (i := 1) h dX4_journal_84 rfl rfl ?_
              refine G.int hx ?_
              refine m_iald (k := 41) (x := A 41 _) h hM rfl rfl (by show _ < ll; omega) rfl dX4_journal_85 ?_
              refine g_i2l h dX4_journal_86 ?_
              exact g_lret h ⟨by simp [sJournK, sJourn, b9, b14, b19, b37, b52, b67] <;> rfl, by simp [sJournK, b9, b14, b19, b37, b52, b67]; exact hM⟩ (Nat.le_refl _) (Nat.le_refl _) dX4_journal_87
            · refine g_aload_n (i := 0) h dX4_journal_70 rfl rfl ?_
              refine m_get h hM f_X4_92_4 rfl dX4_journal_71 ?_
              refine g_iload_n (i := 1) h dX4_journal_74 rfl rfl ?_
              refine G.int hx ?_
              refine m_iald (k := 40) (x := A 40 _) h hM rfl rfl (by show _ < ll; omega) rfl dX4_journal_75 ?_
              refine g_i2l h dX4_journal_76 ?_
              refine g_goto (tgt := 87) h dX4_journal_77 (by decide) ?_
              exact g_lret h ⟨by simp [sJournK, sJourn, b9, b14, b19, b37, b52, b67] <;> rfl, by simp [sJournK, b9, b14, b19, b37, b52, b67]; exact hM⟩ (Nat.le_refl _) (Nat.le_refl _) dX4_journal_87
          · refine g_aload_n (i := 0) h dX4_journal_55 rfl rfl ?_
            refine m_get h hM f_X4_89_4 rfl dX4_journal_56 ?_
            refine g_iload_n (i := 1) h dX4_journal_59 rfl rfl ?_
            refine G.int hx ?_
            refine m_iald (k := 39) (x := A 39 _) h hM rfl rfl (by show _ < ll; omega) rfl dX4_journal_60 ?_
            refine g_i2l h dX4_journal_61 ?_
            refine g_goto (tgt := 87) h dX4_journal_62 (by decide) ?_
            exact g_lret h ⟨by simp [sJournK, sJourn, b9, b14, b19, b37, b52] <;> rfl, by simp [sJournK, b9, b14, b19, b37, b52]; exact hM⟩ (Nat.le_refl _) (Nat.le_refl _) dX4_journal_87
        · refine g_aload_n (i := 0) h dX4_journal_40 rfl rfl ?_
          refine m_get h hM f_X4_86_4 rfl dX4_journal_41 ?_
          refine g_iload_n (i := 1) h dX4_journal_44 rfl rfl ?_
          refine G.int hx ?_
          refine m_iald (k := 38) (x := A 38 _) h hM rfl rfl (by show _ < ll; omega) rfl dX4_journal_45 ?_
          refine g_i2l h dX4_journal_46 ?_
          refine g_goto (tgt := 87) h dX4_journal_47 (by decide) ?_
          exact g_lret h ⟨by simp [sJournK, sJourn, b9, b14, b19, b37] <;> rfl, by simp [sJournK, b9, b14, b19, b37]; exact hM⟩ (Nat.le_refl _) (Nat.le_refl _) dX4_journal_87
      · refine g_iconst (v := 1) h dX4_journal_22 (by decide) ?_
        refine g_goto (tgt := 27) h dX4_journal_23 (by decide) ?_
        refine g_iconst (v := 2) h dX4_journal_27 (by decide) ?_
        refine g_invV h (ct_bad h.k hM true 2) hcX4_bad w_X4_308 rfl rfl hM.obj (Nat.le_of_ble_eq_true rfl) ⟨Nat.le_of_ble_eq_true rfl, Nat.le_of_ble_eq_true rfl⟩ (by refine ⟨?_, ?_⟩ <;> first | exact Nat.le_refl _ | exact Nat.zero_le _ | (dsimp only; omega)) dX4_journal_28 (gkr_i (fun c hM => ?_)) gkt_i
        replace hM := bad1 hM
        refine g_if_eq (tgt := 36) h dX4_journal_31 (by decide) (fun _bz => absurd _bz (by decide)) (fun _bz => ?_)
        first | (rw [b9] at hM; refine g_lconst (v := 0) h dX4_journal_34 (by decide) ?_) | refine g_lconst (v := 0) h dX4_journal_34 (by decide) ?_
        exact g_lret h ⟨by simp [sJournK, b9, b14, b19], by simp [sJournK, b9, b14, b19]; exact hM⟩ (Nat.le_refl _) (Nat.le_refl _) dX4_journal_35
/-- the stretch that is mended next, among the first n -/
def sBest (W : Nat → Int64) (P : Nat → Int32) : Nat → Option Nat
  | 0 => none
  | n + 1 => match sBest W P n with
    | none => if W n = 0 then none else some n
    | some b => if W n = 0 then some b else if sTakes (W n) * (P b).toInt64 ≤ sTakes (W b) * (P n).toInt64 then some b else some n
theorem sBest_lt {W : Nat → Int64} {P : Nat → Int32} : ∀ {n b : Nat}, sBest W P n = some b → b < n := by
  intro n
  induction n with
  | zero => intro b h; cases h
  | succ n ih =>
    intro b h
    simp only [sBest] at h
    cases hf : sBest W P n with
    | none =>
      rw [hf] at h
      simp only at h
      split at h
      · cases h
      · cases h; omega
    | some b2 =>
      rw [hf] at h
      simp only at h
      have := ih hf
      split at h
      · cases h; omega
      · split at h
        · cases h; omega
        · cases h; omega
/-- the books: ints, longs, lines, the journal's room -/
abbrev mS : Type := (Nat → Nat → Int32) × (Nat → Nat → Int64) × Nat × Nat
def sMend1 (ns : Nat) (s : mS) : Option mS := match sBest (s.2.1 27) (s.1 26) ns with
  | none => none
  | some b => if (s.1 26 b).toInt64 ≤ s.2.1 43 0 then some (sLineA s.1 s.2.2.1 6 (nI b) (-(s.1 26 b)).toInt64, mB (mB s.2.1 27 b (s.2.1 27 b - sTakes (s.2.1 27 b))) 43 0 (s.2.1 43 0 + (-(s.1 26 b)).toInt64), s.2.2.1 + 1, sLn s.2.2.2 s.2.2.1) else none
def sMend (ns : Nat) : Nat → mS → Nat × mS
  | 0, s => (0, s)
  | m + 1, s => match sMend1 ns s with
    | none => (0, s)
    | some s' => ((sMend ns m s').1 + 1, (sMend ns m s').2)
theorem sMend1_up {ns : Nat} {s s' : mS} (h : sMend1 ns s = some s') : s'.2.2.1 = s.2.2.1 + 1 ∧ s.2.2.2 ≤ s'.2.2.2 := by
  unfold sMend1 at h
  split at h
  · cases h
  · split at h
    · cases h; exact ⟨rfl, sLn_le _ _⟩
    · cases h
theorem sMend_up (ns : Nat) : ∀ (m : Nat) (s : mS), s.2.2.1 ≤ (sMend ns m s).2.2.2.1 ∧ s.2.2.2 ≤ (sMend ns m s).2.2.2.2 := by
  intro m
  induction m with
  | zero => intro s; exact ⟨Nat.le_refl _, Nat.le_refl _⟩
  | succ m ih =>
    intro s
    simp only [sMend]
    cases h : sMend1 ns s with
    | none => exact ⟨Nat.le_refl _, Nat.le_refl _⟩
    | some s' =>
      have h1 := sMend1_up h
      have h2 := ih s'
      simp only
      omega
def sMendK (d : Int32) : Nat := if d < 0 then 1 else if d ≤ 20 then 0 else 1
theorem ix_le {x : Int32} {m : Nat} {y : Int32} (h0 : ¬ x < 0) (h : x ≤ y) (hy : y = nI m) (hm : m < 2147483648) : ix x ≤ m ∧ x = nI (ix x) := by
  subst hy
  obtain ⟨j, hj, rfl⟩ := nI_of h0
  rw [ix_nI hj]
  exact ⟨(nI_leI hj hm).mp h, rfl⟩
theorem mend_out {φ : gFx} {l : Launch} {g : gGP} {MC MS : Nat} (h : gOK φ l g { frames := 2, cells := MC, slots := MS, locals := 80 } cX4_mend 5 RX4 "mend" (some .int) []) {c0 : gLH} {mo cl ns L r0 ll0 : Nat} {AA : Nat → Nat → Int32} {BB : Nat → Nat → Int64} {NN LL : Nat} (hL : L ≤ 20) (hns12 : ns ≤ 12) (hNN : NN < 400000) (hMC : LL - ll0 ≤ MC) (hMS : 8 * (LL - ll0) ≤ MS) :
    ∀ (m k r : Nat) (A : Nat → Nat → Int32) (B : Nat → Nat → Int64) (nl ll : Nat) (ma : Nat → Nat) (c : gLH), k + m = L → k + r = r0 → sMend ns m (A, B, nl, ll) = (r, AA, BB, NN, LL) → MW c0 mo ma cl ll A B c → A 28 0 = nI ns → A 42 0 = nI nl → nl ≤ ll → 4 ≤ ll → ll0 ≤ ll →
      G φ (gQ φ (pI (nI r0) (fun c' => ∃ ma', MW c0 mo ma' cl LL AA BB c')) MC MS) 32 [(0, .ref mo), (1, .int (nI L)), (2, .int (nI k))] [] c (ll - ll0) (8 * (ll - ll0)) := by
  intro m
  induction m with
  | zero =>
    intro k r A B nl ll ma c hk hr hS hM hns hnl hle hl0 hlo
    simp only [sMend, Prod.mk.injEq] at hS
    obtain ⟨rfl, rfl, rfl, rfl, rfl⟩ := hS
    obtain rfl : k = L := by omega
    obtain rfl : k = r0 := by omega
    refine g_iload_n (i := 2) h dX4_mend_32 rfl rfl ?_
    refine g_iload_n (i := 1) h dX4_mend_33 rfl rfl ?_
    refine g_icmp_ge (tgt := 167) h dX4_mend_34 (by decide) (fun b34 => ?_) (fun _bz => absurd _bz (fun q => absurd (nI_le (Nat.le_refl k) (by omega)) q))
    refine g_iload_n (i := 1) h dX4_mend_167 rfl rfl ?_
    exact g_iret h ⟨rfl, _, hM⟩ (by omega) (by omega) dX4_mend_168
  | succ m ih =>
    intro k r A B nl ll ma c hk hr hS hM hns hnl hle hl0 hlo
    have hup := sMend_up ns (m + 1) (A, B, nl, ll)
    rw [hS] at hup
    have hup : nl ≤ NN ∧ ll ≤ LL := hup
    have after : G φ (gQ φ (pI (nI r0) (fun c' => ∃ ma', MW c0 mo ma' cl LL AA BB c')) MC MS) 111 [(0, .ref mo), (1, .int (nI L)), (2, .int (nI k)), (3, .int (oI (sBest (B 27) (A 26) ns)))] [] c (ll - ll0) (8 * (ll - ll0)) := by
      simp only [sMend] at hS
      cases hb : sBest (B 27) (A 26) ns with
      | none =>
        simp only [sMend1, hb, Prod.mk.injEq] at hS
        obtain ⟨rfl, rfl, rfl, rfl, rfl⟩ := hS
        obtain rfl : k = r0 := by omega
        refine g_iload_n (i := 3) h dX4_mend_111 rfl rfl ?_
        refine g_if_lt (tgt := 130) h dX4_mend_112 (by decide) (fun b112 => ?_) (fun _bz => absurd _bz (fun q => absurd (by decide) q))
        refine g_iload_n (i := 2) h dX4_mend_130 rfl rfl ?_
        exact g_iret h ⟨rfl, _, hM⟩ (by omega) (by omega) dX4_mend_131
      | some b =>
        have hb12 := sBest_lt hb
        refine G.to (lv' := [(0, .ref mo), (1, .int (nI L)), (2, .int (nI k)), (3, .int (nI b))]) ?_ ⟨rfl, rfl, rfl, rfl, trivial⟩
        refine g_iload_n (i := 3) h dX4_mend_111 rfl rfl ?_
        refine g_if_lt (tgt := 130) h dX4_mend_112 (by decide) (fun _bz => absurd _bz (nI_pos (by omega))) (fun b112 => ?_)
        refine g_aload_n (i := 0) h dX4_mend_115 rfl rfl ?_
        refine m_get (v := .long (B 43 0)) h hM f_X4_373_4 rfl dX4_mend_116 ?_
        refine g_aload_n (i := 0) h dX4_mend_119 rfl rfl ?_
        refine m_get h hM f_X4_63_4 rfl dX4_mend_120 ?_
        refine g_iload_n (i := 3) h dX4_mend_123 rfl rfl ?_
        refine m_iald (k := 26) (x := A 26 _) h hM rfl rfl (by show _ < 12; omega) rfl dX4_mend_124 ?_
        refine g_i2l h dX4_mend_125 ?_
        refine g_lcmp h dX4_mend_126 ?_
        refine g_if_ge (tgt := 132) h dX4_mend_127 (by decide) (fun b127 => ?_) (fun b127 => ?_)
        · rw [lg_cmp_ge] at b127
          simp only [sMend1, hb, b127, if_true, Prod.mk.injEq] at hS
          obtain ⟨hr', hS'⟩ := hS
          obtain ⟨r', rfl⟩ : ∃ r', r = r' + 1 := ⟨_, hr'.symm⟩
          replace hr' := Nat.succ.inj hr'
          replace hS' := (Prod.ext hr' hS' : sMend ns m (sLineA A nl 6 (nI b) (-(A 26 b)).toInt64, mB (mB B 27 b (B 27 b - sTakes (B 27 b))) 43 0 (B 43 0 + (-(A 26 b)).toInt64), nl + 1, sLn ll nl) = (r', AA, BB, NN, LL))
          have hup2 := sMend_up ns m (sLineA A nl 6 (nI b) (-(A 26 b)).toInt64, mB (mB B 27 b (B 27 b - sTakes (B 27 b))) 43 0 (B 43 0 + (-(A 26 b)).toInt64), nl + 1, sLn ll nl)
          rw [hS'] at hup2
          replace hup2 : nl + 1 ≤ NN ∧ sLn ll nl ≤ LL := hup2
          have hsl := sLn_le ll nl
          have hnl1 : nl + 1 ≤ sLn ll nl := by unfold sLn; split <;> omega
          refine g_aload_n (i := 0) h dX4_mend_132 rfl rfl ?_
          refine m_get h hM f_X4_66_4 rfl dX4_mend_133 ?_
          refine g_iload_n (i := 3) h dX4_mend_136 rfl rfl ?_
          refine g_dup2 h dX4_mend_137 rfl rfl ?_
          refine m_lald (k := 27) (x := B 27 _) h hM rfl (by show _ < 12; omega) rfl dX4_mend_138 ?_
          refine g_aload_n (i := 0) h dX4_mend_139 rfl rfl ?_
          refine g_iload_n (i := 3) h dX4_mend_140 rfl rfl ?_
          refine g_invV h (ct_takes h.k hM _ (by omega)) hcX4_takes w_X4_399 rfl rfl hM.obj (Nat.le_of_ble_eq_true rfl) ⟨Nat.le_of_ble_eq_true rfl, Nat.le_of_ble_eq_true rfl⟩ (by refine ⟨?_, ?_⟩ <;> first | exact Nat.le_refl _ | exact Nat.zero_le _ | (dsimp only; omega)) dX4_mend_141 (gkr_lp ?_) gkt_lp
          refine g_lsub h dX4_mend_144 ?_
          refine m_last (k := 27) h hM rfl (by show _ < 12; omega) dX4_mend_145 (fun c hM => ?_)
          refine g_aload_n (i := 0) h dX4_mend_146 rfl rfl ?_
          refine g_bipush (v := 6) h dX4_mend_147 (by decide) ?_
          refine g_iload_n (i := 3) h dX4_mend_149 rfl rfl ?_
          refine g_aload_n (i := 0) h dX4_mend_150 rfl rfl ?_
          refine m_get h hM f_X4_63_4 rfl dX4_mend_151 ?_
          refine g_iload_n (i := 3) h dX4_mend_154 rfl rfl ?_
          refine m_iald (k := 26) (x := A 26 _) h hM rfl rfl (by show _ < 12; omega) rfl dX4_mend_155 ?_
          refine g_ineg h dX4_mend_156 ?_
          refine g_i2l h dX4_mend_157 ?_
          refine g_invV h (ct_line (nl := nl) h.k hM 6 _ _ hnl hle hl0 (by omega)) hcX4_line w_X4_366 rfl rfl hM.obj (Nat.le_of_ble_eq_true rfl) ⟨Nat.le_of_ble_eq_true rfl, Nat.le_of_ble_eq_true rfl⟩ (by dsimp only; constructor <;> omega) dX4_mend_158 (gkr_v (fun c hM => ?_)) gkt_v
          obtain ⟨ma, hM⟩ := hM
          first | (with_reducible refine g_iincN h dX4_mend_161 rfl (by decide) ?_) | refine g_iinc1 h dX4_mend_161 rfl (by decide) ?_
          refine g_goto (tgt := 32) h dX4_mend_164 (by decide) ?_
          refine G.up (ce' := sLn ll nl - ll0) (sl' := 8 * (sLn ll nl - ll0)) (by omega) (by omega) ?_
          exact G.to (ih (k + 1) r' _ _ (nl + 1) _ ma c (by omega) (by omega) hS' hM hns rfl (by omega) (by omega) (by omega)) ⟨rfl, rfl, rfl, trivial⟩
        · rw [lg_cmp_ge] at b127
          simp only [sMend1, hb, b127, if_false, Prod.mk.injEq] at hS
          obtain ⟨rfl, rfl, rfl, rfl, rfl⟩ := hS
          obtain rfl : k = r0 := by omega
          refine g_iload_n (i := 2) h dX4_mend_130 rfl rfl ?_
          exact g_iret h ⟨rfl, _, hM⟩ (by omega) (by omega) dX4_mend_131
    have inner : ∀ n, n ≤ ns → G φ (gQ φ (pI (nI r0) (fun c' => ∃ ma', MW c0 mo ma' cl LL AA BB c')) MC MS) 42 [(0, .ref mo), (1, .int (nI L)), (2, .int (nI k)), (3, .int (oI (sBest (B 27) (A 26) n))), (4, .int (nI n))] [] c (ll - ll0) (8 * (ll - ll0)) := by
      refine gloop ?_ ?_
      · skip
        refine g_iload h dX4_mend_42 rfl ?_
        refine g_aload_n (i := 0) h dX4_mend_44 rfl rfl ?_
        refine m_get (v := .int (A 28 0)) h hM f_X4_318_4 rfl dX4_mend_45 ?_
        refine G.int hns ?_
        refine g_icmp_ge (tgt := 111) h dX4_mend_48 (by decide) (fun b48 => ?_) (fun _bz => absurd _bz (fun q => absurd (nI_le (Nat.le_refl ns) (by omega)) q))
        exact G.to after ⟨rfl, rfl, rfl, rfl, trivial⟩
      · intro n hn ih
        cases hf : sBest (B 27) (A 26) n with
        | none =>
          refine g_iload h dX4_mend_42 rfl ?_
          refine g_aload_n (i := 0) h dX4_mend_44 rfl rfl ?_
          refine m_get (v := .int (A 28 0)) h hM f_X4_318_4 rfl dX4_mend_45 ?_
          refine G.int hns ?_
          refine g_icmp_ge (tgt := 111) h dX4_mend_48 (by decide) (fun _bz => absurd _bz (nI_ge hn (by omega))) (fun b48 => ?_)
          refine g_aload_n (i := 0) h dX4_mend_51 rfl rfl ?_
          refine m_get h hM f_X4_66_4 rfl dX4_mend_52 ?_
          refine g_iload h dX4_mend_55 rfl ?_
          refine m_lald (k := 27) (x := B 27 _) h hM rfl (by show _ < 12; omega) rfl dX4_mend_57 ?_
          refine g_lconst (v := 0) h dX4_mend_58 (by decide) ?_
          refine g_lcmp h dX4_mend_59 ?_
          refine g_if_ne (tgt := 66) h dX4_mend_60 (by decide) (fun b60 => ?_) (fun b60 => ?_)
          · rw [lg_cmp_eq] at b60
            refine g_iload_n (i := 3) h dX4_mend_66 rfl rfl ?_
            refine g_if_lt (tgt := 102) h dX4_mend_67 (by decide) (fun b67 => ?_) (fun _bz => absurd _bz (fun q => absurd (by decide) q))
            refine g_iload h dX4_mend_102 rfl ?_
            refine g_istore_n (i := 3) h dX4_mend_104 rfl (by decide) ?_
            first | (with_reducible refine g_iincN h dX4_mend_105 rfl (by decide) ?_) | refine g_iinc1 h dX4_mend_105 rfl (by decide) ?_
            refine g_goto (tgt := 42) h dX4_mend_108 (by decide) ?_
            simp only [sBest, hf, b48, b60, b67, if_true, if_false] at ih
            exact G.to ih ⟨rfl, rfl, rfl, rfl, rfl, trivial⟩
          · rw [lg_cmp_eq] at b60
            refine g_goto (tgt := 105) h dX4_mend_63 (by decide) ?_
            first | (with_reducible refine g_iincN h dX4_mend_105 rfl (by decide) ?_) | refine g_iinc1 h dX4_mend_105 rfl (by decide) ?_
            refine g_goto (tgt := 42) h dX4_mend_108 (by decide) ?_
            simp only [sBest, hf, b48, b60, if_true, if_false] at ih
            exact G.to ih ⟨rfl, rfl, rfl, rfl, rfl, trivial⟩
        | some b =>
          have hbn := sBest_lt hf
          refine G.to (lv' := [(0, .ref mo), (1, .int (nI L)), (2, .int (nI k)), (3, .int (nI b)), (4, .int (nI n))]) ?_ ⟨rfl, rfl, rfl, rfl, rfl, trivial⟩
          refine g_iload h dX4_mend_42 rfl ?_
          refine g_aload_n (i := 0) h dX4_mend_44 rfl rfl ?_
          refine m_get (v := .int (A 28 0)) h hM f_X4_318_4 rfl dX4_mend_45 ?_
          refine G.int hns ?_
          refine g_icmp_ge (tgt := 111) h dX4_mend_48 (by decide) (fun _bz => absurd _bz (nI_ge hn (by omega))) (fun b48 => ?_)
          refine g_aload_n (i := 0) h dX4_mend_51 rfl rfl ?_
          refine m_get h hM f_X4_66_4 rfl dX4_mend_52 ?_
          refine g_iload h dX4_mend_55 rfl ?_
          refine m_lald (k := 27) (x := B 27 _) h hM rfl (by show _ < 12; omega) rfl dX4_mend_57 ?_
          refine g_lconst (v := 0) h dX4_mend_58 (by decide) ?_
          refine g_lcmp h dX4_mend_59 ?_
          refine g_if_ne (tgt := 66) h dX4_mend_60 (by decide) (fun b60 => ?_) (fun b60 => ?_)
          · rw [lg_cmp_eq] at b60
            refine g_iload_n (i := 3) h dX4_mend_66 rfl rfl ?_
            refine g_if_lt (tgt := 102) h dX4_mend_67 (by decide) (fun _bz => absurd _bz (nI_pos (by omega))) (fun b67 => ?_)
            refine g_aload_n (i := 0) h dX4_mend_70 rfl rfl ?_
            refine g_iload h dX4_mend_71 rfl ?_
            refine g_invV h (ct_takes h.k hM _ (by omega)) hcX4_takes w_X4_399 rfl rfl hM.obj (Nat.le_of_ble_eq_true rfl) ⟨Nat.le_of_ble_eq_true rfl, Nat.le_of_ble_eq_true rfl⟩ (by refine ⟨?_, ?_⟩ <;> first | exact Nat.le_refl _ | exact Nat.zero_le _ | (dsimp only; omega)) dX4_mend_73 (gkr_lp ?_) gkt_lp
            refine g_aload_n (i := 0) h dX4_mend_76 rfl rfl ?_
            refine m_get h hM f_X4_63_4 rfl dX4_mend_77 ?_
            refine g_iload_n (i := 3) h dX4_mend_80 rfl rfl ?_
            refine m_iald (k := 26) (x := A 26 _) h hM rfl rfl (by show _ < 12; omega) rfl dX4_mend_81 ?_
            refine g_i2l h dX4_mend_82 ?_
            refine g_lmul h dX4_mend_83 ?_
            refine g_aload_n (i := 0) h dX4_mend_84 rfl rfl ?_
            refine g_iload_n (i := 3) h dX4_mend_85 rfl rfl ?_
            refine g_invV h (ct_takes h.k hM _ (by omega)) hcX4_takes w_X4_399 rfl rfl hM.obj (Nat.le_of_ble_eq_true rfl) ⟨Nat.le_of_ble_eq_true rfl, Nat.le_of_ble_eq_true rfl⟩ (by refine ⟨?_, ?_⟩ <;> first | exact Nat.le_refl _ | exact Nat.zero_le _ | (dsimp only; omega)) dX4_mend_86 (gkr_lp ?_) gkt_lp
            refine g_aload_n (i := 0) h dX4_mend_89 rfl rfl ?_
            refine m_get h hM f_X4_63_4 rfl dX4_mend_90 ?_
            refine g_iload h dX4_mend_93 rfl ?_
            refine m_iald (k := 26) (x := A 26 _) h hM rfl rfl (by show _ < 12; omega) rfl dX4_mend_95 ?_
            refine g_i2l h dX4_mend_96 ?_
            refine g_lmul h dX4_mend_97 ?_
            refine g_lcmp h dX4_mend_98 ?_
            refine g_if_le (tgt := 105) h dX4_mend_99 (by decide) (fun b99 => ?_) (fun b99 => ?_)
            · rw [lg_cmp_le] at b99
              first | (with_reducible refine g_iincN h dX4_mend_105 rfl (by decide) ?_) | refine g_iinc1 h dX4_mend_105 rfl (by decide) ?_
              refine g_goto (tgt := 42) h dX4_mend_108 (by decide) ?_
              simp only [sBest, hf, b48, b60, b67, b99, if_true, if_false] at ih
              exact G.to ih ⟨rfl, rfl, rfl, rfl, rfl, trivial⟩
            · rw [lg_cmp_le] at b99
              refine g_iload h dX4_mend_102 rfl ?_
              refine g_istore_n (i := 3) h dX4_mend_104 rfl (by decide) ?_
              first | (with_reducible refine g_iincN h dX4_mend_105 rfl (by decide) ?_) | refine g_iinc1 h dX4_mend_105 rfl (by decide) ?_
              refine g_goto (tgt := 42) h dX4_mend_108 (by decide) ?_
              simp only [sBest, hf, b48, b60, b67, b99, if_true, if_false] at ih
              exact G.to ih ⟨rfl, rfl, rfl, rfl, rfl, trivial⟩
          · rw [lg_cmp_eq] at b60
            refine g_goto (tgt := 105) h dX4_mend_63 (by decide) ?_
            first | (with_reducible refine g_iincN h dX4_mend_105 rfl (by decide) ?_) | refine g_iinc1 h dX4_mend_105 rfl (by decide) ?_
            refine g_goto (tgt := 42) h dX4_mend_108 (by decide) ?_
            simp only [sBest, hf, b48, b60, if_true, if_false] at ih
            exact G.to ih ⟨rfl, rfl, rfl, rfl, rfl, trivial⟩
    refine g_iload_n (i := 2) h dX4_mend_32 rfl rfl ?_
    refine g_iload_n (i := 1) h dX4_mend_33 rfl rfl ?_
    refine g_icmp_ge (tgt := 167) h dX4_mend_34 (by decide) (fun _bz => absurd _bz (nI_ge (by omega) (by omega))) (fun b34 => ?_)
    refine g_iconst (v := (-1)) h dX4_mend_37 (by decide) ?_
    refine g_istore_n (i := 3) h dX4_mend_38 rfl (by decide) ?_
    refine g_iconst (v := 0) h dX4_mend_39 (by decide) ?_
    refine g_istore h dX4_mend_40 (by decide) ?_
    exact G.to (inner 0 (Nat.zero_le _)) ⟨rfl, rfl, rfl, rfl, rfl, trivial⟩
theorem ct_mend {l : Launch} {g : gGP} (hk : gK l g) {c0 c : gLH} {mo : Nat} {ma : Nat → Nat} {cl ll : Nat} {A : Nat → Nat → Int32} {B : Nat → Nat → Int64} (hM : MW c0 mo ma cl ll A B c) (d : Int32) {ns nl r NN LL : Nat} {AA : Nat → Nat → Int32} {BB : Nat → Nat → Int64} (hns : A 28 0 = nI ns) (hns12 : ns ≤ 12) (hnl : A 42 0 = nI nl) (hle : nl ≤ ll) (hl0 : 4 ≤ ll) (hS : sMend ns (ix d) (mA A 0 0 0, B, nl, ll) = (r, AA, BB, NN, LL)) (hNN : NN < 400000) : Ct l g yX4_mend hwX4_mend 2 80 [.ref mo, .int d] c ((LL - ll)) ((8 * (LL - ll))) (pI (if sMendK d = 0 then nI r else 0) (fun c' => ∃ ma', MW c0 mo ma' cl (if sMendK d = 0 then LL else ll) (if sMendK d = 0 then AA else mA (mA A 0 0 0) 0 0 (nI (sMendK d))) (if sMendK d = 0 then BB else B) c')) := by
  refine Ct.intro hk hcX4_mend (by decide +kernel) (Nat.le_of_ble_eq_true rfl) (fun φ h => ?_)
  refine g_aload_n (i := 0) h dX4_mend_0 rfl rfl ?_
  refine g_iconst (v := 0) h dX4_mend_1 (by decide) ?_
  refine m_puti h hM mp_0 fp_X4_146_4 dX4_mend_2 (fun c hM => ?_)
  refine g_aload_n (i := 0) h dX4_mend_5 rfl rfl ?_
  refine g_iload_n (i := 1) h dX4_mend_6 rfl rfl ?_
  refine g_if_lt (tgt := 16) h dX4_mend_7 (by decide) (fun b7 => ?_) (fun b7 => ?_)
  · refine g_iconst (v := 1) h dX4_mend_16 (by decide) ?_
    refine g_goto (tgt := 21) h dX4_mend_17 (by decide) ?_
    refine g_iconst (v := 1) h dX4_mend_21 (by decide) ?_
    refine g_invV h (ct_bad h.k hM true 1) hcX4_bad w_X4_308 rfl rfl hM.obj (Nat.le_of_ble_eq_true rfl) ⟨Nat.le_of_ble_eq_true rfl, Nat.le_of_ble_eq_true rfl⟩ (by refine ⟨?_, ?_⟩ <;> first | exact Nat.le_refl _ | exact Nat.zero_le _ | (dsimp only; omega)) dX4_mend_22 (gkr_i (fun c hM => ?_)) gkt_i
    replace hM := bad1 hM
    refine g_if_eq (tgt := 30) h dX4_mend_25 (by decide) (fun _bz => absurd _bz (by decide)) (fun _bz => ?_)
    refine g_iconst (v := 0) h dX4_mend_28 (by decide) ?_
    exact g_iret h ⟨by rw [if_neg (by simp [sMendK, b7])], ma, by simp [sMendK, b7]; exact hM⟩ (by omega) (by omega) dX4_mend_29
  · refine g_iload_n (i := 1) h dX4_mend_10 rfl rfl ?_
    refine g_bipush (v := 20) h dX4_mend_11 (by decide) ?_
    refine g_icmp_le (tgt := 20) h dX4_mend_13 (by decide) (fun b13 => ?_) (fun b13 => ?_)
    · refine g_iconst (v := 0) h dX4_mend_20 (by decide) ?_
      refine g_iconst (v := 1) h dX4_mend_21 (by decide) ?_
      refine g_invV h (ct_bad h.k hM false 1) hcX4_bad w_X4_308 rfl rfl hM.obj (Nat.le_of_ble_eq_true rfl) ⟨Nat.le_of_ble_eq_true rfl, Nat.le_of_ble_eq_true rfl⟩ (by refine ⟨?_, ?_⟩ <;> first | exact Nat.le_refl _ | exact Nat.zero_le _ | (dsimp only; omega)) dX4_mend_22 (gkr_i (fun c hM => ?_)) gkt_i
      replace hM := bad0 hM
      refine g_if_eq (tgt := 30) h dX4_mend_25 (by decide) (fun _bz => ?_) (fun _bz => absurd _bz (by decide))
      refine g_iconst (v := 0) h dX4_mend_30 (by decide) ?_
      refine g_istore_n (i := 2) h dX4_mend_31 rfl (by decide) ?_
      have hK : sMendK d = 0 := by simp [sMendK, b7, b13]
      obtain ⟨hd, hde⟩ := ix_le (m := 20) b7 b13 rfl (by omega)
      rw [if_pos hK, if_pos hK, if_pos hK, if_pos hK]
      rw [hde]
      refine G.to (lv' := [(0, .ref mo), (1, .int (nI (ix d))), (2, .int (nI 0))]) ?_ ⟨rfl, rfl, rfl, trivial⟩
      refine G.up (ce' := ll - ll) (sl' := 8 * (ll - ll)) (by omega) (by omega) ?_
      exact mend_out h hd hns12 hNN (Nat.le_refl _) (Nat.le_refl _) (ix d) 0 r _ _ nl ll ma c (by omega) (by omega) hS hM hns hnl hle hl0 (Nat.le_refl _)
    · refine g_iconst (v := 1) h dX4_mend_16 (by decide) ?_
      refine g_goto (tgt := 21) h dX4_mend_17 (by decide) ?_
      refine g_iconst (v := 1) h dX4_mend_21 (by decide) ?_
      refine g_invV h (ct_bad h.k hM true 1) hcX4_bad w_X4_308 rfl rfl hM.obj (Nat.le_of_ble_eq_true rfl) ⟨Nat.le_of_ble_eq_true rfl, Nat.le_of_ble_eq_true rfl⟩ (by refine ⟨?_, ?_⟩ <;> first | exact Nat.le_refl _ | exact Nat.zero_le _ | (dsimp only; omega)) dX4_mend_22 (gkr_i (fun c hM => ?_)) gkt_i
      replace hM := bad1 hM
      refine g_if_eq (tgt := 30) h dX4_mend_25 (by decide) (fun _bz => absurd _bz (by decide)) (fun _bz => ?_)
      refine g_iconst (v := 0) h dX4_mend_28 (by decide) ?_
      exact g_iret h ⟨by rw [if_neg (by simp [sMendK, b7, b13])], ma, by simp [sMendK, b7, b13]; exact hM⟩ (by omega) (by omega) dX4_mend_29
