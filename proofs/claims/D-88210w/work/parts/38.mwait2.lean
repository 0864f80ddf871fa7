/-! THE MODEL: wait -/
set_option maxRecDepth 100000
theorem wait_out {φ : gFx} {l : Launch} {g : gGP} {MC MS : Nat} (h : gOK φ l g { frames := 4, cells := MC, slots := MS, locals := 160 } cX4_wait 4 RX4 "wait" (some .int) []) {c0 : gLH} {mo cl N u L ll0 : Nat} {AA : Nat → Nat → Int32} {BB : Nat → Nat → Int64} {NN LL : Nat} (hL : L ≤ 1000) (hN10 : N ≤ 10) (hu8 : u ≤ 8) (hNN : NN < 400000) (hMC : LL - ll0 ≤ MC) (hMS : 8 * (LL - ll0) ≤ MS) :
    ∀ (m k : Nat) (A : Nat → Nat → Int32) (B : Nat → Nat → Int64) (nl ll : Nat) (ma : Nat → Nat) (c : gLH), k + m = L → sDays N u m (A, B, nl, ll) = (AA, BB, NN, LL) → MW c0 mo ma cl ll A B c → WOk N u (A, B, nl, ll) → ll0 ≤ ll →
      G φ (gQ φ (pI (AA 32 0) (fun c' => ∃ ma', MW c0 mo ma' cl LL AA BB c')) MC MS) 45 [(0, .ref mo), (1, .int (nI L)), (2, .int (nI k))] [] c (ll - ll0) (8 * (ll - ll0)) := by
  intro m
  induction m with
  | zero =>
    intro k A B nl ll ma c hk hS hM hW hlo
    simp only [sDays, Prod.mk.injEq] at hS
    obtain ⟨rfl, rfl, rfl, rfl⟩ := hS
    obtain rfl : k = L := by omega
    refine g_iload_n (i := 2) h dX4_wait_45 rfl rfl ?_
    refine g_iload_n (i := 1) h dX4_wait_46 rfl rfl ?_
    refine g_icmp_ge (tgt := 145) h dX4_wait_47 (by decide) (fun b47 => ?_) (fun _bz => absurd _bz (fun q => absurd (nI_le (Nat.le_refl k) (by omega)) q))
    refine g_aload_n (i := 0) h dX4_wait_145 rfl rfl ?_
    refine m_get (v := .int (A 32 0)) h hM f_X4_331_4 rfl dX4_wait_146 ?_
    exact g_iret h ⟨rfl, ma, hM⟩ (by omega) (by omega) dX4_wait_149
  | succ m ih =>
    intro k A B nl ll ma c hk hS hM hW hlo
    have gates : ∀ (n i : Nat) (A : Nat → Nat → Int32) (B : Nat → Nat → Int64) (nl ll : Nat) (ma : Nat → Nat) (c : gLH), i + n = u → sDays N u m (sGates n i (A, B, nl, ll)) = (AA, BB, NN, LL) → MW c0 mo ma cl ll A B c → WOk N u (A, B, nl, ll) → ll0 ≤ ll → G φ (gQ φ (pI (AA 32 0) (fun c' => ∃ ma', MW c0 mo ma' cl LL AA BB c')) MC MS) 98 [(0, .ref mo), (1, .int (nI L)), (2, .int (nI k)), (3, .int (nI i))] [] c (ll - ll0) (8 * (ll - ll0)) := by
      intro n
      induction n with
      | zero =>
        intro i A B nl ll ma c hi hS hM hW hlo
        obtain rfl : i = u := by omega
        refine g_iload_n (i := 3) h dX4_wait_98 rfl rfl ?_
        refine g_aload_n (i := 0) h dX4_wait_99 rfl rfl ?_
        refine m_get (v := .int (A 31 0)) h hM f_X4_321_4 rfl dX4_wait_100 ?_
        refine G.int hW.2.2.2.2.1 ?_
        refine g_icmp_ge (tgt := 139) h dX4_wait_103 (by decide) (fun b103 => ?_) (fun _bz => absurd _bz (fun q => absurd (nI_le (Nat.le_refl i) (by omega)) q))
        first | (with_reducible refine g_iincN h dX4_wait_139 rfl (by decide) ?_) | refine g_iinc1 h dX4_wait_139 rfl (by decide) ?_
        refine g_goto (tgt := 45) h dX4_wait_142 (by decide) ?_
        exact G.to (ih (k + 1) _ _ _ _ ma c (by omega) hS hM hW hlo) ⟨rfl, rfl, rfl, trivial⟩
      | succ n ihg =>
        intro i A B nl ll ma c hi hS hM hW hlo
        have u1 := sGates_up (n + 1) i (A, B, nl, ll)
        have u2 := sDays_up N u m (sGates (n + 1) i (A, B, nl, ll))
        rw [hS] at u2
        have u1 : nl ≤ (sGates (n + 1) i (A, B, nl, ll)).2.2.1 ∧ ll ≤ (sGates (n + 1) i (A, B, nl, ll)).2.2.2 := u1
        have u2 : (sGates (n + 1) i (A, B, nl, ll)).2.2.1 ≤ NN ∧ (sGates (n + 1) i (A, B, nl, ll)).2.2.2 ≤ LL := u2
        have u3 : (sGate1 i (A, B, nl, ll)).2.2.2 ≤ (sGates (n + 1) i (A, B, nl, ll)).2.2.2 := (sGates_up n (i + 1) (sGate1 i (A, B, nl, ll))).2
        simp only [sGates] at hS u1 u2 u3
        by_cases h1 : A 50 i < 0
        · skip
          refine g_iload_n (i := 3) h dX4_wait_98 rfl rfl ?_
          refine g_aload_n (i := 0) h dX4_wait_99 rfl rfl ?_
          refine m_get (v := .int (A 31 0)) h hM f_X4_321_4 rfl dX4_wait_100 ?_
          refine G.int hW.2.2.2.2.1 ?_
          refine g_icmp_ge (tgt := 139) h dX4_wait_103 (by decide) (fun _bz => absurd _bz (nI_ge (by omega) (by omega))) (fun b103 => ?_)
          refine g_aload_n (i := 0) h dX4_wait_106 rfl rfl ?_
          refine m_get h hM f_X4_113_4 rfl dX4_wait_107 ?_
          refine g_iload_n (i := 3) h dX4_wait_110 rfl rfl ?_
          refine m_iald (k := 50) (x := A 50 _) h hM rfl rfl (by show _ < 8; omega) rfl dX4_wait_111 ?_
          refine g_if_lt (tgt := 133) h dX4_wait_112 (by decide) (fun b112 => ?_) (fun _bz => absurd _bz (not_not_intro h1))
          first | (with_reducible refine g_iincN h dX4_wait_133 rfl (by decide) ?_) | refine g_iinc1 h dX4_wait_133 rfl (by decide) ?_
          refine g_goto (tgt := 98) h dX4_wait_136 (by decide) ?_
          rw [show sGate1 i (A, B, nl, ll) = (A, B, nl, ll) from if_pos h1] at hS
          exact G.to (ihg (i + 1) _ _ _ _ ma c (by omega) hS hM hW hlo) ⟨rfl, rfl, rfl, rfl, trivial⟩
        have hf := (hW.2.2.2.2.2 i (by omega)).resolve_left h1
        by_cases h2 : A 53 i = A 32 0
        case neg =>
          refine g_iload_n (i := 3) h dX4_wait_98 rfl rfl ?_
          refine g_aload_n (i := 0) h dX4_wait_99 rfl rfl ?_
          refine m_get (v := .int (A 31 0)) h hM f_X4_321_4 rfl dX4_wait_100 ?_
          refine G.int hW.2.2.2.2.1 ?_
          refine g_icmp_ge (tgt := 139) h dX4_wait_103 (by decide) (fun _bz => absurd _bz (nI_ge (by omega) (by omega))) (fun b103 => ?_)
          refine g_aload_n (i := 0) h dX4_wait_106 rfl rfl ?_
          refine m_get h hM f_X4_113_4 rfl dX4_wait_107 ?_
          refine g_iload_n (i := 3) h dX4_wait_110 rfl rfl ?_
          refine m_iald (k := 50) (x := A 50 _) h hM rfl rfl (by show _ < 8; omega) rfl dX4_wait_111 ?_
          refine g_if_lt (tgt := 133) h dX4_wait_112 (by decide) (fun _bz => absurd _bz h1) (fun b112 => ?_)
          refine g_aload_n (i := 0) h dX4_wait_115 rfl rfl ?_
          refine m_get h hM f_X4_122_4 rfl dX4_wait_116 ?_
          refine g_iload_n (i := 3) h dX4_wait_119 rfl rfl ?_
          refine m_iald (k := 53) (x := A 53 _) h hM rfl rfl (by show _ < 8; omega) rfl dX4_wait_120 ?_
          refine g_aload_n (i := 0) h dX4_wait_121 rfl rfl ?_
          refine m_get (v := .int (A 32 0)) h hM f_X4_331_4 rfl dX4_wait_122 ?_
          refine g_icmp_ne (tgt := 133) h dX4_wait_125 (by decide) (fun b125 => ?_) (fun _bz => absurd _bz h2)
          first | (with_reducible refine g_iincN h dX4_wait_133 rfl (by decide) ?_) | refine g_iinc1 h dX4_wait_133 rfl (by decide) ?_
          refine g_goto (tgt := 98) h dX4_wait_136 (by decide) ?_
          rw [show sGate1 i (A, B, nl, ll) = (A, B, nl, ll) from (if_neg h1).trans (if_neg h2)] at hS
          exact G.to (ihg (i + 1) _ _ _ _ ma c (by omega) hS hM hW hlo) ⟨rfl, rfl, rfl, rfl, trivial⟩
        have e1 : sGate1 i (A, B, nl, ll) = (sRentA A B i (ix (A 50 i)) nl, sRentB A B i (ix (A 50 i)), (if sRentC A B i (ix (A 50 i)) = 0 then nl else nl + 1), sRentL A B i (ix (A 50 i)) nl ll) := (if_neg h1).trans (if_pos h2)
        have u4 : ll ≤ sRentL A B i (ix (A 50 i)) nl ll := by have := (sGate1_up i (A, B, nl, ll)).2; rw [e1] at this; exact this
        rw [e1] at hS u3
        have u3 : sRentL A B i (ix (A 50 i)) nl ll ≤ _ := u3
        rw [e1] at u1 u2
        refine g_iload_n (i := 3) h dX4_wait_98 rfl rfl ?_
        refine g_aload_n (i := 0) h dX4_wait_99 rfl rfl ?_
        refine m_get (v := .int (A 31 0)) h hM f_X4_321_4 rfl dX4_wait_100 ?_
        refine G.int hW.2.2.2.2.1 ?_
        refine g_icmp_ge (tgt := 139) h dX4_wait_103 (by decide) (fun _bz => absurd _bz (nI_ge (by omega) (by omega))) (fun b103 => ?_)
        refine g_aload_n (i := 0) h dX4_wait_106 rfl rfl ?_
        refine m_get h hM f_X4_113_4 rfl dX4_wait_107 ?_
        refine g_iload_n (i := 3) h dX4_wait_110 rfl rfl ?_
        refine m_iald (k := 50) (x := A 50 _) h hM rfl rfl (by show _ < 8; omega) rfl dX4_wait_111 ?_
        refine g_if_lt (tgt := 133) h dX4_wait_112 (by decide) (fun _bz => absurd _bz h1) (fun b112 => ?_)
        refine g_aload_n (i := 0) h dX4_wait_115 rfl rfl ?_
        refine m_get h hM f_X4_122_4 rfl dX4_wait_116 ?_
        refine g_iload_n (i := 3) h dX4_wait_119 rfl rfl ?_
        refine m_iald (k := 53) (x := A 53 _) h hM rfl rfl (by show _ < 8; omega) rfl dX4_wait_120 ?_
        refine g_aload_n (i := 0) h dX4_wait_121 rfl rfl ?_
        refine m_get (v := .int (A 32 0)) h hM f_X4_331_4 rfl dX4_wait_122 ?_
        refine g_icmp_ne (tgt := 133) h dX4_wait_125 (by decide) (fun _bz => absurd _bz (not_not_intro h2)) (fun b125 => ?_)
        refine g_aload_n (i := 0) h dX4_wait_128 rfl rfl ?_
        refine g_iload_n (i := 3) h dX4_wait_129 rfl rfl ?_
        refine g_invV h (ct_rentDue (j := i) (f := ix (A 50 i)) (nl := nl) h.k hM (by omega) hf.1 hf.2 hW.1 hW.2.1 hW.2.2.1 (by omega)) hcX4_rentDue w_X4_385 rfl rfl hM.obj (Nat.le_of_ble_eq_true rfl) ⟨Nat.le_of_ble_eq_true rfl, Nat.le_of_ble_eq_true rfl⟩ (by dsimp only; constructor <;> omega) dX4_wait_130 (gkr_v (fun c hM => ?_)) gkt_v
        obtain ⟨ma, hM⟩ := hM
        first | (with_reducible refine g_iincN h dX4_wait_133 rfl (by decide) ?_) | refine g_iinc1 h dX4_wait_133 rfl (by decide) ?_
        refine g_goto (tgt := 98) h dX4_wait_136 (by decide) ?_
        refine G.up (ce' := sRentL A B i (ix (A 50 i)) nl ll - ll0) (sl' := 8 * (sRentL A B i (ix (A 50 i)) nl ll - ll0)) (by omega) (by omega) ?_
        exact G.to (ihg (i + 1) _ _ _ _ ma c (by omega) hS hM (hW.rent i (ix (A 50 i))) (by omega)) ⟨rfl, rfl, rfl, rfl, trivial⟩
    simp only [sDays, sDayS] at hS
    have u1 := sNoon_up N (A, B, nl, ll)
    have u2 := sGates_up u 0 (sNoon N (A, B, nl, ll))
    have u3 := sDays_up N u m (sGates u 0 (sNoon N (A, B, nl, ll)))
    rw [hS] at u3
    have u3 : (sGates u 0 (sNoon N (A, B, nl, ll))).2.2.1 ≤ NN ∧ (sGates u 0 (sNoon N (A, B, nl, ll))).2.2.2 ≤ LL := u3
    have u1 : nl ≤ (sNoon N (A, B, nl, ll)).2.2.1 ∧ ll ≤ (sNoon N (A, B, nl, ll)).2.2.2 := u1
    have s81 : ∀ c, MW c0 mo ma cl ll (sMorn A) B c → G φ (gQ φ (pI (AA 32 0) (fun c' => ∃ ma', MW c0 mo ma' cl LL AA BB c')) MC MS) 81 [(0, .ref mo), (1, .int (nI L)), (2, .int (nI k))] [] c (ll - ll0) (8 * (ll - ll0)) := by
      intro c hM
      have hW : WOk N u (sMorn A, B, nl, ll) := hW
      by_cases hY : sYear (sMorn A) = true
      · have e1 : sNoon N (A, B, nl, ll) = sInt N (sMorn A, B, nl, ll) := if_pos hY
        rw [e1] at hS u1 u2 u3
        refine g_aload_n (i := 0) h dX4_wait_81 rfl rfl ?_
        refine m_get (v := .int (sMorn A 32 0)) h hM f_X4_331_4 rfl dX4_wait_82 ?_
        refine g_sipush (v := 365) h dX4_wait_85 (by decide) ?_
        refine g_irem h dX4_wait_88 (by decide) ?_
        refine g_if_ne (tgt := 96) h dX4_wait_89 (by decide) (fun _bz => absurd _bz (not_not_intro (of_decide_eq_true hY))) (fun b89 => ?_)
        refine g_aload_n (i := 0) h dX4_wait_92 rfl rfl ?_
        refine g_invV h (ct_interest (N := N) (u := u) (nl := nl) (NN := (sInt N (sMorn A, B, nl, ll)).2.2.1) (LL := (sInt N (sMorn A, B, nl, ll)).2.2.2) (AA := (sInt N (sMorn A, B, nl, ll)).1) (BB := (sInt N (sMorn A, B, nl, ll)).2.1) h.k hM hN10 hW rfl (by omega)) hcX4_interest w_X4_396 rfl rfl hM.obj (Nat.le_of_ble_eq_true rfl) ⟨Nat.le_of_ble_eq_true rfl, Nat.le_of_ble_eq_true rfl⟩ (by dsimp only; constructor <;> omega) dX4_wait_93 (gkr_v (fun c hM => ?_)) gkt_v
        obtain ⟨ma, hM⟩ := hM
        refine g_iconst (v := 0) h dX4_wait_96 (by decide) ?_
        refine g_istore_n (i := 3) h dX4_wait_97 rfl (by decide) ?_
        refine G.up (ce' := (sInt N (sMorn A, B, nl, ll)).2.2.2 - ll0) (sl' := 8 * ((sInt N (sMorn A, B, nl, ll)).2.2.2 - ll0)) (by omega) (by omega) ?_
        exact G.to (gates u 0 _ _ _ _ ma c (by omega) hS hM (WOk.int N (s := (sMorn A, B, nl, ll)) hW) (by omega)) ⟨rfl, rfl, rfl, rfl, trivial⟩
      · rw [show sNoon N (A, B, nl, ll) = (sMorn A, B, nl, ll) from if_neg hY] at hS u1 u2 u3
        refine g_aload_n (i := 0) h dX4_wait_81 rfl rfl ?_
        refine m_get (v := .int (sMorn A 32 0)) h hM f_X4_331_4 rfl dX4_wait_82 ?_
        refine g_sipush (v := 365) h dX4_wait_85 (by decide) ?_
        refine g_irem h dX4_wait_88 (by decide) ?_
        refine g_if_ne (tgt := 96) h dX4_wait_89 (by decide) (fun b89 => ?_) (fun _bz => absurd _bz (of_decide_eq_false (Bool.not_eq_true _ ▸ hY)))
        refine g_iconst (v := 0) h dX4_wait_96 (by decide) ?_
        refine g_istore_n (i := 3) h dX4_wait_97 rfl (by decide) ?_
        exact G.to (gates u 0 _ _ _ _ ma c (by omega) hS hM hW hlo) ⟨rfl, rfl, rfl, rfl, trivial⟩
    refine g_iload_n (i := 2) h dX4_wait_45 rfl rfl ?_
    refine g_iload_n (i := 1) h dX4_wait_46 rfl rfl ?_
    refine g_icmp_ge (tgt := 145) h dX4_wait_47 (by decide) (fun _bz => absurd _bz (nI_ge (by omega) (by omega))) (fun b47 => ?_)
    refine g_aload_n (i := 0) h dX4_wait_50 rfl rfl ?_
    refine g_dup h dX4_wait_51 rfl ?_
    refine m_get (v := .int (A 32 0)) h hM f_X4_331_4 rfl dX4_wait_52 ?_
    refine g_iconst (v := 1) h dX4_wait_55 (by decide) ?_
    first | (with_reducible refine g_iaddN h dX4_wait_56 ?_) | refine g_iadd h dX4_wait_56 ?_
    refine m_puti h hM mp_32 fp_X4_331_4 dX4_wait_57 (fun c hM => ?_)
    refine g_aload_n (i := 0) h dX4_wait_60 rfl rfl ?_
    refine g_dup h dX4_wait_61 rfl ?_
    refine m_get (v := .int (A 33 0)) h hM f_X4_363_4 rfl dX4_wait_62 ?_
    refine g_aload_n (i := 0) h dX4_wait_65 rfl rfl ?_
    refine m_get (v := .int (A 33 0)) h hM f_X4_363_4 rfl dX4_wait_66 ?_
    refine g_if_le (tgt := 76) h dX4_wait_69 (by decide) (fun b69 => ?_) (fun b69 => ?_)
    · refine g_iconst (v := 0) h dX4_wait_76 (by decide) ?_
      refine g_isub h dX4_wait_77 ?_
      refine m_puti h hM mp_33 fp_X4_363_4 dX4_wait_78 (fun c hM => ?_)
      exact G.to (s81 c (by simp only [sMorn, b47, b69, if_true, if_false]; exact hM)) ⟨rfl, rfl, rfl, trivial⟩
    · refine g_iconst (v := 1) h dX4_wait_72 (by decide) ?_
      refine g_goto (tgt := 77) h dX4_wait_73 (by decide) ?_
      refine g_isub h dX4_wait_77 ?_
      refine m_puti h hM mp_33 fp_X4_363_4 dX4_wait_78 (fun c hM => ?_)
      exact G.to (s81 c (by simp only [sMorn, b47, b69, if_true, if_false]; exact hM)) ⟨rfl, rfl, rfl, trivial⟩
theorem ct_wait {l : Launch} {g : gGP} (hk : gK l g) {c0 c : gLH} {mo : Nat} {ma : Nat → Nat} {cl ll : Nat} {A : Nat → Nat → Int32} {B : Nat → Nat → Int64} (hM : MW c0 mo ma cl ll A B c) (d : Int32) {N u nl NN LL : Nat} {AA : Nat → Nat → Int32} {BB : Nat → Nat → Int64} (hN10 : N ≤ 10) (hu8 : u ≤ 8) (hW : WOk N u (A, B, nl, ll)) (hS : sDays N u (ix d) (mA A 0 0 0, B, nl, ll) = (AA, BB, NN, LL)) (hNN : NN < 400000) : Ct l g yX4_wait hwX4_wait 4 160 [.ref mo, .int d] c (LL - ll) (8 * (LL - ll)) (pI (if sWaitK A d = 0 then AA 32 0 else 0) (fun c' => ∃ ma', MW c0 mo ma' cl (if sWaitK A d = 0 then LL else ll) (if sWaitK A d = 0 then AA else mA (mA A 0 0 0) 0 0 (nI (sWaitK A d))) (if sWaitK A d = 0 then BB else B) c')) := by
  refine Ct.intro hk hcX4_wait (by decide +kernel) (Nat.le_of_ble_eq_true rfl) (fun φ h => ?_)
  refine g_aload_n (i := 0) h dX4_wait_0 rfl rfl ?_
  refine g_iconst (v := 0) h dX4_wait_1 (by decide) ?_
  refine m_puti h hM mp_0 fp_X4_146_4 dX4_wait_2 (fun c hM => ?_)
  refine g_aload_n (i := 0) h dX4_wait_5 rfl rfl ?_
  refine g_iload_n (i := 1) h dX4_wait_6 rfl rfl ?_
  refine g_if_lt (tgt := 29) h dX4_wait_7 (by decide) (fun b7 => ?_) (fun b7 => ?_)
  · refine g_iconst (v := 1) h dX4_wait_29 (by decide) ?_
    refine g_goto (tgt := 34) h dX4_wait_30 (by decide) ?_
    refine g_iconst (v := 1) h dX4_wait_34 (by decide) ?_
    refine g_invV h (ct_bad h.k hM true 1) hcX4_bad w_X4_308 rfl rfl hM.obj (Nat.le_of_ble_eq_true rfl) ⟨Nat.le_of_ble_eq_true rfl, Nat.le_of_ble_eq_true rfl⟩ (by refine ⟨?_, ?_⟩ <;> first | exact Nat.le_refl _ | exact Nat.zero_le _ | (dsimp only; omega)) dX4_wait_35 (gkr_i (fun c hM => ?_)) gkt_i
    replace hM := bad1 hM
    refine g_if_eq (tgt := 43) h dX4_wait_38 (by decide) (fun _bz => absurd _bz (by decide)) (fun _bz => ?_)
    refine g_iconst (v := 0) h dX4_wait_41 (by decide) ?_
    exact g_iret h ⟨by rw [if_neg (by simp [sWaitK, b7])], ma, by simp [sWaitK, b7]; exact hM⟩ (Nat.zero_le _) (Nat.zero_le _) dX4_wait_42
  · refine g_iload_n (i := 1) h dX4_wait_10 rfl rfl ?_
    refine g_sipush (v := 1000) h dX4_wait_11 (by decide) ?_
    refine g_icmp_gt (tgt := 29) h dX4_wait_14 (by decide) (fun b14 => ?_) (fun b14 => ?_)
    · refine g_iconst (v := 1) h dX4_wait_29 (by decide) ?_
      refine g_goto (tgt := 34) h dX4_wait_30 (by decide) ?_
      refine g_iconst (v := 1) h dX4_wait_34 (by decide) ?_
      refine g_invV h (ct_bad h.k hM true 1) hcX4_bad w_X4_308 rfl rfl hM.obj (Nat.le_of_ble_eq_true rfl) ⟨Nat.le_of_ble_eq_true rfl, Nat.le_of_ble_eq_true rfl⟩ (by refine ⟨?_, ?_⟩ <;> first | exact Nat.le_refl _ | exact Nat.zero_le _ | (dsimp only; omega)) dX4_wait_35 (gkr_i (fun c hM => ?_)) gkt_i
      replace hM := bad1 hM
      refine g_if_eq (tgt := 43) h dX4_wait_38 (by decide) (fun _bz => absurd _bz (by decide)) (fun _bz => ?_)
      refine g_iconst (v := 0) h dX4_wait_41 (by decide) ?_
      exact g_iret h ⟨by rw [if_neg (by simp [sWaitK, b7, b14])], ma, by simp [sWaitK, b7, b14]; exact hM⟩ (Nat.zero_le _) (Nat.zero_le _) dX4_wait_42
    · refine g_aload_n (i := 0) h dX4_wait_17 rfl rfl ?_
      refine m_get (v := .int (A 32 0)) h hM f_X4_331_4 rfl dX4_wait_18 ?_
      refine g_iload_n (i := 1) h dX4_wait_21 rfl rfl ?_
      first | (with_reducible refine g_iaddN h dX4_wait_22 ?_) | refine g_iadd h dX4_wait_22 ?_
      refine g_sipush (v := 9999) h dX4_wait_23 (by decide) ?_
      refine g_icmp_le (tgt := 33) h dX4_wait_26 (by decide) (fun b26 => ?_) (fun b26 => ?_)
      · refine g_iconst (v := 0) h dX4_wait_33 (by decide) ?_
        refine g_iconst (v := 1) h dX4_wait_34 (by decide) ?_
        refine g_invV h (ct_bad h.k hM false 1) hcX4_bad w_X4_308 rfl rfl hM.obj (Nat.le_of_ble_eq_true rfl) ⟨Nat.le_of_ble_eq_true rfl, Nat.le_of_ble_eq_true rfl⟩ (by refine ⟨?_, ?_⟩ <;> first | exact Nat.le_refl _ | exact Nat.zero_le _ | (dsimp only; omega)) dX4_wait_35 (gkr_i (fun c hM => ?_)) gkt_i
        replace hM := bad0 hM
        refine g_if_eq (tgt := 43) h dX4_wait_38 (by decide) (fun _bz => ?_) (fun _bz => absurd _bz (by decide))
        refine g_iconst (v := 0) h dX4_wait_43 (by decide) ?_
        refine g_istore_n (i := 2) h dX4_wait_44 rfl (by decide) ?_
        have hK : sWaitK A d = 0 := by simp [sWaitK, b7, b14, b26]
        obtain ⟨hd, hde⟩ := ix_le (m := 1000) b7 (Int32.not_lt.mp b14) rfl (by omega)
        rw [if_pos hK, if_pos hK, if_pos hK, if_pos hK]
        refine G.to (lv' := [(0, .ref mo), (1, .int (nI (ix d))), (2, .int (nI 0))]) ?_ ⟨rfl, congrArg (fun x => some (Value.int x)) hde, rfl, trivial⟩
        refine G.up (ce' := ll - ll) (sl' := 8 * (ll - ll)) (by omega) (by omega) ?_
        exact wait_out h hd hN10 hu8 hNN (Nat.le_refl _) (Nat.le_refl _) (ix d) 0 _ _ nl ll ma c (by omega) hS hM hW (Nat.le_refl _)
      · refine g_iconst (v := 1) h dX4_wait_29 (by decide) ?_
        refine g_goto (tgt := 34) h dX4_wait_30 (by decide) ?_
        refine g_iconst (v := 1) h dX4_wait_34 (by decide) ?_
        refine g_invV h (ct_bad h.k hM true 1) hcX4_bad w_X4_308 rfl rfl hM.obj (Nat.le_of_ble_eq_true rfl) ⟨Nat.le_of_ble_eq_true rfl, Nat.le_of_ble_eq_true rfl⟩ (by refine ⟨?_, ?_⟩ <;> first | exact Nat.le_refl _ | exact Nat.zero_le _ | (dsimp only; omega)) dX4_wait_35 (gkr_i (fun c hM => ?_)) gkt_i
        replace hM := bad1 hM
        refine g_if_eq (tgt := 43) h dX4_wait_38 (by decide) (fun _bz => absurd _bz (by decide)) (fun _bz => ?_)
        refine g_iconst (v := 0) h dX4_wait_41 (by decide) ?_
        exact g_iret h ⟨by rw [if_neg (by simp [sWaitK, b7, b14, b26])], ma, by simp [sWaitK, b7, b14, b26]; exact hM⟩ (Nat.zero_le _) (Nat.zero_le _) dX4_wait_42
