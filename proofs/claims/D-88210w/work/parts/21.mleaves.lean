/-! THE MODEL: leaves -/
set_option maxRecDepth 100000
theorem ct_thrown {l : Launch} {g : gGP} (hk : gK l g) {c0 c : gLH} {mo : Nat} {ma : Nat → Nat} {cl ll : Nat} {A : Nat → Nat → Int32} {B : Nat → Nat → Int64} (hM : MW c0 mo ma cl ll A B c) : Ct l g yX4_thrown hwX4_thrown 0 0 [.ref mo] c (0) (0) (pIp (A 0 0) c) := by
  refine Ct.intro hk hcX4_thrown (by decide +kernel) (Nat.le_of_ble_eq_true rfl) (fun φ h => ?_)
  refine g_aload_n (i := 0) h dX4_thrown_0 rfl rfl ?_
  refine m_get (v := .int (A 0 0)) h hM f_X4_146_4 rfl dX4_thrown_1 ?_
  exact g_iret h ⟨rfl, rfl⟩ (Nat.le_refl _) (Nat.le_refl _) dX4_thrown_4
theorem ct_bad {l : Launch} {g : gGP} (hk : gK l g) {c0 c : gLH} {mo : Nat} {ma : Nat → Nat} {cl ll : Nat} {A : Nat → Nat → Int32} {B : Nat → Nat → Int64} (hM : MW c0 mo ma cl ll A B c) (b : Bool) (w : Int32) : Ct l g yX4_bad hwX4_bad 0 0 [.ref mo, .int (zB b), .int w] c (0) (0) (pI (zB b) (MW c0 mo ma cl ll (if b = true then mA A 0 0 w else A) B)) := by
  refine Ct.intro hk hcX4_bad (by decide +kernel) (Nat.le_of_ble_eq_true rfl) (fun φ h => ?_)
  refine g_iload_n (i := 1) h dX4_bad_0 rfl rfl ?_
  refine g_if_eq (tgt := 9) h dX4_bad_1 (by decide) (fun b1 => ?_) (fun b1 => ?_)
  · refine g_iload_n (i := 1) h dX4_bad_9 rfl rfl ?_
    exact g_zret h (show _ ∧ _ from ⟨rfl, by first | (rw [zB_0] at b1; subst b1; exact hM) | (rw [zB_n0] at b1; subst b1; exact hM)⟩) (Nat.le_refl _) (Nat.le_refl _) (zB_nar _) dX4_bad_10
  · refine g_aload_n (i := 0) h dX4_bad_4 rfl rfl ?_
    refine g_iload_n (i := 2) h dX4_bad_5 rfl rfl ?_
    refine m_puti h hM mp_0 fp_X4_146_4 dX4_bad_6 (fun c hM => ?_)
    refine g_iload_n (i := 1) h dX4_bad_9 rfl rfl ?_
    exact g_zret h (show _ ∧ _ from ⟨rfl, by first | (rw [zB_0] at b1; subst b1; exact hM) | (rw [zB_n0] at b1; subst b1; exact hM)⟩) (Nat.le_refl _) (Nat.le_refl _) (zB_nar _) dX4_bad_10
theorem ct_fault {l : Launch} {g : gGP} (hk : gK l g) {c0 c : gLH} {mo : Nat} {ma : Nat → Nat} {cl ll : Nat} {A : Nat → Nat → Int32} {B : Nat → Nat → Int64} (hM : MW c0 mo ma cl ll A B c) : Ct l g yX4_fault hwX4_fault 0 0 [.ref mo] c (0) (0) (pI (A 6 0) (MW c0 mo ma cl ll (mA A 0 0 0) B)) := by
  refine Ct.intro hk hcX4_fault (by decide +kernel) (Nat.le_of_ble_eq_true rfl) (fun φ h => ?_)
  refine g_aload_n (i := 0) h dX4_fault_0 rfl rfl ?_
  refine g_iconst (v := 0) h dX4_fault_1 (by decide) ?_
  refine m_puti h hM mp_0 fp_X4_146_4 dX4_fault_2 (fun c hM => ?_)
  refine g_aload_n (i := 0) h dX4_fault_5 rfl rfl ?_
  refine m_get (v := .int (A 6 0)) h hM f_X4_13_4 rfl dX4_fault_6 ?_
  exact g_iret h ⟨rfl, hM⟩ (Nat.le_refl _) (Nat.le_refl _) dX4_fault_9
theorem ct_clauseM {l : Launch} {g : gGP} (hk : gK l g) {c0 c : gLH} {mo : Nat} {ma : Nat → Nat} {cl ll : Nat} {A : Nat → Nat → Int32} {B : Nat → Nat → Int64} (hM : MW c0 mo ma cl ll A B c) : Ct l g yX4_clause_2 hwX4_clause_2 0 0 [.ref mo] c (0) (0) (pI (A 37 0) (MW c0 mo ma cl ll (mA A 0 0 0) B)) := by
  refine Ct.intro hk hcX4_clause_2 (by decide +kernel) (Nat.le_of_ble_eq_true rfl) (fun φ h => ?_)
  refine g_aload_n (i := 0) h dX4_clause_2_0 rfl rfl ?_
  refine g_iconst (v := 0) h dX4_clause_2_1 (by decide) ?_
  refine m_puti h hM mp_0 fp_X4_146_4 dX4_clause_2_2 (fun c hM => ?_)
  refine g_aload_n (i := 0) h dX4_clause_2_5 rfl rfl ?_
  refine m_get (v := .int (A 37 0)) h hM f_X4_83_4 rfl dX4_clause_2_6 ?_
  exact g_iret h ⟨rfl, hM⟩ (Nat.le_refl _) (Nat.le_refl _) dX4_clause_2_9
def sSmall (x : Int32) : Bool := !decide (x < 97) && !decide (122 < x)
def sDigit (x : Int32) : Bool := !decide (x < 48) && !decide (57 < x)
def sSum (x : Int32) : Bool := !decide (x < 1) && !decide (10000000 < x)
def sSo (r v n : Int32) : Bool := if r = 0 then decide (v = n) else if r = 1 then decide (v < n) else decide (n < v)
/-- the byte at the place k of a text of size sz -/
def sByte (t : Nat → Int32) (sz k : Int32) : Int32 := if k < sz then t k.toNatClampNeg &&& 255 else 0
theorem ct_isSmall {l : Launch} {g : gGP} (hk : gK l g) {c : gLH} (x : Int32) : Ct l g yX4_isSmall hwX4_isSmall 0 0 [.int x] c (0) (0) (pIp (zB (sSmall x)) c) := by
  refine Ct.intro hk hcX4_isSmall (by decide +kernel) (Nat.le_of_ble_eq_true rfl) (fun φ h => ?_)
  refine g_iload_n (i := 0) h dX4_isSmall_0 rfl rfl ?_
  refine g_bipush (v := 97) h dX4_isSmall_1 (by decide) ?_
  refine g_icmp_lt (tgt := 16) h dX4_isSmall_3 (by decide) (fun b3 => ?_) (fun b3 => ?_)
  · refine g_iconst (v := 0) h dX4_isSmall_16 (by decide) ?_
    exact g_zret h ⟨by simp [zB, sSmall, b3], rfl⟩ (Nat.le_refl _) (Nat.le_refl _) (by first | rfl | exact zB_nar _) dX4_isSmall_17
  · refine g_iload_n (i := 0) h dX4_isSmall_6 rfl rfl ?_
    refine g_bipush (v := 122) h dX4_isSmall_7 (by decide) ?_
    refine g_icmp_gt (tgt := 16) h dX4_isSmall_9 (by decide) (fun b9 => ?_) (fun b9 => ?_)
    · refine g_iconst (v := 0) h dX4_isSmall_16 (by decide) ?_
      exact g_zret h ⟨by simp [zB, sSmall, b3, b9], rfl⟩ (Nat.le_refl _) (Nat.le_refl _) (by first | rfl | exact zB_nar _) dX4_isSmall_17
    · refine g_iconst (v := 1) h dX4_isSmall_12 (by decide) ?_
      refine g_goto (tgt := 17) h dX4_isSmall_13 (by decide) ?_
      exact g_zret h ⟨by simp [zB, sSmall, b3, b9], rfl⟩ (Nat.le_refl _) (Nat.le_refl _) (by first | rfl | exact zB_nar _) dX4_isSmall_17
theorem ct_isDigit {l : Launch} {g : gGP} (hk : gK l g) {c : gLH} (x : Int32) : Ct l g yX4_isDigit hwX4_isDigit 0 0 [.int x] c (0) (0) (pIp (zB (sDigit x)) c) := by
  refine Ct.intro hk hcX4_isDigit (by decide +kernel) (Nat.le_of_ble_eq_true rfl) (fun φ h => ?_)
  refine g_iload_n (i := 0) h dX4_isDigit_0 rfl rfl ?_
  refine g_bipush (v := 48) h dX4_isDigit_1 (by decide) ?_
  refine g_icmp_lt (tgt := 16) h dX4_isDigit_3 (by decide) (fun b3 => ?_) (fun b3 => ?_)
  · refine g_iconst (v := 0) h dX4_isDigit_16 (by decide) ?_
    exact g_zret h ⟨by simp [zB, sDigit, b3], rfl⟩ (Nat.le_refl _) (Nat.le_refl _) (by first | rfl | exact zB_nar _) dX4_isDigit_17
  · refine g_iload_n (i := 0) h dX4_isDigit_6 rfl rfl ?_
    refine g_bipush (v := 57) h dX4_isDigit_7 (by decide) ?_
    refine g_icmp_gt (tgt := 16) h dX4_isDigit_9 (by decide) (fun b9 => ?_) (fun b9 => ?_)
    · refine g_iconst (v := 0) h dX4_isDigit_16 (by decide) ?_
      exact g_zret h ⟨by simp [zB, sDigit, b3, b9], rfl⟩ (Nat.le_refl _) (Nat.le_refl _) (by first | rfl | exact zB_nar _) dX4_isDigit_17
    · refine g_iconst (v := 1) h dX4_isDigit_12 (by decide) ?_
      refine g_goto (tgt := 17) h dX4_isDigit_13 (by decide) ?_
      exact g_zret h ⟨by simp [zB, sDigit, b3, b9], rfl⟩ (Nat.le_refl _) (Nat.le_refl _) (by first | rfl | exact zB_nar _) dX4_isDigit_17
theorem ct_isSum {l : Launch} {g : gGP} (hk : gK l g) {c : gLH} (x : Int32) : Ct l g yX4_isSum hwX4_isSum 0 0 [.int x] c (0) (0) (pIp (zB (sSum x)) c) := by
  refine Ct.intro hk hcX4_isSum (by decide +kernel) (Nat.le_of_ble_eq_true rfl) (fun φ h => ?_)
  refine g_iload_n (i := 0) h dX4_isSum_0 rfl rfl ?_
  refine g_iconst (v := 1) h dX4_isSum_1 (by decide) ?_
  refine g_icmp_lt (tgt := 16) h dX4_isSum_2 (by decide) (fun b2 => ?_) (fun b2 => ?_)
  · refine g_iconst (v := 0) h dX4_isSum_16 (by decide) ?_
    exact g_zret h ⟨by simp [zB, sSum, b2], rfl⟩ (Nat.le_refl _) (Nat.le_refl _) (by first | rfl | exact zB_nar _) dX4_isSum_17
  · refine g_iload_n (i := 0) h dX4_isSum_5 rfl rfl ?_
    refine g_ldcw (v := 10000000) h dX4_isSum_6 q2158 ?_
    refine g_icmp_gt (tgt := 16) h dX4_isSum_9 (by decide) (fun b9 => ?_) (fun b9 => ?_)
    · refine g_iconst (v := 0) h dX4_isSum_16 (by decide) ?_
      exact g_zret h ⟨by simp [zB, sSum, b2, b9], rfl⟩ (Nat.le_refl _) (Nat.le_refl _) (by first | rfl | exact zB_nar _) dX4_isSum_17
    · refine g_iconst (v := 1) h dX4_isSum_12 (by decide) ?_
      refine g_goto (tgt := 17) h dX4_isSum_13 (by decide) ?_
      exact g_zret h ⟨by simp [zB, sSum, b2, b9], rfl⟩ (Nat.le_refl _) (Nat.le_refl _) (by first | rfl | exact zB_nar _) dX4_isSum_17
theorem ct_isSo {l : Launch} {g : gGP} (hk : gK l g) {c : gLH} (r v n : Int32) : Ct l g yX4_isSo hwX4_isSo 0 0 [.int r, .int v, .int n] c (0) (0) (pIp (zB (sSo r v n)) c) := by
  refine Ct.intro hk hcX4_isSo (by decide +kernel) (Nat.le_of_ble_eq_true rfl) (fun φ h => ?_)
  refine g_iload_n (i := 0) h dX4_isSo_0 rfl rfl ?_
  refine g_if_ne (tgt := 17) h dX4_isSo_1 (by decide) (fun b1 => ?_) (fun b1 => ?_)
  · refine g_iload_n (i := 0) h dX4_isSo_17 rfl rfl ?_
    refine g_iconst (v := 1) h dX4_isSo_18 (by decide) ?_
    refine g_icmp_ne (tgt := 35) h dX4_isSo_19 (by decide) (fun b19 => ?_) (fun b19 => ?_)
    · refine g_iload_n (i := 1) h dX4_isSo_35 rfl rfl ?_
      refine g_iload_n (i := 2) h dX4_isSo_36 rfl rfl ?_
      refine g_icmp_le (tgt := 44) h dX4_isSo_37 (by decide) (fun b37 => ?_) (fun b37 => ?_)
      · refine g_iconst (v := 0) h dX4_isSo_44 (by decide) ?_
        exact g_zret h ⟨by simp_all [zB, sSo], rfl⟩ (Nat.le_refl _) (Nat.le_refl _) (by first | rfl | exact zB_nar _) dX4_isSo_45
      · refine g_iconst (v := 1) h dX4_isSo_40 (by decide) ?_
        refine g_goto (tgt := 45) h dX4_isSo_41 (by decide) ?_
        exact g_zret h ⟨by simp_all [zB, sSo], rfl⟩ (Nat.le_refl _) (Nat.le_refl _) (by first | rfl | exact zB_nar _) dX4_isSo_45
    · refine g_iload_n (i := 1) h dX4_isSo_22 rfl rfl ?_
      refine g_iload_n (i := 2) h dX4_isSo_23 rfl rfl ?_
      refine g_icmp_ge (tgt := 31) h dX4_isSo_24 (by decide) (fun b24 => ?_) (fun b24 => ?_)
      · refine g_iconst (v := 0) h dX4_isSo_31 (by decide) ?_
        refine g_goto (tgt := 45) h dX4_isSo_32 (by decide) ?_
        exact g_zret h ⟨by simp_all [zB, sSo], rfl⟩ (Nat.le_refl _) (Nat.le_refl _) (by first | rfl | exact zB_nar _) dX4_isSo_45
      · refine g_iconst (v := 1) h dX4_isSo_27 (by decide) ?_
        refine g_goto (tgt := 45) h dX4_isSo_28 (by decide) ?_
        exact g_zret h ⟨by simp_all [zB, sSo], rfl⟩ (Nat.le_refl _) (Nat.le_refl _) (by first | rfl | exact zB_nar _) dX4_isSo_45
  · refine g_iload_n (i := 1) h dX4_isSo_4 rfl rfl ?_
    refine g_iload_n (i := 2) h dX4_isSo_5 rfl rfl ?_
    refine g_icmp_ne (tgt := 13) h dX4_isSo_6 (by decide) (fun b6 => ?_) (fun b6 => ?_)
    · refine g_iconst (v := 0) h dX4_isSo_13 (by decide) ?_
      refine g_goto (tgt := 45) h dX4_isSo_14 (by decide) ?_
      exact g_zret h ⟨by simp_all [zB, sSo], rfl⟩ (Nat.le_refl _) (Nat.le_refl _) (by first | rfl | exact zB_nar _) dX4_isSo_45
    · refine g_iconst (v := 1) h dX4_isSo_9 (by decide) ?_
      refine g_goto (tgt := 45) h dX4_isSo_10 (by decide) ?_
      exact g_zret h ⟨by simp_all [zB, sSo], rfl⟩ (Nat.le_refl _) (Nat.le_refl _) (by first | rfl | exact zB_nar _) dX4_isSo_45
theorem i32_lt_trans {a b : Int32} {n : Nat} (h0 : ¬ a < 0) (h : a < b) (hb : b = nI n) (hn : n < 2147483648) : ∃ j, j < n ∧ a = nI j := by
  subst hb
  obtain ⟨j, hj, rfl⟩ := nI_of h0
  exact ⟨j, (nI_ltI hj hn).mp h, rfl⟩
theorem ct_byteAt {l : Launch} {g : gGP} (hk : gK l g) {c0 c : gLH} {mo : Nat} {ma : Nat → Nat} {cl ll : Nat} {A : Nat → Nat → Int32} {B : Nat → Nat → Int64} (hM : MW c0 mo ma cl ll A B c) (k : Int32) (hk0 : ¬ k < 0) {sz : Nat} (hsz : A 3 0 = nI sz) (hs : sz ≤ 2000) : Ct l g yX4_byteAt hwX4_byteAt 0 0 [.ref mo, .int k] c (0) (0) (pIp (sByte (A 1) (A 3 0) k) c) := by
  refine Ct.intro hk hcX4_byteAt (by decide +kernel) (Nat.le_of_ble_eq_true rfl) (fun φ h => ?_)
  refine g_iload_n (i := 1) h dX4_byteAt_0 rfl rfl ?_
  refine g_aload_n (i := 0) h dX4_byteAt_1 rfl rfl ?_
  refine m_get (v := .int (A 3 0)) h hM f_X4_152_4 rfl dX4_byteAt_2 ?_
  refine g_icmp_ge (tgt := 21) h dX4_byteAt_5 (by decide) (fun b5 => ?_) (fun b5 => ?_)
  · refine g_iconst (v := 0) h dX4_byteAt_21 (by decide) ?_
    exact g_iret h ⟨by first | (rw [sByte, if_neg (Int32.not_lt.mpr b5)]) | (rw [sByte, if_pos (Int32.not_le.mp b5), nI_clamp (by omega)]), rfl⟩ (Nat.le_refl _) (Nat.le_refl _) dX4_byteAt_22
  · obtain ⟨j, hj, rfl⟩ := i32_lt_trans hk0 (Int32.not_le.mp b5) hsz (by omega)
    refine g_aload_n (i := 0) h dX4_byteAt_8 rfl rfl ?_
    refine m_get h hM f_X4_7_4 rfl dX4_byteAt_9 ?_
    refine g_iload_n (i := 1) h dX4_byteAt_12 rfl rfl ?_
    refine m_bald h hM (by show _ < 2000; omega) dX4_byteAt_13 ?_
    refine g_sipush (v := 255) h dX4_byteAt_14 (by decide) ?_
    refine g_iand h dX4_byteAt_17 ?_
    refine g_goto (tgt := 22) h dX4_byteAt_18 (by decide) ?_
    exact g_iret h ⟨by first | (rw [sByte, if_neg (Int32.not_lt.mpr b5)]) | (rw [sByte, if_pos (Int32.not_le.mp b5), nI_clamp (by omega)]), rfl⟩ (Nat.le_refl _) (Nat.le_refl _) dX4_byteAt_22
theorem ct_wrong {l : Launch} {g : gGP} (hk : gK l g) {c0 c : gLH} {mo : Nat} {ma : Nat → Nat} {cl ll : Nat} {A : Nat → Nat → Int32} {B : Nat → Nat → Int64} (hM : MW c0 mo ma cl ll A B c) (w p : Int32) : Ct l g yX4_wrong hwX4_wrong 0 0 [.ref mo, .int w, .int p] c (0) (0) (pI 0 (MW c0 mo ma cl ll (if A 5 0 = 0 then mA (mA A 5 0 w) 6 0 p else A) B)) := by
  refine Ct.intro hk hcX4_wrong (by decide +kernel) (Nat.le_of_ble_eq_true rfl) (fun φ h => ?_)
  refine g_aload_n (i := 0) h dX4_wrong_0 rfl rfl ?_
  refine m_get (v := .int (A 5 0)) h hM f_X4_162_4 rfl dX4_wrong_1 ?_
  refine g_if_ne (tgt := 17) h dX4_wrong_4 (by decide) (fun b4 => ?_) (fun b4 => ?_)
  · refine g_iconst (v := 0) h dX4_wrong_17 (by decide) ?_
    exact g_zret h ⟨rfl, by simp only [b4, if_true, if_false]; exact hM⟩ (Nat.le_refl _) (Nat.le_refl _) (by first | rfl | exact zB_nar _) dX4_wrong_18
  · refine g_aload_n (i := 0) h dX4_wrong_7 rfl rfl ?_
    refine g_iload_n (i := 1) h dX4_wrong_8 rfl rfl ?_
    refine m_puti h hM mp_5 fp_X4_162_4 dX4_wrong_9 (fun c hM => ?_)
    refine g_aload_n (i := 0) h dX4_wrong_12 rfl rfl ?_
    refine g_iload_n (i := 2) h dX4_wrong_13 rfl rfl ?_
    refine m_puti h hM mp_6 fp_X4_13_4 dX4_wrong_14 (fun c hM => ?_)
    refine g_iconst (v := 0) h dX4_wrong_17 (by decide) ?_
    exact g_zret h ⟨rfl, by simp only [b4, if_true, if_false]; exact hM⟩ (Nat.le_refl _) (Nat.le_refl _) (by first | rfl | exact zB_nar _) dX4_wrong_18
def sIsPass (A : Nat → Nat → Int32) (t u : Int32) : Bool := !decide (t < 0) && !decide (A 25 0 ≤ t) && !decide (u < 0) && !decide (A 31 0 ≤ u)
theorem ct_isPass {l : Launch} {g : gGP} (hk : gK l g) {c0 c : gLH} {mo : Nat} {ma : Nat → Nat} {cl ll : Nat} {A : Nat → Nat → Int32} {B : Nat → Nat → Int64} (hM : MW c0 mo ma cl ll A B c) (t u : Int32) : Ct l g yX4_isPass hwX4_isPass 0 0 [.ref mo, .int t, .int u] c (0) (0) (pIp (zB (sIsPass A t u)) c) := by
  refine Ct.intro hk hcX4_isPass (by decide +kernel) (Nat.le_of_ble_eq_true rfl) (fun φ h => ?_)
  refine g_iload_n (i := 1) h dX4_isPass_0 rfl rfl ?_
  refine g_if_lt (tgt := 28) h dX4_isPass_1 (by decide) (fun b1 => ?_) (fun b1 => ?_)
  · refine g_iconst (v := 0) h dX4_isPass_28 (by decide) ?_
    exact g_zret h ⟨by simp [zB, sIsPass, b1], rfl⟩ (Nat.le_refl _) (Nat.le_refl _) (by first | rfl | exact zB_nar _) dX4_isPass_29
  · refine g_iload_n (i := 1) h dX4_isPass_4 rfl rfl ?_
    refine g_aload_n (i := 0) h dX4_isPass_5 rfl rfl ?_
    refine m_get (v := .int (A 25 0)) h hM f_X4_324_4 rfl dX4_isPass_6 ?_
    refine g_icmp_ge (tgt := 28) h dX4_isPass_9 (by decide) (fun b9 => ?_) (fun b9 => ?_)
    · refine g_iconst (v := 0) h dX4_isPass_28 (by decide) ?_
      exact g_zret h ⟨by simp [zB, sIsPass, b1, b9], rfl⟩ (Nat.le_refl _) (Nat.le_refl _) (by first | rfl | exact zB_nar _) dX4_isPass_29
    · refine g_iload_n (i := 2) h dX4_isPass_12 rfl rfl ?_
      refine g_if_lt (tgt := 28) h dX4_isPass_13 (by decide) (fun b13 => ?_) (fun b13 => ?_)
      · refine g_iconst (v := 0) h dX4_isPass_28 (by decide) ?_
        exact g_zret h ⟨by simp [zB, sIsPass, b1, b9, b13], rfl⟩ (Nat.le_refl _) (Nat.le_refl _) (by first | rfl | exact zB_nar _) dX4_isPass_29
      · refine g_iload_n (i := 2) h dX4_isPass_16 rfl rfl ?_
        refine g_aload_n (i := 0) h dX4_isPass_17 rfl rfl ?_
        refine m_get (v := .int (A 31 0)) h hM f_X4_321_4 rfl dX4_isPass_18 ?_
        refine g_icmp_ge (tgt := 28) h dX4_isPass_21 (by decide) (fun b21 => ?_) (fun b21 => ?_)
        · refine g_iconst (v := 0) h dX4_isPass_28 (by decide) ?_
          exact g_zret h ⟨by simp [zB, sIsPass, b1, b9, b13, b21], rfl⟩ (Nat.le_refl _) (Nat.le_refl _) (by first | rfl | exact zB_nar _) dX4_isPass_29
        · refine g_iconst (v := 1) h dX4_isPass_24 (by decide) ?_
          refine g_goto (tgt := 29) h dX4_isPass_25 (by decide) ?_
          exact g_zret h ⟨by simp [zB, sIsPass, b1, b9, b13, b21], rfl⟩ (Nat.le_refl _) (Nat.le_refl _) (by first | rfl | exact zB_nar _) dX4_isPass_29
def sNo (k n : Int32) : Bool := decide (k < 0) || !decide (k < n)
theorem ct_no {l : Launch} {g : gGP} (hk : gK l g) {c0 c : gLH} {mo : Nat} {ma : Nat → Nat} {cl ll : Nat} {A : Nat → Nat → Int32} {B : Nat → Nat → Int64} (hM : MW c0 mo ma cl ll A B c) (k n : Int32) : Ct l g yX4_no hwX4_no 0 0 [.ref mo, .int k, .int n] c (0) (0) (pI (zB (sNo k n)) (MW c0 mo ma cl ll (mA A 0 0 (zB (sNo k n))) B)) := by
  refine Ct.intro hk hcX4_no (by decide +kernel) (Nat.le_of_ble_eq_true rfl) (fun φ h => ?_)
  refine g_aload_n (i := 0) h dX4_no_0 rfl rfl ?_
  refine g_iload_n (i := 1) h dX4_no_1 rfl rfl ?_
  refine g_if_lt (tgt := 10) h dX4_no_2 (by decide) (fun b2 => ?_) (fun b2 => ?_)
  · refine g_iconst (v := 1) h dX4_no_10 (by decide) ?_
    refine g_goto (tgt := 15) h dX4_no_11 (by decide) ?_
    refine m_puti h hM mp_0 fp_X4_146_4 dX4_no_15 (fun c hM => ?_)
    refine g_aload_n (i := 0) h dX4_no_18 rfl rfl ?_
    refine m_get h hM f_X4_146_4 rfl dX4_no_19 ?_
    rw [mA_rd]
    refine g_if_le (tgt := 29) h dX4_no_22 (by decide) (fun b22 => ?_) (fun b22 => ?_)
    · refine g_iconst (v := 0) h dX4_no_29 (by decide) ?_
      first | exact absurd b22 (by decide) | exact g_zret h ⟨by first | simp [zB, sNo, b2, b22] | simp_all [zB, sNo], by first | (rw [show zB (sNo k n) = 1 by simp [zB, sNo, b2, b22]]; exact hM) | (rw [show zB (sNo k n) = 0 by simp [zB, sNo, b2, b22]]; exact hM)⟩ (Nat.le_refl _) (Nat.le_refl _) rfl dX4_no_30
    · refine g_iconst (v := 1) h dX4_no_25 (by decide) ?_
      refine g_goto (tgt := 30) h dX4_no_26 (by decide) ?_
      first | exact absurd b22 (by decide) | exact g_zret h ⟨by first | simp [zB, sNo, b2, b22] | simp_all [zB, sNo], by first | (rw [show zB (sNo k n) = 1 by simp [zB, sNo, b2, b22]]; exact hM) | (rw [show zB (sNo k n) = 0 by simp [zB, sNo, b2, b22]]; exact hM)⟩ (Nat.le_refl _) (Nat.le_refl _) rfl dX4_no_30
  · refine g_iload_n (i := 1) h dX4_no_5 rfl rfl ?_
    refine g_iload_n (i := 2) h dX4_no_6 rfl rfl ?_
    refine g_icmp_lt (tgt := 14) h dX4_no_7 (by decide) (fun b7 => ?_) (fun b7 => ?_)
    · refine g_iconst (v := 0) h dX4_no_14 (by decide) ?_
      refine m_puti h hM mp_0 fp_X4_146_4 dX4_no_15 (fun c hM => ?_)
      refine g_aload_n (i := 0) h dX4_no_18 rfl rfl ?_
      refine m_get h hM f_X4_146_4 rfl dX4_no_19 ?_
      rw [mA_rd]
      refine g_if_le (tgt := 29) h dX4_no_22 (by decide) (fun b22 => ?_) (fun b22 => ?_)
      · refine g_iconst (v := 0) h dX4_no_29 (by decide) ?_
        first | exact absurd b22 (by decide) | exact g_zret h ⟨by first | simp [zB, sNo, b2, b7, b22] | simp_all [zB, sNo], by first | (rw [show zB (sNo k n) = 1 by simp [zB, sNo, b2, b7, b22]]; exact hM) | (rw [show zB (sNo k n) = 0 by simp [zB, sNo, b2, b7, b22]]; exact hM)⟩ (Nat.le_refl _) (Nat.le_refl _) rfl dX4_no_30
      · refine g_iconst (v := 1) h dX4_no_25 (by decide) ?_
        refine g_goto (tgt := 30) h dX4_no_26 (by decide) ?_
        first | exact absurd b22 (by decide) | exact g_zret h ⟨by first | simp [zB, sNo, b2, b7, b22] | simp_all [zB, sNo], by first | (rw [show zB (sNo k n) = 1 by simp [zB, sNo, b2, b7, b22]]; exact hM) | (rw [show zB (sNo k n) = 0 by simp [zB, sNo, b2, b7, b22]]; exact hM)⟩ (Nat.le_refl _) (Nat.le_refl _) rfl dX4_no_30
    · refine g_iconst (v := 1) h dX4_no_10 (by decide) ?_
      refine g_goto (tgt := 15) h dX4_no_11 (by decide) ?_
      refine m_puti h hM mp_0 fp_X4_146_4 dX4_no_15 (fun c hM => ?_)
      refine g_aload_n (i := 0) h dX4_no_18 rfl rfl ?_
      refine m_get h hM f_X4_146_4 rfl dX4_no_19 ?_
      rw [mA_rd]
      refine g_if_le (tgt := 29) h dX4_no_22 (by decide) (fun b22 => ?_) (fun b22 => ?_)
      · refine g_iconst (v := 0) h dX4_no_29 (by decide) ?_
        first | exact absurd b22 (by decide) | exact g_zret h ⟨by first | simp [zB, sNo, b2, b7, b22] | simp_all [zB, sNo], by first | (rw [show zB (sNo k n) = 1 by simp [zB, sNo, b2, b7, b22]]; exact hM) | (rw [show zB (sNo k n) = 0 by simp [zB, sNo, b2, b7, b22]]; exact hM)⟩ (Nat.le_refl _) (Nat.le_refl _) rfl dX4_no_30
      · refine g_iconst (v := 1) h dX4_no_25 (by decide) ?_
        refine g_goto (tgt := 30) h dX4_no_26 (by decide) ?_
        first | exact absurd b22 (by decide) | exact g_zret h ⟨by first | simp [zB, sNo, b2, b7, b22] | simp_all [zB, sNo], by first | (rw [show zB (sNo k n) = 1 by simp [zB, sNo, b2, b7, b22]]; exact hM) | (rw [show zB (sNo k n) = 0 by simp [zB, sNo, b2, b7, b22]]; exact hM)⟩ (Nat.le_refl _) (Nat.le_refl _) rfl dX4_no_30
def sTakes (w : Int64) : Int64 := if 50 ≤ w then 50 else w
theorem ct_takes {l : Launch} {g : gGP} (hk : gK l g) {c0 c : gLH} {mo : Nat} {ma : Nat → Nat} {cl ll : Nat} {A : Nat → Nat → Int32} {B : Nat → Nat → Int64} (hM : MW c0 mo ma cl ll A B c) (k : Nat) (hk12 : k < 12) : Ct l g yX4_takes hwX4_takes 0 0 [.ref mo, .int (nI k)] c (0) (0) (pLp (sTakes (B 27 k)) c) := by
  refine Ct.intro hk hcX4_takes (by decide +kernel) (Nat.le_of_ble_eq_true rfl) (fun φ h => ?_)
  refine g_aload_n (i := 0) h dX4_takes_0 rfl rfl ?_
  refine m_get h hM f_X4_66_4 rfl dX4_takes_1 ?_
  refine g_iload_n (i := 1) h dX4_takes_4 rfl rfl ?_
  refine m_lald (k := 27) (x := B 27 _) h hM rfl (by show _ < 12; omega) rfl dX4_takes_5 ?_
  refine g_ldc2 (v := 50) h dX4_takes_6 q2208 ?_
  refine g_lcmp h dX4_takes_9 ?_
  refine g_if_ge (tgt := 22) h dX4_takes_10 (by decide) (fun b10 => ?_) (fun b10 => ?_)
  · rw [lg_cmp_ge] at b10
    refine g_ldc2 (v := 50) h dX4_takes_22 q2208 ?_
    exact g_lret h ⟨by simp only [sTakes, b10, if_true, if_false], rfl⟩ (Nat.le_refl _) (Nat.le_refl _) dX4_takes_25
  · rw [lg_cmp_ge] at b10
    refine g_aload_n (i := 0) h dX4_takes_13 rfl rfl ?_
    refine m_get h hM f_X4_66_4 rfl dX4_takes_14 ?_
    refine g_iload_n (i := 1) h dX4_takes_17 rfl rfl ?_
    refine m_lald (k := 27) (x := B 27 _) h hM rfl (by show _ < 12; omega) rfl dX4_takes_18 ?_
    refine g_goto (tgt := 25) h dX4_takes_19 (by decide) ?_
    exact g_lret h ⟨by simp only [sTakes, b10, if_true, if_false], rfl⟩ (Nat.le_refl _) (Nat.le_refl _) dX4_takes_25
theorem bad1 {c0 c : gLH} {mo : Nat} {ma : Nat → Nat} {cl ll : Nat} {A A' : Nat → Nat → Int32} {B : Nat → Nat → Int64} (h : MW c0 mo ma cl ll (if true = true then A else A') B c) : MW c0 mo ma cl ll A B c := h
theorem bad0 {c0 c : gLH} {mo : Nat} {ma : Nat → Nat} {cl ll : Nat} {A A' : Nat → Nat → Int32} {B : Nat → Nat → Int64} (h : MW c0 mo ma cl ll (if false = true then A else A') B c) : MW c0 mo ma cl ll A' B c := h
