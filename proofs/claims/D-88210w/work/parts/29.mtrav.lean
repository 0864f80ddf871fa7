/-! THE MODEL: box, journal, paidAnywhere, traveller -/
set_option maxRecDepth 100000
/-- the box on a day, out of the first n lines -/
def sBox (D S : Nat → Int32) (on : Int32) : Nat → Int64
  | 0 => 0
  | n + 1 => sBox D S on n + (if on < D n then 0 else (S n).toInt64)
theorem ct_box {l : Launch} {g : gGP} (hk : gK l g) {c0 c : gLH} {mo : Nat} {ma : Nat → Nat} {cl ll : Nat} {A : Nat → Nat → Int32} {B : Nat → Nat → Int64} (hM : MW c0 mo ma cl ll A B c) (d : Int32) {nl : Nat} (hnl : A 42 0 = nI nl) (hle : nl ≤ ll) : Ct l g yX4_box hwX4_box 1 40 [.ref mo, .int d] c (0) (0) (pL (if sDayK d = 0 then sBox (A 38) (A 41) d nl else 0) (MW c0 mo ma cl ll (if sDayK d = 0 then mA A 0 0 0 else mA (mA A 0 0 0) 0 0 (nI (sDayK d))) B)) := by
  refine Ct.intro hk hcX4_box (by decide +kernel) (Nat.le_of_ble_eq_true rfl) (fun φ h => ?_)
  refine g_aload_n (i := 0) h dX4_box_0 rfl rfl ?_
  refine g_iconst (v := 0) h dX4_box_1 (by decide) ?_
  refine m_puti h hM mp_0 fp_X4_146_4 dX4_box_2 (fun c hM => ?_)
  refine g_aload_n (i := 0) h dX4_box_5 rfl rfl ?_
  refine g_iload_n (i := 1) h dX4_box_6 rfl rfl ?_
  refine g_if_lt (tgt := 17) h dX4_box_7 (by decide) (fun b7 => ?_) (fun b7 => ?_)
  · refine g_iconst (v := 1) h dX4_box_17 (by decide) ?_
    refine g_goto (tgt := 22) h dX4_box_18 (by decide) ?_
    refine g_iconst (v := 1) h dX4_box_22 (by decide) ?_
    refine g_invV h (ct_bad h.k hM true 1) hcX4_bad w_X4_308 rfl rfl hM.obj (Nat.le_of_ble_eq_true rfl) ⟨Nat.le_of_ble_eq_true rfl, Nat.le_of_ble_eq_true rfl⟩ (by refine ⟨?_, ?_⟩ <;> first | exact Nat.le_refl _ | exact Nat.zero_le _ | (dsimp only; omega)) dX4_box_23 (gkr_i (fun c hM => ?_)) gkt_i
    replace hM := bad1 hM
    refine g_if_eq (tgt := 31) h dX4_box_26 (by decide) (fun _bz => absurd _bz (by decide)) (fun _bz => ?_)
    refine g_lconst (v := 0) h dX4_box_29 (by decide) ?_
    exact g_lret h ⟨by simp [sDayK, b7] <;> rfl, by simp [sDayK, b7]; exact hM⟩ (Nat.le_refl _) (Nat.le_refl _) dX4_box_30
  · refine g_iload_n (i := 1) h dX4_box_10 rfl rfl ?_
    refine g_sipush (v := 9999) h dX4_box_11 (by decide) ?_
    refine g_icmp_le (tgt := 21) h dX4_box_14 (by decide) (fun b14 => ?_) (fun b14 => ?_)
    · refine g_iconst (v := 0) h dX4_box_21 (by decide) ?_
      refine g_iconst (v := 1) h dX4_box_22 (by decide) ?_
      refine g_invV h (ct_bad h.k hM false 1) hcX4_bad w_X4_308 rfl rfl hM.obj (Nat.le_of_ble_eq_true rfl) ⟨Nat.le_of_ble_eq_true rfl, Nat.le_of_ble_eq_true rfl⟩ (by refine ⟨?_, ?_⟩ <;> first | exact Nat.le_refl _ | exact Nat.zero_le _ | (dsimp only; omega)) dX4_box_23 (gkr_i (fun c hM => ?_)) gkt_i
      replace hM := bad0 hM
      refine g_if_eq (tgt := 31) h dX4_box_26 (by decide) (fun _bz => ?_) (fun _bz => absurd _bz (by decide))
      refine g_lconst (v := 0) h dX4_box_31 (by decide) ?_
      refine g_lstore_n (i := 2) h dX4_box_32 rfl (by decide) ?_
      refine g_iconst (v := 0) h dX4_box_33 (by decide) ?_
      refine g_istore h dX4_box_34 (by decide) ?_
      have hD : sDayK d = 0 := by simp [sDayK, b7, b14]
      have hll := hM.2.2
      have loop : ∀ n, n ≤ nl → G φ (gQ φ (pL (if sDayK d = 0 then sBox (A 38) (A 41) d nl else 0) (MW c0 mo ma cl ll (if sDayK d = 0 then mA A 0 0 0 else mA (mA A 0 0 0) 0 0 (nI (sDayK d))) B)) 0 0) 36 [(0, .ref mo), (1, .int d), (2, .long (sBox (A 38) (A 41) d n)), (4, .int (nI n))] [] c 0 0 := by
        refine gloop ?_ ?_
        · skip
          refine g_iload h dX4_box_36 rfl ?_
          refine g_aload_n (i := 0) h dX4_box_38 rfl rfl ?_
          refine m_get (v := .int (A 42 0)) h hM f_X4_370_4 rfl dX4_box_39 ?_
          refine G.int hnl ?_
          refine g_icmp_ge (tgt := 77) h dX4_box_42 (by decide) (fun b42 => ?_) (fun _bz => absurd _bz (fun q => absurd (nI_le (Nat.le_refl nl) (by omega)) q))
          refine g_lload_n (i := 2) h dX4_box_77 rfl rfl ?_
          exact g_lret h ⟨by rw [hD]; rfl, by rw [hD]; exact hM⟩ (Nat.le_refl _) (Nat.le_refl _) dX4_box_78
        · intro n hn ih
          refine g_iload h dX4_box_36 rfl ?_
          refine g_aload_n (i := 0) h dX4_box_38 rfl rfl ?_
          refine m_get (v := .int (A 42 0)) h hM f_X4_370_4 rfl dX4_box_39 ?_
          refine G.int hnl ?_
          refine g_icmp_ge (tgt := 77) h dX4_box_42 (by decide) (fun _bz => absurd _bz (nI_ge hn (by omega))) (fun b42 => ?_)
          refine g_lload_n (i := 2) h dX4_box_45 rfl rfl ?_
          refine g_aload_n (i := 0) h dX4_box_46 rfl rfl ?_
          refine m_get h hM f_X4_86_4 rfl dX4_box_47 ?_
          refine g_iload h dX4_box_50 rfl ?_
          refine m_iald (k := 38) (x := A 38 _) h hM rfl rfl (by show _ < ll; omega) rfl dX4_box_52 ?_
          refine g_iload_n (i := 1) h dX4_box_53 rfl rfl ?_
          refine g_icmp_gt (tgt := 68) h dX4_box_54 (by decide) (fun b54 => ?_) (fun b54 => ?_)
          · refine g_lconst (v := 0) h dX4_box_68 (by decide) ?_
            refine g_ladd h dX4_box_69 ?_
            refine g_lstore_n (i := 2) h dX4_box_70 rfl (by decide) ?_
            first | (with_reducible refine g_iincN h dX4_box_71 rfl (by decide) ?_) | refine g_iinc1 h dX4_box_71 rfl (by decide) ?_
            refine g_goto (tgt := 36) h dX4_box_74 (by decide) ?_
            simp only [sBox, b42, b54, if_true, if_false] at ih
            exact G.to ih ⟨rfl, rfl, rfl, rfl, trivial⟩
          · refine g_aload_n (i := 0) h dX4_box_57 rfl rfl ?_
            refine m_get h hM f_X4_95_4 rfl dX4_box_58 ?_
            refine g_iload h dX4_box_61 rfl ?_
            refine m_iald (k := 41) (x := A 41 _) h hM rfl rfl (by show _ < ll; omega) rfl dX4_box_63 ?_
            refine g_i2l h dX4_box_64 ?_
            refine g_goto (tgt := 69) h dX4_box_65 (by decide) ?_
            refine g_ladd h dX4_box_69 ?_
            refine g_lstore_n (i := 2) h dX4_box_70 rfl (by decide) ?_
            first | (with_reducible refine g_iincN h dX4_box_71 rfl (by decide) ?_) | refine g_iinc1 h dX4_box_71 rfl (by decide) ?_
            refine g_goto (tgt := 36) h dX4_box_74 (by decide) ?_
            simp only [sBox, b42, b54, if_true, if_false] at ih
            exact G.to ih ⟨rfl, rfl, rfl, rfl, trivial⟩
      exact G.to (loop 0 (Nat.zero_le _)) ⟨rfl, rfl, rfl, rfl, trivial⟩
    · refine g_iconst (v := 1) h dX4_box_17 (by decide) ?_
      refine g_goto (tgt := 22) h dX4_box_18 (by decide) ?_
      refine g_iconst (v := 1) h dX4_box_22 (by decide) ?_
      refine g_invV h (ct_bad h.k hM true 1) hcX4_bad w_X4_308 rfl rfl hM.obj (Nat.le_of_ble_eq_true rfl) ⟨Nat.le_of_ble_eq_true rfl, Nat.le_of_ble_eq_true rfl⟩ (by refine ⟨?_, ?_⟩ <;> first | exact Nat.le_refl _ | exact Nat.zero_le _ | (dsimp only; omega)) dX4_box_23 (gkr_i (fun c hM => ?_)) gkt_i
      replace hM := bad1 hM
      refine g_if_eq (tgt := 31) h dX4_box_26 (by decide) (fun _bz => absurd _bz (by decide)) (fun _bz => ?_)
      refine g_lconst (v := 0) h dX4_box_29 (by decide) ?_
      exact g_lret h ⟨by simp [sDayK, b7, b14] <;> rfl, by simp [sDayK, b7, b14]; exact hM⟩ (Nat.le_refl _) (Nat.le_refl _) dX4_box_30
def sPaidAny (A : Nat → Nat → Int32) (t : Nat) : Nat → Bool
  | 0 => false
  | n + 1 => if sPaidAny A t n = true then true else decide (A 24 (8 * t + n) = A 32 0)
theorem ct_paidAnywhere {l : Launch} {g : gGP} (hk : gK l g) {c0 c : gLH} {mo : Nat} {ma : Nat → Nat} {cl ll : Nat} {A : Nat → Nat → Int32} {B : Nat → Nat → Int64} (hM : MW c0 mo ma cl ll A B c) {t ng : Nat} (ht : t < 60) (hng : A 31 0 = nI ng) (hg8 : ng ≤ 8) : Ct l g yX4_paidAnywhere hwX4_paidAnywhere 0 0 [.ref mo, .int (nI t)] c (0) (0) (pIp (zB (sPaidAny A t ng)) c) := by
  refine Ct.intro hk hcX4_paidAnywhere (by decide +kernel) (Nat.le_of_ble_eq_true rfl) (fun φ h => ?_)
  have loop : ∀ n, n ≤ ng → G φ (gQ φ (pIp (zB (sPaidAny A t ng)) c) 0 0) 4 [(0, .ref mo), (1, .int (nI t)), (2, .int (zB (sPaidAny A t n))), (3, .int (nI n))] [] c 0 0 := by
    refine gloop ?_ ?_
    · skip
      refine g_iload_n (i := 3) h dX4_paidAnywhere_4 rfl rfl ?_
      refine g_aload_n (i := 0) h dX4_paidAnywhere_5 rfl rfl ?_
      refine m_get (v := .int (A 31 0)) h hM f_X4_321_4 rfl dX4_paidAnywhere_6 ?_
      refine G.int hng ?_
      refine g_icmp_ge (tgt := 46) h dX4_paidAnywhere_9 (by decide) (fun b9 => ?_) (fun _bz => absurd _bz (fun q => absurd (nI_le (Nat.le_refl ng) (by omega)) q))
      refine g_iload_n (i := 2) h dX4_paidAnywhere_46 rfl rfl ?_
      exact g_zret h ⟨rfl, rfl⟩ (Nat.le_refl _) (Nat.le_refl _) (by first | rfl | exact zB_nar _) dX4_paidAnywhere_47
    · intro n hn ih
      refine g_iload_n (i := 3) h dX4_paidAnywhere_4 rfl rfl ?_
      refine g_aload_n (i := 0) h dX4_paidAnywhere_5 rfl rfl ?_
      refine m_get (v := .int (A 31 0)) h hM f_X4_321_4 rfl dX4_paidAnywhere_6 ?_
      refine G.int hng ?_
      refine g_icmp_ge (tgt := 46) h dX4_paidAnywhere_9 (by decide) (fun _bz => absurd _bz (nI_ge hn (by omega))) (fun b9 => ?_)
      refine g_iload_n (i := 2) h dX4_paidAnywhere_12 rfl rfl ?_
      refine g_if_ne (tgt := 34) h dX4_paidAnywhere_13 (by decide) (fun b13 => ?_) (fun b13 => ?_)
      · rw [zB_n0] at b13
        refine g_iconst (v := 1) h dX4_paidAnywhere_34 (by decide) ?_
        refine g_goto (tgt := 39) h dX4_paidAnywhere_35 (by decide) ?_
        refine g_istore_n (i := 2) h dX4_paidAnywhere_39 rfl (by decide) ?_
        first | (with_reducible refine g_iincN h dX4_paidAnywhere_40 rfl (by decide) ?_) | refine g_iinc1 h dX4_paidAnywhere_40 rfl (by decide) ?_
        refine g_goto (tgt := 4) h dX4_paidAnywhere_43 (by decide) ?_
        simp [sPaidAny, b9, b13] at ih
        exact G.to ih ⟨rfl, rfl, rfl, rfl, trivial⟩
      · rw [zB_0] at b13
        refine g_aload_n (i := 0) h dX4_paidAnywhere_16 rfl rfl ?_
        refine m_get h hM f_X4_60_4 rfl dX4_paidAnywhere_17 ?_
        refine g_bipush (v := nI 8) h dX4_paidAnywhere_20 (by decide) ?_
        refine g_iload_n (i := 1) h dX4_paidAnywhere_22 rfl rfl ?_
        first | (with_reducible refine g_imulN h dX4_paidAnywhere_23 ?_) | refine g_imul h dX4_paidAnywhere_23 ?_
        refine g_iload_n (i := 3) h dX4_paidAnywhere_24 rfl rfl ?_
        first | (with_reducible refine g_iaddN h dX4_paidAnywhere_25 ?_) | refine g_iadd h dX4_paidAnywhere_25 ?_
        refine m_iald (k := 24) (x := A 24 _) h hM rfl rfl (by show _ < 480; omega) rfl dX4_paidAnywhere_26 ?_
        refine g_aload_n (i := 0) h dX4_paidAnywhere_27 rfl rfl ?_
        refine m_get (v := .int (A 32 0)) h hM f_X4_331_4 rfl dX4_paidAnywhere_28 ?_
        refine g_icmp_ne (tgt := 38) h dX4_paidAnywhere_31 (by decide) (fun b31 => ?_) (fun b31 => ?_)
        · refine g_iconst (v := 0) h dX4_paidAnywhere_38 (by decide) ?_
          refine g_istore_n (i := 2) h dX4_paidAnywhere_39 rfl (by decide) ?_
          first | (with_reducible refine g_iincN h dX4_paidAnywhere_40 rfl (by decide) ?_) | refine g_iinc1 h dX4_paidAnywhere_40 rfl (by decide) ?_
          refine g_goto (tgt := 4) h dX4_paidAnywhere_43 (by decide) ?_
          simp [sPaidAny, b9, b13, b31] at ih
          exact G.to ih ⟨rfl, rfl, rfl, rfl, trivial⟩
        · refine g_iconst (v := 1) h dX4_paidAnywhere_34 (by decide) ?_
          refine g_goto (tgt := 39) h dX4_paidAnywhere_35 (by decide) ?_
          refine g_istore_n (i := 2) h dX4_paidAnywhere_39 rfl (by decide) ?_
          first | (with_reducible refine g_iincN h dX4_paidAnywhere_40 rfl (by decide) ?_) | refine g_iinc1 h dX4_paidAnywhere_40 rfl (by decide) ?_
          refine g_goto (tgt := 4) h dX4_paidAnywhere_43 (by decide) ?_
          simp [sPaidAny, b9, b13, b31] at ih
          exact G.to ih ⟨rfl, rfl, rfl, rfl, trivial⟩
  refine g_iconst (v := 0) h dX4_paidAnywhere_0 (by decide) ?_
  refine g_istore_n (i := 2) h dX4_paidAnywhere_1 rfl (by decide) ?_
  refine g_iconst (v := 0) h dX4_paidAnywhere_2 (by decide) ?_
  refine g_istore_n (i := 3) h dX4_paidAnywhere_3 rfl (by decide) ?_
  exact G.to (loop 0 (Nat.zero_le _)) ⟨rfl, rfl, rfl, rfl, trivial⟩
def sTravK (A : Nat → Nat → Int32) (k w b i : Int32) : Nat := if k < 0 then 1 else if 6 < k then 1 else if w < 0 then 1 else if 20 < w then 1 else if b < 0 then 1 else if 10000 < b then 1 else if i < 0 then 1 else if i ≤ 15 then (if A 25 0 = 60 then 2 else 0) else 1
/-- no pass, none paid, at the first n gates -/
def sTravN (A : Nat → Nat → Int32) (t : Nat) : Nat → (Nat → Nat → Int32)
  | 0 => A
  | n + 1 => mA (mA (sTravN A t n) 23 (8 * t + n) (-1)) 24 (8 * t + n) (-1)
theorem sTravN_k (A : Nat → Nat → Int32) (t : Nat) {k : Nat} (h1 : k ≠ 23) (h2 : k ≠ 24) : ∀ n, sTravN A t n k = A k := by
  intro n
  induction n with
  | zero => rfl
  | succ n ih =>
    show mA (mA (sTravN A t n) 23 (8 * t + n) (-1)) 24 (8 * t + n) (-1) k = A k
    rw [mA_n _ _ _ h2, mA_n _ _ _ h1, ih]
def sTravA (A : Nat → Nat → Int32) (t : Nat) (k w b i : Int32) : Nat → Nat → Int32 := mA (sTravN (mA (mA (mA (mA A 19 t k) 20 t w) 21 t b) 22 t i) t 8) 25 0 (nI (t + 1))
theorem ct_traveller {l : Launch} {g : gGP} (hk : gK l g) {c0 c : gLH} {mo : Nat} {ma : Nat → Nat} {cl ll : Nat} {A : Nat → Nat → Int32} {B : Nat → Nat → Int64} (hM : MW c0 mo ma cl ll A B c) (k w b i : Int32) {t : Nat} (ht0 : A 25 0 = nI t) (ht : t ≤ 60) : Ct l g yX4_traveller hwX4_traveller 1 40 [.ref mo, .int k, .int w, .int b, .int i] c (0) (0) (pI (if sTravK A k w b i = 0 then nI t else 0) (MW c0 mo ma cl ll (if sTravK A k w b i = 0 then sTravA (mA A 0 0 0) t k w b i else mA (mA A 0 0 0) 0 0 (nI (sTravK A k w b i))) B)) := by
  refine Ct.intro hk hcX4_traveller (by decide +kernel) (Nat.le_of_ble_eq_true rfl) (fun φ h => ?_)
  refine g_aload_n (i := 0) h dX4_traveller_0 rfl rfl ?_
  refine g_iconst (v := 0) h dX4_traveller_1 (by decide) ?_
  refine m_puti h hM mp_0 fp_X4_146_4 dX4_traveller_2 (fun c hM => ?_)
  refine g_iload_n (i := 1) h dX4_traveller_5 rfl rfl ?_
  refine g_if_lt (tgt := 48) h dX4_traveller_6 (by decide) (fun b6 => ?_) (fun b6 => ?_)
  · refine g_iconst (v := 1) h dX4_traveller_48 (by decide) ?_
    refine g_goto (tgt := 53) h dX4_traveller_49 (by decide) ?_
    refine g_istore h dX4_traveller_53 (by decide) ?_
    refine g_aload_n (i := 0) h dX4_traveller_55 rfl rfl ?_
    refine g_iload h dX4_traveller_56 rfl ?_
    refine g_iconst (v := 1) h dX4_traveller_58 (by decide) ?_
    refine g_invV h (ct_bad h.k hM true 1) hcX4_bad w_X4_308 rfl rfl hM.obj (Nat.le_of_ble_eq_true rfl) ⟨Nat.le_of_ble_eq_true rfl, Nat.le_of_ble_eq_true rfl⟩ (by refine ⟨?_, ?_⟩ <;> first | exact Nat.le_refl _ | exact Nat.zero_le _ | (dsimp only; omega)) dX4_traveller_59 (gkr_i (fun c hM => ?_)) gkt_i
    replace hM := bad1 hM
    refine g_if_ne (tgt := 87) h dX4_traveller_62 (by decide) (fun _bz => ?_) (fun _bz => absurd _bz (by decide))
    refine g_iconst (v := 0) h dX4_traveller_87 (by decide) ?_
    exact g_iret h ⟨by simp [sTravK, b6] <;> rfl, by simp [sTravK, b6]; exact hM⟩ (Nat.le_refl _) (Nat.le_refl _) dX4_traveller_88
  · refine g_iload_n (i := 1) h dX4_traveller_9 rfl rfl ?_
    refine g_bipush (v := 6) h dX4_traveller_10 (by decide) ?_
    refine g_icmp_gt (tgt := 48) h dX4_traveller_12 (by decide) (fun b12 => ?_) (fun b12 => ?_)
    · refine g_iconst (v := 1) h dX4_traveller_48 (by decide) ?_
      refine g_goto (tgt := 53) h dX4_traveller_49 (by decide) ?_
      refine g_istore h dX4_traveller_53 (by decide) ?_
      refine g_aload_n (i := 0) h dX4_traveller_55 rfl rfl ?_
      refine g_iload h dX4_traveller_56 rfl ?_
      refine g_iconst (v := 1) h dX4_traveller_58 (by decide) ?_
      refine g_invV h (ct_bad h.k hM true 1) hcX4_bad w_X4_308 rfl rfl hM.obj (Nat.le_of_ble_eq_true rfl) ⟨Nat.le_of_ble_eq_true rfl, Nat.le_of_ble_eq_true rfl⟩ (by refine ⟨?_, ?_⟩ <;> first | exact Nat.le_refl _ | exact Nat.zero_le _ | (dsimp only; omega)) dX4_traveller_59 (gkr_i (fun c hM => ?_)) gkt_i
      replace hM := bad1 hM
      refine g_if_ne (tgt := 87) h dX4_traveller_62 (by decide) (fun _bz => ?_) (fun _bz => absurd _bz (by decide))
      refine g_iconst (v := 0) h dX4_traveller_87 (by decide) ?_
      exact g_iret h ⟨by simp [sTravK, b6, b12] <;> rfl, by simp [sTravK, b6, b12]; exact hM⟩ (Nat.le_refl _) (Nat.le_refl _) dX4_traveller_88
    · refine g_iload_n (i := 2) h dX4_traveller_15 rfl rfl ?_
      refine g_if_lt (tgt := 48) h dX4_traveller_16 (by decide) (fun b16 => ?_) (fun b16 => ?_)
      · refine g_iconst (v := 1) h dX4_traveller_48 (by decide) ?_
        refine g_goto (tgt := 53) h dX4_traveller_49 (by decide) ?_
        refine g_istore h dX4_traveller_53 (by decide) ?_
        refine g_aload_n (i := 0) h dX4_traveller_55 rfl rfl ?_
        refine g_iload h dX4_traveller_56 rfl ?_
        refine g_iconst (v := 1) h dX4_traveller_58 (by decide) ?_
        refine g_invV h (ct_bad h.k hM true 1) hcX4_bad w_X4_308 rfl rfl hM.obj (Nat.le_of_ble_eq_true rfl) ⟨Nat.le_of_ble_eq_true rfl, Nat.le_of_ble_eq_true rfl⟩ (by refine ⟨?_, ?_⟩ <;> first | exact Nat.le_refl _ | exact Nat.zero_le _ | (dsimp only; omega)) dX4_traveller_59 (gkr_i (fun c hM => ?_)) gkt_i
        replace hM := bad1 hM
        refine g_if_ne (tgt := 87) h dX4_traveller_62 (by decide) (fun _bz => ?_) (fun _bz => absurd _bz (by decide))
        refine g_iconst (v := 0) h dX4_traveller_87 (by decide) ?_
        exact g_iret h ⟨by simp [sTravK, b6, b12, b16] <;> rfl, by simp [sTravK, b6, b12, b16]; exact hM⟩ (Nat.le_refl _) (Nat.le_refl _) dX4_traveller_88
      · refine g_iload_n (i := 2) h dX4_traveller_19 rfl rfl ?_
        refine g_bipush (v := 20) h dX4_traveller_20 (by decide) ?_
        refine g_icmp_gt (tgt := 48) h dX4_traveller_22 (by decide) (fun b22 => ?_) (fun b22 => ?_)
        · refine g_iconst (v := 1) h dX4_traveller_48 (by decide) ?_
          refine g_goto (tgt := 53) h dX4_traveller_49 (by decide) ?_
          refine g_istore h dX4_traveller_53 (by decide) ?_
          refine g_aload_n (i := 0) h dX4_traveller_55 rfl rfl ?_
          refine g_iload h dX4_traveller_56 rfl ?_
          refine g_iconst (v := 1) h dX4_traveller_58 (by decide) ?_
          refine g_invV h (ct_bad h.k hM true 1) hcX4_bad w_X4_308 rfl rfl hM.obj (Nat.le_of_ble_eq_true rfl) ⟨Nat.le_of_ble_eq_true rfl, Nat.le_of_ble_eq_true rfl⟩ (by refine ⟨?_, ?_⟩ <;> first | exact Nat.le_refl _ | exact Nat.zero_le _ | (dsimp only; omega)) dX4_traveller_59 (gkr_i (fun c hM => ?_)) gkt_i
          replace hM := bad1 hM
          refine g_if_ne (tgt := 87) h dX4_traveller_62 (by decide) (fun _bz => ?_) (fun _bz => absurd _bz (by decide))
          refine g_iconst (v := 0) h dX4_traveller_87 (by decide) ?_
          exact g_iret h ⟨by simp [sTravK, b6, b12, b16, b22] <;> rfl, by simp [sTravK, b6, b12, b16, b22]; exact hM⟩ (Nat.le_refl _) (Nat.le_refl _) dX4_traveller_88
        · refine g_iload_n (i := 3) h dX4_traveller_25 rfl rfl ?_
          refine g_if_lt (tgt := 48) h dX4_traveller_26 (by decide) (fun b26 => ?_) (fun b26 => ?_)
          · refine g_iconst (v := 1) h dX4_traveller_48 (by decide) ?_
            refine g_goto (tgt := 53) h dX4_traveller_49 (by decide) ?_
            refine g_istore h dX4_traveller_53 (by decide) ?_
            refine g_aload_n (i := 0) h dX4_traveller_55 rfl rfl ?_
            refine g_iload h dX4_traveller_56 rfl ?_
            refine g_iconst (v := 1) h dX4_traveller_58 (by decide) ?_
            refine g_invV h (ct_bad h.k hM true 1) hcX4_bad w_X4_308 rfl rfl hM.obj (Nat.le_of_ble_eq_true rfl) ⟨Nat.le_of_ble_eq_true rfl, Nat.le_of_ble_eq_true rfl⟩ (by refine ⟨?_, ?_⟩ <;> first | exact Nat.le_refl _ | exact Nat.zero_le _ | (dsimp only; omega)) dX4_traveller_59 (gkr_i (fun c hM => ?_)) gkt_i
            replace hM := bad1 hM
            refine g_if_ne (tgt := 87) h dX4_traveller_62 (by decide) (fun _bz => ?_) (fun _bz => absurd _bz (by decide))
            refine g_iconst (v := 0) h dX4_traveller_87 (by decide) ?_
            exact g_iret h ⟨by simp [sTravK, b6, b12, b16, b22, b26] <;> rfl, by simp [sTravK, b6, b12, b16, b22, b26]; exact hM⟩ (Nat.le_refl _) (Nat.le_refl _) dX4_traveller_88
          · refine g_iload_n (i := 3) h dX4_traveller_29 rfl rfl ?_
            refine g_sipush (v := 10000) h dX4_traveller_30 (by decide) ?_
            refine g_icmp_gt (tgt := 48) h dX4_traveller_33 (by decide) (fun b33 => ?_) (fun b33 => ?_)
            · refine g_iconst (v := 1) h dX4_traveller_48 (by decide) ?_
              refine g_goto (tgt := 53) h dX4_traveller_49 (by decide) ?_
              refine g_istore h dX4_traveller_53 (by decide) ?_
              refine g_aload_n (i := 0) h dX4_traveller_55 rfl rfl ?_
              refine g_iload h dX4_traveller_56 rfl ?_
              refine g_iconst (v := 1) h dX4_traveller_58 (by decide) ?_
              refine g_invV h (ct_bad h.k hM true 1) hcX4_bad w_X4_308 rfl rfl hM.obj (Nat.le_of_ble_eq_true rfl) ⟨Nat.le_of_ble_eq_true rfl, Nat.le_of_ble_eq_true rfl⟩ (by refine ⟨?_, ?_⟩ <;> first | exact Nat.le_refl _ | exact Nat.zero_le _ | (dsimp only; omega)) dX4_traveller_59 (gkr_i (fun c hM => ?_)) gkt_i
              replace hM := bad1 hM
              refine g_if_ne (tgt := 87) h dX4_traveller_62 (by decide) (fun _bz => ?_) (fun _bz => absurd _bz (by decide))
              refine g_iconst (v := 0) h dX4_traveller_87 (by decide) ?_
              exact g_iret h ⟨by simp [sTravK, b6, b12, b16, b22, b26, b33] <;> rfl, by simp [sTravK, b6, b12, b16, b22, b26, b33]; exact hM⟩ (Nat.le_refl _) (Nat.le_refl _) dX4_traveller_88
            · refine g_iload h dX4_traveller_36 rfl ?_
              refine g_if_lt (tgt := 48) h dX4_traveller_38 (by decide) (fun b38 => ?_) (fun b38 => ?_)
              · refine g_iconst (v := 1) h dX4_traveller_48 (by decide) ?_
                refine g_goto (tgt := 53) h dX4_traveller_49 (by decide) ?_
                refine g_istore h dX4_traveller_53 (by decide) ?_
                refine g_aload_n (i := 0) h dX4_traveller_55 rfl rfl ?_
                refine g_iload h dX4_traveller_56 rfl ?_
                refine g_iconst (v := 1) h dX4_traveller_58 (by decide) ?_
                refine g_invV h (ct_bad h.k hM true 1) hcX4_bad w_X4_308 rfl rfl hM.obj (Nat.le_of_ble_eq_true rfl) ⟨Nat.le_of_ble_eq_true rfl, Nat.le_of_ble_eq_true rfl⟩ (by refine ⟨?_, ?_⟩ <;> first | exact Nat.le_refl _ | exact Nat.zero_le _ | (dsimp only; omega)) dX4_traveller_59 (gkr_i (fun c hM => ?_)) gkt_i
                replace hM := bad1 hM
                refine g_if_ne (tgt := 87) h dX4_traveller_62 (by decide) (fun _bz => ?_) (fun _bz => absurd _bz (by decide))
                refine g_iconst (v := 0) h dX4_traveller_87 (by decide) ?_
                exact g_iret h ⟨by simp [sTravK, b6, b12, b16, b22, b26, b33, b38] <;> rfl, by simp [sTravK, b6, b12, b16, b22, b26, b33, b38]; exact hM⟩ (Nat.le_refl _) (Nat.le_refl _) dX4_traveller_88
              · refine g_iload h dX4_traveller_41 rfl ?_
                refine g_bipush (v := 15) h dX4_traveller_43 (by decide) ?_
                refine g_icmp_le (tgt := 52) h dX4_traveller_45 (by decide) (fun b45 => ?_) (fun b45 => ?_)
                · refine g_iconst (v := 0) h dX4_traveller_52 (by decide) ?_
                  refine g_istore h dX4_traveller_53 (by decide) ?_
                  refine g_aload_n (i := 0) h dX4_traveller_55 rfl rfl ?_
                  refine g_iload h dX4_traveller_56 rfl ?_
                  refine g_iconst (v := 1) h dX4_traveller_58 (by decide) ?_
                  refine g_invV h (ct_bad h.k hM false 1) hcX4_bad w_X4_308 rfl rfl hM.obj (Nat.le_of_ble_eq_true rfl) ⟨Nat.le_of_ble_eq_true rfl, Nat.le_of_ble_eq_true rfl⟩ (by refine ⟨?_, ?_⟩ <;> first | exact Nat.le_refl _ | exact Nat.zero_le _ | (dsimp only; omega)) dX4_traveller_59 (gkr_i (fun c hM => ?_)) gkt_i
                  replace hM := bad0 hM
                  refine g_if_ne (tgt := 87) h dX4_traveller_62 (by decide) (fun _bz => absurd _bz (by decide)) (fun _bz => ?_)
                  refine g_aload_n (i := 0) h dX4_traveller_65 rfl rfl ?_
                  refine g_aload_n (i := 0) h dX4_traveller_66 rfl rfl ?_
                  refine m_get (v := .int (A 25 0)) h hM f_X4_324_4 rfl dX4_traveller_67 ?_
                  refine g_bipush (v := 60) h dX4_traveller_70 (by decide) ?_
                  refine g_icmp_ne (tgt := 79) h dX4_traveller_72 (by decide) (fun b72 => ?_) (fun b72 => ?_)
                  · refine g_iconst (v := 0) h dX4_traveller_79 (by decide) ?_
                    refine g_iconst (v := 2) h dX4_traveller_80 (by decide) ?_
                    refine g_invV h (ct_bad h.k hM false 2) hcX4_bad w_X4_308 rfl rfl hM.obj (Nat.le_of_ble_eq_true rfl) ⟨Nat.le_of_ble_eq_true rfl, Nat.le_of_ble_eq_true rfl⟩ (by refine ⟨?_, ?_⟩ <;> first | exact Nat.le_refl _ | exact Nat.zero_le _ | (dsimp only; omega)) dX4_traveller_81 (gkr_i (fun c hM => ?_)) gkt_i
                    replace hM := bad0 hM
                    refine g_if_eq (tgt := 89) h dX4_traveller_84 (by decide) (fun _bz => ?_) (fun _bz => absurd _bz (by decide))
                    have ht60 := nI_nl (m := 60) ht0 b72
                    refine g_aload_n (i := 0) h dX4_traveller_89 rfl rfl ?_
                    refine m_get h hM f_X4_45_4 rfl dX4_traveller_90 ?_
                    refine g_aload_n (i := 0) h dX4_traveller_93 rfl rfl ?_
                    refine m_get (v := .int (A 25 0)) h hM f_X4_324_4 rfl dX4_traveller_94 ?_
                    refine G.int ht0 ?_
                    refine g_iload_n (i := 1) h dX4_traveller_97 rfl rfl ?_
                    refine m_iast (k := 19) h hM rfl rfl (by show _ < 60; omega) dX4_traveller_98 (fun c hM => ?_)
                    refine g_aload_n (i := 0) h dX4_traveller_99 rfl rfl ?_
                    refine m_get h hM f_X4_48_4 rfl dX4_traveller_100 ?_
                    refine g_aload_n (i := 0) h dX4_traveller_103 rfl rfl ?_
                    refine m_get (v := .int (A 25 0)) h hM f_X4_324_4 rfl dX4_traveller_104 ?_
                    refine G.int ht0 ?_
                    refine g_iload_n (i := 2) h dX4_traveller_107 rfl rfl ?_
                    refine m_iast (k := 20) h hM rfl rfl (by show _ < 60; omega) dX4_traveller_108 (fun c hM => ?_)
                    refine g_aload_n (i := 0) h dX4_traveller_109 rfl rfl ?_
                    refine m_get h hM f_X4_51_4 rfl dX4_traveller_110 ?_
                    refine g_aload_n (i := 0) h dX4_traveller_113 rfl rfl ?_
                    refine m_get (v := .int (A 25 0)) h hM f_X4_324_4 rfl dX4_traveller_114 ?_
                    refine G.int ht0 ?_
                    refine g_iload_n (i := 3) h dX4_traveller_117 rfl rfl ?_
                    refine m_iast (k := 21) h hM rfl rfl (by show _ < 60; omega) dX4_traveller_118 (fun c hM => ?_)
                    refine g_aload_n (i := 0) h dX4_traveller_119 rfl rfl ?_
                    refine m_get h hM f_X4_54_4 rfl dX4_traveller_120 ?_
                    refine g_aload_n (i := 0) h dX4_traveller_123 rfl rfl ?_
                    refine m_get (v := .int (A 25 0)) h hM f_X4_324_4 rfl dX4_traveller_124 ?_
                    refine G.int ht0 ?_
                    refine g_iload h dX4_traveller_127 rfl ?_
                    refine m_iast (k := 22) h hM rfl rfl (by show _ < 60; omega) dX4_traveller_129 (fun c hM => ?_)
                    refine g_iconst (v := 0) h dX4_traveller_130 (by decide) ?_
                    refine g_istore h dX4_traveller_131 (by decide) ?_
                    have hK : sTravK A k w b i = 0 := by simp [sTravK, b6, b12, b16, b22, b26, b33, b38, b45, b72]
                    have loop : ∀ n, n ≤ 8 → ∀ c, MW c0 mo ma cl ll (sTravN (mA (mA (mA (mA (mA A 0 0 0) 19 t k) 20 t w) 21 t b) 22 t i) t n) B c → G φ (gQ φ (pI (if sTravK A k w b i = 0 then nI t else 0) (MW c0 mo ma cl ll (if sTravK A k w b i = 0 then sTravA (mA A 0 0 0) t k w b i else mA (mA A 0 0 0) 0 0 (nI (sTravK A k w b i))) B)) 0 0) 133 [(0, .ref mo), (6, .int (nI n))] [] c 0 0 := by
                      refine gloop ?_ ?_
                      · intro c hM
                        refine g_iload h dX4_traveller_133 rfl ?_
                        refine g_bipush (v := nI 8) h dX4_traveller_135 (by decide) ?_
                        refine g_icmp_ge (tgt := 178) h dX4_traveller_137 (by decide) (fun b137 => ?_) (fun _bz => absurd _bz (fun q => absurd (nI_le (Nat.le_refl 8) (by omega)) q))
                        refine g_aload_n (i := 0) h dX4_traveller_178 rfl rfl ?_
                        refine g_dup h dX4_traveller_179 rfl ?_
                        refine m_get h hM f_X4_324_4 rfl dX4_traveller_180 ?_
                        refine G.int (show _ = nI t by first | (rw [sTravN_k _ _ (by decide) (by decide)]; exact ht0) | (rw [mA_n _ _ _ (by decide), sTravN_k _ _ (by decide) (by decide)]; exact ht0)) ?_
                        refine g_iconst (v := nI 1) h dX4_traveller_183 (by decide) ?_
                        first | (with_reducible refine g_iaddN h dX4_traveller_184 ?_) | refine g_iadd h dX4_traveller_184 ?_
                        refine m_puti h hM mp_25 fp_X4_324_4 dX4_traveller_185 (fun c hM => ?_)
                        refine g_aload_n (i := 0) h dX4_traveller_188 rfl rfl ?_
                        refine m_get (v := .int (nI (t + 1))) h hM f_X4_324_4 rfl dX4_traveller_189 ?_
                        refine g_iconst (v := 1) h dX4_traveller_192 (by decide) ?_
                        refine g_isub h dX4_traveller_193 ?_
                        exact g_iret h ⟨by rw [hK]; simp [nI_pred], by rw [hK]; exact hM⟩ (Nat.le_refl _) (Nat.le_refl _) dX4_traveller_194
                      · intro n hn ih c hM
                        refine g_iload h dX4_traveller_133 rfl ?_
                        refine g_bipush (v := nI 8) h dX4_traveller_135 (by decide) ?_
                        refine g_icmp_ge (tgt := 178) h dX4_traveller_137 (by decide) (fun _bz => absurd _bz (nI_ge hn (by omega))) (fun b137 => ?_)
                        refine g_aload_n (i := 0) h dX4_traveller_140 rfl rfl ?_
                        refine m_get h hM f_X4_57_4 rfl dX4_traveller_141 ?_
                        refine g_bipush (v := nI 8) h dX4_traveller_144 (by decide) ?_
                        refine g_aload_n (i := 0) h dX4_traveller_146 rfl rfl ?_
                        refine m_get h hM f_X4_324_4 rfl dX4_traveller_147 ?_
                        refine G.int (show _ = nI t by first | (rw [sTravN_k _ _ (by decide) (by decide)]; exact ht0) | (rw [mA_n _ _ _ (by decide), sTravN_k _ _ (by decide) (by decide)]; exact ht0)) ?_
                        first | (with_reducible refine g_imulN h dX4_traveller_150 ?_) | refine g_imul h dX4_traveller_150 ?_
                        refine g_iload h dX4_traveller_151 rfl ?_
                        first | (with_reducible refine g_iaddN h dX4_traveller_153 ?_) | refine g_iadd h dX4_traveller_153 ?_
                        refine g_iconst (v := (-1)) h dX4_traveller_154 (by decide) ?_
                        refine m_iast (k := 23) h hM rfl rfl (by show _ < 480; omega) dX4_traveller_155 (fun c hM => ?_)
                        refine g_aload_n (i := 0) h dX4_traveller_156 rfl rfl ?_
                        refine m_get h hM f_X4_60_4 rfl dX4_traveller_157 ?_
                        refine g_bipush (v := nI 8) h dX4_traveller_160 (by decide) ?_
                        refine g_aload_n (i := 0) h dX4_traveller_162 rfl rfl ?_
                        refine m_get h hM f_X4_324_4 rfl dX4_traveller_163 ?_
                        refine G.int (show _ = nI t by first | (rw [sTravN_k _ _ (by decide) (by decide)]; exact ht0) | (rw [mA_n _ _ _ (by decide), sTravN_k _ _ (by decide) (by decide)]; exact ht0)) ?_
                        first | (with_reducible refine g_imulN h dX4_traveller_166 ?_) | refine g_imul h dX4_traveller_166 ?_
                        refine g_iload h dX4_traveller_167 rfl ?_
                        first | (with_reducible refine g_iaddN h dX4_traveller_169 ?_) | refine g_iadd h dX4_traveller_169 ?_
                        refine g_iconst (v := (-1)) h dX4_traveller_170 (by decide) ?_
                        refine m_iast (k := 24) h hM rfl rfl (by show _ < 480; omega) dX4_traveller_171 (fun c hM => ?_)
                        first | (with_reducible refine g_iincN h dX4_traveller_172 rfl (by decide) ?_) | refine g_iinc1 h dX4_traveller_172 rfl (by decide) ?_
                        refine g_goto (tgt := 133) h dX4_traveller_175 (by decide) ?_
                        exact G.to (ih _ hM) ⟨rfl, rfl, trivial⟩
                    exact G.to (loop 0 (Nat.zero_le _) c hM) ⟨rfl, rfl, trivial⟩
                  · refine g_iconst (v := 1) h dX4_traveller_75 (by decide) ?_
                    refine g_goto (tgt := 80) h dX4_traveller_76 (by decide) ?_
                    refine g_iconst (v := 2) h dX4_traveller_80 (by decide) ?_
                    refine g_invV h (ct_bad h.k hM true 2) hcX4_bad w_X4_308 rfl rfl hM.obj (Nat.le_of_ble_eq_true rfl) ⟨Nat.le_of_ble_eq_true rfl, Nat.le_of_ble_eq_true rfl⟩ (by refine ⟨?_, ?_⟩ <;> first | exact Nat.le_refl _ | exact Nat.zero_le _ | (dsimp only; omega)) dX4_traveller_81 (gkr_i (fun c hM => ?_)) gkt_i
                    replace hM := bad1 hM
                    refine g_if_eq (tgt := 89) h dX4_traveller_84 (by decide) (fun _bz => absurd _bz (by decide)) (fun _bz => ?_)
                    refine g_iconst (v := 0) h dX4_traveller_87 (by decide) ?_
                    exact g_iret h ⟨by simp [sTravK, b6, b12, b16, b22, b26, b33, b38, b45, b72] <;> rfl, by simp [sTravK, b6, b12, b16, b22, b26, b33, b38, b45, b72]; exact hM⟩ (Nat.le_refl _) (Nat.le_refl _) dX4_traveller_88
                · refine g_iconst (v := 1) h dX4_traveller_48 (by decide) ?_
                  refine g_goto (tgt := 53) h dX4_traveller_49 (by decide) ?_
                  refine g_istore h dX4_traveller_53 (by decide) ?_
                  refine g_aload_n (i := 0) h dX4_traveller_55 rfl rfl ?_
                  refine g_iload h dX4_traveller_56 rfl ?_
                  refine g_iconst (v := 1) h dX4_traveller_58 (by decide) ?_
                  refine g_invV h (ct_bad h.k hM true 1) hcX4_bad w_X4_308 rfl rfl hM.obj (Nat.le_of_ble_eq_true rfl) ⟨Nat.le_of_ble_eq_true rfl, Nat.le_of_ble_eq_true rfl⟩ (by refine ⟨?_, ?_⟩ <;> first | exact Nat.le_refl _ | exact Nat.zero_le _ | (dsimp only; omega)) dX4_traveller_59 (gkr_i (fun c hM => ?_)) gkt_i
                  replace hM := bad1 hM
                  refine g_if_ne (tgt := 87) h dX4_traveller_62 (by decide) (fun _bz => ?_) (fun _bz => absurd _bz (by decide))
                  refine g_iconst (v := 0) h dX4_traveller_87 (by decide) ?_
                  exact g_iret h ⟨by simp [sTravK, b6, b12, b16, b22, b26, b33, b38, b45] <;> rfl, by simp [sTravK, b6, b12, b16, b22, b26, b33, b38, b45]; exact hM⟩ (Nat.le_refl _) (Nat.le_refl _) dX4_traveller_88
