/-! THE MODEL: rows that grow -/
set_option maxRecDepth 100000
theorem lng_0 {f : Nat → Int32} : (fun _ : Nat => (0 : Int32)) = fun j => if j < 0 then f j else 0 := by funext j; simp
theorem lng_s {f : Nat → Int32} {i : Nat} : upd (fun j => if j < i then f j else 0) i (f i) = fun j => if j < i + 1 then f j else 0 := by
  funext j
  unfold upd
  by_cases h : j = i
  · subst h; simp
  · by_cases h2 : j < i
    · show (if j = i then f i else if j < i then f j else 0) = _
      rw [if_neg h, if_pos h2, if_pos (by omega)]
    · show (if j = i then f i else if j < i then f j else 0) = _
      rw [if_neg h, if_neg h2, if_neg (by omega)]
theorem ct_longer {l : Launch} {g : gGP} (hk : gK l g) {c : gLH} (role : Nat) (hrole : role < gSB) {a r n : Nat} {f : Nat → Int32} (hc : c a = some (r, .inl (0, n, .inl f))) (hn : n < 16000000) : Ct l g yX4_longer hwX4_longer 0 0 [.ref a] c (1) (2 * n) (pAe (fun q c' => c q = none ∧ c' = va_up c q (some (role, .inl (0, 2 * n, .inl (fun j => if j < n then f j else 0)))))) := by
  refine Ct.intro hk hcX4_longer (by decide +kernel) (Nat.le_of_ble_eq_true rfl) (fun φ h => ?_)
  refine g_iconst (v := nI 2) h dX4_longer_0 (by decide) ?_
  refine g_aload_n (i := 0) h dX4_longer_1 rfl rfl ?_
  refine g_alen (k := 0) h (by decide) hc dX4_longer_2 ?_
  first | (with_reducible refine g_imulN h dX4_longer_3 ?_) | refine g_imul h dX4_longer_3 ?_
  refine g_newarr_int h role q1343 (by omega) (Nat.le_refl _) (Nat.le_of_eq (Nat.zero_add _)) dX4_longer_4 (fun q hq => ?_)
  have hne : a ≠ q := fun e => by rw [e, hq] at hc; cases hc
  refine g_astore_n (i := 1) h dX4_longer_6 rfl (by decide) ?_
  refine g_iconst (v := 0) h dX4_longer_7 (by decide) ?_
  refine g_istore_n (i := 2) h dX4_longer_8 rfl (by decide) ?_
  have loop : ∀ i, i ≤ n → G φ (gQ φ (pAe (fun q c' => c q = none ∧ c' = va_up c q (some (role, .inl (0, 2 * n, .inl (fun j => if j < n then f j else 0)))))) 1 (2 * n)) 9 [(0, .ref a), (1, .ref q), (2, .int (nI i))] [] (va_up c q (some (role, .inl (0, 2 * n, .inl (fun j => if j < i then f j else 0))))) (0 + 1) (0 + 2 * n) := by
    refine gloop ?_ ?_
    · have hca : va_up c q (some (role, .inl (0, 2 * n, .inl (fun j => if j < n then f j else 0)))) a = some (r, .inl (0, n, .inl f)) := by rw [va_up_n _ _ hne]; exact hc
      refine g_iload_n (i := 2) h dX4_longer_9 rfl rfl ?_
      refine g_aload_n (i := 0) h dX4_longer_10 rfl rfl ?_
      refine g_alen (k := 0) h (by decide) hca dX4_longer_11 ?_
      refine g_icmp_ge (tgt := 27) h dX4_longer_12 (by decide) (fun b12 => ?_) (fun _bz => absurd _bz (fun q => absurd (nI_le (Nat.le_refl n) (by omega)) q))
      refine g_aload_n (i := 1) h dX4_longer_27 rfl rfl ?_
      exact g_aret h ⟨_, rfl, hq, rfl⟩ (Nat.le_refl _) (Nat.le_of_eq (Nat.zero_add _)) (Or.inr ⟨_, rfl⟩) dX4_longer_28
    · intro i hi ih
      have hca : (va_up c q (some (role, .inl (0, 2 * n, .inl (fun j => if j < i then f j else 0))))) a = some (r, .inl (0, n, .inl f)) := by rw [va_up_n _ _ hne]; exact hc
      refine g_iload_n (i := 2) h dX4_longer_9 rfl rfl ?_
      refine g_aload_n (i := 0) h dX4_longer_10 rfl rfl ?_
      refine g_alen (k := 0) h (by decide) hca dX4_longer_11 ?_
      refine g_icmp_ge (tgt := 27) h dX4_longer_12 (by decide) (fun _bz => absurd _bz (nI_ge hi (by omega))) (fun b12 => ?_)
      refine g_aload_n (i := 1) h dX4_longer_15 rfl rfl ?_
      refine g_iload_n (i := 2) h dX4_longer_16 rfl rfl ?_
      refine g_aload_n (i := 0) h dX4_longer_17 rfl rfl ?_
      refine g_iload_n (i := 2) h dX4_longer_18 rfl rfl ?_
      refine g_ialdN h hca hi (by omega) dX4_longer_19 ?_
      refine g_iastN h (va_up_s _ _ _) hrole (by omega) (by omega) dX4_longer_20 ?_
      refine G.heap (by rw [bx_uu, lng_s]) ?_
      first | (with_reducible refine g_iincN h dX4_longer_21 rfl (by decide) ?_) | refine g_iinc1 h dX4_longer_21 rfl (by decide) ?_
      refine g_goto (tgt := 9) h dX4_longer_24 (by decide) ?_
      exact G.to ih ⟨rfl, rfl, rfl, trivial⟩
  refine G.heap (by rw [lng_0 (f := f)]) ?_
  exact G.to (loop 0 (Nat.zero_le _)) ⟨rfl, rfl, rfl, trivial⟩
theorem m_putrow {φ : gFx} {Q : State → Prop} {pc : Nat} {lv : List (Nat × Value)} {st : List Value} {ce sl : Nat} {l : Launch} {g : gGP} {R : Room} {cc : ByteArray} {nL : Nat} {own mn : String} {ret : Option FieldType} {tbl : List (Nat × Nat × Nat × Nat)} {c0 c : gLH} {mo : Nat} {ma ln : Nat → Nat} {A : Nat → Nat → Int32} {B : Nat → Nat → Int64}
    (h : gOK φ l g R cc nL own mn ret tbl) (hN : MWn c0 mo ma ln A B c) {idx k q n : Nat} {f : Nat → Int32} {t : FieldType} (hg : mG k = true) (hkd : mKd k = 0) (hk62 : k < 62) (hset : (mfl ma A B).set k (.ref q) = mfl (va_up ma k q) A B) (hq : c q = none) (hn : ln k ≤ n) (hf : ∀ j, f j = if j < ln k then A k j else 0) (hF : gFP own idx 4 k (.array t)) (hd : decode cc pc = .ok (.putfield idx, 3))
    (kk : ∀ c : gLH, MWn c0 mo (va_up ma k q) (va_up ln k n) A B c → G φ Q (pc + 3) lv st c ce sl) : G φ Q pc lv (.ref q :: .ref mo :: st) (va_up c q (some (2 * k + 2, .inl (0, n, .inl f)))) ce sl :=
  g_put (r := 0) (ci := 4) h hF (by rw [va_up_n _ _ (fun e => by rw [← e, hN.obj] at hq; cases hq)]; exact hN.obj) (by decide) (by rw [mfl_len]; exact hk62) rfl rfl hd (kk _ (hN.grow hg hkd hset hq hn hf))
theorem mlen_line (cl ll : Nat) : va_up (va_up (va_up (va_up (mlen cl ll) 38 (2 * ll)) 39 (2 * ll)) 40 (2 * ll)) 41 (2 * ll) = mlen cl (2 * ll) := by
  funext k
  by_cases h1 : k = 41
  · subst h1; rfl
  by_cases h2 : k = 40
  · subst h2; rfl
  by_cases h3 : k = 39
  · subst h3; rfl
  by_cases h4 : k = 38
  · subst h4; rfl
  rw [va_up_n _ _ h1, va_up_n _ _ h2, va_up_n _ _ h3, va_up_n _ _ h4]
  unfold mlen
  split <;> first | rfl | contradiction
theorem mlen_code (cl ll : Nat) : va_up (va_up (mlen cl ll) 15 (2 * cl)) 16 (2 * cl) = mlen (2 * cl) ll := by
  funext k
  by_cases h1 : k = 16
  · subst h1; rfl
  by_cases h2 : k = 15
  · subst h2; rfl
  rw [va_up_n _ _ h1, va_up_n _ _ h2]
  unfold mlen
  split <;> first | rfl | contradiction
/-- the journal's room behind a line -/
def sLn (ll nl : Nat) : Nat := if nl = ll then 2 * ll else ll
def sLineA (A : Nat → Nat → Int32) (nl : Nat) (kind who : Int32) (sum : Int64) : Nat → Nat → Int32 := mA (mA (mA (mA (mA A 38 nl (A 32 0)) 39 nl kind) 40 nl who) 41 nl sum.toInt32) 42 0 (nI (nl + 1))
def sEmitA (A : Nat → Nat → Int32) (nc : Nat) (k n : Int32) : Nat → Nat → Int32 := mA (mA (mA A 15 nc k) 16 nc n) 17 0 (nI (nc + 1))
theorem ct_line0 {l : Launch} {g : gGP} (hk : gK l g) {c0 c : gLH} {mo : Nat} {ma : Nat → Nat} {cl ll : Nat} {A : Nat → Nat → Int32} {B : Nat → Nat → Int64} (hM : MW c0 mo ma cl ll A B c) (kind who : Int32) (sum : Int64) {nl : Nat} (hnl : A 42 0 = nI nl) (hle : nl ≤ ll) (hl0 : 0 < ll) (hl2 : nl < 400000) (mc ms : Nat) (hcost : nl = ll → 4 ≤ mc ∧ 8 * ll ≤ ms) : Ct l g yX4_line hwX4_line 1 40 [.ref mo, .int kind, .int who, .long sum] c (mc) (ms) (pV (fun c' => ∃ ma', MW c0 mo ma' cl (sLn ll nl) (sLineA A nl kind who sum) (mB B 43 0 (B 43 0 + sum)) c')) := by
  refine Ct.intro hk hcX4_line (by decide +kernel) (Nat.le_of_ble_eq_true rfl) (fun φ h => ?_)
  have J : ∀ (ma : Nat → Nat) (c : gLH) (ce sl : Nat), ce ≤ mc → sl ≤ ms → nl < sLn ll nl → MW c0 mo ma cl (sLn ll nl) A B c → G φ (gQ φ (pV (fun c' => ∃ ma', MW c0 mo ma' cl (sLn ll nl) (sLineA A nl kind who sum) (mB B 43 0 (B 43 0 + sum)) c')) mc ms) 56 [(0, .ref mo), (1, .int kind), (2, .int who), (3, .long sum)] [] c ce sl := by
    intro ma c ce sl hm1 hm2 hlt hM
    refine g_aload_n (i := 0) h dX4_line_56 rfl rfl ?_
    refine m_get h hM f_X4_86_4 rfl dX4_line_57 ?_
    refine g_aload_n (i := 0) h dX4_line_60 rfl rfl ?_
    refine m_get (v := .int (A 42 0)) h hM f_X4_370_4 rfl dX4_line_61 ?_
    refine G.int hnl ?_
    refine g_aload_n (i := 0) h dX4_line_64 rfl rfl ?_
    refine m_get (v := .int (A 32 0)) h hM f_X4_331_4 rfl dX4_line_65 ?_
    refine m_iast (k := 38) h hM rfl rfl (by show nl < sLn ll nl; exact hlt) dX4_line_68 (fun c hM => ?_)
    refine g_aload_n (i := 0) h dX4_line_69 rfl rfl ?_
    refine m_get h hM f_X4_89_4 rfl dX4_line_70 ?_
    refine g_aload_n (i := 0) h dX4_line_73 rfl rfl ?_
    refine m_get (v := .int (A 42 0)) h hM f_X4_370_4 rfl dX4_line_74 ?_
    refine G.int hnl ?_
    refine g_iload_n (i := 1) h dX4_line_77 rfl rfl ?_
    refine m_iast (k := 39) h hM rfl rfl (by show nl < sLn ll nl; exact hlt) dX4_line_78 (fun c hM => ?_)
    refine g_aload_n (i := 0) h dX4_line_79 rfl rfl ?_
    refine m_get h hM f_X4_92_4 rfl dX4_line_80 ?_
    refine g_aload_n (i := 0) h dX4_line_83 rfl rfl ?_
    refine m_get (v := .int (A 42 0)) h hM f_X4_370_4 rfl dX4_line_84 ?_
    refine G.int hnl ?_
    refine g_iload_n (i := 2) h dX4_line_87 rfl rfl ?_
    refine m_iast (k := 40) h hM rfl rfl (by show nl < sLn ll nl; exact hlt) dX4_line_88 (fun c hM => ?_)
    refine g_aload_n (i := 0) h dX4_line_89 rfl rfl ?_
    refine m_get h hM f_X4_95_4 rfl dX4_line_90 ?_
    refine g_aload_n (i := 0) h dX4_line_93 rfl rfl ?_
    refine m_get (v := .int (A 42 0)) h hM f_X4_370_4 rfl dX4_line_94 ?_
    refine G.int hnl ?_
    refine g_lload_n (i := 3) h dX4_line_97 rfl rfl ?_
    refine g_l2i h dX4_line_98 ?_
    refine m_iast (k := 41) h hM rfl rfl (by show nl < sLn ll nl; exact hlt) dX4_line_99 (fun c hM => ?_)
    refine g_aload_n (i := 0) h dX4_line_100 rfl rfl ?_
    refine g_dup h dX4_line_101 rfl ?_
    refine m_get (v := .int (A 42 0)) h hM f_X4_370_4 rfl dX4_line_102 ?_
    refine G.int hnl ?_
    refine g_iconst (v := nI 1) h dX4_line_105 (by decide) ?_
    first | (with_reducible refine g_iaddN h dX4_line_106 ?_) | refine g_iadd h dX4_line_106 ?_
    refine m_puti h hM mp_42 fp_X4_370_4 dX4_line_107 (fun c hM => ?_)
    refine g_aload_n (i := 0) h dX4_line_110 rfl rfl ?_
    refine g_dup h dX4_line_111 rfl ?_
    refine m_get (v := .long (B 43 0)) h hM f_X4_373_4 rfl dX4_line_112 ?_
    refine g_lload_n (i := 3) h dX4_line_115 rfl rfl ?_
    refine g_ladd h dX4_line_116 ?_
    refine m_putl h hM fp_X4_373_4 dX4_line_117 (fun c hM => ?_)
    exact g_vret h ⟨rfl, _, hM⟩ hm1 hm2 dX4_line_120
  refine g_aload_n (i := 0) h dX4_line_0 rfl rfl ?_
  refine m_get (v := .int (A 42 0)) h hM f_X4_370_4 rfl dX4_line_1 ?_
  refine G.int hnl ?_
  refine g_aload_n (i := 0) h dX4_line_4 rfl rfl ?_
  refine m_get h hM f_X4_86_4 rfl dX4_line_5 ?_
  refine g_alen (k := 0) (n := ll) h (by decide) (hM.ia (k := 38) rfl) dX4_line_8 ?_
  refine g_icmp_ne (tgt := 56) h dX4_line_9 (by decide) (fun b9 => ?_) (fun b9 => ?_)
  · first
    | exact G.to (J ma c 0 0 (Nat.zero_le _) (Nat.zero_le _) (by unfold sLn; rw [if_neg (fun q => b9 (by rw [q]))]; have : nl ≠ ll := fun q => b9 (by rw [q]); omega) (by unfold sLn; rw [if_neg (fun q => b9 (by rw [q]))]; exact hM)) ⟨rfl, rfl, rfl, rfl, trivial⟩
    | exact G.to (J _ c _ _ (by omega) (by omega) (by unfold sLn; rw [if_pos hfull]; omega) (by unfold sLn; rw [if_pos hfull]; exact ⟨by rw [← mlen_line]; exact hN4, hM.2.1, by omega⟩)) ⟨rfl, rfl, rfl, rfl, trivial⟩
  · have hll6 := hM.2.2
    have hfull : nl = ll := (nI_eq (by omega) (by omega)).mp b9
    obtain ⟨hc1, hc2⟩ := hcost hfull
    refine g_aload_n (i := 0) h dX4_line_12 rfl rfl ?_
    refine g_aload_n (i := 0) h dX4_line_13 rfl rfl ?_
    refine g_get h f_X4_86_4 hM.1.obj rfl dX4_line_14 ?_
    refine g_invS h (ct_longer (n := ll) h.k 78 (by decide) (hM.1.ia (k := 38) rfl) (by show ll < 16000000; omega)) hcX4_longer w_X4_207 rfl rfl (Nat.le_of_ble_eq_true rfl) ⟨Nat.le_of_ble_eq_true rfl, Nat.le_of_ble_eq_true rfl⟩ (by exact ⟨by show _ ≤ mc; omega, by show _ + 2 * ll ≤ ms; omega⟩) dX4_line_17 (gkr_ae (fun q0 c hq0 => ?_)) gkt_ae
    obtain ⟨hq0, rfl⟩ := hq0
    refine m_putrow (k := 38) (n := 2 * ll) h hM.1 rfl rfl (by decide) rfl hq0 (by show ll ≤ 2 * ll; omega) (fun j => rfl) fp_X4_86_4 dX4_line_20 (fun c hN1 => ?_)
    refine g_aload_n (i := 0) h dX4_line_23 rfl rfl ?_
    refine g_aload_n (i := 0) h dX4_line_24 rfl rfl ?_
    refine g_get h f_X4_89_4 hN1.obj rfl dX4_line_25 ?_
    refine g_invS h (ct_longer (n := ll) h.k 80 (by decide) (hN1.ia (k := 39) rfl) (by show ll < 16000000; omega)) hcX4_longer w_X4_207 rfl rfl (Nat.le_of_ble_eq_true rfl) ⟨Nat.le_of_ble_eq_true rfl, Nat.le_of_ble_eq_true rfl⟩ (by exact ⟨by show _ ≤ mc; omega, by show _ + 2 * ll ≤ ms; omega⟩) dX4_line_28 (gkr_ae (fun q1 c hq1 => ?_)) gkt_ae
    obtain ⟨hq1, rfl⟩ := hq1
    refine m_putrow (k := 39) (n := 2 * ll) h hN1 rfl rfl (by decide) rfl hq1 (by show ll ≤ 2 * ll; omega) (fun j => rfl) fp_X4_89_4 dX4_line_31 (fun c hN2 => ?_)
    refine g_aload_n (i := 0) h dX4_line_34 rfl rfl ?_
    refine g_aload_n (i := 0) h dX4_line_35 rfl rfl ?_
    refine g_get h f_X4_92_4 hN2.obj rfl dX4_line_36 ?_
    refine g_invS h (ct_longer (n := ll) h.k 82 (by decide) (hN2.ia (k := 40) rfl) (by show ll < 16000000; omega)) hcX4_longer w_X4_207 rfl rfl (Nat.le_of_ble_eq_true rfl) ⟨Nat.le_of_ble_eq_true rfl, Nat.le_of_ble_eq_true rfl⟩ (by exact ⟨by show _ ≤ mc; omega, by show _ + 2 * ll ≤ ms; omega⟩) dX4_line_39 (gkr_ae (fun q2 c hq2 => ?_)) gkt_ae
    obtain ⟨hq2, rfl⟩ := hq2
    refine m_putrow (k := 40) (n := 2 * ll) h hN2 rfl rfl (by decide) rfl hq2 (by show ll ≤ 2 * ll; omega) (fun j => rfl) fp_X4_92_4 dX4_line_42 (fun c hN3 => ?_)
    refine g_aload_n (i := 0) h dX4_line_45 rfl rfl ?_
    refine g_aload_n (i := 0) h dX4_line_46 rfl rfl ?_
    refine g_get h f_X4_95_4 hN3.obj rfl dX4_line_47 ?_
    refine g_invS h (ct_longer (n := ll) h.k 84 (by decide) (hN3.ia (k := 41) rfl) (by show ll < 16000000; omega)) hcX4_longer w_X4_207 rfl rfl (Nat.le_of_ble_eq_true rfl) ⟨Nat.le_of_ble_eq_true rfl, Nat.le_of_ble_eq_true rfl⟩ (by exact ⟨by show _ ≤ mc; omega, by show _ + 2 * ll ≤ ms; omega⟩) dX4_line_50 (gkr_ae (fun q3 c hq3 => ?_)) gkt_ae
    obtain ⟨hq3, rfl⟩ := hq3
    refine m_putrow (k := 41) (n := 2 * ll) h hN3 rfl rfl (by decide) rfl hq3 (by show ll ≤ 2 * ll; omega) (fun j => rfl) fp_X4_95_4 dX4_line_53 (fun c hN4 => ?_)
    first
    | exact G.to (J ma c 0 0 (Nat.zero_le _) (Nat.zero_le _) (by unfold sLn; rw [if_neg (fun q => b9 (by rw [q]))]; have : nl ≠ ll := fun q => b9 (by rw [q]); omega) (by unfold sLn; rw [if_neg (fun q => b9 (by rw [q]))]; exact hM)) ⟨rfl, rfl, rfl, rfl, trivial⟩
    | exact G.to (J _ c _ _ (by omega) (by omega) (by unfold sLn; rw [if_pos hfull]; omega) (by unfold sLn; rw [if_pos hfull]; exact ⟨by rw [← mlen_line]; exact hN4, hM.2.1, by omega⟩)) ⟨rfl, rfl, rfl, rfl, trivial⟩
theorem sLn_le (ll nl : Nat) : ll ≤ sLn ll nl := by unfold sLn; split <;> omega
theorem ct_line {l : Launch} {g : gGP} (hk : gK l g) {c0 c : gLH} {mo : Nat} {ma : Nat → Nat} {cl ll : Nat} {A : Nat → Nat → Int32} {B : Nat → Nat → Int64} (hM : MW c0 mo ma cl ll A B c) (kind who : Int32) (sum : Int64) {nl : Nat} (hnl : A 42 0 = nI nl) (hle : nl ≤ ll) (hl0 : 4 ≤ ll) (hl2 : nl < 400000) : Ct l g yX4_line hwX4_line 1 40 [.ref mo, .int kind, .int who, .long sum] c (sLn ll nl - ll) (8 * (sLn ll nl - ll)) (pV (fun c' => ∃ ma', MW c0 mo ma' cl (sLn ll nl) (sLineA A nl kind who sum) (mB B 43 0 (B 43 0 + sum)) c')) :=
  ct_line0 hk hM kind who sum hnl hle (by omega) hl2 _ _ (fun e => by unfold sLn; rw [if_pos e]; omega)
theorem ct_emits {l : Launch} {g : gGP} (hk : gK l g) {c0 c : gLH} {mo : Nat} {ma : Nat → Nat} {cl ll : Nat} {A : Nat → Nat → Int32} {B : Nat → Nat → Int64} (hM : MW c0 mo ma cl ll A B c) (k n : Int32) {nc : Nat} (hnc : A 17 0 = nI nc) (hle : nc ≤ cl) (hl0 : 0 < cl) (hl2 : 2 * cl < 1000000) (mc ms : Nat) (hcost : nc = cl → 2 ≤ mc ∧ 4 * cl ≤ ms) : Ct l g yX4_emits hwX4_emits 1 40 [.ref mo, .int k, .int n] c (mc) (ms) (pV (fun c' => ∃ ma', MW c0 mo ma' (sLn cl nc) ll (sEmitA A nc k n) B c')) := by
  refine Ct.intro hk hcX4_emits (by decide +kernel) (Nat.le_of_ble_eq_true rfl) (fun φ h => ?_)
  have J : ∀ (ma : Nat → Nat) (c : gLH) (ce sl : Nat), ce ≤ mc → sl ≤ ms → nc < sLn cl nc → MW c0 mo ma (sLn cl nc) ll A B c → G φ (gQ φ (pV (fun c' => ∃ ma', MW c0 mo ma' (sLn cl nc) ll (sEmitA A nc k n) B c')) mc ms) 34 [(0, .ref mo), (1, .int k), (2, .int n)] [] c ce sl := by
    intro ma c ce sl hm1 hm2 hlt hM
    refine g_aload_n (i := 0) h dX4_emits_34 rfl rfl ?_
    refine m_get h hM f_X4_39_4 rfl dX4_emits_35 ?_
    refine g_aload_n (i := 0) h dX4_emits_38 rfl rfl ?_
    refine m_get (v := .int (A 17 0)) h hM f_X4_204_4 rfl dX4_emits_39 ?_
    refine G.int hnc ?_
    refine g_iload_n (i := 1) h dX4_emits_42 rfl rfl ?_
    refine m_iast (k := 15) h hM rfl rfl (by show nc < sLn cl nc; exact hlt) dX4_emits_43 (fun c hM => ?_)
    refine g_aload_n (i := 0) h dX4_emits_44 rfl rfl ?_
    refine m_get h hM f_X4_42_4 rfl dX4_emits_45 ?_
    refine g_aload_n (i := 0) h dX4_emits_48 rfl rfl ?_
    refine m_get (v := .int (A 17 0)) h hM f_X4_204_4 rfl dX4_emits_49 ?_
    refine G.int hnc ?_
    refine g_iload_n (i := 2) h dX4_emits_52 rfl rfl ?_
    refine m_iast (k := 16) h hM rfl rfl (by show nc < sLn cl nc; exact hlt) dX4_emits_53 (fun c hM => ?_)
    refine g_aload_n (i := 0) h dX4_emits_54 rfl rfl ?_
    refine g_dup h dX4_emits_55 rfl ?_
    refine m_get (v := .int (A 17 0)) h hM f_X4_204_4 rfl dX4_emits_56 ?_
    refine G.int hnc ?_
    refine g_iconst (v := nI 1) h dX4_emits_59 (by decide) ?_
    first | (with_reducible refine g_iaddN h dX4_emits_60 ?_) | refine g_iadd h dX4_emits_60 ?_
    refine m_puti h hM mp_17 fp_X4_204_4 dX4_emits_61 (fun c hM => ?_)
    exact g_vret h ⟨rfl, _, hM⟩ hm1 hm2 dX4_emits_64
  refine g_aload_n (i := 0) h dX4_emits_0 rfl rfl ?_
  refine m_get (v := .int (A 17 0)) h hM f_X4_204_4 rfl dX4_emits_1 ?_
  refine G.int hnc ?_
  refine g_aload_n (i := 0) h dX4_emits_4 rfl rfl ?_
  refine m_get h hM f_X4_39_4 rfl dX4_emits_5 ?_
  refine g_alen (k := 0) (n := cl) h (by decide) (hM.ia (k := 15) rfl) dX4_emits_8 ?_
  refine g_icmp_ne (tgt := 34) h dX4_emits_9 (by decide) (fun b9 => ?_) (fun b9 => ?_)
  · first
    | exact G.to (J ma c 0 0 (Nat.zero_le _) (Nat.zero_le _) (by unfold sLn; rw [if_neg (fun q => b9 (by rw [q]))]; have : nc ≠ cl := fun q => b9 (by rw [q]); omega) (by unfold sLn; rw [if_neg (fun q => b9 (by rw [q]))]; exact hM)) ⟨rfl, rfl, rfl, trivial⟩
    | exact G.to (J _ c _ _ (by omega) (by omega) (by unfold sLn; rw [if_pos hfull]; omega) (by unfold sLn; rw [if_pos hfull]; exact ⟨by rw [← mlen_code]; exact hN2, by omega, hM.2.2⟩)) ⟨rfl, rfl, rfl, trivial⟩
  · have hfull : nc = cl := (nI_eq (by omega) (by omega)).mp b9
    obtain ⟨hc1, hc2⟩ := hcost hfull
    refine g_aload_n (i := 0) h dX4_emits_12 rfl rfl ?_
    refine g_aload_n (i := 0) h dX4_emits_13 rfl rfl ?_
    refine g_get h f_X4_39_4 hM.1.obj rfl dX4_emits_14 ?_
    refine g_invS h (ct_longer (n := cl) h.k 32 (by decide) (hM.1.ia (k := 15) rfl) (by show cl < 16000000; omega)) hcX4_longer w_X4_207 rfl rfl (Nat.le_of_ble_eq_true rfl) ⟨Nat.le_of_ble_eq_true rfl, Nat.le_of_ble_eq_true rfl⟩ (by exact ⟨by show _ ≤ mc; omega, by show _ + 2 * cl ≤ ms; omega⟩) dX4_emits_17 (gkr_ae (fun q0 c hq0 => ?_)) gkt_ae
    obtain ⟨hq0, rfl⟩ := hq0
    refine m_putrow (k := 15) (n := 2 * cl) h hM.1 rfl rfl (by decide) rfl hq0 (by show cl ≤ 2 * cl; omega) (fun j => rfl) fp_X4_39_4 dX4_emits_20 (fun c hN1 => ?_)
    refine g_aload_n (i := 0) h dX4_emits_23 rfl rfl ?_
    refine g_aload_n (i := 0) h dX4_emits_24 rfl rfl ?_
    refine g_get h f_X4_42_4 hN1.obj rfl dX4_emits_25 ?_
    refine g_invS h (ct_longer (n := cl) h.k 34 (by decide) (hN1.ia (k := 16) rfl) (by show cl < 16000000; omega)) hcX4_longer w_X4_207 rfl rfl (Nat.le_of_ble_eq_true rfl) ⟨Nat.le_of_ble_eq_true rfl, Nat.le_of_ble_eq_true rfl⟩ (by exact ⟨by show _ ≤ mc; omega, by show _ + 2 * cl ≤ ms; omega⟩) dX4_emits_28 (gkr_ae (fun q1 c hq1 => ?_)) gkt_ae
    obtain ⟨hq1, rfl⟩ := hq1
    refine m_putrow (k := 16) (n := 2 * cl) h hN1 rfl rfl (by decide) rfl hq1 (by show cl ≤ 2 * cl; omega) (fun j => rfl) fp_X4_42_4 dX4_emits_31 (fun c hN2 => ?_)
    first
    | exact G.to (J ma c 0 0 (Nat.zero_le _) (Nat.zero_le _) (by unfold sLn; rw [if_neg (fun q => b9 (by rw [q]))]; have : nc ≠ cl := fun q => b9 (by rw [q]); omega) (by unfold sLn; rw [if_neg (fun q => b9 (by rw [q]))]; exact hM)) ⟨rfl, rfl, rfl, trivial⟩
    | exact G.to (J _ c _ _ (by omega) (by omega) (by unfold sLn; rw [if_pos hfull]; omega) (by unfold sLn; rw [if_pos hfull]; exact ⟨by rw [← mlen_code]; exact hN2, by omega, hM.2.2⟩)) ⟨rfl, rfl, rfl, trivial⟩
