/-! THE MODEL: rank, interest -/
set_option maxRecDepth 100000
def sMore (has all gone : Int64) : Int64 := if has < all then has - gone else 0
theorem rank_part {φ : gFx} {l : Launch} {g : gGP} {MC MS : Nat} (h : gOK φ l g { frames := 2, cells := MC, slots := MS, locals := 80 } cX4_rank 12 RX4 "rank" none []) {Post : Outcome → gLH → Prop} {c0 : gLH} {mo cl N : Nat} {r : Int32} {ma : Nat → Nat} {ll : Nat} {A : Nat → Nat → Int32} {B : Nat → Nat → Int64} {has all : Int64} (hN10 : N ≤ 10) (hN : A 61 0 = nI N) (hall : ¬ all = 0)
    (kk : ∀ c, MW c0 mo ma cl ll A (b2 B (sPart (A 57) (B 58) r has all (B 59) (B 60) N).1 (sPart (A 57) (B 58) r has all (B 59) (B 60) N).2.1) c → G φ (gQ φ Post MC MS) 189 [(0, .ref mo), (1, .int r), (8, .long (sMore has all (sPart (A 57) (B 58) r has all (B 59) (B 60) N).2.2))] [] c 0 0) :
    ∀ n, n ≤ N → ∀ c, MW c0 mo ma cl ll A (b2 B (sPart (A 57) (B 58) r has all (B 59) (B 60) n).1 (sPart (A 57) (B 58) r has all (B 59) (B 60) n).2.1) c → G φ (gQ φ Post MC MS) 64 [(0, .ref mo), (1, .int r), (2, .long all), (4, .long has), (6, .long (sPart (A 57) (B 58) r has all (B 59) (B 60) n).2.2), (8, .int (nI n))] [] c 0 0 := by
  refine gloop ?_ ?_
  · intro c hM
    refine g_iload h dX4_rank_64 rfl ?_
    refine g_aload_n (i := 0) h dX4_rank_66 rfl rfl ?_
    refine m_get (v := .int (A 61 0)) h hM f_X4_388_4 rfl dX4_rank_67 ?_
    refine G.int hN ?_
    refine g_icmp_ge (tgt := 171) h dX4_rank_70 (by decide) (fun b70 => ?_) (fun _bz => absurd _bz (fun q => absurd (nI_le (Nat.le_refl N) (by omega)) q))
    refine g_lload h dX4_rank_171 rfl ?_
    refine g_lload_n (i := 2) h dX4_rank_173 rfl rfl ?_
    refine g_lcmp h dX4_rank_174 ?_
    refine g_if_lt (tgt := 182) h dX4_rank_175 (by decide) (fun b175 => ?_) (fun b175 => ?_)
    · rw [lg_cmp_lt] at b175
      refine g_lload h dX4_rank_182 rfl ?_
      refine g_lload h dX4_rank_184 rfl ?_
      refine g_lsub h dX4_rank_186 ?_
      refine g_lstore h dX4_rank_187 (by decide) ?_
      exact G.to (kk c hM) ⟨rfl, rfl, congrArg (fun x => some (Value.long x)) (by simp only [sMore, b70, b175, if_true, if_false]), trivial⟩
    · rw [lg_cmp_lt] at b175
      refine g_lconst (v := 0) h dX4_rank_178 (by decide) ?_
      refine g_goto (tgt := 187) h dX4_rank_179 (by decide) ?_
      refine g_lstore h dX4_rank_187 (by decide) ?_
      exact G.to (kk c hM) ⟨rfl, rfl, congrArg (fun x => some (Value.long x)) (by simp only [sMore, b70, b175, if_true, if_false]), trivial⟩
  · intro n hn ih c hM
    by_cases h1 : A 57 n = r
    case neg =>
      refine g_iload h dX4_rank_64 rfl ?_
      refine g_aload_n (i := 0) h dX4_rank_66 rfl rfl ?_
      refine m_get (v := .int (A 61 0)) h hM f_X4_388_4 rfl dX4_rank_67 ?_
      refine G.int hN ?_
      refine g_icmp_ge (tgt := 171) h dX4_rank_70 (by decide) (fun _bz => absurd _bz (nI_ge hn (by omega))) (fun b70 => ?_)
      refine g_aload_n (i := 0) h dX4_rank_73 rfl rfl ?_
      refine m_get h hM f_X4_134_4 rfl dX4_rank_74 ?_
      refine g_iload h dX4_rank_77 rfl ?_
      refine m_iald (k := 57) (x := A 57 _) h hM rfl rfl (by show _ < 10; omega) rfl dX4_rank_79 ?_
      refine g_iload_n (i := 1) h dX4_rank_80 rfl rfl ?_
      refine g_icmp_eq (tgt := 87) h dX4_rank_81 (by decide) (fun _bz => absurd _bz h1) (fun b81 => ?_)
      refine g_goto (tgt := 165) h dX4_rank_84 (by decide) ?_
      first | (with_reducible refine g_iincN h dX4_rank_165 rfl (by decide) ?_) | refine g_iinc1 h dX4_rank_165 rfl (by decide) ?_
      refine g_goto (tgt := 64) h dX4_rank_168 (by decide) ?_
      simp only [sPart, if_neg h1] at ih
      exact G.to (ih c hM) ⟨rfl, rfl, rfl, rfl, rfl, rfl, trivial⟩
    by_cases h2 : has < all
    · skip
      refine g_iload h dX4_rank_64 rfl ?_
      refine g_aload_n (i := 0) h dX4_rank_66 rfl rfl ?_
      refine m_get (v := .int (A 61 0)) h hM f_X4_388_4 rfl dX4_rank_67 ?_
      refine G.int hN ?_
      refine g_icmp_ge (tgt := 171) h dX4_rank_70 (by decide) (fun _bz => absurd _bz (nI_ge hn (by omega))) (fun b70 => ?_)
      refine g_aload_n (i := 0) h dX4_rank_73 rfl rfl ?_
      refine m_get h hM f_X4_134_4 rfl dX4_rank_74 ?_
      refine g_iload h dX4_rank_77 rfl ?_
      refine m_iald (k := 57) (x := A 57 _) h hM rfl rfl (by show _ < 10; omega) rfl dX4_rank_79 ?_
      refine g_iload_n (i := 1) h dX4_rank_80 rfl rfl ?_
      refine g_icmp_eq (tgt := 87) h dX4_rank_81 (by decide) (fun b81 => ?_) (fun _bz => absurd _bz (not_not_intro h1))
      refine g_aload_n (i := 0) h dX4_rank_87 rfl rfl ?_
      refine m_get h hM f_X4_140_4 rfl dX4_rank_88 ?_
      refine g_iload h dX4_rank_91 rfl ?_
      refine g_lload h dX4_rank_93 rfl ?_
      refine g_lload_n (i := 2) h dX4_rank_95 rfl rfl ?_
      refine g_lcmp h dX4_rank_96 ?_
      refine g_if_lt (tgt := 110) h dX4_rank_97 (by decide) (fun b97 => ?_) (fun _bz => absurd _bz (not_not_intro ((lg_cmp_lt _ _).mpr h2)))
      rw [lg_cmp_lt] at b97
      refine g_aload_n (i := 0) h dX4_rank_110 rfl rfl ?_
      refine m_get h hM f_X4_137_4 rfl dX4_rank_111 ?_
      refine g_iload h dX4_rank_114 rfl ?_
      refine m_lald (k := 58) (x := B 58 n) h hM rfl (by show _ < 10; omega) rfl dX4_rank_116 ?_
      refine g_lload h dX4_rank_117 rfl ?_
      refine g_lmul h dX4_rank_119 ?_
      refine g_lload_n (i := 2) h dX4_rank_120 rfl rfl ?_
      refine g_ldiv h dX4_rank_121 hall ?_
      refine m_last (k := 59) h hM rfl (by show _ < 10; omega) dX4_rank_122 (fun c hM => ?_)
      rw [b2_59] at hM
      refine g_aload_n (i := 0) h dX4_rank_123 rfl rfl ?_
      refine m_get h hM f_X4_143_4 rfl dX4_rank_124 ?_
      refine g_iload h dX4_rank_127 rfl ?_
      refine g_lload h dX4_rank_129 rfl ?_
      refine g_lload_n (i := 2) h dX4_rank_131 rfl rfl ?_
      refine g_lcmp h dX4_rank_132 ?_
      refine g_if_lt (tgt := 140) h dX4_rank_133 (by decide) (fun b133 => ?_) (fun _bz => absurd _bz (not_not_intro ((lg_cmp_lt _ _).mpr h2)))
      rw [lg_cmp_lt] at b133
      refine g_aload_n (i := 0) h dX4_rank_140 rfl rfl ?_
      refine m_get h hM f_X4_137_4 rfl dX4_rank_141 ?_
      refine g_iload h dX4_rank_144 rfl ?_
      refine m_lald (k := 58) (x := B 58 n) h hM rfl (by show _ < 10; omega) rfl dX4_rank_146 ?_
      refine g_lload h dX4_rank_147 rfl ?_
      refine g_lmul h dX4_rank_149 ?_
      refine g_lload_n (i := 2) h dX4_rank_150 rfl rfl ?_
      refine g_lrem h dX4_rank_151 hall ?_
      refine m_last (k := 60) h hM rfl (by show _ < 10; omega) dX4_rank_152 (fun c hM => ?_)
      rw [b2_60] at hM
      refine g_lload h dX4_rank_153 rfl ?_
      refine g_aload_n (i := 0) h dX4_rank_155 rfl rfl ?_
      refine m_get h hM f_X4_140_4 rfl dX4_rank_156 ?_
      refine g_iload h dX4_rank_159 rfl ?_
      refine m_lald (k := 59) (x := B 58 n * has / all) h hM rfl (by show _ < 10; omega) (by show vp_updL _ n _ n = _; unfold vp_updL; rw [if_pos rfl]) dX4_rank_161 ?_
      refine g_ladd h dX4_rank_162 ?_
      refine g_lstore h dX4_rank_163 (by decide) ?_
      first | (with_reducible refine g_iincN h dX4_rank_165 rfl (by decide) ?_) | refine g_iinc1 h dX4_rank_165 rfl (by decide) ?_
      refine g_goto (tgt := 64) h dX4_rank_168 (by decide) ?_
      simp only [sPart, if_pos h1, if_pos h2] at ih
      exact G.to (ih c hM) ⟨rfl, rfl, rfl, rfl, rfl, rfl, trivial⟩
    refine g_iload h dX4_rank_64 rfl ?_
    refine g_aload_n (i := 0) h dX4_rank_66 rfl rfl ?_
    refine m_get (v := .int (A 61 0)) h hM f_X4_388_4 rfl dX4_rank_67 ?_
    refine G.int hN ?_
    refine g_icmp_ge (tgt := 171) h dX4_rank_70 (by decide) (fun _bz => absurd _bz (nI_ge hn (by omega))) (fun b70 => ?_)
    refine g_aload_n (i := 0) h dX4_rank_73 rfl rfl ?_
    refine m_get h hM f_X4_134_4 rfl dX4_rank_74 ?_
    refine g_iload h dX4_rank_77 rfl ?_
    refine m_iald (k := 57) (x := A 57 _) h hM rfl rfl (by show _ < 10; omega) rfl dX4_rank_79 ?_
    refine g_iload_n (i := 1) h dX4_rank_80 rfl rfl ?_
    refine g_icmp_eq (tgt := 87) h dX4_rank_81 (by decide) (fun b81 => ?_) (fun _bz => absurd _bz (not_not_intro h1))
    refine g_aload_n (i := 0) h dX4_rank_87 rfl rfl ?_
    refine m_get h hM f_X4_140_4 rfl dX4_rank_88 ?_
    refine g_iload h dX4_rank_91 rfl ?_
    refine g_lload h dX4_rank_93 rfl ?_
    refine g_lload_n (i := 2) h dX4_rank_95 rfl rfl ?_
    refine g_lcmp h dX4_rank_96 ?_
    refine g_if_lt (tgt := 110) h dX4_rank_97 (by decide) (fun _bz => absurd _bz (fun q => h2 ((lg_cmp_lt _ _).mp q))) (fun b97 => ?_)
    rw [lg_cmp_lt] at b97
    refine g_aload_n (i := 0) h dX4_rank_100 rfl rfl ?_
    refine m_get h hM f_X4_137_4 rfl dX4_rank_101 ?_
    refine g_iload h dX4_rank_104 rfl ?_
    refine m_lald (k := 58) (x := B 58 n) h hM rfl (by show _ < 10; omega) rfl dX4_rank_106 ?_
    refine g_goto (tgt := 122) h dX4_rank_107 (by decide) ?_
    refine m_last (k := 59) h hM rfl (by show _ < 10; omega) dX4_rank_122 (fun c hM => ?_)
    rw [b2_59] at hM
    refine g_aload_n (i := 0) h dX4_rank_123 rfl rfl ?_
    refine m_get h hM f_X4_143_4 rfl dX4_rank_124 ?_
    refine g_iload h dX4_rank_127 rfl ?_
    refine g_lload h dX4_rank_129 rfl ?_
    refine g_lload_n (i := 2) h dX4_rank_131 rfl rfl ?_
    refine g_lcmp h dX4_rank_132 ?_
    refine g_if_lt (tgt := 140) h dX4_rank_133 (by decide) (fun _bz => absurd _bz (fun q => h2 ((lg_cmp_lt _ _).mp q))) (fun b133 => ?_)
    rw [lg_cmp_lt] at b133
    refine g_lconst (v := 0) h dX4_rank_136 (by decide) ?_
    refine g_goto (tgt := 152) h dX4_rank_137 (by decide) ?_
    refine m_last (k := 60) h hM rfl (by show _ < 10; omega) dX4_rank_152 (fun c hM => ?_)
    rw [b2_60] at hM
    refine g_lload h dX4_rank_153 rfl ?_
    refine g_aload_n (i := 0) h dX4_rank_155 rfl rfl ?_
    refine m_get h hM f_X4_140_4 rfl dX4_rank_156 ?_
    refine g_iload h dX4_rank_159 rfl ?_
    refine m_lald (k := 59) (x := B 58 n) h hM rfl (by show _ < 10; omega) (by show vp_updL _ n _ n = _; unfold vp_updL; rw [if_pos rfl]) dX4_rank_161 ?_
    refine g_ladd h dX4_rank_162 ?_
    refine g_lstore h dX4_rank_163 (by decide) ?_
    first | (with_reducible refine g_iincN h dX4_rank_165 rfl (by decide) ?_) | refine g_iinc1 h dX4_rank_165 rfl (by decide) ?_
    refine g_goto (tgt := 64) h dX4_rank_168 (by decide) ?_
    simp only [sPart, if_pos h1, if_neg h2] at ih
    exact G.to (ih c hM) ⟨rfl, rfl, rfl, rfl, rfl, rfl, trivial⟩
/-- a rank's loans are paid -/
def sRank (r : Int32) (N : Nat) (s : mS) : mS :=
  if sAll (s.1 57) (s.2.1 58) r N = 0 then s else
    sPay r N 0 (s.1, b2 s.2.1
      (sGive (s.1 57) r N (sMore (s.2.1 43 0) (sAll (s.1 57) (s.2.1 58) r N) (sPart (s.1 57) (s.2.1 58) r (s.2.1 43 0) (sAll (s.1 57) (s.2.1 58) r N) (s.2.1 59) (s.2.1 60) N).2.2).toInt.toNat ((sPart (s.1 57) (s.2.1 58) r (s.2.1 43 0) (sAll (s.1 57) (s.2.1 58) r N) (s.2.1 59) (s.2.1 60) N).1, (sPart (s.1 57) (s.2.1 58) r (s.2.1 43 0) (sAll (s.1 57) (s.2.1 58) r N) (s.2.1 59) (s.2.1 60) N).2.1)).1
      (sGive (s.1 57) r N (sMore (s.2.1 43 0) (sAll (s.1 57) (s.2.1 58) r N) (sPart (s.1 57) (s.2.1 58) r (s.2.1 43 0) (sAll (s.1 57) (s.2.1 58) r N) (s.2.1 59) (s.2.1 60) N).2.2).toInt.toNat ((sPart (s.1 57) (s.2.1 58) r (s.2.1 43 0) (sAll (s.1 57) (s.2.1 58) r N) (s.2.1 59) (s.2.1 60) N).1, (sPart (s.1 57) (s.2.1 58) r (s.2.1 43 0) (sAll (s.1 57) (s.2.1 58) r N) (s.2.1 59) (s.2.1 60) N).2.1)).2,
      s.2.2.1, s.2.2.2)
theorem ct_rank {l : Launch} {g : gGP} (hk : gK l g) {c0 c : gLH} {mo : Nat} {ma : Nat → Nat} {cl ll : Nat} {A : Nat → Nat → Int32} {B : Nat → Nat → Int64} (hM : MW c0 mo ma cl ll A B c) (r : Int32) {N nl NN LL : Nat} {AA : Nat → Nat → Int32} {BB : Nat → Nat → Int64} (hN : A 61 0 = nI N) (hN10 : N ≤ 10) (hnl : A 42 0 = nI nl) (hle : nl ≤ ll) (hl0 : 4 ≤ ll) (hS : sRank r N (A, B, nl, ll) = (AA, BB, NN, LL)) (hNN : NN < 400000) : Ct l g yX4_rank hwX4_rank 2 80 [.ref mo, .int r] c (LL - ll) (8 * (LL - ll)) (pV (fun c' => ∃ ma', MW c0 mo ma' cl LL AA BB c')) := by
  refine Ct.intro hk hcX4_rank (by decide +kernel) (Nat.le_of_ble_eq_true rfl) (fun φ h => ?_)
  have after : G φ (gQ φ (pV (fun c' => ∃ ma', MW c0 mo ma' cl LL AA BB c')) (LL - ll) (8 * (LL - ll))) 45 [(0, .ref mo), (1, .int r), (2, .long (sAll (A 57) (B 58) r N))] [] c 0 0 := by
    unfold sRank at hS
    by_cases h0 : sAll (A 57) (B 58) r N = 0
    · rw [if_pos h0] at hS
      simp only [Prod.mk.injEq] at hS
      obtain ⟨rfl, rfl, rfl, rfl⟩ := hS
      refine g_lload_n (i := 2) h dX4_rank_45 rfl rfl ?_
      refine g_lconst (v := 0) h dX4_rank_46 (by decide) ?_
      refine g_lcmp h dX4_rank_47 ?_
      refine g_if_ne (tgt := 52) h dX4_rank_48 (by decide) (fun _bz => absurd _bz (not_not_intro ((lg_cmp_eq _ _).mpr h0))) (fun b48 => ?_)
      rw [lg_cmp_eq] at b48
      exact g_vret h ⟨rfl, ma, hM⟩ (Nat.zero_le _) (Nat.zero_le _) dX4_rank_51
    · skip
      refine g_lload_n (i := 2) h dX4_rank_45 rfl rfl ?_
      refine g_lconst (v := 0) h dX4_rank_46 (by decide) ?_
      refine g_lcmp h dX4_rank_47 ?_
      refine g_if_ne (tgt := 52) h dX4_rank_48 (by decide) (fun b48 => ?_) (fun _bz => absurd _bz (fun q => h0 ((lg_cmp_eq _ _).mp q)))
      rw [lg_cmp_eq] at b48
      refine g_aload_n (i := 0) h dX4_rank_52 rfl rfl ?_
      refine m_get (v := .long (B 43 0)) h hM f_X4_373_4 rfl dX4_rank_53 ?_
      refine g_lstore h dX4_rank_56 (by decide) ?_
      refine g_lconst (v := 0) h dX4_rank_58 (by decide) ?_
      refine g_lstore h dX4_rank_59 (by decide) ?_
      refine g_iconst (v := 0) h dX4_rank_61 (by decide) ?_
      refine g_istore h dX4_rank_62 (by decide) ?_
      rw [if_neg h0] at hS
      refine G.to (rank_part (Post := pV (fun c' => ∃ ma', MW c0 mo ma' cl LL AA BB c')) (has := B 43 0) (all := sAll (A 57) (B 58) r N) h hN10 hN h0 ?_ 0 (Nat.zero_le _) c ((b2_id B).symm ▸ hM)) ⟨rfl, rfl, rfl, rfl, rfl, rfl, trivial⟩
      intro c hM
      refine rank_give h hN10 hN ?_ _ _ _ _ c rfl rfl hM
      intro c hM
      refine g_iconst (v := nI 0) h dX4_rank_303 (by decide) ?_
      refine g_istore h dX4_rank_304 (by decide) ?_
      refine G.up (ce' := ll - ll) (sl' := 8 * (ll - ll)) (by omega) (by omega) ?_
      exact G.to (rank_pay h hN10 hNN (Nat.le_refl _) (Nat.le_refl _) (fun ma' c' hM' => ⟨rfl, ma', hM'⟩) N 0 _ _ nl ll ma c (by omega) hS hM hN hnl hle hl0 (Nat.le_refl _)) ⟨rfl, rfl, rfl, trivial⟩
  have loop : ∀ n, n ≤ N → G φ (gQ φ (pV (fun c' => ∃ ma', MW c0 mo ma' cl LL AA BB c')) (LL - ll) (8 * (LL - ll))) 5 [(0, .ref mo), (1, .int r), (2, .long (sAll (A 57) (B 58) r n)), (4, .int (nI n))] [] c 0 0 := by
    refine gloop ?_ ?_
    · skip
      refine g_iload h dX4_rank_5 rfl ?_
      refine g_aload_n (i := 0) h dX4_rank_7 rfl rfl ?_
      refine m_get (v := .int (A 61 0)) h hM f_X4_388_4 rfl dX4_rank_8 ?_
      refine G.int hN ?_
      refine g_icmp_ge (tgt := 45) h dX4_rank_11 (by decide) (fun b11 => ?_) (fun _bz => absurd _bz (fun q => absurd (nI_le (Nat.le_refl N) (by omega)) q))
      exact G.to after ⟨rfl, rfl, rfl, trivial⟩
    · intro n hn ih
      refine g_iload h dX4_rank_5 rfl ?_
      refine g_aload_n (i := 0) h dX4_rank_7 rfl rfl ?_
      refine m_get (v := .int (A 61 0)) h hM f_X4_388_4 rfl dX4_rank_8 ?_
      refine G.int hN ?_
      refine g_icmp_ge (tgt := 45) h dX4_rank_11 (by decide) (fun _bz => absurd _bz (nI_ge hn (by omega))) (fun b11 => ?_)
      refine g_lload_n (i := 2) h dX4_rank_14 rfl rfl ?_
      refine g_aload_n (i := 0) h dX4_rank_15 rfl rfl ?_
      refine m_get h hM f_X4_134_4 rfl dX4_rank_16 ?_
      refine g_iload h dX4_rank_19 rfl ?_
      refine m_iald (k := 57) (x := A 57 _) h hM rfl rfl (by show _ < 10; omega) rfl dX4_rank_21 ?_
      refine g_iload_n (i := 1) h dX4_rank_22 rfl rfl ?_
      refine g_icmp_ne (tgt := 36) h dX4_rank_23 (by decide) (fun b23 => ?_) (fun b23 => ?_)
      · refine g_lconst (v := 0) h dX4_rank_36 (by decide) ?_
        refine g_ladd h dX4_rank_37 ?_
        refine g_lstore_n (i := 2) h dX4_rank_38 rfl (by decide) ?_
        first | (with_reducible refine g_iincN h dX4_rank_39 rfl (by decide) ?_) | refine g_iinc1 h dX4_rank_39 rfl (by decide) ?_
        refine g_goto (tgt := 5) h dX4_rank_42 (by decide) ?_
        simp only [sAll, b11, b23, if_true, if_false] at ih
        exact G.to ih ⟨rfl, rfl, rfl, rfl, trivial⟩
      · refine g_aload_n (i := 0) h dX4_rank_26 rfl rfl ?_
        refine m_get h hM f_X4_137_4 rfl dX4_rank_27 ?_
        refine g_iload h dX4_rank_30 rfl ?_
        refine m_lald (k := 58) (x := B 58 _) h hM rfl (by show _ < 10; omega) rfl dX4_rank_32 ?_
        refine g_goto (tgt := 37) h dX4_rank_33 (by decide) ?_
        refine g_ladd h dX4_rank_37 ?_
        refine g_lstore_n (i := 2) h dX4_rank_38 rfl (by decide) ?_
        first | (with_reducible refine g_iincN h dX4_rank_39 rfl (by decide) ?_) | refine g_iinc1 h dX4_rank_39 rfl (by decide) ?_
        refine g_goto (tgt := 5) h dX4_rank_42 (by decide) ?_
        simp only [sAll, b11, b23, if_true, if_false] at ih
        exact G.to ih ⟨rfl, rfl, rfl, rfl, trivial⟩
  refine g_lconst (v := 0) h dX4_rank_0 (by decide) ?_
  refine g_lstore_n (i := 2) h dX4_rank_1 rfl (by decide) ?_
  refine g_iconst (v := 0) h dX4_rank_2 (by decide) ?_
  refine g_istore h dX4_rank_3 (by decide) ?_
  exact G.to (loop 0 (Nat.zero_le _)) ⟨rfl, rfl, rfl, rfl, trivial⟩
