/-! THE MODEL: let -/
set_option maxRecDepth 100000
/-- whether bid k can be taken -/
def sCan (A : Nat → Nat → Int32) (B : Nat → Nat → Int64) (k : Nat) : Bool := !decide (A 49 k < A 48 k) && !decide (B 44 (ix (A 47 k)) < (A 48 k).toInt64 + (A 49 k).toInt64)
/-- the best of gate j's first n bids -/
def sLetB (A : Nat → Nat → Int32) (B : Nat → Nat → Int64) (j : Nat) : Nat → Option Nat
  | 0 => none
  | n + 1 => match sLetB A B j n with
    | none => if sCan A B (10 * j + n) = true then some (10 * j + n) else none
    | some b => if sCan A B (10 * j + n) = true then (if A 48 (10 * j + n) ≤ A 48 b then some b else some (10 * j + n)) else some b
theorem sLetB_lt {A : Nat → Nat → Int32} {B : Nat → Nat → Int64} {j : Nat} : ∀ {n b : Nat}, sLetB A B j n = some b → 10 * j ≤ b ∧ b < 10 * j + n ∧ sCan A B b = true := by
  intro n
  induction n with
  | zero => intro b h; cases h
  | succ n ih =>
    intro b h
    simp only [sLetB] at h
    cases hf : sLetB A B j n with
    | none =>
      rw [hf] at h
      simp only at h
      split at h
      · next hc => cases h; exact ⟨by omega, by omega, hc⟩
      · cases h
    | some b2 =>
      rw [hf] at h
      simp only at h
      have := ih hf
      split at h
      · next hc =>
        split at h
        · cases h; exact ⟨this.1, by omega, this.2.2⟩
        · cases h; exact ⟨by omega, by omega, hc⟩
      · cases h; exact ⟨this.1, by omega, this.2.2⟩
def sLetK (A : Nat → Nat → Int32) (n q : Int32) : Nat := if n < 0 then 1 else if n < A 31 0 then (if q < 1 then 2 else if q ≤ 40 then (if A 50 (ix n) < 0 then 0 else 3) else 2) else 1
def sLetA (A : Nat → Nat → Int32) (j b : Nat) (q : Int32) : Nat → Nat → Int32 := mA (mA (mA (mA (mA A 46 j 0) 50 j (A 47 b)) 51 j (A 48 b)) 52 j (A 49 b)) 54 j q
def sLetBB (A : Nat → Nat → Int32) (B : Nat → Nat → Int64) (b : Nat) : Nat → Nat → Int64 := mB B 44 (ix (A 47 b)) (B 44 (ix (A 47 b)) - (A 49 b).toInt64)
/-- the books after a let: the answer, ints, longs, the journal's room -/
def sLet (A : Nat → Nat → Int32) (B : Nat → Nat → Int64) (j nb nl ll : Nat) (q : Int32) : Int32 × (Nat → Nat → Int32) × (Nat → Nat → Int64) × Nat := match sLetB A B j nb with
  | none => (-1, A, B, ll)
  | some b => (A 47 b, sRentA (sLetA A j b q) (sLetBB A B b) j (ix (A 47 b)) nl, sRentB (sLetA A j b q) (sLetBB A B b) j (ix (A 47 b)), sRentL (sLetA A j b q) (sLetBB A B b) j (ix (A 47 b)) nl ll)
theorem let_rest {φ : gFx} {l : Launch} {g : gGP} {MC MS : Nat} (h : gOK φ l g { frames := 3, cells := MC, slots := MS, locals := 120 } cX4_let 6 RX4 "let" (some .int) []) {c0 c : gLH} {mo : Nat} {ma : Nat → Nat} {cl ll : Nat} {A : Nat → Nat → Int32} {B : Nat → Nat → Int64} (hM : MW c0 mo ma cl ll A B c) {j nb nl : Nat} {q r : Int32} {AA : Nat → Nat → Int32} {BB : Nat → Nat → Int64} {LL : Nat} (hj : j < 8) (hnb : A 46 j = nI nb) (hnb10 : nb ≤ 10) (hbf : ∀ k, 10 * j ≤ k → k < 10 * j + nb → A 47 k = nI (ix (A 47 k)) ∧ ix (A 47 k) < 8) (hnl : A 42 0 = nI nl) (hle : nl ≤ ll) (hl0 : 4 ≤ ll) (hl2 : nl < 400000)
    (hS : sLet A B j nb nl ll q = (r, AA, BB, LL)) (hMC : LL - ll ≤ MC) (hMS : 8 * (LL - ll) ≤ MS) :
    ∀ n, n ≤ nb → G φ (gQ φ (pI r (fun c' => ∃ ma', MW c0 mo ma' cl LL AA BB c')) MC MS) 86 [(0, .ref mo), (1, .int (nI j)), (2, .int q), (3, .int (oI (sLetB A B j n))), (4, .int (nI (10 * j + n)))] [] c 0 0 := by
  have after : G φ (gQ φ (pI r (fun c' => ∃ ma', MW c0 mo ma' cl LL AA BB c')) MC MS) 193 [(0, .ref mo), (1, .int (nI j)), (2, .int q), (3, .int (oI (sLetB A B j nb)))] [] c 0 0 := by
    unfold sLet at hS
    cases hb : sLetB A B j nb with
    | none =>
      simp only [hb, Prod.mk.injEq] at hS
      obtain ⟨rfl, rfl, rfl, rfl⟩ := hS
      refine g_iload_n (i := 3) h dX4_let_193 rfl rfl ?_
      refine g_if_ge (tgt := 199) h dX4_let_194 (by decide) (fun _bz => absurd _bz (by decide)) (fun b194 => ?_)
      refine g_iconst (v := (-1)) h dX4_let_197 (by decide) ?_
      exact g_iret h ⟨rfl, ma, hM⟩ (by first | exact Nat.zero_le _ | (rw [Nat.zero_add]; exact hMC)) (by first | exact Nat.zero_le _ | (rw [Nat.zero_add]; exact hMS)) dX4_let_198
    | some b =>
      simp only [hb, Prod.mk.injEq] at hS
      obtain ⟨rfl, rfl, rfl, rfl⟩ := hS
      have hb2 := sLetB_lt hb
      have hfb := hbf b hb2.1 hb2.2.1
      refine G.to (lv' := [(0, .ref mo), (1, .int (nI j)), (2, .int q), (3, .int (nI b))]) ?_ ⟨rfl, rfl, rfl, rfl, trivial⟩
      refine g_iload_n (i := 3) h dX4_let_193 rfl rfl ?_
      refine g_if_ge (tgt := 199) h dX4_let_194 (by decide) (fun b194 => ?_) (fun _bz => absurd _bz (not_not_intro <| Int32.not_lt.mp (nI_pos (n := b) (by omega))))
      refine g_aload_n (i := 0) h dX4_let_199 rfl rfl ?_
      refine m_get h hM f_X4_104_4 rfl dX4_let_200 ?_
      refine g_iload_n (i := 3) h dX4_let_203 rfl rfl ?_
      refine m_iald (k := 47) (x := nI (ix (A 47 b))) h hM rfl rfl (by show _ < 80; omega) (hbf _ (by omega) (by omega)).1 dX4_let_204 ?_
      refine g_istore h dX4_let_205 (by decide) ?_
      refine g_aload_n (i := 0) h dX4_let_207 rfl rfl ?_
      refine m_get h hM f_X4_101_4 rfl dX4_let_208 ?_
      refine g_iload_n (i := 1) h dX4_let_211 rfl rfl ?_
      refine g_iconst (v := 0) h dX4_let_212 (by decide) ?_
      refine m_iast (k := 46) h hM rfl rfl (by show _ < 8; omega) dX4_let_213 (fun c hM => ?_)
      refine g_aload_n (i := 0) h dX4_let_214 rfl rfl ?_
      refine m_get h hM f_X4_113_4 rfl dX4_let_215 ?_
      refine g_iload_n (i := 1) h dX4_let_218 rfl rfl ?_
      refine g_iload h dX4_let_219 rfl ?_
      refine G.int hfb.1.symm ?_
      refine m_iast (k := 50) h hM rfl rfl (by show _ < 8; omega) dX4_let_221 (fun c hM => ?_)
      refine g_aload_n (i := 0) h dX4_let_222 rfl rfl ?_
      refine m_get h hM f_X4_116_4 rfl dX4_let_223 ?_
      refine g_iload_n (i := 1) h dX4_let_226 rfl rfl ?_
      refine g_aload_n (i := 0) h dX4_let_227 rfl rfl ?_
      refine m_get h hM f_X4_107_4 rfl dX4_let_228 ?_
      refine g_iload_n (i := 3) h dX4_let_231 rfl rfl ?_
      refine m_iald (k := 48) (x := A 48 _) h hM rfl rfl (by show _ < 80; omega) rfl dX4_let_232 ?_
      refine m_iast (k := 51) h hM rfl rfl (by show _ < 8; omega) dX4_let_233 (fun c hM => ?_)
      refine g_aload_n (i := 0) h dX4_let_234 rfl rfl ?_
      refine m_get h hM f_X4_119_4 rfl dX4_let_235 ?_
      refine g_iload_n (i := 1) h dX4_let_238 rfl rfl ?_
      refine g_aload_n (i := 0) h dX4_let_239 rfl rfl ?_
      refine m_get h hM f_X4_110_4 rfl dX4_let_240 ?_
      refine g_iload_n (i := 3) h dX4_let_243 rfl rfl ?_
      refine m_iald (k := 49) (x := A 49 _) h hM rfl rfl (by show _ < 80; omega) rfl dX4_let_244 ?_
      refine m_iast (k := 52) h hM rfl rfl (by show _ < 8; omega) dX4_let_245 (fun c hM => ?_)
      refine g_aload_n (i := 0) h dX4_let_246 rfl rfl ?_
      refine m_get h hM f_X4_125_4 rfl dX4_let_247 ?_
      refine g_iload_n (i := 1) h dX4_let_250 rfl rfl ?_
      refine g_iload_n (i := 2) h dX4_let_251 rfl rfl ?_
      refine m_iast (k := 54) h hM rfl rfl (by show _ < 8; omega) dX4_let_252 (fun c hM => ?_)
      refine g_aload_n (i := 0) h dX4_let_253 rfl rfl ?_
      refine m_get h hM f_X4_98_4 rfl dX4_let_254 ?_
      refine g_iload h dX4_let_257 rfl ?_
      refine g_dup2 h dX4_let_259 rfl rfl ?_
      refine m_lald (k := 44) (x := B 44 (ix (A 47 b))) h hM rfl (by show _ < 8; omega) rfl dX4_let_260 ?_
      refine g_aload_n (i := 0) h dX4_let_261 rfl rfl ?_
      refine m_get h hM f_X4_119_4 rfl dX4_let_262 ?_
      refine g_iload_n (i := 1) h dX4_let_265 rfl rfl ?_
      refine m_iald (k := 52) (x := A 49 b) h hM rfl rfl (by show _ < 8; omega) (mA_rd _ 52 j _) dX4_let_266 ?_
      refine g_i2l h dX4_let_267 ?_
      refine g_lsub h dX4_let_268 ?_
      refine m_last (k := 44) h hM rfl (by show _ < 8; omega) dX4_let_269 (fun c hM => ?_)
      refine g_aload_n (i := 0) h dX4_let_270 rfl rfl ?_
      refine g_iload_n (i := 1) h dX4_let_271 rfl rfl ?_
      refine g_invV h (ct_rentDue (j := j) (f := ix (A 47 b)) (nl := nl) h.k hM hj ((mA_rd _ 50 j _).trans hfb.1) (by omega) hnl hle hl0 hl2) hcX4_rentDue w_X4_385 rfl rfl hM.obj (Nat.le_of_ble_eq_true rfl) ⟨Nat.le_of_ble_eq_true rfl, Nat.le_of_ble_eq_true rfl⟩ ⟨by dsimp only; show 0 + (sRentL (sLetA A j b q) (sLetBB A B b) j (ix (A 47 b)) nl ll - ll) ≤ MC; omega, by dsimp only; show 0 + 8 * (sRentL (sLetA A j b q) (sLetBB A B b) j (ix (A 47 b)) nl ll - ll) ≤ MS; omega⟩ dX4_let_272 (gkr_v (fun c hM => ?_)) gkt_v
      obtain ⟨ma, hM⟩ := hM
      refine g_iload h dX4_let_275 rfl ?_
      exact g_iret h ⟨congrArg (fun x => Outcome.returned (some (Value.int x))) hfb.1.symm, _, hM⟩ (by first | exact Nat.zero_le _ | (rw [Nat.zero_add]; exact hMC)) (by first | exact Nat.zero_le _ | (rw [Nat.zero_add]; exact hMS)) dX4_let_277
  refine gloop ?_ ?_
  · skip
    refine g_iload h dX4_let_86 rfl ?_
    refine g_bipush (v := nI 10) h dX4_let_88 (by decide) ?_
    refine g_iload_n (i := 1) h dX4_let_90 rfl rfl ?_
    first | (with_reducible refine g_imulN h dX4_let_91 ?_) | refine g_imul h dX4_let_91 ?_
    refine g_aload_n (i := 0) h dX4_let_92 rfl rfl ?_
    refine m_get h hM f_X4_101_4 rfl dX4_let_93 ?_
    refine g_iload_n (i := 1) h dX4_let_96 rfl rfl ?_
    refine m_iald (k := 46) (x := nI nb) h hM rfl rfl (by show _ < 8; omega) hnb dX4_let_97 ?_
    first | (with_reducible refine g_iaddN h dX4_let_98 ?_) | refine g_iadd h dX4_let_98 ?_
    refine g_icmp_ge (tgt := 193) h dX4_let_99 (by decide) (fun b99 => ?_) (fun _bz => absurd _bz (fun q => absurd (nI_le (Nat.le_refl (10 * j + nb)) (by omega)) q))
    exact G.to after ⟨rfl, rfl, rfl, rfl, trivial⟩
  · intro n hn ih
    cases hf : sLetB A B j n with
    | none =>
      refine g_iload h dX4_let_86 rfl ?_
      refine g_bipush (v := nI 10) h dX4_let_88 (by decide) ?_
      refine g_iload_n (i := 1) h dX4_let_90 rfl rfl ?_
      first | (with_reducible refine g_imulN h dX4_let_91 ?_) | refine g_imul h dX4_let_91 ?_
      refine g_aload_n (i := 0) h dX4_let_92 rfl rfl ?_
      refine m_get h hM f_X4_101_4 rfl dX4_let_93 ?_
      refine g_iload_n (i := 1) h dX4_let_96 rfl rfl ?_
      refine m_iald (k := 46) (x := nI nb) h hM rfl rfl (by show _ < 8; omega) hnb dX4_let_97 ?_
      first | (with_reducible refine g_iaddN h dX4_let_98 ?_) | refine g_iadd h dX4_let_98 ?_
      refine g_icmp_ge (tgt := 193) h dX4_let_99 (by decide) (fun _bz => absurd _bz (nI_ge (by omega) (by omega))) (fun b99 => ?_)
      refine g_aload_n (i := 0) h dX4_let_102 rfl rfl ?_
      refine m_get h hM f_X4_110_4 rfl dX4_let_103 ?_
      refine g_iload h dX4_let_106 rfl ?_
      refine m_iald (k := 49) (x := A 49 _) h hM rfl rfl (by show _ < 80; omega) rfl dX4_let_108 ?_
      refine g_aload_n (i := 0) h dX4_let_109 rfl rfl ?_
      refine m_get h hM f_X4_107_4 rfl dX4_let_110 ?_
      refine g_iload h dX4_let_113 rfl ?_
      refine m_iald (k := 48) (x := A 48 _) h hM rfl rfl (by show _ < 80; omega) rfl dX4_let_115 ?_
      refine g_icmp_lt (tgt := 156) h dX4_let_116 (by decide) (fun b116 => ?_) (fun b116 => ?_)
      · refine g_iconst (v := 0) h dX4_let_156 (by decide) ?_
        refine g_istore h dX4_let_157 (by decide) ?_
        refine g_iload h dX4_let_159 rfl ?_
        refine g_if_eq (tgt := 187) h dX4_let_161 (by decide) (fun _bz => ?_) (fun _bz => absurd _bz (by decide))
        first | (with_reducible refine g_iincN h dX4_let_187 rfl (by decide) ?_) | refine g_iinc1 h dX4_let_187 rfl (by decide) ?_
        refine g_goto (tgt := 86) h dX4_let_190 (by decide) ?_
        simp only [sLetB, hf, sCan, b99, b116, decide_true, decide_false, Bool.not_true, Bool.not_false, Bool.and_true, Bool.and_false, Bool.true_and, Bool.false_and, if_true, if_false, Bool.false_eq_true] at ih
        exact G.to ih ⟨rfl, rfl, rfl, rfl, rfl, trivial⟩
      · refine g_aload_n (i := 0) h dX4_let_119 rfl rfl ?_
        refine m_get h hM f_X4_98_4 rfl dX4_let_120 ?_
        refine g_aload_n (i := 0) h dX4_let_123 rfl rfl ?_
        refine m_get h hM f_X4_104_4 rfl dX4_let_124 ?_
        refine g_iload h dX4_let_127 rfl ?_
        refine m_iald (k := 47) (x := nI (ix (A 47 (10 * j + n)))) h hM rfl rfl (by show _ < 80; omega) (hbf _ (by omega) (by omega)).1 dX4_let_129 ?_
        refine m_lald (k := 44) (x := B 44 (ix (A 47 (10 * j + n)))) h hM rfl (by show _ < 8; exact (hbf _ (by omega) (by omega)).2) rfl dX4_let_130 ?_
        refine g_aload_n (i := 0) h dX4_let_131 rfl rfl ?_
        refine m_get h hM f_X4_107_4 rfl dX4_let_132 ?_
        refine g_iload h dX4_let_135 rfl ?_
        refine m_iald (k := 48) (x := A 48 _) h hM rfl rfl (by show _ < 80; omega) rfl dX4_let_137 ?_
        refine g_i2l h dX4_let_138 ?_
        refine g_aload_n (i := 0) h dX4_let_139 rfl rfl ?_
        refine m_get h hM f_X4_110_4 rfl dX4_let_140 ?_
        refine g_iload h dX4_let_143 rfl ?_
        refine m_iald (k := 49) (x := A 49 _) h hM rfl rfl (by show _ < 80; omega) rfl dX4_let_145 ?_
        refine g_i2l h dX4_let_146 ?_
        refine g_ladd h dX4_let_147 ?_
        refine g_lcmp h dX4_let_148 ?_
        refine g_if_lt (tgt := 156) h dX4_let_149 (by decide) (fun b149 => ?_) (fun b149 => ?_)
        · rw [lg_cmp_lt] at b149
          refine g_iconst (v := 0) h dX4_let_156 (by decide) ?_
          refine g_istore h dX4_let_157 (by decide) ?_
          refine g_iload h dX4_let_159 rfl ?_
          refine g_if_eq (tgt := 187) h dX4_let_161 (by decide) (fun _bz => ?_) (fun _bz => absurd _bz (by decide))
          first | (with_reducible refine g_iincN h dX4_let_187 rfl (by decide) ?_) | refine g_iinc1 h dX4_let_187 rfl (by decide) ?_
          refine g_goto (tgt := 86) h dX4_let_190 (by decide) ?_
          simp only [sLetB, hf, sCan, b99, b116, b149, decide_true, decide_false, Bool.not_true, Bool.not_false, Bool.and_true, Bool.and_false, Bool.true_and, Bool.false_and, if_true, if_false, Bool.false_eq_true] at ih
          exact G.to ih ⟨rfl, rfl, rfl, rfl, rfl, trivial⟩
        · rw [lg_cmp_lt] at b149
          refine g_iconst (v := 1) h dX4_let_152 (by decide) ?_
          refine g_goto (tgt := 157) h dX4_let_153 (by decide) ?_
          refine g_istore h dX4_let_157 (by decide) ?_
          refine g_iload h dX4_let_159 rfl ?_
          refine g_if_eq (tgt := 187) h dX4_let_161 (by decide) (fun _bz => absurd _bz (by decide)) (fun _bz => ?_)
          refine g_iload_n (i := 3) h dX4_let_164 rfl rfl ?_
          refine g_if_lt (tgt := 184) h dX4_let_165 (by decide) (fun b165 => ?_) (fun _bz => absurd _bz (by decide))
          refine g_iload h dX4_let_184 rfl ?_
          refine g_istore_n (i := 3) h dX4_let_186 rfl (by decide) ?_
          first | (with_reducible refine g_iincN h dX4_let_187 rfl (by decide) ?_) | refine g_iinc1 h dX4_let_187 rfl (by decide) ?_
          refine g_goto (tgt := 86) h dX4_let_190 (by decide) ?_
          simp only [sLetB, hf, sCan, b99, b116, b149, b165, decide_true, decide_false, Bool.not_true, Bool.not_false, Bool.and_true, Bool.and_false, Bool.true_and, Bool.false_and, if_true, if_false, Bool.false_eq_true] at ih
          exact G.to ih ⟨rfl, rfl, rfl, rfl, rfl, trivial⟩
    | some b =>
      have hb2 := sLetB_lt hf
      refine G.to (lv' := [(0, .ref mo), (1, .int (nI j)), (2, .int q), (3, .int (nI b)), (4, .int (nI (10 * j + n)))]) ?_ ⟨rfl, rfl, rfl, rfl, rfl, trivial⟩
      refine g_iload h dX4_let_86 rfl ?_
      refine g_bipush (v := nI 10) h dX4_let_88 (by decide) ?_
      refine g_iload_n (i := 1) h dX4_let_90 rfl rfl ?_
      first | (with_reducible refine g_imulN h dX4_let_91 ?_) | refine g_imul h dX4_let_91 ?_
      refine g_aload_n (i := 0) h dX4_let_92 rfl rfl ?_
      refine m_get h hM f_X4_101_4 rfl dX4_let_93 ?_
      refine g_iload_n (i := 1) h dX4_let_96 rfl rfl ?_
      refine m_iald (k := 46) (x := nI nb) h hM rfl rfl (by show _ < 8; omega) hnb dX4_let_97 ?_
      first | (with_reducible refine g_iaddN h dX4_let_98 ?_) | refine g_iadd h dX4_let_98 ?_
      refine g_icmp_ge (tgt := 193) h dX4_let_99 (by decide) (fun _bz => absurd _bz (nI_ge (by omega) (by omega))) (fun b99 => ?_)
      refine g_aload_n (i := 0) h dX4_let_102 rfl rfl ?_
      refine m_get h hM f_X4_110_4 rfl dX4_let_103 ?_
      refine g_iload h dX4_let_106 rfl ?_
      refine m_iald (k := 49) (x := A 49 _) h hM rfl rfl (by show _ < 80; omega) rfl dX4_let_108 ?_
      refine g_aload_n (i := 0) h dX4_let_109 rfl rfl ?_
      refine m_get h hM f_X4_107_4 rfl dX4_let_110 ?_
      refine g_iload h dX4_let_113 rfl ?_
      refine m_iald (k := 48) (x := A 48 _) h hM rfl rfl (by show _ < 80; omega) rfl dX4_let_115 ?_
      refine g_icmp_lt (tgt := 156) h dX4_let_116 (by decide) (fun b116 => ?_) (fun b116 => ?_)
      · refine g_iconst (v := 0) h dX4_let_156 (by decide) ?_
        refine g_istore h dX4_let_157 (by decide) ?_
        refine g_iload h dX4_let_159 rfl ?_
        refine g_if_eq (tgt := 187) h dX4_let_161 (by decide) (fun _bz => ?_) (fun _bz => absurd _bz (by decide))
        first | (with_reducible refine g_iincN h dX4_let_187 rfl (by decide) ?_) | refine g_iinc1 h dX4_let_187 rfl (by decide) ?_
        refine g_goto (tgt := 86) h dX4_let_190 (by decide) ?_
        simp only [sLetB, hf, sCan, b99, b116, decide_true, decide_false, Bool.not_true, Bool.not_false, Bool.and_true, Bool.and_false, Bool.true_and, Bool.false_and, if_true, if_false, Bool.false_eq_true] at ih
        exact G.to ih ⟨rfl, rfl, rfl, rfl, rfl, trivial⟩
      · refine g_aload_n (i := 0) h dX4_let_119 rfl rfl ?_
        refine m_get h hM f_X4_98_4 rfl dX4_let_120 ?_
        refine g_aload_n (i := 0) h dX4_let_123 rfl rfl ?_
        refine m_get h hM f_X4_104_4 rfl dX4_let_124 ?_
        refine g_iload h dX4_let_127 rfl ?_
        refine m_iald (k := 47) (x := nI (ix (A 47 (10 * j + n)))) h hM rfl rfl (by show _ < 80; omega) (hbf _ (by omega) (by omega)).1 dX4_let_129 ?_
        refine m_lald (k := 44) (x := B 44 (ix (A 47 (10 * j + n)))) h hM rfl (by show _ < 8; exact (hbf _ (by omega) (by omega)).2) rfl dX4_let_130 ?_
        refine g_aload_n (i := 0) h dX4_let_131 rfl rfl ?_
        refine m_get h hM f_X4_107_4 rfl dX4_let_132 ?_
        refine g_iload h dX4_let_135 rfl ?_
        refine m_iald (k := 48) (x := A 48 _) h hM rfl rfl (by show _ < 80; omega) rfl dX4_let_137 ?_
        refine g_i2l h dX4_let_138 ?_
        refine g_aload_n (i := 0) h dX4_let_139 rfl rfl ?_
        refine m_get h hM f_X4_110_4 rfl dX4_let_140 ?_
        refine g_iload h dX4_let_143 rfl ?_
        refine m_iald (k := 49) (x := A 49 _) h hM rfl rfl (by show _ < 80; omega) rfl dX4_let_145 ?_
        refine g_i2l h dX4_let_146 ?_
        refine g_ladd h dX4_let_147 ?_
        refine g_lcmp h dX4_let_148 ?_
        refine g_if_lt (tgt := 156) h dX4_let_149 (by decide) (fun b149 => ?_) (fun b149 => ?_)
        · rw [lg_cmp_lt] at b149
          refine g_iconst (v := 0) h dX4_let_156 (by decide) ?_
          refine g_istore h dX4_let_157 (by decide) ?_
          refine g_iload h dX4_let_159 rfl ?_
          refine g_if_eq (tgt := 187) h dX4_let_161 (by decide) (fun _bz => ?_) (fun _bz => absurd _bz (by decide))
          first | (with_reducible refine g_iincN h dX4_let_187 rfl (by decide) ?_) | refine g_iinc1 h dX4_let_187 rfl (by decide) ?_
          refine g_goto (tgt := 86) h dX4_let_190 (by decide) ?_
          simp only [sLetB, hf, sCan, b99, b116, b149, decide_true, decide_false, Bool.not_true, Bool.not_false, Bool.and_true, Bool.and_false, Bool.true_and, Bool.false_and, if_true, if_false, Bool.false_eq_true] at ih
          exact G.to ih ⟨rfl, rfl, rfl, rfl, rfl, trivial⟩
        · rw [lg_cmp_lt] at b149
          refine g_iconst (v := 1) h dX4_let_152 (by decide) ?_
          refine g_goto (tgt := 157) h dX4_let_153 (by decide) ?_
          refine g_istore h dX4_let_157 (by decide) ?_
          refine g_iload h dX4_let_159 rfl ?_
          refine g_if_eq (tgt := 187) h dX4_let_161 (by decide) (fun _bz => absurd _bz (by decide)) (fun _bz => ?_)
          refine g_iload_n (i := 3) h dX4_let_164 rfl rfl ?_
          refine g_if_lt (tgt := 184) h dX4_let_165 (by decide) (fun _bz => absurd _bz (nI_pos (by omega))) (fun b165 => ?_)
          refine g_aload_n (i := 0) h dX4_let_168 rfl rfl ?_
          refine m_get h hM f_X4_107_4 rfl dX4_let_169 ?_
          refine g_iload h dX4_let_172 rfl ?_
          refine m_iald (k := 48) (x := A 48 _) h hM rfl rfl (by show _ < 80; omega) rfl dX4_let_174 ?_
          refine g_aload_n (i := 0) h dX4_let_175 rfl rfl ?_
          refine m_get h hM f_X4_107_4 rfl dX4_let_176 ?_
          refine g_iload_n (i := 3) h dX4_let_179 rfl rfl ?_
          refine m_iald (k := 48) (x := A 48 _) h hM rfl rfl (by show _ < 80; omega) rfl dX4_let_180 ?_
          refine g_icmp_le (tgt := 187) h dX4_let_181 (by decide) (fun b181 => ?_) (fun b181 => ?_)
          · first | (with_reducible refine g_iincN h dX4_let_187 rfl (by decide) ?_) | refine g_iinc1 h dX4_let_187 rfl (by decide) ?_
            refine g_goto (tgt := 86) h dX4_let_190 (by decide) ?_
            simp only [sLetB, hf, sCan, b99, b116, b149, b165, b181, decide_true, decide_false, Bool.not_true, Bool.not_false, Bool.and_true, Bool.and_false, Bool.true_and, Bool.false_and, if_true, if_false, Bool.false_eq_true] at ih
            exact G.to ih ⟨rfl, rfl, rfl, rfl, rfl, trivial⟩
          · refine g_iload h dX4_let_184 rfl ?_
            refine g_istore_n (i := 3) h dX4_let_186 rfl (by decide) ?_
            first | (with_reducible refine g_iincN h dX4_let_187 rfl (by decide) ?_) | refine g_iinc1 h dX4_let_187 rfl (by decide) ?_
            refine g_goto (tgt := 86) h dX4_let_190 (by decide) ?_
            simp only [sLetB, hf, sCan, b99, b116, b149, b165, b181, decide_true, decide_false, Bool.not_true, Bool.not_false, Bool.and_true, Bool.and_false, Bool.true_and, Bool.false_and, if_true, if_false, Bool.false_eq_true] at ih
            exact G.to ih ⟨rfl, rfl, rfl, rfl, rfl, trivial⟩
theorem ct_let {l : Launch} {g : gGP} (hk : gK l g) {c0 c : gLH} {mo : Nat} {ma : Nat → Nat} {cl ll : Nat} {A : Nat → Nat → Int32} {B : Nat → Nat → Int64} (hM : MW c0 mo ma cl ll A B c) (n q : Int32) {ng nl : Nat} (hng : A 31 0 = nI ng) (hg8 : ng ≤ 8) {nb : Nat → Nat} (hbid : ∀ j, j < ng → A 46 j = nI (nb j) ∧ nb j ≤ 10 ∧ ∀ k, 10 * j ≤ k → k < 10 * j + nb j → A 47 k = nI (ix (A 47 k)) ∧ ix (A 47 k) < 8) (hnl : A 42 0 = nI nl) (hle : nl ≤ ll) (hl0 : 4 ≤ ll) (hl2 : nl < 400000) : Ct l g yX4_let hwX4_let 3 120 [.ref mo, .int n, .int q] c ((if sLetK A n q = 0 then (sLet (mA A 0 0 0) B (ix n) (nb (ix n)) nl ll q).2.2.2 else ll) - ll) (8 * ((if sLetK A n q = 0 then (sLet (mA A 0 0 0) B (ix n) (nb (ix n)) nl ll q).2.2.2 else ll) - ll)) (pI (if sLetK A n q = 0 then (sLet (mA A 0 0 0) B (ix n) (nb (ix n)) nl ll q).1 else 0) (fun c' => ∃ ma', MW c0 mo ma' cl (if sLetK A n q = 0 then (sLet (mA A 0 0 0) B (ix n) (nb (ix n)) nl ll q).2.2.2 else ll) (if sLetK A n q = 0 then (sLet (mA A 0 0 0) B (ix n) (nb (ix n)) nl ll q).2.1 else mA (mA A 0 0 0) 0 0 (nI (sLetK A n q))) (if sLetK A n q = 0 then (sLet (mA A 0 0 0) B (ix n) (nb (ix n)) nl ll q).2.2.1 else B) c')) := by
  refine Ct.intro hk hcX4_let (by decide +kernel) (Nat.le_of_ble_eq_true rfl) (fun φ h => ?_)
  refine g_aload_n (i := 0) h dX4_let_0 rfl rfl ?_
  refine g_iconst (v := 0) h dX4_let_1 (by decide) ?_
  refine m_puti h hM mp_0 fp_X4_146_4 dX4_let_2 (fun c hM => ?_)
  refine g_aload_n (i := 0) h dX4_let_5 rfl rfl ?_
  refine g_iload_n (i := 1) h dX4_let_6 rfl rfl ?_
  refine g_if_lt (tgt := 18) h dX4_let_7 (by decide) (fun b7 => ?_) (fun b7 => ?_)
  · refine g_iconst (v := 1) h dX4_let_18 (by decide) ?_
    refine g_goto (tgt := 23) h dX4_let_19 (by decide) ?_
    refine g_iconst (v := 1) h dX4_let_23 (by decide) ?_
    refine g_invV h (ct_bad h.k hM true 1) hcX4_bad w_X4_308 rfl rfl hM.obj (Nat.le_of_ble_eq_true rfl) ⟨Nat.le_of_ble_eq_true rfl, Nat.le_of_ble_eq_true rfl⟩ (by refine ⟨?_, ?_⟩ <;> first | exact Nat.le_refl _ | exact Nat.zero_le _ | (dsimp only; omega)) dX4_let_24 (gkr_i (fun c hM => ?_)) gkt_i
    replace hM := bad1 hM
    refine g_if_ne (tgt := 76) h dX4_let_27 (by decide) (fun _bz => ?_) (fun _bz => absurd _bz (by decide))
    refine g_iconst (v := 0) h dX4_let_76 (by decide) ?_
    exact g_iret h ⟨by rw [if_neg (by simp [sLetK, b7])], ma, by simp [sLetK, b7]; exact hM⟩ (Nat.zero_le _) (Nat.zero_le _) dX4_let_77
  · refine g_iload_n (i := 1) h dX4_let_10 rfl rfl ?_
    refine g_aload_n (i := 0) h dX4_let_11 rfl rfl ?_
    refine m_get (v := .int (A 31 0)) h hM f_X4_321_4 rfl dX4_let_12 ?_
    refine g_icmp_lt (tgt := 22) h dX4_let_15 (by decide) (fun b15 => ?_) (fun b15 => ?_)
    · refine g_iconst (v := 0) h dX4_let_22 (by decide) ?_
      refine g_iconst (v := 1) h dX4_let_23 (by decide) ?_
      refine g_invV h (ct_bad h.k hM false 1) hcX4_bad w_X4_308 rfl rfl hM.obj (Nat.le_of_ble_eq_true rfl) ⟨Nat.le_of_ble_eq_true rfl, Nat.le_of_ble_eq_true rfl⟩ (by refine ⟨?_, ?_⟩ <;> first | exact Nat.le_refl _ | exact Nat.zero_le _ | (dsimp only; omega)) dX4_let_24 (gkr_i (fun c hM => ?_)) gkt_i
      replace hM := bad0 hM
      refine g_if_ne (tgt := 76) h dX4_let_27 (by decide) (fun _bz => absurd _bz (by decide)) (fun _bz => ?_)
      obtain ⟨hj, hx⟩ := ix_of b7 b15 hng (by omega)
      refine g_aload_n (i := 0) h dX4_let_30 rfl rfl ?_
      refine g_iload_n (i := 2) h dX4_let_31 rfl rfl ?_
      refine g_iconst (v := 1) h dX4_let_32 (by decide) ?_
      refine g_icmp_lt (tgt := 42) h dX4_let_33 (by decide) (fun b33 => ?_) (fun b33 => ?_)
      · refine g_iconst (v := 1) h dX4_let_42 (by decide) ?_
        refine g_goto (tgt := 47) h dX4_let_43 (by decide) ?_
        refine g_iconst (v := 2) h dX4_let_47 (by decide) ?_
        refine g_invV h (ct_bad h.k hM true 2) hcX4_bad w_X4_308 rfl rfl hM.obj (Nat.le_of_ble_eq_true rfl) ⟨Nat.le_of_ble_eq_true rfl, Nat.le_of_ble_eq_true rfl⟩ (by refine ⟨?_, ?_⟩ <;> first | exact Nat.le_refl _ | exact Nat.zero_le _ | (dsimp only; omega)) dX4_let_48 (gkr_i (fun c hM => ?_)) gkt_i
        replace hM := bad1 hM
        refine g_if_ne (tgt := 76) h dX4_let_51 (by decide) (fun _bz => ?_) (fun _bz => absurd _bz (by decide))
        refine g_iconst (v := 0) h dX4_let_76 (by decide) ?_
        exact g_iret h ⟨by rw [if_neg (by simp [sLetK, b7, b15, b33])], ma, by simp [sLetK, b7, b15, b33]; exact hM⟩ (Nat.zero_le _) (Nat.zero_le _) dX4_let_77
      · refine g_iload_n (i := 2) h dX4_let_36 rfl rfl ?_
        refine g_bipush (v := 40) h dX4_let_37 (by decide) ?_
        refine g_icmp_le (tgt := 46) h dX4_let_39 (by decide) (fun b39 => ?_) (fun b39 => ?_)
        · refine g_iconst (v := 0) h dX4_let_46 (by decide) ?_
          refine g_iconst (v := 2) h dX4_let_47 (by decide) ?_
          refine g_invV h (ct_bad h.k hM false 2) hcX4_bad w_X4_308 rfl rfl hM.obj (Nat.le_of_ble_eq_true rfl) ⟨Nat.le_of_ble_eq_true rfl, Nat.le_of_ble_eq_true rfl⟩ (by refine ⟨?_, ?_⟩ <;> first | exact Nat.le_refl _ | exact Nat.zero_le _ | (dsimp only; omega)) dX4_let_48 (gkr_i (fun c hM => ?_)) gkt_i
          replace hM := bad0 hM
          refine g_if_ne (tgt := 76) h dX4_let_51 (by decide) (fun _bz => absurd _bz (by decide)) (fun _bz => ?_)
          refine g_aload_n (i := 0) h dX4_let_54 rfl rfl ?_
          refine g_aload_n (i := 0) h dX4_let_55 rfl rfl ?_
          refine m_get h hM f_X4_113_4 rfl dX4_let_56 ?_
          refine g_iload_n (i := 1) h dX4_let_59 rfl rfl ?_
          refine G.int hx ?_
          refine m_iald (k := 50) (x := A 50 _) h hM rfl rfl (by show _ < 8; omega) rfl dX4_let_60 ?_
          refine g_if_lt (tgt := 68) h dX4_let_61 (by decide) (fun b61 => ?_) (fun b61 => ?_)
          · refine g_iconst (v := 0) h dX4_let_68 (by decide) ?_
            refine g_iconst (v := 3) h dX4_let_69 (by decide) ?_
            refine g_invV h (ct_bad h.k hM false 3) hcX4_bad w_X4_308 rfl rfl hM.obj (Nat.le_of_ble_eq_true rfl) ⟨Nat.le_of_ble_eq_true rfl, Nat.le_of_ble_eq_true rfl⟩ (by refine ⟨?_, ?_⟩ <;> first | exact Nat.le_refl _ | exact Nat.zero_le _ | (dsimp only; omega)) dX4_let_70 (gkr_i (fun c hM => ?_)) gkt_i
            replace hM := bad0 hM
            refine g_if_eq (tgt := 78) h dX4_let_73 (by decide) (fun _bz => ?_) (fun _bz => absurd _bz (by decide))
            refine g_iconst (v := (-1)) h dX4_let_78 (by decide) ?_
            refine g_istore_n (i := 3) h dX4_let_79 rfl (by decide) ?_
            refine g_bipush (v := nI 10) h dX4_let_80 (by decide) ?_
            refine g_iload_n (i := 1) h dX4_let_82 rfl rfl ?_
            refine G.int hx ?_
            first | (with_reducible refine g_imulN h dX4_let_83 ?_) | refine g_imul h dX4_let_83 ?_
            refine g_istore h dX4_let_84 (by decide) ?_
            have hK : sLetK A n q = 0 := by simp [sLetK, b7, b15, b33, b39, b61]
            obtain ⟨hnb, hb10, hbf⟩ := hbid (ix n) hj
            obtain ⟨r, AA, BB, LL, hS⟩ : ∃ r AA BB LL, sLet (mA A 0 0 0) B (ix n) (nb (ix n)) nl ll q = (r, AA, BB, LL) := ⟨_, _, _, _, rfl⟩
            simp only [hK, if_true, hS] at h ⊢
            exact G.to (let_rest (nl := nl) h hM (by omega) hnb hb10 hbf hnl hle hl0 hl2 hS (Nat.le_refl _) (Nat.le_refl _) 0 (Nat.zero_le _)) ⟨rfl, congrArg (fun x => some (Value.int x)) hx, rfl, rfl, rfl, trivial⟩
          · refine g_iconst (v := 1) h dX4_let_64 (by decide) ?_
            refine g_goto (tgt := 69) h dX4_let_65 (by decide) ?_
            refine g_iconst (v := 3) h dX4_let_69 (by decide) ?_
            refine g_invV h (ct_bad h.k hM true 3) hcX4_bad w_X4_308 rfl rfl hM.obj (Nat.le_of_ble_eq_true rfl) ⟨Nat.le_of_ble_eq_true rfl, Nat.le_of_ble_eq_true rfl⟩ (by refine ⟨?_, ?_⟩ <;> first | exact Nat.le_refl _ | exact Nat.zero_le _ | (dsimp only; omega)) dX4_let_70 (gkr_i (fun c hM => ?_)) gkt_i
            replace hM := bad1 hM
            refine g_if_eq (tgt := 78) h dX4_let_73 (by decide) (fun _bz => absurd _bz (by decide)) (fun _bz => ?_)
            refine g_iconst (v := 0) h dX4_let_76 (by decide) ?_
            exact g_iret h ⟨by rw [if_neg (by simp [sLetK, b7, b15, b33, b39, b61])], ma, by simp [sLetK, b7, b15, b33, b39, b61]; exact hM⟩ (Nat.zero_le _) (Nat.zero_le _) dX4_let_77
        · refine g_iconst (v := 1) h dX4_let_42 (by decide) ?_
          refine g_goto (tgt := 47) h dX4_let_43 (by decide) ?_
          refine g_iconst (v := 2) h dX4_let_47 (by decide) ?_
          refine g_invV h (ct_bad h.k hM true 2) hcX4_bad w_X4_308 rfl rfl hM.obj (Nat.le_of_ble_eq_true rfl) ⟨Nat.le_of_ble_eq_true rfl, Nat.le_of_ble_eq_true rfl⟩ (by refine ⟨?_, ?_⟩ <;> first | exact Nat.le_refl _ | exact Nat.zero_le _ | (dsimp only; omega)) dX4_let_48 (gkr_i (fun c hM => ?_)) gkt_i
          replace hM := bad1 hM
          refine g_if_ne (tgt := 76) h dX4_let_51 (by decide) (fun _bz => ?_) (fun _bz => absurd _bz (by decide))
          refine g_iconst (v := 0) h dX4_let_76 (by decide) ?_
          exact g_iret h ⟨by rw [if_neg (by simp [sLetK, b7, b15, b33, b39])], ma, by simp [sLetK, b7, b15, b33, b39]; exact hM⟩ (Nat.zero_le _) (Nat.zero_le _) dX4_let_77
    · refine g_iconst (v := 1) h dX4_let_18 (by decide) ?_
      refine g_goto (tgt := 23) h dX4_let_19 (by decide) ?_
      refine g_iconst (v := 1) h dX4_let_23 (by decide) ?_
      refine g_invV h (ct_bad h.k hM true 1) hcX4_bad w_X4_308 rfl rfl hM.obj (Nat.le_of_ble_eq_true rfl) ⟨Nat.le_of_ble_eq_true rfl, Nat.le_of_ble_eq_true rfl⟩ (by refine ⟨?_, ?_⟩ <;> first | exact Nat.le_refl _ | exact Nat.zero_le _ | (dsimp only; omega)) dX4_let_24 (gkr_i (fun c hM => ?_)) gkt_i
      replace hM := bad1 hM
      refine g_if_ne (tgt := 76) h dX4_let_27 (by decide) (fun _bz => ?_) (fun _bz => absurd _bz (by decide))
      refine g_iconst (v := 0) h dX4_let_76 (by decide) ?_
      exact g_iret h ⟨by rw [if_neg (by simp [sLetK, b7, b15])], ma, by simp [sLetK, b7, b15]; exact hM⟩ (Nat.zero_le _) (Nat.zero_le _) dX4_let_77
