/-! THE MODEL: what a pass costs -/
set_option maxRecDepth 100000
theorem i2_1 : ((2 : Int32) = 1) = False := by decide
def sCap (v : Int64) : Int64 := if v ≤ 1000000 then v else 1000000
def sMult (A : Nat → Nat → Int32) (w t : Nat) : Int32 := if A 10 w = 1 then 1 else if A 10 w = 2 then A 21 t else (A 21 t + 19) / 20
/-- a toll through the first n factors -/
def sPaidV (A : Nat → Nat → Int32) (w t : Nat) (ks : Nat → Nat) : Nat → Int64
  | 0 => sCap ((A 11 w).toInt64 * (sMult A w t).toInt64)
  | n + 1 => sCap (sPaidV A w t ks n * (A 11 (ks n)).toInt64 / (A 12 (ks n)).toInt64)
def sHere (A : Nat → Nat → Int32) (t u : Nat) (o : Option Nat) : Bool := o.isSome && decide (A 24 (8 * t + u) = A 32 0)
def sAnyw (A : Nat → Nat → Int32) (t ng : Nat) (al : Option Nat) : Bool := al.isSome && sPaidAny A t ng
def sPaidF (A : Nat → Nat → Int32) (t u ng : Nat) (o al : Option Nat) : Bool := sHere A t u o || sAnyw A t ng al
def sPaidB (A : Nat → Nat → Int32) (t u ng : Nat) (o al : Option Nat) : Int32 := if (sHere A t u o && (!sAnyw A t ng al || !decide (oI al ≤ oI o))) = true then oI o else oI al
theorem ct_paid {l : Launch} {g : gGP} (hk : gK l g) {c0 c : gLH} {mo : Nat} {ma : Nat → Nat} {cl ll : Nat} {A : Nat → Nat → Int32} {B : Nat → Nat → Int64} (hM : MW c0 mo ma cl ll A B c) {w t u ng nt : Nat} {ks : Nat → Nat} {o al : Option Nat} (hw : w < 480) (ht : t < 60) (hu : u < 8) (hng : A 31 0 = nI ng) (hg8 : ng ≤ 8) (hnt : nt ≤ 40) (ho : ∀ k, o = some k → k < 40) (ha : ∀ k, al = some k → k < 40) (hks : ∀ j, j < nt → A 36 j = nI (ks j) ∧ ks j < 480 ∧ (A 12 (ks j)).toInt64 ≠ 0) : Ct l g yX4_paid hwX4_paid 1 40 [.ref mo, .int (nI w), .int (nI t), .int (nI u), .int (nI nt), .int (oI o), .int (oI al)] c (0) (0) (pI (if sPaidF A t u ng o al = true then 0 else (sPaidV A w t ks nt).toInt32) (MW c0 mo ma cl ll (if sPaidF A t u ng o al = true then mA A 35 0 (sPaidB A t u ng o al) else A) B)) := by
  refine Ct.intro hk hcX4_paid (by decide +kernel) (Nat.le_of_ble_eq_true rfl) (fun φ h => ?_)
  have after : G φ (gQ φ (pI (if sPaidF A t u ng o al = true then 0 else (sPaidV A w t ks nt).toInt32) (MW c0 mo ma cl ll (if sPaidF A t u ng o al = true then mA A 35 0 (sPaidB A t u ng o al) else A) B)) 0 0) 142 [(0, .ref mo), (1, .int (nI w)), (2, .int (nI t)), (3, .int (nI u)), (4, .int (nI nt)), (5, .int (oI o)), (6, .int (oI al)), (7, .long (sPaidV A w t ks nt))] [] c 0 0 := by
    rcases o with _ | o <;> rcases al with _ | al
    · refine G.to (lv' := [(0, .ref mo), (1, .int (nI w)), (2, .int (nI t)), (3, .int (nI u)), (4, .int (nI nt)), (5, .int (-1)), (6, .int (-1)), (7, .long (sPaidV A w t ks nt))]) ?_ ⟨rfl, rfl, rfl, rfl, rfl, rfl, rfl, rfl, trivial⟩
      refine g_iload h dX4_paid_142 rfl ?_
      refine g_if_lt (tgt := 169) h dX4_paid_144 (by decide) (fun b144 => ?_) (fun _bz => absurd _bz (by decide))
      refine g_iconst (v := 0) h dX4_paid_169 (by decide) ?_
      refine g_istore h dX4_paid_170 (by decide) ?_
      refine g_iload h dX4_paid_172 rfl ?_
      refine g_if_lt (tgt := 189) h dX4_paid_174 (by decide) (fun b174 => ?_) (fun _bz => absurd _bz (by decide))
      refine g_iconst (v := 0) h dX4_paid_189 (by decide) ?_
      refine g_istore h dX4_paid_190 (by decide) ?_
      refine g_iload h dX4_paid_192 rfl ?_
      refine g_if_ne (tgt := 206) h dX4_paid_194 (by decide) (fun _bz => absurd _bz (by decide)) (fun _bz => ?_)
      refine g_iload h dX4_paid_197 rfl ?_
      refine g_if_ne (tgt := 206) h dX4_paid_199 (by decide) (fun _bz => absurd _bz (by decide)) (fun _bz => ?_)
      refine g_lload h dX4_paid_202 rfl ?_
      refine g_l2i h dX4_paid_204 ?_
      exact g_iret h ⟨by simp [sPaidF, sHere, sAnyw, b144, b174], by simp [sPaidF, sPaidB, sHere, sAnyw, oI_n, oI_s, b144, b174]; exact hM⟩ (Nat.le_refl _) (Nat.le_refl _) dX4_paid_205
    · have ha2 := ha al rfl
      refine G.to (lv' := [(0, .ref mo), (1, .int (nI w)), (2, .int (nI t)), (3, .int (nI u)), (4, .int (nI nt)), (5, .int (-1)), (6, .int (nI al)), (7, .long (sPaidV A w t ks nt))]) ?_ ⟨rfl, rfl, rfl, rfl, rfl, rfl, rfl, rfl, trivial⟩
      refine g_iload h dX4_paid_142 rfl ?_
      refine g_if_lt (tgt := 169) h dX4_paid_144 (by decide) (fun b144 => ?_) (fun _bz => absurd _bz (by decide))
      refine g_iconst (v := 0) h dX4_paid_169 (by decide) ?_
      refine g_istore h dX4_paid_170 (by decide) ?_
      refine g_iload h dX4_paid_172 rfl ?_
      refine g_if_lt (tgt := 189) h dX4_paid_174 (by decide) (fun _bz => absurd _bz (nI_pos (by omega))) (fun b174 => ?_)
      refine g_aload_n (i := 0) h dX4_paid_177 rfl rfl ?_
      refine g_iload_n (i := 2) h dX4_paid_178 rfl rfl ?_
      refine g_invV h (ct_paidAnywhere h.k hM ht hng hg8) hcX4_paidAnywhere w_X4_348 rfl rfl hM.obj (Nat.le_of_ble_eq_true rfl) ⟨Nat.le_of_ble_eq_true rfl, Nat.le_of_ble_eq_true rfl⟩ (by refine ⟨?_, ?_⟩ <;> first | exact Nat.le_refl _ | exact Nat.zero_le _ | (dsimp only; omega)) dX4_paid_179 (gkr_ip ?_) gkt_ip
      refine g_if_eq (tgt := 189) h dX4_paid_182 (by decide) (fun b182 => ?_) (fun b182 => ?_)
      · rw [zB_0] at b182
        refine g_iconst (v := 0) h dX4_paid_189 (by decide) ?_
        refine g_istore h dX4_paid_190 (by decide) ?_
        refine g_iload h dX4_paid_192 rfl ?_
        refine g_if_ne (tgt := 206) h dX4_paid_194 (by decide) (fun _bz => absurd _bz (by decide)) (fun _bz => ?_)
        refine g_iload h dX4_paid_197 rfl ?_
        refine g_if_ne (tgt := 206) h dX4_paid_199 (by decide) (fun _bz => absurd _bz (by decide)) (fun _bz => ?_)
        refine g_lload h dX4_paid_202 rfl ?_
        refine g_l2i h dX4_paid_204 ?_
        exact g_iret h ⟨by simp [sPaidF, sHere, sAnyw, b144, b174, b182], by simp [sPaidF, sPaidB, sHere, sAnyw, oI_n, oI_s, b144, b174, b182]; exact hM⟩ (Nat.le_refl _) (Nat.le_refl _) dX4_paid_205
      · rw [zB_n0] at b182
        refine g_iconst (v := 1) h dX4_paid_185 (by decide) ?_
        refine g_goto (tgt := 190) h dX4_paid_186 (by decide) ?_
        refine g_istore h dX4_paid_190 (by decide) ?_
        refine g_iload h dX4_paid_192 rfl ?_
        refine g_if_ne (tgt := 206) h dX4_paid_194 (by decide) (fun _bz => absurd _bz (by decide)) (fun _bz => ?_)
        refine g_iload h dX4_paid_197 rfl ?_
        refine g_if_ne (tgt := 206) h dX4_paid_199 (by decide) (fun _bz => ?_) (fun _bz => absurd _bz (by decide))
        refine g_aload_n (i := 0) h dX4_paid_206 rfl rfl ?_
        refine g_iload h dX4_paid_207 rfl ?_
        refine g_if_eq (tgt := 229) h dX4_paid_209 (by decide) (fun _bz => ?_) (fun _bz => absurd _bz (by decide))
        refine g_iload h dX4_paid_229 rfl ?_
        refine m_puti h hM mp_35 fp_X4_338_4 dX4_paid_231 (fun c hM => ?_)
        refine g_iconst (v := 0) h dX4_paid_234 (by decide) ?_
        exact g_iret h ⟨by simp [sPaidF, sHere, sAnyw, b144, b174, b182], by simp [sPaidF, sPaidB, sHere, sAnyw, oI_n, oI_s, b144, b174, b182]; exact hM⟩ (Nat.le_refl _) (Nat.le_refl _) dX4_paid_235
    · have ho2 := ho o rfl
      refine G.to (lv' := [(0, .ref mo), (1, .int (nI w)), (2, .int (nI t)), (3, .int (nI u)), (4, .int (nI nt)), (5, .int (nI o)), (6, .int (-1)), (7, .long (sPaidV A w t ks nt))]) ?_ ⟨rfl, rfl, rfl, rfl, rfl, rfl, rfl, rfl, trivial⟩
      refine g_iload h dX4_paid_142 rfl ?_
      refine g_if_lt (tgt := 169) h dX4_paid_144 (by decide) (fun _bz => absurd _bz (nI_pos (by omega))) (fun b144 => ?_)
      refine g_aload_n (i := 0) h dX4_paid_147 rfl rfl ?_
      refine m_get h hM f_X4_60_4 rfl dX4_paid_148 ?_
      refine g_bipush (v := nI 8) h dX4_paid_151 (by decide) ?_
      refine g_iload_n (i := 2) h dX4_paid_153 rfl rfl ?_
      first | (with_reducible refine g_imulN h dX4_paid_154 ?_) | refine g_imul h dX4_paid_154 ?_
      refine g_iload_n (i := 3) h dX4_paid_155 rfl rfl ?_
      first | (with_reducible refine g_iaddN h dX4_paid_156 ?_) | refine g_iadd h dX4_paid_156 ?_
      refine m_iald (k := 24) (x := A 24 _) h hM rfl rfl (by show _ < 480; omega) rfl dX4_paid_157 ?_
      refine g_aload_n (i := 0) h dX4_paid_158 rfl rfl ?_
      refine m_get (v := .int (A 32 0)) h hM f_X4_331_4 rfl dX4_paid_159 ?_
      refine g_icmp_ne (tgt := 169) h dX4_paid_162 (by decide) (fun b162 => ?_) (fun b162 => ?_)
      · refine g_iconst (v := 0) h dX4_paid_169 (by decide) ?_
        refine g_istore h dX4_paid_170 (by decide) ?_
        refine g_iload h dX4_paid_172 rfl ?_
        refine g_if_lt (tgt := 189) h dX4_paid_174 (by decide) (fun b174 => ?_) (fun _bz => absurd _bz (by decide))
        refine g_iconst (v := 0) h dX4_paid_189 (by decide) ?_
        refine g_istore h dX4_paid_190 (by decide) ?_
        refine g_iload h dX4_paid_192 rfl ?_
        refine g_if_ne (tgt := 206) h dX4_paid_194 (by decide) (fun _bz => absurd _bz (by decide)) (fun _bz => ?_)
        refine g_iload h dX4_paid_197 rfl ?_
        refine g_if_ne (tgt := 206) h dX4_paid_199 (by decide) (fun _bz => absurd _bz (by decide)) (fun _bz => ?_)
        refine g_lload h dX4_paid_202 rfl ?_
        refine g_l2i h dX4_paid_204 ?_
        exact g_iret h ⟨by simp [sPaidF, sHere, sAnyw, b144, b162, b174], by simp [sPaidF, sPaidB, sHere, sAnyw, oI_n, oI_s, b144, b162, b174]; exact hM⟩ (Nat.le_refl _) (Nat.le_refl _) dX4_paid_205
      · refine g_iconst (v := 1) h dX4_paid_165 (by decide) ?_
        refine g_goto (tgt := 170) h dX4_paid_166 (by decide) ?_
        refine g_istore h dX4_paid_170 (by decide) ?_
        refine g_iload h dX4_paid_172 rfl ?_
        refine g_if_lt (tgt := 189) h dX4_paid_174 (by decide) (fun b174 => ?_) (fun _bz => absurd _bz (by decide))
        refine g_iconst (v := 0) h dX4_paid_189 (by decide) ?_
        refine g_istore h dX4_paid_190 (by decide) ?_
        refine g_iload h dX4_paid_192 rfl ?_
        refine g_if_ne (tgt := 206) h dX4_paid_194 (by decide) (fun _bz => ?_) (fun _bz => absurd _bz (by decide))
        refine g_aload_n (i := 0) h dX4_paid_206 rfl rfl ?_
        refine g_iload h dX4_paid_207 rfl ?_
        refine g_if_eq (tgt := 229) h dX4_paid_209 (by decide) (fun _bz => absurd _bz (by decide)) (fun _bz => ?_)
        refine g_iload h dX4_paid_212 rfl ?_
        refine g_if_eq (tgt := 224) h dX4_paid_214 (by decide) (fun _bz => ?_) (fun _bz => absurd _bz (by decide))
        refine g_iload h dX4_paid_224 rfl ?_
        refine g_goto (tgt := 231) h dX4_paid_226 (by decide) ?_
        refine m_puti h hM mp_35 fp_X4_338_4 dX4_paid_231 (fun c hM => ?_)
        refine g_iconst (v := 0) h dX4_paid_234 (by decide) ?_
        exact g_iret h ⟨by simp [sPaidF, sHere, sAnyw, b144, b162, b174], by simp [sPaidF, sPaidB, sHere, sAnyw, oI_n, oI_s, b144, b162, b174]; exact hM⟩ (Nat.le_refl _) (Nat.le_refl _) dX4_paid_235
    · have ho2 := ho o rfl
      have ha2 := ha al rfl
      refine G.to (lv' := [(0, .ref mo), (1, .int (nI w)), (2, .int (nI t)), (3, .int (nI u)), (4, .int (nI nt)), (5, .int (nI o)), (6, .int (nI al)), (7, .long (sPaidV A w t ks nt))]) ?_ ⟨rfl, rfl, rfl, rfl, rfl, rfl, rfl, rfl, trivial⟩
      refine g_iload h dX4_paid_142 rfl ?_
      refine g_if_lt (tgt := 169) h dX4_paid_144 (by decide) (fun _bz => absurd _bz (nI_pos (by omega))) (fun b144 => ?_)
      refine g_aload_n (i := 0) h dX4_paid_147 rfl rfl ?_
      refine m_get h hM f_X4_60_4 rfl dX4_paid_148 ?_
      refine g_bipush (v := nI 8) h dX4_paid_151 (by decide) ?_
      refine g_iload_n (i := 2) h dX4_paid_153 rfl rfl ?_
      first | (with_reducible refine g_imulN h dX4_paid_154 ?_) | refine g_imul h dX4_paid_154 ?_
      refine g_iload_n (i := 3) h dX4_paid_155 rfl rfl ?_
      first | (with_reducible refine g_iaddN h dX4_paid_156 ?_) | refine g_iadd h dX4_paid_156 ?_
      refine m_iald (k := 24) (x := A 24 _) h hM rfl rfl (by show _ < 480; omega) rfl dX4_paid_157 ?_
      refine g_aload_n (i := 0) h dX4_paid_158 rfl rfl ?_
      refine m_get (v := .int (A 32 0)) h hM f_X4_331_4 rfl dX4_paid_159 ?_
      refine g_icmp_ne (tgt := 169) h dX4_paid_162 (by decide) (fun b162 => ?_) (fun b162 => ?_)
      · refine g_iconst (v := 0) h dX4_paid_169 (by decide) ?_
        refine g_istore h dX4_paid_170 (by decide) ?_
        refine g_iload h dX4_paid_172 rfl ?_
        refine g_if_lt (tgt := 189) h dX4_paid_174 (by decide) (fun _bz => absurd _bz (nI_pos (by omega))) (fun b174 => ?_)
        refine g_aload_n (i := 0) h dX4_paid_177 rfl rfl ?_
        refine g_iload_n (i := 2) h dX4_paid_178 rfl rfl ?_
        refine g_invV h (ct_paidAnywhere h.k hM ht hng hg8) hcX4_paidAnywhere w_X4_348 rfl rfl hM.obj (Nat.le_of_ble_eq_true rfl) ⟨Nat.le_of_ble_eq_true rfl, Nat.le_of_ble_eq_true rfl⟩ (by refine ⟨?_, ?_⟩ <;> first | exact Nat.le_refl _ | exact Nat.zero_le _ | (dsimp only; omega)) dX4_paid_179 (gkr_ip ?_) gkt_ip
        refine g_if_eq (tgt := 189) h dX4_paid_182 (by decide) (fun b182 => ?_) (fun b182 => ?_)
        · rw [zB_0] at b182
          refine g_iconst (v := 0) h dX4_paid_189 (by decide) ?_
          refine g_istore h dX4_paid_190 (by decide) ?_
          refine g_iload h dX4_paid_192 rfl ?_
          refine g_if_ne (tgt := 206) h dX4_paid_194 (by decide) (fun _bz => absurd _bz (by decide)) (fun _bz => ?_)
          refine g_iload h dX4_paid_197 rfl ?_
          refine g_if_ne (tgt := 206) h dX4_paid_199 (by decide) (fun _bz => absurd _bz (by decide)) (fun _bz => ?_)
          refine g_lload h dX4_paid_202 rfl ?_
          refine g_l2i h dX4_paid_204 ?_
          exact g_iret h ⟨by simp [sPaidF, sHere, sAnyw, b144, b162, b174, b182], by simp [sPaidF, sPaidB, sHere, sAnyw, oI_n, oI_s, b144, b162, b174, b182]; exact hM⟩ (Nat.le_refl _) (Nat.le_refl _) dX4_paid_205
        · rw [zB_n0] at b182
          refine g_iconst (v := 1) h dX4_paid_185 (by decide) ?_
          refine g_goto (tgt := 190) h dX4_paid_186 (by decide) ?_
          refine g_istore h dX4_paid_190 (by decide) ?_
          refine g_iload h dX4_paid_192 rfl ?_
          refine g_if_ne (tgt := 206) h dX4_paid_194 (by decide) (fun _bz => absurd _bz (by decide)) (fun _bz => ?_)
          refine g_iload h dX4_paid_197 rfl ?_
          refine g_if_ne (tgt := 206) h dX4_paid_199 (by decide) (fun _bz => ?_) (fun _bz => absurd _bz (by decide))
          refine g_aload_n (i := 0) h dX4_paid_206 rfl rfl ?_
          refine g_iload h dX4_paid_207 rfl ?_
          refine g_if_eq (tgt := 229) h dX4_paid_209 (by decide) (fun _bz => ?_) (fun _bz => absurd _bz (by decide))
          refine g_iload h dX4_paid_229 rfl ?_
          refine m_puti h hM mp_35 fp_X4_338_4 dX4_paid_231 (fun c hM => ?_)
          refine g_iconst (v := 0) h dX4_paid_234 (by decide) ?_
          exact g_iret h ⟨by simp [sPaidF, sHere, sAnyw, b144, b162, b174, b182], by simp [sPaidF, sPaidB, sHere, sAnyw, oI_n, oI_s, b144, b162, b174, b182]; exact hM⟩ (Nat.le_refl _) (Nat.le_refl _) dX4_paid_235
      · refine g_iconst (v := 1) h dX4_paid_165 (by decide) ?_
        refine g_goto (tgt := 170) h dX4_paid_166 (by decide) ?_
        refine g_istore h dX4_paid_170 (by decide) ?_
        refine g_iload h dX4_paid_172 rfl ?_
        refine g_if_lt (tgt := 189) h dX4_paid_174 (by decide) (fun _bz => absurd _bz (nI_pos (by omega))) (fun b174 => ?_)
        refine g_aload_n (i := 0) h dX4_paid_177 rfl rfl ?_
        refine g_iload_n (i := 2) h dX4_paid_178 rfl rfl ?_
        refine g_invV h (ct_paidAnywhere h.k hM ht hng hg8) hcX4_paidAnywhere w_X4_348 rfl rfl hM.obj (Nat.le_of_ble_eq_true rfl) ⟨Nat.le_of_ble_eq_true rfl, Nat.le_of_ble_eq_true rfl⟩ (by refine ⟨?_, ?_⟩ <;> first | exact Nat.le_refl _ | exact Nat.zero_le _ | (dsimp only; omega)) dX4_paid_179 (gkr_ip ?_) gkt_ip
        refine g_if_eq (tgt := 189) h dX4_paid_182 (by decide) (fun b182 => ?_) (fun b182 => ?_)
        · rw [zB_0] at b182
          refine g_iconst (v := 0) h dX4_paid_189 (by decide) ?_
          refine g_istore h dX4_paid_190 (by decide) ?_
          refine g_iload h dX4_paid_192 rfl ?_
          refine g_if_ne (tgt := 206) h dX4_paid_194 (by decide) (fun _bz => ?_) (fun _bz => absurd _bz (by decide))
          refine g_aload_n (i := 0) h dX4_paid_206 rfl rfl ?_
          refine g_iload h dX4_paid_207 rfl ?_
          refine g_if_eq (tgt := 229) h dX4_paid_209 (by decide) (fun _bz => absurd _bz (by decide)) (fun _bz => ?_)
          refine g_iload h dX4_paid_212 rfl ?_
          refine g_if_eq (tgt := 224) h dX4_paid_214 (by decide) (fun _bz => ?_) (fun _bz => absurd _bz (by decide))
          refine g_iload h dX4_paid_224 rfl ?_
          refine g_goto (tgt := 231) h dX4_paid_226 (by decide) ?_
          refine m_puti h hM mp_35 fp_X4_338_4 dX4_paid_231 (fun c hM => ?_)
          refine g_iconst (v := 0) h dX4_paid_234 (by decide) ?_
          exact g_iret h ⟨by simp [sPaidF, sHere, sAnyw, b144, b162, b174, b182], by simp [sPaidF, sPaidB, sHere, sAnyw, oI_n, oI_s, b144, b162, b174, b182]; exact hM⟩ (Nat.le_refl _) (Nat.le_refl _) dX4_paid_235
        · rw [zB_n0] at b182
          refine g_iconst (v := 1) h dX4_paid_185 (by decide) ?_
          refine g_goto (tgt := 190) h dX4_paid_186 (by decide) ?_
          refine g_istore h dX4_paid_190 (by decide) ?_
          refine g_iload h dX4_paid_192 rfl ?_
          refine g_if_ne (tgt := 206) h dX4_paid_194 (by decide) (fun _bz => ?_) (fun _bz => absurd _bz (by decide))
          refine g_aload_n (i := 0) h dX4_paid_206 rfl rfl ?_
          refine g_iload h dX4_paid_207 rfl ?_
          refine g_if_eq (tgt := 229) h dX4_paid_209 (by decide) (fun _bz => absurd _bz (by decide)) (fun _bz => ?_)
          refine g_iload h dX4_paid_212 rfl ?_
          refine g_if_eq (tgt := 224) h dX4_paid_214 (by decide) (fun _bz => absurd _bz (by decide)) (fun _bz => ?_)
          refine g_iload h dX4_paid_217 rfl ?_
          refine g_iload h dX4_paid_219 rfl ?_
          refine g_icmp_ge (tgt := 229) h dX4_paid_221 (by decide) (fun b221 => ?_) (fun b221 => ?_)
          · refine g_iload h dX4_paid_229 rfl ?_
            refine m_puti h hM mp_35 fp_X4_338_4 dX4_paid_231 (fun c hM => ?_)
            refine g_iconst (v := 0) h dX4_paid_234 (by decide) ?_
            exact g_iret h ⟨by simp [sPaidF, sHere, sAnyw, b144, b162, b174, b182, b221], by simp [sPaidF, sPaidB, sHere, sAnyw, oI_n, oI_s, b144, b162, b174, b182, b221]; exact hM⟩ (Nat.le_refl _) (Nat.le_refl _) dX4_paid_235
          · refine g_iload h dX4_paid_224 rfl ?_
            refine g_goto (tgt := 231) h dX4_paid_226 (by decide) ?_
            refine m_puti h hM mp_35 fp_X4_338_4 dX4_paid_231 (fun c hM => ?_)
            refine g_iconst (v := 0) h dX4_paid_234 (by decide) ?_
            exact g_iret h ⟨by simp [sPaidF, sHere, sAnyw, b144, b162, b174, b182, b221], by simp [sPaidF, sPaidB, sHere, sAnyw, oI_n, oI_s, b144, b162, b174, b182, b221]; exact hM⟩ (Nat.le_refl _) (Nat.le_refl _) dX4_paid_235
  have loop : ∀ n, n ≤ nt → G φ (gQ φ (pI (if sPaidF A t u ng o al = true then 0 else (sPaidV A w t ks nt).toInt32) (MW c0 mo ma cl ll (if sPaidF A t u ng o al = true then mA A 35 0 (sPaidB A t u ng o al) else A) B)) 0 0) 78 [(0, .ref mo), (1, .int (nI w)), (2, .int (nI t)), (3, .int (nI u)), (4, .int (nI nt)), (5, .int (oI o)), (6, .int (oI al)), (7, .long (sPaidV A w t ks n)), (9, .int (nI n))] [] c 0 0 := by
    refine gloop ?_ ?_
    · skip
      refine g_iload h dX4_paid_78 rfl ?_
      refine g_iload h dX4_paid_80 rfl ?_
      refine g_icmp_ge (tgt := 142) h dX4_paid_82 (by decide) (fun b82 => ?_) (fun _bz => absurd _bz (fun q => absurd (nI_le (Nat.le_refl nt) (by omega)) q))
      exact G.to after ⟨rfl, rfl, rfl, rfl, rfl, rfl, rfl, rfl, trivial⟩
    · intro n hn ih
      refine g_iload h dX4_paid_78 rfl ?_
      refine g_iload h dX4_paid_80 rfl ?_
      refine g_icmp_ge (tgt := 142) h dX4_paid_82 (by decide) (fun _bz => absurd _bz (nI_ge hn (by omega))) (fun b82 => ?_)
      refine g_lload h dX4_paid_85 rfl ?_
      refine g_aload_n (i := 0) h dX4_paid_87 rfl rfl ?_
      refine m_get h hM f_X4_27_4 rfl dX4_paid_88 ?_
      refine g_aload_n (i := 0) h dX4_paid_91 rfl rfl ?_
      refine m_get h hM f_X4_80_4 rfl dX4_paid_92 ?_
      refine g_iload h dX4_paid_95 rfl ?_
      refine m_iald (k := 36) (x := nI (ks n)) h hM rfl rfl (by show _ < 40; omega) (hks n hn).1 dX4_paid_97 ?_
      refine m_iald (k := 11) (x := A 11 _) h hM rfl rfl (hks n hn).2.1 rfl dX4_paid_98 ?_
      refine g_i2l h dX4_paid_99 ?_
      refine g_lmul h dX4_paid_100 ?_
      refine g_aload_n (i := 0) h dX4_paid_101 rfl rfl ?_
      refine m_get h hM f_X4_30_4 rfl dX4_paid_102 ?_
      refine g_aload_n (i := 0) h dX4_paid_105 rfl rfl ?_
      refine m_get h hM f_X4_80_4 rfl dX4_paid_106 ?_
      refine g_iload h dX4_paid_109 rfl ?_
      refine m_iald (k := 36) (x := nI (ks n)) h hM rfl rfl (by show _ < 40; omega) (hks n hn).1 dX4_paid_111 ?_
      refine m_iald (k := 12) (x := A 12 _) h hM rfl rfl (hks n hn).2.1 rfl dX4_paid_112 ?_
      refine g_i2l h dX4_paid_113 ?_
      refine g_ldiv h dX4_paid_114 (hks n hn).2.2 ?_
      refine g_lstore h dX4_paid_115 (by decide) ?_
      refine g_lload h dX4_paid_117 rfl ?_
      refine g_ldc2 (v := 1000000) h dX4_paid_119 q2009 ?_
      refine g_lcmp h dX4_paid_122 ?_
      refine g_if_le (tgt := 132) h dX4_paid_123 (by decide) (fun b123 => ?_) (fun b123 => ?_)
      · rw [lg_cmp_le] at b123
        refine g_lload h dX4_paid_132 rfl ?_
        refine g_lstore h dX4_paid_134 (by decide) ?_
        first | (with_reducible refine g_iincN h dX4_paid_136 rfl (by decide) ?_) | refine g_iinc1 h dX4_paid_136 rfl (by decide) ?_
        refine g_goto (tgt := 78) h dX4_paid_139 (by decide) ?_
        exact G.to ih ⟨rfl, rfl, rfl, rfl, rfl, rfl, rfl, by simp [sPaidV, sCap, b82, b123, lget], rfl, trivial⟩
      · rw [lg_cmp_le] at b123
        refine g_ldc2 (v := 1000000) h dX4_paid_126 q2009 ?_
        refine g_goto (tgt := 134) h dX4_paid_129 (by decide) ?_
        refine g_lstore h dX4_paid_134 (by decide) ?_
        first | (with_reducible refine g_iincN h dX4_paid_136 rfl (by decide) ?_) | refine g_iinc1 h dX4_paid_136 rfl (by decide) ?_
        refine g_goto (tgt := 78) h dX4_paid_139 (by decide) ?_
        exact G.to ih ⟨rfl, rfl, rfl, rfl, rfl, rfl, rfl, by simp [sPaidV, sCap, b82, b123, lget], rfl, trivial⟩
  refine g_aload_n (i := 0) h dX4_paid_0 rfl rfl ?_
  refine m_get h hM f_X4_27_4 rfl dX4_paid_1 ?_
  refine g_iload_n (i := 1) h dX4_paid_4 rfl rfl ?_
  refine m_iald (k := 11) (x := A 11 _) h hM rfl rfl (by show _ < 480; omega) rfl dX4_paid_5 ?_
  refine g_i2l h dX4_paid_6 ?_
  refine g_aload_n (i := 0) h dX4_paid_7 rfl rfl ?_
  refine m_get h hM f_X4_24_4 rfl dX4_paid_8 ?_
  refine g_iload_n (i := 1) h dX4_paid_11 rfl rfl ?_
  refine m_iald (k := 10) (x := A 10 _) h hM rfl rfl (by show _ < 480; omega) rfl dX4_paid_12 ?_
  refine g_iconst (v := 1) h dX4_paid_13 (by decide) ?_
  refine g_icmp_ne (tgt := 21) h dX4_paid_14 (by decide) (fun b14 => ?_) (fun b14 => ?_)
  · refine g_aload_n (i := 0) h dX4_paid_21 rfl rfl ?_
    refine m_get h hM f_X4_24_4 rfl dX4_paid_22 ?_
    refine g_iload_n (i := 1) h dX4_paid_25 rfl rfl ?_
    refine m_iald (k := 10) (x := A 10 _) h hM rfl rfl (by show _ < 480; omega) rfl dX4_paid_26 ?_
    refine g_iconst (v := 2) h dX4_paid_27 (by decide) ?_
    refine g_icmp_ne (tgt := 40) h dX4_paid_28 (by decide) (fun b28 => ?_) (fun b28 => ?_)
    · refine g_aload_n (i := 0) h dX4_paid_40 rfl rfl ?_
      refine m_get h hM f_X4_51_4 rfl dX4_paid_41 ?_
      refine g_iload_n (i := 2) h dX4_paid_44 rfl rfl ?_
      refine m_iald (k := 21) (x := A 21 _) h hM rfl rfl (by show _ < 60; omega) rfl dX4_paid_45 ?_
      refine g_bipush (v := 19) h dX4_paid_46 (by decide) ?_
      first | (with_reducible refine g_iaddN h dX4_paid_48 ?_) | refine g_iadd h dX4_paid_48 ?_
      refine g_bipush (v := 20) h dX4_paid_49 (by decide) ?_
      refine g_idiv h dX4_paid_51 (by decide) ?_
      refine g_i2l h dX4_paid_52 ?_
      refine g_lmul h dX4_paid_53 ?_
      refine g_lstore h dX4_paid_54 (by decide) ?_
      refine g_lload h dX4_paid_56 rfl ?_
      refine g_ldc2 (v := 1000000) h dX4_paid_58 q2009 ?_
      refine g_lcmp h dX4_paid_61 ?_
      refine g_if_le (tgt := 71) h dX4_paid_62 (by decide) (fun b62 => ?_) (fun b62 => ?_)
      · rw [lg_cmp_le] at b62
        refine g_lload h dX4_paid_71 rfl ?_
        refine g_lstore h dX4_paid_73 (by decide) ?_
        refine g_iconst (v := 0) h dX4_paid_75 (by decide) ?_
        refine g_istore h dX4_paid_76 (by decide) ?_
        exact G.to (loop 0 (Nat.zero_le _)) ⟨rfl, rfl, rfl, rfl, rfl, rfl, rfl, congrArg (fun x => some (Value.long x)) (by simp only [sPaidV, sCap, sMult, i2_1, b14, b28, b62, if_true, if_false]), rfl, trivial⟩
      · rw [lg_cmp_le] at b62
        refine g_ldc2 (v := 1000000) h dX4_paid_65 q2009 ?_
        refine g_goto (tgt := 73) h dX4_paid_68 (by decide) ?_
        refine g_lstore h dX4_paid_73 (by decide) ?_
        refine g_iconst (v := 0) h dX4_paid_75 (by decide) ?_
        refine g_istore h dX4_paid_76 (by decide) ?_
        exact G.to (loop 0 (Nat.zero_le _)) ⟨rfl, rfl, rfl, rfl, rfl, rfl, rfl, congrArg (fun x => some (Value.long x)) (by simp only [sPaidV, sCap, sMult, i2_1, b14, b28, b62, if_true, if_false]), rfl, trivial⟩
    · refine g_aload_n (i := 0) h dX4_paid_31 rfl rfl ?_
      refine m_get h hM f_X4_51_4 rfl dX4_paid_32 ?_
      refine g_iload_n (i := 2) h dX4_paid_35 rfl rfl ?_
      refine m_iald (k := 21) (x := A 21 _) h hM rfl rfl (by show _ < 60; omega) rfl dX4_paid_36 ?_
      refine g_goto (tgt := 52) h dX4_paid_37 (by decide) ?_
      refine g_i2l h dX4_paid_52 ?_
      refine g_lmul h dX4_paid_53 ?_
      refine g_lstore h dX4_paid_54 (by decide) ?_
      refine g_lload h dX4_paid_56 rfl ?_
      refine g_ldc2 (v := 1000000) h dX4_paid_58 q2009 ?_
      refine g_lcmp h dX4_paid_61 ?_
      refine g_if_le (tgt := 71) h dX4_paid_62 (by decide) (fun b62 => ?_) (fun b62 => ?_)
      · rw [lg_cmp_le] at b62
        refine g_lload h dX4_paid_71 rfl ?_
        refine g_lstore h dX4_paid_73 (by decide) ?_
        refine g_iconst (v := 0) h dX4_paid_75 (by decide) ?_
        refine g_istore h dX4_paid_76 (by decide) ?_
        exact G.to (loop 0 (Nat.zero_le _)) ⟨rfl, rfl, rfl, rfl, rfl, rfl, rfl, congrArg (fun x => some (Value.long x)) (by simp only [sPaidV, sCap, sMult, i2_1, b14, b28, b62, if_true, if_false]), rfl, trivial⟩
      · rw [lg_cmp_le] at b62
        refine g_ldc2 (v := 1000000) h dX4_paid_65 q2009 ?_
        refine g_goto (tgt := 73) h dX4_paid_68 (by decide) ?_
        refine g_lstore h dX4_paid_73 (by decide) ?_
        refine g_iconst (v := 0) h dX4_paid_75 (by decide) ?_
        refine g_istore h dX4_paid_76 (by decide) ?_
        exact G.to (loop 0 (Nat.zero_le _)) ⟨rfl, rfl, rfl, rfl, rfl, rfl, rfl, congrArg (fun x => some (Value.long x)) (by simp only [sPaidV, sCap, sMult, i2_1, b14, b28, b62, if_true, if_false]), rfl, trivial⟩
  · refine g_iconst (v := 1) h dX4_paid_17 (by decide) ?_
    refine g_goto (tgt := 52) h dX4_paid_18 (by decide) ?_
    refine g_i2l h dX4_paid_52 ?_
    refine g_lmul h dX4_paid_53 ?_
    refine g_lstore h dX4_paid_54 (by decide) ?_
    refine g_lload h dX4_paid_56 rfl ?_
    refine g_ldc2 (v := 1000000) h dX4_paid_58 q2009 ?_
    refine g_lcmp h dX4_paid_61 ?_
    refine g_if_le (tgt := 71) h dX4_paid_62 (by decide) (fun b62 => ?_) (fun b62 => ?_)
    · rw [lg_cmp_le] at b62
      refine g_lload h dX4_paid_71 rfl ?_
      refine g_lstore h dX4_paid_73 (by decide) ?_
      refine g_iconst (v := 0) h dX4_paid_75 (by decide) ?_
      refine g_istore h dX4_paid_76 (by decide) ?_
      exact G.to (loop 0 (Nat.zero_le _)) ⟨rfl, rfl, rfl, rfl, rfl, rfl, rfl, congrArg (fun x => some (Value.long x)) (by simp only [sPaidV, sCap, sMult, i2_1, b14, b62, if_true, if_false]), rfl, trivial⟩
    · rw [lg_cmp_le] at b62
      refine g_ldc2 (v := 1000000) h dX4_paid_65 q2009 ?_
      refine g_goto (tgt := 73) h dX4_paid_68 (by decide) ?_
      refine g_lstore h dX4_paid_73 (by decide) ?_
      refine g_iconst (v := 0) h dX4_paid_75 (by decide) ?_
      refine g_istore h dX4_paid_76 (by decide) ?_
      exact G.to (loop 0 (Nat.zero_le _)) ⟨rfl, rfl, rfl, rfl, rfl, rfl, rfl, congrArg (fun x => some (Value.long x)) (by simp only [sPaidV, sCap, sMult, i2_1, b14, b62, if_true, if_false]), rfl, trivial⟩
/-- the pile, the clause that ended it, the factors that are kept -/
def mT (A : Nat → Nat → Int32) (P X K : Nat → Int32) : Nat → Nat → Int32 := fun i => if i = 34 then P else if i = 35 then X else if i = 36 then K else A i
theorem mT_id (A : Nat → Nat → Int32) : mT A (A 34) (A 35) (A 36) = A := by
  funext i; unfold mT
  split
  · next h => rw [h]
  · split
    · next h => rw [h]
    · split
      · next h => rw [h]
      · rfl
theorem mT_34 (A : Nat → Nat → Int32) (P X K P2 : Nat → Int32) : mR (mT A P X K) 34 P2 = mT A P2 X K := by
  funext i; unfold mR va_up mT
  split <;> simp_all
theorem mT_35 (A : Nat → Nat → Int32) (P X K : Nat → Int32) (j : Nat) (x : Int32) : mA (mT A P X K) 35 j x = mT A P (upd X j x) K := by
  funext i; unfold mA va_up mT
  split <;> simp_all
theorem mT_36 (A : Nat → Nat → Int32) (P X K : Nat → Int32) (j : Nat) (x : Int32) : mA (mT A P X K) 36 j x = mT A P X (upd K j x) := by
  funext i; unfold mA va_up mT
  split <;> simp_all
theorem sPaidAny_T (A : Nat → Nat → Int32) (P X K : Nat → Int32) (t : Nat) : ∀ n, sPaidAny (mT A P X K) t n = sPaidAny A t n
  | 0 => rfl
  | n + 1 => by simp only [sPaidAny]; rw [sPaidAny_T A P X K t n]; rfl
theorem sPaidV_T (A : Nat → Nat → Int32) (P X K : Nat → Int32) (w t : Nat) (ks : Nat → Nat) : ∀ n, sPaidV (mT A P X K) w t ks n = sPaidV A w t ks n
  | 0 => rfl
  | n + 1 => by simp only [sPaidV]; rw [sPaidV_T A P X K w t ks n]; rfl
theorem sAnyw_T (A : Nat → Nat → Int32) (P X K : Nat → Int32) (t n : Nat) (al : Option Nat) : sAnyw (mT A P X K) t n al = sAnyw A t n al := by
  unfold sAnyw; rw [sPaidAny_T]
theorem sPaidF_T (A : Nat → Nat → Int32) (P X K : Nat → Int32) (t u n : Nat) (o al : Option Nat) : sPaidF (mT A P X K) t u n o al = sPaidF A t u n o al := by
  unfold sPaidF; rw [sAnyw_T]; rfl
theorem sPaidB_T (A : Nat → Nat → Int32) (P X K : Nat → Int32) (t u n : Nat) (o al : Option Nat) : sPaidB (mT A P X K) t u n o al = sPaidB A t u n o al := by
  unfold sPaidB; rw [sAnyw_T]; rfl
def oOr (o : Option Nat) (k : Nat) : Option Nat := match o with | none => some k | some j => some j
/-- n clauses of act a from k on, with what is kept so far: the toll, the clause that ended it -/
def sTollL (A : Nat → Nat → Int32) (hold : Nat → Bool) (a t u ng : Nat) : Nat → Nat → (Nat → Nat) → Nat → Option Nat → Option Nat → Int32 × Int32
  | 0, _, _, _, _, _ => (0, -1)
  | n + 1, k, ks, nt, o, al =>
    if hold (40 * a + k) = true then
      if A 10 (40 * a + k) = 4 then sTollL A hold a t u ng n (k + 1) (va_up ks nt (40 * a + k)) (nt + 1) o al
      else if A 10 (40 * a + k) = 5 then sTollL A hold a t u ng n (k + 1) ks nt (oOr o k) al
      else if A 10 (40 * a + k) = 6 then sTollL A hold a t u ng n (k + 1) ks nt o (oOr al k)
      else if A 10 (40 * a + k) = 0 then (0, nI k)
      else if sPaidF A t u ng o al = true then (0, sPaidB A t u ng o al) else ((sPaidV A (40 * a + k) t ks nt).toInt32, nI k)
    else sTollL A hold a t u ng n (k + 1) ks nt o al
/-- whether clause w holds -/
def sHold (A : Nat → Nat → Int32) (t u w : Nat) : Bool := match sRun (sOne A t u) (A 15) (ix (A 13 w)) (ix (A 14 w) - ix (A 13 w)) [] with
  | some s => sTop s
  | none => false
/-- a clause's codes are in order -/
def sGood (A : Nat → Nat → Int32) (cl w : Nat) : Prop := ∃ f e, A 13 w = nI f ∧ A 14 w = nI e ∧ f ≤ e ∧ e ≤ cl ∧ ∀ (D : Nat → Nat → Int32) (t u : Nat), D 15 = A 15 → D 16 = A 16 → ∃ s, sRun (sOne D t u) (A 15) f (e - f) [] = some s ∧ (s = [] ∨ ∃ b, s = [b])
def sToll (A : Nat → Nat → Int32) (t u ng : Nat) (a : Option Nat) : Int32 × Int32 := match a with
  | none => (0, -1)
  | some a => sTollL A (sHold A t u) a t u ng (ix (A 8 a)) 0 (fun _ => 0) 0 none none
theorem ct_holds2 {l : Launch} {g : gGP} (hk : gK l g) {c0 c : gLH} {mo : Nat} {ma : Nat → Nat} {cl ll : Nat} {A : Nat → Nat → Int32} {B : Nat → Nat → Int64} (hM : MW c0 mo ma cl ll A B c) {w t u : Nat} (hw : w < 480) (ht : t < 60) (hu : u < 8) (hg : sGood A cl w) : Ct l g yX4_holds hwX4_holds 2 80 [.ref mo, .int (nI w), .int (nI t), .int (nI u)] c 0 0 (pI (zB (sHold A t u w)) (fun c' => ∃ P, MW c0 mo ma cl ll (mR A 34 P) B c')) := by
  obtain ⟨f, e, hf, he, hfe, hecl, hr⟩ := hg
  obtain ⟨s, hs, hs1⟩ := hr A t u rfl rfl
  have hcl := hM.2.1
  have e1 : sHold A t u w = sTop s := by
    unfold sHold
    rw [hf, he, ix_nI (by omega), ix_nI (by omega), hs]
  rw [e1]
  exact ct_holds hk hM hw ht hu hf he (by omega) hecl hs hs1
theorem ct_toll {l : Launch} {g : gGP} (hk : gK l g) {c0 c : gLH} {mo : Nat} {ma : Nat → Nat} {cl ll : Nat} {A : Nat → Nat → Int32} {B : Nat → Nat → Int64} (hM : MW c0 mo ma cl ll A B c) {t u ng : Nat} {a : Option Nat} (ht : t < 60) (hu : u < 8) (hng : A 31 0 = nI ng) (hg8 : ng ≤ 8) (hact : ∀ a', a = some a' → a' < 12 ∧ A 8 a' = nI (ix (A 8 a')) ∧ ix (A 8 a') ≤ 40 ∧ (∀ k, k < ix (A 8 a') → sGood A cl (40 * a' + k)) ∧ (∀ k, k < ix (A 8 a') → A 10 (40 * a' + k) = 4 → (A 12 (40 * a' + k)).toInt64 ≠ 0)) : Ct l g yX4_toll hwX4_toll 3 120 [.ref mo, .int (oI a), .int (nI t), .int (nI u)] c (0) (0) (pI (sToll A t u ng a).1 (fun c' => ∃ P X K, MW c0 mo ma cl ll (mT A P X K) B c' ∧ X 0 = (sToll A t u ng a).2)) := by
  refine Ct.intro hk hcX4_toll (by decide +kernel) (Nat.le_of_ble_eq_true rfl) (fun φ h => ?_)
  have loop : ∀ (a nc : Nat) (r b : Int32), a < 12 → A 8 a = nI nc → nc ≤ 40 → (∀ k, k < nc → sGood A cl (40 * a + k)) → (∀ k, k < nc → A 10 (40 * a + k) = 4 → (A 12 (40 * a + k)).toInt64 ≠ 0) → ∀ (n k : Nat) (ks : Nat → Nat) (nt : Nat) (o al : Option Nat) (P X K : Nat → Int32) (c : gLH), k + n = nc → sTollL A (sHold A t u) a t u ng n k ks nt o al = (r, b) → nt ≤ k → MW c0 mo ma cl ll (mT A P X K) B c → X 0 = -1 → (∀ j, j < nt → K j = nI (ks j) ∧ ks j < 480 ∧ (A 12 (ks j)).toInt64 ≠ 0) → (∀ j, o = some j → j < 40) → (∀ j, al = some j → j < 40) →
      G φ (gQ φ (pI r (fun c' => ∃ P X K, MW c0 mo ma cl ll (mT A P X K) B c' ∧ X 0 = b)) 0 0) 23 [(0, .ref mo), (1, .int (nI a)), (2, .int (nI t)), (3, .int (nI u)), (4, .int (nI nt)), (5, .int (oI o)), (6, .int (oI al)), (7, .int (nI k))] [] c 0 0 := by
    intro a nc r b ha12 hnc hnc40 hgood hsec n
    induction n with
    | zero =>
      intro k ks nt o al P X K c hkn hS hnt hM hX hks ho ha
      obtain rfl : k = nc := by omega
      refine g_iload h dX4_toll_23 rfl ?_
      refine g_aload_n (i := 0) h dX4_toll_25 rfl rfl ?_
      refine m_get h hM f_X4_17_4 rfl dX4_toll_26 ?_
      refine g_iload_n (i := 1) h dX4_toll_29 rfl rfl ?_
      refine m_iald (k := 8) (x := nI _) h hM rfl rfl (by show _ < 12; omega) hnc dX4_toll_30 ?_
      refine g_icmp_ge (tgt := 181) h dX4_toll_31 (by decide) (fun b31 => ?_) (fun _bz => absurd _bz (fun q => absurd (nI_le (Nat.le_refl k) (by omega)) q))
      refine g_iconst (v := 0) h dX4_toll_181 (by decide) ?_
      exact g_iret h ⟨congrArg _ (congrArg _ (congrArg _ (congrArg Prod.fst hS))), P, X, K, hM, hX.trans (congrArg Prod.snd hS)⟩ (Nat.le_refl _) (Nat.le_refl _) dX4_toll_182
    | succ n ih =>
      intro k ks nt o al P X K c hkn' hS hnt hM hX hks ho ha
      have hkn : k < nc := by omega
      simp only [sTollL] at hS
      cases hh : sHold A t u (40 * a + k) with
      | false =>
        simp only [hh, Bool.false_eq_true, if_false] at hS
        refine g_iload h dX4_toll_23 rfl ?_
        refine g_aload_n (i := 0) h dX4_toll_25 rfl rfl ?_
        refine m_get h hM f_X4_17_4 rfl dX4_toll_26 ?_
        refine g_iload_n (i := 1) h dX4_toll_29 rfl rfl ?_
        refine m_iald (k := 8) (x := nI _) h hM rfl rfl (by show _ < 12; omega) hnc dX4_toll_30 ?_
        refine g_icmp_ge (tgt := 181) h dX4_toll_31 (by decide) (fun _bz => absurd _bz (nI_ge hkn (by omega))) (fun b31 => ?_)
        refine g_bipush (v := nI 40) h dX4_toll_34 (by decide) ?_
        refine g_iload_n (i := 1) h dX4_toll_36 rfl rfl ?_
        first | (with_reducible refine g_imulN h dX4_toll_37 ?_) | refine g_imul h dX4_toll_37 ?_
        refine g_iload h dX4_toll_38 rfl ?_
        first | (with_reducible refine g_iaddN h dX4_toll_40 ?_) | refine g_iadd h dX4_toll_40 ?_
        refine g_istore h dX4_toll_41 (by decide) ?_
        refine g_aload_n (i := 0) h dX4_toll_43 rfl rfl ?_
        refine g_iload h dX4_toll_44 rfl ?_
        refine g_iload_n (i := 2) h dX4_toll_46 rfl rfl ?_
        refine g_iload_n (i := 3) h dX4_toll_47 rfl rfl ?_
        refine g_invV h (ct_holds2 h.k hM (w := 40 * a + k) (by omega) ht hu (hgood k hkn)) hcX4_holds w_X4_341 rfl rfl hM.obj (Nat.le_of_ble_eq_true rfl) ⟨Nat.le_of_ble_eq_true rfl, Nat.le_of_ble_eq_true rfl⟩ (by refine ⟨?_, ?_⟩ <;> first | exact Nat.le_refl _ | exact Nat.zero_le _ | (dsimp only; omega)) dX4_toll_48 (gkr_i (fun c hM => ?_)) gkt_i
        obtain ⟨P, hM⟩ := hM
        rw [mT_34] at hM
        refine g_if_ne (tgt := 57) h dX4_toll_51 (by decide) (fun _bz => absurd _bz (show ¬ ¬ zB (sHold A t u (40 * a + k)) = 0 by rw [hh]; decide)) (fun b51 => ?_)
        refine g_goto (tgt := 175) h dX4_toll_54 (by decide) ?_
        first | (with_reducible refine g_iincN h dX4_toll_175 rfl (by decide) ?_) | refine g_iinc1 h dX4_toll_175 rfl (by decide) ?_
        refine g_goto (tgt := 23) h dX4_toll_178 (by decide) ?_
        exact G.to (ih (k + 1) ks nt o al P X K c (by omega) hS (by omega) hM hX hks ho ha) ⟨rfl, rfl, rfl, rfl, rfl, rfl, rfl, rfl, trivial⟩
      | true =>
      simp only [hh, if_true] at hS
      by_cases h4 : A 10 (40 * a + k) = 4
      · rw [if_pos h4] at hS
        have hks2 : ∀ j, j < nt + 1 → upd K nt (nI (40 * a + k)) j = nI (va_up ks nt (40 * a + k) j) ∧ va_up ks nt (40 * a + k) j < 480 ∧ (A 12 (va_up ks nt (40 * a + k) j)).toInt64 ≠ 0 := by
          intro j hj
          by_cases q : j = nt
          · subst q
            rw [va_up_s]
            exact ⟨by unfold upd; rw [if_pos rfl], by omega, hsec k hkn h4⟩
          · rw [va_up_n _ _ q]
            exact ⟨by unfold upd; rw [if_neg q]; exact (hks j (by omega)).1, (hks j (by omega)).2⟩
        refine g_iload h dX4_toll_23 rfl ?_
        refine g_aload_n (i := 0) h dX4_toll_25 rfl rfl ?_
        refine m_get h hM f_X4_17_4 rfl dX4_toll_26 ?_
        refine g_iload_n (i := 1) h dX4_toll_29 rfl rfl ?_
        refine m_iald (k := 8) (x := nI _) h hM rfl rfl (by show _ < 12; omega) hnc dX4_toll_30 ?_
        refine g_icmp_ge (tgt := 181) h dX4_toll_31 (by decide) (fun _bz => absurd _bz (nI_ge hkn (by omega))) (fun b31 => ?_)
        refine g_bipush (v := nI 40) h dX4_toll_34 (by decide) ?_
        refine g_iload_n (i := 1) h dX4_toll_36 rfl rfl ?_
        first | (with_reducible refine g_imulN h dX4_toll_37 ?_) | refine g_imul h dX4_toll_37 ?_
        refine g_iload h dX4_toll_38 rfl ?_
        first | (with_reducible refine g_iaddN h dX4_toll_40 ?_) | refine g_iadd h dX4_toll_40 ?_
        refine g_istore h dX4_toll_41 (by decide) ?_
        refine g_aload_n (i := 0) h dX4_toll_43 rfl rfl ?_
        refine g_iload h dX4_toll_44 rfl ?_
        refine g_iload_n (i := 2) h dX4_toll_46 rfl rfl ?_
        refine g_iload_n (i := 3) h dX4_toll_47 rfl rfl ?_
        refine g_invV h (ct_holds2 h.k hM (w := 40 * a + k) (by omega) ht hu (hgood k hkn)) hcX4_holds w_X4_341 rfl rfl hM.obj (Nat.le_of_ble_eq_true rfl) ⟨Nat.le_of_ble_eq_true rfl, Nat.le_of_ble_eq_true rfl⟩ (by refine ⟨?_, ?_⟩ <;> first | exact Nat.le_refl _ | exact Nat.zero_le _ | (dsimp only; omega)) dX4_toll_48 (gkr_i (fun c hM => ?_)) gkt_i
        obtain ⟨P, hM⟩ := hM
        rw [mT_34] at hM
        refine g_if_ne (tgt := 57) h dX4_toll_51 (by decide) (fun b51 => ?_) (fun _bz => absurd _bz (show ¬ zB (sHold A t u (40 * a + k)) = 0 by rw [hh]; decide))
        refine g_aload_n (i := 0) h dX4_toll_57 rfl rfl ?_
        refine m_get h hM f_X4_24_4 rfl dX4_toll_58 ?_
        refine g_iload h dX4_toll_61 rfl ?_
        refine m_iald (k := 10) (x := A 10 _) h hM rfl rfl (by show _ < 480; omega) rfl dX4_toll_63 ?_
        refine g_iconst (v := 4) h dX4_toll_64 (by decide) ?_
        refine g_icmp_ne (tgt := 83) h dX4_toll_65 (by decide) (fun _bz => absurd _bz (not_not_intro h4)) (fun b65 => ?_)
        refine g_aload_n (i := 0) h dX4_toll_68 rfl rfl ?_
        refine m_get h hM f_X4_80_4 rfl dX4_toll_69 ?_
        refine g_iload h dX4_toll_72 rfl ?_
        refine g_iload h dX4_toll_74 rfl ?_
        refine m_iast (k := 36) h hM rfl rfl (by show _ < 40; omega) dX4_toll_76 (fun c hM => ?_)
        rw [mT_36] at hM
        first | (with_reducible refine g_iincN h dX4_toll_77 rfl (by decide) ?_) | refine g_iinc1 h dX4_toll_77 rfl (by decide) ?_
        refine g_goto (tgt := 175) h dX4_toll_80 (by decide) ?_
        first | (with_reducible refine g_iincN h dX4_toll_175 rfl (by decide) ?_) | refine g_iinc1 h dX4_toll_175 rfl (by decide) ?_
        refine g_goto (tgt := 23) h dX4_toll_178 (by decide) ?_
        exact G.to (ih (k + 1) (va_up ks nt (40 * a + k)) (nt + 1) o al P X _ c (by omega) hS (by omega) hM hX hks2 ho ha) ⟨rfl, rfl, rfl, rfl, rfl, rfl, rfl, rfl, trivial⟩
      rw [if_neg h4] at hS
      by_cases h5 : A 10 (40 * a + k) = 5
      · rw [if_pos h5] at hS
        rcases o with _ | o
        · skip
          refine g_iload h dX4_toll_23 rfl ?_
          refine g_aload_n (i := 0) h dX4_toll_25 rfl rfl ?_
          refine m_get h hM f_X4_17_4 rfl dX4_toll_26 ?_
          refine g_iload_n (i := 1) h dX4_toll_29 rfl rfl ?_
          refine m_iald (k := 8) (x := nI _) h hM rfl rfl (by show _ < 12; omega) hnc dX4_toll_30 ?_
          refine g_icmp_ge (tgt := 181) h dX4_toll_31 (by decide) (fun _bz => absurd _bz (nI_ge hkn (by omega))) (fun b31 => ?_)
          refine g_bipush (v := nI 40) h dX4_toll_34 (by decide) ?_
          refine g_iload_n (i := 1) h dX4_toll_36 rfl rfl ?_
          first | (with_reducible refine g_imulN h dX4_toll_37 ?_) | refine g_imul h dX4_toll_37 ?_
          refine g_iload h dX4_toll_38 rfl ?_
          first | (with_reducible refine g_iaddN h dX4_toll_40 ?_) | refine g_iadd h dX4_toll_40 ?_
          refine g_istore h dX4_toll_41 (by decide) ?_
          refine g_aload_n (i := 0) h dX4_toll_43 rfl rfl ?_
          refine g_iload h dX4_toll_44 rfl ?_
          refine g_iload_n (i := 2) h dX4_toll_46 rfl rfl ?_
          refine g_iload_n (i := 3) h dX4_toll_47 rfl rfl ?_
          refine g_invV h (ct_holds2 h.k hM (w := 40 * a + k) (by omega) ht hu (hgood k hkn)) hcX4_holds w_X4_341 rfl rfl hM.obj (Nat.le_of_ble_eq_true rfl) ⟨Nat.le_of_ble_eq_true rfl, Nat.le_of_ble_eq_true rfl⟩ (by refine ⟨?_, ?_⟩ <;> first | exact Nat.le_refl _ | exact Nat.zero_le _ | (dsimp only; omega)) dX4_toll_48 (gkr_i (fun c hM => ?_)) gkt_i
          obtain ⟨P, hM⟩ := hM
          rw [mT_34] at hM
          refine g_if_ne (tgt := 57) h dX4_toll_51 (by decide) (fun b51 => ?_) (fun _bz => absurd _bz (show ¬ zB (sHold A t u (40 * a + k)) = 0 by rw [hh]; decide))
          refine g_aload_n (i := 0) h dX4_toll_57 rfl rfl ?_
          refine m_get h hM f_X4_24_4 rfl dX4_toll_58 ?_
          refine g_iload h dX4_toll_61 rfl ?_
          refine m_iald (k := 10) (x := A 10 _) h hM rfl rfl (by show _ < 480; omega) rfl dX4_toll_63 ?_
          refine g_iconst (v := 4) h dX4_toll_64 (by decide) ?_
          refine g_icmp_ne (tgt := 83) h dX4_toll_65 (by decide) (fun b65 => ?_) (fun _bz => absurd _bz h4)
          refine g_aload_n (i := 0) h dX4_toll_83 rfl rfl ?_
          refine m_get h hM f_X4_24_4 rfl dX4_toll_84 ?_
          refine g_iload h dX4_toll_87 rfl ?_
          refine m_iald (k := 10) (x := A 10 _) h hM rfl rfl (by show _ < 480; omega) rfl dX4_toll_89 ?_
          refine g_iconst (v := 5) h dX4_toll_90 (by decide) ?_
          refine g_icmp_ne (tgt := 111) h dX4_toll_91 (by decide) (fun _bz => absurd _bz (not_not_intro h5)) (fun b91 => ?_)
          refine g_iload h dX4_toll_94 rfl ?_
          refine g_if_ge (tgt := 104) h dX4_toll_96 (by decide) (fun _bz => absurd _bz (by decide)) (fun b96 => ?_)
          refine g_iload h dX4_toll_99 rfl ?_
          refine g_goto (tgt := 106) h dX4_toll_101 (by decide) ?_
          refine g_istore h dX4_toll_106 (by decide) ?_
          refine g_goto (tgt := 175) h dX4_toll_108 (by decide) ?_
          first | (with_reducible refine g_iincN h dX4_toll_175 rfl (by decide) ?_) | refine g_iinc1 h dX4_toll_175 rfl (by decide) ?_
          refine g_goto (tgt := 23) h dX4_toll_178 (by decide) ?_
          exact G.to (ih (k + 1) ks nt (some k) al P X K c (by omega) hS (by omega) hM hX hks (by intro j e; cases e; omega) ha) ⟨rfl, rfl, rfl, rfl, rfl, rfl, rfl, rfl, trivial⟩
        · skip
          refine g_iload h dX4_toll_23 rfl ?_
          refine g_aload_n (i := 0) h dX4_toll_25 rfl rfl ?_
          refine m_get h hM f_X4_17_4 rfl dX4_toll_26 ?_
          refine g_iload_n (i := 1) h dX4_toll_29 rfl rfl ?_
          refine m_iald (k := 8) (x := nI _) h hM rfl rfl (by show _ < 12; omega) hnc dX4_toll_30 ?_
          refine g_icmp_ge (tgt := 181) h dX4_toll_31 (by decide) (fun _bz => absurd _bz (nI_ge hkn (by omega))) (fun b31 => ?_)
          refine g_bipush (v := nI 40) h dX4_toll_34 (by decide) ?_
          refine g_iload_n (i := 1) h dX4_toll_36 rfl rfl ?_
          first | (with_reducible refine g_imulN h dX4_toll_37 ?_) | refine g_imul h dX4_toll_37 ?_
          refine g_iload h dX4_toll_38 rfl ?_
          first | (with_reducible refine g_iaddN h dX4_toll_40 ?_) | refine g_iadd h dX4_toll_40 ?_
          refine g_istore h dX4_toll_41 (by decide) ?_
          refine g_aload_n (i := 0) h dX4_toll_43 rfl rfl ?_
          refine g_iload h dX4_toll_44 rfl ?_
          refine g_iload_n (i := 2) h dX4_toll_46 rfl rfl ?_
          refine g_iload_n (i := 3) h dX4_toll_47 rfl rfl ?_
          refine g_invV h (ct_holds2 h.k hM (w := 40 * a + k) (by omega) ht hu (hgood k hkn)) hcX4_holds w_X4_341 rfl rfl hM.obj (Nat.le_of_ble_eq_true rfl) ⟨Nat.le_of_ble_eq_true rfl, Nat.le_of_ble_eq_true rfl⟩ (by refine ⟨?_, ?_⟩ <;> first | exact Nat.le_refl _ | exact Nat.zero_le _ | (dsimp only; omega)) dX4_toll_48 (gkr_i (fun c hM => ?_)) gkt_i
          obtain ⟨P, hM⟩ := hM
          rw [mT_34] at hM
          refine g_if_ne (tgt := 57) h dX4_toll_51 (by decide) (fun b51 => ?_) (fun _bz => absurd _bz (show ¬ zB (sHold A t u (40 * a + k)) = 0 by rw [hh]; decide))
          refine g_aload_n (i := 0) h dX4_toll_57 rfl rfl ?_
          refine m_get h hM f_X4_24_4 rfl dX4_toll_58 ?_
          refine g_iload h dX4_toll_61 rfl ?_
          refine m_iald (k := 10) (x := A 10 _) h hM rfl rfl (by show _ < 480; omega) rfl dX4_toll_63 ?_
          refine g_iconst (v := 4) h dX4_toll_64 (by decide) ?_
          refine g_icmp_ne (tgt := 83) h dX4_toll_65 (by decide) (fun b65 => ?_) (fun _bz => absurd _bz h4)
          refine g_aload_n (i := 0) h dX4_toll_83 rfl rfl ?_
          refine m_get h hM f_X4_24_4 rfl dX4_toll_84 ?_
          refine g_iload h dX4_toll_87 rfl ?_
          refine m_iald (k := 10) (x := A 10 _) h hM rfl rfl (by show _ < 480; omega) rfl dX4_toll_89 ?_
          refine g_iconst (v := 5) h dX4_toll_90 (by decide) ?_
          refine g_icmp_ne (tgt := 111) h dX4_toll_91 (by decide) (fun _bz => absurd _bz (not_not_intro h5)) (fun b91 => ?_)
          refine g_iload h dX4_toll_94 rfl ?_
          refine g_if_ge (tgt := 104) h dX4_toll_96 (by decide) (fun b96 => ?_) (fun _bz => absurd _bz (not_not_intro <| Int32.not_lt.mp (nI_pos (n := o) (by have := ho _ rfl; omega))))
          refine g_iload h dX4_toll_104 rfl ?_
          refine g_istore h dX4_toll_106 (by decide) ?_
          refine g_goto (tgt := 175) h dX4_toll_108 (by decide) ?_
          first | (with_reducible refine g_iincN h dX4_toll_175 rfl (by decide) ?_) | refine g_iinc1 h dX4_toll_175 rfl (by decide) ?_
          refine g_goto (tgt := 23) h dX4_toll_178 (by decide) ?_
          exact G.to (ih (k + 1) ks nt (some o) al P X K c (by omega) hS (by omega) hM hX hks ho ha) ⟨rfl, rfl, rfl, rfl, rfl, rfl, rfl, rfl, trivial⟩
      rw [if_neg h5] at hS
      by_cases h6 : A 10 (40 * a + k) = 6
      · rw [if_pos h6] at hS
        rcases al with _ | al
        · skip
          refine g_iload h dX4_toll_23 rfl ?_
          refine g_aload_n (i := 0) h dX4_toll_25 rfl rfl ?_
          refine m_get h hM f_X4_17_4 rfl dX4_toll_26 ?_
          refine g_iload_n (i := 1) h dX4_toll_29 rfl rfl ?_
          refine m_iald (k := 8) (x := nI _) h hM rfl rfl (by show _ < 12; omega) hnc dX4_toll_30 ?_
          refine g_icmp_ge (tgt := 181) h dX4_toll_31 (by decide) (fun _bz => absurd _bz (nI_ge hkn (by omega))) (fun b31 => ?_)
          refine g_bipush (v := nI 40) h dX4_toll_34 (by decide) ?_
          refine g_iload_n (i := 1) h dX4_toll_36 rfl rfl ?_
          first | (with_reducible refine g_imulN h dX4_toll_37 ?_) | refine g_imul h dX4_toll_37 ?_
          refine g_iload h dX4_toll_38 rfl ?_
          first | (with_reducible refine g_iaddN h dX4_toll_40 ?_) | refine g_iadd h dX4_toll_40 ?_
          refine g_istore h dX4_toll_41 (by decide) ?_
          refine g_aload_n (i := 0) h dX4_toll_43 rfl rfl ?_
          refine g_iload h dX4_toll_44 rfl ?_
          refine g_iload_n (i := 2) h dX4_toll_46 rfl rfl ?_
          refine g_iload_n (i := 3) h dX4_toll_47 rfl rfl ?_
          refine g_invV h (ct_holds2 h.k hM (w := 40 * a + k) (by omega) ht hu (hgood k hkn)) hcX4_holds w_X4_341 rfl rfl hM.obj (Nat.le_of_ble_eq_true rfl) ⟨Nat.le_of_ble_eq_true rfl, Nat.le_of_ble_eq_true rfl⟩ (by refine ⟨?_, ?_⟩ <;> first | exact Nat.le_refl _ | exact Nat.zero_le _ | (dsimp only; omega)) dX4_toll_48 (gkr_i (fun c hM => ?_)) gkt_i
          obtain ⟨P, hM⟩ := hM
          rw [mT_34] at hM
          refine g_if_ne (tgt := 57) h dX4_toll_51 (by decide) (fun b51 => ?_) (fun _bz => absurd _bz (show ¬ zB (sHold A t u (40 * a + k)) = 0 by rw [hh]; decide))
          refine g_aload_n (i := 0) h dX4_toll_57 rfl rfl ?_
          refine m_get h hM f_X4_24_4 rfl dX4_toll_58 ?_
          refine g_iload h dX4_toll_61 rfl ?_
          refine m_iald (k := 10) (x := A 10 _) h hM rfl rfl (by show _ < 480; omega) rfl dX4_toll_63 ?_
          refine g_iconst (v := 4) h dX4_toll_64 (by decide) ?_
          refine g_icmp_ne (tgt := 83) h dX4_toll_65 (by decide) (fun b65 => ?_) (fun _bz => absurd _bz h4)
          refine g_aload_n (i := 0) h dX4_toll_83 rfl rfl ?_
          refine m_get h hM f_X4_24_4 rfl dX4_toll_84 ?_
          refine g_iload h dX4_toll_87 rfl ?_
          refine m_iald (k := 10) (x := A 10 _) h hM rfl rfl (by show _ < 480; omega) rfl dX4_toll_89 ?_
          refine g_iconst (v := 5) h dX4_toll_90 (by decide) ?_
          refine g_icmp_ne (tgt := 111) h dX4_toll_91 (by decide) (fun b91 => ?_) (fun _bz => absurd _bz h5)
          refine g_aload_n (i := 0) h dX4_toll_111 rfl rfl ?_
          refine m_get h hM f_X4_24_4 rfl dX4_toll_112 ?_
          refine g_iload h dX4_toll_115 rfl ?_
          refine m_iald (k := 10) (x := A 10 _) h hM rfl rfl (by show _ < 480; omega) rfl dX4_toll_117 ?_
          refine g_bipush (v := 6) h dX4_toll_118 (by decide) ?_
          refine g_icmp_ne (tgt := 140) h dX4_toll_120 (by decide) (fun _bz => absurd _bz (not_not_intro h6)) (fun b120 => ?_)
          refine g_iload h dX4_toll_123 rfl ?_
          refine g_if_ge (tgt := 133) h dX4_toll_125 (by decide) (fun _bz => absurd _bz (by decide)) (fun b125 => ?_)
          refine g_iload h dX4_toll_128 rfl ?_
          refine g_goto (tgt := 135) h dX4_toll_130 (by decide) ?_
          refine g_istore h dX4_toll_135 (by decide) ?_
          refine g_goto (tgt := 175) h dX4_toll_137 (by decide) ?_
          first | (with_reducible refine g_iincN h dX4_toll_175 rfl (by decide) ?_) | refine g_iinc1 h dX4_toll_175 rfl (by decide) ?_
          refine g_goto (tgt := 23) h dX4_toll_178 (by decide) ?_
          exact G.to (ih (k + 1) ks nt o (some k) P X K c (by omega) hS (by omega) hM hX hks ho (by intro j e; cases e; omega)) ⟨rfl, rfl, rfl, rfl, rfl, rfl, rfl, rfl, trivial⟩
        · skip
          refine g_iload h dX4_toll_23 rfl ?_
          refine g_aload_n (i := 0) h dX4_toll_25 rfl rfl ?_
          refine m_get h hM f_X4_17_4 rfl dX4_toll_26 ?_
          refine g_iload_n (i := 1) h dX4_toll_29 rfl rfl ?_
          refine m_iald (k := 8) (x := nI _) h hM rfl rfl (by show _ < 12; omega) hnc dX4_toll_30 ?_
          refine g_icmp_ge (tgt := 181) h dX4_toll_31 (by decide) (fun _bz => absurd _bz (nI_ge hkn (by omega))) (fun b31 => ?_)
          refine g_bipush (v := nI 40) h dX4_toll_34 (by decide) ?_
          refine g_iload_n (i := 1) h dX4_toll_36 rfl rfl ?_
          first | (with_reducible refine g_imulN h dX4_toll_37 ?_) | refine g_imul h dX4_toll_37 ?_
          refine g_iload h dX4_toll_38 rfl ?_
          first | (with_reducible refine g_iaddN h dX4_toll_40 ?_) | refine g_iadd h dX4_toll_40 ?_
          refine g_istore h dX4_toll_41 (by decide) ?_
          refine g_aload_n (i := 0) h dX4_toll_43 rfl rfl ?_
          refine g_iload h dX4_toll_44 rfl ?_
          refine g_iload_n (i := 2) h dX4_toll_46 rfl rfl ?_
          refine g_iload_n (i := 3) h dX4_toll_47 rfl rfl ?_
          refine g_invV h (ct_holds2 h.k hM (w := 40 * a + k) (by omega) ht hu (hgood k hkn)) hcX4_holds w_X4_341 rfl rfl hM.obj (Nat.le_of_ble_eq_true rfl) ⟨Nat.le_of_ble_eq_true rfl, Nat.le_of_ble_eq_true rfl⟩ (by refine ⟨?_, ?_⟩ <;> first | exact Nat.le_refl _ | exact Nat.zero_le _ | (dsimp only; omega)) dX4_toll_48 (gkr_i (fun c hM => ?_)) gkt_i
          obtain ⟨P, hM⟩ := hM
          rw [mT_34] at hM
          refine g_if_ne (tgt := 57) h dX4_toll_51 (by decide) (fun b51 => ?_) (fun _bz => absurd _bz (show ¬ zB (sHold A t u (40 * a + k)) = 0 by rw [hh]; decide))
          refine g_aload_n (i := 0) h dX4_toll_57 rfl rfl ?_
          refine m_get h hM f_X4_24_4 rfl dX4_toll_58 ?_
          refine g_iload h dX4_toll_61 rfl ?_
          refine m_iald (k := 10) (x := A 10 _) h hM rfl rfl (by show _ < 480; omega) rfl dX4_toll_63 ?_
          refine g_iconst (v := 4) h dX4_toll_64 (by decide) ?_
          refine g_icmp_ne (tgt := 83) h dX4_toll_65 (by decide) (fun b65 => ?_) (fun _bz => absurd _bz h4)
          refine g_aload_n (i := 0) h dX4_toll_83 rfl rfl ?_
          refine m_get h hM f_X4_24_4 rfl dX4_toll_84 ?_
          refine g_iload h dX4_toll_87 rfl ?_
          refine m_iald (k := 10) (x := A 10 _) h hM rfl rfl (by show _ < 480; omega) rfl dX4_toll_89 ?_
          refine g_iconst (v := 5) h dX4_toll_90 (by decide) ?_
          refine g_icmp_ne (tgt := 111) h dX4_toll_91 (by decide) (fun b91 => ?_) (fun _bz => absurd _bz h5)
          refine g_aload_n (i := 0) h dX4_toll_111 rfl rfl ?_
          refine m_get h hM f_X4_24_4 rfl dX4_toll_112 ?_
          refine g_iload h dX4_toll_115 rfl ?_
          refine m_iald (k := 10) (x := A 10 _) h hM rfl rfl (by show _ < 480; omega) rfl dX4_toll_117 ?_
          refine g_bipush (v := 6) h dX4_toll_118 (by decide) ?_
          refine g_icmp_ne (tgt := 140) h dX4_toll_120 (by decide) (fun _bz => absurd _bz (not_not_intro h6)) (fun b120 => ?_)
          refine g_iload h dX4_toll_123 rfl ?_
          refine g_if_ge (tgt := 133) h dX4_toll_125 (by decide) (fun b125 => ?_) (fun _bz => absurd _bz (not_not_intro <| Int32.not_lt.mp (nI_pos (n := al) (by have := ha _ rfl; omega))))
          refine g_iload h dX4_toll_133 rfl ?_
          refine g_istore h dX4_toll_135 (by decide) ?_
          refine g_goto (tgt := 175) h dX4_toll_137 (by decide) ?_
          first | (with_reducible refine g_iincN h dX4_toll_175 rfl (by decide) ?_) | refine g_iinc1 h dX4_toll_175 rfl (by decide) ?_
          refine g_goto (tgt := 23) h dX4_toll_178 (by decide) ?_
          exact G.to (ih (k + 1) ks nt o (some al) P X K c (by omega) hS (by omega) hM hX hks ho ha) ⟨rfl, rfl, rfl, rfl, rfl, rfl, rfl, rfl, trivial⟩
      rw [if_neg h6] at hS
      by_cases h0 : A 10 (40 * a + k) = 0
      · rw [if_pos h0] at hS
        refine g_iload h dX4_toll_23 rfl ?_
        refine g_aload_n (i := 0) h dX4_toll_25 rfl rfl ?_
        refine m_get h hM f_X4_17_4 rfl dX4_toll_26 ?_
        refine g_iload_n (i := 1) h dX4_toll_29 rfl rfl ?_
        refine m_iald (k := 8) (x := nI _) h hM rfl rfl (by show _ < 12; omega) hnc dX4_toll_30 ?_
        refine g_icmp_ge (tgt := 181) h dX4_toll_31 (by decide) (fun _bz => absurd _bz (nI_ge hkn (by omega))) (fun b31 => ?_)
        refine g_bipush (v := nI 40) h dX4_toll_34 (by decide) ?_
        refine g_iload_n (i := 1) h dX4_toll_36 rfl rfl ?_
        first | (with_reducible refine g_imulN h dX4_toll_37 ?_) | refine g_imul h dX4_toll_37 ?_
        refine g_iload h dX4_toll_38 rfl ?_
        first | (with_reducible refine g_iaddN h dX4_toll_40 ?_) | refine g_iadd h dX4_toll_40 ?_
        refine g_istore h dX4_toll_41 (by decide) ?_
        refine g_aload_n (i := 0) h dX4_toll_43 rfl rfl ?_
        refine g_iload h dX4_toll_44 rfl ?_
        refine g_iload_n (i := 2) h dX4_toll_46 rfl rfl ?_
        refine g_iload_n (i := 3) h dX4_toll_47 rfl rfl ?_
        refine g_invV h (ct_holds2 h.k hM (w := 40 * a + k) (by omega) ht hu (hgood k hkn)) hcX4_holds w_X4_341 rfl rfl hM.obj (Nat.le_of_ble_eq_true rfl) ⟨Nat.le_of_ble_eq_true rfl, Nat.le_of_ble_eq_true rfl⟩ (by refine ⟨?_, ?_⟩ <;> first | exact Nat.le_refl _ | exact Nat.zero_le _ | (dsimp only; omega)) dX4_toll_48 (gkr_i (fun c hM => ?_)) gkt_i
        obtain ⟨P, hM⟩ := hM
        rw [mT_34] at hM
        refine g_if_ne (tgt := 57) h dX4_toll_51 (by decide) (fun b51 => ?_) (fun _bz => absurd _bz (show ¬ zB (sHold A t u (40 * a + k)) = 0 by rw [hh]; decide))
        refine g_aload_n (i := 0) h dX4_toll_57 rfl rfl ?_
        refine m_get h hM f_X4_24_4 rfl dX4_toll_58 ?_
        refine g_iload h dX4_toll_61 rfl ?_
        refine m_iald (k := 10) (x := A 10 _) h hM rfl rfl (by show _ < 480; omega) rfl dX4_toll_63 ?_
        refine g_iconst (v := 4) h dX4_toll_64 (by decide) ?_
        refine g_icmp_ne (tgt := 83) h dX4_toll_65 (by decide) (fun b65 => ?_) (fun _bz => absurd _bz h4)
        refine g_aload_n (i := 0) h dX4_toll_83 rfl rfl ?_
        refine m_get h hM f_X4_24_4 rfl dX4_toll_84 ?_
        refine g_iload h dX4_toll_87 rfl ?_
        refine m_iald (k := 10) (x := A 10 _) h hM rfl rfl (by show _ < 480; omega) rfl dX4_toll_89 ?_
        refine g_iconst (v := 5) h dX4_toll_90 (by decide) ?_
        refine g_icmp_ne (tgt := 111) h dX4_toll_91 (by decide) (fun b91 => ?_) (fun _bz => absurd _bz h5)
        refine g_aload_n (i := 0) h dX4_toll_111 rfl rfl ?_
        refine m_get h hM f_X4_24_4 rfl dX4_toll_112 ?_
        refine g_iload h dX4_toll_115 rfl ?_
        refine m_iald (k := 10) (x := A 10 _) h hM rfl rfl (by show _ < 480; omega) rfl dX4_toll_117 ?_
        refine g_bipush (v := 6) h dX4_toll_118 (by decide) ?_
        refine g_icmp_ne (tgt := 140) h dX4_toll_120 (by decide) (fun b120 => ?_) (fun _bz => absurd _bz h6)
        refine g_aload_n (i := 0) h dX4_toll_140 rfl rfl ?_
        refine g_iload h dX4_toll_141 rfl ?_
        refine m_puti h hM mp_35 fp_X4_338_4 dX4_toll_143 (fun c hM => ?_)
        rw [mT_35] at hM
        refine g_aload_n (i := 0) h dX4_toll_146 rfl rfl ?_
        refine m_get h hM f_X4_24_4 rfl dX4_toll_147 ?_
        refine g_iload h dX4_toll_150 rfl ?_
        refine m_iald (k := 10) (x := A 10 _) h hM rfl rfl (by show _ < 480; omega) rfl dX4_toll_152 ?_
        refine g_if_ne (tgt := 160) h dX4_toll_153 (by decide) (fun _bz => absurd _bz (not_not_intro h0)) (fun b153 => ?_)
        refine g_iconst (v := 0) h dX4_toll_156 (by decide) ?_
        refine g_goto (tgt := 174) h dX4_toll_157 (by decide) ?_
        exact g_iret h ⟨congrArg _ (congrArg _ (congrArg _ (congrArg Prod.fst hS))), P, _, K, hM, (show upd X 0 (nI k) 0 = b from congrArg Prod.snd hS)⟩ (Nat.le_refl _) (Nat.le_refl _) dX4_toll_174
      rw [if_neg h0] at hS
      refine g_iload h dX4_toll_23 rfl ?_
      refine g_aload_n (i := 0) h dX4_toll_25 rfl rfl ?_
      refine m_get h hM f_X4_17_4 rfl dX4_toll_26 ?_
      refine g_iload_n (i := 1) h dX4_toll_29 rfl rfl ?_
      refine m_iald (k := 8) (x := nI _) h hM rfl rfl (by show _ < 12; omega) hnc dX4_toll_30 ?_
      refine g_icmp_ge (tgt := 181) h dX4_toll_31 (by decide) (fun _bz => absurd _bz (nI_ge hkn (by omega))) (fun b31 => ?_)
      refine g_bipush (v := nI 40) h dX4_toll_34 (by decide) ?_
      refine g_iload_n (i := 1) h dX4_toll_36 rfl rfl ?_
      first | (with_reducible refine g_imulN h dX4_toll_37 ?_) | refine g_imul h dX4_toll_37 ?_
      refine g_iload h dX4_toll_38 rfl ?_
      first | (with_reducible refine g_iaddN h dX4_toll_40 ?_) | refine g_iadd h dX4_toll_40 ?_
      refine g_istore h dX4_toll_41 (by decide) ?_
      refine g_aload_n (i := 0) h dX4_toll_43 rfl rfl ?_
      refine g_iload h dX4_toll_44 rfl ?_
      refine g_iload_n (i := 2) h dX4_toll_46 rfl rfl ?_
      refine g_iload_n (i := 3) h dX4_toll_47 rfl rfl ?_
      refine g_invV h (ct_holds2 h.k hM (w := 40 * a + k) (by omega) ht hu (hgood k hkn)) hcX4_holds w_X4_341 rfl rfl hM.obj (Nat.le_of_ble_eq_true rfl) ⟨Nat.le_of_ble_eq_true rfl, Nat.le_of_ble_eq_true rfl⟩ (by refine ⟨?_, ?_⟩ <;> first | exact Nat.le_refl _ | exact Nat.zero_le _ | (dsimp only; omega)) dX4_toll_48 (gkr_i (fun c hM => ?_)) gkt_i
      obtain ⟨P, hM⟩ := hM
      rw [mT_34] at hM
      refine g_if_ne (tgt := 57) h dX4_toll_51 (by decide) (fun b51 => ?_) (fun _bz => absurd _bz (show ¬ zB (sHold A t u (40 * a + k)) = 0 by rw [hh]; decide))
      refine g_aload_n (i := 0) h dX4_toll_57 rfl rfl ?_
      refine m_get h hM f_X4_24_4 rfl dX4_toll_58 ?_
      refine g_iload h dX4_toll_61 rfl ?_
      refine m_iald (k := 10) (x := A 10 _) h hM rfl rfl (by show _ < 480; omega) rfl dX4_toll_63 ?_
      refine g_iconst (v := 4) h dX4_toll_64 (by decide) ?_
      refine g_icmp_ne (tgt := 83) h dX4_toll_65 (by decide) (fun b65 => ?_) (fun _bz => absurd _bz h4)
      refine g_aload_n (i := 0) h dX4_toll_83 rfl rfl ?_
      refine m_get h hM f_X4_24_4 rfl dX4_toll_84 ?_
      refine g_iload h dX4_toll_87 rfl ?_
      refine m_iald (k := 10) (x := A 10 _) h hM rfl rfl (by show _ < 480; omega) rfl dX4_toll_89 ?_
      refine g_iconst (v := 5) h dX4_toll_90 (by decide) ?_
      refine g_icmp_ne (tgt := 111) h dX4_toll_91 (by decide) (fun b91 => ?_) (fun _bz => absurd _bz h5)
      refine g_aload_n (i := 0) h dX4_toll_111 rfl rfl ?_
      refine m_get h hM f_X4_24_4 rfl dX4_toll_112 ?_
      refine g_iload h dX4_toll_115 rfl ?_
      refine m_iald (k := 10) (x := A 10 _) h hM rfl rfl (by show _ < 480; omega) rfl dX4_toll_117 ?_
      refine g_bipush (v := 6) h dX4_toll_118 (by decide) ?_
      refine g_icmp_ne (tgt := 140) h dX4_toll_120 (by decide) (fun b120 => ?_) (fun _bz => absurd _bz h6)
      refine g_aload_n (i := 0) h dX4_toll_140 rfl rfl ?_
      refine g_iload h dX4_toll_141 rfl ?_
      refine m_puti h hM mp_35 fp_X4_338_4 dX4_toll_143 (fun c hM => ?_)
      rw [mT_35] at hM
      refine g_aload_n (i := 0) h dX4_toll_146 rfl rfl ?_
      refine m_get h hM f_X4_24_4 rfl dX4_toll_147 ?_
      refine g_iload h dX4_toll_150 rfl ?_
      refine m_iald (k := 10) (x := A 10 _) h hM rfl rfl (by show _ < 480; omega) rfl dX4_toll_152 ?_
      refine g_if_ne (tgt := 160) h dX4_toll_153 (by decide) (fun b153 => ?_) (fun _bz => absurd _bz h0)
      refine g_aload_n (i := 0) h dX4_toll_160 rfl rfl ?_
      refine g_iload h dX4_toll_161 rfl ?_
      refine g_iload_n (i := 2) h dX4_toll_163 rfl rfl ?_
      refine g_iload_n (i := 3) h dX4_toll_164 rfl rfl ?_
      refine g_iload h dX4_toll_165 rfl ?_
      refine g_iload h dX4_toll_167 rfl ?_
      refine g_iload h dX4_toll_169 rfl ?_
      refine g_invV h (ct_paid (ng := ng) (nt := nt) (ks := ks) (o := o) (al := al) h.k hM (w := 40 * a + k) (by omega) ht hu hng hg8 (by omega) ho ha hks) hcX4_paid w_X4_344 rfl rfl hM.obj (Nat.le_of_ble_eq_true rfl) ⟨Nat.le_of_ble_eq_true rfl, Nat.le_of_ble_eq_true rfl⟩ (by refine ⟨?_, ?_⟩ <;> first | exact Nat.le_refl _ | exact Nat.zero_le _ | (dsimp only; omega)) dX4_toll_171 (gkr_i (fun c hM => ?_)) gkt_i
      simp only [sPaidF_T, sPaidB_T, sPaidV_T] at hM ⊢
      by_cases hF : sPaidF A t u ng o al = true
      · simp only [hF, if_true] at hM hS ⊢
        rw [mT_35] at hM
        exact g_iret h ⟨congrArg _ (congrArg _ (congrArg _ (congrArg Prod.fst hS))), P, _, K, hM, (show upd (upd X 0 (nI k)) 0 (sPaidB A t u ng o al) 0 = b from congrArg Prod.snd hS)⟩ (Nat.le_refl _) (Nat.le_refl _) dX4_toll_174
      · simp only [hF, if_false] at hM hS ⊢
        exact g_iret h ⟨congrArg _ (congrArg _ (congrArg _ (congrArg Prod.fst hS))), P, _, K, hM, (show upd X 0 (nI k) 0 = b from congrArg Prod.snd hS)⟩ (Nat.le_refl _) (Nat.le_refl _) dX4_toll_174
  rcases a with _ | a
  · replace hM := (mT_id A).symm ▸ hM
    refine g_aload_n (i := 0) h dX4_toll_0 rfl rfl ?_
    refine g_iconst (v := (-1)) h dX4_toll_1 (by decide) ?_
    refine m_puti h hM mp_35 fp_X4_338_4 dX4_toll_2 (fun c hM => ?_)
    rw [mT_35] at hM
    refine g_iload_n (i := 1) h dX4_toll_5 rfl rfl ?_
    refine g_if_ge (tgt := 11) h dX4_toll_6 (by decide) (fun _bz => absurd _bz (by decide)) (fun b6 => ?_)
    refine g_iconst (v := 0) h dX4_toll_9 (by decide) ?_
    exact g_iret h ⟨rfl, _, _, _, hM, rfl⟩ (Nat.le_refl _) (Nat.le_refl _) dX4_toll_10
  · obtain ⟨ha12, hnc, hnc40, hgood, hsec⟩ := hact a rfl
    replace hM := (mT_id A).symm ▸ hM
    refine g_aload_n (i := 0) h dX4_toll_0 rfl rfl ?_
    refine g_iconst (v := (-1)) h dX4_toll_1 (by decide) ?_
    refine m_puti h hM mp_35 fp_X4_338_4 dX4_toll_2 (fun c hM => ?_)
    rw [mT_35] at hM
    refine g_iload_n (i := 1) h dX4_toll_5 rfl rfl ?_
    refine g_if_ge (tgt := 11) h dX4_toll_6 (by decide) (fun b6 => ?_) (fun _bz => absurd _bz (not_not_intro <| Int32.not_lt.mp (nI_pos (n := a) (by omega))))
    refine g_iconst (v := 0) h dX4_toll_11 (by decide) ?_
    refine g_istore h dX4_toll_12 (by decide) ?_
    refine g_iconst (v := (-1)) h dX4_toll_14 (by decide) ?_
    refine g_istore h dX4_toll_15 (by decide) ?_
    refine g_iconst (v := (-1)) h dX4_toll_17 (by decide) ?_
    refine g_istore h dX4_toll_18 (by decide) ?_
    refine g_iconst (v := 0) h dX4_toll_20 (by decide) ?_
    refine g_istore h dX4_toll_21 (by decide) ?_
    exact G.to (loop a (ix (A 8 a)) _ _ ha12 hnc hnc40 hgood hsec (ix (A 8 a)) 0 (fun _ => 0) 0 none none _ _ _ c (by omega) rfl (Nat.le_refl _) hM rfl (by intro j hj; omega) (by intro j e; cases e) (by intro j e; cases e)) ⟨rfl, rfl, rfl, rfl, rfl, rfl, rfl, rfl, trivial⟩
