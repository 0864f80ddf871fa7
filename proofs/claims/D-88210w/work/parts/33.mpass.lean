/-! THE MODEL: asked, pass -/
set_option maxRecDepth 100000
theorem sIsPass_t {A : Nat → Nat → Int32} {t u : Int32} {nt ng : Nat} (h : sIsPass A t u = true) (hnt : A 25 0 = nI nt) (hn : nt < 2147483648) (hng : A 31 0 = nI ng) (hg : ng < 2147483648) : (ix t < nt ∧ t = nI (ix t)) ∧ ix u < ng ∧ u = nI (ix u) := by
  simp only [sIsPass, Bool.and_eq_true, Bool.not_eq_true', decide_eq_false_iff_not] at h
  obtain ⟨⟨⟨h1, h2⟩, h3⟩, h4⟩ := h
  exact ⟨ix_of h1 (Int32.not_le.mp h2) hnt hn, ix_of h3 (Int32.not_le.mp h4) hng hg⟩
/-- act a's clauses are in order -/
def sActOk (A : Nat → Nat → Int32) (cl a : Nat) : Prop := a < 12 ∧ A 8 a = nI (ix (A 8 a)) ∧ ix (A 8 a) ≤ 40 ∧ (∀ k, k < ix (A 8 a) → sGood A cl (40 * a + k)) ∧ (∀ k, k < ix (A 8 a) → A 10 (40 * a + k) = 4 → (A 12 (40 * a + k)).toInt64 ≠ 0)
def sAskK (A : Nat → Nat → Int32) (a t u : Int32) : Nat := if a < 0 then 1 else if A 18 0 ≤ a then 1 else if sIsPass A t u = true then 0 else 1
theorem ct_asked {l : Launch} {g : gGP} (hk : gK l g) {c0 c : gLH} {mo : Nat} {ma : Nat → Nat} {cl ll : Nat} {A : Nat → Nat → Int32} {B : Nat → Nat → Int64} (hM : MW c0 mo ma cl ll A B c) (a t u : Int32) {nt ng na : Nat} (hnt : A 25 0 = nI nt) (hnt60 : nt ≤ 60) (hng : A 31 0 = nI ng) (hg8 : ng ≤ 8) (hna : A 18 0 = nI na) (ha12 : na ≤ 12) (hact : ∀ a', a' < na → sActOk A cl a') : Ct l g yX4_asked hwX4_asked 4 160 [.ref mo, .int a, .int t, .int u] c (0) (0) (pI (if sAskK A a t u = 0 then (sToll (mA A 0 0 0) (ix t) (ix u) ng (some (ix a))).1 else 0) (fun c' => if sAskK A a t u = 0 then ∃ P X Y, MW c0 mo ma cl ll (mT (mA A 0 0 0) P X Y) B c' else MW c0 mo ma cl ll (mA (mA A 0 0 0) 0 0 1) B c')) := by
  refine Ct.intro hk hcX4_asked (by decide +kernel) (Nat.le_of_ble_eq_true rfl) (fun φ h => ?_)
  refine g_aload_n (i := 0) h dX4_asked_0 rfl rfl ?_
  refine g_iconst (v := 0) h dX4_asked_1 (by decide) ?_
  refine m_puti h hM mp_0 fp_X4_146_4 dX4_asked_2 (fun c hM => ?_)
  refine g_aload_n (i := 0) h dX4_asked_5 rfl rfl ?_
  refine g_iload_n (i := 1) h dX4_asked_6 rfl rfl ?_
  refine g_if_lt (tgt := 27) h dX4_asked_7 (by decide) (fun b7 => ?_) (fun b7 => ?_)
  · refine g_iconst (v := 1) h dX4_asked_27 (by decide) ?_
    refine g_goto (tgt := 32) h dX4_asked_28 (by decide) ?_
    refine g_iconst (v := 1) h dX4_asked_32 (by decide) ?_
    refine g_invV h (ct_bad h.k hM true 1) hcX4_bad w_X4_308 rfl rfl hM.obj (Nat.le_of_ble_eq_true rfl) ⟨Nat.le_of_ble_eq_true rfl, Nat.le_of_ble_eq_true rfl⟩ (by refine ⟨?_, ?_⟩ <;> first | exact Nat.le_refl _ | exact Nat.zero_le _ | (dsimp only; omega)) dX4_asked_33 (gkr_i (fun c hM => ?_)) gkt_i
    replace hM := bad1 hM
    refine g_if_eq (tgt := 41) h dX4_asked_36 (by decide) (fun _bz => absurd _bz (by decide)) (fun _bz => ?_)
    refine g_iconst (v := 0) h dX4_asked_39 (by decide) ?_
    have hK : sAskK A a t u = 1 := by unfold sAskK; simp only [b7, if_true, if_false]; try (rw [if_neg (by rw [show sIsPass A t u = false from b24]; decide)])
    exact g_iret h ⟨by rw [hK]; rfl, by show ite _ _ _; rw [hK]; exact hM⟩ (Nat.le_refl _) (Nat.le_refl _) dX4_asked_40
  · refine g_iload_n (i := 1) h dX4_asked_10 rfl rfl ?_
    refine g_aload_n (i := 0) h dX4_asked_11 rfl rfl ?_
    refine m_get (v := .int (A 18 0)) h hM f_X4_289_4 rfl dX4_asked_12 ?_
    refine g_icmp_ge (tgt := 27) h dX4_asked_15 (by decide) (fun b15 => ?_) (fun b15 => ?_)
    · refine g_iconst (v := 1) h dX4_asked_27 (by decide) ?_
      refine g_goto (tgt := 32) h dX4_asked_28 (by decide) ?_
      refine g_iconst (v := 1) h dX4_asked_32 (by decide) ?_
      refine g_invV h (ct_bad h.k hM true 1) hcX4_bad w_X4_308 rfl rfl hM.obj (Nat.le_of_ble_eq_true rfl) ⟨Nat.le_of_ble_eq_true rfl, Nat.le_of_ble_eq_true rfl⟩ (by refine ⟨?_, ?_⟩ <;> first | exact Nat.le_refl _ | exact Nat.zero_le _ | (dsimp only; omega)) dX4_asked_33 (gkr_i (fun c hM => ?_)) gkt_i
      replace hM := bad1 hM
      refine g_if_eq (tgt := 41) h dX4_asked_36 (by decide) (fun _bz => absurd _bz (by decide)) (fun _bz => ?_)
      refine g_iconst (v := 0) h dX4_asked_39 (by decide) ?_
      have hK : sAskK A a t u = 1 := by unfold sAskK; simp only [b7, b15, if_true, if_false]; try (rw [if_neg (by rw [show sIsPass A t u = false from b24]; decide)])
      exact g_iret h ⟨by rw [hK]; rfl, by show ite _ _ _; rw [hK]; exact hM⟩ (Nat.le_refl _) (Nat.le_refl _) dX4_asked_40
    · refine g_aload_n (i := 0) h dX4_asked_18 rfl rfl ?_
      refine g_iload_n (i := 2) h dX4_asked_19 rfl rfl ?_
      refine g_iload_n (i := 3) h dX4_asked_20 rfl rfl ?_
      refine g_invV h (ct_isPass h.k hM _ _) hcX4_isPass w_X4_351 rfl rfl hM.obj (Nat.le_of_ble_eq_true rfl) ⟨Nat.le_of_ble_eq_true rfl, Nat.le_of_ble_eq_true rfl⟩ (by refine ⟨?_, ?_⟩ <;> first | exact Nat.le_refl _ | exact Nat.zero_le _ | (dsimp only; omega)) dX4_asked_21 (gkr_ip ?_) gkt_ip
      refine g_if_ne (tgt := 31) h dX4_asked_24 (by decide) (fun b24 => ?_) (fun b24 => ?_)
      · rw [zB_n0] at b24
        refine g_iconst (v := 0) h dX4_asked_31 (by decide) ?_
        refine g_iconst (v := 1) h dX4_asked_32 (by decide) ?_
        refine g_invV h (ct_bad h.k hM false 1) hcX4_bad w_X4_308 rfl rfl hM.obj (Nat.le_of_ble_eq_true rfl) ⟨Nat.le_of_ble_eq_true rfl, Nat.le_of_ble_eq_true rfl⟩ (by refine ⟨?_, ?_⟩ <;> first | exact Nat.le_refl _ | exact Nat.zero_le _ | (dsimp only; omega)) dX4_asked_33 (gkr_i (fun c hM => ?_)) gkt_i
        replace hM := bad0 hM
        refine g_if_eq (tgt := 41) h dX4_asked_36 (by decide) (fun _bz => ?_) (fun _bz => absurd _bz (by decide))
        obtain ⟨hja, hxa⟩ := ix_of b7 (Int32.not_le.mp b15) hna (by omega)
        obtain ⟨ht, hu⟩ := sIsPass_t b24 hnt (by omega) hng (by omega)
        refine g_aload_n (i := 0) h dX4_asked_41 rfl rfl ?_
        refine g_iload_n (i := 1) h dX4_asked_42 rfl rfl ?_
        refine G.int hxa ?_
        refine g_iload_n (i := 2) h dX4_asked_43 rfl rfl ?_
        refine G.int ht.2 ?_
        refine g_iload_n (i := 3) h dX4_asked_44 rfl rfl ?_
        refine G.int hu.2 ?_
        refine g_invV h (ct_toll (a := some (ix a)) h.k hM (by omega) (by omega) hng hg8 (by intro a' e; cases e; exact hact _ hja)) hcX4_toll w_X4_354 rfl rfl hM.obj (Nat.le_of_ble_eq_true rfl) ⟨Nat.le_of_ble_eq_true rfl, Nat.le_of_ble_eq_true rfl⟩ (by refine ⟨?_, ?_⟩ <;> first | exact Nat.le_refl _ | exact Nat.zero_le _ | (dsimp only; omega)) dX4_asked_45 (gkr_i (fun c hM => ?_)) gkt_i
        have hK : sAskK A a t u = 0 := by unfold sAskK; simp only [b7, b15, if_false]; exact if_pos b24
        exact g_iret h ⟨by rw [hK]; rfl, by show ite _ _ _; rw [hK]; obtain ⟨P, X, Y, hM, _⟩ := hM; exact ⟨P, X, Y, hM⟩⟩ (Nat.le_refl _) (Nat.le_refl _) dX4_asked_48
      · rw [zB_0] at b24
        refine g_iconst (v := 1) h dX4_asked_27 (by decide) ?_
        refine g_goto (tgt := 32) h dX4_asked_28 (by decide) ?_
        refine g_iconst (v := 1) h dX4_asked_32 (by decide) ?_
        refine g_invV h (ct_bad h.k hM true 1) hcX4_bad w_X4_308 rfl rfl hM.obj (Nat.le_of_ble_eq_true rfl) ⟨Nat.le_of_ble_eq_true rfl, Nat.le_of_ble_eq_true rfl⟩ (by refine ⟨?_, ?_⟩ <;> first | exact Nat.le_refl _ | exact Nat.zero_le _ | (dsimp only; omega)) dX4_asked_33 (gkr_i (fun c hM => ?_)) gkt_i
        replace hM := bad1 hM
        refine g_if_eq (tgt := 41) h dX4_asked_36 (by decide) (fun _bz => absurd _bz (by decide)) (fun _bz => ?_)
        refine g_iconst (v := 0) h dX4_asked_39 (by decide) ?_
        have hK : sAskK A a t u = 1 := by unfold sAskK; simp only [b7, b15, b24, if_true, if_false]; try (rw [if_neg (by rw [show sIsPass A t u = false from b24]; decide)])
        exact g_iret h ⟨by rw [hK]; rfl, by show ite _ _ _; rw [hK]; exact hM⟩ (Nat.le_refl _) (Nat.le_refl _) dX4_asked_40
def sWear (A : Nat → Nat → Int32) (t : Nat) : Int64 := if 3 ≤ A 19 t then (if A 19 t = 3 then 1 else if A 19 t = 4 then (A 21 t).toInt64 else if A 19 t = 5 then (A 21 t / 4).toInt64 else 0)
  else (if A 19 t = 0 then 6 else if A 19 t = 1 then 4 else 10) * (if 6 ≤ A 20 t then 1 else 2)
/-- the pass is noted: who passed, who paid, how many -/
def sPass0 (A : Nat → Nat → Int32) (t u : Nat) (v : Int32) : Nat → Nat → Int32 := if v ≤ 0 then mA (mA A 37 0 (A 35 0)) 23 (8 * t + u) (A 32 0) else mA (mA (mA A 37 0 (A 35 0)) 23 (8 * t + u) (A 32 0)) 24 (8 * t + u) (A 32 0)
def sPass1 (A : Nat → Nat → Int32) (t u : Nat) (v : Int32) : Nat → Nat → Int32 := mA (sPass0 A t u v) 30 u (A 30 u + 1)
def sPassC (A : Nat → Nat → Int32) (u : Nat) (v : Int32) : Nat := if A 50 u < 0 then (if v ≤ 0 then 0 else 1) else 2
def sPassA (A : Nat → Nat → Int32) (t u nl : Nat) (v : Int32) : Nat → Nat → Int32 := if sPassC A u v = 1 then sLineA (sPass1 A t u v) nl 0 (nI t) v.toInt64 else sPass1 A t u v
def sPassB1 (A : Nat → Nat → Int32) (B : Nat → Nat → Int64) (t u : Nat) : Nat → Nat → Int64 := mB B 27 (ix (A 29 u)) (B 27 (ix (A 29 u)) + (if A 33 0 ≤ 0 then sWear A t else 2 * sWear A t))
def sPassB (A : Nat → Nat → Int32) (B : Nat → Nat → Int64) (t u : Nat) (v : Int32) : Nat → Nat → Int64 := if sPassC A u v = 1 then mB (sPassB1 A B t u) 43 0 (B 43 0 + v.toInt64) else if sPassC A u v = 2 then mB (sPassB1 A B t u) 44 (ix (A 50 u)) (B 44 (ix (A 50 u)) + v.toInt64) else sPassB1 A B t u
def sPassL (A : Nat → Nat → Int32) (u nl ll : Nat) (v : Int32) : Nat := if sPassC A u v = 1 then sLn ll nl else ll
abbrev sPassV (A : Nat → Nat → Int32) (t u ng na : Nat) : Int32 × Int32 := sToll (mA A 0 0 0) t u ng (sForce (A 9) (A 32 0) na)
theorem sPass1_n (A : Nat → Nat → Int32) (t u : Nat) (v : Int32) {k : Nat} (h1 : k ≠ 30) (h2 : k ≠ 37) (h3 : k ≠ 23) (h4 : k ≠ 24) : sPass1 A t u v k = A k := by
  unfold sPass1 sPass0
  rw [mA_n _ _ _ h1]
  split
  · rw [mA_n _ _ _ h3, mA_n _ _ _ h2]
  · rw [mA_n _ _ _ h4, mA_n _ _ _ h3, mA_n _ _ _ h2]
theorem i1_0 : ((1 : Int32) = 0) = False := by decide
theorem i3_0 : ((4 : Int32) = 3) = False := by decide
theorem i2e1 : ((2 : Nat) = 1) = False := by decide
theorem i0e1 : ((0 : Nat) = 1) = False := by decide
theorem i0e2 : ((0 : Nat) = 2) = False := by decide
theorem pass_rest {φ : gFx} {l : Launch} {g : gGP} {MC MS : Nat} (h : gOK φ l g { frames := 4, cells := MC, slots := MS, locals := 160 } cX4_pass 6 RX4 "pass" (some .int) []) {Post : Outcome → gLH → Prop} {c0 c : gLH} {mo : Nat} {ma : Nat → Nat} {cl ll : Nat} {A : Nat → Nat → Int32} {B : Nat → Nat → Int64} (hM : MW c0 mo ma cl ll A B c) {t u nl : Nat} {v : Int32} (ht : t < 60) (hu : u < 8) (hnl : A 42 0 = nI nl) (hle : nl ≤ ll) (hl0 : 4 ≤ ll) (hl2 : nl < 400000) (hon : A 29 u = nI (ix (A 29 u)) ∧ ix (A 29 u) < 12) (hls : A 50 u < 0 ∨ (A 50 u = nI (ix (A 50 u)) ∧ ix (A 50 u) < 8))
    (hMC : sPassL A u nl ll v - ll ≤ MC) (hMS : 8 * (sPassL A u nl ll v - ll) ≤ MS) (hP : ∀ ma' c', MW c0 mo ma' cl (sPassL A u nl ll v) (sPassA A t u nl v) (sPassB A B t u v) c' → Post (.returned (some (.int v))) c') :
    G φ (gQ φ Post MC MS) 43 [(0, .ref mo), (1, .int (nI t)), (2, .int (nI u))] [.int v] c 0 0 := by
  have hnl1 : sPass1 A t u v 42 0 = nI nl := (congrFun (sPass1_n A t u v (by decide) (by decide) (by decide) (by decide)) 0).trans hnl
  have hls2 : ¬ A 50 u < 0 → A 50 u = nI (ix (A 50 u)) ∧ ix (A 50 u) < 8 := fun q => hls.resolve_left q
  have s253 : ∀ c, MW c0 mo ma cl ll (sPass1 A t u v) (sPassB1 A B t u) c → G φ (gQ φ Post MC MS) 253 [(0, .ref mo), (1, .int (nI t)), (2, .int (nI u)), (3, .int v)] [] c 0 0 := by
    intro c hM
    refine g_aload_n (i := 0) h dX4_pass_253 rfl rfl ?_
    refine m_get h hM f_X4_113_4 rfl dX4_pass_254 ?_
    refine g_iload_n (i := 2) h dX4_pass_257 rfl rfl ?_
    refine m_iald (k := 50) (x := A 50 u) h hM rfl rfl (by show _ < 8; omega) (congrFun (sPass1_n A t u v (by decide) (by decide) (by decide) (by decide)) u) dX4_pass_258 ?_
    refine g_if_lt (tgt := 281) h dX4_pass_259 (by decide) (fun b259 => ?_) (fun b259 => ?_)
    · refine g_iload_n (i := 3) h dX4_pass_281 rfl rfl ?_
      refine g_if_le (tgt := 293) h dX4_pass_282 (by decide) (fun b282 => ?_) (fun b282 => ?_)
      · refine g_iload_n (i := 3) h dX4_pass_293 rfl rfl ?_
        exact g_iret h (hP _ _ (by simp only [sPassL, sPassA, sPassB, sPassC, b259, b282, i2e1, i0e1, i0e2, if_true, if_false]; exact hM)) (by omega) (by omega) dX4_pass_294
      · have e : sPassL A u nl ll v = sLn ll nl := by simp only [sPassL, sPassC, b259, b282, if_true, if_false]
        rw [e] at hMC hMS
        refine g_aload_n (i := 0) h dX4_pass_285 rfl rfl ?_
        refine g_iconst (v := 0) h dX4_pass_286 (by decide) ?_
        refine g_iload_n (i := 1) h dX4_pass_287 rfl rfl ?_
        refine g_iload_n (i := 3) h dX4_pass_288 rfl rfl ?_
        refine g_i2l h dX4_pass_289 ?_
        refine g_invV h (ct_line (nl := nl) h.k hM 0 _ _ hnl1 hle hl0 hl2) hcX4_line w_X4_366 rfl rfl hM.obj (Nat.le_of_ble_eq_true rfl) ⟨Nat.le_of_ble_eq_true rfl, Nat.le_of_ble_eq_true rfl⟩ (by dsimp only; constructor <;> omega) dX4_pass_290 (gkr_v (fun c hM => ?_)) gkt_v
        obtain ⟨ma, hM⟩ := hM
        refine g_iload_n (i := 3) h dX4_pass_293 rfl rfl ?_
        exact g_iret h (hP _ _ (by simp only [sPassL, sPassA, sPassB, sPassC, b259, b282, i2e1, i0e1, i0e2, if_true, if_false]; exact hM)) (by omega) (by omega) dX4_pass_294
    · refine g_aload_n (i := 0) h dX4_pass_262 rfl rfl ?_
      refine m_get h hM f_X4_98_4 rfl dX4_pass_263 ?_
      refine g_aload_n (i := 0) h dX4_pass_266 rfl rfl ?_
      refine m_get h hM f_X4_113_4 rfl dX4_pass_267 ?_
      refine g_iload_n (i := 2) h dX4_pass_270 rfl rfl ?_
      refine m_iald (k := 50) (x := A 50 u) h hM rfl rfl (by show _ < 8; omega) (congrFun (sPass1_n A t u v (by decide) (by decide) (by decide) (by decide)) u) dX4_pass_271 ?_
      refine G.int (hls2 b259).1 ?_
      refine g_dup2 h dX4_pass_272 rfl rfl ?_
      refine m_lald (k := 44) (x := B 44 (ix (A 50 u))) h hM rfl (by show _ < 8; exact (hls2 b259).2) rfl dX4_pass_273 ?_
      refine g_iload_n (i := 3) h dX4_pass_274 rfl rfl ?_
      refine g_i2l h dX4_pass_275 ?_
      refine g_ladd h dX4_pass_276 ?_
      refine m_last (k := 44) h hM rfl (by show _ < 8; exact (hls2 b259).2) dX4_pass_277 (fun c hM => ?_)
      refine g_goto (tgt := 293) h dX4_pass_278 (by decide) ?_
      refine g_iload_n (i := 3) h dX4_pass_293 rfl rfl ?_
      exact g_iret h (hP _ _ (by simp only [sPassL, sPassA, sPassB, sPassC, b259, i2e1, i0e1, i0e2, if_true, if_false]; exact hM)) (by omega) (by omega) dX4_pass_294
  have s219 : ∀ c, MW c0 mo ma cl ll (sPass1 A t u v) B c → G φ (gQ φ Post MC MS) 219 [(0, .ref mo), (1, .int (nI t)), (2, .int (nI u)), (3, .int v)] [.long (sWear A t)] c 0 0 := by
    intro c hM
    refine g_lstore h dX4_pass_219 (by decide) ?_
    refine g_aload_n (i := 0) h dX4_pass_221 rfl rfl ?_
    refine m_get h hM f_X4_66_4 rfl dX4_pass_222 ?_
    refine g_aload_n (i := 0) h dX4_pass_225 rfl rfl ?_
    refine m_get h hM f_X4_70_4 rfl dX4_pass_226 ?_
    refine g_iload_n (i := 2) h dX4_pass_229 rfl rfl ?_
    refine m_iald (k := 29) (x := nI (ix (A 29 u))) h hM rfl rfl (by show _ < 8; omega) (show _ = _ from (congrFun (sPass1_n A t u v (by decide) (by decide) (by decide) (by decide)) u).trans hon.1) dX4_pass_230 ?_
    refine g_dup2 h dX4_pass_231 rfl rfl ?_
    refine m_lald (k := 27) (x := B 27 _) h hM rfl (by show _ < 12; omega) rfl dX4_pass_232 ?_
    refine g_aload_n (i := 0) h dX4_pass_233 rfl rfl ?_
    refine m_get (v := .int (sPass1 A t u v 33 0)) h hM f_X4_363_4 rfl dX4_pass_234 ?_
    refine G.int (congrFun (sPass1_n A t u v (k := 33) (by decide) (by decide) (by decide) (by decide)) 0) ?_
    refine g_if_le (tgt := 249) h dX4_pass_237 (by decide) (fun b237 => ?_) (fun b237 => ?_)
    · refine g_lload h dX4_pass_249 rfl ?_
      refine g_ladd h dX4_pass_251 ?_
      refine m_last (k := 27) h hM rfl (by show _ < 12; omega) dX4_pass_252 (fun c hM => ?_)
      refine G.to (s253 c ?_) ⟨rfl, rfl, rfl, rfl, trivial⟩
      simp only [sPassB1, b237, if_true, if_false]
      exact hM
    · refine g_ldc2 (v := 2) h dX4_pass_240 q2133 ?_
      refine g_lload h dX4_pass_243 rfl ?_
      refine g_lmul h dX4_pass_245 ?_
      refine g_goto (tgt := 251) h dX4_pass_246 (by decide) ?_
      refine g_ladd h dX4_pass_251 ?_
      refine m_last (k := 27) h hM rfl (by show _ < 12; omega) dX4_pass_252 (fun c hM => ?_)
      refine G.to (s253 c ?_) ⟨rfl, rfl, rfl, rfl, trivial⟩
      simp only [sPassB1, b237, if_true, if_false]
      exact hM
  have s96 : ∀ c, MW c0 mo ma cl ll (sPass1 A t u v) B c → G φ (gQ φ Post MC MS) 96 [(0, .ref mo), (1, .int (nI t)), (2, .int (nI u)), (3, .int v)] [] c 0 0 := by
    intro c hM
    refine g_aload_n (i := 0) h dX4_pass_96 rfl rfl ?_
    refine m_get h hM f_X4_45_4 rfl dX4_pass_97 ?_
    refine g_iload_n (i := 1) h dX4_pass_100 rfl rfl ?_
    refine m_iald (k := 19) (x := A 19 t) h hM rfl rfl (by show _ < 60; omega) (congrFun (sPass1_n A t u v (by decide) (by decide) (by decide) (by decide)) t) dX4_pass_101 ?_
    refine g_iconst (v := 3) h dX4_pass_102 (by decide) ?_
    refine g_icmp_ge (tgt := 162) h dX4_pass_103 (by decide) (fun b103 => ?_) (fun b103 => ?_)
    · refine g_aload_n (i := 0) h dX4_pass_162 rfl rfl ?_
      refine m_get h hM f_X4_45_4 rfl dX4_pass_163 ?_
      refine g_iload_n (i := 1) h dX4_pass_166 rfl rfl ?_
      refine m_iald (k := 19) (x := A 19 t) h hM rfl rfl (by show _ < 60; omega) (congrFun (sPass1_n A t u v (by decide) (by decide) (by decide) (by decide)) t) dX4_pass_167 ?_
      refine g_iconst (v := 3) h dX4_pass_168 (by decide) ?_
      refine g_icmp_ne (tgt := 176) h dX4_pass_169 (by decide) (fun b169 => ?_) (fun b169 => ?_)
      · refine g_aload_n (i := 0) h dX4_pass_176 rfl rfl ?_
        refine m_get h hM f_X4_45_4 rfl dX4_pass_177 ?_
        refine g_iload_n (i := 1) h dX4_pass_180 rfl rfl ?_
        refine m_iald (k := 19) (x := A 19 t) h hM rfl rfl (by show _ < 60; omega) (congrFun (sPass1_n A t u v (by decide) (by decide) (by decide) (by decide)) t) dX4_pass_181 ?_
        refine g_iconst (v := 4) h dX4_pass_182 (by decide) ?_
        refine g_icmp_ne (tgt := 196) h dX4_pass_183 (by decide) (fun b183 => ?_) (fun b183 => ?_)
        · refine g_aload_n (i := 0) h dX4_pass_196 rfl rfl ?_
          refine m_get h hM f_X4_45_4 rfl dX4_pass_197 ?_
          refine g_iload_n (i := 1) h dX4_pass_200 rfl rfl ?_
          refine m_iald (k := 19) (x := A 19 t) h hM rfl rfl (by show _ < 60; omega) (congrFun (sPass1_n A t u v (by decide) (by decide) (by decide) (by decide)) t) dX4_pass_201 ?_
          refine g_iconst (v := 5) h dX4_pass_202 (by decide) ?_
          refine g_icmp_ne (tgt := 218) h dX4_pass_203 (by decide) (fun b203 => ?_) (fun b203 => ?_)
          · refine g_lconst (v := 0) h dX4_pass_218 (by decide) ?_
            refine G.long (show _ = sWear A t by simp only [sWear, b103, b169, b183, b203, if_true, if_false, i1_0, i3_0]; try rfl) ?_
            exact G.to (s219 c hM) ⟨rfl, rfl, rfl, rfl, trivial⟩
          · refine g_aload_n (i := 0) h dX4_pass_206 rfl rfl ?_
            refine m_get h hM f_X4_51_4 rfl dX4_pass_207 ?_
            refine g_iload_n (i := 1) h dX4_pass_210 rfl rfl ?_
            refine m_iald (k := 21) (x := A 21 t) h hM rfl rfl (by show _ < 60; omega) (congrFun (sPass1_n A t u v (by decide) (by decide) (by decide) (by decide)) t) dX4_pass_211 ?_
            refine g_iconst (v := 4) h dX4_pass_212 (by decide) ?_
            refine g_idiv h dX4_pass_213 (by decide) ?_
            refine g_i2l h dX4_pass_214 ?_
            refine g_goto (tgt := 219) h dX4_pass_215 (by decide) ?_
            refine G.long (show _ = sWear A t by simp only [sWear, b103, b169, b183, b203, if_true, if_false, i1_0, i3_0]; try rfl) ?_
            exact G.to (s219 c hM) ⟨rfl, rfl, rfl, rfl, trivial⟩
        · refine g_aload_n (i := 0) h dX4_pass_186 rfl rfl ?_
          refine m_get h hM f_X4_51_4 rfl dX4_pass_187 ?_
          refine g_iload_n (i := 1) h dX4_pass_190 rfl rfl ?_
          refine m_iald (k := 21) (x := A 21 t) h hM rfl rfl (by show _ < 60; omega) (congrFun (sPass1_n A t u v (by decide) (by decide) (by decide) (by decide)) t) dX4_pass_191 ?_
          refine g_i2l h dX4_pass_192 ?_
          refine g_goto (tgt := 219) h dX4_pass_193 (by decide) ?_
          refine G.long (show _ = sWear A t by simp only [sWear, b103, b169, b183, if_true, if_false, i1_0, i3_0]; try rfl) ?_
          exact G.to (s219 c hM) ⟨rfl, rfl, rfl, rfl, trivial⟩
      · refine g_lconst (v := 1) h dX4_pass_172 (by decide) ?_
        refine g_goto (tgt := 219) h dX4_pass_173 (by decide) ?_
        refine G.long (show _ = sWear A t by simp only [sWear, b103, b169, if_true, if_false, i1_0, i3_0]; try rfl) ?_
        exact G.to (s219 c hM) ⟨rfl, rfl, rfl, rfl, trivial⟩
    · refine g_aload_n (i := 0) h dX4_pass_106 rfl rfl ?_
      refine m_get h hM f_X4_45_4 rfl dX4_pass_107 ?_
      refine g_iload_n (i := 1) h dX4_pass_110 rfl rfl ?_
      refine m_iald (k := 19) (x := A 19 t) h hM rfl rfl (by show _ < 60; omega) (congrFun (sPass1_n A t u v (by decide) (by decide) (by decide) (by decide)) t) dX4_pass_111 ?_
      refine g_if_ne (tgt := 121) h dX4_pass_112 (by decide) (fun b112 => ?_) (fun b112 => ?_)
      · refine g_aload_n (i := 0) h dX4_pass_121 rfl rfl ?_
        refine m_get h hM f_X4_45_4 rfl dX4_pass_122 ?_
        refine g_iload_n (i := 1) h dX4_pass_125 rfl rfl ?_
        refine m_iald (k := 19) (x := A 19 t) h hM rfl rfl (by show _ < 60; omega) (congrFun (sPass1_n A t u v (by decide) (by decide) (by decide) (by decide)) t) dX4_pass_126 ?_
        refine g_iconst (v := 1) h dX4_pass_127 (by decide) ?_
        refine g_icmp_ne (tgt := 137) h dX4_pass_128 (by decide) (fun b128 => ?_) (fun b128 => ?_)
        · refine g_ldc2 (v := 10) h dX4_pass_137 q2007 ?_
          refine g_aload_n (i := 0) h dX4_pass_140 rfl rfl ?_
          refine m_get h hM f_X4_48_4 rfl dX4_pass_141 ?_
          refine g_iload_n (i := 1) h dX4_pass_144 rfl rfl ?_
          refine m_iald (k := 20) (x := A 20 t) h hM rfl rfl (by show _ < 60; omega) (congrFun (sPass1_n A t u v (by decide) (by decide) (by decide) (by decide)) t) dX4_pass_145 ?_
          refine g_bipush (v := 6) h dX4_pass_146 (by decide) ?_
          refine g_icmp_ge (tgt := 157) h dX4_pass_148 (by decide) (fun b148 => ?_) (fun b148 => ?_)
          · refine g_lconst (v := 1) h dX4_pass_157 (by decide) ?_
            refine g_lmul h dX4_pass_158 ?_
            refine g_goto (tgt := 219) h dX4_pass_159 (by decide) ?_
            refine G.long (show _ = sWear A t by simp only [sWear, b103, b112, b128, b148, if_true, if_false, i1_0, i3_0]; try rfl) ?_
            exact G.to (s219 c hM) ⟨rfl, rfl, rfl, rfl, trivial⟩
          · refine g_ldc2 (v := 2) h dX4_pass_151 q2133 ?_
            refine g_goto (tgt := 158) h dX4_pass_154 (by decide) ?_
            refine g_lmul h dX4_pass_158 ?_
            refine g_goto (tgt := 219) h dX4_pass_159 (by decide) ?_
            refine G.long (show _ = sWear A t by simp only [sWear, b103, b112, b128, b148, if_true, if_false, i1_0, i3_0]; try rfl) ?_
            exact G.to (s219 c hM) ⟨rfl, rfl, rfl, rfl, trivial⟩
        · refine g_ldc2 (v := 4) h dX4_pass_131 q2132 ?_
          refine g_goto (tgt := 140) h dX4_pass_134 (by decide) ?_
          refine g_aload_n (i := 0) h dX4_pass_140 rfl rfl ?_
          refine m_get h hM f_X4_48_4 rfl dX4_pass_141 ?_
          refine g_iload_n (i := 1) h dX4_pass_144 rfl rfl ?_
          refine m_iald (k := 20) (x := A 20 t) h hM rfl rfl (by show _ < 60; omega) (congrFun (sPass1_n A t u v (by decide) (by decide) (by decide) (by decide)) t) dX4_pass_145 ?_
          refine g_bipush (v := 6) h dX4_pass_146 (by decide) ?_
          refine g_icmp_ge (tgt := 157) h dX4_pass_148 (by decide) (fun b148 => ?_) (fun b148 => ?_)
          · refine g_lconst (v := 1) h dX4_pass_157 (by decide) ?_
            refine g_lmul h dX4_pass_158 ?_
            refine g_goto (tgt := 219) h dX4_pass_159 (by decide) ?_
            refine G.long (show _ = sWear A t by simp only [sWear, b103, b112, b128, b148, if_true, if_false, i1_0, i3_0]; try rfl) ?_
            exact G.to (s219 c hM) ⟨rfl, rfl, rfl, rfl, trivial⟩
          · refine g_ldc2 (v := 2) h dX4_pass_151 q2133 ?_
            refine g_goto (tgt := 158) h dX4_pass_154 (by decide) ?_
            refine g_lmul h dX4_pass_158 ?_
            refine g_goto (tgt := 219) h dX4_pass_159 (by decide) ?_
            refine G.long (show _ = sWear A t by simp only [sWear, b103, b112, b128, b148, if_true, if_false, i1_0, i3_0]; try rfl) ?_
            exact G.to (s219 c hM) ⟨rfl, rfl, rfl, rfl, trivial⟩
      · refine g_ldc2 (v := 6) h dX4_pass_115 q2131 ?_
        refine g_goto (tgt := 140) h dX4_pass_118 (by decide) ?_
        refine g_aload_n (i := 0) h dX4_pass_140 rfl rfl ?_
        refine m_get h hM f_X4_48_4 rfl dX4_pass_141 ?_
        refine g_iload_n (i := 1) h dX4_pass_144 rfl rfl ?_
        refine m_iald (k := 20) (x := A 20 t) h hM rfl rfl (by show _ < 60; omega) (congrFun (sPass1_n A t u v (by decide) (by decide) (by decide) (by decide)) t) dX4_pass_145 ?_
        refine g_bipush (v := 6) h dX4_pass_146 (by decide) ?_
        refine g_icmp_ge (tgt := 157) h dX4_pass_148 (by decide) (fun b148 => ?_) (fun b148 => ?_)
        · refine g_lconst (v := 1) h dX4_pass_157 (by decide) ?_
          refine g_lmul h dX4_pass_158 ?_
          refine g_goto (tgt := 219) h dX4_pass_159 (by decide) ?_
          refine G.long (show _ = sWear A t by simp only [sWear, b103, b112, b148, if_true, if_false, i1_0, i3_0]; try rfl) ?_
          exact G.to (s219 c hM) ⟨rfl, rfl, rfl, rfl, trivial⟩
        · refine g_ldc2 (v := 2) h dX4_pass_151 q2133 ?_
          refine g_goto (tgt := 158) h dX4_pass_154 (by decide) ?_
          refine g_lmul h dX4_pass_158 ?_
          refine g_goto (tgt := 219) h dX4_pass_159 (by decide) ?_
          refine G.long (show _ = sWear A t by simp only [sWear, b103, b112, b148, if_true, if_false, i1_0, i3_0]; try rfl) ?_
          exact G.to (s219 c hM) ⟨rfl, rfl, rfl, rfl, trivial⟩
  refine g_istore_n (i := 3) h dX4_pass_43 rfl (by decide) ?_
  refine g_aload_n (i := 0) h dX4_pass_44 rfl rfl ?_
  refine g_aload_n (i := 0) h dX4_pass_45 rfl rfl ?_
  refine m_get (v := .int (A 35 0)) h hM f_X4_338_4 rfl dX4_pass_46 ?_
  refine m_puti h hM mp_37 fp_X4_83_4 dX4_pass_49 (fun c hM => ?_)
  refine g_aload_n (i := 0) h dX4_pass_52 rfl rfl ?_
  refine m_get h hM f_X4_57_4 rfl dX4_pass_53 ?_
  refine g_bipush (v := nI 8) h dX4_pass_56 (by decide) ?_
  refine g_iload_n (i := 1) h dX4_pass_58 rfl rfl ?_
  first | (with_reducible refine g_imulN h dX4_pass_59 ?_) | refine g_imul h dX4_pass_59 ?_
  refine g_iload_n (i := 2) h dX4_pass_60 rfl rfl ?_
  first | (with_reducible refine g_iaddN h dX4_pass_61 ?_) | refine g_iadd h dX4_pass_61 ?_
  refine g_aload_n (i := 0) h dX4_pass_62 rfl rfl ?_
  refine m_get (v := .int (A 32 0)) h hM f_X4_331_4 rfl dX4_pass_63 ?_
  refine m_iast (k := 23) h hM rfl rfl (by show _ < 480; omega) dX4_pass_66 (fun c hM => ?_)
  refine g_iload_n (i := 3) h dX4_pass_67 rfl rfl ?_
  refine g_if_le (tgt := 86) h dX4_pass_68 (by decide) (fun b68 => ?_) (fun b68 => ?_)
  · refine g_aload_n (i := 0) h dX4_pass_86 rfl rfl ?_
    refine m_get h hM f_X4_73_4 rfl dX4_pass_87 ?_
    refine g_iload_n (i := 2) h dX4_pass_90 rfl rfl ?_
    refine g_dup2 h dX4_pass_91 rfl rfl ?_
    refine m_iald (k := 30) (x := A 30 u) h hM rfl rfl (by show _ < 8; omega) rfl dX4_pass_92 ?_
    refine g_iconst (v := 1) h dX4_pass_93 (by decide) ?_
    first | (with_reducible refine g_iaddN h dX4_pass_94 ?_) | refine g_iadd h dX4_pass_94 ?_
    refine m_iast (k := 30) h hM rfl rfl (by show _ < 8; omega) dX4_pass_95 (fun c hM => ?_)
    refine G.to (s96 c ?_) ⟨rfl, rfl, rfl, rfl, trivial⟩
    simp only [sPass1, sPass0, b68, if_true, if_false]
    exact hM
  · refine g_aload_n (i := 0) h dX4_pass_71 rfl rfl ?_
    refine m_get h hM f_X4_60_4 rfl dX4_pass_72 ?_
    refine g_bipush (v := nI 8) h dX4_pass_75 (by decide) ?_
    refine g_iload_n (i := 1) h dX4_pass_77 rfl rfl ?_
    first | (with_reducible refine g_imulN h dX4_pass_78 ?_) | refine g_imul h dX4_pass_78 ?_
    refine g_iload_n (i := 2) h dX4_pass_79 rfl rfl ?_
    first | (with_reducible refine g_iaddN h dX4_pass_80 ?_) | refine g_iadd h dX4_pass_80 ?_
    refine g_aload_n (i := 0) h dX4_pass_81 rfl rfl ?_
    refine m_get (v := .int (A 32 0)) h hM f_X4_331_4 rfl dX4_pass_82 ?_
    refine m_iast (k := 24) h hM rfl rfl (by show _ < 480; omega) dX4_pass_85 (fun c hM => ?_)
    refine g_aload_n (i := 0) h dX4_pass_86 rfl rfl ?_
    refine m_get h hM f_X4_73_4 rfl dX4_pass_87 ?_
    refine g_iload_n (i := 2) h dX4_pass_90 rfl rfl ?_
    refine g_dup2 h dX4_pass_91 rfl rfl ?_
    refine m_iald (k := 30) (x := A 30 u) h hM rfl rfl (by show _ < 8; omega) rfl dX4_pass_92 ?_
    refine g_iconst (v := 1) h dX4_pass_93 (by decide) ?_
    first | (with_reducible refine g_iaddN h dX4_pass_94 ?_) | refine g_iadd h dX4_pass_94 ?_
    refine m_iast (k := 30) h hM rfl rfl (by show _ < 8; omega) dX4_pass_95 (fun c hM => ?_)
    refine G.to (s96 c ?_) ⟨rfl, rfl, rfl, rfl, trivial⟩
    simp only [sPass1, sPass0, b68, if_true, if_false]
    exact hM
theorem ct_pass {l : Launch} {g : gGP} (hk : gK l g) {c0 c : gLH} {mo : Nat} {ma : Nat → Nat} {cl ll : Nat} {A : Nat → Nat → Int32} {B : Nat → Nat → Int64} (hM : MW c0 mo ma cl ll A B c) (t u : Int32) {nl : Nat} {nt ng na : Nat} (hnt : A 25 0 = nI nt) (hnt60 : nt ≤ 60) (hng : A 31 0 = nI ng) (hg8 : ng ≤ 8) (hna : A 18 0 = nI na) (ha12 : na ≤ 12) (hact : ∀ a', a' < na → sActOk A cl a') (hnl : A 42 0 = nI nl) (hle : nl ≤ ll) (hl0 : 4 ≤ ll) (hl2 : nl < 400000) (hgt : ∀ j, j < ng → (A 29 j = nI (ix (A 29 j)) ∧ ix (A 29 j) < 12) ∧ (A 50 j < 0 ∨ (A 50 j = nI (ix (A 50 j)) ∧ ix (A 50 j) < 8))) : Ct l g yX4_pass hwX4_pass 4 160 [.ref mo, .int t, .int u] c ((if sIsPass A t u = true then sPassL A (ix u) nl ll (sPassV A (ix t) (ix u) ng na).1 else ll) - ll) (8 * ((if sIsPass A t u = true then sPassL A (ix u) nl ll (sPassV A (ix t) (ix u) ng na).1 else ll) - ll)) (pI (if sIsPass A t u = true then (sPassV A (ix t) (ix u) ng na).1 else 0) (fun c' => if sIsPass A t u = true then ∃ ma' P X Y, X 0 = (sPassV A (ix t) (ix u) ng na).2 ∧ MW c0 mo ma' cl (sPassL A (ix u) nl ll (sPassV A (ix t) (ix u) ng na).1) (sPassA (mT (mA A 0 0 0) P X Y) (ix t) (ix u) nl (sPassV A (ix t) (ix u) ng na).1) (sPassB (mT (mA A 0 0 0) P X Y) B (ix t) (ix u) (sPassV A (ix t) (ix u) ng na).1) c' else MW c0 mo ma cl ll (mA (mA A 0 0 0) 0 0 1) B c')) := by
  refine Ct.intro hk hcX4_pass (by decide +kernel) (Nat.le_of_ble_eq_true rfl) (fun φ h => ?_)
  refine g_aload_n (i := 0) h dX4_pass_0 rfl rfl ?_
  refine g_iconst (v := 0) h dX4_pass_1 (by decide) ?_
  refine m_puti h hM mp_0 fp_X4_146_4 dX4_pass_2 (fun c hM => ?_)
  refine g_aload_n (i := 0) h dX4_pass_5 rfl rfl ?_
  refine g_aload_n (i := 0) h dX4_pass_6 rfl rfl ?_
  refine g_iload_n (i := 1) h dX4_pass_7 rfl rfl ?_
  refine g_iload_n (i := 2) h dX4_pass_8 rfl rfl ?_
  refine g_invV h (ct_isPass h.k hM _ _) hcX4_isPass w_X4_351 rfl rfl hM.obj (Nat.le_of_ble_eq_true rfl) ⟨Nat.le_of_ble_eq_true rfl, Nat.le_of_ble_eq_true rfl⟩ (by refine ⟨?_, ?_⟩ <;> first | exact Nat.le_refl _ | exact Nat.zero_le _ | (dsimp only; omega)) dX4_pass_9 (gkr_ip ?_) gkt_ip
  refine g_if_ne (tgt := 19) h dX4_pass_12 (by decide) (fun b12 => ?_) (fun b12 => ?_)
  · rw [zB_n0] at b12
    refine g_iconst (v := 0) h dX4_pass_19 (by decide) ?_
    refine g_iconst (v := 1) h dX4_pass_20 (by decide) ?_
    refine g_invV h (ct_bad h.k hM false 1) hcX4_bad w_X4_308 rfl rfl hM.obj (Nat.le_of_ble_eq_true rfl) ⟨Nat.le_of_ble_eq_true rfl, Nat.le_of_ble_eq_true rfl⟩ (by refine ⟨?_, ?_⟩ <;> first | exact Nat.le_refl _ | exact Nat.zero_le _ | (dsimp only; omega)) dX4_pass_21 (gkr_i (fun c hM => ?_)) gkt_i
    replace hM := bad0 hM
    refine g_if_eq (tgt := 29) h dX4_pass_24 (by decide) (fun _bz => ?_) (fun _bz => absurd _bz (by decide))
    obtain ⟨ht, hu⟩ := sIsPass_t b12 hnt (by omega) hng (by omega)
    have b12' : sIsPass A t u = true := b12
    obtain ⟨hon, hls⟩ := hgt (ix u) hu.1
    refine g_aload_n (i := 0) h dX4_pass_29 rfl rfl ?_
    refine g_aload_n (i := 0) h dX4_pass_30 rfl rfl ?_
    refine g_aload_n (i := 0) h dX4_pass_31 rfl rfl ?_
    refine m_get (v := .int (A 32 0)) h hM f_X4_331_4 rfl dX4_pass_32 ?_
    refine g_invV h (ct_forceOf h.k hM _ hna ha12) hcX4_forceOf w_X4_315 rfl rfl hM.obj (Nat.le_of_ble_eq_true rfl) ⟨Nat.le_of_ble_eq_true rfl, Nat.le_of_ble_eq_true rfl⟩ (by refine ⟨?_, ?_⟩ <;> first | exact Nat.le_refl _ | exact Nat.zero_le _ | (dsimp only; omega)) dX4_pass_35 (gkr_ip ?_) gkt_ip
    refine g_iload_n (i := 1) h dX4_pass_38 rfl rfl ?_
    refine G.int ht.2 ?_
    refine g_iload_n (i := 2) h dX4_pass_39 rfl rfl ?_
    refine G.int hu.2 ?_
    refine g_invV h (ct_toll (a := sForce (A 9) (A 32 0) na) h.k hM (by omega) (by omega) hng hg8 (by intro a' e; exact hact _ (sForce_lt e))) hcX4_toll w_X4_354 rfl rfl hM.obj (Nat.le_of_ble_eq_true rfl) ⟨Nat.le_of_ble_eq_true rfl, Nat.le_of_ble_eq_true rfl⟩ ⟨by show 0 + 0 ≤ _; omega, by show 0 + 0 ≤ _; omega⟩ dX4_pass_40 (gkr_i (fun c hM => ?_)) gkt_i
    obtain ⟨P, X, Y, hM, hX⟩ := hM
    refine G.to (lv' := [(0, .ref mo), (1, .int (nI (ix t))), (2, .int (nI (ix u)))]) ?_ ⟨rfl, congrArg (fun x => some (Value.int x)) ht.2, congrArg (fun x => some (Value.int x)) hu.2, trivial⟩
    refine pass_rest (nl := nl) h hM (by omega) (by omega) hnl hle hl0 hl2 hon hls ?_ ?_ ?_
    · rw [if_pos b12']; exact Nat.le_refl _
    · rw [if_pos b12']; exact Nat.le_refl _
    · intro ma' c' hM'
      rw [if_pos b12']
      refine ⟨rfl, ?_⟩
      show ite _ _ _
      rw [if_pos b12']
      exact ⟨ma', P, X, Y, hX, hM'⟩
  · rw [zB_0] at b12
    refine g_iconst (v := 1) h dX4_pass_15 (by decide) ?_
    refine g_goto (tgt := 20) h dX4_pass_16 (by decide) ?_
    refine g_iconst (v := 1) h dX4_pass_20 (by decide) ?_
    refine g_invV h (ct_bad h.k hM true 1) hcX4_bad w_X4_308 rfl rfl hM.obj (Nat.le_of_ble_eq_true rfl) ⟨Nat.le_of_ble_eq_true rfl, Nat.le_of_ble_eq_true rfl⟩ (by refine ⟨?_, ?_⟩ <;> first | exact Nat.le_refl _ | exact Nat.zero_le _ | (dsimp only; omega)) dX4_pass_21 (gkr_i (fun c hM => ?_)) gkt_i
    replace hM := bad1 hM
    refine g_if_eq (tgt := 29) h dX4_pass_24 (by decide) (fun _bz => absurd _bz (by decide)) (fun _bz => ?_)
    refine g_iconst (v := 0) h dX4_pass_27 (by decide) ?_
    have hK : sIsPass A t u = false := b12
    exact g_iret h ⟨by rw [hK]; rfl, by show ite _ _ _; rw [hK]; exact hM⟩ (by omega) (by omega) dX4_pass_28
