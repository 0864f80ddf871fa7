/-! THE MODEL: words -/
set_option maxRecDepth 100000
/-- whether the text at p is W's letters from its place k on, n of them -/
def pEq (T : Nat → Int32) (p : Nat) (W : List Nat) : Nat → Nat → Bool
  | 0, _ => true
  | n + 1, k => if T (p + k) = nI (W.getD k 0) then pEq T p W n (k + 1) else false
/-- whether word W stands at p, as long as it stands -/
def pIsW (T : Nat → Int32) (p : Nat) (W : List Nat) : Bool := pEq T p W W.length 0 && !sSmall (T (p + W.length))
theorem gStr.mw {c0 c : gLH} {mo : Nat} {ma : Nat → Nat} {cl ll : Nat} {A : Nat → Nat → Int32} {B : Nat → Nat → Int64} {a : Nat} {W : List Nat} (h : gStr c0 a W) (hM : MW c0 mo ma cl ll A B c) : gStr c a W := by
  obtain ⟨r, v, r2, y, z, f, hc, hv, hlen, hf, o1, o2⟩ := h
  exact ⟨r, v, r2, y, z, f, hM.1.2.2.2.1 _ _ _ hc o1, hM.1.2.2.2.1 _ _ _ hv o2, hlen, hf, o1, o2⟩
theorem gStr.obj {c : gLH} {a : Nat} {W : List Nat} (h : gStr c a W) : ∃ (r : Nat) (fs : List Value), c a = some (r, .inr (36, fs)) := by
  obtain ⟨r, v, r2, y, z, f, hc, -⟩ := h
  exact ⟨r, _, hc⟩
theorem pEq_step {T : Nat → Int32} {p k : Nat} {W : List Nat} (hk : k < W.length) : pEq T p W (W.length - k) k = if T (p + k) = nI (W.getD k 0) then pEq T p W (W.length - (k + 1)) (k + 1) else false := by
  rw [show W.length - k = (W.length - (k + 1)) + 1 by omega]
  rfl
theorem pIsW_f {T : Nat → Int32} {p : Nat} {W : List Nat} (h : pEq T p W W.length 0 = false) : pIsW T p W = false := by unfold pIsW; rw [h]; rfl
theorem pIsW_b {T : Nat → Int32} {p : Nat} {W : List Nat} {b : Bool} (h : pEq T p W W.length 0 = true) (h2 : sSmall (T (p + W.length)) = b) : pIsW T p W = !b := by unfold pIsW; rw [h, h2]; rfl
/-- a word is eaten, if it stands next -/
def pEat (T : Nat → Int32) (sz : Nat) (s : pSt) (W : List Nat) : Bool × pSt :=
  if s.2.1 = 0 then (if pIsW T (pB T sz s.1) W = true then (true, (pB T sz s.1 + W.length, s.2)) else (false, (pB T sz s.1, s.2))) else (false, s)
theorem ct_isWord {l : Launch} {g : gGP} (hk : gK l g) {c0 c : gLH} {mo : Nat} {ma : Nat → Nat} {cl ll : Nat} {A : Nat → Nat → Int32} {B : Nat → Nat → Int64} {n sz : Nat} {p f : Nat} {r : Int32 × Nat × List (Int32 × Int32)} (hM : MW c0 mo ma cl ll (rA A n (p, f, r)) B c) (hsz : A 3 0 = nI sz) (hz : sz ≤ 2000) (hp : p ≤ sz) (hf : f < 4) {a : Nat} {W : List Nat} (hs : gSS g) (hS : gStr c0 a W) (hW : W.length ≤ 8) : Ct l g yX4_isWord hwX4_isWord 4 160 [.ref mo, .ref a] c (0) (0) (pI (zB (pIsW (pT A) (pB (pT A) sz p) W)) (MW c0 mo ma cl ll (rA A n ((pB (pT A) sz p), f, r)) B)) := by
  refine Ct.intro hk hcX4_isWord (by decide +kernel) (Nat.le_of_ble_eq_true rfl) (fun φ h => ?_)
  have hpb := pB_le (pT A) hp
  have loop : ∀ c : gLH, MW c0 mo ma cl ll (rA A n ((pB (pT A) sz p), f, r)) B c → ∀ k, k ≤ W.length → pEq (pT A) (pB (pT A) sz p) W (W.length - k) k = pEq (pT A) (pB (pT A) sz p) W W.length 0 → G φ (gQ φ (pI (zB (pIsW (pT A) (pB (pT A) sz p) W)) (MW c0 mo ma cl ll (rA A n ((pB (pT A) sz p), f, r)) B)) 0 0) 11 [(0, .ref mo), (1, .ref a), (2, .int (nI W.length)), (3, .int (nI k))] [] c 0 0 := by
    intro c hM
    refine gloop (P := fun k => pEq (pT A) (pB (pT A) sz p) W (W.length - k) k = pEq (pT A) (pB (pT A) sz p) W W.length 0 → G φ (gQ φ (pI (zB (pIsW (pT A) (pB (pT A) sz p) W)) (MW c0 mo ma cl ll (rA A n ((pB (pT A) sz p), f, r)) B)) 0 0) 11 [(0, .ref mo), (1, .ref a), (2, .int (nI W.length)), (3, .int (nI k))] [] c 0 0) ?_ ?_
    · intro hE
      rw [Nat.sub_self] at hE
      replace hE := hE.symm
      refine G.to (lv' := [(0, .ref mo), (1, .ref a), (2, .int (nI W.length)), (3, .int (nI W.length))]) ?_ ⟨rfl, rfl, rfl, rfl, trivial⟩
      refine g_iload_n (i := 3) h dX4_isWord_11 rfl rfl ?_
      refine g_iload_n (i := 2) h dX4_isWord_12 rfl rfl ?_
      refine g_icmp_ge (tgt := 42) h dX4_isWord_13 (by decide) (fun b13 => ?_) (fun _bz => absurd _bz (not_not_intro ((nI_leI (by omega) (by omega)).mpr (by omega))))
      refine g_aload_n (i := 0) h dX4_isWord_42 rfl rfl ?_
      refine g_aload_n (i := 0) h dX4_isWord_43 rfl rfl ?_
      refine m_get (v := .int (nI (pB (pT A) sz p))) h hM f_X4_155_4 rfl dX4_isWord_44 ?_
      refine g_iload_n (i := 2) h dX4_isWord_47 rfl rfl ?_
      first | (with_reducible refine g_iaddN h dX4_isWord_48 ?_) | refine g_iadd h dX4_isWord_48 ?_
      refine g_invV h (ct_byteAt h.k hM (nI ((pB (pT A) sz p) + W.length)) (nI_pos (by omega)) hsz hz) hcX4_byteAt w_X4_158 rfl rfl hM.obj (Nat.le_of_ble_eq_true rfl) ⟨Nat.le_of_ble_eq_true rfl, Nat.le_of_ble_eq_true rfl⟩ (by refine ⟨?_, ?_⟩ <;> first | exact Nat.le_refl _ | exact Nat.zero_le _ | (dsimp only; omega)) dX4_isWord_49 (gkr_ip ?_) gkt_ip
      refine g_invS h (ct_isSmall h.k _) hcX4_isSmall w_X4_178 rfl rfl (Nat.le_of_ble_eq_true rfl) ⟨Nat.le_of_ble_eq_true rfl, Nat.le_of_ble_eq_true rfl⟩ (by refine ⟨?_, ?_⟩ <;> first | exact Nat.le_refl _ | exact Nat.zero_le _ | (dsimp only; omega)) dX4_isWord_52 (gkr_ip ?_) gkt_ip
      refine g_if_ne (tgt := 62) h dX4_isWord_55 (by decide) (fun b55 => ?_) (fun b55 => ?_)
      · rw [zB_n0] at b55
        refine g_iconst (v := 0) h dX4_isWord_62 (by decide) ?_
        exact g_zret h ⟨by rw [pIsW_b (T := pT A) (p := (pB (pT A) sz p)) hE b55]; rfl, hM⟩ (Nat.le_refl _) (Nat.le_refl _) (by first | rfl | exact zB_nar _) dX4_isWord_63
      · rw [zB_0] at b55
        refine g_iconst (v := 1) h dX4_isWord_58 (by decide) ?_
        refine g_goto (tgt := 63) h dX4_isWord_59 (by decide) ?_
        exact g_zret h ⟨by rw [pIsW_b (T := pT A) (p := (pB (pT A) sz p)) hE b55]; rfl, hM⟩ (Nat.le_refl _) (Nat.le_refl _) (by first | rfl | exact zB_nar _) dX4_isWord_63
    · intro k hk1 ih hE
      refine g_iload_n (i := 3) h dX4_isWord_11 rfl rfl ?_
      refine g_iload_n (i := 2) h dX4_isWord_12 rfl rfl ?_
      refine g_icmp_ge (tgt := 42) h dX4_isWord_13 (by decide) (fun _bz => absurd _bz (fun q => absurd ((nI_leI (by omega) (by omega)).mp q) (by omega))) (fun b13 => ?_)
      refine g_aload_n (i := 0) h dX4_isWord_16 rfl rfl ?_
      refine g_aload_n (i := 0) h dX4_isWord_17 rfl rfl ?_
      refine m_get (v := .int (nI (pB (pT A) sz p))) h hM f_X4_155_4 rfl dX4_isWord_18 ?_
      refine g_iload_n (i := 3) h dX4_isWord_21 rfl rfl ?_
      first | (with_reducible refine g_iaddN h dX4_isWord_22 ?_) | refine g_iadd h dX4_isWord_22 ?_
      refine g_invV h (ct_byteAt h.k hM (nI ((pB (pT A) sz p) + k)) (nI_pos (by omega)) hsz hz) hcX4_byteAt w_X4_158 rfl rfl hM.obj (Nat.le_of_ble_eq_true rfl) ⟨Nat.le_of_ble_eq_true rfl, Nat.le_of_ble_eq_true rfl⟩ (by refine ⟨?_, ?_⟩ <;> first | exact Nat.le_refl _ | exact Nat.zero_le _ | (dsimp only; omega)) dX4_isWord_23 (gkr_ip ?_) gkt_ip
      refine g_aload_n (i := 1) h dX4_isWord_26 rfl rfl ?_
      refine g_iload_n (i := 3) h dX4_isWord_27 rfl rfl ?_
      refine g_invV h (ct_charAt h.k hs (hS.mw hM) hk1) hcJ9_charAt w_X4_174 rfl rfl (hS.mw hM).obj.choose_spec.choose_spec (Nat.le_of_ble_eq_true rfl) ⟨Nat.le_of_ble_eq_true rfl, Nat.le_of_ble_eq_true rfl⟩ (by refine ⟨?_, ?_⟩ <;> first | exact Nat.le_refl _ | exact Nat.zero_le _ | (dsimp only; omega)) dX4_isWord_28 (gkr_ip ?_) gkt_ip
      refine g_icmp_eq (tgt := 36) h dX4_isWord_31 (by decide) (fun b31 => ?_) (fun b31 => ?_)
      · first | (with_reducible refine g_iincN h dX4_isWord_36 rfl (by decide) ?_) | refine g_iinc1 h dX4_isWord_36 rfl (by decide) ?_
        refine g_goto (tgt := 11) h dX4_isWord_39 (by decide) ?_
        refine G.to (ih ?_) ⟨rfl, rfl, rfl, rfl, trivial⟩
        rw [← hE, pEq_step hk1, if_pos (show pT A ((pB (pT A) sz p) + k) = nI (W.getD k 0) from b31)]
      · refine g_iconst (v := 0) h dX4_isWord_34 (by decide) ?_
        exact g_zret h ⟨by rw [pIsW_f (by rw [← hE, pEq_step hk1, if_neg (show ¬ pT A ((pB (pT A) sz p) + k) = nI (W.getD k 0) from b31)])]; rfl, hM⟩ (Nat.le_refl _) (Nat.le_refl _) (by first | rfl | exact zB_nar _) dX4_isWord_35
  refine g_aload_n (i := 0) h dX4_isWord_0 rfl rfl ?_
  refine g_invV h (ct_blanks h.k hM hsz hz (by omega)) hcX4_blanks w_X4_165 rfl rfl hM.obj (Nat.le_of_ble_eq_true rfl) ⟨Nat.le_of_ble_eq_true rfl, Nat.le_of_ble_eq_true rfl⟩ (by refine ⟨?_, ?_⟩ <;> first | exact Nat.le_refl _ | exact Nat.zero_le _ | (dsimp only; omega)) dX4_isWord_1 (gkr_v (fun c hM => ?_)) gkt_v
  refine g_aload_n (i := 1) h dX4_isWord_4 rfl rfl ?_
  refine g_invV h (ct_length h.k hs (hS.mw hM)) hcJ9_length w_X4_168 rfl rfl (hS.mw hM).obj.choose_spec.choose_spec (Nat.le_of_ble_eq_true rfl) ⟨Nat.le_of_ble_eq_true rfl, Nat.le_of_ble_eq_true rfl⟩ (by refine ⟨?_, ?_⟩ <;> first | exact Nat.le_refl _ | exact Nat.zero_le _ | (dsimp only; omega)) dX4_isWord_5 (gkr_ip ?_) gkt_ip
  refine g_istore_n (i := 2) h dX4_isWord_8 rfl (by decide) ?_
  refine g_iconst (v := nI 0) h dX4_isWord_9 (by decide) ?_
  refine g_istore_n (i := 3) h dX4_isWord_10 rfl (by decide) ?_
  exact G.to (loop c hM 0 (Nat.zero_le _) rfl) ⟨rfl, rfl, rfl, rfl, trivial⟩
theorem ct_eat {l : Launch} {g : gGP} (hk : gK l g) {c0 c : gLH} {mo : Nat} {ma : Nat → Nat} {cl ll : Nat} {A : Nat → Nat → Int32} {B : Nat → Nat → Int64} {n sz : Nat} {p f : Nat} {r : Int32 × Nat × List (Int32 × Int32)} (hM : MW c0 mo ma cl ll (rA A n (p, f, r)) B c) (hsz : A 3 0 = nI sz) (hz : sz ≤ 2000) (hp : p ≤ sz) (hf : f < 4) {a : Nat} {W : List Nat} (hs : gSS g) (hS : gStr c0 a W) (hW : W.length ≤ 8) : Ct l g yX4_eat hwX4_eat 5 200 [.ref mo, .ref a] c (0) (0) (pI (zB (pEat (pT A) sz (p, f, r) W).1) (MW c0 mo ma cl ll (rA A n (pEat (pT A) sz (p, f, r) W).2) B)) := by
  refine Ct.intro hk hcX4_eat (by decide +kernel) (Nat.le_of_ble_eq_true rfl) (fun φ h => ?_)
  by_cases hf0 : f = 0
  case neg =>
    refine g_aload_n (i := 0) h dX4_eat_0 rfl rfl ?_
    refine m_get (v := .int (nI f)) h hM f_X4_162_4 rfl dX4_eat_1 ?_
    refine g_if_ne (tgt := 19) h dX4_eat_4 (by decide) (fun b4 => ?_) (fun _bz => absurd _bz (fun q => hf0 ((nI_z hf).mp q)))
    refine g_iconst (v := 0) h dX4_eat_19 (by decide) ?_
    refine g_istore_n (i := 2) h dX4_eat_20 rfl (by decide) ?_
    refine g_iload_n (i := 2) h dX4_eat_21 rfl rfl ?_
    refine g_if_eq (tgt := 38) h dX4_eat_22 (by decide) (fun _bz => ?_) (fun _bz => absurd _bz (by decide))
    refine g_iload_n (i := 2) h dX4_eat_38 rfl rfl ?_
    exact g_zret h ⟨by unfold pEat; rw [if_neg (show ¬ (p, f, r).2.1 = 0 from hf0)]; rfl, by unfold pEat; rw [if_neg (show ¬ (p, f, r).2.1 = 0 from hf0)]; exact hM⟩ (Nat.le_refl _) (Nat.le_refl _) (by first | rfl | exact zB_nar _) dX4_eat_39
  subst hf0
  have hpb := pB_le (pT A) hp
  refine g_aload_n (i := 0) h dX4_eat_0 rfl rfl ?_
  refine m_get (v := .int (nI 0)) h hM f_X4_162_4 rfl dX4_eat_1 ?_
  refine g_if_ne (tgt := 19) h dX4_eat_4 (by decide) (fun _bz => absurd _bz (by decide)) (fun b4 => ?_)
  refine g_aload_n (i := 0) h dX4_eat_7 rfl rfl ?_
  refine g_aload_n (i := 1) h dX4_eat_8 rfl rfl ?_
  refine g_invV h (ct_isWord h.k hM hsz hz hp hf hs hS hW) hcX4_isWord w_X4_182 rfl rfl hM.obj (Nat.le_of_ble_eq_true rfl) ⟨Nat.le_of_ble_eq_true rfl, Nat.le_of_ble_eq_true rfl⟩ (by refine ⟨?_, ?_⟩ <;> first | exact Nat.le_refl _ | exact Nat.zero_le _ | (dsimp only; omega)) dX4_eat_9 (gkr_i (fun c hM => ?_)) gkt_i
  refine g_if_eq (tgt := 19) h dX4_eat_12 (by decide) (fun b12 => ?_) (fun b12 => ?_)
  · rw [zB_0] at b12
    refine g_iconst (v := 0) h dX4_eat_19 (by decide) ?_
    refine g_istore_n (i := 2) h dX4_eat_20 rfl (by decide) ?_
    refine g_iload_n (i := 2) h dX4_eat_21 rfl rfl ?_
    refine g_if_eq (tgt := 38) h dX4_eat_22 (by decide) (fun _bz => ?_) (fun _bz => absurd _bz (by decide))
    refine g_iload_n (i := 2) h dX4_eat_38 rfl rfl ?_
    exact g_zret h ⟨by unfold pEat; rw [if_pos rfl]; first | (rw [if_pos b12]; rfl) | (rw [if_neg (by rw [b12]; decide)]; rfl), by unfold pEat; rw [if_pos rfl]; first | (rw [if_pos b12]; exact hM) | (rw [if_neg (by rw [b12]; decide)]; exact hM)⟩ (Nat.le_refl _) (Nat.le_refl _) (by first | rfl | exact zB_nar _) dX4_eat_39
  · rw [zB_n0] at b12
    refine g_iconst (v := 1) h dX4_eat_15 (by decide) ?_
    refine g_goto (tgt := 20) h dX4_eat_16 (by decide) ?_
    refine g_istore_n (i := 2) h dX4_eat_20 rfl (by decide) ?_
    refine g_iload_n (i := 2) h dX4_eat_21 rfl rfl ?_
    refine g_if_eq (tgt := 38) h dX4_eat_22 (by decide) (fun _bz => absurd _bz (by decide)) (fun _bz => ?_)
    refine g_aload_n (i := 0) h dX4_eat_25 rfl rfl ?_
    refine g_dup h dX4_eat_26 rfl ?_
    refine m_get (v := .int (nI (pB (pT A) sz p))) h hM f_X4_155_4 rfl dX4_eat_27 ?_
    refine g_aload_n (i := 1) h dX4_eat_30 rfl rfl ?_
    refine g_invV h (ct_length h.k hs (hS.mw hM)) hcJ9_length w_X4_168 rfl rfl (hS.mw hM).obj.choose_spec.choose_spec (Nat.le_of_ble_eq_true rfl) ⟨Nat.le_of_ble_eq_true rfl, Nat.le_of_ble_eq_true rfl⟩ (by refine ⟨?_, ?_⟩ <;> first | exact Nat.le_refl _ | exact Nat.zero_le _ | (dsimp only; omega)) dX4_eat_31 (gkr_ip ?_) gkt_ip
    first | (with_reducible refine g_iaddN h dX4_eat_34 ?_) | refine g_iadd h dX4_eat_34 ?_
    refine m_puti h hM mp_4 fp_X4_155_4 dX4_eat_35 (fun c hM => ?_)
    rw [rA_4] at hM
    refine g_iload_n (i := 2) h dX4_eat_38 rfl rfl ?_
    exact g_zret h ⟨by unfold pEat; rw [if_pos rfl]; first | (rw [if_pos b12]; rfl) | (rw [if_neg (by rw [b12]; decide)]; rfl), by unfold pEat; rw [if_pos rfl]; first | (rw [if_pos b12]; exact hM) | (rw [if_neg (by rw [b12]; decide)]; exact hM)⟩ (Nat.le_refl _) (Nat.le_refl _) (by first | rfl | exact zB_nar _) dX4_eat_39
